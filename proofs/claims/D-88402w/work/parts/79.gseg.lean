/-! ===== what fits is made of whole items ===== -/
set_option maxRecDepth 100000
/-- items a .. b: m roots c 0 .. -/
def SGM (S : MSt) (a b : Int) (m : Nat) (c : Nat → Int) : Prop :=
  c 0 = a ∧ c m = b ∧ m ≤ 500 ∧ (∀ k, k < m → 0 ≤ c k ∧ c k < S.1 40 ∧ c (k + 1) = c k + S.2 46 (c k)) ∧ rts (S.2 46) 501 a b = (List.range m).map c
theorem SGM.le {S : MSt} {a b : Int} {m : Nat} {c : Nat → Int} (hT : MT S) (h : SGM S a b m c) : ∀ k, k ≤ m → a + k ≤ c k := by
  intro k
  induction k with
  | zero => intro _; rw [h.1]; omega
  | succ k ih =>
    intro hk
    have h1 := ih (by omega)
    have h2 := h.2.2.2.1 k (by omega)
    have h3 := hT.1.r h2.1 h2.2.1
    omega
theorem SGM.up {S : MSt} {a b : Int} {m : Nat} {c : Nat → Int} (hT : MT S) (h : SGM S a b m c) : ∀ (j k : Nat), j + k ≤ m → c j + k ≤ c (j + k) := by
  intro j k
  induction k with
  | zero => intro _; show c j + 0 ≤ c j; omega
  | succ k ih =>
    intro hk
    have h1 := ih (by omega)
    have h2 := h.2.2.2.1 (j + k) (by omega)
    have h3 := hT.1.r h2.1 h2.2.1
    rw [show j + (k + 1) = j + k + 1 by omega, h2.2.2]
    omega
theorem spFs_seg {S : MSt} (hT : MT S) {b E : Int} (hP : ∀ p, b ≤ p → p < E → PN S E p) : ∀ (N : Nat) (P : Int) (j : Nat), b ≤ P → P < E → S.2 34 P = 2 → (j : Int) ≤ S.2 38 P → P + S.2 37 P - chh (S.2 37) P j < N → ∀ (f : Nat) (L : Int) (k : Nat), P + S.2 37 P - chh (S.2 37) P j < f → 0 ≤ L → L < S.1 40 → 2 ≤ S.2 41 L → (k : Int) ≤ S.2 47 L → spX S f (chh (S.2 37) P j) (P + S.2 37 P) (chh (S.2 46) L k) (L + S.2 46 L) = true →
    ∀ tr ∈ spFs S f (chh (S.2 37) P j) (P + S.2 37 P) (chh (S.2 46) L k) (L + S.2 46 L), ∃ m c, SGM S tr.2.1 tr.2.2 m c := by
  intro N
  induction N with
  | zero =>
    intro P j h0 hE hk hj hN
    have := PNch hP h0 hE hk j hj
    omega
  | succ N ih =>
    intro P j h0 hE hk hj hN f L k hf l0 ln lw lk hx
    have hc := PNch hP h0 hE hk j hj
    have hcl := (hP P h0 hE).2.2.2.2.1 hk
    have hcn := (hP P h0 hE).2.2.1
    have hlp := hT.1.p l0 ln
    have hnn := hT.n
    cases f with
    | zero => omega
    | succ f =>
      by_cases hz : (j : Int) = S.2 38 P
      · have he : chh (S.2 37) P j = P + S.2 37 P := by rw [← hcl.1, show (S.2 38 P).toNat = j by omega]
        have e1 : spFs S (f + 1) (chh (S.2 37) P j) (P + S.2 37 P) (chh (S.2 46) L k) (L + S.2 46 L) = [] := by unfold spFs; rw [if_pos he]
        rw [e1]
        exact fun tr h => (by cases h)
      · have kd := PN.kid hP h0 hE hk (j := j) (by omega)
        have hne : ¬ chh (S.2 37) P j = P + S.2 37 P := by omega
        have hpc := hP (chh (S.2 37) P j) (by omega) (by omega)
        by_cases h7 : S.2 34 (chh (S.2 37) P j) = 7
        · have e1 : spFs S (f + 1) (chh (S.2 37) P j) (P + S.2 37 P) (chh (S.2 46) L k) (L + S.2 46 L) = [(chh (S.2 37) P j, chh (S.2 46) L k, L + S.2 46 L)] := by unfold spFs; rw [if_neg hne, if_pos h7]
          rw [e1]
          intro tr h
          simp only [List.mem_singleton] at h
          subst h
          refine ⟨(S.2 47 L - k).toNat, fun z => chh (S.2 46) L (k + z), rfl, ?_, by omega, fun z hz => ?_, rts_part hT.1 l0 ln lw (S.2 47 L - k).toNat k lk (by omega) 501 (by omega)⟩
          · show chh (S.2 46) L (k + (S.2 47 L - k).toNat) = L + S.2 46 L
            rw [← (hT.1.lst l0 ln lw).1]
            congr 1
            omega
          · have := hT.1.kid l0 ln lw (j := k + z) (by omega)
            exact ⟨by show 0 ≤ chh _ _ _; omega, by show chh _ _ _ < _; omega, rfl⟩
        · have e1 : spFs S (f + 1) (chh (S.2 37) P j) (P + S.2 37 P) (chh (S.2 46) L k) (L + S.2 46 L) = (if S.2 34 (chh (S.2 37) P j) = 6 then [(chh (S.2 37) P j, chh (S.2 46) L k, chh (S.2 46) L k + S.2 46 (chh (S.2 46) L k))] else if S.2 34 (chh (S.2 37) P j) = 2 then spFs S f (chh (S.2 37) P j + 1) (chh (S.2 37) P j + S.2 37 (chh (S.2 37) P j)) (chh (S.2 46) L k + 1) (chh (S.2 46) L k + S.2 46 (chh (S.2 46) L k)) else []) ++ spFs S f (chh (S.2 37) P j + S.2 37 (chh (S.2 37) P j)) (P + S.2 37 P) (chh (S.2 46) L k + S.2 46 (chh (S.2 46) L k)) (L + S.2 46 L) := by
            show (if chh (S.2 37) P j = P + S.2 37 P then [] else if S.2 34 (chh (S.2 37) P j) = 7 then _ else _) = _
            rw [if_neg hne, if_neg h7]
          have hx1 : (decide (chh (S.2 46) L k < L + S.2 46 L) && spN S (chh (S.2 37) P j) (chh (S.2 46) L k) && (if S.2 34 (chh (S.2 37) P j) = 2 then spX S f (chh (S.2 37) P j + 1) (chh (S.2 37) P j + S.2 37 (chh (S.2 37) P j)) (chh (S.2 46) L k + 1) (chh (S.2 46) L k + S.2 46 (chh (S.2 46) L k)) else true) && spX S f (chh (S.2 37) P j + S.2 37 (chh (S.2 37) P j)) (P + S.2 37 P) (chh (S.2 46) L k + S.2 46 (chh (S.2 46) L k)) (L + S.2 46 L)) = true := by
            have h9 := hx
            unfold spX at h9
            rw [if_neg hne, if_neg h7] at h9
            exact h9
          simp only [Bool.and_eq_true, decide_eq_true_eq] at hx1
          obtain ⟨⟨⟨x1, x2⟩, x3⟩, x4⟩ := hx1
          have hkl : (k : Int) < S.2 47 L := by
            by_cases e : (k : Int) = S.2 47 L
            · have : chh (S.2 46) L k = L + S.2 46 L := by rw [← (hT.1.lst l0 ln lw).1, show (S.2 47 L).toNat = k by omega]
              omega
            · omega
          have kl := hT.1.kid l0 ln lw hkl
          have i1 := ih P (j + 1) h0 hE hk (by omega) (by omega) f L (k + 1) (by omega) l0 ln lw (by omega)
          rw [kd.2.2.2.2.1, show chh (S.2 46) L (k + 1) = chh (S.2 46) L k + S.2 46 (chh (S.2 46) L k) from rfl] at i1
          have i1 := i1 x4
          rw [e1]
          intro tr h
          rcases List.mem_append.mp h with h | h
          · by_cases h6 : S.2 34 (chh (S.2 37) P j) = 6
            · rw [if_pos h6] at h
              simp only [List.mem_singleton] at h
              subst h
              refine ⟨1, fun z => if z = 0 then chh (S.2 46) L k else chh (S.2 46) L k + S.2 46 (chh (S.2 46) L k), rfl, rfl, by omega, fun z hz => ?_, ?_⟩
              · rw [show z = 0 by omega]
                exact ⟨by show 0 ≤ chh _ _ _; omega, by show chh _ _ _ < _; omega, rfl⟩
              · show rts (S.2 46) (499 + 2) (chh (S.2 46) L k) (chh (S.2 46) L k + S.2 46 (chh (S.2 46) L k)) = [chh (S.2 46) L k]
                exact rts_one kl.2.2.1 499
            · rw [if_neg h6] at h
              by_cases h2 : S.2 34 (chh (S.2 37) P j) = 2
              · rw [if_pos h2] at h x3
                have hls : 2 ≤ S.2 41 (chh (S.2 46) L k) := by
                  have z := x2
                  unfold spN at z
                  rw [if_neg (by omega), if_neg (by omega), if_neg (by omega)] at z
                  exact of_decide_eq_true z
                have hpk := hT.1.p (i := chh (S.2 46) L k) (by omega) (by omega)
                have i2 := ih (chh (S.2 37) P j) 0 (by omega) (by omega) h2 (by have := hpc.2.2.1; omega) (by show _ - (chh (S.2 37) P j + 1) < _; omega) f (chh (S.2 46) L k) 0 (by show _ - (chh (S.2 37) P j + 1) < _; omega) (by omega) (by omega) hls (by omega)
                exact i2 x3 tr h
              · rw [if_neg h2] at h
                cases h
          · exact i1 tr h
/-- the fits of a rule's names: whole items -/
theorem fit_seg {S : MSt} {r : Nat} {i : Int} (hT : MT S) (hPR : PR S r) (h0 : 0 ≤ i) (hn : i < S.1 40) (hw : 3 ≤ S.2 41 i) (hf : spFit S r i = true) : ∀ tr ∈ spTs S r i, ∃ m c, SGM S tr.2.1 tr.2.2 m c := by
  have hP := hPR.2.2.2.2.2.2.2.1
  have h1 := hPR.2.2.1
  have h2 := hPR.2.2.2.1
  have h3 := hPR.2.2.2.2.1
  have hb := hPR.1
  have hna := hT.1.named h0 hn hw
  have hkd := hT.1.kid h0 hn (by omega) (j := 0) (by omega)
  have ec0 : chh (S.2 46) i 0 = i + 1 := rfl
  have hlf := hT.1.leaf (i := i + 1) (by omega) (by omega) (by omega)
  have ec1 : chh (S.2 46) i 1 = i + 2 := by show i + 1 + S.2 46 (i + 1) = i + 2; omega
  have hcn := (hP (S.2 32 r) (Int.le_refl _) (by omega)).2.2.1
  have hx := hf
  rw [spFit_s hPR, ← ec1] at hx
  have hp1 := (hP (S.2 32 r) (Int.le_refl _) (by omega)).2.1
  refine spFs_seg (b := S.2 32 r) (E := S.2 33 r) hT hP 601 (S.2 32 r) 0 (Int.le_refl _) (by omega) hPR.2.1 (by omega) (by show S.2 32 (r : Int) + S.2 37 (S.2 32 (r : Int)) - (S.2 32 (r : Int) + 1) < _; omega) (S.2 37 (S.2 32 (r : Int))).toNat i 1 (by show S.2 32 (r : Int) + S.2 37 (S.2 32 (r : Int)) - (S.2 32 (r : Int) + 1) < _; omega) h0 hn (by omega) (by omega) hx
