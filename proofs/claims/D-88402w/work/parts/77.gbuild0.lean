/-! ===== the fits of a rule and the Model's: pure part ===== -/
set_option maxRecDepth 100000
theorem spAt_s (S : MSt) (f : Nat) (p pe t te q : Int) : spAt S (f + 1) p pe t te q = if q < p + S.2 37 p then (if q = p then (t, if S.2 34 p = 7 then te else t + S.2 46 t) else spAt S f (p + 1) (p + S.2 37 p) (t + 1) (t + S.2 46 t) q) else spAt S f (p + S.2 37 p) pe (t + S.2 46 t) te q := rfl
theorem spFs_all {S : MSt} {b E : Int} (hP : ∀ p, b ≤ p → p < E → PN S E p) : ∀ (N : Nat) (P : Int) (j : Nat), b ≤ P → P < E → S.2 34 P = 2 → (j : Int) ≤ S.2 38 P → P + S.2 37 P - chh (S.2 37) P j < N → ∀ (f : Nat) (t te : Int), P + S.2 37 P - chh (S.2 37) P j < f →
    (∀ tr ∈ spFs S f (chh (S.2 37) P j) (P + S.2 37 P) t te, chh (S.2 37) P j ≤ tr.1 ∧ tr.1 < P + S.2 37 P ∧ (S.2 34 tr.1 = 6 ∨ S.2 34 tr.1 = 7) ∧ spAt S f (chh (S.2 37) P j) (P + S.2 37 P) t te tr.1 = tr.2) ∧
    (spFs S f (chh (S.2 37) P j) (P + S.2 37 P) t te).Pairwise (fun x y => x.1 < y.1) ∧
    ∀ q, chh (S.2 37) P j ≤ q → q < P + S.2 37 P → (S.2 34 q = 6 ∨ S.2 34 q = 7) → ∃ tr ∈ spFs S f (chh (S.2 37) P j) (P + S.2 37 P) t te, tr.1 = q := by
  intro N
  induction N with
  | zero =>
    intro P j h0 hE hk hj hN
    have := PNch hP h0 hE hk j hj
    omega
  | succ N ih =>
    intro P j h0 hE hk hj hN f t te hf
    have hc := PNch hP h0 hE hk j hj
    have hcl := (hP P h0 hE).2.2.2.2.1 hk
    have hcn := (hP P h0 hE).2.2.1
    cases f with
    | zero => omega
    | succ f =>
      by_cases hz : (j : Int) = S.2 38 P
      · have he : chh (S.2 37) P j = P + S.2 37 P := by rw [← hcl.1, show (S.2 38 P).toNat = j by omega]
        have e1 : spFs S (f + 1) (chh (S.2 37) P j) (P + S.2 37 P) t te = [] := by unfold spFs; rw [if_pos he]
        rw [e1]
        exact ⟨fun tr h => (by cases h), List.Pairwise.nil, fun q a b => (by omega)⟩
      · have kd := PN.kid hP h0 hE hk (j := j) (by omega)
        have hne : ¬ chh (S.2 37) P j = P + S.2 37 P := by omega
        have i1 := ih P (j + 1) h0 hE hk (by omega) (by omega) f (t + S.2 46 t) te (by omega)
        rw [kd.2.2.2.2.1] at i1
        obtain ⟨c, hcc⟩ : ∃ c, c = chh (S.2 37) P j := ⟨_, rfl⟩
        have hpc := hP c (by omega) (by omega)
        have hend := (hcl.2 j (by omega)).2.2
        rw [← hcc] at kd hne i1 hend ⊢
        by_cases h7 : S.2 34 c = 7
        · have e1 : spFs S (f + 1) c (P + S.2 37 P) t te = [(c, t, te)] := by unfold spFs; rw [if_neg hne, if_pos h7]
          have hsp := (hpc.2.2.2.1 (by omega)).1
          have hlast : c + S.2 37 c = P + S.2 37 P := by
            have h9 := hend h7
            have : chh (S.2 37) P (S.2 38 P).toNat = chh (S.2 37) P (j + 1) := by rw [show (S.2 38 P).toNat = j + 1 by omega]
            rw [hcl.1, kd.2.2.2.2.1] at this
            omega
          rw [e1]
          refine ⟨fun tr h => ?_, List.pairwise_singleton _ _, fun q a b _ => ⟨(c, t, te), by simp, by show c = q; omega⟩⟩
          simp only [List.mem_singleton] at h
          subst h
          refine ⟨Int.le_refl _, by show c < _; omega, Or.inr h7, ?_⟩
          show spAt S (f + 1) c (P + S.2 37 P) t te c = (t, te)
          rw [spAt_s, if_pos (by omega), if_pos rfl, if_pos h7]
        · have e1 : spFs S (f + 1) c (P + S.2 37 P) t te = (if S.2 34 c = 6 then [(c, t, t + S.2 46 t)] else if S.2 34 c = 2 then spFs S f (c + 1) (c + S.2 37 c) (t + 1) (t + S.2 46 t) else []) ++ spFs S f (c + S.2 37 c) (P + S.2 37 P) (t + S.2 46 t) te := by
            show (if c = P + S.2 37 P then [] else if S.2 34 c = 7 then [(c, t, te)] else _) = _
            rw [if_neg hne, if_neg h7]
          rw [e1]
          obtain ⟨a1, a2, a3⟩ := i1
          have hleft : (∀ tr ∈ (if S.2 34 c = 6 then [(c, t, t + S.2 46 t)] else if S.2 34 c = 2 then spFs S f (c + 1) (c + S.2 37 c) (t + 1) (t + S.2 46 t) else []), c ≤ tr.1 ∧ tr.1 < c + S.2 37 c ∧ (S.2 34 tr.1 = 6 ∨ S.2 34 tr.1 = 7) ∧ spAt S (f + 1) c (P + S.2 37 P) t te tr.1 = tr.2) ∧ (if S.2 34 c = 6 then [(c, t, t + S.2 46 t)] else if S.2 34 c = 2 then spFs S f (c + 1) (c + S.2 37 c) (t + 1) (t + S.2 46 t) else []).Pairwise (fun x y => x.1 < y.1) ∧ ∀ q, c ≤ q → q < c + S.2 37 c → (S.2 34 q = 6 ∨ S.2 34 q = 7) → ∃ tr ∈ (if S.2 34 c = 6 then [(c, t, t + S.2 46 t)] else if S.2 34 c = 2 then spFs S f (c + 1) (c + S.2 37 c) (t + 1) (t + S.2 46 t) else []), tr.1 = q := by
            by_cases h6 : S.2 34 c = 6
            · have hsp := (hpc.2.2.2.1 (by omega)).1
              rw [if_pos h6]
              refine ⟨fun tr h => ?_, List.pairwise_singleton _ _, fun q a b _ => ⟨(c, t, t + S.2 46 t), by simp, by show c = q; omega⟩⟩
              simp only [List.mem_singleton] at h
              subst h
              refine ⟨Int.le_refl _, by show c < _; omega, Or.inl h6, ?_⟩
              show spAt S (f + 1) c (P + S.2 37 P) t te c = (t, t + S.2 46 t)
              rw [spAt_s, if_pos (by omega), if_pos rfl, if_neg h7]
            · rw [if_neg h6]
              by_cases h2 : S.2 34 c = 2
              · rw [if_pos h2]
                have e0 : chh (S.2 37) c 0 = c + 1 := rfl
                have i2 := ih c 0 (by omega) (by omega) h2 (by have := hpc.2.2.1; omega) (by rw [e0]; omega) f (t + 1) (t + S.2 46 t) (by rw [e0]; omega)
                rw [e0] at i2
                obtain ⟨b1, b2, b3⟩ := i2
                refine ⟨fun tr h => ?_, b2, fun q a b d => ?_⟩
                · obtain ⟨d1, d2, d3, d4⟩ := b1 tr h
                  refine ⟨by omega, d2, d3, ?_⟩
                  rw [spAt_s, if_pos d2, if_neg (by omega)]
                  exact d4
                · by_cases hqc : q = c
                  · rw [hqc] at d; omega
                  · exact b3 q (by omega) b d
              · rw [if_neg h2]
                have hsp := (hpc.2.2.2.1 h2).1
                refine ⟨fun tr h => (by cases h), List.Pairwise.nil, fun q a b d => ?_⟩
                rw [show q = c by omega] at d
                omega
          obtain ⟨l1, l2, l3⟩ := hleft
          refine ⟨fun tr h => ?_, ?_, fun q a b d => ?_⟩
          · rcases List.mem_append.mp h with h | h
            · obtain ⟨d1, d2, d3, d4⟩ := l1 tr h
              exact ⟨d1, by omega, d3, d4⟩
            · obtain ⟨d1, d2, d3, d4⟩ := a1 tr h
              refine ⟨by omega, d2, d3, ?_⟩
              rw [spAt_s, if_neg (by omega)]
              exact d4
          · refine List.pairwise_append.mpr ⟨l2, a2, fun x hx y hy => ?_⟩
            have d1 := l1 x hx
            have d2 := a1 y hy
            omega
          · rcases Int.lt_or_le q (c + S.2 37 c) with z | z
            · obtain ⟨tr, m1, m2⟩ := l3 q a z d
              exact ⟨tr, List.mem_append.mpr (Or.inl m1), m2⟩
            · obtain ⟨tr, m1, m2⟩ := a3 q z b d
              exact ⟨tr, List.mem_append.mpr (Or.inr m1), m2⟩
/-- the fits of a rule, in order: each name of its patterns, from, to -/
theorem spTs_all {S : MSt} {r : Nat} {i : Int} (hT : MT S) (hPR : PR S r) (h0 : 0 ≤ i) (hn : i < S.1 40) (hw : 3 ≤ S.2 41 i) :
    (∀ tr ∈ spTs S r i, S.2 32 r < tr.1 ∧ tr.1 < S.2 33 r ∧ (S.2 34 tr.1 = 6 ∨ S.2 34 tr.1 = 7) ∧ tr.2 = (spFrom S r i tr.1, spTo S r i tr.1)) ∧ (spTs S r i).Pairwise (fun x y => x.1 < y.1) ∧ ∀ q, S.2 32 r < q → q < S.2 33 r → (S.2 34 q = 6 ∨ S.2 34 q = 7) → ∃ tr ∈ spTs S r i, tr.1 = q := by
  have hP := hPR.2.2.2.2.2.2.2.1
  have h1 := hPR.2.2.1
  have h2 := hPR.2.2.2.1
  have h3 := hPR.2.2.2.2.1
  have hb := hPR.1
  have hna := hT.1.named h0 hn hw
  have hkd := hT.1.kid h0 hn (by omega) (j := 0) (by omega)
  have ec0 : chh (S.2 46) i 0 = i + 1 := rfl
  have hlf := hT.1.leaf (i := i + 1) (by omega) (by omega) (by omega)
  have ec1 : chh (S.2 46) i 1 = i + 2 := by show i + 1 + S.2 46 (i + 1) = i + 2; omega
  have hcn := (hP (S.2 32 r) (Int.le_refl _) (by omega)).2.2.1
  have hall := spFs_all (b := S.2 32 r) (E := S.2 33 r) hP 601 (S.2 32 r) 0 (Int.le_refl _) (by omega) hPR.2.1 (by omega) (by show S.2 32 (r : Int) + S.2 37 (S.2 32 (r : Int)) - (S.2 32 (r : Int) + 1) < _; omega) 601 (i + 2) (i + S.2 46 i) (by show S.2 32 (r : Int) + S.2 37 (S.2 32 (r : Int)) - (S.2 32 (r : Int) + 1) < _; omega)
  rw [spFss_of (b := S.2 32 r) (E := S.2 33 r) hP (Int.le_refl _) (by omega) hPR.2.1 (j := 0) (by omega) (f := 601) (by omega)] at hall
  have e0 : chh (S.2 37) (S.2 32 r) 0 = S.2 32 r + 1 := rfl
  rw [e0, h1] at hall
  unfold spTs
  rw [ec1]
  obtain ⟨a1, a2, a3⟩ := hall
  refine ⟨fun tr h => ?_, a2, fun q x y z => a3 q (by omega) y z⟩
  obtain ⟨d1, d2, d3, d4⟩ := a1 tr h
  exact ⟨by omega, d2, d3, d4.symm⟩
theorem spVarF_is (S : MSt) (v : Int) : ∀ (f : Nat) (p q : Int), p ≤ q → q < p + f → (S.2 34 q = 6 ∨ S.2 34 q = 7) → S.2 35 q = v → (∀ x, p ≤ x → x < q → (S.2 34 x = 6 ∨ S.2 34 x = 7) → S.2 35 x ≠ v) → spVarF S v f p = q := by
  intro f
  induction f with
  | zero => intro p q h1 h2; omega
  | succ f ih =>
    intro p q h1 h2 h3 h4 h5
    unfold spVarF
    by_cases e : p = q
    · subst e; rw [if_pos ⟨h3, h4⟩]
    · rw [if_neg (fun z => h5 p (Int.le_refl _) (by omega) z.1 z.2)]
      exact ih (p + 1) q (by omega) (by omega) h3 h4 (fun x a b => h5 x (by omega) b)
theorem spVarF_no (S : MSt) (v : Int) : ∀ (f : Nat) (p : Int), (∀ x, p ≤ x → x < p + f → (S.2 34 x = 6 ∨ S.2 34 x = 7) → S.2 35 x ≠ v) → spVarF S v f p = -9 := by
  intro f
  induction f with
  | zero => intro p _; rfl
  | succ f ih =>
    intro p h
    unfold spVarF
    rw [if_neg (fun z => h p (Int.le_refl _) (by omega) z.1 z.2)]
    exact ih (p + 1) (fun x a b => h x (by omega) (by omega))
/-- the first fit of a name is the Model's -/
theorem OFQ_var {S : MSt} {r : Nat} {i v : Int} {ys : List Nat} {o : Option Nat} (hT : MT S) (hPR : PR S r) (h0 : 0 ≤ i) (hn : i < S.1 40) (hw : 3 ≤ S.2 41 i) (hO : OFQ S v ys (spTs S r i) o) :
    (o = none ∧ spVar S r v = -9) ∨ ∃ (k y : Nat), o = some y ∧ ys[k]? = some y ∧ (spTs S r i)[k]? = some (spVar S r v, spFrom S r i (spVar S r v), spTo S r i (spVar S r v)) ∧ S.2 32 r < spVar S r v ∧ spVar S r v < S.2 33 r := by
  obtain ⟨a1, a2, a3⟩ := spTs_all hT hPR h0 hn hw
  have hk2 := hPR.2.1
  have h1 := hPR.2.2.1
  have h3 := hPR.2.2.2.2.1
  rcases hO with ⟨e, hno⟩ | ⟨k, tr, y, t1, t2, t3, t4, t5⟩
  · left
    refine ⟨e, spVarF_no S v _ _ (fun x x1 x2 x3 x4 => ?_)⟩
    by_cases hx : x = S.2 32 r
    · rw [hx] at x3; omega
    · obtain ⟨tr, m1, m2⟩ := a3 x (by omega) (by omega) x3
      obtain ⟨j, hj, ej⟩ := List.mem_iff_getElem.mp m1
      exact hno j tr (by rw [List.getElem?_eq_getElem hj, ej]) (by rw [m2]; exact x4)
  · right
    have hm : tr ∈ spTs S r i := List.mem_of_getElem? t1
    obtain ⟨d1, d2, d3, d4⟩ := a1 tr hm
    have hv : spVar S r v = tr.1 := by
      refine spVarF_is S v _ _ _ (by omega) (by omega) d3 t4 (fun x x1 x2 x3 x4 => ?_)
      by_cases hx : x = S.2 32 r
      · rw [hx] at x3; omega
      · obtain ⟨tr2, m1, m2⟩ := a3 x (by omega) (by omega) x3
        obtain ⟨j, hj, ej⟩ := List.mem_iff_getElem.mp m1
        have hk := (List.getElem?_eq_some_iff.mp t1)
        obtain ⟨hk1, hk2⟩ := hk
        rcases Nat.lt_trichotomy j k with z | z | z
        · exact t5 j tr2 z (by rw [List.getElem?_eq_getElem hj, ej]) (by rw [m2]; exact x4)
        · subst z
          rw [ej] at hk2
          rw [← hk2, m2] at x2
          omega
        · have := List.pairwise_iff_getElem.mp a2 k j hk1 hj z
          rw [hk2, ej, m2] at this
          omega
    rw [hv]
    refine ⟨k, y, t3, t2, ?_, d1, d2⟩
    rw [t1, ← d4]
