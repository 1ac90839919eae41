/-! ===== the Model's pass and what fits, one against the other ===== -/
set_option maxRecDepth 100000
section LIN
variable {S : MSt} {b E : Int}
theorem chh_s (f : Int → Int) (i : Int) (j : Nat) : chh f i (j + 1) = chh f i j + f (chh f i j) := rfl
/-- the parts of a list of patterns, in order -/
theorem PNch (hP : ∀ p, b ≤ p → p < E → PN S E p) {p : Int} (h0 : b ≤ p) (hE : p < E) (hk : S.2 34 p = 2) : ∀ j : Nat, (j : Int) ≤ S.2 38 p → p + 1 + j ≤ chh (S.2 37) p j ∧ chh (S.2 37) p j ≤ p + S.2 37 p ∧ p + S.2 37 p ≤ E := by
  have hp := hP p h0 hE
  obtain ⟨h1, h2⟩ := hp.2.2.2.2.1 hk
  intro j
  induction j with
  | zero => intro _; have e : chh (S.2 37) p 0 = p + 1 := rfl; have := hp.2.1; rw [e]; omega
  | succ j ih =>
    intro hj
    have hi := ih (by omega)
    have h3 := (h2 j (by omega)).1
    have h4 := (hP (chh (S.2 37) p j) (by omega) (by omega)).2.1
    have h5 := chh_s (S.2 37) p j
    refine ⟨by omega, ?_, by omega⟩
    by_cases he : (j : Int) + 1 = S.2 38 p
    · rw [← h1, show (S.2 38 p).toNat = j + 1 by omega]; exact Int.le_refl _
    · exact Int.le_of_lt (h2 (j + 1) (by omega)).1
/-- a list of patterns that ends in a rest -/
def Rst (S : MSt) (P : Int) : Prop := 0 < S.2 38 P ∧ S.2 34 (chh (S.2 37) P ((S.2 38 P).toNat - 1)) = 7
theorem lastpar (hP : ∀ p, b ≤ p → p < E → PN S E p) : ∀ (n : Nat) (p : Int), S.2 37 p < n → b ≤ p → p < E → S.2 34 p = 2 → 0 < S.2 38 p → p ≤ S.2 39 (p + S.2 37 p - 1) ∧ (S.2 39 (p + S.2 37 p - 1) = p → chh (S.2 37) p ((S.2 38 p).toNat - 1) = p + S.2 37 p - 1) := by
  intro n
  induction n with
  | zero => intro p hn h0 hE hk hc; have := (hP p h0 hE).2.1; omega
  | succ n ih =>
    intro p hn h0 hE hk hc
    have hp := hP p h0 hE
    obtain ⟨h1, h2⟩ := hp.2.2.2.2.1 hk
    have h3 := h2 ((S.2 38 p).toNat - 1) (by omega)
    have h4 := PNch hP h0 hE hk ((S.2 38 p).toNat - 1) (by omega)
    have h5 := chh_s (S.2 37) p ((S.2 38 p).toNat - 1)
    rw [show (S.2 38 p).toNat - 1 + 1 = (S.2 38 p).toNat by omega, h1] at h5
    generalize hd : chh (S.2 37) p ((S.2 38 p).toNat - 1) = d at *
    have hdN := hP d (by omega) (by omega)
    by_cases hkd : S.2 34 d = 2
    · by_cases hcd : 0 < S.2 38 d
      · have := ih d (by omega) (by omega) (by omega) hkd hcd
        rw [show d + S.2 37 d - 1 = p + S.2 37 p - 1 by omega] at this
        exact ⟨by omega, fun e => by omega⟩
      · have he := (hdN.2.2.2.2.1 hkd).1
        rw [show (S.2 38 d).toNat = 0 by omega] at he
        have e0 : chh (S.2 37) d 0 = d + 1 := rfl
        have : d = p + S.2 37 p - 1 := by omega
        rw [← this]
        exact ⟨by omega, fun _ => rfl⟩
    · have := (hdN.2.2.2.1 hkd).1
      have : d = p + S.2 37 p - 1 := by omega
      rw [← this]
      exact ⟨by omega, fun _ => rfl⟩
/-- endsInRest, by parts -/
theorem rst_iff (hP : ∀ p, b ≤ p → p < E → PN S E p) {p : Int} (h0 : b ≤ p) (hE : p < E) (hk : S.2 34 p = 2) : spER S p = true ↔ Rst S p := by
  unfold spER
  simp only [Bool.and_eq_true, decide_eq_true_eq]
  have hp := hP p h0 hE
  constructor
  · rintro ⟨a, b', c⟩
    refine ⟨a, ?_⟩
    rw [(lastpar hP (S.2 37 p + 1).toNat p (by omega) h0 hE hk a).2 c]
    exact b'
  · rintro ⟨a, h7⟩
    obtain ⟨h1, h2⟩ := hp.2.2.2.2.1 hk
    have h3 := h2 ((S.2 38 p).toNat - 1) (by omega)
    have h4 := PNch hP h0 hE hk ((S.2 38 p).toNat - 1) (by omega)
    have h5 := chh_s (S.2 37) p ((S.2 38 p).toNat - 1)
    rw [show (S.2 38 p).toNat - 1 + 1 = (S.2 38 p).toNat by omega, h1] at h5
    generalize hd : chh (S.2 37) p ((S.2 38 p).toNat - 1) = d at *
    have hdN := (hP d (by omega) (by omega)).2.2.2.1 (by omega)
    have e : p + S.2 37 p - 1 = d := by omega
    rw [e]
    exact ⟨a, h7, h3.2.1⟩
/-- as many as there are -/
def CC (S : MSt) (P : Int) (j : Nat) (L : Int) (k : Nat) : Prop :=
  (Rst S P → (j : Int) < S.2 38 P → S.2 38 P - 1 - j ≤ S.2 47 L - k) ∧ (¬ Rst S P → S.2 38 P - j = S.2 47 L - k)
/-- what fits is as many -/
theorem spX_cc (hT : MT S) (hP : ∀ p, b ≤ p → p < E → PN S E p) {P L : Int} (h0 : b ≤ P) (hE : P < E) (hk : S.2 34 P = 2) (hL0 : 0 ≤ L) (hLn : L < S.1 40) (hLw : 2 ≤ S.2 41 L) :
    ∀ (d : Nat) (j k : Nat) (g : Nat), S.2 38 P - j = d → (j : Int) ≤ S.2 38 P → (k : Int) ≤ S.2 47 L → spX S g (chh (S.2 37) P j) (P + S.2 37 P) (chh (S.2 46) L k) (L + S.2 46 L) = true → CC S P j L k := by
  obtain ⟨h1, h2⟩ := (hP P h0 hE).2.2.2.2.1 hk
  obtain ⟨hl1, hl2⟩ := hT.1.lst hL0 hLn hLw
  intro d
  induction d with
  | zero =>
    intro j k g hd hj hkk hx
    have ej : j = (S.2 38 P).toNat := by omega
    cases g with
    | zero => simp [spX] at hx
    | succ g =>
      unfold spX at hx
      rw [ej, h1, if_pos rfl, decide_eq_true_eq] at hx
      refine ⟨fun _ hlt => by omega, fun _ => ?_⟩
      rcases Int.lt_or_le k (S.2 47 L) with q | q
      · have := hl2 k q; omega
      · omega
  | succ d ih =>
    intro j k g hd hj hkk hx
    cases g with
    | zero => simp [spX] at hx
    | succ g =>
      have h3 := h2 j (by omega)
      have h4 := PNch hP h0 hE hk j (by omega)
      unfold spX at hx
      rw [if_neg (by omega)] at hx
      by_cases h7 : S.2 34 (chh (S.2 37) P j) = 7
      · have h8 := h3.2.2 h7
        refine ⟨fun _ _ => by omega, fun hn => ?_⟩
        exact absurd ⟨by omega, by rw [show (S.2 38 P).toNat - 1 = j by omega]; exact h7⟩ hn
      · rw [if_neg h7] at hx
        simp only [Bool.and_eq_true, decide_eq_true_eq] at hx
        obtain ⟨⟨⟨ht, -⟩, -⟩, hx⟩ := hx
        have hkl : (k : Int) < S.2 47 L := by
          rcases Int.lt_or_le k (S.2 47 L) with q | q
          · exact q
          · rw [show k = (S.2 47 L).toNat by omega, hl1] at ht; omega
        have hc := ih (j + 1) (k + 1) g (by omega) (by omega) (by omega) hx
        refine ⟨fun hr hlt => ?_, fun hr => ?_⟩
        · by_cases hl : (j : Int) + 1 < S.2 38 P
          · have := hc.1 hr (by omega); omega
          · omega
        · have := hc.2 hr; omega
/-- THE PASS: from the j-th part of patterns P and the k-th part of the list L on -/
theorem lin_seg (hT : MT S) (hb : 0 ≤ b) (hE6 : E ≤ 501) (hP : ∀ p, b ≤ p → p < E → PN S E p) :
    ∀ (d : Nat) (P L : Int) (j k : Nat) (g : Nat) (u v : Int → Int), (P + S.2 37 P - chh (S.2 37) P j).toNat < d → (P + S.2 37 P - chh (S.2 37) P j).toNat < g → b ≤ P → P < E → S.2 34 P = 2 → 0 ≤ L → L < S.1 40 → 2 ≤ S.2 41 L → (j : Int) ≤ S.2 38 P → (k : Int) ≤ S.2 47 L → CC S P j L k → ((j : Int) = S.2 38 P → chh (S.2 46) L k = L + S.2 46 L) → v P = L + S.2 46 L →
    ∃ u' v' : Int → Int,
      (spX S g (chh (S.2 37) P j) (P + S.2 37 P) (chh (S.2 46) L k) (L + S.2 46 L) = true → spLin S E ((E - chh (S.2 37) P j).toNat + 1) (chh (S.2 37) P j) (chh (S.2 46) L k) u v = spLin S E ((E - (P + S.2 37 P)).toNat + 1) (P + S.2 37 P) (L + S.2 46 L) u' v') ∧
      (spX S g (chh (S.2 37) P j) (P + S.2 37 P) (chh (S.2 46) L k) (L + S.2 46 L) = false → (spLin S E ((E - chh (S.2 37) P j).toNat + 1) (chh (S.2 37) P j) (chh (S.2 46) L k) u v).1 = false) ∧
      ((spX S g (chh (S.2 37) P j) (P + S.2 37 P) (chh (S.2 46) L k) (L + S.2 46 L) = true → spLok S E ((E - (P + S.2 37 P)).toNat + 1) (P + S.2 37 P) (L + S.2 46 L) u' v') → spLok S E ((E - chh (S.2 37) P j).toNat + 1) (chh (S.2 37) P j) (chh (S.2 46) L k) u v) ∧
      (∀ q, q < chh (S.2 37) P j ∨ P + S.2 37 P ≤ q → u' q = u q ∧ v' q = v q) ∧
      (spX S g (chh (S.2 37) P j) (P + S.2 37 P) (chh (S.2 46) L k) (L + S.2 46 L) = true → ∀ q, chh (S.2 37) P j ≤ q → q < P + S.2 37 P → u' q = (spAt S g (chh (S.2 37) P j) (P + S.2 37 P) (chh (S.2 46) L k) (L + S.2 46 L) q).1 ∧ v' q = (spAt S g (chh (S.2 37) P j) (P + S.2 37 P) (chh (S.2 46) L k) (L + S.2 46 L) q).2) := by
  intro d
  induction d with
  | zero => intro P L j k g u v h; omega
  | succ d ih =>
    intro P L j k g u v hd hg h0 hE hk hL0 hLn hLw hj hkk hcc hend hvP
    obtain ⟨h1, h2⟩ := (hP P h0 hE).2.2.2.2.1 hk
    obtain ⟨hl1, hl2⟩ := hT.1.lst hL0 hLn hLw
    have hpj := PNch hP h0 hE hk j hj
    have htk := hT.1.ch hL0 hLn hLw k hkk
    have hLr := hT.1.r hL0 hLn
    have hnn := hT.n
    cases g with
    | zero => omega
    | succ g =>
    by_cases hje : (j : Int) = S.2 38 P
    · have ep : chh (S.2 37) P j = P + S.2 37 P := by rw [← h1]; congr 1; omega
      have et := hend hje
      rw [ep, et]
      refine ⟨u, v, fun _ => rfl, fun hx => ?_, fun h => h ?_, fun q _ => ⟨rfl, rfl⟩, fun _ q a b' => by omega⟩
      · simp [spX] at hx
      · simp [spX]
    · have hjl : (j : Int) < S.2 38 P := by omega
      have h3 := h2 j hjl
      have hpN := hP (chh (S.2 37) P j) (by omega) (by omega)
      have hsj := chh_s (S.2 37) P j
      have hpj1 := PNch hP h0 hE hk (j + 1) (by omega)
      have hfu : (E - chh (S.2 37) P j).toNat + 1 = ((E - (chh (S.2 37) P j + 1)).toNat + 1) + 1 := by omega
      by_cases h7 : S.2 34 (chh (S.2 37) P j) = 7
      · -- a rest
        have h8 := h3.2.2 h7
        have hs1 := (hpN.2.2.2.1 (by omega)).1
        have ep : chh (S.2 37) P (j + 1) = P + S.2 37 P := by rw [← h1]; congr 1; omega
        have epe : chh (S.2 37) P j + 1 = P + S.2 37 P := by omega
        have hxt : spX S (g + 1) (chh (S.2 37) P j) (P + S.2 37 P) (chh (S.2 46) L k) (L + S.2 46 L) = true := by
          unfold spX
          rw [if_neg (by omega), if_pos h7]
        refine ⟨upI u (chh (S.2 37) P j) (chh (S.2 46) L k), upI v (chh (S.2 37) P j) (L + S.2 46 L), fun _ => ?_, fun hx => ?_, fun h => ?_, fun q hq => ?_, fun _ q a b' => ?_⟩
        · rw [hfu]
          conv => lhs; unfold spLin
          rw [if_neg (by omega), if_pos h7, h3.2.1, hvP, epe]
        · rw [hxt] at hx; cases hx
        · rw [hfu]
          unfold spLok
          right
          rw [if_pos h7, h3.2.1, hvP, epe]
          exact ⟨⟨by omega, by omega, by omega, by omega⟩, h hxt⟩
        · have : q ≠ chh (S.2 37) P j := by omega
          simp [upI, this]
        · have eq : q = chh (S.2 37) P j := by omega
          unfold spAt
          rw [if_pos (by omega), if_pos eq, if_pos h7]
          simp [upI, eq]
      · -- one that is no rest
        have hkl : (k : Int) < S.2 47 L := by
          by_cases hr : Rst S P
          · have := hcc.1 hr hjl
            rcases Int.lt_or_le k (S.2 47 L) with q | q
            · exact q
            · have ej : j = (S.2 38 P).toNat - 1 := by omega
              exact absurd (by rw [ej]; exact hr.2) h7
          · have := hcc.2 hr; omega
        have htl := hl2 k hkl
        have hst := chh_s (S.2 46) L k
        have htr := hT.1.r (i := chh (S.2 46) L k) (by omega) (by omega)
        have hcc' : CC S P (j + 1) L (k + 1) := by
          refine ⟨fun hr hlt => ?_, fun hr => ?_⟩
          · have := hcc.1 hr hjl; omega
          · have := hcc.2 hr; omega
        have hend' : ((j + 1 : Nat) : Int) = S.2 38 P → chh (S.2 46) L (k + 1) = L + S.2 46 L := by
          intro he
          by_cases hr : Rst S P
          · exact absurd (by have := hr.2; rw [show (S.2 38 P).toNat - 1 = j by omega] at this; exact this) h7
          · have := hcc.2 hr
            rw [← hl1]; congr 1; omega
        generalize hp : chh (S.2 37) P j = p at *
        generalize htt : chh (S.2 46) L k = t at *
        have hsp := hpN.2.1
        by_cases hN : spN S p t = true
        · by_cases h2p : S.2 34 p = 2
          · -- a list
            have hw2 : 2 ≤ S.2 41 t := by
              have := hN; unfold spN at this
              rw [if_neg (by omega), if_neg (by omega), if_neg (by omega), decide_eq_true_eq] at this
              exact this
            have hcp := PNch hP (p := p) (by omega) (by omega) h2p
            by_cases hC : spCnt S p t = true
            · have hone : spOne S p t = true := by unfold spOne; rw [hN, if_pos h2p, hC]; rfl
              have hcc2 : CC S p 0 t 0 := by
                unfold spCnt at hC
                refine ⟨fun hr _ => ?_, fun hr => ?_⟩
                · rw [if_pos ((rst_iff hP (by omega) (by omega) h2p).mpr hr), decide_eq_true_eq] at hC; simpa using hC
                · rw [if_neg (fun z => hr ((rst_iff hP (by omega) (by omega) h2p).mp z)), decide_eq_true_eq] at hC; omega
              have e0 : chh (S.2 37) p 0 = p + 1 := rfl
              have e1 : chh (S.2 46) t 0 = t + 1 := rfl
              obtain ⟨u1, v1, a1, a2, a3, a4, a5⟩ := ih p t 0 0 g (upI u p t) (upI v p (t + S.2 46 t)) (by rw [e0]; omega) (by rw [e0]; omega) (by omega) (by omega) h2p (by omega) (by omega) hw2 (by have := hpN.2.2.1; omega) (by have := hT.1.p (i := t) (by omega) (by omega); omega) hcc2
                (by
                  intro hz
                  have hz : S.2 38 p = 0 := by omega
                  have hnr : ¬ Rst S p := fun r => by have := r.1; omega
                  have := hcc2.2 hnr
                  have hl3 := (hT.1.lst (i := t) (by omega) (by omega) hw2).1
                  rw [show (S.2 47 t).toNat = 0 by omega] at hl3
                  exact hl3) (by simp [upI])
              rw [e0, e1] at a1 a2 a3 a5
              rw [e0] at a4
              obtain ⟨u2, v2, b1, b2, b3, b4, b5⟩ := ih P L (j + 1) (k + 1) g u1 v1 (by omega) (by omega) h0 hE hk hL0 hLn hLw (by omega) (by omega) hcc' hend' (by
                rw [(a4 P (by have := hpj; omega)).2]
                have : P ≠ p := by omega
                simp [upI, this, hvP])
              rw [hsj, hst] at b1 b2 b3 b5
              rw [hsj] at b4
              have hX : spX S (g + 1) p (P + S.2 37 P) t (L + S.2 46 L) = (spX S g (p + 1) (p + S.2 37 p) (t + 1) (t + S.2 46 t) && spX S g (p + S.2 37 p) (P + S.2 37 P) (t + S.2 46 t) (L + S.2 46 L)) := by
                conv => lhs; unfold spX
                rw [if_neg (by omega), if_neg h7, if_pos h2p, hN, decide_eq_true htl]
                simp
              have hLn2 : spLin S E ((E - p).toNat + 1) p t u v = spLin S E ((E - (p + 1)).toNat + 1) (p + 1) (t + 1) (upI u p t) (upI v p (t + S.2 46 t)) := by
                rw [hfu]
                conv => lhs; unfold spLin
                rw [if_neg (by omega), if_neg h7, if_pos hone, if_pos h2p]
              refine ⟨u2, v2, fun hx => ?_, fun hx => ?_, fun h => ?_, fun q hq => ?_, fun hx q qa qb => ?_⟩
              · rw [hX, Bool.and_eq_true] at hx
                rw [hLn2, a1 hx.1]
                exact b1 hx.2
              · rw [hX, Bool.and_eq_false_iff] at hx
                rw [hLn2]
                cases hin : spX S g (p + 1) (p + S.2 37 p) (t + 1) (t + S.2 46 t) with
                | false => exact a2 hin
                | true =>
                  rw [a1 hin]
                  rcases hx with q | q
                  · rw [hin] at q; cases q
                  · exact b2 q
              · rw [hfu]
                unfold spLok
                right
                rw [if_neg h7, if_pos h2p]
                refine ⟨⟨by omega, by omega⟩, fun _ => a3 (fun hin => b3 (fun hre => h (by rw [hX, hin, hre]; rfl)))⟩
              · have c1 := b4 q (by omega)
                have c2 := a4 q (by omega)
                have : q ≠ p := by omega
                rw [c1.1, c1.2, c2.1, c2.2]
                simp [upI, this]
              · rw [hX, Bool.and_eq_true] at hx
                conv => rhs; rw [show spAt S (g + 1) p (P + S.2 37 P) t (L + S.2 46 L) q = spAt S (g + 1) p (P + S.2 37 P) t (L + S.2 46 L) q from rfl]
                unfold spAt
                by_cases hq1 : q < p + S.2 37 p
                · rw [if_pos hq1]
                  have c1 := b4 q (by omega)
                  rw [c1.1, c1.2]
                  by_cases hq2 : q = p
                  · rw [if_pos hq2, if_neg h7]
                    have c2 := a4 q (by omega)
                    rw [c2.1, c2.2]
                    simp [upI, hq2]
                  · rw [if_neg hq2]
                    exact a5 hx.1 q (by omega) hq1
                · rw [if_neg hq1]
                  exact b5 hx.2 q (by omega) qb
            · -- not as many: neither fits
              have hone : ¬ spOne S p t = true := by unfold spOne; rw [hN, if_pos h2p]; simpa using hC
              have hXf : spX S (g + 1) p (P + S.2 37 P) t (L + S.2 46 L) = false := by
                conv => lhs; unfold spX
                rw [if_neg (by omega), if_neg h7, if_pos h2p, hN, decide_eq_true htl]
                cases hin : spX S g (p + 1) (p + S.2 37 p) (t + 1) (t + S.2 46 t) with
                | false => simp
                | true =>
                  exfalso
                  have e0 : chh (S.2 37) p 0 = p + 1 := rfl
                  have e1 : chh (S.2 46) t 0 = t + 1 := rfl
                  have hcx := spX_cc hT hP (P := p) (L := t) (by omega) (by omega) h2p (by omega) (by omega) hw2 (S.2 38 p).toNat 0 0 g (by have := hpN.2.2.1; omega) (by have := hpN.2.2.1; omega) (by have := hT.1.p (i := t) (by omega) (by omega); omega) (by rw [e0, e1]; exact hin)
                  apply hC
                  unfold spCnt
                  by_cases hr : Rst S p
                  · rw [if_pos ((rst_iff hP (by omega) (by omega) h2p).mpr hr), decide_eq_true_eq]
                    have := hcx.1 hr (by have := hr.1; omega); omega
                  · rw [if_neg (fun z => hr ((rst_iff hP (by omega) (by omega) h2p).mp z)), decide_eq_true_eq]
                    have := hcx.2 hr; omega
              refine ⟨u, v, fun hx => ?_, fun _ => ?_, fun h => ?_, fun q _ => ⟨rfl, rfl⟩, fun hx => ?_⟩
              · rw [hXf] at hx; cases hx
              · rw [hfu]
                conv => lhs; unfold spLin
                rw [if_neg (by omega), if_neg h7, if_neg hone]
              · rw [hfu]
                unfold spLok
                right
                rw [if_neg h7]
                exact ⟨⟨by omega, by omega⟩, fun z => absurd z hone⟩
              · rw [hXf] at hx; cases hx
          · -- a leaf
            have hs1 := (hpN.2.2.2.1 h2p).1
            have hone : spOne S p t = true := by unfold spOne; rw [hN, if_neg h2p]; rfl
            obtain ⟨u2, v2, b1, b2, b3, b4, b5⟩ := ih P L (j + 1) (k + 1) g (upI u p t) (upI v p (t + S.2 46 t)) (by omega) (by omega) h0 hE hk hL0 hLn hLw (by omega) (by omega) hcc' hend' (by
              have : P ≠ p := by omega
              simp [upI, this, hvP])
            rw [hsj, hst] at b1 b2 b3 b5
            rw [hsj] at b4
            rw [hs1] at b1 b2 b3 b4 b5
            have hX : spX S (g + 1) p (P + S.2 37 P) t (L + S.2 46 L) = spX S g (p + 1) (P + S.2 37 P) (t + S.2 46 t) (L + S.2 46 L) := by
              conv => lhs; unfold spX
              rw [if_neg (by omega), if_neg h7, if_neg h2p, hN, decide_eq_true htl, hs1]
              simp
            have hLn2 : spLin S E ((E - p).toNat + 1) p t u v = spLin S E ((E - (p + 1)).toNat + 1) (p + 1) (t + S.2 46 t) (upI u p t) (upI v p (t + S.2 46 t)) := by
              rw [hfu]
              conv => lhs; unfold spLin
              rw [if_neg (by omega), if_neg h7, if_pos hone, if_neg h2p]
            refine ⟨u2, v2, fun hx => ?_, fun hx => ?_, fun h => ?_, fun q hq => ?_, fun hx q qa qb => ?_⟩
            · rw [hX] at hx
              rw [hLn2]
              exact b1 hx
            · rw [hX] at hx
              rw [hLn2]
              exact b2 hx
            · rw [hfu]
              unfold spLok
              right
              rw [if_neg h7, if_neg h2p]
              refine ⟨⟨by omega, by omega⟩, fun _ => b3 (fun hre => h (by rw [hX]; exact hre))⟩
            · have c1 := b4 q (by omega)
              have : q ≠ p := by omega
              rw [c1.1, c1.2]
              simp [upI, this]
            · rw [hX] at hx
              unfold spAt
              rw [hs1]
              by_cases hq1 : q < p + 1
              · have hq2 : q = p := by omega
                rw [if_pos hq1, if_pos hq2, if_neg h7]
                have c1 := b4 q (by omega)
                rw [c1.1, c1.2]
                simp [upI, hq2]
              · rw [if_neg hq1]
                exact b5 hx q (by omega) qb
        · -- it doesn't fit
          have hone : ¬ spOne S p t = true := by
            unfold spOne
            simp only [Bool.not_eq_true] at hN
            rw [hN]; simp
          have hXf : spX S (g + 1) p (P + S.2 37 P) t (L + S.2 46 L) = false := by
            conv => lhs; unfold spX
            simp only [Bool.not_eq_true] at hN
            rw [if_neg (by omega), if_neg h7, hN]
            simp
          refine ⟨u, v, fun hx => ?_, fun _ => ?_, fun h => ?_, fun q _ => ⟨rfl, rfl⟩, fun hx => ?_⟩
          · rw [hXf] at hx; cases hx
          · rw [hfu]
            conv => lhs; unfold spLin
            rw [if_neg (by omega), if_neg h7, if_neg hone]
          · rw [hfu]
            unfold spLok
            right
            rw [if_neg h7]
            exact ⟨⟨by omega, by omega⟩, fun z => absurd z hone⟩
          · rw [hXf] at hx; cases hx
end LIN
theorem spAnyUp_more {S : MSt} (h : MT S) : ∀ (f : Nat) (l : Int), (l = -9 ∨ (0 ≤ l ∧ l < S.1 40)) → l < f → ∀ g : Nat, f ≤ g → spAnyUp S g l = spAnyUp S f l := by
  intro f
  induction f with
  | zero =>
    intro l hl hf g _
    have : l = -9 := by omega
    subst this
    cases g with
    | zero => rfl
    | succ g => simp [spAnyUp]
  | succ f ih =>
    intro l hl hf g hg
    cases g with
    | zero => omega
    | succ g =>
      unfold spAnyUp
      by_cases h9 : l = -9
      · simp [h9]
      · rw [if_neg h9, if_neg h9]
        have hi := h.inside (k := l) (by omega) (by omega)
        rw [ih (S.2 48 l) (by omega) (by omega) g (by omega)]
theorem spRule_in (S : MSt) (i : Int) : ∀ (f : Nat) (r : Int), 0 ≤ r → spRule S i f r = -9 ∨ (0 ≤ spRule S i f r ∧ spRule S i f r < S.1 29 ∧ spFit S (spRule S i f r) i = true) := by
  intro f
  induction f with
  | zero => intro r _; exact Or.inl rfl
  | succ f ih =>
    intro r h0
    unfold spRule
    by_cases h1 : S.1 29 ≤ r
    · rw [if_pos h1]; exact Or.inl rfl
    · rw [if_neg h1]
      by_cases h2 : S.2 30 r = S.2 42 (i + 1) ∧ spFit S r i = true
      · rw [if_pos h2]; exact Or.inr ⟨h0, by omega, h2.2⟩
      · rw [if_neg h2]; exact ih (r + 1) (by omega)
/-- the n-th ready call from k on, among c items -/
def spNth (S : MSt) : Nat → Int → Int → Int
  | 0, _, _ => -9
  | c + 1, k, n => if spReady S k = true then (if n = 0 then k else spNth S c (k + 1) (n - 1)) else spNth S c (k + 1) n
/-- the last ready call from k on, among c items; else d -/
def spLast (S : MSt) : Nat → Int → Int → Int
  | 0, _, d => d
  | c + 1, k, d => spLast S c (k + 1) (if spReady S k = true then k else d)
theorem spNth_tv (S : MSt) : ∀ (c : Nat) (k n : Int), spNth (tv S) c k n = spNth S c k n := by
  intro c
  induction c with
  | zero => intro k n; rfl
  | succ c ih => intro k n; unfold spNth; rw [ih, ih, spReady_tv]
theorem spLast_tv (S : MSt) : ∀ (c : Nat) (k d : Int), spLast (tv S) c k d = spLast S c k d := by
  intro c
  induction c with
  | zero => intro k d; rfl
  | succ c ih => intro k d; unfold spLast; rw [ih, spReady_tv]
theorem spNth_s (S : MSt) (c : Nat) (k n : Int) : spNth S (c + 1) k n = if spReady S k = true then (if n = 0 then k else spNth S c (k + 1) (n - 1)) else spNth S c (k + 1) n := rfl
theorem spLast_s (S : MSt) (c : Nat) (k d : Int) : spLast S (c + 1) k d = spLast S c (k + 1) (if spReady S k = true then k else d) := rfl
theorem spAnyUp_s (S : MSt) (f : Nat) (l : Int) : spAnyUp S (f + 1) l = if l = -9 then false else spCall S l || spAnyUp S f (S.2 48 l) := rfl
