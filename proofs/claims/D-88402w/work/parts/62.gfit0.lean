/-! ===== patterns against items: pure part for the Glass; parts and rules in the heap ===== -/
set_option maxRecDepth 100000
section FIT0
variable {S : MSt} {b E : Int}
theorem PN.kid (hP : ∀ p, b ≤ p → p < E → PN S E p) {P : Int} (h0 : b ≤ P) (hE : P < E) (hk : S.2 34 P = 2) {j : Nat} (hj : (j : Int) < S.2 38 P) : P + 1 ≤ chh (S.2 37) P j ∧ chh (S.2 37) P j < P + S.2 37 P ∧ P + S.2 37 P ≤ E ∧ 1 ≤ S.2 37 (chh (S.2 37) P j) ∧ chh (S.2 37) P (j + 1) = chh (S.2 37) P j + S.2 37 (chh (S.2 37) P j) ∧ chh (S.2 37) P (j + 1) ≤ P + S.2 37 P := by
  have h1 := PNch hP h0 hE hk j (by omega)
  have h2 := PNch hP h0 hE hk (j + 1) (by omega)
  have h3 := ((hP P h0 hE).2.2.2.2.1 hk).2 j hj
  have h4 := (hP (chh (S.2 37) P j) (by omega) (by omega)).2.1
  exact ⟨by omega, h3.1, by omega, by omega, rfl, by omega⟩
/-- enough steps are enough -/
theorem spX_fuel (hP : ∀ p, b ≤ p → p < E → PN S E p) : ∀ (N : Nat) (P : Int) (j : Nat), b ≤ P → P < E → S.2 34 P = 2 → (j : Int) ≤ S.2 38 P → P + S.2 37 P - chh (S.2 37) P j < N → ∀ (f g : Nat) (t te : Int), P + S.2 37 P - chh (S.2 37) P j < f → P + S.2 37 P - chh (S.2 37) P j < g → spX S f (chh (S.2 37) P j) (P + S.2 37 P) t te = spX S g (chh (S.2 37) P j) (P + S.2 37 P) t te := by
  intro N
  induction N with
  | zero =>
    intro P j h0 hE hk hj hN
    have := PNch hP h0 hE hk j hj
    omega
  | succ N ih =>
    intro P j h0 hE hk hj hN f g t te hf hg
    have hc := PNch hP h0 hE hk j hj
    have hcl := (hP P h0 hE).2.2.2.2.1 hk
    have hcn := (hP P h0 hE).2.2.1
    cases f with
    | zero => omega
    | succ f =>
      cases g with
      | zero => omega
      | succ g =>
        unfold spX
        by_cases hz : (j : Int) = S.2 38 P
        · have he : chh (S.2 37) P j = P + S.2 37 P := by rw [← hcl.1, show (S.2 38 P).toNat = j by omega]
          rw [if_pos he, if_pos he]
        · have kd := PN.kid hP h0 hE hk (j := j) (by omega)
          have hne : ¬ chh (S.2 37) P j = P + S.2 37 P := by omega
          rw [if_neg hne, if_neg hne]
          have i1 := ih P (j + 1) h0 hE hk (by omega) (by omega) f g (t + S.2 46 t) te (by omega) (by omega)
          rw [kd.2.2.2.2.1] at i1
          rw [i1]
          by_cases h2 : S.2 34 (chh (S.2 37) P j) = 2
          · have i2 := ih (chh (S.2 37) P j) 0 (by omega) (by omega) h2 (by have := (hP (chh (S.2 37) P j) (by omega) (by omega)).2.2.1; omega) (by show _ - (chh (S.2 37) P j + 1) < _; omega) f g (t + 1) (t + S.2 46 t) (by show _ - (chh (S.2 37) P j + 1) < _; omega) (by show _ - (chh (S.2 37) P j + 1) < _; omega)
            have e0 : chh (S.2 37) (chh (S.2 37) P j) 0 = chh (S.2 37) P j + 1 := rfl
            rw [e0] at i2
            rw [i2]
          · rw [if_neg h2, if_neg h2]
/-- patterns P's parts from the j-th on, against items t .. te -/
def spXs (S : MSt) (P : Int) (j : Nat) (t te : Int) : Bool := spX S (S.2 37 P).toNat (chh (S.2 37) P j) (P + S.2 37 P) t te
theorem spXs_of (hP : ∀ p, b ≤ p → p < E → PN S E p) {P : Int} (h0 : b ≤ P) (hE : P < E) (hk : S.2 34 P = 2) {j : Nat} (hj : (j : Int) ≤ S.2 38 P) {f : Nat} {t te : Int} (hf : S.2 37 P ≤ f) : spX S f (chh (S.2 37) P j) (P + S.2 37 P) t te = spXs S P j t te := by
  have hc := PNch hP h0 hE hk j hj
  exact spX_fuel hP (S.2 37 P + 1).toNat P j h0 hE hk hj (by omega) _ _ _ _ (by omega) (by omega)
theorem spXs_end (hP : ∀ p, b ≤ p → p < E → PN S E p) {P : Int} (h0 : b ≤ P) (hE : P < E) (hk : S.2 34 P = 2) {j : Nat} (hj : (j : Int) = S.2 38 P) (t te : Int) : spXs S P j t te = decide (t = te) := by
  have hp := (hP P h0 hE).2.1
  have hcl := (hP P h0 hE).2.2.2.2.1 hk
  have he : chh (S.2 37) P j = P + S.2 37 P := by rw [← hcl.1, show (S.2 38 P).toNat = j by omega]
  unfold spXs
  obtain ⟨m, hm⟩ : ∃ m, (S.2 37 P).toNat = m + 1 := ⟨(S.2 37 P).toNat - 1, by omega⟩
  rw [hm]
  unfold spX
  rw [if_pos he]
theorem spXs_rest (hP : ∀ p, b ≤ p → p < E → PN S E p) {P : Int} (h0 : b ≤ P) (hE : P < E) (hk : S.2 34 P = 2) {j : Nat} (hj : (j : Int) < S.2 38 P) (hr : S.2 34 (chh (S.2 37) P j) = 7) (t te : Int) : spXs S P j t te = true := by
  have kd := PN.kid hP h0 hE hk hj
  unfold spXs
  obtain ⟨m, hm⟩ : ∃ m, (S.2 37 P).toNat = m + 1 := ⟨(S.2 37 P).toNat - 1, by omega⟩
  rw [hm]
  unfold spX
  rw [if_neg (by omega), if_pos hr]
theorem spXs_one (hP : ∀ p, b ≤ p → p < E → PN S E p) {P : Int} (h0 : b ≤ P) (hE : P < E) (hk : S.2 34 P = 2) {j : Nat} (hj : (j : Int) < S.2 38 P) (hr : S.2 34 (chh (S.2 37) P j) ≠ 7) (t te : Int) : spXs S P j t te = (decide (t < te) && spN S (chh (S.2 37) P j) t && (if S.2 34 (chh (S.2 37) P j) = 2 then spXs S (chh (S.2 37) P j) 0 (t + 1) (t + S.2 46 t) else true) && spXs S P (j + 1) (t + S.2 46 t) te) := by
  have kd := PN.kid hP h0 hE hk hj
  rw [← spXs_of hP h0 hE hk (j := j) (by omega) (f := (S.2 37 P).toNat + 1) (by omega)]
  unfold spX
  rw [if_neg (by omega), if_neg hr]
  rw [← kd.2.2.2.2.1, spXs_of hP h0 hE hk (j := j + 1) (by omega) (f := (S.2 37 P).toNat) (by omega)]
  by_cases h2 : S.2 34 (chh (S.2 37) P j) = 2
  · rw [if_pos h2, if_pos h2]
    have e0 : chh (S.2 37) (chh (S.2 37) P j) 0 = chh (S.2 37) P j + 1 := rfl
    rw [kd.2.2.2.2.1, ← e0, spXs_of hP (P := chh (S.2 37) P j) (by omega) (by omega) h2 (j := 0) (by have := (hP (chh (S.2 37) P j) (by omega) (by omega)).2.2.1; omega) (f := (S.2 37 P).toNat) (by omega)]
  · rw [if_neg h2, if_neg h2]
end FIT0
theorem spFit_s {S : MSt} {r i : Int} (hR : PR S r) : spFit S r i = spXs S (S.2 32 r) 0 (i + 2) (i + S.2 46 i) := by
  have hP := hR.2.2.2.2.2.2.2.1
  have h1 := hR.2.2.2.2.1
  unfold spFit
  rw [← hR.2.2.1]
  have := spXs_of (b := S.2 32 r) (E := S.2 33 r) hP (P := S.2 32 r) (Int.le_refl _) (by have := hR.2.2.1; omega) hR.2.1 (j := 0) (by have := (hP (S.2 32 r) (Int.le_refl _) (by have := hR.2.2.1; omega)).2.2.1; omega) (f := 601) (t := i + 2) (te := i + S.2 46 i) (by have := hR.1; have := hR.2.2.1; have := hR.2.2.2.1; omega)
  exact this
/-- the roots of items a .. b: fuel -/
def rts (room : Int → Int) : Nat → Int → Int → List Int
  | 0, _, _ => []
  | f + 1, a, b => if b ≤ a then [] else a :: rts room f (a + room a) b
/-! parts of patterns and templates in the heap: rows P of nodes: kind, value, place, span, count -/
def paE (P : FF) (p pl : Int) (a : Nat) : va_E :=
  if P 0 p = 0 then .inr (5, [.int (iI pl), .int (iI (P 1 p))])
  else if P 0 p = 2 then .inr (4, [.int (iI pl), .ref (a + 1)])
  else if P 0 p = 8 then .inr (7, [.int (iI pl), .long (lI (gLt (P 1 p))), .int (iI 0)])
  else .inr (6, [.int (iI pl), .long (lI (gLt (P 1 p))), .int (iI (bI (decide (P 0 p = 7))))])
def pcs (P : FF) (ad : Int → Nat) (p : Int) : List Nat := (List.range (P 4 p).toNat).map (fun (j : Nat) => ad (chh (P 3) p j))
theorem pcs_len (P : FF) (ad : Int → Nat) (p : Int) : (pcs P ad p).length = (P 4 p).toNat := by simp [pcs]
theorem pcs_get (P : FF) (ad : Int → Nat) (p : Int) {j : Nat} (hj : (j : Int) < P 4 p) : (pcs P ad p)[j]? = some (ad (chh (P 3) p j)) := by
  unfold pcs
  rw [List.getElem?_map, List.getElem?_range (by omega)]
  rfl
/-- node p is in the heap -/
def PA (G : gEnv) (h : gH) (P : FF) (ad : Int → Nat) (p : Int) : Prop :=
  (∃ pl : Int, (P 0 p ≠ 8 → pl = P 2 p) ∧ h (ad p) = some ((3, 0), paE P p pl (ad p))) ∧ (P 0 p = 2 → AL G h (ad p + 1) (pcs P ad p) (P 4 p).toNat)
def PTR (G : gEnv) (h : gH) (P : FF) (ad : Int → Nat) (lo hi : Int) : Prop := ∀ p, lo ≤ p → p < hi → PA G h P ad p
theorem PA.sub {G : gEnv} {h h' : gH} {P : FF} {ad : Int → Nat} {p : Int} (hI : PA G h P ad p) (hs : gSub h h') : PA G h' P ad p := by
  obtain ⟨⟨pl, h1, h2⟩, h3⟩ := hI
  exact ⟨⟨pl, h1, hs _ _ h2⟩, fun w => (h3 w).sub hs⟩
/-- the rows of the program's nodes -/
def pwS (S : MSt) : FF := fun j => match j with | 0 => S.2 34 | 1 => S.2 35 | 2 => S.2 36 | 3 => S.2 37 | 4 => S.2 38 | _ => fun _ => 0
def ruE (raw w : Int) (a b : Nat) : va_E := .inr (if raw = 0 then 8 else 9, [.long (lI (gLt w)), .ref a, .ref b])
/-- THE RULES: the Model's rows and the Glass' objects -/
def RUL (G : gEnv) (h : gH) (S : MSt) (rl : Nat) (ru : Nat → Nat) (ap : Int → Nat) : Prop :=
  MP S ∧ AL G h rl ((List.range (S.1 29).toNat).map ru) (S.1 29).toNat ∧ ∀ r : Nat, (r : Int) < S.1 29 → h (ru r) = some ((3, 0), ruE (S.2 31 r) (S.2 30 r) (ap (S.2 32 r)) (ap (S.2 33 r))) ∧ wOk (S.2 30 r) ∧
    PTR G h (pwS S) ap (S.2 32 r) (S.2 33 r + S.2 37 (S.2 33 r)) ∧ ∀ p, S.2 32 r ≤ p → p < S.2 33 r + S.2 37 (S.2 33 r) → (6 ≤ S.2 34 p → wOk (S.2 35 p)) ∧ (S.2 34 p = 0 → S.2 35 p < 1000000)
/-- patterns or templates b .. E: rows, objects -/
def PCX (G : gEnv) (h : gH) (S : MSt) (ap : Int → Nat) (b E : Int) : Prop := PTR G h (pwS S) ap b E ∧ ∀ p, b ≤ p → p < E → (6 ≤ S.2 34 p → wOk (S.2 35 p)) ∧ (S.2 34 p = 0 → S.2 35 p < 1000000)
theorem RUL.sub {G : gEnv} {h h' : gH} {S : MSt} {rl : Nat} {ru : Nat → Nat} {ap : Int → Nat} (hR : RUL G h S rl ru ap) (hs : gSub h h') : RUL G h' S rl ru ap :=
  ⟨hR.1, hR.2.1.sub hs, fun r hr => ⟨hs _ _ (hR.2.2 r hr).1, (hR.2.2 r hr).2.1, fun p a b => ((hR.2.2 r hr).2.2.1 p a b).sub hs, (hR.2.2 r hr).2.2.2⟩⟩
theorem RUL.get {S : MSt} {ru : Nat → Nat} {r : Nat} (hr : (r : Int) < S.1 29) : ((List.range (S.1 29).toNat).map ru)[r]? = some (ru r) := by
  rw [List.getElem?_map, List.getElem?_range (by omega)]
  rfl
theorem PCX.sub {G : gEnv} {h h' : gH} {S : MSt} {ap : Int → Nat} {b E : Int} (hC : PCX G h S ap b E) (hs : gSub h h') : PCX G h' S ap b E := ⟨fun p x y => (hC.1 p x y).sub hs, hC.2⟩
theorem RUL.pat {G : gEnv} {h : gH} {S : MSt} {rl : Nat} {ru : Nat → Nat} {ap : Int → Nat} (hR : RUL G h S rl ru ap) {r : Nat} (hr : (r : Int) < S.1 29) : PCX G h S ap (S.2 32 r) (S.2 33 r) := by
  have h1 := hR.2.2 r hr
  have h2 := hR.1.2 r (by omega) hr
  have h3 := h2.2.2.2.2.1
  exact ⟨fun p x y => h1.2.2.1 p x (by omega), fun p x y => h1.2.2.2 p x (by omega)⟩
theorem RUL.tem {G : gEnv} {h : gH} {S : MSt} {rl : Nat} {ru : Nat → Nat} {ap : Int → Nat} (hR : RUL G h S rl ru ap) {r : Nat} (hr : (r : Int) < S.1 29) : PCX G h S ap (S.2 33 r) (S.2 33 r + S.2 37 (S.2 33 r)) := by
  have h1 := hR.2.2 r hr
  have h2 := hR.1.2 r (by omega) hr
  have h3 := h2.2.2.1
  have h4 := h2.2.2.2.2.1
  exact ⟨fun p x y => h1.2.2.1 p (by omega) y, fun p x y => h1.2.2.2 p (by omega) y⟩
