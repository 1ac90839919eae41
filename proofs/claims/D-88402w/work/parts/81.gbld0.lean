/-! ===== a template is built: pure part ===== -/
set_option maxRecDepth 100000
/-- where the parts of a container lie among rows R: P the container (-1: it is none of them), its parts 0 .. m-1 -/
def POS (R : FF) (ins : Int → Int) (nn P : Int) (m : Nat) : Prop := ∀ k : Nat, k < m →
  (-1 ≤ P ∧ P < chh (R 5) P k ∧ 0 ≤ chh (R 5) P k ∧ 1 ≤ R 5 (chh (R 5) P k) ∧ chh (R 5) P k + R 5 (chh (R 5) P k) ≤ nn) ∧ (∀ z, P < z → z < chh (R 5) P k → z + R 5 z ≤ chh (R 5) P k ∧ P ≤ ins z ∧ ins z < z) ∧
  ins (chh (R 5) P k) = P ∧ (∀ z, chh (R 5) P k < z → z < chh (R 5) P k + R 5 (chh (R 5) P k) → chh (R 5) P k ≤ ins z ∧ ins z < z) ∧ ∀ j : Nat, j < k → chh (R 5) P j < chh (R 5) P k
/-- WHAT A CONTAINER HOLDS so far -/
def CST (G : gEnv) (hB h : gH) (R : FF) (ins : Int → Int) (adc : Int → Nat) (P : Int) (k : Nat) (nB n : Nat) (fL : List Value) : Prop :=
  CPI G hB h R ins adc P (chh (R 5) P k) nB n ∧ adc P = nB ∧ nB < n ∧ h nB = some ((1, 0), .inr (10, fL)) ∧ AL G h (nB + 1) ((List.range k).map (fun (j : Nat) => adc (chh (R 5) P j))) k
theorem build_step {G : gEnv} {hB h1 h2 h3 : gH} {R : FF} {ins : Int → Int} {adc adc2 : Int → Nat} {nn P : Int} {m nB n1 n2 n3 k : Nat} {fL : List Value} (hT : TW nn (R 0) (R 5) (R 6)) (hp : POS R ins nn P m) (hk : k < m) (hC : CST G hB h1 R ins adc P k nB n1 fL) (hC2 : CPD G h1 h2 R ins adc2 (chh (R 5) P k) n1 n2)
    (hD : ADDED G h2 h3 nB ((List.range k).map (fun (j : Nat) => adc (chh (R 5) P j))) k (adc2 (chh (R 5) P k)) (1, 0) (itE R (chh (R 5) P k) (.ref nB) 0 (adc2 (chh (R 5) P k)))) (hn3 : n2 ≤ n3) (hlt : ∀ (a : Nat) (x : gE), hB a = some x → a < nB) :
    CST G hB h3 R ins (fun z => if chh (R 5) P k ≤ z then adc2 z else adc z) P (k + 1) nB n3 fL := by
  obtain ⟨⟨a1, a2, a3, a4, a5⟩, hc0, hnn, hL1, hA1⟩ := hC
  obtain ⟨⟨b1, b2, b3, b4, b5⟩, b6⟩ := hC2
  obtain ⟨⟨p0, p1, p2, p3, p4⟩, p5, p6, p7, p8⟩ := hp k hk
  have ec : chh (R 5) P (k + 1) = chh (R 5) P k + R 5 (chh (R 5) P k) := rfl
  have hcs := chs_step (R := R) (i := P) (k := k) (adc := adc) (adc2 := adc2) p8
  obtain ⟨c, hc⟩ : ∃ c, c = chh (R 5) P k := ⟨_, rfl⟩
  rw [← hc] at a3 a4 a5 b3 b4 b5 b6 hD p1 p2 p3 p4 p5 p6 p7 p8 ec hcs ⊢
  have hA2 := hA1.sub b1
  have hcf := b5 c (Int.le_refl _) (by omega)
  have hbc := b6.1
  have hn17 : ∀ fs, itE R c .null 0 (adc2 c) ≠ .inr (17, fs) := fun fs => itE_ne17
  have hL2 := b1 _ _ hL1
  have hLc : nB ≠ adc2 c := by omega
  have hL3 := hD.2.2.1 nB _ _ hL2 hLc (by omega) (Or.inr (by omega))
  refine ⟨⟨?_, by omega, ?_, ?_, ?_⟩, ?_, by omega, hL3, ?_⟩
  · intro a x hx
    have hax := hlt a x hx
    obtain ⟨t, e⟩ := x
    exact hD.2.2.1 a t e (b1 _ _ (a1 _ _ hx)) (by omega) (by omega) (Or.inr (by omega))
  · rw [ec]
    intro z hz1 hz2
    show IT G h3 R (fun z => if c ≤ z then adc2 z else adc z) (1, 0) (.ref (if c ≤ ins z then adc2 (ins z) else adc (ins z))) 0 z
    rcases Int.lt_or_le z c with hzc | hzc
    · obtain ⟨hah, hz3, hz4⟩ := p5 z hz1 hzc
      rw [if_neg (by omega)]
      have hI := (a3 z hz1 hzc).sub b1
      have hfz := a5 z (by omega) hzc
      refine IT.adc (ad := adc) ?_ (if_neg (by omega)) (fun w j hj => if_neg ?_)
      · refine hD.it hA2 hbc hn17 (by decide) hI (by decide) (by omega) ?_
        rw [← hc0]
        intro e
        have := a4 z P (by omega) hzc (Int.le_refl _) (by omega) e
        omega
      · have := hT.kid (i := z) (by omega) (by omega) w hj
        omega
    · by_cases hze : z = c
      · subst hze
        rw [if_neg (by omega), p6, hc0]
        refine IT.adc (ad := adc2) ⟨hD.2.1, fun w => ?_⟩ (if_pos (Int.le_refl _)) (fun w j hj => if_pos (by have := hT.kid (i := z) (by omega) (by omega) w hj; omega))
        refine (b6.2 w).frm hD.frm ?_ ?_
        · obtain ⟨tM, fM, eM, nM⟩ := (b6.2 w).cell
          rintro (y | y | ⟨y, e, y2⟩)
          · omega
          · omega
          · rw [eM] at y2; cases y2; exact nM rfl
        · intro a e he
          obtain ⟨tA, fA, eA, nA⟩ := hA2.cell
          rintro (y | y | ⟨y, e2, y2⟩)
          · rw [y, hbc] at he; cases he
          · rw [y, eA] at he; cases he; exact nA rfl
          · rw [he] at y2; cases y2; omega
      · obtain ⟨hin, hz4⟩ := p7 z (by omega) (by omega)
        rw [if_pos hin]
        have hI := b3 z (by omega) (by omega)
        have hfz := b5 z (by omega) (by omega)
        refine IT.adc (ad := adc2) ?_ (if_pos (by omega)) (fun w j hj => if_pos ?_)
        · refine hD.it hA2 hbc hn17 (by decide) hI (by decide) ?_ (by omega)
          intro e
          have := b4 z c (by omega) (by omega) (Int.le_refl _) (by omega) e
          omega
        · have := hT.kid (i := z) (by omega) (by omega) w hj
          omega
  · rw [ec]
    intro x y hx1 hx2 hy1 hy2 e
    dsimp only at e
    by_cases hxc : c ≤ x
    · rw [if_pos hxc] at e
      have hfx := b5 x hxc (by omega)
      by_cases hyc : c ≤ y
      · rw [if_pos hyc] at e
        exact b4 x y hxc (by omega) hyc (by omega) e
      · rw [if_neg hyc] at e
        have := a5 y hy1 (by omega)
        omega
    · rw [if_neg hxc] at e
      have hfx := a5 x hx1 (by omega)
      by_cases hyc : c ≤ y
      · rw [if_pos hyc] at e
        have := b5 y hyc (by omega)
        omega
      · rw [if_neg hyc] at e
        exact a4 x y hx1 (by omega) hy1 (by omega) e
  · rw [ec]
    intro x hx1 hx2
    dsimp only
    by_cases hxc : c ≤ x
    · rw [if_pos hxc]
      have := b5 x hxc (by omega)
      omega
    · rw [if_neg hxc]
      have := a5 x hx1 (by omega)
      omega
  · show (if c ≤ P then adc2 P else adc P) = nB
    rw [if_neg (by omega)]
    exact hc0
  · have h9 := hD.1
    rw [hcs] at h9
    rw [show max k (((List.range k).map (fun (j : Nat) => adc (chh (R 5) P j))).length + 1) = k + 1 by simp] at h9
    exact h9
theorem POS_root {R : FF} {ins : Int → Int} {nn : Int} (hT : TW nn (R 0) (R 5) (R 6)) (hTI : TI nn (R 0) (R 5) (R 6) ins) : POS R (fun q => if q = 0 then -1 else ins q) nn (-1) 1 := by
  intro k hk
  have e : chh (R 5) (-1) k = 0 := by rw [show k = 0 by omega]; rfl
  have hn := hT.1
  have hr := hT.2.2.1
  rw [e]
  refine ⟨⟨by omega, by omega, by omega, by omega, by omega⟩, fun z a b => by omega, if_pos rfl, fun z a b => ?_, fun j hj => by omega⟩
  have := hTI.in_lt (k := z) (by omega) (by omega)
  dsimp only
  rw [if_neg (by omega)]
  omega
theorem POS_list {R : FF} {ins : Int → Int} {nn : Int} (hT : TW nn (R 0) (R 5) (R 6)) (hTI : TI nn (R 0) (R 5) (R 6) ins) {P : Int} (h0 : 0 ≤ P) (hn : P < nn) (hw : 2 ≤ R 0 P) : POS R (fun q => if q = 0 then -1 else ins q) nn P (R 6 P).toNat := by
  intro k hk
  have kd := hT.kid h0 hn hw (j := k) (by omega)
  have hr := hT.r h0 hn
  refine ⟨⟨by omega, by omega, by omega, by omega, by omega⟩, fun z a b => ?_, ?_, fun z a b => ?_, fun j hj => hT.ch_lt h0 hn hw k j hj (by omega)⟩
  · have h1 := hT.ahead h0 hn hw (k := k) (by omega) a b
    have h2 := hTI.inner hT (j := P) (k := z) (by omega) (by omega) (by omega) (by omega)
    have h3 := hTI.in_lt (k := z) (by omega) (by omega)
    dsimp only
    rw [if_neg (by omega)]
    omega
  · dsimp only
    rw [if_neg (by omega)]
    exact hTI.of h0 hn hw (by omega)
  · have h2 := hTI.inner hT (j := chh (R 5) P k) (k := z) (by omega) (by omega) (by omega) (by omega)
    have h3 := hTI.in_lt (k := z) (by omega) (by omega)
    dsimp only
    rw [if_neg (by omega)]
    omega
theorem getD_l {α : Type} (as bs : List α) (d : α) {j : Nat} (h : j < as.length) : (as ++ bs).getD j d = as.getD j d := by
  rw [List.getD_eq_getElem?_getD, List.getD_eq_getElem?_getD, List.getElem?_append_left h]
theorem getD_r {α : Type} (as bs : List α) (d : α) {j : Nat} (h : as.length ≤ j) : (as ++ bs).getD j d = bs.getD (j - as.length) d := by
  rw [List.getD_eq_getElem?_getD, List.getD_eq_getElem?_getD, List.getElem?_append_right h]
/-- rows rs lie at p -/
def RWS (R : FF) (p : Int) (rs : List (Nat → Int)) : Prop := ∀ j : Nat, j < rs.length → ∀ k, k ≤ 6 → R k (p + j) = rs.getD j noR k
theorem RWS.app {R : FF} {p : Int} {as bs : List (Nat → Int)} : RWS R p (as ++ bs) ↔ RWS R p as ∧ RWS R (p + as.length) bs := by
  constructor
  · intro h
    refine ⟨fun j hj k hk => ?_, fun j hj k hk => ?_⟩
    · rw [h j (by rw [List.length_append]; omega) k hk, getD_l _ _ _ hj]
    · have := h (as.length + j) (by rw [List.length_append]; omega) k hk
      rw [getD_r _ _ _ (by omega), show as.length + j - as.length = j by omega] at this
      rw [← this, show p + (as.length : Int) + (j : Int) = p + ((as.length + j : Nat) : Int) by push_cast; omega]
  · rintro ⟨h1, h2⟩ j hj k hk
    rw [List.length_append] at hj
    rcases Nat.lt_or_ge j as.length with z | z
    · rw [h1 j z k hk, getD_l _ _ _ z]
    · rw [getD_r _ _ _ z, ← h2 (j - as.length) (by omega) k hk]
      congr 1
      omega
