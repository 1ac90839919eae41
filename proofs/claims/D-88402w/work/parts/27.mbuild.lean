/-! ===== what a step makes: in plain words ===== -/
set_option maxRecDepth 100000
/-- what a list is, by its parts -/
def spJ (n named first second : Int) : Int := if named = 0 then 2 else if n = 4 ∧ first = 7628140 ∧ second ≠ 0 then 4 else if n = 3 ∧ first = 7239014 ∧ second ≠ 0 then 5 else 3
/-- laid at the end, if there is room -/
def upL (f : Int → Int) (k z : Int) : Int → Int := if k < 500 then upI f k z else f
/-- items side by side: from i on, c rows, the next one begins at x -/
def sdN (room : Int → Int) : Nat → Int → Int → Int
  | 0, _, _ => 0
  | c + 1, i, x => if i = x then 1 + sdN room c (i + 1) (i + room i) else sdN room c (i + 1) x
theorem sdN_in (room : Int → Int) : ∀ (c : Nat) (i x : Int), 0 ≤ sdN room c i x ∧ sdN room c i x ≤ c := by
  intro c
  induction c with
  | zero => intro i x; simp [sdN]
  | succ c ih =>
    intro i x
    unfold sdN
    split
    · have := ih (i + 1) (i + room i); omega
    · have := ih (i + 1) x; omega
/-- the first pattern from p on, among c, that is a variable of a name -/
def spVarF (S : MSt) (v : Int) : Nat → Int → Int
  | 0, _ => -9
  | c + 1, p => if (S.2 34 p = 6 ∨ S.2 34 p = 7) ∧ S.2 35 p = v then p else spVarF S v c (p + 1)
def spVar (S : MSt) (r v : Int) : Int := spVarF S v (S.2 33 r - S.2 32 r).toNat (S.2 32 r)
theorem spVarF_in (S : MSt) (v : Int) : ∀ (c : Nat) (p : Int), spVarF S v c p = -9 ∨ (p ≤ spVarF S v c p ∧ spVarF S v c p < p + c ∧ (S.2 34 (spVarF S v c p) = 6 ∨ S.2 34 (spVarF S v c p) = 7) ∧ S.2 35 (spVarF S v c p) = v) := by
  intro c
  induction c with
  | zero => intro p; exact Or.inl rfl
  | succ c ih =>
    intro p
    unfold spVarF
    by_cases h : (S.2 34 p = 6 ∨ S.2 34 p = 7) ∧ S.2 35 p = v
    · rw [if_pos h]; exact Or.inr ⟨Int.le_refl _, by omega, h.1, h.2⟩
    · rw [if_neg h]
      rcases ih (p + 1) with q | q
      · exact Or.inl q
      · exact Or.inr ⟨by omega, by omega, q.2.2.1, q.2.2.2⟩
/-- a row: what, worth, mark, from, maker, room, parts -/
def rw7 (a b c d e f g : Int) (k : Nat) : Int := match k with | 0 => a | 1 => b | 2 => c | 3 => d | 4 => e | 5 => f | _ => g
def noR : Nat → Int := fun _ => 0
/-- m rows of the term from a on -/
def cpR (S : MSt) (a : Int) (m : Nat) : List (Nat → Int) := (List.range m).map (fun (j : Nat) => rw7 (S.2 41 (a + (j : Int))) (S.2 42 (a + (j : Int))) (S.2 43 (a + (j : Int))) (S.2 44 (a + (j : Int))) (S.2 45 (a + (j : Int))) (S.2 46 (a + (j : Int))) (S.2 47 (a + (j : Int))))
theorem cpR_len (S : MSt) (a : Int) (m : Nat) : (cpR S a m).length = m := by simp [cpR]
/-- the pattern that a node of a template stands for; -9 -/
def bP (S : MSt) (r t : Int) : Int := if S.2 34 t = 6 ∨ S.2 34 t = 7 then spVar S r (S.2 35 t) else -9
/-- the mark of names that come new -/
def bOwn (S : MSt) (r i : Int) : Int := if S.2 31 r = 0 then S.1 49 + 1 else S.2 43 (i + 1)
/-- what one node of a template lays when it is met (of a list its own row, as it is at first), how many side by side -/
def bN (S : MSt) (r i t : Int) : List (Nat → Int) × Int :=
  if S.2 34 t = 2 then ([rw7 2 0 (-9) (S.2 36 t) (S.1 49 + 1) 1 0], 1)
  else if bP S r t ≠ -9 then (cpR S (spFrom S r i (bP S r t)) (spTo S r i (bP S r t) - spFrom S r i (bP S r t)).toNat, sdN (S.2 46) (spTo S r i (bP S r t) - spFrom S r i (bP S r t)).toNat (spFrom S r i (bP S r t)) (spFrom S r i (bP S r t)))
  else if S.2 34 t = 0 then ([rw7 0 (S.2 35 t) (-9) (S.2 36 t) (S.1 49 + 1) 1 0], 1)
  else ([rw7 1 (S.2 35 t) (bOwn S r i) (S.2 36 t) (S.1 49 + 1) 1 0], 1)
/-- a list's own row, by the rows of its parts and how many they are -/
def bHd (S : MSt) (t : Int) (cs : List (Nat → Int)) (m : Int) : Nat → Int :=
  rw7 (spJ m (bI (decide (0 < m) && decide (cs.getD 0 noR 0 = 1))) (if 0 < m ∧ cs.getD 0 noR 0 = 1 then cs.getD 0 noR 1 else 0) (bI (decide (1 < m) && decide (cs.getD (cs.getD 0 noR 5).toNat noR 0 = 1)))) 0 (-9) (S.2 36 t) (S.1 49 + 1) (1 + cs.length) m
/-- WHAT A TEMPLATE MAKES: nodes t .. te, side by side: rows, how many items side by side -/
def bdS (S : MSt) (r i : Int) : Nat → Int → Int → List (Nat → Int) × Int
  | 0, _, _ => ([], 0)
  | f + 1, t, te =>
    if te ≤ t then ([], 0)
    else if S.2 34 t = 2 then (bHd S t (bdS S r i f (t + 1) (t + S.2 37 t)).1 (bdS S r i f (t + 1) (t + S.2 37 t)).2 :: (bdS S r i f (t + 1) (t + S.2 37 t)).1 ++ (bdS S r i f (t + S.2 37 t) te).1, 1 + (bdS S r i f (t + S.2 37 t) te).2)
    else ((bN S r i t).1 ++ (bdS S r i f (t + 1) te).1, (bN S r i t).2 + (bdS S r i f (t + 1) te).2)
abbrev FF : Type := Nat → Int → Int
def up2 (F : FF) (k : Nat) (f : Int → Int) : FF := fun j => if j = k then f else F j
/-- rows are laid from fr on -/
def bLay (F : FF) (fr : Int) (rows : List (Nat → Int)) : FF := fun k j => if 57 ≤ k ∧ k ≤ 63 ∧ fr ≤ j ∧ j < fr + rows.length ∧ j < 500 then rows.getD (j - fr).toNat noR (k - 57) else F k j
def bEnd (fr l : Int) (F : FF) : FF := if 500 < fr then F else
  up2 (up2 F 62 (upI (F 62) l (fr - l))) 57 (upI (F 57) l (spJ (F 63 l) (bI (decide (0 < F 63 l) && decide (F 57 (l + 1) = 1))) (if 0 < F 63 l ∧ F 57 (l + 1) = 1 then F 58 (l + 1) else 0) (bI (decide (1 < F 63 l) && decide (F 57 (l + 1 + F 62 (l + 1)) = 1)))))
def bPop (t fr : Int) : List (Int × Int) → FF → List (Int × Int) × FF
  | [], F => ([], F)
  | (l, e) :: s, F => if e = t then bPop t fr s (bEnd fr l F) else ((l, e) :: s, F)
def bAdd (stk : List (Int × Int)) (n : Int) (F : FF) : FF := match stk with
  | [] => F
  | (l, _) :: _ => if l < 500 then up2 F 63 (upI (F 63) l (F 63 l + n)) else F
def bPu (S : MSt) (t fr : Int) (stk : List (Int × Int)) : List (Int × Int) := if S.2 34 t = 2 then (fr, t + S.2 37 t) :: stk else stk
/-- THE MODEL's PASS over a template -/
def bM (S : MSt) (r i E : Int) : Nat → Int → List (Int × Int) → Int → FF → Int × FF
  | 0, _, _, fr, F => (fr, F)
  | f + 1, t, stk, fr, F =>
    if E ≤ t then (fr, F)
    else bM S r i E f (t + 1) (bPop (t + 1) (fr + (bN S r i t).1.length) (bPu S t fr stk) (bAdd stk (bN S r i t).2 (bLay F fr (bN S r i t).1))).1 (fr + (bN S r i t).1.length) (bPop (t + 1) (fr + (bN S r i t).1.length) (bPu S t fr stk) (bAdd stk (bN S r i t).2 (bLay F fr (bN S r i t).1))).2
/-- what endList asks -/
def bEok (fr l : Int) (F : FF) : Prop := fr ≤ 500 → 0 ≤ l ∧ l < fr ∧ iR (F 63 l) ∧ (0 < F 63 l → l + 1 < 500 ∧ iR (F 57 (l + 1)) ∧ lR (F 58 (l + 1))) ∧ (1 < F 63 l → 1 ≤ F 62 (l + 1) ∧ l + 1 + F 62 (l + 1) < 500 ∧ iR (F 57 (l + 1 + F 62 (l + 1))))
def bPok (t fr : Int) : List (Int × Int) → FF → Prop
  | [], _ => True
  | (l, e) :: s, F => iR e ∧ (e = t → bEok fr l F ∧ bPok t fr s (bEnd fr l F))
/-- what the pass asks -/
def bOk (S : MSt) (r i E : Int) : Nat → Int → List (Int × Int) → Int → FF → Prop
  | 0, _, _, _, _ => True
  | f + 1, t, stk, fr, F => E ≤ t ∨ (stk.length ≤ 15 ∧ (0 ≤ fr ∧ fr ≤ 800000) ∧ (∀ l e s, stk = (l, e) :: s → 0 ≤ l ∧ l ≤ 1000000) ∧
      (bP S r t ≠ -9 → 0 ≤ spFrom S r i (bP S r t) ∧ spFrom S r i (bP S r t) ≤ spTo S r i (bP S r t) ∧ spTo S r i (bP S r t) ≤ S.1 40) ∧
      bPok (t + 1) (fr + (bN S r i t).1.length) (bPu S t fr stk) (bAdd stk (bN S r i t).2 (bLay F fr (bN S r i t).1)) ∧
      bOk S r i E f (t + 1) (bPop (t + 1) (fr + (bN S r i t).1.length) (bPu S t fr stk) (bAdd stk (bN S r i t).2 (bLay F fr (bN S r i t).1))).1 (fr + (bN S r i t).1.length) (bPop (t + 1) (fr + (bN S r i t).1.length) (bPu S t fr stk) (bAdd stk (bN S r i t).2 (bLay F fr (bN S r i t).1))).2)
/-- openAt, openEnd hold the lists that are open -/
def stR : List (Int × Int) → (Int → Int) → (Int → Int) → Prop
  | [], _, _ => True
  | (l, e) :: s, a, b => a s.length = l ∧ b s.length = e ∧ stR s a b
theorem stR_up {s : List (Int × Int)} {a b : Int → Int} (h : stR s a b) {k : Int} (hk : s.length ≤ k) (x y : Int) : stR s (upI a k x) (upI b k y) := by
  induction s with
  | nil => trivial
  | cons q s ih =>
    obtain ⟨l, e⟩ := q
    obtain ⟨h1, h2, h3⟩ := h
    simp only [List.length_cons] at hk
    exact ⟨by rw [upI_n (by omega)]; exact h1, by rw [upI_n (by omega)]; exact h2, ih h3 (by omega)⟩
theorem bN_len1 {S : MSt} {r i t : Int} (h : S.2 34 t = 2) : bN S r i t = ([rw7 2 0 (-9) (S.2 36 t) (S.1 49 + 1) 1 0], 1) := if_pos h
/-- one row laid, array by array -/
theorem bLay1 (F : FF) (fr : Int) (a b c d e f g : Int) : bLay F fr [rw7 a b c d e f g] 57 = upL (F 57) fr a ∧ bLay F fr [rw7 a b c d e f g] 58 = upL (F 58) fr b ∧ bLay F fr [rw7 a b c d e f g] 59 = upL (F 59) fr c ∧ bLay F fr [rw7 a b c d e f g] 60 = upL (F 60) fr d ∧ bLay F fr [rw7 a b c d e f g] 61 = upL (F 61) fr e ∧ bLay F fr [rw7 a b c d e f g] 62 = upL (F 62) fr f ∧ bLay F fr [rw7 a b c d e f g] 63 = upL (F 63) fr g := by
  have key : ∀ (k : Nat), 57 ≤ k ∧ k ≤ 63 → bLay F fr [rw7 a b c d e f g] k = upL (F k) fr (rw7 a b c d e f g (k - 57)) := by
    intro k hk
    funext j
    unfold bLay upL
    by_cases hj : j = fr
    · subst hj
      by_cases h5 : j < 500
      · rw [if_pos ⟨hk.1, hk.2, Int.le_refl _, by simp only [List.length_singleton]; omega, h5⟩, if_pos h5, upI_s]; simp
      · rw [if_neg (by omega), if_neg h5]
    · rw [if_neg (by simp; omega)]
      split
      · rw [upI_n hj]
      · rfl
  exact ⟨key 57 (by decide), key 58 (by decide), key 59 (by decide), key 60 (by decide), key 61 (by decide), key 62 (by decide), key 63 (by decide)⟩
/-- copies laid, array by array -/
theorem bLayC (S : MSt) (F : FF) (fr a : Int) (m : Nat) (k : Nat) (hk : 57 ≤ k ∧ k ≤ 63) (f : Int → Int) (hf : ∀ j, f j = if fr ≤ j ∧ j < fr + m ∧ j < 500 then S.2 (k - 16) (a + (j - fr)) else F k j) : f = bLay F fr (cpR S a m) k := by
  funext j
  rw [hf j]
  unfold bLay
  rw [cpR_len]
  by_cases h : fr ≤ j ∧ j < fr + m ∧ j < 500
  · rw [if_pos h, if_pos ⟨hk.1, hk.2, h⟩]
    have hl : (j - fr).toNat < m := by omega
    simp only [cpR, List.getD_eq_getElem?_getD, List.getElem?_map, List.getElem?_range hl, Option.map_some, Option.getD_some]
    rw [show ((j - fr).toNat : Int) = j - fr by omega]
    rcases (show k = 57 ∨ k = 58 ∨ k = 59 ∨ k = 60 ∨ k = 61 ∨ k = 62 ∨ k = 63 by omega) with rfl | rfl | rfl | rfl | rfl | rfl | rfl <;> rfl
  · rw [if_neg h, if_neg (fun z => h z.2.2)]
theorem bM_s (S : MSt) (r i E : Int) (f : Nat) (t : Int) (stk : List (Int × Int)) (fr : Int) (F : FF) : bM S r i E (f + 1) t stk fr F = if E ≤ t then (fr, F) else bM S r i E f (t + 1) (bPop (t + 1) (fr + (bN S r i t).1.length) (bPu S t fr stk) (bAdd stk (bN S r i t).2 (bLay F fr (bN S r i t).1))).1 (fr + (bN S r i t).1.length) (bPop (t + 1) (fr + (bN S r i t).1.length) (bPu S t fr stk) (bAdd stk (bN S r i t).2 (bLay F fr (bN S r i t).1))).2 := rfl
theorem bOk_s (S : MSt) (r i E : Int) (f : Nat) (t : Int) (stk : List (Int × Int)) (fr : Int) (F : FF) : bOk S r i E (f + 1) t stk fr F = (E ≤ t ∨ (stk.length ≤ 15 ∧ (0 ≤ fr ∧ fr ≤ 800000) ∧ (∀ l e s, stk = (l, e) :: s → 0 ≤ l ∧ l ≤ 1000000) ∧
      (bP S r t ≠ -9 → 0 ≤ spFrom S r i (bP S r t) ∧ spFrom S r i (bP S r t) ≤ spTo S r i (bP S r t) ∧ spTo S r i (bP S r t) ≤ S.1 40) ∧
      bPok (t + 1) (fr + (bN S r i t).1.length) (bPu S t fr stk) (bAdd stk (bN S r i t).2 (bLay F fr (bN S r i t).1)) ∧
      bOk S r i E f (t + 1) (bPop (t + 1) (fr + (bN S r i t).1.length) (bPu S t fr stk) (bAdd stk (bN S r i t).2 (bLay F fr (bN S r i t).1))).1 (fr + (bN S r i t).1.length) (bPop (t + 1) (fr + (bN S r i t).1.length) (bPu S t fr stk) (bAdd stk (bN S r i t).2 (bLay F fr (bN S r i t).1))).2)) := rfl
theorem bPop_c (t fr l e : Int) (s : List (Int × Int)) (F : FF) : bPop t fr ((l, e) :: s) F = if e = t then bPop t fr s (bEnd fr l F) else ((l, e) :: s, F) := rfl
theorem bPok_c (t fr l e : Int) (s : List (Int × Int)) (F : FF) : bPok t fr ((l, e) :: s) F = (iR e ∧ (e = t → bEok fr l F ∧ bPok t fr s (bEnd fr l F))) := rfl
theorem spVarF_pr {S S' : MSt} (h34 : S'.2 34 = S.2 34) (h35 : S'.2 35 = S.2 35) (v : Int) : ∀ (c : Nat) (p : Int), spVarF S' v c p = spVarF S v c p := by
  intro c
  induction c with
  | zero => intro p; rfl
  | succ c ih => intro p; unfold spVarF; rw [ih, h34, h35]
theorem spVar_pr {S S' : MSt} (h : ∀ k, 30 ≤ k ∧ k ≤ 39 → S'.2 k = S.2 k) {r v : Int} : spVar S' r v = spVar S r v := by
  unfold spVar
  rw [spVarF_pr (h 34 (by decide)) (h 35 (by decide)), h 32 (by decide), h 33 (by decide)]
theorem spVar_in (S : MSt) (r v : Int) : spVar S r v = -9 ∨ (S.2 32 r ≤ spVar S r v ∧ spVar S r v < S.2 33 r ∧ (S.2 34 (spVar S r v) = 6 ∨ S.2 34 (spVar S r v) = 7) ∧ S.2 35 (spVar S r v) = v) := by
  rcases spVarF_in S v (S.2 33 r - S.2 32 r).toNat (S.2 32 r) with h | h
  · exact Or.inl h
  · exact Or.inr ⟨h.1, by have := h.2.1; show spVarF _ _ _ _ < _; omega, h.2.2.1, h.2.2.2⟩
theorem mP_FF {S : MSt} {F F' : FF} {a b : Int → Int} {sc : List (Nat × Int)} (h : ∀ k, 57 ≤ k → k ≤ 63 → F k = F' k) : mP S [(57, F 57), (58, F 58), (59, F 59), (60, F 60), (61, F 61), (62, F 62), (63, F 63), (64, a), (65, b)] sc = mP S [(57, F' 57), (58, F' 58), (59, F' 59), (60, F' 60), (61, F' 61), (62, F' 62), (63, F' 63), (64, a), (65, b)] sc := by
  rw [h 57 (by decide) (by decide), h 58 (by decide) (by decide), h 59 (by decide) (by decide), h 60 (by decide) (by decide), h 61 (by decide) (by decide), h 62 (by decide) (by decide), h 63 (by decide) (by decide)]
/-- the rows that are made, as they lie at first -/
def fm (S : MSt) : FF := fun k => if 57 ≤ k ∧ k ≤ 63 then S.2 k else fun _ => 0
section MV
variable (S : MSt) (u v : Int → Int)
theorem spFrom_m (r i q : Int) : spFrom (mP S [(54, u), (55, v)] []) r i q = spFrom S r i q := by rw [← spFrom_tv, tv_mP, spFrom_tv]
theorem spTo_m (r i q : Int) : spTo (mP S [(54, u), (55, v)] []) r i q = spTo S r i q := by rw [← spTo_tv, tv_mP, spTo_tv]
theorem m_get2 {k : Nat} (h : k ≠ 54) (h2 : k ≠ 55) : (mP S [(54, u), (55, v)] []).2 k = S.2 k := by
  show (lk [(54, u), (55, v)] k).getD (S.2 k) = S.2 k
  rw [lk_c, lk_c, if_neg h, if_neg h2]; rfl
theorem bP_m (r t : Int) : bP (mP S [(54, u), (55, v)] []) r t = bP S r t := by
  unfold bP
  rw [spVar_pr (fun k h => m_get2 S u v (by omega) (by omega)), m_get2 S u v (k := 34) (by decide) (by decide), m_get2 S u v (k := 35) (by decide) (by decide)]
theorem bN_m (r i t : Int) : bN (mP S [(54, u), (55, v)] []) r i t = bN S r i t := by
  unfold bN
  rw [bP_m, spFrom_m, spTo_m]
  rfl
theorem fm_m : fm (mP S [(54, u), (55, v)] []) = fm S := by
  funext k
  unfold fm
  by_cases h : 57 ≤ k ∧ k ≤ 63
  · rw [if_pos h, if_pos h, m_get2 S u v (by omega) (by omega)]
  · rw [if_neg h, if_neg h]
theorem bM_m (r i E : Int) : ∀ (f : Nat) (t : Int) (stk : List (Int × Int)) (fr : Int) (F : FF), bM (mP S [(54, u), (55, v)] []) r i E f t stk fr F = bM S r i E f t stk fr F := by
  intro f
  induction f with
  | zero => intros; rfl
  | succ f ih =>
    intro t stk fr F
    rw [bM_s, bM_s, ih, bN_m]
    rfl
theorem bOk_m (r i E : Int) : ∀ (f : Nat) (t : Int) (stk : List (Int × Int)) (fr : Int) (F : FF), bOk (mP S [(54, u), (55, v)] []) r i E f t stk fr F = bOk S r i E f t stk fr F := by
  intro f
  induction f with
  | zero => intros; rfl
  | succ f ih =>
    intro t stk fr F
    rw [bOk_s, bOk_s, ih, bN_m, bP_m, spFrom_m, spTo_m]
    rfl
end MV
/-- where a rule's template ends -/
def tE (S : MSt) (r : Int) : Int := S.2 33 r + S.2 37 (S.2 33 r)
/-- a step, done with rule ru: fr rows F come in the place of item i -/
def StepR (S : MSt) (i ru fr : Int) (F : FF) (S' : MSt) : Prop :=
  (S'.1 40 = S.1 40 + (fr - S.2 46 i) ∧ S'.1 49 = S.1 49 + 1 ∧ S'.1 53 = S.1 53 + fr ∧ S'.1 66 = (if S.1 49 < 5 then S.1 49 + 1 else 6) ∧ S'.1 67 = S.1 67 + S.2 46 i) ∧
  (∀ k, k ≠ 40 → k ≠ 49 → k ≠ 53 → k ≠ 56 → k ≠ 66 → k ≠ 67 → S'.1 k = S.1 k) ∧
  (∀ j, 0 ≤ j → j < S.1 40 + (fr - S.2 46 i) → S'.2 41 j = spl i fr (fr - S.2 46 i) (S.2 41) (F 57) j ∧ S'.2 42 j = spl i fr (fr - S.2 46 i) (S.2 42) (F 58) j ∧ S'.2 43 j = spl i fr (fr - S.2 46 i) (S.2 43) (F 59) j ∧ S'.2 44 j = spl i fr (fr - S.2 46 i) (S.2 44) (F 60) j ∧ S'.2 45 j = spl i fr (fr - S.2 46 i) (S.2 45) (F 61) j ∧ S'.2 46 j = spl i fr (fr - S.2 46 i) (rmA i (fr - S.2 46 i) (S.2 46)) (F 62) j ∧ S'.2 47 j = spl i fr (fr - S.2 46 i) (S.2 47) (F 63) j) ∧
  TI (S.1 40 + (fr - S.2 46 i)) (S'.2 41) (S'.2 46) (S'.2 47) (S'.2 48) ∧
  (S'.2 50 = upI (S.2 50) (S.1 49 + 1) ru ∧ S'.2 51 = upI (S.2 51) (S.1 49 + 1) (S.2 44 (i + 1)) ∧ S'.2 52 = upI (S.2 52) (S.1 49 + 1) (S.2 45 (i + 1))) ∧
  (S'.2 68 = upI (S.2 68) (S.1 49) (S.1 67) ∧ S'.2 69 = upI (S.2 69) (S.1 49) i ∧ S'.2 70 = upI (S.2 70) (S.1 49) fr) ∧
  (∀ j, S'.2 71 j = (if S.1 67 ≤ j ∧ j < S.1 67 + S.2 46 i then S.2 41 (i + (j - S.1 67)) else S.2 71 j) ∧ S'.2 72 j = (if S.1 67 ≤ j ∧ j < S.1 67 + S.2 46 i then S.2 42 (i + (j - S.1 67)) else S.2 72 j) ∧ S'.2 73 j = (if S.1 67 ≤ j ∧ j < S.1 67 + S.2 46 i then S.2 43 (i + (j - S.1 67)) else S.2 73 j) ∧ S'.2 74 j = (if S.1 67 ≤ j ∧ j < S.1 67 + S.2 46 i then S.2 44 (i + (j - S.1 67)) else S.2 74 j) ∧ S'.2 75 j = (if S.1 67 ≤ j ∧ j < S.1 67 + S.2 46 i then S.2 45 (i + (j - S.1 67)) else S.2 75 j) ∧ S'.2 76 j = (if S.1 67 ≤ j ∧ j < S.1 67 + S.2 46 i then S.2 46 (i + (j - S.1 67)) else S.2 76 j) ∧ S'.2 77 j = (if S.1 67 ≤ j ∧ j < S.1 67 + S.2 46 i then S.2 47 (i + (j - S.1 67)) else S.2 77 j)) ∧
  (∀ k, k ≤ 40 ∨ 78 ≤ k → S'.2 k = S.2 k)
/-- nothing of the term, the rules, the steps has changed: only what is laid down in passing -/
def Pass (S S' : MSt) : Prop := (∀ k, k ≠ 56 → S'.1 k = S.1 k) ∧ ∀ k, k < 54 ∨ 65 < k ∨ k = 56 → S'.2 k = S.2 k
/-- what a step rests on: the pass over the template looks where it may, and what comes of it is rows of a term -/
def StepOk (S : MSt) (i : Int) : Prop := spRule S i 13 0 ≠ -9 → bOk S (spRule S i 13 0) i (tE S (spRule S i 13 0)) ((tE S (spRule S i 13 0) - S.2 33 (spRule S i 13 0)).toNat + 1) (S.2 33 (spRule S i 13 0)) [] 0 (fm S) ∧
  ∀ fr F, bM S (spRule S i 13 0) i (tE S (spRule S i 13 0)) ((tE S (spRule S i 13 0) - S.2 33 (spRule S i 13 0)).toNat + 1) (S.2 33 (spRule S i 13 0)) [] 0 (fm S) = (fr, F) → (1 ≤ fr ∧ fr ≤ 1000000) ∧ (fr ≤ 500 → S.1 40 + (fr - S.2 46 i) ≤ 500 → TW (S.1 40 + (fr - S.2 46 i)) (spl i fr (fr - S.2 46 i) (S.2 41) (F 57)) (spl i fr (fr - S.2 46 i) (rmA i (fr - S.2 46 i) (S.2 46)) (F 62)) (spl i fr (fr - S.2 46 i) (S.2 47) (F 63)))
def spFull (S : MSt) (i fr : Int) : Prop := 500 < fr ∨ 500 < S.1 40 - S.2 46 i + fr ∨ S.1 49 = 300 ∨ 30000 < S.1 53 + fr
