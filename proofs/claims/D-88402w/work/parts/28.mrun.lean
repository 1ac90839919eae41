/-! ===== runs of steps, in plain words ===== -/
set_option maxRecDepth 100000
section MV2
variable {S : MSt} {u v : Int → Int} {i ru fr : Int} {F : FF} {S' : MSt}
theorem spRule_m (i : Int) (f : Nat) (r : Int) : spRule (mP S [(54, u), (55, v)] []) i f r = spRule S i f r := by rw [← spRule_tv, tv_mP, spRule_tv]
theorem spReady_m (i : Int) : spReady (mP S [(54, u), (55, v)] []) i = spReady S i := by rw [← spReady_tv, tv_mP, spReady_tv]
theorem StepR_m (h : StepR (mP S [(54, u), (55, v)] []) i ru fr F S') : StepR S i ru fr F S' := by
  obtain ⟨h1, h2, h3, h4, h5, h6, h7, h8⟩ := h
  exact ⟨h1, h2, h3, h4, h5, h6, h7, fun k hk => by rw [h8 k hk]; exact m_get2 S u v (by omega) (by omega)⟩
theorem Pass_m (h : Pass (mP S [(54, u), (55, v)] []) S') : Pass S S' := ⟨h.1, fun k hk => by rw [h.2 k hk]; exact m_get2 S u v (by omega) (by omega)⟩
theorem Pass_mP : Pass S (mP S [(54, u), (55, v)] []) := ⟨fun k _ => rfl, fun k hk => m_get2 S u v (by omega) (by omega)⟩
theorem Pass.rf : Pass S S := ⟨fun _ _ => rfl, fun _ _ => rfl⟩
theorem StepOk_m (h : StepOk S i) : StepOk (mP S [(54, u), (55, v)] []) i := by
  unfold StepOk at *
  rw [spRule_m]
  intro hr
  have := h hr
  rw [bOk_m, fm_m]
  refine ⟨this.1, fun fr F hb => ?_⟩
  rw [bM_m] at hb
  exact this.2 fr F hb
end MV2
theorem spReady_call {S : MSt} {i : Int} (h : spReady S i = true) : S.2 41 i = 3 ∧ spRule S i 13 0 ≠ -9 := by
  unfold spReady spCall at h
  simp only [Bool.and_eq_true, decide_eq_true_eq] at h
  exact ⟨h.1.1.1.1, h.2⟩
theorem spNth_in (S : MSt) : ∀ (c : Nat) (k n : Int), spNth S c k n = -9 ∨ (k ≤ spNth S c k n ∧ spNth S c k n < k + c ∧ spReady S (spNth S c k n) = true) := by
  intro c
  induction c with
  | zero => intro k n; exact Or.inl rfl
  | succ c ih =>
    intro k n
    rw [spNth_s]
    by_cases h : spReady S k = true
    · rw [if_pos h]
      by_cases hn : n = 0
      · rw [if_pos hn]; exact Or.inr ⟨Int.le_refl _, by omega, h⟩
      · rw [if_neg hn]
        rcases ih (k + 1) (n - 1) with q | q
        · exact Or.inl q
        · exact Or.inr ⟨by omega, by omega, q.2.2⟩
    · rw [if_neg h]
      rcases ih (k + 1) n with q | q
      · exact Or.inl q
      · exact Or.inr ⟨by omega, by omega, q.2.2⟩
theorem spLast_in (S : MSt) : ∀ (c : Nat) (k d : Int), spLast S c k d = d ∨ (k ≤ spLast S c k d ∧ spLast S c k d < k + c ∧ spReady S (spLast S c k d) = true) := by
  intro c
  induction c with
  | zero => intro k d; exact Or.inl rfl
  | succ c ih =>
    intro k d
    rw [spLast_s]
    by_cases h : spReady S k = true
    · rw [if_pos h]
      rcases ih (k + 1) k with q | q
      · rw [q]; exact Or.inr ⟨Int.le_refl _, by omega, h⟩
      · exact Or.inr ⟨by omega, by omega, q.2.2⟩
    · rw [if_neg h]
      rcases ih (k + 1) d with q | q
      · exact Or.inl q
      · exact Or.inr ⟨by omega, by omega, q.2.2⟩
/-- the call that a run takes next; -9 -/
def spPick (S : MSt) (last : Int) : Int := if last = 0 then spNth S (S.1 40).toNat 0 0 else spLast S (S.1 40).toNat 0 (-9)
theorem spPick_in (S : MSt) (hn : 0 ≤ S.1 40) (last : Int) : spPick S last = -9 ∨ (0 ≤ spPick S last ∧ spPick S last < S.1 40 ∧ spReady S (spPick S last) = true) := by
  unfold spPick
  split
  · rcases spNth_in S (S.1 40).toNat 0 0 with q | q
    · exact Or.inl q
    · exact Or.inr ⟨by omega, by omega, q.2.2⟩
  · rcases spLast_in S (S.1 40).toNat 0 (-9) with q | q
    · exact Or.inl q
    · exact Or.inr ⟨by omega, by omega, q.2.2⟩
/-- what the Model's pass makes of the call i by its rule -/
abbrev bRes (S : MSt) (i : Int) : Int × FF := bM S (spRule S i 13 0) i (tE S (spRule S i 13 0)) ((tE S (spRule S i 13 0) - S.2 33 (spRule S i 13 0)).toNat + 1) (S.2 33 (spRule S i 13 0)) [] 0 (fm S)
/-- what is kept from step to step -/
def RunI (Inv : MSt → Prop) : Prop :=
  (∀ S, Inv S → MT S ∧ MP S ∧ (0 ≤ S.1 49 ∧ S.1 49 ≤ 300) ∧ (0 ≤ S.1 53 ∧ S.1 53 ≤ 30000) ∧ (0 ≤ S.1 67 ∧ S.1 67 + S.1 40 ≤ 500 + S.1 53) ∧ ∀ i, 0 ≤ i → i < S.1 40 → spReady S i = true → StepOk S i) ∧
  (∀ S i S', Inv S → 0 ≤ i → i < S.1 40 → spReady S i = true → ¬ spFull S i (bRes S i).1 → StepR S i (spRule S i 13 0) (bRes S i).1 (bRes S i).2 S' → Inv S') ∧
  (∀ S S', Inv S → Pass S S' → Inv S')
/-- one step of a run -/
def RunS (last : Int) (S S' : MSt) : Prop := spPick S last ≠ -9 ∧ ¬ spFull S (spPick S last) (bRes S (spPick S last)).1 ∧ StepR S (spPick S last) (spRule S (spPick S last) 13 0) (bRes S (spPick S last)).1 (bRes S (spPick S last)).2 S'
/-- no further one -/
def RunE (last : Int) (S : MSt) : Prop := spPick S last = -9 ∨ spFull S (spPick S last) (bRes S (spPick S last)).1
/-- k steps, one behind the other -/
def RunQ (last : Int) : Nat → MSt → MSt → Prop
  | 0, S, S' => S' = S
  | k + 1, S, S' => ∃ S1, RunQ last k S S1 ∧ RunS last S1 S'
/-- what step answers and does, said of the state ahead of the look for a rule -/
theorem step_m {S : MSt} {u v : Int → Int} {i r : Int} {S' : MSt} (h : (r = -4 ∧ ∃ fr F, bM (mP S [(54, u), (55, v)] []) (spRule (mP S [(54, u), (55, v)] []) i 13 0) i (tE (mP S [(54, u), (55, v)] []) (spRule (mP S [(54, u), (55, v)] []) i 13 0)) ((tE (mP S [(54, u), (55, v)] []) (spRule (mP S [(54, u), (55, v)] []) i 13 0) - (mP S [(54, u), (55, v)] []).2 33 (spRule (mP S [(54, u), (55, v)] []) i 13 0)).toNat + 1) ((mP S [(54, u), (55, v)] []).2 33 (spRule (mP S [(54, u), (55, v)] []) i 13 0)) [] 0 (fm (mP S [(54, u), (55, v)] [])) = (fr, F) ∧ spFull (mP S [(54, u), (55, v)] []) i fr ∧ Pass (mP S [(54, u), (55, v)] []) S') ∨ (∃ fr F, bM (mP S [(54, u), (55, v)] []) (spRule (mP S [(54, u), (55, v)] []) i 13 0) i (tE (mP S [(54, u), (55, v)] []) (spRule (mP S [(54, u), (55, v)] []) i 13 0)) ((tE (mP S [(54, u), (55, v)] []) (spRule (mP S [(54, u), (55, v)] []) i 13 0) - (mP S [(54, u), (55, v)] []).2 33 (spRule (mP S [(54, u), (55, v)] []) i 13 0)).toNat + 1) ((mP S [(54, u), (55, v)] []).2 33 (spRule (mP S [(54, u), (55, v)] []) i 13 0)) [] 0 (fm (mP S [(54, u), (55, v)] [])) = (fr, F) ∧ ¬ spFull (mP S [(54, u), (55, v)] []) i fr ∧ r = spRule (mP S [(54, u), (55, v)] []) i 13 0 ∧ StepR (mP S [(54, u), (55, v)] []) i (spRule (mP S [(54, u), (55, v)] []) i 13 0) fr F S')) :
    (r = -4 ∧ spFull S i (bRes S i).1 ∧ Pass S S') ∨ (¬ spFull S i (bRes S i).1 ∧ r = spRule S i 13 0 ∧ StepR S i (spRule S i 13 0) (bRes S i).1 (bRes S i).2 S') := by
  rw [spRule_m, fm_m] at h
  rcases h with ⟨h1, fr, F, h2, h3, h4⟩ | ⟨fr, F, h2, h3, h4, h5⟩
  · rw [bM_m] at h2
    have h2 : bRes S i = (fr, F) := h2
    left
    rw [h2]
    exact ⟨h1, h3, Pass_m h4⟩
  · rw [bM_m] at h2
    have h2 : bRes S i = (fr, F) := h2
    right
    rw [h2]
    exact ⟨h3, h4, StepR_m h5⟩
theorem spl_congr {c fr m : Int} {g F F' : Int → Int} (h : ∀ x, 0 ≤ x → x < fr → F x = F' x) (j : Int) : spl c fr m g F j = spl c fr m g F' j := by
  unfold spl
  by_cases h1 : j < c
  · rw [if_pos h1, if_pos h1]
  · rw [if_neg h1, if_neg h1]
    by_cases h2 : j < c + fr
    · rw [if_pos h2, if_pos h2]; exact h (j - c) (by omega) (by omega)
    · rw [if_neg h2, if_neg h2]
/-- where the last step stood, where what it took away lies, how much that is -/
def bkC (S : MSt) : Int := S.2 69 (S.1 49 - 1)
def bkG (S : MSt) : Int := S.2 68 (S.1 49 - 1)
def bkN (S : MSt) : Int := S.1 67 - bkG S
def bkM (S : MSt) : Int := bkN S - S.2 46 (bkC S)
def bkF (S : MSt) (k : Nat) : Int → Int := fun j => S.2 (k + 14) (bkG S + j)
/-- the last step is undone -/
def BackR (S S' : MSt) : Prop :=
  (S'.1 40 = S.1 40 + bkM S ∧ S'.1 49 = S.1 49 - 1 ∧ S'.1 66 = S.1 66 - 1 ∧ S'.1 67 = bkG S) ∧
  (∀ k, k ≠ 40 → k ≠ 49 → k ≠ 56 → k ≠ 66 → k ≠ 67 → S'.1 k = S.1 k) ∧
  (∀ j, 0 ≤ j → j < S.1 40 + bkM S → S'.2 41 j = spl (bkC S) (bkN S) (bkM S) (S.2 41) (bkF S 57) j ∧ S'.2 42 j = spl (bkC S) (bkN S) (bkM S) (S.2 42) (bkF S 58) j ∧ S'.2 43 j = spl (bkC S) (bkN S) (bkM S) (S.2 43) (bkF S 59) j ∧ S'.2 44 j = spl (bkC S) (bkN S) (bkM S) (S.2 44) (bkF S 60) j ∧ S'.2 45 j = spl (bkC S) (bkN S) (bkM S) (S.2 45) (bkF S 61) j ∧ S'.2 46 j = spl (bkC S) (bkN S) (bkM S) (rmA (bkC S) (bkM S) (S.2 46)) (bkF S 62) j ∧ S'.2 47 j = spl (bkC S) (bkN S) (bkM S) (S.2 47) (bkF S 63) j) ∧
  TI (S.1 40 + bkM S) (S'.2 41) (S'.2 46) (S'.2 47) (S'.2 48) ∧
  (∀ k, k ≤ 40 ∨ (49 ≤ k ∧ k ≤ 56) ∨ 64 ≤ k → S'.2 k = S.2 k)
/-- what undoing rests on -/
def BackOk (S : MSt) : Prop := MT S ∧ (1 ≤ S.1 49 ∧ S.1 49 ≤ 300) ∧ (0 ≤ S.1 66 ∧ S.1 66 ≤ 6) ∧ (0 ≤ bkC S ∧ bkC S < S.1 40) ∧ (0 ≤ bkG S ∧ S.1 67 ≤ 31000 ∧ 1 ≤ bkN S ∧ bkN S ≤ 500) ∧ S.1 40 + bkM S ≤ 500 ∧
  TW (S.1 40 + bkM S) (spl (bkC S) (bkN S) (bkM S) (S.2 41) (bkF S 57)) (spl (bkC S) (bkN S) (bkM S) (rmA (bkC S) (bkM S) (S.2 46)) (bkF S 62)) (spl (bkC S) (bkN S) (bkM S) (S.2 47) (bkF S 63))
