/-! ===== what the questions about a term answer, in plain words over the Model's rows ===== -/
set_option maxRecDepth 100000
theorem nar_b {z : Int} (h : z = 0 ∨ z = 1) : narrow .boolean (.int (iI z)) = .int (iI z) := by rcases h with rfl | rfl <;> rfl
def bI (b : Bool) : Int := if b = true then 1 else 0
theorem bI_iR (b : Bool) : iR (bI b) := by cases b <;> (simp [bI]; decide)
theorem bI_01 (b : Bool) : bI b = 0 ∨ bI b = 1 := by cases b <;> simp [bI]
theorem bI_eq0 {b : Bool} : bI b = 0 ↔ b = false := by cases b <;> simp [bI]
theorem bI_ne0 {b : Bool} : bI b ≠ 0 ↔ b = true := by cases b <;> simp [bI]
theorem bI_t {b : Bool} (h : b = true) : 1 = bI b := by simp [bI, h]
theorem bI_f {b : Bool} (h : b = false) : 0 = bI b := by simp [bI, h]
/-- the j-th part of a list -/
def chh (room : Int → Int) (i : Int) : Nat → Int
  | 0 => i + 1
  | j + 1 => chh room i j + room (chh room i j)
/-- a row of a term of n items -/
def TN (n : Int) (what room parts : Int → Int) (i : Int) : Prop :=
  (0 ≤ what i ∧ what i ≤ 5) ∧ (1 ≤ room i ∧ i + room i ≤ n) ∧ (0 ≤ parts i ∧ parts i ≤ 500) ∧ (what i < 2 → room i = 1 ∧ parts i = 0) ∧
  (2 ≤ what i → chh room i (parts i).toNat = i + room i ∧ ∀ j : Nat, (j : Int) < parts i → chh room i j < i + room i) ∧
  (3 ≤ what i → 1 ≤ parts i ∧ what (i + 1) = 1) ∧ (what i = 4 → parts i = 4 ∧ what (chh room i 1) = 1) ∧ (what i = 5 → parts i = 3 ∧ what (chh room i 1) = 1)
/-- rows that are a term: n items, what they are, how many items each is, how many parts -/
def TW (n : Int) (what room parts : Int → Int) : Prop := 1 ≤ n ∧ n ≤ 500 ∧ room 0 = n ∧ ∀ i, 0 ≤ i → i < n → TN n what room parts i
/-- in which list each item is -/
def TI (n : Int) (what room parts inside : Int → Int) : Prop :=
  inside 0 = -9 ∧ (∀ i, 0 ≤ i → i < n → 2 ≤ what i → ∀ j : Nat, (j : Int) < parts i → inside (chh room i j) = i) ∧
  ∀ k, 0 < k → k < n → ∃ i, ∃ j : Nat, 0 ≤ i ∧ i < k ∧ 2 ≤ what i ∧ (j : Int) < parts i ∧ k = chh room i j ∧ inside k = i
section TWL
variable {n : Int} {what room parts inside : Int → Int}
theorem TW.r (h : TW n what room parts) {i : Int} (h0 : 0 ≤ i) (hn : i < n) : 1 ≤ room i ∧ i + room i ≤ n := (h.2.2.2 i h0 hn).2.1
theorem TW.w (h : TW n what room parts) {i : Int} (h0 : 0 ≤ i) (hn : i < n) : 0 ≤ what i ∧ what i ≤ 5 := (h.2.2.2 i h0 hn).1
theorem TW.p (h : TW n what room parts) {i : Int} (h0 : 0 ≤ i) (hn : i < n) : 0 ≤ parts i ∧ parts i ≤ 500 := (h.2.2.2 i h0 hn).2.2.1
theorem TW.leaf (h : TW n what room parts) {i : Int} (h0 : 0 ≤ i) (hn : i < n) (hw : what i < 2) : room i = 1 ∧ parts i = 0 := (h.2.2.2 i h0 hn).2.2.2.1 hw
theorem TW.lst (h : TW n what room parts) {i : Int} (h0 : 0 ≤ i) (hn : i < n) (hw : 2 ≤ what i) : chh room i (parts i).toNat = i + room i ∧ ∀ j : Nat, (j : Int) < parts i → chh room i j < i + room i := (h.2.2.2 i h0 hn).2.2.2.2.1 hw
theorem TW.named (h : TW n what room parts) {i : Int} (h0 : 0 ≤ i) (hn : i < n) (hw : 3 ≤ what i) : 1 ≤ parts i ∧ what (i + 1) = 1 := (h.2.2.2 i h0 hn).2.2.2.2.2.1 hw
theorem TW.binds (h : TW n what room parts) {i : Int} (h0 : 0 ≤ i) (hn : i < n) (hw : what i = 4 ∨ what i = 5) : 3 ≤ parts i ∧ parts i ≤ 4 ∧ what (chh room i 1) = 1 := by
  rcases hw with hw | hw
  · have := (h.2.2.2 i h0 hn).2.2.2.2.2.2.1 hw; exact ⟨by omega, by omega, this.2⟩
  · have := (h.2.2.2 i h0 hn).2.2.2.2.2.2.2 hw; exact ⟨by omega, by omega, this.2⟩
theorem TW.ch (h : TW n what room parts) {i : Int} (h0 : 0 ≤ i) (hn : i < n) (hw : 2 ≤ what i) : ∀ j : Nat, (j : Int) ≤ parts i → i + 1 ≤ chh room i j ∧ chh room i j ≤ i + room i ∧ i + 1 + j ≤ chh room i j := by
  obtain ⟨h1, h2⟩ := h.lst h0 hn hw
  have hr := h.r h0 hn
  intro j
  induction j with
  | zero => intro _; refine ⟨?_, ?_, ?_⟩ <;> (show _ ≤ _) <;> (unfold chh) <;> omega
  | succ j ih =>
    intro hj
    obtain ⟨a, b, d⟩ := ih (by omega)
    have h3 := h2 j (by omega)
    have h4 := h.r (i := chh room i j) (by omega) (by omega)
    have h5 : chh room i (j + 1) = chh room i j + room (chh room i j) := rfl
    refine ⟨by omega, ?_, by omega⟩
    by_cases he : (j : Int) + 1 = parts i
    · rw [← h1, show (parts i).toNat = j + 1 by omega]; exact Int.le_refl _
    · exact Int.le_of_lt (h2 (j + 1) (by omega))
end TWL
/-- the Model's term: rows 0 .. items-1 -/
def MT (S : MSt) : Prop := TW (S.1 40) (S.2 41) (S.2 46) (S.2 47) ∧ TI (S.1 40) (S.2 41) (S.2 46) (S.2 47) (S.2 48) ∧
  ∀ i, 0 ≤ i → i < S.1 40 → (0 ≤ S.2 42 i ∧ S.2 42 i < 281474976710656) ∧ (-9 ≤ S.2 43 i ∧ S.2 43 i ≤ 300) ∧ (0 ≤ S.2 44 i ∧ S.2 44 i < 500) ∧ (0 ≤ S.2 45 i ∧ S.2 45 i ≤ S.1 49)
/-- the binder of a list that binds; its last part -/
def spB (S : MSt) (l : Int) : Int := l + 1 + S.2 46 (l + 1)
def spL (S : MSt) (l : Int) : Int := chh (S.2 46) l ((S.2 47 l).toNat - 1)
def spIsB (S : MSt) (l : Int) : Bool := decide (S.2 41 l = 4) || decide (S.2 41 l = 5)
/-- upwards from a name: the first binder like it -/
def spUp (S : MSt) (w k : Int) : Nat → Int → Int → Int
  | 0, _, _ => -9
  | f + 1, a, l => if l = -9 then -9 else if spIsB S l = true ∧ spL S l = a ∧ S.2 42 (spB S l) = w ∧ S.2 43 (spB S l) = k then spB S l else spUp S w k f l (S.2 48 l)
/-- the binder as which an item reads; -9 -/
def spReads (S : MSt) (i : Int) : Int :=
  if S.2 41 i ≠ 1 then -9 else if S.2 48 i ≠ -9 ∧ spIsB S (S.2 48 i) = true ∧ spB S (S.2 48 i) = i then i else spUp S (S.2 42 i) (S.2 43 i) (i.toNat + 1) i (S.2 48 i)
theorem MT.inside {S : MSt} (h : MT S) {k : Int} (h0 : 0 ≤ k) (hn : k < S.1 40) : S.2 48 k = -9 ∨ (0 ≤ S.2 48 k ∧ S.2 48 k < k ∧ 2 ≤ S.2 41 (S.2 48 k)) := by
  by_cases hk : k = 0
  · subst hk; exact Or.inl h.2.1.1
  · obtain ⟨i, j, a, b, c, d, e, f⟩ := h.2.1.2.2 k (by omega) hn
    rw [f]; exact Or.inr ⟨a, b, c⟩
theorem MT.n {S : MSt} (h : MT S) : 1 ≤ S.1 40 ∧ S.1 40 ≤ 500 := ⟨h.1.1, h.1.2.1⟩
/-- more steps upwards change nothing -/
theorem spUp_more {S : MSt} (h : MT S) {w k : Int} : ∀ (f : Nat) (a l : Int), (l = -9 ∨ (0 ≤ l ∧ l < S.1 40)) → l < f → ∀ g : Nat, f ≤ g → spUp S w k g a l = spUp S w k f a l := by
  intro f
  induction f with
  | zero =>
    intro a l hl hf g _
    have : l = -9 := by omega
    subst this
    cases g with
    | zero => rfl
    | succ g => simp [spUp]
  | succ f ih =>
    intro a l hl hf g hg
    cases g with
    | zero => omega
    | succ g =>
      unfold spUp
      by_cases h9 : l = -9
      · simp [h9]
      · rw [if_neg h9, if_neg h9]
        have hi := h.inside (k := l) (by omega) (by omega)
        rw [ih l (S.2 48 l) (by omega) (by omega) g (by omega)]
def spWord (S : MSt) (v : Int) : Nat → Bool
  | 0 => false
  | r + 1 => spWord S v r || decide (S.2 30 r = v)
/-- whether a list is a call -/
def spCall (S : MSt) (i : Int) : Bool := decide (S.2 41 i = 3) && spWord S (S.2 42 (i + 1)) (S.1 29).toNat && decide (spReads S (i + 1) = -9)
theorem spB_in {S : MSt} (hT : MT S) {l : Int} (h0 : 0 ≤ l) (hn : l < S.1 40) (hb : spIsB S l = true) : l < spB S l ∧ spB S l < l + S.2 46 l ∧ spB S l < S.1 40 ∧ S.2 41 (spB S l) = 1 := by
  have hwb : S.2 41 l = 4 ∨ S.2 41 l = 5 := by simpa [spIsB] using hb
  have hpb := hT.1.binds h0 hn hwb
  have h1 := hT.1.ch h0 hn (by omega) 1 (by omega)
  have h2 := (hT.1.lst h0 hn (by omega)).2 1 (by omega)
  have h3 := hT.1.r h0 hn
  have eB : spB S l = chh (S.2 46) l 1 := rfl
  rw [eB]
  exact ⟨by omega, by omega, by omega, hpb.2.2⟩
theorem spUp_in {S : MSt} (hT : MT S) {w k : Int} : ∀ (f : Nat) (a l : Int), (l = -9 ∨ (0 ≤ l ∧ l < S.1 40)) → spUp S w k f a l = -9 ∨ (0 ≤ spUp S w k f a l ∧ spUp S w k f a l < S.1 40) := by
  intro f
  induction f with
  | zero => intro a l _; exact Or.inl rfl
  | succ f ih =>
    intro a l hl
    unfold spUp
    by_cases h9 : l = -9
    · rw [if_pos h9]; exact Or.inl rfl
    · rw [if_neg h9]
      split
      · rename_i hc
        have := spB_in hT (by omega) (by omega) hc.1
        exact Or.inr ⟨by omega, by omega⟩
      · have hi := hT.inside (k := l) (by omega) (by omega)
        exact ih l _ (by omega)
theorem spReads_in {S : MSt} (hT : MT S) {i : Int} (h0 : 0 ≤ i) (hn : i < S.1 40) : spReads S i = -9 ∨ (0 ≤ spReads S i ∧ spReads S i < S.1 40) := by
  unfold spReads
  split
  · exact Or.inl rfl
  · split
    · exact Or.inr ⟨h0, hn⟩
    · have hi := hT.inside h0 hn
      exact spUp_in hT _ _ _ (by omega)
