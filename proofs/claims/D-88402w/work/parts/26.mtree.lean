/-! ===== rows that are a term: nested spans ===== -/
set_option maxRecDepth 100000
section TREE
variable {n : Int} {what room parts : Int → Int}
/-- which part of a list covers a place -/
theorem TW.cover (h : TW n what room parts) {i : Int} (h0 : 0 ≤ i) (hn : i < n) {k : Int} (hk : i < k ∧ k < i + room i) : 2 ≤ what i ∧ ∃ j : Nat, (j : Int) < parts i ∧ chh room i j ≤ k ∧ k < chh room i j + room (chh room i j) := by
  have hw : 2 ≤ what i := by
    rcases Int.lt_or_le (what i) 2 with q | q
    · have := h.leaf h0 hn q; omega
    · exact q
  refine ⟨hw, ?_⟩
  obtain ⟨h1, h2⟩ := h.lst h0 hn hw
  have hp := h.p h0 hn
  have go : ∀ m : Nat, (m : Int) ≤ parts i → k < chh room i m → ∃ j : Nat, (j : Int) < parts i ∧ chh room i j ≤ k ∧ k < chh room i j + room (chh room i j) := by
    intro m
    induction m with
    | zero => intro _ hz; have e : chh room i 0 = i + 1 := rfl; omega
    | succ m ih =>
      intro hm hz
      rcases Int.lt_or_le k (chh room i m) with q | q
      · exact ih (by omega) q
      · exact ⟨m, by omega, q, hz⟩
  exact go (parts i).toNat (by omega) (by rw [h1]; exact hk.2)
theorem TW.lam (h : TW n what room parts) : ∀ (d : Nat) (c : Int), room c < d → 0 ≤ c → c < n → ∀ i, c ≤ i → i < c + room c → i + room i ≤ c + room c := by
  intro d
  induction d with
  | zero => intro c hd h0 hn; have := h.r h0 hn; omega
  | succ d ih =>
    intro c hd h0 hn i hci hic
    by_cases he : i = c
    · rw [he]; omega
    · obtain ⟨hw, j, hj, a, b⟩ := h.cover h0 hn (k := i) ⟨by omega, hic⟩
      have hc := h.ch h0 hn hw j (by omega)
      have hc1 := h.ch h0 hn hw (j + 1) (by omega)
      have e : chh room c (j + 1) = chh room c j + room (chh room c j) := rfl
      have hr := h.r h0 hn
      have := ih (chh room c j) (by omega) (by omega) (by omega) i a b
      omega
theorem TW.nest (h : TW n what room parts) {c i : Int} (h0 : 0 ≤ c) (hn : c < n) (hci : c ≤ i) (hic : i < c + room c) : i + room i ≤ c + room c := h.lam (room c + 1).toNat c (by have := h.r h0 hn; omega) h0 hn i hci hic
theorem TW.par1 (h : TW n what room parts) : ∀ (d : Nat) (c : Int), room c < d → 0 ≤ c → c < n → ∀ k, c < k → k < c + room c → ∃ i, ∃ j : Nat, c ≤ i ∧ i < k ∧ i < n ∧ 2 ≤ what i ∧ (j : Int) < parts i ∧ k = chh room i j := by
  intro d
  induction d with
  | zero => intro c hd h0 hn; have := h.r h0 hn; omega
  | succ d ih =>
    intro c hd h0 hn k hck hkc
    obtain ⟨hw, j, hj, a, b⟩ := h.cover h0 hn (k := k) ⟨hck, hkc⟩
    have hc := h.ch h0 hn hw j (by omega)
    have hc1 := h.ch h0 hn hw (j + 1) (by omega)
    have e : chh room c (j + 1) = chh room c j + room (chh room c j) := rfl
    have hr := h.r h0 hn
    by_cases he : k = chh room c j
    · exact ⟨c, j, Int.le_refl _, hck, hn, hw, hj, he⟩
    · obtain ⟨i, m, q1, q2, q3, q4, q5, q6⟩ := ih (chh room c j) (by omega) (by omega) (by omega) k (by omega) b
      exact ⟨i, m, by omega, q2, q3, q4, q5, q6⟩
/-- every item but the first is a part of a list -/
theorem TW.par (h : TW n what room parts) {k : Int} (h0 : 0 < k) (hn : k < n) : ∃ i, ∃ j : Nat, 0 ≤ i ∧ i < k ∧ 2 ≤ what i ∧ (j : Int) < parts i ∧ k = chh room i j := by
  have h00 := h.2.2.1
  obtain ⟨i, j, a, b, c, d, e, f⟩ := h.par1 (room 0 + 1).toNat 0 (by omega) (by omega) (by omega) k h0 (by omega)
  exact ⟨i, j, a, b, d, e, f⟩
/-- .. of one alone -/
theorem TW.par_lt (h : TW n what room parts) {i i' : Int} (h0 : 0 ≤ i) (hn : i < n) (hw : 2 ≤ what i) (hw' : 2 ≤ what i') (hlt : i < i') (hn' : i' < n) {j j' : Nat} (hj : (j : Int) < parts i) (hj' : (j' : Int) < parts i') (he : chh room i j = chh room i' j') : False := by
  have c1 := h.ch h0 hn hw j (by omega)
  have c2 := h.ch (i := i') (by omega) hn' hw' j' (by omega)
  have l1 := (h.lst h0 hn hw).2 j hj
  have l2 := (h.lst (i := i') (by omega) hn' hw').2 j' hj'
  obtain ⟨-, m, hm, a, b⟩ := h.cover h0 hn (k := i') ⟨hlt, by omega⟩
  have cm := h.ch h0 hn hw m (by omega)
  have hr := h.r h0 hn
  have hne := h.nest (c := chh room i m) (i := i') (by omega) (by omega) a b
  -- the part j of i lies behind the part m
  have mono : ∀ a b : Nat, a ≤ b → (b : Int) ≤ parts i → chh room i a ≤ chh room i b := by
    intro a b hab
    induction b with
    | zero => intro _; rw [show a = 0 by omega]; exact Int.le_refl _
    | succ b ih =>
      intro hb
      by_cases hq : a = b + 1
      · rw [hq]; exact Int.le_refl _
      · have := ih (by omega) (by omega)
        have cb := h.ch h0 hn hw b (by omega)
        have lb := (h.lst h0 hn hw).2 b (by omega)
        have rb := h.r (i := chh room i b) (by omega) (by omega)
        have e : chh room i (b + 1) = chh room i b + room (chh room i b) := rfl
        omega
  have em : chh room i (m + 1) = chh room i m + room (chh room i m) := rfl
  rcases Nat.lt_or_ge m j with q | q
  · have := mono (m + 1) j q (by omega)
    omega
  · have := mono j m q (by omega)
    omega
theorem TW.par_eq (h : TW n what room parts) {i i' : Int} (h0 : 0 ≤ i) (hn : i < n) (h0' : 0 ≤ i') (hn' : i' < n) (hw : 2 ≤ what i) (hw' : 2 ≤ what i') {j j' : Nat} (hj : (j : Int) < parts i) (hj' : (j' : Int) < parts i') (he : chh room i j = chh room i' j') : i = i' := by
  rcases Int.lt_trichotomy i i' with q | q | q
  · exact (h.par_lt h0 hn hw hw' q hn' hj hj' he).elim
  · exact q
  · exact (h.par_lt h0' hn' hw' hw q hn hj' hj he.symm).elim
theorem TW.ch_lt (h : TW n what room parts) {i : Int} (h0 : 0 ≤ i) (hn : i < n) (hw : 2 ≤ what i) : ∀ (b a : Nat), a < b → (b : Int) ≤ parts i → chh room i a < chh room i b := by
  intro b
  induction b with
  | zero => intro a hab; omega
  | succ b ih =>
    intro a hab hb
    have cb := h.ch h0 hn hw b (by omega)
    have lb := (h.lst h0 hn hw).2 b (by omega)
    have hr := h.r h0 hn
    have rb := h.r (i := chh room i b) (by omega) (by omega)
    have e : chh room i (b + 1) = chh room i b + room (chh room i b) := rfl
    by_cases hq : a = b
    · rw [hq]; omega
    · have := ih a (by omega) (by omega); omega
theorem TW.ch_inj (h : TW n what room parts) {i : Int} (h0 : 0 ≤ i) (hn : i < n) (hw : 2 ≤ what i) {a b : Nat} (ha : (a : Int) ≤ parts i) (hb : (b : Int) ≤ parts i) (he : chh room i a = chh room i b) : a = b := by
  rcases Nat.lt_trichotomy a b with q | q | q
  · have := h.ch_lt h0 hn hw b a q hb; omega
  · exact q
  · have := h.ch_lt h0 hn hw a b q ha; omega
/-- settle: what has been laid so far (lists ahead of i are done) -/
def TS (n : Int) (what room parts : Int → Int) (i : Int) (f : Int → Int) : Prop :=
  (∀ i', 0 ≤ i' → i' < i → 2 ≤ what i' → ∀ j : Nat, (j : Int) < parts i' → f (chh room i' j) = i') ∧
  ∀ k, 0 ≤ k → k < n → f k = -9 ∨ ∃ i', ∃ j : Nat, 0 ≤ i' ∧ i' < i ∧ i' < n ∧ 2 ≤ what i' ∧ (j : Int) < parts i' ∧ k = chh room i' j ∧ f k = i'
theorem TS.fin (h : TW n what room parts) {f : Int → Int} (hs : TS n what room parts n f) : TI n what room parts f := by
  have hn1 := h.1
  refine ⟨?_, fun i a b => hs.1 i a b, fun k a b => ?_⟩
  · rcases hs.2 0 (by omega) (by omega) with q | ⟨i', j, a, b, c, d, e, f', g⟩
    · exact q
    · have := h.ch a c d j (by omega); omega
  · obtain ⟨i, j, q1, q2, q3, q4, q5⟩ := h.par a b
    exact ⟨i, j, q1, q2, q3, q4, q5, by rw [q5]; exact hs.1 i q1 (by omega) q3 j q4⟩
theorem TS.skip {i : Int} {f : Int → Int} (hs : TS n what room parts i f) (hw : what i < 2) : TS n what room parts (i + 1) f := by
  refine ⟨fun i' a b w j hj => ?_, fun k a b => ?_⟩
  · by_cases he : i' = i
    · rw [he] at w; omega
    · exact hs.1 i' a (by omega) w j hj
  · rcases hs.2 k a b with q | ⟨i', j, x1, x2, x3⟩
    · exact Or.inl q
    · exact Or.inr ⟨i', j, x1, by omega, x3⟩
/-- within a list: its first m parts are laid -/
def TS2 (n : Int) (what room parts : Int → Int) (i : Int) (m : Nat) (f : Int → Int) : Prop :=
  (∀ i', 0 ≤ i' → i' < i → 2 ≤ what i' → ∀ j : Nat, (j : Int) < parts i' → f (chh room i' j) = i') ∧ (∀ j : Nat, j < m → f (chh room i j) = i) ∧
  ∀ k, 0 ≤ k → k < n → f k = -9 ∨ ∃ i', ∃ j : Nat, 0 ≤ i' ∧ i' ≤ i ∧ i' < n ∧ 2 ≤ what i' ∧ (j : Int) < parts i' ∧ k = chh room i' j ∧ f k = i'
theorem TS.to2 {i : Int} {f : Int → Int} (hs : TS n what room parts i f) : TS2 n what room parts i 0 f :=
  ⟨hs.1, fun j h => absurd h (Nat.not_lt_zero _), fun k a b => by
    rcases hs.2 k a b with q | ⟨i', j, x1, x2, x3⟩
    · exact Or.inl q
    · exact Or.inr ⟨i', j, x1, by omega, x3⟩⟩
theorem TS2.fin {i : Int} {f : Int → Int} (hs : TS2 n what room parts i (parts i).toNat f) : TS n what room parts (i + 1) f := by
  refine ⟨fun i' a b w j hj => ?_, fun k a b => ?_⟩
  · by_cases he : i' = i
    · rw [he] at hj ⊢; exact hs.2.1 j (by omega)
    · exact hs.1 i' a (by omega) w j hj
  · rcases hs.2.2 k a b with q | ⟨i', j, x1, x2, x3⟩
    · exact Or.inl q
    · exact Or.inr ⟨i', j, x1, by omega, x3⟩
theorem TS2.put (h : TW n what room parts) {i : Int} {m : Nat} {f : Int → Int} (h0 : 0 ≤ i) (hn : i < n) (hw : 2 ≤ what i) (hm : (m : Int) < parts i) (hs : TS2 n what room parts i m f) : TS2 n what room parts i (m + 1) (upI f (chh room i m) i) := by
  refine ⟨fun i' a b w j hj => ?_, fun j hj => ?_, fun k a b => ?_⟩
  · have hne : chh room i' j ≠ chh room i m := fun e => by have := h.par_eq a (by omega) h0 hn w hw hj hm e; omega
    rw [upI_n hne]; exact hs.1 i' a b w j hj
  · by_cases he : j = m
    · rw [he, upI_s]
    · have hne : chh room i j ≠ chh room i m := fun e => he (h.ch_inj h0 hn hw (by omega) (by omega) e)
      rw [upI_n hne]; exact hs.2.1 j (by omega)
  · by_cases he : k = chh room i m
    · exact Or.inr ⟨i, m, h0, Int.le_refl _, hn, hw, hm, he, by rw [he, upI_s]⟩
    · rw [upI_n he]; exact hs.2.2 k a b
end TREE
/-- rows with others in the place of an item's -/
def spl (c fr m : Int) (g F : Int → Int) : Int → Int := fun j => if j < c then g j else if j < c + fr then F (j - c) else g (j - m)
/-- how many items each is, then: those around it are more -/
def rmA (c m : Int) (room : Int → Int) : Int → Int := fun j => if 0 ≤ j ∧ j < c ∧ c < j + room j then room j + m else room j
/-- the list in which an item is, is the nearest around it -/
theorem TI.inner {n : Int} {what room parts inside : Int → Int} (h : TW n what room parts) (hi : TI n what room parts inside) {j k : Int} (h0 : 0 ≤ j) (hjk : j < k) (hn : k < n) (hin : k < j + room j) : j ≤ inside k := by
  obtain ⟨i, m, a, b, c, d, e, f⟩ := hi.2.2 k (by omega) hn
  rw [f]
  rcases Int.lt_or_le i j with q | q
  · exfalso
    have hw := c
    have c1 := h.ch a (by omega) hw m (by omega)
    have l1 := (h.lst a (by omega) hw).2 m d
    obtain ⟨-, m', hm', x, y⟩ := h.cover a (by omega) (k := j) ⟨q, by omega⟩
    have cm := h.ch a (by omega) hw m' (by omega)
    have lm := (h.lst a (by omega) hw).2 m' hm'
    have hr := h.r a (by omega)
    have hne := h.nest (c := chh room i m') (i := j) (by omega) (by omega) x y
    have em : chh room i (m' + 1) = chh room i m' + room (chh room i m') := rfl
    rcases Nat.lt_or_ge m' m with z | z
    · by_cases hz : m' + 1 = m
      · rw [hz] at em; omega
      · have := h.ch_lt a (by omega) hw m (m' + 1) (by omega) (by omega); omega
    · by_cases hz : m' = m
      · rw [hz] at x; omega
      · have := h.ch_lt a (by omega) hw m' m (by omega) (by omega); omega
  · exact q
theorem TW_congr {n : Int} {what room parts what' room' parts' : Int → Int} (h : TW n what room parts) (hw : ∀ j, 0 ≤ j → j < n → what' j = what j) (hr : ∀ j, 0 ≤ j → j < n → room' j = room j) (hp : ∀ j, 0 ≤ j → j < n → parts' j = parts j) : TW n what' room' parts' := by
  refine ⟨h.1, h.2.1, by rw [hr 0 (by omega) (by have := h.1; omega)]; exact h.2.2.1, fun i h0 hn => ?_⟩
  have hch : 2 ≤ what i → ∀ j : Nat, (j : Int) ≤ parts i → chh room' i j = chh room i j := by
    intro h2 j
    induction j with
    | zero => intro _; rfl
    | succ j ih =>
      intro hj
      have := ih (by omega)
      have c1 := h.ch h0 hn h2 j (by omega)
      have c2 := (h.lst h0 hn h2).2 j (by omega)
      have c3 := h.r h0 hn
      show chh room' i j + room' (chh room' i j) = chh room i j + room (chh room i j)
      rw [this, hr _ (by omega) (by omega)]
  have t := h.2.2.2 i h0 hn
  obtain ⟨t1, t2, t3, t4, t5, t6, t7, t8⟩ := t
  have hpi := h.p h0 hn
  unfold TN
  rw [hw i h0 hn, hr i h0 hn, hp i h0 hn]
  refine ⟨t1, t2, t3, t4, fun h2 => ⟨?_, fun j hj => ?_⟩, fun h3 => ?_, fun h4 => ?_, fun h5 => ?_⟩
  · rw [hch h2 _ (by omega)]; exact (t5 h2).1
  · rw [hch h2 j (by omega)]; exact (t5 h2).2 j hj
  · have h6 := t6 h3
    have c2 := (h.lst h0 hn (by omega)).2 0 (by omega)
    have e0 : chh room i 0 = i + 1 := rfl
    exact ⟨h6.1, by rw [hw (i + 1) (by omega) (by omega)]; exact h6.2⟩
  · have h6 := t7 h4
    have c2 := (h.lst h0 hn (by omega)).2 1 (by omega)
    have c1 := h.ch h0 hn (by omega) 1 (by omega)
    exact ⟨h6.1, by rw [hch (by omega) 1 (by omega), hw _ (by omega) (by omega)]; exact h6.2⟩
  · have h6 := t8 h5
    have c2 := (h.lst h0 hn (by omega)).2 1 (by omega)
    have c1 := h.ch h0 hn (by omega) 1 (by omega)
    exact ⟨h6.1, by rw [hch (by omega) 1 (by omega), hw _ (by omega) (by omega)]; exact h6.2⟩
