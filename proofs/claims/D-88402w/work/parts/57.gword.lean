/-! ===== words: the Model's letters and the Glass' ===== -/
set_option maxRecDepth 100000
def wLE : List Nat → Int
  | [] => 0
  | b :: bs => (b : Int) + 256 * wLE bs
theorem wLE_nn : ∀ bs : List Nat, 0 ≤ wLE bs := by
  intro bs
  induction bs with
  | nil => exact Int.le_refl _
  | cons b bs ih => show 0 ≤ (b : Int) + 256 * wLE bs; omega
theorem wLE_lt : ∀ (k : Nat) (bs : List Nat), bs.length ≤ k → (∀ b ∈ bs, b < 256) → wLE bs < (256 : Int) ^ k := by
  intro k
  induction k with
  | zero =>
    intro bs hl _
    have hz : bs = [] := List.length_eq_zero_iff.mp (by omega)
    rw [hz]
    decide
  | succ k ih =>
    intro bs hl hb
    cases bs with
    | nil => show (0 : Int) < _; exact Int.pow_pos (by decide)
    | cons b bs =>
      have h1 := ih bs (by simp at hl; omega) (fun x hx => hb x (List.mem_cons_of_mem _ hx))
      have h2 := hb b List.mem_cons_self
      show (b : Int) + 256 * wLE bs < 256 ^ (k + 1)
      rw [Int.pow_succ]
      omega
theorem wLE_inj : ∀ (as bs : List Nat), (∀ b ∈ as, 0 < b ∧ b < 256) → (∀ b ∈ bs, 0 < b ∧ b < 256) → wLE as = wLE bs → as = bs := by
  intro as
  induction as with
  | nil =>
    intro bs _ hb h
    cases bs with
    | nil => rfl
    | cons b bs =>
      have h1 := hb b List.mem_cons_self
      have h2 := wLE_nn bs
      have h3 : (0 : Int) = (b : Int) + 256 * wLE bs := h
      omega
  | cons a as ih =>
    intro bs ha hb h
    cases bs with
    | nil =>
      have h1 := ha a List.mem_cons_self
      have h2 := wLE_nn as
      have h3 : (a : Int) + 256 * wLE as = (0 : Int) := h
      omega
    | cons b bs =>
      have h1 := ha a List.mem_cons_self
      have h2 := hb b List.mem_cons_self
      have h3 : (a : Int) + 256 * wLE as = (b : Int) + 256 * wLE bs := h
      have h4 : wLE as = wLE bs := by omega
      have h5 : a = b := by omega
      rw [h5, ih bs (fun x hx => ha x (List.mem_cons_of_mem _ hx)) (fun x hx => hb x (List.mem_cons_of_mem _ hx)) h4]
theorem wOkN_list : ∀ (k : Nat) (w : Int), wOkN k w → ∃ bs : List Nat, bs.length ≤ k ∧ (∀ b ∈ bs, 0 < b ∧ b < 256) ∧ w = wLE bs := by
  intro k
  induction k with
  | zero => intro w h; exact ⟨[], Nat.le_refl _, (fun b hb => by cases hb), h⟩
  | succ k ih =>
    intro w h
    rcases h with h | ⟨h1, h2, h3⟩
    · exact ⟨[], Nat.zero_le _, (fun b hb => by cases hb), h⟩
    · obtain ⟨bs, a1, a2, a3⟩ := ih _ h3
      refine ⟨(w % 256).toNat :: bs, by simp; omega, fun b hb => ?_, ?_⟩
      · rcases List.mem_cons.mp hb with rfl | hb
        · omega
        · exact a2 b hb
      · show w = ((w % 256).toNat : Int) + 256 * wLE bs
        rw [← a3]
        omega
theorem wOkN_of : ∀ (bs : List Nat) (k : Nat), bs.length ≤ k → (∀ b ∈ bs, 0 < b ∧ b < 256) → wOkN k (wLE bs) := by
  intro bs
  induction bs with
  | nil => intro k _ _; cases k with | zero => rfl | succ k => exact Or.inl rfl
  | cons b bs ih =>
    intro k hl hb
    have h1 := hb b List.mem_cons_self
    have h2 := wLE_nn bs
    cases k with
    | zero => simp at hl
    | succ k =>
      refine Or.inr ?_
      show 0 < (b : Int) + 256 * wLE bs ∧ 0 < ((b : Int) + 256 * wLE bs) % 256 ∧ wOkN k (((b : Int) + 256 * wLE bs) / 256)
      refine ⟨by omega, by omega, ?_⟩
      rw [show ((b : Int) + 256 * wLE bs) / 256 = wLE bs by omega]
      exact ih k (by simp at hl; omega) (fun x hx => hb x (List.mem_cons_of_mem _ hx))
theorem gLr_list : ∀ (bs : List Nat) (f : Nat) (cs : List Nat), bs.length ≤ f → (∀ b ∈ bs, 0 < b ∧ b < 256) → gLr f (wLE cs) (wLE bs) = wLE (bs.reverse ++ cs) := by
  intro bs
  induction bs with
  | nil =>
    intro f cs _ _
    cases f with
    | zero => rfl
    | succ f => show (if (0 : Int) = 0 then wLE cs else _) = _; rw [if_pos rfl]; rfl
  | cons b bs ih =>
    intro f cs hl hb
    have h1 := hb b List.mem_cons_self
    have h2 := wLE_nn bs
    cases f with
    | zero => simp at hl
    | succ f =>
      show (if (b : Int) + 256 * wLE bs = 0 then wLE cs else gLr f (wLE cs * 256 + ((b : Int) + 256 * wLE bs) % 256) (((b : Int) + 256 * wLE bs) / 256)) = _
      rw [if_neg (by omega), show ((b : Int) + 256 * wLE bs) % 256 = (b : Int) by omega, show ((b : Int) + 256 * wLE bs) / 256 = wLE bs by omega, show wLE cs * 256 + (b : Int) = wLE (b :: cs) by show _ = (b : Int) + 256 * wLE cs; omega]
      rw [ih f (b :: cs) (by simp at hl; omega) (fun x hx => hb x (List.mem_cons_of_mem _ hx)), List.reverse_cons, List.append_assoc]
      rfl
theorem gLt_list {bs : List Nat} (hl : bs.length ≤ 6) (hb : ∀ b ∈ bs, 0 < b ∧ b < 256) : gLt (wLE bs) = wLE bs.reverse := by
  have := gLr_list bs 6 [] hl hb
  rw [List.append_nil] at this
  exact this
theorem gLt_inj {a b : Int} (ha : wOk a) (hb : wOk b) : gLt a = gLt b ↔ a = b := by
  refine ⟨fun h => ?_, fun h => by rw [h]⟩
  obtain ⟨as, a1, a2, rfl⟩ := wOkN_list 6 a ha
  obtain ⟨bs, b1, b2, rfl⟩ := wOkN_list 6 b hb
  rw [gLt_list a1 a2, gLt_list b1 b2] at h
  have := wLE_inj _ _ (fun x hx => a2 x (List.mem_reverse.mp hx)) (fun x hx => b2 x (List.mem_reverse.mp hx)) h
  rw [List.reverse_inj.mp this]
theorem gLt_rng {a : Int} (ha : wOk a) : 0 ≤ gLt a ∧ gLt a < 281474976710656 := by
  obtain ⟨as, a1, a2, rfl⟩ := wOkN_list 6 a ha
  rw [gLt_list a1 a2]
  refine ⟨wLE_nn _, ?_⟩
  have := wLE_lt 6 as.reverse (by simp; exact a1) (fun b hb => (a2 b (List.mem_reverse.mp hb)).2)
  exact this
theorem wOk_rng {a : Int} (ha : wOk a) : 0 ≤ a ∧ a < 281474976710656 := by
  obtain ⟨as, a1, a2, rfl⟩ := wOkN_list 6 a ha
  refine ⟨wLE_nn _, ?_⟩
  have := wLE_lt 6 as a1 (fun b hb => (a2 b hb).2)
  exact this
theorem gLt_let : gLt 7628140 = wBE [108, 101, 116] 3 := by decide +kernel
theorem gLt_fun : gLt 7239014 = wBE [102, 117, 110] 3 := by decide +kernel
theorem gLt_word : gLt 1685221239 = wBE [119, 111, 114, 100] 4 := by decide +kernel
theorem gLt_raw : gLt 7823730 = wBE [114, 97, 119] 3 := by decide +kernel
theorem wOk_let : wOk 7628140 := by
  have := wOkN_of [108, 101, 116] 6 (by decide) (by decide)
  exact this
theorem wOk_fun : wOk 7239014 := by
  have := wOkN_of [102, 117, 110] 6 (by decide) (by decide)
  exact this
theorem wOk_word : wOk 1685221239 := by
  have := wOkN_of [119, 111, 114, 100] 6 (by decide) (by decide)
  exact this
theorem wOk_raw : wOk 7823730 := by
  have := wOkN_of [114, 97, 119] 6 (by decide) (by decide)
  exact this
/-- the letters of a list's first name, against a word -/
theorem gLt_eqc {a c : Int} (ha : wOk a) (hc : wOk c) {z : Int} (hz : gLt c = z) : gLt a = z ↔ a = c := by
  rw [← hz]
  exact gLt_inj ha hc
/-- an item's cell changes within its class -/
theorem gCls.upI {h h' : gH} {F : FF} {ad : Int → Nat} {i : Int} {tg : gT} {ip : Value} {nm : Int} (hx : gCls h h') (hI : h' (ad i) = some (tg, itE F i ip nm (ad i))) (ip' : Value) (nm' : Int) : gCls h (va_up h' (ad i) (some (tg, itE F i ip' nm' (ad i)))) := by
  unfold itE at hI ⊢
  by_cases h0 : F 0 i = 0
  · rw [if_pos h0] at hI ⊢; exact hx.upO hI _
  · rw [if_neg h0] at hI ⊢
    by_cases h1 : F 0 i = 1
    · rw [if_pos h1] at hI ⊢; exact hx.upO hI _
    · rw [if_neg h1] at hI ⊢; exact hx.upO hI _
theorem itE_ne17 {F : FF} {i : Int} {ip : Value} {nm : Int} {a : Nat} {fs : List Value} : itE F i ip nm a ≠ .inr (17, fs) := by
  obtain ⟨ci, fs', e, hc⟩ := itE_obj F i ip nm a
  rw [e]
  intro hh
  cases hh
  omega
