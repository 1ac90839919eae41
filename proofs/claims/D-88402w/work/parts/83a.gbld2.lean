/-! ===== copies side by side: pure part ===== -/
set_option maxRecDepth 100000
theorem sdN_skip (room : Int → Int) : ∀ (f d : Nat) (i x : Int), x = i + d → d ≤ f → sdN room f i x = sdN room (f - d) x x := by
  intro f d
  induction d generalizing f with
  | zero => intro i x h _; rw [show i = x by omega, Nat.sub_zero]
  | succ d ih =>
    intro i x h hd
    cases f with
    | zero => omega
    | succ f =>
      have h1 := ih f (i + 1) x (by omega) (by omega)
      rw [show f + 1 - (d + 1) = f - d by omega, ← h1]
      show (if i = x then 1 + sdN room f (i + 1) (i + room i) else sdN room f (i + 1) x) = _
      rw [if_neg (by omega)]
theorem sdN_is {S : MSt} (hT : MT S) {a b : Int} {m : Nat} {c : Nat → Int} (h : SGM S a b m c) : ∀ (d : Nat), d ≤ m → sdN (S.2 46) (b - c (m - d)).toNat (c (m - d)) (c (m - d)) = d := by
  intro d
  induction d with
  | zero => intro _; rw [Nat.sub_zero, h.2.1, show (b - b).toNat = 0 by omega]; rfl
  | succ d ih =>
    intro hd
    have h1 := ih (by omega)
    have h2 := h.2.2.2.1 (m - (d + 1)) (by omega)
    rw [show m - (d + 1) + 1 = m - d by omega] at h2
    have hr := hT.1.r h2.1 h2.2.1
    have hup := h.up hT (m - d) d (by omega)
    rw [show m - d + d = m by omega, h.2.1] at hup
    obtain ⟨f, hf⟩ : ∃ f : Nat, (b - c (m - (d + 1))).toNat = f + 1 := ⟨(b - c (m - (d + 1))).toNat - 1, by omega⟩
    rw [hf]
    show (if c (m - (d + 1)) = c (m - (d + 1)) then 1 + sdN (S.2 46) f (c (m - (d + 1)) + 1) (c (m - (d + 1)) + S.2 46 (c (m - (d + 1)))) else _) = _
    rw [if_pos rfl, ← h2.2.2, sdN_skip (S.2 46) f (S.2 46 (c (m - (d + 1))) - 1).toNat (c (m - (d + 1)) + 1) (c (m - d)) (by omega) (by omega)]
    rw [show f - (S.2 46 (c (m - (d + 1))) - 1).toNat = (b - c (m - d)).toNat by omega, h1]
    push_cast
    omega
theorem cpR_get {S : MSt} {a : Int} {m : Nat} {z : Int} (h0 : 0 ≤ z) (hz : z.toNat < m) {q : Nat} (hq : q ≤ 6) : (cpR S a m).getD z.toNat noR q = rwS S q (a + z) := by
  unfold cpR
  rw [List.getD_eq_getElem?_getD, List.getElem?_map, List.getElem?_range hz]
  show rw7 _ _ _ _ _ _ _ q = _
  rw [show ((z.toNat : Nat) : Int) = z by omega]
  rcases (show q = 0 ∨ q = 1 ∨ q = 2 ∨ q = 3 ∨ q = 4 ∨ q = 5 ∨ q = 6 by omega) with rfl | rfl | rfl | rfl | rfl | rfl | rfl <;> rfl
