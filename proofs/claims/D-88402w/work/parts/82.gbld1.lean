/-! ===== a template is built: items of one row; copies at another place ===== -/
set_option maxRecDepth 100000
theorem CPD_leaf {G : gEnv} {h h' : gH} {R : FF} {ins : Int → Int} {c : Int} {n n' : Nat} (hs : gSub h h') (hn : n < n') (hr : R 5 c = 1) (hw : R 0 c < 2) (he : h' n = some ((1, 0), itE R c .null 0 n)) : CPD G h h' R ins (fun _ => n) c n n' := by
  refine ⟨⟨hs, by omega, fun q a b => by omega, fun x y a b d e _ => by omega, fun q a b => ⟨Nat.le_refl _, hn⟩⟩, he, fun w => by omega⟩
/-- rows at two places: the same from a and from c on, x of them -/
def SAM (R R2 : FF) (a c x : Int) : Prop := ∀ z, 0 ≤ z → z < x → ∀ k, k ≤ 6 → R2 k (c + z) = R k (a + z)
theorem chh_shift {room room2 : Int → Int} {a c x i : Int} (hs : ∀ z, 0 ≤ z → z < x → room2 (c + z) = room (a + z)) : ∀ (j : Nat), (∀ j' : Nat, j' < j → a ≤ chh room i j' ∧ chh room i j' < a + x) → chh room2 (c + (i - a)) j = c + (chh room i j - a) := by
  intro j
  induction j with
  | zero => intro _; show c + (i - a) + 1 = c + (i + 1 - a); omega
  | succ j ih =>
    intro h
    have h1 := ih (fun j' hj => h j' (by omega))
    have h2 := h j (by omega)
    show chh room2 (c + (i - a)) j + room2 (chh room2 (c + (i - a)) j) = c + (chh room i j + room (chh room i j) - a)
    rw [h1, hs (chh room i j - a) (by omega) (by omega), show a + (chh room i j - a) = chh room i j by omega]
    omega
section SHIFT
variable {n n2 : Int} {R R2 : FF} {insS insR : Int → Int} {a c : Int}
theorem ins_shift (hT : TW n (R 0) (R 5) (R 6)) (hTI : TI n (R 0) (R 5) (R 6) insS) (hT2 : TW n2 (R2 0) (R2 5) (R2 6)) (hTI2 : TI n2 (R2 0) (R2 5) (R2 6) insR) (h0 : 0 ≤ a) (hn : a < n) (c0 : 0 ≤ c) (hc : c + R 5 a ≤ n2) (hs : SAM R R2 a c (R 5 a)) {x : Int} (x0 : 0 < x) (hx : x < R 5 a) : insR (c + x) = c + (insS (a + x) - a) := by
  have hr := hT.r h0 hn
  obtain ⟨i, j, i0, ik, iw, ij, ie, ii⟩ := hTI.2.2 (a + x) (by omega) (by omega)
  have hin := hTI.inner hT (j := a) (k := a + x) h0 (by omega) (by omega) (by omega)
  rw [ii] at hin ⊢
  have hx2 : i < a + R 5 a := by omega
  have e0 : R2 0 (c + (i - a)) = R 0 i := by rw [hs (i - a) (by omega) (by omega) 0 (by omega), show a + (i - a) = i by omega]
  have e6 : R2 6 (c + (i - a)) = R 6 i := by rw [hs (i - a) (by omega) (by omega) 6 (by omega), show a + (i - a) = i by omega]
  have hne := hT.nest (c := a) (i := i) h0 hn hin hx2
  have h3 : chh (R2 5) (c + (i - a)) j = c + (chh (R 5) i j - a) := by
    refine chh_shift (x := R 5 a) (fun z y1 y2 => hs z y1 y2 5 (by omega)) j (fun j' hj => ?_)
    have := hT.kid i0 (by omega) iw (j := j') (by omega)
    omega
  rw [← ie] at h3
  have h4 := hTI2.of (i := c + (i - a)) (by omega) (by omega) (by rw [e0]; exact iw) (j := j) (by rw [e6]; exact ij)
  rw [h3] at h4
  rw [show c + x = c + (a + x - a) by omega]
  exact h4
theorem CPD_shift {G : gEnv} {h h' : gH} {adS : Int → Nat} {m m' : Nat} (hT : TW n (R 0) (R 5) (R 6)) (hTI : TI n (R 0) (R 5) (R 6) insS) (hT2 : TW n2 (R2 0) (R2 5) (R2 6)) (hTI2 : TI n2 (R2 0) (R2 5) (R2 6) insR) (h0 : 0 ≤ a) (hn : a < n) (c0 : 0 ≤ c) (hc : c + R 5 a ≤ n2) (hs : SAM R R2 a c (R 5 a)) (hC : CPD G h h' R insS adS a m m') : CPD G h h' R2 (fun q => if q = 0 then -1 else insR q) (fun z => adS (a + (z - c))) c m m' := by
  obtain ⟨⟨b1, b2, b3, b4, b5⟩, b6⟩ := hC
  have hr := hT.r h0 hn
  have e5 : R2 5 c = R 5 a := by have := hs 0 (by omega) (by omega) 5 (by omega); rw [show c + 0 = c by omega, show a + 0 = a by omega] at this; exact this
  have key : ∀ q, c ≤ q → q < c + R 5 a → ∀ inp : Value, IT G h' R adS (1, 0) inp 0 (a + (q - c)) → IT G h' R2 (fun z => adS (a + (z - c))) (1, 0) inp 0 q := by
    intro q q1 q2 inp hI
    have er : ∀ k, k ≤ 6 → R2 k q = R k (a + (q - c)) := fun k hk => by
      have := hs (q - c) (by omega) (by omega) k hk
      rw [show c + (q - c) = q by omega] at this
      exact this
    have eI : itE R2 q inp 0 (adS (a + (q - c))) = itE R (a + (q - c)) inp 0 (adS (a + (q - c))) := by
      unfold itE
      rw [er 0 (by omega), er 1 (by omega), er 2 (by omega), er 3 (by omega), er 4 (by omega)]
    refine ⟨by show h' (adS (a + (q - c))) = _; rw [eI]; exact hI.1, fun w => ?_⟩
    rw [er 0 (by omega)] at w
    have hA := hI.2 w
    have hne := hT.nest (c := a) (i := a + (q - c)) h0 hn (by omega) (by omega)
    have ec : chs R2 (fun z => adS (a + (z - c))) q = chs R adS (a + (q - c)) := by
      unfold chs
      rw [er 6 (by omega)]
      apply List.map_congr_left
      intro j hj
      have hj := List.mem_range.mp hj
      have h3 := chh_shift (room := R 5) (room2 := R2 5) (a := a) (c := c) (x := R 5 a) (i := a + (q - c)) (fun z y1 y2 => hs z y1 y2 5 (by omega)) j (fun j' hj' => by
        have := hT.kid (i := a + (q - c)) (by omega) (by omega) w (j := j') (by omega)
        omega)
      rw [show c + (a + (q - c) - a) = q by omega] at h3
      show adS (a + (chh (R2 5) q j - c)) = _
      rw [h3]
      congr 1
      omega
    show AL G h' (adS (a + (q - c)) + 1) (chs R2 (fun z => adS (a + (z - c))) q) (R2 6 q).toNat
    rw [ec, er 6 (by omega)]
    exact hA
  refine ⟨⟨b1, b2, fun q q1 q2 => ?_, fun x y x1 x2 y1 y2 e => ?_, fun q q1 q2 => ?_⟩, ?_⟩
  · rw [e5] at q2
    have hi := ins_shift hT hTI hT2 hTI2 h0 hn c0 hc hs (x := q - c) (by omega) (by omega)
    rw [show c + (q - c) = q by omega] at hi
    dsimp only
    rw [if_neg (by omega), hi, show a + (c + (insS (a + (q - c)) - a) - c) = insS (a + (q - c)) by omega]
    exact key q (by omega) q2 _ (b3 (a + (q - c)) (by omega) (by omega))
  · rw [e5] at x2 y2
    have := b4 (a + (x - c)) (a + (y - c)) (by omega) (by omega) (by omega) (by omega) e
    omega
  · rw [e5] at q2
    exact b5 (a + (q - c)) (by omega) (by omega)
  · refine key c (Int.le_refl _) (by omega) _ ?_
    rw [show a + (c - c) = a by omega]
    exact b6
end SHIFT
