/-! ===== the Model: reading a list whole ===== -/
set_option maxRecDepth 100000
set_option maxHeartbeats 4000000 in
theorem mm_readWhole (l : Launch) (D : va_G) (ca : Nat → ClassId) (o lv : Nat) (S : MSt) (way : Int) (hlv : 5 ≤ lv) (N : Nat) (hway : way = 0 ∨ way = 1 ∨ way = 2) (hF : S.1 21 = 0) (hA : pAsk (mP S [] [(24, 0)])) (hok : pWok way N (pOne way (mP S [] [(24, 0)]))) : mCv l yX1_readWhole cX1_readWhole 2 D ca o lv [.ref o, .int (iI (way))] S (fun S' => S' = pWh way N (pOne way (mP S [] [(24, 0)]))) := by
  refine mCv_of (by decide +kernel) rfl (Nat.le_of_ble_eq_true rfl) ?_
  intro p e s m args below meth c Q X hK ret H locs ls hG hS hl
  have hl : lv_has ls 2 [(0, .ref o), (1, .int (iI (way)))] := hl
  refine lv_aload_n X.1 X.2.1 dX1_readWhole_0 rfl (lv_at hl 0 rfl) ?_
  refine lv_iconst (v := iI (0)) X.1 X.2.1 dX1_readWhole_1 rfl ?_
  have hG : gOk D (mA o) (mH ca o (mP S [] [])) H := hG
  refine mp_piled X hK hG hS dX1_readWhole_2 (fun H locs hG hS => ?_)
  rw [mS_mP (sc' := [(24, 0)]) rfl] at hG
  refine lv_aload_n X.1 X.2.1 dX1_readWhole_5 rfl (lv_at hl 0 rfl) ?_
  refine lv_iload_n X.1 X.2.1 dX1_readWhole_6 rfl (lv_at hl 1 rfl) ?_
  refine m_callVv (rest := []) (n := 1) X hK hG hS (fun _ h => h) (mm_readOne l D ca o (lv - 1) (mP S [] [(24, 0)]) way (by omega) hway hA.1 hA.2.1 hA.2.2.1 hA.2.2.2.1 hF hA.2.2.2.2.1 hA.2.2.2.2.2.1 hA.2.2.2.2.2.2.1 hA.2.2.2.2.2.2.2.1 hA.2.2.2.2.2.2.2.2) (lw_V q1485 q1487 qs33 q70 q1488) (by decide +kernel) rfl ⟨by show (lv - 1) + 1 ≤ lv; omega, by show 8 + (5 + 11) + 40 * (lv - 1) ≤ 40 * lv; omega⟩ ⟨Nat.le_refl _, Nat.le_refl _⟩ hl.1 rfl (Nat.le_of_ble_eq_true rfl) dX1_readWhole_7 (fun SX H locs hpX hG hS _ _ => ?_)
  obtain rfl := hpX
  obtain ⟨Z, eZ⟩ : ∃ Z, Z = pWh way N (pOne way (mP S [] [(24, 0)])) := ⟨_, rfl⟩
  have L10 : ∀ (N10 : Nat) (f : Nat) (T : MSt), (pWok way f T) → (pWh way f T = Z) → f < N10 → ∀ (H : Heap) (locs : List Loc) (ls : Array Slot), gOk D (mA o) (mH ca o T) H → va_S (mA o) s.heap H locs → lv_has ls 2 [(0, .ref o), (1, .int (iI (way)))] → W p l e (mR lv) s m args below meth c H locs 0 0 Q (F0 m 10 ls []) := by
    intro N10
    induction N10 with
    | zero => intro f T hT he hN; exact absurd hN (Nat.not_lt_zero _)
    | succ N10 ih10 =>
      intro f T hT he hN10 H locs ls hG hS hl
      refine lv_aload_n X.1 X.2.1 dX1_readWhole_10 rfl (lv_at hl 0 rfl) ?_
      have hr9 : iR (T.1 21) ∧ iR (T.1 24) := by cases f with | zero => exact hT.2 | succ f => exact hT.1
      refine mg_fault X hK hG (T.1 21) rfl dX1_readWhole_11 ?_
      refine i_if_ne X 32 dX1_readWhole_14 (by decide) (by omega) (fun c14 => ?_) (fun c14 => ?_)
      · refine ret _ _ _ _ _ ?_ hG hS dX1_readWhole_32
        rw [← eZ, ← he]
        cases f with
        | zero => rfl
        | succ f => show _ = if T.1 21 = 0 ∧ 0 < T.1 24 then pWh way f (pOne way T) else T; rw [if_neg (by omega)]
      · refine lv_aload_n X.1 X.2.1 dX1_readWhole_17 rfl (lv_at hl 0 rfl) ?_
        refine mg_piled X hK hG (T.1 24) rfl dX1_readWhole_18 ?_
        refine i_if_le X 32 dX1_readWhole_21 (by decide) (by omega) (fun c21 => ?_) (fun c21 => ?_)
        · refine ret _ _ _ _ _ ?_ hG hS dX1_readWhole_32
          rw [← eZ, ← he]
          cases f with
          | zero => rfl
          | succ f => show _ = if T.1 21 = 0 ∧ 0 < T.1 24 then pWh way f (pOne way T) else T; rw [if_neg (by omega)]
        · obtain ⟨f2, rfl⟩ : ∃ f2, f = f2 + 1 := by cases f with | zero => exact absurd ⟨c14, c21⟩ hT.1 | succ f => exact ⟨f, rfl⟩
          obtain ⟨hA, hT2⟩ := hT.2 ⟨c14, c21⟩
          have hF := c14
          have he2 : pWh way f2 (pOne way T) = Z := by rw [← he]; show _ = if T.1 21 = 0 ∧ 0 < T.1 24 then pWh way f2 (pOne way T) else T; rw [if_pos ⟨c14, c21⟩]
          refine lv_aload_n X.1 X.2.1 dX1_readWhole_24 rfl (lv_at hl 0 rfl) ?_
          refine lv_iload_n X.1 X.2.1 dX1_readWhole_25 rfl (lv_at hl 1 rfl) ?_
          refine m_callVv (rest := []) (n := 1) X hK hG hS (fun _ h => h) (mm_readOne l D ca o (lv - 1) T way (by omega) hway hA.1 hA.2.1 hA.2.2.1 hA.2.2.2.1 hF hA.2.2.2.2.1 hA.2.2.2.2.2.1 hA.2.2.2.2.2.2.1 hA.2.2.2.2.2.2.2.1 hA.2.2.2.2.2.2.2.2) (lw_V q1485 q1487 qs33 q70 q1488) (by decide +kernel) rfl ⟨by show (lv - 1) + 1 ≤ lv; omega, by show 8 + (5 + 11) + 40 * (lv - 1) ≤ 40 * lv; omega⟩ ⟨Nat.le_refl _, Nat.le_refl _⟩ hl.1 rfl (Nat.le_of_ble_eq_true rfl) dX1_readWhole_26 (fun SX H locs hpX hG hS _ _ => ?_)
          obtain rfl := hpX
          refine lv_goto (tgt := 10) X.1 X.2.1 dX1_readWhole_29 (by decide) ?_
          skip
          exact ih10 f2 (pOne way T) hT2 he2 (by omega) H locs ls hG hS (lv_sub hl [0, 1] rfl)
  exact L10 _ N (pOne way (mP S [] [(24, 0)])) hok eZ.symm (Nat.lt_succ_self _) H locs ls hG hS (lv_sub hl [0, 1] rfl)

