/-! ===== the Model: reading, small methods ===== -/
set_option maxRecDepth 100000
set_option maxHeartbeats 4000000 in
theorem mm_addToken (l : Launch) (D : va_G) (ca : Nat → ClassId) (o lv : Nat) (S : MSt) (a : Int) (b : Int) (v : Int) (ht : 0 ≤ S.1 2 ∧ S.1 2 < 601) : mCv l yX1_addToken cX1_addToken 5 D ca o lv [.ref o, .int (iI (a)), .int (iI (b)), .long (lI (v))] S (fun S' => S' = mP S [(3, upI (S.2 3) (S.1 2) a), (4, upI (S.2 4) (S.1 2) b), (5, upI (S.2 5) (S.1 2) v)] [(2, S.1 2 + 1)]) := by
  refine mCv_of (by decide +kernel) rfl (Nat.le_of_ble_eq_true rfl) ?_
  intro p e s m args below meth c Q X hK ret H locs ls hG hS hl
  have hl : lv_has ls 5 [(0, .ref o), (1, .int (iI (a))), (2, .int (iI (b))), (3, .long (lI (v)))] := hl
  refine lv_aload_n X.1 X.2.1 dX1_addToken_0 rfl (lv_at hl 0 rfl) ?_
  refine mg_sort X hK hG dX1_addToken_1 ?_
  refine lv_aload_n X.1 X.2.1 dX1_addToken_4 rfl (lv_at hl 0 rfl) ?_
  refine mg_tokens X hK hG (S.1 2) rfl dX1_addToken_5 ?_
  refine lv_iload_n X.1 X.2.1 dX1_addToken_8 rfl (lv_at hl 1 rfl) ?_
  have hG : gOk D (mA o) (mH ca o (mP S [] [])) H := hG
  refine ms_sort X hK hG hS (by omega) dX1_addToken_9 (fun H locs hG hS => ?_)
  rw [mU_mP (l' := [(3, upI (S.2 3) (S.1 2) a)]) rfl rfl] at hG
  refine lv_aload_n X.1 X.2.1 dX1_addToken_10 rfl (lv_at hl 0 rfl) ?_
  refine mg_place X hK hG dX1_addToken_11 ?_
  refine lv_aload_n X.1 X.2.1 dX1_addToken_14 rfl (lv_at hl 0 rfl) ?_
  refine mg_tokens X hK hG (S.1 2) rfl dX1_addToken_15 ?_
  refine lv_iload_n X.1 X.2.1 dX1_addToken_18 rfl (lv_at hl 2 rfl) ?_
  refine ms_place X hK hG hS (by omega) dX1_addToken_19 (fun H locs hG hS => ?_)
  rw [mU_mP (l' := [(3, upI (S.2 3) (S.1 2) a), (4, upI (S.2 4) (S.1 2) b)]) rfl rfl] at hG
  refine lv_aload_n X.1 X.2.1 dX1_addToken_20 rfl (lv_at hl 0 rfl) ?_
  refine mg_worth X hK hG dX1_addToken_21 ?_
  refine lv_aload_n X.1 X.2.1 dX1_addToken_24 rfl (lv_at hl 0 rfl) ?_
  refine mg_tokens X hK hG (S.1 2) rfl dX1_addToken_25 ?_
  refine lv_lload_n X.1 X.2.1 dX1_addToken_28 rfl (lv_at hl 3 rfl) ?_
  refine ms_worth X hK hG hS (by omega) dX1_addToken_29 (fun H locs hG hS => ?_)
  rw [mU_mP (l' := [(3, upI (S.2 3) (S.1 2) a), (4, upI (S.2 4) (S.1 2) b), (5, upI (S.2 5) (S.1 2) v)]) rfl rfl] at hG
  refine lv_aload_n X.1 X.2.1 dX1_addToken_30 rfl (lv_at hl 0 rfl) ?_
  refine lv_dup X.1 X.2.1 dX1_addToken_31 rfl ?_
  refine mg_tokens X hK hG (S.1 2) rfl dX1_addToken_32 ?_
  refine lv_iconst (v := iI (1)) X.1 X.2.1 dX1_addToken_35 rfl ?_
  refine i_add X dX1_addToken_36 ?_
  refine mp_tokens X hK hG hS dX1_addToken_37 (fun H locs hG hS => ?_)
  rw [mS_mP (sc' := [(2, (S.1 2) + 1)]) rfl] at hG
  refine ret _ _ _ _ _ ?_ hG hS dX1_addToken_40
  rfl

set_option maxHeartbeats 4000000 in
theorem mm_must (l : Launch) (D : va_G) (ca : Nat → ClassId) (o lv : Nat) (S : MSt) (b : Int) (hb : b = 0 ∨ b = 1) (ht : 0 ≤ S.1 19 ∧ S.1 19 < 601) (hf : 0 ≤ S.1 21 ∧ S.1 21 ≤ 3) : mCi l yX1_must cX1_must 2 .boolean D ca o lv [.ref o, .int (iI (b))] S (fun r S' => r = bI (decide ((pMust b S).1 21 = 0)) ∧ S' = pMust b S) := by
  refine mCi_of (by decide +kernel) rfl (Nat.le_of_ble_eq_true rfl) ?_
  intro p e s m args below meth c Q X hK ret H locs ls hG hS hl
  have hl : lv_has ls 2 [(0, .ref o), (1, .int (iI (b)))] := hl
  refine lv_iload_n X.1 X.2.1 dX1_must_0 rfl (lv_at hl 1 rfl) ?_
  refine i_if_ne X 29 dX1_must_1 (by decide) (by omega) (fun c1 => ?_) (fun c1 => ?_)
  · refine lv_aload_n X.1 X.2.1 dX1_must_29 rfl (lv_at hl 0 rfl) ?_
    refine mg_fault X hK hG (S.1 21) rfl dX1_must_30 ?_
    refine i_if_ne X 40 dX1_must_33 (by decide) (by omega) (fun c33 => ?_) (fun c33 => ?_)
    · refine lv_iconst (v := iI (0)) X.1 X.2.1 dX1_must_40 rfl ?_
      refine ret _ _ _ _ _ _ ?_ (nar_b (by omega)) hG hS dX1_must_41
      have e1 : pMust b S = S := if_neg (by omega)
      rw [e1]
      exact ⟨by first | exact bI_t (by simpa using c33) | exact bI_f (by simpa using c33), rfl⟩
    · refine lv_iconst (v := iI (1)) X.1 X.2.1 dX1_must_36 rfl ?_
      refine lv_goto (tgt := 41) X.1 X.2.1 dX1_must_37 (by decide) ?_
      refine ret _ _ _ _ _ _ ?_ (nar_b (by omega)) hG hS dX1_must_41
      have e1 : pMust b S = S := if_neg (by omega)
      rw [e1]
      exact ⟨by first | exact bI_t (by simpa using c33) | exact bI_f (by simpa using c33), rfl⟩
  · refine lv_aload_n X.1 X.2.1 dX1_must_4 rfl (lv_at hl 0 rfl) ?_
    refine mg_fault X hK hG (S.1 21) rfl dX1_must_5 ?_
    refine i_if_ne X 29 dX1_must_8 (by decide) (by omega) (fun c8 => ?_) (fun c8 => ?_)
    · refine lv_aload_n X.1 X.2.1 dX1_must_29 rfl (lv_at hl 0 rfl) ?_
      refine mg_fault X hK hG (S.1 21) rfl dX1_must_30 ?_
      refine i_if_ne X 40 dX1_must_33 (by decide) (by omega) (fun c33 => ?_) (fun c33 => ?_)
      · refine lv_iconst (v := iI (0)) X.1 X.2.1 dX1_must_40 rfl ?_
        refine ret _ _ _ _ _ _ ?_ (nar_b (by omega)) hG hS dX1_must_41
        have e1 : pMust b S = S := if_neg (by omega)
        rw [e1]
        exact ⟨by first | exact bI_t (by simpa using c33) | exact bI_f (by simpa using c33), rfl⟩
      · refine lv_iconst (v := iI (1)) X.1 X.2.1 dX1_must_36 rfl ?_
        refine lv_goto (tgt := 41) X.1 X.2.1 dX1_must_37 (by decide) ?_
        refine ret _ _ _ _ _ _ ?_ (nar_b (by omega)) hG hS dX1_must_41
        have e1 : pMust b S = S := if_neg (by omega)
        rw [e1]
        exact ⟨by first | exact bI_t (by simpa using c33) | exact bI_f (by simpa using c33), rfl⟩
    · refine lv_aload_n X.1 X.2.1 dX1_must_11 rfl (lv_at hl 0 rfl) ?_
      refine lv_iconst (v := iI (1)) X.1 X.2.1 dX1_must_12 rfl ?_
      have hG : gOk D (mA o) (mH ca o (mP S [] [])) H := hG
      refine mp_fault X hK hG hS dX1_must_13 (fun H locs hG hS => ?_)
      rw [mS_mP (sc' := [(21, 1)]) rfl] at hG
      refine lv_aload_n X.1 X.2.1 dX1_must_16 rfl (lv_at hl 0 rfl) ?_
      refine lv_aload_n X.1 X.2.1 dX1_must_17 rfl (lv_at hl 0 rfl) ?_
      refine mg_place X hK hG dX1_must_18 ?_
      refine lv_aload_n X.1 X.2.1 dX1_must_21 rfl (lv_at hl 0 rfl) ?_
      refine mg_tok X hK hG (S.1 19) rfl dX1_must_22 ?_
      refine ml_place X hK hG (S.2 4) rfl (by omega) dX1_must_25 ?_
      refine mp_faultPlace X hK hG hS dX1_must_26 (fun H locs hG hS => ?_)
      rw [mS_mP (sc' := [(21, 1), (22, S.2 4 (S.1 19))]) rfl] at hG
      refine lv_aload_n X.1 X.2.1 dX1_must_29 rfl (lv_at hl 0 rfl) ?_
      refine mg_fault X hK hG 1 rfl dX1_must_30 ?_
      refine i_if_ne X 40 dX1_must_33 (by decide) (by omega) (fun c33 => ?_) (fun c33 => ?_)
      · refine lv_iconst (v := iI (0)) X.1 X.2.1 dX1_must_40 rfl ?_
        refine ret _ _ _ _ _ _ ?_ (nar_b (by omega)) hG hS dX1_must_41
        have e1 : pMust b S = mP S [] [(21, 1), (22, S.2 4 (S.1 19))] := if_pos ⟨by omega, by omega⟩
        rw [e1]
        exact ⟨by first | exact bI_f rfl | (exfalso; omega), rfl⟩
      · refine lv_iconst (v := iI (1)) X.1 X.2.1 dX1_must_36 rfl ?_
        refine lv_goto (tgt := 41) X.1 X.2.1 dX1_must_37 (by decide) ?_
        refine ret _ _ _ _ _ _ ?_ (nar_b (by omega)) hG hS dX1_must_41
        have e1 : pMust b S = mP S [] [(21, 1), (22, S.2 4 (S.1 19))] := if_pos ⟨by omega, by omega⟩
        rw [e1]
        exact ⟨by first | exact bI_f rfl | (exfalso; omega), rfl⟩

set_option maxHeartbeats 4000000 in
theorem mm_blame (l : Launch) (D : va_G) (ca : Nat → ClassId) (o lv : Nat) (S : MSt) (a : Int) (b : Int) (hb : iR b) (hw : iR (S.1 25)) (hp : iR (S.1 26)) : mCv l yX1_blame cX1_blame 3 D ca o lv [.ref o, .int (iI (a)), .int (iI (b))] S (fun S' => S' = (if S.1 25 = 0 ∨ b < S.1 26 then mP S [] [(25, a), (26, b)] else S)) := by
  refine mCv_of (by decide +kernel) rfl (Nat.le_of_ble_eq_true rfl) ?_
  intro p e s m args below meth c Q X hK ret H locs ls hG hS hl
  have hl : lv_has ls 3 [(0, .ref o), (1, .int (iI (a))), (2, .int (iI (b)))] := hl
  refine lv_aload_n X.1 X.2.1 dX1_blame_0 rfl (lv_at hl 0 rfl) ?_
  refine mg_wrong X hK hG (S.1 25) rfl dX1_blame_1 ?_
  refine i_if_eq X 15 dX1_blame_4 (by decide) (by omega) (fun c4 => ?_) (fun c4 => ?_)
  · refine lv_aload_n X.1 X.2.1 dX1_blame_15 rfl (lv_at hl 0 rfl) ?_
    refine lv_iload_n X.1 X.2.1 dX1_blame_16 rfl (lv_at hl 1 rfl) ?_
    have hG : gOk D (mA o) (mH ca o (mP S [] [])) H := hG
    refine mp_wrong X hK hG hS dX1_blame_17 (fun H locs hG hS => ?_)
    rw [mS_mP (sc' := [(25, a)]) rfl] at hG
    refine lv_aload_n X.1 X.2.1 dX1_blame_20 rfl (lv_at hl 0 rfl) ?_
    refine lv_iload_n X.1 X.2.1 dX1_blame_21 rfl (lv_at hl 2 rfl) ?_
    refine mp_wrongPlace X hK hG hS dX1_blame_22 (fun H locs hG hS => ?_)
    rw [mS_mP (sc' := [(25, a), (26, b)]) rfl] at hG
    refine ret _ _ _ _ _ ?_ hG hS dX1_blame_25
    rw [if_pos (by omega)]
  · refine lv_iload_n X.1 X.2.1 dX1_blame_7 rfl (lv_at hl 2 rfl) ?_
    refine lv_aload_n X.1 X.2.1 dX1_blame_8 rfl (lv_at hl 0 rfl) ?_
    refine mg_wrongPlace X hK hG (S.1 26) rfl dX1_blame_9 ?_
    refine i_icmp_ge X 25 dX1_blame_12 (by decide) (by omega) (by omega) (fun c12 => ?_) (fun c12 => ?_)
    · refine ret _ _ _ _ _ ?_ hG hS dX1_blame_25
      rw [if_neg (by omega)]
    · refine lv_aload_n X.1 X.2.1 dX1_blame_15 rfl (lv_at hl 0 rfl) ?_
      refine lv_iload_n X.1 X.2.1 dX1_blame_16 rfl (lv_at hl 1 rfl) ?_
      have hG : gOk D (mA o) (mH ca o (mP S [] [])) H := hG
      refine mp_wrong X hK hG hS dX1_blame_17 (fun H locs hG hS => ?_)
      rw [mS_mP (sc' := [(25, a)]) rfl] at hG
      refine lv_aload_n X.1 X.2.1 dX1_blame_20 rfl (lv_at hl 0 rfl) ?_
      refine lv_iload_n X.1 X.2.1 dX1_blame_21 rfl (lv_at hl 2 rfl) ?_
      refine mp_wrongPlace X hK hG hS dX1_blame_22 (fun H locs hG hS => ?_)
      rw [mS_mP (sc' := [(25, a), (26, b)]) rfl] at hG
      refine ret _ _ _ _ _ ?_ hG hS dX1_blame_25
      rw [if_pos (by omega)]

set_option maxHeartbeats 4000000 in
theorem mm_variable (l : Launch) (D : va_G) (ca : Nat → ClassId) (o lv : Nat) (S : MSt) (ru : Int) (v : Int) (hr : 0 ≤ ru ∧ ru < 12) (hv : lR v) (hpt : 0 ≤ S.2 16 ru ∧ S.2 16 ru ≤ S.2 17 ru ∧ S.2 17 ru ≤ 601) (hk : ∀ p, S.2 16 ru ≤ p → p < S.2 17 ru → iR (S.2 7 p) ∧ lR (S.2 8 p)) : mCi l yX1_variable cX1_variable 5 .int D ca o lv [.ref o, .int (iI (ru)), .long (lI (v))] S (fun r S' => r = pVarF S v (S.2 17 ru - S.2 16 ru).toNat (S.2 16 ru) ∧ S' = S) := by
  refine mCi_of (by decide +kernel) rfl (Nat.le_of_ble_eq_true rfl) ?_
  intro p e s m args below meth c Q X hK ret H locs ls hG hS hl
  have hl : lv_has ls 5 [(0, .ref o), (1, .int (iI (ru))), (2, .long (lI (v)))] := hl
  refine lv_aload_n X.1 X.2.1 dX1_variable_0 rfl (lv_at hl 0 rfl) ?_
  refine mg_patternsAt X hK hG dX1_variable_1 ?_
  refine lv_iload_n X.1 X.2.1 dX1_variable_4 rfl (lv_at hl 1 rfl) ?_
  refine ml_patternsAt X hK hG (S.2 16) rfl (by omega) dX1_variable_5 ?_
  refine i_top (fun P e_P => ?_)
  refine lv_istore (lv' := [(4, .int (iI (P))), (0, .ref o), (1, .int (iI (ru))), (2, .long (lI (v)))]) X.1 X.2.1 dX1_variable_6 hl (by decide) rfl (fun ls hl => ?_)
  obtain ⟨Z, eZ⟩ : ∃ Z, Z = pVarF S v (S.2 17 ru - S.2 16 ru).toNat (S.2 16 ru) := ⟨_, rfl⟩
  have L8 : ∀ (N8 : Nat) (q : Int), (S.2 16 ru ≤ q ∧ q ≤ S.2 17 ru) → (pVarF S v (S.2 17 ru - q).toNat q = Z) → (S.2 17 ru - q).toNat < N8 → ∀ (H : Heap) (locs : List Loc) (ls : Array Slot), gOk D (mA o) (mH ca o S) H → va_S (mA o) s.heap H locs → lv_has ls 5 [(0, .ref o), (1, .int (iI (ru))), (2, .long (lI (v))), (4, .int (iI (q)))] → W p l e (mR lv) s m args below meth c H locs 0 0 Q (F0 m 8 ls []) := by
    intro N8
    induction N8 with
    | zero => intro q hq he hN; exact absurd hN (Nat.not_lt_zero _)
    | succ N8 ih8 =>
      intro q hq he hN8 H locs ls hG hS hl
      refine lv_iload X.1 X.2.1 dX1_variable_8 (lv_at hl 3 rfl) ?_
      refine lv_aload_n X.1 X.2.1 dX1_variable_10 rfl (lv_at hl 0 rfl) ?_
      refine mg_templateAt X hK hG dX1_variable_11 ?_
      refine lv_iload_n X.1 X.2.1 dX1_variable_14 rfl (lv_at hl 1 rfl) ?_
      refine ml_templateAt X hK hG (S.2 17) rfl (by omega) dX1_variable_15 ?_
      refine i_icmp_ge X 64 dX1_variable_16 (by decide) (by omega) (by omega) (fun c16 => ?_) (fun c16 => ?_)
      · refine lv_bipush (v := iI (-9)) X.1 X.2.1 dX1_variable_64 (by decide) ?_
        refine ret _ _ _ _ _ _ ?_ (rfl) hG hS dX1_variable_66
        refine ⟨?_, rfl⟩
        rw [← eZ, ← he, show (S.2 17 ru - q).toNat = 0 by omega]
        rfl
      · have hq9 := hk q (by omega) (by omega)
        rw [show (S.2 17 ru - q).toNat = (S.2 17 ru - (q + 1)).toNat + 1 by omega] at he
        unfold pVarF at he
        refine lv_aload_n X.1 X.2.1 dX1_variable_19 rfl (lv_at hl 0 rfl) ?_
        refine mg_kind X hK hG dX1_variable_20 ?_
        refine lv_iload X.1 X.2.1 dX1_variable_23 (lv_at hl 3 rfl) ?_
        refine ml_kind X hK hG (S.2 7) rfl (by omega) dX1_variable_25 ?_
        refine lv_bipush (v := iI (6)) X.1 X.2.1 dX1_variable_26 (by decide) ?_
        refine i_icmp_eq X 43 dX1_variable_28 (by decide) (by omega) (by omega) (fun c28 => ?_) (fun c28 => ?_)
        · refine lv_aload_n X.1 X.2.1 dX1_variable_43 rfl (lv_at hl 0 rfl) ?_
          refine mg_value X hK hG dX1_variable_44 ?_
          refine lv_iload X.1 X.2.1 dX1_variable_47 (lv_at hl 3 rfl) ?_
          refine ml_value X hK hG (S.2 8) rfl (by omega) dX1_variable_49 ?_
          refine lv_lload_n X.1 X.2.1 dX1_variable_50 rfl (lv_at hl 2 rfl) ?_
          refine i_lcmp_ne X 58 dX1_variable_51 dX1_variable_52 (by decide) (by omega) (by omega) (fun c51 => ?_) (fun c51 => ?_)
          · refine i_inc (lv' := [(4, .int (iI (q + 1))), (0, .ref o), (1, .int (iI (ru))), (2, .long (lI (v)))]) X dX1_variable_58 hl (k := 3) rfl (by decide) rfl (fun ls hl => ?_)
            refine lv_goto (tgt := 8) X.1 X.2.1 dX1_variable_61 (by decide) ?_
            exact ih8 (q + 1) (by omega) (by rw [if_neg (by omega)] at he; exact he) (by omega) H locs ls hG hS (lv_sub hl [1, 2, 3, 0] rfl)
          · refine lv_iload X.1 X.2.1 dX1_variable_55 (lv_at hl 3 rfl) ?_
            refine ret _ _ _ _ _ _ ?_ (rfl) hG hS dX1_variable_57
            exact ⟨by rw [← eZ, ← he, if_pos (by omega)], rfl⟩
        · refine lv_aload_n X.1 X.2.1 dX1_variable_31 rfl (lv_at hl 0 rfl) ?_
          refine mg_kind X hK hG dX1_variable_32 ?_
          refine lv_iload X.1 X.2.1 dX1_variable_35 (lv_at hl 3 rfl) ?_
          refine ml_kind X hK hG (S.2 7) rfl (by omega) dX1_variable_37 ?_
          refine lv_bipush (v := iI (7)) X.1 X.2.1 dX1_variable_38 (by decide) ?_
          refine i_icmp_ne X 58 dX1_variable_40 (by decide) (by omega) (by omega) (fun c40 => ?_) (fun c40 => ?_)
          · refine i_inc (lv' := [(4, .int (iI (q + 1))), (0, .ref o), (1, .int (iI (ru))), (2, .long (lI (v)))]) X dX1_variable_58 hl (k := 3) rfl (by decide) rfl (fun ls hl => ?_)
            refine lv_goto (tgt := 8) X.1 X.2.1 dX1_variable_61 (by decide) ?_
            exact ih8 (q + 1) (by omega) (by rw [if_neg (by omega)] at he; exact he) (by omega) H locs ls hG hS (lv_sub hl [1, 2, 3, 0] rfl)
          · refine lv_aload_n X.1 X.2.1 dX1_variable_43 rfl (lv_at hl 0 rfl) ?_
            refine mg_value X hK hG dX1_variable_44 ?_
            refine lv_iload X.1 X.2.1 dX1_variable_47 (lv_at hl 3 rfl) ?_
            refine ml_value X hK hG (S.2 8) rfl (by omega) dX1_variable_49 ?_
            refine lv_lload_n X.1 X.2.1 dX1_variable_50 rfl (lv_at hl 2 rfl) ?_
            refine i_lcmp_ne X 58 dX1_variable_51 dX1_variable_52 (by decide) (by omega) (by omega) (fun c51 => ?_) (fun c51 => ?_)
            · refine i_inc (lv' := [(4, .int (iI (q + 1))), (0, .ref o), (1, .int (iI (ru))), (2, .long (lI (v)))]) X dX1_variable_58 hl (k := 3) rfl (by decide) rfl (fun ls hl => ?_)
              refine lv_goto (tgt := 8) X.1 X.2.1 dX1_variable_61 (by decide) ?_
              exact ih8 (q + 1) (by omega) (by rw [if_neg (by omega)] at he; exact he) (by omega) H locs ls hG hS (lv_sub hl [1, 2, 3, 0] rfl)
            · refine lv_iload X.1 X.2.1 dX1_variable_55 (lv_at hl 3 rfl) ?_
              refine ret _ _ _ _ _ _ ?_ (rfl) hG hS dX1_variable_57
              exact ⟨by rw [← eZ, ← he, if_pos (by omega)], rfl⟩
  exact L8 _ P (by omega) (by rw [eZ, e_P]) (Nat.lt_succ_self _) H locs ls hG hS (lv_sub hl [1, 2, 3, 0] rfl)

set_option maxHeartbeats 4000000 in
theorem mm_node (l : Launch) (D : va_G) (ca : Nat → ClassId) (o lv : Nat) (S : MSt) (a : Int) (v : Int) (hn : 0 ≤ S.1 6 ∧ S.1 6 < 601) (ht : 0 ≤ S.1 19 ∧ S.1 19 < 601) (hp : 0 ≤ S.1 24 ∧ S.1 24 ≤ 16) (hq : 0 < S.1 24 → 0 ≤ S.2 23 (S.1 24 - 1) ∧ S.2 23 (S.1 24 - 1) < 601) : mCi l yX1_node cX1_node 5 .int D ca o lv [.ref o, .int (iI (a)), .long (lI (v))] S (fun r S' => r = S.1 6 ∧ S' = pNode a v S) := by
  refine mCi_of (by decide +kernel) rfl (Nat.le_of_ble_eq_true rfl) ?_
  intro p e s m args below meth c Q X hK ret H locs ls hG hS hl
  have hl : lv_has ls 5 [(0, .ref o), (1, .int (iI (a))), (2, .long (lI (v)))] := hl
  refine lv_aload_n X.1 X.2.1 dX1_node_0 rfl (lv_at hl 0 rfl) ?_
  refine mg_nodes X hK hG (S.1 6) rfl dX1_node_1 ?_
  refine lv_istore (lv' := [(4, .int (iI (S.1 6))), (0, .ref o), (1, .int (iI (a))), (2, .long (lI (v)))]) X.1 X.2.1 dX1_node_4 hl (by decide) rfl (fun ls hl => ?_)
  refine lv_aload_n X.1 X.2.1 dX1_node_6 rfl (lv_at hl 1 rfl) ?_
  refine lv_dup X.1 X.2.1 dX1_node_7 rfl ?_
  refine mg_nodes X hK hG (S.1 6) rfl dX1_node_8 ?_
  refine lv_iconst (v := iI (1)) X.1 X.2.1 dX1_node_11 rfl ?_
  refine i_add X dX1_node_12 ?_
  have hG : gOk D (mA o) (mH ca o (mP S [] [])) H := hG
  refine mp_nodes X hK hG hS dX1_node_13 (fun H locs hG hS => ?_)
  rw [mS_mP (sc' := [(6, (S.1 6) + 1)]) rfl] at hG
  refine lv_aload_n X.1 X.2.1 dX1_node_16 rfl (lv_at hl 1 rfl) ?_
  refine mg_kind X hK hG dX1_node_17 ?_
  refine lv_iload X.1 X.2.1 dX1_node_20 (lv_at hl 0 rfl) ?_
  refine lv_iload_n X.1 X.2.1 dX1_node_22 rfl (lv_at hl 2 rfl) ?_
  refine ms_kind X hK hG hS (by omega) dX1_node_23 (fun H locs hG hS => ?_)
  rw [mU_mP (l' := [(7, upI (S.2 7) (S.1 6) a)]) rfl rfl] at hG
  refine lv_aload_n X.1 X.2.1 dX1_node_24 rfl (lv_at hl 1 rfl) ?_
  refine mg_value X hK hG dX1_node_25 ?_
  refine lv_iload X.1 X.2.1 dX1_node_28 (lv_at hl 0 rfl) ?_
  refine lv_lload_n X.1 X.2.1 dX1_node_30 rfl (lv_at hl 3 rfl) ?_
  refine ms_value X hK hG hS (by omega) dX1_node_31 (fun H locs hG hS => ?_)
  rw [mU_mP (l' := [(7, upI (S.2 7) (S.1 6) a), (8, upI (S.2 8) (S.1 6) v)]) rfl rfl] at hG
  refine lv_aload_n X.1 X.2.1 dX1_node_32 rfl (lv_at hl 1 rfl) ?_
  refine mg_nodePlace X hK hG dX1_node_33 ?_
  refine lv_iload X.1 X.2.1 dX1_node_36 (lv_at hl 0 rfl) ?_
  refine lv_aload_n X.1 X.2.1 dX1_node_38 rfl (lv_at hl 1 rfl) ?_
  refine mg_place X hK hG dX1_node_39 ?_
  refine lv_aload_n X.1 X.2.1 dX1_node_42 rfl (lv_at hl 1 rfl) ?_
  refine mg_tok X hK hG (S.1 19) rfl dX1_node_43 ?_
  refine ml_place X hK hG (S.2 4) rfl (by omega) dX1_node_46 ?_
  refine ms_nodePlace X hK hG hS (by omega) dX1_node_47 (fun H locs hG hS => ?_)
  rw [mU_mP (l' := [(7, upI (S.2 7) (S.1 6) a), (8, upI (S.2 8) (S.1 6) v), (9, upI (S.2 9) (S.1 6) (S.2 4 (S.1 19)))]) rfl rfl] at hG
  refine lv_aload_n X.1 X.2.1 dX1_node_48 rfl (lv_at hl 1 rfl) ?_
  refine mg_span X hK hG dX1_node_49 ?_
  refine lv_iload X.1 X.2.1 dX1_node_52 (lv_at hl 0 rfl) ?_
  refine lv_iconst (v := iI (1)) X.1 X.2.1 dX1_node_54 rfl ?_
  refine ms_span X hK hG hS (by omega) dX1_node_55 (fun H locs hG hS => ?_)
  rw [mU_mP (l' := [(7, upI (S.2 7) (S.1 6) a), (8, upI (S.2 8) (S.1 6) v), (9, upI (S.2 9) (S.1 6) (S.2 4 (S.1 19))), (10, upI (S.2 10) (S.1 6) 1)]) rfl rfl] at hG
  refine lv_aload_n X.1 X.2.1 dX1_node_56 rfl (lv_at hl 1 rfl) ?_
  refine mg_count X hK hG dX1_node_57 ?_
  refine lv_iload X.1 X.2.1 dX1_node_60 (lv_at hl 0 rfl) ?_
  refine lv_iconst (v := iI (0)) X.1 X.2.1 dX1_node_62 rfl ?_
  refine ms_count X hK hG hS (by omega) dX1_node_63 (fun H locs hG hS => ?_)
  rw [mU_mP (l' := [(7, upI (S.2 7) (S.1 6) a), (8, upI (S.2 8) (S.1 6) v), (9, upI (S.2 9) (S.1 6) (S.2 4 (S.1 19))), (10, upI (S.2 10) (S.1 6) 1), (11, upI (S.2 11) (S.1 6) 0)]) rfl rfl] at hG
  refine lv_aload_n X.1 X.2.1 dX1_node_64 rfl (lv_at hl 1 rfl) ?_
  refine mg_parent X hK hG dX1_node_65 ?_
  refine lv_iload X.1 X.2.1 dX1_node_68 (lv_at hl 0 rfl) ?_
  have K93 : ∀ (z : Int), (z = pTop S) → ∀ (H : Heap) (locs : List Loc) (ls : Array Slot), gOk D (mA o) (mH ca o (mP S [(7, upI (S.2 7) (S.1 6) a), (8, upI (S.2 8) (S.1 6) v), (9, upI (S.2 9) (S.1 6) (S.2 4 (S.1 19))), (10, upI (S.2 10) (S.1 6) 1), (11, upI (S.2 11) (S.1 6) 0)] [(6, S.1 6 + 1)])) H → va_S (mA o) s.heap H locs → lv_has ls 5 [(0, .ref o), (4, .int (iI (S.1 6)))] → W p l e (mR lv) s m args below meth c H locs 0 0 Q (F0 m 93 ls [.int (iI (z)), .int (iI (S.1 6)), .ref (o + 10)]) := by
    intro z hz H locs ls hG hS hl
    refine ms_parent X hK hG hS (by omega) dX1_node_93 (fun H locs hG hS => ?_)
    rw [mU_mP (l' := [(7, upI (S.2 7) (S.1 6) a), (8, upI (S.2 8) (S.1 6) v), (9, upI (S.2 9) (S.1 6) (S.2 4 (S.1 19))), (10, upI (S.2 10) (S.1 6) 1), (11, upI (S.2 11) (S.1 6) 0), (12, upI (S.2 12) (S.1 6) z)]) rfl rfl] at hG
    refine lv_aload_n X.1 X.2.1 dX1_node_94 rfl (lv_at hl 0 rfl) ?_
    refine mg_piled X hK hG (S.1 24) rfl dX1_node_95 ?_
    refine i_if_le X 121 dX1_node_98 (by decide) (by omega) (fun c98 => ?_) (fun c98 => ?_)
    · refine lv_iload X.1 X.2.1 dX1_node_121 (lv_at hl 1 rfl) ?_
      refine ret _ _ _ _ _ _ ?_ (rfl) hG hS dX1_node_123
      refine ⟨rfl, ?_⟩
      unfold pNode pCnt
      rw [if_neg (by omega), hz]
    · refine lv_aload_n X.1 X.2.1 dX1_node_101 rfl (lv_at hl 0 rfl) ?_
      refine mg_count X hK hG dX1_node_102 ?_
      refine lv_aload_n X.1 X.2.1 dX1_node_105 rfl (lv_at hl 0 rfl) ?_
      refine mg_pile X hK hG dX1_node_106 ?_
      refine lv_aload_n X.1 X.2.1 dX1_node_109 rfl (lv_at hl 0 rfl) ?_
      refine mg_piled X hK hG (S.1 24) rfl dX1_node_110 ?_
      refine lv_iconst (v := iI (1)) X.1 X.2.1 dX1_node_113 rfl ?_
      refine i_sub X dX1_node_114 ?_
      refine ml_pile X hK hG (S.2 23) rfl (by omega) dX1_node_115 ?_
      refine lv_dup2_11 X.1 X.2.1 dX1_node_116 rfl rfl ?_
      refine ml_count X hK hG (upI (S.2 11) (S.1 6) 0) rfl (by omega) dX1_node_117 ?_
      refine lv_iconst (v := iI (1)) X.1 X.2.1 dX1_node_118 rfl ?_
      refine i_add X dX1_node_119 ?_
      refine ms_count X hK hG hS (by omega) dX1_node_120 (fun H locs hG hS => ?_)
      rw [mU_mP (l' := [(7, upI (S.2 7) (S.1 6) a), (8, upI (S.2 8) (S.1 6) v), (9, upI (S.2 9) (S.1 6) (S.2 4 (S.1 19))), (10, upI (S.2 10) (S.1 6) 1), (11, upI (upI (S.2 11) (S.1 6) 0) (S.2 23 ((S.1 24) - 1)) (((upI (S.2 11) (S.1 6) 0) (S.2 23 ((S.1 24) - 1))) + 1)), (12, upI (S.2 12) (S.1 6) z)]) rfl rfl] at hG
      refine lv_iload X.1 X.2.1 dX1_node_121 (lv_at hl 1 rfl) ?_
      refine ret _ _ _ _ _ _ ?_ (rfl) hG hS dX1_node_123
      refine ⟨rfl, ?_⟩
      unfold pNode pCnt
      rw [if_pos (by omega), hz]
  refine lv_aload_n X.1 X.2.1 dX1_node_70 rfl (lv_at hl 1 rfl) ?_
  refine mg_piled X hK hG (S.1 24) rfl dX1_node_71 ?_
  refine i_if_le X 91 dX1_node_74 (by decide) (by omega) (fun c74 => ?_) (fun c74 => ?_)
  · refine lv_bipush (v := iI (-9)) X.1 X.2.1 dX1_node_91 (by decide) ?_
    exact K93 ((-9)) (by unfold pTop; first | (rw [if_pos (by omega)]; done) | (rw [if_neg (by omega)])) H locs ls hG hS (lv_sub hl [1, 0] rfl)
  · refine lv_aload_n X.1 X.2.1 dX1_node_77 rfl (lv_at hl 1 rfl) ?_
    refine mg_pile X hK hG dX1_node_78 ?_
    refine lv_aload_n X.1 X.2.1 dX1_node_81 rfl (lv_at hl 1 rfl) ?_
    refine mg_piled X hK hG (S.1 24) rfl dX1_node_82 ?_
    refine lv_iconst (v := iI (1)) X.1 X.2.1 dX1_node_85 rfl ?_
    refine i_sub X dX1_node_86 ?_
    refine ml_pile X hK hG (S.2 23) rfl (by omega) dX1_node_87 ?_
    refine lv_goto (tgt := 93) X.1 X.2.1 dX1_node_88 (by decide) ?_
    exact K93 (S.2 23 ((S.1 24) - 1)) (by unfold pTop; first | (rw [if_pos (by omega)]; done) | (rw [if_neg (by omega)])) H locs ls hG hS (lv_sub hl [1, 0] rfl)

set_option maxHeartbeats 4000000 in
theorem mm_take (l : Launch) (D : va_G) (ca : Nat → ClassId) (o lv : Nat) (S : MSt) (a : Int) (hlv : 1 ≤ lv) (ha : iR a) (hs : iR (S.2 3 (S.1 19))) (ht : 0 ≤ S.1 19 ∧ S.1 19 < 601) (hf : 0 ≤ S.1 21 ∧ S.1 21 ≤ 3) : mCv l yX1_take cX1_take 2 D ca o lv [.ref o, .int (iI (a))] S (fun S' => S' = pTake a S) := by
  refine mCv_of (by decide +kernel) rfl (Nat.le_of_ble_eq_true rfl) ?_
  intro p e s m args below meth c Q X hK ret H locs ls hG hS hl
  have hl : lv_has ls 2 [(0, .ref o), (1, .int (iI (a)))] := hl
  refine lv_aload_n X.1 X.2.1 dX1_take_0 rfl (lv_at hl 0 rfl) ?_
  have K19 : ∀ (z : Int), (z = bI (decide (S.2 3 (S.1 19) = a))) → ∀ (H : Heap) (locs : List Loc) (ls : Array Slot), gOk D (mA o) (mH ca o S) H → va_S (mA o) s.heap H locs → lv_has ls 2 [(0, .ref o), (1, .int (iI (a)))] → W p l e (mR lv) s m args below meth c H locs 0 0 Q (F0 m 19 ls [.int (iI (z)), .ref o]) := by
    intro z hz H locs ls hG hS hl
    have hb9 : z = 0 ∨ z = 1 := by rw [hz]; exact bI_01 _
    refine m_callVi (rest := []) (n := 1) X hK hG hS (fun _ h => h) (mm_must l D ca o (lv - 1) S z hb9 (by omega) (by omega)) (lw_V q1475 q1477 qs31 q70 q1478) (by decide +kernel) rfl ⟨by show (lv - 1) + 1 ≤ lv; omega, by show 8 + (2 + 11) + 40 * (lv - 1) ≤ 40 * lv; omega⟩ ⟨Nat.le_refl _, Nat.le_refl _⟩ hl.1 rfl (Nat.le_of_ble_eq_true rfl) dX1_take_19 (fun zM SM H locs hpM hG hS _ _ => ?_)
    obtain ⟨rfl, rfl⟩ := hpM
    have hg1 : ∀ {k : Nat}, k ≠ 21 → k ≠ 22 → (pMust z S).1 k = S.1 k := fun h h2 => pMust_g1 _ S h h2
    have hg2 : ∀ k, (pMust z S).2 k = S.2 k := fun k => pMust_g2 _ S k
    refine i_if_eq X 35 dX1_take_22 (by decide) (bI_iR _) (fun c22 => ?_) (fun c22 => ?_)
    · have c22 := bI_eq0.mp c22
      refine ret _ _ _ _ _ ?_ hG hS dX1_take_35
      rw [hz] at *
      unfold pTake
      rw [if_neg (by simpa using c22)]
    · have c22 := bI_ne0.mp c22
      refine lv_aload_n X.1 X.2.1 dX1_take_25 rfl (lv_at hl 0 rfl) ?_
      refine lv_dup X.1 X.2.1 dX1_take_26 rfl ?_
      refine mg_tok X hK hG (((pMust z S)).1 19) rfl dX1_take_27 ?_
      refine lv_iconst (v := iI (1)) X.1 X.2.1 dX1_take_30 rfl ?_
      refine i_add X dX1_take_31 ?_
      have hG : gOk D (mA o) (mH ca o (mP ((pMust z S)) [] [])) H := hG
      refine mp_tok X hK hG hS dX1_take_32 (fun H locs hG hS => ?_)
      rw [mS_mP (sc' := [(19, (((pMust z S)).1 19) + 1)]) rfl] at hG
      refine ret _ _ _ _ _ ?_ hG hS dX1_take_35
      rw [hz] at *
      unfold pTake
      rw [if_pos (by simpa using c22), pMust_g1 _ S (by decide) (by decide)]
  refine lv_aload_n X.1 X.2.1 dX1_take_1 rfl (lv_at hl 0 rfl) ?_
  refine mg_sort X hK hG dX1_take_2 ?_
  refine lv_aload_n X.1 X.2.1 dX1_take_5 rfl (lv_at hl 0 rfl) ?_
  refine mg_tok X hK hG (S.1 19) rfl dX1_take_6 ?_
  refine ml_sort X hK hG (S.2 3) rfl (by omega) dX1_take_9 ?_
  refine lv_iload_n X.1 X.2.1 dX1_take_10 rfl (lv_at hl 1 rfl) ?_
  refine i_icmp_ne X 18 dX1_take_11 (by decide) (by omega) (by omega) (fun c11 => ?_) (fun c11 => ?_)
  · refine lv_iconst (v := iI (0)) X.1 X.2.1 dX1_take_18 rfl ?_
    exact K19 0 (by first | exact bI_t (by simpa using c11) | exact bI_f (by simpa using c11)) H locs ls hG hS (lv_sub hl [0, 1] rfl)
  · refine lv_iconst (v := iI (1)) X.1 X.2.1 dX1_take_14 rfl ?_
    refine lv_goto (tgt := 19) X.1 X.2.1 dX1_take_15 (by decide) ?_
    exact K19 1 (by first | exact bI_t (by simpa using c11) | exact bI_f (by simpa using c11)) H locs ls hG hS (lv_sub hl [0, 1] rfl)

set_option maxHeartbeats 4000000 in
theorem mm_isRule (l : Launch) (D : va_G) (ca : Nat → ClassId) (o lv : Nat) (S : MSt) (ht : 0 ≤ S.1 19 ∧ S.1 19 < 600) (h1 : iR (S.2 3 (S.1 19))) (h2 : iR (S.2 3 (S.1 19 + 1))) (h3 : lR (S.2 5 (S.1 19 + 1))) : mCi l yX1_isRule cX1_isRule 1 .boolean D ca o lv [.ref o] S (fun r S' => r = bI (pIsRule S) ∧ S' = S) := by
  refine mCi_of (by decide +kernel) rfl (Nat.le_of_ble_eq_true rfl) ?_
  intro p e s m args below meth c Q X hK ret H locs ls hG hS hl
  have hl : lv_has ls 1 [(0, .ref o)] := hl
  refine lv_aload_n X.1 X.2.1 dX1_isRule_0 rfl (lv_at hl 0 rfl) ?_
  refine mg_sort X hK hG dX1_isRule_1 ?_
  refine lv_aload_n X.1 X.2.1 dX1_isRule_4 rfl (lv_at hl 0 rfl) ?_
  refine mg_tok X hK hG (S.1 19) rfl dX1_isRule_5 ?_
  refine ml_sort X hK hG (S.2 3) rfl (by omega) dX1_isRule_8 ?_
  refine lv_bipush (v := iI (40)) X.1 X.2.1 dX1_isRule_9 (by decide) ?_
  refine i_icmp_ne X 69 dX1_isRule_11 (by decide) (by omega) (by omega) (fun c11 => ?_) (fun c11 => ?_)
  · refine lv_iconst (v := iI (0)) X.1 X.2.1 dX1_isRule_69 rfl ?_
    refine ret _ _ _ _ _ _ ?_ (nar_b (by omega)) hG hS dX1_isRule_70
    refine ⟨?_, rfl⟩
    first | (apply bI_t; unfold pIsRule; simp; omega) | (apply bI_f; unfold pIsRule; rw [← Bool.not_eq_true]; simp only [Bool.and_eq_true, Bool.or_eq_true, decide_eq_true_eq]; omega)
  · refine lv_aload_n X.1 X.2.1 dX1_isRule_14 rfl (lv_at hl 0 rfl) ?_
    refine mg_sort X hK hG dX1_isRule_15 ?_
    refine lv_aload_n X.1 X.2.1 dX1_isRule_18 rfl (lv_at hl 0 rfl) ?_
    refine mg_tok X hK hG (S.1 19) rfl dX1_isRule_19 ?_
    refine lv_iconst (v := iI (1)) X.1 X.2.1 dX1_isRule_22 rfl ?_
    refine i_add X dX1_isRule_23 ?_
    refine ml_sort X hK hG (S.2 3) rfl (by omega) dX1_isRule_24 ?_
    refine lv_iconst (v := iI (2)) X.1 X.2.1 dX1_isRule_25 rfl ?_
    refine i_icmp_ne X 69 dX1_isRule_26 (by decide) (by omega) (by omega) (fun c26 => ?_) (fun c26 => ?_)
    · refine lv_iconst (v := iI (0)) X.1 X.2.1 dX1_isRule_69 rfl ?_
      refine ret _ _ _ _ _ _ ?_ (nar_b (by omega)) hG hS dX1_isRule_70
      refine ⟨?_, rfl⟩
      first | (apply bI_t; unfold pIsRule; simp; omega) | (apply bI_f; unfold pIsRule; rw [← Bool.not_eq_true]; simp only [Bool.and_eq_true, Bool.or_eq_true, decide_eq_true_eq]; omega)
    · refine lv_aload_n X.1 X.2.1 dX1_isRule_29 rfl (lv_at hl 0 rfl) ?_
      refine mg_worth X hK hG dX1_isRule_30 ?_
      refine lv_aload_n X.1 X.2.1 dX1_isRule_33 rfl (lv_at hl 0 rfl) ?_
      refine mg_tok X hK hG (S.1 19) rfl dX1_isRule_34 ?_
      refine lv_iconst (v := iI (1)) X.1 X.2.1 dX1_isRule_37 rfl ?_
      refine i_add X dX1_isRule_38 ?_
      refine ml_worth X hK hG (S.2 5) rfl (by omega) dX1_isRule_39 ?_
      refine lv_ldc2 (v := lI (1685221239)) X.1 X.2.1 X.2.2.2.1 (X.2.2.2.2 _ q1469) dX1_isRule_40 ?_
      refine i_lcmp_eq X 65 dX1_isRule_43 dX1_isRule_44 (by decide) (by omega) (by omega) (fun c43 => ?_) (fun c43 => ?_)
      · refine lv_iconst (v := iI (1)) X.1 X.2.1 dX1_isRule_65 rfl ?_
        refine lv_goto (tgt := 70) X.1 X.2.1 dX1_isRule_66 (by decide) ?_
        refine ret _ _ _ _ _ _ ?_ (nar_b (by omega)) hG hS dX1_isRule_70
        refine ⟨?_, rfl⟩
        first | (apply bI_t; unfold pIsRule; simp; omega) | (apply bI_f; unfold pIsRule; rw [← Bool.not_eq_true]; simp only [Bool.and_eq_true, Bool.or_eq_true, decide_eq_true_eq]; omega)
      · refine lv_aload_n X.1 X.2.1 dX1_isRule_47 rfl (lv_at hl 0 rfl) ?_
        refine mg_worth X hK hG dX1_isRule_48 ?_
        refine lv_aload_n X.1 X.2.1 dX1_isRule_51 rfl (lv_at hl 0 rfl) ?_
        refine mg_tok X hK hG (S.1 19) rfl dX1_isRule_52 ?_
        refine lv_iconst (v := iI (1)) X.1 X.2.1 dX1_isRule_55 rfl ?_
        refine i_add X dX1_isRule_56 ?_
        refine ml_worth X hK hG (S.2 5) rfl (by omega) dX1_isRule_57 ?_
        refine lv_ldc2 (v := lI (7823730)) X.1 X.2.1 X.2.2.2.1 (X.2.2.2.2 _ q1470) dX1_isRule_58 ?_
        refine i_lcmp_ne X 69 dX1_isRule_61 dX1_isRule_62 (by decide) (by omega) (by omega) (fun c61 => ?_) (fun c61 => ?_)
        · refine lv_iconst (v := iI (0)) X.1 X.2.1 dX1_isRule_69 rfl ?_
          refine ret _ _ _ _ _ _ ?_ (nar_b (by omega)) hG hS dX1_isRule_70
          refine ⟨?_, rfl⟩
          first | (apply bI_t; unfold pIsRule; simp; omega) | (apply bI_f; unfold pIsRule; rw [← Bool.not_eq_true]; simp only [Bool.and_eq_true, Bool.or_eq_true, decide_eq_true_eq]; omega)
        · refine lv_iconst (v := iI (1)) X.1 X.2.1 dX1_isRule_65 rfl ?_
          refine lv_goto (tgt := 70) X.1 X.2.1 dX1_isRule_66 (by decide) ?_
          refine ret _ _ _ _ _ _ ?_ (nar_b (by omega)) hG hS dX1_isRule_70
          refine ⟨?_, rfl⟩
          first | (apply bI_t; unfold pIsRule; simp; omega) | (apply bI_f; unfold pIsRule; rw [← Bool.not_eq_true]; simp only [Bool.and_eq_true, Bool.or_eq_true, decide_eq_true_eq]; omega)

set_option maxHeartbeats 4000000 in
theorem mm_open (l : Launch) (D : va_G) (ca : Nat → ClassId) (o lv : Nat) (S : MSt) (hlv : 1 ≤ lv) (hn : 0 ≤ S.1 6 ∧ S.1 6 < 601) (ht : 0 ≤ S.1 19 ∧ S.1 19 < 601) (hp : 0 ≤ S.1 24 ∧ S.1 24 ≤ 16) (hq : 0 < S.1 24 → 0 ≤ S.2 23 (S.1 24 - 1) ∧ S.2 23 (S.1 24 - 1) < 601) (hf : 0 ≤ S.1 21 ∧ S.1 21 ≤ 3) (hs : iR (S.2 3 (S.1 19))) (hpp : S.1 24 < 16) (hdd : iR (S.1 20)) : mCv l yX1_open cX1_open 2 D ca o lv [.ref o] S (fun S' => S' = pOpen S) := by
  refine mCv_of (by decide +kernel) rfl (Nat.le_of_ble_eq_true rfl) ?_
  intro p e s m args below meth c Q X hK ret H locs ls hG hS hl
  have hl : lv_has ls 2 [(0, .ref o)] := hl
  refine lv_aload_n X.1 X.2.1 dX1_open_0 rfl (lv_at hl 0 rfl) ?_
  have K29 : ∀ (z : Int), (z = (bI (decide (S.2 3 (S.1 19) = 40) && decide (S.1 20 < 12)))) → ∀ (H : Heap) (locs : List Loc) (ls : Array Slot), gOk D (mA o) (mH ca o S) H → va_S (mA o) s.heap H locs → lv_has ls 2 [(0, .ref o)] → W p l e (mR lv) s m args below meth c H locs 0 0 Q (F0 m 29 ls [.int (iI (z)), .ref o]) := by
    intro z hz H locs ls hG hS hl
    have hb9 : z = 0 ∨ z = 1 := by rw [hz]; exact bI_01 _
    refine m_callVi (rest := []) (n := 1) X hK hG hS (fun _ h => h) (mm_must l D ca o (lv - 1) S z hb9 (by omega) (by omega)) (lw_V q1475 q1477 qs31 q70 q1478) (by decide +kernel) rfl ⟨by show (lv - 1) + 1 ≤ lv; omega, by show 8 + (2 + 11) + 40 * (lv - 1) ≤ 40 * lv; omega⟩ ⟨Nat.le_refl _, Nat.le_refl _⟩ hl.1 rfl (Nat.le_of_ble_eq_true rfl) dX1_open_29 (fun zM SM H locs hpM hG hS _ _ => ?_)
    obtain ⟨rfl, rfl⟩ := hpM
    have hg1 : ∀ {k : Nat}, k ≠ 21 → k ≠ 22 → (pMust z S).1 k = S.1 k := fun h h2 => pMust_g1 _ S h h2
    have hg2 : ∀ k, (pMust z S).2 k = S.2 k := fun k => pMust_g2 _ S k
    refine lv_pop X.1 X.2.1 dX1_open_32 rfl ?_
    have hf9 : iR ((pMust z S).1 21) := by unfold pMust; split <;> (first | (show iR 1; omega) | omega)
    refine lv_aload_n X.1 X.2.1 dX1_open_33 rfl (lv_at hl 0 rfl) ?_
    refine mg_fault X hK hG (((pMust z S)).1 21) rfl dX1_open_34 ?_
    refine i_if_ne X 87 dX1_open_37 (by decide) (by omega) (fun c37 => ?_) (fun c37 => ?_)
    · refine ret _ _ _ _ _ ?_ hG hS dX1_open_87
      unfold pOpen pOpenB
      rw [← hz]
      rw [if_neg c37]
    · refine lv_aload_n X.1 X.2.1 dX1_open_40 rfl (lv_at hl 0 rfl) ?_
      refine lv_iconst (v := iI (2)) X.1 X.2.1 dX1_open_41 rfl ?_
      refine lv_lconst (v := lI (0)) X.1 X.2.1 dX1_open_42 rfl ?_
      refine m_callVi (rest := []) (n := 2) X hK hG hS (fun _ h => h) (mm_node l D ca o (lv - 1) ((pMust z S)) 2 0 (by rw [hg1 (by decide) (by decide)]; exact hn) (by rw [hg1 (by decide) (by decide)]; exact ht) (by rw [hg1 (by decide) (by decide)]; exact hp) (by rw [hg1 (by decide) (by decide), hg2]; exact hq)) (lw_V q1493 q1495 qs35 q70 q1496) (by decide +kernel) rfl ⟨by show (lv - 1) + 1 ≤ lv; omega, by show 8 + (5 + 11) + 40 * (lv - 1) ≤ 40 * lv; omega⟩ ⟨Nat.le_refl _, Nat.le_refl _⟩ hl.1 rfl (Nat.le_of_ble_eq_true rfl) dX1_open_43 (fun zN SN H locs hpN hG hS _ _ => ?_)
      obtain ⟨hzN, rfl⟩ := hpN
      rw [hzN, hg1 (by decide) (by decide)]
      refine lv_istore_n (lv' := [(1, .int (iI (S.1 6))), (0, .ref o)]) X.1 X.2.1 dX1_open_46 rfl hl (by decide) rfl (fun ls hl => ?_)
      have e23 : (pNode 2 0 (pMust z S)).2 23 = S.2 23 := hg2 23
      have e24 : (pNode 2 0 (pMust z S)).1 24 = S.1 24 := hg1 (by decide) (by decide)
      have e20 : (pNode 2 0 (pMust z S)).1 20 = S.1 20 := hg1 (by decide) (by decide)
      have e19 : (pNode 2 0 (pMust z S)).1 19 = S.1 19 := hg1 (by decide) (by decide)
      refine lv_aload_n X.1 X.2.1 dX1_open_47 rfl (lv_at hl 1 rfl) ?_
      refine mg_pile X hK hG dX1_open_48 ?_
      refine lv_aload_n X.1 X.2.1 dX1_open_51 rfl (lv_at hl 1 rfl) ?_
      refine mg_piled X hK hG ((pNode 2 0 ((pMust z S))).1 24) rfl dX1_open_52 ?_
      refine lv_iload_n X.1 X.2.1 dX1_open_55 rfl (lv_at hl 0 rfl) ?_
      have hG : gOk D (mA o) (mH ca o (mP (pNode 2 0 ((pMust z S))) [] [])) H := hG
      refine ms_pile X hK hG hS (by omega) dX1_open_56 (fun H locs hG hS => ?_)
      rw [mU_mP (l' := [(23, upI ((pNode 2 0 ((pMust z S))).2 23) ((pNode 2 0 ((pMust z S))).1 24) (S.1 6))]) rfl rfl] at hG
      refine lv_aload_n X.1 X.2.1 dX1_open_57 rfl (lv_at hl 1 rfl) ?_
      refine lv_dup X.1 X.2.1 dX1_open_58 rfl ?_
      refine mg_piled X hK hG ((pNode 2 0 ((pMust z S))).1 24) rfl dX1_open_59 ?_
      refine lv_iconst (v := iI (1)) X.1 X.2.1 dX1_open_62 rfl ?_
      refine i_add X dX1_open_63 ?_
      refine mp_piled X hK hG hS dX1_open_64 (fun H locs hG hS => ?_)
      rw [mS_mP (sc' := [(24, ((pNode 2 0 ((pMust z S))).1 24) + 1)]) rfl] at hG
      refine lv_aload_n X.1 X.2.1 dX1_open_67 rfl (lv_at hl 1 rfl) ?_
      refine lv_dup X.1 X.2.1 dX1_open_68 rfl ?_
      refine mg_deep X hK hG ((pNode 2 0 ((pMust z S))).1 20) rfl dX1_open_69 ?_
      refine lv_iconst (v := iI (1)) X.1 X.2.1 dX1_open_72 rfl ?_
      refine i_add X dX1_open_73 ?_
      refine mp_deep X hK hG hS dX1_open_74 (fun H locs hG hS => ?_)
      rw [mS_mP (sc' := [(24, ((pNode 2 0 ((pMust z S))).1 24) + 1), (20, ((pNode 2 0 ((pMust z S))).1 20) + 1)]) rfl] at hG
      refine lv_aload_n X.1 X.2.1 dX1_open_77 rfl (lv_at hl 1 rfl) ?_
      refine lv_dup X.1 X.2.1 dX1_open_78 rfl ?_
      refine mg_tok X hK hG ((pNode 2 0 ((pMust z S))).1 19) rfl dX1_open_79 ?_
      refine lv_iconst (v := iI (1)) X.1 X.2.1 dX1_open_82 rfl ?_
      refine i_add X dX1_open_83 ?_
      refine mp_tok X hK hG hS dX1_open_84 (fun H locs hG hS => ?_)
      rw [mS_mP (sc' := [(24, ((pNode 2 0 ((pMust z S))).1 24) + 1), (20, ((pNode 2 0 ((pMust z S))).1 20) + 1), (19, ((pNode 2 0 ((pMust z S))).1 19) + 1)]) rfl] at hG
      refine ret _ _ _ _ _ ?_ hG hS dX1_open_87
      unfold pOpen pOpenB
      rw [← hz]
      rw [if_pos c37]
      simp only [e23, e24, e20, e19]
  refine lv_aload_n X.1 X.2.1 dX1_open_1 rfl (lv_at hl 0 rfl) ?_
  refine mg_sort X hK hG dX1_open_2 ?_
  refine lv_aload_n X.1 X.2.1 dX1_open_5 rfl (lv_at hl 0 rfl) ?_
  refine mg_tok X hK hG (S.1 19) rfl dX1_open_6 ?_
  refine ml_sort X hK hG (S.2 3) rfl (by omega) dX1_open_9 ?_
  refine lv_bipush (v := iI (40)) X.1 X.2.1 dX1_open_10 (by decide) ?_
  refine i_icmp_ne X 28 dX1_open_12 (by decide) (by omega) (by omega) (fun c12 => ?_) (fun c12 => ?_)
  · refine lv_iconst (v := iI (0)) X.1 X.2.1 dX1_open_28 rfl ?_
    exact K29 0 (by first | (apply bI_t; simp; omega) | (apply bI_f; simp; omega)) H locs ls hG hS (lv_sub hl [0] rfl)
  · refine lv_aload_n X.1 X.2.1 dX1_open_15 rfl (lv_at hl 0 rfl) ?_
    refine mg_deep X hK hG (S.1 20) rfl dX1_open_16 ?_
    refine lv_bipush (v := iI (12)) X.1 X.2.1 dX1_open_19 (by decide) ?_
    refine i_icmp_ge X 28 dX1_open_21 (by decide) (by omega) (by omega) (fun c21 => ?_) (fun c21 => ?_)
    · refine lv_iconst (v := iI (0)) X.1 X.2.1 dX1_open_28 rfl ?_
      exact K29 0 (by first | (apply bI_t; simp; omega) | (apply bI_f; simp; omega)) H locs ls hG hS (lv_sub hl [0] rfl)
    · refine lv_iconst (v := iI (1)) X.1 X.2.1 dX1_open_24 rfl ?_
      refine lv_goto (tgt := 29) X.1 X.2.1 dX1_open_25 (by decide) ?_
      exact K29 1 (by first | (apply bI_t; simp; omega) | (apply bI_f; simp; omega)) H locs ls hG hS (lv_sub hl [0] rfl)

set_option maxHeartbeats 4000000 in
theorem mm_close (l : Launch) (D : va_G) (ca : Nat → ClassId) (o lv : Nat) (S : MSt) (hlv : 2 ≤ lv) (hn : 0 ≤ S.1 6 ∧ S.1 6 < 601) (ht : 0 ≤ S.1 19 ∧ S.1 19 < 601) (hp : 0 ≤ S.1 24 ∧ S.1 24 ≤ 16) (hq : 0 < S.1 24 → 0 ≤ S.2 23 (S.1 24 - 1) ∧ S.2 23 (S.1 24 - 1) < 601) (hf : 0 ≤ S.1 21 ∧ S.1 21 ≤ 3) (hs : iR (S.2 3 (S.1 19))) (hpp : 0 < S.1 24) : mCv l yX1_close cX1_close 1 D ca o lv [.ref o] S (fun S' => S' = pClose S) := by
  refine mCv_of (by decide +kernel) rfl (Nat.le_of_ble_eq_true rfl) ?_
  intro p e s m args below meth c Q X hK ret H locs ls hG hS hl
  have hl : lv_has ls 1 [(0, .ref o)] := hl
  refine lv_aload_n X.1 X.2.1 dX1_close_0 rfl (lv_at hl 0 rfl) ?_
  refine lv_bipush (v := iI (41)) X.1 X.2.1 dX1_close_1 (by decide) ?_
  refine m_callVv (rest := []) (n := 1) X hK hG hS (fun _ h => h) (mm_take l D ca o (lv - 1) S 41 (by omega) (by omega) hs ht hf) (lw_V q1501 q1503 qs37 q70 q1504) (by decide +kernel) rfl ⟨by show (lv - 1) + 1 ≤ lv; omega, by show 8 + (2 + 11) + 40 * (lv - 1) ≤ 40 * lv; omega⟩ ⟨Nat.le_refl _, Nat.le_refl _⟩ hl.1 rfl (Nat.le_of_ble_eq_true rfl) dX1_close_3 (fun ST H locs hpT hG hS _ _ => ?_)
  obtain rfl := hpT
  have hg1 : ∀ {k : Nat}, k ≠ 21 → k ≠ 22 → k ≠ 19 → (pTake 41 S).1 k = S.1 k := fun a b c => pTake_g1 41 S a b c
  have hg2 : ∀ k, (pTake 41 S).2 k = S.2 k := fun k => pTake_g2 41 S k
  have e24 : (pTake 41 S).1 24 = S.1 24 := hg1 (by decide) (by decide) (by decide)
  have e20 : (pTake 41 S).1 20 = S.1 20 := hg1 (by decide) (by decide) (by decide)
  have e6 : (pTake 41 S).1 6 = S.1 6 := hg1 (by decide) (by decide) (by decide)
  have e23 := hg2 23
  have e10 := hg2 10
  have hq := hq (by omega)
  rw [← e24, ← e23] at hq
  refine lv_aload_n X.1 X.2.1 dX1_close_6 rfl (lv_at hl 0 rfl) ?_
  refine lv_dup X.1 X.2.1 dX1_close_7 rfl ?_
  refine mg_piled X hK hG ((pTake 41 S).1 24) rfl dX1_close_8 ?_
  refine lv_iconst (v := iI (1)) X.1 X.2.1 dX1_close_11 rfl ?_
  refine i_sub X dX1_close_12 ?_
  have hG : gOk D (mA o) (mH ca o (mP (pTake 41 S) [] [])) H := hG
  refine mp_piled X hK hG hS dX1_close_13 (fun H locs hG hS => ?_)
  rw [mS_mP (sc' := [(24, ((pTake 41 S).1 24) - 1)]) rfl] at hG
  refine lv_aload_n X.1 X.2.1 dX1_close_16 rfl (lv_at hl 0 rfl) ?_
  refine lv_dup X.1 X.2.1 dX1_close_17 rfl ?_
  refine mg_deep X hK hG ((pTake 41 S).1 20) rfl dX1_close_18 ?_
  refine lv_iconst (v := iI (1)) X.1 X.2.1 dX1_close_21 rfl ?_
  refine i_sub X dX1_close_22 ?_
  refine mp_deep X hK hG hS dX1_close_23 (fun H locs hG hS => ?_)
  rw [mS_mP (sc' := [(24, ((pTake 41 S).1 24) - 1), (20, ((pTake 41 S).1 20) - 1)]) rfl] at hG
  refine lv_aload_n X.1 X.2.1 dX1_close_26 rfl (lv_at hl 0 rfl) ?_
  refine mg_span X hK hG dX1_close_27 ?_
  refine lv_aload_n X.1 X.2.1 dX1_close_30 rfl (lv_at hl 0 rfl) ?_
  refine mg_pile X hK hG dX1_close_31 ?_
  refine lv_aload_n X.1 X.2.1 dX1_close_34 rfl (lv_at hl 0 rfl) ?_
  refine mg_piled X hK hG (((pTake 41 S).1 24) - 1) rfl dX1_close_35 ?_
  refine ml_pile X hK hG ((pTake 41 S).2 23) rfl (by omega) dX1_close_38 ?_
  refine lv_aload_n X.1 X.2.1 dX1_close_39 rfl (lv_at hl 0 rfl) ?_
  refine mg_nodes X hK hG ((pTake 41 S).1 6) rfl dX1_close_40 ?_
  refine lv_aload_n X.1 X.2.1 dX1_close_43 rfl (lv_at hl 0 rfl) ?_
  refine mg_pile X hK hG dX1_close_44 ?_
  refine lv_aload_n X.1 X.2.1 dX1_close_47 rfl (lv_at hl 0 rfl) ?_
  refine mg_piled X hK hG (((pTake 41 S).1 24) - 1) rfl dX1_close_48 ?_
  refine ml_pile X hK hG ((pTake 41 S).2 23) rfl (by omega) dX1_close_51 ?_
  refine i_sub X dX1_close_52 ?_
  refine ms_span X hK hG hS (by omega) dX1_close_53 (fun H locs hG hS => ?_)
  rw [mU_mP (l' := [(10, upI ((pTake 41 S).2 10) (((pTake 41 S).2 23) (((pTake 41 S).1 24) - 1)) (((pTake 41 S).1 6) - (((pTake 41 S).2 23) (((pTake 41 S).1 24) - 1))))]) rfl rfl] at hG
  refine ret _ _ _ _ _ ?_ hG hS dX1_close_54
  unfold pClose
  simp only [e24, e20, e6, e23, e10]

