/-! ===== the Model: the other questions ===== -/
set_option maxRecDepth 100000
set_option maxHeartbeats 4000000 in
theorem mm_fault (l : Launch) (D : va_G) (ca : Nat → ClassId) (o lv : Nat) (S : MSt) : mCi l yX1_fault cX1_fault 1 .int D ca o lv [.ref o] S (fun r S' => r = S.1 28 ∧ S' = S) := by
  refine mCi_of (by decide +kernel) rfl (Nat.le_of_ble_eq_true rfl) ?_
  intro p e s m args below meth c Q X hK ret H locs ls hG hS hl
  have hl : lv_has ls 1 [(0, .ref o)] := hl
  refine lv_aload_n X.1 X.2.1 dX1_fault_0 rfl (lv_at hl 0 rfl) ?_
  refine mg_told X hK hG (S.1 28) rfl dX1_fault_1 ?_
  refine ret _ _ _ _ _ _ ?_ (rfl) hG hS dX1_fault_4
  exact ⟨rfl, rfl⟩

set_option maxHeartbeats 4000000 in
theorem mm_cut (l : Launch) (D : va_G) (ca : Nat → ClassId) (o lv : Nat) (S : MSt) : mCi l yX1_cut cX1_cut 2 .int D ca o lv [.ref o] S (fun r S' => r = S.1 1 ∧ S' = mP S [] [(1, 0)]) := by
  refine mCi_of (by decide +kernel) rfl (Nat.le_of_ble_eq_true rfl) ?_
  intro p e s m args below meth c Q X hK ret H locs ls hG hS hl
  have hl : lv_has ls 2 [(0, .ref o)] := hl
  refine lv_aload_n X.1 X.2.1 dX1_cut_0 rfl (lv_at hl 0 rfl) ?_
  refine mg_size X hK hG (S.1 1) rfl dX1_cut_1 ?_
  refine lv_istore_n (lv' := [(1, .int (iI (S.1 1))), (0, .ref o)]) X.1 X.2.1 dX1_cut_4 rfl hl (by decide) rfl (fun ls hl => ?_)
  refine lv_aload_n X.1 X.2.1 dX1_cut_5 rfl (lv_at hl 1 rfl) ?_
  refine lv_iconst (v := iI (0)) X.1 X.2.1 dX1_cut_6 rfl ?_
  have hG : gOk D (mA o) (mH ca o (mP S [] [])) H := hG
  refine mp_size X hK hG hS dX1_cut_7 (fun H locs hG hS => ?_)
  rw [mS_mP (sc' := [(1, 0)]) rfl] at hG
  refine lv_iload_n X.1 X.2.1 dX1_cut_10 rfl (lv_at hl 0 rfl) ?_
  refine ret _ _ _ _ _ _ ?_ (rfl) hG hS dX1_cut_11
  exact ⟨rfl, rfl⟩

set_option maxHeartbeats 4000000 in
theorem mm_item (l : Launch) (D : va_G) (ca : Nat → ClassId) (o lv : Nat) (S : MSt) (i : Int) (a : Int) (hlv : 3 ≤ lv) (hi : iR i) (hth : S.1 27 = 0 ∨ S.1 27 = 1) (hT : S.1 27 = 1 → MT S ∧ MP S) (hnn : 0 ≤ S.1 40 ∧ S.1 40 ≤ 500) (ha : iR a) : mCi l yX1_item cX1_item 3 .int D ca o lv [.ref o, .int (iI (i)), .int (iI (a))] S (fun r S' => r = (if S.1 27 = 0 then -3 else if 0 ≤ i ∧ i < S.1 40 then (if a = 0 then S.2 41 i else if a = 1 then (if 2 ≤ S.2 41 i then S.2 47 i else 0) else if a = 2 then (if S.2 41 i = 0 then S.2 42 i else 0) else if a = 3 then (if S.2 41 i = 1 then S.2 43 i else -9) else if a = 4 then S.2 44 i else if a = 5 then S.2 45 i else if a = 6 then S.2 48 i else if a = 7 then spReads S i else -2) else -1) ∧ S' = S) := by
  refine mCi_of (by decide +kernel) rfl (Nat.le_of_ble_eq_true rfl) ?_
  intro p e s m args below meth c Q X hK ret H locs ls hG hS hl
  have hl : lv_has ls 3 [(0, .ref o), (1, .int (iI (i))), (2, .int (iI (a)))] := hl
  refine lv_aload_n X.1 X.2.1 dX1_item_0 rfl (lv_at hl 0 rfl) ?_
  refine mg_isThere X hK hG (S.1 27) rfl dX1_item_1 ?_
  refine i_if_ne X 10 dX1_item_4 (by decide) (by first | omega | (split <;> omega)) (fun c4 => ?_) (fun c4 => ?_)
  · refine lv_aload_n X.1 X.2.1 dX1_item_10 rfl (lv_at hl 0 rfl) ?_
    refine lv_iload_n X.1 X.2.1 dX1_item_11 rfl (lv_at hl 1 rfl) ?_
    refine m_callVp (rest := []) (n := 1) X hK hG hS (fun _ h => h) (mm_isItem l D ca o (lv - 1) S i (by omega) (by omega) (by omega)) (lw_V q1532 q1534 qs42 q70 q1535) (by decide +kernel) rfl ⟨by show (lv - 1) + 1 ≤ lv; omega, by show 8 + (2 + 11) + 40 * (lv - 1) ≤ 40 * lv; omega⟩ ⟨Nat.le_refl _, Nat.le_refl _⟩ hl.1 rfl (Nat.le_of_ble_eq_true rfl) dX1_item_12 (fun H locs hG hS _ _ => ?_)
    refine i_if_ne X 20 dX1_item_15 (by decide) (bI_iR _) (fun c15 => ?_) (fun c15 => ?_)
    · have c15 := bI_ne0.mp c15
      have c15 : 0 ≤ i ∧ i < S.1 40 := by simpa using c15
      obtain ⟨hT, hP⟩ := hT (by omega)
      have hwi := hT.1.w c15.1 c15.2
      refine lv_iload_n X.1 X.2.1 dX1_item_20 rfl (lv_at hl 2 rfl) ?_
      by_cases s21 : a < 0 ∨ 7 < a
      · refine i_tableOut X (by first | omega | (split <;> omega)) (tgt := 166) dX1_item_21 s21 (by decide) ?_
        refine lv_bipush (v := iI (-2)) X.1 X.2.1 dX1_item_166 (by decide) ?_
        refine ret _ _ _ _ _ _ ?_ (rfl) hG hS dX1_item_168
        refine ⟨?_, rfl⟩
        rw [if_neg c4, if_pos c15]
        repeat (first | rw [if_neg (by omega)] | rw [if_pos (by omega)])
      · rcases (show a = 0 ∨ a = 1 ∨ a = 2 ∨ a = 3 ∨ a = 4 ∨ a = 5 ∨ a = 6 ∨ a = 7 by omega) with s21_0 | s21_1 | s21_2 | s21_3 | s21_4 | s21_5 | s21_6 | s21_7
        · refine i_tableIn X (by first | omega | (split <;> omega)) (off := 47) (tgt := 68) dX1_item_21 (by omega) (by omega) (by rw [s21_0]; rfl) (by decide) ?_
          refine lv_aload_n X.1 X.2.1 dX1_item_68 rfl (lv_at hl 0 rfl) ?_
          refine mg_what X hK hG dX1_item_69 ?_
          refine lv_iload_n X.1 X.2.1 dX1_item_72 rfl (lv_at hl 1 rfl) ?_
          refine ml_what X hK hG (S.2 41) rfl (by first | omega | (split <;> omega)) dX1_item_73 ?_
          refine ret _ _ _ _ _ _ ?_ (rfl) hG hS dX1_item_74
          refine ⟨?_, rfl⟩
          rw [if_neg c4, if_pos c15]
          repeat (first | rw [if_neg (by omega)] | rw [if_pos (by omega)])
        · refine i_tableIn X (by first | omega | (split <;> omega)) (off := 54) (tgt := 75) dX1_item_21 (by omega) (by omega) (by rw [s21_1]; rfl) (by decide) ?_
          refine lv_aload_n X.1 X.2.1 dX1_item_75 rfl (lv_at hl 0 rfl) ?_
          refine mg_what X hK hG dX1_item_76 ?_
          refine lv_iload_n X.1 X.2.1 dX1_item_79 rfl (lv_at hl 1 rfl) ?_
          refine ml_what X hK hG (S.2 41) rfl (by first | omega | (split <;> omega)) dX1_item_80 ?_
          refine lv_iconst (v := iI (2)) X.1 X.2.1 dX1_item_81 rfl ?_
          refine i_icmp_lt X 94 dX1_item_82 (by decide) (by first | omega | (split <;> omega)) (by first | omega | (split <;> omega)) (fun c82 => ?_) (fun c82 => ?_)
          · refine lv_iconst (v := iI (0)) X.1 X.2.1 dX1_item_94 rfl ?_
            refine ret _ _ _ _ _ _ ?_ (rfl) hG hS dX1_item_95
            refine ⟨?_, rfl⟩
            rw [if_neg c4, if_pos c15]
            repeat (first | rw [if_neg (by omega)] | rw [if_pos (by omega)])
          · refine lv_aload_n X.1 X.2.1 dX1_item_85 rfl (lv_at hl 0 rfl) ?_
            refine mg_parts X hK hG dX1_item_86 ?_
            refine lv_iload_n X.1 X.2.1 dX1_item_89 rfl (lv_at hl 1 rfl) ?_
            refine ml_parts X hK hG (S.2 47) rfl (by first | omega | (split <;> omega)) dX1_item_90 ?_
            refine lv_goto (tgt := 95) X.1 X.2.1 dX1_item_91 (by decide) ?_
            refine ret _ _ _ _ _ _ ?_ (rfl) hG hS dX1_item_95
            refine ⟨?_, rfl⟩
            rw [if_neg c4, if_pos c15]
            repeat (first | rw [if_neg (by omega)] | rw [if_pos (by omega)])
        · refine i_tableIn X (by first | omega | (split <;> omega)) (off := 75) (tgt := 96) dX1_item_21 (by omega) (by omega) (by rw [s21_2]; rfl) (by decide) ?_
          refine lv_aload_n X.1 X.2.1 dX1_item_96 rfl (lv_at hl 0 rfl) ?_
          refine mg_what X hK hG dX1_item_97 ?_
          refine lv_iload_n X.1 X.2.1 dX1_item_100 rfl (lv_at hl 1 rfl) ?_
          refine ml_what X hK hG (S.2 41) rfl (by first | omega | (split <;> omega)) dX1_item_101 ?_
          refine i_if_ne X 115 dX1_item_102 (by decide) (by first | omega | (split <;> omega)) (fun c102 => ?_) (fun c102 => ?_)
          · refine lv_iconst (v := iI (0)) X.1 X.2.1 dX1_item_115 rfl ?_
            refine ret _ _ _ _ _ _ ?_ (rfl) hG hS dX1_item_116
            refine ⟨?_, rfl⟩
            rw [if_neg c4, if_pos c15]
            repeat (first | rw [if_neg (by omega)] | rw [if_pos (by omega)])
          · refine lv_aload_n X.1 X.2.1 dX1_item_105 rfl (lv_at hl 0 rfl) ?_
            refine mg_worthOf X hK hG dX1_item_106 ?_
            refine lv_iload_n X.1 X.2.1 dX1_item_109 rfl (lv_at hl 1 rfl) ?_
            refine ml_worthOf X hK hG (S.2 42) rfl (by first | omega | (split <;> omega)) dX1_item_110 ?_
            refine i_l2i X dX1_item_111 ?_
            refine lv_goto (tgt := 116) X.1 X.2.1 dX1_item_112 (by decide) ?_
            refine ret _ _ _ _ _ _ ?_ (rfl) hG hS dX1_item_116
            refine ⟨?_, rfl⟩
            rw [if_neg c4, if_pos c15]
            repeat (first | rw [if_neg (by omega)] | rw [if_pos (by omega)])
        · refine i_tableIn X (by first | omega | (split <;> omega)) (off := 96) (tgt := 117) dX1_item_21 (by omega) (by omega) (by rw [s21_3]; rfl) (by decide) ?_
          refine lv_aload_n X.1 X.2.1 dX1_item_117 rfl (lv_at hl 0 rfl) ?_
          refine mg_what X hK hG dX1_item_118 ?_
          refine lv_iload_n X.1 X.2.1 dX1_item_121 rfl (lv_at hl 1 rfl) ?_
          refine ml_what X hK hG (S.2 41) rfl (by first | omega | (split <;> omega)) dX1_item_122 ?_
          refine lv_iconst (v := iI (1)) X.1 X.2.1 dX1_item_123 rfl ?_
          refine i_icmp_ne X 136 dX1_item_124 (by decide) (by first | omega | (split <;> omega)) (by first | omega | (split <;> omega)) (fun c124 => ?_) (fun c124 => ?_)
          · refine lv_bipush (v := iI (-9)) X.1 X.2.1 dX1_item_136 (by decide) ?_
            refine ret _ _ _ _ _ _ ?_ (rfl) hG hS dX1_item_138
            refine ⟨?_, rfl⟩
            rw [if_neg c4, if_pos c15]
            repeat (first | rw [if_neg (by omega)] | rw [if_pos (by omega)])
          · refine lv_aload_n X.1 X.2.1 dX1_item_127 rfl (lv_at hl 0 rfl) ?_
            refine mg_mark X hK hG dX1_item_128 ?_
            refine lv_iload_n X.1 X.2.1 dX1_item_131 rfl (lv_at hl 1 rfl) ?_
            refine ml_mark X hK hG (S.2 43) rfl (by first | omega | (split <;> omega)) dX1_item_132 ?_
            refine lv_goto (tgt := 138) X.1 X.2.1 dX1_item_133 (by decide) ?_
            refine ret _ _ _ _ _ _ ?_ (rfl) hG hS dX1_item_138
            refine ⟨?_, rfl⟩
            rw [if_neg c4, if_pos c15]
            repeat (first | rw [if_neg (by omega)] | rw [if_pos (by omega)])
        · refine i_tableIn X (by first | omega | (split <;> omega)) (off := 118) (tgt := 139) dX1_item_21 (by omega) (by omega) (by rw [s21_4]; rfl) (by decide) ?_
          refine lv_aload_n X.1 X.2.1 dX1_item_139 rfl (lv_at hl 0 rfl) ?_
          refine mg_from X hK hG dX1_item_140 ?_
          refine lv_iload_n X.1 X.2.1 dX1_item_143 rfl (lv_at hl 1 rfl) ?_
          refine ml_from X hK hG (S.2 44) rfl (by first | omega | (split <;> omega)) dX1_item_144 ?_
          refine ret _ _ _ _ _ _ ?_ (rfl) hG hS dX1_item_145
          refine ⟨?_, rfl⟩
          rw [if_neg c4, if_pos c15]
          repeat (first | rw [if_neg (by omega)] | rw [if_pos (by omega)])
        · refine i_tableIn X (by first | omega | (split <;> omega)) (off := 125) (tgt := 146) dX1_item_21 (by omega) (by omega) (by rw [s21_5]; rfl) (by decide) ?_
          refine lv_aload_n X.1 X.2.1 dX1_item_146 rfl (lv_at hl 0 rfl) ?_
          refine mg_maker X hK hG dX1_item_147 ?_
          refine lv_iload_n X.1 X.2.1 dX1_item_150 rfl (lv_at hl 1 rfl) ?_
          refine ml_maker X hK hG (S.2 45) rfl (by first | omega | (split <;> omega)) dX1_item_151 ?_
          refine ret _ _ _ _ _ _ ?_ (rfl) hG hS dX1_item_152
          refine ⟨?_, rfl⟩
          rw [if_neg c4, if_pos c15]
          repeat (first | rw [if_neg (by omega)] | rw [if_pos (by omega)])
        · refine i_tableIn X (by first | omega | (split <;> omega)) (off := 132) (tgt := 153) dX1_item_21 (by omega) (by omega) (by rw [s21_6]; rfl) (by decide) ?_
          refine lv_aload_n X.1 X.2.1 dX1_item_153 rfl (lv_at hl 0 rfl) ?_
          refine mg_inside X hK hG dX1_item_154 ?_
          refine lv_iload_n X.1 X.2.1 dX1_item_157 rfl (lv_at hl 1 rfl) ?_
          refine ml_inside X hK hG (S.2 48) rfl (by first | omega | (split <;> omega)) dX1_item_158 ?_
          refine ret _ _ _ _ _ _ ?_ (rfl) hG hS dX1_item_159
          refine ⟨?_, rfl⟩
          rw [if_neg c4, if_pos c15]
          repeat (first | rw [if_neg (by omega)] | rw [if_pos (by omega)])
        · refine i_tableIn X (by first | omega | (split <;> omega)) (off := 139) (tgt := 160) dX1_item_21 (by omega) (by omega) (by rw [s21_7]; rfl) (by decide) ?_
          refine lv_aload_n X.1 X.2.1 dX1_item_160 rfl (lv_at hl 0 rfl) ?_
          refine lv_iload_n X.1 X.2.1 dX1_item_161 rfl (lv_at hl 1 rfl) ?_
          refine m_callVp (rest := []) (n := 1) X hK hG hS (fun _ h => h) (mm_readsAs l D ca o (lv - 1) S i (by omega) hT (by omega) (by omega)) (lw_V q1539 q1541 qs43 q70 q1542) (by decide +kernel) rfl ⟨by show (lv - 1) + 1 ≤ lv; omega, by show 8 + (5 + 11) + 40 * (lv - 1) ≤ 40 * lv; omega⟩ ⟨Nat.le_refl _, Nat.le_refl _⟩ hl.1 rfl (Nat.le_of_ble_eq_true rfl) dX1_item_162 (fun H locs hG hS _ _ => ?_)
          refine ret _ _ _ _ _ _ ?_ (rfl) hG hS dX1_item_165
          refine ⟨?_, rfl⟩
          rw [if_neg c4, if_pos c15]
          repeat (first | rw [if_neg (by omega)] | rw [if_pos (by omega)])
    · have c15 := bI_eq0.mp c15
      refine lv_iconst (v := iI (-1)) X.1 X.2.1 dX1_item_18 rfl ?_
      refine ret _ _ _ _ _ _ ?_ (rfl) hG hS dX1_item_19
      exact ⟨by rw [if_neg c4, if_neg (by intro hh; simp [hh.1, hh.2] at c15)], rfl⟩
  · refine lv_bipush (v := iI (-3)) X.1 X.2.1 dX1_item_7 (by decide) ?_
    refine ret _ _ _ _ _ _ ?_ (rfl) hG hS dX1_item_9
    exact ⟨(if_pos c4).symm, rfl⟩

set_option maxHeartbeats 4000000 in
theorem mm_step_2 (l : Launch) (D : va_G) (ca : Nat → ClassId) (o lv : Nat) (S : MSt) (i : Int) (a : Int) (hlv : 1 ≤ lv) (hi : iR i) (hth : S.1 27 = 0 ∨ S.1 27 = 1) (hs : 0 ≤ S.1 49 ∧ S.1 49 ≤ 300) (ha : iR a) : mCi l yX1_step_2 cX1_step_2 3 .int D ca o lv [.ref o, .int (iI (i)), .int (iI (a))] S (fun r S' => r = (if S.1 27 = 0 then -3 else if 1 ≤ i ∧ i ≤ S.1 49 then (if a = 0 then S.2 50 i else if a = 1 then S.2 51 i else if a = 2 then S.2 52 i else -2) else -1) ∧ S' = S) := by
  refine mCi_of (by decide +kernel) rfl (Nat.le_of_ble_eq_true rfl) ?_
  intro p e s m args below meth c Q X hK ret H locs ls hG hS hl
  have hl : lv_has ls 3 [(0, .ref o), (1, .int (iI (i))), (2, .int (iI (a)))] := hl
  refine lv_aload_n X.1 X.2.1 dX1_step_2_0 rfl (lv_at hl 0 rfl) ?_
  refine mg_isThere X hK hG (S.1 27) rfl dX1_step_2_1 ?_
  refine i_if_ne X 10 dX1_step_2_4 (by decide) (by first | omega | (split <;> omega)) (fun c4 => ?_) (fun c4 => ?_)
  · refine lv_iload_n X.1 X.2.1 dX1_step_2_10 rfl (lv_at hl 1 rfl) ?_
    refine i_i2l X (by first | omega | (split <;> omega)) dX1_step_2_11 ?_
    refine lv_lconst (v := lI (1)) X.1 X.2.1 dX1_step_2_12 rfl ?_
    refine lv_aload_n X.1 X.2.1 dX1_step_2_13 rfl (lv_at hl 0 rfl) ?_
    refine mg_steps X hK hG (S.1 49) rfl dX1_step_2_14 ?_
    refine i_i2l X (by first | omega | (split <;> omega)) dX1_step_2_17 ?_
    refine m_callSp (rest := []) (n := 3) X hK hG hS (fun _ h => h) (mm_in l D ca o (lv - 1) S i 1 (S.1 49) (by omega) (by omega) (by omega)) (lw_S q1536 q1537 q70 q1538) (by decide +kernel) rfl ⟨by show (lv - 1) + 1 ≤ lv; omega, by show 8 + (6 + 11) + 40 * (lv - 1) ≤ 40 * lv; omega⟩ ⟨Nat.le_refl _, Nat.le_refl _⟩ hl.1 rfl (Nat.le_of_ble_eq_true rfl) dX1_step_2_18 (fun H locs hG hS _ _ => ?_)
    refine i_if_ne X 26 dX1_step_2_21 (by decide) (bI_iR _) (fun c21 => ?_) (fun c21 => ?_)
    · have c21 := bI_ne0.mp c21
      have c21 : 1 ≤ i ∧ i ≤ S.1 49 := by simpa using c21
      refine lv_iload_n X.1 X.2.1 dX1_step_2_26 rfl (lv_at hl 2 rfl) ?_
      by_cases s27 : a < 0 ∨ 2 < a
      · refine i_tableOut X (by first | omega | (split <;> omega)) (tgt := 73) dX1_step_2_27 s27 (by decide) ?_
        refine lv_bipush (v := iI (-2)) X.1 X.2.1 dX1_step_2_73 (by decide) ?_
        refine ret _ _ _ _ _ _ ?_ (rfl) hG hS dX1_step_2_75
        refine ⟨?_, rfl⟩
        rw [if_neg c4, if_pos c21]
        repeat (first | rw [if_neg (by omega)] | rw [if_pos (by omega)])
      · rcases (show a = 0 ∨ a = 1 ∨ a = 2 by omega) with s27_0 | s27_1 | s27_2
        · refine i_tableIn X (by first | omega | (split <;> omega)) (off := 25) (tgt := 52) dX1_step_2_27 (by omega) (by omega) (by rw [s27_0]; rfl) (by decide) ?_
          refine lv_aload_n X.1 X.2.1 dX1_step_2_52 rfl (lv_at hl 0 rfl) ?_
          refine mg_stepRule X hK hG dX1_step_2_53 ?_
          refine lv_iload_n X.1 X.2.1 dX1_step_2_56 rfl (lv_at hl 1 rfl) ?_
          refine ml_stepRule X hK hG (S.2 50) rfl (by first | omega | (split <;> omega)) dX1_step_2_57 ?_
          refine ret _ _ _ _ _ _ ?_ (rfl) hG hS dX1_step_2_58
          refine ⟨?_, rfl⟩
          rw [if_neg c4, if_pos c21]
          repeat (first | rw [if_neg (by omega)] | rw [if_pos (by omega)])
        · refine i_tableIn X (by first | omega | (split <;> omega)) (off := 32) (tgt := 59) dX1_step_2_27 (by omega) (by omega) (by rw [s27_1]; rfl) (by decide) ?_
          refine lv_aload_n X.1 X.2.1 dX1_step_2_59 rfl (lv_at hl 0 rfl) ?_
          refine mg_stepPlace X hK hG dX1_step_2_60 ?_
          refine lv_iload_n X.1 X.2.1 dX1_step_2_63 rfl (lv_at hl 1 rfl) ?_
          refine ml_stepPlace X hK hG (S.2 51) rfl (by first | omega | (split <;> omega)) dX1_step_2_64 ?_
          refine ret _ _ _ _ _ _ ?_ (rfl) hG hS dX1_step_2_65
          refine ⟨?_, rfl⟩
          rw [if_neg c4, if_pos c21]
          repeat (first | rw [if_neg (by omega)] | rw [if_pos (by omega)])
        · refine i_tableIn X (by first | omega | (split <;> omega)) (off := 39) (tgt := 66) dX1_step_2_27 (by omega) (by omega) (by rw [s27_2]; rfl) (by decide) ?_
          refine lv_aload_n X.1 X.2.1 dX1_step_2_66 rfl (lv_at hl 0 rfl) ?_
          refine mg_stepMaker X hK hG dX1_step_2_67 ?_
          refine lv_iload_n X.1 X.2.1 dX1_step_2_70 rfl (lv_at hl 1 rfl) ?_
          refine ml_stepMaker X hK hG (S.2 52) rfl (by first | omega | (split <;> omega)) dX1_step_2_71 ?_
          refine ret _ _ _ _ _ _ ?_ (rfl) hG hS dX1_step_2_72
          refine ⟨?_, rfl⟩
          rw [if_neg c4, if_pos c21]
          repeat (first | rw [if_neg (by omega)] | rw [if_pos (by omega)])
    · have c21 := bI_eq0.mp c21
      refine lv_iconst (v := iI (-1)) X.1 X.2.1 dX1_step_2_24 rfl ?_
      refine ret _ _ _ _ _ _ ?_ (rfl) hG hS dX1_step_2_25
      exact ⟨by rw [if_neg c4, if_neg (by intro hh; simp [hh.1, hh.2] at c21)], rfl⟩
  · refine lv_bipush (v := iI (-3)) X.1 X.2.1 dX1_step_2_7 (by decide) ?_
    refine ret _ _ _ _ _ _ ?_ (rfl) hG hS dX1_step_2_9
    exact ⟨(if_pos c4).symm, rfl⟩

set_option maxHeartbeats 4000000 in
theorem mm_maker (l : Launch) (D : va_G) (ca : Nat → ClassId) (o lv : Nat) (S : MSt) (i : Int) (a : Int) (hlv : 2 ≤ lv) (hi : iR i) (hth : S.1 27 = 0 ∨ S.1 27 = 1) (hT : S.1 27 = 1 → MT S ∧ MP S) (hnn : 0 ≤ S.1 40 ∧ S.1 40 ≤ 500) (ha : iR a) (hs : S.1 27 = 1 → S.1 49 ≤ 300 ∧ ∀ j, 1 ≤ j → j ≤ S.1 49 → 0 ≤ S.2 52 j ∧ S.2 52 j < j) : mCi l yX1_maker cX1_maker 5 .int D ca o lv [.ref o, .int (iI (i)), .int (iI (a))] S (fun r S' => r = (if S.1 27 = 0 then -3 else if 0 ≤ i ∧ i < S.1 40 then (if a < 0 ∨ spMk S a.toNat (S.2 45 i) = 0 then -9 else spMk S a.toNat (S.2 45 i)) else -1) ∧ S' = S) := by
  refine mCi_of (by decide +kernel) rfl (Nat.le_of_ble_eq_true rfl) ?_
  intro p e s m args below meth c Q X hK ret H locs ls hG hS hl
  have hl : lv_has ls 5 [(0, .ref o), (1, .int (iI (i))), (2, .int (iI (a)))] := hl
  refine lv_aload_n X.1 X.2.1 dX1_maker_0 rfl (lv_at hl 0 rfl) ?_
  refine mg_isThere X hK hG (S.1 27) rfl dX1_maker_1 ?_
  refine i_if_ne X 10 dX1_maker_4 (by decide) (by first | omega | (split <;> omega)) (fun c4 => ?_) (fun c4 => ?_)
  · refine lv_aload_n X.1 X.2.1 dX1_maker_10 rfl (lv_at hl 0 rfl) ?_
    refine lv_iload_n X.1 X.2.1 dX1_maker_11 rfl (lv_at hl 1 rfl) ?_
    refine m_callVp (rest := []) (n := 1) X hK hG hS (fun _ h => h) (mm_isItem l D ca o (lv - 1) S i (by omega) (by omega) (by omega)) (lw_V q1532 q1534 qs42 q70 q1535) (by decide +kernel) rfl ⟨by show (lv - 1) + 1 ≤ lv; omega, by show 8 + (2 + 11) + 40 * (lv - 1) ≤ 40 * lv; omega⟩ ⟨Nat.le_refl _, Nat.le_refl _⟩ hl.1 rfl (Nat.le_of_ble_eq_true rfl) dX1_maker_12 (fun H locs hG hS _ _ => ?_)
    refine i_if_ne X 20 dX1_maker_15 (by decide) (bI_iR _) (fun c15 => ?_) (fun c15 => ?_)
    · have c15 := bI_ne0.mp c15
      have c15 : 0 ≤ i ∧ i < S.1 40 := by simpa using c15
      obtain ⟨hT, hP⟩ := hT (by omega)
      obtain ⟨hs3, hs⟩ := hs (by omega)
      have hg := hT.2.2 i c15.1 c15.2
      refine lv_aload_n X.1 X.2.1 dX1_maker_20 rfl (lv_at hl 0 rfl) ?_
      refine mg_maker X hK hG dX1_maker_21 ?_
      refine lv_iload_n X.1 X.2.1 dX1_maker_24 rfl (lv_at hl 1 rfl) ?_
      refine ml_maker X hK hG (S.2 45) rfl (by first | omega | (split <;> omega)) dX1_maker_25 ?_
      refine lv_istore_n (lv' := [(3, .int (iI (S.2 45 i))), (0, .ref o), (1, .int (iI (i))), (2, .int (iI (a)))]) X.1 X.2.1 dX1_maker_26 rfl hl (by decide) rfl (fun ls hl => ?_)
      refine lv_iconst (v := iI (0)) X.1 X.2.1 dX1_maker_27 rfl ?_
      refine lv_istore (lv' := [(4, .int (iI (0))), (3, .int (iI (S.2 45 i))), (0, .ref o), (1, .int (iI (i))), (2, .int (iI (a)))]) X.1 X.2.1 dX1_maker_28 hl (by decide) rfl (fun ls hl => ?_)
      obtain ⟨Z, eZ⟩ : ∃ Z, Z = spMk S a.toNat (S.2 45 i) := ⟨_, rfl⟩
      have L30 : ∀ (N : Nat) (x k : Int), (0 ≤ x ∧ x ≤ S.1 49) → (0 ≤ k ∧ (k = 0 ∨ k ≤ a)) → (spMk S (a - k).toNat x = Z) → x.toNat < N → ∀ (H : Heap) (locs : List Loc) (ls : Array Slot), gOk D (mA o) (mH ca o S) H → va_S (mA o) s.heap H locs → lv_has ls 5 [(0, .ref o), (1, .int (iI (i))), (2, .int (iI (a))), (3, .int (iI (x))), (4, .int (iI (k)))] → W p l e (mR lv) s m args below meth c H locs 0 0 Q (F0 m 30 ls []) := by
        intro N
        induction N with
        | zero => intro x k hx hk he hN; exact absurd hN (Nat.not_lt_zero _)
        | succ N ih =>
          intro x k hx hk he hN H locs ls hG hS hl
          refine lv_iload X.1 X.2.1 dX1_maker_30 (lv_at hl 4 rfl) ?_
          refine lv_iload_n X.1 X.2.1 dX1_maker_32 rfl (lv_at hl 2 rfl) ?_
          refine i_icmp_ge X 53 dX1_maker_33 (by decide) (by first | omega | (split <;> omega)) (by first | omega | (split <;> omega)) (fun c33 => ?_) (fun c33 => ?_)
          · have hfin : 0 ≤ a → x = Z := by
              intro h0a
              rw [← he]
              first | (rw [show (a - k).toNat = 0 by omega]; rfl) | (rw [spMk_0 S _ x (by omega)])
            refine lv_iload_n X.1 X.2.1 dX1_maker_53 rfl (lv_at hl 2 rfl) ?_
            refine i_if_lt X 61 dX1_maker_54 (by decide) (by first | omega | (split <;> omega)) (fun c54 => ?_) (fun c54 => ?_)
            · refine lv_bipush (v := iI (-9)) X.1 X.2.1 dX1_maker_61 (by decide) ?_
              refine lv_goto (tgt := 67) X.1 X.2.1 dX1_maker_63 (by decide) ?_
              refine ret _ _ _ _ _ _ ?_ (rfl) hG hS dX1_maker_67
              refine ⟨?_, rfl⟩
              rw [if_neg c4, if_pos c15, ← eZ]
              first | (rw [if_pos (Or.inl (by omega))]; done) | (have hfin := hfin (by omega); first | (rw [if_pos (Or.inr (by omega))]; done) | (rw [if_neg (by omega)]; omega))
            · refine lv_iload_n X.1 X.2.1 dX1_maker_57 rfl (lv_at hl 3 rfl) ?_
              refine i_if_ne X 66 dX1_maker_58 (by decide) (by first | omega | (split <;> omega)) (fun c58 => ?_) (fun c58 => ?_)
              · refine lv_iload_n X.1 X.2.1 dX1_maker_66 rfl (lv_at hl 3 rfl) ?_
                refine ret _ _ _ _ _ _ ?_ (rfl) hG hS dX1_maker_67
                refine ⟨?_, rfl⟩
                rw [if_neg c4, if_pos c15, ← eZ]
                first | (rw [if_pos (Or.inl (by omega))]; done) | (have hfin := hfin (by omega); first | (rw [if_pos (Or.inr (by omega))]; done) | (rw [if_neg (by omega)]; omega))
              · refine lv_bipush (v := iI (-9)) X.1 X.2.1 dX1_maker_61 (by decide) ?_
                refine lv_goto (tgt := 67) X.1 X.2.1 dX1_maker_63 (by decide) ?_
                refine ret _ _ _ _ _ _ ?_ (rfl) hG hS dX1_maker_67
                refine ⟨?_, rfl⟩
                rw [if_neg c4, if_pos c15, ← eZ]
                first | (rw [if_pos (Or.inl (by omega))]; done) | (have hfin := hfin (by omega); first | (rw [if_pos (Or.inr (by omega))]; done) | (rw [if_neg (by omega)]; omega))
          · refine lv_iload_n X.1 X.2.1 dX1_maker_36 rfl (lv_at hl 3 rfl) ?_
            refine i_if_le X 53 dX1_maker_37 (by decide) (by first | omega | (split <;> omega)) (fun c37 => ?_) (fun c37 => ?_)
            · have hfin : 0 ≤ a → x = Z := by
                intro h0a
                rw [← he]
                first | (rw [show (a - k).toNat = 0 by omega]; rfl) | (rw [spMk_0 S _ x (by omega)])
              refine lv_iload_n X.1 X.2.1 dX1_maker_53 rfl (lv_at hl 2 rfl) ?_
              refine i_if_lt X 61 dX1_maker_54 (by decide) (by first | omega | (split <;> omega)) (fun c54 => ?_) (fun c54 => ?_)
              · refine lv_bipush (v := iI (-9)) X.1 X.2.1 dX1_maker_61 (by decide) ?_
                refine lv_goto (tgt := 67) X.1 X.2.1 dX1_maker_63 (by decide) ?_
                refine ret _ _ _ _ _ _ ?_ (rfl) hG hS dX1_maker_67
                refine ⟨?_, rfl⟩
                rw [if_neg c4, if_pos c15, ← eZ]
                first | (rw [if_pos (Or.inl (by omega))]; done) | (have hfin := hfin (by omega); first | (rw [if_pos (Or.inr (by omega))]; done) | (rw [if_neg (by omega)]; omega))
              · refine lv_iload_n X.1 X.2.1 dX1_maker_57 rfl (lv_at hl 3 rfl) ?_
                refine i_if_ne X 66 dX1_maker_58 (by decide) (by first | omega | (split <;> omega)) (fun c58 => ?_) (fun c58 => ?_)
                · refine lv_iload_n X.1 X.2.1 dX1_maker_66 rfl (lv_at hl 3 rfl) ?_
                  refine ret _ _ _ _ _ _ ?_ (rfl) hG hS dX1_maker_67
                  refine ⟨?_, rfl⟩
                  rw [if_neg c4, if_pos c15, ← eZ]
                  first | (rw [if_pos (Or.inl (by omega))]; done) | (have hfin := hfin (by omega); first | (rw [if_pos (Or.inr (by omega))]; done) | (rw [if_neg (by omega)]; omega))
                · refine lv_bipush (v := iI (-9)) X.1 X.2.1 dX1_maker_61 (by decide) ?_
                  refine lv_goto (tgt := 67) X.1 X.2.1 dX1_maker_63 (by decide) ?_
                  refine ret _ _ _ _ _ _ ?_ (rfl) hG hS dX1_maker_67
                  refine ⟨?_, rfl⟩
                  rw [if_neg c4, if_pos c15, ← eZ]
                  first | (rw [if_pos (Or.inl (by omega))]; done) | (have hfin := hfin (by omega); first | (rw [if_pos (Or.inr (by omega))]; done) | (rw [if_neg (by omega)]; omega))
            · have hsm := hs x (by omega) (by omega)
              rw [show (a - k).toNat = (a - (k + 1)).toNat + 1 by omega] at he
              unfold spMk at he
              rw [if_neg (by omega)] at he
              refine lv_aload_n X.1 X.2.1 dX1_maker_40 rfl (lv_at hl 0 rfl) ?_
              refine mg_stepMaker X hK hG dX1_maker_41 ?_
              refine lv_iload_n X.1 X.2.1 dX1_maker_44 rfl (lv_at hl 3 rfl) ?_
              refine ml_stepMaker X hK hG (S.2 52) rfl (by first | omega | (split <;> omega)) dX1_maker_45 ?_
              refine lv_istore_n (lv' := [(3, .int (iI (S.2 52 x))), (0, .ref o), (1, .int (iI (i))), (2, .int (iI (a))), (4, .int (iI (k)))]) X.1 X.2.1 dX1_maker_46 rfl hl (by decide) rfl (fun ls hl => ?_)
              refine i_inc (lv' := [(4, .int (iI (k + 1))), (3, .int (iI (S.2 52 x))), (0, .ref o), (1, .int (iI (i))), (2, .int (iI (a)))]) X dX1_maker_47 hl (k := 4) rfl (by decide) rfl (fun ls hl => ?_)
              refine lv_goto (tgt := 30) X.1 X.2.1 dX1_maker_50 (by decide) ?_
              exact ih (S.2 52 x) (k + 1) (by omega) (by omega) he (by omega) H locs ls hG hS (lv_sub hl [2, 3, 4, 1, 0] rfl)
      exact L30 _ (S.2 45 i) 0 (by omega) (by omega) (by rw [eZ, Int.sub_zero]) (Nat.lt_succ_self _) H locs ls hG hS (lv_sub hl [2, 3, 4, 1, 0] rfl)
    · have c15 := bI_eq0.mp c15
      refine lv_iconst (v := iI (-1)) X.1 X.2.1 dX1_maker_18 rfl ?_
      refine ret _ _ _ _ _ _ ?_ (rfl) hG hS dX1_maker_19
      exact ⟨by rw [if_neg c4, if_neg (by intro hh; simp [hh.1, hh.2] at c15)], rfl⟩
  · refine lv_bipush (v := iI (-3)) X.1 X.2.1 dX1_maker_7 (by decide) ?_
    refine ret _ _ _ _ _ _ ?_ (rfl) hG hS dX1_maker_9
    exact ⟨(if_pos c4).symm, rfl⟩

set_option maxHeartbeats 4000000 in
theorem mm_came (l : Launch) (D : va_G) (ca : Nat → ClassId) (o lv : Nat) (S : MSt) (i : Int) (hlv : 1 ≤ lv) (hi : iR i) (hth : S.1 27 = 0 ∨ S.1 27 = 1) (hT : S.1 27 = 1 → MT S ∧ MP S) : mCi l yX1_came cX1_came 4 .int D ca o lv [.ref o, .int (iI (i))] S (fun r S' => r = (if S.1 27 = 0 then -3 else if 0 ≤ i ∧ i < 500 then cntB (fun k => decide (S.2 44 k = i)) (S.1 40).toNat else -2) ∧ S' = S) := by
  refine mCi_of (by decide +kernel) rfl (Nat.le_of_ble_eq_true rfl) ?_
  intro p e s m args below meth c Q X hK ret H locs ls hG hS hl
  have hl : lv_has ls 4 [(0, .ref o), (1, .int (iI (i)))] := hl
  refine lv_aload_n X.1 X.2.1 dX1_came_0 rfl (lv_at hl 0 rfl) ?_
  refine mg_isThere X hK hG (S.1 27) rfl dX1_came_1 ?_
  refine i_if_ne X 10 dX1_came_4 (by decide) (by first | omega | (split <;> omega)) (fun c4 => ?_) (fun c4 => ?_)
  · refine lv_iload_n X.1 X.2.1 dX1_came_10 rfl (lv_at hl 1 rfl) ?_
    refine i_i2l X (by first | omega | (split <;> omega)) dX1_came_11 ?_
    refine lv_lconst (v := lI (0)) X.1 X.2.1 dX1_came_12 rfl ?_
    refine lv_ldc2 (v := lI (499)) X.1 X.2.1 X.2.2.2.1 (X.2.2.2.2 _ q1665) dX1_came_13 ?_
    refine m_callSp (rest := []) (n := 3) X hK hG hS (fun _ h => h) (mm_in l D ca o (lv - 1) S i 0 499 (by omega) (by omega) (by omega)) (lw_S q1536 q1537 q70 q1538) (by decide +kernel) rfl ⟨by show (lv - 1) + 1 ≤ lv; omega, by show 8 + (6 + 11) + 40 * (lv - 1) ≤ 40 * lv; omega⟩ ⟨Nat.le_refl _, Nat.le_refl _⟩ hl.1 rfl (Nat.le_of_ble_eq_true rfl) dX1_came_16 (fun H locs hG hS _ _ => ?_)
    refine i_if_ne X 25 dX1_came_19 (by decide) (bI_iR _) (fun c19 => ?_) (fun c19 => ?_)
    · have c19 := bI_ne0.mp c19
      have c19 : 0 ≤ i ∧ i ≤ 499 := by simpa using c19
      obtain ⟨hT, hP⟩ := hT (by omega)
      have hnn := hT.n
      refine lv_iconst (v := iI (0)) X.1 X.2.1 dX1_came_25 rfl ?_
      refine lv_istore_n (lv' := [(2, .int (iI (0))), (0, .ref o), (1, .int (iI (i)))]) X.1 X.2.1 dX1_came_26 rfl hl (by decide) rfl (fun ls hl => ?_)
      refine lv_iconst (v := iI (0)) X.1 X.2.1 dX1_came_27 rfl ?_
      refine lv_istore_n (lv' := [(3, .int (iI (0))), (2, .int (iI (0))), (0, .ref o), (1, .int (iI (i)))]) X.1 X.2.1 dX1_came_28 rfl hl (by decide) rfl (fun ls hl => ?_)
      have L29 : ∀ (N : Nat) (x : Int) (k : Nat), ((k : Int) ≤ S.1 40) → (x = cntB (fun k => decide (S.2 44 k = i)) k) → (S.1 40).toNat - k < N → ∀ (H : Heap) (locs : List Loc) (ls : Array Slot), gOk D (mA o) (mH ca o S) H → va_S (mA o) s.heap H locs → lv_has ls 4 [(0, .ref o), (1, .int (iI (i))), (2, .int (iI (x))), (3, .int (iI ((k : Int))))] → W p l e (mR lv) s m args below meth c H locs 0 0 Q (F0 m 29 ls []) := by
        intro N
        induction N with
        | zero => intro x k hk hx hN; exact absurd hN (Nat.not_lt_zero _)
        | succ N ih =>
          intro x k hk hx hN H locs ls hG hS hl
          refine lv_iload_n X.1 X.2.1 dX1_came_29 rfl (lv_at hl 3 rfl) ?_
          refine lv_aload_n X.1 X.2.1 dX1_came_30 rfl (lv_at hl 0 rfl) ?_
          refine mg_items X hK hG (S.1 40) rfl dX1_came_31 ?_
          refine i_icmp_ge X 61 dX1_came_34 (by decide) (by first | omega | (split <;> omega)) (by first | omega | (split <;> omega)) (fun c34 => ?_) (fun c34 => ?_)
          · refine lv_iload_n X.1 X.2.1 dX1_came_61 rfl (lv_at hl 2 rfl) ?_
            refine ret _ _ _ _ _ _ ?_ (rfl) hG hS dX1_came_62
            refine ⟨?_, rfl⟩
            rw [if_neg c4, if_pos (by omega), hx, show k = (S.1 40).toNat by omega]
          · have hg := hT.2.2 k (by omega) (by omega)
            have K53 : ∀ (z : Int), (z = bI (decide (S.2 44 k = i))) → ∀ (H : Heap) (locs : List Loc) (ls : Array Slot), gOk D (mA o) (mH ca o S) H → va_S (mA o) s.heap H locs → lv_has ls 4 [(0, .ref o), (1, .int (iI (i))), (3, .int (iI ((k : Int))))] → W p l e (mR lv) s m args below meth c H locs 0 0 Q (F0 m 53 ls [.int (iI (z)), .int (iI (x))]) := by
              intro z hz H locs ls hG hS hl
              refine i_add X dX1_came_53 ?_
              refine lv_istore_n (lv' := [(2, .int (iI (x + z))), (0, .ref o), (1, .int (iI (i))), (3, .int (iI ((k : Int))))]) X.1 X.2.1 dX1_came_54 rfl hl (by decide) rfl (fun ls hl => ?_)
              refine i_inc (lv' := [(3, .int (iI ((k : Int) + 1))), (2, .int (iI (x + z))), (0, .ref o), (1, .int (iI (i)))]) X dX1_came_55 hl (k := 3) rfl (by decide) rfl (fun ls hl => ?_)
              refine lv_goto (tgt := 29) X.1 X.2.1 dX1_came_58 (by decide) ?_
              exact ih (x + z) (k + 1) (by omega) (by rw [hx, hz]; rfl) (by omega) H locs ls hG hS (lv_sub hl [2, 3, 1, 0] rfl)
            refine lv_iload_n X.1 X.2.1 dX1_came_37 rfl (lv_at hl 2 rfl) ?_
            refine lv_aload_n X.1 X.2.1 dX1_came_38 rfl (lv_at hl 0 rfl) ?_
            refine mg_from X hK hG dX1_came_39 ?_
            refine lv_iload_n X.1 X.2.1 dX1_came_42 rfl (lv_at hl 3 rfl) ?_
            refine ml_from X hK hG (S.2 44) rfl (by first | omega | (split <;> omega)) dX1_came_43 ?_
            refine lv_iload_n X.1 X.2.1 dX1_came_44 rfl (lv_at hl 1 rfl) ?_
            refine i_icmp_ne X 52 dX1_came_45 (by decide) (by first | omega | (split <;> omega)) (by first | omega | (split <;> omega)) (fun c45 => ?_) (fun c45 => ?_)
            · refine lv_iconst (v := iI (0)) X.1 X.2.1 dX1_came_52 rfl ?_
              exact K53 0 (by first | exact bI_t (by simpa using c45) | exact bI_f (by simpa using c45)) H locs ls hG hS (lv_sub hl [0, 1, 3] rfl)
            · refine lv_iconst (v := iI (1)) X.1 X.2.1 dX1_came_48 rfl ?_
              refine lv_goto (tgt := 53) X.1 X.2.1 dX1_came_49 (by decide) ?_
              exact K53 1 (by first | exact bI_t (by simpa using c45) | exact bI_f (by simpa using c45)) H locs ls hG hS (lv_sub hl [0, 1, 3] rfl)
      exact L29 _ 0 0 (by omega) rfl (Nat.lt_succ_self _) H locs ls hG hS (lv_sub hl [2, 3, 1, 0] rfl)
    · have c19 := bI_eq0.mp c19
      refine lv_bipush (v := iI (-2)) X.1 X.2.1 dX1_came_22 (by decide) ?_
      refine ret _ _ _ _ _ _ ?_ (rfl) hG hS dX1_came_24
      exact ⟨by rw [if_neg c4, if_neg (by intro hh; simp [hh.1, show i ≤ 499 by omega] at c19)], rfl⟩
  · refine lv_bipush (v := iI (-3)) X.1 X.2.1 dX1_came_7 (by decide) ?_
    refine ret _ _ _ _ _ _ ?_ (rfl) hG hS dX1_came_9
    exact ⟨(if_pos c4).symm, rfl⟩

set_option maxHeartbeats 4000000 in
theorem mm_feed (l : Launch) (D : va_G) (ca : Nat → ClassId) (o lv : Nat) (S : MSt) (x : Int64) (hs : 0 ≤ S.1 1 ∧ S.1 1 ≤ 500) : mCi l yX1_feed cX1_feed 5 .int D ca o lv [.ref o, .long (x)] S (fun r S' => r = (if 500 < S.1 1 + (cB x 8 : Int) then -4 else S.1 1 + (cB x 8 : Int)) ∧ ((500 < S.1 1 + (cB x 8 : Int) ∧ S' = S) ∨ (S.1 1 + (cB x 8 : Int) ≤ 500 ∧ ∃ f : Int → Int, S' = mP S [(0, f)] [(1, S.1 1 + (cB x 8 : Int))] ∧ ∀ j, f j = if S.1 1 ≤ j ∧ j < S.1 1 + (cB x 8 : Int) then sB (byt x (j - S.1 1).toNat) else S.2 0 j))) := by
  refine mCi_of (by decide +kernel) rfl (Nat.le_of_ble_eq_true rfl) ?_
  intro p e s m args below meth c Q X hK ret H locs ls hG hS hl
  have hl : lv_has ls 5 [(0, .ref o), (1, .long (x))] := hl
  refine lv_iconst (v := iI (0)) X.1 X.2.1 dX1_feed_0 rfl ?_
  refine lv_istore_n (lv' := [(3, .int (iI (0))), (0, .ref o), (1, .long (x))]) X.1 X.2.1 dX1_feed_1 rfl hl (by decide) rfl (fun ls hl => ?_)
  have L2 : ∀ (N : Nat) (n : Nat), (n ≤ 8) → (cB x (8 - n) = cB x 8) → 8 - n < N → ∀ (H : Heap) (locs : List Loc) (ls : Array Slot), gOk D (mA o) (mH ca o S) H → va_S (mA o) s.heap H locs → lv_has ls 5 [(0, .ref o), (1, .long (x)), (3, .int (iI ((n : Int))))] → W p l e (mR lv) s m args below meth c H locs 0 0 Q (F0 m 2 ls []) := by
    intro N
    induction N with
    | zero => intro n hn hc hN; exact absurd hN (Nat.not_lt_zero _)
    | succ N ih =>
      intro n hn hc hN H locs ls hG hS hl
      refine lv_iload_n X.1 X.2.1 dX1_feed_2 rfl (lv_at hl 2 rfl) ?_
      refine lv_bipush (v := iI (8)) X.1 X.2.1 dX1_feed_3 (by decide) ?_
      refine i_icmp_ge X 29 dX1_feed_5 (by decide) (by omega) (by omega) (fun c5 => ?_) (fun c5 => ?_)
      · have hnc : n = cB x 8 := by
          rw [← hc]
          by_cases h8 : n = 8
          · rw [h8]; rfl
          · rw [show 8 - n = (8 - (n + 1)) + 1 by omega]
            show _ = if byt x (7 - (8 - (n + 1))) = 0 then 7 - (8 - (n + 1)) else cB x (8 - (n + 1))
            rw [show 7 - (8 - (n + 1)) = n by omega, if_pos (by have e : ((n : Int)).toNat = n := (by omega); first | (rw [e] at c19; exact c19) | omega)]
        have hc8 := cB_le x 8 (by decide)
        refine lv_aload_n X.1 X.2.1 dX1_feed_29 rfl (lv_at hl 0 rfl) ?_
        refine mg_size X hK hG (S.1 1) rfl dX1_feed_30 ?_
        refine lv_iload_n X.1 X.2.1 dX1_feed_33 rfl (lv_at hl 2 rfl) ?_
        refine i_add X dX1_feed_34 ?_
        refine lv_sipush (v := iI (500)) X.1 X.2.1 dX1_feed_35 (by decide) ?_
        refine i_icmp_le X 44 dX1_feed_38 (by decide) (by omega) (by omega) (fun c38 => ?_) (fun c38 => ?_)
        · refine lv_iconst (v := iI (0)) X.1 X.2.1 dX1_feed_44 rfl ?_
          refine lv_istore (lv' := [(4, .int (iI (0))), (0, .ref o), (1, .long (x)), (3, .int (iI ((n : Int))))]) X.1 X.2.1 dX1_feed_45 hl (by decide) rfl (fun ls hl => ?_)
          have hG : gOk D (mA o) (mH ca o (mP S [] [])) H := hG
          rw [mP_add (k := 0) (f := S.2 0) (l' := [(0, S.2 0)]) rfl rfl] at hG
          have L47 : ∀ (N : Nat) (k : Nat) (f : Int → Int), (k ≤ n) → (∀ j, f j = if S.1 1 ≤ j ∧ j < S.1 1 + k then sB (byt x (j - S.1 1).toNat) else S.2 0 j) → n - k < N → ∀ (H : Heap) (locs : List Loc) (ls : Array Slot), gOk D (mA o) (mH ca o (mP S [(0, f)] [])) H → va_S (mA o) s.heap H locs → lv_has ls 5 [(0, .ref o), (1, .long (x)), (3, .int (iI ((n : Int)))), (4, .int (iI ((k : Int))))] → W p l e (mR lv) s m args below meth c H locs 0 0 Q (F0 m 47 ls []) := by
            intro N
            induction N with
            | zero => intro k f hk hf hN; exact absurd hN (Nat.not_lt_zero _)
            | succ N ih =>
              intro k f hk hf hN H locs ls hG hS hl
              refine lv_iload X.1 X.2.1 dX1_feed_47 (lv_at hl 3 rfl) ?_
              refine lv_iload_n X.1 X.2.1 dX1_feed_49 rfl (lv_at hl 2 rfl) ?_
              refine i_icmp_ge X 80 dX1_feed_50 (by decide) (by omega) (by omega) (fun c50 => ?_) (fun c50 => ?_)
              · refine lv_aload_n X.1 X.2.1 dX1_feed_80 rfl (lv_at hl 0 rfl) ?_
                refine lv_dup X.1 X.2.1 dX1_feed_81 rfl ?_
                refine mg_size X hK hG (S.1 1) rfl dX1_feed_82 ?_
                refine lv_iload_n X.1 X.2.1 dX1_feed_85 rfl (lv_at hl 2 rfl) ?_
                refine i_add X dX1_feed_86 ?_
                refine mp_size X hK hG hS dX1_feed_87 (fun H locs hG hS => ?_)
                rw [mS_mP (sc' := [(1, (S.1 1) + ((n : Int)))]) rfl] at hG
                refine lv_aload_n X.1 X.2.1 dX1_feed_90 rfl (lv_at hl 0 rfl) ?_
                refine mg_size X hK hG ((S.1 1) + ((n : Int))) rfl dX1_feed_91 ?_
                refine ret _ _ _ _ _ _ ?_ (rfl) hG hS dX1_feed_94
                rw [hnc]
                refine ⟨by rw [if_neg (by omega)], Or.inr ⟨by omega, f, rfl, ?_⟩⟩
                intro j
                rw [hf j, show (k : Int) = (cB x 8 : Int) by omega]
              · refine lv_aload_n X.1 X.2.1 dX1_feed_53 rfl (lv_at hl 0 rfl) ?_
                refine mg_tape X hK hG dX1_feed_54 ?_
                refine lv_aload_n X.1 X.2.1 dX1_feed_57 rfl (lv_at hl 0 rfl) ?_
                refine mg_size X hK hG (S.1 1) rfl dX1_feed_58 ?_
                refine lv_iload X.1 X.2.1 dX1_feed_61 (lv_at hl 3 rfl) ?_
                refine i_add X dX1_feed_63 ?_
                refine lv_lload_n X.1 X.2.1 dX1_feed_64 rfl (lv_at hl 1 rfl) ?_
                refine lv_bipush (v := iI (8)) X.1 X.2.1 dX1_feed_65 (by decide) ?_
                refine lv_iload X.1 X.2.1 dX1_feed_67 (lv_at hl 3 rfl) ?_
                refine i_mul X dX1_feed_69 ?_
                have hby := sB_in (byt_in x (((k : Int))).toNat)
                refine f_ushrs X (by omega) dX1_feed_70 dX1_feed_71 dX1_feed_72 ?_
                refine ms_tape X hK hG hS (by omega) (by omega) dX1_feed_73 (fun H locs hG hS => ?_)
                rw [mU_mP (l' := [(0, upI f ((S.1 1) + ((k : Int))) (sB (byt x (((k : Int))).toNat)))]) rfl rfl] at hG
                refine i_inc (lv' := [(4, .int (iI ((k : Int) + 1))), (0, .ref o), (1, .long (x)), (3, .int (iI ((n : Int))))]) X dX1_feed_74 hl (k := 3) rfl (by decide) rfl (fun ls hl => ?_)
                refine lv_goto (tgt := 47) X.1 X.2.1 dX1_feed_77 (by decide) ?_
                have hf2 : ∀ j, upI f (S.1 1 + (k : Int)) (sB (byt x ((k : Int)).toNat)) j = if S.1 1 ≤ j ∧ j < S.1 1 + ((k + 1 : Nat) : Int) then sB (byt x (j - S.1 1).toNat) else S.2 0 j := by
                  intro j
                  by_cases hj : j = S.1 1 + k
                  · rw [hj, upI_s, if_pos (by omega), show (S.1 1 + (k : Int) - S.1 1).toNat = ((k : Int)).toNat by omega]
                  · rw [upI_n hj, hf j]
                    by_cases h2 : S.1 1 ≤ j ∧ j < S.1 1 + k
                    · rw [if_pos h2, if_pos (by omega)]
                    · rw [if_neg h2, if_neg (by omega)]
                exact ih (k + 1) (upI f ((S.1 1) + ((k : Int))) (sB (byt x (((k : Int))).toNat))) (by omega) hf2 (by omega) H locs ls hG hS (lv_sub hl [1, 2, 3, 0] rfl)
          exact L47 _ 0 (S.2 0) (by omega) (by intro j; rw [if_neg (by omega)]) (Nat.lt_succ_self _) H locs ls hG hS (lv_sub hl [1, 2, 3, 0] rfl)
        · refine lv_bipush (v := iI (-4)) X.1 X.2.1 dX1_feed_41 (by decide) ?_
          refine ret _ _ _ _ _ _ ?_ (rfl) hG hS dX1_feed_43
          exact ⟨by rw [if_pos (by omega)], Or.inl ⟨by omega, rfl⟩⟩
      · refine lv_lload_n X.1 X.2.1 dX1_feed_8 rfl (lv_at hl 1 rfl) ?_
        refine lv_bipush (v := iI (8)) X.1 X.2.1 dX1_feed_9 (by decide) ?_
        refine lv_iload_n X.1 X.2.1 dX1_feed_11 rfl (lv_at hl 2 rfl) ?_
        refine i_mul X dX1_feed_12 ?_
        have hby := byt_in x (((n : Int))).toNat
        refine f_ushrb X (by omega) dX1_feed_13 q1432 dX1_feed_14 dX1_feed_17 ?_
        refine lv_lconst (v := lI (0)) X.1 X.2.1 dX1_feed_18 rfl ?_
        refine i_lcmp_eq X 29 dX1_feed_19 dX1_feed_20 (by decide) (by omega) (by omega) (fun c19 => ?_) (fun c19 => ?_)
        · have hnc : n = cB x 8 := by
            rw [← hc]
            by_cases h8 : n = 8
            · rw [h8]; rfl
            · rw [show 8 - n = (8 - (n + 1)) + 1 by omega]
              show _ = if byt x (7 - (8 - (n + 1))) = 0 then 7 - (8 - (n + 1)) else cB x (8 - (n + 1))
              rw [show 7 - (8 - (n + 1)) = n by omega, if_pos (by have e : ((n : Int)).toNat = n := (by omega); first | (rw [e] at c19; exact c19) | omega)]
          have hc8 := cB_le x 8 (by decide)
          refine lv_aload_n X.1 X.2.1 dX1_feed_29 rfl (lv_at hl 0 rfl) ?_
          refine mg_size X hK hG (S.1 1) rfl dX1_feed_30 ?_
          refine lv_iload_n X.1 X.2.1 dX1_feed_33 rfl (lv_at hl 2 rfl) ?_
          refine i_add X dX1_feed_34 ?_
          refine lv_sipush (v := iI (500)) X.1 X.2.1 dX1_feed_35 (by decide) ?_
          refine i_icmp_le X 44 dX1_feed_38 (by decide) (by omega) (by omega) (fun c38 => ?_) (fun c38 => ?_)
          · refine lv_iconst (v := iI (0)) X.1 X.2.1 dX1_feed_44 rfl ?_
            refine lv_istore (lv' := [(4, .int (iI (0))), (0, .ref o), (1, .long (x)), (3, .int (iI ((n : Int))))]) X.1 X.2.1 dX1_feed_45 hl (by decide) rfl (fun ls hl => ?_)
            have hG : gOk D (mA o) (mH ca o (mP S [] [])) H := hG
            rw [mP_add (k := 0) (f := S.2 0) (l' := [(0, S.2 0)]) rfl rfl] at hG
            have L47 : ∀ (N : Nat) (k : Nat) (f : Int → Int), (k ≤ n) → (∀ j, f j = if S.1 1 ≤ j ∧ j < S.1 1 + k then sB (byt x (j - S.1 1).toNat) else S.2 0 j) → n - k < N → ∀ (H : Heap) (locs : List Loc) (ls : Array Slot), gOk D (mA o) (mH ca o (mP S [(0, f)] [])) H → va_S (mA o) s.heap H locs → lv_has ls 5 [(0, .ref o), (1, .long (x)), (3, .int (iI ((n : Int)))), (4, .int (iI ((k : Int))))] → W p l e (mR lv) s m args below meth c H locs 0 0 Q (F0 m 47 ls []) := by
              intro N
              induction N with
              | zero => intro k f hk hf hN; exact absurd hN (Nat.not_lt_zero _)
              | succ N ih =>
                intro k f hk hf hN H locs ls hG hS hl
                refine lv_iload X.1 X.2.1 dX1_feed_47 (lv_at hl 3 rfl) ?_
                refine lv_iload_n X.1 X.2.1 dX1_feed_49 rfl (lv_at hl 2 rfl) ?_
                refine i_icmp_ge X 80 dX1_feed_50 (by decide) (by omega) (by omega) (fun c50 => ?_) (fun c50 => ?_)
                · refine lv_aload_n X.1 X.2.1 dX1_feed_80 rfl (lv_at hl 0 rfl) ?_
                  refine lv_dup X.1 X.2.1 dX1_feed_81 rfl ?_
                  refine mg_size X hK hG (S.1 1) rfl dX1_feed_82 ?_
                  refine lv_iload_n X.1 X.2.1 dX1_feed_85 rfl (lv_at hl 2 rfl) ?_
                  refine i_add X dX1_feed_86 ?_
                  refine mp_size X hK hG hS dX1_feed_87 (fun H locs hG hS => ?_)
                  rw [mS_mP (sc' := [(1, (S.1 1) + ((n : Int)))]) rfl] at hG
                  refine lv_aload_n X.1 X.2.1 dX1_feed_90 rfl (lv_at hl 0 rfl) ?_
                  refine mg_size X hK hG ((S.1 1) + ((n : Int))) rfl dX1_feed_91 ?_
                  refine ret _ _ _ _ _ _ ?_ (rfl) hG hS dX1_feed_94
                  rw [hnc]
                  refine ⟨by rw [if_neg (by omega)], Or.inr ⟨by omega, f, rfl, ?_⟩⟩
                  intro j
                  rw [hf j, show (k : Int) = (cB x 8 : Int) by omega]
                · refine lv_aload_n X.1 X.2.1 dX1_feed_53 rfl (lv_at hl 0 rfl) ?_
                  refine mg_tape X hK hG dX1_feed_54 ?_
                  refine lv_aload_n X.1 X.2.1 dX1_feed_57 rfl (lv_at hl 0 rfl) ?_
                  refine mg_size X hK hG (S.1 1) rfl dX1_feed_58 ?_
                  refine lv_iload X.1 X.2.1 dX1_feed_61 (lv_at hl 3 rfl) ?_
                  refine i_add X dX1_feed_63 ?_
                  refine lv_lload_n X.1 X.2.1 dX1_feed_64 rfl (lv_at hl 1 rfl) ?_
                  refine lv_bipush (v := iI (8)) X.1 X.2.1 dX1_feed_65 (by decide) ?_
                  refine lv_iload X.1 X.2.1 dX1_feed_67 (lv_at hl 3 rfl) ?_
                  refine i_mul X dX1_feed_69 ?_
                  have hby := sB_in (byt_in x (((k : Int))).toNat)
                  refine f_ushrs X (by omega) dX1_feed_70 dX1_feed_71 dX1_feed_72 ?_
                  refine ms_tape X hK hG hS (by omega) (by omega) dX1_feed_73 (fun H locs hG hS => ?_)
                  rw [mU_mP (l' := [(0, upI f ((S.1 1) + ((k : Int))) (sB (byt x (((k : Int))).toNat)))]) rfl rfl] at hG
                  refine i_inc (lv' := [(4, .int (iI ((k : Int) + 1))), (0, .ref o), (1, .long (x)), (3, .int (iI ((n : Int))))]) X dX1_feed_74 hl (k := 3) rfl (by decide) rfl (fun ls hl => ?_)
                  refine lv_goto (tgt := 47) X.1 X.2.1 dX1_feed_77 (by decide) ?_
                  have hf2 : ∀ j, upI f (S.1 1 + (k : Int)) (sB (byt x ((k : Int)).toNat)) j = if S.1 1 ≤ j ∧ j < S.1 1 + ((k + 1 : Nat) : Int) then sB (byt x (j - S.1 1).toNat) else S.2 0 j := by
                    intro j
                    by_cases hj : j = S.1 1 + k
                    · rw [hj, upI_s, if_pos (by omega), show (S.1 1 + (k : Int) - S.1 1).toNat = ((k : Int)).toNat by omega]
                    · rw [upI_n hj, hf j]
                      by_cases h2 : S.1 1 ≤ j ∧ j < S.1 1 + k
                      · rw [if_pos h2, if_pos (by omega)]
                      · rw [if_neg h2, if_neg (by omega)]
                  exact ih (k + 1) (upI f ((S.1 1) + ((k : Int))) (sB (byt x (((k : Int))).toNat))) (by omega) hf2 (by omega) H locs ls hG hS (lv_sub hl [1, 2, 3, 0] rfl)
            exact L47 _ 0 (S.2 0) (by omega) (by intro j; rw [if_neg (by omega)]) (Nat.lt_succ_self _) H locs ls hG hS (lv_sub hl [1, 2, 3, 0] rfl)
          · refine lv_bipush (v := iI (-4)) X.1 X.2.1 dX1_feed_41 (by decide) ?_
            refine ret _ _ _ _ _ _ ?_ (rfl) hG hS dX1_feed_43
            exact ⟨by rw [if_pos (by omega)], Or.inl ⟨by omega, rfl⟩⟩
        · have hc2 : cB x (8 - (n + 1)) = cB x 8 := by
            rw [← hc, show 8 - n = (8 - (n + 1)) + 1 by omega]
            show _ = if byt x (7 - (8 - (n + 1))) = 0 then 7 - (8 - (n + 1)) else cB x (8 - (n + 1))
            rw [show 7 - (8 - (n + 1)) = n by omega, if_neg (by have e : ((n : Int)).toNat = n := (by omega); rw [e] at c19; exact c19)]
          refine i_inc (lv' := [(3, .int (iI ((n : Int) + 1))), (0, .ref o), (1, .long (x))]) X dX1_feed_23 hl (k := 2) rfl (by decide) rfl (fun ls hl => ?_)
          refine lv_goto (tgt := 2) X.1 X.2.1 dX1_feed_26 (by decide) ?_
          exact ih (n + 1) (by omega) hc2 (by omega) H locs ls hG hS (lv_sub hl [1, 2, 0] rfl)
  exact L2 _ 0 (by omega) rfl (Nat.lt_succ_self _) H locs ls hG hS (lv_sub hl [1, 2, 0] rfl)

set_option maxHeartbeats 4000000 in
theorem mm_letter (l : Launch) (D : va_G) (ca : Nat → ClassId) (o lv : Nat) (S : MSt) (i : Int) (a : Int) (hlv : 2 ≤ lv) (hi : iR i) (hth : S.1 27 = 0 ∨ S.1 27 = 1) (hT : S.1 27 = 1 → MT S ∧ MP S) (hnn : 0 ≤ S.1 40 ∧ S.1 40 ≤ 500) (ha : iR a) : mCi l yX1_letter cX1_letter 4 .int D ca o lv [.ref o, .int (iI (i)), .int (iI (a))] S (fun r S' => r = (if S.1 27 = 0 then -3 else if 0 ≤ i ∧ i < S.1 40 ∧ S.2 41 i = 1 then (if (if 0 ≤ a ∧ a ≤ 5 then S.2 42 i / 2 ^ (8 * a.toNat) % 256 else 0) = 0 then -9 else (if 0 ≤ a ∧ a ≤ 5 then S.2 42 i / 2 ^ (8 * a.toNat) % 256 else 0)) else -1) ∧ S' = S) := by
  refine mCi_of (by decide +kernel) rfl (Nat.le_of_ble_eq_true rfl) ?_
  intro p e s m args below meth c Q X hK ret H locs ls hG hS hl
  have hl : lv_has ls 4 [(0, .ref o), (1, .int (iI (i))), (2, .int (iI (a)))] := hl
  refine lv_aload_n X.1 X.2.1 dX1_letter_0 rfl (lv_at hl 0 rfl) ?_
  refine mg_isThere X hK hG (S.1 27) rfl dX1_letter_1 ?_
  refine i_if_ne X 10 dX1_letter_4 (by decide) (by first | omega | (split <;> omega)) (fun c4 => ?_) (fun c4 => ?_)
  · refine lv_aload_n X.1 X.2.1 dX1_letter_10 rfl (lv_at hl 0 rfl) ?_
    refine lv_iload_n X.1 X.2.1 dX1_letter_11 rfl (lv_at hl 1 rfl) ?_
    refine m_callVp (rest := []) (n := 1) X hK hG hS (fun _ h => h) (mm_isItem l D ca o (lv - 1) S i (by omega) (by omega) (by omega)) (lw_V q1532 q1534 qs42 q70 q1535) (by decide +kernel) rfl ⟨by show (lv - 1) + 1 ≤ lv; omega, by show 8 + (2 + 11) + 40 * (lv - 1) ≤ 40 * lv; omega⟩ ⟨Nat.le_refl _, Nat.le_refl _⟩ hl.1 rfl (Nat.le_of_ble_eq_true rfl) dX1_letter_12 (fun H locs hG hS _ _ => ?_)
    refine i_if_eq X 28 dX1_letter_15 (by decide) (bI_iR _) (fun c15 => ?_) (fun c15 => ?_)
    · have c15 := bI_eq0.mp c15
      refine lv_iconst (v := iI (-1)) X.1 X.2.1 dX1_letter_28 rfl ?_
      refine ret _ _ _ _ _ _ ?_ (rfl) hG hS dX1_letter_29
      refine ⟨?_, rfl⟩
      rw [if_neg c4]
      rw [if_neg (by first | omega | (intro hh; simp [hh.1, hh.2.1] at c15))]
    · have c15 := bI_ne0.mp c15
      have c15b : 0 ≤ i ∧ i < S.1 40 := by simpa using c15
      have hwi := (hT (by omega)).1.1.w c15b.1 c15b.2
      refine lv_aload_n X.1 X.2.1 dX1_letter_18 rfl (lv_at hl 0 rfl) ?_
      refine mg_what X hK hG dX1_letter_19 ?_
      refine lv_iload_n X.1 X.2.1 dX1_letter_22 rfl (lv_at hl 1 rfl) ?_
      refine ml_what X hK hG (S.2 41) rfl (by first | omega | (split <;> omega)) dX1_letter_23 ?_
      refine lv_iconst (v := iI (1)) X.1 X.2.1 dX1_letter_24 rfl ?_
      refine i_icmp_eq X 30 dX1_letter_25 (by decide) (by first | omega | (split <;> omega)) (by first | omega | (split <;> omega)) (fun c25 => ?_) (fun c25 => ?_)
      · have c15 : 0 ≤ i ∧ i < S.1 40 := by simpa using c15
        obtain ⟨hT, hP⟩ := hT (by omega)
        have hg := hT.2.2 i c15.1 c15.2
        have K63 : ∀ (z : Int), (z = if 0 ≤ a ∧ a ≤ 5 then S.2 42 i / 2 ^ (8 * a.toNat) % 256 else 0) → ∀ (H : Heap) (locs : List Loc) (ls : Array Slot), gOk D (mA o) (mH ca o S) H → va_S (mA o) s.heap H locs → lv_has ls 4 [(0, .ref o), (1, .int (iI (i))), (2, .int (iI (a))), (3, .int (iI (z)))] → W p l e (mR lv) s m args below meth c H locs 0 0 Q (F0 m 63 ls []) := by
          intro z hz H locs ls hG hS hl
          refine lv_iload_n X.1 X.2.1 dX1_letter_63 rfl (lv_at hl 3 rfl) ?_
          refine i_if_ne X 72 dX1_letter_64 (by decide) (by first | omega | (split <;> omega)) (fun c64 => ?_) (fun c64 => ?_)
          · refine lv_iload_n X.1 X.2.1 dX1_letter_72 rfl (lv_at hl 3 rfl) ?_
            refine ret _ _ _ _ _ _ ?_ (rfl) hG hS dX1_letter_73
            refine ⟨?_, rfl⟩
            rw [if_neg c4, if_pos ⟨c15.1, c15.2, by omega⟩, ← hz]
            first | (rw [if_pos c64]; done) | (rw [if_neg c64])
          · refine lv_bipush (v := iI (-9)) X.1 X.2.1 dX1_letter_67 (by decide) ?_
            refine lv_goto (tgt := 73) X.1 X.2.1 dX1_letter_69 (by decide) ?_
            refine ret _ _ _ _ _ _ ?_ (rfl) hG hS dX1_letter_73
            refine ⟨?_, rfl⟩
            rw [if_neg c4, if_pos ⟨c15.1, c15.2, by omega⟩, ← hz]
            first | (rw [if_pos c64]; done) | (rw [if_neg c64])
        refine lv_iload_n X.1 X.2.1 dX1_letter_30 rfl (lv_at hl 2 rfl) ?_
        refine i_i2l X (by first | omega | (split <;> omega)) dX1_letter_31 ?_
        refine lv_lconst (v := lI (0)) X.1 X.2.1 dX1_letter_32 rfl ?_
        refine lv_ldc2 (v := lI (5)) X.1 X.2.1 X.2.2.2.1 (X.2.2.2.2 _ q1559) dX1_letter_33 ?_
        refine m_callSp (rest := []) (n := 3) X hK hG hS (fun _ h => h) (mm_in l D ca o (lv - 1) S a 0 5 (by omega) (by omega) (by omega)) (lw_S q1536 q1537 q70 q1538) (by decide +kernel) rfl ⟨by show (lv - 1) + 1 ≤ lv; omega, by show 8 + (6 + 11) + 40 * (lv - 1) ≤ 40 * lv; omega⟩ ⟨Nat.le_refl _, Nat.le_refl _⟩ hl.1 rfl (Nat.le_of_ble_eq_true rfl) dX1_letter_36 (fun H locs hG hS _ _ => ?_)
        refine i_if_eq X 61 dX1_letter_39 (by decide) (bI_iR _) (fun c39 => ?_) (fun c39 => ?_)
        · have c39 := bI_eq0.mp c39
          refine lv_iconst (v := iI (0)) X.1 X.2.1 dX1_letter_61 rfl ?_
          refine lv_istore_n (lv' := [(3, .int (iI (0))), (0, .ref o), (1, .int (iI (i))), (2, .int (iI (a)))]) X.1 X.2.1 dX1_letter_62 rfl hl (by decide) rfl (fun ls hl => ?_)
          exact K63 0 (by first | (rw [if_pos c39]; done) | (rw [if_neg (by intro hh; simp [hh.1, hh.2] at c39)])) H locs ls hG hS (lv_sub hl [1, 2, 3, 0] rfl)
        · have c39 := bI_ne0.mp c39
          have c39 : 0 ≤ a ∧ a ≤ 5 := by simpa using c39
          refine lv_aload_n X.1 X.2.1 dX1_letter_42 rfl (lv_at hl 0 rfl) ?_
          refine mg_worthOf X hK hG dX1_letter_43 ?_
          refine lv_iload_n X.1 X.2.1 dX1_letter_46 rfl (lv_at hl 1 rfl) ?_
          refine ml_worthOf X hK hG (S.2 42) rfl (by first | omega | (split <;> omega)) dX1_letter_47 ?_
          refine lv_bipush (v := iI (8)) X.1 X.2.1 dX1_letter_48 (by decide) ?_
          refine lv_iload_n X.1 X.2.1 dX1_letter_50 rfl (lv_at hl 2 rfl) ?_
          refine i_mul X dX1_letter_51 ?_
          refine f_ushrb X (by omega) dX1_letter_52 q1432 dX1_letter_53 dX1_letter_56 ?_
          rw [byt_lI (by omega)]
          refine i_l2i X dX1_letter_57 ?_
          refine lv_goto (tgt := 62) X.1 X.2.1 dX1_letter_58 (by decide) ?_
          refine lv_istore_n (lv' := [(3, .int (iI (S.2 42 i / 2 ^ (8 * a.toNat) % 256))), (0, .ref o), (1, .int (iI (i))), (2, .int (iI (a)))]) X.1 X.2.1 dX1_letter_62 rfl hl (by decide) rfl (fun ls hl => ?_)
          exact K63 (S.2 42 i / 2 ^ (8 * a.toNat) % 256) (by first | (rw [if_pos c39]; done) | (rw [if_neg (by intro hh; simp [hh.1, hh.2] at c39)])) H locs ls hG hS (lv_sub hl [1, 2, 3, 0] rfl)
      · refine lv_iconst (v := iI (-1)) X.1 X.2.1 dX1_letter_28 rfl ?_
        refine ret _ _ _ _ _ _ ?_ (rfl) hG hS dX1_letter_29
        refine ⟨?_, rfl⟩
        rw [if_neg c4]
        rw [if_neg (by first | omega | (intro hh; simp [hh.1, hh.2.1] at c15))]
  · refine lv_bipush (v := iI (-3)) X.1 X.2.1 dX1_letter_7 (by decide) ?_
    refine ret _ _ _ _ _ _ ?_ (rfl) hG hS dX1_letter_9
    exact ⟨(if_pos c4).symm, rfl⟩

set_option maxHeartbeats 4000000 in
theorem mm_keep (l : Launch) (D : va_G) (ca : Nat → ClassId) (o lv : Nat) (S : MSt) (hlv : 3 ≤ lv) (hth : S.1 27 = 0 ∨ S.1 27 = 1) (hT : S.1 27 = 1 → MT S ∧ MP S) : mCi l yX1_keep cX1_keep 2 .int D ca o lv [.ref o] S (fun r S' => r = (if S.1 27 = 0 then -3 else S.1 40) ∧ ((S.1 27 = 0 ∧ S' = S) ∨ (S.1 27 = 1 ∧ ∃ f80 f81 f82 f83 : Int → Int, S' = mP S [(80, f80), (81, f81), (82, f82), (83, f83)] [(78, 1), (79, S.1 40)] ∧ ∀ i, 0 ≤ i → i < S.1 40 → f80 i = S.2 41 i ∧ f81 i = S.2 42 i ∧ f82 i = S.2 47 i ∧ f83 i = spReads S i))) := by
  refine mCi_of (by decide +kernel) rfl (Nat.le_of_ble_eq_true rfl) ?_
  intro p e s m args below meth c Q X hK ret H locs ls hG hS hl
  have hl : lv_has ls 2 [(0, .ref o)] := hl
  refine lv_aload_n X.1 X.2.1 dX1_keep_0 rfl (lv_at hl 0 rfl) ?_
  refine mg_isThere X hK hG (S.1 27) rfl dX1_keep_1 ?_
  refine i_if_ne X 10 dX1_keep_4 (by decide) (by first | omega | (split <;> omega)) (fun c4 => ?_) (fun c4 => ?_)
  · obtain ⟨hT, hP⟩ := hT (by omega)
    have hnn := hT.n
    refine lv_aload_n X.1 X.2.1 dX1_keep_10 rfl (lv_at hl 0 rfl) ?_
    refine lv_iconst (v := iI (1)) X.1 X.2.1 dX1_keep_11 rfl ?_
    have hG : gOk D (mA o) (mH ca o (mP S [] [])) H := hG
    refine mp_isKept X hK hG hS (by first | omega | (split <;> omega)) dX1_keep_12 (fun H locs hG hS => ?_)
    rw [mS_mP (sc' := [(78, 1)]) rfl] at hG
    refine lv_aload_n X.1 X.2.1 dX1_keep_15 rfl (lv_at hl 0 rfl) ?_
    refine lv_aload_n X.1 X.2.1 dX1_keep_16 rfl (lv_at hl 0 rfl) ?_
    refine mg_items X hK hG (S.1 40) rfl dX1_keep_17 ?_
    refine mp_keptItems X hK hG hS dX1_keep_20 (fun H locs hG hS => ?_)
    rw [mS_mP (sc' := [(78, 1), (79, S.1 40)]) rfl] at hG
    refine lv_iconst (v := iI (0)) X.1 X.2.1 dX1_keep_23 rfl ?_
    refine lv_istore_n (lv' := [(1, .int (iI (0))), (0, .ref o)]) X.1 X.2.1 dX1_keep_24 rfl hl (by decide) rfl (fun ls hl => ?_)
    rw [mP_add (k := 80) (f := S.2 80) (l' := [(80, S.2 80)]) rfl rfl, mP_add (k := 81) (f := S.2 81) (l' := [(80, S.2 80), (81, S.2 81)]) rfl rfl, mP_add (k := 82) (f := S.2 82) (l' := [(80, S.2 80), (81, S.2 81), (82, S.2 82)]) rfl rfl, mP_add (k := 83) (f := S.2 83) (l' := [(80, S.2 80), (81, S.2 81), (82, S.2 82), (83, S.2 83)]) rfl rfl] at hG
    have L25 : ∀ (N : Nat) (k : Nat) (f80 f81 f82 f83 : Int → Int), ((k : Int) ≤ S.1 40) → (∀ i : Int, 0 ≤ i → i < k → f80 i = S.2 41 i ∧ f81 i = S.2 42 i ∧ f82 i = S.2 47 i ∧ f83 i = spReads S i) → (S.1 40).toNat - k < N → ∀ (H : Heap) (locs : List Loc) (ls : Array Slot), gOk D (mA o) (mH ca o (mP S [(80, f80), (81, f81), (82, f82), (83, f83)] [(78, 1), (79, S.1 40)])) H → va_S (mA o) s.heap H locs → lv_has ls 2 [(0, .ref o), (1, .int (iI ((k : Int))))] → W p l e (mR lv) s m args below meth c H locs 0 0 Q (F0 m 25 ls []) := by
      intro N
      induction N with
      | zero => intro k f80 f81 f82 f83 hk hf hN; exact absurd hN (Nat.not_lt_zero _)
      | succ N ih =>
        intro k f80 f81 f82 f83 hk hf hN H locs ls hG hS hl
        refine lv_iload_n X.1 X.2.1 dX1_keep_25 rfl (lv_at hl 1 rfl) ?_
        refine lv_aload_n X.1 X.2.1 dX1_keep_26 rfl (lv_at hl 0 rfl) ?_
        refine mg_items X hK hG (S.1 40) rfl dX1_keep_27 ?_
        refine i_icmp_ge X 86 dX1_keep_30 (by decide) (by first | omega | (split <;> omega)) (by first | omega | (split <;> omega)) (fun c30 => ?_) (fun c30 => ?_)
        · refine lv_aload_n X.1 X.2.1 dX1_keep_86 rfl (lv_at hl 0 rfl) ?_
          refine mg_items X hK hG (S.1 40) rfl dX1_keep_87 ?_
          refine ret _ _ _ _ _ _ ?_ (rfl) hG hS dX1_keep_90
          exact ⟨(if_neg c4).symm, Or.inr ⟨by omega, _, _, _, _, rfl, fun i a b => hf i a (by omega)⟩⟩
        · refine lv_aload_n X.1 X.2.1 dX1_keep_33 rfl (lv_at hl 0 rfl) ?_
          refine mg_keptWhat X hK hG dX1_keep_34 ?_
          refine lv_iload_n X.1 X.2.1 dX1_keep_37 rfl (lv_at hl 1 rfl) ?_
          refine lv_aload_n X.1 X.2.1 dX1_keep_38 rfl (lv_at hl 0 rfl) ?_
          refine mg_what X hK hG dX1_keep_39 ?_
          refine lv_iload_n X.1 X.2.1 dX1_keep_42 rfl (lv_at hl 1 rfl) ?_
          refine ml_what X hK hG (S.2 41) rfl (by first | omega | (split <;> omega)) dX1_keep_43 ?_
          refine ms_keptWhat X hK hG hS (by first | omega | (split <;> omega)) dX1_keep_44 (fun H locs hG hS => ?_)
          rw [mU_mP (l' := [(80, upI f80 ((k : Int)) (S.2 41 ((k : Int)))), (81, f81), (82, f82), (83, f83)]) rfl rfl] at hG
          refine lv_aload_n X.1 X.2.1 dX1_keep_45 rfl (lv_at hl 0 rfl) ?_
          refine mg_keptWorth X hK hG dX1_keep_46 ?_
          refine lv_iload_n X.1 X.2.1 dX1_keep_49 rfl (lv_at hl 1 rfl) ?_
          refine lv_aload_n X.1 X.2.1 dX1_keep_50 rfl (lv_at hl 0 rfl) ?_
          refine mg_worthOf X hK hG dX1_keep_51 ?_
          refine lv_iload_n X.1 X.2.1 dX1_keep_54 rfl (lv_at hl 1 rfl) ?_
          refine ml_worthOf X hK hG (S.2 42) rfl (by first | omega | (split <;> omega)) dX1_keep_55 ?_
          refine ms_keptWorth X hK hG hS (by first | omega | (split <;> omega)) dX1_keep_56 (fun H locs hG hS => ?_)
          rw [mU_mP (l' := [(80, upI f80 ((k : Int)) (S.2 41 ((k : Int)))), (81, upI f81 ((k : Int)) (S.2 42 ((k : Int)))), (82, f82), (83, f83)]) rfl rfl] at hG
          refine lv_aload_n X.1 X.2.1 dX1_keep_57 rfl (lv_at hl 0 rfl) ?_
          refine mg_keptParts X hK hG dX1_keep_58 ?_
          refine lv_iload_n X.1 X.2.1 dX1_keep_61 rfl (lv_at hl 1 rfl) ?_
          refine lv_aload_n X.1 X.2.1 dX1_keep_62 rfl (lv_at hl 0 rfl) ?_
          refine mg_parts X hK hG dX1_keep_63 ?_
          refine lv_iload_n X.1 X.2.1 dX1_keep_66 rfl (lv_at hl 1 rfl) ?_
          refine ml_parts X hK hG (S.2 47) rfl (by first | omega | (split <;> omega)) dX1_keep_67 ?_
          refine ms_keptParts X hK hG hS (by first | omega | (split <;> omega)) dX1_keep_68 (fun H locs hG hS => ?_)
          rw [mU_mP (l' := [(80, upI f80 ((k : Int)) (S.2 41 ((k : Int)))), (81, upI f81 ((k : Int)) (S.2 42 ((k : Int)))), (82, upI f82 ((k : Int)) (S.2 47 ((k : Int)))), (83, f83)]) rfl rfl] at hG
          refine lv_aload_n X.1 X.2.1 dX1_keep_69 rfl (lv_at hl 0 rfl) ?_
          refine mg_keptReads X hK hG dX1_keep_70 ?_
          refine lv_iload_n X.1 X.2.1 dX1_keep_73 rfl (lv_at hl 1 rfl) ?_
          refine lv_aload_n X.1 X.2.1 dX1_keep_74 rfl (lv_at hl 0 rfl) ?_
          refine lv_iload_n X.1 X.2.1 dX1_keep_75 rfl (lv_at hl 1 rfl) ?_
          refine m_callVp (rest := [.int (iI ((k : Int))), .ref (o + 61)]) (n := 1) X hK hG hS (fun _ h => h) (mm_readsAs l D ca o (lv - 1) (mP S [(80, upI f80 ((k : Int)) (S.2 41 ((k : Int)))), (81, upI f81 ((k : Int)) (S.2 42 ((k : Int)))), (82, upI f82 ((k : Int)) (S.2 47 ((k : Int)))), (83, f83)] [(78, 1), (79, S.1 40)]) ((k : Int)) (by omega) hT (show 0 ≤ ((k : Int)) by omega) (show ((k : Int)) < S.1 40 by omega)) (lw_V q1539 q1541 qs43 q70 q1542) (by decide +kernel) rfl ⟨by show (lv - 1) + 1 ≤ lv; omega, by show 8 + (5 + 11) + 40 * (lv - 1) ≤ 40 * lv; omega⟩ ⟨Nat.le_refl _, Nat.le_refl _⟩ hl.1 rfl (Nat.le_of_ble_eq_true rfl) dX1_keep_76 (fun H locs hG hS _ _ => ?_)
          rw [show spReads (mP S [(80, upI f80 ((k : Int)) (S.2 41 ((k : Int)))), (81, upI f81 ((k : Int)) (S.2 42 ((k : Int)))), (82, upI f82 ((k : Int)) (S.2 47 ((k : Int)))), (83, f83)] [(78, 1), (79, S.1 40)]) k = spReads S k from spReads_pr (fun _ h => by subst h; rfl) (fun j h => by simp only [mP, lk]; rw [if_neg (show ¬ j = 80 by omega), if_neg (show ¬ j = 81 by omega), if_neg (show ¬ j = 82 by omega), if_neg (show ¬ j = 83 by omega)]; rfl)]
          refine ms_keptReads X hK hG hS (by first | omega | (split <;> omega)) dX1_keep_79 (fun H locs hG hS => ?_)
          rw [mU_mP (l' := [(80, upI f80 ((k : Int)) (S.2 41 ((k : Int)))), (81, upI f81 ((k : Int)) (S.2 42 ((k : Int)))), (82, upI f82 ((k : Int)) (S.2 47 ((k : Int)))), (83, upI f83 ((k : Int)) (spReads S k))]) rfl rfl] at hG
          refine i_inc (lv' := [(1, .int (iI ((k : Int) + 1))), (0, .ref o)]) X dX1_keep_80 hl (k := 1) rfl (by decide) rfl (fun ls hl => ?_)
          refine lv_goto (tgt := 25) X.1 X.2.1 dX1_keep_83 (by decide) ?_
          have hf2 : ∀ i : Int, 0 ≤ i → i < ((k + 1 : Nat) : Int) → (upI f80 ((k : Int)) (S.2 41 ((k : Int)))) i = S.2 41 i ∧ (upI f81 ((k : Int)) (S.2 42 ((k : Int)))) i = S.2 42 i ∧ (upI f82 ((k : Int)) (S.2 47 ((k : Int)))) i = S.2 47 i ∧ (upI f83 ((k : Int)) (spReads S k)) i = spReads S i := by
            intro i a b
            by_cases hi : i = k
            · rw [hi, upI_s, upI_s, upI_s, upI_s]; exact ⟨rfl, rfl, rfl, rfl⟩
            · rw [upI_n hi, upI_n hi, upI_n hi, upI_n hi]; exact hf i a (by omega)
          exact ih (k + 1) (upI f80 ((k : Int)) (S.2 41 ((k : Int)))) (upI f81 ((k : Int)) (S.2 42 ((k : Int)))) (upI f82 ((k : Int)) (S.2 47 ((k : Int)))) (upI f83 ((k : Int)) (spReads S k)) (by omega) hf2 (by omega) H locs ls hG hS (lv_sub hl [1, 0] rfl)
    exact L25 _ 0 (S.2 80) (S.2 81) (S.2 82) (S.2 83) (by omega) (by intro i a b; omega) (Nat.lt_succ_self _) H locs ls hG hS (lv_sub hl [1, 0] rfl)
  · refine lv_bipush (v := iI (-3)) X.1 X.2.1 dX1_keep_7 (by decide) ?_
    refine ret _ _ _ _ _ _ ?_ (rfl) hG hS dX1_keep_9
    exact ⟨(if_pos c4).symm, Or.inl ⟨c4, rfl⟩⟩

set_option maxHeartbeats 4000000 in
theorem mm_alike (l : Launch) (D : va_G) (ca : Nat → ClassId) (o lv : Nat) (S : MSt) (hlv : 3 ≤ lv) (hth : S.1 27 = 0 ∨ S.1 27 = 1) (hT : S.1 27 = 1 → MT S ∧ MP S) (hke : S.1 78 = 0 ∨ S.1 78 = 1) (hkr : S.1 78 = 1 → (0 ≤ S.1 79 ∧ S.1 79 ≤ 500) ∧ ∀ i, 0 ≤ i → i < S.1 79 → iR (S.2 80 i) ∧ lR (S.2 81 i) ∧ iR (S.2 82 i) ∧ iR (S.2 83 i)) : mCi l yX1_alike cX1_alike 4 .int D ca o lv [.ref o] S (fun r S' => r = (if S.1 27 = 0 ∨ S.1 78 = 0 then -3 else bI (decide (S.1 40 = S.1 79) && spAl S (S.1 40).toNat)) ∧ S' = S) := by
  refine mCi_of (by decide +kernel) rfl (Nat.le_of_ble_eq_true rfl) ?_
  intro p e s m args below meth c Q X hK ret H locs ls hG hS hl
  have hl : lv_has ls 4 [(0, .ref o)] := hl
  refine lv_aload_n X.1 X.2.1 dX1_alike_0 rfl (lv_at hl 0 rfl) ?_
  refine mg_isThere X hK hG (S.1 27) rfl dX1_alike_1 ?_
  refine i_if_eq X 14 dX1_alike_4 (by decide) (by first | omega | (split <;> omega)) (fun c4 => ?_) (fun c4 => ?_)
  · refine lv_bipush (v := iI (-3)) X.1 X.2.1 dX1_alike_14 (by decide) ?_
    refine ret _ _ _ _ _ _ ?_ (rfl) hG hS dX1_alike_16
    exact ⟨by rw [if_pos (by omega)], rfl⟩
  · refine lv_aload_n X.1 X.2.1 dX1_alike_7 rfl (lv_at hl 0 rfl) ?_
    refine mg_isKept X hK hG (S.1 78) rfl dX1_alike_8 ?_
    refine i_if_ne X 17 dX1_alike_11 (by decide) (by first | omega | (split <;> omega)) (fun c11 => ?_) (fun c11 => ?_)
    · have c4 : S.1 27 = 1 := by omega
      have c11 : S.1 78 = 1 := by omega
      obtain ⟨hT, hP⟩ := hT c4
      have hnn := hT.n
      obtain ⟨hk1, hk2⟩ := hkr c11
      have K34 : ∀ (b : Int), (b = bI (decide (S.1 40 = S.1 79))) → ∀ (H : Heap) (locs : List Loc) (ls : Array Slot), gOk D (mA o) (mH ca o S) H → va_S (mA o) s.heap H locs → lv_has ls 4 [(0, .ref o), (1, .int (iI (b)))] → W p l e (mR lv) s m args below meth c H locs 0 0 Q (F0 m 34 ls []) := by
        intro b hb H locs ls hG hS hl
        refine lv_iconst (v := iI (0)) X.1 X.2.1 dX1_alike_34 rfl ?_
        refine lv_istore_n (lv' := [(2, .int (iI (0))), (0, .ref o), (1, .int (iI (b)))]) X.1 X.2.1 dX1_alike_35 rfl hl (by decide) rfl (fun ls hl => ?_)
        have L36 : ∀ (N : Nat) (b : Int) (k : Nat), ((k : Int) ≤ S.1 40) → (b = bI (decide (S.1 40 = S.1 79) && spAl S k)) → (S.1 40).toNat - k < N → ∀ (H : Heap) (locs : List Loc) (ls : Array Slot), gOk D (mA o) (mH ca o S) H → va_S (mA o) s.heap H locs → lv_has ls 4 [(0, .ref o), (1, .int (iI (b))), (2, .int (iI ((k : Int))))] → W p l e (mR lv) s m args below meth c H locs 0 0 Q (F0 m 36 ls []) := by
          intro N
          induction N with
          | zero => intro b k hk hb hN; exact absurd hN (Nat.not_lt_zero _)
          | succ N ih =>
            intro b k hk hb hN H locs ls hG hS hl
            refine lv_iload_n X.1 X.2.1 dX1_alike_36 rfl (lv_at hl 2 rfl) ?_
            refine lv_aload_n X.1 X.2.1 dX1_alike_37 rfl (lv_at hl 0 rfl) ?_
            refine mg_items X hK hG (S.1 40) rfl dX1_alike_38 ?_
            refine i_icmp_ge X 128 dX1_alike_41 (by decide) (by first | omega | (split <;> omega)) (by first | omega | (split <;> omega)) (fun c41 => ?_) (fun c41 => ?_)
            · have hfin : b = bI (decide (S.1 40 = S.1 79) && spAl S (S.1 40).toNat) := by
                by_cases hke : k = (S.1 40).toNat
                · rw [← hke]; exact hb
                · have hb0 : b = 0 := by omega
                  rw [hb0] at hb ⊢
                  have h1 := bI_eq0.mp hb.symm
                  apply bI_f
                  rw [Bool.and_eq_false_iff] at h1 ⊢
                  rcases h1 with h1 | h1
                  · exact Or.inl h1
                  · right
                    have := spAl_mono S h1 ((S.1 40).toNat - k)
                    rw [show k + ((S.1 40).toNat - k) = (S.1 40).toNat by omega] at this
                    exact this
              have hb01 := bI_01 (decide (S.1 40 = S.1 79) && spAl S (S.1 40).toNat)
              rw [← hfin] at hb01
              refine lv_iload_n X.1 X.2.1 dX1_alike_128 rfl (lv_at hl 1 rfl) ?_
              refine i_if_eq X 136 dX1_alike_129 (by decide) (by first | omega | (split <;> omega)) (fun c129 => ?_) (fun c129 => ?_)
              · refine lv_iconst (v := iI (0)) X.1 X.2.1 dX1_alike_136 rfl ?_
                refine ret _ _ _ _ _ _ ?_ (rfl) hG hS dX1_alike_137
                refine ⟨?_, rfl⟩
                rw [if_neg (by omega), ← hfin]
                omega
              · refine lv_iconst (v := iI (1)) X.1 X.2.1 dX1_alike_132 rfl ?_
                refine lv_goto (tgt := 137) X.1 X.2.1 dX1_alike_133 (by decide) ?_
                refine ret _ _ _ _ _ _ ?_ (rfl) hG hS dX1_alike_137
                refine ⟨?_, rfl⟩
                rw [if_neg (by omega), ← hfin]
                omega
            · have hb01 := bI_01 (decide (S.1 40 = S.1 79) && spAl S k)
              rw [← hb] at hb01
              refine lv_iload_n X.1 X.2.1 dX1_alike_44 rfl (lv_at hl 1 rfl) ?_
              refine i_if_eq X 128 dX1_alike_45 (by decide) (by first | omega | (split <;> omega)) (fun c45 => ?_) (fun c45 => ?_)
              · have hfin : b = bI (decide (S.1 40 = S.1 79) && spAl S (S.1 40).toNat) := by
                  by_cases hke : k = (S.1 40).toNat
                  · rw [← hke]; exact hb
                  · have hb0 : b = 0 := by omega
                    rw [hb0] at hb ⊢
                    have h1 := bI_eq0.mp hb.symm
                    apply bI_f
                    rw [Bool.and_eq_false_iff] at h1 ⊢
                    rcases h1 with h1 | h1
                    · exact Or.inl h1
                    · right
                      have := spAl_mono S h1 ((S.1 40).toNat - k)
                      rw [show k + ((S.1 40).toNat - k) = (S.1 40).toNat by omega] at this
                      exact this
                have hb01 := bI_01 (decide (S.1 40 = S.1 79) && spAl S (S.1 40).toNat)
                rw [← hfin] at hb01
                refine lv_iload_n X.1 X.2.1 dX1_alike_128 rfl (lv_at hl 1 rfl) ?_
                refine i_if_eq X 136 dX1_alike_129 (by decide) (by first | omega | (split <;> omega)) (fun c129 => ?_) (fun c129 => ?_)
                · refine lv_iconst (v := iI (0)) X.1 X.2.1 dX1_alike_136 rfl ?_
                  refine ret _ _ _ _ _ _ ?_ (rfl) hG hS dX1_alike_137
                  refine ⟨?_, rfl⟩
                  rw [if_neg (by omega), ← hfin]
                  omega
                · refine lv_iconst (v := iI (1)) X.1 X.2.1 dX1_alike_132 rfl ?_
                  refine lv_goto (tgt := 137) X.1 X.2.1 dX1_alike_133 (by decide) ?_
                  refine ret _ _ _ _ _ _ ?_ (rfl) hG hS dX1_alike_137
                  refine ⟨?_, rfl⟩
                  rw [if_neg (by omega), ← hfin]
                  omega
              · have hbt : (decide (S.1 40 = S.1 79) && spAl S k) = true := bI_ne0.mp (by rw [← hb]; exact c45)
                have hen : S.1 40 = S.1 79 := by simp only [Bool.and_eq_true, decide_eq_true_eq] at hbt; exact hbt.1
                have hkk := hk2 k (by omega) (by omega)
                have hwk := hT.1.w (i := (k : Int)) (by omega) (by omega)
                have hpk := hT.1.p (i := (k : Int)) (by omega) (by omega)
                have hgk := hT.2.2 k (by omega) (by omega)
                have hrk := spReads_in hT (i := (k : Int)) (by omega) (by omega)
                refine lv_aload_n X.1 X.2.1 dX1_alike_48 rfl (lv_at hl 0 rfl) ?_
                refine lv_iload_n X.1 X.2.1 dX1_alike_49 rfl (lv_at hl 2 rfl) ?_
                refine m_callVp (rest := []) (n := 1) X hK hG hS (fun _ h => h) (mm_readsAs l D ca o (lv - 1) S ((k : Int)) (by omega) hT (by omega) (by omega)) (lw_V q1539 q1541 qs43 q70 q1542) (by decide +kernel) rfl ⟨by show (lv - 1) + 1 ≤ lv; omega, by show 8 + (5 + 11) + 40 * (lv - 1) ≤ 40 * lv; omega⟩ ⟨Nat.le_refl _, Nat.le_refl _⟩ hl.1 rfl (Nat.le_of_ble_eq_true rfl) dX1_alike_50 (fun H locs hG hS _ _ => ?_)
                refine lv_istore_n (lv' := [(3, .int (iI (spReads S ((k : Int))))), (0, .ref o), (1, .int (iI (b))), (2, .int (iI ((k : Int))))]) X.1 X.2.1 dX1_alike_53 rfl hl (by decide) rfl (fun ls hl => ?_)
                have K122 : ∀ (b2 : Int), (b2 = bI (spRowAl S k)) → ∀ (H : Heap) (locs : List Loc) (ls : Array Slot), gOk D (mA o) (mH ca o S) H → va_S (mA o) s.heap H locs → lv_has ls 4 [(0, .ref o), (1, .int (iI (b2))), (2, .int (iI ((k : Int))))] → W p l e (mR lv) s m args below meth c H locs 0 0 Q (F0 m 122 ls []) := by
                  intro b2 hb2 H locs ls hG hS hl
                  refine i_inc (lv' := [(2, .int (iI ((k : Int) + 1))), (0, .ref o), (1, .int (iI (b2)))]) X dX1_alike_122 hl (k := 2) rfl (by decide) rfl (fun ls hl => ?_)
                  refine lv_goto (tgt := 36) X.1 X.2.1 dX1_alike_125 (by decide) ?_
                  exact ih b2 (k + 1) (by omega) (by rw [hb2]; show _ = bI (_ && (spAl S k && spRowAl S k)); rw [← Bool.and_assoc, hbt, Bool.true_and]) (by omega) H locs ls hG hS (lv_sub hl [1, 2, 0] rfl)
                refine lv_aload_n X.1 X.2.1 dX1_alike_54 rfl (lv_at hl 1 rfl) ?_
                refine mg_what X hK hG dX1_alike_55 ?_
                refine lv_iload_n X.1 X.2.1 dX1_alike_58 rfl (lv_at hl 3 rfl) ?_
                refine ml_what X hK hG (S.2 41) rfl (by first | omega | (split <;> omega)) dX1_alike_59 ?_
                refine lv_aload_n X.1 X.2.1 dX1_alike_60 rfl (lv_at hl 1 rfl) ?_
                refine mg_keptWhat X hK hG dX1_alike_61 ?_
                refine lv_iload_n X.1 X.2.1 dX1_alike_64 rfl (lv_at hl 3 rfl) ?_
                refine ml_keptWhat X hK hG (S.2 80) rfl (by first | omega | (split <;> omega)) dX1_alike_65 ?_
                refine i_icmp_ne X 120 dX1_alike_66 (by decide) (by first | omega | (split <;> omega)) (by first | omega | (split <;> omega)) (fun c66 => ?_) (fun c66 => ?_)
                · refine lv_iconst (v := iI (0)) X.1 X.2.1 dX1_alike_120 rfl ?_
                  refine lv_istore_n (lv' := [(1, .int (iI (0))), (3, .int (iI (spReads S ((k : Int))))), (0, .ref o), (2, .int (iI ((k : Int))))]) X.1 X.2.1 dX1_alike_121 rfl hl (by decide) rfl (fun ls hl => ?_)
                  exact K122 0 (by first | (apply bI_t; unfold spRowAl; simp only [Bool.and_eq_true, Bool.or_eq_true, decide_eq_true_eq]; omega) | (apply bI_f; unfold spRowAl; rw [← Bool.not_eq_true]; simp only [Bool.and_eq_true, Bool.or_eq_true, decide_eq_true_eq]; omega)) H locs ls hG hS (lv_sub hl [2, 0, 3] rfl)
                · refine lv_aload_n X.1 X.2.1 dX1_alike_69 rfl (lv_at hl 1 rfl) ?_
                  refine mg_parts X hK hG dX1_alike_70 ?_
                  refine lv_iload_n X.1 X.2.1 dX1_alike_73 rfl (lv_at hl 3 rfl) ?_
                  refine ml_parts X hK hG (S.2 47) rfl (by first | omega | (split <;> omega)) dX1_alike_74 ?_
                  refine lv_aload_n X.1 X.2.1 dX1_alike_75 rfl (lv_at hl 1 rfl) ?_
                  refine mg_keptParts X hK hG dX1_alike_76 ?_
                  refine lv_iload_n X.1 X.2.1 dX1_alike_79 rfl (lv_at hl 3 rfl) ?_
                  refine ml_keptParts X hK hG (S.2 82) rfl (by first | omega | (split <;> omega)) dX1_alike_80 ?_
                  refine i_icmp_ne X 120 dX1_alike_81 (by decide) (by first | omega | (split <;> omega)) (by first | omega | (split <;> omega)) (fun c81 => ?_) (fun c81 => ?_)
                  · refine lv_iconst (v := iI (0)) X.1 X.2.1 dX1_alike_120 rfl ?_
                    refine lv_istore_n (lv' := [(1, .int (iI (0))), (3, .int (iI (spReads S ((k : Int))))), (0, .ref o), (2, .int (iI ((k : Int))))]) X.1 X.2.1 dX1_alike_121 rfl hl (by decide) rfl (fun ls hl => ?_)
                    exact K122 0 (by first | (apply bI_t; unfold spRowAl; simp only [Bool.and_eq_true, Bool.or_eq_true, decide_eq_true_eq]; omega) | (apply bI_f; unfold spRowAl; rw [← Bool.not_eq_true]; simp only [Bool.and_eq_true, Bool.or_eq_true, decide_eq_true_eq]; omega)) H locs ls hG hS (lv_sub hl [2, 0, 3] rfl)
                  · refine lv_iload_n X.1 X.2.1 dX1_alike_84 rfl (lv_at hl 0 rfl) ?_
                    refine lv_aload_n X.1 X.2.1 dX1_alike_85 rfl (lv_at hl 1 rfl) ?_
                    refine mg_keptReads X hK hG dX1_alike_86 ?_
                    refine lv_iload_n X.1 X.2.1 dX1_alike_89 rfl (lv_at hl 3 rfl) ?_
                    refine ml_keptReads X hK hG (S.2 83) rfl (by first | omega | (split <;> omega)) dX1_alike_90 ?_
                    refine i_icmp_ne X 120 dX1_alike_91 (by decide) (by first | omega | (split <;> omega)) (by first | omega | (split <;> omega)) (fun c91 => ?_) (fun c91 => ?_)
                    · refine lv_iconst (v := iI (0)) X.1 X.2.1 dX1_alike_120 rfl ?_
                      refine lv_istore_n (lv' := [(1, .int (iI (0))), (3, .int (iI (spReads S ((k : Int))))), (0, .ref o), (2, .int (iI ((k : Int))))]) X.1 X.2.1 dX1_alike_121 rfl hl (by decide) rfl (fun ls hl => ?_)
                      exact K122 0 (by first | (apply bI_t; unfold spRowAl; simp only [Bool.and_eq_true, Bool.or_eq_true, decide_eq_true_eq]; omega) | (apply bI_f; unfold spRowAl; rw [← Bool.not_eq_true]; simp only [Bool.and_eq_true, Bool.or_eq_true, decide_eq_true_eq]; omega)) H locs ls hG hS (lv_sub hl [2, 0, 3] rfl)
                    · refine lv_iload_n X.1 X.2.1 dX1_alike_94 rfl (lv_at hl 0 rfl) ?_
                      refine lv_bipush (v := iI (-9)) X.1 X.2.1 dX1_alike_95 (by decide) ?_
                      refine i_icmp_ne X 116 dX1_alike_97 (by decide) (by first | omega | (split <;> omega)) (by first | omega | (split <;> omega)) (fun c97 => ?_) (fun c97 => ?_)
                      · refine lv_iconst (v := iI (1)) X.1 X.2.1 dX1_alike_116 rfl ?_
                        refine lv_goto (tgt := 121) X.1 X.2.1 dX1_alike_117 (by decide) ?_
                        refine lv_istore_n (lv' := [(1, .int (iI (1))), (3, .int (iI (spReads S ((k : Int))))), (0, .ref o), (2, .int (iI ((k : Int))))]) X.1 X.2.1 dX1_alike_121 rfl hl (by decide) rfl (fun ls hl => ?_)
                        exact K122 1 (by first | (apply bI_t; unfold spRowAl; simp only [Bool.and_eq_true, Bool.or_eq_true, decide_eq_true_eq]; omega) | (apply bI_f; unfold spRowAl; rw [← Bool.not_eq_true]; simp only [Bool.and_eq_true, Bool.or_eq_true, decide_eq_true_eq]; omega)) H locs ls hG hS (lv_sub hl [2, 0, 3] rfl)
                      · refine lv_aload_n X.1 X.2.1 dX1_alike_100 rfl (lv_at hl 1 rfl) ?_
                        refine mg_worthOf X hK hG dX1_alike_101 ?_
                        refine lv_iload_n X.1 X.2.1 dX1_alike_104 rfl (lv_at hl 3 rfl) ?_
                        refine ml_worthOf X hK hG (S.2 42) rfl (by first | omega | (split <;> omega)) dX1_alike_105 ?_
                        refine lv_aload_n X.1 X.2.1 dX1_alike_106 rfl (lv_at hl 1 rfl) ?_
                        refine mg_keptWorth X hK hG dX1_alike_107 ?_
                        refine lv_iload_n X.1 X.2.1 dX1_alike_110 rfl (lv_at hl 3 rfl) ?_
                        refine ml_keptWorth X hK hG (S.2 81) rfl (by first | omega | (split <;> omega)) dX1_alike_111 ?_
                        refine i_lcmp_ne X 120 dX1_alike_112 dX1_alike_113 (by decide) (by first | omega | (split <;> omega)) (by first | omega | (split <;> omega)) (fun c112 => ?_) (fun c112 => ?_)
                        · refine lv_iconst (v := iI (0)) X.1 X.2.1 dX1_alike_120 rfl ?_
                          refine lv_istore_n (lv' := [(1, .int (iI (0))), (3, .int (iI (spReads S ((k : Int))))), (0, .ref o), (2, .int (iI ((k : Int))))]) X.1 X.2.1 dX1_alike_121 rfl hl (by decide) rfl (fun ls hl => ?_)
                          exact K122 0 (by first | (apply bI_t; unfold spRowAl; simp only [Bool.and_eq_true, Bool.or_eq_true, decide_eq_true_eq]; omega) | (apply bI_f; unfold spRowAl; rw [← Bool.not_eq_true]; simp only [Bool.and_eq_true, Bool.or_eq_true, decide_eq_true_eq]; omega)) H locs ls hG hS (lv_sub hl [2, 0, 3] rfl)
                        · refine lv_iconst (v := iI (1)) X.1 X.2.1 dX1_alike_116 rfl ?_
                          refine lv_goto (tgt := 121) X.1 X.2.1 dX1_alike_117 (by decide) ?_
                          refine lv_istore_n (lv' := [(1, .int (iI (1))), (3, .int (iI (spReads S ((k : Int))))), (0, .ref o), (2, .int (iI ((k : Int))))]) X.1 X.2.1 dX1_alike_121 rfl hl (by decide) rfl (fun ls hl => ?_)
                          exact K122 1 (by first | (apply bI_t; unfold spRowAl; simp only [Bool.and_eq_true, Bool.or_eq_true, decide_eq_true_eq]; omega) | (apply bI_f; unfold spRowAl; rw [← Bool.not_eq_true]; simp only [Bool.and_eq_true, Bool.or_eq_true, decide_eq_true_eq]; omega)) H locs ls hG hS (lv_sub hl [2, 0, 3] rfl)
        exact L36 _ b 0 (by omega) (by rw [hb]; simp [spAl]) (Nat.lt_succ_self _) H locs ls hG hS (lv_sub hl [1, 2, 0] rfl)
      refine lv_aload_n X.1 X.2.1 dX1_alike_17 rfl (lv_at hl 0 rfl) ?_
      refine mg_items X hK hG (S.1 40) rfl dX1_alike_18 ?_
      refine lv_aload_n X.1 X.2.1 dX1_alike_21 rfl (lv_at hl 0 rfl) ?_
      refine mg_keptItems X hK hG (S.1 79) rfl dX1_alike_22 ?_
      refine i_icmp_ne X 32 dX1_alike_25 (by decide) (by first | omega | (split <;> omega)) (by first | omega | (split <;> omega)) (fun c25 => ?_) (fun c25 => ?_)
      · refine lv_iconst (v := iI (0)) X.1 X.2.1 dX1_alike_32 rfl ?_
        refine lv_istore_n (lv' := [(1, .int (iI (0))), (0, .ref o)]) X.1 X.2.1 dX1_alike_33 rfl hl (by decide) rfl (fun ls hl => ?_)
        exact K34 0 (by first | exact bI_t (by simpa using c25) | exact bI_f (by simpa using c25)) H locs ls hG hS (lv_sub hl [1, 0] rfl)
      · refine lv_iconst (v := iI (1)) X.1 X.2.1 dX1_alike_28 rfl ?_
        refine lv_goto (tgt := 33) X.1 X.2.1 dX1_alike_29 (by decide) ?_
        refine lv_istore_n (lv' := [(1, .int (iI (1))), (0, .ref o)]) X.1 X.2.1 dX1_alike_33 rfl hl (by decide) rfl (fun ls hl => ?_)
        exact K34 1 (by first | exact bI_t (by simpa using c25) | exact bI_f (by simpa using c25)) H locs ls hG hS (lv_sub hl [1, 0] rfl)
    · refine lv_bipush (v := iI (-3)) X.1 X.2.1 dX1_alike_14 (by decide) ?_
      refine ret _ _ _ _ _ _ ?_ (rfl) hG hS dX1_alike_16
      exact ⟨by rw [if_pos (by omega)], rfl⟩

set_option maxHeartbeats 4000000 in
theorem mm_count (l : Launch) (D : va_G) (ca : Nat → ClassId) (o lv : Nat) (S : MSt) (a : Int) (hlv : 5 ≤ lv) (ha : iR a) (hth : S.1 27 = 0 ∨ S.1 27 = 1) (hT : S.1 27 = 1 → MT S ∧ MP S) : mCi l yX1_count cX1_count 5 .int D ca o lv [.ref o, .int (iI (a))] S (fun r S' => r = (if a = 5 then S.1 1 else if a = 8 then S.1 53 else if 0 ≤ a ∧ a ≤ 7 then (if S.1 27 = 0 then 0 else if a = 0 then S.1 40 else if a = 1 then S.1 29 else if a = 2 then S.1 49 else if a = 6 then S.1 66 else if a = 3 then cntB (spCall S) (S.1 40).toNat else if a = 4 then cntB (spReady S) (S.1 40).toNat else cntB (fun k => decide (S.2 41 k = 1) && decide (spReads S k = -9)) (S.1 40).toNat) else -2) ∧ ∃ u v : Int → Int, S' = mP S [(54, u), (55, v)] []) := by
  refine mCi_of (by decide +kernel) rfl (Nat.le_of_ble_eq_true rfl) ?_
  intro p e s m args below meth c Q X hK ret H locs ls hG hS hl
  have hl : lv_has ls 5 [(0, .ref o), (1, .int (iI (a)))] := hl
  refine lv_iload_n X.1 X.2.1 dX1_count_0 rfl (lv_at hl 1 rfl) ?_
  refine lv_iconst (v := iI (5)) X.1 X.2.1 dX1_count_1 rfl ?_
  refine i_icmp_eq X 11 dX1_count_2 (by decide) (by first | omega | (split <;> omega)) (by first | omega | (split <;> omega)) (fun c2 => ?_) (fun c2 => ?_)
  · refine lv_iload_n X.1 X.2.1 dX1_count_11 rfl (lv_at hl 1 rfl) ?_
    refine lv_iconst (v := iI (5)) X.1 X.2.1 dX1_count_12 rfl ?_
    refine i_icmp_ne X 23 dX1_count_13 (by decide) (by first | omega | (split <;> omega)) (by first | omega | (split <;> omega)) (fun c13 => ?_) (fun c13 => ?_)
    · refine lv_aload_n X.1 X.2.1 dX1_count_23 rfl (lv_at hl 0 rfl) ?_
      refine mg_made X hK hG (S.1 53) rfl dX1_count_24 ?_
      refine ret _ _ _ _ _ _ ?_ (rfl) hG hS dX1_count_27
      refine ⟨?_, _, _, mP_self2 S⟩
      first | (rw [if_pos (by omega)]; done) | (rw [if_neg (by omega), if_pos (by omega)])
    · refine lv_aload_n X.1 X.2.1 dX1_count_16 rfl (lv_at hl 0 rfl) ?_
      refine mg_size X hK hG (S.1 1) rfl dX1_count_17 ?_
      refine lv_goto (tgt := 27) X.1 X.2.1 dX1_count_20 (by decide) ?_
      refine ret _ _ _ _ _ _ ?_ (rfl) hG hS dX1_count_27
      refine ⟨?_, _, _, mP_self2 S⟩
      first | (rw [if_pos (by omega)]; done) | (rw [if_neg (by omega), if_pos (by omega)])
  · refine lv_iload_n X.1 X.2.1 dX1_count_5 rfl (lv_at hl 1 rfl) ?_
    refine lv_bipush (v := iI (8)) X.1 X.2.1 dX1_count_6 (by decide) ?_
    refine i_icmp_ne X 28 dX1_count_8 (by decide) (by first | omega | (split <;> omega)) (by first | omega | (split <;> omega)) (fun c8 => ?_) (fun c8 => ?_)
    · refine lv_iload_n X.1 X.2.1 dX1_count_28 rfl (lv_at hl 1 rfl) ?_
      refine i_i2l X (by first | omega | (split <;> omega)) dX1_count_29 ?_
      refine lv_lconst (v := lI (0)) X.1 X.2.1 dX1_count_30 rfl ?_
      refine lv_ldc2 (v := lI (7)) X.1 X.2.1 X.2.2.2.1 (X.2.2.2.2 _ q1678) dX1_count_31 ?_
      refine m_callSp (rest := []) (n := 3) X hK hG hS (fun _ h => h) (mm_in l D ca o (lv - 1) S a 0 7 (by omega) (by omega) (by omega)) (lw_S q1536 q1537 q70 q1538) (by decide +kernel) rfl ⟨by show (lv - 1) + 1 ≤ lv; omega, by show 8 + (6 + 11) + 40 * (lv - 1) ≤ 40 * lv; omega⟩ ⟨Nat.le_refl _, Nat.le_refl _⟩ hl.1 rfl (Nat.le_of_ble_eq_true rfl) dX1_count_34 (fun H locs hG hS _ _ => ?_)
      refine i_if_ne X 43 dX1_count_37 (by decide) (bI_iR _) (fun c37 => ?_) (fun c37 => ?_)
      · have c37 := bI_ne0.mp c37
        refine lv_aload_n X.1 X.2.1 dX1_count_43 rfl (lv_at hl 0 rfl) ?_
        refine mg_isThere X hK hG (S.1 27) rfl dX1_count_44 ?_
        refine i_if_ne X 52 dX1_count_47 (by decide) (by first | omega | (split <;> omega)) (fun c47 => ?_) (fun c47 => ?_)
        · have c37 : 0 ≤ a ∧ a ≤ 7 := by simpa using c37
          obtain ⟨hT, hP⟩ := hT (by omega)
          have hnn := hT.n
          have hm := hP.1
          have hwd : ∀ i, 0 ≤ i → i < S.1 29 → lR (S.2 30 i) := fun j a b => by have := (hP.2 j a b).2.2.2.2.2.2.1; omega
          refine lv_iconst (v := iI (0)) X.1 X.2.1 dX1_count_52 rfl ?_
          refine lv_istore_n (lv' := [(2, .int (iI (0))), (0, .ref o), (1, .int (iI (a)))]) X.1 X.2.1 dX1_count_53 rfl hl (by decide) rfl (fun ls hl => ?_)
          refine lv_iconst (v := iI (0)) X.1 X.2.1 dX1_count_54 rfl ?_
          refine lv_istore_n (lv' := [(3, .int (iI (0))), (2, .int (iI (0))), (0, .ref o), (1, .int (iI (a)))]) X.1 X.2.1 dX1_count_55 rfl hl (by decide) rfl (fun ls hl => ?_)
          have hG : gOk D (mA o) (mH ca o (mP S [(54, S.2 54), (55, S.2 55)] [])) H := by rw [← mP_self2]; exact hG
          have L56 : ∀ (N : Nat) (x : Int) (k : Nat) (u v : Int → Int), ((k : Int) ≤ S.1 40) → (x = cntB (fun k => spCq S a k) k) → (S.1 40).toNat - k < N → ∀ (H : Heap) (locs : List Loc) (ls : Array Slot), gOk D (mA o) (mH ca o (mP S [(54, u), (55, v)] [])) H → va_S (mA o) s.heap H locs → lv_has ls 5 [(0, .ref o), (1, .int (iI (a))), (2, .int (iI (x))), (3, .int (iI ((k : Int))))] → W p l e (mR lv) s m args below meth c H locs 0 0 Q (F0 m 56 ls []) := by
            intro N
            induction N with
            | zero => intro x k u v hk hx hN; exact absurd hN (Nat.not_lt_zero _)
            | succ N ih =>
              intro x k u v hk hx hN H locs ls hG hS hl
              refine lv_iload_n X.1 X.2.1 dX1_count_56 rfl (lv_at hl 3 rfl) ?_
              refine lv_aload_n X.1 X.2.1 dX1_count_57 rfl (lv_at hl 0 rfl) ?_
              refine mg_items X hK hG (S.1 40) rfl dX1_count_58 ?_
              refine i_icmp_ge X 142 dX1_count_61 (by decide) (by first | omega | (split <;> omega)) (by first | omega | (split <;> omega)) (fun c61 => ?_) (fun c61 => ?_)
              · refine lv_iload_n X.1 X.2.1 dX1_count_142 rfl (lv_at hl 1 rfl) ?_
                refine i_if_ne X 153 dX1_count_143 (by decide) (by first | omega | (split <;> omega)) (fun c143 => ?_) (fun c143 => ?_)
                · refine lv_iload_n X.1 X.2.1 dX1_count_153 rfl (lv_at hl 1 rfl) ?_
                  refine lv_iconst (v := iI (1)) X.1 X.2.1 dX1_count_154 rfl ?_
                  refine i_icmp_ne X 165 dX1_count_155 (by decide) (by first | omega | (split <;> omega)) (by first | omega | (split <;> omega)) (fun c155 => ?_) (fun c155 => ?_)
                  · refine lv_iload_n X.1 X.2.1 dX1_count_165 rfl (lv_at hl 1 rfl) ?_
                    refine lv_iconst (v := iI (2)) X.1 X.2.1 dX1_count_166 rfl ?_
                    refine i_icmp_ne X 177 dX1_count_167 (by decide) (by first | omega | (split <;> omega)) (by first | omega | (split <;> omega)) (fun c167 => ?_) (fun c167 => ?_)
                    · refine lv_iload_n X.1 X.2.1 dX1_count_177 rfl (lv_at hl 1 rfl) ?_
                      refine lv_bipush (v := iI (6)) X.1 X.2.1 dX1_count_178 (by decide) ?_
                      refine i_icmp_ne X 190 dX1_count_180 (by decide) (by first | omega | (split <;> omega)) (by first | omega | (split <;> omega)) (fun c180 => ?_) (fun c180 => ?_)
                      · refine lv_iload_n X.1 X.2.1 dX1_count_190 rfl (lv_at hl 2 rfl) ?_
                        refine ret _ _ _ _ _ _ ?_ (rfl) hG hS dX1_count_191
                        refine ⟨?_, _, _, rfl⟩
                        rw [if_neg (by omega), if_neg (by omega), if_pos c37, if_neg c47]
                        first
                        | (rw [if_pos (by omega)]; done)
                        | (rw [if_neg (by omega), if_pos (by omega)]; done)
                        | (rw [if_neg (by omega), if_neg (by omega), if_pos (by omega)]; done)
                        | (rw [if_neg (by omega), if_neg (by omega), if_neg (by omega), if_pos (by omega)]; done)
                        | skip
                        all_goals (try (rw [if_neg (by omega), if_neg (by omega), if_neg (by omega), if_neg (by omega), hx, show k = (S.1 40).toNat by omega]; by_cases h3 : a = 3; (rw [if_pos h3]; congr 1; funext k; unfold spCq; rw [if_pos h3]); by_cases h4 : a = 4; (rw [if_neg h3, if_pos h4]; congr 1; funext k; unfold spCq; rw [if_neg h3, if_pos h4]); (rw [if_neg h3, if_neg h4]; congr 1; funext k; unfold spCq; rw [if_neg h3, if_neg h4, if_pos (by omega)])))
                      · refine lv_aload_n X.1 X.2.1 dX1_count_183 rfl (lv_at hl 0 rfl) ?_
                        refine mg_undos X hK hG (S.1 66) rfl dX1_count_184 ?_
                        refine lv_goto (tgt := 191) X.1 X.2.1 dX1_count_187 (by decide) ?_
                        refine ret _ _ _ _ _ _ ?_ (rfl) hG hS dX1_count_191
                        refine ⟨?_, _, _, rfl⟩
                        rw [if_neg (by omega), if_neg (by omega), if_pos c37, if_neg c47]
                        first
                        | (rw [if_pos (by omega)]; done)
                        | (rw [if_neg (by omega), if_pos (by omega)]; done)
                        | (rw [if_neg (by omega), if_neg (by omega), if_pos (by omega)]; done)
                        | (rw [if_neg (by omega), if_neg (by omega), if_neg (by omega), if_pos (by omega)]; done)
                        | skip
                        all_goals (try (rw [if_neg (by omega), if_neg (by omega), if_neg (by omega), if_neg (by omega), hx, show k = (S.1 40).toNat by omega]; by_cases h3 : a = 3; (rw [if_pos h3]; congr 1; funext k; unfold spCq; rw [if_pos h3]); by_cases h4 : a = 4; (rw [if_neg h3, if_pos h4]; congr 1; funext k; unfold spCq; rw [if_neg h3, if_pos h4]); (rw [if_neg h3, if_neg h4]; congr 1; funext k; unfold spCq; rw [if_neg h3, if_neg h4, if_pos (by omega)])))
                    · refine lv_aload_n X.1 X.2.1 dX1_count_170 rfl (lv_at hl 0 rfl) ?_
                      refine mg_steps X hK hG (S.1 49) rfl dX1_count_171 ?_
                      refine lv_goto (tgt := 191) X.1 X.2.1 dX1_count_174 (by decide) ?_
                      refine ret _ _ _ _ _ _ ?_ (rfl) hG hS dX1_count_191
                      refine ⟨?_, _, _, rfl⟩
                      rw [if_neg (by omega), if_neg (by omega), if_pos c37, if_neg c47]
                      first
                      | (rw [if_pos (by omega)]; done)
                      | (rw [if_neg (by omega), if_pos (by omega)]; done)
                      | (rw [if_neg (by omega), if_neg (by omega), if_pos (by omega)]; done)
                      | (rw [if_neg (by omega), if_neg (by omega), if_neg (by omega), if_pos (by omega)]; done)
                      | skip
                      all_goals (try (rw [if_neg (by omega), if_neg (by omega), if_neg (by omega), if_neg (by omega), hx, show k = (S.1 40).toNat by omega]; by_cases h3 : a = 3; (rw [if_pos h3]; congr 1; funext k; unfold spCq; rw [if_pos h3]); by_cases h4 : a = 4; (rw [if_neg h3, if_pos h4]; congr 1; funext k; unfold spCq; rw [if_neg h3, if_pos h4]); (rw [if_neg h3, if_neg h4]; congr 1; funext k; unfold spCq; rw [if_neg h3, if_neg h4, if_pos (by omega)])))
                  · refine lv_aload_n X.1 X.2.1 dX1_count_158 rfl (lv_at hl 0 rfl) ?_
                    refine mg_ruleMany X hK hG (S.1 29) rfl dX1_count_159 ?_
                    refine lv_goto (tgt := 191) X.1 X.2.1 dX1_count_162 (by decide) ?_
                    refine ret _ _ _ _ _ _ ?_ (rfl) hG hS dX1_count_191
                    refine ⟨?_, _, _, rfl⟩
                    rw [if_neg (by omega), if_neg (by omega), if_pos c37, if_neg c47]
                    first
                    | (rw [if_pos (by omega)]; done)
                    | (rw [if_neg (by omega), if_pos (by omega)]; done)
                    | (rw [if_neg (by omega), if_neg (by omega), if_pos (by omega)]; done)
                    | (rw [if_neg (by omega), if_neg (by omega), if_neg (by omega), if_pos (by omega)]; done)
                    | skip
                    all_goals (try (rw [if_neg (by omega), if_neg (by omega), if_neg (by omega), if_neg (by omega), hx, show k = (S.1 40).toNat by omega]; by_cases h3 : a = 3; (rw [if_pos h3]; congr 1; funext k; unfold spCq; rw [if_pos h3]); by_cases h4 : a = 4; (rw [if_neg h3, if_pos h4]; congr 1; funext k; unfold spCq; rw [if_neg h3, if_pos h4]); (rw [if_neg h3, if_neg h4]; congr 1; funext k; unfold spCq; rw [if_neg h3, if_neg h4, if_pos (by omega)])))
                · refine lv_aload_n X.1 X.2.1 dX1_count_146 rfl (lv_at hl 0 rfl) ?_
                  refine mg_items X hK hG (S.1 40) rfl dX1_count_147 ?_
                  refine lv_goto (tgt := 191) X.1 X.2.1 dX1_count_150 (by decide) ?_
                  refine ret _ _ _ _ _ _ ?_ (rfl) hG hS dX1_count_191
                  refine ⟨?_, _, _, rfl⟩
                  rw [if_neg (by omega), if_neg (by omega), if_pos c37, if_neg c47]
                  first
                  | (rw [if_pos (by omega)]; done)
                  | (rw [if_neg (by omega), if_pos (by omega)]; done)
                  | (rw [if_neg (by omega), if_neg (by omega), if_pos (by omega)]; done)
                  | (rw [if_neg (by omega), if_neg (by omega), if_neg (by omega), if_pos (by omega)]; done)
                  | skip
                  all_goals (try (rw [if_neg (by omega), if_neg (by omega), if_neg (by omega), if_neg (by omega), hx, show k = (S.1 40).toNat by omega]; by_cases h3 : a = 3; (rw [if_pos h3]; congr 1; funext k; unfold spCq; rw [if_pos h3]); by_cases h4 : a = 4; (rw [if_neg h3, if_pos h4]; congr 1; funext k; unfold spCq; rw [if_neg h3, if_pos h4]); (rw [if_neg h3, if_neg h4]; congr 1; funext k; unfold spCq; rw [if_neg h3, if_neg h4, if_pos (by omega)])))
              · have K121 : ∀ (b : Int) (u v : Int → Int), (b = bI (spCq S a k)) → ∀ (H : Heap) (locs : List Loc) (ls : Array Slot), gOk D (mA o) (mH ca o (mP S [(54, u), (55, v)] [])) H → va_S (mA o) s.heap H locs → lv_has ls 5 [(0, .ref o), (1, .int (iI (a))), (2, .int (iI (x))), (3, .int (iI ((k : Int))))] → W p l e (mR lv) s m args below meth c H locs 0 0 Q (F0 m 121 ls [.int (iI (b))]) := by
                  intro b u v hb H locs ls hG hS hl
                  have hb01 := bI_01 (spCq S a k)
                  rw [← hb] at hb01
                  refine lv_istore (lv' := [(4, .int (iI (b))), (0, .ref o), (1, .int (iI (a))), (2, .int (iI (x))), (3, .int (iI ((k : Int))))]) X.1 X.2.1 dX1_count_121 hl (by decide) rfl (fun ls hl => ?_)
                  have K134 : ∀ (b2 : Int), (b2 = b) → ∀ (H : Heap) (locs : List Loc) (ls : Array Slot), gOk D (mA o) (mH ca o (mP S [(54, u), (55, v)] [])) H → va_S (mA o) s.heap H locs → lv_has ls 5 [(0, .ref o), (1, .int (iI (a))), (3, .int (iI ((k : Int))))] → W p l e (mR lv) s m args below meth c H locs 0 0 Q (F0 m 134 ls [.int (iI (b2)), .int (iI (x))]) := by
                    intro b2 hb2 H locs ls hG hS hl
                    refine i_add X dX1_count_134 ?_
                    refine lv_istore_n (lv' := [(2, .int (iI (x + b2))), (0, .ref o), (1, .int (iI (a))), (3, .int (iI ((k : Int))))]) X.1 X.2.1 dX1_count_135 rfl hl (by decide) rfl (fun ls hl => ?_)
                    refine i_inc (lv' := [(3, .int (iI ((k : Int) + 1))), (2, .int (iI (x + b2))), (0, .ref o), (1, .int (iI (a)))]) X dX1_count_136 hl (k := 3) rfl (by decide) rfl (fun ls hl => ?_)
                    refine lv_goto (tgt := 56) X.1 X.2.1 dX1_count_139 (by decide) ?_
                    exact ih (x + b2) (k + 1) u v (by omega) (by rw [hx, hb2, hb]; rfl) (by omega) H locs ls hG hS (lv_sub hl [2, 3, 1, 0] rfl)
                  refine lv_iload_n X.1 X.2.1 dX1_count_123 rfl (lv_at hl 3 rfl) ?_
                  refine lv_iload X.1 X.2.1 dX1_count_124 (lv_at hl 0 rfl) ?_
                  refine i_if_eq X 133 dX1_count_126 (by decide) (by first | omega | (split <;> omega)) (fun c126 => ?_) (fun c126 => ?_)
                  · refine lv_iconst (v := iI (0)) X.1 X.2.1 dX1_count_133 rfl ?_
                    exact K134 0 (by omega) H locs ls hG hS (lv_sub hl [1, 2, 4] rfl)
                  · refine lv_iconst (v := iI (1)) X.1 X.2.1 dX1_count_129 rfl ?_
                    refine lv_goto (tgt := 134) X.1 X.2.1 dX1_count_130 (by decide) ?_
                    exact K134 1 (by omega) H locs ls hG hS (lv_sub hl [1, 2, 4] rfl)
                refine lv_iload_n X.1 X.2.1 dX1_count_64 rfl (lv_at hl 1 rfl) ?_
                refine lv_iconst (v := iI (3)) X.1 X.2.1 dX1_count_65 rfl ?_
                refine i_icmp_ne X 77 dX1_count_66 (by decide) (by first | omega | (split <;> omega)) (by first | omega | (split <;> omega)) (fun c66 => ?_) (fun c66 => ?_)
                · refine lv_iload_n X.1 X.2.1 dX1_count_77 rfl (lv_at hl 1 rfl) ?_
                  refine lv_iconst (v := iI (4)) X.1 X.2.1 dX1_count_78 rfl ?_
                  refine i_icmp_ne X 90 dX1_count_79 (by decide) (by first | omega | (split <;> omega)) (by first | omega | (split <;> omega)) (fun c79 => ?_) (fun c79 => ?_)
                  · refine lv_iload_n X.1 X.2.1 dX1_count_90 rfl (lv_at hl 1 rfl) ?_
                    refine lv_bipush (v := iI (7)) X.1 X.2.1 dX1_count_91 (by decide) ?_
                    refine i_icmp_ne X 120 dX1_count_93 (by decide) (by first | omega | (split <;> omega)) (by first | omega | (split <;> omega)) (fun c93 => ?_) (fun c93 => ?_)
                    · refine lv_iconst (v := iI (0)) X.1 X.2.1 dX1_count_120 rfl ?_
                      exact K121 0 u v (by unfold spCq; first | (rw [if_pos c66]; done) | (rw [if_neg c66, if_pos c79]; done) | (rw [if_neg c66, if_neg c79, if_pos c93]; first | (apply bI_t; simp; omega) | (apply bI_f; simp; omega)) | (rw [if_neg c66, if_neg c79, if_neg c93]; rfl)) H locs ls hG hS (lv_sub hl [0, 1, 2, 3] rfl)
                    · have hwk := hT.1.w (i := (k : Int)) (by omega) (by omega)
                      refine lv_aload_n X.1 X.2.1 dX1_count_96 rfl (lv_at hl 0 rfl) ?_
                      refine mg_what X hK hG dX1_count_97 ?_
                      refine lv_iload_n X.1 X.2.1 dX1_count_100 rfl (lv_at hl 3 rfl) ?_
                      refine ml_what X hK hG (S.2 41) rfl (by first | omega | (split <;> omega)) dX1_count_101 ?_
                      refine lv_iconst (v := iI (1)) X.1 X.2.1 dX1_count_102 rfl ?_
                      refine i_icmp_ne X 120 dX1_count_103 (by decide) (by first | omega | (split <;> omega)) (by first | omega | (split <;> omega)) (fun c103 => ?_) (fun c103 => ?_)
                      · refine lv_iconst (v := iI (0)) X.1 X.2.1 dX1_count_120 rfl ?_
                        exact K121 0 u v (by unfold spCq; first | (rw [if_pos c66]; done) | (rw [if_neg c66, if_pos c79]; done) | (rw [if_neg c66, if_neg c79, if_pos c93]; first | (apply bI_t; simp; omega) | (apply bI_f; simp; omega)) | (rw [if_neg c66, if_neg c79, if_neg c93]; rfl)) H locs ls hG hS (lv_sub hl [0, 1, 2, 3] rfl)
                      · refine lv_aload_n X.1 X.2.1 dX1_count_106 rfl (lv_at hl 0 rfl) ?_
                        refine lv_iload_n X.1 X.2.1 dX1_count_107 rfl (lv_at hl 3 rfl) ?_
                        refine m_callVp (rest := []) (n := 1) X hK hG hS (fun _ h => h) (mm_readsAs l D ca o (lv - 1) (mP S [(54, u), (55, v)] []) ((k : Int)) (by omega) hT (show 0 ≤ ((k : Int)) by omega) (show ((k : Int)) < S.1 40 by omega)) (lw_V q1539 q1541 qs43 q70 q1542) (by decide +kernel) rfl ⟨by show (lv - 1) + 1 ≤ lv; omega, by show 8 + (5 + 11) + 40 * (lv - 1) ≤ 40 * lv; omega⟩ ⟨Nat.le_refl _, Nat.le_refl _⟩ hl.1 rfl (Nat.le_of_ble_eq_true rfl) dX1_count_108 (fun H locs hG hS _ _ => ?_)
                        rw [show spReads (mP S [(54, u), (55, v)] []) k = spReads S k by rw [← spReads_tv, tv_mP, spReads_tv]]
                        have hrk := spReads_in hT (i := (k : Int)) (by omega) (by omega)
                        refine lv_bipush (v := iI (-9)) X.1 X.2.1 dX1_count_111 (by decide) ?_
                        refine i_icmp_ne X 120 dX1_count_113 (by decide) (by first | omega | (split <;> omega)) (by first | omega | (split <;> omega)) (fun c113 => ?_) (fun c113 => ?_)
                        · refine lv_iconst (v := iI (0)) X.1 X.2.1 dX1_count_120 rfl ?_
                          exact K121 0 u v (by unfold spCq; first | (rw [if_pos c66]; done) | (rw [if_neg c66, if_pos c79]; done) | (rw [if_neg c66, if_neg c79, if_pos c93]; first | (apply bI_t; simp; omega) | (apply bI_f; simp; omega)) | (rw [if_neg c66, if_neg c79, if_neg c93]; rfl)) H locs ls hG hS (lv_sub hl [0, 1, 2, 3] rfl)
                        · refine lv_iconst (v := iI (1)) X.1 X.2.1 dX1_count_116 rfl ?_
                          refine lv_goto (tgt := 121) X.1 X.2.1 dX1_count_117 (by decide) ?_
                          exact K121 1 u v (by unfold spCq; first | (rw [if_pos c66]; done) | (rw [if_neg c66, if_pos c79]; done) | (rw [if_neg c66, if_neg c79, if_pos c93]; first | (apply bI_t; simp; omega) | (apply bI_f; simp; omega)) | (rw [if_neg c66, if_neg c79, if_neg c93]; rfl)) H locs ls hG hS (lv_sub hl [0, 1, 2, 3] rfl)
                  · refine lv_aload_n X.1 X.2.1 dX1_count_82 rfl (lv_at hl 0 rfl) ?_
                    refine lv_iload_n X.1 X.2.1 dX1_count_83 rfl (lv_at hl 3 rfl) ?_
                    refine m_callVi (rest := []) (n := 1) X hK hG hS (fun _ h => h) (mm_isReady l D ca o (lv - 1) (mP S [(54, u), (55, v)] []) ((k : Int)) (by omega) hT hP (show 0 ≤ ((k : Int)) by omega) (show ((k : Int)) < S.1 40 by omega)) (lw_V q1564 q1566 qs47 q70 q1567) (by decide +kernel) rfl ⟨by show (lv - 1) + 1 ≤ lv; omega, by show 8 + (3 + 11) + 40 * (lv - 1) ≤ 40 * lv; omega⟩ ⟨Nat.le_refl _, Nat.le_refl _⟩ hl.1 rfl (Nat.le_of_ble_eq_true rfl) dX1_count_84 (fun z3 S3 H locs hp3 hG hS _ _ => ?_)
                    obtain ⟨hz3, u3, v3, rfl⟩ := hp3
                    rw [mP_mP (l' := [(54, u3), (55, v3)]) (sc' := []) rfl rfl] at hG
                    rw [show spReady (mP S [(54, u), (55, v)] []) ((k : Int)) = spReady S ((k : Int)) by rw [← spReady_tv, tv_mP, spReady_tv]] at hz3
                    rw [hz3]
                    refine lv_goto (tgt := 121) X.1 X.2.1 dX1_count_87 (by decide) ?_
                    exact K121 (bI (spReady S k)) u3 v3 (by unfold spCq; first | (rw [if_pos c66]; done) | (rw [if_neg c66, if_pos c79]; done) | (rw [if_neg c66, if_neg c79, if_pos c93]; first | (apply bI_t; simp; omega) | (apply bI_f; simp; omega)) | (rw [if_neg c66, if_neg c79, if_neg c93]; rfl)) H locs ls hG hS (lv_sub hl [0, 1, 2, 3] rfl)
                · refine lv_aload_n X.1 X.2.1 dX1_count_69 rfl (lv_at hl 0 rfl) ?_
                  refine lv_iload_n X.1 X.2.1 dX1_count_70 rfl (lv_at hl 3 rfl) ?_
                  refine m_callVp (rest := []) (n := 1) X hK hG hS (fun _ h => h) (mm_isCall l D ca o (lv - 1) (mP S [(54, u), (55, v)] []) ((k : Int)) (by omega) hT (show 0 ≤ ((k : Int)) by omega) (show ((k : Int)) < S.1 40 by omega) hm hwd) (lw_V q1568 q1570 qs48 q70 q1571) (by decide +kernel) rfl ⟨by show (lv - 1) + 1 ≤ lv; omega, by show 8 + (2 + 11) + 40 * (lv - 1) ≤ 40 * lv; omega⟩ ⟨Nat.le_refl _, Nat.le_refl _⟩ hl.1 rfl (Nat.le_of_ble_eq_true rfl) dX1_count_71 (fun H locs hG hS _ _ => ?_)
                  rw [show spCall (mP S [(54, u), (55, v)] []) k = spCall S k by rw [← spCall_tv, tv_mP, spCall_tv]]
                  refine lv_goto (tgt := 121) X.1 X.2.1 dX1_count_74 (by decide) ?_
                  exact K121 (bI (spCall S k)) u v (by unfold spCq; first | (rw [if_pos c66]; done) | (rw [if_neg c66, if_pos c79]; done) | (rw [if_neg c66, if_neg c79, if_pos c93]; first | (apply bI_t; simp; omega) | (apply bI_f; simp; omega)) | (rw [if_neg c66, if_neg c79, if_neg c93]; rfl)) H locs ls hG hS (lv_sub hl [0, 1, 2, 3] rfl)
          exact L56 _ 0 0 (S.2 54) (S.2 55) (by omega) rfl (Nat.lt_succ_self _) H locs ls hG hS (lv_sub hl [2, 3, 1, 0] rfl)
        · refine lv_iconst (v := iI (0)) X.1 X.2.1 dX1_count_50 rfl ?_
          refine ret _ _ _ _ _ _ ?_ (rfl) hG hS dX1_count_51
          refine ⟨?_, _, _, mP_self2 S⟩
          have c37 : 0 ≤ a ∧ a ≤ 7 := by simpa using c37
          rw [if_neg (by omega), if_neg (by omega), if_pos c37, if_pos c47]
      · have c37 := bI_eq0.mp c37
        refine lv_bipush (v := iI (-2)) X.1 X.2.1 dX1_count_40 (by decide) ?_
        refine ret _ _ _ _ _ _ ?_ (rfl) hG hS dX1_count_42
        refine ⟨?_, _, _, mP_self2 S⟩
        rw [if_neg (by omega), if_neg (by omega), if_neg (by intro hh; simp [hh.1, hh.2] at c37)]
    · refine lv_iload_n X.1 X.2.1 dX1_count_11 rfl (lv_at hl 1 rfl) ?_
      refine lv_iconst (v := iI (5)) X.1 X.2.1 dX1_count_12 rfl ?_
      refine i_icmp_ne X 23 dX1_count_13 (by decide) (by first | omega | (split <;> omega)) (by first | omega | (split <;> omega)) (fun c13 => ?_) (fun c13 => ?_)
      · refine lv_aload_n X.1 X.2.1 dX1_count_23 rfl (lv_at hl 0 rfl) ?_
        refine mg_made X hK hG (S.1 53) rfl dX1_count_24 ?_
        refine ret _ _ _ _ _ _ ?_ (rfl) hG hS dX1_count_27
        refine ⟨?_, _, _, mP_self2 S⟩
        first | (rw [if_pos (by omega)]; done) | (rw [if_neg (by omega), if_pos (by omega)])
      · refine lv_aload_n X.1 X.2.1 dX1_count_16 rfl (lv_at hl 0 rfl) ?_
        refine mg_size X hK hG (S.1 1) rfl dX1_count_17 ?_
        refine lv_goto (tgt := 27) X.1 X.2.1 dX1_count_20 (by decide) ?_
        refine ret _ _ _ _ _ _ ?_ (rfl) hG hS dX1_count_27
        refine ⟨?_, _, _, mP_self2 S⟩
        first | (rw [if_pos (by omega)]; done) | (rw [if_neg (by omega), if_pos (by omega)])

