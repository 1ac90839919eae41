/-! ===== the Model: steps ===== -/
set_option maxRecDepth 100000
set_option maxHeartbeats 4000000 in
theorem mm_step (l : Launch) (D : va_G) (ca : Nat → ClassId) (o lv : Nat) (S : MSt) (i : Int) (hlv : 5 ≤ lv) (hT : MT S) (hP : MP S) (h0 : 0 ≤ i) (hn : i < S.1 40) (hw : 3 ≤ S.2 41 i) (hrr : spRule S i 13 0 ≠ -9) (hst : 0 ≤ S.1 49 ∧ S.1 49 ≤ 300) (hmd : 0 ≤ S.1 53 ∧ S.1 53 ≤ 30000) (hgo : 0 ≤ S.1 67 ∧ S.1 67 + S.1 40 ≤ 500 + S.1 53) (hOK : StepOk S i) : mCi l yX1_step cX1_step 3 .int D ca o lv [.ref o, .int (iI (i))] S (fun r S' => (r = -4 ∧ ∃ fr F, bM S (spRule S i 13 0) i (tE S (spRule S i 13 0)) ((tE S (spRule S i 13 0) - S.2 33 (spRule S i 13 0)).toNat + 1) (S.2 33 (spRule S i 13 0)) [] 0 (fm S) = (fr, F) ∧ spFull S i fr ∧ Pass S S') ∨ (∃ fr F, bM S (spRule S i 13 0) i (tE S (spRule S i 13 0)) ((tE S (spRule S i 13 0) - S.2 33 (spRule S i 13 0)).toNat + 1) (S.2 33 (spRule S i 13 0)) [] 0 (fm S) = (fr, F) ∧ ¬ spFull S i fr ∧ r = spRule S i 13 0 ∧ StepR S i (spRule S i 13 0) fr F S')) := by
  refine mCi_of (by decide +kernel) rfl (Nat.le_of_ble_eq_true rfl) ?_
  intro p e s m args below meth c Q X hK ret H locs ls hG hS hl
  have hl : lv_has ls 3 [(0, .ref o), (1, .int (iI (i)))] := hl
  have hnn := hT.n
  have hri := hT.1.r h0 hn
  have hna := hT.1.named h0 hn hw
  have hln := (hT.1.lst h0 hn (by omega)).2 0 (by omega)
  have hl0 : chh (S.2 46) i 0 = i + 1 := rfl
  have hOK := hOK hrr
  have hrin := spRule_in S i 13 0 (by omega)
  refine lv_aload_n X.1 X.2.1 dX1_step_0 rfl (lv_at hl 0 rfl) ?_
  refine lv_iload_n X.1 X.2.1 dX1_step_1 rfl (lv_at hl 1 rfl) ?_
  refine m_callVi (rest := []) (n := 1) X hK hG hS (fun _ h => h) (mm_ruleOf l D ca o (lv - 1) S i (by omega) hT hP h0 hn hw) (lw_V q1576 q1578 qs50 q70 q1579) (by decide +kernel) rfl ⟨by show (lv - 1) + 1 ≤ lv; omega, by show 8 + (3 + 11) + 40 * (lv - 1) ≤ 40 * lv; omega⟩ ⟨Nat.le_refl _, Nat.le_refl _⟩ hl.1 rfl (Nat.le_of_ble_eq_true rfl) dX1_step_2 (fun z1 S1 H locs hp1 hG hS _ _ => ?_)
  obtain ⟨hz1, u1, v1, rfl, hfit⟩ := hp1
  rw [hz1]
  refine i_top (fun ru e_ru => ?_)
  refine lv_istore_n (lv' := [(2, .int (iI (ru))), (0, .ref o), (1, .int (iI (i)))]) X.1 X.2.1 dX1_step_5 rfl hl (by decide) rfl (fun ls hl => ?_)
  rw [← e_ru] at hOK hfit hrin hrr
  have hfit := hfit hrr
  refine lv_aload_n X.1 X.2.1 dX1_step_6 rfl (lv_at hl 1 rfl) ?_
  refine lv_iload_n X.1 X.2.1 dX1_step_7 rfl (lv_at hl 0 rfl) ?_
  refine lv_iload_n X.1 X.2.1 dX1_step_8 rfl (lv_at hl 2 rfl) ?_
  refine m_callVv (rest := []) (n := 2) X hK hG hS (fun _ h => h) (mm_build l D ca o (lv - 1) (mP S [(54, u1), (55, v1)] []) ru i (by omega) hT hP (show 0 ≤ ru ∧ ru < S.1 29 by omega) h0 hn hw (show 0 ≤ S.1 49 ∧ S.1 49 ≤ 300 by omega) (fun q a b => by rw [spFrom_m, spTo_m]; exact hfit q a b) (by rw [bOk_m, fm_m]; exact hOK.1)) (lw_V q1608 q1610 qs56 q70 q1611) (by decide +kernel) rfl ⟨by show (lv - 1) + 1 ≤ lv; omega, by show 8 + (11 + 11) + 40 * (lv - 1) ≤ 40 * lv; omega⟩ ⟨Nat.le_refl _, Nat.le_refl _⟩ hl.1 rfl (Nat.le_of_ble_eq_true rfl) dX1_step_9 (fun S2 H locs hp2 hG hS _ _ => ?_)
  obtain ⟨fr, F, oA, oE, rfl, hbM⟩ := hp2
  rw [mP_mP (l' := [(54, u1), (55, v1), (65, oE), (64, oA), (63, F 63), (62, F 62), (61, F 61), (60, F 60), (59, F 59), (58, F 58), (57, F 57)]) (sc' := [(56, fr)]) rfl rfl] at hG
  rw [bM_m, fm_m] at hbM
  have hbM : bM S ru i (tE S ru) ((tE S ru - S.2 33 ru).toNat + 1) (S.2 33 ru) [] 0 (fm S) = (fr, F) := hbM
  obtain ⟨hfr1, hTW2⟩ := hOK.2 fr F hbM
  refine lv_aload_n X.1 X.2.1 dX1_step_12 rfl (lv_at hl 1 rfl) ?_
  refine mg_fresh X hK hG fr rfl dX1_step_13 ?_
  refine lv_sipush (v := iI (500)) X.1 X.2.1 dX1_step_16 (by decide) ?_
  refine i_icmp_gt X 69 dX1_step_19 (by decide) (by first | omega | (split <;> omega)) (by first | omega | (split <;> omega)) (fun c19 => ?_) (fun c19 => ?_)
  · refine lv_bipush (v := iI (-4)) X.1 X.2.1 dX1_step_69 (by decide) ?_
    refine ret _ _ _ _ _ _ ?_ (rfl) hG hS dX1_step_71
    refine Or.inl ⟨rfl, fr, F, by rw [← e_ru]; exact hbM, by unfold spFull; omega, ?_, ?_⟩
    · intro k hk
      simp only [mP, lk]
      rw [if_neg (show ¬ k = 56 by omega)]
      rfl
    · intro k hk
      simp only [mP, lk]
      rw [if_neg (show ¬ k = 54 by omega), if_neg (show ¬ k = 55 by omega), if_neg (show ¬ k = 65 by omega), if_neg (show ¬ k = 64 by omega), if_neg (show ¬ k = 63 by omega), if_neg (show ¬ k = 62 by omega), if_neg (show ¬ k = 61 by omega), if_neg (show ¬ k = 60 by omega), if_neg (show ¬ k = 59 by omega), if_neg (show ¬ k = 58 by omega), if_neg (show ¬ k = 57 by omega)]
      rfl
  · refine lv_aload_n X.1 X.2.1 dX1_step_22 rfl (lv_at hl 1 rfl) ?_
    refine mg_items X hK hG (S.1 40) rfl dX1_step_23 ?_
    refine lv_aload_n X.1 X.2.1 dX1_step_26 rfl (lv_at hl 1 rfl) ?_
    refine mg_room X hK hG dX1_step_27 ?_
    refine lv_iload_n X.1 X.2.1 dX1_step_30 rfl (lv_at hl 2 rfl) ?_
    refine ml_room X hK hG (S.2 46) rfl (by first | omega | (split <;> omega)) dX1_step_31 ?_
    refine i_sub X dX1_step_32 ?_
    refine lv_aload_n X.1 X.2.1 dX1_step_33 rfl (lv_at hl 1 rfl) ?_
    refine mg_fresh X hK hG fr rfl dX1_step_34 ?_
    refine i_add X dX1_step_37 ?_
    refine lv_sipush (v := iI (500)) X.1 X.2.1 dX1_step_38 (by decide) ?_
    refine i_icmp_gt X 69 dX1_step_41 (by decide) (by first | omega | (split <;> omega)) (by first | omega | (split <;> omega)) (fun c41 => ?_) (fun c41 => ?_)
    · refine lv_bipush (v := iI (-4)) X.1 X.2.1 dX1_step_69 (by decide) ?_
      refine ret _ _ _ _ _ _ ?_ (rfl) hG hS dX1_step_71
      refine Or.inl ⟨rfl, fr, F, by rw [← e_ru]; exact hbM, by unfold spFull; omega, ?_, ?_⟩
      · intro k hk
        simp only [mP, lk]
        rw [if_neg (show ¬ k = 56 by omega)]
        rfl
      · intro k hk
        simp only [mP, lk]
        rw [if_neg (show ¬ k = 54 by omega), if_neg (show ¬ k = 55 by omega), if_neg (show ¬ k = 65 by omega), if_neg (show ¬ k = 64 by omega), if_neg (show ¬ k = 63 by omega), if_neg (show ¬ k = 62 by omega), if_neg (show ¬ k = 61 by omega), if_neg (show ¬ k = 60 by omega), if_neg (show ¬ k = 59 by omega), if_neg (show ¬ k = 58 by omega), if_neg (show ¬ k = 57 by omega)]
        rfl
    · refine lv_aload_n X.1 X.2.1 dX1_step_44 rfl (lv_at hl 1 rfl) ?_
      refine mg_steps X hK hG (S.1 49) rfl dX1_step_45 ?_
      refine lv_sipush (v := iI (300)) X.1 X.2.1 dX1_step_48 (by decide) ?_
      refine i_icmp_eq X 69 dX1_step_51 (by decide) (by first | omega | (split <;> omega)) (by first | omega | (split <;> omega)) (fun c51 => ?_) (fun c51 => ?_)
      · refine lv_bipush (v := iI (-4)) X.1 X.2.1 dX1_step_69 (by decide) ?_
        refine ret _ _ _ _ _ _ ?_ (rfl) hG hS dX1_step_71
        refine Or.inl ⟨rfl, fr, F, by rw [← e_ru]; exact hbM, by unfold spFull; omega, ?_, ?_⟩
        · intro k hk
          simp only [mP, lk]
          rw [if_neg (show ¬ k = 56 by omega)]
          rfl
        · intro k hk
          simp only [mP, lk]
          rw [if_neg (show ¬ k = 54 by omega), if_neg (show ¬ k = 55 by omega), if_neg (show ¬ k = 65 by omega), if_neg (show ¬ k = 64 by omega), if_neg (show ¬ k = 63 by omega), if_neg (show ¬ k = 62 by omega), if_neg (show ¬ k = 61 by omega), if_neg (show ¬ k = 60 by omega), if_neg (show ¬ k = 59 by omega), if_neg (show ¬ k = 58 by omega), if_neg (show ¬ k = 57 by omega)]
          rfl
      · refine lv_aload_n X.1 X.2.1 dX1_step_54 rfl (lv_at hl 1 rfl) ?_
        refine mg_made X hK hG (S.1 53) rfl dX1_step_55 ?_
        refine lv_aload_n X.1 X.2.1 dX1_step_58 rfl (lv_at hl 1 rfl) ?_
        refine mg_fresh X hK hG fr rfl dX1_step_59 ?_
        refine i_add X dX1_step_62 ?_
        refine lv_sipush (v := iI (30000)) X.1 X.2.1 dX1_step_63 (by decide) ?_
        refine i_icmp_le X 72 dX1_step_66 (by decide) (by first | omega | (split <;> omega)) (by first | omega | (split <;> omega)) (fun c66 => ?_) (fun c66 => ?_)
        · refine lv_aload_n X.1 X.2.1 dX1_step_72 rfl (lv_at hl 1 rfl) ?_
          refine lv_iload_n X.1 X.2.1 dX1_step_73 rfl (lv_at hl 2 rfl) ?_
          refine m_callVv (rest := []) (n := 1) X hK hG hS (fun _ h => h) (mm_remember l D ca o (lv - 1) (mP S [(54, u1), (55, v1), (65, oE), (64, oA), (63, F 63), (62, F 62), (61, F 61), (60, F 60), (59, F 59), (58, F 58), (57, F 57)] [(56, fr)]) i (show 0 ≤ i ∧ 1 ≤ S.2 46 i ∧ i + S.2 46 i ≤ 500 by omega) (show 0 ≤ S.1 49 ∧ S.1 49 ≤ 299 by omega) (show 0 ≤ S.1 67 ∧ S.1 67 + S.2 46 i ≤ 31000 by omega)) (lw_V q1628 q1630 qs61 q70 q1631) (by decide +kernel) rfl ⟨by show (lv - 1) + 1 ≤ lv; omega, by show 8 + (3 + 11) + 40 * (lv - 1) ≤ 40 * lv; omega⟩ ⟨Nat.le_refl _, Nat.le_refl _⟩ hl.1 rfl (Nat.le_of_ble_eq_true rfl) dX1_step_74 (fun S3 H locs hp3 hG hS _ _ => ?_)
          obtain ⟨g71, g72, g73, g74, g75, g76, g77, rfl, hcR⟩ := hp3
          rw [mP_mP (l' := [(54, u1), (55, v1), (65, oE), (64, oA), (63, F 63), (62, F 62), (61, F 61), (60, F 60), (59, F 59), (58, F 58), (57, F 57), (77, g77), (76, g76), (75, g75), (74, g74), (73, g73), (72, g72), (71, g71), (70, upI (S.2 70) (S.1 49) fr), (69, upI (S.2 69) (S.1 49) i), (68, upI (S.2 68) (S.1 49) (S.1 67))]) (sc' := [(56, fr), (66, if S.1 49 < 5 then S.1 49 + 1 else 6), (67, S.1 67 + S.2 46 i)]) rfl rfl] at hG
          have hcR : ∀ j, g71 j = (if S.1 67 ≤ j ∧ j < S.1 67 + S.2 46 i then S.2 41 (i + (j - S.1 67)) else S.2 71 j) ∧ g72 j = (if S.1 67 ≤ j ∧ j < S.1 67 + S.2 46 i then S.2 42 (i + (j - S.1 67)) else S.2 72 j) ∧ g73 j = (if S.1 67 ≤ j ∧ j < S.1 67 + S.2 46 i then S.2 43 (i + (j - S.1 67)) else S.2 73 j) ∧ g74 j = (if S.1 67 ≤ j ∧ j < S.1 67 + S.2 46 i then S.2 44 (i + (j - S.1 67)) else S.2 74 j) ∧ g75 j = (if S.1 67 ≤ j ∧ j < S.1 67 + S.2 46 i then S.2 45 (i + (j - S.1 67)) else S.2 75 j) ∧ g76 j = (if S.1 67 ≤ j ∧ j < S.1 67 + S.2 46 i then S.2 46 (i + (j - S.1 67)) else S.2 76 j) ∧ g77 j = (if S.1 67 ≤ j ∧ j < S.1 67 + S.2 46 i then S.2 47 (i + (j - S.1 67)) else S.2 77 j) := hcR
          refine lv_aload_n X.1 X.2.1 dX1_step_77 rfl (lv_at hl 1 rfl) ?_
          refine lv_dup X.1 X.2.1 dX1_step_78 rfl ?_
          refine mg_steps X hK hG (S.1 49) rfl dX1_step_79 ?_
          refine lv_iconst (v := iI (1)) X.1 X.2.1 dX1_step_82 rfl ?_
          refine i_add X dX1_step_83 ?_
          refine mp_steps X hK hG hS dX1_step_84 (fun H locs hG hS => ?_)
          rw [mS_mP (sc' := [(56, fr), (66, if S.1 49 < 5 then S.1 49 + 1 else 6), (67, S.1 67 + S.2 46 i), (49, (S.1 49) + 1)]) rfl] at hG
          refine lv_aload_n X.1 X.2.1 dX1_step_87 rfl (lv_at hl 1 rfl) ?_
          refine lv_dup X.1 X.2.1 dX1_step_88 rfl ?_
          refine mg_made X hK hG (S.1 53) rfl dX1_step_89 ?_
          refine lv_aload_n X.1 X.2.1 dX1_step_92 rfl (lv_at hl 1 rfl) ?_
          refine mg_fresh X hK hG fr rfl dX1_step_93 ?_
          refine i_add X dX1_step_96 ?_
          refine mp_made X hK hG hS dX1_step_97 (fun H locs hG hS => ?_)
          rw [mS_mP (sc' := [(56, fr), (66, if S.1 49 < 5 then S.1 49 + 1 else 6), (67, S.1 67 + S.2 46 i), (49, (S.1 49) + 1), (53, (S.1 53) + fr)]) rfl] at hG
          refine lv_aload_n X.1 X.2.1 dX1_step_100 rfl (lv_at hl 1 rfl) ?_
          refine mg_stepRule X hK hG dX1_step_101 ?_
          refine lv_aload_n X.1 X.2.1 dX1_step_104 rfl (lv_at hl 1 rfl) ?_
          refine mg_steps X hK hG ((S.1 49) + 1) rfl dX1_step_105 ?_
          refine lv_iload_n X.1 X.2.1 dX1_step_108 rfl (lv_at hl 0 rfl) ?_
          refine ms_stepRule X hK hG hS (by first | omega | (split <;> omega)) dX1_step_109 (fun H locs hG hS => ?_)
          rw [mU_mP (l' := [(54, u1), (55, v1), (65, oE), (64, oA), (63, F 63), (62, F 62), (61, F 61), (60, F 60), (59, F 59), (58, F 58), (57, F 57), (77, g77), (76, g76), (75, g75), (74, g74), (73, g73), (72, g72), (71, g71), (70, upI (S.2 70) (S.1 49) fr), (69, upI (S.2 69) (S.1 49) i), (68, upI (S.2 68) (S.1 49) (S.1 67)), (50, upI (S.2 50) ((S.1 49) + 1) ru)]) rfl rfl] at hG
          refine lv_aload_n X.1 X.2.1 dX1_step_110 rfl (lv_at hl 1 rfl) ?_
          refine mg_stepPlace X hK hG dX1_step_111 ?_
          refine lv_aload_n X.1 X.2.1 dX1_step_114 rfl (lv_at hl 1 rfl) ?_
          refine mg_steps X hK hG ((S.1 49) + 1) rfl dX1_step_115 ?_
          refine lv_aload_n X.1 X.2.1 dX1_step_118 rfl (lv_at hl 1 rfl) ?_
          refine mg_from X hK hG dX1_step_119 ?_
          refine lv_iload_n X.1 X.2.1 dX1_step_122 rfl (lv_at hl 2 rfl) ?_
          refine lv_iconst (v := iI (1)) X.1 X.2.1 dX1_step_123 rfl ?_
          refine i_add X dX1_step_124 ?_
          refine ml_from X hK hG (S.2 44) rfl (by first | omega | (split <;> omega)) dX1_step_125 ?_
          refine ms_stepPlace X hK hG hS (by first | omega | (split <;> omega)) dX1_step_126 (fun H locs hG hS => ?_)
          rw [mU_mP (l' := [(54, u1), (55, v1), (65, oE), (64, oA), (63, F 63), (62, F 62), (61, F 61), (60, F 60), (59, F 59), (58, F 58), (57, F 57), (77, g77), (76, g76), (75, g75), (74, g74), (73, g73), (72, g72), (71, g71), (70, upI (S.2 70) (S.1 49) fr), (69, upI (S.2 69) (S.1 49) i), (68, upI (S.2 68) (S.1 49) (S.1 67)), (50, upI (S.2 50) ((S.1 49) + 1) ru), (51, upI (S.2 51) ((S.1 49) + 1) (S.2 44 (i + 1)))]) rfl rfl] at hG
          refine lv_aload_n X.1 X.2.1 dX1_step_127 rfl (lv_at hl 1 rfl) ?_
          refine mg_stepMaker X hK hG dX1_step_128 ?_
          refine lv_aload_n X.1 X.2.1 dX1_step_131 rfl (lv_at hl 1 rfl) ?_
          refine mg_steps X hK hG ((S.1 49) + 1) rfl dX1_step_132 ?_
          refine lv_aload_n X.1 X.2.1 dX1_step_135 rfl (lv_at hl 1 rfl) ?_
          refine mg_maker X hK hG dX1_step_136 ?_
          refine lv_iload_n X.1 X.2.1 dX1_step_139 rfl (lv_at hl 2 rfl) ?_
          refine lv_iconst (v := iI (1)) X.1 X.2.1 dX1_step_140 rfl ?_
          refine i_add X dX1_step_141 ?_
          refine ml_maker X hK hG (S.2 45) rfl (by first | omega | (split <;> omega)) dX1_step_142 ?_
          refine ms_stepMaker X hK hG hS (by first | omega | (split <;> omega)) dX1_step_143 (fun H locs hG hS => ?_)
          rw [mU_mP (l' := [(54, u1), (55, v1), (65, oE), (64, oA), (63, F 63), (62, F 62), (61, F 61), (60, F 60), (59, F 59), (58, F 58), (57, F 57), (77, g77), (76, g76), (75, g75), (74, g74), (73, g73), (72, g72), (71, g71), (70, upI (S.2 70) (S.1 49) fr), (69, upI (S.2 69) (S.1 49) i), (68, upI (S.2 68) (S.1 49) (S.1 67)), (50, upI (S.2 50) ((S.1 49) + 1) ru), (51, upI (S.2 51) ((S.1 49) + 1) (S.2 44 (i + 1))), (52, upI (S.2 52) ((S.1 49) + 1) (S.2 45 (i + 1)))]) rfl rfl] at hG
          refine lv_aload_n X.1 X.2.1 dX1_step_144 rfl (lv_at hl 1 rfl) ?_
          refine lv_iload_n X.1 X.2.1 dX1_step_145 rfl (lv_at hl 2 rfl) ?_
          refine m_callVv (rest := []) (n := 1) X hK hG hS (fun _ h => h) (mm_splice l D ca o (lv - 1) (mP S [(54, u1), (55, v1), (65, oE), (64, oA), (63, F 63), (62, F 62), (61, F 61), (60, F 60), (59, F 59), (58, F 58), (57, F 57), (77, g77), (76, g76), (75, g75), (74, g74), (73, g73), (72, g72), (71, g71), (70, upI (S.2 70) (S.1 49) fr), (69, upI (S.2 69) (S.1 49) i), (68, upI (S.2 68) (S.1 49) (S.1 67)), (50, upI (S.2 50) ((S.1 49) + 1) ru), (51, upI (S.2 51) ((S.1 49) + 1) (S.2 44 (i + 1))), (52, upI (S.2 52) ((S.1 49) + 1) (S.2 45 (i + 1)))] [(56, fr), (66, if S.1 49 < 5 then S.1 49 + 1 else 6), (67, S.1 67 + S.2 46 i), (49, (S.1 49) + 1), (53, (S.1 53) + fr)]) i (by omega) (show 0 ≤ i ∧ i < S.1 40 by omega) hT.1 hT.2.1 (show 1 ≤ fr ∧ fr ≤ 500 by omega) (show S.1 40 + (fr - S.2 46 i) ≤ 500 by omega) (hTW2 (by omega) (by omega))) (lw_V q1632 q1634 qs62 q70 q1635) (by decide +kernel) rfl ⟨by show (lv - 1) + 1 ≤ lv; omega, by show 8 + (5 + 11) + 40 * (lv - 1) ≤ 40 * lv; omega⟩ ⟨Nat.le_refl _, Nat.le_refl _⟩ hl.1 rfl (Nat.le_of_ble_eq_true rfl) dX1_step_146 (fun S4 H locs hp4 hG hS _ _ => ?_)
          obtain ⟨h41, h42, h43, h44, h45, h46, h47, f48, rfl, hsp, hTI9⟩ := hp4
          rw [mP_mP (l' := [(54, u1), (55, v1), (65, oE), (64, oA), (63, F 63), (62, F 62), (61, F 61), (60, F 60), (59, F 59), (58, F 58), (57, F 57), (77, g77), (76, g76), (75, g75), (74, g74), (73, g73), (72, g72), (71, g71), (70, upI (S.2 70) (S.1 49) fr), (69, upI (S.2 69) (S.1 49) i), (68, upI (S.2 68) (S.1 49) (S.1 67)), (50, upI (S.2 50) ((S.1 49) + 1) ru), (51, upI (S.2 51) ((S.1 49) + 1) (S.2 44 (i + 1))), (52, upI (S.2 52) ((S.1 49) + 1) (S.2 45 (i + 1))), (48, f48), (47, h47), (45, h45), (44, h44), (43, h43), (42, h42), (41, h41), (46, h46)]) (sc' := [(56, fr), (66, if S.1 49 < 5 then S.1 49 + 1 else 6), (67, S.1 67 + S.2 46 i), (49, (S.1 49) + 1), (53, (S.1 53) + fr), (40, S.1 40 + (fr - S.2 46 i))]) rfl rfl] at hG
          have hsp : ∀ j, 0 ≤ j → j < S.1 40 + (fr - S.2 46 i) → h41 j = spl i fr (fr - S.2 46 i) (S.2 41) (F 57) j ∧ h42 j = spl i fr (fr - S.2 46 i) (S.2 42) (F 58) j ∧ h43 j = spl i fr (fr - S.2 46 i) (S.2 43) (F 59) j ∧ h44 j = spl i fr (fr - S.2 46 i) (S.2 44) (F 60) j ∧ h45 j = spl i fr (fr - S.2 46 i) (S.2 45) (F 61) j ∧ h46 j = spl i fr (fr - S.2 46 i) (rmA i (fr - S.2 46 i) (S.2 46)) (F 62) j ∧ h47 j = spl i fr (fr - S.2 46 i) (S.2 47) (F 63) j := hsp
          refine lv_iload_n X.1 X.2.1 dX1_step_149 rfl (lv_at hl 0 rfl) ?_
          refine ret _ _ _ _ _ _ ?_ (rfl) hG hS dX1_step_150
          refine Or.inr ⟨fr, F, by rw [← e_ru]; exact hbM, by unfold spFull; omega, e_ru, ?_⟩
          rw [← e_ru]
          refine ⟨⟨rfl, rfl, rfl, rfl, rfl⟩, ?_, hsp, hTI9, ⟨rfl, rfl, rfl⟩, ⟨rfl, rfl, rfl⟩, hcR, ?_⟩
          · intro k q1 q2 q3 q4 q5 q6
            simp only [mP, lk]
            rw [if_neg (show ¬ k = 56 by omega), if_neg (show ¬ k = 66 by omega), if_neg (show ¬ k = 67 by omega), if_neg (show ¬ k = 49 by omega), if_neg (show ¬ k = 53 by omega), if_neg (show ¬ k = 40 by omega)]
            rfl
          · intro k hk
            simp only [mP, lk]
            rw [if_neg (show ¬ k = 54 by omega), if_neg (show ¬ k = 55 by omega), if_neg (show ¬ k = 65 by omega), if_neg (show ¬ k = 64 by omega), if_neg (show ¬ k = 63 by omega), if_neg (show ¬ k = 62 by omega), if_neg (show ¬ k = 61 by omega), if_neg (show ¬ k = 60 by omega), if_neg (show ¬ k = 59 by omega), if_neg (show ¬ k = 58 by omega), if_neg (show ¬ k = 57 by omega), if_neg (show ¬ k = 77 by omega), if_neg (show ¬ k = 76 by omega), if_neg (show ¬ k = 75 by omega), if_neg (show ¬ k = 74 by omega), if_neg (show ¬ k = 73 by omega), if_neg (show ¬ k = 72 by omega), if_neg (show ¬ k = 71 by omega), if_neg (show ¬ k = 70 by omega), if_neg (show ¬ k = 69 by omega), if_neg (show ¬ k = 68 by omega), if_neg (show ¬ k = 50 by omega), if_neg (show ¬ k = 51 by omega), if_neg (show ¬ k = 52 by omega), if_neg (show ¬ k = 48 by omega), if_neg (show ¬ k = 47 by omega), if_neg (show ¬ k = 45 by omega), if_neg (show ¬ k = 44 by omega), if_neg (show ¬ k = 43 by omega), if_neg (show ¬ k = 42 by omega), if_neg (show ¬ k = 41 by omega), if_neg (show ¬ k = 46 by omega)]
            rfl
        · refine lv_bipush (v := iI (-4)) X.1 X.2.1 dX1_step_69 (by decide) ?_
          refine ret _ _ _ _ _ _ ?_ (rfl) hG hS dX1_step_71
          refine Or.inl ⟨rfl, fr, F, by rw [← e_ru]; exact hbM, by unfold spFull; omega, ?_, ?_⟩
          · intro k hk
            simp only [mP, lk]
            rw [if_neg (show ¬ k = 56 by omega)]
            rfl
          · intro k hk
            simp only [mP, lk]
            rw [if_neg (show ¬ k = 54 by omega), if_neg (show ¬ k = 55 by omega), if_neg (show ¬ k = 65 by omega), if_neg (show ¬ k = 64 by omega), if_neg (show ¬ k = 63 by omega), if_neg (show ¬ k = 62 by omega), if_neg (show ¬ k = 61 by omega), if_neg (show ¬ k = 60 by omega), if_neg (show ¬ k = 59 by omega), if_neg (show ¬ k = 58 by omega), if_neg (show ¬ k = 57 by omega)]
            rfl

