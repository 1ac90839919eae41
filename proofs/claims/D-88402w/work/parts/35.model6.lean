/-! ===== the Model: a step is done, or undone ===== -/
set_option maxRecDepth 100000
set_option maxHeartbeats 4000000 in
theorem mm_remember (l : Launch) (D : va_G) (ca : Nat → ClassId) (o lv : Nat) (S : MSt) (i : Int) (hi : 0 ≤ i ∧ 1 ≤ S.2 46 i ∧ i + S.2 46 i ≤ 500) (hs : 0 ≤ S.1 49 ∧ S.1 49 ≤ 299) (hg : 0 ≤ S.1 67 ∧ S.1 67 + S.2 46 i ≤ 31000) : mCv l yX1_remember cX1_remember 3 D ca o lv [.ref o, .int (iI (i))] S (fun S' => ∃ g71 g72 g73 g74 g75 g76 g77 : Int → Int, S' = mP S [(68, upI (S.2 68) (S.1 49) (S.1 67)), (69, upI (S.2 69) (S.1 49) i), (70, upI (S.2 70) (S.1 49) (S.1 56)), (71, g71), (72, g72), (73, g73), (74, g74), (75, g75), (76, g76), (77, g77)] [(67, S.1 67 + S.2 46 i), (66, if S.1 49 < 5 then S.1 49 + 1 else 6)] ∧ ∀ j, g71 j = (if S.1 67 ≤ j ∧ j < S.1 67 + S.2 46 i then S.2 41 (i + (j - S.1 67)) else S.2 71 j) ∧ g72 j = (if S.1 67 ≤ j ∧ j < S.1 67 + S.2 46 i then S.2 42 (i + (j - S.1 67)) else S.2 72 j) ∧ g73 j = (if S.1 67 ≤ j ∧ j < S.1 67 + S.2 46 i then S.2 43 (i + (j - S.1 67)) else S.2 73 j) ∧ g74 j = (if S.1 67 ≤ j ∧ j < S.1 67 + S.2 46 i then S.2 44 (i + (j - S.1 67)) else S.2 74 j) ∧ g75 j = (if S.1 67 ≤ j ∧ j < S.1 67 + S.2 46 i then S.2 45 (i + (j - S.1 67)) else S.2 75 j) ∧ g76 j = (if S.1 67 ≤ j ∧ j < S.1 67 + S.2 46 i then S.2 46 (i + (j - S.1 67)) else S.2 76 j) ∧ g77 j = (if S.1 67 ≤ j ∧ j < S.1 67 + S.2 46 i then S.2 47 (i + (j - S.1 67)) else S.2 77 j)) := by
  refine mCv_of (by decide +kernel) rfl (Nat.le_of_ble_eq_true rfl) ?_
  intro p e s m args below meth c Q X hK ret H locs ls hG hS hl
  have hl : lv_has ls 3 [(0, .ref o), (1, .int (iI (i)))] := hl
  refine lv_aload_n X.1 X.2.1 dX1_remember_0 rfl (lv_at hl 0 rfl) ?_
  refine mg_goneAt X hK hG dX1_remember_1 ?_
  refine lv_aload_n X.1 X.2.1 dX1_remember_4 rfl (lv_at hl 0 rfl) ?_
  refine mg_steps X hK hG (S.1 49) rfl dX1_remember_5 ?_
  refine lv_aload_n X.1 X.2.1 dX1_remember_8 rfl (lv_at hl 0 rfl) ?_
  refine mg_gone X hK hG (S.1 67) rfl dX1_remember_9 ?_
  have hG : gOk D (mA o) (mH ca o (mP S [] [])) H := hG
  refine ms_goneAt X hK hG hS (by omega) dX1_remember_12 (fun H locs hG hS => ?_)
  rw [mU_mP (l' := [(68, upI (S.2 68) (S.1 49) (S.1 67))]) rfl rfl] at hG
  refine lv_aload_n X.1 X.2.1 dX1_remember_13 rfl (lv_at hl 0 rfl) ?_
  refine mg_gonePlace X hK hG dX1_remember_14 ?_
  refine lv_aload_n X.1 X.2.1 dX1_remember_17 rfl (lv_at hl 0 rfl) ?_
  refine mg_steps X hK hG (S.1 49) rfl dX1_remember_18 ?_
  refine lv_iload_n X.1 X.2.1 dX1_remember_21 rfl (lv_at hl 1 rfl) ?_
  refine ms_gonePlace X hK hG hS (by omega) dX1_remember_22 (fun H locs hG hS => ?_)
  rw [mU_mP (l' := [(68, upI (S.2 68) (S.1 49) (S.1 67)), (69, upI (S.2 69) (S.1 49) i)]) rfl rfl] at hG
  refine lv_aload_n X.1 X.2.1 dX1_remember_23 rfl (lv_at hl 0 rfl) ?_
  refine mg_goneCame X hK hG dX1_remember_24 ?_
  refine lv_aload_n X.1 X.2.1 dX1_remember_27 rfl (lv_at hl 0 rfl) ?_
  refine mg_steps X hK hG (S.1 49) rfl dX1_remember_28 ?_
  refine lv_aload_n X.1 X.2.1 dX1_remember_31 rfl (lv_at hl 0 rfl) ?_
  refine mg_fresh X hK hG (S.1 56) rfl dX1_remember_32 ?_
  refine ms_goneCame X hK hG hS (by omega) dX1_remember_35 (fun H locs hG hS => ?_)
  rw [mU_mP (l' := [(68, upI (S.2 68) (S.1 49) (S.1 67)), (69, upI (S.2 69) (S.1 49) i), (70, upI (S.2 70) (S.1 49) (S.1 56))]) rfl rfl] at hG
  refine lv_iload_n X.1 X.2.1 dX1_remember_36 rfl (lv_at hl 1 rfl) ?_
  refine lv_istore_n (lv' := [(2, .int (iI (i))), (0, .ref o), (1, .int (iI (i)))]) X.1 X.2.1 dX1_remember_37 rfl hl (by decide) rfl (fun ls hl => ?_)
  have hf0 : ∀ j, S.2 71 j = (if S.1 67 ≤ j ∧ j < S.1 67 + (i - i) then S.2 41 (i + (j - S.1 67)) else S.2 71 j) ∧ S.2 72 j = (if S.1 67 ≤ j ∧ j < S.1 67 + (i - i) then S.2 42 (i + (j - S.1 67)) else S.2 72 j) ∧ S.2 73 j = (if S.1 67 ≤ j ∧ j < S.1 67 + (i - i) then S.2 43 (i + (j - S.1 67)) else S.2 73 j) ∧ S.2 74 j = (if S.1 67 ≤ j ∧ j < S.1 67 + (i - i) then S.2 44 (i + (j - S.1 67)) else S.2 74 j) ∧ S.2 75 j = (if S.1 67 ≤ j ∧ j < S.1 67 + (i - i) then S.2 45 (i + (j - S.1 67)) else S.2 75 j) ∧ S.2 76 j = (if S.1 67 ≤ j ∧ j < S.1 67 + (i - i) then S.2 46 (i + (j - S.1 67)) else S.2 76 j) ∧ S.2 77 j = (if S.1 67 ≤ j ∧ j < S.1 67 + (i - i) then S.2 47 (i + (j - S.1 67)) else S.2 77 j) := by
    intro j
    simp only [if_neg (show ¬ (S.1 67 ≤ j ∧ j < S.1 67 + (i - i)) by omega), and_self]
  rw [mP_add (k := 71) (f := S.2 71) (l' := [(68, upI (S.2 68) (S.1 49) (S.1 67)), (69, upI (S.2 69) (S.1 49) i), (70, upI (S.2 70) (S.1 49) (S.1 56)), (71, S.2 71)]) rfl rfl, mP_add (k := 72) (f := S.2 72) (l' := [(68, upI (S.2 68) (S.1 49) (S.1 67)), (69, upI (S.2 69) (S.1 49) i), (70, upI (S.2 70) (S.1 49) (S.1 56)), (71, S.2 71), (72, S.2 72)]) rfl rfl, mP_add (k := 73) (f := S.2 73) (l' := [(68, upI (S.2 68) (S.1 49) (S.1 67)), (69, upI (S.2 69) (S.1 49) i), (70, upI (S.2 70) (S.1 49) (S.1 56)), (71, S.2 71), (72, S.2 72), (73, S.2 73)]) rfl rfl, mP_add (k := 74) (f := S.2 74) (l' := [(68, upI (S.2 68) (S.1 49) (S.1 67)), (69, upI (S.2 69) (S.1 49) i), (70, upI (S.2 70) (S.1 49) (S.1 56)), (71, S.2 71), (72, S.2 72), (73, S.2 73), (74, S.2 74)]) rfl rfl, mP_add (k := 75) (f := S.2 75) (l' := [(68, upI (S.2 68) (S.1 49) (S.1 67)), (69, upI (S.2 69) (S.1 49) i), (70, upI (S.2 70) (S.1 49) (S.1 56)), (71, S.2 71), (72, S.2 72), (73, S.2 73), (74, S.2 74), (75, S.2 75)]) rfl rfl, mP_add (k := 76) (f := S.2 76) (l' := [(68, upI (S.2 68) (S.1 49) (S.1 67)), (69, upI (S.2 69) (S.1 49) i), (70, upI (S.2 70) (S.1 49) (S.1 56)), (71, S.2 71), (72, S.2 72), (73, S.2 73), (74, S.2 74), (75, S.2 75), (76, S.2 76)]) rfl rfl, mP_add (k := 77) (f := S.2 77) (l' := [(68, upI (S.2 68) (S.1 49) (S.1 67)), (69, upI (S.2 69) (S.1 49) i), (70, upI (S.2 70) (S.1 49) (S.1 56)), (71, S.2 71), (72, S.2 72), (73, S.2 73), (74, S.2 74), (75, S.2 75), (76, S.2 76), (77, S.2 77)]) rfl rfl, mP_addc (k := 67) (z := S.1 67) (sc' := [(67, S.1 67)]) rfl rfl] at hG
  have L38 : ∀ (N38 : Nat) (k g : Int) (g71 g72 g73 g74 g75 g76 g77 : Int → Int), (i ≤ k ∧ k ≤ i + S.2 46 i) → (g = S.1 67 + (k - i)) → (∀ j, g71 j = (if S.1 67 ≤ j ∧ j < S.1 67 + (k - i) then S.2 41 (i + (j - S.1 67)) else S.2 71 j) ∧ g72 j = (if S.1 67 ≤ j ∧ j < S.1 67 + (k - i) then S.2 42 (i + (j - S.1 67)) else S.2 72 j) ∧ g73 j = (if S.1 67 ≤ j ∧ j < S.1 67 + (k - i) then S.2 43 (i + (j - S.1 67)) else S.2 73 j) ∧ g74 j = (if S.1 67 ≤ j ∧ j < S.1 67 + (k - i) then S.2 44 (i + (j - S.1 67)) else S.2 74 j) ∧ g75 j = (if S.1 67 ≤ j ∧ j < S.1 67 + (k - i) then S.2 45 (i + (j - S.1 67)) else S.2 75 j) ∧ g76 j = (if S.1 67 ≤ j ∧ j < S.1 67 + (k - i) then S.2 46 (i + (j - S.1 67)) else S.2 76 j) ∧ g77 j = (if S.1 67 ≤ j ∧ j < S.1 67 + (k - i) then S.2 47 (i + (j - S.1 67)) else S.2 77 j)) → (i + S.2 46 i - k).toNat < N38 → ∀ (H : Heap) (locs : List Loc) (ls : Array Slot), gOk D (mA o) (mH ca o (mP S [(68, upI (S.2 68) (S.1 49) (S.1 67)), (69, upI (S.2 69) (S.1 49) i), (70, upI (S.2 70) (S.1 49) (S.1 56)), (71, g71), (72, g72), (73, g73), (74, g74), (75, g75), (76, g76), (77, g77)] [(67, g)])) H → va_S (mA o) s.heap H locs → lv_has ls 3 [(0, .ref o), (1, .int (iI (i))), (2, .int (iI (k)))] → W p l e (mR lv) s m args below meth c H locs 0 0 Q (F0 m 38 ls []) := by
    intro N38
    induction N38 with
    | zero => intro k g g71 g72 g73 g74 g75 g76 g77 hk hgk hf hN; exact absurd hN (Nat.not_lt_zero _)
    | succ N38 ih38 =>
      intro k g g71 g72 g73 g74 g75 g76 g77 hk hgk hf hN38 H locs ls hG hS hl
      refine lv_iload_n X.1 X.2.1 dX1_remember_38 rfl (lv_at hl 2 rfl) ?_
      refine lv_iload_n X.1 X.2.1 dX1_remember_39 rfl (lv_at hl 1 rfl) ?_
      refine lv_aload_n X.1 X.2.1 dX1_remember_40 rfl (lv_at hl 0 rfl) ?_
      refine mg_room X hK hG dX1_remember_41 ?_
      refine lv_iload_n X.1 X.2.1 dX1_remember_44 rfl (lv_at hl 1 rfl) ?_
      refine ml_room X hK hG (S.2 46) rfl (by omega) dX1_remember_45 ?_
      refine i_add X dX1_remember_46 ?_
      refine i_icmp_ge X 171 dX1_remember_47 (by decide) (by omega) (by omega) (fun c47 => ?_) (fun c47 => ?_)
      · have hke : k = i + S.2 46 i := by omega
        have hge : g = S.1 67 + S.2 46 i := by omega
        have K191 : ∀ (z : Int), (z = if S.1 49 < 5 then S.1 49 + 1 else 6) → ∀ (H : Heap) (locs : List Loc) (ls : Array Slot), gOk D (mA o) (mH ca o (mP S [(68, upI (S.2 68) (S.1 49) (S.1 67)), (69, upI (S.2 69) (S.1 49) i), (70, upI (S.2 70) (S.1 49) (S.1 56)), (71, g71), (72, g72), (73, g73), (74, g74), (75, g75), (76, g76), (77, g77)] [(67, g)])) H → va_S (mA o) s.heap H locs → lv_has ls 3 [(0, .ref o), (1, .int (iI (i)))] → W p l e (mR lv) s m args below meth c H locs 0 0 Q (F0 m 191 ls [.int (iI (z)), .ref o]) := by
          intro z hz H locs ls hG hS hl
          refine mp_undos X hK hG hS dX1_remember_191 (fun H locs hG hS => ?_)
          rw [mS_mP (sc' := [(67, g), (66, z)]) rfl] at hG
          refine ret _ _ _ _ _ ?_ hG hS dX1_remember_194
          refine ⟨g71, g72, g73, g74, g75, g76, g77, by rw [hge, hz], ?_⟩
          rw [hke, show i + S.2 46 i - i = S.2 46 i by omega] at hf
          exact hf
        refine lv_aload_n X.1 X.2.1 dX1_remember_171 rfl (lv_at hl 0 rfl) ?_
        refine lv_aload_n X.1 X.2.1 dX1_remember_172 rfl (lv_at hl 0 rfl) ?_
        refine mg_steps X hK hG (S.1 49) rfl dX1_remember_173 ?_
        refine lv_iconst (v := iI (5)) X.1 X.2.1 dX1_remember_176 rfl ?_
        refine i_icmp_ge X 189 dX1_remember_177 (by decide) (by omega) (by omega) (fun c177 => ?_) (fun c177 => ?_)
        · refine lv_bipush (v := iI (6)) X.1 X.2.1 dX1_remember_189 (by decide) ?_
          exact K191 6 (by first | rw [if_pos (by omega)] | rw [if_neg (by omega)]) H locs ls hG hS (lv_sub hl [0, 1] rfl)
        · refine lv_aload_n X.1 X.2.1 dX1_remember_180 rfl (lv_at hl 0 rfl) ?_
          refine mg_steps X hK hG (S.1 49) rfl dX1_remember_181 ?_
          refine lv_iconst (v := iI (1)) X.1 X.2.1 dX1_remember_184 rfl ?_
          refine i_add X dX1_remember_185 ?_
          refine lv_goto (tgt := 191) X.1 X.2.1 dX1_remember_186 (by decide) ?_
          exact K191 ((S.1 49) + 1) (by first | rw [if_pos (by omega)] | rw [if_neg (by omega)]) H locs ls hG hS (lv_sub hl [0, 1] rfl)
      · refine lv_aload_n X.1 X.2.1 dX1_remember_50 rfl (lv_at hl 0 rfl) ?_
        refine mg_oldWhat X hK hG dX1_remember_51 ?_
        refine lv_aload_n X.1 X.2.1 dX1_remember_54 rfl (lv_at hl 0 rfl) ?_
        refine mg_gone X hK hG g rfl dX1_remember_55 ?_
        refine lv_aload_n X.1 X.2.1 dX1_remember_58 rfl (lv_at hl 0 rfl) ?_
        refine mg_what X hK hG dX1_remember_59 ?_
        refine lv_iload_n X.1 X.2.1 dX1_remember_62 rfl (lv_at hl 2 rfl) ?_
        refine ml_what X hK hG (S.2 41) rfl (by omega) dX1_remember_63 ?_
        refine ms_oldWhat X hK hG hS (by omega) dX1_remember_64 (fun H locs hG hS => ?_)
        rw [mU_mP (l' := [(68, upI (S.2 68) (S.1 49) (S.1 67)), (69, upI (S.2 69) (S.1 49) i), (70, upI (S.2 70) (S.1 49) (S.1 56)), (71, upI g71 g (S.2 41 k)), (72, g72), (73, g73), (74, g74), (75, g75), (76, g76), (77, g77)]) rfl rfl] at hG
        refine lv_aload_n X.1 X.2.1 dX1_remember_65 rfl (lv_at hl 0 rfl) ?_
        refine mg_oldWorth X hK hG dX1_remember_66 ?_
        refine lv_aload_n X.1 X.2.1 dX1_remember_69 rfl (lv_at hl 0 rfl) ?_
        refine mg_gone X hK hG g rfl dX1_remember_70 ?_
        refine lv_aload_n X.1 X.2.1 dX1_remember_73 rfl (lv_at hl 0 rfl) ?_
        refine mg_worthOf X hK hG dX1_remember_74 ?_
        refine lv_iload_n X.1 X.2.1 dX1_remember_77 rfl (lv_at hl 2 rfl) ?_
        refine ml_worthOf X hK hG (S.2 42) rfl (by omega) dX1_remember_78 ?_
        refine ms_oldWorth X hK hG hS (by omega) dX1_remember_79 (fun H locs hG hS => ?_)
        rw [mU_mP (l' := [(68, upI (S.2 68) (S.1 49) (S.1 67)), (69, upI (S.2 69) (S.1 49) i), (70, upI (S.2 70) (S.1 49) (S.1 56)), (71, upI g71 g (S.2 41 k)), (72, upI g72 g (S.2 42 k)), (73, g73), (74, g74), (75, g75), (76, g76), (77, g77)]) rfl rfl] at hG
        refine lv_aload_n X.1 X.2.1 dX1_remember_80 rfl (lv_at hl 0 rfl) ?_
        refine mg_oldMark X hK hG dX1_remember_81 ?_
        refine lv_aload_n X.1 X.2.1 dX1_remember_84 rfl (lv_at hl 0 rfl) ?_
        refine mg_gone X hK hG g rfl dX1_remember_85 ?_
        refine lv_aload_n X.1 X.2.1 dX1_remember_88 rfl (lv_at hl 0 rfl) ?_
        refine mg_mark X hK hG dX1_remember_89 ?_
        refine lv_iload_n X.1 X.2.1 dX1_remember_92 rfl (lv_at hl 2 rfl) ?_
        refine ml_mark X hK hG (S.2 43) rfl (by omega) dX1_remember_93 ?_
        refine ms_oldMark X hK hG hS (by omega) dX1_remember_94 (fun H locs hG hS => ?_)
        rw [mU_mP (l' := [(68, upI (S.2 68) (S.1 49) (S.1 67)), (69, upI (S.2 69) (S.1 49) i), (70, upI (S.2 70) (S.1 49) (S.1 56)), (71, upI g71 g (S.2 41 k)), (72, upI g72 g (S.2 42 k)), (73, upI g73 g (S.2 43 k)), (74, g74), (75, g75), (76, g76), (77, g77)]) rfl rfl] at hG
        refine lv_aload_n X.1 X.2.1 dX1_remember_95 rfl (lv_at hl 0 rfl) ?_
        refine mg_oldFrom X hK hG dX1_remember_96 ?_
        refine lv_aload_n X.1 X.2.1 dX1_remember_99 rfl (lv_at hl 0 rfl) ?_
        refine mg_gone X hK hG g rfl dX1_remember_100 ?_
        refine lv_aload_n X.1 X.2.1 dX1_remember_103 rfl (lv_at hl 0 rfl) ?_
        refine mg_from X hK hG dX1_remember_104 ?_
        refine lv_iload_n X.1 X.2.1 dX1_remember_107 rfl (lv_at hl 2 rfl) ?_
        refine ml_from X hK hG (S.2 44) rfl (by omega) dX1_remember_108 ?_
        refine ms_oldFrom X hK hG hS (by omega) dX1_remember_109 (fun H locs hG hS => ?_)
        rw [mU_mP (l' := [(68, upI (S.2 68) (S.1 49) (S.1 67)), (69, upI (S.2 69) (S.1 49) i), (70, upI (S.2 70) (S.1 49) (S.1 56)), (71, upI g71 g (S.2 41 k)), (72, upI g72 g (S.2 42 k)), (73, upI g73 g (S.2 43 k)), (74, upI g74 g (S.2 44 k)), (75, g75), (76, g76), (77, g77)]) rfl rfl] at hG
        refine lv_aload_n X.1 X.2.1 dX1_remember_110 rfl (lv_at hl 0 rfl) ?_
        refine mg_oldMaker X hK hG dX1_remember_111 ?_
        refine lv_aload_n X.1 X.2.1 dX1_remember_114 rfl (lv_at hl 0 rfl) ?_
        refine mg_gone X hK hG g rfl dX1_remember_115 ?_
        refine lv_aload_n X.1 X.2.1 dX1_remember_118 rfl (lv_at hl 0 rfl) ?_
        refine mg_maker X hK hG dX1_remember_119 ?_
        refine lv_iload_n X.1 X.2.1 dX1_remember_122 rfl (lv_at hl 2 rfl) ?_
        refine ml_maker X hK hG (S.2 45) rfl (by omega) dX1_remember_123 ?_
        refine ms_oldMaker X hK hG hS (by omega) dX1_remember_124 (fun H locs hG hS => ?_)
        rw [mU_mP (l' := [(68, upI (S.2 68) (S.1 49) (S.1 67)), (69, upI (S.2 69) (S.1 49) i), (70, upI (S.2 70) (S.1 49) (S.1 56)), (71, upI g71 g (S.2 41 k)), (72, upI g72 g (S.2 42 k)), (73, upI g73 g (S.2 43 k)), (74, upI g74 g (S.2 44 k)), (75, upI g75 g (S.2 45 k)), (76, g76), (77, g77)]) rfl rfl] at hG
        refine lv_aload_n X.1 X.2.1 dX1_remember_125 rfl (lv_at hl 0 rfl) ?_
        refine mg_oldRoom X hK hG dX1_remember_126 ?_
        refine lv_aload_n X.1 X.2.1 dX1_remember_129 rfl (lv_at hl 0 rfl) ?_
        refine mg_gone X hK hG g rfl dX1_remember_130 ?_
        refine lv_aload_n X.1 X.2.1 dX1_remember_133 rfl (lv_at hl 0 rfl) ?_
        refine mg_room X hK hG dX1_remember_134 ?_
        refine lv_iload_n X.1 X.2.1 dX1_remember_137 rfl (lv_at hl 2 rfl) ?_
        refine ml_room X hK hG (S.2 46) rfl (by omega) dX1_remember_138 ?_
        refine ms_oldRoom X hK hG hS (by omega) dX1_remember_139 (fun H locs hG hS => ?_)
        rw [mU_mP (l' := [(68, upI (S.2 68) (S.1 49) (S.1 67)), (69, upI (S.2 69) (S.1 49) i), (70, upI (S.2 70) (S.1 49) (S.1 56)), (71, upI g71 g (S.2 41 k)), (72, upI g72 g (S.2 42 k)), (73, upI g73 g (S.2 43 k)), (74, upI g74 g (S.2 44 k)), (75, upI g75 g (S.2 45 k)), (76, upI g76 g (S.2 46 k)), (77, g77)]) rfl rfl] at hG
        refine lv_aload_n X.1 X.2.1 dX1_remember_140 rfl (lv_at hl 0 rfl) ?_
        refine mg_oldParts X hK hG dX1_remember_141 ?_
        refine lv_aload_n X.1 X.2.1 dX1_remember_144 rfl (lv_at hl 0 rfl) ?_
        refine mg_gone X hK hG g rfl dX1_remember_145 ?_
        refine lv_aload_n X.1 X.2.1 dX1_remember_148 rfl (lv_at hl 0 rfl) ?_
        refine mg_parts X hK hG dX1_remember_149 ?_
        refine lv_iload_n X.1 X.2.1 dX1_remember_152 rfl (lv_at hl 2 rfl) ?_
        refine ml_parts X hK hG (S.2 47) rfl (by omega) dX1_remember_153 ?_
        refine ms_oldParts X hK hG hS (by omega) dX1_remember_154 (fun H locs hG hS => ?_)
        rw [mU_mP (l' := [(68, upI (S.2 68) (S.1 49) (S.1 67)), (69, upI (S.2 69) (S.1 49) i), (70, upI (S.2 70) (S.1 49) (S.1 56)), (71, upI g71 g (S.2 41 k)), (72, upI g72 g (S.2 42 k)), (73, upI g73 g (S.2 43 k)), (74, upI g74 g (S.2 44 k)), (75, upI g75 g (S.2 45 k)), (76, upI g76 g (S.2 46 k)), (77, upI g77 g (S.2 47 k))]) rfl rfl] at hG
        refine lv_aload_n X.1 X.2.1 dX1_remember_155 rfl (lv_at hl 0 rfl) ?_
        refine lv_dup X.1 X.2.1 dX1_remember_156 rfl ?_
        refine mg_gone X hK hG g rfl dX1_remember_157 ?_
        refine lv_iconst (v := iI (1)) X.1 X.2.1 dX1_remember_160 rfl ?_
        refine i_add X dX1_remember_161 ?_
        refine mp_gone X hK hG hS dX1_remember_162 (fun H locs hG hS => ?_)
        rw [mS_mP (sc' := [(67, g + 1)]) rfl] at hG
        refine i_inc (lv' := [(2, .int (iI (k + 1))), (0, .ref o), (1, .int (iI (i)))]) X dX1_remember_165 hl (k := 2) rfl (by decide) rfl (fun ls hl => ?_)
        refine lv_goto (tgt := 38) X.1 X.2.1 dX1_remember_168 (by decide) ?_
        have hf2 : ∀ j, (upI g71 g (S.2 41 k)) j = (if S.1 67 ≤ j ∧ j < S.1 67 + (k + 1 - i) then S.2 41 (i + (j - S.1 67)) else S.2 71 j) ∧ (upI g72 g (S.2 42 k)) j = (if S.1 67 ≤ j ∧ j < S.1 67 + (k + 1 - i) then S.2 42 (i + (j - S.1 67)) else S.2 72 j) ∧ (upI g73 g (S.2 43 k)) j = (if S.1 67 ≤ j ∧ j < S.1 67 + (k + 1 - i) then S.2 43 (i + (j - S.1 67)) else S.2 73 j) ∧ (upI g74 g (S.2 44 k)) j = (if S.1 67 ≤ j ∧ j < S.1 67 + (k + 1 - i) then S.2 44 (i + (j - S.1 67)) else S.2 74 j) ∧ (upI g75 g (S.2 45 k)) j = (if S.1 67 ≤ j ∧ j < S.1 67 + (k + 1 - i) then S.2 45 (i + (j - S.1 67)) else S.2 75 j) ∧ (upI g76 g (S.2 46 k)) j = (if S.1 67 ≤ j ∧ j < S.1 67 + (k + 1 - i) then S.2 46 (i + (j - S.1 67)) else S.2 76 j) ∧ (upI g77 g (S.2 47 k)) j = (if S.1 67 ≤ j ∧ j < S.1 67 + (k + 1 - i) then S.2 47 (i + (j - S.1 67)) else S.2 77 j) := by
          intro j
          obtain ⟨q0, q1, q2, q3, q4, q5, q6⟩ := hf j
          by_cases hj : j = g
          · subst hj
            simp only [upI_s, if_pos (show S.1 67 ≤ j ∧ j < S.1 67 + (k + 1 - i) by omega), show i + (j - S.1 67) = k by omega, and_self]
          · simp only [upI_n hj, q0, q1, q2, q3, q4, q5, q6]
            by_cases hc : S.1 67 ≤ j ∧ j < S.1 67 + (k - i)
            · simp only [if_pos hc, if_pos (show S.1 67 ≤ j ∧ j < S.1 67 + (k + 1 - i) by omega), and_self]
            · simp only [if_neg hc, if_neg (show ¬ (S.1 67 ≤ j ∧ j < S.1 67 + (k + 1 - i)) by omega), and_self]
        exact ih38 (k + 1) (g + 1) (upI g71 g (S.2 41 k)) (upI g72 g (S.2 42 k)) (upI g73 g (S.2 43 k)) (upI g74 g (S.2 44 k)) (upI g75 g (S.2 45 k)) (upI g76 g (S.2 46 k)) (upI g77 g (S.2 47 k)) (by omega) (by omega) hf2 (by omega) H locs ls hG hS (lv_sub hl [1, 2, 0] rfl)
  exact L38 _ i (S.1 67) (S.2 71) (S.2 72) (S.2 73) (S.2 74) (S.2 75) (S.2 76) (S.2 77) (by omega) (by omega) hf0 (Nat.lt_succ_self _) H locs ls hG hS (lv_sub hl [1, 2, 0] rfl)

set_option maxHeartbeats 4000000 in
theorem mm_splice (l : Launch) (D : va_G) (ca : Nat → ClassId) (o lv : Nat) (S : MSt) (i : Int) (hlv : 1 ≤ lv) (hi : 0 ≤ i ∧ i < S.1 40) (hTW : TW (S.1 40) (S.2 41) (S.2 46) (S.2 47)) (hTI : TI (S.1 40) (S.2 41) (S.2 46) (S.2 47) (S.2 48)) (hfr : 1 ≤ S.1 56 ∧ S.1 56 ≤ 500) (hnm : S.1 40 + (S.1 56 - S.2 46 i) ≤ 500) (hTW2 : TW (S.1 40 + (S.1 56 - S.2 46 i)) (spl i (S.1 56) (S.1 56 - S.2 46 i) (S.2 41) (S.2 57)) (spl i (S.1 56) (S.1 56 - S.2 46 i) (rmA i (S.1 56 - S.2 46 i) (S.2 46)) (S.2 62)) (spl i (S.1 56) (S.1 56 - S.2 46 i) (S.2 47) (S.2 63))) : mCv l yX1_splice cX1_splice 5 D ca o lv [.ref o, .int (iI (i))] S (fun S' => ∃ h41 h42 h43 h44 h45 h46 h47 f48 : Int → Int, S' = mP S [(46, h46), (41, h41), (42, h42), (43, h43), (44, h44), (45, h45), (47, h47), (48, f48)] [(40, S.1 40 + (S.1 56 - S.2 46 i))] ∧ (∀ j, 0 ≤ j → j < S.1 40 + (S.1 56 - S.2 46 i) → h41 j = spl i (S.1 56) (S.1 56 - S.2 46 i) (S.2 41) (S.2 57) j ∧ h42 j = spl i (S.1 56) (S.1 56 - S.2 46 i) (S.2 42) (S.2 58) j ∧ h43 j = spl i (S.1 56) (S.1 56 - S.2 46 i) (S.2 43) (S.2 59) j ∧ h44 j = spl i (S.1 56) (S.1 56 - S.2 46 i) (S.2 44) (S.2 60) j ∧ h45 j = spl i (S.1 56) (S.1 56 - S.2 46 i) (S.2 45) (S.2 61) j ∧ h46 j = spl i (S.1 56) (S.1 56 - S.2 46 i) (rmA i (S.1 56 - S.2 46 i) (S.2 46)) (S.2 62) j ∧ h47 j = spl i (S.1 56) (S.1 56 - S.2 46 i) (S.2 47) (S.2 63) j) ∧ TI (S.1 40 + (S.1 56 - S.2 46 i)) h41 h46 h47 f48) := by
  refine mCv_of (by decide +kernel) rfl (Nat.le_of_ble_eq_true rfl) ?_
  intro p e s m args below meth c Q X hK ret H locs ls hG hS hl
  have hl : lv_has ls 5 [(0, .ref o), (1, .int (iI (i)))] := hl
  have hnn : 1 ≤ S.1 40 ∧ S.1 40 ≤ 500 := ⟨hTW.1, hTW.2.1⟩
  have hri := hTW.r hi.1 hi.2
  refine lv_aload_n X.1 X.2.1 dX1_splice_0 rfl (lv_at hl 0 rfl) ?_
  refine mg_fresh X hK hG (S.1 56) rfl dX1_splice_1 ?_
  refine lv_aload_n X.1 X.2.1 dX1_splice_4 rfl (lv_at hl 0 rfl) ?_
  refine mg_room X hK hG dX1_splice_5 ?_
  refine lv_iload_n X.1 X.2.1 dX1_splice_8 rfl (lv_at hl 1 rfl) ?_
  refine ml_room X hK hG (S.2 46) rfl (by omega) dX1_splice_9 ?_
  refine i_sub X dX1_splice_10 ?_
  refine i_top (fun m2 e_m2 => ?_)
  refine lv_istore_n (lv' := [(2, .int (iI (m2))), (0, .ref o), (1, .int (iI (i)))]) X.1 X.2.1 dX1_splice_11 rfl hl (by decide) rfl (fun ls hl => ?_)
  refine lv_iload_n X.1 X.2.1 dX1_splice_12 rfl (lv_at hl 2 rfl) ?_
  refine lv_aload_n X.1 X.2.1 dX1_splice_13 rfl (lv_at hl 1 rfl) ?_
  refine mg_room X hK hG dX1_splice_14 ?_
  refine lv_iload_n X.1 X.2.1 dX1_splice_17 rfl (lv_at hl 2 rfl) ?_
  refine ml_room X hK hG (S.2 46) rfl (by omega) dX1_splice_18 ?_
  refine i_add X dX1_splice_19 ?_
  refine i_top (fun b e_b => ?_)
  refine lv_istore_n (lv' := [(3, .int (iI (b))), (2, .int (iI (m2))), (0, .ref o), (1, .int (iI (i)))]) X.1 X.2.1 dX1_splice_20 rfl hl (by decide) rfl (fun ls hl => ?_)
  refine lv_aload_n X.1 X.2.1 dX1_splice_21 rfl (lv_at hl 2 rfl) ?_
  refine mg_inside X hK hG dX1_splice_22 ?_
  refine lv_iload_n X.1 X.2.1 dX1_splice_25 rfl (lv_at hl 3 rfl) ?_
  refine ml_inside X hK hG (S.2 48) rfl (by omega) dX1_splice_26 ?_
  refine lv_istore (lv' := [(4, .int (iI (S.2 48 i))), (3, .int (iI (b))), (2, .int (iI (m2))), (0, .ref o), (1, .int (iI (i)))]) X.1 X.2.1 dX1_splice_27 hl (by decide) rfl (fun ls hl => ?_)
  obtain ⟨R, eR⟩ : ∃ R, R = rmA i m2 (S.2 46) := ⟨_, rfl⟩
  have hpar : ∀ k, 0 ≤ k → k ≤ i → (S.2 48 k = -9 ∨ (0 ≤ S.2 48 k ∧ S.2 48 k < k ∧ k < S.2 48 k + S.2 46 (S.2 48 k))) ∧ ∀ j, 0 ≤ j → j < k → k < j + S.2 46 j → j ≤ S.2 48 k := by
    intro k hk0 hki
    refine ⟨?_, fun j a b c => hTI.inner hTW a b (by omega) c⟩
    by_cases hz : k = 0
    · rw [hz]; exact Or.inl hTI.1
    · obtain ⟨q, j, x1, x2, x3, x4, x5, x6⟩ := hTI.2.2 k (by omega) (by omega)
      have hq := hTW.ch x1 (by omega) x3 j (by omega)
      have hq2 := (hTW.lst x1 (by omega) x3).2 j x4
      rw [x6]; right; exact ⟨x1, x2, by omega⟩
  have hpi := hpar i hi.1 (Int.le_refl _)
  have hrf0 : ∀ j, S.2 46 j = if (0 ≤ j ∧ j < i ∧ i < j + S.2 46 j) ∧ S.2 48 i < j then S.2 46 j + m2 else S.2 46 j := by
    intro j
    rw [if_neg]
    rintro ⟨⟨x1, x2, x3⟩, x4⟩
    have := hpi.2 j x1 x2 x3
    omega
  have hG : gOk D (mA o) (mH ca o (mP S [] [])) H := hG
  rw [mP_add (k := 46) (f := S.2 46) (l' := [(46, S.2 46)]) rfl rfl] at hG
  have L29 : ∀ (N29 : Nat) (l2 : Int) (rf : Int → Int), (l2 = -9 ∨ (0 ≤ l2 ∧ l2 < i ∧ i < l2 + S.2 46 l2)) → (∀ j, rf j = if (0 ≤ j ∧ j < i ∧ i < j + S.2 46 j) ∧ l2 < j then S.2 46 j + m2 else S.2 46 j) → (l2 + 10).toNat < N29 → ∀ (H : Heap) (locs : List Loc) (ls : Array Slot), gOk D (mA o) (mH ca o (mP S [(46, rf)] [])) H → va_S (mA o) s.heap H locs → lv_has ls 5 [(0, .ref o), (1, .int (iI (i))), (2, .int (iI (m2))), (3, .int (iI (b))), (4, .int (iI (l2)))] → W p l e (mR lv) s m args below meth c H locs 0 0 Q (F0 m 29 ls []) := by
    intro N29
    induction N29 with
    | zero => intro l2 rf hl2 hrf hN; exact absurd hN (Nat.not_lt_zero _)
    | succ N29 ih29 =>
      intro l2 rf hl2 hrf hN29 H locs ls hG hS hl
      refine lv_iload X.1 X.2.1 dX1_splice_29 (lv_at hl 4 rfl) ?_
      refine lv_bipush (v := iI (-9)) X.1 X.2.1 dX1_splice_31 (by decide) ?_
      refine i_icmp_eq X 59 dX1_splice_33 (by decide) (by omega) (by omega) (fun c33 => ?_) (fun c33 => ?_)
      · have hrR : rf = R := by
          funext j
          rw [hrf, eR]
          unfold rmA
          by_cases hc : 0 ≤ j ∧ j < i ∧ i < j + S.2 46 j
          · rw [if_pos hc, if_pos (by omega)]
          · rw [if_neg hc, if_neg (by omega)]
        rw [hrR] at hG
        refine lv_aload_n X.1 X.2.1 dX1_splice_59 rfl (lv_at hl 0 rfl) ?_
        refine mg_items X hK hG (S.1 40) rfl dX1_splice_60 ?_
        refine lv_iconst (v := iI (1)) X.1 X.2.1 dX1_splice_63 rfl ?_
        refine i_sub X dX1_splice_64 ?_
        refine lv_istore (lv' := [(4, .int (iI ((S.1 40) - 1))), (0, .ref o), (1, .int (iI (i))), (2, .int (iI (m2))), (3, .int (iI (b)))]) X.1 X.2.1 dX1_splice_65 hl (by decide) rfl (fun ls hl => ?_)
        have hg0 : ∀ j, S.2 41 j = (if (S.1 40 - 1) + m2 < j ∧ j < S.1 40 + m2 ∧ b + m2 ≤ j then S.2 41 (j - m2) else S.2 41 j) ∧ S.2 42 j = (if (S.1 40 - 1) + m2 < j ∧ j < S.1 40 + m2 ∧ b + m2 ≤ j then S.2 42 (j - m2) else S.2 42 j) ∧ S.2 43 j = (if (S.1 40 - 1) + m2 < j ∧ j < S.1 40 + m2 ∧ b + m2 ≤ j then S.2 43 (j - m2) else S.2 43 j) ∧ S.2 44 j = (if (S.1 40 - 1) + m2 < j ∧ j < S.1 40 + m2 ∧ b + m2 ≤ j then S.2 44 (j - m2) else S.2 44 j) ∧ S.2 45 j = (if (S.1 40 - 1) + m2 < j ∧ j < S.1 40 + m2 ∧ b + m2 ≤ j then S.2 45 (j - m2) else S.2 45 j) ∧ R j = (if (S.1 40 - 1) + m2 < j ∧ j < S.1 40 + m2 ∧ b + m2 ≤ j then R (j - m2) else R j) ∧ S.2 47 j = (if (S.1 40 - 1) + m2 < j ∧ j < S.1 40 + m2 ∧ b + m2 ≤ j then S.2 47 (j - m2) else S.2 47 j) := by
          intro j
          simp only [if_neg (show ¬ (S.1 40 - 1 + m2 < j ∧ j < S.1 40 + m2 ∧ b + m2 ≤ j) by omega), and_self]
        rw [mP_add (k := 41) (f := S.2 41) (l' := [(46, R), (41, S.2 41)]) rfl rfl, mP_add (k := 42) (f := S.2 42) (l' := [(46, R), (41, S.2 41), (42, S.2 42)]) rfl rfl, mP_add (k := 43) (f := S.2 43) (l' := [(46, R), (41, S.2 41), (42, S.2 42), (43, S.2 43)]) rfl rfl, mP_add (k := 44) (f := S.2 44) (l' := [(46, R), (41, S.2 41), (42, S.2 42), (43, S.2 43), (44, S.2 44)]) rfl rfl, mP_add (k := 45) (f := S.2 45) (l' := [(46, R), (41, S.2 41), (42, S.2 42), (43, S.2 43), (44, S.2 44), (45, S.2 45)]) rfl rfl, mP_add (k := 47) (f := S.2 47) (l' := [(46, R), (41, S.2 41), (42, S.2 42), (43, S.2 43), (44, S.2 44), (45, S.2 45), (47, S.2 47)]) rfl rfl] at hG
        have L67 : ∀ (N67 : Nat) (k1 : Int) (g41 g42 g43 g44 g45 g46 g47 : Int → Int), (b - 1 ≤ k1 ∧ k1 < S.1 40) → (m2 ≤ 0 → k1 = S.1 40 - 1) → (∀ j, g41 j = (if k1 + m2 < j ∧ j < S.1 40 + m2 ∧ b + m2 ≤ j then S.2 41 (j - m2) else S.2 41 j) ∧ g42 j = (if k1 + m2 < j ∧ j < S.1 40 + m2 ∧ b + m2 ≤ j then S.2 42 (j - m2) else S.2 42 j) ∧ g43 j = (if k1 + m2 < j ∧ j < S.1 40 + m2 ∧ b + m2 ≤ j then S.2 43 (j - m2) else S.2 43 j) ∧ g44 j = (if k1 + m2 < j ∧ j < S.1 40 + m2 ∧ b + m2 ≤ j then S.2 44 (j - m2) else S.2 44 j) ∧ g45 j = (if k1 + m2 < j ∧ j < S.1 40 + m2 ∧ b + m2 ≤ j then S.2 45 (j - m2) else S.2 45 j) ∧ g46 j = (if k1 + m2 < j ∧ j < S.1 40 + m2 ∧ b + m2 ≤ j then R (j - m2) else R j) ∧ g47 j = (if k1 + m2 < j ∧ j < S.1 40 + m2 ∧ b + m2 ≤ j then S.2 47 (j - m2) else S.2 47 j)) → (k1 + 1).toNat < N67 → ∀ (H : Heap) (locs : List Loc) (ls : Array Slot), gOk D (mA o) (mH ca o (mP S [(46, g46), (41, g41), (42, g42), (43, g43), (44, g44), (45, g45), (47, g47)] [])) H → va_S (mA o) s.heap H locs → lv_has ls 5 [(0, .ref o), (1, .int (iI (i))), (2, .int (iI (m2))), (3, .int (iI (b))), (4, .int (iI (k1)))] → W p l e (mR lv) s m args below meth c H locs 0 0 Q (F0 m 67 ls []) := by
          intro N67
          induction N67 with
          | zero => intro k1 g41 g42 g43 g44 g45 g46 g47 hk1 hk1m hg1 hN; exact absurd hN (Nat.not_lt_zero _)
          | succ N67 ih67 =>
            intro k1 g41 g42 g43 g44 g45 g46 g47 hk1 hk1m hg1 hN67 H locs ls hG hS hl
            refine lv_iload X.1 X.2.1 dX1_splice_67 (lv_at hl 4 rfl) ?_
            refine lv_iload_n X.1 X.2.1 dX1_splice_69 rfl (lv_at hl 3 rfl) ?_
            refine i_icmp_lt X 93 dX1_splice_70 (by decide) (by omega) (by omega) (fun c70 => ?_) (fun c70 => ?_)
            · refine lv_iload_n X.1 X.2.1 dX1_splice_93 rfl (lv_at hl 3 rfl) ?_
              refine lv_istore (lv' := [(4, .int (iI (b))), (0, .ref o), (1, .int (iI (i))), (2, .int (iI (m2))), (3, .int (iI (b)))]) X.1 X.2.1 dX1_splice_94 hl (by decide) rfl (fun ls hl => ?_)
              have hA96 : 0 ≤ m2 → ∀ j, ((j < b → j < b + m2 → g41 j = S.2 41 j) ∧ (b + m2 ≤ j → j < S.1 40 + m2 → g41 j = S.2 41 (j - m2))) ∧ ((j < b → j < b + m2 → g42 j = S.2 42 j) ∧ (b + m2 ≤ j → j < S.1 40 + m2 → g42 j = S.2 42 (j - m2))) ∧ ((j < b → j < b + m2 → g43 j = S.2 43 j) ∧ (b + m2 ≤ j → j < S.1 40 + m2 → g43 j = S.2 43 (j - m2))) ∧ ((j < b → j < b + m2 → g44 j = S.2 44 j) ∧ (b + m2 ≤ j → j < S.1 40 + m2 → g44 j = S.2 44 (j - m2))) ∧ ((j < b → j < b + m2 → g45 j = S.2 45 j) ∧ (b + m2 ≤ j → j < S.1 40 + m2 → g45 j = S.2 45 (j - m2))) ∧ ((j < b → j < b + m2 → g46 j = R j) ∧ (b + m2 ≤ j → j < S.1 40 + m2 → g46 j = R (j - m2))) ∧ ((j < b → j < b + m2 → g47 j = S.2 47 j) ∧ (b + m2 ≤ j → j < S.1 40 + m2 → g47 j = S.2 47 (j - m2))) := by
                intro h0 j
                obtain ⟨q0, q1, q2, q3, q4, q5, q6⟩ := hg1 j
                simp only [q0, q1, q2, q3, q4, q5, q6]
                by_cases hm0 : m2 = 0
                · subst hm0
                  simp only [Int.sub_zero, ite_self, implies_true, and_self]
                · have hk1e : k1 = b - 1 := by omega
                  refine ⟨⟨fun _ _ => if_neg (by omega), fun _ _ => if_pos (by omega)⟩, ⟨fun _ _ => if_neg (by omega), fun _ _ => if_pos (by omega)⟩, ⟨fun _ _ => if_neg (by omega), fun _ _ => if_pos (by omega)⟩, ⟨fun _ _ => if_neg (by omega), fun _ _ => if_pos (by omega)⟩, ⟨fun _ _ => if_neg (by omega), fun _ _ => if_pos (by omega)⟩, ⟨fun _ _ => if_neg (by omega), fun _ _ => if_pos (by omega)⟩, ⟨fun _ _ => if_neg (by omega), fun _ _ => if_pos (by omega)⟩⟩
              have hB96 : m2 < 0 → ∀ j, g41 j = (if b + m2 ≤ j ∧ j < b + m2 then S.2 41 (j - m2) else S.2 41 j) ∧ g42 j = (if b + m2 ≤ j ∧ j < b + m2 then S.2 42 (j - m2) else S.2 42 j) ∧ g43 j = (if b + m2 ≤ j ∧ j < b + m2 then S.2 43 (j - m2) else S.2 43 j) ∧ g44 j = (if b + m2 ≤ j ∧ j < b + m2 then S.2 44 (j - m2) else S.2 44 j) ∧ g45 j = (if b + m2 ≤ j ∧ j < b + m2 then S.2 45 (j - m2) else S.2 45 j) ∧ g46 j = (if b + m2 ≤ j ∧ j < b + m2 then R (j - m2) else R j) ∧ g47 j = (if b + m2 ≤ j ∧ j < b + m2 then S.2 47 (j - m2) else S.2 47 j) := by
                intro hneg j
                obtain ⟨q0, q1, q2, q3, q4, q5, q6⟩ := hg1 j
                have hk1e := hk1m (by omega)
                simp only [q0, q1, q2, q3, q4, q5, q6, if_neg (show ¬ (k1 + m2 < j ∧ j < S.1 40 + m2 ∧ b + m2 ≤ j) by omega), if_neg (show ¬ (b + m2 ≤ j ∧ j < b + m2) by omega), and_self]
              have L96 : ∀ (N96 : Nat) (k2 : Int) (g41 g42 g43 g44 g45 g46 g47 : Int → Int), (b ≤ k2 ∧ k2 ≤ S.1 40) → (0 ≤ m2 → ∀ j, ((j < b → j < b + m2 → g41 j = S.2 41 j) ∧ (b + m2 ≤ j → j < S.1 40 + m2 → g41 j = S.2 41 (j - m2))) ∧ ((j < b → j < b + m2 → g42 j = S.2 42 j) ∧ (b + m2 ≤ j → j < S.1 40 + m2 → g42 j = S.2 42 (j - m2))) ∧ ((j < b → j < b + m2 → g43 j = S.2 43 j) ∧ (b + m2 ≤ j → j < S.1 40 + m2 → g43 j = S.2 43 (j - m2))) ∧ ((j < b → j < b + m2 → g44 j = S.2 44 j) ∧ (b + m2 ≤ j → j < S.1 40 + m2 → g44 j = S.2 44 (j - m2))) ∧ ((j < b → j < b + m2 → g45 j = S.2 45 j) ∧ (b + m2 ≤ j → j < S.1 40 + m2 → g45 j = S.2 45 (j - m2))) ∧ ((j < b → j < b + m2 → g46 j = R j) ∧ (b + m2 ≤ j → j < S.1 40 + m2 → g46 j = R (j - m2))) ∧ ((j < b → j < b + m2 → g47 j = S.2 47 j) ∧ (b + m2 ≤ j → j < S.1 40 + m2 → g47 j = S.2 47 (j - m2)))) → (m2 < 0 → ∀ j, g41 j = (if b + m2 ≤ j ∧ j < k2 + m2 then S.2 41 (j - m2) else S.2 41 j) ∧ g42 j = (if b + m2 ≤ j ∧ j < k2 + m2 then S.2 42 (j - m2) else S.2 42 j) ∧ g43 j = (if b + m2 ≤ j ∧ j < k2 + m2 then S.2 43 (j - m2) else S.2 43 j) ∧ g44 j = (if b + m2 ≤ j ∧ j < k2 + m2 then S.2 44 (j - m2) else S.2 44 j) ∧ g45 j = (if b + m2 ≤ j ∧ j < k2 + m2 then S.2 45 (j - m2) else S.2 45 j) ∧ g46 j = (if b + m2 ≤ j ∧ j < k2 + m2 then R (j - m2) else R j) ∧ g47 j = (if b + m2 ≤ j ∧ j < k2 + m2 then S.2 47 (j - m2) else S.2 47 j)) → (S.1 40 - k2).toNat < N96 → ∀ (H : Heap) (locs : List Loc) (ls : Array Slot), gOk D (mA o) (mH ca o (mP S [(46, g46), (41, g41), (42, g42), (43, g43), (44, g44), (45, g45), (47, g47)] [])) H → va_S (mA o) s.heap H locs → lv_has ls 5 [(0, .ref o), (1, .int (iI (i))), (2, .int (iI (m2))), (3, .int (iI (b))), (4, .int (iI (k2)))] → W p l e (mR lv) s m args below meth c H locs 0 0 Q (F0 m 96 ls []) := by
                intro N96
                induction N96 with
                | zero => intro k2 g41 g42 g43 g44 g45 g46 g47 hk2 hk2m hg3 hN; exact absurd hN (Nat.not_lt_zero _)
                | succ N96 ih96 =>
                  intro k2 g41 g42 g43 g44 g45 g46 g47 hk2 hk2m hg3 hN96 H locs ls hG hS hl
                  refine lv_iload X.1 X.2.1 dX1_splice_96 (lv_at hl 4 rfl) ?_
                  refine lv_aload_n X.1 X.2.1 dX1_splice_98 rfl (lv_at hl 0 rfl) ?_
                  refine mg_items X hK hG (S.1 40) rfl dX1_splice_99 ?_
                  refine i_icmp_ge X 125 dX1_splice_102 (by decide) (by omega) (by omega) (fun c102 => ?_) (fun c102 => ?_)
                  · refine lv_iconst (v := iI (0)) X.1 X.2.1 dX1_splice_125 rfl ?_
                    refine lv_istore (lv' := [(4, .int (iI (0))), (0, .ref o), (1, .int (iI (i))), (2, .int (iI (m2))), (3, .int (iI (b)))]) X.1 X.2.1 dX1_splice_126 hl (by decide) rfl (fun ls hl => ?_)
                    have hAB : ∀ j, ((j < i → g41 j = S.2 41 j) ∧ (i + S.1 56 ≤ j → j < S.1 40 + m2 → g41 j = S.2 41 (j - m2))) ∧ ((j < i → g42 j = S.2 42 j) ∧ (i + S.1 56 ≤ j → j < S.1 40 + m2 → g42 j = S.2 42 (j - m2))) ∧ ((j < i → g43 j = S.2 43 j) ∧ (i + S.1 56 ≤ j → j < S.1 40 + m2 → g43 j = S.2 43 (j - m2))) ∧ ((j < i → g44 j = S.2 44 j) ∧ (i + S.1 56 ≤ j → j < S.1 40 + m2 → g44 j = S.2 44 (j - m2))) ∧ ((j < i → g45 j = S.2 45 j) ∧ (i + S.1 56 ≤ j → j < S.1 40 + m2 → g45 j = S.2 45 (j - m2))) ∧ ((j < i → g46 j = R j) ∧ (i + S.1 56 ≤ j → j < S.1 40 + m2 → g46 j = R (j - m2))) ∧ ((j < i → g47 j = S.2 47 j) ∧ (i + S.1 56 ≤ j → j < S.1 40 + m2 → g47 j = S.2 47 (j - m2))) := by
                      intro j
                      have hbm : b + m2 = i + S.1 56 := by omega
                      by_cases h0m : 0 ≤ m2
                      · obtain ⟨q0, q1, q2, q3, q4, q5, q6⟩ := hk2m h0m j
                        exact ⟨⟨fun x => q0.1 (by omega) (by omega), fun x y => q0.2 (by omega) y⟩, ⟨fun x => q1.1 (by omega) (by omega), fun x y => q1.2 (by omega) y⟩, ⟨fun x => q2.1 (by omega) (by omega), fun x y => q2.2 (by omega) y⟩, ⟨fun x => q3.1 (by omega) (by omega), fun x y => q3.2 (by omega) y⟩, ⟨fun x => q4.1 (by omega) (by omega), fun x y => q4.2 (by omega) y⟩, ⟨fun x => q5.1 (by omega) (by omega), fun x y => q5.2 (by omega) y⟩, ⟨fun x => q6.1 (by omega) (by omega), fun x y => q6.2 (by omega) y⟩⟩
                      · have hk2e : k2 = S.1 40 := by omega
                        obtain ⟨q0, q1, q2, q3, q4, q5, q6⟩ := hg3 (by omega) j
                        simp only [q0, q1, q2, q3, q4, q5, q6]
                        refine ⟨⟨fun _ => if_neg (by omega), fun _ _ => if_pos (by omega)⟩, ⟨fun _ => if_neg (by omega), fun _ _ => if_pos (by omega)⟩, ⟨fun _ => if_neg (by omega), fun _ _ => if_pos (by omega)⟩, ⟨fun _ => if_neg (by omega), fun _ _ => if_pos (by omega)⟩, ⟨fun _ => if_neg (by omega), fun _ _ => if_pos (by omega)⟩, ⟨fun _ => if_neg (by omega), fun _ _ => if_pos (by omega)⟩, ⟨fun _ => if_neg (by omega), fun _ _ => if_pos (by omega)⟩⟩
                    have hh0 : ∀ j, g41 j = (if i ≤ j ∧ j < i + 0 then S.2 57 (j - i) else g41 j) ∧ g42 j = (if i ≤ j ∧ j < i + 0 then S.2 58 (j - i) else g42 j) ∧ g43 j = (if i ≤ j ∧ j < i + 0 then S.2 59 (j - i) else g43 j) ∧ g44 j = (if i ≤ j ∧ j < i + 0 then S.2 60 (j - i) else g44 j) ∧ g45 j = (if i ≤ j ∧ j < i + 0 then S.2 61 (j - i) else g45 j) ∧ g46 j = (if i ≤ j ∧ j < i + 0 then S.2 62 (j - i) else g46 j) ∧ g47 j = (if i ≤ j ∧ j < i + 0 then S.2 63 (j - i) else g47 j) := by
                      intro j
                      simp only [if_neg (show ¬ (i ≤ j ∧ j < i + 0) by omega), and_self]
                    have L128 : ∀ (N128 : Nat) (k3 : Int) (h41 h42 h43 h44 h45 h46 h47 : Int → Int), (0 ≤ k3 ∧ k3 ≤ S.1 56) → (∀ j, h41 j = (if i ≤ j ∧ j < i + k3 then S.2 57 (j - i) else g41 j) ∧ h42 j = (if i ≤ j ∧ j < i + k3 then S.2 58 (j - i) else g42 j) ∧ h43 j = (if i ≤ j ∧ j < i + k3 then S.2 59 (j - i) else g43 j) ∧ h44 j = (if i ≤ j ∧ j < i + k3 then S.2 60 (j - i) else g44 j) ∧ h45 j = (if i ≤ j ∧ j < i + k3 then S.2 61 (j - i) else g45 j) ∧ h46 j = (if i ≤ j ∧ j < i + k3 then S.2 62 (j - i) else g46 j) ∧ h47 j = (if i ≤ j ∧ j < i + k3 then S.2 63 (j - i) else g47 j)) → (S.1 56 - k3).toNat < N128 → ∀ (H : Heap) (locs : List Loc) (ls : Array Slot), gOk D (mA o) (mH ca o (mP S [(46, h46), (41, h41), (42, h42), (43, h43), (44, h44), (45, h45), (47, h47)] [])) H → va_S (mA o) s.heap H locs → lv_has ls 5 [(0, .ref o), (1, .int (iI (i))), (2, .int (iI (m2))), (3, .int (iI (b))), (4, .int (iI (k3)))] → W p l e (mR lv) s m args below meth c H locs 0 0 Q (F0 m 128 ls []) := by
                      intro N128
                      induction N128 with
                      | zero => intro k3 h41 h42 h43 h44 h45 h46 h47 hk3 hh hN; exact absurd hN (Nat.not_lt_zero _)
                      | succ N128 ih128 =>
                        intro k3 h41 h42 h43 h44 h45 h46 h47 hk3 hh hN128 H locs ls hG hS hl
                        refine lv_iload X.1 X.2.1 dX1_splice_128 (lv_at hl 4 rfl) ?_
                        refine lv_aload_n X.1 X.2.1 dX1_splice_130 rfl (lv_at hl 0 rfl) ?_
                        refine mg_fresh X hK hG (S.1 56) rfl dX1_splice_131 ?_
                        refine i_icmp_ge X 255 dX1_splice_134 (by decide) (by omega) (by omega) (fun c134 => ?_) (fun c134 => ?_)
                        · have hfin : ∀ j, 0 ≤ j → j < S.1 40 + m2 → h41 j = spl i (S.1 56) m2 (S.2 41) (S.2 57) j ∧ h42 j = spl i (S.1 56) m2 (S.2 42) (S.2 58) j ∧ h43 j = spl i (S.1 56) m2 (S.2 43) (S.2 59) j ∧ h44 j = spl i (S.1 56) m2 (S.2 44) (S.2 60) j ∧ h45 j = spl i (S.1 56) m2 (S.2 45) (S.2 61) j ∧ h46 j = spl i (S.1 56) m2 (R) (S.2 62) j ∧ h47 j = spl i (S.1 56) m2 (S.2 47) (S.2 63) j := by
                            intro j hj0 hjn
                            obtain ⟨q0, q1, q2, q3, q4, q5, q6⟩ := hh j
                            obtain ⟨p0, p1, p2, p3, p4, p5, p6⟩ := hAB j
                            have hk3e : k3 = S.1 56 := by omega
                            unfold spl
                            rw [hk3e] at q0 q1 q2 q3 q4 q5 q6
                            by_cases h1 : j < i
                            · simp only [q0, q1, q2, q3, q4, q5, q6, if_pos h1, if_neg (show ¬ (i ≤ j ∧ j < i + S.1 56) by omega), p0.1 h1, p1.1 h1, p2.1 h1, p3.1 h1, p4.1 h1, p5.1 h1, p6.1 h1, and_self]
                            · by_cases h2 : j < i + S.1 56
                              · simp only [q0, q1, q2, q3, q4, q5, q6, if_neg h1, if_pos h2, if_pos (show i ≤ j ∧ j < i + S.1 56 by omega), and_self]
                              · simp only [q0, q1, q2, q3, q4, q5, q6, if_neg h1, if_neg h2, if_neg (show ¬ (i ≤ j ∧ j < i + S.1 56) by omega), p0.2 (by omega) hjn, p1.2 (by omega) hjn, p2.2 (by omega) hjn, p3.2 (by omega) hjn, p4.2 (by omega) hjn, p5.2 (by omega) hjn, p6.2 (by omega) hjn, and_self]
                          have hTWs : TW (S.1 40 + m2) h41 h46 h47 := TW_congr (show TW (S.1 40 + m2) (spl i (S.1 56) m2 (S.2 41) (S.2 57)) (spl i (S.1 56) m2 R (S.2 62)) (spl i (S.1 56) m2 (S.2 47) (S.2 63)) by rw [eR, e_m2]; exact hTW2) (fun j a b => (hfin j a b).1) (fun j a b => (hfin j a b).2.2.2.2.2.1) (fun j a b => (hfin j a b).2.2.2.2.2.2)
                          refine lv_aload_n X.1 X.2.1 dX1_splice_255 rfl (lv_at hl 0 rfl) ?_
                          refine lv_dup X.1 X.2.1 dX1_splice_256 rfl ?_
                          refine mg_items X hK hG (S.1 40) rfl dX1_splice_257 ?_
                          refine lv_iload_n X.1 X.2.1 dX1_splice_260 rfl (lv_at hl 2 rfl) ?_
                          refine i_add X dX1_splice_261 ?_
                          refine mp_items X hK hG hS dX1_splice_262 (fun H locs hG hS => ?_)
                          rw [mS_mP (sc' := [(40, (S.1 40) + m2)]) rfl] at hG
                          refine lv_aload_n X.1 X.2.1 dX1_splice_265 rfl (lv_at hl 0 rfl) ?_
                          refine m_callVv (rest := []) (n := 0) X hK hG hS (fun _ h => h) (mm_settle l D ca o (lv - 1) (mP S [(46, h46), (41, h41), (42, h42), (43, h43), (44, h44), (45, h45), (47, h47)] [(40, (S.1 40) + m2)]) (show TW (S.1 40 + m2) h41 h46 h47 from hTWs)) (lw_V q1520 q1522 qs41 q70 q1523) (by decide +kernel) rfl ⟨by show (lv - 1) + 1 ≤ lv; omega, by show 8 + (3 + 11) + 40 * (lv - 1) ≤ 40 * lv; omega⟩ ⟨Nat.le_refl _, Nat.le_refl _⟩ hl.1 rfl (Nat.le_of_ble_eq_true rfl) dX1_splice_266 (fun S1 H locs hp1 hG hS _ _ => ?_)
                          obtain ⟨f48, rfl, hTI2⟩ := hp1
                          rw [mP_mP (l' := [(46, h46), (41, h41), (42, h42), (43, h43), (44, h44), (45, h45), (47, h47), (48, f48)]) (sc' := [(40, (S.1 40) + m2)]) rfl rfl] at hG
                          refine ret _ _ _ _ _ ?_ hG hS dX1_splice_269
                          refine ⟨h41, h42, h43, h44, h45, h46, h47, f48, by rw [e_m2], ?_, by rw [← e_m2]; exact hTI2⟩
                          rw [← e_m2, ← eR]
                          exact hfin
                        · refine lv_aload_n X.1 X.2.1 dX1_splice_137 rfl (lv_at hl 0 rfl) ?_
                          refine mg_what X hK hG dX1_splice_138 ?_
                          refine lv_iload_n X.1 X.2.1 dX1_splice_141 rfl (lv_at hl 1 rfl) ?_
                          refine lv_iload X.1 X.2.1 dX1_splice_142 (lv_at hl 4 rfl) ?_
                          refine i_add X dX1_splice_144 ?_
                          refine lv_aload_n X.1 X.2.1 dX1_splice_145 rfl (lv_at hl 0 rfl) ?_
                          refine mg_fWhat X hK hG dX1_splice_146 ?_
                          refine lv_iload X.1 X.2.1 dX1_splice_149 (lv_at hl 4 rfl) ?_
                          refine ml_fWhat X hK hG (S.2 57) rfl (by omega) dX1_splice_151 ?_
                          refine ms_what X hK hG hS (by omega) dX1_splice_152 (fun H locs hG hS => ?_)
                          rw [mU_mP (l' := [(46, h46), (41, upI h41 (i + k3) (S.2 57 k3)), (42, h42), (43, h43), (44, h44), (45, h45), (47, h47)]) rfl rfl] at hG
                          refine lv_aload_n X.1 X.2.1 dX1_splice_153 rfl (lv_at hl 0 rfl) ?_
                          refine mg_worthOf X hK hG dX1_splice_154 ?_
                          refine lv_iload_n X.1 X.2.1 dX1_splice_157 rfl (lv_at hl 1 rfl) ?_
                          refine lv_iload X.1 X.2.1 dX1_splice_158 (lv_at hl 4 rfl) ?_
                          refine i_add X dX1_splice_160 ?_
                          refine lv_aload_n X.1 X.2.1 dX1_splice_161 rfl (lv_at hl 0 rfl) ?_
                          refine mg_fWorth X hK hG dX1_splice_162 ?_
                          refine lv_iload X.1 X.2.1 dX1_splice_165 (lv_at hl 4 rfl) ?_
                          refine ml_fWorth X hK hG (S.2 58) rfl (by omega) dX1_splice_167 ?_
                          refine ms_worthOf X hK hG hS (by omega) dX1_splice_168 (fun H locs hG hS => ?_)
                          rw [mU_mP (l' := [(46, h46), (41, upI h41 (i + k3) (S.2 57 k3)), (42, upI h42 (i + k3) (S.2 58 k3)), (43, h43), (44, h44), (45, h45), (47, h47)]) rfl rfl] at hG
                          refine lv_aload_n X.1 X.2.1 dX1_splice_169 rfl (lv_at hl 0 rfl) ?_
                          refine mg_mark X hK hG dX1_splice_170 ?_
                          refine lv_iload_n X.1 X.2.1 dX1_splice_173 rfl (lv_at hl 1 rfl) ?_
                          refine lv_iload X.1 X.2.1 dX1_splice_174 (lv_at hl 4 rfl) ?_
                          refine i_add X dX1_splice_176 ?_
                          refine lv_aload_n X.1 X.2.1 dX1_splice_177 rfl (lv_at hl 0 rfl) ?_
                          refine mg_fMark X hK hG dX1_splice_178 ?_
                          refine lv_iload X.1 X.2.1 dX1_splice_181 (lv_at hl 4 rfl) ?_
                          refine ml_fMark X hK hG (S.2 59) rfl (by omega) dX1_splice_183 ?_
                          refine ms_mark X hK hG hS (by omega) dX1_splice_184 (fun H locs hG hS => ?_)
                          rw [mU_mP (l' := [(46, h46), (41, upI h41 (i + k3) (S.2 57 k3)), (42, upI h42 (i + k3) (S.2 58 k3)), (43, upI h43 (i + k3) (S.2 59 k3)), (44, h44), (45, h45), (47, h47)]) rfl rfl] at hG
                          refine lv_aload_n X.1 X.2.1 dX1_splice_185 rfl (lv_at hl 0 rfl) ?_
                          refine mg_from X hK hG dX1_splice_186 ?_
                          refine lv_iload_n X.1 X.2.1 dX1_splice_189 rfl (lv_at hl 1 rfl) ?_
                          refine lv_iload X.1 X.2.1 dX1_splice_190 (lv_at hl 4 rfl) ?_
                          refine i_add X dX1_splice_192 ?_
                          refine lv_aload_n X.1 X.2.1 dX1_splice_193 rfl (lv_at hl 0 rfl) ?_
                          refine mg_fFrom X hK hG dX1_splice_194 ?_
                          refine lv_iload X.1 X.2.1 dX1_splice_197 (lv_at hl 4 rfl) ?_
                          refine ml_fFrom X hK hG (S.2 60) rfl (by omega) dX1_splice_199 ?_
                          refine ms_from X hK hG hS (by omega) dX1_splice_200 (fun H locs hG hS => ?_)
                          rw [mU_mP (l' := [(46, h46), (41, upI h41 (i + k3) (S.2 57 k3)), (42, upI h42 (i + k3) (S.2 58 k3)), (43, upI h43 (i + k3) (S.2 59 k3)), (44, upI h44 (i + k3) (S.2 60 k3)), (45, h45), (47, h47)]) rfl rfl] at hG
                          refine lv_aload_n X.1 X.2.1 dX1_splice_201 rfl (lv_at hl 0 rfl) ?_
                          refine mg_maker X hK hG dX1_splice_202 ?_
                          refine lv_iload_n X.1 X.2.1 dX1_splice_205 rfl (lv_at hl 1 rfl) ?_
                          refine lv_iload X.1 X.2.1 dX1_splice_206 (lv_at hl 4 rfl) ?_
                          refine i_add X dX1_splice_208 ?_
                          refine lv_aload_n X.1 X.2.1 dX1_splice_209 rfl (lv_at hl 0 rfl) ?_
                          refine mg_fMaker X hK hG dX1_splice_210 ?_
                          refine lv_iload X.1 X.2.1 dX1_splice_213 (lv_at hl 4 rfl) ?_
                          refine ml_fMaker X hK hG (S.2 61) rfl (by omega) dX1_splice_215 ?_
                          refine ms_maker X hK hG hS (by omega) dX1_splice_216 (fun H locs hG hS => ?_)
                          rw [mU_mP (l' := [(46, h46), (41, upI h41 (i + k3) (S.2 57 k3)), (42, upI h42 (i + k3) (S.2 58 k3)), (43, upI h43 (i + k3) (S.2 59 k3)), (44, upI h44 (i + k3) (S.2 60 k3)), (45, upI h45 (i + k3) (S.2 61 k3)), (47, h47)]) rfl rfl] at hG
                          refine lv_aload_n X.1 X.2.1 dX1_splice_217 rfl (lv_at hl 0 rfl) ?_
                          refine mg_room X hK hG dX1_splice_218 ?_
                          refine lv_iload_n X.1 X.2.1 dX1_splice_221 rfl (lv_at hl 1 rfl) ?_
                          refine lv_iload X.1 X.2.1 dX1_splice_222 (lv_at hl 4 rfl) ?_
                          refine i_add X dX1_splice_224 ?_
                          refine lv_aload_n X.1 X.2.1 dX1_splice_225 rfl (lv_at hl 0 rfl) ?_
                          refine mg_fRoom X hK hG dX1_splice_226 ?_
                          refine lv_iload X.1 X.2.1 dX1_splice_229 (lv_at hl 4 rfl) ?_
                          refine ml_fRoom X hK hG (S.2 62) rfl (by omega) dX1_splice_231 ?_
                          refine ms_room X hK hG hS (by omega) dX1_splice_232 (fun H locs hG hS => ?_)
                          rw [mU_mP (l' := [(46, upI h46 (i + k3) (S.2 62 k3)), (41, upI h41 (i + k3) (S.2 57 k3)), (42, upI h42 (i + k3) (S.2 58 k3)), (43, upI h43 (i + k3) (S.2 59 k3)), (44, upI h44 (i + k3) (S.2 60 k3)), (45, upI h45 (i + k3) (S.2 61 k3)), (47, h47)]) rfl rfl] at hG
                          refine lv_aload_n X.1 X.2.1 dX1_splice_233 rfl (lv_at hl 0 rfl) ?_
                          refine mg_parts X hK hG dX1_splice_234 ?_
                          refine lv_iload_n X.1 X.2.1 dX1_splice_237 rfl (lv_at hl 1 rfl) ?_
                          refine lv_iload X.1 X.2.1 dX1_splice_238 (lv_at hl 4 rfl) ?_
                          refine i_add X dX1_splice_240 ?_
                          refine lv_aload_n X.1 X.2.1 dX1_splice_241 rfl (lv_at hl 0 rfl) ?_
                          refine mg_fParts X hK hG dX1_splice_242 ?_
                          refine lv_iload X.1 X.2.1 dX1_splice_245 (lv_at hl 4 rfl) ?_
                          refine ml_fParts X hK hG (S.2 63) rfl (by omega) dX1_splice_247 ?_
                          refine ms_parts X hK hG hS (by omega) dX1_splice_248 (fun H locs hG hS => ?_)
                          rw [mU_mP (l' := [(46, upI h46 (i + k3) (S.2 62 k3)), (41, upI h41 (i + k3) (S.2 57 k3)), (42, upI h42 (i + k3) (S.2 58 k3)), (43, upI h43 (i + k3) (S.2 59 k3)), (44, upI h44 (i + k3) (S.2 60 k3)), (45, upI h45 (i + k3) (S.2 61 k3)), (47, upI h47 (i + k3) (S.2 63 k3))]) rfl rfl] at hG
                          refine i_inc (lv' := [(4, .int (iI (k3 + 1))), (0, .ref o), (1, .int (iI (i))), (2, .int (iI (m2))), (3, .int (iI (b)))]) X dX1_splice_249 hl (k := 4) rfl (by decide) rfl (fun ls hl => ?_)
                          refine lv_goto (tgt := 128) X.1 X.2.1 dX1_splice_252 (by decide) ?_
                          have hh2 : ∀ j, (upI h41 (i + k3) (S.2 57 k3)) j = (if i ≤ j ∧ j < i + (k3 + 1) then S.2 57 (j - i) else g41 j) ∧ (upI h42 (i + k3) (S.2 58 k3)) j = (if i ≤ j ∧ j < i + (k3 + 1) then S.2 58 (j - i) else g42 j) ∧ (upI h43 (i + k3) (S.2 59 k3)) j = (if i ≤ j ∧ j < i + (k3 + 1) then S.2 59 (j - i) else g43 j) ∧ (upI h44 (i + k3) (S.2 60 k3)) j = (if i ≤ j ∧ j < i + (k3 + 1) then S.2 60 (j - i) else g44 j) ∧ (upI h45 (i + k3) (S.2 61 k3)) j = (if i ≤ j ∧ j < i + (k3 + 1) then S.2 61 (j - i) else g45 j) ∧ (upI h46 (i + k3) (S.2 62 k3)) j = (if i ≤ j ∧ j < i + (k3 + 1) then S.2 62 (j - i) else g46 j) ∧ (upI h47 (i + k3) (S.2 63 k3)) j = (if i ≤ j ∧ j < i + (k3 + 1) then S.2 63 (j - i) else g47 j) := by
                            intro j
                            obtain ⟨q0, q1, q2, q3, q4, q5, q6⟩ := hh j
                            by_cases hj : j = i + k3
                            · simp only [hj, upI_s, if_pos (show i ≤ i + k3 ∧ i + k3 < i + (k3 + 1) by omega), show i + k3 - i = k3 by omega, and_self]
                            · simp only [upI_n hj, q0, q1, q2, q3, q4, q5, q6]
                              by_cases hc : i ≤ j ∧ j < i + k3
                              · simp only [if_pos hc, if_pos (show i ≤ j ∧ j < i + (k3 + 1) by omega), and_self]
                              · simp only [if_neg hc, if_neg (show ¬ (i ≤ j ∧ j < i + (k3 + 1)) by omega), and_self]
                          exact ih128 (k3 + 1) (upI h41 (i + k3) (S.2 57 k3)) (upI h42 (i + k3) (S.2 58 k3)) (upI h43 (i + k3) (S.2 59 k3)) (upI h44 (i + k3) (S.2 60 k3)) (upI h45 (i + k3) (S.2 61 k3)) (upI h46 (i + k3) (S.2 62 k3)) (upI h47 (i + k3) (S.2 63 k3)) (by omega) hh2 (by omega) H locs ls hG hS (lv_sub hl [1, 2, 3, 4, 0] rfl)
                    exact L128 _ 0 g41 g42 g43 g44 g45 g46 g47 (by omega) hh0 (Nat.lt_succ_self _) H locs ls hG hS (lv_sub hl [1, 2, 3, 4, 0] rfl)
                  · refine lv_iload_n X.1 X.2.1 dX1_splice_105 rfl (lv_at hl 2 rfl) ?_
                    refine i_if_ge X 125 dX1_splice_106 (by decide) (by omega) (fun c106 => ?_) (fun c106 => ?_)
                    · refine lv_iconst (v := iI (0)) X.1 X.2.1 dX1_splice_125 rfl ?_
                      refine lv_istore (lv' := [(4, .int (iI (0))), (0, .ref o), (1, .int (iI (i))), (2, .int (iI (m2))), (3, .int (iI (b)))]) X.1 X.2.1 dX1_splice_126 hl (by decide) rfl (fun ls hl => ?_)
                      have hAB : ∀ j, ((j < i → g41 j = S.2 41 j) ∧ (i + S.1 56 ≤ j → j < S.1 40 + m2 → g41 j = S.2 41 (j - m2))) ∧ ((j < i → g42 j = S.2 42 j) ∧ (i + S.1 56 ≤ j → j < S.1 40 + m2 → g42 j = S.2 42 (j - m2))) ∧ ((j < i → g43 j = S.2 43 j) ∧ (i + S.1 56 ≤ j → j < S.1 40 + m2 → g43 j = S.2 43 (j - m2))) ∧ ((j < i → g44 j = S.2 44 j) ∧ (i + S.1 56 ≤ j → j < S.1 40 + m2 → g44 j = S.2 44 (j - m2))) ∧ ((j < i → g45 j = S.2 45 j) ∧ (i + S.1 56 ≤ j → j < S.1 40 + m2 → g45 j = S.2 45 (j - m2))) ∧ ((j < i → g46 j = R j) ∧ (i + S.1 56 ≤ j → j < S.1 40 + m2 → g46 j = R (j - m2))) ∧ ((j < i → g47 j = S.2 47 j) ∧ (i + S.1 56 ≤ j → j < S.1 40 + m2 → g47 j = S.2 47 (j - m2))) := by
                        intro j
                        have hbm : b + m2 = i + S.1 56 := by omega
                        by_cases h0m : 0 ≤ m2
                        · obtain ⟨q0, q1, q2, q3, q4, q5, q6⟩ := hk2m h0m j
                          exact ⟨⟨fun x => q0.1 (by omega) (by omega), fun x y => q0.2 (by omega) y⟩, ⟨fun x => q1.1 (by omega) (by omega), fun x y => q1.2 (by omega) y⟩, ⟨fun x => q2.1 (by omega) (by omega), fun x y => q2.2 (by omega) y⟩, ⟨fun x => q3.1 (by omega) (by omega), fun x y => q3.2 (by omega) y⟩, ⟨fun x => q4.1 (by omega) (by omega), fun x y => q4.2 (by omega) y⟩, ⟨fun x => q5.1 (by omega) (by omega), fun x y => q5.2 (by omega) y⟩, ⟨fun x => q6.1 (by omega) (by omega), fun x y => q6.2 (by omega) y⟩⟩
                        · have hk2e : k2 = S.1 40 := by omega
                          obtain ⟨q0, q1, q2, q3, q4, q5, q6⟩ := hg3 (by omega) j
                          simp only [q0, q1, q2, q3, q4, q5, q6]
                          refine ⟨⟨fun _ => if_neg (by omega), fun _ _ => if_pos (by omega)⟩, ⟨fun _ => if_neg (by omega), fun _ _ => if_pos (by omega)⟩, ⟨fun _ => if_neg (by omega), fun _ _ => if_pos (by omega)⟩, ⟨fun _ => if_neg (by omega), fun _ _ => if_pos (by omega)⟩, ⟨fun _ => if_neg (by omega), fun _ _ => if_pos (by omega)⟩, ⟨fun _ => if_neg (by omega), fun _ _ => if_pos (by omega)⟩, ⟨fun _ => if_neg (by omega), fun _ _ => if_pos (by omega)⟩⟩
                      have hh0 : ∀ j, g41 j = (if i ≤ j ∧ j < i + 0 then S.2 57 (j - i) else g41 j) ∧ g42 j = (if i ≤ j ∧ j < i + 0 then S.2 58 (j - i) else g42 j) ∧ g43 j = (if i ≤ j ∧ j < i + 0 then S.2 59 (j - i) else g43 j) ∧ g44 j = (if i ≤ j ∧ j < i + 0 then S.2 60 (j - i) else g44 j) ∧ g45 j = (if i ≤ j ∧ j < i + 0 then S.2 61 (j - i) else g45 j) ∧ g46 j = (if i ≤ j ∧ j < i + 0 then S.2 62 (j - i) else g46 j) ∧ g47 j = (if i ≤ j ∧ j < i + 0 then S.2 63 (j - i) else g47 j) := by
                        intro j
                        simp only [if_neg (show ¬ (i ≤ j ∧ j < i + 0) by omega), and_self]
                      have L128 : ∀ (N128 : Nat) (k3 : Int) (h41 h42 h43 h44 h45 h46 h47 : Int → Int), (0 ≤ k3 ∧ k3 ≤ S.1 56) → (∀ j, h41 j = (if i ≤ j ∧ j < i + k3 then S.2 57 (j - i) else g41 j) ∧ h42 j = (if i ≤ j ∧ j < i + k3 then S.2 58 (j - i) else g42 j) ∧ h43 j = (if i ≤ j ∧ j < i + k3 then S.2 59 (j - i) else g43 j) ∧ h44 j = (if i ≤ j ∧ j < i + k3 then S.2 60 (j - i) else g44 j) ∧ h45 j = (if i ≤ j ∧ j < i + k3 then S.2 61 (j - i) else g45 j) ∧ h46 j = (if i ≤ j ∧ j < i + k3 then S.2 62 (j - i) else g46 j) ∧ h47 j = (if i ≤ j ∧ j < i + k3 then S.2 63 (j - i) else g47 j)) → (S.1 56 - k3).toNat < N128 → ∀ (H : Heap) (locs : List Loc) (ls : Array Slot), gOk D (mA o) (mH ca o (mP S [(46, h46), (41, h41), (42, h42), (43, h43), (44, h44), (45, h45), (47, h47)] [])) H → va_S (mA o) s.heap H locs → lv_has ls 5 [(0, .ref o), (1, .int (iI (i))), (2, .int (iI (m2))), (3, .int (iI (b))), (4, .int (iI (k3)))] → W p l e (mR lv) s m args below meth c H locs 0 0 Q (F0 m 128 ls []) := by
                        intro N128
                        induction N128 with
                        | zero => intro k3 h41 h42 h43 h44 h45 h46 h47 hk3 hh hN; exact absurd hN (Nat.not_lt_zero _)
                        | succ N128 ih128 =>
                          intro k3 h41 h42 h43 h44 h45 h46 h47 hk3 hh hN128 H locs ls hG hS hl
                          refine lv_iload X.1 X.2.1 dX1_splice_128 (lv_at hl 4 rfl) ?_
                          refine lv_aload_n X.1 X.2.1 dX1_splice_130 rfl (lv_at hl 0 rfl) ?_
                          refine mg_fresh X hK hG (S.1 56) rfl dX1_splice_131 ?_
                          refine i_icmp_ge X 255 dX1_splice_134 (by decide) (by omega) (by omega) (fun c134 => ?_) (fun c134 => ?_)
                          · have hfin : ∀ j, 0 ≤ j → j < S.1 40 + m2 → h41 j = spl i (S.1 56) m2 (S.2 41) (S.2 57) j ∧ h42 j = spl i (S.1 56) m2 (S.2 42) (S.2 58) j ∧ h43 j = spl i (S.1 56) m2 (S.2 43) (S.2 59) j ∧ h44 j = spl i (S.1 56) m2 (S.2 44) (S.2 60) j ∧ h45 j = spl i (S.1 56) m2 (S.2 45) (S.2 61) j ∧ h46 j = spl i (S.1 56) m2 (R) (S.2 62) j ∧ h47 j = spl i (S.1 56) m2 (S.2 47) (S.2 63) j := by
                              intro j hj0 hjn
                              obtain ⟨q0, q1, q2, q3, q4, q5, q6⟩ := hh j
                              obtain ⟨p0, p1, p2, p3, p4, p5, p6⟩ := hAB j
                              have hk3e : k3 = S.1 56 := by omega
                              unfold spl
                              rw [hk3e] at q0 q1 q2 q3 q4 q5 q6
                              by_cases h1 : j < i
                              · simp only [q0, q1, q2, q3, q4, q5, q6, if_pos h1, if_neg (show ¬ (i ≤ j ∧ j < i + S.1 56) by omega), p0.1 h1, p1.1 h1, p2.1 h1, p3.1 h1, p4.1 h1, p5.1 h1, p6.1 h1, and_self]
                              · by_cases h2 : j < i + S.1 56
                                · simp only [q0, q1, q2, q3, q4, q5, q6, if_neg h1, if_pos h2, if_pos (show i ≤ j ∧ j < i + S.1 56 by omega), and_self]
                                · simp only [q0, q1, q2, q3, q4, q5, q6, if_neg h1, if_neg h2, if_neg (show ¬ (i ≤ j ∧ j < i + S.1 56) by omega), p0.2 (by omega) hjn, p1.2 (by omega) hjn, p2.2 (by omega) hjn, p3.2 (by omega) hjn, p4.2 (by omega) hjn, p5.2 (by omega) hjn, p6.2 (by omega) hjn, and_self]
                            have hTWs : TW (S.1 40 + m2) h41 h46 h47 := TW_congr (show TW (S.1 40 + m2) (spl i (S.1 56) m2 (S.2 41) (S.2 57)) (spl i (S.1 56) m2 R (S.2 62)) (spl i (S.1 56) m2 (S.2 47) (S.2 63)) by rw [eR, e_m2]; exact hTW2) (fun j a b => (hfin j a b).1) (fun j a b => (hfin j a b).2.2.2.2.2.1) (fun j a b => (hfin j a b).2.2.2.2.2.2)
                            refine lv_aload_n X.1 X.2.1 dX1_splice_255 rfl (lv_at hl 0 rfl) ?_
                            refine lv_dup X.1 X.2.1 dX1_splice_256 rfl ?_
                            refine mg_items X hK hG (S.1 40) rfl dX1_splice_257 ?_
                            refine lv_iload_n X.1 X.2.1 dX1_splice_260 rfl (lv_at hl 2 rfl) ?_
                            refine i_add X dX1_splice_261 ?_
                            refine mp_items X hK hG hS dX1_splice_262 (fun H locs hG hS => ?_)
                            rw [mS_mP (sc' := [(40, (S.1 40) + m2)]) rfl] at hG
                            refine lv_aload_n X.1 X.2.1 dX1_splice_265 rfl (lv_at hl 0 rfl) ?_
                            refine m_callVv (rest := []) (n := 0) X hK hG hS (fun _ h => h) (mm_settle l D ca o (lv - 1) (mP S [(46, h46), (41, h41), (42, h42), (43, h43), (44, h44), (45, h45), (47, h47)] [(40, (S.1 40) + m2)]) (show TW (S.1 40 + m2) h41 h46 h47 from hTWs)) (lw_V q1520 q1522 qs41 q70 q1523) (by decide +kernel) rfl ⟨by show (lv - 1) + 1 ≤ lv; omega, by show 8 + (3 + 11) + 40 * (lv - 1) ≤ 40 * lv; omega⟩ ⟨Nat.le_refl _, Nat.le_refl _⟩ hl.1 rfl (Nat.le_of_ble_eq_true rfl) dX1_splice_266 (fun S2 H locs hp2 hG hS _ _ => ?_)
                            obtain ⟨f48, rfl, hTI2⟩ := hp2
                            rw [mP_mP (l' := [(46, h46), (41, h41), (42, h42), (43, h43), (44, h44), (45, h45), (47, h47), (48, f48)]) (sc' := [(40, (S.1 40) + m2)]) rfl rfl] at hG
                            refine ret _ _ _ _ _ ?_ hG hS dX1_splice_269
                            refine ⟨h41, h42, h43, h44, h45, h46, h47, f48, by rw [e_m2], ?_, by rw [← e_m2]; exact hTI2⟩
                            rw [← e_m2, ← eR]
                            exact hfin
                          · refine lv_aload_n X.1 X.2.1 dX1_splice_137 rfl (lv_at hl 0 rfl) ?_
                            refine mg_what X hK hG dX1_splice_138 ?_
                            refine lv_iload_n X.1 X.2.1 dX1_splice_141 rfl (lv_at hl 1 rfl) ?_
                            refine lv_iload X.1 X.2.1 dX1_splice_142 (lv_at hl 4 rfl) ?_
                            refine i_add X dX1_splice_144 ?_
                            refine lv_aload_n X.1 X.2.1 dX1_splice_145 rfl (lv_at hl 0 rfl) ?_
                            refine mg_fWhat X hK hG dX1_splice_146 ?_
                            refine lv_iload X.1 X.2.1 dX1_splice_149 (lv_at hl 4 rfl) ?_
                            refine ml_fWhat X hK hG (S.2 57) rfl (by omega) dX1_splice_151 ?_
                            refine ms_what X hK hG hS (by omega) dX1_splice_152 (fun H locs hG hS => ?_)
                            rw [mU_mP (l' := [(46, h46), (41, upI h41 (i + k3) (S.2 57 k3)), (42, h42), (43, h43), (44, h44), (45, h45), (47, h47)]) rfl rfl] at hG
                            refine lv_aload_n X.1 X.2.1 dX1_splice_153 rfl (lv_at hl 0 rfl) ?_
                            refine mg_worthOf X hK hG dX1_splice_154 ?_
                            refine lv_iload_n X.1 X.2.1 dX1_splice_157 rfl (lv_at hl 1 rfl) ?_
                            refine lv_iload X.1 X.2.1 dX1_splice_158 (lv_at hl 4 rfl) ?_
                            refine i_add X dX1_splice_160 ?_
                            refine lv_aload_n X.1 X.2.1 dX1_splice_161 rfl (lv_at hl 0 rfl) ?_
                            refine mg_fWorth X hK hG dX1_splice_162 ?_
                            refine lv_iload X.1 X.2.1 dX1_splice_165 (lv_at hl 4 rfl) ?_
                            refine ml_fWorth X hK hG (S.2 58) rfl (by omega) dX1_splice_167 ?_
                            refine ms_worthOf X hK hG hS (by omega) dX1_splice_168 (fun H locs hG hS => ?_)
                            rw [mU_mP (l' := [(46, h46), (41, upI h41 (i + k3) (S.2 57 k3)), (42, upI h42 (i + k3) (S.2 58 k3)), (43, h43), (44, h44), (45, h45), (47, h47)]) rfl rfl] at hG
                            refine lv_aload_n X.1 X.2.1 dX1_splice_169 rfl (lv_at hl 0 rfl) ?_
                            refine mg_mark X hK hG dX1_splice_170 ?_
                            refine lv_iload_n X.1 X.2.1 dX1_splice_173 rfl (lv_at hl 1 rfl) ?_
                            refine lv_iload X.1 X.2.1 dX1_splice_174 (lv_at hl 4 rfl) ?_
                            refine i_add X dX1_splice_176 ?_
                            refine lv_aload_n X.1 X.2.1 dX1_splice_177 rfl (lv_at hl 0 rfl) ?_
                            refine mg_fMark X hK hG dX1_splice_178 ?_
                            refine lv_iload X.1 X.2.1 dX1_splice_181 (lv_at hl 4 rfl) ?_
                            refine ml_fMark X hK hG (S.2 59) rfl (by omega) dX1_splice_183 ?_
                            refine ms_mark X hK hG hS (by omega) dX1_splice_184 (fun H locs hG hS => ?_)
                            rw [mU_mP (l' := [(46, h46), (41, upI h41 (i + k3) (S.2 57 k3)), (42, upI h42 (i + k3) (S.2 58 k3)), (43, upI h43 (i + k3) (S.2 59 k3)), (44, h44), (45, h45), (47, h47)]) rfl rfl] at hG
                            refine lv_aload_n X.1 X.2.1 dX1_splice_185 rfl (lv_at hl 0 rfl) ?_
                            refine mg_from X hK hG dX1_splice_186 ?_
                            refine lv_iload_n X.1 X.2.1 dX1_splice_189 rfl (lv_at hl 1 rfl) ?_
                            refine lv_iload X.1 X.2.1 dX1_splice_190 (lv_at hl 4 rfl) ?_
                            refine i_add X dX1_splice_192 ?_
                            refine lv_aload_n X.1 X.2.1 dX1_splice_193 rfl (lv_at hl 0 rfl) ?_
                            refine mg_fFrom X hK hG dX1_splice_194 ?_
                            refine lv_iload X.1 X.2.1 dX1_splice_197 (lv_at hl 4 rfl) ?_
                            refine ml_fFrom X hK hG (S.2 60) rfl (by omega) dX1_splice_199 ?_
                            refine ms_from X hK hG hS (by omega) dX1_splice_200 (fun H locs hG hS => ?_)
                            rw [mU_mP (l' := [(46, h46), (41, upI h41 (i + k3) (S.2 57 k3)), (42, upI h42 (i + k3) (S.2 58 k3)), (43, upI h43 (i + k3) (S.2 59 k3)), (44, upI h44 (i + k3) (S.2 60 k3)), (45, h45), (47, h47)]) rfl rfl] at hG
                            refine lv_aload_n X.1 X.2.1 dX1_splice_201 rfl (lv_at hl 0 rfl) ?_
                            refine mg_maker X hK hG dX1_splice_202 ?_
                            refine lv_iload_n X.1 X.2.1 dX1_splice_205 rfl (lv_at hl 1 rfl) ?_
                            refine lv_iload X.1 X.2.1 dX1_splice_206 (lv_at hl 4 rfl) ?_
                            refine i_add X dX1_splice_208 ?_
                            refine lv_aload_n X.1 X.2.1 dX1_splice_209 rfl (lv_at hl 0 rfl) ?_
                            refine mg_fMaker X hK hG dX1_splice_210 ?_
                            refine lv_iload X.1 X.2.1 dX1_splice_213 (lv_at hl 4 rfl) ?_
                            refine ml_fMaker X hK hG (S.2 61) rfl (by omega) dX1_splice_215 ?_
                            refine ms_maker X hK hG hS (by omega) dX1_splice_216 (fun H locs hG hS => ?_)
                            rw [mU_mP (l' := [(46, h46), (41, upI h41 (i + k3) (S.2 57 k3)), (42, upI h42 (i + k3) (S.2 58 k3)), (43, upI h43 (i + k3) (S.2 59 k3)), (44, upI h44 (i + k3) (S.2 60 k3)), (45, upI h45 (i + k3) (S.2 61 k3)), (47, h47)]) rfl rfl] at hG
                            refine lv_aload_n X.1 X.2.1 dX1_splice_217 rfl (lv_at hl 0 rfl) ?_
                            refine mg_room X hK hG dX1_splice_218 ?_
                            refine lv_iload_n X.1 X.2.1 dX1_splice_221 rfl (lv_at hl 1 rfl) ?_
                            refine lv_iload X.1 X.2.1 dX1_splice_222 (lv_at hl 4 rfl) ?_
                            refine i_add X dX1_splice_224 ?_
                            refine lv_aload_n X.1 X.2.1 dX1_splice_225 rfl (lv_at hl 0 rfl) ?_
                            refine mg_fRoom X hK hG dX1_splice_226 ?_
                            refine lv_iload X.1 X.2.1 dX1_splice_229 (lv_at hl 4 rfl) ?_
                            refine ml_fRoom X hK hG (S.2 62) rfl (by omega) dX1_splice_231 ?_
                            refine ms_room X hK hG hS (by omega) dX1_splice_232 (fun H locs hG hS => ?_)
                            rw [mU_mP (l' := [(46, upI h46 (i + k3) (S.2 62 k3)), (41, upI h41 (i + k3) (S.2 57 k3)), (42, upI h42 (i + k3) (S.2 58 k3)), (43, upI h43 (i + k3) (S.2 59 k3)), (44, upI h44 (i + k3) (S.2 60 k3)), (45, upI h45 (i + k3) (S.2 61 k3)), (47, h47)]) rfl rfl] at hG
                            refine lv_aload_n X.1 X.2.1 dX1_splice_233 rfl (lv_at hl 0 rfl) ?_
                            refine mg_parts X hK hG dX1_splice_234 ?_
                            refine lv_iload_n X.1 X.2.1 dX1_splice_237 rfl (lv_at hl 1 rfl) ?_
                            refine lv_iload X.1 X.2.1 dX1_splice_238 (lv_at hl 4 rfl) ?_
                            refine i_add X dX1_splice_240 ?_
                            refine lv_aload_n X.1 X.2.1 dX1_splice_241 rfl (lv_at hl 0 rfl) ?_
                            refine mg_fParts X hK hG dX1_splice_242 ?_
                            refine lv_iload X.1 X.2.1 dX1_splice_245 (lv_at hl 4 rfl) ?_
                            refine ml_fParts X hK hG (S.2 63) rfl (by omega) dX1_splice_247 ?_
                            refine ms_parts X hK hG hS (by omega) dX1_splice_248 (fun H locs hG hS => ?_)
                            rw [mU_mP (l' := [(46, upI h46 (i + k3) (S.2 62 k3)), (41, upI h41 (i + k3) (S.2 57 k3)), (42, upI h42 (i + k3) (S.2 58 k3)), (43, upI h43 (i + k3) (S.2 59 k3)), (44, upI h44 (i + k3) (S.2 60 k3)), (45, upI h45 (i + k3) (S.2 61 k3)), (47, upI h47 (i + k3) (S.2 63 k3))]) rfl rfl] at hG
                            refine i_inc (lv' := [(4, .int (iI (k3 + 1))), (0, .ref o), (1, .int (iI (i))), (2, .int (iI (m2))), (3, .int (iI (b)))]) X dX1_splice_249 hl (k := 4) rfl (by decide) rfl (fun ls hl => ?_)
                            refine lv_goto (tgt := 128) X.1 X.2.1 dX1_splice_252 (by decide) ?_
                            have hh2 : ∀ j, (upI h41 (i + k3) (S.2 57 k3)) j = (if i ≤ j ∧ j < i + (k3 + 1) then S.2 57 (j - i) else g41 j) ∧ (upI h42 (i + k3) (S.2 58 k3)) j = (if i ≤ j ∧ j < i + (k3 + 1) then S.2 58 (j - i) else g42 j) ∧ (upI h43 (i + k3) (S.2 59 k3)) j = (if i ≤ j ∧ j < i + (k3 + 1) then S.2 59 (j - i) else g43 j) ∧ (upI h44 (i + k3) (S.2 60 k3)) j = (if i ≤ j ∧ j < i + (k3 + 1) then S.2 60 (j - i) else g44 j) ∧ (upI h45 (i + k3) (S.2 61 k3)) j = (if i ≤ j ∧ j < i + (k3 + 1) then S.2 61 (j - i) else g45 j) ∧ (upI h46 (i + k3) (S.2 62 k3)) j = (if i ≤ j ∧ j < i + (k3 + 1) then S.2 62 (j - i) else g46 j) ∧ (upI h47 (i + k3) (S.2 63 k3)) j = (if i ≤ j ∧ j < i + (k3 + 1) then S.2 63 (j - i) else g47 j) := by
                              intro j
                              obtain ⟨q0, q1, q2, q3, q4, q5, q6⟩ := hh j
                              by_cases hj : j = i + k3
                              · simp only [hj, upI_s, if_pos (show i ≤ i + k3 ∧ i + k3 < i + (k3 + 1) by omega), show i + k3 - i = k3 by omega, and_self]
                              · simp only [upI_n hj, q0, q1, q2, q3, q4, q5, q6]
                                by_cases hc : i ≤ j ∧ j < i + k3
                                · simp only [if_pos hc, if_pos (show i ≤ j ∧ j < i + (k3 + 1) by omega), and_self]
                                · simp only [if_neg hc, if_neg (show ¬ (i ≤ j ∧ j < i + (k3 + 1)) by omega), and_self]
                            exact ih128 (k3 + 1) (upI h41 (i + k3) (S.2 57 k3)) (upI h42 (i + k3) (S.2 58 k3)) (upI h43 (i + k3) (S.2 59 k3)) (upI h44 (i + k3) (S.2 60 k3)) (upI h45 (i + k3) (S.2 61 k3)) (upI h46 (i + k3) (S.2 62 k3)) (upI h47 (i + k3) (S.2 63 k3)) (by omega) hh2 (by omega) H locs ls hG hS (lv_sub hl [1, 2, 3, 4, 0] rfl)
                      exact L128 _ 0 g41 g42 g43 g44 g45 g46 g47 (by omega) hh0 (Nat.lt_succ_self _) H locs ls hG hS (lv_sub hl [1, 2, 3, 4, 0] rfl)
                    · refine lv_aload_n X.1 X.2.1 dX1_splice_109 rfl (lv_at hl 0 rfl) ?_
                      refine lv_iload X.1 X.2.1 dX1_splice_110 (lv_at hl 4 rfl) ?_
                      refine lv_iload X.1 X.2.1 dX1_splice_112 (lv_at hl 4 rfl) ?_
                      refine lv_iload_n X.1 X.2.1 dX1_splice_114 rfl (lv_at hl 2 rfl) ?_
                      refine i_add X dX1_splice_115 ?_
                      refine m_callVv (rest := []) (n := 2) X hK hG hS (fun _ h => h) (mm_move l D ca o (lv - 1) (mP S [(46, g46), (41, g41), (42, g42), (43, g43), (44, g44), (45, g45), (47, g47)] []) k2 (k2 + m2) (by omega) (by omega)) (lw_V q1636 q1638 qs63 q70 q1639) (by decide +kernel) rfl ⟨by show (lv - 1) + 1 ≤ lv; omega, by show 8 + (3 + 11) + 40 * (lv - 1) ≤ 40 * lv; omega⟩ ⟨Nat.le_refl _, Nat.le_refl _⟩ hl.1 rfl (Nat.le_of_ble_eq_true rfl) dX1_splice_116 (fun S3 H locs hp3 hG hS _ _ => ?_)
                      obtain rfl := hp3
                      rw [mP_mP (l' := [(46, upI g46 (k2 + m2) (g46 k2)), (41, upI g41 (k2 + m2) (g41 k2)), (42, upI g42 (k2 + m2) (g42 k2)), (43, upI g43 (k2 + m2) (g43 k2)), (44, upI g44 (k2 + m2) (g44 k2)), (45, upI g45 (k2 + m2) (g45 k2)), (47, upI g47 (k2 + m2) (g47 k2))]) (sc' := []) rfl rfl] at hG
                      refine i_inc (lv' := [(4, .int (iI (k2 + 1))), (0, .ref o), (1, .int (iI (i))), (2, .int (iI (m2))), (3, .int (iI (b)))]) X dX1_splice_119 hl (k := 4) rfl (by decide) rfl (fun ls hl => ?_)
                      refine lv_goto (tgt := 96) X.1 X.2.1 dX1_splice_122 (by decide) ?_
                      have hg4 : m2 < 0 → ∀ j, (upI g41 (k2 + m2) (g41 k2)) j = (if b + m2 ≤ j ∧ j < (k2 + 1) + m2 then S.2 41 (j - m2) else S.2 41 j) ∧ (upI g42 (k2 + m2) (g42 k2)) j = (if b + m2 ≤ j ∧ j < (k2 + 1) + m2 then S.2 42 (j - m2) else S.2 42 j) ∧ (upI g43 (k2 + m2) (g43 k2)) j = (if b + m2 ≤ j ∧ j < (k2 + 1) + m2 then S.2 43 (j - m2) else S.2 43 j) ∧ (upI g44 (k2 + m2) (g44 k2)) j = (if b + m2 ≤ j ∧ j < (k2 + 1) + m2 then S.2 44 (j - m2) else S.2 44 j) ∧ (upI g45 (k2 + m2) (g45 k2)) j = (if b + m2 ≤ j ∧ j < (k2 + 1) + m2 then S.2 45 (j - m2) else S.2 45 j) ∧ (upI g46 (k2 + m2) (g46 k2)) j = (if b + m2 ≤ j ∧ j < (k2 + 1) + m2 then R (j - m2) else R j) ∧ (upI g47 (k2 + m2) (g47 k2)) j = (if b + m2 ≤ j ∧ j < (k2 + 1) + m2 then S.2 47 (j - m2) else S.2 47 j) := by
                        intro hneg j
                        obtain ⟨q0, q1, q2, q3, q4, q5, q6⟩ := hg3 hneg j
                        obtain ⟨p0, p1, p2, p3, p4, p5, p6⟩ := hg3 hneg k2
                        rw [if_neg (by omega)] at p0 p1 p2 p3 p4 p5 p6
                        by_cases hj : j = k2 + m2
                        · simp only [hj, upI_s, p0, p1, p2, p3, p4, p5, p6, if_pos (show b + m2 ≤ k2 + m2 ∧ k2 + m2 < k2 + 1 + m2 by omega), show k2 + m2 - m2 = k2 by omega, and_self]
                        · simp only [upI_n hj, q0, q1, q2, q3, q4, q5, q6]
                          by_cases hc : b + m2 ≤ j ∧ j < k2 + m2
                          · simp only [if_pos hc, if_pos (show b + m2 ≤ j ∧ j < k2 + 1 + m2 by omega), and_self]
                          · simp only [if_neg hc, if_neg (show ¬ (b + m2 ≤ j ∧ j < k2 + 1 + m2) by omega), and_self]
                      exact ih96 (k2 + 1) (upI g41 (k2 + m2) (g41 k2)) (upI g42 (k2 + m2) (g42 k2)) (upI g43 (k2 + m2) (g43 k2)) (upI g44 (k2 + m2) (g44 k2)) (upI g45 (k2 + m2) (g45 k2)) (upI g46 (k2 + m2) (g46 k2)) (upI g47 (k2 + m2) (g47 k2)) (by omega) (by omega) hg4 (by omega) H locs ls hG hS (lv_sub hl [1, 2, 3, 4, 0] rfl)
              exact L96 _ b g41 g42 g43 g44 g45 g46 g47 (by omega) hA96 hB96 (Nat.lt_succ_self _) H locs ls hG hS (lv_sub hl [1, 2, 3, 4, 0] rfl)
            · refine lv_iload_n X.1 X.2.1 dX1_splice_73 rfl (lv_at hl 2 rfl) ?_
              refine i_if_le X 93 dX1_splice_74 (by decide) (by omega) (fun c74 => ?_) (fun c74 => ?_)
              · refine lv_iload_n X.1 X.2.1 dX1_splice_93 rfl (lv_at hl 3 rfl) ?_
                refine lv_istore (lv' := [(4, .int (iI (b))), (0, .ref o), (1, .int (iI (i))), (2, .int (iI (m2))), (3, .int (iI (b)))]) X.1 X.2.1 dX1_splice_94 hl (by decide) rfl (fun ls hl => ?_)
                have hA96 : 0 ≤ m2 → ∀ j, ((j < b → j < b + m2 → g41 j = S.2 41 j) ∧ (b + m2 ≤ j → j < S.1 40 + m2 → g41 j = S.2 41 (j - m2))) ∧ ((j < b → j < b + m2 → g42 j = S.2 42 j) ∧ (b + m2 ≤ j → j < S.1 40 + m2 → g42 j = S.2 42 (j - m2))) ∧ ((j < b → j < b + m2 → g43 j = S.2 43 j) ∧ (b + m2 ≤ j → j < S.1 40 + m2 → g43 j = S.2 43 (j - m2))) ∧ ((j < b → j < b + m2 → g44 j = S.2 44 j) ∧ (b + m2 ≤ j → j < S.1 40 + m2 → g44 j = S.2 44 (j - m2))) ∧ ((j < b → j < b + m2 → g45 j = S.2 45 j) ∧ (b + m2 ≤ j → j < S.1 40 + m2 → g45 j = S.2 45 (j - m2))) ∧ ((j < b → j < b + m2 → g46 j = R j) ∧ (b + m2 ≤ j → j < S.1 40 + m2 → g46 j = R (j - m2))) ∧ ((j < b → j < b + m2 → g47 j = S.2 47 j) ∧ (b + m2 ≤ j → j < S.1 40 + m2 → g47 j = S.2 47 (j - m2))) := by
                  intro h0 j
                  obtain ⟨q0, q1, q2, q3, q4, q5, q6⟩ := hg1 j
                  simp only [q0, q1, q2, q3, q4, q5, q6]
                  by_cases hm0 : m2 = 0
                  · subst hm0
                    simp only [Int.sub_zero, ite_self, implies_true, and_self]
                  · have hk1e : k1 = b - 1 := by omega
                    refine ⟨⟨fun _ _ => if_neg (by omega), fun _ _ => if_pos (by omega)⟩, ⟨fun _ _ => if_neg (by omega), fun _ _ => if_pos (by omega)⟩, ⟨fun _ _ => if_neg (by omega), fun _ _ => if_pos (by omega)⟩, ⟨fun _ _ => if_neg (by omega), fun _ _ => if_pos (by omega)⟩, ⟨fun _ _ => if_neg (by omega), fun _ _ => if_pos (by omega)⟩, ⟨fun _ _ => if_neg (by omega), fun _ _ => if_pos (by omega)⟩, ⟨fun _ _ => if_neg (by omega), fun _ _ => if_pos (by omega)⟩⟩
                have hB96 : m2 < 0 → ∀ j, g41 j = (if b + m2 ≤ j ∧ j < b + m2 then S.2 41 (j - m2) else S.2 41 j) ∧ g42 j = (if b + m2 ≤ j ∧ j < b + m2 then S.2 42 (j - m2) else S.2 42 j) ∧ g43 j = (if b + m2 ≤ j ∧ j < b + m2 then S.2 43 (j - m2) else S.2 43 j) ∧ g44 j = (if b + m2 ≤ j ∧ j < b + m2 then S.2 44 (j - m2) else S.2 44 j) ∧ g45 j = (if b + m2 ≤ j ∧ j < b + m2 then S.2 45 (j - m2) else S.2 45 j) ∧ g46 j = (if b + m2 ≤ j ∧ j < b + m2 then R (j - m2) else R j) ∧ g47 j = (if b + m2 ≤ j ∧ j < b + m2 then S.2 47 (j - m2) else S.2 47 j) := by
                  intro hneg j
                  obtain ⟨q0, q1, q2, q3, q4, q5, q6⟩ := hg1 j
                  have hk1e := hk1m (by omega)
                  simp only [q0, q1, q2, q3, q4, q5, q6, if_neg (show ¬ (k1 + m2 < j ∧ j < S.1 40 + m2 ∧ b + m2 ≤ j) by omega), if_neg (show ¬ (b + m2 ≤ j ∧ j < b + m2) by omega), and_self]
                have L96 : ∀ (N96 : Nat) (k2 : Int) (g41 g42 g43 g44 g45 g46 g47 : Int → Int), (b ≤ k2 ∧ k2 ≤ S.1 40) → (0 ≤ m2 → ∀ j, ((j < b → j < b + m2 → g41 j = S.2 41 j) ∧ (b + m2 ≤ j → j < S.1 40 + m2 → g41 j = S.2 41 (j - m2))) ∧ ((j < b → j < b + m2 → g42 j = S.2 42 j) ∧ (b + m2 ≤ j → j < S.1 40 + m2 → g42 j = S.2 42 (j - m2))) ∧ ((j < b → j < b + m2 → g43 j = S.2 43 j) ∧ (b + m2 ≤ j → j < S.1 40 + m2 → g43 j = S.2 43 (j - m2))) ∧ ((j < b → j < b + m2 → g44 j = S.2 44 j) ∧ (b + m2 ≤ j → j < S.1 40 + m2 → g44 j = S.2 44 (j - m2))) ∧ ((j < b → j < b + m2 → g45 j = S.2 45 j) ∧ (b + m2 ≤ j → j < S.1 40 + m2 → g45 j = S.2 45 (j - m2))) ∧ ((j < b → j < b + m2 → g46 j = R j) ∧ (b + m2 ≤ j → j < S.1 40 + m2 → g46 j = R (j - m2))) ∧ ((j < b → j < b + m2 → g47 j = S.2 47 j) ∧ (b + m2 ≤ j → j < S.1 40 + m2 → g47 j = S.2 47 (j - m2)))) → (m2 < 0 → ∀ j, g41 j = (if b + m2 ≤ j ∧ j < k2 + m2 then S.2 41 (j - m2) else S.2 41 j) ∧ g42 j = (if b + m2 ≤ j ∧ j < k2 + m2 then S.2 42 (j - m2) else S.2 42 j) ∧ g43 j = (if b + m2 ≤ j ∧ j < k2 + m2 then S.2 43 (j - m2) else S.2 43 j) ∧ g44 j = (if b + m2 ≤ j ∧ j < k2 + m2 then S.2 44 (j - m2) else S.2 44 j) ∧ g45 j = (if b + m2 ≤ j ∧ j < k2 + m2 then S.2 45 (j - m2) else S.2 45 j) ∧ g46 j = (if b + m2 ≤ j ∧ j < k2 + m2 then R (j - m2) else R j) ∧ g47 j = (if b + m2 ≤ j ∧ j < k2 + m2 then S.2 47 (j - m2) else S.2 47 j)) → (S.1 40 - k2).toNat < N96 → ∀ (H : Heap) (locs : List Loc) (ls : Array Slot), gOk D (mA o) (mH ca o (mP S [(46, g46), (41, g41), (42, g42), (43, g43), (44, g44), (45, g45), (47, g47)] [])) H → va_S (mA o) s.heap H locs → lv_has ls 5 [(0, .ref o), (1, .int (iI (i))), (2, .int (iI (m2))), (3, .int (iI (b))), (4, .int (iI (k2)))] → W p l e (mR lv) s m args below meth c H locs 0 0 Q (F0 m 96 ls []) := by
                  intro N96
                  induction N96 with
                  | zero => intro k2 g41 g42 g43 g44 g45 g46 g47 hk2 hk2m hg3 hN; exact absurd hN (Nat.not_lt_zero _)
                  | succ N96 ih96 =>
                    intro k2 g41 g42 g43 g44 g45 g46 g47 hk2 hk2m hg3 hN96 H locs ls hG hS hl
                    refine lv_iload X.1 X.2.1 dX1_splice_96 (lv_at hl 4 rfl) ?_
                    refine lv_aload_n X.1 X.2.1 dX1_splice_98 rfl (lv_at hl 0 rfl) ?_
                    refine mg_items X hK hG (S.1 40) rfl dX1_splice_99 ?_
                    refine i_icmp_ge X 125 dX1_splice_102 (by decide) (by omega) (by omega) (fun c102 => ?_) (fun c102 => ?_)
                    · refine lv_iconst (v := iI (0)) X.1 X.2.1 dX1_splice_125 rfl ?_
                      refine lv_istore (lv' := [(4, .int (iI (0))), (0, .ref o), (1, .int (iI (i))), (2, .int (iI (m2))), (3, .int (iI (b)))]) X.1 X.2.1 dX1_splice_126 hl (by decide) rfl (fun ls hl => ?_)
                      have hAB : ∀ j, ((j < i → g41 j = S.2 41 j) ∧ (i + S.1 56 ≤ j → j < S.1 40 + m2 → g41 j = S.2 41 (j - m2))) ∧ ((j < i → g42 j = S.2 42 j) ∧ (i + S.1 56 ≤ j → j < S.1 40 + m2 → g42 j = S.2 42 (j - m2))) ∧ ((j < i → g43 j = S.2 43 j) ∧ (i + S.1 56 ≤ j → j < S.1 40 + m2 → g43 j = S.2 43 (j - m2))) ∧ ((j < i → g44 j = S.2 44 j) ∧ (i + S.1 56 ≤ j → j < S.1 40 + m2 → g44 j = S.2 44 (j - m2))) ∧ ((j < i → g45 j = S.2 45 j) ∧ (i + S.1 56 ≤ j → j < S.1 40 + m2 → g45 j = S.2 45 (j - m2))) ∧ ((j < i → g46 j = R j) ∧ (i + S.1 56 ≤ j → j < S.1 40 + m2 → g46 j = R (j - m2))) ∧ ((j < i → g47 j = S.2 47 j) ∧ (i + S.1 56 ≤ j → j < S.1 40 + m2 → g47 j = S.2 47 (j - m2))) := by
                        intro j
                        have hbm : b + m2 = i + S.1 56 := by omega
                        by_cases h0m : 0 ≤ m2
                        · obtain ⟨q0, q1, q2, q3, q4, q5, q6⟩ := hk2m h0m j
                          exact ⟨⟨fun x => q0.1 (by omega) (by omega), fun x y => q0.2 (by omega) y⟩, ⟨fun x => q1.1 (by omega) (by omega), fun x y => q1.2 (by omega) y⟩, ⟨fun x => q2.1 (by omega) (by omega), fun x y => q2.2 (by omega) y⟩, ⟨fun x => q3.1 (by omega) (by omega), fun x y => q3.2 (by omega) y⟩, ⟨fun x => q4.1 (by omega) (by omega), fun x y => q4.2 (by omega) y⟩, ⟨fun x => q5.1 (by omega) (by omega), fun x y => q5.2 (by omega) y⟩, ⟨fun x => q6.1 (by omega) (by omega), fun x y => q6.2 (by omega) y⟩⟩
                        · have hk2e : k2 = S.1 40 := by omega
                          obtain ⟨q0, q1, q2, q3, q4, q5, q6⟩ := hg3 (by omega) j
                          simp only [q0, q1, q2, q3, q4, q5, q6]
                          refine ⟨⟨fun _ => if_neg (by omega), fun _ _ => if_pos (by omega)⟩, ⟨fun _ => if_neg (by omega), fun _ _ => if_pos (by omega)⟩, ⟨fun _ => if_neg (by omega), fun _ _ => if_pos (by omega)⟩, ⟨fun _ => if_neg (by omega), fun _ _ => if_pos (by omega)⟩, ⟨fun _ => if_neg (by omega), fun _ _ => if_pos (by omega)⟩, ⟨fun _ => if_neg (by omega), fun _ _ => if_pos (by omega)⟩, ⟨fun _ => if_neg (by omega), fun _ _ => if_pos (by omega)⟩⟩
                      have hh0 : ∀ j, g41 j = (if i ≤ j ∧ j < i + 0 then S.2 57 (j - i) else g41 j) ∧ g42 j = (if i ≤ j ∧ j < i + 0 then S.2 58 (j - i) else g42 j) ∧ g43 j = (if i ≤ j ∧ j < i + 0 then S.2 59 (j - i) else g43 j) ∧ g44 j = (if i ≤ j ∧ j < i + 0 then S.2 60 (j - i) else g44 j) ∧ g45 j = (if i ≤ j ∧ j < i + 0 then S.2 61 (j - i) else g45 j) ∧ g46 j = (if i ≤ j ∧ j < i + 0 then S.2 62 (j - i) else g46 j) ∧ g47 j = (if i ≤ j ∧ j < i + 0 then S.2 63 (j - i) else g47 j) := by
                        intro j
                        simp only [if_neg (show ¬ (i ≤ j ∧ j < i + 0) by omega), and_self]
                      have L128 : ∀ (N128 : Nat) (k3 : Int) (h41 h42 h43 h44 h45 h46 h47 : Int → Int), (0 ≤ k3 ∧ k3 ≤ S.1 56) → (∀ j, h41 j = (if i ≤ j ∧ j < i + k3 then S.2 57 (j - i) else g41 j) ∧ h42 j = (if i ≤ j ∧ j < i + k3 then S.2 58 (j - i) else g42 j) ∧ h43 j = (if i ≤ j ∧ j < i + k3 then S.2 59 (j - i) else g43 j) ∧ h44 j = (if i ≤ j ∧ j < i + k3 then S.2 60 (j - i) else g44 j) ∧ h45 j = (if i ≤ j ∧ j < i + k3 then S.2 61 (j - i) else g45 j) ∧ h46 j = (if i ≤ j ∧ j < i + k3 then S.2 62 (j - i) else g46 j) ∧ h47 j = (if i ≤ j ∧ j < i + k3 then S.2 63 (j - i) else g47 j)) → (S.1 56 - k3).toNat < N128 → ∀ (H : Heap) (locs : List Loc) (ls : Array Slot), gOk D (mA o) (mH ca o (mP S [(46, h46), (41, h41), (42, h42), (43, h43), (44, h44), (45, h45), (47, h47)] [])) H → va_S (mA o) s.heap H locs → lv_has ls 5 [(0, .ref o), (1, .int (iI (i))), (2, .int (iI (m2))), (3, .int (iI (b))), (4, .int (iI (k3)))] → W p l e (mR lv) s m args below meth c H locs 0 0 Q (F0 m 128 ls []) := by
                        intro N128
                        induction N128 with
                        | zero => intro k3 h41 h42 h43 h44 h45 h46 h47 hk3 hh hN; exact absurd hN (Nat.not_lt_zero _)
                        | succ N128 ih128 =>
                          intro k3 h41 h42 h43 h44 h45 h46 h47 hk3 hh hN128 H locs ls hG hS hl
                          refine lv_iload X.1 X.2.1 dX1_splice_128 (lv_at hl 4 rfl) ?_
                          refine lv_aload_n X.1 X.2.1 dX1_splice_130 rfl (lv_at hl 0 rfl) ?_
                          refine mg_fresh X hK hG (S.1 56) rfl dX1_splice_131 ?_
                          refine i_icmp_ge X 255 dX1_splice_134 (by decide) (by omega) (by omega) (fun c134 => ?_) (fun c134 => ?_)
                          · have hfin : ∀ j, 0 ≤ j → j < S.1 40 + m2 → h41 j = spl i (S.1 56) m2 (S.2 41) (S.2 57) j ∧ h42 j = spl i (S.1 56) m2 (S.2 42) (S.2 58) j ∧ h43 j = spl i (S.1 56) m2 (S.2 43) (S.2 59) j ∧ h44 j = spl i (S.1 56) m2 (S.2 44) (S.2 60) j ∧ h45 j = spl i (S.1 56) m2 (S.2 45) (S.2 61) j ∧ h46 j = spl i (S.1 56) m2 (R) (S.2 62) j ∧ h47 j = spl i (S.1 56) m2 (S.2 47) (S.2 63) j := by
                              intro j hj0 hjn
                              obtain ⟨q0, q1, q2, q3, q4, q5, q6⟩ := hh j
                              obtain ⟨p0, p1, p2, p3, p4, p5, p6⟩ := hAB j
                              have hk3e : k3 = S.1 56 := by omega
                              unfold spl
                              rw [hk3e] at q0 q1 q2 q3 q4 q5 q6
                              by_cases h1 : j < i
                              · simp only [q0, q1, q2, q3, q4, q5, q6, if_pos h1, if_neg (show ¬ (i ≤ j ∧ j < i + S.1 56) by omega), p0.1 h1, p1.1 h1, p2.1 h1, p3.1 h1, p4.1 h1, p5.1 h1, p6.1 h1, and_self]
                              · by_cases h2 : j < i + S.1 56
                                · simp only [q0, q1, q2, q3, q4, q5, q6, if_neg h1, if_pos h2, if_pos (show i ≤ j ∧ j < i + S.1 56 by omega), and_self]
                                · simp only [q0, q1, q2, q3, q4, q5, q6, if_neg h1, if_neg h2, if_neg (show ¬ (i ≤ j ∧ j < i + S.1 56) by omega), p0.2 (by omega) hjn, p1.2 (by omega) hjn, p2.2 (by omega) hjn, p3.2 (by omega) hjn, p4.2 (by omega) hjn, p5.2 (by omega) hjn, p6.2 (by omega) hjn, and_self]
                            have hTWs : TW (S.1 40 + m2) h41 h46 h47 := TW_congr (show TW (S.1 40 + m2) (spl i (S.1 56) m2 (S.2 41) (S.2 57)) (spl i (S.1 56) m2 R (S.2 62)) (spl i (S.1 56) m2 (S.2 47) (S.2 63)) by rw [eR, e_m2]; exact hTW2) (fun j a b => (hfin j a b).1) (fun j a b => (hfin j a b).2.2.2.2.2.1) (fun j a b => (hfin j a b).2.2.2.2.2.2)
                            refine lv_aload_n X.1 X.2.1 dX1_splice_255 rfl (lv_at hl 0 rfl) ?_
                            refine lv_dup X.1 X.2.1 dX1_splice_256 rfl ?_
                            refine mg_items X hK hG (S.1 40) rfl dX1_splice_257 ?_
                            refine lv_iload_n X.1 X.2.1 dX1_splice_260 rfl (lv_at hl 2 rfl) ?_
                            refine i_add X dX1_splice_261 ?_
                            refine mp_items X hK hG hS dX1_splice_262 (fun H locs hG hS => ?_)
                            rw [mS_mP (sc' := [(40, (S.1 40) + m2)]) rfl] at hG
                            refine lv_aload_n X.1 X.2.1 dX1_splice_265 rfl (lv_at hl 0 rfl) ?_
                            refine m_callVv (rest := []) (n := 0) X hK hG hS (fun _ h => h) (mm_settle l D ca o (lv - 1) (mP S [(46, h46), (41, h41), (42, h42), (43, h43), (44, h44), (45, h45), (47, h47)] [(40, (S.1 40) + m2)]) (show TW (S.1 40 + m2) h41 h46 h47 from hTWs)) (lw_V q1520 q1522 qs41 q70 q1523) (by decide +kernel) rfl ⟨by show (lv - 1) + 1 ≤ lv; omega, by show 8 + (3 + 11) + 40 * (lv - 1) ≤ 40 * lv; omega⟩ ⟨Nat.le_refl _, Nat.le_refl _⟩ hl.1 rfl (Nat.le_of_ble_eq_true rfl) dX1_splice_266 (fun S4 H locs hp4 hG hS _ _ => ?_)
                            obtain ⟨f48, rfl, hTI2⟩ := hp4
                            rw [mP_mP (l' := [(46, h46), (41, h41), (42, h42), (43, h43), (44, h44), (45, h45), (47, h47), (48, f48)]) (sc' := [(40, (S.1 40) + m2)]) rfl rfl] at hG
                            refine ret _ _ _ _ _ ?_ hG hS dX1_splice_269
                            refine ⟨h41, h42, h43, h44, h45, h46, h47, f48, by rw [e_m2], ?_, by rw [← e_m2]; exact hTI2⟩
                            rw [← e_m2, ← eR]
                            exact hfin
                          · refine lv_aload_n X.1 X.2.1 dX1_splice_137 rfl (lv_at hl 0 rfl) ?_
                            refine mg_what X hK hG dX1_splice_138 ?_
                            refine lv_iload_n X.1 X.2.1 dX1_splice_141 rfl (lv_at hl 1 rfl) ?_
                            refine lv_iload X.1 X.2.1 dX1_splice_142 (lv_at hl 4 rfl) ?_
                            refine i_add X dX1_splice_144 ?_
                            refine lv_aload_n X.1 X.2.1 dX1_splice_145 rfl (lv_at hl 0 rfl) ?_
                            refine mg_fWhat X hK hG dX1_splice_146 ?_
                            refine lv_iload X.1 X.2.1 dX1_splice_149 (lv_at hl 4 rfl) ?_
                            refine ml_fWhat X hK hG (S.2 57) rfl (by omega) dX1_splice_151 ?_
                            refine ms_what X hK hG hS (by omega) dX1_splice_152 (fun H locs hG hS => ?_)
                            rw [mU_mP (l' := [(46, h46), (41, upI h41 (i + k3) (S.2 57 k3)), (42, h42), (43, h43), (44, h44), (45, h45), (47, h47)]) rfl rfl] at hG
                            refine lv_aload_n X.1 X.2.1 dX1_splice_153 rfl (lv_at hl 0 rfl) ?_
                            refine mg_worthOf X hK hG dX1_splice_154 ?_
                            refine lv_iload_n X.1 X.2.1 dX1_splice_157 rfl (lv_at hl 1 rfl) ?_
                            refine lv_iload X.1 X.2.1 dX1_splice_158 (lv_at hl 4 rfl) ?_
                            refine i_add X dX1_splice_160 ?_
                            refine lv_aload_n X.1 X.2.1 dX1_splice_161 rfl (lv_at hl 0 rfl) ?_
                            refine mg_fWorth X hK hG dX1_splice_162 ?_
                            refine lv_iload X.1 X.2.1 dX1_splice_165 (lv_at hl 4 rfl) ?_
                            refine ml_fWorth X hK hG (S.2 58) rfl (by omega) dX1_splice_167 ?_
                            refine ms_worthOf X hK hG hS (by omega) dX1_splice_168 (fun H locs hG hS => ?_)
                            rw [mU_mP (l' := [(46, h46), (41, upI h41 (i + k3) (S.2 57 k3)), (42, upI h42 (i + k3) (S.2 58 k3)), (43, h43), (44, h44), (45, h45), (47, h47)]) rfl rfl] at hG
                            refine lv_aload_n X.1 X.2.1 dX1_splice_169 rfl (lv_at hl 0 rfl) ?_
                            refine mg_mark X hK hG dX1_splice_170 ?_
                            refine lv_iload_n X.1 X.2.1 dX1_splice_173 rfl (lv_at hl 1 rfl) ?_
                            refine lv_iload X.1 X.2.1 dX1_splice_174 (lv_at hl 4 rfl) ?_
                            refine i_add X dX1_splice_176 ?_
                            refine lv_aload_n X.1 X.2.1 dX1_splice_177 rfl (lv_at hl 0 rfl) ?_
                            refine mg_fMark X hK hG dX1_splice_178 ?_
                            refine lv_iload X.1 X.2.1 dX1_splice_181 (lv_at hl 4 rfl) ?_
                            refine ml_fMark X hK hG (S.2 59) rfl (by omega) dX1_splice_183 ?_
                            refine ms_mark X hK hG hS (by omega) dX1_splice_184 (fun H locs hG hS => ?_)
                            rw [mU_mP (l' := [(46, h46), (41, upI h41 (i + k3) (S.2 57 k3)), (42, upI h42 (i + k3) (S.2 58 k3)), (43, upI h43 (i + k3) (S.2 59 k3)), (44, h44), (45, h45), (47, h47)]) rfl rfl] at hG
                            refine lv_aload_n X.1 X.2.1 dX1_splice_185 rfl (lv_at hl 0 rfl) ?_
                            refine mg_from X hK hG dX1_splice_186 ?_
                            refine lv_iload_n X.1 X.2.1 dX1_splice_189 rfl (lv_at hl 1 rfl) ?_
                            refine lv_iload X.1 X.2.1 dX1_splice_190 (lv_at hl 4 rfl) ?_
                            refine i_add X dX1_splice_192 ?_
                            refine lv_aload_n X.1 X.2.1 dX1_splice_193 rfl (lv_at hl 0 rfl) ?_
                            refine mg_fFrom X hK hG dX1_splice_194 ?_
                            refine lv_iload X.1 X.2.1 dX1_splice_197 (lv_at hl 4 rfl) ?_
                            refine ml_fFrom X hK hG (S.2 60) rfl (by omega) dX1_splice_199 ?_
                            refine ms_from X hK hG hS (by omega) dX1_splice_200 (fun H locs hG hS => ?_)
                            rw [mU_mP (l' := [(46, h46), (41, upI h41 (i + k3) (S.2 57 k3)), (42, upI h42 (i + k3) (S.2 58 k3)), (43, upI h43 (i + k3) (S.2 59 k3)), (44, upI h44 (i + k3) (S.2 60 k3)), (45, h45), (47, h47)]) rfl rfl] at hG
                            refine lv_aload_n X.1 X.2.1 dX1_splice_201 rfl (lv_at hl 0 rfl) ?_
                            refine mg_maker X hK hG dX1_splice_202 ?_
                            refine lv_iload_n X.1 X.2.1 dX1_splice_205 rfl (lv_at hl 1 rfl) ?_
                            refine lv_iload X.1 X.2.1 dX1_splice_206 (lv_at hl 4 rfl) ?_
                            refine i_add X dX1_splice_208 ?_
                            refine lv_aload_n X.1 X.2.1 dX1_splice_209 rfl (lv_at hl 0 rfl) ?_
                            refine mg_fMaker X hK hG dX1_splice_210 ?_
                            refine lv_iload X.1 X.2.1 dX1_splice_213 (lv_at hl 4 rfl) ?_
                            refine ml_fMaker X hK hG (S.2 61) rfl (by omega) dX1_splice_215 ?_
                            refine ms_maker X hK hG hS (by omega) dX1_splice_216 (fun H locs hG hS => ?_)
                            rw [mU_mP (l' := [(46, h46), (41, upI h41 (i + k3) (S.2 57 k3)), (42, upI h42 (i + k3) (S.2 58 k3)), (43, upI h43 (i + k3) (S.2 59 k3)), (44, upI h44 (i + k3) (S.2 60 k3)), (45, upI h45 (i + k3) (S.2 61 k3)), (47, h47)]) rfl rfl] at hG
                            refine lv_aload_n X.1 X.2.1 dX1_splice_217 rfl (lv_at hl 0 rfl) ?_
                            refine mg_room X hK hG dX1_splice_218 ?_
                            refine lv_iload_n X.1 X.2.1 dX1_splice_221 rfl (lv_at hl 1 rfl) ?_
                            refine lv_iload X.1 X.2.1 dX1_splice_222 (lv_at hl 4 rfl) ?_
                            refine i_add X dX1_splice_224 ?_
                            refine lv_aload_n X.1 X.2.1 dX1_splice_225 rfl (lv_at hl 0 rfl) ?_
                            refine mg_fRoom X hK hG dX1_splice_226 ?_
                            refine lv_iload X.1 X.2.1 dX1_splice_229 (lv_at hl 4 rfl) ?_
                            refine ml_fRoom X hK hG (S.2 62) rfl (by omega) dX1_splice_231 ?_
                            refine ms_room X hK hG hS (by omega) dX1_splice_232 (fun H locs hG hS => ?_)
                            rw [mU_mP (l' := [(46, upI h46 (i + k3) (S.2 62 k3)), (41, upI h41 (i + k3) (S.2 57 k3)), (42, upI h42 (i + k3) (S.2 58 k3)), (43, upI h43 (i + k3) (S.2 59 k3)), (44, upI h44 (i + k3) (S.2 60 k3)), (45, upI h45 (i + k3) (S.2 61 k3)), (47, h47)]) rfl rfl] at hG
                            refine lv_aload_n X.1 X.2.1 dX1_splice_233 rfl (lv_at hl 0 rfl) ?_
                            refine mg_parts X hK hG dX1_splice_234 ?_
                            refine lv_iload_n X.1 X.2.1 dX1_splice_237 rfl (lv_at hl 1 rfl) ?_
                            refine lv_iload X.1 X.2.1 dX1_splice_238 (lv_at hl 4 rfl) ?_
                            refine i_add X dX1_splice_240 ?_
                            refine lv_aload_n X.1 X.2.1 dX1_splice_241 rfl (lv_at hl 0 rfl) ?_
                            refine mg_fParts X hK hG dX1_splice_242 ?_
                            refine lv_iload X.1 X.2.1 dX1_splice_245 (lv_at hl 4 rfl) ?_
                            refine ml_fParts X hK hG (S.2 63) rfl (by omega) dX1_splice_247 ?_
                            refine ms_parts X hK hG hS (by omega) dX1_splice_248 (fun H locs hG hS => ?_)
                            rw [mU_mP (l' := [(46, upI h46 (i + k3) (S.2 62 k3)), (41, upI h41 (i + k3) (S.2 57 k3)), (42, upI h42 (i + k3) (S.2 58 k3)), (43, upI h43 (i + k3) (S.2 59 k3)), (44, upI h44 (i + k3) (S.2 60 k3)), (45, upI h45 (i + k3) (S.2 61 k3)), (47, upI h47 (i + k3) (S.2 63 k3))]) rfl rfl] at hG
                            refine i_inc (lv' := [(4, .int (iI (k3 + 1))), (0, .ref o), (1, .int (iI (i))), (2, .int (iI (m2))), (3, .int (iI (b)))]) X dX1_splice_249 hl (k := 4) rfl (by decide) rfl (fun ls hl => ?_)
                            refine lv_goto (tgt := 128) X.1 X.2.1 dX1_splice_252 (by decide) ?_
                            have hh2 : ∀ j, (upI h41 (i + k3) (S.2 57 k3)) j = (if i ≤ j ∧ j < i + (k3 + 1) then S.2 57 (j - i) else g41 j) ∧ (upI h42 (i + k3) (S.2 58 k3)) j = (if i ≤ j ∧ j < i + (k3 + 1) then S.2 58 (j - i) else g42 j) ∧ (upI h43 (i + k3) (S.2 59 k3)) j = (if i ≤ j ∧ j < i + (k3 + 1) then S.2 59 (j - i) else g43 j) ∧ (upI h44 (i + k3) (S.2 60 k3)) j = (if i ≤ j ∧ j < i + (k3 + 1) then S.2 60 (j - i) else g44 j) ∧ (upI h45 (i + k3) (S.2 61 k3)) j = (if i ≤ j ∧ j < i + (k3 + 1) then S.2 61 (j - i) else g45 j) ∧ (upI h46 (i + k3) (S.2 62 k3)) j = (if i ≤ j ∧ j < i + (k3 + 1) then S.2 62 (j - i) else g46 j) ∧ (upI h47 (i + k3) (S.2 63 k3)) j = (if i ≤ j ∧ j < i + (k3 + 1) then S.2 63 (j - i) else g47 j) := by
                              intro j
                              obtain ⟨q0, q1, q2, q3, q4, q5, q6⟩ := hh j
                              by_cases hj : j = i + k3
                              · simp only [hj, upI_s, if_pos (show i ≤ i + k3 ∧ i + k3 < i + (k3 + 1) by omega), show i + k3 - i = k3 by omega, and_self]
                              · simp only [upI_n hj, q0, q1, q2, q3, q4, q5, q6]
                                by_cases hc : i ≤ j ∧ j < i + k3
                                · simp only [if_pos hc, if_pos (show i ≤ j ∧ j < i + (k3 + 1) by omega), and_self]
                                · simp only [if_neg hc, if_neg (show ¬ (i ≤ j ∧ j < i + (k3 + 1)) by omega), and_self]
                            exact ih128 (k3 + 1) (upI h41 (i + k3) (S.2 57 k3)) (upI h42 (i + k3) (S.2 58 k3)) (upI h43 (i + k3) (S.2 59 k3)) (upI h44 (i + k3) (S.2 60 k3)) (upI h45 (i + k3) (S.2 61 k3)) (upI h46 (i + k3) (S.2 62 k3)) (upI h47 (i + k3) (S.2 63 k3)) (by omega) hh2 (by omega) H locs ls hG hS (lv_sub hl [1, 2, 3, 4, 0] rfl)
                      exact L128 _ 0 g41 g42 g43 g44 g45 g46 g47 (by omega) hh0 (Nat.lt_succ_self _) H locs ls hG hS (lv_sub hl [1, 2, 3, 4, 0] rfl)
                    · refine lv_iload_n X.1 X.2.1 dX1_splice_105 rfl (lv_at hl 2 rfl) ?_
                      refine i_if_ge X 125 dX1_splice_106 (by decide) (by omega) (fun c106 => ?_) (fun c106 => ?_)
                      · refine lv_iconst (v := iI (0)) X.1 X.2.1 dX1_splice_125 rfl ?_
                        refine lv_istore (lv' := [(4, .int (iI (0))), (0, .ref o), (1, .int (iI (i))), (2, .int (iI (m2))), (3, .int (iI (b)))]) X.1 X.2.1 dX1_splice_126 hl (by decide) rfl (fun ls hl => ?_)
                        have hAB : ∀ j, ((j < i → g41 j = S.2 41 j) ∧ (i + S.1 56 ≤ j → j < S.1 40 + m2 → g41 j = S.2 41 (j - m2))) ∧ ((j < i → g42 j = S.2 42 j) ∧ (i + S.1 56 ≤ j → j < S.1 40 + m2 → g42 j = S.2 42 (j - m2))) ∧ ((j < i → g43 j = S.2 43 j) ∧ (i + S.1 56 ≤ j → j < S.1 40 + m2 → g43 j = S.2 43 (j - m2))) ∧ ((j < i → g44 j = S.2 44 j) ∧ (i + S.1 56 ≤ j → j < S.1 40 + m2 → g44 j = S.2 44 (j - m2))) ∧ ((j < i → g45 j = S.2 45 j) ∧ (i + S.1 56 ≤ j → j < S.1 40 + m2 → g45 j = S.2 45 (j - m2))) ∧ ((j < i → g46 j = R j) ∧ (i + S.1 56 ≤ j → j < S.1 40 + m2 → g46 j = R (j - m2))) ∧ ((j < i → g47 j = S.2 47 j) ∧ (i + S.1 56 ≤ j → j < S.1 40 + m2 → g47 j = S.2 47 (j - m2))) := by
                          intro j
                          have hbm : b + m2 = i + S.1 56 := by omega
                          by_cases h0m : 0 ≤ m2
                          · obtain ⟨q0, q1, q2, q3, q4, q5, q6⟩ := hk2m h0m j
                            exact ⟨⟨fun x => q0.1 (by omega) (by omega), fun x y => q0.2 (by omega) y⟩, ⟨fun x => q1.1 (by omega) (by omega), fun x y => q1.2 (by omega) y⟩, ⟨fun x => q2.1 (by omega) (by omega), fun x y => q2.2 (by omega) y⟩, ⟨fun x => q3.1 (by omega) (by omega), fun x y => q3.2 (by omega) y⟩, ⟨fun x => q4.1 (by omega) (by omega), fun x y => q4.2 (by omega) y⟩, ⟨fun x => q5.1 (by omega) (by omega), fun x y => q5.2 (by omega) y⟩, ⟨fun x => q6.1 (by omega) (by omega), fun x y => q6.2 (by omega) y⟩⟩
                          · have hk2e : k2 = S.1 40 := by omega
                            obtain ⟨q0, q1, q2, q3, q4, q5, q6⟩ := hg3 (by omega) j
                            simp only [q0, q1, q2, q3, q4, q5, q6]
                            refine ⟨⟨fun _ => if_neg (by omega), fun _ _ => if_pos (by omega)⟩, ⟨fun _ => if_neg (by omega), fun _ _ => if_pos (by omega)⟩, ⟨fun _ => if_neg (by omega), fun _ _ => if_pos (by omega)⟩, ⟨fun _ => if_neg (by omega), fun _ _ => if_pos (by omega)⟩, ⟨fun _ => if_neg (by omega), fun _ _ => if_pos (by omega)⟩, ⟨fun _ => if_neg (by omega), fun _ _ => if_pos (by omega)⟩, ⟨fun _ => if_neg (by omega), fun _ _ => if_pos (by omega)⟩⟩
                        have hh0 : ∀ j, g41 j = (if i ≤ j ∧ j < i + 0 then S.2 57 (j - i) else g41 j) ∧ g42 j = (if i ≤ j ∧ j < i + 0 then S.2 58 (j - i) else g42 j) ∧ g43 j = (if i ≤ j ∧ j < i + 0 then S.2 59 (j - i) else g43 j) ∧ g44 j = (if i ≤ j ∧ j < i + 0 then S.2 60 (j - i) else g44 j) ∧ g45 j = (if i ≤ j ∧ j < i + 0 then S.2 61 (j - i) else g45 j) ∧ g46 j = (if i ≤ j ∧ j < i + 0 then S.2 62 (j - i) else g46 j) ∧ g47 j = (if i ≤ j ∧ j < i + 0 then S.2 63 (j - i) else g47 j) := by
                          intro j
                          simp only [if_neg (show ¬ (i ≤ j ∧ j < i + 0) by omega), and_self]
                        have L128 : ∀ (N128 : Nat) (k3 : Int) (h41 h42 h43 h44 h45 h46 h47 : Int → Int), (0 ≤ k3 ∧ k3 ≤ S.1 56) → (∀ j, h41 j = (if i ≤ j ∧ j < i + k3 then S.2 57 (j - i) else g41 j) ∧ h42 j = (if i ≤ j ∧ j < i + k3 then S.2 58 (j - i) else g42 j) ∧ h43 j = (if i ≤ j ∧ j < i + k3 then S.2 59 (j - i) else g43 j) ∧ h44 j = (if i ≤ j ∧ j < i + k3 then S.2 60 (j - i) else g44 j) ∧ h45 j = (if i ≤ j ∧ j < i + k3 then S.2 61 (j - i) else g45 j) ∧ h46 j = (if i ≤ j ∧ j < i + k3 then S.2 62 (j - i) else g46 j) ∧ h47 j = (if i ≤ j ∧ j < i + k3 then S.2 63 (j - i) else g47 j)) → (S.1 56 - k3).toNat < N128 → ∀ (H : Heap) (locs : List Loc) (ls : Array Slot), gOk D (mA o) (mH ca o (mP S [(46, h46), (41, h41), (42, h42), (43, h43), (44, h44), (45, h45), (47, h47)] [])) H → va_S (mA o) s.heap H locs → lv_has ls 5 [(0, .ref o), (1, .int (iI (i))), (2, .int (iI (m2))), (3, .int (iI (b))), (4, .int (iI (k3)))] → W p l e (mR lv) s m args below meth c H locs 0 0 Q (F0 m 128 ls []) := by
                          intro N128
                          induction N128 with
                          | zero => intro k3 h41 h42 h43 h44 h45 h46 h47 hk3 hh hN; exact absurd hN (Nat.not_lt_zero _)
                          | succ N128 ih128 =>
                            intro k3 h41 h42 h43 h44 h45 h46 h47 hk3 hh hN128 H locs ls hG hS hl
                            refine lv_iload X.1 X.2.1 dX1_splice_128 (lv_at hl 4 rfl) ?_
                            refine lv_aload_n X.1 X.2.1 dX1_splice_130 rfl (lv_at hl 0 rfl) ?_
                            refine mg_fresh X hK hG (S.1 56) rfl dX1_splice_131 ?_
                            refine i_icmp_ge X 255 dX1_splice_134 (by decide) (by omega) (by omega) (fun c134 => ?_) (fun c134 => ?_)
                            · have hfin : ∀ j, 0 ≤ j → j < S.1 40 + m2 → h41 j = spl i (S.1 56) m2 (S.2 41) (S.2 57) j ∧ h42 j = spl i (S.1 56) m2 (S.2 42) (S.2 58) j ∧ h43 j = spl i (S.1 56) m2 (S.2 43) (S.2 59) j ∧ h44 j = spl i (S.1 56) m2 (S.2 44) (S.2 60) j ∧ h45 j = spl i (S.1 56) m2 (S.2 45) (S.2 61) j ∧ h46 j = spl i (S.1 56) m2 (R) (S.2 62) j ∧ h47 j = spl i (S.1 56) m2 (S.2 47) (S.2 63) j := by
                                intro j hj0 hjn
                                obtain ⟨q0, q1, q2, q3, q4, q5, q6⟩ := hh j
                                obtain ⟨p0, p1, p2, p3, p4, p5, p6⟩ := hAB j
                                have hk3e : k3 = S.1 56 := by omega
                                unfold spl
                                rw [hk3e] at q0 q1 q2 q3 q4 q5 q6
                                by_cases h1 : j < i
                                · simp only [q0, q1, q2, q3, q4, q5, q6, if_pos h1, if_neg (show ¬ (i ≤ j ∧ j < i + S.1 56) by omega), p0.1 h1, p1.1 h1, p2.1 h1, p3.1 h1, p4.1 h1, p5.1 h1, p6.1 h1, and_self]
                                · by_cases h2 : j < i + S.1 56
                                  · simp only [q0, q1, q2, q3, q4, q5, q6, if_neg h1, if_pos h2, if_pos (show i ≤ j ∧ j < i + S.1 56 by omega), and_self]
                                  · simp only [q0, q1, q2, q3, q4, q5, q6, if_neg h1, if_neg h2, if_neg (show ¬ (i ≤ j ∧ j < i + S.1 56) by omega), p0.2 (by omega) hjn, p1.2 (by omega) hjn, p2.2 (by omega) hjn, p3.2 (by omega) hjn, p4.2 (by omega) hjn, p5.2 (by omega) hjn, p6.2 (by omega) hjn, and_self]
                              have hTWs : TW (S.1 40 + m2) h41 h46 h47 := TW_congr (show TW (S.1 40 + m2) (spl i (S.1 56) m2 (S.2 41) (S.2 57)) (spl i (S.1 56) m2 R (S.2 62)) (spl i (S.1 56) m2 (S.2 47) (S.2 63)) by rw [eR, e_m2]; exact hTW2) (fun j a b => (hfin j a b).1) (fun j a b => (hfin j a b).2.2.2.2.2.1) (fun j a b => (hfin j a b).2.2.2.2.2.2)
                              refine lv_aload_n X.1 X.2.1 dX1_splice_255 rfl (lv_at hl 0 rfl) ?_
                              refine lv_dup X.1 X.2.1 dX1_splice_256 rfl ?_
                              refine mg_items X hK hG (S.1 40) rfl dX1_splice_257 ?_
                              refine lv_iload_n X.1 X.2.1 dX1_splice_260 rfl (lv_at hl 2 rfl) ?_
                              refine i_add X dX1_splice_261 ?_
                              refine mp_items X hK hG hS dX1_splice_262 (fun H locs hG hS => ?_)
                              rw [mS_mP (sc' := [(40, (S.1 40) + m2)]) rfl] at hG
                              refine lv_aload_n X.1 X.2.1 dX1_splice_265 rfl (lv_at hl 0 rfl) ?_
                              refine m_callVv (rest := []) (n := 0) X hK hG hS (fun _ h => h) (mm_settle l D ca o (lv - 1) (mP S [(46, h46), (41, h41), (42, h42), (43, h43), (44, h44), (45, h45), (47, h47)] [(40, (S.1 40) + m2)]) (show TW (S.1 40 + m2) h41 h46 h47 from hTWs)) (lw_V q1520 q1522 qs41 q70 q1523) (by decide +kernel) rfl ⟨by show (lv - 1) + 1 ≤ lv; omega, by show 8 + (3 + 11) + 40 * (lv - 1) ≤ 40 * lv; omega⟩ ⟨Nat.le_refl _, Nat.le_refl _⟩ hl.1 rfl (Nat.le_of_ble_eq_true rfl) dX1_splice_266 (fun S5 H locs hp5 hG hS _ _ => ?_)
                              obtain ⟨f48, rfl, hTI2⟩ := hp5
                              rw [mP_mP (l' := [(46, h46), (41, h41), (42, h42), (43, h43), (44, h44), (45, h45), (47, h47), (48, f48)]) (sc' := [(40, (S.1 40) + m2)]) rfl rfl] at hG
                              refine ret _ _ _ _ _ ?_ hG hS dX1_splice_269
                              refine ⟨h41, h42, h43, h44, h45, h46, h47, f48, by rw [e_m2], ?_, by rw [← e_m2]; exact hTI2⟩
                              rw [← e_m2, ← eR]
                              exact hfin
                            · refine lv_aload_n X.1 X.2.1 dX1_splice_137 rfl (lv_at hl 0 rfl) ?_
                              refine mg_what X hK hG dX1_splice_138 ?_
                              refine lv_iload_n X.1 X.2.1 dX1_splice_141 rfl (lv_at hl 1 rfl) ?_
                              refine lv_iload X.1 X.2.1 dX1_splice_142 (lv_at hl 4 rfl) ?_
                              refine i_add X dX1_splice_144 ?_
                              refine lv_aload_n X.1 X.2.1 dX1_splice_145 rfl (lv_at hl 0 rfl) ?_
                              refine mg_fWhat X hK hG dX1_splice_146 ?_
                              refine lv_iload X.1 X.2.1 dX1_splice_149 (lv_at hl 4 rfl) ?_
                              refine ml_fWhat X hK hG (S.2 57) rfl (by omega) dX1_splice_151 ?_
                              refine ms_what X hK hG hS (by omega) dX1_splice_152 (fun H locs hG hS => ?_)
                              rw [mU_mP (l' := [(46, h46), (41, upI h41 (i + k3) (S.2 57 k3)), (42, h42), (43, h43), (44, h44), (45, h45), (47, h47)]) rfl rfl] at hG
                              refine lv_aload_n X.1 X.2.1 dX1_splice_153 rfl (lv_at hl 0 rfl) ?_
                              refine mg_worthOf X hK hG dX1_splice_154 ?_
                              refine lv_iload_n X.1 X.2.1 dX1_splice_157 rfl (lv_at hl 1 rfl) ?_
                              refine lv_iload X.1 X.2.1 dX1_splice_158 (lv_at hl 4 rfl) ?_
                              refine i_add X dX1_splice_160 ?_
                              refine lv_aload_n X.1 X.2.1 dX1_splice_161 rfl (lv_at hl 0 rfl) ?_
                              refine mg_fWorth X hK hG dX1_splice_162 ?_
                              refine lv_iload X.1 X.2.1 dX1_splice_165 (lv_at hl 4 rfl) ?_
                              refine ml_fWorth X hK hG (S.2 58) rfl (by omega) dX1_splice_167 ?_
                              refine ms_worthOf X hK hG hS (by omega) dX1_splice_168 (fun H locs hG hS => ?_)
                              rw [mU_mP (l' := [(46, h46), (41, upI h41 (i + k3) (S.2 57 k3)), (42, upI h42 (i + k3) (S.2 58 k3)), (43, h43), (44, h44), (45, h45), (47, h47)]) rfl rfl] at hG
                              refine lv_aload_n X.1 X.2.1 dX1_splice_169 rfl (lv_at hl 0 rfl) ?_
                              refine mg_mark X hK hG dX1_splice_170 ?_
                              refine lv_iload_n X.1 X.2.1 dX1_splice_173 rfl (lv_at hl 1 rfl) ?_
                              refine lv_iload X.1 X.2.1 dX1_splice_174 (lv_at hl 4 rfl) ?_
                              refine i_add X dX1_splice_176 ?_
                              refine lv_aload_n X.1 X.2.1 dX1_splice_177 rfl (lv_at hl 0 rfl) ?_
                              refine mg_fMark X hK hG dX1_splice_178 ?_
                              refine lv_iload X.1 X.2.1 dX1_splice_181 (lv_at hl 4 rfl) ?_
                              refine ml_fMark X hK hG (S.2 59) rfl (by omega) dX1_splice_183 ?_
                              refine ms_mark X hK hG hS (by omega) dX1_splice_184 (fun H locs hG hS => ?_)
                              rw [mU_mP (l' := [(46, h46), (41, upI h41 (i + k3) (S.2 57 k3)), (42, upI h42 (i + k3) (S.2 58 k3)), (43, upI h43 (i + k3) (S.2 59 k3)), (44, h44), (45, h45), (47, h47)]) rfl rfl] at hG
                              refine lv_aload_n X.1 X.2.1 dX1_splice_185 rfl (lv_at hl 0 rfl) ?_
                              refine mg_from X hK hG dX1_splice_186 ?_
                              refine lv_iload_n X.1 X.2.1 dX1_splice_189 rfl (lv_at hl 1 rfl) ?_
                              refine lv_iload X.1 X.2.1 dX1_splice_190 (lv_at hl 4 rfl) ?_
                              refine i_add X dX1_splice_192 ?_
                              refine lv_aload_n X.1 X.2.1 dX1_splice_193 rfl (lv_at hl 0 rfl) ?_
                              refine mg_fFrom X hK hG dX1_splice_194 ?_
                              refine lv_iload X.1 X.2.1 dX1_splice_197 (lv_at hl 4 rfl) ?_
                              refine ml_fFrom X hK hG (S.2 60) rfl (by omega) dX1_splice_199 ?_
                              refine ms_from X hK hG hS (by omega) dX1_splice_200 (fun H locs hG hS => ?_)
                              rw [mU_mP (l' := [(46, h46), (41, upI h41 (i + k3) (S.2 57 k3)), (42, upI h42 (i + k3) (S.2 58 k3)), (43, upI h43 (i + k3) (S.2 59 k3)), (44, upI h44 (i + k3) (S.2 60 k3)), (45, h45), (47, h47)]) rfl rfl] at hG
                              refine lv_aload_n X.1 X.2.1 dX1_splice_201 rfl (lv_at hl 0 rfl) ?_
                              refine mg_maker X hK hG dX1_splice_202 ?_
                              refine lv_iload_n X.1 X.2.1 dX1_splice_205 rfl (lv_at hl 1 rfl) ?_
                              refine lv_iload X.1 X.2.1 dX1_splice_206 (lv_at hl 4 rfl) ?_
                              refine i_add X dX1_splice_208 ?_
                              refine lv_aload_n X.1 X.2.1 dX1_splice_209 rfl (lv_at hl 0 rfl) ?_
                              refine mg_fMaker X hK hG dX1_splice_210 ?_
                              refine lv_iload X.1 X.2.1 dX1_splice_213 (lv_at hl 4 rfl) ?_
                              refine ml_fMaker X hK hG (S.2 61) rfl (by omega) dX1_splice_215 ?_
                              refine ms_maker X hK hG hS (by omega) dX1_splice_216 (fun H locs hG hS => ?_)
                              rw [mU_mP (l' := [(46, h46), (41, upI h41 (i + k3) (S.2 57 k3)), (42, upI h42 (i + k3) (S.2 58 k3)), (43, upI h43 (i + k3) (S.2 59 k3)), (44, upI h44 (i + k3) (S.2 60 k3)), (45, upI h45 (i + k3) (S.2 61 k3)), (47, h47)]) rfl rfl] at hG
                              refine lv_aload_n X.1 X.2.1 dX1_splice_217 rfl (lv_at hl 0 rfl) ?_
                              refine mg_room X hK hG dX1_splice_218 ?_
                              refine lv_iload_n X.1 X.2.1 dX1_splice_221 rfl (lv_at hl 1 rfl) ?_
                              refine lv_iload X.1 X.2.1 dX1_splice_222 (lv_at hl 4 rfl) ?_
                              refine i_add X dX1_splice_224 ?_
                              refine lv_aload_n X.1 X.2.1 dX1_splice_225 rfl (lv_at hl 0 rfl) ?_
                              refine mg_fRoom X hK hG dX1_splice_226 ?_
                              refine lv_iload X.1 X.2.1 dX1_splice_229 (lv_at hl 4 rfl) ?_
                              refine ml_fRoom X hK hG (S.2 62) rfl (by omega) dX1_splice_231 ?_
                              refine ms_room X hK hG hS (by omega) dX1_splice_232 (fun H locs hG hS => ?_)
                              rw [mU_mP (l' := [(46, upI h46 (i + k3) (S.2 62 k3)), (41, upI h41 (i + k3) (S.2 57 k3)), (42, upI h42 (i + k3) (S.2 58 k3)), (43, upI h43 (i + k3) (S.2 59 k3)), (44, upI h44 (i + k3) (S.2 60 k3)), (45, upI h45 (i + k3) (S.2 61 k3)), (47, h47)]) rfl rfl] at hG
                              refine lv_aload_n X.1 X.2.1 dX1_splice_233 rfl (lv_at hl 0 rfl) ?_
                              refine mg_parts X hK hG dX1_splice_234 ?_
                              refine lv_iload_n X.1 X.2.1 dX1_splice_237 rfl (lv_at hl 1 rfl) ?_
                              refine lv_iload X.1 X.2.1 dX1_splice_238 (lv_at hl 4 rfl) ?_
                              refine i_add X dX1_splice_240 ?_
                              refine lv_aload_n X.1 X.2.1 dX1_splice_241 rfl (lv_at hl 0 rfl) ?_
                              refine mg_fParts X hK hG dX1_splice_242 ?_
                              refine lv_iload X.1 X.2.1 dX1_splice_245 (lv_at hl 4 rfl) ?_
                              refine ml_fParts X hK hG (S.2 63) rfl (by omega) dX1_splice_247 ?_
                              refine ms_parts X hK hG hS (by omega) dX1_splice_248 (fun H locs hG hS => ?_)
                              rw [mU_mP (l' := [(46, upI h46 (i + k3) (S.2 62 k3)), (41, upI h41 (i + k3) (S.2 57 k3)), (42, upI h42 (i + k3) (S.2 58 k3)), (43, upI h43 (i + k3) (S.2 59 k3)), (44, upI h44 (i + k3) (S.2 60 k3)), (45, upI h45 (i + k3) (S.2 61 k3)), (47, upI h47 (i + k3) (S.2 63 k3))]) rfl rfl] at hG
                              refine i_inc (lv' := [(4, .int (iI (k3 + 1))), (0, .ref o), (1, .int (iI (i))), (2, .int (iI (m2))), (3, .int (iI (b)))]) X dX1_splice_249 hl (k := 4) rfl (by decide) rfl (fun ls hl => ?_)
                              refine lv_goto (tgt := 128) X.1 X.2.1 dX1_splice_252 (by decide) ?_
                              have hh2 : ∀ j, (upI h41 (i + k3) (S.2 57 k3)) j = (if i ≤ j ∧ j < i + (k3 + 1) then S.2 57 (j - i) else g41 j) ∧ (upI h42 (i + k3) (S.2 58 k3)) j = (if i ≤ j ∧ j < i + (k3 + 1) then S.2 58 (j - i) else g42 j) ∧ (upI h43 (i + k3) (S.2 59 k3)) j = (if i ≤ j ∧ j < i + (k3 + 1) then S.2 59 (j - i) else g43 j) ∧ (upI h44 (i + k3) (S.2 60 k3)) j = (if i ≤ j ∧ j < i + (k3 + 1) then S.2 60 (j - i) else g44 j) ∧ (upI h45 (i + k3) (S.2 61 k3)) j = (if i ≤ j ∧ j < i + (k3 + 1) then S.2 61 (j - i) else g45 j) ∧ (upI h46 (i + k3) (S.2 62 k3)) j = (if i ≤ j ∧ j < i + (k3 + 1) then S.2 62 (j - i) else g46 j) ∧ (upI h47 (i + k3) (S.2 63 k3)) j = (if i ≤ j ∧ j < i + (k3 + 1) then S.2 63 (j - i) else g47 j) := by
                                intro j
                                obtain ⟨q0, q1, q2, q3, q4, q5, q6⟩ := hh j
                                by_cases hj : j = i + k3
                                · simp only [hj, upI_s, if_pos (show i ≤ i + k3 ∧ i + k3 < i + (k3 + 1) by omega), show i + k3 - i = k3 by omega, and_self]
                                · simp only [upI_n hj, q0, q1, q2, q3, q4, q5, q6]
                                  by_cases hc : i ≤ j ∧ j < i + k3
                                  · simp only [if_pos hc, if_pos (show i ≤ j ∧ j < i + (k3 + 1) by omega), and_self]
                                  · simp only [if_neg hc, if_neg (show ¬ (i ≤ j ∧ j < i + (k3 + 1)) by omega), and_self]
                              exact ih128 (k3 + 1) (upI h41 (i + k3) (S.2 57 k3)) (upI h42 (i + k3) (S.2 58 k3)) (upI h43 (i + k3) (S.2 59 k3)) (upI h44 (i + k3) (S.2 60 k3)) (upI h45 (i + k3) (S.2 61 k3)) (upI h46 (i + k3) (S.2 62 k3)) (upI h47 (i + k3) (S.2 63 k3)) (by omega) hh2 (by omega) H locs ls hG hS (lv_sub hl [1, 2, 3, 4, 0] rfl)
                        exact L128 _ 0 g41 g42 g43 g44 g45 g46 g47 (by omega) hh0 (Nat.lt_succ_self _) H locs ls hG hS (lv_sub hl [1, 2, 3, 4, 0] rfl)
                      · refine lv_aload_n X.1 X.2.1 dX1_splice_109 rfl (lv_at hl 0 rfl) ?_
                        refine lv_iload X.1 X.2.1 dX1_splice_110 (lv_at hl 4 rfl) ?_
                        refine lv_iload X.1 X.2.1 dX1_splice_112 (lv_at hl 4 rfl) ?_
                        refine lv_iload_n X.1 X.2.1 dX1_splice_114 rfl (lv_at hl 2 rfl) ?_
                        refine i_add X dX1_splice_115 ?_
                        refine m_callVv (rest := []) (n := 2) X hK hG hS (fun _ h => h) (mm_move l D ca o (lv - 1) (mP S [(46, g46), (41, g41), (42, g42), (43, g43), (44, g44), (45, g45), (47, g47)] []) k2 (k2 + m2) (by omega) (by omega)) (lw_V q1636 q1638 qs63 q70 q1639) (by decide +kernel) rfl ⟨by show (lv - 1) + 1 ≤ lv; omega, by show 8 + (3 + 11) + 40 * (lv - 1) ≤ 40 * lv; omega⟩ ⟨Nat.le_refl _, Nat.le_refl _⟩ hl.1 rfl (Nat.le_of_ble_eq_true rfl) dX1_splice_116 (fun S6 H locs hp6 hG hS _ _ => ?_)
                        obtain rfl := hp6
                        rw [mP_mP (l' := [(46, upI g46 (k2 + m2) (g46 k2)), (41, upI g41 (k2 + m2) (g41 k2)), (42, upI g42 (k2 + m2) (g42 k2)), (43, upI g43 (k2 + m2) (g43 k2)), (44, upI g44 (k2 + m2) (g44 k2)), (45, upI g45 (k2 + m2) (g45 k2)), (47, upI g47 (k2 + m2) (g47 k2))]) (sc' := []) rfl rfl] at hG
                        refine i_inc (lv' := [(4, .int (iI (k2 + 1))), (0, .ref o), (1, .int (iI (i))), (2, .int (iI (m2))), (3, .int (iI (b)))]) X dX1_splice_119 hl (k := 4) rfl (by decide) rfl (fun ls hl => ?_)
                        refine lv_goto (tgt := 96) X.1 X.2.1 dX1_splice_122 (by decide) ?_
                        have hg4 : m2 < 0 → ∀ j, (upI g41 (k2 + m2) (g41 k2)) j = (if b + m2 ≤ j ∧ j < (k2 + 1) + m2 then S.2 41 (j - m2) else S.2 41 j) ∧ (upI g42 (k2 + m2) (g42 k2)) j = (if b + m2 ≤ j ∧ j < (k2 + 1) + m2 then S.2 42 (j - m2) else S.2 42 j) ∧ (upI g43 (k2 + m2) (g43 k2)) j = (if b + m2 ≤ j ∧ j < (k2 + 1) + m2 then S.2 43 (j - m2) else S.2 43 j) ∧ (upI g44 (k2 + m2) (g44 k2)) j = (if b + m2 ≤ j ∧ j < (k2 + 1) + m2 then S.2 44 (j - m2) else S.2 44 j) ∧ (upI g45 (k2 + m2) (g45 k2)) j = (if b + m2 ≤ j ∧ j < (k2 + 1) + m2 then S.2 45 (j - m2) else S.2 45 j) ∧ (upI g46 (k2 + m2) (g46 k2)) j = (if b + m2 ≤ j ∧ j < (k2 + 1) + m2 then R (j - m2) else R j) ∧ (upI g47 (k2 + m2) (g47 k2)) j = (if b + m2 ≤ j ∧ j < (k2 + 1) + m2 then S.2 47 (j - m2) else S.2 47 j) := by
                          intro hneg j
                          obtain ⟨q0, q1, q2, q3, q4, q5, q6⟩ := hg3 hneg j
                          obtain ⟨p0, p1, p2, p3, p4, p5, p6⟩ := hg3 hneg k2
                          rw [if_neg (by omega)] at p0 p1 p2 p3 p4 p5 p6
                          by_cases hj : j = k2 + m2
                          · simp only [hj, upI_s, p0, p1, p2, p3, p4, p5, p6, if_pos (show b + m2 ≤ k2 + m2 ∧ k2 + m2 < k2 + 1 + m2 by omega), show k2 + m2 - m2 = k2 by omega, and_self]
                          · simp only [upI_n hj, q0, q1, q2, q3, q4, q5, q6]
                            by_cases hc : b + m2 ≤ j ∧ j < k2 + m2
                            · simp only [if_pos hc, if_pos (show b + m2 ≤ j ∧ j < k2 + 1 + m2 by omega), and_self]
                            · simp only [if_neg hc, if_neg (show ¬ (b + m2 ≤ j ∧ j < k2 + 1 + m2) by omega), and_self]
                        exact ih96 (k2 + 1) (upI g41 (k2 + m2) (g41 k2)) (upI g42 (k2 + m2) (g42 k2)) (upI g43 (k2 + m2) (g43 k2)) (upI g44 (k2 + m2) (g44 k2)) (upI g45 (k2 + m2) (g45 k2)) (upI g46 (k2 + m2) (g46 k2)) (upI g47 (k2 + m2) (g47 k2)) (by omega) (by omega) hg4 (by omega) H locs ls hG hS (lv_sub hl [1, 2, 3, 4, 0] rfl)
                exact L96 _ b g41 g42 g43 g44 g45 g46 g47 (by omega) hA96 hB96 (Nat.lt_succ_self _) H locs ls hG hS (lv_sub hl [1, 2, 3, 4, 0] rfl)
              · refine lv_aload_n X.1 X.2.1 dX1_splice_77 rfl (lv_at hl 0 rfl) ?_
                refine lv_iload X.1 X.2.1 dX1_splice_78 (lv_at hl 4 rfl) ?_
                refine lv_iload X.1 X.2.1 dX1_splice_80 (lv_at hl 4 rfl) ?_
                refine lv_iload_n X.1 X.2.1 dX1_splice_82 rfl (lv_at hl 2 rfl) ?_
                refine i_add X dX1_splice_83 ?_
                refine m_callVv (rest := []) (n := 2) X hK hG hS (fun _ h => h) (mm_move l D ca o (lv - 1) (mP S [(46, g46), (41, g41), (42, g42), (43, g43), (44, g44), (45, g45), (47, g47)] []) k1 (k1 + m2) (by omega) (by omega)) (lw_V q1636 q1638 qs63 q70 q1639) (by decide +kernel) rfl ⟨by show (lv - 1) + 1 ≤ lv; omega, by show 8 + (3 + 11) + 40 * (lv - 1) ≤ 40 * lv; omega⟩ ⟨Nat.le_refl _, Nat.le_refl _⟩ hl.1 rfl (Nat.le_of_ble_eq_true rfl) dX1_splice_84 (fun S7 H locs hp7 hG hS _ _ => ?_)
                obtain rfl := hp7
                rw [mP_mP (l' := [(46, upI g46 (k1 + m2) (g46 k1)), (41, upI g41 (k1 + m2) (g41 k1)), (42, upI g42 (k1 + m2) (g42 k1)), (43, upI g43 (k1 + m2) (g43 k1)), (44, upI g44 (k1 + m2) (g44 k1)), (45, upI g45 (k1 + m2) (g45 k1)), (47, upI g47 (k1 + m2) (g47 k1))]) (sc' := []) rfl rfl] at hG
                refine i_inc (lv' := [(4, .int (iI (k1 + (-1)))), (0, .ref o), (1, .int (iI (i))), (2, .int (iI (m2))), (3, .int (iI (b)))]) X dX1_splice_87 hl (k := 4) rfl (by decide) rfl (fun ls hl => ?_)
                refine lv_goto (tgt := 67) X.1 X.2.1 dX1_splice_90 (by decide) ?_
                have hg2 : ∀ j, (upI g41 (k1 + m2) (g41 k1)) j = (if (k1 + -1) + m2 < j ∧ j < S.1 40 + m2 ∧ b + m2 ≤ j then S.2 41 (j - m2) else S.2 41 j) ∧ (upI g42 (k1 + m2) (g42 k1)) j = (if (k1 + -1) + m2 < j ∧ j < S.1 40 + m2 ∧ b + m2 ≤ j then S.2 42 (j - m2) else S.2 42 j) ∧ (upI g43 (k1 + m2) (g43 k1)) j = (if (k1 + -1) + m2 < j ∧ j < S.1 40 + m2 ∧ b + m2 ≤ j then S.2 43 (j - m2) else S.2 43 j) ∧ (upI g44 (k1 + m2) (g44 k1)) j = (if (k1 + -1) + m2 < j ∧ j < S.1 40 + m2 ∧ b + m2 ≤ j then S.2 44 (j - m2) else S.2 44 j) ∧ (upI g45 (k1 + m2) (g45 k1)) j = (if (k1 + -1) + m2 < j ∧ j < S.1 40 + m2 ∧ b + m2 ≤ j then S.2 45 (j - m2) else S.2 45 j) ∧ (upI g46 (k1 + m2) (g46 k1)) j = (if (k1 + -1) + m2 < j ∧ j < S.1 40 + m2 ∧ b + m2 ≤ j then R (j - m2) else R j) ∧ (upI g47 (k1 + m2) (g47 k1)) j = (if (k1 + -1) + m2 < j ∧ j < S.1 40 + m2 ∧ b + m2 ≤ j then S.2 47 (j - m2) else S.2 47 j) := by
                  intro j
                  obtain ⟨q0, q1, q2, q3, q4, q5, q6⟩ := hg1 j
                  obtain ⟨p0, p1, p2, p3, p4, p5, p6⟩ := hg1 k1
                  rw [if_neg (by omega)] at p0 p1 p2 p3 p4 p5 p6
                  by_cases hj : j = k1 + m2
                  · simp only [hj, upI_s, p0, p1, p2, p3, p4, p5, p6, if_pos (show k1 + -1 + m2 < k1 + m2 ∧ k1 + m2 < S.1 40 + m2 ∧ b + m2 ≤ k1 + m2 by omega), show k1 + m2 - m2 = k1 by omega, and_self]
                  · simp only [upI_n hj, q0, q1, q2, q3, q4, q5, q6]
                    by_cases hc : k1 + m2 < j ∧ j < S.1 40 + m2 ∧ b + m2 ≤ j
                    · simp only [if_pos hc, if_pos (show k1 + -1 + m2 < j ∧ j < S.1 40 + m2 ∧ b + m2 ≤ j by omega), and_self]
                    · simp only [if_neg hc, if_neg (show ¬ (k1 + -1 + m2 < j ∧ j < S.1 40 + m2 ∧ b + m2 ≤ j) by omega), and_self]
                exact ih67 (k1 + (-1)) (upI g41 (k1 + m2) (g41 k1)) (upI g42 (k1 + m2) (g42 k1)) (upI g43 (k1 + m2) (g43 k1)) (upI g44 (k1 + m2) (g44 k1)) (upI g45 (k1 + m2) (g45 k1)) (upI g46 (k1 + m2) (g46 k1)) (upI g47 (k1 + m2) (g47 k1)) (by omega) (by omega) hg2 (by omega) H locs ls hG hS (lv_sub hl [1, 2, 3, 4, 0] rfl)
        exact L67 _ ((S.1 40) - 1) (S.2 41) (S.2 42) (S.2 43) (S.2 44) (S.2 45) R (S.2 47) (by omega) (by omega) hg0 (Nat.lt_succ_self _) H locs ls hG hS (lv_sub hl [1, 2, 3, 4, 0] rfl)
      · have hlr := hTW.r (i := l2) (by omega) (by omega)
        have hrl : rf l2 = S.2 46 l2 := by rw [hrf]; rw [if_neg (by omega)]
        refine lv_aload_n X.1 X.2.1 dX1_splice_36 rfl (lv_at hl 0 rfl) ?_
        refine mg_room X hK hG dX1_splice_37 ?_
        refine lv_iload X.1 X.2.1 dX1_splice_40 (lv_at hl 4 rfl) ?_
        refine lv_dup2_11 X.1 X.2.1 dX1_splice_42 rfl rfl ?_
        refine ml_room X hK hG rf rfl (by omega) dX1_splice_43 ?_
        refine lv_iload_n X.1 X.2.1 dX1_splice_44 rfl (lv_at hl 2 rfl) ?_
        refine i_add X dX1_splice_45 ?_
        refine ms_room X hK hG hS (by omega) dX1_splice_46 (fun H locs hG hS => ?_)
        rw [mU_mP (l' := [(46, upI rf l2 ((rf l2) + m2))]) rfl rfl] at hG
        have hll := hpar l2 (by omega) (by omega)
        refine lv_aload_n X.1 X.2.1 dX1_splice_47 rfl (lv_at hl 0 rfl) ?_
        refine mg_inside X hK hG dX1_splice_48 ?_
        refine lv_iload X.1 X.2.1 dX1_splice_51 (lv_at hl 4 rfl) ?_
        refine ml_inside X hK hG (S.2 48) rfl (by omega) dX1_splice_53 ?_
        refine lv_istore (lv' := [(4, .int (iI (S.2 48 l2))), (0, .ref o), (1, .int (iI (i))), (2, .int (iI (m2))), (3, .int (iI (b)))]) X.1 X.2.1 dX1_splice_54 hl (by decide) rfl (fun ls hl => ?_)
        refine lv_goto (tgt := 29) X.1 X.2.1 dX1_splice_56 (by decide) ?_
        have hl3 : S.2 48 l2 = -9 ∨ (0 ≤ S.2 48 l2 ∧ S.2 48 l2 < i ∧ i < S.2 48 l2 + S.2 46 (S.2 48 l2)) := by
          rcases hll.1 with q | q
          · exact Or.inl q
          · right
            have hne := hTW.nest (c := S.2 48 l2) (i := l2) q.1 (by omega) (by omega) q.2.2
            exact ⟨q.1, by omega, by omega⟩
        have hrf3 : ∀ j, upI rf l2 (rf l2 + m2) j = if (0 ≤ j ∧ j < i ∧ i < j + S.2 46 j) ∧ S.2 48 l2 < j then S.2 46 j + m2 else S.2 46 j := by
          intro j
          by_cases hj : j = l2
          · rw [hj, upI_s, hrl, if_pos ⟨by omega, by rcases hll.1 with q | q <;> omega⟩]
          · rw [upI_n hj, hrf]
            by_cases hc : (0 ≤ j ∧ j < i ∧ i < j + S.2 46 j)
            · by_cases hlt : l2 < j
              · rw [if_pos ⟨hc, hlt⟩, if_pos ⟨hc, by rcases hll.1 with q | q <;> omega⟩]
              · have := hll.2 j hc.1 (by omega) (by omega)
                rw [if_neg (by omega), if_neg (by omega)]
            · rw [if_neg (fun z => hc z.1), if_neg (fun z => hc z.1)]
        exact ih29 (S.2 48 l2) (upI rf l2 ((rf l2) + m2)) hl3 hrf3 (by omega) H locs ls hG hS (lv_sub hl [1, 2, 3, 4, 0] rfl)
  exact L29 _ (S.2 48 i) (S.2 46) (by omega) hrf0 (Nat.lt_succ_self _) H locs ls hG hS (lv_sub hl [3, 4, 2, 1, 0] rfl)

