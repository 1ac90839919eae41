/-! ===== the Model: back ===== -/
set_option maxRecDepth 100000
set_option maxHeartbeats 4000000 in
theorem mm_back (l : Launch) (D : va_G) (ca : Nat → ClassId) (o lv : Nat) (S : MSt) (hlv : 2 ≤ lv) (hth : S.1 27 = 0 ∨ S.1 27 = 1) (hu : 0 ≤ S.1 66 ∧ S.1 66 ≤ 6) (hB : S.1 27 = 1 → 0 < S.1 66 → BackOk S) : mCi l yX1_back cX1_back 5 .int D ca o lv [.ref o] S (fun r S' => ((S.1 27 = 0 ∨ S.1 66 = 0) ∧ r = -3 ∧ S' = S) ∨ (S.1 27 = 1 ∧ 0 < S.1 66 ∧ r = S.1 49 - 1 ∧ BackR S S')) := by
  refine mCi_of (by decide +kernel) rfl (Nat.le_of_ble_eq_true rfl) ?_
  intro p e s m args below meth c Q X hK ret H locs ls hG hS hl
  have hl : lv_has ls 5 [(0, .ref o)] := hl
  refine lv_aload_n X.1 X.2.1 dX1_back_0 rfl (lv_at hl 0 rfl) ?_
  refine mg_isThere X hK hG (S.1 27) rfl dX1_back_1 ?_
  refine i_if_eq X 14 dX1_back_4 (by decide) (by first | omega | (split <;> omega)) (fun c4 => ?_) (fun c4 => ?_)
  · refine lv_bipush (v := iI (-3)) X.1 X.2.1 dX1_back_14 (by decide) ?_
    refine ret _ _ _ _ _ _ ?_ (rfl) hG hS dX1_back_16
    exact Or.inl ⟨by omega, rfl, rfl⟩
  · refine lv_aload_n X.1 X.2.1 dX1_back_7 rfl (lv_at hl 0 rfl) ?_
    refine mg_undos X hK hG (S.1 66) rfl dX1_back_8 ?_
    refine i_if_ne X 17 dX1_back_11 (by decide) (by first | omega | (split <;> omega)) (fun c11 => ?_) (fun c11 => ?_)
    · obtain ⟨hT, hB2, hB3, hB4, hB5, hB6, hB7⟩ := hB (by omega) (by omega)
      have hnn := hT.n
      refine lv_aload_n X.1 X.2.1 dX1_back_17 rfl (lv_at hl 0 rfl) ?_
      refine lv_dup X.1 X.2.1 dX1_back_18 rfl ?_
      refine mg_undos X hK hG (S.1 66) rfl dX1_back_19 ?_
      refine lv_iconst (v := iI (1)) X.1 X.2.1 dX1_back_22 rfl ?_
      refine i_sub X dX1_back_23 ?_
      have hG : gOk D (mA o) (mH ca o (mP S [] [])) H := hG
      refine mp_undos X hK hG hS dX1_back_24 (fun H locs hG hS => ?_)
      rw [mS_mP (sc' := [(66, (S.1 66) - 1)]) rfl] at hG
      refine lv_aload_n X.1 X.2.1 dX1_back_27 rfl (lv_at hl 0 rfl) ?_
      refine lv_dup X.1 X.2.1 dX1_back_28 rfl ?_
      refine mg_steps X hK hG (S.1 49) rfl dX1_back_29 ?_
      refine lv_iconst (v := iI (1)) X.1 X.2.1 dX1_back_32 rfl ?_
      refine i_sub X dX1_back_33 ?_
      refine mp_steps X hK hG hS dX1_back_34 (fun H locs hG hS => ?_)
      rw [mS_mP (sc' := [(66, (S.1 66) - 1), (49, (S.1 49) - 1)]) rfl] at hG
      refine lv_aload_n X.1 X.2.1 dX1_back_37 rfl (lv_at hl 0 rfl) ?_
      refine mg_gonePlace X hK hG dX1_back_38 ?_
      refine lv_aload_n X.1 X.2.1 dX1_back_41 rfl (lv_at hl 0 rfl) ?_
      refine mg_steps X hK hG ((S.1 49) - 1) rfl dX1_back_42 ?_
      refine ml_gonePlace X hK hG (S.2 69) rfl (by first | omega | (split <;> omega)) dX1_back_45 ?_
      refine i_top (fun cc2 e_cc2 => ?_)
      refine lv_istore_n (lv' := [(1, .int (iI (cc2))), (0, .ref o)]) X.1 X.2.1 dX1_back_46 rfl hl (by decide) rfl (fun ls hl => ?_)
      refine lv_aload_n X.1 X.2.1 dX1_back_47 rfl (lv_at hl 1 rfl) ?_
      refine mg_gone X hK hG (S.1 67) rfl dX1_back_48 ?_
      refine lv_aload_n X.1 X.2.1 dX1_back_51 rfl (lv_at hl 1 rfl) ?_
      refine mg_goneAt X hK hG dX1_back_52 ?_
      refine lv_aload_n X.1 X.2.1 dX1_back_55 rfl (lv_at hl 1 rfl) ?_
      refine mg_steps X hK hG ((S.1 49) - 1) rfl dX1_back_56 ?_
      refine ml_goneAt X hK hG (S.2 68) rfl (by first | omega | (split <;> omega)) dX1_back_59 ?_
      refine i_sub X dX1_back_60 ?_
      refine i_top (fun y e_y => ?_)
      refine lv_istore_n (lv' := [(2, .int (iI (y))), (1, .int (iI (cc2))), (0, .ref o)]) X.1 X.2.1 dX1_back_61 rfl hl (by decide) rfl (fun ls hl => ?_)
      refine lv_aload_n X.1 X.2.1 dX1_back_62 rfl (lv_at hl 2 rfl) ?_
      refine lv_iload_n X.1 X.2.1 dX1_back_63 rfl (lv_at hl 0 rfl) ?_
      refine mp_fresh X hK hG hS dX1_back_64 (fun H locs hG hS => ?_)
      rw [mS_mP (sc' := [(66, (S.1 66) - 1), (49, (S.1 49) - 1), (56, y)]) rfl] at hG
      refine lv_iconst (v := iI (0)) X.1 X.2.1 dX1_back_67 rfl ?_
      refine lv_istore_n (lv' := [(3, .int (iI (0))), (2, .int (iI (y))), (1, .int (iI (cc2))), (0, .ref o)]) X.1 X.2.1 dX1_back_68 rfl hl (by decide) rfl (fun ls hl => ?_)
      obtain ⟨g, eg⟩ : ∃ g, g = S.2 68 (S.1 49 - 1) := ⟨_, rfl⟩
      have eG : g = bkG S := eg
      have eN : y = bkN S := e_y
      have eC : cc2 = bkC S := e_cc2
      have eM : y - S.2 46 cc2 = bkM S := by rw [eN, eC]; rfl
      rw [← eG, ← eN] at hB5
      rw [← eC] at hB4
      rw [← eM] at hB6
      have hf0 : ∀ j, S.2 57 j = (if 0 ≤ j ∧ j < 0 then S.2 71 (g + j) else S.2 57 j) ∧ S.2 58 j = (if 0 ≤ j ∧ j < 0 then S.2 72 (g + j) else S.2 58 j) ∧ S.2 59 j = (if 0 ≤ j ∧ j < 0 then S.2 73 (g + j) else S.2 59 j) ∧ S.2 60 j = (if 0 ≤ j ∧ j < 0 then S.2 74 (g + j) else S.2 60 j) ∧ S.2 61 j = (if 0 ≤ j ∧ j < 0 then S.2 75 (g + j) else S.2 61 j) ∧ S.2 62 j = (if 0 ≤ j ∧ j < 0 then S.2 76 (g + j) else S.2 62 j) ∧ S.2 63 j = (if 0 ≤ j ∧ j < 0 then S.2 77 (g + j) else S.2 63 j) := by
        intro j
        simp only [if_neg (show ¬ (0 ≤ j ∧ j < 0) by omega), and_self]
      rw [mP_add (k := 57) (f := S.2 57) (l' := [(57, S.2 57)]) rfl rfl, mP_add (k := 58) (f := S.2 58) (l' := [(57, S.2 57), (58, S.2 58)]) rfl rfl, mP_add (k := 59) (f := S.2 59) (l' := [(57, S.2 57), (58, S.2 58), (59, S.2 59)]) rfl rfl, mP_add (k := 60) (f := S.2 60) (l' := [(57, S.2 57), (58, S.2 58), (59, S.2 59), (60, S.2 60)]) rfl rfl, mP_add (k := 61) (f := S.2 61) (l' := [(57, S.2 57), (58, S.2 58), (59, S.2 59), (60, S.2 60), (61, S.2 61)]) rfl rfl, mP_add (k := 62) (f := S.2 62) (l' := [(57, S.2 57), (58, S.2 58), (59, S.2 59), (60, S.2 60), (61, S.2 61), (62, S.2 62)]) rfl rfl, mP_add (k := 63) (f := S.2 63) (l' := [(57, S.2 57), (58, S.2 58), (59, S.2 59), (60, S.2 60), (61, S.2 61), (62, S.2 62), (63, S.2 63)]) rfl rfl] at hG
      have L69 : ∀ (N69 : Nat) (k : Int) (f57 f58 f59 f60 f61 f62 f63 : Int → Int), (0 ≤ k ∧ k ≤ y) → (∀ j, f57 j = (if 0 ≤ j ∧ j < k then S.2 71 (g + j) else S.2 57 j) ∧ f58 j = (if 0 ≤ j ∧ j < k then S.2 72 (g + j) else S.2 58 j) ∧ f59 j = (if 0 ≤ j ∧ j < k then S.2 73 (g + j) else S.2 59 j) ∧ f60 j = (if 0 ≤ j ∧ j < k then S.2 74 (g + j) else S.2 60 j) ∧ f61 j = (if 0 ≤ j ∧ j < k then S.2 75 (g + j) else S.2 61 j) ∧ f62 j = (if 0 ≤ j ∧ j < k then S.2 76 (g + j) else S.2 62 j) ∧ f63 j = (if 0 ≤ j ∧ j < k then S.2 77 (g + j) else S.2 63 j)) → (y - k).toNat < N69 → ∀ (H : Heap) (locs : List Loc) (ls : Array Slot), gOk D (mA o) (mH ca o (mP S [(57, f57), (58, f58), (59, f59), (60, f60), (61, f61), (62, f62), (63, f63)] [(66, S.1 66 - 1), (49, S.1 49 - 1), (56, y)])) H → va_S (mA o) s.heap H locs → lv_has ls 5 [(0, .ref o), (1, .int (iI (cc2))), (2, .int (iI (y))), (3, .int (iI (k)))] → W p l e (mR lv) s m args below meth c H locs 0 0 Q (F0 m 69 ls []) := by
        intro N69
        induction N69 with
        | zero => intro k f57 f58 f59 f60 f61 f62 f63 hk hf hN; exact absurd hN (Nat.not_lt_zero _)
        | succ N69 ih69 =>
          intro k f57 f58 f59 f60 f61 f62 f63 hk hf hN69 H locs ls hG hS hl
          refine lv_iload_n X.1 X.2.1 dX1_back_69 rfl (lv_at hl 3 rfl) ?_
          refine lv_iload_n X.1 X.2.1 dX1_back_70 rfl (lv_at hl 2 rfl) ?_
          refine i_icmp_ge X 184 dX1_back_71 (by decide) (by first | omega | (split <;> omega)) (by first | omega | (split <;> omega)) (fun c71 => ?_) (fun c71 => ?_)
          · have hF57 : ∀ x, 0 ≤ x → x < bkN S → f57 x = bkF S 57 x := fun x a b => by rw [(hf x).1, if_pos (by rw [← eN] at b; omega), eG]; rfl
            have hF58 : ∀ x, 0 ≤ x → x < bkN S → f58 x = bkF S 58 x := fun x a b => by rw [(hf x).2.1, if_pos (by rw [← eN] at b; omega), eG]; rfl
            have hF59 : ∀ x, 0 ≤ x → x < bkN S → f59 x = bkF S 59 x := fun x a b => by rw [(hf x).2.2.1, if_pos (by rw [← eN] at b; omega), eG]; rfl
            have hF60 : ∀ x, 0 ≤ x → x < bkN S → f60 x = bkF S 60 x := fun x a b => by rw [(hf x).2.2.2.1, if_pos (by rw [← eN] at b; omega), eG]; rfl
            have hF61 : ∀ x, 0 ≤ x → x < bkN S → f61 x = bkF S 61 x := fun x a b => by rw [(hf x).2.2.2.2.1, if_pos (by rw [← eN] at b; omega), eG]; rfl
            have hF62 : ∀ x, 0 ≤ x → x < bkN S → f62 x = bkF S 62 x := fun x a b => by rw [(hf x).2.2.2.2.2.1, if_pos (by rw [← eN] at b; omega), eG]; rfl
            have hF63 : ∀ x, 0 ≤ x → x < bkN S → f63 x = bkF S 63 x := fun x a b => by rw [(hf x).2.2.2.2.2.2, if_pos (by rw [← eN] at b; omega), eG]; rfl
            have hTW9 : TW (S.1 40 + (y - S.2 46 cc2)) (spl cc2 y (y - S.2 46 cc2) (S.2 41) f57) (spl cc2 y (y - S.2 46 cc2) (rmA cc2 (y - S.2 46 cc2) (S.2 46)) f62) (spl cc2 y (y - S.2 46 cc2) (S.2 47) f63) := by
              rw [eM, eC, eN]
              exact TW_congr hB7 (fun j a b => spl_congr hF57 j) (fun j a b => spl_congr hF62 j) (fun j a b => spl_congr hF63 j)
            refine lv_aload_n X.1 X.2.1 dX1_back_184 rfl (lv_at hl 0 rfl) ?_
            refine lv_aload_n X.1 X.2.1 dX1_back_185 rfl (lv_at hl 0 rfl) ?_
            refine mg_goneAt X hK hG dX1_back_186 ?_
            refine lv_aload_n X.1 X.2.1 dX1_back_189 rfl (lv_at hl 0 rfl) ?_
            refine mg_steps X hK hG (S.1 49 - 1) rfl dX1_back_190 ?_
            refine ml_goneAt X hK hG (S.2 68) rfl (by first | omega | (split <;> omega)) dX1_back_193 ?_
            refine mp_gone X hK hG hS dX1_back_194 (fun H locs hG hS => ?_)
            rw [mS_mP (sc' := [(66, S.1 66 - 1), (49, S.1 49 - 1), (56, y), (67, S.2 68 (S.1 49 - 1))]) rfl] at hG
            refine lv_aload_n X.1 X.2.1 dX1_back_197 rfl (lv_at hl 0 rfl) ?_
            refine lv_iload_n X.1 X.2.1 dX1_back_198 rfl (lv_at hl 1 rfl) ?_
            refine m_callVv (rest := []) (n := 1) X hK hG hS (fun _ h => h) (mm_splice l D ca o (lv - 1) (mP S [(57, f57), (58, f58), (59, f59), (60, f60), (61, f61), (62, f62), (63, f63)] [(66, S.1 66 - 1), (49, S.1 49 - 1), (56, y), (67, S.2 68 (S.1 49 - 1))]) cc2 (by omega) (show 0 ≤ cc2 ∧ cc2 < S.1 40 by omega) hT.1 hT.2.1 (show 1 ≤ y ∧ y ≤ 500 by omega) (show S.1 40 + (y - S.2 46 cc2) ≤ 500 by omega) hTW9) (lw_V q1632 q1634 qs62 q70 q1635) (by decide +kernel) rfl ⟨by show (lv - 1) + 1 ≤ lv; omega, by show 8 + (5 + 11) + 40 * (lv - 1) ≤ 40 * lv; omega⟩ ⟨Nat.le_refl _, Nat.le_refl _⟩ hl.1 rfl (Nat.le_of_ble_eq_true rfl) dX1_back_199 (fun S1 H locs hp1 hG hS _ _ => ?_)
            obtain ⟨h41, h42, h43, h44, h45, h46, h47, f48, rfl, hsp, hTI9⟩ := hp1
            rw [mP_mP (l' := [(57, f57), (58, f58), (59, f59), (60, f60), (61, f61), (62, f62), (63, f63), (48, f48), (47, h47), (45, h45), (44, h44), (43, h43), (42, h42), (41, h41), (46, h46)]) (sc' := [(66, S.1 66 - 1), (49, S.1 49 - 1), (56, y), (67, S.2 68 (S.1 49 - 1)), (40, S.1 40 + (y - S.2 46 cc2))]) rfl rfl] at hG
            have hsp : ∀ j, 0 ≤ j → j < S.1 40 + (y - S.2 46 cc2) → h41 j = spl cc2 y (y - S.2 46 cc2) (S.2 41) f57 j ∧ h42 j = spl cc2 y (y - S.2 46 cc2) (S.2 42) f58 j ∧ h43 j = spl cc2 y (y - S.2 46 cc2) (S.2 43) f59 j ∧ h44 j = spl cc2 y (y - S.2 46 cc2) (S.2 44) f60 j ∧ h45 j = spl cc2 y (y - S.2 46 cc2) (S.2 45) f61 j ∧ h46 j = spl cc2 y (y - S.2 46 cc2) (rmA cc2 (y - S.2 46 cc2) (S.2 46)) f62 j ∧ h47 j = spl cc2 y (y - S.2 46 cc2) (S.2 47) f63 j := hsp
            rw [eM, eC, eN] at hsp
            have hsp2 : ∀ j, 0 ≤ j → j < S.1 40 + bkM S → h41 j = spl (bkC S) (bkN S) (bkM S) (S.2 41) (bkF S 57) j ∧ h42 j = spl (bkC S) (bkN S) (bkM S) (S.2 42) (bkF S 58) j ∧ h43 j = spl (bkC S) (bkN S) (bkM S) (S.2 43) (bkF S 59) j ∧ h44 j = spl (bkC S) (bkN S) (bkM S) (S.2 44) (bkF S 60) j ∧ h45 j = spl (bkC S) (bkN S) (bkM S) (S.2 45) (bkF S 61) j ∧ h46 j = spl (bkC S) (bkN S) (bkM S) (rmA (bkC S) (bkM S) (S.2 46)) (bkF S 62) j ∧ h47 j = spl (bkC S) (bkN S) (bkM S) (S.2 47) (bkF S 63) j := by
              intro j a b
              obtain ⟨q0, q1, q2, q3, q4, q5, q6⟩ := hsp j a b
              exact ⟨q0.trans (spl_congr hF57 j), q1.trans (spl_congr hF58 j), q2.trans (spl_congr hF59 j), q3.trans (spl_congr hF60 j), q4.trans (spl_congr hF61 j), q5.trans (spl_congr hF62 j), q6.trans (spl_congr hF63 j)⟩
            refine lv_aload_n X.1 X.2.1 dX1_back_202 rfl (lv_at hl 0 rfl) ?_
            refine mg_steps X hK hG (S.1 49 - 1) rfl dX1_back_203 ?_
            refine ret _ _ _ _ _ _ ?_ (rfl) hG hS dX1_back_206
            refine Or.inr ⟨by omega, by omega, rfl, ⟨by show S.1 40 + (y - S.2 46 cc2) = _; rw [eM], rfl, rfl, rfl⟩, ?_, hsp2, ?_, ?_⟩
            · intro k q1 q2 q3 q4 q5
              simp only [mP, lk]
              rw [if_neg (show ¬ k = 66 by omega), if_neg (show ¬ k = 49 by omega), if_neg (show ¬ k = 56 by omega), if_neg (show ¬ k = 67 by omega), if_neg (show ¬ k = 40 by omega)]
              rfl
            · rw [← eM]; exact hTI9
            · intro k hk
              simp only [mP, lk]
              rw [if_neg (show ¬ k = 57 by omega), if_neg (show ¬ k = 58 by omega), if_neg (show ¬ k = 59 by omega), if_neg (show ¬ k = 60 by omega), if_neg (show ¬ k = 61 by omega), if_neg (show ¬ k = 62 by omega), if_neg (show ¬ k = 63 by omega), if_neg (show ¬ k = 48 by omega), if_neg (show ¬ k = 47 by omega), if_neg (show ¬ k = 45 by omega), if_neg (show ¬ k = 44 by omega), if_neg (show ¬ k = 43 by omega), if_neg (show ¬ k = 42 by omega), if_neg (show ¬ k = 41 by omega), if_neg (show ¬ k = 46 by omega)]
              rfl
          · refine lv_aload_n X.1 X.2.1 dX1_back_74 rfl (lv_at hl 0 rfl) ?_
            refine mg_goneAt X hK hG dX1_back_75 ?_
            refine lv_aload_n X.1 X.2.1 dX1_back_78 rfl (lv_at hl 0 rfl) ?_
            refine mg_steps X hK hG (S.1 49 - 1) rfl dX1_back_79 ?_
            refine ml_goneAt X hK hG (S.2 68) rfl (by first | omega | (split <;> omega)) dX1_back_82 ?_
            refine lv_iload_n X.1 X.2.1 dX1_back_83 rfl (lv_at hl 3 rfl) ?_
            refine i_add X dX1_back_84 ?_
            refine lv_istore (lv' := [(4, .int (iI ((S.2 68 (S.1 49 - 1)) + k))), (0, .ref o), (1, .int (iI (cc2))), (2, .int (iI (y))), (3, .int (iI (k)))]) X.1 X.2.1 dX1_back_85 hl (by decide) rfl (fun ls hl => ?_)
            refine lv_aload_n X.1 X.2.1 dX1_back_87 rfl (lv_at hl 1 rfl) ?_
            refine mg_fWhat X hK hG dX1_back_88 ?_
            refine lv_iload_n X.1 X.2.1 dX1_back_91 rfl (lv_at hl 4 rfl) ?_
            refine lv_aload_n X.1 X.2.1 dX1_back_92 rfl (lv_at hl 1 rfl) ?_
            refine mg_oldWhat X hK hG dX1_back_93 ?_
            refine lv_iload X.1 X.2.1 dX1_back_96 (lv_at hl 0 rfl) ?_
            refine ml_oldWhat X hK hG (S.2 71) rfl (by first | omega | (split <;> omega)) dX1_back_98 ?_
            refine ms_fWhat X hK hG hS (by first | omega | (split <;> omega)) dX1_back_99 (fun H locs hG hS => ?_)
            rw [mU_mP (l' := [(57, upI f57 k (S.2 71 ((S.2 68 (S.1 49 - 1)) + k))), (58, f58), (59, f59), (60, f60), (61, f61), (62, f62), (63, f63)]) rfl rfl] at hG
            refine lv_aload_n X.1 X.2.1 dX1_back_100 rfl (lv_at hl 1 rfl) ?_
            refine mg_fWorth X hK hG dX1_back_101 ?_
            refine lv_iload_n X.1 X.2.1 dX1_back_104 rfl (lv_at hl 4 rfl) ?_
            refine lv_aload_n X.1 X.2.1 dX1_back_105 rfl (lv_at hl 1 rfl) ?_
            refine mg_oldWorth X hK hG dX1_back_106 ?_
            refine lv_iload X.1 X.2.1 dX1_back_109 (lv_at hl 0 rfl) ?_
            refine ml_oldWorth X hK hG (S.2 72) rfl (by first | omega | (split <;> omega)) dX1_back_111 ?_
            refine ms_fWorth X hK hG hS (by first | omega | (split <;> omega)) dX1_back_112 (fun H locs hG hS => ?_)
            rw [mU_mP (l' := [(57, upI f57 k (S.2 71 ((S.2 68 (S.1 49 - 1)) + k))), (58, upI f58 k (S.2 72 ((S.2 68 (S.1 49 - 1)) + k))), (59, f59), (60, f60), (61, f61), (62, f62), (63, f63)]) rfl rfl] at hG
            refine lv_aload_n X.1 X.2.1 dX1_back_113 rfl (lv_at hl 1 rfl) ?_
            refine mg_fMark X hK hG dX1_back_114 ?_
            refine lv_iload_n X.1 X.2.1 dX1_back_117 rfl (lv_at hl 4 rfl) ?_
            refine lv_aload_n X.1 X.2.1 dX1_back_118 rfl (lv_at hl 1 rfl) ?_
            refine mg_oldMark X hK hG dX1_back_119 ?_
            refine lv_iload X.1 X.2.1 dX1_back_122 (lv_at hl 0 rfl) ?_
            refine ml_oldMark X hK hG (S.2 73) rfl (by first | omega | (split <;> omega)) dX1_back_124 ?_
            refine ms_fMark X hK hG hS (by first | omega | (split <;> omega)) dX1_back_125 (fun H locs hG hS => ?_)
            rw [mU_mP (l' := [(57, upI f57 k (S.2 71 ((S.2 68 (S.1 49 - 1)) + k))), (58, upI f58 k (S.2 72 ((S.2 68 (S.1 49 - 1)) + k))), (59, upI f59 k (S.2 73 ((S.2 68 (S.1 49 - 1)) + k))), (60, f60), (61, f61), (62, f62), (63, f63)]) rfl rfl] at hG
            refine lv_aload_n X.1 X.2.1 dX1_back_126 rfl (lv_at hl 1 rfl) ?_
            refine mg_fFrom X hK hG dX1_back_127 ?_
            refine lv_iload_n X.1 X.2.1 dX1_back_130 rfl (lv_at hl 4 rfl) ?_
            refine lv_aload_n X.1 X.2.1 dX1_back_131 rfl (lv_at hl 1 rfl) ?_
            refine mg_oldFrom X hK hG dX1_back_132 ?_
            refine lv_iload X.1 X.2.1 dX1_back_135 (lv_at hl 0 rfl) ?_
            refine ml_oldFrom X hK hG (S.2 74) rfl (by first | omega | (split <;> omega)) dX1_back_137 ?_
            refine ms_fFrom X hK hG hS (by first | omega | (split <;> omega)) dX1_back_138 (fun H locs hG hS => ?_)
            rw [mU_mP (l' := [(57, upI f57 k (S.2 71 ((S.2 68 (S.1 49 - 1)) + k))), (58, upI f58 k (S.2 72 ((S.2 68 (S.1 49 - 1)) + k))), (59, upI f59 k (S.2 73 ((S.2 68 (S.1 49 - 1)) + k))), (60, upI f60 k (S.2 74 ((S.2 68 (S.1 49 - 1)) + k))), (61, f61), (62, f62), (63, f63)]) rfl rfl] at hG
            refine lv_aload_n X.1 X.2.1 dX1_back_139 rfl (lv_at hl 1 rfl) ?_
            refine mg_fMaker X hK hG dX1_back_140 ?_
            refine lv_iload_n X.1 X.2.1 dX1_back_143 rfl (lv_at hl 4 rfl) ?_
            refine lv_aload_n X.1 X.2.1 dX1_back_144 rfl (lv_at hl 1 rfl) ?_
            refine mg_oldMaker X hK hG dX1_back_145 ?_
            refine lv_iload X.1 X.2.1 dX1_back_148 (lv_at hl 0 rfl) ?_
            refine ml_oldMaker X hK hG (S.2 75) rfl (by first | omega | (split <;> omega)) dX1_back_150 ?_
            refine ms_fMaker X hK hG hS (by first | omega | (split <;> omega)) dX1_back_151 (fun H locs hG hS => ?_)
            rw [mU_mP (l' := [(57, upI f57 k (S.2 71 ((S.2 68 (S.1 49 - 1)) + k))), (58, upI f58 k (S.2 72 ((S.2 68 (S.1 49 - 1)) + k))), (59, upI f59 k (S.2 73 ((S.2 68 (S.1 49 - 1)) + k))), (60, upI f60 k (S.2 74 ((S.2 68 (S.1 49 - 1)) + k))), (61, upI f61 k (S.2 75 ((S.2 68 (S.1 49 - 1)) + k))), (62, f62), (63, f63)]) rfl rfl] at hG
            refine lv_aload_n X.1 X.2.1 dX1_back_152 rfl (lv_at hl 1 rfl) ?_
            refine mg_fRoom X hK hG dX1_back_153 ?_
            refine lv_iload_n X.1 X.2.1 dX1_back_156 rfl (lv_at hl 4 rfl) ?_
            refine lv_aload_n X.1 X.2.1 dX1_back_157 rfl (lv_at hl 1 rfl) ?_
            refine mg_oldRoom X hK hG dX1_back_158 ?_
            refine lv_iload X.1 X.2.1 dX1_back_161 (lv_at hl 0 rfl) ?_
            refine ml_oldRoom X hK hG (S.2 76) rfl (by first | omega | (split <;> omega)) dX1_back_163 ?_
            refine ms_fRoom X hK hG hS (by first | omega | (split <;> omega)) dX1_back_164 (fun H locs hG hS => ?_)
            rw [mU_mP (l' := [(57, upI f57 k (S.2 71 ((S.2 68 (S.1 49 - 1)) + k))), (58, upI f58 k (S.2 72 ((S.2 68 (S.1 49 - 1)) + k))), (59, upI f59 k (S.2 73 ((S.2 68 (S.1 49 - 1)) + k))), (60, upI f60 k (S.2 74 ((S.2 68 (S.1 49 - 1)) + k))), (61, upI f61 k (S.2 75 ((S.2 68 (S.1 49 - 1)) + k))), (62, upI f62 k (S.2 76 ((S.2 68 (S.1 49 - 1)) + k))), (63, f63)]) rfl rfl] at hG
            refine lv_aload_n X.1 X.2.1 dX1_back_165 rfl (lv_at hl 1 rfl) ?_
            refine mg_fParts X hK hG dX1_back_166 ?_
            refine lv_iload_n X.1 X.2.1 dX1_back_169 rfl (lv_at hl 4 rfl) ?_
            refine lv_aload_n X.1 X.2.1 dX1_back_170 rfl (lv_at hl 1 rfl) ?_
            refine mg_oldParts X hK hG dX1_back_171 ?_
            refine lv_iload X.1 X.2.1 dX1_back_174 (lv_at hl 0 rfl) ?_
            refine ml_oldParts X hK hG (S.2 77) rfl (by first | omega | (split <;> omega)) dX1_back_176 ?_
            refine ms_fParts X hK hG hS (by first | omega | (split <;> omega)) dX1_back_177 (fun H locs hG hS => ?_)
            rw [mU_mP (l' := [(57, upI f57 k (S.2 71 ((S.2 68 (S.1 49 - 1)) + k))), (58, upI f58 k (S.2 72 ((S.2 68 (S.1 49 - 1)) + k))), (59, upI f59 k (S.2 73 ((S.2 68 (S.1 49 - 1)) + k))), (60, upI f60 k (S.2 74 ((S.2 68 (S.1 49 - 1)) + k))), (61, upI f61 k (S.2 75 ((S.2 68 (S.1 49 - 1)) + k))), (62, upI f62 k (S.2 76 ((S.2 68 (S.1 49 - 1)) + k))), (63, upI f63 k (S.2 77 ((S.2 68 (S.1 49 - 1)) + k)))]) rfl rfl] at hG
            refine i_inc (lv' := [(3, .int (iI (k + 1))), (4, .int (iI ((S.2 68 (S.1 49 - 1)) + k))), (0, .ref o), (1, .int (iI (cc2))), (2, .int (iI (y)))]) X dX1_back_178 hl (k := 4) rfl (by decide) rfl (fun ls hl => ?_)
            refine lv_goto (tgt := 69) X.1 X.2.1 dX1_back_181 (by decide) ?_
            have hf2 : ∀ j, (upI f57 k (S.2 71 ((S.2 68 (S.1 49 - 1)) + k))) j = (if 0 ≤ j ∧ j < (k + 1) then S.2 71 (g + j) else S.2 57 j) ∧ (upI f58 k (S.2 72 ((S.2 68 (S.1 49 - 1)) + k))) j = (if 0 ≤ j ∧ j < (k + 1) then S.2 72 (g + j) else S.2 58 j) ∧ (upI f59 k (S.2 73 ((S.2 68 (S.1 49 - 1)) + k))) j = (if 0 ≤ j ∧ j < (k + 1) then S.2 73 (g + j) else S.2 59 j) ∧ (upI f60 k (S.2 74 ((S.2 68 (S.1 49 - 1)) + k))) j = (if 0 ≤ j ∧ j < (k + 1) then S.2 74 (g + j) else S.2 60 j) ∧ (upI f61 k (S.2 75 ((S.2 68 (S.1 49 - 1)) + k))) j = (if 0 ≤ j ∧ j < (k + 1) then S.2 75 (g + j) else S.2 61 j) ∧ (upI f62 k (S.2 76 ((S.2 68 (S.1 49 - 1)) + k))) j = (if 0 ≤ j ∧ j < (k + 1) then S.2 76 (g + j) else S.2 62 j) ∧ (upI f63 k (S.2 77 ((S.2 68 (S.1 49 - 1)) + k))) j = (if 0 ≤ j ∧ j < (k + 1) then S.2 77 (g + j) else S.2 63 j) := by
              intro j
              obtain ⟨q0, q1, q2, q3, q4, q5, q6⟩ := hf j
              rw [← eg]
              by_cases hj : j = k
              · simp only [hj, upI_s, if_pos (show 0 ≤ k ∧ k < k + 1 by omega), and_self]
              · simp only [upI_n hj, q0, q1, q2, q3, q4, q5, q6]
                by_cases hc : 0 ≤ j ∧ j < k
                · simp only [if_pos hc, if_pos (show 0 ≤ j ∧ j < k + 1 by omega), and_self]
                · simp only [if_neg hc, if_neg (show ¬ (0 ≤ j ∧ j < k + 1) by omega), and_self]
            exact ih69 (k + 1) (upI f57 k (S.2 71 ((S.2 68 (S.1 49 - 1)) + k))) (upI f58 k (S.2 72 ((S.2 68 (S.1 49 - 1)) + k))) (upI f59 k (S.2 73 ((S.2 68 (S.1 49 - 1)) + k))) (upI f60 k (S.2 74 ((S.2 68 (S.1 49 - 1)) + k))) (upI f61 k (S.2 75 ((S.2 68 (S.1 49 - 1)) + k))) (upI f62 k (S.2 76 ((S.2 68 (S.1 49 - 1)) + k))) (upI f63 k (S.2 77 ((S.2 68 (S.1 49 - 1)) + k))) (by omega) hf2 (by omega) H locs ls hG hS (lv_sub hl [2, 3, 4, 0] rfl)
      exact L69 _ 0 (S.2 57) (S.2 58) (S.2 59) (S.2 60) (S.2 61) (S.2 62) (S.2 63) (by omega) hf0 (Nat.lt_succ_self _) H locs ls hG hS (lv_sub hl [3, 2, 1, 0] rfl)
    · refine lv_bipush (v := iI (-3)) X.1 X.2.1 dX1_back_14 (by decide) ?_
      refine ret _ _ _ _ _ _ ?_ (rfl) hG hS dX1_back_16
      exact Or.inl ⟨by omega, rfl, rfl⟩

