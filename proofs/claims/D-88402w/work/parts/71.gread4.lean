/-! ===== the term kept; feeding ===== -/
set_option maxRecDepth 100000
set_option maxHeartbeats 4000000 in
theorem gx_keep (l : Launch) (G : gEnv) (A : Nat → Prop) (lv : Nat) (h : gH) (n : Nat) (x0 : Nat) (S : MSt) (ad : Int → Nat) (rl : Nat) (ru : Nat → Nat) (ap : Int → Nat) (fr : Nat → Option Nat) (f4 f5 f6 f7 : Int → Int) (hlv : 7 ≤ lv) (hX : GX G h x0 S ad rl ru ap) (hA : GXA G h x0 S (.ref rl) (.ref (ad 0)) fr f4 f5 f6 f7) : gC l yX0_keep cX0_keep 2 (some .int) G A lv 0 0 [.ref x0] h n (fun v h' n' => v = some (.int (iI (S.1 40))) ∧ n' = n ∧ ∃ f4 f5 f6 f7, GXA G h' x0 (mP S [] [(78, 1), (79, S.1 40)]) (.ref rl) (.ref (ad 0)) fr f4 f5 f6 f7 ∧ gFrm (gXP x0) h h' ∧ ∀ i : Int, 0 ≤ i → i < S.1 40 → f4 i = S.2 41 i ∧ f5 i = (if S.2 41 i = 0 then S.2 42 i else if 2 ≤ S.2 41 i then S.2 47 i else 0) ∧ f6 i = (if S.2 41 i = 1 then gLt (S.2 42 i) else 0) ∧ f7 i = spReads S i) := by
  refine gC_ofI RX0 (by decide +kernel) rfl (Nat.le_of_ble_eq_true rfl) ?_
  intro p e s m args below meth c Q X hW ret H locs ls hG hS hl
  have hl : lv_has ls 2 [(0, .ref x0)] := hl
  have hX0 := hX
  obtain ⟨-, hRo, hV, hR⟩ := id hX
  obtain ⟨hO0, h1t, h3, h4, h5, h6, h7⟩ := id hA
  have h80 := hA.x8
  obtain ⟨fr9, hr1, hr2⟩ := id hRo
  have e9 : fr9 = fr := by rw [h3] at hr1; cases hr1; rfl
  rw [e9] at hr2
  have hV0 := hV
  have hO := hO0
  unfold GOB gOv at hO
  have hT := hV.1.1
  have hnn := hV.1.n
  refine lv_aload_n X.1 X.2.1 dX0_keep_0 rfl (lv_at hl 0 rfl) ?_
  refine n_get (ci := 0) X in_X0 hW hG hO rfl 4 (by decide) q141 (fun _ h => h) rfl dX0_keep_1 ?_
  refine lv_ifnonnull (tgt := 10) X.1 X.2.1 dX0_keep_4 (by decide) ?_
  refine lv_aload_n X.1 X.2.1 dX0_keep_10 rfl (lv_at hl 0 rfl) ?_
  refine lv_aload_n X.1 X.2.1 dX0_keep_11 rfl (lv_at hl 0 rfl) ?_
  refine n_get (ci := 0) X in_X0 hW hG hO rfl 9 (by decide) q146 (fun _ h => h) rfl dX0_keep_12 ?_
  refine n_put (ci := 0) X in_X0 tyX0 tyX0_ok nmX0 hW hG hS hO rfl 10 (by decide) q147 (fun _ h => h) rfl rfl rfl (Nat.le_of_ble_eq_true rfl) (fs' := [.ref (x0 + 1), .int (iI (S.1 1)), .int (iI (S.1 28)), .ref rl, .ref (ad 0), .ref (x0 + 2), .int (iI (S.1 66)), .int (iI (S.1 53)), .ref (x0 + 3), .int (iI (S.1 40)), .int (iI (S.1 40)), .ref (x0 + 4), .ref (x0 + 5), .ref (x0 + 6), .ref (x0 + 7)]) rfl dX0_keep_15 (fun H locs hG hS => ?_)
  obtain ⟨h1, eh1⟩ : ∃ hz, hz = va_up h x0 (some ((4, 0), .inr (0, [.ref (x0 + 1), .int (iI (S.1 1)), .int (iI (S.1 28)), .ref rl, .ref (ad 0), .ref (x0 + 2), .int (iI (S.1 66)), .int (iI (S.1 53)), .ref (x0 + 3), .int (iI (S.1 40)), .int (iI (S.1 40)), .ref (x0 + 4), .ref (x0 + 5), .ref (x0 + 6), .ref (x0 + 7)]))) := ⟨_, rfl⟩
  rw [← eh1] at hG
  have f1_x01 : h1 (x0 + 1) = some (gBA G (4, 1) 500 (S.2 0)) := by rw [eh1, up_n (by omega)]; exact h1t
  have f1_x04 : h1 (x0 + 4) = some (gIA G (4, 4) 500 f4) := by rw [eh1, up_n (by omega)]; exact h4
  have f1_x05 : h1 (x0 + 5) = some (gIA G (4, 5) 500 f5) := by rw [eh1, up_n (by omega)]; exact h5
  have f1_x06 : h1 (x0 + 6) = some (gLA G (4, 6) 500 f6) := by rw [eh1, up_n (by omega)]; exact h6
  have f1_x07 : h1 (x0 + 7) = some (gIA G (4, 7) 500 f7) := by rw [eh1, up_n (by omega)]; exact h7
  have f1_x03 : h1 (x0 + 3) = some (gRA G fr) := by rw [eh1, up_n (by omega)]; exact h3
  have f1_x0 : h1 x0 = some ((4, 0), .inr (0, [.ref (x0 + 1), .int (iI (S.1 1)), .int (iI (S.1 28)), .ref rl, .ref (ad 0), .ref (x0 + 2), .int (iI (S.1 66)), .int (iI (S.1 53)), .ref (x0 + 3), .int (iI (S.1 40)), .int (iI (S.1 40)), .ref (x0 + 4), .ref (x0 + 5), .ref (x0 + 6), .ref (x0 + 7)])) := by rw [eh1]; exact up_s _ _ _
  have hF_h1 : gFrm (gXP x0) h h1 := by rw [eh1]; exact (gFrm.refl _ _).upO hO ⟨by omega, by omega, by omega⟩ _
  refine lv_iconst (v := iI (0)) X.1 X.2.1 dX0_keep_18 rfl ?_
  refine lv_istore_n (lv' := [(1, .int (iI (0))), (0, .ref x0)]) X.1 X.2.1 dX0_keep_19 rfl hl (by decide) rfl (fun ls hl => ?_)
  have L20 : ∀ (N20 : Nat) (g1 : gH) (f4 f5 f6 f7 : Int → Int) (k : Nat), ((k : Int) ≤ S.1 40) → (g1 x0 = some ((4, 0), .inr (0, [.ref (x0 + 1), .int (iI (S.1 1)), .int (iI (S.1 28)), .ref rl, .ref (ad 0), .ref (x0 + 2), .int (iI (S.1 66)), .int (iI (S.1 53)), .ref (x0 + 3), .int (iI (S.1 40)), .int (iI (S.1 40)), .ref (x0 + 4), .ref (x0 + 5), .ref (x0 + 6), .ref (x0 + 7)]))) → (g1 (x0 + 1) = some (gBA G (4, 1) 500 (S.2 0))) → (g1 (x0 + 3) = some (gRA G fr)) → (g1 (x0 + 4) = some (gIA G (4, 4) 500 f4)) → (g1 (x0 + 5) = some (gIA G (4, 5) 500 f5)) → (g1 (x0 + 6) = some (gLA G (4, 6) 500 f6)) → (g1 (x0 + 7) = some (gIA G (4, 7) 500 f7)) → (gFrm (gXP x0) h g1) → (∀ i : Int, 0 ≤ i → i < k → f4 i = S.2 41 i ∧ f5 i = (if S.2 41 i = 0 then S.2 42 i else if 2 ≤ S.2 41 i then S.2 47 i else 0) ∧ f6 i = (if S.2 41 i = 1 then gLt (S.2 42 i) else 0) ∧ f7 i = spReads S i) → (S.1 40).toNat - k < N20 → ∀ (H : Heap) (locs : List Loc) (ls : Array Slot), gOn G.1 A g1 n H → va_S A s.heap H locs → lv_has ls 2 [(0, .ref x0), (1, .int (iI ((k : Int))))] → W p l e (gR lv 0 0) s m args below meth c H locs 0 0 Q (F0 m 20 ls []) := by
    intro N20
    induction N20 with
    | zero => intro g1 f4 f5 f6 f7 k hk hO1 h1t1 h31 h41 h51 h61 h71 hF hf hN; exact absurd hN (Nat.not_lt_zero _)
    | succ N20 ih20 =>
      intro g1 f4 f5 f6 f7 k hk hO1 h1t1 h31 h41 h51 h61 h71 hF hf hN20 H locs ls hG hS hl
      refine lv_iload_n X.1 X.2.1 dX0_keep_20 rfl (lv_at hl 1 rfl) ?_
      refine lv_aload_n X.1 X.2.1 dX0_keep_21 rfl (lv_at hl 0 rfl) ?_
      refine n_get (ci := 0) X in_X0 hW hG hO1 rfl 9 (by decide) q146 (fun _ h => h) rfl dX0_keep_22 ?_
      refine i_icmp_ge X 94 dX0_keep_25 (by decide) (by first | omega | exact bI_iR _ | (split <;> omega)) (by first | omega | exact bI_iR _ | (split <;> omega)) (fun c25 => ?_) (fun c25 => ?_)
      · refine lv_aload_n X.1 X.2.1 dX0_keep_94 rfl (lv_at hl 0 rfl) ?_
        refine n_get (ci := 0) X in_X0 hW hG hO1 rfl 9 (by decide) q146 (fun _ h => h) rfl dX0_keep_95 ?_
        refine ret _ _ _ _ _ _ _ _ _ ?_ (rfl) (by show 0 ≤ 0; first | omega | exact bI_iR _ | (split <;> omega)) (by show 0 ≤ 0; first | omega | exact bI_iR _ | (split <;> omega)) hG hS dX0_keep_98
        exact ⟨rfl, rfl, f4, f5, f6, f7, ⟨hO1, h1t1, h31, h41, h51, h61, h71⟩, hF, fun i a b => hf i a (by omega)⟩
      · refine lv_aload_n X.1 X.2.1 dX0_keep_28 rfl (lv_at hl 0 rfl) ?_
        refine n_get (ci := 0) X in_X0 hW hG hO1 rfl 11 (by decide) q148 (fun _ h => h) rfl dX0_keep_29 ?_
        refine lv_iload_n X.1 X.2.1 dX0_keep_32 rfl (lv_at hl 1 rfl) ?_
        refine lv_aload_n X.1 X.2.1 dX0_keep_33 rfl (lv_at hl 0 rfl) ?_
        refine n_get (ci := 0) X in_X0 hW hG hO1 rfl 8 (by decide) q145 (fun _ h => h) rfl dX0_keep_34 ?_
        refine lv_iload_n X.1 X.2.1 dX0_keep_37 rfl (lv_at hl 1 rfl) ?_
        have hRo : ROW G g1 x0 S ad := ⟨fr, h31, hr2⟩
        have hV : LV G g1 S ad := hV0.fx h80 hF
        refine n_row X hW hG hRo (i := (k : Int)) (by omega) (by omega) (by omega) dX0_keep_38 ?_
        have hI_38 := hV.it (i := (k : Int)) (by omega) (by omega)
        refine g_callX (rest := [.int (iI ((k : Int))), .ref (x0 + 4)]) (k := 0) X hW hG hS (vi_kind l G A (lv - 1) g1 n (rwS S) ad (1, 0) (inS S ad (k : Int)) (k : Int) (k : Int) hI_38 (hT.w (by omega) (by omega)).1) q799 q801 (gDecl_abs hW q800) (by decide +kernel) rfl ⟨by show (lv - 1) + 1 ≤ lv; omega, by show 40 + 40 * (lv - 1) ≤ 40 * lv; omega⟩ ⟨by show 0 + 0 ≤ 0; first | omega | exact bI_iR _ | (split <;> omega), by show 0 + 0 ≤ 0; first | omega | exact bI_iR _ | (split <;> omega)⟩ hl.1 rfl (Nat.le_of_ble_eq_true rfl) dX0_keep_39 (g_pk (fun H locs hG hS => ?_))
        show W p l e (gR lv 0 0) s m args below meth c H locs 0 0 Q (F0 m 42 ls [.int (iI (S.2 41 (k : Int))), .int (iI ((k : Int))), .ref (x0 + 4)])
        refine n_ias X hW hG hS h41 (by first | omega | exact bI_iR _ | (split <;> omega)) (by decide) dX0_keep_42 (fun H locs hG hS => ?_)
        obtain ⟨h2, eh2⟩ : ∃ hz, hz = va_up g1 (x0 + 4) (some (gIA G (4, 4) 500 (upI f4 ((k : Int)) (S.2 41 (k : Int))))) := ⟨_, rfl⟩
        rw [← eh2] at hG
        have f2_x0 : h2 x0 = some ((4, 0), .inr (0, [.ref (x0 + 1), .int (iI (S.1 1)), .int (iI (S.1 28)), .ref rl, .ref (ad 0), .ref (x0 + 2), .int (iI (S.1 66)), .int (iI (S.1 53)), .ref (x0 + 3), .int (iI (S.1 40)), .int (iI (S.1 40)), .ref (x0 + 4), .ref (x0 + 5), .ref (x0 + 6), .ref (x0 + 7)])) := by rw [eh2, up_n (by omega)]; exact hO1
        have f2_x01 : h2 (x0 + 1) = some (gBA G (4, 1) 500 (S.2 0)) := by rw [eh2, up_n (by omega)]; exact h1t1
        have f2_x05 : h2 (x0 + 5) = some (gIA G (4, 5) 500 f5) := by rw [eh2, up_n (by omega)]; exact h51
        have f2_x06 : h2 (x0 + 6) = some (gLA G (4, 6) 500 f6) := by rw [eh2, up_n (by omega)]; exact h61
        have f2_x07 : h2 (x0 + 7) = some (gIA G (4, 7) 500 f7) := by rw [eh2, up_n (by omega)]; exact h71
        have f2_x03 : h2 (x0 + 3) = some (gRA G fr) := by rw [eh2, up_n (by omega)]; exact h31
        have f2_x04 : h2 (x0 + 4) = some (gIA G (4, 4) 500 (upI f4 ((k : Int)) (S.2 41 (k : Int)))) := by rw [eh2]; exact up_s _ _ _
        have hF_h2 : gFrm (gXP x0) h h2 := by rw [eh2]; exact hF.upA h41 ⟨by omega, by omega, by omega⟩ _
        refine lv_aload_n X.1 X.2.1 dX0_keep_43 rfl (lv_at hl 0 rfl) ?_
        refine n_get (ci := 0) X in_X0 hW hG f2_x0 rfl 12 (by decide) q149 (fun _ h => h) rfl dX0_keep_44 ?_
        refine lv_iload_n X.1 X.2.1 dX0_keep_47 rfl (lv_at hl 1 rfl) ?_
        refine lv_aload_n X.1 X.2.1 dX0_keep_48 rfl (lv_at hl 0 rfl) ?_
        refine n_get (ci := 0) X in_X0 hW hG f2_x0 rfl 8 (by decide) q145 (fun _ h => h) rfl dX0_keep_49 ?_
        refine lv_iload_n X.1 X.2.1 dX0_keep_52 rfl (lv_at hl 1 rfl) ?_
        have hRo : ROW G h2 x0 S ad := ⟨fr, f2_x03, hr2⟩
        have hV : LV G h2 S ad := hV0.fx h80 hF_h2
        refine n_row X hW hG hRo (i := (k : Int)) (by omega) (by omega) (by omega) dX0_keep_53 ?_
        have hI_53 := hV.it (i := (k : Int)) (by omega) (by omega)
        refine g_callS (rest := [.int (iI ((k : Int))), .ref (x0 + 5)]) (k := 1) X hW hG hS (gg_sizeOf l G A (lv - 1) h2 n S ad (k : Int) (by omega) hV (by omega) (by omega)) (lw_S q1153 q1154 q66 q1155) (by decide +kernel) rfl ⟨by show (lv - 1) + 1 ≤ lv; omega, by show 8 + (1 + 11) + 40 * (lv - 1) ≤ 40 * lv; omega⟩ ⟨by show 0 + 0 ≤ 0; first | omega | exact bI_iR _ | (split <;> omega), by show 0 + 0 ≤ 0; first | omega | exact bI_iR _ | (split <;> omega)⟩ hl.1 rfl (Nat.le_of_ble_eq_true rfl) dX0_keep_54 (g_pk (fun H locs hG hS => ?_))
        show W p l e (gR lv 0 0) s m args below meth c H locs 0 0 Q (F0 m 57 ls [.int (iI ((if S.2 41 (k : Int) = 0 then S.2 42 (k : Int) else if 2 ≤ S.2 41 (k : Int) then S.2 47 (k : Int) else 0))), .int (iI ((k : Int))), .ref (x0 + 5)])
        refine n_ias X hW hG hS f2_x05 (by first | omega | exact bI_iR _ | (split <;> omega)) (by decide) dX0_keep_57 (fun H locs hG hS => ?_)
        obtain ⟨h3, eh3⟩ : ∃ hz, hz = va_up h2 (x0 + 5) (some (gIA G (4, 5) 500 (upI f5 ((k : Int)) ((if S.2 41 (k : Int) = 0 then S.2 42 (k : Int) else if 2 ≤ S.2 41 (k : Int) then S.2 47 (k : Int) else 0))))) := ⟨_, rfl⟩
        rw [← eh3] at hG
        have f3_x0 : h3 x0 = some ((4, 0), .inr (0, [.ref (x0 + 1), .int (iI (S.1 1)), .int (iI (S.1 28)), .ref rl, .ref (ad 0), .ref (x0 + 2), .int (iI (S.1 66)), .int (iI (S.1 53)), .ref (x0 + 3), .int (iI (S.1 40)), .int (iI (S.1 40)), .ref (x0 + 4), .ref (x0 + 5), .ref (x0 + 6), .ref (x0 + 7)])) := by rw [eh3, up_n (by omega)]; exact f2_x0
        have f3_x01 : h3 (x0 + 1) = some (gBA G (4, 1) 500 (S.2 0)) := by rw [eh3, up_n (by omega)]; exact f2_x01
        have f3_x06 : h3 (x0 + 6) = some (gLA G (4, 6) 500 f6) := by rw [eh3, up_n (by omega)]; exact f2_x06
        have f3_x07 : h3 (x0 + 7) = some (gIA G (4, 7) 500 f7) := by rw [eh3, up_n (by omega)]; exact f2_x07
        have f3_x03 : h3 (x0 + 3) = some (gRA G fr) := by rw [eh3, up_n (by omega)]; exact f2_x03
        have f3_x04 : h3 (x0 + 4) = some (gIA G (4, 4) 500 (upI f4 ((k : Int)) (S.2 41 (k : Int)))) := by rw [eh3, up_n (by omega)]; exact f2_x04
        have f3_x05 : h3 (x0 + 5) = some (gIA G (4, 5) 500 (upI f5 ((k : Int)) ((if S.2 41 (k : Int) = 0 then S.2 42 (k : Int) else if 2 ≤ S.2 41 (k : Int) then S.2 47 (k : Int) else 0)))) := by rw [eh3]; exact up_s _ _ _
        have hF_h3 : gFrm (gXP x0) h h3 := by rw [eh3]; exact hF_h2.upA f2_x05 ⟨by omega, by omega, by omega⟩ _
        refine lv_aload_n X.1 X.2.1 dX0_keep_58 rfl (lv_at hl 0 rfl) ?_
        refine n_get (ci := 0) X in_X0 hW hG f3_x0 rfl 13 (by decide) q150 (fun _ h => h) rfl dX0_keep_59 ?_
        refine lv_iload_n X.1 X.2.1 dX0_keep_62 rfl (lv_at hl 1 rfl) ?_
        refine lv_aload_n X.1 X.2.1 dX0_keep_63 rfl (lv_at hl 0 rfl) ?_
        refine n_get (ci := 0) X in_X0 hW hG f3_x0 rfl 8 (by decide) q145 (fun _ h => h) rfl dX0_keep_64 ?_
        refine lv_iload_n X.1 X.2.1 dX0_keep_67 rfl (lv_at hl 1 rfl) ?_
        have hRo : ROW G h3 x0 S ad := ⟨fr, f3_x03, hr2⟩
        have hV : LV G h3 S ad := hV0.fx h80 hF_h3
        refine n_row X hW hG hRo (i := (k : Int)) (by omega) (by omega) (by omega) dX0_keep_68 ?_
        have hI_68 := hV.it (i := (k : Int)) (by omega) (by omega)
        refine g_callS (rest := [.int (iI ((k : Int))), .ref (x0 + 6)]) (k := 1) X hW hG hS (gg_lettersOf l G A (lv - 1) h3 n S ad (k : Int) hV (by omega) (by omega)) (lw_S q1156 q1157 q66 q1158) (by decide +kernel) rfl ⟨by show (lv - 1) + 1 ≤ lv; omega, by show 8 + (1 + 11) + 40 * (lv - 1) ≤ 40 * lv; omega⟩ ⟨by show 0 + 0 ≤ 0; first | omega | exact bI_iR _ | (split <;> omega), by show 0 + 0 ≤ 0; first | omega | exact bI_iR _ | (split <;> omega)⟩ hl.1 rfl (Nat.le_of_ble_eq_true rfl) dX0_keep_69 (g_pk (fun H locs hG hS => ?_))
        show W p l e (gR lv 0 0) s m args below meth c H locs 0 0 Q (F0 m 72 ls [.long (lI ((if S.2 41 (k : Int) = 1 then gLt (S.2 42 (k : Int)) else 0))), .int (iI ((k : Int))), .ref (x0 + 6)])
        refine n_las X hW hG hS f3_x06 (by first | omega | exact bI_iR _ | (split <;> omega)) (by decide) dX0_keep_72 (fun H locs hG hS => ?_)
        obtain ⟨h4, eh4⟩ : ∃ hz, hz = va_up h3 (x0 + 6) (some (gLA G (4, 6) 500 (upI f6 ((k : Int)) ((if S.2 41 (k : Int) = 1 then gLt (S.2 42 (k : Int)) else 0))))) := ⟨_, rfl⟩
        rw [← eh4] at hG
        have f4_x0 : h4 x0 = some ((4, 0), .inr (0, [.ref (x0 + 1), .int (iI (S.1 1)), .int (iI (S.1 28)), .ref rl, .ref (ad 0), .ref (x0 + 2), .int (iI (S.1 66)), .int (iI (S.1 53)), .ref (x0 + 3), .int (iI (S.1 40)), .int (iI (S.1 40)), .ref (x0 + 4), .ref (x0 + 5), .ref (x0 + 6), .ref (x0 + 7)])) := by rw [eh4, up_n (by omega)]; exact f3_x0
        have f4_x01 : h4 (x0 + 1) = some (gBA G (4, 1) 500 (S.2 0)) := by rw [eh4, up_n (by omega)]; exact f3_x01
        have f4_x07 : h4 (x0 + 7) = some (gIA G (4, 7) 500 f7) := by rw [eh4, up_n (by omega)]; exact f3_x07
        have f4_x03 : h4 (x0 + 3) = some (gRA G fr) := by rw [eh4, up_n (by omega)]; exact f3_x03
        have f4_x04 : h4 (x0 + 4) = some (gIA G (4, 4) 500 (upI f4 ((k : Int)) (S.2 41 (k : Int)))) := by rw [eh4, up_n (by omega)]; exact f3_x04
        have f4_x05 : h4 (x0 + 5) = some (gIA G (4, 5) 500 (upI f5 ((k : Int)) ((if S.2 41 (k : Int) = 0 then S.2 42 (k : Int) else if 2 ≤ S.2 41 (k : Int) then S.2 47 (k : Int) else 0)))) := by rw [eh4, up_n (by omega)]; exact f3_x05
        have f4_x06 : h4 (x0 + 6) = some (gLA G (4, 6) 500 (upI f6 ((k : Int)) ((if S.2 41 (k : Int) = 1 then gLt (S.2 42 (k : Int)) else 0)))) := by rw [eh4]; exact up_s _ _ _
        have hF_h4 : gFrm (gXP x0) h h4 := by rw [eh4]; exact hF_h3.upA f3_x06 ⟨by omega, by omega, by omega⟩ _
        refine lv_aload_n X.1 X.2.1 dX0_keep_73 rfl (lv_at hl 0 rfl) ?_
        refine n_get (ci := 0) X in_X0 hW hG f4_x0 rfl 14 (by decide) q151 (fun _ h => h) rfl dX0_keep_74 ?_
        refine lv_iload_n X.1 X.2.1 dX0_keep_77 rfl (lv_at hl 1 rfl) ?_
        refine lv_aload_n X.1 X.2.1 dX0_keep_78 rfl (lv_at hl 0 rfl) ?_
        refine n_get (ci := 0) X in_X0 hW hG f4_x0 rfl 8 (by decide) q145 (fun _ h => h) rfl dX0_keep_79 ?_
        refine lv_iload_n X.1 X.2.1 dX0_keep_82 rfl (lv_at hl 1 rfl) ?_
        have hRo : ROW G h4 x0 S ad := ⟨fr, f4_x03, hr2⟩
        have hV : LV G h4 S ad := hV0.fx h80 hF_h4
        refine n_row X hW hG hRo (i := (k : Int)) (by omega) (by omega) (by omega) dX0_keep_83 ?_
        have hI_83 := hV.it (i := (k : Int)) (by omega) (by omega)
        refine g_callS (rest := [.int (iI ((k : Int))), .ref (x0 + 7)]) (k := 1) X hW hG hS (gg_readsAs l G A (lv - 1) h4 n S ad (k : Int) (by omega) hV (by omega) (by omega)) (lw_S q838 q839 q66 q840) (by decide +kernel) rfl ⟨by show (lv - 1) + 1 ≤ lv; omega, by show 8 + (2 + 11) + 40 * (lv - 1) ≤ 40 * lv; omega⟩ ⟨by show 0 + 0 ≤ 0; first | omega | exact bI_iR _ | (split <;> omega), by show 0 + 0 ≤ 0; first | omega | exact bI_iR _ | (split <;> omega)⟩ hl.1 rfl (Nat.le_of_ble_eq_true rfl) dX0_keep_84 (g_pk (fun H locs hG hS => ?_))
        show W p l e (gR lv 0 0) s m args below meth c H locs 0 0 Q (F0 m 87 ls [.int (iI (spReads S (k : Int))), .int (iI ((k : Int))), .ref (x0 + 7)])
        refine n_ias X hW hG hS f4_x07 (by first | omega | exact bI_iR _ | (split <;> omega)) (by decide) dX0_keep_87 (fun H locs hG hS => ?_)
        obtain ⟨h5, eh5⟩ : ∃ hz, hz = va_up h4 (x0 + 7) (some (gIA G (4, 7) 500 (upI f7 ((k : Int)) (spReads S (k : Int))))) := ⟨_, rfl⟩
        rw [← eh5] at hG
        have f5_x0 : h5 x0 = some ((4, 0), .inr (0, [.ref (x0 + 1), .int (iI (S.1 1)), .int (iI (S.1 28)), .ref rl, .ref (ad 0), .ref (x0 + 2), .int (iI (S.1 66)), .int (iI (S.1 53)), .ref (x0 + 3), .int (iI (S.1 40)), .int (iI (S.1 40)), .ref (x0 + 4), .ref (x0 + 5), .ref (x0 + 6), .ref (x0 + 7)])) := by rw [eh5, up_n (by omega)]; exact f4_x0
        have f5_x01 : h5 (x0 + 1) = some (gBA G (4, 1) 500 (S.2 0)) := by rw [eh5, up_n (by omega)]; exact f4_x01
        have f5_x03 : h5 (x0 + 3) = some (gRA G fr) := by rw [eh5, up_n (by omega)]; exact f4_x03
        have f5_x04 : h5 (x0 + 4) = some (gIA G (4, 4) 500 (upI f4 ((k : Int)) (S.2 41 (k : Int)))) := by rw [eh5, up_n (by omega)]; exact f4_x04
        have f5_x05 : h5 (x0 + 5) = some (gIA G (4, 5) 500 (upI f5 ((k : Int)) ((if S.2 41 (k : Int) = 0 then S.2 42 (k : Int) else if 2 ≤ S.2 41 (k : Int) then S.2 47 (k : Int) else 0)))) := by rw [eh5, up_n (by omega)]; exact f4_x05
        have f5_x06 : h5 (x0 + 6) = some (gLA G (4, 6) 500 (upI f6 ((k : Int)) ((if S.2 41 (k : Int) = 1 then gLt (S.2 42 (k : Int)) else 0)))) := by rw [eh5, up_n (by omega)]; exact f4_x06
        have f5_x07 : h5 (x0 + 7) = some (gIA G (4, 7) 500 (upI f7 ((k : Int)) (spReads S (k : Int)))) := by rw [eh5]; exact up_s _ _ _
        have hF_h5 : gFrm (gXP x0) h h5 := by rw [eh5]; exact hF_h4.upA f4_x07 ⟨by omega, by omega, by omega⟩ _
        refine i_inc (lv' := [(1, .int (iI ((k : Int) + 1))), (0, .ref x0)]) X dX0_keep_88 hl (k := 1) rfl (by decide) rfl (fun ls hl => ?_)
        refine lv_goto (tgt := 20) X.1 X.2.1 dX0_keep_91 (by decide) ?_
        have hf2 : ∀ i : Int, 0 ≤ i → i < ((k + 1 : Nat) : Int) → (upI f4 ((k : Int)) (S.2 41 (k : Int))) i = S.2 41 i ∧ (upI f5 ((k : Int)) ((if S.2 41 (k : Int) = 0 then S.2 42 (k : Int) else if 2 ≤ S.2 41 (k : Int) then S.2 47 (k : Int) else 0))) i = (if S.2 41 i = 0 then S.2 42 i else if 2 ≤ S.2 41 i then S.2 47 i else 0) ∧ (upI f6 ((k : Int)) ((if S.2 41 (k : Int) = 1 then gLt (S.2 42 (k : Int)) else 0))) i = (if S.2 41 i = 1 then gLt (S.2 42 i) else 0) ∧ (upI f7 ((k : Int)) (spReads S (k : Int))) i = spReads S i := by
          intro i a b
          by_cases hi : i = k
          · rw [hi, upI_s, upI_s, upI_s, upI_s]; exact ⟨rfl, rfl, rfl, rfl⟩
          · rw [upI_n hi, upI_n hi, upI_n hi, upI_n hi]; exact hf i a (by omega)
        exact ih20 h5 (upI f4 ((k : Int)) (S.2 41 (k : Int))) (upI f5 ((k : Int)) ((if S.2 41 (k : Int) = 0 then S.2 42 (k : Int) else if 2 ≤ S.2 41 (k : Int) then S.2 47 (k : Int) else 0))) (upI f6 ((k : Int)) ((if S.2 41 (k : Int) = 1 then gLt (S.2 42 (k : Int)) else 0))) (upI f7 ((k : Int)) (spReads S (k : Int))) (k + 1) (by omega) f5_x0 f5_x01 f5_x03 f5_x04 f5_x05 f5_x06 f5_x07 hF_h5 hf2 (by omega) H locs ls hG hS (lv_sub hl [1, 0] rfl)
  exact L20 _ h1 f4 f5 f6 f7 0 (by omega) f1_x0 f1_x01 f1_x03 f1_x04 f1_x05 f1_x06 f1_x07 hF_h1 (by intro i a b; omega) (Nat.lt_succ_self _) H locs ls hG hS (lv_sub hl [1, 0] rfl)

set_option maxHeartbeats 4000000 in
theorem gx_keepN (l : Launch) (G : gEnv) (A : Nat → Prop) (lv : Nat) (h : gH) (n : Nat) (x0 : Nat) (S : MSt) (rv : Value) (hO0 : GOB h x0 S rv .null) : gC l yX0_keep cX0_keep 2 (some .int) G A lv 0 0 [.ref x0] h n (gPure (some (.int (iI (-3)))) h n) := by
  refine gC_ofI RX0 (by decide +kernel) rfl (Nat.le_of_ble_eq_true rfl) ?_
  intro p e s m args below meth c Q X hW ret H locs ls hG hS hl
  have hl : lv_has ls 2 [(0, .ref x0)] := hl
  have hO := hO0
  unfold GOB gOv at hO
  
  refine lv_aload_n X.1 X.2.1 dX0_keep_0 rfl (lv_at hl 0 rfl) ?_
  refine n_get (ci := 0) X in_X0 hW hG hO rfl 4 (by decide) q141 (fun _ h => h) rfl dX0_keep_1 ?_
  refine lv_ifnonnullN X.1 X.2.1 dX0_keep_4 ?_
  refine lv_bipush (v := iI (-3)) X.1 X.2.1 dX0_keep_7 (by decide) ?_
  refine ret _ _ _ _ _ _ _ _ _ ?_ (rfl) (by show 0 ≤ 0; omega) (by show 0 ≤ 0; omega) hG hS dX0_keep_9
  exact ⟨rfl, rfl, rfl⟩

theorem spAl_f {S : MSt} {k : Nat} (h : spAl S k = false) : ∀ {m : Nat}, k ≤ m → spAl S m = false := by
  intro m
  induction m with
  | zero => intro hm; rw [show k = 0 by omega] at h; exact h
  | succ m ih =>
    intro hm
    by_cases e : k = m + 1
    · rw [← e]; exact h
    · rw [show spAl S (m + 1) = (spAl S m && spRowAl S m) from rfl, ih (by omega), Bool.false_and]
set_option maxHeartbeats 4000000 in
theorem gx_alike (l : Launch) (G : gEnv) (A : Nat → Prop) (lv : Nat) (h : gH) (n : Nat) (x0 : Nat) (S : MSt) (ad : Int → Nat) (rl : Nat) (ru : Nat → Nat) (ap : Int → Nat) (f4 f5 f6 f7 : Int → Int) (hlv : 7 ≤ lv) (hX : GX G h x0 S ad rl ru ap) (hKp : KEP G h x0 S f4 f5 f6 f7) (hL0 : LW0 S) : gC l yX0_alike cX0_alike 4 (some .int) G A lv 0 0 [.ref x0] h n (gPure (some (.int (iI (if S.1 78 = 0 then -3 else bI (decide (S.1 40 = S.1 79) && spAl S (S.1 40).toNat))))) h n) := by
  refine gC_ofI RX0 (by decide +kernel) rfl (Nat.le_of_ble_eq_true rfl) ?_
  intro p e s m args below meth c Q X hW ret H locs ls hG hS hl
  have hl : lv_has ls 4 [(0, .ref x0)] := hl
  have hX0 := hX
  obtain ⟨hO0, hRo, hV, hR⟩ := id hX
  have hO := hO0
  unfold GOB gOv at hO
  have hT := hV.1.1
  have hnn := hV.1.n
  obtain ⟨tgR, moR, dR, hLR, hRr⟩ := id hR.2.1
  have hrl : ((((List.range (S.1 29).toNat).map ru).length : Nat) : Int) = S.1 29 := by simp; have := hR.1.1; omega
  have hmm := hR.1.1
  obtain ⟨h4, h5, h6, h7, hk1, hk2⟩ := hKp
  refine lv_aload_n X.1 X.2.1 dX0_alike_0 rfl (lv_at hl 0 rfl) ?_
  refine n_get (ci := 0) X in_X0 hW hG hO rfl 4 (by decide) q141 (fun _ h => h) rfl dX0_alike_1 ?_
  refine lv_ifnull X.1 X.2.1 dX0_alike_4 ?_
  refine lv_aload_n X.1 X.2.1 dX0_alike_7 rfl (lv_at hl 0 rfl) ?_
  refine n_get (ci := 0) X in_X0 hW hG hO rfl 10 (by decide) q147 (fun _ h => h) rfl dX0_alike_8 ?_
  refine lv_bipush (v := iI (-9)) X.1 X.2.1 dX0_alike_11 (by decide) ?_
  refine i_icmp_ne X 19 dX0_alike_13 (by decide) (by first | omega | exact bI_iR _ | exact hkl0 | exact hr4 | exact hr5 | exact hr6 | exact hr7 | (split <;> omega) | (rw [ek]; omega) | (split <;> (try split) <;> omega)) (by first | omega | exact bI_iR _ | exact hkl0 | exact hr4 | exact hr5 | exact hr6 | exact hr7 | (split <;> omega) | (rw [ek]; omega) | (split <;> (try split) <;> omega)) (fun c13 => ?_) (fun c13 => ?_)
  · have hk78 : S.1 78 = 1 := by
      rcases hk1 with z | z
      · rw [if_pos z] at c13; exact absurd rfl c13
      · exact z
    obtain ⟨hk79, hkr⟩ := hk2 hk78
    have ek : (if S.1 78 = 0 then (-9 : Int) else S.1 79) = S.1 79 := by rw [if_neg (by omega)]
    have K35 : ∀ (z0 : Int), (z0 = bI (decide (S.1 40 = S.1 79))) → ∀ (H : Heap) (locs : List Loc) (ls : Array Slot), gOn G.1 A h n H → va_S A s.heap H locs → lv_has ls 4 [(0, .ref x0)] → W p l e (gR lv 0 0) s m args below meth c H locs 0 0 Q (F0 m 35 ls [.int (iI (z0))]) := by
      intro z0 hz0 H locs ls hG hS hl
      refine lv_istore_n (lv' := [(1, .int (iI (z0))), (0, .ref x0)]) X.1 X.2.1 dX0_alike_35 rfl hl (by decide) rfl (fun ls hl => ?_)
      refine lv_iconst (v := iI (0)) X.1 X.2.1 dX0_alike_36 rfl ?_
      refine lv_istore_n (lv' := [(2, .int (iI (0))), (1, .int (iI (z0))), (0, .ref x0)]) X.1 X.2.1 dX0_alike_37 rfl hl (by decide) rfl (fun ls hl => ?_)
      have L38 : ∀ (N38 : Nat) (z : Int) (k : Nat), ((k : Int) ≤ S.1 40) → (z = bI (decide (S.1 40 = S.1 79) && spAl S k)) → (S.1 40).toNat - k < N38 → ∀ (H : Heap) (locs : List Loc) (ls : Array Slot), gOn G.1 A h n H → va_S A s.heap H locs → lv_has ls 4 [(0, .ref x0), (1, .int (iI (z))), (2, .int (iI ((k : Int))))] → W p l e (gR lv 0 0) s m args below meth c H locs 0 0 Q (F0 m 38 ls []) := by
        intro N38
        induction N38 with
        | zero => intro z k hk hz hN; exact absurd hN (Nat.not_lt_zero _)
        | succ N38 ih38 =>
          intro z k hk hz hN38 H locs ls hG hS hl
          have hz01 : z = 0 ∨ z = 1 := by rw [hz]; exact bI_01 _
          refine lv_iload_n X.1 X.2.1 dX0_alike_38 rfl (lv_at hl 2 rfl) ?_
          refine lv_aload_n X.1 X.2.1 dX0_alike_39 rfl (lv_at hl 0 rfl) ?_
          refine n_get (ci := 0) X in_X0 hW hG hO rfl 9 (by decide) q146 (fun _ h => h) rfl dX0_alike_40 ?_
          refine i_icmp_ge X 143 dX0_alike_43 (by decide) (by first | omega | exact bI_iR _ | exact hkl0 | exact hr4 | exact hr5 | exact hr6 | exact hr7 | (split <;> omega) | (rw [ek]; omega) | (split <;> (try split) <;> omega)) (by first | omega | exact bI_iR _ | exact hkl0 | exact hr4 | exact hr5 | exact hr6 | exact hr7 | (split <;> omega) | (rw [ek]; omega) | (split <;> (try split) <;> omega)) (fun c43 => ?_) (fun c43 => ?_)
          · have hfin : z = bI (decide (S.1 40 = S.1 79) && spAl S (S.1 40).toNat) := by
              first
                | (rw [hz, show k = (S.1 40).toNat by omega]; done)
                | (have y : bI (decide (S.1 40 = S.1 79) && spAl S k) = 0 := (by rw [← hz]; exact c47)
                   rw [c47]
                   apply bI_f
                   have y := bI_eq0.mp y
                   rw [Bool.and_eq_false_iff] at y ⊢
                   rcases y with y | y
                   · exact Or.inl y
                   · exact Or.inr (spAl_f y (by omega)))
            refine lv_iload_n X.1 X.2.1 dX0_alike_143 rfl (lv_at hl 1 rfl) ?_
            refine i_if_eq X 151 dX0_alike_144 (by decide) (by first | omega | exact bI_iR _ | exact hkl0 | exact hr4 | exact hr5 | exact hr6 | exact hr7 | (split <;> omega) | (rw [ek]; omega) | (split <;> (try split) <;> omega)) (fun c144 => ?_) (fun c144 => ?_)
            · refine lv_iconst (v := iI (0)) X.1 X.2.1 dX0_alike_151 rfl ?_
              refine ret _ _ _ _ _ _ _ _ _ ?_ (rfl) (by show 0 ≤ 0; first | omega | exact bI_iR _ | exact hkl0 | exact hr4 | exact hr5 | exact hr6 | exact hr7 | (split <;> omega) | (rw [ek]; omega) | (split <;> (try split) <;> omega)) (by show 0 ≤ 0; first | omega | exact bI_iR _ | exact hkl0 | exact hr4 | exact hr5 | exact hr6 | exact hr7 | (split <;> omega) | (rw [ek]; omega) | (split <;> (try split) <;> omega)) hG hS dX0_alike_152
              exact ⟨by rw [if_neg (by omega), ← hfin]; first | rfl | (congr 3; omega), rfl, rfl⟩
            · refine lv_iconst (v := iI (1)) X.1 X.2.1 dX0_alike_147 rfl ?_
              refine lv_goto (tgt := 152) X.1 X.2.1 dX0_alike_148 (by decide) ?_
              refine ret _ _ _ _ _ _ _ _ _ ?_ (rfl) (by show 0 ≤ 0; first | omega | exact bI_iR _ | exact hkl0 | exact hr4 | exact hr5 | exact hr6 | exact hr7 | (split <;> omega) | (rw [ek]; omega) | (split <;> (try split) <;> omega)) (by show 0 ≤ 0; first | omega | exact bI_iR _ | exact hkl0 | exact hr4 | exact hr5 | exact hr6 | exact hr7 | (split <;> omega) | (rw [ek]; omega) | (split <;> (try split) <;> omega)) hG hS dX0_alike_152
              exact ⟨by rw [if_neg (by omega), ← hfin]; first | rfl | (congr 3; omega), rfl, rfl⟩
          · refine lv_iload_n X.1 X.2.1 dX0_alike_46 rfl (lv_at hl 1 rfl) ?_
            refine i_if_eq X 143 dX0_alike_47 (by decide) (by first | omega | exact bI_iR _ | exact hkl0 | exact hr4 | exact hr5 | exact hr6 | exact hr7 | (split <;> omega) | (rw [ek]; omega) | (split <;> (try split) <;> omega)) (fun c47 => ?_) (fun c47 => ?_)
            · have hfin : z = bI (decide (S.1 40 = S.1 79) && spAl S (S.1 40).toNat) := by
                first
                  | (rw [hz, show k = (S.1 40).toNat by omega]; done)
                  | (have y : bI (decide (S.1 40 = S.1 79) && spAl S k) = 0 := (by rw [← hz]; exact c47)
                     rw [c47]
                     apply bI_f
                     have y := bI_eq0.mp y
                     rw [Bool.and_eq_false_iff] at y ⊢
                     rcases y with y | y
                     · exact Or.inl y
                     · exact Or.inr (spAl_f y (by omega)))
              refine lv_iload_n X.1 X.2.1 dX0_alike_143 rfl (lv_at hl 1 rfl) ?_
              refine i_if_eq X 151 dX0_alike_144 (by decide) (by first | omega | exact bI_iR _ | exact hkl0 | exact hr4 | exact hr5 | exact hr6 | exact hr7 | (split <;> omega) | (rw [ek]; omega) | (split <;> (try split) <;> omega)) (fun c144 => ?_) (fun c144 => ?_)
              · refine lv_iconst (v := iI (0)) X.1 X.2.1 dX0_alike_151 rfl ?_
                refine ret _ _ _ _ _ _ _ _ _ ?_ (rfl) (by show 0 ≤ 0; first | omega | exact bI_iR _ | exact hkl0 | exact hr4 | exact hr5 | exact hr6 | exact hr7 | (split <;> omega) | (rw [ek]; omega) | (split <;> (try split) <;> omega)) (by show 0 ≤ 0; first | omega | exact bI_iR _ | exact hkl0 | exact hr4 | exact hr5 | exact hr6 | exact hr7 | (split <;> omega) | (rw [ek]; omega) | (split <;> (try split) <;> omega)) hG hS dX0_alike_152
                exact ⟨by rw [if_neg (by omega), ← hfin]; first | rfl | (congr 3; omega), rfl, rfl⟩
              · refine lv_iconst (v := iI (1)) X.1 X.2.1 dX0_alike_147 rfl ?_
                refine lv_goto (tgt := 152) X.1 X.2.1 dX0_alike_148 (by decide) ?_
                refine ret _ _ _ _ _ _ _ _ _ ?_ (rfl) (by show 0 ≤ 0; first | omega | exact bI_iR _ | exact hkl0 | exact hr4 | exact hr5 | exact hr6 | exact hr7 | (split <;> omega) | (rw [ek]; omega) | (split <;> (try split) <;> omega)) (by show 0 ≤ 0; first | omega | exact bI_iR _ | exact hkl0 | exact hr4 | exact hr5 | exact hr6 | exact hr7 | (split <;> omega) | (rw [ek]; omega) | (split <;> (try split) <;> omega)) hG hS dX0_alike_152
                exact ⟨by rw [if_neg (by omega), ← hfin]; first | rfl | (congr 3; omega), rfl, rfl⟩
            · have e49 : S.1 40 = S.1 79 ∧ spAl S k = true := by
                have y : bI (decide (S.1 40 = S.1 79) && spAl S k) ≠ 0 := by rw [← hz]; exact c47
                have y := bI_ne0.mp y
                simpa using y
              obtain ⟨g4, g5, g6, g7, gk⟩ := hkr (k : Int) (by omega) (by omega)
              have hrw := row_al hV hL0 (i := (k : Int)) (by omega) (by omega) gk
              rw [← g5, ← g6, ← g7, ← g4] at hrw
              have hwk := hT.w (i := (k : Int)) (by omega) (by omega)
              have hpk := hT.p (i := (k : Int)) (by omega) (by omega)
              have hlk := hV.1.2.2 (k : Int) (by omega) (by omega)
              have hlk2 := hV.2.2.2 (k : Int) (by omega) (by omega)
              have hsr := spReads_in hV.1 (i := (k : Int)) (by omega) (by omega)
              have hkl0 : lR ((if S.2 41 (k : Int) = 1 then gLt (S.2 42 (k : Int)) else 0)) := by
                split
                · have := gLt_rng (hlk2.1 (by omega)); omega
                · omega
              obtain ⟨gk1, gk2, gk3, gk4, gk5, gk6⟩ := gk
              have hr4 : iR (f4 (k : Int)) := by rw [g4]; omega
              have hr5 : iR (f5 (k : Int)) := by
                rw [g5]
                by_cases z : S.2 80 (k : Int) = 0
                · rw [if_pos z]; have := gk5 z; omega
                · rw [if_neg z]
                  rcases (show S.2 80 (k : Int) < 2 ∨ 2 ≤ S.2 80 (k : Int) by omega) with y | y
                  · have := gk2 y; omega
                  · have := gk3 y; omega
              have hr6 : lR (f6 (k : Int)) := by
                rw [g6]
                by_cases z : S.2 80 (k : Int) = 1
                · rw [if_pos z]; have := gLt_rng (gk4 z); omega
                · rw [if_neg z]; omega
              have hr7 : iR (f7 (k : Int)) := by rw [g7]; omega
              have K136 : ∀ (z1 : Int), (z1 = bI (decide (S.1 40 = S.1 79) && spAl S (k + 1))) → ∀ (H : Heap) (locs : List Loc) (ls : Array Slot), gOn G.1 A h n H → va_S A s.heap H locs → lv_has ls 4 [(0, .ref x0), (2, .int (iI ((k : Int))))] → W p l e (gR lv 0 0) s m args below meth c H locs 0 0 Q (F0 m 136 ls [.int (iI (z1))]) := by
                intro z1 hz1 H locs ls hG hS hl
                refine lv_istore_n (lv' := [(1, .int (iI (z1))), (0, .ref x0), (2, .int (iI ((k : Int))))]) X.1 X.2.1 dX0_alike_136 rfl hl (by decide) rfl (fun ls hl => ?_)
                refine i_inc (lv' := [(2, .int (iI ((k : Int) + 1))), (1, .int (iI (z1))), (0, .ref x0)]) X dX0_alike_137 hl (k := 2) rfl (by decide) rfl (fun ls hl => ?_)
                refine lv_goto (tgt := 38) X.1 X.2.1 dX0_alike_140 (by decide) ?_
                exact ih38 z1 (k + 1) (by omega) hz1 (by omega) H locs ls hG hS (lv_sub hl [2, 1, 0] rfl)
              refine lv_aload_n X.1 X.2.1 dX0_alike_50 rfl (lv_at hl 0 rfl) ?_
              refine n_get (ci := 0) X in_X0 hW hG hO rfl 8 (by decide) q145 (fun _ h => h) rfl dX0_alike_51 ?_
              refine lv_iload_n X.1 X.2.1 dX0_alike_54 rfl (lv_at hl 2 rfl) ?_
              refine n_row X hW hG hRo (i := (k : Int)) (by omega) (by omega) (by omega) dX0_alike_55 ?_
              have hI_55 := hV.it (i := (k : Int)) (by omega) (by omega)
              refine g_callS (rest := []) (k := 1) X hW hG hS (gg_readsAs l G A (lv - 1) h n S ad (k : Int) (by omega) hV (by omega) (by omega)) (lw_S q838 q839 q66 q840) (by decide +kernel) rfl ⟨by show (lv - 1) + 1 ≤ lv; omega, by show 8 + (2 + 11) + 40 * (lv - 1) ≤ 40 * lv; omega⟩ ⟨by show 0 + 0 ≤ 0; first | omega | exact bI_iR _ | exact hkl0 | exact hr4 | exact hr5 | exact hr6 | exact hr7 | (split <;> omega) | (rw [ek]; omega) | (split <;> (try split) <;> omega), by show 0 + 0 ≤ 0; first | omega | exact bI_iR _ | exact hkl0 | exact hr4 | exact hr5 | exact hr6 | exact hr7 | (split <;> omega) | (rw [ek]; omega) | (split <;> (try split) <;> omega)⟩ hl.1 rfl (Nat.le_of_ble_eq_true rfl) dX0_alike_56 (g_pk (fun H locs hG hS => ?_))
              show W p l e (gR lv 0 0) s m args below meth c H locs 0 0 Q (F0 m 59 ls [.int (iI (spReads S (k : Int)))])
              refine lv_istore_n (lv' := [(3, .int (iI (spReads S (k : Int)))), (0, .ref x0), (1, .int (iI (z))), (2, .int (iI ((k : Int))))]) X.1 X.2.1 dX0_alike_59 rfl hl (by decide) rfl (fun ls hl => ?_)
              refine lv_aload_n X.1 X.2.1 dX0_alike_60 rfl (lv_at hl 1 rfl) ?_
              refine n_get (ci := 0) X in_X0 hW hG hO rfl 11 (by decide) q148 (fun _ h => h) rfl dX0_alike_61 ?_
              refine lv_iload_n X.1 X.2.1 dX0_alike_64 rfl (lv_at hl 3 rfl) ?_
              refine n_ia X hW hG h4 (by first | omega | exact bI_iR _ | exact hkl0 | exact hr4 | exact hr5 | exact hr6 | exact hr7 | (split <;> omega) | (rw [ek]; omega) | (split <;> (try split) <;> omega)) (by decide) dX0_alike_65 ?_
              refine lv_aload_n X.1 X.2.1 dX0_alike_66 rfl (lv_at hl 1 rfl) ?_
              refine n_get (ci := 0) X in_X0 hW hG hO rfl 8 (by decide) q145 (fun _ h => h) rfl dX0_alike_67 ?_
              refine lv_iload_n X.1 X.2.1 dX0_alike_70 rfl (lv_at hl 3 rfl) ?_
              refine n_row X hW hG hRo (i := (k : Int)) (by omega) (by omega) (by omega) dX0_alike_71 ?_
              have hI_71 := hV.it (i := (k : Int)) (by omega) (by omega)
              refine g_callX (rest := [.int (iI (f4 ((k : Int))))]) (k := 0) X hW hG hS (vi_kind l G A (lv - 1) h n (rwS S) ad (1, 0) (inS S ad (k : Int)) (k : Int) (k : Int) hI_71 (hT.w (by omega) (by omega)).1) q799 q801 (gDecl_abs hW q800) (by decide +kernel) rfl ⟨by show (lv - 1) + 1 ≤ lv; omega, by show 40 + 40 * (lv - 1) ≤ 40 * lv; omega⟩ ⟨by show 0 + 0 ≤ 0; first | omega | exact bI_iR _ | exact hkl0 | exact hr4 | exact hr5 | exact hr6 | exact hr7 | (split <;> omega) | (rw [ek]; omega) | (split <;> (try split) <;> omega), by show 0 + 0 ≤ 0; first | omega | exact bI_iR _ | exact hkl0 | exact hr4 | exact hr5 | exact hr6 | exact hr7 | (split <;> omega) | (rw [ek]; omega) | (split <;> (try split) <;> omega)⟩ hl.1 rfl (Nat.le_of_ble_eq_true rfl) dX0_alike_72 (g_pk (fun H locs hG hS => ?_))
              show W p l e (gR lv 0 0) s m args below meth c H locs 0 0 Q (F0 m 75 ls [.int (iI (S.2 41 (k : Int))), .int (iI (f4 ((k : Int))))])
              refine i_icmp_ne X 135 dX0_alike_75 (by decide) (by first | omega | exact bI_iR _ | exact hkl0 | exact hr4 | exact hr5 | exact hr6 | exact hr7 | (split <;> omega) | (rw [ek]; omega) | (split <;> (try split) <;> omega)) (by first | omega | exact bI_iR _ | exact hkl0 | exact hr4 | exact hr5 | exact hr6 | exact hr7 | (split <;> omega) | (rw [ek]; omega) | (split <;> (try split) <;> omega)) (fun c75 => ?_) (fun c75 => ?_)
              · refine lv_iconst (v := iI (0)) X.1 X.2.1 dX0_alike_135 rfl ?_
                exact K136 0 (by
  rw [decide_eq_true e49.1, Bool.true_and, show spAl S (k + 1) = (spAl S k && spRowAl S k) from rfl, e49.2, Bool.true_and]
  first
    | (apply bI_t; exact hrw.mpr ⟨c75, c93, c103, by first | exact Or.inl c109 | exact Or.inr c127⟩)
    | (apply bI_f
       rw [Bool.eq_false_iff]
       intro y
       have y := hrw.mp y
       first
         | exact c75 y.1
         | exact c93 y.2.1
         | exact c103 y.2.2.1
         | exact y.2.2.2.elim (fun q => q c109) (fun q => c127 q))) H locs ls hG hS (lv_sub hl [1, 3] rfl)
              · refine lv_aload_n X.1 X.2.1 dX0_alike_78 rfl (lv_at hl 1 rfl) ?_
                refine n_get (ci := 0) X in_X0 hW hG hO rfl 12 (by decide) q149 (fun _ h => h) rfl dX0_alike_79 ?_
                refine lv_iload_n X.1 X.2.1 dX0_alike_82 rfl (lv_at hl 3 rfl) ?_
                refine n_ia X hW hG h5 (by first | omega | exact bI_iR _ | exact hkl0 | exact hr4 | exact hr5 | exact hr6 | exact hr7 | (split <;> omega) | (rw [ek]; omega) | (split <;> (try split) <;> omega)) (by decide) dX0_alike_83 ?_
                refine lv_aload_n X.1 X.2.1 dX0_alike_84 rfl (lv_at hl 1 rfl) ?_
                refine n_get (ci := 0) X in_X0 hW hG hO rfl 8 (by decide) q145 (fun _ h => h) rfl dX0_alike_85 ?_
                refine lv_iload_n X.1 X.2.1 dX0_alike_88 rfl (lv_at hl 3 rfl) ?_
                refine n_row X hW hG hRo (i := (k : Int)) (by omega) (by omega) (by omega) dX0_alike_89 ?_
                have hI_89 := hV.it (i := (k : Int)) (by omega) (by omega)
                refine g_callS (rest := [.int (iI (f5 ((k : Int))))]) (k := 1) X hW hG hS (gg_sizeOf l G A (lv - 1) h n S ad (k : Int) (by omega) hV (by omega) (by omega)) (lw_S q1153 q1154 q66 q1155) (by decide +kernel) rfl ⟨by show (lv - 1) + 1 ≤ lv; omega, by show 8 + (1 + 11) + 40 * (lv - 1) ≤ 40 * lv; omega⟩ ⟨by show 0 + 0 ≤ 0; first | omega | exact bI_iR _ | exact hkl0 | exact hr4 | exact hr5 | exact hr6 | exact hr7 | (split <;> omega) | (rw [ek]; omega) | (split <;> (try split) <;> omega), by show 0 + 0 ≤ 0; first | omega | exact bI_iR _ | exact hkl0 | exact hr4 | exact hr5 | exact hr6 | exact hr7 | (split <;> omega) | (rw [ek]; omega) | (split <;> (try split) <;> omega)⟩ hl.1 rfl (Nat.le_of_ble_eq_true rfl) dX0_alike_90 (g_pk (fun H locs hG hS => ?_))
                show W p l e (gR lv 0 0) s m args below meth c H locs 0 0 Q (F0 m 93 ls [.int (iI ((if S.2 41 (k : Int) = 0 then S.2 42 (k : Int) else if 2 ≤ S.2 41 (k : Int) then S.2 47 (k : Int) else 0))), .int (iI (f5 ((k : Int))))])
                refine i_icmp_ne X 135 dX0_alike_93 (by decide) (by first | omega | exact bI_iR _ | exact hkl0 | exact hr4 | exact hr5 | exact hr6 | exact hr7 | (split <;> omega) | (rw [ek]; omega) | (split <;> (try split) <;> omega)) (by first | omega | exact bI_iR _ | exact hkl0 | exact hr4 | exact hr5 | exact hr6 | exact hr7 | (split <;> omega) | (rw [ek]; omega) | (split <;> (try split) <;> omega)) (fun c93 => ?_) (fun c93 => ?_)
                · refine lv_iconst (v := iI (0)) X.1 X.2.1 dX0_alike_135 rfl ?_
                  exact K136 0 (by
  rw [decide_eq_true e49.1, Bool.true_and, show spAl S (k + 1) = (spAl S k && spRowAl S k) from rfl, e49.2, Bool.true_and]
  first
    | (apply bI_t; exact hrw.mpr ⟨c75, c93, c103, by first | exact Or.inl c109 | exact Or.inr c127⟩)
    | (apply bI_f
       rw [Bool.eq_false_iff]
       intro y
       have y := hrw.mp y
       first
         | exact c75 y.1
         | exact c93 y.2.1
         | exact c103 y.2.2.1
         | exact y.2.2.2.elim (fun q => q c109) (fun q => c127 q))) H locs ls hG hS (lv_sub hl [1, 3] rfl)
                · refine lv_aload_n X.1 X.2.1 dX0_alike_96 rfl (lv_at hl 1 rfl) ?_
                  refine n_get (ci := 0) X in_X0 hW hG hO rfl 14 (by decide) q151 (fun _ h => h) rfl dX0_alike_97 ?_
                  refine lv_iload_n X.1 X.2.1 dX0_alike_100 rfl (lv_at hl 3 rfl) ?_
                  refine n_ia X hW hG h7 (by first | omega | exact bI_iR _ | exact hkl0 | exact hr4 | exact hr5 | exact hr6 | exact hr7 | (split <;> omega) | (rw [ek]; omega) | (split <;> (try split) <;> omega)) (by decide) dX0_alike_101 ?_
                  refine lv_iload_n X.1 X.2.1 dX0_alike_102 rfl (lv_at hl 0 rfl) ?_
                  refine i_icmp_ne X 135 dX0_alike_103 (by decide) (by first | omega | exact bI_iR _ | exact hkl0 | exact hr4 | exact hr5 | exact hr6 | exact hr7 | (split <;> omega) | (rw [ek]; omega) | (split <;> (try split) <;> omega)) (by first | omega | exact bI_iR _ | exact hkl0 | exact hr4 | exact hr5 | exact hr6 | exact hr7 | (split <;> omega) | (rw [ek]; omega) | (split <;> (try split) <;> omega)) (fun c103 => ?_) (fun c103 => ?_)
                  · refine lv_iconst (v := iI (0)) X.1 X.2.1 dX0_alike_135 rfl ?_
                    exact K136 0 (by
  rw [decide_eq_true e49.1, Bool.true_and, show spAl S (k + 1) = (spAl S k && spRowAl S k) from rfl, e49.2, Bool.true_and]
  first
    | (apply bI_t; exact hrw.mpr ⟨c75, c93, c103, by first | exact Or.inl c109 | exact Or.inr c127⟩)
    | (apply bI_f
       rw [Bool.eq_false_iff]
       intro y
       have y := hrw.mp y
       first
         | exact c75 y.1
         | exact c93 y.2.1
         | exact c103 y.2.2.1
         | exact y.2.2.2.elim (fun q => q c109) (fun q => c127 q))) H locs ls hG hS (lv_sub hl [1, 3] rfl)
                  · refine lv_iload_n X.1 X.2.1 dX0_alike_106 rfl (lv_at hl 0 rfl) ?_
                    refine lv_bipush (v := iI (-9)) X.1 X.2.1 dX0_alike_107 (by decide) ?_
                    refine i_icmp_ne X 131 dX0_alike_109 (by decide) (by first | omega | exact bI_iR _ | exact hkl0 | exact hr4 | exact hr5 | exact hr6 | exact hr7 | (split <;> omega) | (rw [ek]; omega) | (split <;> (try split) <;> omega)) (by first | omega | exact bI_iR _ | exact hkl0 | exact hr4 | exact hr5 | exact hr6 | exact hr7 | (split <;> omega) | (rw [ek]; omega) | (split <;> (try split) <;> omega)) (fun c109 => ?_) (fun c109 => ?_)
                    · refine lv_iconst (v := iI (1)) X.1 X.2.1 dX0_alike_131 rfl ?_
                      refine lv_goto (tgt := 136) X.1 X.2.1 dX0_alike_132 (by decide) ?_
                      exact K136 1 (by
  rw [decide_eq_true e49.1, Bool.true_and, show spAl S (k + 1) = (spAl S k && spRowAl S k) from rfl, e49.2, Bool.true_and]
  first
    | (apply bI_t; exact hrw.mpr ⟨c75, c93, c103, by first | exact Or.inl c109 | exact Or.inr c127⟩)
    | (apply bI_f
       rw [Bool.eq_false_iff]
       intro y
       have y := hrw.mp y
       first
         | exact c75 y.1
         | exact c93 y.2.1
         | exact c103 y.2.2.1
         | exact y.2.2.2.elim (fun q => q c109) (fun q => c127 q))) H locs ls hG hS (lv_sub hl [1, 3] rfl)
                    · refine lv_aload_n X.1 X.2.1 dX0_alike_112 rfl (lv_at hl 1 rfl) ?_
                      refine n_get (ci := 0) X in_X0 hW hG hO rfl 13 (by decide) q150 (fun _ h => h) rfl dX0_alike_113 ?_
                      refine lv_iload_n X.1 X.2.1 dX0_alike_116 rfl (lv_at hl 3 rfl) ?_
                      refine n_la X hW hG h6 (by first | omega | exact bI_iR _ | exact hkl0 | exact hr4 | exact hr5 | exact hr6 | exact hr7 | (split <;> omega) | (rw [ek]; omega) | (split <;> (try split) <;> omega)) (by decide) dX0_alike_117 ?_
                      refine lv_aload_n X.1 X.2.1 dX0_alike_118 rfl (lv_at hl 1 rfl) ?_
                      refine n_get (ci := 0) X in_X0 hW hG hO rfl 8 (by decide) q145 (fun _ h => h) rfl dX0_alike_119 ?_
                      refine lv_iload_n X.1 X.2.1 dX0_alike_122 rfl (lv_at hl 3 rfl) ?_
                      refine n_row X hW hG hRo (i := (k : Int)) (by omega) (by omega) (by omega) dX0_alike_123 ?_
                      have hI_123 := hV.it (i := (k : Int)) (by omega) (by omega)
                      refine g_callS (rest := [.long (lI (f6 ((k : Int))))]) (k := 1) X hW hG hS (gg_lettersOf l G A (lv - 1) h n S ad (k : Int) hV (by omega) (by omega)) (lw_S q1156 q1157 q66 q1158) (by decide +kernel) rfl ⟨by show (lv - 1) + 1 ≤ lv; omega, by show 8 + (1 + 11) + 40 * (lv - 1) ≤ 40 * lv; omega⟩ ⟨by show 0 + 0 ≤ 0; first | omega | exact bI_iR _ | exact hkl0 | exact hr4 | exact hr5 | exact hr6 | exact hr7 | (split <;> omega) | (rw [ek]; omega) | (split <;> (try split) <;> omega), by show 0 + 0 ≤ 0; first | omega | exact bI_iR _ | exact hkl0 | exact hr4 | exact hr5 | exact hr6 | exact hr7 | (split <;> omega) | (rw [ek]; omega) | (split <;> (try split) <;> omega)⟩ hl.1 rfl (Nat.le_of_ble_eq_true rfl) dX0_alike_124 (g_pk (fun H locs hG hS => ?_))
                      show W p l e (gR lv 0 0) s m args below meth c H locs 0 0 Q (F0 m 127 ls [.long (lI ((if S.2 41 (k : Int) = 1 then gLt (S.2 42 (k : Int)) else 0))), .long (lI (f6 ((k : Int))))])
                      refine i_lcmp_ne X 135 dX0_alike_127 dX0_alike_128 (by decide) (by first | omega | exact bI_iR _ | exact hkl0 | exact hr4 | exact hr5 | exact hr6 | exact hr7 | (split <;> omega) | (rw [ek]; omega) | (split <;> (try split) <;> omega)) (by first | omega | exact bI_iR _ | exact hkl0 | exact hr4 | exact hr5 | exact hr6 | exact hr7 | (split <;> omega) | (rw [ek]; omega) | (split <;> (try split) <;> omega)) (fun c127 => ?_) (fun c127 => ?_)
                      · refine lv_iconst (v := iI (0)) X.1 X.2.1 dX0_alike_135 rfl ?_
                        exact K136 0 (by
  rw [decide_eq_true e49.1, Bool.true_and, show spAl S (k + 1) = (spAl S k && spRowAl S k) from rfl, e49.2, Bool.true_and]
  first
    | (apply bI_t; exact hrw.mpr ⟨c75, c93, c103, by first | exact Or.inl c109 | exact Or.inr c127⟩)
    | (apply bI_f
       rw [Bool.eq_false_iff]
       intro y
       have y := hrw.mp y
       first
         | exact c75 y.1
         | exact c93 y.2.1
         | exact c103 y.2.2.1
         | exact y.2.2.2.elim (fun q => q c109) (fun q => c127 q))) H locs ls hG hS (lv_sub hl [1, 3] rfl)
                      · refine lv_iconst (v := iI (1)) X.1 X.2.1 dX0_alike_131 rfl ?_
                        refine lv_goto (tgt := 136) X.1 X.2.1 dX0_alike_132 (by decide) ?_
                        exact K136 1 (by
  rw [decide_eq_true e49.1, Bool.true_and, show spAl S (k + 1) = (spAl S k && spRowAl S k) from rfl, e49.2, Bool.true_and]
  first
    | (apply bI_t; exact hrw.mpr ⟨c75, c93, c103, by first | exact Or.inl c109 | exact Or.inr c127⟩)
    | (apply bI_f
       rw [Bool.eq_false_iff]
       intro y
       have y := hrw.mp y
       first
         | exact c75 y.1
         | exact c93 y.2.1
         | exact c103 y.2.2.1
         | exact y.2.2.2.elim (fun q => q c109) (fun q => c127 q))) H locs ls hG hS (lv_sub hl [1, 3] rfl)
      exact L38 _ z0 0 (by omega) (by rw [hz0]; show _ = bI (_ && true); rw [Bool.and_true]) (Nat.lt_succ_self _) H locs ls hG hS (lv_sub hl [2, 1, 0] rfl)
    refine lv_aload_n X.1 X.2.1 dX0_alike_19 rfl (lv_at hl 0 rfl) ?_
    refine n_get (ci := 0) X in_X0 hW hG hO rfl 9 (by decide) q146 (fun _ h => h) rfl dX0_alike_20 ?_
    refine lv_aload_n X.1 X.2.1 dX0_alike_23 rfl (lv_at hl 0 rfl) ?_
    refine n_get (ci := 0) X in_X0 hW hG hO rfl 10 (by decide) q147 (fun _ h => h) rfl dX0_alike_24 ?_
    refine i_icmp_ne X 34 dX0_alike_27 (by decide) (by first | omega | exact bI_iR _ | exact hkl0 | exact hr4 | exact hr5 | exact hr6 | exact hr7 | (split <;> omega) | (rw [ek]; omega) | (split <;> (try split) <;> omega)) (by first | omega | exact bI_iR _ | exact hkl0 | exact hr4 | exact hr5 | exact hr6 | exact hr7 | (split <;> omega) | (rw [ek]; omega) | (split <;> (try split) <;> omega)) (fun c27 => ?_) (fun c27 => ?_)
    · refine lv_iconst (v := iI (0)) X.1 X.2.1 dX0_alike_34 rfl ?_
      exact K35 0 (by rw [ek] at c27; first | (rw [decide_eq_true c27]; rfl) | (rw [decide_eq_false c27]; rfl)) H locs ls hG hS (lv_sub hl [0] rfl)
    · refine lv_iconst (v := iI (1)) X.1 X.2.1 dX0_alike_30 rfl ?_
      refine lv_goto (tgt := 35) X.1 X.2.1 dX0_alike_31 (by decide) ?_
      exact K35 1 (by rw [ek] at c27; first | (rw [decide_eq_true c27]; rfl) | (rw [decide_eq_false c27]; rfl)) H locs ls hG hS (lv_sub hl [0] rfl)
  · refine lv_bipush (v := iI (-3)) X.1 X.2.1 dX0_alike_16 (by decide) ?_
    refine ret _ _ _ _ _ _ _ _ _ ?_ (rfl) (by show 0 ≤ 0; first | omega | exact bI_iR _ | exact hkl0 | exact hr4 | exact hr5 | exact hr6 | exact hr7 | (split <;> omega) | (rw [ek]; omega) | (split <;> (try split) <;> omega)) (by show 0 ≤ 0; first | omega | exact bI_iR _ | exact hkl0 | exact hr4 | exact hr5 | exact hr6 | exact hr7 | (split <;> omega) | (rw [ek]; omega) | (split <;> (try split) <;> omega)) hG hS dX0_alike_18
    exact ⟨by rw [if_pos (by rcases hk1 with z | z; exact z; (rw [if_neg (by omega)] at c13; have := (hk2 z).1; omega))], rfl, rfl⟩

set_option maxHeartbeats 4000000 in
theorem gx_alikeN (l : Launch) (G : gEnv) (A : Nat → Prop) (lv : Nat) (h : gH) (n : Nat) (x0 : Nat) (S : MSt) (rv : Value) (hO0 : GOB h x0 S rv .null) : gC l yX0_alike cX0_alike 4 (some .int) G A lv 0 0 [.ref x0] h n (gPure (some (.int (iI (-3)))) h n) := by
  refine gC_ofI RX0 (by decide +kernel) rfl (Nat.le_of_ble_eq_true rfl) ?_
  intro p e s m args below meth c Q X hW ret H locs ls hG hS hl
  have hl : lv_has ls 4 [(0, .ref x0)] := hl
  have hO := hO0
  unfold GOB gOv at hO
  
  refine lv_aload_n X.1 X.2.1 dX0_alike_0 rfl (lv_at hl 0 rfl) ?_
  refine n_get (ci := 0) X in_X0 hW hG hO rfl 4 (by decide) q141 (fun _ h => h) rfl dX0_alike_1 ?_
  refine lv_ifnullN (tgt := 16) X.1 X.2.1 dX0_alike_4 (by decide) ?_
  refine lv_bipush (v := iI (-3)) X.1 X.2.1 dX0_alike_16 (by decide) ?_
  refine ret _ _ _ _ _ _ _ _ _ ?_ (rfl) (by show 0 ≤ 0; omega) (by show 0 ≤ 0; omega) hG hS dX0_alike_18
  exact ⟨rfl, rfl, rfl⟩

section BAS
variable {p : Program} {l : Launch} {e : Env} {R : Room} {s : State} {m : MethodId} {args : Array Value} {below : List Frame} {meth : Method} {c : Code} {H : Heap} {locs : List Loc} {cells slots : Nat} {Q : State → Prop}
variable {cc : ByteArray} {pc nL : Nat} {ls : Array Slot} {rest : List Value} {G : gEnv} {A : Nat → Prop} {a n : Nat} {h : gH} {own : String} {tg : gT} {N : Nat} {f : Int → Int} {z x : Int}
theorem n_bas (X : CallFix p m c cc nL s args lw_all own) (hW : gWd G A s) (hG : gOn G.1 A h n H) (hS : va_S A s.heap H locs) (he : h a = some (gBA G tg N f)) (hz : 0 ≤ z ∧ z < N) (hN : N < 2147483648) (hx : -128 ≤ x ∧ x < 128) (hdg : decode cc pc = .ok (.bastore, 1))
    (kk : ∀ (H1 : Heap) (locs1 : List Loc), gOn G.1 A (va_up h a (some (gBA G tg N (upI f z x)))) n H1 → va_S A s.heap H1 locs1 → W p l e R s m args below meth c H1 locs1 cells slots Q (F0 m (pc + 1) ls rest)) : W p l e R s m args below meth c H locs cells slots Q (F0 m pc ls (.int (iI x) :: .int (iI z) :: .ref a :: rest)) := by
  refine n_bast X hW hG hS he (iI_in hz hN) hdg (fun H1 locs1 h1 h2 => kk H1 locs1 ?_ h2)
  rw [show upd (fun j : Nat => iI (f (j : Int))) (iI z).toNatClampNeg (vp_nar .byte (iI x)) = (fun j : Nat => iI (upI f z x (j : Int))) from ?_] at h1
  · exact h1
  · rw [iI_clamp ⟨hz.1, by omega⟩, byteNar hx]
    funext j
    unfold upd upI
    by_cases hj : j = z.toNat
    · rw [if_pos hj, if_pos (by omega)]
    · rw [if_neg hj, if_neg (by omega)]
end BAS
set_option maxHeartbeats 4000000 in
theorem gx_feed (l : Launch) (G : gEnv) (A : Nat → Prop) (lv : Nat) (h : gH) (n : Nat) (x0 : Nat) (S : MSt) (rv tv : Value) (fr : Nat → Option Nat) (f4 f5 f6 f7 : Int → Int) (x : Int64) (hA : GXA G h x0 S rv tv fr f4 f5 f6 f7) (hs : 0 ≤ S.1 1 ∧ S.1 1 ≤ 500) : gC l yX0_feed cX0_feed 5 (some .int) G A lv 0 0 [.ref x0, .long (x)] h n (fun v h' n' => v = some (.int (iI (if 500 < S.1 1 + (cB x 8 : Int) then -4 else S.1 1 + (cB x 8 : Int)))) ∧ n' = n ∧ ((500 < S.1 1 + (cB x 8 : Int) ∧ h' = h) ∨ (S.1 1 + (cB x 8 : Int) ≤ 500 ∧ ∃ f : Int → Int, GXA G h' x0 (mP S [(0, f)] [(1, S.1 1 + (cB x 8 : Int))]) rv tv fr f4 f5 f6 f7 ∧ gFrm (gXP x0) h h' ∧ ∀ j, f j = if S.1 1 ≤ j ∧ j < S.1 1 + (cB x 8 : Int) then sB (byt x (j - S.1 1).toNat) else S.2 0 j))) := by
  refine gC_ofI RX0 (by decide +kernel) rfl (Nat.le_of_ble_eq_true rfl) ?_
  intro p e s m args below meth c Q X hW ret H locs ls hG hS hl
  have hl : lv_has ls 5 [(0, .ref x0), (1, .long (x))] := hl
  obtain ⟨hO0, h1t, h3, h4, h5, h6, h7⟩ := id hA
  have hO := hO0
  unfold GOB gOv at hO
  refine lv_iconst (v := iI (0)) X.1 X.2.1 dX0_feed_0 rfl ?_
  refine lv_istore_n (lv' := [(3, .int (iI (0))), (0, .ref x0), (1, .long (x))]) X.1 X.2.1 dX0_feed_1 rfl hl (by decide) rfl (fun ls hl => ?_)
  have L2 : ∀ (N2 : Nat) (k : Nat), (k ≤ 8) → (cB x (8 - k) = cB x 8) → 8 - k < N2 → ∀ (H : Heap) (locs : List Loc) (ls : Array Slot), gOn G.1 A h n H → va_S A s.heap H locs → lv_has ls 5 [(0, .ref x0), (1, .long (x)), (3, .int (iI ((k : Int))))] → W p l e (gR lv 0 0) s m args below meth c H locs 0 0 Q (F0 m 2 ls []) := by
    intro N2
    induction N2 with
    | zero => intro k hn hc hN; exact absurd hN (Nat.not_lt_zero _)
    | succ N2 ih2 =>
      intro k hn hc hN2 H locs ls hG hS hl
      refine lv_iload_n X.1 X.2.1 dX0_feed_2 rfl (lv_at hl 2 rfl) ?_
      refine lv_bipush (v := iI (8)) X.1 X.2.1 dX0_feed_3 (by decide) ?_
      refine i_icmp_ge X 29 dX0_feed_5 (by decide) (by omega) (by omega) (fun c5 => ?_) (fun c5 => ?_)
      · have hnc : k = cB x 8 := by
          rw [← hc]
          by_cases h8 : k = 8
          · rw [h8]; rfl
          · rw [show 8 - k = (8 - (k + 1)) + 1 by omega]
            show _ = if byt x (7 - (8 - (k + 1))) = 0 then 7 - (8 - (k + 1)) else cB x (8 - (k + 1))
            rw [show 7 - (8 - (k + 1)) = k by omega, if_pos (by have e : ((k : Int)).toNat = k := (by omega); first | (rw [e] at c19; exact c19) | omega)]
        have hc8 := cB_le x 8 (by decide)
        refine lv_aload_n X.1 X.2.1 dX0_feed_29 rfl (lv_at hl 0 rfl) ?_
        refine n_get (ci := 0) X in_X0 hW hG hO rfl 1 (by decide) q138 (fun _ h => h) rfl dX0_feed_30 ?_
        refine lv_iload_n X.1 X.2.1 dX0_feed_33 rfl (lv_at hl 2 rfl) ?_
        refine i_add X dX0_feed_34 ?_
        refine lv_sipush (v := iI (500)) X.1 X.2.1 dX0_feed_35 (by decide) ?_
        refine i_icmp_le X 44 dX0_feed_38 (by decide) (by omega) (by omega) (fun c38 => ?_) (fun c38 => ?_)
        · refine lv_iconst (v := iI (0)) X.1 X.2.1 dX0_feed_44 rfl ?_
          refine lv_istore (lv' := [(4, .int (iI (0))), (0, .ref x0), (1, .long (x)), (3, .int (iI ((k : Int))))]) X.1 X.2.1 dX0_feed_45 hl (by decide) rfl (fun ls hl => ?_)
          have L47 : ∀ (N47 : Nat) (g1 : gH) (q : Nat) (f : Int → Int), (q ≤ k) → (g1 x0 = some ((4, 0), .inr (0, [.ref (x0 + 1), .int (iI (S.1 1)), .int (iI (S.1 28)), rv, tv, .ref (x0 + 2), .int (iI (S.1 66)), .int (iI (S.1 53)), .ref (x0 + 3), .int (iI (S.1 40)), .int (iI (if S.1 78 = 0 then -9 else S.1 79)), .ref (x0 + 4), .ref (x0 + 5), .ref (x0 + 6), .ref (x0 + 7)]))) → (g1 (x0 + 1) = some (gBA G (4, 1) 500 f)) → (g1 (x0 + 3) = some (gRA G fr)) → (g1 (x0 + 4) = some (gIA G (4, 4) 500 f4)) → (g1 (x0 + 5) = some (gIA G (4, 5) 500 f5)) → (g1 (x0 + 6) = some (gLA G (4, 6) 500 f6)) → (g1 (x0 + 7) = some (gIA G (4, 7) 500 f7)) → (gFrm (gXP x0) h g1) → (∀ j, f j = if S.1 1 ≤ j ∧ j < S.1 1 + q then sB (byt x (j - S.1 1).toNat) else S.2 0 j) → k - q < N47 → ∀ (H : Heap) (locs : List Loc) (ls : Array Slot), gOn G.1 A g1 n H → va_S A s.heap H locs → lv_has ls 5 [(0, .ref x0), (1, .long (x)), (3, .int (iI ((k : Int)))), (4, .int (iI ((q : Int))))] → W p l e (gR lv 0 0) s m args below meth c H locs 0 0 Q (F0 m 47 ls []) := by
            intro N47
            induction N47 with
            | zero => intro g1 q f hq hO1 h1t1 h31 h41 h51 h61 h71 hF hf hN; exact absurd hN (Nat.not_lt_zero _)
            | succ N47 ih47 =>
              intro g1 q f hq hO1 h1t1 h31 h41 h51 h61 h71 hF hf hN47 H locs ls hG hS hl
              refine lv_iload X.1 X.2.1 dX0_feed_47 (lv_at hl 3 rfl) ?_
              refine lv_iload_n X.1 X.2.1 dX0_feed_49 rfl (lv_at hl 2 rfl) ?_
              refine i_icmp_ge X 80 dX0_feed_50 (by decide) (by omega) (by omega) (fun c50 => ?_) (fun c50 => ?_)
              · refine lv_aload_n X.1 X.2.1 dX0_feed_80 rfl (lv_at hl 0 rfl) ?_
                refine lv_dup X.1 X.2.1 dX0_feed_81 rfl ?_
                refine n_get (ci := 0) X in_X0 hW hG hO1 rfl 1 (by decide) q138 (fun _ h => h) rfl dX0_feed_82 ?_
                refine lv_iload_n X.1 X.2.1 dX0_feed_85 rfl (lv_at hl 2 rfl) ?_
                refine i_add X dX0_feed_86 ?_
                refine n_put (ci := 0) X in_X0 tyX0 tyX0_ok nmX0 hW hG hS hO1 rfl 1 (by decide) q138 (fun _ h => h) rfl rfl rfl (Nat.le_of_ble_eq_true rfl) (fs' := [.ref (x0 + 1), .int (iI ((S.1 1) + ((k : Int)))), .int (iI (S.1 28)), rv, tv, .ref (x0 + 2), .int (iI (S.1 66)), .int (iI (S.1 53)), .ref (x0 + 3), .int (iI (S.1 40)), .int (iI (if S.1 78 = 0 then -9 else S.1 79)), .ref (x0 + 4), .ref (x0 + 5), .ref (x0 + 6), .ref (x0 + 7)]) rfl dX0_feed_87 (fun H locs hG hS => ?_)
                obtain ⟨h1, eh1⟩ : ∃ hz, hz = va_up g1 x0 (some ((4, 0), .inr (0, [.ref (x0 + 1), .int (iI ((S.1 1) + ((k : Int)))), .int (iI (S.1 28)), rv, tv, .ref (x0 + 2), .int (iI (S.1 66)), .int (iI (S.1 53)), .ref (x0 + 3), .int (iI (S.1 40)), .int (iI (if S.1 78 = 0 then -9 else S.1 79)), .ref (x0 + 4), .ref (x0 + 5), .ref (x0 + 6), .ref (x0 + 7)]))) := ⟨_, rfl⟩
                rw [← eh1] at hG
                have f1_x01 : h1 (x0 + 1) = some (gBA G (4, 1) 500 f) := by rw [eh1, up_n (by omega)]; exact h1t1
                have f1_x04 : h1 (x0 + 4) = some (gIA G (4, 4) 500 f4) := by rw [eh1, up_n (by omega)]; exact h41
                have f1_x05 : h1 (x0 + 5) = some (gIA G (4, 5) 500 f5) := by rw [eh1, up_n (by omega)]; exact h51
                have f1_x06 : h1 (x0 + 6) = some (gLA G (4, 6) 500 f6) := by rw [eh1, up_n (by omega)]; exact h61
                have f1_x07 : h1 (x0 + 7) = some (gIA G (4, 7) 500 f7) := by rw [eh1, up_n (by omega)]; exact h71
                have f1_x03 : h1 (x0 + 3) = some (gRA G fr) := by rw [eh1, up_n (by omega)]; exact h31
                have f1_x0 : h1 x0 = some ((4, 0), .inr (0, [.ref (x0 + 1), .int (iI ((S.1 1) + ((k : Int)))), .int (iI (S.1 28)), rv, tv, .ref (x0 + 2), .int (iI (S.1 66)), .int (iI (S.1 53)), .ref (x0 + 3), .int (iI (S.1 40)), .int (iI (if S.1 78 = 0 then -9 else S.1 79)), .ref (x0 + 4), .ref (x0 + 5), .ref (x0 + 6), .ref (x0 + 7)])) := by rw [eh1]; exact up_s _ _ _
                have hF_h1 : gFrm (gXP x0) h h1 := by rw [eh1]; exact hF.upO hO1 ⟨by omega, by omega, by omega⟩ _
                refine lv_aload_n X.1 X.2.1 dX0_feed_90 rfl (lv_at hl 0 rfl) ?_
                refine n_get (ci := 0) X in_X0 hW hG f1_x0 rfl 1 (by decide) q138 (fun _ h => h) rfl dX0_feed_91 ?_
                refine ret _ _ _ _ _ _ _ _ _ ?_ (rfl) (by show 0 ≤ 0; omega) (by show 0 ≤ 0; omega) hG hS dX0_feed_94
                rw [← hnc]
                refine ⟨by rw [if_neg (by omega)], rfl, Or.inr ⟨by omega, f, ⟨f1_x0, f1_x01, f1_x03, f1_x04, f1_x05, f1_x06, f1_x07⟩, hF_h1, ?_⟩⟩
                intro j
                rw [hf j, show (q : Int) = (k : Int) by omega]
              · refine lv_aload_n X.1 X.2.1 dX0_feed_53 rfl (lv_at hl 0 rfl) ?_
                refine n_get (ci := 0) X in_X0 hW hG hO1 rfl 0 (by decide) q137 (fun _ h => h) rfl dX0_feed_54 ?_
                refine lv_aload_n X.1 X.2.1 dX0_feed_57 rfl (lv_at hl 0 rfl) ?_
                refine n_get (ci := 0) X in_X0 hW hG hO1 rfl 1 (by decide) q138 (fun _ h => h) rfl dX0_feed_58 ?_
                refine lv_iload X.1 X.2.1 dX0_feed_61 (lv_at hl 3 rfl) ?_
                refine i_add X dX0_feed_63 ?_
                refine lv_lload_n X.1 X.2.1 dX0_feed_64 rfl (lv_at hl 1 rfl) ?_
                refine lv_bipush (v := iI (8)) X.1 X.2.1 dX0_feed_65 (by decide) ?_
                refine lv_iload X.1 X.2.1 dX0_feed_67 (lv_at hl 3 rfl) ?_
                refine i_mul X dX0_feed_69 ?_
                have hby := sB_in (byt_in x (((q : Int))).toNat)
                refine f_sshrs X (by omega) dX0_feed_70 dX0_feed_71 dX0_feed_72 ?_
                refine n_bas X hW hG hS h1t1 (by omega) (by decide) (by omega) dX0_feed_73 (fun H locs hG hS => ?_)
                obtain ⟨h2, eh2⟩ : ∃ hz, hz = va_up g1 (x0 + 1) (some (gBA G (4, 1) 500 (upI f ((S.1 1) + ((q : Int))) (sB (byt x (((q : Int))).toNat))))) := ⟨_, rfl⟩
                rw [← eh2] at hG
                have f2_x0 : h2 x0 = some ((4, 0), .inr (0, [.ref (x0 + 1), .int (iI (S.1 1)), .int (iI (S.1 28)), rv, tv, .ref (x0 + 2), .int (iI (S.1 66)), .int (iI (S.1 53)), .ref (x0 + 3), .int (iI (S.1 40)), .int (iI (if S.1 78 = 0 then -9 else S.1 79)), .ref (x0 + 4), .ref (x0 + 5), .ref (x0 + 6), .ref (x0 + 7)])) := by rw [eh2, up_n (by omega)]; exact hO1
                have f2_x04 : h2 (x0 + 4) = some (gIA G (4, 4) 500 f4) := by rw [eh2, up_n (by omega)]; exact h41
                have f2_x05 : h2 (x0 + 5) = some (gIA G (4, 5) 500 f5) := by rw [eh2, up_n (by omega)]; exact h51
                have f2_x06 : h2 (x0 + 6) = some (gLA G (4, 6) 500 f6) := by rw [eh2, up_n (by omega)]; exact h61
                have f2_x07 : h2 (x0 + 7) = some (gIA G (4, 7) 500 f7) := by rw [eh2, up_n (by omega)]; exact h71
                have f2_x03 : h2 (x0 + 3) = some (gRA G fr) := by rw [eh2, up_n (by omega)]; exact h31
                have f2_x01 : h2 (x0 + 1) = some (gBA G (4, 1) 500 (upI f ((S.1 1) + ((q : Int))) (sB (byt x (((q : Int))).toNat)))) := by rw [eh2]; exact up_s _ _ _
                have hF_h2 : gFrm (gXP x0) h h2 := by rw [eh2]; exact hF.upA h1t1 ⟨by omega, by omega, by omega⟩ _
                refine i_inc (lv' := [(4, .int (iI ((q : Int) + 1))), (0, .ref x0), (1, .long (x)), (3, .int (iI ((k : Int))))]) X dX0_feed_74 hl (k := 3) rfl (by decide) rfl (fun ls hl => ?_)
                refine lv_goto (tgt := 47) X.1 X.2.1 dX0_feed_77 (by decide) ?_
                have hf2 : ∀ j, upI f (S.1 1 + (q : Int)) (sB (byt x ((q : Int)).toNat)) j = if S.1 1 ≤ j ∧ j < S.1 1 + ((q + 1 : Nat) : Int) then sB (byt x (j - S.1 1).toNat) else S.2 0 j := by
                  intro j
                  by_cases hj : j = S.1 1 + q
                  · rw [hj, upI_s, if_pos (by omega), show (S.1 1 + (q : Int) - S.1 1).toNat = ((q : Int)).toNat by omega]
                  · rw [upI_n hj, hf j]
                    by_cases h2 : S.1 1 ≤ j ∧ j < S.1 1 + q
                    · rw [if_pos h2, if_pos (by omega)]
                    · rw [if_neg h2, if_neg (by omega)]
                exact ih47 h2 (q + 1) (upI f ((S.1 1) + ((q : Int))) (sB (byt x (((q : Int))).toNat))) (by omega) f2_x0 f2_x01 f2_x03 f2_x04 f2_x05 f2_x06 f2_x07 hF_h2 hf2 (by omega) H locs ls hG hS (lv_sub hl [1, 2, 3, 0] rfl)
          exact L47 _ h 0 (S.2 0) (by omega) hO h1t h3 h4 h5 h6 h7 (gFrm.refl _ _) (by intro j; rw [if_neg (by omega)]) (Nat.lt_succ_self _) H locs ls hG hS (lv_sub hl [1, 2, 3, 0] rfl)
        · refine lv_bipush (v := iI (-4)) X.1 X.2.1 dX0_feed_41 (by decide) ?_
          refine ret _ _ _ _ _ _ _ _ _ ?_ (rfl) (by show 0 ≤ 0; omega) (by show 0 ≤ 0; omega) hG hS dX0_feed_43
          exact ⟨by rw [if_pos (by omega)], rfl, Or.inl ⟨by omega, rfl⟩⟩
      · refine lv_lload_n X.1 X.2.1 dX0_feed_8 rfl (lv_at hl 1 rfl) ?_
        refine lv_bipush (v := iI (8)) X.1 X.2.1 dX0_feed_9 (by decide) ?_
        refine lv_iload_n X.1 X.2.1 dX0_feed_11 rfl (lv_at hl 2 rfl) ?_
        refine i_mul X dX0_feed_12 ?_
        have hby := byt_in x (((k : Int))).toNat
        refine f_sshrb X (by omega) dX0_feed_13 q189 dX0_feed_14 dX0_feed_17 ?_
        refine lv_lconst (v := lI (0)) X.1 X.2.1 dX0_feed_18 rfl ?_
        refine i_lcmp_eq X 29 dX0_feed_19 dX0_feed_20 (by decide) (by omega) (by omega) (fun c19 => ?_) (fun c19 => ?_)
        · have hnc : k = cB x 8 := by
            rw [← hc]
            by_cases h8 : k = 8
            · rw [h8]; rfl
            · rw [show 8 - k = (8 - (k + 1)) + 1 by omega]
              show _ = if byt x (7 - (8 - (k + 1))) = 0 then 7 - (8 - (k + 1)) else cB x (8 - (k + 1))
              rw [show 7 - (8 - (k + 1)) = k by omega, if_pos (by have e : ((k : Int)).toNat = k := (by omega); first | (rw [e] at c19; exact c19) | omega)]
          have hc8 := cB_le x 8 (by decide)
          refine lv_aload_n X.1 X.2.1 dX0_feed_29 rfl (lv_at hl 0 rfl) ?_
          refine n_get (ci := 0) X in_X0 hW hG hO rfl 1 (by decide) q138 (fun _ h => h) rfl dX0_feed_30 ?_
          refine lv_iload_n X.1 X.2.1 dX0_feed_33 rfl (lv_at hl 2 rfl) ?_
          refine i_add X dX0_feed_34 ?_
          refine lv_sipush (v := iI (500)) X.1 X.2.1 dX0_feed_35 (by decide) ?_
          refine i_icmp_le X 44 dX0_feed_38 (by decide) (by omega) (by omega) (fun c38 => ?_) (fun c38 => ?_)
          · refine lv_iconst (v := iI (0)) X.1 X.2.1 dX0_feed_44 rfl ?_
            refine lv_istore (lv' := [(4, .int (iI (0))), (0, .ref x0), (1, .long (x)), (3, .int (iI ((k : Int))))]) X.1 X.2.1 dX0_feed_45 hl (by decide) rfl (fun ls hl => ?_)
            have L47 : ∀ (N47 : Nat) (g1 : gH) (q : Nat) (f : Int → Int), (q ≤ k) → (g1 x0 = some ((4, 0), .inr (0, [.ref (x0 + 1), .int (iI (S.1 1)), .int (iI (S.1 28)), rv, tv, .ref (x0 + 2), .int (iI (S.1 66)), .int (iI (S.1 53)), .ref (x0 + 3), .int (iI (S.1 40)), .int (iI (if S.1 78 = 0 then -9 else S.1 79)), .ref (x0 + 4), .ref (x0 + 5), .ref (x0 + 6), .ref (x0 + 7)]))) → (g1 (x0 + 1) = some (gBA G (4, 1) 500 f)) → (g1 (x0 + 3) = some (gRA G fr)) → (g1 (x0 + 4) = some (gIA G (4, 4) 500 f4)) → (g1 (x0 + 5) = some (gIA G (4, 5) 500 f5)) → (g1 (x0 + 6) = some (gLA G (4, 6) 500 f6)) → (g1 (x0 + 7) = some (gIA G (4, 7) 500 f7)) → (gFrm (gXP x0) h g1) → (∀ j, f j = if S.1 1 ≤ j ∧ j < S.1 1 + q then sB (byt x (j - S.1 1).toNat) else S.2 0 j) → k - q < N47 → ∀ (H : Heap) (locs : List Loc) (ls : Array Slot), gOn G.1 A g1 n H → va_S A s.heap H locs → lv_has ls 5 [(0, .ref x0), (1, .long (x)), (3, .int (iI ((k : Int)))), (4, .int (iI ((q : Int))))] → W p l e (gR lv 0 0) s m args below meth c H locs 0 0 Q (F0 m 47 ls []) := by
              intro N47
              induction N47 with
              | zero => intro g1 q f hq hO1 h1t1 h31 h41 h51 h61 h71 hF hf hN; exact absurd hN (Nat.not_lt_zero _)
              | succ N47 ih47 =>
                intro g1 q f hq hO1 h1t1 h31 h41 h51 h61 h71 hF hf hN47 H locs ls hG hS hl
                refine lv_iload X.1 X.2.1 dX0_feed_47 (lv_at hl 3 rfl) ?_
                refine lv_iload_n X.1 X.2.1 dX0_feed_49 rfl (lv_at hl 2 rfl) ?_
                refine i_icmp_ge X 80 dX0_feed_50 (by decide) (by omega) (by omega) (fun c50 => ?_) (fun c50 => ?_)
                · refine lv_aload_n X.1 X.2.1 dX0_feed_80 rfl (lv_at hl 0 rfl) ?_
                  refine lv_dup X.1 X.2.1 dX0_feed_81 rfl ?_
                  refine n_get (ci := 0) X in_X0 hW hG hO1 rfl 1 (by decide) q138 (fun _ h => h) rfl dX0_feed_82 ?_
                  refine lv_iload_n X.1 X.2.1 dX0_feed_85 rfl (lv_at hl 2 rfl) ?_
                  refine i_add X dX0_feed_86 ?_
                  refine n_put (ci := 0) X in_X0 tyX0 tyX0_ok nmX0 hW hG hS hO1 rfl 1 (by decide) q138 (fun _ h => h) rfl rfl rfl (Nat.le_of_ble_eq_true rfl) (fs' := [.ref (x0 + 1), .int (iI ((S.1 1) + ((k : Int)))), .int (iI (S.1 28)), rv, tv, .ref (x0 + 2), .int (iI (S.1 66)), .int (iI (S.1 53)), .ref (x0 + 3), .int (iI (S.1 40)), .int (iI (if S.1 78 = 0 then -9 else S.1 79)), .ref (x0 + 4), .ref (x0 + 5), .ref (x0 + 6), .ref (x0 + 7)]) rfl dX0_feed_87 (fun H locs hG hS => ?_)
                  obtain ⟨h3, eh3⟩ : ∃ hz, hz = va_up g1 x0 (some ((4, 0), .inr (0, [.ref (x0 + 1), .int (iI ((S.1 1) + ((k : Int)))), .int (iI (S.1 28)), rv, tv, .ref (x0 + 2), .int (iI (S.1 66)), .int (iI (S.1 53)), .ref (x0 + 3), .int (iI (S.1 40)), .int (iI (if S.1 78 = 0 then -9 else S.1 79)), .ref (x0 + 4), .ref (x0 + 5), .ref (x0 + 6), .ref (x0 + 7)]))) := ⟨_, rfl⟩
                  rw [← eh3] at hG
                  have f3_x01 : h3 (x0 + 1) = some (gBA G (4, 1) 500 f) := by rw [eh3, up_n (by omega)]; exact h1t1
                  have f3_x04 : h3 (x0 + 4) = some (gIA G (4, 4) 500 f4) := by rw [eh3, up_n (by omega)]; exact h41
                  have f3_x05 : h3 (x0 + 5) = some (gIA G (4, 5) 500 f5) := by rw [eh3, up_n (by omega)]; exact h51
                  have f3_x06 : h3 (x0 + 6) = some (gLA G (4, 6) 500 f6) := by rw [eh3, up_n (by omega)]; exact h61
                  have f3_x07 : h3 (x0 + 7) = some (gIA G (4, 7) 500 f7) := by rw [eh3, up_n (by omega)]; exact h71
                  have f3_x03 : h3 (x0 + 3) = some (gRA G fr) := by rw [eh3, up_n (by omega)]; exact h31
                  have f3_x0 : h3 x0 = some ((4, 0), .inr (0, [.ref (x0 + 1), .int (iI ((S.1 1) + ((k : Int)))), .int (iI (S.1 28)), rv, tv, .ref (x0 + 2), .int (iI (S.1 66)), .int (iI (S.1 53)), .ref (x0 + 3), .int (iI (S.1 40)), .int (iI (if S.1 78 = 0 then -9 else S.1 79)), .ref (x0 + 4), .ref (x0 + 5), .ref (x0 + 6), .ref (x0 + 7)])) := by rw [eh3]; exact up_s _ _ _
                  have hF_h3 : gFrm (gXP x0) h h3 := by rw [eh3]; exact hF.upO hO1 ⟨by omega, by omega, by omega⟩ _
                  refine lv_aload_n X.1 X.2.1 dX0_feed_90 rfl (lv_at hl 0 rfl) ?_
                  refine n_get (ci := 0) X in_X0 hW hG f3_x0 rfl 1 (by decide) q138 (fun _ h => h) rfl dX0_feed_91 ?_
                  refine ret _ _ _ _ _ _ _ _ _ ?_ (rfl) (by show 0 ≤ 0; omega) (by show 0 ≤ 0; omega) hG hS dX0_feed_94
                  rw [← hnc]
                  refine ⟨by rw [if_neg (by omega)], rfl, Or.inr ⟨by omega, f, ⟨f3_x0, f3_x01, f3_x03, f3_x04, f3_x05, f3_x06, f3_x07⟩, hF_h3, ?_⟩⟩
                  intro j
                  rw [hf j, show (q : Int) = (k : Int) by omega]
                · refine lv_aload_n X.1 X.2.1 dX0_feed_53 rfl (lv_at hl 0 rfl) ?_
                  refine n_get (ci := 0) X in_X0 hW hG hO1 rfl 0 (by decide) q137 (fun _ h => h) rfl dX0_feed_54 ?_
                  refine lv_aload_n X.1 X.2.1 dX0_feed_57 rfl (lv_at hl 0 rfl) ?_
                  refine n_get (ci := 0) X in_X0 hW hG hO1 rfl 1 (by decide) q138 (fun _ h => h) rfl dX0_feed_58 ?_
                  refine lv_iload X.1 X.2.1 dX0_feed_61 (lv_at hl 3 rfl) ?_
                  refine i_add X dX0_feed_63 ?_
                  refine lv_lload_n X.1 X.2.1 dX0_feed_64 rfl (lv_at hl 1 rfl) ?_
                  refine lv_bipush (v := iI (8)) X.1 X.2.1 dX0_feed_65 (by decide) ?_
                  refine lv_iload X.1 X.2.1 dX0_feed_67 (lv_at hl 3 rfl) ?_
                  refine i_mul X dX0_feed_69 ?_
                  have hby := sB_in (byt_in x (((q : Int))).toNat)
                  refine f_sshrs X (by omega) dX0_feed_70 dX0_feed_71 dX0_feed_72 ?_
                  refine n_bas X hW hG hS h1t1 (by omega) (by decide) (by omega) dX0_feed_73 (fun H locs hG hS => ?_)
                  obtain ⟨h4, eh4⟩ : ∃ hz, hz = va_up g1 (x0 + 1) (some (gBA G (4, 1) 500 (upI f ((S.1 1) + ((q : Int))) (sB (byt x (((q : Int))).toNat))))) := ⟨_, rfl⟩
                  rw [← eh4] at hG
                  have f4_x0 : h4 x0 = some ((4, 0), .inr (0, [.ref (x0 + 1), .int (iI (S.1 1)), .int (iI (S.1 28)), rv, tv, .ref (x0 + 2), .int (iI (S.1 66)), .int (iI (S.1 53)), .ref (x0 + 3), .int (iI (S.1 40)), .int (iI (if S.1 78 = 0 then -9 else S.1 79)), .ref (x0 + 4), .ref (x0 + 5), .ref (x0 + 6), .ref (x0 + 7)])) := by rw [eh4, up_n (by omega)]; exact hO1
                  have f4_x04 : h4 (x0 + 4) = some (gIA G (4, 4) 500 f4) := by rw [eh4, up_n (by omega)]; exact h41
                  have f4_x05 : h4 (x0 + 5) = some (gIA G (4, 5) 500 f5) := by rw [eh4, up_n (by omega)]; exact h51
                  have f4_x06 : h4 (x0 + 6) = some (gLA G (4, 6) 500 f6) := by rw [eh4, up_n (by omega)]; exact h61
                  have f4_x07 : h4 (x0 + 7) = some (gIA G (4, 7) 500 f7) := by rw [eh4, up_n (by omega)]; exact h71
                  have f4_x03 : h4 (x0 + 3) = some (gRA G fr) := by rw [eh4, up_n (by omega)]; exact h31
                  have f4_x01 : h4 (x0 + 1) = some (gBA G (4, 1) 500 (upI f ((S.1 1) + ((q : Int))) (sB (byt x (((q : Int))).toNat)))) := by rw [eh4]; exact up_s _ _ _
                  have hF_h4 : gFrm (gXP x0) h h4 := by rw [eh4]; exact hF.upA h1t1 ⟨by omega, by omega, by omega⟩ _
                  refine i_inc (lv' := [(4, .int (iI ((q : Int) + 1))), (0, .ref x0), (1, .long (x)), (3, .int (iI ((k : Int))))]) X dX0_feed_74 hl (k := 3) rfl (by decide) rfl (fun ls hl => ?_)
                  refine lv_goto (tgt := 47) X.1 X.2.1 dX0_feed_77 (by decide) ?_
                  have hf2 : ∀ j, upI f (S.1 1 + (q : Int)) (sB (byt x ((q : Int)).toNat)) j = if S.1 1 ≤ j ∧ j < S.1 1 + ((q + 1 : Nat) : Int) then sB (byt x (j - S.1 1).toNat) else S.2 0 j := by
                    intro j
                    by_cases hj : j = S.1 1 + q
                    · rw [hj, upI_s, if_pos (by omega), show (S.1 1 + (q : Int) - S.1 1).toNat = ((q : Int)).toNat by omega]
                    · rw [upI_n hj, hf j]
                      by_cases h2 : S.1 1 ≤ j ∧ j < S.1 1 + q
                      · rw [if_pos h2, if_pos (by omega)]
                      · rw [if_neg h2, if_neg (by omega)]
                  exact ih47 h4 (q + 1) (upI f ((S.1 1) + ((q : Int))) (sB (byt x (((q : Int))).toNat))) (by omega) f4_x0 f4_x01 f4_x03 f4_x04 f4_x05 f4_x06 f4_x07 hF_h4 hf2 (by omega) H locs ls hG hS (lv_sub hl [1, 2, 3, 0] rfl)
            exact L47 _ h 0 (S.2 0) (by omega) hO h1t h3 h4 h5 h6 h7 (gFrm.refl _ _) (by intro j; rw [if_neg (by omega)]) (Nat.lt_succ_self _) H locs ls hG hS (lv_sub hl [1, 2, 3, 0] rfl)
          · refine lv_bipush (v := iI (-4)) X.1 X.2.1 dX0_feed_41 (by decide) ?_
            refine ret _ _ _ _ _ _ _ _ _ ?_ (rfl) (by show 0 ≤ 0; omega) (by show 0 ≤ 0; omega) hG hS dX0_feed_43
            exact ⟨by rw [if_pos (by omega)], rfl, Or.inl ⟨by omega, rfl⟩⟩
        · have hc2 : cB x (8 - (k + 1)) = cB x 8 := by
            rw [← hc, show 8 - k = (8 - (k + 1)) + 1 by omega]
            show _ = if byt x (7 - (8 - (k + 1))) = 0 then 7 - (8 - (k + 1)) else cB x (8 - (k + 1))
            rw [show 7 - (8 - (k + 1)) = k by omega, if_neg (by have e : ((k : Int)).toNat = k := (by omega); rw [e] at c19; exact c19)]
          refine i_inc (lv' := [(3, .int (iI ((k : Int) + 1))), (0, .ref x0), (1, .long (x))]) X dX0_feed_23 hl (k := 2) rfl (by decide) rfl (fun ls hl => ?_)
          refine lv_goto (tgt := 2) X.1 X.2.1 dX0_feed_26 (by decide) ?_
          exact ih2 (k + 1) (by omega) hc2 (by omega) H locs ls hG hS (lv_sub hl [1, 2, 0] rfl)
  exact L2 _ 0 (by omega) rfl (Nat.lt_succ_self _) H locs ls hG hS (lv_sub hl [1, 2, 0] rfl)

