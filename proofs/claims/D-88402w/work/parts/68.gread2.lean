/-! ===== further questions of the Glass ===== -/
set_option maxRecDepth 100000
set_option maxHeartbeats 4000000 in
theorem gx_fault (l : Launch) (G : gEnv) (A : Nat → Prop) (lv : Nat) (h : gH) (n : Nat) (x0 : Nat) (S : MSt) (rv tv : Value) (hO0 : GOB h x0 S rv tv) : gC l yX0_fault cX0_fault 1 (some .int) G A lv 0 0 [.ref x0] h n (gPure (some (.int (iI (S.1 28)))) h n) := by
  refine gC_ofI RX0 (by decide +kernel) rfl (Nat.le_of_ble_eq_true rfl) ?_
  intro p e s m args below meth c Q X hW ret H locs ls hG hS hl
  have hl : lv_has ls 1 [(0, .ref x0)] := hl
  have hO := hO0
  unfold GOB gOv at hO
  
  refine lv_aload_n X.1 X.2.1 dX0_fault_0 rfl (lv_at hl 0 rfl) ?_
  refine n_get (ci := 0) X in_X0 hW hG hO rfl 2 (by decide) q139 (fun _ h => h) rfl dX0_fault_1 ?_
  refine ret _ _ _ _ _ _ _ _ _ ?_ (rfl) (by show 0 ≤ 0; omega) (by show 0 ≤ 0; omega) hG hS dX0_fault_4
  exact ⟨rfl, rfl, rfl⟩

set_option maxHeartbeats 4000000 in
theorem gx_cut (l : Launch) (G : gEnv) (A : Nat → Prop) (lv : Nat) (h : gH) (n : Nat) (x0 : Nat) (S : MSt) (rv tv : Value) (hO0 : GOB h x0 S rv tv) : gC l yX0_cut cX0_cut 2 (some .int) G A lv 0 0 [.ref x0] h n (fun v h' n' => v = some (.int (iI (S.1 1))) ∧ n' = n ∧ h' = va_up h x0 (some ((4, 0), .inr (0, gOv x0 (mP S [] [(1, 0)]) rv tv)))) := by
  refine gC_ofI RX0 (by decide +kernel) rfl (Nat.le_of_ble_eq_true rfl) ?_
  intro p e s m args below meth c Q X hW ret H locs ls hG hS hl
  have hl : lv_has ls 2 [(0, .ref x0)] := hl
  have hO := hO0
  unfold GOB gOv at hO
  
  refine lv_aload_n X.1 X.2.1 dX0_cut_0 rfl (lv_at hl 0 rfl) ?_
  refine n_get (ci := 0) X in_X0 hW hG hO rfl 1 (by decide) q138 (fun _ h => h) rfl dX0_cut_1 ?_
  refine lv_istore_n (lv' := [(1, .int (iI (S.1 1))), (0, .ref x0)]) X.1 X.2.1 dX0_cut_4 rfl hl (by decide) rfl (fun ls hl => ?_)
  refine lv_aload_n X.1 X.2.1 dX0_cut_5 rfl (lv_at hl 1 rfl) ?_
  refine lv_iconst (v := iI (0)) X.1 X.2.1 dX0_cut_6 rfl ?_
  refine n_put (ci := 0) X in_X0 tyX0 tyX0_ok nmX0 hW hG hS hO rfl 1 (by decide) q138 (fun _ h => h) rfl rfl rfl (Nat.le_of_ble_eq_true rfl) (fs' := [.ref (x0 + 1), .int (iI (0)), .int (iI (S.1 28)), rv, tv, .ref (x0 + 2), .int (iI (S.1 66)), .int (iI (S.1 53)), .ref (x0 + 3), .int (iI (S.1 40)), .int (iI (if S.1 78 = 0 then -9 else S.1 79)), .ref (x0 + 4), .ref (x0 + 5), .ref (x0 + 6), .ref (x0 + 7)]) rfl dX0_cut_7 (fun H locs hG hS => ?_)
  obtain ⟨h1, eh1⟩ : ∃ hz, hz = va_up h x0 (some ((4, 0), .inr (0, [.ref (x0 + 1), .int (iI (0)), .int (iI (S.1 28)), rv, tv, .ref (x0 + 2), .int (iI (S.1 66)), .int (iI (S.1 53)), .ref (x0 + 3), .int (iI (S.1 40)), .int (iI (if S.1 78 = 0 then -9 else S.1 79)), .ref (x0 + 4), .ref (x0 + 5), .ref (x0 + 6), .ref (x0 + 7)]))) := ⟨_, rfl⟩
  rw [← eh1] at hG
  have f1_x0 : h1 x0 = some ((4, 0), .inr (0, [.ref (x0 + 1), .int (iI (0)), .int (iI (S.1 28)), rv, tv, .ref (x0 + 2), .int (iI (S.1 66)), .int (iI (S.1 53)), .ref (x0 + 3), .int (iI (S.1 40)), .int (iI (if S.1 78 = 0 then -9 else S.1 79)), .ref (x0 + 4), .ref (x0 + 5), .ref (x0 + 6), .ref (x0 + 7)])) := by rw [eh1]; exact up_s _ _ _
  refine lv_iload_n X.1 X.2.1 dX0_cut_10 rfl (lv_at hl 0 rfl) ?_
  refine ret _ _ _ _ _ _ _ _ _ ?_ (rfl) (by show 0 ≤ 0; omega) (by show 0 ≤ 0; omega) hG hS dX0_cut_11
  exact ⟨rfl, rfl, by rw [eh1]; rfl⟩

set_option maxHeartbeats 4000000 in
theorem gg_sizeOf (l : Launch) (G : gEnv) (A : Nat → Prop) (lv : Nat) (h : gH) (n : Nat) (S : MSt) (ad : Int → Nat) (i : Int) (hlv : 2 ≤ lv) (hV : LV G h S ad) (h0 : 0 ≤ i) (hn : i < S.1 40) : gC l yX0_sizeOf cX0_sizeOf 1 (some .int) G A lv 0 0 [.ref (ad i)] h n (gPure (some (.int (iI (if S.2 41 i = 0 then S.2 42 i else if 2 ≤ S.2 41 i then S.2 47 i else 0)))) h n) := by
  refine gC_ofI RX0 (by decide +kernel) rfl (Nat.le_of_ble_eq_true rfl) ?_
  intro p e s m args below meth c Q X hW ret H locs ls hG hS hl
  have hl : lv_has ls 1 [(0, .ref (ad i))] := hl
  have hI := hV.it h0 hn
  have hwi := hV.1.1.w h0 hn
  refine lv_aload_n X.1 X.2.1 dX0_sizeOf_0 rfl (lv_at hl 0 rfl) ?_
  refine g_callX (rest := []) (k := 0) X hW hG hS (vi_kind l G A (lv - 1) h n (rwS S) ad (1, 0) (inS S ad i) i i hI (hV.1.1.w h0 hn).1) q799 q801 (gDecl_abs hW q800) (by decide +kernel) rfl ⟨by show (lv - 1) + 1 ≤ lv; omega, by show 40 + 40 * (lv - 1) ≤ 40 * lv; omega⟩ ⟨by show 0 + 0 ≤ 0; first | omega | (split <;> omega), by show 0 + 0 ≤ 0; first | omega | (split <;> omega)⟩ hl.1 rfl (Nat.le_of_ble_eq_true rfl) dX0_sizeOf_1 (g_pk (fun H locs hG hS => ?_))
  show W p l e (gR lv 0 0) s m args below meth c H locs 0 0 Q (F0 m 4 ls [.int (iI (S.2 41 i))])
  refine i_if_ne X 14 dX0_sizeOf_4 (by decide) (by first | omega | (split <;> omega)) (fun c4 => ?_) (fun c4 => ?_)
  · refine lv_aload_n X.1 X.2.1 dX0_sizeOf_14 rfl (lv_at hl 0 rfl) ?_
    refine g_callX (rest := []) (k := 0) X hW hG hS (vi_size l G A (lv - 1) h n (rwS S) ad (1, 0) (inS S ad i) i i (by omega) hI (hV.1.1.w h0 hn).1 (hV.1.1.p h0 hn).1) q811 q813 (gDecl_code X q812 q819) (by decide +kernel) rfl ⟨by show (lv - 1) + 1 ≤ lv; omega, by show 40 + 40 * (lv - 1) ≤ 40 * lv; omega⟩ ⟨by show 0 + 0 ≤ 0; first | omega | (split <;> omega), by show 0 + 0 ≤ 0; first | omega | (split <;> omega)⟩ hl.1 rfl (Nat.le_of_ble_eq_true rfl) dX0_sizeOf_15 (g_pk (fun H locs hG hS => ?_))
    show W p l e (gR lv 0 0) s m args below meth c H locs 0 0 Q (F0 m 18 ls [.int (iI (if 2 ≤ S.2 41 i then S.2 47 i else 0))])
    refine ret _ _ _ _ _ _ _ _ _ ?_ (rfl) (by show 0 ≤ 0; first | omega | (split <;> omega)) (by show 0 ≤ 0; first | omega | (split <;> omega)) hG hS dX0_sizeOf_18
    exact ⟨by first | (rw [if_pos c4, if_pos c4]; done) | (rw [if_neg c4]), rfl, rfl⟩
  · refine lv_aload_n X.1 X.2.1 dX0_sizeOf_7 rfl (lv_at hl 0 rfl) ?_
    refine g_callX (rest := []) (k := 0) X hW hG hS (vi_value l G A (lv - 1) h n (rwS S) ad (1, 0) (inS S ad i) i i hI (hV.1.1.w h0 hn).1) q820 q822 (gDecl_code X q821 q828) (by decide +kernel) rfl ⟨by show (lv - 1) + 1 ≤ lv; omega, by show 40 + 40 * (lv - 1) ≤ 40 * lv; omega⟩ ⟨by show 0 + 0 ≤ 0; first | omega | (split <;> omega), by show 0 + 0 ≤ 0; first | omega | (split <;> omega)⟩ hl.1 rfl (Nat.le_of_ble_eq_true rfl) dX0_sizeOf_8 (g_pk (fun H locs hG hS => ?_))
    show W p l e (gR lv 0 0) s m args below meth c H locs 0 0 Q (F0 m 11 ls [.int (iI (if S.2 41 i = 0 then S.2 42 i else 0))])
    refine lv_goto (tgt := 18) X.1 X.2.1 dX0_sizeOf_11 (by decide) ?_
    refine ret _ _ _ _ _ _ _ _ _ ?_ (rfl) (by show 0 ≤ 0; first | omega | (split <;> omega)) (by show 0 ≤ 0; first | omega | (split <;> omega)) hG hS dX0_sizeOf_18
    exact ⟨by first | (rw [if_pos c4, if_pos c4]; done) | (rw [if_neg c4]), rfl, rfl⟩

set_option maxHeartbeats 4000000 in
theorem gg_lettersOf (l : Launch) (G : gEnv) (A : Nat → Prop) (lv : Nat) (h : gH) (n : Nat) (S : MSt) (ad : Int → Nat) (i : Int) (hV : LV G h S ad) (h0 : 0 ≤ i) (hn : i < S.1 40) : gC l yX0_lettersOf cX0_lettersOf 1 (some .long) G A lv 0 0 [.ref (ad i)] h n (gPure (some (.long (lI (if S.2 41 i = 1 then gLt (S.2 42 i) else 0)))) h n) := by
  refine gC_ofL RX0 (by decide +kernel) rfl (Nat.le_of_ble_eq_true rfl) ?_
  intro p e s m args below meth c Q X hW ret H locs ls hG hS hl
  have hl : lv_has ls 1 [(0, .ref (ad i))] := hl
  have hI := hV.it h0 hn
  have hwi := hV.1.1.w h0 hn
  refine lv_aload_n X.1 X.2.1 dX0_lettersOf_0 rfl (lv_at hl 0 rfl) ?_
  refine it_instN X hW hG hI.1 (hwi.1) q866 dX0_lettersOf_1 ?_
  show W p l e (gR lv 0 0) s m args below meth c H locs 0 0 Q (F0 m 4 ls [.int (iI (bI (decide (S.2 41 i = 1))))])
  refine i_if_eq X 17 dX0_lettersOf_4 (by decide) (bI_iR _) (fun c4 => ?_) (fun c4 => ?_)
  · have c4 := bI_eq0.mp c4
    refine lv_lconst (v := lI (0)) X.1 X.2.1 dX0_lettersOf_17 rfl ?_
    refine ret _ _ _ _ _ _ _ _ _ ?_ (by show 0 ≤ 0; first | omega | exact bI_iR _) (by show 0 ≤ 0; first | omega | exact bI_iR _) hG hS dX0_lettersOf_18
    exact ⟨by first | (rw [if_pos c4]; done) | (rw [if_neg (of_decide_eq_false c4)]), rfl, rfl⟩
  · have c4 := bI_ne0.mp c4
    have c4 : S.2 41 i = 1 := of_decide_eq_true c4
    have hN1 := hV.nam h0 hn c4
    refine lv_aload_n X.1 X.2.1 dX0_lettersOf_7 rfl (lv_at hl 0 rfl) ?_
    refine n_cast (ci := 12) X hW hG hN1 rfl q866 (Or.inr rfl) dX0_lettersOf_8 ?_
    refine n_getN (ci := 12) X in_X14 hW hG hN1 rfl 4 (by decide) q673 (fun _ h => h) rfl dX0_lettersOf_11 ?_
    refine lv_goto (tgt := 18) X.1 X.2.1 dX0_lettersOf_14 (by decide) ?_
    refine ret _ _ _ _ _ _ _ _ _ ?_ (by show 0 ≤ 0; first | omega | exact bI_iR _) (by show 0 ≤ 0; first | omega | exact bI_iR _) hG hS dX0_lettersOf_18
    exact ⟨by first | (rw [if_pos c4]; done) | (rw [if_neg (of_decide_eq_false c4)]), rfl, rfl⟩

set_option maxHeartbeats 4000000 in
theorem gx_came (l : Launch) (G : gEnv) (A : Nat → Prop) (lv : Nat) (h : gH) (n : Nat) (x0 : Nat) (S : MSt) (ad : Int → Nat) (rl : Nat) (ru : Nat → Nat) (ap : Int → Nat) (i : Int) (hlv : 1 ≤ lv) (hX : GX G h x0 S ad rl ru ap) (hi : iR i) : gC l yX0_came cX0_came 4 (some .int) G A lv 0 0 [.ref x0, .int (iI (i))] h n (gPure (some (.int (iI (if 0 ≤ i ∧ i < 500 then cntB (fun k => decide (S.2 44 k = i)) (S.1 40).toNat else -2)))) h n) := by
  refine gC_ofI RX0 (by decide +kernel) rfl (Nat.le_of_ble_eq_true rfl) ?_
  intro p e s m args below meth c Q X hW ret H locs ls hG hS hl
  have hl : lv_has ls 4 [(0, .ref x0), (1, .int (iI (i)))] := hl
  obtain ⟨hO0, hRo, hV, hR⟩ := hX
  have hO := hO0
  unfold GOB gOv at hO
  have hT := hV.1.1
  have hnn := hV.1.n
  
  refine lv_aload_n X.1 X.2.1 dX0_came_0 rfl (lv_at hl 0 rfl) ?_
  refine n_get (ci := 0) X in_X0 hW hG hO rfl 4 (by decide) q141 (fun _ h => h) rfl dX0_came_1 ?_
  refine lv_ifnonnull (tgt := 10) X.1 X.2.1 dX0_came_4 (by decide) ?_
  refine lv_iload_n X.1 X.2.1 dX0_came_10 rfl (lv_at hl 1 rfl) ?_
  refine i_i2l X (by first | omega | exact bI_iR _) dX0_came_11 ?_
  refine lv_lconst (v := lI (0)) X.1 X.2.1 dX0_came_12 rfl ?_
  refine lv_ldc2 (v := lI (499)) X.1 X.2.1 X.2.2.2.1 (X.2.2.2.2 _ q1148) dX0_came_13 ?_
  refine g_callS (rest := []) (k := 3) X hW hG hS (gg_in l G A (lv - 1) h n i 0 499 (by omega) (by omega) (by omega)) (lw_S q798 q248 q66 q249) (by decide +kernel) rfl ⟨by show (lv - 1) + 1 ≤ lv; omega, by show 8 + (6 + 11) + 40 * (lv - 1) ≤ 40 * lv; omega⟩ ⟨by show 0 + 0 ≤ 0; first | omega | exact bI_iR _, by show 0 + 0 ≤ 0; first | omega | exact bI_iR _⟩ hl.1 rfl (Nat.le_of_ble_eq_true rfl) dX0_came_16 (g_pk (fun H locs hG hS => ?_))
  show W p l e (gR lv 0 0) s m args below meth c H locs 0 0 Q (F0 m 19 ls [.int (iI (bI (decide (0 ≤ i) && decide (i ≤ 499))))])
  refine i_if_ne X 25 dX0_came_19 (by decide) (bI_iR _) (fun c19 => ?_) (fun c19 => ?_)
  · have c19 := bI_ne0.mp c19
    have c19 : 0 ≤ i ∧ i ≤ 499 := by simpa using c19
    refine lv_iconst (v := iI (0)) X.1 X.2.1 dX0_came_25 rfl ?_
    refine lv_istore_n (lv' := [(2, .int (iI (0))), (0, .ref x0), (1, .int (iI (i)))]) X.1 X.2.1 dX0_came_26 rfl hl (by decide) rfl (fun ls hl => ?_)
    refine lv_iconst (v := iI (0)) X.1 X.2.1 dX0_came_27 rfl ?_
    refine lv_istore_n (lv' := [(3, .int (iI (0))), (2, .int (iI (0))), (0, .ref x0), (1, .int (iI (i)))]) X.1 X.2.1 dX0_came_28 rfl hl (by decide) rfl (fun ls hl => ?_)
    have L29 : ∀ (N29 : Nat) (m0 : Int) (k : Nat), ((k : Int) ≤ S.1 40) → (m0 = cntB (fun k => decide (S.2 44 k = i)) k) → (S.1 40).toNat - k < N29 → ∀ (H : Heap) (locs : List Loc) (ls : Array Slot), gOn G.1 A h n H → va_S A s.heap H locs → lv_has ls 4 [(0, .ref x0), (1, .int (iI (i))), (2, .int (iI (m0))), (3, .int (iI ((k : Int))))] → W p l e (gR lv 0 0) s m args below meth c H locs 0 0 Q (F0 m 29 ls []) := by
      intro N29
      induction N29 with
      | zero => intro m0 k hk hm hN; exact absurd hN (Nat.not_lt_zero _)
      | succ N29 ih29 =>
        intro m0 k hk hm hN29 H locs ls hG hS hl
        refine lv_iload_n X.1 X.2.1 dX0_came_29 rfl (lv_at hl 3 rfl) ?_
        refine lv_aload_n X.1 X.2.1 dX0_came_30 rfl (lv_at hl 0 rfl) ?_
        refine n_get (ci := 0) X in_X0 hW hG hO rfl 9 (by decide) q146 (fun _ h => h) rfl dX0_came_31 ?_
        refine i_icmp_ge X 64 dX0_came_34 (by decide) (by first | omega | exact bI_iR _) (by first | omega | exact bI_iR _) (fun c34 => ?_) (fun c34 => ?_)
        · refine lv_iload_n X.1 X.2.1 dX0_came_64 rfl (lv_at hl 2 rfl) ?_
          refine ret _ _ _ _ _ _ _ _ _ ?_ (rfl) (by show 0 ≤ 0; first | omega | exact bI_iR _) (by show 0 ≤ 0; first | omega | exact bI_iR _) hG hS dX0_came_65
          exact ⟨by rw [if_pos (by omega), hm, show k = (S.1 40).toNat by omega], rfl, rfl⟩
        · have hpk := (hV.1.2.2 (k : Int) (by omega) (by omega)).2.2.1
          have hcb := cntB_in (fun k => decide (S.2 44 k = i)) k
          refine lv_iload_n X.1 X.2.1 dX0_came_37 rfl (lv_at hl 2 rfl) ?_
          refine lv_aload_n X.1 X.2.1 dX0_came_38 rfl (lv_at hl 0 rfl) ?_
          refine n_get (ci := 0) X in_X0 hW hG hO rfl 8 (by decide) q145 (fun _ h => h) rfl dX0_came_39 ?_
          refine lv_iload_n X.1 X.2.1 dX0_came_42 rfl (lv_at hl 3 rfl) ?_
          refine n_row X hW hG hRo (i := (k : Int)) (by omega) (by omega) (by omega) dX0_came_43 ?_
          have hI_43 := hV.it (i := (k : Int)) (by omega) (by omega)
          refine it_place X hW hG hI_43.1 q605 dX0_came_44 ?_
          show W p l e (gR lv 0 0) s m args below meth c H locs 0 0 Q (F0 m 47 ls [.int (iI (S.2 44 ((k : Int)))), .int (iI (m0))])
          refine lv_iload_n X.1 X.2.1 dX0_came_47 rfl (lv_at hl 1 rfl) ?_
          refine i_icmp_ne X 55 dX0_came_48 (by decide) (by first | omega | exact bI_iR _) (by first | omega | exact bI_iR _) (fun c48 => ?_) (fun c48 => ?_)
          · refine lv_iconst (v := iI (0)) X.1 X.2.1 dX0_came_55 rfl ?_
            refine i_add X dX0_came_56 ?_
            refine lv_istore_n (lv' := [(2, .int (iI (m0 + 0))), (0, .ref x0), (1, .int (iI (i))), (3, .int (iI ((k : Int))))]) X.1 X.2.1 dX0_came_57 rfl hl (by decide) rfl (fun ls hl => ?_)
            refine i_inc (lv' := [(3, .int (iI ((k : Int) + 1))), (2, .int (iI (m0 + 0))), (0, .ref x0), (1, .int (iI (i)))]) X dX0_came_58 hl (k := 3) rfl (by decide) rfl (fun ls hl => ?_)
            refine lv_goto (tgt := 29) X.1 X.2.1 dX0_came_61 (by decide) ?_
            exact ih29 (m0 + 0) (k + 1) (by omega) (by rw [show cntB (fun k => decide (S.2 44 k = i)) (k + 1) = cntB (fun k => decide (S.2 44 k = i)) k + bI (decide (S.2 44 k = i)) from rfl, ← hm]; first | (rw [decide_eq_true c48]; rfl) | (rw [decide_eq_false c48]; rfl)) (by omega) H locs ls hG hS (lv_sub hl [2, 3, 1, 0] rfl)
          · refine lv_iconst (v := iI (1)) X.1 X.2.1 dX0_came_51 rfl ?_
            refine lv_goto (tgt := 56) X.1 X.2.1 dX0_came_52 (by decide) ?_
            refine i_add X dX0_came_56 ?_
            refine lv_istore_n (lv' := [(2, .int (iI (m0 + 1))), (0, .ref x0), (1, .int (iI (i))), (3, .int (iI ((k : Int))))]) X.1 X.2.1 dX0_came_57 rfl hl (by decide) rfl (fun ls hl => ?_)
            refine i_inc (lv' := [(3, .int (iI ((k : Int) + 1))), (2, .int (iI (m0 + 1))), (0, .ref x0), (1, .int (iI (i)))]) X dX0_came_58 hl (k := 3) rfl (by decide) rfl (fun ls hl => ?_)
            refine lv_goto (tgt := 29) X.1 X.2.1 dX0_came_61 (by decide) ?_
            exact ih29 (m0 + 1) (k + 1) (by omega) (by rw [show cntB (fun k => decide (S.2 44 k = i)) (k + 1) = cntB (fun k => decide (S.2 44 k = i)) k + bI (decide (S.2 44 k = i)) from rfl, ← hm]; first | (rw [decide_eq_true c48]; rfl) | (rw [decide_eq_false c48]; rfl)) (by omega) H locs ls hG hS (lv_sub hl [2, 3, 1, 0] rfl)
    exact L29 _ 0 0 (by omega) rfl (Nat.lt_succ_self _) H locs ls hG hS (lv_sub hl [2, 3, 1, 0] rfl)
  · have c19 := bI_eq0.mp c19
    refine lv_bipush (v := iI (-2)) X.1 X.2.1 dX0_came_22 (by decide) ?_
    refine ret _ _ _ _ _ _ _ _ _ ?_ (rfl) (by show 0 ≤ 0; first | omega | exact bI_iR _) (by show 0 ≤ 0; first | omega | exact bI_iR _) hG hS dX0_came_24
    exact ⟨by rw [if_neg (by intro z; simp at c19; omega)], rfl, rfl⟩

set_option maxHeartbeats 4000000 in
theorem gx_cameN (l : Launch) (G : gEnv) (A : Nat → Prop) (lv : Nat) (h : gH) (n : Nat) (x0 : Nat) (S : MSt) (rv : Value) (i : Int) (hO0 : GOB h x0 S rv .null) : gC l yX0_came cX0_came 4 (some .int) G A lv 0 0 [.ref x0, .int (iI (i))] h n (gPure (some (.int (iI (-3)))) h n) := by
  refine gC_ofI RX0 (by decide +kernel) rfl (Nat.le_of_ble_eq_true rfl) ?_
  intro p e s m args below meth c Q X hW ret H locs ls hG hS hl
  have hl : lv_has ls 4 [(0, .ref x0), (1, .int (iI (i)))] := hl
  have hO := hO0
  unfold GOB gOv at hO
  
  refine lv_aload_n X.1 X.2.1 dX0_came_0 rfl (lv_at hl 0 rfl) ?_
  refine n_get (ci := 0) X in_X0 hW hG hO rfl 4 (by decide) q141 (fun _ h => h) rfl dX0_came_1 ?_
  refine lv_ifnonnullN X.1 X.2.1 dX0_came_4 ?_
  refine lv_bipush (v := iI (-3)) X.1 X.2.1 dX0_came_7 (by decide) ?_
  refine ret _ _ _ _ _ _ _ _ _ ?_ (rfl) (by show 0 ≤ 0; omega) (by show 0 ≤ 0; omega) hG hS dX0_came_9
  exact ⟨rfl, rfl, rfl⟩

set_option maxHeartbeats 4000000 in
theorem gx_step (l : Launch) (G : gEnv) (A : Nat → Prop) (lv : Nat) (h : gH) (n : Nat) (x0 : Nat) (S : MSt) (rv : Value) (t0 : Nat) (qs : Nat) (sa cl hd md : Nat → Nat) (i a : Int) (hlv : 3 ≤ lv) (hO0 : GOB h x0 S rv (.ref t0)) (hP : STP G h x0 S qs sa cl hd md) (hi : iR i) (ha : iR a) : gC l yX0_step cX0_step 5 (some .int) G A lv 0 0 [.ref x0, .int (iI (i)), .int (iI (a))] h n (gPure (some (.int (iI (if 1 ≤ i ∧ i ≤ S.1 49 then (if a = 0 then S.2 50 i else if a = 1 then S.2 51 i else if a = 2 then S.2 52 i else -2) else -1)))) h n) := by
  refine gC_ofI RX0 (by decide +kernel) rfl (Nat.le_of_ble_eq_true rfl) ?_
  intro p e s m args below meth c Q X hW ret H locs ls hG hS hl
  have hl : lv_has ls 5 [(0, .ref x0), (1, .int (iI (i))), (2, .int (iI (a)))] := hl
  have hO := hO0
  unfold GOB gOv at hO
  obtain ⟨hSL, hs3, hSJ⟩ := hP
  obtain ⟨tgS, moS, dS, hLS, hSr⟩ := id hSL
  have hsl : ((((List.range (S.1 49).toNat).map sa).length : Nat) : Int) = S.1 49 := by simp; omega
  
  refine lv_aload_n X.1 X.2.1 dX0_step_0 rfl (lv_at hl 0 rfl) ?_
  refine n_get (ci := 0) X in_X0 hW hG hO rfl 4 (by decide) q141 (fun _ h => h) rfl dX0_step_1 ?_
  refine lv_ifnonnull (tgt := 10) X.1 X.2.1 dX0_step_4 (by decide) ?_
  refine lv_iload_n X.1 X.2.1 dX0_step_10 rfl (lv_at hl 1 rfl) ?_
  refine i_i2l X (by first | omega | exact bI_iR _) dX0_step_11 ?_
  refine lv_lconst (v := lI (1)) X.1 X.2.1 dX0_step_12 rfl ?_
  refine lv_aload_n X.1 X.2.1 dX0_step_13 rfl (lv_at hl 0 rfl) ?_
  refine n_get (ci := 0) X in_X0 hW hG hO rfl 5 (by decide) q142 (fun _ h => h) rfl dX0_step_14 ?_
  refine g_callV (ci := 17) (rest := [.long (lI (1)), .long (lI (i))]) (k := 0) X hW hG hS hLS rfl (al_size l G A (lv - 1) h n (x0 + 2) ((List.range (S.1 49).toNat).map sa) qs hSL) (lw_V q723 q323 q324 q69 q325) (by decide +kernel) rfl ⟨by show (lv - 1) + 1 ≤ lv; omega, by show 8 + (1 + 11) + 40 * (lv - 1) ≤ 40 * lv; omega⟩ ⟨by show 0 + 0 ≤ 0; first | omega | exact bI_iR _, by show 0 + 0 ≤ 0; first | omega | exact bI_iR _⟩ hl.1 rfl (Nat.le_of_ble_eq_true rfl) dX0_step_17 (g_pk (fun H locs hG hS => ?_))
  show W p l e (gR lv 0 0) s m args below meth c H locs 0 0 Q (F0 m 20 ls [.int (iI ((((List.range (S.1 49).toNat).map sa).length : Int))), .long (lI (1)), .long (lI (i))])
  refine i_i2l X (by first | omega | exact bI_iR _) dX0_step_20 ?_
  refine g_callS (rest := []) (k := 3) X hW hG hS (gg_in l G A (lv - 1) h n i 1 ((((List.range (S.1 49).toNat).map sa).length : Int)) (by omega) (by omega) (by omega)) (lw_S q798 q248 q66 q249) (by decide +kernel) rfl ⟨by show (lv - 1) + 1 ≤ lv; omega, by show 8 + (6 + 11) + 40 * (lv - 1) ≤ 40 * lv; omega⟩ ⟨by show 0 + 0 ≤ 0; first | omega | exact bI_iR _, by show 0 + 0 ≤ 0; first | omega | exact bI_iR _⟩ hl.1 rfl (Nat.le_of_ble_eq_true rfl) dX0_step_21 (g_pk (fun H locs hG hS => ?_))
  show W p l e (gR lv 0 0) s m args below meth c H locs 0 0 Q (F0 m 24 ls [.int (iI (bI (decide (1 ≤ i) && decide (i ≤ ((((List.range (S.1 49).toNat).map sa).length : Int))))))])
  refine i_if_ne X 29 dX0_step_24 (by decide) (bI_iR _) (fun c24 => ?_) (fun c24 => ?_)
  · have c24 := bI_ne0.mp c24
    have c24 : 1 ≤ i ∧ i ≤ S.1 49 := by have z := c24; simp only [hsl] at z; simpa using z
    obtain ⟨j9, hj9⟩ : ∃ j : Nat, i = (j : Int) + 1 := ⟨(i - 1).toNat, by omega⟩
    obtain ⟨hs1, ⟨tg2, w0, w1, w2, w3, w5, hs2⟩, ⟨xs9, q9, hA9⟩, ⟨tg4, u2, u3, u4, u5, hs4⟩, hs5⟩ := hSJ j9 (by omega)
    obtain ⟨tgc, moc, dc, hLc, hcr⟩ := id hA9
    refine lv_aload_n X.1 X.2.1 dX0_step_29 rfl (lv_at hl 0 rfl) ?_
    refine n_get (ci := 0) X in_X0 hW hG hO rfl 5 (by decide) q142 (fun _ h => h) rfl dX0_step_30 ?_
    refine lv_iload_n X.1 X.2.1 dX0_step_33 rfl (lv_at hl 1 rfl) ?_
    refine lv_iconst (v := iI (1)) X.1 X.2.1 dX0_step_34 rfl ?_
    refine i_sub X dX0_step_35 ?_
    refine g_callV (ci := 17) (rest := []) (k := 1) X hW hG hS hLS rfl (al_get l G A (lv - 1) h n (x0 + 2) ((List.range (S.1 49).toNat).map sa) qs (i - 1) (sa j9) (by omega) hSL (by omega) (by rw [show (i - 1).toNat = j9 by omega]; exact STP.get (by omega))) (lw_V q724 q691 q692 q69 q693) (by decide +kernel) rfl ⟨by show (lv - 1) + 1 ≤ lv; omega, by show 8 + (2 + 11) + 40 * (lv - 1) ≤ 40 * lv; omega⟩ ⟨by show 0 + 0 ≤ 0; first | omega | exact bI_iR _, by show 0 + 0 ≤ 0; first | omega | exact bI_iR _⟩ hl.1 rfl (Nat.le_of_ble_eq_true rfl) dX0_step_36 (g_pk (fun H locs hG hS => ?_))
    show W p l e (gR lv 0 0) s m args below meth c H locs 0 0 Q (F0 m 39 ls [.ref (sa j9)])
    refine n_cast (ci := 16) X hW hG hs1 rfl q1085 (Or.inr rfl) dX0_step_39 ?_
    refine lv_astore_n (lv' := [(3, .ref (sa j9)), (0, .ref x0), (1, .int (iI (i))), (2, .int (iI (a)))]) X.1 X.2.1 dX0_step_42 rfl hl (by decide) rfl (fun ls hl => ?_)
    refine lv_aload_n X.1 X.2.1 dX0_step_43 rfl (lv_at hl 0 rfl) ?_
    refine n_getN (ci := 16) X in_X18 hW hG hs1 rfl 1 (by decide) q1094 (fun _ h => h) rfl dX0_step_44 ?_
    refine n_getN (ci := 10) X in_X12 hW hG hs2 rfl 4 (by decide) q596 (fun _ h => h) rfl dX0_step_47 ?_
    refine lv_iconst (v := iI (0)) X.1 X.2.1 dX0_step_50 rfl ?_
    refine g_callV (ci := 17) (rest := []) (k := 1) X hW hG hS hLc rfl (al_get l G A (lv - 1) h n (cl j9 + 1) (hd j9 :: xs9) q9 0 (hd j9) (by omega) hA9 (by omega) rfl) (lw_V q724 q691 q692 q69 q693) (by decide +kernel) rfl ⟨by show (lv - 1) + 1 ≤ lv; omega, by show 8 + (2 + 11) + 40 * (lv - 1) ≤ 40 * lv; omega⟩ ⟨by show 0 + 0 ≤ 0; first | omega | exact bI_iR _, by show 0 + 0 ≤ 0; first | omega | exact bI_iR _⟩ hl.1 rfl (Nat.le_of_ble_eq_true rfl) dX0_step_51 (g_pk (fun H locs hG hS => ?_))
    show W p l e (gR lv 0 0) s m args below meth c H locs 0 0 Q (F0 m 54 ls [.ref (hd j9)])
    refine n_cast (ci := 12) X hW hG hs4 rfl q135 (Or.inl (hW.N q1683 rfl)) dX0_step_54 ?_
    refine lv_astore (lv' := [(4, .ref (hd j9)), (3, .ref (sa j9)), (0, .ref x0), (1, .int (iI (i))), (2, .int (iI (a)))]) X.1 X.2.1 dX0_step_57 hl (by decide) rfl (fun ls hl => ?_)
    refine lv_iload_n X.1 X.2.1 dX0_step_59 rfl (lv_at hl 4 rfl) ?_
    refine i_if_ne X 70 dX0_step_60 (by decide) (by first | omega | exact bI_iR _) (fun c60 => ?_) (fun c60 => ?_)
    · refine lv_iload_n X.1 X.2.1 dX0_step_70 rfl (lv_at hl 4 rfl) ?_
      refine lv_iconst (v := iI (1)) X.1 X.2.1 dX0_step_71 rfl ?_
      refine i_icmp_ne X 83 dX0_step_72 (by decide) (by first | omega | exact bI_iR _) (by first | omega | exact bI_iR _) (fun c72 => ?_) (fun c72 => ?_)
      · refine lv_iload_n X.1 X.2.1 dX0_step_83 rfl (lv_at hl 4 rfl) ?_
        refine lv_iconst (v := iI (2)) X.1 X.2.1 dX0_step_84 rfl ?_
        refine i_icmp_ne X 96 dX0_step_85 (by decide) (by first | omega | exact bI_iR _) (by first | omega | exact bI_iR _) (fun c85 => ?_) (fun c85 => ?_)
        · refine lv_bipush (v := iI (-2)) X.1 X.2.1 dX0_step_96 (by decide) ?_
          refine ret _ _ _ _ _ _ _ _ _ ?_ (rfl) (by show 0 ≤ 0; first | omega | exact bI_iR _) (by show 0 ≤ 0; first | omega | exact bI_iR _) hG hS dX0_step_98
          exact ⟨by rw [if_pos c24, hj9]; first | (rw [if_pos c60]; done) | (rw [if_neg c60, if_pos c72]; done) | (rw [if_neg c60, if_neg c72, if_pos c85]; done) | (rw [if_neg c60, if_neg c72, if_neg c85]), rfl, rfl⟩
        · refine lv_aload X.1 X.2.1 dX0_step_88 (lv_at hl 0 rfl) ?_
          refine n_get (ci := 12) X in_X14 hW hG hs4 rfl 1 (by decide) q613 (fun _ h => h) rfl dX0_step_90 ?_
          refine lv_goto (tgt := 98) X.1 X.2.1 dX0_step_93 (by decide) ?_
          refine ret _ _ _ _ _ _ _ _ _ ?_ (rfl) (by show 0 ≤ 0; first | omega | exact bI_iR _) (by show 0 ≤ 0; first | omega | exact bI_iR _) hG hS dX0_step_98
          exact ⟨by rw [if_pos c24, hj9]; first | (rw [if_pos c60]; done) | (rw [if_neg c60, if_pos c72]; done) | (rw [if_neg c60, if_neg c72, if_pos c85]; done) | (rw [if_neg c60, if_neg c72, if_neg c85]), rfl, rfl⟩
      · refine lv_aload X.1 X.2.1 dX0_step_75 (lv_at hl 0 rfl) ?_
        refine n_get (ci := 12) X in_X14 hW hG hs4 rfl 0 (by decide) q605 (fun _ h => h) rfl dX0_step_77 ?_
        refine lv_goto (tgt := 98) X.1 X.2.1 dX0_step_80 (by decide) ?_
        refine ret _ _ _ _ _ _ _ _ _ ?_ (rfl) (by show 0 ≤ 0; first | omega | exact bI_iR _) (by show 0 ≤ 0; first | omega | exact bI_iR _) hG hS dX0_step_98
        exact ⟨by rw [if_pos c24, hj9]; first | (rw [if_pos c60]; done) | (rw [if_neg c60, if_pos c72]; done) | (rw [if_neg c60, if_neg c72, if_pos c85]; done) | (rw [if_neg c60, if_neg c72, if_neg c85]), rfl, rfl⟩
    · refine lv_aload_n X.1 X.2.1 dX0_step_63 rfl (lv_at hl 1 rfl) ?_
      refine n_getN (ci := 16) X in_X18 hW hG hs1 rfl 0 (by decide) q1092 (fun _ h => h) rfl dX0_step_64 ?_
      refine lv_goto (tgt := 98) X.1 X.2.1 dX0_step_67 (by decide) ?_
      refine ret _ _ _ _ _ _ _ _ _ ?_ (rfl) (by show 0 ≤ 0; first | omega | exact bI_iR _) (by show 0 ≤ 0; first | omega | exact bI_iR _) hG hS dX0_step_98
      exact ⟨by rw [if_pos c24, hj9]; first | (rw [if_pos c60]; done) | (rw [if_neg c60, if_pos c72]; done) | (rw [if_neg c60, if_neg c72, if_pos c85]; done) | (rw [if_neg c60, if_neg c72, if_neg c85]), rfl, rfl⟩
  · have c24 := bI_eq0.mp c24
    refine lv_iconst (v := iI (-1)) X.1 X.2.1 dX0_step_27 rfl ?_
    refine ret _ _ _ _ _ _ _ _ _ ?_ (rfl) (by show 0 ≤ 0; first | omega | exact bI_iR _) (by show 0 ≤ 0; first | omega | exact bI_iR _) hG hS dX0_step_28
    exact ⟨by rw [if_neg (by intro z; rw [hsl] at c24; simp at c24; omega)], rfl, rfl⟩

set_option maxHeartbeats 4000000 in
theorem gx_stepN (l : Launch) (G : gEnv) (A : Nat → Prop) (lv : Nat) (h : gH) (n : Nat) (x0 : Nat) (S : MSt) (rv : Value) (i a : Int) (hO0 : GOB h x0 S rv .null) : gC l yX0_step cX0_step 5 (some .int) G A lv 0 0 [.ref x0, .int (iI (i)), .int (iI (a))] h n (gPure (some (.int (iI (-3)))) h n) := by
  refine gC_ofI RX0 (by decide +kernel) rfl (Nat.le_of_ble_eq_true rfl) ?_
  intro p e s m args below meth c Q X hW ret H locs ls hG hS hl
  have hl : lv_has ls 5 [(0, .ref x0), (1, .int (iI (i))), (2, .int (iI (a)))] := hl
  have hO := hO0
  unfold GOB gOv at hO
  
  refine lv_aload_n X.1 X.2.1 dX0_step_0 rfl (lv_at hl 0 rfl) ?_
  refine n_get (ci := 0) X in_X0 hW hG hO rfl 4 (by decide) q141 (fun _ h => h) rfl dX0_step_1 ?_
  refine lv_ifnonnullN X.1 X.2.1 dX0_step_4 ?_
  refine lv_bipush (v := iI (-3)) X.1 X.2.1 dX0_step_7 (by decide) ?_
  refine ret _ _ _ _ _ _ _ _ _ ?_ (rfl) (by show 0 ≤ 0; omega) (by show 0 ≤ 0; omega) hG hS dX0_step_9
  exact ⟨rfl, rfl, rfl⟩

set_option maxHeartbeats 4000000 in
theorem gx_maker (l : Launch) (G : gEnv) (A : Nat → Prop) (lv : Nat) (h : gH) (n : Nat) (x0 : Nat) (S : MSt) (ad : Int → Nat) (rl : Nat) (ru : Nat → Nat) (ap : Int → Nat) (qs : Nat) (sa cl hd md : Nat → Nat) (i a : Int) (hlv : 3 ≤ lv) (hX : GX G h x0 S ad rl ru ap) (hP : STP G h x0 S qs sa cl hd md) (hi : iR i) (ha : iR a) : gC l yX0_maker cX0_maker 5 (some .int) G A lv 0 0 [.ref x0, .int (iI (i)), .int (iI (a))] h n (gPure (some (.int (iI (if 0 ≤ i ∧ i < S.1 40 then (if a < 0 ∨ spMk S a.toNat (S.2 45 i) = 0 then -9 else spMk S a.toNat (S.2 45 i)) else -1)))) h n) := by
  refine gC_ofI RX0 (by decide +kernel) rfl (Nat.le_of_ble_eq_true rfl) ?_
  intro p e s m args below meth c Q X hW ret H locs ls hG hS hl
  have hl : lv_has ls 5 [(0, .ref x0), (1, .int (iI (i))), (2, .int (iI (a)))] := hl
  have hX0 := hX
  obtain ⟨hO0, hRo, hV, hR⟩ := id hX
  have hO := hO0
  unfold GOB gOv at hO
  have hT := hV.1.1
  have hnn := hV.1.n
  obtain ⟨tgR, moR, dR, hLR, hRr⟩ := id hR.2.1
  have hrl : ((((List.range (S.1 29).toNat).map ru).length : Nat) : Int) = S.1 29 := by simp; have := hR.1.1; omega
  have hmm := hR.1.1
  obtain ⟨hSL, hs3, hSJ⟩ := hP
  obtain ⟨tgS, moS, dS, hLS, hSr⟩ := id hSL
  have hsl : ((((List.range (S.1 49).toNat).map sa).length : Nat) : Int) = S.1 49 := by simp; omega
  
  refine lv_aload_n X.1 X.2.1 dX0_maker_0 rfl (lv_at hl 0 rfl) ?_
  refine lv_iload_n X.1 X.2.1 dX0_maker_1 rfl (lv_at hl 1 rfl) ?_
  refine g_callV (ci := 0) (rest := []) (k := 1) X hW hG hS hO rfl (gx_no l G A (lv - 1) h n x0 S ad rl ru ap i (by omega) hX hi) (lw_V q794 q796 qs18 q66 q797) (by decide +kernel) rfl ⟨by show (lv - 1) + 1 ≤ lv; omega, by show 8 + (2 + 11) + 40 * (lv - 1) ≤ 40 * lv; omega⟩ ⟨by show 0 + 0 ≤ 0; first | omega | exact bI_iR _ | (split <;> omega), by show 0 + 0 ≤ 0; first | omega | exact bI_iR _ | (split <;> omega)⟩ hl.1 rfl (Nat.le_of_ble_eq_true rfl) dX0_maker_2 (g_pk (fun H locs hG hS => ?_))
  show W p l e (gR lv 0 0) s m args below meth c H locs 0 0 Q (F0 m 5 ls [.int (iI (if 0 ≤ i ∧ i < S.1 40 then 0 else -1))])
  refine i_if_eq X 14 dX0_maker_5 (by decide) (by first | omega | exact bI_iR _ | (split <;> omega)) (fun c5 => ?_) (fun c5 => ?_)
  · have hi9 : 0 ≤ i ∧ i < S.1 40 := by revert c5; split <;> intro c5 <;> omega
    have hmk := (hV.1.2.2 i hi9.1 hi9.2).2.2.2
    refine lv_aload_n X.1 X.2.1 dX0_maker_14 rfl (lv_at hl 0 rfl) ?_
    refine n_get (ci := 0) X in_X0 hW hG hO rfl 8 (by decide) q145 (fun _ h => h) rfl dX0_maker_15 ?_
    refine lv_iload_n X.1 X.2.1 dX0_maker_18 rfl (lv_at hl 1 rfl) ?_
    refine n_row X hW hG hRo (i := i) (by omega) (by omega) (by omega) dX0_maker_19 ?_
    have hI_19 := hV.it (i := i) (by omega) (by omega)
    refine it_maker X hW hG hI_19.1 q613 dX0_maker_20 ?_
    show W p l e (gR lv 0 0) s m args below meth c H locs 0 0 Q (F0 m 23 ls [.int (iI (S.2 45 i))])
    refine lv_istore_n (lv' := [(3, .int (iI (S.2 45 i))), (0, .ref x0), (1, .int (iI (i))), (2, .int (iI (a)))]) X.1 X.2.1 dX0_maker_23 rfl hl (by decide) rfl (fun ls hl => ?_)
    refine lv_iconst (v := iI (0)) X.1 X.2.1 dX0_maker_24 rfl ?_
    refine lv_istore (lv' := [(4, .int (iI (0))), (3, .int (iI (S.2 45 i))), (0, .ref x0), (1, .int (iI (i))), (2, .int (iI (a)))]) X.1 X.2.1 dX0_maker_25 hl (by decide) rfl (fun ls hl => ?_)
    have L27 : ∀ (N27 : Nat) (s0 : Int) (k : Nat), (k = 0 ∨ (k : Int) ≤ a) → (0 ≤ s0 ∧ s0 ≤ S.1 49) → (spMk S (a.toNat - k) s0 = spMk S a.toNat (S.2 45 i)) → (a.toNat - k) < N27 → ∀ (H : Heap) (locs : List Loc) (ls : Array Slot), gOn G.1 A h n H → va_S A s.heap H locs → lv_has ls 5 [(0, .ref x0), (1, .int (iI (i))), (2, .int (iI (a))), (3, .int (iI (s0))), (4, .int (iI ((k : Int))))] → W p l e (gR lv 0 0) s m args below meth c H locs 0 0 Q (F0 m 27 ls []) := by
      intro N27
      induction N27 with
      | zero => intro s0 k hk hs0 he hN; exact absurd hN (Nat.not_lt_zero _)
      | succ N27 ih27 =>
        intro s0 k hk hs0 he hN27 H locs ls hG hS hl
        refine lv_iload X.1 X.2.1 dX0_maker_27 (lv_at hl 4 rfl) ?_
        refine lv_iload_n X.1 X.2.1 dX0_maker_29 rfl (lv_at hl 2 rfl) ?_
        refine i_icmp_ge X 73 dX0_maker_30 (by decide) (by first | omega | exact bI_iR _ | (split <;> omega)) (by first | omega | exact bI_iR _ | (split <;> omega)) (fun c30 => ?_) (fun c30 => ?_)
        · have hfin : spMk S a.toNat (S.2 45 i) = s0 := by
            rw [← he]
            by_cases z : s0 ≤ 0
            · exact spMk_0 S _ _ z
            · rw [show a.toNat - k = 0 by omega]; rfl
          refine lv_iload_n X.1 X.2.1 dX0_maker_73 rfl (lv_at hl 2 rfl) ?_
          refine i_if_lt X 81 dX0_maker_74 (by decide) (by first | omega | exact bI_iR _ | (split <;> omega)) (fun c74 => ?_) (fun c74 => ?_)
          · refine lv_bipush (v := iI (-9)) X.1 X.2.1 dX0_maker_81 (by decide) ?_
            refine lv_goto (tgt := 87) X.1 X.2.1 dX0_maker_83 (by decide) ?_
            refine ret _ _ _ _ _ _ _ _ _ ?_ (rfl) (by show 0 ≤ 0; first | omega | exact bI_iR _ | (split <;> omega)) (by show 0 ≤ 0; first | omega | exact bI_iR _ | (split <;> omega)) hG hS dX0_maker_87
            exact ⟨by rw [if_pos hi9, hfin]; first | (rw [if_pos (by omega)]; done) | (rw [if_neg (by omega)]), rfl, rfl⟩
          · refine lv_iload_n X.1 X.2.1 dX0_maker_77 rfl (lv_at hl 3 rfl) ?_
            refine i_if_ne X 86 dX0_maker_78 (by decide) (by first | omega | exact bI_iR _ | (split <;> omega)) (fun c78 => ?_) (fun c78 => ?_)
            · refine lv_iload_n X.1 X.2.1 dX0_maker_86 rfl (lv_at hl 3 rfl) ?_
              refine ret _ _ _ _ _ _ _ _ _ ?_ (rfl) (by show 0 ≤ 0; first | omega | exact bI_iR _ | (split <;> omega)) (by show 0 ≤ 0; first | omega | exact bI_iR _ | (split <;> omega)) hG hS dX0_maker_87
              exact ⟨by rw [if_pos hi9, hfin]; first | (rw [if_pos (by omega)]; done) | (rw [if_neg (by omega)]), rfl, rfl⟩
            · refine lv_bipush (v := iI (-9)) X.1 X.2.1 dX0_maker_81 (by decide) ?_
              refine lv_goto (tgt := 87) X.1 X.2.1 dX0_maker_83 (by decide) ?_
              refine ret _ _ _ _ _ _ _ _ _ ?_ (rfl) (by show 0 ≤ 0; first | omega | exact bI_iR _ | (split <;> omega)) (by show 0 ≤ 0; first | omega | exact bI_iR _ | (split <;> omega)) hG hS dX0_maker_87
              exact ⟨by rw [if_pos hi9, hfin]; first | (rw [if_pos (by omega)]; done) | (rw [if_neg (by omega)]), rfl, rfl⟩
        · refine lv_iload_n X.1 X.2.1 dX0_maker_33 rfl (lv_at hl 3 rfl) ?_
          refine i_if_le X 73 dX0_maker_34 (by decide) (by first | omega | exact bI_iR _ | (split <;> omega)) (fun c34 => ?_) (fun c34 => ?_)
          · have hfin : spMk S a.toNat (S.2 45 i) = s0 := by
              rw [← he]
              by_cases z : s0 ≤ 0
              · exact spMk_0 S _ _ z
              · rw [show a.toNat - k = 0 by omega]; rfl
            refine lv_iload_n X.1 X.2.1 dX0_maker_73 rfl (lv_at hl 2 rfl) ?_
            refine i_if_lt X 81 dX0_maker_74 (by decide) (by first | omega | exact bI_iR _ | (split <;> omega)) (fun c74 => ?_) (fun c74 => ?_)
            · refine lv_bipush (v := iI (-9)) X.1 X.2.1 dX0_maker_81 (by decide) ?_
              refine lv_goto (tgt := 87) X.1 X.2.1 dX0_maker_83 (by decide) ?_
              refine ret _ _ _ _ _ _ _ _ _ ?_ (rfl) (by show 0 ≤ 0; first | omega | exact bI_iR _ | (split <;> omega)) (by show 0 ≤ 0; first | omega | exact bI_iR _ | (split <;> omega)) hG hS dX0_maker_87
              exact ⟨by rw [if_pos hi9, hfin]; first | (rw [if_pos (by omega)]; done) | (rw [if_neg (by omega)]), rfl, rfl⟩
            · refine lv_iload_n X.1 X.2.1 dX0_maker_77 rfl (lv_at hl 3 rfl) ?_
              refine i_if_ne X 86 dX0_maker_78 (by decide) (by first | omega | exact bI_iR _ | (split <;> omega)) (fun c78 => ?_) (fun c78 => ?_)
              · refine lv_iload_n X.1 X.2.1 dX0_maker_86 rfl (lv_at hl 3 rfl) ?_
                refine ret _ _ _ _ _ _ _ _ _ ?_ (rfl) (by show 0 ≤ 0; first | omega | exact bI_iR _ | (split <;> omega)) (by show 0 ≤ 0; first | omega | exact bI_iR _ | (split <;> omega)) hG hS dX0_maker_87
                exact ⟨by rw [if_pos hi9, hfin]; first | (rw [if_pos (by omega)]; done) | (rw [if_neg (by omega)]), rfl, rfl⟩
              · refine lv_bipush (v := iI (-9)) X.1 X.2.1 dX0_maker_81 (by decide) ?_
                refine lv_goto (tgt := 87) X.1 X.2.1 dX0_maker_83 (by decide) ?_
                refine ret _ _ _ _ _ _ _ _ _ ?_ (rfl) (by show 0 ≤ 0; first | omega | exact bI_iR _ | (split <;> omega)) (by show 0 ≤ 0; first | omega | exact bI_iR _ | (split <;> omega)) hG hS dX0_maker_87
                exact ⟨by rw [if_pos hi9, hfin]; first | (rw [if_pos (by omega)]; done) | (rw [if_neg (by omega)]), rfl, rfl⟩
          · obtain ⟨j9, hj9⟩ : ∃ j : Nat, s0 = (j : Int) + 1 := ⟨(s0 - 1).toNat, by omega⟩
            obtain ⟨hs1, ⟨tg2, w0, w1, w2, w3, w5, hs2⟩, ⟨xs9, q9, hA9⟩, ⟨tg4, u2, u3, u4, u5, hs4⟩, hs5⟩ := hSJ j9 (by omega)
            obtain ⟨tgc, moc, dc, hLc, hcr⟩ := id hA9
            refine lv_aload_n X.1 X.2.1 dX0_maker_37 rfl (lv_at hl 0 rfl) ?_
            refine n_get (ci := 0) X in_X0 hW hG hO rfl 5 (by decide) q142 (fun _ h => h) rfl dX0_maker_38 ?_
            refine lv_iload_n X.1 X.2.1 dX0_maker_41 rfl (lv_at hl 3 rfl) ?_
            refine lv_iconst (v := iI (1)) X.1 X.2.1 dX0_maker_42 rfl ?_
            refine i_sub X dX0_maker_43 ?_
            refine g_callV (ci := 17) (rest := []) (k := 1) X hW hG hS hLS rfl (al_get l G A (lv - 1) h n (x0 + 2) ((List.range (S.1 49).toNat).map sa) qs (s0 - 1) (sa j9) (by omega) hSL (by omega) (by rw [show (s0 - 1).toNat = j9 by omega]; exact STP.get (by omega))) (lw_V q724 q691 q692 q69 q693) (by decide +kernel) rfl ⟨by show (lv - 1) + 1 ≤ lv; omega, by show 8 + (2 + 11) + 40 * (lv - 1) ≤ 40 * lv; omega⟩ ⟨by show 0 + 0 ≤ 0; first | omega | exact bI_iR _ | (split <;> omega), by show 0 + 0 ≤ 0; first | omega | exact bI_iR _ | (split <;> omega)⟩ hl.1 rfl (Nat.le_of_ble_eq_true rfl) dX0_maker_44 (g_pk (fun H locs hG hS => ?_))
            show W p l e (gR lv 0 0) s m args below meth c H locs 0 0 Q (F0 m 47 ls [.ref (sa j9)])
            refine n_cast (ci := 16) X hW hG hs1 rfl q1085 (Or.inr rfl) dX0_maker_47 ?_
            refine n_getN (ci := 16) X in_X18 hW hG hs1 rfl 1 (by decide) q1094 (fun _ h => h) rfl dX0_maker_50 ?_
            refine n_getN (ci := 10) X in_X12 hW hG hs2 rfl 4 (by decide) q596 (fun _ h => h) rfl dX0_maker_53 ?_
            refine lv_iconst (v := iI (0)) X.1 X.2.1 dX0_maker_56 rfl ?_
            refine g_callV (ci := 17) (rest := []) (k := 1) X hW hG hS hLc rfl (al_get l G A (lv - 1) h n (cl j9 + 1) (hd j9 :: xs9) q9 0 (hd j9) (by omega) hA9 (by omega) rfl) (lw_V q724 q691 q692 q69 q693) (by decide +kernel) rfl ⟨by show (lv - 1) + 1 ≤ lv; omega, by show 8 + (2 + 11) + 40 * (lv - 1) ≤ 40 * lv; omega⟩ ⟨by show 0 + 0 ≤ 0; first | omega | exact bI_iR _ | (split <;> omega), by show 0 + 0 ≤ 0; first | omega | exact bI_iR _ | (split <;> omega)⟩ hl.1 rfl (Nat.le_of_ble_eq_true rfl) dX0_maker_57 (g_pk (fun H locs hG hS => ?_))
            show W p l e (gR lv 0 0) s m args below meth c H locs 0 0 Q (F0 m 60 ls [.ref (hd j9)])
            refine n_cast (ci := 12) X hW hG hs4 rfl q135 (Or.inl (hW.N q1683 rfl)) dX0_maker_60 ?_
            refine n_get (ci := 12) X in_X14 hW hG hs4 rfl 1 (by decide) q613 (fun _ h => h) rfl dX0_maker_63 ?_
            refine lv_istore_n (lv' := [(3, .int (iI (S.2 52 (j9 + 1)))), (0, .ref x0), (1, .int (iI (i))), (2, .int (iI (a))), (4, .int (iI ((k : Int))))]) X.1 X.2.1 dX0_maker_66 rfl hl (by decide) rfl (fun ls hl => ?_)
            refine i_inc (lv' := [(4, .int (iI ((k : Int) + 1))), (3, .int (iI (S.2 52 (j9 + 1)))), (0, .ref x0), (1, .int (iI (i))), (2, .int (iI (a)))]) X dX0_maker_67 hl (k := 4) rfl (by decide) rfl (fun ls hl => ?_)
            refine lv_goto (tgt := 27) X.1 X.2.1 dX0_maker_70 (by decide) ?_
            exact ih27 (S.2 52 (j9 + 1)) (k + 1) (by omega) (by omega) (by rw [← he, show a.toNat - k = (a.toNat - (k + 1)) + 1 by omega, show spMk S ((a.toNat - (k + 1)) + 1) s0 = (if s0 ≤ 0 then s0 else spMk S (a.toNat - (k + 1)) (S.2 52 s0)) from rfl, if_neg (by omega), hj9]) (by omega) H locs ls hG hS (lv_sub hl [2, 3, 4, 1, 0] rfl)
    exact L27 _ (S.2 45 i) 0 (by omega) (by omega) rfl (Nat.lt_succ_self _) H locs ls hG hS (lv_sub hl [2, 3, 4, 1, 0] rfl)
  · refine lv_aload_n X.1 X.2.1 dX0_maker_8 rfl (lv_at hl 0 rfl) ?_
    refine lv_iload_n X.1 X.2.1 dX0_maker_9 rfl (lv_at hl 1 rfl) ?_
    refine g_callV (ci := 0) (rest := []) (k := 1) X hW hG hS hO rfl (gx_no l G A (lv - 1) h n x0 S ad rl ru ap i (by omega) hX hi) (lw_V q794 q796 qs18 q66 q797) (by decide +kernel) rfl ⟨by show (lv - 1) + 1 ≤ lv; omega, by show 8 + (2 + 11) + 40 * (lv - 1) ≤ 40 * lv; omega⟩ ⟨by show 0 + 0 ≤ 0; first | omega | exact bI_iR _ | (split <;> omega), by show 0 + 0 ≤ 0; first | omega | exact bI_iR _ | (split <;> omega)⟩ hl.1 rfl (Nat.le_of_ble_eq_true rfl) dX0_maker_10 (g_pk (fun H locs hG hS => ?_))
    show W p l e (gR lv 0 0) s m args below meth c H locs 0 0 Q (F0 m 13 ls [.int (iI (if 0 ≤ i ∧ i < S.1 40 then 0 else -1))])
    refine ret _ _ _ _ _ _ _ _ _ ?_ (rfl) (by show 0 ≤ 0; first | omega | exact bI_iR _ | (split <;> omega)) (by show 0 ≤ 0; first | omega | exact bI_iR _ | (split <;> omega)) hG hS dX0_maker_13
    exact ⟨by rw [if_neg (by intro z; rw [if_pos z] at c5; exact c5 rfl), if_neg (by intro z; rw [if_pos z] at c5; exact c5 rfl)], rfl, rfl⟩

set_option maxHeartbeats 4000000 in
theorem gx_makerN (l : Launch) (G : gEnv) (A : Nat → Prop) (lv : Nat) (h : gH) (n : Nat) (x0 : Nat) (S : MSt) (rv : Value) (i a : Int) (hlv : 1 ≤ lv) (hO0 : GOB h x0 S rv .null) : gC l yX0_maker cX0_maker 5 (some .int) G A lv 0 0 [.ref x0, .int (iI (i)), .int (iI (a))] h n (gPure (some (.int (iI (-3)))) h n) := by
  refine gC_ofI RX0 (by decide +kernel) rfl (Nat.le_of_ble_eq_true rfl) ?_
  intro p e s m args below meth c Q X hW ret H locs ls hG hS hl
  have hl : lv_has ls 5 [(0, .ref x0), (1, .int (iI (i))), (2, .int (iI (a)))] := hl
  have hO := hO0
  unfold GOB gOv at hO
  
  refine lv_aload_n X.1 X.2.1 dX0_maker_0 rfl (lv_at hl 0 rfl) ?_
  refine lv_iload_n X.1 X.2.1 dX0_maker_1 rfl (lv_at hl 1 rfl) ?_
  refine g_callV (ci := 0) (rest := []) (k := 1) X hW hG hS hO rfl (gx_noN l G A (lv - 1) h n x0 S rv i hO0) (lw_V q794 q796 qs18 q66 q797) (by decide +kernel) rfl ⟨by show (lv - 1) + 1 ≤ lv; omega, by show 8 + (2 + 11) + 40 * (lv - 1) ≤ 40 * lv; omega⟩ ⟨by show 0 + 0 ≤ 0; omega, by show 0 + 0 ≤ 0; omega⟩ hl.1 rfl (Nat.le_of_ble_eq_true rfl) dX0_maker_2 (g_pk (fun H locs hG hS => ?_))
  show W p l e (gR lv 0 0) s m args below meth c H locs 0 0 Q (F0 m 5 ls [.int (iI ((-3)))])
  refine i_if_eq X 14 dX0_maker_5 (by decide) (by decide) (fun c5 => absurd c5 (by decide)) (fun _ => ?_)
  refine lv_aload_n X.1 X.2.1 dX0_maker_8 rfl (lv_at hl 0 rfl) ?_
  refine lv_iload_n X.1 X.2.1 dX0_maker_9 rfl (lv_at hl 1 rfl) ?_
  refine g_callV (ci := 0) (rest := []) (k := 1) X hW hG hS hO rfl (gx_noN l G A (lv - 1) h n x0 S rv i hO0) (lw_V q794 q796 qs18 q66 q797) (by decide +kernel) rfl ⟨by show (lv - 1) + 1 ≤ lv; omega, by show 8 + (2 + 11) + 40 * (lv - 1) ≤ 40 * lv; omega⟩ ⟨by show 0 + 0 ≤ 0; omega, by show 0 + 0 ≤ 0; omega⟩ hl.1 rfl (Nat.le_of_ble_eq_true rfl) dX0_maker_10 (g_pk (fun H locs hG hS => ?_))
  show W p l e (gR lv 0 0) s m args below meth c H locs 0 0 Q (F0 m 13 ls [.int (iI ((-3)))])
  refine ret _ _ _ _ _ _ _ _ _ ?_ (rfl) (by show 0 ≤ 0; omega) (by show 0 ≤ 0; omega) hG hS dX0_maker_13
  exact ⟨rfl, rfl, rfl⟩

