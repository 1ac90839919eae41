/-! ===== copied ===== -/
set_option maxRecDepth 100000
/-- more room than is needed -/
theorem gC.room {l : Launch} {y : MethodName} {cc : ByteArray} {nL : Nat} {ret : Option FieldType} {G : gEnv} {A : Nat → Prop} {lv mc ms mc' ms' : Nat} {av : List Value} {h : gH} {n : Nat} {post : Option Value → gH → Nat → Prop} (hc : gC l y cc nL ret G A lv mc ms av h n post) (h1 : mc ≤ mc') (h2 : ms ≤ ms') : gC l y cc nL ret G A lv mc' ms' av h n post := by
  intro p e ha hc' hk s m args below hf hpre hP hT
  have hpre2 : (headSpec (ws_ y cc nL ret) (gR lv mc ms)).appliesLoose y e.platform s = true := by
    unfold Spec.appliesLoose at hpre ⊢
    rw [hf] at hpre ⊢
    simp only [Bool.and_eq_true] at hpre ⊢
    refine ⟨⟨hpre.1.1, ?_⟩, hpre.2⟩
    have hr := hpre.1.2
    unfold State.hasRoom at hr ⊢
    simp only [Bool.and_eq_true, decide_eq_true_eq] at hr ⊢
    refine ⟨⟨⟨hr.1.1.1, ?_⟩, ?_⟩, hr.2⟩
    · have := hr.1.1.2
      exact Nat.le_trans (Nat.add_le_add_left h1 _) this
    · have := hr.1.2
      exact Nat.le_trans (Nat.add_le_add_left h2 _) this
  obtain ⟨k, o', a1, a2, a3, a4, L, ⟨b1, b2, b3⟩, b4⟩ := hc p e ha hc' hk s m args below hf hpre2 hP hT
  exact ⟨k, o', a1, a2, a3, a4, L, ⟨b1, b2, b3.mono h1 h2⟩, b4⟩
set_option maxHeartbeats 4000000 in
theorem gw_copied (l : Launch) (G : gEnv) (A : Nat → Prop) (lv : Nat) (h : gH) (n : Nat) (R : FF) (ad : Int → Nat) (tg : gT) (inp : Value) (num i : Int) (ins : Int → Int) (hlv : 3 ≤ lv) (hz : R 0 i = 0) (hr : R 5 i = 1) (hI : h (ad i) = some (tg, .inr (11, [.int (iI (R 3 i)), .int (iI (R 4 i)), inp, .int (iI (num)), .int (iI (R 1 i))]))) : gC l yX13_copied cX13_copied 1 (some (FieldType.object "MacroGlass$Item")) G A lv 1 6 [.ref (ad i)] h n (fun v h' n' => ∃ adc : Int → Nat, v = some (.ref (adc i)) ∧ CPD G h h' R ins adc i n n') := by
  refine gC_ofA (Or.inl ⟨_, rfl⟩) RX13 (by decide +kernel) rfl (Nat.le_of_ble_eq_true rfl) ?_
  intro p e s m args below meth c Q X hW ret H locs ls hG hS hl
  have hl : lv_has ls 1 [(0, .ref (ad i))] := hl
  have hGo := hG
  refine n_new (ci := 11) (fs := [.int (iI (0)), .int (iI (0)), .null, .int (iI (0)), .int (iI (0))]) X in_X13 tyX13 tyX13_ok q1075 q645 q93 hW hG hS rfl (1, 0) (by decide +kernel) (by show 0 + 1 ≤ 1; omega) (by show 0 + 5 ≤ 6; omega) dX13_copied_0 (fun H hG hS => ?_)
  obtain ⟨h2, eh2⟩ : ∃ hz, hz = va_up h n (some ((1, 0), .inr (11, [.int (iI (0)), .int (iI (0)), .null, .int (iI (0)), .int (iI (0))]))) := ⟨_, rfl⟩
  rw [← eh2] at hG
  have f2_adi : h2 (ad i) = some (tg, .inr (11, [.int (iI (R 3 i)), .int (iI (R 4 i)), inp, .int (iI (num)), .int (iI (R 1 i))])) := by rw [eh2, up_n (Nat.ne_of_lt (hGo.lt hI))]; exact hI
  have f2_n : h2 n = some ((1, 0), .inr (11, [.int (iI (0)), .int (iI (0)), .null, .int (iI (0)), .int (iI (0))])) := by rw [eh2]; exact up_s _ _ _
  refine lv_dup X.1 X.2.1 dX13_copied_3 rfl ?_
  refine lv_aload_n X.1 X.2.1 dX13_copied_4 rfl (lv_at hl 0 rfl) ?_
  refine n_get (ci := 11) X in_X13 hW hG f2_adi rfl 0 (by decide) q601 (fun x hx => u_same (X.2.2.2.2 _ q602) x hx) rfl dX13_copied_5 ?_
  refine lv_aload_n X.1 X.2.1 dX13_copied_8 rfl (lv_at hl 0 rfl) ?_
  refine n_get (ci := 11) X in_X13 hW hG f2_adi rfl 1 (by decide) q609 (fun x hx => u_same (X.2.2.2.2 _ q610) x hx) rfl dX13_copied_9 ?_
  refine lv_aload_n X.1 X.2.1 dX13_copied_12 rfl (lv_at hl 0 rfl) ?_
  refine n_get (ci := 11) X in_X13 hW hG f2_adi rfl 4 (by decide) q650 (fun _ h => h) rfl dX13_copied_13 ?_
  refine g_callI (rest := [.ref n]) (k := 3) X hW hG hS (gw_init l G A (lv - 1) h2 (n + 1) n (1, 0) (R 3 i) (R 4 i) (R 1 i) (by omega) f2_n) q1076 q647 q93 (lw_meth q648) rfl (by decide +kernel) rfl ⟨by show (lv - 1) + 1 ≤ lv; omega, by show 8 + (4 + 11) + 40 * (lv - 1) ≤ 40 * lv; omega⟩ ⟨by show 1 + 0 ≤ 1; omega, by show 5 + 0 ≤ 6; omega⟩ hl.1 rfl (Nat.le_of_ble_eq_true rfl) dX13_copied_16 (fun v3 h3 n3 H locs hp3 hG hS => ?_)
  obtain ⟨rfl, eh, hn1⟩ := hp3
  rw [hn1] at hG
  have ehn := eh2
  show W p l e (gR lv 1 6) s m args below meth c H locs 1 5 Q (F0 m 19 ls [.ref n])
  refine ret _ _ _ _ _ _ _ _ _ ?_ (Or.inr ⟨_, rfl⟩) (by show 1 ≤ 1; omega) (by show 5 ≤ 6; omega) hG hS dX13_copied_19
  refine ⟨fun _ => n, rfl, ⟨⟨?_, by omega, fun q h1 h2 => by omega, fun x y h1 h2 h3 h4 _ => by omega, fun q _ _ => ⟨Nat.le_refl _, by show n < n + 1; omega⟩⟩, ?_, fun w => by omega⟩⟩
  · rw [eh, ehn, up_up]; exact (gSub.refl _).upN (hGo.fresh (Nat.le_refl _)) _
  · rw [eh, up_s, itE0 hz]

set_option maxHeartbeats 4000000 in
theorem gn_copied (l : Launch) (G : gEnv) (A : Nat → Prop) (lv : Nat) (h : gH) (n : Nat) (R : FF) (ad : Int → Nat) (tg : gT) (inp : Value) (num i : Int) (ins : Int → Int) (hlv : 3 ≤ lv) (hz : R 0 i = 1) (hr : R 5 i = 1) (hI : h (ad i) = some (tg, .inr (12, [.int (iI (R 3 i)), .int (iI (R 4 i)), inp, .int (iI (num)), .long (lI (gLt (R 1 i))), .int (iI (R 2 i))]))) : gC l yX14_copied cX14_copied 1 (some (FieldType.object "MacroGlass$Item")) G A lv 1 6 [.ref (ad i)] h n (fun v h' n' => ∃ adc : Int → Nat, v = some (.ref (adc i)) ∧ CPD G h h' R ins adc i n n') := by
  refine gC_ofA (Or.inl ⟨_, rfl⟩) RX14 (by decide +kernel) rfl (Nat.le_of_ble_eq_true rfl) ?_
  intro p e s m args below meth c Q X hW ret H locs ls hG hS hl
  have hl : lv_has ls 1 [(0, .ref (ad i))] := hl
  have hGo := hG
  refine n_new (ci := 12) (fs := [.int (iI (0)), .int (iI (0)), .null, .int (iI (0)), .long (lI (0)), .int (iI (0))]) X in_X14 tyX14 tyX14_ok q1071 q664 q94 hW hG hS rfl (1, 0) (by decide +kernel) (by show 0 + 1 ≤ 1; omega) (by show 0 + 6 ≤ 6; omega) dX14_copied_0 (fun H hG hS => ?_)
  obtain ⟨h2, eh2⟩ : ∃ hz, hz = va_up h n (some ((1, 0), .inr (12, [.int (iI (0)), .int (iI (0)), .null, .int (iI (0)), .long (lI (0)), .int (iI (0))]))) := ⟨_, rfl⟩
  rw [← eh2] at hG
  have f2_adi : h2 (ad i) = some (tg, .inr (12, [.int (iI (R 3 i)), .int (iI (R 4 i)), inp, .int (iI (num)), .long (lI (gLt (R 1 i))), .int (iI (R 2 i))])) := by rw [eh2, up_n (Nat.ne_of_lt (hGo.lt hI))]; exact hI
  have f2_n : h2 n = some ((1, 0), .inr (12, [.int (iI (0)), .int (iI (0)), .null, .int (iI (0)), .long (lI (0)), .int (iI (0))])) := by rw [eh2]; exact up_s _ _ _
  refine lv_dup X.1 X.2.1 dX14_copied_3 rfl ?_
  refine lv_aload_n X.1 X.2.1 dX14_copied_4 rfl (lv_at hl 0 rfl) ?_
  refine n_get (ci := 12) X in_X14 hW hG f2_adi rfl 0 (by decide) q599 (fun x hx => u_same (X.2.2.2.2 _ q600) x hx) rfl dX14_copied_5 ?_
  refine lv_aload_n X.1 X.2.1 dX14_copied_8 rfl (lv_at hl 0 rfl) ?_
  refine n_get (ci := 12) X in_X14 hW hG f2_adi rfl 1 (by decide) q607 (fun x hx => u_same (X.2.2.2.2 _ q608) x hx) rfl dX14_copied_9 ?_
  refine lv_aload_n X.1 X.2.1 dX14_copied_12 rfl (lv_at hl 0 rfl) ?_
  refine n_get (ci := 12) X in_X14 hW hG f2_adi rfl 4 (by decide) q669 (fun _ h => h) rfl dX14_copied_13 ?_
  refine lv_aload_n X.1 X.2.1 dX14_copied_16 rfl (lv_at hl 0 rfl) ?_
  refine n_get (ci := 12) X in_X14 hW hG f2_adi rfl 5 (by decide) q674 (fun _ h => h) rfl dX14_copied_17 ?_
  refine g_callI (rest := [.ref n]) (k := 4) X hW hG hS (gn_init l G A (lv - 1) h2 (n + 1) n (1, 0) (R 3 i) (R 4 i) (gLt (R 1 i)) (R 2 i) (by omega) f2_n) q1072 q666 q94 (lw_meth q667) rfl (by decide +kernel) rfl ⟨by show (lv - 1) + 1 ≤ lv; omega, by show 8 + (6 + 11) + 40 * (lv - 1) ≤ 40 * lv; omega⟩ ⟨by show 1 + 0 ≤ 1; omega, by show 6 + 0 ≤ 6; omega⟩ hl.1 rfl (Nat.le_of_ble_eq_true rfl) dX14_copied_20 (fun v3 h3 n3 H locs hp3 hG hS => ?_)
  obtain ⟨rfl, eh, hn1⟩ := hp3
  rw [hn1] at hG
  have ehn := eh2
  show W p l e (gR lv 1 6) s m args below meth c H locs 1 6 Q (F0 m 23 ls [.ref n])
  refine ret _ _ _ _ _ _ _ _ _ ?_ (Or.inr ⟨_, rfl⟩) (by show 1 ≤ 1; omega) (by show 6 ≤ 6; omega) hG hS dX14_copied_23
  refine ⟨fun _ => n, rfl, ⟨⟨?_, by omega, fun q h1 h2 => by omega, fun x y h1 h2 h3 h4 _ => by omega, fun q _ _ => ⟨Nat.le_refl _, by show n < n + 1; omega⟩⟩, ?_, fun w => by omega⟩⟩
  · rw [eh, ehn, up_up]; exact (gSub.refl _).upN (hGo.fresh (Nat.le_refl _)) _
  · rw [eh, up_s, itE1 hz]

set_option maxHeartbeats 4000000 in
theorem gl_copied (l : Launch) (G : gEnv) (A : Nat → Prop) (lv : Nat) (h : gH) (n : Nat) (R : FF) (ad : Int → Nat) (tg : gT) (inp : Value) (num i : Int) (ins : Int → Int) (nn : Int) (hlv : 11 ≤ lv) (hT : TW nn (R 0) (R 5) (R 6)) (h0 : 0 ≤ i) (hn : i < nn) (hw : 2 ≤ R 0 i) (hTI : TI nn (R 0) (R 5) (R 6) ins) (hI : h (ad i) = some (tg, .inr (10, [.int (iI (R 3 i)), .int (iI (R 4 i)), inp, .int (iI (num)), .ref (ad i + 1), .int (iI (R 0 i))]))) (hA : AL G h (ad i + 1) (chs R ad i) (R 6 i).toNat) (hC : ∀ j : Nat, (j : Int) < R 6 i → ∃ ip nm, IT G h R ad tg ip nm (chh (R 5) i j)) (ih : ∀ k : Nat, (k : Int) < R 6 i → ∀ (h1 : gH) (n1 : Nat), gSub h h1 → gVC l ⟨RX11, "copied", "()LMacroGlass$Item;"⟩ G A (lv - 1) (4 * R 5 (chh (R 5) i k) - 1).toNat (30 * R 5 (chh (R 5) i k) - 5).toNat (ad (chh (R 5) i k)) [] h1 n1 (fun v h' n' => ∃ adc : Int → Nat, v = some (.ref (adc (chh (R 5) i k))) ∧ CPD G h1 h' R ins adc (chh (R 5) i k) n1 n')) : gC l yX12_copied cX12_copied 3 (some (FieldType.object "MacroGlass$Item")) G A lv ((4 * R 5 i - 1).toNat) ((30 * R 5 i - 5).toNat) [.ref (ad i)] h n (fun v h' n' => ∃ adc : Int → Nat, v = some (.ref (adc i)) ∧ CPD G h h' R ins adc i n n') := by
  refine gC_ofA (Or.inl ⟨_, rfl⟩) RX12 (by decide +kernel) rfl (Nat.le_of_ble_eq_true rfl) ?_
  intro p e s m args below meth c Q X hW ret H locs ls hG hS hl
  have hl : lv_has ls 3 [(0, .ref (ad i))] := hl
  have hG0 := hG
  have hp := hT.p h0 hn
  have hr := hT.r h0 hn
  obtain ⟨hl1, hl2⟩ := hT.lst h0 hn hw
  have hch := hT.ch h0 hn hw
  have hnn := hT.2.1
  have hlen : ((chs R ad i).length : Int) = R 6 i := by rw [chs_len]; omega
  have hGo := hG
  refine n_new (ci := 10) (fs := [.int (iI (0)), .int (iI (0)), .null, .int (iI (0)), .null, .int (iI (0))]) X in_X12 tyX12 tyX12_ok q1066 q582 q92 hW hG hS rfl (1, 0) (by decide +kernel) (by show 0 + 1 ≤ (4 * R 5 i - 1).toNat; first | omega | (simp; omega)) (by show 0 + 6 ≤ (30 * R 5 i - 5).toNat; first | omega | (simp; omega)) dX12_copied_0 (fun H hG hS => ?_)
  obtain ⟨h2, eh2⟩ : ∃ hz, hz = va_up h n (some ((1, 0), .inr (10, [.int (iI (0)), .int (iI (0)), .null, .int (iI (0)), .null, .int (iI (0))]))) := ⟨_, rfl⟩
  rw [← eh2] at hG
  have f2_adi : h2 (ad i) = some (tg, .inr (10, [.int (iI (R 3 i)), .int (iI (R 4 i)), inp, .int (iI (num)), .ref (ad i + 1), .int (iI (R 0 i))])) := by rw [eh2, up_n (Nat.ne_of_lt (hG0.lt hI))]; exact hI
  have f2_n : h2 n = some ((1, 0), .inr (10, [.int (iI (0)), .int (iI (0)), .null, .int (iI (0)), .null, .int (iI (0))])) := by rw [eh2]; exact up_s _ _ _
  refine lv_dup X.1 X.2.1 dX12_copied_3 rfl ?_
  refine lv_aload_n X.1 X.2.1 dX12_copied_4 rfl (lv_at hl 0 rfl) ?_
  refine n_get (ci := 10) X in_X12 hW hG f2_adi rfl 0 (by decide) q603 (fun x hx => u_same (X.2.2.2.2 _ q604) x hx) rfl dX12_copied_5 ?_
  refine lv_aload_n X.1 X.2.1 dX12_copied_8 rfl (lv_at hl 0 rfl) ?_
  refine n_get (ci := 10) X in_X12 hW hG f2_adi rfl 1 (by decide) q611 (fun x hx => u_same (X.2.2.2.2 _ q612) x hx) rfl dX12_copied_9 ?_
  refine g_callI (rest := [.ref n]) (k := 2) X hW hG hS (gl_init l G A (lv - 1) h2 (n + 1) n (1, 0) (R 3 i) (R 4 i) (by omega) f2_n) q1067 q584 q92 (lw_meth q585) rfl (by decide +kernel) rfl ⟨by show (lv - 1) + 1 ≤ lv; omega, by show 8 + (3 + 11) + 40 * (lv - 1) ≤ 40 * lv; omega⟩ ⟨by show 1 + 1 ≤ (4 * R 5 i - 1).toNat; first | omega | (simp; omega), by show 6 + 3 ≤ (30 * R 5 i - 5).toNat; first | omega | (simp; omega)⟩ hl.1 rfl (Nat.le_of_ble_eq_true rfl) dX12_copied_12 (fun v3 h3 n3 H locs hp3 hG hS => ?_)
  obtain ⟨rfl, hn1, hIn, hAn, hfr⟩ := hp3
  rw [hn1] at hG
  have hs2 : gSub h h3 := by
    intro a x hx
    have := hGo.lt hx
    rw [hfr a (by omega) (by omega), eh2, up_n (by omega)]; exact hx
  have hI2 := hs2 _ _ hI
  show W p l e (gR lv ((4 * R 5 i - 1).toNat) ((30 * R 5 i - 5).toNat)) s m args below meth c H locs 2 9 Q (F0 m 15 ls [.ref n])
  refine lv_astore_n (lv' := [(1, .ref n), (0, .ref (ad i))]) X.1 X.2.1 dX12_copied_15 rfl hl (by decide) rfl (fun ls hl => ?_)
  refine lv_iconst (v := iI (0)) X.1 X.2.1 dX12_copied_16 rfl ?_
  refine lv_istore_n (lv' := [(2, .int (iI (0))), (1, .ref n), (0, .ref (ad i))]) X.1 X.2.1 dX12_copied_17 rfl hl (by decide) rfl (fun ls hl => ?_)
  have L18 : ∀ (N18 : Nat) (k : Nat) (h' : gH) (n' ce sl : Nat) (adc : Int → Nat), ((k : Int) ≤ R 6 i) → (adc i = n) → (CPI G h h' R ins adc i (chh (R 5) i k) n n') → (h' n = some ((1, 0), .inr (10, [.int (iI (R 3 i)), .int (iI (R 4 i)), .null, .int (iI (0)), .ref (n + 1), .int (iI (2))]))) → (AL G h' (n + 1) ((List.range k).map (fun (j : Nat) => adc (chh (R 5) i j))) k) → (n + 1 < n') → (ce ≤ 2 + alK k + (4 * (chh (R 5) i k - i - 1) - k).toNat) → (sl ≤ 9 + alS k + (30 * (chh (R 5) i k - i - 1) - 5 * k).toNat) → (R 6 i).toNat - k < N18 → ∀ (H : Heap) (locs : List Loc) (ls : Array Slot), gOn G.1 A h' n' H → va_S A s.heap H locs → lv_has ls 3 [(0, .ref (ad i)), (1, .ref n), (2, .int (iI ((k : Int))))] → W p l e (gR lv ((4 * R 5 i - 1).toNat) ((30 * R 5 i - 5).toNat)) s m args below meth c H locs ce sl Q (F0 m 18 ls []) := by
    intro N18
    induction N18 with
    | zero => intro k h' n' ce sl adc hk hc0 hC1 hL' hA' hn' hce hsl hN; exact absurd hN (Nat.not_lt_zero _)
    | succ N18 ih18 =>
      intro k h' n' ce sl adc hk hc0 hC1 hL' hA' hn' hce hsl hN18 H locs ls hG hS hl
      have hI' := hC1.1 _ _ hI
      have hAs := hA.sub hC1.1
      obtain ⟨tgA, moA, dA, hLA, hAr⟩ := id hAs
      have hchk := hch k (by omega)
      have hkk := alK_le k (by omega)
      refine lv_iload_n X.1 X.2.1 dX12_copied_18 rfl (lv_at hl 2 rfl) ?_
      refine lv_aload_n X.1 X.2.1 dX12_copied_19 rfl (lv_at hl 0 rfl) ?_
      refine n_get (ci := 10) X in_X12 hW hG hI' rfl 4 (by decide) q592 (fun _ h => h) rfl dX12_copied_20 ?_
      refine g_callV (ci := 17) (rest := [.int (iI ((k : Int)))]) (k := 0) X hW hG hS hLA rfl (al_size l G A (lv - 1) h' n' (ad i + 1) (chs R ad i) (R 6 i).toNat hAs) (lw_V q689 q323 q324 q69 q325) (by decide +kernel) rfl ⟨by show (lv - 1) + 1 ≤ lv; omega, by show 8 + (1 + 11) + 40 * (lv - 1) ≤ 40 * lv; omega⟩ ⟨by show ce + 0 ≤ (4 * R 5 i - 1).toNat; first | omega | (simp; omega), by show sl + 0 ≤ (30 * R 5 i - 5).toNat; first | omega | (simp; omega)⟩ hl.1 rfl (Nat.le_of_ble_eq_true rfl) dX12_copied_23 (g_pk (fun H locs hG hS => ?_))
      show W p l e (gR lv ((4 * R 5 i - 1).toNat) ((30 * R 5 i - 5).toNat)) s m args below meth c H locs ce sl Q (F0 m 26 ls [.int (iI (((chs R ad i).length : Int))), .int (iI ((k : Int)))])
      refine i_icmp_ge X 53 dX12_copied_26 (by decide) (by first | omega | (simp; omega)) (by first | omega | (simp; omega)) (fun c26 => ?_) (fun c26 => ?_)
      · have hke : k = (R 6 i).toNat := by omega
        subst hke
        rw [hl1] at hC1 hce hsl
        have hp5 : ((R 6 i).toNat : Int) = R 6 i := by omega
        refine lv_aload_n X.1 X.2.1 dX12_copied_53 rfl (lv_at hl 1 rfl) ?_
        refine lv_aload_n X.1 X.2.1 dX12_copied_54 rfl (lv_at hl 0 rfl) ?_
        refine n_get (ci := 10) X in_X12 hW hG hI' rfl 5 (by decide) q597 (fun _ h => h) rfl dX12_copied_55 ?_
        refine n_put (ci := 10) X in_X12 tyX12 tyX12_ok nmX12 hW hG hS hL' rfl 5 (by decide) q597 (fun _ h => h) rfl rfl rfl (Nat.le_of_ble_eq_true rfl) (fs' := [.int (iI (R 3 i)), .int (iI (R 4 i)), .null, .int (iI (0)), .ref (n + 1), .int (iI (R 0 i))]) rfl dX12_copied_58 (fun H locs hG hS => ?_)
        obtain ⟨h4, eh4⟩ : ∃ hz, hz = va_up h' n (some ((1, 0), .inr (10, [.int (iI (R 3 i)), .int (iI (R 4 i)), .null, .int (iI (0)), .ref (n + 1), .int (iI (R 0 i))]))) := ⟨_, rfl⟩
        rw [← eh4] at hG
        have f4_adi : h4 (ad i) = some (tg, .inr (10, [.int (iI (R 3 i)), .int (iI (R 4 i)), inp, .int (iI (num)), .ref (ad i + 1), .int (iI (R 0 i))])) := by rw [eh4, up_n (Nat.ne_of_lt (hG0.lt hI))]; exact hI'
        have f4_adi1 : h4 (ad i + 1) = some (tgA, .inr (17, [.int (iI (moA)), .ref dA, .int (iI (((chs R ad i).length : Int)))])) := by rw [eh4, up_n (gNe hLA hL' (by intro hh; simp at hh))]; exact hLA
        have f4_n : h4 n = some ((1, 0), .inr (10, [.int (iI (R 3 i)), .int (iI (R 4 i)), .null, .int (iI (0)), .ref (n + 1), .int (iI (R 0 i))])) := by rw [eh4]; exact up_s _ _ _
        refine lv_aload_n X.1 X.2.1 dX12_copied_61 rfl (lv_at hl 1 rfl) ?_
        refine ret _ _ _ _ _ _ _ _ _ ?_ (Or.inr ⟨_, rfl⟩) (by show ce ≤ (4 * R 5 i - 1).toNat; first | omega | (simp; omega)) (by show sl ≤ (30 * R 5 i - 5).toNat; first | omega | (simp; omega)) hG hS dX12_copied_62
        obtain ⟨a1, a2, a3, a4, a5⟩ := hC1
        have hfrm : gFrm (fun a => a = n) h' h4 := by
          rw [eh4]
          exact ⟨fun a t e he hp => by rw [up_n hp]; exact he, (gCls.refl _).upO hL' _⟩
        refine ⟨adc, by rw [hc0], ⟨⟨?_, a2, ?_, a4, a5⟩, ?_, ?_⟩⟩
        · intro a x hx
          obtain ⟨t, e⟩ := x
          exact hfrm.1 _ _ _ (a1 _ _ hx) (by have := hG0.lt hx; omega)
        · intro z h1 h2
          refine (a3 z h1 h2).frm hfrm ?_ ?_ ?_
          · intro e; rw [← hc0] at e; have := a4 z i (by omega) h2 (Int.le_refl _) (by omega) e; omega
          · intro w' e; obtain ⟨tM, fM, eM, nM⟩ := ((a3 z h1 h2).2 w').cell; rw [e, hL'] at eM; cases eM
          · intro w' a e he z2; rw [z2, hL'] at he; cases he
        · rw [hc0, eh4, up_s, itE2 hw]
        · intro _
          have h9 := hA'.frm hfrm (by omega) (fun a e he z2 => by rw [z2, hL'] at he; cases he)
          rw [hc0]
          exact h9
      · have kd := hT.kid h0 hn hw (j := k) (by omega)
        obtain ⟨ip, nm, hIk0⟩ := hC k (by omega)
        have hIk := hIk0.sub hC1.1
        have hkm := alK_mono (a := k) (b := k + 1) (by omega)
        have hkp := alK_le (k + 1) (by omega)
        have hch9 := hch k (by omega)
        refine lv_aload_n X.1 X.2.1 dX12_copied_29 rfl (lv_at hl 1 rfl) ?_
        refine lv_aload_n X.1 X.2.1 dX12_copied_30 rfl (lv_at hl 0 rfl) ?_
        refine n_get (ci := 10) X in_X12 hW hG hI' rfl 4 (by decide) q592 (fun _ h => h) rfl dX12_copied_31 ?_
        refine lv_iload_n X.1 X.2.1 dX12_copied_34 rfl (lv_at hl 2 rfl) ?_
        refine g_callV (ci := 17) (rest := [.ref n]) (k := 1) X hW hG hS hLA rfl (al_get l G A (lv - 1) h' n' (ad i + 1) (chs R ad i) (R 6 i).toNat (k : Int) (ad (chh (R 5) i k)) (by omega) hAs (by omega) (by rw [Int.toNat_natCast]; exact chs_get R ad i (by omega))) (lw_V q690 q691 q692 q69 q693) (by decide +kernel) rfl ⟨by show (lv - 1) + 1 ≤ lv; omega, by show 8 + (2 + 11) + 40 * (lv - 1) ≤ 40 * lv; omega⟩ ⟨by show ce + 0 ≤ (4 * R 5 i - 1).toNat; first | omega | (simp; omega), by show sl + 0 ≤ (30 * R 5 i - 5).toNat; first | omega | (simp; omega)⟩ hl.1 rfl (Nat.le_of_ble_eq_true rfl) dX12_copied_35 (g_pk (fun H locs hG hS => ?_))
        show W p l e (gR lv ((4 * R 5 i - 1).toNat) ((30 * R 5 i - 5).toNat)) s m args below meth c H locs ce sl Q (F0 m 38 ls [.ref (ad (chh (R 5) i k)), .ref n])
        refine it_cast X hW hG hIk.1 q778 dX12_copied_38 ?_
        refine g_callX (rest := [.ref n]) (k := 0) X hW hG hS (ih k (by omega) h' n' hC1.1) q1068 q1062 (gDecl_abs hW q1061) (by decide +kernel) rfl ⟨by show (lv - 1) + 1 ≤ lv; omega, by show 40 + 40 * (lv - 1) ≤ 40 * lv; omega⟩ ⟨by show ce + ((4 * R 5 (chh (R 5) i k) - 1).toNat) ≤ (4 * R 5 i - 1).toNat; first | omega | (simp; omega), by show sl + ((30 * R 5 (chh (R 5) i k) - 5).toNat) ≤ (30 * R 5 i - 5).toNat; first | omega | (simp; omega)⟩ hl.1 rfl (Nat.le_of_ble_eq_true rfl) dX12_copied_41 (fun v5 h5 n5 H locs hp5 hG hS => ?_)
        obtain ⟨adc2, rfl, hC2⟩ := hp5
        have hL2 := hC2.1.1 _ _ hL'
        have hA2 := hA'.sub hC2.1.1
        have hfc := hC2.1.2.2.2.2 (chh (R 5) i k) (Int.le_refl _) (by omega)
        have hkl : ((List.range k).map (fun (j : Nat) => adc (chh (R 5) i j))).length = k := by simp
        show W p l e (gR lv ((4 * R 5 i - 1).toNat) ((30 * R 5 i - 5).toNat)) s m args below meth c H locs (ce + ((4 * R 5 (chh (R 5) i k) - 1).toNat)) (sl + ((30 * R 5 (chh (R 5) i k) - 5).toNat)) Q (F0 m 44 ls [.ref (adc2 (chh (R 5) i k)), .ref n])
        refine g_callV (ci := 10) (rest := []) (k := 1) X hW hG hS hL2 rfl (gl_add l G A (lv - 1) h5 n5 n (1, 0) _ _ _ _ _ ((List.range k).map (fun (j : Nat) => adc (chh (R 5) i j))) k R adc2 (chh (R 5) i k) (1, 0) .null 0 (by omega) hL2 hA2 hC2.2.1 (by omega) (by decide) (by omega)) (lw_V q1077 q659 q660 q92 q661) (by decide +kernel) rfl ⟨by show (lv - 1) + 1 ≤ lv; omega, by show 8 + (2 + 11) + 40 * (lv - 1) ≤ 40 * lv; omega⟩ ⟨by show (ce + ((4 * R 5 (chh (R 5) i k) - 1).toNat)) + (alK (max k (((List.range k).map (fun (j : Nat) => adc (chh (R 5) i j))).length + 1)) - alK k) ≤ (4 * R 5 i - 1).toNat; rw [hkl, show max k (k + 1) = k + 1 by omega]; omega, by show (sl + ((30 * R 5 (chh (R 5) i k) - 5).toNat)) + (alS (max k (((List.range k).map (fun (j : Nat) => adc (chh (R 5) i j))).length + 1)) - alS k) ≤ (30 * R 5 i - 5).toNat; rw [hkl, show max k (k + 1) = k + 1 by omega]; omega⟩ hl.1 rfl (Nat.le_of_ble_eq_true rfl) dX12_copied_44 (fun v6 h6 n6 H locs hp6 hG hS => ?_)
        obtain ⟨rfl, hD, hn3⟩ := hp6
        obtain ⟨hC3, hL3⟩ := copy_step hT hTI h0 hn hw (by omega) hc0 hC1 hL' hA' hC2 hD hn3 (fun a x hx => hG0.lt hx) (by omega)
        show W p l e (gR lv ((4 * R 5 i - 1).toNat) ((30 * R 5 i - 5).toNat)) s m args below meth c H locs (ce + ((4 * R 5 (chh (R 5) i k) - 1).toNat) + (alK (max k (((List.range k).map (fun (j : Nat) => adc (chh (R 5) i j))).length + 1)) - alK k)) (sl + ((30 * R 5 (chh (R 5) i k) - 5).toNat) + (alS (max k (((List.range k).map (fun (j : Nat) => adc (chh (R 5) i j))).length + 1)) - alS k)) Q (F0 m 47 ls [])
        refine i_inc (lv' := [(2, .int (iI ((k : Int) + 1))), (0, .ref (ad i)), (1, .ref n)]) X dX12_copied_47 hl (k := 2) rfl (by decide) rfl (fun ls hl => ?_)
        refine lv_goto (tgt := 18) X.1 X.2.1 dX12_copied_50 (by decide) ?_
        have ec : chh (R 5) i (k + 1) = chh (R 5) i k + R 5 (chh (R 5) i k) := rfl
        exact ih18 (k + 1) h6 n6 _ _ (fun z => if chh (R 5) i k ≤ z then adc2 z else adc z) (by omega) (by rw [if_neg (by omega)]; exact hc0) hC3 hL3 (by rw [← chs_step (fun j hj => hT.ch_lt h0 hn hw k j hj (by omega))]; have h9 := hD.1; rw [hkl, show max k (k + 1) = k + 1 by omega] at h9; exact h9) (by have := hC2.1.2.1; omega) (by rw [hkl, show max k (k + 1) = k + 1 by omega, ec]; omega) (by rw [hkl, show max k (k + 1) = k + 1 by omega, ec]; omega) (by omega) H locs ls hG hS (lv_sub hl [1, 2, 0] rfl)
  exact L18 _ 0 h3 (n + 1 + 1) _ _ (fun _ => n) (by omega) rfl ⟨hs2, by omega, fun q h1 h2 => absurd h2 (by show ¬ q < i + 1; omega), fun x y h1 h2 h3 h4 _ => by have e0 : chh (R 5) i 0 = i + 1 := rfl; omega, fun q h1 h2 => ⟨Nat.le_refl _, by show n < n + 1 + 1; omega⟩⟩ hIn hAn (by omega) (by show 1 + 1 ≤ 2 + 0 + _; omega) (by show 6 + 3 ≤ 9 + 0 + _; omega) (Nat.lt_succ_self _) H locs ls hG hS (lv_sub hl [2, 1, 0] rfl)

theorem vi_copied (l : Launch) (G : gEnv) (A : Nat → Prop) (R : FF) (ad : Int → Nat) (tg : gT) (inp : Int → Value) (num : Int → Int) (ins : Int → Int) (nn : Int) (hT : TW nn (R 0) (R 5) (R 6)) (hTI : TI nn (R 0) (R 5) (R 6) ins) : ∀ (N : Nat) (i : Int) (lv : Nat) (h : gH) (n : Nat), R 5 i < N → 0 ≤ i → i < nn → TR G h R ad tg inp num i (i + R 5 i) → 11 + R 5 i ≤ lv → gVC l ⟨RX11, "copied", "()LMacroGlass$Item;"⟩ G A lv (4 * R 5 i - 1).toNat (30 * R 5 i - 5).toNat (ad i) [] h n (fun v h' n' => ∃ adc : Int → Nat, v = some (.ref (adc i)) ∧ CPD G h h' R ins adc i n n') := by
  intro N
  induction N with
  | zero => intro i lv h n hN h0 hn; have := hT.r h0 hn; omega
  | succ N ih =>
    intro i lv h n hN h0 hn hTR hlv
    have hr := hT.r h0 hn
    have hI := hTR i (Int.le_refl _) (by omega)
    rcases hI.cs (hT.w h0 hn).1 with ⟨z, e⟩ | ⟨z, e⟩ | ⟨z, e, hA⟩
    · have hr1 := (hT.leaf h0 hn (by omega)).1
      refine ⟨_, 11, _, _, yX13_copied, _, 1, _, e, rfl, ?_, q1079, q1073, q93, q1074, by decide⟩
      exact gC.room (gw_copied l G A lv h n R ad tg _ _ i ins (by omega) z hr1 e) (by omega) (by omega)
    · have hr1 := (hT.leaf h0 hn (by omega)).1
      refine ⟨_, 12, _, _, yX14_copied, _, 1, _, e, rfl, ?_, q1078, q1069, q94, q1070, by decide⟩
      exact gC.room (gn_copied l G A lv h n R ad tg _ _ i ins (by omega) z hr1 e) (by omega) (by omega)
    · refine ⟨_, 10, _, _, yX12_copied, _, 3, _, e, rfl, gl_copied l G A lv h n R ad tg _ _ i ins nn (by omega) hT h0 hn z hTI e hA ?_ ?_, q1063, q1064, q92, q1065, by decide⟩
      · intro j hj
        have k := hT.kid h0 hn z hj
        exact ⟨_, _, hTR _ (by omega) (by omega)⟩
      · intro k hk h1 n1 hs
        have kd := hT.kid h0 hn z hk
        exact ih _ _ h1 n1 (by omega) (by omega) (by omega) (fun q x y => (hTR q (by omega) (by omega)).sub hs) (by omega)
