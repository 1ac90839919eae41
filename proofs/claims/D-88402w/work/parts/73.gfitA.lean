/-! ===== what fits, laid down ===== -/
set_option maxRecDepth 100000
set_option maxHeartbeats 4000000 in
/-- a new fit -/
theorem gf_init (l : Launch) (G : gEnv) (A : Nat → Prop) (lv : Nat) (h : gH) (n : Nat) (a : Nat) (tg : gT) (w0 : Int) (hlv : 4 ≤ lv) (hI : h a = some (tg, .inr (14, [.long (lI (0)), .null]))) : gC l yX16_init cX16_init 3 none G A lv 1 3 [.ref a, .long (lI (w0))] h (a + 1) (fun v h' n' => v = none ∧ n' = a + 1 + 1 ∧ h' a = some (tg, .inr (14, [.long (lI (w0)), .ref (a + 1)])) ∧ AL G h' (a + 1) [] 0 ∧ ∀ q, q ≠ a → q ≠ a + 1 → h' q = h q) := by
  refine gC_ofV RX16 (by decide +kernel) rfl (Nat.le_of_ble_eq_true rfl) ?_
  intro p e s m args below meth c Q X hinit hW ret H locs ls hG hS hl
  have hl : lv_has ls 3 [(0, .ref a), (1, .long (lI (w0)))] := hl
  refine lv_aload_n X.1 X.2.1 dX16_init_0 rfl (lv_at hl 0 rfl) ?_
  refine W.objInit X.1 X.2.1 X.2.2.2.1 (X.2.2.2.2 _ q911) (X.2.2.2.2 _ q106) (X.2.2.2.2 _ q107) rfl (hl.1.trans X.2.2.1.symm) rfl dX16_init_1 (by show 1 ≤ lv; omega) (by show 2 * 0 + 0 + 12 ≤ 40 * lv; omega) ?_
  show W p l e (gR lv 1 3) s m args below meth c H locs 0 0 Q (F0 m 4 ls [])
  refine lv_aload_n X.1 X.2.1 dX16_init_4 rfl (lv_at hl 0 rfl) ?_
  have hGo := hG
  refine n_new (ci := 17) (fs := [.int (iI (0)), .null, .int (iI (0))]) X in_J2 tyJ2 tyJ2_ok q912 q109 q69 hW hG hS rfl (2, 0) (by decide +kernel) (by show 0 + 1 ≤ 1; omega) (by show 0 + 3 ≤ 3; omega) dX16_init_5 (fun H hG hS => ?_)
  obtain ⟨h2, eh2⟩ : ∃ hz, hz = va_up h (a + 1) (some ((2, 0), .inr (17, [.int (iI (0)), .null, .int (iI (0))]))) := ⟨_, rfl⟩
  rw [← eh2] at hG
  have f2_a : h2 a = some (tg, .inr (14, [.long (lI (0)), .null])) := by rw [eh2, up_n (by omega)]; exact hI
  have f2_a1 : h2 (a + 1) = some ((2, 0), .inr (17, [.int (iI (0)), .null, .int (iI (0))])) := by rw [eh2]; exact up_s _ _ _
  have ehn := eh2
  refine lv_dup X.1 X.2.1 dX16_init_8 rfl ?_
  refine g_callI (rest := [.ref (a + 1), .ref a]) (k := 0) X hW hG hS (al_init l G A (lv - 1) h2 (a + 1 + 1) (a + 1) (2, 0) (by omega) f2_a1) q913 q111 q69 (lw_meth q112) rfl (by decide +kernel) rfl ⟨by show (lv - 1) + 1 ≤ lv; omega, by show 8 + (1 + 11) + 40 * (lv - 1) ≤ 40 * lv; omega⟩ ⟨by show 1 + 0 ≤ 1; omega, by show 3 + 0 ≤ 3; omega⟩ hl.1 rfl (Nat.le_of_ble_eq_true rfl) dX16_init_9 (fun v3 h3 n3 H locs hp3 hG hS => ?_)
  obtain ⟨rfl, ehz, hn1⟩ := hp3
  rw [hn1] at hG
  have hI3 : h3 a = some (tg, .inr (14, [.long (lI (0)), .null])) := by rw [ehz, up_n (by omega)]; exact f2_a
  have hA3 : h3 (a + 1) = some ((2, 0), .inr (17, [.int (iI (0)), .ref (G.2.2.1 0), .int (iI (0))])) := by rw [ehz]; exact up_s _ _ _
  show W p l e (gR lv 1 3) s m args below meth c H locs 1 3 Q (F0 m 12 ls [.ref (a + 1), .ref a])
  refine n_putF (ci := 14) X in_X16 tyX16 tyX16_ok nmX16 hW hG hS hI3 rfl 1 (by decide) q916 (fun _ h => h) rfl hinit rfl rfl rfl (Nat.le_of_ble_eq_true rfl) (fs' := [.long (lI (0)), .ref (a + 1)]) rfl dX16_init_12 (fun H locs hG hS => ?_)
  obtain ⟨h4, eh4⟩ : ∃ hz, hz = va_up h3 a (some (tg, .inr (14, [.long (lI (0)), .ref (a + 1)]))) := ⟨_, rfl⟩
  rw [← eh4] at hG
  have f4_a1 : h4 (a + 1) = some ((2, 0), .inr (17, [.int (iI (0)), .ref (G.2.2.1 0), .int (iI (0))])) := by rw [eh4, up_n (by omega)]; exact hA3
  have f4_a : h4 a = some (tg, .inr (14, [.long (lI (0)), .ref (a + 1)])) := by rw [eh4]; exact up_s _ _ _
  have ehq := eh4
  refine lv_aload_n X.1 X.2.1 dX16_init_15 rfl (lv_at hl 0 rfl) ?_
  refine lv_lload_n X.1 X.2.1 dX16_init_16 rfl (lv_at hl 1 rfl) ?_
  refine n_putF (ci := 14) X in_X16 tyX16 tyX16_ok nmX16 hW hG hS f4_a rfl 0 (by decide) q914 (fun _ h => h) rfl hinit rfl rfl rfl (Nat.le_of_ble_eq_true rfl) (fs' := [.long (lI (w0)), .ref (a + 1)]) rfl dX16_init_17 (fun H locs hG hS => ?_)
  obtain ⟨h5, eh5⟩ : ∃ hz, hz = va_up h4 a (some (tg, .inr (14, [.long (lI (w0)), .ref (a + 1)]))) := ⟨_, rfl⟩
  rw [← eh5] at hG
  have f5_a1 : h5 (a + 1) = some ((2, 0), .inr (17, [.int (iI (0)), .ref (G.2.2.1 0), .int (iI (0))])) := by rw [eh5, up_n (by omega)]; exact f4_a1
  have f5_a : h5 a = some (tg, .inr (14, [.long (lI (w0)), .ref (a + 1)])) := by rw [eh5]; exact up_s _ _ _
  refine ret _ _ _ _ _ _ _ _ ?_ (by show 1 ≤ 1; omega) (by show 3 ≤ 3; omega) hG hS dX16_init_20
  refine ⟨rfl, rfl, f5_a, ⟨(2, 0), 0, G.2.2.1 0, ?_, ⟨by decide, fun z => absurd z (Nat.lt_irrefl _)⟩, Nat.le_refl _, by omega, Or.inl ⟨rfl, rfl⟩, fun x hx => by cases hx⟩, fun q h1 h2 => ?_⟩
  · exact f5_a1
  · rw [eh5, up_n h1, ehq, up_n h1, ehz, up_n h2, ehn, up_n h2]

set_option maxHeartbeats 4000000 in
theorem gpv_fitsA (l : Launch) (G : gEnv) (A : Nat → Prop) (lv : Nat) (h : gH) (n : Nat) (S : MSt) (ad ap : Int → Nat) (b E q t : Int) (h0 : gH) (fl : Nat) (xs : List Nat) (q0 : Nat) (hlv : 9 ≤ lv) (hV : LV G h0 S ad) (hC : PCX G h0 S ap b E) (hs : gSub h0 h) (hlt : ∀ (a : Nat) (x : gE), h0 a = some x → a < fl) (hA : AL G h fl xs q0) (hq : b ≤ q ∧ q < E) (ht : 0 ≤ t ∧ t < S.1 40) (hk : S.2 34 q = 6) (hq2 : q0 < 2000) : gC l yX7_fits cX7_fits 4 (some .boolean) G A lv (3 + (alK (max q0 (xs.length + 1)) - alK q0)) (15 + (alS (max q0 (xs.length + 1)) - alS q0)) [.ref (ap q), .ref (ad t), .ref fl] h n (FAQ G S ad fl xs q0 (spF1 S q t) h n) := by
  refine gC_ofI RX7 (by decide +kernel) rfl (Nat.le_of_ble_eq_true rfl) ?_
  intro p e s m args below meth c Q X hW ret H locs ls hG hS hl
  have hl : lv_has ls 4 [(0, .ref (ap q)), (1, .ref (ad t)), (2, .ref fl)] := hl
  obtain ⟨⟨pl, hpl, hI0⟩, hAp⟩ := hC.1 q hq.1 hq.2
  have hok := hC.2 q hq.1 hq.2
  have hIt := (hV.it ht.1 ht.2).sub hs
  have hwt := hV.1.1.w ht.1 ht.2
  have hrt := hV.1.1.r ht.1 ht.2
  have hkt := hV.2.2.2 t ht.1 ht.2
  have hgt := hV.1.2.2 t ht.1 ht.2
  have hVh := hV.sub hs
  obtain ⟨tgF, moF, dF, hLF, hFr⟩ := id hA
  have hqq := hA.q
  have hnl := hG.lt hLF
  rw [paE6 (P := pwS S) hk] at hI0
  have hI : h (ap q) = some ((3, 0), .inr (6, [.int (iI pl), .long (lI (gLt (S.2 35 q))), .int (iI 0)])) := hs _ _ hI0
  have hG0 := hG
  refine lv_aload_n X.1 X.2.1 dX7_fits_0 rfl (lv_at hl 2 rfl) ?_
  refine lv_ifnull X.1 X.2.1 dX7_fits_1 ?_
  have hGo := hG
  refine n_new (ci := 14) (fs := [.long (lI (0)), .null]) X in_X16 tyX16 tyX16_ok q946 q907 q97 hW hG hS rfl (6, 0) (by decide +kernel) (by show 0 + 1 ≤ 3 + (alK (max q0 (xs.length + 1)) - alK q0); omega) (by show 0 + 2 ≤ 15 + (alS (max q0 (xs.length + 1)) - alS q0); omega) dX7_fits_4 (fun H hG hS => ?_)
  obtain ⟨h2, eh2⟩ : ∃ hz, hz = va_up h n (some ((6, 0), .inr (14, [.long (lI (0)), .null]))) := ⟨_, rfl⟩
  rw [← eh2] at hG
  have f2_apq : h2 (ap q) = some ((3, 0), .inr (6, [.int (iI (pl)), .long (lI (gLt (S.2 35 q))), .int (iI (0))])) := by rw [eh2, up_n (Nat.ne_of_lt (hGo.lt hI))]; exact hI
  have f2_n : h2 n = some ((6, 0), .inr (14, [.long (lI (0)), .null])) := by rw [eh2]; exact up_s _ _ _
  refine lv_dup X.1 X.2.1 dX7_fits_7 rfl ?_
  refine lv_aload_n X.1 X.2.1 dX7_fits_8 rfl (lv_at hl 0 rfl) ?_
  refine n_get (ci := 6) X in_X7 hW hG f2_apq rfl 1 (by decide) q521 (fun _ h => h) rfl dX7_fits_9 ?_
  refine g_callI (rest := [.ref n]) (k := 1) X hW hG hS (gf_init l G A (lv - 1) h2 0 n (6, 0) (gLt (S.2 35 q)) (by omega) f2_n) q947 q909 q97 (lw_meth q910) rfl (by decide +kernel) rfl ⟨by show (lv - 1) + 1 ≤ lv; omega, by show 8 + (3 + 11) + 40 * (lv - 1) ≤ 40 * lv; omega⟩ ⟨by show 1 + 1 ≤ 3 + (alK (max q0 (xs.length + 1)) - alK q0); omega, by show 2 + 3 ≤ 15 + (alS (max q0 (xs.length + 1)) - alS q0); omega⟩ hl.1 rfl (Nat.le_of_ble_eq_true rfl) dX7_fits_12 (fun v3 h3 n3 H locs hp3 hG hS => ?_)
  obtain ⟨rfl, hn1, hF1, hAi, hq9⟩ := hp3
  rw [hn1] at hG
  obtain ⟨tgI, moI, dI, hLi, hIr⟩ := id hAi
  have hs1 : gSub h h3 := fun x y e9 => by have := hG0.lt e9; rw [hq9 x (by omega) (by omega), eh2, up_n (by omega)]; exact e9
  have hE1 : gObj h3 (ad t) := (hIt.sub hs1).obj
  show W p l e (gR lv (3 + (alK (max q0 (xs.length + 1)) - alK q0)) (15 + (alS (max q0 (xs.length + 1)) - alS q0))) s m args below meth c H locs 2 5 Q (F0 m 15 ls [.ref n])
  refine lv_astore_n (lv' := [(3, .ref n), (0, .ref (ap q)), (1, .ref (ad t)), (2, .ref fl)]) X.1 X.2.1 dX7_fits_15 rfl hl (by decide) rfl (fun ls hl => ?_)
  refine lv_aload_n X.1 X.2.1 dX7_fits_16 rfl (lv_at hl 0 rfl) ?_
  refine n_getN (ci := 14) X in_X16 hW hG hF1 rfl 1 (by decide) q917 (fun _ h => h) rfl dX7_fits_17 ?_
  refine lv_aload_n X.1 X.2.1 dX7_fits_20 rfl (lv_at hl 2 rfl) ?_
  refine g_callV (ci := 17) (rest := []) (k := 1) X hW hG hS hLi rfl (al_add l G A (lv - 1) h3 (n + 1 + 1) (n + 1) [] 0 (ad t) (by omega) hAi hE1 (by omega)) (lw_V q752 q451 q452 q69 q453) (by decide +kernel) rfl ⟨by show (lv - 1) + 1 ≤ lv; omega, by show 8 + (2 + 11) + 40 * (lv - 1) ≤ 40 * lv; omega⟩ ⟨by show 2 + 1 ≤ 3 + (alK (max q0 (xs.length + 1)) - alK q0); omega, by show 5 + 10 ≤ 15 + (alS (max q0 (xs.length + 1)) - alS q0); omega⟩ hl.1 rfl (Nat.le_of_ble_eq_true rfl) dX7_fits_21 (fun v4 h4 n4 H locs hp4 hG hS => ?_)
  obtain ⟨rfl, hAi2, hx2, hc2, hn2⟩ := hp4
  have hF2 := hx2 _ _ _ hF1 (by omega) (Or.inl (by intro z; cases z))
  have hs2 : gSub h h4 := fun x y e9 => by
    have := hG0.lt e9
    obtain ⟨yt, ye⟩ := y
    exact hx2 x yt ye (hs1 x _ e9) (by omega) (Or.inr (by omega))
  have hAf := hA.sub hs2
  obtain ⟨tgG, moG, dG, hLF2, hGr⟩ := id hAf
  have hE2 : gObj h4 n := ⟨_, _, _, hF2⟩
  have hFit : FIT G h4 S ad fl n (q, t, t + S.2 46 t) := ⟨hF2, ⟨_, by show AL G _ (n + 1) ((rts (S.2 46) (499 + 2) t (t + S.2 46 t)).map ad) _; rw [rts_one (by omega)]; exact hAi2⟩, by omega⟩
  show W p l e (gR lv (3 + (alK (max q0 (xs.length + 1)) - alK q0)) (15 + (alS (max q0 (xs.length + 1)) - alS q0))) s m args below meth c H locs 3 15 Q (F0 m 24 ls [.int (iI (1))])
  refine lv_pop X.1 X.2.1 dX7_fits_24 rfl ?_
  refine lv_aload_n X.1 X.2.1 dX7_fits_25 rfl (lv_at hl 3 rfl) ?_
  refine lv_aload_n X.1 X.2.1 dX7_fits_26 rfl (lv_at hl 0 rfl) ?_
  refine g_callV (ci := 17) (rest := []) (k := 1) X hW hG hS hLF2 rfl (al_add l G A (lv - 1) h4 n4 fl xs q0 n (by omega) hAf hE2 (by omega)) (lw_V q752 q451 q452 q69 q453) (by decide +kernel) rfl ⟨by show (lv - 1) + 1 ≤ lv; omega, by show 8 + (2 + 11) + 40 * (lv - 1) ≤ 40 * lv; omega⟩ ⟨by show 3 + ((alK (max q0 (xs.length + 1)) - alK q0)) ≤ 3 + (alK (max q0 (xs.length + 1)) - alK q0); omega, by show 15 + ((alS (max q0 (xs.length + 1)) - alS q0)) ≤ 15 + (alS (max q0 (xs.length + 1)) - alS q0); omega⟩ hl.1 rfl (Nat.le_of_ble_eq_true rfl) dX7_fits_27 (fun v5 h5 n5 H locs hp5 hG hS => ?_)
  obtain ⟨rfl, hA3, hx3, hc3, hn3⟩ := hp5
  show W p l e (gR lv (3 + (alK (max q0 (xs.length + 1)) - alK q0)) (15 + (alS (max q0 (xs.length + 1)) - alS q0))) s m args below meth c H locs (3 + ((alK (max q0 (xs.length + 1)) - alK q0))) (15 + ((alS (max q0 (xs.length + 1)) - alS q0))) Q (F0 m 30 ls [.int (iI (1))])
  refine lv_pop X.1 X.2.1 dX7_fits_30 rfl ?_
  refine lv_iconst (v := iI (1)) X.1 X.2.1 dX7_fits_31 rfl ?_
  refine ret _ _ _ _ _ _ _ _ _ ?_ (nar_b (by omega)) (by show 3 + ((alK (max q0 (xs.length + 1)) - alK q0)) ≤ 3 + (alK (max q0 (xs.length + 1)) - alK q0); omega) (by show 15 + ((alS (max q0 (xs.length + 1)) - alS q0)) ≤ 15 + (alS (max q0 (xs.length + 1)) - alS q0); omega) hG hS dX7_fits_32
  refine ⟨rfl, ⟨[n], hA3, ?_⟩, hs2.ext2 hx3, (hs2.cls).trans hc3, by omega⟩
  rw [show spF1 S q t = [(q, t, t + S.2 46 t)] from if_pos hk]
  exact FL.one (hFit.ext hAf hx3 hc3)

set_option maxHeartbeats 4000000 in
/-- the rest of a list of items -/
theorem gp_rest (l : Launch) (G : gEnv) (A : Nat → Prop) (lv : Nat) (h : gH) (n : Nat) (S : MSt) (ad ap : Int → Nat) (b E q i : Int) (at0 fl : Nat) (hlv : 9 ≤ lv) (hV : LV G h S ad) (hC : PCX G h S ap b E) (hq : b ≤ q ∧ q < E) (hk : S.2 34 q = 7) (h0 : 0 ≤ i) (hn : i < S.1 40) (hw : 2 ≤ S.2 41 i) (hat : (at0 : Int) ≤ S.2 47 i) (hfl : fl < n) : gC l yX5_rest cX5_rest 5 (some (FieldType.object "MacroGlass$Fit")) G A lv (2 + alK (S.2 47 i - (at0 : Int)).toNat) (5 + alS (S.2 47 i - (at0 : Int)).toNat) [.ref (ap q), .ref (ad i), .int (iI ((at0 : Int)))] h n (fun v h' n' => v = some (.ref n) ∧ gSub h h' ∧ FIT G h' S ad fl n (q, chh (S.2 46) i at0, i + S.2 46 i) ∧ n ≤ n') := by
  refine gC_ofA (Or.inl ⟨_, rfl⟩) RX5 (by decide +kernel) rfl (Nat.le_of_ble_eq_true rfl) ?_
  intro p e s m args below meth c Q X hW ret H locs ls hG hS hl
  have hl : lv_has ls 5 [(0, .ref (ap q)), (1, .ref (ad i)), (2, .int (iI ((at0 : Int))))] := hl
  obtain ⟨⟨pl, hpl, hI0⟩, hAp⟩ := hC.1 q hq.1 hq.2
  rw [paE7 (P := pwS S) hk] at hI0
  have hI : h (ap q) = some ((3, 0), .inr (6, [.int (iI pl), .long (lI (gLt (S.2 35 q))), .int (iI 1)])) := hI0
  have hT := hV.1.1
  have hp := hT.p h0 hn
  have hlen : ((chs (rwS S) ad i).length : Int) = S.2 47 i := by rw [chs_len]; show ((S.2 47 i).toNat : Int) = _; omega
  have hG0 := hG
  have hGo := hG
  refine n_new (ci := 14) (fs := [.long (lI (0)), .null]) X in_X16 tyX16 tyX16_ok q906 q907 q97 hW hG hS rfl (6, 0) (by decide +kernel) (by show 0 + 1 ≤ 2 + alK (S.2 47 i - (at0 : Int)).toNat; first | omega | (rw [hmx]; omega)) (by show 0 + 2 ≤ 5 + alS (S.2 47 i - (at0 : Int)).toNat; first | omega | (rw [hmx]; omega)) dX5_rest_0 (fun H hG hS => ?_)
  obtain ⟨h2, eh2⟩ : ∃ hz, hz = va_up h n (some ((6, 0), .inr (14, [.long (lI (0)), .null]))) := ⟨_, rfl⟩
  rw [← eh2] at hG
  have f2_apq : h2 (ap q) = some ((3, 0), .inr (6, [.int (iI (pl)), .long (lI (gLt (S.2 35 q))), .int (iI (1))])) := by rw [eh2, up_n (Nat.ne_of_lt (hGo.lt hI))]; exact hI
  have f2_n : h2 n = some ((6, 0), .inr (14, [.long (lI (0)), .null])) := by rw [eh2]; exact up_s _ _ _
  refine lv_dup X.1 X.2.1 dX5_rest_3 rfl ?_
  refine lv_aload_n X.1 X.2.1 dX5_rest_4 rfl (lv_at hl 0 rfl) ?_
  refine n_get (ci := 6) X in_X7 hW hG f2_apq rfl 1 (by decide) q524 (fun _ h => h) rfl dX5_rest_5 ?_
  refine g_callI (rest := [.ref n]) (k := 1) X hW hG hS (gf_init l G A (lv - 1) h2 0 n (6, 0) (gLt (S.2 35 q)) (by omega) f2_n) q908 q909 q97 (lw_meth q910) rfl (by decide +kernel) rfl ⟨by show (lv - 1) + 1 ≤ lv; omega, by show 8 + (3 + 11) + 40 * (lv - 1) ≤ 40 * lv; omega⟩ ⟨by show 1 + 1 ≤ 2 + alK (S.2 47 i - (at0 : Int)).toNat; first | omega | (rw [hmx]; omega), by show 2 + 3 ≤ 5 + alS (S.2 47 i - (at0 : Int)).toNat; first | omega | (rw [hmx]; omega)⟩ hl.1 rfl (Nat.le_of_ble_eq_true rfl) dX5_rest_8 (fun v3 h3 n3 H locs hp3 hG hS => ?_)
  obtain ⟨rfl, hn1, hF1, hAi, hq9⟩ := hp3
  rw [hn1] at hG
  have hs1 : gSub h h3 := fun x y e9 => by have := hG0.lt e9; rw [hq9 x (by omega) (by omega), eh2, up_n (by omega)]; exact e9
  show W p l e (gR lv (2 + alK (S.2 47 i - (at0 : Int)).toNat) (5 + alS (S.2 47 i - (at0 : Int)).toNat)) s m args below meth c H locs 2 5 Q (F0 m 11 ls [.ref n])
  refine lv_astore_n (lv' := [(3, .ref n), (0, .ref (ap q)), (1, .ref (ad i)), (2, .int (iI ((at0 : Int))))]) X.1 X.2.1 dX5_rest_11 rfl hl (by decide) rfl (fun ls hl => ?_)
  refine lv_iload_n X.1 X.2.1 dX5_rest_12 rfl (lv_at hl 3 rfl) ?_
  refine lv_istore (lv' := [(4, .int (iI ((at0 : Int)))), (3, .ref n), (0, .ref (ap q)), (1, .ref (ad i)), (2, .int (iI ((at0 : Int))))]) X.1 X.2.1 dX5_rest_13 hl (by decide) rfl (fun ls hl => ?_)
  have L15 : ∀ (N15 : Nat) (g1 : gH) (n1 m9 cz sz : Nat), (((at0 + m9 : Nat) : Int) ≤ S.2 47 i) → (gSub h g1) → (g1 n = some ((6, 0), .inr (14, [.long (lI (gLt (S.2 35 q))), .ref (n + 1)]))) → (AL G g1 (n + 1) ((List.range m9).map (fun (k : Nat) => ad (chh (S.2 46) i (at0 + k)))) m9) → (cz ≤ 2 + alK m9 ∧ sz ≤ 5 + alS m9) → (n < n1) → (S.2 47 i).toNat - m9 < N15 → ∀ (H : Heap) (locs : List Loc) (ls : Array Slot), gOn G.1 A g1 n1 H → va_S A s.heap H locs → lv_has ls 5 [(0, .ref (ap q)), (1, .ref (ad i)), (3, .ref n), (4, .int (iI (((at0 + m9 : Nat) : Int))))] → W p l e (gR lv (2 + alK (S.2 47 i - (at0 : Int)).toNat) (5 + alS (S.2 47 i - (at0 : Int)).toNat)) s m args below meth c H locs cz sz Q (F0 m 15 ls []) := by
    intro N15
    induction N15 with
    | zero => intro g1 n1 m9 cz sz hm hs1 hF1 hAi hcz hnn1 hN; exact absurd hN (Nat.not_lt_zero _)
    | succ N15 ih15 =>
      intro g1 n1 m9 cz sz hm hs1 hF1 hAi hcz hnn1 hN15 H locs ls hG hS hl
      have hV2 := hV.sub hs1
      obtain ⟨hIi, hA2⟩ := hV2.lst h0 hn hw
      obtain ⟨tgA, moA, dA, hLA, hAr⟩ := id hA2
      obtain ⟨tgI, moI, dI, hLi, hIr⟩ := id hAi
      have hmo := alK_mono (a := m9) (b := m9 + 1) (by omega)
      have hmo2 := alK_mono (a := m9 + 1) (b := (S.2 47 i - (at0 : Int)).toNat)
      have hmo3 := alK_mono (a := m9) (b := (S.2 47 i - (at0 : Int)).toNat) (by omega)
      have hxl : ((List.range m9).map (fun (k : Nat) => ad (chh (S.2 46) i (at0 + k)))).length = m9 := by simp
      refine lv_iload X.1 X.2.1 dX5_rest_15 (lv_at hl 3 rfl) ?_
      refine lv_aload_n X.1 X.2.1 dX5_rest_17 rfl (lv_at hl 1 rfl) ?_
      refine n_getN (ci := 10) X in_X12 hW hG hIi rfl 4 (by decide) q594 (fun _ h => h) rfl dX5_rest_18 ?_
      refine g_callV (ci := 17) (rest := [.int (iI (((at0 + m9 : Nat) : Int)))]) (k := 0) X hW hG hS hLA rfl (al_size l G A (lv - 1) g1 n1 (ad i + 1) (chs (rwS S) ad i) (S.2 47 i).toNat hA2) (lw_V q738 q323 q324 q69 q325) (by decide +kernel) rfl ⟨by show (lv - 1) + 1 ≤ lv; omega, by show 8 + (1 + 11) + 40 * (lv - 1) ≤ 40 * lv; omega⟩ ⟨by show cz + 0 ≤ 2 + alK (S.2 47 i - (at0 : Int)).toNat; first | omega | (rw [hmx]; omega), by show sz + 0 ≤ 5 + alS (S.2 47 i - (at0 : Int)).toNat; first | omega | (rw [hmx]; omega)⟩ hl.1 rfl (Nat.le_of_ble_eq_true rfl) dX5_rest_21 (g_pk (fun H locs hG hS => ?_))
      show W p l e (gR lv (2 + alK (S.2 47 i - (at0 : Int)).toNat) (5 + alS (S.2 47 i - (at0 : Int)).toNat)) s m args below meth c H locs cz sz Q (F0 m 24 ls [.int (iI (((chs (rwS S) ad i).length : Int))), .int (iI (((at0 + m9 : Nat) : Int)))])
      refine i_icmp_ge X 53 dX5_rest_24 (by decide) (by first | omega | (rw [hmx]; omega)) (by first | omega | (rw [hmx]; omega)) (fun c24 => ?_) (fun c24 => ?_)
      · refine lv_aload_n X.1 X.2.1 dX5_rest_53 rfl (lv_at hl 2 rfl) ?_
        refine ret _ _ _ _ _ _ _ _ _ ?_ (Or.inr ⟨_, rfl⟩) (by show cz ≤ 2 + alK (S.2 47 i - (at0 : Int)).toNat; first | omega | (rw [hmx]; omega)) (by show sz ≤ 5 + alS (S.2 47 i - (at0 : Int)).toNat; first | omega | (rw [hmx]; omega)) hG hS dX5_rest_54
        refine ⟨rfl, hs1, ⟨hF1, ⟨m9, ?_⟩, hfl⟩, by omega⟩
        have hr9 := rts_part hT h0 hn hw m9 at0 hat (by omega) 501 (by omega)
        show AL G _ (n + 1) ((rts (S.2 46) 501 (chh (S.2 46) i at0) (i + S.2 46 i)).map ad) m9
        rw [hr9, List.map_map]
        exact hAi
      · have kd9 := hT.kid h0 hn hw (j := at0 + m9) (by omega)
        have hI9 := hV2.it (i := chh (S.2 46) i (at0 + m9)) (by omega) (by omega)
        have hE9 := hI9.obj
        have hmo4 := hmo2 (by omega)
        have hmx : max m9 (((List.range m9).map (fun (k : Nat) => ad (chh (S.2 46) i (at0 + k)))).length + 1) = m9 + 1 := by omega
        refine lv_aload_n X.1 X.2.1 dX5_rest_27 rfl (lv_at hl 2 rfl) ?_
        refine n_getN (ci := 14) X in_X16 hW hG hF1 rfl 1 (by decide) q918 (fun _ h => h) rfl dX5_rest_28 ?_
        refine lv_aload_n X.1 X.2.1 dX5_rest_31 rfl (lv_at hl 1 rfl) ?_
        refine n_getN (ci := 10) X in_X12 hW hG hIi rfl 4 (by decide) q594 (fun _ h => h) rfl dX5_rest_32 ?_
        refine lv_iload X.1 X.2.1 dX5_rest_35 (lv_at hl 3 rfl) ?_
        refine g_callV (ci := 17) (rest := [.ref (n + 1)]) (k := 1) X hW hG hS hLA rfl (al_get l G A (lv - 1) g1 n1 (ad i + 1) (chs (rwS S) ad i) (S.2 47 i).toNat ((at0 + m9 : Nat) : Int) (ad (chh (S.2 46) i (at0 + m9))) (by omega) hA2 (by omega) (by rw [Int.toNat_natCast]; exact hV.part (by omega))) (lw_V q739 q691 q692 q69 q693) (by decide +kernel) rfl ⟨by show (lv - 1) + 1 ≤ lv; omega, by show 8 + (2 + 11) + 40 * (lv - 1) ≤ 40 * lv; omega⟩ ⟨by show cz + 0 ≤ 2 + alK (S.2 47 i - (at0 : Int)).toNat; first | omega | (rw [hmx]; omega), by show sz + 0 ≤ 5 + alS (S.2 47 i - (at0 : Int)).toNat; first | omega | (rw [hmx]; omega)⟩ hl.1 rfl (Nat.le_of_ble_eq_true rfl) dX5_rest_37 (g_pk (fun H locs hG hS => ?_))
        show W p l e (gR lv (2 + alK (S.2 47 i - (at0 : Int)).toNat) (5 + alS (S.2 47 i - (at0 : Int)).toNat)) s m args below meth c H locs cz sz Q (F0 m 40 ls [.ref (ad (chh (S.2 46) i (at0 + m9))), .ref (n + 1)])
        refine it_cast X hW hG hI9.1 q924 dX5_rest_40 ?_
        refine g_callV (ci := 17) (rest := []) (k := 1) X hW hG hS hLi rfl (al_add l G A (lv - 1) g1 n1 (n + 1) ((List.range m9).map (fun (k : Nat) => ad (chh (S.2 46) i (at0 + k)))) m9 (ad (chh (S.2 46) i (at0 + m9))) (by omega) hAi hE9 (by omega)) (lw_V q925 q451 q452 q69 q453) (by decide +kernel) rfl ⟨by show (lv - 1) + 1 ≤ lv; omega, by show 8 + (2 + 11) + 40 * (lv - 1) ≤ 40 * lv; omega⟩ ⟨by show cz + (alK (max m9 (((List.range m9).map (fun (k : Nat) => ad (chh (S.2 46) i (at0 + k)))).length + 1)) - alK m9) ≤ 2 + alK (S.2 47 i - (at0 : Int)).toNat; first | omega | (rw [hmx]; omega), by show sz + (alS (max m9 (((List.range m9).map (fun (k : Nat) => ad (chh (S.2 46) i (at0 + k)))).length + 1)) - alS m9) ≤ 5 + alS (S.2 47 i - (at0 : Int)).toNat; first | omega | (rw [hmx]; omega)⟩ hl.1 rfl (Nat.le_of_ble_eq_true rfl) dX5_rest_43 (fun v4 h4 n4 H locs hp4 hG hS => ?_)
        obtain ⟨rfl, hA3, hx3, hc3, hn3⟩ := hp4
        show W p l e (gR lv (2 + alK (S.2 47 i - (at0 : Int)).toNat) (5 + alS (S.2 47 i - (at0 : Int)).toNat)) s m args below meth c H locs (cz + (alK (max m9 (((List.range m9).map (fun (k : Nat) => ad (chh (S.2 46) i (at0 + k)))).length + 1)) - alK m9)) (sz + (alS (max m9 (((List.range m9).map (fun (k : Nat) => ad (chh (S.2 46) i (at0 + k)))).length + 1)) - alS m9)) Q (F0 m 46 ls [.int (iI (1))])
        refine lv_pop X.1 X.2.1 dX5_rest_46 rfl ?_
        refine i_inc (lv' := [(4, .int (iI (((at0 + m9 : Nat) : Int) + 1))), (0, .ref (ap q)), (1, .ref (ad i)), (3, .ref n)]) X dX5_rest_47 hl (k := 3) rfl (by decide) rfl (fun ls hl => ?_)
        refine lv_goto (tgt := 15) X.1 X.2.1 dX5_rest_50 (by decide) ?_
        have hF4 := hx3 _ _ _ hF1 (by omega) (Or.inl (by intro z; cases z))
        have hs4 : gSub h _ := fun x y e9 => by
          have := hG0.lt e9
          obtain ⟨yt, ye⟩ := y
          exact hx3 x yt ye (hs1 x _ e9) (by omega) (Or.inr (by omega))
        have hA4 := hA3
        rw [hxl, show max m9 (m9 + 1) = m9 + 1 by omega, show ((List.range m9).map (fun (k : Nat) => ad (chh (S.2 46) i (at0 + k)))) ++ [ad (chh (S.2 46) i (at0 + m9))] = (List.range (m9 + 1)).map (fun (k : Nat) => ad (chh (S.2 46) i (at0 + k))) by rw [List.range_succ, List.map_append]; rfl] at hA4
        exact ih15 h4 n4 (m9 + 1) (cz + (alK (max m9 (((List.range m9).map (fun (k : Nat) => ad (chh (S.2 46) i (at0 + k)))).length + 1)) - alK m9)) (sz + (alS (max m9 (((List.range m9).map (fun (k : Nat) => ad (chh (S.2 46) i (at0 + k)))).length + 1)) - alS m9)) (by omega) hs4 hF4 hA4 (by rw [hxl] ; rw [show max m9 (m9 + 1) = m9 + 1 by omega]; omega) (by omega) (by omega) H locs ls hG hS (lv_sub hl [1, 2, 3, 0] rfl)
  exact L15 _ h3 (n + 1 + 1) 0 2 5 (by omega) hs1 hF1 hAi (by constructor <;> decide) (by omega) (Nat.lt_succ_self _) H locs ls hG hS (lv_sub hl [2, 3, 1, 0] rfl)

