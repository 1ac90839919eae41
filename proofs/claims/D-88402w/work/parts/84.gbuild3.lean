/-! ===== a template is built: names ===== -/
set_option maxRecDepth 100000
set_option maxHeartbeats 4000000 in
/-- a name of a template is built -/
theorem gbv_build (l : Launch) (G : gEnv) (A : Nat → Prop) (lv : Nat) (h : gH) (n : Nat) (S : MSt) (ad ap : Int → Nat) (b E t i : Int) (r bb : Nat) (ys : List Nat) (R : FF) (insR : Int → Int) (nn P : Int) (mx k : Nat) (h9 : gH) (nB : Nat) (adc : Int → Nat) (x0 x1 x2 x3 x5 : Value) (hlv : 520 ≤ lv) (hV : LV G h9 S ad) (hC : PCX G h9 S ap b E) (hB : BLD G h9 S ad bb ys (spTs S r i) (S.1 49 + 1) (bOwn S r i)) (hok : ∀ (j : Nat) (tr : Int × Int × Int), (spTs S r i)[j]? = some tr → wOk (S.2 35 tr.1)) (hPR : PR S r) (h0 : 0 ≤ i) (hn : i < S.1 40) (hw3 : S.2 41 i = 3) (hft : spFit S r i = true) (ht : b ≤ t ∧ t < E) (hT : TW nn (R 0) (R 5) (R 6)) (hTI : TI nn (R 0) (R 5) (R 6) insR) (hpos : POS R (fun q => if q = 0 then -1 else insR q) nn P mx) (hcs : CST G h9 h R (fun q => if q = 0 then -1 else insR q) adc P k nB n [x0, x1, x2, x3, .ref (nB + 1), x5]) (hlt : ∀ (a : Nat) (x : gE), h9 a = some x → a < nB) (hkm : k + (bNo S r i t).2.toNat ≤ mx) (hm : mx ≤ 600) (hrw : RWS R (chh (R 5) P k) (bNo S r i t).1) (hk : S.2 34 t = 6 ∨ S.2 34 t = 7) : gC l yX7_build cX7_build 5 none G A lv ((4 * ((bNo S r i t).1.length : Int) - (bNo S r i t).2).toNat + (alK (k + (bNo S r i t).2.toNat) - alK k)) ((30 * ((bNo S r i t).1.length : Int) - 5 * (bNo S r i t).2).toNat + (alS (k + (bNo S r i t).2.toNat) - alS k)) [.ref (ap t), .ref bb, .ref nB] h n (fun v h' n' => v = none ∧ (∃ adc', CST G h9 h' R (fun q => if q = 0 then -1 else insR q) adc' P (k + (bNo S r i t).2.toNat) nB n' [x0, x1, x2, x3, .ref (nB + 1), x5]) ∧ n ≤ n' ∧ chh (R 5) P (k + (bNo S r i t).2.toNat) = (chh (R 5) P k) + ((bNo S r i t).1.length : Int)) := by
  refine gC_ofV RX7 (by decide +kernel) rfl (Nat.le_of_ble_eq_true rfl) ?_
  intro p e s m args below meth c Q X hinit hW ret H locs ls hG hS hl
  have hl : lv_has ls 5 [(0, .ref (ap t)), (1, .ref bb), (2, .ref nB)] := hl
  obtain ⟨hcp, hc0, hnB, hLB, hAB⟩ := id hcs
  have hs9 := hcp.1
  obtain ⟨⟨pl, hpl, hI0⟩, -⟩ := hC.1 t ht.1 ht.2
  obtain ⟨fl, qf, hBb0, hAF0, hFL0⟩ := id hB
  have hBb := hs9 _ _ hBb0
  obtain ⟨tgA, moA, dA, hLA, hAr⟩ := id hAB
  have hxl : ((List.range k).map (fun (j : Nat) => adc (chh (R 5) P j))).length = k := by simp
  have hmx : max k (((List.range k).map (fun (j : Nat) => adc (chh (R 5) P j))).length + 1) = k + 1 := by omega
  have hmo := alK_mono (a := k) (b := k + 1) (by omega)
  have hG0 := hG
  have hokt := (hC.2 t ht.1 ht.2).1 (by omega)
  have hpl : pl = S.2 36 t := hpl (by show S.2 34 t ≠ 8; omega)
  obtain ⟨al0, hI1⟩ : ∃ al0 : Int, h9 (ap t) = some ((3, 0), .inr (6, [.int (iI pl), .long (lI (gLt (S.2 35 t))), .int (iI al0)])) := by
    rcases hk with hk | hk
    · rw [paE6 (P := pwS S) hk] at hI0; exact ⟨0, hI0⟩
    · rw [paE7 (P := pwS S) hk] at hI0; exact ⟨1, hI0⟩
  have hI := hs9 _ _ hI1
  have hnnS := hV.1.n
  refine lv_aload_n X.1 X.2.1 dX7_build_0 rfl (lv_at hl 1 rfl) ?_
  refine lv_aload_n X.1 X.2.1 dX7_build_1 rfl (lv_at hl 0 rfl) ?_
  refine n_get (ci := 6) X in_X7 hW hG hI rfl 1 (by decide) q521 (fun _ h => h) rfl dX7_build_2 ?_
  refine g_callV (ci := 15) (rest := []) (k := 1) X hW hG hS hBb rfl (gb_of l G A (lv - 1) h n S ad bb ys (spTs S r i) (S.1 49 + 1) (bOwn S r i) (S.2 35 t) (by omega) (hB.sub hs9) hokt hok) (lw_V q1010 q1011 q1012 q98 q1013) (by decide +kernel) rfl ⟨by show (lv - 1) + 1 ≤ lv; omega, by show 8 + (4 + 11) + 40 * (lv - 1) ≤ 40 * lv; omega⟩ ⟨by show 0 + 0 ≤ (4 * ((bNo S r i t).1.length : Int) - (bNo S r i t).2).toNat + (alK (k + (bNo S r i t).2.toNat) - alK k); first | omega | (rw [hmxj]; omega) | (rw [hmx, hr2]; omega), by show 0 + 0 ≤ (30 * ((bNo S r i t).1.length : Int) - 5 * (bNo S r i t).2).toNat + (alS (k + (bNo S r i t).2.toNat) - alS k); first | omega | (rw [hmxj]; omega) | (rw [hmx, hr2]; omega)⟩ hl.1 rfl (Nat.le_of_ble_eq_true rfl) dX7_build_5 (fun v1 h1 n1 H locs hp1 hG hS => ?_)
  obtain ⟨o, rfl, hof, hh9, hn9⟩ := hp1
  rw [hh9, hn9] at hG
  have hov := OFQ_var hV.1 hPR h0 hn (by omega) hof
  show W p l e (gR lv ((4 * ((bNo S r i t).1.length : Int) - (bNo S r i t).2).toNat + (alK (k + (bNo S r i t).2.toNat) - alK k)) ((30 * ((bNo S r i t).1.length : Int) - 5 * (bNo S r i t).2).toNat + (alS (k + (bNo S r i t).2.toNat) - alS k))) s m args below meth c H locs 0 0 Q (F0 m 8 ls [(va_rf o)])
  rcases hov with ⟨ho9, hv9⟩ | ⟨k9, y9, ho9, hk9, ht9, hv1, hv2⟩
  · rw [ho9]
    show W p l e (gR lv ((4 * ((bNo S r i t).1.length : Int) - (bNo S r i t).2).toNat + (alK (k + (bNo S r i t).2.toNat) - alK k)) ((30 * ((bNo S r i t).1.length : Int) - 5 * (bNo S r i t).2).toNat + (alS (k + (bNo S r i t).2.toNat) - alS k))) s m args below meth c H locs 0 0 Q (F0 m 8 ls [.null])
    have hbn : bNo S r i t = ([rw7 1 (S.2 35 t) (bOwn S r i) (S.2 36 t) (S.1 49 + 1) 1 0], 1) := bNo_9 hk hv9
    have hrow := hrw
    rw [hbn] at hrow
    have e0 : R 0 (chh (R 5) P k) = 1 := by have := hrow 0 (by show 0 < 1; omega) 0 (by omega); rw [show (chh (R 5) P k) + ((0 : Nat) : Int) = (chh (R 5) P k) by omega] at this; exact this
    have e1 : R 1 (chh (R 5) P k) = S.2 35 t := by have := hrow 0 (by show 0 < 1; omega) 1 (by omega); rw [show (chh (R 5) P k) + ((0 : Nat) : Int) = (chh (R 5) P k) by omega] at this; exact this
    have e2 : R 2 (chh (R 5) P k) = bOwn S r i := by have := hrow 0 (by show 0 < 1; omega) 2 (by omega); rw [show (chh (R 5) P k) + ((0 : Nat) : Int) = (chh (R 5) P k) by omega] at this; exact this
    have e3 : R 3 (chh (R 5) P k) = S.2 36 t := by have := hrow 0 (by show 0 < 1; omega) 3 (by omega); rw [show (chh (R 5) P k) + ((0 : Nat) : Int) = (chh (R 5) P k) by omega] at this; exact this
    have e4 : R 4 (chh (R 5) P k) = S.1 49 + 1 := by have := hrow 0 (by show 0 < 1; omega) 4 (by omega); rw [show (chh (R 5) P k) + ((0 : Nat) : Int) = (chh (R 5) P k) by omega] at this; exact this
    have e5 : R 5 (chh (R 5) P k) = 1 := by have := hrow 0 (by show 0 < 1; omega) 5 (by omega); rw [show (chh (R 5) P k) + ((0 : Nat) : Int) = (chh (R 5) P k) by omega] at this; exact this
    have e6 : R 6 (chh (R 5) P k) = 0 := by have := hrow 0 (by show 0 < 1; omega) 6 (by omega); rw [show (chh (R 5) P k) + ((0 : Nat) : Int) = (chh (R 5) P k) by omega] at this; exact this
    have hr2 : (bNo S r i t).2.toNat = 1 := by rw [hbn]; rfl
    rw [← hpl] at e3
    have hr1 : (bNo S r i t).1.length = 1 := by rw [hbn]; rfl
    have hr3 : (bNo S r i t).2 = 1 := by rw [hbn]
    refine lv_astore_nN (lv' := [(3, .null), (0, .ref (ap t)), (1, .ref bb), (2, .ref nB)]) X.1 X.2.1 dX7_build_8 rfl hl (by decide) rfl (fun ls hl => ?_)
    refine lv_aload_nN X.1 X.2.1 dX7_build_9 rfl (lv_at hl 0 rfl) ?_
    refine lv_ifnonnullN X.1 X.2.1 dX7_build_10 ?_
    refine lv_aload_n X.1 X.2.1 dX7_build_13 rfl (lv_at hl 3 rfl) ?_
    have hGo := hG
    refine n_new (ci := 12) (fs := [.int (iI (0)), .int (iI (0)), .null, .int (iI (0)), .long (lI (0)), .int (iI (0))]) X in_X14 tyX14 tyX14_ok q1057 q664 q94 hW hG hS rfl (1, 0) (by decide +kernel) (by show 0 + 1 ≤ (4 * ((bNo S r i t).1.length : Int) - (bNo S r i t).2).toNat + (alK (k + (bNo S r i t).2.toNat) - alK k); first | omega | (rw [hmxj]; omega) | (rw [hmx, hr2]; omega)) (by show 0 + 6 ≤ (30 * ((bNo S r i t).1.length : Int) - 5 * (bNo S r i t).2).toNat + (alS (k + (bNo S r i t).2.toNat) - alS k); first | omega | (rw [hmxj]; omega) | (rw [hmx, hr2]; omega)) dX7_build_14 (fun H hG hS => ?_)
    obtain ⟨h3, eh3⟩ : ∃ hz, hz = va_up h n (some ((1, 0), .inr (12, [.int (iI (0)), .int (iI (0)), .null, .int (iI (0)), .long (lI (0)), .int (iI (0))]))) := ⟨_, rfl⟩
    rw [← eh3] at hG
    have f3_bb : h3 bb = some ((6, 0), .inr (15, [.ref fl, .int (iI (S.1 49 + 1)), .int (iI (bOwn S r i))])) := by rw [eh3, up_n (Nat.ne_of_lt (hGo.lt hBb))]; exact hBb
    have f3_apt : h3 (ap t) = some ((3, 0), .inr (6, [.int (iI (pl)), .long (lI (gLt (S.2 35 t))), .int (iI (al0))])) := by rw [eh3, up_n (Nat.ne_of_lt (hGo.lt hI))]; exact hI
    have f3_n : h3 n = some ((1, 0), .inr (12, [.int (iI (0)), .int (iI (0)), .null, .int (iI (0)), .long (lI (0)), .int (iI (0))])) := by rw [eh3]; exact up_s _ _ _
    refine lv_dup X.1 X.2.1 dX7_build_17 rfl ?_
    refine lv_aload_n X.1 X.2.1 dX7_build_18 rfl (lv_at hl 1 rfl) ?_
    refine n_get (ci := 6) X in_X7 hW hG f3_apt rfl 0 (by decide) q429 (fun x hx => u_same (X.2.2.2.2 _ q430) x hx) rfl dX7_build_19 ?_
    refine lv_aload_n X.1 X.2.1 dX7_build_22 rfl (lv_at hl 2 rfl) ?_
    refine n_getN (ci := 15) X in_X17 hW hG f3_bb rfl 1 (by decide) q987 (fun _ h => h) rfl dX7_build_23 ?_
    refine lv_aload_n X.1 X.2.1 dX7_build_26 rfl (lv_at hl 1 rfl) ?_
    refine n_get (ci := 6) X in_X7 hW hG f3_apt rfl 1 (by decide) q521 (fun _ h => h) rfl dX7_build_27 ?_
    refine lv_aload_n X.1 X.2.1 dX7_build_30 rfl (lv_at hl 2 rfl) ?_
    refine n_getN (ci := 15) X in_X17 hW hG f3_bb rfl 2 (by decide) q990 (fun _ h => h) rfl dX7_build_31 ?_
    refine g_callI (rest := [.ref n, .ref nB]) (k := 4) X hW hG hS (gn_init l G A (lv - 1) h3 (n + 1) n (1, 0) pl (S.1 49 + 1) (gLt (S.2 35 t)) (bOwn S r i) (by omega) f3_n) q1058 q666 q94 (lw_meth q667) rfl (by decide +kernel) rfl ⟨by show (lv - 1) + 1 ≤ lv; omega, by show 8 + (6 + 11) + 40 * (lv - 1) ≤ 40 * lv; omega⟩ ⟨by show 1 + 0 ≤ (4 * ((bNo S r i t).1.length : Int) - (bNo S r i t).2).toNat + (alK (k + (bNo S r i t).2.toNat) - alK k); first | omega | (rw [hmxj]; omega) | (rw [hmx, hr2]; omega), by show 6 + 0 ≤ (30 * ((bNo S r i t).1.length : Int) - 5 * (bNo S r i t).2).toNat + (alS (k + (bNo S r i t).2.toNat) - alS k); first | omega | (rw [hmxj]; omega) | (rw [hmx, hr2]; omega)⟩ hl.1 rfl (Nat.le_of_ble_eq_true rfl) dX7_build_34 (fun v4 h4 n4 H locs hp4 hG hS => ?_)
    obtain ⟨rfl, ehz, hn1⟩ := hp4
    rw [hn1] at hG
    have hs2 : gSub h h4 := fun x y e9 => by have := hG0.lt e9; rw [ehz, up_n (by omega), eh3, up_n (by omega)]; exact e9
    have hL2 := hs2 _ _ hLB
    have hA2 := hAB.sub hs2
    have hI2 : h4 ((fun (_ : Int) => n) (chh (R 5) P k)) = some ((1, 0), itE R (chh (R 5) P k) .null 0 ((fun (_ : Int) => n) (chh (R 5) P k))) := by
      show h4 n = some ((1, 0), itE R (chh (R 5) P k) .null 0 n)
      rw [itE1 e0, ehz, up_s, e1, e2, e3, e4]
    have hCD : CPD G h h4 R (fun q => if q = 0 then -1 else insR q) (fun _ => n) (chh (R 5) P k) n (n + 1) := CPD_leaf hs2 (by omega) e5 (by omega) hI2
    show W p l e (gR lv ((4 * ((bNo S r i t).1.length : Int) - (bNo S r i t).2).toNat + (alK (k + (bNo S r i t).2.toNat) - alK k)) ((30 * ((bNo S r i t).1.length : Int) - 5 * (bNo S r i t).2).toNat + (alS (k + (bNo S r i t).2.toNat) - alS k))) s m args below meth c H locs 1 6 Q (F0 m 37 ls [.ref n, .ref nB])
    refine g_callV (ci := 10) (rest := []) (k := 1) X hW hG hS hL2 rfl (gl_add l G A (lv - 1) h4 (n + 1) nB (1, 0) x0 x1 x2 x3 x5 ((List.range k).map (fun (j : Nat) => adc (chh (R 5) P j))) k R (fun (_ : Int) => n) (chh (R 5) P k) (1, 0) .null 0 (by omega) hL2 hA2 hI2 (by show n ≠ nB; omega) (by decide) (by omega)) (lw_V q1059 q659 q660 q92 q661) (by decide +kernel) rfl ⟨by show (lv - 1) + 1 ≤ lv; omega, by show 8 + (2 + 11) + 40 * (lv - 1) ≤ 40 * lv; omega⟩ ⟨by show 1 + (alK (max k (((List.range k).map (fun (j : Nat) => adc (chh (R 5) P j))).length + 1)) - alK k) ≤ (4 * ((bNo S r i t).1.length : Int) - (bNo S r i t).2).toNat + (alK (k + (bNo S r i t).2.toNat) - alK k); first | omega | (rw [hmxj]; omega) | (rw [hmx, hr2]; omega), by show 6 + (alS (max k (((List.range k).map (fun (j : Nat) => adc (chh (R 5) P j))).length + 1)) - alS k) ≤ (30 * ((bNo S r i t).1.length : Int) - 5 * (bNo S r i t).2).toNat + (alS (k + (bNo S r i t).2.toNat) - alS k); first | omega | (rw [hmxj]; omega) | (rw [hmx, hr2]; omega)⟩ hl.1 rfl (Nat.le_of_ble_eq_true rfl) dX7_build_37 (fun v5 h5 n5 H locs hp5 hG hS => ?_)
    obtain ⟨rfl, hAD, hn5⟩ := hp5
    show W p l e (gR lv ((4 * ((bNo S r i t).1.length : Int) - (bNo S r i t).2).toNat + (alK (k + (bNo S r i t).2.toNat) - alK k)) ((30 * ((bNo S r i t).1.length : Int) - 5 * (bNo S r i t).2).toNat + (alS (k + (bNo S r i t).2.toNat) - alS k))) s m args below meth c H locs (1 + (alK (max k (((List.range k).map (fun (j : Nat) => adc (chh (R 5) P j))).length + 1)) - alK k)) (6 + (alS (max k (((List.range k).map (fun (j : Nat) => adc (chh (R 5) P j))).length + 1)) - alS k)) Q (F0 m 40 ls [])
    refine ret _ _ _ _ _ _ _ _ ?_ (by show 1 + (alK (max k (((List.range k).map (fun (j : Nat) => adc (chh (R 5) P j))).length + 1)) - alK k) ≤ (4 * ((bNo S r i t).1.length : Int) - (bNo S r i t).2).toNat + (alK (k + (bNo S r i t).2.toNat) - alK k); first | omega | (rw [hmxj]; omega) | (rw [hmx, hr2]; omega)) (by show 6 + (alS (max k (((List.range k).map (fun (j : Nat) => adc (chh (R 5) P j))).length + 1)) - alS k) ≤ (30 * ((bNo S r i t).1.length : Int) - 5 * (bNo S r i t).2).toNat + (alS (k + (bNo S r i t).2.toNat) - alS k); first | omega | (rw [hmxj]; omega) | (rw [hmx, hr2]; omega)) hG hS dX7_build_40
    have hst := build_step hT hpos (by omega) hcs hCD hAD hn5 hlt
    exact ⟨rfl, ⟨_, by rw [hr2]; exact hst⟩, by omega, by rw [hr2, hbn]; show (chh (R 5) P k) + R 5 (chh (R 5) P k) = (chh (R 5) P k) + 1; rw [e5]⟩
  · rw [ho9]
    show W p l e (gR lv ((4 * ((bNo S r i t).1.length : Int) - (bNo S r i t).2).toNat + (alK (k + (bNo S r i t).2.toNat) - alK k)) ((30 * ((bNo S r i t).1.length : Int) - 5 * (bNo S r i t).2).toNat + (alS (k + (bNo S r i t).2.toNat) - alS k))) s m args below meth c H locs 0 0 Q (F0 m 8 ls [.ref y9])
    obtain ⟨hF9, ⟨q9, hA9⟩, -⟩ := hFL0.2 k9 y9 _ hk9 ht9
    obtain ⟨m9, c9, hsg⟩ := fit_seg hV.1 hPR h0 hn (by omega) hft _ (List.mem_of_getElem? ht9)
    have hsl : (((rts (S.2 46) 501 (spFrom S r i (spVar S r (S.2 35 t))) (spTo S r i (spVar S r (S.2 35 t)))).map ad).length : Int) = m9 := by rw [hsg.2.2.2.2]; simp
    have hqA := hA9.q
    have hm5 := hsg.2.2.1
    have hPR1 := hPR.1
    have hbn := bNo_v (S := S) (r := r) (i := i) hk (by omega)
    have hle9 := hsg.le hV.1 m9 (Nat.le_refl _)
    rw [hsg.2.1] at hle9
    have hsd := sdN_is hV.1 hsg m9 (Nat.le_refl _)
    rw [Nat.sub_self, hsg.1] at hsd
    have hr3 : (bNo S r i t).2 = m9 := by rw [hbn]; exact hsd
    have hr1 : ((bNo S r i t).1.length : Int) = spTo S r i (spVar S r (S.2 35 t)) - spFrom S r i (spVar S r (S.2 35 t)) := by rw [hbn]; show ((cpR S _ _).length : Int) = _; rw [cpR_len]; have hle9 : spFrom S r i (spVar S r (S.2 35 t)) + (m9 : Int) ≤ spTo S r i (spVar S r (S.2 35 t)) := hle9; omega
    have hrow := hrw
    rw [hbn] at hrow
    have hgRow : ∀ z : Int, 0 ≤ z → z < spTo S r i (spVar S r (S.2 35 t)) - spFrom S r i (spVar S r (S.2 35 t)) → ∀ q, q ≤ 6 → R q ((chh (R 5) P k) + z) = rwS S q (spFrom S r i (spVar S r (S.2 35 t)) + z) := by
      intro z z1 z2 q hq
      have h7 := hrow z.toNat (by show z.toNat < (cpR S _ _).length; rw [cpR_len]; omega) q hq
      rw [show (chh (R 5) P k) + ((z.toNat : Nat) : Int) = (chh (R 5) P k) + z by omega] at h7
      rw [h7]
      exact cpR_get (by omega) (by omega) hq
    refine lv_astore_n (lv' := [(3, .ref y9), (0, .ref (ap t)), (1, .ref bb), (2, .ref nB)]) X.1 X.2.1 dX7_build_8 rfl hl (by decide) rfl (fun ls hl => ?_)
    refine lv_aload_n X.1 X.2.1 dX7_build_9 rfl (lv_at hl 0 rfl) ?_
    refine lv_ifnonnull (tgt := 41) X.1 X.2.1 dX7_build_10 (by decide) ?_
    refine lv_iconst (v := iI (0)) X.1 X.2.1 dX7_build_41 rfl ?_
    refine lv_istore (lv' := [(4, .int (iI (0))), (3, .ref y9), (0, .ref (ap t)), (1, .ref bb), (2, .ref nB)]) X.1 X.2.1 dX7_build_42 hl (by decide) rfl (fun ls hl => ?_)
    have L44 : ∀ (N44 : Nat) (g1 : gH) (n1 j cz sz : Nat) (ad1 : Int → Nat), (j ≤ m9) → (CST G h9 g1 R (fun q => if q = 0 then -1 else insR q) ad1 P (k + j) nB n1 [x0, x1, x2, x3, .ref (nB + 1), x5]) → (n ≤ n1) → ((chh (R 5) P (k + j)) = (chh (R 5) P k) + (c9 j - (spFrom S r i (spVar S r (S.2 35 t))))) → (cz ≤ (4 * (c9 j - (spFrom S r i (spVar S r (S.2 35 t)))) - j).toNat + (alK (k + j) - alK k) ∧ sz ≤ (30 * (c9 j - (spFrom S r i (spVar S r (S.2 35 t)))) - 5 * j).toNat + (alS (k + j) - alS k)) → m9 - j < N44 → ∀ (H : Heap) (locs : List Loc) (ls : Array Slot), gOn G.1 A g1 n1 H → va_S A s.heap H locs → lv_has ls 5 [(0, .ref (ap t)), (1, .ref bb), (2, .ref nB), (3, .ref y9), (4, .int (iI ((j : Int))))] → W p l e (gR lv ((4 * ((bNo S r i t).1.length : Int) - (bNo S r i t).2).toNat + (alK (k + (bNo S r i t).2.toNat) - alK k)) ((30 * ((bNo S r i t).1.length : Int) - 5 * (bNo S r i t).2).toNat + (alS (k + (bNo S r i t).2.toNat) - alS k))) s m args below meth c H locs cz sz Q (F0 m 44 ls []) := by
      intro N44
      induction N44 with
      | zero => intro g1 n1 j cz sz ad1 hjm hcs1 hn1 hcj hcz hN; exact absurd hN (Nat.not_lt_zero _)
      | succ N44 ih44 =>
        intro g1 n1 j cz sz ad1 hjm hcs1 hn1 hcj hcz hN44 H locs ls hG hS hl
        obtain ⟨hcp1, -, hnB1, hLB1, hAB1⟩ := id hcs1
        have hs91 := hcp1.1
        have hV1 := hV.sub hs91
        have hA91 := hA9.sub hs91
        obtain ⟨tg9, mo9, d9, hL9, hr9⟩ := id hA91
        have hF91 := hs91 _ _ hF9
        have hcb0 := hsg.up hV.1 j (m9 - j) (by omega)
        rw [show j + (m9 - j) = m9 by omega, hsg.2.1] at hcb0
        have hcb0 : c9 j + ((m9 - j : Nat) : Int) ≤ spTo S r i (spVar S r (S.2 35 t)) := hcb0
        have hcl0 := hsg.le hV.1 j hjm
        have hcl0 : spFrom S r i (spVar S r (S.2 35 t)) + (j : Int) ≤ c9 j := hcl0
        have hmo0 := alK_mono (a := k + j) (b := k + (bNo S r i t).2.toNat) (by omega)
        have hmo1 := alK_mono (a := k) (b := k + j) (by omega)
        refine lv_iload X.1 X.2.1 dX7_build_44 (lv_at hl 4 rfl) ?_
        refine lv_aload_n X.1 X.2.1 dX7_build_46 rfl (lv_at hl 3 rfl) ?_
        refine n_getN (ci := 14) X in_X16 hW hG hF91 rfl 1 (by decide) q917 (fun _ h => h) rfl dX7_build_47 ?_
        refine g_callV (ci := 17) (rest := [.int (iI ((j : Int)))]) (k := 0) X hW hG hS hL9 rfl (al_size l G A (lv - 1) g1 n1 (y9 + 1) ((rts (S.2 46) 501 (spFrom S r i (spVar S r (S.2 35 t))) (spTo S r i (spVar S r (S.2 35 t)))).map ad) q9 hA91) (lw_V q1017 q323 q324 q69 q325) (by decide +kernel) rfl ⟨by show (lv - 1) + 1 ≤ lv; omega, by show 8 + (1 + 11) + 40 * (lv - 1) ≤ 40 * lv; omega⟩ ⟨by show cz + 0 ≤ (4 * ((bNo S r i t).1.length : Int) - (bNo S r i t).2).toNat + (alK (k + (bNo S r i t).2.toNat) - alK k); first | omega | (rw [hmxj]; omega) | (rw [hmx, hr2]; omega), by show sz + 0 ≤ (30 * ((bNo S r i t).1.length : Int) - 5 * (bNo S r i t).2).toNat + (alS (k + (bNo S r i t).2.toNat) - alS k); first | omega | (rw [hmxj]; omega) | (rw [hmx, hr2]; omega)⟩ hl.1 rfl (Nat.le_of_ble_eq_true rfl) dX7_build_50 (g_pk (fun H locs hG hS => ?_))
        show W p l e (gR lv ((4 * ((bNo S r i t).1.length : Int) - (bNo S r i t).2).toNat + (alK (k + (bNo S r i t).2.toNat) - alK k)) ((30 * ((bNo S r i t).1.length : Int) - 5 * (bNo S r i t).2).toNat + (alS (k + (bNo S r i t).2.toNat) - alS k))) s m args below meth c H locs cz sz Q (F0 m 53 ls [.int (iI ((((rts (S.2 46) 501 (spFrom S r i (spVar S r (S.2 35 t))) (spTo S r i (spVar S r (S.2 35 t)))).map ad).length : Int))), .int (iI ((j : Int)))])
        refine i_icmp_ge X 81 dX7_build_53 (by decide) (by first | omega | (rw [hmxj]; omega) | (rw [hmx, hr2]; omega)) (by first | omega | (rw [hmxj]; omega) | (rw [hmx, hr2]; omega)) (fun c53 => ?_) (fun c53 => ?_)
        · refine ret _ _ _ _ _ _ _ _ ?_ (by show cz ≤ (4 * ((bNo S r i t).1.length : Int) - (bNo S r i t).2).toNat + (alK (k + (bNo S r i t).2.toNat) - alK k); first | omega | (rw [hmxj]; omega) | (rw [hmx, hr2]; omega)) (by show sz ≤ (30 * ((bNo S r i t).1.length : Int) - 5 * (bNo S r i t).2).toNat + (alS (k + (bNo S r i t).2.toNat) - alS k); first | omega | (rw [hmxj]; omega) | (rw [hmx, hr2]; omega)) hG hS dX7_build_81
          have hj9 : j = m9 := by omega
          have e9 : chh (R 5) P (k + m9) = (chh (R 5) P k) + (spTo S r i (spVar S r (S.2 35 t)) - spFrom S r i (spVar S r (S.2 35 t))) := by rw [← hj9, hcj, hj9, hsg.2.1]
          refine ⟨rfl, ⟨ad1, ?_⟩, hn1, by rw [hr3, Int.toNat_natCast, hr1]; exact e9⟩
          rw [hr3, Int.toNat_natCast, ← hj9]
          exact hcs1
        · have hck := hsg.2.2.2.1 j (by omega)
          have hrk := hV.1.1.r hck.1 hck.2.1
          have hIk := hV1.it hck.1 hck.2.1
          have hlk := hsg.le hV.1 j (by omega)
          have hlk : spFrom S r i (spVar S r (S.2 35 t)) + (j : Int) ≤ c9 j := hlk
          have hup := hsg.up hV.1 (j + 1) (m9 - (j + 1)) (by omega)
          rw [show j + 1 + (m9 - (j + 1)) = m9 by omega, hsg.2.1] at hup
          have hup : c9 (j + 1) + ((m9 - (j + 1) : Nat) : Int) ≤ spTo S r i (spVar S r (S.2 35 t)) := hup
          have hsam : SAM (rwS S) R (c9 j) (chh (R 5) P (k + j)) (rwS S 5 (c9 j)) := by
            intro z z1 z2 q hq
            have z2 : z < S.2 46 (c9 j) := z2
            rw [hcj, show (chh (R 5) P k) + (c9 j - (spFrom S r i (spVar S r (S.2 35 t)))) + z = (chh (R 5) P k) + (c9 j - (spFrom S r i (spVar S r (S.2 35 t))) + z) by omega, hgRow (c9 j - (spFrom S r i (spVar S r (S.2 35 t))) + z) (by omega) (by omega) q hq]
            congr 1
            omega
          have e5j : R 5 (chh (R 5) P (k + j)) = S.2 46 (c9 j) := by have := hsam 0 (by omega) (by show 0 < S.2 46 (c9 j); omega) 5 (by omega); rw [show (chh (R 5) P (k + j)) + 0 = (chh (R 5) P (k + j)) by omega, show c9 j + 0 = c9 j by omega] at this; exact this
          obtain ⟨⟨pj0, pj1, pj2, pj3, pj4⟩, -⟩ := hpos (k + j) (by omega)
          have hmoj := alK_mono (a := k + j) (b := k + j + 1) (by omega)
          have hmok := alK_mono (a := k) (b := k + j) (by omega)
          have hmol := alK_mono (a := k + j + 1) (b := k + (bNo S r i t).2.toNat) (by omega)
          have hxlj : ((List.range (k + j)).map (fun (q : Nat) => ad1 (chh (R 5) P q))).length = k + j := by simp
          have hmxj : max (k + j) (((List.range (k + j)).map (fun (q : Nat) => ad1 (chh (R 5) P q))).length + 1) = k + j + 1 := by omega
          refine lv_aload_n X.1 X.2.1 dX7_build_56 rfl (lv_at hl 2 rfl) ?_
          refine lv_aload_n X.1 X.2.1 dX7_build_57 rfl (lv_at hl 3 rfl) ?_
          refine n_getN (ci := 14) X in_X16 hW hG hF91 rfl 1 (by decide) q917 (fun _ h => h) rfl dX7_build_58 ?_
          refine lv_iload X.1 X.2.1 dX7_build_61 (lv_at hl 4 rfl) ?_
          refine g_callV (ci := 17) (rest := [.ref nB]) (k := 1) X hW hG hS hL9 rfl (al_get l G A (lv - 1) g1 n1 (y9 + 1) ((rts (S.2 46) 501 (spFrom S r i (spVar S r (S.2 35 t))) (spTo S r i (spVar S r (S.2 35 t)))).map ad) q9 (j : Int) (ad (c9 j)) (by omega) hA91 (by omega) (by rw [Int.toNat_natCast, hsg.2.2.2.2, List.getElem?_map, List.getElem?_map, List.getElem?_range (by omega)]; rfl)) (lw_V q1018 q691 q692 q69 q693) (by decide +kernel) rfl ⟨by show (lv - 1) + 1 ≤ lv; omega, by show 8 + (2 + 11) + 40 * (lv - 1) ≤ 40 * lv; omega⟩ ⟨by show cz + 0 ≤ (4 * ((bNo S r i t).1.length : Int) - (bNo S r i t).2).toNat + (alK (k + (bNo S r i t).2.toNat) - alK k); first | omega | (rw [hmxj]; omega) | (rw [hmx, hr2]; omega), by show sz + 0 ≤ (30 * ((bNo S r i t).1.length : Int) - 5 * (bNo S r i t).2).toNat + (alS (k + (bNo S r i t).2.toNat) - alS k); first | omega | (rw [hmxj]; omega) | (rw [hmx, hr2]; omega)⟩ hl.1 rfl (Nat.le_of_ble_eq_true rfl) dX7_build_63 (g_pk (fun H locs hG hS => ?_))
          show W p l e (gR lv ((4 * ((bNo S r i t).1.length : Int) - (bNo S r i t).2).toNat + (alK (k + (bNo S r i t).2.toNat) - alK k)) ((30 * ((bNo S r i t).1.length : Int) - 5 * (bNo S r i t).2).toNat + (alS (k + (bNo S r i t).2.toNat) - alS k))) s m args below meth c H locs cz sz Q (F0 m 66 ls [.ref (ad (c9 j)), .ref nB])
          refine it_cast X hW hG hIk.1 q1019 dX7_build_66 ?_
          refine g_callX (rest := [.ref nB]) (k := 0) X hW hG hS (vi_copied l G A (rwS S) ad (1, 0) (inS S ad) (fun k => k) (S.2 48) (S.1 40) hV.1.1 hV.1.2.1 502 (c9 j) (lv - 1) g1 n1 (by show S.2 46 (c9 j) < _; omega) hck.1 hck.2.1 (fun z a b => hV1.2.1 z (by omega) (by have b : z < c9 j + S.2 46 (c9 j) := b; omega)) (by show 11 + S.2 46 (c9 j) ≤ _; omega)) q1060 q1062 (gDecl_abs hW q1061) (by decide +kernel) rfl ⟨by show (lv - 1) + 1 ≤ lv; omega, by show 40 + 40 * (lv - 1) ≤ 40 * lv; omega⟩ ⟨by show cz + ((4 * S.2 46 (c9 j) - 1).toNat) ≤ (4 * ((bNo S r i t).1.length : Int) - (bNo S r i t).2).toNat + (alK (k + (bNo S r i t).2.toNat) - alK k); first | omega | (rw [hmxj]; omega) | (rw [hmx, hr2]; omega), by show sz + ((30 * S.2 46 (c9 j) - 5).toNat) ≤ (30 * ((bNo S r i t).1.length : Int) - 5 * (bNo S r i t).2).toNat + (alS (k + (bNo S r i t).2.toNat) - alS k); first | omega | (rw [hmxj]; omega) | (rw [hmx, hr2]; omega)⟩ hl.1 rfl (Nat.le_of_ble_eq_true rfl) dX7_build_69 (fun v6 h6 n6 H locs hp6 hG hS => ?_)
          obtain ⟨adS, rfl, hCS⟩ := hp6
          obtain ⟨adT, eT⟩ : ∃ f : Int → Nat, f = fun z => adS (c9 j + (z - (chh (R 5) P (k + j)))) := ⟨_, rfl⟩
          have eT0 : adT (chh (R 5) P (k + j)) = adS (c9 j) := by rw [eT]; show adS (c9 j + ((chh (R 5) P (k + j)) - (chh (R 5) P (k + j)))) = _; rw [show c9 j + ((chh (R 5) P (k + j)) - (chh (R 5) P (k + j))) = c9 j by omega]
          have hCT := CPD_shift (R := rwS S) (R2 := R) (insS := S.2 48) (a := c9 j) (c := (chh (R 5) P (k + j))) hV.1.1 hV.1.2.1 hT hTI hck.1 hck.2.1 (by omega) (by show (chh (R 5) P (k + j)) + S.2 46 (c9 j) ≤ nn; omega) hsam hCS
          rw [← eT] at hCT
          rw [← eT0]
          have hs2 := hCS.1.1
          have hL2 := hs2 _ _ hLB1
          have hA2 := hAB1.sub hs2
          have hI2 := hCT.2.1
          have hrg := hCT.1.2.2.2.2 (chh (R 5) P (k + j)) (Int.le_refl _) (by omega)
          show W p l e (gR lv ((4 * ((bNo S r i t).1.length : Int) - (bNo S r i t).2).toNat + (alK (k + (bNo S r i t).2.toNat) - alK k)) ((30 * ((bNo S r i t).1.length : Int) - 5 * (bNo S r i t).2).toNat + (alS (k + (bNo S r i t).2.toNat) - alS k))) s m args below meth c H locs (cz + ((4 * S.2 46 (c9 j) - 1).toNat)) (sz + ((30 * S.2 46 (c9 j) - 5).toNat)) Q (F0 m 72 ls [.ref (adT (chh (R 5) P (k + j))), .ref nB])
          refine g_callV (ci := 10) (rest := []) (k := 1) X hW hG hS hL2 rfl (gl_add l G A (lv - 1) h6 n6 nB (1, 0) x0 x1 x2 x3 x5 ((List.range (k + j)).map (fun (q : Nat) => ad1 (chh (R 5) P q))) (k + j) R adT (chh (R 5) P (k + j)) (1, 0) .null 0 (by omega) hL2 hA2 hI2 (by omega) (by decide) (by omega)) (lw_V q1059 q659 q660 q92 q661) (by decide +kernel) rfl ⟨by show (lv - 1) + 1 ≤ lv; omega, by show 8 + (2 + 11) + 40 * (lv - 1) ≤ 40 * lv; omega⟩ ⟨by show (cz + ((4 * S.2 46 (c9 j) - 1).toNat)) + (alK (max (k + j) (((List.range (k + j)).map (fun (q : Nat) => ad1 (chh (R 5) P q))).length + 1)) - alK (k + j)) ≤ (4 * ((bNo S r i t).1.length : Int) - (bNo S r i t).2).toNat + (alK (k + (bNo S r i t).2.toNat) - alK k); first | omega | (rw [hmxj]; omega) | (rw [hmx, hr2]; omega), by show (sz + ((30 * S.2 46 (c9 j) - 5).toNat)) + (alS (max (k + j) (((List.range (k + j)).map (fun (q : Nat) => ad1 (chh (R 5) P q))).length + 1)) - alS (k + j)) ≤ (30 * ((bNo S r i t).1.length : Int) - 5 * (bNo S r i t).2).toNat + (alS (k + (bNo S r i t).2.toNat) - alS k); first | omega | (rw [hmxj]; omega) | (rw [hmx, hr2]; omega)⟩ hl.1 rfl (Nat.le_of_ble_eq_true rfl) dX7_build_72 (fun v7 h7 n7 H locs hp7 hG hS => ?_)
          obtain ⟨rfl, hAD, hn5⟩ := hp7
          show W p l e (gR lv ((4 * ((bNo S r i t).1.length : Int) - (bNo S r i t).2).toNat + (alK (k + (bNo S r i t).2.toNat) - alK k)) ((30 * ((bNo S r i t).1.length : Int) - 5 * (bNo S r i t).2).toNat + (alS (k + (bNo S r i t).2.toNat) - alS k))) s m args below meth c H locs (cz + ((4 * S.2 46 (c9 j) - 1).toNat) + (alK (max (k + j) (((List.range (k + j)).map (fun (q : Nat) => ad1 (chh (R 5) P q))).length + 1)) - alK (k + j))) (sz + ((30 * S.2 46 (c9 j) - 5).toNat) + (alS (max (k + j) (((List.range (k + j)).map (fun (q : Nat) => ad1 (chh (R 5) P q))).length + 1)) - alS (k + j))) Q (F0 m 75 ls [])
          refine i_inc (lv' := [(4, .int (iI ((j : Int) + 1))), (0, .ref (ap t)), (1, .ref bb), (2, .ref nB), (3, .ref y9)]) X dX7_build_75 hl (k := 4) rfl (by decide) rfl (fun ls hl => ?_)
          refine lv_goto (tgt := 44) X.1 X.2.1 dX7_build_78 (by decide) ?_
          have hst := build_step hT hpos (by omega) hcs1 hCT hAD hn5 hlt
          have hcj2 : chh (R 5) P (k + (j + 1)) = (chh (R 5) P k) + (c9 (j + 1) - (spFrom S r i (spVar S r (S.2 35 t)))) := by
            show (chh (R 5) P (k + j)) + R 5 (chh (R 5) P (k + j)) = _
            rw [e5j, hcj, hck.2.2]
            omega
          have hcz2 : cz + ((4 * S.2 46 (c9 j) - 1).toNat) + (alK (max (k + j) (((List.range (k + j)).map (fun (q : Nat) => ad1 (chh (R 5) P q))).length + 1)) - alK (k + j)) ≤ (4 * (c9 (j + 1) - (spFrom S r i (spVar S r (S.2 35 t)))) - ((j + 1 : Nat) : Int)).toNat + (alK (k + (j + 1)) - alK k) ∧ sz + ((30 * S.2 46 (c9 j) - 5).toNat) + (alS (max (k + j) (((List.range (k + j)).map (fun (q : Nat) => ad1 (chh (R 5) P q))).length + 1)) - alS (k + j)) ≤ (30 * (c9 (j + 1) - (spFrom S r i (spVar S r (S.2 35 t)))) - 5 * ((j + 1 : Nat) : Int)).toNat + (alS (k + (j + 1)) - alS k) := by
            rw [hmxj, hck.2.2, show k + (j + 1) = k + j + 1 by omega]
            omega
          exact ih44 h7 n7 (j + 1) (cz + ((4 * S.2 46 (c9 j) - 1).toNat) + (alK (max (k + j) (((List.range (k + j)).map (fun (q : Nat) => ad1 (chh (R 5) P q))).length + 1)) - alK (k + j))) (sz + ((30 * S.2 46 (c9 j) - 5).toNat) + (alS (max (k + j) (((List.range (k + j)).map (fun (q : Nat) => ad1 (chh (R 5) P q))).length + 1)) - alS (k + j))) _ (by omega) hst (by omega) hcj2 hcz2 (by omega) H locs ls hG hS (lv_sub hl [1, 2, 3, 4, 0] rfl)
    exact L44 _ h n 0 0 0 adc (by omega) hcs (Nat.le_refl _) (by rw [hsg.1]; show chh (R 5) P (k + 0) = (chh (R 5) P k) + (spFrom S r i (spVar S r (S.2 35 t)) - (spFrom S r i (spVar S r (S.2 35 t)))); rw [Nat.add_zero]; omega) ⟨Nat.zero_le _, Nat.zero_le _⟩ (Nat.lt_succ_self _) H locs ls hG hS (lv_sub hl [2, 3, 4, 1, 0] rfl)

