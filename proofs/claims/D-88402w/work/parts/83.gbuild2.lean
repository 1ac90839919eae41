/-! ===== a template is built: numbers, names ===== -/
set_option maxRecDepth 100000
set_option maxHeartbeats 4000000 in
/-- a number of a template is built -/
theorem gbf_build (l : Launch) (G : gEnv) (A : Nat → Prop) (lv : Nat) (h : gH) (n : Nat) (S : MSt) (ad ap : Int → Nat) (b E t i : Int) (r bb : Nat) (ys : List Nat) (R : FF) (insR : Int → Int) (nn P : Int) (mx k : Nat) (h9 : gH) (nB : Nat) (adc : Int → Nat) (x0 x1 x2 x3 x5 : Value) (hlv : 10 ≤ lv) (hV : LV G h9 S ad) (hC : PCX G h9 S ap b E) (hB : BLD G h9 S ad bb ys (spTs S r i) (S.1 49 + 1) (bOwn S r i)) (hok : ∀ (j : Nat) (tr : Int × Int × Int), (spTs S r i)[j]? = some tr → wOk (S.2 35 tr.1)) (hPR : PR S r) (h0 : 0 ≤ i) (hn : i < S.1 40) (hw3 : S.2 41 i = 3) (hft : spFit S r i = true) (ht : b ≤ t ∧ t < E) (hT : TW nn (R 0) (R 5) (R 6)) (hTI : TI nn (R 0) (R 5) (R 6) insR) (hpos : POS R (fun q => if q = 0 then -1 else insR q) nn P mx) (hcs : CST G h9 h R (fun q => if q = 0 then -1 else insR q) adc P k nB n [x0, x1, x2, x3, .ref (nB + 1), x5]) (hlt : ∀ (a : Nat) (x : gE), h9 a = some x → a < nB) (hkm : k + (bNo S r i t).2.toNat ≤ mx) (hm : mx ≤ 600) (hrw : RWS R (chh (R 5) P k) (bNo S r i t).1) (hk : S.2 34 t = 0) : gC l yX6_build cX6_build 3 none G A lv (3 + (alK (k + 1) - alK k)) (25 + (alS (k + 1) - alS k)) [.ref (ap t), .ref bb, .ref nB] h n (fun v h' n' => v = none ∧ (∃ adc', CST G h9 h' R (fun q => if q = 0 then -1 else insR q) adc' P (k + (bNo S r i t).2.toNat) nB n' [x0, x1, x2, x3, .ref (nB + 1), x5]) ∧ n ≤ n' ∧ chh (R 5) P (k + (bNo S r i t).2.toNat) = (chh (R 5) P k) + ((bNo S r i t).1.length : Int)) := by
  refine gC_ofV RX6 (by decide +kernel) rfl (Nat.le_of_ble_eq_true rfl) ?_
  intro p e s m args below meth c Q X hinit hW ret H locs ls hG hS hl
  have hl : lv_has ls 3 [(0, .ref (ap t)), (1, .ref bb), (2, .ref nB)] := hl
  obtain ⟨hcp, hc0, hnB, hLB, hAB⟩ := id hcs
  have hs9 := hcp.1
  obtain ⟨⟨pl, hpl, hI0⟩, -⟩ := hC.1 t ht.1 ht.2
  obtain ⟨fl, qf, hBb0, hAF0, hFL0⟩ := id hB
  have hBb := hs9 _ _ hBb0
  obtain ⟨tgA, moA, dA, hLA, hAr⟩ := id hAB
  have hxl : ((List.range k).map (fun (j : Nat) => adc (chh (R 5) P j))).length = k := by simp
  have hmx : max k (((List.range k).map (fun (j : Nat) => adc (chh (R 5) P j))).length + 1) = k + 1 := by omega
  have hmo := alK_mono (a := k) (b := k + 1) (by omega)
  have hG0 := hG
  rw [paE0 (P := pwS S) hk] at hI0
  have hI : h (ap t) = some ((3, 0), .inr (5, [.int (iI pl), .int (iI (S.2 35 t))])) := hs9 _ _ hI0
  have hpl : pl = S.2 36 t := hpl (by show S.2 34 t ≠ 8; omega)
  have hbn : bNo S r i t = ([rw7 0 (S.2 35 t) (-9) (S.2 36 t) (S.1 49 + 1) 1 0], 1) := bNo_0 hk
  have hrow := hrw
  rw [hbn] at hrow
  have e0 : R 0 (chh (R 5) P k) = 0 := by have := hrow 0 (by show 0 < 1; omega) 0 (by omega); rw [show (chh (R 5) P k) + ((0 : Nat) : Int) = (chh (R 5) P k) by omega] at this; exact this
  have e1 : R 1 (chh (R 5) P k) = S.2 35 t := by have := hrow 0 (by show 0 < 1; omega) 1 (by omega); rw [show (chh (R 5) P k) + ((0 : Nat) : Int) = (chh (R 5) P k) by omega] at this; exact this
  have e2 : R 2 (chh (R 5) P k) = -9 := by have := hrow 0 (by show 0 < 1; omega) 2 (by omega); rw [show (chh (R 5) P k) + ((0 : Nat) : Int) = (chh (R 5) P k) by omega] at this; exact this
  have e3 : R 3 (chh (R 5) P k) = S.2 36 t := by have := hrow 0 (by show 0 < 1; omega) 3 (by omega); rw [show (chh (R 5) P k) + ((0 : Nat) : Int) = (chh (R 5) P k) by omega] at this; exact this
  have e4 : R 4 (chh (R 5) P k) = S.1 49 + 1 := by have := hrow 0 (by show 0 < 1; omega) 4 (by omega); rw [show (chh (R 5) P k) + ((0 : Nat) : Int) = (chh (R 5) P k) by omega] at this; exact this
  have e5 : R 5 (chh (R 5) P k) = 1 := by have := hrow 0 (by show 0 < 1; omega) 5 (by omega); rw [show (chh (R 5) P k) + ((0 : Nat) : Int) = (chh (R 5) P k) by omega] at this; exact this
  have e6 : R 6 (chh (R 5) P k) = 0 := by have := hrow 0 (by show 0 < 1; omega) 6 (by omega); rw [show (chh (R 5) P k) + ((0 : Nat) : Int) = (chh (R 5) P k) by omega] at this; exact this
  have hr2 : (bNo S r i t).2.toNat = 1 := by rw [hbn]; rfl
  rw [← hpl] at e3
  refine lv_aload_n X.1 X.2.1 dX6_build_0 rfl (lv_at hl 2 rfl) ?_
  have hGo := hG
  refine n_new (ci := 11) (fs := [.int (iI (0)), .int (iI (0)), .null, .int (iI (0)), .int (iI (0))]) X in_X13 tyX13 tyX13_ok q1047 q645 q93 hW hG hS rfl (1, 0) (by decide +kernel) (by show 0 + 1 ≤ 3 + (alK (k + 1) - alK k); first | omega | (rw [hmx]; omega)) (by show 0 + 5 ≤ 25 + (alS (k + 1) - alS k); first | omega | (rw [hmx]; omega)) dX6_build_1 (fun H hG hS => ?_)
  obtain ⟨h2, eh2⟩ : ∃ hz, hz = va_up h n (some ((1, 0), .inr (11, [.int (iI (0)), .int (iI (0)), .null, .int (iI (0)), .int (iI (0))]))) := ⟨_, rfl⟩
  rw [← eh2] at hG
  have f2_bb : h2 bb = some ((6, 0), .inr (15, [.ref fl, .int (iI (S.1 49 + 1)), .int (iI (bOwn S r i))])) := by rw [eh2, up_n (Nat.ne_of_lt (hGo.lt hBb))]; exact hBb
  have f2_apt : h2 (ap t) = some ((3, 0), .inr (5, [.int (iI (pl)), .int (iI (S.2 35 t))])) := by rw [eh2, up_n (Nat.ne_of_lt (hGo.lt hI))]; exact hI
  have f2_n : h2 n = some ((1, 0), .inr (11, [.int (iI (0)), .int (iI (0)), .null, .int (iI (0)), .int (iI (0))])) := by rw [eh2]; exact up_s _ _ _
  refine lv_dup X.1 X.2.1 dX6_build_4 rfl ?_
  refine lv_aload_n X.1 X.2.1 dX6_build_5 rfl (lv_at hl 0 rfl) ?_
  refine n_get (ci := 5) X in_X6 hW hG f2_apt rfl 0 (by decide) q427 (fun x hx => u_same (X.2.2.2.2 _ q428) x hx) rfl dX6_build_6 ?_
  refine lv_aload_n X.1 X.2.1 dX6_build_9 rfl (lv_at hl 1 rfl) ?_
  refine n_getN (ci := 15) X in_X17 hW hG f2_bb rfl 1 (by decide) q986 (fun _ h => h) rfl dX6_build_10 ?_
  refine lv_aload_n X.1 X.2.1 dX6_build_13 rfl (lv_at hl 0 rfl) ?_
  refine n_get (ci := 5) X in_X6 hW hG f2_apt rfl 1 (by decide) q445 (fun _ h => h) rfl dX6_build_14 ?_
  refine g_callI (rest := [.ref n, .ref nB]) (k := 3) X hW hG hS (gw_init l G A (lv - 1) h2 (n + 1) n (1, 0) pl (S.1 49 + 1) (S.2 35 t) (by omega) f2_n) q1048 q647 q93 (lw_meth q648) rfl (by decide +kernel) rfl ⟨by show (lv - 1) + 1 ≤ lv; omega, by show 8 + (4 + 11) + 40 * (lv - 1) ≤ 40 * lv; omega⟩ ⟨by show 1 + 0 ≤ 3 + (alK (k + 1) - alK k); first | omega | (rw [hmx]; omega), by show 5 + 0 ≤ 25 + (alS (k + 1) - alS k); first | omega | (rw [hmx]; omega)⟩ hl.1 rfl (Nat.le_of_ble_eq_true rfl) dX6_build_17 (fun v3 h3 n3 H locs hp3 hG hS => ?_)
  obtain ⟨rfl, ehz, hn1⟩ := hp3
  rw [hn1] at hG
  have hs2 : gSub h h3 := fun x y e9 => by have := hG0.lt e9; rw [ehz, up_n (by omega), eh2, up_n (by omega)]; exact e9
  have hL2 := hs2 _ _ hLB
  have hA2 := hAB.sub hs2
  have hI2 : h3 ((fun (_ : Int) => n) (chh (R 5) P k)) = some ((1, 0), itE R (chh (R 5) P k) .null 0 ((fun (_ : Int) => n) (chh (R 5) P k))) := by
    show h3 n = some ((1, 0), itE R (chh (R 5) P k) .null 0 n)
    rw [itE0 e0, ehz, up_s, e1, e3, e4]
  have hCD : CPD G h h3 R (fun q => if q = 0 then -1 else insR q) (fun _ => n) (chh (R 5) P k) n (n + 1) := CPD_leaf hs2 (by omega) e5 (by omega) hI2
  show W p l e (gR lv (3 + (alK (k + 1) - alK k)) (25 + (alS (k + 1) - alS k))) s m args below meth c H locs 1 5 Q (F0 m 20 ls [.ref n, .ref nB])
  refine g_callV (ci := 10) (rest := []) (k := 1) X hW hG hS hL2 rfl (gl_add l G A (lv - 1) h3 (n + 1) nB (1, 0) x0 x1 x2 x3 x5 ((List.range k).map (fun (j : Nat) => adc (chh (R 5) P j))) k R (fun (_ : Int) => n) (chh (R 5) P k) (1, 0) .null 0 (by omega) hL2 hA2 hI2 (by show n ≠ nB; omega) (by decide) (by omega)) (lw_V q1049 q659 q660 q92 q661) (by decide +kernel) rfl ⟨by show (lv - 1) + 1 ≤ lv; omega, by show 8 + (2 + 11) + 40 * (lv - 1) ≤ 40 * lv; omega⟩ ⟨by show 1 + (alK (max k (((List.range k).map (fun (j : Nat) => adc (chh (R 5) P j))).length + 1)) - alK k) ≤ 3 + (alK (k + 1) - alK k); first | omega | (rw [hmx]; omega), by show 5 + (alS (max k (((List.range k).map (fun (j : Nat) => adc (chh (R 5) P j))).length + 1)) - alS k) ≤ 25 + (alS (k + 1) - alS k); first | omega | (rw [hmx]; omega)⟩ hl.1 rfl (Nat.le_of_ble_eq_true rfl) dX6_build_20 (fun v4 h4 n4 H locs hp4 hG hS => ?_)
  obtain ⟨rfl, hAD, hn5⟩ := hp4
  show W p l e (gR lv (3 + (alK (k + 1) - alK k)) (25 + (alS (k + 1) - alS k))) s m args below meth c H locs (1 + (alK (max k (((List.range k).map (fun (j : Nat) => adc (chh (R 5) P j))).length + 1)) - alK k)) (5 + (alS (max k (((List.range k).map (fun (j : Nat) => adc (chh (R 5) P j))).length + 1)) - alS k)) Q (F0 m 23 ls [])
  refine ret _ _ _ _ _ _ _ _ ?_ (by show 1 + (alK (max k (((List.range k).map (fun (j : Nat) => adc (chh (R 5) P j))).length + 1)) - alK k) ≤ 3 + (alK (k + 1) - alK k); first | omega | (rw [hmx]; omega)) (by show 5 + (alS (max k (((List.range k).map (fun (j : Nat) => adc (chh (R 5) P j))).length + 1)) - alS k) ≤ 25 + (alS (k + 1) - alS k); first | omega | (rw [hmx]; omega)) hG hS dX6_build_23
  have hst := build_step hT hpos (by omega) hcs hCD hAD hn5 hlt
  exact ⟨rfl, ⟨_, by rw [hr2]; exact hst⟩, by omega, by rw [hr2, hbn]; show (chh (R 5) P k) + R 5 (chh (R 5) P k) = (chh (R 5) P k) + 1; rw [e5]⟩

