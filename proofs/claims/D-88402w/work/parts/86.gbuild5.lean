/-! ===== a template is built: lists, the walk ===== -/
set_option maxRecDepth 100000
set_option maxHeartbeats 4000000 in
/-- a list of a template is built -/
theorem gbp_build (l : Launch) (G : gEnv) (A : Nat → Prop) (lv : Nat) (h : gH) (n : Nat) (S : MSt) (ad ap : Int → Nat) (b E t i : Int) (r bb : Nat) (ys : List Nat) (R : FF) (insR : Int → Int) (nn P : Int) (mx k : Nat) (h9 : gH) (nB : Nat) (adc : Int → Nat) (x0 x1 x2 x3 x5 : Value) (hlv : 15 ≤ lv) (hV : LV G h9 S ad) (hC : PCX G h9 S ap b E) (hB : BLD G h9 S ad bb ys (spTs S r i) (S.1 49 + 1) (bOwn S r i)) (hok : ∀ (j : Nat) (tr : Int × Int × Int), (spTs S r i)[j]? = some tr → wOk (S.2 35 tr.1)) (hPR : PR S r) (h0 : 0 ≤ i) (hn : i < S.1 40) (hw3 : S.2 41 i = 3) (hft : spFit S r i = true) (ht : b ≤ t ∧ t < E) (hT : TW nn (R 0) (R 5) (R 6)) (hTI : TI nn (R 0) (R 5) (R 6) insR) (hpos : POS R (fun q => if q = 0 then -1 else insR q) nn P mx) (hcs : CST G h9 h R (fun q => if q = 0 then -1 else insR q) adc P k nB n [x0, x1, x2, x3, .ref (nB + 1), x5]) (hlt : ∀ (a : Nat) (x : gE), h9 a = some x → a < nB) (hkm : k + (bNo S r i t).2.toNat ≤ mx) (hm : mx ≤ 600) (hrw : RWS R (chh (R 5) P k) (bNo S r i t).1) (hk2 : S.2 34 t = 2) (hQ : ∀ p, b ≤ p → p < E → QN S E p) (hE6 : E - b ≤ 600) (hwk : ∀ q, 0 ≤ q → q < nn → R 0 q = 1 → wOk (R 1 q)) (ih : ∀ j : Nat, (j : Int) < S.2 38 t → ∀ (P : Int) (mx k : Nat) (h9 h : gH) (n nB : Nat) (adc : Int → Nat) (x0 x1 x2 x3 x5 : Value), LV G h9 S ad → PCX G h9 S ap b E → BLD G h9 S ad bb ys (spTs S r i) (S.1 49 + 1) (bOwn S r i) → POS R (fun q => if q = 0 then -1 else insR q) nn P mx → CST G h9 h R (fun q => if q = 0 then -1 else insR q) adc P k nB n [x0, x1, x2, x3, .ref (nB + 1), x5] → (∀ (a : Nat) (x : gE), h9 a = some x → a < nB) → k + (bNo S r i (chh (S.2 37) t j)).2.toNat ≤ mx → mx ≤ 600 → RWS R (chh (R 5) P k) (bNo S r i (chh (S.2 37) t j)).1 → gVC l ⟨RX4, "build", "(LMacroGlass$Build;LMacroGlass$List;)V"⟩ G A (lv - 1) ((4 * ((bNo S r i (chh (S.2 37) t j)).1.length : Int) - (bNo S r i (chh (S.2 37) t j)).2).toNat + (alK (k + (bNo S r i (chh (S.2 37) t j)).2.toNat) - alK k)) ((30 * ((bNo S r i (chh (S.2 37) t j)).1.length : Int) - 5 * (bNo S r i (chh (S.2 37) t j)).2).toNat + (alS (k + (bNo S r i (chh (S.2 37) t j)).2.toNat) - alS k)) (ap (chh (S.2 37) t j)) [.ref bb, .ref nB] h n (fun v h' n' => v = none ∧ (∃ adc', CST G h9 h' R (fun q => if q = 0 then -1 else insR q) adc' P (k + (bNo S r i (chh (S.2 37) t j)).2.toNat) nB n' [x0, x1, x2, x3, .ref (nB + 1), x5]) ∧ n ≤ n' ∧ chh (R 5) P (k + (bNo S r i (chh (S.2 37) t j)).2.toNat) = chh (R 5) P k + ((bNo S r i (chh (S.2 37) t j)).1.length : Int))) : gC l yX5_build cX5_build 5 none G A lv ((4 * ((bNo S r i (t)).1.length : Int) - (bNo S r i (t)).2).toNat + (alK (k + (bNo S r i (t)).2.toNat) - alK k)) ((30 * ((bNo S r i (t)).1.length : Int) - 5 * (bNo S r i (t)).2).toNat + (alS (k + (bNo S r i (t)).2.toNat) - alS k)) [.ref (ap t), .ref bb, .ref nB] h n (fun v h' n' => v = none ∧ (∃ adc', CST G h9 h' R (fun q => if q = 0 then -1 else insR q) adc' P (k + (bNo S r i t).2.toNat) nB n' [x0, x1, x2, x3, .ref (nB + 1), x5]) ∧ n ≤ n' ∧ chh (R 5) P (k + (bNo S r i t).2.toNat) = (chh (R 5) P k) + ((bNo S r i t).1.length : Int)) := by
  refine gC_ofV RX5 (by decide +kernel) rfl (Nat.le_of_ble_eq_true rfl) ?_
  intro p e s m args below meth c Q X hinit hW ret H locs ls hG hS hl
  have hl : lv_has ls 5 [(0, .ref (ap t)), (1, .ref bb), (2, .ref nB)] := hl
  obtain ⟨hcp, hc0, hnB, hLB, hAB⟩ := id hcs
  have hs9 := hcp.1
  obtain ⟨⟨pl, hpl, hI0⟩, -⟩ := hC.1 t ht.1 ht.2
  obtain ⟨fl, qf, hBb0, hAF0, hFL0⟩ := id hB
  have hBb := hs9 _ _ hBb0
  obtain ⟨tgA, moA, dA, hLA, hAr⟩ := id hAB
  have hxl : ((List.range k).map (fun (j : Nat) => adc (chh (R 5) P j))).length = k := by simp
  have hmx : max k (((List.range k).map (fun (j : Nat) => adc (chh (R 5) P j))).length + 1) = k + 1 := by omega
  have hmo := alK_mono (a := k) (b := k + 1) (by omega)
  have hG0 := hG
  rw [paE2 (P := pwS S) hk2] at hI0
  have hI : h (ap t) = some ((3, 0), .inr (4, [.int (iI pl), .ref (ap t + 1)])) := hs9 _ _ hI0
  have hpl : pl = S.2 36 t := hpl (by show S.2 34 t ≠ 8; omega)
  have hbn0 : bNo S r i t = (bHd S t (bdS S r i 601 (t + 1) (t + S.2 37 t)).1 (bdS S r i 601 (t + 1) (t + S.2 37 t)).2 :: (bdS S r i 601 (t + 1) (t + S.2 37 t)).1, 1) := by unfold bNo; rw [if_pos hk2]
  have hr2 : (bNo S r i t).2.toNat = 1 := by rw [hbn0]; rfl
  have hr3 : (bNo S r i t).2 = 1 := by rw [hbn0]
  have hr1 : ((bNo S r i t).1.length : Int) = 1 + ((bdS S r i 601 (t + 1) (t + S.2 37 t)).1.length : Int) := by rw [hbn0]; show ((List.length _ + 1 : Nat) : Int) = _; omega
  have hrow0 := hrw
  rw [hbn0] at hrow0
  have hg0 : ∀ q, q ≤ 6 → R q (chh (R 5) P k) = bHd S t (bdS S r i 601 (t + 1) (t + S.2 37 t)).1 (bdS S r i 601 (t + 1) (t + S.2 37 t)).2 q := fun q hq => by
    have := hrow0 0 (by simp) q hq
    rw [show (chh (R 5) P k) + ((0 : Nat) : Int) = (chh (R 5) P k) by omega] at this
    exact this
  have h6c : R 6 (chh (R 5) P k) = (bdS S r i 601 (t + 1) (t + S.2 37 t)).2 := hg0 6 (by omega)
  have h5c : R 5 (chh (R 5) P k) = 1 + ((bdS S r i 601 (t + 1) (t + S.2 37 t)).1.length : Int) := hg0 5 (by omega)
  have e3 : R 3 (chh (R 5) P k) = pl := by rw [hpl]; exact hg0 3 (by omega)
  have e4 : R 4 (chh (R 5) P k) = S.1 49 + 1 := hg0 4 (by omega)
  have hw2 : 2 ≤ R 0 (chh (R 5) P k) := by rw [hg0 0 (by omega)]; exact (spJ_in _ _ _ _).1
  have hrwL : RWS R (chh (R 5) P k) (bHd S t (bdS S r i 601 (t + 1) (t + S.2 37 t)).1 (R 6 (chh (R 5) P k)) :: (bdS S r i 601 (t + 1) (t + S.2 37 t)).1) := by rw [h6c]; exact hrow0
  have hrwI : RWS R ((chh (R 5) P k) + 1) (bdS S r i 601 (t + 1) (t + S.2 37 t)).1 := by
    have := (RWS.app (as := [bHd S t (bdS S r i 601 (t + 1) (t + S.2 37 t)).1 (bdS S r i 601 (t + 1) (t + S.2 37 t)).2]) (bs := (bdS S r i 601 (t + 1) (t + S.2 37 t)).1)).mp hrow0
    exact this.2
  obtain ⟨⟨p0, p1, p2, p3, p4⟩, -⟩ := hpos k (by omega)
  have hposL := POS_list hT hTI p2 (by omega) hw2
  have hVh := hV.sub hs9
  have hCh := hC.sub hs9
  have hBh := hB.sub hs9
  have hcn := (hQ t ht.1 ht.2).2.2.1
  have hpln : ((pcs (pwS S) ap t).length : Int) = S.2 38 t := by rw [pcs_len]; show ((S.2 38 t).toNat : Int) = _; omega
  have hGo := hG
  refine n_new (ci := 10) (fs := [.int (iI (0)), .int (iI (0)), .null, .int (iI (0)), .null, .int (iI (0))]) X in_X12 tyX12 tyX12_ok q937 q582 q92 hW hG hS rfl (1, 0) (by decide +kernel) (by show 0 + 1 ≤ (4 * ((bNo S r i (t)).1.length : Int) - (bNo S r i (t)).2).toNat + (alK (k + (bNo S r i (t)).2.toNat) - alK k); first | omega | (rw [hmx, hr2]; omega)) (by show 0 + 6 ≤ (30 * ((bNo S r i (t)).1.length : Int) - 5 * (bNo S r i (t)).2).toNat + (alS (k + (bNo S r i (t)).2.toNat) - alS k); first | omega | (rw [hmx, hr2]; omega)) dX5_build_0 (fun H hG hS => ?_)
  obtain ⟨h2, eh2⟩ : ∃ hz, hz = va_up h n (some ((1, 0), .inr (10, [.int (iI (0)), .int (iI (0)), .null, .int (iI (0)), .null, .int (iI (0))]))) := ⟨_, rfl⟩
  rw [← eh2] at hG
  have f2_bb : h2 bb = some ((6, 0), .inr (15, [.ref fl, .int (iI (S.1 49 + 1)), .int (iI (bOwn S r i))])) := by rw [eh2, up_n (Nat.ne_of_lt (hGo.lt hBb))]; exact hBb
  have f2_apt : h2 (ap t) = some ((3, 0), .inr (4, [.int (iI (pl)), .ref (ap t + 1)])) := by rw [eh2, up_n (Nat.ne_of_lt (hGo.lt hI))]; exact hI
  have f2_n : h2 n = some ((1, 0), .inr (10, [.int (iI (0)), .int (iI (0)), .null, .int (iI (0)), .null, .int (iI (0))])) := by rw [eh2]; exact up_s _ _ _
  refine lv_dup X.1 X.2.1 dX5_build_3 rfl ?_
  refine lv_aload_n X.1 X.2.1 dX5_build_4 rfl (lv_at hl 0 rfl) ?_
  refine n_get (ci := 4) X in_X5 hW hG f2_apt rfl 0 (by decide) q431 (fun x hx => u_same (X.2.2.2.2 _ q432) x hx) rfl dX5_build_5 ?_
  refine lv_aload_n X.1 X.2.1 dX5_build_8 rfl (lv_at hl 1 rfl) ?_
  refine n_getN (ci := 15) X in_X17 hW hG f2_bb rfl 1 (by decide) q988 (fun _ h => h) rfl dX5_build_9 ?_
  refine g_callI (rest := [.ref n]) (k := 2) X hW hG hS (gl_init l G A (lv - 1) h2 0 n (1, 0) pl (S.1 49 + 1) (by omega) f2_n) q1053 q584 q92 (lw_meth q585) rfl (by decide +kernel) rfl ⟨by show (lv - 1) + 1 ≤ lv; omega, by show 8 + (3 + 11) + 40 * (lv - 1) ≤ 40 * lv; omega⟩ ⟨by show 1 + 1 ≤ (4 * ((bNo S r i (t)).1.length : Int) - (bNo S r i (t)).2).toNat + (alK (k + (bNo S r i (t)).2.toNat) - alK k); rw [hr2, hr3, hr1]; omega, by show 6 + 3 ≤ (30 * ((bNo S r i (t)).1.length : Int) - 5 * (bNo S r i (t)).2).toNat + (alS (k + (bNo S r i (t)).2.toNat) - alS k); rw [hr2, hr3, hr1]; omega⟩ hl.1 rfl (Nat.le_of_ble_eq_true rfl) dX5_build_12 (fun v3 h3 n3 H locs hp3 hG hS => ?_)
  obtain ⟨rfl, hn1, hL1, hA1, hq9⟩ := hp3
  rw [hn1] at hG
  have hs1 : gSub h h3 := fun x y e9 => by have := hG0.lt e9; rw [hq9 x (by omega) (by omega), eh2, up_n (by omega)]; exact e9
  have hc1 := CST_new (R := R) (ins := (fun q => if q = 0 then -1 else insR q)) (P := (chh (R 5) P k)) hs1 hL1 hA1
  show W p l e (gR lv ((4 * ((bNo S r i (t)).1.length : Int) - (bNo S r i (t)).2).toNat + (alK (k + (bNo S r i (t)).2.toNat) - alK k)) ((30 * ((bNo S r i (t)).1.length : Int) - 5 * (bNo S r i (t)).2).toNat + (alS (k + (bNo S r i (t)).2.toNat) - alS k))) s m args below meth c H locs 2 9 Q (F0 m 15 ls [.ref n])
  refine lv_astore_n (lv' := [(3, .ref n), (0, .ref (ap t)), (1, .ref bb), (2, .ref nB)]) X.1 X.2.1 dX5_build_15 rfl hl (by decide) rfl (fun ls hl => ?_)
  refine lv_iconst (v := iI (0)) X.1 X.2.1 dX5_build_16 rfl ?_
  refine lv_istore (lv' := [(4, .int (iI (0))), (3, .ref n), (0, .ref (ap t)), (1, .ref bb), (2, .ref nB)]) X.1 X.2.1 dX5_build_17 hl (by decide) rfl (fun ls hl => ?_)
  have L19 : ∀ (N19 : Nat) (g1 : gH) (n1 j kk cz sz : Nat) (ad1 : Int → Nat), ((j : Int) ≤ S.2 38 t) → (CST G h g1 R (fun q => if q = 0 then -1 else insR q) ad1 (chh (R 5) P k) kk n n1 [.int (iI pl), .int (iI (S.1 49 + 1)), .null, .int (iI 0), .ref (n + 1), .int (iI 2)]) → ((kk : Int) + (bdS S r i 601 (chh (S.2 37) t j) (t + S.2 37 t)).2 = R 6 (chh (R 5) P k)) → (RWS R (chh (R 5) (chh (R 5) P k) kk) (bdS S r i 601 (chh (S.2 37) t j) (t + S.2 37 t)).1) → (chh (R 5) (chh (R 5) P k) kk + ((bdS S r i 601 (chh (S.2 37) t j) (t + S.2 37 t)).1.length : Int) = (chh (R 5) P k) + R 5 (chh (R 5) P k)) → (cz ≤ 2 + (4 * (chh (R 5) (chh (R 5) P k) kk - (chh (R 5) P k) - 1) - kk).toNat + alK kk ∧ sz ≤ 9 + (30 * (chh (R 5) (chh (R 5) P k) kk - (chh (R 5) P k) - 1) - 5 * kk).toNat + alS kk) → (S.2 38 t).toNat - j < N19 → ∀ (H : Heap) (locs : List Loc) (ls : Array Slot), gOn G.1 A g1 n1 H → va_S A s.heap H locs → lv_has ls 5 [(0, .ref (ap t)), (1, .ref bb), (2, .ref nB), (3, .ref n), (4, .int (iI ((j : Int))))] → W p l e (gR lv ((4 * ((bNo S r i (t)).1.length : Int) - (bNo S r i (t)).2).toNat + (alK (k + (bNo S r i (t)).2.toNat) - alK k)) ((30 * ((bNo S r i (t)).1.length : Int) - 5 * (bNo S r i (t)).2).toNat + (alS (k + (bNo S r i (t)).2.toNat) - alS k))) s m args below meth c H locs cz sz Q (F0 m 19 ls []) := by
    intro N19
    induction N19 with
    | zero => intro g1 n1 j kk cz sz ad1 hj hc1 hkk hrow hpl9 hcz hN; exact absurd hN (Nat.not_lt_zero _)
    | succ N19 ih19 =>
      intro g1 n1 j kk cz sz ad1 hj hc1 hkk hrow hpl9 hcz hN19 H locs ls hG hS hl
      have hs91 := hc1.1.1
      have hC1 := hCh.sub hs91
      obtain ⟨⟨pl1, -, hIp⟩, hAp1⟩ := hC1.1 t ht.1 ht.2
      have hAP1 := hAp1 hk2
      have hIp1 := hs91 _ _ hI
      have hAP1 : AL G g1 (ap t + 1) (pcs (pwS S) ap t) (S.2 38 t).toNat := hAP1
      obtain ⟨tgP, moP, dP, hLP, hPr⟩ := id hAP1
      have hrt0 := bdS_rt (S := S) (r := r) (i := i) 601 (chh (S.2 37) t j) (t + S.2 37 t)
      have hch := hT.ch p2 (show (chh (R 5) P k) < nn by omega) hw2 kk (by omega)
      have hp6 := hT.p p2 (show (chh (R 5) P k) < nn by omega)
      have hak := alK_le kk (by omega)
      have hcb : cz ≤ (4 * ((bNo S r i (t)).1.length : Int) - (bNo S r i (t)).2).toNat + (alK (k + (bNo S r i (t)).2.toNat) - alK k) ∧ sz ≤ (30 * ((bNo S r i (t)).1.length : Int) - 5 * (bNo S r i (t)).2).toNat + (alS (k + (bNo S r i (t)).2.toNat) - alS k) := by rw [hr2, hr3, hr1]; omega
      refine lv_iload X.1 X.2.1 dX5_build_19 (lv_at hl 4 rfl) ?_
      refine lv_aload_n X.1 X.2.1 dX5_build_21 rfl (lv_at hl 0 rfl) ?_
      refine n_get (ci := 4) X in_X5 hW hG hIp1 rfl 1 (by decide) q424 (fun _ h => h) rfl dX5_build_22 ?_
      refine g_callV (ci := 17) (rest := [.int (iI ((j : Int)))]) (k := 0) X hW hG hS hLP rfl (al_size l G A (lv - 1) g1 n1 (ap t + 1) (pcs (pwS S) ap t) (S.2 38 t).toNat hAP1) (lw_V q738 q323 q324 q69 q325) (by decide +kernel) rfl ⟨by show (lv - 1) + 1 ≤ lv; omega, by show 8 + (1 + 11) + 40 * (lv - 1) ≤ 40 * lv; omega⟩ ⟨by show cz + 0 ≤ (4 * ((bNo S r i (t)).1.length : Int) - (bNo S r i (t)).2).toNat + (alK (k + (bNo S r i (t)).2.toNat) - alK k); first | exact hcb.1 | exact hcb.2, by show sz + 0 ≤ (30 * ((bNo S r i (t)).1.length : Int) - 5 * (bNo S r i (t)).2).toNat + (alS (k + (bNo S r i (t)).2.toNat) - alS k); first | exact hcb.1 | exact hcb.2⟩ hl.1 rfl (Nat.le_of_ble_eq_true rfl) dX5_build_25 (g_pk (fun H locs hG hS => ?_))
      show W p l e (gR lv ((4 * ((bNo S r i (t)).1.length : Int) - (bNo S r i (t)).2).toNat + (alK (k + (bNo S r i (t)).2.toNat) - alK k)) ((30 * ((bNo S r i (t)).1.length : Int) - 5 * (bNo S r i (t)).2).toNat + (alS (k + (bNo S r i (t)).2.toNat) - alS k))) s m args below meth c H locs cz sz Q (F0 m 28 ls [.int (iI (((pcs (pwS S) ap t).length : Int))), .int (iI ((j : Int)))])
      refine i_icmp_ge X 54 dX5_build_28 (by decide) (by first | omega | (rw [hmx, hr2]; omega)) (by first | omega | (rw [hmx, hr2]; omega)) (fun c28 => ?_) (fun c28 => ?_)
      · have hce := ((hQ t ht.1 ht.2).2.2.2.2.1 hk2).1
        rw [show chh (S.2 37) t j = (t + S.2 37 t) by rw [← hce, show (S.2 38 t).toNat = j by omega], bdS_end (Int.le_refl _)] at hkk
        have hkk : (kk : Int) + 0 = R 6 (chh (R 5) P k) := hkk
        have hk6 : kk = (R 6 (chh (R 5) P k)).toNat := by omega
        subst hk6
        have hlst := (hT.lst p2 (show (chh (R 5) P k) < nn by omega) hw2).1
        have hk0 : 0 < ((List.range (R 6 (chh (R 5) P k)).toNat).map (fun (j : Nat) => ad1 (chh (R 5) (chh (R 5) P k) j))).length → ∃ c0 ip nm, ((List.range (R 6 (chh (R 5) P k)).toNat).map (fun (j : Nat) => ad1 (chh (R 5) (chh (R 5) P k) j)))[0]? = some (ad1 c0) ∧ g1 (ad1 c0) = some ((1, 0), itE R c0 ip nm (ad1 c0)) ∧ 0 ≤ R 0 c0 ∧ R 0 c0 = R 0 ((chh (R 5) P k) + 1) ∧ R 1 c0 = R 1 ((chh (R 5) P k) + 1) ∧ (R 0 ((chh (R 5) P k) + 1) = 1 → wOk (R 1 ((chh (R 5) P k) + 1))) := by
          intro z
          have z : 0 < (R 6 (chh (R 5) P k)).toNat := by simpa using z
          have k0 := hT.kid p2 (show (chh (R 5) P k) < nn by omega) hw2 (j := 0) (by omega)
          have k00 : chh (R 5) (chh (R 5) P k) 0 = (chh (R 5) P k) + 1 := rfl
          refine ⟨(chh (R 5) P k) + 1, _, 0, ?_, (hc1.1.2.2.1 ((chh (R 5) P k) + 1) (by omega) (by rw [hlst]; omega)).1, (hT.w (by omega) (by omega)).1, rfl, rfl, fun y => hwk _ (by omega) (by omega) y⟩
          rw [List.getElem?_map, List.getElem?_range z]
          rfl
        have hk1 : 1 < ((List.range (R 6 (chh (R 5) P k)).toNat).map (fun (j : Nat) => ad1 (chh (R 5) (chh (R 5) P k) j))).length → ∃ c0 ip nm, ((List.range (R 6 (chh (R 5) P k)).toNat).map (fun (j : Nat) => ad1 (chh (R 5) (chh (R 5) P k) j)))[1]? = some (ad1 c0) ∧ g1 (ad1 c0) = some ((1, 0), itE R c0 ip nm (ad1 c0)) ∧ 0 ≤ R 0 c0 ∧ R 0 c0 = R 0 (chh (R 5) (chh (R 5) P k) 1) := by
          intro z
          have z : 1 < (R 6 (chh (R 5) P k)).toNat := by simpa using z
          have k1 := hT.kid p2 (show (chh (R 5) P k) < nn by omega) hw2 (j := 1) (by omega)
          refine ⟨chh (R 5) (chh (R 5) P k) 1, _, 0, ?_, (hc1.1.2.2.1 (chh (R 5) (chh (R 5) P k) 1) (by omega) (by rw [hlst]; omega)).1, (hT.w (by omega) (by omega)).1, rfl⟩
          rw [List.getElem?_map, List.getElem?_range z]
          rfl
        refine lv_aload_n X.1 X.2.1 dX5_build_54 rfl (lv_at hl 3 rfl) ?_
        refine g_callV (ci := 10) (rest := []) (k := 0) X hW hG hS hc1.2.2.2.1 rfl (gl_close l G A (lv - 1) g1 n1 n (1, 0) (.int (iI pl)) (.int (iI (S.1 49 + 1))) .null (.int (iI 0)) 2 ((List.range (R 6 (chh (R 5) P k)).toNat).map (fun (j : Nat) => ad1 (chh (R 5) (chh (R 5) P k) j))) (R 6 (chh (R 5) P k)).toNat R ad1 (1, 0) (R 0 ((chh (R 5) P k) + 1)) (R 1 ((chh (R 5) P k) + 1)) (R 0 (chh (R 5) (chh (R 5) P k) 1)) (by omega) hc1.2.2.2.1 hc1.2.2.2.2 hk0 hk1) (lw_V q1080 q686 q687 q92 q688) (by decide +kernel) rfl ⟨by show (lv - 1) + 1 ≤ lv; omega, by show 8 + (5 + 11) + 40 * (lv - 1) ≤ 40 * lv; omega⟩ ⟨by show cz + 0 ≤ (4 * ((bNo S r i (t)).1.length : Int) - (bNo S r i (t)).2).toNat + (alK (k + (bNo S r i (t)).2.toNat) - alK k); first | exact hcb.1 | exact hcb.2, by show sz + 0 ≤ (30 * ((bNo S r i (t)).1.length : Int) - 5 * (bNo S r i (t)).2).toNat + (alS (k + (bNo S r i (t)).2.toNat) - alS k); first | exact hcb.1 | exact hcb.2⟩ hl.1 rfl (Nat.le_of_ble_eq_true rfl) dX5_build_55 (fun v4 h4 n4 H locs hp4 hG hS => ?_)
        obtain ⟨rfl, eh3, hn3⟩ := hp4
        rw [hn3] at hG
        have hkd := list_kind hT p2 (by omega) hw2 hrwL h5c
        have exl : ((((List.range (R 6 (chh (R 5) P k)).toNat).map (fun (j : Nat) => ad1 (chh (R 5) (chh (R 5) P k) j))).length : Nat) : Int) = R 6 (chh (R 5) P k) := by simp; omega
        rw [exl, ← hkd] at eh3
        have hCD := CST_done hT p2 (by omega) hw2 hc1 (fun a x e9 => hG0.lt e9) e3 e4 eh3
        have hs2 := hCD.1.1
        have hL2 := hs2 _ _ hLB
        have hA2 := hAB.sub hs2
        have hI2 := hCD.2.1
        have hrg := hCD.1.2.2.2.2 (chh (R 5) P k) (Int.le_refl _) (by omega)
        have had : ad1 (chh (R 5) P k) = n := hc1.2.1
        have hfc : cz + 0 + (alK (max k (((List.range k).map (fun (j : Nat) => adc (chh (R 5) P j))).length + 1)) - alK k) ≤ (4 * ((bNo S r i (t)).1.length : Int) - (bNo S r i (t)).2).toNat + (alK (k + (bNo S r i (t)).2.toNat) - alK k) ∧ sz + 0 + (alS (max k (((List.range k).map (fun (j : Nat) => adc (chh (R 5) P j))).length + 1)) - alS k) ≤ (30 * ((bNo S r i (t)).1.length : Int) - 5 * (bNo S r i (t)).2).toNat + (alS (k + (bNo S r i (t)).2.toNat) - alS k) := by rw [hmx, hr2, hr3, hr1]; omega
        show W p l e (gR lv ((4 * ((bNo S r i (t)).1.length : Int) - (bNo S r i (t)).2).toNat + (alK (k + (bNo S r i (t)).2.toNat) - alK k)) ((30 * ((bNo S r i (t)).1.length : Int) - 5 * (bNo S r i (t)).2).toNat + (alS (k + (bNo S r i (t)).2.toNat) - alS k))) s m args below meth c H locs cz sz Q (F0 m 58 ls [])
        refine lv_aload_n X.1 X.2.1 dX5_build_58 rfl (lv_at hl 2 rfl) ?_
        refine lv_aload_n X.1 X.2.1 dX5_build_59 rfl (lv_at hl 3 rfl) ?_
        rw [← had]
        refine g_callV (ci := 10) (rest := []) (k := 1) X hW hG hS hL2 rfl (gl_add l G A (lv - 1) h4 n1 nB (1, 0) x0 x1 x2 x3 x5 ((List.range k).map (fun (j : Nat) => adc (chh (R 5) P j))) k R ad1 (chh (R 5) P k) (1, 0) .null 0 (by omega) hL2 hA2 hI2 (by rw [had]; omega) (by decide) (by omega)) (lw_V q1081 q659 q660 q92 q661) (by decide +kernel) rfl ⟨by show (lv - 1) + 1 ≤ lv; omega, by show 8 + (2 + 11) + 40 * (lv - 1) ≤ 40 * lv; omega⟩ ⟨by show cz + (alK (max k (((List.range k).map (fun (j : Nat) => adc (chh (R 5) P j))).length + 1)) - alK k) ≤ (4 * ((bNo S r i (t)).1.length : Int) - (bNo S r i (t)).2).toNat + (alK (k + (bNo S r i (t)).2.toNat) - alK k); first | exact hfc.1 | exact hfc.2, by show sz + (alS (max k (((List.range k).map (fun (j : Nat) => adc (chh (R 5) P j))).length + 1)) - alS k) ≤ (30 * ((bNo S r i (t)).1.length : Int) - 5 * (bNo S r i (t)).2).toNat + (alS (k + (bNo S r i (t)).2.toNat) - alS k); first | exact hfc.1 | exact hfc.2⟩ hl.1 rfl (Nat.le_of_ble_eq_true rfl) dX5_build_60 (fun v5 h5 n5 H locs hp5 hG hS => ?_)
        obtain ⟨rfl, hAD, hn5⟩ := hp5
        show W p l e (gR lv ((4 * ((bNo S r i (t)).1.length : Int) - (bNo S r i (t)).2).toNat + (alK (k + (bNo S r i (t)).2.toNat) - alK k)) ((30 * ((bNo S r i (t)).1.length : Int) - 5 * (bNo S r i (t)).2).toNat + (alS (k + (bNo S r i (t)).2.toNat) - alS k))) s m args below meth c H locs (cz + (alK (max k (((List.range k).map (fun (j : Nat) => adc (chh (R 5) P j))).length + 1)) - alK k)) (sz + (alS (max k (((List.range k).map (fun (j : Nat) => adc (chh (R 5) P j))).length + 1)) - alS k)) Q (F0 m 63 ls [])
        refine ret _ _ _ _ _ _ _ _ ?_ (by show cz + (alK (max k (((List.range k).map (fun (j : Nat) => adc (chh (R 5) P j))).length + 1)) - alK k) ≤ (4 * ((bNo S r i (t)).1.length : Int) - (bNo S r i (t)).2).toNat + (alK (k + (bNo S r i (t)).2.toNat) - alK k); first | omega | (rw [hmx, hr2]; omega)) (by show sz + (alS (max k (((List.range k).map (fun (j : Nat) => adc (chh (R 5) P j))).length + 1)) - alS k) ≤ (30 * ((bNo S r i (t)).1.length : Int) - 5 * (bNo S r i (t)).2).toNat + (alS (k + (bNo S r i (t)).2.toNat) - alS k); first | omega | (rw [hmx, hr2]; omega)) hG hS dX5_build_63
        have hst := build_step hT hpos (by omega) hcs hCD hAD hn5 hlt
        exact ⟨rfl, ⟨_, by rw [hr2]; exact hst⟩, by omega, by rw [hr2, hr1]; show (chh (R 5) P k) + R 5 (chh (R 5) P k) = _; rw [h5c]⟩
      · have kd := QN.kid hQ ht.1 ht.2 hk2 (j := j) (by omega)
        obtain ⟨⟨plk, -, hIk⟩, -⟩ := hC1.1 (chh (S.2 37) t j) (by omega) (by omega)
        have hbn := bdS_node (r := r) (i := i) hQ hE6 (t := chh (S.2 37) t j) (te := (t + S.2 37 t)) (by omega) (by omega) (by omega)
        have hro := hrow
        rw [hbn] at hro
        obtain ⟨hrw1, hrw2⟩ := RWS.app.mp hro
        have hkk2 := hkk
        rw [hbn] at hkk2
        have hkk2 : (kk : Int) + ((bNo S r i (chh (S.2 37) t j)).2 + (bdS S r i 601 (chh (S.2 37) t j + S.2 37 (chh (S.2 37) t j)) (t + S.2 37 t)).2) = R 6 (chh (R 5) P k) := hkk2
        have hpl2 := hpl9
        rw [hbn] at hpl2
        have hpl2 : chh (R 5) (chh (R 5) P k) kk + (((bNo S r i (chh (S.2 37) t j)).1 ++ (bdS S r i 601 (chh (S.2 37) t j + S.2 37 (chh (S.2 37) t j)) (t + S.2 37 t)).1).length : Int) = (chh (R 5) P k) + R 5 (chh (R 5) P k) := hpl2
        rw [List.length_append] at hpl2
        have hrt1 := bNo_rt (S := S) (r := r) (i := i) (t := chh (S.2 37) t j)
        have hrt2 := bdS_rt (S := S) (r := r) (i := i) 601 (chh (S.2 37) t j + S.2 37 (chh (S.2 37) t j)) (t + S.2 37 t)
        have hle1 := bNo_le (S := S) (r := r) (i := i) (t := chh (S.2 37) t j)
        have hak2 := alK_le (kk + (bNo S r i (chh (S.2 37) t j)).2.toNat) (by omega)
        have hmo2 := alK_mono (a := kk) (b := kk + (bNo S r i (chh (S.2 37) t j)).2.toNat) (by omega)
        have hbc : cz + ((4 * ((bNo S r i (chh (S.2 37) t j)).1.length : Int) - (bNo S r i (chh (S.2 37) t j)).2).toNat + (alK (kk + (bNo S r i (chh (S.2 37) t j)).2.toNat) - alK kk)) ≤ (4 * ((bNo S r i (t)).1.length : Int) - (bNo S r i (t)).2).toNat + (alK (k + (bNo S r i (t)).2.toNat) - alK k) ∧ sz + ((30 * ((bNo S r i (chh (S.2 37) t j)).1.length : Int) - 5 * (bNo S r i (chh (S.2 37) t j)).2).toNat + (alS (kk + (bNo S r i (chh (S.2 37) t j)).2.toNat) - alS kk)) ≤ (30 * ((bNo S r i (t)).1.length : Int) - 5 * (bNo S r i (t)).2).toNat + (alS (k + (bNo S r i (t)).2.toNat) - alS k) := by rw [hr2, hr3, hr1]; omega
        refine lv_aload_n X.1 X.2.1 dX5_build_31 rfl (lv_at hl 0 rfl) ?_
        refine n_get (ci := 4) X in_X5 hW hG hIp1 rfl 1 (by decide) q424 (fun _ h => h) rfl dX5_build_32 ?_
        refine lv_iload X.1 X.2.1 dX5_build_35 (lv_at hl 4 rfl) ?_
        refine g_callV (ci := 17) (rest := []) (k := 1) X hW hG hS hLP rfl (al_get l G A (lv - 1) g1 n1 (ap t + 1) (pcs (pwS S) ap t) (S.2 38 t).toNat (j : Int) (ap (chh (S.2 37) t j)) (by omega) hAP1 (by omega) (by rw [Int.toNat_natCast]; exact pcs_get (pwS S) ap t (by show (j : Int) < S.2 38 t; omega))) (lw_V q739 q691 q692 q69 q693) (by decide +kernel) rfl ⟨by show (lv - 1) + 1 ≤ lv; omega, by show 8 + (2 + 11) + 40 * (lv - 1) ≤ 40 * lv; omega⟩ ⟨by show cz + 0 ≤ (4 * ((bNo S r i (t)).1.length : Int) - (bNo S r i (t)).2).toNat + (alK (k + (bNo S r i (t)).2.toNat) - alK k); first | exact hcb.1 | exact hcb.2, by show sz + 0 ≤ (30 * ((bNo S r i (t)).1.length : Int) - 5 * (bNo S r i (t)).2).toNat + (alS (k + (bNo S r i (t)).2.toNat) - alS k); first | exact hcb.1 | exact hcb.2⟩ hl.1 rfl (Nat.le_of_ble_eq_true rfl) dX5_build_37 (g_pk (fun H locs hG hS => ?_))
        show W p l e (gR lv ((4 * ((bNo S r i (t)).1.length : Int) - (bNo S r i (t)).2).toNat + (alK (k + (bNo S r i (t)).2.toNat) - alK k)) ((30 * ((bNo S r i (t)).1.length : Int) - 5 * (bNo S r i (t)).2).toNat + (alS (k + (bNo S r i (t)).2.toNat) - alS k))) s m args below meth c H locs cz sz Q (F0 m 40 ls [.ref (ap (chh (S.2 37) t j))])
        refine pa_cast X hW hG hIk q740 dX5_build_40 ?_
        refine lv_aload_n X.1 X.2.1 dX5_build_43 rfl (lv_at hl 1 rfl) ?_
        refine lv_aload_n X.1 X.2.1 dX5_build_44 rfl (lv_at hl 3 rfl) ?_
        refine g_callX (rest := []) (k := 2) X hW hG hS (ih j (by omega) (chh (R 5) P k) (R 6 (chh (R 5) P k)).toNat kk h g1 n1 n ad1 (.int (iI pl)) (.int (iI (S.1 49 + 1))) .null (.int (iI 0)) (.int (iI 2)) hVh hCh hBh hposL hc1 (fun a x e9 => hG0.lt e9) (by omega) (by omega) hrw1) q1054 q1043 (gDecl_abs hW q1042) (by decide +kernel) rfl ⟨by show (lv - 1) + 1 ≤ lv; omega, by show 40 + 40 * (lv - 1) ≤ 40 * lv; omega⟩ ⟨by show cz + ((4 * ((bNo S r i (chh (S.2 37) t j)).1.length : Int) - (bNo S r i (chh (S.2 37) t j)).2).toNat + (alK (kk + (bNo S r i (chh (S.2 37) t j)).2.toNat) - alK kk)) ≤ (4 * ((bNo S r i (t)).1.length : Int) - (bNo S r i (t)).2).toNat + (alK (k + (bNo S r i (t)).2.toNat) - alK k); first | exact hbc.1 | exact hbc.2, by show sz + ((30 * ((bNo S r i (chh (S.2 37) t j)).1.length : Int) - 5 * (bNo S r i (chh (S.2 37) t j)).2).toNat + (alS (kk + (bNo S r i (chh (S.2 37) t j)).2.toNat) - alS kk)) ≤ (30 * ((bNo S r i (t)).1.length : Int) - 5 * (bNo S r i (t)).2).toNat + (alS (k + (bNo S r i (t)).2.toNat) - alS k); first | exact hbc.1 | exact hbc.2⟩ hl.1 rfl (Nat.le_of_ble_eq_true rfl) dX5_build_45 (fun v6 h6 n6 H locs hp6 hG hS => ?_)
        obtain ⟨rfl, ⟨ad2, hc2⟩, hn2, hps2⟩ := hp6
        show W p l e (gR lv ((4 * ((bNo S r i (t)).1.length : Int) - (bNo S r i (t)).2).toNat + (alK (k + (bNo S r i (t)).2.toNat) - alK k)) ((30 * ((bNo S r i (t)).1.length : Int) - 5 * (bNo S r i (t)).2).toNat + (alS (k + (bNo S r i (t)).2.toNat) - alS k))) s m args below meth c H locs (cz + ((4 * ((bNo S r i (chh (S.2 37) t j)).1.length : Int) - (bNo S r i (chh (S.2 37) t j)).2).toNat + (alK (kk + (bNo S r i (chh (S.2 37) t j)).2.toNat) - alK kk))) (sz + ((30 * ((bNo S r i (chh (S.2 37) t j)).1.length : Int) - 5 * (bNo S r i (chh (S.2 37) t j)).2).toNat + (alS (kk + (bNo S r i (chh (S.2 37) t j)).2.toNat) - alS kk))) Q (F0 m 48 ls [])
        refine i_inc (lv' := [(4, .int (iI ((j : Int) + 1))), (0, .ref (ap t)), (1, .ref bb), (2, .ref nB), (3, .ref n)]) X dX5_build_48 hl (k := 4) rfl (by decide) rfl (fun ls hl => ?_)
        refine lv_goto (tgt := 19) X.1 X.2.1 dX5_build_51 (by decide) ?_
        exact ih19 h6 n6 (j + 1) (kk + (bNo S r i (chh (S.2 37) t j)).2.toNat) (cz + ((4 * ((bNo S r i (chh (S.2 37) t j)).1.length : Int) - (bNo S r i (chh (S.2 37) t j)).2).toNat + (alK (kk + (bNo S r i (chh (S.2 37) t j)).2.toNat) - alK kk))) (sz + ((30 * ((bNo S r i (chh (S.2 37) t j)).1.length : Int) - 5 * (bNo S r i (chh (S.2 37) t j)).2).toNat + (alS (kk + (bNo S r i (chh (S.2 37) t j)).2.toNat) - alS kk))) ad2 (by omega) hc2 (by rw [kd.2.2.2.2.1]; omega) (by rw [hps2, kd.2.2.2.2.1]; exact hrw2) (by rw [hps2, kd.2.2.2.2.1]; omega) (by rw [hps2]; omega) (by omega) H locs ls hG hS (lv_sub hl [1, 2, 3, 4, 0] rfl)
  exact L19 _ h3 (n + 1 + 1) 0 0 2 9 _ (by omega) hc1 (by rw [h6c]; show ((0 : Nat) : Int) + (bdS S r i 601 (t + 1) (t + S.2 37 t)).2 = _; omega) hrwI (by show (chh (R 5) P k) + 1 + _ = _; rw [h5c]; show (chh (R 5) P k) + 1 + ((bdS S r i 601 (t + 1) (t + S.2 37 t)).1.length : Int) = _; omega) (by constructor <;> omega) (Nat.lt_succ_self _) H locs ls hG hS (lv_sub hl [2, 3, 4, 1, 0] rfl)

