/-! ===== what fits, asked alone ===== -/
set_option maxRecDepth 100000
set_option maxHeartbeats 4000000 in
theorem gpf_fits (l : Launch) (G : gEnv) (A : Nat → Prop) (lv : Nat) (h : gH) (n : Nat) (S : MSt) (ad ap : Int → Nat) (b E q t : Int) (hlv : 2 ≤ lv) (hV : LV G h S ad) (hC : PCX G h S ap b E) (hq : b ≤ q ∧ q < E) (ht : 0 ≤ t ∧ t < S.1 40) (hk : S.2 34 q = 0) (hv : 0 ≤ S.2 35 q) : gC l yX6_fits cX6_fits 3 (some .boolean) G A lv 0 0 [.ref (ap q), .ref (ad t), .null] h n (gPure (some (.int (iI (bI (spN S q t))))) h n) := by
  refine gC_ofI RX6 (by decide +kernel) rfl (Nat.le_of_ble_eq_true rfl) ?_
  intro p e s m args below meth c Q X hW ret H locs ls hG hS hl
  have hl : lv_has ls 3 [(0, .ref (ap q)), (1, .ref (ad t)), (2, .null)] := hl
  obtain ⟨⟨pl, hpl, hI⟩, hAp⟩ := hC.1 q hq.1 hq.2
  have hok := hC.2 q hq.1 hq.2
  have hIt := hV.it ht.1 ht.2
  have hwt := hV.1.1.w ht.1 ht.2
  have hkt := hV.2.2.2 t ht.1 ht.2
  have hgt := hV.1.2.2 t ht.1 ht.2
  rw [paE0 (P := pwS S) hk] at hI
  have hI : h (ap q) = some ((3, 0), .inr (5, [.int (iI pl), .int (iI (S.2 35 q))])) := hI
  have hvq := hok.2 hk
  refine lv_aload_n X.1 X.2.1 dX6_fits_0 rfl (lv_at hl 1 rfl) ?_
  refine g_callX (rest := []) (k := 0) X hW hG hS (vi_kind l G A (lv - 1) h n (rwS S) ad (1, 0) (inS S ad t) t t hIt hwt.1) q932 q801 (gDecl_abs hW q800) (by decide +kernel) rfl ⟨by show (lv - 1) + 1 ≤ lv; omega, by show 40 + 40 * (lv - 1) ≤ 40 * lv; omega⟩ ⟨by show 0 + 0 ≤ 0; first | omega | (split <;> omega), by show 0 + 0 ≤ 0; first | omega | (split <;> omega)⟩ hl.1 rfl (Nat.le_of_ble_eq_true rfl) dX6_fits_1 (g_pk (fun H locs hG hS => ?_))
  show W p l e (gR lv 0 0) s m args below meth c H locs 0 0 Q (F0 m 4 ls [.int (iI (S.2 41 t))])
  refine i_if_ne X 22 dX6_fits_4 (by decide) (by first | omega | (split <;> omega)) (fun c4 => ?_) (fun c4 => ?_)
  · refine lv_iconst (v := iI (0)) X.1 X.2.1 dX6_fits_22 rfl ?_
    refine ret _ _ _ _ _ _ _ _ _ ?_ (nar_b (by first | omega | (split <;> omega))) (by show 0 ≤ 0; first | omega | (split <;> omega)) (by show 0 ≤ 0; first | omega | (split <;> omega)) hG hS dX6_fits_23
    exact ⟨by congr 3; unfold spN; rw [if_pos hk]; first | (apply bI_t; rw [decide_eq_true c4, Bool.true_and]; rw [if_pos c4] at c15; exact decide_eq_true c15) | (apply bI_f; rw [Bool.and_eq_false_iff]; first | (left; exact decide_eq_false c4) | (right; rw [if_pos c4] at c15; exact decide_eq_false c15)), rfl, rfl⟩
  · refine lv_aload_n X.1 X.2.1 dX6_fits_7 rfl (lv_at hl 1 rfl) ?_
    refine g_callX (rest := []) (k := 0) X hW hG hS (vi_value l G A (lv - 1) h n (rwS S) ad (1, 0) (inS S ad t) t t hIt hwt.1) q933 q822 (gDecl_code X q821 q828) (by decide +kernel) rfl ⟨by show (lv - 1) + 1 ≤ lv; omega, by show 40 + 40 * (lv - 1) ≤ 40 * lv; omega⟩ ⟨by show 0 + 0 ≤ 0; first | omega | (split <;> omega), by show 0 + 0 ≤ 0; first | omega | (split <;> omega)⟩ hl.1 rfl (Nat.le_of_ble_eq_true rfl) dX6_fits_8 (g_pk (fun H locs hG hS => ?_))
    show W p l e (gR lv 0 0) s m args below meth c H locs 0 0 Q (F0 m 11 ls [.int (iI (if S.2 41 t = 0 then S.2 42 t else 0))])
    refine lv_aload_n X.1 X.2.1 dX6_fits_11 rfl (lv_at hl 0 rfl) ?_
    refine n_get (ci := 5) X in_X6 hW hG hI rfl 1 (by decide) q445 (fun _ h => h) rfl dX6_fits_12 ?_
    refine i_icmp_ne X 22 dX6_fits_15 (by decide) (by first | omega | (split <;> omega)) (by first | omega | (split <;> omega)) (fun c15 => ?_) (fun c15 => ?_)
    · refine lv_iconst (v := iI (0)) X.1 X.2.1 dX6_fits_22 rfl ?_
      refine ret _ _ _ _ _ _ _ _ _ ?_ (nar_b (by first | omega | (split <;> omega))) (by show 0 ≤ 0; first | omega | (split <;> omega)) (by show 0 ≤ 0; first | omega | (split <;> omega)) hG hS dX6_fits_23
      exact ⟨by congr 3; unfold spN; rw [if_pos hk]; first | (apply bI_t; rw [decide_eq_true c4, Bool.true_and]; rw [if_pos c4] at c15; exact decide_eq_true c15) | (apply bI_f; rw [Bool.and_eq_false_iff]; first | (left; exact decide_eq_false c4) | (right; rw [if_pos c4] at c15; exact decide_eq_false c15)), rfl, rfl⟩
    · refine lv_iconst (v := iI (1)) X.1 X.2.1 dX6_fits_18 rfl ?_
      refine lv_goto (tgt := 23) X.1 X.2.1 dX6_fits_19 (by decide) ?_
      refine ret _ _ _ _ _ _ _ _ _ ?_ (nar_b (by first | omega | (split <;> omega))) (by show 0 ≤ 0; first | omega | (split <;> omega)) (by show 0 ≤ 0; first | omega | (split <;> omega)) hG hS dX6_fits_23
      exact ⟨by congr 3; unfold spN; rw [if_pos hk]; first | (apply bI_t; rw [decide_eq_true c4, Bool.true_and]; rw [if_pos c4] at c15; exact decide_eq_true c15) | (apply bI_f; rw [Bool.and_eq_false_iff]; first | (left; exact decide_eq_false c4) | (right; rw [if_pos c4] at c15; exact decide_eq_false c15)), rfl, rfl⟩

set_option maxHeartbeats 4000000 in
theorem gps_fits (l : Launch) (G : gEnv) (A : Nat → Prop) (lv : Nat) (h : gH) (n : Nat) (S : MSt) (ad ap : Int → Nat) (b E q t : Int) (hV : LV G h S ad) (hC : PCX G h S ap b E) (hq : b ≤ q ∧ q < E) (ht : 0 ≤ t ∧ t < S.1 40) (hk : S.2 34 q = 8) : gC l yX8_fits cX8_fits 3 (some .boolean) G A lv 0 0 [.ref (ap q), .ref (ad t), .null] h n (gPure (some (.int (iI (bI (spN S q t))))) h n) := by
  refine gC_ofI RX8 (by decide +kernel) rfl (Nat.le_of_ble_eq_true rfl) ?_
  intro p e s m args below meth c Q X hW ret H locs ls hG hS hl
  have hl : lv_has ls 3 [(0, .ref (ap q)), (1, .ref (ad t)), (2, .null)] := hl
  obtain ⟨⟨pl, hpl, hI⟩, hAp⟩ := hC.1 q hq.1 hq.2
  have hok := hC.2 q hq.1 hq.2
  have hIt := hV.it ht.1 ht.2
  have hwt := hV.1.1.w ht.1 ht.2
  have hkt := hV.2.2.2 t ht.1 ht.2
  have hgt := hV.1.2.2 t ht.1 ht.2
  rw [paE8 (P := pwS S) hk] at hI
  have hI : h (ap q) = some ((3, 0), .inr (7, [.int (iI pl), .long (lI (gLt (S.2 35 q))), .int (iI 0)])) := hI
  have hr2 : lR (gLt (S.2 35 q)) := by have := gLt_rng (hok.1 (by omega)); omega
  refine lv_aload_n X.1 X.2.1 dX8_fits_0 rfl (lv_at hl 1 rfl) ?_
  refine it_instN X hW hG hIt.1 (hwt.1) q942 dX8_fits_1 ?_
  refine i_if_eq X 26 dX8_fits_4 (by decide) (bI_iR _) (fun c4 => ?_) (fun c4 => ?_)
  · have c4 := bI_eq0.mp c4
    refine lv_iconst (v := iI (0)) X.1 X.2.1 dX8_fits_26 rfl ?_
    refine ret _ _ _ _ _ _ _ _ _ ?_ (nar_b (by first | omega | exact bI_iR _ | exact hr1 | exact hr2)) (by show 0 ≤ 0; first | omega | exact bI_iR _ | exact hr1 | exact hr2) (by show 0 ≤ 0; first | omega | exact bI_iR _ | exact hr1 | exact hr2) hG hS dX8_fits_27
    exact ⟨by congr 3; unfold spN; rw [if_neg (by omega), if_pos hk]; first | (apply bI_t; rw [decide_eq_true c4, Bool.true_and]; exact decide_eq_true ((gLt_inj (hkt.1 c4) (hok.1 (by omega))).mp c18)) | (apply bI_f; rw [Bool.and_eq_false_iff]; first | (left; exact decide_eq_false (of_decide_eq_false c4)) | (right; exact decide_eq_false (fun z => c18 ((gLt_inj (hkt.1 c4) (hok.1 (by omega))).mpr z)))), rfl, rfl⟩
  · have c4 := bI_ne0.mp c4
    have c4 : S.2 41 t = 1 := of_decide_eq_true c4
    have hN1 := hV.nam ht.1 ht.2 c4
    have hr1 : lR (gLt (S.2 42 t)) := by have := gLt_rng (hkt.1 c4); omega
    refine lv_aload_n X.1 X.2.1 dX8_fits_7 rfl (lv_at hl 1 rfl) ?_
    refine n_cast (ci := 12) X hW hG hN1 rfl q942 (Or.inr rfl) dX8_fits_8 ?_
    refine n_getN (ci := 12) X in_X14 hW hG hN1 rfl 4 (by decide) q671 (fun _ h => h) rfl dX8_fits_11 ?_
    refine lv_aload_n X.1 X.2.1 dX8_fits_14 rfl (lv_at hl 0 rfl) ?_
    refine n_get (ci := 7) X in_X8 hW hG hI rfl 1 (by decide) q522 (fun x hx => u_same (X.2.2.2.2 _ q523) x hx) rfl dX8_fits_15 ?_
    refine i_lcmp_ne X 26 dX8_fits_18 dX8_fits_19 (by decide) (by first | omega | exact bI_iR _ | exact hr1 | exact hr2) (by first | omega | exact bI_iR _ | exact hr1 | exact hr2) (fun c18 => ?_) (fun c18 => ?_)
    · refine lv_iconst (v := iI (0)) X.1 X.2.1 dX8_fits_26 rfl ?_
      refine ret _ _ _ _ _ _ _ _ _ ?_ (nar_b (by first | omega | exact bI_iR _ | exact hr1 | exact hr2)) (by show 0 ≤ 0; first | omega | exact bI_iR _ | exact hr1 | exact hr2) (by show 0 ≤ 0; first | omega | exact bI_iR _ | exact hr1 | exact hr2) hG hS dX8_fits_27
      exact ⟨by congr 3; unfold spN; rw [if_neg (by omega), if_pos hk]; first | (apply bI_t; rw [decide_eq_true c4, Bool.true_and]; exact decide_eq_true ((gLt_inj (hkt.1 c4) (hok.1 (by omega))).mp c18)) | (apply bI_f; rw [Bool.and_eq_false_iff]; first | (left; exact decide_eq_false (of_decide_eq_false c4)) | (right; exact decide_eq_false (fun z => c18 ((gLt_inj (hkt.1 c4) (hok.1 (by omega))).mpr z)))), rfl, rfl⟩
    · refine lv_iconst (v := iI (1)) X.1 X.2.1 dX8_fits_22 rfl ?_
      refine lv_goto (tgt := 27) X.1 X.2.1 dX8_fits_23 (by decide) ?_
      refine ret _ _ _ _ _ _ _ _ _ ?_ (nar_b (by first | omega | exact bI_iR _ | exact hr1 | exact hr2)) (by show 0 ≤ 0; first | omega | exact bI_iR _ | exact hr1 | exact hr2) (by show 0 ≤ 0; first | omega | exact bI_iR _ | exact hr1 | exact hr2) hG hS dX8_fits_27
      exact ⟨by congr 3; unfold spN; rw [if_neg (by omega), if_pos hk]; first | (apply bI_t; rw [decide_eq_true c4, Bool.true_and]; exact decide_eq_true ((gLt_inj (hkt.1 c4) (hok.1 (by omega))).mp c18)) | (apply bI_f; rw [Bool.and_eq_false_iff]; first | (left; exact decide_eq_false (of_decide_eq_false c4)) | (right; exact decide_eq_false (fun z => c18 ((gLt_inj (hkt.1 c4) (hok.1 (by omega))).mpr z)))), rfl, rfl⟩

set_option maxHeartbeats 4000000 in
theorem gpv_fits (l : Launch) (G : gEnv) (A : Nat → Prop) (lv : Nat) (h : gH) (n : Nat) (S : MSt) (ad ap : Int → Nat) (b E q t : Int) (hk : S.2 34 q = 6) : gC l yX7_fits cX7_fits 4 (some .boolean) G A lv 0 0 [.ref (ap q), .ref (ad t), .null] h n (gPure (some (.int (iI (bI (spN S q t))))) h n) := by
  refine gC_ofI RX7 (by decide +kernel) rfl (Nat.le_of_ble_eq_true rfl) ?_
  intro p e s m args below meth c Q X hW ret H locs ls hG hS hl
  have hl : lv_has ls 4 [(0, .ref (ap q)), (1, .ref (ad t)), (2, .null)] := hl
  refine lv_aload_nN X.1 X.2.1 dX7_fits_0 rfl (lv_at hl 2 rfl) ?_
  refine lv_ifnullN (tgt := 31) X.1 X.2.1 dX7_fits_1 (by decide) ?_
  refine lv_iconst (v := iI (1)) X.1 X.2.1 dX7_fits_31 rfl ?_
  refine ret _ _ _ _ _ _ _ _ _ ?_ (nar_b (by omega)) (by show 0 ≤ 0; omega) (by show 0 ≤ 0; omega) hG hS dX7_fits_32
  exact ⟨by congr 3; unfold spN; rw [if_neg (by omega), if_neg (by omega), if_pos hk]; rfl, rfl, rfl⟩

set_option maxHeartbeats 4000000 in
/-- patterns against the items of a list -/
theorem gpp_fitsL (l : Launch) (G : gEnv) (A : Nat → Prop) (lv : Nat) (h : gH) (n : Nat) (S : MSt) (ad ap : Int → Nat) (b E P i : Int) (f0 : Nat) (hlv : 4 ≤ lv) (hV : LV G h S ad) (h0 : 0 ≤ i) (hn : i < S.1 40) (hw : 2 ≤ S.2 41 i) (hf0 : (f0 : Int) ≤ S.2 47 i) (hP : ∀ p, b ≤ p → p < E → PN S E p) (hC : PCX G h S ap b E) (hPb : b ≤ P ∧ P < E) (hk2 : S.2 34 P = 2) (ih : ∀ k : Nat, (k : Int) < S.2 38 P → S.2 34 (chh (S.2 37) P k) ≠ 7 → ∀ t, (0 ≤ t ∧ t < S.1 40) → gVC l ⟨RX4, "fits", "(LMacroGlass$Item;Ljava/util/ArrayList;)Z"⟩ G A (lv - 1) 0 0 (ap (chh (S.2 37) P k)) [.ref (ad t), .null] h n (gPure (some (.int (iI (bI (spN S (chh (S.2 37) P k) (t) && (if S.2 34 (chh (S.2 37) P k) = 2 then spXs S (chh (S.2 37) P k) 0 (t + 1) (t + S.2 46 (t)) else true)))))) h n)) : gC l yX5_fits cX5_fits 7 (some .boolean) G A lv 0 0 [.ref (ap P), .ref (ad i), .int (iI ((f0 : Int))), .null] h n (gPure (some (.int (iI (bI (spXs S P 0 (chh (S.2 46) i f0) (i + S.2 46 i)))))) h n) := by
  refine gC_ofI RX5 (by decide +kernel) rfl (Nat.le_of_ble_eq_true rfl) ?_
  intro p e s m args below meth c Q X hW ret H locs ls hG hS hl
  have hl : lv_has ls 7 [(0, .ref (ap P)), (1, .ref (ad i)), (2, .int (iI ((f0 : Int)))), (3, .null)] := hl
  obtain ⟨⟨pl, -, hI⟩, hAp⟩ := hC.1 P hPb.1 hPb.2
  have hAP := hAp hk2
  rw [paE2 (P := pwS S) hk2] at hI
  have hAP : AL G h (ap P + 1) (pcs (pwS S) ap P) (S.2 38 P).toNat := hAP
  obtain ⟨tgP, moP, dP, hLP, hPr⟩ := id hAP
  obtain ⟨hIi, hA⟩ := hV.lst h0 hn hw
  obtain ⟨tgA, moA, dA, hLA, hAr⟩ := id hA
  have hT := hV.1.1
  have hp := hT.p h0 hn
  have hnn := hV.1.n
  have hlen : ((chs (rwS S) ad i).length : Int) = S.2 47 i := by rw [chs_len]; show ((S.2 47 i).toNat : Int) = _; omega
  have hcn := (hP P hPb.1 hPb.2).2.2.1
  have hpln : ((pcs (pwS S) ap P).length : Int) = S.2 38 P := by rw [pcs_len]; show ((S.2 38 P).toNat : Int) = _; omega
  have hrr := hT.r h0 hn
  refine lv_iload_n X.1 X.2.1 dX5_fits_0 rfl (lv_at hl 2 rfl) ?_
  refine lv_istore (lv' := [(4, .int (iI ((f0 : Int)))), (0, .ref (ap P)), (1, .ref (ad i)), (2, .int (iI ((f0 : Int)))), (3, .null)]) X.1 X.2.1 dX5_fits_1 hl (by decide) rfl (fun ls hl => ?_)
  refine lv_iconst (v := iI (0)) X.1 X.2.1 dX5_fits_3 rfl ?_
  refine lv_istore (lv' := [(5, .int (iI (0))), (4, .int (iI ((f0 : Int)))), (0, .ref (ap P)), (1, .ref (ad i)), (2, .int (iI ((f0 : Int)))), (3, .null)]) X.1 X.2.1 dX5_fits_4 hl (by decide) rfl (fun ls hl => ?_)
  have L6 : ∀ (N6 : Nat) (at0 k : Nat), ((at0 : Int) ≤ S.2 47 i) → ((k : Int) ≤ S.2 38 P) → (spXs S P k (chh (S.2 46) i at0) (i + S.2 46 i) = spXs S P 0 (chh (S.2 46) i f0) (i + S.2 46 i)) → (S.2 38 P).toNat - k < N6 → ∀ (H : Heap) (locs : List Loc) (ls : Array Slot), gOn G.1 A h n H → va_S A s.heap H locs → lv_has ls 7 [(0, .ref (ap P)), (1, .ref (ad i)), (3, .null), (4, .int (iI ((at0 : Int)))), (5, .int (iI ((k : Int))))] → W p l e (gR lv 0 0) s m args below meth c H locs 0 0 Q (F0 m 6 ls []) := by
    intro N6
    induction N6 with
    | zero => intro at0 k hat hkc hinv hN; exact absurd hN (Nat.not_lt_zero _)
    | succ N6 ih6 =>
      intro at0 k hat hkc hinv hN6 H locs ls hG hS hl
      refine lv_iload X.1 X.2.1 dX5_fits_6 (lv_at hl 4 rfl) ?_
      refine lv_aload_n X.1 X.2.1 dX5_fits_8 rfl (lv_at hl 0 rfl) ?_
      refine n_get (ci := 4) X in_X5 hW hG hI rfl 1 (by decide) q424 (fun _ h => h) rfl dX5_fits_9 ?_
      refine g_callV (ci := 17) (rest := [.int (iI ((k : Int)))]) (k := 0) X hW hG hS hLP rfl (al_size l G A (lv - 1) h n (ap P + 1) (pcs (pwS S) ap P) (S.2 38 P).toNat hAP) (lw_V q738 q323 q324 q69 q325) (by decide +kernel) rfl ⟨by show (lv - 1) + 1 ≤ lv; omega, by show 8 + (1 + 11) + 40 * (lv - 1) ≤ 40 * lv; omega⟩ ⟨by show 0 + 0 ≤ 0; first | omega | exact bI_iR _, by show 0 + 0 ≤ 0; first | omega | exact bI_iR _⟩ hl.1 rfl (Nat.le_of_ble_eq_true rfl) dX5_fits_12 (g_pk (fun H locs hG hS => ?_))
      show W p l e (gR lv 0 0) s m args below meth c H locs 0 0 Q (F0 m 15 ls [.int (iI (((pcs (pwS S) ap P).length : Int))), .int (iI ((k : Int)))])
      refine i_icmp_ge X 127 dX5_fits_15 (by decide) (by first | omega | exact bI_iR _) (by first | omega | exact bI_iR _) (fun c15 => ?_) (fun c15 => ?_)
      · have K144 : ∀ (z : Int), (z = bI (spXs S P 0 (chh (S.2 46) i f0) (i + S.2 46 i))) → ∀ (H : Heap) (locs : List Loc) (ls : Array Slot), gOn G.1 A h n H → va_S A s.heap H locs → lv_has ls 7 [] → W p l e (gR lv 0 0) s m args below meth c H locs 0 0 Q (F0 m 144 ls [.int (iI (z))]) := by
          intro z hz H locs ls hG hS hl
          have hz01 : z = 0 ∨ z = 1 := by rw [hz]; exact bI_01 _
          refine ret _ _ _ _ _ _ _ _ _ ?_ (nar_b (by first | omega | exact bI_iR _)) (by show 0 ≤ 0; first | omega | exact bI_iR _) (by show 0 ≤ 0; first | omega | exact bI_iR _) hG hS dX5_fits_144
          exact ⟨by rw [hz], rfl, rfl⟩
        refine lv_iload X.1 X.2.1 dX5_fits_127 (lv_at hl 3 rfl) ?_
        refine lv_aload_n X.1 X.2.1 dX5_fits_129 rfl (lv_at hl 1 rfl) ?_
        refine n_getN (ci := 10) X in_X12 hW hG hIi rfl 4 (by decide) q594 (fun _ h => h) rfl dX5_fits_130 ?_
        refine g_callV (ci := 17) (rest := [.int (iI ((at0 : Int)))]) (k := 0) X hW hG hS hLA rfl (al_size l G A (lv - 1) h n (ad i + 1) (chs (rwS S) ad i) (S.2 47 i).toNat hA) (lw_V q738 q323 q324 q69 q325) (by decide +kernel) rfl ⟨by show (lv - 1) + 1 ≤ lv; omega, by show 8 + (1 + 11) + 40 * (lv - 1) ≤ 40 * lv; omega⟩ ⟨by show 0 + 0 ≤ 0; first | omega | exact bI_iR _, by show 0 + 0 ≤ 0; first | omega | exact bI_iR _⟩ hl.1 rfl (Nat.le_of_ble_eq_true rfl) dX5_fits_133 (g_pk (fun H locs hG hS => ?_))
        show W p l e (gR lv 0 0) s m args below meth c H locs 0 0 Q (F0 m 136 ls [.int (iI (((chs (rwS S) ad i).length : Int))), .int (iI ((at0 : Int)))])
        refine i_icmp_ne X 143 dX5_fits_136 (by decide) (by first | omega | exact bI_iR _) (by first | omega | exact bI_iR _) (fun c136 => ?_) (fun c136 => ?_)
        · refine lv_iconst (v := iI (0)) X.1 X.2.1 dX5_fits_143 rfl ?_
          exact K144 0 (by rw [← hinv, spXs_end hP hPb.1 hPb.2 hk2 (by omega)]; first | (apply bI_t; refine decide_eq_true ?_; rw [show at0 = (S.2 47 i).toNat by omega]; exact (hT.lst h0 hn hw).1) | (apply bI_f; refine decide_eq_false ?_; have := (hT.lst h0 hn hw).2 at0 (by omega); omega)) H locs ls hG hS (lv_sub hl [] rfl)
        · refine lv_iconst (v := iI (1)) X.1 X.2.1 dX5_fits_139 rfl ?_
          refine lv_goto (tgt := 144) X.1 X.2.1 dX5_fits_140 (by decide) ?_
          exact K144 1 (by rw [← hinv, spXs_end hP hPb.1 hPb.2 hk2 (by omega)]; first | (apply bI_t; refine decide_eq_true ?_; rw [show at0 = (S.2 47 i).toNat by omega]; exact (hT.lst h0 hn hw).1) | (apply bI_f; refine decide_eq_false ?_; have := (hT.lst h0 hn hw).2 at0 (by omega); omega)) H locs ls hG hS (lv_sub hl [] rfl)
      · have kd := PN.kid hP hPb.1 hPb.2 hk2 (j := k) (by omega)
        have hpk := hP (chh (S.2 37) P k) (by omega) (by omega)
        obtain ⟨⟨plk, -, hIk⟩, -⟩ := hC.1 (chh (S.2 37) P k) (by omega) (by omega)
        refine lv_aload_n X.1 X.2.1 dX5_fits_18 rfl (lv_at hl 0 rfl) ?_
        refine n_get (ci := 4) X in_X5 hW hG hI rfl 1 (by decide) q424 (fun _ h => h) rfl dX5_fits_19 ?_
        refine lv_iload X.1 X.2.1 dX5_fits_22 (lv_at hl 4 rfl) ?_
        refine g_callV (ci := 17) (rest := []) (k := 1) X hW hG hS hLP rfl (al_get l G A (lv - 1) h n (ap P + 1) (pcs (pwS S) ap P) (S.2 38 P).toNat (k : Int) (ap (chh (S.2 37) P k)) (by omega) hAP (by omega) (by rw [Int.toNat_natCast]; exact pcs_get (pwS S) ap P (by show (k : Int) < S.2 38 P; omega))) (lw_V q739 q691 q692 q69 q693) (by decide +kernel) rfl ⟨by show (lv - 1) + 1 ≤ lv; omega, by show 8 + (2 + 11) + 40 * (lv - 1) ≤ 40 * lv; omega⟩ ⟨by show 0 + 0 ≤ 0; first | omega | exact bI_iR _, by show 0 + 0 ≤ 0; first | omega | exact bI_iR _⟩ hl.1 rfl (Nat.le_of_ble_eq_true rfl) dX5_fits_24 (g_pk (fun H locs hG hS => ?_))
        show W p l e (gR lv 0 0) s m args below meth c H locs 0 0 Q (F0 m 27 ls [.ref (ap (chh (S.2 37) P k))])
        refine pa_cast X hW hG hIk q740 dX5_fits_27 ?_
        have K83 : (S.2 34 (chh (S.2 37) P k) ≠ 7) → ∀ (H : Heap) (locs : List Loc) (ls : Array Slot), gOn G.1 A h n H → va_S A s.heap H locs → lv_has ls 7 [(0, .ref (ap P)), (1, .ref (ad i)), (3, .null), (4, .int (iI ((at0 : Int)))), (5, .int (iI ((k : Int)))), (6, .ref (ap (chh (S.2 37) P k)))] → W p l e (gR lv 0 0) s m args below meth c H locs 0 0 Q (F0 m 83 ls []) := by
          intro  hk7 H locs ls hG hS hl
          have hone := spXs_one hP hPb.1 hPb.2 hk2 (j := k) (by omega) hk7 (chh (S.2 46) i at0) (i + S.2 46 i)
          refine lv_iload X.1 X.2.1 dX5_fits_83 (lv_at hl 3 rfl) ?_
          refine lv_aload_n X.1 X.2.1 dX5_fits_85 rfl (lv_at hl 1 rfl) ?_
          refine n_getN (ci := 10) X in_X12 hW hG hIi rfl 4 (by decide) q594 (fun _ h => h) rfl dX5_fits_86 ?_
          refine g_callV (ci := 17) (rest := [.int (iI ((at0 : Int)))]) (k := 0) X hW hG hS hLA rfl (al_size l G A (lv - 1) h n (ad i + 1) (chs (rwS S) ad i) (S.2 47 i).toNat hA) (lw_V q738 q323 q324 q69 q325) (by decide +kernel) rfl ⟨by show (lv - 1) + 1 ≤ lv; omega, by show 8 + (1 + 11) + 40 * (lv - 1) ≤ 40 * lv; omega⟩ ⟨by show 0 + 0 ≤ 0; first | omega | exact bI_iR _, by show 0 + 0 ≤ 0; first | omega | exact bI_iR _⟩ hl.1 rfl (Nat.le_of_ble_eq_true rfl) dX5_fits_89 (g_pk (fun H locs hG hS => ?_))
          show W p l e (gR lv 0 0) s m args below meth c H locs 0 0 Q (F0 m 92 ls [.int (iI (((chs (rwS S) ad i).length : Int))), .int (iI ((at0 : Int)))])
          refine i_icmp_eq X 116 dX5_fits_92 (by decide) (by first | omega | exact bI_iR _) (by first | omega | exact bI_iR _) (fun c92 => ?_) (fun c92 => ?_)
          · refine lv_iconst (v := iI (0)) X.1 X.2.1 dX5_fits_116 rfl ?_
            refine ret _ _ _ _ _ _ _ _ _ ?_ (nar_b (by first | omega | exact bI_iR _)) (by show 0 ≤ 0; first | omega | exact bI_iR _) (by show 0 ≤ 0; first | omega | exact bI_iR _) hG hS dX5_fits_117
            exact ⟨by congr 3; apply bI_f; rw [← hinv, hone]; first | (rw [decide_eq_false (by rw [show at0 = (S.2 47 i).toNat by omega, (hT.lst h0 hn hw).1]; omega), Bool.false_and, Bool.false_and, Bool.false_and]; done) | (rw [decide_eq_true (by omega), Bool.true_and, c113, Bool.false_and]), rfl, rfl⟩
          · have hkt := hT.kid h0 hn hw (j := at0) (by omega)
            have hIt := hV.it (i := chh (S.2 46) i at0) (by omega) (by omega)
            have hlt := (hT.lst h0 hn hw).2 at0 (by omega)
            refine lv_aload X.1 X.2.1 dX5_fits_95 (lv_at hl 5 rfl) ?_
            refine lv_aload_n X.1 X.2.1 dX5_fits_97 rfl (lv_at hl 1 rfl) ?_
            refine n_getN (ci := 10) X in_X12 hW hG hIi rfl 4 (by decide) q594 (fun _ h => h) rfl dX5_fits_98 ?_
            refine lv_iload X.1 X.2.1 dX5_fits_101 (lv_at hl 3 rfl) ?_
            refine g_callV (ci := 17) (rest := [.ref (ap (chh (S.2 37) P k))]) (k := 1) X hW hG hS hLA rfl (al_get l G A (lv - 1) h n (ad i + 1) (chs (rwS S) ad i) (S.2 47 i).toNat (at0 : Int) (ad (chh (S.2 46) i at0)) (by omega) hA (by omega) (by rw [Int.toNat_natCast]; exact hV.part (by omega))) (lw_V q739 q691 q692 q69 q693) (by decide +kernel) rfl ⟨by show (lv - 1) + 1 ≤ lv; omega, by show 8 + (2 + 11) + 40 * (lv - 1) ≤ 40 * lv; omega⟩ ⟨by show 0 + 0 ≤ 0; first | omega | exact bI_iR _, by show 0 + 0 ≤ 0; first | omega | exact bI_iR _⟩ hl.1 rfl (Nat.le_of_ble_eq_true rfl) dX5_fits_103 (g_pk (fun H locs hG hS => ?_))
            show W p l e (gR lv 0 0) s m args below meth c H locs 0 0 Q (F0 m 106 ls [.ref (ad (chh (S.2 46) i at0)), .ref (ap (chh (S.2 37) P k))])
            refine it_cast X hW hG hIt.1 q924 dX5_fits_106 ?_
            refine lv_aload_nN X.1 X.2.1 dX5_fits_109 rfl (lv_at hl 2 rfl) ?_
            refine g_callX (rest := []) (k := 2) X hW hG hS (ih k (by omega) hk7 (chh (S.2 46) i at0) ⟨by omega, by omega⟩) q926 q928 (gDecl_abs hW q927) (by decide +kernel) rfl ⟨by show (lv - 1) + 1 ≤ lv; omega, by show 40 + 40 * (lv - 1) ≤ 40 * lv; omega⟩ ⟨by show 0 + 0 ≤ 0; first | omega | exact bI_iR _, by show 0 + 0 ≤ 0; first | omega | exact bI_iR _⟩ hl.1 rfl (Nat.le_of_ble_eq_true rfl) dX5_fits_110 (g_pk (fun H locs hG hS => ?_))
            show W p l e (gR lv 0 0) s m args below meth c H locs 0 0 Q (F0 m 113 ls [.int (iI (bI (spN S (chh (S.2 37) P k) (chh (S.2 46) i at0) && (if S.2 34 (chh (S.2 37) P k) = 2 then spXs S (chh (S.2 37) P k) 0 (chh (S.2 46) i at0 + 1) (chh (S.2 46) i at0 + S.2 46 (chh (S.2 46) i at0)) else true))))])
            refine i_if_ne X 118 dX5_fits_113 (by decide) (bI_iR _) (fun c113 => ?_) (fun c113 => ?_)
            · have c113 := bI_ne0.mp c113
              refine i_inc (lv' := [(4, .int (iI ((at0 : Int) + 1))), (0, .ref (ap P)), (1, .ref (ad i)), (3, .null), (5, .int (iI ((k : Int)))), (6, .ref (ap (chh (S.2 37) P k)))]) X dX5_fits_118 hl (k := 3) rfl (by decide) rfl (fun ls hl => ?_)
              refine i_inc (lv' := [(5, .int (iI ((k : Int) + 1))), (4, .int (iI ((at0 : Int) + 1))), (0, .ref (ap P)), (1, .ref (ad i)), (3, .null), (6, .ref (ap (chh (S.2 37) P k)))]) X dX5_fits_121 hl (k := 4) rfl (by decide) rfl (fun ls hl => ?_)
              refine lv_goto (tgt := 6) X.1 X.2.1 dX5_fits_124 (by decide) ?_
              have hinv2 : spXs S P (k + 1) (chh (S.2 46) i (at0 + 1)) (i + S.2 46 i) = spXs S P 0 (chh (S.2 46) i f0) (i + S.2 46 i) := by
                rw [← hinv, hone, decide_eq_true (by omega), Bool.true_and, c113, Bool.true_and]
                rfl
              exact ih6 (at0 + 1) (k + 1) (by omega) (by omega) hinv2 (by omega) H locs ls hG hS (lv_sub hl [2, 3, 4, 1, 0] rfl)
            · have c113 := bI_eq0.mp c113
              refine lv_iconst (v := iI (0)) X.1 X.2.1 dX5_fits_116 rfl ?_
              refine ret _ _ _ _ _ _ _ _ _ ?_ (nar_b (by first | omega | exact bI_iR _)) (by show 0 ≤ 0; first | omega | exact bI_iR _) (by show 0 ≤ 0; first | omega | exact bI_iR _) hG hS dX5_fits_117
              exact ⟨by congr 3; apply bI_f; rw [← hinv, hone]; first | (rw [decide_eq_false (by rw [show at0 = (S.2 47 i).toNat by omega, (hT.lst h0 hn hw).1]; omega), Bool.false_and, Bool.false_and, Bool.false_and]; done) | (rw [decide_eq_true (by omega), Bool.true_and, c113, Bool.false_and]), rfl, rfl⟩
        refine lv_astore (lv' := [(6, .ref (ap (chh (S.2 37) P k))), (0, .ref (ap P)), (1, .ref (ad i)), (3, .null), (4, .int (iI ((at0 : Int)))), (5, .int (iI ((k : Int))))]) X.1 X.2.1 dX5_fits_30 hl (by decide) rfl (fun ls hl => ?_)
        refine lv_aload X.1 X.2.1 dX5_fits_32 (lv_at hl 0 rfl) ?_
        rcases hpk.1 with kk | kk | kk | kk | kk
        · have hJ := hIk
          rw [paE0 (P := pwS S) kk] at hJ
          have hJ : h (ap (chh (S.2 37) P k)) = some ((3, 0), .inr (5, [.int (iI (plk)), .int (iI (S.2 35 (chh (S.2 37) P k)))])) := hJ
          refine n_instNo (ci := 5) X hW hG hJ rfl q902 (by decide) dX5_fits_34 ?_
          refine i_if_eq X 83 dX5_fits_37 (by decide) (by decide) (fun _ => ?_) (fun c37 => absurd c37 (by decide))
          exact K83  (by omega) H locs ls hG hS (lv_sub hl [1, 2, 3, 4, 5, 0] rfl)
        · have hJ := hIk
          rw [paE2 (P := pwS S) kk] at hJ
          have hJ : h (ap (chh (S.2 37) P k)) = some ((3, 0), .inr (4, [.int (iI (plk)), .ref (ap (chh (S.2 37) P k) + 1)])) := hJ
          refine n_instNo (ci := 4) X hW hG hJ rfl q902 (by decide) dX5_fits_34 ?_
          refine i_if_eq X 83 dX5_fits_37 (by decide) (by decide) (fun _ => ?_) (fun c37 => absurd c37 (by decide))
          exact K83  (by omega) H locs ls hG hS (lv_sub hl [1, 2, 3, 4, 5, 0] rfl)
        · have hJ := hIk
          rw [paE6 (P := pwS S) kk] at hJ
          have hJ : h (ap (chh (S.2 37) P k)) = some ((3, 0), .inr (6, [.int (iI (plk)), .long (lI (gLt (S.2 35 (chh (S.2 37) P k)))), .int (iI (0))])) := hJ
          refine n_instY (ci := 6) X hW hG hJ rfl q902 (Or.inr rfl) dX5_fits_34 ?_
          refine i_if_eq X 83 dX5_fits_37 (by decide) (by decide) (fun c37 => absurd c37 (by decide)) (fun _ => ?_)
          refine lv_aload X.1 X.2.1 dX5_fits_40 (lv_at hl 0 rfl) ?_
          refine n_cast (ci := 6) X hW hG hJ rfl q902 (Or.inr rfl) dX5_fits_42 ?_
          refine n_get (ci := 6) X in_X7 hW hG hJ rfl 2 (by decide) q527 (fun _ h => h) rfl dX5_fits_45 ?_
          refine i_if_eq X 83 dX5_fits_48 (by decide) (by decide) (fun _ => ?_) (fun c48 => absurd c48 (by decide))
          exact K83  (by omega) H locs ls hG hS (lv_sub hl [1, 2, 3, 4, 5, 0] rfl)
        · have hJ := hIk
          rw [paE7 (P := pwS S) kk] at hJ
          have hJ : h (ap (chh (S.2 37) P k)) = some ((3, 0), .inr (6, [.int (iI (plk)), .long (lI (gLt (S.2 35 (chh (S.2 37) P k)))), .int (iI (1))])) := hJ
          refine n_instY (ci := 6) X hW hG hJ rfl q902 (Or.inr rfl) dX5_fits_34 ?_
          refine i_if_eq X 83 dX5_fits_37 (by decide) (by decide) (fun c37 => absurd c37 (by decide)) (fun _ => ?_)
          refine lv_aload X.1 X.2.1 dX5_fits_40 (lv_at hl 0 rfl) ?_
          refine n_cast (ci := 6) X hW hG hJ rfl q902 (Or.inr rfl) dX5_fits_42 ?_
          refine n_get (ci := 6) X in_X7 hW hG hJ rfl 2 (by decide) q527 (fun _ h => h) rfl dX5_fits_45 ?_
          refine i_if_eq X 83 dX5_fits_48 (by decide) (by decide) (fun c48 => absurd c48 (by decide)) (fun _ => ?_)
          refine lv_aload_nN X.1 X.2.1 dX5_fits_51 rfl (lv_at hl 3 rfl) ?_
          refine lv_ifnullN (tgt := 71) X.1 X.2.1 dX5_fits_52 (by decide) ?_
          have hr7 := spXs_rest hP hPb.1 hPb.2 hk2 (j := k) (by omega) kk (chh (S.2 46) i at0) (i + S.2 46 i)
          have hend := ((hP P hPb.1 hPb.2).2.2.2.2.1 hk2).2 k (by omega)
          refine lv_aload_n X.1 X.2.1 dX5_fits_71 rfl (lv_at hl 2 rfl) ?_
          refine n_getN (ci := 10) X in_X12 hW hG hIi rfl 4 (by decide) q594 (fun _ h => h) rfl dX5_fits_72 ?_
          refine g_callV (ci := 17) (rest := []) (k := 0) X hW hG hS hLA rfl (al_size l G A (lv - 1) h n (ad i + 1) (chs (rwS S) ad i) (S.2 47 i).toNat hA) (lw_V q738 q323 q324 q69 q325) (by decide +kernel) rfl ⟨by show (lv - 1) + 1 ≤ lv; omega, by show 8 + (1 + 11) + 40 * (lv - 1) ≤ 40 * lv; omega⟩ ⟨by show 0 + 0 ≤ 0; first | omega | exact bI_iR _, by show 0 + 0 ≤ 0; first | omega | exact bI_iR _⟩ hl.1 rfl (Nat.le_of_ble_eq_true rfl) dX5_fits_75 (g_pk (fun H locs hG hS => ?_))
          show W p l e (gR lv 0 0) s m args below meth c H locs 0 0 Q (F0 m 78 ls [.int (iI (((chs (rwS S) ad i).length : Int)))])
          refine lv_istore (lv' := [(4, .int (iI (((chs (rwS S) ad i).length : Int)))), (6, .ref (ap (chh (S.2 37) P k))), (0, .ref (ap P)), (1, .ref (ad i)), (3, .null), (5, .int (iI ((k : Int))))]) X.1 X.2.1 dX5_fits_78 hl (by decide) rfl (fun ls hl => ?_)
          refine lv_goto (tgt := 121) X.1 X.2.1 dX5_fits_80 (by decide) ?_
          refine i_inc (lv' := [(5, .int (iI ((k : Int) + 1))), (4, .int (iI (((chs (rwS S) ad i).length : Int)))), (6, .ref (ap (chh (S.2 37) P k))), (0, .ref (ap P)), (1, .ref (ad i)), (3, .null)]) X dX5_fits_121 hl (k := 5) rfl (by decide) rfl (fun ls hl => ?_)
          refine lv_goto (tgt := 6) X.1 X.2.1 dX5_fits_124 (by decide) ?_
          have hinv2 : spXs S P (k + 1) (chh (S.2 46) i (chs (rwS S) ad i).length) (i + S.2 46 i) = spXs S P 0 (chh (S.2 46) i f0) (i + S.2 46 i) := by
            rw [← hinv, hr7, spXs_end hP hPb.1 hPb.2 hk2 (by omega)]
            refine decide_eq_true ?_
            rw [show (chs (rwS S) ad i).length = (S.2 47 i).toNat by omega]
            exact (hT.lst h0 hn hw).1
          exact ih6 (chs (rwS S) ad i).length (k + 1) (by omega) (by omega) hinv2 (by omega) H locs ls hG hS (lv_sub hl [3, 4, 5, 1, 0] rfl)
        · have hJ := hIk
          rw [paE8 (P := pwS S) kk] at hJ
          have hJ : h (ap (chh (S.2 37) P k)) = some ((3, 0), .inr (7, [.int (iI (plk)), .long (lI (gLt (S.2 35 (chh (S.2 37) P k)))), .int (iI (0))])) := hJ
          refine n_instY (ci := 7) X hW hG hJ rfl q902 (Or.inl (hW.N q1690 rfl)) dX5_fits_34 ?_
          refine i_if_eq X 83 dX5_fits_37 (by decide) (by decide) (fun c37 => absurd c37 (by decide)) (fun _ => ?_)
          refine lv_aload X.1 X.2.1 dX5_fits_40 (lv_at hl 0 rfl) ?_
          refine n_cast (ci := 7) X hW hG hJ rfl q902 (Or.inl (hW.N q1690 rfl)) dX5_fits_42 ?_
          refine n_get (ci := 7) X in_X8 hW hG hJ rfl 2 (by decide) q527 (fun _ h => h) rfl dX5_fits_45 ?_
          refine i_if_eq X 83 dX5_fits_48 (by decide) (by decide) (fun _ => ?_) (fun c48 => absurd c48 (by decide))
          exact K83  (by omega) H locs ls hG hS (lv_sub hl [1, 2, 3, 4, 5, 0] rfl)
  exact L6 _ f0 0 (by omega) (by omega) rfl (Nat.lt_succ_self _) H locs ls hG hS (lv_sub hl [2, 3, 5, 1, 0] rfl)

set_option maxHeartbeats 4000000 in
theorem gpp_fits (l : Launch) (G : gEnv) (A : Nat → Prop) (lv : Nat) (h : gH) (n : Nat) (S : MSt) (ad ap : Int → Nat) (b E q t : Int) (hlv : 6 ≤ lv) (hV : LV G h S ad) (hC : PCX G h S ap b E) (hq : b ≤ q ∧ q < E) (ht : 0 ≤ t ∧ t < S.1 40) (hP : ∀ p, b ≤ p → p < E → PN S E p) (hk : S.2 34 q = 2) (ih : ∀ k : Nat, (k : Int) < S.2 38 q → S.2 34 (chh (S.2 37) q k) ≠ 7 → ∀ t, (0 ≤ t ∧ t < S.1 40) → gVC l ⟨RX4, "fits", "(LMacroGlass$Item;Ljava/util/ArrayList;)Z"⟩ G A (lv - 1 - 1) 0 0 (ap (chh (S.2 37) q k)) [.ref (ad t), .null] h n (gPure (some (.int (iI (bI (spN S (chh (S.2 37) q k) (t) && (if S.2 34 (chh (S.2 37) q k) = 2 then spXs S (chh (S.2 37) q k) 0 (t + 1) (t + S.2 46 (t)) else true)))))) h n)) : gC l yX5_fits_2 cX5_fits_2 3 (some .boolean) G A lv 0 0 [.ref (ap q), .ref (ad t), .null] h n (gPure (some (.int (iI (bI (spN S (q) (t) && (if S.2 34 (q) = 2 then spXs S (q) 0 (t + 1) (t + S.2 46 (t)) else true)))))) h n) := by
  refine gC_ofI RX5 (by decide +kernel) rfl (Nat.le_of_ble_eq_true rfl) ?_
  intro p e s m args below meth c Q X hW ret H locs ls hG hS hl
  have hl : lv_has ls 3 [(0, .ref (ap q)), (1, .ref (ad t)), (2, .null)] := hl
  obtain ⟨⟨pl, hpl, hI⟩, hAp⟩ := hC.1 q hq.1 hq.2
  have hok := hC.2 q hq.1 hq.2
  have hIt := hV.it ht.1 ht.2
  have hwt := hV.1.1.w ht.1 ht.2
  have hkt := hV.2.2.2 t ht.1 ht.2
  have hgt := hV.1.2.2 t ht.1 ht.2
  rw [paE2 (P := pwS S) hk] at hI
  have hI : h (ap q) = some ((3, 0), .inr (4, [.int (iI pl), .ref (ap q + 1)])) := hI
  refine lv_aload_n X.1 X.2.1 dX5_fits_2_0 rfl (lv_at hl 1 rfl) ?_
  refine it_instL X hW hG hIt.1 (hwt.1) q937 dX5_fits_2_1 ?_
  refine i_if_eq X 24 dX5_fits_2_4 (by decide) (bI_iR _) (fun c4 => ?_) (fun c4 => ?_)
  · have c4 := bI_eq0.mp c4
    refine lv_iconst (v := iI (0)) X.1 X.2.1 dX5_fits_2_24 rfl ?_
    refine ret _ _ _ _ _ _ _ _ _ ?_ (nar_b (by first | omega | exact bI_iR _)) (by show 0 ≤ 0; first | omega | exact bI_iR _) (by show 0 ≤ 0; first | omega | exact bI_iR _) hG hS dX5_fits_2_25
    exact ⟨by congr 3; rw [if_pos hk]; unfold spN; rw [if_neg (by omega), if_neg (by omega), if_neg (by omega)]; first | (apply bI_t; rw [decide_eq_true c4, Bool.true_and]; exact c17) | (apply bI_f; rw [Bool.and_eq_false_iff]; first | (left; exact decide_eq_false (of_decide_eq_false c4)) | (right; exact c17)), rfl, rfl⟩
  · have c4 := bI_ne0.mp c4
    have c4 : 2 ≤ S.2 41 t := of_decide_eq_true c4
    have hLt := (hV.lst ht.1 ht.2 c4).1
    refine lv_aload_n X.1 X.2.1 dX5_fits_2_7 rfl (lv_at hl 0 rfl) ?_
    refine lv_aload_n X.1 X.2.1 dX5_fits_2_8 rfl (lv_at hl 1 rfl) ?_
    refine n_cast (ci := 10) X hW hG hLt rfl q937 (Or.inr rfl) dX5_fits_2_9 ?_
    refine lv_iconst (v := iI (0)) X.1 X.2.1 dX5_fits_2_12 rfl ?_
    refine lv_aload_nN X.1 X.2.1 dX5_fits_2_13 rfl (lv_at hl 2 rfl) ?_
    refine g_callV (ci := 4) (rest := []) (k := 3) X hW hG hS hI rfl (gpp_fitsL l G A (lv - 1) h n S ad ap b E q t 0 (by omega) hV ht.1 ht.2 c4 (by have := hV.1.1.p ht.1 ht.2; omega) hP hC hq hk ih) (lw_V q938 q899 q900 q81 q901) (by decide +kernel) rfl ⟨by show (lv - 1) + 1 ≤ lv; omega, by show 8 + (7 + 11) + 40 * (lv - 1) ≤ 40 * lv; omega⟩ ⟨by show 0 + 0 ≤ 0; first | omega | exact bI_iR _, by show 0 + 0 ≤ 0; first | omega | exact bI_iR _⟩ hl.1 rfl (Nat.le_of_ble_eq_true rfl) dX5_fits_2_14 (g_pk (fun H locs hG hS => ?_))
    show W p l e (gR lv 0 0) s m args below meth c H locs 0 0 Q (F0 m 17 ls [.int (iI (bI (spXs S q 0 (chh (S.2 46) t 0) (t + S.2 46 t))))])
    refine i_if_eq X 24 dX5_fits_2_17 (by decide) (bI_iR _) (fun c17 => ?_) (fun c17 => ?_)
    · have c17 := bI_eq0.mp c17
      refine lv_iconst (v := iI (0)) X.1 X.2.1 dX5_fits_2_24 rfl ?_
      refine ret _ _ _ _ _ _ _ _ _ ?_ (nar_b (by first | omega | exact bI_iR _)) (by show 0 ≤ 0; first | omega | exact bI_iR _) (by show 0 ≤ 0; first | omega | exact bI_iR _) hG hS dX5_fits_2_25
      exact ⟨by congr 3; rw [if_pos hk]; unfold spN; rw [if_neg (by omega), if_neg (by omega), if_neg (by omega)]; first | (apply bI_t; rw [decide_eq_true c4, Bool.true_and]; exact c17) | (apply bI_f; rw [Bool.and_eq_false_iff]; first | (left; exact decide_eq_false (of_decide_eq_false c4)) | (right; exact c17)), rfl, rfl⟩
    · have c17 := bI_ne0.mp c17
      refine lv_iconst (v := iI (1)) X.1 X.2.1 dX5_fits_2_20 rfl ?_
      refine lv_goto (tgt := 25) X.1 X.2.1 dX5_fits_2_21 (by decide) ?_
      refine ret _ _ _ _ _ _ _ _ _ ?_ (nar_b (by first | omega | exact bI_iR _)) (by show 0 ≤ 0; first | omega | exact bI_iR _) (by show 0 ≤ 0; first | omega | exact bI_iR _) hG hS dX5_fits_2_25
      exact ⟨by congr 3; rw [if_pos hk]; unfold spN; rw [if_neg (by omega), if_neg (by omega), if_neg (by omega)]; first | (apply bI_t; rw [decide_eq_true c4, Bool.true_and]; exact c17) | (apply bI_f; rw [Bool.and_eq_false_iff]; first | (left; exact decide_eq_false (of_decide_eq_false c4)) | (right; exact c17)), rfl, rfl⟩

theorem vp_fits (l : Launch) (G : gEnv) (A : Nat → Prop) (h : gH) (n : Nat) (S : MSt) (ad ap : Int → Nat) (b E : Int) (hV : LV G h S ad) (hP : ∀ p, b ≤ p → p < E → PN S E p) (hC : PCX G h S ap b E) : ∀ (N : Nat) (q : Int) (lv : Nat), S.2 37 q < N → b ≤ q → q < E → S.2 34 q ≠ 7 → 6 + 2 * S.2 37 q ≤ lv → ∀ t, (0 ≤ t ∧ t < S.1 40) → gVC l ⟨RX4, "fits", "(LMacroGlass$Item;Ljava/util/ArrayList;)Z"⟩ G A lv 0 0 (ap q) [.ref (ad t), .null] h n (gPure (some (.int (iI (bI (spN S (q) (t) && (if S.2 34 (q) = 2 then spXs S (q) 0 (t + 1) (t + S.2 46 (t)) else true)))))) h n) := by
  intro N
  induction N with
  | zero => intro q lv hN h0 hn; have := (hP q h0 hn).2.1; omega
  | succ N ih =>
    intro q lv hN h0 hn h7 hlv t ht
    have hp := hP q h0 hn
    have hp1 := hp.2.1
    obtain ⟨⟨pl, hpl, e⟩, hAp⟩ := hC.1 q h0 hn
    rcases hp.1 with k | k | k | k | k
    · rw [if_neg (by omega), Bool.and_true]
      rw [paE0 (P := pwS S) k] at e
      exact ⟨_, 5, _, _, yX6_fits, _, 3, _, e, rfl, gpf_fits l G A lv h n S ad ap b E q t (by omega) hV hC ⟨h0, hn⟩ ht k hp.2.2.2.2.2.1.1, q929, q930, q82, q931, by decide⟩
    · rw [paE2 (P := pwS S) k] at e
      refine ⟨_, 4, _, _, yX5_fits_2, _, 3, _, e, rfl, gpp_fits l G A lv h n S ad ap b E q t (by omega) hV hC ⟨h0, hn⟩ ht hP k ?_, q934, q935, q81, q936, by decide⟩
      intro j hj h7 t ht
      have kd := PN.kid hP h0 hn k hj
      exact ih _ _ (by omega) (by omega) (by omega) h7 (by omega) t ht
    · rw [if_neg (by omega), Bool.and_true]
      rw [paE6 (P := pwS S) k] at e
      exact ⟨_, 6, _, _, yX7_fits, _, 4, _, e, rfl, gpv_fits l G A lv h n S ad ap b E q t k, q943, q944, q87, q945, by decide⟩
    · exact absurd k h7
    · rw [if_neg (by omega), Bool.and_true]
      rw [paE8 (P := pwS S) k] at e
      exact ⟨_, 7, _, _, yX8_fits, _, 3, _, e, rfl, gps_fits l G A lv h n S ad ap b E q t hV hC ⟨h0, hn⟩ ht k, q939, q940, q88, q941, by decide⟩
set_option maxHeartbeats 4000000 in
/-- whether a rule fits a call -/
theorem gr_fits (l : Launch) (G : gEnv) (A : Nat → Prop) (lv : Nat) (h : gH) (n : Nat) (S : MSt) (ad : Int → Nat) (i : Int) (rl : Nat) (ru : Nat → Nat) (ap : Int → Nat) (r : Nat) (hlv : 1020 ≤ lv) (hV : LV G h S ad) (h0 : 0 ≤ i) (hn : i < S.1 40) (hw : S.2 41 i = 3) (hR : RUL G h S rl ru ap) (hr : (r : Int) < S.1 29) : gC l yX9_fits cX9_fits 2 (some .boolean) G A lv 0 0 [.ref (ru r), .ref (ad i)] h n (gPure (some (.int (iI (bI (decide (S.2 30 r = S.2 42 (i + 1)) && spFit S r i))))) h n) := by
  refine gC_ofI RX9 (by decide +kernel) rfl (Nat.le_of_ble_eq_true rfl) ?_
  intro p e s m args below meth c Q X hW ret H locs ls hG hS hl
  have hl : lv_has ls 2 [(0, .ref (ru r)), (1, .ref (ad i))] := hl
  obtain ⟨hI, hA⟩ := hV.lst h0 hn (by omega)
  obtain ⟨tgA, moA, dA, hLA, hAr⟩ := id hA
  have hT := hV.1.1
  have hp := hT.p h0 hn
  have hnn := hV.1.n
  have hRr := hR.2.2 r hr
  have hPR := hR.1.2 r (by omega) hr
  have hPR1 := hPR.1
  have hPR3 := hPR.2.2.1
  have hPR4 := hPR.2.2.2.1
  have hPR5 := hPR.2.2.2.2.1
  have hC := hR.pat hr
  obtain ⟨⟨pl0, -, hP0⟩, -⟩ := hC.1 (S.2 32 r) (Int.le_refl _) (by omega)
  rw [paE2 (P := pwS S) hPR.2.1] at hP0
  have hna := hT.named h0 hn (by omega)
  have hkd := hT.kid h0 hn (by omega) (j := 0) (by omega)
  have ec0 : chh (S.2 46) i 0 = i + 1 := rfl
  have hN1 := hV.nam (i := i + 1) (by omega) (by omega) hna.2
  have hk1 := (hV.2.2.2 (i + 1) (by omega) (by omega)).1 hna.2
  have hr1 : lR (gLt (S.2 42 (i + 1))) := by have := gLt_rng hk1; omega
  have hr2 : lR (gLt (S.2 30 (r : Int))) := by have := gLt_rng hRr.2.1; omega
  have hlf := hT.leaf (i := i + 1) (by omega) (by omega) (by omega)
  have ec1 : chh (S.2 46) i 1 = i + 2 := by show i + 1 + S.2 46 (i + 1) = i + 2; omega
  refine lv_aload_n X.1 X.2.1 dX9_fits_0 rfl (lv_at hl 1 rfl) ?_
  refine n_getN (ci := 10) X in_X12 hW hG hI rfl 4 (by decide) q593 (fun _ h => h) rfl dX9_fits_1 ?_
  refine lv_iconst (v := iI (0)) X.1 X.2.1 dX9_fits_4 rfl ?_
  refine g_callV (ci := 17) (rest := []) (k := 1) X hW hG hS hLA rfl (al_get l G A (lv - 1) h n (ad i + 1) (chs (rwS S) ad i) (S.2 47 i).toNat 0 (ad (i + 1)) (by omega) hA (by omega) (hV.part (j := 0) (by omega))) (lw_V q755 q691 q692 q69 q693) (by decide +kernel) rfl ⟨by show (lv - 1) + 1 ≤ lv; omega, by show 8 + (2 + 11) + 40 * (lv - 1) ≤ 40 * lv; omega⟩ ⟨by show 0 + 0 ≤ 0; first | omega | exact bI_iR _ | exact hr1 | exact hr2, by show 0 + 0 ≤ 0; first | omega | exact bI_iR _ | exact hr1 | exact hr2⟩ hl.1 rfl (Nat.le_of_ble_eq_true rfl) dX9_fits_5 (g_pk (fun H locs hG hS => ?_))
  show W p l e (gR lv 0 0) s m args below meth c H locs 0 0 Q (F0 m 8 ls [.ref (ad (i + 1))])
  refine n_cast (ci := 12) X hW hG hN1 rfl q897 (Or.inr rfl) dX9_fits_8 ?_
  refine n_getN (ci := 12) X in_X14 hW hG hN1 rfl 4 (by decide) q670 (fun _ h => h) rfl dX9_fits_11 ?_
  refine lv_aload_n X.1 X.2.1 dX9_fits_14 rfl (lv_at hl 0 rfl) ?_
  refine ru_word X hW hG hRr.1 q562 dX9_fits_15 ?_
  refine i_lcmp_ne X 39 dX9_fits_18 dX9_fits_19 (by decide) (by first | omega | exact bI_iR _ | exact hr1 | exact hr2) (by first | omega | exact bI_iR _ | exact hr1 | exact hr2) (fun c18 => ?_) (fun c18 => ?_)
  · refine lv_iconst (v := iI (0)) X.1 X.2.1 dX9_fits_39 rfl ?_
    refine ret _ _ _ _ _ _ _ _ _ ?_ (nar_b (by first | omega | exact bI_iR _ | exact hr1 | exact hr2)) (by show 0 ≤ 0; first | omega | exact bI_iR _ | exact hr1 | exact hr2) (by show 0 ≤ 0; first | omega | exact bI_iR _ | exact hr1 | exact hr2) hG hS dX9_fits_40
    exact ⟨by congr 3; first | (apply bI_t; rw [Bool.and_eq_true]; exact ⟨decide_eq_true ((gLt_inj hRr.2.1 hk1).mp c18.symm), by rw [spFit_s hPR, ← ec1]; exact c32⟩) | (apply bI_f; rw [Bool.and_eq_false_iff]; first | (left; exact decide_eq_false (fun z => c18 ((gLt_inj hRr.2.1 hk1).mpr z).symm)) | (right; rw [spFit_s hPR, ← ec1]; exact c32)), rfl, rfl⟩
  · refine lv_aload_n X.1 X.2.1 dX9_fits_22 rfl (lv_at hl 0 rfl) ?_
    refine ru_patterns X hW hG hRr.1 q564 dX9_fits_23 ?_
    refine lv_aload_n X.1 X.2.1 dX9_fits_26 rfl (lv_at hl 1 rfl) ?_
    refine lv_iconst (v := iI (1)) X.1 X.2.1 dX9_fits_27 rfl ?_
    refine lv_null X.1 X.2.1 dX9_fits_28 ?_
    refine g_callV (ci := 4) (rest := []) (k := 3) X hW hG hS hP0 rfl (gpp_fitsL l G A (lv - 1) h n S ad ap (S.2 32 r) (S.2 33 r) (S.2 32 r) i 1 (by omega) hV h0 hn (by omega) (by omega) hPR.2.2.2.2.2.2.2.1 hC ⟨by omega, by omega⟩ hPR.2.1 (fun k hk h7 t ht => vp_fits l G A h n S ad ap _ _ hV hPR.2.2.2.2.2.2.2.1 hC 601 _ _ (by have := PN.kid hPR.2.2.2.2.2.2.2.1 (P := S.2 32 r) (by omega) (by omega) hPR.2.1 hk; omega) (by have := PN.kid hPR.2.2.2.2.2.2.2.1 (P := S.2 32 r) (by omega) (by omega) hPR.2.1 hk; omega) (by have := PN.kid hPR.2.2.2.2.2.2.2.1 (P := S.2 32 r) (by omega) (by omega) hPR.2.1 hk; omega) h7 (by have := PN.kid hPR.2.2.2.2.2.2.2.1 (P := S.2 32 r) (by omega) (by omega) hPR.2.1 hk; omega) t ht)) (lw_V q898 q899 q900 q81 q901) (by decide +kernel) rfl ⟨by show (lv - 1) + 1 ≤ lv; omega, by show 8 + (7 + 11) + 40 * (lv - 1) ≤ 40 * lv; omega⟩ ⟨by show 0 + 0 ≤ 0; first | omega | exact bI_iR _ | exact hr1 | exact hr2, by show 0 + 0 ≤ 0; first | omega | exact bI_iR _ | exact hr1 | exact hr2⟩ hl.1 rfl (Nat.le_of_ble_eq_true rfl) dX9_fits_29 (g_pk (fun H locs hG hS => ?_))
    show W p l e (gR lv 0 0) s m args below meth c H locs 0 0 Q (F0 m 32 ls [.int (iI (bI (spXs S (S.2 32 (r : Int)) 0 (chh (S.2 46) i 1) (i + S.2 46 i))))])
    refine i_if_eq X 39 dX9_fits_32 (by decide) (bI_iR _) (fun c32 => ?_) (fun c32 => ?_)
    · have c32 := bI_eq0.mp c32
      refine lv_iconst (v := iI (0)) X.1 X.2.1 dX9_fits_39 rfl ?_
      refine ret _ _ _ _ _ _ _ _ _ ?_ (nar_b (by first | omega | exact bI_iR _ | exact hr1 | exact hr2)) (by show 0 ≤ 0; first | omega | exact bI_iR _ | exact hr1 | exact hr2) (by show 0 ≤ 0; first | omega | exact bI_iR _ | exact hr1 | exact hr2) hG hS dX9_fits_40
      exact ⟨by congr 3; first | (apply bI_t; rw [Bool.and_eq_true]; exact ⟨decide_eq_true ((gLt_inj hRr.2.1 hk1).mp c18.symm), by rw [spFit_s hPR, ← ec1]; exact c32⟩) | (apply bI_f; rw [Bool.and_eq_false_iff]; first | (left; exact decide_eq_false (fun z => c18 ((gLt_inj hRr.2.1 hk1).mpr z).symm)) | (right; rw [spFit_s hPR, ← ec1]; exact c32)), rfl, rfl⟩
    · have c32 := bI_ne0.mp c32
      refine lv_iconst (v := iI (1)) X.1 X.2.1 dX9_fits_35 rfl ?_
      refine lv_goto (tgt := 40) X.1 X.2.1 dX9_fits_36 (by decide) ?_
      refine ret _ _ _ _ _ _ _ _ _ ?_ (nar_b (by first | omega | exact bI_iR _ | exact hr1 | exact hr2)) (by show 0 ≤ 0; first | omega | exact bI_iR _ | exact hr1 | exact hr2) (by show 0 ≤ 0; first | omega | exact bI_iR _ | exact hr1 | exact hr2) hG hS dX9_fits_40
      exact ⟨by congr 3; first | (apply bI_t; rw [Bool.and_eq_true]; exact ⟨decide_eq_true ((gLt_inj hRr.2.1 hk1).mp c18.symm), by rw [spFit_s hPR, ← ec1]; exact c32⟩) | (apply bI_f; rw [Bool.and_eq_false_iff]; first | (left; exact decide_eq_false (fun z => c18 ((gLt_inj hRr.2.1 hk1).mpr z).symm)) | (right; rw [spFit_s hPR, ← ec1]; exact c32)), rfl, rfl⟩

theorem vr_fits (l : Launch) (G : gEnv) (A : Nat → Prop) (lv : Nat) (h : gH) (n : Nat) (S : MSt) (ad : Int → Nat) (i : Int) (rl : Nat) (ru : Nat → Nat) (ap : Int → Nat) (r : Nat) (hlv : 1020 ≤ lv) (hV : LV G h S ad) (h0 : 0 ≤ i) (hn : i < S.1 40) (hw : S.2 41 i = 3) (hR : RUL G h S rl ru ap) (hr : (r : Int) < S.1 29) : gVC l yX9_fits G A lv 0 0 (ru r) [.ref (ad i)] h n (gPure (some (.int (iI (bI (decide (S.2 30 r = S.2 42 (i + 1)) && spFit S r i))))) h n) := by
  have e := (hR.2.2 r hr).1
  have hc := gr_fits l G A lv h n S ad i rl ru ap r hlv hV h0 hn hw hR hr
  unfold ruE at e
  by_cases hz : S.2 31 r = 0
  · rw [if_pos hz] at e
    exact ⟨_, 8, _, _, yX9_fits, _, 2, _, e, rfl, hc, q893, q892, q89, q896, by decide⟩
  · rw [if_neg hz] at e
    exact ⟨_, 9, _, _, yX9_fits, _, 2, _, e, rfl, hc, q895, q892, q89, q896, by decide⟩
