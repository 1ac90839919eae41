/-! ===== what fits, laid down: lists of patterns ===== -/
set_option maxRecDepth 100000
theorem grow_add {q0 a b c : Nat} : (alK (max q0 (a + b)) - alK q0) + (alK (max (max q0 (a + b)) (a + b + c)) - alK (max q0 (a + b))) = alK (max q0 (a + (b + c))) - alK q0 ∧ (alS (max q0 (a + b)) - alS q0) + (alS (max (max q0 (a + b)) (a + b + c)) - alS (max q0 (a + b))) = alS (max q0 (a + (b + c))) - alS q0 := by
  have h1 := alK_mono (a := q0) (b := max q0 (a + b)) (Nat.le_max_left _ _)
  have h2 := alK_mono (a := max q0 (a + b)) (b := max q0 (a + (b + c))) (by omega)
  rw [show max (max q0 (a + b)) (a + b + c) = max q0 (a + (b + c)) by omega]
  omega
theorem fMc_add {q0 a : Nat} {r1 r2 : Int} {t1 t2 : List (Int × Int × Int)} (h1 : 0 ≤ r1) (h2 : 0 ≤ r2) : fMc q0 a r1 t1 + fMc (max q0 (a + t1.length)) (a + t1.length) r2 t2 = fMc q0 a (r1 + r2) (t1 ++ t2) ∧ fMs q0 a r1 t1 + fMs (max q0 (a + t1.length)) (a + t1.length) r2 t2 = fMs q0 a (r1 + r2) (t1 ++ t2) := by
  have h := grow_add (q0 := q0) (a := a) (b := t1.length) (c := t2.length)
  unfold fMc fMs
  rw [List.length_append]
  omega
theorem fMc_mono {q0 a : Nat} {r1 r2 : Int} {t1 t2 : List (Int × Int × Int)} (h1 : r1 ≤ r2) (h2 : t1.length ≤ t2.length) : fMc q0 a r1 t1 ≤ fMc q0 a r2 t2 ∧ fMs q0 a r1 t1 ≤ fMs q0 a r2 t2 := by
  have h := alK_mono (a := max q0 (a + t1.length)) (b := max q0 (a + t2.length)) (by omega)
  unfold fMc fMs
  omega
theorem rest_cost {q0 cz sz m : Nat} {xs ys : List Nat} {r r2 : Int} {tz : List (Int × Int × Int)} {x : Int × Int × Int} (hz : ys.length = tz.length) (h1 : cz ≤ fMc q0 xs.length r tz) (h2 : sz ≤ fMs q0 xs.length r tz) (hm : m ≤ 700) (hr : 0 ≤ r) (hrm : r + m ≤ r2) :
    cz + (2 + alK m) + (alK (max (max q0 (xs.length + ys.length)) ((xs ++ ys).length + 1)) - alK (max q0 (xs.length + ys.length))) ≤ fMc q0 xs.length r2 (tz ++ [x]) + 3 * 1 ∧ sz + (5 + alS m) + (alS (max (max q0 (xs.length + ys.length)) ((xs ++ ys).length + 1)) - alS (max q0 (xs.length + ys.length))) ≤ fMs q0 xs.length r2 (tz ++ [x]) + 15 * 1 := by
  have h3 := alK_le m hm
  have h := grow_add (q0 := q0) (a := xs.length) (b := tz.length) (c := 1)
  rw [hz, List.length_append, hz]
  unfold fMc at h1 ⊢
  unfold fMs at h2 ⊢
  rw [List.length_append, show ([x] : List (Int × Int × Int)).length = 1 from rfl]
  omega
theorem TW.grow {n : Int} {what room parts : Int → Int} (hT : TW n what room parts) {i : Int} (h0 : 0 ≤ i) (hn : i < n) (hw : 2 ≤ what i) (j : Nat) (hj : (j : Int) ≤ parts i) : chh room i j + (parts i - j) ≤ i + room i := by
  obtain ⟨m, hm⟩ : ∃ m : Nat, parts i - j = m := ⟨(parts i - j).toNat, by omega⟩
  induction m generalizing j with
  | zero => have := hT.ch h0 hn hw j hj; omega
  | succ m ih =>
    have h1 := ih (j + 1) (by omega) (by omega)
    have h2 := hT.kid h0 hn hw (j := j) (by omega)
    have h3 : chh room i (j + 1) = chh room i j + room (chh room i j) := rfl
    omega
theorem TW.ch_le {n : Int} {what room parts : Int → Int} (hT : TW n what room parts) {i : Int} (h0 : 0 ≤ i) (hn : i < n) (hw : 2 ≤ what i) (j k : Nat) (hjk : j ≤ k) (hk : (k : Int) ≤ parts i) : chh room i j ≤ chh room i k := by
  induction k with
  | zero => rw [show j = 0 by omega]; exact Int.le_refl _
  | succ k ih =>
    by_cases e : j = k + 1
    · rw [e]; exact Int.le_refl _
    · have h1 := ih (by omega) (by omega)
      have h2 := hT.kid h0 hn hw (j := k) (by omega)
      have h3 : chh room i (k + 1) = chh room i k + room (chh room i k) := rfl
      omega
set_option maxHeartbeats 4000000 in
theorem gpf_fitsR (l : Launch) (G : gEnv) (A : Nat → Prop) (lv : Nat) (h : gH) (n : Nat) (S : MSt) (ad ap : Int → Nat) (b E q t : Int) (fl : Nat) (hlv : 2 ≤ lv) (hV : LV G h S ad) (hC : PCX G h S ap b E) (hq : b ≤ q ∧ q < E) (ht : 0 ≤ t ∧ t < S.1 40) (hk : S.2 34 q = 0) (hv : 0 ≤ S.2 35 q) : gC l yX6_fits cX6_fits 3 (some .boolean) G A lv 0 0 [.ref (ap q), .ref (ad t), .ref fl] h n (gPure (some (.int (iI (bI (spN S q t))))) h n) := by
  refine gC_ofI RX6 (by decide +kernel) rfl (Nat.le_of_ble_eq_true rfl) ?_
  intro p e s m args below meth c Q X hW ret H locs ls hG hS hl
  have hl : lv_has ls 3 [(0, .ref (ap q)), (1, .ref (ad t)), (2, .ref fl)] := hl
  obtain ⟨⟨pl, hpl, hI⟩, hAp⟩ := hC.1 q hq.1 hq.2
  have hok := hC.2 q hq.1 hq.2
  have hIt := hV.it ht.1 ht.2
  have hwt := hV.1.1.w ht.1 ht.2
  have hkt := hV.2.2.2 t ht.1 ht.2
  have hgt := hV.1.2.2 t ht.1 ht.2
  rw [paE0 (P := pwS S) hk] at hI
  have hI : h (ap q) = some ((3, 0), .inr (5, [.int (iI pl), .int (iI (S.2 35 q))])) := hI
  have hvq := hok.2 hk
  refine lv_aload_n X.1 X.2.1 dX6_fits_0 rfl (lv_at hl 1 rfl) ?_
  refine g_callX (rest := []) (k := 0) X hW hG hS (vi_kind l G A (lv - 1) h n (rwS S) ad (1, 0) (inS S ad t) t t hIt hwt.1) q932 q801 (gDecl_abs hW q800) (by decide +kernel) rfl ⟨by show (lv - 1) + 1 ≤ lv; omega, by show 40 + 40 * (lv - 1) ≤ 40 * lv; omega⟩ ⟨by show 0 + 0 ≤ 0; first | omega | (split <;> omega), by show 0 + 0 ≤ 0; first | omega | (split <;> omega)⟩ hl.1 rfl (Nat.le_of_ble_eq_true rfl) dX6_fits_1 (g_pk (fun H locs hG hS => ?_))
  show W p l e (gR lv 0 0) s m args below meth c H locs 0 0 Q (F0 m 4 ls [.int (iI (S.2 41 t))])
  refine i_if_ne X 22 dX6_fits_4 (by decide) (by first | omega | (split <;> omega)) (fun c4 => ?_) (fun c4 => ?_)
  · refine lv_iconst (v := iI (0)) X.1 X.2.1 dX6_fits_22 rfl ?_
    refine ret _ _ _ _ _ _ _ _ _ ?_ (nar_b (by first | omega | (split <;> omega))) (by show 0 ≤ 0; first | omega | (split <;> omega)) (by show 0 ≤ 0; first | omega | (split <;> omega)) hG hS dX6_fits_23
    exact ⟨by congr 3; unfold spN; rw [if_pos hk]; first | (apply bI_t; rw [decide_eq_true c4, Bool.true_and]; rw [if_pos c4] at c15; exact decide_eq_true c15) | (apply bI_f; rw [Bool.and_eq_false_iff]; first | (left; exact decide_eq_false c4) | (right; rw [if_pos c4] at c15; exact decide_eq_false c15)), rfl, rfl⟩
  · refine lv_aload_n X.1 X.2.1 dX6_fits_7 rfl (lv_at hl 1 rfl) ?_
    refine g_callX (rest := []) (k := 0) X hW hG hS (vi_value l G A (lv - 1) h n (rwS S) ad (1, 0) (inS S ad t) t t hIt hwt.1) q933 q822 (gDecl_code X q821 q828) (by decide +kernel) rfl ⟨by show (lv - 1) + 1 ≤ lv; omega, by show 40 + 40 * (lv - 1) ≤ 40 * lv; omega⟩ ⟨by show 0 + 0 ≤ 0; first | omega | (split <;> omega), by show 0 + 0 ≤ 0; first | omega | (split <;> omega)⟩ hl.1 rfl (Nat.le_of_ble_eq_true rfl) dX6_fits_8 (g_pk (fun H locs hG hS => ?_))
    show W p l e (gR lv 0 0) s m args below meth c H locs 0 0 Q (F0 m 11 ls [.int (iI (if S.2 41 t = 0 then S.2 42 t else 0))])
    refine lv_aload_n X.1 X.2.1 dX6_fits_11 rfl (lv_at hl 0 rfl) ?_
    refine n_get (ci := 5) X in_X6 hW hG hI rfl 1 (by decide) q445 (fun _ h => h) rfl dX6_fits_12 ?_
    refine i_icmp_ne X 22 dX6_fits_15 (by decide) (by first | omega | (split <;> omega)) (by first | omega | (split <;> omega)) (fun c15 => ?_) (fun c15 => ?_)
    · refine lv_iconst (v := iI (0)) X.1 X.2.1 dX6_fits_22 rfl ?_
      refine ret _ _ _ _ _ _ _ _ _ ?_ (nar_b (by first | omega | (split <;> omega))) (by show 0 ≤ 0; first | omega | (split <;> omega)) (by show 0 ≤ 0; first | omega | (split <;> omega)) hG hS dX6_fits_23
      exact ⟨by congr 3; unfold spN; rw [if_pos hk]; first | (apply bI_t; rw [decide_eq_true c4, Bool.true_and]; rw [if_pos c4] at c15; exact decide_eq_true c15) | (apply bI_f; rw [Bool.and_eq_false_iff]; first | (left; exact decide_eq_false c4) | (right; rw [if_pos c4] at c15; exact decide_eq_false c15)), rfl, rfl⟩
    · refine lv_iconst (v := iI (1)) X.1 X.2.1 dX6_fits_18 rfl ?_
      refine lv_goto (tgt := 23) X.1 X.2.1 dX6_fits_19 (by decide) ?_
      refine ret _ _ _ _ _ _ _ _ _ ?_ (nar_b (by first | omega | (split <;> omega))) (by show 0 ≤ 0; first | omega | (split <;> omega)) (by show 0 ≤ 0; first | omega | (split <;> omega)) hG hS dX6_fits_23
      exact ⟨by congr 3; unfold spN; rw [if_pos hk]; first | (apply bI_t; rw [decide_eq_true c4, Bool.true_and]; rw [if_pos c4] at c15; exact decide_eq_true c15) | (apply bI_f; rw [Bool.and_eq_false_iff]; first | (left; exact decide_eq_false c4) | (right; rw [if_pos c4] at c15; exact decide_eq_false c15)), rfl, rfl⟩

set_option maxHeartbeats 4000000 in
theorem gps_fitsR (l : Launch) (G : gEnv) (A : Nat → Prop) (lv : Nat) (h : gH) (n : Nat) (S : MSt) (ad ap : Int → Nat) (b E q t : Int) (fl : Nat) (hV : LV G h S ad) (hC : PCX G h S ap b E) (hq : b ≤ q ∧ q < E) (ht : 0 ≤ t ∧ t < S.1 40) (hk : S.2 34 q = 8) : gC l yX8_fits cX8_fits 3 (some .boolean) G A lv 0 0 [.ref (ap q), .ref (ad t), .ref fl] h n (gPure (some (.int (iI (bI (spN S q t))))) h n) := by
  refine gC_ofI RX8 (by decide +kernel) rfl (Nat.le_of_ble_eq_true rfl) ?_
  intro p e s m args below meth c Q X hW ret H locs ls hG hS hl
  have hl : lv_has ls 3 [(0, .ref (ap q)), (1, .ref (ad t)), (2, .ref fl)] := hl
  obtain ⟨⟨pl, hpl, hI⟩, hAp⟩ := hC.1 q hq.1 hq.2
  have hok := hC.2 q hq.1 hq.2
  have hIt := hV.it ht.1 ht.2
  have hwt := hV.1.1.w ht.1 ht.2
  have hkt := hV.2.2.2 t ht.1 ht.2
  have hgt := hV.1.2.2 t ht.1 ht.2
  rw [paE8 (P := pwS S) hk] at hI
  have hI : h (ap q) = some ((3, 0), .inr (7, [.int (iI pl), .long (lI (gLt (S.2 35 q))), .int (iI 0)])) := hI
  have hr2 : lR (gLt (S.2 35 q)) := by have := gLt_rng (hok.1 (by omega)); omega
  refine lv_aload_n X.1 X.2.1 dX8_fits_0 rfl (lv_at hl 1 rfl) ?_
  refine it_instN X hW hG hIt.1 (hwt.1) q942 dX8_fits_1 ?_
  refine i_if_eq X 26 dX8_fits_4 (by decide) (bI_iR _) (fun c4 => ?_) (fun c4 => ?_)
  · have c4 := bI_eq0.mp c4
    refine lv_iconst (v := iI (0)) X.1 X.2.1 dX8_fits_26 rfl ?_
    refine ret _ _ _ _ _ _ _ _ _ ?_ (nar_b (by first | omega | exact bI_iR _ | exact hr1 | exact hr2)) (by show 0 ≤ 0; first | omega | exact bI_iR _ | exact hr1 | exact hr2) (by show 0 ≤ 0; first | omega | exact bI_iR _ | exact hr1 | exact hr2) hG hS dX8_fits_27
    exact ⟨by congr 3; unfold spN; rw [if_neg (by omega), if_pos hk]; first | (apply bI_t; rw [decide_eq_true c4, Bool.true_and]; exact decide_eq_true ((gLt_inj (hkt.1 c4) (hok.1 (by omega))).mp c18)) | (apply bI_f; rw [Bool.and_eq_false_iff]; first | (left; exact decide_eq_false (of_decide_eq_false c4)) | (right; exact decide_eq_false (fun z => c18 ((gLt_inj (hkt.1 c4) (hok.1 (by omega))).mpr z)))), rfl, rfl⟩
  · have c4 := bI_ne0.mp c4
    have c4 : S.2 41 t = 1 := of_decide_eq_true c4
    have hN1 := hV.nam ht.1 ht.2 c4
    have hr1 : lR (gLt (S.2 42 t)) := by have := gLt_rng (hkt.1 c4); omega
    refine lv_aload_n X.1 X.2.1 dX8_fits_7 rfl (lv_at hl 1 rfl) ?_
    refine n_cast (ci := 12) X hW hG hN1 rfl q942 (Or.inr rfl) dX8_fits_8 ?_
    refine n_getN (ci := 12) X in_X14 hW hG hN1 rfl 4 (by decide) q671 (fun _ h => h) rfl dX8_fits_11 ?_
    refine lv_aload_n X.1 X.2.1 dX8_fits_14 rfl (lv_at hl 0 rfl) ?_
    refine n_get (ci := 7) X in_X8 hW hG hI rfl 1 (by decide) q522 (fun x hx => u_same (X.2.2.2.2 _ q523) x hx) rfl dX8_fits_15 ?_
    refine i_lcmp_ne X 26 dX8_fits_18 dX8_fits_19 (by decide) (by first | omega | exact bI_iR _ | exact hr1 | exact hr2) (by first | omega | exact bI_iR _ | exact hr1 | exact hr2) (fun c18 => ?_) (fun c18 => ?_)
    · refine lv_iconst (v := iI (0)) X.1 X.2.1 dX8_fits_26 rfl ?_
      refine ret _ _ _ _ _ _ _ _ _ ?_ (nar_b (by first | omega | exact bI_iR _ | exact hr1 | exact hr2)) (by show 0 ≤ 0; first | omega | exact bI_iR _ | exact hr1 | exact hr2) (by show 0 ≤ 0; first | omega | exact bI_iR _ | exact hr1 | exact hr2) hG hS dX8_fits_27
      exact ⟨by congr 3; unfold spN; rw [if_neg (by omega), if_pos hk]; first | (apply bI_t; rw [decide_eq_true c4, Bool.true_and]; exact decide_eq_true ((gLt_inj (hkt.1 c4) (hok.1 (by omega))).mp c18)) | (apply bI_f; rw [Bool.and_eq_false_iff]; first | (left; exact decide_eq_false (of_decide_eq_false c4)) | (right; exact decide_eq_false (fun z => c18 ((gLt_inj (hkt.1 c4) (hok.1 (by omega))).mpr z)))), rfl, rfl⟩
    · refine lv_iconst (v := iI (1)) X.1 X.2.1 dX8_fits_22 rfl ?_
      refine lv_goto (tgt := 27) X.1 X.2.1 dX8_fits_23 (by decide) ?_
      refine ret _ _ _ _ _ _ _ _ _ ?_ (nar_b (by first | omega | exact bI_iR _ | exact hr1 | exact hr2)) (by show 0 ≤ 0; first | omega | exact bI_iR _ | exact hr1 | exact hr2) (by show 0 ≤ 0; first | omega | exact bI_iR _ | exact hr1 | exact hr2) hG hS dX8_fits_27
      exact ⟨by congr 3; unfold spN; rw [if_neg (by omega), if_pos hk]; first | (apply bI_t; rw [decide_eq_true c4, Bool.true_and]; exact decide_eq_true ((gLt_inj (hkt.1 c4) (hok.1 (by omega))).mp c18)) | (apply bI_f; rw [Bool.and_eq_false_iff]; first | (left; exact decide_eq_false (of_decide_eq_false c4)) | (right; exact decide_eq_false (fun z => c18 ((gLt_inj (hkt.1 c4) (hok.1 (by omega))).mpr z)))), rfl, rfl⟩

set_option maxHeartbeats 4000000 in
/-- patterns against the items of a list, laid down -/
theorem gpp_fitsLA (l : Launch) (G : gEnv) (A : Nat → Prop) (lv : Nat) (h : gH) (n : Nat) (S : MSt) (ad ap : Int → Nat) (b E P i : Int) (f0 : Nat) (h0 : gH) (fl : Nat) (xs : List Nat) (q0 : Nat) (hlv : 10 ≤ lv) (hV : LV G h0 S ad) (hC : PCX G h0 S ap b E) (hs : gSub h0 h) (hlt : ∀ (a : Nat) (x : gE), h0 a = some x → a < fl) (hA : AL G h fl xs q0) (h0i : 0 ≤ i) (hn0 : i < S.1 40) (hw : 2 ≤ S.2 41 i) (hf0 : (f0 : Int) ≤ S.2 47 i) (hP : ∀ p, b ≤ p → p < E → PN S E p) (hPb : b ≤ P ∧ P < E) (hk2 : S.2 34 P = 2) (hsx : spXs S P 0 (chh (S.2 46) i f0) (i + S.2 46 i) = true) (hq2 : q0 + (spFss S P 0 (chh (S.2 46) i f0) (i + S.2 46 i)).length < 2000) (ih : ∀ k : Nat, (k : Int) < S.2 38 P → S.2 34 (chh (S.2 37) P k) ≠ 7 → ∀ t, (0 ≤ t ∧ t < S.1 40) → (spN S (chh (S.2 37) P k) t && (if S.2 34 (chh (S.2 37) P k) = 2 then spXs S (chh (S.2 37) P k) 0 (t + 1) (t + S.2 46 t) else true)) = true → ∀ (h : gH) (n : Nat) (xs : List Nat) (q0 : Nat), gSub h0 h → AL G h fl xs q0 → q0 + (spF1 S (chh (S.2 37) P k) t).length < 2000 → gVC l ⟨RX4, "fits", "(LMacroGlass$Item;Ljava/util/ArrayList;)Z"⟩ G A (lv - 1) (fMc q0 xs.length (S.2 46 t) (spF1 S (chh (S.2 37) P k) t)) (fMs q0 xs.length (S.2 46 t) (spF1 S (chh (S.2 37) P k) t)) (ap (chh (S.2 37) P k)) [.ref (ad t), .ref fl] h n (FAQ G S ad fl xs q0 (spF1 S (chh (S.2 37) P k) t) h n)) : gC l yX5_fits cX5_fits 7 (some .boolean) G A lv (fMc q0 xs.length (i + S.2 46 i - chh (S.2 46) i f0) (spFss S P 0 (chh (S.2 46) i f0) (i + S.2 46 i)) + 3) (fMs q0 xs.length (i + S.2 46 i - chh (S.2 46) i f0) (spFss S P 0 (chh (S.2 46) i f0) (i + S.2 46 i)) + 15) [.ref (ap P), .ref (ad i), .int (iI ((f0 : Int))), .ref fl] h n (FAQ G S ad fl xs q0 (spFss S P 0 (chh (S.2 46) i f0) (i + S.2 46 i)) h n) := by
  refine gC_ofI RX5 (by decide +kernel) rfl (Nat.le_of_ble_eq_true rfl) ?_
  intro p e s m args below meth c Q X hW ret H locs ls hG hS hl
  have hl : lv_has ls 7 [(0, .ref (ap P)), (1, .ref (ad i)), (2, .int (iI ((f0 : Int)))), (3, .ref fl)] := hl
  have hT := hV.1.1
  have hp := hT.p h0i hn0
  have hnn := hV.1.n
  have hlen : ((chs (rwS S) ad i).length : Int) = S.2 47 i := by rw [chs_len]; show ((S.2 47 i).toNat : Int) = _; omega
  have hcn := (hP P hPb.1 hPb.2).2.2.1
  have hpln : ((pcs (pwS S) ap P).length : Int) = S.2 38 P := by rw [pcs_len]; show ((S.2 38 P).toNat : Int) = _; omega
  have hrr := hT.r h0i hn0
  have hqA := hA.q
  refine lv_iload_n X.1 X.2.1 dX5_fits_0 rfl (lv_at hl 2 rfl) ?_
  refine lv_istore (lv' := [(4, .int (iI ((f0 : Int)))), (0, .ref (ap P)), (1, .ref (ad i)), (2, .int (iI ((f0 : Int)))), (3, .ref fl)]) X.1 X.2.1 dX5_fits_1 hl (by decide) rfl (fun ls hl => ?_)
  refine lv_iconst (v := iI (0)) X.1 X.2.1 dX5_fits_3 rfl ?_
  refine lv_istore (lv' := [(5, .int (iI (0))), (4, .int (iI ((f0 : Int)))), (0, .ref (ap P)), (1, .ref (ad i)), (2, .int (iI ((f0 : Int)))), (3, .ref fl)]) X.1 X.2.1 dX5_fits_4 hl (by decide) rfl (fun ls hl => ?_)
  have L6 : ∀ (N6 : Nat) (g1 : gH) (n1 at0 k cz sz e9 : Nat) (ys : List Nat) (tz : List (Int × Int × Int)), ((at0 : Int) ≤ S.2 47 i) → ((k : Int) ≤ S.2 38 P) → (f0 ≤ at0) → (spXs S P k (chh (S.2 46) i at0) (i + S.2 46 i) = true) → (tz ++ spFss S P k (chh (S.2 46) i at0) (i + S.2 46 i) = (spFss S P 0 (chh (S.2 46) i f0) (i + S.2 46 i))) → (gSub h0 g1) → (AL G g1 fl (xs ++ ys) (max q0 (xs.length + ys.length))) → (FL G g1 S ad fl ys tz) → (gExt fl h g1) → (gCls h g1) → (n ≤ n1) → (e9 = 0 ∨ (e9 = 1 ∧ (k : Int) = S.2 38 P)) → (cz ≤ fMc q0 xs.length (chh (S.2 46) i at0 - chh (S.2 46) i f0) tz + 3 * e9 ∧ sz ≤ fMs q0 xs.length (chh (S.2 46) i at0 - chh (S.2 46) i f0) tz + 15 * e9) → (S.2 38 P).toNat - k < N6 → ∀ (H : Heap) (locs : List Loc) (ls : Array Slot), gOn G.1 A g1 n1 H → va_S A s.heap H locs → lv_has ls 7 [(0, .ref (ap P)), (1, .ref (ad i)), (3, .ref fl), (4, .int (iI ((at0 : Int)))), (5, .int (iI ((k : Int))))] → W p l e (gR lv (fMc q0 xs.length (i + S.2 46 i - chh (S.2 46) i f0) (spFss S P 0 (chh (S.2 46) i f0) (i + S.2 46 i)) + 3) (fMs q0 xs.length (i + S.2 46 i - chh (S.2 46) i f0) (spFss S P 0 (chh (S.2 46) i f0) (i + S.2 46 i)) + 15)) s m args below meth c H locs cz sz Q (F0 m 6 ls []) := by
    intro N6
    induction N6 with
    | zero => intro g1 n1 at0 k cz sz e9 ys tz hat hkc hf0k hx hts hs1 hA1 hFL hx1 hc1 hn1 he9 hcz hN; exact absurd hN (Nat.not_lt_zero _)
    | succ N6 ih6 =>
      intro g1 n1 at0 k cz sz e9 ys tz hat hkc hf0k hx hts hs1 hA1 hFL hx1 hc1 hn1 he9 hcz hN6 H locs ls hG hS hl
      have hV1 := hV.sub hs1
      have hC1 := hC.sub hs1
      obtain ⟨⟨pl, -, hI⟩, hAp⟩ := hC1.1 P hPb.1 hPb.2
      have hAP := hAp hk2
      rw [paE2 (P := pwS S) hk2] at hI
      have hAP : AL G g1 (ap P + 1) (pcs (pwS S) ap P) (S.2 38 P).toNat := hAP
      obtain ⟨tgP, moP, dP, hLP, hPr⟩ := id hAP
      obtain ⟨hIi, hAi⟩ := hV1.lst h0i hn0 hw
      obtain ⟨tgA, moA, dA, hLA, hAr⟩ := id hAi
      obtain ⟨tgF, moF, dF, hLF, hFr⟩ := id hA1
      have hch := hT.ch h0i hn0 hw at0 hat
      have hmon := hT.ch_le h0i hn0 hw f0 at0 hf0k hat
      have hcb : cz ≤ fMc q0 xs.length (i + S.2 46 i - chh (S.2 46) i f0) (spFss S P 0 (chh (S.2 46) i f0) (i + S.2 46 i)) + 3 ∧ sz ≤ fMs q0 xs.length (i + S.2 46 i - chh (S.2 46) i f0) (spFss S P 0 (chh (S.2 46) i f0) (i + S.2 46 i)) + 15 := by
        have z1 := congrArg List.length hts
        rw [List.length_append] at z1
        have z2 := fMc_mono (q0 := q0) (a := xs.length) (r1 := chh (S.2 46) i at0 - chh (S.2 46) i f0) (r2 := i + S.2 46 i - chh (S.2 46) i f0) (t1 := tz) (t2 := (spFss S P 0 (chh (S.2 46) i f0) (i + S.2 46 i))) (by omega) (by omega)
        omega
      refine lv_iload X.1 X.2.1 dX5_fits_6 (lv_at hl 4 rfl) ?_
      refine lv_aload_n X.1 X.2.1 dX5_fits_8 rfl (lv_at hl 0 rfl) ?_
      refine n_get (ci := 4) X in_X5 hW hG hI rfl 1 (by decide) q424 (fun _ h => h) rfl dX5_fits_9 ?_
      refine g_callV (ci := 17) (rest := [.int (iI ((k : Int)))]) (k := 0) X hW hG hS hLP rfl (al_size l G A (lv - 1) g1 n1 (ap P + 1) (pcs (pwS S) ap P) (S.2 38 P).toNat hAP) (lw_V q738 q323 q324 q69 q325) (by decide +kernel) rfl ⟨by show (lv - 1) + 1 ≤ lv; omega, by show 8 + (1 + 11) + 40 * (lv - 1) ≤ 40 * lv; omega⟩ ⟨by show cz + 0 ≤ fMc q0 xs.length (i + S.2 46 i - chh (S.2 46) i f0) (spFss S P 0 (chh (S.2 46) i f0) (i + S.2 46 i)) + 3; first | exact hcb.1 | exact hcb.2 | omega | exact bI_iR _, by show sz + 0 ≤ fMs q0 xs.length (i + S.2 46 i - chh (S.2 46) i f0) (spFss S P 0 (chh (S.2 46) i f0) (i + S.2 46 i)) + 15; first | exact hcb.1 | exact hcb.2 | omega | exact bI_iR _⟩ hl.1 rfl (Nat.le_of_ble_eq_true rfl) dX5_fits_12 (g_pk (fun H locs hG hS => ?_))
      show W p l e (gR lv (fMc q0 xs.length (i + S.2 46 i - chh (S.2 46) i f0) (spFss S P 0 (chh (S.2 46) i f0) (i + S.2 46 i)) + 3) (fMs q0 xs.length (i + S.2 46 i - chh (S.2 46) i f0) (spFss S P 0 (chh (S.2 46) i f0) (i + S.2 46 i)) + 15)) s m args below meth c H locs cz sz Q (F0 m 15 ls [.int (iI (((pcs (pwS S) ap P).length : Int))), .int (iI ((k : Int)))])
      refine i_icmp_ge X 127 dX5_fits_15 (by decide) (by first | exact hcb.1 | exact hcb.2 | omega | exact bI_iR _) (by first | exact hcb.1 | exact hcb.2 | omega | exact bI_iR _) (fun c15 => ?_) (fun c15 => ?_)
      · refine lv_iload X.1 X.2.1 dX5_fits_127 (lv_at hl 3 rfl) ?_
        refine lv_aload_n X.1 X.2.1 dX5_fits_129 rfl (lv_at hl 1 rfl) ?_
        refine n_getN (ci := 10) X in_X12 hW hG hIi rfl 4 (by decide) q594 (fun _ h => h) rfl dX5_fits_130 ?_
        refine g_callV (ci := 17) (rest := [.int (iI ((at0 : Int)))]) (k := 0) X hW hG hS hLA rfl (al_size l G A (lv - 1) g1 n1 (ad i + 1) (chs (rwS S) ad i) (S.2 47 i).toNat hAi) (lw_V q738 q323 q324 q69 q325) (by decide +kernel) rfl ⟨by show (lv - 1) + 1 ≤ lv; omega, by show 8 + (1 + 11) + 40 * (lv - 1) ≤ 40 * lv; omega⟩ ⟨by show cz + 0 ≤ fMc q0 xs.length (i + S.2 46 i - chh (S.2 46) i f0) (spFss S P 0 (chh (S.2 46) i f0) (i + S.2 46 i)) + 3; first | exact hcb.1 | exact hcb.2 | omega | exact bI_iR _, by show sz + 0 ≤ fMs q0 xs.length (i + S.2 46 i - chh (S.2 46) i f0) (spFss S P 0 (chh (S.2 46) i f0) (i + S.2 46 i)) + 15; first | exact hcb.1 | exact hcb.2 | omega | exact bI_iR _⟩ hl.1 rfl (Nat.le_of_ble_eq_true rfl) dX5_fits_133 (g_pk (fun H locs hG hS => ?_))
        show W p l e (gR lv (fMc q0 xs.length (i + S.2 46 i - chh (S.2 46) i f0) (spFss S P 0 (chh (S.2 46) i f0) (i + S.2 46 i)) + 3) (fMs q0 xs.length (i + S.2 46 i - chh (S.2 46) i f0) (spFss S P 0 (chh (S.2 46) i f0) (i + S.2 46 i)) + 15)) s m args below meth c H locs cz sz Q (F0 m 136 ls [.int (iI (((chs (rwS S) ad i).length : Int))), .int (iI ((at0 : Int)))])
        refine i_icmp_ne X 143 dX5_fits_136 (by decide) (by first | exact hcb.1 | exact hcb.2 | omega | exact bI_iR _) (by first | exact hcb.1 | exact hcb.2 | omega | exact bI_iR _) (fun c136 => ?_) (fun c136 => ?_)
        · refine lv_iconst (v := iI (0)) X.1 X.2.1 dX5_fits_143 rfl ?_
          refine ret _ _ _ _ _ _ _ _ _ ?_ (nar_b (by first | exact hcb.1 | exact hcb.2 | omega | exact bI_iR _)) (by show cz ≤ fMc q0 xs.length (i + S.2 46 i - chh (S.2 46) i f0) (spFss S P 0 (chh (S.2 46) i f0) (i + S.2 46 i)) + 3; first | exact hcb.1 | exact hcb.2 | omega | exact bI_iR _) (by show sz ≤ fMs q0 xs.length (i + S.2 46 i - chh (S.2 46) i f0) (spFss S P 0 (chh (S.2 46) i f0) (i + S.2 46 i)) + 15; first | exact hcb.1 | exact hcb.2 | omega | exact bI_iR _) hG hS dX5_fits_144
          rw [spXs_end hP hPb.1 hPb.2 hk2 (by omega)] at hx
          have hx := of_decide_eq_true hx
          exact absurd ((hT.lst h0i hn0 hw).2 at0 (by omega)) (by omega)
        · refine lv_iconst (v := iI (1)) X.1 X.2.1 dX5_fits_139 rfl ?_
          refine lv_goto (tgt := 144) X.1 X.2.1 dX5_fits_140 (by decide) ?_
          refine ret _ _ _ _ _ _ _ _ _ ?_ (nar_b (by first | exact hcb.1 | exact hcb.2 | omega | exact bI_iR _)) (by show cz ≤ fMc q0 xs.length (i + S.2 46 i - chh (S.2 46) i f0) (spFss S P 0 (chh (S.2 46) i f0) (i + S.2 46 i)) + 3; first | exact hcb.1 | exact hcb.2 | omega | exact bI_iR _) (by show sz ≤ fMs q0 xs.length (i + S.2 46 i - chh (S.2 46) i f0) (spFss S P 0 (chh (S.2 46) i f0) (i + S.2 46 i)) + 15; first | exact hcb.1 | exact hcb.2 | omega | exact bI_iR _) hG hS dX5_fits_144
          have hz8 : ys.length = tz.length := hFL.1
          rw [spFss_end hP hPb.1 hPb.2 hk2 (by omega), List.append_nil] at hts
          rw [hts] at hFL
          exact ⟨rfl, ⟨ys, hA1, hFL⟩, hx1, hc1, hn1⟩
      · have kd := PN.kid hP hPb.1 hPb.2 hk2 (j := k) (by omega)
        have hpk := hP (chh (S.2 37) P k) (by omega) (by omega)
        obtain ⟨⟨plk, -, hIk⟩, -⟩ := hC1.1 (chh (S.2 37) P k) (by omega) (by omega)
        refine lv_aload_n X.1 X.2.1 dX5_fits_18 rfl (lv_at hl 0 rfl) ?_
        refine n_get (ci := 4) X in_X5 hW hG hI rfl 1 (by decide) q424 (fun _ h => h) rfl dX5_fits_19 ?_
        refine lv_iload X.1 X.2.1 dX5_fits_22 (lv_at hl 4 rfl) ?_
        refine g_callV (ci := 17) (rest := []) (k := 1) X hW hG hS hLP rfl (al_get l G A (lv - 1) g1 n1 (ap P + 1) (pcs (pwS S) ap P) (S.2 38 P).toNat (k : Int) (ap (chh (S.2 37) P k)) (by omega) hAP (by omega) (by rw [Int.toNat_natCast]; exact pcs_get (pwS S) ap P (by show (k : Int) < S.2 38 P; omega))) (lw_V q739 q691 q692 q69 q693) (by decide +kernel) rfl ⟨by show (lv - 1) + 1 ≤ lv; omega, by show 8 + (2 + 11) + 40 * (lv - 1) ≤ 40 * lv; omega⟩ ⟨by show cz + 0 ≤ fMc q0 xs.length (i + S.2 46 i - chh (S.2 46) i f0) (spFss S P 0 (chh (S.2 46) i f0) (i + S.2 46 i)) + 3; first | exact hcb.1 | exact hcb.2 | omega | exact bI_iR _, by show sz + 0 ≤ fMs q0 xs.length (i + S.2 46 i - chh (S.2 46) i f0) (spFss S P 0 (chh (S.2 46) i f0) (i + S.2 46 i)) + 15; first | exact hcb.1 | exact hcb.2 | omega | exact bI_iR _⟩ hl.1 rfl (Nat.le_of_ble_eq_true rfl) dX5_fits_24 (g_pk (fun H locs hG hS => ?_))
        show W p l e (gR lv (fMc q0 xs.length (i + S.2 46 i - chh (S.2 46) i f0) (spFss S P 0 (chh (S.2 46) i f0) (i + S.2 46 i)) + 3) (fMs q0 xs.length (i + S.2 46 i - chh (S.2 46) i f0) (spFss S P 0 (chh (S.2 46) i f0) (i + S.2 46 i)) + 15)) s m args below meth c H locs cz sz Q (F0 m 27 ls [.ref (ap (chh (S.2 37) P k))])
        refine pa_cast X hW hG hIk q740 dX5_fits_27 ?_
        have K83 : (S.2 34 (chh (S.2 37) P k) ≠ 7) → ∀ (H : Heap) (locs : List Loc) (ls : Array Slot), gOn G.1 A g1 n1 H → va_S A s.heap H locs → lv_has ls 7 [(0, .ref (ap P)), (1, .ref (ad i)), (3, .ref fl), (4, .int (iI ((at0 : Int)))), (5, .int (iI ((k : Int)))), (6, .ref (ap (chh (S.2 37) P k)))] → W p l e (gR lv (fMc q0 xs.length (i + S.2 46 i - chh (S.2 46) i f0) (spFss S P 0 (chh (S.2 46) i f0) (i + S.2 46 i)) + 3) (fMs q0 xs.length (i + S.2 46 i - chh (S.2 46) i f0) (spFss S P 0 (chh (S.2 46) i f0) (i + S.2 46 i)) + 15)) s m args below meth c H locs cz sz Q (F0 m 83 ls []) := by
          intro  hk7 H locs ls hG hS hl
          have hone := spXs_one hP hPb.1 hPb.2 hk2 (j := k) (by omega) hk7 (chh (S.2 46) i at0) (i + S.2 46 i)
          rw [hx] at hone
          have hfone := spFss_one hP hPb.1 hPb.2 hk2 (j := k) (by omega) hk7 (chh (S.2 46) i at0) (i + S.2 46 i)
          have hone := hone.symm
          simp only [Bool.and_eq_true, decide_eq_true_eq] at hone
          obtain ⟨⟨⟨ho1, ho2⟩, ho3⟩, ho4⟩ := hone
          refine lv_iload X.1 X.2.1 dX5_fits_83 (lv_at hl 3 rfl) ?_
          refine lv_aload_n X.1 X.2.1 dX5_fits_85 rfl (lv_at hl 1 rfl) ?_
          refine n_getN (ci := 10) X in_X12 hW hG hIi rfl 4 (by decide) q594 (fun _ h => h) rfl dX5_fits_86 ?_
          refine g_callV (ci := 17) (rest := [.int (iI ((at0 : Int)))]) (k := 0) X hW hG hS hLA rfl (al_size l G A (lv - 1) g1 n1 (ad i + 1) (chs (rwS S) ad i) (S.2 47 i).toNat hAi) (lw_V q738 q323 q324 q69 q325) (by decide +kernel) rfl ⟨by show (lv - 1) + 1 ≤ lv; omega, by show 8 + (1 + 11) + 40 * (lv - 1) ≤ 40 * lv; omega⟩ ⟨by show cz + 0 ≤ fMc q0 xs.length (i + S.2 46 i - chh (S.2 46) i f0) (spFss S P 0 (chh (S.2 46) i f0) (i + S.2 46 i)) + 3; first | exact hcb.1 | exact hcb.2 | omega | exact bI_iR _, by show sz + 0 ≤ fMs q0 xs.length (i + S.2 46 i - chh (S.2 46) i f0) (spFss S P 0 (chh (S.2 46) i f0) (i + S.2 46 i)) + 15; first | exact hcb.1 | exact hcb.2 | omega | exact bI_iR _⟩ hl.1 rfl (Nat.le_of_ble_eq_true rfl) dX5_fits_89 (g_pk (fun H locs hG hS => ?_))
          show W p l e (gR lv (fMc q0 xs.length (i + S.2 46 i - chh (S.2 46) i f0) (spFss S P 0 (chh (S.2 46) i f0) (i + S.2 46 i)) + 3) (fMs q0 xs.length (i + S.2 46 i - chh (S.2 46) i f0) (spFss S P 0 (chh (S.2 46) i f0) (i + S.2 46 i)) + 15)) s m args below meth c H locs cz sz Q (F0 m 92 ls [.int (iI (((chs (rwS S) ad i).length : Int))), .int (iI ((at0 : Int)))])
          refine i_icmp_eq X 116 dX5_fits_92 (by decide) (by first | exact hcb.1 | exact hcb.2 | omega | exact bI_iR _) (by first | exact hcb.1 | exact hcb.2 | omega | exact bI_iR _) (fun c92 => ?_) (fun c92 => ?_)
          · refine lv_iconst (v := iI (0)) X.1 X.2.1 dX5_fits_116 rfl ?_
            refine ret _ _ _ _ _ _ _ _ _ ?_ (nar_b (by first | exact hcb.1 | exact hcb.2 | omega | exact bI_iR _)) (by show cz ≤ fMc q0 xs.length (i + S.2 46 i - chh (S.2 46) i f0) (spFss S P 0 (chh (S.2 46) i f0) (i + S.2 46 i)) + 3; first | exact hcb.1 | exact hcb.2 | omega | exact bI_iR _) (by show sz ≤ fMs q0 xs.length (i + S.2 46 i - chh (S.2 46) i f0) (spFss S P 0 (chh (S.2 46) i f0) (i + S.2 46 i)) + 15; first | exact hcb.1 | exact hcb.2 | omega | exact bI_iR _) hG hS dX5_fits_117
            exact absurd ho1 (by rw [show at0 = (S.2 47 i).toNat by omega, (hT.lst h0i hn0 hw).1]; omega)
          · have hkt := hT.kid h0i hn0 hw (j := at0) (by omega)
            have hIt := hV1.it (i := chh (S.2 46) i at0) (by omega) (by omega)
            have hlt0 := (hT.lst h0i hn0 hw).2 at0 (by omega)
            have hnx : (spN S (chh (S.2 37) P k) (chh (S.2 46) i at0) && (if S.2 34 (chh (S.2 37) P k) = 2 then spXs S (chh (S.2 37) P k) 0 (chh (S.2 46) i at0 + 1) (chh (S.2 46) i at0 + S.2 46 (chh (S.2 46) i at0)) else true)) = true := by rw [ho2, Bool.true_and]; exact ho3
            have hTS := hts
            rw [hfone] at hTS
            have hz9 := congrArg List.length hTS
            rw [List.length_append, List.length_append] at hz9
            have hz8 : ys.length = tz.length := hFL.1
            have hroom : (max q0 (xs.length + ys.length)) + (spF1 S (chh (S.2 37) P k) (chh (S.2 46) i at0)).length < 2000 := by omega
            have hfa := fMc_add (q0 := q0) (a := xs.length) (r1 := chh (S.2 46) i at0 - chh (S.2 46) i f0) (r2 := S.2 46 (chh (S.2 46) i at0)) (t1 := tz) (t2 := spF1 S (chh (S.2 37) P k) (chh (S.2 46) i at0)) (by omega) (by omega)
            have hfm := fMc_mono (q0 := q0) (a := xs.length) (r1 := chh (S.2 46) i at0 - chh (S.2 46) i f0 + S.2 46 (chh (S.2 46) i at0)) (r2 := i + S.2 46 i - chh (S.2 46) i f0) (t1 := tz ++ spF1 S (chh (S.2 37) P k) (chh (S.2 46) i at0)) (t2 := (spFss S P 0 (chh (S.2 46) i f0) (i + S.2 46 i))) (by omega) (by rw [List.length_append]; omega)
            have hbc : cz + fMc (max q0 (xs.length + ys.length)) (xs ++ ys).length (S.2 46 (chh (S.2 46) i at0)) (spF1 S (chh (S.2 37) P k) (chh (S.2 46) i at0)) ≤ fMc q0 xs.length (i + S.2 46 i - chh (S.2 46) i f0) (spFss S P 0 (chh (S.2 46) i f0) (i + S.2 46 i)) + 3 := by rw [List.length_append, hz8]; omega
            have hbs : sz + fMs (max q0 (xs.length + ys.length)) (xs ++ ys).length (S.2 46 (chh (S.2 46) i at0)) (spF1 S (chh (S.2 37) P k) (chh (S.2 46) i at0)) ≤ fMs q0 xs.length (i + S.2 46 i - chh (S.2 46) i f0) (spFss S P 0 (chh (S.2 46) i f0) (i + S.2 46 i)) + 15 := by rw [List.length_append, hz8]; omega
            refine lv_aload X.1 X.2.1 dX5_fits_95 (lv_at hl 5 rfl) ?_
            refine lv_aload_n X.1 X.2.1 dX5_fits_97 rfl (lv_at hl 1 rfl) ?_
            refine n_getN (ci := 10) X in_X12 hW hG hIi rfl 4 (by decide) q594 (fun _ h => h) rfl dX5_fits_98 ?_
            refine lv_iload X.1 X.2.1 dX5_fits_101 (lv_at hl 3 rfl) ?_
            refine g_callV (ci := 17) (rest := [.ref (ap (chh (S.2 37) P k))]) (k := 1) X hW hG hS hLA rfl (al_get l G A (lv - 1) g1 n1 (ad i + 1) (chs (rwS S) ad i) (S.2 47 i).toNat (at0 : Int) (ad (chh (S.2 46) i at0)) (by omega) hAi (by omega) (by rw [Int.toNat_natCast]; exact hV1.part (by omega))) (lw_V q739 q691 q692 q69 q693) (by decide +kernel) rfl ⟨by show (lv - 1) + 1 ≤ lv; omega, by show 8 + (2 + 11) + 40 * (lv - 1) ≤ 40 * lv; omega⟩ ⟨by show cz + 0 ≤ fMc q0 xs.length (i + S.2 46 i - chh (S.2 46) i f0) (spFss S P 0 (chh (S.2 46) i f0) (i + S.2 46 i)) + 3; first | exact hcb.1 | exact hcb.2 | omega | exact bI_iR _, by show sz + 0 ≤ fMs q0 xs.length (i + S.2 46 i - chh (S.2 46) i f0) (spFss S P 0 (chh (S.2 46) i f0) (i + S.2 46 i)) + 15; first | exact hcb.1 | exact hcb.2 | omega | exact bI_iR _⟩ hl.1 rfl (Nat.le_of_ble_eq_true rfl) dX5_fits_103 (g_pk (fun H locs hG hS => ?_))
            show W p l e (gR lv (fMc q0 xs.length (i + S.2 46 i - chh (S.2 46) i f0) (spFss S P 0 (chh (S.2 46) i f0) (i + S.2 46 i)) + 3) (fMs q0 xs.length (i + S.2 46 i - chh (S.2 46) i f0) (spFss S P 0 (chh (S.2 46) i f0) (i + S.2 46 i)) + 15)) s m args below meth c H locs cz sz Q (F0 m 106 ls [.ref (ad (chh (S.2 46) i at0)), .ref (ap (chh (S.2 37) P k))])
            refine it_cast X hW hG hIt.1 q924 dX5_fits_106 ?_
            refine lv_aload_n X.1 X.2.1 dX5_fits_109 rfl (lv_at hl 2 rfl) ?_
            refine g_callX (rest := []) (k := 2) X hW hG hS (ih k (by omega) hk7 (chh (S.2 46) i at0) ⟨by omega, by omega⟩ hnx g1 n1 (xs ++ ys) (max q0 (xs.length + ys.length)) hs1 hA1 hroom) q926 q928 (gDecl_abs hW q927) (by decide +kernel) rfl ⟨by show (lv - 1) + 1 ≤ lv; omega, by show 40 + 40 * (lv - 1) ≤ 40 * lv; omega⟩ ⟨by show cz + (fMc (max q0 (xs.length + ys.length)) (xs ++ ys).length (S.2 46 (chh (S.2 46) i at0)) (spF1 S (chh (S.2 37) P k) (chh (S.2 46) i at0))) ≤ fMc q0 xs.length (i + S.2 46 i - chh (S.2 46) i f0) (spFss S P 0 (chh (S.2 46) i f0) (i + S.2 46 i)) + 3; first | exact hbc | exact hbs, by show sz + (fMs (max q0 (xs.length + ys.length)) (xs ++ ys).length (S.2 46 (chh (S.2 46) i at0)) (spF1 S (chh (S.2 37) P k) (chh (S.2 46) i at0))) ≤ fMs q0 xs.length (i + S.2 46 i - chh (S.2 46) i f0) (spFss S P 0 (chh (S.2 46) i f0) (i + S.2 46 i)) + 15; first | exact hbc | exact hbs⟩ hl.1 rfl (Nat.le_of_ble_eq_true rfl) dX5_fits_110 (fun v1 h1 n1 H locs hp1 hG hS => ?_)
            obtain ⟨rfl, ⟨ys2, hA5, hFL5⟩, hx5, hc5, hn5⟩ := hp1
            have hFL6 := (hFL.ext hA1 hx5 hc5).app hFL5
            have hl5 := hFL5.1
            have hA6 : AL G h1 fl (xs ++ (ys ++ ys2)) (max q0 (xs.length + (ys ++ ys2).length)) := by
              rw [← List.append_assoc]
              rw [show max q0 (xs.length + (ys ++ ys2).length) = max (max q0 (xs.length + ys.length)) ((xs ++ ys).length + ys2.length) by rw [List.length_append, List.length_append]; omega]
              exact hA5
            have hs5 := hs1.low hlt hx5
            show W p l e (gR lv (fMc q0 xs.length (i + S.2 46 i - chh (S.2 46) i f0) (spFss S P 0 (chh (S.2 46) i f0) (i + S.2 46 i)) + 3) (fMs q0 xs.length (i + S.2 46 i - chh (S.2 46) i f0) (spFss S P 0 (chh (S.2 46) i f0) (i + S.2 46 i)) + 15)) s m args below meth c H locs (cz + (fMc (max q0 (xs.length + ys.length)) (xs ++ ys).length (S.2 46 (chh (S.2 46) i at0)) (spF1 S (chh (S.2 37) P k) (chh (S.2 46) i at0)))) (sz + (fMs (max q0 (xs.length + ys.length)) (xs ++ ys).length (S.2 46 (chh (S.2 46) i at0)) (spF1 S (chh (S.2 37) P k) (chh (S.2 46) i at0)))) Q (F0 m 113 ls [.int (iI (1))])
            refine i_if_ne X 118 dX5_fits_113 (by decide) (by decide) (fun _ => ?_) (fun c113 => absurd c113 (by decide))
            refine i_inc (lv' := [(4, .int (iI ((at0 : Int) + 1))), (0, .ref (ap P)), (1, .ref (ad i)), (3, .ref fl), (5, .int (iI ((k : Int)))), (6, .ref (ap (chh (S.2 37) P k)))]) X dX5_fits_118 hl (k := 3) rfl (by decide) rfl (fun ls hl => ?_)
            refine i_inc (lv' := [(5, .int (iI ((k : Int) + 1))), (4, .int (iI ((at0 : Int) + 1))), (0, .ref (ap P)), (1, .ref (ad i)), (3, .ref fl), (6, .ref (ap (chh (S.2 37) P k)))]) X dX5_fits_121 hl (k := 4) rfl (by decide) rfl (fun ls hl => ?_)
            refine lv_goto (tgt := 6) X.1 X.2.1 dX5_fits_124 (by decide) ?_
            exact ih6 h1 n1 (at0 + 1) (k + 1) (cz + (fMc (max q0 (xs.length + ys.length)) (xs ++ ys).length (S.2 46 (chh (S.2 46) i at0)) (spF1 S (chh (S.2 37) P k) (chh (S.2 46) i at0)))) (sz + (fMs (max q0 (xs.length + ys.length)) (xs ++ ys).length (S.2 46 (chh (S.2 46) i at0)) (spF1 S (chh (S.2 37) P k) (chh (S.2 46) i at0)))) 0 (ys ++ ys2) (tz ++ spF1 S (chh (S.2 37) P k) (chh (S.2 46) i at0)) (by omega) (by omega) (by omega) ho4 (by rw [List.append_assoc]; exact hTS) hs5 hA6 hFL6 (hx1.trans hx5) (hc1.trans hc5) (by omega) (Or.inl rfl) (by rw [List.length_append, hz8]; constructor <;> (rw [show chh (S.2 46) i (at0 + 1) - chh (S.2 46) i f0 = chh (S.2 46) i at0 - chh (S.2 46) i f0 + S.2 46 (chh (S.2 46) i at0) from by show chh (S.2 46) i at0 + S.2 46 (chh (S.2 46) i at0) - _ = _; omega]; omega)) (by omega) H locs ls hG hS (lv_sub hl [2, 3, 4, 1, 0] rfl)
        refine lv_astore (lv' := [(6, .ref (ap (chh (S.2 37) P k))), (0, .ref (ap P)), (1, .ref (ad i)), (3, .ref fl), (4, .int (iI ((at0 : Int)))), (5, .int (iI ((k : Int))))]) X.1 X.2.1 dX5_fits_30 hl (by decide) rfl (fun ls hl => ?_)
        refine lv_aload X.1 X.2.1 dX5_fits_32 (lv_at hl 0 rfl) ?_
        rcases hpk.1 with kk | kk | kk | kk | kk
        · have hJ := hIk
          rw [paE0 (P := pwS S) kk] at hJ
          have hJ : g1 (ap (chh (S.2 37) P k)) = some ((3, 0), .inr (5, [.int (iI (plk)), .int (iI (S.2 35 (chh (S.2 37) P k)))])) := hJ
          refine n_instNo (ci := 5) X hW hG hJ rfl q902 (by decide) dX5_fits_34 ?_
          refine i_if_eq X 83 dX5_fits_37 (by decide) (by decide) (fun _ => ?_) (fun c37 => absurd c37 (by decide))
          exact K83  (by omega) H locs ls hG hS (lv_sub hl [1, 2, 3, 4, 5, 0] rfl)
        · have hJ := hIk
          rw [paE2 (P := pwS S) kk] at hJ
          have hJ : g1 (ap (chh (S.2 37) P k)) = some ((3, 0), .inr (4, [.int (iI (plk)), .ref (ap (chh (S.2 37) P k) + 1)])) := hJ
          refine n_instNo (ci := 4) X hW hG hJ rfl q902 (by decide) dX5_fits_34 ?_
          refine i_if_eq X 83 dX5_fits_37 (by decide) (by decide) (fun _ => ?_) (fun c37 => absurd c37 (by decide))
          exact K83  (by omega) H locs ls hG hS (lv_sub hl [1, 2, 3, 4, 5, 0] rfl)
        · have hJ := hIk
          rw [paE6 (P := pwS S) kk] at hJ
          have hJ : g1 (ap (chh (S.2 37) P k)) = some ((3, 0), .inr (6, [.int (iI (plk)), .long (lI (gLt (S.2 35 (chh (S.2 37) P k)))), .int (iI (0))])) := hJ
          refine n_instY (ci := 6) X hW hG hJ rfl q902 (Or.inr rfl) dX5_fits_34 ?_
          refine i_if_eq X 83 dX5_fits_37 (by decide) (by decide) (fun c37 => absurd c37 (by decide)) (fun _ => ?_)
          refine lv_aload X.1 X.2.1 dX5_fits_40 (lv_at hl 0 rfl) ?_
          refine n_cast (ci := 6) X hW hG hJ rfl q902 (Or.inr rfl) dX5_fits_42 ?_
          refine n_get (ci := 6) X in_X7 hW hG hJ rfl 2 (by decide) q527 (fun _ h => h) rfl dX5_fits_45 ?_
          refine i_if_eq X 83 dX5_fits_48 (by decide) (by decide) (fun _ => ?_) (fun c48 => absurd c48 (by decide))
          exact K83  (by omega) H locs ls hG hS (lv_sub hl [1, 2, 3, 4, 5, 0] rfl)
        · have hJ := hIk
          rw [paE7 (P := pwS S) kk] at hJ
          have hJ : g1 (ap (chh (S.2 37) P k)) = some ((3, 0), .inr (6, [.int (iI (plk)), .long (lI (gLt (S.2 35 (chh (S.2 37) P k)))), .int (iI (1))])) := hJ
          refine n_instY (ci := 6) X hW hG hJ rfl q902 (Or.inr rfl) dX5_fits_34 ?_
          refine i_if_eq X 83 dX5_fits_37 (by decide) (by decide) (fun c37 => absurd c37 (by decide)) (fun _ => ?_)
          refine lv_aload X.1 X.2.1 dX5_fits_40 (lv_at hl 0 rfl) ?_
          refine n_cast (ci := 6) X hW hG hJ rfl q902 (Or.inr rfl) dX5_fits_42 ?_
          refine n_get (ci := 6) X in_X7 hW hG hJ rfl 2 (by decide) q527 (fun _ h => h) rfl dX5_fits_45 ?_
          refine i_if_eq X 83 dX5_fits_48 (by decide) (by decide) (fun c48 => absurd c48 (by decide)) (fun _ => ?_)
          have hr7 := spFss_rest hP hPb.1 hPb.2 hk2 (j := k) (by omega) kk (chh (S.2 46) i at0) (i + S.2 46 i)
          have hend := ((hP P hPb.1 hPb.2).2.2.2.2.1 hk2).2 k (by omega)
          have hTS := hts
          rw [hr7] at hTS
          have hz9 := congrArg List.length hTS
          rw [List.length_append] at hz9
          have hz9 : tz.length + 1 = (spFss S P 0 (chh (S.2 46) i f0) (i + S.2 46 i)).length := hz9
          have hz8 : ys.length = tz.length := hFL.1
          have hgr := hT.grow h0i hn0 hw at0 hat
          have hrc := rest_cost (q0 := q0) (xs := xs) (x := (chh (S.2 37) P k, chh (S.2 46) i at0, i + S.2 46 i)) (r2 := i + S.2 46 i - chh (S.2 46) i f0) hFL.1 (show cz ≤ fMc q0 xs.length (chh (S.2 46) i at0 - chh (S.2 46) i f0) tz by omega) (show sz ≤ fMs q0 xs.length (chh (S.2 46) i at0 - chh (S.2 46) i f0) tz by omega) (m := (S.2 47 i - (at0 : Int)).toNat) (by omega) (by omega) (by omega)
          rw [hTS] at hrc
          refine lv_aload_n X.1 X.2.1 dX5_fits_51 rfl (lv_at hl 3 rfl) ?_
          refine lv_ifnull X.1 X.2.1 dX5_fits_52 ?_
          refine lv_aload_n X.1 X.2.1 dX5_fits_55 rfl (lv_at hl 3 rfl) ?_
          refine lv_aload X.1 X.2.1 dX5_fits_56 (lv_at hl 0 rfl) ?_
          refine n_cast (ci := 6) X hW hG hJ rfl q902 (Or.inr rfl) dX5_fits_58 ?_
          refine lv_aload_n X.1 X.2.1 dX5_fits_61 rfl (lv_at hl 2 rfl) ?_
          refine lv_iload X.1 X.2.1 dX5_fits_62 (lv_at hl 4 rfl) ?_
          refine g_callS (rest := [.ref fl]) (k := 3) X hW hG hS (gp_rest l G A (lv - 1) g1 n1 S ad ap b E (chh (S.2 37) P k) i at0 fl (by omega) hV1 hC1 ⟨by omega, by omega⟩ kk h0i hn0 hw hat (hG.lt hLF)) (lw_S q903 q904 q81 q905) (by decide +kernel) rfl ⟨by show (lv - 1) + 1 ≤ lv; omega, by show 8 + (5 + 11) + 40 * (lv - 1) ≤ 40 * lv; omega⟩ ⟨by show cz + (2 + alK (S.2 47 i - (at0 : Int)).toNat) ≤ fMc q0 xs.length (i + S.2 46 i - chh (S.2 46) i f0) (spFss S P 0 (chh (S.2 46) i f0) (i + S.2 46 i)) + 3; have := hrc; omega, by show sz + (5 + alS (S.2 47 i - (at0 : Int)).toNat) ≤ fMs q0 xs.length (i + S.2 46 i - chh (S.2 46) i f0) (spFss S P 0 (chh (S.2 46) i f0) (i + S.2 46 i)) + 15; have := hrc; omega⟩ hl.1 rfl (Nat.le_of_ble_eq_true rfl) dX5_fits_64 (fun v2 h2 n2 H locs hp2 hG hS => ?_)
          obtain ⟨rfl, hs4, hFit, hn4⟩ := hp2
          have hA4 := hA1.sub hs4
          obtain ⟨tgH, moH, dH, hLF4, hHr⟩ := id hA4
          have hE4 : gObj h2 n1 := ⟨_, _, _, hFit.1⟩
          show W p l e (gR lv (fMc q0 xs.length (i + S.2 46 i - chh (S.2 46) i f0) (spFss S P 0 (chh (S.2 46) i f0) (i + S.2 46 i)) + 3) (fMs q0 xs.length (i + S.2 46 i - chh (S.2 46) i f0) (spFss S P 0 (chh (S.2 46) i f0) (i + S.2 46 i)) + 15)) s m args below meth c H locs (cz + (2 + alK (S.2 47 i - (at0 : Int)).toNat)) (sz + (5 + alS (S.2 47 i - (at0 : Int)).toNat)) Q (F0 m 67 ls [.ref n1, .ref fl])
          refine g_callV (ci := 17) (rest := []) (k := 1) X hW hG hS hLF4 rfl (al_add l G A (lv - 1) h2 n2 fl (xs ++ ys) (max q0 (xs.length + ys.length)) n1 (by omega) hA4 hE4 (by omega)) (lw_V q925 q451 q452 q69 q453) (by decide +kernel) rfl ⟨by show (lv - 1) + 1 ≤ lv; omega, by show 8 + (2 + 11) + 40 * (lv - 1) ≤ 40 * lv; omega⟩ ⟨by show (cz + (2 + alK (S.2 47 i - (at0 : Int)).toNat)) + (alK (max (max q0 (xs.length + ys.length)) ((xs ++ ys).length + 1)) - alK (max q0 (xs.length + ys.length))) ≤ fMc q0 xs.length (i + S.2 46 i - chh (S.2 46) i f0) (spFss S P 0 (chh (S.2 46) i f0) (i + S.2 46 i)) + 3; first | exact hrc.1 | exact hrc.2, by show (sz + (5 + alS (S.2 47 i - (at0 : Int)).toNat)) + (alS (max (max q0 (xs.length + ys.length)) ((xs ++ ys).length + 1)) - alS (max q0 (xs.length + ys.length))) ≤ fMs q0 xs.length (i + S.2 46 i - chh (S.2 46) i f0) (spFss S P 0 (chh (S.2 46) i f0) (i + S.2 46 i)) + 15; first | exact hrc.1 | exact hrc.2⟩ hl.1 rfl (Nat.le_of_ble_eq_true rfl) dX5_fits_67 (fun v3 h3 n3 H locs hp3 hG hS => ?_)
          obtain ⟨rfl, hA5, hx5, hc5, hn5⟩ := hp3
          have hx6 := hs4.ext2 hx5
          have hc6 := (hs4.cls).trans hc5
          have hFL6 := ((hFL.sub hs4).ext hA4 hx5 hc5).app (FL.one (hFit.ext hA4 hx5 hc5))
          have hA6 : AL G h3 fl (xs ++ (ys ++ [n1])) (max q0 (xs.length + (ys ++ [n1]).length)) := by
            rw [← List.append_assoc]
            rw [show max q0 (xs.length + (ys ++ [n1]).length) = max (max q0 (xs.length + ys.length)) ((xs ++ ys).length + 1) by rw [List.length_append, List.length_append]; show max q0 (xs.length + (ys.length + 1)) = _; omega]
            exact hA5
          have hs5 := hs1.low hlt hx6
          have hV5 := hV.sub hs5
          obtain ⟨hIi5, hAi5⟩ := hV5.lst h0i hn0 hw
          obtain ⟨tg5, mo5, d5, hLA5, hAr5⟩ := id hAi5
          show W p l e (gR lv (fMc q0 xs.length (i + S.2 46 i - chh (S.2 46) i f0) (spFss S P 0 (chh (S.2 46) i f0) (i + S.2 46 i)) + 3) (fMs q0 xs.length (i + S.2 46 i - chh (S.2 46) i f0) (spFss S P 0 (chh (S.2 46) i f0) (i + S.2 46 i)) + 15)) s m args below meth c H locs (cz + (2 + alK (S.2 47 i - (at0 : Int)).toNat) + (alK (max (max q0 (xs.length + ys.length)) ((xs ++ ys).length + 1)) - alK (max q0 (xs.length + ys.length)))) (sz + (5 + alS (S.2 47 i - (at0 : Int)).toNat) + (alS (max (max q0 (xs.length + ys.length)) ((xs ++ ys).length + 1)) - alS (max q0 (xs.length + ys.length)))) Q (F0 m 70 ls [.int (iI (1))])
          refine lv_pop X.1 X.2.1 dX5_fits_70 rfl ?_
          refine lv_aload_n X.1 X.2.1 dX5_fits_71 rfl (lv_at hl 2 rfl) ?_
          refine n_getN (ci := 10) X in_X12 hW hG hIi5 rfl 4 (by decide) q594 (fun _ h => h) rfl dX5_fits_72 ?_
          refine g_callV (ci := 17) (rest := []) (k := 0) X hW hG hS hLA5 rfl (al_size l G A (lv - 1) h3 n3 (ad i + 1) (chs (rwS S) ad i) (S.2 47 i).toNat hAi5) (lw_V q738 q323 q324 q69 q325) (by decide +kernel) rfl ⟨by show (lv - 1) + 1 ≤ lv; omega, by show 8 + (1 + 11) + 40 * (lv - 1) ≤ 40 * lv; omega⟩ ⟨by show (cz + (2 + alK (S.2 47 i - (at0 : Int)).toNat) + (alK (max (max q0 (xs.length + ys.length)) ((xs ++ ys).length + 1)) - alK (max q0 (xs.length + ys.length)))) + 0 ≤ fMc q0 xs.length (i + S.2 46 i - chh (S.2 46) i f0) (spFss S P 0 (chh (S.2 46) i f0) (i + S.2 46 i)) + 3; first | exact hrc.1 | exact hrc.2, by show (sz + (5 + alS (S.2 47 i - (at0 : Int)).toNat) + (alS (max (max q0 (xs.length + ys.length)) ((xs ++ ys).length + 1)) - alS (max q0 (xs.length + ys.length)))) + 0 ≤ fMs q0 xs.length (i + S.2 46 i - chh (S.2 46) i f0) (spFss S P 0 (chh (S.2 46) i f0) (i + S.2 46 i)) + 15; first | exact hrc.1 | exact hrc.2⟩ hl.1 rfl (Nat.le_of_ble_eq_true rfl) dX5_fits_75 (g_pk (fun H locs hG hS => ?_))
          show W p l e (gR lv (fMc q0 xs.length (i + S.2 46 i - chh (S.2 46) i f0) (spFss S P 0 (chh (S.2 46) i f0) (i + S.2 46 i)) + 3) (fMs q0 xs.length (i + S.2 46 i - chh (S.2 46) i f0) (spFss S P 0 (chh (S.2 46) i f0) (i + S.2 46 i)) + 15)) s m args below meth c H locs (cz + (2 + alK (S.2 47 i - (at0 : Int)).toNat) + (alK (max (max q0 (xs.length + ys.length)) ((xs ++ ys).length + 1)) - alK (max q0 (xs.length + ys.length)))) (sz + (5 + alS (S.2 47 i - (at0 : Int)).toNat) + (alS (max (max q0 (xs.length + ys.length)) ((xs ++ ys).length + 1)) - alS (max q0 (xs.length + ys.length)))) Q (F0 m 78 ls [.int (iI (((chs (rwS S) ad i).length : Int)))])
          refine lv_istore (lv' := [(4, .int (iI (((chs (rwS S) ad i).length : Int)))), (6, .ref (ap (chh (S.2 37) P k))), (0, .ref (ap P)), (1, .ref (ad i)), (3, .ref fl), (5, .int (iI ((k : Int))))]) X.1 X.2.1 dX5_fits_78 hl (by decide) rfl (fun ls hl => ?_)
          refine lv_goto (tgt := 121) X.1 X.2.1 dX5_fits_80 (by decide) ?_
          refine i_inc (lv' := [(5, .int (iI ((k : Int) + 1))), (4, .int (iI (((chs (rwS S) ad i).length : Int)))), (6, .ref (ap (chh (S.2 37) P k))), (0, .ref (ap P)), (1, .ref (ad i)), (3, .ref fl)]) X dX5_fits_121 hl (k := 5) rfl (by decide) rfl (fun ls hl => ?_)
          refine lv_goto (tgt := 6) X.1 X.2.1 dX5_fits_124 (by decide) ?_
          have hte : chh (S.2 46) i (chs (rwS S) ad i).length = i + S.2 46 i := by rw [show (chs (rwS S) ad i).length = (S.2 47 i).toNat by omega]; exact (hT.lst h0i hn0 hw).1
          have hz8 : ys.length = tz.length := hFL.1
          have hfin : cz + (2 + alK (S.2 47 i - (at0 : Int)).toNat) + (alK (max (max q0 (xs.length + ys.length)) ((xs ++ ys).length + 1)) - alK (max q0 (xs.length + ys.length))) ≤ fMc q0 xs.length (chh (S.2 46) i (chs (rwS S) ad i).length - chh (S.2 46) i f0) (tz ++ [(chh (S.2 37) P k, chh (S.2 46) i at0, i + S.2 46 i)]) + 3 * 1 ∧ sz + (5 + alS (S.2 47 i - (at0 : Int)).toNat) + (alS (max (max q0 (xs.length + ys.length)) ((xs ++ ys).length + 1)) - alS (max q0 (xs.length + ys.length))) ≤ fMs q0 xs.length (chh (S.2 46) i (chs (rwS S) ad i).length - chh (S.2 46) i f0) (tz ++ [(chh (S.2 37) P k, chh (S.2 46) i at0, i + S.2 46 i)]) + 15 * 1 := by
            rw [hte, hTS]
            exact hrc
          exact ih6 h3 n3 (chs (rwS S) ad i).length (k + 1) (cz + (2 + alK (S.2 47 i - (at0 : Int)).toNat) + (alK (max (max q0 (xs.length + ys.length)) ((xs ++ ys).length + 1)) - alK (max q0 (xs.length + ys.length)))) (sz + (5 + alS (S.2 47 i - (at0 : Int)).toNat) + (alS (max (max q0 (xs.length + ys.length)) ((xs ++ ys).length + 1)) - alS (max q0 (xs.length + ys.length)))) 1 (ys ++ [n1]) (tz ++ [(chh (S.2 37) P k, chh (S.2 46) i at0, i + S.2 46 i)]) (by omega) (by omega) (by omega) (by rw [spXs_end hP hPb.1 hPb.2 hk2 (by omega)]; exact decide_eq_true hte) (by rw [spFss_end hP hPb.1 hPb.2 hk2 (by omega), List.append_nil]; exact hTS) hs5 hA6 hFL6 (hx1.trans hx6) (hc1.trans hc6) (by omega) (Or.inr ⟨rfl, by omega⟩) hfin (by omega) H locs ls hG hS (lv_sub hl [3, 4, 5, 1, 0] rfl)
        · have hJ := hIk
          rw [paE8 (P := pwS S) kk] at hJ
          have hJ : g1 (ap (chh (S.2 37) P k)) = some ((3, 0), .inr (7, [.int (iI (plk)), .long (lI (gLt (S.2 35 (chh (S.2 37) P k)))), .int (iI (0))])) := hJ
          refine n_instY (ci := 7) X hW hG hJ rfl q902 (Or.inl (hW.N q1690 rfl)) dX5_fits_34 ?_
          refine i_if_eq X 83 dX5_fits_37 (by decide) (by decide) (fun c37 => absurd c37 (by decide)) (fun _ => ?_)
          refine lv_aload X.1 X.2.1 dX5_fits_40 (lv_at hl 0 rfl) ?_
          refine n_cast (ci := 7) X hW hG hJ rfl q902 (Or.inl (hW.N q1690 rfl)) dX5_fits_42 ?_
          refine n_get (ci := 7) X in_X8 hW hG hJ rfl 2 (by decide) q527 (fun _ h => h) rfl dX5_fits_45 ?_
          refine i_if_eq X 83 dX5_fits_48 (by decide) (by decide) (fun _ => ?_) (fun c48 => absurd c48 (by decide))
          exact K83  (by omega) H locs ls hG hS (lv_sub hl [1, 2, 3, 4, 5, 0] rfl)
  exact L6 _ h n f0 0 0 0 0 [] [] (by omega) (by omega) (by omega) hsx rfl hs (by rw [List.append_nil]; show AL G h fl xs (max q0 xs.length); rw [show max q0 xs.length = q0 by omega]; exact hA) FL.nil (fun a t e he _ _ => he) (fun a t ci fs he => ⟨fs, he⟩) (Nat.le_refl _) (Or.inl rfl) ⟨Nat.zero_le _, Nat.zero_le _⟩ (Nat.lt_succ_self _) H locs ls hG hS (lv_sub hl [2, 3, 5, 1, 0] rfl)

