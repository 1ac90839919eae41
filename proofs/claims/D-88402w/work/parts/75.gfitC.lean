/-! ===== what fits, laid down: parts, rules ===== -/
set_option maxRecDepth 100000
theorem fMc_3 {q a : Nat} {r : Int} {ts : List (Int × Int × Int)} (hr : 1 ≤ r) : fMc q a (r - 1) ts + 3 = fMc q a r ts ∧ fMs q a (r - 1) ts + 15 = fMs q a r ts := by
  unfold fMc fMs
  omega
set_option maxHeartbeats 4000000 in
theorem gpp_fitsA (l : Launch) (G : gEnv) (A : Nat → Prop) (lv : Nat) (h : gH) (n : Nat) (S : MSt) (ad ap : Int → Nat) (b E q t : Int) (h0 : gH) (fl : Nat) (xs : List Nat) (q0 : Nat) (hlv : 11 ≤ lv) (hV : LV G h0 S ad) (hC : PCX G h0 S ap b E) (hs : gSub h0 h) (hlt : ∀ (a : Nat) (x : gE), h0 a = some x → a < fl) (hA : AL G h fl xs q0) (hq : b ≤ q ∧ q < E) (ht : 0 ≤ t ∧ t < S.1 40) (hP : ∀ p, b ≤ p → p < E → PN S E p) (hk : S.2 34 q = 2) (hls : 2 ≤ S.2 41 t) (hsx : spXs S q 0 (chh (S.2 46) t 0) (t + S.2 46 t) = true) (hq2 : q0 + (spFss S q 0 (chh (S.2 46) t 0) (t + S.2 46 t)).length < 2000) (ih : ∀ k : Nat, (k : Int) < S.2 38 q → S.2 34 (chh (S.2 37) q k) ≠ 7 → ∀ t, (0 ≤ t ∧ t < S.1 40) → (spN S (chh (S.2 37) q k) t && (if S.2 34 (chh (S.2 37) q k) = 2 then spXs S (chh (S.2 37) q k) 0 (t + 1) (t + S.2 46 t) else true)) = true → ∀ (h : gH) (n : Nat) (xs : List Nat) (q0 : Nat), gSub h0 h → AL G h fl xs q0 → q0 + (spF1 S (chh (S.2 37) q k) t).length < 2000 → gVC l ⟨RX4, "fits", "(LMacroGlass$Item;Ljava/util/ArrayList;)Z"⟩ G A (lv - 1 - 1) (fMc q0 xs.length (S.2 46 t) (spF1 S (chh (S.2 37) q k) t)) (fMs q0 xs.length (S.2 46 t) (spF1 S (chh (S.2 37) q k) t)) (ap (chh (S.2 37) q k)) [.ref (ad t), .ref fl] h n (FAQ G S ad fl xs q0 (spF1 S (chh (S.2 37) q k) t) h n)) : gC l yX5_fits_2 cX5_fits_2 3 (some .boolean) G A lv (fMc q0 xs.length (t + S.2 46 t - chh (S.2 46) t 0) (spFss S q 0 (chh (S.2 46) t 0) (t + S.2 46 t)) + 3) (fMs q0 xs.length (t + S.2 46 t - chh (S.2 46) t 0) (spFss S q 0 (chh (S.2 46) t 0) (t + S.2 46 t)) + 15) [.ref (ap q), .ref (ad t), .ref fl] h n (FAQ G S ad fl xs q0 (spFss S q 0 (chh (S.2 46) t 0) (t + S.2 46 t)) h n) := by
  refine gC_ofI RX5 (by decide +kernel) rfl (Nat.le_of_ble_eq_true rfl) ?_
  intro p e s m args below meth c Q X hW ret H locs ls hG hS hl
  have hl : lv_has ls 3 [(0, .ref (ap q)), (1, .ref (ad t)), (2, .ref fl)] := hl
  obtain ⟨⟨pl, hpl, hI0⟩, hAp⟩ := hC.1 q hq.1 hq.2
  have hok := hC.2 q hq.1 hq.2
  have hIt := (hV.it ht.1 ht.2).sub hs
  have hwt := hV.1.1.w ht.1 ht.2
  have hrt := hV.1.1.r ht.1 ht.2
  have hkt := hV.2.2.2 t ht.1 ht.2
  have hgt := hV.1.2.2 t ht.1 ht.2
  have hVh := hV.sub hs
  obtain ⟨tgF, moF, dF, hLF, hFr⟩ := id hA
  have hqq := hA.q
  have hnl := hG.lt hLF
  rw [paE2 (P := pwS S) hk] at hI0
  have hI : h (ap q) = some ((3, 0), .inr (4, [.int (iI pl), .ref (ap q + 1)])) := hs _ _ hI0
  refine lv_aload_n X.1 X.2.1 dX5_fits_2_0 rfl (lv_at hl 1 rfl) ?_
  refine it_instL X hW hG hIt.1 (hwt.1) q937 dX5_fits_2_1 ?_
  refine i_if_eq X 24 dX5_fits_2_4 (by decide) (bI_iR _) (fun c4 => ?_) (fun c4 => ?_)
  · have c4 := bI_eq0.mp c4
    refine lv_iconst (v := iI (0)) X.1 X.2.1 dX5_fits_2_24 rfl ?_
    refine ret _ _ _ _ _ _ _ _ _ ?_ (nar_b (by first | exact bI_iR _ | exact Nat.le_of_eq (Nat.zero_add _) | exact Nat.zero_le _ | omega)) (by show 0 ≤ fMc q0 xs.length (t + S.2 46 t - chh (S.2 46) t 0) (spFss S q 0 (chh (S.2 46) t 0) (t + S.2 46 t)) + 3; first | exact bI_iR _ | exact Nat.le_of_eq (Nat.zero_add _) | exact Nat.zero_le _ | omega) (by show 0 ≤ fMs q0 xs.length (t + S.2 46 t - chh (S.2 46) t 0) (spFss S q 0 (chh (S.2 46) t 0) (t + S.2 46 t)) + 15; first | exact bI_iR _ | exact Nat.le_of_eq (Nat.zero_add _) | exact Nat.zero_le _ | omega) hG hS dX5_fits_2_25
    exact absurd hls (of_decide_eq_false c4)
  · have c4 := bI_ne0.mp c4
    have c4 : 2 ≤ S.2 41 t := of_decide_eq_true c4
    have hLt := (hVh.lst ht.1 ht.2 c4).1
    refine lv_aload_n X.1 X.2.1 dX5_fits_2_7 rfl (lv_at hl 0 rfl) ?_
    refine lv_aload_n X.1 X.2.1 dX5_fits_2_8 rfl (lv_at hl 1 rfl) ?_
    refine n_cast (ci := 10) X hW hG hLt rfl q937 (Or.inr rfl) dX5_fits_2_9 ?_
    refine lv_iconst (v := iI (0)) X.1 X.2.1 dX5_fits_2_12 rfl ?_
    refine lv_aload_n X.1 X.2.1 dX5_fits_2_13 rfl (lv_at hl 2 rfl) ?_
    refine g_callV (ci := 4) (rest := []) (k := 3) X hW hG hS hI rfl (gpp_fitsLA l G A (lv - 1) h n S ad ap b E q t 0 h0 fl xs q0 (by omega) hV hC hs hlt hA ht.1 ht.2 c4 (by have := hV.1.1.p ht.1 ht.2; omega) hP hq hk hsx hq2 ih) (lw_V q938 q899 q900 q81 q901) (by decide +kernel) rfl ⟨by show (lv - 1) + 1 ≤ lv; omega, by show 8 + (7 + 11) + 40 * (lv - 1) ≤ 40 * lv; omega⟩ ⟨by show 0 + (fMc q0 xs.length (t + S.2 46 t - chh (S.2 46) t 0) (spFss S q 0 (chh (S.2 46) t 0) (t + S.2 46 t)) + 3) ≤ fMc q0 xs.length (t + S.2 46 t - chh (S.2 46) t 0) (spFss S q 0 (chh (S.2 46) t 0) (t + S.2 46 t)) + 3; exact Nat.le_of_eq (Nat.zero_add _), by show 0 + (fMs q0 xs.length (t + S.2 46 t - chh (S.2 46) t 0) (spFss S q 0 (chh (S.2 46) t 0) (t + S.2 46 t)) + 15) ≤ fMs q0 xs.length (t + S.2 46 t - chh (S.2 46) t 0) (spFss S q 0 (chh (S.2 46) t 0) (t + S.2 46 t)) + 15; exact Nat.le_of_eq (Nat.zero_add _)⟩ hl.1 rfl (Nat.le_of_ble_eq_true rfl) dX5_fits_2_14 (fun v1 h1 n1 H locs hp1 hG hS => ?_)
    obtain ⟨rfl, hP1, hP2, hP3, hP4⟩ := hp1
    show W p l e (gR lv (fMc q0 xs.length (t + S.2 46 t - chh (S.2 46) t 0) (spFss S q 0 (chh (S.2 46) t 0) (t + S.2 46 t)) + 3) (fMs q0 xs.length (t + S.2 46 t - chh (S.2 46) t 0) (spFss S q 0 (chh (S.2 46) t 0) (t + S.2 46 t)) + 15)) s m args below meth c H locs (0 + (fMc q0 xs.length (t + S.2 46 t - chh (S.2 46) t 0) (spFss S q 0 (chh (S.2 46) t 0) (t + S.2 46 t)) + 3)) (0 + (fMs q0 xs.length (t + S.2 46 t - chh (S.2 46) t 0) (spFss S q 0 (chh (S.2 46) t 0) (t + S.2 46 t)) + 15)) Q (F0 m 17 ls [.int (iI (1))])
    refine i_if_eq X 24 dX5_fits_2_17 (by decide) (by decide) (fun c17 => absurd c17 (by decide)) (fun _ => ?_)
    refine lv_iconst (v := iI (1)) X.1 X.2.1 dX5_fits_2_20 rfl ?_
    refine lv_goto (tgt := 25) X.1 X.2.1 dX5_fits_2_21 (by decide) ?_
    refine ret _ _ _ _ _ _ _ _ _ ?_ (nar_b (by first | exact bI_iR _ | exact Nat.le_of_eq (Nat.zero_add _) | exact Nat.zero_le _ | omega)) (by show 0 + (fMc q0 xs.length (t + S.2 46 t - chh (S.2 46) t 0) (spFss S q 0 (chh (S.2 46) t 0) (t + S.2 46 t)) + 3) ≤ fMc q0 xs.length (t + S.2 46 t - chh (S.2 46) t 0) (spFss S q 0 (chh (S.2 46) t 0) (t + S.2 46 t)) + 3; first | exact bI_iR _ | exact Nat.le_of_eq (Nat.zero_add _) | exact Nat.zero_le _ | omega) (by show 0 + (fMs q0 xs.length (t + S.2 46 t - chh (S.2 46) t 0) (spFss S q 0 (chh (S.2 46) t 0) (t + S.2 46 t)) + 15) ≤ fMs q0 xs.length (t + S.2 46 t - chh (S.2 46) t 0) (spFss S q 0 (chh (S.2 46) t 0) (t + S.2 46 t)) + 15; first | exact bI_iR _ | exact Nat.le_of_eq (Nat.zero_add _) | exact Nat.zero_le _ | omega) hG hS dX5_fits_2_25
    exact ⟨rfl, hP1, hP2, hP3, hP4⟩

theorem vp_fitsA (l : Launch) (G : gEnv) (A : Nat → Prop) (S : MSt) (ad ap : Int → Nat) (b E : Int) (h0 : gH) (fl : Nat) (hV : LV G h0 S ad) (hP : ∀ p, b ≤ p → p < E → PN S E p) (hC : PCX G h0 S ap b E) (hlt : ∀ (a : Nat) (x : gE), h0 a = some x → a < fl) : ∀ (N : Nat) (q : Int) (lv : Nat), S.2 37 q < N → b ≤ q → q < E → S.2 34 q ≠ 7 → 11 + 2 * S.2 37 q ≤ lv → ∀ t, (0 ≤ t ∧ t < S.1 40) → (spN S q t && (if S.2 34 q = 2 then spXs S q 0 (t + 1) (t + S.2 46 t) else true)) = true → ∀ (h : gH) (n : Nat) (xs : List Nat) (q0 : Nat), gSub h0 h → AL G h fl xs q0 → q0 + (spF1 S q t).length < 2000 → gVC l ⟨RX4, "fits", "(LMacroGlass$Item;Ljava/util/ArrayList;)Z"⟩ G A lv (fMc q0 xs.length (S.2 46 t) (spF1 S q t)) (fMs q0 xs.length (S.2 46 t) (spF1 S q t)) (ap q) [.ref (ad t), .ref fl] h n (FAQ G S ad fl xs q0 (spF1 S q t) h n) := by
  intro N
  induction N with
  | zero => intro q lv hN hb hn; have := (hP q hb hn).2.1; omega
  | succ N ih =>
    intro q lv hN hb hn h7 hlv t ht hnx h n xs q0 hs hA hq2
    have hp := hP q hb hn
    have hp1 := hp.2.1
    have hrt := hV.1.1.r ht.1 ht.2
    obtain ⟨⟨pl, hpl, e⟩, hAp⟩ := hC.1 q hb hn
    have hqA := hA.q
    have hsp := (Bool.and_eq_true_iff.mp hnx).1
    rcases hp.1 with k | k | k | k | k
    · rw [paE0 (P := pwS S) k] at e
      have e := hs _ _ e
      have e1 : spF1 S q t = [] := by unfold spF1; rw [if_neg (by omega), if_neg (by omega)]
      rw [e1]
      refine ⟨_, 5, _, _, yX6_fits, _, 3, _, e, rfl, ?_, q929, q930, q82, q931, by decide⟩
      refine gC.room (mc := 0) (ms := 0) ((gpf_fitsR l G A lv h n S ad ap b E q t fl (by omega) (hV.sub hs) (hC.sub hs) ⟨hb, hn⟩ ht k hp.2.2.2.2.2.1.1).mono ?_) (Nat.zero_le _) (Nat.zero_le _)
      rintro v h' n' ⟨r1, r2, r3⟩
      rw [r1, r2, r3, hsp]
      exact FAQ_pure hA
    · rw [paE2 (P := pwS S) k] at e
      have e := hs _ _ e
      have hn2 := hnx
      rw [if_pos k] at hn2
      have hls : 2 ≤ S.2 41 t := by
        have z := hsp
        unfold spN at z
        rw [if_neg (by omega), if_neg (by omega), if_neg (by omega)] at z
        exact of_decide_eq_true z
      have e1 : spF1 S q t = spFss S q 0 (t + 1) (t + S.2 46 t) := by unfold spF1; rw [if_neg (by omega), if_pos k]
      rw [e1] at hq2 ⊢
      have e3 := fMc_3 (q := q0) (a := xs.length) (ts := spFss S q 0 (t + 1) (t + S.2 46 t)) hrt.1
      have e4 : t + S.2 46 t - chh (S.2 46) t 0 = S.2 46 t - 1 := by show t + S.2 46 t - (t + 1) = _; omega
      refine ⟨_, 4, _, _, yX5_fits_2, _, 3, _, e, rfl, ?_, q934, q935, q81, q936, by decide⟩
      rw [← e3.1, ← e3.2, ← e4]
      refine gpp_fitsA l G A lv h n S ad ap b E q t h0 fl xs q0 (by omega) hV hC hs hlt hA ⟨hb, hn⟩ ht hP k hls (Bool.and_eq_true_iff.mp hn2).2 hq2 ?_
      intro j hj h7 t ht hnx h n xs q0 hs hA hq2
      have kd := PN.kid hP hb hn k hj
      exact ih _ _ (by omega) (by omega) (by omega) h7 (by omega) t ht hnx h n xs q0 hs hA hq2
    · rw [paE6 (P := pwS S) k] at e
      have e := hs _ _ e
      have e1 : (spF1 S q t).length = 1 := by unfold spF1; rw [if_pos k]; rfl
      refine ⟨_, 6, _, _, yX7_fits, _, 4, _, e, rfl, ?_, q943, q944, q87, q945, by decide⟩
      refine gC.room (gpv_fitsA l G A lv h n S ad ap b E q t h0 fl xs q0 (by omega) hV hC hs hlt hA ⟨hb, hn⟩ ht k (by omega)) ?_ ?_
      · unfold fMc; rw [e1]; omega
      · unfold fMs; rw [e1]; omega
    · exact absurd k h7
    · rw [paE8 (P := pwS S) k] at e
      have e := hs _ _ e
      have e1 : spF1 S q t = [] := by unfold spF1; rw [if_neg (by omega), if_neg (by omega)]
      rw [e1]
      refine ⟨_, 7, _, _, yX8_fits, _, 3, _, e, rfl, ?_, q939, q940, q88, q941, by decide⟩
      refine gC.room (mc := 0) (ms := 0) ((gps_fitsR l G A lv h n S ad ap b E q t fl (hV.sub hs) (hC.sub hs) ⟨hb, hn⟩ ht k).mono ?_) (Nat.zero_le _) (Nat.zero_le _)
      rintro v h' n' ⟨r1, r2, r3⟩
      rw [r1, r2, r3, hsp]
      exact FAQ_pure hA
