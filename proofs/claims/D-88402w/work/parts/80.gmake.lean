/-! ===== how many items a template makes ===== -/
set_option maxRecDepth 100000
set_option maxHeartbeats 4000000 in
theorem gmf_makes (l : Launch) (G : gEnv) (A : Nat → Prop) (lv : Nat) (h : gH) (n : Nat) (a bb : Nat) : gC l yX6_makes cX6_makes 2 (some .int) G A lv 0 0 [.ref a, .ref bb] h n (gPure (some (.int (iI 1))) h n) := by
  refine gC_ofI RX6 (by decide +kernel) rfl (Nat.le_of_ble_eq_true rfl) ?_
  intro p e s m args below meth c Q X hW ret H locs ls hG hS hl
  have hl : lv_has ls 2 [(0, .ref a), (1, .ref bb)] := hl
  refine lv_iconst (v := iI (1)) X.1 X.2.1 dX6_makes_0 rfl ?_
  refine ret _ _ _ _ _ _ _ _ _ ?_ (rfl) (by show 0 ≤ 0; omega) (by show 0 ≤ 0; omega) hG hS dX6_makes_1
  exact ⟨rfl, rfl, rfl⟩

set_option maxHeartbeats 4000000 in
/-- how many items a name of a template makes -/
theorem gmv_makes (l : Launch) (G : gEnv) (A : Nat → Prop) (lv : Nat) (h : gH) (n : Nat) (S : MSt) (ad ap : Int → Nat) (b E t i : Int) (r bb : Nat) (ys : List Nat) (st mk : Int) (hlv : 510 ≤ lv) (hV : LV G h S ad) (hC : PCX G h S ap b E) (hB : BLD G h S ad bb ys (spTs S r i) st mk) (hok : ∀ (j : Nat) (tr : Int × Int × Int), (spTs S r i)[j]? = some tr → wOk (S.2 35 tr.1)) (hPR : PR S r) (h0 : 0 ≤ i) (hn : i < S.1 40) (hw3 : S.2 41 i = 3) (hft : spFit S r i = true) (ht : b ≤ t ∧ t < E) (hk : S.2 34 t = 6 ∨ S.2 34 t = 7) : gC l yX7_makes cX7_makes 5 (some .int) G A lv 0 0 [.ref (ap t), .ref bb] h n (gPure (some (.int (iI (if spVar S r (S.2 35 t) = -9 then 1 else spTo S r i (spVar S r (S.2 35 t)) - spFrom S r i (spVar S r (S.2 35 t)))))) h n) := by
  refine gC_ofI RX7 (by decide +kernel) rfl (Nat.le_of_ble_eq_true rfl) ?_
  intro p e s m args below meth c Q X hW ret H locs ls hG hS hl
  have hl : lv_has ls 5 [(0, .ref (ap t)), (1, .ref bb)] := hl
  obtain ⟨⟨pl, hpl, hI0⟩, -⟩ := hC.1 t ht.1 ht.2
  have hokt := (hC.2 t ht.1 ht.2).1 (by omega)
  obtain ⟨al0, hI⟩ : ∃ al0 : Int, h (ap t) = some ((3, 0), .inr (6, [.int (iI pl), .long (lI (gLt (S.2 35 t))), .int (iI al0)])) := by
    rcases hk with hk | hk
    · rw [paE6 (P := pwS S) hk] at hI0; exact ⟨0, hI0⟩
    · rw [paE7 (P := pwS S) hk] at hI0; exact ⟨1, hI0⟩
  have hB0 := hB
  obtain ⟨fl, qf, hBb, hAF, hFL⟩ := hB
  obtain ⟨tgF, moF, dF, hLF, hFr⟩ := id hAF
  have hnn := hV.1.n
  
  refine lv_aload_n X.1 X.2.1 dX7_makes_0 rfl (lv_at hl 1 rfl) ?_
  refine lv_aload_n X.1 X.2.1 dX7_makes_1 rfl (lv_at hl 0 rfl) ?_
  refine n_get (ci := 6) X in_X7 hW hG hI rfl 1 (by decide) q521 (fun _ h => h) rfl dX7_makes_2 ?_
  refine g_callV (ci := 15) (rest := []) (k := 1) X hW hG hS hBb rfl (gb_of l G A (lv - 1) h n S ad bb ys (spTs S r i) st mk (S.2 35 t) (by omega) hB0 hokt hok) (lw_V q1010 q1011 q1012 q98 q1013) (by decide +kernel) rfl ⟨by show (lv - 1) + 1 ≤ lv; omega, by show 8 + (4 + 11) + 40 * (lv - 1) ≤ 40 * lv; omega⟩ ⟨by show 0 + 0 ≤ 0; omega, by show 0 + 0 ≤ 0; omega⟩ hl.1 rfl (Nat.le_of_ble_eq_true rfl) dX7_makes_5 (fun v1 h1 n1 H locs hp1 hG hS => ?_)
  obtain ⟨o, rfl, hof, hh9, hn9⟩ := hp1
  rw [hh9, hn9] at hG
  have hov := OFQ_var hV.1 hPR h0 hn (by omega) hof
  show W p l e (gR lv 0 0) s m args below meth c H locs 0 0 Q (F0 m 8 ls [(va_rf o)])
  rcases hov with ⟨ho9, hv9⟩ | ⟨k9, y9, ho9, hk9, ht9, hv1, hv2⟩
  · rw [ho9]
    show W p l e (gR lv 0 0) s m args below meth c H locs 0 0 Q (F0 m 8 ls [.null])
    refine lv_astore_nN (lv' := [(2, .null), (0, .ref (ap t)), (1, .ref bb)]) X.1 X.2.1 dX7_makes_8 rfl hl (by decide) rfl (fun ls hl => ?_)
    refine lv_aload_nN X.1 X.2.1 dX7_makes_9 rfl (lv_at hl 0 rfl) ?_
    refine lv_ifnonnullN X.1 X.2.1 dX7_makes_10 ?_
    refine lv_iconst (v := iI (1)) X.1 X.2.1 dX7_makes_13 rfl ?_
    refine lv_goto (tgt := 18) X.1 X.2.1 dX7_makes_14 (by decide) ?_
    refine lv_istore_n (lv' := [(3, .int (iI (1))), (2, .null), (0, .ref (ap t)), (1, .ref bb)]) X.1 X.2.1 dX7_makes_18 rfl hl (by decide) rfl (fun ls hl => ?_)
    refine lv_iconst (v := iI (0)) X.1 X.2.1 dX7_makes_19 rfl ?_
    refine lv_istore (lv' := [(4, .int (iI (0))), (3, .int (iI (1))), (2, .null), (0, .ref (ap t)), (1, .ref bb)]) X.1 X.2.1 dX7_makes_20 hl (by decide) rfl (fun ls hl => ?_)
    refine lv_aload_nN X.1 X.2.1 dX7_makes_22 rfl (lv_at hl 2 rfl) ?_
    refine lv_ifnullN (tgt := 62) X.1 X.2.1 dX7_makes_23 (by decide) ?_
    refine lv_iload_n X.1 X.2.1 dX7_makes_62 rfl (lv_at hl 1 rfl) ?_
    refine ret _ _ _ _ _ _ _ _ _ ?_ (rfl) (by show 0 ≤ 0; omega) (by show 0 ≤ 0; omega) hG hS dX7_makes_63
    exact ⟨by rw [if_pos hv9], rfl, rfl⟩
  · rw [ho9]
    show W p l e (gR lv 0 0) s m args below meth c H locs 0 0 Q (F0 m 8 ls [.ref y9])
    obtain ⟨hF9, ⟨q9, hA9⟩, -⟩ := hFL.2 k9 y9 _ hk9 ht9
    obtain ⟨tg9, mo9, d9, hL9, hr9⟩ := id hA9
    obtain ⟨m9, c9, hsg⟩ := fit_seg hV.1 hPR h0 hn (by omega) hft _ (List.mem_of_getElem? ht9)
    have hsl : (((rts (S.2 46) 501 (spFrom S r i (spVar S r (S.2 35 t))) (spTo S r i (spVar S r (S.2 35 t)))).map ad).length : Int) = m9 := by rw [hsg.2.2.2.2]; simp
    have hqA := hA9.q
    have hm5 := hsg.2.2.1
    refine lv_astore_n (lv' := [(2, .ref y9), (0, .ref (ap t)), (1, .ref bb)]) X.1 X.2.1 dX7_makes_8 rfl hl (by decide) rfl (fun ls hl => ?_)
    refine lv_aload_n X.1 X.2.1 dX7_makes_9 rfl (lv_at hl 0 rfl) ?_
    refine lv_ifnonnull (tgt := 17) X.1 X.2.1 dX7_makes_10 (by decide) ?_
    refine lv_iconst (v := iI (0)) X.1 X.2.1 dX7_makes_17 rfl ?_
    refine lv_istore_n (lv' := [(3, .int (iI (0))), (2, .ref y9), (0, .ref (ap t)), (1, .ref bb)]) X.1 X.2.1 dX7_makes_18 rfl hl (by decide) rfl (fun ls hl => ?_)
    refine lv_iconst (v := iI (0)) X.1 X.2.1 dX7_makes_19 rfl ?_
    refine lv_istore (lv' := [(4, .int (iI (0))), (3, .int (iI (0))), (2, .ref y9), (0, .ref (ap t)), (1, .ref bb)]) X.1 X.2.1 dX7_makes_20 hl (by decide) rfl (fun ls hl => ?_)
    have L22 : ∀ (N22 : Nat) (k : Nat) (s9 : Int), (k ≤ m9) → (s9 = c9 k - (spFrom S r i (spVar S r (S.2 35 t)))) → m9 - k < N22 → ∀ (H : Heap) (locs : List Loc) (ls : Array Slot), gOn G.1 A h n H → va_S A s.heap H locs → lv_has ls 5 [(0, .ref (ap t)), (1, .ref bb), (2, .ref y9), (3, .int (iI (s9))), (4, .int (iI ((k : Int))))] → W p l e (gR lv 0 0) s m args below meth c H locs 0 0 Q (F0 m 22 ls []) := by
      intro N22
      induction N22 with
      | zero => intro k s9 hk9 hs9 hN; exact absurd hN (Nat.not_lt_zero _)
      | succ N22 ih22 =>
        intro k s9 hk9 hs9 hN22 H locs ls hG hS hl
        refine lv_aload_n X.1 X.2.1 dX7_makes_22 rfl (lv_at hl 2 rfl) ?_
        refine lv_ifnull X.1 X.2.1 dX7_makes_23 ?_
        refine lv_iload X.1 X.2.1 dX7_makes_26 (lv_at hl 4 rfl) ?_
        refine lv_aload_n X.1 X.2.1 dX7_makes_28 rfl (lv_at hl 2 rfl) ?_
        refine n_getN (ci := 14) X in_X16 hW hG hF9 rfl 1 (by decide) q917 (fun _ h => h) rfl dX7_makes_29 ?_
        refine g_callV (ci := 17) (rest := [.int (iI ((k : Int)))]) (k := 0) X hW hG hS hL9 rfl (al_size l G A (lv - 1) h n (y9 + 1) ((rts (S.2 46) 501 (spFrom S r i (spVar S r (S.2 35 t))) (spTo S r i (spVar S r (S.2 35 t)))).map ad) q9 hA9) (lw_V q1017 q323 q324 q69 q325) (by decide +kernel) rfl ⟨by show (lv - 1) + 1 ≤ lv; omega, by show 8 + (1 + 11) + 40 * (lv - 1) ≤ 40 * lv; omega⟩ ⟨by show 0 + 0 ≤ 0; omega, by show 0 + 0 ≤ 0; omega⟩ hl.1 rfl (Nat.le_of_ble_eq_true rfl) dX7_makes_32 (g_pk (fun H locs hG hS => ?_))
        show W p l e (gR lv 0 0) s m args below meth c H locs 0 0 Q (F0 m 35 ls [.int (iI ((((rts (S.2 46) 501 (spFrom S r i (spVar S r (S.2 35 t))) (spTo S r i (spVar S r (S.2 35 t)))).map ad).length : Int))), .int (iI ((k : Int)))])
        refine i_icmp_ge X 62 dX7_makes_35 (by decide) (by omega) (by omega) (fun c35 => ?_) (fun c35 => ?_)
        · refine lv_iload_n X.1 X.2.1 dX7_makes_62 rfl (lv_at hl 3 rfl) ?_
          refine ret _ _ _ _ _ _ _ _ _ ?_ (rfl) (by show 0 ≤ 0; omega) (by show 0 ≤ 0; omega) hG hS dX7_makes_63
          have hr5 : S.2 32 (r : Int) < spVar S r (S.2 35 t) := hv1
          have hPR1 := hPR.1
          exact ⟨by rw [if_neg (by omega), hs9, show k = m9 by omega, hsg.2.1], rfl, rfl⟩
        · have hck := hsg.2.2.2.1 k (by omega)
          have hrk := hV.1.1.r hck.1 hck.2.1
          have hIk := hV.it hck.1 hck.2.1
          have hlk := hsg.le hV.1 k (by omega)
          refine lv_iload_n X.1 X.2.1 dX7_makes_38 rfl (lv_at hl 3 rfl) ?_
          refine lv_aload_n X.1 X.2.1 dX7_makes_39 rfl (lv_at hl 2 rfl) ?_
          refine n_getN (ci := 14) X in_X16 hW hG hF9 rfl 1 (by decide) q917 (fun _ h => h) rfl dX7_makes_40 ?_
          refine lv_iload X.1 X.2.1 dX7_makes_43 (lv_at hl 4 rfl) ?_
          refine g_callV (ci := 17) (rest := [.int (iI (s9))]) (k := 1) X hW hG hS hL9 rfl (al_get l G A (lv - 1) h n (y9 + 1) ((rts (S.2 46) 501 (spFrom S r i (spVar S r (S.2 35 t))) (spTo S r i (spVar S r (S.2 35 t)))).map ad) q9 (k : Int) (ad (c9 k)) (by omega) hA9 (by omega) (by rw [Int.toNat_natCast, hsg.2.2.2.2, List.getElem?_map, List.getElem?_map, List.getElem?_range (by omega)]; rfl)) (lw_V q1018 q691 q692 q69 q693) (by decide +kernel) rfl ⟨by show (lv - 1) + 1 ≤ lv; omega, by show 8 + (2 + 11) + 40 * (lv - 1) ≤ 40 * lv; omega⟩ ⟨by show 0 + 0 ≤ 0; omega, by show 0 + 0 ≤ 0; omega⟩ hl.1 rfl (Nat.le_of_ble_eq_true rfl) dX7_makes_45 (g_pk (fun H locs hG hS => ?_))
          show W p l e (gR lv 0 0) s m args below meth c H locs 0 0 Q (F0 m 48 ls [.ref (ad (c9 k)), .int (iI (s9))])
          refine it_cast X hW hG hIk.1 q1019 dX7_makes_48 ?_
          refine g_callX (rest := [.int (iI (s9))]) (k := 0) X hW hG hS (vi_all l G A h n (rwS S) ad (1, 0) (inS S ad) (fun k => k) (S.1 40) hV.1.1 502 (c9 k) (lv - 1) (by show S.2 46 (c9 k) < _; omega) (by omega) (by omega) (fun z a b => hV.2.1 z (by omega) (by have b : z < c9 k + S.2 46 (c9 k) := b; omega)) (by show 3 + S.2 46 (c9 k) ≤ _; omega)) q1020 q1022 (gDecl_code X q1021 q1029) (by decide +kernel) rfl ⟨by show (lv - 1) + 1 ≤ lv; omega, by show 40 + 40 * (lv - 1) ≤ 40 * lv; omega⟩ ⟨by show 0 + 0 ≤ 0; omega, by show 0 + 0 ≤ 0; omega⟩ hl.1 rfl (Nat.le_of_ble_eq_true rfl) dX7_makes_51 (g_pk (fun H locs hG hS => ?_))
          show W p l e (gR lv 0 0) s m args below meth c H locs 0 0 Q (F0 m 54 ls [.int (iI (S.2 46 (c9 k))), .int (iI (s9))])
          refine i_add X dX7_makes_54 ?_
          refine lv_istore_n (lv' := [(3, .int (iI (s9 + (S.2 46 (c9 k))))), (0, .ref (ap t)), (1, .ref bb), (2, .ref y9), (4, .int (iI ((k : Int))))]) X.1 X.2.1 dX7_makes_55 rfl hl (by decide) rfl (fun ls hl => ?_)
          refine i_inc (lv' := [(4, .int (iI ((k : Int) + 1))), (3, .int (iI (s9 + (S.2 46 (c9 k))))), (0, .ref (ap t)), (1, .ref bb), (2, .ref y9)]) X dX7_makes_56 hl (k := 4) rfl (by decide) rfl (fun ls hl => ?_)
          refine lv_goto (tgt := 22) X.1 X.2.1 dX7_makes_59 (by decide) ?_
          exact ih22 (k + 1) (s9 + (S.2 46 (c9 k))) (by omega) (by rw [hck.2.2, hs9]; omega) (by omega) H locs ls hG hS (lv_sub hl [2, 3, 4, 1, 0] rfl)
    exact L22 _ 0 0 (by omega) (by rw [hsg.1]; show (0 : Int) = spFrom S r i (spVar S r (S.2 35 t)) - spFrom S r i (spVar S r (S.2 35 t)); omega) (Nat.lt_succ_self _) H locs ls hG hS (lv_sub hl [3, 4, 2, 1, 0] rfl)

set_option maxHeartbeats 4000000 in
/-- how many items a list of a template makes -/
theorem gmp_makes (l : Launch) (G : gEnv) (A : Nat → Prop) (lv : Nat) (h : gH) (n : Nat) (S : MSt) (ap : Int → Nat) (b E t i : Int) (r bb : Nat) (hlv : 3 ≤ lv) (hC : PCX G h S ap b E) (ht : b ≤ t ∧ t < E) (hQ : ∀ p, b ≤ p → p < E → QN S E p) (hE6 : E - b ≤ 600) (hk2 : S.2 34 t = 2) (ih : ∀ k : Nat, (k : Int) < S.2 38 t → gVC l ⟨RX4, "makes", "(LMacroGlass$Build;)I"⟩ G A (lv - 1) 0 0 (ap (chh (S.2 37) t k)) [.ref bb] h n (gPure (some (.int (iI ((bNo S r i (chh (S.2 37) t k)).1.length : Int)))) h n)) : gC l yX5_makes cX5_makes 4 (some .int) G A lv 0 0 [.ref (ap t), .ref bb] h n (gPure (some (.int (iI ((bNo S r i t).1.length : Int)))) h n) := by
  refine gC_ofI RX5 (by decide +kernel) rfl (Nat.le_of_ble_eq_true rfl) ?_
  intro p e s m args below meth c Q X hW ret H locs ls hG hS hl
  have hl : lv_has ls 4 [(0, .ref (ap t)), (1, .ref bb)] := hl
  obtain ⟨⟨pl, -, hI⟩, hAp⟩ := hC.1 t ht.1 ht.2
  have hAP := hAp hk2
  rw [paE2 (P := pwS S) hk2] at hI
  have hAP : AL G h (ap t + 1) (pcs (pwS S) ap t) (S.2 38 t).toNat := hAP
  obtain ⟨tgP, moP, dP, hLP, hPr⟩ := id hAP
  have hcn := (hQ t ht.1 ht.2).2.2.1
  have hpln : ((pcs (pwS S) ap t).length : Int) = S.2 38 t := by rw [pcs_len]; show ((S.2 38 t).toNat : Int) = _; omega
  refine lv_iconst (v := iI (1)) X.1 X.2.1 dX5_makes_0 rfl ?_
  refine lv_istore_n (lv' := [(2, .int (iI (1))), (0, .ref (ap t)), (1, .ref bb)]) X.1 X.2.1 dX5_makes_1 rfl hl (by decide) rfl (fun ls hl => ?_)
  refine lv_iconst (v := iI (0)) X.1 X.2.1 dX5_makes_2 rfl ?_
  refine lv_istore_n (lv' := [(3, .int (iI (0))), (2, .int (iI (1))), (0, .ref (ap t)), (1, .ref bb)]) X.1 X.2.1 dX5_makes_3 rfl hl (by decide) rfl (fun ls hl => ?_)
  have L4 : ∀ (N4 : Nat) (k : Nat) (s9 : Int), ((k : Int) ≤ S.2 38 t) → (s9 + ((bdS S r i 601 (chh (S.2 37) t k) (t + S.2 37 t)).1.length : Int) = 1 + ((bdS S r i 601 (t + 1) (t + S.2 37 t)).1.length : Int)) → (S.2 38 t).toNat - k < N4 → ∀ (H : Heap) (locs : List Loc) (ls : Array Slot), gOn G.1 A h n H → va_S A s.heap H locs → lv_has ls 4 [(0, .ref (ap t)), (1, .ref bb), (2, .int (iI (s9))), (3, .int (iI ((k : Int))))] → W p l e (gR lv 0 0) s m args below meth c H locs 0 0 Q (F0 m 4 ls []) := by
    intro N4
    induction N4 with
    | zero => intro k s9 hkc hs9 hN; exact absurd hN (Nat.not_lt_zero _)
    | succ N4 ih4 =>
      intro k s9 hkc hs9 hN4 H locs ls hG hS hl
      refine lv_iload_n X.1 X.2.1 dX5_makes_4 rfl (lv_at hl 3 rfl) ?_
      refine lv_aload_n X.1 X.2.1 dX5_makes_5 rfl (lv_at hl 0 rfl) ?_
      refine n_get (ci := 4) X in_X5 hW hG hI rfl 1 (by decide) q424 (fun _ h => h) rfl dX5_makes_6 ?_
      refine g_callV (ci := 17) (rest := [.int (iI ((k : Int)))]) (k := 0) X hW hG hS hLP rfl (al_size l G A (lv - 1) h n (ap t + 1) (pcs (pwS S) ap t) (S.2 38 t).toNat hAP) (lw_V q738 q323 q324 q69 q325) (by decide +kernel) rfl ⟨by show (lv - 1) + 1 ≤ lv; omega, by show 8 + (1 + 11) + 40 * (lv - 1) ≤ 40 * lv; omega⟩ ⟨by show 0 + 0 ≤ 0; omega, by show 0 + 0 ≤ 0; omega⟩ hl.1 rfl (Nat.le_of_ble_eq_true rfl) dX5_makes_9 (g_pk (fun H locs hG hS => ?_))
      show W p l e (gR lv 0 0) s m args below meth c H locs 0 0 Q (F0 m 12 ls [.int (iI (((pcs (pwS S) ap t).length : Int))), .int (iI ((k : Int)))])
      refine i_icmp_ge X 39 dX5_makes_12 (by decide) (by omega) (by omega) (fun c12 => ?_) (fun c12 => ?_)
      · refine lv_iload_n X.1 X.2.1 dX5_makes_39 rfl (lv_at hl 2 rfl) ?_
        refine ret _ _ _ _ _ _ _ _ _ ?_ (rfl) (by show 0 ≤ 0; omega) (by show 0 ≤ 0; omega) hG hS dX5_makes_40
        have hce := ((hQ t ht.1 ht.2).2.2.2.2.1 hk2).1
        rw [show chh (S.2 37) t k = t + S.2 37 t by rw [← hce, show (S.2 38 t).toNat = k by omega], bdS_end (Int.le_refl _)] at hs9
        have hs9 : s9 + 0 = 1 + ((bdS S r i 601 (t + 1) (t + S.2 37 t)).1.length : Int) := hs9
        refine ⟨?_, rfl, rfl⟩
        rw [show (bNo S r i t).1.length = (bdS S r i 601 (t + 1) (t + S.2 37 t)).1.length + 1 by unfold bNo; rw [if_pos hk2]; rfl]
        congr 3
        omega
      · have kd := QN.kid hQ ht.1 ht.2 hk2 (j := k) (by omega)
        obtain ⟨⟨plk, -, hIk⟩, -⟩ := hC.1 (chh (S.2 37) t k) (by omega) (by omega)
        have hbn := bdS_node (r := r) (i := i) hQ hE6 (t := chh (S.2 37) t k) (te := t + S.2 37 t) (by omega) (by omega) (by omega)
        refine lv_iload_n X.1 X.2.1 dX5_makes_15 rfl (lv_at hl 2 rfl) ?_
        refine lv_aload_n X.1 X.2.1 dX5_makes_16 rfl (lv_at hl 0 rfl) ?_
        refine n_get (ci := 4) X in_X5 hW hG hI rfl 1 (by decide) q424 (fun _ h => h) rfl dX5_makes_17 ?_
        refine lv_iload_n X.1 X.2.1 dX5_makes_20 rfl (lv_at hl 3 rfl) ?_
        refine g_callV (ci := 17) (rest := [.int (iI (s9))]) (k := 1) X hW hG hS hLP rfl (al_get l G A (lv - 1) h n (ap t + 1) (pcs (pwS S) ap t) (S.2 38 t).toNat (k : Int) (ap (chh (S.2 37) t k)) (by omega) hAP (by omega) (by rw [Int.toNat_natCast]; exact pcs_get (pwS S) ap t (by show (k : Int) < S.2 38 t; omega))) (lw_V q739 q691 q692 q69 q693) (by decide +kernel) rfl ⟨by show (lv - 1) + 1 ≤ lv; omega, by show 8 + (2 + 11) + 40 * (lv - 1) ≤ 40 * lv; omega⟩ ⟨by show 0 + 0 ≤ 0; omega, by show 0 + 0 ≤ 0; omega⟩ hl.1 rfl (Nat.le_of_ble_eq_true rfl) dX5_makes_21 (g_pk (fun H locs hG hS => ?_))
        show W p l e (gR lv 0 0) s m args below meth c H locs 0 0 Q (F0 m 24 ls [.ref (ap (chh (S.2 37) t k)), .int (iI (s9))])
        refine pa_cast X hW hG hIk q740 dX5_makes_24 ?_
        refine lv_aload_n X.1 X.2.1 dX5_makes_27 rfl (lv_at hl 1 rfl) ?_
        refine g_callX (rest := [.int (iI (s9))]) (k := 1) X hW hG hS (ih k (by omega)) q1007 q1000 (gDecl_abs hW q999) (by decide +kernel) rfl ⟨by show (lv - 1) + 1 ≤ lv; omega, by show 40 + 40 * (lv - 1) ≤ 40 * lv; omega⟩ ⟨by show 0 + 0 ≤ 0; omega, by show 0 + 0 ≤ 0; omega⟩ hl.1 rfl (Nat.le_of_ble_eq_true rfl) dX5_makes_28 (g_pk (fun H locs hG hS => ?_))
        show W p l e (gR lv 0 0) s m args below meth c H locs 0 0 Q (F0 m 31 ls [.int (iI (((bNo S r i (chh (S.2 37) t k)).1.length : Int))), .int (iI (s9))])
        refine i_add X dX5_makes_31 ?_
        refine lv_istore_n (lv' := [(2, .int (iI (s9 + (((bNo S r i (chh (S.2 37) t k)).1.length : Int))))), (0, .ref (ap t)), (1, .ref bb), (3, .int (iI ((k : Int))))]) X.1 X.2.1 dX5_makes_32 rfl hl (by decide) rfl (fun ls hl => ?_)
        refine i_inc (lv' := [(3, .int (iI ((k : Int) + 1))), (2, .int (iI (s9 + (((bNo S r i (chh (S.2 37) t k)).1.length : Int))))), (0, .ref (ap t)), (1, .ref bb)]) X dX5_makes_33 hl (k := 3) rfl (by decide) rfl (fun ls hl => ?_)
        refine lv_goto (tgt := 4) X.1 X.2.1 dX5_makes_36 (by decide) ?_
        exact ih4 (k + 1) (s9 + (((bNo S r i (chh (S.2 37) t k)).1.length : Int))) (by omega) (by rw [← hs9, hbn, kd.2.2.2.2.1]; show _ = s9 + (((bNo S r i (chh (S.2 37) t k)).1 ++ (bdS S r i 601 (chh (S.2 37) t k + S.2 37 (chh (S.2 37) t k)) (t + S.2 37 t)).1).length : Int); rw [List.length_append]; omega) (by omega) H locs ls hG hS (lv_sub hl [2, 3, 1, 0] rfl)
  exact L4 _ 0 1 (by omega) rfl (Nat.lt_succ_self _) H locs ls hG hS (lv_sub hl [2, 3, 1, 0] rfl)

theorem bNo_0 {S : MSt} {r i t : Int} (k : S.2 34 t = 0) : bNo S r i t = ([rw7 0 (S.2 35 t) (-9) (S.2 36 t) (S.1 49 + 1) 1 0], 1) := by
  have h2 : ¬ S.2 34 t = 2 := by omega
  have hb : bP S r t = -9 := if_neg (by omega)
  have h9 : ¬ bP S r t ≠ -9 := by rw [hb]; exact fun z => z rfl
  unfold bNo bN
  rw [if_neg h2, if_neg h2, if_neg h9, if_pos k]
theorem bNo_9 {S : MSt} {r i t : Int} (k : S.2 34 t = 6 ∨ S.2 34 t = 7) (h9 : spVar S r (S.2 35 t) = -9) : bNo S r i t = ([rw7 1 (S.2 35 t) (bOwn S r i) (S.2 36 t) (S.1 49 + 1) 1 0], 1) := by
  have h2 : ¬ S.2 34 t = 2 := by omega
  have h0 : ¬ S.2 34 t = 0 := by omega
  have hb : bP S r t = spVar S r (S.2 35 t) := if_pos k
  have h9 : ¬ bP S r t ≠ -9 := by rw [hb]; exact fun z => z h9
  unfold bNo bN
  rw [if_neg h2, if_neg h2, if_neg h9, if_neg h0]
theorem bNo_v {S : MSt} {r i t : Int} (k : S.2 34 t = 6 ∨ S.2 34 t = 7) (h9 : spVar S r (S.2 35 t) ≠ -9) : bNo S r i t = (cpR S (spFrom S r i (spVar S r (S.2 35 t))) (spTo S r i (spVar S r (S.2 35 t)) - spFrom S r i (spVar S r (S.2 35 t))).toNat, sdN (S.2 46) (spTo S r i (spVar S r (S.2 35 t)) - spFrom S r i (spVar S r (S.2 35 t))).toNat (spFrom S r i (spVar S r (S.2 35 t))) (spFrom S r i (spVar S r (S.2 35 t)))) := by
  have h2 : ¬ S.2 34 t = 2 := by omega
  have hb : bP S r t = spVar S r (S.2 35 t) := if_pos k
  have h9 : bP S r t ≠ -9 := by rw [hb]; exact h9
  unfold bNo bN
  rw [if_neg h2, if_neg h2, if_pos h9, hb]
theorem makes_var {S : MSt} {r : Nat} {i t : Int} (hT : MT S) (hPR : PR S r) (h0 : 0 ≤ i) (hn : i < S.1 40) (hw : 3 ≤ S.2 41 i) (hf : spFit S r i = true) (hk : S.2 34 t = 6 ∨ S.2 34 t = 7) : (if spVar S r (S.2 35 t) = -9 then 1 else spTo S r i (spVar S r (S.2 35 t)) - spFrom S r i (spVar S r (S.2 35 t))) = ((bNo S r i t).1.length : Int) := by
  have hbp : bP S r t = spVar S r (S.2 35 t) := if_pos hk
  have h1 := hPR.1
  by_cases h9 : spVar S r (S.2 35 t) = -9
  · rw [if_pos h9, bNo_9 hk h9]
    rfl
  · rw [if_neg h9, bNo_v hk h9]
    show _ = ((cpR S _ _).length : Int)
    rw [cpR_len]
    have hin := spVarF_in S (S.2 35 t) (S.2 33 r - S.2 32 r).toNat (S.2 32 r)
    rcases hin with z | ⟨z1, z2, z3, z4⟩
    · exact absurd z h9
    · have hk2 := hPR.2.1
      have hne : spVar S r (S.2 35 t) ≠ S.2 32 r := by intro z; have z3 : S.2 34 (spVar S r (S.2 35 t)) = 6 ∨ S.2 34 (spVar S r (S.2 35 t)) = 7 := z3; rw [z] at z3; omega
      have hge : S.2 32 (r : Int) ≤ spVar S r (S.2 35 t) := z1
      have hlt : spVar S r (S.2 35 t) < S.2 32 (r : Int) + ((S.2 33 (r : Int) - S.2 32 (r : Int)).toNat : Int) := z2
      have h3 := hPR.2.2.1
      have h5 := hPR.2.2.2.2.1
      obtain ⟨a1, a2, a3⟩ := spTs_all hT hPR h0 hn hw
      obtain ⟨tr, m1, m2⟩ := a3 (spVar S r (S.2 35 t)) (by omega) (by omega) z3
      obtain ⟨m9, c9, hsg⟩ := fit_seg hT hPR h0 hn hw hf tr m1
      have e2 := (a1 tr m1).2.2.2
      rw [m2] at e2
      rw [e2] at hsg
      have := hsg.le hT m9 (Nat.le_refl _)
      rw [hsg.2.1] at this
      have this : spFrom S r i (spVar S r (S.2 35 t)) + (m9 : Int) ≤ spTo S r i (spVar S r (S.2 35 t)) := this
      omega
theorem vp_makes (l : Launch) (G : gEnv) (A : Nat → Prop) (h : gH) (n : Nat) (S : MSt) (ad ap : Int → Nat) (b E i : Int) (r bb : Nat) (ys : List Nat) (st mk : Int) (hV : LV G h S ad) (hC : PCX G h S ap b E) (hB : BLD G h S ad bb ys (spTs S r i) st mk) (hok : ∀ (j : Nat) (tr : Int × Int × Int), (spTs S r i)[j]? = some tr → wOk (S.2 35 tr.1)) (hPR : PR S r) (h0 : 0 ≤ i) (hn : i < S.1 40) (hw3 : S.2 41 i = 3) (hft : spFit S r i = true) (hQ : ∀ p, b ≤ p → p < E → QN S E p) (hE6 : E - b ≤ 600) : ∀ (N : Nat) (t : Int) (lv : Nat), S.2 37 t < N → b ≤ t → t < E → 510 + S.2 37 t ≤ lv → gVC l ⟨RX4, "makes", "(LMacroGlass$Build;)I"⟩ G A lv 0 0 (ap t) [.ref bb] h n (gPure (some (.int (iI ((bNo S r i t).1.length : Int)))) h n) := by
  intro N
  induction N with
  | zero => intro t lv hN hb ht; have := (hQ t hb ht).2.1; omega
  | succ N ih =>
    intro t lv hN hb ht hlv
    have hq := hQ t hb ht
    have hq1 := hq.2.1
    obtain ⟨⟨pl, hpl, e⟩, hAp⟩ := hC.1 t hb ht
    rcases hq.1 with k | k | k | k
    · rw [paE0 (P := pwS S) k] at e
      rw [show (bNo S r i t).1.length = 1 by rw [bNo_0 k]; rfl]
      exact ⟨_, 5, _, _, yX6_makes, _, 2, _, e, rfl, gmf_makes l G A lv h n (ap t) bb, q1001, q1002, q82, q1003, by decide⟩
    · rw [paE2 (P := pwS S) k] at e
      refine ⟨_, 4, _, _, yX5_makes, _, 4, _, e, rfl, gmp_makes l G A lv h n S ap b E t i r bb (by omega) hC ⟨hb, ht⟩ hQ hE6 k ?_, q1004, q1005, q81, q1006, by decide⟩
      intro j hj
      have kd := QN.kid hQ hb ht k hj
      exact ih _ _ (by omega) (by omega) (by omega) (by omega)
    · have hc := gmv_makes l G A lv h n S ad ap b E t i r bb ys st mk (by omega) hV hC hB hok hPR h0 hn hw3 hft ⟨hb, ht⟩ (Or.inl k)
      rw [makes_var hV.1 hPR h0 hn (by omega) hft (Or.inl k)] at hc
      rw [paE6 (P := pwS S) k] at e
      exact ⟨_, 6, _, _, yX7_makes, _, 5, _, e, rfl, hc, q1031, q1008, q87, q1009, by decide⟩
    · have hc := gmv_makes l G A lv h n S ad ap b E t i r bb ys st mk (by omega) hV hC hB hok hPR h0 hn hw3 hft ⟨hb, ht⟩ (Or.inr k)
      rw [makes_var hV.1 hPR h0 hn (by omega) hft (Or.inr k)] at hc
      rw [paE7 (P := pwS S) k] at e
      exact ⟨_, 6, _, _, yX7_makes, _, 5, _, e, rfl, hc, q1031, q1008, q87, q1009, by decide⟩
