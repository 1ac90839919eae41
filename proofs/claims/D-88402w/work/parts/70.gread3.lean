/-! ===== letters, counts, the term kept, feeding ===== -/
set_option maxRecDepth 100000
set_option maxHeartbeats 4000000 in
theorem gx_letter (l : Launch) (G : gEnv) (A : Nat → Prop) (lv : Nat) (h : gH) (n : Nat) (x0 : Nat) (S : MSt) (ad : Int → Nat) (rl : Nat) (ru : Nat → Nat) (ap : Int → Nat) (i a : Int) (hlv : 2 ≤ lv) (hX : GX G h x0 S ad rl ru ap) (hi : iR i) (ha : iR a) : gC l yX0_letter cX0_letter 6 (some .int) G A lv 0 0 [.ref x0, .int (iI (i)), .int (iI (a))] h n (gPure (some (.int (iI (if 0 ≤ i ∧ i < S.1 40 ∧ S.2 41 i = 1 then (if (if 0 ≤ a ∧ a ≤ 5 then S.2 42 i / 2 ^ (8 * a.toNat) % 256 else 0) = 0 then -9 else (if 0 ≤ a ∧ a ≤ 5 then S.2 42 i / 2 ^ (8 * a.toNat) % 256 else 0)) else -1)))) h n) := by
  refine gC_ofI RX0 (by decide +kernel) rfl (Nat.le_of_ble_eq_true rfl) ?_
  intro p e s m args below meth c Q X hW ret H locs ls hG hS hl
  have hl : lv_has ls 6 [(0, .ref x0), (1, .int (iI (i))), (2, .int (iI (a)))] := hl
  have hX0 := hX
  obtain ⟨hO0, hRo, hV, hR⟩ := id hX
  have hO := hO0
  unfold GOB gOv at hO
  have hT := hV.1.1
  have hnn := hV.1.n
  obtain ⟨tgR, moR, dR, hLR, hRr⟩ := id hR.2.1
  have hrl : ((((List.range (S.1 29).toNat).map ru).length : Nat) : Int) = S.1 29 := by simp; have := hR.1.1; omega
  have hmm := hR.1.1
  
  refine lv_aload_n X.1 X.2.1 dX0_letter_0 rfl (lv_at hl 0 rfl) ?_
  refine lv_iload_n X.1 X.2.1 dX0_letter_1 rfl (lv_at hl 1 rfl) ?_
  refine g_callV (ci := 0) (rest := []) (k := 1) X hW hG hS hO rfl (gx_no l G A (lv - 1) h n x0 S ad rl ru ap i (by omega) hX hi) (lw_V q794 q796 qs18 q66 q797) (by decide +kernel) rfl ⟨by show (lv - 1) + 1 ≤ lv; omega, by show 8 + (2 + 11) + 40 * (lv - 1) ≤ 40 * lv; omega⟩ ⟨by show 0 + 0 ≤ 0; first | omega | exact bI_iR _ | (split <;> omega), by show 0 + 0 ≤ 0; first | omega | exact bI_iR _ | (split <;> omega)⟩ hl.1 rfl (Nat.le_of_ble_eq_true rfl) dX0_letter_2 (g_pk (fun H locs hG hS => ?_))
  show W p l e (gR lv 0 0) s m args below meth c H locs 0 0 Q (F0 m 5 ls [.int (iI (if 0 ≤ i ∧ i < S.1 40 then 0 else -1))])
  refine i_if_eq X 14 dX0_letter_5 (by decide) (by first | omega | exact bI_iR _ | (split <;> omega)) (fun c5 => ?_) (fun c5 => ?_)
  · have hi9 : 0 ≤ i ∧ i < S.1 40 := by revert c5; split <;> intro c5 <;> omega
    have hwi := hT.w hi9.1 hi9.2
    refine lv_aload_n X.1 X.2.1 dX0_letter_14 rfl (lv_at hl 0 rfl) ?_
    refine n_get (ci := 0) X in_X0 hW hG hO rfl 8 (by decide) q145 (fun _ h => h) rfl dX0_letter_15 ?_
    refine lv_iload_n X.1 X.2.1 dX0_letter_18 rfl (lv_at hl 1 rfl) ?_
    refine n_row X hW hG hRo (i := i) (by omega) (by omega) (by omega) dX0_letter_19 ?_
    have hI_19 := hV.it (i := i) (by omega) (by omega)
    refine it_instN X hW hG hI_19.1 ((hT.w (i := i) (by omega) (by omega)).1) q866 dX0_letter_20 ?_
    show W p l e (gR lv 0 0) s m args below meth c H locs 0 0 Q (F0 m 23 ls [.int (iI (bI (decide (S.2 41 i = 1))))])
    refine i_if_ne X 28 dX0_letter_23 (by decide) (bI_iR _) (fun c23 => ?_) (fun c23 => ?_)
    · have c23 := bI_ne0.mp c23
      have c23 : S.2 41 i = 1 := of_decide_eq_true c23
      have hN1 := hV.nam hi9.1 hi9.2 c23
      obtain ⟨Ln, hL6, hLa, hLb, hLc⟩ := letters_of ((hV.2.2.2 i hi9.1 hi9.2).1 c23)
      have hgr := gLt_rng ((hV.2.2.2 i hi9.1 hi9.2).1 c23)
      refine lv_aload_n X.1 X.2.1 dX0_letter_28 rfl (lv_at hl 0 rfl) ?_
      refine n_get (ci := 0) X in_X0 hW hG hO rfl 8 (by decide) q145 (fun _ h => h) rfl dX0_letter_29 ?_
      refine lv_iload_n X.1 X.2.1 dX0_letter_32 rfl (lv_at hl 1 rfl) ?_
      refine n_row X hW hG hRo (i := i) (by omega) (by omega) (by omega) dX0_letter_33 ?_
      have hI_33 := hV.it (i := i) (by omega) (by omega)
      refine n_cast (ci := 12) X hW hG hN1 rfl q866 (Or.inr rfl) dX0_letter_34 ?_
      refine n_getN (ci := 12) X in_X14 hW hG hN1 rfl 4 (by decide) q673 (fun _ h => h) rfl dX0_letter_37 ?_
      refine lv_lstore_n (lv' := [(3, .long (lI (gLt (S.2 42 i)))), (0, .ref x0), (1, .int (iI (i))), (2, .int (iI (a)))]) X.1 X.2.1 dX0_letter_40 rfl hl (by decide) rfl (fun ls hl => ?_)
      refine lv_iconst (v := iI (0)) X.1 X.2.1 dX0_letter_41 rfl ?_
      refine lv_istore (lv' := [(5, .int (iI (0))), (3, .long (lI (gLt (S.2 42 i)))), (0, .ref x0), (1, .int (iI (i))), (2, .int (iI (a)))]) X.1 X.2.1 dX0_letter_42 hl (by decide) rfl (fun ls hl => ?_)
      have L44 : ∀ (N44 : Nat) (k : Nat), (k ≤ Ln) → Ln - k < N44 → ∀ (H : Heap) (locs : List Loc) (ls : Array Slot), gOn G.1 A h n H → va_S A s.heap H locs → lv_has ls 6 [(0, .ref x0), (1, .int (iI (i))), (2, .int (iI (a))), (3, .long (lI (gLt (S.2 42 i)))), (5, .int (iI ((k : Int))))] → W p l e (gR lv 0 0) s m args below meth c H locs 0 0 Q (F0 m 44 ls []) := by
        intro N44
        induction N44 with
        | zero => intro k hk hN; exact absurd hN (Nat.not_lt_zero _)
        | succ N44 ih44 =>
          intro k hk hN44 H locs ls hG hS hl
          refine lv_lload_n X.1 X.2.1 dX0_letter_44 rfl (lv_at hl 3 rfl) ?_
          refine lv_bipush (v := iI (8)) X.1 X.2.1 dX0_letter_45 (by decide) ?_
          refine lv_iload X.1 X.2.1 dX0_letter_47 (lv_at hl 4 rfl) ?_
          refine i_mul X dX0_letter_49 ?_
          refine f_lshr X (by omega) (by omega) dX0_letter_50 ?_
          have hdv : 0 ≤ gLt (S.2 42 i) / 2 ^ (8 * (((k : Int))).toNat) ∧ gLt (S.2 42 i) / 2 ^ (8 * (((k : Int))).toNat) ≤ gLt (S.2 42 i) := ⟨Int.ediv_nonneg (by omega) (Int.le_of_lt (Int.pow_pos (by decide))), Int.ediv_le_self _ (by omega)⟩
          refine lv_lconst (v := lI (0)) X.1 X.2.1 dX0_letter_51 rfl ?_
          refine i_lcmp_le X 62 dX0_letter_52 dX0_letter_53 (by decide) (by first | omega | exact bI_iR _ | (split <;> omega)) (by first | omega | exact bI_iR _ | (split <;> omega)) (fun c52 => ?_) (fun c52 => ?_)
          · have hkL : k = Ln := by
              rcases Nat.lt_or_ge k Ln with z | z
              · have := (hLa k (by omega)).mpr z; rw [Int.toNat_natCast] at c52; omega
              · omega
            refine lv_iload_n X.1 X.2.1 dX0_letter_62 rfl (lv_at hl 2 rfl) ?_
            refine i_i2l X (by first | omega | exact bI_iR _ | (split <;> omega)) dX0_letter_63 ?_
            refine lv_lconst (v := lI (0)) X.1 X.2.1 dX0_letter_64 rfl ?_
            refine lv_iload X.1 X.2.1 dX0_letter_65 (lv_at hl 4 rfl) ?_
            refine lv_iconst (v := iI (1)) X.1 X.2.1 dX0_letter_67 rfl ?_
            refine i_sub X dX0_letter_68 ?_
            refine i_i2l X (by first | omega | exact bI_iR _ | (split <;> omega)) dX0_letter_69 ?_
            refine g_callS (rest := []) (k := 3) X hW hG hS (gg_in l G A (lv - 1) h n a 0 (((k : Int)) - 1) (by omega) (by omega) (by omega)) (lw_S q798 q248 q66 q249) (by decide +kernel) rfl ⟨by show (lv - 1) + 1 ≤ lv; omega, by show 8 + (6 + 11) + 40 * (lv - 1) ≤ 40 * lv; omega⟩ ⟨by show 0 + 0 ≤ 0; first | omega | exact bI_iR _ | (split <;> omega), by show 0 + 0 ≤ 0; first | omega | exact bI_iR _ | (split <;> omega)⟩ hl.1 rfl (Nat.le_of_ble_eq_true rfl) dX0_letter_70 (g_pk (fun H locs hG hS => ?_))
            show W p l e (gR lv 0 0) s m args below meth c H locs 0 0 Q (F0 m 73 ls [.int (iI (bI (decide (0 ≤ a) && decide (a ≤ (((k : Int)) - 1)))))])
            refine i_if_eq X 95 dX0_letter_73 (by decide) (bI_iR _) (fun c73 => ?_) (fun c73 => ?_)
            · have c73 := bI_eq0.mp c73
              refine lv_bipush (v := iI (-9)) X.1 X.2.1 dX0_letter_95 (by decide) ?_
              refine ret _ _ _ _ _ _ _ _ _ ?_ (rfl) (by show 0 ≤ 0; first | omega | exact bI_iR _ | (split <;> omega)) (by show 0 ≤ 0; first | omega | exact bI_iR _ | (split <;> omega)) hG hS dX0_letter_97
              refine ⟨?_, rfl, rfl⟩
              rw [if_pos ⟨hi9.1, hi9.2, c23⟩]
              have c73 : ¬ (0 ≤ a ∧ a ≤ (k : Int) - 1) := by simpa using c73
              by_cases z2 : 0 ≤ a ∧ a ≤ 5
              · rw [if_pos z2, if_pos (hLc a.toNat (by omega))]
              · rw [if_neg z2, if_pos rfl]
            · have c73 := bI_ne0.mp c73
              have c73 : 0 ≤ a ∧ a ≤ (k : Int) - 1 := by simpa using c73
              refine lv_lload_n X.1 X.2.1 dX0_letter_76 rfl (lv_at hl 3 rfl) ?_
              refine lv_bipush (v := iI (8)) X.1 X.2.1 dX0_letter_77 (by decide) ?_
              refine lv_iload X.1 X.2.1 dX0_letter_79 (lv_at hl 4 rfl) ?_
              refine lv_iconst (v := iI (1)) X.1 X.2.1 dX0_letter_81 rfl ?_
              refine i_sub X dX0_letter_82 ?_
              refine lv_iload_n X.1 X.2.1 dX0_letter_83 rfl (lv_at hl 2 rfl) ?_
              refine i_sub X dX0_letter_84 ?_
              refine i_mul X dX0_letter_85 ?_
              refine f_sshrb X (by omega) dX0_letter_86 q189 dX0_letter_87 dX0_letter_90 ?_
              rw [byt_lI (by omega)]
              refine i_l2i X dX0_letter_91 ?_
              refine lv_goto (tgt := 97) X.1 X.2.1 dX0_letter_92 (by decide) ?_
              refine ret _ _ _ _ _ _ _ _ _ ?_ (rfl) (by show 0 ≤ 0; first | omega | exact bI_iR _ | (split <;> omega)) (by show 0 ≤ 0; first | omega | exact bI_iR _ | (split <;> omega)) hG hS dX0_letter_97
              refine ⟨?_, rfl, rfl⟩
              rw [if_pos ⟨hi9.1, hi9.2, c23⟩]
              have z := hLb a.toNat (by omega)
              rw [if_pos (show 0 ≤ a ∧ a ≤ 5 from ⟨c73.1, by omega⟩), if_neg z.2, ← z.1, ← hkL, show ((k : Int) - 1 - a).toNat = k - 1 - a.toNat by omega]
          · have hkl2 : k < Ln := by rw [Int.toNat_natCast] at c52; exact (hLa k hk).mp c52
            refine i_inc (lv' := [(5, .int (iI ((k : Int) + 1))), (0, .ref x0), (1, .int (iI (i))), (2, .int (iI (a))), (3, .long (lI (gLt (S.2 42 i))))]) X dX0_letter_56 hl (k := 4) rfl (by decide) rfl (fun ls hl => ?_)
            refine lv_goto (tgt := 44) X.1 X.2.1 dX0_letter_59 (by decide) ?_
            exact ih44 (k + 1) (by rw [Int.toNat_natCast] at c52; have := (hLa k hk).mp c52; omega) (by omega) H locs ls hG hS (lv_sub hl [1, 2, 3, 4, 0] rfl)
      exact L44 _ 0 (by omega) (Nat.lt_succ_self _) H locs ls hG hS (lv_sub hl [2, 3, 4, 1, 0] rfl)
    · have c23 := bI_eq0.mp c23
      refine lv_iconst (v := iI (-1)) X.1 X.2.1 dX0_letter_26 rfl ?_
      refine ret _ _ _ _ _ _ _ _ _ ?_ (rfl) (by show 0 ≤ 0; first | omega | exact bI_iR _ | (split <;> omega)) (by show 0 ≤ 0; first | omega | exact bI_iR _ | (split <;> omega)) hG hS dX0_letter_27
      exact ⟨by rw [if_neg (by intro z; exact (of_decide_eq_false c23) z.2.2)], rfl, rfl⟩
  · refine lv_aload_n X.1 X.2.1 dX0_letter_8 rfl (lv_at hl 0 rfl) ?_
    refine lv_iload_n X.1 X.2.1 dX0_letter_9 rfl (lv_at hl 1 rfl) ?_
    refine g_callV (ci := 0) (rest := []) (k := 1) X hW hG hS hO rfl (gx_no l G A (lv - 1) h n x0 S ad rl ru ap i (by omega) hX hi) (lw_V q794 q796 qs18 q66 q797) (by decide +kernel) rfl ⟨by show (lv - 1) + 1 ≤ lv; omega, by show 8 + (2 + 11) + 40 * (lv - 1) ≤ 40 * lv; omega⟩ ⟨by show 0 + 0 ≤ 0; first | omega | exact bI_iR _ | (split <;> omega), by show 0 + 0 ≤ 0; first | omega | exact bI_iR _ | (split <;> omega)⟩ hl.1 rfl (Nat.le_of_ble_eq_true rfl) dX0_letter_10 (g_pk (fun H locs hG hS => ?_))
    show W p l e (gR lv 0 0) s m args below meth c H locs 0 0 Q (F0 m 13 ls [.int (iI (if 0 ≤ i ∧ i < S.1 40 then 0 else -1))])
    refine ret _ _ _ _ _ _ _ _ _ ?_ (rfl) (by show 0 ≤ 0; first | omega | exact bI_iR _ | (split <;> omega)) (by show 0 ≤ 0; first | omega | exact bI_iR _ | (split <;> omega)) hG hS dX0_letter_13
    exact ⟨by rw [if_neg (by intro z; rw [if_pos z] at c5; exact c5 rfl), if_neg (by intro z; rw [if_pos ⟨z.1, z.2.1⟩] at c5; exact c5 rfl)], rfl, rfl⟩

set_option maxHeartbeats 4000000 in
theorem gx_letterN (l : Launch) (G : gEnv) (A : Nat → Prop) (lv : Nat) (h : gH) (n : Nat) (x0 : Nat) (S : MSt) (rv : Value) (i a : Int) (hlv : 1 ≤ lv) (hO0 : GOB h x0 S rv .null) : gC l yX0_letter cX0_letter 6 (some .int) G A lv 0 0 [.ref x0, .int (iI (i)), .int (iI (a))] h n (gPure (some (.int (iI (-3)))) h n) := by
  refine gC_ofI RX0 (by decide +kernel) rfl (Nat.le_of_ble_eq_true rfl) ?_
  intro p e s m args below meth c Q X hW ret H locs ls hG hS hl
  have hl : lv_has ls 6 [(0, .ref x0), (1, .int (iI (i))), (2, .int (iI (a)))] := hl
  have hO := hO0
  unfold GOB gOv at hO
  
  refine lv_aload_n X.1 X.2.1 dX0_letter_0 rfl (lv_at hl 0 rfl) ?_
  refine lv_iload_n X.1 X.2.1 dX0_letter_1 rfl (lv_at hl 1 rfl) ?_
  refine g_callV (ci := 0) (rest := []) (k := 1) X hW hG hS hO rfl (gx_noN l G A (lv - 1) h n x0 S rv i hO0) (lw_V q794 q796 qs18 q66 q797) (by decide +kernel) rfl ⟨by show (lv - 1) + 1 ≤ lv; omega, by show 8 + (2 + 11) + 40 * (lv - 1) ≤ 40 * lv; omega⟩ ⟨by show 0 + 0 ≤ 0; omega, by show 0 + 0 ≤ 0; omega⟩ hl.1 rfl (Nat.le_of_ble_eq_true rfl) dX0_letter_2 (g_pk (fun H locs hG hS => ?_))
  show W p l e (gR lv 0 0) s m args below meth c H locs 0 0 Q (F0 m 5 ls [.int (iI ((-3)))])
  refine i_if_eq X 14 dX0_letter_5 (by decide) (by decide) (fun c5 => absurd c5 (by decide)) (fun _ => ?_)
  refine lv_aload_n X.1 X.2.1 dX0_letter_8 rfl (lv_at hl 0 rfl) ?_
  refine lv_iload_n X.1 X.2.1 dX0_letter_9 rfl (lv_at hl 1 rfl) ?_
  refine g_callV (ci := 0) (rest := []) (k := 1) X hW hG hS hO rfl (gx_noN l G A (lv - 1) h n x0 S rv i hO0) (lw_V q794 q796 qs18 q66 q797) (by decide +kernel) rfl ⟨by show (lv - 1) + 1 ≤ lv; omega, by show 8 + (2 + 11) + 40 * (lv - 1) ≤ 40 * lv; omega⟩ ⟨by show 0 + 0 ≤ 0; omega, by show 0 + 0 ≤ 0; omega⟩ hl.1 rfl (Nat.le_of_ble_eq_true rfl) dX0_letter_10 (g_pk (fun H locs hG hS => ?_))
  show W p l e (gR lv 0 0) s m args below meth c H locs 0 0 Q (F0 m 13 ls [.int (iI ((-3)))])
  refine ret _ _ _ _ _ _ _ _ _ ?_ (rfl) (by show 0 ≤ 0; omega) (by show 0 ≤ 0; omega) hG hS dX0_letter_13
  exact ⟨rfl, rfl, rfl⟩

set_option maxHeartbeats 4000000 in
theorem gx_count (l : Launch) (G : gEnv) (A : Nat → Prop) (lv : Nat) (h : gH) (n : Nat) (x0 : Nat) (S : MSt) (ad : Int → Nat) (rl : Nat) (ru : Nat → Nat) (ap : Int → Nat) (qs : Nat) (sa cl hd md : Nat → Nat) (a : Int) (hlv : 1025 ≤ lv) (hX : GX G h x0 S ad rl ru ap) (hP : STP G h x0 S qs sa cl hd md) (ha : iR a) : gC l yX0_count cX0_count 7 (some .int) G A lv 0 0 [.ref x0, .int (iI (a))] h n (gPure (some (.int (iI (if a = 5 then S.1 1 else if a = 8 then S.1 53 else if 0 ≤ a ∧ a ≤ 7 then (if a = 0 then S.1 40 else if a = 1 then S.1 29 else if a = 2 then S.1 49 else if a = 6 then S.1 66 else if a = 3 then cntB (spCall S) (S.1 40).toNat else if a = 4 then cntB (spReady S) (S.1 40).toNat else cntB (fun k => decide (S.2 41 k = 1) && decide (spReads S k = -9)) (S.1 40).toNat) else -2)))) h n) := by
  refine gC_ofI RX0 (by decide +kernel) rfl (Nat.le_of_ble_eq_true rfl) ?_
  intro p e s m args below meth c Q X hW ret H locs ls hG hS hl
  have hl : lv_has ls 7 [(0, .ref x0), (1, .int (iI (a)))] := hl
  have hX0 := hX
  obtain ⟨hO0, hRo, hV, hR⟩ := id hX
  have hO := hO0
  unfold GOB gOv at hO
  have hT := hV.1.1
  have hnn := hV.1.n
  obtain ⟨tgR, moR, dR, hLR, hRr⟩ := id hR.2.1
  have hrl : ((((List.range (S.1 29).toNat).map ru).length : Nat) : Int) = S.1 29 := by simp; have := hR.1.1; omega
  have hmm := hR.1.1
  obtain ⟨hSL, hs3, hSJ⟩ := hP
  obtain ⟨tgS, moS, dS, hLS, hSr⟩ := id hSL
  have hsl : ((((List.range (S.1 49).toNat).map sa).length : Nat) : Int) = S.1 49 := by simp; omega
  
  refine lv_iload_n X.1 X.2.1 dX0_count_0 rfl (lv_at hl 1 rfl) ?_
  refine lv_iconst (v := iI (5)) X.1 X.2.1 dX0_count_1 rfl ?_
  refine i_icmp_eq X 11 dX0_count_2 (by decide) (by first | omega | exact bI_iR _ | (split <;> first | omega | exact bI_iR _)) (by first | omega | exact bI_iR _ | (split <;> first | omega | exact bI_iR _)) (fun c2 => ?_) (fun c2 => ?_)
  · refine lv_iload_n X.1 X.2.1 dX0_count_11 rfl (lv_at hl 1 rfl) ?_
    refine lv_iconst (v := iI (5)) X.1 X.2.1 dX0_count_12 rfl ?_
    refine i_icmp_ne X 23 dX0_count_13 (by decide) (by first | omega | exact bI_iR _ | (split <;> first | omega | exact bI_iR _)) (by first | omega | exact bI_iR _ | (split <;> first | omega | exact bI_iR _)) (fun c13 => ?_) (fun c13 => ?_)
    · refine lv_aload_n X.1 X.2.1 dX0_count_23 rfl (lv_at hl 0 rfl) ?_
      refine n_get (ci := 0) X in_X0 hW hG hO rfl 7 (by decide) q144 (fun _ h => h) rfl dX0_count_24 ?_
      refine ret _ _ _ _ _ _ _ _ _ ?_ (rfl) (by show 0 ≤ 0; first | omega | exact bI_iR _ | (split <;> first | omega | exact bI_iR _)) (by show 0 ≤ 0; first | omega | exact bI_iR _ | (split <;> first | omega | exact bI_iR _)) hG hS dX0_count_27
      exact ⟨by first | (rw [if_pos c13]; done) | (rw [if_neg c13, if_pos (by omega)]), rfl, rfl⟩
    · refine lv_aload_n X.1 X.2.1 dX0_count_16 rfl (lv_at hl 0 rfl) ?_
      refine n_get (ci := 0) X in_X0 hW hG hO rfl 1 (by decide) q138 (fun _ h => h) rfl dX0_count_17 ?_
      refine lv_goto (tgt := 27) X.1 X.2.1 dX0_count_20 (by decide) ?_
      refine ret _ _ _ _ _ _ _ _ _ ?_ (rfl) (by show 0 ≤ 0; first | omega | exact bI_iR _ | (split <;> first | omega | exact bI_iR _)) (by show 0 ≤ 0; first | omega | exact bI_iR _ | (split <;> first | omega | exact bI_iR _)) hG hS dX0_count_27
      exact ⟨by first | (rw [if_pos c13]; done) | (rw [if_neg c13, if_pos (by omega)]), rfl, rfl⟩
  · refine lv_iload_n X.1 X.2.1 dX0_count_5 rfl (lv_at hl 1 rfl) ?_
    refine lv_bipush (v := iI (8)) X.1 X.2.1 dX0_count_6 (by decide) ?_
    refine i_icmp_ne X 28 dX0_count_8 (by decide) (by first | omega | exact bI_iR _ | (split <;> first | omega | exact bI_iR _)) (by first | omega | exact bI_iR _ | (split <;> first | omega | exact bI_iR _)) (fun c8 => ?_) (fun c8 => ?_)
    · refine lv_iload_n X.1 X.2.1 dX0_count_28 rfl (lv_at hl 1 rfl) ?_
      refine i_i2l X (by first | omega | exact bI_iR _ | (split <;> first | omega | exact bI_iR _)) dX0_count_29 ?_
      refine lv_lconst (v := lI (0)) X.1 X.2.1 dX0_count_30 rfl ?_
      refine lv_ldc2 (v := lI (7)) X.1 X.2.1 X.2.2.2.1 (X.2.2.2.2 _ q1167) dX0_count_31 ?_
      refine g_callS (rest := []) (k := 3) X hW hG hS (gg_in l G A (lv - 1) h n a 0 7 (by omega) (by omega) (by omega)) (lw_S q798 q248 q66 q249) (by decide +kernel) rfl ⟨by show (lv - 1) + 1 ≤ lv; omega, by show 8 + (6 + 11) + 40 * (lv - 1) ≤ 40 * lv; omega⟩ ⟨by show 0 + 0 ≤ 0; first | omega | exact bI_iR _ | (split <;> first | omega | exact bI_iR _), by show 0 + 0 ≤ 0; first | omega | exact bI_iR _ | (split <;> first | omega | exact bI_iR _)⟩ hl.1 rfl (Nat.le_of_ble_eq_true rfl) dX0_count_34 (g_pk (fun H locs hG hS => ?_))
      show W p l e (gR lv 0 0) s m args below meth c H locs 0 0 Q (F0 m 37 ls [.int (iI (bI (decide (0 ≤ a) && decide (a ≤ 7))))])
      refine i_if_ne X 43 dX0_count_37 (by decide) (bI_iR _) (fun c37 => ?_) (fun c37 => ?_)
      · have c37 := bI_ne0.mp c37
        have c37 : 0 ≤ a ∧ a ≤ 7 := by simpa using c37
        refine lv_aload_n X.1 X.2.1 dX0_count_43 rfl (lv_at hl 0 rfl) ?_
        refine n_get (ci := 0) X in_X0 hW hG hO rfl 4 (by decide) q141 (fun _ h => h) rfl dX0_count_44 ?_
        refine lv_ifnonnull (tgt := 52) X.1 X.2.1 dX0_count_47 (by decide) ?_
        refine lv_iconst (v := iI (0)) X.1 X.2.1 dX0_count_52 rfl ?_
        refine lv_istore_n (lv' := [(2, .int (iI (0))), (0, .ref x0), (1, .int (iI (a)))]) X.1 X.2.1 dX0_count_53 rfl hl (by decide) rfl (fun ls hl => ?_)
        refine lv_iconst (v := iI (0)) X.1 X.2.1 dX0_count_54 rfl ?_
        refine lv_istore_n (lv' := [(3, .int (iI (0))), (2, .int (iI (0))), (0, .ref x0), (1, .int (iI (a)))]) X.1 X.2.1 dX0_count_55 rfl hl (by decide) rfl (fun ls hl => ?_)
        refine lv_iconst (v := iI (0)) X.1 X.2.1 dX0_count_56 rfl ?_
        refine lv_istore (lv' := [(4, .int (iI (0))), (3, .int (iI (0))), (2, .int (iI (0))), (0, .ref x0), (1, .int (iI (a)))]) X.1 X.2.1 dX0_count_57 hl (by decide) rfl (fun ls hl => ?_)
        refine lv_iconst (v := iI (0)) X.1 X.2.1 dX0_count_59 rfl ?_
        refine lv_istore (lv' := [(5, .int (iI (0))), (4, .int (iI (0))), (3, .int (iI (0))), (2, .int (iI (0))), (0, .ref x0), (1, .int (iI (a)))]) X.1 X.2.1 dX0_count_60 hl (by decide) rfl (fun ls hl => ?_)
        have L62 : ∀ (N62 : Nat) (m1 m2 m3 : Int) (k : Nat), ((k : Int) ≤ S.1 40) → (m1 = cntB (spCall S) k) → (m2 = cntB (spReady S) k) → (m3 = cntB (fun k => decide (S.2 41 k = 1) && decide (spReads S k = -9)) k) → (S.1 40).toNat - k < N62 → ∀ (H : Heap) (locs : List Loc) (ls : Array Slot), gOn G.1 A h n H → va_S A s.heap H locs → lv_has ls 7 [(0, .ref x0), (1, .int (iI (a))), (2, .int (iI (m1))), (3, .int (iI (m2))), (4, .int (iI (m3))), (5, .int (iI ((k : Int))))] → W p l e (gR lv 0 0) s m args below meth c H locs 0 0 Q (F0 m 62 ls []) := by
          intro N62
          induction N62 with
          | zero => intro m1 m2 m3 k hk hm1 hm2 hm3 hN; exact absurd hN (Nat.not_lt_zero _)
          | succ N62 ih62 =>
            intro m1 m2 m3 k hk hm1 hm2 hm3 hN62 H locs ls hG hS hl
            refine lv_iload X.1 X.2.1 dX0_count_62 (lv_at hl 5 rfl) ?_
            refine lv_aload_n X.1 X.2.1 dX0_count_64 rfl (lv_at hl 0 rfl) ?_
            refine n_get (ci := 0) X in_X0 hW hG hO rfl 9 (by decide) q146 (fun _ h => h) rfl dX0_count_65 ?_
            refine i_icmp_ge X 154 dX0_count_68 (by decide) (by first | omega | exact bI_iR _ | (split <;> first | omega | exact bI_iR _)) (by first | omega | exact bI_iR _ | (split <;> first | omega | exact bI_iR _)) (fun c68 => ?_) (fun c68 => ?_)
            · have hkN : k = (S.1 40).toNat := by omega
              refine lv_iload_n X.1 X.2.1 dX0_count_154 rfl (lv_at hl 1 rfl) ?_
              refine i_if_ne X 165 dX0_count_155 (by decide) (by first | omega | exact bI_iR _ | (split <;> first | omega | exact bI_iR _)) (fun c155 => ?_) (fun c155 => ?_)
              · refine lv_iload_n X.1 X.2.1 dX0_count_165 rfl (lv_at hl 1 rfl) ?_
                refine lv_iconst (v := iI (1)) X.1 X.2.1 dX0_count_166 rfl ?_
                refine i_icmp_ne X 180 dX0_count_167 (by decide) (by first | omega | exact bI_iR _ | (split <;> first | omega | exact bI_iR _)) (by first | omega | exact bI_iR _ | (split <;> first | omega | exact bI_iR _)) (fun c167 => ?_) (fun c167 => ?_)
                · refine lv_iload_n X.1 X.2.1 dX0_count_180 rfl (lv_at hl 1 rfl) ?_
                  refine lv_iconst (v := iI (2)) X.1 X.2.1 dX0_count_181 rfl ?_
                  refine i_icmp_ne X 195 dX0_count_182 (by decide) (by first | omega | exact bI_iR _ | (split <;> first | omega | exact bI_iR _)) (by first | omega | exact bI_iR _ | (split <;> first | omega | exact bI_iR _)) (fun c182 => ?_) (fun c182 => ?_)
                  · refine lv_iload_n X.1 X.2.1 dX0_count_195 rfl (lv_at hl 1 rfl) ?_
                    refine lv_iconst (v := iI (3)) X.1 X.2.1 dX0_count_196 rfl ?_
                    refine i_icmp_ne X 204 dX0_count_197 (by decide) (by first | omega | exact bI_iR _ | (split <;> first | omega | exact bI_iR _)) (by first | omega | exact bI_iR _ | (split <;> first | omega | exact bI_iR _)) (fun c197 => ?_) (fun c197 => ?_)
                    · refine lv_iload_n X.1 X.2.1 dX0_count_204 rfl (lv_at hl 1 rfl) ?_
                      refine lv_iconst (v := iI (4)) X.1 X.2.1 dX0_count_205 rfl ?_
                      refine i_icmp_ne X 213 dX0_count_206 (by decide) (by first | omega | exact bI_iR _ | (split <;> first | omega | exact bI_iR _)) (by first | omega | exact bI_iR _ | (split <;> first | omega | exact bI_iR _)) (fun c206 => ?_) (fun c206 => ?_)
                      · refine lv_iload_n X.1 X.2.1 dX0_count_213 rfl (lv_at hl 1 rfl) ?_
                        refine lv_bipush (v := iI (6)) X.1 X.2.1 dX0_count_214 (by decide) ?_
                        refine i_icmp_ne X 226 dX0_count_216 (by decide) (by first | omega | exact bI_iR _ | (split <;> first | omega | exact bI_iR _)) (by first | omega | exact bI_iR _ | (split <;> first | omega | exact bI_iR _)) (fun c216 => ?_) (fun c216 => ?_)
                        · refine lv_iload X.1 X.2.1 dX0_count_226 (lv_at hl 4 rfl) ?_
                          refine ret _ _ _ _ _ _ _ _ _ ?_ (rfl) (by show 0 ≤ 0; first | omega | exact bI_iR _ | (split <;> first | omega | exact bI_iR _)) (by show 0 ≤ 0; first | omega | exact bI_iR _ | (split <;> first | omega | exact bI_iR _)) hG hS dX0_count_228
                          refine ⟨?_, rfl, rfl⟩
                          rw [if_neg (by omega), if_neg (by omega), if_pos c37]
                          first
                            | (rw [if_pos c155]; done)
                            | (rw [if_neg c155, if_pos c167, hrl]; done)
                            | (rw [if_neg c155, if_neg c167, if_pos c182, hsl]; done)
                            | (rw [if_neg c155, if_neg c167, if_neg c182, if_neg (by omega), if_pos c197, hm1, hkN]; done)
                            | (rw [if_neg c155, if_neg c167, if_neg c182, if_neg (by omega), if_neg c197, if_pos c206, hm2, hkN]; done)
                            | (rw [if_neg c155, if_neg c167, if_neg c182, if_pos c216]; done)
                            | (rw [if_neg c155, if_neg c167, if_neg c182, if_neg c216, if_neg c197, if_neg c206, hm3, hkN])
                        · refine lv_aload_n X.1 X.2.1 dX0_count_219 rfl (lv_at hl 0 rfl) ?_
                          refine n_get (ci := 0) X in_X0 hW hG hO rfl 6 (by decide) q143 (fun _ h => h) rfl dX0_count_220 ?_
                          refine lv_goto (tgt := 228) X.1 X.2.1 dX0_count_223 (by decide) ?_
                          refine ret _ _ _ _ _ _ _ _ _ ?_ (rfl) (by show 0 ≤ 0; first | omega | exact bI_iR _ | (split <;> first | omega | exact bI_iR _)) (by show 0 ≤ 0; first | omega | exact bI_iR _ | (split <;> first | omega | exact bI_iR _)) hG hS dX0_count_228
                          refine ⟨?_, rfl, rfl⟩
                          rw [if_neg (by omega), if_neg (by omega), if_pos c37]
                          first
                            | (rw [if_pos c155]; done)
                            | (rw [if_neg c155, if_pos c167, hrl]; done)
                            | (rw [if_neg c155, if_neg c167, if_pos c182, hsl]; done)
                            | (rw [if_neg c155, if_neg c167, if_neg c182, if_neg (by omega), if_pos c197, hm1, hkN]; done)
                            | (rw [if_neg c155, if_neg c167, if_neg c182, if_neg (by omega), if_neg c197, if_pos c206, hm2, hkN]; done)
                            | (rw [if_neg c155, if_neg c167, if_neg c182, if_pos c216]; done)
                            | (rw [if_neg c155, if_neg c167, if_neg c182, if_neg c216, if_neg c197, if_neg c206, hm3, hkN])
                      · refine lv_iload_n X.1 X.2.1 dX0_count_209 rfl (lv_at hl 3 rfl) ?_
                        refine lv_goto (tgt := 228) X.1 X.2.1 dX0_count_210 (by decide) ?_
                        refine ret _ _ _ _ _ _ _ _ _ ?_ (rfl) (by show 0 ≤ 0; first | omega | exact bI_iR _ | (split <;> first | omega | exact bI_iR _)) (by show 0 ≤ 0; first | omega | exact bI_iR _ | (split <;> first | omega | exact bI_iR _)) hG hS dX0_count_228
                        refine ⟨?_, rfl, rfl⟩
                        rw [if_neg (by omega), if_neg (by omega), if_pos c37]
                        first
                          | (rw [if_pos c155]; done)
                          | (rw [if_neg c155, if_pos c167, hrl]; done)
                          | (rw [if_neg c155, if_neg c167, if_pos c182, hsl]; done)
                          | (rw [if_neg c155, if_neg c167, if_neg c182, if_neg (by omega), if_pos c197, hm1, hkN]; done)
                          | (rw [if_neg c155, if_neg c167, if_neg c182, if_neg (by omega), if_neg c197, if_pos c206, hm2, hkN]; done)
                          | (rw [if_neg c155, if_neg c167, if_neg c182, if_pos c216]; done)
                          | (rw [if_neg c155, if_neg c167, if_neg c182, if_neg c216, if_neg c197, if_neg c206, hm3, hkN])
                    · refine lv_iload_n X.1 X.2.1 dX0_count_200 rfl (lv_at hl 2 rfl) ?_
                      refine lv_goto (tgt := 228) X.1 X.2.1 dX0_count_201 (by decide) ?_
                      refine ret _ _ _ _ _ _ _ _ _ ?_ (rfl) (by show 0 ≤ 0; first | omega | exact bI_iR _ | (split <;> first | omega | exact bI_iR _)) (by show 0 ≤ 0; first | omega | exact bI_iR _ | (split <;> first | omega | exact bI_iR _)) hG hS dX0_count_228
                      refine ⟨?_, rfl, rfl⟩
                      rw [if_neg (by omega), if_neg (by omega), if_pos c37]
                      first
                        | (rw [if_pos c155]; done)
                        | (rw [if_neg c155, if_pos c167, hrl]; done)
                        | (rw [if_neg c155, if_neg c167, if_pos c182, hsl]; done)
                        | (rw [if_neg c155, if_neg c167, if_neg c182, if_neg (by omega), if_pos c197, hm1, hkN]; done)
                        | (rw [if_neg c155, if_neg c167, if_neg c182, if_neg (by omega), if_neg c197, if_pos c206, hm2, hkN]; done)
                        | (rw [if_neg c155, if_neg c167, if_neg c182, if_pos c216]; done)
                        | (rw [if_neg c155, if_neg c167, if_neg c182, if_neg c216, if_neg c197, if_neg c206, hm3, hkN])
                  · refine lv_aload_n X.1 X.2.1 dX0_count_185 rfl (lv_at hl 0 rfl) ?_
                    refine n_get (ci := 0) X in_X0 hW hG hO rfl 5 (by decide) q142 (fun _ h => h) rfl dX0_count_186 ?_
                    refine g_callV (ci := 17) (rest := []) (k := 0) X hW hG hS hLS rfl (al_size l G A (lv - 1) h n (x0 + 2) ((List.range (S.1 49).toNat).map sa) qs hSL) (lw_V q723 q323 q324 q69 q325) (by decide +kernel) rfl ⟨by show (lv - 1) + 1 ≤ lv; omega, by show 8 + (1 + 11) + 40 * (lv - 1) ≤ 40 * lv; omega⟩ ⟨by show 0 + 0 ≤ 0; first | omega | exact bI_iR _ | (split <;> first | omega | exact bI_iR _), by show 0 + 0 ≤ 0; first | omega | exact bI_iR _ | (split <;> first | omega | exact bI_iR _)⟩ hl.1 rfl (Nat.le_of_ble_eq_true rfl) dX0_count_189 (g_pk (fun H locs hG hS => ?_))
                    show W p l e (gR lv 0 0) s m args below meth c H locs 0 0 Q (F0 m 192 ls [.int (iI ((((List.range (S.1 49).toNat).map sa).length : Int)))])
                    refine lv_goto (tgt := 228) X.1 X.2.1 dX0_count_192 (by decide) ?_
                    refine ret _ _ _ _ _ _ _ _ _ ?_ (rfl) (by show 0 ≤ 0; first | omega | exact bI_iR _ | (split <;> first | omega | exact bI_iR _)) (by show 0 ≤ 0; first | omega | exact bI_iR _ | (split <;> first | omega | exact bI_iR _)) hG hS dX0_count_228
                    refine ⟨?_, rfl, rfl⟩
                    rw [if_neg (by omega), if_neg (by omega), if_pos c37]
                    first
                      | (rw [if_pos c155]; done)
                      | (rw [if_neg c155, if_pos c167, hrl]; done)
                      | (rw [if_neg c155, if_neg c167, if_pos c182, hsl]; done)
                      | (rw [if_neg c155, if_neg c167, if_neg c182, if_neg (by omega), if_pos c197, hm1, hkN]; done)
                      | (rw [if_neg c155, if_neg c167, if_neg c182, if_neg (by omega), if_neg c197, if_pos c206, hm2, hkN]; done)
                      | (rw [if_neg c155, if_neg c167, if_neg c182, if_pos c216]; done)
                      | (rw [if_neg c155, if_neg c167, if_neg c182, if_neg c216, if_neg c197, if_neg c206, hm3, hkN])
                · refine lv_aload_n X.1 X.2.1 dX0_count_170 rfl (lv_at hl 0 rfl) ?_
                  refine n_get (ci := 0) X in_X0 hW hG hO rfl 3 (by decide) q140 (fun _ h => h) rfl dX0_count_171 ?_
                  refine g_callV (ci := 17) (rest := []) (k := 0) X hW hG hS hLR rfl (al_size l G A (lv - 1) h n rl ((List.range (S.1 29).toNat).map ru) (S.1 29).toNat hR.2.1) (lw_V q723 q323 q324 q69 q325) (by decide +kernel) rfl ⟨by show (lv - 1) + 1 ≤ lv; omega, by show 8 + (1 + 11) + 40 * (lv - 1) ≤ 40 * lv; omega⟩ ⟨by show 0 + 0 ≤ 0; first | omega | exact bI_iR _ | (split <;> first | omega | exact bI_iR _), by show 0 + 0 ≤ 0; first | omega | exact bI_iR _ | (split <;> first | omega | exact bI_iR _)⟩ hl.1 rfl (Nat.le_of_ble_eq_true rfl) dX0_count_174 (g_pk (fun H locs hG hS => ?_))
                  show W p l e (gR lv 0 0) s m args below meth c H locs 0 0 Q (F0 m 177 ls [.int (iI ((((List.range (S.1 29).toNat).map ru).length : Int)))])
                  refine lv_goto (tgt := 228) X.1 X.2.1 dX0_count_177 (by decide) ?_
                  refine ret _ _ _ _ _ _ _ _ _ ?_ (rfl) (by show 0 ≤ 0; first | omega | exact bI_iR _ | (split <;> first | omega | exact bI_iR _)) (by show 0 ≤ 0; first | omega | exact bI_iR _ | (split <;> first | omega | exact bI_iR _)) hG hS dX0_count_228
                  refine ⟨?_, rfl, rfl⟩
                  rw [if_neg (by omega), if_neg (by omega), if_pos c37]
                  first
                    | (rw [if_pos c155]; done)
                    | (rw [if_neg c155, if_pos c167, hrl]; done)
                    | (rw [if_neg c155, if_neg c167, if_pos c182, hsl]; done)
                    | (rw [if_neg c155, if_neg c167, if_neg c182, if_neg (by omega), if_pos c197, hm1, hkN]; done)
                    | (rw [if_neg c155, if_neg c167, if_neg c182, if_neg (by omega), if_neg c197, if_pos c206, hm2, hkN]; done)
                    | (rw [if_neg c155, if_neg c167, if_neg c182, if_pos c216]; done)
                    | (rw [if_neg c155, if_neg c167, if_neg c182, if_neg c216, if_neg c197, if_neg c206, hm3, hkN])
              · refine lv_aload_n X.1 X.2.1 dX0_count_158 rfl (lv_at hl 0 rfl) ?_
                refine n_get (ci := 0) X in_X0 hW hG hO rfl 9 (by decide) q146 (fun _ h => h) rfl dX0_count_159 ?_
                refine lv_goto (tgt := 228) X.1 X.2.1 dX0_count_162 (by decide) ?_
                refine ret _ _ _ _ _ _ _ _ _ ?_ (rfl) (by show 0 ≤ 0; first | omega | exact bI_iR _ | (split <;> first | omega | exact bI_iR _)) (by show 0 ≤ 0; first | omega | exact bI_iR _ | (split <;> first | omega | exact bI_iR _)) hG hS dX0_count_228
                refine ⟨?_, rfl, rfl⟩
                rw [if_neg (by omega), if_neg (by omega), if_pos c37]
                first
                  | (rw [if_pos c155]; done)
                  | (rw [if_neg c155, if_pos c167, hrl]; done)
                  | (rw [if_neg c155, if_neg c167, if_pos c182, hsl]; done)
                  | (rw [if_neg c155, if_neg c167, if_neg c182, if_neg (by omega), if_pos c197, hm1, hkN]; done)
                  | (rw [if_neg c155, if_neg c167, if_neg c182, if_neg (by omega), if_neg c197, if_pos c206, hm2, hkN]; done)
                  | (rw [if_neg c155, if_neg c167, if_neg c182, if_pos c216]; done)
                  | (rw [if_neg c155, if_neg c167, if_neg c182, if_neg c216, if_neg c197, if_neg c206, hm3, hkN])
            · have hb1 := cntB_in (spCall S) k
              have hb2 := cntB_in (spReady S) k
              have hb3 := cntB_in (fun k => decide (S.2 41 k = 1) && decide (spReads S k = -9)) k
              have hwk := hT.w (i := (k : Int)) (by omega) (by omega)
              have hrc : spReady S (k : Int) = true → spCall S (k : Int) = true := fun z => by unfold spReady at z; simp only [Bool.and_eq_true] at z; exact z.1.1
              have hbc := bI_01 (spCall S (k : Int))
              have K97 : ∀ (q1 q9 : Int), (q1 = cntB (spCall S) (k + 1)) → (q9 = (if spReady S (k : Int) = true then 2 else bI (spCall S (k : Int)))) → ∀ (H : Heap) (locs : List Loc) (ls : Array Slot), gOn G.1 A h n H → va_S A s.heap H locs → lv_has ls 7 [(0, .ref x0), (1, .int (iI (a))), (2, .int (iI (q1))), (3, .int (iI (m2))), (4, .int (iI (m3))), (5, .int (iI ((k : Int)))), (6, .int (iI (q9)))] → W p l e (gR lv 0 0) s m args below meth c H locs 0 0 Q (F0 m 97 ls []) := by
                intro q1 q9 hq1 hq9 H locs ls hG hS hl
                have K111 : ∀ (q2 : Int), (q2 = cntB (spReady S) (k + 1)) → ∀ (H : Heap) (locs : List Loc) (ls : Array Slot), gOn G.1 A h n H → va_S A s.heap H locs → lv_has ls 7 [(0, .ref x0), (1, .int (iI (a))), (2, .int (iI (q1))), (3, .int (iI (q2))), (4, .int (iI (m3))), (5, .int (iI ((k : Int))))] → W p l e (gR lv 0 0) s m args below meth c H locs 0 0 Q (F0 m 111 ls []) := by
                  intro q2 hq2 H locs ls hG hS hl
                  have K148 : ∀ (q3 : Int), (q3 = cntB (fun k => decide (S.2 41 k = 1) && decide (spReads S k = -9)) (k + 1)) → ∀ (H : Heap) (locs : List Loc) (ls : Array Slot), gOn G.1 A h n H → va_S A s.heap H locs → lv_has ls 7 [(0, .ref x0), (1, .int (iI (a))), (2, .int (iI (q1))), (3, .int (iI (q2))), (4, .int (iI (q3))), (5, .int (iI ((k : Int))))] → W p l e (gR lv 0 0) s m args below meth c H locs 0 0 Q (F0 m 148 ls []) := by
                    intro q3 hq3 H locs ls hG hS hl
                    refine i_inc (lv' := [(5, .int (iI ((k : Int) + 1))), (0, .ref x0), (1, .int (iI (a))), (2, .int (iI (q1))), (3, .int (iI (q2))), (4, .int (iI (q3)))]) X dX0_count_148 hl (k := 5) rfl (by decide) rfl (fun ls hl => ?_)
                    refine lv_goto (tgt := 62) X.1 X.2.1 dX0_count_151 (by decide) ?_
                    exact ih62 q1 q2 q3 (k + 1) (by omega) hq1 hq2 hq3 (by omega) H locs ls hG hS (lv_sub hl [1, 2, 3, 4, 5, 0] rfl)
                  refine lv_iload X.1 X.2.1 dX0_count_111 (lv_at hl 4 rfl) ?_
                  refine lv_aload_n X.1 X.2.1 dX0_count_113 rfl (lv_at hl 0 rfl) ?_
                  refine n_get (ci := 0) X in_X0 hW hG hO rfl 8 (by decide) q145 (fun _ h => h) rfl dX0_count_114 ?_
                  refine lv_iload X.1 X.2.1 dX0_count_117 (lv_at hl 5 rfl) ?_
                  refine n_row X hW hG hRo (i := (k : Int)) (by omega) (by omega) (by omega) dX0_count_119 ?_
                  have hI_119 := hV.it (i := (k : Int)) (by omega) (by omega)
                  refine g_callX (rest := [.int (iI (m3))]) (k := 0) X hW hG hS (vi_kind l G A (lv - 1) h n (rwS S) ad (1, 0) (inS S ad (k : Int)) (k : Int) (k : Int) hI_119 (hT.w (by omega) (by omega)).1) q799 q801 (gDecl_abs hW q800) (by decide +kernel) rfl ⟨by show (lv - 1) + 1 ≤ lv; omega, by show 40 + 40 * (lv - 1) ≤ 40 * lv; omega⟩ ⟨by show 0 + 0 ≤ 0; first | omega | exact bI_iR _ | (split <;> first | omega | exact bI_iR _), by show 0 + 0 ≤ 0; first | omega | exact bI_iR _ | (split <;> first | omega | exact bI_iR _)⟩ hl.1 rfl (Nat.le_of_ble_eq_true rfl) dX0_count_120 (g_pk (fun H locs hG hS => ?_))
                  show W p l e (gR lv 0 0) s m args below meth c H locs 0 0 Q (F0 m 123 ls [.int (iI (S.2 41 (k : Int))), .int (iI (m3))])
                  refine lv_iconst (v := iI (1)) X.1 X.2.1 dX0_count_123 rfl ?_
                  refine i_icmp_ne X 144 dX0_count_124 (by decide) (by first | omega | exact bI_iR _ | (split <;> first | omega | exact bI_iR _)) (by first | omega | exact bI_iR _ | (split <;> first | omega | exact bI_iR _)) (fun c124 => ?_) (fun c124 => ?_)
                  · refine lv_iconst (v := iI (0)) X.1 X.2.1 dX0_count_144 rfl ?_
                    refine i_add X dX0_count_145 ?_
                    refine lv_istore (lv' := [(4, .int (iI (m3 + 0))), (0, .ref x0), (1, .int (iI (a))), (2, .int (iI (q1))), (3, .int (iI (q2))), (5, .int (iI ((k : Int))))]) X.1 X.2.1 dX0_count_146 hl (by decide) rfl (fun ls hl => ?_)
                    exact K148 (m3 + 0) (by rw [show cntB (fun k => decide (S.2 41 k = 1) && decide (spReads S k = -9)) (k + 1) = cntB (fun k => decide (S.2 41 k = 1) && decide (spReads S k = -9)) k + bI (decide (S.2 41 (k : Int) = 1) && decide (spReads S (k : Int) = -9)) from rfl, ← hm3]; first | (rw [decide_eq_false c124]; rfl) | (rw [decide_eq_true c124, decide_eq_true hrd]; rfl) | (rw [decide_eq_true c124, decide_eq_false hrd]; rfl)) H locs ls hG hS (lv_sub hl [1, 2, 3, 4, 0, 5] rfl)
                  · refine lv_aload_n X.1 X.2.1 dX0_count_127 rfl (lv_at hl 0 rfl) ?_
                    refine n_get (ci := 0) X in_X0 hW hG hO rfl 8 (by decide) q145 (fun _ h => h) rfl dX0_count_128 ?_
                    refine lv_iload X.1 X.2.1 dX0_count_131 (lv_at hl 5 rfl) ?_
                    refine n_row X hW hG hRo (i := (k : Int)) (by omega) (by omega) (by omega) dX0_count_133 ?_
                    have hI_133 := hV.it (i := (k : Int)) (by omega) (by omega)
                    refine g_callX (rest := [.int (iI (m3))]) (k := 0) X hW hG hS (vi_reads l G A (lv - 1) h n S ad (k : Int) (by omega) hV (by omega) (by omega)) q841 q843 (gDecl_code X q842 q861) (by decide +kernel) rfl ⟨by show (lv - 1) + 1 ≤ lv; omega, by show 40 + 40 * (lv - 1) ≤ 40 * lv; omega⟩ ⟨by show 0 + 0 ≤ 0; first | omega | exact bI_iR _ | (split <;> first | omega | exact bI_iR _), by show 0 + 0 ≤ 0; first | omega | exact bI_iR _ | (split <;> first | omega | exact bI_iR _)⟩ hl.1 rfl (Nat.le_of_ble_eq_true rfl) dX0_count_134 (g_pk (fun H locs hG hS => ?_))
                    by_cases hrd : spReads S (k : Int) = -9
                    · rw [if_pos hrd]
                      show W p l e (gR lv 0 0) s m args below meth c H locs 0 0 Q (F0 m 137 ls [.null, .int (iI (m3))])
                      refine lv_ifnonnullN X.1 X.2.1 dX0_count_137 ?_
                      refine lv_iconst (v := iI (1)) X.1 X.2.1 dX0_count_140 rfl ?_
                      refine lv_goto (tgt := 145) X.1 X.2.1 dX0_count_141 (by decide) ?_
                      refine i_add X dX0_count_145 ?_
                      refine lv_istore (lv' := [(4, .int (iI (m3 + 1))), (0, .ref x0), (1, .int (iI (a))), (2, .int (iI (q1))), (3, .int (iI (q2))), (5, .int (iI ((k : Int))))]) X.1 X.2.1 dX0_count_146 hl (by decide) rfl (fun ls hl => ?_)
                      exact K148 (m3 + 1) (by rw [show cntB (fun k => decide (S.2 41 k = 1) && decide (spReads S k = -9)) (k + 1) = cntB (fun k => decide (S.2 41 k = 1) && decide (spReads S k = -9)) k + bI (decide (S.2 41 (k : Int) = 1) && decide (spReads S (k : Int) = -9)) from rfl, ← hm3]; first | (rw [decide_eq_false c124]; rfl) | (rw [decide_eq_true c124, decide_eq_true hrd]; rfl) | (rw [decide_eq_true c124, decide_eq_false hrd]; rfl)) H locs ls hG hS (lv_sub hl [1, 2, 3, 4, 0, 5] rfl)
                    · rw [if_neg hrd]
                      show W p l e (gR lv 0 0) s m args below meth c H locs 0 0 Q (F0 m 137 ls [.ref (ad (spReads S (k : Int))), .int (iI (m3))])
                      refine lv_ifnonnull (tgt := 144) X.1 X.2.1 dX0_count_137 (by decide) ?_
                      refine lv_iconst (v := iI (0)) X.1 X.2.1 dX0_count_144 rfl ?_
                      refine i_add X dX0_count_145 ?_
                      refine lv_istore (lv' := [(4, .int (iI (m3 + 0))), (0, .ref x0), (1, .int (iI (a))), (2, .int (iI (q1))), (3, .int (iI (q2))), (5, .int (iI ((k : Int))))]) X.1 X.2.1 dX0_count_146 hl (by decide) rfl (fun ls hl => ?_)
                      exact K148 (m3 + 0) (by rw [show cntB (fun k => decide (S.2 41 k = 1) && decide (spReads S k = -9)) (k + 1) = cntB (fun k => decide (S.2 41 k = 1) && decide (spReads S k = -9)) k + bI (decide (S.2 41 (k : Int) = 1) && decide (spReads S (k : Int) = -9)) from rfl, ← hm3]; first | (rw [decide_eq_false c124]; rfl) | (rw [decide_eq_true c124, decide_eq_true hrd]; rfl) | (rw [decide_eq_true c124, decide_eq_false hrd]; rfl)) H locs ls hG hS (lv_sub hl [1, 2, 3, 4, 0, 5] rfl)
                refine lv_iload_n X.1 X.2.1 dX0_count_97 rfl (lv_at hl 3 rfl) ?_
                refine lv_iload X.1 X.2.1 dX0_count_98 (lv_at hl 6 rfl) ?_
                refine lv_iconst (v := iI (1)) X.1 X.2.1 dX0_count_100 rfl ?_
                refine i_icmp_le X 108 dX0_count_101 (by decide) (by first | omega | exact bI_iR _ | (split <;> first | omega | exact bI_iR _)) (by first | omega | exact bI_iR _ | (split <;> first | omega | exact bI_iR _)) (fun c101 => ?_) (fun c101 => ?_)
                · refine lv_iconst (v := iI (0)) X.1 X.2.1 dX0_count_108 rfl ?_
                  refine i_add X dX0_count_109 ?_
                  refine lv_istore_n (lv' := [(3, .int (iI (m2 + 0))), (0, .ref x0), (1, .int (iI (a))), (2, .int (iI (q1))), (4, .int (iI (m3))), (5, .int (iI ((k : Int)))), (6, .int (iI (q9)))]) X.1 X.2.1 dX0_count_110 rfl hl (by decide) rfl (fun ls hl => ?_)
                  exact K111 (m2 + 0) (by rw [show cntB (spReady S) (k + 1) = cntB (spReady S) k + bI (spReady S k) from rfl, ← hm2]; by_cases y : spReady S (k : Int) = true; (rw [if_pos y] at hq9; rw [y]; first | omega | rfl); (rw [if_neg y] at hq9; rw [show spReady S (k : Int) = false by simpa using y]; first | omega | rfl)) H locs ls hG hS (lv_sub hl [1, 2, 3, 0, 4, 5] rfl)
                · refine lv_iconst (v := iI (1)) X.1 X.2.1 dX0_count_104 rfl ?_
                  refine lv_goto (tgt := 109) X.1 X.2.1 dX0_count_105 (by decide) ?_
                  refine i_add X dX0_count_109 ?_
                  refine lv_istore_n (lv' := [(3, .int (iI (m2 + 1))), (0, .ref x0), (1, .int (iI (a))), (2, .int (iI (q1))), (4, .int (iI (m3))), (5, .int (iI ((k : Int)))), (6, .int (iI (q9)))]) X.1 X.2.1 dX0_count_110 rfl hl (by decide) rfl (fun ls hl => ?_)
                  exact K111 (m2 + 1) (by rw [show cntB (spReady S) (k + 1) = cntB (spReady S) k + bI (spReady S k) from rfl, ← hm2]; by_cases y : spReady S (k : Int) = true; (rw [if_pos y] at hq9; rw [y]; first | omega | rfl); (rw [if_neg y] at hq9; rw [show spReady S (k : Int) = false by simpa using y]; first | omega | rfl)) H locs ls hG hS (lv_sub hl [1, 2, 3, 0, 4, 5] rfl)
              refine lv_aload_n X.1 X.2.1 dX0_count_71 rfl (lv_at hl 0 rfl) ?_
              refine lv_aload_n X.1 X.2.1 dX0_count_72 rfl (lv_at hl 0 rfl) ?_
              refine n_get (ci := 0) X in_X0 hW hG hO rfl 8 (by decide) q145 (fun _ h => h) rfl dX0_count_73 ?_
              refine lv_iload X.1 X.2.1 dX0_count_76 (lv_at hl 5 rfl) ?_
              refine n_row X hW hG hRo (i := (k : Int)) (by omega) (by omega) (by omega) dX0_count_78 ?_
              have hI_78 := hV.it (i := (k : Int)) (by omega) (by omega)
              refine g_callV (ci := 0) (rest := []) (k := 1) X hW hG hS hO rfl (gx_callOf l G A (lv - 1) h n x0 S ad rl ru ap (k : Int) (by omega) hX (by omega) (by omega)) (lw_V q871 q873 qs19 q66 q874) (by decide +kernel) rfl ⟨by show (lv - 1) + 1 ≤ lv; omega, by show 8 + (3 + 11) + 40 * (lv - 1) ≤ 40 * lv; omega⟩ ⟨by show 0 + 0 ≤ 0; first | omega | exact bI_iR _ | (split <;> first | omega | exact bI_iR _), by show 0 + 0 ≤ 0; first | omega | exact bI_iR _ | (split <;> first | omega | exact bI_iR _)⟩ hl.1 rfl (Nat.le_of_ble_eq_true rfl) dX0_count_79 (g_pk (fun H locs hG hS => ?_))
              show W p l e (gR lv 0 0) s m args below meth c H locs 0 0 Q (F0 m 82 ls [.int (iI ((if spReady S (k : Int) = true then 2 else bI (spCall S (k : Int)))))])
              refine lv_istore (lv' := [(6, .int (iI ((if spReady S (k : Int) = true then 2 else bI (spCall S (k : Int)))))), (0, .ref x0), (1, .int (iI (a))), (2, .int (iI (m1))), (3, .int (iI (m2))), (4, .int (iI (m3))), (5, .int (iI ((k : Int))))]) X.1 X.2.1 dX0_count_82 hl (by decide) rfl (fun ls hl => ?_)
              refine lv_iload_n X.1 X.2.1 dX0_count_84 rfl (lv_at hl 3 rfl) ?_
              refine lv_iload X.1 X.2.1 dX0_count_85 (lv_at hl 0 rfl) ?_
              refine i_if_le X 94 dX0_count_87 (by decide) (by first | omega | exact bI_iR _ | (split <;> first | omega | exact bI_iR _)) (fun c87 => ?_) (fun c87 => ?_)
              · refine lv_iconst (v := iI (0)) X.1 X.2.1 dX0_count_94 rfl ?_
                refine i_add X dX0_count_95 ?_
                refine lv_istore_n (lv' := [(2, .int (iI (m1 + 0))), (6, .int (iI ((if spReady S (k : Int) = true then 2 else bI (spCall S (k : Int)))))), (0, .ref x0), (1, .int (iI (a))), (3, .int (iI (m2))), (4, .int (iI (m3))), (5, .int (iI ((k : Int))))]) X.1 X.2.1 dX0_count_96 rfl hl (by decide) rfl (fun ls hl => ?_)
                exact K97 (m1 + 0) ((if spReady S (k : Int) = true then 2 else bI (spCall S (k : Int)))) (by rw [show cntB (spCall S) (k + 1) = cntB (spCall S) k + bI (spCall S k) from rfl, ← hm1]; first | (have z : spCall S (k : Int) = true := (by by_cases y : spReady S (k : Int) = true; (exact hrc y); (rw [if_neg y] at c87; by_cases y2 : spCall S (k : Int) = true; (exact y2); (rw [show spCall S (k : Int) = false by simpa using y2] at c87; exact absurd c87 (by decide)))); rw [z]; rfl) | (have z : spCall S (k : Int) = false := (by by_cases y : spReady S (k : Int) = true; (rw [if_pos y] at c87; omega); (rw [if_neg y] at c87; exact bI_eq0.mp (by omega))); rw [z]; rfl)) rfl H locs ls hG hS (lv_sub hl [2, 3, 0, 4, 5, 6, 1] rfl)
              · refine lv_iconst (v := iI (1)) X.1 X.2.1 dX0_count_90 rfl ?_
                refine lv_goto (tgt := 95) X.1 X.2.1 dX0_count_91 (by decide) ?_
                refine i_add X dX0_count_95 ?_
                refine lv_istore_n (lv' := [(2, .int (iI (m1 + 1))), (6, .int (iI ((if spReady S (k : Int) = true then 2 else bI (spCall S (k : Int)))))), (0, .ref x0), (1, .int (iI (a))), (3, .int (iI (m2))), (4, .int (iI (m3))), (5, .int (iI ((k : Int))))]) X.1 X.2.1 dX0_count_96 rfl hl (by decide) rfl (fun ls hl => ?_)
                exact K97 (m1 + 1) ((if spReady S (k : Int) = true then 2 else bI (spCall S (k : Int)))) (by rw [show cntB (spCall S) (k + 1) = cntB (spCall S) k + bI (spCall S k) from rfl, ← hm1]; first | (have z : spCall S (k : Int) = true := (by by_cases y : spReady S (k : Int) = true; (exact hrc y); (rw [if_neg y] at c87; by_cases y2 : spCall S (k : Int) = true; (exact y2); (rw [show spCall S (k : Int) = false by simpa using y2] at c87; exact absurd c87 (by decide)))); rw [z]; rfl) | (have z : spCall S (k : Int) = false := (by by_cases y : spReady S (k : Int) = true; (rw [if_pos y] at c87; omega); (rw [if_neg y] at c87; exact bI_eq0.mp (by omega))); rw [z]; rfl)) rfl H locs ls hG hS (lv_sub hl [2, 3, 0, 4, 5, 6, 1] rfl)
        exact L62 _ 0 0 0 0 (by omega) rfl rfl rfl (Nat.lt_succ_self _) H locs ls hG hS (lv_sub hl [4, 5, 3, 2, 1, 0] rfl)
      · have c37 := bI_eq0.mp c37
        refine lv_bipush (v := iI (-2)) X.1 X.2.1 dX0_count_40 (by decide) ?_
        refine ret _ _ _ _ _ _ _ _ _ ?_ (rfl) (by show 0 ≤ 0; first | omega | exact bI_iR _ | (split <;> first | omega | exact bI_iR _)) (by show 0 ≤ 0; first | omega | exact bI_iR _ | (split <;> first | omega | exact bI_iR _)) hG hS dX0_count_42
        exact ⟨by rw [if_neg (by omega), if_neg (by omega), if_neg (by intro z; simp at c37; omega)], rfl, rfl⟩
    · refine lv_iload_n X.1 X.2.1 dX0_count_11 rfl (lv_at hl 1 rfl) ?_
      refine lv_iconst (v := iI (5)) X.1 X.2.1 dX0_count_12 rfl ?_
      refine i_icmp_ne X 23 dX0_count_13 (by decide) (by first | omega | exact bI_iR _ | (split <;> first | omega | exact bI_iR _)) (by first | omega | exact bI_iR _ | (split <;> first | omega | exact bI_iR _)) (fun c13 => ?_) (fun c13 => ?_)
      · refine lv_aload_n X.1 X.2.1 dX0_count_23 rfl (lv_at hl 0 rfl) ?_
        refine n_get (ci := 0) X in_X0 hW hG hO rfl 7 (by decide) q144 (fun _ h => h) rfl dX0_count_24 ?_
        refine ret _ _ _ _ _ _ _ _ _ ?_ (rfl) (by show 0 ≤ 0; first | omega | exact bI_iR _ | (split <;> first | omega | exact bI_iR _)) (by show 0 ≤ 0; first | omega | exact bI_iR _ | (split <;> first | omega | exact bI_iR _)) hG hS dX0_count_27
        exact ⟨by first | (rw [if_pos c13]; done) | (rw [if_neg c13, if_pos (by omega)]), rfl, rfl⟩
      · refine lv_aload_n X.1 X.2.1 dX0_count_16 rfl (lv_at hl 0 rfl) ?_
        refine n_get (ci := 0) X in_X0 hW hG hO rfl 1 (by decide) q138 (fun _ h => h) rfl dX0_count_17 ?_
        refine lv_goto (tgt := 27) X.1 X.2.1 dX0_count_20 (by decide) ?_
        refine ret _ _ _ _ _ _ _ _ _ ?_ (rfl) (by show 0 ≤ 0; first | omega | exact bI_iR _ | (split <;> first | omega | exact bI_iR _)) (by show 0 ≤ 0; first | omega | exact bI_iR _ | (split <;> first | omega | exact bI_iR _)) hG hS dX0_count_27
        exact ⟨by first | (rw [if_pos c13]; done) | (rw [if_neg c13, if_pos (by omega)]), rfl, rfl⟩

set_option maxHeartbeats 4000000 in
theorem gx_countN (l : Launch) (G : gEnv) (A : Nat → Prop) (lv : Nat) (h : gH) (n : Nat) (x0 : Nat) (S : MSt) (rv : Value) (a : Int) (hlv : 1 ≤ lv) (hO0 : GOB h x0 S rv .null) (ha : iR a) : gC l yX0_count cX0_count 7 (some .int) G A lv 0 0 [.ref x0, .int (iI (a))] h n (gPure (some (.int (iI (if a = 5 then S.1 1 else if a = 8 then S.1 53 else if 0 ≤ a ∧ a ≤ 7 then (0) else -2)))) h n) := by
  refine gC_ofI RX0 (by decide +kernel) rfl (Nat.le_of_ble_eq_true rfl) ?_
  intro p e s m args below meth c Q X hW ret H locs ls hG hS hl
  have hl : lv_has ls 7 [(0, .ref x0), (1, .int (iI (a)))] := hl
  have hO := hO0
  unfold GOB gOv at hO
  
  refine lv_iload_n X.1 X.2.1 dX0_count_0 rfl (lv_at hl 1 rfl) ?_
  refine lv_iconst (v := iI (5)) X.1 X.2.1 dX0_count_1 rfl ?_
  refine i_icmp_eq X 11 dX0_count_2 (by decide) (by omega) (by omega) (fun c2 => ?_) (fun c2 => ?_)
  · refine lv_iload_n X.1 X.2.1 dX0_count_11 rfl (lv_at hl 1 rfl) ?_
    refine lv_iconst (v := iI (5)) X.1 X.2.1 dX0_count_12 rfl ?_
    refine i_icmp_ne X 23 dX0_count_13 (by decide) (by omega) (by omega) (fun c13 => ?_) (fun c13 => ?_)
    · refine lv_aload_n X.1 X.2.1 dX0_count_23 rfl (lv_at hl 0 rfl) ?_
      refine n_get (ci := 0) X in_X0 hW hG hO rfl 7 (by decide) q144 (fun _ h => h) rfl dX0_count_24 ?_
      refine ret _ _ _ _ _ _ _ _ _ ?_ (rfl) (by show 0 ≤ 0; omega) (by show 0 ≤ 0; omega) hG hS dX0_count_27
      exact ⟨by first | (rw [if_pos c13]; done) | (rw [if_neg c13, if_pos (by omega)]), rfl, rfl⟩
    · refine lv_aload_n X.1 X.2.1 dX0_count_16 rfl (lv_at hl 0 rfl) ?_
      refine n_get (ci := 0) X in_X0 hW hG hO rfl 1 (by decide) q138 (fun _ h => h) rfl dX0_count_17 ?_
      refine lv_goto (tgt := 27) X.1 X.2.1 dX0_count_20 (by decide) ?_
      refine ret _ _ _ _ _ _ _ _ _ ?_ (rfl) (by show 0 ≤ 0; omega) (by show 0 ≤ 0; omega) hG hS dX0_count_27
      exact ⟨by first | (rw [if_pos c13]; done) | (rw [if_neg c13, if_pos (by omega)]), rfl, rfl⟩
  · refine lv_iload_n X.1 X.2.1 dX0_count_5 rfl (lv_at hl 1 rfl) ?_
    refine lv_bipush (v := iI (8)) X.1 X.2.1 dX0_count_6 (by decide) ?_
    refine i_icmp_ne X 28 dX0_count_8 (by decide) (by omega) (by omega) (fun c8 => ?_) (fun c8 => ?_)
    · refine lv_iload_n X.1 X.2.1 dX0_count_28 rfl (lv_at hl 1 rfl) ?_
      refine i_i2l X (by omega) dX0_count_29 ?_
      refine lv_lconst (v := lI (0)) X.1 X.2.1 dX0_count_30 rfl ?_
      refine lv_ldc2 (v := lI (7)) X.1 X.2.1 X.2.2.2.1 (X.2.2.2.2 _ q1167) dX0_count_31 ?_
      refine g_callS (rest := []) (k := 3) X hW hG hS (gg_in l G A (lv - 1) h n a 0 7 (by omega) (by omega) (by omega)) (lw_S q798 q248 q66 q249) (by decide +kernel) rfl ⟨by show (lv - 1) + 1 ≤ lv; omega, by show 8 + (6 + 11) + 40 * (lv - 1) ≤ 40 * lv; omega⟩ ⟨by show 0 + 0 ≤ 0; omega, by show 0 + 0 ≤ 0; omega⟩ hl.1 rfl (Nat.le_of_ble_eq_true rfl) dX0_count_34 (g_pk (fun H locs hG hS => ?_))
      show W p l e (gR lv 0 0) s m args below meth c H locs 0 0 Q (F0 m 37 ls [.int (iI (bI (decide (0 ≤ a) && decide (a ≤ 7))))])
      refine i_if_ne X 43 dX0_count_37 (by decide) (bI_iR _) (fun c37 => ?_) (fun c37 => ?_)
      · have c37 := bI_ne0.mp c37
        have c37 : 0 ≤ a ∧ a ≤ 7 := by simpa using c37
        refine lv_aload_n X.1 X.2.1 dX0_count_43 rfl (lv_at hl 0 rfl) ?_
        refine n_get (ci := 0) X in_X0 hW hG hO rfl 4 (by decide) q141 (fun _ h => h) rfl dX0_count_44 ?_
        refine lv_ifnonnullN X.1 X.2.1 dX0_count_47 ?_
        refine lv_iconst (v := iI (0)) X.1 X.2.1 dX0_count_50 rfl ?_
        refine ret _ _ _ _ _ _ _ _ _ ?_ (rfl) (by show 0 ≤ 0; omega) (by show 0 ≤ 0; omega) hG hS dX0_count_51
        exact ⟨by rw [if_neg (by omega), if_neg (by omega), if_pos c37], rfl, rfl⟩
      · have c37 := bI_eq0.mp c37
        refine lv_bipush (v := iI (-2)) X.1 X.2.1 dX0_count_40 (by decide) ?_
        refine ret _ _ _ _ _ _ _ _ _ ?_ (rfl) (by show 0 ≤ 0; omega) (by show 0 ≤ 0; omega) hG hS dX0_count_42
        exact ⟨by rw [if_neg (by omega), if_neg (by omega), if_neg (by intro z; simp at c37; omega)], rfl, rfl⟩
    · refine lv_iload_n X.1 X.2.1 dX0_count_11 rfl (lv_at hl 1 rfl) ?_
      refine lv_iconst (v := iI (5)) X.1 X.2.1 dX0_count_12 rfl ?_
      refine i_icmp_ne X 23 dX0_count_13 (by decide) (by omega) (by omega) (fun c13 => ?_) (fun c13 => ?_)
      · refine lv_aload_n X.1 X.2.1 dX0_count_23 rfl (lv_at hl 0 rfl) ?_
        refine n_get (ci := 0) X in_X0 hW hG hO rfl 7 (by decide) q144 (fun _ h => h) rfl dX0_count_24 ?_
        refine ret _ _ _ _ _ _ _ _ _ ?_ (rfl) (by show 0 ≤ 0; omega) (by show 0 ≤ 0; omega) hG hS dX0_count_27
        exact ⟨by first | (rw [if_pos c13]; done) | (rw [if_neg c13, if_pos (by omega)]), rfl, rfl⟩
      · refine lv_aload_n X.1 X.2.1 dX0_count_16 rfl (lv_at hl 0 rfl) ?_
        refine n_get (ci := 0) X in_X0 hW hG hO rfl 1 (by decide) q138 (fun _ h => h) rfl dX0_count_17 ?_
        refine lv_goto (tgt := 27) X.1 X.2.1 dX0_count_20 (by decide) ?_
        refine ret _ _ _ _ _ _ _ _ _ ?_ (rfl) (by show 0 ≤ 0; omega) (by show 0 ≤ 0; omega) hG hS dX0_count_27
        exact ⟨by first | (rw [if_pos c13]; done) | (rw [if_neg c13, if_pos (by omega)]), rfl, rfl⟩

