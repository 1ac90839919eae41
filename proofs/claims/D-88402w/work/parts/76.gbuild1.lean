/-! ===== what a template is built with ===== -/
set_option maxRecDepth 100000
set_option maxHeartbeats 4000000 in
theorem gr_mark (l : Launch) (G : gEnv) (A : Nat → Prop) (lv : Nat) (h : gH) (n : Nat) (a b : Nat) (k0 : Int) : gC l yX9_mark cX9_mark 3 (some .int) G A lv 0 0 [.ref a, .int (iI (k0)), .ref b] h n (gPure (some (.int (iI k0))) h n) := by
  refine gC_ofI RX9 (by decide +kernel) rfl (Nat.le_of_ble_eq_true rfl) ?_
  intro p e s m args below meth c Q X hW ret H locs ls hG hS hl
  have hl : lv_has ls 3 [(0, .ref a), (1, .int (iI (k0))), (2, .ref b)] := hl
  refine lv_iload_n X.1 X.2.1 dX9_mark_0 rfl (lv_at hl 1 rfl) ?_
  refine ret _ _ _ _ _ _ _ _ _ ?_ (rfl) (by show 0 ≤ 0; omega) (by show 0 ≤ 0; omega) hG hS dX9_mark_1
  exact ⟨rfl, rfl, rfl⟩

set_option maxHeartbeats 4000000 in
theorem gw_mark (l : Launch) (G : gEnv) (A : Nat → Prop) (lv : Nat) (h : gH) (n : Nat) (a : Nat) (k0 : Int) (S : MSt) (ad : Int → Nat) (i : Int) (hV : LV G h S ad) (h0 : 0 ≤ i) (hn : i < S.1 40) (hw : S.2 41 i = 1) : gC l yX10_mark cX10_mark 3 (some .int) G A lv 0 0 [.ref a, .int (iI (k0)), .ref (ad i)] h n (gPure (some (.int (iI (S.2 43 i)))) h n) := by
  refine gC_ofI RX10 (by decide +kernel) rfl (Nat.le_of_ble_eq_true rfl) ?_
  intro p e s m args below meth c Q X hW ret H locs ls hG hS hl
  have hl : lv_has ls 3 [(0, .ref a), (1, .int (iI (k0))), (2, .ref (ad i))] := hl
  have hN := hV.nam h0 hn hw
  refine lv_aload_n X.1 X.2.1 dX10_mark_0 rfl (lv_at hl 2 rfl) ?_
  refine n_getN (ci := 12) X in_X14 hW hG hN rfl 5 (by decide) q675 (fun _ h => h) rfl dX10_mark_1 ?_
  refine ret _ _ _ _ _ _ _ _ _ ?_ (rfl) (by show 0 ≤ 0; omega) (by show 0 ≤ 0; omega) hG hS dX10_mark_4
  exact ⟨rfl, rfl, rfl⟩

theorem vr_mark (l : Launch) (G : gEnv) (A : Nat → Prop) (lv : Nat) (h : gH) (n : Nat) (S : MSt) (ad : Int → Nat) (i : Int) (rl : Nat) (ru : Nat → Nat) (ap : Int → Nat) (r : Nat) (hV : LV G h S ad) (h0 : 0 ≤ i) (hn : i < S.1 40) (hw : S.2 41 i = 1) (hR : RUL G h S rl ru ap) (hr : (r : Int) < S.1 29) (k0 : Int) : gVC l yX9_mark G A lv 0 0 (ru r) [.int (iI k0), .ref (ad i)] h n (gPure (some (.int (iI (if S.2 31 r = 0 then k0 else S.2 43 i)))) h n) := by
  have e := (hR.2.2 r hr).1
  unfold ruE at e
  by_cases hz : S.2 31 r = 0
  · rw [if_pos hz] at e ⊢
    exact ⟨_, 8, _, _, yX9_mark, _, 3, _, e, rfl, gr_mark l G A lv h n (ru r) (ad i) k0, q974, q973, q89, q979, by decide⟩
  · rw [if_neg hz] at e ⊢
    exact ⟨_, 9, _, _, yX10_mark, _, 3, _, e, rfl, gw_mark l G A lv h n (ru r) k0 S ad i hV h0 hn hw, q976, q977, q90, q978, by decide⟩
set_option maxHeartbeats 4000000 in
theorem gb_init (l : Launch) (G : gEnv) (A : Nat → Prop) (lv : Nat) (h : gH) (n : Nat) (a fl : Nat) (tg : gT) (st mk : Int) (hlv : 1 ≤ lv) (hI : h a = some (tg, .inr (15, [.null, .int (iI (0)), .int (iI (0))]))) : gC l yX17_init cX17_init 4 none G A lv 0 0 [.ref a, .ref fl, .int (iI (st)), .int (iI (mk))] h n (fun v h' n' => v = none ∧ h' = va_up h a (some (tg, .inr (15, [.ref fl, .int (iI (st)), .int (iI (mk))]))) ∧ n' = n) := by
  refine gC_ofV RX17 (by decide +kernel) rfl (Nat.le_of_ble_eq_true rfl) ?_
  intro p e s m args below meth c Q X hinit hW ret H locs ls hG hS hl
  have hl : lv_has ls 4 [(0, .ref a), (1, .ref fl), (2, .int (iI (st))), (3, .int (iI (mk)))] := hl
  refine lv_aload_n X.1 X.2.1 dX17_init_0 rfl (lv_at hl 0 rfl) ?_
  refine W.objInit X.1 X.2.1 X.2.2.2.1 (X.2.2.2.2 _ q983) (X.2.2.2.2 _ q106) (X.2.2.2.2 _ q107) rfl (hl.1.trans X.2.2.1.symm) rfl dX17_init_1 (by show 1 ≤ lv; omega) (by show 2 * 0 + 0 + 12 ≤ 40 * lv; omega) ?_
  show W p l e (gR lv 0 0) s m args below meth c H locs 0 0 Q (F0 m 4 ls [])
  refine lv_aload_n X.1 X.2.1 dX17_init_4 rfl (lv_at hl 0 rfl) ?_
  refine lv_aload_n X.1 X.2.1 dX17_init_5 rfl (lv_at hl 1 rfl) ?_
  refine n_putF (ci := 15) X in_X17 tyX17 tyX17_ok nmX17 hW hG hS hI rfl 0 (by decide) q984 (fun _ h => h) rfl hinit rfl rfl rfl (Nat.le_of_ble_eq_true rfl) (fs' := [.ref fl, .int (iI (0)), .int (iI (0))]) rfl dX17_init_6 (fun H locs hG hS => ?_)
  obtain ⟨h1, eh1⟩ : ∃ hz, hz = va_up h a (some (tg, .inr (15, [.ref fl, .int (iI (0)), .int (iI (0))]))) := ⟨_, rfl⟩
  rw [← eh1] at hG
  have f1_a : h1 a = some (tg, .inr (15, [.ref fl, .int (iI (0)), .int (iI (0))])) := by rw [eh1]; exact up_s _ _ _
  refine lv_aload_n X.1 X.2.1 dX17_init_9 rfl (lv_at hl 0 rfl) ?_
  refine lv_iload_n X.1 X.2.1 dX17_init_10 rfl (lv_at hl 2 rfl) ?_
  refine n_putF (ci := 15) X in_X17 tyX17 tyX17_ok nmX17 hW hG hS f1_a rfl 1 (by decide) q985 (fun _ h => h) rfl hinit rfl rfl rfl (Nat.le_of_ble_eq_true rfl) (fs' := [.ref fl, .int (iI (st)), .int (iI (0))]) rfl dX17_init_11 (fun H locs hG hS => ?_)
  obtain ⟨h2, eh2⟩ : ∃ hz, hz = va_up h1 a (some (tg, .inr (15, [.ref fl, .int (iI (st)), .int (iI (0))]))) := ⟨_, rfl⟩
  rw [← eh2] at hG
  have f2_a : h2 a = some (tg, .inr (15, [.ref fl, .int (iI (st)), .int (iI (0))])) := by rw [eh2]; exact up_s _ _ _
  refine lv_aload_n X.1 X.2.1 dX17_init_14 rfl (lv_at hl 0 rfl) ?_
  refine lv_iload_n X.1 X.2.1 dX17_init_15 rfl (lv_at hl 3 rfl) ?_
  refine n_putF (ci := 15) X in_X17 tyX17 tyX17_ok nmX17 hW hG hS f2_a rfl 2 (by decide) q989 (fun _ h => h) rfl hinit rfl rfl rfl (Nat.le_of_ble_eq_true rfl) (fs' := [.ref fl, .int (iI (st)), .int (iI (mk))]) rfl dX17_init_16 (fun H locs hG hS => ?_)
  obtain ⟨h3, eh3⟩ : ∃ hz, hz = va_up h2 a (some (tg, .inr (15, [.ref fl, .int (iI (st)), .int (iI (mk))]))) := ⟨_, rfl⟩
  rw [← eh3] at hG
  have f3_a : h3 a = some (tg, .inr (15, [.ref fl, .int (iI (st)), .int (iI (mk))])) := by rw [eh3]; exact up_s _ _ _
  refine ret _ _ _ _ _ _ _ _ ?_ (by show 0 ≤ 0; omega) (by show 0 ≤ 0; omega) hG hS dX17_init_19
  exact ⟨rfl, by rw [eh3, eh2, eh1, up_up, up_up], rfl⟩

/-- WHAT A TEMPLATE IS BUILT WITH is in the heap -/
def BLD (G : gEnv) (h : gH) (S : MSt) (ad : Int → Nat) (bb : Nat) (ys : List Nat) (ts : List (Int × Int × Int)) (st mk : Int) : Prop :=
  ∃ fl q : Nat, h bb = some ((6, 0), .inr (15, [.ref fl, .int (iI st), .int (iI mk)])) ∧ AL G h fl ys q ∧ FL G h S ad fl ys ts
theorem BLD.sub {G : gEnv} {h h' : gH} {S : MSt} {ad : Int → Nat} {bb : Nat} {ys : List Nat} {ts : List (Int × Int × Int)} {st mk : Int} (hB : BLD G h S ad bb ys ts st mk) (hs : gSub h h') : BLD G h' S ad bb ys ts st mk := by
  obtain ⟨fl, q, h1, h2, h3⟩ := hB
  exact ⟨fl, q, hs _ _ h1, h2.sub hs, h3.sub hs⟩
/-- what names of rule r fit at item i -/
def spTs (S : MSt) (r : Nat) (i : Int) : List (Int × Int × Int) := spFss S (S.2 32 r) 0 (chh (S.2 46) i 1) (i + S.2 46 i)
set_option maxHeartbeats 4000000 in
/-- what a template is built with, for a call that fits -/
theorem gr_readied (l : Launch) (G : gEnv) (A : Nat → Prop) (lv : Nat) (h : gH) (n : Nat) (S : MSt) (ad : Int → Nat) (i : Int) (rl : Nat) (ru : Nat → Nat) (ap : Int → Nat) (r : Nat) (st : Int) (hlv : 1025 ≤ lv) (hV : LV G h S ad) (h0 : 0 ≤ i) (hn : i < S.1 40) (hw : S.2 41 i = 3) (hR : RUL G h S rl ru ap) (hr : (r : Int) < S.1 29) (hft : spFit S r i = true) (hq9 : 0 + (spTs S r i).length < 2000) : gC l yX9_readied cX9_readied 5 (some (FieldType.object "MacroGlass$Build")) G A lv (1 + (fMc 0 0 (i + S.2 46 i - chh (S.2 46) i 1) (spTs S r i) + 3) + 1) (3 + (fMs 0 0 (i + S.2 46 i - chh (S.2 46) i 1) (spTs S r i) + 15) + 3) [.ref (ru r), .ref (ad i), .int (iI (st))] h n (fun v h' n' => ∃ bb, v = some (.ref bb) ∧ (∃ ys, BLD G h' S ad bb ys (spTs S r i) st (if S.2 31 (r : Int) = 0 then st else S.2 43 (i + 1))) ∧ gSub h h' ∧ n ≤ n') := by
  refine gC_ofA (Or.inl ⟨_, rfl⟩) RX9 (by decide +kernel) rfl (Nat.le_of_ble_eq_true rfl) ?_
  intro p e s m args below meth c Q X hW ret H locs ls hG hS hl
  have hl : lv_has ls 5 [(0, .ref (ru r)), (1, .ref (ad i)), (2, .int (iI (st)))] := hl
  obtain ⟨hI, hA⟩ := hV.lst h0 hn (by omega)
  obtain ⟨tgA, moA, dA, hLA, hAr⟩ := id hA
  have hT := hV.1.1
  have hp := hT.p h0 hn
  have hnn := hV.1.n
  have hRr := hR.2.2 r hr
  have hPR := hR.1.2 r (by omega) hr
  have hPR1 := hPR.1
  have hPR3 := hPR.2.2.1
  have hPR4 := hPR.2.2.2.1
  have hPR5 := hPR.2.2.2.2.1
  have hC := hR.pat hr
  obtain ⟨⟨pl0, -, hP0⟩, -⟩ := hC.1 (S.2 32 r) (Int.le_refl _) (by omega)
  rw [paE2 (P := pwS S) hPR.2.1] at hP0
  have hna := hT.named h0 hn (by omega)
  have hkd := hT.kid h0 hn (by omega) (j := 0) (by omega)
  have ec0 : chh (S.2 46) i 0 = i + 1 := rfl
  have hN1 := hV.nam (i := i + 1) (by omega) (by omega) hna.2
  have hk1 := (hV.2.2.2 (i + 1) (by omega) (by omega)).1 hna.2
  have hr1 : lR (gLt (S.2 42 (i + 1))) := by have := gLt_rng hk1; omega
  have hr2 : lR (gLt (S.2 30 (r : Int))) := by have := gLt_rng hRr.2.1; omega
  have hlf := hT.leaf (i := i + 1) (by omega) (by omega) (by omega)
  have ec1 : chh (S.2 46) i 1 = i + 2 := by show i + 1 + S.2 46 (i + 1) = i + 2; omega
  have hsx : spXs S (S.2 32 r) 0 (chh (S.2 46) i 1) (i + S.2 46 i) = true := by rw [ec1, ← spFit_s hPR]; exact hft
  have hG0 := hG
  have hGo := hG
  refine n_new (ci := 17) (fs := [.int (iI (0)), .null, .int (iI (0))]) X in_J2 tyJ2 tyJ2_ok q732 q109 q69 hW hG hS rfl (2, 0) (by decide +kernel) (by show 0 + 1 ≤ 1 + (fMc 0 0 (i + S.2 46 i - chh (S.2 46) i 1) (spTs S r i) + 3) + 1; first | omega | exact Nat.le_refl _) (by show 0 + 3 ≤ 3 + (fMs 0 0 (i + S.2 46 i - chh (S.2 46) i 1) (spTs S r i) + 15) + 3; first | omega | exact Nat.le_refl _) dX9_readied_0 (fun H hG hS => ?_)
  obtain ⟨h2, eh2⟩ : ∃ hz, hz = va_up h n (some ((2, 0), .inr (17, [.int (iI (0)), .null, .int (iI (0))]))) := ⟨_, rfl⟩
  rw [← eh2] at hG
  have f2_n : h2 n = some ((2, 0), .inr (17, [.int (iI (0)), .null, .int (iI (0))])) := by rw [eh2]; exact up_s _ _ _
  refine lv_dup X.1 X.2.1 dX9_readied_3 rfl ?_
  refine g_callI (rest := [.ref n]) (k := 0) X hW hG hS (al_init l G A (lv - 1) h2 (n + 1) n (2, 0) (by omega) f2_n) q733 q111 q69 (lw_meth q112) rfl (by decide +kernel) rfl ⟨by show (lv - 1) + 1 ≤ lv; omega, by show 8 + (1 + 11) + 40 * (lv - 1) ≤ 40 * lv; omega⟩ ⟨by show 1 + 0 ≤ 1 + (fMc 0 0 (i + S.2 46 i - chh (S.2 46) i 1) (spTs S r i) + 3) + 1; first | omega | exact Nat.le_refl _, by show 3 + 0 ≤ 3 + (fMs 0 0 (i + S.2 46 i - chh (S.2 46) i 1) (spTs S r i) + 15) + 3; first | omega | exact Nat.le_refl _⟩ hl.1 rfl (Nat.le_of_ble_eq_true rfl) dX9_readied_4 (fun v3 h3 n3 H locs hp3 hG hS => ?_)
  obtain ⟨rfl, ehz, hn1⟩ := hp3
  rw [hn1] at hG
  have hLf : h3 n = some ((2, 0), .inr (17, [.int (iI (0)), .ref (G.2.2.1 0), .int (iI (0))])) := by rw [ehz]; exact up_s _ _ _
  have hs1 : gSub h h3 := fun x y e9 => by have := hG0.lt e9; rw [ehz, up_n (by omega), eh2, up_n (by omega)]; exact e9
  have hAf : AL G h3 n [] 0 := ⟨(2, 0), 0, G.2.2.1 0, hLf, ⟨by decide, fun z => absurd z (Nat.lt_irrefl _)⟩, Nat.le_refl _, by omega, Or.inl ⟨rfl, rfl⟩, fun x hx => by cases hx⟩
  have hP1 := hs1 _ _ hP0
  have hRr1 := hs1 _ _ hRr.1
  show W p l e (gR lv (1 + (fMc 0 0 (i + S.2 46 i - chh (S.2 46) i 1) (spTs S r i) + 3) + 1) (3 + (fMs 0 0 (i + S.2 46 i - chh (S.2 46) i 1) (spTs S r i) + 15) + 3)) s m args below meth c H locs 1 3 Q (F0 m 7 ls [.ref n])
  refine lv_astore_n (lv' := [(3, .ref n), (0, .ref (ru r)), (1, .ref (ad i)), (2, .int (iI (st)))]) X.1 X.2.1 dX9_readied_7 rfl hl (by decide) rfl (fun ls hl => ?_)
  refine lv_aload_n X.1 X.2.1 dX9_readied_8 rfl (lv_at hl 1 rfl) ?_
  refine ru_patterns X hW hG hRr1 q564 dX9_readied_9 ?_
  refine lv_aload_n X.1 X.2.1 dX9_readied_12 rfl (lv_at hl 2 rfl) ?_
  refine lv_iconst (v := iI (1)) X.1 X.2.1 dX9_readied_13 rfl ?_
  refine lv_aload_n X.1 X.2.1 dX9_readied_14 rfl (lv_at hl 0 rfl) ?_
  refine g_callV (ci := 4) (rest := []) (k := 3) X hW hG hS hP1 rfl (gpp_fitsLA l G A (lv - 1) h3 (n + 1) S ad ap (S.2 32 r) (S.2 33 r) (S.2 32 r) i 1 h n [] 0 (by omega) hV hC hs1 (fun a x e9 => hG0.lt e9) hAf h0 hn (by omega) (by omega) hPR.2.2.2.2.2.2.2.1 ⟨by omega, by omega⟩ hPR.2.1 hsx hq9 (fun k hk h7 t ht hnx h1 n1 xs q0 hs hA hq2 => vp_fitsA l G A S ad ap _ _ h n hV hPR.2.2.2.2.2.2.2.1 hC (fun a x e9 => hG0.lt e9) 601 _ _ (by have := PN.kid hPR.2.2.2.2.2.2.2.1 (P := S.2 32 r) (by omega) (by omega) hPR.2.1 hk; omega) (by have := PN.kid hPR.2.2.2.2.2.2.2.1 (P := S.2 32 r) (by omega) (by omega) hPR.2.1 hk; omega) (by have := PN.kid hPR.2.2.2.2.2.2.2.1 (P := S.2 32 r) (by omega) (by omega) hPR.2.1 hk; omega) h7 (by have := PN.kid hPR.2.2.2.2.2.2.2.1 (P := S.2 32 r) (by omega) (by omega) hPR.2.1 hk; omega) t ht hnx h1 n1 xs q0 hs hA hq2)) (lw_V q898 q899 q900 q81 q901) (by decide +kernel) rfl ⟨by show (lv - 1) + 1 ≤ lv; omega, by show 8 + (7 + 11) + 40 * (lv - 1) ≤ 40 * lv; omega⟩ ⟨by show 1 + (fMc 0 0 (i + S.2 46 i - chh (S.2 46) i 1) (spTs S r i) + 3) ≤ 1 + (fMc 0 0 (i + S.2 46 i - chh (S.2 46) i 1) (spTs S r i) + 3) + 1; first | omega | exact Nat.le_refl _, by show 3 + (fMs 0 0 (i + S.2 46 i - chh (S.2 46) i 1) (spTs S r i) + 15) ≤ 3 + (fMs 0 0 (i + S.2 46 i - chh (S.2 46) i 1) (spTs S r i) + 15) + 3; first | omega | exact Nat.le_refl _⟩ hl.1 rfl (Nat.le_of_ble_eq_true rfl) dX9_readied_15 (fun v4 h4 n4 H locs hp4 hG hS => ?_)
  obtain ⟨rfl, ⟨ys, hA2, hFL2⟩, hx2, hc2, hn2⟩ := hp4
  rw [List.nil_append] at hA2
  have hs2 := hs1.low (fun a x e9 => hG0.lt e9) hx2
  obtain ⟨tg2, mo2, d2, hLf2, hr2⟩ := id hA2
  have hnl2 := hG.lt hLf2
  have hGo2 := hG
  show W p l e (gR lv (1 + (fMc 0 0 (i + S.2 46 i - chh (S.2 46) i 1) (spTs S r i) + 3) + 1) (3 + (fMs 0 0 (i + S.2 46 i - chh (S.2 46) i 1) (spTs S r i) + 15) + 3)) s m args below meth c H locs (1 + (fMc 0 0 (i + S.2 46 i - chh (S.2 46) i 1) (spTs S r i) + 3)) (3 + (fMs 0 0 (i + S.2 46 i - chh (S.2 46) i 1) (spTs S r i) + 15)) Q (F0 m 18 ls [.int (iI (1))])
  refine lv_istore (lv' := [(4, .int (iI (1))), (3, .ref n), (0, .ref (ru r)), (1, .ref (ad i)), (2, .int (iI (st)))]) X.1 X.2.1 dX9_readied_18 hl (by decide) rfl (fun ls hl => ?_)
  have hGo := hG
  refine n_new (ci := 15) (fs := [.null, .int (iI (0)), .int (iI (0))]) X in_X17 tyX17 tyX17_ok q970 q971 q98 hW hG hS rfl (6, 0) (by decide +kernel) (by show 1 + (fMc 0 0 (i + S.2 46 i - chh (S.2 46) i 1) (spTs S r i) + 3) + 1 ≤ 1 + (fMc 0 0 (i + S.2 46 i - chh (S.2 46) i 1) (spTs S r i) + 3) + 1; first | omega | exact Nat.le_refl _) (by show 3 + (fMs 0 0 (i + S.2 46 i - chh (S.2 46) i 1) (spTs S r i) + 15) + 3 ≤ 3 + (fMs 0 0 (i + S.2 46 i - chh (S.2 46) i 1) (spTs S r i) + 15) + 3; first | omega | exact Nat.le_refl _) dX9_readied_20 (fun H hG hS => ?_)
  obtain ⟨h6, eh6⟩ : ∃ hz, hz = va_up h4 n4 (some ((6, 0), .inr (15, [.null, .int (iI (0)), .int (iI (0))]))) := ⟨_, rfl⟩
  rw [← eh6] at hG
  have f6_n4 : h6 n4 = some ((6, 0), .inr (15, [.null, .int (iI (0)), .int (iI (0))])) := by rw [eh6]; exact up_s _ _ _
  have hs3 : gSub h h6 := hs2.trans (fun x y e9 => by have := hGo2.lt e9; rw [eh6, up_n (by omega)]; exact e9)
  have hV3 := hV.sub hs3
  obtain ⟨hI3, hA3⟩ := hV3.lst h0 hn (by omega)
  obtain ⟨tg3, mo3, d3, hLA3, hAr3⟩ := id hA3
  have hN3 := hV3.nam (i := i + 1) (by omega) (by omega) hna.2
  refine lv_dup X.1 X.2.1 dX9_readied_23 rfl ?_
  refine lv_aload_n X.1 X.2.1 dX9_readied_24 rfl (lv_at hl 1 rfl) ?_
  refine lv_iload_n X.1 X.2.1 dX9_readied_25 rfl (lv_at hl 4 rfl) ?_
  refine lv_aload_n X.1 X.2.1 dX9_readied_26 rfl (lv_at hl 2 rfl) ?_
  refine lv_iload_n X.1 X.2.1 dX9_readied_27 rfl (lv_at hl 4 rfl) ?_
  refine lv_aload_n X.1 X.2.1 dX9_readied_28 rfl (lv_at hl 3 rfl) ?_
  refine n_getN (ci := 10) X in_X12 hW hG hI3 rfl 4 (by decide) q593 (fun _ h => h) rfl dX9_readied_29 ?_
  refine lv_iconst (v := iI (0)) X.1 X.2.1 dX9_readied_32 rfl ?_
  refine g_callV (ci := 17) (rest := [.int (iI (st)), .ref (ru r), .int (iI (st)), .ref n, .ref n4, .ref n4]) (k := 1) X hW hG hS hLA3 rfl (al_get l G A (lv - 1) h6 (n4 + 1) (ad i + 1) (chs (rwS S) ad i) (S.2 47 i).toNat 0 (ad (i + 1)) (by omega) hA3 (by omega) (hV3.part (j := 0) (by omega))) (lw_V q755 q691 q692 q69 q693) (by decide +kernel) rfl ⟨by show (lv - 1) + 1 ≤ lv; omega, by show 8 + (2 + 11) + 40 * (lv - 1) ≤ 40 * lv; omega⟩ ⟨by show (1 + (fMc 0 0 (i + S.2 46 i - chh (S.2 46) i 1) (spTs S r i) + 3) + 1) + 0 ≤ 1 + (fMc 0 0 (i + S.2 46 i - chh (S.2 46) i 1) (spTs S r i) + 3) + 1; first | omega | exact Nat.le_refl _, by show (3 + (fMs 0 0 (i + S.2 46 i - chh (S.2 46) i 1) (spTs S r i) + 15) + 3) + 0 ≤ 3 + (fMs 0 0 (i + S.2 46 i - chh (S.2 46) i 1) (spTs S r i) + 15) + 3; first | omega | exact Nat.le_refl _⟩ hl.1 rfl (Nat.le_of_ble_eq_true rfl) dX9_readied_33 (g_pk (fun H locs hG hS => ?_))
  show W p l e (gR lv (1 + (fMc 0 0 (i + S.2 46 i - chh (S.2 46) i 1) (spTs S r i) + 3) + 1) (3 + (fMs 0 0 (i + S.2 46 i - chh (S.2 46) i 1) (spTs S r i) + 15) + 3)) s m args below meth c H locs (1 + (fMc 0 0 (i + S.2 46 i - chh (S.2 46) i 1) (spTs S r i) + 3) + 1) (3 + (fMs 0 0 (i + S.2 46 i - chh (S.2 46) i 1) (spTs S r i) + 15) + 3) Q (F0 m 36 ls [.ref (ad (i + 1)), .int (iI (st)), .ref (ru r), .int (iI (st)), .ref n, .ref n4, .ref n4])
  refine n_cast (ci := 12) X hW hG hN3 rfl q897 (Or.inr rfl) dX9_readied_36 ?_
  refine g_callX (rest := [.int (iI (st)), .ref n, .ref n4, .ref n4]) (k := 2) X hW hG hS (vr_mark l G A (lv - 1) h6 (n4 + 1) S ad (i + 1) rl ru ap r hV3 (by omega) (by omega) hna.2 (hR.sub hs3) hr st) q972 q975 (gDecl_code X q973 q979) (by decide +kernel) rfl ⟨by show (lv - 1) + 1 ≤ lv; omega, by show 40 + 40 * (lv - 1) ≤ 40 * lv; omega⟩ ⟨by show (1 + (fMc 0 0 (i + S.2 46 i - chh (S.2 46) i 1) (spTs S r i) + 3) + 1) + 0 ≤ 1 + (fMc 0 0 (i + S.2 46 i - chh (S.2 46) i 1) (spTs S r i) + 3) + 1; first | omega | exact Nat.le_refl _, by show (3 + (fMs 0 0 (i + S.2 46 i - chh (S.2 46) i 1) (spTs S r i) + 15) + 3) + 0 ≤ 3 + (fMs 0 0 (i + S.2 46 i - chh (S.2 46) i 1) (spTs S r i) + 15) + 3; first | omega | exact Nat.le_refl _⟩ hl.1 rfl (Nat.le_of_ble_eq_true rfl) dX9_readied_39 (g_pk (fun H locs hG hS => ?_))
  show W p l e (gR lv (1 + (fMc 0 0 (i + S.2 46 i - chh (S.2 46) i 1) (spTs S r i) + 3) + 1) (3 + (fMs 0 0 (i + S.2 46 i - chh (S.2 46) i 1) (spTs S r i) + 15) + 3)) s m args below meth c H locs (1 + (fMc 0 0 (i + S.2 46 i - chh (S.2 46) i 1) (spTs S r i) + 3) + 1) (3 + (fMs 0 0 (i + S.2 46 i - chh (S.2 46) i 1) (spTs S r i) + 15) + 3) Q (F0 m 42 ls [.int (iI (if S.2 31 (r : Int) = 0 then st else S.2 43 (i + 1))), .int (iI (st)), .ref n, .ref n4, .ref n4])
  refine g_callI (rest := [.ref n4]) (k := 3) X hW hG hS (gb_init l G A (lv - 1) h6 (n4 + 1) n4 n (6, 0) st (if S.2 31 (r : Int) = 0 then st else S.2 43 (i + 1)) (by omega) f6_n4) q980 q981 q98 (lw_meth q982) rfl (by decide +kernel) rfl ⟨by show (lv - 1) + 1 ≤ lv; omega, by show 8 + (4 + 11) + 40 * (lv - 1) ≤ 40 * lv; omega⟩ ⟨by show (1 + (fMc 0 0 (i + S.2 46 i - chh (S.2 46) i 1) (spTs S r i) + 3) + 1) + 0 ≤ 1 + (fMc 0 0 (i + S.2 46 i - chh (S.2 46) i 1) (spTs S r i) + 3) + 1; first | omega | exact Nat.le_refl _, by show (3 + (fMs 0 0 (i + S.2 46 i - chh (S.2 46) i 1) (spTs S r i) + 15) + 3) + 0 ≤ 3 + (fMs 0 0 (i + S.2 46 i - chh (S.2 46) i 1) (spTs S r i) + 15) + 3; first | omega | exact Nat.le_refl _⟩ hl.1 rfl (Nat.le_of_ble_eq_true rfl) dX9_readied_42 (fun v7 h7 n7 H locs hp7 hG hS => ?_)
  obtain ⟨rfl, ehb, hnb⟩ := hp7
  rw [hnb] at hG
  show W p l e (gR lv (1 + (fMc 0 0 (i + S.2 46 i - chh (S.2 46) i 1) (spTs S r i) + 3) + 1) (3 + (fMs 0 0 (i + S.2 46 i - chh (S.2 46) i 1) (spTs S r i) + 15) + 3)) s m args below meth c H locs (1 + (fMc 0 0 (i + S.2 46 i - chh (S.2 46) i 1) (spTs S r i) + 3) + 1) (3 + (fMs 0 0 (i + S.2 46 i - chh (S.2 46) i 1) (spTs S r i) + 15) + 3) Q (F0 m 45 ls [.ref n4])
  refine ret _ _ _ _ _ _ _ _ _ ?_ (Or.inr ⟨_, rfl⟩) (by show 1 + (fMc 0 0 (i + S.2 46 i - chh (S.2 46) i 1) (spTs S r i) + 3) + 1 ≤ 1 + (fMc 0 0 (i + S.2 46 i - chh (S.2 46) i 1) (spTs S r i) + 3) + 1; first | omega | exact Nat.le_refl _) (by show 3 + (fMs 0 0 (i + S.2 46 i - chh (S.2 46) i 1) (spTs S r i) + 15) + 3 ≤ 3 + (fMs 0 0 (i + S.2 46 i - chh (S.2 46) i 1) (spTs S r i) + 15) + 3; first | omega | exact Nat.le_refl _) hG hS dX9_readied_45
  have hsB : gSub h4 h7 := fun x y e9 => by have := hGo2.lt e9; rw [ehb, up_n (by omega), eh6, up_n (by omega)]; exact e9
  refine ⟨_, rfl, ⟨ys, n, _, by rw [ehb]; exact up_s _ _ _, hA2.sub hsB, hFL2.sub hsB⟩, hs2.trans hsB, by omega⟩

/-- the first fit of a name: none, or one -/
def OFQ (S : MSt) (v : Int) (ys : List Nat) (ts : List (Int × Int × Int)) (o : Option Nat) : Prop :=
  (o = none ∧ ∀ (j : Nat) (tr : Int × Int × Int), ts[j]? = some tr → S.2 35 tr.1 ≠ v) ∨ ∃ (k : Nat) (tr : Int × Int × Int) (y : Nat), ts[k]? = some tr ∧ ys[k]? = some y ∧ o = some y ∧ S.2 35 tr.1 = v ∧ ∀ (j : Nat) (tr' : Int × Int × Int), j < k → ts[j]? = some tr' → S.2 35 tr'.1 ≠ v
set_option maxHeartbeats 4000000 in
/-- the fit of a name -/
theorem gb_of (l : Launch) (G : gEnv) (A : Nat → Prop) (lv : Nat) (h : gH) (n : Nat) (S : MSt) (ad : Int → Nat) (bb : Nat) (ys : List Nat) (ts : List (Int × Int × Int)) (st mk v : Int) (hlv : 3 ≤ lv) (hB : BLD G h S ad bb ys ts st mk) (hv : wOk v) (hok : ∀ (j : Nat) (tr : Int × Int × Int), ts[j]? = some tr → wOk (S.2 35 tr.1)) : gC l yX17_of cX17_of 4 (some (FieldType.object "MacroGlass$Fit")) G A lv 0 0 [.ref bb, .long (lI (gLt v))] h n (fun x h' n' => ∃ o, x = some (va_rf o) ∧ OFQ S v ys ts o ∧ h' = h ∧ n' = n) := by
  refine gC_ofA (Or.inl ⟨_, rfl⟩) RX17 (by decide +kernel) rfl (Nat.le_of_ble_eq_true rfl) ?_
  intro p e s m args below meth c Q X hW ret H locs ls hG hS hl
  have hl : lv_has ls 4 [(0, .ref bb), (1, .long (lI (gLt v)))] := hl
  obtain ⟨fl, qf, hBb, hA, hFL⟩ := hB
  obtain ⟨tgF, moF, dF, hLF, hFr⟩ := id hA
  have hle := hFL.1
  have hqA := hA.q
  have hr2 : lR (gLt v) := by have := gLt_rng hv; omega
  refine lv_iconst (v := iI (0)) X.1 X.2.1 dX17_of_0 rfl ?_
  refine lv_istore_n (lv' := [(3, .int (iI (0))), (0, .ref bb), (1, .long (lI (gLt v)))]) X.1 X.2.1 dX17_of_1 rfl hl (by decide) rfl (fun ls hl => ?_)
  have L2 : ∀ (N2 : Nat) (k : Nat), (k ≤ ys.length) → (∀ (j : Nat) (tr' : Int × Int × Int), j < k → ts[j]? = some tr' → S.2 35 tr'.1 ≠ v) → ys.length - k < N2 → ∀ (H : Heap) (locs : List Loc) (ls : Array Slot), gOn G.1 A h n H → va_S A s.heap H locs → lv_has ls 4 [(0, .ref bb), (1, .long (lI (gLt v))), (3, .int (iI ((k : Int))))] → W p l e (gR lv 0 0) s m args below meth c H locs 0 0 Q (F0 m 2 ls []) := by
    intro N2
    induction N2 with
    | zero => intro k hk hno hN; exact absurd hN (Nat.not_lt_zero _)
    | succ N2 ih2 =>
      intro k hk hno hN2 H locs ls hG hS hl
      refine lv_iload_n X.1 X.2.1 dX17_of_2 rfl (lv_at hl 2 rfl) ?_
      refine lv_aload_n X.1 X.2.1 dX17_of_3 rfl (lv_at hl 0 rfl) ?_
      refine n_get (ci := 15) X in_X17 hW hG hBb rfl 0 (by decide) q984 (fun _ h => h) rfl dX17_of_4 ?_
      refine g_callV (ci := 17) (rest := [.int (iI ((k : Int)))]) (k := 0) X hW hG hS hLF rfl (al_size l G A (lv - 1) h n fl ys qf hA) (lw_V q1014 q323 q324 q69 q325) (by decide +kernel) rfl ⟨by show (lv - 1) + 1 ≤ lv; omega, by show 8 + (1 + 11) + 40 * (lv - 1) ≤ 40 * lv; omega⟩ ⟨by show 0 + 0 ≤ 0; first | omega | exact hr1 | exact hr2, by show 0 + 0 ≤ 0; first | omega | exact hr1 | exact hr2⟩ hl.1 rfl (Nat.le_of_ble_eq_true rfl) dX17_of_7 (g_pk (fun H locs hG hS => ?_))
      show W p l e (gR lv 0 0) s m args below meth c H locs 0 0 Q (F0 m 10 ls [.int (iI ((ys.length : Int))), .int (iI ((k : Int)))])
      refine i_icmp_ge X 50 dX17_of_10 (by decide) (by first | omega | exact hr1 | exact hr2) (by first | omega | exact hr1 | exact hr2) (fun c10 => ?_) (fun c10 => ?_)
      · refine lv_null X.1 X.2.1 dX17_of_50 ?_
        refine ret _ _ _ _ _ _ _ _ _ ?_ (Or.inl rfl) (by show 0 ≤ 0; first | omega | exact hr1 | exact hr2) (by show 0 ≤ 0; first | omega | exact hr1 | exact hr2) hG hS dX17_of_51
        exact ⟨none, rfl, Or.inl ⟨rfl, fun j t b => hno j t (by have := (List.getElem?_eq_some_iff.mp b).1; omega) b⟩, rfl, rfl⟩
      · obtain ⟨y9, hy9⟩ : ∃ y, ys[k]? = some y := ⟨_, List.getElem?_eq_getElem (by omega)⟩
        obtain ⟨tr9, ht9⟩ : ∃ t, ts[k]? = some t := ⟨_, List.getElem?_eq_getElem (by omega)⟩
        have hFk := hFL.2 k y9 tr9 hy9 ht9
        have hw9 := hok k tr9 ht9
        have hr1 : lR (gLt (S.2 35 tr9.1)) := by have := gLt_rng hw9; omega
        refine lv_aload_n X.1 X.2.1 dX17_of_13 rfl (lv_at hl 0 rfl) ?_
        refine n_get (ci := 15) X in_X17 hW hG hBb rfl 0 (by decide) q984 (fun _ h => h) rfl dX17_of_14 ?_
        refine lv_iload_n X.1 X.2.1 dX17_of_17 rfl (lv_at hl 2 rfl) ?_
        refine g_callV (ci := 17) (rest := []) (k := 1) X hW hG hS hLF rfl (al_get l G A (lv - 1) h n fl ys qf (k : Int) y9 (by omega) hA (by omega) (by rw [Int.toNat_natCast]; exact hy9)) (lw_V q1015 q691 q692 q69 q693) (by decide +kernel) rfl ⟨by show (lv - 1) + 1 ≤ lv; omega, by show 8 + (2 + 11) + 40 * (lv - 1) ≤ 40 * lv; omega⟩ ⟨by show 0 + 0 ≤ 0; first | omega | exact hr1 | exact hr2, by show 0 + 0 ≤ 0; first | omega | exact hr1 | exact hr2⟩ hl.1 rfl (Nat.le_of_ble_eq_true rfl) dX17_of_18 (g_pk (fun H locs hG hS => ?_))
        show W p l e (gR lv 0 0) s m args below meth c H locs 0 0 Q (F0 m 21 ls [.ref y9])
        refine n_cast (ci := 14) X hW hG hFk.1 rfl q1016 (Or.inr rfl) dX17_of_21 ?_
        refine n_getN (ci := 14) X in_X16 hW hG hFk.1 rfl 0 (by decide) q915 (fun _ h => h) rfl dX17_of_24 ?_
        refine lv_lload_n X.1 X.2.1 dX17_of_27 rfl (lv_at hl 1 rfl) ?_
        refine i_lcmp_ne X 44 dX17_of_28 dX17_of_29 (by decide) (by first | omega | exact hr1 | exact hr2) (by first | omega | exact hr1 | exact hr2) (fun c28 => ?_) (fun c28 => ?_)
        · refine i_inc (lv' := [(3, .int (iI ((k : Int) + 1))), (0, .ref bb), (1, .long (lI (gLt v)))]) X dX17_of_44 hl (k := 2) rfl (by decide) rfl (fun ls hl => ?_)
          refine lv_goto (tgt := 2) X.1 X.2.1 dX17_of_47 (by decide) ?_
          exact ih2 (k + 1) (by omega) (fun j t a b => by by_cases e9 : j = k; (rw [e9, ht9] at b; cases b; exact fun z => c28 ((gLt_inj hw9 hv).mpr z)); (exact hno j t (by omega) b)) (by omega) H locs ls hG hS (lv_sub hl [1, 2, 0] rfl)
        · refine lv_aload_n X.1 X.2.1 dX17_of_32 rfl (lv_at hl 0 rfl) ?_
          refine n_get (ci := 15) X in_X17 hW hG hBb rfl 0 (by decide) q984 (fun _ h => h) rfl dX17_of_33 ?_
          refine lv_iload_n X.1 X.2.1 dX17_of_36 rfl (lv_at hl 2 rfl) ?_
          refine g_callV (ci := 17) (rest := []) (k := 1) X hW hG hS hLF rfl (al_get l G A (lv - 1) h n fl ys qf (k : Int) y9 (by omega) hA (by omega) (by rw [Int.toNat_natCast]; exact hy9)) (lw_V q1015 q691 q692 q69 q693) (by decide +kernel) rfl ⟨by show (lv - 1) + 1 ≤ lv; omega, by show 8 + (2 + 11) + 40 * (lv - 1) ≤ 40 * lv; omega⟩ ⟨by show 0 + 0 ≤ 0; first | omega | exact hr1 | exact hr2, by show 0 + 0 ≤ 0; first | omega | exact hr1 | exact hr2⟩ hl.1 rfl (Nat.le_of_ble_eq_true rfl) dX17_of_37 (g_pk (fun H locs hG hS => ?_))
          show W p l e (gR lv 0 0) s m args below meth c H locs 0 0 Q (F0 m 40 ls [.ref y9])
          refine n_cast (ci := 14) X hW hG hFk.1 rfl q1016 (Or.inr rfl) dX17_of_40 ?_
          refine ret _ _ _ _ _ _ _ _ _ ?_ (Or.inr ⟨_, rfl⟩) (by show 0 ≤ 0; first | omega | exact hr1 | exact hr2) (by show 0 ≤ 0; first | omega | exact hr1 | exact hr2) hG hS dX17_of_43
          exact ⟨some y9, rfl, Or.inr ⟨k, tr9, y9, ht9, hy9, rfl, (gLt_inj hw9 hv).mp c28, hno⟩, rfl, rfl⟩
  exact L2 _ 0 (by omega) (fun j t a => absurd a (Nat.not_lt_zero _)) (Nat.lt_succ_self _) H locs ls hG hS (lv_sub hl [1, 2, 0] rfl)

