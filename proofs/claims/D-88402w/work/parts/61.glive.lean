/-! ===== the live term: questions ===== -/
set_option maxRecDepth 100000
theorem refv_ok (o : Option Nat) : va_rf o = .null ∨ ∃ a, va_rf o = .ref a := by
  cases o with
  | none => exact Or.inl rfl
  | some a => exact Or.inr ⟨a, rfl⟩
/-- the rows of the Model's term -/
def rwS (S : MSt) : FF := fun j => match j with | 0 => S.2 41 | 1 => S.2 42 | 2 => S.2 43 | 3 => S.2 44 | 4 => S.2 45 | 5 => S.2 46 | 6 => S.2 47 | _ => fun _ => 0
/-- in which list an item is -/
def inS (S : MSt) (ad : Int → Nat) (k : Int) : Value := if S.2 48 k = -9 then .null else .ref (ad (S.2 48 k))
/-- THE LIVE TERM: the Model's rows and the Glass' items -/
def LV (G : gEnv) (h : gH) (S : MSt) (ad : Int → Nat) : Prop :=
  MT S ∧ TR G h (rwS S) ad (1, 0) (inS S ad) (fun k => k) 0 (S.1 40) ∧ adI ad 0 (S.1 40) ∧ ∀ i, 0 ≤ i → i < S.1 40 → (S.2 41 i = 1 → wOk (S.2 42 i)) ∧ (S.2 41 i = 0 → S.2 42 i < 1000000)
theorem LV.it {G : gEnv} {h : gH} {S : MSt} {ad : Int → Nat} (hV : LV G h S ad) {i : Int} (h0 : 0 ≤ i) (hn : i < S.1 40) : IT G h (rwS S) ad (1, 0) (inS S ad i) i i := hV.2.1 i h0 hn
theorem LV.sub {G : gEnv} {h h' : gH} {S : MSt} {ad : Int → Nat} (hV : LV G h S ad) (hs : gSub h h') : LV G h' S ad := ⟨hV.1, hV.2.1.sub hs, hV.2.2⟩
theorem LV.lst {G : gEnv} {h : gH} {S : MSt} {ad : Int → Nat} (hV : LV G h S ad) {i : Int} (h0 : 0 ≤ i) (hn : i < S.1 40) (hw : 2 ≤ S.2 41 i) : h (ad i) = some ((1, 0), .inr (10, [.int (iI (S.2 44 i)), .int (iI (S.2 45 i)), inS S ad i, .int (iI i), .ref (ad i + 1), .int (iI (S.2 41 i))])) ∧ AL G h (ad i + 1) (chs (rwS S) ad i) (S.2 47 i).toNat := by
  have hI := hV.it h0 hn
  refine ⟨?_, hI.2 hw⟩
  have := hI.1
  rw [itE2 (R := rwS S) (i := i) hw] at this
  exact this
theorem LV.nam {G : gEnv} {h : gH} {S : MSt} {ad : Int → Nat} (hV : LV G h S ad) {i : Int} (h0 : 0 ≤ i) (hn : i < S.1 40) (hw : S.2 41 i = 1) : h (ad i) = some ((1, 0), .inr (12, [.int (iI (S.2 44 i)), .int (iI (S.2 45 i)), inS S ad i, .int (iI i), .long (lI (gLt (S.2 42 i))), .int (iI (S.2 43 i))])) := by
  have := (hV.it h0 hn).1
  rw [itE1 (R := rwS S) (i := i) hw] at this
  exact this
theorem LV.part {G : gEnv} {h : gH} {S : MSt} {ad : Int → Nat} (hV : LV G h S ad) {i : Int} {j : Nat} (hj : (j : Int) < S.2 47 i) : (chs (rwS S) ad i)[j]? = some (ad (chh (S.2 46) i j)) := chs_get (rwS S) ad i hj
theorem LV.inj {G : gEnv} {h : gH} {S : MSt} {ad : Int → Nat} (hV : LV G h S ad) {i j : Int} (h0 : 0 ≤ i) (hn : i < S.1 40) (h0' : 0 ≤ j) (hn' : j < S.1 40) : some (ad i) = some (ad j) ↔ i = j := ⟨fun e => hV.2.2.1 i j h0 hn h0' hn' (Option.some.inj e), fun e => by rw [e]⟩
theorem inS_n {S : MSt} {ad : Int → Nat} {k : Int} (h : S.2 48 k = -9) : inS S ad k = .null := if_pos h
theorem inS_r {S : MSt} {ad : Int → Nat} {k : Int} (h : ¬ S.2 48 k = -9) : inS S ad k = .ref (ad (S.2 48 k)) := if_neg h
set_option maxHeartbeats 4000000 in
/-- the name that a list binds -/
theorem gl_binder (l : Launch) (G : gEnv) (A : Nat → Prop) (lv : Nat) (h : gH) (n : Nat) (S : MSt) (ad : Int → Nat) (i : Int) (hlv : 3 ≤ lv) (hV : LV G h S ad) (h0 : 0 ≤ i) (hn : i < S.1 40) (hw : 2 ≤ S.2 41 i) : gC l yX12_binder cX12_binder 1 (some (FieldType.object "MacroGlass$Name")) G A lv 0 0 [.ref (ad i)] h n (gPure (some (va_rf (if spIsB S i = true then some (ad (spB S i)) else none))) h n) := by
  refine gC_ofA (Or.inl ⟨_, rfl⟩) RX12 (by decide +kernel) rfl (Nat.le_of_ble_eq_true rfl) ?_
  intro p e s m args below meth c Q X hW ret H locs ls hG hS hl
  have hl : lv_has ls 1 [(0, .ref (ad i))] := hl
  obtain ⟨hI, hA⟩ := hV.lst h0 hn hw
  obtain ⟨tgA, moA, dA, hLA, hAr⟩ := id hA
  have hT := hV.1.1
  have hp := hT.p h0 hn
  have hnn := hV.1.n
  have hlen : ((chs (rwS S) ad i).length : Int) = S.2 47 i := by rw [chs_len]; show ((S.2 47 i).toNat : Int) = _; omega
  have hwi := hT.w h0 hn
  have K31 : ∀ (o : Option Nat), (o = if spIsB S i = true then some (ad (spB S i)) else none) → ∀ (H : Heap) (locs : List Loc) (ls : Array Slot), gOn G.1 A h n H → va_S A s.heap H locs → lv_has ls 1 [] → W p l e (gR lv 0 0) s m args below meth c H locs 0 0 Q (F0 m 31 ls [(va_rf o)]) := by
    intro o ho H locs ls hG hS hl
    refine ret _ _ _ _ _ _ _ _ _ ?_ (refv_ok _) (by show 0 ≤ 0; first | omega | exact hwi) (by show 0 ≤ 0; first | omega | exact hwi) hG hS dX12_binder_31
    exact ⟨by rw [ho], rfl, rfl⟩
  refine lv_aload_n X.1 X.2.1 dX12_binder_0 rfl (lv_at hl 0 rfl) ?_
  refine n_get (ci := 10) X in_X12 hW hG hI rfl 5 (by decide) q597 (fun _ h => h) rfl dX12_binder_1 ?_
  refine lv_iconst (v := iI (4)) X.1 X.2.1 dX12_binder_4 rfl ?_
  refine i_icmp_eq X 16 dX12_binder_5 (by decide) (by first | omega | exact hwi) (by first | omega | exact hwi) (fun c5 => ?_) (fun c5 => ?_)
  · have hib : spIsB S i = true := by unfold spIsB; simp; omega
    have hsb := spB_in hV.1 h0 hn hib
    have hbp := hT.binds h0 hn (by simpa [spIsB] using hib)
    have hB := hV.nam (i := spB S i) (by omega) (by omega) hsb.2.2.2
    refine lv_aload_n X.1 X.2.1 dX12_binder_16 rfl (lv_at hl 0 rfl) ?_
    refine n_get (ci := 10) X in_X12 hW hG hI rfl 4 (by decide) q592 (fun _ h => h) rfl dX12_binder_17 ?_
    refine lv_iconst (v := iI (1)) X.1 X.2.1 dX12_binder_20 rfl ?_
    refine g_callV (ci := 17) (rest := []) (k := 1) X hW hG hS hLA rfl (al_get l G A (lv - 1) h n (ad i + 1) (chs (rwS S) ad i) (S.2 47 i).toNat 1 (ad (spB S i)) (by omega) hA (by omega) (hV.part (j := 1) (by omega))) (lw_V q690 q691 q692 q69 q693) (by decide +kernel) rfl ⟨by show (lv - 1) + 1 ≤ lv; omega, by show 8 + (2 + 11) + 40 * (lv - 1) ≤ 40 * lv; omega⟩ ⟨by show 0 + 0 ≤ 0; first | omega | exact hwi, by show 0 + 0 ≤ 0; first | omega | exact hwi⟩ hl.1 rfl (Nat.le_of_ble_eq_true rfl) dX12_binder_21 (g_pk (fun H locs hG hS => ?_))
    show W p l e (gR lv 0 0) s m args below meth c H locs 0 0 Q (F0 m 24 ls [.ref (ad (spB S i))])
    refine n_cast (ci := 12) X hW hG hB rfl q702 (Or.inr rfl) dX12_binder_24 ?_
    refine lv_goto (tgt := 31) X.1 X.2.1 dX12_binder_27 (by decide) ?_
    exact K31 (some (ad (spB S i))) (by rw [if_pos hib]) H locs ls hG hS (lv_sub hl [] rfl)
  · refine lv_aload_n X.1 X.2.1 dX12_binder_8 rfl (lv_at hl 0 rfl) ?_
    refine n_get (ci := 10) X in_X12 hW hG hI rfl 5 (by decide) q597 (fun _ h => h) rfl dX12_binder_9 ?_
    refine lv_iconst (v := iI (5)) X.1 X.2.1 dX12_binder_12 rfl ?_
    refine i_icmp_ne X 30 dX12_binder_13 (by decide) (by first | omega | exact hwi) (by first | omega | exact hwi) (fun c13 => ?_) (fun c13 => ?_)
    · refine lv_null X.1 X.2.1 dX12_binder_30 ?_
      exact K31 none (by rw [if_neg (by unfold spIsB; simp; omega)]) H locs ls hG hS (lv_sub hl [] rfl)
    · have hib : spIsB S i = true := by unfold spIsB; simp; omega
      have hsb := spB_in hV.1 h0 hn hib
      have hbp := hT.binds h0 hn (by simpa [spIsB] using hib)
      have hB := hV.nam (i := spB S i) (by omega) (by omega) hsb.2.2.2
      refine lv_aload_n X.1 X.2.1 dX12_binder_16 rfl (lv_at hl 0 rfl) ?_
      refine n_get (ci := 10) X in_X12 hW hG hI rfl 4 (by decide) q592 (fun _ h => h) rfl dX12_binder_17 ?_
      refine lv_iconst (v := iI (1)) X.1 X.2.1 dX12_binder_20 rfl ?_
      refine g_callV (ci := 17) (rest := []) (k := 1) X hW hG hS hLA rfl (al_get l G A (lv - 1) h n (ad i + 1) (chs (rwS S) ad i) (S.2 47 i).toNat 1 (ad (spB S i)) (by omega) hA (by omega) (hV.part (j := 1) (by omega))) (lw_V q690 q691 q692 q69 q693) (by decide +kernel) rfl ⟨by show (lv - 1) + 1 ≤ lv; omega, by show 8 + (2 + 11) + 40 * (lv - 1) ≤ 40 * lv; omega⟩ ⟨by show 0 + 0 ≤ 0; first | omega | exact hwi, by show 0 + 0 ≤ 0; first | omega | exact hwi⟩ hl.1 rfl (Nat.le_of_ble_eq_true rfl) dX12_binder_21 (g_pk (fun H locs hG hS => ?_))
      show W p l e (gR lv 0 0) s m args below meth c H locs 0 0 Q (F0 m 24 ls [.ref (ad (spB S i))])
      refine n_cast (ci := 12) X hW hG hB rfl q702 (Or.inr rfl) dX12_binder_24 ?_
      refine lv_goto (tgt := 31) X.1 X.2.1 dX12_binder_27 (by decide) ?_
      exact K31 (some (ad (spB S i))) (by rw [if_pos hib]) H locs ls hG hS (lv_sub hl [] rfl)

set_option maxHeartbeats 4000000 in
/-- the last part of a list -/
theorem gl_last (l : Launch) (G : gEnv) (A : Nat → Prop) (lv : Nat) (h : gH) (n : Nat) (S : MSt) (ad : Int → Nat) (i : Int) (hlv : 3 ≤ lv) (hV : LV G h S ad) (h0 : 0 ≤ i) (hn : i < S.1 40) (hw : 2 ≤ S.2 41 i) (hp1 : 1 ≤ S.2 47 i) : gC l yX12_last cX12_last 1 (some (FieldType.object "MacroGlass$Item")) G A lv 0 0 [.ref (ad i)] h n (gPure (some (.ref (ad (spL S i)))) h n) := by
  refine gC_ofA (Or.inl ⟨_, rfl⟩) RX12 (by decide +kernel) rfl (Nat.le_of_ble_eq_true rfl) ?_
  intro p e s m args below meth c Q X hW ret H locs ls hG hS hl
  have hl : lv_has ls 1 [(0, .ref (ad i))] := hl
  obtain ⟨hI, hA⟩ := hV.lst h0 hn hw
  obtain ⟨tgA, moA, dA, hLA, hAr⟩ := id hA
  have hT := hV.1.1
  have hp := hT.p h0 hn
  have hnn := hV.1.n
  have hlen : ((chs (rwS S) ad i).length : Int) = S.2 47 i := by rw [chs_len]; show ((S.2 47 i).toNat : Int) = _; omega
  refine lv_aload_n X.1 X.2.1 dX12_last_0 rfl (lv_at hl 0 rfl) ?_
  refine n_get (ci := 10) X in_X12 hW hG hI rfl 4 (by decide) q592 (fun _ h => h) rfl dX12_last_1 ?_
  refine lv_aload_n X.1 X.2.1 dX12_last_4 rfl (lv_at hl 0 rfl) ?_
  refine n_get (ci := 10) X in_X12 hW hG hI rfl 4 (by decide) q592 (fun _ h => h) rfl dX12_last_5 ?_
  refine g_callV (ci := 17) (rest := [.ref (ad i + 1)]) (k := 0) X hW hG hS hLA rfl (al_size l G A (lv - 1) h n (ad i + 1) (chs (rwS S) ad i) (S.2 47 i).toNat hA) (lw_V q689 q323 q324 q69 q325) (by decide +kernel) rfl ⟨by show (lv - 1) + 1 ≤ lv; omega, by show 8 + (1 + 11) + 40 * (lv - 1) ≤ 40 * lv; omega⟩ ⟨by show 0 + 0 ≤ 0; omega, by show 0 + 0 ≤ 0; omega⟩ hl.1 rfl (Nat.le_of_ble_eq_true rfl) dX12_last_8 (g_pk (fun H locs hG hS => ?_))
  show W p l e (gR lv 0 0) s m args below meth c H locs 0 0 Q (F0 m 11 ls [.int (iI (((chs (rwS S) ad i).length : Int))), .ref (ad i + 1)])
  refine lv_iconst (v := iI (1)) X.1 X.2.1 dX12_last_11 rfl ?_
  refine i_sub X dX12_last_12 ?_
  have hk9 := hT.kid h0 hn hw (j := (S.2 47 i).toNat - 1) (by omega)
  have hLa := hV.it (i := spL S i) (by show 0 ≤ chh _ _ _; omega) (by show chh _ _ _ < _; omega)
  refine g_callV (ci := 17) (rest := []) (k := 1) X hW hG hS hLA rfl (al_get l G A (lv - 1) h n (ad i + 1) (chs (rwS S) ad i) (S.2 47 i).toNat ((((chs (rwS S) ad i).length : Int)) - 1) (ad (spL S i)) (by omega) hA (by omega) (by rw [show (((chs (rwS S) ad i).length : Int) - 1).toNat = (S.2 47 i).toNat - 1 by omega]; exact hV.part (by omega))) (lw_V q690 q691 q692 q69 q693) (by decide +kernel) rfl ⟨by show (lv - 1) + 1 ≤ lv; omega, by show 8 + (2 + 11) + 40 * (lv - 1) ≤ 40 * lv; omega⟩ ⟨by show 0 + 0 ≤ 0; omega, by show 0 + 0 ≤ 0; omega⟩ hl.1 rfl (Nat.le_of_ble_eq_true rfl) dX12_last_13 (g_pk (fun H locs hG hS => ?_))
  show W p l e (gR lv 0 0) s m args below meth c H locs 0 0 Q (F0 m 16 ls [.ref (ad (spL S i))])
  refine it_cast X hW hG hLa.1 q778 dX12_last_16 ?_
  refine ret _ _ _ _ _ _ _ _ _ ?_ (Or.inr ⟨_, rfl⟩) (by show 0 ≤ 0; omega) (by show 0 ≤ 0; omega) hG hS dX12_last_19
  exact ⟨rfl, rfl, rfl⟩

set_option maxHeartbeats 4000000 in
theorem gn_isLike (l : Launch) (G : gEnv) (A : Nat → Prop) (lv : Nat) (h : gH) (n : Nat) (S : MSt) (ad : Int → Nat) (i : Int) (j : Int) (hV : LV G h S ad) (h0 : 0 ≤ i) (hn : i < S.1 40) (h0j : 0 ≤ j) (hnj : j < S.1 40) (hwi : S.2 41 i = 1) (hwj : S.2 41 j = 1) : gC l yX14_isLike cX14_isLike 2 (some .boolean) G A lv 0 0 [.ref (ad i), .ref (ad j)] h n (gPure (some (.int (iI (bI (decide (S.2 42 i = S.2 42 j) && decide (S.2 43 i = S.2 43 j)))))) h n) := by
  refine gC_ofI RX14 (by decide +kernel) rfl (Nat.le_of_ble_eq_true rfl) ?_
  intro p e s m args below meth c Q X hW ret H locs ls hG hS hl
  have hl : lv_has ls 2 [(0, .ref (ad i)), (1, .ref (ad j))] := hl
  have hI := hV.nam h0 hn hwi
  have hJ := hV.nam h0j hnj hwj
  have hk1 := (hV.2.2.2 i h0 hn).1 hwi
  have hk2 := (hV.2.2.2 j h0j hnj).1 hwj
  have hr1 : lR (gLt (S.2 42 i)) := by have := gLt_rng hk1; omega
  have hr2 : lR (gLt (S.2 42 j)) := by have := gLt_rng hk2; omega
  have hm1 := hV.1.2.2 i h0 hn
  have hm2 := hV.1.2.2 j h0j hnj
  refine lv_aload_n X.1 X.2.1 dX14_isLike_0 rfl (lv_at hl 0 rfl) ?_
  refine n_get (ci := 12) X in_X14 hW hG hI rfl 4 (by decide) q669 (fun _ h => h) rfl dX14_isLike_1 ?_
  refine lv_aload_n X.1 X.2.1 dX14_isLike_4 rfl (lv_at hl 1 rfl) ?_
  refine n_get (ci := 12) X in_X14 hW hG hJ rfl 4 (by decide) q669 (fun _ h => h) rfl dX14_isLike_5 ?_
  refine i_lcmp_ne X 27 dX14_isLike_8 dX14_isLike_9 (by decide) (by first | omega | exact hr1 | exact hr2) (by first | omega | exact hr1 | exact hr2) (fun c8 => ?_) (fun c8 => ?_)
  · refine lv_iconst (v := iI (0)) X.1 X.2.1 dX14_isLike_27 rfl ?_
    refine ret _ _ _ _ _ _ _ _ _ ?_ (nar_b (by first | omega | exact hr1 | exact hr2)) (by show 0 ≤ 0; first | omega | exact hr1 | exact hr2) (by show 0 ≤ 0; first | omega | exact hr1 | exact hr2) hG hS dX14_isLike_28
    exact ⟨by congr 3; first | (apply bI_t; rw [Bool.and_eq_true]; exact ⟨decide_eq_true ((gLt_inj hk1 hk2).mp c8), decide_eq_true c20⟩) | (apply bI_f; rw [Bool.and_eq_false_iff]; first | (left; exact decide_eq_false (fun z => c8 ((gLt_inj hk1 hk2).mpr z))) | (right; exact decide_eq_false c20)), rfl, rfl⟩
  · refine lv_aload_n X.1 X.2.1 dX14_isLike_12 rfl (lv_at hl 0 rfl) ?_
    refine n_get (ci := 12) X in_X14 hW hG hI rfl 5 (by decide) q674 (fun _ h => h) rfl dX14_isLike_13 ?_
    refine lv_aload_n X.1 X.2.1 dX14_isLike_16 rfl (lv_at hl 1 rfl) ?_
    refine n_get (ci := 12) X in_X14 hW hG hJ rfl 5 (by decide) q674 (fun _ h => h) rfl dX14_isLike_17 ?_
    refine i_icmp_ne X 27 dX14_isLike_20 (by decide) (by first | omega | exact hr1 | exact hr2) (by first | omega | exact hr1 | exact hr2) (fun c20 => ?_) (fun c20 => ?_)
    · refine lv_iconst (v := iI (0)) X.1 X.2.1 dX14_isLike_27 rfl ?_
      refine ret _ _ _ _ _ _ _ _ _ ?_ (nar_b (by first | omega | exact hr1 | exact hr2)) (by show 0 ≤ 0; first | omega | exact hr1 | exact hr2) (by show 0 ≤ 0; first | omega | exact hr1 | exact hr2) hG hS dX14_isLike_28
      exact ⟨by congr 3; first | (apply bI_t; rw [Bool.and_eq_true]; exact ⟨decide_eq_true ((gLt_inj hk1 hk2).mp c8), decide_eq_true c20⟩) | (apply bI_f; rw [Bool.and_eq_false_iff]; first | (left; exact decide_eq_false (fun z => c8 ((gLt_inj hk1 hk2).mpr z))) | (right; exact decide_eq_false c20)), rfl, rfl⟩
    · refine lv_iconst (v := iI (1)) X.1 X.2.1 dX14_isLike_23 rfl ?_
      refine lv_goto (tgt := 28) X.1 X.2.1 dX14_isLike_24 (by decide) ?_
      refine ret _ _ _ _ _ _ _ _ _ ?_ (nar_b (by first | omega | exact hr1 | exact hr2)) (by show 0 ≤ 0; first | omega | exact hr1 | exact hr2) (by show 0 ≤ 0; first | omega | exact hr1 | exact hr2) hG hS dX14_isLike_28
      exact ⟨by congr 3; first | (apply bI_t; rw [Bool.and_eq_true]; exact ⟨decide_eq_true ((gLt_inj hk1 hk2).mp c8), decide_eq_true c20⟩) | (apply bI_f; rw [Bool.and_eq_false_iff]; first | (left; exact decide_eq_false (fun z => c8 ((gLt_inj hk1 hk2).mpr z))) | (right; exact decide_eq_false c20)), rfl, rfl⟩

set_option maxHeartbeats 4000000 in
/-- the binder as which a name reads -/
theorem gn_reads (l : Launch) (G : gEnv) (A : Nat → Prop) (lv : Nat) (h : gH) (n : Nat) (S : MSt) (ad : Int → Nat) (i : Int) (hlv : 5 ≤ lv) (hV : LV G h S ad) (h0 : 0 ≤ i) (hn : i < S.1 40) (hw : S.2 41 i = 1) : gC l yX14_reads cX14_reads 3 (some (FieldType.object "MacroGlass$Name")) G A lv 0 0 [.ref (ad i)] h n (gPure (some (va_rf (if spReads S i = -9 then none else some (ad (spReads S i))))) h n) := by
  refine gC_ofA (Or.inl ⟨_, rfl⟩) RX14 (by decide +kernel) rfl (Nat.le_of_ble_eq_true rfl) ?_
  intro p e s m args below meth c Q X hW ret H locs ls hG hS hl
  have hl : lv_has ls 3 [(0, .ref (ad i))] := hl
  have hI := hV.nam h0 hn hw
  have hii := hV.1.inside h0 hn
  have hnn := hV.1.n
  have K20 : (¬ (S.2 48 i ≠ -9 ∧ spIsB S (S.2 48 i) = true ∧ spB S (S.2 48 i) = i)) → ∀ (H : Heap) (locs : List Loc) (ls : Array Slot), gOn G.1 A h n H → va_S A s.heap H locs → lv_has ls 3 [(0, .ref (ad i))] → W p l e (gR lv 0 0) s m args below meth c H locs 0 0 Q (F0 m 20 ls []) := by
    intro  hfar H locs ls hG hS hl
    refine lv_aload_n X.1 X.2.1 dX14_reads_20 rfl (lv_at hl 0 rfl) ?_
    refine lv_astore_n (lv' := [(1, .ref (ad i)), (0, .ref (ad i))]) X.1 X.2.1 dX14_reads_21 rfl hl (by decide) rfl (fun ls hl => ?_)
    have hst : ∀ f : Nat, S.2 48 i < f → spUp S (S.2 42 i) (S.2 43 i) f i (S.2 48 i) = spReads S i := by
      intro f hf
      unfold spReads
      rw [if_neg (by omega), if_neg hfar]
      rcases Nat.le_total f (i.toNat + 1) with q | q
      · exact (spUp_more hV.1 f i (S.2 48 i) (by omega) hf _ q).symm
      · exact spUp_more hV.1 (i.toNat + 1) i (S.2 48 i) (by omega) (by omega) _ q
    have L22 : ∀ (N22 : Nat) (a : Int), (0 ≤ a ∧ a < S.1 40) → (∀ f : Nat, S.2 48 a < f → spUp S (S.2 42 i) (S.2 43 i) f a (S.2 48 a) = spReads S i) → a.toNat < N22 → ∀ (H : Heap) (locs : List Loc) (ls : Array Slot), gOn G.1 A h n H → va_S A s.heap H locs → lv_has ls 3 [(0, .ref (ad i)), (1, .ref (ad a))] → W p l e (gR lv 0 0) s m args below meth c H locs 0 0 Q (F0 m 22 ls []) := by
      intro N22
      induction N22 with
      | zero => intro a ha he hN; exact absurd hN (Nat.not_lt_zero _)
      | succ N22 ih22 =>
        intro a ha he hN22 H locs ls hG hS hl
        have hia9 := hV.1.inside (k := a) (by omega) (by omega)
        have hIa := hV.it (i := a) (by omega) (by omega)
        refine lv_aload_n X.1 X.2.1 dX14_reads_22 rfl (lv_at hl 1 rfl) ?_
        by_cases hia : S.2 48 a = -9
        · have hIa1 := hIa.1
          rw [inS_n hia] at hIa1
          refine it_in X hW hG hIa1 q617 dX14_reads_23 ?_
          refine lv_ifnullN (tgt := 70) X.1 X.2.1 dX14_reads_26 (by decide) ?_
          refine lv_null X.1 X.2.1 dX14_reads_70 ?_
          refine ret _ _ _ _ _ _ _ _ _ ?_ (Or.inl rfl) (by show 0 ≤ 0; first | omega | exact bI_iR _) (by show 0 ≤ 0; first | omega | exact bI_iR _) hG hS dX14_reads_71
          refine ⟨?_, rfl, rfl⟩
          have hre : spReads S i = -9 := by
            rw [← he 1 (by omega)]
            unfold spUp
            rw [if_pos hia]
          rw [hre, if_pos rfl]
          rfl
        · have hIa1 := hIa.1
          rw [inS_r hia] at hIa1
          have hl1 : 0 ≤ S.2 48 a ∧ S.2 48 a < a ∧ 2 ≤ S.2 41 (S.2 48 a) := by omega
          have hL1 := (hV.lst (i := S.2 48 a) (by omega) (by omega) (by omega)).1
          refine it_in X hW hG hIa1 q617 dX14_reads_23 ?_
          refine lv_ifnull X.1 X.2.1 dX14_reads_26 ?_
          refine lv_aload_n X.1 X.2.1 dX14_reads_29 rfl (lv_at hl 1 rfl) ?_
          refine it_in X hW hG hIa1 q617 dX14_reads_30 ?_
          refine lv_astore_n (lv' := [(2, .ref (ad (S.2 48 a))), (0, .ref (ad i)), (1, .ref (ad a))]) X.1 X.2.1 dX14_reads_33 rfl hl (by decide) rfl (fun ls hl => ?_)
          refine lv_aload_n X.1 X.2.1 dX14_reads_34 rfl (lv_at hl 0 rfl) ?_
          refine g_callV (ci := 10) (rest := []) (k := 0) X hW hG hS hL1 rfl (gl_binder l G A (lv - 1) h n S ad (S.2 48 a) (by omega) hV (by omega) (by omega) (by omega)) (lw_V q848 q849 q850 q92 q851) (by decide +kernel) rfl ⟨by show (lv - 1) + 1 ≤ lv; omega, by show 8 + (1 + 11) + 40 * (lv - 1) ≤ 40 * lv; omega⟩ ⟨by show 0 + 0 ≤ 0; first | omega | exact bI_iR _, by show 0 + 0 ≤ 0; first | omega | exact bI_iR _⟩ hl.1 rfl (Nat.le_of_ble_eq_true rfl) dX14_reads_35 (g_pk (fun H locs hG hS => ?_))
          by_cases hb1 : spIsB S (S.2 48 a) = true
          · rw [if_pos hb1]
            show W p l e (gR lv 0 0) s m args below meth c H locs 0 0 Q (F0 m 38 ls [.ref (ad (spB S (S.2 48 a)))])
            have hsb1 := spB_in hV.1 (l := S.2 48 a) (by omega) (by omega) hb1
            have hB1 := hV.nam (i := spB S (S.2 48 a)) (by omega) (by omega) hsb1.2.2.2
            have hbp1 := hV.1.1.binds (i := S.2 48 a) (by omega) (by omega) (by simpa [spIsB] using hb1)
            have hkl := hV.1.1.kid (i := S.2 48 a) (by omega) (by omega) (by omega) (j := (S.2 47 (S.2 48 a)).toNat - 1) (by omega)
            have eL : spL S (S.2 48 a) = chh (S.2 46) (S.2 48 a) ((S.2 47 (S.2 48 a)).toNat - 1) := rfl
            refine lv_ifnull X.1 X.2.1 dX14_reads_38 ?_
            refine lv_aload_n X.1 X.2.1 dX14_reads_41 rfl (lv_at hl 0 rfl) ?_
            refine g_callV (ci := 10) (rest := []) (k := 0) X hW hG hS hL1 rfl (gl_last l G A (lv - 1) h n S ad (S.2 48 a) (by omega) hV (by omega) (by omega) (by omega) (by omega)) (lw_V q852 q853 q854 q92 q855) (by decide +kernel) rfl ⟨by show (lv - 1) + 1 ≤ lv; omega, by show 8 + (1 + 11) + 40 * (lv - 1) ≤ 40 * lv; omega⟩ ⟨by show 0 + 0 ≤ 0; first | omega | exact bI_iR _, by show 0 + 0 ≤ 0; first | omega | exact bI_iR _⟩ hl.1 rfl (Nat.le_of_ble_eq_true rfl) dX14_reads_42 (g_pk (fun H locs hG hS => ?_))
            show W p l e (gR lv 0 0) s m args below meth c H locs 0 0 Q (F0 m 45 ls [.ref (ad (spL S (S.2 48 a)))])
            refine lv_aload_n X.1 X.2.1 dX14_reads_45 rfl (lv_at hl 2 rfl) ?_
            refine lv_acmp_ne (rx := some (ad (spL S (S.2 48 a)))) (ry := some (ad a)) (tgt := 65) X.1 X.2.1 dX14_reads_46 (by decide) (fun c46 => ?_) (fun c46 => ?_)
            · have hno : ¬ (spIsB S (S.2 48 a) = true ∧ spL S (S.2 48 a) = a ∧ S.2 42 (spB S (S.2 48 a)) = S.2 42 i ∧ S.2 43 (spB S (S.2 48 a)) = S.2 43 i) := by
                rintro ⟨z1, z2, z3, z4⟩
                first
                  | exact hb1 z1
                  | exact c46 ((hV.inj (by omega) (by omega) (by omega) (by omega)).mpr z2)
                  | (rw [z3, z4] at c57; simp at c57)
              have hst2 : ∀ f : Nat, S.2 48 (S.2 48 a) < f → spUp S (S.2 42 i) (S.2 43 i) f (S.2 48 a) (S.2 48 (S.2 48 a)) = spReads S i := by
                intro f hf
                have hi2 := hV.1.inside (k := S.2 48 a) (by omega) (by omega)
                have h1 := he (max f (S.2 48 a).toNat + 1) (by omega)
                unfold spUp at h1
                rw [if_neg hia, if_neg hno] at h1
                rw [← h1]
                exact (spUp_more hV.1 f (S.2 48 a) (S.2 48 (S.2 48 a)) (by omega) hf _ (Nat.le_max_left _ _)).symm
              refine lv_aload_n X.1 X.2.1 dX14_reads_65 rfl (lv_at hl 0 rfl) ?_
              refine lv_astore_n (lv' := [(1, .ref (ad (S.2 48 a))), (2, .ref (ad (S.2 48 a))), (0, .ref (ad i))]) X.1 X.2.1 dX14_reads_66 rfl hl (by decide) rfl (fun ls hl => ?_)
              refine lv_goto (tgt := 22) X.1 X.2.1 dX14_reads_67 (by decide) ?_
              exact ih22 (S.2 48 a) (by omega) hst2 (by omega) H locs ls hG hS (lv_sub hl [2, 0] rfl)
            · refine lv_aload_n X.1 X.2.1 dX14_reads_49 rfl (lv_at hl 0 rfl) ?_
              refine g_callV (ci := 10) (rest := []) (k := 0) X hW hG hS hL1 rfl ((by have h9 := gl_binder l G A (lv - 1) h n S ad (S.2 48 a) (by omega) hV (by omega) (by omega) (by omega); rw [if_pos hb1] at h9; exact h9)) (lw_V q848 q849 q850 q92 q851) (by decide +kernel) rfl ⟨by show (lv - 1) + 1 ≤ lv; omega, by show 8 + (1 + 11) + 40 * (lv - 1) ≤ 40 * lv; omega⟩ ⟨by show 0 + 0 ≤ 0; first | omega | exact bI_iR _, by show 0 + 0 ≤ 0; first | omega | exact bI_iR _⟩ hl.1 rfl (Nat.le_of_ble_eq_true rfl) dX14_reads_50 (g_pk (fun H locs hG hS => ?_))
              show W p l e (gR lv 0 0) s m args below meth c H locs 0 0 Q (F0 m 53 ls [.ref (ad (spB S (S.2 48 a)))])
              refine lv_aload_n X.1 X.2.1 dX14_reads_53 rfl (lv_at hl 1 rfl) ?_
              refine g_callV (ci := 12) (rest := []) (k := 1) X hW hG hS hB1 rfl (gn_isLike l G A (lv - 1) h n S ad (spB S (S.2 48 a)) i hV (by omega) (by omega) h0 hn hsb1.2.2.2 hw) (lw_V q856 q857 q858 q94 q859) (by decide +kernel) rfl ⟨by show (lv - 1) + 1 ≤ lv; omega, by show 8 + (2 + 11) + 40 * (lv - 1) ≤ 40 * lv; omega⟩ ⟨by show 0 + 0 ≤ 0; first | omega | exact bI_iR _, by show 0 + 0 ≤ 0; first | omega | exact bI_iR _⟩ hl.1 rfl (Nat.le_of_ble_eq_true rfl) dX14_reads_54 (g_pk (fun H locs hG hS => ?_))
              show W p l e (gR lv 0 0) s m args below meth c H locs 0 0 Q (F0 m 57 ls [.int (iI (bI (decide (S.2 42 (spB S (S.2 48 a)) = S.2 42 i) && decide (S.2 43 (spB S (S.2 48 a)) = S.2 43 i))))])
              refine i_if_eq X 65 dX14_reads_57 (by decide) (bI_iR _) (fun c57 => ?_) (fun c57 => ?_)
              · have c57 := bI_eq0.mp c57
                have hno : ¬ (spIsB S (S.2 48 a) = true ∧ spL S (S.2 48 a) = a ∧ S.2 42 (spB S (S.2 48 a)) = S.2 42 i ∧ S.2 43 (spB S (S.2 48 a)) = S.2 43 i) := by
                  rintro ⟨z1, z2, z3, z4⟩
                  first
                    | exact hb1 z1
                    | exact c46 ((hV.inj (by omega) (by omega) (by omega) (by omega)).mpr z2)
                    | (rw [z3, z4] at c57; simp at c57)
                have hst2 : ∀ f : Nat, S.2 48 (S.2 48 a) < f → spUp S (S.2 42 i) (S.2 43 i) f (S.2 48 a) (S.2 48 (S.2 48 a)) = spReads S i := by
                  intro f hf
                  have hi2 := hV.1.inside (k := S.2 48 a) (by omega) (by omega)
                  have h1 := he (max f (S.2 48 a).toNat + 1) (by omega)
                  unfold spUp at h1
                  rw [if_neg hia, if_neg hno] at h1
                  rw [← h1]
                  exact (spUp_more hV.1 f (S.2 48 a) (S.2 48 (S.2 48 a)) (by omega) hf _ (Nat.le_max_left _ _)).symm
                refine lv_aload_n X.1 X.2.1 dX14_reads_65 rfl (lv_at hl 0 rfl) ?_
                refine lv_astore_n (lv' := [(1, .ref (ad (S.2 48 a))), (2, .ref (ad (S.2 48 a))), (0, .ref (ad i))]) X.1 X.2.1 dX14_reads_66 rfl hl (by decide) rfl (fun ls hl => ?_)
                refine lv_goto (tgt := 22) X.1 X.2.1 dX14_reads_67 (by decide) ?_
                exact ih22 (S.2 48 a) (by omega) hst2 (by omega) H locs ls hG hS (lv_sub hl [2, 0] rfl)
              · have c57 := bI_ne0.mp c57
                have hlk : S.2 42 (spB S (S.2 48 a)) = S.2 42 i ∧ S.2 43 (spB S (S.2 48 a)) = S.2 43 i := by simpa using c57
                refine lv_aload_n X.1 X.2.1 dX14_reads_60 rfl (lv_at hl 0 rfl) ?_
                refine g_callV (ci := 10) (rest := []) (k := 0) X hW hG hS hL1 rfl ((by have h9 := gl_binder l G A (lv - 1) h n S ad (S.2 48 a) (by omega) hV (by omega) (by omega) (by omega); rw [if_pos hb1] at h9; exact h9)) (lw_V q848 q849 q850 q92 q851) (by decide +kernel) rfl ⟨by show (lv - 1) + 1 ≤ lv; omega, by show 8 + (1 + 11) + 40 * (lv - 1) ≤ 40 * lv; omega⟩ ⟨by show 0 + 0 ≤ 0; first | omega | exact bI_iR _, by show 0 + 0 ≤ 0; first | omega | exact bI_iR _⟩ hl.1 rfl (Nat.le_of_ble_eq_true rfl) dX14_reads_61 (g_pk (fun H locs hG hS => ?_))
                show W p l e (gR lv 0 0) s m args below meth c H locs 0 0 Q (F0 m 64 ls [.ref (ad (spB S (S.2 48 a)))])
                refine ret _ _ _ _ _ _ _ _ _ ?_ (Or.inr ⟨_, rfl⟩) (by show 0 ≤ 0; first | omega | exact bI_iR _) (by show 0 ≤ 0; first | omega | exact bI_iR _) hG hS dX14_reads_64
                refine ⟨?_, rfl, rfl⟩
                have hre : spReads S i = spB S (S.2 48 a) := by
                  rw [← he ((S.2 48 a).toNat + 1) (by omega)]
                  unfold spUp
                  rw [if_neg hia, if_pos ⟨hb1, (hV.inj (by omega) (by omega) (by omega) (by omega)).mp c46, hlk.1, hlk.2⟩]
                rw [hre, if_neg (by omega)]
                rfl
          · rw [if_neg hb1]
            show W p l e (gR lv 0 0) s m args below meth c H locs 0 0 Q (F0 m 38 ls [.null])
            refine lv_ifnullN (tgt := 65) X.1 X.2.1 dX14_reads_38 (by decide) ?_
            have hno : ¬ (spIsB S (S.2 48 a) = true ∧ spL S (S.2 48 a) = a ∧ S.2 42 (spB S (S.2 48 a)) = S.2 42 i ∧ S.2 43 (spB S (S.2 48 a)) = S.2 43 i) := by
              rintro ⟨z1, z2, z3, z4⟩
              first
                | exact hb1 z1
                | exact c46 ((hV.inj (by omega) (by omega) (by omega) (by omega)).mpr z2)
                | (rw [z3, z4] at c57; simp at c57)
            have hst2 : ∀ f : Nat, S.2 48 (S.2 48 a) < f → spUp S (S.2 42 i) (S.2 43 i) f (S.2 48 a) (S.2 48 (S.2 48 a)) = spReads S i := by
              intro f hf
              have hi2 := hV.1.inside (k := S.2 48 a) (by omega) (by omega)
              have h1 := he (max f (S.2 48 a).toNat + 1) (by omega)
              unfold spUp at h1
              rw [if_neg hia, if_neg hno] at h1
              rw [← h1]
              exact (spUp_more hV.1 f (S.2 48 a) (S.2 48 (S.2 48 a)) (by omega) hf _ (Nat.le_max_left _ _)).symm
            refine lv_aload_n X.1 X.2.1 dX14_reads_65 rfl (lv_at hl 0 rfl) ?_
            refine lv_astore_n (lv' := [(1, .ref (ad (S.2 48 a))), (2, .ref (ad (S.2 48 a))), (0, .ref (ad i))]) X.1 X.2.1 dX14_reads_66 rfl hl (by decide) rfl (fun ls hl => ?_)
            refine lv_goto (tgt := 22) X.1 X.2.1 dX14_reads_67 (by decide) ?_
            exact ih22 (S.2 48 a) (by omega) hst2 (by omega) H locs ls hG hS (lv_sub hl [2, 0] rfl)
    exact L22 _ i (by omega) hst (Nat.lt_succ_self _) H locs ls hG hS (lv_sub hl [1, 0] rfl)
  refine lv_aload_n X.1 X.2.1 dX14_reads_0 rfl (lv_at hl 0 rfl) ?_
  by_cases hin : S.2 48 i = -9
  · have hIn := hI
    rw [inS_n hin] at hIn
    refine n_get (ci := 12) X in_X14 hW hG hIn rfl 2 (by decide) q615 (fun x hx => u_same (X.2.2.2.2 _ q616) x hx) rfl dX14_reads_1 ?_
    refine lv_ifnullN (tgt := 20) X.1 X.2.1 dX14_reads_4 (by decide) ?_
    exact K20  (by first | (intro z; exact z.1 hin) | (intro z; exact c15 ((hV.inj (by omega) (by omega) h0 hn).mpr z.2.2)) | (intro z; exact hb0 z.2.1)) H locs ls hG hS (lv_sub hl [0] rfl)
  · have hIr := hI
    rw [inS_r hin] at hIr
    have hl0 : 0 ≤ S.2 48 i ∧ S.2 48 i < S.1 40 ∧ 2 ≤ S.2 41 (S.2 48 i) := by omega
    have hL0 := (hV.lst (i := S.2 48 i) (by omega) (by omega) (by omega)).1
    refine n_get (ci := 12) X in_X14 hW hG hIr rfl 2 (by decide) q615 (fun x hx => u_same (X.2.2.2.2 _ q616) x hx) rfl dX14_reads_1 ?_
    refine lv_ifnull X.1 X.2.1 dX14_reads_4 ?_
    refine lv_aload_n X.1 X.2.1 dX14_reads_7 rfl (lv_at hl 0 rfl) ?_
    refine n_get (ci := 12) X in_X14 hW hG hIr rfl 2 (by decide) q615 (fun x hx => u_same (X.2.2.2.2 _ q616) x hx) rfl dX14_reads_8 ?_
    refine g_callV (ci := 10) (rest := []) (k := 0) X hW hG hS hL0 rfl (gl_binder l G A (lv - 1) h n S ad (S.2 48 i) (by omega) hV (by omega) (by omega) (by omega)) (lw_V q848 q849 q850 q92 q851) (by decide +kernel) rfl ⟨by show (lv - 1) + 1 ≤ lv; omega, by show 8 + (1 + 11) + 40 * (lv - 1) ≤ 40 * lv; omega⟩ ⟨by show 0 + 0 ≤ 0; first | omega | exact bI_iR _, by show 0 + 0 ≤ 0; first | omega | exact bI_iR _⟩ hl.1 rfl (Nat.le_of_ble_eq_true rfl) dX14_reads_11 (g_pk (fun H locs hG hS => ?_))
    by_cases hb0 : spIsB S (S.2 48 i) = true
    · rw [if_pos hb0]
      show W p l e (gR lv 0 0) s m args below meth c H locs 0 0 Q (F0 m 14 ls [.ref (ad (spB S (S.2 48 i)))])
      have hsb0 := spB_in hV.1 (l := S.2 48 i) (by omega) (by omega) hb0
      refine lv_aload_n X.1 X.2.1 dX14_reads_14 rfl (lv_at hl 0 rfl) ?_
      refine lv_acmp_ne (rx := some (ad (spB S (S.2 48 i)))) (ry := some (ad i)) (tgt := 20) X.1 X.2.1 dX14_reads_15 (by decide) (fun c15 => ?_) (fun c15 => ?_)
      · exact K20  (by first | (intro z; exact z.1 hin) | (intro z; exact c15 ((hV.inj (by omega) (by omega) h0 hn).mpr z.2.2)) | (intro z; exact hb0 z.2.1)) H locs ls hG hS (lv_sub hl [0] rfl)
      · refine lv_aload_n X.1 X.2.1 dX14_reads_18 rfl (lv_at hl 0 rfl) ?_
        refine ret _ _ _ _ _ _ _ _ _ ?_ (Or.inr ⟨_, rfl⟩) (by show 0 ≤ 0; first | omega | exact bI_iR _) (by show 0 ≤ 0; first | omega | exact bI_iR _) hG hS dX14_reads_19
        exact ⟨by rw [show spReads S i = i by unfold spReads; rw [if_neg (by omega), if_pos ⟨hin, hb0, (hV.inj (by omega) (by omega) h0 hn).mp c15⟩], if_neg (by omega)]; rfl, rfl, rfl⟩
    · rw [if_neg hb0]
      show W p l e (gR lv 0 0) s m args below meth c H locs 0 0 Q (F0 m 14 ls [.null])
      refine lv_aload_n X.1 X.2.1 dX14_reads_14 rfl (lv_at hl 0 rfl) ?_
      refine lv_acmp_ne (rx := none) (ry := some (ad i)) (tgt := 20) X.1 X.2.1 dX14_reads_15 (by decide) (fun _ => ?_) (fun c15 => absurd c15 (by intro z; cases z))
      exact K20  (by first | (intro z; exact z.1 hin) | (intro z; exact c15 ((hV.inj (by omega) (by omega) h0 hn).mpr z.2.2)) | (intro z; exact hb0 z.2.1)) H locs ls hG hS (lv_sub hl [0] rfl)

theorem vi_reads (l : Launch) (G : gEnv) (A : Nat → Prop) (lv : Nat) (h : gH) (n : Nat) (S : MSt) (ad : Int → Nat) (i : Int) (hlv : 5 ≤ lv) (hV : LV G h S ad) (h0 : 0 ≤ i) (hn : i < S.1 40) : gVC l yX11_reads G A lv 0 0 (ad i) [] h n (gPure (some (va_rf (if spReads S i = -9 then none else some (ad (spReads S i))))) h n) := by
  have hw := hV.1.1.w h0 hn
  rcases (hV.it h0 hn).cs hw.1 with ⟨z, e⟩ | ⟨z, e⟩ | ⟨z, e, hA⟩
  · have z : S.2 41 i = 0 := z
    rw [show spReads S i = -9 by unfold spReads; rw [if_pos (by omega)], if_pos rfl]
    exact ⟨_, 11, _, _, yX11_reads, _, 1, _, e, rfl, gt_reads l G A lv h n ad i, q860, q842, q91, q861, by decide⟩
  · exact ⟨_, 12, _, _, yX14_reads, _, 3, _, e, rfl, gn_reads l G A lv h n S ad i hlv hV h0 hn z, q845, q846, q94, q847, by decide⟩
  · have z : 2 ≤ S.2 41 i := z
    rw [show spReads S i = -9 by unfold spReads; rw [if_pos (by omega)], if_pos rfl]
    exact ⟨_, 10, _, _, yX11_reads, _, 1, _, e, rfl, gt_reads l G A lv h n ad i, q844, q842, q91, q861, by decide⟩
