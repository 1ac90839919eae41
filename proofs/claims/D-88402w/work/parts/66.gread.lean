/-! ===== the questions of the Glass ===== -/
set_option maxRecDepth 100000
set_option maxHeartbeats 4000000 in
theorem gx_no (l : Launch) (G : gEnv) (A : Nat → Prop) (lv : Nat) (h : gH) (n : Nat) (x0 : Nat) (S : MSt) (ad : Int → Nat) (rl : Nat) (ru : Nat → Nat) (ap : Int → Nat) (i : Int) (hlv : 1 ≤ lv) (hX : GX G h x0 S ad rl ru ap) (hi : iR i) : gC l yX0_no cX0_no 2 (some .int) G A lv 0 0 [.ref x0, .int (iI (i))] h n (gPure (some (.int (iI (if 0 ≤ i ∧ i < S.1 40 then 0 else -1)))) h n) := by
  refine gC_ofI RX0 (by decide +kernel) rfl (Nat.le_of_ble_eq_true rfl) ?_
  intro p e s m args below meth c Q X hW ret H locs ls hG hS hl
  have hl : lv_has ls 2 [(0, .ref x0), (1, .int (iI (i)))] := hl
  obtain ⟨hO0, hRo, hV, hR⟩ := hX
  have hO := hO0
  unfold GOB gOv at hO
  have hT := hV.1.1
  have hnn := hV.1.n
  
  refine lv_aload_n X.1 X.2.1 dX0_no_0 rfl (lv_at hl 0 rfl) ?_
  refine n_get (ci := 0) X in_X0 hW hG hO rfl 4 (by decide) q141 (fun _ h => h) rfl dX0_no_1 ?_
  refine lv_ifnonnull (tgt := 12) X.1 X.2.1 dX0_no_4 (by decide) ?_
  refine lv_iload_n X.1 X.2.1 dX0_no_12 rfl (lv_at hl 1 rfl) ?_
  refine i_i2l X (by omega) dX0_no_13 ?_
  refine lv_lconst (v := lI (0)) X.1 X.2.1 dX0_no_14 rfl ?_
  refine lv_aload_n X.1 X.2.1 dX0_no_15 rfl (lv_at hl 0 rfl) ?_
  refine n_get (ci := 0) X in_X0 hW hG hO rfl 9 (by decide) q146 (fun _ h => h) rfl dX0_no_16 ?_
  refine lv_iconst (v := iI (1)) X.1 X.2.1 dX0_no_19 rfl ?_
  refine i_sub X dX0_no_20 ?_
  refine i_i2l X (by omega) dX0_no_21 ?_
  refine g_callS (rest := []) (k := 3) X hW hG hS (gg_in l G A (lv - 1) h n i 0 ((S.1 40) - 1) (by omega) (by omega) (by omega)) (lw_S q798 q248 q66 q249) (by decide +kernel) rfl ⟨by show (lv - 1) + 1 ≤ lv; omega, by show 8 + (6 + 11) + 40 * (lv - 1) ≤ 40 * lv; omega⟩ ⟨by show 0 + 0 ≤ 0; omega, by show 0 + 0 ≤ 0; omega⟩ hl.1 rfl (Nat.le_of_ble_eq_true rfl) dX0_no_22 (g_pk (fun H locs hG hS => ?_))
  show W p l e (gR lv 0 0) s m args below meth c H locs 0 0 Q (F0 m 25 ls [.int (iI (bI (decide (0 ≤ i) && decide (i ≤ ((S.1 40) - 1)))))])
  have K33 : ∀ (z : Int), (z = if 0 ≤ i ∧ i < S.1 40 then 0 else -1) → ∀ (H : Heap) (locs : List Loc) (ls : Array Slot), gOn G.1 A h n H → va_S A s.heap H locs → lv_has ls 2 [] → W p l e (gR lv 0 0) s m args below meth c H locs 0 0 Q (F0 m 33 ls [.int (iI (z))]) := by
    intro z hz H locs ls hG hS hl
    refine ret _ _ _ _ _ _ _ _ _ ?_ (rfl) (by show 0 ≤ 0; omega) (by show 0 ≤ 0; omega) hG hS dX0_no_33
    exact ⟨by rw [hz], rfl, rfl⟩
  refine i_if_eq X 32 dX0_no_25 (by decide) (bI_iR _) (fun c25 => ?_) (fun c25 => ?_)
  · have c25 := bI_eq0.mp c25
    refine lv_iconst (v := iI (-1)) X.1 X.2.1 dX0_no_32 rfl ?_
    exact K33 ((-1)) (by first | (rw [if_pos (by have : (decide (0 ≤ i) && decide (i ≤ S.1 40 - 1)) = true := c25; simp at this; omega)]) | (rw [if_neg (by have : (decide (0 ≤ i) && decide (i ≤ S.1 40 - 1)) = false := c25; simp at this; omega)])) H locs ls hG hS (lv_sub hl [] rfl)
  · have c25 := bI_ne0.mp c25
    refine lv_iconst (v := iI (0)) X.1 X.2.1 dX0_no_28 rfl ?_
    refine lv_goto (tgt := 33) X.1 X.2.1 dX0_no_29 (by decide) ?_
    exact K33 0 (by first | (rw [if_pos (by have : (decide (0 ≤ i) && decide (i ≤ S.1 40 - 1)) = true := c25; simp at this; omega)]) | (rw [if_neg (by have : (decide (0 ≤ i) && decide (i ≤ S.1 40 - 1)) = false := c25; simp at this; omega)])) H locs ls hG hS (lv_sub hl [] rfl)

set_option maxHeartbeats 4000000 in
theorem gx_noN (l : Launch) (G : gEnv) (A : Nat → Prop) (lv : Nat) (h : gH) (n : Nat) (x0 : Nat) (S : MSt) (rv : Value) (i : Int) (hO0 : GOB h x0 S rv .null) : gC l yX0_no cX0_no 2 (some .int) G A lv 0 0 [.ref x0, .int (iI (i))] h n (gPure (some (.int (iI (-3)))) h n) := by
  refine gC_ofI RX0 (by decide +kernel) rfl (Nat.le_of_ble_eq_true rfl) ?_
  intro p e s m args below meth c Q X hW ret H locs ls hG hS hl
  have hl : lv_has ls 2 [(0, .ref x0), (1, .int (iI (i)))] := hl
  have hO := hO0
  unfold GOB gOv at hO
  
  refine lv_aload_n X.1 X.2.1 dX0_no_0 rfl (lv_at hl 0 rfl) ?_
  refine n_get (ci := 0) X in_X0 hW hG hO rfl 4 (by decide) q141 (fun _ h => h) rfl dX0_no_1 ?_
  refine lv_ifnonnullN X.1 X.2.1 dX0_no_4 ?_
  refine lv_bipush (v := iI (-3)) X.1 X.2.1 dX0_no_7 (by decide) ?_
  refine lv_goto (tgt := 33) X.1 X.2.1 dX0_no_9 (by decide) ?_
  refine ret _ _ _ _ _ _ _ _ _ ?_ (rfl) (by show 0 ≤ 0; omega) (by show 0 ≤ 0; omega) hG hS dX0_no_33
  exact ⟨rfl, rfl, rfl⟩

theorem spUp_nm {S : MSt} (h : MT S) (w k : Int) : ∀ (f : Nat) (a l : Int), l = -9 ∨ (0 ≤ l ∧ l < S.1 40 ∧ 2 ≤ S.2 41 l) → spUp S w k f a l ≠ -9 → 0 ≤ spUp S w k f a l ∧ spUp S w k f a l < S.1 40 ∧ S.2 41 (spUp S w k f a l) = 1 := by
  intro f
  induction f with
  | zero => intro a l _ hn; exact absurd rfl hn
  | succ f ih =>
    intro a l hl hn
    unfold spUp at hn ⊢
    by_cases h9 : l = -9
    · rw [if_pos h9] at hn; exact absurd rfl hn
    · rw [if_neg h9] at hn ⊢
      have hl : 0 ≤ l ∧ l < S.1 40 ∧ 2 ≤ S.2 41 l := by rcases hl with z | z; exact absurd z h9; exact z
      by_cases hb : spIsB S l = true ∧ spL S l = a ∧ S.2 42 (spB S l) = w ∧ S.2 43 (spB S l) = k
      · rw [if_pos hb]
        have := spB_in h hl.1 hl.2.1 hb.1
        exact ⟨by omega, by omega, this.2.2.2⟩
      · rw [if_neg hb] at hn ⊢
        have := h.inside (k := l) (by omega) (by omega)
        exact ih l (S.2 48 l) (by omega) hn
theorem spReads_nm {S : MSt} (h : MT S) {i : Int} (h0 : 0 ≤ i) (hn : i < S.1 40) (hr : spReads S i ≠ -9) : 0 ≤ spReads S i ∧ spReads S i < S.1 40 ∧ S.2 41 (spReads S i) = 1 := by
  unfold spReads at hr ⊢
  by_cases h1 : S.2 41 i ≠ 1
  · rw [if_pos h1] at hr; exact absurd rfl hr
  · rw [if_neg h1] at hr ⊢
    by_cases h2 : S.2 48 i ≠ -9 ∧ spIsB S (S.2 48 i) = true ∧ spB S (S.2 48 i) = i
    · rw [if_pos h2]; exact ⟨h0, hn, by omega⟩
    · rw [if_neg h2] at hr ⊢
      have := h.inside h0 hn
      exact spUp_nm h _ _ _ _ _ (by omega) hr
set_option maxHeartbeats 4000000 in
/-- the binder as which an item reads, by number -/
theorem gg_readsAs (l : Launch) (G : gEnv) (A : Nat → Prop) (lv : Nat) (h : gH) (n : Nat) (S : MSt) (ad : Int → Nat) (i : Int) (hlv : 6 ≤ lv) (hV : LV G h S ad) (h0 : 0 ≤ i) (hn : i < S.1 40) : gC l yX0_readsAs cX0_readsAs 2 (some .int) G A lv 0 0 [.ref (ad i)] h n (gPure (some (.int (iI (spReads S i)))) h n) := by
  refine gC_ofI RX0 (by decide +kernel) rfl (Nat.le_of_ble_eq_true rfl) ?_
  intro p e s m args below meth c Q X hW ret H locs ls hG hS hl
  have hl : lv_has ls 2 [(0, .ref (ad i))] := hl
  refine lv_aload_n X.1 X.2.1 dX0_readsAs_0 rfl (lv_at hl 0 rfl) ?_
  refine g_callX (rest := []) (k := 0) X hW hG hS (vi_reads l G A (lv - 1) h n S ad i (by omega) hV h0 hn) q841 q843 (gDecl_code X q842 q861) (by decide +kernel) rfl ⟨by show (lv - 1) + 1 ≤ lv; omega, by show 40 + 40 * (lv - 1) ≤ 40 * lv; omega⟩ ⟨by show 0 + 0 ≤ 0; omega, by show 0 + 0 ≤ 0; omega⟩ hl.1 rfl (Nat.le_of_ble_eq_true rfl) dX0_readsAs_1 (g_pk (fun H locs hG hS => ?_))
  by_cases hrd : spReads S i = -9
  · rw [if_pos hrd]
    show W p l e (gR lv 0 0) s m args below meth c H locs 0 0 Q (F0 m 4 ls [.null])
    refine lv_astore_nN (lv' := [(1, .null), (0, .ref (ad i))]) X.1 X.2.1 dX0_readsAs_4 rfl hl (by decide) rfl (fun ls hl => ?_)
    refine lv_aload_nN X.1 X.2.1 dX0_readsAs_5 rfl (lv_at hl 0 rfl) ?_
    refine lv_ifnonnullN X.1 X.2.1 dX0_readsAs_6 ?_
    refine lv_bipush (v := iI (-9)) X.1 X.2.1 dX0_readsAs_9 (by decide) ?_
    refine lv_goto (tgt := 18) X.1 X.2.1 dX0_readsAs_11 (by decide) ?_
    refine ret _ _ _ _ _ _ _ _ _ ?_ (rfl) (by show 0 ≤ 0; omega) (by show 0 ≤ 0; omega) hG hS dX0_readsAs_18
    exact ⟨by first | rfl | rw [hrd], rfl, rfl⟩
  · rw [if_neg hrd]
    show W p l e (gR lv 0 0) s m args below meth c H locs 0 0 Q (F0 m 4 ls [.ref (ad (spReads S i))])
    have hsr := spReads_nm hV.1 h0 hn hrd
    have hN := hV.nam (i := spReads S i) (by omega) (by omega) hsr.2.2
    refine lv_astore_n (lv' := [(1, .ref (ad (spReads S i))), (0, .ref (ad i))]) X.1 X.2.1 dX0_readsAs_4 rfl hl (by decide) rfl (fun ls hl => ?_)
    refine lv_aload_n X.1 X.2.1 dX0_readsAs_5 rfl (lv_at hl 0 rfl) ?_
    refine lv_ifnonnull (tgt := 14) X.1 X.2.1 dX0_readsAs_6 (by decide) ?_
    refine lv_aload_n X.1 X.2.1 dX0_readsAs_14 rfl (lv_at hl 0 rfl) ?_
    refine n_get (ci := 12) X in_X14 hW hG hN rfl 3 (by decide) q623 (fun x hx => u_same (X.2.2.2.2 _ q624) x hx) rfl dX0_readsAs_15 ?_
    refine ret _ _ _ _ _ _ _ _ _ ?_ (rfl) (by show 0 ≤ 0; omega) (by show 0 ≤ 0; omega) hG hS dX0_readsAs_18
    exact ⟨by first | rfl | rw [hrd], rfl, rfl⟩

set_option maxHeartbeats 4000000 in
theorem gx_item (l : Launch) (G : gEnv) (A : Nat → Prop) (lv : Nat) (h : gH) (n : Nat) (x0 : Nat) (S : MSt) (ad : Int → Nat) (rl : Nat) (ru : Nat → Nat) (ap : Int → Nat) (i a : Int) (hlv : 7 ≤ lv) (hX : GX G h x0 S ad rl ru ap) (hi : iR i) (ha : iR a) : gC l yX0_item cX0_item 4 (some .int) G A lv 0 0 [.ref x0, .int (iI (i)), .int (iI (a))] h n (gPure (some (.int (iI (if 0 ≤ i ∧ i < S.1 40 then (if a = 0 then S.2 41 i else if a = 1 then (if 2 ≤ S.2 41 i then S.2 47 i else 0) else if a = 2 then (if S.2 41 i = 0 then S.2 42 i else 0) else if a = 3 then (if S.2 41 i = 1 then S.2 43 i else -9) else if a = 4 then S.2 44 i else if a = 5 then S.2 45 i else if a = 6 then S.2 48 i else if a = 7 then spReads S i else -2) else -1)))) h n) := by
  refine gC_ofI RX0 (by decide +kernel) rfl (Nat.le_of_ble_eq_true rfl) ?_
  intro p e s m args below meth c Q X hW ret H locs ls hG hS hl
  have hl : lv_has ls 4 [(0, .ref x0), (1, .int (iI (i))), (2, .int (iI (a)))] := hl
  have hX0 := hX
  obtain ⟨hO0, hRo, hV, hR⟩ := id hX
  have hO := hO0
  unfold GOB gOv at hO
  have hT := hV.1.1
  have hnn := hV.1.n
  
  refine lv_aload_n X.1 X.2.1 dX0_item_0 rfl (lv_at hl 0 rfl) ?_
  refine lv_iload_n X.1 X.2.1 dX0_item_1 rfl (lv_at hl 1 rfl) ?_
  refine g_callV (ci := 0) (rest := []) (k := 1) X hW hG hS hO rfl (gx_no l G A (lv - 1) h n x0 S ad rl ru ap i (by omega) hX hi) (lw_V q794 q796 qs18 q66 q797) (by decide +kernel) rfl ⟨by show (lv - 1) + 1 ≤ lv; omega, by show 8 + (2 + 11) + 40 * (lv - 1) ≤ 40 * lv; omega⟩ ⟨by show 0 + 0 ≤ 0; first | omega | (split <;> omega), by show 0 + 0 ≤ 0; first | omega | (split <;> omega)⟩ hl.1 rfl (Nat.le_of_ble_eq_true rfl) dX0_item_2 (g_pk (fun H locs hG hS => ?_))
  show W p l e (gR lv 0 0) s m args below meth c H locs 0 0 Q (F0 m 5 ls [.int (iI (if 0 ≤ i ∧ i < S.1 40 then 0 else -1))])
  refine i_if_eq X 14 dX0_item_5 (by decide) (by first | omega | (split <;> omega)) (fun c5 => ?_) (fun c5 => ?_)
  · have hi9 : 0 ≤ i ∧ i < S.1 40 := by revert c5; split <;> intro c5 <;> omega
    refine lv_aload_n X.1 X.2.1 dX0_item_14 rfl (lv_at hl 0 rfl) ?_
    refine n_get (ci := 0) X in_X0 hW hG hO rfl 8 (by decide) q145 (fun _ h => h) rfl dX0_item_15 ?_
    refine lv_iload_n X.1 X.2.1 dX0_item_18 rfl (lv_at hl 1 rfl) ?_
    refine n_row X hW hG hRo (i := i) (by omega) (by omega) (by omega) dX0_item_19 ?_
    have hI_19 := hV.it (i := i) (by omega) (by omega)
    refine lv_astore_n (lv' := [(3, .ref (ad i)), (0, .ref x0), (1, .int (iI (i))), (2, .int (iI (a)))]) X.1 X.2.1 dX0_item_20 rfl hl (by decide) rfl (fun ls hl => ?_)
    refine lv_iload_n X.1 X.2.1 dX0_item_21 rfl (lv_at hl 3 rfl) ?_
    by_cases s22 : a < 0 ∨ 7 < a
    · refine i_tableOut X (by first | omega | (split <;> omega)) (tgt := 123) dX0_item_22 s22 (by decide) ?_
      refine lv_bipush (v := iI (-2)) X.1 X.2.1 dX0_item_123 (by decide) ?_
      refine ret _ _ _ _ _ _ _ _ _ ?_ (rfl) (by show 0 ≤ 0; first | omega | (split <;> omega)) (by show 0 ≤ 0; first | omega | (split <;> omega)) hG hS dX0_item_125
      exact ⟨by rw [if_pos hi9, if_neg (by omega), if_neg (by omega), if_neg (by omega), if_neg (by omega), if_neg (by omega), if_neg (by omega), if_neg (by omega), if_neg (by omega)], rfl, rfl⟩
    · rcases (show a = 0 ∨ a = 1 ∨ a = 2 ∨ a = 3 ∨ a = 4 ∨ a = 5 ∨ a = 6 ∨ a = 7 by omega) with s22_0 | s22_1 | s22_2 | s22_3 | s22_4 | s22_5 | s22_6 | s22_7
      · refine i_tableIn X (by first | omega | (split <;> omega)) (off := 46) (tgt := 68) dX0_item_22 (by omega) (by omega) (by rw [s22_0]; rfl) (by decide) ?_
        refine lv_aload_n X.1 X.2.1 dX0_item_68 rfl (lv_at hl 0 rfl) ?_
        refine g_callX (rest := []) (k := 0) X hW hG hS (vi_kind l G A (lv - 1) h n (rwS S) ad (1, 0) (inS S ad i) i i hI_19 (hT.w (by omega) (by omega)).1) q799 q801 (gDecl_abs hW q800) (by decide +kernel) rfl ⟨by show (lv - 1) + 1 ≤ lv; omega, by show 40 + 40 * (lv - 1) ≤ 40 * lv; omega⟩ ⟨by show 0 + 0 ≤ 0; first | omega | (split <;> omega), by show 0 + 0 ≤ 0; first | omega | (split <;> omega)⟩ hl.1 rfl (Nat.le_of_ble_eq_true rfl) dX0_item_69 (g_pk (fun H locs hG hS => ?_))
        show W p l e (gR lv 0 0) s m args below meth c H locs 0 0 Q (F0 m 72 ls [.int (iI (S.2 41 i))])
        refine ret _ _ _ _ _ _ _ _ _ ?_ (rfl) (by show 0 ≤ 0; first | omega | (split <;> omega)) (by show 0 ≤ 0; first | omega | (split <;> omega)) hG hS dX0_item_72
        exact ⟨by rw [if_pos hi9]; first | (rw [s22_0]; rfl) | (rw [s22_1]; rfl) | (rw [s22_2]; rfl) | (rw [s22_3]; rfl) | (rw [s22_4]; rfl) | (rw [s22_5]; rfl) | (rw [s22_7]; rfl), rfl, rfl⟩
      · refine i_tableIn X (by first | omega | (split <;> omega)) (off := 51) (tgt := 73) dX0_item_22 (by omega) (by omega) (by rw [s22_1]; rfl) (by decide) ?_
        refine lv_aload_n X.1 X.2.1 dX0_item_73 rfl (lv_at hl 0 rfl) ?_
        refine g_callX (rest := []) (k := 0) X hW hG hS (vi_size l G A (lv - 1) h n (rwS S) ad (1, 0) (inS S ad i) i i (by omega) hI_19 (hT.w (by omega) (by omega)).1 (hT.p (by omega) (by omega)).1) q811 q813 (gDecl_code X q812 q819) (by decide +kernel) rfl ⟨by show (lv - 1) + 1 ≤ lv; omega, by show 40 + 40 * (lv - 1) ≤ 40 * lv; omega⟩ ⟨by show 0 + 0 ≤ 0; first | omega | (split <;> omega), by show 0 + 0 ≤ 0; first | omega | (split <;> omega)⟩ hl.1 rfl (Nat.le_of_ble_eq_true rfl) dX0_item_74 (g_pk (fun H locs hG hS => ?_))
        show W p l e (gR lv 0 0) s m args below meth c H locs 0 0 Q (F0 m 77 ls [.int (iI (if 2 ≤ S.2 41 i then S.2 47 i else 0))])
        refine ret _ _ _ _ _ _ _ _ _ ?_ (rfl) (by show 0 ≤ 0; first | omega | (split <;> omega)) (by show 0 ≤ 0; first | omega | (split <;> omega)) hG hS dX0_item_77
        exact ⟨by rw [if_pos hi9]; first | (rw [s22_0]; rfl) | (rw [s22_1]; rfl) | (rw [s22_2]; rfl) | (rw [s22_3]; rfl) | (rw [s22_4]; rfl) | (rw [s22_5]; rfl) | (rw [s22_7]; rfl), rfl, rfl⟩
      · refine i_tableIn X (by first | omega | (split <;> omega)) (off := 56) (tgt := 78) dX0_item_22 (by omega) (by omega) (by rw [s22_2]; rfl) (by decide) ?_
        refine lv_aload_n X.1 X.2.1 dX0_item_78 rfl (lv_at hl 0 rfl) ?_
        refine g_callX (rest := []) (k := 0) X hW hG hS (vi_value l G A (lv - 1) h n (rwS S) ad (1, 0) (inS S ad i) i i hI_19 (hT.w (by omega) (by omega)).1) q820 q822 (gDecl_code X q821 q828) (by decide +kernel) rfl ⟨by show (lv - 1) + 1 ≤ lv; omega, by show 40 + 40 * (lv - 1) ≤ 40 * lv; omega⟩ ⟨by show 0 + 0 ≤ 0; first | omega | (split <;> omega), by show 0 + 0 ≤ 0; first | omega | (split <;> omega)⟩ hl.1 rfl (Nat.le_of_ble_eq_true rfl) dX0_item_79 (g_pk (fun H locs hG hS => ?_))
        show W p l e (gR lv 0 0) s m args below meth c H locs 0 0 Q (F0 m 82 ls [.int (iI (if S.2 41 i = 0 then S.2 42 i else 0))])
        refine ret _ _ _ _ _ _ _ _ _ ?_ (rfl) (by show 0 ≤ 0; first | omega | (split <;> omega)) (by show 0 ≤ 0; first | omega | (split <;> omega)) hG hS dX0_item_82
        exact ⟨by rw [if_pos hi9]; first | (rw [s22_0]; rfl) | (rw [s22_1]; rfl) | (rw [s22_2]; rfl) | (rw [s22_3]; rfl) | (rw [s22_4]; rfl) | (rw [s22_5]; rfl) | (rw [s22_7]; rfl), rfl, rfl⟩
      · refine i_tableIn X (by first | omega | (split <;> omega)) (off := 61) (tgt := 83) dX0_item_22 (by omega) (by omega) (by rw [s22_3]; rfl) (by decide) ?_
        refine lv_aload_n X.1 X.2.1 dX0_item_83 rfl (lv_at hl 0 rfl) ?_
        refine g_callX (rest := []) (k := 0) X hW hG hS (vi_mark l G A (lv - 1) h n (rwS S) ad (1, 0) (inS S ad i) i i hI_19 (hT.w (by omega) (by omega)).1) q829 q831 (gDecl_code X q830 q837) (by decide +kernel) rfl ⟨by show (lv - 1) + 1 ≤ lv; omega, by show 40 + 40 * (lv - 1) ≤ 40 * lv; omega⟩ ⟨by show 0 + 0 ≤ 0; first | omega | (split <;> omega), by show 0 + 0 ≤ 0; first | omega | (split <;> omega)⟩ hl.1 rfl (Nat.le_of_ble_eq_true rfl) dX0_item_84 (g_pk (fun H locs hG hS => ?_))
        show W p l e (gR lv 0 0) s m args below meth c H locs 0 0 Q (F0 m 87 ls [.int (iI (if S.2 41 i = 1 then S.2 43 i else -9))])
        refine ret _ _ _ _ _ _ _ _ _ ?_ (rfl) (by show 0 ≤ 0; first | omega | (split <;> omega)) (by show 0 ≤ 0; first | omega | (split <;> omega)) hG hS dX0_item_87
        exact ⟨by rw [if_pos hi9]; first | (rw [s22_0]; rfl) | (rw [s22_1]; rfl) | (rw [s22_2]; rfl) | (rw [s22_3]; rfl) | (rw [s22_4]; rfl) | (rw [s22_5]; rfl) | (rw [s22_7]; rfl), rfl, rfl⟩
      · refine i_tableIn X (by first | omega | (split <;> omega)) (off := 66) (tgt := 88) dX0_item_22 (by omega) (by omega) (by rw [s22_4]; rfl) (by decide) ?_
        refine lv_aload_n X.1 X.2.1 dX0_item_88 rfl (lv_at hl 0 rfl) ?_
        refine it_place X hW hG hI_19.1 q605 dX0_item_89 ?_
        show W p l e (gR lv 0 0) s m args below meth c H locs 0 0 Q (F0 m 92 ls [.int (iI (S.2 44 i))])
        refine ret _ _ _ _ _ _ _ _ _ ?_ (rfl) (by show 0 ≤ 0; first | omega | (split <;> omega)) (by show 0 ≤ 0; first | omega | (split <;> omega)) hG hS dX0_item_92
        exact ⟨by rw [if_pos hi9]; first | (rw [s22_0]; rfl) | (rw [s22_1]; rfl) | (rw [s22_2]; rfl) | (rw [s22_3]; rfl) | (rw [s22_4]; rfl) | (rw [s22_5]; rfl) | (rw [s22_7]; rfl), rfl, rfl⟩
      · refine i_tableIn X (by first | omega | (split <;> omega)) (off := 71) (tgt := 93) dX0_item_22 (by omega) (by omega) (by rw [s22_5]; rfl) (by decide) ?_
        refine lv_aload_n X.1 X.2.1 dX0_item_93 rfl (lv_at hl 0 rfl) ?_
        refine it_maker X hW hG hI_19.1 q613 dX0_item_94 ?_
        show W p l e (gR lv 0 0) s m args below meth c H locs 0 0 Q (F0 m 97 ls [.int (iI (S.2 45 i))])
        refine ret _ _ _ _ _ _ _ _ _ ?_ (rfl) (by show 0 ≤ 0; first | omega | (split <;> omega)) (by show 0 ≤ 0; first | omega | (split <;> omega)) hG hS dX0_item_97
        exact ⟨by rw [if_pos hi9]; first | (rw [s22_0]; rfl) | (rw [s22_1]; rfl) | (rw [s22_2]; rfl) | (rw [s22_3]; rfl) | (rw [s22_4]; rfl) | (rw [s22_5]; rfl) | (rw [s22_7]; rfl), rfl, rfl⟩
      · refine i_tableIn X (by first | omega | (split <;> omega)) (off := 76) (tgt := 98) dX0_item_22 (by omega) (by omega) (by rw [s22_6]; rfl) (by decide) ?_
        by_cases hia : S.2 48 i = -9
        · have hIa := hI_19.1
          rw [inS_n hia] at hIa
          refine lv_aload_n X.1 X.2.1 dX0_item_98 rfl (lv_at hl 0 rfl) ?_
          refine it_in X hW hG hIa q618 dX0_item_99 ?_
          show W p l e (gR lv 0 0) s m args below meth c H locs 0 0 Q (F0 m 102 ls [.null])
          refine lv_ifnonnullN X.1 X.2.1 dX0_item_102 ?_
          refine lv_bipush (v := iI (-9)) X.1 X.2.1 dX0_item_105 (by decide) ?_
          refine lv_goto (tgt := 117) X.1 X.2.1 dX0_item_107 (by decide) ?_
          refine ret _ _ _ _ _ _ _ _ _ ?_ (rfl) (by show 0 ≤ 0; first | omega | (split <;> omega)) (by show 0 ≤ 0; first | omega | (split <;> omega)) hG hS dX0_item_117
          exact ⟨by rw [if_pos hi9, s22_6]; first | exact congrArg (fun z => some (Value.int (iI z))) hia.symm | rfl, rfl, rfl⟩
        · have hIa := hI_19.1
          rw [inS_r hia] at hIa
          have hii := hV.1.inside (k := i) (by omega) (by omega)
          have hL1 := (hV.lst (i := S.2 48 i) (by omega) (by omega) (by omega)).1
          refine lv_aload_n X.1 X.2.1 dX0_item_98 rfl (lv_at hl 0 rfl) ?_
          refine it_in X hW hG hIa q618 dX0_item_99 ?_
          show W p l e (gR lv 0 0) s m args below meth c H locs 0 0 Q (F0 m 102 ls [.ref (ad (S.2 48 i))])
          refine lv_ifnonnull (tgt := 110) X.1 X.2.1 dX0_item_102 (by decide) ?_
          refine lv_aload_n X.1 X.2.1 dX0_item_110 rfl (lv_at hl 0 rfl) ?_
          refine it_in X hW hG hIa q618 dX0_item_111 ?_
          show W p l e (gR lv 0 0) s m args below meth c H locs 0 0 Q (F0 m 114 ls [.ref (ad (S.2 48 i))])
          refine n_get (ci := 10) X in_X12 hW hG hL1 rfl 3 (by decide) q625 (fun x hx => u_same (X.2.2.2.2 _ q626) x hx) rfl dX0_item_114 ?_
          refine ret _ _ _ _ _ _ _ _ _ ?_ (rfl) (by show 0 ≤ 0; first | omega | (split <;> omega)) (by show 0 ≤ 0; first | omega | (split <;> omega)) hG hS dX0_item_117
          exact ⟨by rw [if_pos hi9, s22_6]; first | exact congrArg (fun z => some (Value.int (iI z))) hia.symm | rfl, rfl, rfl⟩
      · refine i_tableIn X (by first | omega | (split <;> omega)) (off := 96) (tgt := 118) dX0_item_22 (by omega) (by omega) (by rw [s22_7]; rfl) (by decide) ?_
        refine lv_aload_n X.1 X.2.1 dX0_item_118 rfl (lv_at hl 0 rfl) ?_
        refine g_callS (rest := []) (k := 1) X hW hG hS (gg_readsAs l G A (lv - 1) h n S ad i (by omega) hV (by omega) (by omega)) (lw_S q838 q839 q66 q840) (by decide +kernel) rfl ⟨by show (lv - 1) + 1 ≤ lv; omega, by show 8 + (2 + 11) + 40 * (lv - 1) ≤ 40 * lv; omega⟩ ⟨by show 0 + 0 ≤ 0; first | omega | (split <;> omega), by show 0 + 0 ≤ 0; first | omega | (split <;> omega)⟩ hl.1 rfl (Nat.le_of_ble_eq_true rfl) dX0_item_119 (g_pk (fun H locs hG hS => ?_))
        show W p l e (gR lv 0 0) s m args below meth c H locs 0 0 Q (F0 m 122 ls [.int (iI (spReads S i))])
        refine ret _ _ _ _ _ _ _ _ _ ?_ (rfl) (by show 0 ≤ 0; first | omega | (split <;> omega)) (by show 0 ≤ 0; first | omega | (split <;> omega)) hG hS dX0_item_122
        exact ⟨by rw [if_pos hi9]; first | (rw [s22_0]; rfl) | (rw [s22_1]; rfl) | (rw [s22_2]; rfl) | (rw [s22_3]; rfl) | (rw [s22_4]; rfl) | (rw [s22_5]; rfl) | (rw [s22_7]; rfl), rfl, rfl⟩
  · refine lv_aload_n X.1 X.2.1 dX0_item_8 rfl (lv_at hl 0 rfl) ?_
    refine lv_iload_n X.1 X.2.1 dX0_item_9 rfl (lv_at hl 1 rfl) ?_
    refine g_callV (ci := 0) (rest := []) (k := 1) X hW hG hS hO rfl (gx_no l G A (lv - 1) h n x0 S ad rl ru ap i (by omega) hX hi) (lw_V q794 q796 qs18 q66 q797) (by decide +kernel) rfl ⟨by show (lv - 1) + 1 ≤ lv; omega, by show 8 + (2 + 11) + 40 * (lv - 1) ≤ 40 * lv; omega⟩ ⟨by show 0 + 0 ≤ 0; first | omega | (split <;> omega), by show 0 + 0 ≤ 0; first | omega | (split <;> omega)⟩ hl.1 rfl (Nat.le_of_ble_eq_true rfl) dX0_item_10 (g_pk (fun H locs hG hS => ?_))
    show W p l e (gR lv 0 0) s m args below meth c H locs 0 0 Q (F0 m 13 ls [.int (iI (if 0 ≤ i ∧ i < S.1 40 then 0 else -1))])
    refine ret _ _ _ _ _ _ _ _ _ ?_ (rfl) (by show 0 ≤ 0; first | omega | (split <;> omega)) (by show 0 ≤ 0; first | omega | (split <;> omega)) hG hS dX0_item_13
    exact ⟨by rw [if_neg (by intro z; rw [if_pos z] at c5; exact c5 rfl), if_neg (by intro z; rw [if_pos z] at c5; exact c5 rfl)], rfl, rfl⟩

set_option maxHeartbeats 4000000 in
theorem gx_itemN (l : Launch) (G : gEnv) (A : Nat → Prop) (lv : Nat) (h : gH) (n : Nat) (x0 : Nat) (S : MSt) (rv : Value) (i a : Int) (hlv : 1 ≤ lv) (hO0 : GOB h x0 S rv .null) : gC l yX0_item cX0_item 4 (some .int) G A lv 0 0 [.ref x0, .int (iI (i)), .int (iI (a))] h n (gPure (some (.int (iI (-3)))) h n) := by
  refine gC_ofI RX0 (by decide +kernel) rfl (Nat.le_of_ble_eq_true rfl) ?_
  intro p e s m args below meth c Q X hW ret H locs ls hG hS hl
  have hl : lv_has ls 4 [(0, .ref x0), (1, .int (iI (i))), (2, .int (iI (a)))] := hl
  have hO := hO0
  unfold GOB gOv at hO
  
  refine lv_aload_n X.1 X.2.1 dX0_item_0 rfl (lv_at hl 0 rfl) ?_
  refine lv_iload_n X.1 X.2.1 dX0_item_1 rfl (lv_at hl 1 rfl) ?_
  refine g_callV (ci := 0) (rest := []) (k := 1) X hW hG hS hO rfl (gx_noN l G A (lv - 1) h n x0 S rv i hO0) (lw_V q794 q796 qs18 q66 q797) (by decide +kernel) rfl ⟨by show (lv - 1) + 1 ≤ lv; omega, by show 8 + (2 + 11) + 40 * (lv - 1) ≤ 40 * lv; omega⟩ ⟨by show 0 + 0 ≤ 0; omega, by show 0 + 0 ≤ 0; omega⟩ hl.1 rfl (Nat.le_of_ble_eq_true rfl) dX0_item_2 (g_pk (fun H locs hG hS => ?_))
  show W p l e (gR lv 0 0) s m args below meth c H locs 0 0 Q (F0 m 5 ls [.int (iI ((-3)))])
  refine i_if_eq X 14 dX0_item_5 (by decide) (by decide) (fun c5 => absurd c5 (by decide)) (fun _ => ?_)
  refine lv_aload_n X.1 X.2.1 dX0_item_8 rfl (lv_at hl 0 rfl) ?_
  refine lv_iload_n X.1 X.2.1 dX0_item_9 rfl (lv_at hl 1 rfl) ?_
  refine g_callV (ci := 0) (rest := []) (k := 1) X hW hG hS hO rfl (gx_noN l G A (lv - 1) h n x0 S rv i hO0) (lw_V q794 q796 qs18 q66 q797) (by decide +kernel) rfl ⟨by show (lv - 1) + 1 ≤ lv; omega, by show 8 + (2 + 11) + 40 * (lv - 1) ≤ 40 * lv; omega⟩ ⟨by show 0 + 0 ≤ 0; omega, by show 0 + 0 ≤ 0; omega⟩ hl.1 rfl (Nat.le_of_ble_eq_true rfl) dX0_item_10 (g_pk (fun H locs hG hS => ?_))
  show W p l e (gR lv 0 0) s m args below meth c H locs 0 0 Q (F0 m 13 ls [.int (iI ((-3)))])
  refine ret _ _ _ _ _ _ _ _ _ ?_ (rfl) (by show 0 ≤ 0; omega) (by show 0 ≤ 0; omega) hG hS dX0_item_13
  exact ⟨rfl, rfl, rfl⟩

set_option maxHeartbeats 4000000 in
theorem gx_ruleFor (l : Launch) (G : gEnv) (A : Nat → Prop) (lv : Nat) (h : gH) (n : Nat) (x0 : Nat) (S : MSt) (ad : Int → Nat) (rl : Nat) (ru : Nat → Nat) (ap : Int → Nat) (i : Int) (hlv : 1021 ≤ lv) (hX : GX G h x0 S ad rl ru ap) (h0 : 0 ≤ i) (hn : i < S.1 40) (hw : S.2 41 i = 3) : gC l yX0_ruleFor cX0_ruleFor 3 (some .int) G A lv 0 0 [.ref x0, .ref (ad i)] h n (gPure (some (.int (iI (spRule S i 13 0)))) h n) := by
  refine gC_ofI RX0 (by decide +kernel) rfl (Nat.le_of_ble_eq_true rfl) ?_
  intro p e s m args below meth c Q X hW ret H locs ls hG hS hl
  have hl : lv_has ls 3 [(0, .ref x0), (1, .ref (ad i))] := hl
  have hX0 := hX
  obtain ⟨hO0, hRo, hV, hR⟩ := id hX
  have hO := hO0
  unfold GOB gOv at hO
  have hT := hV.1.1
  have hnn := hV.1.n
  obtain ⟨tgR, moR, dR, hLR, hRr⟩ := id hR.2.1
  have hrl : ((((List.range (S.1 29).toNat).map ru).length : Nat) : Int) = S.1 29 := by simp; have := hR.1.1; omega
  have hmm := hR.1.1
  
  refine lv_iconst (v := iI (0)) X.1 X.2.1 dX0_ruleFor_0 rfl ?_
  refine lv_istore_n (lv' := [(2, .int (iI (0))), (0, .ref x0), (1, .ref (ad i))]) X.1 X.2.1 dX0_ruleFor_1 rfl hl (by decide) rfl (fun ls hl => ?_)
  have L2 : ∀ (N2 : Nat) (k : Nat), ((k : Int) ≤ S.1 29) → (spRule S i (13 - k) k = spRule S i 13 0) → (S.1 29).toNat - k < N2 → ∀ (H : Heap) (locs : List Loc) (ls : Array Slot), gOn G.1 A h n H → va_S A s.heap H locs → lv_has ls 3 [(0, .ref x0), (1, .ref (ad i)), (2, .int (iI ((k : Int))))] → W p l e (gR lv 0 0) s m args below meth c H locs 0 0 Q (F0 m 2 ls []) := by
    intro N2
    induction N2 with
    | zero => intro k hk he hN; exact absurd hN (Nat.not_lt_zero _)
    | succ N2 ih2 =>
      intro k hk he hN2 H locs ls hG hS hl
      refine lv_iload_n X.1 X.2.1 dX0_ruleFor_2 rfl (lv_at hl 2 rfl) ?_
      refine lv_aload_n X.1 X.2.1 dX0_ruleFor_3 rfl (lv_at hl 0 rfl) ?_
      refine n_get (ci := 0) X in_X0 hW hG hO rfl 3 (by decide) q140 (fun _ h => h) rfl dX0_ruleFor_4 ?_
      refine g_callV (ci := 17) (rest := [.int (iI ((k : Int)))]) (k := 0) X hW hG hS hLR rfl (al_size l G A (lv - 1) h n rl ((List.range (S.1 29).toNat).map ru) (S.1 29).toNat hR.2.1) (lw_V q723 q323 q324 q69 q325) (by decide +kernel) rfl ⟨by show (lv - 1) + 1 ≤ lv; omega, by show 8 + (1 + 11) + 40 * (lv - 1) ≤ 40 * lv; omega⟩ ⟨by show 0 + 0 ≤ 0; first | omega | exact bI_iR _, by show 0 + 0 ≤ 0; first | omega | exact bI_iR _⟩ hl.1 rfl (Nat.le_of_ble_eq_true rfl) dX0_ruleFor_7 (g_pk (fun H locs hG hS => ?_))
      show W p l e (gR lv 0 0) s m args below meth c H locs 0 0 Q (F0 m 10 ls [.int (iI ((((List.range (S.1 29).toNat).map ru).length : Int))), .int (iI ((k : Int)))])
      refine i_icmp_ge X 39 dX0_ruleFor_10 (by decide) (by first | omega | exact bI_iR _) (by first | omega | exact bI_iR _) (fun c10 => ?_) (fun c10 => ?_)
      · refine lv_bipush (v := iI (-9)) X.1 X.2.1 dX0_ruleFor_39 (by decide) ?_
        refine ret _ _ _ _ _ _ _ _ _ ?_ (rfl) (by show 0 ≤ 0; first | omega | exact bI_iR _) (by show 0 ≤ 0; first | omega | exact bI_iR _) hG hS dX0_ruleFor_41
        exact ⟨by rw [← he, show 13 - k = (12 - k) + 1 by omega, show spRule S i ((12 - k) + 1) (k : Int) = (if S.1 29 ≤ (k : Int) then -9 else if S.2 30 k = S.2 42 (i + 1) ∧ spFit S k i = true then (k : Int) else spRule S i (12 - k) ((k : Int) + 1)) from rfl, if_pos (by omega)], rfl, rfl⟩
      · have hRk := hR.2.2 k (by omega)
        refine lv_aload_n X.1 X.2.1 dX0_ruleFor_13 rfl (lv_at hl 0 rfl) ?_
        refine n_get (ci := 0) X in_X0 hW hG hO rfl 3 (by decide) q140 (fun _ h => h) rfl dX0_ruleFor_14 ?_
        refine lv_iload_n X.1 X.2.1 dX0_ruleFor_17 rfl (lv_at hl 2 rfl) ?_
        refine g_callV (ci := 17) (rest := []) (k := 1) X hW hG hS hLR rfl (al_get l G A (lv - 1) h n rl ((List.range (S.1 29).toNat).map ru) (S.1 29).toNat (k : Int) (ru k) (by omega) hR.2.1 (by omega) (by rw [Int.toNat_natCast]; exact RUL.get (by omega))) (lw_V q724 q691 q692 q69 q693) (by decide +kernel) rfl ⟨by show (lv - 1) + 1 ≤ lv; omega, by show 8 + (2 + 11) + 40 * (lv - 1) ≤ 40 * lv; omega⟩ ⟨by show 0 + 0 ≤ 0; first | omega | exact bI_iR _, by show 0 + 0 ≤ 0; first | omega | exact bI_iR _⟩ hl.1 rfl (Nat.le_of_ble_eq_true rfl) dX0_ruleFor_18 (g_pk (fun H locs hG hS => ?_))
        show W p l e (gR lv 0 0) s m args below meth c H locs 0 0 Q (F0 m 21 ls [.ref (ru k)])
        refine ru_cast X hW hG hRk.1 q725 dX0_ruleFor_21 ?_
        refine lv_aload_n X.1 X.2.1 dX0_ruleFor_24 rfl (lv_at hl 1 rfl) ?_
        refine g_callX (rest := []) (k := 1) X hW hG hS (vr_fits l G A (lv - 1) h n S ad i rl ru ap k (by omega) hV h0 hn hw hR (by omega)) q891 q894 (gDecl_code X q892 q896) (by decide +kernel) rfl ⟨by show (lv - 1) + 1 ≤ lv; omega, by show 40 + 40 * (lv - 1) ≤ 40 * lv; omega⟩ ⟨by show 0 + 0 ≤ 0; first | omega | exact bI_iR _, by show 0 + 0 ≤ 0; first | omega | exact bI_iR _⟩ hl.1 rfl (Nat.le_of_ble_eq_true rfl) dX0_ruleFor_25 (g_pk (fun H locs hG hS => ?_))
        show W p l e (gR lv 0 0) s m args below meth c H locs 0 0 Q (F0 m 28 ls [.int (iI (bI (decide (S.2 30 k = S.2 42 (i + 1)) && spFit S k i)))])
        refine i_if_eq X 33 dX0_ruleFor_28 (by decide) (bI_iR _) (fun c28 => ?_) (fun c28 => ?_)
        · have c28 := bI_eq0.mp c28
          refine i_inc (lv' := [(2, .int (iI ((k : Int) + 1))), (0, .ref x0), (1, .ref (ad i))]) X dX0_ruleFor_33 hl (k := 2) rfl (by decide) rfl (fun ls hl => ?_)
          refine lv_goto (tgt := 2) X.1 X.2.1 dX0_ruleFor_36 (by decide) ?_
          exact ih2 (k + 1) (by omega) (by rw [← he, show 13 - k = (13 - (k + 1)) + 1 by omega, show spRule S i ((13 - (k + 1)) + 1) (k : Int) = (if S.1 29 ≤ (k : Int) then -9 else if S.2 30 k = S.2 42 (i + 1) ∧ spFit S k i = true then (k : Int) else spRule S i (13 - (k + 1)) ((k : Int) + 1)) from rfl, if_neg (by omega), if_neg (by intro z; rw [decide_eq_true z.1, Bool.true_and] at c28; rw [z.2] at c28; cases c28)]; rfl) (by omega) H locs ls hG hS (lv_sub hl [1, 2, 0] rfl)
        · have c28 := bI_ne0.mp c28
          refine lv_iload_n X.1 X.2.1 dX0_ruleFor_31 rfl (lv_at hl 2 rfl) ?_
          refine ret _ _ _ _ _ _ _ _ _ ?_ (rfl) (by show 0 ≤ 0; first | omega | exact bI_iR _) (by show 0 ≤ 0; first | omega | exact bI_iR _) hG hS dX0_ruleFor_32
          exact ⟨by rw [← he, show 13 - k = (12 - k) + 1 by omega, show spRule S i ((12 - k) + 1) (k : Int) = (if S.1 29 ≤ (k : Int) then -9 else if S.2 30 k = S.2 42 (i + 1) ∧ spFit S k i = true then (k : Int) else spRule S i (12 - k) ((k : Int) + 1)) from rfl, if_neg (by omega), if_pos (by simpa using c28)], rfl, rfl⟩
  exact L2 _ 0 (by omega) rfl (Nat.lt_succ_self _) H locs ls hG hS (lv_sub hl [1, 2, 0] rfl)

theorem spRule_rg (S : MSt) (i : Int) : ∀ (f : Nat) (r : Int), spRule S i f r = -9 ∨ (r ≤ spRule S i f r ∧ spRule S i f r < S.1 29) := by
  intro f
  induction f with
  | zero => intro r; exact Or.inl rfl
  | succ f ih =>
    intro r
    unfold spRule
    by_cases h1 : S.1 29 ≤ r
    · rw [if_pos h1]; exact Or.inl rfl
    · rw [if_neg h1]
      by_cases h2 : S.2 30 r = S.2 42 (i + 1) ∧ spFit S r i = true
      · rw [if_pos h2]; right; omega
      · rw [if_neg h2]
        rcases ih (r + 1) with z | z
        · exact Or.inl z
        · right; omega
set_option maxHeartbeats 4000000 in
/-- 0: no call, 1: not ready, 2: ready -/
theorem gx_callOf (l : Launch) (G : gEnv) (A : Nat → Prop) (lv : Nat) (h : gH) (n : Nat) (x0 : Nat) (S : MSt) (ad : Int → Nat) (rl : Nat) (ru : Nat → Nat) (ap : Int → Nat) (i : Int) (hlv : 1022 ≤ lv) (hX : GX G h x0 S ad rl ru ap) (h0 : 0 ≤ i) (hn : i < S.1 40) : gC l yX0_callOf cX0_callOf 3 (some .int) G A lv 0 0 [.ref x0, .ref (ad i)] h n (gPure (some (.int (iI (if spReady S i = true then 2 else bI (spCall S i))))) h n) := by
  refine gC_ofI RX0 (by decide +kernel) rfl (Nat.le_of_ble_eq_true rfl) ?_
  intro p e s m args below meth c Q X hW ret H locs ls hG hS hl
  have hl : lv_has ls 3 [(0, .ref x0), (1, .ref (ad i))] := hl
  have hX0 := hX
  obtain ⟨hO0, hRo, hV, hR⟩ := id hX
  have hO := hO0
  unfold GOB gOv at hO
  have hT := hV.1.1
  have hnn := hV.1.n
  obtain ⟨tgR, moR, dR, hLR, hRr⟩ := id hR.2.1
  have hrl : ((((List.range (S.1 29).toNat).map ru).length : Nat) : Int) = S.1 29 := by simp; have := hR.1.1; omega
  have hmm := hR.1.1
  
  refine lv_aload_n X.1 X.2.1 dX0_callOf_0 rfl (lv_at hl 1 rfl) ?_
  refine lv_aload_n X.1 X.2.1 dX0_callOf_1 rfl (lv_at hl 0 rfl) ?_
  refine n_get (ci := 0) X in_X0 hW hG hO rfl 3 (by decide) q140 (fun _ h => h) rfl dX0_callOf_2 ?_
  refine g_callX (rest := []) (k := 1) X hW hG hS (vi_isCall l G A (lv - 1) h n S ad i rl ru ap (by omega) hV h0 hn hR) q875 q877 (gDecl_code X q876 q885) (by decide +kernel) rfl ⟨by show (lv - 1) + 1 ≤ lv; omega, by show 40 + 40 * (lv - 1) ≤ 40 * lv; omega⟩ ⟨by show 0 + 0 ≤ 0; first | omega | exact bI_iR _, by show 0 + 0 ≤ 0; first | omega | exact bI_iR _⟩ hl.1 rfl (Nat.le_of_ble_eq_true rfl) dX0_callOf_5 (g_pk (fun H locs hG hS => ?_))
  show W p l e (gR lv 0 0) s m args below meth c H locs 0 0 Q (F0 m 8 ls [.int (iI (bI (spCall S i)))])
  refine i_if_ne X 13 dX0_callOf_8 (by decide) (bI_iR _) (fun c8 => ?_) (fun c8 => ?_)
  · have c8 := bI_ne0.mp c8
    have hI := hV.it h0 hn
    have hii := hV.1.inside h0 hn
    have K43 : (spAnyUp S 501 (S.2 48 i) = false) → ∀ (H : Heap) (locs : List Loc) (ls : Array Slot), gOn G.1 A h n H → va_S A s.heap H locs → lv_has ls 3 [(0, .ref x0), (1, .ref (ad i))] → W p l e (gR lv 0 0) s m args below meth c H locs 0 0 Q (F0 m 43 ls []) := by
      intro  hno H locs ls hG hS hl
      have hw3 : S.2 41 i = 3 := by have z := c8; unfold spCall at z; simp at z; exact z.1.1
      have hLi := (hV.lst h0 hn (by omega)).1
      have hrr := spRule_rg S i 13 0
      refine lv_aload_n X.1 X.2.1 dX0_callOf_43 rfl (lv_at hl 0 rfl) ?_
      refine lv_aload_n X.1 X.2.1 dX0_callOf_44 rfl (lv_at hl 1 rfl) ?_
      refine n_cast (ci := 10) X hW hG hLi rfl q886 (Or.inr rfl) dX0_callOf_45 ?_
      refine g_callV (ci := 0) (rest := []) (k := 1) X hW hG hS hO rfl (gx_ruleFor l G A (lv - 1) h n x0 S ad rl ru ap i (by omega) hX h0 hn hw3) (lw_V q887 q889 qs20 q66 q890) (by decide +kernel) rfl ⟨by show (lv - 1) + 1 ≤ lv; omega, by show 8 + (3 + 11) + 40 * (lv - 1) ≤ 40 * lv; omega⟩ ⟨by show 0 + 0 ≤ 0; first | omega | exact bI_iR _, by show 0 + 0 ≤ 0; first | omega | exact bI_iR _⟩ hl.1 rfl (Nat.le_of_ble_eq_true rfl) dX0_callOf_48 (g_pk (fun H locs hG hS => ?_))
      show W p l e (gR lv 0 0) s m args below meth c H locs 0 0 Q (F0 m 51 ls [.int (iI (spRule S i 13 0))])
      refine lv_bipush (v := iI (-9)) X.1 X.2.1 dX0_callOf_51 (by decide) ?_
      refine i_icmp_ne X 60 dX0_callOf_53 (by decide) (by first | omega | exact bI_iR _) (by first | omega | exact bI_iR _) (fun c53 => ?_) (fun c53 => ?_)
      · refine lv_iconst (v := iI (2)) X.1 X.2.1 dX0_callOf_60 rfl ?_
        refine ret _ _ _ _ _ _ _ _ _ ?_ (rfl) (by show 0 ≤ 0; first | omega | exact bI_iR _) (by show 0 ≤ 0; first | omega | exact bI_iR _) hG hS dX0_callOf_61
        exact ⟨by unfold spReady; rw [c8, hno]; first | (rw [if_neg (by rw [c53]; simp)]; rfl) | (rw [if_pos (by rw [decide_eq_true c53]; rfl)]), rfl, rfl⟩
      · refine lv_iconst (v := iI (1)) X.1 X.2.1 dX0_callOf_56 rfl ?_
        refine lv_goto (tgt := 61) X.1 X.2.1 dX0_callOf_57 (by decide) ?_
        refine ret _ _ _ _ _ _ _ _ _ ?_ (rfl) (by show 0 ≤ 0; first | omega | exact bI_iR _) (by show 0 ≤ 0; first | omega | exact bI_iR _) hG hS dX0_callOf_61
        exact ⟨by unfold spReady; rw [c8, hno]; first | (rw [if_neg (by rw [c53]; simp)]; rfl) | (rw [if_pos (by rw [decide_eq_true c53]; rfl)]), rfl, rfl⟩
    refine lv_aload_n X.1 X.2.1 dX0_callOf_13 rfl (lv_at hl 1 rfl) ?_
    by_cases hia : S.2 48 i = -9
    · have hIa := hI.1
      rw [inS_n hia] at hIa
      have hno : spAnyUp S 501 (S.2 48 i) = false := by rw [hia]; rfl
      refine it_in X hW hG hIa q618 dX0_callOf_14 ?_
      show W p l e (gR lv 0 0) s m args below meth c H locs 0 0 Q (F0 m 17 ls [.null])
      refine lv_astore_nN (lv' := [(2, .null), (0, .ref x0), (1, .ref (ad i))]) X.1 X.2.1 dX0_callOf_17 rfl hl (by decide) rfl (fun ls hl => ?_)
      refine lv_aload_nN X.1 X.2.1 dX0_callOf_18 rfl (lv_at hl 0 rfl) ?_
      refine lv_ifnullN (tgt := 43) X.1 X.2.1 dX0_callOf_19 (by decide) ?_
      exact K43  hno H locs ls hG hS (lv_sub hl [1, 2] rfl)
    · have hIa := hI.1
      rw [inS_r hia] at hIa
      refine it_in X hW hG hIa q618 dX0_callOf_14 ?_
      show W p l e (gR lv 0 0) s m args below meth c H locs 0 0 Q (F0 m 17 ls [.ref (ad (S.2 48 i))])
      refine lv_astore_n (lv' := [(2, .ref (ad (S.2 48 i))), (0, .ref x0), (1, .ref (ad i))]) X.1 X.2.1 dX0_callOf_17 rfl hl (by decide) rfl (fun ls hl => ?_)
      have L18 : ∀ (N18 : Nat) (q : Int), (0 ≤ q ∧ q < S.1 40) → (∀ f : Nat, q < f → spAnyUp S f q = spAnyUp S 501 (S.2 48 i)) → q.toNat < N18 → ∀ (H : Heap) (locs : List Loc) (ls : Array Slot), gOn G.1 A h n H → va_S A s.heap H locs → lv_has ls 3 [(0, .ref x0), (1, .ref (ad i)), (2, .ref (ad q))] → W p l e (gR lv 0 0) s m args below meth c H locs 0 0 Q (F0 m 18 ls []) := by
        intro N18
        induction N18 with
        | zero => intro q hq he hN; exact absurd hN (Nat.not_lt_zero _)
        | succ N18 ih18 =>
          intro q hq he hN18 H locs ls hG hS hl
          refine lv_aload_n X.1 X.2.1 dX0_callOf_18 rfl (lv_at hl 2 rfl) ?_
          refine lv_ifnull X.1 X.2.1 dX0_callOf_19 ?_
          have hIq := hV.it (i := q) (by omega) (by omega)
          have hqi := hV.1.inside (k := q) (by omega) (by omega)
          refine lv_aload_n X.1 X.2.1 dX0_callOf_22 rfl (lv_at hl 2 rfl) ?_
          refine lv_aload_n X.1 X.2.1 dX0_callOf_23 rfl (lv_at hl 0 rfl) ?_
          refine n_get (ci := 0) X in_X0 hW hG hO rfl 3 (by decide) q140 (fun _ h => h) rfl dX0_callOf_24 ?_
          refine g_callX (rest := []) (k := 1) X hW hG hS (vi_isCall l G A (lv - 1) h n S ad q rl ru ap (by omega) hV (by omega) (by omega) hR) q875 q877 (gDecl_code X q876 q885) (by decide +kernel) rfl ⟨by show (lv - 1) + 1 ≤ lv; omega, by show 40 + 40 * (lv - 1) ≤ 40 * lv; omega⟩ ⟨by show 0 + 0 ≤ 0; first | omega | exact bI_iR _, by show 0 + 0 ≤ 0; first | omega | exact bI_iR _⟩ hl.1 rfl (Nat.le_of_ble_eq_true rfl) dX0_callOf_27 (g_pk (fun H locs hG hS => ?_))
          show W p l e (gR lv 0 0) s m args below meth c H locs 0 0 Q (F0 m 30 ls [.int (iI (bI (spCall S q)))])
          refine i_if_eq X 35 dX0_callOf_30 (by decide) (bI_iR _) (fun c30 => ?_) (fun c30 => ?_)
          · have c30 := bI_eq0.mp c30
            refine lv_aload_n X.1 X.2.1 dX0_callOf_35 rfl (lv_at hl 2 rfl) ?_
            by_cases hqa : S.2 48 q = -9
            · have hQa := hIq.1
              rw [inS_n hqa] at hQa
              have hno : spAnyUp S 501 (S.2 48 i) = false := by rw [← he (q.toNat + 1) (by omega), spAnyUp_s, if_neg (by omega), c30, Bool.false_or, hqa]; cases q.toNat <;> rfl
              refine it_in X hW hG hQa q618 dX0_callOf_36 ?_
              show W p l e (gR lv 0 0) s m args below meth c H locs 0 0 Q (F0 m 39 ls [.null])
              refine lv_astore_nN (lv' := [(2, .null), (0, .ref x0), (1, .ref (ad i))]) X.1 X.2.1 dX0_callOf_39 rfl hl (by decide) rfl (fun ls hl => ?_)
              refine lv_goto (tgt := 18) X.1 X.2.1 dX0_callOf_40 (by decide) ?_
              refine lv_aload_nN X.1 X.2.1 dX0_callOf_18 rfl (lv_at hl 0 rfl) ?_
              refine lv_ifnullN (tgt := 43) X.1 X.2.1 dX0_callOf_19 (by decide) ?_
              exact K43  hno H locs ls hG hS (lv_sub hl [1, 2] rfl)
            · have hQa := hIq.1
              rw [inS_r hqa] at hQa
              refine it_in X hW hG hQa q618 dX0_callOf_36 ?_
              show W p l e (gR lv 0 0) s m args below meth c H locs 0 0 Q (F0 m 39 ls [.ref (ad (S.2 48 q))])
              refine lv_astore_n (lv' := [(2, .ref (ad (S.2 48 q))), (0, .ref x0), (1, .ref (ad i))]) X.1 X.2.1 dX0_callOf_39 rfl hl (by decide) rfl (fun ls hl => ?_)
              refine lv_goto (tgt := 18) X.1 X.2.1 dX0_callOf_40 (by decide) ?_
              exact ih18 (S.2 48 q) (by omega) (fun f hf => by have h1 := he (max f q.toNat + 1) (by omega); rw [spAnyUp_s, if_neg (by omega), c30, Bool.false_or] at h1; rw [← h1]; exact (spAnyUp_more hV.1 f _ (by omega) hf _ (Nat.le_max_left _ _)).symm) (by omega) H locs ls hG hS (lv_sub hl [1, 2, 0] rfl)
          · have c30 := bI_ne0.mp c30
            refine lv_iconst (v := iI (1)) X.1 X.2.1 dX0_callOf_33 rfl ?_
            refine ret _ _ _ _ _ _ _ _ _ ?_ (rfl) (by show 0 ≤ 0; first | omega | exact bI_iR _) (by show 0 ≤ 0; first | omega | exact bI_iR _) hG hS dX0_callOf_34
            exact ⟨by rw [if_neg (by unfold spReady; rw [← he (q.toNat + 1) (by omega), spAnyUp_s, if_neg (by omega), c30]; simp), c8]; rfl, rfl, rfl⟩
      exact L18 _ (S.2 48 i) (by omega) (fun f hf => by rcases Nat.le_total f 501 with z | z; exact (spAnyUp_more hV.1 f _ (by omega) hf _ z).symm; exact spAnyUp_more hV.1 501 _ (by omega) (by omega) _ z) (Nat.lt_succ_self _) H locs ls hG hS (lv_sub hl [1, 2, 0] rfl)
  · have c8 := bI_eq0.mp c8
    refine lv_iconst (v := iI (0)) X.1 X.2.1 dX0_callOf_11 rfl ?_
    refine ret _ _ _ _ _ _ _ _ _ ?_ (rfl) (by show 0 ≤ 0; first | omega | exact bI_iR _) (by show 0 ≤ 0; first | omega | exact bI_iR _) hG hS dX0_callOf_12
    exact ⟨by rw [if_neg (by unfold spReady; rw [c8]; simp), c8]; rfl, rfl, rfl⟩

set_option maxHeartbeats 4000000 in
theorem gx_call (l : Launch) (G : gEnv) (A : Nat → Prop) (lv : Nat) (h : gH) (n : Nat) (x0 : Nat) (S : MSt) (ad : Int → Nat) (rl : Nat) (ru : Nat → Nat) (ap : Int → Nat) (i : Int) (hlv : 1023 ≤ lv) (hX : GX G h x0 S ad rl ru ap) (hi : iR i) : gC l yX0_call cX0_call 2 (some .int) G A lv 0 0 [.ref x0, .int (iI (i))] h n (gPure (some (.int (iI (if 0 ≤ i ∧ i < S.1 40 then (if spReady S i = true then 2 else bI (spCall S i)) else -1)))) h n) := by
  refine gC_ofI RX0 (by decide +kernel) rfl (Nat.le_of_ble_eq_true rfl) ?_
  intro p e s m args below meth c Q X hW ret H locs ls hG hS hl
  have hl : lv_has ls 2 [(0, .ref x0), (1, .int (iI (i)))] := hl
  have hX0 := hX
  obtain ⟨hO0, hRo, hV, hR⟩ := id hX
  have hO := hO0
  unfold GOB gOv at hO
  have hT := hV.1.1
  have hnn := hV.1.n
  obtain ⟨tgR, moR, dR, hLR, hRr⟩ := id hR.2.1
  have hrl : ((((List.range (S.1 29).toNat).map ru).length : Nat) : Int) = S.1 29 := by simp; have := hR.1.1; omega
  have hmm := hR.1.1
  
  refine lv_aload_n X.1 X.2.1 dX0_call_0 rfl (lv_at hl 0 rfl) ?_
  refine lv_iload_n X.1 X.2.1 dX0_call_1 rfl (lv_at hl 1 rfl) ?_
  refine g_callV (ci := 0) (rest := []) (k := 1) X hW hG hS hO rfl (gx_no l G A (lv - 1) h n x0 S ad rl ru ap i (by omega) hX hi) (lw_V q794 q796 qs18 q66 q797) (by decide +kernel) rfl ⟨by show (lv - 1) + 1 ≤ lv; omega, by show 8 + (2 + 11) + 40 * (lv - 1) ≤ 40 * lv; omega⟩ ⟨by show 0 + 0 ≤ 0; first | omega | (split <;> omega), by show 0 + 0 ≤ 0; first | omega | (split <;> omega)⟩ hl.1 rfl (Nat.le_of_ble_eq_true rfl) dX0_call_2 (g_pk (fun H locs hG hS => ?_))
  show W p l e (gR lv 0 0) s m args below meth c H locs 0 0 Q (F0 m 5 ls [.int (iI (if 0 ≤ i ∧ i < S.1 40 then 0 else -1))])
  refine i_if_eq X 16 dX0_call_5 (by decide) (by first | omega | (split <;> omega)) (fun c5 => ?_) (fun c5 => ?_)
  · have hi9 : 0 ≤ i ∧ i < S.1 40 := by revert c5; split <;> intro c5 <;> omega
    refine lv_aload_n X.1 X.2.1 dX0_call_16 rfl (lv_at hl 0 rfl) ?_
    refine lv_aload_n X.1 X.2.1 dX0_call_17 rfl (lv_at hl 0 rfl) ?_
    refine n_get (ci := 0) X in_X0 hW hG hO rfl 8 (by decide) q145 (fun _ h => h) rfl dX0_call_18 ?_
    refine lv_iload_n X.1 X.2.1 dX0_call_21 rfl (lv_at hl 1 rfl) ?_
    refine n_row X hW hG hRo (i := i) (by omega) (by omega) (by omega) dX0_call_22 ?_
    have hI_22 := hV.it (i := i) (by omega) (by omega)
    refine g_callV (ci := 0) (rest := []) (k := 1) X hW hG hS hO rfl (gx_callOf l G A (lv - 1) h n x0 S ad rl ru ap i (by omega) hX (by omega) (by omega)) (lw_V q871 q873 qs19 q66 q874) (by decide +kernel) rfl ⟨by show (lv - 1) + 1 ≤ lv; omega, by show 8 + (3 + 11) + 40 * (lv - 1) ≤ 40 * lv; omega⟩ ⟨by show 0 + 0 ≤ 0; first | omega | (split <;> omega), by show 0 + 0 ≤ 0; first | omega | (split <;> omega)⟩ hl.1 rfl (Nat.le_of_ble_eq_true rfl) dX0_call_23 (g_pk (fun H locs hG hS => ?_))
    show W p l e (gR lv 0 0) s m args below meth c H locs 0 0 Q (F0 m 26 ls [.int (iI ((if spReady S i = true then 2 else bI (spCall S i))))])
    refine ret _ _ _ _ _ _ _ _ _ ?_ (rfl) (by show 0 ≤ 0; first | omega | (split <;> omega)) (by show 0 ≤ 0; first | omega | (split <;> omega)) hG hS dX0_call_26
    exact ⟨by first | rw [if_neg (by intro z; rw [if_pos z] at c5; exact c5 rfl), if_neg (by intro z; rw [if_pos z] at c5; exact c5 rfl)] | rw [if_pos hi9], rfl, rfl⟩
  · refine lv_aload_n X.1 X.2.1 dX0_call_8 rfl (lv_at hl 0 rfl) ?_
    refine lv_iload_n X.1 X.2.1 dX0_call_9 rfl (lv_at hl 1 rfl) ?_
    refine g_callV (ci := 0) (rest := []) (k := 1) X hW hG hS hO rfl (gx_no l G A (lv - 1) h n x0 S ad rl ru ap i (by omega) hX hi) (lw_V q794 q796 qs18 q66 q797) (by decide +kernel) rfl ⟨by show (lv - 1) + 1 ≤ lv; omega, by show 8 + (2 + 11) + 40 * (lv - 1) ≤ 40 * lv; omega⟩ ⟨by show 0 + 0 ≤ 0; first | omega | (split <;> omega), by show 0 + 0 ≤ 0; first | omega | (split <;> omega)⟩ hl.1 rfl (Nat.le_of_ble_eq_true rfl) dX0_call_10 (g_pk (fun H locs hG hS => ?_))
    show W p l e (gR lv 0 0) s m args below meth c H locs 0 0 Q (F0 m 13 ls [.int (iI (if 0 ≤ i ∧ i < S.1 40 then 0 else -1))])
    refine lv_goto (tgt := 26) X.1 X.2.1 dX0_call_13 (by decide) ?_
    refine ret _ _ _ _ _ _ _ _ _ ?_ (rfl) (by show 0 ≤ 0; first | omega | (split <;> omega)) (by show 0 ≤ 0; first | omega | (split <;> omega)) hG hS dX0_call_26
    exact ⟨by first | rw [if_neg (by intro z; rw [if_pos z] at c5; exact c5 rfl), if_neg (by intro z; rw [if_pos z] at c5; exact c5 rfl)] | rw [if_pos hi9], rfl, rfl⟩

set_option maxHeartbeats 4000000 in
theorem gx_callN (l : Launch) (G : gEnv) (A : Nat → Prop) (lv : Nat) (h : gH) (n : Nat) (x0 : Nat) (S : MSt) (rv : Value) (i : Int) (hlv : 1 ≤ lv) (hO0 : GOB h x0 S rv .null) : gC l yX0_call cX0_call 2 (some .int) G A lv 0 0 [.ref x0, .int (iI (i))] h n (gPure (some (.int (iI (-3)))) h n) := by
  refine gC_ofI RX0 (by decide +kernel) rfl (Nat.le_of_ble_eq_true rfl) ?_
  intro p e s m args below meth c Q X hW ret H locs ls hG hS hl
  have hl : lv_has ls 2 [(0, .ref x0), (1, .int (iI (i)))] := hl
  have hO := hO0
  unfold GOB gOv at hO
  
  refine lv_aload_n X.1 X.2.1 dX0_call_0 rfl (lv_at hl 0 rfl) ?_
  refine lv_iload_n X.1 X.2.1 dX0_call_1 rfl (lv_at hl 1 rfl) ?_
  refine g_callV (ci := 0) (rest := []) (k := 1) X hW hG hS hO rfl (gx_noN l G A (lv - 1) h n x0 S rv i hO0) (lw_V q794 q796 qs18 q66 q797) (by decide +kernel) rfl ⟨by show (lv - 1) + 1 ≤ lv; omega, by show 8 + (2 + 11) + 40 * (lv - 1) ≤ 40 * lv; omega⟩ ⟨by show 0 + 0 ≤ 0; omega, by show 0 + 0 ≤ 0; omega⟩ hl.1 rfl (Nat.le_of_ble_eq_true rfl) dX0_call_2 (g_pk (fun H locs hG hS => ?_))
  show W p l e (gR lv 0 0) s m args below meth c H locs 0 0 Q (F0 m 5 ls [.int (iI ((-3)))])
  refine i_if_eq X 16 dX0_call_5 (by decide) (by decide) (fun c5 => absurd c5 (by decide)) (fun _ => ?_)
  refine lv_aload_n X.1 X.2.1 dX0_call_8 rfl (lv_at hl 0 rfl) ?_
  refine lv_iload_n X.1 X.2.1 dX0_call_9 rfl (lv_at hl 1 rfl) ?_
  refine g_callV (ci := 0) (rest := []) (k := 1) X hW hG hS hO rfl (gx_noN l G A (lv - 1) h n x0 S rv i hO0) (lw_V q794 q796 qs18 q66 q797) (by decide +kernel) rfl ⟨by show (lv - 1) + 1 ≤ lv; omega, by show 8 + (2 + 11) + 40 * (lv - 1) ≤ 40 * lv; omega⟩ ⟨by show 0 + 0 ≤ 0; omega, by show 0 + 0 ≤ 0; omega⟩ hl.1 rfl (Nat.le_of_ble_eq_true rfl) dX0_call_10 (g_pk (fun H locs hG hS => ?_))
  show W p l e (gR lv 0 0) s m args below meth c H locs 0 0 Q (F0 m 13 ls [.int (iI ((-3)))])
  refine lv_goto (tgt := 26) X.1 X.2.1 dX0_call_13 (by decide) ?_
  refine ret _ _ _ _ _ _ _ _ _ ?_ (rfl) (by show 0 ≤ 0; omega) (by show 0 ≤ 0; omega) hG hS dX0_call_26
  exact ⟨rfl, rfl, rfl⟩

section FIND
variable {S : MSt} {la j m0 f k : Int}
theorem find_yes (hdn : (S.1 40 - k).toNat = (S.1 40 - (k + 1)).toNat + 1) (hyr : spReady S k = true) (hm : 0 ≤ m0) (hj : la = 0 → (j < 0 → f = -9) ∧ (0 ≤ j → (m0 ≤ j ∧ f = -9 ∧ spNth S (S.1 40 - k).toNat k (j - m0) = spNth S (S.1 40).toNat 0 j) ∨ (j < m0 ∧ f = spNth S (S.1 40).toNat 0 j))) {f1 : Int} (hf : la = 0 → f1 = if m0 = j then k else f) : la = 0 → (j < 0 → f1 = -9) ∧ (0 ≤ j → (m0 + 1 ≤ j ∧ f1 = -9 ∧ spNth S (S.1 40 - (k + 1)).toNat (k + 1) (j - (m0 + 1)) = spNth S (S.1 40).toNat 0 j) ∨ (j < m0 + 1 ∧ f1 = spNth S (S.1 40).toNat 0 j)) := by
  intro z
  obtain ⟨a, b⟩ := hj z
  rw [hf z]
  refine ⟨fun hh => by rw [if_neg (by omega)]; exact a hh, fun hh => ?_⟩
  rcases b hh with ⟨b1, b2, b3⟩ | ⟨b1, b2⟩
  · rw [hdn, spNth_s, if_pos hyr] at b3
    by_cases e : m0 = j
    · rw [if_pos (by omega)] at b3
      right
      rw [if_pos e]
      exact ⟨by omega, b3⟩
    · rw [if_neg (by omega)] at b3
      left
      rw [if_neg e]
      exact ⟨by omega, b2, by rw [← b3, show j - (m0 + 1) = j - m0 - 1 by omega]⟩
  · right
    rw [if_neg (by omega)]
    exact ⟨by omega, b2⟩
theorem find_no (hdn : (S.1 40 - k).toNat = (S.1 40 - (k + 1)).toNat + 1) (hnr : spReady S k = false) (hj : la = 0 → (j < 0 → f = -9) ∧ (0 ≤ j → (m0 ≤ j ∧ f = -9 ∧ spNth S (S.1 40 - k).toNat k (j - m0) = spNth S (S.1 40).toNat 0 j) ∨ (j < m0 ∧ f = spNth S (S.1 40).toNat 0 j))) : la = 0 → (j < 0 → f = -9) ∧ (0 ≤ j → (m0 ≤ j ∧ f = -9 ∧ spNth S (S.1 40 - (k + 1)).toNat (k + 1) (j - m0) = spNth S (S.1 40).toNat 0 j) ∨ (j < m0 ∧ f = spNth S (S.1 40).toNat 0 j)) := by
  intro z
  obtain ⟨a, b⟩ := hj z
  refine ⟨a, fun hh => ?_⟩
  rcases b hh with ⟨b1, b2, b3⟩ | b
  · rw [hdn, spNth_s, if_neg (by rw [hnr]; simp)] at b3
    exact Or.inl ⟨b1, b2, b3⟩
  · exact Or.inr b
theorem find_lastY (hdn : (S.1 40 - k).toNat = (S.1 40 - (k + 1)).toNat + 1) (hyr : spReady S k = true) (hla : la ≠ 0 → spLast S (S.1 40 - k).toNat k f = spLast S (S.1 40).toNat 0 (-9)) {f1 : Int} (hf : la ≠ 0 → f1 = k) : la ≠ 0 → spLast S (S.1 40 - (k + 1)).toNat (k + 1) f1 = spLast S (S.1 40).toNat 0 (-9) := by
  intro z
  rw [hf z, ← hla z, hdn, spLast_s, if_pos hyr]
theorem find_lastN (hdn : (S.1 40 - k).toNat = (S.1 40 - (k + 1)).toNat + 1) (hnr : spReady S k = false) (hla : la ≠ 0 → spLast S (S.1 40 - k).toNat k f = spLast S (S.1 40).toNat 0 (-9)) : la ≠ 0 → spLast S (S.1 40 - (k + 1)).toNat (k + 1) f = spLast S (S.1 40).toNat 0 (-9) := by
  intro z
  rw [← hla z, hdn, spLast_s, if_neg (by rw [hnr]; simp)]
end FIND
set_option maxHeartbeats 4000000 in
/-- the n-th ready call, or the last one -/
theorem gx_find (l : Launch) (G : gEnv) (A : Nat → Prop) (lv : Nat) (h : gH) (n : Nat) (x0 : Nat) (S : MSt) (ad : Int → Nat) (rl : Nat) (ru : Nat → Nat) (ap : Int → Nat) (j la : Int) (hlv : 1024 ≤ lv) (hX : GX G h x0 S ad rl ru ap) (hjr : iR j) (hl01 : la = 0 ∨ la = 1) : gC l yX0_find cX0_find 6 (some .int) G A lv 0 0 [.ref x0, .int (iI (j)), .int (iI (la))] h n (gPure (some (.int (iI (if la = 0 then (if j < 0 then -9 else spNth S (S.1 40).toNat 0 j) else spLast S (S.1 40).toNat 0 (-9))))) h n) := by
  refine gC_ofI RX0 (by decide +kernel) rfl (Nat.le_of_ble_eq_true rfl) ?_
  intro p e s m args below meth c Q X hW ret H locs ls hG hS hl
  have hl : lv_has ls 6 [(0, .ref x0), (1, .int (iI (j))), (2, .int (iI (la)))] := hl
  have hX0 := hX
  obtain ⟨hO0, hRo, hV, hR⟩ := id hX
  have hO := hO0
  unfold GOB gOv at hO
  have hT := hV.1.1
  have hnn := hV.1.n
  obtain ⟨tgR, moR, dR, hLR, hRr⟩ := id hR.2.1
  have hrl : ((((List.range (S.1 29).toNat).map ru).length : Nat) : Int) = S.1 29 := by simp; have := hR.1.1; omega
  have hmm := hR.1.1
  
  refine lv_iconst (v := iI (0)) X.1 X.2.1 dX0_find_0 rfl ?_
  refine lv_istore_n (lv' := [(3, .int (iI (0))), (0, .ref x0), (1, .int (iI (j))), (2, .int (iI (la)))]) X.1 X.2.1 dX0_find_1 rfl hl (by decide) rfl (fun ls hl => ?_)
  refine lv_bipush (v := iI (-9)) X.1 X.2.1 dX0_find_2 (by decide) ?_
  refine lv_istore (lv' := [(4, .int (iI ((-9)))), (3, .int (iI (0))), (0, .ref x0), (1, .int (iI (j))), (2, .int (iI (la)))]) X.1 X.2.1 dX0_find_4 hl (by decide) rfl (fun ls hl => ?_)
  refine lv_iconst (v := iI (0)) X.1 X.2.1 dX0_find_6 rfl ?_
  refine lv_istore (lv' := [(5, .int (iI (0))), (4, .int (iI ((-9)))), (3, .int (iI (0))), (0, .ref x0), (1, .int (iI (j))), (2, .int (iI (la)))]) X.1 X.2.1 dX0_find_7 hl (by decide) rfl (fun ls hl => ?_)
  have L9 : ∀ (N9 : Nat) (m0 f k : Int), (0 ≤ k ∧ k ≤ S.1 40) → (0 ≤ m0 ∧ m0 ≤ k) → (la = 0 → (j < 0 → f = -9) ∧ (0 ≤ j → (m0 ≤ j ∧ f = -9 ∧ spNth S (S.1 40 - k).toNat k (j - m0) = spNth S (S.1 40).toNat 0 j) ∨ (j < m0 ∧ f = spNth S (S.1 40).toNat 0 j))) → (la ≠ 0 → spLast S (S.1 40 - k).toNat k f = spLast S (S.1 40).toNat 0 (-9)) → (iR f) → (S.1 40 - k).toNat < N9 → ∀ (H : Heap) (locs : List Loc) (ls : Array Slot), gOn G.1 A h n H → va_S A s.heap H locs → lv_has ls 6 [(0, .ref x0), (1, .int (iI (j))), (2, .int (iI (la))), (3, .int (iI (m0))), (4, .int (iI (f))), (5, .int (iI (k)))] → W p l e (gR lv 0 0) s m args below meth c H locs 0 0 Q (F0 m 9 ls []) := by
    intro N9
    induction N9 with
    | zero => intro m0 f k hk hm hj hla hfr hN; exact absurd hN (Nat.not_lt_zero _)
    | succ N9 ih9 =>
      intro m0 f k hk hm hj hla hfr hN9 H locs ls hG hS hl
      refine lv_iload X.1 X.2.1 dX0_find_9 (lv_at hl 5 rfl) ?_
      refine lv_aload_n X.1 X.2.1 dX0_find_11 rfl (lv_at hl 0 rfl) ?_
      refine n_get (ci := 0) X in_X0 hW hG hO rfl 9 (by decide) q146 (fun _ h => h) rfl dX0_find_12 ?_
      refine i_icmp_ge X 69 dX0_find_15 (by decide) (by first | omega | exact bI_iR _ | (split <;> first | omega | exact bI_iR _)) (by first | omega | exact bI_iR _ | (split <;> first | omega | exact bI_iR _)) (fun c15 => ?_) (fun c15 => ?_)
      · refine lv_iload X.1 X.2.1 dX0_find_69 (lv_at hl 4 rfl) ?_
        refine ret _ _ _ _ _ _ _ _ _ ?_ (rfl) (by show 0 ≤ 0; first | omega | exact bI_iR _ | (split <;> first | omega | exact bI_iR _)) (by show 0 ≤ 0; first | omega | exact bI_iR _ | (split <;> first | omega | exact bI_iR _)) hG hS dX0_find_71
        exact ⟨by
          congr 3
          by_cases z : la = 0
          · rw [if_pos z]
            obtain ⟨a1, a2⟩ := hj z
            by_cases z2 : j < 0
            · rw [if_pos z2, a1 z2]
            · rw [if_neg z2]
              rcases a2 (by omega) with ⟨b1, b2, b3⟩ | ⟨b1, b2⟩
              · rw [b2, ← b3, show (S.1 40 - k).toNat = 0 by omega]; rfl
              · exact b2
          · rw [if_neg z, ← hla z, show (S.1 40 - k).toNat = 0 by omega]; rfl, rfl, rfl⟩
      · have hdn : (S.1 40 - k).toNat = (S.1 40 - (k + 1)).toNat + 1 := by omega
        have hwk := hT.w (i := k) (by omega) (by omega)
        have K63 : ∀ (m1 f1 : Int), (0 ≤ m1 ∧ m1 ≤ k + 1) → (la = 0 → (j < 0 → f1 = -9) ∧ (0 ≤ j → (m1 ≤ j ∧ f1 = -9 ∧ spNth S (S.1 40 - (k + 1)).toNat (k + 1) (j - m1) = spNth S (S.1 40).toNat 0 j) ∨ (j < m1 ∧ f1 = spNth S (S.1 40).toNat 0 j))) → (la ≠ 0 → spLast S (S.1 40 - (k + 1)).toNat (k + 1) f1 = spLast S (S.1 40).toNat 0 (-9)) → (iR f1) → ∀ (H : Heap) (locs : List Loc) (ls : Array Slot), gOn G.1 A h n H → va_S A s.heap H locs → lv_has ls 6 [(0, .ref x0), (1, .int (iI (j))), (2, .int (iI (la))), (3, .int (iI (m1))), (4, .int (iI (f1))), (5, .int (iI (k)))] → W p l e (gR lv 0 0) s m args below meth c H locs 0 0 Q (F0 m 63 ls []) := by
          intro m1 f1 hm1 hj2 hla2 hf1 H locs ls hG hS hl
          refine i_inc (lv' := [(5, .int (iI (k + 1))), (0, .ref x0), (1, .int (iI (j))), (2, .int (iI (la))), (3, .int (iI (m1))), (4, .int (iI (f1)))]) X dX0_find_63 hl (k := 5) rfl (by decide) rfl (fun ls hl => ?_)
          refine lv_goto (tgt := 9) X.1 X.2.1 dX0_find_66 (by decide) ?_
          exact ih9 m1 f1 (k + 1) (by omega) (by omega) hj2 hla2 (by omega) (by omega) H locs ls hG hS (lv_sub hl [1, 2, 3, 4, 5, 0] rfl)
        refine lv_aload_n X.1 X.2.1 dX0_find_18 rfl (lv_at hl 0 rfl) ?_
        refine n_get (ci := 0) X in_X0 hW hG hO rfl 8 (by decide) q145 (fun _ h => h) rfl dX0_find_19 ?_
        refine lv_iload X.1 X.2.1 dX0_find_22 (lv_at hl 5 rfl) ?_
        refine n_row X hW hG hRo (i := k) (by omega) (by omega) (by omega) dX0_find_24 ?_
        have hI_24 := hV.it (i := k) (by omega) (by omega)
        refine g_callX (rest := []) (k := 0) X hW hG hS (vi_kind l G A (lv - 1) h n (rwS S) ad (1, 0) (inS S ad k) k k hI_24 (hT.w (by omega) (by omega)).1) q799 q801 (gDecl_abs hW q800) (by decide +kernel) rfl ⟨by show (lv - 1) + 1 ≤ lv; omega, by show 40 + 40 * (lv - 1) ≤ 40 * lv; omega⟩ ⟨by show 0 + 0 ≤ 0; first | omega | exact bI_iR _ | (split <;> first | omega | exact bI_iR _), by show 0 + 0 ≤ 0; first | omega | exact bI_iR _ | (split <;> first | omega | exact bI_iR _)⟩ hl.1 rfl (Nat.le_of_ble_eq_true rfl) dX0_find_25 (g_pk (fun H locs hG hS => ?_))
        show W p l e (gR lv 0 0) s m args below meth c H locs 0 0 Q (F0 m 28 ls [.int (iI (S.2 41 k))])
        refine lv_iconst (v := iI (3)) X.1 X.2.1 dX0_find_28 rfl ?_
        refine i_icmp_ne X 63 dX0_find_29 (by decide) (by first | omega | exact bI_iR _ | (split <;> first | omega | exact bI_iR _)) (by first | omega | exact bI_iR _ | (split <;> first | omega | exact bI_iR _)) (fun c29 => ?_) (fun c29 => ?_)
        · have hnr : spReady S k = false := by
            first
              | (unfold spReady spCall; rw [decide_eq_false c29]; rfl)
              | (by_cases z : spReady S k = true; (rw [if_pos z] at c44; omega); (simpa using z))
          have hj3 := find_no hdn hnr hj
          have hla3 := find_lastN hdn hnr hla
          exact K63 m0 f (by omega) hj3 hla3 (by omega) H locs ls hG hS (lv_sub hl [0, 1, 2, 3, 4, 5] rfl)
        · refine lv_aload_n X.1 X.2.1 dX0_find_32 rfl (lv_at hl 0 rfl) ?_
          refine lv_aload_n X.1 X.2.1 dX0_find_33 rfl (lv_at hl 0 rfl) ?_
          refine n_get (ci := 0) X in_X0 hW hG hO rfl 8 (by decide) q145 (fun _ h => h) rfl dX0_find_34 ?_
          refine lv_iload X.1 X.2.1 dX0_find_37 (lv_at hl 5 rfl) ?_
          refine n_row X hW hG hRo (i := k) (by omega) (by omega) (by omega) dX0_find_39 ?_
          have hI_39 := hV.it (i := k) (by omega) (by omega)
          refine g_callV (ci := 0) (rest := []) (k := 1) X hW hG hS hO rfl (gx_callOf l G A (lv - 1) h n x0 S ad rl ru ap k (by omega) hX (by omega) (by omega)) (lw_V q871 q873 qs19 q66 q874) (by decide +kernel) rfl ⟨by show (lv - 1) + 1 ≤ lv; omega, by show 8 + (3 + 11) + 40 * (lv - 1) ≤ 40 * lv; omega⟩ ⟨by show 0 + 0 ≤ 0; first | omega | exact bI_iR _ | (split <;> first | omega | exact bI_iR _), by show 0 + 0 ≤ 0; first | omega | exact bI_iR _ | (split <;> first | omega | exact bI_iR _)⟩ hl.1 rfl (Nat.le_of_ble_eq_true rfl) dX0_find_40 (g_pk (fun H locs hG hS => ?_))
          show W p l e (gR lv 0 0) s m args below meth c H locs 0 0 Q (F0 m 43 ls [.int (iI ((if spReady S k = true then 2 else bI (spCall S k))))])
          refine lv_iconst (v := iI (2)) X.1 X.2.1 dX0_find_43 rfl ?_
          refine i_icmp_ne X 63 dX0_find_44 (by decide) (by first | omega | exact bI_iR _ | (split <;> first | omega | exact bI_iR _)) (by first | omega | exact bI_iR _ | (split <;> first | omega | exact bI_iR _)) (fun c44 => ?_) (fun c44 => ?_)
          · have hnr : spReady S k = false := by
              first
                | (unfold spReady spCall; rw [decide_eq_false c29]; rfl)
                | (by_cases z : spReady S k = true; (rw [if_pos z] at c44; omega); (simpa using z))
            have hj3 := find_no hdn hnr hj
            have hla3 := find_lastN hdn hnr hla
            exact K63 m0 f (by omega) hj3 hla3 (by omega) H locs ls hG hS (lv_sub hl [0, 1, 2, 3, 4, 5] rfl)
          · have hyr : spReady S k = true := by
              by_cases z : spReady S k = true
              · exact z
              · rw [if_neg z] at c44; have := bI_01 (spCall S k); omega
            refine lv_iload_n X.1 X.2.1 dX0_find_47 rfl (lv_at hl 2 rfl) ?_
            refine i_if_ne X 56 dX0_find_48 (by decide) (by first | omega | exact bI_iR _ | (split <;> first | omega | exact bI_iR _)) (fun c48 => ?_) (fun c48 => ?_)
            · refine lv_iload X.1 X.2.1 dX0_find_56 (lv_at hl 5 rfl) ?_
              refine lv_istore (lv' := [(4, .int (iI (k))), (0, .ref x0), (1, .int (iI (j))), (2, .int (iI (la))), (3, .int (iI (m0))), (5, .int (iI (k)))]) X.1 X.2.1 dX0_find_58 hl (by decide) rfl (fun ls hl => ?_)
              refine i_inc (lv' := [(3, .int (iI (m0 + 1))), (4, .int (iI (k))), (0, .ref x0), (1, .int (iI (j))), (2, .int (iI (la))), (5, .int (iI (k)))]) X dX0_find_60 hl (k := 4) rfl (by decide) rfl (fun ls hl => ?_)
              have hj3 := find_yes hdn hyr (by omega) hj (f1 := k) (by intro z; first | exact absurd z c48 | rw [if_pos c53] | rw [if_neg c53])
              have hla3 := find_lastY hdn hyr hla (f1 := k) (by intro z; first | rfl | exact absurd c48 z)
              exact K63 (m0 + 1) k (by omega) hj3 hla3 (by omega) H locs ls hG hS (lv_sub hl [2, 3, 4, 0, 1, 5] rfl)
            · refine lv_iload_n X.1 X.2.1 dX0_find_51 rfl (lv_at hl 3 rfl) ?_
              refine lv_iload_n X.1 X.2.1 dX0_find_52 rfl (lv_at hl 1 rfl) ?_
              refine i_icmp_ne X 60 dX0_find_53 (by decide) (by first | omega | exact bI_iR _ | (split <;> first | omega | exact bI_iR _)) (by first | omega | exact bI_iR _ | (split <;> first | omega | exact bI_iR _)) (fun c53 => ?_) (fun c53 => ?_)
              · refine i_inc (lv' := [(3, .int (iI (m0 + 1))), (0, .ref x0), (1, .int (iI (j))), (2, .int (iI (la))), (4, .int (iI (f))), (5, .int (iI (k)))]) X dX0_find_60 hl (k := 3) rfl (by decide) rfl (fun ls hl => ?_)
                have hj3 := find_yes hdn hyr (by omega) hj (f1 := f) (by intro z; first | exact absurd z c48 | rw [if_pos c53] | rw [if_neg c53])
                have hla3 := find_lastY hdn hyr hla (f1 := f) (by intro z; first | rfl | exact absurd c48 z)
                exact K63 (m0 + 1) f (by omega) hj3 hla3 (by omega) H locs ls hG hS (lv_sub hl [1, 2, 3, 0, 4, 5] rfl)
              · refine lv_iload X.1 X.2.1 dX0_find_56 (lv_at hl 5 rfl) ?_
                refine lv_istore (lv' := [(4, .int (iI (k))), (0, .ref x0), (1, .int (iI (j))), (2, .int (iI (la))), (3, .int (iI (m0))), (5, .int (iI (k)))]) X.1 X.2.1 dX0_find_58 hl (by decide) rfl (fun ls hl => ?_)
                refine i_inc (lv' := [(3, .int (iI (m0 + 1))), (4, .int (iI (k))), (0, .ref x0), (1, .int (iI (j))), (2, .int (iI (la))), (5, .int (iI (k)))]) X dX0_find_60 hl (k := 4) rfl (by decide) rfl (fun ls hl => ?_)
                have hj3 := find_yes hdn hyr (by omega) hj (f1 := k) (by intro z; first | exact absurd z c48 | rw [if_pos c53] | rw [if_neg c53])
                have hla3 := find_lastY hdn hyr hla (f1 := k) (by intro z; first | rfl | exact absurd c48 z)
                exact K63 (m0 + 1) k (by omega) hj3 hla3 (by omega) H locs ls hG hS (lv_sub hl [2, 3, 4, 0, 1, 5] rfl)
  exact L9 _ 0 (-9) 0 (by omega) (by omega) (fun _ => ⟨fun _ => rfl, fun hh => Or.inl ⟨by omega, rfl, by rw [show S.1 40 - 0 = S.1 40 by omega, show j - 0 = j by omega]⟩⟩) (fun _ => by rw [show S.1 40 - 0 = S.1 40 by omega]) (by omega) (Nat.lt_succ_self _) H locs ls hG hS (lv_sub hl [3, 4, 5, 2, 1, 0] rfl)

set_option maxHeartbeats 4000000 in
theorem gx_ready (l : Launch) (G : gEnv) (A : Nat → Prop) (lv : Nat) (h : gH) (n : Nat) (x0 : Nat) (S : MSt) (ad : Int → Nat) (rl : Nat) (ru : Nat → Nat) (ap : Int → Nat) (j : Int) (hlv : 1025 ≤ lv) (hX : GX G h x0 S ad rl ru ap) (hi : iR j) : gC l yX0_ready cX0_ready 2 (some .int) G A lv 0 0 [.ref x0, .int (iI (j))] h n (gPure (some (.int (iI (if j < 0 then -9 else spNth S (S.1 40).toNat 0 j)))) h n) := by
  refine gC_ofI RX0 (by decide +kernel) rfl (Nat.le_of_ble_eq_true rfl) ?_
  intro p e s m args below meth c Q X hW ret H locs ls hG hS hl
  have hl : lv_has ls 2 [(0, .ref x0), (1, .int (iI (j)))] := hl
  have hX0 := hX
  obtain ⟨hO0, hRo, hV, hR⟩ := id hX
  have hO := hO0
  unfold GOB gOv at hO
  have hT := hV.1.1
  have hnn := hV.1.n
  obtain ⟨tgR, moR, dR, hLR, hRr⟩ := id hR.2.1
  have hrl : ((((List.range (S.1 29).toNat).map ru).length : Nat) : Int) = S.1 29 := by simp; have := hR.1.1; omega
  have hmm := hR.1.1
  
  refine lv_aload_n X.1 X.2.1 dX0_ready_0 rfl (lv_at hl 0 rfl) ?_
  refine n_get (ci := 0) X in_X0 hW hG hO rfl 4 (by decide) q141 (fun _ h => h) rfl dX0_ready_1 ?_
  refine lv_ifnonnull (tgt := 12) X.1 X.2.1 dX0_ready_4 (by decide) ?_
  refine lv_aload_n X.1 X.2.1 dX0_ready_12 rfl (lv_at hl 0 rfl) ?_
  refine lv_iload_n X.1 X.2.1 dX0_ready_13 rfl (lv_at hl 1 rfl) ?_
  refine lv_iconst (v := iI (0)) X.1 X.2.1 dX0_ready_14 rfl ?_
  refine g_callV (ci := 0) (rest := []) (k := 2) X hW hG hS hO rfl (gx_find l G A (lv - 1) h n x0 S ad rl ru ap j 0 (by omega) hX hi (Or.inl rfl)) (lw_V q952 q954 qs21 q66 q955) (by decide +kernel) rfl ⟨by show (lv - 1) + 1 ≤ lv; omega, by show 8 + (6 + 11) + 40 * (lv - 1) ≤ 40 * lv; omega⟩ ⟨by show 0 + 0 ≤ 0; omega, by show 0 + 0 ≤ 0; omega⟩ hl.1 rfl (Nat.le_of_ble_eq_true rfl) dX0_ready_15 (g_pk (fun H locs hG hS => ?_))
  show W p l e (gR lv 0 0) s m args below meth c H locs 0 0 Q (F0 m 18 ls [.int (iI (if j < 0 then -9 else spNth S (S.1 40).toNat 0 j))])
  refine ret _ _ _ _ _ _ _ _ _ ?_ (rfl) (by show 0 ≤ 0; omega) (by show 0 ≤ 0; omega) hG hS dX0_ready_18
  exact ⟨rfl, rfl, rfl⟩

set_option maxHeartbeats 4000000 in
theorem gx_readyN (l : Launch) (G : gEnv) (A : Nat → Prop) (lv : Nat) (h : gH) (n : Nat) (x0 : Nat) (S : MSt) (rv : Value) (j : Int) (hO0 : GOB h x0 S rv .null) : gC l yX0_ready cX0_ready 2 (some .int) G A lv 0 0 [.ref x0, .int (iI (j))] h n (gPure (some (.int (iI (-3)))) h n) := by
  refine gC_ofI RX0 (by decide +kernel) rfl (Nat.le_of_ble_eq_true rfl) ?_
  intro p e s m args below meth c Q X hW ret H locs ls hG hS hl
  have hl : lv_has ls 2 [(0, .ref x0), (1, .int (iI (j)))] := hl
  have hO := hO0
  unfold GOB gOv at hO
  
  refine lv_aload_n X.1 X.2.1 dX0_ready_0 rfl (lv_at hl 0 rfl) ?_
  refine n_get (ci := 0) X in_X0 hW hG hO rfl 4 (by decide) q141 (fun _ h => h) rfl dX0_ready_1 ?_
  refine lv_ifnonnullN X.1 X.2.1 dX0_ready_4 ?_
  refine lv_bipush (v := iI (-3)) X.1 X.2.1 dX0_ready_7 (by decide) ?_
  refine lv_goto (tgt := 18) X.1 X.2.1 dX0_ready_9 (by decide) ?_
  refine ret _ _ _ _ _ _ _ _ _ ?_ (rfl) (by show 0 ≤ 0; omega) (by show 0 ≤ 0; omega) hG hS dX0_ready_18
  exact ⟨rfl, rfl, rfl⟩

