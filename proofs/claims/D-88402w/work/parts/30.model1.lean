/-! ===== the Model: questions about items ===== -/
set_option maxRecDepth 100000
set_option maxHeartbeats 4000000 in
theorem mm_in (l : Launch) (D : va_G) (ca : Nat → ClassId) (o lv : Nat) (S : MSt) (v : Int) (a : Int) (b : Int) (hv : lR v) (ha : lR a) (hb : lR b) : mCi l yX1_in cX1_in 6 .boolean D ca o lv [.long (lI (v)), .long (lI (a)), .long (lI (b))] S (fun r S' => r = bI (decide (a ≤ v) && decide (v ≤ b)) ∧ S' = S) := by
  refine mCi_of (by decide +kernel) rfl (Nat.le_of_ble_eq_true rfl) ?_
  intro p e s m args below meth c Q X hK ret H locs ls hG hS hl
  have hl : lv_has ls 6 [(0, .long (lI (v))), (2, .long (lI (a))), (4, .long (lI (b)))] := hl
  refine lv_lload_n X.1 X.2.1 dX1_in_0 rfl (lv_at hl 0 rfl) ?_
  refine lv_lload_n X.1 X.2.1 dX1_in_1 rfl (lv_at hl 1 rfl) ?_
  refine i_lcmp_lt X 17 dX1_in_2 dX1_in_3 (by decide) (by omega) (by omega) (fun c2 => ?_) (fun c2 => ?_)
  · refine lv_iconst (v := iI (0)) X.1 X.2.1 dX1_in_17 rfl ?_
    refine ret _ _ _ _ _ _ ?_ (nar_b (by omega)) hG hS dX1_in_18
    exact ⟨by first | (apply bI_t; simp; omega) | (apply bI_f; simp; omega), rfl⟩
  · refine lv_lload_n X.1 X.2.1 dX1_in_6 rfl (lv_at hl 0 rfl) ?_
    refine lv_lload X.1 X.2.1 dX1_in_7 (lv_at hl 2 rfl) ?_
    refine i_lcmp_gt X 17 dX1_in_9 dX1_in_10 (by decide) (by omega) (by omega) (fun c9 => ?_) (fun c9 => ?_)
    · refine lv_iconst (v := iI (0)) X.1 X.2.1 dX1_in_17 rfl ?_
      refine ret _ _ _ _ _ _ ?_ (nar_b (by omega)) hG hS dX1_in_18
      exact ⟨by first | (apply bI_t; simp; omega) | (apply bI_f; simp; omega), rfl⟩
    · refine lv_iconst (v := iI (1)) X.1 X.2.1 dX1_in_13 rfl ?_
      refine lv_goto (tgt := 18) X.1 X.2.1 dX1_in_14 (by decide) ?_
      refine ret _ _ _ _ _ _ ?_ (nar_b (by omega)) hG hS dX1_in_18
      exact ⟨by first | (apply bI_t; simp; omega) | (apply bI_f; simp; omega), rfl⟩

set_option maxHeartbeats 4000000 in
theorem mm_at (l : Launch) (D : va_G) (ca : Nat → ClassId) (o lv : Nat) (S : MSt) (i : Int) (hi : 0 ≤ i ∧ i < 600) (hs : 0 ≤ S.1 1 ∧ S.1 1 ≤ 600) : mCi l yX1_at cX1_at 2 .int D ca o lv [.ref o, .int (iI (i))] S (fun r S' => r = (if i < S.1 1 then S.2 0 i % 256 else 0) ∧ S' = S) := by
  refine mCi_of (by decide +kernel) rfl (Nat.le_of_ble_eq_true rfl) ?_
  intro p e s m args below meth c Q X hK ret H locs ls hG hS hl
  have hl : lv_has ls 2 [(0, .ref o), (1, .int (iI (i)))] := hl
  refine lv_iload_n X.1 X.2.1 dX1_at_0 rfl (lv_at hl 1 rfl) ?_
  refine lv_aload_n X.1 X.2.1 dX1_at_1 rfl (lv_at hl 0 rfl) ?_
  refine mg_size X hK hG (S.1 1) rfl dX1_at_2 ?_
  refine i_icmp_ge X 21 dX1_at_5 (by decide) (by omega) (by omega) (fun c5 => ?_) (fun c5 => ?_)
  · refine lv_iconst (v := iI (0)) X.1 X.2.1 dX1_at_21 rfl ?_
    refine ret _ _ _ _ _ _ ?_ (rfl) hG hS dX1_at_22
    exact ⟨by split <;> omega, rfl⟩
  · refine lv_aload_n X.1 X.2.1 dX1_at_8 rfl (lv_at hl 0 rfl) ?_
    refine mg_tape X hK hG dX1_at_9 ?_
    refine lv_iload_n X.1 X.2.1 dX1_at_12 rfl (lv_at hl 1 rfl) ?_
    refine ml_tape X hK hG (S.2 0) rfl (by omega) dX1_at_13 ?_
    refine lv_sipush (v := iI (255)) X.1 X.2.1 dX1_at_14 (by decide) ?_
    refine i_and255 X dX1_at_17 ?_
    refine lv_goto (tgt := 22) X.1 X.2.1 dX1_at_18 (by decide) ?_
    refine ret _ _ _ _ _ _ ?_ (rfl) hG hS dX1_at_22
    exact ⟨by split <;> omega, rfl⟩

set_option maxHeartbeats 4000000 in
theorem mm_isLetter (l : Launch) (D : va_G) (ca : Nat → ClassId) (o lv : Nat) (S : MSt) (a : Int) (ha : iR a) : mCi l yX1_isLetter cX1_isLetter 1 .boolean D ca o lv [.int (iI (a))] S (fun r S' => r = bI (decide (97 ≤ a) && decide (a ≤ 122)) ∧ S' = S) := by
  refine mCi_of (by decide +kernel) rfl (Nat.le_of_ble_eq_true rfl) ?_
  intro p e s m args below meth c Q X hK ret H locs ls hG hS hl
  have hl : lv_has ls 1 [(0, .int (iI (a)))] := hl
  refine lv_iload_n X.1 X.2.1 dX1_isLetter_0 rfl (lv_at hl 0 rfl) ?_
  refine lv_bipush (v := iI (97)) X.1 X.2.1 dX1_isLetter_1 (by decide) ?_
  refine i_icmp_lt X 16 dX1_isLetter_3 (by decide) (by omega) (by omega) (fun c3 => ?_) (fun c3 => ?_)
  · refine lv_iconst (v := iI (0)) X.1 X.2.1 dX1_isLetter_16 rfl ?_
    refine ret _ _ _ _ _ _ ?_ (nar_b (by omega)) hG hS dX1_isLetter_17
    exact ⟨by first | (apply bI_t; simp; omega) | (apply bI_f; simp; omega), rfl⟩
  · refine lv_iload_n X.1 X.2.1 dX1_isLetter_6 rfl (lv_at hl 0 rfl) ?_
    refine lv_bipush (v := iI (122)) X.1 X.2.1 dX1_isLetter_7 (by decide) ?_
    refine i_icmp_gt X 16 dX1_isLetter_9 (by decide) (by omega) (by omega) (fun c9 => ?_) (fun c9 => ?_)
    · refine lv_iconst (v := iI (0)) X.1 X.2.1 dX1_isLetter_16 rfl ?_
      refine ret _ _ _ _ _ _ ?_ (nar_b (by omega)) hG hS dX1_isLetter_17
      exact ⟨by first | (apply bI_t; simp; omega) | (apply bI_f; simp; omega), rfl⟩
    · refine lv_iconst (v := iI (1)) X.1 X.2.1 dX1_isLetter_12 rfl ?_
      refine lv_goto (tgt := 17) X.1 X.2.1 dX1_isLetter_13 (by decide) ?_
      refine ret _ _ _ _ _ _ ?_ (nar_b (by omega)) hG hS dX1_isLetter_17
      exact ⟨by first | (apply bI_t; simp; omega) | (apply bI_f; simp; omega), rfl⟩

set_option maxHeartbeats 4000000 in
theorem mm_isDigit (l : Launch) (D : va_G) (ca : Nat → ClassId) (o lv : Nat) (S : MSt) (a : Int) (ha : iR a) : mCi l yX1_isDigit cX1_isDigit 1 .boolean D ca o lv [.int (iI (a))] S (fun r S' => r = bI (decide (48 ≤ a) && decide (a ≤ 57)) ∧ S' = S) := by
  refine mCi_of (by decide +kernel) rfl (Nat.le_of_ble_eq_true rfl) ?_
  intro p e s m args below meth c Q X hK ret H locs ls hG hS hl
  have hl : lv_has ls 1 [(0, .int (iI (a)))] := hl
  refine lv_iload_n X.1 X.2.1 dX1_isDigit_0 rfl (lv_at hl 0 rfl) ?_
  refine lv_bipush (v := iI (48)) X.1 X.2.1 dX1_isDigit_1 (by decide) ?_
  refine i_icmp_lt X 16 dX1_isDigit_3 (by decide) (by omega) (by omega) (fun c3 => ?_) (fun c3 => ?_)
  · refine lv_iconst (v := iI (0)) X.1 X.2.1 dX1_isDigit_16 rfl ?_
    refine ret _ _ _ _ _ _ ?_ (nar_b (by omega)) hG hS dX1_isDigit_17
    exact ⟨by first | (apply bI_t; simp; omega) | (apply bI_f; simp; omega), rfl⟩
  · refine lv_iload_n X.1 X.2.1 dX1_isDigit_6 rfl (lv_at hl 0 rfl) ?_
    refine lv_bipush (v := iI (57)) X.1 X.2.1 dX1_isDigit_7 (by decide) ?_
    refine i_icmp_gt X 16 dX1_isDigit_9 (by decide) (by omega) (by omega) (fun c9 => ?_) (fun c9 => ?_)
    · refine lv_iconst (v := iI (0)) X.1 X.2.1 dX1_isDigit_16 rfl ?_
      refine ret _ _ _ _ _ _ ?_ (nar_b (by omega)) hG hS dX1_isDigit_17
      exact ⟨by first | (apply bI_t; simp; omega) | (apply bI_f; simp; omega), rfl⟩
    · refine lv_iconst (v := iI (1)) X.1 X.2.1 dX1_isDigit_12 rfl ?_
      refine lv_goto (tgt := 17) X.1 X.2.1 dX1_isDigit_13 (by decide) ?_
      refine ret _ _ _ _ _ _ ?_ (nar_b (by omega)) hG hS dX1_isDigit_17
      exact ⟨by first | (apply bI_t; simp; omega) | (apply bI_f; simp; omega), rfl⟩

set_option maxHeartbeats 4000000 in
theorem mm_isItem (l : Launch) (D : va_G) (ca : Nat → ClassId) (o lv : Nat) (S : MSt) (i : Int) (hlv : 1 ≤ lv) (hi : iR i) (hn : 0 ≤ S.1 40 ∧ S.1 40 ≤ 500) : mCi l yX1_isItem cX1_isItem 2 .boolean D ca o lv [.ref o, .int (iI (i))] S (fun r S' => r = bI (decide (0 ≤ i) && decide (i < S.1 40)) ∧ S' = S) := by
  refine mCi_of (by decide +kernel) rfl (Nat.le_of_ble_eq_true rfl) ?_
  intro p e s m args below meth c Q X hK ret H locs ls hG hS hl
  have hl : lv_has ls 2 [(0, .ref o), (1, .int (iI (i)))] := hl
  refine lv_iload_n X.1 X.2.1 dX1_isItem_0 rfl (lv_at hl 1 rfl) ?_
  refine i_i2l X (by first | omega | (split <;> omega)) dX1_isItem_1 ?_
  refine lv_lconst (v := lI (0)) X.1 X.2.1 dX1_isItem_2 rfl ?_
  refine lv_aload_n X.1 X.2.1 dX1_isItem_3 rfl (lv_at hl 0 rfl) ?_
  refine mg_items X hK hG (S.1 40) rfl dX1_isItem_4 ?_
  refine lv_iconst (v := iI (1)) X.1 X.2.1 dX1_isItem_7 rfl ?_
  refine i_sub X dX1_isItem_8 ?_
  refine i_i2l X (by first | omega | (split <;> omega)) dX1_isItem_9 ?_
  refine m_callSp (rest := []) (n := 3) X hK hG hS (fun _ h => h) (mm_in l D ca o (lv - 1) S i 0 ((S.1 40) - 1) (by omega) (by omega) (by omega)) (lw_S q1536 q1537 q70 q1538) (by decide +kernel) rfl ⟨by show (lv - 1) + 1 ≤ lv; omega, by show 8 + (6 + 11) + 40 * (lv - 1) ≤ 40 * lv; omega⟩ ⟨Nat.le_refl _, Nat.le_refl _⟩ hl.1 rfl (Nat.le_of_ble_eq_true rfl) dX1_isItem_10 (fun H locs hG hS _ _ => ?_)
  refine ret _ _ _ _ _ _ ?_ (nar_b (bI_01 _)) hG hS dX1_isItem_13
  exact ⟨by congr 1; congr 1; rw [decide_eq_decide]; omega, rfl⟩

set_option maxHeartbeats 4000000 in
theorem mm_binderOf (l : Launch) (D : va_G) (ca : Nat → ClassId) (o lv : Nat) (S : MSt) (a : Int) (h : 0 ≤ a ∧ a < 499) : mCi l yX1_binderOf cX1_binderOf 2 .int D ca o lv [.ref o, .int (iI (a))] S (fun r S' => r = spB S a ∧ S' = S) := by
  refine mCi_of (by decide +kernel) rfl (Nat.le_of_ble_eq_true rfl) ?_
  intro p e s m args below meth c Q X hK ret H locs ls hG hS hl
  have hl : lv_has ls 2 [(0, .ref o), (1, .int (iI (a)))] := hl
  refine lv_iload_n X.1 X.2.1 dX1_binderOf_0 rfl (lv_at hl 1 rfl) ?_
  refine lv_iconst (v := iI (1)) X.1 X.2.1 dX1_binderOf_1 rfl ?_
  refine i_add X dX1_binderOf_2 ?_
  refine lv_aload_n X.1 X.2.1 dX1_binderOf_3 rfl (lv_at hl 0 rfl) ?_
  refine mg_room X hK hG dX1_binderOf_4 ?_
  refine lv_iload_n X.1 X.2.1 dX1_binderOf_7 rfl (lv_at hl 1 rfl) ?_
  refine lv_iconst (v := iI (1)) X.1 X.2.1 dX1_binderOf_8 rfl ?_
  refine i_add X dX1_binderOf_9 ?_
  refine ml_room X hK hG (S.2 46) rfl (by omega) dX1_binderOf_10 ?_
  refine i_add X dX1_binderOf_11 ?_
  refine ret _ _ _ _ _ _ ?_ (rfl) hG hS dX1_binderOf_12
  exact ⟨rfl, rfl⟩

set_option maxHeartbeats 4000000 in
theorem mm_isBinding (l : Launch) (D : va_G) (ca : Nat → ClassId) (o lv : Nat) (S : MSt) (a : Int) (h : 0 ≤ a ∧ a < 500) (hw : iR (S.2 41 a)) : mCi l yX1_isBinding cX1_isBinding 2 .boolean D ca o lv [.ref o, .int (iI (a))] S (fun r S' => r = bI (spIsB S a) ∧ S' = S) := by
  refine mCi_of (by decide +kernel) rfl (Nat.le_of_ble_eq_true rfl) ?_
  intro p e s m args below meth c Q X hK ret H locs ls hG hS hl
  have hl : lv_has ls 2 [(0, .ref o), (1, .int (iI (a)))] := hl
  refine lv_aload_n X.1 X.2.1 dX1_isBinding_0 rfl (lv_at hl 0 rfl) ?_
  refine mg_what X hK hG dX1_isBinding_1 ?_
  refine lv_iload_n X.1 X.2.1 dX1_isBinding_4 rfl (lv_at hl 1 rfl) ?_
  refine ml_what X hK hG (S.2 41) rfl (by omega) dX1_isBinding_5 ?_
  refine lv_iconst (v := iI (4)) X.1 X.2.1 dX1_isBinding_6 rfl ?_
  refine i_icmp_eq X 20 dX1_isBinding_7 (by decide) (by omega) (by omega) (fun c7 => ?_) (fun c7 => ?_)
  · refine lv_iconst (v := iI (1)) X.1 X.2.1 dX1_isBinding_20 rfl ?_
    refine lv_goto (tgt := 25) X.1 X.2.1 dX1_isBinding_21 (by decide) ?_
    refine ret _ _ _ _ _ _ ?_ (nar_b (by omega)) hG hS dX1_isBinding_25
    exact ⟨by first | (apply bI_t; simp [spIsB]; omega) | (apply bI_f; simp [spIsB]; omega), rfl⟩
  · refine lv_aload_n X.1 X.2.1 dX1_isBinding_10 rfl (lv_at hl 0 rfl) ?_
    refine mg_what X hK hG dX1_isBinding_11 ?_
    refine lv_iload_n X.1 X.2.1 dX1_isBinding_14 rfl (lv_at hl 1 rfl) ?_
    refine ml_what X hK hG (S.2 41) rfl (by omega) dX1_isBinding_15 ?_
    refine lv_iconst (v := iI (5)) X.1 X.2.1 dX1_isBinding_16 rfl ?_
    refine i_icmp_ne X 24 dX1_isBinding_17 (by decide) (by omega) (by omega) (fun c17 => ?_) (fun c17 => ?_)
    · refine lv_iconst (v := iI (0)) X.1 X.2.1 dX1_isBinding_24 rfl ?_
      refine ret _ _ _ _ _ _ ?_ (nar_b (by omega)) hG hS dX1_isBinding_25
      exact ⟨by first | (apply bI_t; simp [spIsB]; omega) | (apply bI_f; simp [spIsB]; omega), rfl⟩
    · refine lv_iconst (v := iI (1)) X.1 X.2.1 dX1_isBinding_20 rfl ?_
      refine lv_goto (tgt := 25) X.1 X.2.1 dX1_isBinding_21 (by decide) ?_
      refine ret _ _ _ _ _ _ ?_ (nar_b (by omega)) hG hS dX1_isBinding_25
      exact ⟨by first | (apply bI_t; simp [spIsB]; omega) | (apply bI_f; simp [spIsB]; omega), rfl⟩

set_option maxHeartbeats 4000000 in
theorem mm_lastOf (l : Launch) (D : va_G) (ca : Nat → ClassId) (o lv : Nat) (S : MSt) (a : Int) (hT : MT S) (h0 : 0 ≤ a) (hn : a < S.1 40) (hw : 2 ≤ S.2 41 a) (hp : 1 ≤ S.2 47 a) : mCi l yX1_lastOf cX1_lastOf 3 .int D ca o lv [.ref o, .int (iI (a))] S (fun r S' => r = spL S a ∧ S' = S) := by
  refine mCi_of (by decide +kernel) rfl (Nat.le_of_ble_eq_true rfl) ?_
  intro p e s m args below meth c Q X hK ret H locs ls hG hS hl
  have hl : lv_has ls 3 [(0, .ref o), (1, .int (iI (a)))] := hl
  refine lv_iload_n X.1 X.2.1 dX1_lastOf_0 rfl (lv_at hl 1 rfl) ?_
  refine lv_iconst (v := iI (1)) X.1 X.2.1 dX1_lastOf_1 rfl ?_
  refine i_add X dX1_lastOf_2 ?_
  refine lv_istore_n (lv' := [(2, .int (iI (a + 1))), (0, .ref o), (1, .int (iI (a)))]) X.1 X.2.1 dX1_lastOf_3 rfl hl (by decide) rfl (fun ls hl => ?_)
  obtain ⟨hl1, hl2⟩ := hT.1.lst h0 hn hw
  have hr := hT.1.r h0 hn
  have hnn := hT.n
  have hch := hT.1.ch h0 hn hw
  have L4 : ∀ (N : Nat) (j : Nat) (k : Int), ((j : Int) < S.2 47 a) → (k = chh (S.2 46) a j) → (S.2 47 a).toNat - j < N → ∀ (H : Heap) (locs : List Loc) (ls : Array Slot), gOk D (mA o) (mH ca o S) H → va_S (mA o) s.heap H locs → lv_has ls 3 [(0, .ref o), (1, .int (iI (a))), (2, .int (iI (k)))] → W p l e (mR lv) s m args below meth c H locs 0 0 Q (F0 m 4 ls []) := by
    intro N
    induction N with
    | zero => intro j k hj ek hN; exact absurd hN (Nat.not_lt_zero _)
    | succ N ih =>
      intro j k hj ek hN H locs ls hG hS hl
      refine lv_iload_n X.1 X.2.1 dX1_lastOf_4 rfl (lv_at hl 2 rfl) ?_
      refine lv_aload_n X.1 X.2.1 dX1_lastOf_5 rfl (lv_at hl 0 rfl) ?_
      refine mg_room X hK hG dX1_lastOf_6 ?_
      have hkc := hch j (by omega)
      have hkl := hl2 j hj
      have hkr := hT.1.r (i := k) (by omega) (by omega)
      refine lv_iload_n X.1 X.2.1 dX1_lastOf_9 rfl (lv_at hl 2 rfl) ?_
      refine ml_room X hK hG (S.2 46) rfl (by omega) dX1_lastOf_10 ?_
      refine i_add X dX1_lastOf_11 ?_
      refine lv_iload_n X.1 X.2.1 dX1_lastOf_12 rfl (lv_at hl 1 rfl) ?_
      refine lv_aload_n X.1 X.2.1 dX1_lastOf_13 rfl (lv_at hl 0 rfl) ?_
      refine mg_room X hK hG dX1_lastOf_14 ?_
      refine lv_iload_n X.1 X.2.1 dX1_lastOf_17 rfl (lv_at hl 1 rfl) ?_
      refine ml_room X hK hG (S.2 46) rfl (by omega) dX1_lastOf_18 ?_
      refine i_add X dX1_lastOf_19 ?_
      refine i_icmp_ge X 35 dX1_lastOf_20 (by decide) (by omega) (by omega) (fun c20 => ?_) (fun c20 => ?_)
      · refine lv_iload_n X.1 X.2.1 dX1_lastOf_35 rfl (lv_at hl 2 rfl) ?_
        refine ret _ _ _ _ _ _ ?_ (rfl) hG hS dX1_lastOf_36
        subst ek
        refine ⟨?_, rfl⟩
        unfold spL
        have : (S.2 47 a).toNat - 1 = j := by
          rcases Int.lt_or_le ((j : Int) + 1) (S.2 47 a) with q | q
          · have := hl2 (j + 1) (by omega); have e2 : chh (S.2 46) a (j + 1) = chh (S.2 46) a j + S.2 46 (chh (S.2 46) a j) := rfl; omega
          · omega
        rw [this]
      · have hj2 : (j : Int) + 1 < S.2 47 a := by
          rcases Int.lt_or_le ((j : Int) + 1) (S.2 47 a) with q | q
          · exact q
          · have e1 : (S.2 47 a).toNat = j + 1 := by omega
            have e2 : chh (S.2 46) a (j + 1) = chh (S.2 46) a j + S.2 46 (chh (S.2 46) a j) := rfl
            rw [e1, e2, ← ek] at hl1
            omega
        refine lv_iload_n X.1 X.2.1 dX1_lastOf_23 rfl (lv_at hl 2 rfl) ?_
        refine lv_aload_n X.1 X.2.1 dX1_lastOf_24 rfl (lv_at hl 0 rfl) ?_
        refine mg_room X hK hG dX1_lastOf_25 ?_
        refine lv_iload_n X.1 X.2.1 dX1_lastOf_28 rfl (lv_at hl 2 rfl) ?_
        refine ml_room X hK hG (S.2 46) rfl (by omega) dX1_lastOf_29 ?_
        refine i_add X dX1_lastOf_30 ?_
        refine lv_istore_n (lv' := [(2, .int (iI (k + (S.2 46 k)))), (0, .ref o), (1, .int (iI (a)))]) X.1 X.2.1 dX1_lastOf_31 rfl hl (by decide) rfl (fun ls hl => ?_)
        refine lv_goto (tgt := 4) X.1 X.2.1 dX1_lastOf_32 (by decide) ?_
        exact ih (j + 1) (k + (S.2 46 k)) (by omega) (by rw [ek]; rfl) (by omega) H locs ls hG hS (lv_sub hl [1, 2, 0] rfl)
  exact L4 _ 0 (a + 1) (by omega) rfl (Nat.lt_succ_self _) H locs ls hG hS (lv_sub hl [1, 2, 0] rfl)

set_option maxHeartbeats 4000000 in
theorem mm_readsAs (l : Launch) (D : va_G) (ca : Nat → ClassId) (o lv : Nat) (S : MSt) (i : Int) (hlv : 2 ≤ lv) (hT : MT S) (h0 : 0 ≤ i) (hn : i < S.1 40) : mCi l yX1_readsAs cX1_readsAs 5 .int D ca o lv [.ref o, .int (iI (i))] S (fun r S' => r = spReads S i ∧ S' = S) := by
  refine mCi_of (by decide +kernel) rfl (Nat.le_of_ble_eq_true rfl) ?_
  intro p e s m args below meth c Q X hK ret H locs ls hG hS hl
  have hl : lv_has ls 5 [(0, .ref o), (1, .int (iI (i)))] := hl
  have hnn := hT.n
  have hwi := hT.1.w h0 hn
  have hii := hT.inside h0 hn
  have hgi := hT.2.2 i h0 hn
  refine lv_aload_n X.1 X.2.1 dX1_readsAs_0 rfl (lv_at hl 0 rfl) ?_
  refine mg_what X hK hG dX1_readsAs_1 ?_
  refine lv_iload_n X.1 X.2.1 dX1_readsAs_4 rfl (lv_at hl 1 rfl) ?_
  refine ml_what X hK hG (S.2 41) rfl (by first | omega | (split <;> omega)) dX1_readsAs_5 ?_
  refine lv_iconst (v := iI (1)) X.1 X.2.1 dX1_readsAs_6 rfl ?_
  refine i_icmp_eq X 13 dX1_readsAs_7 (by decide) (by first | omega | (split <;> omega)) (by first | omega | (split <;> omega)) (fun c7 => ?_) (fun c7 => ?_)
  · have K53 : (S.2 48 i ≠ -9 → spIsB S (S.2 48 i) = true → spB S (S.2 48 i) ≠ i) → ∀ (H : Heap) (locs : List Loc) (ls : Array Slot), gOk D (mA o) (mH ca o S) H → va_S (mA o) s.heap H locs → lv_has ls 5 [(0, .ref o), (1, .int (iI (i)))] → W p l e (mR lv) s m args below meth c H locs 0 0 Q (F0 m 53 ls []) := by
      intro  hfar H locs ls hG hS hl
      refine lv_iload_n X.1 X.2.1 dX1_readsAs_53 rfl (lv_at hl 1 rfl) ?_
      refine lv_istore_n (lv' := [(2, .int (iI (i))), (0, .ref o), (1, .int (iI (i)))]) X.1 X.2.1 dX1_readsAs_54 rfl hl (by decide) rfl (fun ls hl => ?_)
      refine lv_aload_n X.1 X.2.1 dX1_readsAs_55 rfl (lv_at hl 1 rfl) ?_
      refine mg_inside X hK hG dX1_readsAs_56 ?_
      refine lv_iload_n X.1 X.2.1 dX1_readsAs_59 rfl (lv_at hl 2 rfl) ?_
      refine ml_inside X hK hG (S.2 48) rfl (by first | omega | (split <;> omega)) dX1_readsAs_60 ?_
      refine lv_istore_n (lv' := [(3, .int (iI (S.2 48 i))), (2, .int (iI (i))), (0, .ref o), (1, .int (iI (i)))]) X.1 X.2.1 dX1_readsAs_61 rfl hl (by decide) rfl (fun ls hl => ?_)
      have hst : ∀ f : Nat, S.2 48 i < f → spUp S (S.2 42 i) (S.2 43 i) f i (S.2 48 i) = spReads S i := by
        intro f hf
        have hno : ¬ (S.2 48 i ≠ -9 ∧ spIsB S (S.2 48 i) = true ∧ spB S (S.2 48 i) = i) := fun z => hfar z.1 z.2.1 z.2.2
        unfold spReads
        rw [if_neg (by omega), if_neg hno]
        rcases Nat.le_total f (i.toNat + 1) with q | q
        · exact (spUp_more hT f i (S.2 48 i) (by omega) hf _ q).symm
        · exact spUp_more hT (i.toNat + 1) i (S.2 48 i) (by omega) (by omega) _ q
      have L62 : ∀ (N : Nat) (a q : Int), (q = -9 ∨ (0 ≤ q ∧ q < S.1 40 ∧ 2 ≤ S.2 41 q)) → (0 ≤ a ∧ a < S.1 40) → (∀ f : Nat, q < f → spUp S (S.2 42 i) (S.2 43 i) f a q = spReads S i) → (q + 10).toNat < N → ∀ (H : Heap) (locs : List Loc) (ls : Array Slot), gOk D (mA o) (mH ca o S) H → va_S (mA o) s.heap H locs → lv_has ls 5 [(0, .ref o), (1, .int (iI (i))), (2, .int (iI (a))), (3, .int (iI (q)))] → W p l e (mR lv) s m args below meth c H locs 0 0 Q (F0 m 62 ls []) := by
        intro N
        induction N with
        | zero => intro a q hq ha he hN; exact absurd hN (Nat.not_lt_zero _)
        | succ N ih =>
          intro a q hq ha he hN H locs ls hG hS hl
          refine lv_iload_n X.1 X.2.1 dX1_readsAs_62 rfl (lv_at hl 3 rfl) ?_
          refine lv_bipush (v := iI (-9)) X.1 X.2.1 dX1_readsAs_63 (by decide) ?_
          refine i_icmp_eq X 140 dX1_readsAs_65 (by decide) (by first | omega | (split <;> omega)) (by first | omega | (split <;> omega)) (fun c65 => ?_) (fun c65 => ?_)
          · refine lv_bipush (v := iI (-9)) X.1 X.2.1 dX1_readsAs_140 (by decide) ?_
            refine ret _ _ _ _ _ _ ?_ (rfl) hG hS dX1_readsAs_142
            refine ⟨?_, rfl⟩
            rw [← he 1 (by omega)]
            simp [spUp, c65]
          · have hll : 0 ≤ q ∧ q < S.1 40 ∧ 2 ≤ S.2 41 q := by omega
            have hlw := hT.1.w (i := q) (by omega) (by omega)
            have hlr := hT.1.r (i := q) (by omega) (by omega)
            have hqi := hT.inside (k := q) (by omega) (by omega)
            refine lv_aload_n X.1 X.2.1 dX1_readsAs_68 rfl (lv_at hl 0 rfl) ?_
            refine lv_iload_n X.1 X.2.1 dX1_readsAs_69 rfl (lv_at hl 3 rfl) ?_
            refine m_callVp (rest := []) (n := 1) X hK hG hS (fun _ h => h) (mm_isBinding l D ca o (lv - 1) S q (by omega) (by omega)) (lw_V q1543 q1545 qs44 q70 q1546) (by decide +kernel) rfl ⟨by show (lv - 1) + 1 ≤ lv; omega, by show 8 + (2 + 11) + 40 * (lv - 1) ≤ 40 * lv; omega⟩ ⟨Nat.le_refl _, Nat.le_refl _⟩ hl.1 rfl (Nat.le_of_ble_eq_true rfl) dX1_readsAs_70 (fun H locs hG hS _ _ => ?_)
            refine i_if_eq X 128 dX1_readsAs_73 (by decide) (bI_iR _) (fun c73 => ?_) (fun c73 => ?_)
            · have c73 := bI_eq0.mp c73
              have hno : ¬ (spIsB S q = true ∧ spL S q = a ∧ S.2 42 (spB S q) = S.2 42 i ∧ S.2 43 (spB S q) = S.2 43 i) := by
                rintro ⟨h1, h2, h3, h4⟩
                first | omega | (rw [h1] at c73; cases c73)
              have hst2 : ∀ f : Nat, S.2 48 q < f → spUp S (S.2 42 i) (S.2 43 i) f q (S.2 48 q) = spReads S i := by
                intro f hf
                have h1 := he (max f q.toNat + 1) (by omega)
                unfold spUp at h1
                rw [if_neg (by omega), if_neg hno] at h1
                rw [← h1]
                exact (spUp_more hT f q (S.2 48 q) (by omega) hf _ (Nat.le_max_left _ _)).symm
              refine lv_iload_n X.1 X.2.1 dX1_readsAs_128 rfl (lv_at hl 3 rfl) ?_
              refine lv_istore_n (lv' := [(2, .int (iI (q))), (0, .ref o), (1, .int (iI (i))), (3, .int (iI (q)))]) X.1 X.2.1 dX1_readsAs_129 rfl hl (by decide) rfl (fun ls hl => ?_)
              refine lv_aload_n X.1 X.2.1 dX1_readsAs_130 rfl (lv_at hl 1 rfl) ?_
              refine mg_inside X hK hG dX1_readsAs_131 ?_
              refine lv_iload_n X.1 X.2.1 dX1_readsAs_134 rfl (lv_at hl 3 rfl) ?_
              refine ml_inside X hK hG (S.2 48) rfl (by first | omega | (split <;> omega)) dX1_readsAs_135 ?_
              refine lv_istore_n (lv' := [(3, .int (iI (S.2 48 q))), (2, .int (iI (q))), (0, .ref o), (1, .int (iI (i)))]) X.1 X.2.1 dX1_readsAs_136 rfl hl (by decide) rfl (fun ls hl => ?_)
              refine lv_goto (tgt := 62) X.1 X.2.1 dX1_readsAs_137 (by decide) ?_
              exact ih q (S.2 48 q) (by omega) (by omega) hst2 (by omega) H locs ls hG hS (lv_sub hl [2, 3, 1, 0] rfl)
            · have c73 := bI_ne0.mp c73
              have hib : spIsB S q = true := c73
              have hwb : S.2 41 q = 4 ∨ S.2 41 q = 5 := by simpa [spIsB] using hib
              have hpb := hT.1.binds (i := q) (by omega) (by omega) hwb
              have hcb1 := hT.1.ch (i := q) (by omega) (by omega) (by omega) 1 (by omega)
              have hcl := (hT.1.lst (i := q) (by omega) (by omega) (by omega)).2
              have eB : spB S q = chh (S.2 46) q 1 := rfl
              have hB1 := hcl 1 (by omega)
              have hgb := hT.2.2 (spB S q) (by omega) (by omega)
              have hL1 := hT.1.ch (i := q) (by omega) (by omega) (by omega) ((S.2 47 q).toNat - 1) (by omega)
              have eL : spL S q = chh (S.2 46) q ((S.2 47 q).toNat - 1) := rfl
              have hL2 := hcl ((S.2 47 q).toNat - 1) (by omega)
              refine lv_aload_n X.1 X.2.1 dX1_readsAs_76 rfl (lv_at hl 0 rfl) ?_
              refine lv_iload_n X.1 X.2.1 dX1_readsAs_77 rfl (lv_at hl 3 rfl) ?_
              refine m_callVp (rest := []) (n := 1) X hK hG hS (fun _ h => h) (mm_lastOf l D ca o (lv - 1) S q hT (by omega) (by omega) (by omega) (by omega)) (lw_V q1551 q1553 qs46 q70 q1554) (by decide +kernel) rfl ⟨by show (lv - 1) + 1 ≤ lv; omega, by show 8 + (3 + 11) + 40 * (lv - 1) ≤ 40 * lv; omega⟩ ⟨Nat.le_refl _, Nat.le_refl _⟩ hl.1 rfl (Nat.le_of_ble_eq_true rfl) dX1_readsAs_78 (fun H locs hG hS _ _ => ?_)
              refine lv_iload_n X.1 X.2.1 dX1_readsAs_81 rfl (lv_at hl 2 rfl) ?_
              refine i_icmp_ne X 128 dX1_readsAs_82 (by decide) (by first | omega | (split <;> omega)) (by first | omega | (split <;> omega)) (fun c82 => ?_) (fun c82 => ?_)
              · have hno : ¬ (spIsB S q = true ∧ spL S q = a ∧ S.2 42 (spB S q) = S.2 42 i ∧ S.2 43 (spB S q) = S.2 43 i) := by
                  rintro ⟨h1, h2, h3, h4⟩
                  first | omega | (rw [h1] at c73; cases c73)
                have hst2 : ∀ f : Nat, S.2 48 q < f → spUp S (S.2 42 i) (S.2 43 i) f q (S.2 48 q) = spReads S i := by
                  intro f hf
                  have h1 := he (max f q.toNat + 1) (by omega)
                  unfold spUp at h1
                  rw [if_neg (by omega), if_neg hno] at h1
                  rw [← h1]
                  exact (spUp_more hT f q (S.2 48 q) (by omega) hf _ (Nat.le_max_left _ _)).symm
                refine lv_iload_n X.1 X.2.1 dX1_readsAs_128 rfl (lv_at hl 3 rfl) ?_
                refine lv_istore_n (lv' := [(2, .int (iI (q))), (0, .ref o), (1, .int (iI (i))), (3, .int (iI (q)))]) X.1 X.2.1 dX1_readsAs_129 rfl hl (by decide) rfl (fun ls hl => ?_)
                refine lv_aload_n X.1 X.2.1 dX1_readsAs_130 rfl (lv_at hl 1 rfl) ?_
                refine mg_inside X hK hG dX1_readsAs_131 ?_
                refine lv_iload_n X.1 X.2.1 dX1_readsAs_134 rfl (lv_at hl 3 rfl) ?_
                refine ml_inside X hK hG (S.2 48) rfl (by first | omega | (split <;> omega)) dX1_readsAs_135 ?_
                refine lv_istore_n (lv' := [(3, .int (iI (S.2 48 q))), (2, .int (iI (q))), (0, .ref o), (1, .int (iI (i)))]) X.1 X.2.1 dX1_readsAs_136 rfl hl (by decide) rfl (fun ls hl => ?_)
                refine lv_goto (tgt := 62) X.1 X.2.1 dX1_readsAs_137 (by decide) ?_
                exact ih q (S.2 48 q) (by omega) (by omega) hst2 (by omega) H locs ls hG hS (lv_sub hl [2, 3, 1, 0] rfl)
              · refine lv_aload_n X.1 X.2.1 dX1_readsAs_85 rfl (lv_at hl 0 rfl) ?_
                refine lv_iload_n X.1 X.2.1 dX1_readsAs_86 rfl (lv_at hl 3 rfl) ?_
                refine m_callVp (rest := []) (n := 1) X hK hG hS (fun _ h => h) (mm_binderOf l D ca o (lv - 1) S q (by omega)) (lw_V q1547 q1549 qs45 q70 q1550) (by decide +kernel) rfl ⟨by show (lv - 1) + 1 ≤ lv; omega, by show 8 + (2 + 11) + 40 * (lv - 1) ≤ 40 * lv; omega⟩ ⟨Nat.le_refl _, Nat.le_refl _⟩ hl.1 rfl (Nat.le_of_ble_eq_true rfl) dX1_readsAs_87 (fun H locs hG hS _ _ => ?_)
                refine lv_istore (lv' := [(4, .int (iI (spB S q))), (0, .ref o), (1, .int (iI (i))), (2, .int (iI (a))), (3, .int (iI (q)))]) X.1 X.2.1 dX1_readsAs_90 hl (by decide) rfl (fun ls hl => ?_)
                refine lv_aload_n X.1 X.2.1 dX1_readsAs_92 rfl (lv_at hl 1 rfl) ?_
                refine mg_worthOf X hK hG dX1_readsAs_93 ?_
                refine lv_iload X.1 X.2.1 dX1_readsAs_96 (lv_at hl 0 rfl) ?_
                refine ml_worthOf X hK hG (S.2 42) rfl (by first | omega | (split <;> omega)) dX1_readsAs_98 ?_
                refine lv_aload_n X.1 X.2.1 dX1_readsAs_99 rfl (lv_at hl 1 rfl) ?_
                refine mg_worthOf X hK hG dX1_readsAs_100 ?_
                refine lv_iload_n X.1 X.2.1 dX1_readsAs_103 rfl (lv_at hl 2 rfl) ?_
                refine ml_worthOf X hK hG (S.2 42) rfl (by first | omega | (split <;> omega)) dX1_readsAs_104 ?_
                refine i_lcmp_ne X 128 dX1_readsAs_105 dX1_readsAs_106 (by decide) (by first | omega | (split <;> omega)) (by first | omega | (split <;> omega)) (fun c105 => ?_) (fun c105 => ?_)
                · have hno : ¬ (spIsB S q = true ∧ spL S q = a ∧ S.2 42 (spB S q) = S.2 42 i ∧ S.2 43 (spB S q) = S.2 43 i) := by
                    rintro ⟨h1, h2, h3, h4⟩
                    first | omega | (rw [h1] at c73; cases c73)
                  have hst2 : ∀ f : Nat, S.2 48 q < f → spUp S (S.2 42 i) (S.2 43 i) f q (S.2 48 q) = spReads S i := by
                    intro f hf
                    have h1 := he (max f q.toNat + 1) (by omega)
                    unfold spUp at h1
                    rw [if_neg (by omega), if_neg hno] at h1
                    rw [← h1]
                    exact (spUp_more hT f q (S.2 48 q) (by omega) hf _ (Nat.le_max_left _ _)).symm
                  refine lv_iload_n X.1 X.2.1 dX1_readsAs_128 rfl (lv_at hl 4 rfl) ?_
                  refine lv_istore_n (lv' := [(2, .int (iI (q))), (4, .int (iI (spB S q))), (0, .ref o), (1, .int (iI (i))), (3, .int (iI (q)))]) X.1 X.2.1 dX1_readsAs_129 rfl hl (by decide) rfl (fun ls hl => ?_)
                  refine lv_aload_n X.1 X.2.1 dX1_readsAs_130 rfl (lv_at hl 2 rfl) ?_
                  refine mg_inside X hK hG dX1_readsAs_131 ?_
                  refine lv_iload_n X.1 X.2.1 dX1_readsAs_134 rfl (lv_at hl 4 rfl) ?_
                  refine ml_inside X hK hG (S.2 48) rfl (by first | omega | (split <;> omega)) dX1_readsAs_135 ?_
                  refine lv_istore_n (lv' := [(3, .int (iI (S.2 48 q))), (2, .int (iI (q))), (4, .int (iI (spB S q))), (0, .ref o), (1, .int (iI (i)))]) X.1 X.2.1 dX1_readsAs_136 rfl hl (by decide) rfl (fun ls hl => ?_)
                  refine lv_goto (tgt := 62) X.1 X.2.1 dX1_readsAs_137 (by decide) ?_
                  exact ih q (S.2 48 q) (by omega) (by omega) hst2 (by omega) H locs ls hG hS (lv_sub hl [3, 4, 1, 0] rfl)
                · refine lv_aload_n X.1 X.2.1 dX1_readsAs_109 rfl (lv_at hl 1 rfl) ?_
                  refine mg_mark X hK hG dX1_readsAs_110 ?_
                  refine lv_iload X.1 X.2.1 dX1_readsAs_113 (lv_at hl 0 rfl) ?_
                  refine ml_mark X hK hG (S.2 43) rfl (by first | omega | (split <;> omega)) dX1_readsAs_115 ?_
                  refine lv_aload_n X.1 X.2.1 dX1_readsAs_116 rfl (lv_at hl 1 rfl) ?_
                  refine mg_mark X hK hG dX1_readsAs_117 ?_
                  refine lv_iload_n X.1 X.2.1 dX1_readsAs_120 rfl (lv_at hl 2 rfl) ?_
                  refine ml_mark X hK hG (S.2 43) rfl (by first | omega | (split <;> omega)) dX1_readsAs_121 ?_
                  refine i_icmp_ne X 128 dX1_readsAs_122 (by decide) (by first | omega | (split <;> omega)) (by first | omega | (split <;> omega)) (fun c122 => ?_) (fun c122 => ?_)
                  · have hno : ¬ (spIsB S q = true ∧ spL S q = a ∧ S.2 42 (spB S q) = S.2 42 i ∧ S.2 43 (spB S q) = S.2 43 i) := by
                      rintro ⟨h1, h2, h3, h4⟩
                      first | omega | (rw [h1] at c73; cases c73)
                    have hst2 : ∀ f : Nat, S.2 48 q < f → spUp S (S.2 42 i) (S.2 43 i) f q (S.2 48 q) = spReads S i := by
                      intro f hf
                      have h1 := he (max f q.toNat + 1) (by omega)
                      unfold spUp at h1
                      rw [if_neg (by omega), if_neg hno] at h1
                      rw [← h1]
                      exact (spUp_more hT f q (S.2 48 q) (by omega) hf _ (Nat.le_max_left _ _)).symm
                    refine lv_iload_n X.1 X.2.1 dX1_readsAs_128 rfl (lv_at hl 4 rfl) ?_
                    refine lv_istore_n (lv' := [(2, .int (iI (q))), (4, .int (iI (spB S q))), (0, .ref o), (1, .int (iI (i))), (3, .int (iI (q)))]) X.1 X.2.1 dX1_readsAs_129 rfl hl (by decide) rfl (fun ls hl => ?_)
                    refine lv_aload_n X.1 X.2.1 dX1_readsAs_130 rfl (lv_at hl 2 rfl) ?_
                    refine mg_inside X hK hG dX1_readsAs_131 ?_
                    refine lv_iload_n X.1 X.2.1 dX1_readsAs_134 rfl (lv_at hl 4 rfl) ?_
                    refine ml_inside X hK hG (S.2 48) rfl (by first | omega | (split <;> omega)) dX1_readsAs_135 ?_
                    refine lv_istore_n (lv' := [(3, .int (iI (S.2 48 q))), (2, .int (iI (q))), (4, .int (iI (spB S q))), (0, .ref o), (1, .int (iI (i)))]) X.1 X.2.1 dX1_readsAs_136 rfl hl (by decide) rfl (fun ls hl => ?_)
                    refine lv_goto (tgt := 62) X.1 X.2.1 dX1_readsAs_137 (by decide) ?_
                    exact ih q (S.2 48 q) (by omega) (by omega) hst2 (by omega) H locs ls hG hS (lv_sub hl [3, 4, 1, 0] rfl)
                  · refine lv_iload X.1 X.2.1 dX1_readsAs_125 (lv_at hl 0 rfl) ?_
                    refine ret _ _ _ _ _ _ ?_ (rfl) hG hS dX1_readsAs_127
                    refine ⟨?_, rfl⟩
                    rw [← he (q.toNat + 1) (by omega)]
                    unfold spUp
                    rw [if_neg (by omega), if_pos ⟨hib, by omega, by omega, by omega⟩]
      exact L62 _ i (S.2 48 i) (by omega) (by omega) hst (Nat.lt_succ_self _) H locs ls hG hS (lv_sub hl [2, 3, 1, 0] rfl)
    refine lv_aload_n X.1 X.2.1 dX1_readsAs_13 rfl (lv_at hl 0 rfl) ?_
    refine mg_inside X hK hG dX1_readsAs_14 ?_
    refine lv_iload_n X.1 X.2.1 dX1_readsAs_17 rfl (lv_at hl 1 rfl) ?_
    refine ml_inside X hK hG (S.2 48) rfl (by first | omega | (split <;> omega)) dX1_readsAs_18 ?_
    refine lv_bipush (v := iI (-9)) X.1 X.2.1 dX1_readsAs_19 (by decide) ?_
    refine i_icmp_eq X 53 dX1_readsAs_21 (by decide) (by first | omega | (split <;> omega)) (by first | omega | (split <;> omega)) (fun c21 => ?_) (fun c21 => ?_)
    · exact K53  (by first | (intro h; exact absurd ‹_› h) | (intro _ _ ; assumption) | (intro _ h; rw [c34] at h; cases h)) H locs ls hG hS (lv_sub hl [0, 1] rfl)
    · have hlw := hT.1.w (i := S.2 48 i) (by omega) (by omega)
      have hlr := hT.1.r (i := S.2 48 i) (by omega) (by omega)
      refine lv_aload_n X.1 X.2.1 dX1_readsAs_24 rfl (lv_at hl 0 rfl) ?_
      refine lv_aload_n X.1 X.2.1 dX1_readsAs_25 rfl (lv_at hl 0 rfl) ?_
      refine mg_inside X hK hG dX1_readsAs_26 ?_
      refine lv_iload_n X.1 X.2.1 dX1_readsAs_29 rfl (lv_at hl 1 rfl) ?_
      refine ml_inside X hK hG (S.2 48) rfl (by first | omega | (split <;> omega)) dX1_readsAs_30 ?_
      refine m_callVp (rest := []) (n := 1) X hK hG hS (fun _ h => h) (mm_isBinding l D ca o (lv - 1) S (S.2 48 i) (by omega) (by omega)) (lw_V q1543 q1545 qs44 q70 q1546) (by decide +kernel) rfl ⟨by show (lv - 1) + 1 ≤ lv; omega, by show 8 + (2 + 11) + 40 * (lv - 1) ≤ 40 * lv; omega⟩ ⟨Nat.le_refl _, Nat.le_refl _⟩ hl.1 rfl (Nat.le_of_ble_eq_true rfl) dX1_readsAs_31 (fun H locs hG hS _ _ => ?_)
      refine i_if_eq X 53 dX1_readsAs_34 (by decide) (bI_iR _) (fun c34 => ?_) (fun c34 => ?_)
      · have c34 := bI_eq0.mp c34
        exact K53  (by first | (intro h; exact absurd ‹_› h) | (intro _ _ ; assumption) | (intro _ h; rw [c34] at h; cases h)) H locs ls hG hS (lv_sub hl [0, 1] rfl)
      · have c34 := bI_ne0.mp c34
        have hib : spIsB S (S.2 48 i) = true := c34
        have hwb : S.2 41 (S.2 48 i) = 4 ∨ S.2 41 (S.2 48 i) = 5 := by simpa [spIsB] using hib
        have hpb := hT.1.binds (i := S.2 48 i) (by omega) (by omega) hwb
        have hcb := hT.1.ch (i := S.2 48 i) (by omega) (by omega) (by omega) 2 (by omega)
        have hcb1 := hT.1.ch (i := S.2 48 i) (by omega) (by omega) (by omega) 1 (by omega)
        have eB : spB S (S.2 48 i) = chh (S.2 46) (S.2 48 i) 1 := rfl
        refine lv_aload_n X.1 X.2.1 dX1_readsAs_37 rfl (lv_at hl 0 rfl) ?_
        refine lv_aload_n X.1 X.2.1 dX1_readsAs_38 rfl (lv_at hl 0 rfl) ?_
        refine mg_inside X hK hG dX1_readsAs_39 ?_
        refine lv_iload_n X.1 X.2.1 dX1_readsAs_42 rfl (lv_at hl 1 rfl) ?_
        refine ml_inside X hK hG (S.2 48) rfl (by first | omega | (split <;> omega)) dX1_readsAs_43 ?_
        refine m_callVp (rest := []) (n := 1) X hK hG hS (fun _ h => h) (mm_binderOf l D ca o (lv - 1) S (S.2 48 i) (by omega)) (lw_V q1547 q1549 qs45 q70 q1550) (by decide +kernel) rfl ⟨by show (lv - 1) + 1 ≤ lv; omega, by show 8 + (2 + 11) + 40 * (lv - 1) ≤ 40 * lv; omega⟩ ⟨Nat.le_refl _, Nat.le_refl _⟩ hl.1 rfl (Nat.le_of_ble_eq_true rfl) dX1_readsAs_44 (fun H locs hG hS _ _ => ?_)
        refine lv_iload_n X.1 X.2.1 dX1_readsAs_47 rfl (lv_at hl 1 rfl) ?_
        refine i_icmp_ne X 53 dX1_readsAs_48 (by decide) (by first | omega | (split <;> omega)) (by first | omega | (split <;> omega)) (fun c48 => ?_) (fun c48 => ?_)
        · exact K53  (by first | (intro h; exact absurd ‹_› h) | (intro _ _ ; assumption) | (intro _ h; rw [c34] at h; cases h)) H locs ls hG hS (lv_sub hl [0, 1] rfl)
        · refine lv_iload_n X.1 X.2.1 dX1_readsAs_51 rfl (lv_at hl 1 rfl) ?_
          refine ret _ _ _ _ _ _ ?_ (rfl) hG hS dX1_readsAs_52
          exact ⟨by unfold spReads; rw [if_neg (by omega), if_pos ⟨by omega, hib, by omega⟩], rfl⟩
  · refine lv_bipush (v := iI (-9)) X.1 X.2.1 dX1_readsAs_10 (by decide) ?_
    refine ret _ _ _ _ _ _ ?_ (rfl) hG hS dX1_readsAs_12
    exact ⟨by unfold spReads; rw [if_pos (by omega)], rfl⟩

set_option maxHeartbeats 4000000 in
theorem mm_isWord (l : Launch) (D : va_G) (ca : Nat → ClassId) (o lv : Nat) (S : MSt) (v : Int) (hv : lR v) (hn : 0 ≤ S.1 29 ∧ S.1 29 ≤ 12) (hw : ∀ i, 0 ≤ i → i < S.1 29 → lR (S.2 30 i)) : mCi l yX1_isWord cX1_isWord 5 .boolean D ca o lv [.ref o, .long (lI (v))] S (fun r S' => r = bI (spWord S v (S.1 29).toNat) ∧ S' = S) := by
  refine mCi_of (by decide +kernel) rfl (Nat.le_of_ble_eq_true rfl) ?_
  intro p e s m args below meth c Q X hK ret H locs ls hG hS hl
  have hl : lv_has ls 5 [(0, .ref o), (1, .long (lI (v)))] := hl
  refine lv_iconst (v := iI (0)) X.1 X.2.1 dX1_isWord_0 rfl ?_
  refine lv_istore_n (lv' := [(3, .int (iI (0))), (0, .ref o), (1, .long (lI (v)))]) X.1 X.2.1 dX1_isWord_1 rfl hl (by decide) rfl (fun ls hl => ?_)
  refine lv_iconst (v := iI (0)) X.1 X.2.1 dX1_isWord_2 rfl ?_
  refine lv_istore (lv' := [(4, .int (iI (0))), (3, .int (iI (0))), (0, .ref o), (1, .long (lI (v)))]) X.1 X.2.1 dX1_isWord_3 hl (by decide) rfl (fun ls hl => ?_)
  have L5 : ∀ (N : Nat) (b : Int) (i : Nat), ((i : Int) ≤ S.1 29) → (b = bI (spWord S v i)) → (S.1 29).toNat - i < N → ∀ (H : Heap) (locs : List Loc) (ls : Array Slot), gOk D (mA o) (mH ca o S) H → va_S (mA o) s.heap H locs → lv_has ls 5 [(0, .ref o), (1, .long (lI (v))), (3, .int (iI (b))), (4, .int (iI ((i : Int))))] → W p l e (mR lv) s m args below meth c H locs 0 0 Q (F0 m 5 ls []) := by
    intro N
    induction N with
    | zero => intro b i hi hb hN; exact absurd hN (Nat.not_lt_zero _)
    | succ N ih =>
      intro b i hi hb hN H locs ls hG hS hl
      refine lv_iload X.1 X.2.1 dX1_isWord_5 (lv_at hl 3 rfl) ?_
      refine lv_aload_n X.1 X.2.1 dX1_isWord_7 rfl (lv_at hl 0 rfl) ?_
      refine mg_ruleMany X hK hG (S.1 29) rfl dX1_isWord_8 ?_
      refine i_icmp_ge X 42 dX1_isWord_11 (by decide) (by omega) (by omega) (fun c11 => ?_) (fun c11 => ?_)
      · have hb01 : b = 0 ∨ b = 1 := by rw [hb]; exact bI_01 _
        have hie : i = (S.1 29).toNat := by omega
        refine lv_iload_n X.1 X.2.1 dX1_isWord_42 rfl (lv_at hl 2 rfl) ?_
        refine ret _ _ _ _ _ _ ?_ (nar_b (by omega)) hG hS dX1_isWord_43
        exact ⟨by rw [hb, hie], rfl⟩
      · have hwi := hw i (by omega) (by omega)
        have hb01 : b = 0 ∨ b = 1 := by rw [hb]; exact bI_01 _
        refine lv_iload_n X.1 X.2.1 dX1_isWord_14 rfl (lv_at hl 2 rfl) ?_
        refine i_if_ne X 30 dX1_isWord_15 (by decide) (by omega) (fun c15 => ?_) (fun c15 => ?_)
        · refine lv_iconst (v := iI (1)) X.1 X.2.1 dX1_isWord_30 rfl ?_
          refine lv_goto (tgt := 35) X.1 X.2.1 dX1_isWord_31 (by decide) ?_
          refine lv_istore_n (lv' := [(3, .int (iI (1))), (0, .ref o), (1, .long (lI (v))), (4, .int (iI ((i : Int))))]) X.1 X.2.1 dX1_isWord_35 rfl hl (by decide) rfl (fun ls hl => ?_)
          refine i_inc (lv' := [(4, .int (iI ((i : Int) + 1))), (3, .int (iI (1))), (0, .ref o), (1, .long (lI (v)))]) X dX1_isWord_36 hl (k := 3) rfl (by decide) rfl (fun ls hl => ?_)
          refine lv_goto (tgt := 5) X.1 X.2.1 dX1_isWord_39 (by decide) ?_
          exact ih 1 (i + 1) (by omega) (by show _ = bI (spWord S v i || decide (S.2 30 i = v)); first | (apply bI_t; rw [Bool.or_eq_true]; first | (right; simpa using c26) | (left; rw [hb] at c15; exact bI_ne0.mp c15)) | (apply bI_f; rw [hb] at c15; rw [bI_eq0.mp c15]; simpa using c26)) (by omega) H locs ls hG hS (lv_sub hl [2, 3, 1, 0] rfl)
        · refine lv_aload_n X.1 X.2.1 dX1_isWord_18 rfl (lv_at hl 0 rfl) ?_
          refine mg_word X hK hG dX1_isWord_19 ?_
          refine lv_iload X.1 X.2.1 dX1_isWord_22 (lv_at hl 3 rfl) ?_
          refine ml_word X hK hG (S.2 30) rfl (by omega) dX1_isWord_24 ?_
          refine lv_lload_n X.1 X.2.1 dX1_isWord_25 rfl (lv_at hl 1 rfl) ?_
          refine i_lcmp_ne X 34 dX1_isWord_26 dX1_isWord_27 (by decide) (by omega) (by omega) (fun c26 => ?_) (fun c26 => ?_)
          · refine lv_iconst (v := iI (0)) X.1 X.2.1 dX1_isWord_34 rfl ?_
            refine lv_istore_n (lv' := [(3, .int (iI (0))), (0, .ref o), (1, .long (lI (v))), (4, .int (iI ((i : Int))))]) X.1 X.2.1 dX1_isWord_35 rfl hl (by decide) rfl (fun ls hl => ?_)
            refine i_inc (lv' := [(4, .int (iI ((i : Int) + 1))), (3, .int (iI (0))), (0, .ref o), (1, .long (lI (v)))]) X dX1_isWord_36 hl (k := 3) rfl (by decide) rfl (fun ls hl => ?_)
            refine lv_goto (tgt := 5) X.1 X.2.1 dX1_isWord_39 (by decide) ?_
            exact ih 0 (i + 1) (by omega) (by show _ = bI (spWord S v i || decide (S.2 30 i = v)); first | (apply bI_t; rw [Bool.or_eq_true]; first | (right; simpa using c26) | (left; rw [hb] at c15; exact bI_ne0.mp c15)) | (apply bI_f; rw [hb] at c15; rw [bI_eq0.mp c15]; simpa using c26)) (by omega) H locs ls hG hS (lv_sub hl [2, 3, 1, 0] rfl)
          · refine lv_iconst (v := iI (1)) X.1 X.2.1 dX1_isWord_30 rfl ?_
            refine lv_goto (tgt := 35) X.1 X.2.1 dX1_isWord_31 (by decide) ?_
            refine lv_istore_n (lv' := [(3, .int (iI (1))), (0, .ref o), (1, .long (lI (v))), (4, .int (iI ((i : Int))))]) X.1 X.2.1 dX1_isWord_35 rfl hl (by decide) rfl (fun ls hl => ?_)
            refine i_inc (lv' := [(4, .int (iI ((i : Int) + 1))), (3, .int (iI (1))), (0, .ref o), (1, .long (lI (v)))]) X dX1_isWord_36 hl (k := 3) rfl (by decide) rfl (fun ls hl => ?_)
            refine lv_goto (tgt := 5) X.1 X.2.1 dX1_isWord_39 (by decide) ?_
            exact ih 1 (i + 1) (by omega) (by show _ = bI (spWord S v i || decide (S.2 30 i = v)); first | (apply bI_t; rw [Bool.or_eq_true]; first | (right; simpa using c26) | (left; rw [hb] at c15; exact bI_ne0.mp c15)) | (apply bI_f; rw [hb] at c15; rw [bI_eq0.mp c15]; simpa using c26)) (by omega) H locs ls hG hS (lv_sub hl [2, 3, 1, 0] rfl)
  exact L5 _ 0 0 (by omega) (by simp [spWord, bI]) (Nat.lt_succ_self _) H locs ls hG hS (lv_sub hl [2, 3, 1, 0] rfl)

set_option maxHeartbeats 4000000 in
theorem mm_isCall (l : Launch) (D : va_G) (ca : Nat → ClassId) (o lv : Nat) (S : MSt) (i : Int) (hlv : 3 ≤ lv) (hT : MT S) (h0 : 0 ≤ i) (hn : i < S.1 40) (hm : 0 ≤ S.1 29 ∧ S.1 29 ≤ 12) (hw : ∀ i, 0 ≤ i → i < S.1 29 → lR (S.2 30 i)) : mCi l yX1_isCall cX1_isCall 2 .boolean D ca o lv [.ref o, .int (iI (i))] S (fun r S' => r = bI (spCall S i) ∧ S' = S) := by
  refine mCi_of (by decide +kernel) rfl (Nat.le_of_ble_eq_true rfl) ?_
  intro p e s m args below meth c Q X hK ret H locs ls hG hS hl
  have hl : lv_has ls 2 [(0, .ref o), (1, .int (iI (i)))] := hl
  have hnn := hT.n
  have hwi := hT.1.w h0 hn
  refine lv_aload_n X.1 X.2.1 dX1_isCall_0 rfl (lv_at hl 0 rfl) ?_
  refine mg_what X hK hG dX1_isCall_1 ?_
  refine lv_iload_n X.1 X.2.1 dX1_isCall_4 rfl (lv_at hl 1 rfl) ?_
  refine ml_what X hK hG (S.2 41) rfl (by first | omega | (split <;> omega)) dX1_isCall_5 ?_
  refine lv_iconst (v := iI (3)) X.1 X.2.1 dX1_isCall_6 rfl ?_
  refine i_icmp_ne X 41 dX1_isCall_7 (by decide) (by first | omega | (split <;> omega)) (by first | omega | (split <;> omega)) (fun c7 => ?_) (fun c7 => ?_)
  · refine lv_iconst (v := iI (0)) X.1 X.2.1 dX1_isCall_41 rfl ?_
    refine ret _ _ _ _ _ _ ?_ (nar_b (by first | omega | (split <;> omega))) hG hS dX1_isCall_42
    refine ⟨?_, rfl⟩
    first | (apply bI_t; unfold spCall; rw [c22]; simp; omega) | (apply bI_f; unfold spCall; first | (rw [c22]; simp; done) | (simp; omega) | (simp; intros; omega))
  · have hna := hT.1.named h0 hn (by omega)
    have hcl := (hT.1.lst h0 hn (by omega)).2 0 (by omega)
    have hc0 : chh (S.2 46) i 0 = i + 1 := rfl
    have hr := hT.1.r h0 hn
    have hg1 := hT.2.2 (i + 1) (by omega) (by omega)
    refine lv_aload_n X.1 X.2.1 dX1_isCall_10 rfl (lv_at hl 0 rfl) ?_
    refine lv_aload_n X.1 X.2.1 dX1_isCall_11 rfl (lv_at hl 0 rfl) ?_
    refine mg_worthOf X hK hG dX1_isCall_12 ?_
    refine lv_iload_n X.1 X.2.1 dX1_isCall_15 rfl (lv_at hl 1 rfl) ?_
    refine lv_iconst (v := iI (1)) X.1 X.2.1 dX1_isCall_16 rfl ?_
    refine i_add X dX1_isCall_17 ?_
    refine ml_worthOf X hK hG (S.2 42) rfl (by first | omega | (split <;> omega)) dX1_isCall_18 ?_
    refine m_callVp (rest := []) (n := 1) X hK hG hS (fun _ h => h) (mm_isWord l D ca o (lv - 1) S (S.2 42 (i + 1)) (by omega) hm hw) (lw_V q1572 q1574 qs49 q70 q1575) (by decide +kernel) rfl ⟨by show (lv - 1) + 1 ≤ lv; omega, by show 8 + (5 + 11) + 40 * (lv - 1) ≤ 40 * lv; omega⟩ ⟨Nat.le_refl _, Nat.le_refl _⟩ hl.1 rfl (Nat.le_of_ble_eq_true rfl) dX1_isCall_19 (fun H locs hG hS _ _ => ?_)
    refine i_if_eq X 41 dX1_isCall_22 (by decide) (bI_iR _) (fun c22 => ?_) (fun c22 => ?_)
    · have c22 := bI_eq0.mp c22
      refine lv_iconst (v := iI (0)) X.1 X.2.1 dX1_isCall_41 rfl ?_
      refine ret _ _ _ _ _ _ ?_ (nar_b (by first | omega | (split <;> omega))) hG hS dX1_isCall_42
      refine ⟨?_, rfl⟩
      first | (apply bI_t; unfold spCall; rw [c22]; simp; omega) | (apply bI_f; unfold spCall; first | (rw [c22]; simp; done) | (simp; omega) | (simp; intros; omega))
    · have c22 := bI_ne0.mp c22
      refine lv_aload_n X.1 X.2.1 dX1_isCall_25 rfl (lv_at hl 0 rfl) ?_
      refine lv_iload_n X.1 X.2.1 dX1_isCall_26 rfl (lv_at hl 1 rfl) ?_
      refine lv_iconst (v := iI (1)) X.1 X.2.1 dX1_isCall_27 rfl ?_
      refine i_add X dX1_isCall_28 ?_
      refine m_callVp (rest := []) (n := 1) X hK hG hS (fun _ h => h) (mm_readsAs l D ca o (lv - 1) S (i + 1) (by omega) hT (by omega) (by omega)) (lw_V q1539 q1541 qs43 q70 q1542) (by decide +kernel) rfl ⟨by show (lv - 1) + 1 ≤ lv; omega, by show 8 + (5 + 11) + 40 * (lv - 1) ≤ 40 * lv; omega⟩ ⟨Nat.le_refl _, Nat.le_refl _⟩ hl.1 rfl (Nat.le_of_ble_eq_true rfl) dX1_isCall_29 (fun H locs hG hS _ _ => ?_)
      refine lv_bipush (v := iI (-9)) X.1 X.2.1 dX1_isCall_32 (by decide) ?_
      have hrr := spReads_in hT (i := i + 1) (by omega) (by omega)
      refine i_icmp_ne X 41 dX1_isCall_34 (by decide) (by first | omega | (split <;> omega)) (by first | omega | (split <;> omega)) (fun c34 => ?_) (fun c34 => ?_)
      · refine lv_iconst (v := iI (0)) X.1 X.2.1 dX1_isCall_41 rfl ?_
        refine ret _ _ _ _ _ _ ?_ (nar_b (by first | omega | (split <;> omega))) hG hS dX1_isCall_42
        refine ⟨?_, rfl⟩
        first | (apply bI_t; unfold spCall; rw [c22]; simp; omega) | (apply bI_f; unfold spCall; first | (rw [c22]; simp; done) | (simp; omega) | (simp; intros; omega))
      · refine lv_iconst (v := iI (1)) X.1 X.2.1 dX1_isCall_37 rfl ?_
        refine lv_goto (tgt := 42) X.1 X.2.1 dX1_isCall_38 (by decide) ?_
        refine ret _ _ _ _ _ _ ?_ (nar_b (by first | omega | (split <;> omega))) hG hS dX1_isCall_42
        refine ⟨?_, rfl⟩
        first | (apply bI_t; unfold spCall; rw [c22]; simp; omega) | (apply bI_f; unfold spCall; first | (rw [c22]; simp; done) | (simp; omega) | (simp; intros; omega))

