/-! ===== the Model: a step, its parts ===== -/
set_option maxRecDepth 100000
set_option maxHeartbeats 4000000 in
theorem mm_settle (l : Launch) (D : va_G) (ca : Nat → ClassId) (o lv : Nat) (S : MSt) (hT : TW (S.1 40) (S.2 41) (S.2 46) (S.2 47)) : mCv l yX1_settle cX1_settle 3 D ca o lv [.ref o] S (fun S' => ∃ f : Int → Int, S' = mP S [(48, f)] [] ∧ TI (S.1 40) (S.2 41) (S.2 46) (S.2 47) f) := by
  refine mCv_of (by decide +kernel) rfl (Nat.le_of_ble_eq_true rfl) ?_
  intro p e s m args below meth c Q X hK ret H locs ls hG hS hl
  have hl : lv_has ls 3 [(0, .ref o)] := hl
  refine lv_iconst (v := iI (0)) X.1 X.2.1 dX1_settle_0 rfl ?_
  refine lv_istore_n (lv' := [(1, .int (iI (0))), (0, .ref o)]) X.1 X.2.1 dX1_settle_1 rfl hl (by decide) rfl (fun ls hl => ?_)
  have hnn : 1 ≤ S.1 40 ∧ S.1 40 ≤ 500 := ⟨hT.1, hT.2.1⟩
  have hG : gOk D (mA o) (mH ca o (mP S [] [])) H := hG
  rw [mP_add (k := 48) (f := S.2 48) (l' := [(48, S.2 48)]) rfl rfl] at hG
  have L2 : ∀ (N2 : Nat) (k : Int) (f : Int → Int), (0 ≤ k ∧ k ≤ S.1 40) → (∀ j, 0 ≤ j → j < k → f j = -9) → (S.1 40 - k).toNat < N2 → ∀ (H : Heap) (locs : List Loc) (ls : Array Slot), gOk D (mA o) (mH ca o (mP S [(48, f)] [])) H → va_S (mA o) s.heap H locs → lv_has ls 3 [(0, .ref o), (1, .int (iI (k)))] → W p l e (mR lv) s m args below meth c H locs 0 0 Q (F0 m 2 ls []) := by
    intro N2
    induction N2 with
    | zero => intro k f hk hf hN; exact absurd hN (Nat.not_lt_zero _)
    | succ N2 ih2 =>
      intro k f hk hf hN2 H locs ls hG hS hl
      refine lv_iload_n X.1 X.2.1 dX1_settle_2 rfl (lv_at hl 1 rfl) ?_
      refine lv_aload_n X.1 X.2.1 dX1_settle_3 rfl (lv_at hl 0 rfl) ?_
      refine mg_items X hK hG (S.1 40) rfl dX1_settle_4 ?_
      refine i_icmp_ge X 24 dX1_settle_7 (by decide) (by omega) (by omega) (fun c7 => ?_) (fun c7 => ?_)
      · refine lv_iconst (v := iI (0)) X.1 X.2.1 dX1_settle_24 rfl ?_
        refine lv_istore_n (lv' := [(1, .int (iI (0))), (0, .ref o)]) X.1 X.2.1 dX1_settle_25 rfl hl (by decide) rfl (fun ls hl => ?_)
        have hs0 : TS (S.1 40) (S.2 41) (S.2 46) (S.2 47) 0 f := ⟨fun i' a b => by omega, fun j a b => Or.inl (hf j a (by omega))⟩
        have L26 : ∀ (N26 : Nat) (i : Int) (f : Int → Int), (0 ≤ i ∧ i ≤ S.1 40) → (TS (S.1 40) (S.2 41) (S.2 46) (S.2 47) i f) → (S.1 40 - i).toNat < N26 → ∀ (H : Heap) (locs : List Loc) (ls : Array Slot), gOk D (mA o) (mH ca o (mP S [(48, f)] [])) H → va_S (mA o) s.heap H locs → lv_has ls 3 [(0, .ref o), (1, .int (iI (i)))] → W p l e (mR lv) s m args below meth c H locs 0 0 Q (F0 m 26 ls []) := by
          intro N26
          induction N26 with
          | zero => intro i f hi hs hN; exact absurd hN (Nat.not_lt_zero _)
          | succ N26 ih26 =>
            intro i f hi hs hN26 H locs ls hG hS hl
            refine lv_iload_n X.1 X.2.1 dX1_settle_26 rfl (lv_at hl 1 rfl) ?_
            refine lv_aload_n X.1 X.2.1 dX1_settle_27 rfl (lv_at hl 0 rfl) ?_
            refine mg_items X hK hG (S.1 40) rfl dX1_settle_28 ?_
            refine i_icmp_ge X 85 dX1_settle_31 (by decide) (by omega) (by omega) (fun c31 => ?_) (fun c31 => ?_)
            · refine ret _ _ _ _ _ ?_ hG hS dX1_settle_85
              refine ⟨f, rfl, ?_⟩
              have he : i = S.1 40 := by omega
              rw [he] at hs
              exact hs.fin hT
            · have hwi := hT.w (i := i) (by omega) (by omega)
              refine lv_aload_n X.1 X.2.1 dX1_settle_34 rfl (lv_at hl 0 rfl) ?_
              refine mg_what X hK hG dX1_settle_35 ?_
              refine lv_iload_n X.1 X.2.1 dX1_settle_38 rfl (lv_at hl 1 rfl) ?_
              refine ml_what X hK hG (S.2 41) rfl (by omega) dX1_settle_39 ?_
              refine lv_iconst (v := iI (2)) X.1 X.2.1 dX1_settle_40 rfl ?_
              refine i_icmp_lt X 79 dX1_settle_41 (by decide) (by omega) (by omega) (fun c41 => ?_) (fun c41 => ?_)
              · refine i_inc (lv' := [(1, .int (iI (i + 1))), (0, .ref o)]) X dX1_settle_79 hl (k := 1) rfl (by decide) rfl (fun ls hl => ?_)
                refine lv_goto (tgt := 26) X.1 X.2.1 dX1_settle_82 (by decide) ?_
                have hs1 : TS (S.1 40) (S.2 41) (S.2 46) (S.2 47) (i + 1) f := by
                  first | exact hs.skip (by omega) | exact hsE
                exact ih26 (i + 1) f (by omega) hs1 (by omega) H locs ls hG hS (lv_sub hl [1, 0] rfl)
              · refine lv_iload_n X.1 X.2.1 dX1_settle_44 rfl (lv_at hl 1 rfl) ?_
                refine lv_iconst (v := iI (1)) X.1 X.2.1 dX1_settle_45 rfl ?_
                refine i_add X dX1_settle_46 ?_
                refine lv_istore_n (lv' := [(2, .int (iI (i + 1))), (0, .ref o), (1, .int (iI (i)))]) X.1 X.2.1 dX1_settle_47 rfl hl (by decide) rfl (fun ls hl => ?_)
                obtain ⟨hl1, hl2⟩ := hT.lst (i := i) (by omega) (by omega) (by omega)
                have hch := hT.ch (i := i) (by omega) (by omega) (by omega)
                have hri := hT.r (i := i) (by omega) (by omega)
                have hpi := hT.p (i := i) (by omega) (by omega)
                have L48 : ∀ (N48 : Nat) (m2 : Nat) (k : Int) (f : Int → Int), ((m2 : Int) ≤ S.2 47 i) → (k = chh (S.2 46) i m2) → (TS2 (S.1 40) (S.2 41) (S.2 46) (S.2 47) i m2 f) → (S.2 47 i).toNat - m2 < N48 → ∀ (H : Heap) (locs : List Loc) (ls : Array Slot), gOk D (mA o) (mH ca o (mP S [(48, f)] [])) H → va_S (mA o) s.heap H locs → lv_has ls 3 [(0, .ref o), (1, .int (iI (i))), (2, .int (iI (k)))] → W p l e (mR lv) s m args below meth c H locs 0 0 Q (F0 m 48 ls []) := by
                  intro N48
                  induction N48 with
                  | zero => intro m2 k f hm hk hs2 hN; exact absurd hN (Nat.not_lt_zero _)
                  | succ N48 ih48 =>
                    intro m2 k f hm hk hs2 hN48 H locs ls hG hS hl
                    refine lv_iload_n X.1 X.2.1 dX1_settle_48 rfl (lv_at hl 2 rfl) ?_
                    have hc := hch m2 hm
                    refine lv_iload_n X.1 X.2.1 dX1_settle_49 rfl (lv_at hl 1 rfl) ?_
                    refine lv_aload_n X.1 X.2.1 dX1_settle_50 rfl (lv_at hl 0 rfl) ?_
                    refine mg_room X hK hG dX1_settle_51 ?_
                    refine lv_iload_n X.1 X.2.1 dX1_settle_54 rfl (lv_at hl 1 rfl) ?_
                    refine ml_room X hK hG (S.2 46) rfl (by omega) dX1_settle_55 ?_
                    refine i_add X dX1_settle_56 ?_
                    refine i_icmp_ge X 79 dX1_settle_57 (by decide) (by omega) (by omega) (fun c57 => ?_) (fun c57 => ?_)
                    · have hsE : TS (S.1 40) (S.2 41) (S.2 46) (S.2 47) (i + 1) f := by
                        have hme : m2 = (S.2 47 i).toNat := by
                          rcases Int.lt_or_le (m2 : Int) (S.2 47 i) with q | q
                          · have := hl2 m2 q; omega
                          · omega
                        rw [hme] at hs2
                        exact hs2.fin
                      refine i_inc (lv' := [(1, .int (iI (i + 1))), (0, .ref o), (2, .int (iI (k)))]) X dX1_settle_79 hl (k := 1) rfl (by decide) rfl (fun ls hl => ?_)
                      refine lv_goto (tgt := 26) X.1 X.2.1 dX1_settle_82 (by decide) ?_
                      have hs1 : TS (S.1 40) (S.2 41) (S.2 46) (S.2 47) (i + 1) f := by
                        first | exact hs.skip (by omega) | exact hsE
                      exact ih26 (i + 1) f (by omega) hs1 (by omega) H locs ls hG hS (lv_sub hl [1, 0] rfl)
                    · have hm2 : (m2 : Int) < S.2 47 i := by
                        rcases Int.lt_or_le (m2 : Int) (S.2 47 i) with q | q
                        · exact q
                        · rw [show m2 = (S.2 47 i).toNat by omega, hl1] at hk; omega
                      have hkl := hl2 m2 hm2
                      have hkr := hT.r (i := k) (by omega) (by omega)
                      refine lv_aload_n X.1 X.2.1 dX1_settle_60 rfl (lv_at hl 0 rfl) ?_
                      refine mg_inside X hK hG dX1_settle_61 ?_
                      refine lv_iload_n X.1 X.2.1 dX1_settle_64 rfl (lv_at hl 2 rfl) ?_
                      refine lv_iload_n X.1 X.2.1 dX1_settle_65 rfl (lv_at hl 1 rfl) ?_
                      refine ms_inside X hK hG hS (by omega) dX1_settle_66 (fun H locs hG hS => ?_)
                      rw [mU_mP (l' := [(48, upI f k i)]) rfl rfl] at hG
                      refine lv_iload_n X.1 X.2.1 dX1_settle_67 rfl (lv_at hl 2 rfl) ?_
                      refine lv_aload_n X.1 X.2.1 dX1_settle_68 rfl (lv_at hl 0 rfl) ?_
                      refine mg_room X hK hG dX1_settle_69 ?_
                      refine lv_iload_n X.1 X.2.1 dX1_settle_72 rfl (lv_at hl 2 rfl) ?_
                      refine ml_room X hK hG (S.2 46) rfl (by omega) dX1_settle_73 ?_
                      refine i_add X dX1_settle_74 ?_
                      refine lv_istore_n (lv' := [(2, .int (iI (k + (S.2 46 k)))), (0, .ref o), (1, .int (iI (i)))]) X.1 X.2.1 dX1_settle_75 rfl hl (by decide) rfl (fun ls hl => ?_)
                      refine lv_goto (tgt := 48) X.1 X.2.1 dX1_settle_76 (by decide) ?_
                      exact ih48 (m2 + 1) (k + (S.2 46 k)) (upI f k i) (by omega) (by rw [hk]; rfl) (by rw [hk]; exact hs2.put hT (by omega) (by omega) (by omega) (by omega)) (by omega) H locs ls hG hS (lv_sub hl [1, 2, 0] rfl)
                exact L48 _ 0 (i + 1) f (by omega) rfl hs.to2 (Nat.lt_succ_self _) H locs ls hG hS (lv_sub hl [1, 2, 0] rfl)
        exact L26 _ 0 f (by omega) hs0 (Nat.lt_succ_self _) H locs ls hG hS (lv_sub hl [1, 0] rfl)
      · refine lv_aload_n X.1 X.2.1 dX1_settle_10 rfl (lv_at hl 0 rfl) ?_
        refine mg_inside X hK hG dX1_settle_11 ?_
        refine lv_iload_n X.1 X.2.1 dX1_settle_14 rfl (lv_at hl 1 rfl) ?_
        refine lv_bipush (v := iI (-9)) X.1 X.2.1 dX1_settle_15 (by decide) ?_
        refine ms_inside X hK hG hS (by omega) dX1_settle_17 (fun H locs hG hS => ?_)
        rw [mU_mP (l' := [(48, upI f k ((-9)))]) rfl rfl] at hG
        refine i_inc (lv' := [(1, .int (iI (k + 1))), (0, .ref o)]) X dX1_settle_18 hl (k := 1) rfl (by decide) rfl (fun ls hl => ?_)
        refine lv_goto (tgt := 2) X.1 X.2.1 dX1_settle_21 (by decide) ?_
        have hf2 : ∀ j, 0 ≤ j → j < k + 1 → upI f k (-9) j = -9 := by
          intro j a b
          by_cases hj : j = k
          · rw [hj, upI_s]
          · rw [upI_n hj]; exact hf j a (by omega)
        exact ih2 (k + 1) (upI f k ((-9))) (by omega) hf2 (by omega) H locs ls hG hS (lv_sub hl [1, 0] rfl)
  exact L2 _ 0 (S.2 48) (by omega) (by intro j a b; omega) (Nat.lt_succ_self _) H locs ls hG hS (lv_sub hl [1, 0] rfl)

set_option maxHeartbeats 4000000 in
theorem mm_judged (l : Launch) (D : va_G) (ca : Nat → ClassId) (o lv : Nat) (S : MSt) (n : Int) (b : Int) (f : Int) (c2 : Int) (hn : iR n) (hb : b = 0 ∨ b = 1) (hf : lR f) (hc : c2 = 0 ∨ c2 = 1) : mCi l yX1_judged cX1_judged 5 .int D ca o lv [.int (iI (n)), .int (iI (b)), .long (lI (f)), .int (iI (c2))] S (fun r S' => r = spJ n b f c2 ∧ S' = S) := by
  refine mCi_of (by decide +kernel) rfl (Nat.le_of_ble_eq_true rfl) ?_
  intro p e s m args below meth c Q X hK ret H locs ls hG hS hl
  have hl : lv_has ls 5 [(0, .int (iI (n))), (1, .int (iI (b))), (2, .long (lI (f))), (4, .int (iI (c2)))] := hl
  refine lv_iload_n X.1 X.2.1 dX1_judged_0 rfl (lv_at hl 1 rfl) ?_
  refine i_if_ne X 6 dX1_judged_1 (by decide) (by omega) (fun c1 => ?_) (fun c1 => ?_)
  · refine lv_iload_n X.1 X.2.1 dX1_judged_6 rfl (lv_at hl 0 rfl) ?_
    refine lv_iconst (v := iI (4)) X.1 X.2.1 dX1_judged_7 rfl ?_
    refine i_icmp_ne X 28 dX1_judged_8 (by decide) (by omega) (by omega) (fun c8 => ?_) (fun c8 => ?_)
    · refine lv_iload_n X.1 X.2.1 dX1_judged_28 rfl (lv_at hl 0 rfl) ?_
      refine lv_iconst (v := iI (3)) X.1 X.2.1 dX1_judged_29 rfl ?_
      refine i_icmp_ne X 50 dX1_judged_30 (by decide) (by omega) (by omega) (fun c30 => ?_) (fun c30 => ?_)
      · refine lv_iconst (v := iI (3)) X.1 X.2.1 dX1_judged_50 rfl ?_
        refine ret _ _ _ _ _ _ ?_ (rfl) hG hS dX1_judged_51
        refine ⟨?_, rfl⟩
        first | (exfalso; omega) | (unfold spJ; repeat (first | rw [if_pos (by omega)] | rw [if_neg (by omega)]))
      · refine lv_lload_n X.1 X.2.1 dX1_judged_33 rfl (lv_at hl 2 rfl) ?_
        refine lv_ldc2 (v := lI (7239014)) X.1 X.2.1 X.2.2.2.1 (X.2.2.2.2 _ q1480) dX1_judged_34 ?_
        refine i_lcmp_ne X 50 dX1_judged_37 dX1_judged_38 (by decide) (by omega) (by omega) (fun c37 => ?_) (fun c37 => ?_)
        · refine lv_iconst (v := iI (3)) X.1 X.2.1 dX1_judged_50 rfl ?_
          refine ret _ _ _ _ _ _ ?_ (rfl) hG hS dX1_judged_51
          refine ⟨?_, rfl⟩
          first | (exfalso; omega) | (unfold spJ; repeat (first | rw [if_pos (by omega)] | rw [if_neg (by omega)]))
        · refine lv_iload X.1 X.2.1 dX1_judged_41 (lv_at hl 3 rfl) ?_
          refine i_if_eq X 50 dX1_judged_43 (by decide) (by omega) (fun c43 => ?_) (fun c43 => ?_)
          · refine lv_iconst (v := iI (3)) X.1 X.2.1 dX1_judged_50 rfl ?_
            refine ret _ _ _ _ _ _ ?_ (rfl) hG hS dX1_judged_51
            refine ⟨?_, rfl⟩
            first | (exfalso; omega) | (unfold spJ; repeat (first | rw [if_pos (by omega)] | rw [if_neg (by omega)]))
          · refine lv_iconst (v := iI (5)) X.1 X.2.1 dX1_judged_46 rfl ?_
            refine lv_goto (tgt := 51) X.1 X.2.1 dX1_judged_47 (by decide) ?_
            refine ret _ _ _ _ _ _ ?_ (rfl) hG hS dX1_judged_51
            refine ⟨?_, rfl⟩
            first | (exfalso; omega) | (unfold spJ; repeat (first | rw [if_pos (by omega)] | rw [if_neg (by omega)]))
    · refine lv_lload_n X.1 X.2.1 dX1_judged_11 rfl (lv_at hl 2 rfl) ?_
      refine lv_ldc2 (v := lI (7628140)) X.1 X.2.1 X.2.2.2.1 (X.2.2.2.2 _ q1479) dX1_judged_12 ?_
      refine i_lcmp_ne X 28 dX1_judged_15 dX1_judged_16 (by decide) (by omega) (by omega) (fun c15 => ?_) (fun c15 => ?_)
      · refine lv_iload_n X.1 X.2.1 dX1_judged_28 rfl (lv_at hl 0 rfl) ?_
        refine lv_iconst (v := iI (3)) X.1 X.2.1 dX1_judged_29 rfl ?_
        refine i_icmp_ne X 50 dX1_judged_30 (by decide) (by omega) (by omega) (fun c30 => ?_) (fun c30 => ?_)
        · refine lv_iconst (v := iI (3)) X.1 X.2.1 dX1_judged_50 rfl ?_
          refine ret _ _ _ _ _ _ ?_ (rfl) hG hS dX1_judged_51
          refine ⟨?_, rfl⟩
          first | (exfalso; omega) | (unfold spJ; repeat (first | rw [if_pos (by omega)] | rw [if_neg (by omega)]))
        · refine lv_lload_n X.1 X.2.1 dX1_judged_33 rfl (lv_at hl 2 rfl) ?_
          refine lv_ldc2 (v := lI (7239014)) X.1 X.2.1 X.2.2.2.1 (X.2.2.2.2 _ q1480) dX1_judged_34 ?_
          refine i_lcmp_ne X 50 dX1_judged_37 dX1_judged_38 (by decide) (by omega) (by omega) (fun c37 => ?_) (fun c37 => ?_)
          · refine lv_iconst (v := iI (3)) X.1 X.2.1 dX1_judged_50 rfl ?_
            refine ret _ _ _ _ _ _ ?_ (rfl) hG hS dX1_judged_51
            refine ⟨?_, rfl⟩
            first | (exfalso; omega) | (unfold spJ; repeat (first | rw [if_pos (by omega)] | rw [if_neg (by omega)]))
          · refine lv_iload X.1 X.2.1 dX1_judged_41 (lv_at hl 3 rfl) ?_
            refine i_if_eq X 50 dX1_judged_43 (by decide) (by omega) (fun c43 => ?_) (fun c43 => ?_)
            · refine lv_iconst (v := iI (3)) X.1 X.2.1 dX1_judged_50 rfl ?_
              refine ret _ _ _ _ _ _ ?_ (rfl) hG hS dX1_judged_51
              refine ⟨?_, rfl⟩
              first | (exfalso; omega) | (unfold spJ; repeat (first | rw [if_pos (by omega)] | rw [if_neg (by omega)]))
            · refine lv_iconst (v := iI (5)) X.1 X.2.1 dX1_judged_46 rfl ?_
              refine lv_goto (tgt := 51) X.1 X.2.1 dX1_judged_47 (by decide) ?_
              refine ret _ _ _ _ _ _ ?_ (rfl) hG hS dX1_judged_51
              refine ⟨?_, rfl⟩
              first | (exfalso; omega) | (unfold spJ; repeat (first | rw [if_pos (by omega)] | rw [if_neg (by omega)]))
      · refine lv_iload X.1 X.2.1 dX1_judged_19 (lv_at hl 3 rfl) ?_
        refine i_if_eq X 28 dX1_judged_21 (by decide) (by omega) (fun c21 => ?_) (fun c21 => ?_)
        · refine lv_iload_n X.1 X.2.1 dX1_judged_28 rfl (lv_at hl 0 rfl) ?_
          refine lv_iconst (v := iI (3)) X.1 X.2.1 dX1_judged_29 rfl ?_
          refine i_icmp_ne X 50 dX1_judged_30 (by decide) (by omega) (by omega) (fun c30 => ?_) (fun c30 => ?_)
          · refine lv_iconst (v := iI (3)) X.1 X.2.1 dX1_judged_50 rfl ?_
            refine ret _ _ _ _ _ _ ?_ (rfl) hG hS dX1_judged_51
            refine ⟨?_, rfl⟩
            first | (exfalso; omega) | (unfold spJ; repeat (first | rw [if_pos (by omega)] | rw [if_neg (by omega)]))
          · refine lv_lload_n X.1 X.2.1 dX1_judged_33 rfl (lv_at hl 2 rfl) ?_
            refine lv_ldc2 (v := lI (7239014)) X.1 X.2.1 X.2.2.2.1 (X.2.2.2.2 _ q1480) dX1_judged_34 ?_
            refine i_lcmp_ne X 50 dX1_judged_37 dX1_judged_38 (by decide) (by omega) (by omega) (fun c37 => ?_) (fun c37 => ?_)
            · refine lv_iconst (v := iI (3)) X.1 X.2.1 dX1_judged_50 rfl ?_
              refine ret _ _ _ _ _ _ ?_ (rfl) hG hS dX1_judged_51
              refine ⟨?_, rfl⟩
              first | (exfalso; omega) | (unfold spJ; repeat (first | rw [if_pos (by omega)] | rw [if_neg (by omega)]))
            · refine lv_iload X.1 X.2.1 dX1_judged_41 (lv_at hl 3 rfl) ?_
              refine i_if_eq X 50 dX1_judged_43 (by decide) (by omega) (fun c43 => ?_) (fun c43 => ?_)
              · refine lv_iconst (v := iI (3)) X.1 X.2.1 dX1_judged_50 rfl ?_
                refine ret _ _ _ _ _ _ ?_ (rfl) hG hS dX1_judged_51
                refine ⟨?_, rfl⟩
                first | (exfalso; omega) | (unfold spJ; repeat (first | rw [if_pos (by omega)] | rw [if_neg (by omega)]))
              · refine lv_iconst (v := iI (5)) X.1 X.2.1 dX1_judged_46 rfl ?_
                refine lv_goto (tgt := 51) X.1 X.2.1 dX1_judged_47 (by decide) ?_
                refine ret _ _ _ _ _ _ ?_ (rfl) hG hS dX1_judged_51
                refine ⟨?_, rfl⟩
                first | (exfalso; omega) | (unfold spJ; repeat (first | rw [if_pos (by omega)] | rw [if_neg (by omega)]))
        · refine lv_iconst (v := iI (4)) X.1 X.2.1 dX1_judged_24 rfl ?_
          refine lv_goto (tgt := 51) X.1 X.2.1 dX1_judged_25 (by decide) ?_
          refine ret _ _ _ _ _ _ ?_ (rfl) hG hS dX1_judged_51
          refine ⟨?_, rfl⟩
          first | (exfalso; omega) | (unfold spJ; repeat (first | rw [if_pos (by omega)] | rw [if_neg (by omega)]))
  · refine lv_iconst (v := iI (2)) X.1 X.2.1 dX1_judged_4 rfl ?_
    refine ret _ _ _ _ _ _ ?_ (rfl) hG hS dX1_judged_5
    refine ⟨?_, rfl⟩
    first | (exfalso; omega) | (unfold spJ; repeat (first | rw [if_pos (by omega)] | rw [if_neg (by omega)]))

set_option maxHeartbeats 4000000 in
theorem mm_move (l : Launch) (D : va_G) (ca : Nat → ClassId) (o lv : Nat) (S : MSt) (a : Int) (b : Int) (ha : 0 ≤ a ∧ a < 500) (hb : 0 ≤ b ∧ b < 500) : mCv l yX1_move cX1_move 3 D ca o lv [.ref o, .int (iI (a)), .int (iI (b))] S (fun S' => S' = mP S [(41, upI (S.2 41) b (S.2 41 a)), (42, upI (S.2 42) b (S.2 42 a)), (43, upI (S.2 43) b (S.2 43 a)), (44, upI (S.2 44) b (S.2 44 a)), (45, upI (S.2 45) b (S.2 45 a)), (46, upI (S.2 46) b (S.2 46 a)), (47, upI (S.2 47) b (S.2 47 a))] []) := by
  refine mCv_of (by decide +kernel) rfl (Nat.le_of_ble_eq_true rfl) ?_
  intro p e s m args below meth c Q X hK ret H locs ls hG hS hl
  have hl : lv_has ls 3 [(0, .ref o), (1, .int (iI (a))), (2, .int (iI (b)))] := hl
  refine lv_aload_n X.1 X.2.1 dX1_move_0 rfl (lv_at hl 0 rfl) ?_
  refine mg_what X hK hG dX1_move_1 ?_
  refine lv_iload_n X.1 X.2.1 dX1_move_4 rfl (lv_at hl 2 rfl) ?_
  refine lv_aload_n X.1 X.2.1 dX1_move_5 rfl (lv_at hl 0 rfl) ?_
  refine mg_what X hK hG dX1_move_6 ?_
  refine lv_iload_n X.1 X.2.1 dX1_move_9 rfl (lv_at hl 1 rfl) ?_
  refine ml_what X hK hG (S.2 41) rfl (by omega) dX1_move_10 ?_
  have hG : gOk D (mA o) (mH ca o (mP S [] [])) H := hG
  refine ms_what X hK hG hS (by omega) dX1_move_11 (fun H locs hG hS => ?_)
  rw [mU_mP (l' := [(41, upI (S.2 41) b (S.2 41 a))]) rfl rfl] at hG
  refine lv_aload_n X.1 X.2.1 dX1_move_12 rfl (lv_at hl 0 rfl) ?_
  refine mg_worthOf X hK hG dX1_move_13 ?_
  refine lv_iload_n X.1 X.2.1 dX1_move_16 rfl (lv_at hl 2 rfl) ?_
  refine lv_aload_n X.1 X.2.1 dX1_move_17 rfl (lv_at hl 0 rfl) ?_
  refine mg_worthOf X hK hG dX1_move_18 ?_
  refine lv_iload_n X.1 X.2.1 dX1_move_21 rfl (lv_at hl 1 rfl) ?_
  refine ml_worthOf X hK hG (S.2 42) rfl (by omega) dX1_move_22 ?_
  refine ms_worthOf X hK hG hS (by omega) dX1_move_23 (fun H locs hG hS => ?_)
  rw [mU_mP (l' := [(41, upI (S.2 41) b (S.2 41 a)), (42, upI (S.2 42) b (S.2 42 a))]) rfl rfl] at hG
  refine lv_aload_n X.1 X.2.1 dX1_move_24 rfl (lv_at hl 0 rfl) ?_
  refine mg_mark X hK hG dX1_move_25 ?_
  refine lv_iload_n X.1 X.2.1 dX1_move_28 rfl (lv_at hl 2 rfl) ?_
  refine lv_aload_n X.1 X.2.1 dX1_move_29 rfl (lv_at hl 0 rfl) ?_
  refine mg_mark X hK hG dX1_move_30 ?_
  refine lv_iload_n X.1 X.2.1 dX1_move_33 rfl (lv_at hl 1 rfl) ?_
  refine ml_mark X hK hG (S.2 43) rfl (by omega) dX1_move_34 ?_
  refine ms_mark X hK hG hS (by omega) dX1_move_35 (fun H locs hG hS => ?_)
  rw [mU_mP (l' := [(41, upI (S.2 41) b (S.2 41 a)), (42, upI (S.2 42) b (S.2 42 a)), (43, upI (S.2 43) b (S.2 43 a))]) rfl rfl] at hG
  refine lv_aload_n X.1 X.2.1 dX1_move_36 rfl (lv_at hl 0 rfl) ?_
  refine mg_from X hK hG dX1_move_37 ?_
  refine lv_iload_n X.1 X.2.1 dX1_move_40 rfl (lv_at hl 2 rfl) ?_
  refine lv_aload_n X.1 X.2.1 dX1_move_41 rfl (lv_at hl 0 rfl) ?_
  refine mg_from X hK hG dX1_move_42 ?_
  refine lv_iload_n X.1 X.2.1 dX1_move_45 rfl (lv_at hl 1 rfl) ?_
  refine ml_from X hK hG (S.2 44) rfl (by omega) dX1_move_46 ?_
  refine ms_from X hK hG hS (by omega) dX1_move_47 (fun H locs hG hS => ?_)
  rw [mU_mP (l' := [(41, upI (S.2 41) b (S.2 41 a)), (42, upI (S.2 42) b (S.2 42 a)), (43, upI (S.2 43) b (S.2 43 a)), (44, upI (S.2 44) b (S.2 44 a))]) rfl rfl] at hG
  refine lv_aload_n X.1 X.2.1 dX1_move_48 rfl (lv_at hl 0 rfl) ?_
  refine mg_maker X hK hG dX1_move_49 ?_
  refine lv_iload_n X.1 X.2.1 dX1_move_52 rfl (lv_at hl 2 rfl) ?_
  refine lv_aload_n X.1 X.2.1 dX1_move_53 rfl (lv_at hl 0 rfl) ?_
  refine mg_maker X hK hG dX1_move_54 ?_
  refine lv_iload_n X.1 X.2.1 dX1_move_57 rfl (lv_at hl 1 rfl) ?_
  refine ml_maker X hK hG (S.2 45) rfl (by omega) dX1_move_58 ?_
  refine ms_maker X hK hG hS (by omega) dX1_move_59 (fun H locs hG hS => ?_)
  rw [mU_mP (l' := [(41, upI (S.2 41) b (S.2 41 a)), (42, upI (S.2 42) b (S.2 42 a)), (43, upI (S.2 43) b (S.2 43 a)), (44, upI (S.2 44) b (S.2 44 a)), (45, upI (S.2 45) b (S.2 45 a))]) rfl rfl] at hG
  refine lv_aload_n X.1 X.2.1 dX1_move_60 rfl (lv_at hl 0 rfl) ?_
  refine mg_room X hK hG dX1_move_61 ?_
  refine lv_iload_n X.1 X.2.1 dX1_move_64 rfl (lv_at hl 2 rfl) ?_
  refine lv_aload_n X.1 X.2.1 dX1_move_65 rfl (lv_at hl 0 rfl) ?_
  refine mg_room X hK hG dX1_move_66 ?_
  refine lv_iload_n X.1 X.2.1 dX1_move_69 rfl (lv_at hl 1 rfl) ?_
  refine ml_room X hK hG (S.2 46) rfl (by omega) dX1_move_70 ?_
  refine ms_room X hK hG hS (by omega) dX1_move_71 (fun H locs hG hS => ?_)
  rw [mU_mP (l' := [(41, upI (S.2 41) b (S.2 41 a)), (42, upI (S.2 42) b (S.2 42 a)), (43, upI (S.2 43) b (S.2 43 a)), (44, upI (S.2 44) b (S.2 44 a)), (45, upI (S.2 45) b (S.2 45 a)), (46, upI (S.2 46) b (S.2 46 a))]) rfl rfl] at hG
  refine lv_aload_n X.1 X.2.1 dX1_move_72 rfl (lv_at hl 0 rfl) ?_
  refine mg_parts X hK hG dX1_move_73 ?_
  refine lv_iload_n X.1 X.2.1 dX1_move_76 rfl (lv_at hl 2 rfl) ?_
  refine lv_aload_n X.1 X.2.1 dX1_move_77 rfl (lv_at hl 0 rfl) ?_
  refine mg_parts X hK hG dX1_move_78 ?_
  refine lv_iload_n X.1 X.2.1 dX1_move_81 rfl (lv_at hl 1 rfl) ?_
  refine ml_parts X hK hG (S.2 47) rfl (by omega) dX1_move_82 ?_
  refine ms_parts X hK hG hS (by omega) dX1_move_83 (fun H locs hG hS => ?_)
  rw [mU_mP (l' := [(41, upI (S.2 41) b (S.2 41 a)), (42, upI (S.2 42) b (S.2 42 a)), (43, upI (S.2 43) b (S.2 43 a)), (44, upI (S.2 44) b (S.2 44 a)), (45, upI (S.2 45) b (S.2 45 a)), (46, upI (S.2 46) b (S.2 46 a)), (47, upI (S.2 47) b (S.2 47 a))]) rfl rfl] at hG
  refine ret _ _ _ _ _ ?_ hG hS dX1_move_84
  rfl

set_option maxHeartbeats 4000000 in
theorem mm_lay (l : Launch) (D : va_G) (ca : Nat → ClassId) (o lv : Nat) (S : MSt) (w : Int) (v : Int) (mk : Int) (fr : Int) (by2 : Int) (rm : Int) (pt : Int) (hfr : 0 ≤ S.1 56 ∧ S.1 56 ≤ 1000000) : mCv l yX1_lay cX1_lay 9 D ca o lv [.ref o, .int (iI (w)), .long (lI (v)), .int (iI (mk)), .int (iI (fr)), .int (iI (by2)), .int (iI (rm)), .int (iI (pt))] S (fun S' => S' = mP S [(57, upL (S.2 57) (S.1 56) w), (58, upL (S.2 58) (S.1 56) v), (59, upL (S.2 59) (S.1 56) mk), (60, upL (S.2 60) (S.1 56) fr), (61, upL (S.2 61) (S.1 56) by2), (62, upL (S.2 62) (S.1 56) rm), (63, upL (S.2 63) (S.1 56) pt)] [(56, S.1 56 + 1)]) := by
  refine mCv_of (by decide +kernel) rfl (Nat.le_of_ble_eq_true rfl) ?_
  intro p e s m args below meth c Q X hK ret H locs ls hG hS hl
  have hl : lv_has ls 9 [(0, .ref o), (1, .int (iI (w))), (2, .long (lI (v))), (4, .int (iI (mk))), (5, .int (iI (fr))), (6, .int (iI (by2))), (7, .int (iI (rm))), (8, .int (iI (pt)))] := hl
  refine lv_aload_n X.1 X.2.1 dX1_lay_0 rfl (lv_at hl 0 rfl) ?_
  refine mg_fresh X hK hG (S.1 56) rfl dX1_lay_1 ?_
  refine lv_sipush (v := iI (500)) X.1 X.2.1 dX1_lay_4 (by decide) ?_
  refine i_icmp_ge X 85 dX1_lay_7 (by decide) (by omega) (by omega) (fun c7 => ?_) (fun c7 => ?_)
  · refine lv_aload_n X.1 X.2.1 dX1_lay_85 rfl (lv_at hl 0 rfl) ?_
    refine lv_dup X.1 X.2.1 dX1_lay_86 rfl ?_
    refine mg_fresh X hK hG (S.1 56) rfl dX1_lay_87 ?_
    refine lv_iconst (v := iI (1)) X.1 X.2.1 dX1_lay_90 rfl ?_
    refine i_add X dX1_lay_91 ?_
    have hG : gOk D (mA o) (mH ca o (mP S [] [])) H := hG
    refine mp_fresh X hK hG hS dX1_lay_92 (fun H locs hG hS => ?_)
    rw [mS_mP (sc' := [(56, (S.1 56) + 1)]) rfl] at hG
    refine ret _ _ _ _ _ ?_ hG hS dX1_lay_95
    unfold upL
    simp only [if_neg (show ¬ S.1 56 < 500 by omega)]
    rw [show mP S [] [(56, S.1 56 + 1)] = mP S [(57, S.2 57), (58, S.2 58), (59, S.2 59), (60, S.2 60), (61, S.2 61), (62, S.2 62), (63, S.2 63)] [(56, S.1 56 + 1)] from by rw [mP_add (k := 57) (f := S.2 57) (l' := [(57, S.2 57)]) rfl rfl , mP_add (k := 58) (f := S.2 58) (l' := [(57, S.2 57), (58, S.2 58)]) rfl rfl , mP_add (k := 59) (f := S.2 59) (l' := [(57, S.2 57), (58, S.2 58), (59, S.2 59)]) rfl rfl , mP_add (k := 60) (f := S.2 60) (l' := [(57, S.2 57), (58, S.2 58), (59, S.2 59), (60, S.2 60)]) rfl rfl , mP_add (k := 61) (f := S.2 61) (l' := [(57, S.2 57), (58, S.2 58), (59, S.2 59), (60, S.2 60), (61, S.2 61)]) rfl rfl , mP_add (k := 62) (f := S.2 62) (l' := [(57, S.2 57), (58, S.2 58), (59, S.2 59), (60, S.2 60), (61, S.2 61), (62, S.2 62)]) rfl rfl , mP_add (k := 63) (f := S.2 63) (l' := [(57, S.2 57), (58, S.2 58), (59, S.2 59), (60, S.2 60), (61, S.2 61), (62, S.2 62), (63, S.2 63)]) rfl rfl]]
  · refine lv_aload_n X.1 X.2.1 dX1_lay_10 rfl (lv_at hl 0 rfl) ?_
    refine mg_fWhat X hK hG dX1_lay_11 ?_
    refine lv_aload_n X.1 X.2.1 dX1_lay_14 rfl (lv_at hl 0 rfl) ?_
    refine mg_fresh X hK hG (S.1 56) rfl dX1_lay_15 ?_
    refine lv_iload_n X.1 X.2.1 dX1_lay_18 rfl (lv_at hl 1 rfl) ?_
    have hG : gOk D (mA o) (mH ca o (mP S [] [])) H := hG
    refine ms_fWhat X hK hG hS (by omega) dX1_lay_19 (fun H locs hG hS => ?_)
    rw [mU_mP (l' := [(57, upI (S.2 57) (S.1 56) w)]) rfl rfl] at hG
    refine lv_aload_n X.1 X.2.1 dX1_lay_20 rfl (lv_at hl 0 rfl) ?_
    refine mg_fWorth X hK hG dX1_lay_21 ?_
    refine lv_aload_n X.1 X.2.1 dX1_lay_24 rfl (lv_at hl 0 rfl) ?_
    refine mg_fresh X hK hG (S.1 56) rfl dX1_lay_25 ?_
    refine lv_lload_n X.1 X.2.1 dX1_lay_28 rfl (lv_at hl 2 rfl) ?_
    refine ms_fWorth X hK hG hS (by omega) dX1_lay_29 (fun H locs hG hS => ?_)
    rw [mU_mP (l' := [(57, upI (S.2 57) (S.1 56) w), (58, upI (S.2 58) (S.1 56) v)]) rfl rfl] at hG
    refine lv_aload_n X.1 X.2.1 dX1_lay_30 rfl (lv_at hl 0 rfl) ?_
    refine mg_fMark X hK hG dX1_lay_31 ?_
    refine lv_aload_n X.1 X.2.1 dX1_lay_34 rfl (lv_at hl 0 rfl) ?_
    refine mg_fresh X hK hG (S.1 56) rfl dX1_lay_35 ?_
    refine lv_iload X.1 X.2.1 dX1_lay_38 (lv_at hl 3 rfl) ?_
    refine ms_fMark X hK hG hS (by omega) dX1_lay_40 (fun H locs hG hS => ?_)
    rw [mU_mP (l' := [(57, upI (S.2 57) (S.1 56) w), (58, upI (S.2 58) (S.1 56) v), (59, upI (S.2 59) (S.1 56) mk)]) rfl rfl] at hG
    refine lv_aload_n X.1 X.2.1 dX1_lay_41 rfl (lv_at hl 0 rfl) ?_
    refine mg_fFrom X hK hG dX1_lay_42 ?_
    refine lv_aload_n X.1 X.2.1 dX1_lay_45 rfl (lv_at hl 0 rfl) ?_
    refine mg_fresh X hK hG (S.1 56) rfl dX1_lay_46 ?_
    refine lv_iload X.1 X.2.1 dX1_lay_49 (lv_at hl 4 rfl) ?_
    refine ms_fFrom X hK hG hS (by omega) dX1_lay_51 (fun H locs hG hS => ?_)
    rw [mU_mP (l' := [(57, upI (S.2 57) (S.1 56) w), (58, upI (S.2 58) (S.1 56) v), (59, upI (S.2 59) (S.1 56) mk), (60, upI (S.2 60) (S.1 56) fr)]) rfl rfl] at hG
    refine lv_aload_n X.1 X.2.1 dX1_lay_52 rfl (lv_at hl 0 rfl) ?_
    refine mg_fMaker X hK hG dX1_lay_53 ?_
    refine lv_aload_n X.1 X.2.1 dX1_lay_56 rfl (lv_at hl 0 rfl) ?_
    refine mg_fresh X hK hG (S.1 56) rfl dX1_lay_57 ?_
    refine lv_iload X.1 X.2.1 dX1_lay_60 (lv_at hl 5 rfl) ?_
    refine ms_fMaker X hK hG hS (by omega) dX1_lay_62 (fun H locs hG hS => ?_)
    rw [mU_mP (l' := [(57, upI (S.2 57) (S.1 56) w), (58, upI (S.2 58) (S.1 56) v), (59, upI (S.2 59) (S.1 56) mk), (60, upI (S.2 60) (S.1 56) fr), (61, upI (S.2 61) (S.1 56) by2)]) rfl rfl] at hG
    refine lv_aload_n X.1 X.2.1 dX1_lay_63 rfl (lv_at hl 0 rfl) ?_
    refine mg_fRoom X hK hG dX1_lay_64 ?_
    refine lv_aload_n X.1 X.2.1 dX1_lay_67 rfl (lv_at hl 0 rfl) ?_
    refine mg_fresh X hK hG (S.1 56) rfl dX1_lay_68 ?_
    refine lv_iload X.1 X.2.1 dX1_lay_71 (lv_at hl 6 rfl) ?_
    refine ms_fRoom X hK hG hS (by omega) dX1_lay_73 (fun H locs hG hS => ?_)
    rw [mU_mP (l' := [(57, upI (S.2 57) (S.1 56) w), (58, upI (S.2 58) (S.1 56) v), (59, upI (S.2 59) (S.1 56) mk), (60, upI (S.2 60) (S.1 56) fr), (61, upI (S.2 61) (S.1 56) by2), (62, upI (S.2 62) (S.1 56) rm)]) rfl rfl] at hG
    refine lv_aload_n X.1 X.2.1 dX1_lay_74 rfl (lv_at hl 0 rfl) ?_
    refine mg_fParts X hK hG dX1_lay_75 ?_
    refine lv_aload_n X.1 X.2.1 dX1_lay_78 rfl (lv_at hl 0 rfl) ?_
    refine mg_fresh X hK hG (S.1 56) rfl dX1_lay_79 ?_
    refine lv_iload X.1 X.2.1 dX1_lay_82 (lv_at hl 7 rfl) ?_
    refine ms_fParts X hK hG hS (by omega) dX1_lay_84 (fun H locs hG hS => ?_)
    rw [mU_mP (l' := [(57, upI (S.2 57) (S.1 56) w), (58, upI (S.2 58) (S.1 56) v), (59, upI (S.2 59) (S.1 56) mk), (60, upI (S.2 60) (S.1 56) fr), (61, upI (S.2 61) (S.1 56) by2), (62, upI (S.2 62) (S.1 56) rm), (63, upI (S.2 63) (S.1 56) pt)]) rfl rfl] at hG
    refine lv_aload_n X.1 X.2.1 dX1_lay_85 rfl (lv_at hl 0 rfl) ?_
    refine lv_dup X.1 X.2.1 dX1_lay_86 rfl ?_
    refine mg_fresh X hK hG (S.1 56) rfl dX1_lay_87 ?_
    refine lv_iconst (v := iI (1)) X.1 X.2.1 dX1_lay_90 rfl ?_
    refine i_add X dX1_lay_91 ?_
    refine mp_fresh X hK hG hS dX1_lay_92 (fun H locs hG hS => ?_)
    rw [mS_mP (sc' := [(56, (S.1 56) + 1)]) rfl] at hG
    refine ret _ _ _ _ _ ?_ hG hS dX1_lay_95
    unfold upL
    simp only [if_pos (show S.1 56 < 500 from c7)]

set_option maxHeartbeats 4000000 in
theorem mm_layCopies (l : Launch) (D : va_G) (ca : Nat → ClassId) (o lv : Nat) (S : MSt) (a : Int) (b : Int) (hlv : 1 ≤ lv) (ha : 0 ≤ a ∧ a ≤ b ∧ b ≤ 500) (hfr : 0 ≤ S.1 56 ∧ S.1 56 ≤ 900000) (hrm : ∀ i, a ≤ i → i < b → 0 ≤ S.2 46 i ∧ S.2 46 i ≤ 500) : mCi l yX1_layCopies cX1_layCopies 6 .int D ca o lv [.ref o, .int (iI (a)), .int (iI (b))] S (fun r S' => r = sdN (S.2 46) (b - a).toNat a a ∧ ∃ f57 f58 f59 f60 f61 f62 f63 : Int → Int, S' = mP S [(57, f57), (58, f58), (59, f59), (60, f60), (61, f61), (62, f62), (63, f63)] [(56, S.1 56 + (b - a))] ∧ ∀ j, f57 j = (if S.1 56 ≤ j ∧ j < S.1 56 + (b - a) ∧ j < 500 then S.2 41 (a + (j - S.1 56)) else S.2 57 j) ∧ f58 j = (if S.1 56 ≤ j ∧ j < S.1 56 + (b - a) ∧ j < 500 then S.2 42 (a + (j - S.1 56)) else S.2 58 j) ∧ f59 j = (if S.1 56 ≤ j ∧ j < S.1 56 + (b - a) ∧ j < 500 then S.2 43 (a + (j - S.1 56)) else S.2 59 j) ∧ f60 j = (if S.1 56 ≤ j ∧ j < S.1 56 + (b - a) ∧ j < 500 then S.2 44 (a + (j - S.1 56)) else S.2 60 j) ∧ f61 j = (if S.1 56 ≤ j ∧ j < S.1 56 + (b - a) ∧ j < 500 then S.2 45 (a + (j - S.1 56)) else S.2 61 j) ∧ f62 j = (if S.1 56 ≤ j ∧ j < S.1 56 + (b - a) ∧ j < 500 then S.2 46 (a + (j - S.1 56)) else S.2 62 j) ∧ f63 j = (if S.1 56 ≤ j ∧ j < S.1 56 + (b - a) ∧ j < 500 then S.2 47 (a + (j - S.1 56)) else S.2 63 j)) := by
  refine mCi_of (by decide +kernel) rfl (Nat.le_of_ble_eq_true rfl) ?_
  intro p e s m args below meth c Q X hK ret H locs ls hG hS hl
  have hl : lv_has ls 6 [(0, .ref o), (1, .int (iI (a))), (2, .int (iI (b)))] := hl
  refine lv_iconst (v := iI (0)) X.1 X.2.1 dX1_layCopies_0 rfl ?_
  refine lv_istore_n (lv' := [(3, .int (iI (0))), (0, .ref o), (1, .int (iI (a))), (2, .int (iI (b)))]) X.1 X.2.1 dX1_layCopies_1 rfl hl (by decide) rfl (fun ls hl => ?_)
  refine lv_iload_n X.1 X.2.1 dX1_layCopies_2 rfl (lv_at hl 2 rfl) ?_
  refine lv_istore (lv' := [(4, .int (iI (a))), (3, .int (iI (0))), (0, .ref o), (1, .int (iI (a))), (2, .int (iI (b)))]) X.1 X.2.1 dX1_layCopies_3 hl (by decide) rfl (fun ls hl => ?_)
  refine lv_iload_n X.1 X.2.1 dX1_layCopies_5 rfl (lv_at hl 3 rfl) ?_
  refine lv_istore (lv' := [(5, .int (iI (a))), (4, .int (iI (a))), (3, .int (iI (0))), (0, .ref o), (1, .int (iI (a))), (2, .int (iI (b)))]) X.1 X.2.1 dX1_layCopies_6 hl (by decide) rfl (fun ls hl => ?_)
  have hf0 : ∀ j, S.2 57 j = (if S.1 56 ≤ j ∧ j < S.1 56 + (a - a) ∧ j < 500 then S.2 41 (a + (j - S.1 56)) else S.2 57 j) ∧ S.2 58 j = (if S.1 56 ≤ j ∧ j < S.1 56 + (a - a) ∧ j < 500 then S.2 42 (a + (j - S.1 56)) else S.2 58 j) ∧ S.2 59 j = (if S.1 56 ≤ j ∧ j < S.1 56 + (a - a) ∧ j < 500 then S.2 43 (a + (j - S.1 56)) else S.2 59 j) ∧ S.2 60 j = (if S.1 56 ≤ j ∧ j < S.1 56 + (a - a) ∧ j < 500 then S.2 44 (a + (j - S.1 56)) else S.2 60 j) ∧ S.2 61 j = (if S.1 56 ≤ j ∧ j < S.1 56 + (a - a) ∧ j < 500 then S.2 45 (a + (j - S.1 56)) else S.2 61 j) ∧ S.2 62 j = (if S.1 56 ≤ j ∧ j < S.1 56 + (a - a) ∧ j < 500 then S.2 46 (a + (j - S.1 56)) else S.2 62 j) ∧ S.2 63 j = (if S.1 56 ≤ j ∧ j < S.1 56 + (a - a) ∧ j < 500 then S.2 47 (a + (j - S.1 56)) else S.2 63 j) := by
    intro j
    simp only [if_neg (show ¬ (S.1 56 ≤ j ∧ j < S.1 56 + (a - a) ∧ j < 500) by omega), and_self]
  have hG : gOk D (mA o) (mH ca o (mP S [] [])) H := hG
  rw [mP_add (k := 57) (f := S.2 57) (l' := [(57, S.2 57)]) rfl rfl , mP_add (k := 58) (f := S.2 58) (l' := [(57, S.2 57), (58, S.2 58)]) rfl rfl , mP_add (k := 59) (f := S.2 59) (l' := [(57, S.2 57), (58, S.2 58), (59, S.2 59)]) rfl rfl , mP_add (k := 60) (f := S.2 60) (l' := [(57, S.2 57), (58, S.2 58), (59, S.2 59), (60, S.2 60)]) rfl rfl , mP_add (k := 61) (f := S.2 61) (l' := [(57, S.2 57), (58, S.2 58), (59, S.2 59), (60, S.2 60), (61, S.2 61)]) rfl rfl , mP_add (k := 62) (f := S.2 62) (l' := [(57, S.2 57), (58, S.2 58), (59, S.2 59), (60, S.2 60), (61, S.2 61), (62, S.2 62)]) rfl rfl , mP_add (k := 63) (f := S.2 63) (l' := [(57, S.2 57), (58, S.2 58), (59, S.2 59), (60, S.2 60), (61, S.2 61), (62, S.2 62), (63, S.2 63)]) rfl rfl, mP_addc (k := 56) (z := S.1 56) (sc' := [(56, S.1 56)]) rfl rfl] at hG
  have L8 : ∀ (N8 : Nat) (n x k fr : Int) (f57 f58 f59 f60 f61 f62 f63 : Int → Int), (a ≤ k ∧ k ≤ b) → (fr = S.1 56 + (k - a)) → (n + sdN (S.2 46) (b - k).toNat k x = sdN (S.2 46) (b - a).toNat a a) → (0 ≤ n ∧ n ≤ k - a) → (0 ≤ x ∧ x ≤ 1000) → (∀ j, f57 j = (if S.1 56 ≤ j ∧ j < S.1 56 + (k - a) ∧ j < 500 then S.2 41 (a + (j - S.1 56)) else S.2 57 j) ∧ f58 j = (if S.1 56 ≤ j ∧ j < S.1 56 + (k - a) ∧ j < 500 then S.2 42 (a + (j - S.1 56)) else S.2 58 j) ∧ f59 j = (if S.1 56 ≤ j ∧ j < S.1 56 + (k - a) ∧ j < 500 then S.2 43 (a + (j - S.1 56)) else S.2 59 j) ∧ f60 j = (if S.1 56 ≤ j ∧ j < S.1 56 + (k - a) ∧ j < 500 then S.2 44 (a + (j - S.1 56)) else S.2 60 j) ∧ f61 j = (if S.1 56 ≤ j ∧ j < S.1 56 + (k - a) ∧ j < 500 then S.2 45 (a + (j - S.1 56)) else S.2 61 j) ∧ f62 j = (if S.1 56 ≤ j ∧ j < S.1 56 + (k - a) ∧ j < 500 then S.2 46 (a + (j - S.1 56)) else S.2 62 j) ∧ f63 j = (if S.1 56 ≤ j ∧ j < S.1 56 + (k - a) ∧ j < 500 then S.2 47 (a + (j - S.1 56)) else S.2 63 j)) → (b - k).toNat < N8 → ∀ (H : Heap) (locs : List Loc) (ls : Array Slot), gOk D (mA o) (mH ca o (mP S [(57, f57), (58, f58), (59, f59), (60, f60), (61, f61), (62, f62), (63, f63)] [(56, fr)])) H → va_S (mA o) s.heap H locs → lv_has ls 6 [(0, .ref o), (1, .int (iI (a))), (2, .int (iI (b))), (3, .int (iI (n))), (4, .int (iI (x))), (5, .int (iI (k)))] → W p l e (mR lv) s m args below meth c H locs 0 0 Q (F0 m 8 ls []) := by
    intro N8
    induction N8 with
    | zero => intro n x k fr f57 f58 f59 f60 f61 f62 f63 hk hfk hn hnr hx hf hN; exact absurd hN (Nat.not_lt_zero _)
    | succ N8 ih8 =>
      intro n x k fr f57 f58 f59 f60 f61 f62 f63 hk hfk hn hnr hx hf hN8 H locs ls hG hS hl
      refine lv_iload X.1 X.2.1 dX1_layCopies_8 (lv_at hl 5 rfl) ?_
      refine lv_iload_n X.1 X.2.1 dX1_layCopies_10 rfl (lv_at hl 2 rfl) ?_
      refine i_icmp_ge X 112 dX1_layCopies_11 (by decide) (by omega) (by omega) (fun c11 => ?_) (fun c11 => ?_)
      · refine lv_iload_n X.1 X.2.1 dX1_layCopies_112 rfl (lv_at hl 3 rfl) ?_
        refine ret _ _ _ _ _ _ ?_ (rfl) hG hS dX1_layCopies_113
        have hkb : k = b := by omega
        subst hkb
        refine ⟨?_, f57, f58, f59, f60, f61, f62, f63, by rw [hfk], hf⟩
        rw [← hn, show (k - k).toNat = 0 by omega]
        show n = n + 0
        omega
      · have hrk := hrm k (by omega) (by omega)
        have K27 : ∀ (z : Int), (z = if k = x then 1 else 0) → ∀ (H : Heap) (locs : List Loc) (ls : Array Slot), gOk D (mA o) (mH ca o (mP S [(57, f57), (58, f58), (59, f59), (60, f60), (61, f61), (62, f62), (63, f63)] [(56, fr)])) H → va_S (mA o) s.heap H locs → lv_has ls 6 [(0, .ref o), (1, .int (iI (a))), (2, .int (iI (b))), (4, .int (iI (x))), (5, .int (iI (k)))] → W p l e (mR lv) s m args below meth c H locs 0 0 Q (F0 m 27 ls [.int (iI (z)), .int (iI (n))]) := by
          intro z hz H locs ls hG hS hl
          refine i_add X dX1_layCopies_27 ?_
          refine lv_istore_n (lv' := [(3, .int (iI (n + z))), (0, .ref o), (1, .int (iI (a))), (2, .int (iI (b))), (4, .int (iI (x))), (5, .int (iI (k)))]) X.1 X.2.1 dX1_layCopies_28 rfl hl (by decide) rfl (fun ls hl => ?_)
          have K51 : ∀ (x2 : Int), (x2 = if k = x then k + S.2 46 k else x) → ∀ (H : Heap) (locs : List Loc) (ls : Array Slot), gOk D (mA o) (mH ca o (mP S [(57, f57), (58, f58), (59, f59), (60, f60), (61, f61), (62, f62), (63, f63)] [(56, fr)])) H → va_S (mA o) s.heap H locs → lv_has ls 6 [(0, .ref o), (1, .int (iI (a))), (2, .int (iI (b))), (3, .int (iI (n + z))), (5, .int (iI (k)))] → W p l e (mR lv) s m args below meth c H locs 0 0 Q (F0 m 51 ls [.int (iI (x2))]) := by
            intro x2 hx2 H locs ls hG hS hl
            refine lv_istore (lv' := [(4, .int (iI (x2))), (0, .ref o), (1, .int (iI (a))), (2, .int (iI (b))), (3, .int (iI (n + z))), (5, .int (iI (k)))]) X.1 X.2.1 dX1_layCopies_51 hl (by decide) rfl (fun ls hl => ?_)
            refine lv_aload_n X.1 X.2.1 dX1_layCopies_53 rfl (lv_at hl 1 rfl) ?_
            refine lv_aload_n X.1 X.2.1 dX1_layCopies_54 rfl (lv_at hl 1 rfl) ?_
            refine mg_what X hK hG dX1_layCopies_55 ?_
            refine lv_iload X.1 X.2.1 dX1_layCopies_58 (lv_at hl 5 rfl) ?_
            refine ml_what X hK hG (S.2 41) rfl (by omega) dX1_layCopies_60 ?_
            refine lv_aload_n X.1 X.2.1 dX1_layCopies_61 rfl (lv_at hl 1 rfl) ?_
            refine mg_worthOf X hK hG dX1_layCopies_62 ?_
            refine lv_iload X.1 X.2.1 dX1_layCopies_65 (lv_at hl 5 rfl) ?_
            refine ml_worthOf X hK hG (S.2 42) rfl (by omega) dX1_layCopies_67 ?_
            refine lv_aload_n X.1 X.2.1 dX1_layCopies_68 rfl (lv_at hl 1 rfl) ?_
            refine mg_mark X hK hG dX1_layCopies_69 ?_
            refine lv_iload X.1 X.2.1 dX1_layCopies_72 (lv_at hl 5 rfl) ?_
            refine ml_mark X hK hG (S.2 43) rfl (by omega) dX1_layCopies_74 ?_
            refine lv_aload_n X.1 X.2.1 dX1_layCopies_75 rfl (lv_at hl 1 rfl) ?_
            refine mg_from X hK hG dX1_layCopies_76 ?_
            refine lv_iload X.1 X.2.1 dX1_layCopies_79 (lv_at hl 5 rfl) ?_
            refine ml_from X hK hG (S.2 44) rfl (by omega) dX1_layCopies_81 ?_
            refine lv_aload_n X.1 X.2.1 dX1_layCopies_82 rfl (lv_at hl 1 rfl) ?_
            refine mg_maker X hK hG dX1_layCopies_83 ?_
            refine lv_iload X.1 X.2.1 dX1_layCopies_86 (lv_at hl 5 rfl) ?_
            refine ml_maker X hK hG (S.2 45) rfl (by omega) dX1_layCopies_88 ?_
            refine lv_aload_n X.1 X.2.1 dX1_layCopies_89 rfl (lv_at hl 1 rfl) ?_
            refine mg_room X hK hG dX1_layCopies_90 ?_
            refine lv_iload X.1 X.2.1 dX1_layCopies_93 (lv_at hl 5 rfl) ?_
            refine ml_room X hK hG (S.2 46) rfl (by omega) dX1_layCopies_95 ?_
            refine lv_aload_n X.1 X.2.1 dX1_layCopies_96 rfl (lv_at hl 1 rfl) ?_
            refine mg_parts X hK hG dX1_layCopies_97 ?_
            refine lv_iload X.1 X.2.1 dX1_layCopies_100 (lv_at hl 5 rfl) ?_
            refine ml_parts X hK hG (S.2 47) rfl (by omega) dX1_layCopies_102 ?_
            refine m_callVv (rest := []) (n := 7) X hK hG hS (fun _ h => h) (mm_lay l D ca o (lv - 1) (mP S [(57, f57), (58, f58), (59, f59), (60, f60), (61, f61), (62, f62), (63, f63)] [(56, fr)]) (S.2 41 k) (S.2 42 k) (S.2 43 k) (S.2 44 k) (S.2 45 k) (S.2 46 k) (S.2 47 k) (show 0 ≤ fr ∧ fr ≤ 1000000 by omega)) (lw_V q1616 q1618 qs58 q70 q1619) (by decide +kernel) rfl ⟨by show (lv - 1) + 1 ≤ lv; omega, by show 8 + (9 + 11) + 40 * (lv - 1) ≤ 40 * lv; omega⟩ ⟨Nat.le_refl _, Nat.le_refl _⟩ hl.1 rfl (Nat.le_of_ble_eq_true rfl) dX1_layCopies_103 (fun S1 H locs hp1 hG hS _ _ => ?_)
            obtain rfl := hp1
            rw [mP_mP (l' := [(57, upL f57 fr (S.2 41 k)), (58, upL f58 fr (S.2 42 k)), (59, upL f59 fr (S.2 43 k)), (60, upL f60 fr (S.2 44 k)), (61, upL f61 fr (S.2 45 k)), (62, upL f62 fr (S.2 46 k)), (63, upL f63 fr (S.2 47 k))]) (sc' := [(56, fr + 1)]) rfl rfl] at hG
            refine i_inc (lv' := [(5, .int (iI (k + 1))), (4, .int (iI (x2))), (0, .ref o), (1, .int (iI (a))), (2, .int (iI (b))), (3, .int (iI (n + z)))]) X dX1_layCopies_106 hl (k := 5) rfl (by decide) rfl (fun ls hl => ?_)
            refine lv_goto (tgt := 8) X.1 X.2.1 dX1_layCopies_109 (by decide) ?_
            have hn2 : n + z + sdN (S.2 46) (b - (k + 1)).toNat (k + 1) x2 = sdN (S.2 46) (b - a).toNat a a := by
              rw [← hn, show (b - k).toNat = (b - (k + 1)).toNat + 1 by omega]
              show _ = n + (if k = x then 1 + sdN (S.2 46) (b - (k + 1)).toNat (k + 1) (k + S.2 46 k) else sdN (S.2 46) (b - (k + 1)).toNat (k + 1) x)
              rw [hz, hx2]
              split <;> omega
            have hf2 : ∀ j, (upL f57 fr (S.2 41 k)) j = (if S.1 56 ≤ j ∧ j < S.1 56 + (k + 1 - a) ∧ j < 500 then S.2 41 (a + (j - S.1 56)) else S.2 57 j) ∧ (upL f58 fr (S.2 42 k)) j = (if S.1 56 ≤ j ∧ j < S.1 56 + (k + 1 - a) ∧ j < 500 then S.2 42 (a + (j - S.1 56)) else S.2 58 j) ∧ (upL f59 fr (S.2 43 k)) j = (if S.1 56 ≤ j ∧ j < S.1 56 + (k + 1 - a) ∧ j < 500 then S.2 43 (a + (j - S.1 56)) else S.2 59 j) ∧ (upL f60 fr (S.2 44 k)) j = (if S.1 56 ≤ j ∧ j < S.1 56 + (k + 1 - a) ∧ j < 500 then S.2 44 (a + (j - S.1 56)) else S.2 60 j) ∧ (upL f61 fr (S.2 45 k)) j = (if S.1 56 ≤ j ∧ j < S.1 56 + (k + 1 - a) ∧ j < 500 then S.2 45 (a + (j - S.1 56)) else S.2 61 j) ∧ (upL f62 fr (S.2 46 k)) j = (if S.1 56 ≤ j ∧ j < S.1 56 + (k + 1 - a) ∧ j < 500 then S.2 46 (a + (j - S.1 56)) else S.2 62 j) ∧ (upL f63 fr (S.2 47 k)) j = (if S.1 56 ≤ j ∧ j < S.1 56 + (k + 1 - a) ∧ j < 500 then S.2 47 (a + (j - S.1 56)) else S.2 63 j) := by
              intro j
              obtain ⟨g0, g1, g2, g3, g4, g5, g6⟩ := hf j
              unfold upL
              by_cases h5 : fr < 500
              · simp only [if_pos h5]
                by_cases hj : j = fr
                · subst hj
                  simp only [upI_s, if_pos (show S.1 56 ≤ j ∧ j < S.1 56 + (k + 1 - a) ∧ j < 500 by omega), show a + (j - S.1 56) = k by omega, and_self]
                · simp only [upI_n hj, g0, g1, g2, g3, g4, g5, g6]
                  by_cases hc : S.1 56 ≤ j ∧ j < S.1 56 + (k - a) ∧ j < 500
                  · simp only [if_pos hc, if_pos (show S.1 56 ≤ j ∧ j < S.1 56 + (k + 1 - a) ∧ j < 500 by omega), and_self]
                  · simp only [if_neg hc, if_neg (show ¬ (S.1 56 ≤ j ∧ j < S.1 56 + (k + 1 - a) ∧ j < 500) by omega), and_self]
              · simp only [if_neg h5, g0, g1, g2, g3, g4, g5, g6]
                by_cases hc : S.1 56 ≤ j ∧ j < S.1 56 + (k - a) ∧ j < 500
                · simp only [if_pos hc, if_pos (show S.1 56 ≤ j ∧ j < S.1 56 + (k + 1 - a) ∧ j < 500 by omega), and_self]
                · simp only [if_neg hc, if_neg (show ¬ (S.1 56 ≤ j ∧ j < S.1 56 + (k + 1 - a) ∧ j < 500) by omega), and_self]
            exact ih8 (n + z) x2 (k + 1) (fr + 1) (upL f57 fr (S.2 41 k)) (upL f58 fr (S.2 42 k)) (upL f59 fr (S.2 43 k)) (upL f60 fr (S.2 44 k)) (upL f61 fr (S.2 45 k)) (upL f62 fr (S.2 46 k)) (upL f63 fr (S.2 47 k)) (by omega) (by omega) hn2 (by rw [hz]; split <;> omega) (by rw [hx2]; split <;> omega) hf2 (by omega) H locs ls hG hS (lv_sub hl [2, 3, 4, 5, 1, 0] rfl)
          refine lv_iload X.1 X.2.1 dX1_layCopies_29 (lv_at hl 5 rfl) ?_
          refine lv_iload X.1 X.2.1 dX1_layCopies_31 (lv_at hl 4 rfl) ?_
          refine i_icmp_ne X 49 dX1_layCopies_33 (by decide) (by omega) (by omega) (fun c33 => ?_) (fun c33 => ?_)
          · refine lv_iload X.1 X.2.1 dX1_layCopies_49 (lv_at hl 4 rfl) ?_
            exact K51 x (by first | rw [if_pos (by omega)] | rw [if_neg (by omega)]) H locs ls hG hS (lv_sub hl [1, 2, 3, 0, 5] rfl)
          · refine lv_iload X.1 X.2.1 dX1_layCopies_36 (lv_at hl 5 rfl) ?_
            refine lv_aload_n X.1 X.2.1 dX1_layCopies_38 rfl (lv_at hl 1 rfl) ?_
            refine mg_room X hK hG dX1_layCopies_39 ?_
            refine lv_iload X.1 X.2.1 dX1_layCopies_42 (lv_at hl 5 rfl) ?_
            refine ml_room X hK hG (S.2 46) rfl (by omega) dX1_layCopies_44 ?_
            refine i_add X dX1_layCopies_45 ?_
            refine lv_goto (tgt := 51) X.1 X.2.1 dX1_layCopies_46 (by decide) ?_
            exact K51 (k + (S.2 46 k)) (by first | rw [if_pos (by omega)] | rw [if_neg (by omega)]) H locs ls hG hS (lv_sub hl [1, 2, 3, 0, 5] rfl)
        refine lv_iload_n X.1 X.2.1 dX1_layCopies_14 rfl (lv_at hl 3 rfl) ?_
        refine lv_iload X.1 X.2.1 dX1_layCopies_15 (lv_at hl 5 rfl) ?_
        refine lv_iload X.1 X.2.1 dX1_layCopies_17 (lv_at hl 4 rfl) ?_
        refine i_icmp_ne X 26 dX1_layCopies_19 (by decide) (by omega) (by omega) (fun c19 => ?_) (fun c19 => ?_)
        · refine lv_iconst (v := iI (0)) X.1 X.2.1 dX1_layCopies_26 rfl ?_
          exact K27 0 (by first | rw [if_pos (by omega)] | rw [if_neg (by omega)]) H locs ls hG hS (lv_sub hl [0, 1, 2, 4, 5] rfl)
        · refine lv_iconst (v := iI (1)) X.1 X.2.1 dX1_layCopies_22 rfl ?_
          refine lv_goto (tgt := 27) X.1 X.2.1 dX1_layCopies_23 (by decide) ?_
          exact K27 1 (by first | rw [if_pos (by omega)] | rw [if_neg (by omega)]) H locs ls hG hS (lv_sub hl [0, 1, 2, 4, 5] rfl)
  exact L8 _ 0 a a (S.1 56) (S.2 57) (S.2 58) (S.2 59) (S.2 60) (S.2 61) (S.2 62) (S.2 63) (by omega) (by omega) (by omega) (by omega) (by omega) hf0 (Nat.lt_succ_self _) H locs ls hG hS (lv_sub hl [3, 4, 5, 2, 1, 0] rfl)

set_option maxHeartbeats 4000000 in
theorem mm_pVariable (l : Launch) (D : va_G) (ca : Nat → ClassId) (o lv : Nat) (S : MSt) (ru : Int) (v : Int) (hP : MP S) (hr : 0 ≤ ru ∧ ru < S.1 29) (hv : lR v) : mCi l yX1_pVariable cX1_pVariable 5 .int D ca o lv [.ref o, .int (iI (ru)), .long (lI (v))] S (fun r S' => r = spVar S ru v ∧ S' = S) := by
  refine mCi_of (by decide +kernel) rfl (Nat.le_of_ble_eq_true rfl) ?_
  intro p e s m args below meth c Q X hK ret H locs ls hG hS hl
  have hl : lv_has ls 5 [(0, .ref o), (1, .int (iI (ru))), (2, .long (lI (v)))] := hl
  have hm := hP.1
  obtain ⟨hR0, hR1, hR2, hR3, hR4, hR5, hR6, hR7, hR8⟩ := hP.2 ru hr.1 hr.2
  refine lv_aload_n X.1 X.2.1 dX1_pVariable_0 rfl (lv_at hl 0 rfl) ?_
  refine mg_patterns X hK hG dX1_pVariable_1 ?_
  refine lv_iload_n X.1 X.2.1 dX1_pVariable_4 rfl (lv_at hl 1 rfl) ?_
  refine ml_patterns X hK hG (S.2 32) rfl (by omega) dX1_pVariable_5 ?_
  refine i_top (fun P e_P => ?_)
  refine lv_istore (lv' := [(4, .int (iI (P))), (0, .ref o), (1, .int (iI (ru))), (2, .long (lI (v)))]) X.1 X.2.1 dX1_pVariable_6 hl (by decide) rfl (fun ls hl => ?_)
  obtain ⟨Z, eZ⟩ : ∃ Z, Z = spVar S ru v := ⟨_, rfl⟩
  have L8 : ∀ (N8 : Nat) (q : Int), (S.2 32 ru ≤ q ∧ q ≤ S.2 33 ru) → (spVarF S v (S.2 33 ru - q).toNat q = Z) → (S.2 33 ru - q).toNat < N8 → ∀ (H : Heap) (locs : List Loc) (ls : Array Slot), gOk D (mA o) (mH ca o S) H → va_S (mA o) s.heap H locs → lv_has ls 5 [(0, .ref o), (1, .int (iI (ru))), (2, .long (lI (v))), (4, .int (iI (q)))] → W p l e (mR lv) s m args below meth c H locs 0 0 Q (F0 m 8 ls []) := by
    intro N8
    induction N8 with
    | zero => intro q hq he hN; exact absurd hN (Nat.not_lt_zero _)
    | succ N8 ih8 =>
      intro q hq he hN8 H locs ls hG hS hl
      refine lv_iload X.1 X.2.1 dX1_pVariable_8 (lv_at hl 3 rfl) ?_
      refine lv_aload_n X.1 X.2.1 dX1_pVariable_10 rfl (lv_at hl 0 rfl) ?_
      refine mg_template X hK hG dX1_pVariable_11 ?_
      refine lv_iload_n X.1 X.2.1 dX1_pVariable_14 rfl (lv_at hl 1 rfl) ?_
      refine ml_template X hK hG (S.2 33) rfl (by omega) dX1_pVariable_15 ?_
      refine i_icmp_ge X 64 dX1_pVariable_16 (by decide) (by omega) (by omega) (fun c16 => ?_) (fun c16 => ?_)
      · refine lv_bipush (v := iI (-9)) X.1 X.2.1 dX1_pVariable_64 (by decide) ?_
        refine ret _ _ _ _ _ _ ?_ (rfl) hG hS dX1_pVariable_66
        refine ⟨?_, rfl⟩
        rw [← eZ, ← he, show (S.2 33 ru - q).toNat = 0 by omega]
        rfl
      · have hq := hR7 q (by omega) (by omega)
        have hq1 := hq.1
        have hq2 := hq.2.2.2.2.2.1
        rw [show (S.2 33 ru - q).toNat = (S.2 33 ru - (q + 1)).toNat + 1 by omega] at he
        unfold spVarF at he
        refine lv_aload_n X.1 X.2.1 dX1_pVariable_19 rfl (lv_at hl 0 rfl) ?_
        refine mg_pKind X hK hG dX1_pVariable_20 ?_
        refine lv_iload X.1 X.2.1 dX1_pVariable_23 (lv_at hl 3 rfl) ?_
        refine ml_pKind X hK hG (S.2 34) rfl (by omega) dX1_pVariable_25 ?_
        refine lv_bipush (v := iI (6)) X.1 X.2.1 dX1_pVariable_26 (by decide) ?_
        refine i_icmp_eq X 43 dX1_pVariable_28 (by decide) (by omega) (by omega) (fun c28 => ?_) (fun c28 => ?_)
        · refine lv_aload_n X.1 X.2.1 dX1_pVariable_43 rfl (lv_at hl 0 rfl) ?_
          refine mg_pValue X hK hG dX1_pVariable_44 ?_
          refine lv_iload X.1 X.2.1 dX1_pVariable_47 (lv_at hl 3 rfl) ?_
          refine ml_pValue X hK hG (S.2 35) rfl (by omega) dX1_pVariable_49 ?_
          refine lv_lload_n X.1 X.2.1 dX1_pVariable_50 rfl (lv_at hl 2 rfl) ?_
          refine i_lcmp_ne X 58 dX1_pVariable_51 dX1_pVariable_52 (by decide) (by omega) (by omega) (fun c51 => ?_) (fun c51 => ?_)
          · refine i_inc (lv' := [(4, .int (iI (q + 1))), (0, .ref o), (1, .int (iI (ru))), (2, .long (lI (v)))]) X dX1_pVariable_58 hl (k := 3) rfl (by decide) rfl (fun ls hl => ?_)
            refine lv_goto (tgt := 8) X.1 X.2.1 dX1_pVariable_61 (by decide) ?_
            exact ih8 (q + 1) (by omega) (by rw [if_neg (by omega)] at he; exact he) (by omega) H locs ls hG hS (lv_sub hl [1, 2, 3, 0] rfl)
          · refine lv_iload X.1 X.2.1 dX1_pVariable_55 (lv_at hl 3 rfl) ?_
            refine ret _ _ _ _ _ _ ?_ (rfl) hG hS dX1_pVariable_57
            exact ⟨by rw [← eZ, ← he, if_pos (by omega)], rfl⟩
        · refine lv_aload_n X.1 X.2.1 dX1_pVariable_31 rfl (lv_at hl 0 rfl) ?_
          refine mg_pKind X hK hG dX1_pVariable_32 ?_
          refine lv_iload X.1 X.2.1 dX1_pVariable_35 (lv_at hl 3 rfl) ?_
          refine ml_pKind X hK hG (S.2 34) rfl (by omega) dX1_pVariable_37 ?_
          refine lv_bipush (v := iI (7)) X.1 X.2.1 dX1_pVariable_38 (by decide) ?_
          refine i_icmp_ne X 58 dX1_pVariable_40 (by decide) (by omega) (by omega) (fun c40 => ?_) (fun c40 => ?_)
          · refine i_inc (lv' := [(4, .int (iI (q + 1))), (0, .ref o), (1, .int (iI (ru))), (2, .long (lI (v)))]) X dX1_pVariable_58 hl (k := 3) rfl (by decide) rfl (fun ls hl => ?_)
            refine lv_goto (tgt := 8) X.1 X.2.1 dX1_pVariable_61 (by decide) ?_
            exact ih8 (q + 1) (by omega) (by rw [if_neg (by omega)] at he; exact he) (by omega) H locs ls hG hS (lv_sub hl [1, 2, 3, 0] rfl)
          · refine lv_aload_n X.1 X.2.1 dX1_pVariable_43 rfl (lv_at hl 0 rfl) ?_
            refine mg_pValue X hK hG dX1_pVariable_44 ?_
            refine lv_iload X.1 X.2.1 dX1_pVariable_47 (lv_at hl 3 rfl) ?_
            refine ml_pValue X hK hG (S.2 35) rfl (by omega) dX1_pVariable_49 ?_
            refine lv_lload_n X.1 X.2.1 dX1_pVariable_50 rfl (lv_at hl 2 rfl) ?_
            refine i_lcmp_ne X 58 dX1_pVariable_51 dX1_pVariable_52 (by decide) (by omega) (by omega) (fun c51 => ?_) (fun c51 => ?_)
            · refine i_inc (lv' := [(4, .int (iI (q + 1))), (0, .ref o), (1, .int (iI (ru))), (2, .long (lI (v)))]) X dX1_pVariable_58 hl (k := 3) rfl (by decide) rfl (fun ls hl => ?_)
              refine lv_goto (tgt := 8) X.1 X.2.1 dX1_pVariable_61 (by decide) ?_
              exact ih8 (q + 1) (by omega) (by rw [if_neg (by omega)] at he; exact he) (by omega) H locs ls hG hS (lv_sub hl [1, 2, 3, 0] rfl)
            · refine lv_iload X.1 X.2.1 dX1_pVariable_55 (lv_at hl 3 rfl) ?_
              refine ret _ _ _ _ _ _ ?_ (rfl) hG hS dX1_pVariable_57
              exact ⟨by rw [← eZ, ← he, if_pos (by omega)], rfl⟩
  exact L8 _ P (by omega) (by rw [eZ, e_P]; rfl) (Nat.lt_succ_self _) H locs ls hG hS (lv_sub hl [1, 2, 3, 0] rfl)

set_option maxHeartbeats 4000000 in
theorem mm_endList (l : Launch) (D : va_G) (ca : Nat → ClassId) (o lv : Nat) (S : MSt) (a : Int) (hlv : 1 ≤ lv) (hfr : 0 ≤ S.1 56 ∧ S.1 56 ≤ 1000000) (ha : S.1 56 ≤ 500 → 0 ≤ a ∧ a < S.1 56 ∧ iR (S.2 63 a) ∧ (0 < S.2 63 a → a + 1 < 500 ∧ iR (S.2 57 (a + 1)) ∧ lR (S.2 58 (a + 1))) ∧ (1 < S.2 63 a → 1 ≤ S.2 62 (a + 1) ∧ a + 1 + S.2 62 (a + 1) < 500 ∧ iR (S.2 57 (a + 1 + S.2 62 (a + 1))))) : mCv l yX1_endList cX1_endList 4 D ca o lv [.ref o, .int (iI (a))] S (fun S' => (500 < S.1 56 ∧ S' = S) ∨ (S.1 56 ≤ 500 ∧ S' = mP S [(62, upI (S.2 62) a (S.1 56 - a)), (57, upI (S.2 57) a (spJ (S.2 63 a) (bI (decide (0 < S.2 63 a) && decide (S.2 57 (a + 1) = 1))) (if 0 < S.2 63 a ∧ S.2 57 (a + 1) = 1 then S.2 58 (a + 1) else 0) (bI (decide (1 < S.2 63 a) && decide (S.2 57 (a + 1 + S.2 62 (a + 1)) = 1)))))] [])) := by
  refine mCv_of (by decide +kernel) rfl (Nat.le_of_ble_eq_true rfl) ?_
  intro p e s m args below meth c Q X hK ret H locs ls hG hS hl
  have hl : lv_has ls 4 [(0, .ref o), (1, .int (iI (a)))] := hl
  refine lv_aload_n X.1 X.2.1 dX1_endList_0 rfl (lv_at hl 0 rfl) ?_
  refine mg_fresh X hK hG (S.1 56) rfl dX1_endList_1 ?_
  refine lv_sipush (v := iI (500)) X.1 X.2.1 dX1_endList_4 (by decide) ?_
  refine i_icmp_le X 11 dX1_endList_7 (by decide) (by omega) (by omega) (fun c7 => ?_) (fun c7 => ?_)
  · obtain ⟨hl1, hl2, hl3, hl4, hl5⟩ := ha c7
    refine lv_aload_n X.1 X.2.1 dX1_endList_11 rfl (lv_at hl 0 rfl) ?_
    refine mg_fRoom X hK hG dX1_endList_12 ?_
    refine lv_iload_n X.1 X.2.1 dX1_endList_15 rfl (lv_at hl 1 rfl) ?_
    refine lv_aload_n X.1 X.2.1 dX1_endList_16 rfl (lv_at hl 0 rfl) ?_
    refine mg_fresh X hK hG (S.1 56) rfl dX1_endList_17 ?_
    refine lv_iload_n X.1 X.2.1 dX1_endList_20 rfl (lv_at hl 1 rfl) ?_
    refine i_sub X dX1_endList_21 ?_
    have hG : gOk D (mA o) (mH ca o (mP S [] [])) H := hG
    refine ms_fRoom X hK hG hS (by omega) dX1_endList_22 (fun H locs hG hS => ?_)
    rw [mU_mP (l' := [(62, upI (S.2 62) a ((S.1 56) - a))]) rfl rfl] at hG
    have K50 : ∀ (b : Int), (b = bI (decide (0 < S.2 63 a) && decide (S.2 57 (a + 1) = 1))) → ∀ (H : Heap) (locs : List Loc) (ls : Array Slot), gOk D (mA o) (mH ca o (mP S [(62, upI (S.2 62) a (S.1 56 - a))] [])) H → va_S (mA o) s.heap H locs → lv_has ls 4 [(0, .ref o), (1, .int (iI (a))), (2, .int (iI (b)))] → W p l e (mR lv) s m args below meth c H locs 0 0 Q (F0 m 50 ls []) := by
      intro b hb H locs ls hG hS hl
      have K87 : ∀ (c2 : Int), (c2 = bI (decide (1 < S.2 63 a) && decide (S.2 57 (a + 1 + S.2 62 (a + 1)) = 1))) → ∀ (H : Heap) (locs : List Loc) (ls : Array Slot), gOk D (mA o) (mH ca o (mP S [(62, upI (S.2 62) a (S.1 56 - a))] [])) H → va_S (mA o) s.heap H locs → lv_has ls 4 [(0, .ref o), (1, .int (iI (a))), (2, .int (iI (b))), (3, .int (iI (c2)))] → W p l e (mR lv) s m args below meth c H locs 0 0 Q (F0 m 87 ls []) := by
        intro c2 hc H locs ls hG hS hl
        refine lv_aload_n X.1 X.2.1 dX1_endList_87 rfl (lv_at hl 0 rfl) ?_
        refine mg_fWhat X hK hG dX1_endList_88 ?_
        refine lv_iload_n X.1 X.2.1 dX1_endList_91 rfl (lv_at hl 1 rfl) ?_
        refine lv_aload_n X.1 X.2.1 dX1_endList_92 rfl (lv_at hl 0 rfl) ?_
        refine mg_fParts X hK hG dX1_endList_93 ?_
        refine lv_iload_n X.1 X.2.1 dX1_endList_96 rfl (lv_at hl 1 rfl) ?_
        refine ml_fParts X hK hG (S.2 63) rfl (by omega) dX1_endList_97 ?_
        refine lv_iload_n X.1 X.2.1 dX1_endList_98 rfl (lv_at hl 2 rfl) ?_
        have hb01 := bI_01 (decide (0 < S.2 63 a) && decide (S.2 57 (a + 1) = 1))
        rw [← hb] at hb01
        have K115 : ∀ (f : Int), (f = if 0 < S.2 63 a ∧ S.2 57 (a + 1) = 1 then S.2 58 (a + 1) else 0) → ∀ (H : Heap) (locs : List Loc) (ls : Array Slot), gOk D (mA o) (mH ca o (mP S [(62, upI (S.2 62) a (S.1 56 - a))] [])) H → va_S (mA o) s.heap H locs → lv_has ls 4 [(0, .ref o), (1, .int (iI (a))), (2, .int (iI (b))), (3, .int (iI (c2)))] → W p l e (mR lv) s m args below meth c H locs 0 0 Q (F0 m 115 ls [.long (lI (f)), .int (iI (b)), .int (iI (S.2 63 a)), .int (iI (a)), .ref (o + 39)]) := by
          intro f hf H locs ls hG hS hl
          refine lv_iload_n X.1 X.2.1 dX1_endList_115 rfl (lv_at hl 3 rfl) ?_
          refine m_callSp (rest := [.int (iI (a)), .ref (o + 39)]) (n := 4) X hK hG hS (fun _ h => h) (mm_judged l D ca o (lv - 1) (mP S [(62, upI (S.2 62) a (S.1 56 - a))] []) (S.2 63 a) b f c2 (by omega) (by rw [hb]; exact bI_01 _) (by rw [hf]; split <;> omega) (by rw [hc]; exact bI_01 _)) (lw_S q1517 q1518 q70 q1519) (by decide +kernel) rfl ⟨by show (lv - 1) + 1 ≤ lv; omega, by show 8 + (5 + 11) + 40 * (lv - 1) ≤ 40 * lv; omega⟩ ⟨Nat.le_refl _, Nat.le_refl _⟩ hl.1 rfl (Nat.le_of_ble_eq_true rfl) dX1_endList_116 (fun H locs hG hS _ _ => ?_)
          refine ms_fWhat X hK hG hS (by omega) dX1_endList_119 (fun H locs hG hS => ?_)
          rw [mU_mP (l' := [(62, upI (S.2 62) a (S.1 56 - a)), (57, upI (S.2 57) a (spJ (S.2 63 a) b f c2))]) rfl rfl] at hG
          refine ret _ _ _ _ _ ?_ hG hS dX1_endList_120
          refine Or.inr ⟨c7, ?_⟩
          rw [hb, hf, hc]
        refine lv_iload_n X.1 X.2.1 dX1_endList_99 rfl (lv_at hl 2 rfl) ?_
        refine i_if_eq X 114 dX1_endList_100 (by decide) (by omega) (fun c100 => ?_) (fun c100 => ?_)
        · refine lv_lconst (v := lI (0)) X.1 X.2.1 dX1_endList_114 rfl ?_
          exact K115 0 (by have h9 := c100; rw [hb] at h9; first | (have h8 := bI_ne0.mp h9; simp only [Bool.and_eq_true, decide_eq_true_eq] at h8; rw [if_pos h8]) | (have h8 := bI_eq0.mp h9; rw [← Bool.not_eq_true] at h8; simp only [Bool.and_eq_true, decide_eq_true_eq] at h8; rw [if_neg h8])) H locs ls hG hS (lv_sub hl [0, 1, 2, 3] rfl)
        · have hl4 := hl4 (by have h9 := c100; rw [hb] at h9; have := bI_ne0.mp h9; simp only [Bool.and_eq_true, decide_eq_true_eq] at this; omega)
          refine lv_aload_n X.1 X.2.1 dX1_endList_103 rfl (lv_at hl 0 rfl) ?_
          refine mg_fWorth X hK hG dX1_endList_104 ?_
          refine lv_iload_n X.1 X.2.1 dX1_endList_107 rfl (lv_at hl 1 rfl) ?_
          refine lv_iconst (v := iI (1)) X.1 X.2.1 dX1_endList_108 rfl ?_
          refine i_add X dX1_endList_109 ?_
          refine ml_fWorth X hK hG (S.2 58) rfl (by omega) dX1_endList_110 ?_
          refine lv_goto (tgt := 115) X.1 X.2.1 dX1_endList_111 (by decide) ?_
          exact K115 (S.2 58 (a + 1)) (by have h9 := c100; rw [hb] at h9; first | (have h8 := bI_ne0.mp h9; simp only [Bool.and_eq_true, decide_eq_true_eq] at h8; rw [if_pos h8]) | (have h8 := bI_eq0.mp h9; rw [← Bool.not_eq_true] at h8; simp only [Bool.and_eq_true, decide_eq_true_eq] at h8; rw [if_neg h8])) H locs ls hG hS (lv_sub hl [0, 1, 2, 3] rfl)
      refine lv_aload_n X.1 X.2.1 dX1_endList_50 rfl (lv_at hl 0 rfl) ?_
      refine mg_fParts X hK hG dX1_endList_51 ?_
      refine lv_iload_n X.1 X.2.1 dX1_endList_54 rfl (lv_at hl 1 rfl) ?_
      refine ml_fParts X hK hG (S.2 63) rfl (by omega) dX1_endList_55 ?_
      refine lv_iconst (v := iI (1)) X.1 X.2.1 dX1_endList_56 rfl ?_
      refine i_icmp_le X 85 dX1_endList_57 (by decide) (by omega) (by omega) (fun c57 => ?_) (fun c57 => ?_)
      · refine lv_iconst (v := iI (0)) X.1 X.2.1 dX1_endList_85 rfl ?_
        refine lv_istore_n (lv' := [(3, .int (iI (0))), (0, .ref o), (1, .int (iI (a))), (2, .int (iI (b)))]) X.1 X.2.1 dX1_endList_86 rfl hl (by decide) rfl (fun ls hl => ?_)
        exact K87 0 (by first | (apply bI_t; rw [hu] at c78; simp; omega) | (apply bI_f; first | (rw [hu] at c78; simp; omega) | (simp; omega))) H locs ls hG hS (lv_sub hl [1, 2, 3, 0] rfl)
      · have hl4 := hl4 (by omega)
        have hl5 := hl5 c57
        have hu : upI (S.2 62) a (S.1 56 - a) (a + 1) = S.2 62 (a + 1) := upI_n (by omega)
        have hl6 : iR (S.2 57 (a + 1 + upI (S.2 62) a (S.1 56 - a) (a + 1))) := by rw [hu]; exact hl5.2.2
        refine lv_aload_n X.1 X.2.1 dX1_endList_60 rfl (lv_at hl 0 rfl) ?_
        refine mg_fWhat X hK hG dX1_endList_61 ?_
        refine lv_iload_n X.1 X.2.1 dX1_endList_64 rfl (lv_at hl 1 rfl) ?_
        refine lv_iconst (v := iI (1)) X.1 X.2.1 dX1_endList_65 rfl ?_
        refine i_add X dX1_endList_66 ?_
        refine lv_aload_n X.1 X.2.1 dX1_endList_67 rfl (lv_at hl 0 rfl) ?_
        refine mg_fRoom X hK hG dX1_endList_68 ?_
        refine lv_iload_n X.1 X.2.1 dX1_endList_71 rfl (lv_at hl 1 rfl) ?_
        refine lv_iconst (v := iI (1)) X.1 X.2.1 dX1_endList_72 rfl ?_
        refine i_add X dX1_endList_73 ?_
        refine ml_fRoom X hK hG (upI (S.2 62) a (S.1 56 - a)) rfl (by omega) dX1_endList_74 ?_
        refine i_add X dX1_endList_75 ?_
        refine ml_fWhat X hK hG (S.2 57) rfl (by omega) dX1_endList_76 ?_
        refine lv_iconst (v := iI (1)) X.1 X.2.1 dX1_endList_77 rfl ?_
        refine i_icmp_ne X 85 dX1_endList_78 (by decide) (by omega) (by omega) (fun c78 => ?_) (fun c78 => ?_)
        · refine lv_iconst (v := iI (0)) X.1 X.2.1 dX1_endList_85 rfl ?_
          refine lv_istore_n (lv' := [(3, .int (iI (0))), (0, .ref o), (1, .int (iI (a))), (2, .int (iI (b)))]) X.1 X.2.1 dX1_endList_86 rfl hl (by decide) rfl (fun ls hl => ?_)
          exact K87 0 (by first | (apply bI_t; rw [hu] at c78; simp; omega) | (apply bI_f; first | (rw [hu] at c78; simp; omega) | (simp; omega))) H locs ls hG hS (lv_sub hl [1, 2, 3, 0] rfl)
        · refine lv_iconst (v := iI (1)) X.1 X.2.1 dX1_endList_81 rfl ?_
          refine lv_goto (tgt := 86) X.1 X.2.1 dX1_endList_82 (by decide) ?_
          refine lv_istore_n (lv' := [(3, .int (iI (1))), (0, .ref o), (1, .int (iI (a))), (2, .int (iI (b)))]) X.1 X.2.1 dX1_endList_86 rfl hl (by decide) rfl (fun ls hl => ?_)
          exact K87 1 (by first | (apply bI_t; rw [hu] at c78; simp; omega) | (apply bI_f; first | (rw [hu] at c78; simp; omega) | (simp; omega))) H locs ls hG hS (lv_sub hl [1, 2, 3, 0] rfl)
    refine lv_aload_n X.1 X.2.1 dX1_endList_23 rfl (lv_at hl 0 rfl) ?_
    refine mg_fParts X hK hG dX1_endList_24 ?_
    refine lv_iload_n X.1 X.2.1 dX1_endList_27 rfl (lv_at hl 1 rfl) ?_
    refine ml_fParts X hK hG (S.2 63) rfl (by omega) dX1_endList_28 ?_
    refine i_if_le X 48 dX1_endList_29 (by decide) (by omega) (fun c29 => ?_) (fun c29 => ?_)
    · refine lv_iconst (v := iI (0)) X.1 X.2.1 dX1_endList_48 rfl ?_
      refine lv_istore_n (lv' := [(2, .int (iI (0))), (0, .ref o), (1, .int (iI (a)))]) X.1 X.2.1 dX1_endList_49 rfl hl (by decide) rfl (fun ls hl => ?_)
      exact K50 0 (by first | (apply bI_t; simp; omega) | (apply bI_f; simp; omega)) H locs ls hG hS (lv_sub hl [1, 2, 0] rfl)
    · have hl4 := hl4 c29
      refine lv_aload_n X.1 X.2.1 dX1_endList_32 rfl (lv_at hl 0 rfl) ?_
      refine mg_fWhat X hK hG dX1_endList_33 ?_
      refine lv_iload_n X.1 X.2.1 dX1_endList_36 rfl (lv_at hl 1 rfl) ?_
      refine lv_iconst (v := iI (1)) X.1 X.2.1 dX1_endList_37 rfl ?_
      refine i_add X dX1_endList_38 ?_
      refine ml_fWhat X hK hG (S.2 57) rfl (by omega) dX1_endList_39 ?_
      refine lv_iconst (v := iI (1)) X.1 X.2.1 dX1_endList_40 rfl ?_
      refine i_icmp_ne X 48 dX1_endList_41 (by decide) (by omega) (by omega) (fun c41 => ?_) (fun c41 => ?_)
      · refine lv_iconst (v := iI (0)) X.1 X.2.1 dX1_endList_48 rfl ?_
        refine lv_istore_n (lv' := [(2, .int (iI (0))), (0, .ref o), (1, .int (iI (a)))]) X.1 X.2.1 dX1_endList_49 rfl hl (by decide) rfl (fun ls hl => ?_)
        exact K50 0 (by first | (apply bI_t; simp; omega) | (apply bI_f; simp; omega)) H locs ls hG hS (lv_sub hl [1, 2, 0] rfl)
      · refine lv_iconst (v := iI (1)) X.1 X.2.1 dX1_endList_44 rfl ?_
        refine lv_goto (tgt := 49) X.1 X.2.1 dX1_endList_45 (by decide) ?_
        refine lv_istore_n (lv' := [(2, .int (iI (1))), (0, .ref o), (1, .int (iI (a)))]) X.1 X.2.1 dX1_endList_49 rfl hl (by decide) rfl (fun ls hl => ?_)
        exact K50 1 (by first | (apply bI_t; simp; omega) | (apply bI_f; simp; omega)) H locs ls hG hS (lv_sub hl [1, 2, 0] rfl)
  · refine ret _ _ _ _ _ ?_ hG hS dX1_endList_10
    exact Or.inl ⟨by omega, rfl⟩

