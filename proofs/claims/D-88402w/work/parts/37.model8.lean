/-! ===== the Model: unfold, run, back ===== -/
set_option maxRecDepth 100000
set_option maxHeartbeats 4000000 in
theorem mm_unfold (l : Launch) (D : va_G) (ca : Nat → ClassId) (o lv : Nat) (S : MSt) (i : Int) (hlv : 6 ≤ lv) (hi : iR i) (hth : S.1 27 = 0 ∨ S.1 27 = 1) (hnn : 0 ≤ S.1 40 ∧ S.1 40 ≤ 500) (hI : S.1 27 = 1 → MT S ∧ MP S ∧ (0 ≤ S.1 49 ∧ S.1 49 ≤ 300) ∧ (0 ≤ S.1 53 ∧ S.1 53 ≤ 30000) ∧ (0 ≤ S.1 67 ∧ S.1 67 + S.1 40 ≤ 500 + S.1 53) ∧ ∀ i, 0 ≤ i → i < S.1 40 → spReady S i = true → StepOk S i) : mCi l yX1_unfold cX1_unfold 2 .int D ca o lv [.ref o, .int (iI (i))] S (fun r S' => (S.1 27 = 0 ∧ r = -3 ∧ Pass S S') ∨ (S.1 27 = 1 ∧ ¬ (0 ≤ i ∧ i < S.1 40) ∧ r = -1 ∧ Pass S S') ∨ (S.1 27 = 1 ∧ (0 ≤ i ∧ i < S.1 40) ∧ spReady S i = false ∧ r = -3 ∧ Pass S S') ∨ (S.1 27 = 1 ∧ (0 ≤ i ∧ i < S.1 40) ∧ spReady S i = true ∧ ((r = -4 ∧ spFull S i (bRes S i).1 ∧ Pass S S') ∨ (¬ spFull S i (bRes S i).1 ∧ r = spRule S i 13 0 ∧ StepR S i (spRule S i 13 0) (bRes S i).1 (bRes S i).2 S')))) := by
  refine mCi_of (by decide +kernel) rfl (Nat.le_of_ble_eq_true rfl) ?_
  intro p e s m args below meth c Q X hK ret H locs ls hG hS hl
  have hl : lv_has ls 2 [(0, .ref o), (1, .int (iI (i)))] := hl
  refine lv_aload_n X.1 X.2.1 dX1_unfold_0 rfl (lv_at hl 0 rfl) ?_
  refine mg_isThere X hK hG (S.1 27) rfl dX1_unfold_1 ?_
  refine i_if_ne X 10 dX1_unfold_4 (by decide) (by first | omega | (split <;> omega)) (fun c4 => ?_) (fun c4 => ?_)
  · refine lv_aload_n X.1 X.2.1 dX1_unfold_10 rfl (lv_at hl 0 rfl) ?_
    refine lv_iload_n X.1 X.2.1 dX1_unfold_11 rfl (lv_at hl 1 rfl) ?_
    refine m_callVp (rest := []) (n := 1) X hK hG hS (fun _ h => h) (mm_isItem l D ca o (lv - 1) S i (by omega) (by omega) (by omega)) (lw_V q1532 q1534 qs42 q70 q1535) (by decide +kernel) rfl ⟨by show (lv - 1) + 1 ≤ lv; omega, by show 8 + (2 + 11) + 40 * (lv - 1) ≤ 40 * lv; omega⟩ ⟨Nat.le_refl _, Nat.le_refl _⟩ hl.1 rfl (Nat.le_of_ble_eq_true rfl) dX1_unfold_12 (fun H locs hG hS _ _ => ?_)
    refine i_if_ne X 20 dX1_unfold_15 (by decide) (bI_iR _) (fun c15 => ?_) (fun c15 => ?_)
    · have c15 := bI_ne0.mp c15
      have c15 : 0 ≤ i ∧ i < S.1 40 := by simpa using c15
      obtain ⟨hT, hP, hst, hmd, hgo, hOK⟩ := hI (by omega)
      refine lv_aload_n X.1 X.2.1 dX1_unfold_20 rfl (lv_at hl 0 rfl) ?_
      refine lv_iload_n X.1 X.2.1 dX1_unfold_21 rfl (lv_at hl 1 rfl) ?_
      refine m_callVi (rest := []) (n := 1) X hK hG hS (fun _ h => h) (mm_isReady l D ca o (lv - 1) S i (by omega) hT hP (show 0 ≤ i by omega) (show i < S.1 40 by omega)) (lw_V q1564 q1566 qs47 q70 q1567) (by decide +kernel) rfl ⟨by show (lv - 1) + 1 ≤ lv; omega, by show 8 + (3 + 11) + 40 * (lv - 1) ≤ 40 * lv; omega⟩ ⟨Nat.le_refl _, Nat.le_refl _⟩ hl.1 rfl (Nat.le_of_ble_eq_true rfl) dX1_unfold_22 (fun z2 S2 H locs hp2 hG hS _ _ => ?_)
      obtain ⟨hz2, u2, v2, rfl⟩ := hp2
      rw [hz2]
      refine i_if_eq X 36 dX1_unfold_25 (by decide) (bI_iR _) (fun c25 => ?_) (fun c25 => ?_)
      · have c25 := bI_eq0.mp c25
        refine lv_bipush (v := iI (-3)) X.1 X.2.1 dX1_unfold_36 (by decide) ?_
        refine ret _ _ _ _ _ _ ?_ (rfl) hG hS dX1_unfold_38
        exact Or.inr (Or.inr (Or.inl ⟨by omega, c15, c25, rfl, Pass_mP⟩))
      · have c25 := bI_ne0.mp c25
        have hrd := spReady_call c25
        have hOK := hOK i c15.1 c15.2 c25
        refine lv_aload_n X.1 X.2.1 dX1_unfold_28 rfl (lv_at hl 0 rfl) ?_
        refine lv_iload_n X.1 X.2.1 dX1_unfold_29 rfl (lv_at hl 1 rfl) ?_
        refine m_callVi (rest := []) (n := 1) X hK hG hS (fun _ h => h) (mm_step l D ca o (lv - 1) (mP S [(54, u2), (55, v2)] []) i (by omega) hT hP (show 0 ≤ i by omega) (show i < S.1 40 by omega) (show 3 ≤ S.2 41 i by omega) (by rw [spRule_m]; exact hrd.2) hst hmd hgo (StepOk_m hOK)) (lw_V q1604 q1606 qs55 q70 q1607) (by decide +kernel) rfl ⟨by show (lv - 1) + 1 ≤ lv; omega, by show 8 + (3 + 11) + 40 * (lv - 1) ≤ 40 * lv; omega⟩ ⟨Nat.le_refl _, Nat.le_refl _⟩ hl.1 rfl (Nat.le_of_ble_eq_true rfl) dX1_unfold_30 (fun z9 S9 H locs hp9 hG hS _ _ => ?_)
        have hp9 := step_m hp9
        have hzr : z9 = -4 ∨ (0 ≤ z9 ∧ z9 < 12) := by
          rcases hp9 with q | q
          · exact Or.inl q.1
          · right; rw [q.2.1]; have := spRule_in S i 13 0 (by omega); have := hP.1; omega
        refine lv_goto (tgt := 38) X.1 X.2.1 dX1_unfold_33 (by decide) ?_
        refine ret _ _ _ _ _ _ ?_ (rfl) hG hS dX1_unfold_38
        exact Or.inr (Or.inr (Or.inr ⟨by omega, c15, c25, hp9⟩))
    · have c15 := bI_eq0.mp c15
      refine lv_iconst (v := iI (-1)) X.1 X.2.1 dX1_unfold_18 rfl ?_
      refine ret _ _ _ _ _ _ ?_ (rfl) hG hS dX1_unfold_19
      exact Or.inr (Or.inl ⟨by omega, by intro hh; simp [hh.1, hh.2] at c15, rfl, Pass.rf⟩)
  · refine lv_bipush (v := iI (-3)) X.1 X.2.1 dX1_unfold_7 (by decide) ?_
    refine ret _ _ _ _ _ _ ?_ (rfl) hG hS dX1_unfold_9
    exact Or.inl ⟨c4, rfl, Pass.rf⟩

set_option maxHeartbeats 4000000 in
theorem mm_run (l : Launch) (D : va_G) (ca : Nat → ClassId) (o lv : Nat) (S : MSt) (n : Int) (last : Int) (hlv : 7 ≤ lv) (hi : iR n) (hla : last = 0 ∨ last = 1) (hth : S.1 27 = 0 ∨ S.1 27 = 1) (Inv : MSt → Prop) (hRI : RunI Inv) (hIS : S.1 27 = 1 → Inv S) : mCi l yX1_run cX1_run 6 .int D ca o lv [.ref o, .int (iI (n)), .int (iI (last))] S (fun r S' => (S.1 27 = 0 ∧ r = -3 ∧ S' = S) ∨ (S.1 27 = 1 ∧ ¬ (1 ≤ n ∧ n ≤ 300) ∧ r = -2 ∧ S' = S) ∨ (S.1 27 = 1 ∧ (1 ≤ n ∧ n ≤ 300) ∧ ∃ (k : Nat) (Sk : MSt), r = k ∧ RunQ last k S Sk ∧ Inv Sk ∧ Pass Sk S' ∧ ((k : Int) = n ∨ ((k : Int) < n ∧ RunE last Sk)))) := by
  refine mCi_of (by decide +kernel) rfl (Nat.le_of_ble_eq_true rfl) ?_
  intro p e s m args below meth c Q X hK ret H locs ls hG hS hl
  have hl : lv_has ls 6 [(0, .ref o), (1, .int (iI (n))), (2, .int (iI (last)))] := hl
  refine lv_aload_n X.1 X.2.1 dX1_run_0 rfl (lv_at hl 0 rfl) ?_
  refine mg_isThere X hK hG (S.1 27) rfl dX1_run_1 ?_
  refine i_if_ne X 10 dX1_run_4 (by decide) (by first | omega | (split <;> omega)) (fun c4 => ?_) (fun c4 => ?_)
  · refine lv_iload_n X.1 X.2.1 dX1_run_10 rfl (lv_at hl 1 rfl) ?_
    refine i_i2l X (by first | omega | (split <;> omega)) dX1_run_11 ?_
    refine lv_lconst (v := lI (1)) X.1 X.2.1 dX1_run_12 rfl ?_
    refine lv_ldc2 (v := lI (300)) X.1 X.2.1 X.2.2.2.1 (X.2.2.2.2 _ q1644) dX1_run_13 ?_
    refine m_callSp (rest := []) (n := 3) X hK hG hS (fun _ h => h) (mm_in l D ca o (lv - 1) S n 1 300 (by omega) (by omega) (by omega)) (lw_S q1536 q1537 q70 q1538) (by decide +kernel) rfl ⟨by show (lv - 1) + 1 ≤ lv; omega, by show 8 + (6 + 11) + 40 * (lv - 1) ≤ 40 * lv; omega⟩ ⟨Nat.le_refl _, Nat.le_refl _⟩ hl.1 rfl (Nat.le_of_ble_eq_true rfl) dX1_run_16 (fun H locs hG hS _ _ => ?_)
    refine i_if_ne X 25 dX1_run_19 (by decide) (bI_iR _) (fun c19 => ?_) (fun c19 => ?_)
    · have c19 := bI_ne0.mp c19
      have c19 : 1 ≤ n ∧ n ≤ 300 := by simpa using c19
      have hth1 : S.1 27 = 1 := by omega
      refine lv_iconst (v := iI (0)) X.1 X.2.1 dX1_run_25 rfl ?_
      refine lv_istore_n (lv' := [(3, .int (iI (0))), (0, .ref o), (1, .int (iI (n))), (2, .int (iI (last)))]) X.1 X.2.1 dX1_run_26 rfl hl (by decide) rfl (fun ls hl => ?_)
      refine lv_iconst (v := iI (1)) X.1 X.2.1 dX1_run_27 rfl ?_
      refine lv_istore (lv' := [(4, .int (iI (1))), (3, .int (iI (0))), (0, .ref o), (1, .int (iI (n))), (2, .int (iI (last)))]) X.1 X.2.1 dX1_run_28 hl (by decide) rfl (fun ls hl => ?_)
      have L30 : ∀ (N30 : Nat) (k b : Int) (Sk : MSt), (0 ≤ k ∧ k ≤ n) → (b = 0 ∨ b = 1) → (b = 1 → RunQ last k.toNat S Sk ∧ Inv Sk) → (b = 0 → k < n ∧ ∃ Sq, RunQ last k.toNat S Sq ∧ Inv Sq ∧ Pass Sq Sk ∧ RunE last Sq) → 2 * (n - k).toNat + b.toNat < N30 → ∀ (H : Heap) (locs : List Loc) (ls : Array Slot), gOk D (mA o) (mH ca o Sk) H → va_S (mA o) s.heap H locs → lv_has ls 6 [(0, .ref o), (1, .int (iI (n))), (2, .int (iI (last))), (3, .int (iI (k))), (4, .int (iI (b)))] → W p l e (mR lv) s m args below meth c H locs 0 0 Q (F0 m 30 ls []) := by
        intro N30
        induction N30 with
        | zero => intro k b Sk hk hb hb1 hb0 hN; exact absurd hN (Nat.not_lt_zero _)
        | succ N30 ih30 =>
          intro k b Sk hk hb hb1 hb0 hN30 H locs ls hG hS hl
          refine lv_iload_n X.1 X.2.1 dX1_run_30 rfl (lv_at hl 3 rfl) ?_
          refine lv_iload_n X.1 X.2.1 dX1_run_31 rfl (lv_at hl 1 rfl) ?_
          refine i_icmp_ge X 97 dX1_run_32 (by decide) (by first | omega | (split <;> omega)) (by first | omega | (split <;> omega)) (fun c32 => ?_) (fun c32 => ?_)
          · refine lv_iload_n X.1 X.2.1 dX1_run_97 rfl (lv_at hl 3 rfl) ?_
            refine ret _ _ _ _ _ _ ?_ (rfl) hG hS dX1_run_98
            refine Or.inr (Or.inr ⟨hth1, c19, k.toNat, ?_⟩)
            have hkt : ((k.toNat : Nat) : Int) = k := by omega
            rw [hkt]
            by_cases h0 : b = 0
            · obtain ⟨q1, Sq, q2, q3, q4, q5⟩ := hb0 h0
              exact ⟨Sq, rfl, q2, q3, q4, Or.inr ⟨q1, q5⟩⟩
            · obtain ⟨q1, q2⟩ := hb1 (by omega)
              exact ⟨Sk, rfl, q1, q2, Pass.rf, Or.inl (by omega)⟩
          · refine lv_iload X.1 X.2.1 dX1_run_35 (lv_at hl 4 rfl) ?_
            refine i_if_eq X 97 dX1_run_37 (by decide) (by first | omega | (split <;> omega)) (fun c37 => ?_) (fun c37 => ?_)
            · refine lv_iload_n X.1 X.2.1 dX1_run_97 rfl (lv_at hl 3 rfl) ?_
              refine ret _ _ _ _ _ _ ?_ (rfl) hG hS dX1_run_98
              refine Or.inr (Or.inr ⟨hth1, c19, k.toNat, ?_⟩)
              have hkt : ((k.toNat : Nat) : Int) = k := by omega
              rw [hkt]
              by_cases h0 : b = 0
              · obtain ⟨q1, Sq, q2, q3, q4, q5⟩ := hb0 h0
                exact ⟨Sq, rfl, q2, q3, q4, Or.inr ⟨q1, q5⟩⟩
              · obtain ⟨q1, q2⟩ := hb1 (by omega)
                exact ⟨Sk, rfl, q1, q2, Pass.rf, Or.inl (by omega)⟩
            · obtain ⟨hRQ, hIk⟩ := hb1 (by omega)
              obtain ⟨hT, hP, hst, hmd, hgo, hOK⟩ := hRI.1 Sk hIk
              have hnn := hT.n
              have hpin := spPick_in Sk (by omega) last
              have hpin0 := hpin
              have K56 : ∀ (c9 : Int) (u v : Int → Int), (c9 = spPick Sk last) → ∀ (H : Heap) (locs : List Loc) (ls : Array Slot), gOk D (mA o) (mH ca o (mP Sk [(54, u), (55, v)] [])) H → va_S (mA o) s.heap H locs → lv_has ls 6 [(0, .ref o), (1, .int (iI (n))), (2, .int (iI (last))), (3, .int (iI (k))), (4, .int (iI (b)))] → W p l e (mR lv) s m args below meth c H locs 0 0 Q (F0 m 56 ls [.int (iI (c9))]) := by
                intro c9 u v hc9 H locs ls hG hS hl
                refine lv_istore (lv' := [(5, .int (iI (c9))), (0, .ref o), (1, .int (iI (n))), (2, .int (iI (last))), (3, .int (iI (k))), (4, .int (iI (b)))]) X.1 X.2.1 dX1_run_56 hl (by decide) rfl (fun ls hl => ?_)
                rw [← hc9] at hpin
                have K79 : ∀ (b2 : Int) (S9 : MSt), (b2 = 0 ∨ b2 = 1) → (b2 = 1 → RunS last Sk S9) → (b2 = 0 → Pass Sk S9 ∧ RunE last Sk) → ∀ (H : Heap) (locs : List Loc) (ls : Array Slot), gOk D (mA o) (mH ca o S9) H → va_S (mA o) s.heap H locs → lv_has ls 6 [(0, .ref o), (1, .int (iI (n))), (2, .int (iI (last))), (3, .int (iI (k)))] → W p l e (mR lv) s m args below meth c H locs 0 0 Q (F0 m 79 ls [.int (iI (b2))]) := by
                  intro b2 S9 hb2 hS1 hS0 H locs ls hG hS hl
                  refine lv_istore (lv' := [(4, .int (iI (b2))), (0, .ref o), (1, .int (iI (n))), (2, .int (iI (last))), (3, .int (iI (k)))]) X.1 X.2.1 dX1_run_79 hl (by decide) rfl (fun ls hl => ?_)
                  have K92 : ∀ (z2 : Int), (z2 = b2) → ∀ (H : Heap) (locs : List Loc) (ls : Array Slot), gOk D (mA o) (mH ca o S9) H → va_S (mA o) s.heap H locs → lv_has ls 6 [(0, .ref o), (1, .int (iI (n))), (2, .int (iI (last))), (4, .int (iI (b2)))] → W p l e (mR lv) s m args below meth c H locs 0 0 Q (F0 m 92 ls [.int (iI (z2)), .int (iI (k))]) := by
                    intro z2 hz2 H locs ls hG hS hl
                    refine i_add X dX1_run_92 ?_
                    refine lv_istore_n (lv' := [(3, .int (iI (k + z2))), (0, .ref o), (1, .int (iI (n))), (2, .int (iI (last))), (4, .int (iI (b2)))]) X.1 X.2.1 dX1_run_93 rfl hl (by decide) rfl (fun ls hl => ?_)
                    refine lv_goto (tgt := 30) X.1 X.2.1 dX1_run_94 (by decide) ?_
                    have hn1 : b2 = 1 → RunQ last (k + z2).toNat S S9 ∧ Inv S9 := by
                      intro h1
                      have hs9 := hS1 h1
                      have hp9 := hpin0.resolve_left hs9.1
                      refine ⟨?_, hRI.2.1 Sk (spPick Sk last) S9 hIk hp9.1 hp9.2.1 hp9.2.2 hs9.2.1 hs9.2.2⟩
                      rw [hz2, h1, show (k + 1).toNat = k.toNat + 1 by omega]
                      exact ⟨Sk, hRQ, hs9⟩
                    have hn0 : b2 = 0 → k + z2 < n ∧ ∃ Sq, RunQ last (k + z2).toNat S Sq ∧ Inv Sq ∧ Pass Sq S9 ∧ RunE last Sq := by
                      intro h0
                      rw [hz2, h0, Int.add_zero]
                      exact ⟨by omega, Sk, hRQ, hIk, hS0 h0⟩
                    exact ih30 (k + z2) b2 S9 (by omega) hb2 hn1 hn0 (by omega) H locs ls hG hS (lv_sub hl [1, 2, 3, 0, 4] rfl)
                  refine lv_iload_n X.1 X.2.1 dX1_run_81 rfl (lv_at hl 4 rfl) ?_
                  refine lv_iload X.1 X.2.1 dX1_run_82 (lv_at hl 0 rfl) ?_
                  refine i_if_eq X 91 dX1_run_84 (by decide) (by first | omega | (split <;> omega)) (fun c84 => ?_) (fun c84 => ?_)
                  · refine lv_iconst (v := iI (0)) X.1 X.2.1 dX1_run_91 rfl ?_
                    exact K92 0 (by omega) H locs ls hG hS (lv_sub hl [1, 2, 3, 0] rfl)
                  · refine lv_iconst (v := iI (1)) X.1 X.2.1 dX1_run_87 rfl ?_
                    refine lv_goto (tgt := 92) X.1 X.2.1 dX1_run_88 (by decide) ?_
                    exact K92 1 (by omega) H locs ls hG hS (lv_sub hl [1, 2, 3, 0] rfl)
                refine lv_iload X.1 X.2.1 dX1_run_58 (lv_at hl 0 rfl) ?_
                refine lv_bipush (v := iI (-9)) X.1 X.2.1 dX1_run_60 (by decide) ?_
                refine i_icmp_eq X 78 dX1_run_62 (by decide) (by first | omega | (split <;> omega)) (by first | omega | (split <;> omega)) (fun c62 => ?_) (fun c62 => ?_)
                · refine lv_iconst (v := iI (0)) X.1 X.2.1 dX1_run_78 rfl ?_
                  have hA1 : (0 : Int) = 1 → RunS last Sk (mP Sk [(54, u), (55, v)] []) := by omega
                  have hA0 : (0 : Int) = 0 → Pass Sk (mP Sk [(54, u), (55, v)] []) ∧ RunE last Sk := fun _ => ⟨Pass_mP, Or.inl (by rw [← hc9]; exact c62)⟩
                  exact K79 0 (mP Sk [(54, u), (55, v)] []) (by omega) hA1 hA0 H locs ls hG hS (lv_sub hl [1, 2, 3, 4] rfl)
                · have hpin := hpin.resolve_left c62
                  have hrd := spReady_call hpin.2.2
                  have hOK := hOK c9 hpin.1 hpin.2.1 hpin.2.2
                  refine lv_aload_n X.1 X.2.1 dX1_run_65 rfl (lv_at hl 1 rfl) ?_
                  refine lv_iload X.1 X.2.1 dX1_run_66 (lv_at hl 0 rfl) ?_
                  refine m_callVi (rest := []) (n := 1) X hK hG hS (fun _ h => h) (mm_step l D ca o (lv - 1) (mP Sk [(54, u), (55, v)] []) c9 (by omega) hT hP (show 0 ≤ c9 by omega) (show c9 < Sk.1 40 by omega) (show 3 ≤ Sk.2 41 c9 by omega) (by rw [spRule_m]; exact hrd.2) hst hmd hgo (StepOk_m hOK)) (lw_V q1604 q1606 qs55 q70 q1607) (by decide +kernel) rfl ⟨by show (lv - 1) + 1 ≤ lv; omega, by show 8 + (3 + 11) + 40 * (lv - 1) ≤ 40 * lv; omega⟩ ⟨Nat.le_refl _, Nat.le_refl _⟩ hl.1 rfl (Nat.le_of_ble_eq_true rfl) dX1_run_68 (fun z9 S9 H locs hp9 hG hS _ _ => ?_)
                  have hp9 := step_m hp9
                  have hzr : z9 = -4 ∨ (0 ≤ z9 ∧ z9 < 12) := by
                    rcases hp9 with q | q
                    · exact Or.inl q.1
                    · right; rw [q.2.1]; have := spRule_in Sk c9 13 0 (by omega); have := hP.1; omega
                  refine i_if_lt X 78 dX1_run_71 (by decide) (by first | omega | (split <;> omega)) (fun c71 => ?_) (fun c71 => ?_)
                  · refine lv_iconst (v := iI (0)) X.1 X.2.1 dX1_run_78 rfl ?_
                    have hA1 : (0 : Int) = 1 → RunS last Sk S9 := by omega
                    have hA0 : (0 : Int) = 0 → Pass Sk S9 ∧ RunE last Sk := by
                      intro _
                      rcases hp9 with q | q
                      · exact ⟨q.2.2, Or.inr (by rw [← hc9]; exact q.2.1)⟩
                      · have h1 := spRule_in Sk c9 13 0 (by omega)
                        have h2 := hrd.2
                        have h3 := q.2.1
                        omega
                    exact K79 0 S9 (by omega) hA1 hA0 H locs ls hG hS (lv_sub hl [1, 2, 3, 4] rfl)
                  · refine lv_iconst (v := iI (1)) X.1 X.2.1 dX1_run_74 rfl ?_
                    refine lv_goto (tgt := 79) X.1 X.2.1 dX1_run_75 (by decide) ?_
                    have hA1 : (1 : Int) = 1 → RunS last Sk S9 := by
                      intro _
                      rcases hp9 with q | q
                      · omega
                      · rw [hc9] at q; exact ⟨by rw [← hc9]; exact c62, q.1, q.2.2⟩
                    have hA0 : (1 : Int) = 0 → Pass Sk S9 ∧ RunE last Sk := by omega
                    exact K79 1 S9 (by omega) hA1 hA0 H locs ls hG hS (lv_sub hl [1, 2, 3, 4] rfl)
              refine lv_iload_n X.1 X.2.1 dX1_run_40 rfl (lv_at hl 2 rfl) ?_
              refine i_if_eq X 51 dX1_run_41 (by decide) (by first | omega | (split <;> omega)) (fun c41 => ?_) (fun c41 => ?_)
              · refine lv_aload_n X.1 X.2.1 dX1_run_51 rfl (lv_at hl 0 rfl) ?_
                refine lv_iconst (v := iI (0)) X.1 X.2.1 dX1_run_52 rfl ?_
                refine m_callVi (rest := []) (n := 1) X hK hG hS (fun _ h => h) (mm_readyAt l D ca o (lv - 1) Sk 0 (by omega) hT hP (by omega)) (lw_V q1596 q1598 qs54 q70 q1599) (by decide +kernel) rfl ⟨by show (lv - 1) + 1 ≤ lv; omega, by show 8 + (4 + 11) + 40 * (lv - 1) ≤ 40 * lv; omega⟩ ⟨Nat.le_refl _, Nat.le_refl _⟩ hl.1 rfl (Nat.le_of_ble_eq_true rfl) dX1_run_53 (fun z3 S3 H locs hp3 hG hS _ _ => ?_)
                obtain ⟨hz3, u3, v3, rfl⟩ := hp3
                rw [hz3, if_neg (by omega)]
                exact K56 (spNth Sk (Sk.1 40).toNat 0 0) u3 v3 (by unfold spPick; first | rw [if_pos c41] | rw [if_neg c41]) H locs ls hG hS (lv_sub hl [0, 1, 2, 3, 4] rfl)
              · refine lv_aload_n X.1 X.2.1 dX1_run_44 rfl (lv_at hl 0 rfl) ?_
                refine m_callVi (rest := []) (n := 0) X hK hG hS (fun _ h => h) (mm_lastReady l D ca o (lv - 1) Sk (by omega) hT hP) (lw_V q1645 q1647 qs64 q70 q1648) (by decide +kernel) rfl ⟨by show (lv - 1) + 1 ≤ lv; omega, by show 8 + (3 + 11) + 40 * (lv - 1) ≤ 40 * lv; omega⟩ ⟨Nat.le_refl _, Nat.le_refl _⟩ hl.1 rfl (Nat.le_of_ble_eq_true rfl) dX1_run_45 (fun z4 S4 H locs hp4 hG hS _ _ => ?_)
                obtain ⟨hz4, u4, v4, rfl⟩ := hp4
                rw [hz4]
                refine lv_goto (tgt := 56) X.1 X.2.1 dX1_run_48 (by decide) ?_
                exact K56 (spLast Sk (Sk.1 40).toNat 0 (-9)) u4 v4 (by unfold spPick; first | rw [if_pos c41] | rw [if_neg c41]) H locs ls hG hS (lv_sub hl [0, 1, 2, 3, 4] rfl)
      exact L30 _ 0 1 S (by omega) (by omega) (fun _ => ⟨rfl, hIS (by omega)⟩) (by omega) (Nat.lt_succ_self _) H locs ls hG hS (lv_sub hl [2, 3, 4, 1, 0] rfl)
    · have c19 := bI_eq0.mp c19
      refine lv_bipush (v := iI (-2)) X.1 X.2.1 dX1_run_22 (by decide) ?_
      refine ret _ _ _ _ _ _ ?_ (rfl) hG hS dX1_run_24
      exact Or.inr (Or.inl ⟨by omega, by intro hh; simp [hh.1, hh.2] at c19, rfl, rfl⟩)
  · refine lv_bipush (v := iI (-3)) X.1 X.2.1 dX1_run_7 (by decide) ?_
    refine ret _ _ _ _ _ _ ?_ (rfl) hG hS dX1_run_9
    exact Or.inl ⟨c4, rfl, rfl⟩

