/-! ===== the Model: what a template makes ===== -/
set_option maxRecDepth 100000
set_option maxHeartbeats 4000000 in
theorem mm_build (l : Launch) (D : va_G) (ca : Nat → ClassId) (o lv : Nat) (S : MSt) (ru : Int) (i : Int) (hlv : 3 ≤ lv) (hT : MT S) (hP : MP S) (hr : 0 ≤ ru ∧ ru < S.1 29) (h0 : 0 ≤ i) (hn : i < S.1 40) (hw : 3 ≤ S.2 41 i) (hst : 0 ≤ S.1 49 ∧ S.1 49 ≤ 300) (hmet : ∀ q, S.2 32 ru < q → q < S.2 33 ru → S.2 54 q = spFrom S ru i q ∧ S.2 55 q = spTo S ru i q) (hok : bOk S ru i (S.2 33 ru + S.2 37 (S.2 33 ru)) ((S.2 33 ru + S.2 37 (S.2 33 ru) - S.2 33 ru).toNat + 1) (S.2 33 ru) [] 0 (fm S)) : mCv l yX1_build cX1_build 11 D ca o lv [.ref o, .int (iI (ru)), .int (iI (i))] S (fun S' => ∃ (fr : Int) (F : FF) (oA oE : Int → Int), S' = mP S [(57, F 57), (58, F 58), (59, F 59), (60, F 60), (61, F 61), (62, F 62), (63, F 63), (64, oA), (65, oE)] [(56, fr)] ∧ bM S ru i (S.2 33 ru + S.2 37 (S.2 33 ru)) ((S.2 33 ru + S.2 37 (S.2 33 ru) - S.2 33 ru).toNat + 1) (S.2 33 ru) [] 0 (fm S) = (fr, F)) := by
  refine mCv_of (by decide +kernel) rfl (Nat.le_of_ble_eq_true rfl) ?_
  intro p e s m args below meth c Q X hK ret H locs ls hG hS hl
  have hl : lv_has ls 11 [(0, .ref o), (1, .int (iI (ru))), (2, .int (iI (i)))] := hl
  have hnn := hT.n
  obtain ⟨hR0, hR1, hR2, hR3, hR4, hR5, hR6, hR7, hR8⟩ := hP.2 ru hr.1 hr.2
  have hm := hP.1
  have hwi := hT.1.w h0 hn
  have hri := hT.1.r h0 hn
  have hpi := hT.1.p h0 hn
  have hna := hT.1.named h0 hn hw
  have hln := (hT.1.lst h0 hn (by omega)).2 0 (by omega)
  have hl0 : chh (S.2 46) i 0 = i + 1 := rfl
  refine lv_aload_n X.1 X.2.1 dX1_build_0 rfl (lv_at hl 0 rfl) ?_
  refine lv_iconst (v := iI (0)) X.1 X.2.1 dX1_build_1 rfl ?_
  have hG : gOk D (mA o) (mH ca o (mP S [] [])) H := hG
  refine mp_fresh X hK hG hS dX1_build_2 (fun H locs hG hS => ?_)
  rw [mS_mP (sc' := [(56, 0)]) rfl] at hG
  have K31 : ∀ (z : Int), (z = bOwn S ru i) → ∀ (H : Heap) (locs : List Loc) (ls : Array Slot), gOk D (mA o) (mH ca o (mP S [] [(56, 0)])) H → va_S (mA o) s.heap H locs → lv_has ls 11 [(0, .ref o), (1, .int (iI (ru))), (2, .int (iI (i)))] → W p l e (mR lv) s m args below meth c H locs 0 0 Q (F0 m 31 ls [.int (iI (z))]) := by
    intro z hz H locs ls hG hS hl
    refine lv_istore_n (lv' := [(3, .int (iI (z))), (0, .ref o), (1, .int (iI (ru))), (2, .int (iI (i)))]) X.1 X.2.1 dX1_build_31 rfl hl (by decide) rfl (fun ls hl => ?_)
    refine lv_aload_n X.1 X.2.1 dX1_build_32 rfl (lv_at hl 1 rfl) ?_
    refine mg_template X hK hG dX1_build_33 ?_
    refine lv_iload_n X.1 X.2.1 dX1_build_36 rfl (lv_at hl 2 rfl) ?_
    refine ml_template X hK hG (S.2 33) rfl (by first | omega | (split <;> omega)) dX1_build_37 ?_
    refine i_top (fun t0 e_t0 => ?_)
    refine lv_istore (lv' := [(4, .int (iI (t0))), (3, .int (iI (z))), (0, .ref o), (1, .int (iI (ru))), (2, .int (iI (i)))]) X.1 X.2.1 dX1_build_38 hl (by decide) rfl (fun ls hl => ?_)
    rw [← e_t0] at hR2 hR3 hR4 hR8 hok
    have hR7 : ∀ p, S.2 32 ru ≤ p → p < t0 → PN S t0 p := by rw [e_t0]; exact hR7
    refine lv_iload X.1 X.2.1 dX1_build_40 (lv_at hl 0 rfl) ?_
    refine lv_aload_n X.1 X.2.1 dX1_build_42 rfl (lv_at hl 2 rfl) ?_
    refine mg_pSpan X hK hG dX1_build_43 ?_
    refine lv_iload X.1 X.2.1 dX1_build_46 (lv_at hl 0 rfl) ?_
    refine ml_pSpan X hK hG (S.2 37) rfl (by first | omega | (split <;> omega)) dX1_build_48 ?_
    refine i_add X dX1_build_49 ?_
    refine i_top (fun E e_E => ?_)
    refine lv_istore (lv' := [(5, .int (iI (E))), (4, .int (iI (t0))), (3, .int (iI (z))), (0, .ref o), (1, .int (iI (ru))), (2, .int (iI (i)))]) X.1 X.2.1 dX1_build_50 hl (by decide) rfl (fun ls hl => ?_)
    have e_E0 : E = S.2 33 ru + S.2 37 (S.2 33 ru) := by rw [e_E, e_t0]
    rw [← e_E] at hR8 hok hR3
    refine lv_iconst (v := iI (0)) X.1 X.2.1 dX1_build_52 rfl ?_
    refine lv_istore (lv' := [(6, .int (iI (0))), (5, .int (iI (E))), (4, .int (iI (t0))), (3, .int (iI (z))), (0, .ref o), (1, .int (iI (ru))), (2, .int (iI (i)))]) X.1 X.2.1 dX1_build_53 hl (by decide) rfl (fun ls hl => ?_)
    obtain ⟨Z, eZ⟩ : ∃ Z, Z = bM S ru i E ((E - t0).toNat + 1) t0 [] 0 (fm S) := ⟨_, rfl⟩
    rw [mP_add (k := 57) (f := S.2 57) (l' := [(57, S.2 57)]) rfl rfl, mP_add (k := 58) (f := S.2 58) (l' := [(57, S.2 57), (58, S.2 58)]) rfl rfl, mP_add (k := 59) (f := S.2 59) (l' := [(57, S.2 57), (58, S.2 58), (59, S.2 59)]) rfl rfl, mP_add (k := 60) (f := S.2 60) (l' := [(57, S.2 57), (58, S.2 58), (59, S.2 59), (60, S.2 60)]) rfl rfl, mP_add (k := 61) (f := S.2 61) (l' := [(57, S.2 57), (58, S.2 58), (59, S.2 59), (60, S.2 60), (61, S.2 61)]) rfl rfl, mP_add (k := 62) (f := S.2 62) (l' := [(57, S.2 57), (58, S.2 58), (59, S.2 59), (60, S.2 60), (61, S.2 61), (62, S.2 62)]) rfl rfl, mP_add (k := 63) (f := S.2 63) (l' := [(57, S.2 57), (58, S.2 58), (59, S.2 59), (60, S.2 60), (61, S.2 61), (62, S.2 62), (63, S.2 63)]) rfl rfl, mP_add (k := 64) (f := S.2 64) (l' := [(57, S.2 57), (58, S.2 58), (59, S.2 59), (60, S.2 60), (61, S.2 61), (62, S.2 62), (63, S.2 63), (64, S.2 64)]) rfl rfl, mP_add (k := 65) (f := S.2 65) (l' := [(57, S.2 57), (58, S.2 58), (59, S.2 59), (60, S.2 60), (61, S.2 61), (62, S.2 62), (63, S.2 63), (64, S.2 64), (65, S.2 65)]) rfl rfl] at hG
    have L55 : ∀ (N55 : Nat) (t op fr : Int) (stk : List (Int × Int)) (F : FF) (oA oE : Int → Int), (t0 ≤ t ∧ t ≤ E) → (op = (stk.length : Int)) → (stR stk oA oE) → (bOk S ru i E ((E - t).toNat + 1) t stk fr F) → (bM S ru i E ((E - t).toNat + 1) t stk fr F = Z) → (E - t).toNat < N55 → ∀ (H : Heap) (locs : List Loc) (ls : Array Slot), gOk D (mA o) (mH ca o (mP S [(57, F 57), (58, F 58), (59, F 59), (60, F 60), (61, F 61), (62, F 62), (63, F 63), (64, oA), (65, oE)] [(56, fr)])) H → va_S (mA o) s.heap H locs → lv_has ls 11 [(0, .ref o), (1, .int (iI (ru))), (2, .int (iI (i))), (3, .int (iI (z))), (4, .int (iI (t))), (5, .int (iI (E))), (6, .int (iI (op)))] → W p l e (mR lv) s m args below meth c H locs 0 0 Q (F0 m 55 ls []) := by
      intro N55
      induction N55 with
      | zero => intro t op fr stk F oA oE ht hop hst hok hM hN; exact absurd hN (Nat.not_lt_zero _)
      | succ N55 ih55 =>
        intro t op fr stk F oA oE ht hop hst hok hM hN55 H locs ls hG hS hl
        refine lv_iload X.1 X.2.1 dX1_build_55 (lv_at hl 4 rfl) ?_
        refine lv_iload X.1 X.2.1 dX1_build_57 (lv_at hl 5 rfl) ?_
        refine i_icmp_ge X 378 dX1_build_59 (by decide) (by first | omega | (split <;> omega)) (by first | omega | (split <;> omega)) (fun c59 => ?_) (fun c59 => ?_)
        · refine ret _ _ _ _ _ ?_ hG hS dX1_build_378
          exact ⟨_, F, oA, oE, rfl, by rw [← e_E0, ← e_t0, ← eZ, ← hM, show (E - t).toNat + 1 = 0 + 1 by omega, bM_s, if_pos (by omega)]⟩
        · have hQ := hR8 t (by omega) (by omega)
          have hQ1 := hQ.1
          have hQ2 := hQ.2.1
          have hQ3 := hQ.2.2.2.1
          have hQ4 := hQ.2.2.2.2.2.1
          have hQ5 := hQ.2.2.2.2.2.2
          rw [show (E - t).toNat + 1 = ((E - (t + 1)).toNat + 1) + 1 by omega] at hok hM
          rw [bOk_s] at hok
          obtain ⟨ho1, ho2, ho3, ho4, ho5, ho6⟩ := hok.resolve_left (by omega)
          rw [bM_s, if_neg (by omega)] at hM
          refine lv_iconst (v := iI (1)) X.1 X.2.1 dX1_build_62 rfl ?_
          refine lv_istore (lv' := [(7, .int (iI (1))), (0, .ref o), (1, .int (iI (ru))), (2, .int (iI (i))), (3, .int (iI (z))), (4, .int (iI (t))), (5, .int (iI (E))), (6, .int (iI (op)))]) X.1 X.2.1 dX1_build_63 hl (by decide) rfl (fun ls hl => ?_)
          have K106 : ∀ (q : Int), (q = bP S ru t) → ∀ (H : Heap) (locs : List Loc) (ls : Array Slot), gOk D (mA o) (mH ca o (mP S [(57, F 57), (58, F 58), (59, F 59), (60, F 60), (61, F 61), (62, F 62), (63, F 63), (64, oA), (65, oE)] [(56, fr)])) H → va_S (mA o) s.heap H locs → lv_has ls 11 [(0, .ref o), (1, .int (iI (ru))), (2, .int (iI (i))), (3, .int (iI (z))), (4, .int (iI (t))), (5, .int (iI (E))), (6, .int (iI (op))), (7, .int (iI (1)))] → W p l e (mR lv) s m args below meth c H locs 0 0 Q (F0 m 106 ls [.int (iI (q))]) := by
            intro q hq H locs ls hG hS hl
            refine lv_istore (lv' := [(8, .int (iI (q))), (0, .ref o), (1, .int (iI (ru))), (2, .int (iI (i))), (3, .int (iI (z))), (4, .int (iI (t))), (5, .int (iI (E))), (6, .int (iI (op))), (7, .int (iI (1)))]) X.1 X.2.1 dX1_build_106 hl (by decide) rfl (fun ls hl => ?_)
            have hqv := spVar_in S ru (S.2 35 t)
            have hq9 : q = -9 ∨ (S.2 32 ru ≤ q ∧ q < t0 ∧ (S.2 34 q = 6 ∨ S.2 34 q = 7)) := by
              rw [hq]; unfold bP
              by_cases h67 : S.2 34 t = 6 ∨ S.2 34 t = 7
              · rw [if_pos h67, e_t0]; omega
              · rw [if_neg h67]; exact Or.inl rfl
            have hqk : q ≠ -9 → S.2 34 t = 6 ∨ S.2 34 t = 7 := by
              intro h9
              rcases Classical.em (S.2 34 t = 6 ∨ S.2 34 t = 7) with h | h
              · exact h
              · exfalso; apply h9; rw [hq]; unfold bP; rw [if_neg h]
            have K124 : ∀ (b : Int), (b = if S.2 34 t = 2 then 1 else 0) → ∀ (H : Heap) (locs : List Loc) (ls : Array Slot), gOk D (mA o) (mH ca o (mP S [(57, F 57), (58, F 58), (59, F 59), (60, F 60), (61, F 61), (62, F 62), (63, F 63), (64, oA), (65, oE)] [(56, fr)])) H → va_S (mA o) s.heap H locs → lv_has ls 11 [(0, .ref o), (1, .int (iI (ru))), (2, .int (iI (i))), (3, .int (iI (z))), (4, .int (iI (t))), (5, .int (iI (E))), (6, .int (iI (op))), (7, .int (iI (1))), (8, .int (iI (q)))] → W p l e (mR lv) s m args below meth c H locs 0 0 Q (F0 m 124 ls [.int (iI (b))]) := by
              intro b hb H locs ls hG hS hl
              refine lv_istore (lv' := [(9, .int (iI (b))), (0, .ref o), (1, .int (iI (ru))), (2, .int (iI (i))), (3, .int (iI (z))), (4, .int (iI (t))), (5, .int (iI (E))), (6, .int (iI (op))), (7, .int (iI (1))), (8, .int (iI (q)))]) X.1 X.2.1 dX1_build_124 hl (by decide) rfl (fun ls hl => ?_)
              refine lv_aload_n X.1 X.2.1 dX1_build_126 rfl (lv_at hl 1 rfl) ?_
              refine mg_fresh X hK hG fr rfl dX1_build_127 ?_
              refine lv_istore (lv' := [(10, .int (iI (fr))), (9, .int (iI (b))), (0, .ref o), (1, .int (iI (ru))), (2, .int (iI (i))), (3, .int (iI (z))), (4, .int (iI (t))), (5, .int (iI (E))), (6, .int (iI (op))), (7, .int (iI (1))), (8, .int (iI (q)))]) X.1 X.2.1 dX1_build_130 hl (by decide) rfl (fun ls hl => ?_)
              have hb01 : b = 0 ∨ b = 1 := by rw [hb]; split <;> omega
              have K263 : ∀ (n fr1 : Int) (F1 : FF), (n = (bN S ru i t).2) → (fr1 = fr + ((bN S ru i t).1.length : Int)) → (F1 = bLay F fr (bN S ru i t).1) → (0 ≤ n ∧ n ≤ 500) → (0 ≤ fr1 ∧ fr1 ≤ 900000) → ∀ (H : Heap) (locs : List Loc) (ls : Array Slot), gOk D (mA o) (mH ca o (mP S [(57, F1 57), (58, F1 58), (59, F1 59), (60, F1 60), (61, F1 61), (62, F1 62), (63, F1 63), (64, oA), (65, oE)] [(56, fr1)])) H → va_S (mA o) s.heap H locs → lv_has ls 11 [(0, .ref o), (1, .int (iI (ru))), (2, .int (iI (i))), (3, .int (iI (z))), (4, .int (iI (t))), (5, .int (iI (E))), (6, .int (iI (op))), (7, .int (iI (n))), (9, .int (iI (b))), (10, .int (iI (fr)))] → W p l e (mR lv) s m args below meth c H locs 0 0 Q (F0 m 263 ls []) := by
                intro n fr1 F1 hn1 hfr1 hF1 hn0 hf1r H locs ls hG hS hl
                have K302 : ∀ (F2 : FF), (F2 = bAdd stk n F1) → ∀ (H : Heap) (locs : List Loc) (ls : Array Slot), gOk D (mA o) (mH ca o (mP S [(57, F2 57), (58, F2 58), (59, F2 59), (60, F2 60), (61, F2 61), (62, F2 62), (63, F2 63), (64, oA), (65, oE)] [(56, fr1)])) H → va_S (mA o) s.heap H locs → lv_has ls 11 [(0, .ref o), (1, .int (iI (ru))), (2, .int (iI (i))), (3, .int (iI (z))), (4, .int (iI (t))), (5, .int (iI (E))), (6, .int (iI (op))), (9, .int (iI (b))), (10, .int (iI (fr)))] → W p l e (mR lv) s m args below meth c H locs 0 0 Q (F0 m 302 ls []) := by
                  intro F2 hF2 H locs ls hG hS hl
                  have K336 : ∀ (op2 : Int) (stk2 : List (Int × Int)) (oA2 oE2 : Int → Int), (op2 = (stk2.length : Int)) → (stR stk2 oA2 oE2) → (stk2 = bPu S t fr stk) → (op2 ≤ 16) → ∀ (H : Heap) (locs : List Loc) (ls : Array Slot), gOk D (mA o) (mH ca o (mP S [(57, F2 57), (58, F2 58), (59, F2 59), (60, F2 60), (61, F2 61), (62, F2 62), (63, F2 63), (64, oA2), (65, oE2)] [(56, fr1)])) H → va_S (mA o) s.heap H locs → lv_has ls 11 [(0, .ref o), (1, .int (iI (ru))), (2, .int (iI (i))), (3, .int (iI (z))), (4, .int (iI (t))), (5, .int (iI (E))), (6, .int (iI (op2)))] → W p l e (mR lv) s m args below meth c H locs 0 0 Q (F0 m 336 ls []) := by
                    intro op2 stk2 oA2 oE2 hop2 hst2 hstk2 hop16 H locs ls hG hS hl
                    refine i_inc (lv' := [(4, .int (iI (t + 1))), (0, .ref o), (1, .int (iI (ru))), (2, .int (iI (i))), (3, .int (iI (z))), (5, .int (iI (E))), (6, .int (iI (op2)))]) X dX1_build_336 hl (k := 4) rfl (by decide) rfl (fun ls hl => ?_)
                    have hpok2 : bPok (t + 1) fr1 stk2 F2 := by rw [hfr1, hstk2, hF2, hn1, hF1]; exact ho5
                    have L339 : ∀ (N339 : Nat) (op3 : Int) (stk3 : List (Int × Int)) (F3 : FF), (op3 = (stk3.length : Int)) → (stR stk3 oA2 oE2) → (bPok (t + 1) fr1 stk3 F3) → (bPop (t + 1) fr1 stk3 F3 = bPop (t + 1) fr1 stk2 F2) → (op3 ≤ op2) → op3.toNat < N339 → ∀ (H : Heap) (locs : List Loc) (ls : Array Slot), gOk D (mA o) (mH ca o (mP S [(57, F3 57), (58, F3 58), (59, F3 59), (60, F3 60), (61, F3 61), (62, F3 62), (63, F3 63), (64, oA2), (65, oE2)] [(56, fr1)])) H → va_S (mA o) s.heap H locs → lv_has ls 11 [(0, .ref o), (1, .int (iI (ru))), (2, .int (iI (i))), (3, .int (iI (z))), (4, .int (iI (t + 1))), (5, .int (iI (E))), (6, .int (iI (op3)))] → W p l e (mR lv) s m args below meth c H locs 0 0 Q (F0 m 339 ls []) := by
                      intro N339
                      induction N339 with
                      | zero => intro op3 stk3 F3 hop3 hst3 hpok3 hpop3 hle3 hN; exact absurd hN (Nat.not_lt_zero _)
                      | succ N339 ih339 =>
                        intro op3 stk3 F3 hop3 hst3 hpok3 hpop3 hle3 hN339 H locs ls hG hS hl
                        refine lv_iload X.1 X.2.1 dX1_build_339 (lv_at hl 6 rfl) ?_
                        refine i_if_le X 375 dX1_build_341 (by decide) (by first | omega | (split <;> omega)) (fun c341 => ?_) (fun c341 => ?_)
                        · refine lv_goto (tgt := 55) X.1 X.2.1 dX1_build_375 (by decide) ?_
                          have hPZ : bPop (t + 1) fr1 stk2 F2 = (stk3, F3) := by
                            rw [← hpop3]
                            first
                            | (rw [show stk3 = [] from List.eq_nil_of_length_eq_zero (by omega)]; rfl)
                            | (rw [if_neg (by omega), ← hs3])
                          rw [hF1, hn1] at hF2
                          rw [← hF2, ← hfr1, ← hstk2, hPZ] at ho6 hM
                          have hokN := ho6
                          have hMN := hM
                          exact ih55 (t + 1) op3 fr1 stk3 F3 oA2 oE2 (by omega) hop3 hst3 hokN hMN (by omega) H locs ls hG hS (lv_sub hl [0, 1, 2, 3, 4, 5, 6] rfl)
                        · obtain ⟨l2, e2, s2, hs3⟩ : ∃ l2 e2 s2, stk3 = (l2, e2) :: s2 := by
                            cases hh : stk3 with
                            | nil => rw [hh] at hop3; simp at hop3; omega
                            | cons x s => exact ⟨x.1, x.2, s, rfl⟩
                          have hopL : op3 - 1 = (s2.length : Int) := by rw [hop3, hs3]; simp
                          have hst4 := hst3
                          rw [hs3] at hst4 hpok3 hpop3
                          have hoE : oE2 (op3 - 1) = e2 := by rw [hopL]; exact hst4.2.1
                          rw [bPok_c] at hpok3
                          rw [bPop_c] at hpop3
                          have hpkE := hpok3.1
                          refine lv_aload_n X.1 X.2.1 dX1_build_344 rfl (lv_at hl 0 rfl) ?_
                          refine mg_openEnd X hK hG dX1_build_345 ?_
                          refine lv_iload X.1 X.2.1 dX1_build_348 (lv_at hl 6 rfl) ?_
                          refine lv_iconst (v := iI (1)) X.1 X.2.1 dX1_build_350 rfl ?_
                          refine i_sub X dX1_build_351 ?_
                          refine ml_openEnd X hK hG oE2 rfl (by first | omega | (split <;> omega)) dX1_build_352 ?_
                          refine lv_iload X.1 X.2.1 dX1_build_353 (lv_at hl 4 rfl) ?_
                          refine i_icmp_ne X 375 dX1_build_355 (by decide) (by first | omega | (split <;> omega)) (by first | omega | (split <;> omega)) (fun c355 => ?_) (fun c355 => ?_)
                          · refine lv_goto (tgt := 55) X.1 X.2.1 dX1_build_375 (by decide) ?_
                            have hPZ : bPop (t + 1) fr1 stk2 F2 = (stk3, F3) := by
                              rw [← hpop3]
                              first
                              | (rw [show stk3 = [] from List.eq_nil_of_length_eq_zero (by omega)]; rfl)
                              | (rw [if_neg (by omega), ← hs3])
                            rw [hF1, hn1] at hF2
                            rw [← hF2, ← hfr1, ← hstk2, hPZ] at ho6 hM
                            have hokN := ho6
                            have hMN := hM
                            exact ih55 (t + 1) op3 fr1 stk3 F3 oA2 oE2 (by omega) hop3 hst3 hokN hMN (by omega) H locs ls hG hS (lv_sub hl [0, 1, 2, 3, 4, 5, 6] rfl)
                          · have hpk := hpok3.2 (by omega)
                            have hoA : oA2 (op3 - 1) = l2 := by rw [hopL]; exact hst4.1
                            refine i_inc (lv' := [(6, .int (iI (op3 + (-1)))), (0, .ref o), (1, .int (iI (ru))), (2, .int (iI (i))), (3, .int (iI (z))), (4, .int (iI (t + 1))), (5, .int (iI (E)))]) X dX1_build_358 hl (k := 6) rfl (by decide) rfl (fun ls hl => ?_)
                            refine lv_aload_n X.1 X.2.1 dX1_build_361 rfl (lv_at hl 1 rfl) ?_
                            refine lv_aload_n X.1 X.2.1 dX1_build_362 rfl (lv_at hl 1 rfl) ?_
                            refine mg_openAt X hK hG dX1_build_363 ?_
                            refine lv_iload X.1 X.2.1 dX1_build_366 (lv_at hl 0 rfl) ?_
                            refine ml_openAt X hK hG oA2 rfl (by first | omega | (split <;> omega)) dX1_build_368 ?_
                            refine m_callVv (rest := []) (n := 1) X hK hG hS (fun _ h => h) (mm_endList l D ca o (lv - 1) (mP S [(57, F3 57), (58, F3 58), (59, F3 59), (60, F3 60), (61, F3 61), (62, F3 62), (63, F3 63), (64, oA2), (65, oE2)] [(56, fr1)]) (oA2 (op3 - 1)) (by omega) (show 0 ≤ fr1 ∧ fr1 ≤ 1000000 by omega) (by rw [hoA]; exact hpk.1)) (lw_V q1624 q1626 qs60 q70 q1627) (by decide +kernel) rfl ⟨by show (lv - 1) + 1 ≤ lv; omega, by show 8 + (4 + 11) + 40 * (lv - 1) ≤ 40 * lv; omega⟩ ⟨Nat.le_refl _, Nat.le_refl _⟩ hl.1 rfl (Nat.le_of_ble_eq_true rfl) dX1_build_369 (fun S1 H locs hpE hG hS _ _ => ?_)
                            rw [hoA] at hpE
                            have hG : gOk D (mA o) (mH ca o (mP S [(57, bEnd fr1 l2 F3 57), (58, bEnd fr1 l2 F3 58), (59, bEnd fr1 l2 F3 59), (60, bEnd fr1 l2 F3 60), (61, bEnd fr1 l2 F3 61), (62, bEnd fr1 l2 F3 62), (63, bEnd fr1 l2 F3 63), (64, oA2), (65, oE2)] [(56, fr1)])) H := by
                              rcases hpE with ⟨h5, rfl⟩ | ⟨h5, rfl⟩
                              · have e1 : bEnd fr1 l2 F3 = F3 := if_pos h5
                                rw [e1]; exact hG
                              · rw [mP_mP (l' := [(57, upI (F3 57) l2 (spJ (F3 63 l2) (bI (decide (0 < F3 63 l2) && decide (F3 57 (l2 + 1) = 1))) (if 0 < F3 63 l2 ∧ F3 57 (l2 + 1) = 1 then F3 58 (l2 + 1) else 0) (bI (decide (1 < F3 63 l2) && decide (F3 57 (l2 + 1 + F3 62 (l2 + 1)) = 1))))), (58, F3 58), (59, F3 59), (60, F3 60), (61, F3 61), (62, upI (F3 62) l2 (fr1 - l2)), (63, F3 63), (64, oA2), (65, oE2)]) (sc' := [(56, fr1)]) rfl rfl] at hG
                                have e1 : bEnd fr1 l2 F3 = _ := if_neg (show ¬ 500 < fr1 by have h5 : fr1 ≤ 500 := h5; omega)
                                rw [e1]; exact hG
                            refine lv_goto (tgt := 339) X.1 X.2.1 dX1_build_372 (by decide) ?_
                            exact ih339 (op3 - 1) s2 (bEnd fr1 l2 F3) hopL hst4.2.2 hpk.2 (by rw [← hpop3, if_pos (by omega)]) (by omega) (by omega) H locs ls hG hS (lv_sub hl [1, 2, 3, 4, 5, 6, 0] rfl)
                    exact L339 _ op2 stk2 F2 hop2 hst2 hpok2 rfl (Int.le_refl _) (Nat.lt_succ_self _) H locs ls hG hS (lv_sub hl [1, 2, 3, 4, 0, 5, 6] rfl)
                  refine lv_iload X.1 X.2.1 dX1_build_302 (lv_at hl 7 rfl) ?_
                  refine i_if_eq X 336 dX1_build_304 (by decide) (by first | omega | (split <;> omega)) (fun c304 => ?_) (fun c304 => ?_)
                  · exact K336 op stk oA oE hop hst (by unfold bPu; rw [if_neg (by intro h; rw [hb, if_pos h] at c304; omega)]) (by omega) H locs ls hG hS (lv_sub hl [0, 1, 2, 3, 4, 5, 6] rfl)
                  · refine lv_aload_n X.1 X.2.1 dX1_build_307 rfl (lv_at hl 0 rfl) ?_
                    refine mg_openAt X hK hG dX1_build_308 ?_
                    refine lv_iload X.1 X.2.1 dX1_build_311 (lv_at hl 6 rfl) ?_
                    refine lv_iload X.1 X.2.1 dX1_build_313 (lv_at hl 8 rfl) ?_
                    refine ms_openAt X hK hG hS (by first | omega | (split <;> omega)) dX1_build_315 (fun H locs hG hS => ?_)
                    rw [mU_mP (l' := [(57, F2 57), (58, F2 58), (59, F2 59), (60, F2 60), (61, F2 61), (62, F2 62), (63, F2 63), (64, upI oA op fr), (65, oE)]) rfl rfl] at hG
                    refine lv_aload_n X.1 X.2.1 dX1_build_316 rfl (lv_at hl 0 rfl) ?_
                    refine mg_openEnd X hK hG dX1_build_317 ?_
                    refine lv_iload X.1 X.2.1 dX1_build_320 (lv_at hl 6 rfl) ?_
                    refine lv_iload X.1 X.2.1 dX1_build_322 (lv_at hl 4 rfl) ?_
                    refine lv_aload_n X.1 X.2.1 dX1_build_324 rfl (lv_at hl 0 rfl) ?_
                    refine mg_pSpan X hK hG dX1_build_325 ?_
                    refine lv_iload X.1 X.2.1 dX1_build_328 (lv_at hl 4 rfl) ?_
                    refine ml_pSpan X hK hG (S.2 37) rfl (by first | omega | (split <;> omega)) dX1_build_330 ?_
                    refine i_add X dX1_build_331 ?_
                    refine ms_openEnd X hK hG hS (by first | omega | (split <;> omega)) dX1_build_332 (fun H locs hG hS => ?_)
                    rw [mU_mP (l' := [(57, F2 57), (58, F2 58), (59, F2 59), (60, F2 60), (61, F2 61), (62, F2 62), (63, F2 63), (64, upI oA op fr), (65, upI oE op (t + (S.2 37 t)))]) rfl rfl] at hG
                    refine i_inc (lv' := [(6, .int (iI (op + 1))), (0, .ref o), (1, .int (iI (ru))), (2, .int (iI (i))), (3, .int (iI (z))), (4, .int (iI (t))), (5, .int (iI (E))), (9, .int (iI (b))), (10, .int (iI (fr)))]) X dX1_build_333 hl (k := 6) rfl (by decide) rfl (fun ls hl => ?_)
                    exact K336 (op + 1) ((fr, t + S.2 37 t) :: stk) (upI oA op fr) (upI oE op (t + (S.2 37 t))) (by rw [hop]; simp) ⟨by rw [← hop, upI_s], by rw [← hop, upI_s], stR_up hst (by omega) _ _⟩ (by unfold bPu; rw [if_pos (by rcases Classical.em (S.2 34 t = 2) with h | h; exact h; exfalso; apply c304; rw [hb, if_neg h])]) (by omega) H locs ls hG hS (lv_sub hl [1, 2, 3, 4, 5, 6, 0] rfl)
                refine lv_iload X.1 X.2.1 dX1_build_263 (lv_at hl 6 rfl) ?_
                refine i_if_le X 302 dX1_build_265 (by decide) (by first | omega | (split <;> omega)) (fun c265 => ?_) (fun c265 => ?_)
                · have e1 : bAdd stk n F1 = F1 := by
                    first
                    | (rw [hs2]; show (if l2 < 500 then _ else _) = _; rw [if_neg (by omega)]; done)
                    | (rw [show stk = [] from List.eq_nil_of_length_eq_zero (by omega)]; rfl)
                  have hG : gOk D (mA o) (mH ca o (mP S [(57, bAdd stk n F1 57), (58, bAdd stk n F1 58), (59, bAdd stk n F1 59), (60, bAdd stk n F1 60), (61, bAdd stk n F1 61), (62, bAdd stk n F1 62), (63, bAdd stk n F1 63), (64, oA), (65, oE)] [(56, fr1)])) H := by rw [e1]; exact hG
                  exact K302 (bAdd stk n F1) rfl H locs ls hG hS (lv_sub hl [0, 1, 2, 3, 4, 5, 6, 8, 9] rfl)
                · obtain ⟨l2, e2, s2, hs2⟩ : ∃ l2 e2 s2, stk = (l2, e2) :: s2 := by
                    cases hh : stk with
                    | nil => rw [hh] at hop; simp at hop; omega
                    | cons x s => exact ⟨x.1, x.2, s, rfl⟩
                  have hst2 := hst
                  rw [hs2] at hst2
                  have hop2 : op - 1 = (s2.length : Int) := by rw [hop, hs2]; simp
                  have hoA : oA (op - 1) = l2 := by rw [hop2]; exact hst2.1
                  have hl2 := ho3 l2 e2 s2 hs2
                  refine lv_aload_n X.1 X.2.1 dX1_build_268 rfl (lv_at hl 0 rfl) ?_
                  refine mg_openAt X hK hG dX1_build_269 ?_
                  refine lv_iload X.1 X.2.1 dX1_build_272 (lv_at hl 6 rfl) ?_
                  refine lv_iconst (v := iI (1)) X.1 X.2.1 dX1_build_274 rfl ?_
                  refine i_sub X dX1_build_275 ?_
                  refine ml_openAt X hK hG oA rfl (by first | omega | (split <;> omega)) dX1_build_276 ?_
                  refine lv_sipush (v := iI (500)) X.1 X.2.1 dX1_build_277 (by decide) ?_
                  refine i_icmp_ge X 302 dX1_build_280 (by decide) (by first | omega | (split <;> omega)) (by first | omega | (split <;> omega)) (fun c280 => ?_) (fun c280 => ?_)
                  · have e1 : bAdd stk n F1 = F1 := by
                      first
                      | (rw [hs2]; show (if l2 < 500 then _ else _) = _; rw [if_neg (by omega)]; done)
                      | (rw [show stk = [] from List.eq_nil_of_length_eq_zero (by omega)]; rfl)
                    have hG : gOk D (mA o) (mH ca o (mP S [(57, bAdd stk n F1 57), (58, bAdd stk n F1 58), (59, bAdd stk n F1 59), (60, bAdd stk n F1 60), (61, bAdd stk n F1 61), (62, bAdd stk n F1 62), (63, bAdd stk n F1 63), (64, oA), (65, oE)] [(56, fr1)])) H := by rw [e1]; exact hG
                    exact K302 (bAdd stk n F1) rfl H locs ls hG hS (lv_sub hl [0, 1, 2, 3, 4, 5, 6, 8, 9] rfl)
                  · refine lv_aload_n X.1 X.2.1 dX1_build_283 rfl (lv_at hl 0 rfl) ?_
                    refine mg_fParts X hK hG dX1_build_284 ?_
                    refine lv_aload_n X.1 X.2.1 dX1_build_287 rfl (lv_at hl 0 rfl) ?_
                    refine mg_openAt X hK hG dX1_build_288 ?_
                    refine lv_iload X.1 X.2.1 dX1_build_291 (lv_at hl 6 rfl) ?_
                    refine lv_iconst (v := iI (1)) X.1 X.2.1 dX1_build_293 rfl ?_
                    refine i_sub X dX1_build_294 ?_
                    refine ml_openAt X hK hG oA rfl (by first | omega | (split <;> omega)) dX1_build_295 ?_
                    refine lv_dup2_11 X.1 X.2.1 dX1_build_296 rfl rfl ?_
                    refine ml_fParts X hK hG (F1 63) rfl (by first | omega | (split <;> omega)) dX1_build_297 ?_
                    refine lv_iload X.1 X.2.1 dX1_build_298 (lv_at hl 7 rfl) ?_
                    refine i_add X dX1_build_300 ?_
                    refine ms_fParts X hK hG hS (by first | omega | (split <;> omega)) dX1_build_301 (fun H locs hG hS => ?_)
                    rw [mU_mP (l' := [(57, F1 57), (58, F1 58), (59, F1 59), (60, F1 60), (61, F1 61), (62, F1 62), (63, upI (F1 63) (oA (op - 1)) ((F1 63 (oA (op - 1))) + n)), (64, oA), (65, oE)]) rfl rfl] at hG
                    have e1 : bAdd stk n F1 = up2 F1 63 (upI (F1 63) (oA (op - 1)) (F1 63 (oA (op - 1)) + n)) := by
                      rw [hs2]
                      show (if l2 < 500 then _ else _) = _
                      rw [if_pos (by omega), hoA]
                    have hG : gOk D (mA o) (mH ca o (mP S [(57, bAdd stk n F1 57), (58, bAdd stk n F1 58), (59, bAdd stk n F1 59), (60, bAdd stk n F1 60), (61, bAdd stk n F1 61), (62, bAdd stk n F1 62), (63, bAdd stk n F1 63), (64, oA), (65, oE)] [(56, fr1)])) H := by rw [e1]; exact hG
                    exact K302 (bAdd stk n F1) rfl H locs ls hG hS (lv_sub hl [0, 1, 2, 3, 4, 5, 6, 8, 9] rfl)
              refine lv_iload X.1 X.2.1 dX1_build_132 (lv_at hl 1 rfl) ?_
              refine i_if_eq X 163 dX1_build_134 (by decide) (by first | omega | (split <;> omega)) (fun c134 => ?_) (fun c134 => ?_)
              · have hk2 : S.2 34 t ≠ 2 := by intro h; rw [hb, if_pos h] at c134; omega
                refine lv_iload X.1 X.2.1 dX1_build_163 (lv_at hl 10 rfl) ?_
                refine lv_bipush (v := iI (-9)) X.1 X.2.1 dX1_build_165 (by decide) ?_
                refine i_icmp_eq X 193 dX1_build_167 (by decide) (by first | omega | (split <;> omega)) (by first | omega | (split <;> omega)) (fun c167 => ?_) (fun c167 => ?_)
                · refine lv_aload_n X.1 X.2.1 dX1_build_193 rfl (lv_at hl 2 rfl) ?_
                  refine mg_pKind X hK hG dX1_build_194 ?_
                  refine lv_iload X.1 X.2.1 dX1_build_197 (lv_at hl 6 rfl) ?_
                  refine ml_pKind X hK hG (S.2 34) rfl (by first | omega | (split <;> omega)) dX1_build_199 ?_
                  refine i_if_ne X 235 dX1_build_200 (by decide) (by first | omega | (split <;> omega)) (fun c200 => ?_) (fun c200 => ?_)
                  · refine lv_aload_n X.1 X.2.1 dX1_build_235 rfl (lv_at hl 2 rfl) ?_
                    refine lv_iconst (v := iI (1)) X.1 X.2.1 dX1_build_236 rfl ?_
                    refine lv_aload_n X.1 X.2.1 dX1_build_237 rfl (lv_at hl 2 rfl) ?_
                    refine mg_pValue X hK hG dX1_build_238 ?_
                    refine lv_iload X.1 X.2.1 dX1_build_241 (lv_at hl 6 rfl) ?_
                    refine ml_pValue X hK hG (S.2 35) rfl (by first | omega | (split <;> omega)) dX1_build_243 ?_
                    refine lv_iload_n X.1 X.2.1 dX1_build_244 rfl (lv_at hl 5 rfl) ?_
                    refine lv_aload_n X.1 X.2.1 dX1_build_245 rfl (lv_at hl 2 rfl) ?_
                    refine mg_pPlace X hK hG dX1_build_246 ?_
                    refine lv_iload X.1 X.2.1 dX1_build_249 (lv_at hl 6 rfl) ?_
                    refine ml_pPlace X hK hG (S.2 36) rfl (by first | omega | (split <;> omega)) dX1_build_251 ?_
                    refine lv_aload_n X.1 X.2.1 dX1_build_252 rfl (lv_at hl 2 rfl) ?_
                    refine mg_steps X hK hG (S.1 49) rfl dX1_build_253 ?_
                    refine lv_iconst (v := iI (1)) X.1 X.2.1 dX1_build_256 rfl ?_
                    refine i_add X dX1_build_257 ?_
                    refine lv_iconst (v := iI (1)) X.1 X.2.1 dX1_build_258 rfl ?_
                    refine lv_iconst (v := iI (0)) X.1 X.2.1 dX1_build_259 rfl ?_
                    refine m_callVv (rest := []) (n := 7) X hK hG hS (fun _ h => h) (mm_lay l D ca o (lv - 1) (mP S [(57, F 57), (58, F 58), (59, F 59), (60, F 60), (61, F 61), (62, F 62), (63, F 63), (64, oA), (65, oE)] [(56, fr)]) 1 (S.2 35 t) z (S.2 36 t) ((S.1 49) + 1) 1 0 (show 0 ≤ fr ∧ fr ≤ 1000000 by omega)) (lw_V q1616 q1618 qs58 q70 q1619) (by decide +kernel) rfl ⟨by show (lv - 1) + 1 ≤ lv; omega, by show 8 + (9 + 11) + 40 * (lv - 1) ≤ 40 * lv; omega⟩ ⟨Nat.le_refl _, Nat.le_refl _⟩ hl.1 rfl (Nat.le_of_ble_eq_true rfl) dX1_build_260 (fun S2 H locs hp2 hG hS _ _ => ?_)
                    obtain rfl := hp2
                    rw [mP_mP (l' := [(57, upL (F 57) fr 1), (58, upL (F 58) fr (S.2 35 t)), (59, upL (F 59) fr z), (60, upL (F 60) fr (S.2 36 t)), (61, upL (F 61) fr ((S.1 49) + 1)), (62, upL (F 62) fr 1), (63, upL (F 63) fr 0), (64, oA), (65, oE)]) (sc' := [(56, fr + 1)]) rfl rfl] at hG
                    have hrow : (bN S ru i t) = ([rw7 1 (S.2 35 t) (bOwn S ru i) (S.2 36 t) (S.1 49 + 1) 1 0], 1) := by unfold bN; rw [if_neg (by omega), if_neg (by omega), if_neg (by omega)]
                    obtain ⟨b0, b1, b2, b3, b4, b5, b6⟩ := bLay1 F fr 1 (S.2 35 t) z (S.2 36 t) ((S.1 49) + 1) 1 0
                    rw [← b0, ← b1, ← b2, ← b3, ← b4, ← b5, ← b6] at hG
                    have hG : gOk D (mA o) (mH ca o (mP S [(57, bLay F fr (bN S ru i t).1 57), (58, bLay F fr (bN S ru i t).1 58), (59, bLay F fr (bN S ru i t).1 59), (60, bLay F fr (bN S ru i t).1 60), (61, bLay F fr (bN S ru i t).1 61), (62, bLay F fr (bN S ru i t).1 62), (63, bLay F fr (bN S ru i t).1 63), (64, oA), (65, oE)] [(56, fr + 1)])) H := by rw [hrow, ← hz]; exact hG
                    have hnA : 1 = (bN S ru i t).2 := by rw [hrow]
                    have hnB : fr + 1 = fr + ((bN S ru i t).1.length : Int) := by rw [hrow]; simp
                    have hnC : (0 : Int) ≤ 1 ∧ (1 : Int) ≤ 500 := by omega
                    have hnD : 0 ≤ fr + 1 ∧ fr + 1 ≤ 900000 := by omega
                    exact K263 1 (fr + 1) (bLay F fr (bN S ru i t).1) hnA hnB rfl hnC hnD H locs ls hG hS (lv_sub hl [2, 3, 4, 5, 6, 7, 8, 9, 1, 0] rfl)
                  · refine lv_aload_n X.1 X.2.1 dX1_build_203 rfl (lv_at hl 2 rfl) ?_
                    refine lv_iconst (v := iI (0)) X.1 X.2.1 dX1_build_204 rfl ?_
                    refine lv_aload_n X.1 X.2.1 dX1_build_205 rfl (lv_at hl 2 rfl) ?_
                    refine mg_pValue X hK hG dX1_build_206 ?_
                    refine lv_iload X.1 X.2.1 dX1_build_209 (lv_at hl 6 rfl) ?_
                    refine ml_pValue X hK hG (S.2 35) rfl (by first | omega | (split <;> omega)) dX1_build_211 ?_
                    refine lv_bipush (v := iI (-9)) X.1 X.2.1 dX1_build_212 (by decide) ?_
                    refine lv_aload_n X.1 X.2.1 dX1_build_214 rfl (lv_at hl 2 rfl) ?_
                    refine mg_pPlace X hK hG dX1_build_215 ?_
                    refine lv_iload X.1 X.2.1 dX1_build_218 (lv_at hl 6 rfl) ?_
                    refine ml_pPlace X hK hG (S.2 36) rfl (by first | omega | (split <;> omega)) dX1_build_220 ?_
                    refine lv_aload_n X.1 X.2.1 dX1_build_221 rfl (lv_at hl 2 rfl) ?_
                    refine mg_steps X hK hG (S.1 49) rfl dX1_build_222 ?_
                    refine lv_iconst (v := iI (1)) X.1 X.2.1 dX1_build_225 rfl ?_
                    refine i_add X dX1_build_226 ?_
                    refine lv_iconst (v := iI (1)) X.1 X.2.1 dX1_build_227 rfl ?_
                    refine lv_iconst (v := iI (0)) X.1 X.2.1 dX1_build_228 rfl ?_
                    refine m_callVv (rest := []) (n := 7) X hK hG hS (fun _ h => h) (mm_lay l D ca o (lv - 1) (mP S [(57, F 57), (58, F 58), (59, F 59), (60, F 60), (61, F 61), (62, F 62), (63, F 63), (64, oA), (65, oE)] [(56, fr)]) 0 (S.2 35 t) ((-9)) (S.2 36 t) ((S.1 49) + 1) 1 0 (show 0 ≤ fr ∧ fr ≤ 1000000 by omega)) (lw_V q1616 q1618 qs58 q70 q1619) (by decide +kernel) rfl ⟨by show (lv - 1) + 1 ≤ lv; omega, by show 8 + (9 + 11) + 40 * (lv - 1) ≤ 40 * lv; omega⟩ ⟨Nat.le_refl _, Nat.le_refl _⟩ hl.1 rfl (Nat.le_of_ble_eq_true rfl) dX1_build_229 (fun S3 H locs hp3 hG hS _ _ => ?_)
                    obtain rfl := hp3
                    rw [mP_mP (l' := [(57, upL (F 57) fr 0), (58, upL (F 58) fr (S.2 35 t)), (59, upL (F 59) fr ((-9))), (60, upL (F 60) fr (S.2 36 t)), (61, upL (F 61) fr ((S.1 49) + 1)), (62, upL (F 62) fr 1), (63, upL (F 63) fr 0), (64, oA), (65, oE)]) (sc' := [(56, fr + 1)]) rfl rfl] at hG
                    have hrow : (bN S ru i t) = ([rw7 0 (S.2 35 t) (-9) (S.2 36 t) (S.1 49 + 1) 1 0], 1) := by unfold bN; rw [if_neg (by omega), if_neg (by omega), if_pos (by omega)]
                    obtain ⟨b0, b1, b2, b3, b4, b5, b6⟩ := bLay1 F fr 0 (S.2 35 t) ((-9)) (S.2 36 t) ((S.1 49) + 1) 1 0
                    rw [← b0, ← b1, ← b2, ← b3, ← b4, ← b5, ← b6] at hG
                    have hG : gOk D (mA o) (mH ca o (mP S [(57, bLay F fr (bN S ru i t).1 57), (58, bLay F fr (bN S ru i t).1 58), (59, bLay F fr (bN S ru i t).1 59), (60, bLay F fr (bN S ru i t).1 60), (61, bLay F fr (bN S ru i t).1 61), (62, bLay F fr (bN S ru i t).1 62), (63, bLay F fr (bN S ru i t).1 63), (64, oA), (65, oE)] [(56, fr + 1)])) H := by rw [hrow]; exact hG
                    refine lv_goto (tgt := 263) X.1 X.2.1 dX1_build_232 (by decide) ?_
                    have hnA : 1 = (bN S ru i t).2 := by rw [hrow]
                    have hnB : fr + 1 = fr + ((bN S ru i t).1.length : Int) := by rw [hrow]; simp
                    have hnC : (0 : Int) ≤ 1 ∧ (1 : Int) ≤ 500 := by omega
                    have hnD : 0 ≤ fr + 1 ∧ fr + 1 ≤ 900000 := by omega
                    exact K263 1 (fr + 1) (bLay F fr (bN S ru i t).1) hnA hnB rfl hnC hnD H locs ls hG hS (lv_sub hl [2, 3, 4, 5, 6, 7, 8, 9, 1, 0] rfl)
                · have hqq : S.2 32 ru ≤ q ∧ q < t0 := by omega
                  have hqP : S.2 32 ru ≠ q := by intro h; rw [h] at hR1; omega
                  have hmq := hmet q (by omega) (by omega)
                  have hq1 : spFrom S ru i q = S.2 54 q := hmq.1.symm
                  have hq2 : spTo S ru i q = S.2 55 q := hmq.2.symm
                  have ho4 := ho4 (by rw [← hq]; exact c167)
                  rw [← hq, hq1, hq2] at ho4
                  refine lv_aload_n X.1 X.2.1 dX1_build_170 rfl (lv_at hl 2 rfl) ?_
                  refine lv_aload_n X.1 X.2.1 dX1_build_171 rfl (lv_at hl 2 rfl) ?_
                  refine mg_metFrom X hK hG dX1_build_172 ?_
                  refine lv_iload X.1 X.2.1 dX1_build_175 (lv_at hl 10 rfl) ?_
                  refine ml_metFrom X hK hG (S.2 54) rfl (by first | omega | (split <;> omega)) dX1_build_177 ?_
                  refine lv_aload_n X.1 X.2.1 dX1_build_178 rfl (lv_at hl 2 rfl) ?_
                  refine mg_metTo X hK hG dX1_build_179 ?_
                  refine lv_iload X.1 X.2.1 dX1_build_182 (lv_at hl 10 rfl) ?_
                  refine ml_metTo X hK hG (S.2 55) rfl (by first | omega | (split <;> omega)) dX1_build_184 ?_
                  refine m_callVi (rest := []) (n := 2) X hK hG hS (fun _ h => h) (mm_layCopies l D ca o (lv - 1) (mP S [(57, F 57), (58, F 58), (59, F 59), (60, F 60), (61, F 61), (62, F 62), (63, F 63), (64, oA), (65, oE)] [(56, fr)]) (S.2 54 q) (S.2 55 q) (by omega) (show 0 ≤ S.2 54 q ∧ S.2 54 q ≤ S.2 55 q ∧ S.2 55 q ≤ 500 by omega) (show 0 ≤ fr ∧ fr ≤ 900000 by omega) (show ∀ i2, S.2 54 q ≤ i2 → i2 < S.2 55 q → 0 ≤ S.2 46 i2 ∧ S.2 46 i2 ≤ 500 from fun i2 a b => by have := hT.1.r (i := i2) (by omega) (by omega); omega)) (lw_V q1620 q1622 qs59 q70 q1623) (by decide +kernel) rfl ⟨by show (lv - 1) + 1 ≤ lv; omega, by show 8 + (6 + 11) + 40 * (lv - 1) ≤ 40 * lv; omega⟩ ⟨Nat.le_refl _, Nat.le_refl _⟩ hl.1 rfl (Nat.le_of_ble_eq_true rfl) dX1_build_185 (fun z4 S4 H locs hp4 hG hS _ _ => ?_)
                  obtain ⟨hzz, g57, g58, g59, g60, g61, g62, g63, rfl, hcc⟩ := hp4
                  rw [mP_mP (l' := [(57, g57), (58, g58), (59, g59), (60, g60), (61, g61), (62, g62), (63, g63), (64, oA), (65, oE)]) (sc' := [(56, fr + (S.2 55 q - S.2 54 q))]) rfl rfl] at hG
                  have hrow : (bN S ru i t) = (cpR S (S.2 54 q) (S.2 55 q - S.2 54 q).toNat, sdN (S.2 46) (S.2 55 q - S.2 54 q).toNat (S.2 54 q) (S.2 54 q)) := by unfold bN; rw [if_neg (by omega), if_pos (by omega), ← hq, hq1, hq2]
                  have hm : ((S.2 55 q - S.2 54 q).toNat : Int) = S.2 55 q - S.2 54 q := by omega
                  have b0 : g57 = bLay F fr (cpR S (S.2 54 q) (S.2 55 q - S.2 54 q).toNat) 57 := bLayC S F fr _ _ 57 (by decide) _ (fun j => by rw [hm]; exact (hcc j).1)
                  have b1 : g58 = bLay F fr (cpR S (S.2 54 q) (S.2 55 q - S.2 54 q).toNat) 58 := bLayC S F fr _ _ 58 (by decide) _ (fun j => by rw [hm]; exact (hcc j).2.1)
                  have b2 : g59 = bLay F fr (cpR S (S.2 54 q) (S.2 55 q - S.2 54 q).toNat) 59 := bLayC S F fr _ _ 59 (by decide) _ (fun j => by rw [hm]; exact (hcc j).2.2.1)
                  have b3 : g60 = bLay F fr (cpR S (S.2 54 q) (S.2 55 q - S.2 54 q).toNat) 60 := bLayC S F fr _ _ 60 (by decide) _ (fun j => by rw [hm]; exact (hcc j).2.2.2.1)
                  have b4 : g61 = bLay F fr (cpR S (S.2 54 q) (S.2 55 q - S.2 54 q).toNat) 61 := bLayC S F fr _ _ 61 (by decide) _ (fun j => by rw [hm]; exact (hcc j).2.2.2.2.1)
                  have b5 : g62 = bLay F fr (cpR S (S.2 54 q) (S.2 55 q - S.2 54 q).toNat) 62 := bLayC S F fr _ _ 62 (by decide) _ (fun j => by rw [hm]; exact (hcc j).2.2.2.2.2.1)
                  have b6 : g63 = bLay F fr (cpR S (S.2 54 q) (S.2 55 q - S.2 54 q).toNat) 63 := bLayC S F fr _ _ 63 (by decide) _ (fun j => by rw [hm]; exact (hcc j).2.2.2.2.2.2)
                  rw [b0, b1, b2, b3, b4, b5, b6] at hG
                  have hG : gOk D (mA o) (mH ca o (mP S [(57, bLay F fr (bN S ru i t).1 57), (58, bLay F fr (bN S ru i t).1 58), (59, bLay F fr (bN S ru i t).1 59), (60, bLay F fr (bN S ru i t).1 60), (61, bLay F fr (bN S ru i t).1 61), (62, bLay F fr (bN S ru i t).1 62), (63, bLay F fr (bN S ru i t).1 63), (64, oA), (65, oE)] [(56, fr + (S.2 55 q - S.2 54 q))])) H := by rw [hrow]; exact hG
                  refine lv_istore (lv' := [(7, .int (iI (z4))), (10, .int (iI (fr))), (9, .int (iI (b))), (0, .ref o), (1, .int (iI (ru))), (2, .int (iI (i))), (3, .int (iI (z))), (4, .int (iI (t))), (5, .int (iI (E))), (6, .int (iI (op))), (8, .int (iI (q)))]) X.1 X.2.1 dX1_build_188 hl (by decide) rfl (fun ls hl => ?_)
                  refine lv_goto (tgt := 263) X.1 X.2.1 dX1_build_190 (by decide) ?_
                  have hsd := sdN_in (S.2 46) (S.2 55 q - S.2 54 q).toNat (S.2 54 q) (S.2 54 q)
                  have hnA : z4 = (bN S ru i t).2 := by rw [hrow, hzz]; rfl
                  have hnB : fr + (S.2 55 q - S.2 54 q) = fr + ((bN S ru i t).1.length : Int) := by rw [hrow]; show _ = fr + ((cpR S _ _).length : Int); rw [cpR_len, hm]
                  have hzz2 : z4 = sdN (S.2 46) (S.2 55 q - S.2 54 q).toNat (S.2 54 q) (S.2 54 q) := hzz
                  have hnC : (0 : Int) ≤ z4 ∧ (z4 : Int) ≤ 500 := by omega
                  have hnD : 0 ≤ fr + (S.2 55 q - S.2 54 q) ∧ fr + (S.2 55 q - S.2 54 q) ≤ 900000 := by omega
                  exact K263 z4 (fr + (S.2 55 q - S.2 54 q)) (bLay F fr (bN S ru i t).1) hnA hnB rfl hnC hnD H locs ls hG hS (lv_sub hl [3, 4, 5, 6, 7, 8, 9, 0, 2, 1] rfl)
              · have hk2 : S.2 34 t = 2 := by rcases Classical.em (S.2 34 t = 2) with h | h; exact h; exfalso; apply c134; rw [hb, if_neg h]
                refine lv_aload_n X.1 X.2.1 dX1_build_137 rfl (lv_at hl 2 rfl) ?_
                refine lv_iconst (v := iI (2)) X.1 X.2.1 dX1_build_138 rfl ?_
                refine lv_lconst (v := lI (0)) X.1 X.2.1 dX1_build_139 rfl ?_
                refine lv_bipush (v := iI (-9)) X.1 X.2.1 dX1_build_140 (by decide) ?_
                refine lv_aload_n X.1 X.2.1 dX1_build_142 rfl (lv_at hl 2 rfl) ?_
                refine mg_pPlace X hK hG dX1_build_143 ?_
                refine lv_iload X.1 X.2.1 dX1_build_146 (lv_at hl 6 rfl) ?_
                refine ml_pPlace X hK hG (S.2 36) rfl (by first | omega | (split <;> omega)) dX1_build_148 ?_
                refine lv_aload_n X.1 X.2.1 dX1_build_149 rfl (lv_at hl 2 rfl) ?_
                refine mg_steps X hK hG (S.1 49) rfl dX1_build_150 ?_
                refine lv_iconst (v := iI (1)) X.1 X.2.1 dX1_build_153 rfl ?_
                refine i_add X dX1_build_154 ?_
                refine lv_iconst (v := iI (1)) X.1 X.2.1 dX1_build_155 rfl ?_
                refine lv_iconst (v := iI (0)) X.1 X.2.1 dX1_build_156 rfl ?_
                refine m_callVv (rest := []) (n := 7) X hK hG hS (fun _ h => h) (mm_lay l D ca o (lv - 1) (mP S [(57, F 57), (58, F 58), (59, F 59), (60, F 60), (61, F 61), (62, F 62), (63, F 63), (64, oA), (65, oE)] [(56, fr)]) 2 0 ((-9)) (S.2 36 t) ((S.1 49) + 1) 1 0 (show 0 ≤ fr ∧ fr ≤ 1000000 by omega)) (lw_V q1616 q1618 qs58 q70 q1619) (by decide +kernel) rfl ⟨by show (lv - 1) + 1 ≤ lv; omega, by show 8 + (9 + 11) + 40 * (lv - 1) ≤ 40 * lv; omega⟩ ⟨Nat.le_refl _, Nat.le_refl _⟩ hl.1 rfl (Nat.le_of_ble_eq_true rfl) dX1_build_157 (fun S5 H locs hp5 hG hS _ _ => ?_)
                obtain rfl := hp5
                rw [mP_mP (l' := [(57, upL (F 57) fr 2), (58, upL (F 58) fr 0), (59, upL (F 59) fr ((-9))), (60, upL (F 60) fr (S.2 36 t)), (61, upL (F 61) fr ((S.1 49) + 1)), (62, upL (F 62) fr 1), (63, upL (F 63) fr 0), (64, oA), (65, oE)]) (sc' := [(56, fr + 1)]) rfl rfl] at hG
                have hrow : (bN S ru i t) = ([rw7 2 0 (-9) (S.2 36 t) (S.1 49 + 1) 1 0], 1) := bN_len1 hk2
                obtain ⟨b0, b1, b2, b3, b4, b5, b6⟩ := bLay1 F fr 2 0 ((-9)) (S.2 36 t) ((S.1 49) + 1) 1 0
                rw [← b0, ← b1, ← b2, ← b3, ← b4, ← b5, ← b6] at hG
                have hG : gOk D (mA o) (mH ca o (mP S [(57, bLay F fr (bN S ru i t).1 57), (58, bLay F fr (bN S ru i t).1 58), (59, bLay F fr (bN S ru i t).1 59), (60, bLay F fr (bN S ru i t).1 60), (61, bLay F fr (bN S ru i t).1 61), (62, bLay F fr (bN S ru i t).1 62), (63, bLay F fr (bN S ru i t).1 63), (64, oA), (65, oE)] [(56, fr + 1)])) H := by rw [hrow]; exact hG
                refine lv_goto (tgt := 263) X.1 X.2.1 dX1_build_160 (by decide) ?_
                have hnA : 1 = (bN S ru i t).2 := by rw [hrow]
                have hnB : fr + 1 = fr + ((bN S ru i t).1.length : Int) := by rw [hrow]; simp
                have hnC : (0 : Int) ≤ 1 ∧ (1 : Int) ≤ 500 := by omega
                have hnD : 0 ≤ fr + 1 ∧ fr + 1 ≤ 900000 := by omega
                exact K263 1 (fr + 1) (bLay F fr (bN S ru i t).1) hnA hnB rfl hnC hnD H locs ls hG hS (lv_sub hl [2, 3, 4, 5, 6, 7, 8, 9, 1, 0] rfl)
            refine lv_aload_n X.1 X.2.1 dX1_build_108 rfl (lv_at hl 1 rfl) ?_
            refine mg_pKind X hK hG dX1_build_109 ?_
            refine lv_iload X.1 X.2.1 dX1_build_112 (lv_at hl 5 rfl) ?_
            refine ml_pKind X hK hG (S.2 34) rfl (by first | omega | (split <;> omega)) dX1_build_114 ?_
            refine lv_iconst (v := iI (2)) X.1 X.2.1 dX1_build_115 rfl ?_
            refine i_icmp_ne X 123 dX1_build_116 (by decide) (by first | omega | (split <;> omega)) (by first | omega | (split <;> omega)) (fun c116 => ?_) (fun c116 => ?_)
            · refine lv_iconst (v := iI (0)) X.1 X.2.1 dX1_build_123 rfl ?_
              exact K124 0 (by first | (rw [if_pos (by omega)]; done) | (rw [if_neg (by omega)])) H locs ls hG hS (lv_sub hl [1, 2, 3, 4, 5, 6, 7, 8, 0] rfl)
            · refine lv_iconst (v := iI (1)) X.1 X.2.1 dX1_build_119 rfl ?_
              refine lv_goto (tgt := 124) X.1 X.2.1 dX1_build_120 (by decide) ?_
              exact K124 1 (by first | (rw [if_pos (by omega)]; done) | (rw [if_neg (by omega)])) H locs ls hG hS (lv_sub hl [1, 2, 3, 4, 5, 6, 7, 8, 0] rfl)
          refine lv_aload_n X.1 X.2.1 dX1_build_65 rfl (lv_at hl 1 rfl) ?_
          refine mg_pKind X hK hG dX1_build_66 ?_
          refine lv_iload X.1 X.2.1 dX1_build_69 (lv_at hl 5 rfl) ?_
          refine ml_pKind X hK hG (S.2 34) rfl (by first | omega | (split <;> omega)) dX1_build_71 ?_
          refine lv_bipush (v := iI (6)) X.1 X.2.1 dX1_build_72 (by decide) ?_
          refine i_icmp_eq X 89 dX1_build_74 (by decide) (by first | omega | (split <;> omega)) (by first | omega | (split <;> omega)) (fun c74 => ?_) (fun c74 => ?_)
          · refine lv_aload_n X.1 X.2.1 dX1_build_89 rfl (lv_at hl 1 rfl) ?_
            refine lv_iload_n X.1 X.2.1 dX1_build_90 rfl (lv_at hl 2 rfl) ?_
            refine lv_aload_n X.1 X.2.1 dX1_build_91 rfl (lv_at hl 1 rfl) ?_
            refine mg_pValue X hK hG dX1_build_92 ?_
            refine lv_iload X.1 X.2.1 dX1_build_95 (lv_at hl 5 rfl) ?_
            refine ml_pValue X hK hG (S.2 35) rfl (by first | omega | (split <;> omega)) dX1_build_97 ?_
            refine m_callVp (rest := []) (n := 2) X hK hG hS (fun _ h => h) (mm_pVariable l D ca o (lv - 1) (mP S [(57, F 57), (58, F 58), (59, F 59), (60, F 60), (61, F 61), (62, F 62), (63, F 63), (64, oA), (65, oE)] [(56, fr)]) ru (S.2 35 t) hP hr (show lR (S.2 35 t) by omega)) (lw_V q1612 q1614 qs57 q70 q1615) (by decide +kernel) rfl ⟨by show (lv - 1) + 1 ≤ lv; omega, by show 8 + (5 + 11) + 40 * (lv - 1) ≤ 40 * lv; omega⟩ ⟨Nat.le_refl _, Nat.le_refl _⟩ hl.1 rfl (Nat.le_of_ble_eq_true rfl) dX1_build_98 (fun H locs hG hS _ _ => ?_)
            rw [show spVar (mP S [(57, F 57), (58, F 58), (59, F 59), (60, F 60), (61, F 61), (62, F 62), (63, F 63), (64, oA), (65, oE)] [(56, fr)]) ru (S.2 35 t) = spVar S ru (S.2 35 t) from spVar_pr (by intro k h; simp only [mP, lk]; rw [if_neg (show ¬ k = 57 by omega), if_neg (show ¬ k = 58 by omega), if_neg (show ¬ k = 59 by omega), if_neg (show ¬ k = 60 by omega), if_neg (show ¬ k = 61 by omega), if_neg (show ¬ k = 62 by omega), if_neg (show ¬ k = 63 by omega), if_neg (show ¬ k = 64 by omega), if_neg (show ¬ k = 65 by omega)]; rfl)]
            refine lv_goto (tgt := 106) X.1 X.2.1 dX1_build_101 (by decide) ?_
            exact K106 (spVar S ru (S.2 35 t)) (by unfold bP; first | (rw [if_pos (by omega)]; done) | (rw [if_neg (by omega)])) H locs ls hG hS (lv_sub hl [1, 2, 3, 4, 5, 6, 7, 0] rfl)
          · refine lv_aload_n X.1 X.2.1 dX1_build_77 rfl (lv_at hl 1 rfl) ?_
            refine mg_pKind X hK hG dX1_build_78 ?_
            refine lv_iload X.1 X.2.1 dX1_build_81 (lv_at hl 5 rfl) ?_
            refine ml_pKind X hK hG (S.2 34) rfl (by first | omega | (split <;> omega)) dX1_build_83 ?_
            refine lv_bipush (v := iI (7)) X.1 X.2.1 dX1_build_84 (by decide) ?_
            refine i_icmp_ne X 104 dX1_build_86 (by decide) (by first | omega | (split <;> omega)) (by first | omega | (split <;> omega)) (fun c86 => ?_) (fun c86 => ?_)
            · refine lv_bipush (v := iI (-9)) X.1 X.2.1 dX1_build_104 (by decide) ?_
              exact K106 ((-9)) (by unfold bP; first | (rw [if_pos (by omega)]; done) | (rw [if_neg (by omega)])) H locs ls hG hS (lv_sub hl [1, 2, 3, 4, 5, 6, 7, 0] rfl)
            · refine lv_aload_n X.1 X.2.1 dX1_build_89 rfl (lv_at hl 1 rfl) ?_
              refine lv_iload_n X.1 X.2.1 dX1_build_90 rfl (lv_at hl 2 rfl) ?_
              refine lv_aload_n X.1 X.2.1 dX1_build_91 rfl (lv_at hl 1 rfl) ?_
              refine mg_pValue X hK hG dX1_build_92 ?_
              refine lv_iload X.1 X.2.1 dX1_build_95 (lv_at hl 5 rfl) ?_
              refine ml_pValue X hK hG (S.2 35) rfl (by first | omega | (split <;> omega)) dX1_build_97 ?_
              refine m_callVp (rest := []) (n := 2) X hK hG hS (fun _ h => h) (mm_pVariable l D ca o (lv - 1) (mP S [(57, F 57), (58, F 58), (59, F 59), (60, F 60), (61, F 61), (62, F 62), (63, F 63), (64, oA), (65, oE)] [(56, fr)]) ru (S.2 35 t) hP hr (show lR (S.2 35 t) by omega)) (lw_V q1612 q1614 qs57 q70 q1615) (by decide +kernel) rfl ⟨by show (lv - 1) + 1 ≤ lv; omega, by show 8 + (5 + 11) + 40 * (lv - 1) ≤ 40 * lv; omega⟩ ⟨Nat.le_refl _, Nat.le_refl _⟩ hl.1 rfl (Nat.le_of_ble_eq_true rfl) dX1_build_98 (fun H locs hG hS _ _ => ?_)
              rw [show spVar (mP S [(57, F 57), (58, F 58), (59, F 59), (60, F 60), (61, F 61), (62, F 62), (63, F 63), (64, oA), (65, oE)] [(56, fr)]) ru (S.2 35 t) = spVar S ru (S.2 35 t) from spVar_pr (by intro k h; simp only [mP, lk]; rw [if_neg (show ¬ k = 57 by omega), if_neg (show ¬ k = 58 by omega), if_neg (show ¬ k = 59 by omega), if_neg (show ¬ k = 60 by omega), if_neg (show ¬ k = 61 by omega), if_neg (show ¬ k = 62 by omega), if_neg (show ¬ k = 63 by omega), if_neg (show ¬ k = 64 by omega), if_neg (show ¬ k = 65 by omega)]; rfl)]
              refine lv_goto (tgt := 106) X.1 X.2.1 dX1_build_101 (by decide) ?_
              exact K106 (spVar S ru (S.2 35 t)) (by unfold bP; first | (rw [if_pos (by omega)]; done) | (rw [if_neg (by omega)])) H locs ls hG hS (lv_sub hl [1, 2, 3, 4, 5, 6, 7, 0] rfl)
    exact L55 _ t0 0 0 [] (fm S) (S.2 64) (S.2 65) (by omega) rfl trivial hok eZ.symm (Nat.lt_succ_self _) H locs ls hG hS (lv_sub hl [4, 5, 6, 3, 2, 1, 0] rfl)
  refine lv_aload_n X.1 X.2.1 dX1_build_5 rfl (lv_at hl 0 rfl) ?_
  refine mg_raw X hK hG dX1_build_6 ?_
  refine lv_iload_n X.1 X.2.1 dX1_build_9 rfl (lv_at hl 1 rfl) ?_
  refine ml_raw X hK hG (S.2 31) rfl (by first | omega | (split <;> omega)) dX1_build_10 ?_
  refine i_if_eq X 25 dX1_build_11 (by decide) (by first | omega | (split <;> omega)) (fun c11 => ?_) (fun c11 => ?_)
  · refine lv_aload_n X.1 X.2.1 dX1_build_25 rfl (lv_at hl 0 rfl) ?_
    refine mg_steps X hK hG (S.1 49) rfl dX1_build_26 ?_
    refine lv_iconst (v := iI (1)) X.1 X.2.1 dX1_build_29 rfl ?_
    refine i_add X dX1_build_30 ?_
    exact K31 ((S.1 49) + 1) (by unfold bOwn; first | rw [if_pos c11] | rw [if_neg c11]) H locs ls hG hS (lv_sub hl [0, 1, 2] rfl)
  · refine lv_aload_n X.1 X.2.1 dX1_build_14 rfl (lv_at hl 0 rfl) ?_
    refine mg_mark X hK hG dX1_build_15 ?_
    refine lv_iload_n X.1 X.2.1 dX1_build_18 rfl (lv_at hl 2 rfl) ?_
    refine lv_iconst (v := iI (1)) X.1 X.2.1 dX1_build_19 rfl ?_
    refine i_add X dX1_build_20 ?_
    refine ml_mark X hK hG (S.2 43) rfl (by first | omega | (split <;> omega)) dX1_build_21 ?_
    refine lv_goto (tgt := 31) X.1 X.2.1 dX1_build_22 (by decide) ?_
    exact K31 (S.2 43 (i + 1)) (by unfold bOwn; first | rw [if_pos c11] | rw [if_neg c11]) H locs ls hG hS (lv_sub hl [0, 1, 2] rfl)

