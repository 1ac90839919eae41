/-! ===== the Model: reading one token ===== -/
set_option maxRecDepth 100000
set_option maxHeartbeats 4000000 in
theorem mm_readOne (l : Launch) (D : va_G) (ca : Nat → ClassId) (o lv : Nat) (S : MSt) (way : Int) (hlv : 4 ≤ lv) (hway : way = 0 ∨ way = 1 ∨ way = 2) (hn : 0 ≤ S.1 6 ∧ S.1 6 < 601) (ht : 0 ≤ S.1 19 ∧ S.1 19 < 601) (hp : 0 ≤ S.1 24 ∧ S.1 24 ≤ 16) (hq : 0 < S.1 24 → 0 ≤ S.2 23 (S.1 24 - 1) ∧ S.2 23 (S.1 24 - 1) < 601) (hf : S.1 21 = 0) (hs : ∀ j, 0 ≤ j → j < 601 → iR (S.2 3 j)) (ht2 : S.2 3 (S.1 19) ≠ 0 → S.1 19 + 2 < 601) (hpp : S.2 3 (S.1 19) = 40 → S.1 24 < 16) (hpc : S.2 3 (S.1 19) = 41 → 0 < S.1 24) (hdd : iR (S.1 20)) : mCv l yX1_readOne cX1_readOne 5 D ca o lv [.ref o, .int (iI (way))] S (fun S' => S' = pOne way S) := by
  refine mCv_of (by decide +kernel) rfl (Nat.le_of_ble_eq_true rfl) ?_
  intro p e s m args below meth c Q X hK ret H locs ls hG hS hl
  have hl : lv_has ls 5 [(0, .ref o), (1, .int (iI (way)))] := hl
  refine lv_aload_n X.1 X.2.1 dX1_readOne_0 rfl (lv_at hl 0 rfl) ?_
  refine mg_sort X hK hG dX1_readOne_1 ?_
  refine lv_aload_n X.1 X.2.1 dX1_readOne_4 rfl (lv_at hl 0 rfl) ?_
  refine mg_tok X hK hG (S.1 19) rfl dX1_readOne_5 ?_
  refine ml_sort X hK hG (S.2 3) rfl (by first | omega | (split <;> omega)) dX1_readOne_8 ?_
  refine lv_istore_n (lv' := [(2, .int (iI (S.2 3 (S.1 19)))), (0, .ref o), (1, .int (iI (way)))]) X.1 X.2.1 dX1_readOne_9 rfl hl (by decide) rfl (fun ls hl => ?_)
  have hs0 := hs (S.1 19) (by omega) (by omega)
  refine lv_iload_n X.1 X.2.1 dX1_readOne_10 rfl (lv_at hl 0 rfl) ?_
  refine lv_bipush (v := iI (40)) X.1 X.2.1 dX1_readOne_11 (by decide) ?_
  refine i_icmp_ne X 23 dX1_readOne_13 (by decide) (by first | omega | (split <;> omega)) (by first | omega | (split <;> omega)) (fun c13 => ?_) (fun c13 => ?_)
  · refine lv_iload_n X.1 X.2.1 dX1_readOne_23 rfl (lv_at hl 0 rfl) ?_
    refine lv_bipush (v := iI (41)) X.1 X.2.1 dX1_readOne_24 (by decide) ?_
    refine i_icmp_ne X 36 dX1_readOne_26 (by decide) (by first | omega | (split <;> omega)) (by first | omega | (split <;> omega)) (fun c26 => ?_) (fun c26 => ?_)
    · refine lv_iload_n X.1 X.2.1 dX1_readOne_36 rfl (lv_at hl 0 rfl) ?_
      refine lv_iconst (v := iI (1)) X.1 X.2.1 dX1_readOne_37 rfl ?_
      refine i_icmp_ne X 69 dX1_readOne_38 (by decide) (by first | omega | (split <;> omega)) (by first | omega | (split <;> omega)) (fun c38 => ?_) (fun c38 => ?_)
      · refine lv_iload_n X.1 X.2.1 dX1_readOne_69 rfl (lv_at hl 0 rfl) ?_
        refine lv_bipush (v := iI (33)) X.1 X.2.1 dX1_readOne_70 (by decide) ?_
        refine i_icmp_ne X 143 dX1_readOne_72 (by decide) (by first | omega | (split <;> omega)) (by first | omega | (split <;> omega)) (fun c72 => ?_) (fun c72 => ?_)
        · refine lv_aload_n X.1 X.2.1 dX1_readOne_143 rfl (lv_at hl 1 rfl) ?_
          have K154 : ∀ (z : Int), (z = bI (decide (S.2 3 (S.1 19) = 2))) → ∀ (H : Heap) (locs : List Loc) (ls : Array Slot), gOk D (mA o) (mH ca o S) H → va_S (mA o) s.heap H locs → lv_has ls 5 [(0, .ref o), (1, .int (iI (way))), (2, .int (iI ((S.2 3 (S.1 19)))))] → W p l e (mR lv) s m args below meth c H locs 0 0 Q (F0 m 154 ls [.int (iI (z)), .ref o]) := by
            intro z hz H locs ls hG hS hl
            have hb9 : z = 0 ∨ z = 1 := by rw [hz]; exact bI_01 _
            refine m_callVi (rest := []) (n := 1) X hK hG hS (fun _ h => h) (mm_must l D ca o (lv - 1) S z hb9 ht (show 0 ≤ S.1 21 ∧ S.1 21 ≤ 3 by omega)) (lw_V q1475 q1477 qs31 q70 q1478) (by decide +kernel) rfl ⟨by show (lv - 1) + 1 ≤ lv; omega, by show 8 + (2 + 11) + 40 * (lv - 1) ≤ 40 * lv; omega⟩ ⟨Nat.le_refl _, Nat.le_refl _⟩ hl.1 rfl (Nat.le_of_ble_eq_true rfl) dX1_readOne_154 (fun zM SM H locs hpM hG hS _ _ => ?_)
            obtain ⟨rfl, rfl⟩ := hpM
            refine i_if_eq X 279 dX1_readOne_157 (by decide) (bI_iR _) (fun c157 => ?_) (fun c157 => ?_)
            · have c157 := bI_eq0.mp c157
              refine ret _ _ _ _ _ ?_ hG hS dX1_readOne_279
              unfold pOne
              have hz0 : z = 0 := by
                rcases hb9 with h | h
                · exact h
                · exfalso; rw [h, pMust_1] at c157; simp [hf] at c157
              rw [if_neg (by omega), if_neg (by omega), if_neg (by omega), if_neg (by omega)]
              unfold pNam
              rw [if_neg (by rw [hz0] at hz; simpa using bI_eq0.mp hz.symm), hz0, pMust_0 hf]
            · have c157 := bI_ne0.mp c157
              have hz1 : z = 1 := by
                rcases hb9 with h | h
                · exfalso
                  rw [h, pMust_0 (show (S).1 21 = 0 from hf), show (pFail S).1 21 = 1 from rfl] at c157
                  exact absurd c157 (by decide)
                · exact h
              rw [hz1, pMust_1] at hG
              have K193 : ∀ (b : Int), (b = bI (pRest way S)) → ∀ (H : Heap) (locs : List Loc) (ls : Array Slot), gOk D (mA o) (mH ca o S) H → va_S (mA o) s.heap H locs → lv_has ls 5 [(0, .ref o), (1, .int (iI (way))), (2, .int (iI ((S.2 3 (S.1 19)))))] → W p l e (mR lv) s m args below meth c H locs 0 0 Q (F0 m 193 ls [.int (iI (b))]) := by
                intro b hb H locs ls hG hS hl
                refine lv_istore_n (lv' := [(3, .int (iI (b))), (0, .ref o), (1, .int (iI (way))), (2, .int (iI ((S.2 3 (S.1 19)))))]) X.1 X.2.1 dX1_readOne_193 rfl hl (by decide) rfl (fun ls hl => ?_)
                have hb01 := bI_01 (pRest way S)
                rw [← hb] at hb01
                have ht3 := ht2 (by have h9 : z = 1 := hz1; rw [h9] at hz; have := of_decide_eq_true (bI_ne0.mp (by rw [← hz]; decide)); omega)
                have hs2 : S.2 3 (S.1 19) = 2 := by have h9 : z = 1 := hz1; rw [h9] at hz; exact of_decide_eq_true (bI_ne0.mp (by rw [← hz]; decide))
                refine lv_aload_n X.1 X.2.1 dX1_readOne_194 rfl (lv_at hl 1 rfl) ?_
                have K215 : ∀ (kd : Int), (kd = pKd way S) → ∀ (H : Heap) (locs : List Loc) (ls : Array Slot), gOk D (mA o) (mH ca o S) H → va_S (mA o) s.heap H locs → lv_has ls 5 [(0, .ref o), (1, .int (iI (way))), (2, .int (iI ((S.2 3 (S.1 19))))), (3, .int (iI (b)))] → W p l e (mR lv) s m args below meth c H locs 0 0 Q (F0 m 215 ls [.int (iI (kd)), .ref o]) := by
                  intro kd hkd H locs ls hG hS hl
                  refine lv_aload_n X.1 X.2.1 dX1_readOne_215 rfl (lv_at hl 0 rfl) ?_
                  refine mg_worth X hK hG dX1_readOne_216 ?_
                  refine lv_aload_n X.1 X.2.1 dX1_readOne_219 rfl (lv_at hl 0 rfl) ?_
                  refine mg_tok X hK hG (S.1 19) rfl dX1_readOne_220 ?_
                  refine ml_worth X hK hG (S.2 5) rfl (by first | omega | (split <;> omega)) dX1_readOne_223 ?_
                  refine m_callVi (rest := []) (n := 2) X hK hG hS (fun _ h => h) (mm_node l D ca o (lv - 1) S kd (S.2 5 (S.1 19)) hn ht hp hq) (lw_V q1493 q1495 qs35 q70 q1496) (by decide +kernel) rfl ⟨by show (lv - 1) + 1 ≤ lv; omega, by show 8 + (5 + 11) + 40 * (lv - 1) ≤ 40 * lv; omega⟩ ⟨Nat.le_refl _, Nat.le_refl _⟩ hl.1 rfl (Nat.le_of_ble_eq_true rfl) dX1_readOne_224 (fun zN SN H locs hpN hG hS _ _ => ?_)
                  obtain ⟨hzN, rfl⟩ := hpN
                  rw [show zN = S.1 6 from hzN]
                  refine lv_istore (lv' := [(4, .int (iI (S.1 6))), (0, .ref o), (1, .int (iI (way))), (2, .int (iI ((S.2 3 (S.1 19))))), (3, .int (iI (b)))]) X.1 X.2.1 dX1_readOne_227 hl (by decide) rfl (fun ls hl => ?_)
                  refine lv_aload_n X.1 X.2.1 dX1_readOne_229 rfl (lv_at hl 1 rfl) ?_
                  refine lv_dup X.1 X.2.1 dX1_readOne_230 rfl ?_
                  refine mg_tok X hK hG (S.1 19) rfl dX1_readOne_231 ?_
                  have K243 : ∀ (w2 : Int), (w2 = if pRest way S = true then 2 else 1) → ∀ (H : Heap) (locs : List Loc) (ls : Array Slot), gOk D (mA o) (mH ca o (pNode kd (S.2 5 (S.1 19)) S)) H → va_S (mA o) s.heap H locs → lv_has ls 5 [(0, .ref o), (1, .int (iI (way))), (2, .int (iI ((S.2 3 (S.1 19))))), (3, .int (iI (b)))] → W p l e (mR lv) s m args below meth c H locs 0 0 Q (F0 m 243 ls [.int (iI (w2)), .int (iI (S.1 19)), .ref o]) := by
                    intro w2 hw2 H locs ls hG hS hl
                    refine i_add X dX1_readOne_243 ?_
                    have hG : gOk D (mA o) (mH ca o (mP (pNode kd (S.2 5 (S.1 19)) S) [] [])) H := hG
                    refine mp_tok X hK hG hS dX1_readOne_244 (fun H locs hG hS => ?_)
                    rw [mS_mP (sc' := [(19, (S.1 19) + w2)]) rfl] at hG
                    have hG : gOk D (mA o) (mH ca o (pTok (pNode kd (S.2 5 (S.1 19)) S) (w2))) H := hG
                    refine lv_iload_n X.1 X.2.1 dX1_readOne_247 rfl (lv_at hl 3 rfl) ?_
                    refine i_if_eq X 279 dX1_readOne_248 (by decide) (by first | omega | (split <;> omega)) (fun c248 => ?_) (fun c248 => ?_)
                    · refine ret _ _ _ _ _ ?_ hG hS dX1_readOne_279
                      unfold pOne
                      rw [if_neg (by omega), if_neg (by omega), if_neg (by omega), if_neg (by omega)]
                      unfold pNam
                      rw [if_pos hs2]
                      rw [if_neg (by first | (intro h; rw [← bI_ne0, ← hb] at h; omega) | (intro h; exact c252 h.2))]
                      unfold pNam2
                      rw [← hkd, ← hw2]
                    · refine lv_iload_n X.1 X.2.1 dX1_readOne_251 rfl (lv_at hl 1 rfl) ?_
                      refine i_if_ne X 279 dX1_readOne_252 (by decide) (by first | omega | (split <;> omega)) (fun c252 => ?_) (fun c252 => ?_)
                      · refine ret _ _ _ _ _ ?_ hG hS dX1_readOne_279
                        unfold pOne
                        rw [if_neg (by omega), if_neg (by omega), if_neg (by omega), if_neg (by omega)]
                        unfold pNam
                        rw [if_pos hs2]
                        rw [if_neg (by first | (intro h; rw [← bI_ne0, ← hb] at h; omega) | (intro h; exact c252 h.2))]
                        unfold pNam2
                        rw [← hkd, ← hw2]
                      · have hre : pRest way S = true := by rw [← bI_ne0, ← hb]; exact c248
                        have hw22 : w2 = 2 := by rw [hw2, if_pos hre]
                        have hs4 := hs (S.1 19 + w2) (by omega) (by omega)
                        refine lv_aload_n X.1 X.2.1 dX1_readOne_255 rfl (lv_at hl 0 rfl) ?_
                        have K275 : ∀ (z2 : Int), (z2 = bI (decide (S.2 3 (S.1 19 + 2) = 41))) → ∀ (H : Heap) (locs : List Loc) (ls : Array Slot), gOk D (mA o) (mH ca o (pTok (pNode kd (S.2 5 (S.1 19)) S) (w2))) H → va_S (mA o) s.heap H locs → lv_has ls 5 [(0, .ref o)] → W p l e (mR lv) s m args below meth c H locs 0 0 Q (F0 m 275 ls [.int (iI (z2)), .ref o]) := by
                          intro z2 hz2 H locs ls hG hS hl
                          have hb9 : z2 = 0 ∨ z2 = 1 := by rw [hz2]; exact bI_01 _
                          refine m_callVi (rest := []) (n := 1) X hK hG hS (fun _ h => h) (mm_must l D ca o (lv - 1) (pTok (pNode kd (S.2 5 (S.1 19)) S) (w2)) z2 hb9 (show 0 ≤ S.1 19 + w2 ∧ S.1 19 + w2 < 601 by omega) (show 0 ≤ S.1 21 ∧ S.1 21 ≤ 3 by omega)) (lw_V q1475 q1477 qs31 q70 q1478) (by decide +kernel) rfl ⟨by show (lv - 1) + 1 ≤ lv; omega, by show 8 + (2 + 11) + 40 * (lv - 1) ≤ 40 * lv; omega⟩ ⟨Nat.le_refl _, Nat.le_refl _⟩ hl.1 rfl (Nat.le_of_ble_eq_true rfl) dX1_readOne_275 (fun zM SM H locs hpM hG hS _ _ => ?_)
                          obtain ⟨rfl, rfl⟩ := hpM
                          refine lv_pop X.1 X.2.1 dX1_readOne_278 rfl ?_
                          refine ret _ _ _ _ _ ?_ hG hS dX1_readOne_279
                          unfold pOne
                          rw [if_neg (by omega), if_neg (by omega), if_neg (by omega), if_neg (by omega)]
                          unfold pNam
                          rw [if_pos hs2]
                          rw [if_pos ⟨hre, c252⟩]
                          unfold pNam2
                          rw [← hkd, ← hw2, ← hz2]
                        refine lv_aload_n X.1 X.2.1 dX1_readOne_256 rfl (lv_at hl 0 rfl) ?_
                        refine mg_sort X hK hG dX1_readOne_257 ?_
                        refine lv_aload_n X.1 X.2.1 dX1_readOne_260 rfl (lv_at hl 0 rfl) ?_
                        refine mg_tok X hK hG (S.1 19 + (w2)) rfl dX1_readOne_261 ?_
                        refine ml_sort X hK hG (S.2 3) rfl (by first | omega | (split <;> omega)) dX1_readOne_264 ?_
                        refine lv_bipush (v := iI (41)) X.1 X.2.1 dX1_readOne_265 (by decide) ?_
                        refine i_icmp_ne X 274 dX1_readOne_267 (by decide) (by first | omega | (split <;> omega)) (by first | omega | (split <;> omega)) (fun c267 => ?_) (fun c267 => ?_)
                        · refine lv_iconst (v := iI (0)) X.1 X.2.1 dX1_readOne_274 rfl ?_
                          exact K275 0 (by rw [hw22] at c267; first | exact bI_t (by simpa using c267) | exact bI_f (by simpa using c267)) H locs ls hG hS (lv_sub hl [0] rfl)
                        · refine lv_iconst (v := iI (1)) X.1 X.2.1 dX1_readOne_270 rfl ?_
                          refine lv_goto (tgt := 275) X.1 X.2.1 dX1_readOne_271 (by decide) ?_
                          exact K275 1 (by rw [hw22] at c267; first | exact bI_t (by simpa using c267) | exact bI_f (by simpa using c267)) H locs ls hG hS (lv_sub hl [0] rfl)
                  refine lv_iload_n X.1 X.2.1 dX1_readOne_234 rfl (lv_at hl 4 rfl) ?_
                  refine i_if_eq X 242 dX1_readOne_235 (by decide) (by first | omega | (split <;> omega)) (fun c235 => ?_) (fun c235 => ?_)
                  · refine lv_iconst (v := iI (1)) X.1 X.2.1 dX1_readOne_242 rfl ?_
                    exact K243 1 (by first | (rw [if_pos (by rw [← bI_ne0, ← hb]; omega)]; done) | (rw [if_neg (by rw [← bI_ne0, ← hb]; omega)])) H locs ls hG hS (lv_sub hl [1, 2, 3, 4] rfl)
                  · refine lv_iconst (v := iI (2)) X.1 X.2.1 dX1_readOne_238 rfl ?_
                    refine lv_goto (tgt := 243) X.1 X.2.1 dX1_readOne_239 (by decide) ?_
                    exact K243 2 (by first | (rw [if_pos (by rw [← bI_ne0, ← hb]; omega)]; done) | (rw [if_neg (by rw [← bI_ne0, ← hb]; omega)])) H locs ls hG hS (lv_sub hl [1, 2, 3, 4] rfl)
                refine lv_iload_n X.1 X.2.1 dX1_readOne_195 rfl (lv_at hl 0 rfl) ?_
                refine i_if_eq X 204 dX1_readOne_196 (by decide) (by first | omega | (split <;> omega)) (fun c196 => ?_) (fun c196 => ?_)
                · refine lv_iload_n X.1 X.2.1 dX1_readOne_204 rfl (lv_at hl 2 rfl) ?_
                  refine lv_iconst (v := iI (2)) X.1 X.2.1 dX1_readOne_205 rfl ?_
                  refine i_icmp_ne X 213 dX1_readOne_206 (by decide) (by first | omega | (split <;> omega)) (by first | omega | (split <;> omega)) (fun c206 => ?_) (fun c206 => ?_)
                  · refine lv_bipush (v := iI (6)) X.1 X.2.1 dX1_readOne_213 (by decide) ?_
                    exact K215 6 (by unfold pKd; first | (rw [if_pos (by rw [← bI_ne0, ← hb]; omega)]; done) | (rw [if_neg (by rw [← bI_ne0, ← hb]; omega), if_pos (by omega)]; done) | (rw [if_neg (by rw [← bI_ne0, ← hb]; omega), if_neg (by omega)])) H locs ls hG hS (lv_sub hl [1, 2, 3, 0] rfl)
                  · refine lv_iconst (v := iI (1)) X.1 X.2.1 dX1_readOne_209 rfl ?_
                    refine lv_goto (tgt := 215) X.1 X.2.1 dX1_readOne_210 (by decide) ?_
                    exact K215 1 (by unfold pKd; first | (rw [if_pos (by rw [← bI_ne0, ← hb]; omega)]; done) | (rw [if_neg (by rw [← bI_ne0, ← hb]; omega), if_pos (by omega)]; done) | (rw [if_neg (by rw [← bI_ne0, ← hb]; omega), if_neg (by omega)])) H locs ls hG hS (lv_sub hl [1, 2, 3, 0] rfl)
                · refine lv_bipush (v := iI (7)) X.1 X.2.1 dX1_readOne_199 (by decide) ?_
                  refine lv_goto (tgt := 215) X.1 X.2.1 dX1_readOne_201 (by decide) ?_
                  exact K215 7 (by unfold pKd; first | (rw [if_pos (by rw [← bI_ne0, ← hb]; omega)]; done) | (rw [if_neg (by rw [← bI_ne0, ← hb]; omega), if_pos (by omega)]; done) | (rw [if_neg (by rw [← bI_ne0, ← hb]; omega), if_neg (by omega)])) H locs ls hG hS (lv_sub hl [1, 2, 3, 0] rfl)
              refine lv_iload_n X.1 X.2.1 dX1_readOne_160 rfl (lv_at hl 1 rfl) ?_
              refine lv_iconst (v := iI (2)) X.1 X.2.1 dX1_readOne_161 rfl ?_
              refine i_icmp_ge X 192 dX1_readOne_162 (by decide) (by first | omega | (split <;> omega)) (by first | omega | (split <;> omega)) (fun c162 => ?_) (fun c162 => ?_)
              · refine lv_iconst (v := iI (0)) X.1 X.2.1 dX1_readOne_192 rfl ?_
                exact K193 0 (by first | (apply bI_t; unfold pRest; simp; omega) | (apply bI_f; unfold pRest; rw [← Bool.not_eq_true]; simp only [Bool.and_eq_true, decide_eq_true_eq]; omega)) H locs ls hG hS (lv_sub hl [0, 1, 2] rfl)
              · have ht4 := ht2 (by have h9 : z = 1 := hz1; rw [h9] at hz; have := of_decide_eq_true (bI_ne0.mp (by rw [← hz]; decide)); omega)
                have hs1 := hs (S.1 19 + 1) (by omega) (by omega)
                refine lv_aload_n X.1 X.2.1 dX1_readOne_165 rfl (lv_at hl 0 rfl) ?_
                refine mg_sort X hK hG dX1_readOne_166 ?_
                refine lv_aload_n X.1 X.2.1 dX1_readOne_169 rfl (lv_at hl 0 rfl) ?_
                refine mg_tok X hK hG (S.1 19) rfl dX1_readOne_170 ?_
                refine lv_iconst (v := iI (1)) X.1 X.2.1 dX1_readOne_173 rfl ?_
                refine i_add X dX1_readOne_174 ?_
                refine ml_sort X hK hG (S.2 3) rfl (by first | omega | (split <;> omega)) dX1_readOne_175 ?_
                refine lv_bipush (v := iI (42)) X.1 X.2.1 dX1_readOne_176 (by decide) ?_
                refine i_icmp_ne X 192 dX1_readOne_178 (by decide) (by first | omega | (split <;> omega)) (by first | omega | (split <;> omega)) (fun c178 => ?_) (fun c178 => ?_)
                · refine lv_iconst (v := iI (0)) X.1 X.2.1 dX1_readOne_192 rfl ?_
                  exact K193 0 (by first | (apply bI_t; unfold pRest; simp; omega) | (apply bI_f; unfold pRest; rw [← Bool.not_eq_true]; simp only [Bool.and_eq_true, decide_eq_true_eq]; omega)) H locs ls hG hS (lv_sub hl [0, 1, 2] rfl)
                · refine lv_aload_n X.1 X.2.1 dX1_readOne_181 rfl (lv_at hl 0 rfl) ?_
                  refine mg_piled X hK hG (S.1 24) rfl dX1_readOne_182 ?_
                  refine i_if_le X 192 dX1_readOne_185 (by decide) (by first | omega | (split <;> omega)) (fun c185 => ?_) (fun c185 => ?_)
                  · refine lv_iconst (v := iI (0)) X.1 X.2.1 dX1_readOne_192 rfl ?_
                    exact K193 0 (by first | (apply bI_t; unfold pRest; simp; omega) | (apply bI_f; unfold pRest; rw [← Bool.not_eq_true]; simp only [Bool.and_eq_true, decide_eq_true_eq]; omega)) H locs ls hG hS (lv_sub hl [0, 1, 2] rfl)
                  · refine lv_iconst (v := iI (1)) X.1 X.2.1 dX1_readOne_188 rfl ?_
                    refine lv_goto (tgt := 193) X.1 X.2.1 dX1_readOne_189 (by decide) ?_
                    exact K193 1 (by first | (apply bI_t; unfold pRest; simp; omega) | (apply bI_f; unfold pRest; rw [← Bool.not_eq_true]; simp only [Bool.and_eq_true, decide_eq_true_eq]; omega)) H locs ls hG hS (lv_sub hl [0, 1, 2] rfl)
          refine lv_iload_n X.1 X.2.1 dX1_readOne_144 rfl (lv_at hl 0 rfl) ?_
          refine lv_iconst (v := iI (2)) X.1 X.2.1 dX1_readOne_145 rfl ?_
          refine i_icmp_ne X 153 dX1_readOne_146 (by decide) (by first | omega | (split <;> omega)) (by first | omega | (split <;> omega)) (fun c146 => ?_) (fun c146 => ?_)
          · refine lv_iconst (v := iI (0)) X.1 X.2.1 dX1_readOne_153 rfl ?_
            exact K154 0 (by first | exact bI_t (by simpa using c146) | exact bI_f (by simpa using c146)) H locs ls hG hS (lv_sub hl [1, 2, 0] rfl)
          · refine lv_iconst (v := iI (1)) X.1 X.2.1 dX1_readOne_149 rfl ?_
            refine lv_goto (tgt := 154) X.1 X.2.1 dX1_readOne_150 (by decide) ?_
            exact K154 1 (by first | exact bI_t (by simpa using c146) | exact bI_f (by simpa using c146)) H locs ls hG hS (lv_sub hl [1, 2, 0] rfl)
        · refine lv_iload_n X.1 X.2.1 dX1_readOne_75 rfl (lv_at hl 2 rfl) ?_
          refine i_if_ne X 143 dX1_readOne_76 (by decide) (by first | omega | (split <;> omega)) (fun c76 => ?_) (fun c76 => ?_)
          · refine lv_aload_n X.1 X.2.1 dX1_readOne_143 rfl (lv_at hl 1 rfl) ?_
            have K154 : ∀ (z : Int), (z = bI (decide (S.2 3 (S.1 19) = 2))) → ∀ (H : Heap) (locs : List Loc) (ls : Array Slot), gOk D (mA o) (mH ca o S) H → va_S (mA o) s.heap H locs → lv_has ls 5 [(0, .ref o), (1, .int (iI (way))), (2, .int (iI ((S.2 3 (S.1 19)))))] → W p l e (mR lv) s m args below meth c H locs 0 0 Q (F0 m 154 ls [.int (iI (z)), .ref o]) := by
              intro z hz H locs ls hG hS hl
              have hb9 : z = 0 ∨ z = 1 := by rw [hz]; exact bI_01 _
              refine m_callVi (rest := []) (n := 1) X hK hG hS (fun _ h => h) (mm_must l D ca o (lv - 1) S z hb9 ht (show 0 ≤ S.1 21 ∧ S.1 21 ≤ 3 by omega)) (lw_V q1475 q1477 qs31 q70 q1478) (by decide +kernel) rfl ⟨by show (lv - 1) + 1 ≤ lv; omega, by show 8 + (2 + 11) + 40 * (lv - 1) ≤ 40 * lv; omega⟩ ⟨Nat.le_refl _, Nat.le_refl _⟩ hl.1 rfl (Nat.le_of_ble_eq_true rfl) dX1_readOne_154 (fun zM SM H locs hpM hG hS _ _ => ?_)
              obtain ⟨rfl, rfl⟩ := hpM
              refine i_if_eq X 279 dX1_readOne_157 (by decide) (bI_iR _) (fun c157 => ?_) (fun c157 => ?_)
              · have c157 := bI_eq0.mp c157
                refine ret _ _ _ _ _ ?_ hG hS dX1_readOne_279
                unfold pOne
                have hz0 : z = 0 := by
                  rcases hb9 with h | h
                  · exact h
                  · exfalso; rw [h, pMust_1] at c157; simp [hf] at c157
                rw [if_neg (by omega), if_neg (by omega), if_neg (by omega), if_neg (by omega)]
                unfold pNam
                rw [if_neg (by rw [hz0] at hz; simpa using bI_eq0.mp hz.symm), hz0, pMust_0 hf]
              · have c157 := bI_ne0.mp c157
                have hz1 : z = 1 := by
                  rcases hb9 with h | h
                  · exfalso
                    rw [h, pMust_0 (show (S).1 21 = 0 from hf), show (pFail S).1 21 = 1 from rfl] at c157
                    exact absurd c157 (by decide)
                  · exact h
                rw [hz1, pMust_1] at hG
                have K193 : ∀ (b : Int), (b = bI (pRest way S)) → ∀ (H : Heap) (locs : List Loc) (ls : Array Slot), gOk D (mA o) (mH ca o S) H → va_S (mA o) s.heap H locs → lv_has ls 5 [(0, .ref o), (1, .int (iI (way))), (2, .int (iI ((S.2 3 (S.1 19)))))] → W p l e (mR lv) s m args below meth c H locs 0 0 Q (F0 m 193 ls [.int (iI (b))]) := by
                  intro b hb H locs ls hG hS hl
                  refine lv_istore_n (lv' := [(3, .int (iI (b))), (0, .ref o), (1, .int (iI (way))), (2, .int (iI ((S.2 3 (S.1 19)))))]) X.1 X.2.1 dX1_readOne_193 rfl hl (by decide) rfl (fun ls hl => ?_)
                  have hb01 := bI_01 (pRest way S)
                  rw [← hb] at hb01
                  have ht3 := ht2 (by have h9 : z = 1 := hz1; rw [h9] at hz; have := of_decide_eq_true (bI_ne0.mp (by rw [← hz]; decide)); omega)
                  have hs2 : S.2 3 (S.1 19) = 2 := by have h9 : z = 1 := hz1; rw [h9] at hz; exact of_decide_eq_true (bI_ne0.mp (by rw [← hz]; decide))
                  refine lv_aload_n X.1 X.2.1 dX1_readOne_194 rfl (lv_at hl 1 rfl) ?_
                  have K215 : ∀ (kd : Int), (kd = pKd way S) → ∀ (H : Heap) (locs : List Loc) (ls : Array Slot), gOk D (mA o) (mH ca o S) H → va_S (mA o) s.heap H locs → lv_has ls 5 [(0, .ref o), (1, .int (iI (way))), (2, .int (iI ((S.2 3 (S.1 19))))), (3, .int (iI (b)))] → W p l e (mR lv) s m args below meth c H locs 0 0 Q (F0 m 215 ls [.int (iI (kd)), .ref o]) := by
                    intro kd hkd H locs ls hG hS hl
                    refine lv_aload_n X.1 X.2.1 dX1_readOne_215 rfl (lv_at hl 0 rfl) ?_
                    refine mg_worth X hK hG dX1_readOne_216 ?_
                    refine lv_aload_n X.1 X.2.1 dX1_readOne_219 rfl (lv_at hl 0 rfl) ?_
                    refine mg_tok X hK hG (S.1 19) rfl dX1_readOne_220 ?_
                    refine ml_worth X hK hG (S.2 5) rfl (by first | omega | (split <;> omega)) dX1_readOne_223 ?_
                    refine m_callVi (rest := []) (n := 2) X hK hG hS (fun _ h => h) (mm_node l D ca o (lv - 1) S kd (S.2 5 (S.1 19)) hn ht hp hq) (lw_V q1493 q1495 qs35 q70 q1496) (by decide +kernel) rfl ⟨by show (lv - 1) + 1 ≤ lv; omega, by show 8 + (5 + 11) + 40 * (lv - 1) ≤ 40 * lv; omega⟩ ⟨Nat.le_refl _, Nat.le_refl _⟩ hl.1 rfl (Nat.le_of_ble_eq_true rfl) dX1_readOne_224 (fun zN SN H locs hpN hG hS _ _ => ?_)
                    obtain ⟨hzN, rfl⟩ := hpN
                    rw [show zN = S.1 6 from hzN]
                    refine lv_istore (lv' := [(4, .int (iI (S.1 6))), (0, .ref o), (1, .int (iI (way))), (2, .int (iI ((S.2 3 (S.1 19))))), (3, .int (iI (b)))]) X.1 X.2.1 dX1_readOne_227 hl (by decide) rfl (fun ls hl => ?_)
                    refine lv_aload_n X.1 X.2.1 dX1_readOne_229 rfl (lv_at hl 1 rfl) ?_
                    refine lv_dup X.1 X.2.1 dX1_readOne_230 rfl ?_
                    refine mg_tok X hK hG (S.1 19) rfl dX1_readOne_231 ?_
                    have K243 : ∀ (w2 : Int), (w2 = if pRest way S = true then 2 else 1) → ∀ (H : Heap) (locs : List Loc) (ls : Array Slot), gOk D (mA o) (mH ca o (pNode kd (S.2 5 (S.1 19)) S)) H → va_S (mA o) s.heap H locs → lv_has ls 5 [(0, .ref o), (1, .int (iI (way))), (2, .int (iI ((S.2 3 (S.1 19))))), (3, .int (iI (b)))] → W p l e (mR lv) s m args below meth c H locs 0 0 Q (F0 m 243 ls [.int (iI (w2)), .int (iI (S.1 19)), .ref o]) := by
                      intro w2 hw2 H locs ls hG hS hl
                      refine i_add X dX1_readOne_243 ?_
                      have hG : gOk D (mA o) (mH ca o (mP (pNode kd (S.2 5 (S.1 19)) S) [] [])) H := hG
                      refine mp_tok X hK hG hS dX1_readOne_244 (fun H locs hG hS => ?_)
                      rw [mS_mP (sc' := [(19, (S.1 19) + w2)]) rfl] at hG
                      have hG : gOk D (mA o) (mH ca o (pTok (pNode kd (S.2 5 (S.1 19)) S) (w2))) H := hG
                      refine lv_iload_n X.1 X.2.1 dX1_readOne_247 rfl (lv_at hl 3 rfl) ?_
                      refine i_if_eq X 279 dX1_readOne_248 (by decide) (by first | omega | (split <;> omega)) (fun c248 => ?_) (fun c248 => ?_)
                      · refine ret _ _ _ _ _ ?_ hG hS dX1_readOne_279
                        unfold pOne
                        rw [if_neg (by omega), if_neg (by omega), if_neg (by omega), if_neg (by omega)]
                        unfold pNam
                        rw [if_pos hs2]
                        rw [if_neg (by first | (intro h; rw [← bI_ne0, ← hb] at h; omega) | (intro h; exact c252 h.2))]
                        unfold pNam2
                        rw [← hkd, ← hw2]
                      · refine lv_iload_n X.1 X.2.1 dX1_readOne_251 rfl (lv_at hl 1 rfl) ?_
                        refine i_if_ne X 279 dX1_readOne_252 (by decide) (by first | omega | (split <;> omega)) (fun c252 => ?_) (fun c252 => ?_)
                        · refine ret _ _ _ _ _ ?_ hG hS dX1_readOne_279
                          unfold pOne
                          rw [if_neg (by omega), if_neg (by omega), if_neg (by omega), if_neg (by omega)]
                          unfold pNam
                          rw [if_pos hs2]
                          rw [if_neg (by first | (intro h; rw [← bI_ne0, ← hb] at h; omega) | (intro h; exact c252 h.2))]
                          unfold pNam2
                          rw [← hkd, ← hw2]
                        · have hre : pRest way S = true := by rw [← bI_ne0, ← hb]; exact c248
                          have hw22 : w2 = 2 := by rw [hw2, if_pos hre]
                          have hs4 := hs (S.1 19 + w2) (by omega) (by omega)
                          refine lv_aload_n X.1 X.2.1 dX1_readOne_255 rfl (lv_at hl 0 rfl) ?_
                          have K275 : ∀ (z2 : Int), (z2 = bI (decide (S.2 3 (S.1 19 + 2) = 41))) → ∀ (H : Heap) (locs : List Loc) (ls : Array Slot), gOk D (mA o) (mH ca o (pTok (pNode kd (S.2 5 (S.1 19)) S) (w2))) H → va_S (mA o) s.heap H locs → lv_has ls 5 [(0, .ref o)] → W p l e (mR lv) s m args below meth c H locs 0 0 Q (F0 m 275 ls [.int (iI (z2)), .ref o]) := by
                            intro z2 hz2 H locs ls hG hS hl
                            have hb9 : z2 = 0 ∨ z2 = 1 := by rw [hz2]; exact bI_01 _
                            refine m_callVi (rest := []) (n := 1) X hK hG hS (fun _ h => h) (mm_must l D ca o (lv - 1) (pTok (pNode kd (S.2 5 (S.1 19)) S) (w2)) z2 hb9 (show 0 ≤ S.1 19 + w2 ∧ S.1 19 + w2 < 601 by omega) (show 0 ≤ S.1 21 ∧ S.1 21 ≤ 3 by omega)) (lw_V q1475 q1477 qs31 q70 q1478) (by decide +kernel) rfl ⟨by show (lv - 1) + 1 ≤ lv; omega, by show 8 + (2 + 11) + 40 * (lv - 1) ≤ 40 * lv; omega⟩ ⟨Nat.le_refl _, Nat.le_refl _⟩ hl.1 rfl (Nat.le_of_ble_eq_true rfl) dX1_readOne_275 (fun zM SM H locs hpM hG hS _ _ => ?_)
                            obtain ⟨rfl, rfl⟩ := hpM
                            refine lv_pop X.1 X.2.1 dX1_readOne_278 rfl ?_
                            refine ret _ _ _ _ _ ?_ hG hS dX1_readOne_279
                            unfold pOne
                            rw [if_neg (by omega), if_neg (by omega), if_neg (by omega), if_neg (by omega)]
                            unfold pNam
                            rw [if_pos hs2]
                            rw [if_pos ⟨hre, c252⟩]
                            unfold pNam2
                            rw [← hkd, ← hw2, ← hz2]
                          refine lv_aload_n X.1 X.2.1 dX1_readOne_256 rfl (lv_at hl 0 rfl) ?_
                          refine mg_sort X hK hG dX1_readOne_257 ?_
                          refine lv_aload_n X.1 X.2.1 dX1_readOne_260 rfl (lv_at hl 0 rfl) ?_
                          refine mg_tok X hK hG (S.1 19 + (w2)) rfl dX1_readOne_261 ?_
                          refine ml_sort X hK hG (S.2 3) rfl (by first | omega | (split <;> omega)) dX1_readOne_264 ?_
                          refine lv_bipush (v := iI (41)) X.1 X.2.1 dX1_readOne_265 (by decide) ?_
                          refine i_icmp_ne X 274 dX1_readOne_267 (by decide) (by first | omega | (split <;> omega)) (by first | omega | (split <;> omega)) (fun c267 => ?_) (fun c267 => ?_)
                          · refine lv_iconst (v := iI (0)) X.1 X.2.1 dX1_readOne_274 rfl ?_
                            exact K275 0 (by rw [hw22] at c267; first | exact bI_t (by simpa using c267) | exact bI_f (by simpa using c267)) H locs ls hG hS (lv_sub hl [0] rfl)
                          · refine lv_iconst (v := iI (1)) X.1 X.2.1 dX1_readOne_270 rfl ?_
                            refine lv_goto (tgt := 275) X.1 X.2.1 dX1_readOne_271 (by decide) ?_
                            exact K275 1 (by rw [hw22] at c267; first | exact bI_t (by simpa using c267) | exact bI_f (by simpa using c267)) H locs ls hG hS (lv_sub hl [0] rfl)
                    refine lv_iload_n X.1 X.2.1 dX1_readOne_234 rfl (lv_at hl 4 rfl) ?_
                    refine i_if_eq X 242 dX1_readOne_235 (by decide) (by first | omega | (split <;> omega)) (fun c235 => ?_) (fun c235 => ?_)
                    · refine lv_iconst (v := iI (1)) X.1 X.2.1 dX1_readOne_242 rfl ?_
                      exact K243 1 (by first | (rw [if_pos (by rw [← bI_ne0, ← hb]; omega)]; done) | (rw [if_neg (by rw [← bI_ne0, ← hb]; omega)])) H locs ls hG hS (lv_sub hl [1, 2, 3, 4] rfl)
                    · refine lv_iconst (v := iI (2)) X.1 X.2.1 dX1_readOne_238 rfl ?_
                      refine lv_goto (tgt := 243) X.1 X.2.1 dX1_readOne_239 (by decide) ?_
                      exact K243 2 (by first | (rw [if_pos (by rw [← bI_ne0, ← hb]; omega)]; done) | (rw [if_neg (by rw [← bI_ne0, ← hb]; omega)])) H locs ls hG hS (lv_sub hl [1, 2, 3, 4] rfl)
                  refine lv_iload_n X.1 X.2.1 dX1_readOne_195 rfl (lv_at hl 0 rfl) ?_
                  refine i_if_eq X 204 dX1_readOne_196 (by decide) (by first | omega | (split <;> omega)) (fun c196 => ?_) (fun c196 => ?_)
                  · refine lv_iload_n X.1 X.2.1 dX1_readOne_204 rfl (lv_at hl 2 rfl) ?_
                    refine lv_iconst (v := iI (2)) X.1 X.2.1 dX1_readOne_205 rfl ?_
                    refine i_icmp_ne X 213 dX1_readOne_206 (by decide) (by first | omega | (split <;> omega)) (by first | omega | (split <;> omega)) (fun c206 => ?_) (fun c206 => ?_)
                    · refine lv_bipush (v := iI (6)) X.1 X.2.1 dX1_readOne_213 (by decide) ?_
                      exact K215 6 (by unfold pKd; first | (rw [if_pos (by rw [← bI_ne0, ← hb]; omega)]; done) | (rw [if_neg (by rw [← bI_ne0, ← hb]; omega), if_pos (by omega)]; done) | (rw [if_neg (by rw [← bI_ne0, ← hb]; omega), if_neg (by omega)])) H locs ls hG hS (lv_sub hl [1, 2, 3, 0] rfl)
                    · refine lv_iconst (v := iI (1)) X.1 X.2.1 dX1_readOne_209 rfl ?_
                      refine lv_goto (tgt := 215) X.1 X.2.1 dX1_readOne_210 (by decide) ?_
                      exact K215 1 (by unfold pKd; first | (rw [if_pos (by rw [← bI_ne0, ← hb]; omega)]; done) | (rw [if_neg (by rw [← bI_ne0, ← hb]; omega), if_pos (by omega)]; done) | (rw [if_neg (by rw [← bI_ne0, ← hb]; omega), if_neg (by omega)])) H locs ls hG hS (lv_sub hl [1, 2, 3, 0] rfl)
                  · refine lv_bipush (v := iI (7)) X.1 X.2.1 dX1_readOne_199 (by decide) ?_
                    refine lv_goto (tgt := 215) X.1 X.2.1 dX1_readOne_201 (by decide) ?_
                    exact K215 7 (by unfold pKd; first | (rw [if_pos (by rw [← bI_ne0, ← hb]; omega)]; done) | (rw [if_neg (by rw [← bI_ne0, ← hb]; omega), if_pos (by omega)]; done) | (rw [if_neg (by rw [← bI_ne0, ← hb]; omega), if_neg (by omega)])) H locs ls hG hS (lv_sub hl [1, 2, 3, 0] rfl)
                refine lv_iload_n X.1 X.2.1 dX1_readOne_160 rfl (lv_at hl 1 rfl) ?_
                refine lv_iconst (v := iI (2)) X.1 X.2.1 dX1_readOne_161 rfl ?_
                refine i_icmp_ge X 192 dX1_readOne_162 (by decide) (by first | omega | (split <;> omega)) (by first | omega | (split <;> omega)) (fun c162 => ?_) (fun c162 => ?_)
                · refine lv_iconst (v := iI (0)) X.1 X.2.1 dX1_readOne_192 rfl ?_
                  exact K193 0 (by first | (apply bI_t; unfold pRest; simp; omega) | (apply bI_f; unfold pRest; rw [← Bool.not_eq_true]; simp only [Bool.and_eq_true, decide_eq_true_eq]; omega)) H locs ls hG hS (lv_sub hl [0, 1, 2] rfl)
                · have ht4 := ht2 (by have h9 : z = 1 := hz1; rw [h9] at hz; have := of_decide_eq_true (bI_ne0.mp (by rw [← hz]; decide)); omega)
                  have hs1 := hs (S.1 19 + 1) (by omega) (by omega)
                  refine lv_aload_n X.1 X.2.1 dX1_readOne_165 rfl (lv_at hl 0 rfl) ?_
                  refine mg_sort X hK hG dX1_readOne_166 ?_
                  refine lv_aload_n X.1 X.2.1 dX1_readOne_169 rfl (lv_at hl 0 rfl) ?_
                  refine mg_tok X hK hG (S.1 19) rfl dX1_readOne_170 ?_
                  refine lv_iconst (v := iI (1)) X.1 X.2.1 dX1_readOne_173 rfl ?_
                  refine i_add X dX1_readOne_174 ?_
                  refine ml_sort X hK hG (S.2 3) rfl (by first | omega | (split <;> omega)) dX1_readOne_175 ?_
                  refine lv_bipush (v := iI (42)) X.1 X.2.1 dX1_readOne_176 (by decide) ?_
                  refine i_icmp_ne X 192 dX1_readOne_178 (by decide) (by first | omega | (split <;> omega)) (by first | omega | (split <;> omega)) (fun c178 => ?_) (fun c178 => ?_)
                  · refine lv_iconst (v := iI (0)) X.1 X.2.1 dX1_readOne_192 rfl ?_
                    exact K193 0 (by first | (apply bI_t; unfold pRest; simp; omega) | (apply bI_f; unfold pRest; rw [← Bool.not_eq_true]; simp only [Bool.and_eq_true, decide_eq_true_eq]; omega)) H locs ls hG hS (lv_sub hl [0, 1, 2] rfl)
                  · refine lv_aload_n X.1 X.2.1 dX1_readOne_181 rfl (lv_at hl 0 rfl) ?_
                    refine mg_piled X hK hG (S.1 24) rfl dX1_readOne_182 ?_
                    refine i_if_le X 192 dX1_readOne_185 (by decide) (by first | omega | (split <;> omega)) (fun c185 => ?_) (fun c185 => ?_)
                    · refine lv_iconst (v := iI (0)) X.1 X.2.1 dX1_readOne_192 rfl ?_
                      exact K193 0 (by first | (apply bI_t; unfold pRest; simp; omega) | (apply bI_f; unfold pRest; rw [← Bool.not_eq_true]; simp only [Bool.and_eq_true, decide_eq_true_eq]; omega)) H locs ls hG hS (lv_sub hl [0, 1, 2] rfl)
                    · refine lv_iconst (v := iI (1)) X.1 X.2.1 dX1_readOne_188 rfl ?_
                      refine lv_goto (tgt := 193) X.1 X.2.1 dX1_readOne_189 (by decide) ?_
                      exact K193 1 (by first | (apply bI_t; unfold pRest; simp; omega) | (apply bI_f; unfold pRest; rw [← Bool.not_eq_true]; simp only [Bool.and_eq_true, decide_eq_true_eq]; omega)) H locs ls hG hS (lv_sub hl [0, 1, 2] rfl)
            refine lv_iload_n X.1 X.2.1 dX1_readOne_144 rfl (lv_at hl 0 rfl) ?_
            refine lv_iconst (v := iI (2)) X.1 X.2.1 dX1_readOne_145 rfl ?_
            refine i_icmp_ne X 153 dX1_readOne_146 (by decide) (by first | omega | (split <;> omega)) (by first | omega | (split <;> omega)) (fun c146 => ?_) (fun c146 => ?_)
            · refine lv_iconst (v := iI (0)) X.1 X.2.1 dX1_readOne_153 rfl ?_
              exact K154 0 (by first | exact bI_t (by simpa using c146) | exact bI_f (by simpa using c146)) H locs ls hG hS (lv_sub hl [1, 2, 0] rfl)
            · refine lv_iconst (v := iI (1)) X.1 X.2.1 dX1_readOne_149 rfl ?_
              refine lv_goto (tgt := 154) X.1 X.2.1 dX1_readOne_150 (by decide) ?_
              exact K154 1 (by first | exact bI_t (by simpa using c146) | exact bI_f (by simpa using c146)) H locs ls hG hS (lv_sub hl [1, 2, 0] rfl)
          · refine lv_aload_n X.1 X.2.1 dX1_readOne_79 rfl (lv_at hl 1 rfl) ?_
            refine lv_dup X.1 X.2.1 dX1_readOne_80 rfl ?_
            refine mg_tok X hK hG (S.1 19) rfl dX1_readOne_81 ?_
            refine lv_iconst (v := iI (1)) X.1 X.2.1 dX1_readOne_84 rfl ?_
            refine i_add X dX1_readOne_85 ?_
            have hG : gOk D (mA o) (mH ca o (mP S [] [])) H := hG
            refine mp_tok X hK hG hS dX1_readOne_86 (fun H locs hG hS => ?_)
            rw [mS_mP (sc' := [(19, (S.1 19) + 1)]) rfl] at hG
            have ht3 := ht2 (by omega)
            have hs1 := hs (S.1 19 + 1) (by omega) (by omega)
            have hG : gOk D (mA o) (mH ca o (pTok S 1)) H := hG
            refine lv_aload_n X.1 X.2.1 dX1_readOne_89 rfl (lv_at hl 1 rfl) ?_
            have K108 : ∀ (z : Int), (z = bI (decide (S.2 3 (S.1 19 + 1) = 2))) → ∀ (H : Heap) (locs : List Loc) (ls : Array Slot), gOk D (mA o) (mH ca o (pTok S 1)) H → va_S (mA o) s.heap H locs → lv_has ls 5 [(0, .ref o), (1, .int (iI (way))), (2, .int (iI ((S.2 3 (S.1 19)))))] → W p l e (mR lv) s m args below meth c H locs 0 0 Q (F0 m 108 ls [.int (iI (z)), .ref o]) := by
              intro z hz H locs ls hG hS hl
              have hb9 : z = 0 ∨ z = 1 := by rw [hz]; exact bI_01 _
              refine m_callVi (rest := []) (n := 1) X hK hG hS (fun _ h => h) (mm_must l D ca o (lv - 1) (pTok S 1) z hb9 (show 0 ≤ S.1 19 + 1 ∧ S.1 19 + 1 < 601 by omega) (show 0 ≤ S.1 21 ∧ S.1 21 ≤ 3 by omega)) (lw_V q1475 q1477 qs31 q70 q1478) (by decide +kernel) rfl ⟨by show (lv - 1) + 1 ≤ lv; omega, by show 8 + (2 + 11) + 40 * (lv - 1) ≤ 40 * lv; omega⟩ ⟨Nat.le_refl _, Nat.le_refl _⟩ hl.1 rfl (Nat.le_of_ble_eq_true rfl) dX1_readOne_108 (fun zM SM H locs hpM hG hS _ _ => ?_)
              obtain ⟨rfl, rfl⟩ := hpM
              refine i_if_eq X 279 dX1_readOne_111 (by decide) (bI_iR _) (fun c111 => ?_) (fun c111 => ?_)
              · have c111 := bI_eq0.mp c111
                refine ret _ _ _ _ _ ?_ hG hS dX1_readOne_279
                unfold pOne
                have hz0 : z = 0 := by
                  rcases hb9 with h | h
                  · exact h
                  · exfalso; rw [h, pMust_1] at c111; have c111 : decide (S.1 21 = 0) = false := c111; simp [hf] at c111
                rw [if_neg (by omega), if_neg (by omega), if_neg (by omega), if_pos (by omega)]
                unfold pBang
                rw [if_neg (by rw [hz0] at hz; simpa using bI_eq0.mp hz.symm), hz0, pMust_0 (show (pTok S 1).1 21 = 0 from hf)]
              · have c111 := bI_ne0.mp c111
                have hz1 : z = 1 := by
                  rcases hb9 with h | h
                  · exfalso
                    rw [h, pMust_0 (show (pTok S 1).1 21 = 0 from hf), show (pFail (pTok S 1)).1 21 = 1 from rfl] at c111
                    exact absurd c111 (by decide)
                  · exact h
                rw [hz1, pMust_1] at hG
                refine lv_aload_n X.1 X.2.1 dX1_readOne_114 rfl (lv_at hl 0 rfl) ?_
                refine lv_bipush (v := iI (8)) X.1 X.2.1 dX1_readOne_115 (by decide) ?_
                refine lv_aload_n X.1 X.2.1 dX1_readOne_117 rfl (lv_at hl 0 rfl) ?_
                refine mg_worth X hK hG dX1_readOne_118 ?_
                refine lv_aload_n X.1 X.2.1 dX1_readOne_121 rfl (lv_at hl 0 rfl) ?_
                refine mg_tok X hK hG (S.1 19 + 1) rfl dX1_readOne_122 ?_
                refine ml_worth X hK hG (S.2 5) rfl (by first | omega | (split <;> omega)) dX1_readOne_125 ?_
                refine m_callVi (rest := []) (n := 2) X hK hG hS (fun _ h => h) (mm_node l D ca o (lv - 1) (pTok S 1) 8 (S.2 5 (S.1 19 + 1)) hn (show 0 ≤ S.1 19 + 1 ∧ S.1 19 + 1 < 601 by omega) hp hq) (lw_V q1493 q1495 qs35 q70 q1496) (by decide +kernel) rfl ⟨by show (lv - 1) + 1 ≤ lv; omega, by show 8 + (5 + 11) + 40 * (lv - 1) ≤ 40 * lv; omega⟩ ⟨Nat.le_refl _, Nat.le_refl _⟩ hl.1 rfl (Nat.le_of_ble_eq_true rfl) dX1_readOne_126 (fun zN SN H locs hpN hG hS _ _ => ?_)
                obtain ⟨hzN, rfl⟩ := hpN
                rw [show zN = S.1 6 from hzN]
                refine lv_istore_n (lv' := [(3, .int (iI (S.1 6))), (0, .ref o), (1, .int (iI (way))), (2, .int (iI ((S.2 3 (S.1 19)))))]) X.1 X.2.1 dX1_readOne_129 rfl hl (by decide) rfl (fun ls hl => ?_)
                refine lv_aload_n X.1 X.2.1 dX1_readOne_130 rfl (lv_at hl 1 rfl) ?_
                refine lv_dup X.1 X.2.1 dX1_readOne_131 rfl ?_
                refine mg_tok X hK hG (S.1 19 + 1) rfl dX1_readOne_132 ?_
                refine lv_iconst (v := iI (1)) X.1 X.2.1 dX1_readOne_135 rfl ?_
                refine i_add X dX1_readOne_136 ?_
                have hG : gOk D (mA o) (mH ca o (mP (pNode 8 (S.2 5 (S.1 19 + 1)) (pTok S 1)) [] [])) H := hG
                refine mp_tok X hK hG hS dX1_readOne_137 (fun H locs hG hS => ?_)
                rw [mS_mP (sc' := [(19, (S.1 19 + 1) + 1)]) rfl] at hG
                refine lv_goto (tgt := 279) X.1 X.2.1 dX1_readOne_140 (by decide) ?_
                refine ret _ _ _ _ _ ?_ hG hS dX1_readOne_279
                unfold pOne
                rw [if_neg (by omega), if_neg (by omega), if_neg (by omega), if_pos (by omega)]
                unfold pBang
                rw [if_pos (by rw [hz1] at hz; exact of_decide_eq_true (bI_ne0.mp (by rw [← hz]; decide)))]
                rfl
            refine lv_aload_n X.1 X.2.1 dX1_readOne_90 rfl (lv_at hl 1 rfl) ?_
            refine mg_sort X hK hG dX1_readOne_91 ?_
            refine lv_aload_n X.1 X.2.1 dX1_readOne_94 rfl (lv_at hl 1 rfl) ?_
            refine mg_tok X hK hG (S.1 19 + 1) rfl dX1_readOne_95 ?_
            refine ml_sort X hK hG (S.2 3) rfl (by first | omega | (split <;> omega)) dX1_readOne_98 ?_
            refine lv_iconst (v := iI (2)) X.1 X.2.1 dX1_readOne_99 rfl ?_
            refine i_icmp_ne X 107 dX1_readOne_100 (by decide) (by first | omega | (split <;> omega)) (by first | omega | (split <;> omega)) (fun c100 => ?_) (fun c100 => ?_)
            · refine lv_iconst (v := iI (0)) X.1 X.2.1 dX1_readOne_107 rfl ?_
              exact K108 0 (by first | exact bI_t (by simpa using c100) | exact bI_f (by simpa using c100)) H locs ls hG hS (lv_sub hl [1, 2, 0] rfl)
            · refine lv_iconst (v := iI (1)) X.1 X.2.1 dX1_readOne_103 rfl ?_
              refine lv_goto (tgt := 108) X.1 X.2.1 dX1_readOne_104 (by decide) ?_
              exact K108 1 (by first | exact bI_t (by simpa using c100) | exact bI_f (by simpa using c100)) H locs ls hG hS (lv_sub hl [1, 2, 0] rfl)
      · refine lv_aload_n X.1 X.2.1 dX1_readOne_41 rfl (lv_at hl 1 rfl) ?_
        refine lv_iconst (v := iI (0)) X.1 X.2.1 dX1_readOne_42 rfl ?_
        refine lv_aload_n X.1 X.2.1 dX1_readOne_43 rfl (lv_at hl 1 rfl) ?_
        refine mg_worth X hK hG dX1_readOne_44 ?_
        refine lv_aload_n X.1 X.2.1 dX1_readOne_47 rfl (lv_at hl 1 rfl) ?_
        refine mg_tok X hK hG (S.1 19) rfl dX1_readOne_48 ?_
        refine ml_worth X hK hG (S.2 5) rfl (by first | omega | (split <;> omega)) dX1_readOne_51 ?_
        refine m_callVi (rest := []) (n := 2) X hK hG hS (fun _ h => h) (mm_node l D ca o (lv - 1) S 0 (S.2 5 (S.1 19)) hn ht hp hq) (lw_V q1493 q1495 qs35 q70 q1496) (by decide +kernel) rfl ⟨by show (lv - 1) + 1 ≤ lv; omega, by show 8 + (5 + 11) + 40 * (lv - 1) ≤ 40 * lv; omega⟩ ⟨Nat.le_refl _, Nat.le_refl _⟩ hl.1 rfl (Nat.le_of_ble_eq_true rfl) dX1_readOne_52 (fun zN SN H locs hpN hG hS _ _ => ?_)
        obtain ⟨hzN, rfl⟩ := hpN
        rw [show zN = S.1 6 from hzN]
        refine lv_istore_n (lv' := [(3, .int (iI (S.1 6))), (2, .int (iI (S.2 3 (S.1 19)))), (0, .ref o), (1, .int (iI (way)))]) X.1 X.2.1 dX1_readOne_55 rfl hl (by decide) rfl (fun ls hl => ?_)
        refine lv_aload_n X.1 X.2.1 dX1_readOne_56 rfl (lv_at hl 2 rfl) ?_
        refine lv_dup X.1 X.2.1 dX1_readOne_57 rfl ?_
        refine mg_tok X hK hG (S.1 19) rfl dX1_readOne_58 ?_
        refine lv_iconst (v := iI (1)) X.1 X.2.1 dX1_readOne_61 rfl ?_
        refine i_add X dX1_readOne_62 ?_
        have hG : gOk D (mA o) (mH ca o (mP (pNode 0 (S.2 5 (S.1 19)) S) [] [])) H := hG
        refine mp_tok X hK hG hS dX1_readOne_63 (fun H locs hG hS => ?_)
        rw [mS_mP (sc' := [(19, (S.1 19) + 1)]) rfl] at hG
        refine lv_goto (tgt := 279) X.1 X.2.1 dX1_readOne_66 (by decide) ?_
        refine ret _ _ _ _ _ ?_ hG hS dX1_readOne_279
        unfold pOne
        rw [if_neg (by omega), if_neg (by omega), if_pos (by omega)]
        rfl
    · refine lv_aload_n X.1 X.2.1 dX1_readOne_29 rfl (lv_at hl 1 rfl) ?_
      refine m_callVv (rest := []) (n := 0) X hK hG hS (fun _ h => h) (mm_close l D ca o (lv - 1) S (by omega) hn ht hp hq (by omega) (hs _ (by omega) (by omega)) (hpc (by omega))) (lw_V q1497 q1499 qs36 q70 q1500) (by decide +kernel) rfl ⟨by show (lv - 1) + 1 ≤ lv; omega, by show 8 + (1 + 11) + 40 * (lv - 1) ≤ 40 * lv; omega⟩ ⟨Nat.le_refl _, Nat.le_refl _⟩ hl.1 rfl (Nat.le_of_ble_eq_true rfl) dX1_readOne_30 (fun SC H locs hpC hG hS _ _ => ?_)
      obtain rfl := hpC
      refine lv_goto (tgt := 279) X.1 X.2.1 dX1_readOne_33 (by decide) ?_
      refine ret _ _ _ _ _ ?_ hG hS dX1_readOne_279
      unfold pOne
      rw [if_neg (by omega), if_pos (by omega)]
  · refine lv_aload_n X.1 X.2.1 dX1_readOne_16 rfl (lv_at hl 1 rfl) ?_
    refine m_callVv (rest := []) (n := 0) X hK hG hS (fun _ h => h) (mm_open l D ca o (lv - 1) S (by omega) hn ht hp hq (by omega) (hs _ (by omega) (by omega)) (hpp (by omega)) hdd) (lw_V q1489 q1491 qs34 q70 q1492) (by decide +kernel) rfl ⟨by show (lv - 1) + 1 ≤ lv; omega, by show 8 + (2 + 11) + 40 * (lv - 1) ≤ 40 * lv; omega⟩ ⟨Nat.le_refl _, Nat.le_refl _⟩ hl.1 rfl (Nat.le_of_ble_eq_true rfl) dX1_readOne_17 (fun SO H locs hpO hG hS _ _ => ?_)
    obtain rfl := hpO
    refine lv_goto (tgt := 279) X.1 X.2.1 dX1_readOne_20 (by decide) ?_
    refine ret _ _ _ _ _ ?_ hG hS dX1_readOne_279
    unfold pOne
    rw [if_pos (by omega)]

