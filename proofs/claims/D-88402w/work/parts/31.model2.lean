/-! ===== the Model: what fits, what is ready ===== -/
set_option maxRecDepth 100000
set_option maxHeartbeats 4000000 in
theorem mm_endsInRest (l : Launch) (D : va_G) (ca : Nat → ClassId) (o lv : Nat) (S : MSt) (a : Int) (h : 0 ≤ a) (h2 : 1 ≤ S.2 37 a ∧ a + S.2 37 a ≤ 601) (h3 : iR (S.2 34 (a + S.2 37 a - 1))) (h4 : iR (S.2 39 (a + S.2 37 a - 1))) : mCi l yX1_endsInRest cX1_endsInRest 3 .boolean D ca o lv [.ref o, .int (iI (a))] S (fun r S' => r = bI (decide (S.2 34 (a + S.2 37 a - 1) = 7) && decide (S.2 39 (a + S.2 37 a - 1) = a)) ∧ S' = S) := by
  refine mCi_of (by decide +kernel) rfl (Nat.le_of_ble_eq_true rfl) ?_
  intro p e s m args below meth c Q X hK ret H locs ls hG hS hl
  have hl : lv_has ls 3 [(0, .ref o), (1, .int (iI (a)))] := hl
  refine lv_iload_n X.1 X.2.1 dX1_endsInRest_0 rfl (lv_at hl 1 rfl) ?_
  refine lv_aload_n X.1 X.2.1 dX1_endsInRest_1 rfl (lv_at hl 0 rfl) ?_
  refine mg_pSpan X hK hG dX1_endsInRest_2 ?_
  refine lv_iload_n X.1 X.2.1 dX1_endsInRest_5 rfl (lv_at hl 1 rfl) ?_
  refine ml_pSpan X hK hG (S.2 37) rfl (by omega) dX1_endsInRest_6 ?_
  refine i_add X dX1_endsInRest_7 ?_
  refine lv_iconst (v := iI (1)) X.1 X.2.1 dX1_endsInRest_8 rfl ?_
  refine i_sub X dX1_endsInRest_9 ?_
  refine lv_istore_n (lv' := [(2, .int (iI ((a + (S.2 37 a)) - 1))), (0, .ref o), (1, .int (iI (a)))]) X.1 X.2.1 dX1_endsInRest_10 rfl hl (by decide) rfl (fun ls hl => ?_)
  refine lv_aload_n X.1 X.2.1 dX1_endsInRest_11 rfl (lv_at hl 1 rfl) ?_
  refine mg_pKind X hK hG dX1_endsInRest_12 ?_
  refine lv_iload_n X.1 X.2.1 dX1_endsInRest_15 rfl (lv_at hl 0 rfl) ?_
  refine ml_pKind X hK hG (S.2 34) rfl (by omega) dX1_endsInRest_16 ?_
  refine lv_bipush (v := iI (7)) X.1 X.2.1 dX1_endsInRest_17 (by decide) ?_
  refine i_icmp_ne X 36 dX1_endsInRest_19 (by decide) (by omega) (by omega) (fun c19 => ?_) (fun c19 => ?_)
  · refine lv_iconst (v := iI (0)) X.1 X.2.1 dX1_endsInRest_36 rfl ?_
    refine ret _ _ _ _ _ _ ?_ (nar_b (by omega)) hG hS dX1_endsInRest_37
    exact ⟨by first | (apply bI_t; simp; omega) | (apply bI_f; simp; omega), rfl⟩
  · refine lv_aload_n X.1 X.2.1 dX1_endsInRest_22 rfl (lv_at hl 1 rfl) ?_
    refine mg_pParent X hK hG dX1_endsInRest_23 ?_
    refine lv_iload_n X.1 X.2.1 dX1_endsInRest_26 rfl (lv_at hl 0 rfl) ?_
    refine ml_pParent X hK hG (S.2 39) rfl (by omega) dX1_endsInRest_27 ?_
    refine lv_iload_n X.1 X.2.1 dX1_endsInRest_28 rfl (lv_at hl 2 rfl) ?_
    refine i_icmp_ne X 36 dX1_endsInRest_29 (by decide) (by omega) (by omega) (fun c29 => ?_) (fun c29 => ?_)
    · refine lv_iconst (v := iI (0)) X.1 X.2.1 dX1_endsInRest_36 rfl ?_
      refine ret _ _ _ _ _ _ ?_ (nar_b (by omega)) hG hS dX1_endsInRest_37
      exact ⟨by first | (apply bI_t; simp; omega) | (apply bI_f; simp; omega), rfl⟩
    · refine lv_iconst (v := iI (1)) X.1 X.2.1 dX1_endsInRest_32 rfl ?_
      refine lv_goto (tgt := 37) X.1 X.2.1 dX1_endsInRest_33 (by decide) ?_
      refine ret _ _ _ _ _ _ ?_ (nar_b (by omega)) hG hS dX1_endsInRest_37
      exact ⟨by first | (apply bI_t; simp; omega) | (apply bI_f; simp; omega), rfl⟩

set_option maxHeartbeats 4000000 in
theorem mm_fitsOne (l : Launch) (D : va_G) (ca : Nat → ClassId) (o lv : Nat) (S : MSt) (q : Int) (t : Int) (hlv : 1 ≤ lv) (hq : 0 ≤ q ∧ q < 601) (ht : 0 ≤ t ∧ t < 500) (hk : 0 ≤ S.2 34 q ∧ S.2 34 q ≤ 8) (hw : 0 ≤ S.2 41 t ∧ S.2 41 t ≤ 5) (hv : lR (S.2 42 t)) (hv2 : lR (S.2 35 q)) (hc : 0 ≤ S.2 38 q ∧ S.2 38 q ≤ 600) (hp : 0 ≤ S.2 47 t ∧ S.2 47 t ≤ 500) (hn : 1 ≤ S.2 37 q ∧ q + S.2 37 q ≤ 601) (hl1 : iR (S.2 34 (q + S.2 37 q - 1))) (hl2 : iR (S.2 39 (q + S.2 37 q - 1))) (h2 : S.2 34 q = 0 ∨ S.2 34 q = 2 ∨ S.2 34 q = 6 ∨ S.2 34 q = 8) : mCi l yX1_fitsOne cX1_fitsOne 4 .boolean D ca o lv [.ref o, .int (iI (q)), .int (iI (t))] S (fun r S' => r = bI (spOne S q t) ∧ S' = S) := by
  refine mCi_of (by decide +kernel) rfl (Nat.le_of_ble_eq_true rfl) ?_
  intro p e s m args below meth c Q X hK ret H locs ls hG hS hl
  have hl : lv_has ls 4 [(0, .ref o), (1, .int (iI (q))), (2, .int (iI (t)))] := hl
  refine lv_aload_n X.1 X.2.1 dX1_fitsOne_0 rfl (lv_at hl 0 rfl) ?_
  refine mg_pKind X hK hG dX1_fitsOne_1 ?_
  refine lv_iload_n X.1 X.2.1 dX1_fitsOne_4 rfl (lv_at hl 1 rfl) ?_
  refine ml_pKind X hK hG (S.2 34) rfl (by first | omega | (split <;> omega)) dX1_fitsOne_5 ?_
  by_cases s6_0 : S.2 34 q = 0
  · refine i_lookup X (by first | omega | (split <;> omega)) (off := 34) (tgt := 40) dX1_fitsOne_6 (by decide) (by rw [s6_0]; decide) (by decide) ?_
    refine lv_aload_n X.1 X.2.1 dX1_fitsOne_40 rfl (lv_at hl 0 rfl) ?_
    refine mg_what X hK hG dX1_fitsOne_41 ?_
    refine lv_iload_n X.1 X.2.1 dX1_fitsOne_44 rfl (lv_at hl 2 rfl) ?_
    refine ml_what X hK hG (S.2 41) rfl (by first | omega | (split <;> omega)) dX1_fitsOne_45 ?_
    refine i_if_ne X 69 dX1_fitsOne_46 (by decide) (by first | omega | (split <;> omega)) (fun c46 => ?_) (fun c46 => ?_)
    · refine lv_iconst (v := iI (0)) X.1 X.2.1 dX1_fitsOne_69 rfl ?_
      refine ret _ _ _ _ _ _ ?_ (nar_b (by first | omega | (split <;> omega))) hG hS dX1_fitsOne_70
      refine ⟨?_, rfl⟩
      first | (apply bI_t; unfold spOne spN; rw [if_pos s6_0, if_neg (by omega)]; simp; omega) | (apply bI_f; unfold spOne spN; rw [if_pos s6_0]; simp; omega)
    · refine lv_aload_n X.1 X.2.1 dX1_fitsOne_49 rfl (lv_at hl 0 rfl) ?_
      refine mg_worthOf X hK hG dX1_fitsOne_50 ?_
      refine lv_iload_n X.1 X.2.1 dX1_fitsOne_53 rfl (lv_at hl 2 rfl) ?_
      refine ml_worthOf X hK hG (S.2 42) rfl (by first | omega | (split <;> omega)) dX1_fitsOne_54 ?_
      refine lv_aload_n X.1 X.2.1 dX1_fitsOne_55 rfl (lv_at hl 0 rfl) ?_
      refine mg_pValue X hK hG dX1_fitsOne_56 ?_
      refine lv_iload_n X.1 X.2.1 dX1_fitsOne_59 rfl (lv_at hl 1 rfl) ?_
      refine ml_pValue X hK hG (S.2 35) rfl (by first | omega | (split <;> omega)) dX1_fitsOne_60 ?_
      refine i_lcmp_ne X 69 dX1_fitsOne_61 dX1_fitsOne_62 (by decide) (by first | omega | (split <;> omega)) (by first | omega | (split <;> omega)) (fun c61 => ?_) (fun c61 => ?_)
      · refine lv_iconst (v := iI (0)) X.1 X.2.1 dX1_fitsOne_69 rfl ?_
        refine ret _ _ _ _ _ _ ?_ (nar_b (by first | omega | (split <;> omega))) hG hS dX1_fitsOne_70
        refine ⟨?_, rfl⟩
        first | (apply bI_t; unfold spOne spN; rw [if_pos s6_0, if_neg (by omega)]; simp; omega) | (apply bI_f; unfold spOne spN; rw [if_pos s6_0]; simp; omega)
      · refine lv_iconst (v := iI (1)) X.1 X.2.1 dX1_fitsOne_65 rfl ?_
        refine lv_goto (tgt := 70) X.1 X.2.1 dX1_fitsOne_66 (by decide) ?_
        refine ret _ _ _ _ _ _ ?_ (nar_b (by first | omega | (split <;> omega))) hG hS dX1_fitsOne_70
        refine ⟨?_, rfl⟩
        first | (apply bI_t; unfold spOne spN; rw [if_pos s6_0, if_neg (by omega)]; simp; omega) | (apply bI_f; unfold spOne spN; rw [if_pos s6_0]; simp; omega)
  · skip
    by_cases s6_1 : S.2 34 q = 6
    · refine i_lookup X (by first | omega | (split <;> omega)) (off := 97) (tgt := 103) dX1_fitsOne_6 (by decide) (by rw [s6_1]; decide) (by decide) ?_
      refine lv_iconst (v := iI (1)) X.1 X.2.1 dX1_fitsOne_103 rfl ?_
      refine ret _ _ _ _ _ _ ?_ (nar_b (by first | omega | (split <;> omega))) hG hS dX1_fitsOne_104
      refine ⟨?_, rfl⟩
      apply bI_t; unfold spOne spN; rw [if_neg (by omega), if_neg (by omega), if_pos s6_1, if_neg (by omega)]; rfl
    · skip
      by_cases s6_2 : S.2 34 q = 8
      · refine i_lookup X (by first | omega | (split <;> omega)) (off := 65) (tgt := 71) dX1_fitsOne_6 (by decide) (by rw [s6_2]; decide) (by decide) ?_
        refine lv_aload_n X.1 X.2.1 dX1_fitsOne_71 rfl (lv_at hl 0 rfl) ?_
        refine mg_what X hK hG dX1_fitsOne_72 ?_
        refine lv_iload_n X.1 X.2.1 dX1_fitsOne_75 rfl (lv_at hl 2 rfl) ?_
        refine ml_what X hK hG (S.2 41) rfl (by first | omega | (split <;> omega)) dX1_fitsOne_76 ?_
        refine lv_iconst (v := iI (1)) X.1 X.2.1 dX1_fitsOne_77 rfl ?_
        refine i_icmp_ne X 101 dX1_fitsOne_78 (by decide) (by first | omega | (split <;> omega)) (by first | omega | (split <;> omega)) (fun c78 => ?_) (fun c78 => ?_)
        · refine lv_iconst (v := iI (0)) X.1 X.2.1 dX1_fitsOne_101 rfl ?_
          refine ret _ _ _ _ _ _ ?_ (nar_b (by first | omega | (split <;> omega))) hG hS dX1_fitsOne_102
          refine ⟨?_, rfl⟩
          first | (apply bI_t; unfold spOne spN; rw [if_neg (by omega), if_pos s6_2, if_neg (by omega)]; simp; omega) | (apply bI_f; unfold spOne spN; rw [if_neg (by omega), if_pos s6_2]; simp; omega)
        · refine lv_aload_n X.1 X.2.1 dX1_fitsOne_81 rfl (lv_at hl 0 rfl) ?_
          refine mg_worthOf X hK hG dX1_fitsOne_82 ?_
          refine lv_iload_n X.1 X.2.1 dX1_fitsOne_85 rfl (lv_at hl 2 rfl) ?_
          refine ml_worthOf X hK hG (S.2 42) rfl (by first | omega | (split <;> omega)) dX1_fitsOne_86 ?_
          refine lv_aload_n X.1 X.2.1 dX1_fitsOne_87 rfl (lv_at hl 0 rfl) ?_
          refine mg_pValue X hK hG dX1_fitsOne_88 ?_
          refine lv_iload_n X.1 X.2.1 dX1_fitsOne_91 rfl (lv_at hl 1 rfl) ?_
          refine ml_pValue X hK hG (S.2 35) rfl (by first | omega | (split <;> omega)) dX1_fitsOne_92 ?_
          refine i_lcmp_ne X 101 dX1_fitsOne_93 dX1_fitsOne_94 (by decide) (by first | omega | (split <;> omega)) (by first | omega | (split <;> omega)) (fun c93 => ?_) (fun c93 => ?_)
          · refine lv_iconst (v := iI (0)) X.1 X.2.1 dX1_fitsOne_101 rfl ?_
            refine ret _ _ _ _ _ _ ?_ (nar_b (by first | omega | (split <;> omega))) hG hS dX1_fitsOne_102
            refine ⟨?_, rfl⟩
            first | (apply bI_t; unfold spOne spN; rw [if_neg (by omega), if_pos s6_2, if_neg (by omega)]; simp; omega) | (apply bI_f; unfold spOne spN; rw [if_neg (by omega), if_pos s6_2]; simp; omega)
          · refine lv_iconst (v := iI (1)) X.1 X.2.1 dX1_fitsOne_97 rfl ?_
            refine lv_goto (tgt := 102) X.1 X.2.1 dX1_fitsOne_98 (by decide) ?_
            refine ret _ _ _ _ _ _ ?_ (nar_b (by first | omega | (split <;> omega))) hG hS dX1_fitsOne_102
            refine ⟨?_, rfl⟩
            first | (apply bI_t; unfold spOne spN; rw [if_neg (by omega), if_pos s6_2, if_neg (by omega)]; simp; omega) | (apply bI_f; unfold spOne spN; rw [if_neg (by omega), if_pos s6_2]; simp; omega)
      · skip
        refine i_lookup X (by first | omega | (split <;> omega)) (off := 99) (tgt := 105) dX1_fitsOne_6 (by decide) (by show Op.lookupswitch.offset [(0, 34), (6, 97), (8, 65)] _ _ = _; rw [Op.lookupswitch.offset_cons, if_neg (by omega), Op.lookupswitch.offset_cons, if_neg (by omega), Op.lookupswitch.offset_cons, if_neg (by omega)]; rfl) (by decide) ?_
        refine lv_aload_n X.1 X.2.1 dX1_fitsOne_105 rfl (lv_at hl 0 rfl) ?_
        refine mg_what X hK hG dX1_fitsOne_106 ?_
        refine lv_iload_n X.1 X.2.1 dX1_fitsOne_109 rfl (lv_at hl 2 rfl) ?_
        refine ml_what X hK hG (S.2 41) rfl (by first | omega | (split <;> omega)) dX1_fitsOne_110 ?_
        refine lv_iconst (v := iI (2)) X.1 X.2.1 dX1_fitsOne_111 rfl ?_
        refine i_icmp_ge X 117 dX1_fitsOne_112 (by decide) (by first | omega | (split <;> omega)) (by first | omega | (split <;> omega)) (fun c112 => ?_) (fun c112 => ?_)
        · have K140 : ∀ (z : Int), (z = bI (spER S q)) → ∀ (H : Heap) (locs : List Loc) (ls : Array Slot), gOk D (mA o) (mH ca o S) H → va_S (mA o) s.heap H locs → lv_has ls 4 [(0, .ref o), (1, .int (iI (q))), (2, .int (iI (t))), (3, .int (iI (z)))] → W p l e (mR lv) s m args below meth c H locs 0 0 Q (F0 m 140 ls []) := by
            intro z hz H locs ls hG hS hl
            have hz01 := bI_01 (spER S q)
            rw [← hz] at hz01
            have h34 : S.2 34 q = 2 := by omega
            refine lv_iload_n X.1 X.2.1 dX1_fitsOne_140 rfl (lv_at hl 3 rfl) ?_
            refine i_if_eq X 169 dX1_fitsOne_141 (by decide) (by first | omega | (split <;> omega)) (fun c141 => ?_) (fun c141 => ?_)
            · refine lv_aload_n X.1 X.2.1 dX1_fitsOne_169 rfl (lv_at hl 0 rfl) ?_
              refine mg_parts X hK hG dX1_fitsOne_170 ?_
              refine lv_iload_n X.1 X.2.1 dX1_fitsOne_173 rfl (lv_at hl 2 rfl) ?_
              refine ml_parts X hK hG (S.2 47) rfl (by first | omega | (split <;> omega)) dX1_fitsOne_174 ?_
              refine lv_aload_n X.1 X.2.1 dX1_fitsOne_175 rfl (lv_at hl 0 rfl) ?_
              refine mg_pCount X hK hG dX1_fitsOne_176 ?_
              refine lv_iload_n X.1 X.2.1 dX1_fitsOne_179 rfl (lv_at hl 1 rfl) ?_
              refine ml_pCount X hK hG (S.2 38) rfl (by first | omega | (split <;> omega)) dX1_fitsOne_180 ?_
              refine i_icmp_ne X 188 dX1_fitsOne_181 (by decide) (by first | omega | (split <;> omega)) (by first | omega | (split <;> omega)) (fun c181 => ?_) (fun c181 => ?_)
              · refine lv_iconst (v := iI (0)) X.1 X.2.1 dX1_fitsOne_188 rfl ?_
                refine ret _ _ _ _ _ _ ?_ (nar_b (by first | omega | (split <;> omega))) hG hS dX1_fitsOne_189
                refine ⟨?_, rfl⟩
                have hN : spN S q t = true := by unfold spN; rw [if_neg (by omega), if_neg (by omega), if_neg (by omega)]; simpa using c112
                have hER : spER S q = true ∨ spER S q = false := by cases spER S q <;> simp
                rcases hER with hE | hE
                · rw [hE] at hz
                  have hz : z = 1 := hz
                  first | (exfalso; omega) | (apply bI_t; unfold spOne spCnt; rw [hN, if_pos h34, if_pos hE]; simp; omega) | (apply bI_f; unfold spOne spCnt; rw [hN, if_pos h34, if_pos hE]; simp; omega)
                · rw [hE] at hz
                  have hz : z = 0 := hz
                  first | (exfalso; omega) | (apply bI_t; unfold spOne spCnt; rw [hN, if_pos h34, if_neg (by rw [hE]; decide)]; simp; omega) | (apply bI_f; unfold spOne spCnt; rw [hN, if_pos h34, if_neg (by rw [hE]; decide)]; simp; omega)
              · refine lv_iconst (v := iI (1)) X.1 X.2.1 dX1_fitsOne_184 rfl ?_
                refine lv_goto (tgt := 189) X.1 X.2.1 dX1_fitsOne_185 (by decide) ?_
                refine ret _ _ _ _ _ _ ?_ (nar_b (by first | omega | (split <;> omega))) hG hS dX1_fitsOne_189
                refine ⟨?_, rfl⟩
                have hN : spN S q t = true := by unfold spN; rw [if_neg (by omega), if_neg (by omega), if_neg (by omega)]; simpa using c112
                have hER : spER S q = true ∨ spER S q = false := by cases spER S q <;> simp
                rcases hER with hE | hE
                · rw [hE] at hz
                  have hz : z = 1 := hz
                  first | (exfalso; omega) | (apply bI_t; unfold spOne spCnt; rw [hN, if_pos h34, if_pos hE]; simp; omega) | (apply bI_f; unfold spOne spCnt; rw [hN, if_pos h34, if_pos hE]; simp; omega)
                · rw [hE] at hz
                  have hz : z = 0 := hz
                  first | (exfalso; omega) | (apply bI_t; unfold spOne spCnt; rw [hN, if_pos h34, if_neg (by rw [hE]; decide)]; simp; omega) | (apply bI_f; unfold spOne spCnt; rw [hN, if_pos h34, if_neg (by rw [hE]; decide)]; simp; omega)
            · refine lv_aload_n X.1 X.2.1 dX1_fitsOne_144 rfl (lv_at hl 0 rfl) ?_
              refine mg_parts X hK hG dX1_fitsOne_145 ?_
              refine lv_iload_n X.1 X.2.1 dX1_fitsOne_148 rfl (lv_at hl 2 rfl) ?_
              refine ml_parts X hK hG (S.2 47) rfl (by first | omega | (split <;> omega)) dX1_fitsOne_149 ?_
              refine lv_aload_n X.1 X.2.1 dX1_fitsOne_150 rfl (lv_at hl 0 rfl) ?_
              refine mg_pCount X hK hG dX1_fitsOne_151 ?_
              refine lv_iload_n X.1 X.2.1 dX1_fitsOne_154 rfl (lv_at hl 1 rfl) ?_
              refine ml_pCount X hK hG (S.2 38) rfl (by first | omega | (split <;> omega)) dX1_fitsOne_155 ?_
              refine lv_iconst (v := iI (1)) X.1 X.2.1 dX1_fitsOne_156 rfl ?_
              refine i_sub X dX1_fitsOne_157 ?_
              refine i_icmp_lt X 165 dX1_fitsOne_158 (by decide) (by first | omega | (split <;> omega)) (by first | omega | (split <;> omega)) (fun c158 => ?_) (fun c158 => ?_)
              · refine lv_iconst (v := iI (0)) X.1 X.2.1 dX1_fitsOne_165 rfl ?_
                refine lv_goto (tgt := 189) X.1 X.2.1 dX1_fitsOne_166 (by decide) ?_
                refine ret _ _ _ _ _ _ ?_ (nar_b (by first | omega | (split <;> omega))) hG hS dX1_fitsOne_189
                refine ⟨?_, rfl⟩
                have hN : spN S q t = true := by unfold spN; rw [if_neg (by omega), if_neg (by omega), if_neg (by omega)]; simpa using c112
                have hER : spER S q = true ∨ spER S q = false := by cases spER S q <;> simp
                rcases hER with hE | hE
                · rw [hE] at hz
                  have hz : z = 1 := hz
                  first | (exfalso; omega) | (apply bI_t; unfold spOne spCnt; rw [hN, if_pos h34, if_pos hE]; simp; omega) | (apply bI_f; unfold spOne spCnt; rw [hN, if_pos h34, if_pos hE]; simp; omega)
                · rw [hE] at hz
                  have hz : z = 0 := hz
                  first | (exfalso; omega) | (apply bI_t; unfold spOne spCnt; rw [hN, if_pos h34, if_neg (by rw [hE]; decide)]; simp; omega) | (apply bI_f; unfold spOne spCnt; rw [hN, if_pos h34, if_neg (by rw [hE]; decide)]; simp; omega)
              · refine lv_iconst (v := iI (1)) X.1 X.2.1 dX1_fitsOne_161 rfl ?_
                refine lv_goto (tgt := 189) X.1 X.2.1 dX1_fitsOne_162 (by decide) ?_
                refine ret _ _ _ _ _ _ ?_ (nar_b (by first | omega | (split <;> omega))) hG hS dX1_fitsOne_189
                refine ⟨?_, rfl⟩
                have hN : spN S q t = true := by unfold spN; rw [if_neg (by omega), if_neg (by omega), if_neg (by omega)]; simpa using c112
                have hER : spER S q = true ∨ spER S q = false := by cases spER S q <;> simp
                rcases hER with hE | hE
                · rw [hE] at hz
                  have hz : z = 1 := hz
                  first | (exfalso; omega) | (apply bI_t; unfold spOne spCnt; rw [hN, if_pos h34, if_pos hE]; simp; omega) | (apply bI_f; unfold spOne spCnt; rw [hN, if_pos h34, if_pos hE]; simp; omega)
                · rw [hE] at hz
                  have hz : z = 0 := hz
                  first | (exfalso; omega) | (apply bI_t; unfold spOne spCnt; rw [hN, if_pos h34, if_neg (by rw [hE]; decide)]; simp; omega) | (apply bI_f; unfold spOne spCnt; rw [hN, if_pos h34, if_neg (by rw [hE]; decide)]; simp; omega)
          refine lv_aload_n X.1 X.2.1 dX1_fitsOne_117 rfl (lv_at hl 0 rfl) ?_
          refine mg_pCount X hK hG dX1_fitsOne_118 ?_
          refine lv_iload_n X.1 X.2.1 dX1_fitsOne_121 rfl (lv_at hl 1 rfl) ?_
          refine ml_pCount X hK hG (S.2 38) rfl (by first | omega | (split <;> omega)) dX1_fitsOne_122 ?_
          refine i_if_le X 138 dX1_fitsOne_123 (by decide) (by first | omega | (split <;> omega)) (fun c123 => ?_) (fun c123 => ?_)
          · refine lv_iconst (v := iI (0)) X.1 X.2.1 dX1_fitsOne_138 rfl ?_
            refine lv_istore_n (lv' := [(3, .int (iI (0))), (0, .ref o), (1, .int (iI (q))), (2, .int (iI (t)))]) X.1 X.2.1 dX1_fitsOne_139 rfl hl (by decide) rfl (fun ls hl => ?_)
            exact K140 0 (by first | (apply bI_t; unfold spER; rw [c131]; simp; omega) | (apply bI_f; unfold spER; first | (rw [c131]; simp; done) | (simp; omega))) H locs ls hG hS (lv_sub hl [1, 2, 3, 0] rfl)
          · refine lv_aload_n X.1 X.2.1 dX1_fitsOne_126 rfl (lv_at hl 0 rfl) ?_
            refine lv_iload_n X.1 X.2.1 dX1_fitsOne_127 rfl (lv_at hl 1 rfl) ?_
            refine m_callVp (rest := []) (n := 1) X hK hG hS (fun _ h => h) (mm_endsInRest l D ca o (lv - 1) S q (by omega) (by omega) (by omega) (by omega)) (lw_V q1584 q1586 qs52 q70 q1587) (by decide +kernel) rfl ⟨by show (lv - 1) + 1 ≤ lv; omega, by show 8 + (3 + 11) + 40 * (lv - 1) ≤ 40 * lv; omega⟩ ⟨Nat.le_refl _, Nat.le_refl _⟩ hl.1 rfl (Nat.le_of_ble_eq_true rfl) dX1_fitsOne_128 (fun H locs hG hS _ _ => ?_)
            refine i_if_eq X 138 dX1_fitsOne_131 (by decide) (bI_iR _) (fun c131 => ?_) (fun c131 => ?_)
            · have c131 := bI_eq0.mp c131
              refine lv_iconst (v := iI (0)) X.1 X.2.1 dX1_fitsOne_138 rfl ?_
              refine lv_istore_n (lv' := [(3, .int (iI (0))), (0, .ref o), (1, .int (iI (q))), (2, .int (iI (t)))]) X.1 X.2.1 dX1_fitsOne_139 rfl hl (by decide) rfl (fun ls hl => ?_)
              exact K140 0 (by first | (apply bI_t; unfold spER; rw [c131]; simp; omega) | (apply bI_f; unfold spER; first | (rw [c131]; simp; done) | (simp; omega))) H locs ls hG hS (lv_sub hl [1, 2, 3, 0] rfl)
            · have c131 := bI_ne0.mp c131
              refine lv_iconst (v := iI (1)) X.1 X.2.1 dX1_fitsOne_134 rfl ?_
              refine lv_goto (tgt := 139) X.1 X.2.1 dX1_fitsOne_135 (by decide) ?_
              refine lv_istore_n (lv' := [(3, .int (iI (1))), (0, .ref o), (1, .int (iI (q))), (2, .int (iI (t)))]) X.1 X.2.1 dX1_fitsOne_139 rfl hl (by decide) rfl (fun ls hl => ?_)
              exact K140 1 (by first | (apply bI_t; unfold spER; rw [c131]; simp; omega) | (apply bI_f; unfold spER; first | (rw [c131]; simp; done) | (simp; omega))) H locs ls hG hS (lv_sub hl [1, 2, 3, 0] rfl)
        · refine lv_iconst (v := iI (0)) X.1 X.2.1 dX1_fitsOne_115 rfl ?_
          refine ret _ _ _ _ _ _ ?_ (nar_b (by first | omega | (split <;> omega))) hG hS dX1_fitsOne_116
          refine ⟨?_, rfl⟩
          apply bI_f; unfold spOne spN; rw [if_neg (by omega), if_neg (by omega), if_neg (by omega)]; simp; omega

set_option maxHeartbeats 4000000 in
theorem mm_fits (l : Launch) (D : va_G) (ca : Nat → ClassId) (o lv : Nat) (S : MSt) (ru : Int) (i : Int) (hlv : 2 ≤ lv) (hT : MT S) (hP : MP S) (hr : 0 ≤ ru ∧ ru < S.1 29) (h0 : 0 ≤ i) (hn : i < S.1 40) (hw : 3 ≤ S.2 41 i) : mCi l yX1_fits cX1_fits 9 .boolean D ca o lv [.ref o, .int (iI (ru)), .int (iI (i))] S (fun r S' => r = bI (spFit S ru i) ∧ ∃ u v : Int → Int, S' = mP S [(54, u), (55, v)] [] ∧ (spFit S ru i = true → ∀ q, S.2 32 ru < q → q < S.2 33 ru → u q = spFrom S ru i q ∧ v q = spTo S ru i q)) := by
  refine mCi_of (by decide +kernel) rfl (Nat.le_of_ble_eq_true rfl) ?_
  intro p e s m args below meth c Q X hK ret H locs ls hG hS hl
  have hl : lv_has ls 9 [(0, .ref o), (1, .int (iI (ru))), (2, .int (iI (i)))] := hl
  have hnn := hT.n
  obtain ⟨hR0, hR1, hR2, hR3, hR4, hR5, hR6, hR7, hR8⟩ := hP.2 ru hr.1 hr.2
  have hm := hP.1
  have hwi := hT.1.w h0 hn
  have hri := hT.1.r h0 hn
  have hpi := hT.1.p h0 hn
  have hna := hT.1.named h0 hn hw
  have hln := (hT.1.lst h0 hn (by omega)).2 0 (by omega)
  have hl0 : chh (S.2 46) i 0 = i + 1 := rfl
  have hrh := (hT.1.leaf (i := i + 1) (by omega) (by omega) (by omega)).1
  have hl1 : chh (S.2 46) i 1 = i + 2 := by show i + 1 + S.2 46 (i + 1) = i + 2; omega
  refine lv_aload_n X.1 X.2.1 dX1_fits_0 rfl (lv_at hl 0 rfl) ?_
  refine mg_patterns X hK hG dX1_fits_1 ?_
  refine lv_iload_n X.1 X.2.1 dX1_fits_4 rfl (lv_at hl 1 rfl) ?_
  refine ml_patterns X hK hG (S.2 32) rfl (by first | omega | (split <;> omega)) dX1_fits_5 ?_
  refine i_top (fun P e_P => ?_)
  refine lv_istore_n (lv' := [(3, .int (iI (P))), (0, .ref o), (1, .int (iI (ru))), (2, .int (iI (i)))]) X.1 X.2.1 dX1_fits_6 rfl hl (by decide) rfl (fun ls hl => ?_)
  rw [← e_P] at hR0 hR1 hR2 hR4 hR7
  have hPp := hR7 P (by omega) (by omega)
  refine lv_iload_n X.1 X.2.1 dX1_fits_7 rfl (lv_at hl 0 rfl) ?_
  refine lv_aload_n X.1 X.2.1 dX1_fits_8 rfl (lv_at hl 1 rfl) ?_
  refine mg_pSpan X hK hG dX1_fits_9 ?_
  refine lv_iload_n X.1 X.2.1 dX1_fits_12 rfl (lv_at hl 0 rfl) ?_
  refine ml_pSpan X hK hG (S.2 37) rfl (by first | omega | (split <;> omega)) dX1_fits_13 ?_
  refine i_add X dX1_fits_14 ?_
  refine i_top (fun E e_E => ?_)
  refine lv_istore (lv' := [(4, .int (iI (E))), (3, .int (iI (P))), (0, .ref o), (1, .int (iI (ru))), (2, .int (iI (i)))]) X.1 X.2.1 dX1_fits_15 hl (by decide) rfl (fun ls hl => ?_)
  have hEP : E = S.2 33 ru := by omega
  have hPE : P < E := by omega
  have hPN : ∀ p, P ≤ p → p < E → PN S E p := by rw [hEP]; exact hR7
  have hch := PNch hPN (Int.le_refl P) hPE hR1
  have hPE2 := hPp.2.2.2.2.1 hR1
  have hPE3 := hPp.2.2.1
  have hlastP := hPN (P + S.2 37 P - 1) (by omega) (by omega)
  have hlp := hlastP.2.2.2.2.2.2
  have hlk := hlastP.1
  have hp0 : chh (S.2 37) P 0 = P + 1 := rfl
  have hX : spFit S ru i = spX S 601 (chh (S.2 37) P 0) (P + S.2 37 P) (chh (S.2 46) i 1) (i + S.2 46 i) := by unfold spFit; rw [hp0, hl1, ← e_P, hR2]
  have K41 : ∀ (z : Int), (z = bI (spER S P)) → ∀ (H : Heap) (locs : List Loc) (ls : Array Slot), gOk D (mA o) (mH ca o S) H → va_S (mA o) s.heap H locs → lv_has ls 9 [(0, .ref o), (1, .int (iI (ru))), (2, .int (iI (i))), (3, .int (iI (P))), (4, .int (iI (E))), (5, .int (iI (z)))] → W p l e (mR lv) s m args below meth c H locs 0 0 Q (F0 m 41 ls []) := by
    intro z hz H locs ls hG hS hl
    have hz01 := bI_01 (spER S P)
    rw [← hz] at hz01
    have hER := rst_iff hPN (Int.le_refl P) hPE hR1
    have hzR : z ≠ 0 ↔ Rst S P := by rw [hz, bI_ne0]; exact hER
    refine lv_aload_n X.1 X.2.1 dX1_fits_41 rfl (lv_at hl 0 rfl) ?_
    refine mg_parts X hK hG dX1_fits_42 ?_
    refine lv_iload_n X.1 X.2.1 dX1_fits_45 rfl (lv_at hl 2 rfl) ?_
    refine ml_parts X hK hG (S.2 47) rfl (by first | omega | (split <;> omega)) dX1_fits_46 ?_
    refine lv_iconst (v := iI (1)) X.1 X.2.1 dX1_fits_47 rfl ?_
    refine i_sub X dX1_fits_48 ?_
    refine i_top (fun y e_y => ?_)
    refine lv_istore (lv' := [(6, .int (iI (y))), (0, .ref o), (1, .int (iI (ru))), (2, .int (iI (i))), (3, .int (iI (P))), (4, .int (iI (E))), (5, .int (iI (z)))]) X.1 X.2.1 dX1_fits_49 hl (by decide) rfl (fun ls hl => ?_)
    have K85 : (CC S P 0 i 1) → ∀ (H : Heap) (locs : List Loc) (ls : Array Slot), gOk D (mA o) (mH ca o S) H → va_S (mA o) s.heap H locs → lv_has ls 9 [(0, .ref o), (1, .int (iI (ru))), (2, .int (iI (i))), (3, .int (iI (P))), (4, .int (iI (E))), (5, .int (iI (z))), (6, .int (iI (y)))] → W p l e (mR lv) s m args below meth c H locs 0 0 Q (F0 m 85 ls []) := by
      intro  hcc H locs ls hG hS hl
      refine lv_aload_n X.1 X.2.1 dX1_fits_85 rfl (lv_at hl 0 rfl) ?_
      refine mg_metTo X hK hG dX1_fits_86 ?_
      refine lv_iload_n X.1 X.2.1 dX1_fits_89 rfl (lv_at hl 3 rfl) ?_
      refine lv_iload_n X.1 X.2.1 dX1_fits_90 rfl (lv_at hl 2 rfl) ?_
      refine lv_aload_n X.1 X.2.1 dX1_fits_91 rfl (lv_at hl 0 rfl) ?_
      refine mg_room X hK hG dX1_fits_92 ?_
      refine lv_iload_n X.1 X.2.1 dX1_fits_95 rfl (lv_at hl 2 rfl) ?_
      refine ml_room X hK hG (S.2 46) rfl (by first | omega | (split <;> omega)) dX1_fits_96 ?_
      refine i_add X dX1_fits_97 ?_
      have hG : gOk D (mA o) (mH ca o (mP S [] [])) H := hG
      refine ms_metTo X hK hG hS (by first | omega | (split <;> omega)) dX1_fits_98 (fun H locs hG hS => ?_)
      rw [mU_mP (l' := [(55, upI (S.2 55) P (i + (S.2 46 i)))]) rfl rfl] at hG
      refine lv_iload_n X.1 X.2.1 dX1_fits_99 rfl (lv_at hl 2 rfl) ?_
      refine lv_iconst (v := iI (2)) X.1 X.2.1 dX1_fits_100 rfl ?_
      refine i_add X dX1_fits_101 ?_
      refine lv_istore (lv' := [(7, .int (iI (i + 2))), (0, .ref o), (1, .int (iI (ru))), (2, .int (iI (i))), (3, .int (iI (P))), (4, .int (iI (E))), (5, .int (iI (z))), (6, .int (iI (y)))]) X.1 X.2.1 dX1_fits_102 hl (by decide) rfl (fun ls hl => ?_)
      refine i_inc (lv' := [(3, .int (iI (P + 1))), (7, .int (iI (i + 2))), (0, .ref o), (1, .int (iI (ru))), (2, .int (iI (i))), (4, .int (iI (E))), (5, .int (iI (z))), (6, .int (iI (y)))]) X dX1_fits_104 hl (k := 4) rfl (by decide) rfl (fun ls hl => ?_)
      rw [mP_add (k := 54) (f := S.2 54) (l' := [(55, upI (S.2 55) P (i + S.2 46 i)), (54, S.2 54)]) rfl rfl] at hG
      rw [show (mP S [(55, upI (S.2 55) P (i + S.2 46 i)), (54, S.2 54)] []) = mP S [(54, S.2 54), (55, upI (S.2 55) P (i + S.2 46 i))] [] from mP_ext (fun k => by rw [lk_c, lk_c, lk_c, lk_c]; by_cases h1 : k = 54 <;> by_cases h2 : k = 55 <;> simp_all) (fun _ => rfl)] at hG
      obtain ⟨u1, v1, a1, a2, a3, a4, a5⟩ := lin_seg hT hR0 (by omega) hPN (P + S.2 37 P + 1).toNat P i 0 1 601 (S.2 54) (upI (S.2 55) P (i + S.2 46 i)) (by rw [hp0]; omega) (by rw [hp0]; omega) (Int.le_refl P) hPE hR1 h0 hn (by omega) (by omega) (by omega) hcc (by intro hz0; have hnr : ¬ Rst S P := (fun r => by have := r.1; omega); have := hcc.2 hnr; rw [← (hT.1.lst h0 hn (by omega)).1]; congr 1; omega) (upI_s _ _ _)
      rw [← hX] at a1 a2 a3 a5
      rw [hp0, hl1] at a1 a2 a3
      have hlk0 := a3 (fun _ => by rw [show (E - (P + S.2 37 P)).toNat + 1 = 0 + 1 by omega]; unfold spLok; left; omega)
      obtain ⟨F, hF⟩ : ∃ F, spLin S E ((E - (P + 1)).toNat + 1) (P + 1) (i + 2) (S.2 54) (upI (S.2 55) P (i + S.2 46 i)) = F := ⟨_, rfl⟩
      have L107 : ∀ (N : Nat) (q t : Int) (u v : Int → Int), (P < q ∧ q ≤ E) → (spLok S E ((E - q).toNat + 1) q t u v) → (spLin S E ((E - q).toNat + 1) q t u v = F) → (0 ≤ t ∧ t ≤ 500) → (E - q).toNat < N → ∀ (H : Heap) (locs : List Loc) (ls : Array Slot), gOk D (mA o) (mH ca o (mP S [(54, u), (55, v)] [])) H → va_S (mA o) s.heap H locs → lv_has ls 9 [(0, .ref o), (1, .int (iI (ru))), (2, .int (iI (i))), (3, .int (iI (q))), (4, .int (iI (E))), (5, .int (iI (z))), (6, .int (iI (y))), (7, .int (iI (t)))] → W p l e (mR lv) s m args below meth c H locs 0 0 Q (F0 m 107 ls []) := by
        intro N
        induction N with
        | zero => intro q t u v hq hlok hlin ht5 hN; exact absurd hN (Nat.not_lt_zero _)
        | succ N ih =>
          intro q t u v hq hlok hlin ht5 hN H locs ls hG hS hl
          refine lv_iload_n X.1 X.2.1 dX1_fits_107 rfl (lv_at hl 3 rfl) ?_
          refine lv_iload X.1 X.2.1 dX1_fits_108 (lv_at hl 4 rfl) ?_
          refine i_icmp_ge X 240 dX1_fits_110 (by decide) (by first | omega | (split <;> omega)) (by first | omega | (split <;> omega)) (fun c110 => ?_) (fun c110 => ?_)
          · refine lv_iconst (v := iI (1)) X.1 X.2.1 dX1_fits_240 rfl ?_
            refine ret _ _ _ _ _ _ ?_ (nar_b (by first | omega | (split <;> omega))) hG hS dX1_fits_241
            rw [show (E - q).toNat + 1 = 0 + 1 by omega] at hlin
            unfold spLin at hlin
            rw [if_pos (by omega)] at hlin
            have hff : spFit S ru i = true := by
              cases hf : spFit S ru i with
              | true => rfl
              | false =>
                have := a2 hf
                rw [hF, ← hlin] at this
                cases this
            have h9 := a1 hff
            rw [hF, ← hlin, show (E - (P + S.2 37 P)).toNat + 1 = 0 + 1 by omega] at h9
            unfold spLin at h9
            rw [if_pos (by omega)] at h9
            have e1 : u = u1 := congrArg (fun x => x.2.1) h9
            have e2 : v = v1 := congrArg (fun x => x.2.2) h9
            refine ⟨bI_t hff, u, v, rfl, fun _ q9 q91 q92 => ?_⟩
            have := a5 hff q9 (by omega) (by omega)
            rw [e1, e2, this.1, this.2]
            unfold spFrom spTo
            rw [hp0, hl1, ← e_P, hR2]
            exact ⟨rfl, rfl⟩
          · have hqN := hPN q (by omega) (by omega)
            have hqk := hqN.1
            have hqs := hqN.2.1
            have hqc := hqN.2.2.1
            have hqv := hqN.2.2.2.2.2.1
            have hqp := hqN.2.2.2.2.2.2
            have hfu : (E - q).toNat + 1 = ((E - (q + 1)).toNat + 1) + 1 := by omega
            rw [hfu] at hlin hlok
            unfold spLok at hlok
            have hlok := hlok.resolve_left (by omega)
            unfold spLin at hlin
            rw [if_neg (by omega)] at hlin
            refine lv_aload_n X.1 X.2.1 dX1_fits_113 rfl (lv_at hl 0 rfl) ?_
            refine mg_pKind X hK hG dX1_fits_114 ?_
            refine lv_iload_n X.1 X.2.1 dX1_fits_117 rfl (lv_at hl 3 rfl) ?_
            refine ml_pKind X hK hG (S.2 34) rfl (by first | omega | (split <;> omega)) dX1_fits_118 ?_
            refine lv_bipush (v := iI (7)) X.1 X.2.1 dX1_fits_119 (by decide) ?_
            refine i_icmp_ne X 160 dX1_fits_121 (by decide) (by first | omega | (split <;> omega)) (by first | omega | (split <;> omega)) (fun c121 => ?_) (fun c121 => ?_)
            · rw [if_neg c121] at hlok hlin
              obtain ⟨hlo1, hlok⟩ := hlok
              have htw := hT.1.w (i := t) (by omega) (by omega)
              have htr := hT.1.r (i := t) (by omega) (by omega)
              have htp := hT.1.p (i := t) (by omega) (by omega)
              have htg := hT.2.2 t (by omega) (by omega)
              have hlN := hPN (q + S.2 37 q - 1) (by omega) (by omega)
              have hq1 : 1 ≤ S.2 37 q ∧ q + S.2 37 q ≤ 601 := by omega
              have hq2 : iR (S.2 34 (q + S.2 37 q - 1)) := by have := hlN.1; omega
              have hq3 : iR (S.2 39 (q + S.2 37 q - 1)) := by have := hlN.2.2.2.2.2.2; omega
              have hq5 : 0 ≤ S.2 34 q ∧ S.2 34 q ≤ 8 := by omega
              have hq6 : lR (S.2 42 t) := by omega
              have hq7 : lR (S.2 35 q) := by omega
              have hq4 : S.2 34 q = 0 ∨ S.2 34 q = 2 ∨ S.2 34 q = 6 ∨ S.2 34 q = 8 := by omega
              refine lv_aload_n X.1 X.2.1 dX1_fits_160 rfl (lv_at hl 0 rfl) ?_
              refine lv_iload_n X.1 X.2.1 dX1_fits_161 rfl (lv_at hl 3 rfl) ?_
              refine lv_iload X.1 X.2.1 dX1_fits_162 (lv_at hl 7 rfl) ?_
              refine m_callVp (rest := []) (n := 2) X hK hG hS (fun _ h => h) (mm_fitsOne l D ca o (lv - 1) (mP S [(54, u), (55, v)] []) q t (by omega) (by omega) (by omega) hq5 htw hq6 hq7 hqc htp hq1 hq2 hq3 hq4) (lw_V q1588 q1590 qs53 q70 q1591) (by decide +kernel) rfl ⟨by show (lv - 1) + 1 ≤ lv; omega, by show 8 + (4 + 11) + 40 * (lv - 1) ≤ 40 * lv; omega⟩ ⟨Nat.le_refl _, Nat.le_refl _⟩ hl.1 rfl (Nat.le_of_ble_eq_true rfl) dX1_fits_164 (fun H locs hG hS _ _ => ?_)
              refine i_if_ne X 172 dX1_fits_167 (by decide) (bI_iR _) (fun c167 => ?_) (fun c167 => ?_)
              · have c167 := bI_ne0.mp c167
                have c167 : spOne S q t = true := c167
                rw [if_pos c167] at hlin
                have hlok := hlok c167
                have K189 : ∀ (f : Int), (f = if S.2 34 q = 2 then 1 else 0) → ∀ (H : Heap) (locs : List Loc) (ls : Array Slot), gOk D (mA o) (mH ca o (mP S [(54, u), (55, v)] [])) H → va_S (mA o) s.heap H locs → lv_has ls 9 [(0, .ref o), (1, .int (iI (ru))), (2, .int (iI (i))), (3, .int (iI (q))), (4, .int (iI (E))), (5, .int (iI (z))), (6, .int (iI (y))), (7, .int (iI (t))), (8, .int (iI (f)))] → W p l e (mR lv) s m args below meth c H locs 0 0 Q (F0 m 189 ls []) := by
                  intro f hf H locs ls hG hS hl
                  refine lv_aload_n X.1 X.2.1 dX1_fits_189 rfl (lv_at hl 0 rfl) ?_
                  refine mg_metFrom X hK hG dX1_fits_190 ?_
                  refine lv_iload_n X.1 X.2.1 dX1_fits_193 rfl (lv_at hl 3 rfl) ?_
                  refine lv_iload X.1 X.2.1 dX1_fits_194 (lv_at hl 7 rfl) ?_
                  refine ms_metFrom X hK hG hS (by first | omega | (split <;> omega)) dX1_fits_196 (fun H locs hG hS => ?_)
                  rw [mU_mP (l' := [(54, upI u q t), (55, v)]) rfl rfl] at hG
                  refine lv_aload_n X.1 X.2.1 dX1_fits_197 rfl (lv_at hl 0 rfl) ?_
                  refine mg_metTo X hK hG dX1_fits_198 ?_
                  refine lv_iload_n X.1 X.2.1 dX1_fits_201 rfl (lv_at hl 3 rfl) ?_
                  refine lv_iload X.1 X.2.1 dX1_fits_202 (lv_at hl 7 rfl) ?_
                  refine lv_aload_n X.1 X.2.1 dX1_fits_204 rfl (lv_at hl 0 rfl) ?_
                  refine mg_room X hK hG dX1_fits_205 ?_
                  refine lv_iload X.1 X.2.1 dX1_fits_208 (lv_at hl 7 rfl) ?_
                  refine ml_room X hK hG (S.2 46) rfl (by first | omega | (split <;> omega)) dX1_fits_210 ?_
                  refine i_add X dX1_fits_211 ?_
                  refine ms_metTo X hK hG hS (by first | omega | (split <;> omega)) dX1_fits_212 (fun H locs hG hS => ?_)
                  rw [mU_mP (l' := [(54, upI u q t), (55, upI v q (t + (S.2 46 t)))]) rfl rfl] at hG
                  have K232 : ∀ (t2 : Int), (t2 = if S.2 34 q = 2 then t + 1 else t + S.2 46 t) → ∀ (H : Heap) (locs : List Loc) (ls : Array Slot), gOk D (mA o) (mH ca o (mP S [(54, upI u q t), (55, upI v q (t + S.2 46 t))] [])) H → va_S (mA o) s.heap H locs → lv_has ls 9 [(0, .ref o), (1, .int (iI (ru))), (2, .int (iI (i))), (3, .int (iI (q))), (4, .int (iI (E))), (5, .int (iI (z))), (6, .int (iI (y)))] → W p l e (mR lv) s m args below meth c H locs 0 0 Q (F0 m 232 ls [.int (iI (t2))]) := by
                    intro t2 ht2 H locs ls hG hS hl
                    refine lv_istore (lv' := [(7, .int (iI (t2))), (0, .ref o), (1, .int (iI (ru))), (2, .int (iI (i))), (3, .int (iI (q))), (4, .int (iI (E))), (5, .int (iI (z))), (6, .int (iI (y)))]) X.1 X.2.1 dX1_fits_232 hl (by decide) rfl (fun ls hl => ?_)
                    refine i_inc (lv' := [(3, .int (iI (q + 1))), (7, .int (iI (t2))), (0, .ref o), (1, .int (iI (ru))), (2, .int (iI (i))), (4, .int (iI (E))), (5, .int (iI (z))), (6, .int (iI (y)))]) X dX1_fits_234 hl (k := 4) rfl (by decide) rfl (fun ls hl => ?_)
                    refine lv_goto (tgt := 107) X.1 X.2.1 dX1_fits_237 (by decide) ?_
                    exact ih (q + 1) t2 (upI u q t) (upI v q (t + S.2 46 t)) (by omega) (by first | exact hlok | (rw [ht2]; exact hlok) | (rw [upI_s]; exact hlok)) (by first | exact hlin | (rw [ht2]; exact hlin) | (rw [upI_s]; exact hlin)) (by first | omega | (rw [upI_s]; omega) | (rw [ht2]; split <;> omega)) (by omega) H locs ls hG hS (lv_sub hl [2, 3, 4, 0, 5, 6, 7, 1] rfl)
                  refine lv_iload X.1 X.2.1 dX1_fits_213 (lv_at hl 7 rfl) ?_
                  refine lv_iload X.1 X.2.1 dX1_fits_215 (lv_at hl 8 rfl) ?_
                  refine i_if_eq X 224 dX1_fits_217 (by decide) (by first | omega | (split <;> omega)) (fun c217 => ?_) (fun c217 => ?_)
                  · refine lv_aload_n X.1 X.2.1 dX1_fits_224 rfl (lv_at hl 0 rfl) ?_
                    refine mg_room X hK hG dX1_fits_225 ?_
                    refine lv_iload X.1 X.2.1 dX1_fits_228 (lv_at hl 7 rfl) ?_
                    refine ml_room X hK hG (S.2 46) rfl (by first | omega | (split <;> omega)) dX1_fits_230 ?_
                    refine i_add X dX1_fits_231 ?_
                    exact K232 (t + (S.2 46 t)) (by rw [hf] at c217; by_cases hh : S.2 34 q = 2 <;> simp only [hh, if_true, if_false] at c217 ⊢ <;> omega) H locs ls hG hS (lv_sub hl [0, 1, 2, 3, 4, 5, 6] rfl)
                  · refine lv_iconst (v := iI (1)) X.1 X.2.1 dX1_fits_220 rfl ?_
                    refine lv_goto (tgt := 231) X.1 X.2.1 dX1_fits_221 (by decide) ?_
                    refine i_add X dX1_fits_231 ?_
                    exact K232 (t + 1) (by rw [hf] at c217; by_cases hh : S.2 34 q = 2 <;> simp only [hh, if_true, if_false] at c217 ⊢ <;> omega) H locs ls hG hS (lv_sub hl [0, 1, 2, 3, 4, 5, 6] rfl)
                refine lv_aload_n X.1 X.2.1 dX1_fits_172 rfl (lv_at hl 0 rfl) ?_
                refine mg_pKind X hK hG dX1_fits_173 ?_
                refine lv_iload_n X.1 X.2.1 dX1_fits_176 rfl (lv_at hl 3 rfl) ?_
                refine ml_pKind X hK hG (S.2 34) rfl (by first | omega | (split <;> omega)) dX1_fits_177 ?_
                refine lv_iconst (v := iI (2)) X.1 X.2.1 dX1_fits_178 rfl ?_
                refine i_icmp_ne X 186 dX1_fits_179 (by decide) (by first | omega | (split <;> omega)) (by first | omega | (split <;> omega)) (fun c179 => ?_) (fun c179 => ?_)
                · refine lv_iconst (v := iI (0)) X.1 X.2.1 dX1_fits_186 rfl ?_
                  refine lv_istore (lv' := [(8, .int (iI (0))), (0, .ref o), (1, .int (iI (ru))), (2, .int (iI (i))), (3, .int (iI (q))), (4, .int (iI (E))), (5, .int (iI (z))), (6, .int (iI (y))), (7, .int (iI (t)))]) X.1 X.2.1 dX1_fits_187 hl (by decide) rfl (fun ls hl => ?_)
                  exact K189 0 (by first | (rw [if_pos (by omega)]) | (rw [if_neg (by omega)])) H locs ls hG hS (lv_sub hl [1, 2, 3, 4, 5, 6, 7, 8, 0] rfl)
                · refine lv_iconst (v := iI (1)) X.1 X.2.1 dX1_fits_182 rfl ?_
                  refine lv_goto (tgt := 187) X.1 X.2.1 dX1_fits_183 (by decide) ?_
                  refine lv_istore (lv' := [(8, .int (iI (1))), (0, .ref o), (1, .int (iI (ru))), (2, .int (iI (i))), (3, .int (iI (q))), (4, .int (iI (E))), (5, .int (iI (z))), (6, .int (iI (y))), (7, .int (iI (t)))]) X.1 X.2.1 dX1_fits_187 hl (by decide) rfl (fun ls hl => ?_)
                  exact K189 1 (by first | (rw [if_pos (by omega)]) | (rw [if_neg (by omega)])) H locs ls hG hS (lv_sub hl [1, 2, 3, 4, 5, 6, 7, 8, 0] rfl)
              · have c167 := bI_eq0.mp c167
                refine lv_iconst (v := iI (0)) X.1 X.2.1 dX1_fits_170 rfl ?_
                refine ret _ _ _ _ _ _ ?_ (nar_b (by first | omega | (split <;> omega))) hG hS dX1_fits_171
                have c167 : spOne S q t = false := c167
                rw [if_neg (by rw [c167]; decide)] at hlin
                have hff : spFit S ru i = false := by
                  cases hf : spFit S ru i with
                  | false => rfl
                  | true =>
                    have := a1 hf
                    rw [hF, ← hlin, show (E - (P + S.2 37 P)).toNat + 1 = 0 + 1 by omega] at this
                    unfold spLin at this
                    rw [if_pos (by omega)] at this
                    cases this
                exact ⟨bI_f hff, u, v, rfl, fun z => by rw [hff] at z; cases z⟩
            · rw [if_pos c121] at hlok hlin
              obtain ⟨hlo1, hlok⟩ := hlok
              refine lv_aload_n X.1 X.2.1 dX1_fits_124 rfl (lv_at hl 0 rfl) ?_
              refine mg_metFrom X hK hG dX1_fits_125 ?_
              refine lv_iload_n X.1 X.2.1 dX1_fits_128 rfl (lv_at hl 3 rfl) ?_
              refine lv_iload X.1 X.2.1 dX1_fits_129 (lv_at hl 7 rfl) ?_
              refine ms_metFrom X hK hG hS (by first | omega | (split <;> omega)) dX1_fits_131 (fun H locs hG hS => ?_)
              rw [mU_mP (l' := [(54, upI u q t), (55, v)]) rfl rfl] at hG
              refine lv_aload_n X.1 X.2.1 dX1_fits_132 rfl (lv_at hl 0 rfl) ?_
              refine mg_metTo X hK hG dX1_fits_133 ?_
              refine lv_iload_n X.1 X.2.1 dX1_fits_136 rfl (lv_at hl 3 rfl) ?_
              refine lv_aload_n X.1 X.2.1 dX1_fits_137 rfl (lv_at hl 0 rfl) ?_
              refine mg_metTo X hK hG dX1_fits_138 ?_
              refine lv_aload_n X.1 X.2.1 dX1_fits_141 rfl (lv_at hl 0 rfl) ?_
              refine mg_pParent X hK hG dX1_fits_142 ?_
              refine lv_iload_n X.1 X.2.1 dX1_fits_145 rfl (lv_at hl 3 rfl) ?_
              refine ml_pParent X hK hG (S.2 39) rfl (by first | omega | (split <;> omega)) dX1_fits_146 ?_
              refine ml_metTo X hK hG v rfl (by first | omega | (split <;> omega)) dX1_fits_147 ?_
              refine ms_metTo X hK hG hS (by first | omega | (split <;> omega)) dX1_fits_148 (fun H locs hG hS => ?_)
              rw [mU_mP (l' := [(54, upI u q t), (55, upI v q (v (S.2 39 q)))]) rfl rfl] at hG
              refine lv_aload_n X.1 X.2.1 dX1_fits_149 rfl (lv_at hl 0 rfl) ?_
              refine mg_metTo X hK hG dX1_fits_150 ?_
              refine lv_iload_n X.1 X.2.1 dX1_fits_153 rfl (lv_at hl 3 rfl) ?_
              refine ml_metTo X hK hG (upI v q (v (S.2 39 q))) rfl (by first | omega | (split <;> omega)) dX1_fits_154 ?_
              refine lv_istore (lv' := [(7, .int (iI ((upI v q (v (S.2 39 q))) q))), (0, .ref o), (1, .int (iI (ru))), (2, .int (iI (i))), (3, .int (iI (q))), (4, .int (iI (E))), (5, .int (iI (z))), (6, .int (iI (y)))]) X.1 X.2.1 dX1_fits_155 hl (by decide) rfl (fun ls hl => ?_)
              refine lv_goto (tgt := 234) X.1 X.2.1 dX1_fits_157 (by decide) ?_
              refine i_inc (lv' := [(3, .int (iI (q + 1))), (7, .int (iI ((upI v q (v (S.2 39 q))) q))), (0, .ref o), (1, .int (iI (ru))), (2, .int (iI (i))), (4, .int (iI (E))), (5, .int (iI (z))), (6, .int (iI (y)))]) X dX1_fits_234 hl (k := 4) rfl (by decide) rfl (fun ls hl => ?_)
              refine lv_goto (tgt := 107) X.1 X.2.1 dX1_fits_237 (by decide) ?_
              exact ih (q + 1) ((upI v q (v (S.2 39 q))) q) (upI u q t) (upI v q (v (S.2 39 q))) (by omega) (by first | exact hlok | (rw [ht2]; exact hlok) | (rw [upI_s]; exact hlok)) (by first | exact hlin | (rw [ht2]; exact hlin) | (rw [upI_s]; exact hlin)) (by first | omega | (rw [upI_s]; omega) | (rw [ht2]; split <;> omega)) (by omega) H locs ls hG hS (lv_sub hl [2, 3, 4, 0, 5, 6, 7, 1] rfl)
      exact L107 _ (P + 1) (i + 2) (S.2 54) (upI (S.2 55) P (i + S.2 46 i)) (by omega) hlk0 hF (by omega) (Nat.lt_succ_self _) H locs ls hG hS (lv_sub hl [2, 3, 4, 0, 5, 6, 7, 1] rfl)
    refine lv_iload X.1 X.2.1 dX1_fits_51 (lv_at hl 6 rfl) ?_
    refine i_if_eq X 72 dX1_fits_53 (by decide) (by first | omega | (split <;> omega)) (fun c53 => ?_) (fun c53 => ?_)
    · refine lv_iload X.1 X.2.1 dX1_fits_72 (lv_at hl 0 rfl) ?_
      refine lv_aload_n X.1 X.2.1 dX1_fits_74 rfl (lv_at hl 1 rfl) ?_
      refine mg_pCount X hK hG dX1_fits_75 ?_
      refine lv_iload_n X.1 X.2.1 dX1_fits_78 rfl (lv_at hl 4 rfl) ?_
      refine ml_pCount X hK hG (S.2 38) rfl (by first | omega | (split <;> omega)) dX1_fits_79 ?_
      refine i_icmp_eq X 85 dX1_fits_80 (by decide) (by first | omega | (split <;> omega)) (by first | omega | (split <;> omega)) (fun c80 => ?_) (fun c80 => ?_)
      · exact K85  (by refine ⟨fun hr _ => ?_, fun hr => ?_⟩ <;> first | omega | (have := hzR.mpr hr; omega) | (exact absurd (hzR.mp (by assumption)) hr)) H locs ls hG hS (lv_sub hl [1, 2, 3, 4, 5, 6, 0] rfl)
      · refine lv_iconst (v := iI (0)) X.1 X.2.1 dX1_fits_83 rfl ?_
        refine ret _ _ _ _ _ _ ?_ (nar_b (by first | omega | (split <;> omega))) hG hS dX1_fits_84
        refine ⟨?_, S.2 54, S.2 55, mP_self2 S, ?_⟩
        · apply bI_f
          cases hf : spFit S ru i with
          | false => rfl
          | true =>
            exfalso
            rw [hX] at hf
            have hcx := spX_cc hT hPN (Int.le_refl P) hPE hR1 h0 hn (by omega) (S.2 38 P).toNat 0 1 601 (by omega) (by omega) (by omega) hf
            by_cases hr : Rst S P
            · have q1 := hzR.mpr hr
              have q2 := hr.1
              have := hcx.1 hr (by omega)
              omega
            · have q1 : z = 0 := by rcases Classical.em (z = 0) with q | q; exact q; exact absurd (hzR.mp q) hr
              have := hcx.2 hr
              omega
        · intro hf
          exfalso
          rw [hX] at hf
          have hcx := spX_cc hT hPN (Int.le_refl P) hPE hR1 h0 hn (by omega) (S.2 38 P).toNat 0 1 601 (by omega) (by omega) (by omega) hf
          by_cases hr : Rst S P
          · have q1 := hzR.mpr hr
            have q2 := hr.1
            have := hcx.1 hr (by omega)
            omega
          · have q1 : z = 0 := by rcases Classical.em (z = 0) with q | q; exact q; exact absurd (hzR.mp q) hr
            have := hcx.2 hr
            omega
    · refine lv_iload X.1 X.2.1 dX1_fits_56 (lv_at hl 0 rfl) ?_
      refine lv_aload_n X.1 X.2.1 dX1_fits_58 rfl (lv_at hl 1 rfl) ?_
      refine mg_pCount X hK hG dX1_fits_59 ?_
      refine lv_iload_n X.1 X.2.1 dX1_fits_62 rfl (lv_at hl 4 rfl) ?_
      refine ml_pCount X hK hG (S.2 38) rfl (by first | omega | (split <;> omega)) dX1_fits_63 ?_
      refine lv_iconst (v := iI (1)) X.1 X.2.1 dX1_fits_64 rfl ?_
      refine i_sub X dX1_fits_65 ?_
      refine i_icmp_ge X 85 dX1_fits_66 (by decide) (by first | omega | (split <;> omega)) (by first | omega | (split <;> omega)) (fun c66 => ?_) (fun c66 => ?_)
      · exact K85  (by refine ⟨fun hr _ => ?_, fun hr => ?_⟩ <;> first | omega | (have := hzR.mpr hr; omega) | (exact absurd (hzR.mp (by assumption)) hr)) H locs ls hG hS (lv_sub hl [1, 2, 3, 4, 5, 6, 0] rfl)
      · refine lv_goto (tgt := 83) X.1 X.2.1 dX1_fits_69 (by decide) ?_
        refine lv_iconst (v := iI (0)) X.1 X.2.1 dX1_fits_83 rfl ?_
        refine ret _ _ _ _ _ _ ?_ (nar_b (by first | omega | (split <;> omega))) hG hS dX1_fits_84
        refine ⟨?_, S.2 54, S.2 55, mP_self2 S, ?_⟩
        · apply bI_f
          cases hf : spFit S ru i with
          | false => rfl
          | true =>
            exfalso
            rw [hX] at hf
            have hcx := spX_cc hT hPN (Int.le_refl P) hPE hR1 h0 hn (by omega) (S.2 38 P).toNat 0 1 601 (by omega) (by omega) (by omega) hf
            by_cases hr : Rst S P
            · have q1 := hzR.mpr hr
              have q2 := hr.1
              have := hcx.1 hr (by omega)
              omega
            · have q1 : z = 0 := by rcases Classical.em (z = 0) with q | q; exact q; exact absurd (hzR.mp q) hr
              have := hcx.2 hr
              omega
        · intro hf
          exfalso
          rw [hX] at hf
          have hcx := spX_cc hT hPN (Int.le_refl P) hPE hR1 h0 hn (by omega) (S.2 38 P).toNat 0 1 601 (by omega) (by omega) (by omega) hf
          by_cases hr : Rst S P
          · have q1 := hzR.mpr hr
            have q2 := hr.1
            have := hcx.1 hr (by omega)
            omega
          · have q1 : z = 0 := by rcases Classical.em (z = 0) with q | q; exact q; exact absurd (hzR.mp q) hr
            have := hcx.2 hr
            omega
  refine lv_aload_n X.1 X.2.1 dX1_fits_17 rfl (lv_at hl 2 rfl) ?_
  refine mg_pCount X hK hG dX1_fits_18 ?_
  refine lv_iload_n X.1 X.2.1 dX1_fits_21 rfl (lv_at hl 1 rfl) ?_
  refine ml_pCount X hK hG (S.2 38) rfl (by first | omega | (split <;> omega)) dX1_fits_22 ?_
  refine i_if_le X 38 dX1_fits_23 (by decide) (by first | omega | (split <;> omega)) (fun c23 => ?_) (fun c23 => ?_)
  · refine lv_iconst (v := iI (0)) X.1 X.2.1 dX1_fits_38 rfl ?_
    refine lv_istore (lv' := [(5, .int (iI (0))), (4, .int (iI (E))), (3, .int (iI (P))), (0, .ref o), (1, .int (iI (ru))), (2, .int (iI (i)))]) X.1 X.2.1 dX1_fits_39 hl (by decide) rfl (fun ls hl => ?_)
    exact K41 0 (by first | (apply bI_t; unfold spER; rw [c31]; simp; omega) | (apply bI_f; unfold spER; first | (rw [c31]; simp; done) | (simp; omega))) H locs ls hG hS (lv_sub hl [3, 4, 5, 2, 1, 0] rfl)
  · refine lv_aload_n X.1 X.2.1 dX1_fits_26 rfl (lv_at hl 2 rfl) ?_
    refine lv_iload_n X.1 X.2.1 dX1_fits_27 rfl (lv_at hl 1 rfl) ?_
    refine m_callVp (rest := []) (n := 1) X hK hG hS (fun _ h => h) (mm_endsInRest l D ca o (lv - 1) S P (by omega) (by omega) (by omega) (by omega)) (lw_V q1584 q1586 qs52 q70 q1587) (by decide +kernel) rfl ⟨by show (lv - 1) + 1 ≤ lv; omega, by show 8 + (3 + 11) + 40 * (lv - 1) ≤ 40 * lv; omega⟩ ⟨Nat.le_refl _, Nat.le_refl _⟩ hl.1 rfl (Nat.le_of_ble_eq_true rfl) dX1_fits_28 (fun H locs hG hS _ _ => ?_)
    refine i_if_eq X 38 dX1_fits_31 (by decide) (bI_iR _) (fun c31 => ?_) (fun c31 => ?_)
    · have c31 := bI_eq0.mp c31
      refine lv_iconst (v := iI (0)) X.1 X.2.1 dX1_fits_38 rfl ?_
      refine lv_istore (lv' := [(5, .int (iI (0))), (4, .int (iI (E))), (3, .int (iI (P))), (0, .ref o), (1, .int (iI (ru))), (2, .int (iI (i)))]) X.1 X.2.1 dX1_fits_39 hl (by decide) rfl (fun ls hl => ?_)
      exact K41 0 (by first | (apply bI_t; unfold spER; rw [c31]; simp; omega) | (apply bI_f; unfold spER; first | (rw [c31]; simp; done) | (simp; omega))) H locs ls hG hS (lv_sub hl [3, 4, 5, 2, 1, 0] rfl)
    · have c31 := bI_ne0.mp c31
      refine lv_iconst (v := iI (1)) X.1 X.2.1 dX1_fits_34 rfl ?_
      refine lv_goto (tgt := 39) X.1 X.2.1 dX1_fits_35 (by decide) ?_
      refine lv_istore (lv' := [(5, .int (iI (1))), (4, .int (iI (E))), (3, .int (iI (P))), (0, .ref o), (1, .int (iI (ru))), (2, .int (iI (i)))]) X.1 X.2.1 dX1_fits_39 hl (by decide) rfl (fun ls hl => ?_)
      exact K41 1 (by first | (apply bI_t; unfold spER; rw [c31]; simp; omega) | (apply bI_f; unfold spER; first | (rw [c31]; simp; done) | (simp; omega))) H locs ls hG hS (lv_sub hl [3, 4, 5, 2, 1, 0] rfl)

set_option maxHeartbeats 4000000 in
theorem mm_ruleOf (l : Launch) (D : va_G) (ca : Nat → ClassId) (o lv : Nat) (S : MSt) (i : Int) (hlv : 3 ≤ lv) (hT : MT S) (hP : MP S) (h0 : 0 ≤ i) (hn : i < S.1 40) (hw : 3 ≤ S.2 41 i) : mCi l yX1_ruleOf cX1_ruleOf 3 .int D ca o lv [.ref o, .int (iI (i))] S (fun r S' => r = spRule S i 13 0 ∧ ∃ u v : Int → Int, S' = mP S [(54, u), (55, v)] [] ∧ (spRule S i 13 0 ≠ -9 → ∀ q, S.2 32 (spRule S i 13 0) < q → q < S.2 33 (spRule S i 13 0) → u q = spFrom S (spRule S i 13 0) i q ∧ v q = spTo S (spRule S i 13 0) i q)) := by
  refine mCi_of (by decide +kernel) rfl (Nat.le_of_ble_eq_true rfl) ?_
  intro p e s m args below meth c Q X hK ret H locs ls hG hS hl
  have hl : lv_has ls 3 [(0, .ref o), (1, .int (iI (i)))] := hl
  refine lv_iconst (v := iI (0)) X.1 X.2.1 dX1_ruleOf_0 rfl ?_
  refine lv_istore_n (lv' := [(2, .int (iI (0))), (0, .ref o), (1, .int (iI (i)))]) X.1 X.2.1 dX1_ruleOf_1 rfl hl (by decide) rfl (fun ls hl => ?_)
  obtain ⟨Z, eZ⟩ : ∃ Z, Z = spRule S i 13 0 := ⟨_, rfl⟩
  have hm := hP.1
  have hnn := hT.n
  have hri := hT.1.r h0 hn
  have hna := hT.1.named h0 hn hw
  have hln := (hT.1.lst h0 hn (by omega)).2 0 (by omega)
  have hl0 : chh (S.2 46) i 0 = i + 1 := rfl
  have hg1 := hT.2.2 (i + 1) (by omega) (by omega)
  have hG : gOk D (mA o) (mH ca o (mP S [(54, S.2 54), (55, S.2 55)] [])) H := by rw [← mP_self2]; exact hG
  have L2 : ∀ (N : Nat) (ru : Int) (u v : Int → Int), (0 ≤ ru ∧ ru ≤ S.1 29) → (spRule S i (13 - ru.toNat) ru = Z) → (S.1 29 - ru).toNat < N → ∀ (H : Heap) (locs : List Loc) (ls : Array Slot), gOk D (mA o) (mH ca o (mP S [(54, u), (55, v)] [])) H → va_S (mA o) s.heap H locs → lv_has ls 3 [(0, .ref o), (1, .int (iI (i))), (2, .int (iI (ru)))] → W p l e (mR lv) s m args below meth c H locs 0 0 Q (F0 m 2 ls []) := by
    intro N
    induction N with
    | zero => intro ru u v hr he hN; exact absurd hN (Nat.not_lt_zero _)
    | succ N ih =>
      intro ru u v hr he hN H locs ls hG hS hl
      refine lv_iload_n X.1 X.2.1 dX1_ruleOf_2 rfl (lv_at hl 2 rfl) ?_
      refine lv_aload_n X.1 X.2.1 dX1_ruleOf_3 rfl (lv_at hl 0 rfl) ?_
      refine mg_ruleMany X hK hG (S.1 29) rfl dX1_ruleOf_4 ?_
      refine i_icmp_ge X 45 dX1_ruleOf_7 (by decide) (by first | omega | (split <;> omega)) (by first | omega | (split <;> omega)) (fun c7 => ?_) (fun c7 => ?_)
      · have e9 : Z = -9 := by
          rw [← he]
          rw [show 13 - ru.toNat = (13 - (ru + 1).toNat) + 1 by omega]
          unfold spRule
          rw [if_pos (by omega)]
        refine lv_bipush (v := iI (-9)) X.1 X.2.1 dX1_ruleOf_45 (by decide) ?_
        refine ret _ _ _ _ _ _ ?_ (rfl) hG hS dX1_ruleOf_47
        rw [← eZ, e9]
        exact ⟨rfl, _, _, rfl, fun z => absurd rfl z⟩
      · have hR6 := (hP.2 ru hr.1 (by omega)).2.2.2.2.2.2.1
        have hfu : 13 - ru.toNat = (13 - (ru + 1).toNat) + 1 := by omega
        rw [hfu] at he
        unfold spRule at he
        rw [if_neg (by omega)] at he
        refine lv_aload_n X.1 X.2.1 dX1_ruleOf_10 rfl (lv_at hl 0 rfl) ?_
        refine mg_word X hK hG dX1_ruleOf_11 ?_
        refine lv_iload_n X.1 X.2.1 dX1_ruleOf_14 rfl (lv_at hl 2 rfl) ?_
        refine ml_word X hK hG (S.2 30) rfl (by first | omega | (split <;> omega)) dX1_ruleOf_15 ?_
        refine lv_aload_n X.1 X.2.1 dX1_ruleOf_16 rfl (lv_at hl 0 rfl) ?_
        refine mg_worthOf X hK hG dX1_ruleOf_17 ?_
        refine lv_iload_n X.1 X.2.1 dX1_ruleOf_20 rfl (lv_at hl 1 rfl) ?_
        refine lv_iconst (v := iI (1)) X.1 X.2.1 dX1_ruleOf_21 rfl ?_
        refine i_add X dX1_ruleOf_22 ?_
        refine ml_worthOf X hK hG (S.2 42) rfl (by first | omega | (split <;> omega)) dX1_ruleOf_23 ?_
        refine i_lcmp_ne X 39 dX1_ruleOf_24 dX1_ruleOf_25 (by decide) (by first | omega | (split <;> omega)) (by first | omega | (split <;> omega)) (fun c24 => ?_) (fun c24 => ?_)
        · have hnext : spRule S i (13 - (ru + 1).toNat) (ru + 1) = Z := by
            rw [if_neg (by rintro ⟨h1, h2⟩; first | omega | (rw [c34] at h2; cases h2))] at he
            exact he
          refine i_inc (lv' := [(2, .int (iI (ru + 1))), (0, .ref o), (1, .int (iI (i)))]) X dX1_ruleOf_39 hl (k := 2) rfl (by decide) rfl (fun ls hl => ?_)
          refine lv_goto (tgt := 2) X.1 X.2.1 dX1_ruleOf_42 (by decide) ?_
          exact ih (ru + 1) u v (by omega) hnext (by omega) H locs ls hG hS (lv_sub hl [1, 2, 0] rfl)
        · refine lv_aload_n X.1 X.2.1 dX1_ruleOf_28 rfl (lv_at hl 0 rfl) ?_
          refine lv_iload_n X.1 X.2.1 dX1_ruleOf_29 rfl (lv_at hl 2 rfl) ?_
          refine lv_iload_n X.1 X.2.1 dX1_ruleOf_30 rfl (lv_at hl 1 rfl) ?_
          refine m_callVi (rest := []) (n := 2) X hK hG hS (fun _ h => h) (mm_fits l D ca o (lv - 1) (mP S [(54, u), (55, v)] []) ru i (by omega) hT hP (show 0 ≤ ru ∧ ru < S.1 29 by omega) h0 hn hw) (lw_V q1580 q1582 qs51 q70 q1583) (by decide +kernel) rfl ⟨by show (lv - 1) + 1 ≤ lv; omega, by show 8 + (9 + 11) + 40 * (lv - 1) ≤ 40 * lv; omega⟩ ⟨Nat.le_refl _, Nat.le_refl _⟩ hl.1 rfl (Nat.le_of_ble_eq_true rfl) dX1_ruleOf_31 (fun z1 S1 H locs hp1 hG hS _ _ => ?_)
          obtain ⟨hz1, u1, v1, rfl, hfit1⟩ := hp1
          rw [mP_mP (l' := [(54, u1), (55, v1)]) (sc' := []) rfl rfl] at hG
          rw [show spFit (mP S [(54, u), (55, v)] []) ru i = spFit S ru i by rw [← spFit_tv, tv_mP, spFit_tv]] at hz1 hfit1
          have hfit1 : spFit S ru i = true → ∀ q, S.2 32 ru < q → q < S.2 33 ru → u1 q = spFrom S ru i q ∧ v1 q = spTo S ru i q := fun a q b c => by have := hfit1 a q b c; rw [← spFrom_tv, ← spTo_tv, tv_mP, spFrom_tv, spTo_tv] at this; exact this
          rw [hz1]
          refine i_if_eq X 39 dX1_ruleOf_34 (by decide) (bI_iR _) (fun c34 => ?_) (fun c34 => ?_)
          · have c34 := bI_eq0.mp c34
            have hnext : spRule S i (13 - (ru + 1).toNat) (ru + 1) = Z := by
              rw [if_neg (by rintro ⟨h1, h2⟩; first | omega | (rw [c34] at h2; cases h2))] at he
              exact he
            refine i_inc (lv' := [(2, .int (iI (ru + 1))), (0, .ref o), (1, .int (iI (i)))]) X dX1_ruleOf_39 hl (k := 2) rfl (by decide) rfl (fun ls hl => ?_)
            refine lv_goto (tgt := 2) X.1 X.2.1 dX1_ruleOf_42 (by decide) ?_
            exact ih (ru + 1) u1 v1 (by omega) hnext (by omega) H locs ls hG hS (lv_sub hl [1, 2, 0] rfl)
          · have c34 := bI_ne0.mp c34
            rw [if_pos ⟨by omega, c34⟩] at he
            refine lv_iload_n X.1 X.2.1 dX1_ruleOf_37 rfl (lv_at hl 2 rfl) ?_
            refine ret _ _ _ _ _ _ ?_ (rfl) hG hS dX1_ruleOf_38
            rw [← eZ, ← he]
            exact ⟨rfl, _, _, rfl, fun _ => hfit1 c34⟩
  exact L2 _ 0 (S.2 54) (S.2 55) (by omega) (by rw [eZ]; rfl) (Nat.lt_succ_self _) H locs ls hG hS (lv_sub hl [1, 2, 0] rfl)

set_option maxHeartbeats 4000000 in
theorem mm_isReady (l : Launch) (D : va_G) (ca : Nat → ClassId) (o lv : Nat) (S : MSt) (i : Int) (hlv : 4 ≤ lv) (hT : MT S) (hP : MP S) (h0 : 0 ≤ i) (hn : i < S.1 40) : mCi l yX1_isReady cX1_isReady 3 .boolean D ca o lv [.ref o, .int (iI (i))] S (fun r S' => r = bI (spReady S i) ∧ ∃ u v : Int → Int, S' = mP S [(54, u), (55, v)] []) := by
  refine mCi_of (by decide +kernel) rfl (Nat.le_of_ble_eq_true rfl) ?_
  intro p e s m args below meth c Q X hK ret H locs ls hG hS hl
  have hl : lv_has ls 3 [(0, .ref o), (1, .int (iI (i)))] := hl
  have hnn := hT.n
  have hm := hP.1
  have hwd : ∀ i, 0 ≤ i → i < S.1 29 → lR (S.2 30 i) := fun j a b => by have := (hP.2 j a b).2.2.2.2.2.2.1; omega
  have hii := hT.inside h0 hn
  refine lv_aload_n X.1 X.2.1 dX1_isReady_0 rfl (lv_at hl 0 rfl) ?_
  refine lv_iload_n X.1 X.2.1 dX1_isReady_1 rfl (lv_at hl 1 rfl) ?_
  refine m_callVp (rest := []) (n := 1) X hK hG hS (fun _ h => h) (mm_isCall l D ca o (lv - 1) S i (by omega) hT (by omega) (by omega) hm hwd) (lw_V q1568 q1570 qs48 q70 q1571) (by decide +kernel) rfl ⟨by show (lv - 1) + 1 ≤ lv; omega, by show 8 + (2 + 11) + 40 * (lv - 1) ≤ 40 * lv; omega⟩ ⟨Nat.le_refl _, Nat.le_refl _⟩ hl.1 rfl (Nat.le_of_ble_eq_true rfl) dX1_isReady_2 (fun H locs hG hS _ _ => ?_)
  refine i_if_ne X 10 dX1_isReady_5 (by decide) (bI_iR _) (fun c5 => ?_) (fun c5 => ?_)
  · have c5 := bI_ne0.mp c5
    have hw3 : 3 ≤ S.2 41 i := by have h5 := c5; unfold spCall at h5; simp only [Bool.and_eq_true, decide_eq_true_eq] at h5; omega
    refine lv_aload_n X.1 X.2.1 dX1_isReady_10 rfl (lv_at hl 0 rfl) ?_
    refine mg_inside X hK hG dX1_isReady_11 ?_
    refine lv_iload_n X.1 X.2.1 dX1_isReady_14 rfl (lv_at hl 1 rfl) ?_
    refine ml_inside X hK hG (S.2 48) rfl (by first | omega | (split <;> omega)) dX1_isReady_15 ?_
    refine lv_istore_n (lv' := [(2, .int (iI (S.2 48 i))), (0, .ref o), (1, .int (iI (i)))]) X.1 X.2.1 dX1_isReady_16 rfl hl (by decide) rfl (fun ls hl => ?_)
    have hst : ∀ f : Nat, S.2 48 i < f → spAnyUp S f (S.2 48 i) = spAnyUp S 501 (S.2 48 i) := by
      intro f hf
      rcases Nat.le_total f 501 with q | q
      · exact (spAnyUp_more hT f _ (by omega) hf _ q).symm
      · exact spAnyUp_more hT 501 _ (by omega) (by omega) _ q
    have L17 : ∀ (N : Nat) (q : Int), (q = -9 ∨ (0 ≤ q ∧ q < S.1 40)) → (∀ f : Nat, q < f → spAnyUp S f q = spAnyUp S 501 (S.2 48 i)) → (q + 10).toNat < N → ∀ (H : Heap) (locs : List Loc) (ls : Array Slot), gOk D (mA o) (mH ca o S) H → va_S (mA o) s.heap H locs → lv_has ls 3 [(0, .ref o), (1, .int (iI (i))), (2, .int (iI (q)))] → W p l e (mR lv) s m args below meth c H locs 0 0 Q (F0 m 17 ls []) := by
      intro N
      induction N with
      | zero => intro q hq he hN; exact absurd hN (Nat.not_lt_zero _)
      | succ N ih =>
        intro q hq he hN H locs ls hG hS hl
        refine lv_iload_n X.1 X.2.1 dX1_isReady_17 rfl (lv_at hl 2 rfl) ?_
        refine lv_bipush (v := iI (-9)) X.1 X.2.1 dX1_isReady_18 (by decide) ?_
        refine i_icmp_eq X 43 dX1_isReady_20 (by decide) (by first | omega | (split <;> omega)) (by first | omega | (split <;> omega)) (fun c20 => ?_) (fun c20 => ?_)
        · refine lv_aload_n X.1 X.2.1 dX1_isReady_43 rfl (lv_at hl 0 rfl) ?_
          refine lv_iload_n X.1 X.2.1 dX1_isReady_44 rfl (lv_at hl 1 rfl) ?_
          refine m_callVi (rest := []) (n := 1) X hK hG hS (fun _ h => h) (mm_ruleOf l D ca o (lv - 1) S i (by omega) hT hP h0 hn hw3) (lw_V q1576 q1578 qs50 q70 q1579) (by decide +kernel) rfl ⟨by show (lv - 1) + 1 ≤ lv; omega, by show 8 + (3 + 11) + 40 * (lv - 1) ≤ 40 * lv; omega⟩ ⟨Nat.le_refl _, Nat.le_refl _⟩ hl.1 rfl (Nat.le_of_ble_eq_true rfl) dX1_isReady_45 (fun z2 S2 H locs hp2 hG hS _ _ => ?_)
          obtain ⟨hz2, u2, v2, rfl, -⟩ := hp2
          rw [hz2]
          refine lv_bipush (v := iI (-9)) X.1 X.2.1 dX1_isReady_48 (by decide) ?_
          have hrr := spRule_in S i 13 0 (by omega)
          refine i_icmp_eq X 57 dX1_isReady_50 (by decide) (by first | omega | (split <;> omega)) (by first | omega | (split <;> omega)) (fun c50 => ?_) (fun c50 => ?_)
          · refine lv_iconst (v := iI (0)) X.1 X.2.1 dX1_isReady_57 rfl ?_
            refine ret _ _ _ _ _ _ ?_ (nar_b (by first | omega | (split <;> omega))) hG hS dX1_isReady_58
            have h1 := he 1 (by omega)
            have h2 : spAnyUp S 1 q = false := by unfold spAnyUp; rw [if_pos (by omega)]
            rw [h2] at h1
            refine ⟨?_, _, _, rfl⟩
            first | (apply bI_t; unfold spReady; rw [c5, ← h1]; simp; omega) | (apply bI_f; unfold spReady; rw [c5, ← h1]; simp; omega)
          · refine lv_iconst (v := iI (1)) X.1 X.2.1 dX1_isReady_53 rfl ?_
            refine lv_goto (tgt := 58) X.1 X.2.1 dX1_isReady_54 (by decide) ?_
            refine ret _ _ _ _ _ _ ?_ (nar_b (by first | omega | (split <;> omega))) hG hS dX1_isReady_58
            have h1 := he 1 (by omega)
            have h2 : spAnyUp S 1 q = false := by unfold spAnyUp; rw [if_pos (by omega)]
            rw [h2] at h1
            refine ⟨?_, _, _, rfl⟩
            first | (apply bI_t; unfold spReady; rw [c5, ← h1]; simp; omega) | (apply bI_f; unfold spReady; rw [c5, ← h1]; simp; omega)
        · refine lv_aload_n X.1 X.2.1 dX1_isReady_23 rfl (lv_at hl 0 rfl) ?_
          refine lv_iload_n X.1 X.2.1 dX1_isReady_24 rfl (lv_at hl 2 rfl) ?_
          refine m_callVp (rest := []) (n := 1) X hK hG hS (fun _ h => h) (mm_isCall l D ca o (lv - 1) S q (by omega) hT (by omega) (by omega) hm hwd) (lw_V q1568 q1570 qs48 q70 q1571) (by decide +kernel) rfl ⟨by show (lv - 1) + 1 ≤ lv; omega, by show 8 + (2 + 11) + 40 * (lv - 1) ≤ 40 * lv; omega⟩ ⟨Nat.le_refl _, Nat.le_refl _⟩ hl.1 rfl (Nat.le_of_ble_eq_true rfl) dX1_isReady_25 (fun H locs hG hS _ _ => ?_)
          refine i_if_eq X 33 dX1_isReady_28 (by decide) (bI_iR _) (fun c28 => ?_) (fun c28 => ?_)
          · have c28 := bI_eq0.mp c28
            have hqi := hT.inside (k := q) (by omega) (by omega)
            have hst2 : ∀ f : Nat, S.2 48 q < f → spAnyUp S f (S.2 48 q) = spAnyUp S 501 (S.2 48 i) := by
              intro f hf
              have h1 := he (max f q.toNat + 1) (by omega)
              rw [spAnyUp_s S (max f q.toNat) q, if_neg (by omega), c28, Bool.false_or] at h1
              exact (spAnyUp_more hT f _ (by omega) hf _ (Nat.le_max_left _ _)).symm.trans h1
            refine lv_aload_n X.1 X.2.1 dX1_isReady_33 rfl (lv_at hl 0 rfl) ?_
            refine mg_inside X hK hG dX1_isReady_34 ?_
            refine lv_iload_n X.1 X.2.1 dX1_isReady_37 rfl (lv_at hl 2 rfl) ?_
            refine ml_inside X hK hG (S.2 48) rfl (by first | omega | (split <;> omega)) dX1_isReady_38 ?_
            refine lv_istore_n (lv' := [(2, .int (iI (S.2 48 q))), (0, .ref o), (1, .int (iI (i)))]) X.1 X.2.1 dX1_isReady_39 rfl hl (by decide) rfl (fun ls hl => ?_)
            refine lv_goto (tgt := 17) X.1 X.2.1 dX1_isReady_40 (by decide) ?_
            exact ih (S.2 48 q) (by omega) hst2 (by omega) H locs ls hG hS (lv_sub hl [1, 2, 0] rfl)
          · have c28 := bI_ne0.mp c28
            refine lv_iconst (v := iI (0)) X.1 X.2.1 dX1_isReady_31 rfl ?_
            refine ret _ _ _ _ _ _ ?_ (nar_b (by first | omega | (split <;> omega))) hG hS dX1_isReady_32
            refine ⟨bI_f ?_, S.2 54, S.2 55, mP_self2 S⟩
            have h1 := he (q.toNat + 1) (by omega)
            unfold spReady
            rw [← h1]
            unfold spAnyUp
            rw [if_neg (by omega), c28]
            simp
    exact L17 _ (S.2 48 i) (by omega) hst (Nat.lt_succ_self _) H locs ls hG hS (lv_sub hl [1, 2, 0] rfl)
  · have c5 := bI_eq0.mp c5
    refine lv_iconst (v := iI (0)) X.1 X.2.1 dX1_isReady_8 rfl ?_
    refine ret _ _ _ _ _ _ ?_ (nar_b (by first | omega | (split <;> omega))) hG hS dX1_isReady_9
    exact ⟨bI_f (by unfold spReady; rw [c5]; rfl), S.2 54, S.2 55, mP_self2 S⟩

set_option maxHeartbeats 4000000 in
theorem mm_readyAt (l : Launch) (D : va_G) (ca : Nat → ClassId) (o lv : Nat) (S : MSt) (n : Int) (hlv : 5 ≤ lv) (hT : MT S) (hP : MP S) (hnr : iR n) : mCi l yX1_readyAt cX1_readyAt 4 .int D ca o lv [.ref o, .int (iI (n))] S (fun r S' => r = (if n < 0 then -9 else spNth S (S.1 40).toNat 0 n) ∧ ∃ u v : Int → Int, S' = mP S [(54, u), (55, v)] []) := by
  refine mCi_of (by decide +kernel) rfl (Nat.le_of_ble_eq_true rfl) ?_
  intro p e s m args below meth c Q X hK ret H locs ls hG hS hl
  have hl : lv_has ls 4 [(0, .ref o), (1, .int (iI (n)))] := hl
  refine lv_iload_n X.1 X.2.1 dX1_readyAt_0 rfl (lv_at hl 1 rfl) ?_
  refine lv_istore_n (lv' := [(2, .int (iI (n))), (0, .ref o), (1, .int (iI (n)))]) X.1 X.2.1 dX1_readyAt_1 rfl hl (by decide) rfl (fun ls hl => ?_)
  refine lv_iconst (v := iI (0)) X.1 X.2.1 dX1_readyAt_2 rfl ?_
  refine lv_istore_n (lv' := [(3, .int (iI (0))), (2, .int (iI (n))), (0, .ref o), (1, .int (iI (n)))]) X.1 X.2.1 dX1_readyAt_3 rfl hl (by decide) rfl (fun ls hl => ?_)
  have hnn := hT.n
  have hG : gOk D (mA o) (mH ca o (mP S [(54, S.2 54), (55, S.2 55)] [])) H := by rw [← mP_self2]; exact hG
  have L4 : ∀ (N : Nat) (f k : Int) (u v : Int → Int), (0 ≤ k ∧ k ≤ S.1 40) → (0 ≤ n → 0 ≤ f ∧ f ≤ n) → (0 ≤ n → spNth S (S.1 40 - k).toNat k f = spNth S (S.1 40).toNat 0 n) → (n < 0 → k = 0) → (S.1 40 - k).toNat < N → ∀ (H : Heap) (locs : List Loc) (ls : Array Slot), gOk D (mA o) (mH ca o (mP S [(54, u), (55, v)] [])) H → va_S (mA o) s.heap H locs → lv_has ls 4 [(0, .ref o), (1, .int (iI (n))), (2, .int (iI (f))), (3, .int (iI (k)))] → W p l e (mR lv) s m args below meth c H locs 0 0 Q (F0 m 4 ls []) := by
    intro N
    induction N with
    | zero => intro f k u v hk hf he h0k hN; exact absurd hN (Nat.not_lt_zero _)
    | succ N ih =>
      intro f k u v hk hf he h0k hN H locs ls hG hS hl
      refine lv_iload_n X.1 X.2.1 dX1_readyAt_4 rfl (lv_at hl 3 rfl) ?_
      refine lv_aload_n X.1 X.2.1 dX1_readyAt_5 rfl (lv_at hl 0 rfl) ?_
      refine mg_items X hK hG (S.1 40) rfl dX1_readyAt_6 ?_
      refine i_icmp_ge X 39 dX1_readyAt_9 (by decide) (by first | omega | (split <;> omega)) (by first | omega | (split <;> omega)) (fun c9 => ?_) (fun c9 => ?_)
      · refine lv_bipush (v := iI (-9)) X.1 X.2.1 dX1_readyAt_39 (by decide) ?_
        refine ret _ _ _ _ _ _ ?_ (rfl) hG hS dX1_readyAt_41
        refine ⟨?_, _, _, rfl⟩
        by_cases hneg : n < 0
        · rw [if_pos hneg]
        · rw [if_neg hneg, ← he (by omega), show (S.1 40 - k).toNat = 0 by omega]
          rfl
      · refine lv_iload_n X.1 X.2.1 dX1_readyAt_12 rfl (lv_at hl 1 rfl) ?_
        refine i_if_lt X 39 dX1_readyAt_13 (by decide) (by first | omega | (split <;> omega)) (fun c13 => ?_) (fun c13 => ?_)
        · refine lv_bipush (v := iI (-9)) X.1 X.2.1 dX1_readyAt_39 (by decide) ?_
          refine ret _ _ _ _ _ _ ?_ (rfl) hG hS dX1_readyAt_41
          refine ⟨?_, _, _, rfl⟩
          by_cases hneg : n < 0
          · rw [if_pos hneg]
          · rw [if_neg hneg, ← he (by omega), show (S.1 40 - k).toNat = 0 by omega]
            rfl
        · have he := he (by omega)
          have hf := hf (by omega)
          rw [show (S.1 40 - k).toNat = (S.1 40 - (k + 1)).toNat + 1 by omega, spNth_s] at he
          refine lv_aload_n X.1 X.2.1 dX1_readyAt_16 rfl (lv_at hl 0 rfl) ?_
          refine lv_iload_n X.1 X.2.1 dX1_readyAt_17 rfl (lv_at hl 3 rfl) ?_
          refine m_callVi (rest := []) (n := 1) X hK hG hS (fun _ h => h) (mm_isReady l D ca o (lv - 1) (mP S [(54, u), (55, v)] []) k (by omega) hT hP (show 0 ≤ k by omega) (show k < S.1 40 by omega)) (lw_V q1564 q1566 qs47 q70 q1567) (by decide +kernel) rfl ⟨by show (lv - 1) + 1 ≤ lv; omega, by show 8 + (3 + 11) + 40 * (lv - 1) ≤ 40 * lv; omega⟩ ⟨Nat.le_refl _, Nat.le_refl _⟩ hl.1 rfl (Nat.le_of_ble_eq_true rfl) dX1_readyAt_18 (fun z1 S1 H locs hp1 hG hS _ _ => ?_)
          obtain ⟨hz1, u1, v1, rfl⟩ := hp1
          rw [mP_mP (l' := [(54, u1), (55, v1)]) (sc' := []) rfl rfl] at hG
          rw [show spReady (mP S [(54, u), (55, v)] []) k = spReady S k by rw [← spReady_tv, tv_mP, spReady_tv]] at hz1
          rw [hz1]
          refine i_if_eq X 33 dX1_readyAt_21 (by decide) (bI_iR _) (fun c21 => ?_) (fun c21 => ?_)
          · have c21 := bI_eq0.mp c21
            have hnx : spNth S (S.1 40 - (k + 1)).toNat (k + 1) f = spNth S (S.1 40).toNat 0 n := by
              rw [← he]
              first | (rw [c21]; rfl) | (rw [c21, if_pos rfl, if_neg (by omega)]; rfl)
            refine i_inc (lv' := [(3, .int (iI (k + 1))), (0, .ref o), (1, .int (iI (n))), (2, .int (iI (f)))]) X dX1_readyAt_33 hl (k := 3) rfl (by decide) rfl (fun ls hl => ?_)
            refine lv_goto (tgt := 4) X.1 X.2.1 dX1_readyAt_36 (by decide) ?_
            exact ih f (k + 1) u1 v1 (by omega) (by omega) (fun _ => hnx) (by omega) (by omega) H locs ls hG hS (lv_sub hl [1, 2, 3, 0] rfl)
          · have c21 := bI_ne0.mp c21
            refine lv_iload_n X.1 X.2.1 dX1_readyAt_24 rfl (lv_at hl 2 rfl) ?_
            refine i_if_ne X 30 dX1_readyAt_25 (by decide) (by first | omega | (split <;> omega)) (fun c25 => ?_) (fun c25 => ?_)
            · refine i_inc (lv' := [(2, .int (iI (f + (-1)))), (0, .ref o), (1, .int (iI (n))), (3, .int (iI (k)))]) X dX1_readyAt_30 hl (k := 2) rfl (by decide) rfl (fun ls hl => ?_)
              have hnx : spNth S (S.1 40 - (k + 1)).toNat (k + 1) (f + (-1)) = spNth S (S.1 40).toNat 0 n := by
                rw [← he]
                first | (rw [c21]; rfl) | (rw [c21, if_pos rfl, if_neg (by omega)]; rfl)
              refine i_inc (lv' := [(3, .int (iI (k + 1))), (2, .int (iI (f + (-1)))), (0, .ref o), (1, .int (iI (n)))]) X dX1_readyAt_33 hl (k := 3) rfl (by decide) rfl (fun ls hl => ?_)
              refine lv_goto (tgt := 4) X.1 X.2.1 dX1_readyAt_36 (by decide) ?_
              exact ih (f + (-1)) (k + 1) u1 v1 (by omega) (by omega) (fun _ => hnx) (by omega) (by omega) H locs ls hG hS (lv_sub hl [2, 3, 1, 0] rfl)
            · refine lv_iload_n X.1 X.2.1 dX1_readyAt_28 rfl (lv_at hl 3 rfl) ?_
              refine ret _ _ _ _ _ _ ?_ (rfl) hG hS dX1_readyAt_29
              refine ⟨?_, _, _, rfl⟩
              rw [if_neg (by omega), ← he, c21, if_pos rfl, if_pos (by omega)]
  exact L4 _ n 0 (S.2 54) (S.2 55) (by omega) (by omega) (by intro _; rw [Int.sub_zero]) (by omega) (Nat.lt_succ_self _) H locs ls hG hS (lv_sub hl [2, 3, 1, 0] rfl)

set_option maxHeartbeats 4000000 in
theorem mm_lastReady (l : Launch) (D : va_G) (ca : Nat → ClassId) (o lv : Nat) (S : MSt) (hlv : 5 ≤ lv) (hT : MT S) (hP : MP S) : mCi l yX1_lastReady cX1_lastReady 3 .int D ca o lv [.ref o] S (fun r S' => r = spLast S (S.1 40).toNat 0 (-9) ∧ ∃ u v : Int → Int, S' = mP S [(54, u), (55, v)] []) := by
  refine mCi_of (by decide +kernel) rfl (Nat.le_of_ble_eq_true rfl) ?_
  intro p e s m args below meth c Q X hK ret H locs ls hG hS hl
  have hl : lv_has ls 3 [(0, .ref o)] := hl
  refine lv_bipush (v := iI (-9)) X.1 X.2.1 dX1_lastReady_0 (by decide) ?_
  refine lv_istore_n (lv' := [(1, .int (iI ((-9)))), (0, .ref o)]) X.1 X.2.1 dX1_lastReady_2 rfl hl (by decide) rfl (fun ls hl => ?_)
  refine lv_iconst (v := iI (0)) X.1 X.2.1 dX1_lastReady_3 rfl ?_
  refine lv_istore_n (lv' := [(2, .int (iI (0))), (1, .int (iI ((-9)))), (0, .ref o)]) X.1 X.2.1 dX1_lastReady_4 rfl hl (by decide) rfl (fun ls hl => ?_)
  have hnn := hT.n
  have hG : gOk D (mA o) (mH ca o (mP S [(54, S.2 54), (55, S.2 55)] [])) H := by rw [← mP_self2]; exact hG
  have L5 : ∀ (N : Nat) (d k : Int) (u v : Int → Int), (0 ≤ k ∧ k ≤ S.1 40) → (spLast S (S.1 40 - k).toNat k d = spLast S (S.1 40).toNat 0 (-9)) → (S.1 40 - k).toNat < N → ∀ (H : Heap) (locs : List Loc) (ls : Array Slot), gOk D (mA o) (mH ca o (mP S [(54, u), (55, v)] [])) H → va_S (mA o) s.heap H locs → lv_has ls 3 [(0, .ref o), (1, .int (iI (d))), (2, .int (iI (k)))] → W p l e (mR lv) s m args below meth c H locs 0 0 Q (F0 m 5 ls []) := by
    intro N
    induction N with
    | zero => intro d k u v hk he hN; exact absurd hN (Nat.not_lt_zero _)
    | succ N ih =>
      intro d k u v hk he hN H locs ls hG hS hl
      refine lv_iload_n X.1 X.2.1 dX1_lastReady_5 rfl (lv_at hl 2 rfl) ?_
      refine lv_aload_n X.1 X.2.1 dX1_lastReady_6 rfl (lv_at hl 0 rfl) ?_
      refine mg_items X hK hG (S.1 40) rfl dX1_lastReady_7 ?_
      refine i_icmp_ge X 33 dX1_lastReady_10 (by decide) (by first | omega | (split <;> omega)) (by first | omega | (split <;> omega)) (fun c10 => ?_) (fun c10 => ?_)
      · refine lv_iload_n X.1 X.2.1 dX1_lastReady_33 rfl (lv_at hl 1 rfl) ?_
        refine ret _ _ _ _ _ _ ?_ (rfl) hG hS dX1_lastReady_34
        refine ⟨?_, _, _, rfl⟩
        rw [← he, show (S.1 40 - k).toNat = 0 by omega]
        rfl
      · rw [show (S.1 40 - k).toNat = (S.1 40 - (k + 1)).toNat + 1 by omega, spLast_s] at he
        refine lv_aload_n X.1 X.2.1 dX1_lastReady_13 rfl (lv_at hl 0 rfl) ?_
        refine lv_iload_n X.1 X.2.1 dX1_lastReady_14 rfl (lv_at hl 2 rfl) ?_
        refine m_callVi (rest := []) (n := 1) X hK hG hS (fun _ h => h) (mm_isReady l D ca o (lv - 1) (mP S [(54, u), (55, v)] []) k (by omega) hT hP (show 0 ≤ k by omega) (show k < S.1 40 by omega)) (lw_V q1564 q1566 qs47 q70 q1567) (by decide +kernel) rfl ⟨by show (lv - 1) + 1 ≤ lv; omega, by show 8 + (3 + 11) + 40 * (lv - 1) ≤ 40 * lv; omega⟩ ⟨Nat.le_refl _, Nat.le_refl _⟩ hl.1 rfl (Nat.le_of_ble_eq_true rfl) dX1_lastReady_15 (fun z1 S1 H locs hp1 hG hS _ _ => ?_)
        obtain ⟨hz1, u1, v1, rfl⟩ := hp1
        rw [mP_mP (l' := [(54, u1), (55, v1)]) (sc' := []) rfl rfl] at hG
        rw [show spReady (mP S [(54, u), (55, v)] []) k = spReady S k by rw [← spReady_tv, tv_mP, spReady_tv]] at hz1
        rw [hz1]
        have K26 : ∀ (d2 : Int), (d2 = if spReady S k = true then k else d) → ∀ (H : Heap) (locs : List Loc) (ls : Array Slot), gOk D (mA o) (mH ca o (mP S [(54, u1), (55, v1)] [])) H → va_S (mA o) s.heap H locs → lv_has ls 3 [(0, .ref o), (1, .int (iI (d))), (2, .int (iI (k)))] → W p l e (mR lv) s m args below meth c H locs 0 0 Q (F0 m 26 ls [.int (iI (d2))]) := by
          intro d2 hd2 H locs ls hG hS hl
          refine lv_istore_n (lv' := [(1, .int (iI (d2))), (0, .ref o), (2, .int (iI (k)))]) X.1 X.2.1 dX1_lastReady_26 rfl hl (by decide) rfl (fun ls hl => ?_)
          refine i_inc (lv' := [(2, .int (iI (k + 1))), (1, .int (iI (d2))), (0, .ref o)]) X dX1_lastReady_27 hl (k := 2) rfl (by decide) rfl (fun ls hl => ?_)
          refine lv_goto (tgt := 5) X.1 X.2.1 dX1_lastReady_30 (by decide) ?_
          exact ih d2 (k + 1) u1 v1 (by omega) (by rw [hd2]; exact he) (by omega) H locs ls hG hS (lv_sub hl [2, 1, 0] rfl)
        refine i_if_eq X 25 dX1_lastReady_18 (by decide) (bI_iR _) (fun c18 => ?_) (fun c18 => ?_)
        · have c18 := bI_eq0.mp c18
          refine lv_iload_n X.1 X.2.1 dX1_lastReady_25 rfl (lv_at hl 1 rfl) ?_
          exact K26 d (by rw [c18]; first | rfl | (rw [if_neg (by decide)])) H locs ls hG hS (lv_sub hl [0, 1, 2] rfl)
        · have c18 := bI_ne0.mp c18
          refine lv_iload_n X.1 X.2.1 dX1_lastReady_21 rfl (lv_at hl 2 rfl) ?_
          refine lv_goto (tgt := 26) X.1 X.2.1 dX1_lastReady_22 (by decide) ?_
          exact K26 k (by rw [c18]; first | rfl | (rw [if_neg (by decide)])) H locs ls hG hS (lv_sub hl [0, 1, 2] rfl)
  exact L5 _ (-9) 0 (S.2 54) (S.2 55) (by omega) (by rw [Int.sub_zero]) (Nat.lt_succ_self _) H locs ls hG hS (lv_sub hl [2, 1, 0] rfl)

set_option maxHeartbeats 4000000 in
theorem mm_call (l : Launch) (D : va_G) (ca : Nat → ClassId) (o lv : Nat) (S : MSt) (i : Int) (hlv : 5 ≤ lv) (hi : iR i) (hth : S.1 27 = 0 ∨ S.1 27 = 1) (hT : S.1 27 = 1 → MT S ∧ MP S) (hnn : 0 ≤ S.1 40 ∧ S.1 40 ≤ 500) : mCi l yX1_call cX1_call 2 .int D ca o lv [.ref o, .int (iI (i))] S (fun r S' => r = (if S.1 27 = 0 then -3 else if 0 ≤ i ∧ i < S.1 40 then (if spReady S i = true then 2 else bI (spCall S i)) else -1) ∧ ∃ u v : Int → Int, S' = mP S [(54, u), (55, v)] []) := by
  refine mCi_of (by decide +kernel) rfl (Nat.le_of_ble_eq_true rfl) ?_
  intro p e s m args below meth c Q X hK ret H locs ls hG hS hl
  have hl : lv_has ls 2 [(0, .ref o), (1, .int (iI (i)))] := hl
  refine lv_aload_n X.1 X.2.1 dX1_call_0 rfl (lv_at hl 0 rfl) ?_
  refine mg_isThere X hK hG (S.1 27) rfl dX1_call_1 ?_
  refine i_if_ne X 10 dX1_call_4 (by decide) (by first | omega | (split <;> omega)) (fun c4 => ?_) (fun c4 => ?_)
  · refine lv_aload_n X.1 X.2.1 dX1_call_10 rfl (lv_at hl 0 rfl) ?_
    refine lv_iload_n X.1 X.2.1 dX1_call_11 rfl (lv_at hl 1 rfl) ?_
    refine m_callVp (rest := []) (n := 1) X hK hG hS (fun _ h => h) (mm_isItem l D ca o (lv - 1) S i (by omega) (by omega) (by omega)) (lw_V q1532 q1534 qs42 q70 q1535) (by decide +kernel) rfl ⟨by show (lv - 1) + 1 ≤ lv; omega, by show 8 + (2 + 11) + 40 * (lv - 1) ≤ 40 * lv; omega⟩ ⟨Nat.le_refl _, Nat.le_refl _⟩ hl.1 rfl (Nat.le_of_ble_eq_true rfl) dX1_call_12 (fun H locs hG hS _ _ => ?_)
    refine i_if_ne X 20 dX1_call_15 (by decide) (bI_iR _) (fun c15 => ?_) (fun c15 => ?_)
    · have c15 := bI_ne0.mp c15
      have c15 : 0 ≤ i ∧ i < S.1 40 := by simpa using c15
      obtain ⟨hT, hP⟩ := hT (by omega)
      have hm := hP.1
      have hwd : ∀ i, 0 ≤ i → i < S.1 29 → lR (S.2 30 i) := fun j a b => by have := (hP.2 j a b).2.2.2.2.2.2.1; omega
      refine lv_aload_n X.1 X.2.1 dX1_call_20 rfl (lv_at hl 0 rfl) ?_
      refine lv_iload_n X.1 X.2.1 dX1_call_21 rfl (lv_at hl 1 rfl) ?_
      refine m_callVi (rest := []) (n := 1) X hK hG hS (fun _ h => h) (mm_isReady l D ca o (lv - 1) S i (by omega) hT hP (show 0 ≤ i by omega) (show i < S.1 40 by omega)) (lw_V q1564 q1566 qs47 q70 q1567) (by decide +kernel) rfl ⟨by show (lv - 1) + 1 ≤ lv; omega, by show 8 + (3 + 11) + 40 * (lv - 1) ≤ 40 * lv; omega⟩ ⟨Nat.le_refl _, Nat.le_refl _⟩ hl.1 rfl (Nat.le_of_ble_eq_true rfl) dX1_call_22 (fun z2 S2 H locs hp2 hG hS _ _ => ?_)
      obtain ⟨hz2, u2, v2, rfl⟩ := hp2
      rw [hz2]
      refine i_if_eq X 32 dX1_call_25 (by decide) (bI_iR _) (fun c25 => ?_) (fun c25 => ?_)
      · have c25 := bI_eq0.mp c25
        refine lv_aload_n X.1 X.2.1 dX1_call_32 rfl (lv_at hl 0 rfl) ?_
        refine lv_iload_n X.1 X.2.1 dX1_call_33 rfl (lv_at hl 1 rfl) ?_
        refine m_callVp (rest := []) (n := 1) X hK hG hS (fun _ h => h) (mm_isCall l D ca o (lv - 1) (mP S [(54, u2), (55, v2)] []) i (by omega) hT (show 0 ≤ i by omega) (show i < S.1 40 by omega) hm hwd) (lw_V q1568 q1570 qs48 q70 q1571) (by decide +kernel) rfl ⟨by show (lv - 1) + 1 ≤ lv; omega, by show 8 + (2 + 11) + 40 * (lv - 1) ≤ 40 * lv; omega⟩ ⟨Nat.le_refl _, Nat.le_refl _⟩ hl.1 rfl (Nat.le_of_ble_eq_true rfl) dX1_call_34 (fun H locs hG hS _ _ => ?_)
        refine i_if_eq X 44 dX1_call_37 (by decide) (bI_iR _) (fun c37 => ?_) (fun c37 => ?_)
        · have c37 := bI_eq0.mp c37
          refine lv_iconst (v := iI (0)) X.1 X.2.1 dX1_call_44 rfl ?_
          refine ret _ _ _ _ _ _ ?_ (rfl) hG hS dX1_call_45
          refine ⟨?_, _, _, rfl⟩
          rw [if_neg c4, if_pos c15]
          first | (rw [if_pos c25]) | (rw [if_neg (by rw [c25]; decide)]; rw [← spCall_tv, tv_mP, spCall_tv] at c37; rw [c37]; rfl)
        · have c37 := bI_ne0.mp c37
          refine lv_iconst (v := iI (1)) X.1 X.2.1 dX1_call_40 rfl ?_
          refine lv_goto (tgt := 45) X.1 X.2.1 dX1_call_41 (by decide) ?_
          refine ret _ _ _ _ _ _ ?_ (rfl) hG hS dX1_call_45
          refine ⟨?_, _, _, rfl⟩
          rw [if_neg c4, if_pos c15]
          first | (rw [if_pos c25]) | (rw [if_neg (by rw [c25]; decide)]; rw [← spCall_tv, tv_mP, spCall_tv] at c37; rw [c37]; rfl)
      · have c25 := bI_ne0.mp c25
        refine lv_iconst (v := iI (2)) X.1 X.2.1 dX1_call_28 rfl ?_
        refine lv_goto (tgt := 45) X.1 X.2.1 dX1_call_29 (by decide) ?_
        refine ret _ _ _ _ _ _ ?_ (rfl) hG hS dX1_call_45
        refine ⟨?_, _, _, rfl⟩
        rw [if_neg c4, if_pos c15]
        first | (rw [if_pos c25]) | (rw [if_neg (by rw [c25]; decide)]; rw [← spCall_tv, tv_mP, spCall_tv] at c37; rw [c37]; rfl)
    · have c15 := bI_eq0.mp c15
      refine lv_iconst (v := iI (-1)) X.1 X.2.1 dX1_call_18 rfl ?_
      refine ret _ _ _ _ _ _ ?_ (rfl) hG hS dX1_call_19
      refine ⟨?_, _, _, mP_self2 S⟩
      rw [if_neg c4, if_neg (by intro hh; simp [hh.1, hh.2] at c15)]
  · refine lv_bipush (v := iI (-3)) X.1 X.2.1 dX1_call_7 (by decide) ?_
    refine ret _ _ _ _ _ _ ?_ (rfl) hG hS dX1_call_9
    exact ⟨by rw [if_pos c4], _, _, mP_self2 S⟩

set_option maxHeartbeats 4000000 in
theorem mm_ready (l : Launch) (D : va_G) (ca : Nat → ClassId) (o lv : Nat) (S : MSt) (n : Int) (hlv : 6 ≤ lv) (hi : iR n) (hth : S.1 27 = 0 ∨ S.1 27 = 1) (hT : S.1 27 = 1 → MT S ∧ MP S) : mCi l yX1_ready cX1_ready 2 .int D ca o lv [.ref o, .int (iI (n))] S (fun r S' => r = (if S.1 27 = 0 then -3 else if n < 0 then -9 else spNth S (S.1 40).toNat 0 n) ∧ ∃ u v : Int → Int, S' = mP S [(54, u), (55, v)] []) := by
  refine mCi_of (by decide +kernel) rfl (Nat.le_of_ble_eq_true rfl) ?_
  intro p e s m args below meth c Q X hK ret H locs ls hG hS hl
  have hl : lv_has ls 2 [(0, .ref o), (1, .int (iI (n)))] := hl
  refine lv_aload_n X.1 X.2.1 dX1_ready_0 rfl (lv_at hl 0 rfl) ?_
  refine mg_isThere X hK hG (S.1 27) rfl dX1_ready_1 ?_
  refine i_if_eq X 15 dX1_ready_4 (by decide) (by first | omega | (split <;> omega)) (fun c4 => ?_) (fun c4 => ?_)
  · refine lv_bipush (v := iI (-3)) X.1 X.2.1 dX1_ready_15 (by decide) ?_
    refine ret _ _ _ _ _ _ ?_ (rfl) hG hS dX1_ready_17
    first | exact ⟨(if_pos c4).symm, _, _, mP_self2 S⟩ | exact ⟨(if_neg c4).symm, _, _, rfl⟩
  · refine lv_aload_n X.1 X.2.1 dX1_ready_7 rfl (lv_at hl 0 rfl) ?_
    refine lv_iload_n X.1 X.2.1 dX1_ready_8 rfl (lv_at hl 1 rfl) ?_
    refine m_callVi (rest := []) (n := 1) X hK hG hS (fun _ h => h) (mm_readyAt l D ca o (lv - 1) S n (by omega) (hT (by omega)).1 (hT (by omega)).2 hi) (lw_V q1596 q1598 qs54 q70 q1599) (by decide +kernel) rfl ⟨by show (lv - 1) + 1 ≤ lv; omega, by show 8 + (4 + 11) + 40 * (lv - 1) ≤ 40 * lv; omega⟩ ⟨Nat.le_refl _, Nat.le_refl _⟩ hl.1 rfl (Nat.le_of_ble_eq_true rfl) dX1_ready_9 (fun z1 S1 H locs hp1 hG hS _ _ => ?_)
    obtain ⟨hz1, u1, v1, rfl⟩ := hp1
    rw [hz1]
    refine lv_goto (tgt := 17) X.1 X.2.1 dX1_ready_12 (by decide) ?_
    refine ret _ _ _ _ _ _ ?_ (rfl) hG hS dX1_ready_17
    first | exact ⟨(if_pos c4).symm, _, _, mP_self2 S⟩ | exact ⟨(if_neg c4).symm, _, _, rfl⟩

