/-! ===== calls; what fits ===== -/
set_option maxRecDepth 100000
section RUR
variable {p : Program} {l : Launch} {e : Env} {R : Room} {s : State} {m : MethodId} {args : Array Value} {below : List Frame} {meth : Method} {c : Code} {H : Heap} {locs : List Loc} {cells slots : Nat} {Q : State → Prop}
variable {cc : ByteArray} {pc nL index n : Nat} {ls : Array Slot} {rest : List Value} {G : gEnv} {A : Nat → Prop} {h : gH} {own : String}
variable {a pa ta : Nat} {raw w : Int} {tg : gT}
theorem ru_word (X : CallFix p m c cc nL s args lw_all own) (hW : gWd G A s) (hG : gOn G.1 A h n H) (hI : h a = some (tg, ruE raw w pa ta)) (hlink : (Cond.fieldLink own index "MacroGlass$Rule" "word" "J") ∈ lw_all) (hdg : decode cc pc = .ok (.getfield index, 3))
    (kk : W p l e R s m args below meth c H locs cells slots Q (F0 m (pc + 3) ls (.long (lI (gLt w)) :: rest))) : W p l e R s m args below meth c H locs cells slots Q (F0 m pc ls (.ref a :: rest)) := by
  unfold ruE at hI
  by_cases h0 : raw = 0
  · rw [if_pos h0] at hI
    exact n_get (ci := 8) (ref := "MacroGlass$Rule") X in_X9 hW hG hI rfl 0 (by decide) hlink (fun _ h => h) rfl hdg kk
  · rw [if_neg h0] at hI
    exact n_get (ci := 9) (ref := "MacroGlass$Rule") X in_X10 hW hG hI rfl 0 (by decide) hlink (fun _ h => h) rfl hdg kk
theorem ru_patterns (X : CallFix p m c cc nL s args lw_all own) (hW : gWd G A s) (hG : gOn G.1 A h n H) (hI : h a = some (tg, ruE raw w pa ta)) (hlink : (Cond.fieldLink own index "MacroGlass$Rule" "patterns" "LMacroGlass$Parts;") ∈ lw_all) (hdg : decode cc pc = .ok (.getfield index, 3))
    (kk : W p l e R s m args below meth c H locs cells slots Q (F0 m (pc + 3) ls (.ref pa :: rest))) : W p l e R s m args below meth c H locs cells slots Q (F0 m pc ls (.ref a :: rest)) := by
  unfold ruE at hI
  by_cases h0 : raw = 0
  · rw [if_pos h0] at hI
    exact n_get (ci := 8) (ref := "MacroGlass$Rule") X in_X9 hW hG hI rfl 1 (by decide) hlink (fun _ h => h) rfl hdg kk
  · rw [if_neg h0] at hI
    exact n_get (ci := 9) (ref := "MacroGlass$Rule") X in_X10 hW hG hI rfl 1 (by decide) hlink (fun _ h => h) rfl hdg kk
theorem ru_template (X : CallFix p m c cc nL s args lw_all own) (hW : gWd G A s) (hG : gOn G.1 A h n H) (hI : h a = some (tg, ruE raw w pa ta)) (hlink : (Cond.fieldLink own index "MacroGlass$Rule" "template" "LMacroGlass$Part;") ∈ lw_all) (hdg : decode cc pc = .ok (.getfield index, 3))
    (kk : W p l e R s m args below meth c H locs cells slots Q (F0 m (pc + 3) ls (.ref ta :: rest))) : W p l e R s m args below meth c H locs cells slots Q (F0 m pc ls (.ref a :: rest)) := by
  unfold ruE at hI
  by_cases h0 : raw = 0
  · rw [if_pos h0] at hI
    exact n_get (ci := 8) (ref := "MacroGlass$Rule") X in_X9 hW hG hI rfl 2 (by decide) hlink (fun _ h => h) rfl hdg kk
  · rw [if_neg h0] at hI
    exact n_get (ci := 9) (ref := "MacroGlass$Rule") X in_X10 hW hG hI rfl 2 (by decide) hlink (fun _ h => h) rfl hdg kk
theorem ru_cast (X : CallFix p m c cc nL s args lw_all own) (hW : gWd G A s) (hG : gOn G.1 A h n H) (hI : h a = some (tg, ruE raw w pa ta)) (hlink : Cond.classLink own index "MacroGlass$Rule" ∈ lw_all) (hdg : decode cc pc = .ok (.checkcast index, 3))
    (kk : W p l e R s m args below meth c H locs cells slots Q (F0 m (pc + 3) ls (.ref a :: rest))) : W p l e R s m args below meth c H locs cells slots Q (F0 m pc ls (.ref a :: rest)) := by
  unfold ruE at hI
  by_cases h0 : raw = 0
  · rw [if_pos h0] at hI
    exact n_cast (ci := 8) X hW hG hI rfl hlink (Or.inr rfl) hdg kk
  · rw [if_neg h0] at hI
    exact n_cast (ci := 9) X hW hG hI rfl hlink (Or.inl (hW.N q1685 rfl)) hdg kk
theorem ru_obj (hI : h a = some (tg, ruE raw w pa ta)) : gObj h a := ⟨tg, _, _, hI⟩
end RUR
section PAR
variable {p : Program} {l : Launch} {e : Env} {R : Room} {s : State} {m : MethodId} {args : Array Value} {below : List Frame} {meth : Method} {c : Code} {H : Heap} {locs : List Loc} {cells slots : Nat} {Q : State → Prop}
variable {cc : ByteArray} {pc nL index n : Nat} {ls : Array Slot} {rest : List Value} {G : gEnv} {A : Nat → Prop} {h : gH} {own : String}
variable {P : FF} {ad : Int → Nat} {q pl : Int} {tg : gT}
theorem pa_cast (X : CallFix p m c cc nL s args lw_all own) (hW : gWd G A s) (hG : gOn G.1 A h n H) (hI : h (ad q) = some (tg, paE P q pl (ad q))) (hlink : Cond.classLink own index "MacroGlass$Part" ∈ lw_all) (hdg : decode cc pc = .ok (.checkcast index, 3))
    (kk : W p l e R s m args below meth c H locs cells slots Q (F0 m (pc + 3) ls (.ref (ad q) :: rest))) : W p l e R s m args below meth c H locs cells slots Q (F0 m pc ls (.ref (ad q) :: rest)) := by
  unfold paE at hI
  by_cases h0 : P 0 q = 0
  · rw [if_pos h0] at hI
    exact n_cast (ci := 5) X hW hG hI rfl hlink (Or.inl (hW.N q1686 rfl)) hdg kk
  · rw [if_neg h0] at hI
    by_cases h2 : P 0 q = 2
    · rw [if_pos h2] at hI
      exact n_cast (ci := 4) X hW hG hI rfl hlink (Or.inl (hW.N q1687 rfl)) hdg kk
    · rw [if_neg h2] at hI
      by_cases h8 : P 0 q = 8
      · rw [if_pos h8] at hI
        exact n_cast (ci := 7) X hW hG hI rfl hlink (Or.inl (hW.N q1688 rfl)) hdg kk
      · rw [if_neg h8] at hI
        exact n_cast (ci := 6) X hW hG hI rfl hlink (Or.inl (hW.N q1689 rfl)) hdg kk
theorem paE0 (h : P 0 q = 0) (a : Nat) : paE P q pl a = .inr (5, [.int (iI pl), .int (iI (P 1 q))]) := if_pos h
theorem paE2 (h : P 0 q = 2) (a : Nat) : paE P q pl a = .inr (4, [.int (iI pl), .ref (a + 1)]) := by unfold paE; rw [if_neg (by omega), if_pos h]
theorem paE8 (h : P 0 q = 8) (a : Nat) : paE P q pl a = .inr (7, [.int (iI pl), .long (lI (gLt (P 1 q))), .int (iI 0)]) := by unfold paE; rw [if_neg (by omega), if_neg (by omega), if_pos h]
theorem paE6 (h : P 0 q = 6) (a : Nat) : paE P q pl a = .inr (6, [.int (iI pl), .long (lI (gLt (P 1 q))), .int (iI 0)]) := by unfold paE; rw [if_neg (by omega), if_neg (by omega), if_neg (by omega), decide_eq_false (by omega)]; rfl
theorem paE7 (h : P 0 q = 7) (a : Nat) : paE P q pl a = .inr (6, [.int (iI pl), .long (lI (gLt (P 1 q))), .int (iI 1)]) := by unfold paE; rw [if_neg (by omega), if_neg (by omega), if_neg (by omega), decide_eq_true h]; rfl
end PAR
set_option maxHeartbeats 4000000 in
/-- whether a list is a call -/
theorem gl_isCall (l : Launch) (G : gEnv) (A : Nat → Prop) (lv : Nat) (h : gH) (n : Nat) (S : MSt) (ad : Int → Nat) (i : Int) (rl : Nat) (ru : Nat → Nat) (ap : Int → Nat) (hlv : 6 ≤ lv) (hV : LV G h S ad) (h0 : 0 ≤ i) (hn : i < S.1 40) (hw : 2 ≤ S.2 41 i) (hR : RUL G h S rl ru ap) : gC l yX12_isCall cX12_isCall 4 (some .boolean) G A lv 0 0 [.ref (ad i), .ref rl] h n (gPure (some (.int (iI (bI (spCall S i))))) h n) := by
  refine gC_ofI RX12 (by decide +kernel) rfl (Nat.le_of_ble_eq_true rfl) ?_
  intro p e s m args below meth c Q X hW ret H locs ls hG hS hl
  have hl : lv_has ls 4 [(0, .ref (ad i)), (1, .ref rl)] := hl
  obtain ⟨hI, hA⟩ := hV.lst h0 hn hw
  obtain ⟨tgA, moA, dA, hLA, hAr⟩ := id hA
  have hRA := hR.2.1
  obtain ⟨tgR, moR, dR, hLR, hRr⟩ := id hRA
  have hT := hV.1.1
  have hp := hT.p h0 hn
  have hnn := hV.1.n
  have hmm := hR.1.1
  have hrl : ((((List.range (S.1 29).toNat).map ru).length : Nat) : Int) = S.1 29 := by simp; omega
  have hwi := hT.w h0 hn
  have hlen : ((chs (rwS S) ad i).length : Int) = S.2 47 i := by rw [chs_len]; show ((S.2 47 i).toNat : Int) = _; omega
  refine lv_aload_n X.1 X.2.1 dX12_isCall_0 rfl (lv_at hl 0 rfl) ?_
  refine n_get (ci := 10) X in_X12 hW hG hI rfl 5 (by decide) q597 (fun _ h => h) rfl dX12_isCall_1 ?_
  refine lv_iconst (v := iI (3)) X.1 X.2.1 dX12_isCall_4 rfl ?_
  refine i_icmp_ne X 39 dX12_isCall_5 (by decide) (by first | omega | exact bI_iR _ | exact hrw | exact hrk | exact hwi9) (by first | omega | exact bI_iR _ | exact hrw | exact hrk | exact hwi9) (fun c5 => ?_) (fun c5 => ?_)
  · refine lv_iconst (v := iI (0)) X.1 X.2.1 dX12_isCall_39 rfl ?_
    refine ret _ _ _ _ _ _ _ _ _ ?_ (nar_b (by first | omega | exact bI_iR _ | exact hrw | exact hrk | exact hwi9)) (by show 0 ≤ 0; first | omega | exact bI_iR _ | exact hrw | exact hrk | exact hwi9) (by show 0 ≤ 0; first | omega | exact bI_iR _ | exact hrw | exact hrk | exact hwi9) hG hS dX12_isCall_40
    exact ⟨by congr 3; first | (apply bI_f; unfold spCall; rw [decide_eq_false (by omega), Bool.false_and, Bool.false_and]) | (apply bI_f; unfold spCall; rw [decide_eq_false hrd, Bool.and_false]), rfl, rfl⟩
  · have hna := hT.named h0 hn (by omega)
    have hkd := hT.kid h0 hn hw (j := 0) (by omega)
    have ec0 : chh (S.2 46) i 0 = i + 1 := rfl
    have hN1 := hV.nam (i := i + 1) (by omega) (by omega) hna.2
    have hk1 := (hV.2.2.2 (i + 1) (by omega) (by omega)).1 hna.2
    have hrw : lR (gLt (S.2 42 (i + 1))) := by have := gLt_rng hk1; omega
    refine lv_aload_n X.1 X.2.1 dX12_isCall_8 rfl (lv_at hl 0 rfl) ?_
    refine n_get (ci := 10) X in_X12 hW hG hI rfl 4 (by decide) q592 (fun _ h => h) rfl dX12_isCall_9 ?_
    refine lv_iconst (v := iI (0)) X.1 X.2.1 dX12_isCall_12 rfl ?_
    refine g_callV (ci := 17) (rest := []) (k := 1) X hW hG hS hLA rfl (al_get l G A (lv - 1) h n (ad i + 1) (chs (rwS S) ad i) (S.2 47 i).toNat 0 (ad (i + 1)) (by omega) hA (by omega) (hV.part (j := 0) (by omega))) (lw_V q690 q691 q692 q69 q693) (by decide +kernel) rfl ⟨by show (lv - 1) + 1 ≤ lv; omega, by show 8 + (2 + 11) + 40 * (lv - 1) ≤ 40 * lv; omega⟩ ⟨by show 0 + 0 ≤ 0; first | omega | exact bI_iR _ | exact hrw | exact hrk | exact hwi9, by show 0 + 0 ≤ 0; first | omega | exact bI_iR _ | exact hrw | exact hrk | exact hwi9⟩ hl.1 rfl (Nat.le_of_ble_eq_true rfl) dX12_isCall_13 (g_pk (fun H locs hG hS => ?_))
    show W p l e (gR lv 0 0) s m args below meth c H locs 0 0 Q (F0 m 16 ls [.ref (ad (i + 1))])
    refine n_instY (ci := 12) X hW hG hN1 rfl q702 (Or.inr rfl) dX12_isCall_16 ?_
    refine i_if_eq X 39 dX12_isCall_19 (by decide) (by first | omega | exact bI_iR _ | exact hrw | exact hrk | exact hwi9) (fun c19 => ?_) (fun c19 => ?_)
    · refine lv_iconst (v := iI (0)) X.1 X.2.1 dX12_isCall_39 rfl ?_
      refine ret _ _ _ _ _ _ _ _ _ ?_ (nar_b (by first | omega | exact bI_iR _ | exact hrw | exact hrk | exact hwi9)) (by show 0 ≤ 0; first | omega | exact bI_iR _ | exact hrw | exact hrk | exact hwi9) (by show 0 ≤ 0; first | omega | exact bI_iR _ | exact hrw | exact hrk | exact hwi9) hG hS dX12_isCall_40
      exact ⟨by congr 3; first | (apply bI_f; unfold spCall; rw [decide_eq_false (by omega), Bool.false_and, Bool.false_and]) | (apply bI_f; unfold spCall; rw [decide_eq_false hrd, Bool.and_false]), rfl, rfl⟩
    · refine lv_aload_n X.1 X.2.1 dX12_isCall_22 rfl (lv_at hl 0 rfl) ?_
      refine n_get (ci := 10) X in_X12 hW hG hI rfl 4 (by decide) q592 (fun _ h => h) rfl dX12_isCall_23 ?_
      refine lv_iconst (v := iI (0)) X.1 X.2.1 dX12_isCall_26 rfl ?_
      refine g_callV (ci := 17) (rest := []) (k := 1) X hW hG hS hLA rfl (al_get l G A (lv - 1) h n (ad i + 1) (chs (rwS S) ad i) (S.2 47 i).toNat 0 (ad (i + 1)) (by omega) hA (by omega) (hV.part (j := 0) (by omega))) (lw_V q690 q691 q692 q69 q693) (by decide +kernel) rfl ⟨by show (lv - 1) + 1 ≤ lv; omega, by show 8 + (2 + 11) + 40 * (lv - 1) ≤ 40 * lv; omega⟩ ⟨by show 0 + 0 ≤ 0; first | omega | exact bI_iR _ | exact hrw | exact hrk | exact hwi9, by show 0 + 0 ≤ 0; first | omega | exact bI_iR _ | exact hrw | exact hrk | exact hwi9⟩ hl.1 rfl (Nat.le_of_ble_eq_true rfl) dX12_isCall_27 (g_pk (fun H locs hG hS => ?_))
      show W p l e (gR lv 0 0) s m args below meth c H locs 0 0 Q (F0 m 30 ls [.ref (ad (i + 1))])
      refine n_cast (ci := 12) X hW hG hN1 rfl q778 (Or.inl (hW.N q1683 rfl)) dX12_isCall_30 ?_
      refine g_callX (rest := []) (k := 0) X hW hG hS (vi_reads l G A (lv - 1) h n S ad (i + 1) (by omega) hV (by omega) (by omega)) q881 q843 (gDecl_code X q842 q861) (by decide +kernel) rfl ⟨by show (lv - 1) + 1 ≤ lv; omega, by show 40 + 40 * (lv - 1) ≤ 40 * lv; omega⟩ ⟨by show 0 + 0 ≤ 0; first | omega | exact bI_iR _ | exact hrw | exact hrk | exact hwi9, by show 0 + 0 ≤ 0; first | omega | exact bI_iR _ | exact hrw | exact hrk | exact hwi9⟩ hl.1 rfl (Nat.le_of_ble_eq_true rfl) dX12_isCall_33 (g_pk (fun H locs hG hS => ?_))
      by_cases hrd : spReads S (i + 1) = -9
      · rw [if_pos hrd]
        show W p l e (gR lv 0 0) s m args below meth c H locs 0 0 Q (F0 m 36 ls [.null])
        refine lv_ifnullN (tgt := 41) X.1 X.2.1 dX12_isCall_36 (by decide) ?_
        refine lv_iconst (v := iI (0)) X.1 X.2.1 dX12_isCall_41 rfl ?_
        refine lv_istore_n (lv' := [(2, .int (iI (0))), (0, .ref (ad i)), (1, .ref rl)]) X.1 X.2.1 dX12_isCall_42 rfl hl (by decide) rfl (fun ls hl => ?_)
        refine lv_iconst (v := iI (0)) X.1 X.2.1 dX12_isCall_43 rfl ?_
        refine lv_istore_n (lv' := [(3, .int (iI (0))), (2, .int (iI (0))), (0, .ref (ad i)), (1, .ref rl)]) X.1 X.2.1 dX12_isCall_44 rfl hl (by decide) rfl (fun ls hl => ?_)
        have L45 : ∀ (N45 : Nat) (z : Int) (k : Nat), ((k : Int) ≤ S.1 29) → (z = bI (spWord S (S.2 42 (i + 1)) k)) → (S.1 29).toNat - k < N45 → ∀ (H : Heap) (locs : List Loc) (ls : Array Slot), gOn G.1 A h n H → va_S A s.heap H locs → lv_has ls 4 [(0, .ref (ad i)), (1, .ref rl), (2, .int (iI (z))), (3, .int (iI ((k : Int))))] → W p l e (gR lv 0 0) s m args below meth c H locs 0 0 Q (F0 m 45 ls []) := by
          intro N45
          induction N45 with
          | zero => intro z k hk hz hN; exact absurd hN (Nat.not_lt_zero _)
          | succ N45 ih45 =>
            intro z k hk hz hN45 H locs ls hG hS hl
            have hwi9 : iR z := by rw [hz]; exact bI_iR _
            have hz01 : z = 0 ∨ z = 1 := by rw [hz]; exact bI_01 _
            refine lv_iload_n X.1 X.2.1 dX12_isCall_45 rfl (lv_at hl 3 rfl) ?_
            refine lv_aload_n X.1 X.2.1 dX12_isCall_46 rfl (lv_at hl 1 rfl) ?_
            refine g_callV (ci := 17) (rest := [.int (iI ((k : Int)))]) (k := 0) X hW hG hS hLR rfl (al_size l G A (lv - 1) h n rl ((List.range (S.1 29).toNat).map ru) (S.1 29).toNat hRA) (lw_V q689 q323 q324 q69 q325) (by decide +kernel) rfl ⟨by show (lv - 1) + 1 ≤ lv; omega, by show 8 + (1 + 11) + 40 * (lv - 1) ≤ 40 * lv; omega⟩ ⟨by show 0 + 0 ≤ 0; first | omega | exact bI_iR _ | exact hrw | exact hrk | exact hwi9, by show 0 + 0 ≤ 0; first | omega | exact bI_iR _ | exact hrw | exact hrk | exact hwi9⟩ hl.1 rfl (Nat.le_of_ble_eq_true rfl) dX12_isCall_47 (g_pk (fun H locs hG hS => ?_))
            show W p l e (gR lv 0 0) s m args below meth c H locs 0 0 Q (F0 m 50 ls [.int (iI ((((List.range (S.1 29).toNat).map ru).length : Int))), .int (iI ((k : Int)))])
            refine i_icmp_ge X 98 dX12_isCall_50 (by decide) (by first | omega | exact bI_iR _ | exact hrw | exact hrk | exact hwi9) (by first | omega | exact bI_iR _ | exact hrw | exact hrk | exact hwi9) (fun c50 => ?_) (fun c50 => ?_)
            · refine lv_iload_n X.1 X.2.1 dX12_isCall_98 rfl (lv_at hl 2 rfl) ?_
              refine ret _ _ _ _ _ _ _ _ _ ?_ (nar_b (by first | omega | exact bI_iR _ | exact hrw | exact hrk | exact hwi9)) (by show 0 ≤ 0; first | omega | exact bI_iR _ | exact hrw | exact hrk | exact hwi9) (by show 0 ≤ 0; first | omega | exact bI_iR _ | exact hrw | exact hrk | exact hwi9) hG hS dX12_isCall_99
              exact ⟨by rw [hz]; congr 3; unfold spCall; rw [decide_eq_true (by omega), decide_eq_true hrd, Bool.true_and, Bool.and_true, show k = (S.1 29).toNat by omega], rfl, rfl⟩
            · refine lv_iload_n X.1 X.2.1 dX12_isCall_53 rfl (lv_at hl 2 rfl) ?_
              refine i_if_ne X 86 dX12_isCall_54 (by decide) (by first | omega | exact bI_iR _ | exact hrw | exact hrk | exact hwi9) (fun c54 => ?_) (fun c54 => ?_)
              · refine lv_iconst (v := iI (1)) X.1 X.2.1 dX12_isCall_86 rfl ?_
                refine lv_goto (tgt := 91) X.1 X.2.1 dX12_isCall_87 (by decide) ?_
                refine lv_istore_n (lv' := [(2, .int (iI (1))), (0, .ref (ad i)), (1, .ref rl), (3, .int (iI ((k : Int))))]) X.1 X.2.1 dX12_isCall_91 rfl hl (by decide) rfl (fun ls hl => ?_)
                refine i_inc (lv' := [(3, .int (iI ((k : Int) + 1))), (2, .int (iI (1))), (0, .ref (ad i)), (1, .ref rl)]) X dX12_isCall_92 hl (k := 3) rfl (by decide) rfl (fun ls hl => ?_)
                refine lv_goto (tgt := 45) X.1 X.2.1 dX12_isCall_95 (by decide) ?_
                exact ih45 1 (k + 1) (by omega) (by show _ = bI (spWord S (S.2 42 (i + 1)) k || decide (S.2 30 k = S.2 42 (i + 1))); first | (apply bI_t; rw [Bool.or_eq_true]; first | (right; exact decide_eq_true ((gLt_inj hRk.2.1 hk1).mp c82)) | (left; rw [hz] at c54; exact bI_ne0.mp c54)) | (apply bI_f; rw [hz] at c54; rw [bI_eq0.mp c54, Bool.false_or]; exact decide_eq_false (fun q => c82 ((gLt_inj hRk.2.1 hk1).mpr q)))) (by omega) H locs ls hG hS (lv_sub hl [2, 3, 1, 0] rfl)
              · have hRk := hR.2.2 k (by omega)
                have hrk : lR (gLt (S.2 30 (k : Int))) := by have := gLt_rng hRk.2.1; omega
                refine lv_aload_n X.1 X.2.1 dX12_isCall_57 rfl (lv_at hl 1 rfl) ?_
                refine lv_iload_n X.1 X.2.1 dX12_isCall_58 rfl (lv_at hl 3 rfl) ?_
                refine g_callV (ci := 17) (rest := []) (k := 1) X hW hG hS hLR rfl (al_get l G A (lv - 1) h n rl ((List.range (S.1 29).toNat).map ru) (S.1 29).toNat (k : Int) (ru k) (by omega) hRA (by omega) (by rw [Int.toNat_natCast]; exact RUL.get (by omega))) (lw_V q690 q691 q692 q69 q693) (by decide +kernel) rfl ⟨by show (lv - 1) + 1 ≤ lv; omega, by show 8 + (2 + 11) + 40 * (lv - 1) ≤ 40 * lv; omega⟩ ⟨by show 0 + 0 ≤ 0; first | omega | exact bI_iR _ | exact hrw | exact hrk | exact hwi9, by show 0 + 0 ≤ 0; first | omega | exact bI_iR _ | exact hrw | exact hrk | exact hwi9⟩ hl.1 rfl (Nat.le_of_ble_eq_true rfl) dX12_isCall_59 (g_pk (fun H locs hG hS => ?_))
                show W p l e (gR lv 0 0) s m args below meth c H locs 0 0 Q (F0 m 62 ls [.ref (ru k)])
                refine ru_cast X hW hG hRk.1 q882 dX12_isCall_62 ?_
                refine ru_word X hW hG hRk.1 q563 dX12_isCall_65 ?_
                refine lv_aload_n X.1 X.2.1 dX12_isCall_68 rfl (lv_at hl 0 rfl) ?_
                refine n_get (ci := 10) X in_X12 hW hG hI rfl 4 (by decide) q592 (fun _ h => h) rfl dX12_isCall_69 ?_
                refine lv_iconst (v := iI (0)) X.1 X.2.1 dX12_isCall_72 rfl ?_
                refine g_callV (ci := 17) (rest := [.long (lI (gLt (S.2 30 (k : Int))))]) (k := 1) X hW hG hS hLA rfl (al_get l G A (lv - 1) h n (ad i + 1) (chs (rwS S) ad i) (S.2 47 i).toNat 0 (ad (i + 1)) (by omega) hA (by omega) (hV.part (j := 0) (by omega))) (lw_V q690 q691 q692 q69 q693) (by decide +kernel) rfl ⟨by show (lv - 1) + 1 ≤ lv; omega, by show 8 + (2 + 11) + 40 * (lv - 1) ≤ 40 * lv; omega⟩ ⟨by show 0 + 0 ≤ 0; first | omega | exact bI_iR _ | exact hrw | exact hrk | exact hwi9, by show 0 + 0 ≤ 0; first | omega | exact bI_iR _ | exact hrw | exact hrk | exact hwi9⟩ hl.1 rfl (Nat.le_of_ble_eq_true rfl) dX12_isCall_73 (g_pk (fun H locs hG hS => ?_))
                show W p l e (gR lv 0 0) s m args below meth c H locs 0 0 Q (F0 m 76 ls [.ref (ad (i + 1)), .long (lI (gLt (S.2 30 (k : Int))))])
                refine n_cast (ci := 12) X hW hG hN1 rfl q702 (Or.inr rfl) dX12_isCall_76 ?_
                refine n_getN (ci := 12) X in_X14 hW hG hN1 rfl 4 (by decide) q672 (fun _ h => h) rfl dX12_isCall_79 ?_
                refine i_lcmp_ne X 90 dX12_isCall_82 dX12_isCall_83 (by decide) (by first | omega | exact bI_iR _ | exact hrw | exact hrk | exact hwi9) (by first | omega | exact bI_iR _ | exact hrw | exact hrk | exact hwi9) (fun c82 => ?_) (fun c82 => ?_)
                · refine lv_iconst (v := iI (0)) X.1 X.2.1 dX12_isCall_90 rfl ?_
                  refine lv_istore_n (lv' := [(2, .int (iI (0))), (0, .ref (ad i)), (1, .ref rl), (3, .int (iI ((k : Int))))]) X.1 X.2.1 dX12_isCall_91 rfl hl (by decide) rfl (fun ls hl => ?_)
                  refine i_inc (lv' := [(3, .int (iI ((k : Int) + 1))), (2, .int (iI (0))), (0, .ref (ad i)), (1, .ref rl)]) X dX12_isCall_92 hl (k := 3) rfl (by decide) rfl (fun ls hl => ?_)
                  refine lv_goto (tgt := 45) X.1 X.2.1 dX12_isCall_95 (by decide) ?_
                  exact ih45 0 (k + 1) (by omega) (by show _ = bI (spWord S (S.2 42 (i + 1)) k || decide (S.2 30 k = S.2 42 (i + 1))); first | (apply bI_t; rw [Bool.or_eq_true]; first | (right; exact decide_eq_true ((gLt_inj hRk.2.1 hk1).mp c82)) | (left; rw [hz] at c54; exact bI_ne0.mp c54)) | (apply bI_f; rw [hz] at c54; rw [bI_eq0.mp c54, Bool.false_or]; exact decide_eq_false (fun q => c82 ((gLt_inj hRk.2.1 hk1).mpr q)))) (by omega) H locs ls hG hS (lv_sub hl [2, 3, 1, 0] rfl)
                · refine lv_iconst (v := iI (1)) X.1 X.2.1 dX12_isCall_86 rfl ?_
                  refine lv_goto (tgt := 91) X.1 X.2.1 dX12_isCall_87 (by decide) ?_
                  refine lv_istore_n (lv' := [(2, .int (iI (1))), (0, .ref (ad i)), (1, .ref rl), (3, .int (iI ((k : Int))))]) X.1 X.2.1 dX12_isCall_91 rfl hl (by decide) rfl (fun ls hl => ?_)
                  refine i_inc (lv' := [(3, .int (iI ((k : Int) + 1))), (2, .int (iI (1))), (0, .ref (ad i)), (1, .ref rl)]) X dX12_isCall_92 hl (k := 3) rfl (by decide) rfl (fun ls hl => ?_)
                  refine lv_goto (tgt := 45) X.1 X.2.1 dX12_isCall_95 (by decide) ?_
                  exact ih45 1 (k + 1) (by omega) (by show _ = bI (spWord S (S.2 42 (i + 1)) k || decide (S.2 30 k = S.2 42 (i + 1))); first | (apply bI_t; rw [Bool.or_eq_true]; first | (right; exact decide_eq_true ((gLt_inj hRk.2.1 hk1).mp c82)) | (left; rw [hz] at c54; exact bI_ne0.mp c54)) | (apply bI_f; rw [hz] at c54; rw [bI_eq0.mp c54, Bool.false_or]; exact decide_eq_false (fun q => c82 ((gLt_inj hRk.2.1 hk1).mpr q)))) (by omega) H locs ls hG hS (lv_sub hl [2, 3, 1, 0] rfl)
        exact L45 _ 0 0 (by omega) rfl (Nat.lt_succ_self _) H locs ls hG hS (lv_sub hl [2, 3, 1, 0] rfl)
      · rw [if_neg hrd]
        show W p l e (gR lv 0 0) s m args below meth c H locs 0 0 Q (F0 m 36 ls [.ref (ad (spReads S (i + 1)))])
        refine lv_ifnull X.1 X.2.1 dX12_isCall_36 ?_
        refine lv_iconst (v := iI (0)) X.1 X.2.1 dX12_isCall_39 rfl ?_
        refine ret _ _ _ _ _ _ _ _ _ ?_ (nar_b (by first | omega | exact bI_iR _ | exact hrw | exact hrk | exact hwi9)) (by show 0 ≤ 0; first | omega | exact bI_iR _ | exact hrw | exact hrk | exact hwi9) (by show 0 ≤ 0; first | omega | exact bI_iR _ | exact hrw | exact hrk | exact hwi9) hG hS dX12_isCall_40
        exact ⟨by congr 3; first | (apply bI_f; unfold spCall; rw [decide_eq_false (by omega), Bool.false_and, Bool.false_and]) | (apply bI_f; unfold spCall; rw [decide_eq_false hrd, Bool.and_false]), rfl, rfl⟩

theorem vi_isCall (l : Launch) (G : gEnv) (A : Nat → Prop) (lv : Nat) (h : gH) (n : Nat) (S : MSt) (ad : Int → Nat) (i : Int) (rl : Nat) (ru : Nat → Nat) (ap : Int → Nat) (hlv : 6 ≤ lv) (hV : LV G h S ad) (h0 : 0 ≤ i) (hn : i < S.1 40) (hR : RUL G h S rl ru ap) : gVC l yX11_isCall G A lv 0 0 (ad i) [.ref rl] h n (gPure (some (.int (iI (bI (spCall S i))))) h n) := by
  have hw := hV.1.1.w h0 hn
  have hc : S.2 41 i ≠ 3 → spCall S i = false := fun z => by unfold spCall; rw [decide_eq_false z, Bool.false_and, Bool.false_and]
  rcases (hV.it h0 hn).cs hw.1 with ⟨z, e⟩ | ⟨z, e⟩ | ⟨z, e, hA⟩
  · have z : S.2 41 i = 0 := z
    rw [hc (by omega)]
    exact ⟨_, 11, _, _, yX11_isCall, _, 2, _, e, rfl, gt_isCall l G A lv h n ad i rl, q884, q876, q91, q885, by decide⟩
  · have z : S.2 41 i = 1 := z
    rw [hc (by omega)]
    exact ⟨_, 12, _, _, yX11_isCall, _, 2, _, e, rfl, gt_isCall l G A lv h n ad i rl, q883, q876, q91, q885, by decide⟩
  · exact ⟨_, 10, _, _, yX12_isCall, _, 4, _, e, rfl, gl_isCall l G A lv h n S ad i rl ru ap hlv hV h0 hn z hR, q878, q879, q92, q880, by decide⟩
