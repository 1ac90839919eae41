/-! ===== String constants, words ===== -/
set_option maxRecDepth 100000
theorem gWd.str {G : gEnv} {A : Nat → Prop} {U : State} (h : gWd G A U) {i : Nat} {o : String} {k : Nat} {tx : String} {bs : List Nat} (hq : gStrs[i]? = some (o, k, tx, bs)) : gStr o k tx bs (G.2.2.1 (10 + 2 * i)) (G.2.2.1 (11 + 2 * i)) A U := h.2.2.2.2.2.2.2.2.2 i _ hq
theorem gStr_len {i : Nat} {o : String} {k : Nat} {tx : String} {bs : List Nat} (hq : gStrs[i]? = some (o, k, tx, bs)) : bs.length ≤ 4 ∧ ∀ j, bs.getD j 0 < 256 := by
  have hl : i < 6 := (List.getElem?_eq_some_iff.mp hq).1
  have h : ∀ i, i < 6 → (gStrs.getD i ("", 0, "", [])).2.2.2.length ≤ 4 ∧ ∀ j, j < 4 → (gStrs.getD i ("", 0, "", [])).2.2.2.getD j 0 < 256 := by decide +kernel
  have h1 := h i hl
  rw [List.getD_eq_getElem?_getD, hq] at h1
  refine ⟨h1.1, fun j => ?_⟩
  rcases Nat.lt_or_ge j 4 with z | z
  · exact h1.2 j z
  · rw [List.getD_eq_getElem?_getD, List.getElem?_eq_none (by have := h1.1; simp at this; omega)]; decide
section GSTR
variable {p : Program} {l : Launch} {e : Env} {R : Room} {s : State} {m : MethodId} {args : Array Value} {below : List Frame} {meth : Method} {c : Code} {H : Heap} {locs : List Loc} {cells slots : Nat} {Q : State → Prop}
variable {cc cc' : ByteArray} {pc nL nL' lv mc ms index k n : Nat} {ls : Array Slot} {rest st0 As : List Value} {G : gEnv} {A : Nat → Prop} {h : gH} {own C : String} {y : MethodName} {rt : Option FieldType} {b : Nat}
theorem g_callVr {post : Option Value → gH → Nat → Prop} (X : CallFix p m c cc nL s args lw_all own) (hW : gWd G A s) (hG : gOn G.1 A h n H) (hS : va_S A s.heap H locs) (hr : ∃ cell : Cell, H[b]? = some cell ∧ cell.vm.isStatics = false ∧ s.vm.findClass C = some cell.cls) (hM : gC l y cc' nL' rt G A lv mc ms (.ref b :: As) h n post) (hw : GoodIn lw_all (wsV own index C y (ws_ y cc' nL' rt))) (hd : y.cls = C ∧ y.cls ≠ "java/lang/invoke/MethodHandle" ∧ y.cls ≠ "java/lang/invoke/VarHandle" ∧ (parseMethodDescriptor y.desc).map (fun d => d.parameters.length) = some k) (hn : As.length = k) (hlv : lv + 1 ≤ R.frames ∧ 8 + (nL' + 11) + 40 * lv ≤ R.locals) (hcs : cells + mc ≤ R.cells ∧ slots + ms ≤ R.slots) (hls : ls.size = nL) (hst : st0 = As.reverse ++ .ref b :: rest) (hroom : (rest.map fun v => v.category).sum ≤ 8) (hdg : decode cc pc = .ok (.invokevirtual index, 3))
    (kk : ∀ (v : Option Value) (h' : gH) (n' : Nat) (H1 : Heap) (locs1 : List Loc), post v h' n' → gOn G.1 A h' n' H1 → va_S A s.heap H1 locs1 → W p l e R s m args below meth c H1 locs1 (cells + mc) (slots + ms) Q (F0 m (pc + 3) ls (v.toList ++ rest))) : W p l e R s m args below meth c H locs cells slots Q (F0 m pc ls st0) := by
  subst hst
  have hp : PreV s H C b (gPc G A (.ref b :: As) h n) As := ⟨fun a U g mk q => ⟨q.1, q.2.1, q.2.2.calling g mk a⟩, hr, fun U hU hWm => ⟨rfl, by rw [hU]; exact hG, hW.to hS hWm hU⟩⟩
  exact g_run (va_runV (As := As) (rest := rest) X hM (cwV k X.2.2.2.2 hw rfl rfl rfl hd hlv) hp rfl hn hls rfl (lv_room hroom) hdg hcs) hS (fun v h' n' H1 locs1 a b d _ _ => kk v h' n' H1 locs1 a b d)
theorem gs_recv (hW : gWd G A s) (hS : va_S A s.heap H locs) {i : Nat} {o : String} {k : Nat} {tx : String} {bs : List Nat} (hq : gStrs[i]? = some (o, k, tx, bs)) : ∃ cell : Cell, H[G.2.2.1 (10 + 2 * i)]? = some cell ∧ cell.vm.isStatics = false ∧ s.vm.findClass "java/lang/String" = some cell.cls := by
  obtain ⟨cell, h1, h2, h3, -⟩ := (hW.str hq).2.1.kept hS.2.1
  exact ⟨cell, h1, h2, h3⟩
theorem gs_alen (X : CallFix p m c cc nL s args lw_all own) (hW : gWd G A s) (hS : va_S A s.heap H locs) {i : Nat} {o : String} {k : Nat} {tx : String} {bs : List Nat} (hq : gStrs[i]? = some (o, k, tx, bs)) (hdg : decode cc pc = .ok (.arraylength, 1))
    (kk : W p l e R s m args below meth c H locs cells slots Q (F0 m (pc + 1) ls (.int (iI (bs.length : Int)) :: rest))) : W p l e R s m args below meth c H locs cells slots Q (F0 m pc ls (.ref (G.2.2.1 (11 + 2 * i)) :: rest)) := by
  obtain ⟨cell, t1, t2, t3, t4, t5, t6, t7⟩ := (hW.str hq).2.2.2.2.kept hS.2.1
  exact W.alen X.1 X.2.1 t1 t2 (t5.trans (nI_iI _)) rfl rfl hdg kk
theorem gs_bald (X : CallFix p m c cc nL s args lw_all own) (hW : gWd G A s) (hS : va_S A s.heap H locs) {i : Nat} {o : String} {k : Nat} {tx : String} {bs : List Nat} (hq : gStrs[i]? = some (o, k, tx, bs)) {j : Nat} (hj : j < bs.length) (hdg : decode cc pc = .ok (.baload, 1))
    (kk : W p l e R s m args below meth c H locs cells slots Q (F0 m (pc + 1) ls (.int (iI (bs.getD j 0 : Nat)) :: rest))) : W p l e R s m args below meth c H locs cells slots Q (F0 m pc ls (.int (iI (j : Int)) :: .ref (G.2.2.1 (11 + 2 * i)) :: rest)) := by
  obtain ⟨cell, t1, t2, t3, t4, t5, t6, t7⟩ := (hW.str hq).2.2.2.2.kept hS.2.1
  have hb := (gStr_len hq).1
  have hc : (iI (j : Int)).toNatClampNeg = j := by rw [iI_clamp (by omega)]; exact Int.toNat_natCast _
  refine W.bald X.1 X.2.1 t1 t2 t3 (fun z => ?_) (by rw [hc]; exact t6 j hj) rfl rfl hdg ?_
  · rw [hc] at z
    rcases z with z | z
    · exact iI_nn (by omega) z
    · omega
  · rw [← nI_iI] at kk
    exact kk
end GSTR
set_option maxHeartbeats 4000000 in
theorem gs_coder (l : Launch) (G : gEnv) (A : Nat → Prop) (lv : Nat) (h : gH) (n : Nat) (i : Nat) (o : String) (k0 : Nat) (tx : String) (bs : List Nat) (hq : gStrs[i]? = some (o, k0, tx, bs)) : gC l yJ3_coder cJ3_coder 1 (some .byte) G A lv 0 0 [.ref (G.2.2.1 (10 + 2 * i))] h n (gPure (some (.int (iI 0))) h n) := by
  refine gC_ofI RJ3 (by decide +kernel) rfl (Nat.le_of_ble_eq_true rfl) ?_
  intro p e s m args below meth c Q X hW ret H locs ls hG hS hl
  have hl : lv_has ls 1 [(0, .ref (G.2.2.1 (10 + 2 * i)))] := hl
  refine n_gets X hW hS 1 rfl (v := .int (iI (1))) hW.z1 q281 (fun _ h => h) dJ3_coder_0 ?_
  refine i_if_eq X 13 dJ3_coder_3 (by decide) (by omega) (fun c3 => ?_) (fun c3 => ?_)
  · exfalso; omega
  · refine lv_aload_n X.1 X.2.1 dJ3_coder_6 rfl (lv_at hl 0 rfl) ?_
    refine vk_getf X.1 X.2.1 (hW.str hq).2.2.1 hS X.2.2.2.1 (X.2.2.2.2 _ q1722) (fun _ h => h) dJ3_coder_7 ?_
    show W p l e (gR lv 0 0) s m args below meth c H locs 0 0 Q (F0 m 10 ls [.int (iI (0))])
    refine lv_goto (tgt := 14) X.1 X.2.1 dJ3_coder_10 (by decide) ?_
    refine ret _ _ _ _ _ _ _ _ _ ?_ (rfl) (by show 0 ≤ 0; omega) (by show 0 ≤ 0; omega) hG hS dJ3_coder_14
    exact ⟨rfl, rfl, rfl⟩

set_option maxHeartbeats 4000000 in
theorem gs_isLatin1 (l : Launch) (G : gEnv) (A : Nat → Prop) (lv : Nat) (h : gH) (n : Nat) (i : Nat) (o : String) (k0 : Nat) (tx : String) (bs : List Nat) (hq : gStrs[i]? = some (o, k0, tx, bs)) : gC l yJ3_isLatin1 cJ3_isLatin1 1 (some .boolean) G A lv 0 0 [.ref (G.2.2.1 (10 + 2 * i))] h n (gPure (some (.int (iI 1))) h n) := by
  refine gC_ofI RJ3 (by decide +kernel) rfl (Nat.le_of_ble_eq_true rfl) ?_
  intro p e s m args below meth c Q X hW ret H locs ls hG hS hl
  have hl : lv_has ls 1 [(0, .ref (G.2.2.1 (10 + 2 * i)))] := hl
  refine n_gets X hW hS 1 rfl (v := .int (iI (1))) hW.z1 q281 (fun _ h => h) dJ3_isLatin1_0 ?_
  refine i_if_eq X 17 dJ3_isLatin1_3 (by decide) (by omega) (fun c3 => ?_) (fun c3 => ?_)
  · exfalso; omega
  · refine lv_aload_n X.1 X.2.1 dJ3_isLatin1_6 rfl (lv_at hl 0 rfl) ?_
    refine vk_getf X.1 X.2.1 (hW.str hq).2.2.1 hS X.2.2.2.1 (X.2.2.2.2 _ q1722) (fun _ h => h) dJ3_isLatin1_7 ?_
    show W p l e (gR lv 0 0) s m args below meth c H locs 0 0 Q (F0 m 10 ls [.int (iI (0))])
    refine i_if_ne X 17 dJ3_isLatin1_10 (by decide) (by omega) (fun c10 => ?_) (fun c10 => ?_)
    · exfalso; omega
    · refine lv_iconst (v := iI (1)) X.1 X.2.1 dJ3_isLatin1_13 rfl ?_
      refine lv_goto (tgt := 18) X.1 X.2.1 dJ3_isLatin1_14 (by decide) ?_
      refine ret _ _ _ _ _ _ _ _ _ ?_ (nar_b (by omega)) (by show 0 ≤ 0; omega) (by show 0 ≤ 0; omega) hG hS dJ3_isLatin1_18
      exact ⟨rfl, rfl, rfl⟩

set_option maxHeartbeats 4000000 in
theorem gs_length (l : Launch) (G : gEnv) (A : Nat → Prop) (lv : Nat) (h : gH) (n : Nat) (i : Nat) (o : String) (k0 : Nat) (tx : String) (bs : List Nat) (hlv : 1 ≤ lv) (hq : gStrs[i]? = some (o, k0, tx, bs)) : gC l yJ3_length cJ3_length 1 (some .int) G A lv 0 0 [.ref (G.2.2.1 (10 + 2 * i))] h n (gPure (some (.int (iI (bs.length : Int)))) h n) := by
  refine gC_ofI RJ3 (by decide +kernel) rfl (Nat.le_of_ble_eq_true rfl) ?_
  intro p e s m args below meth c Q X hW ret H locs ls hG hS hl
  have hl : lv_has ls 1 [(0, .ref (G.2.2.1 (10 + 2 * i)))] := hl
  have hb4 := (gStr_len hq).1
  refine lv_aload_n X.1 X.2.1 dJ3_length_0 rfl (lv_at hl 0 rfl) ?_
  refine vk_getf X.1 X.2.1 (hW.str hq).2.2.2.1 hS X.2.2.2.1 (X.2.2.2.2 _ q1721) (fun _ h => h) dJ3_length_1 ?_
  show W p l e (gR lv 0 0) s m args below meth c H locs 0 0 Q (F0 m 4 ls [.ref (G.2.2.1 (11 + 2 * i))])
  refine gs_alen X hW hS hq dJ3_length_4 ?_
  refine lv_aload_n X.1 X.2.1 dJ3_length_5 rfl (lv_at hl 0 rfl) ?_
  refine g_callVr (rest := [.int (iI ((bs.length : Int)))]) (k := 0) X hW hG hS (gs_recv hW hS hq) (gs_coder l G A (lv - 1) h n i o k0 tx bs hq) (lw_V q277 q278 q279 q72 q280) (by decide +kernel) rfl ⟨by show lv - 1 + 1 ≤ lv; omega, by show 8 + (1 + 11) + 40 * (lv - 1) ≤ 40 * lv; omega⟩ ⟨Nat.le_refl _, Nat.le_refl _⟩ hl.1 rfl (Nat.le_of_ble_eq_true rfl) dJ3_length_6 (g_pk (fun H locs hG hS => ?_))
  show W p l e (gR lv 0 0) s m args below meth c H locs 0 0 Q (F0 m 9 ls [.int (iI (0)), .int (iI ((bs.length : Int)))])
  refine lv_ishr X.1 X.2.1 dJ3_length_9 ?_
  rw [show iI (bs.length : Int) >>> (iI 0 &&& 31) = iI (bs.length : Int) by rw [← nI_iI]; exact sc_shr0 (by omega)]
  refine ret _ _ _ _ _ _ _ _ _ ?_ (rfl) (by show 0 ≤ 0; omega) (by show 0 ≤ 0; omega) hG hS dJ3_length_10
  exact ⟨rfl, rfl, rfl⟩

set_option maxHeartbeats 4000000 in
theorem gs_checkIndex (l : Launch) (G : gEnv) (A : Nat → Prop) (lv : Nat) (h : gH) (n : Nat) (i k : Int) (hlv : 1 ≤ lv) (hi : 0 ≤ i ∧ i < k) (hk : iR k) : gC l yJ3_checkIndex cJ3_checkIndex 2 none G A lv 0 0 [.int (iI (i)), .int (iI (k))] h n (gPure none h n) := by
  refine gC_ofV RJ3 (by decide +kernel) rfl (Nat.le_of_ble_eq_true rfl) ?_
  intro p e s m args below meth c Q X hinit hW ret H locs ls hG hS hl
  have hl : lv_has ls 2 [(0, .int (iI (i))), (1, .int (iI (k)))] := hl
  refine lv_iload_n X.1 X.2.1 dJ3_checkIndex_0 rfl (lv_at hl 0 rfl) ?_
  refine lv_iload_n X.1 X.2.1 dJ3_checkIndex_1 rfl (lv_at hl 1 rfl) ?_
  refine n_gets X hW hS 2 rfl (v := G.2.2.2 2) rfl q297 (fun _ h => h) dJ3_checkIndex_2 ?_
  have K8 : ∀ (H : Heap) (locs : List Loc), gOn G.1 A h n H → va_S A s.heap H locs → W p l e (gR lv 0 0) s m args below meth c H locs 0 0 Q (F0 m 8 ls [.int (iI (i))]) := by
    intro H locs hG hS
    refine lv_pop X.1 X.2.1 dJ3_checkIndex_8 rfl ?_
    refine ret _ _ _ _ _ _ _ _ ?_ (by show 0 ≤ 0; omega) (by show 0 ≤ 0; omega) hG hS dJ3_checkIndex_9
    exact ⟨rfl, rfl, rfl⟩
  have hfm := hW.2.2.2.2.2.2.2.1.2.2.1
  cases hv : G.2.2.2 2 with
  | null =>
    refine g_callS (rest := []) (k := 3) (As := [.int (iI i), .int (iI k), .null]) X hW hG hS (gm_checkIndex0 l G A (lv - 1) h n i k hi hk) (lw_S q299 q300 q74 q301) (by decide +kernel) rfl ⟨by show lv - 1 + 1 ≤ lv; omega, by show 8 + (3 + 11) + 40 * (lv - 1) ≤ 40 * lv; omega⟩ ⟨Nat.le_refl _, Nat.le_refl _⟩ hl.1 rfl (Nat.le_of_ble_eq_true rfl) dJ3_checkIndex_5 (g_pk (fun H locs hG hS => ?_))
    exact K8 H locs hG hS
  | ref q =>
    refine g_callS (rest := []) (k := 3) (As := [.int (iI i), .int (iI k), .ref q]) X hW hG hS (gm_checkIndex1 l G A (lv - 1) h n i k q hi hk) (lw_S q299 q300 q74 q301) (by decide +kernel) rfl ⟨by show lv - 1 + 1 ≤ lv; omega, by show 8 + (3 + 11) + 40 * (lv - 1) ≤ 40 * lv; omega⟩ ⟨Nat.le_refl _, Nat.le_refl _⟩ hl.1 rfl (Nat.le_of_ble_eq_true rfl) dJ3_checkIndex_5 (g_pk (fun H locs hG hS => ?_))
    exact K8 H locs hG hS
  | _ => rw [hv] at hfm; exact absurd hfm (by simp [Value.isRef])

set_option maxHeartbeats 4000000 in
theorem gs_l1charAt (l : Launch) (G : gEnv) (A : Nat → Prop) (lv : Nat) (h : gH) (n : Nat) (i : Nat) (o : String) (k0 : Nat) (tx : String) (bs : List Nat) (j : Nat) (hlv : 2 ≤ lv) (hq : gStrs[i]? = some (o, k0, tx, bs)) (hj : j < bs.length) : gC l yJ4_charAt cJ4_charAt 2 (some .char) G A lv 0 0 [.ref (G.2.2.1 (11 + 2 * i)), .int (iI ((j : Int)))] h n (gPure (some (.int (iI ((bs.getD j 0 : Nat) : Int)))) h n) := by
  refine gC_ofI RJ4 (by decide +kernel) rfl (Nat.le_of_ble_eq_true rfl) ?_
  intro p e s m args below meth c Q X hW ret H locs ls hG hS hl
  have hl : lv_has ls 2 [(0, .ref (G.2.2.1 (11 + 2 * i))), (1, .int (iI ((j : Int))))] := hl
  have hb9 := (gStr_len hq).2 j
  have hb4 := (gStr_len hq).1
  refine lv_iload_n X.1 X.2.1 dJ4_charAt_0 rfl (lv_at hl 1 rfl) ?_
  refine lv_aload_n X.1 X.2.1 dJ4_charAt_1 rfl (lv_at hl 0 rfl) ?_
  refine gs_alen X hW hS hq dJ4_charAt_2 ?_
  refine g_callS (rest := []) (k := 2) X hW hG hS (gs_checkIndex l G A (lv - 1) h n ((j : Int)) ((bs.length : Int)) (by omega) (by omega) (by omega)) (lw_S q294 q295 q72 q296) (by decide +kernel) rfl ⟨by show (lv - 1) + 1 ≤ lv; omega, by show 8 + (2 + 11) + 40 * (lv - 1) ≤ 40 * lv; omega⟩ ⟨by show 0 + 0 ≤ 0; omega, by show 0 + 0 ≤ 0; omega⟩ hl.1 rfl (Nat.le_of_ble_eq_true rfl) dJ4_charAt_3 (g_pk (fun H locs hG hS => ?_))
  show W p l e (gR lv 0 0) s m args below meth c H locs 0 0 Q (F0 m 6 ls [])
  refine lv_aload_n X.1 X.2.1 dJ4_charAt_6 rfl (lv_at hl 0 rfl) ?_
  refine lv_iload_n X.1 X.2.1 dJ4_charAt_7 rfl (lv_at hl 1 rfl) ?_
  refine gs_bald X hW hS hq hj dJ4_charAt_8 ?_
  refine lv_sipush (v := iI (255)) X.1 X.2.1 dJ4_charAt_9 (by decide) ?_
  refine i_and255 X dJ4_charAt_12 ?_
  rw [show ((bs.getD j 0 : Nat) : Int) % 256 = ((bs.getD j 0 : Nat) : Int) by omega]
  refine lv_i2c (v := iI ((bs.getD j 0 : Nat) : Int)) X.1 X.2.1 dJ4_charAt_13 (by rw [← nI_iI]; exact (sb_byte _ hb9).2.1) ?_
  refine ret _ _ _ _ _ _ _ _ _ ?_ (by rw [← nI_iI]; exact (pk_charN (by omega)).1) (by show 0 ≤ 0; omega) (by show 0 ≤ 0; omega) hG hS dJ4_charAt_14
  exact ⟨rfl, rfl, rfl⟩

set_option maxHeartbeats 4000000 in
theorem gs_charAt (l : Launch) (G : gEnv) (A : Nat → Prop) (lv : Nat) (h : gH) (n : Nat) (i : Nat) (o : String) (k0 : Nat) (tx : String) (bs : List Nat) (j : Nat) (hlv : 3 ≤ lv) (hq : gStrs[i]? = some (o, k0, tx, bs)) (hj : j < bs.length) : gC l yJ3_charAt cJ3_charAt 2 (some .char) G A lv 0 0 [.ref (G.2.2.1 (10 + 2 * i)), .int (iI ((j : Int)))] h n (gPure (some (.int (iI ((bs.getD j 0 : Nat) : Int)))) h n) := by
  refine gC_ofI RJ3 (by decide +kernel) rfl (Nat.le_of_ble_eq_true rfl) ?_
  intro p e s m args below meth c Q X hW ret H locs ls hG hS hl
  have hl : lv_has ls 2 [(0, .ref (G.2.2.1 (10 + 2 * i))), (1, .int (iI ((j : Int))))] := hl
  have hb9 := (gStr_len hq).2 j
  refine lv_aload_n X.1 X.2.1 dJ3_charAt_0 rfl (lv_at hl 0 rfl) ?_
  refine g_callVr (rest := []) (k := 0) X hW hG hS (gs_recv hW hS hq) (gs_isLatin1 l G A (lv - 1) h n i o k0 tx bs hq) (lw_V q287 q288 q289 q72 q290) (by decide +kernel) rfl ⟨by show lv - 1 + 1 ≤ lv; omega, by show 8 + (1 + 11) + 40 * (lv - 1) ≤ 40 * lv; omega⟩ ⟨Nat.le_refl _, Nat.le_refl _⟩ hl.1 rfl (Nat.le_of_ble_eq_true rfl) dJ3_charAt_1 (g_pk (fun H locs hG hS => ?_))
  show W p l e (gR lv 0 0) s m args below meth c H locs 0 0 Q (F0 m 4 ls [.int (iI (1))])
  refine i_if_eq X 16 dJ3_charAt_4 (by decide) (by omega) (fun c4 => ?_) (fun c4 => ?_)
  · exfalso; omega
  · refine lv_aload_n X.1 X.2.1 dJ3_charAt_7 rfl (lv_at hl 0 rfl) ?_
    refine vk_getf X.1 X.2.1 (hW.str hq).2.2.2.1 hS X.2.2.2.1 (X.2.2.2.2 _ q1721) (fun _ h => h) dJ3_charAt_8 ?_
    show W p l e (gR lv 0 0) s m args below meth c H locs 0 0 Q (F0 m 11 ls [.ref (G.2.2.1 (11 + 2 * i))])
    refine lv_iload_n X.1 X.2.1 dJ3_charAt_11 rfl (lv_at hl 1 rfl) ?_
    refine g_callS (rest := []) (k := 2) X hW hG hS (gs_l1charAt l G A (lv - 1) h n i o k0 tx bs j (by omega) hq hj) (lw_S q291 q292 q73 q293) (by decide +kernel) rfl ⟨by show (lv - 1) + 1 ≤ lv; omega, by show 8 + (2 + 11) + 40 * (lv - 1) ≤ 40 * lv; omega⟩ ⟨by show 0 + 0 ≤ 0; omega, by show 0 + 0 ≤ 0; omega⟩ hl.1 rfl (Nat.le_of_ble_eq_true rfl) dJ3_charAt_12 (g_pk (fun H locs hG hS => ?_))
    show W p l e (gR lv 0 0) s m args below meth c H locs 0 0 Q (F0 m 15 ls [.int (iI (((bs.getD j 0 : Nat) : Int)))])
    refine ret _ _ _ _ _ _ _ _ _ ?_ (by rw [← nI_iI]; exact (pk_charN (by omega)).1) (by show 0 ≤ 0; omega) (by show 0 ≤ 0; omega) hG hS dJ3_charAt_15
    exact ⟨rfl, rfl, rfl⟩

/-- letters as a number, the first one highest -/
def wBE (bs : List Nat) : Nat → Int
  | 0 => 0
  | k + 1 => wBE bs k * 256 + ((bs.getD k 0 : Nat) : Int)
theorem gStr_step {i : Nat} {o : String} {k : Nat} {tx : String} {bs : List Nat} (hq : gStrs[i]? = some (o, k, tx, bs)) {j : Nat} (hj : j < bs.length) : lI (wBE bs j) <<< ((iI 8).toInt64 &&& 63) ||| (iI ((bs.getD j 0 : Nat) : Int)).toInt64 = lI (wBE bs (j + 1)) := by
  have hl : i < 6 := (List.getElem?_eq_some_iff.mp hq).1
  have hb := (gStr_len hq).1
  have h : ∀ i, i < 6 → ∀ j, j < 4 → j < (gStrs.getD i ("", 0, "", [])).2.2.2.length → lI (wBE (gStrs.getD i ("", 0, "", [])).2.2.2 j) <<< ((iI 8).toInt64 &&& 63) ||| (iI (((gStrs.getD i ("", 0, "", [])).2.2.2.getD j 0 : Nat) : Int)).toInt64 = lI (wBE (gStrs.getD i ("", 0, "", [])).2.2.2 (j + 1)) := by decide +kernel
  have h1 := h i hl j (by omega)
  rw [List.getD_eq_getElem?_getD, hq] at h1
  exact h1 hj
set_option maxHeartbeats 4000000 in
/-- a word as a number -/
theorem gg_word (l : Launch) (G : gEnv) (A : Nat → Prop) (lv : Nat) (h : gH) (n : Nat) (i : Nat) (o : String) (k0 : Nat) (tx : String) (bs : List Nat) (hlv : 4 ≤ lv) (hq : gStrs[i]? = some (o, k0, tx, bs)) : gC l yX0_word cX0_word 4 (some .long) G A lv 0 0 [.ref (G.2.2.1 (10 + 2 * i))] h n (gPure (some (.long (lI (wBE bs bs.length)))) h n) := by
  refine gC_ofL RX0 (by decide +kernel) rfl (Nat.le_of_ble_eq_true rfl) ?_
  intro p e s m args below meth c Q X hW ret H locs ls hG hS hl
  have hl : lv_has ls 4 [(0, .ref (G.2.2.1 (10 + 2 * i)))] := hl
  have hb4 := (gStr_len hq).1
  refine lv_lconst (v := lI (0)) X.1 X.2.1 dX0_word_0 rfl ?_
  refine lv_lstore_n (lv' := [(1, .long (lI (0))), (0, .ref (G.2.2.1 (10 + 2 * i)))]) X.1 X.2.1 dX0_word_1 rfl hl (by decide) rfl (fun ls hl => ?_)
  refine lv_iconst (v := iI (0)) X.1 X.2.1 dX0_word_2 rfl ?_
  refine lv_istore_n (lv' := [(3, .int (iI (0))), (1, .long (lI (0))), (0, .ref (G.2.2.1 (10 + 2 * i)))]) X.1 X.2.1 dX0_word_3 rfl hl (by decide) rfl (fun ls hl => ?_)
  have L4 : ∀ (N4 : Nat) (j : Nat), (j ≤ bs.length) → bs.length - j < N4 → ∀ (H : Heap) (locs : List Loc) (ls : Array Slot), gOn G.1 A h n H → va_S A s.heap H locs → lv_has ls 4 [(0, .ref (G.2.2.1 (10 + 2 * i))), (1, .long (lI (wBE bs j))), (3, .int (iI ((j : Int))))] → W p l e (gR lv 0 0) s m args below meth c H locs 0 0 Q (F0 m 4 ls []) := by
    intro N4
    induction N4 with
    | zero => intro j hj hN; exact absurd hN (Nat.not_lt_zero _)
    | succ N4 ih4 =>
      intro j hj hN4 H locs ls hG hS hl
      refine lv_iload_n X.1 X.2.1 dX0_word_4 rfl (lv_at hl 2 rfl) ?_
      refine lv_aload_n X.1 X.2.1 dX0_word_5 rfl (lv_at hl 0 rfl) ?_
      refine g_callVr (rest := [.int (iI ((j : Int)))]) (k := 0) X hW hG hS (gs_recv hW hS hq) (gs_length l G A (lv - 1) h n i o k0 tx bs (by omega) hq) (lw_V q273 q274 q275 q72 q276) (by decide +kernel) rfl ⟨by show lv - 1 + 1 ≤ lv; omega, by show 8 + (1 + 11) + 40 * (lv - 1) ≤ 40 * lv; omega⟩ ⟨Nat.le_refl _, Nat.le_refl _⟩ hl.1 rfl (Nat.le_of_ble_eq_true rfl) dX0_word_6 (g_pk (fun H locs hG hS => ?_))
      show W p l e (gR lv 0 0) s m args below meth c H locs 0 0 Q (F0 m 9 ls [.int (iI ((bs.length : Int))), .int (iI ((j : Int)))])
      refine i_icmp_ge X 30 dX0_word_9 (by decide) (by omega) (by omega) (fun c9 => ?_) (fun c9 => ?_)
      · refine lv_lload_n X.1 X.2.1 dX0_word_30 rfl (lv_at hl 1 rfl) ?_
        refine ret _ _ _ _ _ _ _ _ _ ?_ (by show 0 ≤ 0; omega) (by show 0 ≤ 0; omega) hG hS dX0_word_31
        exact ⟨by rw [show j = bs.length by omega], rfl, rfl⟩
      · refine lv_lload_n X.1 X.2.1 dX0_word_12 rfl (lv_at hl 1 rfl) ?_
        refine lv_bipush (v := iI (8)) X.1 X.2.1 dX0_word_13 (by decide) ?_
        refine lv_lshl X.1 X.2.1 dX0_word_15 rfl ?_
        refine lv_aload_n X.1 X.2.1 dX0_word_16 rfl (lv_at hl 0 rfl) ?_
        refine lv_iload_n X.1 X.2.1 dX0_word_17 rfl (lv_at hl 2 rfl) ?_
        refine g_callVr (rest := [.long (lI (wBE bs j) <<< ((iI 8).toInt64 &&& 63))]) (k := 1) X hW hG hS (gs_recv hW hS hq) (gs_charAt l G A (lv - 1) h n i o k0 tx bs j (by omega) hq (by omega)) (lw_V q283 q284 q285 q72 q286) (by decide +kernel) rfl ⟨by show lv - 1 + 1 ≤ lv; omega, by show 8 + (2 + 11) + 40 * (lv - 1) ≤ 40 * lv; omega⟩ ⟨Nat.le_refl _, Nat.le_refl _⟩ hl.1 rfl (Nat.le_of_ble_eq_true rfl) dX0_word_18 (g_pk (fun H locs hG hS => ?_))
        show W p l e (gR lv 0 0) s m args below meth c H locs 0 0 Q (F0 m 21 ls [.int (iI (((bs.getD j 0 : Nat) : Int))), .long (lI (wBE bs j) <<< ((iI 8).toInt64 &&& 63))])
        refine lv_i2l X.1 X.2.1 dX0_word_21 rfl ?_
        refine lv_lor X.1 X.2.1 dX0_word_22 ?_
        rw [gStr_step hq (by omega)]
        refine lv_lstore_n (lv' := [(1, .long (lI (wBE bs (j + 1)))), (0, .ref (G.2.2.1 (10 + 2 * i))), (3, .int (iI ((j : Int))))]) X.1 X.2.1 dX0_word_23 rfl hl (by decide) rfl (fun ls hl => ?_)
        refine i_inc (lv' := [(3, .int (iI ((j : Int) + 1))), (1, .long (lI (wBE bs (j + 1)))), (0, .ref (G.2.2.1 (10 + 2 * i)))]) X dX0_word_24 hl (k := 2) rfl (by decide) rfl (fun ls hl => ?_)
        refine lv_goto (tgt := 4) X.1 X.2.1 dX0_word_27 (by decide) ?_
        exact ih4 (j + 1) (by omega) (by omega) H locs ls hG hS (lv_sub hl [2, 1, 0] rfl)
  exact L4 _ 0 (Nat.zero_le _) (Nat.lt_succ_self _) H locs ls hG hS (lv_sub hl [2, 1, 0] rfl)

set_option maxHeartbeats 4000000 in
theorem gg_in (l : Launch) (G : gEnv) (A : Nat → Prop) (lv : Nat) (h : gH) (n : Nat) (v a b : Int) (hv : lR v) (ha : lR a) (hb : lR b) : gC l yX0_in cX0_in 6 (some .boolean) G A lv 0 0 [.long (lI (v)), .long (lI (a)), .long (lI (b))] h n (gPure (some (.int (iI (bI (decide (a ≤ v) && decide (v ≤ b)))))) h n) := by
  refine gC_ofI RX0 (by decide +kernel) rfl (Nat.le_of_ble_eq_true rfl) ?_
  intro p e s m args below meth c Q X hW ret H locs ls hG hS hl
  have hl : lv_has ls 6 [(0, .long (lI (v))), (2, .long (lI (a))), (4, .long (lI (b)))] := hl
  refine lv_lload_n X.1 X.2.1 dX0_in_0 rfl (lv_at hl 0 rfl) ?_
  refine lv_lload_n X.1 X.2.1 dX0_in_1 rfl (lv_at hl 1 rfl) ?_
  refine i_lcmp_lt X 17 dX0_in_2 dX0_in_3 (by decide) (by omega) (by omega) (fun c2 => ?_) (fun c2 => ?_)
  · refine lv_iconst (v := iI (0)) X.1 X.2.1 dX0_in_17 rfl ?_
    refine ret _ _ _ _ _ _ _ _ _ ?_ (nar_b (by omega)) (by show 0 ≤ 0; omega) (by show 0 ≤ 0; omega) hG hS dX0_in_18
    exact ⟨by congr 3; first | (apply bI_t; simp; omega) | (apply bI_f; simp; omega), rfl, rfl⟩
  · refine lv_lload_n X.1 X.2.1 dX0_in_6 rfl (lv_at hl 0 rfl) ?_
    refine lv_lload X.1 X.2.1 dX0_in_7 (lv_at hl 2 rfl) ?_
    refine i_lcmp_gt X 17 dX0_in_9 dX0_in_10 (by decide) (by omega) (by omega) (fun c9 => ?_) (fun c9 => ?_)
    · refine lv_iconst (v := iI (0)) X.1 X.2.1 dX0_in_17 rfl ?_
      refine ret _ _ _ _ _ _ _ _ _ ?_ (nar_b (by omega)) (by show 0 ≤ 0; omega) (by show 0 ≤ 0; omega) hG hS dX0_in_18
      exact ⟨by congr 3; first | (apply bI_t; simp; omega) | (apply bI_f; simp; omega), rfl, rfl⟩
    · refine lv_iconst (v := iI (1)) X.1 X.2.1 dX0_in_13 rfl ?_
      refine lv_goto (tgt := 18) X.1 X.2.1 dX0_in_14 (by decide) ?_
      refine ret _ _ _ _ _ _ _ _ _ ?_ (nar_b (by omega)) (by show 0 ≤ 0; omega) (by show 0 ≤ 0; omega) hG hS dX0_in_18
      exact ⟨by congr 3; first | (apply bI_t; simp; omega) | (apply bI_f; simp; omega), rfl, rfl⟩

