/-! ===== items: added, closed, copied ===== -/
set_option maxRecDepth 100000
section ITI
variable {p : Program} {l : Launch} {e : Env} {R : Room} {s : State} {m : MethodId} {args : Array Value} {below : List Frame} {meth : Method} {c : Code} {H : Heap} {locs : List Loc} {cells slots : Nat} {Q : State → Prop}
variable {cc : ByteArray} {pc nL index n : Nat} {ls : Array Slot} {rest : List Value} {G : gEnv} {A : Nat → Prop} {h : gH} {own : String} {F : FF} {ad : Int → Nat} {tg : gT} {inp : Value} {num i : Int}
theorem it_instN (X : CallFix p m c cc nL s args lw_all own) (hW : gWd G A s) (hG : gOn G.1 A h n H) (hI : h (ad i) = some (tg, itE F i inp num (ad i))) (hw : 0 ≤ F 0 i) (hlink : Cond.classLink own index "MacroGlass$Name" ∈ lw_all) (hdg : decode cc pc = .ok (.instanceof index, 3))
    (kk : W p l e R s m args below meth c H locs cells slots Q (F0 m (pc + 3) ls (.int (iI (bI (decide (F 0 i = 1)))) :: rest))) : W p l e R s m args below meth c H locs cells slots Q (F0 m pc ls (.ref (ad i) :: rest)) := by
  unfold itE at hI
  by_cases h0 : F 0 i = 0
  · rw [if_pos h0] at hI
    rw [decide_eq_false (by omega)] at kk
    exact n_instNo (ci := 11) X hW hG hI rfl hlink (by decide) hdg kk
  · rw [if_neg h0] at hI
    by_cases h1 : F 0 i = 1
    · rw [if_pos h1] at hI
      rw [decide_eq_true h1] at kk
      exact n_instY (ci := 12) X hW hG hI rfl hlink (Or.inr rfl) hdg kk
    · rw [if_neg h1] at hI
      rw [decide_eq_false h1] at kk
      exact n_instNo (ci := 10) X hW hG hI rfl hlink (by decide) hdg kk
theorem it_instL (X : CallFix p m c cc nL s args lw_all own) (hW : gWd G A s) (hG : gOn G.1 A h n H) (hI : h (ad i) = some (tg, itE F i inp num (ad i))) (hw : 0 ≤ F 0 i) (hlink : Cond.classLink own index "MacroGlass$List" ∈ lw_all) (hdg : decode cc pc = .ok (.instanceof index, 3))
    (kk : W p l e R s m args below meth c H locs cells slots Q (F0 m (pc + 3) ls (.int (iI (bI (decide (2 ≤ F 0 i)))) :: rest))) : W p l e R s m args below meth c H locs cells slots Q (F0 m pc ls (.ref (ad i) :: rest)) := by
  unfold itE at hI
  by_cases h0 : F 0 i = 0
  · rw [if_pos h0] at hI
    rw [decide_eq_false (by omega)] at kk
    exact n_instNo (ci := 11) X hW hG hI rfl hlink (by decide) hdg kk
  · rw [if_neg h0] at hI
    by_cases h1 : F 0 i = 1
    · rw [if_pos h1] at hI
      rw [decide_eq_false (by omega)] at kk
      exact n_instNo (ci := 12) X hW hG hI rfl hlink (by decide) hdg kk
    · rw [if_neg h1] at hI
      rw [decide_eq_true (by omega)] at kk
      exact n_instY (ci := 10) X hW hG hI rfl hlink (Or.inr rfl) hdg kk
end ITI
/-- an item has been added to the list at L -/
def ADDED (G : gEnv) (h h' : gH) (L : Nat) (xs : List Nat) (q b : Nat) (tg : gT) (x : va_E) : Prop :=
  AL G h' (L + 1) (xs ++ [b]) (max q (xs.length + 1)) ∧ h' b = some (tg, x) ∧ (∀ (a : Nat) (t : gT) (e : va_E), h a = some (t, e) → a ≠ b → a ≠ L + 1 → (t ≠ (0, L + 1) ∨ a < L + 1) → h' a = some (t, e)) ∧ gCls h h'
set_option maxHeartbeats 4000000 in
/-- an item is put behind those of a list -/
theorem gl_add (l : Launch) (G : gEnv) (A : Nat → Prop) (lv : Nat) (h : gH) (n : Nat) (L : Nat) (tl : gT) (x0 x1 x2 x3 x5 : Value) (xs : List Nat) (q : Nat) (F : FF) (ad : Int → Nat) (j : Int) (tg : gT) (ip : Value) (nm : Int) (hlv : 9 ≤ lv) (hL : h L = some (tl, .inr (10, [x0, x1, x2, x3, .ref (L + 1), x5]))) (hA : AL G h (L + 1) xs q) (hI : h (ad j) = some (tg, itE F j ip nm (ad j))) (hne : ad j ≠ L) (ht : tg.1 ≠ 0) (hq1 : q < 2000) : gC l yX12_add cX12_add 2 none G A lv (alK (max q (xs.length + 1)) - alK q) (alS (max q (xs.length + 1)) - alS q) [.ref L, .ref (ad j)] h n (fun v h' n' => v = none ∧ ADDED G h h' L xs q (ad j) tg (itE F j (.ref L) nm (ad j)) ∧ n ≤ n') := by
  refine gC_ofV RX12 (by decide +kernel) rfl (Nat.le_of_ble_eq_true rfl) ?_
  intro p e s m args below meth c Q X hinit hW ret H locs ls hG hS hl
  have hl : lv_has ls 2 [(0, .ref L), (1, .ref (ad j))] := hl
  refine lv_aload_n X.1 X.2.1 dX12_add_0 rfl (lv_at hl 1 rfl) ?_
  refine lv_aload_n X.1 X.2.1 dX12_add_1 rfl (lv_at hl 0 rfl) ?_
  refine it_putin X hW hG hS hI q614 (Or.inr ⟨_, rfl⟩) dX12_add_2 (fun H locs hG hS => ?_)
  obtain ⟨h1, eh1⟩ : ∃ hz, hz = va_up h (ad j) (some (tg, itE F j (.ref L) nm (ad j))) := ⟨_, rfl⟩
  rw [← eh1] at hG
  have hL1 : h1 L = some (tl, .inr (10, [x0, x1, x2, x3, .ref (L + 1), x5])) := by rw [eh1, up_n (Ne.symm hne)]; exact hL
  have hk1 : gCls h h1 := by rw [eh1]; exact (gCls.refl _).upI hI _ _
  obtain ⟨tA, moA, dA, hLA, hArest⟩ := id hA
  have hne2 : ad j ≠ L + 1 := gNe hI hLA (by intro hh; exact itE_ne17 (Prod.mk.inj hh).2)
  have hA1 : AL G h1 (L + 1) xs q := hA.keep (by rw [eh1, up_n (Ne.symm hne2)]) (fun a x hx => by rw [eh1, up_n (gNe hx hI (fun hh => ht (by rw [← (Prod.mk.inj hh).1])))]; exact hx) hk1
  have hE1 : gObj h1 (ad j) := hk1.obj (by obtain ⟨ci, fs, e9, -⟩ := itE_obj F j ip nm (ad j); exact ⟨tg, ci, fs, by rw [hI, e9]⟩)
  obtain ⟨tB, moB, dB, hLB, hBrest⟩ := id hA1
  refine lv_aload_n X.1 X.2.1 dX12_add_5 rfl (lv_at hl 0 rfl) ?_
  refine n_get (ci := 10) X in_X12 hW hG hL1 rfl 4 (by decide) q592 (fun _ h => h) rfl dX12_add_6 ?_
  refine lv_aload_n X.1 X.2.1 dX12_add_9 rfl (lv_at hl 1 rfl) ?_
  refine g_callV (ci := 17) (rest := []) (k := 1) X hW hG hS hLB rfl (al_add l G A (lv - 1) h1 n (L + 1) xs q (ad j) (by omega) hA1 hE1 hq1) (lw_V q662 q451 q452 q69 q453) (by decide +kernel) rfl ⟨by show (lv - 1) + 1 ≤ lv; omega, by show 8 + (2 + 11) + 40 * (lv - 1) ≤ 40 * lv; omega⟩ ⟨by show 0 + (alK (max q (xs.length + 1)) - alK q) ≤ alK (max q (xs.length + 1)) - alK q; omega, by show 0 + (alS (max q (xs.length + 1)) - alS q) ≤ alS (max q (xs.length + 1)) - alS q; omega⟩ hl.1 rfl (Nat.le_of_ble_eq_true rfl) dX12_add_10 (fun v1 h1 n1 H locs hp1 hG hS => ?_)
  obtain ⟨rfl, hA2, hx2, hk2, hn2⟩ := hp1
  show W p l e (gR lv (alK (max q (xs.length + 1)) - alK q) (alS (max q (xs.length + 1)) - alS q)) s m args below meth c H locs (0 + (alK (max q (xs.length + 1)) - alK q)) (0 + (alS (max q (xs.length + 1)) - alS q)) Q (F0 m 13 ls [.int (iI (1))])
  refine lv_pop X.1 X.2.1 dX12_add_13 rfl ?_
  refine ret _ _ _ _ _ _ _ _ ?_ (by show 0 + (alK (max q (xs.length + 1)) - alK q) ≤ alK (max q (xs.length + 1)) - alK q; omega) (by show 0 + (alS (max q (xs.length + 1)) - alS q) ≤ alS (max q (xs.length + 1)) - alS q; omega) hG hS dX12_add_14
  refine ⟨rfl, ⟨hA2, hx2 _ _ _ (by rw [eh1]; exact up_s _ _ _) hne2 (Or.inl (fun z => ht (by rw [z]))), fun a t x he h1 h2 h3 => hx2 _ _ _ (by rw [eh1, up_n h1]; exact he) h2 h3, hk1.trans hk2⟩, hn2⟩

theorem kdP {N w0 v0 w1 b b2 fl kd : Int} (hok : 0 < N ∧ w0 = 1 → wOk v0) (hb : b = bI (decide (0 < N) && decide (w0 = 1))) (hb2 : b2 = bI ((decide (0 < N) && decide (w0 = 1)) && (decide (1 < N) && decide (w1 = 1)))) (hfl : fl = if 0 < N ∧ w0 = 1 then gLt v0 else 0)
    (h : (kd = 4 ∧ b2 ≠ 0 ∧ N = 4 ∧ fl = wBE [108, 101, 116] [108, 101, 116].length) ∨ (kd = 5 ∧ b2 ≠ 0 ∧ N = 3 ∧ fl = wBE [102, 117, 110] [102, 117, 110].length ∧ (b2 = 0 ∨ N ≠ 4 ∨ fl ≠ wBE [108, 101, 116] [108, 101, 116].length)) ∨ ((b2 = 0 ∨ N ≠ 4 ∨ fl ≠ wBE [108, 101, 116] [108, 101, 116].length) ∧ (b2 = 0 ∨ N ≠ 3 ∨ fl ≠ wBE [102, 117, 110] [102, 117, 110].length) ∧ ((kd = 3 ∧ b ≠ 0) ∨ (kd = 2 ∧ b = 0)))) :
    kd = spJ N (bI (decide (0 < N) && decide (w0 = 1))) (if 0 < N ∧ w0 = 1 then v0 else 0) (bI (decide (1 < N) && decide (w1 = 1))) := by
  unfold spJ
  by_cases hz : 0 < N ∧ w0 = 1
  · rw [if_pos hz] at hfl
    rw [if_pos hz]
    have h1 : (decide (0 < N) && decide (w0 = 1)) = true := by simp [hz.1, hz.2]
    rw [h1] at hb hb2 ⊢
    rw [Bool.true_and] at hb2
    rw [← hb2]
    have hL := gLt_eqc (hok hz) wOk_let (z := wBE [108, 101, 116] [108, 101, 116].length) gLt_let
    have hF := gLt_eqc (hok hz) wOk_fun (z := wBE [102, 117, 110] [102, 117, 110].length) gLt_fun
    rw [← hfl] at hL hF
    rw [if_neg (show ¬ bI true = 0 by decide)]
    have hb1 : b = 1 := by rw [hb]; rfl
    rcases h with ⟨a1, a2, a3, a4⟩ | ⟨a1, a2, a3, a4, a5⟩ | ⟨a1, a2, a3⟩
    · rw [if_pos ⟨a3, hL.mp a4, a2⟩]; exact a1
    · rw [if_neg (by omega), if_pos ⟨a3, hF.mp a4, a2⟩]; exact a1
    · rw [if_neg (by rintro ⟨z1, z2, z3⟩; rcases a1 with a1 | a1 | a1; exact z3 a1; exact a1 z1; exact a1 (hL.mpr z2)), if_neg (by rintro ⟨z1, z2, z3⟩; rcases a2 with a2 | a2 | a2; exact z3 a2; exact a2 z1; exact a2 (hF.mpr z2))]
      omega
  · rw [if_neg hz] at hfl
    have h1 : (decide (0 < N) && decide (w0 = 1)) = false := by rw [Bool.and_eq_false_iff]; by_cases q : 0 < N; (right; simp; exact fun z => hz ⟨q, z⟩); (left; simp; omega)
    rw [h1] at hb hb2 ⊢
    rw [Bool.false_and] at hb2
    rw [if_pos (show bI false = 0 by rfl)]
    have hb0 : b = 0 := by rw [hb]; rfl
    have hb20 : b2 = 0 := by rw [hb2]; rfl
    omega
set_option maxHeartbeats 4000000 in
/-- what a list is, now that it is made -/
theorem gl_close (l : Launch) (G : gEnv) (A : Nat → Prop) (lv : Nat) (h : gH) (n : Nat) (L : Nat) (tl : gT) (x0 x1 x2 x3 : Value) (kd : Int) (xs : List Nat) (q : Nat) (F : FF) (ad : Int → Nat) (tg : gT) (w0 v0 w1 : Int) (hlv : 5 ≤ lv) (hL : h L = some (tl, .inr (10, [x0, x1, x2, x3, .ref (L + 1), .int (iI (kd))]))) (hA : AL G h (L + 1) xs q) (hk0 : 0 < xs.length → ∃ c0 ip nm, xs[0]? = some (ad c0) ∧ h (ad c0) = some (tg, itE F c0 ip nm (ad c0)) ∧ 0 ≤ F 0 c0 ∧ F 0 c0 = w0 ∧ F 1 c0 = v0 ∧ (w0 = 1 → wOk v0)) (hk1 : 1 < xs.length → ∃ c0 ip nm, xs[1]? = some (ad c0) ∧ h (ad c0) = some (tg, itE F c0 ip nm (ad c0)) ∧ 0 ≤ F 0 c0 ∧ F 0 c0 = w1) : gC l yX12_close cX12_close 5 none G A lv 0 0 [.ref L] h n (fun v h' n' => v = none ∧ h' = va_up h L (some (tl, .inr (10, [x0, x1, x2, x3, .ref (L + 1), .int (iI (spJ (xs.length : Int) (bI (decide (0 < (xs.length : Int)) && decide (w0 = 1))) (if 0 < (xs.length : Int) ∧ w0 = 1 then v0 else 0) (bI (decide (1 < (xs.length : Int)) && decide (w1 = 1)))))]))) ∧ n' = n) := by
  refine gC_ofV RX12 (by decide +kernel) rfl (Nat.le_of_ble_eq_true rfl) ?_
  intro p e s m args below meth c Q X hinit hW ret H locs ls hG hS hl
  have hl : lv_has ls 5 [(0, .ref L)] := hl
  obtain ⟨tgA, moA, dA, hLA, hAt, hAl, hAq, hAr⟩ := id hA
  have hlet : lR (wBE [108, 101, 116] [108, 101, 116].length) := by decide
  have hfun : lR (wBE [102, 117, 110] [102, 117, 110].length) := by decide
  have hk9 : 0 < (xs.length : Int) ∧ w0 = 1 → wOk v0 := by
    rintro ⟨z1, z2⟩
    obtain ⟨c0, ip0, nm0, hx0, hI0, hw_c0, e0, ev0, hok0⟩ := hk0 (by omega)
    exact hok0 z2
  have K29 : ∀ (b : Int), (b = bI (decide (0 < (xs.length : Int)) && decide (w0 = 1))) → ∀ (H : Heap) (locs : List Loc) (ls : Array Slot), gOn G.1 A h n H → va_S A s.heap H locs → lv_has ls 5 [(0, .ref L)] → W p l e (gR lv 0 0) s m args below meth c H locs 0 0 Q (F0 m 29 ls [.int (iI (b))]) := by
    intro b hb H locs ls hG hS hl
    refine lv_istore_n (lv' := [(1, .int (iI (b))), (0, .ref L)]) X.1 X.2.1 dX12_close_29 rfl hl (by decide) rfl (fun ls hl => ?_)
    have hb9 : iR b := by rw [hb]; exact bI_iR _
    have K64 : ∀ (b2 : Int), (b2 = bI ((decide (0 < (xs.length : Int)) && decide (w0 = 1)) && (decide (1 < (xs.length : Int)) && decide (w1 = 1)))) → ∀ (H : Heap) (locs : List Loc) (ls : Array Slot), gOn G.1 A h n H → va_S A s.heap H locs → lv_has ls 5 [(0, .ref L), (1, .int (iI (b)))] → W p l e (gR lv 0 0) s m args below meth c H locs 0 0 Q (F0 m 64 ls [.int (iI (b2))]) := by
      intro b2 hb2 H locs ls hG hS hl
      refine lv_istore_n (lv' := [(2, .int (iI (b2))), (0, .ref L), (1, .int (iI (b)))]) X.1 X.2.1 dX12_close_64 rfl hl (by decide) rfl (fun ls hl => ?_)
      have hb29 : iR b2 := by rw [hb2]; exact bI_iR _
      have K87 : ∀ (fl : Int), (fl = if 0 < (xs.length : Int) ∧ w0 = 1 then gLt v0 else 0) → ∀ (H : Heap) (locs : List Loc) (ls : Array Slot), gOn G.1 A h n H → va_S A s.heap H locs → lv_has ls 5 [(0, .ref L), (1, .int (iI (b))), (2, .int (iI (b2)))] → W p l e (gR lv 0 0) s m args below meth c H locs 0 0 Q (F0 m 87 ls [.long (lI (fl))]) := by
        intro fl hfl H locs ls hG hS hl
        refine lv_lstore_n (lv' := [(3, .long (lI (fl))), (0, .ref L), (1, .int (iI (b))), (2, .int (iI (b2)))]) X.1 X.2.1 dX12_close_87 rfl hl (by decide) rfl (fun ls hl => ?_)
        have hflR : lR fl := by
          rw [hfl]
          split
          · rename_i hz
            obtain ⟨c0, ip0, nm0, hx0, hI0, hw_c0, e0, ev0, hok0⟩ := hk0 (by omega)
            have := gLt_rng (hok0 hz.2)
            omega
          · omega
        have K156 : ∀ (kd2 : Int), (kd2 = spJ (xs.length : Int) (bI (decide (0 < (xs.length : Int)) && decide (w0 = 1))) (if 0 < (xs.length : Int) ∧ w0 = 1 then v0 else 0) (bI (decide (1 < (xs.length : Int)) && decide (w1 = 1)))) → ∀ (H : Heap) (locs : List Loc) (ls : Array Slot), gOn G.1 A h n H → va_S A s.heap H locs → lv_has ls 5 [] → W p l e (gR lv 0 0) s m args below meth c H locs 0 0 Q (F0 m 156 ls [.int (iI (kd2)), .ref L]) := by
          intro kd2 hkd H locs ls hG hS hl
          refine n_put (ci := 10) X in_X12 tyX12 tyX12_ok nmX12 hW hG hS hL rfl 5 (by decide) q597 (fun _ h => h) rfl rfl rfl (Nat.le_of_ble_eq_true rfl) (fs' := [x0, x1, x2, x3, .ref (L + 1), .int (iI (kd2))]) rfl dX12_close_156 (fun H locs hG hS => ?_)
          obtain ⟨h1, eh1⟩ : ∃ hz, hz = va_up h L (some (tl, .inr (10, [x0, x1, x2, x3, .ref (L + 1), .int (iI (kd2))]))) := ⟨_, rfl⟩
          rw [← eh1] at hG
          have f1_L1 : h1 (L + 1) = some (tgA, .inr (17, [.int (iI (moA)), .ref dA, .int (iI ((xs.length : Int)))])) := by rw [eh1, up_n (gNe hLA hL (by intro hh; simp at hh))]; exact hLA
          have f1_L : h1 L = some (tl, .inr (10, [x0, x1, x2, x3, .ref (L + 1), .int (iI (kd2))])) := by rw [eh1]; exact up_s _ _ _
          refine ret _ _ _ _ _ _ _ _ ?_ (by show 0 ≤ 0; first | omega | exact hlet | exact hfun | exact hflR | exact hb9 | exact hb29) (by show 0 ≤ 0; first | omega | exact hlet | exact hfun | exact hflR | exact hb9 | exact hb29) hG hS dX12_close_159
          exact ⟨rfl, by rw [← hkd]; exact eh1, rfl⟩
        refine lv_aload_n X.1 X.2.1 dX12_close_88 rfl (lv_at hl 1 rfl) ?_
        refine lv_iload_n X.1 X.2.1 dX12_close_89 rfl (lv_at hl 3 rfl) ?_
        refine i_if_eq X 118 dX12_close_90 (by decide) (by first | omega | exact hlet | exact hfun | exact hflR | exact hb9 | exact hb29) (fun c90 => ?_) (fun c90 => ?_)
        · refine lv_iload_n X.1 X.2.1 dX12_close_118 rfl (lv_at hl 3 rfl) ?_
          refine i_if_eq X 147 dX12_close_119 (by decide) (by first | omega | exact hlet | exact hfun | exact hflR | exact hb9 | exact hb29) (fun c119 => ?_) (fun c119 => ?_)
          · refine lv_iload_n X.1 X.2.1 dX12_close_147 rfl (lv_at hl 2 rfl) ?_
            refine i_if_eq X 155 dX12_close_148 (by decide) (by first | omega | exact hlet | exact hfun | exact hflR | exact hb9 | exact hb29) (fun c148 => ?_) (fun c148 => ?_)
            · refine lv_iconst (v := iI (2)) X.1 X.2.1 dX12_close_155 rfl ?_
              exact K156 2 (by exact kdP hk9 hb hb2 hfl (by first | exact Or.inl ⟨rfl, c90, c101, c110⟩ | exact Or.inr (Or.inl ⟨rfl, c119, c130, c139, by first | exact Or.inl c90 | exact Or.inr (Or.inl c101) | exact Or.inr (Or.inr c110)⟩) | exact Or.inr (Or.inr ⟨by first | exact Or.inl c90 | exact Or.inr (Or.inl c101) | exact Or.inr (Or.inr c110), by first | exact Or.inl c119 | exact Or.inr (Or.inl c130) | exact Or.inr (Or.inr c139), by first | exact Or.inl ⟨rfl, c148⟩ | exact Or.inr ⟨rfl, c148⟩⟩))) H locs ls hG hS (lv_sub hl [] rfl)
            · refine lv_iconst (v := iI (3)) X.1 X.2.1 dX12_close_151 rfl ?_
              refine lv_goto (tgt := 156) X.1 X.2.1 dX12_close_152 (by decide) ?_
              exact K156 3 (by exact kdP hk9 hb hb2 hfl (by first | exact Or.inl ⟨rfl, c90, c101, c110⟩ | exact Or.inr (Or.inl ⟨rfl, c119, c130, c139, by first | exact Or.inl c90 | exact Or.inr (Or.inl c101) | exact Or.inr (Or.inr c110)⟩) | exact Or.inr (Or.inr ⟨by first | exact Or.inl c90 | exact Or.inr (Or.inl c101) | exact Or.inr (Or.inr c110), by first | exact Or.inl c119 | exact Or.inr (Or.inl c130) | exact Or.inr (Or.inr c139), by first | exact Or.inl ⟨rfl, c148⟩ | exact Or.inr ⟨rfl, c148⟩⟩))) H locs ls hG hS (lv_sub hl [] rfl)
          · refine lv_aload_n X.1 X.2.1 dX12_close_122 rfl (lv_at hl 1 rfl) ?_
            refine n_get (ci := 10) X in_X12 hW hG hL rfl 4 (by decide) q592 (fun _ h => h) rfl dX12_close_123 ?_
            refine g_callV (ci := 17) (rest := [.ref L]) (k := 0) X hW hG hS hLA rfl (al_size l G A (lv - 1) h n (L + 1) xs q hA) (lw_V q689 q323 q324 q69 q325) (by decide +kernel) rfl ⟨by show (lv - 1) + 1 ≤ lv; omega, by show 8 + (1 + 11) + 40 * (lv - 1) ≤ 40 * lv; omega⟩ ⟨by show 0 + 0 ≤ 0; first | omega | exact hlet | exact hfun | exact hflR | exact hb9 | exact hb29, by show 0 + 0 ≤ 0; first | omega | exact hlet | exact hfun | exact hflR | exact hb9 | exact hb29⟩ hl.1 rfl (Nat.le_of_ble_eq_true rfl) dX12_close_126 (g_pk (fun H locs hG hS => ?_))
            show W p l e (gR lv 0 0) s m args below meth c H locs 0 0 Q (F0 m 129 ls [.int (iI ((xs.length : Int))), .ref L])
            refine lv_iconst (v := iI (3)) X.1 X.2.1 dX12_close_129 rfl ?_
            refine i_icmp_ne X 147 dX12_close_130 (by decide) (by first | omega | exact hlet | exact hfun | exact hflR | exact hb9 | exact hb29) (by first | omega | exact hlet | exact hfun | exact hflR | exact hb9 | exact hb29) (fun c130 => ?_) (fun c130 => ?_)
            · refine lv_iload_n X.1 X.2.1 dX12_close_147 rfl (lv_at hl 2 rfl) ?_
              refine i_if_eq X 155 dX12_close_148 (by decide) (by first | omega | exact hlet | exact hfun | exact hflR | exact hb9 | exact hb29) (fun c148 => ?_) (fun c148 => ?_)
              · refine lv_iconst (v := iI (2)) X.1 X.2.1 dX12_close_155 rfl ?_
                exact K156 2 (by exact kdP hk9 hb hb2 hfl (by first | exact Or.inl ⟨rfl, c90, c101, c110⟩ | exact Or.inr (Or.inl ⟨rfl, c119, c130, c139, by first | exact Or.inl c90 | exact Or.inr (Or.inl c101) | exact Or.inr (Or.inr c110)⟩) | exact Or.inr (Or.inr ⟨by first | exact Or.inl c90 | exact Or.inr (Or.inl c101) | exact Or.inr (Or.inr c110), by first | exact Or.inl c119 | exact Or.inr (Or.inl c130) | exact Or.inr (Or.inr c139), by first | exact Or.inl ⟨rfl, c148⟩ | exact Or.inr ⟨rfl, c148⟩⟩))) H locs ls hG hS (lv_sub hl [] rfl)
              · refine lv_iconst (v := iI (3)) X.1 X.2.1 dX12_close_151 rfl ?_
                refine lv_goto (tgt := 156) X.1 X.2.1 dX12_close_152 (by decide) ?_
                exact K156 3 (by exact kdP hk9 hb hb2 hfl (by first | exact Or.inl ⟨rfl, c90, c101, c110⟩ | exact Or.inr (Or.inl ⟨rfl, c119, c130, c139, by first | exact Or.inl c90 | exact Or.inr (Or.inl c101) | exact Or.inr (Or.inr c110)⟩) | exact Or.inr (Or.inr ⟨by first | exact Or.inl c90 | exact Or.inr (Or.inl c101) | exact Or.inr (Or.inr c110), by first | exact Or.inl c119 | exact Or.inr (Or.inl c130) | exact Or.inr (Or.inr c139), by first | exact Or.inl ⟨rfl, c148⟩ | exact Or.inr ⟨rfl, c148⟩⟩))) H locs ls hG hS (lv_sub hl [] rfl)
            · refine lv_lload_n X.1 X.2.1 dX12_close_133 rfl (lv_at hl 0 rfl) ?_
              refine va_ldcS X.1 X.2.1 X.2.2.2.1 (hW.str (i := 5) rfl).1 dX12_close_134 ?_
              refine g_callSN (rest := [.long (lI (fl)), .ref L]) (k := 1) X hW hG hS (gg_word l G A (lv - 1) h n 5 _ _ _ _ (by omega) rfl) q704 q271 q66 (lw_meth q272) (by decide +kernel) rfl ⟨by show (lv - 1) + 1 ≤ lv; omega, by show 8 + (4 + 11) + 40 * (lv - 1) ≤ 40 * lv; omega⟩ ⟨by show 0 + 0 ≤ 0; first | omega | exact hlet | exact hfun | exact hflR | exact hb9 | exact hb29, by show 0 + 0 ≤ 0; first | omega | exact hlet | exact hfun | exact hflR | exact hb9 | exact hb29⟩ hl.1 rfl (Nat.le_of_ble_eq_true rfl) dX12_close_136 (g_pk (fun H locs hG hS => ?_))
              show W p l e (gR lv 0 0) s m args below meth c H locs 0 0 Q (F0 m 139 ls [.long (lI (wBE [102, 117, 110] [102, 117, 110].length)), .long (lI (fl)), .ref L])
              refine i_lcmp_ne X 147 dX12_close_139 dX12_close_140 (by decide) (by first | omega | exact hlet | exact hfun | exact hflR | exact hb9 | exact hb29) (by first | omega | exact hlet | exact hfun | exact hflR | exact hb9 | exact hb29) (fun c139 => ?_) (fun c139 => ?_)
              · refine lv_iload_n X.1 X.2.1 dX12_close_147 rfl (lv_at hl 2 rfl) ?_
                refine i_if_eq X 155 dX12_close_148 (by decide) (by first | omega | exact hlet | exact hfun | exact hflR | exact hb9 | exact hb29) (fun c148 => ?_) (fun c148 => ?_)
                · refine lv_iconst (v := iI (2)) X.1 X.2.1 dX12_close_155 rfl ?_
                  exact K156 2 (by exact kdP hk9 hb hb2 hfl (by first | exact Or.inl ⟨rfl, c90, c101, c110⟩ | exact Or.inr (Or.inl ⟨rfl, c119, c130, c139, by first | exact Or.inl c90 | exact Or.inr (Or.inl c101) | exact Or.inr (Or.inr c110)⟩) | exact Or.inr (Or.inr ⟨by first | exact Or.inl c90 | exact Or.inr (Or.inl c101) | exact Or.inr (Or.inr c110), by first | exact Or.inl c119 | exact Or.inr (Or.inl c130) | exact Or.inr (Or.inr c139), by first | exact Or.inl ⟨rfl, c148⟩ | exact Or.inr ⟨rfl, c148⟩⟩))) H locs ls hG hS (lv_sub hl [] rfl)
                · refine lv_iconst (v := iI (3)) X.1 X.2.1 dX12_close_151 rfl ?_
                  refine lv_goto (tgt := 156) X.1 X.2.1 dX12_close_152 (by decide) ?_
                  exact K156 3 (by exact kdP hk9 hb hb2 hfl (by first | exact Or.inl ⟨rfl, c90, c101, c110⟩ | exact Or.inr (Or.inl ⟨rfl, c119, c130, c139, by first | exact Or.inl c90 | exact Or.inr (Or.inl c101) | exact Or.inr (Or.inr c110)⟩) | exact Or.inr (Or.inr ⟨by first | exact Or.inl c90 | exact Or.inr (Or.inl c101) | exact Or.inr (Or.inr c110), by first | exact Or.inl c119 | exact Or.inr (Or.inl c130) | exact Or.inr (Or.inr c139), by first | exact Or.inl ⟨rfl, c148⟩ | exact Or.inr ⟨rfl, c148⟩⟩))) H locs ls hG hS (lv_sub hl [] rfl)
              · refine lv_iconst (v := iI (5)) X.1 X.2.1 dX12_close_143 rfl ?_
                refine lv_goto (tgt := 156) X.1 X.2.1 dX12_close_144 (by decide) ?_
                exact K156 5 (by exact kdP hk9 hb hb2 hfl (by first | exact Or.inl ⟨rfl, c90, c101, c110⟩ | exact Or.inr (Or.inl ⟨rfl, c119, c130, c139, by first | exact Or.inl c90 | exact Or.inr (Or.inl c101) | exact Or.inr (Or.inr c110)⟩) | exact Or.inr (Or.inr ⟨by first | exact Or.inl c90 | exact Or.inr (Or.inl c101) | exact Or.inr (Or.inr c110), by first | exact Or.inl c119 | exact Or.inr (Or.inl c130) | exact Or.inr (Or.inr c139), by first | exact Or.inl ⟨rfl, c148⟩ | exact Or.inr ⟨rfl, c148⟩⟩))) H locs ls hG hS (lv_sub hl [] rfl)
        · refine lv_aload_n X.1 X.2.1 dX12_close_93 rfl (lv_at hl 1 rfl) ?_
          refine n_get (ci := 10) X in_X12 hW hG hL rfl 4 (by decide) q592 (fun _ h => h) rfl dX12_close_94 ?_
          refine g_callV (ci := 17) (rest := [.ref L]) (k := 0) X hW hG hS hLA rfl (al_size l G A (lv - 1) h n (L + 1) xs q hA) (lw_V q689 q323 q324 q69 q325) (by decide +kernel) rfl ⟨by show (lv - 1) + 1 ≤ lv; omega, by show 8 + (1 + 11) + 40 * (lv - 1) ≤ 40 * lv; omega⟩ ⟨by show 0 + 0 ≤ 0; first | omega | exact hlet | exact hfun | exact hflR | exact hb9 | exact hb29, by show 0 + 0 ≤ 0; first | omega | exact hlet | exact hfun | exact hflR | exact hb9 | exact hb29⟩ hl.1 rfl (Nat.le_of_ble_eq_true rfl) dX12_close_97 (g_pk (fun H locs hG hS => ?_))
          show W p l e (gR lv 0 0) s m args below meth c H locs 0 0 Q (F0 m 100 ls [.int (iI ((xs.length : Int))), .ref L])
          refine lv_iconst (v := iI (4)) X.1 X.2.1 dX12_close_100 rfl ?_
          refine i_icmp_ne X 118 dX12_close_101 (by decide) (by first | omega | exact hlet | exact hfun | exact hflR | exact hb9 | exact hb29) (by first | omega | exact hlet | exact hfun | exact hflR | exact hb9 | exact hb29) (fun c101 => ?_) (fun c101 => ?_)
          · refine lv_iload_n X.1 X.2.1 dX12_close_118 rfl (lv_at hl 3 rfl) ?_
            refine i_if_eq X 147 dX12_close_119 (by decide) (by first | omega | exact hlet | exact hfun | exact hflR | exact hb9 | exact hb29) (fun c119 => ?_) (fun c119 => ?_)
            · refine lv_iload_n X.1 X.2.1 dX12_close_147 rfl (lv_at hl 2 rfl) ?_
              refine i_if_eq X 155 dX12_close_148 (by decide) (by first | omega | exact hlet | exact hfun | exact hflR | exact hb9 | exact hb29) (fun c148 => ?_) (fun c148 => ?_)
              · refine lv_iconst (v := iI (2)) X.1 X.2.1 dX12_close_155 rfl ?_
                exact K156 2 (by exact kdP hk9 hb hb2 hfl (by first | exact Or.inl ⟨rfl, c90, c101, c110⟩ | exact Or.inr (Or.inl ⟨rfl, c119, c130, c139, by first | exact Or.inl c90 | exact Or.inr (Or.inl c101) | exact Or.inr (Or.inr c110)⟩) | exact Or.inr (Or.inr ⟨by first | exact Or.inl c90 | exact Or.inr (Or.inl c101) | exact Or.inr (Or.inr c110), by first | exact Or.inl c119 | exact Or.inr (Or.inl c130) | exact Or.inr (Or.inr c139), by first | exact Or.inl ⟨rfl, c148⟩ | exact Or.inr ⟨rfl, c148⟩⟩))) H locs ls hG hS (lv_sub hl [] rfl)
              · refine lv_iconst (v := iI (3)) X.1 X.2.1 dX12_close_151 rfl ?_
                refine lv_goto (tgt := 156) X.1 X.2.1 dX12_close_152 (by decide) ?_
                exact K156 3 (by exact kdP hk9 hb hb2 hfl (by first | exact Or.inl ⟨rfl, c90, c101, c110⟩ | exact Or.inr (Or.inl ⟨rfl, c119, c130, c139, by first | exact Or.inl c90 | exact Or.inr (Or.inl c101) | exact Or.inr (Or.inr c110)⟩) | exact Or.inr (Or.inr ⟨by first | exact Or.inl c90 | exact Or.inr (Or.inl c101) | exact Or.inr (Or.inr c110), by first | exact Or.inl c119 | exact Or.inr (Or.inl c130) | exact Or.inr (Or.inr c139), by first | exact Or.inl ⟨rfl, c148⟩ | exact Or.inr ⟨rfl, c148⟩⟩))) H locs ls hG hS (lv_sub hl [] rfl)
            · refine lv_aload_n X.1 X.2.1 dX12_close_122 rfl (lv_at hl 1 rfl) ?_
              refine n_get (ci := 10) X in_X12 hW hG hL rfl 4 (by decide) q592 (fun _ h => h) rfl dX12_close_123 ?_
              refine g_callV (ci := 17) (rest := [.ref L]) (k := 0) X hW hG hS hLA rfl (al_size l G A (lv - 1) h n (L + 1) xs q hA) (lw_V q689 q323 q324 q69 q325) (by decide +kernel) rfl ⟨by show (lv - 1) + 1 ≤ lv; omega, by show 8 + (1 + 11) + 40 * (lv - 1) ≤ 40 * lv; omega⟩ ⟨by show 0 + 0 ≤ 0; first | omega | exact hlet | exact hfun | exact hflR | exact hb9 | exact hb29, by show 0 + 0 ≤ 0; first | omega | exact hlet | exact hfun | exact hflR | exact hb9 | exact hb29⟩ hl.1 rfl (Nat.le_of_ble_eq_true rfl) dX12_close_126 (g_pk (fun H locs hG hS => ?_))
              show W p l e (gR lv 0 0) s m args below meth c H locs 0 0 Q (F0 m 129 ls [.int (iI ((xs.length : Int))), .ref L])
              refine lv_iconst (v := iI (3)) X.1 X.2.1 dX12_close_129 rfl ?_
              refine i_icmp_ne X 147 dX12_close_130 (by decide) (by first | omega | exact hlet | exact hfun | exact hflR | exact hb9 | exact hb29) (by first | omega | exact hlet | exact hfun | exact hflR | exact hb9 | exact hb29) (fun c130 => ?_) (fun c130 => ?_)
              · refine lv_iload_n X.1 X.2.1 dX12_close_147 rfl (lv_at hl 2 rfl) ?_
                refine i_if_eq X 155 dX12_close_148 (by decide) (by first | omega | exact hlet | exact hfun | exact hflR | exact hb9 | exact hb29) (fun c148 => ?_) (fun c148 => ?_)
                · refine lv_iconst (v := iI (2)) X.1 X.2.1 dX12_close_155 rfl ?_
                  exact K156 2 (by exact kdP hk9 hb hb2 hfl (by first | exact Or.inl ⟨rfl, c90, c101, c110⟩ | exact Or.inr (Or.inl ⟨rfl, c119, c130, c139, by first | exact Or.inl c90 | exact Or.inr (Or.inl c101) | exact Or.inr (Or.inr c110)⟩) | exact Or.inr (Or.inr ⟨by first | exact Or.inl c90 | exact Or.inr (Or.inl c101) | exact Or.inr (Or.inr c110), by first | exact Or.inl c119 | exact Or.inr (Or.inl c130) | exact Or.inr (Or.inr c139), by first | exact Or.inl ⟨rfl, c148⟩ | exact Or.inr ⟨rfl, c148⟩⟩))) H locs ls hG hS (lv_sub hl [] rfl)
                · refine lv_iconst (v := iI (3)) X.1 X.2.1 dX12_close_151 rfl ?_
                  refine lv_goto (tgt := 156) X.1 X.2.1 dX12_close_152 (by decide) ?_
                  exact K156 3 (by exact kdP hk9 hb hb2 hfl (by first | exact Or.inl ⟨rfl, c90, c101, c110⟩ | exact Or.inr (Or.inl ⟨rfl, c119, c130, c139, by first | exact Or.inl c90 | exact Or.inr (Or.inl c101) | exact Or.inr (Or.inr c110)⟩) | exact Or.inr (Or.inr ⟨by first | exact Or.inl c90 | exact Or.inr (Or.inl c101) | exact Or.inr (Or.inr c110), by first | exact Or.inl c119 | exact Or.inr (Or.inl c130) | exact Or.inr (Or.inr c139), by first | exact Or.inl ⟨rfl, c148⟩ | exact Or.inr ⟨rfl, c148⟩⟩))) H locs ls hG hS (lv_sub hl [] rfl)
              · refine lv_lload_n X.1 X.2.1 dX12_close_133 rfl (lv_at hl 0 rfl) ?_
                refine va_ldcS X.1 X.2.1 X.2.2.2.1 (hW.str (i := 5) rfl).1 dX12_close_134 ?_
                refine g_callSN (rest := [.long (lI (fl)), .ref L]) (k := 1) X hW hG hS (gg_word l G A (lv - 1) h n 5 _ _ _ _ (by omega) rfl) q704 q271 q66 (lw_meth q272) (by decide +kernel) rfl ⟨by show (lv - 1) + 1 ≤ lv; omega, by show 8 + (4 + 11) + 40 * (lv - 1) ≤ 40 * lv; omega⟩ ⟨by show 0 + 0 ≤ 0; first | omega | exact hlet | exact hfun | exact hflR | exact hb9 | exact hb29, by show 0 + 0 ≤ 0; first | omega | exact hlet | exact hfun | exact hflR | exact hb9 | exact hb29⟩ hl.1 rfl (Nat.le_of_ble_eq_true rfl) dX12_close_136 (g_pk (fun H locs hG hS => ?_))
                show W p l e (gR lv 0 0) s m args below meth c H locs 0 0 Q (F0 m 139 ls [.long (lI (wBE [102, 117, 110] [102, 117, 110].length)), .long (lI (fl)), .ref L])
                refine i_lcmp_ne X 147 dX12_close_139 dX12_close_140 (by decide) (by first | omega | exact hlet | exact hfun | exact hflR | exact hb9 | exact hb29) (by first | omega | exact hlet | exact hfun | exact hflR | exact hb9 | exact hb29) (fun c139 => ?_) (fun c139 => ?_)
                · refine lv_iload_n X.1 X.2.1 dX12_close_147 rfl (lv_at hl 2 rfl) ?_
                  refine i_if_eq X 155 dX12_close_148 (by decide) (by first | omega | exact hlet | exact hfun | exact hflR | exact hb9 | exact hb29) (fun c148 => ?_) (fun c148 => ?_)
                  · refine lv_iconst (v := iI (2)) X.1 X.2.1 dX12_close_155 rfl ?_
                    exact K156 2 (by exact kdP hk9 hb hb2 hfl (by first | exact Or.inl ⟨rfl, c90, c101, c110⟩ | exact Or.inr (Or.inl ⟨rfl, c119, c130, c139, by first | exact Or.inl c90 | exact Or.inr (Or.inl c101) | exact Or.inr (Or.inr c110)⟩) | exact Or.inr (Or.inr ⟨by first | exact Or.inl c90 | exact Or.inr (Or.inl c101) | exact Or.inr (Or.inr c110), by first | exact Or.inl c119 | exact Or.inr (Or.inl c130) | exact Or.inr (Or.inr c139), by first | exact Or.inl ⟨rfl, c148⟩ | exact Or.inr ⟨rfl, c148⟩⟩))) H locs ls hG hS (lv_sub hl [] rfl)
                  · refine lv_iconst (v := iI (3)) X.1 X.2.1 dX12_close_151 rfl ?_
                    refine lv_goto (tgt := 156) X.1 X.2.1 dX12_close_152 (by decide) ?_
                    exact K156 3 (by exact kdP hk9 hb hb2 hfl (by first | exact Or.inl ⟨rfl, c90, c101, c110⟩ | exact Or.inr (Or.inl ⟨rfl, c119, c130, c139, by first | exact Or.inl c90 | exact Or.inr (Or.inl c101) | exact Or.inr (Or.inr c110)⟩) | exact Or.inr (Or.inr ⟨by first | exact Or.inl c90 | exact Or.inr (Or.inl c101) | exact Or.inr (Or.inr c110), by first | exact Or.inl c119 | exact Or.inr (Or.inl c130) | exact Or.inr (Or.inr c139), by first | exact Or.inl ⟨rfl, c148⟩ | exact Or.inr ⟨rfl, c148⟩⟩))) H locs ls hG hS (lv_sub hl [] rfl)
                · refine lv_iconst (v := iI (5)) X.1 X.2.1 dX12_close_143 rfl ?_
                  refine lv_goto (tgt := 156) X.1 X.2.1 dX12_close_144 (by decide) ?_
                  exact K156 5 (by exact kdP hk9 hb hb2 hfl (by first | exact Or.inl ⟨rfl, c90, c101, c110⟩ | exact Or.inr (Or.inl ⟨rfl, c119, c130, c139, by first | exact Or.inl c90 | exact Or.inr (Or.inl c101) | exact Or.inr (Or.inr c110)⟩) | exact Or.inr (Or.inr ⟨by first | exact Or.inl c90 | exact Or.inr (Or.inl c101) | exact Or.inr (Or.inr c110), by first | exact Or.inl c119 | exact Or.inr (Or.inl c130) | exact Or.inr (Or.inr c139), by first | exact Or.inl ⟨rfl, c148⟩ | exact Or.inr ⟨rfl, c148⟩⟩))) H locs ls hG hS (lv_sub hl [] rfl)
          · refine lv_lload_n X.1 X.2.1 dX12_close_104 rfl (lv_at hl 0 rfl) ?_
            refine va_ldcS X.1 X.2.1 X.2.2.2.1 (hW.str (i := 4) rfl).1 dX12_close_105 ?_
            refine g_callSN (rest := [.long (lI (fl)), .ref L]) (k := 1) X hW hG hS (gg_word l G A (lv - 1) h n 4 _ _ _ _ (by omega) rfl) q704 q271 q66 (lw_meth q272) (by decide +kernel) rfl ⟨by show (lv - 1) + 1 ≤ lv; omega, by show 8 + (4 + 11) + 40 * (lv - 1) ≤ 40 * lv; omega⟩ ⟨by show 0 + 0 ≤ 0; first | omega | exact hlet | exact hfun | exact hflR | exact hb9 | exact hb29, by show 0 + 0 ≤ 0; first | omega | exact hlet | exact hfun | exact hflR | exact hb9 | exact hb29⟩ hl.1 rfl (Nat.le_of_ble_eq_true rfl) dX12_close_107 (g_pk (fun H locs hG hS => ?_))
            show W p l e (gR lv 0 0) s m args below meth c H locs 0 0 Q (F0 m 110 ls [.long (lI (wBE [108, 101, 116] [108, 101, 116].length)), .long (lI (fl)), .ref L])
            refine i_lcmp_ne X 118 dX12_close_110 dX12_close_111 (by decide) (by first | omega | exact hlet | exact hfun | exact hflR | exact hb9 | exact hb29) (by first | omega | exact hlet | exact hfun | exact hflR | exact hb9 | exact hb29) (fun c110 => ?_) (fun c110 => ?_)
            · refine lv_iload_n X.1 X.2.1 dX12_close_118 rfl (lv_at hl 3 rfl) ?_
              refine i_if_eq X 147 dX12_close_119 (by decide) (by first | omega | exact hlet | exact hfun | exact hflR | exact hb9 | exact hb29) (fun c119 => ?_) (fun c119 => ?_)
              · refine lv_iload_n X.1 X.2.1 dX12_close_147 rfl (lv_at hl 2 rfl) ?_
                refine i_if_eq X 155 dX12_close_148 (by decide) (by first | omega | exact hlet | exact hfun | exact hflR | exact hb9 | exact hb29) (fun c148 => ?_) (fun c148 => ?_)
                · refine lv_iconst (v := iI (2)) X.1 X.2.1 dX12_close_155 rfl ?_
                  exact K156 2 (by exact kdP hk9 hb hb2 hfl (by first | exact Or.inl ⟨rfl, c90, c101, c110⟩ | exact Or.inr (Or.inl ⟨rfl, c119, c130, c139, by first | exact Or.inl c90 | exact Or.inr (Or.inl c101) | exact Or.inr (Or.inr c110)⟩) | exact Or.inr (Or.inr ⟨by first | exact Or.inl c90 | exact Or.inr (Or.inl c101) | exact Or.inr (Or.inr c110), by first | exact Or.inl c119 | exact Or.inr (Or.inl c130) | exact Or.inr (Or.inr c139), by first | exact Or.inl ⟨rfl, c148⟩ | exact Or.inr ⟨rfl, c148⟩⟩))) H locs ls hG hS (lv_sub hl [] rfl)
                · refine lv_iconst (v := iI (3)) X.1 X.2.1 dX12_close_151 rfl ?_
                  refine lv_goto (tgt := 156) X.1 X.2.1 dX12_close_152 (by decide) ?_
                  exact K156 3 (by exact kdP hk9 hb hb2 hfl (by first | exact Or.inl ⟨rfl, c90, c101, c110⟩ | exact Or.inr (Or.inl ⟨rfl, c119, c130, c139, by first | exact Or.inl c90 | exact Or.inr (Or.inl c101) | exact Or.inr (Or.inr c110)⟩) | exact Or.inr (Or.inr ⟨by first | exact Or.inl c90 | exact Or.inr (Or.inl c101) | exact Or.inr (Or.inr c110), by first | exact Or.inl c119 | exact Or.inr (Or.inl c130) | exact Or.inr (Or.inr c139), by first | exact Or.inl ⟨rfl, c148⟩ | exact Or.inr ⟨rfl, c148⟩⟩))) H locs ls hG hS (lv_sub hl [] rfl)
              · refine lv_aload_n X.1 X.2.1 dX12_close_122 rfl (lv_at hl 1 rfl) ?_
                refine n_get (ci := 10) X in_X12 hW hG hL rfl 4 (by decide) q592 (fun _ h => h) rfl dX12_close_123 ?_
                refine g_callV (ci := 17) (rest := [.ref L]) (k := 0) X hW hG hS hLA rfl (al_size l G A (lv - 1) h n (L + 1) xs q hA) (lw_V q689 q323 q324 q69 q325) (by decide +kernel) rfl ⟨by show (lv - 1) + 1 ≤ lv; omega, by show 8 + (1 + 11) + 40 * (lv - 1) ≤ 40 * lv; omega⟩ ⟨by show 0 + 0 ≤ 0; first | omega | exact hlet | exact hfun | exact hflR | exact hb9 | exact hb29, by show 0 + 0 ≤ 0; first | omega | exact hlet | exact hfun | exact hflR | exact hb9 | exact hb29⟩ hl.1 rfl (Nat.le_of_ble_eq_true rfl) dX12_close_126 (g_pk (fun H locs hG hS => ?_))
                show W p l e (gR lv 0 0) s m args below meth c H locs 0 0 Q (F0 m 129 ls [.int (iI ((xs.length : Int))), .ref L])
                refine lv_iconst (v := iI (3)) X.1 X.2.1 dX12_close_129 rfl ?_
                refine i_icmp_ne X 147 dX12_close_130 (by decide) (by first | omega | exact hlet | exact hfun | exact hflR | exact hb9 | exact hb29) (by first | omega | exact hlet | exact hfun | exact hflR | exact hb9 | exact hb29) (fun c130 => ?_) (fun c130 => ?_)
                · refine lv_iload_n X.1 X.2.1 dX12_close_147 rfl (lv_at hl 2 rfl) ?_
                  refine i_if_eq X 155 dX12_close_148 (by decide) (by first | omega | exact hlet | exact hfun | exact hflR | exact hb9 | exact hb29) (fun c148 => ?_) (fun c148 => ?_)
                  · refine lv_iconst (v := iI (2)) X.1 X.2.1 dX12_close_155 rfl ?_
                    exact K156 2 (by exact kdP hk9 hb hb2 hfl (by first | exact Or.inl ⟨rfl, c90, c101, c110⟩ | exact Or.inr (Or.inl ⟨rfl, c119, c130, c139, by first | exact Or.inl c90 | exact Or.inr (Or.inl c101) | exact Or.inr (Or.inr c110)⟩) | exact Or.inr (Or.inr ⟨by first | exact Or.inl c90 | exact Or.inr (Or.inl c101) | exact Or.inr (Or.inr c110), by first | exact Or.inl c119 | exact Or.inr (Or.inl c130) | exact Or.inr (Or.inr c139), by first | exact Or.inl ⟨rfl, c148⟩ | exact Or.inr ⟨rfl, c148⟩⟩))) H locs ls hG hS (lv_sub hl [] rfl)
                  · refine lv_iconst (v := iI (3)) X.1 X.2.1 dX12_close_151 rfl ?_
                    refine lv_goto (tgt := 156) X.1 X.2.1 dX12_close_152 (by decide) ?_
                    exact K156 3 (by exact kdP hk9 hb hb2 hfl (by first | exact Or.inl ⟨rfl, c90, c101, c110⟩ | exact Or.inr (Or.inl ⟨rfl, c119, c130, c139, by first | exact Or.inl c90 | exact Or.inr (Or.inl c101) | exact Or.inr (Or.inr c110)⟩) | exact Or.inr (Or.inr ⟨by first | exact Or.inl c90 | exact Or.inr (Or.inl c101) | exact Or.inr (Or.inr c110), by first | exact Or.inl c119 | exact Or.inr (Or.inl c130) | exact Or.inr (Or.inr c139), by first | exact Or.inl ⟨rfl, c148⟩ | exact Or.inr ⟨rfl, c148⟩⟩))) H locs ls hG hS (lv_sub hl [] rfl)
                · refine lv_lload_n X.1 X.2.1 dX12_close_133 rfl (lv_at hl 0 rfl) ?_
                  refine va_ldcS X.1 X.2.1 X.2.2.2.1 (hW.str (i := 5) rfl).1 dX12_close_134 ?_
                  refine g_callSN (rest := [.long (lI (fl)), .ref L]) (k := 1) X hW hG hS (gg_word l G A (lv - 1) h n 5 _ _ _ _ (by omega) rfl) q704 q271 q66 (lw_meth q272) (by decide +kernel) rfl ⟨by show (lv - 1) + 1 ≤ lv; omega, by show 8 + (4 + 11) + 40 * (lv - 1) ≤ 40 * lv; omega⟩ ⟨by show 0 + 0 ≤ 0; first | omega | exact hlet | exact hfun | exact hflR | exact hb9 | exact hb29, by show 0 + 0 ≤ 0; first | omega | exact hlet | exact hfun | exact hflR | exact hb9 | exact hb29⟩ hl.1 rfl (Nat.le_of_ble_eq_true rfl) dX12_close_136 (g_pk (fun H locs hG hS => ?_))
                  show W p l e (gR lv 0 0) s m args below meth c H locs 0 0 Q (F0 m 139 ls [.long (lI (wBE [102, 117, 110] [102, 117, 110].length)), .long (lI (fl)), .ref L])
                  refine i_lcmp_ne X 147 dX12_close_139 dX12_close_140 (by decide) (by first | omega | exact hlet | exact hfun | exact hflR | exact hb9 | exact hb29) (by first | omega | exact hlet | exact hfun | exact hflR | exact hb9 | exact hb29) (fun c139 => ?_) (fun c139 => ?_)
                  · refine lv_iload_n X.1 X.2.1 dX12_close_147 rfl (lv_at hl 2 rfl) ?_
                    refine i_if_eq X 155 dX12_close_148 (by decide) (by first | omega | exact hlet | exact hfun | exact hflR | exact hb9 | exact hb29) (fun c148 => ?_) (fun c148 => ?_)
                    · refine lv_iconst (v := iI (2)) X.1 X.2.1 dX12_close_155 rfl ?_
                      exact K156 2 (by exact kdP hk9 hb hb2 hfl (by first | exact Or.inl ⟨rfl, c90, c101, c110⟩ | exact Or.inr (Or.inl ⟨rfl, c119, c130, c139, by first | exact Or.inl c90 | exact Or.inr (Or.inl c101) | exact Or.inr (Or.inr c110)⟩) | exact Or.inr (Or.inr ⟨by first | exact Or.inl c90 | exact Or.inr (Or.inl c101) | exact Or.inr (Or.inr c110), by first | exact Or.inl c119 | exact Or.inr (Or.inl c130) | exact Or.inr (Or.inr c139), by first | exact Or.inl ⟨rfl, c148⟩ | exact Or.inr ⟨rfl, c148⟩⟩))) H locs ls hG hS (lv_sub hl [] rfl)
                    · refine lv_iconst (v := iI (3)) X.1 X.2.1 dX12_close_151 rfl ?_
                      refine lv_goto (tgt := 156) X.1 X.2.1 dX12_close_152 (by decide) ?_
                      exact K156 3 (by exact kdP hk9 hb hb2 hfl (by first | exact Or.inl ⟨rfl, c90, c101, c110⟩ | exact Or.inr (Or.inl ⟨rfl, c119, c130, c139, by first | exact Or.inl c90 | exact Or.inr (Or.inl c101) | exact Or.inr (Or.inr c110)⟩) | exact Or.inr (Or.inr ⟨by first | exact Or.inl c90 | exact Or.inr (Or.inl c101) | exact Or.inr (Or.inr c110), by first | exact Or.inl c119 | exact Or.inr (Or.inl c130) | exact Or.inr (Or.inr c139), by first | exact Or.inl ⟨rfl, c148⟩ | exact Or.inr ⟨rfl, c148⟩⟩))) H locs ls hG hS (lv_sub hl [] rfl)
                  · refine lv_iconst (v := iI (5)) X.1 X.2.1 dX12_close_143 rfl ?_
                    refine lv_goto (tgt := 156) X.1 X.2.1 dX12_close_144 (by decide) ?_
                    exact K156 5 (by exact kdP hk9 hb hb2 hfl (by first | exact Or.inl ⟨rfl, c90, c101, c110⟩ | exact Or.inr (Or.inl ⟨rfl, c119, c130, c139, by first | exact Or.inl c90 | exact Or.inr (Or.inl c101) | exact Or.inr (Or.inr c110)⟩) | exact Or.inr (Or.inr ⟨by first | exact Or.inl c90 | exact Or.inr (Or.inl c101) | exact Or.inr (Or.inr c110), by first | exact Or.inl c119 | exact Or.inr (Or.inl c130) | exact Or.inr (Or.inr c139), by first | exact Or.inl ⟨rfl, c148⟩ | exact Or.inr ⟨rfl, c148⟩⟩))) H locs ls hG hS (lv_sub hl [] rfl)
            · refine lv_iconst (v := iI (4)) X.1 X.2.1 dX12_close_114 rfl ?_
              refine lv_goto (tgt := 156) X.1 X.2.1 dX12_close_115 (by decide) ?_
              exact K156 4 (by exact kdP hk9 hb hb2 hfl (by first | exact Or.inl ⟨rfl, c90, c101, c110⟩ | exact Or.inr (Or.inl ⟨rfl, c119, c130, c139, by first | exact Or.inl c90 | exact Or.inr (Or.inl c101) | exact Or.inr (Or.inr c110)⟩) | exact Or.inr (Or.inr ⟨by first | exact Or.inl c90 | exact Or.inr (Or.inl c101) | exact Or.inr (Or.inr c110), by first | exact Or.inl c119 | exact Or.inr (Or.inl c130) | exact Or.inr (Or.inr c139), by first | exact Or.inl ⟨rfl, c148⟩ | exact Or.inr ⟨rfl, c148⟩⟩))) H locs ls hG hS (lv_sub hl [] rfl)
      refine lv_iload_n X.1 X.2.1 dX12_close_65 rfl (lv_at hl 2 rfl) ?_
      refine i_if_eq X 86 dX12_close_66 (by decide) (by first | omega | exact hlet | exact hfun | exact hflR | exact hb9 | exact hb29) (fun c66 => ?_) (fun c66 => ?_)
      · refine lv_lconst (v := lI (0)) X.1 X.2.1 dX12_close_86 rfl ?_
        exact K87 0 (by rw [hb] at c66; first | (rw [if_pos ⟨hbl, hbw⟩, ev0]; done) | (rw [if_neg (by intro hz; have h9 := bI_eq0.mp c66; rw [decide_eq_true hz.1, decide_eq_true hz.2] at h9; cases h9)])) H locs ls hG hS (lv_sub hl [1, 2, 0] rfl)
      · have hbn := bI_ne0.mp (show bI _ ≠ 0 by rw [← hb]; exact c66)
        obtain ⟨hbl, hbw⟩ : 0 < (xs.length : Int) ∧ w0 = 1 := by simpa using hbn
        obtain ⟨c0, ip0, nm0, hx0, hI0, hw_c0, e0, ev0, hok0⟩ := hk0 (by omega)
        rw [itE1 (by omega)] at hI0
        refine lv_aload_n X.1 X.2.1 dX12_close_69 rfl (lv_at hl 1 rfl) ?_
        refine n_get (ci := 10) X in_X12 hW hG hL rfl 4 (by decide) q592 (fun _ h => h) rfl dX12_close_70 ?_
        refine lv_iconst (v := iI (0)) X.1 X.2.1 dX12_close_73 rfl ?_
        refine g_callV (ci := 17) (rest := []) (k := 1) X hW hG hS hLA rfl (al_get l G A (lv - 1) h n (L + 1) xs q 0 (ad c0) (by omega) hA (by omega) hx0) (lw_V q690 q691 q692 q69 q693) (by decide +kernel) rfl ⟨by show (lv - 1) + 1 ≤ lv; omega, by show 8 + (2 + 11) + 40 * (lv - 1) ≤ 40 * lv; omega⟩ ⟨by show 0 + 0 ≤ 0; first | omega | exact hlet | exact hfun | exact hflR | exact hb9 | exact hb29, by show 0 + 0 ≤ 0; first | omega | exact hlet | exact hfun | exact hflR | exact hb9 | exact hb29⟩ hl.1 rfl (Nat.le_of_ble_eq_true rfl) dX12_close_74 (g_pk (fun H locs hG hS => ?_))
        show W p l e (gR lv 0 0) s m args below meth c H locs 0 0 Q (F0 m 77 ls [.ref (ad c0)])
        refine n_cast (ci := 12) X hW hG hI0 rfl q702 (Or.inr rfl) dX12_close_77 ?_
        refine n_getN (ci := 12) X in_X14 hW hG hI0 rfl 4 (by decide) q672 (fun _ h => h) rfl dX12_close_80 ?_
        refine lv_goto (tgt := 87) X.1 X.2.1 dX12_close_83 (by decide) ?_
        exact K87 (gLt (F 1 c0)) (by rw [hb] at c66; first | (rw [if_pos ⟨hbl, hbw⟩, ev0]; done) | (rw [if_neg (by intro hz; have h9 := bI_eq0.mp c66; rw [decide_eq_true hz.1, decide_eq_true hz.2] at h9; cases h9)])) H locs ls hG hS (lv_sub hl [1, 2, 0] rfl)
    refine lv_iload_n X.1 X.2.1 dX12_close_30 rfl (lv_at hl 0 rfl) ?_
    refine i_if_eq X 63 dX12_close_31 (by decide) (by first | omega | exact hlet | exact hfun | exact hflR | exact hb9 | exact hb29) (fun c31 => ?_) (fun c31 => ?_)
    · refine lv_iconst (v := iI (0)) X.1 X.2.1 dX12_close_63 rfl ?_
      exact K64 0 (by rw [hb] at c31; first | (apply bI_t; rw [Bool.and_eq_true, Bool.and_eq_true (decide (1 < _))]; exact ⟨bI_ne0.mp c31, by simpa using c42, by rw [← e1]; exact c56⟩) | (apply bI_f; rw [Bool.and_eq_false_iff]; first | (left; exact bI_eq0.mp c31) | (right; rw [Bool.and_eq_false_iff]; first | (left; simpa using c42) | (right; rw [← e1]; exact c56)))) H locs ls hG hS (lv_sub hl [1, 0] rfl)
    · refine lv_aload_n X.1 X.2.1 dX12_close_34 rfl (lv_at hl 1 rfl) ?_
      refine n_get (ci := 10) X in_X12 hW hG hL rfl 4 (by decide) q592 (fun _ h => h) rfl dX12_close_35 ?_
      refine g_callV (ci := 17) (rest := []) (k := 0) X hW hG hS hLA rfl (al_size l G A (lv - 1) h n (L + 1) xs q hA) (lw_V q689 q323 q324 q69 q325) (by decide +kernel) rfl ⟨by show (lv - 1) + 1 ≤ lv; omega, by show 8 + (1 + 11) + 40 * (lv - 1) ≤ 40 * lv; omega⟩ ⟨by show 0 + 0 ≤ 0; first | omega | exact hlet | exact hfun | exact hflR | exact hb9 | exact hb29, by show 0 + 0 ≤ 0; first | omega | exact hlet | exact hfun | exact hflR | exact hb9 | exact hb29⟩ hl.1 rfl (Nat.le_of_ble_eq_true rfl) dX12_close_38 (g_pk (fun H locs hG hS => ?_))
      show W p l e (gR lv 0 0) s m args below meth c H locs 0 0 Q (F0 m 41 ls [.int (iI ((xs.length : Int)))])
      refine lv_iconst (v := iI (1)) X.1 X.2.1 dX12_close_41 rfl ?_
      refine i_icmp_le X 63 dX12_close_42 (by decide) (by first | omega | exact hlet | exact hfun | exact hflR | exact hb9 | exact hb29) (by first | omega | exact hlet | exact hfun | exact hflR | exact hb9 | exact hb29) (fun c42 => ?_) (fun c42 => ?_)
      · refine lv_iconst (v := iI (0)) X.1 X.2.1 dX12_close_63 rfl ?_
        exact K64 0 (by rw [hb] at c31; first | (apply bI_t; rw [Bool.and_eq_true, Bool.and_eq_true (decide (1 < _))]; exact ⟨bI_ne0.mp c31, by simpa using c42, by rw [← e1]; exact c56⟩) | (apply bI_f; rw [Bool.and_eq_false_iff]; first | (left; exact bI_eq0.mp c31) | (right; rw [Bool.and_eq_false_iff]; first | (left; simpa using c42) | (right; rw [← e1]; exact c56)))) H locs ls hG hS (lv_sub hl [1, 0] rfl)
      · obtain ⟨c1, ip1, nm1, hx1, hI1, hw_c1, e1⟩ := hk1 (by omega)
        refine lv_aload_n X.1 X.2.1 dX12_close_45 rfl (lv_at hl 1 rfl) ?_
        refine n_get (ci := 10) X in_X12 hW hG hL rfl 4 (by decide) q592 (fun _ h => h) rfl dX12_close_46 ?_
        refine lv_iconst (v := iI (1)) X.1 X.2.1 dX12_close_49 rfl ?_
        refine g_callV (ci := 17) (rest := []) (k := 1) X hW hG hS hLA rfl (al_get l G A (lv - 1) h n (L + 1) xs q 1 (ad c1) (by omega) hA (by omega) hx1) (lw_V q690 q691 q692 q69 q693) (by decide +kernel) rfl ⟨by show (lv - 1) + 1 ≤ lv; omega, by show 8 + (2 + 11) + 40 * (lv - 1) ≤ 40 * lv; omega⟩ ⟨by show 0 + 0 ≤ 0; first | omega | exact hlet | exact hfun | exact hflR | exact hb9 | exact hb29, by show 0 + 0 ≤ 0; first | omega | exact hlet | exact hfun | exact hflR | exact hb9 | exact hb29⟩ hl.1 rfl (Nat.le_of_ble_eq_true rfl) dX12_close_50 (g_pk (fun H locs hG hS => ?_))
        show W p l e (gR lv 0 0) s m args below meth c H locs 0 0 Q (F0 m 53 ls [.ref (ad c1)])
        refine it_instN X hW hG hI1 (hw_c1) q702 dX12_close_53 ?_
        refine i_if_eq X 63 dX12_close_56 (by decide) (bI_iR _) (fun c56 => ?_) (fun c56 => ?_)
        · have c56 := bI_eq0.mp c56
          refine lv_iconst (v := iI (0)) X.1 X.2.1 dX12_close_63 rfl ?_
          exact K64 0 (by rw [hb] at c31; first | (apply bI_t; rw [Bool.and_eq_true, Bool.and_eq_true (decide (1 < _))]; exact ⟨bI_ne0.mp c31, by simpa using c42, by rw [← e1]; exact c56⟩) | (apply bI_f; rw [Bool.and_eq_false_iff]; first | (left; exact bI_eq0.mp c31) | (right; rw [Bool.and_eq_false_iff]; first | (left; simpa using c42) | (right; rw [← e1]; exact c56)))) H locs ls hG hS (lv_sub hl [1, 0] rfl)
        · have c56 := bI_ne0.mp c56
          refine lv_iconst (v := iI (1)) X.1 X.2.1 dX12_close_59 rfl ?_
          refine lv_goto (tgt := 64) X.1 X.2.1 dX12_close_60 (by decide) ?_
          exact K64 1 (by rw [hb] at c31; first | (apply bI_t; rw [Bool.and_eq_true, Bool.and_eq_true (decide (1 < _))]; exact ⟨bI_ne0.mp c31, by simpa using c42, by rw [← e1]; exact c56⟩) | (apply bI_f; rw [Bool.and_eq_false_iff]; first | (left; exact bI_eq0.mp c31) | (right; rw [Bool.and_eq_false_iff]; first | (left; simpa using c42) | (right; rw [← e1]; exact c56)))) H locs ls hG hS (lv_sub hl [1, 0] rfl)
  refine lv_aload_n X.1 X.2.1 dX12_close_0 rfl (lv_at hl 0 rfl) ?_
  refine n_get (ci := 10) X in_X12 hW hG hL rfl 4 (by decide) q592 (fun _ h => h) rfl dX12_close_1 ?_
  refine g_callV (ci := 17) (rest := []) (k := 0) X hW hG hS hLA rfl (al_size l G A (lv - 1) h n (L + 1) xs q hA) (lw_V q689 q323 q324 q69 q325) (by decide +kernel) rfl ⟨by show (lv - 1) + 1 ≤ lv; omega, by show 8 + (1 + 11) + 40 * (lv - 1) ≤ 40 * lv; omega⟩ ⟨by show 0 + 0 ≤ 0; first | omega | exact hlet | exact hfun | exact hflR | exact hb9 | exact hb29, by show 0 + 0 ≤ 0; first | omega | exact hlet | exact hfun | exact hflR | exact hb9 | exact hb29⟩ hl.1 rfl (Nat.le_of_ble_eq_true rfl) dX12_close_4 (g_pk (fun H locs hG hS => ?_))
  show W p l e (gR lv 0 0) s m args below meth c H locs 0 0 Q (F0 m 7 ls [.int (iI ((xs.length : Int)))])
  refine i_if_le X 28 dX12_close_7 (by decide) (by first | omega | exact hlet | exact hfun | exact hflR | exact hb9 | exact hb29) (fun c7 => ?_) (fun c7 => ?_)
  · refine lv_iconst (v := iI (0)) X.1 X.2.1 dX12_close_28 rfl ?_
    exact K29 0 (by first | (apply bI_t; rw [Bool.and_eq_true]; exact ⟨by simpa using c7, by rw [← e0]; exact c21⟩) | (apply bI_f; rw [Bool.and_eq_false_iff]; first | (left; simpa using c7) | (right; rw [← e0]; exact c21))) H locs ls hG hS (lv_sub hl [0] rfl)
  · obtain ⟨c0, ip0, nm0, hx0, hI0, hw_c0, e0, ev0, hok0⟩ := hk0 (by omega)
    refine lv_aload_n X.1 X.2.1 dX12_close_10 rfl (lv_at hl 0 rfl) ?_
    refine n_get (ci := 10) X in_X12 hW hG hL rfl 4 (by decide) q592 (fun _ h => h) rfl dX12_close_11 ?_
    refine lv_iconst (v := iI (0)) X.1 X.2.1 dX12_close_14 rfl ?_
    refine g_callV (ci := 17) (rest := []) (k := 1) X hW hG hS hLA rfl (al_get l G A (lv - 1) h n (L + 1) xs q 0 (ad c0) (by omega) hA (by omega) hx0) (lw_V q690 q691 q692 q69 q693) (by decide +kernel) rfl ⟨by show (lv - 1) + 1 ≤ lv; omega, by show 8 + (2 + 11) + 40 * (lv - 1) ≤ 40 * lv; omega⟩ ⟨by show 0 + 0 ≤ 0; first | omega | exact hlet | exact hfun | exact hflR | exact hb9 | exact hb29, by show 0 + 0 ≤ 0; first | omega | exact hlet | exact hfun | exact hflR | exact hb9 | exact hb29⟩ hl.1 rfl (Nat.le_of_ble_eq_true rfl) dX12_close_15 (g_pk (fun H locs hG hS => ?_))
    show W p l e (gR lv 0 0) s m args below meth c H locs 0 0 Q (F0 m 18 ls [.ref (ad c0)])
    refine it_instN X hW hG hI0 (hw_c0) q702 dX12_close_18 ?_
    refine i_if_eq X 28 dX12_close_21 (by decide) (bI_iR _) (fun c21 => ?_) (fun c21 => ?_)
    · have c21 := bI_eq0.mp c21
      refine lv_iconst (v := iI (0)) X.1 X.2.1 dX12_close_28 rfl ?_
      exact K29 0 (by first | (apply bI_t; rw [Bool.and_eq_true]; exact ⟨by simpa using c7, by rw [← e0]; exact c21⟩) | (apply bI_f; rw [Bool.and_eq_false_iff]; first | (left; simpa using c7) | (right; rw [← e0]; exact c21))) H locs ls hG hS (lv_sub hl [0] rfl)
    · have c21 := bI_ne0.mp c21
      refine lv_iconst (v := iI (1)) X.1 X.2.1 dX12_close_24 rfl ?_
      refine lv_goto (tgt := 29) X.1 X.2.1 dX12_close_25 (by decide) ?_
      exact K29 1 (by first | (apply bI_t; rw [Bool.and_eq_true]; exact ⟨by simpa using c7, by rw [← e0]; exact c21⟩) | (apply bI_f; rw [Bool.and_eq_false_iff]; first | (left; simpa using c7) | (right; rw [← e0]; exact c21))) H locs ls hG hS (lv_sub hl [0] rfl)

