/-! ===== items: their methods ===== -/
set_option maxRecDepth 100000
section ITC
variable {p : Program} {l : Launch} {e : Env} {R : Room} {s : State} {m : MethodId} {args : Array Value} {below : List Frame} {meth : Method} {c : Code} {H : Heap} {locs : List Loc} {cells slots : Nat} {Q : State → Prop}
variable {cc : ByteArray} {pc nL index n : Nat} {ls : Array Slot} {rest : List Value} {G : gEnv} {A : Nat → Prop} {h : gH} {own : String} {F : FF} {ad : Int → Nat} {tg : gT} {inp : Value} {num i : Int}
theorem it_cast (X : CallFix p m c cc nL s args lw_all own) (hW : gWd G A s) (hG : gOn G.1 A h n H) (hI : h (ad i) = some (tg, itE F i inp num (ad i))) (hlink : Cond.classLink own index "MacroGlass$Item" ∈ lw_all) (hdg : decode cc pc = .ok (.checkcast index, 3))
    (kk : W p l e R s m args below meth c H locs cells slots Q (F0 m (pc + 3) ls (.ref (ad i) :: rest))) : W p l e R s m args below meth c H locs cells slots Q (F0 m pc ls (.ref (ad i) :: rest)) := by
  unfold itE at hI
  by_cases h0 : F 0 i = 0
  · rw [if_pos h0] at hI
    exact n_cast (ci := 11) X hW hG hI rfl hlink (Or.inl (hW.N q1684 rfl)) hdg kk
  · rw [if_neg h0] at hI
    by_cases h1 : F 0 i = 1
    · rw [if_pos h1] at hI
      exact n_cast (ci := 12) X hW hG hI rfl hlink (Or.inl (hW.N q1683 rfl)) hdg kk
    · rw [if_neg h1] at hI
      exact n_cast (ci := 10) X hW hG hI rfl hlink (Or.inl (hW.N q1682 rfl)) hdg kk
end ITC
set_option maxHeartbeats 4000000 in
theorem gw_kind (l : Launch) (G : gEnv) (A : Nat → Prop) (lv : Nat) (h : gH) (n : Nat) (ad : Int → Nat) (i : Int) : gC l yX13_kind cX13_kind 1 (some .int) G A lv 0 0 [.ref (ad i)] h n (gPure (some (.int (iI 0))) h n) := by
  refine gC_ofI RX13 (by decide +kernel) rfl (Nat.le_of_ble_eq_true rfl) ?_
  intro p e s m args below meth c Q X hW ret H locs ls hG hS hl
  have hl : lv_has ls 1 [(0, .ref (ad i))] := hl
  refine lv_iconst (v := iI (0)) X.1 X.2.1 dX13_kind_0 rfl ?_
  refine ret _ _ _ _ _ _ _ _ _ ?_ (rfl) (by show 0 ≤ 0; omega) (by show 0 ≤ 0; omega) hG hS dX13_kind_1
  exact ⟨rfl, rfl, rfl⟩

set_option maxHeartbeats 4000000 in
theorem gw_value (l : Launch) (G : gEnv) (A : Nat → Prop) (lv : Nat) (h : gH) (n : Nat) (R : FF) (ad : Int → Nat) (tg : gT) (inp : Value) (num i : Int) (hI : h (ad i) = some (tg, .inr (11, [.int (iI (R 3 i)), .int (iI (R 4 i)), inp, .int (iI (num)), .int (iI (R 1 i))]))) : gC l yX13_value cX13_value 1 (some .int) G A lv 0 0 [.ref (ad i)] h n (gPure (some (.int (iI (R 1 i)))) h n) := by
  refine gC_ofI RX13 (by decide +kernel) rfl (Nat.le_of_ble_eq_true rfl) ?_
  intro p e s m args below meth c Q X hW ret H locs ls hG hS hl
  have hl : lv_has ls 1 [(0, .ref (ad i))] := hl
  refine lv_aload_n X.1 X.2.1 dX13_value_0 rfl (lv_at hl 0 rfl) ?_
  refine n_get (ci := 11) X in_X13 hW hG hI rfl 4 (by decide) q650 (fun _ h => h) rfl dX13_value_1 ?_
  refine ret _ _ _ _ _ _ _ _ _ ?_ (rfl) (by show 0 ≤ 0; omega) (by show 0 ≤ 0; omega) hG hS dX13_value_4
  exact ⟨rfl, rfl, rfl⟩

set_option maxHeartbeats 4000000 in
theorem gn_kind (l : Launch) (G : gEnv) (A : Nat → Prop) (lv : Nat) (h : gH) (n : Nat) (ad : Int → Nat) (i : Int) : gC l yX14_kind cX14_kind 1 (some .int) G A lv 0 0 [.ref (ad i)] h n (gPure (some (.int (iI 1))) h n) := by
  refine gC_ofI RX14 (by decide +kernel) rfl (Nat.le_of_ble_eq_true rfl) ?_
  intro p e s m args below meth c Q X hW ret H locs ls hG hS hl
  have hl : lv_has ls 1 [(0, .ref (ad i))] := hl
  refine lv_iconst (v := iI (1)) X.1 X.2.1 dX14_kind_0 rfl ?_
  refine ret _ _ _ _ _ _ _ _ _ ?_ (rfl) (by show 0 ≤ 0; omega) (by show 0 ≤ 0; omega) hG hS dX14_kind_1
  exact ⟨rfl, rfl, rfl⟩

set_option maxHeartbeats 4000000 in
theorem gn_mark (l : Launch) (G : gEnv) (A : Nat → Prop) (lv : Nat) (h : gH) (n : Nat) (R : FF) (ad : Int → Nat) (tg : gT) (inp : Value) (num i : Int) (hI : h (ad i) = some (tg, .inr (12, [.int (iI (R 3 i)), .int (iI (R 4 i)), inp, .int (iI (num)), .long (lI (gLt (R 1 i))), .int (iI (R 2 i))]))) : gC l yX14_mark cX14_mark 1 (some .int) G A lv 0 0 [.ref (ad i)] h n (gPure (some (.int (iI (R 2 i)))) h n) := by
  refine gC_ofI RX14 (by decide +kernel) rfl (Nat.le_of_ble_eq_true rfl) ?_
  intro p e s m args below meth c Q X hW ret H locs ls hG hS hl
  have hl : lv_has ls 1 [(0, .ref (ad i))] := hl
  refine lv_aload_n X.1 X.2.1 dX14_mark_0 rfl (lv_at hl 0 rfl) ?_
  refine n_get (ci := 12) X in_X14 hW hG hI rfl 5 (by decide) q674 (fun _ h => h) rfl dX14_mark_1 ?_
  refine ret _ _ _ _ _ _ _ _ _ ?_ (rfl) (by show 0 ≤ 0; omega) (by show 0 ≤ 0; omega) hG hS dX14_mark_4
  exact ⟨rfl, rfl, rfl⟩

set_option maxHeartbeats 4000000 in
theorem gl_kind (l : Launch) (G : gEnv) (A : Nat → Prop) (lv : Nat) (h : gH) (n : Nat) (R : FF) (ad : Int → Nat) (tg : gT) (inp : Value) (num i : Int) (hI : h (ad i) = some (tg, .inr (10, [.int (iI (R 3 i)), .int (iI (R 4 i)), inp, .int (iI (num)), .ref (ad i + 1), .int (iI (R 0 i))]))) : gC l yX12_kind cX12_kind 1 (some .int) G A lv 0 0 [.ref (ad i)] h n (gPure (some (.int (iI (R 0 i)))) h n) := by
  refine gC_ofI RX12 (by decide +kernel) rfl (Nat.le_of_ble_eq_true rfl) ?_
  intro p e s m args below meth c Q X hW ret H locs ls hG hS hl
  have hl : lv_has ls 1 [(0, .ref (ad i))] := hl
  refine lv_aload_n X.1 X.2.1 dX12_kind_0 rfl (lv_at hl 0 rfl) ?_
  refine n_get (ci := 10) X in_X12 hW hG hI rfl 5 (by decide) q597 (fun _ h => h) rfl dX12_kind_1 ?_
  refine ret _ _ _ _ _ _ _ _ _ ?_ (rfl) (by show 0 ≤ 0; omega) (by show 0 ≤ 0; omega) hG hS dX12_kind_4
  exact ⟨rfl, rfl, rfl⟩

set_option maxHeartbeats 4000000 in
theorem gt_size (l : Launch) (G : gEnv) (A : Nat → Prop) (lv : Nat) (h : gH) (n : Nat) (ad : Int → Nat) (i : Int) : gC l yX11_size cX11_size 1 (some .int) G A lv 0 0 [.ref (ad i)] h n (gPure (some (.int (iI 0))) h n) := by
  refine gC_ofI RX11 (by decide +kernel) rfl (Nat.le_of_ble_eq_true rfl) ?_
  intro p e s m args below meth c Q X hW ret H locs ls hG hS hl
  have hl : lv_has ls 1 [(0, .ref (ad i))] := hl
  refine lv_iconst (v := iI (0)) X.1 X.2.1 dX11_size_0 rfl ?_
  refine ret _ _ _ _ _ _ _ _ _ ?_ (rfl) (by show 0 ≤ 0; omega) (by show 0 ≤ 0; omega) hG hS dX11_size_1
  exact ⟨rfl, rfl, rfl⟩

set_option maxHeartbeats 4000000 in
theorem gt_value (l : Launch) (G : gEnv) (A : Nat → Prop) (lv : Nat) (h : gH) (n : Nat) (ad : Int → Nat) (i : Int) : gC l yX11_value cX11_value 1 (some .int) G A lv 0 0 [.ref (ad i)] h n (gPure (some (.int (iI 0))) h n) := by
  refine gC_ofI RX11 (by decide +kernel) rfl (Nat.le_of_ble_eq_true rfl) ?_
  intro p e s m args below meth c Q X hW ret H locs ls hG hS hl
  have hl : lv_has ls 1 [(0, .ref (ad i))] := hl
  refine lv_iconst (v := iI (0)) X.1 X.2.1 dX11_value_0 rfl ?_
  refine ret _ _ _ _ _ _ _ _ _ ?_ (rfl) (by show 0 ≤ 0; omega) (by show 0 ≤ 0; omega) hG hS dX11_value_1
  exact ⟨rfl, rfl, rfl⟩

set_option maxHeartbeats 4000000 in
theorem gt_mark (l : Launch) (G : gEnv) (A : Nat → Prop) (lv : Nat) (h : gH) (n : Nat) (ad : Int → Nat) (i : Int) : gC l yX11_mark cX11_mark 1 (some .int) G A lv 0 0 [.ref (ad i)] h n (gPure (some (.int (iI (-9)))) h n) := by
  refine gC_ofI RX11 (by decide +kernel) rfl (Nat.le_of_ble_eq_true rfl) ?_
  intro p e s m args below meth c Q X hW ret H locs ls hG hS hl
  have hl : lv_has ls 1 [(0, .ref (ad i))] := hl
  refine lv_bipush (v := iI (-9)) X.1 X.2.1 dX11_mark_0 (by decide) ?_
  refine ret _ _ _ _ _ _ _ _ _ ?_ (rfl) (by show 0 ≤ 0; omega) (by show 0 ≤ 0; omega) hG hS dX11_mark_2
  exact ⟨rfl, rfl, rfl⟩

set_option maxHeartbeats 4000000 in
theorem gt_all (l : Launch) (G : gEnv) (A : Nat → Prop) (lv : Nat) (h : gH) (n : Nat) (ad : Int → Nat) (i : Int) : gC l yX11_all cX11_all 1 (some .int) G A lv 0 0 [.ref (ad i)] h n (gPure (some (.int (iI 1))) h n) := by
  refine gC_ofI RX11 (by decide +kernel) rfl (Nat.le_of_ble_eq_true rfl) ?_
  intro p e s m args below meth c Q X hW ret H locs ls hG hS hl
  have hl : lv_has ls 1 [(0, .ref (ad i))] := hl
  refine lv_iconst (v := iI (1)) X.1 X.2.1 dX11_all_0 rfl ?_
  refine ret _ _ _ _ _ _ _ _ _ ?_ (rfl) (by show 0 ≤ 0; omega) (by show 0 ≤ 0; omega) hG hS dX11_all_1
  exact ⟨rfl, rfl, rfl⟩

set_option maxHeartbeats 4000000 in
theorem gt_reads (l : Launch) (G : gEnv) (A : Nat → Prop) (lv : Nat) (h : gH) (n : Nat) (ad : Int → Nat) (i : Int) : gC l yX11_reads cX11_reads 1 (some (FieldType.object "MacroGlass$Name")) G A lv 0 0 [.ref (ad i)] h n (gPure (some .null) h n) := by
  refine gC_ofA (Or.inl ⟨_, rfl⟩) RX11 (by decide +kernel) rfl (Nat.le_of_ble_eq_true rfl) ?_
  intro p e s m args below meth c Q X hW ret H locs ls hG hS hl
  have hl : lv_has ls 1 [(0, .ref (ad i))] := hl
  refine lv_null X.1 X.2.1 dX11_reads_0 ?_
  refine ret _ _ _ _ _ _ _ _ _ ?_ (Or.inl rfl) (by show 0 ≤ 0; omega) (by show 0 ≤ 0; omega) hG hS dX11_reads_1
  exact ⟨rfl, rfl, rfl⟩

set_option maxHeartbeats 4000000 in
theorem gt_isCall (l : Launch) (G : gEnv) (A : Nat → Prop) (lv : Nat) (h : gH) (n : Nat) (ad : Int → Nat) (i : Int) (rl : Nat) : gC l yX11_isCall cX11_isCall 2 (some .boolean) G A lv 0 0 [.ref (ad i), .ref rl] h n (gPure (some (.int (iI 0))) h n) := by
  refine gC_ofI RX11 (by decide +kernel) rfl (Nat.le_of_ble_eq_true rfl) ?_
  intro p e s m args below meth c Q X hW ret H locs ls hG hS hl
  have hl : lv_has ls 2 [(0, .ref (ad i)), (1, .ref rl)] := hl
  refine lv_iconst (v := iI (0)) X.1 X.2.1 dX11_isCall_0 rfl ?_
  refine ret _ _ _ _ _ _ _ _ _ ?_ (nar_b (by omega)) (by show 0 ≤ 0; omega) (by show 0 ≤ 0; omega) hG hS dX11_isCall_1
  exact ⟨rfl, rfl, rfl⟩

set_option maxHeartbeats 4000000 in
theorem gl_size (l : Launch) (G : gEnv) (A : Nat → Prop) (lv : Nat) (h : gH) (n : Nat) (R : FF) (ad : Int → Nat) (tg : gT) (inp : Value) (num i : Int) (xs : List Nat) (q : Nat) (hlv : 1 ≤ lv) (hI : h (ad i) = some (tg, .inr (10, [.int (iI (R 3 i)), .int (iI (R 4 i)), inp, .int (iI (num)), .ref (ad i + 1), .int (iI (R 0 i))]))) (hA : AL G h (ad i + 1) xs q) : gC l yX12_size cX12_size 1 (some .int) G A lv 0 0 [.ref (ad i)] h n (gPure (some (.int (iI (xs.length : Int)))) h n) := by
  refine gC_ofI RX12 (by decide +kernel) rfl (Nat.le_of_ble_eq_true rfl) ?_
  intro p e s m args below meth c Q X hW ret H locs ls hG hS hl
  have hl : lv_has ls 1 [(0, .ref (ad i))] := hl
  obtain ⟨tgA, moA, dA, hLA, hAr⟩ := id hA
  refine lv_aload_n X.1 X.2.1 dX12_size_0 rfl (lv_at hl 0 rfl) ?_
  refine n_get (ci := 10) X in_X12 hW hG hI rfl 4 (by decide) q592 (fun _ h => h) rfl dX12_size_1 ?_
  refine g_callV (ci := 17) (rest := []) (k := 0) X hW hG hS hLA rfl (al_size l G A (lv - 1) h n (ad i + 1) xs q hA) (lw_V q689 q323 q324 q69 q325) (by decide +kernel) rfl ⟨by show (lv - 1) + 1 ≤ lv; omega, by show 8 + (1 + 11) + 40 * (lv - 1) ≤ 40 * lv; omega⟩ ⟨by show 0 + 0 ≤ 0; omega, by show 0 + 0 ≤ 0; omega⟩ hl.1 rfl (Nat.le_of_ble_eq_true rfl) dX12_size_4 (g_pk (fun H locs hG hS => ?_))
  show W p l e (gR lv 0 0) s m args below meth c H locs 0 0 Q (F0 m 7 ls [.int (iI ((xs.length : Int)))])
  refine ret _ _ _ _ _ _ _ _ _ ?_ (rfl) (by show 0 ≤ 0; omega) (by show 0 ≤ 0; omega) hG hS dX12_size_7
  exact ⟨rfl, rfl, rfl⟩

theorem vi_kind (l : Launch) (G : gEnv) (A : Nat → Prop) (lv : Nat) (h : gH) (n : Nat) (R : FF) (ad : Int → Nat) (tg : gT) (inp : Value) (num i : Int) (hI : IT G h R ad tg inp num i) (hw : 0 ≤ R 0 i) : gVC l ⟨RX11, "kind", "()I"⟩ G A lv 0 0 (ad i) [] h n (gPure (some (.int (iI (R 0 i)))) h n) := by
  rcases hI.cs hw with ⟨z, e⟩ | ⟨z, e⟩ | ⟨z, e, hA⟩
  · exact ⟨_, 11, _, _, yX13_kind, _, 1, _, e, rfl, by rw [z]; exact gw_kind l G A lv h n ad i, q808, q809, q93, q810, by decide⟩
  · exact ⟨_, 12, _, _, yX14_kind, _, 1, _, e, rfl, by rw [z]; exact gn_kind l G A lv h n ad i, q805, q806, q94, q807, by decide⟩
  · exact ⟨_, 10, _, _, yX12_kind, _, 1, _, e, rfl, gl_kind l G A lv h n R ad tg inp num i e, q802, q803, q92, q804, by decide⟩
theorem vi_size (l : Launch) (G : gEnv) (A : Nat → Prop) (lv : Nat) (h : gH) (n : Nat) (R : FF) (ad : Int → Nat) (tg : gT) (inp : Value) (num i : Int) (hlv : 1 ≤ lv) (hI : IT G h R ad tg inp num i) (hw : 0 ≤ R 0 i) (hp : 0 ≤ R 6 i) : gVC l yX11_size G A lv 0 0 (ad i) [] h n (gPure (some (.int (iI (if 2 ≤ R 0 i then R 6 i else 0)))) h n) := by
  rcases hI.cs hw with ⟨z, e⟩ | ⟨z, e⟩ | ⟨z, e, hA⟩
  · exact ⟨_, 11, _, _, yX11_size, _, 1, _, e, rfl, by rw [if_neg (by omega)]; exact gt_size l G A lv h n ad i, q818, q812, q91, q819, by decide⟩
  · exact ⟨_, 12, _, _, yX11_size, _, 1, _, e, rfl, by rw [if_neg (by omega)]; exact gt_size l G A lv h n ad i, q817, q812, q91, q819, by decide⟩
  · exact ⟨_, 10, _, _, yX12_size, _, 1, _, e, rfl, by rw [if_pos z]; have := gl_size l G A lv h n R ad tg inp num i _ _ hlv e hA; rw [chs_len, Int.toNat_of_nonneg hp] at this; exact this, q814, q815, q92, q816, by decide⟩
theorem vi_value (l : Launch) (G : gEnv) (A : Nat → Prop) (lv : Nat) (h : gH) (n : Nat) (R : FF) (ad : Int → Nat) (tg : gT) (inp : Value) (num i : Int) (hI : IT G h R ad tg inp num i) (hw : 0 ≤ R 0 i) : gVC l yX11_value G A lv 0 0 (ad i) [] h n (gPure (some (.int (iI (if R 0 i = 0 then R 1 i else 0)))) h n) := by
  rcases hI.cs hw with ⟨z, e⟩ | ⟨z, e⟩ | ⟨z, e, hA⟩
  · exact ⟨_, 11, _, _, yX13_value, _, 1, _, e, rfl, by rw [if_pos z]; exact gw_value l G A lv h n R ad tg inp num i e, q825, q826, q93, q827, by decide⟩
  · exact ⟨_, 12, _, _, yX11_value, _, 1, _, e, rfl, by rw [if_neg (by omega)]; exact gt_value l G A lv h n ad i, q824, q821, q91, q828, by decide⟩
  · exact ⟨_, 10, _, _, yX11_value, _, 1, _, e, rfl, by rw [if_neg (by omega)]; exact gt_value l G A lv h n ad i, q823, q821, q91, q828, by decide⟩
theorem vi_mark (l : Launch) (G : gEnv) (A : Nat → Prop) (lv : Nat) (h : gH) (n : Nat) (R : FF) (ad : Int → Nat) (tg : gT) (inp : Value) (num i : Int) (hI : IT G h R ad tg inp num i) (hw : 0 ≤ R 0 i) : gVC l yX11_mark G A lv 0 0 (ad i) [] h n (gPure (some (.int (iI (if R 0 i = 1 then R 2 i else -9)))) h n) := by
  rcases hI.cs hw with ⟨z, e⟩ | ⟨z, e⟩ | ⟨z, e, hA⟩
  · exact ⟨_, 11, _, _, yX11_mark, _, 1, _, e, rfl, by rw [if_neg (by omega)]; exact gt_mark l G A lv h n ad i, q836, q830, q91, q837, by decide⟩
  · exact ⟨_, 12, _, _, yX14_mark, _, 1, _, e, rfl, by rw [if_pos z]; exact gn_mark l G A lv h n R ad tg inp num i e, q833, q834, q94, q835, by decide⟩
  · exact ⟨_, 10, _, _, yX11_mark, _, 1, _, e, rfl, by rw [if_neg (by omega)]; exact gt_mark l G A lv h n ad i, q832, q830, q91, q837, by decide⟩
set_option maxHeartbeats 4000000 in
theorem gl_all (l : Launch) (G : gEnv) (A : Nat → Prop) (lv : Nat) (h : gH) (n : Nat) (R : FF) (ad : Int → Nat) (tg : gT) (inp : Value) (num i : Int) (nn : Int) (hlv : 3 ≤ lv) (hT : TW nn (R 0) (R 5) (R 6)) (h0 : 0 ≤ i) (hn : i < nn) (hw : 2 ≤ R 0 i) (hI : h (ad i) = some (tg, .inr (10, [.int (iI (R 3 i)), .int (iI (R 4 i)), inp, .int (iI (num)), .ref (ad i + 1), .int (iI (R 0 i))]))) (hA : AL G h (ad i + 1) (chs R ad i) (R 6 i).toNat) (hC : ∀ j : Nat, (j : Int) < R 6 i → ∃ ip nm, IT G h R ad tg ip nm (chh (R 5) i j)) (ih : ∀ j : Nat, (j : Int) < R 6 i → gVC l yX11_all G A (lv - 1) 0 0 (ad (chh (R 5) i j)) [] h n (gPure (some (.int (iI (R 5 (chh (R 5) i j))))) h n)) : gC l yX12_all cX12_all 3 (some .int) G A lv 0 0 [.ref (ad i)] h n (gPure (some (.int (iI (R 5 i)))) h n) := by
  refine gC_ofI RX12 (by decide +kernel) rfl (Nat.le_of_ble_eq_true rfl) ?_
  intro p e s m args below meth c Q X hW ret H locs ls hG hS hl
  have hl : lv_has ls 3 [(0, .ref (ad i))] := hl
  have hp := hT.p h0 hn
  have hr := hT.r h0 hn
  obtain ⟨hl1, hl2⟩ := hT.lst h0 hn hw
  have hch := hT.ch h0 hn hw
  have hnn := hT.2.1
  obtain ⟨tgA, moA, dA, hLA, hAr⟩ := id hA
  have hlen : ((chs R ad i).length : Int) = R 6 i := by rw [chs_len]; omega
  refine lv_aload_n X.1 X.2.1 dX12_all_0 rfl (lv_at hl 0 rfl) ?_
  refine g_callSU (ci := 10) (rest := []) (k := 0) X hW hG hS hI rfl (gt_all l G A (lv - 1) h n ad i) q1026 q1022 q639 q1021 q91 q1029 (by decide +kernel) rfl ⟨by show (lv - 1) + 1 ≤ lv; omega, by show 8 + (1 + 11) + 40 * (lv - 1) ≤ 40 * lv; omega⟩ ⟨by show 0 + 0 ≤ 0; omega, by show 0 + 0 ≤ 0; omega⟩ hl.1 rfl (Nat.le_of_ble_eq_true rfl) dX12_all_1 (g_pk (fun H locs hG hS => ?_))
  show W p l e (gR lv 0 0) s m args below meth c H locs 0 0 Q (F0 m 4 ls [.int (iI (1))])
  refine lv_istore_n (lv' := [(1, .int (iI (1))), (0, .ref (ad i))]) X.1 X.2.1 dX12_all_4 rfl hl (by decide) rfl (fun ls hl => ?_)
  refine lv_iconst (v := iI (0)) X.1 X.2.1 dX12_all_5 rfl ?_
  refine lv_istore_n (lv' := [(2, .int (iI (0))), (1, .int (iI (1))), (0, .ref (ad i))]) X.1 X.2.1 dX12_all_6 rfl hl (by decide) rfl (fun ls hl => ?_)
  have L7 : ∀ (N7 : Nat) (z : Int) (k : Nat), ((k : Int) ≤ R 6 i) → (z = chh (R 5) i k - i) → (R 6 i).toNat - k < N7 → ∀ (H : Heap) (locs : List Loc) (ls : Array Slot), gOn G.1 A h n H → va_S A s.heap H locs → lv_has ls 3 [(0, .ref (ad i)), (1, .int (iI (z))), (2, .int (iI ((k : Int))))] → W p l e (gR lv 0 0) s m args below meth c H locs 0 0 Q (F0 m 7 ls []) := by
    intro N7
    induction N7 with
    | zero => intro z k hk hz hN; exact absurd hN (Nat.not_lt_zero _)
    | succ N7 ih7 =>
      intro z k hk hz hN7 H locs ls hG hS hl
      refine lv_iload_n X.1 X.2.1 dX12_all_7 rfl (lv_at hl 2 rfl) ?_
      refine lv_aload_n X.1 X.2.1 dX12_all_8 rfl (lv_at hl 0 rfl) ?_
      refine n_get (ci := 10) X in_X12 hW hG hI rfl 4 (by decide) q592 (fun _ h => h) rfl dX12_all_9 ?_
      refine g_callV (ci := 17) (rest := [.int (iI ((k : Int)))]) (k := 0) X hW hG hS hLA rfl (al_size l G A (lv - 1) h n (ad i + 1) (chs R ad i) (R 6 i).toNat hA) (lw_V q689 q323 q324 q69 q325) (by decide +kernel) rfl ⟨by show (lv - 1) + 1 ≤ lv; omega, by show 8 + (1 + 11) + 40 * (lv - 1) ≤ 40 * lv; omega⟩ ⟨by show 0 + 0 ≤ 0; omega, by show 0 + 0 ≤ 0; omega⟩ hl.1 rfl (Nat.le_of_ble_eq_true rfl) dX12_all_12 (g_pk (fun H locs hG hS => ?_))
      show W p l e (gR lv 0 0) s m args below meth c H locs 0 0 Q (F0 m 15 ls [.int (iI (((chs R ad i).length : Int))), .int (iI ((k : Int)))])
      refine i_icmp_ge X 41 dX12_all_15 (by decide) (by omega) (by omega) (fun c15 => ?_) (fun c15 => ?_)
      · refine lv_iload_n X.1 X.2.1 dX12_all_41 rfl (lv_at hl 1 rfl) ?_
        refine ret _ _ _ _ _ _ _ _ _ ?_ (rfl) (by show 0 ≤ 0; omega) (by show 0 ≤ 0; omega) hG hS dX12_all_42
        exact ⟨by congr 3; subst hz; rw [show k = (R 6 i).toNat by omega, hl1]; omega, rfl, rfl⟩
      · refine lv_iload_n X.1 X.2.1 dX12_all_18 rfl (lv_at hl 1 rfl) ?_
        obtain ⟨ip, nm, hIk⟩ := hC k (by omega)
        have hck := hch k (by omega)
        have hck2 := hl2 k (by omega)
        have hrk := hT.r (i := chh (R 5) i k) (by omega) (by omega)
        refine lv_aload_n X.1 X.2.1 dX12_all_19 rfl (lv_at hl 0 rfl) ?_
        refine n_get (ci := 10) X in_X12 hW hG hI rfl 4 (by decide) q592 (fun _ h => h) rfl dX12_all_20 ?_
        refine lv_iload_n X.1 X.2.1 dX12_all_23 rfl (lv_at hl 2 rfl) ?_
        refine g_callV (ci := 17) (rest := [.int (iI (z))]) (k := 1) X hW hG hS hLA rfl (al_get l G A (lv - 1) h n (ad i + 1) (chs R ad i) (R 6 i).toNat (k : Int) (ad (chh (R 5) i k)) (by omega) hA (by omega) (by rw [Int.toNat_natCast]; exact chs_get R ad i (by omega))) (lw_V q690 q691 q692 q69 q693) (by decide +kernel) rfl ⟨by show (lv - 1) + 1 ≤ lv; omega, by show 8 + (2 + 11) + 40 * (lv - 1) ≤ 40 * lv; omega⟩ ⟨by show 0 + 0 ≤ 0; omega, by show 0 + 0 ≤ 0; omega⟩ hl.1 rfl (Nat.le_of_ble_eq_true rfl) dX12_all_24 (g_pk (fun H locs hG hS => ?_))
        show W p l e (gR lv 0 0) s m args below meth c H locs 0 0 Q (F0 m 27 ls [.ref (ad (chh (R 5) i k)), .int (iI (z))])
        refine it_cast X hW hG hIk.1 q778 dX12_all_27 ?_
        refine g_callX (rest := [.int (iI (z))]) (k := 0) X hW hG hS (ih k (by omega)) q1026 q1022 (gDecl_code X q1021 q1029) (by decide +kernel) rfl ⟨by show (lv - 1) + 1 ≤ lv; omega, by show 40 + 40 * (lv - 1) ≤ 40 * lv; omega⟩ ⟨by show 0 + 0 ≤ 0; omega, by show 0 + 0 ≤ 0; omega⟩ hl.1 rfl (Nat.le_of_ble_eq_true rfl) dX12_all_30 (g_pk (fun H locs hG hS => ?_))
        show W p l e (gR lv 0 0) s m args below meth c H locs 0 0 Q (F0 m 33 ls [.int (iI (R 5 (chh (R 5) i k))), .int (iI (z))])
        refine i_add X dX12_all_33 ?_
        refine lv_istore_n (lv' := [(1, .int (iI (z + (R 5 (chh (R 5) i k))))), (0, .ref (ad i)), (2, .int (iI ((k : Int))))]) X.1 X.2.1 dX12_all_34 rfl hl (by decide) rfl (fun ls hl => ?_)
        refine i_inc (lv' := [(2, .int (iI ((k : Int) + 1))), (1, .int (iI (z + (R 5 (chh (R 5) i k))))), (0, .ref (ad i))]) X dX12_all_35 hl (k := 2) rfl (by decide) rfl (fun ls hl => ?_)
        refine lv_goto (tgt := 7) X.1 X.2.1 dX12_all_38 (by decide) ?_
        exact ih7 (z + (R 5 (chh (R 5) i k))) (k + 1) (by omega) (by rw [hz]; show _ = chh (R 5) i k + R 5 (chh (R 5) i k) - i; omega) (by omega) H locs ls hG hS (lv_sub hl [2, 1, 0] rfl)
  exact L7 _ 1 0 (by omega) (by show (1 : Int) = i + 1 - i; omega) (Nat.lt_succ_self _) H locs ls hG hS (lv_sub hl [2, 1, 0] rfl)

/-- a part of a list: where it lies -/
theorem TW.kid {n : Int} {what room parts : Int → Int} (h : TW n what room parts) {i : Int} (h0 : 0 ≤ i) (hn : i < n) (hw : 2 ≤ what i) {j : Nat} (hj : (j : Int) < parts i) : i + 1 ≤ chh room i j ∧ chh room i j < n ∧ 1 ≤ room (chh room i j) ∧ chh room i j + room (chh room i j) ≤ i + room i := by
  have h1 := h.ch h0 hn hw j (by omega)
  have h2 := (h.lst h0 hn hw).2 j hj
  have h3 := h.r h0 hn
  have h4 := h.r (i := chh room i j) (by omega) (by omega)
  have h5 := h.nest h0 hn (i := chh room i j) (by omega) h2
  exact ⟨by omega, by omega, by omega, by omega⟩
/-- items lo .. hi-1 have been numbered, and lie in the row -/
def LAYr (G : gEnv) (h h' : gH) (R : FF) (ad : Int → Nat) (tg : gT) (inp : Int → Value) (rw : Nat) (tr : gT) (f f' : Nat → Option Nat) (lo hi : Int) : Prop :=
  h' rw = some (tr, .inl (G.2.1 5, 500, .inr (.inr (.inr (.inr f'))))) ∧ (∀ k, lo ≤ k → k < hi → f' k.toNat = some (ad k)) ∧ (∀ q : Nat, ((q : Int) < lo ∨ hi ≤ q) → f' q = f q) ∧ (∀ k, lo ≤ k → k < hi → h' (ad k) = some (tg, itE R k (inp k) k (ad k))) ∧ ∀ a, a ≠ rw → (∀ k, lo ≤ k → k < hi → a ≠ ad k) → h' a = h a
/-- addresses of items differ -/
def adI (ad : Int → Nat) (lo hi : Int) : Prop := ∀ i j, lo ≤ i → i < hi → lo ≤ j → j < hi → ad i = ad j → i = j
theorem LAYr.comp {G : gEnv} {h h1 h2 : gH} {R : FF} {ad : Int → Nat} {tg : gT} {inp : Int → Value} {rw : Nat} {tr : gT} {f f1 f2 : Nat → Option Nat} {lo mid hi : Int} (a : LAYr G h h1 R ad tg inp rw tr f f1 lo mid) (b : LAYr G h1 h2 R ad tg inp rw tr f1 f2 mid hi) (hlo : 0 ≤ lo) (h12 : lo ≤ mid) (h23 : mid ≤ hi) (hi9 : adI ad lo hi) (hrw : ∀ k, lo ≤ k → k < hi → ad k ≠ rw) : LAYr G h h2 R ad tg inp rw tr f f2 lo hi := by
  obtain ⟨a1, a2, a3, a4, a5⟩ := a
  obtain ⟨b1, b2, b3, b4, b5⟩ := b
  refine ⟨b1, fun k x y => ?_, fun q hq => ?_, fun k x y => ?_, fun q hq1 hq2 => ?_⟩
  · rcases Int.lt_or_le k mid with z | z
    · rw [b3 k.toNat (by omega)]; exact a2 k x z
    · exact b2 k z y
  · rw [b3 q (by omega), a3 q (by omega)]
  · rcases Int.lt_or_le k mid with z | z
    · rw [b5 (ad k) (hrw k x y) (fun k' x' y' e => by have := hi9 k k' x y (by omega) y' e; omega)]; exact a4 k x z
    · exact b4 k z y
  · rw [b5 q hq1 (fun k x y => hq2 k (by omega) y), a5 q hq1 (fun k x y => hq2 k x (by omega))]
theorem LAYr.cls {G : gEnv} {h h' : gH} {R : FF} {ad : Int → Nat} {tg : gT} {inp : Int → Value} {num : Int → Int} {rw : Nat} {tr : gT} {f f' : Nat → Option Nat} {lo hi : Int} (a : LAYr G h h' R ad tg inp rw tr f f' lo hi) (hT : TR G h R ad tg inp num lo hi) (hrw : h rw = some (tr, .inl (G.2.1 5, 500, .inr (.inr (.inr (.inr f)))))) : gCls h h' := by
  intro q t ci fs e
  by_cases hq : q = rw
  · rw [hq, hrw] at e; cases e
  · by_cases hk : ∃ k, lo ≤ k ∧ k < hi ∧ q = ad k
    · obtain ⟨k, x, y, rfl⟩ := hk
      have h1 := a.2.2.2.1 k x y
      have h2 := (hT k x y).1
      rw [h2] at e
      unfold itE at e h1
      split at e
      · rename_i z; rw [if_pos z] at h1; cases e; exact ⟨_, h1⟩
      · rename_i z
        rw [if_neg z] at h1
        split at e
        · rename_i z2; rw [if_pos z2] at h1; cases e; exact ⟨_, h1⟩
        · rename_i z2; rw [if_neg z2] at h1; cases e; exact ⟨_, h1⟩
    · exact ⟨fs, by rw [a.2.2.2.2 q hq (fun k x y z => hk ⟨k, x, y, z⟩)]; exact e⟩
theorem LAYr.al {G : gEnv} {h h' : gH} {R : FF} {ad : Int → Nat} {tg : gT} {inp : Int → Value} {num : Int → Int} {rw : Nat} {tr : gT} {f f' : Nat → Option Nat} {lo hi : Int} (a : LAYr G h h' R ad tg inp rw tr f f' lo hi) (hT : TR G h R ad tg inp num lo hi) (hrw : h rw = some (tr, .inl (G.2.1 5, 500, .inr (.inr (.inr (.inr f)))))) (ht : tg.1 ≠ 0) (hr : tr.1 ≠ 0) {L : Nat} {xs : List Nat} {q : Nat} (hA : AL G h L xs q) : AL G h' L xs q := by
  obtain ⟨t9, mo, d, e, -⟩ := id hA
  refine hA.keep (a.2.2.2.2 L (gNe e hrw (by intro hh; simp at hh)) (fun k x y z => ?_)) (fun q x hq => ?_) (a.cls hT hrw)
  · have h2 := (hT k x y).1
    rw [← z, e] at h2
    obtain ⟨ci, fs, e9, hc⟩ := itE_obj R k (inp k) (num k) L
    rw [e9] at h2
    cases h2
    omega
  · rw [a.2.2.2.2 q (fun z => by rw [z, hrw] at hq; cases hq; exact hr rfl) (fun k x y z => by rw [z, (hT k x y).1] at hq; cases hq; exact ht rfl)]
    exact hq
theorem LAYr.rest {G : gEnv} {h h' : gH} {R : FF} {ad : Int → Nat} {tg : gT} {inp : Int → Value} {num : Int → Int} {rw : Nat} {tr : gT} {f f' : Nat → Option Nat} {lo mid hi : Int} (a : LAYr G h h' R ad tg inp rw tr f f' lo mid) (hT : TR G h R ad tg inp num lo hi) (hrw : h rw = some (tr, .inl (G.2.1 5, 500, .inr (.inr (.inr (.inr f)))))) (ht : tg.1 ≠ 0) (hr : tr.1 ≠ 0) (h12 : lo ≤ mid) (h23 : mid ≤ hi) (hi9 : adI ad lo hi) : TR G h' R ad tg inp num mid hi := by
  have hTm : TR G h R ad tg inp num lo mid := fun k x y => hT k x (by omega)
  intro k x y
  have hk := hT k (by omega) y
  refine ⟨?_, fun w => a.al hTm hrw ht hr (hk.2 w)⟩
  rw [a.2.2.2.2 (ad k) (fun z => ?_) (fun k' x' y' z => by have := hi9 k k' (by omega) y x' (by omega) z; omega)]
  · exact hk.1
  · have := hk.1
    rw [z, hrw] at this
    obtain ⟨ci, fs, e9, hc⟩ := itE_obj R k (inp k) (num k) rw
    rw [e9] at this
    cases this
theorem LAYr.done {G : gEnv} {h h' : gH} {R : FF} {ad : Int → Nat} {tg : gT} {inp : Int → Value} {num : Int → Int} {rw : Nat} {tr : gT} {f f' : Nat → Option Nat} {lo hi : Int} (a : LAYr G h h' R ad tg inp rw tr f f' lo hi) (hT : TR G h R ad tg inp num lo hi) (hrw : h rw = some (tr, .inl (G.2.1 5, 500, .inr (.inr (.inr (.inr f)))))) (ht : tg.1 ≠ 0) (hr : tr.1 ≠ 0) : TR G h' R ad tg inp (fun k => k) lo hi := fun k x y => ⟨a.2.2.2.1 k x y, fun w => a.al hT hrw ht hr ((hT k x y).2 w)⟩

theorem vi_all (l : Launch) (G : gEnv) (A : Nat → Prop) (h : gH) (n : Nat) (R : FF) (ad : Int → Nat) (tg : gT) (inp : Int → Value) (num : Int → Int) (nn : Int) (hT : TW nn (R 0) (R 5) (R 6)) : ∀ (N : Nat) (i : Int) (lv : Nat), R 5 i < N → 0 ≤ i → i < nn → TR G h R ad tg inp num i (i + R 5 i) → 3 + R 5 i ≤ lv → gVC l yX11_all G A lv 0 0 (ad i) [] h n (gPure (some (.int (iI (R 5 i)))) h n) := by
  intro N
  induction N with
  | zero => intro i lv hN h0 hn; have := hT.r h0 hn; omega
  | succ N ih =>
    intro i lv hN h0 hn hTR hlv
    have hr := hT.r h0 hn
    have hI := hTR i (Int.le_refl _) (by omega)
    rcases hI.cs (hT.w h0 hn).1 with ⟨z, e⟩ | ⟨z, e⟩ | ⟨z, e, hA⟩
    · rw [(hT.leaf h0 hn (by omega)).1]; exact ⟨_, 11, _, _, yX11_all, _, 1, _, e, rfl, gt_all l G A lv h n ad i, q1028, q1021, q91, q1029, by decide⟩
    · rw [(hT.leaf h0 hn (by omega)).1]; exact ⟨_, 12, _, _, yX11_all, _, 1, _, e, rfl, gt_all l G A lv h n ad i, q1027, q1021, q91, q1029, by decide⟩
    · refine ⟨_, 10, _, _, yX12_all, _, 3, _, e, rfl, gl_all l G A lv h n R ad tg (inp i) (num i) i nn (by omega) hT h0 hn z e hA ?_ ?_, q1023, q1024, q92, q1025, by decide⟩
      · intro j hj
        have k := hT.kid h0 hn z hj
        exact ⟨_, _, hTR _ (by omega) (by omega)⟩
      · intro j hj
        have k := hT.kid h0 hn z hj
        exact ih _ _ (by omega) (by omega) (by omega) (fun q x y => hTR q (by omega) (by omega)) (by omega)
set_option maxHeartbeats 4000000 in
theorem gt_layw (l : Launch) (G : gEnv) (A : Nat → Prop) (lv : Nat) (h : gH) (n : Nat) (R : FF) (ad : Int → Nat) (tg : gT) (inp : Int → Value) (num : Int → Int) (i : Int) (rw : Nat) (tr : gT) (f : Nat → Option Nat) (hz : R 0 i = 0) (hI : h (ad i) = some (tg, .inr (11, [.int (iI (R 3 i)), .int (iI (R 4 i)), (inp i), .int (iI ((num i))), .int (iI (R 1 i))]))) (hrw : h rw = some (tr, .inl (G.2.1 5, 500, .inr (.inr (.inr (.inr f)))))) (hi : 0 ≤ i ∧ i < 500) : gC l yX11_lay cX11_lay 3 (some .int) G A lv 0 0 [.ref (ad i), .ref rw, .int (iI (i))] h n (fun v h' n' => v = some (.int (iI (i + 1))) ∧ n' = n ∧ ∃ f', LAYr G h h' R ad tg inp rw tr f f' i (i + 1)) := by
  refine gC_ofI RX11 (by decide +kernel) rfl (Nat.le_of_ble_eq_true rfl) ?_
  intro p e s m args below meth c Q X hW ret H locs ls hG hS hl
  have hl : lv_has ls 3 [(0, .ref (ad i)), (1, .ref rw), (2, .int (iI (i)))] := hl
  refine lv_aload_n X.1 X.2.1 dX11_lay_0 rfl (lv_at hl 1 rfl) ?_
  refine lv_iload_n X.1 X.2.1 dX11_lay_1 rfl (lv_at hl 2 rfl) ?_
  refine lv_aload_n X.1 X.2.1 dX11_lay_2 rfl (lv_at hl 0 rfl) ?_
  refine n_aast X hW hG hS 5 hrw rfl hI rfl (hW.N q1684 rfl) (iI_in ⟨by omega, by omega⟩ (by omega)) dX11_lay_3 (fun H locs hG hS => ?_)
  obtain ⟨h9, eh9⟩ : ∃ hz, hz = va_up h rw (some (tr, .inl (G.2.1 5, 500, .inr (.inr (.inr (.inr (va_up f (iI i).toNatClampNeg (some (ad i))))))))) := ⟨_, rfl⟩
  rw [← eh9] at hG
  have hI9 : h9 (ad i) = some (tg, .inr (11, [.int (iI (R 3 i)), .int (iI (R 4 i)), inp i, .int (iI (num i)), .int (iI (R 1 i))])) := by rw [eh9, up_n (gNe hI hrw (by intro hh; simp at hh))]; exact hI
  refine lv_aload_n X.1 X.2.1 dX11_lay_4 rfl (lv_at hl 0 rfl) ?_
  refine lv_iload_n X.1 X.2.1 dX11_lay_5 rfl (lv_at hl 2 rfl) ?_
  refine n_put (ci := 11) X in_X13 tyX13 tyX13_ok nmX13 hW hG hS hI9 rfl 3 (by decide) q622 (fun _ h => h) rfl rfl rfl (Nat.le_of_ble_eq_true rfl) (fs' := [.int (iI (R 3 i)), .int (iI (R 4 i)), inp i, .int (iI (i)), .int (iI (R 1 i))]) rfl dX11_lay_6 (fun H locs hG hS => ?_)
  obtain ⟨h1, eh1⟩ : ∃ hz, hz = va_up h9 (ad i) (some (tg, .inr (11, [.int (iI (R 3 i)), .int (iI (R 4 i)), inp i, .int (iI (i)), .int (iI (R 1 i))]))) := ⟨_, rfl⟩
  rw [← eh1] at hG
  have f1_adi : h1 (ad i) = some (tg, .inr (11, [.int (iI (R 3 i)), .int (iI (R 4 i)), inp i, .int (iI (i)), .int (iI (R 1 i))])) := by rw [eh1]; exact up_s _ _ _
  refine lv_iload_n X.1 X.2.1 dX11_lay_9 rfl (lv_at hl 2 rfl) ?_
  refine lv_iconst (v := iI (1)) X.1 X.2.1 dX11_lay_10 rfl ?_
  refine i_add X dX11_lay_11 ?_
  refine ret _ _ _ _ _ _ _ _ _ ?_ (rfl) (by show 0 ≤ 0; omega) (by show 0 ≤ 0; omega) hG hS dX11_lay_12
  refine ⟨rfl, rfl, va_up f i.toNat (some (ad i)), ?_, fun k x y => ?_, fun q hq => ?_, fun k x y => ?_, fun q hq1 hq2 => ?_⟩
  · rw [eh1, up_n (Ne.symm (gNe hI hrw (by intro hh; simp at hh))), eh9, up_s, iI_clamp (by omega)]
  · rw [show k = i by omega, up_s]
  · rw [up_n (by omega)]
  · rw [show k = i by omega, eh1, up_s, itE0 hz]
  · rw [eh1, up_n (hq2 i (by omega) (by omega)), eh9, up_n hq1]

set_option maxHeartbeats 4000000 in
theorem gt_layn (l : Launch) (G : gEnv) (A : Nat → Prop) (lv : Nat) (h : gH) (n : Nat) (R : FF) (ad : Int → Nat) (tg : gT) (inp : Int → Value) (num : Int → Int) (i : Int) (rw : Nat) (tr : gT) (f : Nat → Option Nat) (hz : R 0 i = 1) (hI : h (ad i) = some (tg, .inr (12, [.int (iI (R 3 i)), .int (iI (R 4 i)), (inp i), .int (iI ((num i))), .long (lI (gLt (R 1 i))), .int (iI (R 2 i))]))) (hrw : h rw = some (tr, .inl (G.2.1 5, 500, .inr (.inr (.inr (.inr f)))))) (hi : 0 ≤ i ∧ i < 500) : gC l yX11_lay cX11_lay 3 (some .int) G A lv 0 0 [.ref (ad i), .ref rw, .int (iI (i))] h n (fun v h' n' => v = some (.int (iI (i + 1))) ∧ n' = n ∧ ∃ f', LAYr G h h' R ad tg inp rw tr f f' i (i + 1)) := by
  refine gC_ofI RX11 (by decide +kernel) rfl (Nat.le_of_ble_eq_true rfl) ?_
  intro p e s m args below meth c Q X hW ret H locs ls hG hS hl
  have hl : lv_has ls 3 [(0, .ref (ad i)), (1, .ref rw), (2, .int (iI (i)))] := hl
  refine lv_aload_n X.1 X.2.1 dX11_lay_0 rfl (lv_at hl 1 rfl) ?_
  refine lv_iload_n X.1 X.2.1 dX11_lay_1 rfl (lv_at hl 2 rfl) ?_
  refine lv_aload_n X.1 X.2.1 dX11_lay_2 rfl (lv_at hl 0 rfl) ?_
  refine n_aast X hW hG hS 5 hrw rfl hI rfl (hW.N q1683 rfl) (iI_in ⟨by omega, by omega⟩ (by omega)) dX11_lay_3 (fun H locs hG hS => ?_)
  obtain ⟨h9, eh9⟩ : ∃ hz, hz = va_up h rw (some (tr, .inl (G.2.1 5, 500, .inr (.inr (.inr (.inr (va_up f (iI i).toNatClampNeg (some (ad i))))))))) := ⟨_, rfl⟩
  rw [← eh9] at hG
  have hI9 : h9 (ad i) = some (tg, .inr (12, [.int (iI (R 3 i)), .int (iI (R 4 i)), inp i, .int (iI (num i)), .long (lI (gLt (R 1 i))), .int (iI (R 2 i))])) := by rw [eh9, up_n (gNe hI hrw (by intro hh; simp at hh))]; exact hI
  refine lv_aload_n X.1 X.2.1 dX11_lay_4 rfl (lv_at hl 0 rfl) ?_
  refine lv_iload_n X.1 X.2.1 dX11_lay_5 rfl (lv_at hl 2 rfl) ?_
  refine n_put (ci := 12) X in_X14 tyX14 tyX14_ok nmX14 hW hG hS hI9 rfl 3 (by decide) q622 (fun _ h => h) rfl rfl rfl (Nat.le_of_ble_eq_true rfl) (fs' := [.int (iI (R 3 i)), .int (iI (R 4 i)), inp i, .int (iI (i)), .long (lI (gLt (R 1 i))), .int (iI (R 2 i))]) rfl dX11_lay_6 (fun H locs hG hS => ?_)
  obtain ⟨h1, eh1⟩ : ∃ hz, hz = va_up h9 (ad i) (some (tg, .inr (12, [.int (iI (R 3 i)), .int (iI (R 4 i)), inp i, .int (iI (i)), .long (lI (gLt (R 1 i))), .int (iI (R 2 i))]))) := ⟨_, rfl⟩
  rw [← eh1] at hG
  have f1_adi : h1 (ad i) = some (tg, .inr (12, [.int (iI (R 3 i)), .int (iI (R 4 i)), inp i, .int (iI (i)), .long (lI (gLt (R 1 i))), .int (iI (R 2 i))])) := by rw [eh1]; exact up_s _ _ _
  refine lv_iload_n X.1 X.2.1 dX11_lay_9 rfl (lv_at hl 2 rfl) ?_
  refine lv_iconst (v := iI (1)) X.1 X.2.1 dX11_lay_10 rfl ?_
  refine i_add X dX11_lay_11 ?_
  refine ret _ _ _ _ _ _ _ _ _ ?_ (rfl) (by show 0 ≤ 0; omega) (by show 0 ≤ 0; omega) hG hS dX11_lay_12
  refine ⟨rfl, rfl, va_up f i.toNat (some (ad i)), ?_, fun k x y => ?_, fun q hq => ?_, fun k x y => ?_, fun q hq1 hq2 => ?_⟩
  · rw [eh1, up_n (Ne.symm (gNe hI hrw (by intro hh; simp at hh))), eh9, up_s, iI_clamp (by omega)]
  · rw [show k = i by omega, up_s]
  · rw [up_n (by omega)]
  · rw [show k = i by omega, eh1, up_s, itE1 hz]
  · rw [eh1, up_n (hq2 i (by omega) (by omega)), eh9, up_n hq1]

set_option maxHeartbeats 4000000 in
theorem gt_layl (l : Launch) (G : gEnv) (A : Nat → Prop) (lv : Nat) (h : gH) (n : Nat) (R : FF) (ad : Int → Nat) (tg : gT) (inp : Int → Value) (num : Int → Int) (i : Int) (rw : Nat) (tr : gT) (f : Nat → Option Nat) (hz : 2 ≤ R 0 i) (hI : h (ad i) = some (tg, .inr (10, [.int (iI (R 3 i)), .int (iI (R 4 i)), (inp i), .int (iI ((num i))), .ref (ad i + 1), .int (iI (R 0 i))]))) (hrw : h rw = some (tr, .inl (G.2.1 5, 500, .inr (.inr (.inr (.inr f)))))) (hi : 0 ≤ i ∧ i < 500) : gC l yX11_lay cX11_lay 3 (some .int) G A lv 0 0 [.ref (ad i), .ref rw, .int (iI (i))] h n (fun v h' n' => v = some (.int (iI (i + 1))) ∧ n' = n ∧ ∃ f', LAYr G h h' R ad tg inp rw tr f f' i (i + 1)) := by
  refine gC_ofI RX11 (by decide +kernel) rfl (Nat.le_of_ble_eq_true rfl) ?_
  intro p e s m args below meth c Q X hW ret H locs ls hG hS hl
  have hl : lv_has ls 3 [(0, .ref (ad i)), (1, .ref rw), (2, .int (iI (i)))] := hl
  refine lv_aload_n X.1 X.2.1 dX11_lay_0 rfl (lv_at hl 1 rfl) ?_
  refine lv_iload_n X.1 X.2.1 dX11_lay_1 rfl (lv_at hl 2 rfl) ?_
  refine lv_aload_n X.1 X.2.1 dX11_lay_2 rfl (lv_at hl 0 rfl) ?_
  refine n_aast X hW hG hS 5 hrw rfl hI rfl (hW.N q1682 rfl) (iI_in ⟨by omega, by omega⟩ (by omega)) dX11_lay_3 (fun H locs hG hS => ?_)
  obtain ⟨h9, eh9⟩ : ∃ hz, hz = va_up h rw (some (tr, .inl (G.2.1 5, 500, .inr (.inr (.inr (.inr (va_up f (iI i).toNatClampNeg (some (ad i))))))))) := ⟨_, rfl⟩
  rw [← eh9] at hG
  have hI9 : h9 (ad i) = some (tg, .inr (10, [.int (iI (R 3 i)), .int (iI (R 4 i)), inp i, .int (iI (num i)), .ref (ad i + 1), .int (iI (R 0 i))])) := by rw [eh9, up_n (gNe hI hrw (by intro hh; simp at hh))]; exact hI
  refine lv_aload_n X.1 X.2.1 dX11_lay_4 rfl (lv_at hl 0 rfl) ?_
  refine lv_iload_n X.1 X.2.1 dX11_lay_5 rfl (lv_at hl 2 rfl) ?_
  refine n_put (ci := 10) X in_X12 tyX12 tyX12_ok nmX12 hW hG hS hI9 rfl 3 (by decide) q622 (fun _ h => h) rfl rfl rfl (Nat.le_of_ble_eq_true rfl) (fs' := [.int (iI (R 3 i)), .int (iI (R 4 i)), inp i, .int (iI (i)), .ref (ad i + 1), .int (iI (R 0 i))]) rfl dX11_lay_6 (fun H locs hG hS => ?_)
  obtain ⟨h1, eh1⟩ : ∃ hz, hz = va_up h9 (ad i) (some (tg, .inr (10, [.int (iI (R 3 i)), .int (iI (R 4 i)), inp i, .int (iI (i)), .ref (ad i + 1), .int (iI (R 0 i))]))) := ⟨_, rfl⟩
  rw [← eh1] at hG
  have f1_adi : h1 (ad i) = some (tg, .inr (10, [.int (iI (R 3 i)), .int (iI (R 4 i)), inp i, .int (iI (i)), .ref (ad i + 1), .int (iI (R 0 i))])) := by rw [eh1]; exact up_s _ _ _
  refine lv_iload_n X.1 X.2.1 dX11_lay_9 rfl (lv_at hl 2 rfl) ?_
  refine lv_iconst (v := iI (1)) X.1 X.2.1 dX11_lay_10 rfl ?_
  refine i_add X dX11_lay_11 ?_
  refine ret _ _ _ _ _ _ _ _ _ ?_ (rfl) (by show 0 ≤ 0; omega) (by show 0 ≤ 0; omega) hG hS dX11_lay_12
  refine ⟨rfl, rfl, va_up f i.toNat (some (ad i)), ?_, fun k x y => ?_, fun q hq => ?_, fun k x y => ?_, fun q hq1 hq2 => ?_⟩
  · rw [eh1, up_n (Ne.symm (gNe hI hrw (by intro hh; simp at hh))), eh9, up_s, iI_clamp (by omega)]
  · rw [show k = i by omega, up_s]
  · rw [up_n (by omega)]
  · rw [show k = i by omega, eh1, up_s, itE2 hz]
  · rw [eh1, up_n (hq2 i (by omega) (by omega)), eh9, up_n hq1]

theorem IT.ne_arr {G : gEnv} {h : gH} {R : FF} {ad : Int → Nat} {tg : gT} {inp : Value} {num i : Int} (hI : IT G h R ad tg inp num i) {rw : Nat} {tr : gT} {x : ClassId × vp_A} (hr : h rw = some (tr, .inl x)) : ad i ≠ rw := by
  intro z
  have := hI.1
  rw [z, hr] at this
  obtain ⟨ci, fs, e9, hc⟩ := itE_obj R i inp num rw
  rw [e9] at this
  cases this
theorem adI.sub {ad : Int → Nat} {lo hi lo' hi' : Int} (h : adI ad lo hi) (h1 : lo ≤ lo') (h2 : hi' ≤ hi) : adI ad lo' hi' := fun i j a b c d e => h i j (by omega) (by omega) (by omega) (by omega) e
set_option maxHeartbeats 4000000 in
theorem gl_lay (l : Launch) (G : gEnv) (A : Nat → Prop) (lv : Nat) (h : gH) (n : Nat) (R : FF) (ad : Int → Nat) (tg : gT) (inp : Int → Value) (num : Int → Int) (i : Int) (rw : Nat) (tr : gT) (f : Nat → Option Nat) (nn : Int) (hlv : 3 ≤ lv) (hT : TW nn (R 0) (R 5) (R 6)) (h0 : 0 ≤ i) (hn : i < nn) (hw : 2 ≤ R 0 i) (hTR : TR G h R ad tg inp num i (i + R 5 i)) (hrw : h rw = some (tr, .inl (G.2.1 5, 500, .inr (.inr (.inr (.inr f)))))) (ht : tg.1 ≠ 0) (hr : tr.1 ≠ 0) (hinj : adI ad i (i + R 5 i)) (ih : ∀ k : Nat, (k : Int) < R 6 i → ∀ (h1 : gH) (f1 : Nat → Option Nat), TR G h1 R ad tg inp num (chh (R 5) i k) (chh (R 5) i k + R 5 (chh (R 5) i k)) → h1 rw = some (tr, .inl (G.2.1 5, 500, .inr (.inr (.inr (.inr f1))))) → gVC l yX11_lay G A (lv - 1) 0 0 (ad (chh (R 5) i k)) [.ref rw, .int (iI (chh (R 5) i k))] h1 n (fun v h' n' => v = some (.int (iI (chh (R 5) i k + R 5 (chh (R 5) i k)))) ∧ n' = n ∧ ∃ f', LAYr G h1 h' R ad tg inp rw tr f1 f' (chh (R 5) i k) (chh (R 5) i k + R 5 (chh (R 5) i k)))) : gC l yX12_lay cX12_lay 5 (some .int) G A lv 0 0 [.ref (ad i), .ref rw, .int (iI (i))] h n (fun v h' n' => v = some (.int (iI (i + R 5 (i)))) ∧ n' = n ∧ ∃ f', LAYr G h h' R ad tg inp rw tr f f' (i) (i + R 5 (i))) := by
  refine gC_ofI RX12 (by decide +kernel) rfl (Nat.le_of_ble_eq_true rfl) ?_
  intro p e s m args below meth c Q X hW ret H locs ls hG hS hl
  have hl : lv_has ls 5 [(0, .ref (ad i)), (1, .ref rw), (2, .int (iI (i)))] := hl
  have hp := hT.p h0 hn
  have hrr := hT.r h0 hn
  obtain ⟨hl1, hl2⟩ := hT.lst h0 hn hw
  have hch := hT.ch h0 hn hw
  have hnn := hT.2.1
  have hII := hTR i (Int.le_refl _) (by omega)
  have hA := hII.2 hw
  have hI := hII.1
  rw [itE2 hw] at hI
  have hlen : ((chs R ad i).length : Int) = R 6 i := by rw [chs_len]; omega
  refine lv_aload_n X.1 X.2.1 dX12_lay_0 rfl (lv_at hl 0 rfl) ?_
  refine lv_aload_n X.1 X.2.1 dX12_lay_1 rfl (lv_at hl 1 rfl) ?_
  refine lv_iload_n X.1 X.2.1 dX12_lay_2 rfl (lv_at hl 2 rfl) ?_
  refine g_callSU (ci := 10) (rest := []) (k := 2) X hW hG hS hI rfl (gt_layl l G A (lv - 1) h n R ad tg inp num i rw tr f hw hI hrw (by omega)) q777 q773 q639 q772 q91 q781 (by decide +kernel) rfl ⟨by show (lv - 1) + 1 ≤ lv; omega, by show 8 + (3 + 11) + 40 * (lv - 1) ≤ 40 * lv; omega⟩ ⟨by show 0 + 0 ≤ 0; omega, by show 0 + 0 ≤ 0; omega⟩ hl.1 rfl (Nat.le_of_ble_eq_true rfl) dX12_lay_3 (fun v1 h1 n1 H locs hp1 hG hS => ?_)
  obtain ⟨rfl, hn1, f1, hY1⟩ := hp1
  rw [hn1] at hG
  show W p l e (gR lv 0 0) s m args below meth c H locs 0 0 Q (F0 m 6 ls [.int (iI (i + 1))])
  refine lv_istore_n (lv' := [(3, .int (iI (i + 1))), (0, .ref (ad i)), (1, .ref rw), (2, .int (iI (i)))]) X.1 X.2.1 dX12_lay_6 rfl hl (by decide) rfl (fun ls hl => ?_)
  refine lv_iconst (v := iI (0)) X.1 X.2.1 dX12_lay_7 rfl ?_
  refine lv_istore (lv' := [(4, .int (iI (0))), (3, .int (iI (i + 1))), (0, .ref (ad i)), (1, .ref rw), (2, .int (iI (i)))]) X.1 X.2.1 dX12_lay_8 hl (by decide) rfl (fun ls hl => ?_)
  have L10 : ∀ (N10 : Nat) (h' : gH) (f' : Nat → Option Nat) (k : Nat), ((k : Int) ≤ R 6 i) → (LAYr G h h' R ad tg inp rw tr f f' i (chh (R 5) i k)) → (R 6 i).toNat - k < N10 → ∀ (H : Heap) (locs : List Loc) (ls : Array Slot), gOn G.1 A h' n H → va_S A s.heap H locs → lv_has ls 5 [(0, .ref (ad i)), (1, .ref rw), (3, .int (iI (chh (R 5) i k))), (4, .int (iI ((k : Int))))] → W p l e (gR lv 0 0) s m args below meth c H locs 0 0 Q (F0 m 10 ls []) := by
    intro N10
    induction N10 with
    | zero => intro h' f' k hk hY hN; exact absurd hN (Nat.not_lt_zero _)
    | succ N10 ih10 =>
      intro h' f' k hk hY hN10 H locs ls hG hS hl
      have hkb := hch k (by omega)
      have hA' := hY.al (fun q x y => hTR q x (by omega)) hrw ht hr hA
      obtain ⟨tgA, moA, dA, hLA, hAr⟩ := id hA'
      have hI' := hY.2.2.2.1 i (Int.le_refl _) (by omega)
      rw [itE2 hw] at hI'
      refine lv_iload X.1 X.2.1 dX12_lay_10 (lv_at hl 3 rfl) ?_
      refine lv_aload_n X.1 X.2.1 dX12_lay_12 rfl (lv_at hl 0 rfl) ?_
      refine n_get (ci := 10) X in_X12 hW hG hI' rfl 4 (by decide) q592 (fun _ h => h) rfl dX12_lay_13 ?_
      refine g_callV (ci := 17) (rest := [.int (iI ((k : Int)))]) (k := 0) X hW hG hS hLA rfl (al_size l G A (lv - 1) h' n (ad i + 1) (chs R ad i) (R 6 i).toNat hA') (lw_V q689 q323 q324 q69 q325) (by decide +kernel) rfl ⟨by show (lv - 1) + 1 ≤ lv; omega, by show 8 + (1 + 11) + 40 * (lv - 1) ≤ 40 * lv; omega⟩ ⟨by show 0 + 0 ≤ 0; omega, by show 0 + 0 ≤ 0; omega⟩ hl.1 rfl (Nat.le_of_ble_eq_true rfl) dX12_lay_16 (g_pk (fun H locs hG hS => ?_))
      show W p l e (gR lv 0 0) s m args below meth c H locs 0 0 Q (F0 m 19 ls [.int (iI (((chs R ad i).length : Int))), .int (iI ((k : Int)))])
      refine i_icmp_ge X 46 dX12_lay_19 (by decide) (by omega) (by omega) (fun c19 => ?_) (fun c19 => ?_)
      · refine lv_iload_n X.1 X.2.1 dX12_lay_46 rfl (lv_at hl 2 rfl) ?_
        refine ret _ _ _ _ _ _ _ _ _ ?_ (rfl) (by show 0 ≤ 0; omega) (by show 0 ≤ 0; omega) hG hS dX12_lay_47
        have hke : k = (R 6 i).toNat := by omega
        subst hke
        rw [hl1] at hY
        exact ⟨by rw [hl1], rfl, f', hY⟩
      · have hKd := hT.kid h0 hn hw (j := k) (by omega)
        have hR9 := hY.rest hTR hrw ht hr (by omega) (by omega) hinj
        have hIk := hR9 (chh (R 5) i k) (by omega) (by omega)
        refine lv_aload_n X.1 X.2.1 dX12_lay_22 rfl (lv_at hl 0 rfl) ?_
        refine n_get (ci := 10) X in_X12 hW hG hI' rfl 4 (by decide) q592 (fun _ h => h) rfl dX12_lay_23 ?_
        refine lv_iload X.1 X.2.1 dX12_lay_26 (lv_at hl 3 rfl) ?_
        refine g_callV (ci := 17) (rest := []) (k := 1) X hW hG hS hLA rfl (al_get l G A (lv - 1) h' n (ad i + 1) (chs R ad i) (R 6 i).toNat (k : Int) (ad (chh (R 5) i k)) (by omega) hA' (by omega) (by rw [Int.toNat_natCast]; exact chs_get R ad i (by omega))) (lw_V q690 q691 q692 q69 q693) (by decide +kernel) rfl ⟨by show (lv - 1) + 1 ≤ lv; omega, by show 8 + (2 + 11) + 40 * (lv - 1) ≤ 40 * lv; omega⟩ ⟨by show 0 + 0 ≤ 0; omega, by show 0 + 0 ≤ 0; omega⟩ hl.1 rfl (Nat.le_of_ble_eq_true rfl) dX12_lay_28 (g_pk (fun H locs hG hS => ?_))
        show W p l e (gR lv 0 0) s m args below meth c H locs 0 0 Q (F0 m 31 ls [.ref (ad (chh (R 5) i k))])
        refine it_cast X hW hG hIk.1 q778 dX12_lay_31 ?_
        refine lv_aload_n X.1 X.2.1 dX12_lay_34 rfl (lv_at hl 1 rfl) ?_
        refine lv_iload_n X.1 X.2.1 dX12_lay_35 rfl (lv_at hl 2 rfl) ?_
        refine g_callX (rest := []) (k := 2) X hW hG hS (ih k (by omega) h' f' (fun q x y => hR9 q (by omega) (by omega)) hY.1) q777 q773 (gDecl_code X q772 q781) (by decide +kernel) rfl ⟨by show (lv - 1) + 1 ≤ lv; omega, by show 40 + 40 * (lv - 1) ≤ 40 * lv; omega⟩ ⟨by show 0 + 0 ≤ 0; omega, by show 0 + 0 ≤ 0; omega⟩ hl.1 rfl (Nat.le_of_ble_eq_true rfl) dX12_lay_36 (fun v2 h2 n2 H locs hp2 hG hS => ?_)
        obtain ⟨rfl, hn1, f1, hY1⟩ := hp2
        rw [hn1] at hG
        show W p l e (gR lv 0 0) s m args below meth c H locs 0 0 Q (F0 m 39 ls [.int (iI (chh (R 5) i k + R 5 (chh (R 5) i k)))])
        refine lv_istore_n (lv' := [(3, .int (iI (chh (R 5) i k + R 5 (chh (R 5) i k)))), (0, .ref (ad i)), (1, .ref rw), (4, .int (iI ((k : Int))))]) X.1 X.2.1 dX12_lay_39 rfl hl (by decide) rfl (fun ls hl => ?_)
        refine i_inc (lv' := [(4, .int (iI ((k : Int) + 1))), (3, .int (iI (chh (R 5) i k + R 5 (chh (R 5) i k)))), (0, .ref (ad i)), (1, .ref rw)]) X dX12_lay_40 hl (k := 3) rfl (by decide) rfl (fun ls hl => ?_)
        refine lv_goto (tgt := 10) X.1 X.2.1 dX12_lay_43 (by decide) ?_
        have ec : chh (R 5) i (k + 1) = chh (R 5) i k + R 5 (chh (R 5) i k) := rfl
        exact ih10 h2 f1 (k + 1) (by omega) (hY.comp hY1 h0 (by omega) (by omega) (hinj.sub (by omega) (by show chh (R 5) i k + R 5 (chh (R 5) i k) ≤ _; omega)) (fun q x y => (hTR q x (by omega)).ne_arr hrw)) (by omega) H locs ls hG hS (lv_sub hl [2, 3, 1, 0] rfl)
  exact L10 _ h1 f1 0 (by omega) hY1 (Nat.lt_succ_self _) H locs ls hG hS (lv_sub hl [2, 3, 1, 0] rfl)

theorem vi_lay (l : Launch) (G : gEnv) (A : Nat → Prop) (n : Nat) (R : FF) (ad : Int → Nat) (tg : gT) (inp : Int → Value) (num : Int → Int) (rw : Nat) (tr : gT) (nn : Int) (hT : TW nn (R 0) (R 5) (R 6)) (ht : tg.1 ≠ 0) (hr : tr.1 ≠ 0) : ∀ (N : Nat) (i : Int) (lv : Nat) (h : gH) (f : Nat → Option Nat), R 5 i < N → 0 ≤ i → i < nn → TR G h R ad tg inp num i (i + R 5 i) → h rw = some (tr, .inl (G.2.1 5, 500, .inr (.inr (.inr (.inr f))))) → adI ad i (i + R 5 i) → 3 + R 5 i ≤ lv → gVC l yX11_lay G A lv 0 0 (ad i) [.ref rw, .int (iI i)] h n (fun v h' n' => v = some (.int (iI (i + R 5 (i)))) ∧ n' = n ∧ ∃ f', LAYr G h h' R ad tg inp rw tr f f' (i) (i + R 5 (i))) := by
  intro N
  induction N with
  | zero => intro i lv h f hN h0 hn; have := hT.r h0 hn; omega
  | succ N ih =>
    intro i lv h f hN h0 hn hTR hrw hinj hlv
    have hrr := hT.r h0 hn
    have hn5 := hT.2.1
    have hI := hTR i (Int.le_refl _) (by omega)
    rcases hI.cs (hT.w h0 hn).1 with ⟨z, e⟩ | ⟨z, e⟩ | ⟨z, e, hA⟩
    · rw [(hT.leaf h0 hn (by omega)).1]; exact ⟨_, 11, _, _, yX11_lay, _, 3, _, e, rfl, gt_layw l G A lv h n R ad tg inp num i rw tr f z e hrw (by omega), q780, q772, q91, q781, by decide⟩
    · rw [(hT.leaf h0 hn (by omega)).1]; exact ⟨_, 12, _, _, yX11_lay, _, 3, _, e, rfl, gt_layn l G A lv h n R ad tg inp num i rw tr f z e hrw (by omega), q779, q772, q91, q781, by decide⟩
    · refine ⟨_, 10, _, _, yX12_lay, _, 5, _, e, rfl, gl_lay l G A lv h n R ad tg inp num i rw tr f nn (by omega) hT h0 hn z hTR hrw ht hr hinj ?_, q774, q775, q92, q776, by decide⟩
      intro k hk h1 f1 hT1 hr1
      have kd := hT.kid h0 hn z hk
      exact ih _ _ h1 f1 (by omega) (by omega) (by omega) hT1 hr1 (hinj.sub (by omega) (by omega)) (by omega)
