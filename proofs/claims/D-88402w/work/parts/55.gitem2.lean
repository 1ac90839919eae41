/-! ===== items: made, added, closed, copied, replaced ===== -/
set_option maxRecDepth 100000
section ITP
variable {p : Program} {l : Launch} {e : Env} {R : Room} {s : State} {m : MethodId} {args : Array Value} {below : List Frame} {meth : Method} {c : Code} {H : Heap} {locs : List Loc} {cells slots : Nat} {Q : State → Prop}
variable {cc : ByteArray} {pc nL index n : Nat} {ls : Array Slot} {rest : List Value} {G : gEnv} {A : Nat → Prop} {h : gH} {own : String} {F : FF} {ad : Int → Nat} {tg : gT} {inp : Value} {num i : Int}
/-- an item's list is written -/
theorem it_putin (X : CallFix p m c cc nL s args lw_all own) (hW : gWd G A s) (hG : gOn G.1 A h n H) (hS : va_S A s.heap H locs) (hI : h (ad i) = some (tg, itE F i inp num (ad i))) (hlink : (Cond.fieldLink own index "MacroGlass$Item" "in" "LMacroGlass$List;") ∈ lw_all) {v : Value} (hv : v = .null ∨ ∃ b, v = .ref b) (hdg : decode cc pc = .ok (.putfield index, 3))
    (kk : ∀ (H1 : Heap) (locs1 : List Loc), gOn G.1 A (va_up h (ad i) (some (tg, itE F i v num (ad i)))) n H1 → va_S A s.heap H1 locs1 → W p l e R s m args below meth c H1 locs1 cells slots Q (F0 m (pc + 3) ls rest)) : W p l e R s m args below meth c H locs cells slots Q (F0 m pc ls (v :: .ref (ad i) :: rest)) := by
  have hn : narrow (.object "MacroGlass$List") v = v := by rcases hv with rfl | ⟨b, rfl⟩ <;> rfl
  have hf : fits (.object "MacroGlass$List") v = true := by rcases hv with rfl | ⟨b, rfl⟩ <;> rfl
  unfold itE at hI kk
  by_cases h0 : F 0 i = 0
  · rw [if_pos h0] at hI kk
    exact n_put (ci := 11) (ref := "MacroGlass$Item") X in_X13 tyX13 tyX13_ok nmX13 hW hG hS hI rfl 2 (by decide) hlink (fun _ h => h) rfl hn hf (Nat.le_of_ble_eq_true rfl) rfl hdg kk
  · rw [if_neg h0] at hI kk
    by_cases h1 : F 0 i = 1
    · rw [if_pos h1] at hI kk
      exact n_put (ci := 12) (ref := "MacroGlass$Item") X in_X14 tyX14 tyX14_ok nmX14 hW hG hS hI rfl 2 (by decide) hlink (fun _ h => h) rfl hn hf (Nat.le_of_ble_eq_true rfl) rfl hdg kk
    · rw [if_neg h1] at hI kk
      exact n_put (ci := 10) (ref := "MacroGlass$Item") X in_X12 tyX12 tyX12_ok nmX12 hW hG hS hI rfl 2 (by decide) hlink (fun _ h => h) rfl hn hf (Nat.le_of_ble_eq_true rfl) rfl hdg kk
end ITP
set_option maxHeartbeats 4000000 in
theorem gt_initw (l : Launch) (G : gEnv) (A : Nat → Prop) (lv : Nat) (h : gH) (n : Nat) (a : Nat) (tg : gT) (pl mk : Int) (hlv : 1 ≤ lv) (hI : h a = some (tg, .inr (11, [.int (iI (0)), .int (iI (0)), .null, .int (iI (0)), .int (iI (0))]))) : gC l yX11_init cX11_init 3 none G A lv 0 0 [.ref a, .int (iI (pl)), .int (iI (mk))] h n (fun v h' n' => v = none ∧ h' = va_up h a (some (tg, .inr (11, [.int (iI (pl)), .int (iI (mk)), .null, .int (iI (0)), .int (iI (0))]))) ∧ n' = n) := by
  refine gC_ofV RX11 (by decide +kernel) rfl (Nat.le_of_ble_eq_true rfl) ?_
  intro p e s m args below meth c Q X hinit hW ret H locs ls hG hS hl
  have hl : lv_has ls 3 [(0, .ref a), (1, .int (iI (pl))), (2, .int (iI (mk)))] := hl
  refine lv_aload_n X.1 X.2.1 dX11_init_0 rfl (lv_at hl 0 rfl) ?_
  refine W.objInit X.1 X.2.1 X.2.2.2.1 (X.2.2.2.2 _ q589) (X.2.2.2.2 _ q106) (X.2.2.2.2 _ q107) rfl (hl.1.trans X.2.2.1.symm) rfl dX11_init_1 (by show 1 ≤ lv; omega) (by show 2 * 0 + 0 + 12 ≤ 40 * lv; omega) ?_
  show W p l e (gR lv 0 0) s m args below meth c H locs 0 0 Q (F0 m 4 ls [])
  refine lv_aload_n X.1 X.2.1 dX11_init_4 rfl (lv_at hl 0 rfl) ?_
  refine lv_iload_n X.1 X.2.1 dX11_init_5 rfl (lv_at hl 1 rfl) ?_
  refine n_putF (ci := 11) X in_X13 tyX13 tyX13_ok nmX13 hW hG hS hI rfl 0 (by decide) q598 (fun _ h => h) rfl hinit rfl rfl rfl (Nat.le_of_ble_eq_true rfl) (fs' := [.int (iI (pl)), .int (iI (0)), .null, .int (iI (0)), .int (iI (0))]) rfl dX11_init_6 (fun H locs hG hS => ?_)
  obtain ⟨h1, eh1⟩ : ∃ hz, hz = va_up h a (some (tg, .inr (11, [.int (iI (pl)), .int (iI (0)), .null, .int (iI (0)), .int (iI (0))]))) := ⟨_, rfl⟩
  rw [← eh1] at hG
  have f1_a : h1 a = some (tg, .inr (11, [.int (iI (pl)), .int (iI (0)), .null, .int (iI (0)), .int (iI (0))])) := by rw [eh1]; exact up_s _ _ _
  refine lv_aload_n X.1 X.2.1 dX11_init_9 rfl (lv_at hl 0 rfl) ?_
  refine lv_iload_n X.1 X.2.1 dX11_init_10 rfl (lv_at hl 2 rfl) ?_
  refine n_putF (ci := 11) X in_X13 tyX13 tyX13_ok nmX13 hW hG hS f1_a rfl 1 (by decide) q606 (fun _ h => h) rfl hinit rfl rfl rfl (Nat.le_of_ble_eq_true rfl) (fs' := [.int (iI (pl)), .int (iI (mk)), .null, .int (iI (0)), .int (iI (0))]) rfl dX11_init_11 (fun H locs hG hS => ?_)
  obtain ⟨h2, eh2⟩ : ∃ hz, hz = va_up h1 a (some (tg, .inr (11, [.int (iI (pl)), .int (iI (mk)), .null, .int (iI (0)), .int (iI (0))]))) := ⟨_, rfl⟩
  rw [← eh2] at hG
  have f2_a : h2 a = some (tg, .inr (11, [.int (iI (pl)), .int (iI (mk)), .null, .int (iI (0)), .int (iI (0))])) := by rw [eh2]; exact up_s _ _ _
  refine ret _ _ _ _ _ _ _ _ ?_ (by show 0 ≤ 0; omega) (by show 0 ≤ 0; omega) hG hS dX11_init_14
  exact ⟨rfl, by rw [eh2, eh1, up_up], rfl⟩

set_option maxHeartbeats 4000000 in
theorem gt_initn (l : Launch) (G : gEnv) (A : Nat → Prop) (lv : Nat) (h : gH) (n : Nat) (a : Nat) (tg : gT) (pl mk : Int) (hlv : 1 ≤ lv) (hI : h a = some (tg, .inr (12, [.int (iI (0)), .int (iI (0)), .null, .int (iI (0)), .long (lI (0)), .int (iI (0))]))) : gC l yX11_init cX11_init 3 none G A lv 0 0 [.ref a, .int (iI (pl)), .int (iI (mk))] h n (fun v h' n' => v = none ∧ h' = va_up h a (some (tg, .inr (12, [.int (iI (pl)), .int (iI (mk)), .null, .int (iI (0)), .long (lI (0)), .int (iI (0))]))) ∧ n' = n) := by
  refine gC_ofV RX11 (by decide +kernel) rfl (Nat.le_of_ble_eq_true rfl) ?_
  intro p e s m args below meth c Q X hinit hW ret H locs ls hG hS hl
  have hl : lv_has ls 3 [(0, .ref a), (1, .int (iI (pl))), (2, .int (iI (mk)))] := hl
  refine lv_aload_n X.1 X.2.1 dX11_init_0 rfl (lv_at hl 0 rfl) ?_
  refine W.objInit X.1 X.2.1 X.2.2.2.1 (X.2.2.2.2 _ q589) (X.2.2.2.2 _ q106) (X.2.2.2.2 _ q107) rfl (hl.1.trans X.2.2.1.symm) rfl dX11_init_1 (by show 1 ≤ lv; omega) (by show 2 * 0 + 0 + 12 ≤ 40 * lv; omega) ?_
  show W p l e (gR lv 0 0) s m args below meth c H locs 0 0 Q (F0 m 4 ls [])
  refine lv_aload_n X.1 X.2.1 dX11_init_4 rfl (lv_at hl 0 rfl) ?_
  refine lv_iload_n X.1 X.2.1 dX11_init_5 rfl (lv_at hl 1 rfl) ?_
  refine n_putF (ci := 12) X in_X14 tyX14 tyX14_ok nmX14 hW hG hS hI rfl 0 (by decide) q598 (fun _ h => h) rfl hinit rfl rfl rfl (Nat.le_of_ble_eq_true rfl) (fs' := [.int (iI (pl)), .int (iI (0)), .null, .int (iI (0)), .long (lI (0)), .int (iI (0))]) rfl dX11_init_6 (fun H locs hG hS => ?_)
  obtain ⟨h1, eh1⟩ : ∃ hz, hz = va_up h a (some (tg, .inr (12, [.int (iI (pl)), .int (iI (0)), .null, .int (iI (0)), .long (lI (0)), .int (iI (0))]))) := ⟨_, rfl⟩
  rw [← eh1] at hG
  have f1_a : h1 a = some (tg, .inr (12, [.int (iI (pl)), .int (iI (0)), .null, .int (iI (0)), .long (lI (0)), .int (iI (0))])) := by rw [eh1]; exact up_s _ _ _
  refine lv_aload_n X.1 X.2.1 dX11_init_9 rfl (lv_at hl 0 rfl) ?_
  refine lv_iload_n X.1 X.2.1 dX11_init_10 rfl (lv_at hl 2 rfl) ?_
  refine n_putF (ci := 12) X in_X14 tyX14 tyX14_ok nmX14 hW hG hS f1_a rfl 1 (by decide) q606 (fun _ h => h) rfl hinit rfl rfl rfl (Nat.le_of_ble_eq_true rfl) (fs' := [.int (iI (pl)), .int (iI (mk)), .null, .int (iI (0)), .long (lI (0)), .int (iI (0))]) rfl dX11_init_11 (fun H locs hG hS => ?_)
  obtain ⟨h2, eh2⟩ : ∃ hz, hz = va_up h1 a (some (tg, .inr (12, [.int (iI (pl)), .int (iI (mk)), .null, .int (iI (0)), .long (lI (0)), .int (iI (0))]))) := ⟨_, rfl⟩
  rw [← eh2] at hG
  have f2_a : h2 a = some (tg, .inr (12, [.int (iI (pl)), .int (iI (mk)), .null, .int (iI (0)), .long (lI (0)), .int (iI (0))])) := by rw [eh2]; exact up_s _ _ _
  refine ret _ _ _ _ _ _ _ _ ?_ (by show 0 ≤ 0; omega) (by show 0 ≤ 0; omega) hG hS dX11_init_14
  exact ⟨rfl, by rw [eh2, eh1, up_up], rfl⟩

set_option maxHeartbeats 4000000 in
theorem gt_initl (l : Launch) (G : gEnv) (A : Nat → Prop) (lv : Nat) (h : gH) (n : Nat) (a : Nat) (tg : gT) (pl mk : Int) (hlv : 1 ≤ lv) (hI : h a = some (tg, .inr (10, [.int (iI (0)), .int (iI (0)), .null, .int (iI (0)), .null, .int (iI (0))]))) : gC l yX11_init cX11_init 3 none G A lv 0 0 [.ref a, .int (iI (pl)), .int (iI (mk))] h n (fun v h' n' => v = none ∧ h' = va_up h a (some (tg, .inr (10, [.int (iI (pl)), .int (iI (mk)), .null, .int (iI (0)), .null, .int (iI (0))]))) ∧ n' = n) := by
  refine gC_ofV RX11 (by decide +kernel) rfl (Nat.le_of_ble_eq_true rfl) ?_
  intro p e s m args below meth c Q X hinit hW ret H locs ls hG hS hl
  have hl : lv_has ls 3 [(0, .ref a), (1, .int (iI (pl))), (2, .int (iI (mk)))] := hl
  refine lv_aload_n X.1 X.2.1 dX11_init_0 rfl (lv_at hl 0 rfl) ?_
  refine W.objInit X.1 X.2.1 X.2.2.2.1 (X.2.2.2.2 _ q589) (X.2.2.2.2 _ q106) (X.2.2.2.2 _ q107) rfl (hl.1.trans X.2.2.1.symm) rfl dX11_init_1 (by show 1 ≤ lv; omega) (by show 2 * 0 + 0 + 12 ≤ 40 * lv; omega) ?_
  show W p l e (gR lv 0 0) s m args below meth c H locs 0 0 Q (F0 m 4 ls [])
  refine lv_aload_n X.1 X.2.1 dX11_init_4 rfl (lv_at hl 0 rfl) ?_
  refine lv_iload_n X.1 X.2.1 dX11_init_5 rfl (lv_at hl 1 rfl) ?_
  refine n_putF (ci := 10) X in_X12 tyX12 tyX12_ok nmX12 hW hG hS hI rfl 0 (by decide) q598 (fun _ h => h) rfl hinit rfl rfl rfl (Nat.le_of_ble_eq_true rfl) (fs' := [.int (iI (pl)), .int (iI (0)), .null, .int (iI (0)), .null, .int (iI (0))]) rfl dX11_init_6 (fun H locs hG hS => ?_)
  obtain ⟨h1, eh1⟩ : ∃ hz, hz = va_up h a (some (tg, .inr (10, [.int (iI (pl)), .int (iI (0)), .null, .int (iI (0)), .null, .int (iI (0))]))) := ⟨_, rfl⟩
  rw [← eh1] at hG
  have f1_a : h1 a = some (tg, .inr (10, [.int (iI (pl)), .int (iI (0)), .null, .int (iI (0)), .null, .int (iI (0))])) := by rw [eh1]; exact up_s _ _ _
  refine lv_aload_n X.1 X.2.1 dX11_init_9 rfl (lv_at hl 0 rfl) ?_
  refine lv_iload_n X.1 X.2.1 dX11_init_10 rfl (lv_at hl 2 rfl) ?_
  refine n_putF (ci := 10) X in_X12 tyX12 tyX12_ok nmX12 hW hG hS f1_a rfl 1 (by decide) q606 (fun _ h => h) rfl hinit rfl rfl rfl (Nat.le_of_ble_eq_true rfl) (fs' := [.int (iI (pl)), .int (iI (mk)), .null, .int (iI (0)), .null, .int (iI (0))]) rfl dX11_init_11 (fun H locs hG hS => ?_)
  obtain ⟨h2, eh2⟩ : ∃ hz, hz = va_up h1 a (some (tg, .inr (10, [.int (iI (pl)), .int (iI (mk)), .null, .int (iI (0)), .null, .int (iI (0))]))) := ⟨_, rfl⟩
  rw [← eh2] at hG
  have f2_a : h2 a = some (tg, .inr (10, [.int (iI (pl)), .int (iI (mk)), .null, .int (iI (0)), .null, .int (iI (0))])) := by rw [eh2]; exact up_s _ _ _
  refine ret _ _ _ _ _ _ _ _ ?_ (by show 0 ≤ 0; omega) (by show 0 ≤ 0; omega) hG hS dX11_init_14
  exact ⟨rfl, by rw [eh2, eh1, up_up], rfl⟩

set_option maxHeartbeats 4000000 in
/-- a new number -/
theorem gw_init (l : Launch) (G : gEnv) (A : Nat → Prop) (lv : Nat) (h : gH) (n : Nat) (a : Nat) (tg : gT) (pl mk : Int) (v0 : Int) (hlv : 2 ≤ lv) (hI : h a = some (tg, .inr (11, [.int (iI (0)), .int (iI (0)), .null, .int (iI (0)), .int (iI (0))]))) : gC l yX13_init cX13_init 4 none G A lv 0 0 [.ref a, .int (iI (pl)), .int (iI (mk)), .int (iI (v0))] h n (fun v h' n' => v = none ∧ h' = va_up h a (some (tg, .inr (11, [.int (iI (pl)), .int (iI (mk)), .null, .int (iI (0)), .int (iI (v0))]))) ∧ n' = n) := by
  refine gC_ofV RX13 (by decide +kernel) rfl (Nat.le_of_ble_eq_true rfl) ?_
  intro p e s m args below meth c Q X hinit hW ret H locs ls hG hS hl
  have hl : lv_has ls 4 [(0, .ref a), (1, .int (iI (pl))), (2, .int (iI (mk))), (3, .int (iI (v0)))] := hl
  refine lv_aload_n X.1 X.2.1 dX13_init_0 rfl (lv_at hl 0 rfl) ?_
  refine lv_iload_n X.1 X.2.1 dX13_init_1 rfl (lv_at hl 1 rfl) ?_
  refine lv_iload_n X.1 X.2.1 dX13_init_2 rfl (lv_at hl 2 rfl) ?_
  refine g_callI (rest := []) (k := 2) X hW hG hS (gt_initw l G A (lv - 1) h n a tg pl mk (by omega) hI) q649 q587 q91 (lw_meth q588) rfl (by decide +kernel) rfl ⟨by show (lv - 1) + 1 ≤ lv; omega, by show 8 + (3 + 11) + 40 * (lv - 1) ≤ 40 * lv; omega⟩ ⟨by show 0 + 0 ≤ 0; omega, by show 0 + 0 ≤ 0; omega⟩ hl.1 rfl (Nat.le_of_ble_eq_true rfl) dX13_init_3 (fun v1 h1 n1 H locs hp1 hG hS => ?_)
  obtain ⟨rfl, eh, hn1⟩ := hp1
  rw [hn1] at hG
  have hI1 : h1 a = some (tg, .inr (11, [.int (iI (pl)), .int (iI (mk)), .null, .int (iI (0)), .int (iI (0))])) := by rw [eh]; exact up_s _ _ _
  show W p l e (gR lv 0 0) s m args below meth c H locs 0 0 Q (F0 m 6 ls [])
  refine lv_aload_n X.1 X.2.1 dX13_init_6 rfl (lv_at hl 0 rfl) ?_
  refine lv_iload_n X.1 X.2.1 dX13_init_7 rfl (lv_at hl 3 rfl) ?_
  refine n_putF (ci := 11) X in_X13 tyX13 tyX13_ok nmX13 hW hG hS hI1 rfl 4 (by decide) q650 (fun _ h => h) rfl hinit rfl rfl rfl (Nat.le_of_ble_eq_true rfl) (fs' := [.int (iI (pl)), .int (iI (mk)), .null, .int (iI (0)), .int (iI (v0))]) rfl dX13_init_8 (fun H locs hG hS => ?_)
  obtain ⟨h2, eh2⟩ : ∃ hz, hz = va_up h1 a (some (tg, .inr (11, [.int (iI (pl)), .int (iI (mk)), .null, .int (iI (0)), .int (iI (v0))]))) := ⟨_, rfl⟩
  rw [← eh2] at hG
  have f2_a : h2 a = some (tg, .inr (11, [.int (iI (pl)), .int (iI (mk)), .null, .int (iI (0)), .int (iI (v0))])) := by rw [eh2]; exact up_s _ _ _
  refine ret _ _ _ _ _ _ _ _ ?_ (by show 0 ≤ 0; omega) (by show 0 ≤ 0; omega) hG hS dX13_init_11
  exact ⟨rfl, by rw [eh2, eh, up_up], rfl⟩

set_option maxHeartbeats 4000000 in
/-- a new name -/
theorem gn_init (l : Launch) (G : gEnv) (A : Nat → Prop) (lv : Nat) (h : gH) (n : Nat) (a : Nat) (tg : gT) (pl mk : Int) (w0 k0 : Int) (hlv : 2 ≤ lv) (hI : h a = some (tg, .inr (12, [.int (iI (0)), .int (iI (0)), .null, .int (iI (0)), .long (lI (0)), .int (iI (0))]))) : gC l yX14_init cX14_init 6 none G A lv 0 0 [.ref a, .int (iI (pl)), .int (iI (mk)), .long (lI (w0)), .int (iI (k0))] h n (fun v h' n' => v = none ∧ h' = va_up h a (some (tg, .inr (12, [.int (iI (pl)), .int (iI (mk)), .null, .int (iI (0)), .long (lI (w0)), .int (iI (k0))]))) ∧ n' = n) := by
  refine gC_ofV RX14 (by decide +kernel) rfl (Nat.le_of_ble_eq_true rfl) ?_
  intro p e s m args below meth c Q X hinit hW ret H locs ls hG hS hl
  have hl : lv_has ls 6 [(0, .ref a), (1, .int (iI (pl))), (2, .int (iI (mk))), (3, .long (lI (w0))), (5, .int (iI (k0)))] := hl
  refine lv_aload_n X.1 X.2.1 dX14_init_0 rfl (lv_at hl 0 rfl) ?_
  refine lv_iload_n X.1 X.2.1 dX14_init_1 rfl (lv_at hl 1 rfl) ?_
  refine lv_iload_n X.1 X.2.1 dX14_init_2 rfl (lv_at hl 2 rfl) ?_
  refine g_callI (rest := []) (k := 2) X hW hG hS (gt_initn l G A (lv - 1) h n a tg pl mk (by omega) hI) q668 q587 q91 (lw_meth q588) rfl (by decide +kernel) rfl ⟨by show (lv - 1) + 1 ≤ lv; omega, by show 8 + (3 + 11) + 40 * (lv - 1) ≤ 40 * lv; omega⟩ ⟨by show 0 + 0 ≤ 0; omega, by show 0 + 0 ≤ 0; omega⟩ hl.1 rfl (Nat.le_of_ble_eq_true rfl) dX14_init_3 (fun v1 h1 n1 H locs hp1 hG hS => ?_)
  obtain ⟨rfl, eh, hn1⟩ := hp1
  rw [hn1] at hG
  have hI1 : h1 a = some (tg, .inr (12, [.int (iI (pl)), .int (iI (mk)), .null, .int (iI (0)), .long (lI (0)), .int (iI (0))])) := by rw [eh]; exact up_s _ _ _
  show W p l e (gR lv 0 0) s m args below meth c H locs 0 0 Q (F0 m 6 ls [])
  refine lv_aload_n X.1 X.2.1 dX14_init_6 rfl (lv_at hl 0 rfl) ?_
  refine lv_lload_n X.1 X.2.1 dX14_init_7 rfl (lv_at hl 3 rfl) ?_
  refine n_putF (ci := 12) X in_X14 tyX14 tyX14_ok nmX14 hW hG hS hI1 rfl 4 (by decide) q669 (fun _ h => h) rfl hinit rfl rfl rfl (Nat.le_of_ble_eq_true rfl) (fs' := [.int (iI (pl)), .int (iI (mk)), .null, .int (iI (0)), .long (lI (w0)), .int (iI (0))]) rfl dX14_init_8 (fun H locs hG hS => ?_)
  obtain ⟨h2, eh2⟩ : ∃ hz, hz = va_up h1 a (some (tg, .inr (12, [.int (iI (pl)), .int (iI (mk)), .null, .int (iI (0)), .long (lI (w0)), .int (iI (0))]))) := ⟨_, rfl⟩
  rw [← eh2] at hG
  have f2_a : h2 a = some (tg, .inr (12, [.int (iI (pl)), .int (iI (mk)), .null, .int (iI (0)), .long (lI (w0)), .int (iI (0))])) := by rw [eh2]; exact up_s _ _ _
  refine lv_aload_n X.1 X.2.1 dX14_init_11 rfl (lv_at hl 0 rfl) ?_
  refine lv_iload X.1 X.2.1 dX14_init_12 (lv_at hl 4 rfl) ?_
  refine n_putF (ci := 12) X in_X14 tyX14 tyX14_ok nmX14 hW hG hS f2_a rfl 5 (by decide) q674 (fun _ h => h) rfl hinit rfl rfl rfl (Nat.le_of_ble_eq_true rfl) (fs' := [.int (iI (pl)), .int (iI (mk)), .null, .int (iI (0)), .long (lI (w0)), .int (iI (k0))]) rfl dX14_init_14 (fun H locs hG hS => ?_)
  obtain ⟨h3, eh3⟩ : ∃ hz, hz = va_up h2 a (some (tg, .inr (12, [.int (iI (pl)), .int (iI (mk)), .null, .int (iI (0)), .long (lI (w0)), .int (iI (k0))]))) := ⟨_, rfl⟩
  rw [← eh3] at hG
  have f3_a : h3 a = some (tg, .inr (12, [.int (iI (pl)), .int (iI (mk)), .null, .int (iI (0)), .long (lI (w0)), .int (iI (k0))])) := by rw [eh3]; exact up_s _ _ _
  refine ret _ _ _ _ _ _ _ _ ?_ (by show 0 ≤ 0; omega) (by show 0 ≤ 0; omega) hG hS dX14_init_17
  exact ⟨rfl, by rw [eh3, eh2, eh, up_up, up_up], rfl⟩

set_option maxHeartbeats 4000000 in
/-- a new list -/
theorem gl_init (l : Launch) (G : gEnv) (A : Nat → Prop) (lv : Nat) (h : gH) (n : Nat) (a : Nat) (tg : gT) (pl mk : Int) (hlv : 4 ≤ lv) (hI : h a = some (tg, .inr (10, [.int (iI (0)), .int (iI (0)), .null, .int (iI (0)), .null, .int (iI (0))]))) : gC l yX12_init cX12_init 3 none G A lv 1 3 [.ref a, .int (iI (pl)), .int (iI (mk))] h (a + 1) (fun v h' n' => v = none ∧ n' = a + 1 + 1 ∧ h' a = some (tg, .inr (10, [.int (iI (pl)), .int (iI (mk)), .null, .int (iI (0)), .ref (a + 1), .int (iI (2))])) ∧ AL G h' (a + 1) [] 0 ∧ ∀ q, q ≠ a → q ≠ a + 1 → h' q = h q) := by
  refine gC_ofV RX12 (by decide +kernel) rfl (Nat.le_of_ble_eq_true rfl) ?_
  intro p e s m args below meth c Q X hinit hW ret H locs ls hG hS hl
  have hl : lv_has ls 3 [(0, .ref a), (1, .int (iI (pl))), (2, .int (iI (mk)))] := hl
  refine lv_aload_n X.1 X.2.1 dX12_init_0 rfl (lv_at hl 0 rfl) ?_
  refine lv_iload_n X.1 X.2.1 dX12_init_1 rfl (lv_at hl 1 rfl) ?_
  refine lv_iload_n X.1 X.2.1 dX12_init_2 rfl (lv_at hl 2 rfl) ?_
  refine g_callI (rest := []) (k := 2) X hW hG hS (gt_initl l G A (lv - 1) h (a + 1) a tg pl mk (by omega) hI) q586 q587 q91 (lw_meth q588) rfl (by decide +kernel) rfl ⟨by show (lv - 1) + 1 ≤ lv; omega, by show 8 + (3 + 11) + 40 * (lv - 1) ≤ 40 * lv; omega⟩ ⟨by show 0 + 0 ≤ 1; omega, by show 0 + 0 ≤ 3; omega⟩ hl.1 rfl (Nat.le_of_ble_eq_true rfl) dX12_init_3 (fun v1 h1 n1 H locs hp1 hG hS => ?_)
  obtain ⟨rfl, eh, hn1⟩ := hp1
  rw [hn1] at hG
  have hI1 : h1 a = some (tg, .inr (10, [.int (iI (pl)), .int (iI (mk)), .null, .int (iI (0)), .null, .int (iI (0))])) := by rw [eh]; exact up_s _ _ _
  show W p l e (gR lv 1 3) s m args below meth c H locs 0 0 Q (F0 m 6 ls [])
  refine lv_aload_n X.1 X.2.1 dX12_init_6 rfl (lv_at hl 0 rfl) ?_
  have hGo := hG
  refine n_new (ci := 17) (fs := [.int (iI (0)), .null, .int (iI (0))]) X in_J2 tyJ2 tyJ2_ok q590 q109 q69 hW hG hS rfl (2, 0) (by decide +kernel) (by show 0 + 1 ≤ 1; omega) (by show 0 + 3 ≤ 3; omega) dX12_init_7 (fun H hG hS => ?_)
  obtain ⟨h3, eh3⟩ : ∃ hz, hz = va_up h1 (a + 1) (some ((2, 0), .inr (17, [.int (iI (0)), .null, .int (iI (0))]))) := ⟨_, rfl⟩
  rw [← eh3] at hG
  have f3_a : h3 a = some (tg, .inr (10, [.int (iI (pl)), .int (iI (mk)), .null, .int (iI (0)), .null, .int (iI (0))])) := by rw [eh3, up_n (by omega)]; exact hI1
  have f3_a1 : h3 (a + 1) = some ((2, 0), .inr (17, [.int (iI (0)), .null, .int (iI (0))])) := by rw [eh3]; exact up_s _ _ _
  have ehn := eh3
  refine lv_dup X.1 X.2.1 dX12_init_10 rfl ?_
  skip
  refine g_callI (rest := [.ref (a + 1), .ref a]) (k := 0) X hW hG hS (al_init l G A (lv - 1) h3 (a + 1 + 1) (a + 1) (2, 0) (by omega) f3_a1) q591 q111 q69 (lw_meth q112) rfl (by decide +kernel) rfl ⟨by show (lv - 1) + 1 ≤ lv; omega, by show 8 + (1 + 11) + 40 * (lv - 1) ≤ 40 * lv; omega⟩ ⟨by show 1 + 0 ≤ 1; omega, by show 3 + 0 ≤ 3; omega⟩ hl.1 rfl (Nat.le_of_ble_eq_true rfl) dX12_init_11 (fun v4 h4 n4 H locs hp4 hG hS => ?_)
  obtain ⟨rfl, ehz, hn1⟩ := hp4
  rw [hn1] at hG
  have hI3 : h4 a = some (tg, .inr (10, [.int (iI (pl)), .int (iI (mk)), .null, .int (iI (0)), .null, .int (iI (0))])) := by rw [ehz, up_n (by omega)]; exact f3_a
  have hA3 : h4 (a + 1) = some ((2, 0), .inr (17, [.int (iI (0)), .ref (G.2.2.1 0), .int (iI (0))])) := by rw [ehz]; exact up_s _ _ _
  show W p l e (gR lv 1 3) s m args below meth c H locs 1 3 Q (F0 m 14 ls [.ref (a + 1), .ref a])
  refine n_putF (ci := 10) X in_X12 tyX12 tyX12_ok nmX12 hW hG hS hI3 rfl 4 (by decide) q592 (fun _ h => h) rfl hinit rfl rfl rfl (Nat.le_of_ble_eq_true rfl) (fs' := [.int (iI (pl)), .int (iI (mk)), .null, .int (iI (0)), .ref (a + 1), .int (iI (0))]) rfl dX12_init_14 (fun H locs hG hS => ?_)
  obtain ⟨h5, eh5⟩ : ∃ hz, hz = va_up h4 a (some (tg, .inr (10, [.int (iI (pl)), .int (iI (mk)), .null, .int (iI (0)), .ref (a + 1), .int (iI (0))]))) := ⟨_, rfl⟩
  rw [← eh5] at hG
  have f5_a1 : h5 (a + 1) = some ((2, 0), .inr (17, [.int (iI (0)), .ref (G.2.2.1 0), .int (iI (0))])) := by rw [eh5, up_n (by omega)]; exact hA3
  have f5_a : h5 a = some (tg, .inr (10, [.int (iI (pl)), .int (iI (mk)), .null, .int (iI (0)), .ref (a + 1), .int (iI (0))])) := by rw [eh5]; exact up_s _ _ _
  refine lv_aload_n X.1 X.2.1 dX12_init_17 rfl (lv_at hl 0 rfl) ?_
  refine lv_iconst (v := iI (2)) X.1 X.2.1 dX12_init_18 rfl ?_
  have ehq := eh5
  refine n_put (ci := 10) X in_X12 tyX12 tyX12_ok nmX12 hW hG hS f5_a rfl 5 (by decide) q597 (fun _ h => h) rfl rfl rfl (Nat.le_of_ble_eq_true rfl) (fs' := [.int (iI (pl)), .int (iI (mk)), .null, .int (iI (0)), .ref (a + 1), .int (iI (2))]) rfl dX12_init_19 (fun H locs hG hS => ?_)
  obtain ⟨h6, eh6⟩ : ∃ hz, hz = va_up h5 a (some (tg, .inr (10, [.int (iI (pl)), .int (iI (mk)), .null, .int (iI (0)), .ref (a + 1), .int (iI (2))]))) := ⟨_, rfl⟩
  rw [← eh6] at hG
  have f6_a1 : h6 (a + 1) = some ((2, 0), .inr (17, [.int (iI (0)), .ref (G.2.2.1 0), .int (iI (0))])) := by rw [eh6, up_n (by omega)]; exact f5_a1
  have f6_a : h6 a = some (tg, .inr (10, [.int (iI (pl)), .int (iI (mk)), .null, .int (iI (0)), .ref (a + 1), .int (iI (2))])) := by rw [eh6]; exact up_s _ _ _
  refine ret _ _ _ _ _ _ _ _ ?_ (by show 1 ≤ 1; omega) (by show 3 ≤ 3; omega) hG hS dX12_init_22
  refine ⟨rfl, rfl, f6_a, ⟨(2, 0), 0, G.2.2.1 0, ?_, ⟨by decide, fun z => absurd z (Nat.lt_irrefl _)⟩, Nat.le_refl _, by omega, Or.inl ⟨rfl, rfl⟩, fun x hx => by cases hx⟩, fun q h1 h2 => ?_⟩
  · exact f6_a1
  · rw [eh6, up_n h1, ehq, up_n h1, ehz, up_n h2, ehn, up_n h2, eh, up_n h1]

