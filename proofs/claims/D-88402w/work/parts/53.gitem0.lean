/-! ===== items: the picture of a term in the heap ===== -/
set_option maxRecDepth 100000
/-- letters as the Glass has them (the first one highest), out of the Model's (the first one lowest) -/
def gLr : Nat → Int → Int → Int
  | 0, acc, _ => acc
  | f + 1, acc, w => if w = 0 then acc else gLr f (acc * 256 + w % 256) (w / 256)
def gLt (w : Int) : Int := gLr 6 0 w
/-- words of at most k bytes, none of them 0 -/
def wOkN : Nat → Int → Prop
  | 0, w => w = 0
  | k + 1, w => w = 0 ∨ (0 < w ∧ 0 < w % 256 ∧ wOkN k (w / 256))
def wOk (w : Int) : Prop := wOkN 6 w
/-- what an item's cell holds: row i of R; where it is, its number -/
def itE (R : FF) (i : Int) (inp : Value) (num : Int) (a : Nat) : va_E :=
  if R 0 i = 0 then .inr (11, [.int (iI (R 3 i)), .int (iI (R 4 i)), inp, .int (iI num), .int (iI (R 1 i))])
  else if R 0 i = 1 then .inr (12, [.int (iI (R 3 i)), .int (iI (R 4 i)), inp, .int (iI num), .long (lI (gLt (R 1 i))), .int (iI (R 2 i))])
  else .inr (10, [.int (iI (R 3 i)), .int (iI (R 4 i)), inp, .int (iI num), .ref (a + 1), .int (iI (R 0 i))])
/-- the parts of a list, by address -/
def chs (R : FF) (ad : Int → Nat) (i : Int) : List Nat := (List.range (R 6 i).toNat).map (fun (j : Nat) => ad (chh (R 5) i j))
theorem chs_len (R : FF) (ad : Int → Nat) (i : Int) : (chs R ad i).length = (R 6 i).toNat := by simp [chs]
theorem chs_get (R : FF) (ad : Int → Nat) (i : Int) {j : Nat} (hj : (j : Int) < R 6 i) : (chs R ad i)[j]? = some (ad (chh (R 5) i j)) := by
  unfold chs
  rw [List.getElem?_map, List.getElem?_range (by omega)]
  rfl
/-- ITEM i is in the heap -/
def IT (G : gEnv) (h : gH) (R : FF) (ad : Int → Nat) (tg : gT) (inp : Value) (num : Int) (i : Int) : Prop :=
  h (ad i) = some (tg, itE R i inp num (ad i)) ∧ (2 ≤ R 0 i → AL G h (ad i + 1) (chs R ad i) (R 6 i).toNat)
/-- items lo .. hi-1 are -/
def TR (G : gEnv) (h : gH) (R : FF) (ad : Int → Nat) (tg : gT) (inp : Int → Value) (num : Int → Int) (lo hi : Int) : Prop :=
  ∀ i, lo ≤ i → i < hi → IT G h R ad tg (inp i) (num i) i
theorem itE0 {R : FF} {i : Int} (h : R 0 i = 0) (inp : Value) (num : Int) (a : Nat) : itE R i inp num a = .inr (11, [.int (iI (R 3 i)), .int (iI (R 4 i)), inp, .int (iI num), .int (iI (R 1 i))]) := if_pos h
theorem itE1 {R : FF} {i : Int} (h : R 0 i = 1) (inp : Value) (num : Int) (a : Nat) : itE R i inp num a = .inr (12, [.int (iI (R 3 i)), .int (iI (R 4 i)), inp, .int (iI num), .long (lI (gLt (R 1 i))), .int (iI (R 2 i))]) := by
  unfold itE
  rw [if_neg (by omega), if_pos h]
theorem itE2 {R : FF} {i : Int} (h : 2 ≤ R 0 i) (inp : Value) (num : Int) (a : Nat) : itE R i inp num a = .inr (10, [.int (iI (R 3 i)), .int (iI (R 4 i)), inp, .int (iI num), .ref (a + 1), .int (iI (R 0 i))]) := by
  unfold itE
  rw [if_neg (by omega), if_neg (by omega)]
theorem itE_obj (R : FF) (i : Int) (inp : Value) (num : Int) (a : Nat) : ∃ ci fs, itE R i inp num a = .inr (ci, fs) ∧ (ci = 10 ∨ ci = 11 ∨ ci = 12) := by
  unfold itE
  split
  · exact ⟨_, _, rfl, Or.inr (Or.inl rfl)⟩
  · split
    · exact ⟨_, _, rfl, Or.inr (Or.inr rfl)⟩
    · exact ⟨_, _, rfl, Or.inl rfl⟩
theorem IT.obj {G : gEnv} {h : gH} {R : FF} {ad : Int → Nat} {tg : gT} {inp : Value} {num i : Int} (hI : IT G h R ad tg inp num i) : gObj h (ad i) := by
  obtain ⟨ci, fs, e, -⟩ := itE_obj R i inp num (ad i)
  exact ⟨tg, ci, fs, by rw [hI.1, e]⟩
/-- a virtual method, by the receiver's class -/
def gVC (l : Launch) (x : MethodName) (G : gEnv) (A : Nat → Prop) (lv mc ms b : Nat) (As : List Value) (h : gH) (n : Nat) (post : Option Value → gH → Nat → Prop) : Prop :=
  ∃ (tg : gT) (ci : Nat) (fs : List Value) (r : vw_C) (y : MethodName) (cc : ByteArray) (nL : Nat) (rt : Option FieldType), h b = some (tg, .inr (ci, fs)) ∧ vwCl[ci]? = some r ∧ gC l y cc nL rt G A lv mc ms (.ref b :: As) h n post ∧ Cond.selects r.1 x y ∈ lw_all ∧ Cond.instanceMethod y ∈ lw_all ∧ Cond.initialized y.cls ∈ lw_all ∧ Cond.code y cc nL rt ∈ lw_all ∧ nL ≤ 20
theorem gVC.mono {l : Launch} {x : MethodName} {G : gEnv} {A : Nat → Prop} {lv mc ms b : Nat} {As : List Value} {h : gH} {n : Nat} {post post' : Option Value → gH → Nat → Prop} (hc : gVC l x G A lv mc ms b As h n post) (hp : ∀ v h' n', post v h' n' → post' v h' n') : gVC l x G A lv mc ms b As h n post' := by
  obtain ⟨tg, ci, fs, r, y, cc, nL, rt, h1, h2, h3, h4⟩ := hc
  exact ⟨tg, ci, fs, r, y, cc, nL, rt, h1, h2, h3.mono hp, h4⟩
section GVIRT
variable {p : Program} {l : Launch} {e : Env} {R : Room} {s : State} {m : MethodId} {args : Array Value} {below : List Frame} {meth : Method} {c : Code} {H : Heap} {locs : List Loc} {cells slots : Nat} {Q : State → Prop}
variable {cc : ByteArray} {pc nL lv mc ms index k n : Nat} {ls : Array Slot} {rest st0 As : List Value} {G : gEnv} {A : Nat → Prop} {h : gH} {own : String} {x : MethodName} {b : Nat}
theorem g_callX {post : Option Value → gH → Nat → Prop} (X : CallFix p m c cc nL s args lw_all own) (hW : gWd G A s) (hG : gOn G.1 A h n H) (hS : va_S A s.heap H locs) (hV : gVC l x G A lv mc ms b As h n post) (h1 : Cond.methodLink own index x ∈ lw_all) (h2 : Cond.sameMethod x.cls x.cls x.name x.desc ∈ lw_all) (hdecl : va_Decl s x) (hd : x.cls ≠ "java/lang/invoke/MethodHandle" ∧ x.cls ≠ "java/lang/invoke/VarHandle" ∧ (parseMethodDescriptor x.desc).map (fun d => d.parameters.length) = some k) (hn : As.length = k) (hlv : lv + 1 ≤ R.frames ∧ 40 + 40 * lv ≤ R.locals) (hcs : cells + mc ≤ R.cells ∧ slots + ms ≤ R.slots) (hls : ls.size = nL) (hst : st0 = As.reverse ++ .ref b :: rest) (hroom : (rest.map fun v => v.category).sum ≤ 8) (hdg : decode cc pc = .ok (.invokevirtual index, 3))
    (kk : ∀ (v : Option Value) (h' : gH) (n' : Nat) (H1 : Heap) (locs1 : List Loc), post v h' n' → gOn G.1 A h' n' H1 → va_S A s.heap H1 locs1 → W p l e R s m args below meth c H1 locs1 (cells + mc) (slots + ms) Q (F0 m (pc + 3) ls (v.toList ++ rest))) : W p l e R s m args below meth c H locs cells slots Q (F0 m pc ls st0) := by
  obtain ⟨tg, ci, fs, r, y, cc', nL', rt, a1, a2, a3, a4, a5, a6, a7, a8⟩ := hV
  exact g_callU (C := r.1) (T := r.2.1) (N := r.2.2) X hW hG hS a1 a2 a3 h1 h2 a4 a5 a6 a7 hdecl hd hn ⟨hlv.1, by omega⟩ hcs hls hst hroom hdg kk
end GVIRT
section ITF
variable {p : Program} {l : Launch} {e : Env} {R : Room} {s : State} {m : MethodId} {args : Array Value} {below : List Frame} {meth : Method} {c : Code} {H : Heap} {locs : List Loc} {cells slots : Nat} {Q : State → Prop}
variable {cc : ByteArray} {pc nL index n : Nat} {ls : Array Slot} {rest : List Value} {G : gEnv} {A : Nat → Prop} {h : gH} {own : String} {F : FF} {ad : Int → Nat} {tg : gT} {inp : Value} {num i : Int}
theorem it_place (X : CallFix p m c cc nL s args lw_all own) (hW : gWd G A s) (hG : gOn G.1 A h n H) (hI : h (ad i) = some (tg, itE F i inp num (ad i))) (hlink : (Cond.fieldLink own index "MacroGlass$Item" "place" "I") ∈ lw_all) (hdg : decode cc pc = .ok (.getfield index, 3))
    (kk : W p l e R s m args below meth c H locs cells slots Q (F0 m (pc + 3) ls (.int (iI (F 3 i)) :: rest))) : W p l e R s m args below meth c H locs cells slots Q (F0 m pc ls (.ref (ad i) :: rest)) := by
  unfold itE at hI
  by_cases h0 : F 0 i = 0
  · rw [if_pos h0] at hI
    exact n_get (ci := 11) (ref := "MacroGlass$Item") X in_X13 hW hG hI rfl 0 (by decide) hlink (fun _ h => h) rfl hdg kk
  · rw [if_neg h0] at hI
    by_cases h1 : F 0 i = 1
    · rw [if_pos h1] at hI
      exact n_get (ci := 12) (ref := "MacroGlass$Item") X in_X14 hW hG hI rfl 0 (by decide) hlink (fun _ h => h) rfl hdg kk
    · rw [if_neg h1] at hI
      exact n_get (ci := 10) (ref := "MacroGlass$Item") X in_X12 hW hG hI rfl 0 (by decide) hlink (fun _ h => h) rfl hdg kk
theorem it_maker (X : CallFix p m c cc nL s args lw_all own) (hW : gWd G A s) (hG : gOn G.1 A h n H) (hI : h (ad i) = some (tg, itE F i inp num (ad i))) (hlink : (Cond.fieldLink own index "MacroGlass$Item" "maker" "I") ∈ lw_all) (hdg : decode cc pc = .ok (.getfield index, 3))
    (kk : W p l e R s m args below meth c H locs cells slots Q (F0 m (pc + 3) ls (.int (iI (F 4 i)) :: rest))) : W p l e R s m args below meth c H locs cells slots Q (F0 m pc ls (.ref (ad i) :: rest)) := by
  unfold itE at hI
  by_cases h0 : F 0 i = 0
  · rw [if_pos h0] at hI
    exact n_get (ci := 11) (ref := "MacroGlass$Item") X in_X13 hW hG hI rfl 1 (by decide) hlink (fun _ h => h) rfl hdg kk
  · rw [if_neg h0] at hI
    by_cases h1 : F 0 i = 1
    · rw [if_pos h1] at hI
      exact n_get (ci := 12) (ref := "MacroGlass$Item") X in_X14 hW hG hI rfl 1 (by decide) hlink (fun _ h => h) rfl hdg kk
    · rw [if_neg h1] at hI
      exact n_get (ci := 10) (ref := "MacroGlass$Item") X in_X12 hW hG hI rfl 1 (by decide) hlink (fun _ h => h) rfl hdg kk
theorem it_in (X : CallFix p m c cc nL s args lw_all own) (hW : gWd G A s) (hG : gOn G.1 A h n H) (hI : h (ad i) = some (tg, itE F i inp num (ad i))) (hlink : (Cond.fieldLink own index "MacroGlass$Item" "in" "LMacroGlass$List;") ∈ lw_all) (hdg : decode cc pc = .ok (.getfield index, 3))
    (kk : W p l e R s m args below meth c H locs cells slots Q (F0 m (pc + 3) ls (inp :: rest))) : W p l e R s m args below meth c H locs cells slots Q (F0 m pc ls (.ref (ad i) :: rest)) := by
  unfold itE at hI
  by_cases h0 : F 0 i = 0
  · rw [if_pos h0] at hI
    exact n_get (ci := 11) (ref := "MacroGlass$Item") X in_X13 hW hG hI rfl 2 (by decide) hlink (fun _ h => h) rfl hdg kk
  · rw [if_neg h0] at hI
    by_cases h1 : F 0 i = 1
    · rw [if_pos h1] at hI
      exact n_get (ci := 12) (ref := "MacroGlass$Item") X in_X14 hW hG hI rfl 2 (by decide) hlink (fun _ h => h) rfl hdg kk
    · rw [if_neg h1] at hI
      exact n_get (ci := 10) (ref := "MacroGlass$Item") X in_X12 hW hG hI rfl 2 (by decide) hlink (fun _ h => h) rfl hdg kk
theorem it_number (X : CallFix p m c cc nL s args lw_all own) (hW : gWd G A s) (hG : gOn G.1 A h n H) (hI : h (ad i) = some (tg, itE F i inp num (ad i))) (hlink : (Cond.fieldLink own index "MacroGlass$Item" "number" "I") ∈ lw_all) (hdg : decode cc pc = .ok (.getfield index, 3))
    (kk : W p l e R s m args below meth c H locs cells slots Q (F0 m (pc + 3) ls (.int (iI num) :: rest))) : W p l e R s m args below meth c H locs cells slots Q (F0 m pc ls (.ref (ad i) :: rest)) := by
  unfold itE at hI
  by_cases h0 : F 0 i = 0
  · rw [if_pos h0] at hI
    exact n_get (ci := 11) (ref := "MacroGlass$Item") X in_X13 hW hG hI rfl 3 (by decide) hlink (fun _ h => h) rfl hdg kk
  · rw [if_neg h0] at hI
    by_cases h1 : F 0 i = 1
    · rw [if_pos h1] at hI
      exact n_get (ci := 12) (ref := "MacroGlass$Item") X in_X14 hW hG hI rfl 3 (by decide) hlink (fun _ h => h) rfl hdg kk
    · rw [if_neg h1] at hI
      exact n_get (ci := 10) (ref := "MacroGlass$Item") X in_X12 hW hG hI rfl 3 (by decide) hlink (fun _ h => h) rfl hdg kk
end ITF
/-- an item is of one of three classes -/
theorem IT.cs {G : gEnv} {h : gH} {R : FF} {ad : Int → Nat} {tg : gT} {inp : Value} {num i : Int} (hI : IT G h R ad tg inp num i) (hw : 0 ≤ R 0 i) :
    (R 0 i = 0 ∧ h (ad i) = some (tg, .inr (11, [.int (iI (R 3 i)), .int (iI (R 4 i)), inp, .int (iI num), .int (iI (R 1 i))]))) ∨
    (R 0 i = 1 ∧ h (ad i) = some (tg, .inr (12, [.int (iI (R 3 i)), .int (iI (R 4 i)), inp, .int (iI num), .long (lI (gLt (R 1 i))), .int (iI (R 2 i))]))) ∨
    (2 ≤ R 0 i ∧ h (ad i) = some (tg, .inr (10, [.int (iI (R 3 i)), .int (iI (R 4 i)), inp, .int (iI num), .ref (ad i + 1), .int (iI (R 0 i))])) ∧ AL G h (ad i + 1) (chs R ad i) (R 6 i).toNat) := by
  obtain ⟨h1, h2⟩ := hI
  rcases (show R 0 i = 0 ∨ R 0 i = 1 ∨ 2 ≤ R 0 i by omega) with z | z | z
  · rw [itE0 z] at h1; exact Or.inl ⟨z, h1⟩
  · rw [itE1 z] at h1; exact Or.inr (Or.inl ⟨z, h1⟩)
  · rw [itE2 z] at h1; exact Or.inr (Or.inr ⟨z, h1, h2 z⟩)
theorem IT.sub {G : gEnv} {h h' : gH} {R : FF} {ad : Int → Nat} {tg : gT} {inp : Value} {num i : Int} (hI : IT G h R ad tg inp num i) (hs : gSub h h') : IT G h' R ad tg inp num i := ⟨hs _ _ hI.1, fun w => (hI.2 w).sub hs⟩
theorem TR.sub {G : gEnv} {h h' : gH} {R : FF} {ad : Int → Nat} {tg : gT} {inp : Int → Value} {num : Int → Int} {lo hi : Int} (hT : TR G h R ad tg inp num lo hi) (hs : gSub h h') : TR G h' R ad tg inp num lo hi := fun i a b => (hT i a b).sub hs
