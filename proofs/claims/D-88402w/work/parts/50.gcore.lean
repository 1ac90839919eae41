/-! ===== THE GLASS: what holds all through; contracts over a heap by addresses ===== -/
set_option maxRecDepth 100000
/-- the words that don't ride in the lists, and are taken along -/
def gKd : Cond → Bool
  | .fieldLinkNest _ _ _ _ _ _ => true
  | .methodLinkNest _ _ _ _ => true
  | .castable _ _ => true
  | .declares _ => true
  | _ => false
theorem gKd_warm {w : Cond} (hk : gKd w = true) {s U : State} (hW : s.WarmedH U.vm) (h : va_Nw w s) : va_Nw w U := by
  cases w <;> first | exact va_Nw.warmF hW h | exact va_Nw.warmM hW h | exact va_Nw.warmC hW h | exact va_Nw.warmD hW h | exact absurd hk (by simp [gKd])
theorem gKd_tab {w : Cond} (hk : gKd w = true) : w.onTables = true := by
  cases w <;> first | rfl | exact absurd hk (by simp [gKd])
def gNcs : List (String × String) := [("MacroGlass$Whole", "MacroGlass$Name"), ("MacroGlass$List", "MacroGlass$Name"), ("MacroGlass$Whole", "MacroGlass$List"), ("MacroGlass$Name", "MacroGlass$List"), ("MacroGlass$Parts", "MacroGlass$Var"), ("MacroGlass$Fixed", "MacroGlass$Var")]
/-- D, array classes, addresses, values of statics -/
abbrev gEnv : Type := va_G × (Nat → ClassId) × (Nat → Nat) × (Nat → Value)
/-- a String constant: its bytes -/
def gStr (own : String) (k : Nat) (tx : String) (bs : List Nat) (q v : Nat) (A : Nat → Prop) (U : State) : Prop :=
  vk_R own k tx q U ∧ va_O "java/lang/String" q A U U.heap ∧ va_OF "java/lang/String" "coder" "B" (.int 0) q A U U.heap ∧ va_OF "java/lang/String" "value" "[B" (.ref v) q A U U.heap ∧ va_T .byte v bs.length (fun j => .int (nI (bs.getD j 0))) A U U.heap
def gStrs : List (String × Nat × String × List Nat) := [("MacroGlass$Parser", 93, "word", [119, 111, 114, 100]), ("MacroGlass$Parser", 98, "raw", [114, 97, 119]), ("MacroGlass$Parser", 128, "let", [108, 101, 116]), ("MacroGlass$Parser", 130, "fun", [102, 117, 110]), ("MacroGlass$List", 46, "let", [108, 101, 116]), ("MacroGlass$List", 52, "fun", [102, 117, 110])]
/-- the statics that are read: class, name, descriptor -/
def gZs : List (String × String × String) := [("java/util/ArrayList", "DEFAULTCAPACITY_EMPTY_ELEMENTDATA", "[Ljava/lang/Object;"), ("java/lang/String", "COMPACT_STRINGS", "Z"), ("jdk/internal/util/Preconditions", "SIOOBE_FORMATTER", "Ljava/util/function/BiFunction;"), ("java/lang/Throwable", "UNASSIGNED_STACK", "[Ljava/lang/StackTraceElement;"), ("java/lang/Throwable", "SUPPRESSED_SENTINEL", "Ljava/util/List;")]
/-- WHAT HOLDS ALL THROUGH A RUN -/
def gWd (G : gEnv) (A : Nat → Prop) (U : State) : Prop :=
  va_K G.1 vwCl (gTys G.2.1) U ∧ (∀ w ∈ lw_tbl, gKd w = true → va_Nw w U) ∧ (∀ q ∈ gNcs, va_Nc q.1 q.2 U) ∧ va_AO "java/lang/Object" U ∧ va_AO "MacroGlass$Item" U ∧ va_Mi "[Ljava/lang/Object;" (G.2.2.1 1) U ∧
  (∀ (i : Nat) (q : String × String × String), gZs[i]? = some q → va_Z q.1 q.2.1 q.2.2 (G.2.2.2 i) A U U.heap) ∧ (G.2.2.2 0 = .ref (G.2.2.1 0) ∧ G.2.2.2 1 = .int 1 ∧ (G.2.2.2 2).isRef = true ∧ (G.2.2.2 3).isRef = true ∧ (G.2.2.2 4).isRef = true) ∧
  va_T (.object "java/lang/Object") (G.2.2.1 0) 0 (fun _ => .null) A U U.heap ∧
  ∀ (i : Nat) (q : String × Nat × String × List Nat), gStrs[i]? = some q → gStr q.1 q.2.1 q.2.2.1 q.2.2.2 (G.2.2.1 (10 + 2 * i)) (G.2.2.1 (11 + 2 * i)) A U
theorem gWd.K {G : gEnv} {A : Nat → Prop} {U : State} (h : gWd G A U) : va_K G.1 vwCl (gTys G.2.1) U := h.1
theorem gWd.N {G : gEnv} {A : Nat → Prop} {U : State} (h : gWd G A U) {w : Cond} (hw : w ∈ lw_tbl) (hk : gKd w = true) : va_Nw w U := h.2.1 w hw hk
theorem gWd.nc {G : gEnv} {A : Nat → Prop} {U : State} (h : gWd G A U) {C T : String} (hq : (C, T) ∈ gNcs) : va_Nc C T U := h.2.2.1 (C, T) hq
theorem gWd.to {G : gEnv} {A : Nat → Prop} {s U : State} (h : gWd G A s) {H : Heap} {locs : List Loc} (hS : va_S A s.heap H locs) (hW : s.WarmedH U.vm) (hU : U.heap = H) : gWd G A U := by
  obtain ⟨h1, h2, h3, h4, h5, h6, h7, h8, h9, h10⟩ := h
  have hk : ∀ a : Nat, a < s.heap.size → ¬ A a → U.heap[a]? = s.heap[a]? := fun a x y => by rw [hU]; exact hS.2.1 a x y
  refine ⟨va_K.moved hW.alike h1, fun w hw hk => gKd_warm hk hW (h2 w hw hk), fun q hq => va_Nc.moved hW.alike (h3 q hq), va_AO.moved hW.alike h4, va_AO.moved hW.alike h5, va_Mi.moved hW.alike h6, fun i q hq => ?_, h8, ?_, fun i q hq => ?_⟩
  · exact (va_Z.moved hW.alike (h7 i q hq)).kept hk
  · exact (va_T.moved hW.alike h9).kept hk
  · obtain ⟨g1, g2, g3, g4, g5⟩ := h10 i q hq
    exact ⟨vk_R.warm hW g1, (va_O.moved hW.alike g2).kept hk, (va_OF.moved hW.alike g3).kept hk, (va_OF.moved hW.alike g4).kept hk, (va_T.moved hW.alike g5).kept hk⟩
theorem gWd.calling {G : gEnv} {A : Nat → Prop} {U : State} (h : gWd G A U) (g : JFrame) (mk : MethodId) (a : Array Value) : gWd G A (U.calling g mk a) := by
  obtain ⟨h1, h2, h3, h4, h5, h6, h7, h8, h9, h10⟩ := h
  have hal : U.vm.Alike (U.calling g mk a).vm := Vm.Alike.refl U.vm
  refine ⟨va_K.moved hal h1, fun w hw hk => va_Nw.same (u := U) (U := U.calling g mk a) (gKd_tab hk) rfl (h2 w hw hk), fun q hq => va_Nc.moved hal (h3 q hq), va_AO.moved hal h4, va_AO.moved hal h5, va_Mi.moved hal h6, fun i q hq => ?_, h8, ?_, fun i q hq => ?_⟩
  · exact va_Z.moved hal (h7 i q hq)
  · exact va_T.moved hal h9
  · obtain ⟨g1, g2, g3, g4, g5⟩ := h10 i q hq
    exact ⟨vk_R.same rfl g1, va_O.moved hal g2, va_OF.moved hal g3, va_OF.moved hal g4, va_T.moved hal g5⟩
/-- the heap holds h, all of it lies below n, where the next cell comes -/
def gOn (D : va_G) (A : Nat → Prop) (h : gH) (n : Nat) (H : Heap) : Prop := gOk D A h H ∧ H.size = n ∧ ∀ q, n ≤ q → A q
theorem gOn.lt {D : va_G} {A : Nat → Prop} {h : gH} {n : Nat} {H : Heap} (hG : gOn D A h n H) {a : Nat} {e : gE} (he : h a = some e) : a < n := by
  have := hG.1.lt he
  rw [hG.2.1] at this
  exact this
theorem gOn.fresh {D : va_G} {A : Nat → Prop} {h : gH} {n : Nat} {H : Heap} (hG : gOn D A h n H) {q : Nat} (hq : n ≤ q) : h q = none := hG.1.fresh (by rw [hG.2.1]; exact hq)
abbrev gR (lv mc ms : Nat) : Room := { frames := lv, cells := mc, slots := ms, locals := 40 * lv }
def gPc (G : gEnv) (A : Nat → Prop) (av : List Value) (h : gH) (n : Nat) : Array Value → State → Prop := va_Pc av (fun U => gOn G.1 A h n U.heap ∧ gWd G A U)
def gQc (G : gEnv) (A : Nat → Prop) (post : Option Value → gH → Nat → Prop) : Array Value → State → Outcome → State → Prop := fun _ st oc t => (∃ (v : Option Value) (h' : gH) (n' : Nat), oc = .returned v ∧ post v h' n' ∧ gOn G.1 A h' n' t.heap) ∧ va_F A st t
/-- A CONTRACT of a method: at arguments av, heap h, next address n; it answers v and leaves h', n' with post; at most mc cells of ms slots; lv frames -/
def gC (l : Launch) (y : MethodName) (cc : ByteArray) (nL : Nat) (ret : Option FieldType) (G : gEnv) (A : Nat → Prop) (lv mc ms : Nat) (av : List Value) (h : gH) (n : Nat) (post : Option Value → gH → Nat → Prop) : Prop :=
  Met l y (ws_ y cc nL ret) (gR lv mc ms) (gPc G A av h n) (gQc G A post) mc ms A
theorem gC.mono {l : Launch} {y : MethodName} {cc : ByteArray} {nL : Nat} {ret : Option FieldType} {G : gEnv} {A : Nat → Prop} {lv mc ms : Nat} {av : List Value} {h : gH} {n : Nat} {post post' : Option Value → gH → Nat → Prop} (hc : gC l y cc nL ret G A lv mc ms av h n post) (hp : ∀ v h' n', post v h' n' → post' v h' n') : gC l y cc nL ret G A lv mc ms av h n post' := by
  intro p e ha hc' hk s m args below hf hpre hP hT
  obtain ⟨k, o', h1, h2, h3, ⟨⟨v, h', n', g1, g2, g3⟩, g5⟩, h5⟩ := hc p e ha hc' hk s m args below hf hpre hP hT
  exact ⟨k, o', h1, h2, h3, ⟨⟨v, h', n', g1, hp _ _ _ g2, g3⟩, g5⟩, h5⟩
section GOF
variable {l : Launch} {y : MethodName} {cc : ByteArray} {nL : Nat} {G : gEnv} {A : Nat → Prop} {lv mc ms : Nat} {av : List Value} {h : gH} {n : Nat} {post : Option Value → gH → Nat → Prop}
theorem gC_ofI {rt : FieldType} (own : String) (hy : plainName y.cls = true) (hyc : y.cls = own) (hav : (lg_sl av).length ≤ nL)
    (body : ∀ (p : Program) (e : Env) (s : State) (m : MethodId) (args : Array Value) (below : List Frame) (meth : Method) (c : Code) (Q : State → Prop), CallFix p m c cc nL s args lw_all own → gWd G A s →
      (∀ (x : Int32) (h' : gH) (n' : Nat) (H : Heap) (locs : List Loc) (cells slots pc : Nat) (ls : Array Slot), post (some (.int x)) h' n' → narrow rt (.int x) = .int x → cells ≤ mc → slots ≤ ms → gOn G.1 A h' n' H → va_S A s.heap H locs → decode cc pc = .ok (.ireturn, 1) → W p l e (gR lv mc ms) s m args below meth c H locs cells slots Q (F0 m pc ls [.int x])) →
      ∀ (H : Heap) (locs : List Loc) (ls : Array Slot), gOn G.1 A h n H → va_S A s.heap H locs → lv_has ls nL (lv_args 0 av) → W p l e (gR lv mc ms) s m args below meth c H locs 0 0 Q (F0 m 0 ls [])) : gC l y cc nL (some rt) G A lv mc ms av h n post := by
  refine Met.ofW (cc := cc) (maxL := nL) (ret := some rt) hy rfl ?_
  intro p e s m args below meth c s₁ B hml hv
  obtain ⟨rfl, hG, hK⟩ := hv
  have hts := atoms_spec (ws := ws_ y cc nL (some rt)) B.pre
  have hts : ∀ w ∈ lw_all, w.before _ s = true := fun w h => hts w (List.mem_cons_of_mem _ h)
  have hown : s.vm.findClass own = some m.cls := by rw [← hyc]; exact findClass_of_methodNamed B.named
  have hlocks := B.notSynchronized
  have hl := lv_entry av (n := nL) hav
  rw [lg_entry_eq]
  generalize (lg_sl av ++ List.replicate (nL - (lg_sl av).length) Slot.unset).toArray = ls at hl ⊢
  refine body p e s m _ below meth c _ ⟨B.exec, B.bytes, hml, hown, hts⟩ hK ?_ s.heap [] ls hG va_S.rf hl
  intro x h' n' H locs cells slots pc ls hp hn hc1 hc2 hg hs hd
  refine W.widen hc1 hc2 ?_
  exact W.zret B.exec B.bytes B.returns hn (fun t ht hW => ⟨⟨some (.int x), h', n', rfl, hp, by show gOn _ _ _ _ t.heap; rw [ht]; exact hg⟩, hs.F ht⟩) hs.2.2 hd
theorem gC_ofL (own : String) (hy : plainName y.cls = true) (hyc : y.cls = own) (hav : (lg_sl av).length ≤ nL)
    (body : ∀ (p : Program) (e : Env) (s : State) (m : MethodId) (args : Array Value) (below : List Frame) (meth : Method) (c : Code) (Q : State → Prop), CallFix p m c cc nL s args lw_all own → gWd G A s →
      (∀ (x : Int64) (h' : gH) (n' : Nat) (H : Heap) (locs : List Loc) (cells slots pc : Nat) (ls : Array Slot), post (some (.long x)) h' n' → cells ≤ mc → slots ≤ ms → gOn G.1 A h' n' H → va_S A s.heap H locs → decode cc pc = .ok (.lreturn, 1) → W p l e (gR lv mc ms) s m args below meth c H locs cells slots Q (F0 m pc ls [.long x])) →
      ∀ (H : Heap) (locs : List Loc) (ls : Array Slot), gOn G.1 A h n H → va_S A s.heap H locs → lv_has ls nL (lv_args 0 av) → W p l e (gR lv mc ms) s m args below meth c H locs 0 0 Q (F0 m 0 ls [])) : gC l y cc nL (some .long) G A lv mc ms av h n post := by
  refine Met.ofW (cc := cc) (maxL := nL) (ret := some .long) hy rfl ?_
  intro p e s m args below meth c s₁ B hml hv
  obtain ⟨rfl, hG, hK⟩ := hv
  have hts := atoms_spec (ws := ws_ y cc nL (some .long)) B.pre
  have hts : ∀ w ∈ lw_all, w.before _ s = true := fun w h => hts w (List.mem_cons_of_mem _ h)
  have hown : s.vm.findClass own = some m.cls := by rw [← hyc]; exact findClass_of_methodNamed B.named
  have hlocks := B.notSynchronized
  have hl := lv_entry av (n := nL) hav
  rw [lg_entry_eq]
  generalize (lg_sl av ++ List.replicate (nL - (lg_sl av).length) Slot.unset).toArray = ls at hl ⊢
  refine body p e s m _ below meth c _ ⟨B.exec, B.bytes, hml, hown, hts⟩ hK ?_ s.heap [] ls hG va_S.rf hl
  intro x h' n' H locs cells slots pc ls hp hc1 hc2 hg hs hd
  refine W.widen hc1 hc2 ?_
  exact W.lret B.exec B.bytes B.returns (fun t ht hW => ⟨⟨some (.long x), h', n', rfl, hp, by show gOn _ _ _ _ t.heap; rw [ht]; exact hg⟩, hs.F ht⟩) hs.2.2 hd
theorem gC_ofA {rt : FieldType} (hrt : (∃ n, rt = .object n) ∨ ∃ t, rt = .array t) (own : String) (hy : plainName y.cls = true) (hyc : y.cls = own) (hav : (lg_sl av).length ≤ nL)
    (body : ∀ (p : Program) (e : Env) (s : State) (m : MethodId) (args : Array Value) (below : List Frame) (meth : Method) (c : Code) (Q : State → Prop), CallFix p m c cc nL s args lw_all own → gWd G A s →
      (∀ (x : Value) (h' : gH) (n' : Nat) (H : Heap) (locs : List Loc) (cells slots pc : Nat) (ls : Array Slot), post (some x) h' n' → (x = .null ∨ ∃ a, x = .ref a) → cells ≤ mc → slots ≤ ms → gOn G.1 A h' n' H → va_S A s.heap H locs → decode cc pc = .ok (.areturn, 1) → W p l e (gR lv mc ms) s m args below meth c H locs cells slots Q (F0 m pc ls [x])) →
      ∀ (H : Heap) (locs : List Loc) (ls : Array Slot), gOn G.1 A h n H → va_S A s.heap H locs → lv_has ls nL (lv_args 0 av) → W p l e (gR lv mc ms) s m args below meth c H locs 0 0 Q (F0 m 0 ls [])) : gC l y cc nL (some rt) G A lv mc ms av h n post := by
  refine Met.ofW (cc := cc) (maxL := nL) (ret := some rt) hy rfl ?_
  intro p e s m args below meth c s₁ B hml hv
  obtain ⟨rfl, hG, hK⟩ := hv
  have hts := atoms_spec (ws := ws_ y cc nL (some rt)) B.pre
  have hts : ∀ w ∈ lw_all, w.before _ s = true := fun w h => hts w (List.mem_cons_of_mem _ h)
  have hown : s.vm.findClass own = some m.cls := by rw [← hyc]; exact findClass_of_methodNamed B.named
  have hlocks := B.notSynchronized
  have hl := lv_entry av (n := nL) hav
  rw [lg_entry_eq]
  generalize (lg_sl av ++ List.replicate (nL - (lg_sl av).length) Slot.unset).toArray = ls at hl ⊢
  refine body p e s m _ below meth c _ ⟨B.exec, B.bytes, hml, hown, hts⟩ hK ?_ s.heap [] ls hG va_S.rf hl
  intro x h' n' H locs cells slots pc ls hp hv hc1 hc2 hg hs hd
  refine W.widen hc1 hc2 ?_
  exact W.aret B.exec B.bytes B.returns hrt hv (fun t ht hW => ⟨⟨some x, h', n', rfl, hp, by show gOn _ _ _ _ t.heap; rw [ht]; exact hg⟩, hs.F ht⟩) hs.2.2 hd
theorem gC_ofV (own : String) (hy : plainName y.cls = true) (hyc : y.cls = own) (hav : (lg_sl av).length ≤ nL)
    (body : ∀ (p : Program) (e : Env) (s : State) (m : MethodId) (args : Array Value) (below : List Frame) (meth : Method) (c : Code) (Q : State → Prop), CallFix p m c cc nL s args lw_all own → meth.name = y.name → gWd G A s →
      (∀ (h' : gH) (n' : Nat) (H : Heap) (locs : List Loc) (cells slots pc : Nat) (ls : Array Slot), post none h' n' → cells ≤ mc → slots ≤ ms → gOn G.1 A h' n' H → va_S A s.heap H locs → decode cc pc = .ok (.return_, 1) → W p l e (gR lv mc ms) s m args below meth c H locs cells slots Q (F0 m pc ls [])) →
      ∀ (H : Heap) (locs : List Loc) (ls : Array Slot), gOn G.1 A h n H → va_S A s.heap H locs → lv_has ls nL (lv_args 0 av) → W p l e (gR lv mc ms) s m args below meth c H locs 0 0 Q (F0 m 0 ls [])) : gC l y cc nL none G A lv mc ms av h n post := by
  refine Met.ofW (cc := cc) (maxL := nL) (ret := none) hy rfl ?_
  intro p e s m args below meth c s₁ B hml hv
  obtain ⟨rfl, hG, hK⟩ := hv
  have hts := atoms_spec (ws := ws_ y cc nL none) B.pre
  have hts : ∀ w ∈ lw_all, w.before _ s = true := fun w h => hts w (List.mem_cons_of_mem _ h)
  have hown : s.vm.findClass own = some m.cls := by rw [← hyc]; exact findClass_of_methodNamed B.named
  have hlocks := B.notSynchronized
  have hl := lv_entry av (n := nL) hav
  rw [lg_entry_eq]
  generalize (lg_sl av ++ List.replicate (nL - (lg_sl av).length) Slot.unset).toArray = ls at hl ⊢
  refine body p e s m _ below meth c _ ⟨B.exec, B.bytes, hml, hown, hts⟩ (name_of_methodNamed B.named B.method).1 hK ?_ s.heap [] ls hG va_S.rf hl
  intro h' n' H locs cells slots pc ls hp hc1 hc2 hg hs hd
  refine W.widen hc1 hc2 ?_
  exact W.vret B.exec B.bytes B.returns (fun t ht hW => ⟨⟨none, h', n', rfl, hp, by show gOn _ _ _ _ t.heap; rw [ht]; exact hg⟩, hs.F ht⟩) hs.2.2 hd
end GOF
section GCALLS
variable {p : Program} {l : Launch} {e : Env} {R : Room} {s : State} {m : MethodId} {args : Array Value} {below : List Frame} {meth : Method} {c : Code} {H : Heap} {locs : List Loc} {cells slots : Nat} {Q : State → Prop}
variable {cc cc' : ByteArray} {pc nL nL' lv mc ms index k n : Nat} {ls : Array Slot} {rest st0 As : List Value} {G : gEnv} {A : Nat → Prop} {h : gH} {own C owner : String} {x y : MethodName} {rt : Option FieldType} {b : Nat}
theorem g_run {a : Array Value} {post : Option Value → gH → Nat → Prop} (hr : va_Run p l e R s m args below meth c H locs cells slots mc ms (F0 m pc ls st0) rest (gQc G A post a) A) (hS : va_S A s.heap H locs)
    (kk : ∀ (v : Option Value) (h' : gH) (n' : Nat) (H1 : Heap) (locs1 : List Loc), post v h' n' → gOn G.1 A h' n' H1 → va_S A s.heap H1 locs1 → H.size ≤ H1.size → (∀ q : Nat, q < H.size → ¬ A q → H1[q]? = H[q]?) → W p l e R s m args below meth c H1 locs1 (cells + mc) (slots + ms) Q (F0 m (pc + 3) ls (v.toList ++ rest))) : W p l e R s m args below meth c H locs cells slots Q (F0 m pc ls st0) := by
  intro T hT X
  obtain ⟨v, st₀, t, T', L, h0, X', hL, e1, e2, ⟨⟨v', h', n', hv, hp, hb⟩, hz, hk⟩, st⟩ := hr T hT X
  cases hv
  rw [h0] at hz hk
  obtain ⟨t2, a1, b1⟩ := kk v h' n' T'.heap (locs ++ L) hp (by rw [e1]; exact hb)
    ⟨Nat.le_trans hS.1 (by rw [e1]; exact hz), fun q h1 h2 => by rw [e1, hk q (Nat.lt_of_lt_of_le h1 hS.1) h2]; exact hS.2.1 q h1 h2, fun q hq => by
      rcases List.mem_append.mp hq with h | h
      · exact hS.2.2 q h
      · exact hL q h⟩ (by rw [e1]; exact hz) (fun q h1 h2 => by rw [e1]; exact hk q h1 h2) T' rfl X'
  exact ⟨t2, st t2 a1, b1⟩
theorem g_preS (hW : gWd G A s) (hG : gOn G.1 A h n H) (hS : va_S A s.heap H locs) : PreS s H (gPc G A As h n) As :=
  ⟨fun a U g mk q => ⟨q.1, q.2.1, q.2.2.calling g mk a⟩, fun U hU hWm => ⟨rfl, by rw [hU]; exact hG, hW.to hS hWm hU⟩⟩
theorem g_recv (hW : gWd G A s) (hG : gOn G.1 A h n H) {tg : gT} {ci : Nat} {fs : List Value} {T : u_T} {N : Nat} (he : h b = some (tg, .inr (ci, fs))) (hc : vwCl[ci]? = some (C, T, N)) : ∃ cell : Cell, H[b]? = some cell ∧ cell.vm.isStatics = false ∧ s.vm.findClass C = some cell.cls :=
  va_recv hW.K (hG.1.at he) (ci := ci) (q0 := 0) hc rfl
theorem g_preV (hW : gWd G A s) (hG : gOn G.1 A h n H) (hS : va_S A s.heap H locs) {tg : gT} {ci : Nat} {fs : List Value} {T : u_T} {N : Nat} (he : h b = some (tg, .inr (ci, fs))) (hc : vwCl[ci]? = some (C, T, N)) : PreV s H C b (gPc G A (.ref b :: As) h n) As :=
  ⟨fun a U g mk q => ⟨q.1, q.2.1, q.2.2.calling g mk a⟩, g_recv hW hG he hc, fun U hU hWm => ⟨rfl, by rw [hU]; exact hG, hW.to hS hWm hU⟩⟩
/-- a call of a method of the receiver's own class -/
theorem g_callV {post : Option Value → gH → Nat → Prop} (X : CallFix p m c cc nL s args lw_all own) (hW : gWd G A s) (hG : gOn G.1 A h n H) (hS : va_S A s.heap H locs) {tg : gT} {ci : Nat} {fs : List Value} {T : u_T} {N : Nat} (he : h b = some (tg, .inr (ci, fs))) (hc : vwCl[ci]? = some (C, T, N)) (hM : gC l y cc' nL' rt G A lv mc ms (.ref b :: As) h n post) (hw : GoodIn lw_all (wsV own index C y (ws_ y cc' nL' rt))) (hd : y.cls = C ∧ y.cls ≠ "java/lang/invoke/MethodHandle" ∧ y.cls ≠ "java/lang/invoke/VarHandle" ∧ (parseMethodDescriptor y.desc).map (fun d => d.parameters.length) = some k) (hn : As.length = k) (hlv : lv + 1 ≤ R.frames ∧ 8 + (nL' + 11) + 40 * lv ≤ R.locals) (hcs : cells + mc ≤ R.cells ∧ slots + ms ≤ R.slots) (hls : ls.size = nL) (hst : st0 = As.reverse ++ .ref b :: rest) (hroom : (rest.map fun v => v.category).sum ≤ 8) (hdg : decode cc pc = .ok (.invokevirtual index, 3))
    (kk : ∀ (v : Option Value) (h' : gH) (n' : Nat) (H1 : Heap) (locs1 : List Loc), post v h' n' → gOn G.1 A h' n' H1 → va_S A s.heap H1 locs1 → W p l e R s m args below meth c H1 locs1 (cells + mc) (slots + ms) Q (F0 m (pc + 3) ls (v.toList ++ rest))) : W p l e R s m args below meth c H locs cells slots Q (F0 m pc ls st0) := by
  subst hst
  exact g_run (va_runV (As := As) (rest := rest) X hM (cwV k X.2.2.2.2 hw rfl rfl rfl hd hlv) (g_preV hW hG hS he hc) rfl hn hls rfl (lv_room hroom) hdg hcs) hS (fun v h' n' H1 locs1 a b d _ _ => kk v h' n' H1 locs1 a b d)
theorem g_callS {post : Option Value → gH → Nat → Prop} (X : CallFix p m c cc nL s args lw_all own) (hW : gWd G A s) (hG : gOn G.1 A h n H) (hS : va_S A s.heap H locs) (hM : gC l y cc' nL' rt G A lv mc ms As h n post) (hw : GoodIn lw_all (va_wsS own index y (ws_ y cc' nL' rt))) (hd : y.cls ≠ "java/lang/invoke/MethodHandle" ∧ y.cls ≠ "java/lang/invoke/VarHandle" ∧ (parseMethodDescriptor y.desc).map (fun d => d.parameters.length) = some k) (hn : As.length = k) (hlv : lv + 1 ≤ R.frames ∧ 8 + (nL' + 11) + 40 * lv ≤ R.locals) (hcs : cells + mc ≤ R.cells ∧ slots + ms ≤ R.slots) (hls : ls.size = nL) (hst : st0 = As.reverse ++ rest) (hroom : (rest.map fun v => v.category).sum ≤ 8) (hdg : decode cc pc = .ok (.invokestatic index, 3))
    (kk : ∀ (v : Option Value) (h' : gH) (n' : Nat) (H1 : Heap) (locs1 : List Loc), post v h' n' → gOn G.1 A h' n' H1 → va_S A s.heap H1 locs1 → W p l e R s m args below meth c H1 locs1 (cells + mc) (slots + ms) Q (F0 m (pc + 3) ls (v.toList ++ rest))) : W p l e R s m args below meth c H locs cells slots Q (F0 m pc ls st0) := by
  subst hst
  exact g_run (va_runS (As := As) (rest := rest) X hM (va_cwS k X.2.2.2.2 hw rfl rfl rfl hd hlv) (g_preS hW hG hS) rfl hn hls rfl (lv_room hroom) hdg hcs) hS (fun v h' n' H1 locs1 a b d _ _ => kk v h' n' H1 locs1 a b d)
/-- a static private method of a nest mate -/
theorem g_callSN {post : Option Value → gH → Nat → Prop} {host : String} (X : CallFix p m c cc nL s args lw_all own) (hW : gWd G A s) (hG : gOn G.1 A h n H) (hS : va_S A s.heap H locs) (hM : gC l y cc' nL' rt G A lv mc ms As h n post) (hlk : Cond.methodLinkNest own index y host ∈ lw_tbl) (hst0 : Cond.static y ∈ lw_all) (hini : Cond.initialized y.cls ∈ lw_all) (hw : GoodIn lw_all (ws_ y cc' nL' rt)) (hd : y.cls ≠ "java/lang/invoke/MethodHandle" ∧ y.cls ≠ "java/lang/invoke/VarHandle" ∧ (parseMethodDescriptor y.desc).map (fun d => d.parameters.length) = some k) (hn : As.length = k) (hlv : lv + 1 ≤ R.frames ∧ 8 + (nL' + 11) + 40 * lv ≤ R.locals) (hcs : cells + mc ≤ R.cells ∧ slots + ms ≤ R.slots) (hls : ls.size = nL) (hst : st0 = As.reverse ++ rest) (hroom : (rest.map fun v => v.category).sum ≤ 8) (hdg : decode cc pc = .ok (.invokestatic index, 3))
    (kk : ∀ (v : Option Value) (h' : gH) (n' : Nat) (H1 : Heap) (locs1 : List Loc), post v h' n' → gOn G.1 A h' n' H1 → va_S A s.heap H1 locs1 → W p l e R s m args below meth c H1 locs1 (cells + mc) (slots + ms) Q (F0 m (pc + 3) ls (v.toList ++ rest))) : W p l e R s m args below meth c H locs cells slots Q (F0 m pc ls st0) := by
  subst hst
  exact g_run (va_runSN (As := As) (rest := rest) (host := host) X hM ⟨va_cnB k X.2.2.2.2 hw rfl rfl rfl (hW.N hlk rfl) (X.2.2.2.2 _ hini) hd hlv, X.2.2.2.2 _ hst0, trivial⟩ (g_preS hW hG hS) rfl hn hls rfl (lv_room hroom) hdg hcs) hS (fun v h' n' H1 locs1 a b d _ _ => kk v h' n' H1 locs1 a b d)
/-- a constructor -/
theorem g_callI {post : Option Value → gH → Nat → Prop} (X : CallFix p m c cc nL s args lw_all own) (hW : gWd G A s) (hG : gOn G.1 A h n H) (hS : va_S A s.heap H locs) (hM : gC l y cc' nL' none G A lv mc ms (.ref b :: As) h n post) (hlk : Cond.methodLink own index y ∈ lw_all) (hin : Cond.instanceMethod y ∈ lw_all) (hini : Cond.initialized y.cls ∈ lw_all) (hw : GoodIn lw_all (ws_ y cc' nL' none)) (hy : y.name = "<init>") (hd : y.cls ≠ "java/lang/invoke/MethodHandle" ∧ y.cls ≠ "java/lang/invoke/VarHandle" ∧ (parseMethodDescriptor y.desc).map (fun d => d.parameters.length) = some k) (hn : As.length = k) (hlv : lv + 1 ≤ R.frames ∧ 8 + (nL' + 11) + 40 * lv ≤ R.locals) (hcs : cells + mc ≤ R.cells ∧ slots + ms ≤ R.slots) (hls : ls.size = nL) (hst : st0 = As.reverse ++ .ref b :: rest) (hroom : (rest.map fun v => v.category).sum ≤ 8) (hdg : decode cc pc = .ok (.invokespecial index, 3))
    (kk : ∀ (v : Option Value) (h' : gH) (n' : Nat) (H1 : Heap) (locs1 : List Loc), post v h' n' → gOn G.1 A h' n' H1 → va_S A s.heap H1 locs1 → W p l e R s m args below meth c H1 locs1 (cells + mc) (slots + ms) Q (F0 m (pc + 3) ls (v.toList ++ rest))) : W p l e R s m args below meth c H locs cells slots Q (F0 m pc ls st0) := by
  subst hst
  exact g_run (va_runI (As := As) (rest := rest) X hM (cwI k X.2.2.2.2 hw rfl rfl rfl (X.2.2.2.2 _ hini) (X.2.2.2.2 _ hlk) (X.2.2.2.2 _ hin) hy hd hlv) (g_preS hW hG hS) rfl hn hls rfl (lv_room hroom) hdg hcs) hS (fun v h' n' H1 locs1 a b d _ _ => kk v h' n' H1 locs1 a b d)
end GCALLS
