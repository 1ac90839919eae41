/-! ===== BASE: the classes by number, a heap as a function of addresses, rows over it ===== -/
set_option maxRecDepth 100000
/-- the classes whose objects the run makes, by number -/
abbrev vwCl : List vw_C := [(RX0, TX0, 15), (RX1, TX1, 84), (RX2, TX2, 8), (RX3, TX3, 8), (RX5, TX5, 2), (RX6, TX6, 2), (RX7, TX7, 3), (RX8, TX8, 3), (RX9, TX9, 3), (RX10, TX10, 3), (RX12, TX12, 6), (RX13, TX13, 5), (RX14, TX14, 6), (RX15, TX15, 2), (RX16, TX16, 2), (RX17, TX17, 3), (RX18, TX18, 3), (RJ2, TJ2, 3)]
/-- the array classes by number: int, long, byte, boolean, Object, Item -/
abbrev gTys (ca : Nat → ClassId) : List (ClassId × FieldType) := [(ca 0, .int), (ca 1, .long), (ca 2, .byte), (ca 3, .boolean), (ca 4, .object "java/lang/Object"), (ca 5, .object "MacroGlass$Item")]
abbrev gT : Type := Nat × Nat
abbrev gE : Type := gT × va_E
/-- the run's own cells: a tag (for the proof alone) and what the cell holds -/
abbrev gH : Type := Nat → Option gE
def gOk (D : va_G) (A : Nat → Prop) (h : gH) (H : Heap) : Prop :=
  ∀ (a : Nat) (e : gE), h a = some e → A a ∧ va_at D vwCl (a, e.2) H
theorem gOk.at {D : va_G} {A : Nat → Prop} {h : gH} {H : Heap} (hG : gOk D A h H) {a : Nat} {e : gE} (he : h a = some e) : va_P D vwCl [(a, e.2)] H := by
  intro k q hk
  have hz : k < 1 := (List.getElem?_eq_some_iff.mp hk).1
  rw [show k = 0 by omega] at hk
  cases hk
  exact (hG a e he).2
theorem gOk.lt {D : va_G} {A : Nat → Prop} {h : gH} {H : Heap} (hG : gOk D A h H) {a : Nat} {e : gE} (he : h a = some e) : a < H.size := ((hG a e he).2).lt
theorem gOk.fresh {D : va_G} {A : Nat → Prop} {h : gH} {H : Heap} (hG : gOk D A h H) {q : Nat} (hq : H.size ≤ q) : h q = none := by
  cases he : h q with
  | none => rfl
  | some e => exact absurd (hG.lt he) (by omega)
/-- one cell has changed -/
theorem gOk.set {D : va_G} {A : Nat → Prop} {h : gH} {H H1 : Heap} (hG : gOk D A h H) {a : Nat} {e0 : gE} (e : gE) (he : h a = some e0) (ha : va_at D vwCl (a, e.2) H1) (hz : H1.size = H.size) (oq : ∀ q : Nat, q ≠ a → H1[q]? = H[q]?) : gOk D A (va_up h a (some e)) H1 := by
  intro b f hb
  unfold va_up at hb
  by_cases hba : b = a
  · subst hba
    rw [if_pos rfl] at hb
    cases hb
    exact ⟨(hG b e0 he).1, ha⟩
  · rw [if_neg hba] at hb
    exact ⟨(hG b f hb).1, (hG b f hb).2.kept (oq b hba)⟩
/-- one cell is new -/
theorem gOk.push {D : va_G} {A : Nat → Prop} {h : gH} {H H1 : Heap} (hG : gOk D A h H) (hA : A H.size) (e : gE) (ha : va_at D vwCl (H.size, e.2) H1) (hz : H1.size = H.size + 1) (oq : ∀ q : Nat, q < H.size → H1[q]? = H[q]?) : gOk D A (va_up h H.size (some e)) H1 := by
  intro b f hb
  unfold va_up at hb
  by_cases hba : b = H.size
  · subst hba
    rw [if_pos rfl] at hb
    cases hb
    exact ⟨hA, ha⟩
  · rw [if_neg hba] at hb
    exact ⟨(hG b f hb).1, (hG b f hb).2.kept (oq b (hG.lt hb))⟩
/-- cells outside are nobody's business -/
theorem gOk.kept {D : va_G} {A : Nat → Prop} {h : gH} {H H1 : Heap} (hG : gOk D A h H) (oq : ∀ (q : Nat) (e : gE), h q = some e → H1[q]? = H[q]?) : gOk D A h H1 :=
  fun b f hb => ⟨(hG b f hb).1, (hG b f hb).2.kept (oq b f hb)⟩
section GROWS
variable {p : Program} {l : Launch} {e : Env} {R : Room} {s : State} {m : MethodId} {args : Array Value} {below : List Frame} {meth : Method} {c : Code} {H : Heap} {locs : List Loc} {cells slots : Nat} {Q : State → Prop}
variable {cc : ByteArray} {pc nL : Nat} {ls : Array Slot} {rest : List Value} {D : va_G} {A : Nat → Prop} {a : Nat} {tys : List (ClassId × FieldType)} {H0 : Heap} {h : gH} {own : String}
theorem g_get (S : CallFix p m c cc nL s args lw_all own) {ref C : String} {T : u_T} {N ci index : Nat} (hin : ∀ w ∈ u_ws C T N, w ∈ lw_all) (hK : va_K D vwCl tys s) (hG : gOk D A h H) {tg : gT} {fs : List Value} (he : h a = some (tg, .inr (ci, fs))) (hc : vwCl[ci]? = some (C, T, N)) (k : Nat) (hk : k < N) (hlink : (Cond.fieldLink own index ref (T k).2.1 (T k).2.2.1) ∈ lw_all) (hsame : ∀ x, s.fieldFound? (T k).1 (T k).2.1 (T k).2.2.1 = some x → s.fieldFound? ref (T k).2.1 (T k).2.2.1 = some x) {v : Value} (hv : fs[k]? = some v) (hdg : decode cc pc = .ok (.getfield index, 3))
    (kk : W p l e R s m args below meth c H locs cells slots Q (F0 m (pc + 3) ls (v :: rest))) : W p l e R s m args below meth c H locs cells slots Q (F0 m pc ls (.ref a :: rest)) :=
  va_get S.1 S.2.1 S.2.2.2.2 hin S.2.2.2.1 hK (hG.at he) 0 rfl hc k hk (S.2.2.2.2 _ hlink) hsame hv hdg kk
theorem g_put (S : CallFix p m c cc nL s args lw_all own) {ref C : String} {T : u_T} {N ci index : Nat} (hin : ∀ w ∈ u_ws C T N, w ∈ lw_all) (ty0 : Nat → FieldType) (hty : ∀ k, k < N → parseFieldDescriptor (T k).2.2.1 = some (ty0 k)) (hnm : ∀ a, a < N → ∀ b, b < N → a ≠ b → (T a).2.1 ≠ (T b).2.1) (hK : va_K D vwCl tys s) (hG : gOk D A h H) (hS0 : va_S A H0 H locs) {tg : gT} {fs : List Value} (he : h a = some (tg, .inr (ci, fs))) (hc : vwCl[ci]? = some (C, T, N)) (k : Nat) (hk : k < N) (hlink : (Cond.fieldLink own index ref (T k).2.1 (T k).2.2.1) ∈ lw_all) (hsame : ∀ x, s.fieldFound? (T k).1 (T k).2.1 (T k).2.2.1 = some x → s.fieldFound? ref (T k).2.1 (T k).2.2.1 = some x) (hfin : (T k).2.2.2 = false) {v : Value} (hn : narrow (ty0 k) v = v) (hfit : fits (ty0 k) v = true) (hl : k < fs.length) (hdg : decode cc pc = .ok (.putfield index, 3))
    (kk : ∀ (H1 : Heap) (locs1 : List Loc), gOk D A (va_up h a (some (tg, .inr (ci, fs.set k v)))) H1 → va_S A H0 H1 locs1 → H1.size = H.size → W p l e R s m args below meth c H1 locs1 cells slots Q (F0 m (pc + 3) ls rest)) : W p l e R s m args below meth c H locs cells slots Q (F0 m pc ls (v :: .ref a :: rest)) := by
  obtain ⟨hexec, hb, -, hown, hts⟩ := S
  have hap := va_apart (own := own) hts hin ty0 hty hnm hK hc
  have hg := hG a _ he
  obtain ⟨r, h1, cell, q1, q2, q3, q4⟩ := hg.2
  have hr : r = (C, T, N) := Option.some.inj (h1.symm.trans hc)
  subst hr
  obtain ⟨hS, hfc, kC, hkC, hkind⟩ := hK.1 ci _ hc
  obtain ⟨cf, kf, fi, f, hi, hsl⟩ := hS k hk
  have hlay := hts _ (hin _ (u_in_lay hk))
  unfold u_lay at hlay
  rw [if_neg (by rw [hfin]; decide)] at hlay
  have hst := (u_facts hfc hkC (u_lays hts hin hk) hi).1
  have h6 := u_store hfc hkC hkind hlay hi (hty k hk) hn hfit
  refine W.putK hexec hb (f := f) ⟨hown, hts _ hlink, ⟨_, _, _, hsame _ hi⟩, hst⟩ (by rw [q2]; exact h6) q1 q3 (by rw [hsl]; exact k2_hasslot (q4 k hk)) rfl rfl hdg fun H' e1 e2 e3 => ?_
  rw [hsl] at e1 ⊢
  refine kk H' _ (hG.set (tg, .inr (ci, fs.set k v)) he ?_ e2 e3) (hS0.put e2 e3 hg.1) e2
  exact ⟨_, hc, t_OB.to (V := updV (vp_V fs) k v) ⟨_, e1, q2, q3, t_set q4 hap hk v⟩ (fun j _ => vp_updV_set hl v j)⟩
theorem g_putF (S : CallFix p m c cc nL s args lw_all own) {ref C : String} {T : u_T} {N ci index : Nat} (hin : ∀ w ∈ u_ws C T N, w ∈ lw_all) (ty0 : Nat → FieldType) (hty : ∀ k, k < N → parseFieldDescriptor (T k).2.2.1 = some (ty0 k)) (hnm : ∀ a, a < N → ∀ b, b < N → a ≠ b → (T a).2.1 ≠ (T b).2.1) (hK : va_K D vwCl tys s) (hG : gOk D A h H) (hS0 : va_S A H0 H locs) {tg : gT} {fs : List Value} (he : h a = some (tg, .inr (ci, fs))) (hc : vwCl[ci]? = some (C, T, N)) (k : Nat) (hk : k < N) (hlink : (Cond.fieldLink own index ref (T k).2.1 (T k).2.2.1) ∈ lw_all) (hsame : ∀ x, s.fieldFound? (T k).1 (T k).2.1 (T k).2.2.1 = some x → s.fieldFound? ref (T k).2.1 (T k).2.2.1 = some x) (hfin : (T k).2.2.2 = true) (hin2 : meth.name = "<init>") (hdecl : (T k).1 = own) {v : Value} (hn : narrow (ty0 k) v = v) (hfit : fits (ty0 k) v = true) (hl : k < fs.length) (hdg : decode cc pc = .ok (.putfield index, 3))
    (kk : ∀ (H1 : Heap) (locs1 : List Loc), gOk D A (va_up h a (some (tg, .inr (ci, fs.set k v)))) H1 → va_S A H0 H1 locs1 → H1.size = H.size → W p l e R s m args below meth c H1 locs1 cells slots Q (F0 m (pc + 3) ls rest)) : W p l e R s m args below meth c H locs cells slots Q (F0 m pc ls (v :: .ref a :: rest)) := by
  obtain ⟨hexec, hb, -, hown, hts⟩ := S
  have hap := va_apart (own := own) hts hin ty0 hty hnm hK hc
  have hg := hG a _ he
  obtain ⟨r, h1, cell, q1, q2, q3, q4⟩ := hg.2
  have hr : r = (C, T, N) := Option.some.inj (h1.symm.trans hc)
  subst hr
  obtain ⟨hS, hfc, kC, hkC, hkind⟩ := hK.1 ci _ hc
  obtain ⟨cf, kf, fi, f, hi, hsl⟩ := hS k hk
  have hlay := hts _ (hin _ (u_in_lay hk))
  unfold u_lay at hlay
  rw [if_pos hfin] at hlay
  have hst := (u_facts hfc hkC (u_lays hts hin hk) hi).1
  have hcf : m.cls = cf := by
    obtain ⟨_, _, c', _, _, _, -, -, hf', -, -, -, hown2, -⟩ := Cond.laysFinal_spec hlay
    have e1 : c' = cf := by have := hi.symm.trans hf'; simp at this; exact this.1.symm
    rw [hdecl] at hown2
    rw [← e1]; exact Option.some.inj (hown.symm.trans hown2)
  have h6 := u_fits hfc hkC hkind (Or.inr hlay) hi (hty k hk) hn hfit
  refine W.putFinK hexec hb hown (hts _ hlink) (hsame _ hi) hst hcf hin2 (by rw [q2]; exact h6) q1 q3 (by rw [hsl]; exact k2_hasslot (q4 k hk)) rfl rfl hdg fun H' e1 e2 e3 => ?_
  rw [hsl] at e1 ⊢
  refine kk H' _ (hG.set (tg, .inr (ci, fs.set k v)) he ?_ e2 e3) (hS0.put e2 e3 hg.1) e2
  exact ⟨_, hc, t_OB.to (V := updV (vp_V fs) k v) ⟨_, e1, q2, q3, t_set q4 hap hk v⟩ (fun j _ => vp_updV_set hl v j)⟩
theorem g_new (S : CallFix p m c cc nL s args lw_all own) {C : String} {T : u_T} {N ci index : Nat} (hin : ∀ w ∈ u_ws C T N, w ∈ lw_all) (ty : Nat → FieldType) (hty : ∀ k, k < N → parseFieldDescriptor (T k).2.2.1 = some (ty k)) (hcl : (Cond.classLink own index C) ∈ lw_all) (hinst : (Cond.instantiable C N) ∈ lw_all) (hini : (Cond.initialized C) ∈ lw_all)
    (hK : va_K D vwCl tys s) (hG : gOk D A h H) (hS : va_S A H0 H locs) (hA : ∀ q, H0.size ≤ q → A q) (hc : vwCl[ci]? = some (C, T, N)) (tg : gT) {fs : List Value} (hfs : ∀ j, j < N → defaultValue (ty j) = vp_V fs j) (hcells : cells + 1 ≤ R.cells) (hslots : slots + N ≤ R.slots) (hdg : decode cc pc = .ok (.new index, 3))
    (kk : ∀ (H1 : Heap), gOk D A (va_up h H.size (some (tg, .inr (ci, fs)))) H1 → va_S A H0 H1 locs → H1.size = H.size + 1 →
      W p l e R s m args below meth c H1 locs (cells + 1) (slots + N) Q (F0 m (pc + 3) ls (.ref H.size :: rest))) : W p l e R s m args below meth c H locs cells slots Q (F0 m pc ls rest) := by
  obtain ⟨hexec, hb, -, hown, hts⟩ := S
  have hKn := hK.1 ci _ hc
  refine W.newcK hexec hb hown (hts _ hcl) (hts _ hinst) (hts _ hini) rfl hdg hcells hslots hKn.2.1 rfl fun H1 kC hkC e1 z1 o1 => ?_
  refine kk H1 (hG.push (hA _ hS.1) (tg, .inr (ci, fs)) ?_ z1 o1) ⟨Nat.le_trans hS.1 (by omega), fun x h1 h2 => (o1 x (Nat.lt_of_lt_of_le h1 hS.1)).trans (hS.2.1 x h1 h2), hS.2.2⟩ z1
  exact ⟨_, hc, (u_born ty hts hin hKn hkC e1 hty).to hfs⟩
theorem g_newa (S : CallFix p m c cc nL s args lw_all own) {atype : ArrayType} {ty : FieldType} (harr : (Cond.arrayClass ty) ∈ lw_all) (hty : newarray.typeOf atype = ty) {cA : ClassId} (hcA : s.vm.findClass ("[" ++ ty.toString) = some cA) (hG : gOk D A h H) (hS : va_S A H0 H locs) (hA : ∀ q, H0.size ≤ q → A q) (tg : gT)
    {n : Int32} {N' : Nat} {a0 : vp_A} (ha : vp_cell cA a0 = arrV cA N' (fun _ => defaultValue ty)) (hn : ¬ n < 0) (hN : n.toNatClampNeg = N') (hbytes : N' * componentBytes ty ≤ 536870912) (hcells : cells + 1 ≤ R.cells) (hslots : slots + N' ≤ R.slots) (hdg : decode cc pc = .ok (.newarray atype, 2))
    (kk : ∀ (H1 : Heap), gOk D A (va_up h H.size (some (tg, .inl (cA, a0)))) H1 → va_S A H0 H1 locs → H1.size = H.size + 1 →
      W p l e R s m args below meth c H1 locs (cells + 1) (slots + N') Q (F0 m (pc + 2) ls (.ref H.size :: rest))) : W p l e R s m args below meth c H locs cells slots Q (F0 m pc ls (.int n :: rest)) := by
  obtain ⟨hexec, hb, -, hown, hts⟩ := S
  subst hty
  refine va_newaK hexec hb (hts _ harr) rfl hdg rfl hn hN hbytes hcells hslots rfl fun H1 cA' e1 z1 o1 hAr hNm => ?_
  have hce : cA' = cA := Option.some.inj (hNm.symm.trans hcA)
  subst hce
  refine kk H1 (hG.push (hA _ hS.1) (tg, .inl (cA', a0)) ?_ z1 o1) ⟨Nat.le_trans hS.1 (by omega), fun x h1 h2 => (o1 x (Nat.lt_of_lt_of_le h1 hS.1)).trans (hS.2.1 x h1 h2), hS.2.2⟩ z1
  show H1[H.size]? = some (vp_cell _ _)
  rw [ha]
  exact e1
theorem g_iald (S : CallFix p m c cc nL s args lw_all own) (hK : va_K D vwCl tys s) (hG : gOk D A h H) {tg : gT} (t0 : Nat) {cA : ClassId} {n : Nat} {f : Nat → Int32} (he : h a = some (tg, .inl (cA, n, .inl f))) (ht : tys[t0]? = some (cA, .int)) {i : Int32} (hin : vp_in i n) (hdg : decode cc pc = .ok (.iaload, 1))
    (kk : W p l e R s m args below meth c H locs cells slots Q (F0 m (pc + 1) ls (.int (f i.toNatClampNeg) :: rest))) : W p l e R s m args below meth c H locs cells slots Q (F0 m pc ls (.int i :: .ref a :: rest)) :=
  va_iald S.1 S.2.1 hK (hG.at he) 0 t0 rfl ht hin hdg kk
theorem g_bald (S : CallFix p m c cc nL s args lw_all own) (hK : va_K D vwCl tys s) (hG : gOk D A h H) {tg : gT} (t0 : Nat) {cA : ClassId} {n : Nat} {f : Nat → Int32} (he : h a = some (tg, .inl (cA, n, .inl f))) (ht : tys[t0]? = some (cA, .byte)) {i : Int32} (hin : vp_in i n) (hdg : decode cc pc = .ok (.baload, 1))
    (kk : W p l e R s m args below meth c H locs cells slots Q (F0 m (pc + 1) ls (.int (f i.toNatClampNeg) :: rest))) : W p l e R s m args below meth c H locs cells slots Q (F0 m pc ls (.int i :: .ref a :: rest)) :=
  va_bald S.1 S.2.1 hK (hG.at he) 0 t0 rfl ht hin hdg kk
theorem g_zald (S : CallFix p m c cc nL s args lw_all own) (hK : va_K D vwCl tys s) (hG : gOk D A h H) {tg : gT} (t0 : Nat) {cA : ClassId} {n : Nat} {f : Nat → Int32} (he : h a = some (tg, .inl (cA, n, .inl f))) (ht : tys[t0]? = some (cA, .boolean)) {i : Int32} (hin : vp_in i n) (hdg : decode cc pc = .ok (.baload, 1))
    (kk : W p l e R s m args below meth c H locs cells slots Q (F0 m (pc + 1) ls (.int (f i.toNatClampNeg) :: rest))) : W p l e R s m args below meth c H locs cells slots Q (F0 m pc ls (.int i :: .ref a :: rest)) :=
  va_zald S.1 S.2.1 hK (hG.at he) 0 t0 rfl ht hin hdg kk
theorem g_lald (S : CallFix p m c cc nL s args lw_all own) (hK : va_K D vwCl tys s) (hG : gOk D A h H) {tg : gT} (t0 : Nat) {cA : ClassId} {n : Nat} {f : Nat → Int64} (he : h a = some (tg, .inl (cA, n, .inr (.inl f)))) (ht : tys[t0]? = some (cA, .long)) {i : Int32} (hin : vp_in i n) (hdg : decode cc pc = .ok (.laload, 1))
    (kk : W p l e R s m args below meth c H locs cells slots Q (F0 m (pc + 1) ls (.long (f i.toNatClampNeg) :: rest))) : W p l e R s m args below meth c H locs cells slots Q (F0 m pc ls (.int i :: .ref a :: rest)) :=
  va_lald S.1 S.2.1 hK (hG.at he) 0 t0 rfl ht hin hdg kk
theorem g_alen (S : CallFix p m c cc nL s args lw_all own) (hK : va_K D vwCl tys s) (hG : gOk D A h H) {tg : gT} (t0 : Nat) {cA : ClassId} {x : vp_A} (he : h a = some (tg, .inl (cA, x))) {ty : FieldType} (ht : tys[t0]? = some (cA, ty)) {v : Int32} (hv : Int32.ofNat x.1 = v) (hdg : decode cc pc = .ok (.arraylength, 1))
    (kk : W p l e R s m args below meth c H locs cells slots Q (F0 m (pc + 1) ls (.int v :: rest))) : W p l e R s m args below meth c H locs cells slots Q (F0 m pc ls (.ref a :: rest)) :=
  va_alen S.1 S.2.1 hK (hG.at he) 0 t0 rfl ht hv hdg kk
theorem g_iast (S : CallFix p m c cc nL s args lw_all own) (hK : va_K D vwCl tys s) (hG : gOk D A h H) (hS : va_S A H0 H locs) {tg : gT} (t0 : Nat) {cA : ClassId} {n : Nat} {f : Nat → Int32} (he : h a = some (tg, .inl (cA, n, .inl f))) (ht : tys[t0]? = some (cA, .int)) {i : Int32} {x : Int32} (hin : vp_in i n) (hdg : decode cc pc = .ok (.iastore, 1))
    (kk : ∀ (H1 : Heap) (locs1 : List Loc), gOk D A (va_up h a (some (tg, .inl (cA, n, .inl (upd f i.toNatClampNeg x))))) H1 → va_S A H0 H1 locs1 → H1.size = H.size → W p l e R s m args below meth c H1 locs1 cells slots Q (F0 m (pc + 1) ls rest)) : W p l e R s m args below meth c H locs cells slots Q (F0 m pc ls (.int x :: .int i :: .ref a :: rest)) := by
  obtain ⟨hexec, hb, -, hown, hts⟩ := S
  have hg := hG a _ he
  refine W.iast hexec hb hg.2 ((hK.2 t0 _ ht).1 n (fun j => .int (f j))) (fun q => by cases q) (by show ¬ (i < 0 ∨ (arrV _ _ _).slots.size ≤ _); rw [arrV_size]; exact hin) rfl rfl hdg fun H1 e z oq => ?_
  refine kk H1 _ (hG.set (tg, .inl (cA, n, .inl (upd f i.toNatClampNeg x))) he ?_ z oq) (hS.put z oq hg.1) z
  show H1[a]? = some (vp_cell _ _)
  rw [e, vp_cell_i, vp_cell_i, arrV_store]
  congr 2
  funext q
  by_cases hq : q = i.toNatClampNeg
  · subst hq
    simp [updV, upd]
  · simp [updV, upd, hq]
theorem g_bast (S : CallFix p m c cc nL s args lw_all own) (hK : va_K D vwCl tys s) (hG : gOk D A h H) (hS : va_S A H0 H locs) {tg : gT} (t0 : Nat) {cA : ClassId} {n : Nat} {f : Nat → Int32} (he : h a = some (tg, .inl (cA, n, .inl f))) (ht : tys[t0]? = some (cA, .byte)) {i : Int32} {x : Int32} (hin : vp_in i n) (hdg : decode cc pc = .ok (.bastore, 1))
    (kk : ∀ (H1 : Heap) (locs1 : List Loc), gOk D A (va_up h a (some (tg, .inl (cA, n, .inl (upd f i.toNatClampNeg (vp_nar .byte x)))))) H1 → va_S A H0 H1 locs1 → H1.size = H.size → W p l e R s m args below meth c H1 locs1 cells slots Q (F0 m (pc + 1) ls rest)) : W p l e R s m args below meth c H locs cells slots Q (F0 m pc ls (.int x :: .int i :: .ref a :: rest)) := by
  obtain ⟨hexec, hb, -, hown, hts⟩ := S
  have hg := hG a _ he
  refine W.bast hexec hb hg.2 ((hK.2 t0 _ ht).1 n (fun j => .int (f j))) (fun q => by cases q) (by show ¬ (i < 0 ∨ (arrV _ _ _).slots.size ≤ _); rw [arrV_size]; exact hin) rfl rfl hdg fun H1 e z oq => ?_
  refine kk H1 _ (hG.set (tg, .inl (cA, n, .inl (upd f i.toNatClampNeg (vp_nar .byte x)))) he ?_ z oq) (hS.put z oq hg.1) z
  show H1[a]? = some (vp_cell _ _)
  rw [e, vp_cell_i, vp_cell_i, arrV_store]
  congr 2
  funext q
  by_cases hq : q = i.toNatClampNeg
  · subst hq
    simp [updV, upd, vp_nar]
    try rfl
  · simp [updV, upd, hq]
theorem g_zast (S : CallFix p m c cc nL s args lw_all own) (hK : va_K D vwCl tys s) (hG : gOk D A h H) (hS : va_S A H0 H locs) {tg : gT} (t0 : Nat) {cA : ClassId} {n : Nat} {f : Nat → Int32} (he : h a = some (tg, .inl (cA, n, .inl f))) (ht : tys[t0]? = some (cA, .boolean)) {i : Int32} {x : Int32} (hin : vp_in i n) (hdg : decode cc pc = .ok (.bastore, 1))
    (kk : ∀ (H1 : Heap) (locs1 : List Loc), gOk D A (va_up h a (some (tg, .inl (cA, n, .inl (upd f i.toNatClampNeg (vp_nar .boolean x)))))) H1 → va_S A H0 H1 locs1 → H1.size = H.size → W p l e R s m args below meth c H1 locs1 cells slots Q (F0 m (pc + 1) ls rest)) : W p l e R s m args below meth c H locs cells slots Q (F0 m pc ls (.int x :: .int i :: .ref a :: rest)) := by
  obtain ⟨hexec, hb, -, hown, hts⟩ := S
  have hg := hG a _ he
  refine W.zast hexec hb hg.2 ((hK.2 t0 _ ht).1 n (fun j => .int (f j))) (fun q => by cases q) (by show ¬ (i < 0 ∨ (arrV _ _ _).slots.size ≤ _); rw [arrV_size]; exact hin) rfl rfl hdg fun H1 e z oq => ?_
  refine kk H1 _ (hG.set (tg, .inl (cA, n, .inl (upd f i.toNatClampNeg (vp_nar .boolean x)))) he ?_ z oq) (hS.put z oq hg.1) z
  show H1[a]? = some (vp_cell _ _)
  rw [e, vp_cell_i, vp_cell_i, arrV_store]
  congr 2
  funext q
  by_cases hq : q = i.toNatClampNeg
  · subst hq
    simp [updV, upd, vp_nar]
    try rfl
  · simp [updV, upd, hq]
theorem g_last (S : CallFix p m c cc nL s args lw_all own) (hK : va_K D vwCl tys s) (hG : gOk D A h H) (hS : va_S A H0 H locs) {tg : gT} (t0 : Nat) {cA : ClassId} {n : Nat} {f : Nat → Int64} (he : h a = some (tg, .inl (cA, n, .inr (.inl f)))) (ht : tys[t0]? = some (cA, .long)) {i : Int32} {x : Int64} (hin : vp_in i n) (hdg : decode cc pc = .ok (.lastore, 1))
    (kk : ∀ (H1 : Heap) (locs1 : List Loc), gOk D A (va_up h a (some (tg, .inl (cA, n, .inr (.inl (vp_updL f i.toNatClampNeg x)))))) H1 → va_S A H0 H1 locs1 → H1.size = H.size → W p l e R s m args below meth c H1 locs1 cells slots Q (F0 m (pc + 1) ls rest)) : W p l e R s m args below meth c H locs cells slots Q (F0 m pc ls (.long x :: .int i :: .ref a :: rest)) := by
  obtain ⟨hexec, hb, -, hown, hts⟩ := S
  have hg := hG a _ he
  refine W.last hexec hb hg.2 ((hK.2 t0 _ ht).1 n (fun j => .long (f j))) (fun q => by cases q) (by show ¬ (i < 0 ∨ (arrV _ _ _).slots.size ≤ _); rw [arrV_size]; exact hin) rfl rfl hdg fun H1 e z oq => ?_
  refine kk H1 _ (hG.set (tg, .inl (cA, n, .inr (.inl (vp_updL f i.toNatClampNeg x)))) he ?_ z oq) (hS.put z oq hg.1) z
  show H1[a]? = some (vp_cell _ _)
  rw [e, vp_cell_l, vp_cell_l, arrV_store]
  congr 2
  funext q
  by_cases hq : q = i.toNatClampNeg
  · subst hq
    simp [updV, vp_updL]
  · simp [updV, vp_updL, hq]
end GROWS
