/-! ===== rows over a heap by addresses, with the next address; calls by the receiver's class ===== -/
set_option maxRecDepth 100000
/-- an object of any class -/
def gObj (h : gH) (a : Nat) : Prop := ∃ (tg : gT) (ci : Nat) (fs : List Value), h a = some (tg, .inr (ci, fs))
theorem gCastO {G : gEnv} {A : Nat → Prop} {U : State} (hW : gWd G A U) {ci : Nat} {r : vw_C} (hc : vwCl[ci]? = some r) : va_Nw (.castable r.1 "java/lang/Object") U := by
  have hl : ci < 18 := (List.getElem?_eq_some_iff.mp hc).1
  rcases (show ci = 0 ∨ ci = 1 ∨ ci = 2 ∨ ci = 3 ∨ ci = 4 ∨ ci = 5 ∨ ci = 6 ∨ ci = 7 ∨ ci = 8 ∨ ci = 9 ∨ ci = 10 ∨ ci = 11 ∨ ci = 12 ∨ ci = 13 ∨ ci = 14 ∨ ci = 15 ∨ ci = 16 ∨ ci = 17 by omega) with rfl | rfl | rfl | rfl | rfl | rfl | rfl | rfl | rfl | rfl | rfl | rfl | rfl | rfl | rfl | rfl | rfl | rfl <;> cases hc
  · exact hW.N q1692 rfl
  · exact hW.N q1694 rfl
  · exact hW.N q1695 rfl
  · exact hW.N q1696 rfl
  · exact hW.N q1697 rfl
  · exact hW.N q1698 rfl
  · exact hW.N q1699 rfl
  · exact hW.N q1700 rfl
  · exact hW.N q1702 rfl
  · exact hW.N q1701 rfl
  · exact hW.N q1703 rfl
  · exact hW.N q1704 rfl
  · exact hW.N q1705 rfl
  · exact hW.N q1706 rfl
  · exact hW.N q1707 rfl
  · exact hW.N q1708 rfl
  · exact hW.N q1709 rfl
  · exact hW.N q1693 rfl
section NROWS
variable {p : Program} {l : Launch} {e : Env} {R : Room} {s : State} {m : MethodId} {args : Array Value} {below : List Frame} {meth : Method} {c : Code} {H : Heap} {locs : List Loc} {cells slots : Nat} {Q : State → Prop}
variable {cc : ByteArray} {pc nL : Nat} {ls : Array Slot} {rest : List Value} {G : gEnv} {A : Nat → Prop} {a n : Nat} {h : gH} {own : String}
theorem n_get (X : CallFix p m c cc nL s args lw_all own) {ref C : String} {T : u_T} {N ci index : Nat} (hin : ∀ w ∈ u_ws C T N, w ∈ lw_all) (hW : gWd G A s) (hG : gOn G.1 A h n H) {tg : gT} {fs : List Value} (he : h a = some (tg, .inr (ci, fs))) (hc : vwCl[ci]? = some (C, T, N)) (k : Nat) (hk : k < N) (hlink : (Cond.fieldLink own index ref (T k).2.1 (T k).2.2.1) ∈ lw_all) (hsame : ∀ x, s.fieldFound? (T k).1 (T k).2.1 (T k).2.2.1 = some x → s.fieldFound? ref (T k).2.1 (T k).2.2.1 = some x) {v : Value} (hv : fs[k]? = some v) (hdg : decode cc pc = .ok (.getfield index, 3))
    (kk : W p l e R s m args below meth c H locs cells slots Q (F0 m (pc + 3) ls (v :: rest))) : W p l e R s m args below meth c H locs cells slots Q (F0 m pc ls (.ref a :: rest)) :=
  va_get X.1 X.2.1 X.2.2.2.2 hin X.2.2.2.1 hW.K (hG.1.at he) 0 rfl hc k hk (X.2.2.2.2 _ hlink) hsame hv hdg kk
theorem n_getN (X : CallFix p m c cc nL s args lw_all own) {ref C host : String} {T : u_T} {N ci index : Nat} (hin : ∀ w ∈ u_ws C T N, w ∈ lw_all) (hW : gWd G A s) (hG : gOn G.1 A h n H) {tg : gT} {fs : List Value} (he : h a = some (tg, .inr (ci, fs))) (hc : vwCl[ci]? = some (C, T, N)) (k : Nat) (hk : k < N) (hlink : (Cond.fieldLinkNest own index ref (T k).2.1 (T k).2.2.1 host) ∈ lw_tbl) (hsame : ∀ x, s.fieldFound? (T k).1 (T k).2.1 (T k).2.2.1 = some x → s.fieldFound? ref (T k).2.1 (T k).2.2.1 = some x) {v : Value} (hv : fs[k]? = some v) (hdg : decode cc pc = .ok (.getfield index, 3))
    (kk : W p l e R s m args below meth c H locs cells slots Q (F0 m (pc + 3) ls (v :: rest))) : W p l e R s m args below meth c H locs cells slots Q (F0 m pc ls (.ref a :: rest)) :=
  va_getN X.1 X.2.1 X.2.2.2.2 hin X.2.2.2.1 hW.K (hG.1.at he) 0 rfl hc k hk (va_Nw.use rfl (hW.N hlink rfl)) hsame hv hdg kk
theorem n_put (X : CallFix p m c cc nL s args lw_all own) {ref C : String} {T : u_T} {N ci index : Nat} (hin : ∀ w ∈ u_ws C T N, w ∈ lw_all) (ty0 : Nat → FieldType) (hty : ∀ k, k < N → parseFieldDescriptor (T k).2.2.1 = some (ty0 k)) (hnm : ∀ a, a < N → ∀ b, b < N → a ≠ b → (T a).2.1 ≠ (T b).2.1) (hW : gWd G A s) (hG : gOn G.1 A h n H) (hS0 : va_S A s.heap H locs) {tg : gT} {fs : List Value} (he : h a = some (tg, .inr (ci, fs))) (hc : vwCl[ci]? = some (C, T, N)) (k : Nat) (hk : k < N) (hlink : (Cond.fieldLink own index ref (T k).2.1 (T k).2.2.1) ∈ lw_all) (hsame : ∀ x, s.fieldFound? (T k).1 (T k).2.1 (T k).2.2.1 = some x → s.fieldFound? ref (T k).2.1 (T k).2.2.1 = some x) (hfin : (T k).2.2.2 = false) {v : Value} (hn : narrow (ty0 k) v = v) (hfit : fits (ty0 k) v = true) (hl : k < fs.length) {fs' : List Value} (hfs : fs.set k v = fs') (hdg : decode cc pc = .ok (.putfield index, 3))
    (kk : ∀ (H1 : Heap) (locs1 : List Loc), gOn G.1 A (va_up h a (some (tg, .inr (ci, fs')))) n H1 → va_S A s.heap H1 locs1 → W p l e R s m args below meth c H1 locs1 cells slots Q (F0 m (pc + 3) ls rest)) : W p l e R s m args below meth c H locs cells slots Q (F0 m pc ls (v :: .ref a :: rest)) :=
  g_put X hin ty0 hty hnm hW.K hG.1 hS0 he hc k hk hlink hsame hfin hn hfit hl hdg (fun H1 locs1 h1 h2 h3 => kk H1 locs1 ⟨by rw [← hfs]; exact h1, by rw [h3]; exact hG.2.1, hG.2.2⟩ h2)
theorem n_putF (X : CallFix p m c cc nL s args lw_all own) {ref C : String} {T : u_T} {N ci index : Nat} (hin : ∀ w ∈ u_ws C T N, w ∈ lw_all) (ty0 : Nat → FieldType) (hty : ∀ k, k < N → parseFieldDescriptor (T k).2.2.1 = some (ty0 k)) (hnm : ∀ a, a < N → ∀ b, b < N → a ≠ b → (T a).2.1 ≠ (T b).2.1) (hW : gWd G A s) (hG : gOn G.1 A h n H) (hS0 : va_S A s.heap H locs) {tg : gT} {fs : List Value} (he : h a = some (tg, .inr (ci, fs))) (hc : vwCl[ci]? = some (C, T, N)) (k : Nat) (hk : k < N) (hlink : (Cond.fieldLink own index ref (T k).2.1 (T k).2.2.1) ∈ lw_all) (hsame : ∀ x, s.fieldFound? (T k).1 (T k).2.1 (T k).2.2.1 = some x → s.fieldFound? ref (T k).2.1 (T k).2.2.1 = some x) (hfin : (T k).2.2.2 = true) (hin2 : meth.name = "<init>") (hdecl : (T k).1 = own) {v : Value} (hn : narrow (ty0 k) v = v) (hfit : fits (ty0 k) v = true) (hl : k < fs.length) {fs' : List Value} (hfs : fs.set k v = fs') (hdg : decode cc pc = .ok (.putfield index, 3))
    (kk : ∀ (H1 : Heap) (locs1 : List Loc), gOn G.1 A (va_up h a (some (tg, .inr (ci, fs')))) n H1 → va_S A s.heap H1 locs1 → W p l e R s m args below meth c H1 locs1 cells slots Q (F0 m (pc + 3) ls rest)) : W p l e R s m args below meth c H locs cells slots Q (F0 m pc ls (v :: .ref a :: rest)) :=
  g_putF X hin ty0 hty hnm hW.K hG.1 hS0 he hc k hk hlink hsame hfin hin2 hdecl hn hfit hl hdg (fun H1 locs1 h1 h2 h3 => kk H1 locs1 ⟨by rw [← hfs]; exact h1, by rw [h3]; exact hG.2.1, hG.2.2⟩ h2)
theorem n_new (X : CallFix p m c cc nL s args lw_all own) {C : String} {T : u_T} {N ci index : Nat} (hin : ∀ w ∈ u_ws C T N, w ∈ lw_all) (ty : Nat → FieldType) (hty : ∀ k, k < N → parseFieldDescriptor (T k).2.2.1 = some (ty k)) (hcl : (Cond.classLink own index C) ∈ lw_all) (hinst : (Cond.instantiable C N) ∈ lw_all) (hini : (Cond.initialized C) ∈ lw_all)
    (hW : gWd G A s) (hG : gOn G.1 A h n H) (hS : va_S A s.heap H locs) (hc : vwCl[ci]? = some (C, T, N)) (tg : gT) {fs : List Value} (hfs : ∀ j, j < N → defaultValue (ty j) = vp_V fs j) (hcells : cells + 1 ≤ R.cells) (hslots : slots + N ≤ R.slots) (hdg : decode cc pc = .ok (.new index, 3))
    (kk : ∀ (H1 : Heap), gOn G.1 A (va_up h n (some (tg, .inr (ci, fs)))) (n + 1) H1 → va_S A s.heap H1 locs →
      W p l e R s m args below meth c H1 locs (cells + 1) (slots + N) Q (F0 m (pc + 3) ls (.ref n :: rest))) : W p l e R s m args below meth c H locs cells slots Q (F0 m pc ls rest) := by
  obtain ⟨hexec, hb, -, hown, hts⟩ := X
  obtain ⟨hG1, hG2, hG3⟩ := hG
  subst hG2
  have hKn := hW.K.1 ci _ hc
  refine W.newcK hexec hb hown (hts _ hcl) (hts _ hinst) (hts _ hini) rfl hdg hcells hslots hKn.2.1 rfl fun H1 kC hkC e1 z1 o1 => ?_
  refine kk H1 ⟨hG1.push (hG3 _ (Nat.le_refl _)) (tg, .inr (ci, fs)) ?_ z1 o1, z1, fun q hq => hG3 q (by omega)⟩ ⟨Nat.le_trans hS.1 (by omega), fun x h1 h2 => (o1 x (Nat.lt_of_lt_of_le h1 hS.1)).trans (hS.2.1 x h1 h2), hS.2.2⟩
  exact ⟨_, hc, (u_born ty hts hin hKn hkC e1 hty).to hfs⟩
theorem n_newa (X : CallFix p m c cc nL s args lw_all own) {atype : ArrayType} {ty : FieldType} (harr : (Cond.arrayClass ty) ∈ lw_all) (hty : newarray.typeOf atype = ty) {cA : ClassId} (hcA : s.vm.findClass ("[" ++ ty.toString) = some cA) (hG : gOn G.1 A h n H) (hS : va_S A s.heap H locs) (tg : gT)
    {z : Int32} {N' : Nat} {a0 : vp_A} (ha : vp_cell cA a0 = arrV cA N' (fun _ => defaultValue ty)) (hn : ¬ z < 0) (hN : z.toNatClampNeg = N') (hbytes : N' * componentBytes ty ≤ 536870912) (hcells : cells + 1 ≤ R.cells) (hslots : slots + N' ≤ R.slots) (hdg : decode cc pc = .ok (.newarray atype, 2))
    (kk : ∀ (H1 : Heap), gOn G.1 A (va_up h n (some (tg, .inl (cA, a0)))) (n + 1) H1 → va_S A s.heap H1 locs →
      W p l e R s m args below meth c H1 locs (cells + 1) (slots + N') Q (F0 m (pc + 2) ls (.ref n :: rest))) : W p l e R s m args below meth c H locs cells slots Q (F0 m pc ls (.int z :: rest)) := by
  obtain ⟨hexec, hb, -, hown, hts⟩ := X
  obtain ⟨hG1, hG2, hG3⟩ := hG
  subst hty
  subst hG2
  refine va_newaK hexec hb (hts _ harr) rfl hdg rfl hn hN hbytes hcells hslots rfl fun H1 cA' e1 z1 o1 hAr hNm => ?_
  have hce : cA' = cA := Option.some.inj (hNm.symm.trans hcA)
  subst hce
  refine kk H1 ⟨hG1.push (hG3 _ (Nat.le_refl _)) (tg, .inl (cA', a0)) ?_ z1 o1, z1, fun q hq => hG3 q (by omega)⟩ ⟨Nat.le_trans hS.1 (by omega), fun x h1 h2 => (o1 x (Nat.lt_of_lt_of_le h1 hS.1)).trans (hS.2.1 x h1 h2), hS.2.2⟩
  show H1[H.size]? = some (vp_cell _ _)
  rw [ha]
  exact e1
/-- an array of references is new -/
theorem n_anew (X : CallFix p m c cc nL s args lw_all own) {C : String} {index : Nat} (hcl : (Cond.classLink own index C) ∈ lw_all) (hover : va_AO C s) {cA : ClassId} (hcA : va_RA s cA (.object C)) (hG : gOn G.1 A h n H) (hS : va_S A s.heap H locs) (tg : gT)
    {z : Int32} {N' : Nat} (hn : ¬ z < 0) (hN : z.toNatClampNeg = N') (hbytes : N' * 4 ≤ 536870912) (hcells : cells + 1 ≤ R.cells) (hslots : slots + N' ≤ R.slots) (hdg : decode cc pc = .ok (.anewarray index, 3))
    (kk : ∀ (H1 : Heap), gOn G.1 A (va_up h n (some (tg, .inl (cA, N', .inr (.inr (.inr (.inr (fun _ => none)))))))) (n + 1) H1 → va_S A s.heap H1 locs →
      W p l e R s m args below meth c H1 locs (cells + 1) (slots + N') Q (F0 m (pc + 3) ls (.ref n :: rest))) : W p l e R s m args below meth c H locs cells slots Q (F0 m pc ls (.int z :: rest)) := by
  obtain ⟨hexec, hb, -, hown, hts⟩ := X
  obtain ⟨hG1, hG2, hG3⟩ := hG
  subst hG2
  subst hN
  refine W.anew hexec hb hown (hts _ hcl) (va_AO.use hover) rfl hdg rfl hn hbytes hcells hslots fun cA' kA comp f1 f2 f3 f4 => ?_
  have hce : cA' = cA := by
    obtain ⟨kA', comp', r1, r2, r3, r4⟩ := hcA
    exact Option.some.inj (f1.symm.trans r4)
  subst hce
  generalize hH1 : H.push ({ cls := cA', slots := Array.replicate z.toNatClampNeg .null, vm := .none } : Cell) = H1
  have z1 : H1.size = H.size + 1 := by rw [← hH1, Array.size_push]
  have e1 : H1[H.size]? = some (arrV cA' z.toNatClampNeg (fun _ => .null)) := by rw [← hH1, Array.getElem?_push_size, ← arrV_new]
  have o1 : ∀ q : Nat, q < H.size → H1[q]? = H[q]? := fun q hq => by rw [← hH1, Array.getElem?_push, if_neg (Nat.ne_of_lt hq)]
  refine kk H1 ⟨hG1.push (hG3 _ (Nat.le_refl _)) (tg, .inl (cA', z.toNatClampNeg, .inr (.inr (.inr (.inr (fun _ => none)))))) ?_ z1 o1, z1, fun q hq => hG3 q (by omega)⟩ ⟨Nat.le_trans hS.1 (by omega), fun x h1 h2 => (o1 x (Nat.lt_of_lt_of_le h1 hS.1)).trans (hS.2.1 x h1 h2), hS.2.2⟩
  show H1[H.size]? = some (vp_cell _ _)
  rw [vp_cell_q]
  exact e1
theorem n_aald (X : CallFix p m c cc nL s args lw_all own) (hW : gWd G A s) (hG : gOn G.1 A h n H) {tg : gT} (t0 : Nat) {cA : ClassId} {C : String} {N : Nat} {f : Nat → Option Nat} (he : h a = some (tg, .inl (cA, N, .inr (.inr (.inr (.inr f)))))) (ht : (gTys G.2.1)[t0]? = some (cA, .object C)) {i : Int32} (hin : vp_in i N) (hdg : decode cc pc = .ok (.aaload, 1))
    (kk : W p l e R s m args below meth c H locs cells slots Q (F0 m (pc + 1) ls (va_rf (f i.toNatClampNeg) :: rest))) : W p l e R s m args below meth c H locs cells slots Q (F0 m pc ls (.int i :: .ref a :: rest)) :=
  va_aldq X.1 X.2.1 hW.K (hG.1.at he) 0 t0 rfl ht hin hdg kk
theorem n_aast (X : CallFix p m c cc nL s args lw_all own) (hW : gWd G A s) (hG : gOn G.1 A h n H) (hS : va_S A s.heap H locs) {tg tv : gT} (t0 : Nat) {cA : ClassId} {E : String} {N v ci : Nat} {vs : List Value} {r : vw_C} {f : Nat → Option Nat} (he : h a = some (tg, .inl (cA, N, .inr (.inr (.inr (.inr f)))))) (ht : (gTys G.2.1)[t0]? = some (cA, .object E)) (hv : h v = some (tv, .inr (ci, vs))) (hc : vwCl[ci]? = some r) (hca : va_Nw (.castable r.1 E) s) {i : Int32} (hin : vp_in i N) (hdg : decode cc pc = .ok (.aastore, 1))
    (kk : ∀ (H1 : Heap) (locs1 : List Loc), gOn G.1 A (va_up h a (some (tg, .inl (cA, N, .inr (.inr (.inr (.inr (va_up f i.toNatClampNeg (some v))))))))) n H1 → va_S A s.heap H1 locs1 → W p l e R s m args below meth c H1 locs1 cells slots Q (F0 m (pc + 1) ls rest)) : W p l e R s m args below meth c H locs cells slots Q (F0 m pc ls (.ref v :: .int i :: .ref a :: rest)) := by
  obtain ⟨hexec, hb, -, hown, hts⟩ := X
  have hlt : i.toNatClampNeg < N := Nat.not_le.mp fun q => hin (Or.inr q)
  have h0 : ¬ i < 0 := fun q => hin (Or.inl q)
  have hg := hG.1 a _ he
  obtain ⟨r', hr', cellV, g1, g2, g3, -⟩ := (hG.1 v _ hv).2
  have hcls := (hW.K.1 ci r hc).2
  obtain ⟨kA, comp, k1, k2, k3, -⟩ := (hW.K.2 t0 _ ht).2
  obtain ⟨kE, hkE, -⟩ := Vm.findClass_spec k3
  obtain ⟨c0, t1, f1, f2, f3⟩ := Cond.castable_spec (va_Nw.use (A := args) rfl hca)
  cases hcls.1.symm.trans f1
  cases k3.symm.trans f2
  obtain ⟨kC, hkC, -⟩ := hcls.2
  refine W.aast hexec hb hg.2 (fun q h => by cases h) (fun h => by cases h) k1 k2 rfl hkE ⟨h0, by show _ < (arrV _ _ _).slots.size; rw [arrV_size]; exact hlt⟩ g1 (fun q h => by rw [g3] at h; cases h) (by rw [g2]; exact hkC) (by rw [g2]; exact f3) rfl rfl hdg fun H1 e z oq => ?_
  refine kk H1 _ ⟨hG.1.set (tg, .inl (cA, N, .inr (.inr (.inr (.inr (va_up f i.toNatClampNeg (some v))))))) he ?_ z oq, by rw [z]; exact hG.2.1, hG.2.2⟩ (hS.put z oq hg.1)
  show H1[a]? = some (vp_cell _ _)
  rw [e]
  rw [vp_cell_q, vp_cell_q, arrV_store]
  congr 2
  funext q
  by_cases hq : q = i.toNatClampNeg
  · subst hq
    simp [updV, va_up, va_rf]
  · simp [updV, va_up, hq]
theorem n_aastN (X : CallFix p m c cc nL s args lw_all own) (hW : gWd G A s) (hG : gOn G.1 A h n H) (hS : va_S A s.heap H locs) {tg : gT} (t0 : Nat) {cA : ClassId} {E : String} {N : Nat} {f : Nat → Option Nat} (he : h a = some (tg, .inl (cA, N, .inr (.inr (.inr (.inr f)))))) (ht : (gTys G.2.1)[t0]? = some (cA, .object E)) {i : Int32} (hin : vp_in i N) (hdg : decode cc pc = .ok (.aastore, 1))
    (kk : ∀ (H1 : Heap) (locs1 : List Loc), gOn G.1 A (va_up h a (some (tg, .inl (cA, N, .inr (.inr (.inr (.inr (va_up f i.toNatClampNeg none)))))))) n H1 → va_S A s.heap H1 locs1 → W p l e R s m args below meth c H1 locs1 cells slots Q (F0 m (pc + 1) ls rest)) : W p l e R s m args below meth c H locs cells slots Q (F0 m pc ls (.null :: .int i :: .ref a :: rest)) := by
  obtain ⟨hexec, hb, -, hown, hts⟩ := X
  have hg := hG.1 a _ he
  refine va_WaastN (C := E) hexec hb hg.2 ((hW.K.2 t0 _ ht).1 N (fun j => va_rf (f j))) (fun h => by cases h) (by show ¬ (i < 0 ∨ (arrV _ _ _).slots.size ≤ _); rw [arrV_size]; exact hin) rfl rfl hdg fun H1 e z oq => ?_
  refine kk H1 _ ⟨hG.1.set (tg, .inl (cA, N, .inr (.inr (.inr (.inr (va_up f i.toNatClampNeg none)))))) he ?_ z oq, by rw [z]; exact hG.2.1, hG.2.2⟩ (hS.put z oq hg.1)
  show H1[a]? = some (vp_cell _ _)
  rw [e]
  rw [vp_cell_q, vp_cell_q, arrV_store]
  congr 2
  funext q
  by_cases hq : q = i.toNatClampNeg
  · subst hq
    simp [updV, va_up, va_rf]
  · simp [updV, va_up, hq]
theorem n_alen (X : CallFix p m c cc nL s args lw_all own) (hW : gWd G A s) (hG : gOn G.1 A h n H) {tg : gT} (t0 : Nat) {cA : ClassId} {x : vp_A} (he : h a = some (tg, .inl (cA, x))) {ty : FieldType} (ht : (gTys G.2.1)[t0]? = some (cA, ty)) {v : Int32} (hv : Int32.ofNat x.1 = v) (hdg : decode cc pc = .ok (.arraylength, 1))
    (kk : W p l e R s m args below meth c H locs cells slots Q (F0 m (pc + 1) ls (.int v :: rest))) : W p l e R s m args below meth c H locs cells slots Q (F0 m pc ls (.ref a :: rest)) :=
  va_alen X.1 X.2.1 hW.K (hG.1.at he) 0 t0 rfl ht hv hdg kk
theorem n_iald (X : CallFix p m c cc nL s args lw_all own) (hW : gWd G A s) (hG : gOn G.1 A h n H) {tg : gT} {N : Nat} {f : Nat → Int32} (he : h a = some (tg, .inl (G.2.1 0, N, .inl f))) {i : Int32} (hin : vp_in i N) (hdg : decode cc pc = .ok (.iaload, 1))
    (kk : W p l e R s m args below meth c H locs cells slots Q (F0 m (pc + 1) ls (.int (f i.toNatClampNeg) :: rest))) : W p l e R s m args below meth c H locs cells slots Q (F0 m pc ls (.int i :: .ref a :: rest)) :=
  g_iald X hW.K hG.1 0 he rfl hin hdg kk
theorem n_lald (X : CallFix p m c cc nL s args lw_all own) (hW : gWd G A s) (hG : gOn G.1 A h n H) {tg : gT} {N : Nat} {f : Nat → Int64} (he : h a = some (tg, .inl (G.2.1 1, N, .inr (.inl f)))) {i : Int32} (hin : vp_in i N) (hdg : decode cc pc = .ok (.laload, 1))
    (kk : W p l e R s m args below meth c H locs cells slots Q (F0 m (pc + 1) ls (.long (f i.toNatClampNeg) :: rest))) : W p l e R s m args below meth c H locs cells slots Q (F0 m pc ls (.int i :: .ref a :: rest)) :=
  g_lald X hW.K hG.1 1 he rfl hin hdg kk
theorem n_bald (X : CallFix p m c cc nL s args lw_all own) (hW : gWd G A s) (hG : gOn G.1 A h n H) {tg : gT} {N : Nat} {f : Nat → Int32} (he : h a = some (tg, .inl (G.2.1 2, N, .inl f))) {i : Int32} (hin : vp_in i N) (hdg : decode cc pc = .ok (.baload, 1))
    (kk : W p l e R s m args below meth c H locs cells slots Q (F0 m (pc + 1) ls (.int (f i.toNatClampNeg) :: rest))) : W p l e R s m args below meth c H locs cells slots Q (F0 m pc ls (.int i :: .ref a :: rest)) :=
  g_bald X hW.K hG.1 2 he rfl hin hdg kk
theorem n_iast (X : CallFix p m c cc nL s args lw_all own) (hW : gWd G A s) (hG : gOn G.1 A h n H) (hS : va_S A s.heap H locs) {tg : gT} {N : Nat} {f : Nat → Int32} (he : h a = some (tg, .inl (G.2.1 0, N, .inl f))) {i x : Int32} (hin : vp_in i N) (hdg : decode cc pc = .ok (.iastore, 1))
    (kk : ∀ (H1 : Heap) (locs1 : List Loc), gOn G.1 A (va_up h a (some (tg, .inl (G.2.1 0, N, .inl (upd f i.toNatClampNeg x))))) n H1 → va_S A s.heap H1 locs1 → W p l e R s m args below meth c H1 locs1 cells slots Q (F0 m (pc + 1) ls rest)) : W p l e R s m args below meth c H locs cells slots Q (F0 m pc ls (.int x :: .int i :: .ref a :: rest)) :=
  g_iast X hW.K hG.1 hS 0 he rfl hin hdg (fun H1 locs1 h1 h2 h3 => kk H1 locs1 ⟨h1, by rw [h3]; exact hG.2.1, hG.2.2⟩ h2)
theorem n_last (X : CallFix p m c cc nL s args lw_all own) (hW : gWd G A s) (hG : gOn G.1 A h n H) (hS : va_S A s.heap H locs) {tg : gT} {N : Nat} {f : Nat → Int64} (he : h a = some (tg, .inl (G.2.1 1, N, .inr (.inl f)))) {i : Int32} {x : Int64} (hin : vp_in i N) (hdg : decode cc pc = .ok (.lastore, 1))
    (kk : ∀ (H1 : Heap) (locs1 : List Loc), gOn G.1 A (va_up h a (some (tg, .inl (G.2.1 1, N, .inr (.inl (vp_updL f i.toNatClampNeg x)))))) n H1 → va_S A s.heap H1 locs1 → W p l e R s m args below meth c H1 locs1 cells slots Q (F0 m (pc + 1) ls rest)) : W p l e R s m args below meth c H locs cells slots Q (F0 m pc ls (.long x :: .int i :: .ref a :: rest)) :=
  g_last X hW.K hG.1 hS 1 he rfl hin hdg (fun H1 locs1 h1 h2 h3 => kk H1 locs1 ⟨h1, by rw [h3]; exact hG.2.1, hG.2.2⟩ h2)
theorem n_bast (X : CallFix p m c cc nL s args lw_all own) (hW : gWd G A s) (hG : gOn G.1 A h n H) (hS : va_S A s.heap H locs) {tg : gT} {N : Nat} {f : Nat → Int32} (he : h a = some (tg, .inl (G.2.1 2, N, .inl f))) {i x : Int32} (hin : vp_in i N) (hdg : decode cc pc = .ok (.bastore, 1))
    (kk : ∀ (H1 : Heap) (locs1 : List Loc), gOn G.1 A (va_up h a (some (tg, .inl (G.2.1 2, N, .inl (upd f i.toNatClampNeg (vp_nar .byte x)))))) n H1 → va_S A s.heap H1 locs1 → W p l e R s m args below meth c H1 locs1 cells slots Q (F0 m (pc + 1) ls rest)) : W p l e R s m args below meth c H locs cells slots Q (F0 m pc ls (.int x :: .int i :: .ref a :: rest)) :=
  g_bast X hW.K hG.1 hS 2 he rfl hin hdg (fun H1 locs1 h1 h2 h3 => kk H1 locs1 ⟨h1, by rw [h3]; exact hG.2.1, hG.2.2⟩ h2)
theorem n_cast (X : CallFix p m c cc nL s args lw_all own) (hW : gWd G A s) (hG : gOn G.1 A h n H) {nm : String} {index ci : Nat} {tg : gT} {fs : List Value} {r : vw_C} (he : h a = some (tg, .inr (ci, fs))) (hc : vwCl[ci]? = some r) (hlink : Cond.classLink own index nm ∈ lw_all) (hca : va_Nw (.castable r.1 nm) s ∨ r.1 = nm) (hdg : decode cc pc = .ok (.checkcast index, 3))
    (kk : W p l e R s m args below meth c H locs cells slots Q (F0 m (pc + 3) ls (.ref a :: rest))) : W p l e R s m args below meth c H locs cells slots Q (F0 m pc ls (.ref a :: rest)) := by
  have hr := g_recv (C := r.1) (T := r.2.1) (N := r.2.2) hW hG he hc
  rcases hca with hca | hca
  · exact va_castY X.1 X.2.1 X.2.2.2.1 (X.2.2.2.2 _ hlink) hca hr hdg kk
  · rw [hca] at hr
    exact va_castE X.1 X.2.1 X.2.2.2.1 (X.2.2.2.2 _ hlink) hr hdg kk
theorem n_instY (X : CallFix p m c cc nL s args lw_all own) (hW : gWd G A s) (hG : gOn G.1 A h n H) {nm : String} {index ci : Nat} {tg : gT} {fs : List Value} {r : vw_C} (he : h a = some (tg, .inr (ci, fs))) (hc : vwCl[ci]? = some r) (hlink : Cond.classLink own index nm ∈ lw_all) (hca : va_Nw (.castable r.1 nm) s ∨ r.1 = nm) (hdg : decode cc pc = .ok (.instanceof index, 3))
    (kk : W p l e R s m args below meth c H locs cells slots Q (F0 m (pc + 3) ls (.int (iI 1) :: rest))) : W p l e R s m args below meth c H locs cells slots Q (F0 m pc ls (.ref a :: rest)) := by
  have hr := g_recv (C := r.1) (T := r.2.1) (N := r.2.2) hW hG he hc
  rcases hca with hca | hca
  · exact va_instY X.1 X.2.1 X.2.2.2.1 (X.2.2.2.2 _ hlink) hca hr hdg kk
  · rw [hca] at hr
    exact va_instE X.1 X.2.1 X.2.2.2.1 (X.2.2.2.2 _ hlink) hr hdg kk
theorem n_instNo (X : CallFix p m c cc nL s args lw_all own) (hW : gWd G A s) (hG : gOn G.1 A h n H) {nm : String} {index ci : Nat} {tg : gT} {fs : List Value} {r : vw_C} (he : h a = some (tg, .inr (ci, fs))) (hc : vwCl[ci]? = some r) (hlink : Cond.classLink own index nm ∈ lw_all) (hca : (r.1, nm) ∈ gNcs) (hdg : decode cc pc = .ok (.instanceof index, 3))
    (kk : W p l e R s m args below meth c H locs cells slots Q (F0 m (pc + 3) ls (.int (iI 0) :: rest))) : W p l e R s m args below meth c H locs cells slots Q (F0 m pc ls (.ref a :: rest)) :=
  va_instNo X.1 X.2.1 X.2.2.2.1 (X.2.2.2.2 _ hlink) (hW.nc hca) (g_recv (C := r.1) (T := r.2.1) (N := r.2.2) hW hG he hc) hdg kk
theorem n_gets (X : CallFix p m c cc nL s args lw_all own) (hW : gWd G A s) (hS : va_S A s.heap H locs) {C nm d ref : String} {index : Nat} (i : Nat) (hq : gZs[i]? = some (C, nm, d)) {v : Value} (hv : G.2.2.2 i = v) (hlink : Cond.fieldLink own index ref nm d ∈ lw_all) (hsame : ∀ x, s.fieldFound? C nm d = some x → s.fieldFound? ref nm d = some x) (hdg : decode cc pc = .ok (.getstatic index, 3))
    (kk : W p l e R s m args below meth c H locs cells slots Q (F0 m (pc + 3) ls (v :: rest))) : W p l e R s m args below meth c H locs cells slots Q (F0 m pc ls rest) :=
  va_gets X.1 X.2.1 (by have := hW.2.2.2.2.2.2.1 i _ hq; rw [hv] at this; exact this) hS X.2.2.2.1 (X.2.2.2.2 _ hlink) hsame hdg kk
end NROWS
section GCALLS2
variable {p : Program} {l : Launch} {e : Env} {R : Room} {s : State} {m : MethodId} {args : Array Value} {below : List Frame} {meth : Method} {c : Code} {H : Heap} {locs : List Loc} {cells slots : Nat} {Q : State → Prop}
variable {cc cc' : ByteArray} {pc nL nL' lv mc ms index k n : Nat} {ls : Array Slot} {rest st0 As : List Value} {G : gEnv} {A : Nat → Prop} {h : gH} {own C owner : String} {x y : MethodName} {rt : Option FieldType} {b : Nat}
theorem gDecl_code {b0 : ByteArray} {m0 : Nat} {r0 : Option FieldType} (X : CallFix p m c cc nL s args lw_all own) (h1 : Cond.instanceMethod x ∈ lw_all) (h0 : Cond.code x b0 m0 r0 ∈ lw_all) : va_Decl s x := va_Decl.of (X.2.2.2.2 _ h1) (X.2.2.2.2 _ h0)
theorem gDecl_abs (hW : gWd G A s) (h0 : Cond.declares x ∈ lw_tbl) : va_Decl s x := va_Decl.abs (hW.N h0 rfl)
/-- a call by the receiver's class: x is named, y is run -/
theorem g_callU {post : Option Value → gH → Nat → Prop} (X : CallFix p m c cc nL s args lw_all own) (hW : gWd G A s) (hG : gOn G.1 A h n H) (hS : va_S A s.heap H locs) {tg : gT} {ci : Nat} {fs : List Value} {T : u_T} {N : Nat} (he : h b = some (tg, .inr (ci, fs))) (hc : vwCl[ci]? = some (C, T, N)) (hM : gC l y cc' nL' rt G A lv mc ms (.ref b :: As) h n post) (h1 : Cond.methodLink own index x ∈ lw_all) (h2 : Cond.sameMethod x.cls x.cls x.name x.desc ∈ lw_all) (h3 : Cond.selects C x y ∈ lw_all) (h4 : Cond.instanceMethod y ∈ lw_all) (h5 : Cond.initialized y.cls ∈ lw_all) (h6 : Cond.code y cc' nL' rt ∈ lw_all) (hdecl : va_Decl s x) (hd : x.cls ≠ "java/lang/invoke/MethodHandle" ∧ x.cls ≠ "java/lang/invoke/VarHandle" ∧ (parseMethodDescriptor x.desc).map (fun d => d.parameters.length) = some k) (hn : As.length = k) (hlv : lv + 1 ≤ R.frames ∧ 8 + (nL' + 11) + 40 * lv ≤ R.locals) (hcs : cells + mc ≤ R.cells ∧ slots + ms ≤ R.slots) (hls : ls.size = nL) (hst : st0 = As.reverse ++ .ref b :: rest) (hroom : (rest.map fun v => v.category).sum ≤ 8) (hdg : decode cc pc = .ok (.invokevirtual index, 3))
    (kk : ∀ (v : Option Value) (h' : gH) (n' : Nat) (H1 : Heap) (locs1 : List Loc), post v h' n' → gOn G.1 A h' n' H1 → va_S A s.heap H1 locs1 → W p l e R s m args below meth c H1 locs1 (cells + mc) (slots + ms) Q (F0 m (pc + 3) ls (v.toList ++ rest))) : W p l e R s m args below meth c H locs cells slots Q (F0 m pc ls st0) := by
  subst hst
  have hG6 := lw_meth h6
  have hcd : Cond.code y cc' nL' rt ∈ ws_ y cc' nL' rt := List.mem_cons_self
  have cw : va_CU R s args own C x.cls index x y cc' nL' rt (ws_ y cc' nL' rt) (gR lv mc ms) mc ms k := by
    refine ⟨⟨rfl, rfl, hlv.1, hlv.2, pay_in X.2.2.2.2 hG6, hcd⟩, X.2.2.2.2 _ h6, X.2.2.2.2 _ h5, ⟨hd.1, hd.2.1⟩, fun sig h => ?_, X.2.2.2.2 _ h1, X.2.2.2.2 _ h2, hdecl, X.2.2.2.2 _ h3, X.2.2.2.2 _ h4⟩
    have h2 := hd.2.2
    rw [h] at h2
    exact (Option.some.inj h2).symm
  exact g_run (va_runU (As := As) (rest := rest) X hM cw (g_preV hW hG hS he hc) rfl hn hls rfl (lv_room hroom) hdg hcs) hS (fun v h' n' H1 locs1 a b d _ _ => kk v h' n' H1 locs1 a b d)
/-- a call of a superclass' method -/
theorem g_callSU {post : Option Value → gH → Nat → Prop} (X : CallFix p m c cc nL s args lw_all own) (hW : gWd G A s) (hG : gOn G.1 A h n H) (hS : va_S A s.heap H locs) {tg : gT} {ci : Nat} {fs : List Value} {T : u_T} {N : Nat} (he : h b = some (tg, .inr (ci, fs))) (hc : vwCl[ci]? = some (C, T, N)) (hM : gC l y cc' nL' rt G A lv mc ms (.ref b :: As) h n post) (h1 : Cond.methodLink own index y ∈ lw_all) (h2 : Cond.sameMethod y.cls y.cls y.name y.desc ∈ lw_all) (h3 : Cond.superclass own y.cls ∈ lw_all) (h4 : Cond.instanceMethod y ∈ lw_all) (h5 : Cond.initialized y.cls ∈ lw_all) (h6 : Cond.code y cc' nL' rt ∈ lw_all) (hd : y.name ≠ "<init>" ∧ (parseMethodDescriptor y.desc).map (fun d => d.parameters.length) = some k) (hn : As.length = k) (hlv : lv + 1 ≤ R.frames ∧ 8 + (nL' + 11) + 40 * lv ≤ R.locals) (hcs : cells + mc ≤ R.cells ∧ slots + ms ≤ R.slots) (hls : ls.size = nL) (hst : st0 = As.reverse ++ .ref b :: rest) (hroom : (rest.map fun v => v.category).sum ≤ 8) (hdg : decode cc pc = .ok (.invokespecial index, 3))
    (kk : ∀ (v : Option Value) (h' : gH) (n' : Nat) (H1 : Heap) (locs1 : List Loc), post v h' n' → gOn G.1 A h' n' H1 → va_S A s.heap H1 locs1 → W p l e R s m args below meth c H1 locs1 (cells + mc) (slots + ms) Q (F0 m (pc + 3) ls (v.toList ++ rest))) : W p l e R s m args below meth c H locs cells slots Q (F0 m pc ls st0) := by
  subst hst
  refine g_run (va_runSU (As := As) (rest := rest) (hW.K.1 ci _ hc).2 X hM (va_cwSU k X.2.2.2.2 ?_ rfl rfl rfl hd hlv) (g_preV hW hG hS he hc) rfl hn hls rfl (lv_room hroom) hdg hcs) hS (fun v h' n' H1 locs1 a b d _ _ => kk v h' n' H1 locs1 a b d)
  refine lw_app ?_ (lw_meth h6)
  intro w hw
  simp only [List.mem_cons, List.mem_nil_iff, or_false] at hw
  rcases hw with rfl | rfl | rfl | rfl | rfl <;> assumption
/-- a private constructor of a nest mate -/
theorem g_callIN {post : Option Value → gH → Nat → Prop} {host : String} (X : CallFix p m c cc nL s args lw_all own) (hW : gWd G A s) (hG : gOn G.1 A h n H) (hS : va_S A s.heap H locs) (hM : gC l y cc' nL' none G A lv mc ms (.ref b :: As) h n post) (hlk : Cond.methodLinkNest own index y host ∈ lw_tbl) (hin : Cond.instanceMethod y ∈ lw_all) (hini : Cond.initialized y.cls ∈ lw_all) (hw : GoodIn lw_all (ws_ y cc' nL' none)) (hy : y.name = "<init>") (hd : y.cls ≠ "java/lang/invoke/MethodHandle" ∧ y.cls ≠ "java/lang/invoke/VarHandle" ∧ (parseMethodDescriptor y.desc).map (fun d => d.parameters.length) = some k) (hn : As.length = k) (hlv : lv + 1 ≤ R.frames ∧ 8 + (nL' + 11) + 40 * lv ≤ R.locals) (hcs : cells + mc ≤ R.cells ∧ slots + ms ≤ R.slots) (hls : ls.size = nL) (hst : st0 = As.reverse ++ .ref b :: rest) (hroom : (rest.map fun v => v.category).sum ≤ 8) (hdg : decode cc pc = .ok (.invokespecial index, 3))
    (kk : ∀ (v : Option Value) (h' : gH) (n' : Nat) (H1 : Heap) (locs1 : List Loc), post v h' n' → gOn G.1 A h' n' H1 → va_S A s.heap H1 locs1 → W p l e R s m args below meth c H1 locs1 (cells + mc) (slots + ms) Q (F0 m (pc + 3) ls (v.toList ++ rest))) : W p l e R s m args below meth c H locs cells slots Q (F0 m pc ls st0) := by
  subst hst
  exact g_run (va_runIN (As := As) (rest := rest) (host := host) X hM ⟨va_cnB k X.2.2.2.2 hw rfl rfl rfl (hW.N hlk rfl) (X.2.2.2.2 _ hini) hd hlv, hy, X.2.2.2.2 _ hin⟩ (g_preS hW hG hS) rfl hn hls rfl (lv_room hroom) hdg hcs) hS (fun v h' n' H1 locs1 a b d _ _ => kk v h' n' H1 locs1 a b d)
end GCALLS2
