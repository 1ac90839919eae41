/-! ===== ArrayLists ===== -/
set_option maxRecDepth 100000
theorem gWd.z0 {G : gEnv} {A : Nat → Prop} {U : State} (h : gWd G A U) : G.2.2.2 0 = .ref (G.2.2.1 0) := h.2.2.2.2.2.2.2.1.1
theorem gWd.z1 {G : gEnv} {A : Nat → Prop} {U : State} (h : gWd G A U) : G.2.2.2 1 = .int (iI 1) := h.2.2.2.2.2.2.2.1.2.1
theorem gWd.e0 {G : gEnv} {A : Nat → Prop} {U : State} (h : gWd G A U) : va_T (.object "java/lang/Object") (G.2.2.1 0) 0 (fun _ => .null) A U U.heap := h.2.2.2.2.2.2.2.2.1
theorem iI_nn {z : Int} (h : 0 ≤ z ∧ z < 2147483648) : ¬ iI z < 0 := by
  have : ¬ iI z < iI 0 := by rw [iI_lt (by omega) (by omega)]; omega
  exact this
theorem up_s {α : Type} (f : Nat → α) (k : Nat) (v : α) : va_up f k v k = v := by simp [va_up]
theorem up_n {α : Type} {f : Nat → α} {k j : Nat} {v : α} (h : j ≠ k) : va_up f k v j = f j := by simp [va_up, h]
theorem up_self {h : gH} {a : Nat} {x : gE} (e : h a = some x) : va_up h a (some x) = h := by
  funext q
  by_cases hq : q = a
  · rw [hq, up_s, e]
  · rw [up_n hq]
theorem up_up {α : Type} (f : Nat → α) (k : Nat) (v w : α) : va_up (va_up f k v) k w = va_up f k w := by
  funext q
  by_cases hq : q = k
  · rw [hq, up_s, up_s]
  · rw [up_n hq, up_n hq, up_n hq]
theorem gWd.mi {G : gEnv} {A : Nat → Prop} {U : State} (h : gWd G A U) : va_Mi "[Ljava/lang/Object;" (G.2.2.1 1) U := h.2.2.2.2.2.1
theorem gNe {h : gH} {a b : Nat} {x y : gE} (ha : h a = some x) (hb : h b = some y) (hxy : x ≠ y) : a ≠ b := by
  intro e
  rw [e, hb] at ha
  exact hxy (Option.some.inj ha).symm
abbrev gPure (w : Option Value) (h : gH) (n : Nat) : Option Value → gH → Nat → Prop := fun v h' n' => v = w ∧ h' = h ∧ n' = n
theorem g_pk {p : Program} {l : Launch} {e : Env} {R : Room} {s : State} {m : MethodId} {args : Array Value} {below : List Frame} {meth : Method} {c : Code} {cells slots : Nat} {Q : State → Prop} {pc : Nat} {ls : Array Slot} {rest : List Value} {D : va_G} {A : Nat → Prop} {h : gH} {n : Nat} {w : Option Value}
    (kk : ∀ (H1 : Heap) (locs1 : List Loc), gOn D A h n H1 → va_S A s.heap H1 locs1 → W p l e R s m args below meth c H1 locs1 cells slots Q (F0 m pc ls (w.toList ++ rest))) :
    ∀ (v : Option Value) (h' : gH) (n' : Nat) (H1 : Heap) (locs1 : List Loc), gPure w h n v h' n' → gOn D A h' n' H1 → va_S A s.heap H1 locs1 → W p l e R s m args below meth c H1 locs1 cells slots Q (F0 m pc ls (v.toList ++ rest)) := by
  intro v h' n' H1 locs1 hp hG hS
  obtain ⟨e1, e2, e3⟩ := hp
  rw [e1]
  rw [e2, e3] at hG
  exact kk H1 locs1 hG hS
/-- how much an ArrayList holds when it has held k; cells and slots that this took -/
def alCap : Nat → Nat
  | 0 => 0
  | k + 1 => if k < alCap k then alCap k else if alCap k = 0 then 10 else alCap k + alCap k / 2
def alK : Nat → Nat
  | 0 => 0
  | k + 1 => alK k + if k < alCap k then 0 else 1
def alS : Nat → Nat
  | 0 => 0
  | k + 1 => alS k + if k < alCap k then 0 else alCap (k + 1)
theorem alCap_ge : ∀ k : Nat, k ≤ alCap k ∧ (0 < k → 10 ≤ alCap k) := by
  intro k
  induction k with
  | zero => exact ⟨Nat.le_refl _, fun h => absurd h (Nat.lt_irrefl _)⟩
  | succ k ih =>
    obtain ⟨h1, h2⟩ := ih
    unfold alCap
    split
    · rename_i h
      refine ⟨h, fun _ => ?_⟩
      by_cases hk : k = 0
      · subst hk
        exact absurd h (Nat.lt_irrefl _)
      · exact h2 (by omega)
    · rename_i h
      have he : alCap k = k := by omega
      split
      · exact ⟨by omega, fun _ => Nat.le_refl _⟩
      · rename_i h0
        have h3 := h2 (by omega)
        exact ⟨by omega, fun _ => by omega⟩
theorem alCap_full {q : Nat} (h : alCap q = q) (h0 : 0 < q) : alCap (q + 1) = q + q / 2 := by
  show (if q < alCap q then alCap q else if alCap q = 0 then 10 else alCap q + alCap q / 2) = _
  rw [if_neg (by omega), if_neg (by omega), h]
theorem alK_full {q : Nat} (h : alCap q = q) : alK (q + 1) = alK q + 1 ∧ alS (q + 1) = alS q + alCap (q + 1) := by
  have e1 : alK (q + 1) = alK q + if q < alCap q then 0 else 1 := rfl
  have e2 : alS (q + 1) = alS q + if q < alCap q then 0 else alCap (q + 1) := rfl
  rw [if_neg (by omega)] at e1 e2
  exact ⟨e1, e2⟩
theorem alCap_room {q : Nat} (h : q < alCap q) : alCap (q + 1) = alCap q ∧ alK (q + 1) = alK q ∧ alS (q + 1) = alS q := by
  have e0 : alCap (q + 1) = if q < alCap q then alCap q else if alCap q = 0 then 10 else alCap q + alCap q / 2 := rfl
  have e1 : alK (q + 1) = alK q + if q < alCap q then 0 else 1 := rfl
  have e2 : alS (q + 1) = alS q + if q < alCap q then 0 else alCap (q + 1) := rfl
  rw [if_pos h] at e0 e1 e2
  exact ⟨e0, e1, e2⟩
theorem alCap_le : ∀ k : Nat, alCap k ≤ 10 + 2 * k := by
  intro k
  induction k with
  | zero => show 0 ≤ _; omega
  | succ k ih =>
    have := (alCap_ge k).1
    unfold alCap
    split
    · omega
    · split <;> omega
theorem alK_le : ∀ k : Nat, k ≤ 700 → alK k ≤ 1 + k / 5 ∧ alS k ≤ 10 + 5 * k := by
  have h : ∀ k : Nat, k < 701 → alK k ≤ 1 + k / 5 ∧ alS k ≤ 10 + 5 * k := by decide +kernel
  exact fun k hk => h k (by omega)
theorem alK_mono {a b : Nat} (h : a ≤ b) : alK a ≤ alK b ∧ alS a ≤ alS b := by
  induction b with
  | zero => rw [show a = 0 by omega]; exact ⟨Nat.le_refl _, Nat.le_refl _⟩
  | succ b ih =>
    by_cases hq : a = b + 1
    · rw [hq]; exact ⟨Nat.le_refl _, Nat.le_refl _⟩
    · have := ih (by omega)
      have e1 : alK (b + 1) = alK b + if b < alCap b then 0 else 1 := rfl
      have e2 : alS (b + 1) = alS b + if b < alCap b then 0 else alCap (b + 1) := rfl
      omega
/-- AN ARRAYLIST at L: what it holds; it has held q at most -/
def ALx (G : gEnv) (h : gH) (L : Nat) (xs : List Nat) (q : Nat) (tg : gT) (mo : Int) (d : Nat) : Prop :=
  h L = some (tg, .inr (17, [.int (iI mo), .ref d, .int (iI (xs.length : Int))])) ∧ (tg.1 ≠ 0 ∧ (0 < q → L < d)) ∧ xs.length ≤ q ∧ q ≤ 2000 ∧
    ((q = 0 ∧ d = G.2.2.1 0) ∨ (0 < q ∧ ∃ g : Nat → Option Nat, h d = some ((0, L), .inl (G.2.1 4, alCap q, .inr (.inr (.inr (.inr g))))) ∧ ∀ (j x : Nat), xs[j]? = some x → g j = some x)) ∧ ∀ x ∈ xs, gObj h x
def AL (G : gEnv) (h : gH) (L : Nat) (xs : List Nat) (q : Nat) : Prop := ∃ (tg : gT) (mo : Int) (d : Nat), ALx G h L xs q tg mo d
/-- objects keep their class -/
def gCls (h h' : gH) : Prop := ∀ (a : Nat) (tg : gT) (ci : Nat) (fs : List Value), h a = some (tg, .inr (ci, fs)) → ∃ fs' : List Value, h' a = some (tg, .inr (ci, fs'))
/-- what is old stays, but for the list's own -/
def gExt (L : Nat) (h h' : gH) : Prop := ∀ (a : Nat) (tg : gT) (e : va_E), h a = some (tg, e) → a ≠ L → (tg ≠ (0, L) ∨ a < L) → h' a = some (tg, e)
/-- what is old stays -/
def gSub (h h' : gH) : Prop := ∀ (a : Nat) (x : gE), h a = some x → h' a = some x
theorem gSub.refl (h : gH) : gSub h h := fun _ _ e => e
theorem gSub.trans {h h' h'' : gH} (a : gSub h h') (b : gSub h' h'') : gSub h h'' := fun q x e => b q x (a q x e)
theorem gSub.ext {h h' : gH} (a : gSub h h') (L : Nat) : gExt L h h' := fun q _ _ e _ _ => a q _ e
theorem gSub.cls {h h' : gH} (a : gSub h h') : gCls h h' := fun q _ _ fs e => ⟨fs, a q _ e⟩
theorem gCls.refl (h : gH) : gCls h h := fun _ _ _ fs e => ⟨fs, e⟩
theorem gCls.trans {h h' h'' : gH} (a : gCls h h') (b : gCls h' h'') : gCls h h'' := fun q tg ci fs e => by
  obtain ⟨f1, e1⟩ := a q tg ci fs e
  exact b q tg ci f1 e1
theorem gCls.obj {h h' : gH} (a : gCls h h') {x : Nat} (hx : gObj h x) : gObj h' x := by
  obtain ⟨tg, ci, fs, e⟩ := hx
  obtain ⟨f1, e1⟩ := a x tg ci fs e
  exact ⟨tg, ci, f1, e1⟩
theorem gExt.trans {L : Nat} {h h' h'' : gH} (a : gExt L h h') (b : gExt L h' h'') : gExt L h h'' := fun q tg e x h1 h2 => b q tg e (a q tg e x h1 h2) h1 h2
theorem gExt.refl (L : Nat) (h : gH) : gExt L h h := fun _ _ _ e _ _ => e
theorem gExt.upA {L d : Nat} {h h' : gH} {x : va_E} (hx : gExt L h h') (hd : h' d = some ((0, L), x)) (hld : L < d) (y : Option gE) : gExt L h (va_up h' d y) := fun a tg e he h1 h2 => by
  have := hx a tg e he h1 h2
  rw [up_n]
  · exact this
  · intro hh
    rw [hh, hd] at this
    rcases h2 with h2 | h2
    · exact h2 (Prod.mk.inj (Option.some.inj this)).1.symm
    · omega
theorem gExt.upL {L : Nat} {h h' : gH} (hx : gExt L h h') (y : Option gE) : gExt L h (va_up h' L y) := fun a tg e he h1 h2 => by
  rw [up_n h1]
  exact hx a tg e he h1 h2
theorem gExt.upN {L q : Nat} {h h' : gH} (hx : gExt L h h') (hq : h' q = none) (y : Option gE) : gExt L h (va_up h' q y) := fun a tg e he h1 h2 => by
  have := hx a tg e he h1 h2
  rw [up_n]
  · exact this
  · intro hh
    rw [hh, hq] at this
    cases this
theorem gCls.upA {d : Nat} {h h' : gH} {t : gT} {x : ClassId × vp_A} (hx : gCls h h') (hd : h' d = some (t, .inl x)) (y : Option gE) : gCls h (va_up h' d y) := fun a tg ci fs he => by
  obtain ⟨f1, e1⟩ := hx a tg ci fs he
  refine ⟨f1, ?_⟩
  rw [up_n]
  · exact e1
  · intro hh
    rw [hh, hd] at e1
    cases e1
theorem gCls.upO {L : Nat} {h h' : gH} {t : gT} {c : Nat} {fo : List Value} (hx : gCls h h') (hd : h' L = some (t, .inr (c, fo))) (fn : List Value) : gCls h (va_up h' L (some (t, .inr (c, fn)))) := fun a tg ci fs he => by
  obtain ⟨f1, e1⟩ := hx a tg ci fs he
  by_cases hh : a = L
  · rw [hh, hd] at e1
    cases e1
    exact ⟨fn, by rw [hh, up_s]⟩
  · exact ⟨f1, by rw [up_n hh]; exact e1⟩
theorem gCls.upN {q : Nat} {h h' : gH} (hx : gCls h h') (hq : h' q = none) (y : Option gE) : gCls h (va_up h' q y) := fun a tg ci fs he => by
  obtain ⟨f1, e1⟩ := hx a tg ci fs he
  refine ⟨f1, ?_⟩
  rw [up_n]
  · exact e1
  · intro hh
    rw [hh, hq] at e1
    cases e1
theorem gSub.upN {q : Nat} {h h' : gH} (hx : gSub h h') (hq : h' q = none) (y : Option gE) : gSub h (va_up h' q y) := fun a x he => by
  have := hx a x he
  rw [up_n]
  · exact this
  · intro hh
    rw [hh, hq] at this
    cases this
/-- a list is as it was, where its own cells are -/
theorem AL.keep {G : gEnv} {h h' : gH} {L : Nat} {xs : List Nat} {q : Nat} (hA : AL G h L xs q) (h1 : h' L = h L) (h2 : ∀ (a : Nat) (e : va_E), h a = some ((0, L), e) → h' a = some ((0, L), e)) (h3 : gCls h h') : AL G h' L xs q := by
  obtain ⟨tg, mo, d, a1, a0, a2, a3, a4, a5⟩ := hA
  refine ⟨tg, mo, d, by rw [h1]; exact a1, a0, a2, a3, ?_, fun x hx => h3.obj (a5 x hx)⟩
  rcases a4 with a4 | ⟨b1, g, b2, b3⟩
  · exact Or.inl a4
  · exact Or.inr ⟨b1, g, h2 _ _ b2, b3⟩
theorem AL.sub {G : gEnv} {h h' : gH} {L : Nat} {xs : List Nat} {q : Nat} (hA : AL G h L xs q) (hs : gSub h h') : AL G h' L xs q := by
  obtain ⟨tg, mo, d, a1, a0, a2, a3, a4, a5⟩ := id hA
  exact hA.keep (by rw [a1]; exact hs _ _ a1) (fun a e x => hs _ _ x) hs.cls
theorem AL.other {G : gEnv} {h h' : gH} {L M : Nat} {xs ys : List Nat} {q r : Nat} (hA : AL G h L xs q) (hM : AL G h M ys r) (hn : L ≠ M) (hs : gExt M h h') (hc : gCls h h') : AL G h' L xs q := by
  obtain ⟨tg, mo, d, a1, a0, a2, a3, a4, a5⟩ := id hA
  obtain ⟨tM, moM, dM, b1, b0, -⟩ := hM
  refine hA.keep (by rw [a1]; exact hs _ _ _ a1 hn (Or.inl (fun e => a0.1 (by rw [e])))) (fun a e x => hs _ _ _ x ?_ (Or.inl ?_)) hc
  · intro hh
    rw [hh, b1] at x
    have := (Prod.mk.inj (Option.some.inj x)).1
    exact b0.1 (by rw [this])
  · intro hh
    exact hn (Prod.mk.inj hh).2
theorem AL.oth2 {G : gEnv} {h h' : gH} {L M : Nat} {xs : List Nat} {q : Nat} (hA : AL G h L xs q) (hM : ∃ (tM : gT) (x : va_E), h M = some (tM, x) ∧ tM.1 ≠ 0) (hn : L ≠ M) (hs : gExt M h h') (hc : gCls h h') : AL G h' L xs q := by
  obtain ⟨tg, mo, d, a1, a0, a2, a3, a4, a5⟩ := id hA
  obtain ⟨tM, xM, b1, b0⟩ := hM
  refine hA.keep (by rw [a1]; exact hs _ _ _ a1 hn (Or.inl (fun e => a0.1 (by rw [e])))) (fun a e x => hs _ _ _ x ?_ (Or.inl ?_)) hc
  · intro hh
    rw [hh, b1] at x
    have := (Prod.mk.inj (Option.some.inj x)).1
    exact b0 (by rw [this])
  · intro hh
    exact hn (Prod.mk.inj hh).2
section NCOPY
variable {p : Program} {l : Launch} {e : Env} {R : Room} {s : State} {m : MethodId} {args : Array Value} {below : List Frame} {meth : Method} {c : Code} {H : Heap} {locs : List Loc} {cells slots : Nat} {Q : State → Prop}
variable {cc : ByteArray} {pc nL : Nat} {ls : Array Slot} {rest : List Value} {G : gEnv} {A : Nat → Prop} {a n : Nat} {h : gH} {own : String}
theorem gCellO (hW : gWd G A s) (hG : gOn G.1 A h n H) {y : Nat} (hy : gObj h y) : ∃ (cellV : Cell) (C : String), H[y]? = some cellV ∧ cellV.vm.isStatics = false ∧ s.vm.findClass C = some cellV.cls ∧ va_Nw (.castable C "java/lang/Object") s := by
  obtain ⟨tg, ci, fs, he⟩ := hy
  obtain ⟨r, hr, -⟩ := (hG.1 y _ he).2
  obtain ⟨cell, q1, q2, q3⟩ := g_recv (C := r.1) (T := r.2.1) (N := r.2.2) hW hG he hr
  exact ⟨cell, r.1, q1, q2, q3, gCastO hW hr⟩
/-- references are copied from one array of Objects to another -/
theorem n_copyq (X : CallFix p m c cc nL s args lw_all own) {index : Nat} (hls : ls.size = nL) (hlink : Cond.methodLink own index arraycopyName ∈ lw_all) (hnat : Cond.native arraycopyName ∈ lw_all) (hstat : Cond.static arraycopyName ∈ lw_all) (hini : Cond.initialized "java/lang/System" ∈ lw_all) (hW : gWd G A s) (hG : gOn G.1 A h n H) (hS : va_S A s.heap H locs) {g0 g1 : gT} {a0 n0 n1 : Nat} {f g : Nat → Option Nat} (he0 : h a0 = some (g0, .inl (G.2.1 4, n0, .inr (.inr (.inr (.inr f)))))) (he1 : h a = some (g1, .inl (G.2.1 4, n1, .inr (.inr (.inr (.inr g))))))
    {sp dp k : Int32} (h1 : ¬ sp < 0) (h2 : ¬ dp < 0) (h3 : ¬ k < 0) (h4 : sp.toNatClampNeg + k.toNatClampNeg ≤ n0) (h5 : dp.toNatClampNeg + k.toNatClampNeg ≤ n1) (hel : ∀ i : Nat, i < k.toNatClampNeg → ∀ y : Nat, f (sp.toNatClampNeg + i) = some y → gObj h y)
    (hframes : 1 ≤ R.frames) (hlocals : (rest.map fun v => v.category).sum + (nativeFrameWords "java/lang/System" "arraycopy" 5 + 11) ≤ R.locals) (hdg : decode cc pc = .ok (.invokestatic index, 3))
    (kk : ∀ (H1 : Heap) (locs1 : List Loc), gOn G.1 A (va_up h a (some (g1, .inl (G.2.1 4, n1, .inr (.inr (.inr (.inr (va_cpy f g sp.toNatClampNeg dp.toNatClampNeg k.toNatClampNeg)))))))) n H1 → va_S A s.heap H1 locs1 → W p l e R s m args below meth c H1 locs1 cells slots Q (F0 m (pc + 3) ls rest)) : W p l e R s m args below meth c H locs cells slots Q (F0 m pc ls (.int k :: .int dp :: .ref a :: .int sp :: .ref a0 :: rest)) := by
  obtain ⟨hexec, hb, hml, hown, hts⟩ := X
  have nn : ∀ z : Int32, ¬ z < 0 → z.toInt = (z.toNatClampNeg : Int) := by
    intro z hz
    have hz0 : (0 : Int) ≤ z.toInt := by
      have := Int32.not_lt.mp hz
      simpa using Int32.le_iff_toInt_le.mp this
    show z.toInt = ((z.toInt.toNat : Nat) : Int)
    omega
  have hga := (hG.1 a _ he1).1
  intro T hT X
  have hc0 : H[a0]? = some (vp_cell (G.2.1 4) (n0, .inr (.inr (.inr (.inr f))))) := (hG.1 a0 _ he0).2
  have hc1 : H[a]? = some (vp_cell (G.2.1 4) (n1, .inr (.inr (.inr (.inr g))))) := (hG.1 a _ he1).2
  have hK4 := hW.K.2 4 (G.2.1 4, .object "java/lang/Object") rfl
  obtain ⟨-, k0, hk0, cm0, hkk0⟩ := hK4.1 n0 (fun j => va_rf (f j))
  obtain ⟨-, k1, hk1, cm1, hkk1⟩ := hK4.1 n1 (fun j => va_rf (g j))
  obtain ⟨vm', X', step⟩ := X.arraycopy hexec hown (hts _ hlink) (hts _ hnat) (hts _ hstat) (hts _ hini) (src := a0) (dst := a) (cs := vp_cell (G.2.1 4) (n0, .inr (.inr (.inr (.inr f))))) (cd := vp_cell (G.2.1 4) (n1, .inr (.inr (.inr (.inr g))))) (srcPos := sp) (destPos := dp) (n := k) (by rw [hT]; exact hc0) (by rw [hT]; exact hc1)
    (fun _ h => by cases h) (fun _ h => by cases h) (fun h => by cases h) (fun h => by cases h) hk0 hk1 hkk0 hkk1 rfl h1 h2 h3
    (by rw [nn sp h1, nn k h3]; show ¬ _ > ((arrV (G.2.1 4) n0 (fun j => va_rf (f j))).slots.size : Int); rw [arrV_size]; omega)
    (by rw [nn dp h2, nn k h3]; show ¬ _ > ((arrV (G.2.1 4) n1 (fun j => va_rf (g j))).slots.size : Int); rw [arrV_size]; omega)
    (fun vm₁ hal i hi => by
      have e : (vp_cell (G.2.1 4) (n0, .inr (.inr (.inr (.inr f))))).slots.getD (sp.toNatClampNeg + i) .null = va_rf (f (sp.toNatClampNeg + i)) := by
        show (arrV (G.2.1 4) n0 (fun j => va_rf (f j))).slots.getD _ _ = _
        rw [Array.getD_eq_getD_getElem?, arrV_read _ _ (by omega)]
        rfl
      rw [e]
      cases hy : f (sp.toNatClampNeg + i) with
      | none => exact ⟨rfl, trivial⟩
      | some y =>
        obtain ⟨cellV, C, w1, w2, w3, w4⟩ := gCellO hW hG (hel i hi y hy)
        obtain ⟨kA, comp, r1, r2, r3, -⟩ := hK4.2
        cases hk1.symm.trans r1
        cases hkk1.symm.trans r2
        obtain ⟨kC, hkC, -⟩ := Vm.findClass_spec w3
        obtain ⟨kE, hkE, -⟩ := Vm.findClass_spec r3
        obtain ⟨kC', hkC', -⟩ := hal.2.2 _ _ hkC
        obtain ⟨kE', hkE', -⟩ := hal.2.2 _ _ hkE
        refine ⟨rfl, cellV, (show T.heap[y]? = some cellV by rw [hT]; exact w1), (fun q h => by rw [h] at w2; cases w2), ⟨kC', hkC'⟩, ?_, ?_⟩
        · exact ⟨kE', hkE'⟩
        · show vm₁.assignable _ _ = true
          rw [hal.assignable]
          obtain ⟨x0, t1, f1, f2, f3⟩ := Cond.castable_spec (va_Nw.use (A := args) rfl w4)
          cases w3.symm.trans f1
          cases r3.symm.trans f2
          exact f3)
    (g := F0 m pc ls (.int k :: .int dp :: .ref a :: .int sp :: .ref a0 :: rest)) rfl (by rw [hml]; exact hls) (rest := rest) rfl (by rw [hb]; exact hdg) hframes (by show 2 * 0 + _ + _ ≤ _; omega)
  have e1 : copied (vp_cell (G.2.1 4) (n0, .inr (.inr (.inr (.inr f))))) (vp_cell (G.2.1 4) (n1, .inr (.inr (.inr (.inr g))))) sp dp k = vp_cell (G.2.1 4) (n1, .inr (.inr (.inr (.inr (va_cpy f g sp.toNatClampNeg dp.toNatClampNeg k.toNatClampNeg))))) := by
    rw [vp_cell_q, vp_cell_q, vp_cell_q]
    exact va_copied (fun z => va_rf z) (G.2.1 4) (G.2.1 4) f g h4
  rw [e1] at X' step
  have hl : a < H.size := (Array.getElem?_eq_some_iff.mp hc1).1
  have hheap : ((T.setVm vm').setCell a (vp_cell (G.2.1 4) (n1, .inr (.inr (.inr (.inr (va_cpy f g sp.toNatClampNeg dp.toNatClampNeg k.toNatClampNeg))))))).heap = H.setIfInBounds a (vp_cell (G.2.1 4) (n1, .inr (.inr (.inr (.inr (va_cpy f g sp.toNatClampNeg dp.toNatClampNeg k.toNatClampNeg)))))) := by rw [← hT]; rfl
  have oq : ∀ q : Nat, q ≠ a → (H.setIfInBounds a (vp_cell (G.2.1 4) (n1, .inr (.inr (.inr (.inr (va_cpy f g sp.toNatClampNeg dp.toNatClampNeg k.toNatClampNeg)))))))[q]? = H[q]? := fun q hq => by simp [Array.getElem?_setIfInBounds, Ne.symm hq]
  obtain ⟨t, a1, b1⟩ := kk _ _ ⟨hG.1.set (g1, .inl (G.2.1 4, n1, .inr (.inr (.inr (.inr (va_cpy f g sp.toNatClampNeg dp.toNatClampNeg k.toNatClampNeg)))))) he1 (show (H.setIfInBounds a _)[a]? = some _ by simp [Array.getElem?_setIfInBounds, hl]) (by simp) oq, by simp; exact hG.2.1, hG.2.2⟩ ⟨by simp; exact hS.1, fun q g1 g2 => by
      rw [oq q (fun e => g2 (by rw [e]; exact hga))]
      exact hS.2.1 q g1 g2, fun q hq => by
      rcases List.mem_append.mp hq with h | h
      · exact hS.2.2 q h
      · obtain ⟨z, -, hz⟩ := List.mem_map.mp h
        rw [← hz]
        exact hga⟩ _ hheap X'
  exact ⟨t, step t a1, b1⟩
theorem n_mmax (X : CallFix p m c cc nL s args lw_all own) {index : Nat} (hls : ls.size = nL) (hlink : Cond.methodLink own index Lib.Math.max.name ∈ lw_all) {x y : Int} (hx : iR x) (hy : iR y) (hframes : 1 ≤ R.frames) (hlocals : (rest.map fun v => v.category).sum + 13 ≤ R.locals) (hc : cells ≤ R.cells) (hs : slots ≤ R.slots) (hdg : decode cc pc = .ok (.invokestatic index, 3))
    (kk : W p l e R s m args below meth c H locs cells slots Q (F0 m (pc + 3) ls (.int (iI (max x y)) :: rest))) : W p l e R s m args below meth c H locs cells slots Q (F0 m pc ls (.int (iI y) :: .int (iI x) :: rest)) := by
  refine va_mmax X.1 X.2.1 (X.2.2.1.trans hls.symm) X.2.2.2.1 (X.2.2.2.2 _ hlink) (X.2.2.2.2 _ q470) (X.2.2.2.2 _ q84) (X.2.2.2.2 _ q471) hframes hlocals hc hs hdg ?_
  have e9 : (if iI x < iI y then iI y else iI x) = iI (max x y) := by
    by_cases h : x < y
    · rw [if_pos ((iI_lt hx hy).mpr h), show max x y = y by omega]
    · rw [if_neg (fun z => h ((iI_lt hx hy).mp z)), show max x y = x by omega]
  rw [e9]
  exact kk
theorem n_mmin (X : CallFix p m c cc nL s args lw_all own) {index : Nat} (hls : ls.size = nL) (hlink : Cond.methodLink own index Lib.Math.min.name ∈ lw_all) {x y : Int} (hx : iR x) (hy : iR y) (hframes : 1 ≤ R.frames) (hlocals : (rest.map fun v => v.category).sum + 13 ≤ R.locals) (hc : cells ≤ R.cells) (hs : slots ≤ R.slots) (hdg : decode cc pc = .ok (.invokestatic index, 3))
    (kk : W p l e R s m args below meth c H locs cells slots Q (F0 m (pc + 3) ls (.int (iI (min x y)) :: rest))) : W p l e R s m args below meth c H locs cells slots Q (F0 m pc ls (.int (iI y) :: .int (iI x) :: rest)) := by
  refine va_mmin X.1 X.2.1 (X.2.2.1.trans hls.symm) X.2.2.2.1 (X.2.2.2.2 _ hlink) (X.2.2.2.2 _ q508) (X.2.2.2.2 _ q84) (X.2.2.2.2 _ q509) hframes hlocals hc hs hdg ?_
  have e9 : (if iI y < iI x then iI y else iI x) = iI (min x y) := by
    by_cases h : y < x
    · rw [if_pos ((iI_lt hy hx).mpr h), show min x y = y by omega]
    · rw [if_neg (fun z => h ((iI_lt hy hx).mp z)), show min x y = x by omega]
  rw [e9]
  exact kk
/-- the length of a list's own array -/
theorem al_alen (X : CallFix p m c cc nL s args lw_all own) (hW : gWd G A s) (hG : gOn G.1 A h n H) (hS : va_S A s.heap H locs) {L d q : Nat} {P : (Nat → Option Nat) → Prop} (hd : (q = 0 ∧ d = G.2.2.1 0) ∨ (0 < q ∧ ∃ g : Nat → Option Nat, h d = some ((0, L), .inl (G.2.1 4, alCap q, .inr (.inr (.inr (.inr g))))) ∧ P g)) (hdg : decode cc pc = .ok (.arraylength, 1))
    (kk : W p l e R s m args below meth c H locs cells slots Q (F0 m (pc + 1) ls (.int (iI (alCap q : Int)) :: rest))) : W p l e R s m args below meth c H locs cells slots Q (F0 m pc ls (.ref d :: rest)) := by
  rcases hd with ⟨hq, hd⟩ | ⟨hq, g, hd, -⟩
  · subst hq
    obtain ⟨cell, t1, t2, t3, t4, t5, t6, t7⟩ := hW.e0
    have hc : H[d]? = some cell := by rw [hd, hS.2.1 _ (Array.getElem?_eq_some_iff.mp t1).1 t7]; exact t1
    exact W.alen X.1 X.2.1 hc t2 t5 rfl rfl hdg kk
  · exact n_alen X hW hG 4 hd rfl (nI_iI _) hdg kk
end NCOPY

set_option maxHeartbeats 4000000 in
theorem gm_checkIndex0 (l : Launch) (G : gEnv) (A : Nat → Prop) (lv : Nat) (h : gH) (n : Nat) (i k : Int) (hi : 0 ≤ i ∧ i < k) (hk : iR k) : gC l yJ5_checkIndex cJ5_checkIndex 3 (some .int) G A lv 0 0 [.int (iI (i)), .int (iI (k)), .null] h n (gPure (some (.int (iI i))) h n) := by
  refine gC_ofI RJ5 (by decide +kernel) rfl (Nat.le_of_ble_eq_true rfl) ?_
  intro p e s m args below meth c Q X hW ret H locs ls hG hS hl
  have hl : lv_has ls 3 [(0, .int (iI (i))), (1, .int (iI (k))), (2, .null)] := hl
  refine lv_iload_n X.1 X.2.1 dJ5_checkIndex_0 rfl (lv_at hl 0 rfl) ?_
  refine i_if_lt X 9 dJ5_checkIndex_1 (by decide) (by omega) (fun c1 => ?_) (fun c1 => ?_)
  · exfalso; omega
  · refine lv_iload_n X.1 X.2.1 dJ5_checkIndex_4 rfl (lv_at hl 0 rfl) ?_
    refine lv_iload_n X.1 X.2.1 dJ5_checkIndex_5 rfl (lv_at hl 1 rfl) ?_
    refine i_icmp_lt X 16 dJ5_checkIndex_6 (by decide) (by omega) (by omega) (fun c6 => ?_) (fun c6 => ?_)
    · refine lv_iload_n X.1 X.2.1 dJ5_checkIndex_16 rfl (lv_at hl 0 rfl) ?_
      refine ret _ _ _ _ _ _ _ _ _ ?_ (rfl) (by show 0 ≤ 0; omega) (by show 0 ≤ 0; omega) hG hS dJ5_checkIndex_17
      exact ⟨rfl, rfl, rfl⟩
    · exfalso; omega

set_option maxHeartbeats 4000000 in
theorem gm_checkIndex1 (l : Launch) (G : gEnv) (A : Nat → Prop) (lv : Nat) (h : gH) (n : Nat) (i k : Int) (q : Nat) (hi : 0 ≤ i ∧ i < k) (hk : iR k) : gC l yJ5_checkIndex cJ5_checkIndex 3 (some .int) G A lv 0 0 [.int (iI (i)), .int (iI (k)), .ref q] h n (gPure (some (.int (iI i))) h n) := by
  refine gC_ofI RJ5 (by decide +kernel) rfl (Nat.le_of_ble_eq_true rfl) ?_
  intro p e s m args below meth c Q X hW ret H locs ls hG hS hl
  have hl : lv_has ls 3 [(0, .int (iI (i))), (1, .int (iI (k))), (2, .ref q)] := hl
  refine lv_iload_n X.1 X.2.1 dJ5_checkIndex_0 rfl (lv_at hl 0 rfl) ?_
  refine i_if_lt X 9 dJ5_checkIndex_1 (by decide) (by omega) (fun c1 => ?_) (fun c1 => ?_)
  · exfalso; omega
  · refine lv_iload_n X.1 X.2.1 dJ5_checkIndex_4 rfl (lv_at hl 0 rfl) ?_
    refine lv_iload_n X.1 X.2.1 dJ5_checkIndex_5 rfl (lv_at hl 1 rfl) ?_
    refine i_icmp_lt X 16 dJ5_checkIndex_6 (by decide) (by omega) (by omega) (fun c6 => ?_) (fun c6 => ?_)
    · refine lv_iload_n X.1 X.2.1 dJ5_checkIndex_16 rfl (lv_at hl 0 rfl) ?_
      refine ret _ _ _ _ _ _ _ _ _ ?_ (rfl) (by show 0 ≤ 0; omega) (by show 0 ≤ 0; omega) hG hS dJ5_checkIndex_17
      exact ⟨rfl, rfl, rfl⟩
    · exfalso; omega

set_option maxHeartbeats 4000000 in
theorem gm_checkIndex (l : Launch) (G : gEnv) (A : Nat → Prop) (lv : Nat) (h : gH) (n : Nat) (i k : Int) (hlv : 1 ≤ lv) (hi : 0 ≤ i ∧ i < k) (hk : iR k) : gC l yJ13_checkIndex cJ13_checkIndex 2 (some .int) G A lv 0 0 [.int (iI (i)), .int (iI (k))] h n (gPure (some (.int (iI i))) h n) := by
  refine gC_ofI RJ13 (by decide +kernel) rfl (Nat.le_of_ble_eq_true rfl) ?_
  intro p e s m args below meth c Q X hW ret H locs ls hG hS hl
  have hl : lv_has ls 2 [(0, .int (iI (i))), (1, .int (iI (k)))] := hl
  refine lv_iload_n X.1 X.2.1 dJ13_checkIndex_0 rfl (lv_at hl 0 rfl) ?_
  refine lv_iload_n X.1 X.2.1 dJ13_checkIndex_1 rfl (lv_at hl 1 rfl) ?_
  refine lv_null X.1 X.2.1 dJ13_checkIndex_2 ?_
  refine g_callS (rest := []) (k := 3) X hW hG hS (gm_checkIndex0 l G A (lv - 1) h n i k hi hk) (lw_S q697 q300 q74 q301) (by decide +kernel) rfl ⟨by show (lv - 1) + 1 ≤ lv; omega, by show 8 + (3 + 11) + 40 * (lv - 1) ≤ 40 * lv; omega⟩ ⟨by show 0 + 0 ≤ 0; omega, by show 0 + 0 ≤ 0; omega⟩ hl.1 rfl (Nat.le_of_ble_eq_true rfl) dJ13_checkIndex_3 (g_pk (fun H locs hG hS => ?_))
  show W p l e (gR lv 0 0) s m args below meth c H locs 0 0 Q (F0 m 6 ls [.int (iI (i))])
  refine ret _ _ _ _ _ _ _ _ _ ?_ (rfl) (by show 0 ≤ 0; omega) (by show 0 ≤ 0; omega) hG hS dJ13_checkIndex_6
  exact ⟨rfl, rfl, rfl⟩

set_option maxHeartbeats 4000000 in
theorem gm_newLength (l : Launch) (G : gEnv) (A : Nat → Prop) (lv : Nat) (h : gH) (n : Nat) (a b k : Int) (hlv : 1 ≤ lv) (ha : 1 ≤ a ∧ a < 1000000) (hb : 0 ≤ b ∧ b < 1000000) (hc : 0 ≤ k ∧ k < 1000000) : gC l yJ10_newLength cJ10_newLength 4 (some .int) G A lv 0 0 [.int (iI (a)), .int (iI (b)), .int (iI (k))] h n (gPure (some (.int (iI (a + max b k)))) h n) := by
  refine gC_ofI RJ10 (by decide +kernel) rfl (Nat.le_of_ble_eq_true rfl) ?_
  intro p e s m args below meth c Q X hW ret H locs ls hG hS hl
  have hl : lv_has ls 4 [(0, .int (iI (a))), (1, .int (iI (b))), (2, .int (iI (k)))] := hl
  refine lv_iload_n X.1 X.2.1 dJ10_newLength_0 rfl (lv_at hl 0 rfl) ?_
  refine lv_iload_n X.1 X.2.1 dJ10_newLength_1 rfl (lv_at hl 1 rfl) ?_
  refine lv_iload_n X.1 X.2.1 dJ10_newLength_2 rfl (lv_at hl 2 rfl) ?_
  refine n_mmax (rest := [.int (iI (a))]) X hl.1 q469 (by omega) (by omega) (by show 1 ≤ lv; omega) (by show 1 + 13 ≤ 40 * lv; omega) (by show 0 ≤ 0; omega) (by show 0 ≤ 0; omega) dJ10_newLength_3 ?_
  refine i_add X dJ10_newLength_6 ?_
  refine lv_istore_n (lv' := [(3, .int (iI (a + (max b k)))), (0, .int (iI (a))), (1, .int (iI (b))), (2, .int (iI (k)))]) X.1 X.2.1 dJ10_newLength_7 rfl hl (by decide) rfl (fun ls hl => ?_)
  refine lv_iconst (v := iI (0)) X.1 X.2.1 dJ10_newLength_8 rfl ?_
  refine lv_iload_n X.1 X.2.1 dJ10_newLength_9 rfl (lv_at hl 0 rfl) ?_
  refine i_icmp_ge X 21 dJ10_newLength_10 (by decide) (by omega) (by omega) (fun c10 => ?_) (fun c10 => ?_)
  · exfalso; omega
  · refine lv_iload_n X.1 X.2.1 dJ10_newLength_13 rfl (lv_at hl 0 rfl) ?_
    refine lv_ldc (v := iI (2147483639)) X.1 X.2.1 X.2.2.2.1 (X.2.2.2.2 _ q472) dJ10_newLength_14 ?_
    refine i_icmp_gt X 21 dJ10_newLength_16 (by decide) (by omega) (by omega) (fun c16 => ?_) (fun c16 => ?_)
    · exfalso; omega
    · refine lv_iload_n X.1 X.2.1 dJ10_newLength_19 rfl (lv_at hl 0 rfl) ?_
      refine ret _ _ _ _ _ _ _ _ _ ?_ (rfl) (by show 0 ≤ 0; omega) (by show 0 ≤ 0; omega) hG hS dJ10_newLength_20
      exact ⟨rfl, rfl, rfl⟩

set_option maxHeartbeats 4000000 in
theorem gm_acinit (l : Launch) (G : gEnv) (A : Nat → Prop) (lv : Nat) (h : gH) (n : Nat) (a : Nat) (hlv : 1 ≤ lv) : gC l yJ0_init cJ0_init 1 none G A lv 0 0 [.ref a] h n (gPure none h n) := by
  refine gC_ofV RJ0 (by decide +kernel) rfl (Nat.le_of_ble_eq_true rfl) ?_
  intro p e s m args below meth c Q X hinit hW ret H locs ls hG hS hl
  have hl : lv_has ls 1 [(0, .ref a)] := hl
  refine lv_aload_n X.1 X.2.1 dJ0_init_0 rfl (lv_at hl 0 rfl) ?_
  refine W.objInit X.1 X.2.1 X.2.2.2.1 (X.2.2.2.2 _ q119) (X.2.2.2.2 _ q106) (X.2.2.2.2 _ q107) rfl (hl.1.trans X.2.2.1.symm) rfl dJ0_init_1 (by show 1 ≤ lv; omega) (by show 2 * 0 + 0 + 12 ≤ 40 * lv; omega) ?_
  show W p l e (gR lv 0 0) s m args below meth c H locs 0 0 Q (F0 m 4 ls [])
  refine ret _ _ _ _ _ _ _ _ ?_ (by show 0 ≤ 0; omega) (by show 0 ≤ 0; omega) hG hS dJ0_init_4
  exact ⟨rfl, rfl, rfl⟩

set_option maxHeartbeats 4000000 in
theorem gm_alinit (l : Launch) (G : gEnv) (A : Nat → Prop) (lv : Nat) (h : gH) (n : Nat) (L : Nat) (tg : gT) (hlv : 2 ≤ lv) (hL : h L = some (tg, .inr (17, [.int (iI 0), .null, .int (iI 0)]))) : gC l yJ1_init cJ1_init 1 none G A lv 0 0 [.ref L] h n (gPure none h n) := by
  refine gC_ofV RJ1 (by decide +kernel) rfl (Nat.le_of_ble_eq_true rfl) ?_
  intro p e s m args below meth c Q X hinit hW ret H locs ls hG hS hl
  have hl : lv_has ls 1 [(0, .ref L)] := hl
  refine lv_aload_n X.1 X.2.1 dJ1_init_0 rfl (lv_at hl 0 rfl) ?_
  refine g_callI (rest := []) (k := 0) X hW hG hS (gm_acinit l G A (lv - 1) h n L (by omega)) q116 q117 q67 (lw_meth q118) rfl (by decide +kernel) rfl ⟨by show (lv - 1) + 1 ≤ lv; omega, by show 8 + (1 + 11) + 40 * (lv - 1) ≤ 40 * lv; omega⟩ ⟨by show 0 + 0 ≤ 0; omega, by show 0 + 0 ≤ 0; omega⟩ hl.1 rfl (Nat.le_of_ble_eq_true rfl) dJ1_init_1 (g_pk (fun H locs hG hS => ?_))
  show W p l e (gR lv 0 0) s m args below meth c H locs 0 0 Q (F0 m 4 ls [])
  refine lv_aload_n X.1 X.2.1 dJ1_init_4 rfl (lv_at hl 0 rfl) ?_
  refine lv_iconst (v := iI (0)) X.1 X.2.1 dJ1_init_5 rfl ?_
  refine n_put (ci := 17) X in_J2 tyJ2 tyJ2_ok nmJ2 hW hG hS hL rfl 0 (by decide) q124 (fun _ h => h) rfl rfl rfl (Nat.le_of_ble_eq_true rfl) (fs' := [.int (iI (0)), .null, .int (iI (0))]) rfl dJ1_init_6 (fun H locs hG hS => ?_)
  obtain ⟨h1, eh1⟩ : ∃ hz, hz = va_up h L (some (tg, .inr (17, [.int (iI (0)), .null, .int (iI (0))]))) := ⟨_, rfl⟩
  rw [← eh1] at hG
  have f1_L : h1 L = some (tg, .inr (17, [.int (iI (0)), .null, .int (iI (0))])) := by rw [eh1]; exact up_s _ _ _
  refine ret _ _ _ _ _ _ _ _ ?_ (by show 0 ≤ 0; omega) (by show 0 ≤ 0; omega) hG hS dJ1_init_9
  exact ⟨rfl, by rw [eh1]; exact up_self hL, rfl⟩

set_option maxHeartbeats 4000000 in
/-- a new ArrayList -/
theorem al_init (l : Launch) (G : gEnv) (A : Nat → Prop) (lv : Nat) (h : gH) (n : Nat) (L : Nat) (tg : gT) (hlv : 3 ≤ lv) (hL : h L = some (tg, .inr (17, [.int (iI 0), .null, .int (iI 0)]))) : gC l yJ2_init cJ2_init 1 none G A lv 0 0 [.ref L] h n (fun v h' n' => v = none ∧ h' = va_up h L (some (tg, .inr (17, [.int (iI 0), .ref (G.2.2.1 0), .int (iI 0)]))) ∧ n' = n) := by
  refine gC_ofV RJ2 (by decide +kernel) rfl (Nat.le_of_ble_eq_true rfl) ?_
  intro p e s m args below meth c Q X hinit hW ret H locs ls hG hS hl
  have hl : lv_has ls 1 [(0, .ref L)] := hl
  refine lv_aload_n X.1 X.2.1 dJ2_init_0 rfl (lv_at hl 0 rfl) ?_
  refine g_callI (rest := []) (k := 0) X hW hG hS (gm_alinit l G A (lv - 1) h n L tg (by omega) hL) q113 q114 q68 (lw_meth q115) rfl (by decide +kernel) rfl ⟨by show (lv - 1) + 1 ≤ lv; omega, by show 8 + (1 + 11) + 40 * (lv - 1) ≤ 40 * lv; omega⟩ ⟨by show 0 + 0 ≤ 0; omega, by show 0 + 0 ≤ 0; omega⟩ hl.1 rfl (Nat.le_of_ble_eq_true rfl) dJ2_init_1 (g_pk (fun H locs hG hS => ?_))
  show W p l e (gR lv 0 0) s m args below meth c H locs 0 0 Q (F0 m 4 ls [])
  refine lv_aload_n X.1 X.2.1 dJ2_init_4 rfl (lv_at hl 0 rfl) ?_
  refine n_gets X hW hS 0 rfl (v := .ref (G.2.2.1 0)) hW.z0 q120 (fun _ h => h) dJ2_init_5 ?_
  refine n_put (ci := 17) X in_J2 tyJ2 tyJ2_ok nmJ2 hW hG hS hL rfl 1 (by decide) q122 (fun _ h => h) rfl rfl rfl (Nat.le_of_ble_eq_true rfl) (fs' := [.int (iI (0)), .ref (G.2.2.1 0), .int (iI (0))]) rfl dJ2_init_8 (fun H locs hG hS => ?_)
  obtain ⟨h1, eh1⟩ : ∃ hz, hz = va_up h L (some (tg, .inr (17, [.int (iI (0)), .ref (G.2.2.1 0), .int (iI (0))]))) := ⟨_, rfl⟩
  rw [← eh1] at hG
  have f1_L : h1 L = some (tg, .inr (17, [.int (iI (0)), .ref (G.2.2.1 0), .int (iI (0))])) := by rw [eh1]; exact up_s _ _ _
  refine ret _ _ _ _ _ _ _ _ ?_ (by show 0 ≤ 0; omega) (by show 0 ≤ 0; omega) hG hS dJ2_init_11
  exact ⟨rfl, eh1, rfl⟩

set_option maxHeartbeats 4000000 in
theorem al_size (l : Launch) (G : gEnv) (A : Nat → Prop) (lv : Nat) (h : gH) (n : Nat) (L : Nat) (xs : List Nat) (q : Nat) (hA : AL G h L xs q) : gC l yJ2_size cJ2_size 1 (some .int) G A lv 0 0 [.ref L] h n (gPure (some (.int (iI (xs.length : Int)))) h n) := by
  refine gC_ofI RJ2 (by decide +kernel) rfl (Nat.le_of_ble_eq_true rfl) ?_
  intro p e s m args below meth c Q X hW ret H locs ls hG hS hl
  have hl : lv_has ls 1 [(0, .ref L)] := hl
  obtain ⟨tg, mo, d, hL, ht0, hlq, hq2, hd, ho⟩ := hA
  refine lv_aload_n X.1 X.2.1 dJ2_size_0 rfl (lv_at hl 0 rfl) ?_
  refine n_get (ci := 17) X in_J2 hW hG hL rfl 2 (by decide) q123 (fun _ h => h) rfl dJ2_size_1 ?_
  refine ret _ _ _ _ _ _ _ _ _ ?_ (rfl) (by show 0 ≤ 0; omega) (by show 0 ≤ 0; omega) hG hS dJ2_size_4
  exact ⟨rfl, rfl, rfl⟩

set_option maxHeartbeats 4000000 in
theorem al_elem (l : Launch) (G : gEnv) (A : Nat → Prop) (lv : Nat) (h : gH) (n : Nat) (L : Nat) (xs : List Nat) (q : Nat) (i : Int) (x : Nat) (hA : AL G h L xs q) (h0 : 0 ≤ i) (hx : xs[i.toNat]? = some x) : gC l yJ2_elementData cJ2_elementData 2 (some (FieldType.object "java/lang/Object")) G A lv 0 0 [.ref L, .int (iI (i))] h n (gPure (some (.ref x)) h n) := by
  refine gC_ofA (Or.inl ⟨_, rfl⟩) RJ2 (by decide +kernel) rfl (Nat.le_of_ble_eq_true rfl) ?_
  intro p e s m args below meth c Q X hW ret H locs ls hG hS hl
  have hl : lv_has ls 2 [(0, .ref L), (1, .int (iI (i)))] := hl
  obtain ⟨tg, mo, d, hL, ht0, hlq, hq2, hd, ho⟩ := hA
  have hxl : i.toNat < xs.length := (List.getElem?_eq_some_iff.mp hx).1
  obtain ⟨hq0, g, hd, hg⟩ : 0 < q ∧ ∃ g : Nat → Option Nat, h d = some ((0, L), .inl (G.2.1 4, alCap q, .inr (.inr (.inr (.inr g))))) ∧ ∀ (j x : Nat), xs[j]? = some x → g j = some x := by
    rcases hd with hd | hd
    · omega
    · exact hd
  have hgx := hg _ _ hx
  have hc1 := (alCap_ge q).1
  have hc2 := alCap_le q
  refine lv_aload_n X.1 X.2.1 dJ2_elementData_0 rfl (lv_at hl 0 rfl) ?_
  refine n_get (ci := 17) X in_J2 hW hG hL rfl 1 (by decide) q122 (fun _ h => h) rfl dJ2_elementData_1 ?_
  refine lv_iload_n X.1 X.2.1 dJ2_elementData_4 rfl (lv_at hl 1 rfl) ?_
  refine n_aald X hW hG 4 hd rfl (iI_in ⟨by omega, by omega⟩ (by omega)) dJ2_elementData_5 ?_
  rw [iI_clamp (by omega), hgx]
  show W p l e (gR lv 0 0) s m args below meth c H locs 0 0 Q (F0 m 6 ls [.ref x])
  refine ret _ _ _ _ _ _ _ _ _ ?_ (Or.inr ⟨_, rfl⟩) (by show 0 ≤ 0; omega) (by show 0 ≤ 0; omega) hG hS dJ2_elementData_6
  exact ⟨rfl, rfl, rfl⟩

set_option maxHeartbeats 4000000 in
/-- the i-th of a list -/
theorem al_get (l : Launch) (G : gEnv) (A : Nat → Prop) (lv : Nat) (h : gH) (n : Nat) (L : Nat) (xs : List Nat) (q : Nat) (i : Int) (x : Nat) (hlv : 2 ≤ lv) (hA : AL G h L xs q) (h0 : 0 ≤ i) (hx : xs[i.toNat]? = some x) : gC l yJ2_get cJ2_get 2 (some (FieldType.object "java/lang/Object")) G A lv 0 0 [.ref L, .int (iI (i))] h n (gPure (some (.ref x)) h n) := by
  refine gC_ofA (Or.inl ⟨_, rfl⟩) RJ2 (by decide +kernel) rfl (Nat.le_of_ble_eq_true rfl) ?_
  intro p e s m args below meth c Q X hW ret H locs ls hG hS hl
  have hl : lv_has ls 2 [(0, .ref L), (1, .int (iI (i)))] := hl
  obtain ⟨tg, mo, d, hL, ht0, hlq, hq2, hd, ho⟩ := hA
  have hxl : i.toNat < xs.length := (List.getElem?_eq_some_iff.mp hx).1
  obtain ⟨hq0, g, hd, hg⟩ : 0 < q ∧ ∃ g : Nat → Option Nat, h d = some ((0, L), .inl (G.2.1 4, alCap q, .inr (.inr (.inr (.inr g))))) ∧ ∀ (j x : Nat), xs[j]? = some x → g j = some x := by
    rcases hd with hd | hd
    · omega
    · exact hd
  have hgx := hg _ _ hx
  have hc1 := (alCap_ge q).1
  have hc2 := alCap_le q
  refine lv_iload_n X.1 X.2.1 dJ2_get_0 rfl (lv_at hl 1 rfl) ?_
  refine lv_aload_n X.1 X.2.1 dJ2_get_1 rfl (lv_at hl 0 rfl) ?_
  refine n_get (ci := 17) X in_J2 hW hG hL rfl 2 (by decide) q123 (fun _ h => h) rfl dJ2_get_2 ?_
  refine g_callS (rest := []) (k := 2) X hW hG hS (gm_checkIndex l G A (lv - 1) h n i ((xs.length : Int)) (by omega) (by omega) (by omega)) (lw_S q694 q695 q95 q696) (by decide +kernel) rfl ⟨by show (lv - 1) + 1 ≤ lv; omega, by show 8 + (2 + 11) + 40 * (lv - 1) ≤ 40 * lv; omega⟩ ⟨by show 0 + 0 ≤ 0; omega, by show 0 + 0 ≤ 0; omega⟩ hl.1 rfl (Nat.le_of_ble_eq_true rfl) dJ2_get_5 (g_pk (fun H locs hG hS => ?_))
  show W p l e (gR lv 0 0) s m args below meth c H locs 0 0 Q (F0 m 8 ls [.int (iI (i))])
  refine lv_pop X.1 X.2.1 dJ2_get_8 rfl ?_
  refine lv_aload_n X.1 X.2.1 dJ2_get_9 rfl (lv_at hl 0 rfl) ?_
  refine lv_iload_n X.1 X.2.1 dJ2_get_10 rfl (lv_at hl 1 rfl) ?_
  refine g_callV (ci := 17) (rest := []) (k := 1) X hW hG hS hL rfl (al_elem l G A (lv - 1) h n L xs q i x ⟨tg, mo, d, hL, ht0, hlq, hq2, Or.inr ⟨hq0, g, hd, hg⟩, ho⟩ h0 hx) (lw_V q698 q699 q700 q69 q701) (by decide +kernel) rfl ⟨by show (lv - 1) + 1 ≤ lv; omega, by show 8 + (2 + 11) + 40 * (lv - 1) ≤ 40 * lv; omega⟩ ⟨by show 0 + 0 ≤ 0; omega, by show 0 + 0 ≤ 0; omega⟩ hl.1 rfl (Nat.le_of_ble_eq_true rfl) dJ2_get_11 (g_pk (fun H locs hG hS => ?_))
  show W p l e (gR lv 0 0) s m args below meth c H locs 0 0 Q (F0 m 14 ls [.ref x])
  refine ret _ _ _ _ _ _ _ _ _ ?_ (Or.inr ⟨_, rfl⟩) (by show 0 ≤ 0; omega) (by show 0 ≤ 0; omega) hG hS dJ2_get_14
  exact ⟨rfl, rfl, rfl⟩

set_option maxHeartbeats 4000000 in
theorem gm_copyOf2 (l : Launch) (G : gEnv) (A : Nat → Prop) (lv : Nat) (h : gH) (n : Nat) (d k mm : Nat) (g : Nat → Option Nat) (tg0 tg1 : gT) (hlv : 3 ≤ lv) (hd : h d = some (tg0, .inl (G.2.1 4, k, .inr (.inr (.inr (.inr g)))))) (hk : k ≤ mm ∧ mm ≤ 100000) (hel : ∀ j, j < k → ∀ y, g j = some y → gObj h y) : gC l yJ12_copyOf_2 cJ12_copyOf_2 4 (some (FieldType.array (FieldType.object "java/lang/Object"))) G A lv 1 mm [.ref d, .int (iI ((mm : Int))), .ref (G.2.2.1 1)] h n (fun v h' n' => v = some (.ref n) ∧ h' = va_up h n (some (tg1, .inl (G.2.1 4, (mm : Int).toNat, .inr (.inr (.inr (.inr (va_cpy g (fun _ => none) 0 0 k))))))) ∧ n' = n + 1) := by
  refine gC_ofA (Or.inr ⟨_, rfl⟩) RJ12 (by decide +kernel) rfl (Nat.le_of_ble_eq_true rfl) ?_
  intro p e s m args below meth c Q X hW ret H locs ls hG hS hl
  have hl : lv_has ls 4 [(0, .ref d), (1, .int (iI ((mm : Int)))), (2, .ref (G.2.2.1 1))] := hl
  refine lv_aload_n X.1 X.2.1 dJ12_copyOf_2_0 rfl (lv_at hl 2 rfl) ?_
  refine va_ldcM X.1 X.2.1 X.2.2.2.1 (X.2.2.2.2 _ q504) hW.mi dJ12_copyOf_2_1 ?_
  refine lv_acmp_ne (rx := some (G.2.2.1 1)) (ry := some (G.2.2.1 1)) (tgt := 13) X.1 X.2.1 dJ12_copyOf_2_3 (by decide) (fun c3 => absurd rfl c3) (fun _ => ?_)
  refine lv_iload_n X.1 X.2.1 dJ12_copyOf_2_6 rfl (lv_at hl 1 rfl) ?_
  have hGo := hG
  refine n_anew X q506 hW.2.2.2.1 (hW.K.2 4 (G.2.1 4, .object "java/lang/Object") rfl).2 hG hS tg1 (iI_nn (by omega)) (iI_clamp (by omega)) (by omega) (by show 0 + 1 ≤ 1; omega) (by show 0 + (mm : Int).toNat ≤ mm; omega) dJ12_copyOf_2_7 (fun H hG hS => ?_)
  obtain ⟨h1, eh1⟩ : ∃ hz, hz = va_up h n (some (tg1, .inl (G.2.1 4, (mm : Int).toNat, .inr (.inr (.inr (.inr (fun _ => none))))))) := ⟨_, rfl⟩
  rw [← eh1] at hG
  have hd1 : h1 d = some (tg0, .inl (G.2.1 4, k, .inr (.inr (.inr (.inr g))))) := by rw [eh1, up_n (Nat.ne_of_lt (hGo.lt hd))]; exact hd
  have hn1 : h1 n = some (tg1, .inl (G.2.1 4, (mm : Int).toNat, .inr (.inr (.inr (.inr (fun _ => none)))))) := by rw [eh1]; exact up_s _ _ _
  show W p l e (gR lv 1 mm) s m args below meth c H locs 1 (0 + (mm : Int).toNat) Q (F0 m 10 ls [.ref n])
  refine lv_goto (tgt := 24) X.1 X.2.1 dJ12_copyOf_2_10 (by decide) ?_
  refine lv_astore_n (lv' := [(3, .ref n), (0, .ref d), (1, .int (iI ((mm : Int)))), (2, .ref (G.2.2.1 1))]) X.1 X.2.1 dJ12_copyOf_2_24 rfl hl (by decide) rfl (fun ls hl => ?_)
  refine lv_aload_n X.1 X.2.1 dJ12_copyOf_2_25 rfl (lv_at hl 1 rfl) ?_
  refine lv_iconst (v := iI (0)) X.1 X.2.1 dJ12_copyOf_2_26 rfl ?_
  refine lv_aload_n X.1 X.2.1 dJ12_copyOf_2_27 rfl (lv_at hl 0 rfl) ?_
  refine lv_iconst (v := iI (0)) X.1 X.2.1 dJ12_copyOf_2_28 rfl ?_
  refine lv_aload_n X.1 X.2.1 dJ12_copyOf_2_29 rfl (lv_at hl 1 rfl) ?_
  refine n_alen (v := iI (k : Int)) X hW hG 4 hd1 rfl (nI_iI _) dJ12_copyOf_2_30 ?_
  refine lv_iload_n X.1 X.2.1 dJ12_copyOf_2_31 rfl (lv_at hl 2 rfl) ?_
  refine n_mmin (rest := [.int (iI (0)), .ref n, .int (iI (0)), .ref d]) X hl.1 q507 (by omega) (by omega) (by show 1 ≤ lv; omega) (by show 4 + 13 ≤ 40 * lv; omega) (by show 1 ≤ 1; omega) (by show 0 + (mm : Int).toNat ≤ mm; omega) dJ12_copyOf_2_32 ?_
  refine n_copyq (rest := []) X hl.1 q510 q512 q511 q86 hW hG hS hd1 hn1 (by decide) (by decide) (iI_nn (by omega)) (by rw [show (iI 0).toNatClampNeg = 0 from rfl, iI_clamp (by omega)]; omega) (by rw [show (iI 0).toNatClampNeg = 0 from rfl, iI_clamp (by omega)]; omega) ?_ (by show 1 ≤ lv; omega) (by show _ ≤ 40 * lv; have hw : nativeFrameWords "java/lang/System" "arraycopy" 5 = 7 := (by decide); show 0 + (_ + 11) ≤ _; omega) dJ12_copyOf_2_35 (fun H locs hG hS => ?_)
  · intro i hi y hy
    rw [iI_clamp (by omega)] at hi
    rw [show (iI 0).toNatClampNeg + i = i from Nat.zero_add i] at hy
    obtain ⟨t9, c9, f9, e9⟩ := hel i (by omega) y hy
    exact ⟨t9, c9, f9, by rw [eh1, up_n (Nat.ne_of_lt (hGo.lt e9))]; exact e9⟩
  obtain ⟨h2, eh2⟩ : ∃ hz, hz = va_up h1 n (some (tg1, .inl (G.2.1 4, (mm : Int).toNat, .inr (.inr (.inr (.inr (va_cpy g (fun _ => none) (iI 0).toNatClampNeg (iI 0).toNatClampNeg (iI (min (k : Int) (mm : Int))).toNatClampNeg))))))) := ⟨_, rfl⟩
  rw [← eh2] at hG
  show W p l e (gR lv 1 mm) s m args below meth c H locs 1 (0 + (mm : Int).toNat) Q (F0 m 38 ls [])
  refine lv_aload_n X.1 X.2.1 dJ12_copyOf_2_38 rfl (lv_at hl 0 rfl) ?_
  refine ret _ _ _ _ _ _ _ _ _ ?_ (Or.inr ⟨_, rfl⟩) (by show 1 ≤ 1; omega) (by show 0 + (mm : Int).toNat ≤ mm; omega) hG hS dJ12_copyOf_2_39
  refine ⟨rfl, ?_, rfl⟩
  rw [eh2, eh1, up_up]
  congr 1
  rw [show (iI 0).toNatClampNeg = 0 from rfl, iI_clamp (by omega), show (min (k : Int) (mm : Int)).toNat = k by omega]

set_option maxHeartbeats 4000000 in
theorem gm_copyOf (l : Launch) (G : gEnv) (A : Nat → Prop) (lv : Nat) (h : gH) (n : Nat) (d k mm : Nat) (g : Nat → Option Nat) (tg0 tg1 : gT) (hlv : 4 ≤ lv) (hd : h d = some (tg0, .inl (G.2.1 4, k, .inr (.inr (.inr (.inr g)))))) (hk : k ≤ mm ∧ mm ≤ 100000) (hel : ∀ j, j < k → ∀ y, g j = some y → gObj h y) : gC l yJ12_copyOf cJ12_copyOf 2 (some (FieldType.array (FieldType.object "java/lang/Object"))) G A lv 1 mm [.ref d, .int (iI ((mm : Int)))] h n (fun v h' n' => v = some (.ref n) ∧ h' = va_up h n (some (tg1, .inl (G.2.1 4, (mm : Int).toNat, .inr (.inr (.inr (.inr (va_cpy g (fun _ => none) 0 0 k))))))) ∧ n' = n + 1) := by
  refine gC_ofA (Or.inr ⟨_, rfl⟩) RJ12 (by decide +kernel) rfl (Nat.le_of_ble_eq_true rfl) ?_
  intro p e s m args below meth c Q X hW ret H locs ls hG hS hl
  have hl : lv_has ls 2 [(0, .ref d), (1, .int (iI ((mm : Int))))] := hl
  refine lv_aload_n X.1 X.2.1 dJ12_copyOf_0 rfl (lv_at hl 0 rfl) ?_
  refine lv_iload_n X.1 X.2.1 dJ12_copyOf_1 rfl (lv_at hl 1 rfl) ?_
  refine lv_aload_n X.1 X.2.1 dJ12_copyOf_2 rfl (lv_at hl 0 rfl) ?_
  refine va_getC X.1 X.2.1 (X.2.2.1.trans hl.1.symm) X.2.2.2.1 (X.2.2.2.2 _ q479) (va_Nw.use rfl (hW.N q1714 rfl)) (X.2.2.2.2 _ q1713) (X.2.2.2.2 _ q480) (X.2.2.2.2 _ q500) hW.mi ⟨_, (hG.1 d _ hd).2, rfl, va_nmO (hW.K.2 4 (G.2.1 4, .object "java/lang/Object") rfl).2 (by decide +kernel)⟩ (by show 1 ≤ lv; omega) (by show 2 + 14 ≤ 40 * lv; omega) dJ12_copyOf_3 ?_
  refine g_callS (rest := []) (k := 3) X hW hG hS (gm_copyOf2 l G A (lv - 1) h n d k mm g tg0 tg1 (by omega) hd hk hel) (lw_S q501 q502 q85 q503) (by decide +kernel) rfl ⟨by show (lv - 1) + 1 ≤ lv; omega, by show 8 + (4 + 11) + 40 * (lv - 1) ≤ 40 * lv; omega⟩ ⟨by show 0 + 1 ≤ 1; omega, by show 0 + mm ≤ mm; omega⟩ hl.1 rfl (Nat.le_of_ble_eq_true rfl) dJ12_copyOf_6 (fun v1 h1 n1 H locs hp1 hG hS => ?_)
  obtain ⟨rfl, eh, rfl⟩ := hp1
  show W p l e (gR lv 1 mm) s m args below meth c H locs 1 (0 + mm) Q (F0 m 9 ls [.ref n])
  refine ret _ _ _ _ _ _ _ _ _ ?_ (Or.inr ⟨_, rfl⟩) (by show 1 ≤ 1; omega) (by show 0 + mm ≤ mm; omega) hG hS dJ12_copyOf_9
  exact ⟨rfl, eh, rfl⟩

set_option maxHeartbeats 4000000 in
theorem al_grow2 (l : Launch) (G : gEnv) (A : Nat → Prop) (lv : Nat) (h : gH) (n : Nat) (L : Nat) (xs : List Nat) (q : Nat) (tg : gT) (mo : Int) (d : Nat) (hlv : 5 ≤ lv) (hA : ALx G h L xs q tg mo d) (hf : xs.length = alCap q) (hq1 : q < 2000) : gC l yJ2_grow_2 cJ2_grow_2 4 (some (FieldType.array (FieldType.object "java/lang/Object"))) G A lv 1 (alCap (q + 1)) [.ref L, .int (iI ((xs.length : Int) + 1))] h n (fun v h' n' => ∃ g' : Nat → Option Nat, v = some (.ref n) ∧ h' = va_up (va_up h n (some ((0, L), .inl (G.2.1 4, alCap (q + 1), .inr (.inr (.inr (.inr g'))))))) L (some (tg, .inr (17, [.int (iI mo), .ref n, .int (iI (xs.length : Int))]))) ∧ n' = n + 1 ∧ ∀ (j x : Nat), xs[j]? = some x → g' j = some x) := by
  refine gC_ofA (Or.inr ⟨_, rfl⟩) RJ2 (by decide +kernel) rfl (Nat.le_of_ble_eq_true rfl) ?_
  intro p e s m args below meth c Q X hW ret H locs ls hG hS hl
  have hl : lv_has ls 4 [(0, .ref L), (1, .int (iI ((xs.length : Int) + 1)))] := hl
  obtain ⟨hL, ht0, hlq, hq2, hd, ho⟩ := hA
  have hc1 := (alCap_ge q).1
  have hc3 := (alCap_ge q).2
  have hc2 := alCap_le q
  have hqq : q = xs.length := by omega
  refine lv_aload_n X.1 X.2.1 dJ2_grow_2_0 rfl (lv_at hl 0 rfl) ?_
  refine n_get (ci := 17) X in_J2 hW hG hL rfl 1 (by decide) q122 (fun _ h => h) rfl dJ2_grow_2_1 ?_
  refine al_alen X hW hG hS hd dJ2_grow_2_4 ?_
  refine lv_istore_n (lv' := [(2, .int (iI ((alCap q : Int)))), (0, .ref L), (1, .int (iI ((xs.length : Int) + 1)))]) X.1 X.2.1 dJ2_grow_2_5 rfl hl (by decide) rfl (fun ls hl => ?_)
  refine lv_iload_n X.1 X.2.1 dJ2_grow_2_6 rfl (lv_at hl 0 rfl) ?_
  refine i_if_gt X 20 dJ2_grow_2_7 (by decide) (by first | omega | (rw [hq0]; decide)) (fun c7 => ?_) (fun c7 => ?_)
  · have hq0 : 0 < q := by
      rcases Nat.eq_zero_or_pos q with z | z
      · exfalso
        first
          | (rw [z] at c7; exact absurd c7 (by decide))
          | (rcases hd with hd | hd
             · exact c17 (by rw [hd.2])
             · omega)
      · exact z
    obtain ⟨-, g, hd, hg⟩ : 0 < q ∧ ∃ g : Nat → Option Nat, h d = some ((0, L), .inl (G.2.1 4, alCap q, .inr (.inr (.inr (.inr g))))) ∧ ∀ (j x : Nat), xs[j]? = some x → g j = some x := by
      rcases hd with hd | hd
      · omega
      · exact hd
    have hc4 := hc3 hq0
    have hel : ∀ j, j < alCap q → ∀ y, g j = some y → gObj h y := by
      intro j hj y hy
      obtain ⟨x, hx⟩ : ∃ x, xs[j]? = some x := ⟨_, List.getElem?_eq_getElem (by omega)⟩
      have := hg j x hx
      rw [hy] at this
      cases this
      exact ho _ (List.mem_of_getElem? hx)
    refine lv_iload_n X.1 X.2.1 dJ2_grow_2_20 rfl (lv_at hl 0 rfl) ?_
    refine lv_iload_n X.1 X.2.1 dJ2_grow_2_21 rfl (lv_at hl 2 rfl) ?_
    refine lv_iload_n X.1 X.2.1 dJ2_grow_2_22 rfl (lv_at hl 0 rfl) ?_
    refine i_sub X dJ2_grow_2_23 ?_
    refine lv_iload_n X.1 X.2.1 dJ2_grow_2_24 rfl (lv_at hl 0 rfl) ?_
    refine lv_iconst (v := iI (1)) X.1 X.2.1 dJ2_grow_2_25 rfl ?_
    refine lv_ishr X.1 X.2.1 dJ2_grow_2_26 ?_
    rw [show iI ((alCap q : Nat) : Int) >>> (iI 1 &&& 31) = iI ((alCap q / 2 : Nat) : Int) by rw [← nI_iI, ← nI_iI]; have k9 := pk_shrN (n := alCap q) (by omega) (iI 1 &&& 31) 1 (by decide); rw [Nat.pow_one] at k9; exact k9]
    refine g_callS (rest := []) (k := 3) X hW hG hS (gm_newLength l G A (lv - 1) h n ((alCap q : Int)) (((xs.length : Int) + 1) - ((alCap q : Int))) (((alCap q / 2 : Nat) : Int)) (by omega) (by omega) (by omega) (by omega)) (lw_S q466 q467 q83 q468) (by decide +kernel) rfl ⟨by show (lv - 1) + 1 ≤ lv; omega, by show 8 + (4 + 11) + 40 * (lv - 1) ≤ 40 * lv; omega⟩ ⟨by show 0 + 0 ≤ 1; first | omega | (rw [hq0]; decide), by show 0 + 0 ≤ alCap (q + 1); first | omega | (rw [hq0]; decide)⟩ hl.1 rfl (Nat.le_of_ble_eq_true rfl) dJ2_grow_2_27 (g_pk (fun H locs hG hS => ?_))
    show W p l e (gR lv 1 (alCap (q + 1))) s m args below meth c H locs 0 0 Q (F0 m 30 ls [.int (iI (((alCap q : Int)) + max (((xs.length : Int) + 1) - ((alCap q : Int))) (((alCap q / 2 : Nat) : Int))))])
    refine i_top (fun z e_z => ?_)
    have ez : z = ((alCap (q + 1) : Nat) : Int) := by
      rw [e_z, alCap_full (by omega) hq0]
      omega
    subst ez
    refine lv_istore_n (lv' := [(3, .int (iI (((alCap (q + 1) : Nat) : Int)))), (2, .int (iI ((alCap q : Int)))), (0, .ref L), (1, .int (iI ((xs.length : Int) + 1)))]) X.1 X.2.1 dJ2_grow_2_30 rfl hl (by decide) rfl (fun ls hl => ?_)
    refine lv_aload_n X.1 X.2.1 dJ2_grow_2_31 rfl (lv_at hl 2 rfl) ?_
    refine lv_aload_n X.1 X.2.1 dJ2_grow_2_32 rfl (lv_at hl 2 rfl) ?_
    refine n_get (ci := 17) X in_J2 hW hG hL rfl 1 (by decide) q122 (fun _ h => h) rfl dJ2_grow_2_33 ?_
    refine lv_iload_n X.1 X.2.1 dJ2_grow_2_36 rfl (lv_at hl 0 rfl) ?_
    have hGo := hG
    refine g_callS (rest := [.ref L]) (k := 2) X hW hG hS (gm_copyOf l G A (lv - 1) h n d (alCap q) (alCap (q + 1)) g (0, L) (0, L) (by omega) hd (by omega) hel) (lw_S q476 q477 q85 q478) (by decide +kernel) rfl ⟨by show (lv - 1) + 1 ≤ lv; omega, by show 8 + (2 + 11) + 40 * (lv - 1) ≤ 40 * lv; omega⟩ ⟨by show 0 + 1 ≤ 1; first | omega | (rw [hq0]; decide), by show 0 + (alCap (q + 1)) ≤ alCap (q + 1); first | omega | (rw [hq0]; decide)⟩ hl.1 rfl (Nat.le_of_ble_eq_true rfl) dJ2_grow_2_37 (fun v1 h1 n1 H locs hp1 hG hS => ?_)
    obtain ⟨rfl, eh1, rfl⟩ := hp1
    have hL1 : h1 L = some (tg, .inr (17, [.int (iI mo), .ref d, .int (iI (xs.length : Int))])) := by rw [eh1, up_n (Nat.ne_of_lt (hGo.lt hL))]; exact hL
    show W p l e (gR lv 1 (alCap (q + 1))) s m args below meth c H locs 1 (0 + (alCap (q + 1))) Q (F0 m 40 ls [.ref n, .ref L])
    refine lv_dup_x1 X.1 X.2.1 dJ2_grow_2_40 rfl rfl ?_
    refine n_put (ci := 17) X in_J2 tyJ2 tyJ2_ok nmJ2 hW hG hS hL1 rfl 1 (by decide) q122 (fun _ h => h) rfl rfl rfl (Nat.le_of_ble_eq_true rfl) (fs' := [.int (iI (mo)), .ref n, .int (iI ((xs.length : Int)))]) rfl dJ2_grow_2_41 (fun H locs hG hS => ?_)
    obtain ⟨h2, eh2⟩ : ∃ hz, hz = va_up h1 L (some (tg, .inr (17, [.int (iI (mo)), .ref n, .int (iI ((xs.length : Int)))]))) := ⟨_, rfl⟩
    rw [← eh2] at hG
    have f2_L : h2 L = some (tg, .inr (17, [.int (iI (mo)), .ref n, .int (iI ((xs.length : Int)))])) := by rw [eh2]; exact up_s _ _ _
    refine ret _ _ _ _ _ _ _ _ _ ?_ (Or.inr ⟨_, rfl⟩) (by show 1 ≤ 1; first | omega | (rw [hq0]; decide)) (by show 0 + (alCap (q + 1)) ≤ alCap (q + 1); first | omega | (rw [hq0]; decide)) hG hS dJ2_grow_2_44
    refine ⟨va_cpy g (fun _ => none) 0 0 (alCap q), rfl, ?_, rfl, ?_⟩
    · rw [eh2, eh1, show ((alCap (q + 1) : Nat) : Int).toNat = alCap (q + 1) from Int.toNat_natCast _]
    · intro j x hx
      have hj : j < xs.length := (List.getElem?_eq_some_iff.mp hx).1
      rw [pk_cpy_in (Nat.zero_le _) (by omega)]
      rw [show 0 + (j - 0) = j by omega]
      exact hg j x hx
  · refine lv_aload_n X.1 X.2.1 dJ2_grow_2_10 rfl (lv_at hl 1 rfl) ?_
    refine n_get (ci := 17) X in_J2 hW hG hL rfl 1 (by decide) q122 (fun _ h => h) rfl dJ2_grow_2_11 ?_
    refine n_gets X hW hS 0 rfl (v := .ref (G.2.2.1 0)) hW.z0 q120 (fun _ h => h) dJ2_grow_2_14 ?_
    refine lv_acmp_eq (rx := (some d)) (ry := (some (G.2.2.1 0))) (tgt := 45) X.1 X.2.1 dJ2_grow_2_17 (by decide) (fun c17 => ?_) (fun c17 => ?_)
    · have hq0 : q = 0 := by
        rcases Nat.eq_zero_or_pos q with z | z
        · exact z
        · have := hc3 z; omega
      refine lv_aload_n X.1 X.2.1 dJ2_grow_2_45 rfl (lv_at hl 1 rfl) ?_
      refine lv_bipush (v := iI (10)) X.1 X.2.1 dJ2_grow_2_46 (by decide) ?_
      refine lv_iload_n X.1 X.2.1 dJ2_grow_2_48 rfl (lv_at hl 2 rfl) ?_
      refine n_mmax (rest := [.ref L]) X hl.1 q513 (by first | omega | (rw [hq0]; decide)) (by first | omega | (rw [hq0]; decide)) (by show 1 ≤ lv; omega) (by show 1 + 13 ≤ 40 * lv; omega) (by show 0 ≤ 1; first | omega | (rw [hq0]; decide)) (by show 0 ≤ alCap (q + 1); first | omega | (rw [hq0]; decide)) dJ2_grow_2_49 ?_
      have hGo := hG
      refine n_anew (N' := 10) X q514 hW.2.2.2.1 (hW.K.2 4 (G.2.1 4, .object "java/lang/Object") rfl).2 hG hS (0, L) (iI_nn (by omega)) (by rw [iI_clamp (by omega)]; omega) (by omega) (by show 0 + 1 ≤ 1; omega) (by show 0 + 10 ≤ alCap (q + 1); rw [hq0]; decide) dJ2_grow_2_52 (fun H hG hS => ?_)
      obtain ⟨h4, eh4⟩ : ∃ hz, hz = va_up h n (some ((0, L), .inl (G.2.1 4, 10, .inr (.inr (.inr (.inr (fun _ => none))))))) := ⟨_, rfl⟩
      rw [← eh4] at hG
      have hL1 : h4 L = some (tg, .inr (17, [.int (iI mo), .ref d, .int (iI (xs.length : Int))])) := by rw [eh4, up_n (Nat.ne_of_lt (hGo.lt hL))]; exact hL
      show W p l e (gR lv 1 (alCap (q + 1))) s m args below meth c H locs 1 10 Q (F0 m 55 ls [.ref n, .ref L])
      refine lv_dup_x1 X.1 X.2.1 dJ2_grow_2_55 rfl rfl ?_
      refine n_put (ci := 17) X in_J2 tyJ2 tyJ2_ok nmJ2 hW hG hS hL1 rfl 1 (by decide) q122 (fun _ h => h) rfl rfl rfl (Nat.le_of_ble_eq_true rfl) (fs' := [.int (iI (mo)), .ref n, .int (iI ((xs.length : Int)))]) rfl dJ2_grow_2_56 (fun H locs hG hS => ?_)
      obtain ⟨h5, eh5⟩ : ∃ hz, hz = va_up h4 L (some (tg, .inr (17, [.int (iI (mo)), .ref n, .int (iI ((xs.length : Int)))]))) := ⟨_, rfl⟩
      rw [← eh5] at hG
      have f5_L : h5 L = some (tg, .inr (17, [.int (iI (mo)), .ref n, .int (iI ((xs.length : Int)))])) := by rw [eh5]; exact up_s _ _ _
      refine ret _ _ _ _ _ _ _ _ _ ?_ (Or.inr ⟨_, rfl⟩) (by show 1 ≤ 1; first | omega | (rw [hq0]; decide)) (by show 10 ≤ alCap (q + 1); first | omega | (rw [hq0]; decide)) hG hS dJ2_grow_2_59
      refine ⟨fun _ => none, rfl, ?_, rfl, ?_⟩
      · rw [eh5, eh4, hq0]
        rfl
      · intro j x hx
        have hj : j < xs.length := (List.getElem?_eq_some_iff.mp hx).1
        omega
    · have hq0 : 0 < q := by
        rcases Nat.eq_zero_or_pos q with z | z
        · exfalso
          first
            | (rw [z] at c7; exact absurd c7 (by decide))
            | (rcases hd with hd | hd
               · exact c17 (by rw [hd.2])
               · omega)
        · exact z
      obtain ⟨-, g, hd, hg⟩ : 0 < q ∧ ∃ g : Nat → Option Nat, h d = some ((0, L), .inl (G.2.1 4, alCap q, .inr (.inr (.inr (.inr g))))) ∧ ∀ (j x : Nat), xs[j]? = some x → g j = some x := by
        rcases hd with hd | hd
        · omega
        · exact hd
      have hc4 := hc3 hq0
      have hel : ∀ j, j < alCap q → ∀ y, g j = some y → gObj h y := by
        intro j hj y hy
        obtain ⟨x, hx⟩ : ∃ x, xs[j]? = some x := ⟨_, List.getElem?_eq_getElem (by omega)⟩
        have := hg j x hx
        rw [hy] at this
        cases this
        exact ho _ (List.mem_of_getElem? hx)
      refine lv_iload_n X.1 X.2.1 dJ2_grow_2_20 rfl (lv_at hl 0 rfl) ?_
      refine lv_iload_n X.1 X.2.1 dJ2_grow_2_21 rfl (lv_at hl 2 rfl) ?_
      refine lv_iload_n X.1 X.2.1 dJ2_grow_2_22 rfl (lv_at hl 0 rfl) ?_
      refine i_sub X dJ2_grow_2_23 ?_
      refine lv_iload_n X.1 X.2.1 dJ2_grow_2_24 rfl (lv_at hl 0 rfl) ?_
      refine lv_iconst (v := iI (1)) X.1 X.2.1 dJ2_grow_2_25 rfl ?_
      refine lv_ishr X.1 X.2.1 dJ2_grow_2_26 ?_
      rw [show iI ((alCap q : Nat) : Int) >>> (iI 1 &&& 31) = iI ((alCap q / 2 : Nat) : Int) by rw [← nI_iI, ← nI_iI]; have k9 := pk_shrN (n := alCap q) (by omega) (iI 1 &&& 31) 1 (by decide); rw [Nat.pow_one] at k9; exact k9]
      refine g_callS (rest := []) (k := 3) X hW hG hS (gm_newLength l G A (lv - 1) h n ((alCap q : Int)) (((xs.length : Int) + 1) - ((alCap q : Int))) (((alCap q / 2 : Nat) : Int)) (by omega) (by omega) (by omega) (by omega)) (lw_S q466 q467 q83 q468) (by decide +kernel) rfl ⟨by show (lv - 1) + 1 ≤ lv; omega, by show 8 + (4 + 11) + 40 * (lv - 1) ≤ 40 * lv; omega⟩ ⟨by show 0 + 0 ≤ 1; first | omega | (rw [hq0]; decide), by show 0 + 0 ≤ alCap (q + 1); first | omega | (rw [hq0]; decide)⟩ hl.1 rfl (Nat.le_of_ble_eq_true rfl) dJ2_grow_2_27 (g_pk (fun H locs hG hS => ?_))
      show W p l e (gR lv 1 (alCap (q + 1))) s m args below meth c H locs 0 0 Q (F0 m 30 ls [.int (iI (((alCap q : Int)) + max (((xs.length : Int) + 1) - ((alCap q : Int))) (((alCap q / 2 : Nat) : Int))))])
      refine i_top (fun z e_z => ?_)
      have ez : z = ((alCap (q + 1) : Nat) : Int) := by
        rw [e_z, alCap_full (by omega) hq0]
        omega
      subst ez
      refine lv_istore_n (lv' := [(3, .int (iI (((alCap (q + 1) : Nat) : Int)))), (2, .int (iI ((alCap q : Int)))), (0, .ref L), (1, .int (iI ((xs.length : Int) + 1)))]) X.1 X.2.1 dJ2_grow_2_30 rfl hl (by decide) rfl (fun ls hl => ?_)
      refine lv_aload_n X.1 X.2.1 dJ2_grow_2_31 rfl (lv_at hl 2 rfl) ?_
      refine lv_aload_n X.1 X.2.1 dJ2_grow_2_32 rfl (lv_at hl 2 rfl) ?_
      refine n_get (ci := 17) X in_J2 hW hG hL rfl 1 (by decide) q122 (fun _ h => h) rfl dJ2_grow_2_33 ?_
      refine lv_iload_n X.1 X.2.1 dJ2_grow_2_36 rfl (lv_at hl 0 rfl) ?_
      have hGo := hG
      refine g_callS (rest := [.ref L]) (k := 2) X hW hG hS (gm_copyOf l G A (lv - 1) h n d (alCap q) (alCap (q + 1)) g (0, L) (0, L) (by omega) hd (by omega) hel) (lw_S q476 q477 q85 q478) (by decide +kernel) rfl ⟨by show (lv - 1) + 1 ≤ lv; omega, by show 8 + (2 + 11) + 40 * (lv - 1) ≤ 40 * lv; omega⟩ ⟨by show 0 + 1 ≤ 1; first | omega | (rw [hq0]; decide), by show 0 + (alCap (q + 1)) ≤ alCap (q + 1); first | omega | (rw [hq0]; decide)⟩ hl.1 rfl (Nat.le_of_ble_eq_true rfl) dJ2_grow_2_37 (fun v6 h6 n6 H locs hp6 hG hS => ?_)
      obtain ⟨rfl, eh1, rfl⟩ := hp6
      have hL1 : h6 L = some (tg, .inr (17, [.int (iI mo), .ref d, .int (iI (xs.length : Int))])) := by rw [eh1, up_n (Nat.ne_of_lt (hGo.lt hL))]; exact hL
      show W p l e (gR lv 1 (alCap (q + 1))) s m args below meth c H locs 1 (0 + (alCap (q + 1))) Q (F0 m 40 ls [.ref n, .ref L])
      refine lv_dup_x1 X.1 X.2.1 dJ2_grow_2_40 rfl rfl ?_
      refine n_put (ci := 17) X in_J2 tyJ2 tyJ2_ok nmJ2 hW hG hS hL1 rfl 1 (by decide) q122 (fun _ h => h) rfl rfl rfl (Nat.le_of_ble_eq_true rfl) (fs' := [.int (iI (mo)), .ref n, .int (iI ((xs.length : Int)))]) rfl dJ2_grow_2_41 (fun H locs hG hS => ?_)
      obtain ⟨h7, eh7⟩ : ∃ hz, hz = va_up h6 L (some (tg, .inr (17, [.int (iI (mo)), .ref n, .int (iI ((xs.length : Int)))]))) := ⟨_, rfl⟩
      rw [← eh7] at hG
      have f7_L : h7 L = some (tg, .inr (17, [.int (iI (mo)), .ref n, .int (iI ((xs.length : Int)))])) := by rw [eh7]; exact up_s _ _ _
      refine ret _ _ _ _ _ _ _ _ _ ?_ (Or.inr ⟨_, rfl⟩) (by show 1 ≤ 1; first | omega | (rw [hq0]; decide)) (by show 0 + (alCap (q + 1)) ≤ alCap (q + 1); first | omega | (rw [hq0]; decide)) hG hS dJ2_grow_2_44
      refine ⟨va_cpy g (fun _ => none) 0 0 (alCap q), rfl, ?_, rfl, ?_⟩
      · rw [eh7, eh1, show ((alCap (q + 1) : Nat) : Int).toNat = alCap (q + 1) from Int.toNat_natCast _]
      · intro j x hx
        have hj : j < xs.length := (List.getElem?_eq_some_iff.mp hx).1
        rw [pk_cpy_in (Nat.zero_le _) (by omega)]
        rw [show 0 + (j - 0) = j by omega]
        exact hg j x hx

set_option maxHeartbeats 4000000 in
theorem al_grow (l : Launch) (G : gEnv) (A : Nat → Prop) (lv : Nat) (h : gH) (n : Nat) (L : Nat) (xs : List Nat) (q : Nat) (tg : gT) (mo : Int) (d : Nat) (hlv : 6 ≤ lv) (hA : ALx G h L xs q tg mo d) (hf : xs.length = alCap q) (hq1 : q < 2000) : gC l yJ2_grow cJ2_grow 1 (some (FieldType.array (FieldType.object "java/lang/Object"))) G A lv 1 (alCap (q + 1)) [.ref L] h n (fun v h' n' => ∃ g' : Nat → Option Nat, v = some (.ref n) ∧ h' = va_up (va_up h n (some ((0, L), .inl (G.2.1 4, alCap (q + 1), .inr (.inr (.inr (.inr g'))))))) L (some (tg, .inr (17, [.int (iI mo), .ref n, .int (iI (xs.length : Int))]))) ∧ n' = n + 1 ∧ ∀ (j x : Nat), xs[j]? = some x → g' j = some x) := by
  refine gC_ofA (Or.inr ⟨_, rfl⟩) RJ2 (by decide +kernel) rfl (Nat.le_of_ble_eq_true rfl) ?_
  intro p e s m args below meth c Q X hW ret H locs ls hG hS hl
  have hl : lv_has ls 1 [(0, .ref L)] := hl
  have hL := hA.1
  refine lv_aload_n X.1 X.2.1 dJ2_grow_0 rfl (lv_at hl 0 rfl) ?_
  refine lv_aload_n X.1 X.2.1 dJ2_grow_1 rfl (lv_at hl 0 rfl) ?_
  refine n_get (ci := 17) X in_J2 hW hG hL rfl 2 (by decide) q123 (fun _ h => h) rfl dJ2_grow_2 ?_
  refine lv_iconst (v := iI (1)) X.1 X.2.1 dJ2_grow_5 rfl ?_
  refine i_add X dJ2_grow_6 ?_
  refine g_callV (ci := 17) (rest := []) (k := 1) X hW hG hS hL rfl (al_grow2 l G A (lv - 1) h n L xs q tg mo d (by omega) hA hf hq1) (lw_V q462 q464 qs13 q69 q465) (by decide +kernel) rfl ⟨by show (lv - 1) + 1 ≤ lv; omega, by show 8 + (4 + 11) + 40 * (lv - 1) ≤ 40 * lv; omega⟩ ⟨by show 0 + 1 ≤ 1; omega, by show 0 + (alCap (q + 1)) ≤ alCap (q + 1); omega⟩ hl.1 rfl (Nat.le_of_ble_eq_true rfl) dJ2_grow_7 (fun v1 h1 n1 H locs hp1 hG hS => ?_)
  obtain ⟨g1, rfl, eh, rfl, hg1⟩ := hp1
  show W p l e (gR lv 1 (alCap (q + 1))) s m args below meth c H locs 1 (0 + (alCap (q + 1))) Q (F0 m 10 ls [.ref n])
  refine ret _ _ _ _ _ _ _ _ _ ?_ (Or.inr ⟨_, rfl⟩) (by show 1 ≤ 1; omega) (by show 0 + (alCap (q + 1)) ≤ alCap (q + 1); omega) hG hS dJ2_grow_10
  exact ⟨g1, rfl, eh, rfl, hg1⟩

set_option maxHeartbeats 4000000 in
theorem al_add2 (l : Launch) (G : gEnv) (A : Nat → Prop) (lv : Nat) (h : gH) (n : Nat) (L : Nat) (xs : List Nat) (q : Nat) (tg : gT) (mo : Int) (d x : Nat) (hlv : 7 ≤ lv) (hA : ALx G h L xs q tg mo d) (hE : gObj h x) (hq1 : q < 2000) : gC l yJ2_add_2 cJ2_add_2 4 none G A lv (alK (max q (xs.length + 1)) - alK q) (alS (max q (xs.length + 1)) - alS q) [.ref L, .ref x, .ref d, .int (iI ((xs.length : Int)))] h n (fun v h' n' => v = none ∧ ∃ d' : Nat, ALx G h' L (xs ++ [x]) (max q (xs.length + 1)) tg mo d' ∧ gExt L h h' ∧ gCls h h' ∧ n ≤ n') := by
  refine gC_ofV RJ2 (by decide +kernel) rfl (Nat.le_of_ble_eq_true rfl) ?_
  intro p e s m args below meth c Q X hinit hW ret H locs ls hG hS hl
  have hl : lv_has ls 4 [(0, .ref L), (1, .ref x), (2, .ref d), (3, .int (iI ((xs.length : Int))))] := hl
  obtain ⟨hL, ht0, hlq, hq2, hd, ho⟩ := hA
  obtain ⟨te, ce0, fe, hE⟩ := hE
  have hc1 := (alCap_ge q).1
  have hc2 := alCap_le q
  refine lv_iload_n X.1 X.2.1 dJ2_add_2_0 rfl (lv_at hl 3 rfl) ?_
  refine lv_aload_n X.1 X.2.1 dJ2_add_2_1 rfl (lv_at hl 2 rfl) ?_
  refine al_alen X hW hG hS hd dJ2_add_2_2 ?_
  have K11 : ∀ (h' : gH) (n' d' : Nat) (g' : Nat → Option Nat) (ce sl : Nat), (h' L = some (tg, .inr (17, [.int (iI mo), .ref d', .int (iI (xs.length : Int))]))) → (h' d' = some ((0, L), .inl (G.2.1 4, alCap (max q (xs.length + 1)), .inr (.inr (.inr (.inr g')))))) → (L < d') → (∀ (j x : Nat), xs[j]? = some x → g' j = some x) → (gExt L h h') → (gCls h h') → (n ≤ n') → (ce ≤ alK (max q (xs.length + 1)) - alK q ∧ sl ≤ alS (max q (xs.length + 1)) - alS q) → ∀ (H : Heap) (locs : List Loc) (ls : Array Slot), gOn G.1 A h' n' H → va_S A s.heap H locs → lv_has ls 4 [(0, .ref L), (1, .ref x), (2, .ref (d')), (3, .int (iI ((xs.length : Int))))] → W p l e (gR lv (alK (max q (xs.length + 1)) - alK q) (alS (max q (xs.length + 1)) - alS q)) s m args below meth c H locs ce sl Q (F0 m 11 ls []) := by
    intro h' n' d' g' ce sl hL' hd' hLd' hg' hx' hk' hn' hcs H locs ls hG hS hl
    obtain ⟨fe', hE'⟩ := hk' x _ _ _ hE
    have hcq := (alCap_ge (max q (xs.length + 1))).1
    have hcq2 := alCap_le (max q (xs.length + 1))
    obtain ⟨rE, hrE, -⟩ := (hG.1 x _ hE').2
    refine lv_aload_n X.1 X.2.1 dJ2_add_2_11 rfl (lv_at hl 2 rfl) ?_
    refine lv_iload_n X.1 X.2.1 dJ2_add_2_12 rfl (lv_at hl 3 rfl) ?_
    refine lv_aload_n X.1 X.2.1 dJ2_add_2_13 rfl (lv_at hl 1 rfl) ?_
    refine n_aast X hW hG hS 4 hd' rfl hE' hrE (gCastO hW hrE) (iI_in ⟨by omega, by omega⟩ (by omega)) dJ2_add_2_14 (fun H locs hG hS => ?_)
    obtain ⟨h9, eh9⟩ : ∃ hz, hz = va_up h' d' (some ((0, L), .inl (G.2.1 4, alCap (max q (xs.length + 1)), .inr (.inr (.inr (.inr (va_up g' (iI (xs.length : Int)).toNatClampNeg (some x)))))))) := ⟨_, rfl⟩
    rw [← eh9] at hG
    have hL9 : h9 L = some (tg, .inr (17, [.int (iI mo), .ref d', .int (iI (xs.length : Int))])) := by rw [eh9, up_n (gNe hL' hd' (by intro hh; simp at hh))]; exact hL'
    have hd9 : h9 d' = some ((0, L), .inl (G.2.1 4, alCap (max q (xs.length + 1)), .inr (.inr (.inr (.inr (va_up g' (iI (xs.length : Int)).toNatClampNeg (some x))))))) := by rw [eh9]; exact up_s _ _ _
    refine lv_aload_n X.1 X.2.1 dJ2_add_2_15 rfl (lv_at hl 0 rfl) ?_
    refine lv_iload_n X.1 X.2.1 dJ2_add_2_16 rfl (lv_at hl 3 rfl) ?_
    refine lv_iconst (v := iI (1)) X.1 X.2.1 dJ2_add_2_17 rfl ?_
    refine i_add X dJ2_add_2_18 ?_
    refine n_put (ci := 17) X in_J2 tyJ2 tyJ2_ok nmJ2 hW hG hS hL9 rfl 2 (by decide) q123 (fun _ h => h) rfl rfl rfl (Nat.le_of_ble_eq_true rfl) (fs' := [.int (iI (mo)), .ref (d'), .int (iI (((xs.length : Int)) + 1))]) rfl dJ2_add_2_19 (fun H locs hG hS => ?_)
    obtain ⟨h1, eh1⟩ : ∃ hz, hz = va_up h9 L (some (tg, .inr (17, [.int (iI (mo)), .ref (d'), .int (iI (((xs.length : Int)) + 1))]))) := ⟨_, rfl⟩
    rw [← eh1] at hG
    have f1_d : h1 d' = some ((0, L), .inl (G.2.1 4, alCap (max q (xs.length + 1)), .inr (.inr (.inr (.inr (va_up g' (iI (xs.length : Int)).toNatClampNeg (some x))))))) := by rw [eh1, up_n (gNe hd9 hL9 (by intro hh; simp at hh))]; exact hd9
    have f1_L : h1 L = some (tg, .inr (17, [.int (iI (mo)), .ref (d'), .int (iI (((xs.length : Int)) + 1))])) := by rw [eh1]; exact up_s _ _ _
    refine ret _ _ _ _ _ _ _ _ ?_ (by show ce ≤ alK (max q (xs.length + 1)) - alK q; omega) (by show sl ≤ alS (max q (xs.length + 1)) - alS q; omega) hG hS dJ2_add_2_22
    have hlen : ((xs ++ [x]).length : Int) = (xs.length : Int) + 1 := by simp
    have hkk : gCls h h1 := by rw [eh1, eh9]; exact (hk'.upA hd' _).upO (by rw [up_n (gNe hL' hd' (by intro hh; simp at hh))]; exact hL') _
    refine ⟨rfl, d', ⟨by rw [hlen]; exact f1_L, ⟨ht0.1, fun _ => hLd'⟩, by simp; omega, by omega, Or.inr ⟨by omega, _, f1_d, ?_⟩, ?_⟩, ?_, hkk, hn'⟩
    · intro j y hj
      rw [iI_clamp (by omega)]
      by_cases hq9 : j = xs.length
      · subst hq9
        rw [List.getElem?_append_right (Nat.le_refl _), Nat.sub_self] at hj
        cases hj
        rw [Int.toNat_natCast, up_s]
      · have hl9 : j < (xs ++ [x]).length := (List.getElem?_eq_some_iff.mp hj).1
        rw [List.length_append, List.length_singleton] at hl9
        rw [List.getElem?_append_left (by omega)] at hj
        rw [Int.toNat_natCast, up_n hq9]
        exact hg' j y hj
    · intro y hy
      rcases List.mem_append.mp hy with hy | hy
      · exact hkk.obj (ho y hy)
      · rw [List.mem_singleton.mp hy]
        exact hkk.obj ⟨_, _, _, hE⟩
    · rw [eh1, eh9]
      exact (hx'.upA hd' hLd' _).upL _
  refine i_icmp_ne X 11 dJ2_add_2_3 (by decide) (by omega) (by omega) (fun c3 => ?_) (fun c3 => ?_)
  · obtain ⟨hq0, g, hd, hg⟩ : 0 < q ∧ ∃ g : Nat → Option Nat, h d = some ((0, L), .inl (G.2.1 4, alCap q, .inr (.inr (.inr (.inr g))))) ∧ ∀ (j x : Nat), xs[j]? = some x → g j = some x := by
      rcases hd with hd | hd
      · exfalso; rw [hd.1] at c3 hlq; exact c3 (by show (xs.length : Int) = ((0 : Nat) : Int); omega)
      · exact hd
    exact K11 h n d g 0 0 hL (by rcases Nat.lt_or_ge xs.length q with z9 | z9; (rw [show max q (xs.length + 1) = q by omega]; exact hd); (rw [show max q (xs.length + 1) = q + 1 by omega, (alCap_room (q := q) (by omega)).1]; exact hd)) (ht0.2 hq0) hg (gExt.refl _ _) (gCls.refl _) (Nat.le_refl _) ⟨Nat.zero_le _, Nat.zero_le _⟩ H locs ls hG hS (lv_sub hl [0, 1, 2, 3] rfl)
  · refine lv_aload_n X.1 X.2.1 dJ2_add_2_6 rfl (lv_at hl 0 rfl) ?_
    have hGo := hG
    have hqq : q = xs.length := by omega
    have hmx : max q (xs.length + 1) = q + 1 := by omega
    have hkf := alK_full (q := q) (by omega)
    refine g_callV (ci := 17) (rest := []) (k := 0) X hW hG hS hL rfl (al_grow l G A (lv - 1) h n L xs q tg mo d (by omega) ⟨hL, ht0, hlq, hq2, hd, ho⟩ (by omega) (by omega)) (lw_V q458 q460 qs12 q69 q461) (by decide +kernel) rfl ⟨by show (lv - 1) + 1 ≤ lv; omega, by show 8 + (1 + 11) + 40 * (lv - 1) ≤ 40 * lv; omega⟩ ⟨by show 0 + 1 ≤ alK (max q (xs.length + 1)) - alK q; rw [hmx]; omega, by show 0 + (alCap (q + 1)) ≤ alS (max q (xs.length + 1)) - alS q; rw [hmx]; omega⟩ hl.1 rfl (Nat.le_of_ble_eq_true rfl) dJ2_add_2_7 (fun v2 h2 n2 H locs hp2 hG hS => ?_)
    obtain ⟨g1, rfl, eh, rfl, hg1⟩ := hp2
    show W p l e (gR lv (alK (max q (xs.length + 1)) - alK q) (alS (max q (xs.length + 1)) - alS q)) s m args below meth c H locs 1 (0 + (alCap (q + 1))) Q (F0 m 10 ls [.ref n])
    refine lv_astore_n (lv' := [(2, .ref n), (0, .ref L), (1, .ref x), (3, .int (iI ((xs.length : Int))))]) X.1 X.2.1 dJ2_add_2_10 rfl hl (by decide) rfl (fun ls hl => ?_)
    skip
    exact K11 h2 (n + 1) n g1 (0 + 1) (0 + alCap (q + 1)) (by rw [eh]; exact up_s _ _ _) (by rw [hmx, eh, up_n (Ne.symm (Nat.ne_of_lt (hGo.lt hL))), up_s]) (hGo.lt hL) hg1 (by rw [eh]; exact ((gExt.refl _ _).upN (hGo.fresh (Nat.le_refl _)) _).upL _) (by rw [eh]; exact ((gCls.refl _).upN (hGo.fresh (Nat.le_refl _)) _).upO (by rw [up_n (Nat.ne_of_lt (hGo.lt hL))]; exact hL) _) (Nat.le_succ _) ⟨by rw [hmx]; omega, by rw [hmx]; omega⟩ H locs ls hG hS (lv_sub hl [1, 2, 0, 3] rfl)

set_option maxHeartbeats 4000000 in
/-- one more in a list -/
theorem al_add (l : Launch) (G : gEnv) (A : Nat → Prop) (lv : Nat) (h : gH) (n : Nat) (L : Nat) (xs : List Nat) (q x : Nat) (hlv : 8 ≤ lv) (hA : AL G h L xs q) (hE : gObj h x) (hq1 : q < 2000) : gC l yJ2_add cJ2_add 2 (some .boolean) G A lv (alK (max q (xs.length + 1)) - alK q) (alS (max q (xs.length + 1)) - alS q) [.ref L, .ref x] h n (fun v h' n' => v = some (.int (iI 1)) ∧ AL G h' L (xs ++ [x]) (max q (xs.length + 1)) ∧ gExt L h h' ∧ gCls h h' ∧ n ≤ n') := by
  refine gC_ofI RJ2 (by decide +kernel) rfl (Nat.le_of_ble_eq_true rfl) ?_
  intro p e s m args below meth c Q X hW ret H locs ls hG hS hl
  have hl : lv_has ls 2 [(0, .ref L), (1, .ref x)] := hl
  obtain ⟨tg, mo, d, hL, ht0, hlq, hq2, hd, ho⟩ := hA
  refine lv_aload_n X.1 X.2.1 dJ2_add_0 rfl (lv_at hl 0 rfl) ?_
  refine lv_dup X.1 X.2.1 dJ2_add_1 rfl ?_
  refine n_get (ci := 17) X in_J2 hW hG hL rfl 0 (by decide) q125 (fun x hx => u_same (X.2.2.2.2 _ q126) x hx) rfl dJ2_add_2 ?_
  refine lv_iconst (v := iI (1)) X.1 X.2.1 dJ2_add_5 rfl ?_
  refine i_add X dJ2_add_6 ?_
  refine n_put (ci := 17) X in_J2 tyJ2 tyJ2_ok nmJ2 hW hG hS hL rfl 0 (by decide) q125 (fun x hx => u_same (X.2.2.2.2 _ q126) x hx) rfl rfl rfl (Nat.le_of_ble_eq_true rfl) (fs' := [.int (iI (mo + 1)), .ref d, .int (iI ((xs.length : Int)))]) rfl dJ2_add_7 (fun H locs hG hS => ?_)
  obtain ⟨h1, eh1⟩ : ∃ hz, hz = va_up h L (some (tg, .inr (17, [.int (iI (mo + 1)), .ref d, .int (iI ((xs.length : Int)))]))) := ⟨_, rfl⟩
  rw [← eh1] at hG
  have f1_L : h1 L = some (tg, .inr (17, [.int (iI (mo + 1)), .ref d, .int (iI ((xs.length : Int)))])) := by rw [eh1]; exact up_s _ _ _
  refine lv_aload_n X.1 X.2.1 dJ2_add_10 rfl (lv_at hl 0 rfl) ?_
  refine lv_aload_n X.1 X.2.1 dJ2_add_11 rfl (lv_at hl 1 rfl) ?_
  refine lv_aload_n X.1 X.2.1 dJ2_add_12 rfl (lv_at hl 0 rfl) ?_
  refine n_get (ci := 17) X in_J2 hW hG f1_L rfl 1 (by decide) q122 (fun _ h => h) rfl dJ2_add_13 ?_
  refine lv_aload_n X.1 X.2.1 dJ2_add_16 rfl (lv_at hl 0 rfl) ?_
  refine n_get (ci := 17) X in_J2 hW hG f1_L rfl 2 (by decide) q123 (fun _ h => h) rfl dJ2_add_17 ?_
  have hk1 : gCls h h1 := by rw [eh1]; exact (gCls.refl _).upO hL _
  have hA1 : ALx G h1 L xs q tg (mo + 1) d := by
    refine ⟨f1_L, ht0, hlq, hq2, ?_, fun y hy => hk1.obj (ho y hy)⟩
    rcases hd with hd | ⟨b1, g, b2, b3⟩
    · exact Or.inl hd
    · exact Or.inr ⟨b1, g, by rw [eh1, up_n (gNe b2 hL (by intro hh; simp at hh))]; exact b2, b3⟩
  have hE1 := hk1.obj hE
  have hx1 : gExt L h h1 := by rw [eh1]; exact (gExt.refl _ _).upL _
  refine g_callV (ci := 17) (rest := []) (k := 3) X hW hG hS f1_L rfl (al_add2 l G A (lv - 1) h1 n L xs q tg (mo + 1) d x (by omega) hA1 hE1 hq1) (lw_V q454 q456 qs11 q69 q457) (by decide +kernel) rfl ⟨by show (lv - 1) + 1 ≤ lv; omega, by show 8 + (4 + 11) + 40 * (lv - 1) ≤ 40 * lv; omega⟩ ⟨by show 0 + (alK (max q (xs.length + 1)) - alK q) ≤ alK (max q (xs.length + 1)) - alK q; omega, by show 0 + (alS (max q (xs.length + 1)) - alS q) ≤ alS (max q (xs.length + 1)) - alS q; omega⟩ hl.1 rfl (Nat.le_of_ble_eq_true rfl) dJ2_add_20 (fun v2 h2 n2 H locs hp2 hG hS => ?_)
  obtain ⟨rfl, d2, hA2, hx2, hk2, hn2⟩ := hp2
  show W p l e (gR lv (alK (max q (xs.length + 1)) - alK q) (alS (max q (xs.length + 1)) - alS q)) s m args below meth c H locs (0 + (alK (max q (xs.length + 1)) - alK q)) (0 + (alS (max q (xs.length + 1)) - alS q)) Q (F0 m 23 ls [])
  refine lv_iconst (v := iI (1)) X.1 X.2.1 dJ2_add_23 rfl ?_
  refine ret _ _ _ _ _ _ _ _ _ ?_ (nar_b (by omega)) (by show 0 + (alK (max q (xs.length + 1)) - alK q) ≤ alK (max q (xs.length + 1)) - alK q; omega) (by show 0 + (alS (max q (xs.length + 1)) - alS q) ≤ alS (max q (xs.length + 1)) - alS q; omega) hG hS dJ2_add_24
  exact ⟨rfl, ⟨tg, _, d2, hA2⟩, hx1.trans hx2, hk1.trans hk2, hn2⟩

set_option maxHeartbeats 4000000 in
/-- the i-th of a list is another -/
theorem al_set (l : Launch) (G : gEnv) (A : Nat → Prop) (lv : Nat) (h : gH) (n : Nat) (L : Nat) (xs : List Nat) (q : Nat) (i : Int) (x : Nat) (y : Nat) (hlv : 2 ≤ lv) (hA : AL G h L xs q) (h0 : 0 ≤ i) (hx : xs[i.toNat]? = some x) (hY : gObj h y) : gC l yJ2_set cJ2_set 4 (some (FieldType.object "java/lang/Object")) G A lv 0 0 [.ref L, .int (iI (i)), .ref y] h n (fun v h' n' => v = some (.ref x) ∧ AL G h' L (xs.set i.toNat y) q ∧ gExt L h h' ∧ gCls h h' ∧ n' = n) := by
  refine gC_ofA (Or.inl ⟨_, rfl⟩) RJ2 (by decide +kernel) rfl (Nat.le_of_ble_eq_true rfl) ?_
  intro p e s m args below meth c Q X hW ret H locs ls hG hS hl
  have hl : lv_has ls 4 [(0, .ref L), (1, .int (iI (i))), (2, .ref y)] := hl
  obtain ⟨tg, mo, d, hL, ht0, hlq, hq2, hd, ho⟩ := hA
  have hxl : i.toNat < xs.length := (List.getElem?_eq_some_iff.mp hx).1
  obtain ⟨hq0, g, hd, hg⟩ : 0 < q ∧ ∃ g : Nat → Option Nat, h d = some ((0, L), .inl (G.2.1 4, alCap q, .inr (.inr (.inr (.inr g))))) ∧ ∀ (j x : Nat), xs[j]? = some x → g j = some x := by
    rcases hd with hd | hd
    · omega
    · exact hd
  have hgx := hg _ _ hx
  have hc1 := (alCap_ge q).1
  have hc2 := alCap_le q
  refine lv_iload_n X.1 X.2.1 dJ2_set_0 rfl (lv_at hl 1 rfl) ?_
  refine lv_aload_n X.1 X.2.1 dJ2_set_1 rfl (lv_at hl 0 rfl) ?_
  refine n_get (ci := 17) X in_J2 hW hG hL rfl 2 (by decide) q123 (fun _ h => h) rfl dJ2_set_2 ?_
  refine g_callS (rest := []) (k := 2) X hW hG hS (gm_checkIndex l G A (lv - 1) h n i ((xs.length : Int)) (by omega) (by omega) (by omega)) (lw_S q694 q695 q95 q696) (by decide +kernel) rfl ⟨by show (lv - 1) + 1 ≤ lv; omega, by show 8 + (2 + 11) + 40 * (lv - 1) ≤ 40 * lv; omega⟩ ⟨by show 0 + 0 ≤ 0; omega, by show 0 + 0 ≤ 0; omega⟩ hl.1 rfl (Nat.le_of_ble_eq_true rfl) dJ2_set_5 (g_pk (fun H locs hG hS => ?_))
  show W p l e (gR lv 0 0) s m args below meth c H locs 0 0 Q (F0 m 8 ls [.int (iI (i))])
  refine lv_pop X.1 X.2.1 dJ2_set_8 rfl ?_
  refine lv_aload_n X.1 X.2.1 dJ2_set_9 rfl (lv_at hl 0 rfl) ?_
  refine lv_iload_n X.1 X.2.1 dJ2_set_10 rfl (lv_at hl 1 rfl) ?_
  refine g_callV (ci := 17) (rest := []) (k := 1) X hW hG hS hL rfl (al_elem l G A (lv - 1) h n L xs q i x ⟨tg, mo, d, hL, ht0, hlq, hq2, Or.inr ⟨hq0, g, hd, hg⟩, ho⟩ h0 hx) (lw_V q698 q699 q700 q69 q701) (by decide +kernel) rfl ⟨by show (lv - 1) + 1 ≤ lv; omega, by show 8 + (2 + 11) + 40 * (lv - 1) ≤ 40 * lv; omega⟩ ⟨by show 0 + 0 ≤ 0; omega, by show 0 + 0 ≤ 0; omega⟩ hl.1 rfl (Nat.le_of_ble_eq_true rfl) dJ2_set_11 (g_pk (fun H locs hG hS => ?_))
  show W p l e (gR lv 0 0) s m args below meth c H locs 0 0 Q (F0 m 14 ls [.ref x])
  refine lv_astore_n (lv' := [(3, .ref x), (0, .ref L), (1, .int (iI (i))), (2, .ref y)]) X.1 X.2.1 dJ2_set_14 rfl hl (by decide) rfl (fun ls hl => ?_)
  refine lv_aload_n X.1 X.2.1 dJ2_set_15 rfl (lv_at hl 1 rfl) ?_
  refine n_get (ci := 17) X in_J2 hW hG hL rfl 1 (by decide) q122 (fun _ h => h) rfl dJ2_set_16 ?_
  refine lv_iload_n X.1 X.2.1 dJ2_set_19 rfl (lv_at hl 2 rfl) ?_
  refine lv_aload_n X.1 X.2.1 dJ2_set_20 rfl (lv_at hl 3 rfl) ?_
  obtain ⟨te, ce0, fe, hE⟩ := id hY
  obtain ⟨rE, hrE, -⟩ := (hG.1 y _ hE).2
  refine n_aast X hW hG hS 4 hd rfl hE hrE (gCastO hW hrE) (iI_in ⟨by omega, by omega⟩ (by omega)) dJ2_set_21 (fun H locs hG hS => ?_)
  obtain ⟨h9, eh9⟩ : ∃ hz, hz = va_up h d (some ((0, L), .inl (G.2.1 4, alCap q, .inr (.inr (.inr (.inr (va_up g (iI i).toNatClampNeg (some y)))))))) := ⟨_, rfl⟩
  rw [← eh9] at hG
  have hL9 : h9 L = some (tg, .inr (17, [.int (iI mo), .ref d, .int (iI (xs.length : Int))])) := by rw [eh9, up_n (gNe hL hd (by intro hh; simp at hh))]; exact hL
  have hd9 : h9 d = some ((0, L), .inl (G.2.1 4, alCap q, .inr (.inr (.inr (.inr (va_up g (iI i).toNatClampNeg (some y))))))) := by rw [eh9]; exact up_s _ _ _
  refine lv_aload_n X.1 X.2.1 dJ2_set_22 rfl (lv_at hl 0 rfl) ?_
  refine ret _ _ _ _ _ _ _ _ _ ?_ (Or.inr ⟨_, rfl⟩) (by show 0 ≤ 0; omega) (by show 0 ≤ 0; omega) hG hS dJ2_set_23
  have hk9 : gCls h h9 := by rw [eh9]; exact (gCls.refl _).upA hd _
  refine ⟨rfl, ⟨tg, mo, d, ⟨?_, ht0, by rw [List.length_set]; exact hlq, hq2, Or.inr ⟨hq0, _, hd9, ?_⟩, ?_⟩⟩, ?_, hk9, rfl⟩
  · rw [List.length_set]; exact hL9
  · intro j z hj
    rw [iI_clamp (by omega)]
    by_cases hq9 : j = i.toNat
    · subst hq9
      rw [List.getElem?_set_self hxl] at hj
      cases hj
      rw [up_s]
    · rw [List.getElem?_set_ne (Ne.symm hq9)] at hj
      rw [up_n hq9]
      exact hg j z hj
  · intro z hz
    rcases List.mem_or_eq_of_mem_set hz with hz | hz
    · exact hk9.obj (ho z hz)
    · rw [hz]; exact hk9.obj hY
  · rw [eh9]; exact (gExt.refl _ _).upA hd (ht0.2 hq0) _

set_option maxHeartbeats 4000000 in
theorem al_fastRemove (l : Launch) (G : gEnv) (A : Nat → Prop) (lv : Nat) (h : gH) (n : Nat) (L : Nat) (xs : List Nat) (q x : Nat) (tg : gT) (mo : Int) (d : Nat) (hA : ALx G h L (xs ++ [x]) q tg mo d) : gC l yJ2_fastRemove cJ2_fastRemove 4 none G A lv 0 0 [.ref L, .ref d, .int (iI ((xs.length : Int)))] h n (fun v h' n' => v = none ∧ AL G h' L xs q ∧ gExt L h h' ∧ gCls h h' ∧ n' = n) := by
  refine gC_ofV RJ2 (by decide +kernel) rfl (Nat.le_of_ble_eq_true rfl) ?_
  intro p e s m args below meth c Q X hinit hW ret H locs ls hG hS hl
  have hl : lv_has ls 4 [(0, .ref L), (1, .ref d), (2, .int (iI ((xs.length : Int))))] := hl
  obtain ⟨hL, ht0, hlq, hq2, hd, ho⟩ := hA
  have hlen : ((xs ++ [x]).length : Int) = (xs.length : Int) + 1 := by simp
  obtain ⟨hq0, g, hd, hg⟩ : 0 < q ∧ ∃ g : Nat → Option Nat, h d = some ((0, L), .inl (G.2.1 4, alCap q, .inr (.inr (.inr (.inr g))))) ∧ ∀ (j z : Nat), (xs ++ [x])[j]? = some z → g j = some z := by
    rcases hd with hd | hd
    · exfalso; rw [hd.1] at hlq; omega
    · exact hd
  have hgx : g xs.length = some x := hg xs.length x (by rw [List.getElem?_append_right (Nat.le_refl _), Nat.sub_self]; rfl)
  have hc1 := (alCap_ge q).1
  have hc2 := alCap_le q
  refine lv_aload_n X.1 X.2.1 dJ2_fastRemove_0 rfl (lv_at hl 0 rfl) ?_
  refine lv_dup X.1 X.2.1 dJ2_fastRemove_1 rfl ?_
  refine n_get (ci := 17) X in_J2 hW hG hL rfl 0 (by decide) q125 (fun x hx => u_same (X.2.2.2.2 _ q126) x hx) rfl dJ2_fastRemove_2 ?_
  refine lv_iconst (v := iI (1)) X.1 X.2.1 dJ2_fastRemove_5 rfl ?_
  refine i_add X dJ2_fastRemove_6 ?_
  refine n_put (ci := 17) X in_J2 tyJ2 tyJ2_ok nmJ2 hW hG hS hL rfl 0 (by decide) q125 (fun x hx => u_same (X.2.2.2.2 _ q126) x hx) rfl rfl rfl (Nat.le_of_ble_eq_true rfl) (fs' := [.int (iI (mo + 1)), .ref d, .int (iI (((xs ++ [x]).length : Int)))]) rfl dJ2_fastRemove_7 (fun H locs hG hS => ?_)
  obtain ⟨h1, eh1⟩ : ∃ hz, hz = va_up h L (some (tg, .inr (17, [.int (iI (mo + 1)), .ref d, .int (iI (((xs ++ [x]).length : Int)))]))) := ⟨_, rfl⟩
  rw [← eh1] at hG
  have f1_L : h1 L = some (tg, .inr (17, [.int (iI (mo + 1)), .ref d, .int (iI (((xs ++ [x]).length : Int)))])) := by rw [eh1]; exact up_s _ _ _
  refine lv_aload_n X.1 X.2.1 dJ2_fastRemove_10 rfl (lv_at hl 0 rfl) ?_
  refine n_get (ci := 17) X in_J2 hW hG f1_L rfl 2 (by decide) q123 (fun _ h => h) rfl dJ2_fastRemove_11 ?_
  refine lv_iconst (v := iI (1)) X.1 X.2.1 dJ2_fastRemove_14 rfl ?_
  refine i_sub X dJ2_fastRemove_15 ?_
  refine i_top (fun z e_z => ?_)
  have ez : z = (xs.length : Int) := by omega
  subst ez
  refine lv_dup X.1 X.2.1 dJ2_fastRemove_16 rfl ?_
  refine lv_istore_n (lv' := [(3, .int (iI ((xs.length : Int)))), (0, .ref L), (1, .ref d), (2, .int (iI ((xs.length : Int))))]) X.1 X.2.1 dJ2_fastRemove_17 rfl hl (by decide) rfl (fun ls hl => ?_)
  refine lv_iload_n X.1 X.2.1 dJ2_fastRemove_18 rfl (lv_at hl 3 rfl) ?_
  refine i_icmp_le X 34 dJ2_fastRemove_19 (by decide) (by omega) (by omega) (fun c19 => ?_) (fun c19 => ?_)
  · refine lv_aload_n X.1 X.2.1 dJ2_fastRemove_34 rfl (lv_at hl 2 rfl) ?_
    refine lv_aload_n X.1 X.2.1 dJ2_fastRemove_35 rfl (lv_at hl 1 rfl) ?_
    refine lv_iload_n X.1 X.2.1 dJ2_fastRemove_36 rfl (lv_at hl 0 rfl) ?_
    refine lv_dup_x1 X.1 X.2.1 dJ2_fastRemove_37 rfl rfl ?_
    refine n_put (ci := 17) X in_J2 tyJ2 tyJ2_ok nmJ2 hW hG hS f1_L rfl 2 (by decide) q123 (fun _ h => h) rfl rfl rfl (Nat.le_of_ble_eq_true rfl) (fs' := [.int (iI (mo + 1)), .ref d, .int (iI ((xs.length : Int)))]) rfl dJ2_fastRemove_38 (fun H locs hG hS => ?_)
    obtain ⟨h2, eh2⟩ : ∃ hz, hz = va_up h1 L (some (tg, .inr (17, [.int (iI (mo + 1)), .ref d, .int (iI ((xs.length : Int)))]))) := ⟨_, rfl⟩
    rw [← eh2] at hG
    have f2_L : h2 L = some (tg, .inr (17, [.int (iI (mo + 1)), .ref d, .int (iI ((xs.length : Int)))])) := by rw [eh2]; exact up_s _ _ _
    refine lv_null X.1 X.2.1 dJ2_fastRemove_41 ?_
    have hdq : h2 d = some ((0, L), .inl (G.2.1 4, alCap q, .inr (.inr (.inr (.inr g))))) := by rw [eh2, eh1, up_n (gNe hd hL (by intro hh; simp at hh)), up_n (gNe hd hL (by intro hh; simp at hh))]; exact hd
    refine n_aastN X hW hG hS 4 hdq rfl (iI_in ⟨by omega, by omega⟩ (by omega)) dJ2_fastRemove_42 (fun H locs hG hS => ?_)
    obtain ⟨h9, eh9⟩ : ∃ hz, hz = va_up h2 d (some ((0, L), .inl (G.2.1 4, alCap q, .inr (.inr (.inr (.inr (va_up g (iI (xs.length : Int)).toNatClampNeg none))))))) := ⟨_, rfl⟩
    rw [← eh9] at hG
    have hL9 : h9 L = some (tg, .inr (17, [.int (iI (mo + 1)), .ref d, .int (iI ((xs.length : Int)))])) := by rw [eh9, up_n (gNe f2_L hdq (by intro hh; simp at hh))]; exact f2_L
    have hd9 : h9 d = some ((0, L), .inl (G.2.1 4, alCap q, .inr (.inr (.inr (.inr (va_up g (iI (xs.length : Int)).toNatClampNeg none)))))) := by rw [eh9]; exact up_s _ _ _
    refine ret _ _ _ _ _ _ _ _ ?_ (by show 0 ≤ 0; omega) (by show 0 ≤ 0; omega) hG hS dJ2_fastRemove_43
    have hk9 : gCls h h9 := by rw [eh9, eh2, eh1]; exact (((gCls.refl _).upO hL _).upO (up_s _ _ _) _).upA (by rw [up_n (gNe hd hL (by intro hh; simp at hh)), up_n (gNe hd hL (by intro hh; simp at hh))]; exact hd) _
    refine ⟨rfl, ⟨tg, _, d, ⟨hL9, ht0, by omega, hq2, Or.inr ⟨hq0, _, hd9, ?_⟩, fun y hy => hk9.obj (ho y (List.mem_append_left _ hy))⟩⟩, ?_, hk9, rfl⟩
    · intro j y hj
      have hj1 : j < xs.length := (List.getElem?_eq_some_iff.mp hj).1
      rw [iI_clamp (by omega), Int.toNat_natCast, up_n (by omega)]
      exact hg j y (by rw [List.getElem?_append_left hj1]; exact hj)
    · rw [eh9, eh2, eh1]
      exact (((gExt.refl _ _).upL _).upL _).upA (by rw [up_n (gNe hd hL (by intro hh; simp at hh)), up_n (gNe hd hL (by intro hh; simp at hh))]; exact hd) (ht0.2 hq0) _
  · exfalso; omega

set_option maxHeartbeats 4000000 in
/-- the last of a list is taken off -/
theorem al_remove (l : Launch) (G : gEnv) (A : Nat → Prop) (lv : Nat) (h : gH) (n : Nat) (L : Nat) (xs : List Nat) (q x : Nat) (hlv : 3 ≤ lv) (hA : AL G h L (xs ++ [x]) q) : gC l yJ2_remove cJ2_remove 4 (some (FieldType.object "java/lang/Object")) G A lv 0 0 [.ref L, .int (iI ((xs.length : Int)))] h n (fun v h' n' => v = some (.ref x) ∧ AL G h' L xs q ∧ gExt L h h' ∧ gCls h h' ∧ n' = n) := by
  refine gC_ofA (Or.inl ⟨_, rfl⟩) RJ2 (by decide +kernel) rfl (Nat.le_of_ble_eq_true rfl) ?_
  intro p e s m args below meth c Q X hW ret H locs ls hG hS hl
  have hl : lv_has ls 4 [(0, .ref L), (1, .int (iI ((xs.length : Int))))] := hl
  obtain ⟨tg, mo, d, hL, ht0, hlq, hq2, hd, ho⟩ := hA
  have hlen : ((xs ++ [x]).length : Int) = (xs.length : Int) + 1 := by simp
  obtain ⟨hq0, g, hd, hg⟩ : 0 < q ∧ ∃ g : Nat → Option Nat, h d = some ((0, L), .inl (G.2.1 4, alCap q, .inr (.inr (.inr (.inr g))))) ∧ ∀ (j z : Nat), (xs ++ [x])[j]? = some z → g j = some z := by
    rcases hd with hd | hd
    · exfalso; rw [hd.1] at hlq; omega
    · exact hd
  have hgx : g xs.length = some x := hg xs.length x (by rw [List.getElem?_append_right (Nat.le_refl _), Nat.sub_self]; rfl)
  have hc1 := (alCap_ge q).1
  have hc2 := alCap_le q
  refine lv_iload_n X.1 X.2.1 dJ2_remove_0 rfl (lv_at hl 1 rfl) ?_
  refine lv_aload_n X.1 X.2.1 dJ2_remove_1 rfl (lv_at hl 0 rfl) ?_
  refine n_get (ci := 17) X in_J2 hW hG hL rfl 2 (by decide) q123 (fun _ h => h) rfl dJ2_remove_2 ?_
  refine g_callS (rest := []) (k := 2) X hW hG hS (gm_checkIndex l G A (lv - 1) h n ((xs.length : Int)) (((xs ++ [x]).length : Int)) (by omega) (by omega) (by omega)) (lw_S q694 q695 q95 q696) (by decide +kernel) rfl ⟨by show (lv - 1) + 1 ≤ lv; omega, by show 8 + (2 + 11) + 40 * (lv - 1) ≤ 40 * lv; omega⟩ ⟨by show 0 + 0 ≤ 0; omega, by show 0 + 0 ≤ 0; omega⟩ hl.1 rfl (Nat.le_of_ble_eq_true rfl) dJ2_remove_5 (g_pk (fun H locs hG hS => ?_))
  show W p l e (gR lv 0 0) s m args below meth c H locs 0 0 Q (F0 m 8 ls [.int (iI (((xs.length : Int))))])
  refine lv_pop X.1 X.2.1 dJ2_remove_8 rfl ?_
  refine lv_aload_n X.1 X.2.1 dJ2_remove_9 rfl (lv_at hl 0 rfl) ?_
  refine n_get (ci := 17) X in_J2 hW hG hL rfl 1 (by decide) q122 (fun _ h => h) rfl dJ2_remove_10 ?_
  refine lv_astore_n (lv' := [(2, .ref d), (0, .ref L), (1, .int (iI ((xs.length : Int))))]) X.1 X.2.1 dJ2_remove_13 rfl hl (by decide) rfl (fun ls hl => ?_)
  refine lv_aload_n X.1 X.2.1 dJ2_remove_14 rfl (lv_at hl 0 rfl) ?_
  refine lv_iload_n X.1 X.2.1 dJ2_remove_15 rfl (lv_at hl 2 rfl) ?_
  refine n_aald X hW hG 4 hd rfl (iI_in ⟨by omega, by omega⟩ (by omega)) dJ2_remove_16 ?_
  rw [iI_clamp (by omega), Int.toNat_natCast, hgx]
  show W p l e (gR lv 0 0) s m args below meth c H locs 0 0 Q (F0 m 17 ls [.ref x])
  refine lv_astore_n (lv' := [(3, .ref x), (2, .ref d), (0, .ref L), (1, .int (iI ((xs.length : Int))))]) X.1 X.2.1 dJ2_remove_17 rfl hl (by decide) rfl (fun ls hl => ?_)
  refine lv_aload_n X.1 X.2.1 dJ2_remove_18 rfl (lv_at hl 2 rfl) ?_
  refine lv_aload_n X.1 X.2.1 dJ2_remove_19 rfl (lv_at hl 1 rfl) ?_
  refine lv_iload_n X.1 X.2.1 dJ2_remove_20 rfl (lv_at hl 3 rfl) ?_
  refine g_callV (ci := 17) (rest := []) (k := 2) X hW hG hS hL rfl (al_fastRemove l G A (lv - 1) h n L xs q x tg mo d ⟨hL, ht0, hlq, hq2, Or.inr ⟨hq0, g, hd, hg⟩, ho⟩) (lw_V q1131 q1133 qs24 q69 q1134) (by decide +kernel) rfl ⟨by show (lv - 1) + 1 ≤ lv; omega, by show 8 + (4 + 11) + 40 * (lv - 1) ≤ 40 * lv; omega⟩ ⟨by show 0 + 0 ≤ 0; omega, by show 0 + 0 ≤ 0; omega⟩ hl.1 rfl (Nat.le_of_ble_eq_true rfl) dJ2_remove_21 (fun v1 h1 n1 H locs hp1 hG hS => ?_)
  obtain ⟨rfl, hA9, hx9, hk9, hn9⟩ := hp1
  rw [hn9] at hG
  show W p l e (gR lv 0 0) s m args below meth c H locs 0 0 Q (F0 m 24 ls [])
  refine lv_aload_n X.1 X.2.1 dJ2_remove_24 rfl (lv_at hl 0 rfl) ?_
  refine ret _ _ _ _ _ _ _ _ _ ?_ (Or.inr ⟨_, rfl⟩) (by show 0 ≤ 0; omega) (by show 0 ≤ 0; omega) hG hS dJ2_remove_25
  exact ⟨rfl, hA9, hx9, hk9, rfl⟩

set_option maxHeartbeats 4000000 in
/-- a list is emptied -/
theorem al_clear (l : Launch) (G : gEnv) (A : Nat → Prop) (lv : Nat) (h : gH) (n : Nat) (L : Nat) (xs : List Nat) (q : Nat) (hA : AL G h L xs q) : gC l yJ2_clear cJ2_clear 4 none G A lv 0 0 [.ref L] h n (fun v h' n' => v = none ∧ AL G h' L [] q ∧ gExt L h h' ∧ gCls h h' ∧ n' = n) := by
  refine gC_ofV RJ2 (by decide +kernel) rfl (Nat.le_of_ble_eq_true rfl) ?_
  intro p e s m args below meth c Q X hinit hW ret H locs ls hG hS hl
  have hl : lv_has ls 4 [(0, .ref L)] := hl
  obtain ⟨tg, mo, d, hL, ht0, hlq, hq2, hd, ho⟩ := hA
  have hc1 := (alCap_ge q).1
  have hc2 := alCap_le q
  refine lv_aload_n X.1 X.2.1 dJ2_clear_0 rfl (lv_at hl 0 rfl) ?_
  refine lv_dup X.1 X.2.1 dJ2_clear_1 rfl ?_
  refine n_get (ci := 17) X in_J2 hW hG hL rfl 0 (by decide) q125 (fun x hx => u_same (X.2.2.2.2 _ q126) x hx) rfl dJ2_clear_2 ?_
  refine lv_iconst (v := iI (1)) X.1 X.2.1 dJ2_clear_5 rfl ?_
  refine i_add X dJ2_clear_6 ?_
  refine n_put (ci := 17) X in_J2 tyJ2 tyJ2_ok nmJ2 hW hG hS hL rfl 0 (by decide) q125 (fun x hx => u_same (X.2.2.2.2 _ q126) x hx) rfl rfl rfl (Nat.le_of_ble_eq_true rfl) (fs' := [.int (iI (mo + 1)), .ref d, .int (iI ((xs.length : Int)))]) rfl dJ2_clear_7 (fun H locs hG hS => ?_)
  obtain ⟨h1, eh1⟩ : ∃ hz, hz = va_up h L (some (tg, .inr (17, [.int (iI (mo + 1)), .ref d, .int (iI ((xs.length : Int)))]))) := ⟨_, rfl⟩
  rw [← eh1] at hG
  have f1_L : h1 L = some (tg, .inr (17, [.int (iI (mo + 1)), .ref d, .int (iI ((xs.length : Int)))])) := by rw [eh1]; exact up_s _ _ _
  refine lv_aload_n X.1 X.2.1 dJ2_clear_10 rfl (lv_at hl 0 rfl) ?_
  refine n_get (ci := 17) X in_J2 hW hG f1_L rfl 1 (by decide) q122 (fun _ h => h) rfl dJ2_clear_11 ?_
  refine lv_astore_n (lv' := [(1, .ref d), (0, .ref L)]) X.1 X.2.1 dJ2_clear_14 rfl hl (by decide) rfl (fun ls hl => ?_)
  refine lv_aload_n X.1 X.2.1 dJ2_clear_15 rfl (lv_at hl 1 rfl) ?_
  refine n_get (ci := 17) X in_J2 hW hG f1_L rfl 2 (by decide) q123 (fun _ h => h) rfl dJ2_clear_16 ?_
  refine lv_istore_n (lv' := [(2, .int (iI ((xs.length : Int)))), (1, .ref d), (0, .ref L)]) X.1 X.2.1 dJ2_clear_19 rfl hl (by decide) rfl (fun ls hl => ?_)
  refine lv_aload_n X.1 X.2.1 dJ2_clear_20 rfl (lv_at hl 2 rfl) ?_
  refine lv_iconst (v := iI (0)) X.1 X.2.1 dJ2_clear_21 rfl ?_
  refine lv_dup_x1 X.1 X.2.1 dJ2_clear_22 rfl rfl ?_
  refine n_put (ci := 17) X in_J2 tyJ2 tyJ2_ok nmJ2 hW hG hS f1_L rfl 2 (by decide) q123 (fun _ h => h) rfl rfl rfl (Nat.le_of_ble_eq_true rfl) (fs' := [.int (iI (mo + 1)), .ref d, .int (iI (0))]) rfl dJ2_clear_23 (fun H locs hG hS => ?_)
  obtain ⟨h2, eh2⟩ : ∃ hz, hz = va_up h1 L (some (tg, .inr (17, [.int (iI (mo + 1)), .ref d, .int (iI (0))]))) := ⟨_, rfl⟩
  rw [← eh2] at hG
  have f2_L : h2 L = some (tg, .inr (17, [.int (iI (mo + 1)), .ref d, .int (iI (0))])) := by rw [eh2]; exact up_s _ _ _
  refine lv_istore_n (lv' := [(3, .int (iI (0))), (2, .int (iI ((xs.length : Int)))), (1, .ref d), (0, .ref L)]) X.1 X.2.1 dJ2_clear_26 rfl hl (by decide) rfl (fun ls hl => ?_)
  have L27 : ∀ (N27 : Nat) (i : Nat) (h' : gH), (i ≤ xs.length) → (h' L = some (tg, .inr (17, [.int (iI (mo + 1)), .ref d, .int (iI 0)]))) → ((q = 0 ∧ d = G.2.2.1 0) ∨ (0 < q ∧ ∃ g : Nat → Option Nat, h' d = some ((0, L), .inl (G.2.1 4, alCap q, .inr (.inr (.inr (.inr g))))))) → (gExt L h h') → (gCls h h') → xs.length - i < N27 → ∀ (H : Heap) (locs : List Loc) (ls : Array Slot), gOn G.1 A h' n H → va_S A s.heap H locs → lv_has ls 4 [(0, .ref L), (1, .ref d), (2, .int (iI ((xs.length : Int)))), (3, .int (iI ((i : Int))))] → W p l e (gR lv 0 0) s m args below meth c H locs 0 0 Q (F0 m 27 ls []) := by
    intro N27
    induction N27 with
    | zero => intro i h' hi hL' hd' hx' hk' hN; exact absurd hN (Nat.not_lt_zero _)
    | succ N27 ih27 =>
      intro i h' hi hL' hd' hx' hk' hN27 H locs ls hG hS hl
      refine lv_iload_n X.1 X.2.1 dJ2_clear_27 rfl (lv_at hl 3 rfl) ?_
      refine lv_iload_n X.1 X.2.1 dJ2_clear_28 rfl (lv_at hl 2 rfl) ?_
      refine i_icmp_ge X 42 dJ2_clear_29 (by decide) (by omega) (by omega) (fun c29 => ?_) (fun c29 => ?_)
      · refine ret _ _ _ _ _ _ _ _ ?_ (by show 0 ≤ 0; omega) (by show 0 ≤ 0; omega) hG hS dJ2_clear_42
        exact ⟨rfl, ⟨tg, _, d, ⟨hL', ht0, Nat.zero_le _, hq2, hd'.imp id (fun z => ⟨z.1, z.2.imp (fun g hg => ⟨hg, fun j x hj => by cases hj⟩)⟩), fun x hx => by cases hx⟩⟩, hx', hk', rfl⟩
      · refine lv_aload_n X.1 X.2.1 dJ2_clear_32 rfl (lv_at hl 1 rfl) ?_
        refine lv_iload_n X.1 X.2.1 dJ2_clear_33 rfl (lv_at hl 3 rfl) ?_
        refine lv_null X.1 X.2.1 dJ2_clear_34 ?_
        obtain ⟨hq0, g, hdq⟩ : 0 < q ∧ ∃ g : Nat → Option Nat, h' d = some ((0, L), .inl (G.2.1 4, alCap q, .inr (.inr (.inr (.inr g))))) := by
          rcases hd' with z9 | z9
          · rw [z9.1] at hlq; omega
          · exact z9
        refine n_aastN X hW hG hS 4 hdq rfl (iI_in ⟨by omega, by omega⟩ (by omega)) dJ2_clear_35 (fun H locs hG hS => ?_)
        obtain ⟨h9, eh9⟩ : ∃ hz, hz = va_up h' d (some ((0, L), .inl (G.2.1 4, alCap q, .inr (.inr (.inr (.inr (va_up g (iI (i : Int)).toNatClampNeg none))))))) := ⟨_, rfl⟩
        rw [← eh9] at hG
        have hL9 : h9 L = some (tg, .inr (17, [.int (iI (mo + 1)), .ref d, .int (iI 0)])) := by rw [eh9, up_n (gNe hL' hdq (by intro hh; simp at hh))]; exact hL'
        have hd9 : h9 d = some ((0, L), .inl (G.2.1 4, alCap q, .inr (.inr (.inr (.inr (va_up g (iI (i : Int)).toNatClampNeg none)))))) := by rw [eh9]; exact up_s _ _ _
        refine i_inc (lv' := [(3, .int (iI ((i : Int) + 1))), (0, .ref L), (1, .ref d), (2, .int (iI ((xs.length : Int))))]) X dJ2_clear_36 hl (k := 3) rfl (by decide) rfl (fun ls hl => ?_)
        refine lv_goto (tgt := 27) X.1 X.2.1 dJ2_clear_39 (by decide) ?_
        exact ih27 (i + 1) h9 (by omega) hL9 (Or.inr ⟨hq0, _, hd9⟩) (by rw [eh9]; exact hx'.upA hdq (ht0.2 hq0) _) (by rw [eh9]; exact hk'.upA hdq _) (by omega) H locs ls hG hS (lv_sub hl [1, 2, 3, 0] rfl)
  exact L27 _ 0 h2 (Nat.zero_le _) f2_L (by rcases hd with hd | ⟨b1, g, b2, -⟩; (exact Or.inl hd); (refine Or.inr ⟨b1, g, ?_⟩; rw [eh2, eh1, up_n (gNe b2 hL (by intro hh; simp at hh)), up_n (gNe b2 hL (by intro hh; simp at hh))]; exact b2)) (by rw [eh2, eh1]; exact ((gExt.refl _ _).upL _).upL _) (by rw [eh2, eh1]; exact ((gCls.refl _).upO hL _).upO (up_s _ _ _) _) (Nat.lt_succ_self _) H locs ls hG hS (lv_sub hl [3, 2, 1, 0] rfl)

