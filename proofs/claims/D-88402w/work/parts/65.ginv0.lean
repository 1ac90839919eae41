/-! ===== the Glass' own object: fields, row, arrays ===== -/
set_option maxRecDepth 100000
/-- an array of ints, of longs, of bytes -/
abbrev gIA (G : gEnv) (tg : gT) (N : Nat) (f : Int → Int) : gE := (tg, .inl (G.2.1 0, N, .inl (fun j : Nat => iI (f (j : Int)))))
abbrev gLA (G : gEnv) (tg : gT) (N : Nat) (f : Int → Int) : gE := (tg, .inl (G.2.1 1, N, .inr (.inl (fun j : Nat => lI (f (j : Int))))))
abbrev gBA (G : gEnv) (tg : gT) (N : Nat) (f : Int → Int) : gE := (tg, .inl (G.2.1 2, N, .inl (fun j : Nat => iI (f (j : Int)))))
/-- THE GLASS' OBJECT against the Model's state: rv its rules, tv its term -/
def gOv (x0 : Nat) (S : MSt) (rv tv : Value) : List Value := [.ref (x0 + 1), .int (iI (S.1 1)), .int (iI (S.1 28)), rv, tv, .ref (x0 + 2), .int (iI (S.1 66)), .int (iI (S.1 53)), .ref (x0 + 3), .int (iI (S.1 40)), .int (iI (if S.1 78 = 0 then -9 else S.1 79)), .ref (x0 + 4), .ref (x0 + 5), .ref (x0 + 6), .ref (x0 + 7)]
def GOB (h : gH) (x0 : Nat) (S : MSt) (rv tv : Value) : Prop := h x0 = some ((4, 0), .inr (0, gOv x0 S rv tv))
/-- the row of items, as they were numbered last -/
def ROW (G : gEnv) (h : gH) (x0 : Nat) (S : MSt) (ad : Int → Nat) : Prop := ∃ f : Nat → Option Nat, h (x0 + 3) = some ((4, 3), .inl (G.2.1 5, 500, .inr (.inr (.inr (.inr f))))) ∧ ∀ k : Nat, (k : Int) < S.1 40 → f k = some (ad k)
/-- there is a program -/
def GX (G : gEnv) (h : gH) (x0 : Nat) (S : MSt) (ad : Int → Nat) (rl : Nat) (ru : Nat → Nat) (ap : Int → Nat) : Prop := GOB h x0 S (.ref rl) (.ref (ad 0)) ∧ ROW G h x0 S ad ∧ LV G h S ad ∧ RUL G h S rl ru ap
theorem up_ext {f g : Nat → Int32} (h : ∀ j, f j = g j) : f = g := funext h
section ARROWS
variable {p : Program} {l : Launch} {e : Env} {R : Room} {s : State} {m : MethodId} {args : Array Value} {below : List Frame} {meth : Method} {c : Code} {H : Heap} {locs : List Loc} {cells slots : Nat} {Q : State → Prop}
variable {cc : ByteArray} {pc nL : Nat} {ls : Array Slot} {rest : List Value} {G : gEnv} {A : Nat → Prop} {a n : Nat} {h : gH} {own : String} {tg : gT} {N : Nat} {f : Int → Int} {z x : Int}
theorem n_ia (X : CallFix p m c cc nL s args lw_all own) (hW : gWd G A s) (hG : gOn G.1 A h n H) (he : h a = some (gIA G tg N f)) (hz : 0 ≤ z ∧ z < N) (hN : N < 2147483648) (hdg : decode cc pc = .ok (.iaload, 1))
    (kk : W p l e R s m args below meth c H locs cells slots Q (F0 m (pc + 1) ls (.int (iI (f z)) :: rest))) : W p l e R s m args below meth c H locs cells slots Q (F0 m pc ls (.int (iI z) :: .ref a :: rest)) := by
  refine n_iald X hW hG he (iI_in hz hN) hdg ?_
  rw [iI_clamp ⟨hz.1, by omega⟩, show ((z.toNat : Nat) : Int) = z by omega]
  exact kk
theorem n_la (X : CallFix p m c cc nL s args lw_all own) (hW : gWd G A s) (hG : gOn G.1 A h n H) (he : h a = some (gLA G tg N f)) (hz : 0 ≤ z ∧ z < N) (hN : N < 2147483648) (hdg : decode cc pc = .ok (.laload, 1))
    (kk : W p l e R s m args below meth c H locs cells slots Q (F0 m (pc + 1) ls (.long (lI (f z)) :: rest))) : W p l e R s m args below meth c H locs cells slots Q (F0 m pc ls (.int (iI z) :: .ref a :: rest)) := by
  refine n_lald X hW hG he (iI_in hz hN) hdg ?_
  rw [iI_clamp ⟨hz.1, by omega⟩, show ((z.toNat : Nat) : Int) = z by omega]
  exact kk
theorem n_ba (X : CallFix p m c cc nL s args lw_all own) (hW : gWd G A s) (hG : gOn G.1 A h n H) (he : h a = some (gBA G tg N f)) (hz : 0 ≤ z ∧ z < N) (hN : N < 2147483648) (hdg : decode cc pc = .ok (.baload, 1))
    (kk : W p l e R s m args below meth c H locs cells slots Q (F0 m (pc + 1) ls (.int (iI (f z)) :: rest))) : W p l e R s m args below meth c H locs cells slots Q (F0 m pc ls (.int (iI z) :: .ref a :: rest)) := by
  refine n_bald X hW hG he (iI_in hz hN) hdg ?_
  rw [iI_clamp ⟨hz.1, by omega⟩, show ((z.toNat : Nat) : Int) = z by omega]
  exact kk
theorem n_ias (X : CallFix p m c cc nL s args lw_all own) (hW : gWd G A s) (hG : gOn G.1 A h n H) (hS : va_S A s.heap H locs) (he : h a = some (gIA G tg N f)) (hz : 0 ≤ z ∧ z < N) (hN : N < 2147483648) (hdg : decode cc pc = .ok (.iastore, 1))
    (kk : ∀ (H1 : Heap) (locs1 : List Loc), gOn G.1 A (va_up h a (some (gIA G tg N (upI f z x)))) n H1 → va_S A s.heap H1 locs1 → W p l e R s m args below meth c H1 locs1 cells slots Q (F0 m (pc + 1) ls rest)) : W p l e R s m args below meth c H locs cells slots Q (F0 m pc ls (.int (iI x) :: .int (iI z) :: .ref a :: rest)) := by
  refine n_iast X hW hG hS he (iI_in hz hN) hdg (fun H1 locs1 h1 h2 => kk H1 locs1 ?_ h2)
  rw [show upd (fun j : Nat => iI (f (j : Int))) (iI z).toNatClampNeg (iI x) = (fun j : Nat => iI (upI f z x (j : Int))) from ?_] at h1
  · exact h1
  · rw [iI_clamp ⟨hz.1, by omega⟩]
    funext j
    unfold upd upI
    by_cases hj : j = z.toNat
    · rw [if_pos hj, if_pos (by omega)]
    · rw [if_neg hj, if_neg (by omega)]
theorem n_las (X : CallFix p m c cc nL s args lw_all own) (hW : gWd G A s) (hG : gOn G.1 A h n H) (hS : va_S A s.heap H locs) (he : h a = some (gLA G tg N f)) (hz : 0 ≤ z ∧ z < N) (hN : N < 2147483648) (hdg : decode cc pc = .ok (.lastore, 1))
    (kk : ∀ (H1 : Heap) (locs1 : List Loc), gOn G.1 A (va_up h a (some (gLA G tg N (upI f z x)))) n H1 → va_S A s.heap H1 locs1 → W p l e R s m args below meth c H1 locs1 cells slots Q (F0 m (pc + 1) ls rest)) : W p l e R s m args below meth c H locs cells slots Q (F0 m pc ls (.long (lI x) :: .int (iI z) :: .ref a :: rest)) := by
  refine n_last X hW hG hS he (iI_in hz hN) hdg (fun H1 locs1 h1 h2 => kk H1 locs1 ?_ h2)
  rw [show vp_updL (fun j : Nat => lI (f (j : Int))) (iI z).toNatClampNeg (lI x) = (fun j : Nat => lI (upI f z x (j : Int))) from ?_] at h1
  · exact h1
  · rw [iI_clamp ⟨hz.1, by omega⟩]
    funext j
    unfold vp_updL upI
    by_cases hj : j = z.toNat
    · rw [if_pos hj, if_pos (by omega)]
    · rw [if_neg hj, if_neg (by omega)]
theorem n_row (X : CallFix p m c cc nL s args lw_all own) (hW : gWd G A s) (hG : gOn G.1 A h n H) {x0 : Nat} {S : MSt} {ad : Int → Nat} (hr : ROW G h x0 S ad) {i : Int} (h0 : 0 ≤ i) (hn : i < S.1 40) (h5 : S.1 40 ≤ 500) (hdg : decode cc pc = .ok (.aaload, 1))
    (kk : W p l e R s m args below meth c H locs cells slots Q (F0 m (pc + 1) ls (.ref (ad i) :: rest))) : W p l e R s m args below meth c H locs cells slots Q (F0 m pc ls (.int (iI i) :: .ref (x0 + 3) :: rest)) := by
  obtain ⟨f, h1, h2⟩ := hr
  refine n_aald X hW hG 5 h1 rfl (iI_in (n := 500) (by omega) (by omega)) hdg ?_
  rw [iI_clamp ⟨h0, by omega⟩, h2 i.toNat (by omega), show ((i.toNat : Nat) : Int) = i by omega]
  exact kk
end ARROWS
/-- nothing changes but the Glass' own object and its arrays -/
def gXP (x0 : Nat) (a : Nat) : Prop := x0 ≤ a ∧ a ≤ x0 + 7 ∧ a ≠ x0 + 2
def gX8 (h : gH) (x0 : Nat) : Prop := ∀ a, gXP x0 a → ∃ (k : Nat) (e : va_E), h a = some ((4, k), e) ∧ ∀ fs, e ≠ .inr (17, fs)
theorem AL.fx {G : gEnv} {h h' : gH} {x0 L q : Nat} {xs : List Nat} (hA : AL G h L xs q) (h8 : gX8 h x0) (hf : gFrm (gXP x0) h h') : AL G h' L xs q := by
  obtain ⟨t, fs, e, -⟩ := hA.cell
  refine hA.frm hf (fun z => ?_) (fun a x he z => ?_)
  · obtain ⟨k, e', g1, g2⟩ := h8 L z
    rw [e] at g1
    cases g1
    exact g2 _ rfl
  · obtain ⟨k, e', g1, -⟩ := h8 a z
    rw [he] at g1
    cases g1
theorem gFrm.fx {h h' : gH} {x0 a : Nat} {t : gT} {e : va_E} (hf : gFrm (gXP x0) h h') (h8 : gX8 h x0) (he : h a = some (t, e)) (ht : t.1 ≠ 4) : h' a = some (t, e) := by
  refine hf.1 _ _ _ he (fun z => ?_)
  obtain ⟨k, e', g1, -⟩ := h8 a z
  rw [he] at g1
  cases g1
  exact ht rfl
theorem LV.fx {G : gEnv} {h h' : gH} {x0 : Nat} {S : MSt} {ad : Int → Nat} (hV : LV G h S ad) (h8 : gX8 h x0) (hf : gFrm (gXP x0) h h') : LV G h' S ad :=
  ⟨hV.1, fun i a b => ⟨hf.fx h8 (hV.2.1 i a b).1 (by decide), fun w => ((hV.2.1 i a b).2 w).fx h8 hf⟩, hV.2.2⟩
theorem RUL.fx {G : gEnv} {h h' : gH} {x0 : Nat} {S : MSt} {rl : Nat} {ru : Nat → Nat} {ap : Int → Nat} (hR : RUL G h S rl ru ap) (h8 : gX8 h x0) (hf : gFrm (gXP x0) h h') : RUL G h' S rl ru ap :=
  ⟨hR.1, hR.2.1.fx h8 hf, fun r hr => ⟨hf.fx h8 (hR.2.2 r hr).1 (by decide), (hR.2.2 r hr).2.1, fun p a b => ⟨by
    obtain ⟨pl, h1, h2⟩ := ((hR.2.2 r hr).2.2.1 p a b).1
    exact ⟨pl, h1, hf.fx h8 h2 (by decide)⟩, fun w => (((hR.2.2 r hr).2.2.1 p a b).2 w).fx h8 hf⟩, (hR.2.2 r hr).2.2.2⟩⟩
