/-! ===== the Glass' object with its arrays ===== -/
set_option maxRecDepth 100000
abbrev gRA (G : gEnv) (f : Nat → Option Nat) : gE := ((4, 3), .inl (G.2.1 5, 500, .inr (.inr (.inr (.inr f)))))
/-- the Glass' own cells -/
def GXA (G : gEnv) (h : gH) (x0 : Nat) (S : MSt) (rv tv : Value) (fr : Nat → Option Nat) (f4 f5 f6 f7 : Int → Int) : Prop :=
  GOB h x0 S rv tv ∧ h (x0 + 1) = some (gBA G (4, 1) 500 (S.2 0)) ∧ h (x0 + 3) = some (gRA G fr) ∧ h (x0 + 4) = some (gIA G (4, 4) 500 f4) ∧ h (x0 + 5) = some (gIA G (4, 5) 500 f5) ∧ h (x0 + 6) = some (gLA G (4, 6) 500 f6) ∧ h (x0 + 7) = some (gIA G (4, 7) 500 f7)
theorem GXA.x8 {G : gEnv} {h : gH} {x0 : Nat} {S : MSt} {rv tv : Value} {fr : Nat → Option Nat} {f4 f5 f6 f7 : Int → Int} (hA : GXA G h x0 S rv tv fr f4 f5 f6 f7) : gX8 h x0 := by
  obtain ⟨h0, h1, h3, h4, h5, h6, h7⟩ := hA
  intro a ha
  obtain ⟨a1, a2, a3⟩ := ha
  rcases (show a = x0 ∨ a = x0 + 1 ∨ a = x0 + 3 ∨ a = x0 + 4 ∨ a = x0 + 5 ∨ a = x0 + 6 ∨ a = x0 + 7 by omega) with rfl | rfl | rfl | rfl | rfl | rfl | rfl
  · exact ⟨_, _, h0, fun fs q => by cases q⟩
  · exact ⟨_, _, h1, fun fs q => by cases q⟩
  · exact ⟨_, _, h3, fun fs q => by cases q⟩
  · exact ⟨_, _, h4, fun fs q => by cases q⟩
  · exact ⟨_, _, h5, fun fs q => by cases q⟩
  · exact ⟨_, _, h6, fun fs q => by cases q⟩
  · exact ⟨_, _, h7, fun fs q => by cases q⟩
theorem gFrm.refl (P : Nat → Prop) (h : gH) : gFrm P h h := ⟨fun _ _ _ e _ => e, fun _ _ _ fs e => ⟨fs, e⟩⟩
theorem gFrm.trans {P : Nat → Prop} {h h1 h2 : gH} (a : gFrm P h h1) (b : gFrm P h1 h2) : gFrm P h h2 :=
  ⟨fun x t e he hp => b.1 x t e (a.1 x t e he hp) hp, fun x t ci fs he => by obtain ⟨fs1, h1⟩ := a.2 x t ci fs he; exact b.2 x t ci fs1 h1⟩
theorem gFrm.upO {P : Nat → Prop} {h h1 : gH} (hf : gFrm P h h1) {a : Nat} {t : gT} {ci : Nat} {fs : List Value} (he : h1 a = some (t, .inr (ci, fs))) (hp : P a) (fs' : List Value) : gFrm P h (va_up h1 a (some (t, .inr (ci, fs')))) := by
  refine hf.trans ⟨fun x t' e he' hx => ?_, fun x t' ci' fs2 he' => ?_⟩
  · rw [up_n (fun q => hx (by rw [q]; exact hp))]; exact he'
  · by_cases hx : x = a
    · rw [hx] at he' ⊢
      rw [he] at he'
      cases he'
      exact ⟨fs', up_s _ _ _⟩
    · exact ⟨fs2, by rw [up_n hx]; exact he'⟩
theorem gFrm.upA {P : Nat → Prop} {h h1 : gH} (hf : gFrm P h h1) {a : Nat} {t : gT} {x0 : ClassId × vp_A} (he : h1 a = some (t, .inl x0)) (hp : P a) (y : Option gE) : gFrm P h (va_up h1 a y) := by
  refine hf.trans ⟨fun x t' e he' hx => ?_, fun x t' ci' fs2 he' => ?_⟩
  · rw [up_n (fun q => hx (by rw [q]; exact hp))]; exact he'
  · by_cases hx : x = a
    · rw [hx, he] at he'
      cases he'
    · exact ⟨fs2, by rw [up_n hx]; exact he'⟩
