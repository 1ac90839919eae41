/-! ===== copies of items: pure part ===== -/
set_option maxRecDepth 100000
/-- what is old stays, but at P -/
def gFrm (P : Nat → Prop) (h h' : gH) : Prop := (∀ (a : Nat) (t : gT) (e : va_E), h a = some (t, e) → ¬ P a → h' a = some (t, e)) ∧ gCls h h'
theorem AL.frm {G : gEnv} {h h' : gH} {P : Nat → Prop} {M q : Nat} {xs : List Nat} (hA : AL G h M xs q) (hf : gFrm P h h') (h1 : ¬ P M) (h2 : ∀ (a : Nat) (e : va_E), h a = some ((0, M), e) → ¬ P a) : AL G h' M xs q := by
  obtain ⟨tg, mo, d, a1, -⟩ := id hA
  exact hA.keep (by rw [a1]; exact hf.1 _ _ _ a1 h1) (fun a e x => hf.1 _ _ _ x (h2 a e x)) hf.2
theorem IT.frm {G : gEnv} {h h' : gH} {P : Nat → Prop} {R : FF} {ad : Int → Nat} {tg : gT} {inp : Value} {num i : Int} (hI : IT G h R ad tg inp num i) (hf : gFrm P h h') (h0 : ¬ P (ad i)) (h1 : 2 ≤ R 0 i → ¬ P (ad i + 1)) (h2 : 2 ≤ R 0 i → ∀ (a : Nat) (e : va_E), h a = some ((0, ad i + 1), e) → ¬ P a) : IT G h' R ad tg inp num i :=
  ⟨hf.1 _ _ _ hI.1 h0, fun w => (hI.2 w).frm hf (h1 w) (h2 w)⟩
theorem AL.cell {G : gEnv} {h : gH} {M q : Nat} {xs : List Nat} (hA : AL G h M xs q) : ∃ (t : gT) (fs : List Value), h M = some (t, .inr (17, fs)) ∧ t.1 ≠ 0 := by
  obtain ⟨tg, mo, d, a1, a0, -⟩ := hA
  exact ⟨tg, _, a1, a0.1⟩
theorem IT.ne17 {G : gEnv} {h : gH} {R : FF} {ad : Int → Nat} {tg : gT} {inp : Value} {num i : Int} (hI : IT G h R ad tg inp num i) {M : Nat} {t : gT} {fs : List Value} (hM : h M = some (t, .inr (17, fs))) : ad i ≠ M :=
  gNe hI.1 hM (fun hh => itE_ne17 (Prod.mk.inj hh).2)
theorem ADDED.frm {G : gEnv} {h h' : gH} {L q b : Nat} {xs : List Nat} {tg : gT} {x : va_E} (hD : ADDED G h h' L xs q b tg x) : gFrm (fun a => a = b ∨ a = L + 1 ∨ (L + 1 < a ∧ ∃ e, h a = some ((0, L + 1), e))) h h' := by
  refine ⟨fun a t e he hp => ?_, hD.2.2.2⟩
  simp only [not_or, not_and, not_exists] at hp
  refine hD.2.2.1 a t e he hp.1 hp.2.1 ?_
  by_cases ht : t = (0, L + 1)
  · rw [ht] at he
    rcases Nat.lt_or_ge a (L + 1) with z | z
    · exact Or.inr z
    · exact absurd he (hp.2.2 (by omega) e)
  · exact Or.inl ht
theorem ADDED.it {G : gEnv} {h h' : gH} {L q b : Nat} {xs : List Nat} {tg : gT} {x x0 : va_E} (hD : ADDED G h h' L xs q b tg x) (hA : AL G h (L + 1) xs q) (hb : h b = some (tg, x0)) (hbi : ∀ fs, x0 ≠ .inr (17, fs)) (htg : tg.1 ≠ 0) {R : FF} {ad : Int → Nat} {t : gT} {inp : Value} {num i : Int} (hI : IT G h R ad t inp num i) (ht : t.1 ≠ 0) (h1 : ad i ≠ b) (h2 : ad i ≠ L) : IT G h' R ad t inp num i := by
  obtain ⟨tA, fA, eA, nA⟩ := hA.cell
  refine hI.frm hD.frm ?_ (fun w => ?_) (fun w a e he => ?_)
  · rintro (z | z | ⟨z, e, z2⟩)
    · exact h1 z
    · exact hI.ne17 eA z
    · rw [hI.1] at z2; cases z2; exact ht rfl
  · obtain ⟨tM, fM, eM, nM⟩ := (hI.2 w).cell
    rintro (z | z | ⟨z, e, z2⟩)
    · rw [z, hb] at eM; cases eM; exact hbi _ rfl
    · omega
    · rw [eM] at z2; cases z2; exact nM rfl
  · rintro (z | z | ⟨z, e2, z2⟩)
    · rw [z, hb] at he; cases he; exact htg rfl
    · rw [z, eA] at he; cases he; exact nA rfl
    · rw [he] at z2; cases z2; omega
/-- the same by other addresses -/
theorem IT.adc {G : gEnv} {h : gH} {R : FF} {ad ad' : Int → Nat} {tg : gT} {inp : Value} {num i : Int} (hI : IT G h R ad tg inp num i) (h1 : ad' i = ad i) (h2 : 2 ≤ R 0 i → ∀ j : Nat, (j : Int) < R 6 i → ad' (chh (R 5) i j) = ad (chh (R 5) i j)) : IT G h R ad' tg inp num i := by
  refine ⟨by rw [h1]; exact hI.1, fun w => ?_⟩
  have : chs R ad' i = chs R ad i := by
    unfold chs
    apply List.map_congr_left
    intro j hj
    have := List.mem_range.mp hj
    exact h2 w j (by omega)
  rw [this, h1]
  exact hI.2 w
/-- ahead of the k-th part, items lie with all their parts -/
theorem TW.ahead {n : Int} {what room parts : Int → Int} (h : TW n what room parts) {i : Int} (h0 : 0 ≤ i) (hn : i < n) (hw : 2 ≤ what i) {k : Nat} (hk : (k : Int) ≤ parts i) {q : Int} (h1 : i < q) (h2 : q < chh room i k) : q + room q ≤ chh room i k := by
  have hck := h.ch h0 hn hw k hk
  have hr := h.r h0 hn
  obtain ⟨-, j, hj, a, b⟩ := h.cover h0 hn (k := q) ⟨h1, by omega⟩
  have hjk : j < k := by
    rcases Nat.lt_or_ge j k with z | z
    · exact z
    · by_cases e : k = j
      · rw [← e] at a; omega
      · have := h.ch_lt h0 hn hw j k (by omega) (by omega); omega
  have hc := h.kid h0 hn hw hj
  have hne := h.nest (c := chh room i j) (i := q) (by omega) (by omega) a b
  have e1 : chh room i (j + 1) = chh room i j + room (chh room i j) := rfl
  by_cases e : j + 1 = k
  · rw [e] at e1; omega
  · have := h.ch_lt h0 hn hw k (j + 1) (by omega) hk; omega
/-- items i+1 .. hi-1 have been copied (of item i the address alone) -/
def CPI (G : gEnv) (h h' : gH) (R : FF) (ins : Int → Int) (adc : Int → Nat) (i hi : Int) (n n' : Nat) : Prop :=
  gSub h h' ∧ n ≤ n' ∧ (∀ q, i < q → q < hi → IT G h' R adc (1, 0) (.ref (adc (ins q))) 0 q) ∧ adI adc i hi ∧ ∀ q, i ≤ q → q < hi → n ≤ adc q ∧ adc q < n'
/-- item i has been copied -/
def CPD (G : gEnv) (h h' : gH) (R : FF) (ins : Int → Int) (adc : Int → Nat) (i : Int) (n n' : Nat) : Prop :=
  CPI G h h' R ins adc i (i + R 5 i) n n' ∧ IT G h' R adc (1, 0) .null 0 i
theorem TI.in_lt {n : Int} {what room parts inside : Int → Int} (hi : TI n what room parts inside) {k : Int} (h0 : 0 < k) (hn : k < n) : 0 ≤ inside k ∧ inside k < k := by
  obtain ⟨i, j, a, b, c, d, e, f⟩ := hi.2.2 k h0 hn
  rw [f]; exact ⟨a, b⟩
theorem TI.of {n : Int} {what room parts inside : Int → Int} (hi : TI n what room parts inside) {i : Int} (h0 : 0 ≤ i) (hn : i < n) (hw : 2 ≤ what i) {j : Nat} (hj : (j : Int) < parts i) : inside (chh room i j) = i := hi.2.1 i h0 hn hw j hj
theorem copy_step {G : gEnv} {h h1 h2 h3 : gH} {R : FF} {ins : Int → Int} {adc adc2 : Int → Nat} {nn i : Int} {n n1 n2 n3 q k : Nat} {xs : List Nat} {fL : List Value} (hT : TW nn (R 0) (R 5) (R 6)) (hTI : TI nn (R 0) (R 5) (R 6) ins) (h0 : 0 ≤ i) (hn : i < nn) (hw : 2 ≤ R 0 i) (hk : (k : Int) < R 6 i) (hc0 : adc i = n) (hC1 : CPI G h h1 R ins adc i (chh (R 5) i k) n n1) (hL1 : h1 n = some ((1, 0), .inr (10, fL))) (hA1 : AL G h1 (n + 1) xs q) (hC2 : CPD G h1 h2 R ins adc2 (chh (R 5) i k) n1 n2) (hD : ADDED G h2 h3 n xs q (adc2 (chh (R 5) i k)) (1, 0) (itE R (chh (R 5) i k) (.ref n) 0 (adc2 (chh (R 5) i k)))) (hn3 : n2 ≤ n3) (hlt : ∀ (a : Nat) (x : gE), h a = some x → a < n) (hnn : n < n1) :
    CPI G h h3 R ins (fun z => if chh (R 5) i k ≤ z then adc2 z else adc z) i (chh (R 5) i (k + 1)) n n3 ∧ h3 n = some ((1, 0), .inr (10, fL)) := by
  obtain ⟨a1, a2, a3, a4, a5⟩ := hC1
  obtain ⟨⟨b1, b2, b3, b4, b5⟩, b6⟩ := hC2
  have kd := hT.kid h0 hn hw hk
  have hrr := hT.r h0 hn
  have ec : chh (R 5) i (k + 1) = chh (R 5) i k + R 5 (chh (R 5) i k) := rfl
  obtain ⟨c, hc⟩ : ∃ c, c = chh (R 5) i k := ⟨_, rfl⟩
  rw [← hc] at a3 a4 a5 b3 b4 b5 b6 hD kd ec ⊢
  rw [ec]
  have hA2 : AL G h2 (n + 1) xs q := hA1.sub b1
  have hcf := b5 c (Int.le_refl _) (by omega)
  have hbc := b6.1
  have hn17 : ∀ fs, itE R c .null 0 (adc2 c) ≠ .inr (17, fs) := fun fs => itE_ne17
  have hL2 := b1 _ _ hL1
  have hLc : n ≠ adc2 c := by omega
  refine ⟨⟨?_, by omega, ?_, ?_, ?_⟩, ?_⟩
  · intro a x hx
    have hax := hlt a x hx
    obtain ⟨t, e⟩ := x
    exact hD.2.2.1 a t e (b1 _ _ (a1 _ _ hx)) (by omega) (by omega) (Or.inr (by omega))
  · intro z hz1 hz2
    show IT G h3 R (fun z => if c ≤ z then adc2 z else adc z) (1, 0) (.ref (if c ≤ ins z then adc2 (ins z) else adc (ins z))) 0 z
    have hzi := hTI.in_lt (k := z) (by omega) (by omega)
    rcases Int.lt_or_le z c with hzc | hzc
    · have hah := hT.ahead h0 hn hw (k := k) (by omega) (q := z) hz1 (by rw [← hc]; exact hzc)
      rw [← hc] at hah
      rw [if_neg (by omega)]
      have hI := (a3 z hz1 hzc).sub b1
      have hfz := a5 z (by omega) hzc
      refine IT.adc (ad := adc) ?_ (if_neg (by omega)) (fun w j hj => if_neg ?_)
      · refine hD.it hA2 hbc hn17 (by decide) hI (by decide) (by omega) ?_
        rw [← hc0]
        intro e
        have := a4 z i (by omega) hzc (Int.le_refl _) (by omega) e
        omega
      · have := hT.kid (i := z) (by omega) (by omega) w hj
        omega
    · by_cases hze : z = c
      · subst hze
        have hins : ins z = i := by rw [hc]; exact hTI.of h0 hn hw hk
        rw [if_neg (by omega), hins, hc0]
        refine IT.adc (ad := adc2) ⟨hD.2.1, fun w => ?_⟩ (if_pos (Int.le_refl _)) (fun w j hj => if_pos (by have := hT.kid (i := z) (by omega) (by omega) w hj; omega))
        refine (b6.2 w).frm hD.frm ?_ ?_
        · obtain ⟨tM, fM, eM, nM⟩ := (b6.2 w).cell
          rintro (y | y | ⟨y, e, y2⟩)
          · omega
          · omega
          · rw [eM] at y2; cases y2; exact nM rfl
        · intro a e he
          obtain ⟨tA, fA, eA, nA⟩ := hA2.cell
          rintro (y | y | ⟨y, e2, y2⟩)
          · rw [y, hbc] at he; cases he
          · rw [y, eA] at he; cases he; exact nA rfl
          · rw [he] at y2; cases y2; omega
      · have hin := hTI.inner hT (j := c) (k := z) (by omega) (by omega) (by omega) (by omega)
        rw [if_pos hin]
        have hI := b3 z (by omega) (by omega)
        have hfz := b5 z (by omega) (by omega)
        refine IT.adc (ad := adc2) ?_ (if_pos (by omega)) (fun w j hj => if_pos ?_)
        · refine hD.it hA2 hbc hn17 (by decide) hI (by decide) ?_ (by omega)
          intro e
          have := b4 z c (by omega) (by omega) (Int.le_refl _) (by omega) e
          omega
        · have := hT.kid (i := z) (by omega) (by omega) w hj
          omega
  · intro x y hx1 hx2 hy1 hy2 e
    dsimp only at e
    by_cases hxc : c ≤ x
    · rw [if_pos hxc] at e
      have hfx := b5 x hxc (by omega)
      by_cases hyc : c ≤ y
      · rw [if_pos hyc] at e
        exact b4 x y hxc (by omega) hyc (by omega) e
      · rw [if_neg hyc] at e
        have := a5 y hy1 (by omega)
        omega
    · rw [if_neg hxc] at e
      have hfx := a5 x hx1 (by omega)
      by_cases hyc : c ≤ y
      · rw [if_pos hyc] at e
        have := b5 y hyc (by omega)
        omega
      · rw [if_neg hyc] at e
        exact a4 x y hx1 (by omega) hy1 (by omega) e
  · intro x hx1 hx2
    dsimp only
    by_cases hxc : c ≤ x
    · rw [if_pos hxc]
      have := b5 x hxc (by omega)
      omega
    · rw [if_neg hxc]
      have := a5 x hx1 (by omega)
      omega
  · exact hD.2.2.1 n _ _ hL2 hLc (by omega) (Or.inr (by omega))
/-- the list of what has been copied so far -/
theorem chs_step {R : FF} {i : Int} {k : Nat} {adc adc2 : Int → Nat} (hlt : ∀ j : Nat, j < k → chh (R 5) i j < chh (R 5) i k) : (List.range k).map (fun (j : Nat) => adc (chh (R 5) i j)) ++ [adc2 (chh (R 5) i k)] = (List.range (k + 1)).map (fun (j : Nat) => if chh (R 5) i k ≤ chh (R 5) i j then adc2 (chh (R 5) i j) else adc (chh (R 5) i j)) := by
  rw [List.range_succ, List.map_append]
  congr 1
  · apply List.map_congr_left
    intro j hj
    have := hlt j (List.mem_range.mp hj)
    rw [if_neg (by omega)]
  · simp
