/-! ===== what fits, laid down: pure part ===== -/
set_option maxRecDepth 100000
/-- what names fit, in their order: pattern, from, to -/
def spFs (S : MSt) : Nat → Int → Int → Int → Int → List (Int × Int × Int)
  | 0, _, _, _, _ => []
  | f + 1, p, pe, t, te =>
    if p = pe then [] else if S.2 34 p = 7 then [(p, t, te)]
    else (if S.2 34 p = 6 then [(p, t, t + S.2 46 t)] else if S.2 34 p = 2 then spFs S f (p + 1) (p + S.2 37 p) (t + 1) (t + S.2 46 t) else []) ++ spFs S f (p + S.2 37 p) pe (t + S.2 46 t) te
section FITA0
variable {S : MSt} {b E : Int}
theorem spFs_fuel (hP : ∀ p, b ≤ p → p < E → PN S E p) : ∀ (N : Nat) (P : Int) (j : Nat), b ≤ P → P < E → S.2 34 P = 2 → (j : Int) ≤ S.2 38 P → P + S.2 37 P - chh (S.2 37) P j < N → ∀ (f g : Nat) (t te : Int), P + S.2 37 P - chh (S.2 37) P j < f → P + S.2 37 P - chh (S.2 37) P j < g → spFs S f (chh (S.2 37) P j) (P + S.2 37 P) t te = spFs S g (chh (S.2 37) P j) (P + S.2 37 P) t te := by
  intro N
  induction N with
  | zero =>
    intro P j h0 hE hk hj hN
    have := PNch hP h0 hE hk j hj
    omega
  | succ N ih =>
    intro P j h0 hE hk hj hN f g t te hf hg
    have hc := PNch hP h0 hE hk j hj
    have hcl := (hP P h0 hE).2.2.2.2.1 hk
    have hcn := (hP P h0 hE).2.2.1
    cases f with
    | zero => omega
    | succ f =>
      cases g with
      | zero => omega
      | succ g =>
        unfold spFs
        by_cases hz : (j : Int) = S.2 38 P
        · have he : chh (S.2 37) P j = P + S.2 37 P := by rw [← hcl.1, show (S.2 38 P).toNat = j by omega]
          rw [if_pos he, if_pos he]
        · have kd := PN.kid hP h0 hE hk (j := j) (by omega)
          have hne : ¬ chh (S.2 37) P j = P + S.2 37 P := by omega
          rw [if_neg hne, if_neg hne]
          have i1 := ih P (j + 1) h0 hE hk (by omega) (by omega) f g (t + S.2 46 t) te (by omega) (by omega)
          rw [kd.2.2.2.2.1] at i1
          rw [i1]
          by_cases h2 : S.2 34 (chh (S.2 37) P j) = 2
          · have i2 := ih (chh (S.2 37) P j) 0 (by omega) (by omega) h2 (by have := (hP (chh (S.2 37) P j) (by omega) (by omega)).2.2.1; omega) (by show _ - (chh (S.2 37) P j + 1) < _; omega) f g (t + 1) (t + S.2 46 t) (by show _ - (chh (S.2 37) P j + 1) < _; omega) (by show _ - (chh (S.2 37) P j + 1) < _; omega)
            have e0 : chh (S.2 37) (chh (S.2 37) P j) 0 = chh (S.2 37) P j + 1 := rfl
            rw [e0] at i2
            rw [i2]
          · rw [if_neg h2, if_neg h2]
/-- of patterns P's parts from the j-th on, against items t .. te -/
def spFss (S : MSt) (P : Int) (j : Nat) (t te : Int) : List (Int × Int × Int) := spFs S (S.2 37 P).toNat (chh (S.2 37) P j) (P + S.2 37 P) t te
theorem spFss_of (hP : ∀ p, b ≤ p → p < E → PN S E p) {P : Int} (h0 : b ≤ P) (hE : P < E) (hk : S.2 34 P = 2) {j : Nat} (hj : (j : Int) ≤ S.2 38 P) {f : Nat} {t te : Int} (hf : S.2 37 P ≤ f) : spFs S f (chh (S.2 37) P j) (P + S.2 37 P) t te = spFss S P j t te := by
  have hc := PNch hP h0 hE hk j hj
  exact spFs_fuel hP (S.2 37 P + 1).toNat P j h0 hE hk hj (by omega) _ _ _ _ (by omega) (by omega)
theorem spFss_end (hP : ∀ p, b ≤ p → p < E → PN S E p) {P : Int} (h0 : b ≤ P) (hE : P < E) (hk : S.2 34 P = 2) {j : Nat} (hj : (j : Int) = S.2 38 P) (t te : Int) : spFss S P j t te = [] := by
  have hp := (hP P h0 hE).2.1
  have hcl := (hP P h0 hE).2.2.2.2.1 hk
  have he : chh (S.2 37) P j = P + S.2 37 P := by rw [← hcl.1, show (S.2 38 P).toNat = j by omega]
  unfold spFss
  obtain ⟨m, hm⟩ : ∃ m, (S.2 37 P).toNat = m + 1 := ⟨(S.2 37 P).toNat - 1, by omega⟩
  rw [hm]
  unfold spFs
  rw [if_pos he]
theorem spFss_rest (hP : ∀ p, b ≤ p → p < E → PN S E p) {P : Int} (h0 : b ≤ P) (hE : P < E) (hk : S.2 34 P = 2) {j : Nat} (hj : (j : Int) < S.2 38 P) (hr : S.2 34 (chh (S.2 37) P j) = 7) (t te : Int) : spFss S P j t te = [(chh (S.2 37) P j, t, te)] := by
  have kd := PN.kid hP h0 hE hk hj
  unfold spFss
  obtain ⟨m, hm⟩ : ∃ m, (S.2 37 P).toNat = m + 1 := ⟨(S.2 37 P).toNat - 1, by omega⟩
  rw [hm]
  unfold spFs
  rw [if_neg (by omega), if_pos hr]
/-- of one part that is no rest -/
def spF1 (S : MSt) (q t : Int) : List (Int × Int × Int) := if S.2 34 q = 6 then [(q, t, t + S.2 46 t)] else if S.2 34 q = 2 then spFss S q 0 (t + 1) (t + S.2 46 t) else []
theorem spFss_one (hP : ∀ p, b ≤ p → p < E → PN S E p) {P : Int} (h0 : b ≤ P) (hE : P < E) (hk : S.2 34 P = 2) {j : Nat} (hj : (j : Int) < S.2 38 P) (hr : S.2 34 (chh (S.2 37) P j) ≠ 7) (t te : Int) : spFss S P j t te = spF1 S (chh (S.2 37) P j) t ++ spFss S P (j + 1) (t + S.2 46 t) te := by
  have kd := PN.kid hP h0 hE hk hj
  rw [← spFss_of hP h0 hE hk (j := j) (by omega) (f := (S.2 37 P).toNat + 1) (by omega)]
  unfold spFs spF1
  rw [if_neg (by omega), if_neg hr]
  rw [← kd.2.2.2.2.1, spFss_of hP h0 hE hk (j := j + 1) (by omega) (f := (S.2 37 P).toNat) (by omega)]
  by_cases h2 : S.2 34 (chh (S.2 37) P j) = 2
  · have h6 : ¬ S.2 34 (chh (S.2 37) P j) = 6 := by omega
    rw [if_neg h6, if_neg h6, if_pos h2, if_pos h2]
    have e0 : chh (S.2 37) (chh (S.2 37) P j) 0 = chh (S.2 37) P j + 1 := rfl
    rw [kd.2.2.2.2.1, ← e0, spFss_of hP (P := chh (S.2 37) P j) (by omega) (by omega) h2 (j := 0) (by have := (hP (chh (S.2 37) P j) (by omega) (by omega)).2.2.1; omega) (f := (S.2 37 P).toNat) (by omega)]
  · rw [if_neg h2, if_neg h2]
end FITA0
/-- A FIT in the heap: its name, its items; it lies behind the list of fits -/
def FIT (G : gEnv) (h : gH) (S : MSt) (ad : Int → Nat) (fl y : Nat) (tr : Int × Int × Int) : Prop :=
  h y = some ((6, 0), .inr (14, [.long (lI (gLt (S.2 35 tr.1))), .ref (y + 1)])) ∧ (∃ q : Nat, AL G h (y + 1) ((rts (S.2 46) 501 tr.2.1 tr.2.2).map ad) q) ∧ fl < y
def FL (G : gEnv) (h : gH) (S : MSt) (ad : Int → Nat) (fl : Nat) (ys : List Nat) (ts : List (Int × Int × Int)) : Prop :=
  ys.length = ts.length ∧ ∀ (k y : Nat) (tr : Int × Int × Int), ys[k]? = some y → ts[k]? = some tr → FIT G h S ad fl y tr
section FLS
variable {G : gEnv} {h h' : gH} {S : MSt} {ad : Int → Nat} {fl : Nat}
theorem FIT.ext {y q : Nat} {xs : List Nat} {tr : Int × Int × Int} (hF : FIT G h S ad fl y tr) (hA : AL G h fl xs q) (he : gExt fl h h') (hc : gCls h h') : FIT G h' S ad fl y tr := by
  obtain ⟨h1, ⟨q1, h2⟩, h3⟩ := hF
  exact ⟨he _ _ _ h1 (by omega) (Or.inl (by intro z; cases z)), ⟨q1, h2.other hA (by omega) he hc⟩, h3⟩
theorem FIT.sub {y : Nat} {tr : Int × Int × Int} (hF : FIT G h S ad fl y tr) (hs : gSub h h') : FIT G h' S ad fl y tr := by
  obtain ⟨h1, ⟨q1, h2⟩, h3⟩ := hF
  exact ⟨hs _ _ h1, ⟨q1, h2.sub hs⟩, h3⟩
theorem FL.ext {ys xs : List Nat} {q : Nat} {ts : List (Int × Int × Int)} (hF : FL G h S ad fl ys ts) (hA : AL G h fl xs q) (he : gExt fl h h') (hc : gCls h h') : FL G h' S ad fl ys ts := ⟨hF.1, fun k y tr a b => (hF.2 k y tr a b).ext hA he hc⟩
theorem FL.sub {ys : List Nat} {ts : List (Int × Int × Int)} (hF : FL G h S ad fl ys ts) (hs : gSub h h') : FL G h' S ad fl ys ts := ⟨hF.1, fun k y tr a b => (hF.2 k y tr a b).sub hs⟩
theorem FL.nil : FL G h S ad fl [] [] := ⟨rfl, fun k y tr a _ => by simp at a⟩
theorem FL.one {y : Nat} {tr : Int × Int × Int} (hF : FIT G h S ad fl y tr) : FL G h S ad fl [y] [tr] := ⟨rfl, fun k z t a b => by
  cases k with
  | zero => simp at a b; rw [← a, ← b]; exact hF
  | succ k => simp at a⟩
theorem FL.app {ys zs : List Nat} {ts us : List (Int × Int × Int)} (hF : FL G h S ad fl ys ts) (hE : FL G h S ad fl zs us) : FL G h S ad fl (ys ++ zs) (ts ++ us) := by
  refine ⟨by rw [List.length_append, List.length_append, hF.1, hE.1], fun k y tr a b => ?_⟩
  rcases Nat.lt_or_ge k ys.length with z | z
  · rw [List.getElem?_append_left z] at a
    rw [List.getElem?_append_left (by rw [← hF.1]; exact z)] at b
    exact hF.2 k y tr a b
  · rw [List.getElem?_append_right z] at a
    rw [List.getElem?_append_right (by rw [← hF.1]; exact z), ← hF.1] at b
    exact hE.2 _ y tr a b
end FLS
theorem gSub.ext2 {h h1 h2 : gH} {L : Nat} (a : gSub h h1) (b : gExt L h1 h2) : gExt L h h2 := fun q t e he h1 h2 => b q t e (a q _ he) h1 h2
/-- what was there ahead of a list stays -/
theorem gSub.low {h0 h h' : gH} {L : Nat} (a : gSub h0 h) (hlt : ∀ (q : Nat) (x : gE), h0 q = some x → q < L) (b : gExt L h h') : gSub h0 h' := fun q x he => by
  obtain ⟨t, e⟩ := x
  have := hlt q _ he
  exact b q t e (a q _ he) (by omega) (Or.inr this)
/-- the answer of a pattern that fits: what has come to the list of fits -/
def FAQ (G : gEnv) (S : MSt) (ad : Int → Nat) (fl : Nat) (xs : List Nat) (q : Nat) (ts : List (Int × Int × Int)) (h : gH) (n : Nat) : Option Value → gH → Nat → Prop := fun v h' n' =>
  v = some (.int (iI 1)) ∧ (∃ ys : List Nat, AL G h' fl (xs ++ ys) (max q (xs.length + ys.length)) ∧ FL G h' S ad fl ys ts) ∧ gExt fl h h' ∧ gCls h h' ∧ n ≤ n'
def fMc (q len : Nat) (r : Int) (ts : List (Int × Int × Int)) : Nat := (3 * r).toNat + (alK (max q (len + ts.length)) - alK q)
def fMs (q len : Nat) (r : Int) (ts : List (Int × Int × Int)) : Nat := (15 * r).toNat + (alS (max q (len + ts.length)) - alS q)
theorem AL.q {G : gEnv} {h : gH} {L q : Nat} {xs : List Nat} (hA : AL G h L xs q) : xs.length ≤ q ∧ q ≤ 2000 := by
  obtain ⟨tg, mo, d, a1, a2, a3, a4, -⟩ := hA
  exact ⟨a3, a4⟩
theorem FAQ_pure {G : gEnv} {S : MSt} {ad : Int → Nat} {fl : Nat} {xs : List Nat} {q : Nat} {h : gH} {n : Nat} (hA : AL G h fl xs q) : FAQ G S ad fl xs q [] h n (some (.int (iI 1))) h n :=
  ⟨rfl, ⟨[], by rw [List.append_nil, show max q (xs.length + ([] : List Nat).length) = q by have := hA.q; simp; omega]; exact hA, FL.nil⟩, fun a t e he _ _ => he, fun a t ci fs he => ⟨fs, he⟩, Nat.le_refl _⟩
/-- roots: of one item; of a list's parts -/
theorem rts_one {room : Int → Int} {a : Int} (hr : 1 ≤ room a) (f : Nat) : rts room (f + 2) a (a + room a) = [a] := by
  unfold rts
  rw [if_neg (by omega)]
  unfold rts
  rw [if_pos (by omega)]
theorem rts_part {n : Int} {what room parts : Int → Int} (hT : TW n what room parts) {i : Int} (h0 : 0 ≤ i) (hn : i < n) (hw : 2 ≤ what i) : ∀ (m j : Nat), (j : Int) ≤ parts i → parts i - j = m → ∀ f : Nat, m < f → rts room f (chh room i j) (i + room i) = (List.range m).map (fun (k : Nat) => chh room i (j + k)) := by
  intro m
  induction m with
  | zero =>
    intro j hj hm f hf
    cases f with
    | zero => omega
    | succ f =>
      unfold rts
      rw [if_pos (by rw [← (hT.lst h0 hn hw).1, show (parts i).toNat = j by omega]; omega)]
      rfl
  | succ m ih =>
    intro j hj hm f hf
    cases f with
    | zero => omega
    | succ f =>
      unfold rts
      have := (hT.lst h0 hn hw).2 j (by omega)
      rw [if_neg (by omega), show chh room i j + room (chh room i j) = chh room i (j + 1) from rfl, ih (j + 1) (by omega) (by omega) f (by omega), List.range_succ_eq_map, List.map_cons, List.map_map]
      congr 1
      apply List.map_congr_left
      intro k _
      show chh room i (j + 1 + k) = chh room i (j + (k + 1))
      congr 1
      omega
