/-! ===== rules: what fits, in plain words; the Model's one pass over pattern and items ===== -/
set_option maxRecDepth 100000
/-- the state less what fits lays down (metFrom, metTo) -/
def tv (S : MSt) : MSt := (S.1, fun k => if k = 54 ∨ k = 55 then fun _ => 0 else S.2 k)
theorem spUp_tv (S : MSt) (w k : Int) : ∀ (f : Nat) (a l : Int), spUp (tv S) w k f a l = spUp S w k f a l := by
  intro f
  induction f with
  | zero => intro a l; rfl
  | succ f ih =>
    intro a l
    unfold spUp
    rw [ih]
    rfl
theorem spReads_tv (S : MSt) (i : Int) : spReads (tv S) i = spReads S i := by
  unfold spReads
  rw [spUp_tv]
  rfl
theorem spWord_tv (S : MSt) (v : Int) : ∀ r : Nat, spWord (tv S) v r = spWord S v r := by
  intro r
  induction r with
  | zero => rfl
  | succ r ih => unfold spWord; rw [ih]; rfl
theorem spCall_tv (S : MSt) (i : Int) : spCall (tv S) i = spCall S i := by
  unfold spCall
  rw [spReads_tv, spWord_tv]
  rfl
theorem MT_tv (S : MSt) : MT (tv S) = MT S := rfl
theorem tv_mP (S : MSt) (u v : Int → Int) : tv (mP S [(54, u), (55, v)] []) = tv S := by
  refine Prod.ext rfl ?_
  funext k
  show (if k = 54 ∨ k = 55 then fun _ => 0 else (lk [(54, u), (55, v)] k).getD (S.2 k)) = (if k = 54 ∨ k = 55 then fun _ => 0 else S.2 k)
  by_cases h : k = 54 ∨ k = 55
  · rw [if_pos h, if_pos h]
  · rw [if_neg h, if_neg h]
    simp only [not_or] at h
    simp [lk, h.1, h.2]
theorem mP_self2 (S : MSt) : S = mP S [(54, S.2 54), (55, S.2 55)] [] := by
  refine Prod.ext rfl ?_
  funext k
  show S.2 k = (lk [(54, S.2 54), (55, S.2 55)] k).getD (S.2 k)
  rw [lk_c, lk_c]
  by_cases h1 : k = 54
  · rw [if_pos h1, h1]; rfl
  · rw [if_neg h1]
    by_cases h2 : k = 55
    · rw [if_pos h2, h2]; rfl
    · rw [if_neg h2]; rfl
/-- a node of patterns, of a rule whose nodes lie ahead of q -/
def PN (S : MSt) (q p : Int) : Prop :=
  (S.2 34 p = 0 ∨ S.2 34 p = 2 ∨ S.2 34 p = 6 ∨ S.2 34 p = 7 ∨ S.2 34 p = 8) ∧ (1 ≤ S.2 37 p ∧ p + S.2 37 p ≤ q) ∧ (0 ≤ S.2 38 p ∧ S.2 38 p ≤ 600) ∧ (S.2 34 p ≠ 2 → S.2 37 p = 1 ∧ S.2 38 p = 0) ∧
  (S.2 34 p = 2 → chh (S.2 37) p (S.2 38 p).toNat = p + S.2 37 p ∧ ∀ j : Nat, (j : Int) < S.2 38 p → chh (S.2 37) p j < p + S.2 37 p ∧ S.2 39 (chh (S.2 37) p j) = p ∧ (S.2 34 (chh (S.2 37) p j) = 7 → (j : Int) + 1 = S.2 38 p)) ∧
  (0 ≤ S.2 35 p ∧ S.2 35 p < 281474976710656) ∧ (-9 ≤ S.2 39 p ∧ S.2 39 p ≤ 600)
/-- a node of a template -/
def QN (S : MSt) (q p : Int) : Prop :=
  (S.2 34 p = 0 ∨ S.2 34 p = 2 ∨ S.2 34 p = 6 ∨ S.2 34 p = 7) ∧ (1 ≤ S.2 37 p ∧ p + S.2 37 p ≤ q) ∧ (0 ≤ S.2 38 p ∧ S.2 38 p ≤ 600) ∧ (S.2 34 p ≠ 2 → S.2 37 p = 1 ∧ S.2 38 p = 0) ∧
  (S.2 34 p = 2 → chh (S.2 37) p (S.2 38 p).toNat = p + S.2 37 p ∧ ∀ j : Nat, (j : Int) < S.2 38 p → chh (S.2 37) p j < p + S.2 37 p) ∧
  (0 ≤ S.2 35 p ∧ S.2 35 p < 281474976710656) ∧ (0 ≤ S.2 36 p ∧ S.2 36 p < 500)
/-- a rule: patterns, then its template -/
def PR (S : MSt) (r : Int) : Prop :=
  0 ≤ S.2 32 r ∧ S.2 34 (S.2 32 r) = 2 ∧ S.2 32 r + S.2 37 (S.2 32 r) = S.2 33 r ∧ S.2 33 r + S.2 37 (S.2 33 r) ≤ 501 ∧ (1 ≤ S.2 37 (S.2 33 r) ∧ 1 ≤ S.2 37 (S.2 32 r)) ∧ (S.2 31 r = 0 ∨ S.2 31 r = 1) ∧ (0 ≤ S.2 30 r ∧ S.2 30 r < 281474976710656) ∧
  (∀ p, S.2 32 r ≤ p → p < S.2 33 r → PN S (S.2 33 r) p) ∧ (∀ p, S.2 33 r ≤ p → p < S.2 33 r + S.2 37 (S.2 33 r) → QN S (S.2 33 r + S.2 37 (S.2 33 r)) p)
def MP (S : MSt) : Prop := (0 ≤ S.1 29 ∧ S.1 29 ≤ 12) ∧ ∀ r, 0 ≤ r → r < S.1 29 → PR S r
theorem MP_tv (S : MSt) : MP (tv S) = MP S := rfl
/-- one node, that is no list and no rest, against one item; of a list only that it is one -/
def spN (S : MSt) (p t : Int) : Bool :=
  if S.2 34 p = 0 then decide (S.2 41 t = 0) && decide (S.2 42 t = S.2 35 p)
  else if S.2 34 p = 8 then decide (S.2 41 t = 1) && decide (S.2 42 t = S.2 35 p)
  else if S.2 34 p = 6 then true else decide (2 ≤ S.2 41 t)
/-- patterns p .. pe against items t .. te, side by side -/
def spX (S : MSt) : Nat → Int → Int → Int → Int → Bool
  | 0, _, _, _, _ => false
  | f + 1, p, pe, t, te =>
    if p = pe then decide (t = te) else if S.2 34 p = 7 then true
    else decide (t < te) && spN S p t && (if S.2 34 p = 2 then spX S f (p + 1) (p + S.2 37 p) (t + 1) (t + S.2 46 t) else true) && spX S f (p + S.2 37 p) pe (t + S.2 46 t) te
/-- where pattern q fits: from, to -/
def spAt (S : MSt) : Nat → Int → Int → Int → Int → Int → Int × Int
  | 0, _, _, _, _, _ => (0, 0)
  | f + 1, p, pe, t, te, q =>
    if q < p + S.2 37 p then (if q = p then (t, if S.2 34 p = 7 then te else t + S.2 46 t) else spAt S f (p + 1) (p + S.2 37 p) (t + 1) (t + S.2 46 t) q)
    else spAt S f (p + S.2 37 p) pe (t + S.2 46 t) te q
/-- whether rule r fits a call -/
def spFit (S : MSt) (r i : Int) : Bool := spX S 601 (S.2 32 r + 1) (S.2 33 r) (i + 2) (i + S.2 46 i)
def spFrom (S : MSt) (r i q : Int) : Int := (spAt S 601 (S.2 32 r + 1) (S.2 33 r) (i + 2) (i + S.2 46 i) q).1
def spTo (S : MSt) (r i q : Int) : Int := (spAt S 601 (S.2 32 r + 1) (S.2 33 r) (i + 2) (i + S.2 46 i) q).2
theorem spX_tv (S : MSt) : ∀ (f : Nat) (p pe t te : Int), spX (tv S) f p pe t te = spX S f p pe t te := by
  intro f
  induction f with
  | zero => intros; rfl
  | succ f ih =>
    intro p pe t te
    unfold spX
    rw [ih, ih]
    rfl
theorem spAt_tv (S : MSt) : ∀ (f : Nat) (p pe t te q : Int), spAt (tv S) f p pe t te q = spAt S f p pe t te q := by
  intro f
  induction f with
  | zero => intros; rfl
  | succ f ih =>
    intro p pe t te q
    unfold spAt
    rw [ih, ih]
    rfl
theorem spFit_tv (S : MSt) (r i : Int) : spFit (tv S) r i = spFit S r i := spX_tv S 601 _ _ _ _
theorem spFrom_tv (S : MSt) (r i q : Int) : spFrom (tv S) r i q = spFrom S r i q := congrArg Prod.fst (spAt_tv S 601 _ _ _ _ q)
theorem spTo_tv (S : MSt) (r i q : Int) : spTo (tv S) r i q = spTo S r i q := congrArg Prod.snd (spAt_tv S 601 _ _ _ _ q)
/-- the first rule from r on that fits a call -/
def spRule (S : MSt) (i : Int) : Nat → Int → Int
  | 0, _ => -9
  | f + 1, r => if S.1 29 ≤ r then -9 else if S.2 30 r = S.2 42 (i + 1) ∧ spFit S r i = true then r else spRule S i f (r + 1)
def spAnyUp (S : MSt) : Nat → Int → Bool
  | 0, _ => false
  | f + 1, l => if l = -9 then false else spCall S l || spAnyUp S f (S.2 48 l)
def spReady (S : MSt) (i : Int) : Bool := spCall S i && !spAnyUp S 501 (S.2 48 i) && decide (spRule S i 13 0 ≠ -9)
theorem spRule_tv (S : MSt) (i : Int) : ∀ (f : Nat) (r : Int), spRule (tv S) i f r = spRule S i f r := by
  intro f
  induction f with
  | zero => intro r; rfl
  | succ f ih =>
    intro r
    unfold spRule
    rw [ih, spFit_tv]
    rfl
theorem spAnyUp_tv (S : MSt) : ∀ (f : Nat) (l : Int), spAnyUp (tv S) f l = spAnyUp S f l := by
  intro f
  induction f with
  | zero => intro l; rfl
  | succ f ih =>
    intro l
    unfold spAnyUp
    rw [ih, spCall_tv]
    rfl
theorem spReady_tv (S : MSt) (i : Int) : spReady (tv S) i = spReady S i := by
  unfold spReady
  rw [spCall_tv, spAnyUp_tv, spRule_tv]
  rfl
/-- a list's parts from j on, with a rest at the end or without, are as many as c -/
def spER (S : MSt) (p : Int) : Bool := decide (0 < S.2 38 p) && (decide (S.2 34 (p + S.2 37 p - 1) = 7) && decide (S.2 39 (p + S.2 37 p - 1) = p))
def spCnt (S : MSt) (p t : Int) : Bool := if spER S p = true then decide (S.2 38 p - 1 ≤ S.2 47 t) else decide (S.2 47 t = S.2 38 p)
/-- what fitsOne answers -/
def spOne (S : MSt) (p t : Int) : Bool := spN S p t && (if S.2 34 p = 2 then spCnt S p t else true)
/-- the Model's pass: metFrom, metTo as they come -/
def spLin (S : MSt) (pe : Int) : Nat → Int → Int → (Int → Int) → (Int → Int) → Bool × (Int → Int) × (Int → Int)
  | 0, _, _, u, v => (false, u, v)
  | f + 1, p, t, u, v =>
    if pe ≤ p then (true, u, v)
    else if S.2 34 p = 7 then spLin S pe f (p + 1) (v (S.2 39 p)) (upI u p t) (upI v p (v (S.2 39 p)))
    else if spOne S p t = true then spLin S pe f (p + 1) (if S.2 34 p = 2 then t + 1 else t + S.2 46 t) (upI u p t) (upI v p (t + S.2 46 t))
    else (false, u, v)
/-- .. and that it looks at items alone -/
def spLok (S : MSt) (pe : Int) : Nat → Int → Int → (Int → Int) → (Int → Int) → Prop
  | 0, _, _, _, _ => True
  | f + 1, p, t, u, v =>
    pe ≤ p ∨ (if S.2 34 p = 7 then (0 ≤ S.2 39 p ∧ S.2 39 p < 601 ∧ 0 ≤ v (S.2 39 p) ∧ v (S.2 39 p) ≤ 500) ∧ spLok S pe f (p + 1) (v (S.2 39 p)) (upI u p t) (upI v p (v (S.2 39 p)))
    else (0 ≤ t ∧ t < S.1 40) ∧ (spOne S p t = true → spLok S pe f (p + 1) (if S.2 34 p = 2 then t + 1 else t + S.2 46 t) (upI u p t) (upI v p (t + S.2 46 t))))
