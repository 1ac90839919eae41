/-! ===== THE MODEL: its state (scalars, arrays) as functions, its cells, a row for each field ===== -/
set_option maxRecDepth 100000
def mKind (k : Nat) : Nat := ([3, 0, 0, 1, 1, 2, 0, 1, 2, 1, 1, 1, 1, 0, 2, 4, 1, 1, 0, 0, 0, 0, 0, 1, 0, 0, 0, 0, 0, 0, 2, 4, 1, 1, 1, 2, 1, 1, 1, 1, 0, 1, 2, 1, 1, 1, 1, 1, 1, 0, 1, 1, 1, 0, 1, 1, 0, 1, 2, 1, 1, 1, 1, 1, 1, 1, 0, 0, 1, 1, 1, 1, 2, 1, 1, 1, 1, 1, 0, 0, 1, 2, 1, 1] : List Nat).getD k 0
def mLen (k : Nat) : Nat := ([600, 0, 0, 601, 601, 601, 0, 601, 601, 601, 601, 601, 601, 0, 12, 12, 12, 12, 0, 0, 0, 0, 0, 16, 0, 0, 0, 0, 0, 0, 12, 12, 12, 12, 601, 601, 601, 601, 601, 601, 0, 500, 500, 500, 500, 500, 500, 500, 500, 0, 301, 301, 301, 0, 601, 601, 0, 500, 500, 500, 500, 500, 500, 500, 16, 16, 0, 0, 301, 301, 301, 31000, 31000, 31000, 31000, 31000, 31000, 31000, 0, 0, 500, 500, 500, 500] : List Nat).getD k 0
def mOff (k : Nat) : Nat := ([1, 0, 0, 2, 3, 4, 0, 5, 6, 7, 8, 9, 10, 0, 11, 12, 13, 14, 0, 0, 0, 0, 0, 15, 0, 0, 0, 0, 0, 0, 16, 17, 18, 19, 20, 21, 22, 23, 24, 25, 0, 26, 27, 28, 29, 30, 31, 32, 33, 0, 34, 35, 36, 0, 37, 38, 0, 39, 40, 41, 42, 43, 44, 45, 46, 47, 0, 0, 48, 49, 50, 51, 52, 53, 54, 55, 56, 57, 0, 0, 58, 59, 60, 61] : List Nat).getD k 0
def mFld (j : Nat) : Nat := ([0, 0, 3, 4, 5, 7, 8, 9, 10, 11, 12, 14, 15, 16, 17, 23, 30, 31, 32, 33, 34, 35, 36, 37, 38, 39, 41, 42, 43, 44, 45, 46, 47, 48, 50, 51, 52, 54, 55, 57, 58, 59, 60, 61, 62, 63, 64, 65, 68, 69, 70, 71, 72, 73, 74, 75, 76, 77, 80, 81, 82, 83] : List Nat).getD j 0
def mNA : Nat := 61
def iI (z : Int) : Int32 := Int32.ofInt z
def lI (z : Int) : Int64 := Int64.ofInt z
theorem iI_add (a b : Int) : iI a + iI b = iI (a + b) := (Int32.ofInt_add a b).symm
theorem iI_sub (a b : Int) : iI a - iI b = iI (a - b) := (Int32.ofInt_sub a b).symm
theorem iI_mul (a b : Int) : iI a * iI b = iI (a * b) := (Int32.ofInt_mul a b).symm
theorem lI_add (a b : Int) : lI a + lI b = lI (a + b) := (Int64.ofInt_add a b).symm
theorem lI_sub (a b : Int) : lI a - lI b = lI (a - b) := (Int64.ofInt_sub a b).symm
theorem lI_mul (a b : Int) : lI a * lI b = lI (a * b) := (Int64.ofInt_mul a b).symm
/-- an int's range -/
abbrev iR (z : Int) : Prop := -2147483648 ≤ z ∧ z < 2147483648
abbrev lR (z : Int) : Prop := -9223372036854775808 ≤ z ∧ z < 9223372036854775808
theorem iI_toInt {z : Int} (h : iR z) : (iI z).toInt = z := Int32.toInt_ofInt_of_le (by simpa using h.1) (by simpa using h.2)
theorem lI_toInt {z : Int} (h : lR z) : (lI z).toInt = z := Int64.toInt_ofInt_of_le (by simpa using h.1) (by simpa using h.2)
theorem iI_eq {a b : Int} (ha : iR a) (hb : iR b) : iI a = iI b ↔ a = b :=
  ⟨fun h => by rw [← iI_toInt ha, ← iI_toInt hb, h], fun h => by rw [h]⟩
theorem iI_lt {a b : Int} (ha : iR a) (hb : iR b) : iI a < iI b ↔ a < b := by
  rw [Int32.lt_iff_toInt_lt, iI_toInt ha, iI_toInt hb]
theorem iI_le {a b : Int} (ha : iR a) (hb : iR b) : iI a ≤ iI b ↔ a ≤ b := by
  rw [Int32.le_iff_toInt_le, iI_toInt ha, iI_toInt hb]
theorem lI_eq {a b : Int} (ha : lR a) (hb : lR b) : lI a = lI b ↔ a = b :=
  ⟨fun h => by rw [← lI_toInt ha, ← lI_toInt hb, h], fun h => by rw [h]⟩
theorem lI_lt {a b : Int} (ha : lR a) (hb : lR b) : lI a < lI b ↔ a < b := by
  rw [Int64.lt_iff_toInt_lt, lI_toInt ha, lI_toInt hb]
theorem lI_le {a b : Int} (ha : lR a) (hb : lR b) : lI a ≤ lI b ↔ a ≤ b := by
  rw [Int64.le_iff_toInt_le, lI_toInt ha, lI_toInt hb]
theorem iI_self (x : Int32) : iI x.toInt = x := Int32.ofInt_toInt x
theorem iR_toInt (x : Int32) : iR x.toInt := ⟨by have := Int32.le_toInt x; simpa using this, by have := Int32.toInt_lt x; simpa using this⟩
theorem lI_self (x : Int64) : lI x.toInt = x := Int64.ofInt_toInt x
theorem lR_toInt (x : Int64) : lR x.toInt := ⟨by have := Int64.le_toInt x; simpa using this, by have := Int64.toInt_lt x; simpa using this⟩
theorem iI_in {z : Int} {n : Nat} (h : 0 ≤ z ∧ z < n) (hn : n < 2147483648) : vp_in (iI z) n := by
  rw [vp_in_iff, iI_toInt ⟨by omega, by omega⟩]; omega
theorem iI_clamp {z : Int} (h : 0 ≤ z ∧ z < 2147483648) : (iI z).toNatClampNeg = z.toNat := by
  show (iI z).toInt.toNat = _
  rw [iI_toInt ⟨by omega, by omega⟩]
theorem i2l_iI {z : Int} (h : iR z) : (iI z).toInt64 = lI z := by
  apply Int64.toInt_inj.mp
  rw [Int32.toInt_toInt64, iI_toInt h, lI_toInt ⟨by omega, by omega⟩]
theorem l2i_lI (z : Int) : (lI z).toInt32 = iI z := by
  apply Int32.toInt_inj.mp
  show (Int64.ofInt z).toInt32.toInt = (Int32.ofInt z).toInt
  rw [Int64.toInt_toInt32, Int64.toInt_ofInt, Int32.toInt_ofInt, Int.bmod_bmod_of_dvd (by decide)]
abbrev MSt : Type := (Nat → Int) × (Nat → Int → Int)
/-- a scalar is written -/
def mS (S : MSt) (k : Nat) (z : Int) : MSt := (fun j => if j = k then z else S.1 j, S.2)
/-- an array's place is written -/
def mU (S : MSt) (k : Nat) (i z : Int) : MSt := (S.1, fun j q => if j = k ∧ q = i then z else S.2 j q)
def lk {α : Type} : List (Nat × α) → Nat → Option α
  | [], _ => none
  | (j, u) :: r, k => if k = j then some u else lk r k
def ins {α : Type} : List (Nat × α) → Nat → α → List (Nat × α)
  | [], k, u => [(k, u)]
  | (j, w) :: r, k, u => if k = j then (k, u) :: r else (j, w) :: ins r k u
def mg {α : Type} : List (Nat × α) → List (Nat × α) → List (Nat × α)
  | [], l => l
  | (k, u) :: a, l => ins (mg a l) k u
/-- a state with some arrays and scalars put in place -/
def mP (S : MSt) (l : List (Nat × (Int → Int))) (sc : List (Nat × Int)) : MSt := (fun k => (lk sc k).getD (S.1 k), fun k => (lk l k).getD (S.2 k))
def upI (f : Int → Int) (k z : Int) : Int → Int := fun j => if j = k then z else f j
theorem upI_s (f : Int → Int) (k z : Int) : upI f k z k = z := by simp [upI]
theorem upI_n {f : Int → Int} {k z j : Int} (h : j ≠ k) : upI f k z j = f j := by simp [upI, h]
theorem lk_c {α : Type} (j : Nat) (u : α) (r : List (Nat × α)) (k : Nat) : lk ((j, u) :: r) k = if k = j then some u else lk r k := rfl
theorem lk_ins {α : Type} (l : List (Nat × α)) (k : Nat) (u : α) (j : Nat) : lk (ins l k u) j = if j = k then some u else lk l j := by
  induction l with
  | nil => rfl
  | cons a l ih =>
    obtain ⟨i, w⟩ := a
    by_cases hk : k = i
    · subst hk
      rw [show ins ((k, w) :: l) k u = (k, u) :: l from if_pos rfl, lk_c, lk_c]
      split <;> rfl
    · rw [show ins ((i, w) :: l) k u = (i, w) :: ins l k u from if_neg hk, lk_c, lk_c, ih]
      by_cases hj : j = i
      · have : j ≠ k := fun e => hk (by omega)
        rw [if_pos hj, if_neg this, if_pos hj]
      · rw [if_neg hj, if_neg hj]
theorem lk_mg {α : Type} (a l : List (Nat × α)) (k : Nat) : lk (mg a l) k = (lk a k).or (lk l k) := by
  induction a with
  | nil => rfl
  | cons x a ih =>
    obtain ⟨i, u⟩ := x
    rw [show mg ((i, u) :: a) l = ins (mg a l) i u from rfl, lk_ins, lk_c, ih]
    by_cases hk : k = i
    · rw [if_pos hk, if_pos hk]; rfl
    · rw [if_neg hk, if_neg hk]
theorem mS_mP {S : MSt} {l : List (Nat × (Int → Int))} {sc sc' : List (Nat × Int)} {k : Nat} {z : Int} (h : ins sc k z = sc') : mS (mP S l sc) k z = mP S l sc' := by
  subst h
  refine Prod.ext ?_ rfl
  funext j
  show (if j = k then z else (lk sc j).getD (S.1 j)) = (lk (ins sc k z) j).getD (S.1 j)
  rw [lk_ins]
  by_cases hj : j = k
  · rw [if_pos hj, if_pos hj]; rfl
  · rw [if_neg hj, if_neg hj]
theorem mU_mP {S : MSt} {l l' : List (Nat × (Int → Int))} {sc : List (Nat × Int)} {k : Nat} {i z : Int} {f : Int → Int} (hf : (mP S l sc).2 k = f) (h : ins l k (upI f i z) = l') : mU (mP S l sc) k i z = mP S l' sc := by
  subst h
  refine Prod.ext rfl ?_
  funext j q
  show (if j = k ∧ q = i then z else (lk l j).getD (S.2 j) q) = (lk (ins l k (upI f i z)) j).getD (S.2 j) q
  rw [lk_ins]
  by_cases hj : j = k
  · subst hj
    rw [if_pos rfl]
    have hf : (lk l j).getD (S.2 j) = f := hf
    rw [hf]
    simp [upI]
  · rw [if_neg hj]
    simp [hj]
theorem mP_mP {S : MSt} {l l2 l' : List (Nat × (Int → Int))} {sc sc2 sc' : List (Nat × Int)} (h : mg l2 l = l') (h2 : mg sc2 sc = sc') : mP (mP S l sc) l2 sc2 = mP S l' sc' := by
  subst h; subst h2
  refine Prod.ext ?_ ?_
  · funext j
    show (lk sc2 j).getD ((lk sc j).getD (S.1 j)) = (lk (mg sc2 sc) j).getD (S.1 j)
    rw [lk_mg]
    cases lk sc2 j <;> simp
  · funext j
    show (lk l2 j).getD ((lk l j).getD (S.2 j)) = (lk (mg l2 l) j).getD (S.2 j)
    rw [lk_mg]
    cases lk l2 j <;> simp
/-- what is put in place may be what was there -/
theorem mP_add {S : MSt} {l l' : List (Nat × (Int → Int))} {sc : List (Nat × Int)} {k : Nat} {f : Int → Int} (hf : (mP S l sc).2 k = f) (h : ins l k f = l') : mP S l sc = mP S l' sc := by
  subst h
  refine Prod.ext rfl ?_
  funext j
  show (lk l j).getD (S.2 j) = (lk (ins l k f) j).getD (S.2 j)
  rw [lk_ins]
  by_cases hj : j = k
  · subst hj; rw [if_pos rfl]; exact hf
  · rw [if_neg hj]
theorem mP_addc {S : MSt} {l : List (Nat × (Int → Int))} {sc sc' : List (Nat × Int)} {k : Nat} {z : Int} (hf : (mP S l sc).1 k = z) (h : ins sc k z = sc') : mP S l sc = mP S l sc' := by
  subst h
  refine Prod.ext ?_ rfl
  funext j
  show (lk sc j).getD (S.1 j) = (lk (ins sc k z) j).getD (S.1 j)
  rw [lk_ins]
  by_cases hj : j = k
  · subst hj; rw [if_pos rfl]; exact hf
  · rw [if_neg hj]
/-- the same by look-up -/
theorem mP_ext {S : MSt} {l l' : List (Nat × (Int → Int))} {sc sc' : List (Nat × Int)} (h1 : ∀ k, lk l k = lk l' k) (h2 : ∀ k, lk sc k = lk sc' k) : mP S l sc = mP S l' sc' := by
  refine Prod.ext ?_ ?_
  · funext j; show (lk sc j).getD _ = (lk sc' j).getD _; rw [h2]
  · funext j; show (lk l j).getD _ = (lk l' j).getD _; rw [h1]
def mV (o : Nat) (S : MSt) (k : Nat) : Value := if mKind k = 0 then .int (iI (S.1 k)) else .ref (o + mOff k)
def mFs (o : Nat) (S : MSt) : List Value := (List.range 84).map (mV o S)
def mCell (ca : Nat → ClassId) (S : MSt) (k : Nat) : ClassId × vp_A :=
  if mKind k = 1 then (ca 0, mLen k, .inl (fun j => iI (S.2 k j)))
  else if mKind k = 2 then (ca 1, mLen k, .inr (.inl (fun j => lI (S.2 k j))))
  else if mKind k = 3 then (ca 2, mLen k, .inl (fun j => iI (S.2 k j)))
  else (ca 3, mLen k, .inl (fun j => iI (S.2 k j)))
abbrev mTag : gT := (9, 9)
def mH (ca : Nat → ClassId) (o : Nat) (S : MSt) : gH := fun a =>
  if a = o then some (mTag, .inr (1, mFs o S))
  else if o < a ∧ a ≤ o + mNA then some (mTag, .inl (mCell ca S (mFld (a - o)))) else none
def mA (o : Nat) : Nat → Prop := fun q => o ≤ q ∧ q ≤ o + mNA
theorem mTab : ∀ k, k < 84 → mKind k ≠ 0 → 0 < mOff k ∧ mOff k ≤ mNA ∧ mFld (mOff k) = k := by decide +kernel
theorem mH_o {ca : Nat → ClassId} {o : Nat} {S : MSt} : mH ca o S o = some (mTag, .inr (1, mFs o S)) := by simp [mH]
theorem mH_a {ca : Nat → ClassId} {o : Nat} {S : MSt} {k : Nat} (hk : k < 84) (hn : mKind k ≠ 0) : mH ca o S (o + mOff k) = some (mTag, .inl (mCell ca S k)) := by
  obtain ⟨h1, h2, h3⟩ := mTab k hk hn
  unfold mH
  rw [if_neg (by omega), if_pos ⟨by omega, by omega⟩, show o + mOff k - o = mOff k by omega, h3]
theorem mFs_get {o : Nat} {S : MSt} {k : Nat} (hk : k < 84) : (mFs o S)[k]? = some (mV o S k) := by
  simp [mFs, hk]
theorem mFs_len {o : Nat} {S : MSt} : (mFs o S).length = 84 := by simp [mFs]
theorem mFs_set {o : Nat} {S : MSt} {k : Nat} {z : Int} (hk : k < 84) (h0 : mKind k = 0) : (mFs o S).set k (.int (iI z)) = mFs o (mS S k z) := by
  apply List.ext_getElem?
  intro j
  by_cases hj : j < 84
  · rw [mFs_get hj]
    by_cases hjk : j = k
    · subst hjk
      rw [List.getElem?_set_self (by rw [mFs_len]; exact hj)]
      simp [mV, h0, mS]
    · rw [List.getElem?_set_ne (Ne.symm hjk), mFs_get hj]
      simp [mV, mS, hjk]
  · rw [List.getElem?_eq_none (by rw [List.length_set, mFs_len]; omega), List.getElem?_eq_none (by rw [mFs_len]; omega)]
theorem mCell_mS {ca : Nat → ClassId} {S : MSt} {k j : Nat} {z : Int} : mCell ca (mS S k z) j = mCell ca S j := rfl
theorem mH_mS {ca : Nat → ClassId} {o : Nat} {S : MSt} {k : Nat} {z : Int} (hk : k < 84) (h0 : mKind k = 0) : va_up (mH ca o S) o (some (mTag, .inr (1, (mFs o S).set k (.int (iI z))))) = mH ca o (mS S k z) := by
  funext a
  unfold va_up
  by_cases ha : a = o
  · rw [if_pos ha, ha, mH_o, mFs_set hk h0]
  · rw [if_neg ha]
    unfold mH
    rw [if_neg ha, if_neg ha]
    rfl
theorem mFs_mU {o : Nat} {S : MSt} {k : Nat} {i z : Int} : mFs o (mU S k i z) = mFs o S := rfl
theorem mFldTab : ∀ j, 0 < j → j ≤ mNA → mFld j < 84 ∧ mOff (mFld j) = j := by
  have h : ∀ j, j ≤ mNA → 0 < j → mFld j < 84 ∧ mOff (mFld j) = j := by decide +kernel
  exact fun j a b => h j b a
theorem mH_mU {ca : Nat → ClassId} {o : Nat} {S : MSt} {k : Nat} {i z : Int} {x : ClassId × vp_A} (hk : k < 84) (hn : mKind k ≠ 0) (hx : x = mCell ca (mU S k i z) k) : va_up (mH ca o S) (o + mOff k) (some (mTag, .inl x)) = mH ca o (mU S k i z) := by
  obtain ⟨h1, h2, h3⟩ := mTab k hk hn
  funext a
  unfold va_up
  by_cases ha : a = o + mOff k
  · rw [if_pos ha, ha, mH_a hk hn, hx]
  · rw [if_neg ha]
    unfold mH
    by_cases ho : a = o
    · rw [if_pos ho, if_pos ho, mFs_mU]
    · rw [if_neg ho, if_neg ho]
      by_cases hr : o < a ∧ a ≤ o + mNA
      · rw [if_pos hr, if_pos hr]
        have hf : mFld (a - o) ≠ k := by
          intro e
          have := (mFldTab (a - o) (by omega) (by omega)).2
          rw [e] at this
          omega
        congr 2
        unfold mCell mU
        simp only [hf, false_and, if_false]
      · rw [if_neg hr, if_neg hr]
section MROWS
variable {p : Program} {l : Launch} {e : Env} {R : Room} {s : State} {m : MethodId} {args : Array Value} {below : List Frame} {meth : Method} {c : Code} {H : Heap} {locs : List Loc} {cells slots : Nat} {Q : State → Prop}
variable {cc : ByteArray} {pc nL : Nat} {ls : Array Slot} {rest : List Value} {D : va_G} {ca : Nat → ClassId} {o : Nat} {S : MSt} {H0 : Heap} {a : Nat}
theorem m_get (X : CallFix p m c cc nL s args lw_all RX1) (hK : va_K D vwCl (gTys ca) s) (hG : gOk D (mA o) (mH ca o S) H) (k : Nat) (hk : k < 84) {index : Nat} {ref : String} (hlink : (Cond.fieldLink RX1 index ref (TX1 k).2.1 (TX1 k).2.2.1) ∈ lw_all) (hr : (TX1 k).1 = ref) {v : Value} (hv : mV o S k = v) (hdg : decode cc pc = .ok (.getfield index, 3)) (kk : W p l e R s m args below meth c H locs cells slots Q (F0 m (pc + 3) ls (v :: rest))) : W p l e R s m args below meth c H locs cells slots Q (F0 m pc ls (.ref o :: rest)) :=
  g_get X in_X1 hK hG mH_o rfl k hk hlink (fun _ h => by rw [← hr]; exact h) (by rw [mFs_get hk, hv]) hdg kk
theorem m_put (X : CallFix p m c cc nL s args lw_all RX1) (hK : va_K D vwCl (gTys ca) s) (hG : gOk D (mA o) (mH ca o S) H) (hS : va_S (mA o) H0 H locs) (k : Nat) (hk : k < 84) (h0 : mKind k = 0) (hr : (TX1 k).1 = RX1) {index : Nat} (hlink : (Cond.fieldLink RX1 index RX1 (TX1 k).2.1 (TX1 k).2.2.1) ∈ lw_all) {z : Int} {ty : FieldType} (hty : tyX1 k = ty) (hfin : (TX1 k).2.2.2 = false) (hn : narrow ty (.int (iI z)) = .int (iI z)) (hfit : fits ty (.int (iI z)) = true) (hdg : decode cc pc = .ok (.putfield index, 3)) (kk : ∀ (H1 : Heap) (locs1 : List Loc), gOk D (mA o) (mH ca o (mS S k z)) H1 → va_S (mA o) H0 H1 locs1 → W p l e R s m args below meth c H1 locs1 cells slots Q (F0 m (pc + 3) ls rest)) : W p l e R s m args below meth c H locs cells slots Q (F0 m pc ls (.int (iI z) :: .ref o :: rest)) :=
  g_put X in_X1 tyX1 tyX1_ok nmX1 hK hG hS mH_o rfl k hk hlink (fun _ h => by rw [← hr]; exact h) hfin (by rw [hty]; exact hn) (by rw [hty]; exact hfit) (by rw [mFs_len]; exact hk) hdg (fun H1 locs1 hg hs _ => kk H1 locs1 (by rw [← mH_mS hk h0]; exact hg) hs)
theorem mClamp {z : Int} {n : Nat} (h : 0 ≤ z ∧ z < n) (hn : n ≤ 100000) : (((iI z).toNatClampNeg : Nat) : Int) = z := by
  rw [iI_clamp ⟨h.1, by omega⟩]; omega
theorem mLenTab : ∀ k, k < 84 → mLen k ≤ 100000 := by decide +kernel
theorem m_iald (X : CallFix p m c cc nL s args lw_all RX1) (hK : va_K D vwCl (gTys ca) s) (hG : gOk D (mA o) (mH ca o S) H) (k : Nat) (hk : k < 84) (h1 : mKind k = 1) (ha : o + mOff k = a) {z : Int} (hz : 0 ≤ z ∧ z < mLen k) (hdg : decode cc pc = .ok (.iaload, 1)) (kk : W p l e R s m args below meth c H locs cells slots Q (F0 m (pc + 1) ls (.int (iI (S.2 k z)) :: rest))) : W p l e R s m args below meth c H locs cells slots Q (F0 m pc ls (.int (iI z) :: .ref a :: rest)) := by
  subst ha
  have hl := mLenTab k hk
  refine g_iald X hK hG 0 (f := fun j => iI (S.2 k j)) (n := mLen k) (cA := ca 0) (tg := mTag) ?_ rfl (iI_in hz (by omega)) hdg ?_
  · rw [mH_a hk (by omega)]; simp [mCell, h1]
  · show W p l e R s m args below meth c H locs cells slots Q (F0 m (pc + 1) ls (.int (iI (S.2 k ((iI z).toNatClampNeg : Nat))) :: rest))
    rw [mClamp hz hl]; exact kk
theorem m_lald (X : CallFix p m c cc nL s args lw_all RX1) (hK : va_K D vwCl (gTys ca) s) (hG : gOk D (mA o) (mH ca o S) H) (k : Nat) (hk : k < 84) (h1 : mKind k = 2) (ha : o + mOff k = a) {z : Int} (hz : 0 ≤ z ∧ z < mLen k) (hdg : decode cc pc = .ok (.laload, 1)) (kk : W p l e R s m args below meth c H locs cells slots Q (F0 m (pc + 1) ls (.long (lI (S.2 k z)) :: rest))) : W p l e R s m args below meth c H locs cells slots Q (F0 m pc ls (.int (iI z) :: .ref a :: rest)) := by
  subst ha
  have hl := mLenTab k hk
  refine g_lald X hK hG 1 (f := fun j => lI (S.2 k j)) (n := mLen k) (cA := ca 1) (tg := mTag) ?_ rfl (iI_in hz (by omega)) hdg ?_
  · rw [mH_a hk (by omega)]; simp [mCell, h1]
  · show W p l e R s m args below meth c H locs cells slots Q (F0 m (pc + 1) ls (.long (lI (S.2 k ((iI z).toNatClampNeg : Nat))) :: rest))
    rw [mClamp hz hl]; exact kk
theorem m_bald (X : CallFix p m c cc nL s args lw_all RX1) (hK : va_K D vwCl (gTys ca) s) (hG : gOk D (mA o) (mH ca o S) H) (k : Nat) (hk : k < 84) (h1 : mKind k = 3) (ha : o + mOff k = a) {z : Int} (hz : 0 ≤ z ∧ z < mLen k) (hdg : decode cc pc = .ok (.baload, 1)) (kk : W p l e R s m args below meth c H locs cells slots Q (F0 m (pc + 1) ls (.int (iI (S.2 k z)) :: rest))) : W p l e R s m args below meth c H locs cells slots Q (F0 m pc ls (.int (iI z) :: .ref a :: rest)) := by
  subst ha
  have hl := mLenTab k hk
  refine g_bald X hK hG 2 (f := fun j => iI (S.2 k j)) (n := mLen k) (cA := ca 2) (tg := mTag) ?_ rfl (iI_in hz (by omega)) hdg ?_
  · rw [mH_a hk (by omega)]; simp [mCell, h1]
  · show W p l e R s m args below meth c H locs cells slots Q (F0 m (pc + 1) ls (.int (iI (S.2 k ((iI z).toNatClampNeg : Nat))) :: rest))
    rw [mClamp hz hl]; exact kk
theorem m_zald (X : CallFix p m c cc nL s args lw_all RX1) (hK : va_K D vwCl (gTys ca) s) (hG : gOk D (mA o) (mH ca o S) H) (k : Nat) (hk : k < 84) (h1 : mKind k = 4) (ha : o + mOff k = a) {z : Int} (hz : 0 ≤ z ∧ z < mLen k) (hdg : decode cc pc = .ok (.baload, 1)) (kk : W p l e R s m args below meth c H locs cells slots Q (F0 m (pc + 1) ls (.int (iI (S.2 k z)) :: rest))) : W p l e R s m args below meth c H locs cells slots Q (F0 m pc ls (.int (iI z) :: .ref a :: rest)) := by
  subst ha
  have hl := mLenTab k hk
  refine g_zald X hK hG 3 (f := fun j => iI (S.2 k j)) (n := mLen k) (cA := ca 3) (tg := mTag) ?_ rfl (iI_in hz (by omega)) hdg ?_
  · rw [mH_a hk (by omega)]; simp [mCell, h1]
  · show W p l e R s m args below meth c H locs cells slots Q (F0 m (pc + 1) ls (.int (iI (S.2 k ((iI z).toNatClampNeg : Nat))) :: rest))
    rw [mClamp hz hl]; exact kk
theorem mUpd {k n : Nat} {z x : Int} {S : MSt} (hz : 0 ≤ z ∧ z < n) (hn : n ≤ 100000) : upd (fun j : Nat => iI (S.2 k j)) (iI z).toNatClampNeg (iI x) = fun j : Nat => iI ((mU S k z x).2 k j) := by
  funext j
  have hc := mClamp hz hn
  by_cases hj : j = (iI z).toNatClampNeg
  · have : (j : Int) = z := by rw [hj]; exact hc
    simp [upd, hj, mU, hc]
  · have : ¬ (j : Int) = z := fun e => hj (by omega)
    simp [upd, hj, mU, this]
theorem mUpdL {k n : Nat} {z x : Int} {S : MSt} (hz : 0 ≤ z ∧ z < n) (hn : n ≤ 100000) : vp_updL (fun j : Nat => lI (S.2 k j)) (iI z).toNatClampNeg (lI x) = fun j : Nat => lI ((mU S k z x).2 k j) := by
  funext j
  have hc := mClamp hz hn
  by_cases hj : j = (iI z).toNatClampNeg
  · have : (j : Int) = z := by rw [hj]; exact hc
    simp [vp_updL, hj, mU, hc]
  · have : ¬ (j : Int) = z := fun e => hj (by omega)
    simp [vp_updL, hj, mU, this]
theorem m_iast (X : CallFix p m c cc nL s args lw_all RX1) (hK : va_K D vwCl (gTys ca) s) (hG : gOk D (mA o) (mH ca o S) H) (hS : va_S (mA o) H0 H locs) (k : Nat) (hk : k < 84) (h1 : mKind k = 1) (ha : o + mOff k = a) {z x : Int} (hz : 0 ≤ z ∧ z < mLen k) (hdg : decode cc pc = .ok (.iastore, 1)) (kk : ∀ (H1 : Heap) (locs1 : List Loc), gOk D (mA o) (mH ca o (mU S k z x)) H1 → va_S (mA o) H0 H1 locs1 → W p l e R s m args below meth c H1 locs1 cells slots Q (F0 m (pc + 1) ls rest)) : W p l e R s m args below meth c H locs cells slots Q (F0 m pc ls (.int (iI x) :: .int (iI z) :: .ref a :: rest)) := by
  subst ha
  have hl := mLenTab k hk
  refine g_iast X hK hG hS 0 (f := fun j => iI (S.2 k j)) (n := mLen k) (cA := ca 0) (tg := mTag) ?_ rfl (iI_in hz (by omega)) hdg (fun H1 locs1 hg hs _ => kk H1 locs1 ?_ hs)
  · rw [mH_a hk (by omega)]; simp [mCell, h1]
  · rw [← mH_mU hk (by omega) rfl]
    rw [mUpd hz hl] at hg
    simpa [mCell, h1] using hg
theorem m_last (X : CallFix p m c cc nL s args lw_all RX1) (hK : va_K D vwCl (gTys ca) s) (hG : gOk D (mA o) (mH ca o S) H) (hS : va_S (mA o) H0 H locs) (k : Nat) (hk : k < 84) (h1 : mKind k = 2) (ha : o + mOff k = a) {z x : Int} (hz : 0 ≤ z ∧ z < mLen k) (hdg : decode cc pc = .ok (.lastore, 1)) (kk : ∀ (H1 : Heap) (locs1 : List Loc), gOk D (mA o) (mH ca o (mU S k z x)) H1 → va_S (mA o) H0 H1 locs1 → W p l e R s m args below meth c H1 locs1 cells slots Q (F0 m (pc + 1) ls rest)) : W p l e R s m args below meth c H locs cells slots Q (F0 m pc ls (.long (lI x) :: .int (iI z) :: .ref a :: rest)) := by
  subst ha
  have hl := mLenTab k hk
  refine g_last X hK hG hS 1 (f := fun j => lI (S.2 k j)) (n := mLen k) (cA := ca 1) (tg := mTag) ?_ rfl (iI_in hz (by omega)) hdg (fun H1 locs1 hg hs _ => kk H1 locs1 ?_ hs)
  · rw [mH_a hk (by omega)]; simp [mCell, h1]
  · rw [← mH_mU hk (by omega) rfl]
    rw [mUpdL hz hl] at hg
    simpa [mCell, h1] using hg
theorem byteNar {x : Int} (hx : -128 ≤ x ∧ x < 128) : vp_nar .byte (iI x) = iI x := by
  rw [vp_nar_byte]
  apply Int32.toInt_inj.mp
  rw [Int8.toInt_toInt32, iI_toInt ⟨by omega, by omega⟩]
  show ((iI x).toInt8).toInt = x
  rw [Int32.toInt_toInt8, iI_toInt ⟨by omega, by omega⟩]
  exact Int.bmod_eq_of_le (by omega) (by omega)
theorem boolNar {x : Int} (hx : x = 0 ∨ x = 1) : vp_nar .boolean (iI x) = iI x := by
  rcases hx with rfl | rfl <;> decide
theorem m_bast (X : CallFix p m c cc nL s args lw_all RX1) (hK : va_K D vwCl (gTys ca) s) (hG : gOk D (mA o) (mH ca o S) H) (hS : va_S (mA o) H0 H locs) (k : Nat) (hk : k < 84) (h1 : mKind k = 3) (ha : o + mOff k = a) {z x : Int} (hz : 0 ≤ z ∧ z < mLen k) (hx : -128 ≤ x ∧ x < 128) (hdg : decode cc pc = .ok (.bastore, 1)) (kk : ∀ (H1 : Heap) (locs1 : List Loc), gOk D (mA o) (mH ca o (mU S k z x)) H1 → va_S (mA o) H0 H1 locs1 → W p l e R s m args below meth c H1 locs1 cells slots Q (F0 m (pc + 1) ls rest)) : W p l e R s m args below meth c H locs cells slots Q (F0 m pc ls (.int (iI x) :: .int (iI z) :: .ref a :: rest)) := by
  subst ha
  have hl := mLenTab k hk
  refine g_bast X hK hG hS 2 (f := fun j => iI (S.2 k j)) (n := mLen k) (cA := ca 2) (tg := mTag) ?_ rfl (iI_in hz (by omega)) hdg (fun H1 locs1 hg hs _ => kk H1 locs1 ?_ hs)
  · rw [mH_a hk (by omega)]; simp [mCell, h1]
  · rw [← mH_mU hk (by omega) rfl]
    rw [byteNar hx, mUpd hz hl] at hg
    simpa [mCell, h1] using hg
theorem m_zast (X : CallFix p m c cc nL s args lw_all RX1) (hK : va_K D vwCl (gTys ca) s) (hG : gOk D (mA o) (mH ca o S) H) (hS : va_S (mA o) H0 H locs) (k : Nat) (hk : k < 84) (h1 : mKind k = 4) (ha : o + mOff k = a) {z x : Int} (hz : 0 ≤ z ∧ z < mLen k) (hx : x = 0 ∨ x = 1) (hdg : decode cc pc = .ok (.bastore, 1)) (kk : ∀ (H1 : Heap) (locs1 : List Loc), gOk D (mA o) (mH ca o (mU S k z x)) H1 → va_S (mA o) H0 H1 locs1 → W p l e R s m args below meth c H1 locs1 cells slots Q (F0 m (pc + 1) ls rest)) : W p l e R s m args below meth c H locs cells slots Q (F0 m pc ls (.int (iI x) :: .int (iI z) :: .ref a :: rest)) := by
  subst ha
  have hl := mLenTab k hk
  refine g_zast X hK hG hS 3 (f := fun j => iI (S.2 k j)) (n := mLen k) (cA := ca 3) (tg := mTag) ?_ rfl (iI_in hz (by omega)) hdg (fun H1 locs1 hg hs _ => kk H1 locs1 ?_ hs)
  · rw [mH_a hk (by omega)]; simp [mCell, h1]
  · rw [← mH_mU hk (by omega) rfl]
    rw [boolNar hx, mUpd hz hl] at hg
    simpa [mCell, h1] using hg
end MROWS

section MFIELDS
variable {p : Program} {l : Launch} {e : Env} {R : Room} {s : State} {m : MethodId} {args : Array Value} {below : List Frame} {meth : Method} {c : Code} {H : Heap} {locs : List Loc} {cells slots : Nat} {Q : State → Prop} {cc : ByteArray} {pc nL : Nat} {ls : Array Slot} {rest : List Value} {D : va_G} {ca : Nat → ClassId} {o : Nat} {S : MSt} {H0 : Heap}
/-- the field tape -/
abbrev k_tape : Nat := 0
theorem mg_tape (X : CallFix p m c cc nL s args lw_all RX1) (hK : va_K D vwCl (gTys ca) s) (hG : gOk D (mA o) (mH ca o S) H) (hdg : decode cc pc = .ok (.getfield 7, 3)) (kk : W p l e R s m args below meth c H locs cells slots Q (F0 m (pc + 3) ls (.ref (o + 1) :: rest))) : W p l e R s m args below meth c H locs cells slots Q (F0 m pc ls (.ref o :: rest)) :=
  m_get X hK hG 0 (by decide) q1174 rfl (rfl) hdg kk
theorem ml_tape (X : CallFix p m c cc nL s args lw_all RX1) (hK : va_K D vwCl (gTys ca) s) (hG : gOk D (mA o) (mH ca o S) H) {z : Int} (f : Int → Int) (hf : S.2 0 = f) (hz : 0 ≤ z ∧ z < 600) (hdg : decode cc pc = .ok (.baload, 1)) (kk : W p l e R s m args below meth c H locs cells slots Q (F0 m (pc + 1) ls (.int (iI (f z)) :: rest))) : W p l e R s m args below meth c H locs cells slots Q (F0 m pc ls (.int (iI z) :: .ref (o + 1) :: rest)) :=
  m_bald X hK hG 0 (by decide) rfl rfl hz hdg (by rw [hf]; exact kk)
theorem ms_tape (X : CallFix p m c cc nL s args lw_all RX1) (hK : va_K D vwCl (gTys ca) s) (hG : gOk D (mA o) (mH ca o S) H) (hS : va_S (mA o) H0 H locs) {z x : Int} (hz : 0 ≤ z ∧ z < 600) (hx : -128 ≤ x ∧ x < 128) (hdg : decode cc pc = .ok (.bastore, 1)) (kk : ∀ (H1 : Heap) (locs1 : List Loc), gOk D (mA o) (mH ca o (mU S 0 z x)) H1 → va_S (mA o) H0 H1 locs1 → W p l e R s m args below meth c H1 locs1 cells slots Q (F0 m (pc + 1) ls rest)) : W p l e R s m args below meth c H locs cells slots Q (F0 m pc ls (.int (iI x) :: .int (iI z) :: .ref (o + 1) :: rest)) :=
  m_bast X hK hG hS 0 (by decide) rfl rfl hz hx hdg kk
/-- the field size -/
abbrev k_size : Nat := 1
theorem mg_size (X : CallFix p m c cc nL s args lw_all RX1) (hK : va_K D vwCl (gTys ca) s) (hG : gOk D (mA o) (mH ca o S) H) (z : Int) (hz : S.1 1 = z) (hdg : decode cc pc = .ok (.getfield 198, 3)) (kk : W p l e R s m args below meth c H locs cells slots Q (F0 m (pc + 3) ls (.int (iI z) :: rest))) : W p l e R s m args below meth c H locs cells slots Q (F0 m pc ls (.ref o :: rest)) :=
  m_get X hK hG 1 (by decide) q1175 rfl (by rw [← hz]; rfl) hdg kk
theorem mp_size (X : CallFix p m c cc nL s args lw_all RX1) (hK : va_K D vwCl (gTys ca) s) (hG : gOk D (mA o) (mH ca o S) H) (hS : va_S (mA o) H0 H locs) {z : Int} (hdg : decode cc pc = .ok (.putfield 198, 3)) (kk : ∀ (H1 : Heap) (locs1 : List Loc), gOk D (mA o) (mH ca o (mS S 1 z)) H1 → va_S (mA o) H0 H1 locs1 → W p l e R s m args below meth c H1 locs1 cells slots Q (F0 m (pc + 3) ls rest)) : W p l e R s m args below meth c H locs cells slots Q (F0 m pc ls (.int (iI z) :: .ref o :: rest)) :=
  m_put X hK hG hS 1 (by decide) rfl rfl q1175 rfl (by decide +kernel) rfl rfl hdg kk
/-- the field tokens -/
abbrev k_tokens : Nat := 2
theorem mg_tokens (X : CallFix p m c cc nL s args lw_all RX1) (hK : va_K D vwCl (gTys ca) s) (hG : gOk D (mA o) (mH ca o S) H) (z : Int) (hz : S.1 2 = z) (hdg : decode cc pc = .ok (.getfield 202, 3)) (kk : W p l e R s m args below meth c H locs cells slots Q (F0 m (pc + 3) ls (.int (iI z) :: rest))) : W p l e R s m args below meth c H locs cells slots Q (F0 m pc ls (.ref o :: rest)) :=
  m_get X hK hG 2 (by decide) q1176 rfl (by rw [← hz]; rfl) hdg kk
theorem mp_tokens (X : CallFix p m c cc nL s args lw_all RX1) (hK : va_K D vwCl (gTys ca) s) (hG : gOk D (mA o) (mH ca o S) H) (hS : va_S (mA o) H0 H locs) {z : Int} (hdg : decode cc pc = .ok (.putfield 202, 3)) (kk : ∀ (H1 : Heap) (locs1 : List Loc), gOk D (mA o) (mH ca o (mS S 2 z)) H1 → va_S (mA o) H0 H1 locs1 → W p l e R s m args below meth c H1 locs1 cells slots Q (F0 m (pc + 3) ls rest)) : W p l e R s m args below meth c H locs cells slots Q (F0 m pc ls (.int (iI z) :: .ref o :: rest)) :=
  m_put X hK hG hS 2 (by decide) rfl rfl q1176 rfl (by decide +kernel) rfl rfl hdg kk
/-- the field sort -/
abbrev k_sort : Nat := 3
theorem mg_sort (X : CallFix p m c cc nL s args lw_all RX1) (hK : va_K D vwCl (gTys ca) s) (hG : gOk D (mA o) (mH ca o S) H) (hdg : decode cc pc = .ok (.getfield 13, 3)) (kk : W p l e R s m args below meth c H locs cells slots Q (F0 m (pc + 3) ls (.ref (o + 2) :: rest))) : W p l e R s m args below meth c H locs cells slots Q (F0 m pc ls (.ref o :: rest)) :=
  m_get X hK hG 3 (by decide) q1177 rfl (rfl) hdg kk
theorem ml_sort (X : CallFix p m c cc nL s args lw_all RX1) (hK : va_K D vwCl (gTys ca) s) (hG : gOk D (mA o) (mH ca o S) H) {z : Int} (f : Int → Int) (hf : S.2 3 = f) (hz : 0 ≤ z ∧ z < 601) (hdg : decode cc pc = .ok (.iaload, 1)) (kk : W p l e R s m args below meth c H locs cells slots Q (F0 m (pc + 1) ls (.int (iI (f z)) :: rest))) : W p l e R s m args below meth c H locs cells slots Q (F0 m pc ls (.int (iI z) :: .ref (o + 2) :: rest)) :=
  m_iald X hK hG 3 (by decide) rfl rfl hz hdg (by rw [hf]; exact kk)
theorem ms_sort (X : CallFix p m c cc nL s args lw_all RX1) (hK : va_K D vwCl (gTys ca) s) (hG : gOk D (mA o) (mH ca o S) H) (hS : va_S (mA o) H0 H locs) {z x : Int} (hz : 0 ≤ z ∧ z < 601) (hdg : decode cc pc = .ok (.iastore, 1)) (kk : ∀ (H1 : Heap) (locs1 : List Loc), gOk D (mA o) (mH ca o (mU S 3 z x)) H1 → va_S (mA o) H0 H1 locs1 → W p l e R s m args below meth c H1 locs1 cells slots Q (F0 m (pc + 1) ls rest)) : W p l e R s m args below meth c H locs cells slots Q (F0 m pc ls (.int (iI x) :: .int (iI z) :: .ref (o + 2) :: rest)) :=
  m_iast X hK hG hS 3 (by decide) rfl rfl hz hdg kk
/-- the field place -/
abbrev k_place : Nat := 4
theorem mg_place (X : CallFix p m c cc nL s args lw_all RX1) (hK : va_K D vwCl (gTys ca) s) (hG : gOk D (mA o) (mH ca o S) H) (hdg : decode cc pc = .ok (.getfield 17, 3)) (kk : W p l e R s m args below meth c H locs cells slots Q (F0 m (pc + 3) ls (.ref (o + 3) :: rest))) : W p l e R s m args below meth c H locs cells slots Q (F0 m pc ls (.ref o :: rest)) :=
  m_get X hK hG 4 (by decide) q1178 rfl (rfl) hdg kk
theorem ml_place (X : CallFix p m c cc nL s args lw_all RX1) (hK : va_K D vwCl (gTys ca) s) (hG : gOk D (mA o) (mH ca o S) H) {z : Int} (f : Int → Int) (hf : S.2 4 = f) (hz : 0 ≤ z ∧ z < 601) (hdg : decode cc pc = .ok (.iaload, 1)) (kk : W p l e R s m args below meth c H locs cells slots Q (F0 m (pc + 1) ls (.int (iI (f z)) :: rest))) : W p l e R s m args below meth c H locs cells slots Q (F0 m pc ls (.int (iI z) :: .ref (o + 3) :: rest)) :=
  m_iald X hK hG 4 (by decide) rfl rfl hz hdg (by rw [hf]; exact kk)
theorem ms_place (X : CallFix p m c cc nL s args lw_all RX1) (hK : va_K D vwCl (gTys ca) s) (hG : gOk D (mA o) (mH ca o S) H) (hS : va_S (mA o) H0 H locs) {z x : Int} (hz : 0 ≤ z ∧ z < 601) (hdg : decode cc pc = .ok (.iastore, 1)) (kk : ∀ (H1 : Heap) (locs1 : List Loc), gOk D (mA o) (mH ca o (mU S 4 z x)) H1 → va_S (mA o) H0 H1 locs1 → W p l e R s m args below meth c H1 locs1 cells slots Q (F0 m (pc + 1) ls rest)) : W p l e R s m args below meth c H locs cells slots Q (F0 m pc ls (.int (iI x) :: .int (iI z) :: .ref (o + 3) :: rest)) :=
  m_iast X hK hG hS 4 (by decide) rfl rfl hz hdg kk
/-- the field worth -/
abbrev k_worth : Nat := 5
theorem mg_worth (X : CallFix p m c cc nL s args lw_all RX1) (hK : va_K D vwCl (gTys ca) s) (hG : gOk D (mA o) (mH ca o S) H) (hdg : decode cc pc = .ok (.getfield 20, 3)) (kk : W p l e R s m args below meth c H locs cells slots Q (F0 m (pc + 3) ls (.ref (o + 4) :: rest))) : W p l e R s m args below meth c H locs cells slots Q (F0 m pc ls (.ref o :: rest)) :=
  m_get X hK hG 5 (by decide) q1179 rfl (rfl) hdg kk
theorem ml_worth (X : CallFix p m c cc nL s args lw_all RX1) (hK : va_K D vwCl (gTys ca) s) (hG : gOk D (mA o) (mH ca o S) H) {z : Int} (f : Int → Int) (hf : S.2 5 = f) (hz : 0 ≤ z ∧ z < 601) (hdg : decode cc pc = .ok (.laload, 1)) (kk : W p l e R s m args below meth c H locs cells slots Q (F0 m (pc + 1) ls (.long (lI (f z)) :: rest))) : W p l e R s m args below meth c H locs cells slots Q (F0 m pc ls (.int (iI z) :: .ref (o + 4) :: rest)) :=
  m_lald X hK hG 5 (by decide) rfl rfl hz hdg (by rw [hf]; exact kk)
theorem ms_worth (X : CallFix p m c cc nL s args lw_all RX1) (hK : va_K D vwCl (gTys ca) s) (hG : gOk D (mA o) (mH ca o S) H) (hS : va_S (mA o) H0 H locs) {z x : Int} (hz : 0 ≤ z ∧ z < 601) (hdg : decode cc pc = .ok (.lastore, 1)) (kk : ∀ (H1 : Heap) (locs1 : List Loc), gOk D (mA o) (mH ca o (mU S 5 z x)) H1 → va_S (mA o) H0 H1 locs1 → W p l e R s m args below meth c H1 locs1 cells slots Q (F0 m (pc + 1) ls rest)) : W p l e R s m args below meth c H locs cells slots Q (F0 m pc ls (.long (lI x) :: .int (iI z) :: .ref (o + 4) :: rest)) :=
  m_last X hK hG hS 5 (by decide) rfl rfl hz hdg kk
/-- the field nodes -/
abbrev k_nodes : Nat := 6
theorem mg_nodes (X : CallFix p m c cc nL s args lw_all RX1) (hK : va_K D vwCl (gTys ca) s) (hG : gOk D (mA o) (mH ca o S) H) (z : Int) (hz : S.1 6 = z) (hdg : decode cc pc = .ok (.getfield 237, 3)) (kk : W p l e R s m args below meth c H locs cells slots Q (F0 m (pc + 3) ls (.int (iI z) :: rest))) : W p l e R s m args below meth c H locs cells slots Q (F0 m pc ls (.ref o :: rest)) :=
  m_get X hK hG 6 (by decide) q1180 rfl (by rw [← hz]; rfl) hdg kk
theorem mp_nodes (X : CallFix p m c cc nL s args lw_all RX1) (hK : va_K D vwCl (gTys ca) s) (hG : gOk D (mA o) (mH ca o S) H) (hS : va_S (mA o) H0 H locs) {z : Int} (hdg : decode cc pc = .ok (.putfield 237, 3)) (kk : ∀ (H1 : Heap) (locs1 : List Loc), gOk D (mA o) (mH ca o (mS S 6 z)) H1 → va_S (mA o) H0 H1 locs1 → W p l e R s m args below meth c H1 locs1 cells slots Q (F0 m (pc + 3) ls rest)) : W p l e R s m args below meth c H locs cells slots Q (F0 m pc ls (.int (iI z) :: .ref o :: rest)) :=
  m_put X hK hG hS 6 (by decide) rfl rfl q1180 rfl (by decide +kernel) rfl rfl hdg kk
/-- the field kind -/
abbrev k_kind : Nat := 7
theorem mg_kind (X : CallFix p m c cc nL s args lw_all RX1) (hK : va_K D vwCl (gTys ca) s) (hG : gOk D (mA o) (mH ca o S) H) (hdg : decode cc pc = .ok (.getfield 24, 3)) (kk : W p l e R s m args below meth c H locs cells slots Q (F0 m (pc + 3) ls (.ref (o + 5) :: rest))) : W p l e R s m args below meth c H locs cells slots Q (F0 m pc ls (.ref o :: rest)) :=
  m_get X hK hG 7 (by decide) q1181 rfl (rfl) hdg kk
theorem ml_kind (X : CallFix p m c cc nL s args lw_all RX1) (hK : va_K D vwCl (gTys ca) s) (hG : gOk D (mA o) (mH ca o S) H) {z : Int} (f : Int → Int) (hf : S.2 7 = f) (hz : 0 ≤ z ∧ z < 601) (hdg : decode cc pc = .ok (.iaload, 1)) (kk : W p l e R s m args below meth c H locs cells slots Q (F0 m (pc + 1) ls (.int (iI (f z)) :: rest))) : W p l e R s m args below meth c H locs cells slots Q (F0 m pc ls (.int (iI z) :: .ref (o + 5) :: rest)) :=
  m_iald X hK hG 7 (by decide) rfl rfl hz hdg (by rw [hf]; exact kk)
theorem ms_kind (X : CallFix p m c cc nL s args lw_all RX1) (hK : va_K D vwCl (gTys ca) s) (hG : gOk D (mA o) (mH ca o S) H) (hS : va_S (mA o) H0 H locs) {z x : Int} (hz : 0 ≤ z ∧ z < 601) (hdg : decode cc pc = .ok (.iastore, 1)) (kk : ∀ (H1 : Heap) (locs1 : List Loc), gOk D (mA o) (mH ca o (mU S 7 z x)) H1 → va_S (mA o) H0 H1 locs1 → W p l e R s m args below meth c H1 locs1 cells slots Q (F0 m (pc + 1) ls rest)) : W p l e R s m args below meth c H locs cells slots Q (F0 m pc ls (.int (iI x) :: .int (iI z) :: .ref (o + 5) :: rest)) :=
  m_iast X hK hG hS 7 (by decide) rfl rfl hz hdg kk
/-- the field value -/
abbrev k_value : Nat := 8
theorem mg_value (X : CallFix p m c cc nL s args lw_all RX1) (hK : va_K D vwCl (gTys ca) s) (hG : gOk D (mA o) (mH ca o S) H) (hdg : decode cc pc = .ok (.getfield 27, 3)) (kk : W p l e R s m args below meth c H locs cells slots Q (F0 m (pc + 3) ls (.ref (o + 6) :: rest))) : W p l e R s m args below meth c H locs cells slots Q (F0 m pc ls (.ref o :: rest)) :=
  m_get X hK hG 8 (by decide) q1182 rfl (rfl) hdg kk
theorem ml_value (X : CallFix p m c cc nL s args lw_all RX1) (hK : va_K D vwCl (gTys ca) s) (hG : gOk D (mA o) (mH ca o S) H) {z : Int} (f : Int → Int) (hf : S.2 8 = f) (hz : 0 ≤ z ∧ z < 601) (hdg : decode cc pc = .ok (.laload, 1)) (kk : W p l e R s m args below meth c H locs cells slots Q (F0 m (pc + 1) ls (.long (lI (f z)) :: rest))) : W p l e R s m args below meth c H locs cells slots Q (F0 m pc ls (.int (iI z) :: .ref (o + 6) :: rest)) :=
  m_lald X hK hG 8 (by decide) rfl rfl hz hdg (by rw [hf]; exact kk)
theorem ms_value (X : CallFix p m c cc nL s args lw_all RX1) (hK : va_K D vwCl (gTys ca) s) (hG : gOk D (mA o) (mH ca o S) H) (hS : va_S (mA o) H0 H locs) {z x : Int} (hz : 0 ≤ z ∧ z < 601) (hdg : decode cc pc = .ok (.lastore, 1)) (kk : ∀ (H1 : Heap) (locs1 : List Loc), gOk D (mA o) (mH ca o (mU S 8 z x)) H1 → va_S (mA o) H0 H1 locs1 → W p l e R s m args below meth c H1 locs1 cells slots Q (F0 m (pc + 1) ls rest)) : W p l e R s m args below meth c H locs cells slots Q (F0 m pc ls (.long (lI x) :: .int (iI z) :: .ref (o + 6) :: rest)) :=
  m_last X hK hG hS 8 (by decide) rfl rfl hz hdg kk
/-- the field nodePlace -/
abbrev k_nodePlace : Nat := 9
theorem mg_nodePlace (X : CallFix p m c cc nL s args lw_all RX1) (hK : va_K D vwCl (gTys ca) s) (hG : gOk D (mA o) (mH ca o S) H) (hdg : decode cc pc = .ok (.getfield 30, 3)) (kk : W p l e R s m args below meth c H locs cells slots Q (F0 m (pc + 3) ls (.ref (o + 7) :: rest))) : W p l e R s m args below meth c H locs cells slots Q (F0 m pc ls (.ref o :: rest)) :=
  m_get X hK hG 9 (by decide) q1183 rfl (rfl) hdg kk
theorem ml_nodePlace (X : CallFix p m c cc nL s args lw_all RX1) (hK : va_K D vwCl (gTys ca) s) (hG : gOk D (mA o) (mH ca o S) H) {z : Int} (f : Int → Int) (hf : S.2 9 = f) (hz : 0 ≤ z ∧ z < 601) (hdg : decode cc pc = .ok (.iaload, 1)) (kk : W p l e R s m args below meth c H locs cells slots Q (F0 m (pc + 1) ls (.int (iI (f z)) :: rest))) : W p l e R s m args below meth c H locs cells slots Q (F0 m pc ls (.int (iI z) :: .ref (o + 7) :: rest)) :=
  m_iald X hK hG 9 (by decide) rfl rfl hz hdg (by rw [hf]; exact kk)
theorem ms_nodePlace (X : CallFix p m c cc nL s args lw_all RX1) (hK : va_K D vwCl (gTys ca) s) (hG : gOk D (mA o) (mH ca o S) H) (hS : va_S (mA o) H0 H locs) {z x : Int} (hz : 0 ≤ z ∧ z < 601) (hdg : decode cc pc = .ok (.iastore, 1)) (kk : ∀ (H1 : Heap) (locs1 : List Loc), gOk D (mA o) (mH ca o (mU S 9 z x)) H1 → va_S (mA o) H0 H1 locs1 → W p l e R s m args below meth c H1 locs1 cells slots Q (F0 m (pc + 1) ls rest)) : W p l e R s m args below meth c H locs cells slots Q (F0 m pc ls (.int (iI x) :: .int (iI z) :: .ref (o + 7) :: rest)) :=
  m_iast X hK hG hS 9 (by decide) rfl rfl hz hdg kk
/-- the field span -/
abbrev k_span : Nat := 10
theorem mg_span (X : CallFix p m c cc nL s args lw_all RX1) (hK : va_K D vwCl (gTys ca) s) (hG : gOk D (mA o) (mH ca o S) H) (hdg : decode cc pc = .ok (.getfield 33, 3)) (kk : W p l e R s m args below meth c H locs cells slots Q (F0 m (pc + 3) ls (.ref (o + 8) :: rest))) : W p l e R s m args below meth c H locs cells slots Q (F0 m pc ls (.ref o :: rest)) :=
  m_get X hK hG 10 (by decide) q1184 rfl (rfl) hdg kk
theorem ml_span (X : CallFix p m c cc nL s args lw_all RX1) (hK : va_K D vwCl (gTys ca) s) (hG : gOk D (mA o) (mH ca o S) H) {z : Int} (f : Int → Int) (hf : S.2 10 = f) (hz : 0 ≤ z ∧ z < 601) (hdg : decode cc pc = .ok (.iaload, 1)) (kk : W p l e R s m args below meth c H locs cells slots Q (F0 m (pc + 1) ls (.int (iI (f z)) :: rest))) : W p l e R s m args below meth c H locs cells slots Q (F0 m pc ls (.int (iI z) :: .ref (o + 8) :: rest)) :=
  m_iald X hK hG 10 (by decide) rfl rfl hz hdg (by rw [hf]; exact kk)
theorem ms_span (X : CallFix p m c cc nL s args lw_all RX1) (hK : va_K D vwCl (gTys ca) s) (hG : gOk D (mA o) (mH ca o S) H) (hS : va_S (mA o) H0 H locs) {z x : Int} (hz : 0 ≤ z ∧ z < 601) (hdg : decode cc pc = .ok (.iastore, 1)) (kk : ∀ (H1 : Heap) (locs1 : List Loc), gOk D (mA o) (mH ca o (mU S 10 z x)) H1 → va_S (mA o) H0 H1 locs1 → W p l e R s m args below meth c H1 locs1 cells slots Q (F0 m (pc + 1) ls rest)) : W p l e R s m args below meth c H locs cells slots Q (F0 m pc ls (.int (iI x) :: .int (iI z) :: .ref (o + 8) :: rest)) :=
  m_iast X hK hG hS 10 (by decide) rfl rfl hz hdg kk
/-- the field count -/
abbrev k_count : Nat := 11
theorem mg_count (X : CallFix p m c cc nL s args lw_all RX1) (hK : va_K D vwCl (gTys ca) s) (hG : gOk D (mA o) (mH ca o S) H) (hdg : decode cc pc = .ok (.getfield 36, 3)) (kk : W p l e R s m args below meth c H locs cells slots Q (F0 m (pc + 3) ls (.ref (o + 9) :: rest))) : W p l e R s m args below meth c H locs cells slots Q (F0 m pc ls (.ref o :: rest)) :=
  m_get X hK hG 11 (by decide) q1185 rfl (rfl) hdg kk
theorem ml_count (X : CallFix p m c cc nL s args lw_all RX1) (hK : va_K D vwCl (gTys ca) s) (hG : gOk D (mA o) (mH ca o S) H) {z : Int} (f : Int → Int) (hf : S.2 11 = f) (hz : 0 ≤ z ∧ z < 601) (hdg : decode cc pc = .ok (.iaload, 1)) (kk : W p l e R s m args below meth c H locs cells slots Q (F0 m (pc + 1) ls (.int (iI (f z)) :: rest))) : W p l e R s m args below meth c H locs cells slots Q (F0 m pc ls (.int (iI z) :: .ref (o + 9) :: rest)) :=
  m_iald X hK hG 11 (by decide) rfl rfl hz hdg (by rw [hf]; exact kk)
theorem ms_count (X : CallFix p m c cc nL s args lw_all RX1) (hK : va_K D vwCl (gTys ca) s) (hG : gOk D (mA o) (mH ca o S) H) (hS : va_S (mA o) H0 H locs) {z x : Int} (hz : 0 ≤ z ∧ z < 601) (hdg : decode cc pc = .ok (.iastore, 1)) (kk : ∀ (H1 : Heap) (locs1 : List Loc), gOk D (mA o) (mH ca o (mU S 11 z x)) H1 → va_S (mA o) H0 H1 locs1 → W p l e R s m args below meth c H1 locs1 cells slots Q (F0 m (pc + 1) ls rest)) : W p l e R s m args below meth c H locs cells slots Q (F0 m pc ls (.int (iI x) :: .int (iI z) :: .ref (o + 9) :: rest)) :=
  m_iast X hK hG hS 11 (by decide) rfl rfl hz hdg kk
/-- the field parent -/
abbrev k_parent : Nat := 12
theorem mg_parent (X : CallFix p m c cc nL s args lw_all RX1) (hK : va_K D vwCl (gTys ca) s) (hG : gOk D (mA o) (mH ca o S) H) (hdg : decode cc pc = .ok (.getfield 39, 3)) (kk : W p l e R s m args below meth c H locs cells slots Q (F0 m (pc + 3) ls (.ref (o + 10) :: rest))) : W p l e R s m args below meth c H locs cells slots Q (F0 m pc ls (.ref o :: rest)) :=
  m_get X hK hG 12 (by decide) q1186 rfl (rfl) hdg kk
theorem ml_parent (X : CallFix p m c cc nL s args lw_all RX1) (hK : va_K D vwCl (gTys ca) s) (hG : gOk D (mA o) (mH ca o S) H) {z : Int} (f : Int → Int) (hf : S.2 12 = f) (hz : 0 ≤ z ∧ z < 601) (hdg : decode cc pc = .ok (.iaload, 1)) (kk : W p l e R s m args below meth c H locs cells slots Q (F0 m (pc + 1) ls (.int (iI (f z)) :: rest))) : W p l e R s m args below meth c H locs cells slots Q (F0 m pc ls (.int (iI z) :: .ref (o + 10) :: rest)) :=
  m_iald X hK hG 12 (by decide) rfl rfl hz hdg (by rw [hf]; exact kk)
theorem ms_parent (X : CallFix p m c cc nL s args lw_all RX1) (hK : va_K D vwCl (gTys ca) s) (hG : gOk D (mA o) (mH ca o S) H) (hS : va_S (mA o) H0 H locs) {z x : Int} (hz : 0 ≤ z ∧ z < 601) (hdg : decode cc pc = .ok (.iastore, 1)) (kk : ∀ (H1 : Heap) (locs1 : List Loc), gOk D (mA o) (mH ca o (mU S 12 z x)) H1 → va_S (mA o) H0 H1 locs1 → W p l e R s m args below meth c H1 locs1 cells slots Q (F0 m (pc + 1) ls rest)) : W p l e R s m args below meth c H locs cells slots Q (F0 m pc ls (.int (iI x) :: .int (iI z) :: .ref (o + 10) :: rest)) :=
  m_iast X hK hG hS 12 (by decide) rfl rfl hz hdg kk
/-- the field rules -/
abbrev k_rules : Nat := 13
theorem mg_rules (X : CallFix p m c cc nL s args lw_all RX1) (hK : va_K D vwCl (gTys ca) s) (hG : gOk D (mA o) (mH ca o S) H) (z : Int) (hz : S.1 13 = z) (hdg : decode cc pc = .ok (.getfield 267, 3)) (kk : W p l e R s m args below meth c H locs cells slots Q (F0 m (pc + 3) ls (.int (iI z) :: rest))) : W p l e R s m args below meth c H locs cells slots Q (F0 m pc ls (.ref o :: rest)) :=
  m_get X hK hG 13 (by decide) q1187 rfl (by rw [← hz]; rfl) hdg kk
theorem mp_rules (X : CallFix p m c cc nL s args lw_all RX1) (hK : va_K D vwCl (gTys ca) s) (hG : gOk D (mA o) (mH ca o S) H) (hS : va_S (mA o) H0 H locs) {z : Int} (hdg : decode cc pc = .ok (.putfield 267, 3)) (kk : ∀ (H1 : Heap) (locs1 : List Loc), gOk D (mA o) (mH ca o (mS S 13 z)) H1 → va_S (mA o) H0 H1 locs1 → W p l e R s m args below meth c H1 locs1 cells slots Q (F0 m (pc + 3) ls rest)) : W p l e R s m args below meth c H locs cells slots Q (F0 m pc ls (.int (iI z) :: .ref o :: rest)) :=
  m_put X hK hG hS 13 (by decide) rfl rfl q1187 rfl (by decide +kernel) rfl rfl hdg kk
/-- the field ruleWord -/
abbrev k_ruleWord : Nat := 14
theorem mg_ruleWord (X : CallFix p m c cc nL s args lw_all RX1) (hK : va_K D vwCl (gTys ca) s) (hG : gOk D (mA o) (mH ca o S) H) (hdg : decode cc pc = .ok (.getfield 42, 3)) (kk : W p l e R s m args below meth c H locs cells slots Q (F0 m (pc + 3) ls (.ref (o + 11) :: rest))) : W p l e R s m args below meth c H locs cells slots Q (F0 m pc ls (.ref o :: rest)) :=
  m_get X hK hG 14 (by decide) q1188 rfl (rfl) hdg kk
theorem ml_ruleWord (X : CallFix p m c cc nL s args lw_all RX1) (hK : va_K D vwCl (gTys ca) s) (hG : gOk D (mA o) (mH ca o S) H) {z : Int} (f : Int → Int) (hf : S.2 14 = f) (hz : 0 ≤ z ∧ z < 12) (hdg : decode cc pc = .ok (.laload, 1)) (kk : W p l e R s m args below meth c H locs cells slots Q (F0 m (pc + 1) ls (.long (lI (f z)) :: rest))) : W p l e R s m args below meth c H locs cells slots Q (F0 m pc ls (.int (iI z) :: .ref (o + 11) :: rest)) :=
  m_lald X hK hG 14 (by decide) rfl rfl hz hdg (by rw [hf]; exact kk)
theorem ms_ruleWord (X : CallFix p m c cc nL s args lw_all RX1) (hK : va_K D vwCl (gTys ca) s) (hG : gOk D (mA o) (mH ca o S) H) (hS : va_S (mA o) H0 H locs) {z x : Int} (hz : 0 ≤ z ∧ z < 12) (hdg : decode cc pc = .ok (.lastore, 1)) (kk : ∀ (H1 : Heap) (locs1 : List Loc), gOk D (mA o) (mH ca o (mU S 14 z x)) H1 → va_S (mA o) H0 H1 locs1 → W p l e R s m args below meth c H1 locs1 cells slots Q (F0 m (pc + 1) ls rest)) : W p l e R s m args below meth c H locs cells slots Q (F0 m pc ls (.long (lI x) :: .int (iI z) :: .ref (o + 11) :: rest)) :=
  m_last X hK hG hS 14 (by decide) rfl rfl hz hdg kk
/-- the field isRaw -/
abbrev k_isRaw : Nat := 15
theorem mg_isRaw (X : CallFix p m c cc nL s args lw_all RX1) (hK : va_K D vwCl (gTys ca) s) (hG : gOk D (mA o) (mH ca o S) H) (hdg : decode cc pc = .ok (.getfield 45, 3)) (kk : W p l e R s m args below meth c H locs cells slots Q (F0 m (pc + 3) ls (.ref (o + 12) :: rest))) : W p l e R s m args below meth c H locs cells slots Q (F0 m pc ls (.ref o :: rest)) :=
  m_get X hK hG 15 (by decide) q1189 rfl (rfl) hdg kk
theorem ml_isRaw (X : CallFix p m c cc nL s args lw_all RX1) (hK : va_K D vwCl (gTys ca) s) (hG : gOk D (mA o) (mH ca o S) H) {z : Int} (f : Int → Int) (hf : S.2 15 = f) (hz : 0 ≤ z ∧ z < 12) (hdg : decode cc pc = .ok (.baload, 1)) (kk : W p l e R s m args below meth c H locs cells slots Q (F0 m (pc + 1) ls (.int (iI (f z)) :: rest))) : W p l e R s m args below meth c H locs cells slots Q (F0 m pc ls (.int (iI z) :: .ref (o + 12) :: rest)) :=
  m_zald X hK hG 15 (by decide) rfl rfl hz hdg (by rw [hf]; exact kk)
theorem ms_isRaw (X : CallFix p m c cc nL s args lw_all RX1) (hK : va_K D vwCl (gTys ca) s) (hG : gOk D (mA o) (mH ca o S) H) (hS : va_S (mA o) H0 H locs) {z x : Int} (hz : 0 ≤ z ∧ z < 12) (hx : x = 0 ∨ x = 1) (hdg : decode cc pc = .ok (.bastore, 1)) (kk : ∀ (H1 : Heap) (locs1 : List Loc), gOk D (mA o) (mH ca o (mU S 15 z x)) H1 → va_S (mA o) H0 H1 locs1 → W p l e R s m args below meth c H1 locs1 cells slots Q (F0 m (pc + 1) ls rest)) : W p l e R s m args below meth c H locs cells slots Q (F0 m pc ls (.int (iI x) :: .int (iI z) :: .ref (o + 12) :: rest)) :=
  m_zast X hK hG hS 15 (by decide) rfl rfl hz hx hdg kk
/-- the field patternsAt -/
abbrev k_patternsAt : Nat := 16
theorem mg_patternsAt (X : CallFix p m c cc nL s args lw_all RX1) (hK : va_K D vwCl (gTys ca) s) (hG : gOk D (mA o) (mH ca o S) H) (hdg : decode cc pc = .ok (.getfield 49, 3)) (kk : W p l e R s m args below meth c H locs cells slots Q (F0 m (pc + 3) ls (.ref (o + 13) :: rest))) : W p l e R s m args below meth c H locs cells slots Q (F0 m pc ls (.ref o :: rest)) :=
  m_get X hK hG 16 (by decide) q1190 rfl (rfl) hdg kk
theorem ml_patternsAt (X : CallFix p m c cc nL s args lw_all RX1) (hK : va_K D vwCl (gTys ca) s) (hG : gOk D (mA o) (mH ca o S) H) {z : Int} (f : Int → Int) (hf : S.2 16 = f) (hz : 0 ≤ z ∧ z < 12) (hdg : decode cc pc = .ok (.iaload, 1)) (kk : W p l e R s m args below meth c H locs cells slots Q (F0 m (pc + 1) ls (.int (iI (f z)) :: rest))) : W p l e R s m args below meth c H locs cells slots Q (F0 m pc ls (.int (iI z) :: .ref (o + 13) :: rest)) :=
  m_iald X hK hG 16 (by decide) rfl rfl hz hdg (by rw [hf]; exact kk)
theorem ms_patternsAt (X : CallFix p m c cc nL s args lw_all RX1) (hK : va_K D vwCl (gTys ca) s) (hG : gOk D (mA o) (mH ca o S) H) (hS : va_S (mA o) H0 H locs) {z x : Int} (hz : 0 ≤ z ∧ z < 12) (hdg : decode cc pc = .ok (.iastore, 1)) (kk : ∀ (H1 : Heap) (locs1 : List Loc), gOk D (mA o) (mH ca o (mU S 16 z x)) H1 → va_S (mA o) H0 H1 locs1 → W p l e R s m args below meth c H1 locs1 cells slots Q (F0 m (pc + 1) ls rest)) : W p l e R s m args below meth c H locs cells slots Q (F0 m pc ls (.int (iI x) :: .int (iI z) :: .ref (o + 13) :: rest)) :=
  m_iast X hK hG hS 16 (by decide) rfl rfl hz hdg kk
/-- the field templateAt -/
abbrev k_templateAt : Nat := 17
theorem mg_templateAt (X : CallFix p m c cc nL s args lw_all RX1) (hK : va_K D vwCl (gTys ca) s) (hG : gOk D (mA o) (mH ca o S) H) (hdg : decode cc pc = .ok (.getfield 52, 3)) (kk : W p l e R s m args below meth c H locs cells slots Q (F0 m (pc + 3) ls (.ref (o + 14) :: rest))) : W p l e R s m args below meth c H locs cells slots Q (F0 m pc ls (.ref o :: rest)) :=
  m_get X hK hG 17 (by decide) q1191 rfl (rfl) hdg kk
theorem ml_templateAt (X : CallFix p m c cc nL s args lw_all RX1) (hK : va_K D vwCl (gTys ca) s) (hG : gOk D (mA o) (mH ca o S) H) {z : Int} (f : Int → Int) (hf : S.2 17 = f) (hz : 0 ≤ z ∧ z < 12) (hdg : decode cc pc = .ok (.iaload, 1)) (kk : W p l e R s m args below meth c H locs cells slots Q (F0 m (pc + 1) ls (.int (iI (f z)) :: rest))) : W p l e R s m args below meth c H locs cells slots Q (F0 m pc ls (.int (iI z) :: .ref (o + 14) :: rest)) :=
  m_iald X hK hG 17 (by decide) rfl rfl hz hdg (by rw [hf]; exact kk)
theorem ms_templateAt (X : CallFix p m c cc nL s args lw_all RX1) (hK : va_K D vwCl (gTys ca) s) (hG : gOk D (mA o) (mH ca o S) H) (hS : va_S (mA o) H0 H locs) {z x : Int} (hz : 0 ≤ z ∧ z < 12) (hdg : decode cc pc = .ok (.iastore, 1)) (kk : ∀ (H1 : Heap) (locs1 : List Loc), gOk D (mA o) (mH ca o (mU S 17 z x)) H1 → va_S (mA o) H0 H1 locs1 → W p l e R s m args below meth c H1 locs1 cells slots Q (F0 m (pc + 1) ls rest)) : W p l e R s m args below meth c H locs cells slots Q (F0 m pc ls (.int (iI x) :: .int (iI z) :: .ref (o + 14) :: rest)) :=
  m_iast X hK hG hS 17 (by decide) rfl rfl hz hdg kk
/-- the field termAt -/
abbrev k_termAt : Nat := 18
theorem mg_termAt (X : CallFix p m c cc nL s args lw_all RX1) (hK : va_K D vwCl (gTys ca) s) (hG : gOk D (mA o) (mH ca o S) H) (z : Int) (hz : S.1 18 = z) (hdg : decode cc pc = .ok (.getfield 300, 3)) (kk : W p l e R s m args below meth c H locs cells slots Q (F0 m (pc + 3) ls (.int (iI z) :: rest))) : W p l e R s m args below meth c H locs cells slots Q (F0 m pc ls (.ref o :: rest)) :=
  m_get X hK hG 18 (by decide) q1192 rfl (by rw [← hz]; rfl) hdg kk
theorem mp_termAt (X : CallFix p m c cc nL s args lw_all RX1) (hK : va_K D vwCl (gTys ca) s) (hG : gOk D (mA o) (mH ca o S) H) (hS : va_S (mA o) H0 H locs) {z : Int} (hdg : decode cc pc = .ok (.putfield 300, 3)) (kk : ∀ (H1 : Heap) (locs1 : List Loc), gOk D (mA o) (mH ca o (mS S 18 z)) H1 → va_S (mA o) H0 H1 locs1 → W p l e R s m args below meth c H1 locs1 cells slots Q (F0 m (pc + 3) ls rest)) : W p l e R s m args below meth c H locs cells slots Q (F0 m pc ls (.int (iI z) :: .ref o :: rest)) :=
  m_put X hK hG hS 18 (by decide) rfl rfl q1192 rfl (by decide +kernel) rfl rfl hdg kk
/-- the field tok -/
abbrev k_tok : Nat := 19
theorem mg_tok (X : CallFix p m c cc nL s args lw_all RX1) (hK : va_K D vwCl (gTys ca) s) (hG : gOk D (mA o) (mH ca o S) H) (z : Int) (hz : S.1 19 = z) (hdg : decode cc pc = .ok (.getfield 227, 3)) (kk : W p l e R s m args below meth c H locs cells slots Q (F0 m (pc + 3) ls (.int (iI z) :: rest))) : W p l e R s m args below meth c H locs cells slots Q (F0 m pc ls (.ref o :: rest)) :=
  m_get X hK hG 19 (by decide) q1193 rfl (by rw [← hz]; rfl) hdg kk
theorem mp_tok (X : CallFix p m c cc nL s args lw_all RX1) (hK : va_K D vwCl (gTys ca) s) (hG : gOk D (mA o) (mH ca o S) H) (hS : va_S (mA o) H0 H locs) {z : Int} (hdg : decode cc pc = .ok (.putfield 227, 3)) (kk : ∀ (H1 : Heap) (locs1 : List Loc), gOk D (mA o) (mH ca o (mS S 19 z)) H1 → va_S (mA o) H0 H1 locs1 → W p l e R s m args below meth c H1 locs1 cells slots Q (F0 m (pc + 3) ls rest)) : W p l e R s m args below meth c H locs cells slots Q (F0 m pc ls (.int (iI z) :: .ref o :: rest)) :=
  m_put X hK hG hS 19 (by decide) rfl rfl q1193 rfl (by decide +kernel) rfl rfl hdg kk
/-- the field deep -/
abbrev k_deep : Nat := 20
theorem mg_deep (X : CallFix p m c cc nL s args lw_all RX1) (hK : va_K D vwCl (gTys ca) s) (hG : gOk D (mA o) (mH ca o S) H) (z : Int) (hz : S.1 20 = z) (hdg : decode cc pc = .ok (.getfield 243, 3)) (kk : W p l e R s m args below meth c H locs cells slots Q (F0 m (pc + 3) ls (.int (iI z) :: rest))) : W p l e R s m args below meth c H locs cells slots Q (F0 m pc ls (.ref o :: rest)) :=
  m_get X hK hG 20 (by decide) q1194 rfl (by rw [← hz]; rfl) hdg kk
theorem mp_deep (X : CallFix p m c cc nL s args lw_all RX1) (hK : va_K D vwCl (gTys ca) s) (hG : gOk D (mA o) (mH ca o S) H) (hS : va_S (mA o) H0 H locs) {z : Int} (hdg : decode cc pc = .ok (.putfield 243, 3)) (kk : ∀ (H1 : Heap) (locs1 : List Loc), gOk D (mA o) (mH ca o (mS S 20 z)) H1 → va_S (mA o) H0 H1 locs1 → W p l e R s m args below meth c H1 locs1 cells slots Q (F0 m (pc + 3) ls rest)) : W p l e R s m args below meth c H locs cells slots Q (F0 m pc ls (.int (iI z) :: .ref o :: rest)) :=
  m_put X hK hG hS 20 (by decide) rfl rfl q1194 rfl (by decide +kernel) rfl rfl hdg kk
/-- the field fault -/
abbrev k_fault : Nat := 21
theorem mg_fault (X : CallFix p m c cc nL s args lw_all RX1) (hK : va_K D vwCl (gTys ca) s) (hG : gOk D (mA o) (mH ca o S) H) (z : Int) (hz : S.1 21 = z) (hdg : decode cc pc = .ok (.getfield 224, 3)) (kk : W p l e R s m args below meth c H locs cells slots Q (F0 m (pc + 3) ls (.int (iI z) :: rest))) : W p l e R s m args below meth c H locs cells slots Q (F0 m pc ls (.ref o :: rest)) :=
  m_get X hK hG 21 (by decide) q1195 rfl (by rw [← hz]; rfl) hdg kk
theorem mp_fault (X : CallFix p m c cc nL s args lw_all RX1) (hK : va_K D vwCl (gTys ca) s) (hG : gOk D (mA o) (mH ca o S) H) (hS : va_S (mA o) H0 H locs) {z : Int} (hdg : decode cc pc = .ok (.putfield 224, 3)) (kk : ∀ (H1 : Heap) (locs1 : List Loc), gOk D (mA o) (mH ca o (mS S 21 z)) H1 → va_S (mA o) H0 H1 locs1 → W p l e R s m args below meth c H1 locs1 cells slots Q (F0 m (pc + 3) ls rest)) : W p l e R s m args below meth c H locs cells slots Q (F0 m pc ls (.int (iI z) :: .ref o :: rest)) :=
  m_put X hK hG hS 21 (by decide) rfl rfl q1195 rfl (by decide +kernel) rfl rfl hdg kk
/-- the field faultPlace -/
abbrev k_faultPlace : Nat := 22
theorem mg_faultPlace (X : CallFix p m c cc nL s args lw_all RX1) (hK : va_K D vwCl (gTys ca) s) (hG : gOk D (mA o) (mH ca o S) H) (z : Int) (hz : S.1 22 = z) (hdg : decode cc pc = .ok (.getfield 230, 3)) (kk : W p l e R s m args below meth c H locs cells slots Q (F0 m (pc + 3) ls (.int (iI z) :: rest))) : W p l e R s m args below meth c H locs cells slots Q (F0 m pc ls (.ref o :: rest)) :=
  m_get X hK hG 22 (by decide) q1196 rfl (by rw [← hz]; rfl) hdg kk
theorem mp_faultPlace (X : CallFix p m c cc nL s args lw_all RX1) (hK : va_K D vwCl (gTys ca) s) (hG : gOk D (mA o) (mH ca o S) H) (hS : va_S (mA o) H0 H locs) {z : Int} (hdg : decode cc pc = .ok (.putfield 230, 3)) (kk : ∀ (H1 : Heap) (locs1 : List Loc), gOk D (mA o) (mH ca o (mS S 22 z)) H1 → va_S (mA o) H0 H1 locs1 → W p l e R s m args below meth c H1 locs1 cells slots Q (F0 m (pc + 3) ls rest)) : W p l e R s m args below meth c H locs cells slots Q (F0 m pc ls (.int (iI z) :: .ref o :: rest)) :=
  m_put X hK hG hS 22 (by decide) rfl rfl q1196 rfl (by decide +kernel) rfl rfl hdg kk
/-- the field pile -/
abbrev k_pile : Nat := 23
theorem mg_pile (X : CallFix p m c cc nL s args lw_all RX1) (hK : va_K D vwCl (gTys ca) s) (hG : gOk D (mA o) (mH ca o S) H) (hdg : decode cc pc = .ok (.getfield 55, 3)) (kk : W p l e R s m args below meth c H locs cells slots Q (F0 m (pc + 3) ls (.ref (o + 15) :: rest))) : W p l e R s m args below meth c H locs cells slots Q (F0 m pc ls (.ref o :: rest)) :=
  m_get X hK hG 23 (by decide) q1197 rfl (rfl) hdg kk
theorem ml_pile (X : CallFix p m c cc nL s args lw_all RX1) (hK : va_K D vwCl (gTys ca) s) (hG : gOk D (mA o) (mH ca o S) H) {z : Int} (f : Int → Int) (hf : S.2 23 = f) (hz : 0 ≤ z ∧ z < 16) (hdg : decode cc pc = .ok (.iaload, 1)) (kk : W p l e R s m args below meth c H locs cells slots Q (F0 m (pc + 1) ls (.int (iI (f z)) :: rest))) : W p l e R s m args below meth c H locs cells slots Q (F0 m pc ls (.int (iI z) :: .ref (o + 15) :: rest)) :=
  m_iald X hK hG 23 (by decide) rfl rfl hz hdg (by rw [hf]; exact kk)
theorem ms_pile (X : CallFix p m c cc nL s args lw_all RX1) (hK : va_K D vwCl (gTys ca) s) (hG : gOk D (mA o) (mH ca o S) H) (hS : va_S (mA o) H0 H locs) {z x : Int} (hz : 0 ≤ z ∧ z < 16) (hdg : decode cc pc = .ok (.iastore, 1)) (kk : ∀ (H1 : Heap) (locs1 : List Loc), gOk D (mA o) (mH ca o (mU S 23 z x)) H1 → va_S (mA o) H0 H1 locs1 → W p l e R s m args below meth c H1 locs1 cells slots Q (F0 m (pc + 1) ls rest)) : W p l e R s m args below meth c H locs cells slots Q (F0 m pc ls (.int (iI x) :: .int (iI z) :: .ref (o + 15) :: rest)) :=
  m_iast X hK hG hS 23 (by decide) rfl rfl hz hdg kk
/-- the field piled -/
abbrev k_piled : Nat := 24
theorem mg_piled (X : CallFix p m c cc nL s args lw_all RX1) (hK : va_K D vwCl (gTys ca) s) (hG : gOk D (mA o) (mH ca o S) H) (z : Int) (hz : S.1 24 = z) (hdg : decode cc pc = .ok (.getfield 240, 3)) (kk : W p l e R s m args below meth c H locs cells slots Q (F0 m (pc + 3) ls (.int (iI z) :: rest))) : W p l e R s m args below meth c H locs cells slots Q (F0 m pc ls (.ref o :: rest)) :=
  m_get X hK hG 24 (by decide) q1198 rfl (by rw [← hz]; rfl) hdg kk
theorem mp_piled (X : CallFix p m c cc nL s args lw_all RX1) (hK : va_K D vwCl (gTys ca) s) (hG : gOk D (mA o) (mH ca o S) H) (hS : va_S (mA o) H0 H locs) {z : Int} (hdg : decode cc pc = .ok (.putfield 240, 3)) (kk : ∀ (H1 : Heap) (locs1 : List Loc), gOk D (mA o) (mH ca o (mS S 24 z)) H1 → va_S (mA o) H0 H1 locs1 → W p l e R s m args below meth c H1 locs1 cells slots Q (F0 m (pc + 3) ls rest)) : W p l e R s m args below meth c H locs cells slots Q (F0 m pc ls (.int (iI z) :: .ref o :: rest)) :=
  m_put X hK hG hS 24 (by decide) rfl rfl q1198 rfl (by decide +kernel) rfl rfl hdg kk
/-- the field wrong -/
abbrev k_wrong : Nat := 25
theorem mg_wrong (X : CallFix p m c cc nL s args lw_all RX1) (hK : va_K D vwCl (gTys ca) s) (hG : gOk D (mA o) (mH ca o S) H) (z : Int) (hz : S.1 25 = z) (hdg : decode cc pc = .ok (.getfield 277, 3)) (kk : W p l e R s m args below meth c H locs cells slots Q (F0 m (pc + 3) ls (.int (iI z) :: rest))) : W p l e R s m args below meth c H locs cells slots Q (F0 m pc ls (.ref o :: rest)) :=
  m_get X hK hG 25 (by decide) q1199 rfl (by rw [← hz]; rfl) hdg kk
theorem mp_wrong (X : CallFix p m c cc nL s args lw_all RX1) (hK : va_K D vwCl (gTys ca) s) (hG : gOk D (mA o) (mH ca o S) H) (hS : va_S (mA o) H0 H locs) {z : Int} (hdg : decode cc pc = .ok (.putfield 277, 3)) (kk : ∀ (H1 : Heap) (locs1 : List Loc), gOk D (mA o) (mH ca o (mS S 25 z)) H1 → va_S (mA o) H0 H1 locs1 → W p l e R s m args below meth c H1 locs1 cells slots Q (F0 m (pc + 3) ls rest)) : W p l e R s m args below meth c H locs cells slots Q (F0 m pc ls (.int (iI z) :: .ref o :: rest)) :=
  m_put X hK hG hS 25 (by decide) rfl rfl q1199 rfl (by decide +kernel) rfl rfl hdg kk
/-- the field wrongPlace -/
abbrev k_wrongPlace : Nat := 26
theorem mg_wrongPlace (X : CallFix p m c cc nL s args lw_all RX1) (hK : va_K D vwCl (gTys ca) s) (hG : gOk D (mA o) (mH ca o S) H) (z : Int) (hz : S.1 26 = z) (hdg : decode cc pc = .ok (.getfield 280, 3)) (kk : W p l e R s m args below meth c H locs cells slots Q (F0 m (pc + 3) ls (.int (iI z) :: rest))) : W p l e R s m args below meth c H locs cells slots Q (F0 m pc ls (.ref o :: rest)) :=
  m_get X hK hG 26 (by decide) q1200 rfl (by rw [← hz]; rfl) hdg kk
theorem mp_wrongPlace (X : CallFix p m c cc nL s args lw_all RX1) (hK : va_K D vwCl (gTys ca) s) (hG : gOk D (mA o) (mH ca o S) H) (hS : va_S (mA o) H0 H locs) {z : Int} (hdg : decode cc pc = .ok (.putfield 280, 3)) (kk : ∀ (H1 : Heap) (locs1 : List Loc), gOk D (mA o) (mH ca o (mS S 26 z)) H1 → va_S (mA o) H0 H1 locs1 → W p l e R s m args below meth c H1 locs1 cells slots Q (F0 m (pc + 3) ls rest)) : W p l e R s m args below meth c H locs cells slots Q (F0 m pc ls (.int (iI z) :: .ref o :: rest)) :=
  m_put X hK hG hS 26 (by decide) rfl rfl q1200 rfl (by decide +kernel) rfl rfl hdg kk
/-- the field isThere -/
abbrev k_isThere : Nat := 27
theorem mg_isThere (X : CallFix p m c cc nL s args lw_all RX1) (hK : va_K D vwCl (gTys ca) s) (hG : gOk D (mA o) (mH ca o S) H) (z : Int) (hz : S.1 27 = z) (hdg : decode cc pc = .ok (.getfield 334, 3)) (kk : W p l e R s m args below meth c H locs cells slots Q (F0 m (pc + 3) ls (.int (iI z) :: rest))) : W p l e R s m args below meth c H locs cells slots Q (F0 m pc ls (.ref o :: rest)) :=
  m_get X hK hG 27 (by decide) q1201 rfl (by rw [← hz]; rfl) hdg kk
theorem mp_isThere (X : CallFix p m c cc nL s args lw_all RX1) (hK : va_K D vwCl (gTys ca) s) (hG : gOk D (mA o) (mH ca o S) H) (hS : va_S (mA o) H0 H locs) {z : Int} (hz : z = 0 ∨ z = 1) (hdg : decode cc pc = .ok (.putfield 334, 3)) (kk : ∀ (H1 : Heap) (locs1 : List Loc), gOk D (mA o) (mH ca o (mS S 27 z)) H1 → va_S (mA o) H0 H1 locs1 → W p l e R s m args below meth c H1 locs1 cells slots Q (F0 m (pc + 3) ls rest)) : W p l e R s m args below meth c H locs cells slots Q (F0 m pc ls (.int (iI z) :: .ref o :: rest)) :=
  m_put X hK hG hS 27 (by decide) rfl rfl q1201 rfl (by decide +kernel) (by rcases hz with rfl | rfl <;> rfl) (by rcases hz with rfl | rfl <;> rfl) hdg kk
/-- the field told -/
abbrev k_told : Nat := 28
theorem mg_told (X : CallFix p m c cc nL s args lw_all RX1) (hK : va_K D vwCl (gTys ca) s) (hG : gOk D (mA o) (mH ca o S) H) (z : Int) (hz : S.1 28 = z) (hdg : decode cc pc = .ok (.getfield 312, 3)) (kk : W p l e R s m args below meth c H locs cells slots Q (F0 m (pc + 3) ls (.int (iI z) :: rest))) : W p l e R s m args below meth c H locs cells slots Q (F0 m pc ls (.ref o :: rest)) :=
  m_get X hK hG 28 (by decide) q1202 rfl (by rw [← hz]; rfl) hdg kk
theorem mp_told (X : CallFix p m c cc nL s args lw_all RX1) (hK : va_K D vwCl (gTys ca) s) (hG : gOk D (mA o) (mH ca o S) H) (hS : va_S (mA o) H0 H locs) {z : Int} (hdg : decode cc pc = .ok (.putfield 312, 3)) (kk : ∀ (H1 : Heap) (locs1 : List Loc), gOk D (mA o) (mH ca o (mS S 28 z)) H1 → va_S (mA o) H0 H1 locs1 → W p l e R s m args below meth c H1 locs1 cells slots Q (F0 m (pc + 3) ls rest)) : W p l e R s m args below meth c H locs cells slots Q (F0 m pc ls (.int (iI z) :: .ref o :: rest)) :=
  m_put X hK hG hS 28 (by decide) rfl rfl q1202 rfl (by decide +kernel) rfl rfl hdg kk
/-- the field ruleMany -/
abbrev k_ruleMany : Nat := 29
theorem mg_ruleMany (X : CallFix p m c cc nL s args lw_all RX1) (hK : va_K D vwCl (gTys ca) s) (hG : gOk D (mA o) (mH ca o S) H) (z : Int) (hz : S.1 29 = z) (hdg : decode cc pc = .ok (.getfield 315, 3)) (kk : W p l e R s m args below meth c H locs cells slots Q (F0 m (pc + 3) ls (.int (iI z) :: rest))) : W p l e R s m args below meth c H locs cells slots Q (F0 m pc ls (.ref o :: rest)) :=
  m_get X hK hG 29 (by decide) q1203 rfl (by rw [← hz]; rfl) hdg kk
theorem mp_ruleMany (X : CallFix p m c cc nL s args lw_all RX1) (hK : va_K D vwCl (gTys ca) s) (hG : gOk D (mA o) (mH ca o S) H) (hS : va_S (mA o) H0 H locs) {z : Int} (hdg : decode cc pc = .ok (.putfield 315, 3)) (kk : ∀ (H1 : Heap) (locs1 : List Loc), gOk D (mA o) (mH ca o (mS S 29 z)) H1 → va_S (mA o) H0 H1 locs1 → W p l e R s m args below meth c H1 locs1 cells slots Q (F0 m (pc + 3) ls rest)) : W p l e R s m args below meth c H locs cells slots Q (F0 m pc ls (.int (iI z) :: .ref o :: rest)) :=
  m_put X hK hG hS 29 (by decide) rfl rfl q1203 rfl (by decide +kernel) rfl rfl hdg kk
/-- the field word -/
abbrev k_word : Nat := 30
theorem mg_word (X : CallFix p m c cc nL s args lw_all RX1) (hK : va_K D vwCl (gTys ca) s) (hG : gOk D (mA o) (mH ca o S) H) (hdg : decode cc pc = .ok (.getfield 58, 3)) (kk : W p l e R s m args below meth c H locs cells slots Q (F0 m (pc + 3) ls (.ref (o + 16) :: rest))) : W p l e R s m args below meth c H locs cells slots Q (F0 m pc ls (.ref o :: rest)) :=
  m_get X hK hG 30 (by decide) q1204 rfl (rfl) hdg kk
theorem ml_word (X : CallFix p m c cc nL s args lw_all RX1) (hK : va_K D vwCl (gTys ca) s) (hG : gOk D (mA o) (mH ca o S) H) {z : Int} (f : Int → Int) (hf : S.2 30 = f) (hz : 0 ≤ z ∧ z < 12) (hdg : decode cc pc = .ok (.laload, 1)) (kk : W p l e R s m args below meth c H locs cells slots Q (F0 m (pc + 1) ls (.long (lI (f z)) :: rest))) : W p l e R s m args below meth c H locs cells slots Q (F0 m pc ls (.int (iI z) :: .ref (o + 16) :: rest)) :=
  m_lald X hK hG 30 (by decide) rfl rfl hz hdg (by rw [hf]; exact kk)
theorem ms_word (X : CallFix p m c cc nL s args lw_all RX1) (hK : va_K D vwCl (gTys ca) s) (hG : gOk D (mA o) (mH ca o S) H) (hS : va_S (mA o) H0 H locs) {z x : Int} (hz : 0 ≤ z ∧ z < 12) (hdg : decode cc pc = .ok (.lastore, 1)) (kk : ∀ (H1 : Heap) (locs1 : List Loc), gOk D (mA o) (mH ca o (mU S 30 z x)) H1 → va_S (mA o) H0 H1 locs1 → W p l e R s m args below meth c H1 locs1 cells slots Q (F0 m (pc + 1) ls rest)) : W p l e R s m args below meth c H locs cells slots Q (F0 m pc ls (.long (lI x) :: .int (iI z) :: .ref (o + 16) :: rest)) :=
  m_last X hK hG hS 30 (by decide) rfl rfl hz hdg kk
/-- the field raw -/
abbrev k_raw : Nat := 31
theorem mg_raw (X : CallFix p m c cc nL s args lw_all RX1) (hK : va_K D vwCl (gTys ca) s) (hG : gOk D (mA o) (mH ca o S) H) (hdg : decode cc pc = .ok (.getfield 61, 3)) (kk : W p l e R s m args below meth c H locs cells slots Q (F0 m (pc + 3) ls (.ref (o + 17) :: rest))) : W p l e R s m args below meth c H locs cells slots Q (F0 m pc ls (.ref o :: rest)) :=
  m_get X hK hG 31 (by decide) q1205 rfl (rfl) hdg kk
theorem ml_raw (X : CallFix p m c cc nL s args lw_all RX1) (hK : va_K D vwCl (gTys ca) s) (hG : gOk D (mA o) (mH ca o S) H) {z : Int} (f : Int → Int) (hf : S.2 31 = f) (hz : 0 ≤ z ∧ z < 12) (hdg : decode cc pc = .ok (.baload, 1)) (kk : W p l e R s m args below meth c H locs cells slots Q (F0 m (pc + 1) ls (.int (iI (f z)) :: rest))) : W p l e R s m args below meth c H locs cells slots Q (F0 m pc ls (.int (iI z) :: .ref (o + 17) :: rest)) :=
  m_zald X hK hG 31 (by decide) rfl rfl hz hdg (by rw [hf]; exact kk)
theorem ms_raw (X : CallFix p m c cc nL s args lw_all RX1) (hK : va_K D vwCl (gTys ca) s) (hG : gOk D (mA o) (mH ca o S) H) (hS : va_S (mA o) H0 H locs) {z x : Int} (hz : 0 ≤ z ∧ z < 12) (hx : x = 0 ∨ x = 1) (hdg : decode cc pc = .ok (.bastore, 1)) (kk : ∀ (H1 : Heap) (locs1 : List Loc), gOk D (mA o) (mH ca o (mU S 31 z x)) H1 → va_S (mA o) H0 H1 locs1 → W p l e R s m args below meth c H1 locs1 cells slots Q (F0 m (pc + 1) ls rest)) : W p l e R s m args below meth c H locs cells slots Q (F0 m pc ls (.int (iI x) :: .int (iI z) :: .ref (o + 17) :: rest)) :=
  m_zast X hK hG hS 31 (by decide) rfl rfl hz hx hdg kk
/-- the field patterns -/
abbrev k_patterns : Nat := 32
theorem mg_patterns (X : CallFix p m c cc nL s args lw_all RX1) (hK : va_K D vwCl (gTys ca) s) (hG : gOk D (mA o) (mH ca o S) H) (hdg : decode cc pc = .ok (.getfield 64, 3)) (kk : W p l e R s m args below meth c H locs cells slots Q (F0 m (pc + 3) ls (.ref (o + 18) :: rest))) : W p l e R s m args below meth c H locs cells slots Q (F0 m pc ls (.ref o :: rest)) :=
  m_get X hK hG 32 (by decide) q1206 rfl (rfl) hdg kk
theorem ml_patterns (X : CallFix p m c cc nL s args lw_all RX1) (hK : va_K D vwCl (gTys ca) s) (hG : gOk D (mA o) (mH ca o S) H) {z : Int} (f : Int → Int) (hf : S.2 32 = f) (hz : 0 ≤ z ∧ z < 12) (hdg : decode cc pc = .ok (.iaload, 1)) (kk : W p l e R s m args below meth c H locs cells slots Q (F0 m (pc + 1) ls (.int (iI (f z)) :: rest))) : W p l e R s m args below meth c H locs cells slots Q (F0 m pc ls (.int (iI z) :: .ref (o + 18) :: rest)) :=
  m_iald X hK hG 32 (by decide) rfl rfl hz hdg (by rw [hf]; exact kk)
theorem ms_patterns (X : CallFix p m c cc nL s args lw_all RX1) (hK : va_K D vwCl (gTys ca) s) (hG : gOk D (mA o) (mH ca o S) H) (hS : va_S (mA o) H0 H locs) {z x : Int} (hz : 0 ≤ z ∧ z < 12) (hdg : decode cc pc = .ok (.iastore, 1)) (kk : ∀ (H1 : Heap) (locs1 : List Loc), gOk D (mA o) (mH ca o (mU S 32 z x)) H1 → va_S (mA o) H0 H1 locs1 → W p l e R s m args below meth c H1 locs1 cells slots Q (F0 m (pc + 1) ls rest)) : W p l e R s m args below meth c H locs cells slots Q (F0 m pc ls (.int (iI x) :: .int (iI z) :: .ref (o + 18) :: rest)) :=
  m_iast X hK hG hS 32 (by decide) rfl rfl hz hdg kk
/-- the field template -/
abbrev k_template : Nat := 33
theorem mg_template (X : CallFix p m c cc nL s args lw_all RX1) (hK : va_K D vwCl (gTys ca) s) (hG : gOk D (mA o) (mH ca o S) H) (hdg : decode cc pc = .ok (.getfield 67, 3)) (kk : W p l e R s m args below meth c H locs cells slots Q (F0 m (pc + 3) ls (.ref (o + 19) :: rest))) : W p l e R s m args below meth c H locs cells slots Q (F0 m pc ls (.ref o :: rest)) :=
  m_get X hK hG 33 (by decide) q1207 rfl (rfl) hdg kk
theorem ml_template (X : CallFix p m c cc nL s args lw_all RX1) (hK : va_K D vwCl (gTys ca) s) (hG : gOk D (mA o) (mH ca o S) H) {z : Int} (f : Int → Int) (hf : S.2 33 = f) (hz : 0 ≤ z ∧ z < 12) (hdg : decode cc pc = .ok (.iaload, 1)) (kk : W p l e R s m args below meth c H locs cells slots Q (F0 m (pc + 1) ls (.int (iI (f z)) :: rest))) : W p l e R s m args below meth c H locs cells slots Q (F0 m pc ls (.int (iI z) :: .ref (o + 19) :: rest)) :=
  m_iald X hK hG 33 (by decide) rfl rfl hz hdg (by rw [hf]; exact kk)
theorem ms_template (X : CallFix p m c cc nL s args lw_all RX1) (hK : va_K D vwCl (gTys ca) s) (hG : gOk D (mA o) (mH ca o S) H) (hS : va_S (mA o) H0 H locs) {z x : Int} (hz : 0 ≤ z ∧ z < 12) (hdg : decode cc pc = .ok (.iastore, 1)) (kk : ∀ (H1 : Heap) (locs1 : List Loc), gOk D (mA o) (mH ca o (mU S 33 z x)) H1 → va_S (mA o) H0 H1 locs1 → W p l e R s m args below meth c H1 locs1 cells slots Q (F0 m (pc + 1) ls rest)) : W p l e R s m args below meth c H locs cells slots Q (F0 m pc ls (.int (iI x) :: .int (iI z) :: .ref (o + 19) :: rest)) :=
  m_iast X hK hG hS 33 (by decide) rfl rfl hz hdg kk
/-- the field pKind -/
abbrev k_pKind : Nat := 34
theorem mg_pKind (X : CallFix p m c cc nL s args lw_all RX1) (hK : va_K D vwCl (gTys ca) s) (hG : gOk D (mA o) (mH ca o S) H) (hdg : decode cc pc = .ok (.getfield 70, 3)) (kk : W p l e R s m args below meth c H locs cells slots Q (F0 m (pc + 3) ls (.ref (o + 20) :: rest))) : W p l e R s m args below meth c H locs cells slots Q (F0 m pc ls (.ref o :: rest)) :=
  m_get X hK hG 34 (by decide) q1208 rfl (rfl) hdg kk
theorem ml_pKind (X : CallFix p m c cc nL s args lw_all RX1) (hK : va_K D vwCl (gTys ca) s) (hG : gOk D (mA o) (mH ca o S) H) {z : Int} (f : Int → Int) (hf : S.2 34 = f) (hz : 0 ≤ z ∧ z < 601) (hdg : decode cc pc = .ok (.iaload, 1)) (kk : W p l e R s m args below meth c H locs cells slots Q (F0 m (pc + 1) ls (.int (iI (f z)) :: rest))) : W p l e R s m args below meth c H locs cells slots Q (F0 m pc ls (.int (iI z) :: .ref (o + 20) :: rest)) :=
  m_iald X hK hG 34 (by decide) rfl rfl hz hdg (by rw [hf]; exact kk)
theorem ms_pKind (X : CallFix p m c cc nL s args lw_all RX1) (hK : va_K D vwCl (gTys ca) s) (hG : gOk D (mA o) (mH ca o S) H) (hS : va_S (mA o) H0 H locs) {z x : Int} (hz : 0 ≤ z ∧ z < 601) (hdg : decode cc pc = .ok (.iastore, 1)) (kk : ∀ (H1 : Heap) (locs1 : List Loc), gOk D (mA o) (mH ca o (mU S 34 z x)) H1 → va_S (mA o) H0 H1 locs1 → W p l e R s m args below meth c H1 locs1 cells slots Q (F0 m (pc + 1) ls rest)) : W p l e R s m args below meth c H locs cells slots Q (F0 m pc ls (.int (iI x) :: .int (iI z) :: .ref (o + 20) :: rest)) :=
  m_iast X hK hG hS 34 (by decide) rfl rfl hz hdg kk
/-- the field pValue -/
abbrev k_pValue : Nat := 35
theorem mg_pValue (X : CallFix p m c cc nL s args lw_all RX1) (hK : va_K D vwCl (gTys ca) s) (hG : gOk D (mA o) (mH ca o S) H) (hdg : decode cc pc = .ok (.getfield 73, 3)) (kk : W p l e R s m args below meth c H locs cells slots Q (F0 m (pc + 3) ls (.ref (o + 21) :: rest))) : W p l e R s m args below meth c H locs cells slots Q (F0 m pc ls (.ref o :: rest)) :=
  m_get X hK hG 35 (by decide) q1209 rfl (rfl) hdg kk
theorem ml_pValue (X : CallFix p m c cc nL s args lw_all RX1) (hK : va_K D vwCl (gTys ca) s) (hG : gOk D (mA o) (mH ca o S) H) {z : Int} (f : Int → Int) (hf : S.2 35 = f) (hz : 0 ≤ z ∧ z < 601) (hdg : decode cc pc = .ok (.laload, 1)) (kk : W p l e R s m args below meth c H locs cells slots Q (F0 m (pc + 1) ls (.long (lI (f z)) :: rest))) : W p l e R s m args below meth c H locs cells slots Q (F0 m pc ls (.int (iI z) :: .ref (o + 21) :: rest)) :=
  m_lald X hK hG 35 (by decide) rfl rfl hz hdg (by rw [hf]; exact kk)
theorem ms_pValue (X : CallFix p m c cc nL s args lw_all RX1) (hK : va_K D vwCl (gTys ca) s) (hG : gOk D (mA o) (mH ca o S) H) (hS : va_S (mA o) H0 H locs) {z x : Int} (hz : 0 ≤ z ∧ z < 601) (hdg : decode cc pc = .ok (.lastore, 1)) (kk : ∀ (H1 : Heap) (locs1 : List Loc), gOk D (mA o) (mH ca o (mU S 35 z x)) H1 → va_S (mA o) H0 H1 locs1 → W p l e R s m args below meth c H1 locs1 cells slots Q (F0 m (pc + 1) ls rest)) : W p l e R s m args below meth c H locs cells slots Q (F0 m pc ls (.long (lI x) :: .int (iI z) :: .ref (o + 21) :: rest)) :=
  m_last X hK hG hS 35 (by decide) rfl rfl hz hdg kk
/-- the field pPlace -/
abbrev k_pPlace : Nat := 36
theorem mg_pPlace (X : CallFix p m c cc nL s args lw_all RX1) (hK : va_K D vwCl (gTys ca) s) (hG : gOk D (mA o) (mH ca o S) H) (hdg : decode cc pc = .ok (.getfield 76, 3)) (kk : W p l e R s m args below meth c H locs cells slots Q (F0 m (pc + 3) ls (.ref (o + 22) :: rest))) : W p l e R s m args below meth c H locs cells slots Q (F0 m pc ls (.ref o :: rest)) :=
  m_get X hK hG 36 (by decide) q1210 rfl (rfl) hdg kk
theorem ml_pPlace (X : CallFix p m c cc nL s args lw_all RX1) (hK : va_K D vwCl (gTys ca) s) (hG : gOk D (mA o) (mH ca o S) H) {z : Int} (f : Int → Int) (hf : S.2 36 = f) (hz : 0 ≤ z ∧ z < 601) (hdg : decode cc pc = .ok (.iaload, 1)) (kk : W p l e R s m args below meth c H locs cells slots Q (F0 m (pc + 1) ls (.int (iI (f z)) :: rest))) : W p l e R s m args below meth c H locs cells slots Q (F0 m pc ls (.int (iI z) :: .ref (o + 22) :: rest)) :=
  m_iald X hK hG 36 (by decide) rfl rfl hz hdg (by rw [hf]; exact kk)
theorem ms_pPlace (X : CallFix p m c cc nL s args lw_all RX1) (hK : va_K D vwCl (gTys ca) s) (hG : gOk D (mA o) (mH ca o S) H) (hS : va_S (mA o) H0 H locs) {z x : Int} (hz : 0 ≤ z ∧ z < 601) (hdg : decode cc pc = .ok (.iastore, 1)) (kk : ∀ (H1 : Heap) (locs1 : List Loc), gOk D (mA o) (mH ca o (mU S 36 z x)) H1 → va_S (mA o) H0 H1 locs1 → W p l e R s m args below meth c H1 locs1 cells slots Q (F0 m (pc + 1) ls rest)) : W p l e R s m args below meth c H locs cells slots Q (F0 m pc ls (.int (iI x) :: .int (iI z) :: .ref (o + 22) :: rest)) :=
  m_iast X hK hG hS 36 (by decide) rfl rfl hz hdg kk
/-- the field pSpan -/
abbrev k_pSpan : Nat := 37
theorem mg_pSpan (X : CallFix p m c cc nL s args lw_all RX1) (hK : va_K D vwCl (gTys ca) s) (hG : gOk D (mA o) (mH ca o S) H) (hdg : decode cc pc = .ok (.getfield 79, 3)) (kk : W p l e R s m args below meth c H locs cells slots Q (F0 m (pc + 3) ls (.ref (o + 23) :: rest))) : W p l e R s m args below meth c H locs cells slots Q (F0 m pc ls (.ref o :: rest)) :=
  m_get X hK hG 37 (by decide) q1211 rfl (rfl) hdg kk
theorem ml_pSpan (X : CallFix p m c cc nL s args lw_all RX1) (hK : va_K D vwCl (gTys ca) s) (hG : gOk D (mA o) (mH ca o S) H) {z : Int} (f : Int → Int) (hf : S.2 37 = f) (hz : 0 ≤ z ∧ z < 601) (hdg : decode cc pc = .ok (.iaload, 1)) (kk : W p l e R s m args below meth c H locs cells slots Q (F0 m (pc + 1) ls (.int (iI (f z)) :: rest))) : W p l e R s m args below meth c H locs cells slots Q (F0 m pc ls (.int (iI z) :: .ref (o + 23) :: rest)) :=
  m_iald X hK hG 37 (by decide) rfl rfl hz hdg (by rw [hf]; exact kk)
theorem ms_pSpan (X : CallFix p m c cc nL s args lw_all RX1) (hK : va_K D vwCl (gTys ca) s) (hG : gOk D (mA o) (mH ca o S) H) (hS : va_S (mA o) H0 H locs) {z x : Int} (hz : 0 ≤ z ∧ z < 601) (hdg : decode cc pc = .ok (.iastore, 1)) (kk : ∀ (H1 : Heap) (locs1 : List Loc), gOk D (mA o) (mH ca o (mU S 37 z x)) H1 → va_S (mA o) H0 H1 locs1 → W p l e R s m args below meth c H1 locs1 cells slots Q (F0 m (pc + 1) ls rest)) : W p l e R s m args below meth c H locs cells slots Q (F0 m pc ls (.int (iI x) :: .int (iI z) :: .ref (o + 23) :: rest)) :=
  m_iast X hK hG hS 37 (by decide) rfl rfl hz hdg kk
/-- the field pCount -/
abbrev k_pCount : Nat := 38
theorem mg_pCount (X : CallFix p m c cc nL s args lw_all RX1) (hK : va_K D vwCl (gTys ca) s) (hG : gOk D (mA o) (mH ca o S) H) (hdg : decode cc pc = .ok (.getfield 82, 3)) (kk : W p l e R s m args below meth c H locs cells slots Q (F0 m (pc + 3) ls (.ref (o + 24) :: rest))) : W p l e R s m args below meth c H locs cells slots Q (F0 m pc ls (.ref o :: rest)) :=
  m_get X hK hG 38 (by decide) q1212 rfl (rfl) hdg kk
theorem ml_pCount (X : CallFix p m c cc nL s args lw_all RX1) (hK : va_K D vwCl (gTys ca) s) (hG : gOk D (mA o) (mH ca o S) H) {z : Int} (f : Int → Int) (hf : S.2 38 = f) (hz : 0 ≤ z ∧ z < 601) (hdg : decode cc pc = .ok (.iaload, 1)) (kk : W p l e R s m args below meth c H locs cells slots Q (F0 m (pc + 1) ls (.int (iI (f z)) :: rest))) : W p l e R s m args below meth c H locs cells slots Q (F0 m pc ls (.int (iI z) :: .ref (o + 24) :: rest)) :=
  m_iald X hK hG 38 (by decide) rfl rfl hz hdg (by rw [hf]; exact kk)
theorem ms_pCount (X : CallFix p m c cc nL s args lw_all RX1) (hK : va_K D vwCl (gTys ca) s) (hG : gOk D (mA o) (mH ca o S) H) (hS : va_S (mA o) H0 H locs) {z x : Int} (hz : 0 ≤ z ∧ z < 601) (hdg : decode cc pc = .ok (.iastore, 1)) (kk : ∀ (H1 : Heap) (locs1 : List Loc), gOk D (mA o) (mH ca o (mU S 38 z x)) H1 → va_S (mA o) H0 H1 locs1 → W p l e R s m args below meth c H1 locs1 cells slots Q (F0 m (pc + 1) ls rest)) : W p l e R s m args below meth c H locs cells slots Q (F0 m pc ls (.int (iI x) :: .int (iI z) :: .ref (o + 24) :: rest)) :=
  m_iast X hK hG hS 38 (by decide) rfl rfl hz hdg kk
/-- the field pParent -/
abbrev k_pParent : Nat := 39
theorem mg_pParent (X : CallFix p m c cc nL s args lw_all RX1) (hK : va_K D vwCl (gTys ca) s) (hG : gOk D (mA o) (mH ca o S) H) (hdg : decode cc pc = .ok (.getfield 85, 3)) (kk : W p l e R s m args below meth c H locs cells slots Q (F0 m (pc + 3) ls (.ref (o + 25) :: rest))) : W p l e R s m args below meth c H locs cells slots Q (F0 m pc ls (.ref o :: rest)) :=
  m_get X hK hG 39 (by decide) q1213 rfl (rfl) hdg kk
theorem ml_pParent (X : CallFix p m c cc nL s args lw_all RX1) (hK : va_K D vwCl (gTys ca) s) (hG : gOk D (mA o) (mH ca o S) H) {z : Int} (f : Int → Int) (hf : S.2 39 = f) (hz : 0 ≤ z ∧ z < 601) (hdg : decode cc pc = .ok (.iaload, 1)) (kk : W p l e R s m args below meth c H locs cells slots Q (F0 m (pc + 1) ls (.int (iI (f z)) :: rest))) : W p l e R s m args below meth c H locs cells slots Q (F0 m pc ls (.int (iI z) :: .ref (o + 25) :: rest)) :=
  m_iald X hK hG 39 (by decide) rfl rfl hz hdg (by rw [hf]; exact kk)
theorem ms_pParent (X : CallFix p m c cc nL s args lw_all RX1) (hK : va_K D vwCl (gTys ca) s) (hG : gOk D (mA o) (mH ca o S) H) (hS : va_S (mA o) H0 H locs) {z x : Int} (hz : 0 ≤ z ∧ z < 601) (hdg : decode cc pc = .ok (.iastore, 1)) (kk : ∀ (H1 : Heap) (locs1 : List Loc), gOk D (mA o) (mH ca o (mU S 39 z x)) H1 → va_S (mA o) H0 H1 locs1 → W p l e R s m args below meth c H1 locs1 cells slots Q (F0 m (pc + 1) ls rest)) : W p l e R s m args below meth c H locs cells slots Q (F0 m pc ls (.int (iI x) :: .int (iI z) :: .ref (o + 25) :: rest)) :=
  m_iast X hK hG hS 39 (by decide) rfl rfl hz hdg kk
/-- the field items -/
abbrev k_items : Nat := 40
theorem mg_items (X : CallFix p m c cc nL s args lw_all RX1) (hK : va_K D vwCl (gTys ca) s) (hG : gOk D (mA o) (mH ca o S) H) (z : Int) (hz : S.1 40 = z) (hdg : decode cc pc = .ok (.getfield 306, 3)) (kk : W p l e R s m args below meth c H locs cells slots Q (F0 m (pc + 3) ls (.int (iI z) :: rest))) : W p l e R s m args below meth c H locs cells slots Q (F0 m pc ls (.ref o :: rest)) :=
  m_get X hK hG 40 (by decide) q1214 rfl (by rw [← hz]; rfl) hdg kk
theorem mp_items (X : CallFix p m c cc nL s args lw_all RX1) (hK : va_K D vwCl (gTys ca) s) (hG : gOk D (mA o) (mH ca o S) H) (hS : va_S (mA o) H0 H locs) {z : Int} (hdg : decode cc pc = .ok (.putfield 306, 3)) (kk : ∀ (H1 : Heap) (locs1 : List Loc), gOk D (mA o) (mH ca o (mS S 40 z)) H1 → va_S (mA o) H0 H1 locs1 → W p l e R s m args below meth c H1 locs1 cells slots Q (F0 m (pc + 3) ls rest)) : W p l e R s m args below meth c H locs cells slots Q (F0 m pc ls (.int (iI z) :: .ref o :: rest)) :=
  m_put X hK hG hS 40 (by decide) rfl rfl q1214 rfl (by decide +kernel) rfl rfl hdg kk
/-- the field what -/
abbrev k_what : Nat := 41
theorem mg_what (X : CallFix p m c cc nL s args lw_all RX1) (hK : va_K D vwCl (gTys ca) s) (hG : gOk D (mA o) (mH ca o S) H) (hdg : decode cc pc = .ok (.getfield 88, 3)) (kk : W p l e R s m args below meth c H locs cells slots Q (F0 m (pc + 3) ls (.ref (o + 26) :: rest))) : W p l e R s m args below meth c H locs cells slots Q (F0 m pc ls (.ref o :: rest)) :=
  m_get X hK hG 41 (by decide) q1215 rfl (rfl) hdg kk
theorem ml_what (X : CallFix p m c cc nL s args lw_all RX1) (hK : va_K D vwCl (gTys ca) s) (hG : gOk D (mA o) (mH ca o S) H) {z : Int} (f : Int → Int) (hf : S.2 41 = f) (hz : 0 ≤ z ∧ z < 500) (hdg : decode cc pc = .ok (.iaload, 1)) (kk : W p l e R s m args below meth c H locs cells slots Q (F0 m (pc + 1) ls (.int (iI (f z)) :: rest))) : W p l e R s m args below meth c H locs cells slots Q (F0 m pc ls (.int (iI z) :: .ref (o + 26) :: rest)) :=
  m_iald X hK hG 41 (by decide) rfl rfl hz hdg (by rw [hf]; exact kk)
theorem ms_what (X : CallFix p m c cc nL s args lw_all RX1) (hK : va_K D vwCl (gTys ca) s) (hG : gOk D (mA o) (mH ca o S) H) (hS : va_S (mA o) H0 H locs) {z x : Int} (hz : 0 ≤ z ∧ z < 500) (hdg : decode cc pc = .ok (.iastore, 1)) (kk : ∀ (H1 : Heap) (locs1 : List Loc), gOk D (mA o) (mH ca o (mU S 41 z x)) H1 → va_S (mA o) H0 H1 locs1 → W p l e R s m args below meth c H1 locs1 cells slots Q (F0 m (pc + 1) ls rest)) : W p l e R s m args below meth c H locs cells slots Q (F0 m pc ls (.int (iI x) :: .int (iI z) :: .ref (o + 26) :: rest)) :=
  m_iast X hK hG hS 41 (by decide) rfl rfl hz hdg kk
/-- the field worthOf -/
abbrev k_worthOf : Nat := 42
theorem mg_worthOf (X : CallFix p m c cc nL s args lw_all RX1) (hK : va_K D vwCl (gTys ca) s) (hG : gOk D (mA o) (mH ca o S) H) (hdg : decode cc pc = .ok (.getfield 91, 3)) (kk : W p l e R s m args below meth c H locs cells slots Q (F0 m (pc + 3) ls (.ref (o + 27) :: rest))) : W p l e R s m args below meth c H locs cells slots Q (F0 m pc ls (.ref o :: rest)) :=
  m_get X hK hG 42 (by decide) q1216 rfl (rfl) hdg kk
theorem ml_worthOf (X : CallFix p m c cc nL s args lw_all RX1) (hK : va_K D vwCl (gTys ca) s) (hG : gOk D (mA o) (mH ca o S) H) {z : Int} (f : Int → Int) (hf : S.2 42 = f) (hz : 0 ≤ z ∧ z < 500) (hdg : decode cc pc = .ok (.laload, 1)) (kk : W p l e R s m args below meth c H locs cells slots Q (F0 m (pc + 1) ls (.long (lI (f z)) :: rest))) : W p l e R s m args below meth c H locs cells slots Q (F0 m pc ls (.int (iI z) :: .ref (o + 27) :: rest)) :=
  m_lald X hK hG 42 (by decide) rfl rfl hz hdg (by rw [hf]; exact kk)
theorem ms_worthOf (X : CallFix p m c cc nL s args lw_all RX1) (hK : va_K D vwCl (gTys ca) s) (hG : gOk D (mA o) (mH ca o S) H) (hS : va_S (mA o) H0 H locs) {z x : Int} (hz : 0 ≤ z ∧ z < 500) (hdg : decode cc pc = .ok (.lastore, 1)) (kk : ∀ (H1 : Heap) (locs1 : List Loc), gOk D (mA o) (mH ca o (mU S 42 z x)) H1 → va_S (mA o) H0 H1 locs1 → W p l e R s m args below meth c H1 locs1 cells slots Q (F0 m (pc + 1) ls rest)) : W p l e R s m args below meth c H locs cells slots Q (F0 m pc ls (.long (lI x) :: .int (iI z) :: .ref (o + 27) :: rest)) :=
  m_last X hK hG hS 42 (by decide) rfl rfl hz hdg kk
/-- the field mark -/
abbrev k_mark : Nat := 43
theorem mg_mark (X : CallFix p m c cc nL s args lw_all RX1) (hK : va_K D vwCl (gTys ca) s) (hG : gOk D (mA o) (mH ca o S) H) (hdg : decode cc pc = .ok (.getfield 94, 3)) (kk : W p l e R s m args below meth c H locs cells slots Q (F0 m (pc + 3) ls (.ref (o + 28) :: rest))) : W p l e R s m args below meth c H locs cells slots Q (F0 m pc ls (.ref o :: rest)) :=
  m_get X hK hG 43 (by decide) q1217 rfl (rfl) hdg kk
theorem ml_mark (X : CallFix p m c cc nL s args lw_all RX1) (hK : va_K D vwCl (gTys ca) s) (hG : gOk D (mA o) (mH ca o S) H) {z : Int} (f : Int → Int) (hf : S.2 43 = f) (hz : 0 ≤ z ∧ z < 500) (hdg : decode cc pc = .ok (.iaload, 1)) (kk : W p l e R s m args below meth c H locs cells slots Q (F0 m (pc + 1) ls (.int (iI (f z)) :: rest))) : W p l e R s m args below meth c H locs cells slots Q (F0 m pc ls (.int (iI z) :: .ref (o + 28) :: rest)) :=
  m_iald X hK hG 43 (by decide) rfl rfl hz hdg (by rw [hf]; exact kk)
theorem ms_mark (X : CallFix p m c cc nL s args lw_all RX1) (hK : va_K D vwCl (gTys ca) s) (hG : gOk D (mA o) (mH ca o S) H) (hS : va_S (mA o) H0 H locs) {z x : Int} (hz : 0 ≤ z ∧ z < 500) (hdg : decode cc pc = .ok (.iastore, 1)) (kk : ∀ (H1 : Heap) (locs1 : List Loc), gOk D (mA o) (mH ca o (mU S 43 z x)) H1 → va_S (mA o) H0 H1 locs1 → W p l e R s m args below meth c H1 locs1 cells slots Q (F0 m (pc + 1) ls rest)) : W p l e R s m args below meth c H locs cells slots Q (F0 m pc ls (.int (iI x) :: .int (iI z) :: .ref (o + 28) :: rest)) :=
  m_iast X hK hG hS 43 (by decide) rfl rfl hz hdg kk
/-- the field from -/
abbrev k_from : Nat := 44
theorem mg_from (X : CallFix p m c cc nL s args lw_all RX1) (hK : va_K D vwCl (gTys ca) s) (hG : gOk D (mA o) (mH ca o S) H) (hdg : decode cc pc = .ok (.getfield 97, 3)) (kk : W p l e R s m args below meth c H locs cells slots Q (F0 m (pc + 3) ls (.ref (o + 29) :: rest))) : W p l e R s m args below meth c H locs cells slots Q (F0 m pc ls (.ref o :: rest)) :=
  m_get X hK hG 44 (by decide) q1218 rfl (rfl) hdg kk
theorem ml_from (X : CallFix p m c cc nL s args lw_all RX1) (hK : va_K D vwCl (gTys ca) s) (hG : gOk D (mA o) (mH ca o S) H) {z : Int} (f : Int → Int) (hf : S.2 44 = f) (hz : 0 ≤ z ∧ z < 500) (hdg : decode cc pc = .ok (.iaload, 1)) (kk : W p l e R s m args below meth c H locs cells slots Q (F0 m (pc + 1) ls (.int (iI (f z)) :: rest))) : W p l e R s m args below meth c H locs cells slots Q (F0 m pc ls (.int (iI z) :: .ref (o + 29) :: rest)) :=
  m_iald X hK hG 44 (by decide) rfl rfl hz hdg (by rw [hf]; exact kk)
theorem ms_from (X : CallFix p m c cc nL s args lw_all RX1) (hK : va_K D vwCl (gTys ca) s) (hG : gOk D (mA o) (mH ca o S) H) (hS : va_S (mA o) H0 H locs) {z x : Int} (hz : 0 ≤ z ∧ z < 500) (hdg : decode cc pc = .ok (.iastore, 1)) (kk : ∀ (H1 : Heap) (locs1 : List Loc), gOk D (mA o) (mH ca o (mU S 44 z x)) H1 → va_S (mA o) H0 H1 locs1 → W p l e R s m args below meth c H1 locs1 cells slots Q (F0 m (pc + 1) ls rest)) : W p l e R s m args below meth c H locs cells slots Q (F0 m pc ls (.int (iI x) :: .int (iI z) :: .ref (o + 29) :: rest)) :=
  m_iast X hK hG hS 44 (by decide) rfl rfl hz hdg kk
/-- the field maker -/
abbrev k_maker : Nat := 45
theorem mg_maker (X : CallFix p m c cc nL s args lw_all RX1) (hK : va_K D vwCl (gTys ca) s) (hG : gOk D (mA o) (mH ca o S) H) (hdg : decode cc pc = .ok (.getfield 100, 3)) (kk : W p l e R s m args below meth c H locs cells slots Q (F0 m (pc + 3) ls (.ref (o + 30) :: rest))) : W p l e R s m args below meth c H locs cells slots Q (F0 m pc ls (.ref o :: rest)) :=
  m_get X hK hG 45 (by decide) q1219 rfl (rfl) hdg kk
theorem ml_maker (X : CallFix p m c cc nL s args lw_all RX1) (hK : va_K D vwCl (gTys ca) s) (hG : gOk D (mA o) (mH ca o S) H) {z : Int} (f : Int → Int) (hf : S.2 45 = f) (hz : 0 ≤ z ∧ z < 500) (hdg : decode cc pc = .ok (.iaload, 1)) (kk : W p l e R s m args below meth c H locs cells slots Q (F0 m (pc + 1) ls (.int (iI (f z)) :: rest))) : W p l e R s m args below meth c H locs cells slots Q (F0 m pc ls (.int (iI z) :: .ref (o + 30) :: rest)) :=
  m_iald X hK hG 45 (by decide) rfl rfl hz hdg (by rw [hf]; exact kk)
theorem ms_maker (X : CallFix p m c cc nL s args lw_all RX1) (hK : va_K D vwCl (gTys ca) s) (hG : gOk D (mA o) (mH ca o S) H) (hS : va_S (mA o) H0 H locs) {z x : Int} (hz : 0 ≤ z ∧ z < 500) (hdg : decode cc pc = .ok (.iastore, 1)) (kk : ∀ (H1 : Heap) (locs1 : List Loc), gOk D (mA o) (mH ca o (mU S 45 z x)) H1 → va_S (mA o) H0 H1 locs1 → W p l e R s m args below meth c H1 locs1 cells slots Q (F0 m (pc + 1) ls rest)) : W p l e R s m args below meth c H locs cells slots Q (F0 m pc ls (.int (iI x) :: .int (iI z) :: .ref (o + 30) :: rest)) :=
  m_iast X hK hG hS 45 (by decide) rfl rfl hz hdg kk
/-- the field room -/
abbrev k_room : Nat := 46
theorem mg_room (X : CallFix p m c cc nL s args lw_all RX1) (hK : va_K D vwCl (gTys ca) s) (hG : gOk D (mA o) (mH ca o S) H) (hdg : decode cc pc = .ok (.getfield 103, 3)) (kk : W p l e R s m args below meth c H locs cells slots Q (F0 m (pc + 3) ls (.ref (o + 31) :: rest))) : W p l e R s m args below meth c H locs cells slots Q (F0 m pc ls (.ref o :: rest)) :=
  m_get X hK hG 46 (by decide) q1220 rfl (rfl) hdg kk
theorem ml_room (X : CallFix p m c cc nL s args lw_all RX1) (hK : va_K D vwCl (gTys ca) s) (hG : gOk D (mA o) (mH ca o S) H) {z : Int} (f : Int → Int) (hf : S.2 46 = f) (hz : 0 ≤ z ∧ z < 500) (hdg : decode cc pc = .ok (.iaload, 1)) (kk : W p l e R s m args below meth c H locs cells slots Q (F0 m (pc + 1) ls (.int (iI (f z)) :: rest))) : W p l e R s m args below meth c H locs cells slots Q (F0 m pc ls (.int (iI z) :: .ref (o + 31) :: rest)) :=
  m_iald X hK hG 46 (by decide) rfl rfl hz hdg (by rw [hf]; exact kk)
theorem ms_room (X : CallFix p m c cc nL s args lw_all RX1) (hK : va_K D vwCl (gTys ca) s) (hG : gOk D (mA o) (mH ca o S) H) (hS : va_S (mA o) H0 H locs) {z x : Int} (hz : 0 ≤ z ∧ z < 500) (hdg : decode cc pc = .ok (.iastore, 1)) (kk : ∀ (H1 : Heap) (locs1 : List Loc), gOk D (mA o) (mH ca o (mU S 46 z x)) H1 → va_S (mA o) H0 H1 locs1 → W p l e R s m args below meth c H1 locs1 cells slots Q (F0 m (pc + 1) ls rest)) : W p l e R s m args below meth c H locs cells slots Q (F0 m pc ls (.int (iI x) :: .int (iI z) :: .ref (o + 31) :: rest)) :=
  m_iast X hK hG hS 46 (by decide) rfl rfl hz hdg kk
/-- the field parts -/
abbrev k_parts : Nat := 47
theorem mg_parts (X : CallFix p m c cc nL s args lw_all RX1) (hK : va_K D vwCl (gTys ca) s) (hG : gOk D (mA o) (mH ca o S) H) (hdg : decode cc pc = .ok (.getfield 106, 3)) (kk : W p l e R s m args below meth c H locs cells slots Q (F0 m (pc + 3) ls (.ref (o + 32) :: rest))) : W p l e R s m args below meth c H locs cells slots Q (F0 m pc ls (.ref o :: rest)) :=
  m_get X hK hG 47 (by decide) q1221 rfl (rfl) hdg kk
theorem ml_parts (X : CallFix p m c cc nL s args lw_all RX1) (hK : va_K D vwCl (gTys ca) s) (hG : gOk D (mA o) (mH ca o S) H) {z : Int} (f : Int → Int) (hf : S.2 47 = f) (hz : 0 ≤ z ∧ z < 500) (hdg : decode cc pc = .ok (.iaload, 1)) (kk : W p l e R s m args below meth c H locs cells slots Q (F0 m (pc + 1) ls (.int (iI (f z)) :: rest))) : W p l e R s m args below meth c H locs cells slots Q (F0 m pc ls (.int (iI z) :: .ref (o + 32) :: rest)) :=
  m_iald X hK hG 47 (by decide) rfl rfl hz hdg (by rw [hf]; exact kk)
theorem ms_parts (X : CallFix p m c cc nL s args lw_all RX1) (hK : va_K D vwCl (gTys ca) s) (hG : gOk D (mA o) (mH ca o S) H) (hS : va_S (mA o) H0 H locs) {z x : Int} (hz : 0 ≤ z ∧ z < 500) (hdg : decode cc pc = .ok (.iastore, 1)) (kk : ∀ (H1 : Heap) (locs1 : List Loc), gOk D (mA o) (mH ca o (mU S 47 z x)) H1 → va_S (mA o) H0 H1 locs1 → W p l e R s m args below meth c H1 locs1 cells slots Q (F0 m (pc + 1) ls rest)) : W p l e R s m args below meth c H locs cells slots Q (F0 m pc ls (.int (iI x) :: .int (iI z) :: .ref (o + 32) :: rest)) :=
  m_iast X hK hG hS 47 (by decide) rfl rfl hz hdg kk
/-- the field inside -/
abbrev k_inside : Nat := 48
theorem mg_inside (X : CallFix p m c cc nL s args lw_all RX1) (hK : va_K D vwCl (gTys ca) s) (hG : gOk D (mA o) (mH ca o S) H) (hdg : decode cc pc = .ok (.getfield 109, 3)) (kk : W p l e R s m args below meth c H locs cells slots Q (F0 m (pc + 3) ls (.ref (o + 33) :: rest))) : W p l e R s m args below meth c H locs cells slots Q (F0 m pc ls (.ref o :: rest)) :=
  m_get X hK hG 48 (by decide) q1222 rfl (rfl) hdg kk
theorem ml_inside (X : CallFix p m c cc nL s args lw_all RX1) (hK : va_K D vwCl (gTys ca) s) (hG : gOk D (mA o) (mH ca o S) H) {z : Int} (f : Int → Int) (hf : S.2 48 = f) (hz : 0 ≤ z ∧ z < 500) (hdg : decode cc pc = .ok (.iaload, 1)) (kk : W p l e R s m args below meth c H locs cells slots Q (F0 m (pc + 1) ls (.int (iI (f z)) :: rest))) : W p l e R s m args below meth c H locs cells slots Q (F0 m pc ls (.int (iI z) :: .ref (o + 33) :: rest)) :=
  m_iald X hK hG 48 (by decide) rfl rfl hz hdg (by rw [hf]; exact kk)
theorem ms_inside (X : CallFix p m c cc nL s args lw_all RX1) (hK : va_K D vwCl (gTys ca) s) (hG : gOk D (mA o) (mH ca o S) H) (hS : va_S (mA o) H0 H locs) {z x : Int} (hz : 0 ≤ z ∧ z < 500) (hdg : decode cc pc = .ok (.iastore, 1)) (kk : ∀ (H1 : Heap) (locs1 : List Loc), gOk D (mA o) (mH ca o (mU S 48 z x)) H1 → va_S (mA o) H0 H1 locs1 → W p l e R s m args below meth c H1 locs1 cells slots Q (F0 m (pc + 1) ls rest)) : W p l e R s m args below meth c H locs cells slots Q (F0 m pc ls (.int (iI x) :: .int (iI z) :: .ref (o + 33) :: rest)) :=
  m_iast X hK hG hS 48 (by decide) rfl rfl hz hdg kk
/-- the field steps -/
abbrev k_steps : Nat := 49
theorem mg_steps (X : CallFix p m c cc nL s args lw_all RX1) (hK : va_K D vwCl (gTys ca) s) (hG : gOk D (mA o) (mH ca o S) H) (z : Int) (hz : S.1 49 = z) (hdg : decode cc pc = .ok (.getfield 325, 3)) (kk : W p l e R s m args below meth c H locs cells slots Q (F0 m (pc + 3) ls (.int (iI z) :: rest))) : W p l e R s m args below meth c H locs cells slots Q (F0 m pc ls (.ref o :: rest)) :=
  m_get X hK hG 49 (by decide) q1223 rfl (by rw [← hz]; rfl) hdg kk
theorem mp_steps (X : CallFix p m c cc nL s args lw_all RX1) (hK : va_K D vwCl (gTys ca) s) (hG : gOk D (mA o) (mH ca o S) H) (hS : va_S (mA o) H0 H locs) {z : Int} (hdg : decode cc pc = .ok (.putfield 325, 3)) (kk : ∀ (H1 : Heap) (locs1 : List Loc), gOk D (mA o) (mH ca o (mS S 49 z)) H1 → va_S (mA o) H0 H1 locs1 → W p l e R s m args below meth c H1 locs1 cells slots Q (F0 m (pc + 3) ls rest)) : W p l e R s m args below meth c H locs cells slots Q (F0 m pc ls (.int (iI z) :: .ref o :: rest)) :=
  m_put X hK hG hS 49 (by decide) rfl rfl q1223 rfl (by decide +kernel) rfl rfl hdg kk
/-- the field stepRule -/
abbrev k_stepRule : Nat := 50
theorem mg_stepRule (X : CallFix p m c cc nL s args lw_all RX1) (hK : va_K D vwCl (gTys ca) s) (hG : gOk D (mA o) (mH ca o S) H) (hdg : decode cc pc = .ok (.getfield 112, 3)) (kk : W p l e R s m args below meth c H locs cells slots Q (F0 m (pc + 3) ls (.ref (o + 34) :: rest))) : W p l e R s m args below meth c H locs cells slots Q (F0 m pc ls (.ref o :: rest)) :=
  m_get X hK hG 50 (by decide) q1224 rfl (rfl) hdg kk
theorem ml_stepRule (X : CallFix p m c cc nL s args lw_all RX1) (hK : va_K D vwCl (gTys ca) s) (hG : gOk D (mA o) (mH ca o S) H) {z : Int} (f : Int → Int) (hf : S.2 50 = f) (hz : 0 ≤ z ∧ z < 301) (hdg : decode cc pc = .ok (.iaload, 1)) (kk : W p l e R s m args below meth c H locs cells slots Q (F0 m (pc + 1) ls (.int (iI (f z)) :: rest))) : W p l e R s m args below meth c H locs cells slots Q (F0 m pc ls (.int (iI z) :: .ref (o + 34) :: rest)) :=
  m_iald X hK hG 50 (by decide) rfl rfl hz hdg (by rw [hf]; exact kk)
theorem ms_stepRule (X : CallFix p m c cc nL s args lw_all RX1) (hK : va_K D vwCl (gTys ca) s) (hG : gOk D (mA o) (mH ca o S) H) (hS : va_S (mA o) H0 H locs) {z x : Int} (hz : 0 ≤ z ∧ z < 301) (hdg : decode cc pc = .ok (.iastore, 1)) (kk : ∀ (H1 : Heap) (locs1 : List Loc), gOk D (mA o) (mH ca o (mU S 50 z x)) H1 → va_S (mA o) H0 H1 locs1 → W p l e R s m args below meth c H1 locs1 cells slots Q (F0 m (pc + 1) ls rest)) : W p l e R s m args below meth c H locs cells slots Q (F0 m pc ls (.int (iI x) :: .int (iI z) :: .ref (o + 34) :: rest)) :=
  m_iast X hK hG hS 50 (by decide) rfl rfl hz hdg kk
/-- the field stepPlace -/
abbrev k_stepPlace : Nat := 51
theorem mg_stepPlace (X : CallFix p m c cc nL s args lw_all RX1) (hK : va_K D vwCl (gTys ca) s) (hG : gOk D (mA o) (mH ca o S) H) (hdg : decode cc pc = .ok (.getfield 115, 3)) (kk : W p l e R s m args below meth c H locs cells slots Q (F0 m (pc + 3) ls (.ref (o + 35) :: rest))) : W p l e R s m args below meth c H locs cells slots Q (F0 m pc ls (.ref o :: rest)) :=
  m_get X hK hG 51 (by decide) q1225 rfl (rfl) hdg kk
theorem ml_stepPlace (X : CallFix p m c cc nL s args lw_all RX1) (hK : va_K D vwCl (gTys ca) s) (hG : gOk D (mA o) (mH ca o S) H) {z : Int} (f : Int → Int) (hf : S.2 51 = f) (hz : 0 ≤ z ∧ z < 301) (hdg : decode cc pc = .ok (.iaload, 1)) (kk : W p l e R s m args below meth c H locs cells slots Q (F0 m (pc + 1) ls (.int (iI (f z)) :: rest))) : W p l e R s m args below meth c H locs cells slots Q (F0 m pc ls (.int (iI z) :: .ref (o + 35) :: rest)) :=
  m_iald X hK hG 51 (by decide) rfl rfl hz hdg (by rw [hf]; exact kk)
theorem ms_stepPlace (X : CallFix p m c cc nL s args lw_all RX1) (hK : va_K D vwCl (gTys ca) s) (hG : gOk D (mA o) (mH ca o S) H) (hS : va_S (mA o) H0 H locs) {z x : Int} (hz : 0 ≤ z ∧ z < 301) (hdg : decode cc pc = .ok (.iastore, 1)) (kk : ∀ (H1 : Heap) (locs1 : List Loc), gOk D (mA o) (mH ca o (mU S 51 z x)) H1 → va_S (mA o) H0 H1 locs1 → W p l e R s m args below meth c H1 locs1 cells slots Q (F0 m (pc + 1) ls rest)) : W p l e R s m args below meth c H locs cells slots Q (F0 m pc ls (.int (iI x) :: .int (iI z) :: .ref (o + 35) :: rest)) :=
  m_iast X hK hG hS 51 (by decide) rfl rfl hz hdg kk
/-- the field stepMaker -/
abbrev k_stepMaker : Nat := 52
theorem mg_stepMaker (X : CallFix p m c cc nL s args lw_all RX1) (hK : va_K D vwCl (gTys ca) s) (hG : gOk D (mA o) (mH ca o S) H) (hdg : decode cc pc = .ok (.getfield 118, 3)) (kk : W p l e R s m args below meth c H locs cells slots Q (F0 m (pc + 3) ls (.ref (o + 36) :: rest))) : W p l e R s m args below meth c H locs cells slots Q (F0 m pc ls (.ref o :: rest)) :=
  m_get X hK hG 52 (by decide) q1226 rfl (rfl) hdg kk
theorem ml_stepMaker (X : CallFix p m c cc nL s args lw_all RX1) (hK : va_K D vwCl (gTys ca) s) (hG : gOk D (mA o) (mH ca o S) H) {z : Int} (f : Int → Int) (hf : S.2 52 = f) (hz : 0 ≤ z ∧ z < 301) (hdg : decode cc pc = .ok (.iaload, 1)) (kk : W p l e R s m args below meth c H locs cells slots Q (F0 m (pc + 1) ls (.int (iI (f z)) :: rest))) : W p l e R s m args below meth c H locs cells slots Q (F0 m pc ls (.int (iI z) :: .ref (o + 36) :: rest)) :=
  m_iald X hK hG 52 (by decide) rfl rfl hz hdg (by rw [hf]; exact kk)
theorem ms_stepMaker (X : CallFix p m c cc nL s args lw_all RX1) (hK : va_K D vwCl (gTys ca) s) (hG : gOk D (mA o) (mH ca o S) H) (hS : va_S (mA o) H0 H locs) {z x : Int} (hz : 0 ≤ z ∧ z < 301) (hdg : decode cc pc = .ok (.iastore, 1)) (kk : ∀ (H1 : Heap) (locs1 : List Loc), gOk D (mA o) (mH ca o (mU S 52 z x)) H1 → va_S (mA o) H0 H1 locs1 → W p l e R s m args below meth c H1 locs1 cells slots Q (F0 m (pc + 1) ls rest)) : W p l e R s m args below meth c H locs cells slots Q (F0 m pc ls (.int (iI x) :: .int (iI z) :: .ref (o + 36) :: rest)) :=
  m_iast X hK hG hS 52 (by decide) rfl rfl hz hdg kk
/-- the field made -/
abbrev k_made : Nat := 53
theorem mg_made (X : CallFix p m c cc nL s args lw_all RX1) (hK : va_K D vwCl (gTys ca) s) (hG : gOk D (mA o) (mH ca o S) H) (z : Int) (hz : S.1 53 = z) (hdg : decode cc pc = .ok (.getfield 408, 3)) (kk : W p l e R s m args below meth c H locs cells slots Q (F0 m (pc + 3) ls (.int (iI z) :: rest))) : W p l e R s m args below meth c H locs cells slots Q (F0 m pc ls (.ref o :: rest)) :=
  m_get X hK hG 53 (by decide) q1227 rfl (by rw [← hz]; rfl) hdg kk
theorem mp_made (X : CallFix p m c cc nL s args lw_all RX1) (hK : va_K D vwCl (gTys ca) s) (hG : gOk D (mA o) (mH ca o S) H) (hS : va_S (mA o) H0 H locs) {z : Int} (hdg : decode cc pc = .ok (.putfield 408, 3)) (kk : ∀ (H1 : Heap) (locs1 : List Loc), gOk D (mA o) (mH ca o (mS S 53 z)) H1 → va_S (mA o) H0 H1 locs1 → W p l e R s m args below meth c H1 locs1 cells slots Q (F0 m (pc + 3) ls rest)) : W p l e R s m args below meth c H locs cells slots Q (F0 m pc ls (.int (iI z) :: .ref o :: rest)) :=
  m_put X hK hG hS 53 (by decide) rfl rfl q1227 rfl (by decide +kernel) rfl rfl hdg kk
/-- the field metFrom -/
abbrev k_metFrom : Nat := 54
theorem mg_metFrom (X : CallFix p m c cc nL s args lw_all RX1) (hK : va_K D vwCl (gTys ca) s) (hG : gOk D (mA o) (mH ca o S) H) (hdg : decode cc pc = .ok (.getfield 121, 3)) (kk : W p l e R s m args below meth c H locs cells slots Q (F0 m (pc + 3) ls (.ref (o + 37) :: rest))) : W p l e R s m args below meth c H locs cells slots Q (F0 m pc ls (.ref o :: rest)) :=
  m_get X hK hG 54 (by decide) q1228 rfl (rfl) hdg kk
theorem ml_metFrom (X : CallFix p m c cc nL s args lw_all RX1) (hK : va_K D vwCl (gTys ca) s) (hG : gOk D (mA o) (mH ca o S) H) {z : Int} (f : Int → Int) (hf : S.2 54 = f) (hz : 0 ≤ z ∧ z < 601) (hdg : decode cc pc = .ok (.iaload, 1)) (kk : W p l e R s m args below meth c H locs cells slots Q (F0 m (pc + 1) ls (.int (iI (f z)) :: rest))) : W p l e R s m args below meth c H locs cells slots Q (F0 m pc ls (.int (iI z) :: .ref (o + 37) :: rest)) :=
  m_iald X hK hG 54 (by decide) rfl rfl hz hdg (by rw [hf]; exact kk)
theorem ms_metFrom (X : CallFix p m c cc nL s args lw_all RX1) (hK : va_K D vwCl (gTys ca) s) (hG : gOk D (mA o) (mH ca o S) H) (hS : va_S (mA o) H0 H locs) {z x : Int} (hz : 0 ≤ z ∧ z < 601) (hdg : decode cc pc = .ok (.iastore, 1)) (kk : ∀ (H1 : Heap) (locs1 : List Loc), gOk D (mA o) (mH ca o (mU S 54 z x)) H1 → va_S (mA o) H0 H1 locs1 → W p l e R s m args below meth c H1 locs1 cells slots Q (F0 m (pc + 1) ls rest)) : W p l e R s m args below meth c H locs cells slots Q (F0 m pc ls (.int (iI x) :: .int (iI z) :: .ref (o + 37) :: rest)) :=
  m_iast X hK hG hS 54 (by decide) rfl rfl hz hdg kk
/-- the field metTo -/
abbrev k_metTo : Nat := 55
theorem mg_metTo (X : CallFix p m c cc nL s args lw_all RX1) (hK : va_K D vwCl (gTys ca) s) (hG : gOk D (mA o) (mH ca o S) H) (hdg : decode cc pc = .ok (.getfield 124, 3)) (kk : W p l e R s m args below meth c H locs cells slots Q (F0 m (pc + 3) ls (.ref (o + 38) :: rest))) : W p l e R s m args below meth c H locs cells slots Q (F0 m pc ls (.ref o :: rest)) :=
  m_get X hK hG 55 (by decide) q1229 rfl (rfl) hdg kk
theorem ml_metTo (X : CallFix p m c cc nL s args lw_all RX1) (hK : va_K D vwCl (gTys ca) s) (hG : gOk D (mA o) (mH ca o S) H) {z : Int} (f : Int → Int) (hf : S.2 55 = f) (hz : 0 ≤ z ∧ z < 601) (hdg : decode cc pc = .ok (.iaload, 1)) (kk : W p l e R s m args below meth c H locs cells slots Q (F0 m (pc + 1) ls (.int (iI (f z)) :: rest))) : W p l e R s m args below meth c H locs cells slots Q (F0 m pc ls (.int (iI z) :: .ref (o + 38) :: rest)) :=
  m_iald X hK hG 55 (by decide) rfl rfl hz hdg (by rw [hf]; exact kk)
theorem ms_metTo (X : CallFix p m c cc nL s args lw_all RX1) (hK : va_K D vwCl (gTys ca) s) (hG : gOk D (mA o) (mH ca o S) H) (hS : va_S (mA o) H0 H locs) {z x : Int} (hz : 0 ≤ z ∧ z < 601) (hdg : decode cc pc = .ok (.iastore, 1)) (kk : ∀ (H1 : Heap) (locs1 : List Loc), gOk D (mA o) (mH ca o (mU S 55 z x)) H1 → va_S (mA o) H0 H1 locs1 → W p l e R s m args below meth c H1 locs1 cells slots Q (F0 m (pc + 1) ls rest)) : W p l e R s m args below meth c H locs cells slots Q (F0 m pc ls (.int (iI x) :: .int (iI z) :: .ref (o + 38) :: rest)) :=
  m_iast X hK hG hS 55 (by decide) rfl rfl hz hdg kk
/-- the field fresh -/
abbrev k_fresh : Nat := 56
theorem mg_fresh (X : CallFix p m c cc nL s args lw_all RX1) (hK : va_K D vwCl (gTys ca) s) (hG : gOk D (mA o) (mH ca o S) H) (z : Int) (hz : S.1 56 = z) (hdg : decode cc pc = .ok (.getfield 385, 3)) (kk : W p l e R s m args below meth c H locs cells slots Q (F0 m (pc + 3) ls (.int (iI z) :: rest))) : W p l e R s m args below meth c H locs cells slots Q (F0 m pc ls (.ref o :: rest)) :=
  m_get X hK hG 56 (by decide) q1230 rfl (by rw [← hz]; rfl) hdg kk
theorem mp_fresh (X : CallFix p m c cc nL s args lw_all RX1) (hK : va_K D vwCl (gTys ca) s) (hG : gOk D (mA o) (mH ca o S) H) (hS : va_S (mA o) H0 H locs) {z : Int} (hdg : decode cc pc = .ok (.putfield 385, 3)) (kk : ∀ (H1 : Heap) (locs1 : List Loc), gOk D (mA o) (mH ca o (mS S 56 z)) H1 → va_S (mA o) H0 H1 locs1 → W p l e R s m args below meth c H1 locs1 cells slots Q (F0 m (pc + 3) ls rest)) : W p l e R s m args below meth c H locs cells slots Q (F0 m pc ls (.int (iI z) :: .ref o :: rest)) :=
  m_put X hK hG hS 56 (by decide) rfl rfl q1230 rfl (by decide +kernel) rfl rfl hdg kk
/-- the field fWhat -/
abbrev k_fWhat : Nat := 57
theorem mg_fWhat (X : CallFix p m c cc nL s args lw_all RX1) (hK : va_K D vwCl (gTys ca) s) (hG : gOk D (mA o) (mH ca o S) H) (hdg : decode cc pc = .ok (.getfield 127, 3)) (kk : W p l e R s m args below meth c H locs cells slots Q (F0 m (pc + 3) ls (.ref (o + 39) :: rest))) : W p l e R s m args below meth c H locs cells slots Q (F0 m pc ls (.ref o :: rest)) :=
  m_get X hK hG 57 (by decide) q1231 rfl (rfl) hdg kk
theorem ml_fWhat (X : CallFix p m c cc nL s args lw_all RX1) (hK : va_K D vwCl (gTys ca) s) (hG : gOk D (mA o) (mH ca o S) H) {z : Int} (f : Int → Int) (hf : S.2 57 = f) (hz : 0 ≤ z ∧ z < 500) (hdg : decode cc pc = .ok (.iaload, 1)) (kk : W p l e R s m args below meth c H locs cells slots Q (F0 m (pc + 1) ls (.int (iI (f z)) :: rest))) : W p l e R s m args below meth c H locs cells slots Q (F0 m pc ls (.int (iI z) :: .ref (o + 39) :: rest)) :=
  m_iald X hK hG 57 (by decide) rfl rfl hz hdg (by rw [hf]; exact kk)
theorem ms_fWhat (X : CallFix p m c cc nL s args lw_all RX1) (hK : va_K D vwCl (gTys ca) s) (hG : gOk D (mA o) (mH ca o S) H) (hS : va_S (mA o) H0 H locs) {z x : Int} (hz : 0 ≤ z ∧ z < 500) (hdg : decode cc pc = .ok (.iastore, 1)) (kk : ∀ (H1 : Heap) (locs1 : List Loc), gOk D (mA o) (mH ca o (mU S 57 z x)) H1 → va_S (mA o) H0 H1 locs1 → W p l e R s m args below meth c H1 locs1 cells slots Q (F0 m (pc + 1) ls rest)) : W p l e R s m args below meth c H locs cells slots Q (F0 m pc ls (.int (iI x) :: .int (iI z) :: .ref (o + 39) :: rest)) :=
  m_iast X hK hG hS 57 (by decide) rfl rfl hz hdg kk
/-- the field fWorth -/
abbrev k_fWorth : Nat := 58
theorem mg_fWorth (X : CallFix p m c cc nL s args lw_all RX1) (hK : va_K D vwCl (gTys ca) s) (hG : gOk D (mA o) (mH ca o S) H) (hdg : decode cc pc = .ok (.getfield 130, 3)) (kk : W p l e R s m args below meth c H locs cells slots Q (F0 m (pc + 3) ls (.ref (o + 40) :: rest))) : W p l e R s m args below meth c H locs cells slots Q (F0 m pc ls (.ref o :: rest)) :=
  m_get X hK hG 58 (by decide) q1232 rfl (rfl) hdg kk
theorem ml_fWorth (X : CallFix p m c cc nL s args lw_all RX1) (hK : va_K D vwCl (gTys ca) s) (hG : gOk D (mA o) (mH ca o S) H) {z : Int} (f : Int → Int) (hf : S.2 58 = f) (hz : 0 ≤ z ∧ z < 500) (hdg : decode cc pc = .ok (.laload, 1)) (kk : W p l e R s m args below meth c H locs cells slots Q (F0 m (pc + 1) ls (.long (lI (f z)) :: rest))) : W p l e R s m args below meth c H locs cells slots Q (F0 m pc ls (.int (iI z) :: .ref (o + 40) :: rest)) :=
  m_lald X hK hG 58 (by decide) rfl rfl hz hdg (by rw [hf]; exact kk)
theorem ms_fWorth (X : CallFix p m c cc nL s args lw_all RX1) (hK : va_K D vwCl (gTys ca) s) (hG : gOk D (mA o) (mH ca o S) H) (hS : va_S (mA o) H0 H locs) {z x : Int} (hz : 0 ≤ z ∧ z < 500) (hdg : decode cc pc = .ok (.lastore, 1)) (kk : ∀ (H1 : Heap) (locs1 : List Loc), gOk D (mA o) (mH ca o (mU S 58 z x)) H1 → va_S (mA o) H0 H1 locs1 → W p l e R s m args below meth c H1 locs1 cells slots Q (F0 m (pc + 1) ls rest)) : W p l e R s m args below meth c H locs cells slots Q (F0 m pc ls (.long (lI x) :: .int (iI z) :: .ref (o + 40) :: rest)) :=
  m_last X hK hG hS 58 (by decide) rfl rfl hz hdg kk
/-- the field fMark -/
abbrev k_fMark : Nat := 59
theorem mg_fMark (X : CallFix p m c cc nL s args lw_all RX1) (hK : va_K D vwCl (gTys ca) s) (hG : gOk D (mA o) (mH ca o S) H) (hdg : decode cc pc = .ok (.getfield 133, 3)) (kk : W p l e R s m args below meth c H locs cells slots Q (F0 m (pc + 3) ls (.ref (o + 41) :: rest))) : W p l e R s m args below meth c H locs cells slots Q (F0 m pc ls (.ref o :: rest)) :=
  m_get X hK hG 59 (by decide) q1233 rfl (rfl) hdg kk
theorem ml_fMark (X : CallFix p m c cc nL s args lw_all RX1) (hK : va_K D vwCl (gTys ca) s) (hG : gOk D (mA o) (mH ca o S) H) {z : Int} (f : Int → Int) (hf : S.2 59 = f) (hz : 0 ≤ z ∧ z < 500) (hdg : decode cc pc = .ok (.iaload, 1)) (kk : W p l e R s m args below meth c H locs cells slots Q (F0 m (pc + 1) ls (.int (iI (f z)) :: rest))) : W p l e R s m args below meth c H locs cells slots Q (F0 m pc ls (.int (iI z) :: .ref (o + 41) :: rest)) :=
  m_iald X hK hG 59 (by decide) rfl rfl hz hdg (by rw [hf]; exact kk)
theorem ms_fMark (X : CallFix p m c cc nL s args lw_all RX1) (hK : va_K D vwCl (gTys ca) s) (hG : gOk D (mA o) (mH ca o S) H) (hS : va_S (mA o) H0 H locs) {z x : Int} (hz : 0 ≤ z ∧ z < 500) (hdg : decode cc pc = .ok (.iastore, 1)) (kk : ∀ (H1 : Heap) (locs1 : List Loc), gOk D (mA o) (mH ca o (mU S 59 z x)) H1 → va_S (mA o) H0 H1 locs1 → W p l e R s m args below meth c H1 locs1 cells slots Q (F0 m (pc + 1) ls rest)) : W p l e R s m args below meth c H locs cells slots Q (F0 m pc ls (.int (iI x) :: .int (iI z) :: .ref (o + 41) :: rest)) :=
  m_iast X hK hG hS 59 (by decide) rfl rfl hz hdg kk
/-- the field fFrom -/
abbrev k_fFrom : Nat := 60
theorem mg_fFrom (X : CallFix p m c cc nL s args lw_all RX1) (hK : va_K D vwCl (gTys ca) s) (hG : gOk D (mA o) (mH ca o S) H) (hdg : decode cc pc = .ok (.getfield 136, 3)) (kk : W p l e R s m args below meth c H locs cells slots Q (F0 m (pc + 3) ls (.ref (o + 42) :: rest))) : W p l e R s m args below meth c H locs cells slots Q (F0 m pc ls (.ref o :: rest)) :=
  m_get X hK hG 60 (by decide) q1234 rfl (rfl) hdg kk
theorem ml_fFrom (X : CallFix p m c cc nL s args lw_all RX1) (hK : va_K D vwCl (gTys ca) s) (hG : gOk D (mA o) (mH ca o S) H) {z : Int} (f : Int → Int) (hf : S.2 60 = f) (hz : 0 ≤ z ∧ z < 500) (hdg : decode cc pc = .ok (.iaload, 1)) (kk : W p l e R s m args below meth c H locs cells slots Q (F0 m (pc + 1) ls (.int (iI (f z)) :: rest))) : W p l e R s m args below meth c H locs cells slots Q (F0 m pc ls (.int (iI z) :: .ref (o + 42) :: rest)) :=
  m_iald X hK hG 60 (by decide) rfl rfl hz hdg (by rw [hf]; exact kk)
theorem ms_fFrom (X : CallFix p m c cc nL s args lw_all RX1) (hK : va_K D vwCl (gTys ca) s) (hG : gOk D (mA o) (mH ca o S) H) (hS : va_S (mA o) H0 H locs) {z x : Int} (hz : 0 ≤ z ∧ z < 500) (hdg : decode cc pc = .ok (.iastore, 1)) (kk : ∀ (H1 : Heap) (locs1 : List Loc), gOk D (mA o) (mH ca o (mU S 60 z x)) H1 → va_S (mA o) H0 H1 locs1 → W p l e R s m args below meth c H1 locs1 cells slots Q (F0 m (pc + 1) ls rest)) : W p l e R s m args below meth c H locs cells slots Q (F0 m pc ls (.int (iI x) :: .int (iI z) :: .ref (o + 42) :: rest)) :=
  m_iast X hK hG hS 60 (by decide) rfl rfl hz hdg kk
/-- the field fMaker -/
abbrev k_fMaker : Nat := 61
theorem mg_fMaker (X : CallFix p m c cc nL s args lw_all RX1) (hK : va_K D vwCl (gTys ca) s) (hG : gOk D (mA o) (mH ca o S) H) (hdg : decode cc pc = .ok (.getfield 139, 3)) (kk : W p l e R s m args below meth c H locs cells slots Q (F0 m (pc + 3) ls (.ref (o + 43) :: rest))) : W p l e R s m args below meth c H locs cells slots Q (F0 m pc ls (.ref o :: rest)) :=
  m_get X hK hG 61 (by decide) q1235 rfl (rfl) hdg kk
theorem ml_fMaker (X : CallFix p m c cc nL s args lw_all RX1) (hK : va_K D vwCl (gTys ca) s) (hG : gOk D (mA o) (mH ca o S) H) {z : Int} (f : Int → Int) (hf : S.2 61 = f) (hz : 0 ≤ z ∧ z < 500) (hdg : decode cc pc = .ok (.iaload, 1)) (kk : W p l e R s m args below meth c H locs cells slots Q (F0 m (pc + 1) ls (.int (iI (f z)) :: rest))) : W p l e R s m args below meth c H locs cells slots Q (F0 m pc ls (.int (iI z) :: .ref (o + 43) :: rest)) :=
  m_iald X hK hG 61 (by decide) rfl rfl hz hdg (by rw [hf]; exact kk)
theorem ms_fMaker (X : CallFix p m c cc nL s args lw_all RX1) (hK : va_K D vwCl (gTys ca) s) (hG : gOk D (mA o) (mH ca o S) H) (hS : va_S (mA o) H0 H locs) {z x : Int} (hz : 0 ≤ z ∧ z < 500) (hdg : decode cc pc = .ok (.iastore, 1)) (kk : ∀ (H1 : Heap) (locs1 : List Loc), gOk D (mA o) (mH ca o (mU S 61 z x)) H1 → va_S (mA o) H0 H1 locs1 → W p l e R s m args below meth c H1 locs1 cells slots Q (F0 m (pc + 1) ls rest)) : W p l e R s m args below meth c H locs cells slots Q (F0 m pc ls (.int (iI x) :: .int (iI z) :: .ref (o + 43) :: rest)) :=
  m_iast X hK hG hS 61 (by decide) rfl rfl hz hdg kk
/-- the field fRoom -/
abbrev k_fRoom : Nat := 62
theorem mg_fRoom (X : CallFix p m c cc nL s args lw_all RX1) (hK : va_K D vwCl (gTys ca) s) (hG : gOk D (mA o) (mH ca o S) H) (hdg : decode cc pc = .ok (.getfield 142, 3)) (kk : W p l e R s m args below meth c H locs cells slots Q (F0 m (pc + 3) ls (.ref (o + 44) :: rest))) : W p l e R s m args below meth c H locs cells slots Q (F0 m pc ls (.ref o :: rest)) :=
  m_get X hK hG 62 (by decide) q1236 rfl (rfl) hdg kk
theorem ml_fRoom (X : CallFix p m c cc nL s args lw_all RX1) (hK : va_K D vwCl (gTys ca) s) (hG : gOk D (mA o) (mH ca o S) H) {z : Int} (f : Int → Int) (hf : S.2 62 = f) (hz : 0 ≤ z ∧ z < 500) (hdg : decode cc pc = .ok (.iaload, 1)) (kk : W p l e R s m args below meth c H locs cells slots Q (F0 m (pc + 1) ls (.int (iI (f z)) :: rest))) : W p l e R s m args below meth c H locs cells slots Q (F0 m pc ls (.int (iI z) :: .ref (o + 44) :: rest)) :=
  m_iald X hK hG 62 (by decide) rfl rfl hz hdg (by rw [hf]; exact kk)
theorem ms_fRoom (X : CallFix p m c cc nL s args lw_all RX1) (hK : va_K D vwCl (gTys ca) s) (hG : gOk D (mA o) (mH ca o S) H) (hS : va_S (mA o) H0 H locs) {z x : Int} (hz : 0 ≤ z ∧ z < 500) (hdg : decode cc pc = .ok (.iastore, 1)) (kk : ∀ (H1 : Heap) (locs1 : List Loc), gOk D (mA o) (mH ca o (mU S 62 z x)) H1 → va_S (mA o) H0 H1 locs1 → W p l e R s m args below meth c H1 locs1 cells slots Q (F0 m (pc + 1) ls rest)) : W p l e R s m args below meth c H locs cells slots Q (F0 m pc ls (.int (iI x) :: .int (iI z) :: .ref (o + 44) :: rest)) :=
  m_iast X hK hG hS 62 (by decide) rfl rfl hz hdg kk
/-- the field fParts -/
abbrev k_fParts : Nat := 63
theorem mg_fParts (X : CallFix p m c cc nL s args lw_all RX1) (hK : va_K D vwCl (gTys ca) s) (hG : gOk D (mA o) (mH ca o S) H) (hdg : decode cc pc = .ok (.getfield 145, 3)) (kk : W p l e R s m args below meth c H locs cells slots Q (F0 m (pc + 3) ls (.ref (o + 45) :: rest))) : W p l e R s m args below meth c H locs cells slots Q (F0 m pc ls (.ref o :: rest)) :=
  m_get X hK hG 63 (by decide) q1237 rfl (rfl) hdg kk
theorem ml_fParts (X : CallFix p m c cc nL s args lw_all RX1) (hK : va_K D vwCl (gTys ca) s) (hG : gOk D (mA o) (mH ca o S) H) {z : Int} (f : Int → Int) (hf : S.2 63 = f) (hz : 0 ≤ z ∧ z < 500) (hdg : decode cc pc = .ok (.iaload, 1)) (kk : W p l e R s m args below meth c H locs cells slots Q (F0 m (pc + 1) ls (.int (iI (f z)) :: rest))) : W p l e R s m args below meth c H locs cells slots Q (F0 m pc ls (.int (iI z) :: .ref (o + 45) :: rest)) :=
  m_iald X hK hG 63 (by decide) rfl rfl hz hdg (by rw [hf]; exact kk)
theorem ms_fParts (X : CallFix p m c cc nL s args lw_all RX1) (hK : va_K D vwCl (gTys ca) s) (hG : gOk D (mA o) (mH ca o S) H) (hS : va_S (mA o) H0 H locs) {z x : Int} (hz : 0 ≤ z ∧ z < 500) (hdg : decode cc pc = .ok (.iastore, 1)) (kk : ∀ (H1 : Heap) (locs1 : List Loc), gOk D (mA o) (mH ca o (mU S 63 z x)) H1 → va_S (mA o) H0 H1 locs1 → W p l e R s m args below meth c H1 locs1 cells slots Q (F0 m (pc + 1) ls rest)) : W p l e R s m args below meth c H locs cells slots Q (F0 m pc ls (.int (iI x) :: .int (iI z) :: .ref (o + 45) :: rest)) :=
  m_iast X hK hG hS 63 (by decide) rfl rfl hz hdg kk
/-- the field openAt -/
abbrev k_openAt : Nat := 64
theorem mg_openAt (X : CallFix p m c cc nL s args lw_all RX1) (hK : va_K D vwCl (gTys ca) s) (hG : gOk D (mA o) (mH ca o S) H) (hdg : decode cc pc = .ok (.getfield 148, 3)) (kk : W p l e R s m args below meth c H locs cells slots Q (F0 m (pc + 3) ls (.ref (o + 46) :: rest))) : W p l e R s m args below meth c H locs cells slots Q (F0 m pc ls (.ref o :: rest)) :=
  m_get X hK hG 64 (by decide) q1238 rfl (rfl) hdg kk
theorem ml_openAt (X : CallFix p m c cc nL s args lw_all RX1) (hK : va_K D vwCl (gTys ca) s) (hG : gOk D (mA o) (mH ca o S) H) {z : Int} (f : Int → Int) (hf : S.2 64 = f) (hz : 0 ≤ z ∧ z < 16) (hdg : decode cc pc = .ok (.iaload, 1)) (kk : W p l e R s m args below meth c H locs cells slots Q (F0 m (pc + 1) ls (.int (iI (f z)) :: rest))) : W p l e R s m args below meth c H locs cells slots Q (F0 m pc ls (.int (iI z) :: .ref (o + 46) :: rest)) :=
  m_iald X hK hG 64 (by decide) rfl rfl hz hdg (by rw [hf]; exact kk)
theorem ms_openAt (X : CallFix p m c cc nL s args lw_all RX1) (hK : va_K D vwCl (gTys ca) s) (hG : gOk D (mA o) (mH ca o S) H) (hS : va_S (mA o) H0 H locs) {z x : Int} (hz : 0 ≤ z ∧ z < 16) (hdg : decode cc pc = .ok (.iastore, 1)) (kk : ∀ (H1 : Heap) (locs1 : List Loc), gOk D (mA o) (mH ca o (mU S 64 z x)) H1 → va_S (mA o) H0 H1 locs1 → W p l e R s m args below meth c H1 locs1 cells slots Q (F0 m (pc + 1) ls rest)) : W p l e R s m args below meth c H locs cells slots Q (F0 m pc ls (.int (iI x) :: .int (iI z) :: .ref (o + 46) :: rest)) :=
  m_iast X hK hG hS 64 (by decide) rfl rfl hz hdg kk
/-- the field openEnd -/
abbrev k_openEnd : Nat := 65
theorem mg_openEnd (X : CallFix p m c cc nL s args lw_all RX1) (hK : va_K D vwCl (gTys ca) s) (hG : gOk D (mA o) (mH ca o S) H) (hdg : decode cc pc = .ok (.getfield 151, 3)) (kk : W p l e R s m args below meth c H locs cells slots Q (F0 m (pc + 3) ls (.ref (o + 47) :: rest))) : W p l e R s m args below meth c H locs cells slots Q (F0 m pc ls (.ref o :: rest)) :=
  m_get X hK hG 65 (by decide) q1239 rfl (rfl) hdg kk
theorem ml_openEnd (X : CallFix p m c cc nL s args lw_all RX1) (hK : va_K D vwCl (gTys ca) s) (hG : gOk D (mA o) (mH ca o S) H) {z : Int} (f : Int → Int) (hf : S.2 65 = f) (hz : 0 ≤ z ∧ z < 16) (hdg : decode cc pc = .ok (.iaload, 1)) (kk : W p l e R s m args below meth c H locs cells slots Q (F0 m (pc + 1) ls (.int (iI (f z)) :: rest))) : W p l e R s m args below meth c H locs cells slots Q (F0 m pc ls (.int (iI z) :: .ref (o + 47) :: rest)) :=
  m_iald X hK hG 65 (by decide) rfl rfl hz hdg (by rw [hf]; exact kk)
theorem ms_openEnd (X : CallFix p m c cc nL s args lw_all RX1) (hK : va_K D vwCl (gTys ca) s) (hG : gOk D (mA o) (mH ca o S) H) (hS : va_S (mA o) H0 H locs) {z x : Int} (hz : 0 ≤ z ∧ z < 16) (hdg : decode cc pc = .ok (.iastore, 1)) (kk : ∀ (H1 : Heap) (locs1 : List Loc), gOk D (mA o) (mH ca o (mU S 65 z x)) H1 → va_S (mA o) H0 H1 locs1 → W p l e R s m args below meth c H1 locs1 cells slots Q (F0 m (pc + 1) ls rest)) : W p l e R s m args below meth c H locs cells slots Q (F0 m pc ls (.int (iI x) :: .int (iI z) :: .ref (o + 47) :: rest)) :=
  m_iast X hK hG hS 65 (by decide) rfl rfl hz hdg kk
/-- the field undos -/
abbrev k_undos : Nat := 66
theorem mg_undos (X : CallFix p m c cc nL s args lw_all RX1) (hK : va_K D vwCl (gTys ca) s) (hG : gOk D (mA o) (mH ca o S) H) (z : Int) (hz : S.1 66 = z) (hdg : decode cc pc = .ok (.getfield 328, 3)) (kk : W p l e R s m args below meth c H locs cells slots Q (F0 m (pc + 3) ls (.int (iI z) :: rest))) : W p l e R s m args below meth c H locs cells slots Q (F0 m pc ls (.ref o :: rest)) :=
  m_get X hK hG 66 (by decide) q1240 rfl (by rw [← hz]; rfl) hdg kk
theorem mp_undos (X : CallFix p m c cc nL s args lw_all RX1) (hK : va_K D vwCl (gTys ca) s) (hG : gOk D (mA o) (mH ca o S) H) (hS : va_S (mA o) H0 H locs) {z : Int} (hdg : decode cc pc = .ok (.putfield 328, 3)) (kk : ∀ (H1 : Heap) (locs1 : List Loc), gOk D (mA o) (mH ca o (mS S 66 z)) H1 → va_S (mA o) H0 H1 locs1 → W p l e R s m args below meth c H1 locs1 cells slots Q (F0 m (pc + 3) ls rest)) : W p l e R s m args below meth c H locs cells slots Q (F0 m pc ls (.int (iI z) :: .ref o :: rest)) :=
  m_put X hK hG hS 66 (by decide) rfl rfl q1240 rfl (by decide +kernel) rfl rfl hdg kk
/-- the field gone -/
abbrev k_gone : Nat := 67
theorem mg_gone (X : CallFix p m c cc nL s args lw_all RX1) (hK : va_K D vwCl (gTys ca) s) (hG : gOk D (mA o) (mH ca o S) H) (z : Int) (hz : S.1 67 = z) (hdg : decode cc pc = .ok (.getfield 331, 3)) (kk : W p l e R s m args below meth c H locs cells slots Q (F0 m (pc + 3) ls (.int (iI z) :: rest))) : W p l e R s m args below meth c H locs cells slots Q (F0 m pc ls (.ref o :: rest)) :=
  m_get X hK hG 67 (by decide) q1241 rfl (by rw [← hz]; rfl) hdg kk
theorem mp_gone (X : CallFix p m c cc nL s args lw_all RX1) (hK : va_K D vwCl (gTys ca) s) (hG : gOk D (mA o) (mH ca o S) H) (hS : va_S (mA o) H0 H locs) {z : Int} (hdg : decode cc pc = .ok (.putfield 331, 3)) (kk : ∀ (H1 : Heap) (locs1 : List Loc), gOk D (mA o) (mH ca o (mS S 67 z)) H1 → va_S (mA o) H0 H1 locs1 → W p l e R s m args below meth c H1 locs1 cells slots Q (F0 m (pc + 3) ls rest)) : W p l e R s m args below meth c H locs cells slots Q (F0 m pc ls (.int (iI z) :: .ref o :: rest)) :=
  m_put X hK hG hS 67 (by decide) rfl rfl q1241 rfl (by decide +kernel) rfl rfl hdg kk
/-- the field goneAt -/
abbrev k_goneAt : Nat := 68
theorem mg_goneAt (X : CallFix p m c cc nL s args lw_all RX1) (hK : va_K D vwCl (gTys ca) s) (hG : gOk D (mA o) (mH ca o S) H) (hdg : decode cc pc = .ok (.getfield 154, 3)) (kk : W p l e R s m args below meth c H locs cells slots Q (F0 m (pc + 3) ls (.ref (o + 48) :: rest))) : W p l e R s m args below meth c H locs cells slots Q (F0 m pc ls (.ref o :: rest)) :=
  m_get X hK hG 68 (by decide) q1242 rfl (rfl) hdg kk
theorem ml_goneAt (X : CallFix p m c cc nL s args lw_all RX1) (hK : va_K D vwCl (gTys ca) s) (hG : gOk D (mA o) (mH ca o S) H) {z : Int} (f : Int → Int) (hf : S.2 68 = f) (hz : 0 ≤ z ∧ z < 301) (hdg : decode cc pc = .ok (.iaload, 1)) (kk : W p l e R s m args below meth c H locs cells slots Q (F0 m (pc + 1) ls (.int (iI (f z)) :: rest))) : W p l e R s m args below meth c H locs cells slots Q (F0 m pc ls (.int (iI z) :: .ref (o + 48) :: rest)) :=
  m_iald X hK hG 68 (by decide) rfl rfl hz hdg (by rw [hf]; exact kk)
theorem ms_goneAt (X : CallFix p m c cc nL s args lw_all RX1) (hK : va_K D vwCl (gTys ca) s) (hG : gOk D (mA o) (mH ca o S) H) (hS : va_S (mA o) H0 H locs) {z x : Int} (hz : 0 ≤ z ∧ z < 301) (hdg : decode cc pc = .ok (.iastore, 1)) (kk : ∀ (H1 : Heap) (locs1 : List Loc), gOk D (mA o) (mH ca o (mU S 68 z x)) H1 → va_S (mA o) H0 H1 locs1 → W p l e R s m args below meth c H1 locs1 cells slots Q (F0 m (pc + 1) ls rest)) : W p l e R s m args below meth c H locs cells slots Q (F0 m pc ls (.int (iI x) :: .int (iI z) :: .ref (o + 48) :: rest)) :=
  m_iast X hK hG hS 68 (by decide) rfl rfl hz hdg kk
/-- the field gonePlace -/
abbrev k_gonePlace : Nat := 69
theorem mg_gonePlace (X : CallFix p m c cc nL s args lw_all RX1) (hK : va_K D vwCl (gTys ca) s) (hG : gOk D (mA o) (mH ca o S) H) (hdg : decode cc pc = .ok (.getfield 157, 3)) (kk : W p l e R s m args below meth c H locs cells slots Q (F0 m (pc + 3) ls (.ref (o + 49) :: rest))) : W p l e R s m args below meth c H locs cells slots Q (F0 m pc ls (.ref o :: rest)) :=
  m_get X hK hG 69 (by decide) q1243 rfl (rfl) hdg kk
theorem ml_gonePlace (X : CallFix p m c cc nL s args lw_all RX1) (hK : va_K D vwCl (gTys ca) s) (hG : gOk D (mA o) (mH ca o S) H) {z : Int} (f : Int → Int) (hf : S.2 69 = f) (hz : 0 ≤ z ∧ z < 301) (hdg : decode cc pc = .ok (.iaload, 1)) (kk : W p l e R s m args below meth c H locs cells slots Q (F0 m (pc + 1) ls (.int (iI (f z)) :: rest))) : W p l e R s m args below meth c H locs cells slots Q (F0 m pc ls (.int (iI z) :: .ref (o + 49) :: rest)) :=
  m_iald X hK hG 69 (by decide) rfl rfl hz hdg (by rw [hf]; exact kk)
theorem ms_gonePlace (X : CallFix p m c cc nL s args lw_all RX1) (hK : va_K D vwCl (gTys ca) s) (hG : gOk D (mA o) (mH ca o S) H) (hS : va_S (mA o) H0 H locs) {z x : Int} (hz : 0 ≤ z ∧ z < 301) (hdg : decode cc pc = .ok (.iastore, 1)) (kk : ∀ (H1 : Heap) (locs1 : List Loc), gOk D (mA o) (mH ca o (mU S 69 z x)) H1 → va_S (mA o) H0 H1 locs1 → W p l e R s m args below meth c H1 locs1 cells slots Q (F0 m (pc + 1) ls rest)) : W p l e R s m args below meth c H locs cells slots Q (F0 m pc ls (.int (iI x) :: .int (iI z) :: .ref (o + 49) :: rest)) :=
  m_iast X hK hG hS 69 (by decide) rfl rfl hz hdg kk
/-- the field goneCame -/
abbrev k_goneCame : Nat := 70
theorem mg_goneCame (X : CallFix p m c cc nL s args lw_all RX1) (hK : va_K D vwCl (gTys ca) s) (hG : gOk D (mA o) (mH ca o S) H) (hdg : decode cc pc = .ok (.getfield 160, 3)) (kk : W p l e R s m args below meth c H locs cells slots Q (F0 m (pc + 3) ls (.ref (o + 50) :: rest))) : W p l e R s m args below meth c H locs cells slots Q (F0 m pc ls (.ref o :: rest)) :=
  m_get X hK hG 70 (by decide) q1244 rfl (rfl) hdg kk
theorem ml_goneCame (X : CallFix p m c cc nL s args lw_all RX1) (hK : va_K D vwCl (gTys ca) s) (hG : gOk D (mA o) (mH ca o S) H) {z : Int} (f : Int → Int) (hf : S.2 70 = f) (hz : 0 ≤ z ∧ z < 301) (hdg : decode cc pc = .ok (.iaload, 1)) (kk : W p l e R s m args below meth c H locs cells slots Q (F0 m (pc + 1) ls (.int (iI (f z)) :: rest))) : W p l e R s m args below meth c H locs cells slots Q (F0 m pc ls (.int (iI z) :: .ref (o + 50) :: rest)) :=
  m_iald X hK hG 70 (by decide) rfl rfl hz hdg (by rw [hf]; exact kk)
theorem ms_goneCame (X : CallFix p m c cc nL s args lw_all RX1) (hK : va_K D vwCl (gTys ca) s) (hG : gOk D (mA o) (mH ca o S) H) (hS : va_S (mA o) H0 H locs) {z x : Int} (hz : 0 ≤ z ∧ z < 301) (hdg : decode cc pc = .ok (.iastore, 1)) (kk : ∀ (H1 : Heap) (locs1 : List Loc), gOk D (mA o) (mH ca o (mU S 70 z x)) H1 → va_S (mA o) H0 H1 locs1 → W p l e R s m args below meth c H1 locs1 cells slots Q (F0 m (pc + 1) ls rest)) : W p l e R s m args below meth c H locs cells slots Q (F0 m pc ls (.int (iI x) :: .int (iI z) :: .ref (o + 50) :: rest)) :=
  m_iast X hK hG hS 70 (by decide) rfl rfl hz hdg kk
/-- the field oldWhat -/
abbrev k_oldWhat : Nat := 71
theorem mg_oldWhat (X : CallFix p m c cc nL s args lw_all RX1) (hK : va_K D vwCl (gTys ca) s) (hG : gOk D (mA o) (mH ca o S) H) (hdg : decode cc pc = .ok (.getfield 163, 3)) (kk : W p l e R s m args below meth c H locs cells slots Q (F0 m (pc + 3) ls (.ref (o + 51) :: rest))) : W p l e R s m args below meth c H locs cells slots Q (F0 m pc ls (.ref o :: rest)) :=
  m_get X hK hG 71 (by decide) q1245 rfl (rfl) hdg kk
theorem ml_oldWhat (X : CallFix p m c cc nL s args lw_all RX1) (hK : va_K D vwCl (gTys ca) s) (hG : gOk D (mA o) (mH ca o S) H) {z : Int} (f : Int → Int) (hf : S.2 71 = f) (hz : 0 ≤ z ∧ z < 31000) (hdg : decode cc pc = .ok (.iaload, 1)) (kk : W p l e R s m args below meth c H locs cells slots Q (F0 m (pc + 1) ls (.int (iI (f z)) :: rest))) : W p l e R s m args below meth c H locs cells slots Q (F0 m pc ls (.int (iI z) :: .ref (o + 51) :: rest)) :=
  m_iald X hK hG 71 (by decide) rfl rfl hz hdg (by rw [hf]; exact kk)
theorem ms_oldWhat (X : CallFix p m c cc nL s args lw_all RX1) (hK : va_K D vwCl (gTys ca) s) (hG : gOk D (mA o) (mH ca o S) H) (hS : va_S (mA o) H0 H locs) {z x : Int} (hz : 0 ≤ z ∧ z < 31000) (hdg : decode cc pc = .ok (.iastore, 1)) (kk : ∀ (H1 : Heap) (locs1 : List Loc), gOk D (mA o) (mH ca o (mU S 71 z x)) H1 → va_S (mA o) H0 H1 locs1 → W p l e R s m args below meth c H1 locs1 cells slots Q (F0 m (pc + 1) ls rest)) : W p l e R s m args below meth c H locs cells slots Q (F0 m pc ls (.int (iI x) :: .int (iI z) :: .ref (o + 51) :: rest)) :=
  m_iast X hK hG hS 71 (by decide) rfl rfl hz hdg kk
/-- the field oldWorth -/
abbrev k_oldWorth : Nat := 72
theorem mg_oldWorth (X : CallFix p m c cc nL s args lw_all RX1) (hK : va_K D vwCl (gTys ca) s) (hG : gOk D (mA o) (mH ca o S) H) (hdg : decode cc pc = .ok (.getfield 166, 3)) (kk : W p l e R s m args below meth c H locs cells slots Q (F0 m (pc + 3) ls (.ref (o + 52) :: rest))) : W p l e R s m args below meth c H locs cells slots Q (F0 m pc ls (.ref o :: rest)) :=
  m_get X hK hG 72 (by decide) q1246 rfl (rfl) hdg kk
theorem ml_oldWorth (X : CallFix p m c cc nL s args lw_all RX1) (hK : va_K D vwCl (gTys ca) s) (hG : gOk D (mA o) (mH ca o S) H) {z : Int} (f : Int → Int) (hf : S.2 72 = f) (hz : 0 ≤ z ∧ z < 31000) (hdg : decode cc pc = .ok (.laload, 1)) (kk : W p l e R s m args below meth c H locs cells slots Q (F0 m (pc + 1) ls (.long (lI (f z)) :: rest))) : W p l e R s m args below meth c H locs cells slots Q (F0 m pc ls (.int (iI z) :: .ref (o + 52) :: rest)) :=
  m_lald X hK hG 72 (by decide) rfl rfl hz hdg (by rw [hf]; exact kk)
theorem ms_oldWorth (X : CallFix p m c cc nL s args lw_all RX1) (hK : va_K D vwCl (gTys ca) s) (hG : gOk D (mA o) (mH ca o S) H) (hS : va_S (mA o) H0 H locs) {z x : Int} (hz : 0 ≤ z ∧ z < 31000) (hdg : decode cc pc = .ok (.lastore, 1)) (kk : ∀ (H1 : Heap) (locs1 : List Loc), gOk D (mA o) (mH ca o (mU S 72 z x)) H1 → va_S (mA o) H0 H1 locs1 → W p l e R s m args below meth c H1 locs1 cells slots Q (F0 m (pc + 1) ls rest)) : W p l e R s m args below meth c H locs cells slots Q (F0 m pc ls (.long (lI x) :: .int (iI z) :: .ref (o + 52) :: rest)) :=
  m_last X hK hG hS 72 (by decide) rfl rfl hz hdg kk
/-- the field oldMark -/
abbrev k_oldMark : Nat := 73
theorem mg_oldMark (X : CallFix p m c cc nL s args lw_all RX1) (hK : va_K D vwCl (gTys ca) s) (hG : gOk D (mA o) (mH ca o S) H) (hdg : decode cc pc = .ok (.getfield 169, 3)) (kk : W p l e R s m args below meth c H locs cells slots Q (F0 m (pc + 3) ls (.ref (o + 53) :: rest))) : W p l e R s m args below meth c H locs cells slots Q (F0 m pc ls (.ref o :: rest)) :=
  m_get X hK hG 73 (by decide) q1247 rfl (rfl) hdg kk
theorem ml_oldMark (X : CallFix p m c cc nL s args lw_all RX1) (hK : va_K D vwCl (gTys ca) s) (hG : gOk D (mA o) (mH ca o S) H) {z : Int} (f : Int → Int) (hf : S.2 73 = f) (hz : 0 ≤ z ∧ z < 31000) (hdg : decode cc pc = .ok (.iaload, 1)) (kk : W p l e R s m args below meth c H locs cells slots Q (F0 m (pc + 1) ls (.int (iI (f z)) :: rest))) : W p l e R s m args below meth c H locs cells slots Q (F0 m pc ls (.int (iI z) :: .ref (o + 53) :: rest)) :=
  m_iald X hK hG 73 (by decide) rfl rfl hz hdg (by rw [hf]; exact kk)
theorem ms_oldMark (X : CallFix p m c cc nL s args lw_all RX1) (hK : va_K D vwCl (gTys ca) s) (hG : gOk D (mA o) (mH ca o S) H) (hS : va_S (mA o) H0 H locs) {z x : Int} (hz : 0 ≤ z ∧ z < 31000) (hdg : decode cc pc = .ok (.iastore, 1)) (kk : ∀ (H1 : Heap) (locs1 : List Loc), gOk D (mA o) (mH ca o (mU S 73 z x)) H1 → va_S (mA o) H0 H1 locs1 → W p l e R s m args below meth c H1 locs1 cells slots Q (F0 m (pc + 1) ls rest)) : W p l e R s m args below meth c H locs cells slots Q (F0 m pc ls (.int (iI x) :: .int (iI z) :: .ref (o + 53) :: rest)) :=
  m_iast X hK hG hS 73 (by decide) rfl rfl hz hdg kk
/-- the field oldFrom -/
abbrev k_oldFrom : Nat := 74
theorem mg_oldFrom (X : CallFix p m c cc nL s args lw_all RX1) (hK : va_K D vwCl (gTys ca) s) (hG : gOk D (mA o) (mH ca o S) H) (hdg : decode cc pc = .ok (.getfield 172, 3)) (kk : W p l e R s m args below meth c H locs cells slots Q (F0 m (pc + 3) ls (.ref (o + 54) :: rest))) : W p l e R s m args below meth c H locs cells slots Q (F0 m pc ls (.ref o :: rest)) :=
  m_get X hK hG 74 (by decide) q1248 rfl (rfl) hdg kk
theorem ml_oldFrom (X : CallFix p m c cc nL s args lw_all RX1) (hK : va_K D vwCl (gTys ca) s) (hG : gOk D (mA o) (mH ca o S) H) {z : Int} (f : Int → Int) (hf : S.2 74 = f) (hz : 0 ≤ z ∧ z < 31000) (hdg : decode cc pc = .ok (.iaload, 1)) (kk : W p l e R s m args below meth c H locs cells slots Q (F0 m (pc + 1) ls (.int (iI (f z)) :: rest))) : W p l e R s m args below meth c H locs cells slots Q (F0 m pc ls (.int (iI z) :: .ref (o + 54) :: rest)) :=
  m_iald X hK hG 74 (by decide) rfl rfl hz hdg (by rw [hf]; exact kk)
theorem ms_oldFrom (X : CallFix p m c cc nL s args lw_all RX1) (hK : va_K D vwCl (gTys ca) s) (hG : gOk D (mA o) (mH ca o S) H) (hS : va_S (mA o) H0 H locs) {z x : Int} (hz : 0 ≤ z ∧ z < 31000) (hdg : decode cc pc = .ok (.iastore, 1)) (kk : ∀ (H1 : Heap) (locs1 : List Loc), gOk D (mA o) (mH ca o (mU S 74 z x)) H1 → va_S (mA o) H0 H1 locs1 → W p l e R s m args below meth c H1 locs1 cells slots Q (F0 m (pc + 1) ls rest)) : W p l e R s m args below meth c H locs cells slots Q (F0 m pc ls (.int (iI x) :: .int (iI z) :: .ref (o + 54) :: rest)) :=
  m_iast X hK hG hS 74 (by decide) rfl rfl hz hdg kk
/-- the field oldMaker -/
abbrev k_oldMaker : Nat := 75
theorem mg_oldMaker (X : CallFix p m c cc nL s args lw_all RX1) (hK : va_K D vwCl (gTys ca) s) (hG : gOk D (mA o) (mH ca o S) H) (hdg : decode cc pc = .ok (.getfield 175, 3)) (kk : W p l e R s m args below meth c H locs cells slots Q (F0 m (pc + 3) ls (.ref (o + 55) :: rest))) : W p l e R s m args below meth c H locs cells slots Q (F0 m pc ls (.ref o :: rest)) :=
  m_get X hK hG 75 (by decide) q1249 rfl (rfl) hdg kk
theorem ml_oldMaker (X : CallFix p m c cc nL s args lw_all RX1) (hK : va_K D vwCl (gTys ca) s) (hG : gOk D (mA o) (mH ca o S) H) {z : Int} (f : Int → Int) (hf : S.2 75 = f) (hz : 0 ≤ z ∧ z < 31000) (hdg : decode cc pc = .ok (.iaload, 1)) (kk : W p l e R s m args below meth c H locs cells slots Q (F0 m (pc + 1) ls (.int (iI (f z)) :: rest))) : W p l e R s m args below meth c H locs cells slots Q (F0 m pc ls (.int (iI z) :: .ref (o + 55) :: rest)) :=
  m_iald X hK hG 75 (by decide) rfl rfl hz hdg (by rw [hf]; exact kk)
theorem ms_oldMaker (X : CallFix p m c cc nL s args lw_all RX1) (hK : va_K D vwCl (gTys ca) s) (hG : gOk D (mA o) (mH ca o S) H) (hS : va_S (mA o) H0 H locs) {z x : Int} (hz : 0 ≤ z ∧ z < 31000) (hdg : decode cc pc = .ok (.iastore, 1)) (kk : ∀ (H1 : Heap) (locs1 : List Loc), gOk D (mA o) (mH ca o (mU S 75 z x)) H1 → va_S (mA o) H0 H1 locs1 → W p l e R s m args below meth c H1 locs1 cells slots Q (F0 m (pc + 1) ls rest)) : W p l e R s m args below meth c H locs cells slots Q (F0 m pc ls (.int (iI x) :: .int (iI z) :: .ref (o + 55) :: rest)) :=
  m_iast X hK hG hS 75 (by decide) rfl rfl hz hdg kk
/-- the field oldRoom -/
abbrev k_oldRoom : Nat := 76
theorem mg_oldRoom (X : CallFix p m c cc nL s args lw_all RX1) (hK : va_K D vwCl (gTys ca) s) (hG : gOk D (mA o) (mH ca o S) H) (hdg : decode cc pc = .ok (.getfield 178, 3)) (kk : W p l e R s m args below meth c H locs cells slots Q (F0 m (pc + 3) ls (.ref (o + 56) :: rest))) : W p l e R s m args below meth c H locs cells slots Q (F0 m pc ls (.ref o :: rest)) :=
  m_get X hK hG 76 (by decide) q1250 rfl (rfl) hdg kk
theorem ml_oldRoom (X : CallFix p m c cc nL s args lw_all RX1) (hK : va_K D vwCl (gTys ca) s) (hG : gOk D (mA o) (mH ca o S) H) {z : Int} (f : Int → Int) (hf : S.2 76 = f) (hz : 0 ≤ z ∧ z < 31000) (hdg : decode cc pc = .ok (.iaload, 1)) (kk : W p l e R s m args below meth c H locs cells slots Q (F0 m (pc + 1) ls (.int (iI (f z)) :: rest))) : W p l e R s m args below meth c H locs cells slots Q (F0 m pc ls (.int (iI z) :: .ref (o + 56) :: rest)) :=
  m_iald X hK hG 76 (by decide) rfl rfl hz hdg (by rw [hf]; exact kk)
theorem ms_oldRoom (X : CallFix p m c cc nL s args lw_all RX1) (hK : va_K D vwCl (gTys ca) s) (hG : gOk D (mA o) (mH ca o S) H) (hS : va_S (mA o) H0 H locs) {z x : Int} (hz : 0 ≤ z ∧ z < 31000) (hdg : decode cc pc = .ok (.iastore, 1)) (kk : ∀ (H1 : Heap) (locs1 : List Loc), gOk D (mA o) (mH ca o (mU S 76 z x)) H1 → va_S (mA o) H0 H1 locs1 → W p l e R s m args below meth c H1 locs1 cells slots Q (F0 m (pc + 1) ls rest)) : W p l e R s m args below meth c H locs cells slots Q (F0 m pc ls (.int (iI x) :: .int (iI z) :: .ref (o + 56) :: rest)) :=
  m_iast X hK hG hS 76 (by decide) rfl rfl hz hdg kk
/-- the field oldParts -/
abbrev k_oldParts : Nat := 77
theorem mg_oldParts (X : CallFix p m c cc nL s args lw_all RX1) (hK : va_K D vwCl (gTys ca) s) (hG : gOk D (mA o) (mH ca o S) H) (hdg : decode cc pc = .ok (.getfield 181, 3)) (kk : W p l e R s m args below meth c H locs cells slots Q (F0 m (pc + 3) ls (.ref (o + 57) :: rest))) : W p l e R s m args below meth c H locs cells slots Q (F0 m pc ls (.ref o :: rest)) :=
  m_get X hK hG 77 (by decide) q1251 rfl (rfl) hdg kk
theorem ml_oldParts (X : CallFix p m c cc nL s args lw_all RX1) (hK : va_K D vwCl (gTys ca) s) (hG : gOk D (mA o) (mH ca o S) H) {z : Int} (f : Int → Int) (hf : S.2 77 = f) (hz : 0 ≤ z ∧ z < 31000) (hdg : decode cc pc = .ok (.iaload, 1)) (kk : W p l e R s m args below meth c H locs cells slots Q (F0 m (pc + 1) ls (.int (iI (f z)) :: rest))) : W p l e R s m args below meth c H locs cells slots Q (F0 m pc ls (.int (iI z) :: .ref (o + 57) :: rest)) :=
  m_iald X hK hG 77 (by decide) rfl rfl hz hdg (by rw [hf]; exact kk)
theorem ms_oldParts (X : CallFix p m c cc nL s args lw_all RX1) (hK : va_K D vwCl (gTys ca) s) (hG : gOk D (mA o) (mH ca o S) H) (hS : va_S (mA o) H0 H locs) {z x : Int} (hz : 0 ≤ z ∧ z < 31000) (hdg : decode cc pc = .ok (.iastore, 1)) (kk : ∀ (H1 : Heap) (locs1 : List Loc), gOk D (mA o) (mH ca o (mU S 77 z x)) H1 → va_S (mA o) H0 H1 locs1 → W p l e R s m args below meth c H1 locs1 cells slots Q (F0 m (pc + 1) ls rest)) : W p l e R s m args below meth c H locs cells slots Q (F0 m pc ls (.int (iI x) :: .int (iI z) :: .ref (o + 57) :: rest)) :=
  m_iast X hK hG hS 77 (by decide) rfl rfl hz hdg kk
/-- the field isKept -/
abbrev k_isKept : Nat := 78
theorem mg_isKept (X : CallFix p m c cc nL s args lw_all RX1) (hK : va_K D vwCl (gTys ca) s) (hG : gOk D (mA o) (mH ca o S) H) (z : Int) (hz : S.1 78 = z) (hdg : decode cc pc = .ok (.getfield 428, 3)) (kk : W p l e R s m args below meth c H locs cells slots Q (F0 m (pc + 3) ls (.int (iI z) :: rest))) : W p l e R s m args below meth c H locs cells slots Q (F0 m pc ls (.ref o :: rest)) :=
  m_get X hK hG 78 (by decide) q1252 rfl (by rw [← hz]; rfl) hdg kk
theorem mp_isKept (X : CallFix p m c cc nL s args lw_all RX1) (hK : va_K D vwCl (gTys ca) s) (hG : gOk D (mA o) (mH ca o S) H) (hS : va_S (mA o) H0 H locs) {z : Int} (hz : z = 0 ∨ z = 1) (hdg : decode cc pc = .ok (.putfield 428, 3)) (kk : ∀ (H1 : Heap) (locs1 : List Loc), gOk D (mA o) (mH ca o (mS S 78 z)) H1 → va_S (mA o) H0 H1 locs1 → W p l e R s m args below meth c H1 locs1 cells slots Q (F0 m (pc + 3) ls rest)) : W p l e R s m args below meth c H locs cells slots Q (F0 m pc ls (.int (iI z) :: .ref o :: rest)) :=
  m_put X hK hG hS 78 (by decide) rfl rfl q1252 rfl (by decide +kernel) (by rcases hz with rfl | rfl <;> rfl) (by rcases hz with rfl | rfl <;> rfl) hdg kk
/-- the field keptItems -/
abbrev k_keptItems : Nat := 79
theorem mg_keptItems (X : CallFix p m c cc nL s args lw_all RX1) (hK : va_K D vwCl (gTys ca) s) (hG : gOk D (mA o) (mH ca o S) H) (z : Int) (hz : S.1 79 = z) (hdg : decode cc pc = .ok (.getfield 431, 3)) (kk : W p l e R s m args below meth c H locs cells slots Q (F0 m (pc + 3) ls (.int (iI z) :: rest))) : W p l e R s m args below meth c H locs cells slots Q (F0 m pc ls (.ref o :: rest)) :=
  m_get X hK hG 79 (by decide) q1253 rfl (by rw [← hz]; rfl) hdg kk
theorem mp_keptItems (X : CallFix p m c cc nL s args lw_all RX1) (hK : va_K D vwCl (gTys ca) s) (hG : gOk D (mA o) (mH ca o S) H) (hS : va_S (mA o) H0 H locs) {z : Int} (hdg : decode cc pc = .ok (.putfield 431, 3)) (kk : ∀ (H1 : Heap) (locs1 : List Loc), gOk D (mA o) (mH ca o (mS S 79 z)) H1 → va_S (mA o) H0 H1 locs1 → W p l e R s m args below meth c H1 locs1 cells slots Q (F0 m (pc + 3) ls rest)) : W p l e R s m args below meth c H locs cells slots Q (F0 m pc ls (.int (iI z) :: .ref o :: rest)) :=
  m_put X hK hG hS 79 (by decide) rfl rfl q1253 rfl (by decide +kernel) rfl rfl hdg kk
/-- the field keptWhat -/
abbrev k_keptWhat : Nat := 80
theorem mg_keptWhat (X : CallFix p m c cc nL s args lw_all RX1) (hK : va_K D vwCl (gTys ca) s) (hG : gOk D (mA o) (mH ca o S) H) (hdg : decode cc pc = .ok (.getfield 184, 3)) (kk : W p l e R s m args below meth c H locs cells slots Q (F0 m (pc + 3) ls (.ref (o + 58) :: rest))) : W p l e R s m args below meth c H locs cells slots Q (F0 m pc ls (.ref o :: rest)) :=
  m_get X hK hG 80 (by decide) q1254 rfl (rfl) hdg kk
theorem ml_keptWhat (X : CallFix p m c cc nL s args lw_all RX1) (hK : va_K D vwCl (gTys ca) s) (hG : gOk D (mA o) (mH ca o S) H) {z : Int} (f : Int → Int) (hf : S.2 80 = f) (hz : 0 ≤ z ∧ z < 500) (hdg : decode cc pc = .ok (.iaload, 1)) (kk : W p l e R s m args below meth c H locs cells slots Q (F0 m (pc + 1) ls (.int (iI (f z)) :: rest))) : W p l e R s m args below meth c H locs cells slots Q (F0 m pc ls (.int (iI z) :: .ref (o + 58) :: rest)) :=
  m_iald X hK hG 80 (by decide) rfl rfl hz hdg (by rw [hf]; exact kk)
theorem ms_keptWhat (X : CallFix p m c cc nL s args lw_all RX1) (hK : va_K D vwCl (gTys ca) s) (hG : gOk D (mA o) (mH ca o S) H) (hS : va_S (mA o) H0 H locs) {z x : Int} (hz : 0 ≤ z ∧ z < 500) (hdg : decode cc pc = .ok (.iastore, 1)) (kk : ∀ (H1 : Heap) (locs1 : List Loc), gOk D (mA o) (mH ca o (mU S 80 z x)) H1 → va_S (mA o) H0 H1 locs1 → W p l e R s m args below meth c H1 locs1 cells slots Q (F0 m (pc + 1) ls rest)) : W p l e R s m args below meth c H locs cells slots Q (F0 m pc ls (.int (iI x) :: .int (iI z) :: .ref (o + 58) :: rest)) :=
  m_iast X hK hG hS 80 (by decide) rfl rfl hz hdg kk
/-- the field keptWorth -/
abbrev k_keptWorth : Nat := 81
theorem mg_keptWorth (X : CallFix p m c cc nL s args lw_all RX1) (hK : va_K D vwCl (gTys ca) s) (hG : gOk D (mA o) (mH ca o S) H) (hdg : decode cc pc = .ok (.getfield 187, 3)) (kk : W p l e R s m args below meth c H locs cells slots Q (F0 m (pc + 3) ls (.ref (o + 59) :: rest))) : W p l e R s m args below meth c H locs cells slots Q (F0 m pc ls (.ref o :: rest)) :=
  m_get X hK hG 81 (by decide) q1255 rfl (rfl) hdg kk
theorem ml_keptWorth (X : CallFix p m c cc nL s args lw_all RX1) (hK : va_K D vwCl (gTys ca) s) (hG : gOk D (mA o) (mH ca o S) H) {z : Int} (f : Int → Int) (hf : S.2 81 = f) (hz : 0 ≤ z ∧ z < 500) (hdg : decode cc pc = .ok (.laload, 1)) (kk : W p l e R s m args below meth c H locs cells slots Q (F0 m (pc + 1) ls (.long (lI (f z)) :: rest))) : W p l e R s m args below meth c H locs cells slots Q (F0 m pc ls (.int (iI z) :: .ref (o + 59) :: rest)) :=
  m_lald X hK hG 81 (by decide) rfl rfl hz hdg (by rw [hf]; exact kk)
theorem ms_keptWorth (X : CallFix p m c cc nL s args lw_all RX1) (hK : va_K D vwCl (gTys ca) s) (hG : gOk D (mA o) (mH ca o S) H) (hS : va_S (mA o) H0 H locs) {z x : Int} (hz : 0 ≤ z ∧ z < 500) (hdg : decode cc pc = .ok (.lastore, 1)) (kk : ∀ (H1 : Heap) (locs1 : List Loc), gOk D (mA o) (mH ca o (mU S 81 z x)) H1 → va_S (mA o) H0 H1 locs1 → W p l e R s m args below meth c H1 locs1 cells slots Q (F0 m (pc + 1) ls rest)) : W p l e R s m args below meth c H locs cells slots Q (F0 m pc ls (.long (lI x) :: .int (iI z) :: .ref (o + 59) :: rest)) :=
  m_last X hK hG hS 81 (by decide) rfl rfl hz hdg kk
/-- the field keptParts -/
abbrev k_keptParts : Nat := 82
theorem mg_keptParts (X : CallFix p m c cc nL s args lw_all RX1) (hK : va_K D vwCl (gTys ca) s) (hG : gOk D (mA o) (mH ca o S) H) (hdg : decode cc pc = .ok (.getfield 190, 3)) (kk : W p l e R s m args below meth c H locs cells slots Q (F0 m (pc + 3) ls (.ref (o + 60) :: rest))) : W p l e R s m args below meth c H locs cells slots Q (F0 m pc ls (.ref o :: rest)) :=
  m_get X hK hG 82 (by decide) q1256 rfl (rfl) hdg kk
theorem ml_keptParts (X : CallFix p m c cc nL s args lw_all RX1) (hK : va_K D vwCl (gTys ca) s) (hG : gOk D (mA o) (mH ca o S) H) {z : Int} (f : Int → Int) (hf : S.2 82 = f) (hz : 0 ≤ z ∧ z < 500) (hdg : decode cc pc = .ok (.iaload, 1)) (kk : W p l e R s m args below meth c H locs cells slots Q (F0 m (pc + 1) ls (.int (iI (f z)) :: rest))) : W p l e R s m args below meth c H locs cells slots Q (F0 m pc ls (.int (iI z) :: .ref (o + 60) :: rest)) :=
  m_iald X hK hG 82 (by decide) rfl rfl hz hdg (by rw [hf]; exact kk)
theorem ms_keptParts (X : CallFix p m c cc nL s args lw_all RX1) (hK : va_K D vwCl (gTys ca) s) (hG : gOk D (mA o) (mH ca o S) H) (hS : va_S (mA o) H0 H locs) {z x : Int} (hz : 0 ≤ z ∧ z < 500) (hdg : decode cc pc = .ok (.iastore, 1)) (kk : ∀ (H1 : Heap) (locs1 : List Loc), gOk D (mA o) (mH ca o (mU S 82 z x)) H1 → va_S (mA o) H0 H1 locs1 → W p l e R s m args below meth c H1 locs1 cells slots Q (F0 m (pc + 1) ls rest)) : W p l e R s m args below meth c H locs cells slots Q (F0 m pc ls (.int (iI x) :: .int (iI z) :: .ref (o + 60) :: rest)) :=
  m_iast X hK hG hS 82 (by decide) rfl rfl hz hdg kk
/-- the field keptReads -/
abbrev k_keptReads : Nat := 83
theorem mg_keptReads (X : CallFix p m c cc nL s args lw_all RX1) (hK : va_K D vwCl (gTys ca) s) (hG : gOk D (mA o) (mH ca o S) H) (hdg : decode cc pc = .ok (.getfield 193, 3)) (kk : W p l e R s m args below meth c H locs cells slots Q (F0 m (pc + 3) ls (.ref (o + 61) :: rest))) : W p l e R s m args below meth c H locs cells slots Q (F0 m pc ls (.ref o :: rest)) :=
  m_get X hK hG 83 (by decide) q1257 rfl (rfl) hdg kk
theorem ml_keptReads (X : CallFix p m c cc nL s args lw_all RX1) (hK : va_K D vwCl (gTys ca) s) (hG : gOk D (mA o) (mH ca o S) H) {z : Int} (f : Int → Int) (hf : S.2 83 = f) (hz : 0 ≤ z ∧ z < 500) (hdg : decode cc pc = .ok (.iaload, 1)) (kk : W p l e R s m args below meth c H locs cells slots Q (F0 m (pc + 1) ls (.int (iI (f z)) :: rest))) : W p l e R s m args below meth c H locs cells slots Q (F0 m pc ls (.int (iI z) :: .ref (o + 61) :: rest)) :=
  m_iald X hK hG 83 (by decide) rfl rfl hz hdg (by rw [hf]; exact kk)
theorem ms_keptReads (X : CallFix p m c cc nL s args lw_all RX1) (hK : va_K D vwCl (gTys ca) s) (hG : gOk D (mA o) (mH ca o S) H) (hS : va_S (mA o) H0 H locs) {z x : Int} (hz : 0 ≤ z ∧ z < 500) (hdg : decode cc pc = .ok (.iastore, 1)) (kk : ∀ (H1 : Heap) (locs1 : List Loc), gOk D (mA o) (mH ca o (mU S 83 z x)) H1 → va_S (mA o) H0 H1 locs1 → W p l e R s m args below meth c H1 locs1 cells slots Q (F0 m (pc + 1) ls rest)) : W p l e R s m args below meth c H locs cells slots Q (F0 m pc ls (.int (iI x) :: .int (iI z) :: .ref (o + 61) :: rest)) :=
  m_iast X hK hG hS 83 (by decide) rfl rfl hz hdg kk
end MFIELDS
