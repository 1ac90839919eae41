/-! ===== letters of a name; the term kept; the steps ===== -/
set_option maxRecDepth 100000
theorem wLE_div : ∀ (n : Nat) (cs : List Nat), (∀ b ∈ cs, b < 256) → wLE cs / 2 ^ (8 * n) = wLE (cs.drop n) := by
  intro n
  induction n with
  | zero => intro cs _; simp
  | succ n ih =>
    intro cs hb
    cases cs with
    | nil => simp [wLE]
    | cons b cs =>
      have h1 := hb b (by simp)
      rw [List.drop_succ_cons, ← ih cs (fun x hx => hb x (by simp [hx])), show (2 : Int) ^ (8 * (n + 1)) = 256 * 2 ^ (8 * n) by rw [show 8 * (n + 1) = 8 * n + 8 by omega, Int.pow_add]; omega]
      rw [← Int.ediv_ediv_of_nonneg (by decide)]
      congr 1
      show ((b : Int) + 256 * wLE cs) / 256 = wLE cs
      omega
theorem wLE_pos : ∀ cs : List Nat, (∀ b ∈ cs, 0 < b) → cs ≠ [] → 0 < wLE cs := by
  intro cs hb hn
  cases cs with
  | nil => exact absurd rfl hn
  | cons b cs =>
    have := hb b (by simp)
    have := wLE_nn cs
    show 0 < (b : Int) + 256 * wLE cs
    omega
theorem wLE_get (cs : List Nat) (n : Nat) (hb : ∀ b ∈ cs, b < 256) : wLE cs / 2 ^ (8 * n) % 256 = ((cs[n]?).getD 0 : Nat) := by
  rw [wLE_div n cs hb]
  cases hd : cs.drop n with
  | nil =>
    have : cs.length ≤ n := by simpa using hd
    rw [List.getElem?_eq_none this]
    rfl
  | cons b r =>
    have h2 : cs[n]? = some b := by rw [← List.head?_drop, hd]; rfl
    have h3 := hb b (List.mem_of_mem_drop (i := n) (by rw [hd]; simp))
    rw [h2]
    show ((b : Int) + 256 * wLE r) % 256 = b
    omega
/-- how many letters a word has; each by its place -/
theorem letters_of {w : Int} (hw : wOk w) : ∃ L : Nat, L ≤ 6 ∧ (∀ n, n ≤ L → (0 < gLt w / 2 ^ (8 * n) ↔ n < L)) ∧ (∀ k, k < L → gLt w / 2 ^ (8 * (L - 1 - k)) % 256 = w / 2 ^ (8 * k) % 256 ∧ w / 2 ^ (8 * k) % 256 ≠ 0) ∧ ∀ k, L ≤ k → w / 2 ^ (8 * k) % 256 = 0 := by
  obtain ⟨bs, hl, hb, rfl⟩ := wOkN_list 6 w hw
  have hb1 : ∀ b ∈ bs, b < 256 := fun b h => (hb b h).2
  have hr : ∀ b ∈ bs.reverse, 0 < b ∧ b < 256 := fun b h => hb b (List.mem_reverse.mp h)
  have hr1 : ∀ b ∈ bs.reverse, b < 256 := fun b h => (hr b h).2
  refine ⟨bs.length, hl, fun n hn => ?_, fun k hk => ?_, fun k hk => ?_⟩
  · rw [gLt_list hl hb, wLE_div n _ hr1]
    constructor
    · intro h
      rcases Nat.lt_or_ge n bs.length with z | z
      · exact z
      · rw [List.drop_eq_nil_of_le (by simp; omega)] at h
        exact absurd h (by show ¬ (0 : Int) < 0; omega)
    · intro h
      refine wLE_pos _ (fun b hb2 => (hr b (List.mem_of_mem_drop hb2)).1) ?_
      intro z
      have : (bs.reverse.drop n).length = 0 := by rw [z]; rfl
      rw [List.length_drop, List.length_reverse] at this
      omega
  · rw [gLt_list hl hb, wLE_get _ _ hr1, wLE_get _ _ hb1, List.getElem?_reverse (by omega), show bs.length - 1 - (bs.length - 1 - k) = k by omega]
    refine ⟨rfl, ?_⟩
    rw [List.getElem?_eq_getElem hk]
    have := (hb _ (List.getElem_mem hk)).1
    show ((bs[k] : Nat) : Int) ≠ 0
    omega
  · rw [wLE_get _ _ hb1, List.getElem?_eq_none hk]
    rfl
theorem sshr_nn {z : Int} {k : Nat} (hz : 0 ≤ z ∧ z < 9223372036854775808) (hk : k < 8) : lI z >>> ((iI (8 * k)).toInt64 &&& 63) = lI (z / 2 ^ (8 * k)) := by
  have h1 : iI (8 * (k : Int)) = nI (8 * k) := by rw [nI_iI]; congr 1
  have hd : 0 ≤ z / 2 ^ (8 * k) ∧ z / 2 ^ (8 * k) ≤ z := ⟨Int.ediv_nonneg hz.1 (Int.le_of_lt (Int.pow_pos (by decide))), Int.ediv_le_self _ hz.1⟩
  rw [h1, wb_c (8 * k) (by omega)]
  apply Int64.toInt_inj.mp
  rw [lI_toInt ⟨by omega, by omega⟩]
  show (lI z >>> lN (8 * k)).toBitVec.toInt = _
  rw [Int64.toBitVec_shiftRight, wb_tb, wb_sm (8 * k) (by omega), BitVec.sshiftRight_eq', BitVec.toInt_sshiftRight, BitVec.toNat_ofNat, Nat.mod_eq_of_lt (show 8 * k < 2 ^ 64 by omega)]
  show (lI z).toInt >>> (8 * k) = _
  rw [lI_toInt ⟨by omega, by omega⟩, Int.shiftRight_eq_div_pow]
  norm_cast
section LROWS
variable {p : Program} {l : Launch} {e : Env} {R : Room} {s : State} {m : MethodId} {args : Array Value} {below : List Frame} {meth : Method} {c : Code} {H : Heap} {locs : List Loc} {cells slots : Nat} {Q : State → Prop}
variable {cc : ByteArray} {pc : Nat} {ls : Array Slot} {rest : List Value} {own : String} {nL : Nat}
theorem f_lshr (X : CallFix p m c cc nL s args lw_all own) {z k : Int} (hz : 0 ≤ z ∧ z < 9223372036854775808) (hk : 0 ≤ k ∧ k < 8) (hd0 : decode cc pc = .ok (.lshr, 1)) (kk : W p l e R s m args below meth c H locs cells slots Q (F0 m (pc + 1) ls (.long (lI (z / 2 ^ (8 * k.toNat))) :: rest))) : W p l e R s m args below meth c H locs cells slots Q (F0 m pc ls (.int (iI (8 * k)) :: .long (lI z) :: rest)) := by
  refine lv_lshr X.1 X.2.1 hd0 rfl ?_
  have h : (8 * k) = 8 * (k.toNat : Int) := by omega
  rw [h, sshr_nn hz (by omega)]
  exact kk
end LROWS
/-- a row of the term kept -/
def kOk (S : MSt) (i : Int) : Prop := (0 ≤ S.2 80 i ∧ S.2 80 i ≤ 5) ∧ (S.2 80 i < 2 → S.2 82 i = 0) ∧ (2 ≤ S.2 80 i → S.2 81 i = 0 ∧ 0 ≤ S.2 82 i ∧ S.2 82 i ≤ 500) ∧ (S.2 80 i = 1 → wOk (S.2 81 i)) ∧ (S.2 80 i = 0 → 0 ≤ S.2 81 i ∧ S.2 81 i < 1000000) ∧ (-9 ≤ S.2 83 i ∧ S.2 83 i ≤ 500)
/-- THE TERM KEPT: the Model's rows and the Glass' arrays -/
def KEP (G : gEnv) (h : gH) (x0 : Nat) (S : MSt) (f4 f5 f6 f7 : Int → Int) : Prop :=
  h (x0 + 4) = some (gIA G (4, 4) 500 f4) ∧ h (x0 + 5) = some (gIA G (4, 5) 500 f5) ∧ h (x0 + 6) = some (gLA G (4, 6) 500 f6) ∧ h (x0 + 7) = some (gIA G (4, 7) 500 f7) ∧
  (S.1 78 = 0 ∨ S.1 78 = 1) ∧ (S.1 78 = 1 → (0 ≤ S.1 79 ∧ S.1 79 ≤ 500) ∧ ∀ i, 0 ≤ i → i < S.1 79 → f4 i = S.2 80 i ∧ f5 i = (if S.2 80 i = 0 then S.2 81 i else S.2 82 i) ∧ f6 i = (if S.2 80 i = 1 then gLt (S.2 81 i) else 0) ∧ f7 i = S.2 83 i ∧ kOk S i)
/-- lists have no letters -/
def LW0 (S : MSt) : Prop := ∀ i, 0 ≤ i → i < S.1 40 → 2 ≤ S.2 41 i → S.2 42 i = 0
theorem spReads_no {S : MSt} {i : Int} (h : S.2 41 i ≠ 1) : spReads S i = -9 := by unfold spReads; rw [if_pos h]
theorem row_al {G : gEnv} {h : gH} {S : MSt} {ad : Int → Nat} (hV : LV G h S ad) (hL : LW0 S) {i : Int} (h0 : 0 ≤ i) (hn : i < S.1 40) (hk : kOk S i) :
    spRowAl S i = true ↔ (S.2 80 i = S.2 41 i ∧ (if S.2 80 i = 0 then S.2 81 i else S.2 82 i) = (if S.2 41 i = 0 then S.2 42 i else if 2 ≤ S.2 41 i then S.2 47 i else 0) ∧ S.2 83 i = spReads S i ∧ (spReads S i ≠ -9 ∨ (if S.2 80 i = 1 then gLt (S.2 81 i) else 0) = (if S.2 41 i = 1 then gLt (S.2 42 i) else 0))) := by
  have hw := hV.1.1.w h0 hn
  have hlf := hV.1.1.leaf h0 hn
  have hl0 := hL i h0 hn
  have hlv := hV.2.2.2 i h0 hn
  obtain ⟨k1, k2, k3, k4, k5, k6⟩ := hk
  unfold spRowAl
  simp only [Bool.and_eq_true, Bool.or_eq_true, decide_eq_true_eq]
  by_cases he : S.2 80 i = S.2 41 i
  · rw [← he] at hw hlf hl0 hlv ⊢
    rcases (show S.2 80 i = 0 ∨ S.2 80 i = 1 ∨ 2 ≤ S.2 80 i by omega) with z | z | z
    · have hr : spReads S i = -9 := spReads_no (by omega)
      have := hlf (by omega)
      have := k2 (by omega)
      rw [hr, if_pos z, if_pos z, if_neg (by omega), if_neg (by omega)]
      omega
    · have := hlf (by omega)
      have := k2 (by omega)
      rw [if_neg (by omega), if_neg (by omega), if_neg (by omega), if_pos z, if_pos z, gLt_inj (k4 z) (hlv.1 z)]
      omega
    · have hr : spReads S i = -9 := spReads_no (by omega)
      have := hl0 z
      have := k3 z
      rw [hr, if_neg (by omega), if_neg (by omega), if_pos z, if_neg (by omega), if_neg (by omega)]
      omega
  · constructor
    · intro q; exact absurd q.1.1.1.symm he
    · intro q; exact absurd q.1 he
/-- THE STEPS: the Model's rows and the Glass' objects: of step j its object, its call, its call's head, what came -/
def STP (G : gEnv) (h : gH) (x0 : Nat) (S : MSt) (qs : Nat) (sa cl hd md : Nat → Nat) : Prop :=
  AL G h (x0 + 2) ((List.range (S.1 49).toNat).map sa) qs ∧ (0 ≤ S.1 49 ∧ S.1 49 ≤ 300) ∧ ∀ j : Nat, (j : Int) < S.1 49 →
    h (sa j) = some ((5, 0), .inr (16, [.int (iI (S.2 50 (j + 1))), .ref (cl j), .ref (md j)])) ∧
    (∃ (tg : gT) (v0 v1 v2 v3 v5 : Value), h (cl j) = some (tg, .inr (10, [v0, v1, v2, v3, .ref (cl j + 1), v5]))) ∧
    (∃ (xs : List Nat) (q : Nat), AL G h (cl j + 1) (hd j :: xs) q) ∧
    (∃ (tg : gT) (v2 v3 v4 v5 : Value), h (hd j) = some (tg, .inr (12, [.int (iI (S.2 51 (j + 1))), .int (iI (S.2 52 (j + 1))), v2, v3, v4, v5]))) ∧ (0 ≤ S.2 52 (j + 1) ∧ S.2 52 (j + 1) ≤ j)
theorem STP.get {S : MSt} {sa : Nat → Nat} {j : Nat} (hr : (j : Int) < S.1 49) : ((List.range (S.1 49).toNat).map sa)[j]? = some (sa j) := by
  rw [List.getElem?_map, List.getElem?_range (by omega)]
  rfl
