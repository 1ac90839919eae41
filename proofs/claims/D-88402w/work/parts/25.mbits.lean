/-! ===== bytes of a long; counting ===== -/
set_option maxRecDepth 100000
def byt (x : Int64) (k : Nat) : Int := ((x.toBitVec.toNat / 2 ^ (8 * k) % 256 : Nat) : Int)
def sB (b : Int) : Int := if b < 128 then b else b - 256
theorem byt_in (x : Int64) (k : Nat) : 0 ≤ byt x k ∧ byt x k < 256 := by unfold byt; omega
theorem sB_in {b : Int} (h : 0 ≤ b ∧ b < 256) : -128 ≤ sB b ∧ sB b < 128 := by unfold sB; split <;> omega
theorem sB_mod {b : Int} (h : 0 ≤ b ∧ b < 256) : sB b % 256 = b := by unfold sB; split <;> omega
theorem lI_lN (n : Nat) : lI n = lN n := by
  show Int64.ofInt n = Int64.ofNat n
  rw [Int64.ofInt_eq_ofNat]
theorem ushr_b {x : Int64} {k : Nat} (hk : k < 8) : (x.toUInt64 >>> ((iI (8 * k)).toInt64.toUInt64 &&& Int64.toUInt64 63)).toInt64 &&& lI 255 = lI (byt x k) := by
  obtain ⟨n, hn, rfl⟩ := wb_of x
  have h1 : iI (8 * (k : Int)) = nI (8 * k) := by rw [nI_iI]; congr 1
  rw [h1, wb_shr hn (by omega), show lI 255 = lN (2 ^ 8 - 1) by decide, wb_mask (Nat.lt_of_le_of_lt (Nat.div_le_self _ _) hn) (by decide)]
  unfold byt
  rw [wb_tn hn, lI_lN]
theorem sshr_b {x : Int64} {k : Nat} (hk : k < 8) : x >>> ((iI (8 * k)).toInt64 &&& 63) &&& lI 255 = lI (byt x k) := by
  obtain ⟨n, hn, rfl⟩ := wb_of x
  have h1 : iI (8 * (k : Int)) = nI (8 * k) := by rw [nI_iI]; congr 1
  rw [h1, wb_c (8 * k) (by omega)]
  unfold byt
  rw [wb_tn hn, lI_lN]
  apply wb_inj
  rw [Int64.toBitVec_and, Int64.toBitVec_shiftRight, wb_tb, wb_tb, wb_sm (8 * k) (by omega), show (lI 255).toBitVec = BitVec.ofNat 64 255 by decide]
  apply BitVec.eq_of_getLsbD_eq
  intro i hi
  rw [BitVec.getLsbD_and, BitVec.sshiftRight_eq', BitVec.getLsbD_sshiftRight, BitVec.toNat_ofNat, Nat.mod_eq_of_lt (show 8 * k < 2 ^ 64 by omega), wb_tb, BitVec.getLsbD_ofNat, BitVec.getLsbD_ofNat]
  have e255 : (255 : Nat) = 2 ^ 8 - 1 := by decide
  have e256 : (256 : Nat) = 2 ^ 8 := by decide
  rw [e255, Nat.testBit_two_pow_sub_one, e256, BitVec.getLsbD_ofNat, Nat.testBit_mod_two_pow, Nat.testBit_div_two_pow]
  by_cases h8 : i < 8
  · have : 8 * k + i < 64 := by omega
    have h64 : ¬ 64 ≤ i := by omega
    rw [Nat.add_comm i (8 * k)]
    simp only [h8, hi, this, h64, if_true, decide_true, decide_false, Bool.not_false, Bool.true_and, Bool.and_true]
  · simp [h8]
theorem byte_of (z : Nat) : ((lN z).toInt32).toInt8.toInt32 = iI (sB ((z % 256 : Nat) : Int)) := by
  have h0 := byt_in
  rw [← lI_lN, l2i_lI]
  apply Int32.toInt_inj.mp
  rw [Int8.toInt_toInt32, Int32.toInt_toInt8]
  have hs := sB_in (b := ((z % 256 : Nat) : Int)) ⟨by omega, by omega⟩
  rw [iI_toInt (z := sB _) ⟨by omega, by omega⟩]
  show ((Int32.ofInt (z : Int)).toInt).bmod (2 ^ 8) = _
  rw [Int32.toInt_ofInt, Int.bmod_bmod_of_dvd (by decide)]
  unfold sB
  simp only [Int.bmod]
  split <;> split <;> omega
theorem ushr_s {x : Int64} {k : Nat} (hk : k < 8) : (((x.toUInt64 >>> ((iI (8 * k)).toInt64.toUInt64 &&& Int64.toUInt64 63)).toInt64).toInt32).toInt8.toInt32 = iI (sB (byt x k)) := by
  obtain ⟨n, hn, rfl⟩ := wb_of x
  have h1 : iI (8 * (k : Int)) = nI (8 * k) := by rw [nI_iI]; congr 1
  rw [h1, wb_shr hn (by omega), byte_of]
  unfold byt
  rw [wb_tn hn]
theorem sshr_s {x : Int64} {k : Nat} (hk : k < 8) : ((x >>> ((iI (8 * k)).toInt64 &&& 63)).toInt32).toInt8.toInt32 = iI (sB (byt x k)) := by
  obtain ⟨n, hn, hz⟩ := wb_of (x >>> ((iI (8 * k)).toInt64 &&& 63))
  have h2 := sshr_b (x := x) hk
  rw [hz, show lI 255 = lN (2 ^ 8 - 1) by decide, wb_mask hn (by decide)] at h2
  have h3 := byt_in x k
  have h4 : ((n % 2 ^ 8 : Nat) : Int) = byt x k := by
    rw [← lI_lN] at h2
    exact (lI_eq (by omega) (by omega)).mp h2
  rw [hz, byte_of, ← h4]
section BROWS
variable {p : Program} {l : Launch} {e : Env} {R : Room} {s : State} {m : MethodId} {args : Array Value} {below : List Frame} {meth : Method} {c : Code} {H : Heap} {locs : List Loc} {cells slots : Nat} {Q : State → Prop}
variable {cc : ByteArray} {pc : Nat} {ls : Array Slot} {rest : List Value} {own : String} {nL : Nat}
theorem f_ushrb (X : CallFix p m c cc nL s args lw_all own) {x : Int64} {k : Int} (hk : 0 ≤ k ∧ k < 8) {ix : Nat} (hd0 : decode cc pc = .ok (.lushr, 1)) (hq : (Cond.constantLong own ix 255) ∈ lw_all) (hd1 : decode cc (pc + 1) = .ok (.ldc2_w ix, 3)) (hd2 : decode cc (pc + 1 + 3) = .ok (.land, 1)) (kk : W p l e R s m args below meth c H locs cells slots Q (F0 m (pc + 1 + 3 + 1) ls (.long (lI (byt x k.toNat)) :: rest))) : W p l e R s m args below meth c H locs cells slots Q (F0 m pc ls (.int (iI (8 * k)) :: .long x :: rest)) := by
  refine lv_lushr X.1 X.2.1 hd0 rfl ?_
  refine lv_ldc2 (v := lI 255) X.1 X.2.1 X.2.2.2.1 (X.2.2.2.2 _ hq) hd1 ?_
  refine lv_land X.1 X.2.1 hd2 ?_
  have h : (8 * k) = 8 * (k.toNat : Int) := by omega
  rw [h, ushr_b (by omega)]
  exact kk
theorem f_sshrb (X : CallFix p m c cc nL s args lw_all own) {x : Int64} {k : Int} (hk : 0 ≤ k ∧ k < 8) {ix : Nat} (hd0 : decode cc pc = .ok (.lshr, 1)) (hq : (Cond.constantLong own ix 255) ∈ lw_all) (hd1 : decode cc (pc + 1) = .ok (.ldc2_w ix, 3)) (hd2 : decode cc (pc + 1 + 3) = .ok (.land, 1)) (kk : W p l e R s m args below meth c H locs cells slots Q (F0 m (pc + 1 + 3 + 1) ls (.long (lI (byt x k.toNat)) :: rest))) : W p l e R s m args below meth c H locs cells slots Q (F0 m pc ls (.int (iI (8 * k)) :: .long x :: rest)) := by
  refine lv_lshr X.1 X.2.1 hd0 rfl ?_
  refine lv_ldc2 (v := lI 255) X.1 X.2.1 X.2.2.2.1 (X.2.2.2.2 _ hq) hd1 ?_
  refine lv_land X.1 X.2.1 hd2 ?_
  have h : (8 * k) = 8 * (k.toNat : Int) := by omega
  rw [h, sshr_b (by omega)]
  exact kk
theorem f_ushrs (X : CallFix p m c cc nL s args lw_all own) {x : Int64} {k : Int} (hk : 0 ≤ k ∧ k < 8) (hd0 : decode cc pc = .ok (.lushr, 1)) (hd1 : decode cc (pc + 1) = .ok (.l2i, 1)) (hd2 : decode cc (pc + 1 + 1) = .ok (.i2b, 1)) (kk : W p l e R s m args below meth c H locs cells slots Q (F0 m (pc + 1 + 1 + 1) ls (.int (iI (sB (byt x k.toNat))) :: rest))) : W p l e R s m args below meth c H locs cells slots Q (F0 m pc ls (.int (iI (8 * k)) :: .long x :: rest)) := by
  refine lv_lushr X.1 X.2.1 hd0 rfl ?_
  refine lv_l2i X.1 X.2.1 hd1 rfl ?_
  refine lv_i2b X.1 X.2.1 hd2 rfl ?_
  have h : (8 * k) = 8 * (k.toNat : Int) := by omega
  rw [h, ushr_s (by omega)]
  exact kk
theorem f_sshrs (X : CallFix p m c cc nL s args lw_all own) {x : Int64} {k : Int} (hk : 0 ≤ k ∧ k < 8) (hd0 : decode cc pc = .ok (.lshr, 1)) (hd1 : decode cc (pc + 1) = .ok (.l2i, 1)) (hd2 : decode cc (pc + 1 + 1) = .ok (.i2b, 1)) (kk : W p l e R s m args below meth c H locs cells slots Q (F0 m (pc + 1 + 1 + 1) ls (.int (iI (sB (byt x k.toNat))) :: rest))) : W p l e R s m args below meth c H locs cells slots Q (F0 m pc ls (.int (iI (8 * k)) :: .long x :: rest)) := by
  refine lv_lshr X.1 X.2.1 hd0 rfl ?_
  refine lv_l2i X.1 X.2.1 hd1 rfl ?_
  refine lv_i2b X.1 X.2.1 hd2 rfl ?_
  have h : (8 * k) = 8 * (k.toNat : Int) := by omega
  rw [h, sshr_s (by omega)]
  exact kk
end BROWS
/-- how many bytes of a word are fed: those ahead of the first zero -/
def cB (x : Int64) : Nat → Nat
  | 0 => 8
  | f + 1 => if byt x (7 - f) = 0 then 7 - f else cB x f
theorem cB_le (x : Int64) : ∀ f, f ≤ 8 → 8 - f ≤ cB x f ∧ cB x f ≤ 8 := by
  intro f
  induction f with
  | zero => intro _; exact ⟨Nat.le_refl _, Nat.le_refl _⟩
  | succ f ih =>
    intro h
    unfold cB
    split
    · omega
    · have := ih (by omega); omega
/-- how many of the first n are so -/
def cntB (f : Int → Bool) : Nat → Int
  | 0 => 0
  | n + 1 => cntB f n + bI (f n)
theorem cntB_in (f : Int → Bool) (n : Nat) : 0 ≤ cntB f n ∧ cntB f n ≤ n := by
  induction n with
  | zero => simp [cntB]
  | succ n ih => unfold cntB; have := bI_01 (f n); omega
/-- the maker's maker, so often -/
def spMk (S : MSt) : Nat → Int → Int
  | 0, m => m
  | c + 1, m => if m ≤ 0 then m else spMk S c (S.2 52 m)
theorem spMk_0 (S : MSt) : ∀ (c : Nat) (m : Int), m ≤ 0 → spMk S c m = m := by
  intro c m h
  cases c with
  | zero => rfl
  | succ c => unfold spMk; rw [if_pos h]
def spRowAl (S : MSt) (k : Int) : Bool := decide (S.2 41 k = S.2 80 k) && decide (S.2 47 k = S.2 82 k) && decide (spReads S k = S.2 83 k) && (decide (spReads S k ≠ -9) || decide (S.2 42 k = S.2 81 k))
def spAl (S : MSt) : Nat → Bool
  | 0 => true
  | k + 1 => spAl S k && spRowAl S k
theorem spAl_mono (S : MSt) {k : Nat} (h : spAl S k = false) : ∀ d, spAl S (k + d) = false := by
  intro d
  induction d with
  | zero => exact h
  | succ d ih => show (spAl S (k + d) && _) = false; rw [ih]; rfl
theorem byt_lI {z : Int} {k : Nat} (h : 0 ≤ z ∧ z < 9223372036854775808) : byt (lI z) k = z / 2 ^ (8 * k) % 256 := by
  have e : lI z = lN z.toNat := by rw [← lI_lN, Int.toNat_of_nonneg h.1]
  unfold byt
  rw [e, wb_tn (by omega), Int.natCast_emod, Int.natCast_ediv, Int.toNat_of_nonneg h.1]
  norm_cast
/-- what names read as: by the rows alone -/
theorem spReads_pr {S S' : MSt} (h1 : ∀ k, k = 40 → S'.1 k = S.1 k) (h2 : ∀ k, 41 ≤ k ∧ k ≤ 48 → S'.2 k = S.2 k) {i : Int} : spReads S' i = spReads S i := by
  have e41 := h2 41 (by decide)
  have e42 := h2 42 (by decide)
  have e43 := h2 43 (by decide)
  have e46 := h2 46 (by decide)
  have e47 := h2 47 (by decide)
  have e48 := h2 48 (by decide)
  have hB : spB S' = spB S := by funext l; unfold spB; rw [e46]
  have hL : spL S' = spL S := by funext l; unfold spL; rw [e46, e47]
  have hI : spIsB S' = spIsB S := by funext l; unfold spIsB; rw [e41]
  have hU : ∀ (w k : Int) (f : Nat) (a l : Int), spUp S' w k f a l = spUp S w k f a l := by
    intro w k f
    induction f with
    | zero => intro a l; rfl
    | succ f ih =>
      intro a l
      unfold spUp
      rw [ih, hB, hL, hI, e42, e43, e48]
  unfold spReads
  rw [hU, hB, hI, e41, e42, e43, e48]
/-- what count asks of an item -/
def spCq (S : MSt) (a k : Int) : Bool := if a = 3 then spCall S k else if a = 4 then spReady S k else if a = 7 then decide (S.2 41 k = 1) && decide (spReads S k = -9) else false
