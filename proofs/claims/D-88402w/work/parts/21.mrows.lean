/-! ===== rows of whole numbers by Int; contracts of the Model's methods and their calls ===== -/
set_option maxRecDepth 100000
section IROWS
variable {p : Program} {l : Launch} {e : Env} {R : Room} {s : State} {m : MethodId} {args : Array Value} {below : List Frame} {meth : Method} {c : Code} {H : Heap} {locs : List Loc} {cells slots : Nat} {Q : State → Prop}
variable {cc : ByteArray} {pc : Nat} {ls : Array Slot} {rest : List Value} {own : String} {nL : Nat}
theorem i_add (X : CallFix p m c cc nL s args lw_all own) {a b : Int} (hdg : decode cc pc = .ok (.iadd, 1)) (kk : W p l e R s m args below meth c H locs cells slots Q (F0 m (pc + 1) ls (.int (iI (a + b)) :: rest))) : W p l e R s m args below meth c H locs cells slots Q (F0 m pc ls (.int (iI b) :: .int (iI a) :: rest)) :=
  lv_iadd X.1 X.2.1 hdg (by rw [iI_add]; exact kk)
theorem i_sub (X : CallFix p m c cc nL s args lw_all own) {a b : Int} (hdg : decode cc pc = .ok (.isub, 1)) (kk : W p l e R s m args below meth c H locs cells slots Q (F0 m (pc + 1) ls (.int (iI (a - b)) :: rest))) : W p l e R s m args below meth c H locs cells slots Q (F0 m pc ls (.int (iI b) :: .int (iI a) :: rest)) :=
  lv_isub X.1 X.2.1 hdg (by rw [iI_sub]; exact kk)
theorem i_mul (X : CallFix p m c cc nL s args lw_all own) {a b : Int} (hdg : decode cc pc = .ok (.imul, 1)) (kk : W p l e R s m args below meth c H locs cells slots Q (F0 m (pc + 1) ls (.int (iI (a * b)) :: rest))) : W p l e R s m args below meth c H locs cells slots Q (F0 m pc ls (.int (iI b) :: .int (iI a) :: rest)) :=
  lv_imul X.1 X.2.1 hdg (by rw [iI_mul]; exact kk)
theorem i_i2l (X : CallFix p m c cc nL s args lw_all own) {a : Int} (ha : iR a) (hdg : decode cc pc = .ok (.i2l, 1)) (kk : W p l e R s m args below meth c H locs cells slots Q (F0 m (pc + 1) ls (.long (lI a) :: rest))) : W p l e R s m args below meth c H locs cells slots Q (F0 m pc ls (.int (iI a) :: rest)) :=
  lv_i2l X.1 X.2.1 hdg (i2l_iI ha) kk
theorem i_l2i (X : CallFix p m c cc nL s args lw_all own) {a : Int} (hdg : decode cc pc = .ok (.l2i, 1)) (kk : W p l e R s m args below meth c H locs cells slots Q (F0 m (pc + 1) ls (.int (iI a) :: rest))) : W p l e R s m args below meth c H locs cells slots Q (F0 m pc ls (.long (lI a) :: rest)) :=
  lv_l2i X.1 X.2.1 hdg (l2i_lI a) kk
theorem i_ladd (X : CallFix p m c cc nL s args lw_all own) {a b : Int} (hdg : decode cc pc = .ok (.ladd, 1)) (kk : W p l e R s m args below meth c H locs cells slots Q (F0 m (pc + 1) ls (.long (lI (a + b)) :: rest))) : W p l e R s m args below meth c H locs cells slots Q (F0 m pc ls (.long (lI b) :: .long (lI a) :: rest)) :=
  lv_ladd X.1 X.2.1 hdg (by rw [lI_add]; exact kk)
theorem i_lsub (X : CallFix p m c cc nL s args lw_all own) {a b : Int} (hdg : decode cc pc = .ok (.lsub, 1)) (kk : W p l e R s m args below meth c H locs cells slots Q (F0 m (pc + 1) ls (.long (lI (a - b)) :: rest))) : W p l e R s m args below meth c H locs cells slots Q (F0 m pc ls (.long (lI b) :: .long (lI a) :: rest)) :=
  lv_lsub X.1 X.2.1 hdg (by rw [lI_sub]; exact kk)
theorem i_lmul (X : CallFix p m c cc nL s args lw_all own) {a b : Int} (hdg : decode cc pc = .ok (.lmul, 1)) (kk : W p l e R s m args below meth c H locs cells slots Q (F0 m (pc + 1) ls (.long (lI (a * b)) :: rest))) : W p l e R s m args below meth c H locs cells slots Q (F0 m pc ls (.long (lI b) :: .long (lI a) :: rest)) :=
  lv_lmul X.1 X.2.1 hdg (by rw [lI_mul]; exact kk)
theorem i_top {a : Int} (kk : ∀ z : Int, z = a → W p l e R s m args below meth c H locs cells slots Q (F0 m pc ls (.int (iI z) :: rest))) : W p l e R s m args below meth c H locs cells slots Q (F0 m pc ls (.int (iI a) :: rest)) := kk a rfl
theorem i_topl {a : Int} (kk : ∀ z : Int, z = a → W p l e R s m args below meth c H locs cells slots Q (F0 m pc ls (.long (lI z) :: rest))) : W p l e R s m args below meth c H locs cells slots Q (F0 m pc ls (.long (lI a) :: rest)) := kk a rfl
theorem i_inc (X : CallFix p m c cc nL s args lw_all own) {i k : Nat} {n a : Int} {lv lv' : List (Nat × Value)} (hdg : decode cc pc = .ok (.iinc i n, 3)) (h : lv_has ls nL lv) (hk : lv[k]? = some (i, .int (iI a))) (hn : i < nL) (hl : (i, Value.int (iI (a + n))) :: lv.filter (fun q => !(q.1 == i) && !(q.1 + 1 == i && q.2.category == 2)) = lv')
    (kk : ∀ ls' : Array Slot, lv_has ls' nL lv' → W p l e R s m args below meth c H locs cells slots Q (F0 m (pc + 3) ls' rest)) : W p l e R s m args below meth c H locs cells slots Q (F0 m pc ls rest) :=
  lv_iinc (v := iI (a + n)) X.1 X.2.1 hdg h hk (by rw [← iI_add]; rfl) hn hl kk
theorem i_icmp_eq (X : CallFix p m c cc nL s args lw_all own) {a b : Int} (tgt : Nat) {off : Int} (hdg : decode cc pc = .ok (.if_icmp .eq off, 3)) (ht : (pc : Int) + off = (tgt : Int)) (ha : iR a) (hb : iR b) (k1 : a = b → W p l e R s m args below meth c H locs cells slots Q (F0 m tgt ls rest)) (k2 : a ≠ b → W p l e R s m args below meth c H locs cells slots Q (F0 m (pc + 3) ls rest)) : W p l e R s m args below meth c H locs cells slots Q (F0 m pc ls (.int (iI b) :: .int (iI a) :: rest)) :=
  lv_icmp_eq (tgt := tgt) X.1 X.2.1 hdg ht (fun h => k1 ((iI_eq ha hb).mp h)) (fun h => k2 (fun z => h ((iI_eq ha hb).mpr z)))
theorem i_icmp_ne (X : CallFix p m c cc nL s args lw_all own) {a b : Int} (tgt : Nat) {off : Int} (hdg : decode cc pc = .ok (.if_icmp .ne off, 3)) (ht : (pc : Int) + off = (tgt : Int)) (ha : iR a) (hb : iR b) (k1 : a ≠ b → W p l e R s m args below meth c H locs cells slots Q (F0 m tgt ls rest)) (k2 : a = b → W p l e R s m args below meth c H locs cells slots Q (F0 m (pc + 3) ls rest)) : W p l e R s m args below meth c H locs cells slots Q (F0 m pc ls (.int (iI b) :: .int (iI a) :: rest)) :=
  lv_icmp_ne (tgt := tgt) X.1 X.2.1 hdg ht (fun h => k1 (fun z => h ((iI_eq ha hb).mpr z))) (fun h => k2 ((iI_eq ha hb).mp h))
theorem i_icmp_lt (X : CallFix p m c cc nL s args lw_all own) {a b : Int} (tgt : Nat) {off : Int} (hdg : decode cc pc = .ok (.if_icmp .lt off, 3)) (ht : (pc : Int) + off = (tgt : Int)) (ha : iR a) (hb : iR b) (k1 : a < b → W p l e R s m args below meth c H locs cells slots Q (F0 m tgt ls rest)) (k2 : b ≤ a → W p l e R s m args below meth c H locs cells slots Q (F0 m (pc + 3) ls rest)) : W p l e R s m args below meth c H locs cells slots Q (F0 m pc ls (.int (iI b) :: .int (iI a) :: rest)) :=
  lv_icmp_lt (tgt := tgt) X.1 X.2.1 hdg ht (fun h => k1 ((iI_lt ha hb).mp h)) (fun h => k2 (by have := mt (iI_lt ha hb).mpr h; omega))
theorem i_icmp_ge (X : CallFix p m c cc nL s args lw_all own) {a b : Int} (tgt : Nat) {off : Int} (hdg : decode cc pc = .ok (.if_icmp .ge off, 3)) (ht : (pc : Int) + off = (tgt : Int)) (ha : iR a) (hb : iR b) (k1 : b ≤ a → W p l e R s m args below meth c H locs cells slots Q (F0 m tgt ls rest)) (k2 : a < b → W p l e R s m args below meth c H locs cells slots Q (F0 m (pc + 3) ls rest)) : W p l e R s m args below meth c H locs cells slots Q (F0 m pc ls (.int (iI b) :: .int (iI a) :: rest)) :=
  lv_icmp_ge (tgt := tgt) X.1 X.2.1 hdg ht (fun h => k1 ((iI_le hb ha).mp h)) (fun h => k2 (by have := mt (iI_le hb ha).mpr h; omega))
theorem i_icmp_gt (X : CallFix p m c cc nL s args lw_all own) {a b : Int} (tgt : Nat) {off : Int} (hdg : decode cc pc = .ok (.if_icmp .gt off, 3)) (ht : (pc : Int) + off = (tgt : Int)) (ha : iR a) (hb : iR b) (k1 : b < a → W p l e R s m args below meth c H locs cells slots Q (F0 m tgt ls rest)) (k2 : a ≤ b → W p l e R s m args below meth c H locs cells slots Q (F0 m (pc + 3) ls rest)) : W p l e R s m args below meth c H locs cells slots Q (F0 m pc ls (.int (iI b) :: .int (iI a) :: rest)) :=
  lv_icmp_gt (tgt := tgt) X.1 X.2.1 hdg ht (fun h => k1 ((iI_lt hb ha).mp h)) (fun h => k2 (by have := mt (iI_lt hb ha).mpr h; omega))
theorem i_icmp_le (X : CallFix p m c cc nL s args lw_all own) {a b : Int} (tgt : Nat) {off : Int} (hdg : decode cc pc = .ok (.if_icmp .le off, 3)) (ht : (pc : Int) + off = (tgt : Int)) (ha : iR a) (hb : iR b) (k1 : a ≤ b → W p l e R s m args below meth c H locs cells slots Q (F0 m tgt ls rest)) (k2 : b < a → W p l e R s m args below meth c H locs cells slots Q (F0 m (pc + 3) ls rest)) : W p l e R s m args below meth c H locs cells slots Q (F0 m pc ls (.int (iI b) :: .int (iI a) :: rest)) :=
  lv_icmp_le (tgt := tgt) X.1 X.2.1 hdg ht (fun h => k1 ((iI_le ha hb).mp h)) (fun h => k2 (by have := mt (iI_le ha hb).mpr h; omega))
theorem i_if_eq (X : CallFix p m c cc nL s args lw_all own) {a : Int} (tgt : Nat) {off : Int} (hdg : decode cc pc = .ok (.ifCond .eq off, 3)) (ht : (pc : Int) + off = (tgt : Int)) (ha : iR a) (k1 : a = 0 → W p l e R s m args below meth c H locs cells slots Q (F0 m tgt ls rest)) (k2 : a ≠ 0 → W p l e R s m args below meth c H locs cells slots Q (F0 m (pc + 3) ls rest)) : W p l e R s m args below meth c H locs cells slots Q (F0 m pc ls (.int (iI a) :: rest)) :=
  lv_if_eq (tgt := tgt) X.1 X.2.1 hdg ht (fun h => k1 ((iI_eq ha (show iR 0 by omega)).mp h)) (fun h => k2 (fun z => h ((iI_eq ha (show iR 0 by omega)).mpr z)))
theorem i_if_ne (X : CallFix p m c cc nL s args lw_all own) {a : Int} (tgt : Nat) {off : Int} (hdg : decode cc pc = .ok (.ifCond .ne off, 3)) (ht : (pc : Int) + off = (tgt : Int)) (ha : iR a) (k1 : a ≠ 0 → W p l e R s m args below meth c H locs cells slots Q (F0 m tgt ls rest)) (k2 : a = 0 → W p l e R s m args below meth c H locs cells slots Q (F0 m (pc + 3) ls rest)) : W p l e R s m args below meth c H locs cells slots Q (F0 m pc ls (.int (iI a) :: rest)) :=
  lv_if_ne (tgt := tgt) X.1 X.2.1 hdg ht (fun h => k1 (fun z => h ((iI_eq ha (show iR 0 by omega)).mpr z))) (fun h => k2 ((iI_eq ha (show iR 0 by omega)).mp h))
theorem i_if_lt (X : CallFix p m c cc nL s args lw_all own) {a : Int} (tgt : Nat) {off : Int} (hdg : decode cc pc = .ok (.ifCond .lt off, 3)) (ht : (pc : Int) + off = (tgt : Int)) (ha : iR a) (k1 : a < 0 → W p l e R s m args below meth c H locs cells slots Q (F0 m tgt ls rest)) (k2 : 0 ≤ a → W p l e R s m args below meth c H locs cells slots Q (F0 m (pc + 3) ls rest)) : W p l e R s m args below meth c H locs cells slots Q (F0 m pc ls (.int (iI a) :: rest)) :=
  lv_if_lt (tgt := tgt) X.1 X.2.1 hdg ht (fun h => k1 ((iI_lt ha (show iR 0 by omega)).mp h)) (fun h => k2 (by have := mt (iI_lt ha (show iR 0 by omega)).mpr h; omega))
theorem i_if_ge (X : CallFix p m c cc nL s args lw_all own) {a : Int} (tgt : Nat) {off : Int} (hdg : decode cc pc = .ok (.ifCond .ge off, 3)) (ht : (pc : Int) + off = (tgt : Int)) (ha : iR a) (k1 : 0 ≤ a → W p l e R s m args below meth c H locs cells slots Q (F0 m tgt ls rest)) (k2 : a < 0 → W p l e R s m args below meth c H locs cells slots Q (F0 m (pc + 3) ls rest)) : W p l e R s m args below meth c H locs cells slots Q (F0 m pc ls (.int (iI a) :: rest)) :=
  lv_if_ge (tgt := tgt) X.1 X.2.1 hdg ht (fun h => k1 ((iI_le (show iR 0 by omega) ha).mp h)) (fun h => k2 (by have := mt (iI_le (show iR 0 by omega) ha).mpr h; omega))
theorem i_if_gt (X : CallFix p m c cc nL s args lw_all own) {a : Int} (tgt : Nat) {off : Int} (hdg : decode cc pc = .ok (.ifCond .gt off, 3)) (ht : (pc : Int) + off = (tgt : Int)) (ha : iR a) (k1 : 0 < a → W p l e R s m args below meth c H locs cells slots Q (F0 m tgt ls rest)) (k2 : a ≤ 0 → W p l e R s m args below meth c H locs cells slots Q (F0 m (pc + 3) ls rest)) : W p l e R s m args below meth c H locs cells slots Q (F0 m pc ls (.int (iI a) :: rest)) :=
  lv_if_gt (tgt := tgt) X.1 X.2.1 hdg ht (fun h => k1 ((iI_lt (show iR 0 by omega) ha).mp h)) (fun h => k2 (by have := mt (iI_lt (show iR 0 by omega) ha).mpr h; omega))
theorem i_if_le (X : CallFix p m c cc nL s args lw_all own) {a : Int} (tgt : Nat) {off : Int} (hdg : decode cc pc = .ok (.ifCond .le off, 3)) (ht : (pc : Int) + off = (tgt : Int)) (ha : iR a) (k1 : a ≤ 0 → W p l e R s m args below meth c H locs cells slots Q (F0 m tgt ls rest)) (k2 : 0 < a → W p l e R s m args below meth c H locs cells slots Q (F0 m (pc + 3) ls rest)) : W p l e R s m args below meth c H locs cells slots Q (F0 m pc ls (.int (iI a) :: rest)) :=
  lv_if_le (tgt := tgt) X.1 X.2.1 hdg ht (fun h => k1 ((iI_le ha (show iR 0 by omega)).mp h)) (fun h => k2 (by have := mt (iI_le ha (show iR 0 by omega)).mpr h; omega))
theorem lg_cmp_lI {a b : Int} (ha : lR a) (hb : lR b) : lg_cmp (lI a) (lI b) = iI (if b < a then 1 else if a = b then 0 else -1) := by
  unfold lg_cmp
  simp only [lI_lt hb ha, lI_eq ha hb]
  split
  · rfl
  · split <;> rfl
theorem i_lcmp_eq (X : CallFix p m c cc nL s args lw_all own) {a b : Int} (tgt : Nat) {off : Int} (hdg0 : decode cc pc = .ok (.lcmp, 1)) (hdg : decode cc (pc + 1) = .ok (.ifCond .eq off, 3)) (ht : ((pc + 1 : Nat) : Int) + off = (tgt : Int)) (ha : lR a) (hb : lR b) (k1 : a = b → W p l e R s m args below meth c H locs cells slots Q (F0 m tgt ls rest)) (k2 : a ≠ b → W p l e R s m args below meth c H locs cells slots Q (F0 m (pc + 1 + 3) ls rest)) : W p l e R s m args below meth c H locs cells slots Q (F0 m pc ls (.long (lI b) :: .long (lI a) :: rest)) := by
  refine W.lcmp X.1 X.2.1 hdg0 ?_
  rw [lg_cmp_lI ha hb]
  refine i_if_eq X tgt hdg ht (by split <;> (try split) <;> omega) (fun h => k1 ?_) (fun h => k2 ?_) <;> (revert h; split <;> (try split) <;> intros <;> omega)
theorem i_lcmp_ne (X : CallFix p m c cc nL s args lw_all own) {a b : Int} (tgt : Nat) {off : Int} (hdg0 : decode cc pc = .ok (.lcmp, 1)) (hdg : decode cc (pc + 1) = .ok (.ifCond .ne off, 3)) (ht : ((pc + 1 : Nat) : Int) + off = (tgt : Int)) (ha : lR a) (hb : lR b) (k1 : a ≠ b → W p l e R s m args below meth c H locs cells slots Q (F0 m tgt ls rest)) (k2 : a = b → W p l e R s m args below meth c H locs cells slots Q (F0 m (pc + 1 + 3) ls rest)) : W p l e R s m args below meth c H locs cells slots Q (F0 m pc ls (.long (lI b) :: .long (lI a) :: rest)) := by
  refine W.lcmp X.1 X.2.1 hdg0 ?_
  rw [lg_cmp_lI ha hb]
  refine i_if_ne X tgt hdg ht (by split <;> (try split) <;> omega) (fun h => k1 ?_) (fun h => k2 ?_) <;> (revert h; split <;> (try split) <;> intros <;> omega)
theorem i_lcmp_lt (X : CallFix p m c cc nL s args lw_all own) {a b : Int} (tgt : Nat) {off : Int} (hdg0 : decode cc pc = .ok (.lcmp, 1)) (hdg : decode cc (pc + 1) = .ok (.ifCond .lt off, 3)) (ht : ((pc + 1 : Nat) : Int) + off = (tgt : Int)) (ha : lR a) (hb : lR b) (k1 : a < b → W p l e R s m args below meth c H locs cells slots Q (F0 m tgt ls rest)) (k2 : b ≤ a → W p l e R s m args below meth c H locs cells slots Q (F0 m (pc + 1 + 3) ls rest)) : W p l e R s m args below meth c H locs cells slots Q (F0 m pc ls (.long (lI b) :: .long (lI a) :: rest)) := by
  refine W.lcmp X.1 X.2.1 hdg0 ?_
  rw [lg_cmp_lI ha hb]
  refine i_if_lt X tgt hdg ht (by split <;> (try split) <;> omega) (fun h => k1 ?_) (fun h => k2 ?_) <;> (revert h; split <;> (try split) <;> intros <;> omega)
theorem i_lcmp_ge (X : CallFix p m c cc nL s args lw_all own) {a b : Int} (tgt : Nat) {off : Int} (hdg0 : decode cc pc = .ok (.lcmp, 1)) (hdg : decode cc (pc + 1) = .ok (.ifCond .ge off, 3)) (ht : ((pc + 1 : Nat) : Int) + off = (tgt : Int)) (ha : lR a) (hb : lR b) (k1 : b ≤ a → W p l e R s m args below meth c H locs cells slots Q (F0 m tgt ls rest)) (k2 : a < b → W p l e R s m args below meth c H locs cells slots Q (F0 m (pc + 1 + 3) ls rest)) : W p l e R s m args below meth c H locs cells slots Q (F0 m pc ls (.long (lI b) :: .long (lI a) :: rest)) := by
  refine W.lcmp X.1 X.2.1 hdg0 ?_
  rw [lg_cmp_lI ha hb]
  refine i_if_ge X tgt hdg ht (by split <;> (try split) <;> omega) (fun h => k1 ?_) (fun h => k2 ?_) <;> (revert h; split <;> (try split) <;> intros <;> omega)
theorem i_lcmp_gt (X : CallFix p m c cc nL s args lw_all own) {a b : Int} (tgt : Nat) {off : Int} (hdg0 : decode cc pc = .ok (.lcmp, 1)) (hdg : decode cc (pc + 1) = .ok (.ifCond .gt off, 3)) (ht : ((pc + 1 : Nat) : Int) + off = (tgt : Int)) (ha : lR a) (hb : lR b) (k1 : b < a → W p l e R s m args below meth c H locs cells slots Q (F0 m tgt ls rest)) (k2 : a ≤ b → W p l e R s m args below meth c H locs cells slots Q (F0 m (pc + 1 + 3) ls rest)) : W p l e R s m args below meth c H locs cells slots Q (F0 m pc ls (.long (lI b) :: .long (lI a) :: rest)) := by
  refine W.lcmp X.1 X.2.1 hdg0 ?_
  rw [lg_cmp_lI ha hb]
  refine i_if_gt X tgt hdg ht (by split <;> (try split) <;> omega) (fun h => k1 ?_) (fun h => k2 ?_) <;> (revert h; split <;> (try split) <;> intros <;> omega)
theorem i_lcmp_le (X : CallFix p m c cc nL s args lw_all own) {a b : Int} (tgt : Nat) {off : Int} (hdg0 : decode cc pc = .ok (.lcmp, 1)) (hdg : decode cc (pc + 1) = .ok (.ifCond .le off, 3)) (ht : ((pc + 1 : Nat) : Int) + off = (tgt : Int)) (ha : lR a) (hb : lR b) (k1 : a ≤ b → W p l e R s m args below meth c H locs cells slots Q (F0 m tgt ls rest)) (k2 : b < a → W p l e R s m args below meth c H locs cells slots Q (F0 m (pc + 1 + 3) ls rest)) : W p l e R s m args below meth c H locs cells slots Q (F0 m pc ls (.long (lI b) :: .long (lI a) :: rest)) := by
  refine W.lcmp X.1 X.2.1 hdg0 ?_
  rw [lg_cmp_lI ha hb]
  refine i_if_le X tgt hdg ht (by split <;> (try split) <;> omega) (fun h => k1 ?_) (fun h => k2 ?_) <;> (revert h; split <;> (try split) <;> intros <;> omega)
end IROWS
abbrev mR (lv : Nat) : Room := { frames := lv, cells := 0, slots := 0, locals := 40 * lv }
abbrev mPc (D : va_G) (ca : Nat → ClassId) (o : Nat) (S : MSt) (av : List Value) : Array Value → State → Prop := va_Pc av (fun U => gOk D (mA o) (mH ca o S) U.heap ∧ va_K D vwCl (gTys ca) U)
abbrev mB (D : va_G) (ca : Nat → ClassId) (o : Nat) : MSt → State → Prop := fun S' t => gOk D (mA o) (mH ca o S') t.heap
abbrev mQi (D : va_G) (ca : Nat → ClassId) (o : Nat) (post : Int → MSt → Prop) : Array Value → State → Outcome → State → Prop := va_Qi (fun (r : Int32) (S' : MSt) => ∃ z : Int, r = iI z ∧ post z S') (mB D ca o) (mA o)
abbrev mQv (D : va_G) (ca : Nat → ClassId) (o : Nat) (post : MSt → Prop) : Array Value → State → Outcome → State → Prop := va_Qv post (mB D ca o) (mA o)
/-- a contract of a method of the Model that answers an int (or a boolean) -/
def mCi (l : Launch) (y : MethodName) (cc : ByteArray) (nL : Nat) (rt : FieldType) (D : va_G) (ca : Nat → ClassId) (o lv : Nat) (av : List Value) (S : MSt) (post : Int → MSt → Prop) : Prop :=
  Met l y (ws_ y cc nL (some rt)) (mR lv) (mPc D ca o S av) (mQi D ca o post) 0 0 (mA o)
def mCv (l : Launch) (y : MethodName) (cc : ByteArray) (nL : Nat) (D : va_G) (ca : Nat → ClassId) (o lv : Nat) (av : List Value) (S : MSt) (post : MSt → Prop) : Prop :=
  Met l y (ws_ y cc nL none) (mR lv) (mPc D ca o S av) (mQv D ca o post) 0 0 (mA o)
theorem mCi.mono {l : Launch} {y : MethodName} {cc : ByteArray} {nL : Nat} {rt : FieldType} {D : va_G} {ca : Nat → ClassId} {o lv : Nat} {av : List Value} {S : MSt} {post post' : Int → MSt → Prop} (h : mCi l y cc nL rt D ca o lv av S post) (hp : ∀ z S', post z S' → post' z S') : mCi l y cc nL rt D ca o lv av S post' := by
  intro p e ha hc hk s m args below hf hpre hP hT
  obtain ⟨k, o', h1, h2, h3, ⟨⟨r, u, g1, ⟨z, g2, g3⟩, g4⟩, g5⟩, h5⟩ := h p e ha hc hk s m args below hf hpre hP hT
  exact ⟨k, o', h1, h2, h3, ⟨⟨r, u, g1, ⟨z, g2, hp _ _ g3⟩, g4⟩, g5⟩, h5⟩
theorem mCv.mono {l : Launch} {y : MethodName} {cc : ByteArray} {nL : Nat} {D : va_G} {ca : Nat → ClassId} {o lv : Nat} {av : List Value} {S : MSt} {post post' : MSt → Prop} (h : mCv l y cc nL D ca o lv av S post) (hp : ∀ S', post S' → post' S') : mCv l y cc nL D ca o lv av S post' := by
  intro p e ha hc hk s m args below hf hpre hP hT
  obtain ⟨k, o', h1, h2, h3, ⟨⟨u, g1, g3, g4⟩, g5⟩, h5⟩ := h p e ha hc hk s m args below hf hpre hP hT
  exact ⟨k, o', h1, h2, h3, ⟨⟨u, g1, hp _ g3, g4⟩, g5⟩, h5⟩
theorem mCi_of {l : Launch} {y : MethodName} {cc : ByteArray} {nL : Nat} {rt : FieldType} {D : va_G} {ca : Nat → ClassId} {o lv : Nat} {av : List Value} {S : MSt} {post : Int → MSt → Prop} (hy : plainName y.cls = true) (hyc : y.cls = RX1) (hav : (lg_sl av).length ≤ nL)
    (body : ∀ (p : Program) (e : Env) (s : State) (m : MethodId) (args : Array Value) (below : List Frame) (meth : Method) (c : Code) (Q : State → Prop), CallFix p m c cc nL s args lw_all RX1 → va_K D vwCl (gTys ca) s →
      (∀ (z : Int) (S' : MSt) (H : Heap) (locs : List Loc) (pc : Nat) (ls : Array Slot), post z S' → narrow rt (.int (iI z)) = .int (iI z) → gOk D (mA o) (mH ca o S') H → va_S (mA o) s.heap H locs → decode cc pc = .ok (.ireturn, 1) → W p l e (mR lv) s m args below meth c H locs 0 0 Q (F0 m pc ls [.int (iI z)])) →
      ∀ (H : Heap) (locs : List Loc) (ls : Array Slot), gOk D (mA o) (mH ca o S) H → va_S (mA o) s.heap H locs → lv_has ls nL (lv_args 0 av) → W p l e (mR lv) s m args below meth c H locs 0 0 Q (F0 m 0 ls [])) : mCi l y cc nL rt D ca o lv av S post := by
  refine Met.ofW (cc := cc) (maxL := nL) (ret := some rt) hy rfl ?_
  intro p e s m args below meth c s₁ B hml hv
  obtain ⟨rfl, hG, hK⟩ := hv
  have hts := atoms_spec (ws := ws_ y cc nL (some rt)) B.pre
  have hts : ∀ w ∈ lw_all, w.before _ s = true := fun w h => hts w (List.mem_cons_of_mem _ h)
  have hown : s.vm.findClass RX1 = some m.cls := by rw [← hyc]; exact findClass_of_methodNamed B.named
  have hlocks := B.notSynchronized
  have hl := lv_entry av (n := nL) hav
  rw [lg_entry_eq]
  generalize (lg_sl av ++ List.replicate (nL - (lg_sl av).length) Slot.unset).toArray = ls at hl ⊢
  refine body p e s m _ below meth c _ ⟨B.exec, B.bytes, hml, hown, hts⟩ hK ?_ s.heap [] ls hG va_S.rf hl
  intro z S' H locs pc ls hp hn hg hs hd
  exact W.zret B.exec B.bytes B.returns hn (fun t ht hW => ⟨⟨iI z, S', rfl, ⟨z, rfl, hp⟩, by show gOk _ _ _ t.heap; rw [ht]; exact hg⟩, hs.F ht⟩) hs.2.2 hd
theorem mCv_of {l : Launch} {y : MethodName} {cc : ByteArray} {nL : Nat} {D : va_G} {ca : Nat → ClassId} {o lv : Nat} {av : List Value} {S : MSt} {post : MSt → Prop} (hy : plainName y.cls = true) (hyc : y.cls = RX1) (hav : (lg_sl av).length ≤ nL)
    (body : ∀ (p : Program) (e : Env) (s : State) (m : MethodId) (args : Array Value) (below : List Frame) (meth : Method) (c : Code) (Q : State → Prop), CallFix p m c cc nL s args lw_all RX1 → va_K D vwCl (gTys ca) s →
      (∀ (S' : MSt) (H : Heap) (locs : List Loc) (pc : Nat) (ls : Array Slot), post S' → gOk D (mA o) (mH ca o S') H → va_S (mA o) s.heap H locs → decode cc pc = .ok (.return_, 1) → W p l e (mR lv) s m args below meth c H locs 0 0 Q (F0 m pc ls [])) →
      ∀ (H : Heap) (locs : List Loc) (ls : Array Slot), gOk D (mA o) (mH ca o S) H → va_S (mA o) s.heap H locs → lv_has ls nL (lv_args 0 av) → W p l e (mR lv) s m args below meth c H locs 0 0 Q (F0 m 0 ls [])) : mCv l y cc nL D ca o lv av S post := by
  refine Met.ofW (cc := cc) (maxL := nL) (ret := none) hy rfl ?_
  intro p e s m args below meth c s₁ B hml hv
  obtain ⟨rfl, hG, hK⟩ := hv
  have hts := atoms_spec (ws := ws_ y cc nL none) B.pre
  have hts : ∀ w ∈ lw_all, w.before _ s = true := fun w h => hts w (List.mem_cons_of_mem _ h)
  have hown : s.vm.findClass RX1 = some m.cls := by rw [← hyc]; exact findClass_of_methodNamed B.named
  have hlocks := B.notSynchronized
  have hl := lv_entry av (n := nL) hav
  rw [lg_entry_eq]
  generalize (lg_sl av ++ List.replicate (nL - (lg_sl av).length) Slot.unset).toArray = ls at hl ⊢
  refine body p e s m _ below meth c _ ⟨B.exec, B.bytes, hml, hown, hts⟩ hK ?_ s.heap [] ls hG va_S.rf hl
  intro S' H locs pc ls hp hg hs hd
  exact W.vret B.exec B.bytes B.returns (fun t ht hW => ⟨⟨S', rfl, hp, by show gOk _ _ _ t.heap; rw [ht]; exact hg⟩, hs.F ht⟩) hs.2.2 hd
section MCALLS
variable {p : Program} {l : Launch} {e : Env} {R : Room} {s : State} {m : MethodId} {args : Array Value} {below : List Frame} {meth : Method} {c : Code} {H : Heap} {locs : List Loc} {cells slots : Nat} {Q : State → Prop}
variable {cc cc' : ByteArray} {pc nL nL' lv index n : Nat} {ls : Array Slot} {rest st0 As : List Value} {D : va_G} {ca : Nat → ClassId} {o : Nat} {S : MSt} {A0 : Nat → Prop} {own : String} {y : MethodName} {rt : FieldType}
theorem m_pre (hK : va_K D vwCl (gTys ca) s) (hG : gOk D (mA o) (mH ca o S) H) : PreV s H RX1 o (mPc D ca o S (.ref o :: As)) As :=
  ⟨fun a U g mk q => ⟨q.1, q.2.1, va_K.moved (u := U) (U := U.calling g mk a) (Vm.Alike.refl U.vm) q.2.2⟩, va_recv hK (hG.at mH_o) (ci := 1) (q0 := 0) rfl rfl, fun U hU hW => ⟨rfl, by rw [hU]; exact hG, va_K.moved hW.alike hK⟩⟩
theorem m_preS (hK : va_K D vwCl (gTys ca) s) (hG : gOk D (mA o) (mH ca o S) H) : PreS s H (mPc D ca o S As) As :=
  ⟨fun a U g mk q => ⟨q.1, q.2.1, va_K.moved (u := U) (U := U.calling g mk a) (Vm.Alike.refl U.vm) q.2.2⟩, fun U hU hW => ⟨rfl, by rw [hU]; exact hG, va_K.moved hW.alike hK⟩⟩
theorem m_callVi {post : Int → MSt → Prop} (X : CallFix p m c cc nL s args lw_all own) (hK : va_K D vwCl (gTys ca) s) (hG : gOk D (mA o) (mH ca o S) H) (hS : va_S A0 s.heap H locs) (hA0 : ∀ q, mA o q → A0 q) (hM : mCi l y cc' nL' rt D ca o lv (.ref o :: As) S post) (hw : GoodIn lw_all (wsV own index RX1 y (ws_ y cc' nL' (some rt)))) (hd : y.cls = RX1 ∧ y.cls ≠ "java/lang/invoke/MethodHandle" ∧ y.cls ≠ "java/lang/invoke/VarHandle" ∧ (parseMethodDescriptor y.desc).map (fun d => d.parameters.length) = some n) (hn : As.length = n) (hlv : lv + 1 ≤ R.frames ∧ 8 + (nL' + 11) + 40 * lv ≤ R.locals) (hcs : cells ≤ R.cells ∧ slots ≤ R.slots) (hls : ls.size = nL) (hst : st0 = As.reverse ++ .ref o :: rest) (hroom : (rest.map fun v => v.category).sum ≤ 8) (hdg : decode cc pc = .ok (.invokevirtual index, 3))
    (kk : ∀ (z : Int) (S' : MSt) (H1 : Heap) (locs1 : List Loc), post z S' → gOk D (mA o) (mH ca o S') H1 → va_S A0 s.heap H1 locs1 → H.size ≤ H1.size → (∀ q : Nat, q < H.size → ¬ mA o q → H1[q]? = H[q]?) → W p l e R s m args below meth c H1 locs1 cells slots Q (F0 m (pc + 3) ls (.int (iI z) :: rest))) : W p l e R s m args below meth c H locs cells slots Q (F0 m pc ls st0) := by
  subst hst
  refine va_calli (va_runV (As := As) (rest := rest) X hM (cwV n X.2.2.2.2 hw rfl rfl rfl hd hlv) (m_pre hK hG) rfl hn hls rfl (lv_room hroom) hdg hcs) hS (fun q _ h => hA0 q h) (fun q h => hA0 q h) (fun r u t H1 locs1 ht hvm hw1 hB hz1 hk1 hS1 => ?_)
  obtain ⟨z, rfl, hp⟩ := hw1
  refine kk z u H1 locs1 hp ?_ hS1 hz1 hk1
  rw [← ht]; exact hB
theorem m_callVv {post : MSt → Prop} (X : CallFix p m c cc nL s args lw_all own) (hK : va_K D vwCl (gTys ca) s) (hG : gOk D (mA o) (mH ca o S) H) (hS : va_S A0 s.heap H locs) (hA0 : ∀ q, mA o q → A0 q) (hM : mCv l y cc' nL' D ca o lv (.ref o :: As) S post) (hw : GoodIn lw_all (wsV own index RX1 y (ws_ y cc' nL' none))) (hd : y.cls = RX1 ∧ y.cls ≠ "java/lang/invoke/MethodHandle" ∧ y.cls ≠ "java/lang/invoke/VarHandle" ∧ (parseMethodDescriptor y.desc).map (fun d => d.parameters.length) = some n) (hn : As.length = n) (hlv : lv + 1 ≤ R.frames ∧ 8 + (nL' + 11) + 40 * lv ≤ R.locals) (hcs : cells ≤ R.cells ∧ slots ≤ R.slots) (hls : ls.size = nL) (hst : st0 = As.reverse ++ .ref o :: rest) (hroom : (rest.map fun v => v.category).sum ≤ 8) (hdg : decode cc pc = .ok (.invokevirtual index, 3))
    (kk : ∀ (S' : MSt) (H1 : Heap) (locs1 : List Loc), post S' → gOk D (mA o) (mH ca o S') H1 → va_S A0 s.heap H1 locs1 → H.size ≤ H1.size → (∀ q : Nat, q < H.size → ¬ mA o q → H1[q]? = H[q]?) → W p l e R s m args below meth c H1 locs1 cells slots Q (F0 m (pc + 3) ls rest)) : W p l e R s m args below meth c H locs cells slots Q (F0 m pc ls st0) := by
  subst hst
  refine va_callv (va_runV (As := As) (rest := rest) X hM (cwV n X.2.2.2.2 hw rfl rfl rfl hd hlv) (m_pre hK hG) rfl hn hls rfl (lv_room hroom) hdg hcs) hS (fun q _ h => hA0 q h) (fun q h => hA0 q h) (fun u t H1 locs1 ht hvm hw1 hB hz1 hk1 hS1 => ?_)
  refine kk u H1 locs1 hw1 ?_ hS1 hz1 hk1
  rw [← ht]; exact hB
theorem m_callSi {post : Int → MSt → Prop} (X : CallFix p m c cc nL s args lw_all own) (hK : va_K D vwCl (gTys ca) s) (hG : gOk D (mA o) (mH ca o S) H) (hS : va_S A0 s.heap H locs) (hA0 : ∀ q, mA o q → A0 q) (hM : mCi l y cc' nL' rt D ca o lv As S post) (hw : GoodIn lw_all (va_wsS own index y (ws_ y cc' nL' (some rt)))) (hd : y.cls ≠ "java/lang/invoke/MethodHandle" ∧ y.cls ≠ "java/lang/invoke/VarHandle" ∧ (parseMethodDescriptor y.desc).map (fun d => d.parameters.length) = some n) (hn : As.length = n) (hlv : lv + 1 ≤ R.frames ∧ 8 + (nL' + 11) + 40 * lv ≤ R.locals) (hcs : cells ≤ R.cells ∧ slots ≤ R.slots) (hls : ls.size = nL) (hst : st0 = As.reverse ++ rest) (hroom : (rest.map fun v => v.category).sum ≤ 8) (hdg : decode cc pc = .ok (.invokestatic index, 3))
    (kk : ∀ (z : Int) (S' : MSt) (H1 : Heap) (locs1 : List Loc), post z S' → gOk D (mA o) (mH ca o S') H1 → va_S A0 s.heap H1 locs1 → H.size ≤ H1.size → (∀ q : Nat, q < H.size → ¬ mA o q → H1[q]? = H[q]?) → W p l e R s m args below meth c H1 locs1 cells slots Q (F0 m (pc + 3) ls (.int (iI z) :: rest))) : W p l e R s m args below meth c H locs cells slots Q (F0 m pc ls st0) := by
  subst hst
  refine va_calli (va_runS (As := As) (rest := rest) X hM (va_cwS n X.2.2.2.2 hw rfl rfl rfl hd hlv) (m_preS hK hG) rfl hn hls rfl (lv_room hroom) hdg hcs) hS (fun q _ h => hA0 q h) (fun q h => hA0 q h) (fun r u t H1 locs1 ht hvm hw1 hB hz1 hk1 hS1 => ?_)
  obtain ⟨z, rfl, hp⟩ := hw1
  refine kk z u H1 locs1 hp ?_ hS1 hz1 hk1
  rw [← ht]; exact hB
end MCALLS
theorem nI_iI (n : Nat) : nI n = iI n := by
  show Int32.ofNat n = Int32.ofInt n
  rw [Int32.ofInt_eq_ofNat]
theorem iI_bvNat (a : Int) : (iI a).toBitVec.toNat = (a % 4294967296).toNat := by
  show (BitVec.ofInt 32 a).toNat = _
  rw [BitVec.toNat_ofInt]
  rfl
theorem iI_mask {a : Int} (k : Nat) (hk : k ≤ 32) {mm : Int} (hm : (iI mm).toBitVec.toNat = 2 ^ k - 1) : iI a &&& iI mm = iI (a % ((2 ^ k : Nat) : Int)) := by
  rw [pk_and (iI a) k hm, nI_iI, iI_bvNat]
  congr 1
  have h2 : ((2 ^ k : Nat) : Int) ∣ 4294967296 := by
    have : (2 : Nat) ^ k ∣ 2 ^ 32 := Nat.pow_dvd_pow 2 hk
    exact Int.natCast_dvd_natCast.mpr this
  have h3 : 0 ≤ a % 4294967296 := Int.emod_nonneg _ (by decide)
  rw [Int.natCast_emod, Int.toNat_of_nonneg h3, Int.emod_emod_of_dvd _ h2]
section IROWS2
variable {p : Program} {l : Launch} {e : Env} {R : Room} {s : State} {m : MethodId} {args : Array Value} {below : List Frame} {meth : Method} {c : Code} {H : Heap} {locs : List Loc} {cells slots : Nat} {Q : State → Prop}
variable {cc : ByteArray} {pc : Nat} {ls : Array Slot} {rest : List Value} {own : String} {nL : Nat}
theorem i_and255 (X : CallFix p m c cc nL s args lw_all own) {a : Int} (hdg : decode cc pc = .ok (.iand, 1)) (kk : W p l e R s m args below meth c H locs cells slots Q (F0 m (pc + 1) ls (.int (iI (a % 256)) :: rest))) : W p l e R s m args below meth c H locs cells slots Q (F0 m pc ls (.int (iI 255) :: .int (iI a) :: rest)) :=
  lv_iand X.1 X.2.1 hdg (by rw [iI_mask 8 (by decide) (by decide)]; exact kk)
theorem i_and31 (X : CallFix p m c cc nL s args lw_all own) {a : Int} (hdg : decode cc pc = .ok (.iand, 1)) (kk : W p l e R s m args below meth c H locs cells slots Q (F0 m (pc + 1) ls (.int (iI (a % 32)) :: rest))) : W p l e R s m args below meth c H locs cells slots Q (F0 m pc ls (.int (iI 31) :: .int (iI a) :: rest)) :=
  lv_iand X.1 X.2.1 hdg (by rw [iI_mask 5 (by decide) (by decide)]; exact kk)
end IROWS2
section MCALLS2
variable {p : Program} {l : Launch} {e : Env} {R : Room} {s : State} {m : MethodId} {args : Array Value} {below : List Frame} {meth : Method} {c : Code} {H : Heap} {locs : List Loc} {cells slots : Nat} {Q : State → Prop}
variable {cc cc' : ByteArray} {pc nL nL' lv index n : Nat} {ls : Array Slot} {rest st0 As : List Value} {D : va_G} {ca : Nat → ClassId} {o : Nat} {S : MSt} {A0 : Nat → Prop} {own : String} {y : MethodName} {rt : FieldType}
theorem m_callVp {v : Int} (X : CallFix p m c cc nL s args lw_all own) (hK : va_K D vwCl (gTys ca) s) (hG : gOk D (mA o) (mH ca o S) H) (hS : va_S A0 s.heap H locs) (hA0 : ∀ q, mA o q → A0 q) (hM : mCi l y cc' nL' rt D ca o lv (.ref o :: As) S (fun r S' => r = v ∧ S' = S)) (hw : GoodIn lw_all (wsV own index RX1 y (ws_ y cc' nL' (some rt)))) (hd : y.cls = RX1 ∧ y.cls ≠ "java/lang/invoke/MethodHandle" ∧ y.cls ≠ "java/lang/invoke/VarHandle" ∧ (parseMethodDescriptor y.desc).map (fun d => d.parameters.length) = some n) (hn : As.length = n) (hlv : lv + 1 ≤ R.frames ∧ 8 + (nL' + 11) + 40 * lv ≤ R.locals) (hcs : cells ≤ R.cells ∧ slots ≤ R.slots) (hls : ls.size = nL) (hst : st0 = As.reverse ++ .ref o :: rest) (hroom : (rest.map fun v => v.category).sum ≤ 8) (hdg : decode cc pc = .ok (.invokevirtual index, 3))
    (kk : ∀ (H1 : Heap) (locs1 : List Loc), gOk D (mA o) (mH ca o S) H1 → va_S A0 s.heap H1 locs1 → H.size ≤ H1.size → (∀ q : Nat, q < H.size → ¬ mA o q → H1[q]? = H[q]?) → W p l e R s m args below meth c H1 locs1 cells slots Q (F0 m (pc + 3) ls (.int (iI v) :: rest))) : W p l e R s m args below meth c H locs cells slots Q (F0 m pc ls st0) := by
  refine m_callVi (rest := rest) X hK hG hS hA0 hM hw hd hn hlv hcs hls hst hroom hdg (fun z S' H1 locs1 hp hG1 hS1 h1 h2 => ?_)
  rw [hp.1]
  rw [hp.2] at hG1
  exact kk H1 locs1 hG1 hS1 h1 h2
theorem m_callSp {v : Int} (X : CallFix p m c cc nL s args lw_all own) (hK : va_K D vwCl (gTys ca) s) (hG : gOk D (mA o) (mH ca o S) H) (hS : va_S A0 s.heap H locs) (hA0 : ∀ q, mA o q → A0 q) (hM : mCi l y cc' nL' rt D ca o lv As S (fun r S' => r = v ∧ S' = S)) (hw : GoodIn lw_all (va_wsS own index y (ws_ y cc' nL' (some rt)))) (hd : y.cls ≠ "java/lang/invoke/MethodHandle" ∧ y.cls ≠ "java/lang/invoke/VarHandle" ∧ (parseMethodDescriptor y.desc).map (fun d => d.parameters.length) = some n) (hn : As.length = n) (hlv : lv + 1 ≤ R.frames ∧ 8 + (nL' + 11) + 40 * lv ≤ R.locals) (hcs : cells ≤ R.cells ∧ slots ≤ R.slots) (hls : ls.size = nL) (hst : st0 = As.reverse ++ rest) (hroom : (rest.map fun v => v.category).sum ≤ 8) (hdg : decode cc pc = .ok (.invokestatic index, 3))
    (kk : ∀ (H1 : Heap) (locs1 : List Loc), gOk D (mA o) (mH ca o S) H1 → va_S A0 s.heap H1 locs1 → H.size ≤ H1.size → (∀ q : Nat, q < H.size → ¬ mA o q → H1[q]? = H[q]?) → W p l e R s m args below meth c H1 locs1 cells slots Q (F0 m (pc + 3) ls (.int (iI v) :: rest))) : W p l e R s m args below meth c H locs cells slots Q (F0 m pc ls st0) := by
  refine m_callSi (rest := rest) X hK hG hS hA0 hM hw hd hn hlv hcs hls hst hroom hdg (fun z S' H1 locs1 hp hG1 hS1 h1 h2 => ?_)
  rw [hp.1]
  rw [hp.2] at hG1
  exact kk H1 locs1 hG1 hS1 h1 h2
end MCALLS2
section IROWS3
variable {p : Program} {l : Launch} {e : Env} {R : Room} {s : State} {m : MethodId} {args : Array Value} {below : List Frame} {meth : Method} {c : Code} {H : Heap} {locs : List Loc} {cells slots : Nat} {Q : State → Prop}
variable {cc : ByteArray} {pc : Nat} {ls : Array Slot} {rest : List Value} {own : String} {nL : Nat}
theorem i_lookup (X : CallFix p m c cc nL s args lw_all own) {a : Int} (ha : iR a) {dflt : Int} {ps : Array (Int × Int)} {len : Nat} {off : Int} {tgt : Nat} (hdg : decode cc pc = .ok (.lookupswitch dflt ps, len)) (hp : (ps.toList.zip (ps.toList.drop 1)).all (fun (a, next) => a.1 < next.1) = true) (ho : Op.lookupswitch.offset ps.toList dflt a = off) (ht : (pc : Int) + off = (tgt : Int))
    (kk : W p l e R s m args below meth c H locs cells slots Q (F0 m tgt ls rest)) : W p l e R s m args below meth c H locs cells slots Q (F0 m pc ls (.int (iI a) :: rest)) :=
  lv_lookup X.1 X.2.1 hdg hp (by rw [iI_toInt ha]; exact ho) ht kk
theorem i_tableOut (X : CallFix p m c cc nL s args lw_all own) {a : Int} (ha : iR a) {dflt lo hi : Int} {offs : Array Int} {len : Nat} {tgt : Nat} (hdg : decode cc pc = .ok (.tableswitch dflt lo hi offs, len)) (h : a < lo ∨ hi < a) (ht : (pc : Int) + dflt = (tgt : Int))
    (kk : W p l e R s m args below meth c H locs cells slots Q (F0 m tgt ls rest)) : W p l e R s m args below meth c H locs cells slots Q (F0 m pc ls (.int (iI a) :: rest)) :=
  lv_tableOut X.1 X.2.1 hdg (by rw [iI_toInt ha]; exact h) ht kk
theorem i_tableIn (X : CallFix p m c cc nL s args lw_all own) {a : Int} (ha : iR a) {dflt lo hi : Int} {offs : Array Int} {len : Nat} {off : Int} {tgt : Nat} (hdg : decode cc pc = .ok (.tableswitch dflt lo hi offs, len)) (h1 : ¬ a < lo) (h2 : ¬ hi < a) (ho : offs[(a - lo).toNat]? = some off) (ht : (pc : Int) + off = (tgt : Int))
    (kk : W p l e R s m args below meth c H locs cells slots Q (F0 m tgt ls rest)) : W p l e R s m args below meth c H locs cells slots Q (F0 m pc ls (.int (iI a) :: rest)) :=
  lv_tableIn X.1 X.2.1 hdg (by rw [iI_toInt ha]; exact h1) (by rw [iI_toInt ha]; exact h2) (by rw [iI_toInt ha]; exact ho) ht kk
end IROWS3
