/-! ===== a template is built: lists ===== -/
set_option maxRecDepth 100000
theorem spJ_in (n a f c : Int) : 2 ≤ spJ n a f c ∧ spJ n a f c ≤ 5 := by
  unfold spJ
  split
  · omega
  · split
    · omega
    · split <;> omega
/-- roots and rows of what a template makes -/
theorem bNo_rt {S : MSt} {r i t : Int} : 0 ≤ (bNo S r i t).2 := by
  unfold bNo bN
  split
  · show (0 : Int) ≤ 1; omega
  · split
    · exact (sdN_in _ _ _ _).1
    · split <;> (show (0 : Int) ≤ 1; omega)
theorem bdS_rt {S : MSt} {r i : Int} : ∀ (f : Nat) (t te : Int), 0 ≤ (bdS S r i f t te).2 := by
  intro f
  induction f with
  | zero => intro t te; show (0 : Int) ≤ 0; omega
  | succ f ih =>
    intro t te
    unfold bdS
    split
    · show (0 : Int) ≤ 0; omega
    · split
      · have := ih (t + S.2 37 t) te
        show 0 ≤ 1 + _
        omega
      · have h1 := ih (t + 1) te
        have h2 : 0 ≤ (bN S r i t).2 := by
          unfold bN
          split
          · show (0 : Int) ≤ 1; omega
          · split
            · exact (sdN_in _ _ _ _).1
            · split <;> (show (0 : Int) ≤ 1; omega)
        show 0 ≤ (bN S r i t).2 + _
        omega
/-- a new list that holds nothing yet -/
theorem CST_new {G : gEnv} {h h' : gH} {R : FF} {ins : Int → Int} {P : Int} {n : Nat} {fL : List Value} (hs : gSub h h') (hL : h' n = some ((1, 0), .inr (10, fL))) (hA : AL G h' (n + 1) [] 0) : CST G h h' R ins (fun _ => n) P 0 n (n + 1 + 1) fL :=
  ⟨⟨hs, by omega, fun q a b => by have b : q < P + 1 := b; omega, fun x y a b d e _ => by have b : x < P + 1 := b; have e : y < P + 1 := e; omega, fun q a b => ⟨Nat.le_refl _, by show n < n + 1 + 1; omega⟩⟩, rfl, by omega, hL, hA⟩
/-- a list that holds all its parts, and has its kind, is made -/
theorem CST_done {G : gEnv} {h g1 h3 : gH} {R : FF} {ins : Int → Int} {ad1 : Int → Nat} {nn c : Int} {n n1 : Nat} {fL : List Value} {pl mk : Int} (hT : TW nn (R 0) (R 5) (R 6)) (h0 : 0 ≤ c) (hn : c < nn) (hw : 2 ≤ R 0 c) (hC : CST G h g1 R ins ad1 c (R 6 c).toNat n n1 fL) (hlt : ∀ (a : Nat) (x : gE), h a = some x → a < n) (e3 : R 3 c = pl) (e4 : R 4 c = mk) (he : h3 = va_up g1 n (some ((1, 0), .inr (10, [.int (iI pl), .int (iI mk), .null, .int (iI 0), .ref (n + 1), .int (iI (R 0 c))])))) : CPD G h h3 R ins ad1 c n n1 := by
  obtain ⟨⟨a1, a2, a3, a4, a5⟩, hc0, hnn, hL1, hA1⟩ := hC
  have hr := hT.r h0 hn
  rw [(hT.lst h0 hn hw).1] at a3 a4 a5
  have hf : gFrm (fun a => a = n) g1 h3 := by rw [he]; exact (gFrm.refl (fun a => a = n) g1).upO hL1 rfl _
  have hgen : ∀ M xs q, AL G g1 M xs q → AL G h3 M xs q := by
    intro M xs q hA
    obtain ⟨tM, fM, eM, nM⟩ := hA.cell
    refine hA.frm hf ?_ ?_
    · intro z; rw [z, hL1] at eM; cases eM
    · intro a e ha z; rw [z, hL1] at ha; cases ha
  refine ⟨⟨fun a x hx => ?_, a2, fun q q1 q2 => ?_, a4, a5⟩, ?_, fun w => ?_⟩
  · have := hlt a x hx
    obtain ⟨t, e⟩ := x
    exact hf.1 a t e (a1 _ _ hx) (by omega)
  · have hI := a3 q q1 q2
    refine ⟨hf.1 _ _ _ hI.1 ?_, fun w => hgen _ _ _ (hI.2 w)⟩
    intro z
    rw [← hc0] at z
    have := a4 q c (by omega) q2 (Int.le_refl _) (by omega) z
    omega
  · rw [hc0, itE2 hw, e3, e4, he, up_s]
  · rw [hc0]
    exact hgen _ _ _ hA1
theorem bNo_le {S : MSt} {r i t : Int} : (bNo S r i t).2 ≤ ((bNo S r i t).1.length : Int) := by
  unfold bNo bN
  split
  · show (1 : Int) ≤ ((List.length _ + 1 : Nat) : Int); omega
  · split
    · show sdN _ _ _ _ ≤ ((cpR S _ _).length : Int)
      rw [cpR_len]
      exact (sdN_in _ _ _ _).2
    · split <;> (show (1 : Int) ≤ 1; omega)
/-- a list's kind, by its parts' rows -/
theorem list_kind {S : MSt} {R : FF} {nn c t : Int} {cs : List (Nat → Int)} (hT : TW nn (R 0) (R 5) (R 6)) (h0 : 0 ≤ c) (hn : c < nn) (hw : 2 ≤ R 0 c) (hr : RWS R c (bHd S t cs (R 6 c) :: cs)) (h5 : R 5 c = 1 + cs.length) :
    R 0 c = spJ (R 6 c) (bI (decide (0 < R 6 c) && decide (R 0 (c + 1) = 1))) (if 0 < R 6 c ∧ R 0 (c + 1) = 1 then R 1 (c + 1) else 0) (bI (decide (1 < R 6 c) && decide (R 0 (chh (R 5) c 1) = 1))) := by
  have e0 : R 0 c = (bHd S t cs (R 6 c)) 0 := by
    have := hr 0 (by simp) 0 (by omega)
    rw [show c + ((0 : Nat) : Int) = c by omega] at this
    exact this
  have hg : ∀ (z : Nat), z < cs.length → ∀ q, q ≤ 6 → cs.getD z noR q = R q (c + 1 + z) := by
    intro z hz q hq
    have := hr (z + 1) (by simp; omega) q hq
    rw [show c + ((z + 1 : Nat) : Int) = c + 1 + z by push_cast; omega] at this
    rw [this]
    rfl
  rw [e0]
  show spJ (R 6 c) (bI (decide (0 < R 6 c) && decide (cs.getD 0 noR 0 = 1))) (if 0 < R 6 c ∧ cs.getD 0 noR 0 = 1 then cs.getD 0 noR 1 else 0) (bI (decide (1 < R 6 c) && decide (cs.getD (cs.getD 0 noR 5).toNat noR 0 = 1))) = _
  by_cases h1 : 0 < R 6 c
  · have k0 := hT.kid h0 hn hw (j := 0) (by omega)
    have ec0 : chh (R 5) c 0 = c + 1 := rfl
    have ec1 : chh (R 5) c 1 = c + 1 + R 5 (c + 1) := rfl
    have g0 := hg 0 (by omega) 0 (by omega)
    have g1 := hg 0 (by omega) 1 (by omega)
    have g5 := hg 0 (by omega) 5 (by omega)
    rw [show c + 1 + ((0 : Nat) : Int) = c + 1 by omega] at g0 g1 g5
    rw [g0, g1, g5]
    by_cases h2 : 1 < R 6 c
    · have k1 := hT.kid h0 hn hw (j := 1) (by omega)
      have gz := hg (R 5 (c + 1)).toNat (by omega) 0 (by omega)
      rw [gz, show c + 1 + (((R 5 (c + 1)).toNat : Nat) : Int) = chh (R 5) c 1 by omega]
    · rw [decide_eq_false h2, Bool.false_and, Bool.false_and]
  · rw [decide_eq_false h1, decide_eq_false (show ¬ 1 < R 6 c by omega), Bool.false_and, Bool.false_and, Bool.false_and, Bool.false_and, if_neg (fun z => h1 z.1), if_neg (fun z => h1 z.1)]
