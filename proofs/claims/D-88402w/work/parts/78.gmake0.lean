/-! ===== what a template makes: by its nodes ===== -/
set_option maxRecDepth 100000
section MK
variable {S : MSt} {r i b E : Int}
theorem bdS_fuel (hQ : ∀ p, b ≤ p → p < E → QN S E p) : ∀ (N : Nat) (t te : Int) (f g : Nat), b ≤ t → te ≤ E → E - t < N → E - t < f → E - t < g → bdS S r i f t te = bdS S r i g t te := by
  intro N
  induction N with
  | zero =>
    intro t te f g hb hte hN hf hg
    have ht : te ≤ t := by omega
    cases f with
    | zero =>
      cases g with
      | zero => rfl
      | succ g => unfold bdS; rw [if_pos ht]
    | succ f =>
      cases g with
      | zero => unfold bdS; rw [if_pos ht]
      | succ g => unfold bdS; rw [if_pos ht, if_pos ht]
  | succ N ih =>
    intro t te f g hb hte hN hf hg
    by_cases ht : te ≤ t
    · cases f with
      | zero =>
        cases g with
        | zero => rfl
        | succ g => unfold bdS; rw [if_pos ht]
      | succ f =>
        cases g with
        | zero => unfold bdS; rw [if_pos ht]
        | succ g => unfold bdS; rw [if_pos ht, if_pos ht]
    · have hq := hQ t hb (by omega)
      have hs := hq.2.1
      cases f with
      | zero => omega
      | succ f =>
        cases g with
        | zero => omega
        | succ g =>
          unfold bdS
          rw [if_neg ht, if_neg ht]
          by_cases h2 : S.2 34 t = 2
          · rw [if_pos h2, if_pos h2, ih (t + 1) (t + S.2 37 t) f g (by omega) (by omega) (by omega) (by omega) (by omega), ih (t + S.2 37 t) te f g (by omega) hte (by omega) (by omega) (by omega)]
          · rw [if_neg h2, if_neg h2, ih (t + 1) te f g (by omega) hte (by omega) (by omega) (by omega)]
/-- what one node makes: rows, how many side by side -/
def bNo (S : MSt) (r i t : Int) : List (Nat → Int) × Int :=
  if S.2 34 t = 2 then (bHd S t (bdS S r i 601 (t + 1) (t + S.2 37 t)).1 (bdS S r i 601 (t + 1) (t + S.2 37 t)).2 :: (bdS S r i 601 (t + 1) (t + S.2 37 t)).1, 1) else bN S r i t
theorem bdS_node (hQ : ∀ p, b ≤ p → p < E → QN S E p) (hE : E - b ≤ 600) {t te : Int} (hb : b ≤ t) (ht : t < te) (hte : te ≤ E) : bdS S r i 601 t te = ((bNo S r i t).1 ++ (bdS S r i 601 (t + S.2 37 t) te).1, (bNo S r i t).2 + (bdS S r i 601 (t + S.2 37 t) te).2) := by
  have hq := hQ t hb (by omega)
  have hs := hq.2.1
  rw [show bdS S r i 601 t te = bdS S r i (600 + 1) t te from rfl]
  conv => lhs; unfold bdS
  rw [if_neg (by omega)]
  unfold bNo
  by_cases h2 : S.2 34 t = 2
  · rw [if_pos h2, if_pos h2, bdS_fuel hQ 601 (t + 1) (t + S.2 37 t) 600 601 (by omega) (by omega) (by omega) (by omega) (by omega), bdS_fuel hQ 601 (t + S.2 37 t) te 600 601 (by omega) hte (by omega) (by omega) (by omega)]
  · have h1 := hq.2.2.2.1 h2
    rw [if_neg h2, if_neg h2, h1.1, bdS_fuel hQ 601 (t + 1) te 600 601 (by omega) hte (by omega) (by omega) (by omega)]
theorem bdS_end {f : Nat} {t te : Int} (h : te ≤ t) : bdS S r i f t te = ([], 0) := by
  cases f with
  | zero => rfl
  | succ f => unfold bdS; rw [if_pos h]
end MK
theorem QNch {S : MSt} {b E : Int} (hQ : ∀ p, b ≤ p → p < E → QN S E p) {P : Int} (h0 : b ≤ P) (hE : P < E) (hk : S.2 34 P = 2) : ∀ j : Nat, (j : Int) ≤ S.2 38 P → P + 1 ≤ chh (S.2 37) P j ∧ chh (S.2 37) P j ≤ P + S.2 37 P := by
  have hp := hQ P h0 hE
  have hp2 := hp.2.1
  have hcl := hp.2.2.2.2.1 hk
  intro j
  induction j with
  | zero => intro _; refine ⟨?_, ?_⟩ <;> (show _ ≤ _) <;> (unfold chh) <;> omega
  | succ j ih =>
    intro hj
    obtain ⟨a, c⟩ := ih (by omega)
    have h3 := hcl.2 j (by omega)
    have h4 := (hQ (chh (S.2 37) P j) (by omega) (by omega)).2.1
    have h5 : chh (S.2 37) P (j + 1) = chh (S.2 37) P j + S.2 37 (chh (S.2 37) P j) := rfl
    refine ⟨by omega, ?_⟩
    by_cases he : (j : Int) + 1 = S.2 38 P
    · rw [← hcl.1, show (S.2 38 P).toNat = j + 1 by omega]; exact Int.le_refl _
    · exact Int.le_of_lt (hcl.2 (j + 1) (by omega))
theorem QN.kid {S : MSt} {b E : Int} (hQ : ∀ p, b ≤ p → p < E → QN S E p) {P : Int} (h0 : b ≤ P) (hE : P < E) (hk : S.2 34 P = 2) {j : Nat} (hj : (j : Int) < S.2 38 P) : P + 1 ≤ chh (S.2 37) P j ∧ chh (S.2 37) P j < P + S.2 37 P ∧ P + S.2 37 P ≤ E ∧ 1 ≤ S.2 37 (chh (S.2 37) P j) ∧ chh (S.2 37) P (j + 1) = chh (S.2 37) P j + S.2 37 (chh (S.2 37) P j) ∧ chh (S.2 37) P (j + 1) ≤ P + S.2 37 P := by
  have h1 := QNch hQ h0 hE hk j (by omega)
  have h2 := QNch hQ h0 hE hk (j + 1) (by omega)
  have h3 := (hQ P h0 hE).2.2.2.2.1 hk
  have h4 := (hQ (chh (S.2 37) P j) (by omega) (by have := h3.2 j hj; have := (hQ P h0 hE).2.1; omega)).2.1
  exact ⟨by omega, h3.2 j hj, (hQ P h0 hE).2.1.2, by omega, rfl, by omega⟩
/-- roots of items a .. b: all of them -/
theorem rts_sum {n : Int} {what room parts : Int → Int} (hT : TW n what room parts) : ∀ (f : Nat) (a b : Int), 0 ≤ a → b ≤ n → ∀ q ∈ rts room f a b, a ≤ q ∧ q < b := by
  intro f
  induction f with
  | zero => intro a b _ _ q hq; cases hq
  | succ f ih =>
    intro a b h0 hb q hq
    unfold rts at hq
    by_cases h : b ≤ a
    · rw [if_pos h] at hq; cases hq
    · rw [if_neg h] at hq
      have hr := hT.r (i := a) h0 (by omega)
      rcases List.mem_cons.mp hq with e | hq
      · omega
      · have := ih (a + room a) b (by omega) hb q hq
        omega
