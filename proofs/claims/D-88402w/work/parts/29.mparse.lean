/-! ===== reading a text: the Model's methods as functions of its state ===== -/
set_option maxRecDepth 100000
def pMust (b : Int) (S : MSt) : MSt := if b = 0 ∧ S.1 21 = 0 then mP S [] [(21, 1), (22, S.2 4 (S.1 19))] else S
def pTake (c : Int) (S : MSt) : MSt :=
  if (pMust (bI (decide (S.2 3 (S.1 19) = c))) S).1 21 = 0 then mP (pMust (bI (decide (S.2 3 (S.1 19) = c))) S) [] [(19, S.1 19 + 1)] else pMust (bI (decide (S.2 3 (S.1 19) = c))) S
/-- the list that is open; -9 -/
def pTop (S : MSt) : Int := if 0 < S.1 24 then S.2 23 (S.1 24 - 1) else -9
def pCnt (S : MSt) : Int → Int := if 0 < S.1 24 then upI (upI (S.2 11) (S.1 6) 0) (S.2 23 (S.1 24 - 1)) (upI (S.2 11) (S.1 6) 0 (S.2 23 (S.1 24 - 1)) + 1) else upI (S.2 11) (S.1 6) 0
def pNode (how v : Int) (S : MSt) : MSt := mP S [(7, upI (S.2 7) (S.1 6) how), (8, upI (S.2 8) (S.1 6) v), (9, upI (S.2 9) (S.1 6) (S.2 4 (S.1 19))), (10, upI (S.2 10) (S.1 6) 1), (11, pCnt S), (12, upI (S.2 12) (S.1 6) (pTop S))] [(6, S.1 6 + 1)]
/-- the pattern from p on, among c, that is a variable of a name, as it is read -/
def pVarF (S : MSt) (v : Int) : Nat → Int → Int
  | 0, _ => -9
  | c + 1, p => if (S.2 7 p = 6 ∨ S.2 7 p = 7) ∧ S.2 8 p = v then p else pVarF S v c (p + 1)
theorem pMust_g2 (b : Int) (S : MSt) (k : Nat) : (pMust b S).2 k = S.2 k := by
  unfold pMust
  split <;> rfl
theorem pMust_g1 (b : Int) (S : MSt) {k : Nat} (h : k ≠ 21) (h2 : k ≠ 22) : (pMust b S).1 k = S.1 k := by
  unfold pMust
  split
  · show (lk [(21, 1), (22, _)] k).getD (S.1 k) = S.1 k
    rw [lk_c, lk_c, if_neg h, if_neg h2]; rfl
  · rfl
def pOpenB (S : MSt) : MSt := pMust (bI (decide (S.2 3 (S.1 19) = 40) && decide (S.1 20 < 12))) S
def pOpen (S : MSt) : MSt := if (pOpenB S).1 21 = 0 then mP (pNode 2 0 (pOpenB S)) [(23, upI (S.2 23) (S.1 24) (S.1 6))] [(24, S.1 24 + 1), (20, S.1 20 + 1), (19, S.1 19 + 1)] else pOpenB S
def pClose (S : MSt) : MSt := mP (pTake 41 S) [(10, upI (S.2 10) (S.2 23 (S.1 24 - 1)) (S.1 6 - S.2 23 (S.1 24 - 1)))] [(24, S.1 24 - 1), (20, S.1 20 - 1)]
def pIsRule (S : MSt) : Bool := decide (S.2 3 (S.1 19) = 40) && decide (S.2 3 (S.1 19 + 1) = 2) && (decide (S.2 5 (S.1 19 + 1) = 1685221239) || decide (S.2 5 (S.1 19 + 1) = 7823730))
theorem pTake_g2 (c : Int) (S : MSt) (k : Nat) : (pTake c S).2 k = S.2 k := by
  unfold pTake
  split
  · show (pMust _ S).2 k = _
    exact pMust_g2 _ S k
  · exact pMust_g2 _ S k
theorem pTake_g1 (c : Int) (S : MSt) {k : Nat} (h : k ≠ 21) (h2 : k ≠ 22) (h3 : k ≠ 19) : (pTake c S).1 k = S.1 k := by
  unfold pTake
  split
  · show (lk [(19, _)] k).getD ((pMust _ S).1 k) = S.1 k
    rw [lk_c, if_neg h3]
    exact pMust_g1 _ S h h2
  · exact pMust_g1 _ S h h2
def pFail (S : MSt) : MSt := mP S [] [(21, 1), (22, S.2 4 (S.1 19))]
theorem pMust_0 {S : MSt} (h : S.1 21 = 0) : pMust 0 S = pFail S := if_pos ⟨rfl, h⟩
theorem pMust_1 (S : MSt) : pMust 1 S = S := if_neg (by intro h; exact absurd h.1 (by decide))
def pTok (S : MSt) (d : Int) : MSt := mP S [] [(19, S.1 19 + d)]
def pRest (way : Int) (S : MSt) : Bool := decide (way < 2) && decide (S.2 3 (S.1 19 + 1) = 42) && decide (0 < S.1 24)
def pBang (S : MSt) : MSt := if S.2 3 (S.1 19 + 1) = 2 then pTok (pNode 8 (S.2 5 (S.1 19 + 1)) (pTok S 1)) 1 else pFail (pTok S 1)
def pKd (way : Int) (S : MSt) : Int := if pRest way S = true then 7 else if way = 2 then 1 else 6
def pNam2 (way : Int) (S : MSt) : MSt := pTok (pNode (pKd way S) (S.2 5 (S.1 19)) S) (if pRest way S = true then 2 else 1)
def pNam (way : Int) (S : MSt) : MSt := if S.2 3 (S.1 19) = 2 then (if pRest way S = true ∧ way = 0 then pMust (bI (decide (S.2 3 (S.1 19 + 2) = 41))) (pNam2 way S) else pNam2 way S) else pFail S
/-- one token is read, where there is no fault so far -/
def pOne (way : Int) (S : MSt) : MSt := if S.2 3 (S.1 19) = 40 then pOpen S else if S.2 3 (S.1 19) = 41 then pClose S else if S.2 3 (S.1 19) = 1 then pTok (pNode 0 (S.2 5 (S.1 19)) S) 1 else if S.2 3 (S.1 19) = 33 ∧ way = 0 then pBang S else pNam way S
/-- tokens are read while there is no fault and a list is open -/
def pWh (way : Int) : Nat → MSt → MSt
  | 0, S => S
  | f + 1, S => if S.1 21 = 0 ∧ 0 < S.1 24 then pWh way f (pOne way S) else S
/-- what reading one token asks -/
def pAsk (S : MSt) : Prop := (0 ≤ S.1 6 ∧ S.1 6 < 601) ∧ (0 ≤ S.1 19 ∧ S.1 19 < 601) ∧ (0 ≤ S.1 24 ∧ S.1 24 ≤ 16) ∧ (0 < S.1 24 → 0 ≤ S.2 23 (S.1 24 - 1) ∧ S.2 23 (S.1 24 - 1) < 601) ∧ (∀ j, 0 ≤ j → j < 601 → iR (S.2 3 j)) ∧ (S.2 3 (S.1 19) ≠ 0 → S.1 19 + 2 < 601) ∧ (S.2 3 (S.1 19) = 40 → S.1 24 < 16) ∧ (S.2 3 (S.1 19) = 41 → 0 < S.1 24) ∧ iR (S.1 20)
/-- reading goes on for f tokens at most, and asks nothing that isn't there -/
def pWok (way : Int) : Nat → MSt → Prop
  | 0, S => ¬ (S.1 21 = 0 ∧ 0 < S.1 24) ∧ iR (S.1 21) ∧ iR (S.1 24)
  | f + 1, S => (iR (S.1 21) ∧ iR (S.1 24)) ∧ (S.1 21 = 0 ∧ 0 < S.1 24 → pAsk S ∧ pWok way f (pOne way S))
