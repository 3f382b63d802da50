/-! X's words, first: ranges, strides, going -/
set_option maxRecDepth 100000
def isInB (v a b : Int32) : Bool := decide (a ≤ v ∧ v ≤ b)
theorem isInB_iff (v a b : Int32) : isInB v a b = true ↔ a.toInt ≤ v.toInt ∧ v.toInt ≤ b.toInt := by
  unfold isInB
  rw [decide_eq_true_iff, Int32.le_iff_toInt_le, Int32.le_iff_toInt_le]
theorem isInB_ix (x : Int32) (P : Nat) (h : P < 2 ^ 31) : isInB x (nI 0) (nI P - nI 1) = ixB x P := by
  rw [Bool.eq_iff_iff, isInB_iff, ixB, decide_eq_true_iff, nI_m1 P h]
  show (0 : Int) ≤ _ ∧ _ ↔ _
  omega
theorem isInB_rg (x : Int32) {lo hi : Nat} (h1 : lo < 2 ^ 31) (h2 : hi < 2 ^ 31) : isInB x (nI lo) (nI hi) = rgB x lo hi := by
  rw [Bool.eq_iff_iff, isInB_iff, rgB, decide_eq_true_iff, nI_toInt h1, nI_toInt h2]
theorem isIn_1 {v a b : Int32} (h1 : ¬ v < a) (h2 : ¬ b < v) : nI 1 = nI (bN (isInB v a b)) := bret1 (decide_eq_true ⟨Int32.not_lt.mp h1, Int32.not_lt.mp h2⟩)
theorem isIn_0a {v a b : Int32} (h1 : v < a) : nI 0 = nI (bN (isInB v a b)) := bret0 (decide_eq_false (fun q => Int32.not_lt.mpr q.1 h1))
theorem isIn_0b {v a b : Int32} (h1 : b < v) : nI 0 = nI (bN (isInB v a b)) := bret0 (decide_eq_false (fun q => Int32.not_lt.mpr q.2 h1))
theorem bN_and (a b : Bool) : nI (bN a) &&& nI (bN b) = nI (bN (a && b)) := by cases a <;> cases b <;> decide
theorem bN_or (a b : Bool) : nI (bN a) ||| nI (bN b) = nI (bN (a || b)) := by cases a <;> cases b <;> decide
theorem gcd_st (x y : Nat) : Nat.gcd y (x % y) = Nat.gcd x y := by rw [Nat.gcd_comm x y, Nat.gcd_rec y x, Nat.gcd_comm]
theorem sFit_0 (τ : tT) (r : Nat) : sFit τ r 0 = false := if_pos rfl
theorem fitP_0 {k n s : Nat} (h : k = 0) : fitP k n s = (n % s == 0) := by subst h; rfl
theorem fitP_1 {k n s : Nat} (h : k = 1) : fitP k n s = true := by subst h; rfl
theorem fitP_2 {k n s : Nat} (h : k = 2) : fitP k n s = (s == 1 || s == n) := by subst h; rfl
/-- a stair's other end -/
def othS (τ : tT) (r x : Nat) : Int32 := if τ 3 r = x then nI (τ 4 r) else if τ 4 r = x then nI (τ 3 r) else -1
/-- mayGo(r, x, one, two) -/
def mgS (τ : tT) (r x one two : Nat) : Bool := (decide (τ 3 r = x) || decide (τ 4 r = x)) && ((decide (τ 0 12 = 1) && decide (τ 4 r = x)) || (sFit τ r one || sFit τ r two))
theorem nI_n1 {n : Nat} (h : n < 2 ^ 31) : ¬ nI n = -1 := fun q => by
  have := nI_pos h
  rw [q] at this
  exact this (by decide)
theorem mgS_eq {τ : tT} {r : Nat} (h3 : τ 3 r < 2 ^ 31) (h4 : τ 4 r < 2 ^ 31) (x one two : Nat) : mgS τ r x one two = (!decide (othS τ r x = -1) && ((decide (τ 0 12 = 1) && decide (τ 4 r = x)) || (sFit τ r one || sFit τ r two))) := by
  unfold mgS
  congr 1
  unfold othS
  by_cases e3 : τ 3 r = x
  · rw [if_pos e3, decide_eq_true e3, decide_eq_false (nI_n1 h4)]; rfl
  · rw [if_neg e3, decide_eq_false e3]
    by_cases e4 : τ 4 r = x
    · rw [if_pos e4, decide_eq_true e4, decide_eq_false (nI_n1 h3)]; rfl
    · rw [if_neg e4, decide_eq_false e4, decide_eq_true rfl]; rfl
theorem mgS_can (τ : tT) (q r : Nat) : mgS τ r (τ 9 q) (τ 10 q) (τ 11 q) = sCan τ q r := by
  unfold mgS sCan sMay
  rw [show decide (τ 3 r = τ 9 q) = decide (τ 9 q = τ 3 r) from decide_eq_decide.mpr eq_comm, show decide (τ 4 r = τ 9 q) = decide (τ 9 q = τ 4 r) from decide_eq_decide.mpr eq_comm]
  cases decide (τ 9 q = τ 3 r) <;> cases decide (τ 9 q = τ 4 r) <;> cases decide (τ 0 12 = 1) <;> cases (sFit τ r (τ 10 q) || sFit τ r (τ 11 q)) <;> rfl
theorem mgS_from {τ : tT} {r : Nat} (h : τ 3 r ≠ τ 4 r) (one two : Nat) : mgS τ r (τ 3 r) one two = (sFit τ r one || sFit τ r two) := by
  unfold mgS
  rw [decide_eq_true rfl, decide_eq_false (Ne.symm h)]
  simp
theorem mgS_to {τ : tT} {r : Nat} (one two : Nat) : mgS τ r (τ 4 r) one two = (sFit τ r one || sFit τ r two || decide (τ 0 12 = 1)) := by
  unfold mgS
  rw [decide_eq_true (show τ 4 r = τ 4 r from rfl), Bool.or_true, Bool.true_and, Bool.and_true, Bool.or_comm]
theorem RX.copyAt {nS : Nat} {β τ : tT} {r : Nat} (h : RX nS β τ) (hr : r < nS) : RX nS (cp0 β (32 + r) (90 + 2 * r + 1) 3) τ ∧ ∀ i, i < 3 → (cp0 β (32 + r) (90 + 2 * r + 1) 3) (90 + 2 * r + 1) i = stp τ r i := by
  have hn := h.n10
  refine ⟨h.scratch (fun j hj => ?_), fun i hi => ?_⟩
  · unfold cp0
    exact upr_n (fun q => hj (by unfold scr; omega))
  · unfold cp0
    rw [upr_s, blt_c, decide_eq_true hi]
    exact h.row hr hi
/-- the stride that is taken -/
def gsA (τ : tT) (q r : Nat) : Nat := if sFit τ r (τ 10 q) = true then τ 10 q else 0
def gsB (τ : tT) (q r : Nat) : Nat := if sFit τ r (τ 11 q) = true then τ 11 q else 0
theorem gs_eq {τ : tT} {q r : Nat} (h1 : 1 ≤ τ 10 q) : (if max (gsA τ q r) (gsB τ q r) = 0 then τ 10 q else max (gsA τ q r) (gsB τ q r)) = goStride τ q r := by
  unfold gsA gsB goStride
  by_cases a : sFit τ r (τ 10 q) = true
  · by_cases b : sFit τ r (τ 11 q) = true
    · rw [if_pos a, if_pos b, a, b, if_neg (by omega)]
      by_cases c : τ 10 q < τ 11 q
      · simp only [c, decide_true, Bool.or_true, Bool.and_true, if_true]; omega
      · simp only [c, decide_false, Bool.not_true, Bool.or_false, Bool.and_false]
        rw [if_neg (by decide)]; omega
    · rw [if_pos a, if_neg b, Bool.eq_false_iff.mpr b, if_neg (by omega)]
      simp
  · rw [if_neg a, Bool.eq_false_iff.mpr a]
    by_cases b : sFit τ r (τ 11 q) = true
    · have hb : τ 11 q ≠ 0 := fun e => by rw [e, sFit_0] at b; cases b
      rw [if_pos b, b]
      simp [hb]
    · rw [if_neg b, Bool.eq_false_iff.mpr b]
      simp
theorem oth_go {τ : tT} {q r : Nat} (h : sCan τ q r = true) : othS τ r (τ 9 q) = nI (goOther τ q r) := by
  unfold othS goOther
  by_cases e3 : τ 9 q = τ 3 r
  · rw [if_pos e3.symm, if_pos e3]
  · rw [if_neg (fun e => e3 e.symm), if_neg e3]
    by_cases e4 : τ 9 q = τ 4 r
    · rw [if_pos e4.symm]
    · unfold sCan at h
      rw [decide_eq_false e3, decide_eq_false e4] at h
      cases h
/-- what readers leave alone: all codes below 90 -/
def FR (b b' : tT) : Prop := ∀ j, j < 90 → b' j = b j
theorem FR.rf {b0 b : tT} (h : b0 = b) : FR b0 b := fun _ _ => by rw [h]
theorem FR.tr {a b c : tT} (h1 : FR a b) (h2 : FR b c) : FR a c := fun j hj => (h2 j hj).trans (h1 j hj)
theorem FR.go {b0 b c : tT} (h : FR b0 c) (e : b0 = b) : FR b c := e ▸ h
theorem FR.copyAt (β : tT) (r : Nat) : FR β (cp0 β (32 + r) (90 + 2 * r + 1) 3) := fun j hj => by
  unfold cp0
  exact upr_n (by omega)
