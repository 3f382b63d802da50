/-! the plain words, sixth: the worst step, what to ask -/
set_option maxRecDepth 100000
def wrsV (τ : tT) (r i : Nat) : Nat := bitsN (ndS (sClimb τ r) (climbW τ r i false)) 24
def wrsW (τ : tT) (r i : Nat) : Nat := if 1 < τ 6 (3 * r + i) then wrsV τ r i else 0
def wrF (τ : tT) (r i : Nat) (a : Option Nat × Nat) : Option Nat × Nat := if a.2 < wrsW τ r i then (some (3 * r + i), wrsW τ r i) else a
def wrI (τ : tT) (r : Nat) (a : Option Nat × Nat) : Nat → Option Nat × Nat
  | 0 => a
  | i + 1 => wrF τ r i (wrI τ r a i)
theorem wrI_s (τ : tT) (r : Nat) (a : Option Nat × Nat) (i : Nat) : wrI τ r a (i + 1) = wrF τ r i (wrI τ r a i) := rfl
def wrS (τ : tT) : Nat → Option Nat × Nat
  | 0 => (none, 0)
  | r + 1 => wrI τ r (wrS τ r) (τ 5 r)
theorem wrsW_le (τ : tT) (r i : Nat) : wrsW τ r i ≤ 24 := by
  unfold wrsW wrsV
  split
  · exact bitsN_le _ _
  · omega
theorem wrI_ok {τ : tT} (hw : wfT τ) {r : Nat} (hr : r < τ 0 1) {a : Option Nat × Nat} (h : a.2 ≤ 24 ∧ ∀ b, a.1 = some b → b < 30) : ∀ i, i ≤ τ 5 r → (wrI τ r a i).2 ≤ 24 ∧ ∀ b, (wrI τ r a i).1 = some b → b < 30 := by
  obtain ⟨h1, -, hw⟩ := hw
  obtain ⟨-, -, -, -, -, k6, -⟩ := hw r hr
  intro i
  induction i with
  | zero => intro _; exact h
  | succ i ih =>
    intro hi
    rw [wrI_s, wrF]
    split
    · exact ⟨wrsW_le _ _ _, fun b e => by cases e; omega⟩
    · exact ih (by omega)
theorem wrS_ok {τ : tT} (hw : wfT τ) : ∀ r, r ≤ τ 0 1 → (wrS τ r).2 ≤ 24 ∧ ∀ b, (wrS τ r).1 = some b → b < 30 := by
  intro r
  induction r with
  | zero => intro _; exact ⟨Nat.zero_le _, fun b e => by cases e⟩
  | succ r ih => intro hr; exact wrI_ok hw (by omega) (ih (by omega)) _ (Nat.le_refl _)
def pWorst (τ : tT) (w : Int32) : Int32 := if rgB w 0 2 = true then (if (wrS τ (τ 0 1)).1 = none then -1 else if w = nI 0 then nI ((wrS τ (τ 0 1)).1.getD 0 / 3) else if w = nI 1 then nI ((wrS τ (τ 0 1)).1.getD 0 % 3) else nI (wrS τ (τ 0 1)).2) else OUTS
theorem pStep_wrs {τ : tT} (hw : wfT τ) {r i : Nat} (hr : r < τ 0 1) (hi : i < τ 5 r) (h : 1 < τ 6 (3 * r + i)) : pStep τ (nI r) (nI i) (-1) (nI 1) = nI (wrsV τ r i) := by
  obtain ⟨h1, -, hw⟩ := hw
  obtain ⟨-, -, -, -, -, k6, -⟩ := hw r hr
  have b1 : r < 2 ^ 31 := by omega
  have b2 : i < 2 ^ 31 := by omega
  rw [pStep, pBuildOk, ixB_n b1, nI_clamp b1, ixB_n b2, decide_eq_true hr, decide_eq_true hi, Bool.and_true, if_pos rfl, nI_clamp b2, if_pos ⟨Or.inr rfl, by decide, fun h => absurd h (by decide), fun _ => h⟩, decide_eq_false (show ¬ (-1 : Int32) = nI 1 by decide), stepV, if_neg (by decide)]
  rfl
def askF (τ : tT) (set r s y : Nat) : Nat := y + bN (set.testBit (s - 1) && sFit τ r s)
def askY (τ : tT) (set r n : Nat) : Nat := foldS (askF τ set r) 0 n
theorem askY_s (τ : tT) (set r : Nat) {s : Nat} (h : 1 ≤ s) : askY τ set r (s + 1) = askY τ set r s + bN (set.testBit (s - 1) && sFit τ r s) := foldS_s _ _ h
theorem askY_le (τ : tT) (set r : Nat) : ∀ n, askY τ set r (n + 1) ≤ bitsN set n := by
  intro n
  induction n with
  | zero => exact Nat.le_refl _
  | succ n ih =>
    rw [askY_s τ set r (by omega), Nat.add_sub_cancel]
    simp only [bitsN]
    have : bN (set.testBit n && sFit τ r (n + 1)) ≤ bN (set.testBit n) := by
      cases set.testBit n <;> cases sFit τ r (n + 1) <;> decide
    omega
def askN (τ : tT) (set r : Nat) : Nat := bitsN set 24 - askY τ set r 25
def askO (τ : tT) (set r : Nat) : Nat := if askN τ set r < askY τ set r 25 then askY τ set r 25 - askN τ set r else askN τ set r - askY τ set r 25
def askB (τ : tT) (set r : Nat) (a : Option Nat × Nat) : Bool := decide (0 < askY τ set r 25) && (decide (0 < askN τ set r) && (a.1.isNone || decide (askO τ set r < a.2)))
def askS (τ : tT) (set : Nat) : Nat → Option Nat × Nat
  | 0 => (none, 0)
  | r + 1 => if askB τ set r (askS τ set r) = true then (some r, askO τ set r) else askS τ set r
theorem askS_s (τ : tT) (set r : Nat) : askS τ set (r + 1) = if askB τ set r (askS τ set r) = true then (some r, askO τ set r) else askS τ set r := rfl
theorem askO_le (τ : tT) (set r : Nat) : askO τ set r ≤ 24 ∧ askY τ set r 25 ≤ 24 ∧ askN τ set r ≤ 24 := by
  have h1 : askY τ set r 25 ≤ bitsN set 24 := askY_le τ set r 24
  have h2 := bitsN_le set 24
  unfold askO askN
  refine ⟨?_, by omega, by omega⟩
  split <;> omega
theorem askS_ok (τ : tT) (set : Nat) : ∀ r, (askS τ set r).2 ≤ 24 ∧ ∀ b, (askS τ set r).1 = some b → b < r := by
  intro r
  induction r with
  | zero => exact ⟨Nat.zero_le _, fun b e => by cases e⟩
  | succ r ih =>
    rw [askS_s]
    split
    · exact ⟨(askO_le τ set r).1, fun b e => by cases e; omega⟩
    · exact ⟨ih.1, fun b e => Nat.lt_succ_of_lt (ih.2 b e)⟩
def pAsk (τ : tT) : Int32 := oI (askS τ (fitsS τ) (τ 0 1)).1
theorem oI_isNone {o : Option Nat} (h : oI o < 0) (hb : ∀ k, o = some k → k < 2 ^ 31) : o.isNone = true := by rw [(oI_lt hb).mp h]; rfl
theorem oI_isSome {o : Option Nat} (h : ¬ oI o < 0) : o.isNone = false := by obtain ⟨b, hb⟩ := oI_some h; rw [hb]; rfl
