/-! X's words, fourth: a step more or less, what to ask, the book's judgement -/
set_option maxRecDepth 100000
def byI (up : Bool) : Int32 := bif up then nI 1 else -1
def byN (s : Nat) (up : Bool) : Nat := if up = true then s + 1 else s - 1
theorem by_add {s : Nat} (h : 1 ≤ s) (up : Bool) : nI s + byI up = nI (byN s up) := by
  cases up
  · show nI s + (-1) = nI (s - 1); exact sb_m1 h
  · show nI s + nI 1 = nI (s + 1); exact nI_add s 1
theorem by_sub {s : Nat} (h : 1 ≤ s) (up : Bool) : nI (byN s up) - byI up = nI s := by
  cases up
  · show nI (s - 1) - (-1) = nI s; exact sub_m1 h
  · show nI (s + 1) - nI 1 = nI s; exact add_sub1 s
theorem isInB_n {a lo hi : Nat} (h : a < 2 ^ 31) (h1 : lo < 2 ^ 31) (h2 : hi < 2 ^ 31) : isInB (nI a) (nI lo) (nI hi) = decide (lo ≤ a ∧ a ≤ hi) := by
  rw [isInB_rg _ h1 h2, rgB, nI_toInt h]
  congr 1
  simp only [eq_iff_iff]
  omega
def oD (o : Option Nat) : Option Nat := o.map (fun b => b / 3)
def oM (o : Option Nat) : Option Nat := o.map (fun b => b % 3)
theorem oD_some {o : Option Nat} (hb : ∀ b, o = some b → b < 30) : ∀ k, oD o = some k → k < 2 ^ 31 := by
  intro k h
  cases o with
  | none => cases h
  | some b => have := hb b rfl; have h : some (b / 3) = some k := h; cases h; omega
/-- the strides of a set that don't fit -/
def askG (τ : tT) (set r s y : Nat) : Nat := y + bN (set.testBit (s - 1) && !sFit τ r s)
def askZ (τ : tT) (set r n : Nat) : Nat := foldS (askG τ set r) 0 n
theorem askZ_s (τ : tT) (set r : Nat) {s : Nat} (h : 1 ≤ s) : askZ τ set r (s + 1) = askZ τ set r s + bN (set.testBit (s - 1) && !sFit τ r s) := foldS_s _ _ h
theorem askYZ (τ : tT) (set r : Nat) : ∀ n, askY τ set r (n + 1) + askZ τ set r (n + 1) = bitsN set n := by
  intro n
  induction n with
  | zero => rfl
  | succ n ih =>
    rw [askY_s τ set r (by omega), askZ_s τ set r (by omega), Nat.add_sub_cancel]
    simp only [bitsN]
    have : bN (set.testBit n && sFit τ r (n + 1)) + bN (set.testBit n && !sFit τ r (n + 1)) = bN (set.testBit n) := by
      cases set.testBit n <;> cases sFit τ r (n + 1) <;> rfl
    omega
theorem askZ_N (τ : tT) (set r : Nat) : askZ τ set r 25 = askN τ set r := by
  have : askY τ set r 25 + askZ τ set r 25 = bitsN set 24 := askYZ τ set r 24
  unfold askN
  omega
theorem abs_N {a b : Nat} (ha : a < 2 ^ 30) (hb : b < 2 ^ 30) : (if 0 ≤ nI a - nI b then nI a - nI b else 0 - (nI a - nI b)) = nI (if b < a then a - b else b - a) := by
  by_cases h : b ≤ a
  · have e : nI a - nI b = nI (a - b) := pk_sub h
    rw [e, if_pos (nI_pos' (by omega))]
    by_cases h2 : b < a
    · rw [if_pos h2]
    · rw [if_neg h2]; congr 1; omega
  · have hn : ¬ 0 ≤ nI a - nI b := Int32.not_le.mpr (pk_sneg hb (by omega))
    rw [if_neg hn, if_neg (by omega), Int32.zero_sub, Int32.neg_sub, pk_sub (by omega)]
theorem jS_go {τ : tT} {k : Nat} (h : (jS τ k).2 = none) (h1 : τ 39 k < τ 0 8) (h2 : mgS τ (τ 40 k) ((jS τ k).1 (τ 39 k)) (τ 10 (τ 39 k)) (τ 11 (τ 39 k)) = true) : othS τ (τ 40 k) ((jS τ k).1 (τ 39 k)) = nI (goOther (upr τ 9 (jS τ k).1) (τ 39 k) (τ 40 k)) ∧ jS τ (k + 1) = (upn (jS τ k).1 (τ 39 k) (goOther (upr τ 9 (jS τ k).1) (τ 39 k) (τ 40 k)), none) := by
  have e : sCan (upr τ 9 (jS τ k).1) (τ 39 k) (τ 40 k) = true := by
    rw [← mgS_can]; exact h2
  refine ⟨oth_go (τ := upr τ 9 (jS τ k).1) e, ?_⟩
  rw [jS_s, if_pos h, decide_eq_true h1, e, Bool.true_and, if_pos rfl]
theorem jS_no {τ : tT} {k n : Nat} (hk : k < n) (h : (jS τ k).2 = none) (h2 : τ 39 k < τ 0 8 → mgS τ (τ 40 k) ((jS τ k).1 (τ 39 k)) (τ 10 (τ 39 k)) (τ 11 (τ 39 k)) = false) : (jS τ n).2 = some k := by
  have e : (decide (τ 39 k < τ 0 8) && sCan (upr τ 9 (jS τ k).1) (τ 39 k) (τ 40 k)) = false := by
    by_cases h1 : τ 39 k < τ 0 8
    · rw [← mgS_can, show mgS (upr τ 9 (jS τ k).1) (τ 40 k) ((upr τ 9 (jS τ k).1) 9 (τ 39 k)) ((upr τ 9 (jS τ k).1) 10 (τ 39 k)) ((upr τ 9 (jS τ k).1) 11 (τ 39 k)) = false from h2 h1, Bool.and_false]
    · rw [decide_eq_false h1]; rfl
  have s : jS τ (k + 1) = ((jS τ k).1, some k) := by
    rw [jS_s, if_pos h, e, if_neg (by decide)]
  rw [jS_stay (i := k + 1) (n := n) (by rw [s]; simp) hk, s]
theorem RX.where0 {nS : Nat} {β τ : tT} (h : RX nS β τ) (h8 : τ 0 8 ≤ 8) : RX nS (cp0 β 5 15 8) τ ∧ (∀ q, q < τ 0 8 → (cp0 β 5 15 8) 15 q = (jS τ 0).1 q) ∧ (jS τ 0).2 = none := by
  refine ⟨h.scratch (fun j hj => ?_), fun q hq => ?_, rfl⟩
  · unfold cp0
    exact upr_n (fun q => hj (Or.inl q))
  · unfold cp0
    rw [upr_s, blt_c, decide_eq_true (show q < 8 by omega)]
    exact h.a5 hq
theorem oI_nn {o : Option Nat} (h : ¬ oI o = -1) : o.isNone = false := by obtain ⟨b, hb⟩ := oI_nm1 h; rw [hb]; rfl
theorem climbW_lt {τ : tT} (hp : wfP τ) (r x : Nat) (up : Bool) : climbW τ r x up < 256 := by
  unfold climbW
  exact sClimb_lt (wfP_of (τ := τ) (τ' := upc τ 6 (3 * r + x) _) rfl rfl rfl rfl rfl rfl hp) r
