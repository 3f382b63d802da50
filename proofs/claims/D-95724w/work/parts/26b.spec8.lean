/-! the plain words, eighth: the text and its words -/
set_option maxRecDepth 100000
def run (p : Nat → Bool) : Nat → Nat → Nat
  | 0, a => a
  | f + 1, a => if p a = true then run p f (a + 1) else a
/-- the first place from a on that isn't p's, n at most -/
def runN (p : Nat → Bool) (n a : Nat) : Nat := run p (n - a) a
theorem run_ok (p : Nat → Bool) : ∀ f a, a ≤ run p f a ∧ run p f a ≤ a + f ∧ (∀ i, a ≤ i → i < run p f a → p i = true) ∧ (run p f a < a + f → p (run p f a) = false) := by
  intro f
  induction f with
  | zero => intro a; exact ⟨Nat.le_refl _, Nat.le_refl _, fun i h1 h2 => absurd h2 (by simp only [run]; omega), fun h => absurd h (by simp only [run]; omega)⟩
  | succ f ih =>
    intro a
    simp only [run]
    by_cases h : p a = true
    · rw [if_pos h]
      obtain ⟨h1, h2, h3, h4⟩ := ih (a + 1)
      refine ⟨by omega, by omega, fun i hi1 hi2 => ?_, fun q => h4 (by omega)⟩
      by_cases e : i = a
      · rw [e]; exact h
      · exact h3 i (by omega) hi2
    · rw [if_neg h]
      exact ⟨Nat.le_refl _, by omega, fun i h1 h2 => absurd h2 (by omega), fun _ => by simpa using h⟩
theorem runN_ok (p : Nat → Bool) {n a : Nat} (h : a ≤ n) : a ≤ runN p n a ∧ runN p n a ≤ n ∧ (∀ i, a ≤ i → i < runN p n a → p i = true) ∧ (runN p n a < n → p (runN p n a) = false) := by
  obtain ⟨h1, h2, h3, h4⟩ := run_ok p (n - a) a
  exact ⟨h1, by unfold runN; omega, h3, fun q => h4 (by unfold runN at q; omega)⟩
theorem runN_big (p : Nat → Bool) {n a : Nat} (h : n ≤ a) : runN p n a = a := by unfold runN; rw [show n - a = 0 by omega]; rfl
def isSp (tx : Nat → Nat) (i : Nat) : Bool := decide (tx i = 32)
def isLt (tx : Nat → Nat) (i : Nat) : Bool := decide (97 ≤ tx i ∧ tx i ≤ 122)
def isDg (tx : Nat → Nat) (i : Nat) : Bool := decide (48 ≤ tx i ∧ tx i ≤ 57)
/-- where the next sign stands -/
def hrA (τ : tT) : Nat := runN (isSp (τ 14)) (τ 0 15) (τ 0 17)
def hrT (τ : tT) : tT := upc τ 0 17 (hrA τ)
/-- the next sign -/
def hrV (τ : tT) : Option Nat := if hrA τ < τ 0 15 then some (τ 14 (hrA τ)) else none
/-- what is known of the text -/
def wfX (τ : tT) : Prop := τ 0 15 ≤ 500 ∧ (∀ k, k < 500 → τ 14 k < 256) ∧ τ 0 17 ≤ 600
theorem hrA_ok {τ : tT} (h : wfX τ) : τ 0 17 ≤ hrA τ ∧ hrA τ ≤ 600 ∧ (hrA τ < τ 0 15 → τ 14 (hrA τ) ≠ 32) ∧ (τ 0 17 ≤ τ 0 15 → hrA τ ≤ τ 0 15) := by
  obtain ⟨h1, h2, h3⟩ := h
  unfold hrA
  by_cases hc : τ 0 17 ≤ τ 0 15
  · obtain ⟨a, b, -, d⟩ := runN_ok (isSp (τ 14)) hc
    exact ⟨a, by omega, fun q => of_decide_eq_false (d q), fun _ => b⟩
  · rw [runN_big _ (by omega)]
    exact ⟨Nat.le_refl _, h3, fun q => by omega, fun q => absurd q hc⟩
theorem hrV_lt {τ : tT} (h : wfX τ) : ∀ c, hrV τ = some c → c < 256 := fun c e => by
  unfold hrV at e
  split at e
  · cases e
    exact h.2.1 _ (by have := h.1; omega)
  · cases e
def wC (tx : Nat → Nat) (v k : Nat) : Nat := if 10000000000000 < v then 20000000000000 else 27 * v + tx k - 96
/-- the code of the signs from a on, n of them -/
def wcd (tx : Nat → Nat) (a : Nat) : Nat → Nat
  | 0 => 0
  | n + 1 => wC tx (wcd tx a n) (a + n)
theorem wcd_lt {tx : Nat → Nat} {a : Nat} : ∀ n, (∀ i, i < n → tx (a + i) ≤ 122) → wcd tx a n ≤ 270000000000026 := by
  intro n
  induction n with
  | zero => intro _; exact Nat.zero_le _
  | succ n ih =>
    intro h
    have := ih (fun i hi => h i (by omega))
    have := h n (by omega)
    simp only [wcd, wC]
    split <;> omega
def wEnd (τ : tT) : Nat := runN (isLt (τ 14)) (τ 0 15) (hrA τ)
def wSaid (τ : tT) : Nat := wcd (τ 14) (hrA τ) (wEnd τ - hrA τ)
def rwT (τ : tT) : tT := upc (upc (hrT τ) 0 18 (wSaid τ)) 0 19 (wEnd τ)
def code4 (a b c d : Nat) : Nat := 27 * (27 * (27 * (a - 96) + b - 96) + c - 96) + d - 96
def codeL (v a b : Nat) : Nat := if b = 0 then 27 * v + a - 96 else 27 * (27 * v + a - 96) + b - 96
theorem upc_comm (τ : tT) {j j' k k' : Nat} (x y : Nat) (h : ¬ (j = j' ∧ k = k')) : upc (upc τ j k x) j' k' y = upc (upc τ j' k' y) j k x := by
  funext a b
  simp only [upc_at]
  by_cases h1 : a = j ∧ b = k
  · by_cases h2 : a = j' ∧ b = k'
    · exact absurd ⟨h1.1.symm.trans h2.1, h1.2.symm.trans h2.2⟩ h
    · rw [if_neg h2, if_pos h1, if_pos h1]
  · by_cases h2 : a = j' ∧ b = k'
    · rw [if_pos h2, if_neg h1, if_pos h2]
    · rw [if_neg h2, if_neg h1, if_neg h1, if_neg h2]
theorem hrA_in {τ : tT} (hx : wfX τ) : ∀ i, τ 0 17 ≤ i → i < hrA τ → i < τ 0 15 ∧ τ 14 i = 32 := fun i h1 h2 => by
  by_cases hc : τ 0 17 ≤ τ 0 15
  · obtain ⟨-, q2, q3, -⟩ := runN_ok (isSp (τ 14)) hc
    exact ⟨Nat.lt_of_lt_of_le h2 q2, of_decide_eq_true (q3 i h1 h2)⟩
  · unfold hrA at h2
    rw [runN_big _ (by omega)] at h2
    omega
theorem wEnd_ok {τ : tT} (hx : wfX τ) : hrA τ ≤ wEnd τ ∧ wEnd τ ≤ 600 ∧ (∀ i, hrA τ ≤ i → i < wEnd τ → i < τ 0 15 ∧ 97 ≤ τ 14 i ∧ τ 14 i ≤ 122) ∧ (wEnd τ < τ 0 15 → ¬ (97 ≤ τ 14 (wEnd τ) ∧ τ 14 (wEnd τ) ≤ 122)) := by
  obtain ⟨y1, y2, y3, y4⟩ := hrA_ok hx
  have x1 := hx.1
  unfold wEnd
  by_cases hc : hrA τ ≤ τ 0 15
  · obtain ⟨a, b, c, d⟩ := runN_ok (isLt (τ 14)) hc
    exact ⟨a, by omega, fun i h1 h2 => ⟨by omega, of_decide_eq_true (c i h1 h2)⟩, fun q => of_decide_eq_false (d q)⟩
  · rw [runN_big _ (by omega)]
    exact ⟨Nat.le_refl _, y2, fun i h1 h2 => by omega, fun q => by omega⟩
theorem wcd_s (tx : Nat → Nat) {a i : Nat} (h : a ≤ i) : wcd tx a (i + 1 - a) = wC tx (wcd tx a (i - a)) i := by
  rw [show i + 1 - a = (i - a) + 1 by omega]
  simp only [wcd]
  rw [show a + (i - a) = i by omega]
def nC (tx : Nat → Nat) (v k : Nat) : Nat := if 10000 < v then v else 10 * v + tx k - 48
def ncd (tx : Nat → Nat) (a : Nat) : Nat → Nat
  | 0 => 0
  | n + 1 => nC tx (ncd tx a n) (a + n)
theorem ncd_lt {tx : Nat → Nat} {a : Nat} : ∀ n, (∀ i, i < n → tx (a + i) ≤ 57) → ncd tx a n ≤ 100009 := by
  intro n
  induction n with
  | zero => intro _; exact Nat.zero_le _
  | succ n ih =>
    intro h
    have := ih (fun i hi => h i (by omega))
    have := h n (by omega)
    simp only [ncd, nC]
    split <;> omega
theorem ncd_s (tx : Nat → Nat) {a i : Nat} (h : a ≤ i) : ncd tx a (i + 1 - a) = nC tx (ncd tx a (i - a)) i := by
  rw [show i + 1 - a = (i - a) + 1 by omega]
  simp only [ncd]
  rw [show a + (i - a) = i by omega]
def nEnd (τ : tT) : Nat := runN (isDg (τ 14)) (τ 0 15) (hrA τ)
def nVal (τ : tT) : Nat := ncd (τ 14) (hrA τ) (nEnd τ - hrA τ)
theorem nEnd_ok {τ : tT} (hx : wfX τ) : hrA τ ≤ nEnd τ ∧ nEnd τ ≤ 600 ∧ (∀ i, hrA τ ≤ i → i < nEnd τ → i < τ 0 15 ∧ 48 ≤ τ 14 i ∧ τ 14 i ≤ 57) ∧ (nEnd τ < τ 0 15 → ¬ (48 ≤ τ 14 (nEnd τ) ∧ τ 14 (nEnd τ) ≤ 57)) := by
  obtain ⟨y1, y2, y3, y4⟩ := hrA_ok hx
  have x1 := hx.1
  unfold nEnd
  by_cases hc : hrA τ ≤ τ 0 15
  · obtain ⟨a, b, c, d⟩ := runN_ok (isDg (τ 14)) hc
    exact ⟨a, by omega, fun i h1 h2 => ⟨by omega, of_decide_eq_true (c i h1 h2)⟩, fun q => of_decide_eq_false (d q)⟩
  · rw [runN_big _ (by omega)]
    exact ⟨Nat.le_refl _, y2, fun i h1 h2 => by omega, fun q => by omega⟩
/-- the next sign is a digit -/
def isD (o : Option Nat) : Bool := match o with
  | none => false
  | some c => decide (48 ≤ c ∧ c ≤ 57)
theorem isD_rg {o : Option Nat} (h : ∀ c, o = some c → c < 256) : rgB (oI o) 48 57 = isD o := by
  cases o with
  | none => decide
  | some c =>
    have := h c rfl
    show rgB (nI c) 48 57 = decide (48 ≤ c ∧ c ≤ 57)
    unfold rgB
    rw [nI_toInt (by omega)]
    congr 1
    simp only [eq_iff_iff]
    omega
/-- what takeNumber answers: 0, or the fault's number -/
def numV (τ : tT) (lo hi : Nat) : Nat := if isD (hrV τ) = true then (if 3 < nEnd τ - hrA τ ∨ ¬ (lo ≤ nVal τ ∧ nVal τ ≤ hi) then 2 else 0) else 1
def numB (τ : tT) : tT := upc (upc (upc τ 0 17 (nEnd τ)) 0 21 (hrA τ)) 0 20 (nVal τ)
def numT (τ : tT) (lo hi : Nat) : tT := if isD (hrV τ) = true then (if 3 < nEnd τ - hrA τ ∨ ¬ (lo ≤ nVal τ ∧ nVal τ ≤ hi) then upc (numB τ) 0 16 (hrA τ) else numB τ) else upc (upc τ 0 17 (hrA τ)) 0 16 (hrA τ)
theorem lg_le_N {a b : Nat} (ha : a < 2 ^ 63) (hb : b < 2 ^ 63) : lg_cmp (lN a) (lN b) ≤ 0 ↔ a ≤ b := by rw [lg_cmp_le, pk_lLE ha hb]
