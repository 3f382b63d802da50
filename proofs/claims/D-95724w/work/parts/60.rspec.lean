/-! the reader's words: texts as numbers t, without the model's state -/
set_option maxRecDepth 100000
def nxA (t : Nat → Nat) (sz a : Nat) : Nat := runN (isSp t) sz a
def nxV (t : Nat → Nat) (sz a : Nat) : Option Nat := if nxA t sz a < sz then some (t (nxA t sz a)) else none
def wdW (t : Nat → Nat) (sz a : Nat) : Nat := runN (isLt t) sz (nxA t sz a)
def nuE (t : Nat → Nat) (sz a : Nat) : Nat := runN (isDg t) sz (nxA t sz a)
def nuV (t : Nat → Nat) (sz a : Nat) : Nat := ncd t (nxA t sz a) (nuE t sz a - nxA t sz a)
def nuF (t : Nat → Nat) (sz a lo hi : Nat) : Nat := if isD (nxV t sz a) = true then (if 3 < nuE t sz a - nxA t sz a ∨ ¬ (lo ≤ nuV t sz a ∧ nuV t sz a ≤ hi) then 2 else 0) else 1
theorem runN_s {p : Nat → Bool} {n a : Nat} (h : a < n) (hp : p a = true) : runN p n a = runN p n (a + 1) := by
  unfold runN
  rw [show n - a = (n - (a + 1)) + 1 by omega]
  simp only [run]
  rw [if_pos hp]
theorem runN_e {p : Nat → Bool} {n a : Nat} (hp : p a = false) : runN p n a = a := by
  unfold runN
  cases n - a with
  | zero => rfl
  | succ f => simp only [run]; rw [if_neg (by rw [hp]; decide)]
theorem by_255 : ∀ v, v < 256 → xBy v &&& nI 255 = nI v := by decide +kernel
theorem by_32 : ∀ v, v < 256 → (xBy v = nI 32 ↔ v = 32) := by decide +kernel
theorem by_lo : ∀ v, v < 128 → xBy v = nI v := by decide +kernel
theorem by_lt : ∀ v, v < 256 → isInB (xBy v) (nI 97) (nI 122) = decide (97 ≤ v ∧ v ≤ 122) := by decide +kernel
theorem by_dg : ∀ v, v < 256 → isInB (xBy v) (nI 48) (nI 57) = decide (48 ≤ v ∧ v ≤ 57) := by decide +kernel
theorem by_c : ∀ v, v < 128 → ((xBy v).toUInt32 % 65536).toInt32 = nI v := by decide +kernel
theorem nxV_lt {t : Nat → Nat} {sz a : Nat} (hs : sz ≤ 500) (ht : ∀ k, k < 500 → t k < 256) : ∀ c, nxV t sz a = some c → c < 256 := fun c e => by
  unfold nxV at e
  split at e
  · cases e
    exact ht _ (by omega)
  · cases e
theorem oI_dg {t : Nat → Nat} {sz a : Nat} (hs : sz ≤ 500) (ht : ∀ k, k < 500 → t k < 256) : isInB (oI (nxV t sz a)) (nI 48) (nI 57) = isD (nxV t sz a) := by
  rw [isInB_rg _ (by decide) (by decide)]
  exact isD_rg (nxV_lt hs ht)
theorem nxA_le {t : Nat → Nat} {sz a : Nat} (h : a ≤ sz) : a ≤ nxA t sz a ∧ nxA t sz a ≤ sz := ⟨(runN_ok (isSp t) h).1, (runN_ok (isSp t) h).2.1⟩
theorem wdW_le {t : Nat → Nat} {sz a : Nat} (h : a ≤ sz) : nxA t sz a ≤ wdW t sz a ∧ wdW t sz a ≤ sz := ⟨(runN_ok (isLt t) (nxA_le h).2).1, (runN_ok (isLt t) (nxA_le h).2).2.1⟩
theorem nuE_le {t : Nat → Nat} {sz a : Nat} (h : a ≤ sz) : nxA t sz a ≤ nuE t sz a ∧ nuE t sz a ≤ sz := ⟨(runN_ok (isDg t) (nxA_le h).2).1, (runN_ok (isDg t) (nxA_le h).2).2.1⟩
/-- the capacities of a growing builder; their sum -/
def cp : Nat → Nat
  | 0 => 16
  | j + 1 => 2 * cp j + 2
def ss : Nat → Nat
  | 0 => 16
  | j + 1 => ss j + cp (j + 1)
theorem cp_le : ∀ j, j ≤ 5 → cp j ≤ 574 ∧ ss j ≤ 1122 := by decide
theorem cp_5 : cp 5 = 574 := rfl
theorem cp_pos : ∀ j, 16 ≤ cp j := by
  intro j
  cases j with
  | zero => exact Nat.le_refl _
  | succ j => simp only [cp]; induction j with
    | zero => decide
    | succ j ih => simp only [cp]; omega
def wdI (t : Nat → Nat) (sz A W : Nat) (x : Nat × Nat × Nat × (Nat → Int32)) : Prop := A + x.1 ≤ sz ∧ x.1 ≤ cp x.2.1 ∧ x.2.1 ≤ 5 ∧ (∀ i, i < x.1 → x.2.2.2 i = nI (t (A + i))) ∧ sb_Fit x.2.2.2 ∧ runN (isLt t) sz (A + x.1) = W
/-- the number as the reader takes it -/
def mn (t : Nat → Nat) (A : Nat) : Nat → Nat
  | 0 => 0
  | n + 1 => min 9999 (10 * mn t A n + t (A + n) - 48)
theorem mn_le (t : Nat → Nat) (A n : Nat) : mn t A n ≤ 9999 := by
  cases n with
  | zero => exact Nat.zero_le _
  | succ n => simp only [mn]; omega
theorem ncd_dg {t : Nat → Nat} {A : Nat} : ∀ n, n ≤ 3 → (∀ i, i < n → 48 ≤ t (A + i) ∧ t (A + i) ≤ 57) → ncd t A n = mn t A n ∧ ncd t A n + 1 ≤ 10 ^ n := by
  intro n
  induction n with
  | zero => intro _ _; exact ⟨rfl, Nat.le_refl _⟩
  | succ n ih =>
    intro h1 h2
    obtain ⟨a, b⟩ := ih (by omega) (fun i hi => h2 i (by omega))
    have c := h2 n (by omega)
    have d : (10 : Nat) ^ n ≤ 10 ^ 2 := Nat.pow_le_pow_right (by decide) (by omega)
    have e : (10 : Nat) ^ (n + 1) = 10 ^ n * 10 := Nat.pow_succ ..
    have d2 : (10 : Nat) ^ 2 = 100 := rfl
    simp only [ncd, mn, nC]
    rw [← a, if_neg (by omega)]
    constructor
    · omega
    · omega
def nuI (t : Nat → Nat) (sz A E : Nat) (n : Nat) : Prop := A + n ≤ sz ∧ (∀ i, i < n → 48 ≤ t (A + i) ∧ t (A + i) ≤ 57) ∧ runN (isDg t) sz (A + n) = E
/-- a number that is taken -/
theorem nuF_0 {t : Nat → Nat} {sz a lo hi n : Nat} (hd : isD (nxV t sz a) = true) (hI : nuI t sz (nxA t sz a) (nuE t sz a) n) (he : nuE t sz a = nxA t sz a + n) (h3 : nxA t sz a + n ≤ nxA t sz a + 3) (hl : lo < 2 ^ 31) (hh : hi < 2 ^ 31) (hr : isInB (nI (mn t (nxA t sz a) n)) (nI lo) (nI hi) = true) : nuF t sz a lo hi = 0 ∧ nuV t sz a = mn t (nxA t sz a) n := by
  have e1 : nuE t sz a - nxA t sz a = n := by omega
  have e2 : nuV t sz a = mn t (nxA t sz a) n := by unfold nuV; rw [e1]; exact (ncd_dg n (by omega) hI.2.1).1
  have hm := mn_le t (nxA t sz a) n
  rw [isInB_rg _ hl hh, rgB, nI_toInt (by omega)] at hr
  have hr := of_decide_eq_true hr
  refine ⟨?_, e2⟩
  unfold nuF
  rw [if_pos hd, if_neg]
  rw [e1, e2]
  omega
theorem nuF_2 {t : Nat → Nat} {sz a lo hi n : Nat} (hd : isD (nxV t sz a) = true) (hI : nuI t sz (nxA t sz a) (nuE t sz a) n) (he : nuE t sz a = nxA t sz a + n) (hl : lo < 2 ^ 31) (hh : hi < 2 ^ 31) (hr : nxA t sz a + 3 < nxA t sz a + n ∨ isInB (nI (mn t (nxA t sz a) n)) (nI lo) (nI hi) = false) : nuF t sz a lo hi = 2 := by
  have e1 : nuE t sz a - nxA t sz a = n := by omega
  unfold nuF
  rw [if_pos hd, if_pos]
  by_cases h3 : 3 < n
  · exact Or.inl (by omega)
  · right
    have e2 : nuV t sz a = mn t (nxA t sz a) n := by unfold nuV; rw [e1]; exact (ncd_dg n (by omega) hI.2.1).1
    have hm := mn_le t (nxA t sz a) n
    rcases hr with h | h
    · omega
    · rw [isInB_rg _ hl hh, rgB, nI_toInt (by omega)] at h
      have h := of_decide_eq_false h
      rw [e2]
      omega
theorem nuF_1 {t : Nat → Nat} {sz a lo hi : Nat} (h : isD (nxV t sz a) = false) : nuF t sz a lo hi = 1 := by
  unfold nuF
  rw [if_neg (by rw [h]; decide)]
