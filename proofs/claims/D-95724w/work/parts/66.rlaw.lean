/-! the plain law of reading: the reader's clauses and the model's -/
set_option maxRecDepth 100000
/-- letters as digits, the last ahead -/
def dgs : Nat → List Nat
  | 0 => [14, 9, 1, 12, 16]
  | 1 => [14, 5, 16, 15]
  | 2 => [16, 1, 5, 12]
  | 3 => [19, 5, 3, 1, 12, 16]
  | 4 => [18, 9, 1, 20, 19]
  | _ => [14, 15, 19, 18, 5, 16]
def kr : List Nat → Nat
  | [] => 0
  | d :: ds => 27 * kr ds + d
theorem wcd_kr {t : Nat → Nat} {A : Nat} : ∀ (ds : List Nat), (∀ d ∈ ds, 1 ≤ d ∧ d ≤ 26) → kr ds ≤ 10000000000000 → ∀ n, (∀ i, i < n → 97 ≤ t (A + i) ∧ t (A + i) ≤ 122) → (wcd t A n = kr ds ↔ n = ds.length ∧ ∀ j, j < n → t (A + (n - 1 - j)) = 96 + ds.getD j 0)
  | [], _, _, 0, _ => ⟨fun _ => ⟨rfl, fun j hj => absurd hj (Nat.not_lt_zero j)⟩, fun _ => rfl⟩
  | [], _, _, n + 1, hl => by
    have := hl n (by omega)
    refine ⟨fun h => ?_, fun h => by cases h.1⟩
    simp only [wcd, wC, kr] at h
    split at h <;> omega
  | d :: ds, hd, _, 0, _ => by
    have := hd d List.mem_cons_self
    refine ⟨fun h => ?_, fun h => by cases h.1⟩
    simp only [wcd, kr] at h
    omega
  | d :: ds, hd, hk, n + 1, hl => by
    have h1 := hl n (by omega)
    have h2 := hd d List.mem_cons_self
    have hk' : kr ds ≤ 10000000000000 := by simp only [kr] at hk; omega
    have ih := wcd_kr ds (fun x hx => hd x (List.mem_cons_of_mem _ hx)) hk' n (fun i hi => hl i (by omega))
    have e1 : wcd t A (n + 1) = kr (d :: ds) ↔ wcd t A n = kr ds ∧ t (A + n) = 96 + d := by
      simp only [wcd, wC, kr] at hk ⊢
      split <;> omega
    rw [e1, ih]
    constructor
    · rintro ⟨⟨a, b⟩, c⟩
      refine ⟨by simp [a], fun j hj => ?_⟩
      cases j with
      | zero => simpa using c
      | succ j =>
        have := b j (by omega)
        rw [show n + 1 - 1 - (j + 1) = n - 1 - j by omega, this]
        simp
    · rintro ⟨a, b⟩
      refine ⟨⟨by simpa using a, fun j hj => ?_⟩, ?_⟩
      · have := b (j + 1) (by omega)
        rw [show n + 1 - 1 - (j + 1) = n - 1 - j by omega] at this
        rw [this]
        simp
      · have := b 0 (by omega)
        simpa using this
theorem dgs_ok : ∀ i, i < 6 → (dgs i).length = sLen.getD i 0 ∧ (∀ d ∈ dgs i, 1 ≤ d ∧ d ≤ 26) ∧ kr (dgs i) ≤ 10000000000000 := by decide
theorem sByt_dg : ∀ i, i < 6 → ∀ j, j < 6 → j < sLen.getD i 0 → (sByt.getD i []).getD j 0 = nI (96 + (dgs i).getD (sLen.getD i 0 - 1 - j) 0) := by decide
theorem dgs_26 : ∀ i, i < 6 → ∀ j, j < 6 → (dgs i).getD j 0 ≤ 26 := by decide
theorem eqB_wcd {t : Nat → Nat} {A n i : Nat} (hi : i < 6) (hl : ∀ k, k < n → 97 ≤ t (A + k) ∧ t (A + k) ≤ 122) : eqB n (fun k => nI (t (A + k))) i = decide (wcd t A n = kr (dgs i)) := by
  obtain ⟨h1, h2, h3⟩ := dgs_ok i hi
  have h6 := sLen_le i hi
  unfold eqB
  congr 1
  apply propext
  rw [wcd_kr (dgs i) h2 h3 n hl, h1]
  constructor
  · rintro ⟨a, b⟩
    refine ⟨a, fun j hj => ?_⟩
    have hb := b (n - 1 - j) (by omega)
    rw [sByt_dg i hi (n - 1 - j) (by omega) (by omega)] at hb
    have h9 := hl (n - 1 - j) (by omega)
    have h8 := dgs_26 i hi (sLen.getD i 0 - 1 - (n - 1 - j)) (by omega)
    have e := (nI_eq (by omega) (by omega)).mp hb
    rw [e, show sLen.getD i 0 - 1 - (n - 1 - j) = j by omega]
  · rintro ⟨a, b⟩
    refine ⟨a, fun j hj => ?_⟩
    rw [sByt_dg i hi j (by omega) (by omega)]
    have hb := b (n - 1 - j) (by omega)
    rw [show n - 1 - (n - 1 - j) = j by omega] at hb
    show nI (t (A + j)) = _
    rw [hb, show n - 1 - j = sLen.getD i 0 - 1 - j by omega]
theorem kr_0 : kr (dgs 0) = cPlain := by decide
theorem kr_1 : kr (dgs 1) = cOpen := by decide
theorem kr_2 : kr (dgs 2) = cLeap := by decide
theorem kr_3 : kr (dgs 3) = cPlaces := by decide
theorem kr_4 : kr (dgs 4) = cStair := by decide
theorem kr_5 : kr (dgs 5) = cPerson := by decide
def wdS (t : Nat → Nat) (sz a : Nat) : Nat := wcd t (nxA t sz a) (wdW t sz a - nxA t sz a)
theorem wdEq_wcd {t : Nat → Nat} {sz a i : Nat} (hi : i < 6) (ha : a ≤ sz) : wdEq t sz a i = decide (wdS t sz a = kr (dgs i)) := by
  refine eqB_wcd hi (fun k hk => ?_)
  have := (runN_ok (isLt t) (nxA_le (t := t) ha).2).2.2.1 (nxA t sz a + k) (by omega) (by unfold wdW at hk; omega)
  exact of_decide_eq_true this
theorem stK_kind {t : Nat → Nat} {sz a : Nat} (ha : a ≤ sz) : stK t sz a = kindW (wdS t sz a) := by
  unfold stK kindW
  rw [wdEq_wcd (by decide) ha, wdEq_wcd (by decide) ha, wdEq_wcd (by decide) ha, kr_0, kr_1, kr_2]
  simp only [decide_eq_true_eq]
theorem wdK_cl {t : Nat → Nat} {sz a : Nat} (ha : a ≤ sz) : wdK t sz a = clK (wdS t sz a) := by
  unfold wdK clK
  rw [wdEq_wcd (by decide) ha, wdEq_wcd (by decide) ha, wdEq_wcd (by decide) ha, kr_3, kr_4, kr_5]
  simp only [decide_eq_true_eq]
/-- numbers -/
theorem num_v {τ : tT} {lo hi : Nat} : numV τ lo hi = nuF (τ 14) (τ 0 15) (τ 0 17) lo hi := rfl
theorem num_e {τ : tT} {lo hi : Nat} (h : numV τ lo hi ≠ 0) : numT τ lo hi 0 16 = nxA (τ 14) (τ 0 15) (τ 0 17) := by
  unfold numV at h
  unfold numT
  split
  · rename_i hd
    rw [if_pos hd] at h
    split
    · exact upc_hit _ _ _ _
    · rename_i h2; rw [if_neg h2] at h; exact absurd rfl h
  · exact upc_hit _ _ _ _
theorem num_o {τ : tT} {lo hi : Nat} (h : numV τ lo hi = 0) : numT τ lo hi 0 17 = nuE (τ 14) (τ 0 15) (τ 0 17) ∧ numT τ lo hi 0 20 = nuV (τ 14) (τ 0 15) (τ 0 17) ∧ numT τ lo hi 0 21 = nxA (τ 14) (τ 0 15) (τ 0 17) := ⟨(numT_21 h).2.2, (numT_21 h).2.1, (numT_21 h).1⟩
theorem nxA_id {t : Nat → Nat} {sz a : Nat} (h : a ≤ sz) : nxA t sz (nxA t sz a) = nxA t sz a := by
  obtain ⟨-, h2, -, h4⟩ := runN_ok (isSp t) h
  have h2 : nxA t sz a ≤ sz := h2
  by_cases hc : nxA t sz a < sz
  · exact runN_e (p := isSp t) (h4 hc)
  · exact runN_big _ (by omega)
theorem nxV_id {t : Nat → Nat} {sz a : Nat} (h : a ≤ sz) : nxV t sz (nxA t sz a) = nxV t sz a := by unfold nxV; rw [nxA_id h]
theorem nuF_d {t : Nat → Nat} {sz a lo hi : Nat} (h : nuF t sz a lo hi = 0) : isD (nxV t sz a) = true := by
  unfold nuF at h
  split at h
  · assumption
  · cases h
