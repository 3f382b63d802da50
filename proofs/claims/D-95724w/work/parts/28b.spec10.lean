/-! the plain words, tenth: a stair's clause, a clause, the town -/
set_option maxRecDepth 100000
theorem wSaid_le {τ : tT} (hx : wfX τ) : wSaid τ ≤ 270000000000026 := by
  obtain ⟨e1, e2, e3, e4⟩ := wEnd_ok hx
  exact wcd_lt _ (fun i hi => (e3 (hrA τ + i) (by omega) (by omega)).2.2)
theorem lg_eq_N {a b : Nat} (ha : a < 2 ^ 63) (hb : b < 2 ^ 63) : lg_cmp (lN a) (lN b) = nI 0 ↔ a = b := by
  rw [show nI 0 = (0 : Int32) from rfl, lg_cmp_eq, pk_lEQ ha hb]
theorem rwT_18 (τ : tT) : rwT τ 0 18 = wSaid τ := by rw [rwT, upc_s, upn_n (by decide), upc_hit]
theorem rwT_19 (τ : tT) : rwT τ 0 19 = wEnd τ := upc_hit _ _ _ _
theorem rwT_17 (τ : tT) : rwT τ 0 17 = hrA τ := by rw [rwT, upc_s, upn_n (by decide), upc_s, upn_n (by decide), hrT, upc_hit]
theorem rwT_k (τ : tT) {k : Nat} (h17 : k ≠ 17) (h18 : k ≠ 18) (h19 : k ≠ 19) : rwT τ 0 k = τ 0 k := by rw [rwT, upc_s, upn_n h19, upc_s, upn_n h18, hrT, upc_s, upn_n h17]
theorem rwT_j (τ : tT) {j : Nat} (h : j ≠ 0) : rwT τ j = τ j := by rw [rwT, upc_n h, upc_n h, hrT, upc_n h]
theorem wfY_rw {τ : tT} (h : wfY τ) : wfY (rwT τ) := by
  refine ⟨?_, ?_, ?_⟩
  · rw [rwT_k _ (by decide) (by decide) (by decide)]; exact h.1
  · rw [rwT_j _ (by decide)]; exact h.2.1
  · rw [rwT_17, rwT_k _ (by decide) (by decide) (by decide)]; exact (wEnd_le h).1
def cPlain : Nat := codeL (code4 112 108 97 105) 110 0
def cOpen : Nat := code4 111 112 101 110
def cLeap : Nat := code4 108 101 97 112
def cPlaces : Nat := codeL (code4 112 108 97 99) 101 115
def cStair : Nat := codeL (code4 115 116 97 105) 114 0
def cPerson : Nat := codeL (code4 112 101 114 115) 111 110
/-- the word's kind of stair -/
def kindW (s : Nat) : Option Nat := if s = cPlain then some 0 else if s = cOpen then some 1 else if s = cLeap then some 2 else none
theorem kindW_lt {s k : Nat} (h : kindW s = some k) : k < 3 := by
  unfold kindW at h
  split at h
  · cases h; decide
  · split at h
    · cases h; decide
    · split at h
      · cases h; decide
      · cases h
def sr0 (τ : tT) : tT := upc τ 0 23 (τ 0 23 + 1)
def sr1 (τ : tT) : tT := rwT (sr0 τ)
def sr2 (τ : tT) (k : Nat) : tT := upc (upc (sr1 τ) 0 17 (sr1 τ 0 19)) 24 (τ 0 23) k
def srF1 (τ : tT) (k : Nat) : Nat := numV (sr2 τ k) 0 (τ 0 22 - 1)
def sr3 (τ : tT) (k : Nat) : tT := intoT (sr2 τ k) 25 (τ 0 23) 0 (τ 0 22 - 1)
def srF (τ : tT) (k : Nat) : Nat := if 0 < srF1 τ k then srF1 τ k else numV (sr3 τ k) 0 (τ 0 22 - 1)
def sr4 (τ : tT) (k : Nat) : tT := if 0 < srF1 τ k then sr3 τ k else intoT (sr3 τ k) 26 (τ 0 23) 0 (τ 0 22 - 1)
def srV (τ : tT) (k : Nat) : Nat := if 0 < srF τ k then srF τ k else if sr4 τ k 25 (τ 0 23) = sr4 τ k 26 (τ 0 23) then 4 else partV (sr4 τ k) (τ 0 23)
def srT (τ : tT) (k : Nat) : tT := if 0 < srF τ k then sr4 τ k else if sr4 τ k 25 (τ 0 23) = sr4 τ k 26 (τ 0 23) then upc (sr4 τ k) 0 16 (sr4 τ k 0 21) else partT (sr4 τ k) (τ 0 23)
def stairV (τ : tT) : Nat := match kindW (sr1 τ 0 18) with
  | none => 1
  | some k => srV τ k
def stairT (τ : tT) : tT := match kindW (sr1 τ 0 18) with
  | none => upc (sr1 τ) 0 16 (sr1 τ 0 17)
  | some k => srT τ k
theorem stairV_n {τ : tT} (h : kindW (sr1 τ 0 18) = none) : stairV τ = 1 ∧ stairT τ = upc (sr1 τ) 0 16 (sr1 τ 0 17) := by
  unfold stairV stairT
  rw [h]
  exact ⟨rfl, rfl⟩
theorem stairV_s {τ : tT} {k : Nat} (h : kindW (sr1 τ 0 18) = some k) : stairV τ = srV τ k ∧ stairT τ = srT τ k := by
  unfold stairV stairT
  rw [h]
  exact ⟨rfl, rfl⟩
theorem wfY_sr1 {τ : tT} (h : wfY τ) : wfY (sr1 τ) := wfY_rw (show wfY (sr0 τ) from ⟨h.1, h.2.1, h.2.2⟩)
theorem wfY_sr2 {τ : tT} (h : wfY τ) (k : Nat) : wfY (sr2 τ k) := by
  refine wfY_up (τ := upc (sr1 τ) 0 17 (sr1 τ 0 19)) ⟨(wfY_sr1 h).1, (wfY_sr1 h).2.1, ?_⟩ _ _ (by decide) (by decide)
  show sr1 τ 0 19 ≤ sr1 τ 0 15
  rw [sr1, rwT_19, rwT_k _ (by decide) (by decide) (by decide)]
  exact (wEnd_le (τ := sr0 τ) ⟨h.1, h.2.1, h.2.2⟩).2
theorem wfY_sr3 {τ : tT} (h : wfY τ) (k : Nat) : wfY (sr3 τ k) := wfY_into (wfY_sr2 h k) _ _ _ (by decide) (by decide)
theorem wfY_sr4 {τ : tT} (h : wfY τ) (k : Nat) : wfY (sr4 τ k) := by
  unfold sr4
  split
  · exact wfY_sr3 h k
  · exact wfY_into (wfY_sr3 h k) _ _ _ (by decide) (by decide)
theorem srF_le (τ : tT) (k : Nat) : srF τ k ≤ 2 := by
  unfold srF
  split
  · exact numV_le _ _ _
  · exact numV_le _ _ _
theorem sr1_k (τ : tT) {k : Nat} (h17 : k ≠ 17) (h18 : k ≠ 18) (h19 : k ≠ 19) (h23 : k ≠ 23) : sr1 τ 0 k = τ 0 k := by rw [sr1, rwT_k _ h17 h18 h19, sr0, upc_s, upn_n h23]
theorem sr2_k (τ : tT) (q : Nat) {k : Nat} (h17 : k ≠ 17) (h18 : k ≠ 18) (h19 : k ≠ 19) (h23 : k ≠ 23) : sr2 τ q 0 k = τ 0 k := by rw [sr2, upc_n (by decide), upc_s, upn_n h17, sr1_k _ h17 h18 h19 h23]
theorem sr3_k (τ : tT) (q : Nat) {k : Nat} (h16 : k ≠ 16) (h17 : k ≠ 17) (h18 : k ≠ 18) (h19 : k ≠ 19) (h20 : k ≠ 20) (h21 : k ≠ 21) (h23 : k ≠ 23) : sr3 τ q 0 k = τ 0 k := by rw [sr3, intoT_k _ _ _ _ (by decide) h16 h17 h20 h21, sr2_k _ _ h17 h18 h19 h23]
theorem numVal_lt {τ : tT} (hx : wfX τ) : nVal τ ≤ 100009 := by
  obtain ⟨e1, e2, e3, e4⟩ := nEnd_ok hx
  exact ncd_lt _ (fun i hi => (e3 (hrA τ + i) (by omega) (by omega)).2.2)
/-- the two ends as read are small -/
theorem sr4_lt {τ : tT} (h : wfY τ) (k : Nat) (hf : srF τ k = 0) : sr4 τ k 25 (τ 0 23) < 2 ^ 31 ∧ sr4 τ k 26 (τ 0 23) < 2 ^ 31 := by
  unfold srF at hf
  by_cases h1 : 0 < srF1 τ k
  · rw [if_pos h1] at hf; omega
  · rw [if_neg h1] at hf
    have h0 : numV (sr2 τ k) 0 (τ 0 22 - 1) = 0 := by show srF1 τ k = 0; omega
    have e : sr4 τ k = intoT (sr3 τ k) 26 (τ 0 23) 0 (τ 0 22 - 1) := by rw [sr4, if_neg h1]
    have v1 := numVal_lt (wfY_sr2 h k).x
    have v2 := numVal_lt (wfY_sr3 h k).x
    constructor
    · rw [e, intoT_j _ _ _ _ (by decide) (by decide), sr3, intoT_hit, (numT_21 h0).2.1]; omega
    · rw [e, intoT_hit, (numT_21 hf).2.1]; omega
theorem lg_ne_w {a b : Nat} (ha : a ≤ 270000000000026) (hb : b < 2 ^ 63) (h : ¬ lg_cmp (lN a) (lN b) = nI 0) : ¬ a = b := fun q => h ((lg_eq_N (by omega) hb).mpr q)
theorem lg_eq_w {a b : Nat} (ha : a ≤ 270000000000026) (hb : b < 2 ^ 63) (h : lg_cmp (lN a) (lN b) = nI 0) : a = b := (lg_eq_N (by omega) hb).mp h
