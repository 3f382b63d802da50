/-! the plain words, ninth: the clauses, as the model takes them: an answer (0, or the fault's number) and a state -/
set_option maxRecDepth 100000
def intoT (τ : tT) (j k lo hi : Nat) : tT := upc (numT τ lo hi) j k ((numT τ lo hi) 0 20)
/-- the text's place is in the text -/
def wfY (τ : tT) : Prop := τ 0 15 ≤ 500 ∧ (∀ k, k < 500 → τ 14 k < 256) ∧ τ 0 17 ≤ τ 0 15
theorem wfY.x {τ : tT} (h : wfY τ) : wfX τ := ⟨h.1, h.2.1, by have := h.1; have := h.2.2; omega⟩
theorem wfY_hr {τ : tT} (h : wfY τ) : wfY (hrT τ) := ⟨h.1, h.2.1, by
  show hrA τ ≤ τ 0 15
  exact (hrA_ok h.x).2.2.2 h.2.2⟩
theorem nEnd_le {τ : tT} (h : wfY τ) : hrA τ ≤ τ 0 15 ∧ nEnd τ ≤ τ 0 15 := by
  have h1 := (hrA_ok h.x).2.2.2 h.2.2
  exact ⟨h1, (runN_ok (isDg (τ 14)) h1).2.1⟩
theorem wEnd_le {τ : tT} (h : wfY τ) : hrA τ ≤ τ 0 15 ∧ wEnd τ ≤ τ 0 15 := by
  have h1 := (hrA_ok h.x).2.2.2 h.2.2
  exact ⟨h1, (runN_ok (isLt (τ 14)) h1).2.1⟩
/-- what numT leaves as it was -/
theorem numT_j (τ : tT) (lo hi : Nat) {j : Nat} (h : j ≠ 0) : numT τ lo hi j = τ j := by
  unfold numT numB
  split
  · split
    · rw [upc_n h, upc_n h, upc_n h, upc_n h]
    · rw [upc_n h, upc_n h, upc_n h]
  · rw [upc_n h, upc_n h]
theorem numT_k (τ : tT) (lo hi : Nat) {k : Nat} (h16 : k ≠ 16) (h17 : k ≠ 17) (h20 : k ≠ 20) (h21 : k ≠ 21) : numT τ lo hi 0 k = τ 0 k := by
  unfold numT numB
  split
  · split
    · rw [upc_s, upn_n h16, upc_s, upn_n h20, upc_s, upn_n h21, upc_s, upn_n h17]
    · rw [upc_s, upn_n h20, upc_s, upn_n h21, upc_s, upn_n h17]
  · rw [upc_s, upn_n h16, upc_s, upn_n h17]
theorem numT_17 {τ : tT} (h : wfY τ) (lo hi : Nat) : numT τ lo hi 0 17 ≤ τ 0 15 := by
  obtain ⟨a, b⟩ := nEnd_le h
  unfold numT numB
  split
  · split
    · rw [upc_s, upn_n (by decide), upc_s, upn_n (by decide), upc_s, upn_n (by decide), upc_hit]; exact b
    · rw [upc_s, upn_n (by decide), upc_s, upn_n (by decide), upc_hit]; exact b
  · rw [upc_s, upn_n (by decide), upc_hit]; exact a
theorem numT_0 {τ : tT} {lo hi : Nat} (h : numV τ lo hi = 0) : numT τ lo hi = numB τ ∧ isD (hrV τ) = true ∧ nEnd τ - hrA τ ≤ 3 ∧ lo ≤ nVal τ ∧ nVal τ ≤ hi := by
  unfold numV at h
  unfold numT
  split at h
  · rename_i hd
    split at h
    · cases h
    · rename_i hn
      rw [if_pos hd, if_neg hn]
      exact ⟨rfl, hd, by omega, by omega, by omega⟩
  · cases h
theorem numT_21 {τ : tT} {lo hi : Nat} (h : numV τ lo hi = 0) : numT τ lo hi 0 21 = hrA τ ∧ numT τ lo hi 0 20 = nVal τ ∧ numT τ lo hi 0 17 = nEnd τ := by
  rw [(numT_0 h).1, numB]
  exact ⟨by rw [upc_s, upn_n (by decide), upc_hit], upc_hit _ _ _ _, by rw [upc_s, upn_n (by decide), upc_s, upn_n (by decide), upc_hit]⟩
theorem wfY_num {τ : tT} (h : wfY τ) (lo hi : Nat) : wfY (numT τ lo hi) := by
  refine ⟨?_, ?_, ?_⟩
  · rw [numT_k _ _ _ (by decide) (by decide) (by decide) (by decide)]; exact h.1
  · rw [numT_j _ _ _ (by decide)]; exact h.2.1
  · rw [numT_k τ lo hi (k := 15) (by decide) (by decide) (by decide) (by decide)]; exact numT_17 h lo hi
theorem wfY_into {τ : tT} (h : wfY τ) {j : Nat} (k lo hi : Nat) (hj : j ≠ 0) (hj2 : j ≠ 14) : wfY (intoT τ j k lo hi) := by
  have e0 : intoT τ j k lo hi 0 = numT τ lo hi 0 := upc_n (Ne.symm hj)
  have e14 : intoT τ j k lo hi 14 = numT τ lo hi 14 := upc_n (Ne.symm hj2)
  have hn := wfY_num h lo hi
  unfold wfY
  rw [e0, e14]
  exact hn
theorem numV_le (τ : tT) (lo hi : Nat) : numV τ lo hi ≤ 2 := by
  unfold numV
  split
  · split <;> omega
  · omega
theorem intoT_0 (τ : tT) {j : Nat} (k lo hi : Nat) (hj : j ≠ 0) : intoT τ j k lo hi 0 = numT τ lo hi 0 := upc_n (Ne.symm hj)
theorem intoT_k (τ : tT) {j : Nat} (k lo hi : Nat) (hj : j ≠ 0) {m : Nat} (h16 : m ≠ 16) (h17 : m ≠ 17) (h20 : m ≠ 20) (h21 : m ≠ 21) : intoT τ j k lo hi 0 m = τ 0 m := by rw [intoT_0 _ _ _ _ hj, numT_k _ _ _ h16 h17 h20 h21]
theorem intoT_j (τ : tT) {j i : Nat} (k lo hi : Nat) (hi0 : i ≠ 0) (hij : i ≠ j) : intoT τ j k lo hi i = τ i := by rw [intoT, upc_n hij, numT_j _ _ _ hi0]
theorem intoT_hit (τ : tT) (j k lo hi : Nat) : intoT τ j k lo hi j k = numT τ lo hi 0 20 := upc_hit _ _ _ _
/-- a person's clause, step by step -/
def pn0 (τ : tT) : tT := upc τ 0 29 (τ 0 29 + 1)
def pnF1 (τ : tT) : Nat := numV (pn0 τ) 0 (τ 0 22 - 1)
def pn1 (τ : tT) : tT := intoT (pn0 τ) 30 (τ 0 29) 0 (τ 0 22 - 1)
def pnF (τ : tT) : Nat := if 0 < pnF1 τ then pnF1 τ else numV (pn1 τ) 1 24
def pn2 (τ : tT) : tT := if 0 < pnF1 τ then pn1 τ else intoT (pn1 τ) 31 (τ 0 29) 1 24
def pn3 (τ : tT) : tT := upc (pn2 τ) 32 (τ 0 29) 0
def persV (τ : tT) : Nat := if 0 < pnF τ then pnF τ else if isD (hrV (pn3 τ)) = true then numV (hrT (pn3 τ)) 1 24 else 0
def persT (τ : tT) : tT := if 0 < pnF τ then pn3 τ else if isD (hrV (pn3 τ)) = true then intoT (hrT (pn3 τ)) 32 (τ 0 29) 1 24 else hrT (pn3 τ)
theorem wfY_pn0 {τ : tT} (h : wfY τ) : wfY (pn0 τ) := ⟨h.1, h.2.1, h.2.2⟩
theorem wfY_pn1 {τ : tT} (h : wfY τ) : wfY (pn1 τ) := wfY_into (wfY_pn0 h) _ _ _ (by decide) (by decide)
theorem wfY_pn2 {τ : tT} (h : wfY τ) : wfY (pn2 τ) := by
  unfold pn2
  split
  · exact wfY_pn1 h
  · exact wfY_into (wfY_pn1 h) _ _ _ (by decide) (by decide)
theorem wfY_up {τ : tT} (h : wfY τ) {j : Nat} (k x : Nat) (hj : j ≠ 0) (hj2 : j ≠ 14) : wfY (upc τ j k x) := by
  unfold wfY
  rw [upc_n (Ne.symm hj), upc_n (Ne.symm hj2)]
  exact h
theorem wfY_pn3 {τ : tT} (h : wfY τ) : wfY (pn3 τ) := wfY_up (wfY_pn2 h) _ _ (by decide) (by decide)
theorem pn1_k (τ : tT) {m : Nat} (h16 : m ≠ 16) (h17 : m ≠ 17) (h20 : m ≠ 20) (h21 : m ≠ 21) (h29 : m ≠ 29) : pn1 τ 0 m = τ 0 m := by
  rw [pn1, intoT_k _ _ _ _ (by decide) h16 h17 h20 h21, pn0, upc_s, upn_n h29]
theorem pnF_le (τ : tT) : pnF τ ≤ 2 := by
  unfold pnF
  split
  · exact numV_le _ _ _
  · exact numV_le _ _ _
/-- the parts of the stair r, from the part readParts[r] on -/
def tp1 (τ : tT) (r : Nat) : tT := intoT τ 28 (3 * r + τ 27 r) 1 720
def tp2 (τ : tT) (r : Nat) : tT := upc (tp1 τ r) 27 r (τ 27 r + 1)
def tp3 (τ : tT) (r : Nat) : tT := hrT (tp2 τ r)
def tp4 (τ : tT) (r : Nat) : tT := upc (tp3 τ r) 0 17 (tp3 τ r 0 17 + 1)
def tpV (r : Nat) : Nat → tT → Nat
  | 0, _ => 0
  | f + 1, τ => if 0 < numV τ 1 720 then numV τ 1 720 else if hrV (tp2 τ r) = some 44 then (if τ 27 r + 1 = 3 then 1 else tpV r f (tp4 τ r)) else 0
def tpT (r : Nat) : Nat → tT → tT
  | 0, τ => τ
  | f + 1, τ => if 0 < numV τ 1 720 then tp1 τ r else if hrV (tp2 τ r) = some 44 then (if τ 27 r + 1 = 3 then upc (tp3 τ r) 0 16 (tp3 τ r 0 17) else tpT r f (tp4 τ r)) else tp3 τ r
theorem tpV_s (r f : Nat) (τ : tT) : tpV r (f + 1) τ = if 0 < numV τ 1 720 then numV τ 1 720 else if hrV (tp2 τ r) = some 44 then (if τ 27 r + 1 = 3 then 1 else tpV r f (tp4 τ r)) else 0 := rfl
theorem tpT_s (r f : Nat) (τ : tT) : tpT r (f + 1) τ = if 0 < numV τ 1 720 then tp1 τ r else if hrV (tp2 τ r) = some 44 then (if τ 27 r + 1 = 3 then upc (tp3 τ r) 0 16 (tp3 τ r 0 17) else tpT r f (tp4 τ r)) else tp3 τ r := rfl
theorem wfY_tp1 {τ : tT} (h : wfY τ) (r : Nat) : wfY (tp1 τ r) := wfY_into h _ _ _ (by decide) (by decide)
theorem wfY_tp2 {τ : tT} (h : wfY τ) (r : Nat) : wfY (tp2 τ r) := wfY_up (wfY_tp1 h r) _ _ (by decide) (by decide)
theorem wfY_tp3 {τ : tT} (h : wfY τ) (r : Nat) : wfY (tp3 τ r) := wfY_hr (wfY_tp2 h r)
theorem wfY_tp4 {τ : tT} (h : wfY τ) (r : Nat) (hc : hrV (tp2 τ r) = some 44) : wfY (tp4 τ r) := by
  have h3 := wfY_tp3 h r
  refine ⟨h3.1, h3.2.1, ?_⟩
  show tp3 τ r 0 17 + 1 ≤ tp3 τ r 0 15
  have e : tp3 τ r 0 17 = hrA (tp2 τ r) := by rw [tp3, hrT, upc_hit]
  have e2 : tp3 τ r 0 15 = tp2 τ r 0 15 := rfl
  rw [e, e2]
  unfold hrV at hc
  split at hc
  · omega
  · cases hc
theorem tp4_27 (τ : tT) (r : Nat) : tp4 τ r 27 r = τ 27 r + 1 := by
  rw [tp4, upc_n (by decide), tp3, hrT, upc_n (by decide), tp2, upc_hit]
/-- the loop's state: more rounds, or none -/
def takeParts0 (τ : tT) (r : Nat) : tT := upc τ 27 r 0
theorem oI_eq {o : Option Nat} {c : Nat} (h : ∀ k, o = some k → k < 256) (hc : c < 256) : oI o = nI c ↔ o = some c := by
  cases o with
  | none =>
    simp only [oI, reduceCtorEq, iff_false]
    intro q
    have := nI_pos (n := c) (by omega)
    rw [← q] at this
    exact this (by decide)
  | some k =>
    have := h k rfl
    simp only [oI, Option.some.injEq]
    exact nI_eq (by omega) (by omega)
/-- the parts' loop: its invariant -/
def tpI (r V : Nat) (Tf : tT) (x : tT × Bool) : Prop := wfY x.1 ∧ x.1 27 r ≤ 3 ∧ (x.2 = true → x.1 27 r < 3 ∧ tpV r (3 - x.1 27 r) x.1 = V ∧ tpT r (3 - x.1 27 r) x.1 = Tf) ∧ (x.2 = false → V = 0 ∧ Tf = x.1)
def tpM (r : Nat) (x : tT × Bool) : Nat := 3 - x.1 27 r + bN x.2
theorem tp1_27 (τ : tT) (r : Nat) : tp1 τ r 27 = τ 27 := intoT_j _ _ _ _ (by decide) (by decide)
theorem tp3_27 (τ : tT) (r : Nat) : tp3 τ r 27 r = τ 27 r + 1 := by rw [tp3, hrT, upc_n (by decide), tp2, upc_hit]
theorem tp_unf {r V : Nat} {Tf t : tT} (h : tpI r V Tf (t, true)) : t 27 r < 3 ∧ (V = if 0 < numV t 1 720 then numV t 1 720 else if hrV (tp2 t r) = some 44 then (if t 27 r + 1 = 3 then 1 else tpV r (2 - t 27 r) (tp4 t r)) else 0) ∧ (Tf = if 0 < numV t 1 720 then tp1 t r else if hrV (tp2 t r) = some 44 then (if t 27 r + 1 = 3 then upc (tp3 t r) 0 16 (tp3 t r 0 17) else tpT r (2 - t 27 r) (tp4 t r)) else tp3 t r) := by
  obtain ⟨-, -, h, -⟩ := h
  obtain ⟨a, b, c⟩ := h rfl
  have a : t 27 r < 3 := a
  have b : tpV r (3 - t 27 r) t = V := b
  have c : tpT r (3 - t 27 r) t = Tf := c
  rw [show 3 - t 27 r = (2 - t 27 r) + 1 by omega] at b c
  exact ⟨a, by rw [← b, tpV_s], by rw [← c, tpT_s]⟩
theorem tp_next {r V : Nat} {Tf t : tT} (h : tpI r V Tf (t, true)) (h0 : numV t 1 720 = 0) : (hrV (tp2 t r) = some 44 → t 27 r + 1 ≠ 3 → tpI r V Tf (tp4 t r, true) ∧ tpM r (tp4 t r, true) < tpM r (t, true)) ∧ (hrV (tp2 t r) ≠ some 44 → tpI r V Tf (tp3 t r, false) ∧ tpM r (tp3 t r, false) < tpM r (t, true)) := by
  obtain ⟨h1, h2, h3⟩ := tp_unf h
  have hy : wfY t := h.1
  rw [if_neg (by omega)] at h2 h3
  constructor
  · intro hc hn
    rw [if_pos hc, if_neg hn] at h2 h3
    refine ⟨⟨wfY_tp4 hy r hc, ?_, fun _ => ⟨?_, ?_, ?_⟩, fun e => by cases e⟩, ?_⟩
    · show tp4 t r 27 r ≤ 3; rw [tp4_27]; omega
    · show tp4 t r 27 r < 3; rw [tp4_27]; omega
    · show tpV r (3 - tp4 t r 27 r) (tp4 t r) = V; rw [tp4_27, show 3 - (t 27 r + 1) = 2 - t 27 r by omega]; exact h2.symm
    · show tpT r (3 - tp4 t r 27 r) (tp4 t r) = Tf; rw [tp4_27, show 3 - (t 27 r + 1) = 2 - t 27 r by omega]; exact h3.symm
    · show 3 - tp4 t r 27 r + 1 < 3 - t 27 r + 1; rw [tp4_27]; omega
  · intro hc
    rw [if_neg hc] at h2 h3
    refine ⟨⟨wfY_tp3 hy r, ?_, (fun e => by cases e), fun _ => ⟨h2, h3⟩⟩, ?_⟩
    · show tp3 t r 27 r ≤ 3; rw [tp3_27]; omega
    · show 3 - tp3 t r 27 r + 0 < 3 - t 27 r + 1; rw [tp3_27]; omega
def partV (τ : tT) (r : Nat) : Nat := tpV r 3 (takeParts0 τ r)
def partT (τ : tT) (r : Nat) : tT := tpT r 3 (takeParts0 τ r)
theorem tp_start {τ : tT} (h : wfY τ) (r : Nat) : tpI r (partV τ r) (partT τ r) (takeParts0 τ r, true) := by
  have e : takeParts0 τ r 27 r = 0 := upc_hit _ _ _ _
  refine ⟨wfY_up h _ _ (by decide) (by decide), ?_, fun _ => ⟨?_, ?_, ?_⟩, fun q => by cases q⟩
  · show takeParts0 τ r 27 r ≤ 3; rw [e]; omega
  · show takeParts0 τ r 27 r < 3; rw [e]; omega
  · show tpV r (3 - takeParts0 τ r 27 r) _ = _; rw [e]; rfl
  · show tpT r (3 - takeParts0 τ r 27 r) _ = _; rw [e]; rfl
