/-! the plain words, thirteenth: what a clause leaves as it was, and the whole text -/
set_option maxRecDepth 100000
/-- a field that is no scratch of the reading -/
def okK (k : Nat) : Prop := k ≠ 16 ∧ k ≠ 17 ∧ k ≠ 18 ∧ k ≠ 19 ∧ k ≠ 20 ∧ k ≠ 21
theorem k_up (τ : tT) {k m : Nat} (x : Nat) (h : k ≠ m) : upc τ 0 m x 0 k = τ 0 k := by rw [upc_s, upn_n h]
theorem k_upj (τ : tT) {j : Nat} (m x k : Nat) (h : j ≠ 0) : upc τ j m x 0 k = τ 0 k := by rw [upc_n (Ne.symm h)]
theorem k_num (τ : tT) (lo hi : Nat) {k : Nat} (h : okK k) : numT τ lo hi 0 k = τ 0 k := numT_k _ _ _ h.1 h.2.1 h.2.2.2.2.1 h.2.2.2.2.2
theorem k_into (τ : tT) {j : Nat} (m lo hi : Nat) (hj : j ≠ 0) {k : Nat} (h : okK k) : intoT τ j m lo hi 0 k = τ 0 k := intoT_k _ _ _ _ hj h.1 h.2.1 h.2.2.2.2.1 h.2.2.2.2.2
theorem k_hr (τ : tT) {k : Nat} (h : okK k) : hrT τ 0 k = τ 0 k := k_up _ _ h.2.1
theorem k_rw (τ : tT) {k : Nat} (h : okK k) : rwT τ 0 k = τ 0 k := rwT_k _ h.2.1 h.2.2.1 h.2.2.2.1
theorem k_tp1 (τ : tT) (r : Nat) {k : Nat} (h : okK k) : tp1 τ r 0 k = τ 0 k := k_into _ _ _ _ (by decide) h
theorem k_tp2 (τ : tT) (r : Nat) {k : Nat} (h : okK k) : tp2 τ r 0 k = τ 0 k := by rw [tp2, k_upj _ _ _ _ (by decide), k_tp1 _ _ h]
theorem k_tp3 (τ : tT) (r : Nat) {k : Nat} (h : okK k) : tp3 τ r 0 k = τ 0 k := by rw [tp3, k_hr _ h, k_tp2 _ _ h]
theorem k_tp4 (τ : tT) (r : Nat) {k : Nat} (h : okK k) : tp4 τ r 0 k = τ 0 k := by rw [tp4, k_up _ _ h.2.1, k_tp3 _ _ h]
theorem k_tpT (r : Nat) {k : Nat} (h : okK k) : ∀ (f : Nat) (τ : tT), tpT r f τ 0 k = τ 0 k := by
  intro f
  induction f with
  | zero => intro τ; rfl
  | succ f ih =>
    intro τ
    rw [tpT_s]
    split
    · exact k_tp1 _ _ h
    · split
      · split
        · rw [k_up _ _ h.1, k_tp3 _ _ h]
        · rw [ih, k_tp4 _ _ h]
      · exact k_tp3 _ _ h
theorem k_part (τ : tT) (r : Nat) {k : Nat} (h : okK k) : partT τ r 0 k = τ 0 k := by rw [partT, k_tpT r h, takeParts0, k_upj _ _ _ _ (by decide)]
theorem k_sr0 (τ : tT) (k : Nat) : sr0 τ 0 k = if k = 23 then τ 0 23 + 1 else τ 0 k := by rw [sr0, upc_s, upn_if]
theorem k_sr2 (τ : tT) (q : Nat) {k : Nat} (h : okK k) : sr2 τ q 0 k = sr0 τ 0 k := by rw [sr2, k_upj _ _ _ _ (by decide), k_up _ _ h.2.1, sr1, k_rw _ h]
theorem k_sr4 (τ : tT) (q : Nat) {k : Nat} (h : okK k) : sr4 τ q 0 k = sr0 τ 0 k := by
  unfold sr4
  split
  · rw [sr3, k_into _ _ _ _ (by decide) h, k_sr2 _ _ h]
  · rw [k_into _ _ _ _ (by decide) h, sr3, k_into _ _ _ _ (by decide) h, k_sr2 _ _ h]
theorem k_stair (τ : tT) {k : Nat} (h : okK k) : stairT τ 0 k = sr0 τ 0 k := by
  cases hk : kindW (sr1 τ 0 18) with
  | none => rw [(stairV_n hk).2, k_up _ _ h.1, sr1, k_rw _ h]
  | some q =>
    rw [(stairV_s hk).2]
    unfold srT
    split
    · exact k_sr4 _ _ h
    · split
      · rw [k_up _ _ h.1, k_sr4 _ _ h]
      · rw [k_part _ _ h, k_sr4 _ _ h]
theorem k_pn0 (τ : tT) (k : Nat) : pn0 τ 0 k = if k = 29 then τ 0 29 + 1 else τ 0 k := by rw [pn0, upc_s, upn_if]
theorem k_pn3 (τ : tT) {k : Nat} (h : okK k) : pn3 τ 0 k = pn0 τ 0 k := by
  rw [pn3, k_upj _ _ _ _ (by decide)]
  unfold pn2
  split
  · rw [pn1, k_into _ _ _ _ (by decide) h]
  · rw [k_into _ _ _ _ (by decide) h, pn1, k_into _ _ _ _ (by decide) h]
theorem k_pers (τ : tT) {k : Nat} (h : okK k) : persT τ 0 k = pn0 τ 0 k := by
  unfold persT
  split
  · exact k_pn3 _ h
  · split
    · rw [k_into _ _ _ _ (by decide) h, k_hr _ h, k_pn3 _ h]
    · rw [k_hr _ h, k_pn3 _ h]
theorem k_cl2 (τ : tT) {k : Nat} (h : okK k) : cl2 τ 0 k = τ 0 k := cl2_k _ h.2.1 h.2.2.1 h.2.2.2.1
theorem ok22 : okK 22 := ⟨by decide, by decide, by decide, by decide, by decide, by decide⟩
theorem ok23 : okK 23 := ⟨by decide, by decide, by decide, by decide, by decide, by decide⟩
theorem ok29 : okK 29 := ⟨by decide, by decide, by decide, by decide, by decide, by decide⟩
theorem ok15 : okK 15 := ⟨by decide, by decide, by decide, by decide, by decide, by decide⟩
/-- what is known while the text is read -/
def wfC (τ : tT) : Prop := wfY τ ∧ τ 0 22 ≤ 8 ∧ τ 0 23 ≤ 10 ∧ τ 0 29 ≤ 8
/-- how many clauses have been taken -/
def cnt (τ : tT) : Nat := τ 0 23 + τ 0 29 + (if τ 0 22 = 0 then 0 else 1)
theorem cnt_le {τ : tT} (h : wfC τ) : cnt τ ≤ 19 := by
  obtain ⟨-, h1, h2, h3⟩ := h
  unfold cnt
  split <;> omega
/-- a clause that is taken: which, and its state -/
theorem cla_0 {τ : tT} (h : claV τ = 0) : ∃ k, clK (clS τ) = some k ∧ k < 3 ∧ ¬ (0 < k ∧ τ 0 22 = 0) ∧ clFull τ k = false ∧ cqA τ k = 0 ∧ hrV (clB τ k) = some 59 ∧ claT τ = bump (hrT (clB τ k)) := by
  cases hk : clK (clS τ) with
  | none => rw [(cla_n hk).1] at h; cases h
  | some k =>
    obtain ⟨v1, v2⟩ := cla_s hk
    rw [v1, ckV] at h
    refine ⟨k, rfl, clK_lt hk, ?_⟩
    by_cases c1 : 0 < k ∧ τ 0 22 = 0
    · rw [if_pos c1] at h; cases h
    rw [if_neg c1] at h
    by_cases c2 : clFull τ k = true
    · rw [if_pos c2] at h; cases h
    rw [if_neg c2, clEV] at h
    by_cases c3 : cqA τ k = 0
    · rw [if_pos c3] at h
      by_cases c4 : hrV (clB τ k) = some 59
      · exact ⟨c1, by simpa using c2, c3, c4, by rw [v2, ckT, if_neg c1, if_neg c2, clET, if_pos c3, if_pos c4]⟩
      · rw [if_neg c4] at h; cases h
    · rw [if_neg c3] at h; exact absurd h c3
theorem cla_cnt {τ : tT} (hc : wfC τ) (h : claV τ = 0) : wfC (claT τ) ∧ cnt (claT τ) = cnt τ + 1 := by
  obtain ⟨k, -, hk3, c1, c2, c3, c4, e⟩ := cla_0 h
  obtain ⟨hy, h22, h23, h29⟩ := hc
  have hby := wfY_clB hy k
  have kk : ∀ m, okK m → claT τ 0 m = clB τ k 0 m := fun m hm => by rw [e, bump, k_up _ _ hm.2.1, k_hr _ hm]
  have hY : wfY (claT τ) := by
    rw [e]
    have hh := wfY_hr hby
    refine ⟨hh.1, hh.2.1, ?_⟩
    show hrT (clB τ k) 0 17 + 1 ≤ hrT (clB τ k) 0 15
    rw [k_hr _ ok15, hrT, upc_hit]
    unfold hrV at c4
    split at c4
    · omega
    · cases c4
  unfold wfC cnt
  rw [kk 22 ok22, kk 23 ok23, kk 29 ok29]
  unfold clFull at c2
  unfold cqA at c3
  unfold clB
  rcases (show k = 0 ∨ k = 1 ∨ k = 2 by omega) with rfl | rfl | rfl
  · simp only [if_true] at c2 c3 ⊢
    have h0 := of_decide_eq_false c2
    obtain ⟨-, -, -, b1, b2⟩ := numT_0 c3
    have e22 : clP τ 0 22 = nVal (cl2 τ) := by rw [clP, upc_hit, (numT_21 c3).2.1]
    have e23 : clP τ 0 23 = τ 0 23 := by rw [clP, k_up _ _ (by decide), k_num _ _ _ ok23, k_cl2 _ ok23]
    have e29 : clP τ 0 29 = τ 0 29 := by rw [clP, k_up _ _ (by decide), k_num _ _ _ ok29, k_cl2 _ ok29]
    rw [e22, e23, e29, if_neg (by omega), if_pos (show τ 0 22 = 0 by omega)]
    exact ⟨⟨hY, b2, h23, h29⟩, by omega⟩
  · simp only [if_neg (show ¬ (1 = 0) by decide), if_true] at c2 c3 ⊢
    have h0 := of_decide_eq_false c2
    have hp : τ 0 22 ≠ 0 := fun q => c1 ⟨by decide, q⟩
    rw [k_stair _ ok22, k_stair _ ok23, k_stair _ ok29, k_sr0, k_sr0, k_sr0, k_cl2 _ ok22, k_cl2 _ ok23, k_cl2 _ ok29]
    simp only [if_neg (show ¬ (22 = 23) by decide), if_neg (show ¬ (29 = 23) by decide), if_true, if_neg hp]
    exact ⟨⟨hY, h22, by omega, h29⟩, by omega⟩
  · simp only [if_neg (show ¬ (2 = 0) by decide), if_neg (show ¬ (2 = 1) by decide)] at c2 c3 ⊢
    have h0 := of_decide_eq_false c2
    have hp : τ 0 22 ≠ 0 := fun q => c1 ⟨by decide, q⟩
    rw [k_pers _ ok22, k_pers _ ok23, k_pers _ ok29, k_pn0, k_pn0, k_pn0, k_cl2 _ ok22, k_cl2 _ ok23, k_cl2 _ ok29]
    simp only [if_neg (show ¬ (22 = 29) by decide), if_neg (show ¬ (23 = 29) by decide), if_true, if_neg hp]
    exact ⟨⟨hY, h22, h23, by omega⟩, by omega⟩
/-- the whole text: the answer (0, or the fault's number) and the state -/
def prV : Nat → tT → Nat
  | 0, _ => 0
  | f + 1, t => if hrV t = none then 0 else if claV (hrT t) = 0 then prV f (claT (hrT t)) else claV (hrT t)
def prT : Nat → tT → tT
  | 0, t => t
  | f + 1, t => if hrV t = none then hrT t else if claV (hrT t) = 0 then prT f (claT (hrT t)) else claT (hrT t)
theorem prV_s (f : Nat) (t : tT) : prV (f + 1) t = if hrV t = none then 0 else if claV (hrT t) = 0 then prV f (claT (hrT t)) else claV (hrT t) := rfl
theorem prT_s (f : Nat) (t : tT) : prT (f + 1) t = if hrV t = none then hrT t else if claV (hrT t) = 0 then prT f (claT (hrT t)) else claT (hrT t) := rfl
theorem claV_le (τ : tT) : claV τ ≤ 4 := by
  unfold claV
  split
  · omega
  · rename_i k _
    unfold ckV clEV
    have := cqA_le τ k
    split
    · omega
    · split
      · omega
      · split
        · split <;> omega
        · exact this
/-- the reading's loop: its invariant, its measure -/
def prI (V : Nat) (Tf : tT) (x : tT × Nat) : Prop := x.2 ≤ 4 ∧ (x.2 = 0 → wfC x.1 ∧ prV (20 - cnt x.1) x.1 = V ∧ prT (20 - cnt x.1) x.1 = Tf) ∧ (x.2 ≠ 0 → V = x.2 ∧ Tf = x.1)
def prM (x : tT × Nat) : Nat := if x.2 = 0 then 20 - cnt x.1 else 0
theorem wfC_hr {τ : tT} (h : wfC τ) : wfC (hrT τ) ∧ cnt (hrT τ) = cnt τ := by
  unfold wfC cnt
  rw [k_hr _ ok22, k_hr _ ok23, k_hr _ ok29]
  exact ⟨⟨wfY_hr h.1, h.2⟩, rfl⟩
theorem pr_end {V : Nat} {Tf t : tT} (h : prI V Tf (t, 0)) (hn : hrV t = none) : V = 0 ∧ Tf = hrT t := by
  obtain ⟨-, h, -⟩ := h
  obtain ⟨a, b, c⟩ := h rfl
  have a : wfC t := a
  have hc := cnt_le a
  have b : prV (20 - cnt t) t = V := b
  have c : prT (20 - cnt t) t = Tf := c
  rw [show 20 - cnt t = (19 - cnt t) + 1 by omega] at b c
  rw [prV_s, if_pos hn] at b
  rw [prT_s, if_pos hn] at c
  exact ⟨b.symm, c.symm⟩
theorem pr_next {V : Nat} {Tf t : tT} (h : prI V Tf (t, 0)) (hn : hrV t ≠ none) : prI V Tf (claT (hrT t), claV (hrT t)) ∧ prM (claT (hrT t), claV (hrT t)) < prM (t, 0) := by
  obtain ⟨-, h, -⟩ := h
  obtain ⟨a, b, c⟩ := h rfl
  have a : wfC t := a
  have hc := cnt_le a
  have b : prV (20 - cnt t) t = V := b
  have c : prT (20 - cnt t) t = Tf := c
  rw [show 20 - cnt t = (19 - cnt t) + 1 by omega] at b c
  rw [prV_s, if_neg hn] at b
  rw [prT_s, if_neg hn] at c
  obtain ⟨a1, a2⟩ := wfC_hr a
  have hm : prM (t, 0) = 20 - cnt t := rfl
  by_cases hz : claV (hrT t) = 0
  · rw [if_pos hz] at b c
    obtain ⟨d1, d2⟩ := cla_cnt a1 hz
    have e1 : 20 - cnt (claT (hrT t)) = 19 - cnt t := by omega
    refine ⟨⟨claV_le _, fun _ => ⟨d1, ?_, ?_⟩, fun q => absurd hz q⟩, ?_⟩
    · show prV (20 - cnt (claT (hrT t))) _ = V; rw [e1]; exact b
    · show prT (20 - cnt (claT (hrT t))) _ = Tf; rw [e1]; exact c
    · have : prM (claT (hrT t), claV (hrT t)) = 20 - cnt (claT (hrT t)) := by unfold prM; rw [if_pos hz]
      omega
  · rw [if_neg hz] at b c
    refine ⟨⟨claV_le _, fun q => absurd q hz, fun _ => ⟨b.symm, c.symm⟩⟩, ?_⟩
    have : prM (claT (hrT t), claV (hrT t)) = 0 := by unfold prM; rw [if_neg hz]
    omega
