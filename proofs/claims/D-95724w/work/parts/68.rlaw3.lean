/-! the plain law of reading: parts, stairs -/
set_option maxRecDepth 100000
section SL
variable {t : Nat → Nat} {sz r : Nat}
/-- what the parts leave: σ' behind them -/
def tpO (r m m' : Nat) (σ σ' : tT) (g g' : Nat → Int32) : Prop :=
  m < m' ∧ m' ≤ 3 ∧ σ' 27 r = m' ∧ (∀ j, j ≠ 0 → j ≠ 27 → j ≠ 28 → σ' j = σ j) ∧ (∀ i, i ≠ r → σ' 27 i = σ 27 i) ∧ (∀ i, (i < 3 * r + m ∨ 3 * r + 3 ≤ i) → σ' 28 i = σ 28 i) ∧ (∀ k, k < m → g' k = g k) ∧ (∀ k, m ≤ k → k < m' → g' k = nI (σ' 28 (3 * r + k)) ∧ 1 ≤ σ' 28 (3 * r + k) ∧ σ' 28 (3 * r + k) ≤ 720) ∧ ∀ k, m' ≤ k → g' k = g k
theorem tp_ok : ∀ (f : Nat) (σ : tT) (a m : Nat) (g : Nat → Int32) (o : Nat × Nat × (Nat → Int32)), vw σ t sz a → σ 27 r = m → m < 3 → ptR t sz f a m g o → tpV r f σ = 0 ∧ vw (tpT r f σ) t sz o.1 ∧ tpO r m o.2.1 σ (tpT r f σ) g o.2.2 := by
  intro f
  induction f with
  | zero => intro σ a m g o v h27 hm h; exact h.elim
  | succ f ih =>
    intro σ a m g o v h27 hm h
    obtain ⟨f0, h⟩ := h
    have fV : numV σ 1 720 = 0 := v.num.trans f0
    obtain ⟨v1, w1⟩ := v.into (j := 28) (3 * r + m) (by decide) (by decide) f0
    have e1 : tp1 σ r = intoT σ 28 (3 * r + m) 1 720 := by unfold tp1; rw [h27]
    rw [← e1] at v1 w1
    have n1 : ∀ j, j ≠ 0 → j ≠ 28 → tp1 σ r j = σ j := fun j h0 h8 => by rw [e1, intoT_j _ _ _ _ h0 h8]
    have v2 : vw (tp2 σ r) t sz (nuE t sz a) := v1.up _ _ (by decide) (by decide)
    have e2 : tp2 σ r = upc (tp1 σ r) 27 r (m + 1) := by unfold tp2; rw [h27]
    have v3 : vw (tp3 σ r) t sz (nxA t sz (nuE t sz a)) := v2.hr
    have n3 : ∀ j, j ≠ 0 → tp3 σ r j = tp2 σ r j := fun j h => upc_n h
    have x3 : ∀ i, tp3 σ r 27 i = if i = r then m + 1 else σ 27 i := fun i => by rw [n3 _ (by decide), e2, upc_s, upn_if, n1 _ (by decide) (by decide)]
    have y3 : ∀ i, tp3 σ r 28 i = if i = 3 * r + m then nuV t sz a else σ 28 i := fun i => by rw [n3 _ (by decide), e2, upc_n (by decide), w1, upn_if]
    have z3 : ∀ j, j ≠ 0 → j ≠ 27 → j ≠ 28 → tp3 σ r j = σ j := fun j h0 h7 h8 => by rw [n3 _ h0, e2, upc_n h7, n1 _ h0 h8]
    have rg := nuV_rg f0
    rcases h with ⟨hv, hm3, h⟩ | ⟨hv, rfl⟩
    · have hv' : hrV (tp2 σ r) = some 44 := v2.hv.trans hv
      have eV : tpV r (f + 1) σ = tpV r f (tp4 σ r) := by rw [tpV_s, fV, if_neg (by decide), if_pos hv', h27, if_neg (by omega)]
      have eT : tpT r (f + 1) σ = tpT r f (tp4 σ r) := by rw [tpT_s, fV, if_neg (by decide), if_pos hv', h27, if_neg (by omega)]
      have v4 : vw (tp4 σ r) t sz (nxA t sz (nuE t sz a) + 1) := by unfold tp4; rw [v3.2.2]; exact v3.at _
      have n4 : ∀ j, j ≠ 0 → tp4 σ r j = tp3 σ r j := fun j h => upc_n h
      obtain ⟨a1, a2, b1, b2, b3, b4, b5, b6, b7, b8, b9⟩ := ih (tp4 σ r) _ (m + 1) _ o v4 (by rw [n4 _ (by decide), x3, if_pos rfl]) hm3 h
      rw [eV, eT]
      refine ⟨a1, a2, by omega, b2, b3, ?_, ?_, ?_, ?_, ?_, ?_⟩
      · intro j h0 h7 h8
        rw [b4 j h0 h7 h8, n4 _ h0, z3 j h0 h7 h8]
      · intro i hi
        rw [b5 i hi, n4 _ (by decide), x3, if_neg hi]
      · intro i hi
        rw [b6 i (by omega), n4 _ (by decide), y3, if_neg (by omega)]
      · intro k hk
        rw [b7 k (by omega)]
        exact if_neg (by omega)
      · intro k h1 h2
        by_cases hk : k = m
        · subst hk
          have q1 := b6 (3 * r + k) (Or.inl (by omega))
          rw [n4 _ (by decide), y3, if_pos rfl] at q1
          rw [q1, b7 k (by omega)]
          exact ⟨if_pos rfl, rg⟩
        · exact b8 k (by omega) h2
      · intro k hk
        rw [b9 k hk]
        exact if_neg (by omega)
    · have hv' : ¬ hrV (tp2 σ r) = some 44 := by rw [v2.hv]; exact hv
      have eV : tpV r (f + 1) σ = 0 := by rw [tpV_s, fV, if_neg (by decide), if_neg hv']
      have eT : tpT r (f + 1) σ = tp3 σ r := by rw [tpT_s, fV, if_neg (by decide), if_neg hv']
      rw [eV, eT]
      refine ⟨rfl, v3, by show m < m + 1; omega, by show m + 1 ≤ 3; omega, by rw [x3, if_pos rfl], z3, fun i hi => by rw [x3, if_neg hi], fun i hi => by rw [y3, if_neg (by omega)], fun k hk => if_neg (by omega), fun k h1 h2 => ?_, fun k hk => ?_⟩
      · have h2 : k < m + 1 := h2
        obtain rfl : k = m := by omega
        rw [y3, if_pos rfl]
        exact ⟨if_pos rfl, rg⟩
      · have hk : m + 1 ≤ k := hk
        exact if_neg (by omega)
theorem tp_er : ∀ (f : Nat) (σ : tT) (a m fa fb : Nat), vw σ t sz a → σ 27 r = m → m < 3 → ptE t sz f a m fa fb → tpV r f σ = fa ∧ fa ≠ 0 ∧ tpT r f σ 0 16 = fb := by
  intro f
  induction f with
  | zero => intro σ a m fa fb v h27 hm h; exact h.elim
  | succ f ih =>
    intro σ a m fa fb v h27 hm h
    have e1 : tp1 σ r = intoT σ 28 (3 * r + m) 1 720 := by unfold tp1; rw [h27]
    rcases h with ⟨f0, rfl, rfl⟩ | ⟨f0, hv, h⟩
    · have fV : 0 < numV σ 1 720 := by rw [v.num]; omega
      rw [tpV_s, tpT_s, if_pos fV, if_pos fV, v.num, e1]
      exact ⟨rfl, f0, v.intoE _ (by decide) f0⟩
    · have fV : numV σ 1 720 = 0 := v.num.trans f0
      obtain ⟨v1, w1⟩ := v.into (j := 28) (3 * r + m) (by decide) (by decide) f0
      rw [← e1] at v1 w1
      have v2 : vw (tp2 σ r) t sz (nuE t sz a) := v1.up _ _ (by decide) (by decide)
      have v3 : vw (tp3 σ r) t sz (nxA t sz (nuE t sz a)) := v2.hr
      have hv' : hrV (tp2 σ r) = some 44 := v2.hv.trans hv
      rw [tpV_s, tpT_s, fV, if_neg (Nat.lt_irrefl 0), if_neg (Nat.lt_irrefl 0), if_pos hv', if_pos hv', h27]
      rcases h with ⟨h3, rfl, rfl⟩ | ⟨h3, h⟩
      · rw [if_pos h3, if_pos h3]
        exact ⟨rfl, by decide, (upc_hit _ _ _ _).trans v3.2.2⟩
      · rw [if_neg (by omega), if_neg (by omega)]
        have v4 : vw (tp4 σ r) t sz (nxA t sz (nuE t sz a) + 1) := by unfold tp4; rw [v3.2.2]; exact v3.at _
        exact ih (tp4 σ r) _ (m + 1) fa fb v4 (by rw [tp4_27, h27]) h3 h
end SL
section SL2
variable {σ : tT} {t : Nat → Nat} {sz a pc sm : Nat}
theorem sr1_v (v : vw σ t sz a) : vw (sr1 σ) t sz (nxA t sz a) ∧ sr1 σ 0 18 = wdS t sz a ∧ sr1 σ 0 19 = wdW t sz a := by
  have v0 : vw (sr0 σ) t sz a := v.up0 _ (by decide) (by decide)
  refine ⟨(v0.hr.up0 _ (by decide) (by decide)).up0 _ (by decide) (by decide), ?_, ?_⟩
  · rw [sr1, rwT_18, v0.ws]
  · rw [sr1, rwT_19, v0.we]
theorem sr2_v (v : vw σ t sz a) (k : Nat) : vw (sr2 σ k) t sz (wdW t sz a) ∧ ∀ j, j ≠ 0 → sr2 σ k j = if j = 24 then upn (σ 24) (σ 0 23) k else σ j := by
  obtain ⟨v1, -, h19⟩ := sr1_v v
  refine ⟨?_, ?_⟩
  · unfold sr2
    rw [h19]
    exact (v1.at _).up _ _ (by decide) (by decide)
  · intro j h0
    have n1 : ∀ j, j ≠ 0 → sr1 σ j = σ j := fun j h => by rw [sr1, rwT_j _ h, sr0, upc_n h]
    by_cases h : j = 24
    · subst h
      rw [if_pos rfl, sr2, upc_s, upc_n (by decide), n1 _ (by decide)]
    · rw [if_neg h, sr2, upc_n h, upc_n h0, n1 _ h0]
theorem sr4_v {kd : Nat} (v : vw σ t sz a) (h22 : σ 0 22 = pc) (h23 : σ 0 23 = sm) (f1 : nuF t sz (wdW t sz a) 0 (pc - 1) = 0) (f2 : nuF t sz (nuE t sz (wdW t sz a)) 0 (pc - 1) = 0) :
    srF σ kd = 0 ∧ vw (sr4 σ kd) t sz (nuE t sz (nuE t sz (wdW t sz a))) ∧ sr4 σ kd 24 = upn (σ 24) sm kd ∧ sr4 σ kd 25 = upn (σ 25) sm (nuV t sz (wdW t sz a)) ∧ sr4 σ kd 26 = upn (σ 26) sm (nuV t sz (nuE t sz (wdW t sz a))) ∧ (∀ j, j ≠ 0 → j ≠ 24 → j ≠ 25 → j ≠ 26 → sr4 σ kd j = σ j) ∧ sr4 σ kd 0 21 = nxA t sz (nuE t sz (wdW t sz a)) := by
  obtain ⟨v2, n2⟩ := sr2_v v kd
  rw [h23] at n2
  have g1 : srF1 σ kd = 0 := by unfold srF1; rw [v2.num, h22]; exact f1
  have e3 : sr3 σ kd = intoT (sr2 σ kd) 25 sm 0 (pc - 1) := by unfold sr3; rw [h23, h22]
  obtain ⟨v3, w3⟩ := v2.into (j := 25) sm (by decide) (by decide) f1
  rw [← e3] at v3 w3
  have n3 : ∀ j, j ≠ 0 → j ≠ 25 → sr3 σ kd j = sr2 σ kd j := fun j h0 h5 => by rw [e3, intoT_j _ _ _ _ h0 h5]
  have e4 : sr4 σ kd = intoT (sr3 σ kd) 26 sm 0 (pc - 1) := by unfold sr4; rw [if_neg (by omega), h23, h22]
  obtain ⟨v4, w4⟩ := v3.into (j := 26) sm (by decide) (by decide) f2
  rw [← e4] at v4 w4
  have n4 : ∀ j, j ≠ 0 → j ≠ 26 → sr4 σ kd j = sr3 σ kd j := fun j h0 h5 => by rw [e4, intoT_j _ _ _ _ h0 h5]
  refine ⟨?_, v4, ?_, ?_, ?_, ?_, ?_⟩
  · unfold srF; rw [if_neg (by omega), v3.num, h22]; exact f2
  · rw [n4 _ (by decide) (by decide), n3 _ (by decide) (by decide), n2 _ (by decide), if_pos rfl]
  · rw [n4 _ (by decide) (by decide), w3, n2 _ (by decide), if_neg (by decide)]
  · rw [w4, n3 _ (by decide) (by decide), n2 _ (by decide), if_neg (by decide)]
  · intro j h0 h4 h5 h6
    rw [n4 _ h0 h6, n3 _ h0 h5, n2 _ h0, if_neg h4]
  · rw [e4, intoT_0 _ _ _ _ (by decide), (v3.nt f2).2.2]
/-- what a stair leaves -/
def stO (sm kd P Q : Nat) (o : Nat × Nat × (Nat → Int32)) (σ σ' : tT) : Prop :=
  σ' 24 = upn (σ 24) sm kd ∧ σ' 25 = upn (σ 25) sm P ∧ σ' 26 = upn (σ 26) sm Q ∧ (∀ i, σ' 27 i = if i = sm then o.2.1 else σ 27 i) ∧ 1 ≤ o.2.1 ∧ o.2.1 ≤ 3 ∧ (∀ i, (i < 3 * sm ∨ 3 * sm + 3 ≤ i) → σ' 28 i = σ 28 i) ∧ (∀ k, k < o.2.1 → o.2.2 k = nI (σ' 28 (3 * sm + k)) ∧ 1 ≤ σ' 28 (3 * sm + k) ∧ σ' 28 (3 * sm + k) ≤ 720) ∧ (∀ k, o.2.1 ≤ k → o.2.2 k = 0) ∧ ∀ j, j ≠ 0 → j ≠ 24 → j ≠ 25 → j ≠ 26 → j ≠ 27 → j ≠ 28 → σ' j = σ j
theorem stair_ok {kd : Nat} {o : Nat × Nat × (Nat → Int32)} (v : vw σ t sz a) (h22 : σ 0 22 = pc) (h23 : σ 0 23 = sm) (ha : a ≤ sz) (h : stR t sz a pc sm kd o) :
    kd < 3 ∧ stairV σ = 0 ∧ vw (stairT σ) t sz o.1 ∧ stO sm kd (nuV t sz (wdW t sz a)) (nuV t sz (nuE t sz (wdW t sz a))) o σ (stairT σ) := by
  obtain ⟨-, hk, f1, f2, hne, hp⟩ := h
  obtain ⟨-, h18, -⟩ := sr1_v v
  have hk' : kindW (sr1 σ 0 18) = some kd := by rw [h18, ← stK_kind ha]; exact hk
  obtain ⟨sV, sT⟩ := stairV_s hk'
  obtain ⟨gF, v4, x24, x25, x26, xj, -⟩ := sr4_v (kd := kd) v h22 h23 f1 f2
  have ene : ¬ sr4 σ kd 25 (σ 0 23) = sr4 σ kd 26 (σ 0 23) := by rw [h23, x25, x26, upn_s, upn_s]; exact hne
  have eV : stairV σ = partV (sr4 σ kd) sm := by rw [sV, srV, if_neg (by omega), if_neg ene, h23]
  have eT : stairT σ = partT (sr4 σ kd) sm := by rw [sT, srT, if_neg (by omega), if_neg ene, h23]
  have v5 : vw (takeParts0 (sr4 σ kd) sm) t sz (nuE t sz (nuE t sz (wdW t sz a))) := v4.up _ _ (by decide) (by decide)
  have n5 : ∀ j, j ≠ 27 → takeParts0 (sr4 σ kd) sm j = sr4 σ kd j := fun j h => upc_n h
  obtain ⟨a1, a2, b1, b2, b3, b4, b5, b6, b7, b8, b9⟩ := tp_ok 3 _ _ 0 _ o v5 (upc_hit _ _ _ _) (by decide) hp
  have a1 : partV (sr4 σ kd) sm = 0 := a1
  refine ⟨kindW_lt hk', eV.trans a1, ?_, ?_⟩
  · rw [eT]; exact a2
  · rw [eT]
    refine ⟨?_, ?_, ?_, fun i => ?_, b1, b2, fun i hi => ?_, fun k hk => b8 k (Nat.zero_le _) hk, fun k hk => b9 k hk, ?_⟩
    · exact (b4 24 (by decide) (by decide) (by decide)).trans ((n5 _ (by decide)).trans x24)
    · exact (b4 25 (by decide) (by decide) (by decide)).trans ((n5 _ (by decide)).trans x25)
    · exact (b4 26 (by decide) (by decide) (by decide)).trans ((n5 _ (by decide)).trans x26)
    · by_cases hi : i = sm
      · rw [if_pos hi, hi]; exact b3
      · rw [if_neg hi]
        refine (b5 i hi).trans ?_
        rw [takeParts0, upc_s, upn_n hi, xj _ (by decide) (by decide) (by decide) (by decide)]
    · refine (b6 i (by omega)).trans ?_
      rw [n5 _ (by decide), xj _ (by decide) (by decide) (by decide) (by decide)]
    · intro j h0 h4 h5 h6 h7 h8
      exact (b4 j h0 h7 h8).trans ((n5 _ h7).trans (xj j h0 h4 h5 h6))
theorem stair_er {bg fa fb : Nat} (v : vw σ t sz a) (h22 : σ 0 22 = pc) (h23 : σ 0 23 = sm) (ha : a ≤ sz) (h10 : sm < 10) (h : stE t sz a pc sm bg fa fb) : stairV σ = fa ∧ fa ≠ 0 ∧ stairT σ 0 16 = fb := by
  obtain ⟨v1, h18, -⟩ := sr1_v v
  rcases h with ⟨c, -, -⟩ | ⟨-, ⟨hk, rfl, rfl⟩ | ⟨kd, hk, h⟩⟩
  · omega
  · have hk' : kindW (sr1 σ 0 18) = none := by rw [h18, ← stK_kind ha]; exact hk
    obtain ⟨sV, sT⟩ := stairV_n hk'
    rw [sV, sT]
    exact ⟨rfl, by decide, (upc_hit _ _ _ _).trans v1.2.2⟩
  · have hk' : kindW (sr1 σ 0 18) = some kd := by rw [h18, ← stK_kind ha]; exact hk
    obtain ⟨sV, sT⟩ := stairV_s hk'
    obtain ⟨v2, n2⟩ := sr2_v v kd
    have g1 : srF1 σ kd = nuF t sz (wdW t sz a) 0 (pc - 1) := by unfold srF1; rw [v2.num, h22]
    have e3 : sr3 σ kd = intoT (sr2 σ kd) 25 sm 0 (pc - 1) := by unfold sr3; rw [h23, h22]
    rcases h with ⟨rfl, rfl, c3⟩ | ⟨f1, h⟩
    · have gF : srF σ kd = nuF t sz (wdW t sz a) 0 (pc - 1) := by unfold srF; rw [g1, if_pos (by omega)]
      have e4 : sr4 σ kd = sr3 σ kd := by unfold sr4; rw [g1, if_pos (by omega)]
      rw [sV, sT, srV, srT, gF, if_pos (by omega), if_pos (by omega), e4, e3]
      exact ⟨rfl, c3, v2.intoE _ (by decide) c3⟩
    · obtain ⟨v3, w3⟩ := v2.into (j := 25) sm (by decide) (by decide) f1
      rw [← e3] at v3 w3
      rcases h with ⟨rfl, rfl, c3⟩ | ⟨f2, h⟩
      · have gF : srF σ kd = nuF t sz (nuE t sz (wdW t sz a)) 0 (pc - 1) := by unfold srF; rw [g1, f1, if_neg (by decide), v3.num, h22]
        have e4 : sr4 σ kd = intoT (sr3 σ kd) 26 sm 0 (pc - 1) := by unfold sr4; rw [g1, f1, if_neg (by decide), h23, h22]
        rw [sV, sT, srV, srT, gF, if_pos (by omega), if_pos (by omega), e4]
        exact ⟨rfl, c3, v3.intoE _ (by decide) c3⟩
      · obtain ⟨gF, v4, x24, x25, x26, xj, x21⟩ := sr4_v (kd := kd) v h22 h23 f1 f2
        rcases h with ⟨hq, rfl, rfl⟩ | ⟨hne, h⟩
        · have ene : sr4 σ kd 25 (σ 0 23) = sr4 σ kd 26 (σ 0 23) := by rw [h23, x25, x26, upn_s, upn_s]; exact hq
          rw [sV, sT, srV, srT, gF, if_neg (Nat.lt_irrefl 0), if_neg (Nat.lt_irrefl 0), if_pos ene, if_pos ene]
          exact ⟨rfl, by decide, (upc_hit _ _ _ _).trans x21⟩
        · have ene : ¬ sr4 σ kd 25 (σ 0 23) = sr4 σ kd 26 (σ 0 23) := by rw [h23, x25, x26, upn_s, upn_s]; exact hne
          rw [sV, sT, srV, srT, gF, if_neg (Nat.lt_irrefl 0), if_neg (Nat.lt_irrefl 0), if_neg ene, if_neg ene, h23]
          have v5 : vw (takeParts0 (sr4 σ kd) sm) t sz (nuE t sz (nuE t sz (wdW t sz a))) := v4.up _ _ (by decide) (by decide)
          exact tp_er 3 _ _ 0 fa fb v5 (upc_hit _ _ _ _) (by decide) h
end SL2
