/-! the plain law of reading: persons, parts, stairs -/
set_option maxRecDepth 100000
/-- the text, its size, the place in it -/
def vw (σ : tT) (t : Nat → Nat) (sz a : Nat) : Prop := σ 14 = t ∧ σ 0 15 = sz ∧ σ 0 17 = a
section VW
variable {σ : tT} {t : Nat → Nat} {sz a lo hi : Nat}
theorem vw.num (v : vw σ t sz a) : numV σ lo hi = nuF t sz a lo hi := by rw [num_v, v.1, v.2.1, v.2.2]
theorem vw.hv (v : vw σ t sz a) : hrV σ = nxV t sz a := by show nxV (σ 14) (σ 0 15) (σ 0 17) = _; rw [v.1, v.2.1, v.2.2]
theorem vw.ha (v : vw σ t sz a) : hrA σ = nxA t sz a := by show nxA (σ 14) (σ 0 15) (σ 0 17) = _; rw [v.1, v.2.1, v.2.2]
theorem vw.we (v : vw σ t sz a) : wEnd σ = wdW t sz a := by show wdW (σ 14) (σ 0 15) (σ 0 17) = _; rw [v.1, v.2.1, v.2.2]
theorem vw.ws (v : vw σ t sz a) : wSaid σ = wdS t sz a := by show wdS (σ 14) (σ 0 15) (σ 0 17) = _; rw [v.1, v.2.1, v.2.2]
theorem vw.up (v : vw σ t sz a) {j : Nat} (k x : Nat) (h0 : j ≠ 0) (h14 : j ≠ 14) : vw (upc σ j k x) t sz a := by
  unfold vw
  rw [upc_n (Ne.symm h0), upc_n (Ne.symm h14)]
  exact v
theorem vw.up0 (v : vw σ t sz a) {k : Nat} (x : Nat) (h15 : k ≠ 15) (h17 : k ≠ 17) : vw (upc σ 0 k x) t sz a := by
  unfold vw
  rw [upc_n (by decide), upc_s, upn_n (Ne.symm h15), upn_n (Ne.symm h17)]
  exact v
theorem vw.at (v : vw σ t sz a) (x : Nat) : vw (upc σ 0 17 x) t sz x := by
  unfold vw
  rw [upc_n (by decide), upc_s, upn_n (by decide), upn_s]
  exact ⟨v.1, v.2.1, rfl⟩
theorem vw.hr (v : vw σ t sz a) : vw (hrT σ) t sz (nxA t sz a) := by unfold hrT; rw [v.ha]; exact v.at _
theorem vw.nt (v : vw σ t sz a) (h : nuF t sz a lo hi = 0) : vw (numT σ lo hi) t sz (nuE t sz a) ∧ numT σ lo hi 0 20 = nuV t sz a ∧ numT σ lo hi 0 21 = nxA t sz a := by
  have h0 : numV σ lo hi = 0 := v.num.trans h
  obtain ⟨a1, a2, a3⟩ := num_o h0
  rw [v.1, v.2.1, v.2.2] at a1 a2 a3
  exact ⟨⟨(numT_j _ _ _ (by decide)).trans v.1, (numT_k _ _ _ (by decide) (by decide) (by decide) (by decide)).trans v.2.1, a1⟩, a2, a3⟩
theorem vw.ne (v : vw σ t sz a) (h : nuF t sz a lo hi ≠ 0) : numT σ lo hi 0 16 = nxA t sz a := by
  have := num_e (τ := σ) (lo := lo) (hi := hi) (by rw [v.num]; exact h)
  rw [v.1, v.2.1, v.2.2] at this
  exact this
theorem vw.into (v : vw σ t sz a) {j : Nat} (k : Nat) (h0 : j ≠ 0) (h14 : j ≠ 14) (h : nuF t sz a lo hi = 0) : vw (intoT σ j k lo hi) t sz (nuE t sz a) ∧ intoT σ j k lo hi j = upn (σ j) k (nuV t sz a) := by
  obtain ⟨a1, a2, a3⟩ := v.nt h
  refine ⟨a1.up _ _ h0 h14, ?_⟩
  rw [intoT, upc_s, a2, numT_j _ _ _ h0]
theorem vw.intoE (v : vw σ t sz a) {j : Nat} (k : Nat) (h0 : j ≠ 0) (h : nuF t sz a lo hi ≠ 0) : intoT σ j k lo hi 0 16 = nxA t sz a := by
  rw [intoT_0 _ _ _ _ h0]
  exact v.ne h
end VW
theorem nuV_rg {t : Nat → Nat} {sz a lo hi : Nat} (h : nuF t sz a lo hi = 0) : lo ≤ nuV t sz a ∧ nuV t sz a ≤ hi := by
  unfold nuF at h
  split at h
  · split at h
    · cases h
    · omega
  · cases h
section PL
variable {σ : tT} {t : Nat → Nat} {sz a pc pe : Nat}
theorem pn3_v (v : vw σ t sz a) (h22 : σ 0 22 = pc) (h29 : σ 0 29 = pe) (f1 : nuF t sz a 0 (pc - 1) = 0) (f2 : nuF t sz (nuE t sz a) 1 24 = 0) : pnF σ = 0 ∧ vw (pn3 σ) t sz (nuE t sz (nuE t sz a)) ∧ pn3 σ 30 = upn (σ 30) pe (nuV t sz a) ∧ pn3 σ 31 = upn (σ 31) pe (nuV t sz (nuE t sz a)) ∧ pn3 σ 32 = upn (σ 32) pe 0 ∧ ∀ j, j ≠ 0 → j ≠ 30 → j ≠ 31 → j ≠ 32 → pn3 σ j = σ j := by
  have v0 : vw (pn0 σ) t sz a := v.up0 _ (by decide) (by decide)
  have g1 : pnF1 σ = 0 := by unfold pnF1; rw [v0.num, h22]; exact f1
  have e1 : pn1 σ = intoT (pn0 σ) 30 pe 0 (pc - 1) := by unfold pn1; rw [h29, h22]
  obtain ⟨v1, w1⟩ := v0.into (j := 30) pe (by decide) (by decide) f1
  rw [← e1] at v1 w1
  have e2 : pn2 σ = intoT (pn1 σ) 31 pe 1 24 := by unfold pn2; rw [if_neg (by omega), h29]
  obtain ⟨v2, w2⟩ := v1.into (j := 31) pe (by decide) (by decide) f2
  rw [← e2] at v2 w2
  have n1 : ∀ j, j ≠ 0 → j ≠ 30 → pn1 σ j = σ j := fun j h0 h3 => by rw [e1, intoT_j _ _ _ _ h0 h3, pn0, upc_n h0]
  have n2 : ∀ j, j ≠ 0 → j ≠ 31 → pn2 σ j = pn1 σ j := fun j h0 h3 => by rw [e2, intoT_j _ _ _ _ h0 h3]
  refine ⟨?_, ?_, ?_, ?_, ?_, ?_⟩
  · unfold pnF; rw [if_neg (by omega), v1.num]; exact f2
  · exact v2.up _ _ (by decide) (by decide)
  · rw [pn3, upc_n (by decide), n2 _ (by decide) (by decide), w1, pn0, upc_n (by decide)]
  · rw [pn3, upc_n (by decide), w2, n1 _ (by decide) (by decide)]
  · rw [pn3, upc_s, n2 _ (by decide) (by decide), n1 _ (by decide) (by decide), h29]
  · intro j h0 h30 h31 h32
    rw [pn3, upc_n h32, n2 _ h0 h31, n1 _ h0 h30]
theorem pers_ok {fe : Nat → Int32} {u : Nat × Nat × (Nat → Int32)} (v : vw σ t sz a) (h22 : σ 0 22 = pc) (h29 : σ 0 29 = pe) (ha : a ≤ sz) (h : psR t sz a pc pe fe u) :
    persV σ = 0 ∧ vw (persT σ) t sz u.1 ∧ persT σ 30 = upn (σ 30) pe (nuV t sz a) ∧ persT σ 31 = upn (σ 31) pe (nuV t sz (nuE t sz a)) ∧ (∃ z, z ≤ 24 ∧ (∀ i, persT σ 32 i = if i = pe then z else σ 32 i) ∧ (fe pe = nI 0 → u.2.2 pe = nI z) ∧ ∀ i, i ≠ pe → u.2.2 i = fe i) ∧ ∀ j, j ≠ 0 → j ≠ 30 → j ≠ 31 → j ≠ 32 → persT σ j = σ j := by
  obtain ⟨-, f1, f2, hc⟩ := h
  obtain ⟨e1, v3, w30, w31, w32, wj⟩ := pn3_v v h22 h29 f1 f2
  obtain ⟨E1, E2⟩ := nuE_le (t := t) ha
  obtain ⟨E3, E4⟩ := nuE_le (t := t) E2
  rcases hc with ⟨c1, c2, c3⟩ | ⟨c1, c2, c3, c4⟩
  · have hd : ¬ isD (hrV (pn3 σ)) = true := by rw [v3.hv, c1]; decide
    have eV : persV σ = 0 := by unfold persV; rw [if_neg (by omega), if_neg hd]
    have eT : persT σ = hrT (pn3 σ) := by unfold persT; rw [if_neg (by omega), if_neg hd]
    have hj : ∀ j, j ≠ 0 → hrT (pn3 σ) j = pn3 σ j := fun j h => upc_n h
    rw [eT, c2, c3]
    refine ⟨eV, v3.hr, ?_, ?_, ⟨0, by decide, fun i => ?_, fun h => h, fun _ _ => rfl⟩, ?_⟩
    · rw [hj _ (by decide), w30]
    · rw [hj _ (by decide), w31]
    · rw [hj _ (by decide), w32, upn_if]
    · intro j h0 h30 h31 h32
      rw [hj _ h0, wj j h0 h30 h31 h32]
  · have hd : isD (hrV (pn3 σ)) = true := by rw [v3.hv, ← nxV_id E4]; exact nuF_d c2
    have eV : persV σ = 0 := by unfold persV; rw [if_neg (by omega), if_pos hd, v3.hr.num]; exact c2
    have eT : persT σ = intoT (hrT (pn3 σ)) 32 pe 1 24 := by unfold persT; rw [if_neg (by omega), if_pos hd, h29]
    have hj : ∀ j, j ≠ 0 → hrT (pn3 σ) j = pn3 σ j := fun j h => upc_n h
    obtain ⟨v4, w4⟩ := v3.hr.into (j := 32) pe (by decide) (by decide) c2
    rw [eT, c3, c4]
    refine ⟨eV, v4, ?_, ?_, ⟨_, (nuV_rg c2).2, fun i => ?_, fun _ => if_pos rfl, fun i hi => if_neg hi⟩, ?_⟩
    · rw [intoT_j _ _ _ _ (by decide) (by decide), hj _ (by decide), w30]
    · rw [intoT_j _ _ _ _ (by decide) (by decide), hj _ (by decide), w31]
    · rw [w4, hj _ (by decide), w32, upn_if, upn_if]
      split <;> rfl
    · intro j h0 h30 h31 h32
      rw [intoT_j _ _ _ _ h0 h32, hj _ h0, wj j h0 h30 h31 h32]
theorem pers_er {bg fa fb : Nat} (v : vw σ t sz a) (h22 : σ 0 22 = pc) (h29 : σ 0 29 = pe) (ha : a ≤ sz) (h8 : pe < 8) (h : psE t sz a pc pe bg fa fb) :
    (persV σ ≠ 0 ∧ fa = persV σ ∧ fb = persT σ 0 16) ∨ (persV σ = 0 ∧ fa = 1 ∧ ∃ a', vw (persT σ) t sz a' ∧ nxV t sz a' ≠ some 59 ∧ fb = nxA t sz a') := by
  obtain ⟨E1, E2⟩ := nuE_le (t := t) ha
  obtain ⟨E3, E4⟩ := nuE_le (t := t) E2
  have v0 : vw (pn0 σ) t sz a := v.up0 _ (by decide) (by decide)
  have g1 : pnF1 σ = nuF t sz a 0 (pc - 1) := by unfold pnF1; rw [v0.num, h22]
  have e1 : pn1 σ = intoT (pn0 σ) 30 pe 0 (pc - 1) := by unfold pn1; rw [h29, h22]
  rcases h with ⟨c, -, -⟩ | ⟨-, c1, c2, c3⟩ | ⟨-, f1, c1, c2, c3⟩ | ⟨-, f1, f2, c0, c1, c2, c3⟩
  · omega
  · left
    have eF : pnF σ = nuF t sz a 0 (pc - 1) := by unfold pnF; rw [g1, if_pos (by omega)]
    have eV : persV σ = nuF t sz a 0 (pc - 1) := by unfold persV; rw [eF, if_pos (by omega)]
    have eT : persT σ = pn3 σ := by unfold persT; rw [eF, if_pos (by omega)]
    refine ⟨by rw [eV]; exact c3, by rw [eV]; exact c1, ?_⟩
    rw [eT, pn3, k_upj _ _ _ _ (by decide), pn2, g1, if_pos (by omega), e1, v0.intoE _ (by decide) c3]
    exact c2
  · left
    obtain ⟨v1, w1⟩ := v0.into (j := 30) pe (by decide) (by decide) f1
    rw [← e1] at v1 w1
    have eF : pnF σ = nuF t sz (nuE t sz a) 1 24 := by unfold pnF; rw [g1, f1, if_neg (by omega), v1.num]
    have eV : persV σ = nuF t sz (nuE t sz a) 1 24 := by unfold persV; rw [eF, if_pos (by omega)]
    have eT : persT σ = pn3 σ := by unfold persT; rw [eF, if_pos (by omega)]
    refine ⟨by rw [eV]; exact c3, by rw [eV]; exact c1, ?_⟩
    rw [eT, pn3, k_upj _ _ _ _ (by decide), pn2, g1, f1, if_neg (by omega), v1.intoE _ (by decide) c3]
    exact c2
  · obtain ⟨eF, v3, w30, w31, w32, wj⟩ := pn3_v v h22 h29 f1 f2
    by_cases hd : isD (hrV (pn3 σ)) = true
    · left
      have eV : persV σ = nuF t sz (nxA t sz (nuE t sz (nuE t sz a))) 1 24 := by unfold persV; rw [if_neg (by omega), if_pos hd, v3.hr.num]
      have eT : persT σ = intoT (hrT (pn3 σ)) 32 pe 1 24 := by unfold persT; rw [if_neg (by omega), if_pos hd, h29]
      refine ⟨by rw [eV]; exact c3, by rw [eV]; exact c1, ?_⟩
      rw [eT, v3.hr.intoE _ (by decide) c3]
      exact c2
    · right
      have eV : persV σ = 0 := by unfold persV; rw [if_neg (by omega), if_neg hd]
      have eT : persT σ = hrT (pn3 σ) := by unfold persT; rw [if_neg (by omega), if_neg hd]
      have hd' : isD (nxV t sz (nxA t sz (nuE t sz (nuE t sz a)))) = false := by
        rw [nxV_id E4, ← v3.hv]
        simpa using hd
      refine ⟨eV, c1.trans (nuF_1 hd'), _, by rw [eT]; exact v3.hr, by rw [nxV_id E4]; exact c0, c2⟩
end PL
