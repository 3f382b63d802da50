/-! the plain law of reading: clauses -/
set_option maxRecDepth 100000
def stpR (τ : tT) (r k : Nat) : Nat := if k < τ 27 r then τ 28 (3 * r + k) else 0
/-- the stairs as read, as cells -/
def stC (dT : Nat → ClassId) (τ : tT) (sc : Nat → Nat × Nat) : Nat → va_W
  | 0 => []
  | n + 1 => ((sc n).1, .inr (6 + τ 24 n, [.int (nI (τ 25 n)), .int (nI (τ 26 n)), .ref (sc n).2, .int (nI (τ 27 n))])) :: ((sc n).2, .inl (dT 0, 3, .inl (fun k => nI (stpR τ n k)))) :: stC dT τ sc n
theorem stC_cg {dT : Nat → ClassId} {τ σ : tT} {sc sd : Nat → Nat × Nat} : ∀ n, (∀ i, i < n → sc i = sd i ∧ τ 24 i = σ 24 i ∧ τ 25 i = σ 25 i ∧ τ 26 i = σ 26 i ∧ τ 27 i = σ 27 i ∧ ∀ k, k < 3 → τ 28 (3 * i + k) = σ 28 (3 * i + k)) → (∀ i, i < n → τ 27 i ≤ 3) → stC dT τ sc n = stC dT σ sd n := by
  intro n
  induction n with
  | zero => intro _ _; rfl
  | succ n ih =>
    intro h h3
    obtain ⟨e0, e1, e2, e3, e4, e5⟩ := h n (by omega)
    have h27 := h3 n (by omega)
    have ef : (fun k => nI (stpR τ n k)) = fun k => nI (stpR σ n k) := by
      funext k
      unfold stpR
      rw [← e4]
      split
      · rw [e5 k (by omega)]
      · rfl
    simp only [stC]
    rw [ih (fun i hi => h i (by omega)) (fun i hi => h3 i (by omega)), e0, e1, e2, e3, e4, ef]
/-- the reader's numbers are the model's -/
def rdx (dT : Nat → ClassId) (τ : tT) (x : rS) : Prop :=
  x.1 = τ 0 17 ∧ x.2.2.1 = τ 0 22 ∧ x.2.2.2.1 = τ 0 23 ∧ x.2.2.2.2.1 = τ 0 29 ∧ (∀ i, i < τ 0 29 → x.2.2.2.2.2.2.1 i = nI (τ 30 i) ∧ x.2.2.2.2.2.2.2.1 i = nI (τ 31 i) ∧ x.2.2.2.2.2.2.2.2.1 i = nI (τ 32 i)) ∧ (∀ i, τ 0 29 ≤ i → x.2.2.2.2.2.2.2.2.1 i = nI 0) ∧
  ∃ sc : Nat → Nat × Nat, x.2.2.2.2.2.1 = (fun i => bif Nat.blt i (τ 0 23) then some (sc i).1 else none) ∧ x.2.2.2.2.2.2.2.2.2 = stC dT τ sc (τ 0 23)
/-- what is read is well-formed -/
def rwf (τ : tT) : Prop :=
  (τ 0 22 = 0 → τ 0 23 = 0 ∧ τ 0 29 = 0) ∧ (∀ r, r < τ 0 23 → τ 24 r < 3 ∧ τ 25 r < τ 0 22 ∧ τ 26 r < τ 0 22 ∧ τ 25 r ≠ τ 26 r ∧ 1 ≤ τ 27 r ∧ τ 27 r ≤ 3 ∧ ∀ i, i < τ 27 r → 1 ≤ τ 28 (3 * r + i) ∧ τ 28 (3 * r + i) ≤ 720) ∧ ∀ q, q < τ 0 29 → τ 30 q < τ 0 22 ∧ 1 ≤ τ 31 q ∧ τ 31 q ≤ 24 ∧ τ 32 q ≤ 24
theorem rdx_at {dT : Nat → ClassId} {τ : tT} {x : rS} (h : rdx dT τ x) (y f : Nat) : rdx dT (upc τ 0 17 y) (y, f, x.2.2) := by
  obtain ⟨-, h2, h3, h4, h5, h6, sc, h7, h8⟩ := h
  exact ⟨rfl, h2, h3, h4, h5, h6, sc, h7, by
    show x.2.2.2.2.2.2.2.2.2 = _
    rw [h8]
    have : ∀ n, stC dT (upc τ 0 17 y) sc n = stC dT τ sc n := by
      intro n
      induction n with
      | zero => rfl
      | succ n ih => simp only [stC]; rw [ih]; rfl
    exact (this _).symm⟩
theorem rwf_at {τ : tT} (h : rwf τ) (y : Nat) : rwf (upc τ 0 17 y) := h
section CL
variable {dT : Nat → ClassId} {τ : tT} {t : Nat → Nat} {sz a : Nat} {x u : rS}
theorem cl2_v (v : vw τ t sz a) : vw (cl2 τ) t sz (wdW t sz a) ∧ clS τ = wdS t sz a ∧ cl1 τ 0 17 = nxA t sz a ∧ (∀ j, j ≠ 0 → cl2 τ j = τ j) := by
  have h19 : cl1 τ 0 19 = wdW t sz a := (rwT_19 τ).trans v.we
  have v1 : vw (cl1 τ) t sz (nxA t sz a) := (v.hr.up0 _ (by decide) (by decide)).up0 _ (by decide) (by decide)
  refine ⟨?_, (rwT_18 τ).trans v.ws, v1.2.2, fun j h => ?_⟩
  · unfold cl2
    rw [h19]
    exact v1.at _
  · rw [cl2, upc_n h, cl1, rwT_j _ h]
theorem cl_ok (hC : wfC τ) (hr : rdx dT τ x) (hw : rwf τ) (v : vw τ t sz a) (ha : a ≤ sz) (h : clR dT t sz a x u) :
    ∃ k, clK (clS τ) = some k ∧ ¬ (0 < k ∧ τ 0 22 = 0) ∧ clFull τ k = false ∧ cqA τ k = 0 ∧ vw (clB τ k) t sz u.1 ∧ rdx dT (clB τ k) (u.1, u.2.1, u.2.2.1, u.2.2.2.1, u.2.2.2.2.1, u.2.2.2.2.2.1, u.2.2.2.2.2.2.1, u.2.2.2.2.2.2.2.1, u.2.2.2.2.2.2.2.2.1, u.2.2.2.2.2.2.2.2.2 ++ x.2.2.2.2.2.2.2.2.2) ∧ rwf (clB τ k) := by
  obtain ⟨v2, hS, h17, n2⟩ := cl2_v v
  obtain ⟨W1, W2⟩ := wdW_le (t := t) ha
  obtain ⟨r1, r22, r23, r29, rP, rZ, sc, rS1, rS2⟩ := hr
  obtain ⟨w1, w2, w3⟩ := hw
  have k22 := k_cl2 τ ok22
  have k23 := k_cl2 τ ok23
  have k29 := k_cl2 τ ok29
  have hcl : clK (clS τ) = wdK t sz a := by rw [hS, wdK_cl ha]
  rcases h with ⟨hk, h0, f0, rfl⟩ | ⟨hk, h0, a', fr, m, s, st, kd, g, hR, rfl⟩ | ⟨hk, h0, a', fr, fe', hR, rfl⟩
  · have p0 : τ 0 22 = 0 := by rw [← r22]; exact h0
    obtain ⟨q23, q29⟩ := w1 p0
    obtain ⟨v3, y20, -⟩ := v2.nt f0
    have eB : clB τ 0 = clP τ := by unfold clB; rw [if_pos rfl]
    have vB : vw (clB τ 0) t sz (nuE t sz (wdW t sz a)) := by rw [eB]; exact v3.up0 _ (by decide) (by decide)
    have b22 : clB τ 0 0 22 = nuV t sz (wdW t sz a) := by rw [eB, clP, upc_hit, y20]
    have bk : ∀ k, okK k → k ≠ 22 → clB τ 0 0 k = τ 0 k := fun k hk h22 => by rw [eB, clP, upc_s, upn_n h22, k_num _ _ _ hk, k_cl2 _ hk]
    have b23 : clB τ 0 0 23 = 0 := by rw [bk _ ok23 (by decide), q23]
    have b29 : clB τ 0 0 29 = 0 := by rw [bk _ ok29 (by decide), q29]
    refine ⟨0, hcl.trans hk, by omega, ?_, ?_, vB, ?_, ?_⟩
    · unfold clFull; rw [if_pos rfl, p0]; rfl
    · unfold cqA; rw [if_pos rfl, v2.num]; exact f0
    · refine ⟨vB.2.2.symm, b22.symm, ?_, ?_, ?_, ?_, sc, ?_, ?_⟩
      · show x.2.2.2.1 = _; rw [r23, q23, b23]
      · show x.2.2.2.2.1 = _; rw [r29, q29, b29]
      · rw [b29]; intro i hi; omega
      · intro i hi; exact rZ i (by omega)
      · show x.2.2.2.2.2.1 = _; rw [rS1, q23, b23]
      · show [] ++ x.2.2.2.2.2.2.2.2.2 = _
        rw [List.nil_append, rS2, q23, b23]; rfl
    · refine ⟨fun _ => ⟨b23, b29⟩, ?_, ?_⟩
      · rw [b23]; intro r hr; omega
      · rw [b29]; intro r hr; omega
  · have p1 : 1 ≤ τ 0 22 := by rw [← r22]; exact h0
    have h0 : 1 ≤ x.2.2.1 := h0
    obtain ⟨hk3, sV, sv, s24, s25, s26, s27, s1, s3, s28, sg, sg0, sj⟩ := stair_ok v2 (k22.trans r22.symm) (k23.trans r23.symm) W2 hR
    have hsm : x.2.2.2.1 < 10 := hR.1
    have f1 := (nuV_rg hR.2.2.1).2
    have f2 := (nuV_rg hR.2.2.2.1).2
    have hne := hR.2.2.2.2.1
    rw [r22] at f1 f2
    rw [r23] at s24 s25 s26 s27 s28 sg hsm
    have eB : clB τ 1 = stairT (cl2 τ) := by unfold clB; rw [if_neg (by decide), if_pos rfl]
    have b22 : clB τ 1 0 22 = τ 0 22 := by rw [eB, k_stair _ ok22, k_sr0, if_neg (by decide), k22]
    have b23 : clB τ 1 0 23 = τ 0 23 + 1 := by rw [eB, k_stair _ ok23, k_sr0, if_pos rfl, k23]
    have b29 : clB τ 1 0 29 = τ 0 29 := by rw [eB, k_stair _ ok29, k_sr0, if_neg (by decide), k29]
    rw [← eB] at sv s24 s25 s26 s27 s28 sg sj
    have z24 : clB τ 1 24 = upn (τ 24) (τ 0 23) kd := by rw [s24, n2 _ (by decide)]
    have z25 : clB τ 1 25 = upn (τ 25) (τ 0 23) (nuV t sz (wdW t sz (wdW t sz a))) := by rw [s25, n2 _ (by decide)]
    have z26 : clB τ 1 26 = upn (τ 26) (τ 0 23) (nuV t sz (nuE t sz (wdW t sz (wdW t sz a)))) := by rw [s26, n2 _ (by decide)]
    have z27 : ∀ i, clB τ 1 27 i = if i = τ 0 23 then m else τ 27 i := fun i => by rw [s27 i, n2 _ (by decide)]
    have z28 : ∀ i, (i < 3 * τ 0 23 ∨ 3 * τ 0 23 + 3 ≤ i) → clB τ 1 28 i = τ 28 i := fun i hi => by rw [s28 i hi, n2 _ (by decide)]
    have zj : ∀ j, j ≠ 0 → j ≠ 24 → j ≠ 25 → j ≠ 26 → j ≠ 27 → j ≠ 28 → clB τ 1 j = τ j := fun j g0 g4 g5 g6 g7 g8 => by rw [sj j g0 g4 g5 g6 g7 g8, n2 _ g0]
    have s1 : 1 ≤ m := s1
    have s3 : m ≤ 3 := s3
    refine ⟨1, hcl.trans hk, by omega, ?_, ?_, sv, ?_, ?_⟩
    · unfold clFull; rw [if_neg (by decide), if_pos rfl]; exact decide_eq_false (by omega)
    · unfold cqA; rw [if_neg (by decide), if_pos rfl]; exact sV
    · refine ⟨sv.2.2.symm, ?_, ?_, ?_, ?_, ?_, (fun i => if i = τ 0 23 then (s, st) else sc i), ?_, ?_⟩
      · show x.2.2.1 = _; rw [r22, b22]
      · show x.2.2.2.1 + 1 = _; rw [r23, b23]
      · show x.2.2.2.2.1 = _; rw [r29, b29]
      · rw [b29, zj 30 (by decide) (by decide) (by decide) (by decide) (by decide) (by decide), zj 31 (by decide) (by decide) (by decide) (by decide) (by decide) (by decide), zj 32 (by decide) (by decide) (by decide) (by decide) (by decide) (by decide)]
        exact rP
      · rw [b29]; exact rZ
      · show va_up x.2.2.2.2.2.1 x.2.2.2.1 (some s) = _
        rw [rS1, r23, b23]
        funext i
        show (if i = τ 0 23 then some s else bif Nat.blt i (τ 0 23) then some (sc i).1 else none) = bif Nat.blt i (τ 0 23 + 1) then some (if i = τ 0 23 then (s, st) else sc i).1 else none
        rw [blt_c, blt_c]
        by_cases hi : i = τ 0 23
        · rw [if_pos hi, if_pos hi, decide_eq_true (by omega)]; rfl
        · rw [if_neg hi, if_neg hi]
          by_cases hl : i < τ 0 23
          · rw [decide_eq_true hl, decide_eq_true (by omega)]
          · rw [decide_eq_false hl, decide_eq_false (by omega)]
      · show [_, _] ++ x.2.2.2.2.2.2.2.2.2 = _
        have ec : stC dT (clB τ 1) (fun i => if i = τ 0 23 then (s, st) else sc i) (τ 0 23) = stC dT τ sc (τ 0 23) := stC_cg _ (fun i hi => ⟨if_neg (by omega), by rw [z24, upn_n (by omega)], by rw [z25, upn_n (by omega)], by rw [z26, upn_n (by omega)], by rw [z27, if_neg (by omega)], fun k hk => z28 _ (Or.inl (by omega))⟩) (fun i hi => by rw [z27, if_neg (by omega)]; exact (w2 i hi).2.2.2.2.2.1)
        have eg : g = fun k => nI (stpR (clB τ 1) (τ 0 23) k) := by
          funext k
          unfold stpR
          rw [z27, if_pos rfl]
          split
          · rename_i hk9; exact (sg k hk9).1
          · rename_i hk9; exact sg0 k (by show m ≤ k; omega)
        rw [b23, stC, ec, ← rS2, if_pos rfl, z24, z25, z26, z27, if_pos rfl, upn_s, upn_s, upn_s, ← eg]
        rfl
    · refine ⟨fun q => by omega, fun r hr => ?_, ?_⟩
      · rw [b23] at hr
        rw [b22, z24, z25, z26, z27]
        by_cases hr0 : r = τ 0 23
        · subst hr0
          rw [upn_s, upn_s, upn_s, if_pos rfl]
          exact ⟨hk3, by omega, by omega, hne, s1, s3, fun i hi => (sg i hi).2⟩
        · rw [upn_n hr0, upn_n hr0, upn_n hr0, if_neg hr0]
          obtain ⟨g1, g2, g3, g4, g5, g6, g7⟩ := w2 r (by omega)
          exact ⟨g1, g2, g3, g4, g5, g6, fun i hi => by rw [z28 _ (Or.inl (by omega))]; exact g7 i hi⟩
      · rw [b29, b22, zj 30 (by decide) (by decide) (by decide) (by decide) (by decide) (by decide), zj 31 (by decide) (by decide) (by decide) (by decide) (by decide) (by decide), zj 32 (by decide) (by decide) (by decide) (by decide) (by decide) (by decide)]
        exact w3
  · have p1 : 1 ≤ τ 0 22 := by rw [← r22]; exact h0
    have h0 : 1 ≤ x.2.2.1 := h0
    obtain ⟨sV, sv, s30, s31, ⟨z, hz24, s32, hz0, hzn⟩, sj⟩ := pers_ok v2 (k22.trans r22.symm) (k29.trans r29.symm) W2 hR
    have hpe : x.2.2.2.2.1 < 8 := hR.1
    have f1 := (nuV_rg hR.2.1).2
    have f2 := nuV_rg hR.2.2.1
    rw [r22] at f1
    rw [r29] at s30 s31 s32 hz0 hzn hpe
    have eB : clB τ 2 = persT (cl2 τ) := by unfold clB; rw [if_neg (by decide), if_neg (by decide)]
    have b22 : clB τ 2 0 22 = τ 0 22 := by rw [eB, k_pers _ ok22, k_pn0, if_neg (by decide), k22]
    have b23 : clB τ 2 0 23 = τ 0 23 := by rw [eB, k_pers _ ok23, k_pn0, if_neg (by decide), k23]
    have b29 : clB τ 2 0 29 = τ 0 29 + 1 := by rw [eB, k_pers _ ok29, k_pn0, if_pos rfl, k29]
    rw [← eB] at sv s30 s31 s32 sj
    have z30 : clB τ 2 30 = upn (τ 30) (τ 0 29) (nuV t sz (wdW t sz a)) := by rw [s30, n2 _ (by decide)]
    have z31 : clB τ 2 31 = upn (τ 31) (τ 0 29) (nuV t sz (nuE t sz (wdW t sz a))) := by rw [s31, n2 _ (by decide)]
    have z32 : ∀ i, clB τ 2 32 i = if i = τ 0 29 then z else τ 32 i := fun i => by rw [s32 i, n2 _ (by decide)]
    have zj : ∀ j, j ≠ 0 → j ≠ 30 → j ≠ 31 → j ≠ 32 → clB τ 2 j = τ j := fun j g0 g4 g5 g6 => by rw [sj j g0 g4 g5 g6, n2 _ g0]
    have hzz : fe' (τ 0 29) = nI z := hz0 (rZ _ (Nat.le_refl _))
    refine ⟨2, hcl.trans hk, by omega, ?_, ?_, sv, ?_, ?_⟩
    · unfold clFull; rw [if_neg (by decide), if_neg (by decide)]; exact decide_eq_false (by omega)
    · unfold cqA; rw [if_neg (by decide), if_neg (by decide)]; exact sV
    · refine ⟨sv.2.2.symm, ?_, ?_, ?_, fun i hi => ?_, fun i hi => ?_, sc, ?_, ?_⟩
      · show x.2.2.1 = _; rw [r22, b22]
      · show x.2.2.2.1 = _; rw [r23, b23]
      · show x.2.2.2.2.1 + 1 = _; rw [r29, b29]
      · rw [b29] at hi
        show upd x.2.2.2.2.2.2.1 x.2.2.2.2.1 _ i = _ ∧ upd x.2.2.2.2.2.2.2.1 x.2.2.2.2.1 _ i = _ ∧ fe' i = _
        rw [r29, z30, z31, z32]
        unfold upd
        by_cases hi0 : i = τ 0 29
        · rw [if_pos hi0, if_pos hi0, if_pos hi0, hi0, upn_s, upn_s]
          exact ⟨rfl, rfl, hzz⟩
        · rw [if_neg hi0, if_neg hi0, if_neg hi0, upn_n hi0, upn_n hi0]
          obtain ⟨g1, g2, g3⟩ := rP i (by omega)
          exact ⟨g1, g2, (hzn i hi0).trans g3⟩
      · rw [b29] at hi
        exact (hzn i (by omega)).trans (rZ i (by omega))
      · show x.2.2.2.2.2.1 = _; rw [rS1, b23]
      · show [] ++ x.2.2.2.2.2.2.2.2.2 = _
        rw [List.nil_append, rS2, b23]
        refine stC_cg _ (fun i hi => ⟨rfl, ?_, ?_, ?_, ?_, fun k hk => ?_⟩) (fun i hi => (w2 i hi).2.2.2.2.2.1)
        · rw [zj 24 (by decide) (by decide) (by decide) (by decide)]
        · rw [zj 25 (by decide) (by decide) (by decide) (by decide)]
        · rw [zj 26 (by decide) (by decide) (by decide) (by decide)]
        · rw [zj 27 (by decide) (by decide) (by decide) (by decide)]
        · rw [zj 28 (by decide) (by decide) (by decide) (by decide)]
    · refine ⟨fun q => by omega, ?_, fun q hq => ?_⟩
      · rw [b23, b22, zj 24 (by decide) (by decide) (by decide) (by decide), zj 25 (by decide) (by decide) (by decide) (by decide), zj 26 (by decide) (by decide) (by decide) (by decide), zj 27 (by decide) (by decide) (by decide) (by decide), zj 28 (by decide) (by decide) (by decide) (by decide)]
        exact w2
      · rw [b29] at hq
        rw [b22, z30, z31, z32]
        by_cases hq0 : q = τ 0 29
        · rw [if_pos hq0, hq0, upn_s, upn_s]
          exact ⟨by omega, f2.1, f2.2, hz24⟩
        · rw [if_neg hq0, upn_n hq0, upn_n hq0]
          exact w3 q (by omega)
theorem cla_end {k : Nat} (hk : clK (clS τ) = some k) (h1 : ¬ (0 < k ∧ τ 0 22 = 0)) (h2 : clFull τ k = false) (h3 : cqA τ k = 0) (hv : hrV (clB τ k) = some 59) : claV τ = 0 ∧ claT τ = bump (hrT (clB τ k)) := by
  obtain ⟨a1, a2⟩ := cla_s hk
  rw [a1, a2, ckV, ckT, if_neg h1, if_neg h1, h2, if_neg (by decide), if_neg (by decide), clEV, clET, if_pos h3, if_pos h3, if_pos hv, if_pos hv]
  exact ⟨rfl, rfl⟩
theorem cla_nend {k : Nat} (hk : clK (clS τ) = some k) (h1 : ¬ (0 < k ∧ τ 0 22 = 0)) (h2 : clFull τ k = false) (h3 : cqA τ k = 0) (hv : hrV (clB τ k) ≠ some 59) : claV τ = 1 ∧ claT τ 0 16 = hrA (clB τ k) := by
  obtain ⟨a1, a2⟩ := cla_s hk
  rw [a1, a2, ckV, ckT, if_neg h1, if_neg h1, h2, if_neg (by decide), if_neg (by decide), clEV, clET, if_pos h3, if_pos h3, if_neg hv, if_neg hv]
  exact ⟨rfl, upc_hit _ _ _ _⟩
theorem cla_bad {k : Nat} (hk : clK (clS τ) = some k) (h1 : ¬ (0 < k ∧ τ 0 22 = 0)) (h2 : clFull τ k = false) (h3 : cqA τ k ≠ 0) : claV τ = cqA τ k ∧ claT τ 0 16 = clB τ k 0 16 := by
  obtain ⟨a1, a2⟩ := cla_s hk
  rw [a1, a2, ckV, ckT, if_neg h1, if_neg h1, h2, if_neg (by decide), if_neg (by decide), clEV, clET, if_neg h3, if_neg h3]
  exact ⟨rfl, k_up _ _ (by decide)⟩
theorem cla_1 {k : Nat} (hk : clK (clS τ) = some k) (h1 : 0 < k ∧ τ 0 22 = 0) : claV τ = 1 ∧ claT τ 0 16 = cl1 τ 0 17 := by
  obtain ⟨a1, a2⟩ := cla_s hk
  rw [a1, a2, ckV, ckT, if_pos h1, if_pos h1]
  exact ⟨rfl, upc_hit _ _ _ _⟩
theorem cla_3 {k : Nat} (hk : clK (clS τ) = some k) (h1 : ¬ (0 < k ∧ τ 0 22 = 0)) (h2 : clFull τ k = true) : claV τ = 3 ∧ claT τ 0 16 = cl1 τ 0 17 := by
  obtain ⟨a1, a2⟩ := cla_s hk
  rw [a1, a2, ckV, ckT, if_neg h1, if_neg h1, if_pos h2, if_pos h2]
  exact ⟨rfl, upc_hit _ _ _ _⟩
theorem cl_er {fa fb : Nat} (hC : wfC τ) (v : vw τ t sz a) (ha : a ≤ sz) (h : clE t sz a (τ 0 22) (τ 0 23) (τ 0 29) fa fb) : claV τ = fa ∧ claT τ 0 16 = fb ∧ fa ≠ 0 := by
  obtain ⟨v2, hS, h17, n2⟩ := cl2_v v
  obtain ⟨W1, W2⟩ := wdW_le (t := t) ha
  have k22 := k_cl2 τ ok22
  have k23 := k_cl2 τ ok23
  have k29 := k_cl2 τ ok29
  have hcl : clK (clS τ) = wdK t sz a := by rw [hS, wdK_cl ha]
  rcases h with ⟨rfl, rfl, h⟩ | ⟨hk, hp, rfl, rfl⟩ | ⟨hk, hp, rfl, rfl, hf⟩ | ⟨hk, hp, h⟩ | ⟨hk, hp, h⟩
  · cases hkk : wdK t sz a with
    | none =>
      obtain ⟨a1, a2⟩ := cla_n (hcl.trans hkk)
      rw [a1, a2]
      exact ⟨rfl, (upc_hit _ _ _ _).trans h17, by decide⟩
    | some k =>
      rw [hkk] at h
      rcases h with h | ⟨h, hp⟩
      · cases h
      · have h0 : 0 < k := by
          rcases Nat.eq_zero_or_pos k with e | e
          · rw [e] at h; exact absurd rfl h
          · exact e
        obtain ⟨a1, a2⟩ := cla_1 (hcl.trans hkk) ⟨h0, hp⟩
        exact ⟨a1, a2.trans h17, by decide⟩
  · obtain ⟨a1, a2⟩ := cla_3 (hcl.trans hk) (by omega) (by unfold clFull; rw [if_pos rfl]; exact decide_eq_true hp)
    exact ⟨a1, a2.trans h17, by decide⟩
  · have hq : cqA τ 0 = nuF t sz (wdW t sz a) 1 8 := by unfold cqA; rw [if_pos rfl, v2.num]
    obtain ⟨a1, a2⟩ := cla_bad (hcl.trans hk) (by omega) (by unfold clFull; rw [if_pos rfl, hp]; rfl) (by rw [hq]; exact hf)
    refine ⟨a1.trans hq, a2.trans ?_, hf⟩
    unfold clB
    rw [if_pos rfl, clP, k_up _ _ (by decide)]
    exact v2.ne hf
  · by_cases h10 : τ 0 23 < 10
    · have hc : clFull τ 1 = false := by unfold clFull; rw [if_neg (by decide), if_pos rfl]; exact decide_eq_false (by omega)
      obtain ⟨s1, s2, s3⟩ := stair_er v2 k22 k23 W2 h10 h
      have hq : cqA τ 1 = fa := by unfold cqA; rw [if_neg (by decide), if_pos rfl]; exact s1
      obtain ⟨a1, a2⟩ := cla_bad (hcl.trans hk) (by omega) hc (by rw [hq]; exact s2)
      refine ⟨a1.trans hq, a2.trans ?_, s2⟩
      unfold clB
      rw [if_neg (by decide), if_pos rfl]
      exact s3
    · have h23 := hC.2.2.1
      rcases h with ⟨-, rfl, rfl⟩ | ⟨h9, -⟩
      · obtain ⟨a1, a2⟩ := cla_3 (hcl.trans hk) (by omega) (by unfold clFull; rw [if_neg (by decide), if_pos rfl]; exact decide_eq_true (by omega))
        exact ⟨a1, a2.trans h17, by decide⟩
      · omega
  · by_cases h8 : τ 0 29 < 8
    · have hc : clFull τ 2 = false := by unfold clFull; rw [if_neg (by decide), if_neg (by decide)]; exact decide_eq_false (by omega)
      have hq : cqA τ 2 = persV (cl2 τ) := by unfold cqA; rw [if_neg (by decide), if_neg (by decide)]
      have eB : clB τ 2 = persT (cl2 τ) := by unfold clB; rw [if_neg (by decide), if_neg (by decide)]
      rcases pers_er v2 k22 k29 W2 h8 h with ⟨s1, s2, s3⟩ | ⟨s1, s2, a', va, s3, s4⟩
      · obtain ⟨a1, a2⟩ := cla_bad (hcl.trans hk) (by omega) hc (by rw [hq]; exact s1)
        exact ⟨a1.trans (hq.trans s2.symm), a2.trans (by rw [eB]; exact s3.symm), by rw [s2]; exact s1⟩
      · rw [← eB] at va
        obtain ⟨a1, a2⟩ := cla_nend (hcl.trans hk) (by omega) hc (hq.trans s1) (by rw [va.hv]; exact s3)
        exact ⟨a1.trans s2.symm, a2.trans (va.ha.trans s4.symm), by rw [s2]; decide⟩
    · have h29 := hC.2.2.2
      rcases h with ⟨-, rfl, rfl⟩ | ⟨h9, -⟩ | ⟨h9, -⟩ | ⟨h9, -⟩
      · obtain ⟨a1, a2⟩ := cla_3 (hcl.trans hk) (by omega) (by unfold clFull; rw [if_neg (by decide), if_neg (by decide)]; exact decide_eq_true (by omega))
        exact ⟨a1, a2.trans h17, by decide⟩
      · omega
      · omega
      · omega
end CL
