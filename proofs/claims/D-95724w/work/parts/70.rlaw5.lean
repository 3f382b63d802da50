/-! the plain law of reading: the whole text -/
set_option maxRecDepth 100000
theorem oI_no {o : Option Nat} (h : ∀ c, o = some c → c < 256) : oI o = -1 ↔ o = none := by
  cases o with
  | none => exact ⟨fun _ => rfl, fun _ => rfl⟩
  | some c =>
    have := h c rfl
    refine ⟨fun q => ?_, fun q => by cases q⟩
    have q : nI c = -1 := q
    have q2 := congrArg Int32.toInt q
    rw [nI_toInt (by omega)] at q2
    have : (-1 : Int32).toInt = -1 := rfl
    omega
section AL
variable {dT : Nat → ClassId} {τ Tf : tT} {V : Nat} {t : Nat → Nat} {sz a : Nat} {x u : rS}
theorem prI_C (hp : prI V Tf (τ, 0)) : wfC τ := (hp.2.1 rfl).1
theorem pr_bad {s : tT × Nat} (hp : prI V Tf s) (h : s.2 ≠ 0) : V = s.2 ∧ Tf = s.1 := hp.2.2 h
theorem all_er {fa fb : Nat} (hp : prI V Tf (τ, 0)) (hn : hrV τ ≠ none) (v : vw τ t sz a) (ha : a ≤ sz) (h : clE t sz (nxA t sz a) (τ 0 22) (τ 0 23) (τ 0 29) fa fb) : fa = V ∧ fb = Tf 0 16 ∧ V ≠ 0 := by
  obtain ⟨hC, -⟩ := wfC_hr (prI_C hp)
  obtain ⟨a1, a2, a3⟩ := cl_er (τ := hrT τ) hC v.hr (nxA_le ha).2 h
  obtain ⟨b1, b2⟩ := pr_bad (pr_next hp hn).1 (by show claV (hrT τ) ≠ 0; rw [a1]; exact a3)
  have b1 : V = claV (hrT τ) := b1
  have b2 : Tf = claT (hrT τ) := b2
  rw [b1, b2, a1, a2]
  exact ⟨rfl, rfl, a3⟩
theorem all_ns (hp : prI V Tf (τ, 0)) (hn : hrV τ ≠ none) (hr : rdx dT τ x) (hw : rwf τ) (v : vw τ t sz a) (ha : a ≤ sz) (h : clR dT t sz (nxA t sz a) x u) (hv : nxV t sz u.1 ≠ some 59) : 1 = V ∧ nxA t sz u.1 = Tf 0 16 ∧ V ≠ 0 := by
  obtain ⟨hC, -⟩ := wfC_hr (prI_C hp)
  obtain ⟨k, k1, k2, k3, k4, k5, k6, k7⟩ := cl_ok (τ := hrT τ) (x := (nxA t sz a, x.2.1, x.2.2)) hC (by unfold hrT; rw [v.ha]; exact rdx_at hr _ _) (rwf_at hw _) v.hr (nxA_le ha).2 h
  obtain ⟨a1, a2⟩ := cla_nend k1 k2 k3 k4 (by rw [k5.hv]; exact hv)
  obtain ⟨b1, b2⟩ := pr_bad (pr_next hp hn).1 (by show claV (hrT τ) ≠ 0; rw [a1]; decide)
  have b1 : V = claV (hrT τ) := b1
  have b2 : Tf = claT (hrT τ) := b2
  rw [b1, b2, a1, a2, k5.ha]
  exact ⟨rfl, rfl, by decide⟩
theorem all_go (hp : prI V Tf (τ, 0)) (hn : hrV τ ≠ none) (hr : rdx dT τ x) (hw : rwf τ) (v : vw τ t sz a) (ha : a ≤ sz) (h : clR dT t sz (nxA t sz a) x u) (hv : nxV t sz u.1 = some 59) :
    rdx dT (claT (hrT τ)) (nxA t sz u.1 + 1, u.2.1, u.2.2.1, u.2.2.2.1, u.2.2.2.2.1, u.2.2.2.2.2.1, u.2.2.2.2.2.2.1, u.2.2.2.2.2.2.2.1, u.2.2.2.2.2.2.2.2.1, u.2.2.2.2.2.2.2.2.2 ++ x.2.2.2.2.2.2.2.2.2) ∧ rwf (claT (hrT τ)) ∧ prI V Tf (claT (hrT τ), 0) ∧ (claT (hrT τ)) 14 = t ∧ (claT (hrT τ)) 0 15 = sz ∧ prM (claT (hrT τ), 0) < prM (τ, 0) ∧ cnt (claT (hrT τ)) = cnt τ + 1 := by
  obtain ⟨hC, hcn⟩ := wfC_hr (prI_C hp)
  obtain ⟨k, k1, k2, k3, k4, k5, k6, k7⟩ := cl_ok (τ := hrT τ) (x := (nxA t sz a, x.2.1, x.2.2)) hC (by unfold hrT; rw [v.ha]; exact rdx_at hr _ _) (rwf_at hw _) v.hr (nxA_le ha).2 h
  obtain ⟨a1, a2⟩ := cla_end k1 k2 k3 k4 (by rw [k5.hv]; exact hv)
  obtain ⟨b1, b2⟩ := pr_next hp hn
  rw [a1] at b1 b2
  have eB : claT (hrT τ) = upc (upc (clB (hrT τ) k) 0 17 (nxA t sz u.1)) 0 17 (nxA t sz u.1 + 1) := by
    rw [a2]
    unfold bump hrT
    rw [upc_hit]
    have := k5.ha
    unfold hrT at this
    rw [this]
  have vB : vw (claT (hrT τ)) t sz (nxA t sz u.1 + 1) := by rw [eB]; exact (k5.at _).at _
  refine ⟨?_, ?_, b1, vB.1, vB.2.1, b2, ?_⟩
  · rw [eB]
    exact rdx_at (rdx_at k6 _ u.2.1) _ _
  · rw [eB]
    exact rwf_at (rwf_at k7 _) _
  · rw [(cla_cnt hC a1).2, hcn]
end AL
theorem all_le {dT : Nat → ClassId} {τ Tf : tT} {V : Nat} {t : Nat → Nat} {sz a : Nat} {x u : rS} (hp : prI V Tf (τ, 0)) (hn : hrV τ ≠ none) (hr : rdx dT τ x) (hw : rwf τ) (v : vw τ t sz a) (ha : a ≤ sz) (h : clR dT t sz (nxA t sz a) x u) : u.1 ≤ sz := by
  obtain ⟨hC, -⟩ := wfC_hr (prI_C hp)
  obtain ⟨k, k1, k2, k3, k4, k5, k6, k7⟩ := cl_ok (τ := hrT τ) (x := (nxA t sz a, x.2.1, x.2.2)) hC (by unfold hrT; rw [v.ha]; exact rdx_at hr _ _) (rwf_at hw _) v.hr (nxA_le ha).2 h
  have := (wfY_clB hC.1 k).2.2
  rw [k5.2.1, k5.2.2] at this
  exact this
