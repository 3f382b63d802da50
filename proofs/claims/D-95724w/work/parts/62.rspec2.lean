/-! the reader's persons and stairs, in plain words -/
set_option maxRecDepth 100000
/-- a person is read: (the place behind it, from, the second strides) -/
def psR (t : Nat → Nat) (sz a pc pe : Nat) (fe : Nat → Int32) (u : Nat × Nat × (Nat → Int32)) : Prop :=
  pe < 8 ∧ nuF t sz a 0 (pc - 1) = 0 ∧ nuF t sz (nuE t sz a) 1 24 = 0 ∧ ((nxV t sz (nuE t sz (nuE t sz a)) = some 59 ∧ u.1 = nxA t sz (nuE t sz (nuE t sz a)) ∧ u.2.2 = fe) ∨
    (nxV t sz (nuE t sz (nuE t sz a)) ≠ some 59 ∧ nuF t sz (nxA t sz (nuE t sz (nuE t sz a))) 1 24 = 0 ∧ u.1 = nuE t sz (nxA t sz (nuE t sz (nuE t sz a))) ∧ u.2.2 = upd fe pe (nI (nuV t sz (nxA t sz (nuE t sz (nuE t sz a)))))))
def psE (t : Nat → Nat) (sz a pc pe bg fa fb : Nat) : Prop :=
  (8 ≤ pe ∧ fa = 3 ∧ fb = bg) ∨ (pe < 8 ∧ fa = nuF t sz a 0 (pc - 1) ∧ fb = nxA t sz a ∧ nuF t sz a 0 (pc - 1) ≠ 0) ∨ (pe < 8 ∧ nuF t sz a 0 (pc - 1) = 0 ∧ fa = nuF t sz (nuE t sz a) 1 24 ∧ fb = nxA t sz (nuE t sz a) ∧ nuF t sz (nuE t sz a) 1 24 ≠ 0) ∨
    (pe < 8 ∧ nuF t sz a 0 (pc - 1) = 0 ∧ nuF t sz (nuE t sz a) 1 24 = 0 ∧ nxV t sz (nuE t sz (nuE t sz a)) ≠ some 59 ∧ fa = nuF t sz (nxA t sz (nuE t sz (nuE t sz a))) 1 24 ∧ fb = nxA t sz (nxA t sz (nuE t sz (nuE t sz a))) ∧ nuF t sz (nxA t sz (nuE t sz (nuE t sz a))) 1 24 ≠ 0)
theorem oI_ch {t : Nat → Nat} {sz a c : Nat} (hs : sz ≤ 500) (ht : ∀ k, k < 500 → t k < 256) (hc : c < 256) : oI (nxV t sz a) = nI c ↔ nxV t sz a = some c := oI_eq (nxV_lt hs ht) hc
/-- the word at a is the constant i -/
def wdEq (t : Nat → Nat) (sz a i : Nat) : Bool := eqB (wdW t sz a - nxA t sz a) (fun k => nI (t (nxA t sz a + k))) i
theorem eqB_cg {n i : Nat} {f g : Nat → Int32} (h : ∀ k, k < n → f k = g k) : eqB n f i = eqB n g i := by
  unfold eqB
  congr 1
  apply propext
  constructor
  · rintro ⟨a, b⟩; exact ⟨a, fun j hj => (h j hj).symm.trans (b j hj)⟩
  · rintro ⟨a, b⟩; exact ⟨a, fun j hj => (h j hj).trans (b j hj)⟩
def stK (t : Nat → Nat) (sz a : Nat) : Option Nat := if wdEq t sz a 0 = true then some 0 else if wdEq t sz a 1 = true then some 1 else if wdEq t sz a 2 = true then some 2 else none
/-- the parts of a stair: (the place behind them, how many, the steps) -/
def ptR (t : Nat → Nat) (sz : Nat) : Nat → Nat → Nat → (Nat → Int32) → Nat × Nat × (Nat → Int32) → Prop
  | 0, _, _, _, _ => False
  | f + 1, a, m, g, o => nuF t sz a 1 720 = 0 ∧ ((nxV t sz (nuE t sz a) = some 44 ∧ m + 1 < 3 ∧ ptR t sz f (nxA t sz (nuE t sz a) + 1) (m + 1) (upd g m (nI (nuV t sz a))) o) ∨ (nxV t sz (nuE t sz a) ≠ some 44 ∧ o = (nxA t sz (nuE t sz a), m + 1, upd g m (nI (nuV t sz a)))))
def ptE (t : Nat → Nat) (sz : Nat) : Nat → Nat → Nat → Nat → Nat → Prop
  | 0, _, _, _, _ => False
  | f + 1, a, m, fa, fb => (nuF t sz a 1 720 ≠ 0 ∧ fa = nuF t sz a 1 720 ∧ fb = nxA t sz a) ∨ (nuF t sz a 1 720 = 0 ∧ nxV t sz (nuE t sz a) = some 44 ∧ ((m + 1 = 3 ∧ fa = 1 ∧ fb = nxA t sz (nuE t sz a)) ∨ (m + 1 < 3 ∧ ptE t sz f (nxA t sz (nuE t sz a) + 1) (m + 1) fa fb)))
def stI (t : Nat → Nat) (sz N : Nat) (x : Nat × Nat × Nat × (Nat → Int32) × Bool) : Prop :=
  x.1 ≤ sz ∧ x.2.2.1 ≤ 3 ∧ (x.2.2.2.2 = true → x.2.2.1 < 3 ∧ (∀ o, ptR t sz (3 - x.2.2.1) x.1 x.2.2.1 x.2.2.2.1 o → ptR t sz 3 N 0 (fun _ => 0) o) ∧ ∀ fa fb, ptE t sz (3 - x.2.2.1) x.1 x.2.2.1 fa fb → ptE t sz 3 N 0 fa fb) ∧ (x.2.2.2.2 = false → ptR t sz 3 N 0 (fun _ => 0) (x.1, x.2.2.1, x.2.2.2.1))
theorem stI_0 {t : Nat → Nat} {sz N fr : Nat} (h : N ≤ sz) : stI t sz N (N, fr, 0, fun _ => 0, true) := ⟨h, Nat.zero_le _, fun _ => ⟨by show 0 < 3; decide, fun _ h => h, fun _ _ h => h⟩, fun h => by cases h⟩
theorem stI_num {t : Nat → Nat} {sz N a fr m : Nat} {g : Nat → Int32} (h : stI t sz N (a, fr, m, g, true)) {fa fb : Nat} (h1 : fa = nuF t sz a 1 720) (h2 : fb = nxA t sz a) (h3 : nuF t sz a 1 720 ≠ 0) : ptE t sz 3 N 0 fa fb := by
  obtain ⟨-, -, h, -⟩ := h
  obtain ⟨hm, -, hE⟩ := h rfl
  have hm : m < 3 := hm
  refine hE fa fb ?_
  show ptE t sz (3 - m) a m fa fb
  rw [show 3 - m = (2 - m) + 1 by omega]
  exact Or.inl ⟨h3, h1, h2⟩
theorem stI_full {t : Nat → Nat} {sz N a fr m : Nat} {g : Nat → Int32} (h : stI t sz N (a, fr, m, g, true)) (h3 : nuF t sz a 1 720 = 0) (hv : nxV t sz (nuE t sz a) = some 44) (hm3 : 3 ≤ m + 1) {fa fb : Nat} (h1 : fa = 1) (h2 : fb = nxA t sz (nuE t sz a)) : ptE t sz 3 N 0 fa fb := by
  obtain ⟨-, -, h, -⟩ := h
  obtain ⟨hm, -, hE⟩ := h rfl
  have hm : m < 3 := hm
  refine hE fa fb ?_
  show ptE t sz (3 - m) a m fa fb
  rw [show 3 - m = (2 - m) + 1 by omega]
  exact Or.inr ⟨h3, hv, Or.inl ⟨by omega, h1, h2⟩⟩
theorem nxV_in {t : Nat → Nat} {sz a c : Nat} (h : nxV t sz a = some c) : nxA t sz a < sz := by
  unfold nxV at h
  split at h
  · assumption
  · cases h
theorem stI_more {t : Nat → Nat} {sz N a fr fr' m : Nat} {g : Nat → Int32} (h : stI t sz N (a, fr, m, g, true)) (h3 : nuF t sz a 1 720 = 0) (hv : nxV t sz (nuE t sz a) = some 44) (hm3 : m + 1 < 3) : stI t sz N (nxA t sz (nuE t sz a) + 1, fr', m + 1, upd g m (nI (nuV t sz a)), true) := by
  obtain ⟨-, -, h, -⟩ := h
  obtain ⟨hm, hR, hE⟩ := h rfl
  have hm : m < 3 := hm
  refine ⟨nxV_in hv, by show m + 1 ≤ 3; omega, fun _ => ⟨hm3, fun o ho => ?_, fun fa fb ho => ?_⟩, fun q => by cases q⟩
  · refine hR o ?_
    show ptR t sz (3 - m) a m g o
    rw [show 3 - m = (2 - m) + 1 by omega]
    refine ⟨h3, Or.inl ⟨hv, hm3, ?_⟩⟩
    have ho : ptR t sz (3 - (m + 1)) (nxA t sz (nuE t sz a) + 1) (m + 1) (upd g m (nI (nuV t sz a))) o := ho
    rw [show 3 - (m + 1) = 2 - m by omega] at ho
    exact ho
  · refine hE fa fb ?_
    show ptE t sz (3 - m) a m fa fb
    rw [show 3 - m = (2 - m) + 1 by omega]
    refine Or.inr ⟨h3, hv, Or.inr ⟨hm3, ?_⟩⟩
    have ho : ptE t sz (3 - (m + 1)) (nxA t sz (nuE t sz a) + 1) (m + 1) fa fb := ho
    rw [show 3 - (m + 1) = 2 - m by omega] at ho
    exact ho
theorem stI_stop {t : Nat → Nat} {sz N a fr fr' m : Nat} {g : Nat → Int32} (h : stI t sz N (a, fr, m, g, true)) (h3 : nuF t sz a 1 720 = 0) (hv : nxV t sz (nuE t sz a) ≠ some 44) (ha : nuE t sz a ≤ sz) : stI t sz N (nxA t sz (nuE t sz a), fr', m + 1, upd g m (nI (nuV t sz a)), false) := by
  obtain ⟨-, -, h, -⟩ := h
  obtain ⟨hm, hR, hE⟩ := h rfl
  have hm : m < 3 := hm
  refine ⟨(nxA_le ha).2, by show m + 1 ≤ 3; omega, (fun q => by cases q), fun _ => ?_⟩
  refine hR _ ?_
  show ptR t sz (3 - m) a m g _
  rw [show 3 - m = (2 - m) + 1 by omega]
  exact ⟨h3, Or.inr ⟨hv, rfl⟩⟩
/-- a stair is read: kind, (the place behind it, parts, steps) -/
def stR (t : Nat → Nat) (sz a pc sm kd : Nat) (o : Nat × Nat × (Nat → Int32)) : Prop :=
  sm < 10 ∧ stK t sz a = some kd ∧ nuF t sz (wdW t sz a) 0 (pc - 1) = 0 ∧ nuF t sz (nuE t sz (wdW t sz a)) 0 (pc - 1) = 0 ∧ nuV t sz (wdW t sz a) ≠ nuV t sz (nuE t sz (wdW t sz a)) ∧ ptR t sz 3 (nuE t sz (nuE t sz (wdW t sz a))) 0 (fun _ => 0) o
def stE (t : Nat → Nat) (sz a pc sm bg fa fb : Nat) : Prop :=
  (10 ≤ sm ∧ fa = 3 ∧ fb = bg) ∨ (sm < 10 ∧ ((stK t sz a = none ∧ fa = 1 ∧ fb = nxA t sz a) ∨ (∃ kd, stK t sz a = some kd ∧
    ((fa = nuF t sz (wdW t sz a) 0 (pc - 1) ∧ fb = nxA t sz (wdW t sz a) ∧ nuF t sz (wdW t sz a) 0 (pc - 1) ≠ 0) ∨ (nuF t sz (wdW t sz a) 0 (pc - 1) = 0 ∧
      ((fa = nuF t sz (nuE t sz (wdW t sz a)) 0 (pc - 1) ∧ fb = nxA t sz (nuE t sz (wdW t sz a)) ∧ nuF t sz (nuE t sz (wdW t sz a)) 0 (pc - 1) ≠ 0) ∨ (nuF t sz (nuE t sz (wdW t sz a)) 0 (pc - 1) = 0 ∧
        ((nuV t sz (wdW t sz a) = nuV t sz (nuE t sz (wdW t sz a)) ∧ fa = 4 ∧ fb = nxA t sz (nuE t sz (wdW t sz a))) ∨ (nuV t sz (wdW t sz a) ≠ nuV t sz (nuE t sz (wdW t sz a)) ∧ ptE t sz 3 (nuE t sz (nuE t sz (wdW t sz a))) 0 fa fb)))))))))
theorem nuV_lt {t : Nat → Nat} {sz a lo hi : Nat} (h : nuF t sz a lo hi = 0) (hh : hi < 2 ^ 20) : nuV t sz a < 2 ^ 20 := by
  unfold nuF at h
  split at h
  · split at h
    · cases h
    · omega
  · cases h
