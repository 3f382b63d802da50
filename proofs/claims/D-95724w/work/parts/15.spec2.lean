/-! the plain words, second: reaches, going, what is told -/
set_option maxRecDepth 100000
theorem upc_hit (τ : tT) (j k x : Nat) : upc τ j k x j k = x := by rw [upc_s, upn_s]
theorem upc_upc (τ : tT) (j k x y : Nat) : upc (upc τ j k x) j k y = upc τ j k y := by
  funext i q
  by_cases hi : i = j
  · subst hi
    rw [upc_s, upc_s, upc_s, upn_if, upn_if, upn_if]
    by_cases hq : q = k <;> simp [hq]
  · rw [upc_n hi, upc_n hi, upc_n hi]
theorem upc_self (τ : tT) (j k : Nat) : upc τ j k (τ j k) = τ := by
  funext i q
  by_cases hi : i = j
  · subst hi
    rw [upc_s, upn_if]
    by_cases hq : q = k
    · rw [if_pos hq, hq]
    · rw [if_neg hq]
  · rw [upc_n hi]
theorem upc_at (τ : tT) (j k x i q : Nat) : upc τ j k x i q = if i = j ∧ q = k then x else τ i q := by
  by_cases hi : i = j
  · subst hi
    rw [upc_s, upn_if]
    by_cases hq : q = k <;> simp [hq]
  · rw [upc_n hi, if_neg (fun h => hi h.1)]
/-- a growing set, until it stays -/
def itF (P : Nat → Nat) : Nat → Nat → Nat
  | 0, x => x
  | n + 1, x => if P x = x then x else itF P n (P x)
def fixV (P : Nat → Nat) (x : Nat) : Nat := itF P 256 x
theorem itF_stable {P : Nat → Nat} (hP : ∀ x, x < 256 → x ≤ P x ∧ P x < 256) : ∀ (d x n : Nat), x < 256 → 256 - x ≤ d → 256 - x ≤ n → itF P n x = itF P d x := by
  intro d
  induction d with
  | zero => intro x n hx h1 h2; omega
  | succ d ih =>
    intro x n hx h1 h2
    cases n with
    | zero => omega
    | succ n =>
      simp only [itF]
      by_cases h : P x = x
      · rw [if_pos h, if_pos h]
      · rw [if_neg h, if_neg h]
        obtain ⟨a, b⟩ := hP x hx
        exact ih (P x) n b (by omega) (by omega)
theorem fixV_eq {P : Nat → Nat} (hP : ∀ x, x < 256 → x ≤ P x ∧ P x < 256) {x : Nat} (hx : x < 256) : fixV P x = if P x = x then x else fixV P (P x) := by
  obtain ⟨a, b⟩ := hP x hx
  show itF P (255 + 1) x = _
  simp only [itF]
  by_cases h : P x = x
  · rw [if_pos h, if_pos h]
  · rw [if_neg h, if_neg h]
    exact itF_stable hP 256 (P x) 255 b (by omega) (by omega)
theorem fixV_lt {P : Nat → Nat} (hP : ∀ x, x < 256 → x ≤ P x ∧ P x < 256) : ∀ (d x : Nat), 256 - x ≤ d → x < 256 → fixV P x < 256 ∧ x ≤ fixV P x ∧ P (fixV P x) = fixV P x := by
  intro d
  induction d with
  | zero => intro x h hx; omega
  | succ d ih =>
    intro x h hx
    rw [fixV_eq hP hx]
    obtain ⟨a, b⟩ := hP x hx
    by_cases q : P x = x
    · rw [if_pos q]; exact ⟨hx, Nat.le_refl _, q⟩
    · rw [if_neg q]
      obtain ⟨z1, z2, z3⟩ := ih (P x) (by omega) b
      exact ⟨z1, by omega, z3⟩
theorem ite_lt {c : Prop} [Decidable c] {a b n : Nat} (h1 : a < n) (h2 : b < n) : (if c then a else b) < n := by
  split
  · exact h1
  · exact h2
/-- one stair's turn in a reach -/
def rchR (τ : tT) (one two set r : Nat) : Nat :=
  (set ||| (if (sFit τ r one || sFit τ r two) && set.testBit (τ 3 r) then 2 ^ τ 4 r else 0)) ||| (if (sFit τ r one || sFit τ r two || decide (τ 0 12 = 1)) && (set ||| (if (sFit τ r one || sFit τ r two) && set.testBit (τ 3 r) then 2 ^ τ 4 r else 0)).testBit (τ 4 r) then 2 ^ τ 3 r else 0)
def rchP (τ : tT) (one two set : Nat) : Nat → Nat
  | 0 => set
  | r + 1 => rchR τ one two (rchP τ one two set r) r
theorem rchP_s (τ : tT) (one two set r : Nat) : rchP τ one two set (r + 1) = rchR τ one two (rchP τ one two set r) r := rfl
def reachS (τ : tT) (place one two : Nat) : Nat := fixV (fun set => rchP τ one two set (τ 0 1)) (2 ^ place)
theorem rchR_ok {τ : tT} (hw : wfT τ) (one two : Nat) {set r : Nat} (hr : r < τ 0 1) (h : set < 256) : set ≤ rchR τ one two set r ∧ rchR τ one two set r < 256 := by
  obtain ⟨h1, h0, hw⟩ := hw
  obtain ⟨-, a, b, -⟩ := hw r hr
  refine ⟨Nat.le_trans Nat.left_le_or Nat.left_le_or, ?_⟩
  have p1 : 2 ^ τ 4 r < 2 ^ 8 := Nat.pow_lt_pow_right (by decide) (by omega)
  have p2 : 2 ^ τ 3 r < 2 ^ 8 := Nat.pow_lt_pow_right (by decide) (by omega)
  show _ < 2 ^ 8
  have q1 : (if ((sFit τ r one || sFit τ r two) && set.testBit (τ 3 r)) = true then 2 ^ τ 4 r else 0) < 2 ^ 8 := by
    exact ite_lt p1 (by decide)
  exact Nat.or_lt_two_pow (Nat.or_lt_two_pow h q1) (ite_lt p2 (by decide))
theorem rchP_ok {τ : tT} (hw : wfT τ) (one two : Nat) {set : Nat} (h : set < 256) : ∀ r, r ≤ τ 0 1 → set ≤ rchP τ one two set r ∧ rchP τ one two set r < 256 := by
  intro r
  induction r with
  | zero => intro _; exact ⟨Nat.le_refl _, h⟩
  | succ r ih =>
    intro hr
    obtain ⟨a, b⟩ := ih (by omega)
    obtain ⟨c, d⟩ := rchR_ok hw one two (r := r) (by omega) b
    exact ⟨Nat.le_trans a c, d⟩
theorem rch_hP {τ : tT} (hw : wfT τ) (one two : Nat) : ∀ x, x < 256 → x ≤ (fun set => rchP τ one two set (τ 0 1)) x ∧ (fun set => rchP τ one two set (τ 0 1)) x < 256 := fun _ hx => rchP_ok hw one two hx _ (Nat.le_refl _)
theorem reachS_lt {τ : tT} (hw : wfT τ) (one two : Nat) {place : Nat} (h : place < 8) : reachS τ place one two < 256 :=
  (fixV_lt (rch_hP hw one two) 256 _ (Nat.sub_le _ _) (show 2 ^ place < 2 ^ 8 from Nat.pow_lt_pow_right (by decide) h)).1
def reachP (τ : tT) (q : Nat) : Nat := reachS τ (τ 9 q) (τ 10 q) (τ 11 q)
/-- canGo(q, r) -/
def sCan (τ : tT) (q r : Nat) : Bool := (decide (τ 9 q = τ 3 r) && sMay τ q r) || (decide (τ 9 q = τ 4 r) && (decide (τ 0 12 = 1) || sMay τ q r))
def goStride (τ : tT) (q r : Nat) : Nat := if (sFit τ r (τ 11 q) && (!sFit τ r (τ 10 q) || decide (τ 10 q < τ 11 q))) = true then τ 11 q else τ 10 q
def wearS (τ : tT) (r s : Nat) : Nat := sumS (fun i => (τ 6 (3 * r + i) + s - 1) / s) (τ 5 r)
def goOther (τ : tT) (q r : Nat) : Nat := if τ 9 q = τ 3 r then τ 4 r else τ 3 r
def goT (τ : tT) (q r : Nat) : tT := upc (upc τ 7 r (τ 7 r + wearS τ r (goStride τ q r))) 9 q (goOther τ q r)
/-! the public answers, of raw ints -/
def UNK : Int32 := -1000000001
def OUTS : Int32 := -1000000002
def NOTR : Int32 := -1000000003
def FULR : Int32 := -1000000004
def pTold (τ : tT) (w : Int32) : Int32 := if w = nI 0 then nI (τ 0 0) else if w = nI 1 then nI (τ 0 1) else if w = nI 2 then nI (τ 0 8) else if w = nI 3 then nI (τ 0 15) else if w = nI 4 then nI (τ 0 12) else if w = nI 5 then nI (τ 0 34) else if w = nI 6 then nI (τ 0 38) else if w = nI 7 then nI (sumS (τ 7) (τ 0 1)) else OUTS
def pStairN (τ : tT) (r : Nat) (w : Int32) : Int32 := if w = nI 0 then nI (τ 2 r) else if w = nI 1 then nI (τ 3 r) else if w = nI 2 then nI (τ 4 r) else if w = nI 3 then nI (τ 5 r) else if w = nI 4 then nI (τ 6 (3 * r)) else if w = nI 5 then nI (if 1 < τ 5 r then τ 6 (3 * r + 1) else 0) else if w = nI 6 then nI (if 2 < τ 5 r then τ 6 (3 * r + 2) else 0) else if w = nI 7 then nI (τ 7 r) else if w = nI 8 then nI (sClimb τ r) else OUTS
def pStair (τ : tT) (r w : Int32) : Int32 := if ixB r (τ 0 1) = true then pStairN τ r.toNatClampNeg w else UNK
def pPersonN (τ : tT) (q : Nat) (w : Int32) : Int32 := if w = nI 0 then nI (τ 9 q) else if w = nI 1 then nI (τ 10 q) else if w = nI 2 then nI (τ 11 q) else if w = nI 3 then nI (reachP τ q) else OUTS
def pPerson (τ : tT) (q w : Int32) : Int32 := if ixB q (τ 0 8) = true then pPersonN τ q.toNatClampNeg w else UNK
def pFit (τ : tT) (r s : Int32) : Int32 := if ixB r (τ 0 1) = true then (if rgB s 1 24 = true then nI (bN (sFit τ r.toNatClampNeg s.toNatClampNeg)) else OUTS) else UNK
def pGo (τ : tT) (q r : Int32) : Int32 := if (ixB q (τ 0 8) && ixB r (τ 0 1)) = true then (if sCan τ q.toNatClampNeg r.toNatClampNeg = true then nI (goOther τ q.toNatClampNeg r.toNatClampNeg) else NOTR) else UNK
def pGoT (τ : tT) (q r : Int32) : tT := if (ixB q (τ 0 8) && ixB r (τ 0 1)) = true then (if sCan τ q.toNatClampNeg r.toNatClampNeg = true then goT τ q.toNatClampNeg r.toNatClampNeg else τ) else τ
theorem sw_out {x : Int32} {lo hi : Int} {k : Nat} (h : x.toInt < lo ∨ hi < x.toInt) (hk : k < 2 ^ 31) (h2 : lo ≤ (k : Int) ∧ (k : Int) ≤ hi) : ¬ x = nI k := by
  rintro rfl
  rw [nI_toInt hk] at h
  omega
section GW
variable {p : Program} {l : Launch} {e : Env} {R : Room} {s : State} {m : MethodId} {args : Array Value} {below : List Frame} {meth : Method} {c : Code} {Q : State → Prop} {D : va_G} {cl : List vw_C} {A : Nat → Prop} {nL : Nat} {k n pc : Nat}
/-- a loop by a measure, over G -/
theorem G.wh {σ : Type} {ws : σ → va_W} {Lf : σ → List (Option Value)} (μ : σ → Nat) (I : σ → Prop) (x : σ) (hx : I x) (hs : ∀ x, I x → (∀ y, I y → μ y < μ x → G p l e R s m args below meth c Q D cl A nL (ws y) k n pc (Lf y) []) → G p l e R s m args below meth c Q D cl A nL (ws x) k n pc (Lf x) []) : G p l e R s m args below meth c Q D cl A nL (ws x) k n pc (Lf x) [] := by
  have key : ∀ d x, μ x < d → I x → G p l e R s m args below meth c Q D cl A nL (ws x) k n pc (Lf x) [] := by
    intro d
    induction d with
    | zero => intro x h; omega
    | succ d ih => intro x h hi; exact hs x hi (fun y hy hl => ih y (by omega) hy)
  exact key (μ x + 1) x (by omega) hx
end GW
/-- while (was != set) { was = set; set = P set }: the loop's invariant and measure -/
def fxI (P : Nat → Nat) (R : Nat) (x : Nat × Nat) : Prop := x.1 < 256 ∧ x.2 < 256 ∧ (x.2 = x.1 → R = x.1) ∧ (x.2 ≠ x.1 → fixV P x.1 = R)
def fxM (x : Nat × Nat) : Nat := 2 * (256 - x.1) + (if x.2 = x.1 then 0 else 1)
theorem fx_0 {P : Nat → Nat} {a : Nat} (hx : a < 256) (h0 : a ≠ 0) : fxI P (fixV P a) (a, 0) := ⟨hx, Nat.zero_lt_succ 255, fun h => absurd h.symm h0, fun _ => rfl⟩
theorem fx_s {P : Nat → Nat} (hP : ∀ x, x < 256 → x ≤ P x ∧ P x < 256) {set was R : Nat} (h : fxI P R (set, was)) (hne : was ≠ set) : fxI P R (P set, set) ∧ fxM (P set, set) < fxM (set, was) := by
  obtain ⟨h1, h2, -, h4⟩ := h
  have h1 : set < 256 := h1
  have h4 := h4 hne
  have h4 : fixV P set = R := h4
  obtain ⟨a, b⟩ := hP set h1
  rw [fixV_eq hP h1] at h4
  refine ⟨⟨b, h1, fun q => ?_, fun q => ?_⟩, ?_⟩
  · have q : set = P set := q
    rw [if_pos q.symm] at h4
    show R = P set
    omega
  · have q : set ≠ P set := q
    rw [if_neg (Ne.symm q)] at h4
    exact h4
  · show 2 * (256 - P set) + (if set = P set then 0 else 1) < 2 * (256 - set) + (if was = set then 0 else 1)
    rw [if_neg hne]
    split <;> omega
theorem goStride_ok {τ : tT} (hp : wfP τ) {q r : Nat} (hq : q < τ 0 8) : 1 ≤ goStride τ q r ∧ goStride τ q r ≤ 24 := by
  obtain ⟨-, -, hp⟩ := hp
  obtain ⟨-, a, b, c⟩ := hp q hq
  unfold goStride
  split
  · rename_i h
    simp only [Bool.and_eq_true] at h
    have h1 := h.1
    unfold sFit at h1
    by_cases hz : τ 11 q = 0
    · rw [if_pos hz] at h1; cases h1
    · omega
  · omega
