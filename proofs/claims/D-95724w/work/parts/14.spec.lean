/-! the plain words: what the system computes, over the model's numbers τ (τ 0 k its field k, τ j k its array j at k) -/
set_option maxRecDepth 100000
def allB (f : Nat → Bool) : Nat → Bool
  | 0 => true
  | n + 1 => allB f n && f n
def orS (f : Nat → Nat) : Nat → Nat
  | 0 => 0
  | n + 1 => orS f n ||| f n
def sumS (f : Nat → Nat) : Nat → Nat
  | 0 => 0
  | n + 1 => sumS f n + f n
theorem allB_s (f : Nat → Bool) (n : Nat) : allB f (n + 1) = (allB f n && f n) := rfl
theorem orS_s (f : Nat → Nat) (n : Nat) : orS f (n + 1) = orS f n ||| f n := rfl
theorem sumS_s (f : Nat → Nat) (n : Nat) : sumS f (n + 1) = sumS f n + f n := rfl
theorem allB_iff (f : Nat → Bool) (n : Nat) : allB f n = true ↔ ∀ i, i < n → f i = true := by
  induction n with
  | zero => simp [allB]
  | succ n ih =>
    rw [allB_s, Bool.and_eq_true, ih]
    constructor
    · rintro ⟨h1, h2⟩ i hi
      by_cases h : i = n
      · rw [h]; exact h2
      · exact h1 i (by omega)
    · intro h
      exact ⟨fun i hi => h i (by omega), h n (by omega)⟩
theorem orS_lt {f : Nat → Nat} {k : Nat} (n : Nat) (h : ∀ i, i < n → f i < 2 ^ k) : orS f n < 2 ^ k := by
  induction n with
  | zero => exact Nat.two_pow_pos k
  | succ n ih => exact Nat.or_lt_two_pow (ih (fun i hi => h i (by omega))) (h n (by omega))
theorem nar_bN (b : Bool) : narrow .boolean (.int (nI (bN b))) = .int (nI (bN b)) := by cases b <;> rfl
theorem G_join_d : True := trivial
section GJ
variable {p : Program} {l : Launch} {e : Env} {R : Room} {s : State} {m : MethodId} {args : Array Value} {below : List Frame} {meth : Method} {c : Code} {Q : State → Prop} {D : va_G} {cl : List vw_C} {A : Nat → Prop} {nL : Nat} {ws : va_W} {k n pc : Nat} {L : List (Option Value)} {st : List Value}
/-- roads that meet at pcJ with one number on the stack -/
theorem G.join {wsJ : va_W} {pcJ : Nat} {LJ : List (Option Value)} {stJ : List Value} (x : Int32) (J : G p l e R s m args below meth c Q D cl A nL wsJ k n pcJ LJ (.int x :: stJ)) (body : (∀ y : Int32, y = x → G p l e R s m args below meth c Q D cl A nL wsJ k n pcJ LJ (.int y :: stJ)) → G p l e R s m args below meth c Q D cl A nL ws k n pc L st) : G p l e R s m args below meth c Q D cl A nL ws k n pc L st :=
  body (fun y h => h ▸ J)
/-- roads that meet at pcJ -/
theorem G.meet {wsJ : va_W} {pcJ : Nat} {LJ : List (Option Value)} {stJ : List Value} (J : G p l e R s m args below meth c Q D cl A nL wsJ k n pcJ LJ stJ) (body : G p l e R s m args below meth c Q D cl A nL wsJ k n pcJ LJ stJ → G p l e R s m args below meth c Q D cl A nL ws k n pc L st) : G p l e R s m args below meth c Q D cl A nL ws k n pc L st :=
  body J
end GJ
theorem sw_ne {x : Int32} {k : Nat} (h : ¬ x = nI k) (hk : k < 2 ^ 31) : ¬ x.toInt = (k : Int) := fun q => h (Int32.toInt_inj.mp (by rw [nI_toInt hk]; exact q))
theorem sw_last {x : Int32} {k : Nat} (h : x.toInt = (k : Int)) (hk : k < 2 ^ 31) : x = nI k := Int32.toInt_inj.mp (by rw [nI_toInt hk]; exact h)
/-- the answer of in(v, lo, hi), of longs -/
def inB (v lo hi : Int64) : Bool := decide (lo ≤ v ∧ v ≤ hi)
theorem Int32.toInt64_toInt (x : Int32) : x.toInt64.toInt = x.toInt := by simp
theorem inB_iff (v lo hi : Int64) : inB v lo hi = true ↔ lo.toInt ≤ v.toInt ∧ v.toInt ≤ hi.toInt := by
  unfold inB
  rw [decide_eq_true_iff, Int64.le_iff_toInt_le, Int64.le_iff_toInt_le]
theorem inB_ix (x : Int32) (P : Nat) (h : P < 2 ^ 31) : inB x.toInt64 (lN 0) (nI P - nI 1).toInt64 = ixB x P := by
  rw [Bool.eq_iff_iff, inB_iff, ixB, decide_eq_true_iff, Int32.toInt64_toInt, Int32.toInt64_toInt, nI_m1 P h]
  show (0 : Int) ≤ _ ∧ _ ↔ _
  omega
theorem inB_rg (x : Int32) {lo hi : Nat} (h1 : lo < 2 ^ 31) (h2 : hi < 2 ^ 31) : inB x.toInt64 (lN lo) (lN hi) = rgB x lo hi := by
  rw [Bool.eq_iff_iff, inB_iff, rgB, decide_eq_true_iff, Int32.toInt64_toInt, lN_toInt h1, lN_toInt h2]
theorem inB_n {a lo hi : Nat} (h : a < 2 ^ 31) (h1 : lo < 2 ^ 31) (h2 : hi < 2 ^ 31) : inB (lN a) (lN lo) (lN hi) = decide (lo ≤ a ∧ a ≤ hi) := by
  rw [Bool.eq_iff_iff, inB_iff, decide_eq_true_iff, lN_toInt h, lN_toInt h1, lN_toInt h2]
  omega
/-- a stair's part fits a stride, by its kind: plain 0, open 1, leap 2 -/
def fitP (kind n s : Nat) : Bool := kind == 1 || (if kind = 0 then n % s == 0 else (s == 1 || s == n))
/-- isFit(r, s) -/
def sFit (τ : tT) (r s : Nat) : Bool := if s = 0 then false else allB (fun i => fitP (τ 2 r) (τ 6 (3 * r + i)) s) (τ 5 r)
def sMay (τ : tT) (p r : Nat) : Bool := sFit τ r (τ 10 p) || sFit τ r (τ 11 p)
def sClimb (τ : tT) (r : Nat) : Nat := orS (fun p => if sMay τ p r then 2 ^ p else 0) (τ 0 8)
def bitsN (x : Nat) : Nat → Nat
  | 0 => 0
  | n + 1 => bitsN x n + bN (x.testBit n)
/-- what is known of the town's numbers -/
def wfT (τ : tT) : Prop := τ 0 1 ≤ 10 ∧ τ 0 0 ≤ 8 ∧ ∀ r, r < τ 0 1 → τ 2 r < 3 ∧ τ 3 r < τ 0 0 ∧ τ 4 r < τ 0 0 ∧ τ 3 r ≠ τ 4 r ∧ 1 ≤ τ 5 r ∧ τ 5 r ≤ 3 ∧ ∀ i, i < τ 5 r → 1 ≤ τ 6 (3 * r + i) ∧ τ 6 (3 * r + i) ≤ 720
/-- what is known of the persons, of the law -/
def wfP (τ : tT) : Prop := τ 0 8 ≤ 8 ∧ τ 0 12 ≤ 1 ∧ ∀ q, q < τ 0 8 → τ 9 q < τ 0 0 ∧ 1 ≤ τ 10 q ∧ τ 10 q ≤ 24 ∧ τ 11 q ≤ 24
theorem has_N : ∀ k, k < 32 → ∀ (x : Nat), x < 2 ^ 31 → (nI x >>> (nI k &&& 31)) &&& nI 1 = nI (bN (x.testBit k)) := by
  intro k hk x hx
  have e1 : ((nI k &&& 31).toBitVec.smod 32).toNat = k := by
    have : ∀ j, j < 32 → ((nI j &&& 31).toBitVec.smod 32).toNat = j := by decide
    exact this k hk
  rw [pk_shrN hx _ k e1, nI_and]
  congr 1
  rw [Nat.testBit_eq_decide_div_mod_eq, Nat.and_one_is_mod]
  by_cases h : x / 2 ^ k % 2 = 1
  · simp [h, bN]
  · have : x / 2 ^ k % 2 = 0 := by omega
    simp [this, bN]
