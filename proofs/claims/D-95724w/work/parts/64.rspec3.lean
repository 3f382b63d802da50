/-! the reader's clauses, in plain words -/
set_option maxRecDepth 100000
/-- the reader's own numbers: at, from, places, stairMany, persons, stairs, place, stride, second, the stairs' cells -/
abbrev rS : Type := Nat × Nat × Nat × Nat × Nat × (Nat → Option Nat) × (Nat → Int32) × (Nat → Int32) × (Nat → Int32) × va_W
def wdK (t : Nat → Nat) (sz a : Nat) : Option Nat := if wdEq t sz a 3 = true then some 0 else if wdEq t sz a 4 = true then some 1 else if wdEq t sz a 5 = true then some 2 else none
theorem hsh_cg {f g : Nat → Int32} : ∀ n, (∀ j, j < n → f j = g j) → hsh f n = hsh g n := by
  intro n
  induction n with
  | zero => intro _; rfl
  | succ n ih => intro h; simp only [hsh]; rw [ih (fun j hj => h j (by omega)), h n (by omega)]
theorem hsh_K {n i : Nat} {f : Nat → Int32} (h : eqB n f i = true) : hsh f n = hsh (fun j => (sByt.getD i []).getD j 0) (sLen.getD i 0) := by
  obtain ⟨h1, h2⟩ := of_decide_eq_true h
  rw [hsh_cg n h2, h1]
theorem hsh_3 {n : Nat} {f : Nat → Int32} (h : eqB n f 3 = true) : hsh f n = -985774004 := (hsh_K h).trans (by decide)
theorem hsh_4 {n : Nat} {f : Nat → Int32} (h : eqB n f 4 = true) : hsh f n = 109757257 := (hsh_K h).trans (by decide)
theorem hsh_5 {n : Nat} {f : Nat → Int32} (h : eqB n f 5 = true) : hsh f n = -991716523 := (hsh_K h).trans (by decide)
theorem lk3 {x : Int32} (h1 : x ≠ -991716523) (h2 : x ≠ -985774004) (h3 : x ≠ 109757257) : Op.lookupswitch.offset [(-991716523, 64), (-985774004, 34), (109757257, 49)] 76 x.toInt = 76 := by
  have e : ∀ y : Int32, x ≠ y → ¬ (y.toInt = x.toInt) := fun y h q => h (Int32.toInt_inj.mp q).symm
  have e1 := e _ h1
  have e2 := e _ h2
  have e3 := e _ h3
  rw [show (-991716523 : Int32).toInt = -991716523 from rfl] at e1
  rw [show (-985774004 : Int32).toInt = -985774004 from rfl] at e2
  rw [show (109757257 : Int32).toInt = 109757257 from rfl] at e3
  simp [Op.lookupswitch.offset, List.find?, e1, e2, e3]
/-- a clause is read (w: the place ahead of its word) -/
def clR (dT : Nat → ClassId) (t : Nat → Nat) (sz w : Nat) (x u : rS) : Prop :=
  (wdK t sz w = some 0 ∧ x.2.2.1 = 0 ∧ nuF t sz (wdW t sz w) 1 8 = 0 ∧ u = (nuE t sz (wdW t sz w), nxA t sz (wdW t sz w), nuV t sz (wdW t sz w), x.2.2.2.1, x.2.2.2.2.1, x.2.2.2.2.2.1, x.2.2.2.2.2.2.1, x.2.2.2.2.2.2.2.1, x.2.2.2.2.2.2.2.2.1, [])) ∨
  (wdK t sz w = some 1 ∧ 1 ≤ x.2.2.1 ∧ ∃ (a' fr m s st kd : Nat) (g : Nat → Int32), stR t sz (wdW t sz w) x.2.2.1 x.2.2.2.1 kd (a', m, g) ∧ u = (a', fr, x.2.2.1, x.2.2.2.1 + 1, x.2.2.2.2.1, va_up x.2.2.2.2.2.1 x.2.2.2.1 (some s), x.2.2.2.2.2.2.1, x.2.2.2.2.2.2.2.1, x.2.2.2.2.2.2.2.2.1, [(s, .inr (6 + kd, [.int (nI (nuV t sz (wdW t sz (wdW t sz w)))), .int (nI (nuV t sz (nuE t sz (wdW t sz (wdW t sz w))))), .ref st, .int (nI m)])), (st, .inl (dT 0, 3, .inl g))])) ∨
  (wdK t sz w = some 2 ∧ 1 ≤ x.2.2.1 ∧ ∃ (a' fr : Nat) (fe' : Nat → Int32), psR t sz (wdW t sz w) x.2.2.1 x.2.2.2.2.1 x.2.2.2.2.2.2.2.2.1 (a', fr, fe') ∧ u = (a', fr, x.2.2.1, x.2.2.2.1, x.2.2.2.2.1 + 1, x.2.2.2.2.2.1, upd x.2.2.2.2.2.2.1 x.2.2.2.2.1 (nI (nuV t sz (wdW t sz w))), upd x.2.2.2.2.2.2.2.1 x.2.2.2.2.1 (nI (nuV t sz (nuE t sz (wdW t sz w)))), fe', []))
def clE (t : Nat → Nat) (sz w pc sm pe fa fb : Nat) : Prop :=
  (fa = 1 ∧ fb = nxA t sz w ∧ (wdK t sz w = none ∨ (wdK t sz w ≠ some 0 ∧ pc = 0))) ∨ (wdK t sz w = some 0 ∧ 0 < pc ∧ fa = 3 ∧ fb = nxA t sz w) ∨ (wdK t sz w = some 0 ∧ pc = 0 ∧ fa = nuF t sz (wdW t sz w) 1 8 ∧ fb = nxA t sz (wdW t sz w) ∧ nuF t sz (wdW t sz w) 1 8 ≠ 0) ∨
  (wdK t sz w = some 1 ∧ 1 ≤ pc ∧ stE t sz (wdW t sz w) pc sm (nxA t sz w) fa fb) ∨ (wdK t sz w = some 2 ∧ 1 ≤ pc ∧ psE t sz (wdW t sz w) pc pe (nxA t sz w) fa fb)
/-- the reader's world -/
def rW (dT : Nat → ClassId) (rd tx tw sz sa pa sta sea : Nat) (t : Nat → Nat) (Xs : va_W) (u : rS) : va_W :=
  (rd, .inr (4, [.ref tx, .int (nI sz), .ref tw, .int (nI u.1), .int (nI u.2.1)])) :: (tx, .inl (dT 2, 500, .inl (fun i => xBy (t i)))) :: (tw, .inr (2, [.int (nI u.2.2.1), .ref sa, .int (nI u.2.2.2.1), .ref pa, .ref sta, .ref sea, .int (nI u.2.2.2.2.1)])) :: (sa, .inl (dT 5, 10, .inr (.inr (.inr (.inr u.2.2.2.2.2.1))))) :: (pa, .inl (dT 0, 8, .inl u.2.2.2.2.2.2.1)) :: (sta, .inl (dT 0, 8, .inl u.2.2.2.2.2.2.2.1)) :: (sea, .inl (dT 0, 8, .inl u.2.2.2.2.2.2.2.2.1)) :: (u.2.2.2.2.2.2.2.2.2 ++ Xs)
