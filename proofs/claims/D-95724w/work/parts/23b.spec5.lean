/-! the plain words, fifth: seeing, books, best strides, covers, steps -/
set_option maxRecDepth 100000
def pSeeOk (τ : tT) (f x : Int32) : Bool := ixB f (τ 0 0) && ixB x (τ 0 0)
def pSee (τ : tT) (f x : Int32) : Int32 := if pSeeOk τ f x = true then (if τ 0 34 = 20 then FULR else nI (τ 0 34 + 1)) else UNK
def seeT (τ : tT) (f x : Nat) (wb : Bool) : tT := upc (upc (upc (upc τ 35 (τ 0 34) f) 36 (τ 0 34) x) 37 (τ 0 34) (bN wb)) 0 34 (τ 0 34 + 1)
def pSeeT (τ : tT) (f x : Int32) (wb : Bool) : tT := if pSeeOk τ f x = true then (if τ 0 34 = 20 then τ else seeT τ f.toNatClampNeg x.toNatClampNeg wb) else τ
def pWriteOk (τ : tT) (p r : Int32) : Bool := ixB p (τ 0 8) && ixB r (τ 0 1)
def pWrite (τ : tT) (p r : Int32) : Int32 := if pWriteOk τ p r = true then (if τ 0 38 = 40 then FULR else nI (τ 0 38 + 1)) else UNK
def writeT (τ : tT) (p r : Nat) : tT := upc (upc (upc τ 39 (τ 0 38) p) 40 (τ 0 38) r) 0 38 (τ 0 38 + 1)
def pWriteT (τ : tT) (p r : Int32) : tT := if pWriteOk τ p r = true then (if τ 0 38 = 40 then τ else writeT τ p.toNatClampNeg r.toNatClampNeg) else τ
def pTear (τ : tT) : Int32 := nI (τ 0 38 + τ 0 34)
def tearT (τ : tT) : tT := upc (upc τ 0 38 0) 0 34 0
def pSeed (τ : tT) (v : Int32) : Int32 := if v < 0 then OUTS else nI (τ 0 13)
def pSeedT (τ : tT) (v : Int32) : tT := if v < 0 then τ else upc τ 0 13 v.toNatClampNeg
def foldS {β : Type} (f : Nat → β → β) (b : β) : Nat → β
  | 0 => b
  | s + 1 => if s = 0 then b else f s (foldS f b s)
theorem foldS_s {β : Type} (f : Nat → β → β) (b : β) {s : Nat} (h : 1 ≤ s) : foldS f b (s + 1) = f s (foldS f b s) := by
  show (if s = 0 then b else f s (foldS f b s)) = _
  rw [if_neg (by omega)]
def bstF (τ : tT) (x s : Nat) (a : Nat × Nat) : Nat × Nat := if a.2 ≤ bitsN (reachS τ x s 0) 24 then (s, bitsN (reachS τ x s 0) 24) else a
def bst (τ : tT) (x n : Nat) : Nat × Nat := foldS (bstF τ x) (0, 0) n
def pBest (τ : tT) (x : Int32) : Int32 := if ixB x (τ 0 0) = true then nI (bst τ x.toNatClampNeg 25).1 else UNK
theorem bst_s (τ : tT) (x : Nat) {s : Nat} (h : 1 ≤ s) : bst τ x (s + 1) = bstF τ x s (bst τ x s) := foldS_s _ _ h
theorem bst_lt (τ : tT) (x : Nat) : ∀ n, (bst τ x n).1 ≤ n ∧ (bst τ x n).2 ≤ 24 := by
  intro n
  induction n with
  | zero => exact ⟨Nat.le_refl _, Nat.zero_le _⟩
  | succ n ih =>
    by_cases h : n = 0
    · subst h; exact ⟨Nat.zero_le _, Nat.zero_le _⟩
    · rw [bst_s τ x (by omega)]
      unfold bstF
      split
      · exact ⟨by show n ≤ n + 1; omega, bitsN_le _ _⟩
      · exact ⟨by omega, ih.2⟩
def seenQ (τ : tT) (s k : Nat) : Bool := decide (bN ((reachS τ (τ 35 k) s 0).testBit (τ 36 k)) = τ 37 k)
def asSeen (τ : tT) (s : Nat) : Bool := allB (seenQ τ s) (τ 0 34)
def fitF (τ : tT) (s set : Nat) : Nat := set ||| (if asSeen τ s = true then 2 ^ (s - 1) else 0)
def fitsN (τ : tT) (n : Nat) : Nat := foldS (fitF τ) 0 n
def fitsS (τ : tT) : Nat := fitsN τ 25
theorem fitsN_s (τ : tT) {s : Nat} (h : 1 ≤ s) : fitsN τ (s + 1) = fitsN τ s ||| (if asSeen τ s = true then 2 ^ (s - 1) else 0) := foldS_s _ _ h
theorem fitsN_lt (τ : tT) : ∀ n, n ≤ 25 → fitsN τ n < 2 ^ 24 := by
  intro n
  induction n with
  | zero => intro _; show 0 < _; decide
  | succ n ih =>
    intro hn
    by_cases h : n = 0
    · subst h; show 0 < _; decide
    · rw [fitsN_s τ (by omega)]
      exact Nat.or_lt_two_pow (ih (by omega)) (ite_lt (Nat.pow_lt_pow_right (by decide) (by omega)) (by decide))
def wfS (τ : tT) : Prop := τ 0 34 ≤ 20 ∧ ∀ k, k < τ 0 34 → τ 35 k < τ 0 0 ∧ τ 36 k < τ 0 0 ∧ τ 37 k < 2
def cvQ (τ : tT) (s r : Nat) : Bool := decide (sClimb τ r &&& s ≠ 0)
def cvA (τ : tT) (s : Nat) (o : Option Nat) (n : Nat) : Bool := fewB s o && allB (cvQ τ s) n
def cvB (τ : tT) : Nat → Option Nat
  | 0 => none
  | s + 1 => if cvA τ s (cvB τ s) (τ 0 1) = true then some s else cvB τ s
theorem cvB_s (τ : tT) (s : Nat) : cvB τ (s + 1) = if cvA τ s (cvB τ s) (τ 0 1) = true then some s else cvB τ s := rfl
theorem cvB_lt (τ : tT) : ∀ s k, cvB τ s = some k → k < s := by
  intro s
  induction s with
  | zero => intro k h; simp [cvB] at h
  | succ s ih =>
    intro k h
    rw [cvB_s] at h
    split at h
    · cases h; omega
    · have := ih k h; omega
theorem cvA_s (τ : tT) (s : Nat) (o : Option Nat) (n : Nat) : cvA τ s o (n + 1) = (cvA τ s o n && cvQ τ s n) := by
  unfold cvA
  rw [allB_s, Bool.and_assoc]
theorem cvA_f {τ : tT} {s : Nat} {o : Option Nat} {i n : Nat} (h : cvA τ s o i = false) (hi : i ≤ n) : cvA τ s o n = false := by
  obtain ⟨d, rfl⟩ := Nat.exists_eq_add_of_le hi
  induction d with
  | zero => exact h
  | succ d ih => rw [← Nat.add_assoc, cvA_s, ih (by omega)]; rfl
theorem cvB_lt2 {τ : tT} {s : Nat} (hs : s ≤ 256) : ∀ k, cvB τ s = some k → k < 2 ^ 31 := fun k h => by
  have := cvB_lt τ s k h
  omega
def pCover (τ : tT) : Int32 := oI (cvB τ (2 ^ τ 0 8))
theorem sClimb_lt {τ : tT} (hp : wfP τ) (r : Nat) : sClimb τ r < 256 := show _ < 2 ^ 8 from orS_lt _ (fun i hi => ite_lt (Nat.pow_lt_pow_right (by decide) (by have := hp.1; omega)) (by decide))
section GE2
variable {p : Program} {l : Launch} {e : Env} {R : Room} {s : State} {m : MethodId} {args : Array Value} {below : List Frame} {meth : Method} {c : Code} {Q : State → Prop} {D : va_G} {cl : List vw_C} {tys : List (ClassId × FieldType)} {A : Nat → Prop} {nL : Nat} {cc : ByteArray} {own : String} {ret : Option FieldType} {ws : va_W} {k n pc : Nat} {L : List (Option Value)} {st : List Value}
theorem g_iaddE (C0 : gC p s m args meth c D cl tys A nL cc own ret) {x y v : Int32} (hv : x + y = v) (hdg : decode cc pc = .ok (.iadd, 1)) (g : G p l e R s m args below meth c Q D cl A nL ws k n (pc + 1) L (.int v :: st)) : G p l e R s m args below meth c Q D cl A nL ws k n pc L (.int y :: .int x :: st) :=
  g_iadd C0 hdg (by rw [hv]; exact g)
theorem g_isubE (C0 : gC p s m args meth c D cl tys A nL cc own ret) {x y v : Int32} (hv : x - y = v) (hdg : decode cc pc = .ok (.isub, 1)) (g : G p l e R s m args below meth c Q D cl A nL ws k n (pc + 1) L (.int v :: st)) : G p l e R s m args below meth c Q D cl A nL ws k n pc L (.int y :: .int x :: st) :=
  g_isub C0 hdg (by rw [hv]; exact g)
theorem g_ixorE (C0 : gC p s m args meth c D cl tys A nL cc own ret) {x y v : Int32} (hv : x ^^^ y = v) (hdg : decode cc pc = .ok (.ixor, 1)) (g : G p l e R s m args below meth c Q D cl A nL ws k n (pc + 1) L (.int v :: st)) : G p l e R s m args below meth c Q D cl A nL ws k n pc L (.int y :: .int x :: st) :=
  g_ixor C0 hdg (by rw [hv]; exact g)
end GE2
/-- the set a without b -/
def ndS (a b : Nat) : Nat := a &&& (b ^^^ 255)
theorem ndS_lt {a b : Nat} (h : a < 256) : ndS a b < 256 := Nat.lt_of_le_of_lt Nat.and_le_left h
theorem nd_N {a b : Nat} (ha : a < 256) (hb : b < 256) : nI a &&& (nI b ^^^ (-1)) = nI (ndS a b) := by
  apply Int32.toBitVec_inj.mp
  rw [Int32.toBitVec_and, Int32.toBitVec_xor]
  show BitVec.ofNat 32 a &&& (BitVec.ofNat 32 b ^^^ (-1 : Int32).toBitVec) = BitVec.ofNat 32 (a &&& (b ^^^ 255))
  apply BitVec.eq_of_getLsbD_eq
  intro i hi
  have h255 : Nat.testBit 255 i = decide (i < 8) := by
    rw [show (255 : Nat) = 2 ^ 8 - 1 from rfl, Nat.testBit_two_pow_sub_one]
  have hm : ((-1 : Int32).toBitVec).getLsbD i = true := by
    have : ∀ j : Fin 32, ((-1 : Int32).toBitVec).getLsbD j.val = true := by decide
    exact this ⟨i, hi⟩
  rw [BitVec.getLsbD_and, BitVec.getLsbD_xor, BitVec.getLsbD_ofNat, BitVec.getLsbD_ofNat, BitVec.getLsbD_ofNat, hm, Nat.testBit_and, Nat.testBit_xor, h255]
  by_cases h8 : i < 8
  · simp [hi, h8]
  · have : a.testBit i = false := Nat.testBit_lt_two_pow (Nat.lt_of_lt_of_le ha (show 2 ^ 8 ≤ 2 ^ i from Nat.pow_le_pow_right (by decide) (by omega)))
    simp [hi, this]
theorem sub_m1 {n : Nat} (h : 0 < n) : nI (n - 1) - (-1) = nI n := by
  rw [Int32.sub_eq_add_neg, Int32.neg_neg, show (1 : Int32) = nI 1 from rfl, nI_add, Nat.sub_add_cancel h]
theorem add_sub1 (n : Nat) : nI (n + 1) - nI 1 = nI n := by rw [pk_sub (by omega), Nat.add_sub_cancel]
def climbW (τ : tT) (r x : Nat) (up : Bool) : Nat := sClimb (upc τ 6 (3 * r + x) (if up = true then τ 6 (3 * r + x) + 1 else τ 6 (3 * r + x) - 1)) r
def stepOk (τ : tT) (r x : Nat) (y w : Int32) : Prop := (y = nI 1 ∨ y = -1) ∧ rgB w 0 1 = true ∧ (y = nI 1 → τ 6 (3 * r + x) + 1 ≤ 720) ∧ (y = -1 → 2 ≤ τ 6 (3 * r + x))
def stepV (τ : tT) (r x : Nat) (up : Bool) (w : Int32) : Int32 := if w = nI 0 then nI (bitsN (ndS (climbW τ r x up) (sClimb τ r)) 24) else nI (bitsN (ndS (sClimb τ r) (climbW τ r x up)) 24)
noncomputable def pStep (τ : tT) (r x y w : Int32) : Int32 := by
  classical
  exact if pBuildOk τ r x = true then (if stepOk τ r.toNatClampNeg x.toNatClampNeg y w then stepV τ r.toNatClampNeg x.toNatClampNeg (decide (y = nI 1)) w else OUTS) else UNK
theorem wfT_step {τ : tT} (h : wfT τ) {r x v : Nat} (hr : r < τ 0 1) (hx : x < τ 5 r) (h1 : 1 ≤ v) (h2 : v ≤ 720) : wfT (upc τ 6 (3 * r + x) v) := by
  obtain ⟨a, b, h⟩ := h
  refine ⟨a, b, fun q hq => ?_⟩
  obtain ⟨k1, k2, k3, k4, k5, k6, k7⟩ := h q hq
  refine ⟨k1, k2, k3, k4, k5, k6, fun i hi => ?_⟩
  show 1 ≤ upn (τ 6) (3 * r + x) v (3 * q + i) ∧ upn (τ 6) (3 * r + x) v (3 * q + i) ≤ 720
  rw [upn_if]
  split
  · exact ⟨h1, h2⟩
  · exact k7 i hi
