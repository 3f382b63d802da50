/-! the plain words, twelfth: feeding -/
set_option maxRecDepth 100000
theorem nI_tn (x : Int32) : x = nI x.toBitVec.toNat := by
  apply Int32.toBitVec_inj.mp
  show x.toBitVec = BitVec.ofNat 32 x.toBitVec.toNat
  rw [BitVec.ofNat_toNat, BitVec.setWidth_eq]
/-- the byte k of the long y, from its low end -/
def bv (y : Int64) (k : Nat) : Nat := ((y >>> ((nI (8 * k)).toInt64 &&& 63)) &&& lN 255).toInt32.toBitVec.toNat
theorem bv_eq (y : Int64) (k : Nat) : ((y >>> ((nI (8 * k)).toInt64 &&& 63)) &&& lN 255).toInt32 = nI (bv y k) := nI_tn _
theorem bv_lt (y : Int64) (k : Nat) : bv y k < 256 := by
  have h : ∀ z : Int64, (z &&& lN 255).toInt32.toBitVec.toNat < 256 := by
    intro z
    have e : (z &&& lN 255).toInt32.toBitVec.toNat = (z &&& lN 255).toBitVec.toNat % 2 ^ 32 := by
      rw [Int64.toBitVec_toInt32, BitVec.signExtend_eq_setWidth_of_le _ (by decide), BitVec.toNat_setWidth]
    have e2 : (z &&& lN 255).toBitVec.toNat ≤ 255 := by
      rw [Int64.toBitVec_and, BitVec.toNat_and]
      exact Nat.and_le_right
    rw [e]
    omega
  exact h _
def fdT (τ : tT) (y : Int64) (n : Nat) : Nat → tT
  | 0 => τ
  | i + 1 => upc (upc (fdT τ y n i) 14 ((fdT τ y n i) 0 15) (bv y (n - 1 - i))) 0 15 ((fdT τ y n i) 0 15 + 1)
theorem fdT_s (τ : tT) (y : Int64) (n i : Nat) : fdT τ y n (i + 1) = upc (upc (fdT τ y n i) 14 ((fdT τ y n i) 0 15) (bv y (n - 1 - i))) 0 15 ((fdT τ y n i) 0 15 + 1) := rfl
theorem fdT_15 (τ : tT) (y : Int64) (n : Nat) : ∀ i, (fdT τ y n i) 0 15 = τ 0 15 + i := by
  intro i
  induction i with
  | zero => rfl
  | succ i ih => rw [fdT_s, upc_hit, ih]; omega
def pFeed (τ : tT) (n : Int32) : Int32 := if rgB n 1 8 = true then (if τ 0 15 + n.toNatClampNeg ≤ 500 then nI (τ 0 15 + n.toNatClampNeg) else FULR) else OUTS
def pFeedT (τ : tT) (n : Int32) (y : Int64) : tT := if rgB n 1 8 = true then (if τ 0 15 + n.toNatClampNeg ≤ 500 then fdT τ y n.toNatClampNeg n.toNatClampNeg else τ) else τ
theorem fd_m1 {m : Nat} (h : 0 < m) : nI m + (-1) = nI (m - 1) := sb_m1 h
theorem fd_ge {m : Nat} (h : 0 < m) (h2 : m < 2 ^ 31) : ¬ nI m + (-1) < 0 := by rw [fd_m1 h]; exact nI_pos (by omega)
