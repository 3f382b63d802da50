/-! X's words, third: best strides -/
set_option maxRecDepth 100000
theorem bst_mx (τ : tT) (x : Nat) {s : Nat} (h : 1 ≤ s) : (bst τ x (s + 1)).2 = max (bst τ x s).2 (bitsN (reachS τ x s 0) 24) := by
  rw [bst_s τ x h, bstF]
  split
  · rename_i c; exact (Nat.max_eq_right c).symm
  · rename_i c; exact (Nat.max_eq_left (by omega)).symm
theorem bst_ge (τ : tT) (x : Nat) : ∀ s, 2 ≤ s → 1 ≤ (bst τ x s).1 := by
  intro s
  induction s with
  | zero => intro h; omega
  | succ s ih =>
    intro h
    rw [bst_s τ x (by omega), bstF]
    split
    · show 1 ≤ s; omega
    · rename_i c
      by_cases e : s = 1
      · subst e; exact absurd (Nat.zero_le _) c
      · exact ih (by omega)
theorem bst_m1 (τ : tT) (x : Nat) : max 1 (bst τ x 25).1 = (bst τ x 25).1 := Nat.max_eq_right (bst_ge τ x 25 (by decide))
