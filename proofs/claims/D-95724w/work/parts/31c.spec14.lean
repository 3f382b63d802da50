/-! the plain words, fourteenth: the town -/
set_option maxRecDepth 100000
def tw0 (τ : tT) : tT := upc (upc (upc (upc (upc τ 0 16 4294967295) 0 17 0) 0 22 0) 0 23 0) 0 29 0
def townV (τ : tT) : Nat := prV 20 (tw0 τ)
def twS (τ : tT) : tT := prT 20 (tw0 τ)
def twE (τ : tT) : tT := upc (twS τ) 0 15 0
def tcN (s : tT) : tT := upc (upc (upc s 0 0 (s 0 22)) 0 1 (s 0 23)) 0 8 (s 0 29)
def tcA (s : tT) (n : Nat) : tT := cpT (cpT (cpT (cpT (cpT s 2 n (s 24)) 3 n (s 25)) 4 n (s 26)) 5 n (s 27)) 7 n (fun _ => 0)
def tcB (s : tT) (n : Nat) : tT := cpT (tcA s 10) 6 n (s 28)
def tcC (s : tT) (n : Nat) : tT := cpT (cpT (cpT (tcB s 30) 9 n (s 30)) 10 n (s 31)) 11 n (s 32)
def tcF (s : tT) : tT := upc (upc (upc (upc (tcC s 8) 0 34 0) 0 38 0) 43 0 0) 43 1 0
def pTown (τ : tT) : Int32 := if 0 < townV τ then (-10) - nI (townV τ) else nI (twE τ 0 22)
def pTownT (τ : tT) : tT := if 0 < townV τ then twE τ else tcF (tcN (twE τ))
theorem tcA_0 (s : tT) : tcA s 0 = s := by rw [tcA, cpT_0, cpT_0, cpT_0, cpT_0, cpT_0]
theorem tcB_0 (s : tT) : tcB s 0 = tcA s 10 := cpT_0 _ _ _
theorem tcC_0 (s : tT) : tcC s 0 = tcB s 30 := by rw [tcC, cpT_0, cpT_0, cpT_0]
theorem tcA_s (s : tT) (n : Nat) : upc (upc (upc (upc (upc (tcA s n) 2 n (s 24 n)) 3 n (s 25 n)) 4 n (s 26 n)) 5 n (s 27 n)) 7 n 0 = tcA s (n + 1) := by
  rw [tcA, tcA, cpT_up _ 7 _ _ (i := 2) (by decide), cpT_up _ 7 _ _ (i := 3) (by decide), cpT_up _ 7 _ _ (i := 4) (by decide), cpT_up _ 7 _ _ (i := 5) (by decide), cpT_up _ 5 _ _ (i := 2) (by decide), cpT_up _ 5 _ _ (i := 3) (by decide), cpT_up _ 5 _ _ (i := 4) (by decide), cpT_up _ 4 _ _ (i := 2) (by decide), cpT_up _ 4 _ _ (i := 3) (by decide), cpT_up _ 3 _ _ (i := 2) (by decide), cpT_s s 2 n (s 24), cpT_s _ 3 n (s 25), cpT_s _ 4 n (s 26), cpT_s _ 5 n (s 27), cpT_s _ 7 n (fun _ => 0)]
theorem tcB_s (s : tT) (n : Nat) : upc (tcB s n) 6 n (s 28 n) = tcB s (n + 1) := cpT_s _ _ _ (s 28)
theorem tcC_s (s : tT) (n : Nat) : upc (upc (upc (tcC s n) 9 n (s 30 n)) 10 n (s 31 n)) 11 n (s 32 n) = tcC s (n + 1) := by
  rw [tcC, tcC, cpT_up _ 11 _ _ (i := 9) (by decide), cpT_up _ 11 _ _ (i := 10) (by decide), cpT_up _ 10 _ _ (i := 9) (by decide), cpT_s _ 9 n (s 30), cpT_s _ 10 n (s 31), cpT_s _ 11 n (s 32)]
theorem tw_start {τ : tT} (h1 : τ 0 15 ≤ 500) (h2 : ∀ k, k < 500 → τ 14 k < 256) : prI (townV τ) (twS τ) (tw0 τ, 0) := by
  have hC : wfC (tw0 τ) := ⟨⟨h1, h2, Nat.zero_le _⟩, Nat.zero_le _, Nat.zero_le _, Nat.zero_le _⟩
  exact ⟨Nat.zero_le _, fun _ => ⟨hC, rfl, rfl⟩, fun q => absurd rfl q⟩
theorem prV_le : ∀ f t, prV f t ≤ 4 := by
  intro f
  induction f with
  | zero => intro t; exact Nat.zero_le _
  | succ f ih =>
    intro t
    rw [prV_s]
    split
    · omega
    · split
      · exact ih _
      · exact claV_le _
theorem townV_le {τ : tT} (_ : τ 0 15 ≤ 500) (_ : ∀ k, k < 500 → τ 14 k < 256) : townV τ ≤ 4 := prV_le _ _
