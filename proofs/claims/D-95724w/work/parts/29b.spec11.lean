/-! the plain words, eleventh: a clause -/
set_option maxRecDepth 100000
def oneK (s : Nat) : Option Nat := if s = cPlaces then some 0 else if s = cStair then some 1 else none
def clK (s : Nat) : Option Nat := if s = cPlaces then some 0 else if s = cStair then some 1 else if s = cPerson then some 2 else none
theorem oneK_lt {s k : Nat} (h : oneK s = some k) : k < 2 := by
  unfold oneK at h
  split at h
  · cases h; decide
  · split at h
    · cases h; decide
    · cases h
theorem clK_lt {s k : Nat} (h : clK s = some k) : k < 3 := by
  unfold clK at h
  split at h
  · cases h; decide
  · split at h
    · cases h; decide
    · split at h
      · cases h; decide
      · cases h
theorem clK_one {s k : Nat} (h : oneK s = some k) : clK s = oneK s := by
  unfold oneK at h
  unfold clK oneK
  split
  · rfl
  · split
    · rfl
    · rename_i h1 h2
      rw [if_neg h1, if_neg h2] at h
      cases h
theorem clK_two {s : Nat} (h : oneK s = none) : clK s = if s = cPerson then some 2 else none := by
  unfold oneK at h
  unfold clK
  split
  · rename_i h1; rw [if_pos h1] at h; cases h
  · rename_i h1
    rw [if_neg h1] at h
    split
    · rename_i h2; rw [if_pos h2] at h; cases h
    · rfl
def cl1 (τ : tT) : tT := rwT τ
def cl2 (τ : tT) : tT := upc (cl1 τ) 0 17 (cl1 τ 0 19)
def clS (τ : tT) : Nat := cl1 τ 0 18
def clFull (τ : tT) (k : Nat) : Bool := if k = 0 then decide (0 < τ 0 22) else if k = 1 then decide (τ 0 23 = 10) else decide (τ 0 29 = 8)
def cqA (τ : tT) (k : Nat) : Nat := if k = 0 then numV (cl2 τ) 1 8 else if k = 1 then stairV (cl2 τ) else persV (cl2 τ)
def clP (τ : tT) : tT := upc (numT (cl2 τ) 1 8) 0 22 (numT (cl2 τ) 1 8 0 20)
def clB (τ : tT) (k : Nat) : tT := if k = 0 then clP τ else if k = 1 then stairT (cl2 τ) else persT (cl2 τ)
def bump (τ : tT) : tT := upc τ 0 17 (τ 0 17 + 1)
def clEV (τ : tT) (k : Nat) : Nat := if cqA τ k = 0 then (if hrV (clB τ k) = some 59 then 0 else 1) else cqA τ k
def clET (τ : tT) (k : Nat) : tT := if cqA τ k = 0 then (if hrV (clB τ k) = some 59 then bump (hrT (clB τ k)) else upc (hrT (clB τ k)) 0 16 (hrA (clB τ k))) else bump (clB τ k)
def clFail (τ : tT) : tT := upc (cl1 τ) 0 16 (cl1 τ 0 17)
def ckV (τ : tT) (k : Nat) : Nat := if 0 < k ∧ τ 0 22 = 0 then 1 else if clFull τ k = true then 3 else clEV τ k
def ckT (τ : tT) (k : Nat) : tT := if 0 < k ∧ τ 0 22 = 0 then clFail τ else if clFull τ k = true then clFail τ else clET τ k
def claV (τ : tT) : Nat := match clK (clS τ) with
  | none => 1
  | some k => ckV τ k
def claT (τ : tT) : tT := match clK (clS τ) with
  | none => clFail τ
  | some k => ckT τ k
theorem cla_n {τ : tT} (h : clK (clS τ) = none) : claV τ = 1 ∧ claT τ = clFail τ := by unfold claV claT; rw [h]; exact ⟨rfl, rfl⟩
theorem cla_s {τ : tT} {k : Nat} (h : clK (clS τ) = some k) : claV τ = ckV τ k ∧ claT τ = ckT τ k := by unfold claV claT; rw [h]; exact ⟨rfl, rfl⟩
theorem cl1_k (τ : tT) {k : Nat} (h17 : k ≠ 17) (h18 : k ≠ 18) (h19 : k ≠ 19) : cl1 τ 0 k = τ 0 k := rwT_k _ h17 h18 h19
theorem cl2_k (τ : tT) {k : Nat} (h17 : k ≠ 17) (h18 : k ≠ 18) (h19 : k ≠ 19) : cl2 τ 0 k = τ 0 k := by rw [cl2, upc_s, upn_n h17, cl1_k _ h17 h18 h19]
theorem wfY_cl1 {τ : tT} (h : wfY τ) : wfY (cl1 τ) := wfY_rw h
theorem wfY_cl2 {τ : tT} (h : wfY τ) : wfY (cl2 τ) := by
  refine ⟨(wfY_cl1 h).1, (wfY_cl1 h).2.1, ?_⟩
  show cl1 τ 0 19 ≤ cl1 τ 0 15
  rw [cl1, rwT_19, rwT_k _ (by decide) (by decide) (by decide)]
  exact (wEnd_le h).2
theorem wfY_0 {τ : tT} (h : wfY τ) {k : Nat} (x : Nat) (h15 : k ≠ 15) (h17 : k ≠ 17) : wfY (upc τ 0 k x) := by
  refine ⟨?_, h.2.1, ?_⟩
  · rw [upc_s, upn_n (Ne.symm h15)]; exact h.1
  · rw [upc_s, upn_n (Ne.symm h17), upn_n (Ne.symm h15)]; exact h.2.2
theorem wfY_tpT (r : Nat) : ∀ (f : Nat) (τ : tT), wfY τ → wfY (tpT r f τ) := by
  intro f
  induction f with
  | zero => intro τ h; exact h
  | succ f ih =>
    intro τ h
    rw [tpT_s]
    split
    · exact wfY_tp1 h r
    · split
      · rename_i hc
        split
        · exact wfY_0 (wfY_tp3 h r) _ (by decide) (by decide)
        · exact ih _ (wfY_tp4 h r hc)
      · exact wfY_tp3 h r
theorem wfY_stair {τ : tT} (h : wfY τ) : wfY (stairT τ) := by
  unfold stairT
  split
  · exact wfY_0 (wfY_sr1 h) _ (by decide) (by decide)
  · unfold srT
    split
    · exact wfY_sr4 h _
    · split
      · exact wfY_0 (wfY_sr4 h _) _ (by decide) (by decide)
      · exact wfY_tpT _ _ _ (wfY_up (wfY_sr4 h _) _ _ (by decide) (by decide))
theorem wfY_pers {τ : tT} (h : wfY τ) : wfY (persT τ) := by
  unfold persT
  split
  · exact wfY_pn3 h
  · split
    · exact wfY_into (wfY_hr (wfY_pn3 h)) _ _ _ (by decide) (by decide)
    · exact wfY_hr (wfY_pn3 h)
theorem wfY_clB {τ : tT} (h : wfY τ) (k : Nat) : wfY (clB τ k) := by
  unfold clB
  split
  · exact wfY_0 (wfY_num (wfY_cl2 h) _ _) _ (by decide) (by decide)
  · split
    · exact wfY_stair (wfY_cl2 h)
    · exact wfY_pers (wfY_cl2 h)
theorem tpV_le (r : Nat) : ∀ (f : Nat) (τ : tT), tpV r f τ ≤ 2 := by
  intro f
  induction f with
  | zero => intro τ; exact Nat.zero_le _
  | succ f ih =>
    intro τ
    rw [tpV_s]
    split
    · exact numV_le _ _ _
    · split
      · split
        · omega
        · exact ih _
      · omega
theorem stairV_le (τ : tT) : stairV τ ≤ 4 := by
  unfold stairV
  split
  · omega
  · rename_i k _
    unfold srV
    have := srF_le τ k
    have := tpV_le (τ 0 23) 3 (takeParts0 (sr4 τ k) (τ 0 23))
    unfold partV
    split
    · omega
    · split <;> omega
theorem persV_le (τ : tT) : persV τ ≤ 2 := by
  unfold persV
  have := pnF_le τ
  split
  · exact this
  · split
    · exact numV_le _ _ _
    · omega
theorem cqA_le (τ : tT) (k : Nat) : cqA τ k ≤ 4 := by
  unfold cqA
  have := numV_le (cl2 τ) 1 8
  have := stairV_le (cl2 τ)
  have := persV_le (cl2 τ)
  split
  · omega
  · split <;> omega
section GJ2
variable {p : Program} {l : Launch} {e : Env} {R : Room} {s : State} {m : MethodId} {args : Array Value} {below : List Frame} {meth : Method} {c : Code} {Q : State → Prop} {D : va_G} {cl : List vw_C} {A : Nat → Prop} {nL : Nat} {ws : va_W} {k n pc : Nat} {L : List (Option Value)} {st : List Value}
/-- roads that meet at pcJ, where h holds -/
theorem G.meetH {h : Prop} {wsJ : va_W} {pcJ : Nat} {LJ : List (Option Value)} {stJ : List Value} (J : h → G p l e R s m args below meth c Q D cl A nL wsJ k n pcJ LJ stJ) (body : (h → G p l e R s m args below meth c Q D cl A nL wsJ k n pcJ LJ stJ) → G p l e R s m args below meth c Q D cl A nL ws k n pc L st) : G p l e R s m args below meth c Q D cl A nL ws k n pc L st :=
  body J
end GJ2
