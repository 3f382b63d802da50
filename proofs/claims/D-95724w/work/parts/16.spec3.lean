/-! the plain words, third: building, the law, draws, days -/
set_option maxRecDepth 100000
def pBuildOk (τ : tT) (r part : Int32) : Bool := ixB r (τ 0 1) && ixB part (τ 5 r.toNatClampNeg)
def pBuild (τ : tT) (r part n : Int32) : Int32 := if pBuildOk τ r part = true then (if rgB n 1 720 = true then nI (τ 6 (3 * r.toNatClampNeg + part.toNatClampNeg)) else OUTS) else UNK
def pBuildT (τ : tT) (r part n : Int32) : tT := if (pBuildOk τ r part && rgB n 1 720) = true then upc τ 6 (3 * r.toNatClampNeg + part.toNatClampNeg) n.toNatClampNeg else τ
def pLaw (τ : tT) (v : Int32) : Int32 := if rgB v 0 1 = true then nI (τ 0 12) else OUTS
def pLawT (τ : tT) (v : Int32) : tT := if rgB v 0 1 = true then upc τ 0 12 v.toNatClampNeg else τ
def sdN (x : Nat) : Nat := (x * 1103515245 + 12345) % 2147483648
theorem sdN_lt (x : Nat) : sdN x < 2 ^ 31 := Nat.mod_lt _ (by decide)
def drawV (τ : tT) (n : Nat) : Nat := sdN (τ 0 13) / 65536 % n
def drawT (τ : tT) : tT := upc τ 0 13 (sdN (τ 0 13))
theorem drawT_sd (τ : tT) : (drawT τ) 0 13 < 2 ^ 31 := by
  rw [drawT, upc_hit]
  exact sdN_lt _
theorem drawT_k (τ : tT) {k : Nat} (h : k ≠ 13) : (drawT τ) 0 k = τ 0 k := by rw [drawT, upc_s, upn_n h]
theorem drawT_j (τ : tT) {j : Nat} (h : j ≠ 0) : (drawT τ) j = τ j := by rw [drawT, upc_n h]
theorem birth1_0 (τ : tT) (q : Nat) : (upc τ 9 (τ 0 8) (τ 9 q)) 0 = τ 0 := upc_n (by decide)
theorem drawV_lt (τ : tT) {n : Nat} (h : 0 < n) : drawV τ n < n := Nat.mod_lt _ h
def day1 (τ : tT) : tT := drawT (drawT τ)
def dayP (τ : tT) : Nat := drawV τ (τ 0 8)
def dayR (τ : tT) : Nat := drawV (drawT τ) (τ 0 1)
def day2 (τ : tT) : tT := if sCan (day1 τ) (dayP τ) (dayR τ) = true then goT (day1 τ) (dayP τ) (dayR τ) else day1 τ
def birthF (τ : tT) (q : Nat) : Nat := if drawV τ 2 = 0 then τ 10 q else drawV (drawT τ) 24 + 1
def birthD (τ : tT) : tT := if drawV τ 2 = 0 then drawT τ else drawT (drawT τ)
def birth1 (τ : tT) (q : Nat) : tT := upc τ 9 (τ 0 8) (τ 9 q)
def birthT (τ : tT) (q : Nat) : tT := upc (upc (upc (birthD (birth1 τ q)) 10 (τ 0 8) (birthF (birth1 τ q) q)) 11 (τ 0 8) 0) 0 8 (τ 0 8 + 1)
def dayT (τ : tT) : tT := if drawV (day2 τ) 16 = 0 ∧ τ 0 8 < 8 then birthT (drawT (day2 τ)) (dayP τ) else drawT (day2 τ)
def dayN (τ : tT) : Nat → tT
  | 0 => τ
  | n + 1 => dayT (dayN τ n)
theorem wfT_of {τ τ' : tT} (h0 : τ' 0 0 = τ 0 0) (h1 : τ' 0 1 = τ 0 1) (h2 : τ' 2 = τ 2) (h3 : τ' 3 = τ 3) (h4 : τ' 4 = τ 4) (h5 : τ' 5 = τ 5) (h6 : τ' 6 = τ 6) (h : wfT τ) : wfT τ' := by
  unfold wfT at h ⊢
  rw [h0, h1, h2, h3, h4, h5, h6]
  exact h
theorem wfP_of {τ τ' : tT} (h0 : τ' 0 0 = τ 0 0) (h1 : τ' 0 8 = τ 0 8) (h2 : τ' 0 12 = τ 0 12) (h3 : τ' 9 = τ 9) (h4 : τ' 10 = τ 10) (h5 : τ' 11 = τ 11) (h : wfP τ) : wfP τ' := by
  unfold wfP at h ⊢
  rw [h0, h1, h2, h3, h4, h5]
  exact h
theorem wfT_draw {τ : tT} (h : wfT τ) : wfT (drawT τ) := wfT_of rfl rfl rfl rfl rfl rfl rfl h
theorem wfP_draw {τ : tT} (h : wfP τ) : wfP (drawT τ) := wfP_of rfl rfl rfl rfl rfl rfl h
theorem goT_0 (τ : tT) (q r : Nat) : (goT τ q r) 0 = τ 0 := by rw [goT, upc_n (by decide), upc_n (by decide)]
theorem wfT_go {τ : tT} (q r : Nat) (h : wfT τ) : wfT (goT τ q r) := wfT_of rfl rfl rfl rfl rfl rfl rfl h
theorem goOther_lt {τ : tT} (h : wfT τ) (q : Nat) {r : Nat} (hr : r < τ 0 1) : goOther τ q r < τ 0 0 := by
  obtain ⟨-, a, b, -⟩ := h.2.2 r hr
  unfold goOther
  split
  · exact b
  · exact a
theorem wfP_at {τ τ' : tT} {c : Nat} (h0 : τ' 0 0 = τ 0 0) (h1 : τ' 0 8 = τ 0 8) (h2 : τ' 0 12 = τ 0 12) (h3 : ∀ q, q ≠ c → τ' 9 q = τ 9 q ∧ τ' 10 q = τ 10 q ∧ τ' 11 q = τ 11 q) (hc : c < τ 0 8 → τ' 9 c < τ 0 0 ∧ 1 ≤ τ' 10 c ∧ τ' 10 c ≤ 24 ∧ τ' 11 c ≤ 24) (h : wfP τ) : wfP τ' := by
  obtain ⟨a, b, h⟩ := h
  refine ⟨by omega, by omega, fun q hq => ?_⟩
  rw [h0]
  by_cases e : q = c
  · subst e
    exact hc (by omega)
  · obtain ⟨x, y, z⟩ := h3 q e
    rw [x, y, z]
    exact h q (by omega)
theorem wfP_go {τ : tT} (ht : wfT τ) (h : wfP τ) {q r : Nat} (hr : r < τ 0 1) : wfP (goT τ q r) := by
  refine wfP_at (τ := τ) (τ' := goT τ q r) (c := q) rfl rfl rfl (fun x hx => ⟨?_, rfl, rfl⟩) (fun hq => ⟨?_, ?_⟩) h
  · show upn (τ 9) q (goOther τ q r) x = τ 9 x
    exact upn_n hx
  · show upn (τ 9) q (goOther τ q r) q < τ 0 0
    rw [upn_s]
    exact goOther_lt ht q hr
  · exact ((h.2.2 q hq).2 : _)
/-- all that a day needs -/
def wfD (τ : tT) : Prop := wfT τ ∧ wfP τ ∧ τ 0 13 < 2 ^ 31 ∧ 0 < τ 0 8 ∧ 0 < τ 0 1
theorem wfD_day1 {τ : tT} (h : wfD τ) : wfD (day1 τ) ∧ dayP τ < τ 0 8 ∧ dayR τ < τ 0 1 ∧ (day1 τ) 0 8 = τ 0 8 ∧ (day1 τ) 0 1 = τ 0 1 :=
  ⟨⟨wfT_draw (wfT_draw h.1), wfP_draw (wfP_draw h.2.1), drawT_sd _, h.2.2.2.1, h.2.2.2.2⟩, drawV_lt _ h.2.2.2.1, drawV_lt _ h.2.2.2.2, rfl, rfl⟩
theorem wfD_day2 {τ : tT} (h : wfD τ) : wfD (day2 τ) ∧ (day2 τ) 0 8 = τ 0 8 ∧ (day2 τ) 0 1 = τ 0 1 := by
  obtain ⟨h1, h2, h3, h4, h5⟩ := wfD_day1 h
  unfold day2
  split
  · exact ⟨⟨wfT_go _ _ h1.1, wfP_go h1.1 h1.2.1 (by rw [h5]; exact h3), by rw [goT_0]; exact h1.2.2.1, by rw [goT_0]; exact h1.2.2.2.1, by rw [goT_0]; exact h1.2.2.2.2⟩, by rw [goT_0]; exact h4, by rw [goT_0]; exact h5⟩
  · exact ⟨h1, h4, h5⟩
theorem birthD_facts (τ : tT) : (birthD τ) 0 0 = τ 0 0 ∧ (birthD τ) 0 1 = τ 0 1 ∧ (birthD τ) 0 8 = τ 0 8 ∧ (birthD τ) 0 12 = τ 0 12 ∧ (birthD τ) 0 13 < 2 ^ 31 ∧ ∀ j, j ≠ 0 → (birthD τ) j = τ j := by
  unfold birthD
  split
  · exact ⟨rfl, rfl, rfl, rfl, drawT_sd _, fun j hj => upc_n hj⟩
  · exact ⟨rfl, rfl, rfl, rfl, drawT_sd _, fun j hj => (upc_n hj).trans (upc_n hj)⟩
theorem birthF_ok {τ : tT} {q : Nat} (h : 1 ≤ τ 10 q ∧ τ 10 q ≤ 24) : 1 ≤ birthF τ q ∧ birthF τ q ≤ 24 := by
  unfold birthF
  split
  · exact h
  · have := drawV_lt (drawT τ) (n := 24) (by decide)
    omega
theorem birthT_at (τ : tT) (q : Nat) : ∀ j, (birthT τ q) j = (if j = 0 then upn ((birthD (birth1 τ q)) 0) 8 (τ 0 8 + 1) else if j = 9 then upn (τ 9) (τ 0 8) (τ 9 q) else if j = 10 then upn (τ 10) (τ 0 8) (birthF (birth1 τ q) q) else if j = 11 then upn (τ 11) (τ 0 8) 0 else τ j) := by
  intro j
  obtain ⟨-, -, -, -, -, hD⟩ := birthD_facts (birth1 τ q)
  unfold birthT
  by_cases h0 : j = 0
  · subst h0; rw [if_pos rfl, upc_s, upc_n (by decide), upc_n (by decide)]
  rw [if_neg h0, upc_n h0]
  by_cases h9 : j = 9
  · subst h9; rw [if_pos rfl, upc_n (by decide), upc_n (by decide), hD 9 (by decide), birth1, upc_s]
  rw [if_neg h9]
  by_cases h10 : j = 10
  · subst h10; rw [if_pos rfl, upc_n (by decide), upc_s, hD 10 (by decide), birth1, upc_n (by decide)]
  rw [if_neg h10]
  by_cases h11 : j = 11
  · subst h11; rw [if_pos rfl, upc_s, upc_n (by decide), hD 11 (by decide), birth1, upc_n (by decide)]
  rw [if_neg h11, upc_n h11, upc_n h10, hD j h0, birth1, upc_n h9]
theorem wfD_birth {τ : tT} (h : wfD τ) {q : Nat} (hq : q < τ 0 8) (h8 : τ 0 8 < 8) : wfD (birthT τ q) := by
  have E := birthT_at τ q
  obtain ⟨d0, d1, d2, d3, d4, -⟩ := birthD_facts (birth1 τ q)
  have e0 : (birthT τ q) 0 0 = τ 0 0 := by rw [E 0, if_pos rfl, upn_n (by decide), d0]; rfl
  have e1 : (birthT τ q) 0 1 = τ 0 1 := by rw [E 0, if_pos rfl, upn_n (by decide), d1]; rfl
  have e8 : (birthT τ q) 0 8 = τ 0 8 + 1 := by rw [E 0, if_pos rfl, upn_s]
  have e12 : (birthT τ q) 0 12 = τ 0 12 := by rw [E 0, if_pos rfl, upn_n (by decide), d3]; rfl
  have e13 : (birthT τ q) 0 13 < 2 ^ 31 := by rw [E 0, if_pos rfl, upn_n (by decide)]; exact d4
  obtain ⟨hT, hP, -, h4, h5⟩ := h
  obtain ⟨p0, p1, p2⟩ := hP
  obtain ⟨a1, a2, a3, a4⟩ := p2 q hq
  have hF : 1 ≤ birthF (birth1 τ q) q ∧ birthF (birth1 τ q) q ≤ 24 := birthF_ok ⟨a2, a3⟩
  refine ⟨wfT_of e0 e1 (E 2) (E 3) (E 4) (E 5) (E 6) hT, ⟨by omega, by omega, fun x hx => ?_⟩, e13, by omega, by omega⟩
  rw [e0, E 9, E 10, E 11]
  simp only [if_neg (show ¬ (9 = 0) by decide), if_neg (show ¬ (10 = 0) by decide), if_neg (show ¬ (11 = 0) by decide), if_neg (show ¬ (10 = 9) by decide), if_neg (show ¬ (11 = 9) by decide), if_neg (show ¬ (11 = 10) by decide), if_true]
  by_cases e : x = τ 0 8
  · subst e
    rw [upn_s, upn_s, upn_s]
    exact ⟨a1, hF.1, hF.2, by decide⟩
  · rw [upn_n e, upn_n e, upn_n e]
    exact p2 x (by omega)
theorem wfD_day {τ : tT} (h : wfD τ) : wfD (dayT τ) := by
  obtain ⟨h1, h2, h3⟩ := wfD_day2 h
  have hd : wfD (drawT (day2 τ)) := ⟨wfT_draw h1.1, wfP_draw h1.2.1, drawT_sd _, h1.2.2.2.1, h1.2.2.2.2⟩
  unfold dayT
  split
  · rename_i c
    exact wfD_birth hd (by show _ < (day2 τ) 0 8; rw [h2]; exact (wfD_day1 h).2.1) (by show (day2 τ) 0 8 < 8; rw [h2]; exact c.2)
  · exact hd
theorem dayN_ok {τ : tT} (h : wfD τ) (n : Nat) : wfD (dayN τ n) := by
  induction n with
  | zero => exact h
  | succ n ih => exact wfD_day ih
def pDriftOk (τ : tT) (n : Int32) : Bool := rgB n 1 99 && !(decide (τ 0 8 = 0) || decide (τ 0 1 = 0))
def pDrift (τ : tT) (n : Int32) : Int32 := if rgB n 1 99 = true then (if τ 0 8 = 0 ∨ τ 0 1 = 0 then NOTR else nI ((dayN τ n.toNatClampNeg) 0 8)) else OUTS
def pDriftT (τ : tT) (n : Int32) : tT := if rgB n 1 99 = true then (if τ 0 8 = 0 ∨ τ 0 1 = 0 then τ else dayN τ n.toNatClampNeg) else τ
def pReach (τ : tT) (x s : Int32) : Int32 := if ixB x (τ 0 0) = true then (if rgB s 1 24 = true then nI (reachS τ x.toNatClampNeg s.toNatClampNeg 0) else OUTS) else UNK
def sGuest (τ : tT) (q x : Nat) : Nat := if (decide (x ≠ q) && (reachP τ x).testBit (τ 9 q)) = true then 2 ^ x else 0
def pGuests (τ : tT) (q : Int32) : Int32 := if ixB q (τ 0 8) = true then nI (orS (sGuest τ q.toNatClampNeg) (τ 0 8)) else UNK
theorem reachP_lt {τ : tT} (hw : wfT τ) (hp : wfP τ) {q : Nat} (hq : q < τ 0 8) : reachP τ q < 256 := reachS_lt hw _ _ (by
  have := (hp.2.2 q hq).1
  have := hw.2.1
  omega)
