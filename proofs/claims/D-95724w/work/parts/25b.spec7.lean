/-! the plain words, seventh: images, the book's judgement, feeding -/
set_option maxRecDepth 100000
/-- the first n places of the cell j are g's -/
def cpT (τ : tT) (j n : Nat) (g : Nat → Nat) : tT := upr τ j (fun k => if k < n then g k else τ j k)
theorem cpT_0 (τ : tT) (j : Nat) (g : Nat → Nat) : cpT τ j 0 g = τ := by
  funext i q
  by_cases h : i = j
  · subst h; rw [cpT, upr_s]; simp
  · rw [cpT, upr_n h]
theorem cpT_s (τ : tT) (j n : Nat) (g : Nat → Nat) : upc (cpT τ j n g) j n (g n) = cpT τ j (n + 1) g := by
  funext i q
  by_cases h : i = j
  · subst h
    rw [upc_s, upn_if, cpT, cpT, upr_s, upr_s]
    by_cases h1 : q = n
    · subst h1; rw [if_pos rfl, if_pos (by omega)]
    · rw [if_neg h1]
      by_cases h2 : q < n
      · rw [if_pos h2, if_pos (by omega)]
      · rw [if_neg h2, if_neg (by omega)]
  · rw [upc_n h, cpT, cpT, upr_n h, upr_n h]
theorem cpT_j (τ : tT) (j n : Nat) (g : Nat → Nat) {i : Nat} (h : i ≠ j) : cpT τ j n g i = τ i := by rw [cpT, upr_n h]
theorem cpT_at (τ : tT) (j n : Nat) (g : Nat → Nat) (k : Nat) : cpT τ j n g j k = if k < n then g k else τ j k := by rw [cpT, upr_s]
theorem cpT_up (τ : tT) (j n : Nat) (g : Nat → Nat) {i k x : Nat} (h : i ≠ j) : upc (cpT τ j n g) i k x = cpT (upc τ i k x) j n g := by
  funext a b
  by_cases h1 : a = i
  · subst h1
    rw [upc_s, cpT_j _ _ _ _ h, cpT_j _ _ _ _ h, upc_s]
  · rw [upc_n h1]
    by_cases h2 : a = j
    · subst h2; rw [cpT_at, cpT_at, upc_n h1]
    · rw [cpT_j _ _ _ _ h2, cpT_j _ _ _ _ h2, upc_n h1]
/-- what an image holds, by its place -/
def imgF (τ : tT) (o : Nat) : Nat := if o < 8 then τ 9 o else if o < 16 then τ 10 (o - 8) else if o < 24 then τ 11 (o - 16) else if o < 54 then τ 6 (o - 24) else if o < 64 then τ 7 (o - 54) else if o = 64 then τ 0 8 else if o = 65 then τ 0 12 else τ 0 13
def kst (τ : tT) (k0 : Nat) (W : Nat → Bool) : tT := upr τ 42 (fun k => if (decide (k0 ≤ k) && W (k - k0)) = true then imgF τ (k - k0) else τ 42 k)
theorem kst_c {τ : tT} {k0 : Nat} {W W' : Nat → Bool} (h : ∀ o, W o = W' o) : kst τ k0 W = kst τ k0 W' := by rw [funext h]
theorem kst_0 (τ : tT) (k0 : Nat) {W : Nat → Bool} (h : ∀ o, W o = false) : kst τ k0 W = τ := by
  funext i q
  by_cases hi : i = 42
  · subst hi; rw [kst, upr_s]; simp [h]
  · rw [kst, upr_n hi]
theorem kst_up (τ : tT) (k0 : Nat) (W : Nat → Bool) {i v : Nat} (o : Nat) (hi : i = k0 + o) (hv : v = imgF τ o) : upc (kst τ k0 W) 42 i v = kst τ k0 (fun x => W x || decide (x = o)) := by
  subst hi; subst hv
  funext a b
  by_cases h : a = 42
  · subst h
    rw [upc_s, upn_if, kst, kst, upr_s, upr_s]
    by_cases h1 : b = k0 + o
    · subst h1
      rw [if_pos rfl, if_pos (by simp), Nat.add_sub_cancel_left]
    · rw [if_neg h1]
      by_cases h2 : k0 ≤ b
      · have h3 : ¬ b - k0 = o := by omega
        simp [h2, h3]
      · simp [h2]
  · rw [upc_n h, kst, kst, upr_n h, upr_n h]
def kW1 (n o : Nat) : Bool := decide (o < n) || (decide (8 ≤ o ∧ o < 8 + n) || decide (16 ≤ o ∧ o < 16 + n))
def kW2 (n o : Nat) : Bool := decide (o < n)
def keepT (τ : tT) (i : Nat) : tT := upc (kst τ (70 * i) (kW2 67)) 43 i 1
def pKeep (i : Int32) : Int32 := if rgB i 0 1 = true then nI 1 else UNK
def pKeepT (τ : tT) (i : Int32) : tT := if rgB i 0 1 = true then keepT τ i.toNatClampNeg else τ
theorem kW1_s (n : Nat) (hn : n < 8) (o : Nat) : (((kW1 n o || decide (o = n)) || decide (o = 8 + n)) || decide (o = 16 + n)) = kW1 (n + 1) o := by
  rw [Bool.eq_iff_iff]
  simp only [kW1, Bool.or_eq_true, decide_eq_true_eq]
  omega
theorem kW1_2 (o : Nat) : kW1 8 o = kW2 24 o := by
  rw [Bool.eq_iff_iff]
  simp only [kW1, kW2, Bool.or_eq_true, decide_eq_true_eq]
  omega
theorem kW2_s (n o : Nat) : (kW2 n o || decide (o = n)) = kW2 (n + 1) o := by
  rw [Bool.eq_iff_iff]
  simp only [kW2, Bool.or_eq_true, decide_eq_true_eq]
  omega
theorem img_9 (τ : tT) {n : Nat} (h : n < 8) : τ 9 n = imgF τ n := by rw [imgF, if_pos h]
theorem img_10 (τ : tT) {n : Nat} (h : n < 8) : τ 10 n = imgF τ (8 + n) := by rw [imgF, if_neg (by omega), if_pos (by omega), Nat.add_sub_cancel_left]
theorem img_11 (τ : tT) {n : Nat} (h : n < 8) : τ 11 n = imgF τ (16 + n) := by rw [imgF, if_neg (by omega), if_neg (by omega), if_pos (by omega), Nat.add_sub_cancel_left]
theorem img_6 (τ : tT) {n : Nat} (h : n < 30) : τ 6 n = imgF τ (24 + n) := by rw [imgF, if_neg (by omega), if_neg (by omega), if_neg (by omega), if_pos (by omega), Nat.add_sub_cancel_left]
theorem img_7 (τ : tT) {n : Nat} (h : n < 10) : τ 7 n = imgF τ (54 + n) := by rw [imgF, if_neg (by omega), if_neg (by omega), if_neg (by omega), if_neg (by omega), if_pos (by omega), Nat.add_sub_cancel_left]
/-- what goBack takes from an image -/
def gbA (τ : tT) (k0 n : Nat) : tT := cpT (cpT (cpT τ 9 n (fun k => τ 42 (k0 + k))) 10 n (fun k => τ 42 (k0 + 8 + k))) 11 n (fun k => τ 42 (k0 + 16 + k))
def gbB (τ : tT) (k0 n : Nat) : tT := cpT (gbA τ k0 8) 6 n (fun k => τ 42 (k0 + 24 + k))
def gbC (τ : tT) (k0 n : Nat) : tT := cpT (gbB τ k0 30) 7 n (fun k => τ 42 (k0 + 54 + k))
def gbT (τ : tT) (k0 : Nat) : tT := upc (upc (upc (gbC τ k0 10) 0 8 (τ 42 (k0 + 64))) 0 12 (τ 42 (k0 + 65))) 0 13 (τ 42 (k0 + 66))
def pGoBack (τ : tT) (i : Int32) : Int32 := if rgB i 0 1 = true then (if τ 43 i.toNatClampNeg = 0 then NOTR else nI 1) else UNK
def pGoBackT (τ : tT) (i : Int32) : tT := if rgB i 0 1 = true then (if τ 43 i.toNatClampNeg = 0 then τ else gbT τ (70 * i.toNatClampNeg)) else τ
theorem gbA_0 (τ : tT) (k0 : Nat) : gbA τ k0 0 = τ := by rw [gbA, cpT_0, cpT_0, cpT_0]
theorem gbB_0 (τ : tT) (k0 : Nat) : gbB τ k0 0 = gbA τ k0 8 := cpT_0 _ _ _
theorem gbC_0 (τ : tT) (k0 : Nat) : gbC τ k0 0 = gbB τ k0 30 := cpT_0 _ _ _
theorem gbA_s (τ : tT) (k0 n : Nat) : upc (upc (upc (gbA τ k0 n) 9 n (τ 42 (k0 + n))) 10 n (τ 42 (k0 + 8 + n))) 11 n (τ 42 (k0 + 16 + n)) = gbA τ k0 (n + 1) := by
  rw [gbA, gbA, cpT_up _ 11 _ _ (i := 9) (by decide), cpT_up _ 11 _ _ (i := 10) (by decide), cpT_up _ 10 _ _ (i := 9) (by decide), cpT_s τ 9 n (fun k => τ 42 (k0 + k)), cpT_s _ 10 n (fun k => τ 42 (k0 + 8 + k)), cpT_s _ 11 n (fun k => τ 42 (k0 + 16 + k))]
theorem gbB_s (τ : tT) (k0 n : Nat) : upc (gbB τ k0 n) 6 n (τ 42 (k0 + 24 + n)) = gbB τ k0 (n + 1) := cpT_s _ _ _ (fun k => τ 42 (k0 + 24 + k))
theorem gbC_s (τ : tT) (k0 n : Nat) : upc (gbC τ k0 n) 7 n (τ 42 (k0 + 54 + n)) = gbC τ k0 (n + 1) := cpT_s _ _ _ (fun k => τ 42 (k0 + 54 + k))
theorem img_64 (τ : tT) : τ 0 8 = imgF τ 64 := by simp [imgF]
theorem img_65 (τ : tT) : τ 0 12 = imgF τ 65 := by simp [imgF]
theorem img_66 (τ : tT) : τ 0 13 = imgF τ 66 := by simp [imgF]
theorem keep_end (τ : tT) (k0 i : Nat) : upc (upc (upc (upc (kst τ k0 (kW2 64)) 42 (k0 + 64) (τ 0 8)) 42 (k0 + 65) (τ 0 12)) 42 (k0 + 66) (τ 0 13)) 43 i 1 = upc (kst τ k0 (kW2 67)) 43 i 1 := by
  rw [kst_up τ k0 _ 64 rfl (img_64 τ), kst_up τ k0 _ 65 rfl (img_65 τ), kst_up τ k0 _ 66 rfl (img_66 τ)]
  congr 1
  apply kst_c
  intro o
  rw [kW2_s, kW2_s, kW2_s]
/-- the book's judgement: the places as they go, and the first wrong line -/
def jS (τ : tT) : Nat → (Nat → Nat) × Option Nat
  | 0 => (τ 9, none)
  | k + 1 => if (jS τ k).2 = none then (if (decide (τ 39 k < τ 0 8) && sCan (upr τ 9 (jS τ k).1) (τ 39 k) (τ 40 k)) = true then (upn (jS τ k).1 (τ 39 k) (goOther (upr τ 9 (jS τ k).1) (τ 39 k) (τ 40 k)), none) else ((jS τ k).1, some k)) else jS τ k
theorem jS_s (τ : tT) (k : Nat) : jS τ (k + 1) = if (jS τ k).2 = none then (if (decide (τ 39 k < τ 0 8) && sCan (upr τ 9 (jS τ k).1) (τ 39 k) (τ 40 k)) = true then (upn (jS τ k).1 (τ 39 k) (goOther (upr τ 9 (jS τ k).1) (τ 39 k) (τ 40 k)), none) else ((jS τ k).1, some k)) else jS τ k := rfl
def pJudge (τ : tT) : Int32 := oI (jS τ (τ 0 38)).2
def judgeT (τ : tT) : tT := cpT τ 41 8 (τ 9)
theorem jS_stay {τ : tT} {i n : Nat} (h : (jS τ i).2 ≠ none) (hi : i ≤ n) : jS τ n = jS τ i := by
  obtain ⟨d, rfl⟩ := Nat.exists_eq_add_of_le hi
  clear hi
  induction d with
  | zero => rfl
  | succ d ih => rw [← Nat.add_assoc, jS_s, ih, if_neg h]
def wfB (τ : tT) : Prop := τ 0 38 ≤ 40 ∧ ∀ k, k < τ 0 38 → τ 39 k < 8 ∧ τ 40 k < τ 0 1
theorem jS_ok {τ : tT} (hw : wfT τ) (hp : wfP τ) (hb : wfB τ) : ∀ k, k ≤ τ 0 38 → (∀ q, q < τ 0 8 → (jS τ k).1 q < τ 0 0) ∧ (∀ q, 8 ≤ q → (jS τ k).1 q = τ 9 q) ∧ ∀ e, (jS τ k).2 = some e → e < k := by
  intro k
  induction k with
  | zero => intro _; exact ⟨fun q hq => (hp.2.2 q hq).1, fun _ _ => rfl, fun e h => by cases h⟩
  | succ k ih =>
    intro hk
    obtain ⟨h1, h2, h3⟩ := ih (by omega)
    obtain ⟨b1, b2⟩ := hb.2 k (by omega)
    rw [jS_s]
    split
    · split
      · refine ⟨fun q hq => ?_, fun q hq => ?_, fun e h => by cases h⟩
        · show upn _ _ _ q < _
          rw [upn_if]
          split
          · exact goOther_lt (τ := upr τ 9 (jS τ k).1) (wfT_of (τ := τ) rfl rfl rfl rfl rfl rfl rfl hw) _ b2
          · exact h1 q hq
        · show upn _ _ _ q = _
          rw [upn_n (by omega)]
          exact h2 q hq
      · exact ⟨h1, h2, fun e h => by cases h; omega⟩
    · exact ⟨h1, h2, fun e h => Nat.lt_succ_of_lt (h3 e h)⟩
/-- the judge's state in its loop -/
def jT (τ : tT) (f : Nat → Nat) : tT := upr (cpT τ 41 8 (τ 9)) 9 f
theorem jT_0 (τ : tT) : jT τ (τ 9) = cpT τ 41 8 (τ 9) := by
  funext i q
  by_cases h : i = 9
  · subst h; rw [jT, upr_s, cpT_j _ _ _ _ (by decide)]
  · rw [jT, upr_n h]
theorem jT_T {τ : tT} {f : Nat → Nat} (h : wfT τ) : wfT (jT τ f) := wfT_of (τ := τ) (τ' := jT τ f) rfl rfl rfl rfl rfl rfl rfl h
theorem jT_P {τ : tT} {f : Nat → Nat} (h : wfP τ) (hf : ∀ q, q < τ 0 8 → f q < τ 0 0) : wfP (jT τ f) := ⟨h.1, h.2.1, fun q hq => ⟨by show f q < _; exact hf q hq, (h.2.2 q hq).2⟩⟩
theorem jT_can (τ : tT) (f : Nat → Nat) (q r : Nat) : sCan (jT τ f) q r = sCan (upr τ 9 f) q r := by
  unfold sCan
  rw [sMay_c (τ := upr τ 9 f) (τ' := jT τ f) rfl rfl rfl rfl rfl]
  rfl
theorem jT_other (τ : tT) (f : Nat → Nat) (q r : Nat) : goOther (jT τ f) q r = goOther (upr τ 9 f) q r := rfl
theorem jT_up (τ : tT) (f : Nat → Nat) (k x : Nat) : upc (jT τ f) 9 k x = jT τ (upn f k x) := by
  funext i q
  by_cases h : i = 9
  · subst h; rw [upc_s, jT, jT, upr_s, upr_s]
  · rw [upc_n h, jT, jT, upr_n h, upr_n h]
def jR (τ : tT) (f : Nat → Nat) (n : Nat) : tT := jT τ (fun q => if q < n then τ 9 q else f q)
theorem jR_0 (τ : tT) (f : Nat → Nat) : jR τ f 0 = jT τ f := by rw [jR]; simp
theorem jR_s (τ : tT) (f : Nat → Nat) {n : Nat} (h : n < 8) : upc (jR τ f n) 9 n ((jR τ f n) 41 n) = jR τ f (n + 1) := by
  have e : (jR τ f n) 41 n = τ 9 n := by
    rw [jR, jT, upr_n (by decide), cpT_at, if_pos h]
  rw [e, jR, jT_up, jR]
  congr 1
  funext q
  rw [upn_if]
  by_cases h1 : q = n
  · subst h1; rw [if_pos rfl, if_pos (by omega)]
  · rw [if_neg h1]
    by_cases h2 : q < n
    · rw [if_pos h2, if_pos (by omega)]
    · rw [if_neg h2, if_neg (by omega)]
theorem jR_8 {τ : tT} {f : Nat → Nat} (h : ∀ q, 8 ≤ q → f q = τ 9 q) : jR τ f 8 = judgeT τ := by
  rw [jR, judgeT, ← jT_0]
  congr 1
  funext q
  by_cases h1 : q < 8
  · rw [if_pos h1]
  · rw [if_neg h1, h q (by omega)]
