/-! the plain words, fourth: wishes, pairs, carriers -/
set_option maxRecDepth 100000
def anyB (f : Nat → Bool) : Nat → Bool
  | 0 => false
  | n + 1 => anyB f n || f n
theorem anyB_s (f : Nat → Bool) (n : Nat) : anyB f (n + 1) = (anyB f n || f n) := rfl
theorem anyB_iff (f : Nat → Bool) (n : Nat) : anyB f n = true ↔ ∃ i, i < n ∧ f i = true := by
  induction n with
  | zero => simp [anyB]
  | succ n ih =>
    rw [anyB_s, Bool.or_eq_true, ih]
    constructor
    · rintro (⟨i, h1, h2⟩ | h)
      · exact ⟨i, by omega, h2⟩
      · exact ⟨n, by omega, h⟩
    · rintro ⟨i, h1, h2⟩
      by_cases e : i = n
      · right; rw [← e]; exact h2
      · left; exact ⟨i, by omega, h2⟩
/-- no number: -1 -/
def oI : Option Nat → Int32
  | none => -1
  | some k => nI k
theorem oI_lt {o : Option Nat} (h : ∀ k, o = some k → k < 2 ^ 31) : oI o < 0 ↔ o = none := by
  cases o with
  | none => simp [oI]
  | some k => simp only [oI, reduceCtorEq, iff_false]; exact nI_pos (h k rfl)
theorem oI_ne {o : Option Nat} (h : ∀ k, o = some k → k < 2 ^ 31) : oI o = -1 ↔ o = none := by
  cases o with
  | none => simp [oI]
  | some k =>
    simp only [oI, reduceCtorEq, iff_false]
    intro q
    have := nI_pos (h k rfl)
    rw [q] at this
    exact this (by decide)
def goesS (τ : tT) (n q : Nat) : Bool := decide (n % τ 10 q = 0)
def eithS (τ : tT) (n q : Nat) : Bool := goesS τ n q || (decide (0 < τ 11 q) && decide (n % τ 11 q = 0))
def wishQ (τ : tT) (n a b q : Nat) : Bool := (!a.testBit q || goesS τ n q) && (!b.testBit q || !eithS τ n q)
def sWish (τ : tT) (n a b : Nat) : Bool := allB (wishQ τ n a b) (τ 0 8)
/-- the first from n on, of k numbers -/
def fndN (f : Nat → Bool) : Nat → Nat → Option Nat
  | 0, _ => none
  | k + 1, n => if f n = true then some n else fndN f k (n + 1)
theorem fndN_s (f : Nat → Bool) (k n : Nat) : fndN f (k + 1) n = if f n = true then some n else fndN f k (n + 1) := rfl
def pWish (τ : tT) (a b : Int32) : Int32 := if (ixB a (2 ^ τ 0 8) && ixB b (2 ^ τ 0 8)) = true then oI (fndN (fun n => sWish τ n a.toNatClampNeg b.toNatClampNeg) 100000 1) else UNK
def pPairOk (τ : tT) (p q : Int32) : Bool := ixB p (τ 0 8) && (ixB q (τ 0 8) && !decide (p = q))
def pPair (τ : tT) (p q w : Int32) : Int32 := if pPairOk τ p q = true then (if rgB w 0 1 = true then (if w = nI 0 then nI (reachP τ p.toNatClampNeg &&& reachP τ q.toNatClampNeg) else nI (Nat.lcm (τ 10 p.toNatClampNeg) (τ 10 q.toNatClampNeg))) else OUTS) else UNK
/-- one goes the stair r from 'fr' -/
def frS (τ : tT) (q r fr : Nat) : Bool := sMay τ q r || (!decide (fr = τ 3 r) && decide (τ 0 12 = 1))
def carQ (τ : tT) (R : Nat → Nat) (set r fr q : Nat) : Bool := set.testBit q && (R q).testBit fr && frS τ q r fr
def sCar (τ : tT) (R : Nat → Nat) (p set r fr : Nat) : Bool := frS τ p r fr || anyB (carQ τ R set r fr) (τ 0 8)
def cmR (τ : tT) (R : Nat → Nat) (p set got r : Nat) : Nat :=
  (got ||| (if (got.testBit (τ 3 r) && sCar τ R p set r (τ 3 r)) = true then 2 ^ τ 4 r else 0)) ||| (if ((got ||| (if (got.testBit (τ 3 r) && sCar τ R p set r (τ 3 r)) = true then 2 ^ τ 4 r else 0)).testBit (τ 4 r) && sCar τ R p set r (τ 4 r)) = true then 2 ^ τ 3 r else 0)
def cmP (τ : tT) (R : Nat → Nat) (p set got : Nat) : Nat → Nat
  | 0 => got
  | r + 1 => cmR τ R p set (cmP τ R p set got r) r
theorem cmP_ok {τ : tT} (hw : wfT τ) (R : Nat → Nat) (p set : Nat) {got : Nat} (h : got < 256) : ∀ r, r ≤ τ 0 1 → got ≤ cmP τ R p set got r ∧ cmP τ R p set got r < 256 := by
  intro r
  induction r with
  | zero => intro _; exact ⟨Nat.le_refl _, h⟩
  | succ r ih =>
    intro hr
    obtain ⟨a, b⟩ := ih (by omega)
    obtain ⟨-, z1, z2, -⟩ := hw.2.2 r (by omega)
    have h0 := hw.2.1
    have p1 : 2 ^ τ 4 r < 2 ^ 8 := Nat.pow_lt_pow_right (by decide) (by omega)
    have p2 : 2 ^ τ 3 r < 2 ^ 8 := Nat.pow_lt_pow_right (by decide) (by omega)
    have b' : cmP τ R p set got r < 2 ^ 8 := b
    exact ⟨Nat.le_trans a (Nat.le_trans Nat.left_le_or Nat.left_le_or), Nat.or_lt_two_pow (Nat.or_lt_two_pow b' (ite_lt p1 (by decide))) (ite_lt p2 (by decide))⟩
theorem cm_hP {τ : tT} (hw : wfT τ) (R : Nat → Nat) (p set : Nat) : ∀ x, x < 256 → x ≤ (fun got => cmP τ R p set got (τ 0 1)) x ∧ (fun got => cmP τ R p set got (τ 0 1)) x < 256 := fun _ hx => cmP_ok hw R p set hx _ (Nat.le_refl _)
def comeS (τ : tT) (R : Nat → Nat) (p set : Nat) : Nat := fixV (fun got => cmP τ R p set got (τ 0 1)) (2 ^ τ 9 p)
def sCome (τ : tT) (R : Nat → Nat) (p set place : Nat) : Bool := (comeS τ R p set).testBit place
def fewB (s : Nat) : Option Nat → Bool
  | none => true
  | some b => decide (bitsN s 24 < bitsN b 24)
def carB (τ : tT) (R : Nat → Nat) (p place : Nat) : Nat → Option Nat
  | 0 => none
  | s + 1 => if ((!s.testBit p && fewB s (carB τ R p place s)) && sCome τ R p s place) = true then some s else carB τ R p place s
theorem carB_lt (τ : tT) (R : Nat → Nat) (p place : Nat) : ∀ s k, carB τ R p place s = some k → k < s := by
  intro s
  induction s with
  | zero => intro k h; simp [carB] at h
  | succ s ih =>
    intro k h
    simp only [carB] at h
    split at h
    · cases h; omega
    · have := ih k h; omega
def pCarOk (τ : tT) (p x : Int32) : Bool := ixB p (τ 0 8) && ixB x (τ 0 0)
def carA (τ : tT) (p x : Nat) : Option Nat := carB τ (reachP τ) p x (2 ^ τ 0 8)
def pCarried (τ : tT) (p x w : Int32) : Int32 := if pCarOk τ p x = true then (if rgB w 0 1 = true then (if w = nI 1 then oI (carA τ p.toNatClampNeg x.toNatClampNeg) else oI ((carA τ p.toNatClampNeg x.toNatClampNeg).map (fun b => bitsN b 24))) else OUTS) else UNK
/-- the model's scratch: where each can come by itself -/
def rchAll (τ : tT) (n : Nat) : tT := upr τ 33 (fun q => if q < n then reachP τ q else τ 33 q)
def pCarriedT (τ : tT) (p x w : Int32) : tT := if (pCarOk τ p x && rgB w 0 1) = true then rchAll τ (τ 0 8) else τ
theorem sFit_c {τ τ' : tT} (h2 : τ' 2 = τ 2) (h5 : τ' 5 = τ 5) (h6 : τ' 6 = τ 6) (r s : Nat) : sFit τ' r s = sFit τ r s := by unfold sFit; rw [h2, h5, h6]
theorem sMay_c {τ τ' : tT} (h2 : τ' 2 = τ 2) (h5 : τ' 5 = τ 5) (h6 : τ' 6 = τ 6) (h10 : τ' 10 = τ 10) (h11 : τ' 11 = τ 11) (q r : Nat) : sMay τ' q r = sMay τ q r := by unfold sMay; rw [sFit_c h2 h5 h6, sFit_c h2 h5 h6, h10, h11]
theorem rchP_c {τ τ' : tT} (h0 : τ' 0 12 = τ 0 12) (h2 : τ' 2 = τ 2) (h3 : τ' 3 = τ 3) (h4 : τ' 4 = τ 4) (h5 : τ' 5 = τ 5) (h6 : τ' 6 = τ 6) (one two set r : Nat) : rchP τ' one two set r = rchP τ one two set r := by
  induction r with
  | zero => rfl
  | succ r ih => rw [rchP_s, rchP_s, ih]; unfold rchR; rw [sFit_c h2 h5 h6, sFit_c h2 h5 h6, h0, h3, h4]
theorem reachS_c {τ τ' : tT} (h01 : τ' 0 1 = τ 0 1) (h0 : τ' 0 12 = τ 0 12) (h2 : τ' 2 = τ 2) (h3 : τ' 3 = τ 3) (h4 : τ' 4 = τ 4) (h5 : τ' 5 = τ 5) (h6 : τ' 6 = τ 6) (x one two : Nat) : reachS τ' x one two = reachS τ x one two := by
  unfold reachS
  rw [h01]
  congr 1
  funext set
  exact rchP_c h0 h2 h3 h4 h5 h6 one two set _
theorem reachP_c {τ τ' : tT} (h01 : τ' 0 1 = τ 0 1) (h0 : τ' 0 12 = τ 0 12) (h2 : τ' 2 = τ 2) (h3 : τ' 3 = τ 3) (h4 : τ' 4 = τ 4) (h5 : τ' 5 = τ 5) (h6 : τ' 6 = τ 6) (h9 : τ' 9 = τ 9) (h10 : τ' 10 = τ 10) (h11 : τ' 11 = τ 11) (q : Nat) : reachP τ' q = reachP τ q := by
  unfold reachP
  rw [reachS_c h01 h0 h2 h3 h4 h5 h6, h9, h10, h11]
theorem rchAll_0 (τ : tT) : rchAll τ 0 = τ := by
  funext i q
  unfold rchAll
  by_cases h : i = 33
  · subst h; rw [upr_s]; simp
  · rw [upr_n h]
theorem rchAll_s (τ : tT) (n : Nat) : upc (rchAll τ n) 33 n (reachP τ n) = rchAll τ (n + 1) := by
  funext i q
  by_cases h : i = 33
  · subst h
    rw [upc_s, upn_if, rchAll, rchAll, upr_s, upr_s]
    by_cases h1 : q = n
    · subst h1; rw [if_pos rfl, if_pos (by omega)]
    · rw [if_neg h1]
      by_cases h2 : q < n
      · rw [if_pos h2, if_pos (by omega)]
      · rw [if_neg h2, if_neg (by omega)]
  · rw [upc_n h, rchAll, rchAll, upr_n h, upr_n h]
theorem rchAll_reachP (τ : tT) (n q : Nat) : reachP (rchAll τ n) q = reachP τ q := reachP_c (τ := τ) (τ' := rchAll τ n) rfl rfl rfl rfl rfl rfl rfl rfl rfl rfl q
theorem rchAll_T {τ : tT} {n : Nat} (h : wfT τ) : wfT (rchAll τ n) := wfT_of (τ := τ) (τ' := rchAll τ n) rfl rfl rfl rfl rfl rfl rfl h
theorem rchAll_P {τ : tT} {n : Nat} (h : wfP τ) : wfP (rchAll τ n) := wfP_of (τ := τ) (τ' := rchAll τ n) rfl rfl rfl rfl rfl rfl h
theorem anyB_c {f g : Nat → Bool} {n : Nat} (h : ∀ i, i < n → f i = g i) : anyB f n = anyB g n := by
  induction n with
  | zero => rfl
  | succ n ih => rw [anyB_s, anyB_s, ih (fun i hi => h i (by omega)), h n (by omega)]
theorem sCar_c {τ τ' : tT} {R R' : Nat → Nat} (h08 : τ' 0 8 = τ 0 8) (h0 : τ' 0 12 = τ 0 12) (h2 : τ' 2 = τ 2) (h3 : τ' 3 = τ 3) (h5 : τ' 5 = τ 5) (h6 : τ' 6 = τ 6) (h10 : τ' 10 = τ 10) (h11 : τ' 11 = τ 11) (hR : ∀ q, q < τ 0 8 → R' q = R q) (p set r fr : Nat) : sCar τ' R' p set r fr = sCar τ R p set r fr := by
  have e : ∀ q, frS τ' q r fr = frS τ q r fr := fun q => by unfold frS; rw [sMay_c h2 h5 h6 h10 h11, h3, h0]
  unfold sCar
  rw [e, h08]
  congr 1
  refine anyB_c (fun q hq => ?_)
  unfold carQ
  rw [hR q hq, e]
theorem sCome_c {τ τ' : tT} {R R' : Nat → Nat} (h01 : τ' 0 1 = τ 0 1) (h08 : τ' 0 8 = τ 0 8) (h0 : τ' 0 12 = τ 0 12) (h2 : τ' 2 = τ 2) (h3 : τ' 3 = τ 3) (h4 : τ' 4 = τ 4) (h5 : τ' 5 = τ 5) (h6 : τ' 6 = τ 6) (h9 : τ' 9 = τ 9) (h10 : τ' 10 = τ 10) (h11 : τ' 11 = τ 11) (hR : ∀ q, q < τ 0 8 → R' q = R q) (p set x : Nat) : sCome τ' R' p set x = sCome τ R p set x := by
  have e : ∀ got r, cmP τ' R' p set got r = cmP τ R p set got r := by
    intro got r
    induction r with
    | zero => rfl
    | succ r ih => simp only [cmP]; rw [ih]; unfold cmR; rw [sCar_c h08 h0 h2 h3 h5 h6 h10 h11 hR, sCar_c h08 h0 h2 h3 h5 h6 h10 h11 hR, h3, h4]
  unfold sCome comeS
  rw [h01, h9]
  simp only [e]
theorem rchAll_come (τ : tT) (p set x : Nat) : sCome (rchAll τ (τ 0 8)) ((rchAll τ (τ 0 8)) 33) p set x = sCome τ (reachP τ) p set x :=
  sCome_c (τ := τ) (τ' := rchAll τ (τ 0 8)) rfl rfl rfl rfl rfl rfl rfl rfl rfl rfl rfl (fun q hq => by rw [rchAll, upr_s, if_pos hq]) p set x
theorem rchAll_carB (τ : tT) (p x : Nat) : ∀ s, carB (rchAll τ (τ 0 8)) ((rchAll τ (τ 0 8)) 33) p x s = carB τ (reachP τ) p x s := by
  intro s
  induction s with
  | zero => rfl
  | succ s ih => simp only [carB]; rw [ih, rchAll_come]
theorem bitsN_le (x n : Nat) : bitsN x n ≤ n := by
  induction n with
  | zero => exact Nat.le_refl _
  | succ n ih => simp only [bitsN]; have := bN_le (x.testBit n); omega
theorem lcm_step {a b n : Nat} (ha : 0 < a) (hb : 0 < b) (h1 : 1 ≤ n) (h2 : n ≤ Nat.lcm a b) (h : ¬ (n % a = 0 ∧ n % b = 0)) : n + 1 ≤ Nat.lcm a b := by
  have : n ≠ Nat.lcm a b := by
    rintro rfl
    exact h ⟨Nat.mod_eq_zero_of_dvd (Nat.dvd_lcm_left a b), Nat.mod_eq_zero_of_dvd (Nat.dvd_lcm_right a b)⟩
  omega
theorem lcm_end {a b n : Nat} (h1 : 1 ≤ n) (h2 : n ≤ Nat.lcm a b) (ha : n % a = 0) (hb : n % b = 0) : n = Nat.lcm a b :=
  Nat.le_antisymm h2 (Nat.le_of_dvd h1 (Nat.lcm_dvd (Nat.dvd_of_mod_eq_zero ha) (Nat.dvd_of_mod_eq_zero hb)))
theorem lcm_le {a b : Nat} (ha : 1 ≤ a) (ha2 : a ≤ 24) (hb : 1 ≤ b) (hb2 : b ≤ 24) : 1 ≤ Nat.lcm a b ∧ Nat.lcm a b ≤ 576 := by
  refine ⟨Nat.lcm_pos ha hb, Nat.le_trans (Nat.le_of_dvd (Nat.mul_pos ha hb) (Nat.lcm_dvd_mul a b)) ?_⟩
  calc a * b ≤ 24 * 24 := Nat.mul_le_mul ha2 hb2
    _ = 576 := rfl
theorem pw_lt {P : Nat} (h : P ≤ 8) : 2 ^ P < 2 ^ 31 := Nat.pow_lt_pow_right (by decide) (by omega)
theorem pw_le {P : Nat} (h : P ≤ 8) : 2 ^ P ≤ 256 := show 2 ^ P ≤ 2 ^ 8 from Nat.pow_le_pow_right (by decide) h
/-- the wish's loop -/
theorem fndN_at {f : Nat → Bool} {N n : Nat} (h1 : 1 ≤ n) (h2 : n ≤ N) (hf : f n = false) (h : fndN f N 1 = fndN f (N + 1 - n) n) : fndN f N 1 = fndN f (N + 1 - (n + 1)) (n + 1) := by
  rw [h, show N + 1 - n = (N + 1 - (n + 1)) + 1 by omega, fndN_s, hf]
  rfl
theorem fndN_hit {f : Nat → Bool} {N n : Nat} (h1 : 1 ≤ n) (h2 : n ≤ N) (hf : f n = true) (h : fndN f N 1 = fndN f (N + 1 - n) n) : fndN f N 1 = some n := by
  rw [h, show N + 1 - n = (N + 1 - (n + 1)) + 1 by omega, fndN_s, if_pos hf]
theorem fndN_end {f : Nat → Bool} {N n : Nat} (h2 : N < n) (h : fndN f N 1 = fndN f (N + 1 - n) n) : fndN f N 1 = none := by
  rw [h, show N + 1 - n = 0 by omega]
  rfl
theorem fndN_0 (f : Nat → Bool) (N : Nat) : fndN f N 1 = fndN f (N + 1 - 1) 1 := by rw [Nat.add_sub_cancel]
theorem carB_lt2 {τ : tT} {R : Nat → Nat} {p x s : Nat} (hs : s ≤ 256) : ∀ k, carB τ R p x s = some k → k < 2 ^ 31 := fun k h => by
  have := carB_lt τ R p x s k h
  omega
theorem carB_s (τ : tT) (R : Nat → Nat) (p x s : Nat) : carB τ R p x (s + 1) = if ((!s.testBit p && fewB s (carB τ R p x s)) && sCome τ R p s x) = true then some s else carB τ R p x s := rfl
theorem rchAll_R {τ : tT} (hw : wfT τ) (hp : wfP τ) : ∀ x, x < (rchAll τ (τ 0 8)) 0 8 → (rchAll τ (τ 0 8)) 33 x < 256 := fun x hx => by
  have hx : x < τ 0 8 := hx
  rw [rchAll, upr_s, if_pos hx]
  exact reachP_lt hw hp hx
theorem oI_some {o : Option Nat} (h : ¬ oI o < 0) : ∃ b, o = some b := by
  cases o with
  | none => exact absurd (show oI none < 0 by decide) h
  | some b => exact ⟨b, rfl⟩
theorem oI_none {o : Option Nat} (hb : ∀ k, o = some k → k < 2 ^ 31) (h : oI o < 0) : o = none := (oI_lt hb).mp h
