/-! X's words, second: bits, draws, multiples, wishes -/
set_option maxRecDepth 100000
section GU
variable {p : Program} {l : Launch} {e : Env} {R : Room} {s : State} {m : MethodId} {args : Array Value} {below : List Frame} {meth : Method} {c : Code} {Q : State → Prop} {D : va_G} {cl : List vw_C} {tys : List (ClassId × FieldType)} {A : Nat → Prop} {nL : Nat} {cc : ByteArray} {own : String} {ret : Option FieldType} {ws : va_W} {k n pc : Nat} {L : List (Option Value)} {st : List Value}
theorem g_iushr {x y : Int32} (C0 : gC p s m args meth c D cl tys A nL cc own ret) (hdg : decode cc pc = .ok (.iushr, 1)) (g : G p l e R s m args below meth c Q D cl A nL ws k n (pc + 1) L (.int (x.toUInt32 >>> (y.toUInt32 &&& Int32.toUInt32 31)).toInt32 :: st)) : G p l e R s m args below meth c Q D cl A nL ws k n pc L (.int y :: .int x :: st) := by
  intro H locs ls hP hD hS hl
  exact lv_iushr C0.x C0.b hdg rfl (g H locs ls hP hD hS hl)
theorem g_mabs {x v : Int32} (C0 : gC p s m args meth c D cl tys A nL cc own ret) {ix : Nat} (hv : (if 0 ≤ x then x else 0 - x) = v) (w1 : Cond.methodLink own ix Lib.Math.abs.name ∈ lw_all) (w2 : Cond.static Lib.Math.abs.name ∈ lw_all) (w3 : Cond.initialized "java/lang/Math" ∈ lw_all) (w4 : Cond.code Lib.Math.abs.name Lib.Math.abs.code 1 (some .int) ∈ lw_all) (hf : 1 ≤ R.frames) (hlo : (st.map fun v => v.category).sum + 13 ≤ R.locals) (hkn : k ≤ R.cells ∧ n ≤ R.slots) (hdg : decode cc pc = .ok (.invokestatic ix, 3))
    (g : G p l e R s m args below meth c Q D cl A nL ws k n (pc + 3) L (.int v :: st)) : G p l e R s m args below meth c Q D cl A nL ws k n pc L (.int x :: st) := by
  intro H locs ls hP hD hS hl
  refine va_mabs C0.x C0.b (by rw [C0.ml]; exact hl.1.symm) C0.ow (C0.ts _ w1) (C0.ts _ w2) (C0.ts _ w3) (C0.ts _ w4) hf hlo hkn.1 hkn.2 hdg ?_
  rw [hv]
  exact g H locs ls hP hD hS hl
theorem g_mmin (C0 : gC p s m args meth c D cl tys A nL cc own ret) {ix x y : Nat} (hx : x < 2 ^ 31) (hy : y < 2 ^ 31) (w1 : Cond.methodLink own ix Lib.Math.min.name ∈ lw_all) (w2 : Cond.static Lib.Math.min.name ∈ lw_all) (w3 : Cond.initialized "java/lang/Math" ∈ lw_all) (w4 : Cond.code Lib.Math.min.name Lib.Math.min.code 2 (some .int) ∈ lw_all) (hf : 1 ≤ R.frames) (hlo : (st.map fun v => v.category).sum + 13 ≤ R.locals) (hkn : k ≤ R.cells ∧ n ≤ R.slots) (hdg : decode cc pc = .ok (.invokestatic ix, 3))
    (g : G p l e R s m args below meth c Q D cl A nL ws k n (pc + 3) L (.int (nI (min x y)) :: st)) : G p l e R s m args below meth c Q D cl A nL ws k n pc L (.int (nI y) :: .int (nI x) :: st) := by
  intro H locs ls hP hD hS hl
  refine va_mmin C0.x C0.b (by rw [C0.ml]; exact hl.1.symm) C0.ow (C0.ts _ w1) (C0.ts _ w2) (C0.ts _ w3) (C0.ts _ w4) hf hlo hkn.1 hkn.2 hdg ?_
  have e0 : (if nI y < nI x then nI y else nI x) = nI (min x y) := by
    by_cases h : y < x
    · rw [if_pos (nI_lt h hx), Nat.min_eq_right (by omega)]
    · rw [if_neg (nI_nlt (by omega) hy), Nat.min_eq_left (by omega)]
  rw [e0]
  exact g H locs ls hP hD hS hl
end GU
def bcS (x : Int32) (k : Nat) : Int32 := (x.toUInt32 >>> ((nI k).toUInt32 &&& Int32.toUInt32 31)).toInt32
def bc1 (x : Int32) : Int32 := x - (bcS x 1 &&& nI 1431655765)
def bc2 (x : Int32) : Int32 := (x &&& nI 858993459) + (bcS x 2 &&& nI 858993459)
def bc3 (x : Int32) : Int32 := (x + bcS x 4) &&& nI 252645135
def bc4 (x : Int32) : Int32 := x + bcS x 8
def bc5 (x : Int32) : Int32 := x + bcS x 16
theorem bc_ok : ∀ n, n < 256 → bc5 (bc4 (bc3 (bc2 (bc1 (nI n))))) &&& nI 63 = nI (bitsN n 24) := by decide +kernel
/-- the birth's end: one person more -/
theorem RX.birth {nS : Nat} {β τ bb t7 : tT} {q F : Nat} (hb : bb = birth1 τ q) (h7 : t7 = birthD bb) (h : RX nS β (upc (upc t7 10 (τ 0 8) F) 11 (τ 0 8) 0)) (e5 : β 5 (τ 0 8) = τ 9 q) (e6 : β 6 (τ 0 8) = F) (e7 : β 7 (τ 0 8) = 0) (hF : F = birthF bb q) : RX nS (upc β 1 3 (τ 0 8 + 1)) (birthT τ q) := by
  obtain ⟨-, -, f8, -, -, fj⟩ := birthD_facts bb
  have b8 : bb 0 8 = τ 0 8 := by rw [hb, birth1, birth1_0]
  have e8 : (upc (upc t7 10 (τ 0 8) F) 11 (τ 0 8) 0) 0 8 = τ 0 8 := by
    rw [upc_n (by decide), upc_n (by decide), h7, f8, b8]
  have e9 : (upc (upc t7 10 (τ 0 8) F) 11 (τ 0 8) 0) 9 (τ 0 8) = τ 9 q := by
    rw [upc_n (by decide), upc_n (by decide), h7, fj 9 (by decide), hb, birth1, upc_hit]
  have k := h.w1_3 (by rw [e8, e9]; exact e5) (by rw [e8, e6, upc_n (by decide), upc_hit]) (by rw [e8, e7, upc_hit])
  rw [e8] at k
  have e : birthT τ q = upc (upc (upc t7 10 (τ 0 8) F) 11 (τ 0 8) 0) 0 8 (τ 0 8 + 1) := by rw [birthT, ← hb, ← h7, ← hF]
  rw [e]
  exact k
/-- multipleOf(set), over the first n persons -/
def mulN (τ : tT) (set : Nat) : Nat → Nat
  | 0 => 1
  | q + 1 => if (set.testBit q && decide (mulN τ set q ≤ 100000)) = true then mulN τ set q / Nat.gcd (mulN τ set q) (τ 10 q) * τ 10 q else mulN τ set q
theorem mulN_s (τ : tT) (set q : Nat) : mulN τ set (q + 1) = if (set.testBit q && decide (mulN τ set q ≤ 100000)) = true then mulN τ set q / Nat.gcd (mulN τ set q) (τ 10 q) * τ 10 q else mulN τ set q := rfl
theorem mulN_ok {τ : tT} (hp : wfP τ) (set : Nat) : ∀ n, n ≤ τ 0 8 → 1 ≤ mulN τ set n ∧ mulN τ set n ≤ 2400000 := by
  intro n
  induction n with
  | zero => intro _; exact ⟨Nat.le_refl _, by show 1 ≤ 2400000; decide⟩
  | succ n ih =>
    intro hn
    obtain ⟨h1, h2⟩ := ih (by omega)
    obtain ⟨-, g2, g3, -⟩ := hp.2.2 n (by omega)
    rw [mulN_s]
    split
    · rename_i c
      simp only [Bool.and_eq_true, decide_eq_true_eq] at c
      have hd : Nat.gcd (mulN τ set n) (τ 10 n) ∣ mulN τ set n := Nat.gcd_dvd_left _ _
      have hg : 0 < Nat.gcd (mulN τ set n) (τ 10 n) := Nat.gcd_pos_of_pos_left _ h1
      have hq : 0 < mulN τ set n / Nat.gcd (mulN τ set n) (τ 10 n) := Nat.div_pos (Nat.le_of_dvd h1 hd) hg
      refine ⟨Nat.mul_pos hq g2, ?_⟩
      calc mulN τ set n / Nat.gcd (mulN τ set n) (τ 10 n) * τ 10 n ≤ 100000 * 24 := Nat.mul_le_mul (Nat.le_trans (Nat.div_le_self _ _) c.2) g3
        _ = 2400000 := rfl
    · exact ⟨h1, h2⟩
/-- the least common multiple of the strides of a set -/
def lcmN (τ : tT) (set : Nat) : Nat → Nat
  | 0 => 1
  | q + 1 => if set.testBit q = true then Nat.lcm (lcmN τ set q) (τ 10 q) else lcmN τ set q
theorem lcmN_dvd {τ : tT} {set m : Nat} : ∀ n, lcmN τ set n ∣ m ↔ ∀ q, q < n → set.testBit q = true → τ 10 q ∣ m := by
  intro n
  induction n with
  | zero => exact ⟨fun _ q hq => absurd hq (Nat.not_lt_zero _), fun _ => Nat.one_dvd _⟩
  | succ n ih =>
    simp only [lcmN]
    by_cases h : set.testBit n = true
    · rw [if_pos h]
      constructor
      · intro d q hq hs
        by_cases e : q = n
        · subst e; exact Nat.dvd_trans (Nat.dvd_lcm_right _ _) d
        · exact ih.mp (Nat.dvd_trans (Nat.dvd_lcm_left _ _) d) q (by omega) hs
      · intro k
        exact Nat.lcm_dvd (ih.mpr (fun q hq => k q (by omega))) (k n (by omega) h)
    · rw [if_neg h, ih]
      constructor
      · intro k q hq hs
        by_cases e : q = n
        · subst e; exact absurd hs h
        · exact k q (by omega) hs
      · intro k q hq; exact k q (by omega)
theorem lcmN_pos {τ : tT} (hp : wfP τ) (set : Nat) : ∀ n, n ≤ τ 0 8 → 0 < lcmN τ set n := by
  intro n
  induction n with
  | zero => intro _; exact Nat.one_pos
  | succ n ih =>
    intro hn
    simp only [lcmN]
    split
    · exact Nat.lcm_pos (ih (by omega)) (hp.2.2 n (by omega)).2.1
    · exact ih (by omega)
theorem lcmN_mono {τ : tT} (hp : wfP τ) (set : Nat) {n : Nat} (hn : n + 1 ≤ τ 0 8) : lcmN τ set n ≤ lcmN τ set (n + 1) := by
  refine Nat.le_of_dvd (lcmN_pos hp set _ hn) ((lcmN_dvd n).mpr (fun q hq hs => ((lcmN_dvd (n + 1)).mp (Nat.dvd_refl _)) q (by omega) hs))
theorem mulN_lcm {τ : tT} (hp : wfP τ) (set : Nat) : ∀ n, n ≤ τ 0 8 → mulN τ set n = lcmN τ set n ∨ (100000 < mulN τ set n ∧ 100000 < lcmN τ set n) := by
  intro n
  induction n with
  | zero => intro _; exact Or.inl rfl
  | succ n ih =>
    intro hn
    have mono := lcmN_mono hp set hn
    rcases ih (by omega) with h | ⟨h1, h2⟩
    · rw [mulN_s]
      by_cases hs : set.testBit n = true
      · by_cases hm : mulN τ set n ≤ 100000
        · left
          rw [hs, decide_eq_true hm, Bool.true_and, if_pos rfl]
          simp only [lcmN]
          rw [if_pos hs, ← h, Nat.lcm, Nat.div_mul_right_comm (Nat.gcd_dvd_left _ _)]
        · right
          rw [decide_eq_false hm, Bool.and_false, if_neg (by decide)]
          omega
      · left
        rw [Bool.eq_false_iff.mpr hs, Bool.false_and, if_neg (by decide), h]
        simp only [lcmN]
        rw [if_neg hs]
    · right
      rw [mulN_s, decide_eq_false (by omega), Bool.and_false, if_neg (by decide)]
      omega
/-- keepsOff(n, out) -/
def koQ (τ : tT) (n b q : Nat) : Bool := !b.testBit q || !eithS τ n q
def koS (τ : tT) (n b : Nat) : Bool := allB (koQ τ n b) (τ 0 8)
theorem sWish_iff {τ : tT} {n a b : Nat} : sWish τ n a b = true ↔ lcmN τ a (τ 0 8) ∣ n ∧ koS τ n b = true := by
  unfold sWish koS
  rw [allB_iff, allB_iff, lcmN_dvd]
  constructor
  · intro h
    refine ⟨fun q hq hs => ?_, fun q hq => ?_⟩
    · have k := h q hq
      simp only [wishQ, hs, goesS, Bool.and_eq_true, Bool.not_true, Bool.false_or, decide_eq_true_eq] at k
      exact Nat.dvd_of_mod_eq_zero k.1
    · have k := h q hq
      simp only [wishQ, Bool.and_eq_true] at k
      exact k.2
  · rintro ⟨h1, h2⟩ q hq
    have k := h2 q hq
    simp only [wishQ, Bool.and_eq_true]
    refine ⟨?_, k⟩
    by_cases hs : a.testBit q = true
    · rw [hs, goesS, decide_eq_true (Nat.mod_eq_zero_of_dvd (h1 q hq hs))]; rfl
    · rw [Bool.eq_false_iff.mpr hs]; rfl
theorem fndN_none {f : Nat → Bool} : ∀ k n, (∀ j, n ≤ j → j < n + k → f j = false) → fndN f k n = none := by
  intro k
  induction k with
  | zero => intro n _; rfl
  | succ k ih => intro n h; rw [fndN_s, h n (Nat.le_refl _) (by omega), if_neg (by decide)]; exact ih (n + 1) (fun j h1 h2 => h j (by omega) (by omega))
theorem fndN_some {f : Nat → Bool} {m : Nat} (hf : f m = true) : ∀ k n, n ≤ m → m < n + k → (∀ j, n ≤ j → j < m → f j = false) → fndN f k n = some m := by
  intro k
  induction k with
  | zero => intro n h1 h2; omega
  | succ k ih =>
    intro n h1 h2 h
    rw [fndN_s]
    by_cases e : n = m
    · subst e; rw [if_pos hf]
    · rw [h n (Nat.le_refl _) (by omega), if_neg (by decide)]
      exact ih (n + 1) (by omega) (by omega) (fun j q1 q2 => h j (by omega) q2)
theorem eithS_dvd {τ : tT} {n m q : Nat} (hd : n ∣ m) (h : eithS τ n q = true) : eithS τ m q = true := by
  simp only [eithS, goesS, Bool.or_eq_true, Bool.and_eq_true, decide_eq_true_eq] at h ⊢
  rcases h with h | ⟨h1, h2⟩
  · exact Or.inl (Nat.mod_eq_zero_of_dvd (Nat.dvd_trans (Nat.dvd_of_mod_eq_zero h) hd))
  · exact Or.inr ⟨h1, Nat.mod_eq_zero_of_dvd (Nat.dvd_trans (Nat.dvd_of_mod_eq_zero h2) hd)⟩
theorem koS_dvd {τ : tT} {n m b : Nat} (hd : n ∣ m) (h : koS τ m b = true) : koS τ n b = true := by
  unfold koS at h ⊢
  rw [allB_iff] at h ⊢
  intro q hq
  have k := h q hq
  unfold koQ at k ⊢
  by_cases hs : b.testBit q = true
  · rw [hs] at k ⊢
    simp only [Bool.not_true, Bool.false_or, Bool.not_eq_true'] at k ⊢
    exact Bool.eq_false_iff.mpr (fun e => by rw [eithS_dvd hd e] at k; cases k)
  · rw [Bool.eq_false_iff.mpr hs]; rfl
theorem wish_yes {τ : tT} (hp : wfP τ) {a b : Nat} (h1 : mulN τ a (τ 0 8) ≤ 100000) (h2 : koS τ (mulN τ a (τ 0 8)) b = true) : fndN (fun n => sWish τ n a b) 100000 1 = some (mulN τ a (τ 0 8)) := by
  have e : mulN τ a (τ 0 8) = lcmN τ a (τ 0 8) := by
    rcases mulN_lcm hp a _ (Nat.le_refl _) with h | ⟨h, -⟩
    · exact h
    · omega
  have hpos := (mulN_ok hp a _ (Nat.le_refl _)).1
  refine fndN_some (f := fun n => sWish τ n a b) (sWish_iff.mpr ⟨by rw [e]; exact Nat.dvd_refl _, h2⟩) 100000 1 hpos (by omega) (fun j q1 q2 => ?_)
  refine Bool.eq_false_iff.mpr (fun k => ?_)
  have := Nat.le_of_dvd (by omega) (sWish_iff.mp k).1
  omega
theorem wish_no {τ : tT} (hp : wfP τ) {a b : Nat} (h : ¬ (mulN τ a (τ 0 8) ≤ 100000 ∧ koS τ (mulN τ a (τ 0 8)) b = true)) : fndN (fun n => sWish τ n a b) 100000 1 = none := by
  refine fndN_none (f := fun n => sWish τ n a b) 100000 1 (fun j q1 q2 => Bool.eq_false_iff.mpr (fun k => h ?_))
  obtain ⟨k1, k2⟩ := sWish_iff.mp k
  have hl := Nat.le_of_dvd (by omega) k1
  have e : mulN τ a (τ 0 8) = lcmN τ a (τ 0 8) := by
    rcases mulN_lcm hp a _ (Nat.le_refl _) with h | ⟨-, h⟩
    · exact h
    · omega
  rw [e]
  exact ⟨by omega, koS_dvd k1 k2⟩
theorem mulN_pair {τ : tT} (hp : wfP τ) {p q : Nat} (h1 : p < τ 0 8) (h2 : q < τ 0 8) : mulN τ (2 ^ p ||| 2 ^ q) (τ 0 8) = Nat.lcm (τ 10 p) (τ 10 q) := by
  have e : lcmN τ (2 ^ p ||| 2 ^ q) (τ 0 8) = Nat.lcm (τ 10 p) (τ 10 q) := by
    apply Nat.dvd_antisymm
    · refine (lcmN_dvd _).mpr (fun x hx hs => ?_)
      rw [Nat.testBit_or, Nat.testBit_two_pow, Nat.testBit_two_pow] at hs
      simp only [Bool.or_eq_true, decide_eq_true_eq] at hs
      rcases hs with rfl | rfl
      · exact Nat.dvd_lcm_left _ _
      · exact Nat.dvd_lcm_right _ _
    · have k := (lcmN_dvd (τ := τ) (set := 2 ^ p ||| 2 ^ q) (τ 0 8)).mp (Nat.dvd_refl _)
      exact Nat.lcm_dvd (k p h1 (by rw [Nat.testBit_or, Nat.testBit_two_pow_self]; rfl)) (k q h2 (by rw [Nat.testBit_or, Nat.testBit_two_pow_self, Bool.or_true]))
  obtain ⟨-, a1, a2, -⟩ := hp.2.2 p h1
  obtain ⟨-, b1, b2, -⟩ := hp.2.2 q h2
  have := (lcm_le a1 a2 b1 b2).2
  rcases mulN_lcm hp (2 ^ p ||| 2 ^ q) _ (Nat.le_refl _) with h | ⟨-, h⟩
  · rw [h, e]
  · omega
theorem oI_m1 {o : Option Nat} (h : oI o = -1) (hb : ∀ k, o = some k → k < 2 ^ 31) : o = none := (oI_ne hb).mp h
theorem oI_nm1 {o : Option Nat} (h : ¬ oI o = -1) : ∃ b, o = some b := by
  cases o with
  | none => exact absurd rfl h
  | some b => exact ⟨b, rfl⟩
theorem allB_f {f : Nat → Bool} {i n : Nat} (h : allB f i = false) (hi : i ≤ n) : allB f n = false := by
  obtain ⟨d, rfl⟩ := Nat.exists_eq_add_of_le hi
  clear hi
  induction d with
  | zero => exact h
  | succ d ih => rw [← Nat.add_assoc, allB_s, ih]; rfl
