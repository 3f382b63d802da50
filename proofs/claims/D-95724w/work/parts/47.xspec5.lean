/-! X's words, fifth: carriers by places and sets -/
set_option maxRecDepth 100000
def toE (τ : tT) (r fr : Nat) : Nat := if τ 3 r = fr then τ 4 r else τ 3 r
def isE (τ : tT) (r fr : Nat) : Prop := τ 3 r = fr ∨ τ 4 r = fr
theorem oth_toE {τ : tT} {r fr : Nat} (h : isE τ r fr) : othS τ r fr = nI (toE τ r fr) := by
  unfold othS toE
  by_cases e : τ 3 r = fr
  · rw [if_pos e, if_pos e]
  · rw [if_neg e, if_neg e, if_pos (h.resolve_left e)]
theorem mg_fr {τ : tT} {r fr : Nat} (h : isE τ r fr) (hne : τ 3 r ≠ τ 4 r) (q : Nat) : mgS τ r fr (τ 10 q) (τ 11 q) = frS τ q r fr := by
  unfold frS sMay
  by_cases e : τ 3 r = fr
  · subst e
    rw [mgS_from hne, decide_eq_true rfl]; simp
  · have e4 := h.resolve_left e
    subst e4
    rw [mgS_to, show decide (τ 4 r = τ 3 r) = false from decide_eq_false (fun z => e z.symm)]; simp
def subB (a b : Nat) : Prop := ∀ i, a.testBit i = true → b.testBit i = true
theorem subB_or {a b c : Nat} (h1 : subB a c) (h2 : subB b c) : subB (a ||| b) c := fun i h => by
  rw [Nat.testBit_or, Bool.or_eq_true] at h
  exact h.elim (h1 i) (h2 i)
theorem two_in {k i : Nat} (h : (2 ^ k).testBit i = true) : i = k := by
  rw [Nat.testBit_two_pow] at h
  exact (of_decide_eq_true h).symm
theorem ite_in {c : Prop} [Decidable c] {k i : Nat} (h : (if c then 2 ^ k else 0).testBit i = true) : c ∧ i = k := by
  split at h
  · rename_i hc; exact ⟨hc, two_in h⟩
  · rw [Nat.zero_testBit] at h; cases h
/-- all that a come holds, if a predicate holds at its begin and goes over the stairs -/
theorem come_least {τ : tT} {R : Nat → Nat} {p s : Nat} (Z : Nat → Prop) (h0 : Z (τ 9 p)) (h1 : ∀ r, r < τ 0 1 → Z (τ 3 r) → sCar τ R p s r (τ 3 r) = true → Z (τ 4 r)) (h2 : ∀ r, r < τ 0 1 → Z (τ 4 r) → sCar τ R p s r (τ 4 r) = true → Z (τ 3 r)) : ∀ i, (comeS τ R p s).testBit i = true → Z i := by
  have kR : ∀ got r, r < τ 0 1 → (∀ i, got.testBit i = true → Z i) → ∀ i, (cmR τ R p s got r).testBit i = true → Z i := by
    intro got r hr hg
    have ha : ∀ i, (got ||| (if (got.testBit (τ 3 r) && sCar τ R p s r (τ 3 r)) = true then 2 ^ τ 4 r else 0)).testBit i = true → Z i := by
      intro i hi
      rw [Nat.testBit_or, Bool.or_eq_true] at hi
      rcases hi with hi | hi
      · exact hg i hi
      · obtain ⟨c, rfl⟩ := ite_in hi
        rw [Bool.and_eq_true] at c
        exact h1 r hr (hg _ c.1) c.2
    intro i hi
    unfold cmR at hi
    rw [Nat.testBit_or, Bool.or_eq_true] at hi
    rcases hi with hi | hi
    · exact ha i hi
    · obtain ⟨c, rfl⟩ := ite_in hi
      rw [Bool.and_eq_true] at c
      exact h2 r hr (ha _ c.1) c.2
  have kP : ∀ got, (∀ i, got.testBit i = true → Z i) → ∀ n, n ≤ τ 0 1 → ∀ i, (cmP τ R p s got n).testBit i = true → Z i := by
    intro got hg n
    induction n with
    | zero => intro _; exact hg
    | succ n ih => intro hn; exact kR _ n (by omega) (ih (by omega))
  have kF : ∀ n got, (∀ i, got.testBit i = true → Z i) → ∀ i, (itF (fun got => cmP τ R p s got (τ 0 1)) n got).testBit i = true → Z i := by
    intro n
    induction n with
    | zero => intro got hg; exact hg
    | succ n ih =>
      intro got hg
      simp only [itF]
      split
      · exact hg
      · exact ih _ (kP got hg _ (Nat.le_refl _))
  exact kF 256 _ (fun i hi => by rw [two_in hi]; exact h0)
theorem come_start {τ : tT} {R : Nat → Nat} {p s : Nat} (hw : wfT τ) (hx : τ 9 p < 8) : (comeS τ R p s).testBit (τ 9 p) = true := by
  have hP := cm_hP hw R p s
  have gen : ∀ n x, x < 256 → x.testBit (τ 9 p) = true → (itF (fun got => cmP τ R p s got (τ 0 1)) n x).testBit (τ 9 p) = true := by
    have kP : ∀ got, got.testBit (τ 9 p) = true → ∀ n, (cmP τ R p s got n).testBit (τ 9 p) = true := by
      intro got hg n
      induction n with
      | zero => exact hg
      | succ n ih => show (cmR τ R p s (cmP τ R p s got n) n).testBit _ = true; unfold cmR; rw [Nat.testBit_or, Nat.testBit_or, ih]; rfl
    intro n
    induction n with
    | zero => intro x _ h; exact h
    | succ n ih =>
      intro x hx h
      simp only [itF]
      split
      · exact h
      · exact ih _ (hP x hx).2 (kP x h _)
  exact gen 256 _ (show 2 ^ τ 9 p < 2 ^ 8 from Nat.pow_lt_pow_right (by decide) hx) (Nat.testBit_two_pow_self)
theorem cmP_mono {τ : tT} {R : Nat → Nat} {p s got : Nat} {a b : Nat} (h : a ≤ b) : cmP τ R p s got a ≤ cmP τ R p s got b := by
  obtain ⟨d, rfl⟩ := Nat.exists_eq_add_of_le h
  clear h
  induction d with
  | zero => exact Nat.le_refl _
  | succ d ih => exact Nat.le_trans ih (Nat.le_trans Nat.left_le_or Nat.left_le_or)
theorem come_closed {τ : tT} {R : Nat → Nat} {p s : Nat} (hw : wfT τ) (hx : τ 9 p < 8) {r fr : Nat} (hr : r < τ 0 1) (he : isE τ r fr) (h1 : sCome τ R p s fr = true) (h2 : sCar τ R p s r fr = true) : sCome τ R p s (toE τ r fr) = true := by
  obtain ⟨z1, -, z3⟩ := fixV_lt (cm_hP hw R p s) 256 _ (Nat.sub_le _ _) (show 2 ^ τ 9 p < 2 ^ 8 from Nat.pow_lt_pow_right (by decide) hx)
  have z1 : comeS τ R p s < 256 := z1
  have z3 : cmP τ R p s (comeS τ R p s) (τ 0 1) = comeS τ R p s := z3
  have e1 : cmP τ R p s (comeS τ R p s) r = comeS τ R p s := Nat.le_antisymm (Nat.le_trans (cmP_mono (Nat.le_of_lt hr)) (Nat.le_of_eq z3)) (cmP_ok hw R p s z1 r (by omega)).1
  have e2 : cmP τ R p s (comeS τ R p s) (r + 1) = comeS τ R p s := Nat.le_antisymm (Nat.le_trans (cmP_mono hr) (Nat.le_of_eq z3)) (cmP_ok hw R p s z1 (r + 1) hr).1
  have e3 : cmR τ R p s (comeS τ R p s) r = comeS τ R p s := by
    have : cmP τ R p s (comeS τ R p s) (r + 1) = cmR τ R p s (cmP τ R p s (comeS τ R p s) r) r := rfl
    rw [e1] at this
    rw [← this]; exact e2
  unfold sCome at h1 ⊢
  rw [← e3]
  unfold cmR toE
  by_cases e : τ 3 r = fr
  · subst e
    rw [if_pos rfl, h1, h2, Bool.and_true, if_pos rfl, Nat.testBit_or, Nat.testBit_or, Nat.testBit_two_pow_self, Bool.or_true, Bool.true_or]
  · have e4 := he.resolve_left e
    subst e4
    rw [if_neg e, Nat.testBit_or]
    have hb : (comeS τ R p s ||| (if ((comeS τ R p s).testBit (τ 3 r) && sCar τ R p s r (τ 3 r)) = true then 2 ^ τ 4 r else 0)).testBit (τ 4 r) = true := by
      rw [Nat.testBit_or, h1, Bool.true_or]
    rw [hb, h2, Bool.true_and, if_pos rfl, Nat.testBit_two_pow_self, Bool.or_true]
theorem sCar_mono {τ : tT} {R : Nat → Nat} {p s s' r fr : Nat} (hs : subB s s') (h : sCar τ R p s r fr = true) : sCar τ R p s' r fr = true := by
  unfold sCar at h ⊢
  rw [Bool.or_eq_true] at h ⊢
  rcases h with h | h
  · exact Or.inl h
  · right
    rw [anyB_iff] at h ⊢
    obtain ⟨i, hi, k⟩ := h
    refine ⟨i, hi, ?_⟩
    unfold carQ at k ⊢
    rw [Bool.and_eq_true, Bool.and_eq_true] at k ⊢
    exact ⟨⟨hs i k.1.1, k.1.2⟩, k.2⟩
theorem come_mono {τ : tT} {R : Nat → Nat} {p s s' x : Nat} (hw : wfT τ) (hx : τ 9 p < 8) (hs : subB s s') (h : sCome τ R p s x = true) : sCome τ R p s' x = true := by
  refine come_least (Z := fun i => sCome τ R p s' i = true) (come_start hw hx) (fun r hr k1 k2 => ?_) (fun r hr k1 k2 => ?_) x h
  · have := come_closed hw hx hr (Or.inl rfl) k1 (sCar_mono hs k2)
    rw [toE, if_pos rfl] at this
    exact this
  · have := come_closed hw hx hr (Or.inr rfl) k1 (sCar_mono hs k2)
    obtain ⟨-, -, -, hne, -⟩ := hw.2.2 r hr
    rw [toE, if_neg hne] at this
    exact this
/-! the table 'come' -/
def CS (τ : tT) (p : Nat) (β : tT) : Prop := ∀ x s, x < 8 → s < 256 → β (82 + x) s ≤ 1 ∧ (β (82 + x) s = 1 → s < 2 ^ τ 0 8 ∧ s.testBit p = false ∧ sCome τ (reachP τ) p s x = true)
def CE (β β' : tT) : Prop := ∀ x s, x < 8 → s < 256 → β' (82 + x) s = β (82 + x) s
def CLe (β β' : tT) : Prop := ∀ x s, x < 8 → s < 256 → β (82 + x) s ≤ β' (82 + x) s
def cmN (β : tT) : Nat := sumS (fun k => β (82 + k / 256) (k % 256)) 2048
theorem sumS_le {f g : Nat → Nat} : ∀ n, (∀ i, i < n → f i ≤ g i) → sumS f n ≤ sumS g n := by
  intro n
  induction n with
  | zero => intro _; exact Nat.le_refl _
  | succ n ih => intro h; exact Nat.add_le_add (ih (fun i hi => h i (by omega))) (h n (by omega))
theorem sumS_lt {f g : Nat → Nat} {k : Nat} : ∀ n, (∀ i, i < n → f i ≤ g i) → k < n → f k < g k → sumS f n < sumS g n := by
  intro n
  induction n with
  | zero => intro _ hk; omega
  | succ n ih =>
    intro h hk hf
    simp only [sumS]
    by_cases e : k = n
    · subst e; have := sumS_le k (fun i hi => h i (by omega)); omega
    · have := ih (fun i hi => h i (by omega)) (by omega) hf; have := h n (by omega); omega
theorem cmN_le {β β' : tT} (h : CLe β β') : cmN β ≤ cmN β' := sumS_le _ (fun i hi => h _ _ (by omega) (Nat.mod_lt _ (by decide)))
theorem cmN_lt {β β' : tT} (h : CLe β β') {x s : Nat} (hx : x < 8) (hs : s < 256) (hl : β (82 + x) s < β' (82 + x) s) : cmN β < cmN β' := by
  refine sumS_lt (k := 256 * x + s) _ (fun i hi => h _ _ (by omega) (Nat.mod_lt _ (by decide))) (by omega) ?_
  rw [show (256 * x + s) / 256 = x by omega, show (256 * x + s) % 256 = s by omega]
  exact hl
theorem cmN_top {τ : tT} {p : Nat} {β : tT} (h : CS τ p β) : cmN β ≤ 2048 := by
  have : ∀ n, n ≤ 2048 → sumS (fun k => β (82 + k / 256) (k % 256)) n ≤ n := by
    intro n
    induction n with
    | zero => intro _; exact Nat.le_refl _
    | succ n ih =>
      intro hn
      have := ih (by omega)
      have := (h (n / 256) (n % 256) (by omega) (Nat.mod_lt _ (by decide))).1
      simp only [sumS]
      omega
  exact this 2048 (Nat.le_refl _)
theorem CE.cl {β β' : tT} (h : CE β β') : CLe β β' := fun x s hx hs => Nat.le_of_eq (h x s hx hs).symm
theorem CE.tr {a b c : tT} (h1 : CE a b) (h2 : CE b c) : CE a c := fun x s hx hs => (h2 x s hx hs).trans (h1 x s hx hs)
theorem CLe.tr {a b c : tT} (h1 : CLe a b) (h2 : CLe b c) : CLe a c := fun x s hx hs => Nat.le_trans (h1 x s hx hs) (h2 x s hx hs)
theorem CE.fr {β β' : tT} (h : FR β β') : CE β β' := fun x s hx _ => by rw [h (82 + x) (by omega)]
theorem CS.ce {τ : tT} {p : Nat} {β β' : tT} (h : CS τ p β) (he : CE β β') : CS τ p β' := fun x s hx hs => by rw [he x s hx hs]; exact h x s hx hs
/-- what bringing does: sound, growing; ch: whether something new -/
def BR (τ : tT) (p : Nat) (β β' : tT) (ch : Bool) : Prop := CS τ p β' ∧ CLe β β' ∧ (ch = true → cmN β < cmN β') ∧ (ch = false → CE β β')
theorem BR.rf {τ : tT} {p : Nat} {β : tT} (h : CS τ p β) : BR τ p β β false := ⟨h, fun _ _ _ _ => Nat.le_refl _, (fun e => by cases e), fun _ _ _ _ _ => rfl⟩
theorem BR.rf' {τ : tT} {p : Nat} {b0 β : tT} (h : CS τ p β) (e : b0 = β) : BR τ p b0 β false := by subst e; exact BR.rf h
theorem BR.fr {τ : tT} {p : Nat} {b0 β β' : tT} {ch : Bool} (h : BR τ p b0 β ch) (hf : FR β β') : BR τ p b0 β' ch := by
  have e := CE.fr hf
  refine ⟨h.1.ce e, h.2.1.tr e.cl, fun c => Nat.lt_of_lt_of_le (h.2.2.1 c) (cmN_le e.cl), fun c => (h.2.2.2 c).tr e⟩
theorem BR.tr {τ : tT} {p : Nat} {a b c : tT} {x y : Bool} (h1 : BR τ p a b x) (h2 : BR τ p b c y) : BR τ p a c (x || y) := by
  refine ⟨h2.1, h1.2.1.tr h2.2.1, fun e => ?_, fun e => ?_⟩
  · rw [Bool.or_eq_true] at e
    rcases e with e | e
    · exact Nat.lt_of_lt_of_le (h1.2.2.1 e) (cmN_le h2.2.1)
    · exact Nat.lt_of_le_of_lt (cmN_le h1.2.1) (h2.2.2.1 e)
  · rw [Bool.or_eq_false_iff] at e
    exact (h1.2.2.2 e.1).tr (h2.2.2.2 e.2)
/-- one place of the table is written -/
theorem BR.up {τ : tT} {p : Nat} {b0 β : tT} {ch : Bool} {x s : Nat} (h : BR τ p b0 β ch) (hx : x < 8) (hs : s < 256) (h0 : β (82 + x) s = 0) (k1 : s < 2 ^ τ 0 8) (k2 : s.testBit p = false) (k3 : sCome τ (reachP τ) p s x = true) : BR τ p b0 (upc β (82 + x) s 1) true := by
  have e : ∀ x' s', upc β (82 + x) s 1 (82 + x') s' = if x' = x ∧ s' = s then 1 else β (82 + x') s' := fun x' s' => by
    rw [upc_if]
    by_cases c : x' = x ∧ s' = s
    · rw [if_pos c, if_pos ⟨by omega, c.2⟩]
    · rw [if_neg c, if_neg (fun z => c ⟨by omega, z.2⟩)]
  have hl : CLe β (upc β (82 + x) s 1) := fun x' s' hx' hs' => by
    rw [e]
    split
    · exact (h.1 x' s' hx' hs').1
    · exact Nat.le_refl _
  refine ⟨fun x' s' hx' hs' => ?_, h.2.1.tr hl, fun _ => Nat.lt_of_le_of_lt (cmN_le h.2.1) (cmN_lt hl hx hs (by rw [e, if_pos ⟨rfl, rfl⟩, h0]; exact Nat.one_pos)), (fun c => by cases c)⟩
  rw [e]
  by_cases c : x' = x ∧ s' = s
  · rw [if_pos c]
    obtain ⟨rfl, rfl⟩ := c
    exact ⟨Nat.le_refl _, fun _ => ⟨k1, k2, k3⟩⟩
  · rw [if_neg c]
    exact h.1 x' s' hx' hs'
/-- all that can be brought over the stair r from fr with the set s is there: by oneself, by the first n carriers -/
def CCp (τ : tT) (p r fr s : Nat) (β : tT) : Prop := mgS τ r fr (τ 10 p) (τ 11 p) = true → β (82 + toE τ r fr) s = 1
def CCn (τ : tT) (p r fr s n : Nat) (β : tT) : Prop := ∀ c, c < n → c ≠ p → mgS τ r fr (τ 10 c) (τ 11 c) = true → (reachP τ c).testBit fr = true → β (82 + toE τ r fr) (s ||| 2 ^ c) = 1
def CC (τ : tT) (p r fr s : Nat) (β : tT) : Prop := CCp τ p r fr s β ∧ CCn τ p r fr s (τ 0 8) β
theorem CCn.s {τ : tT} {p r fr s n : Nat} {β : tT} (h : CCn τ p r fr s n β) (h2 : n ≠ p → mgS τ r fr (τ 10 n) (τ 11 n) = true → (reachP τ n).testBit fr = true → β (82 + toE τ r fr) (s ||| 2 ^ n) = 1) : CCn τ p r fr s (n + 1) β := fun c hc k1 k2 k3 => by
  by_cases e : c = n
  · subst e; exact h2 k1 k2 k3
  · exact h c (by omega) k1 k2 k3
theorem or_lt {s c P : Nat} (hs : s < 2 ^ P) (hc : c < P) : s ||| 2 ^ c < 2 ^ P := Nat.or_lt_two_pow hs (Nat.pow_lt_pow_right (by decide) hc)
theorem toE_lt {τ : tT} (hw : wfT τ) {r fr : Nat} (hr : r < τ 0 1) : toE τ r fr < 8 := by
  obtain ⟨-, a, b, -⟩ := hw.2.2 r hr
  have := hw.2.1
  unfold toE
  split <;> omega
theorem CS.self {τ : tT} {p : Nat} {β : tT} (h : CS τ p β) (hw : wfT τ) (hx : τ 9 p < 8) {r fr s : Nat} (hr : r < τ 0 1) (he : isE τ r fr) (hf : fr < 8) (hs : s < 256) (h1 : β (82 + fr) s = 1) (h2 : mgS τ r fr (τ 10 p) (τ 11 p) = true) : s < 2 ^ τ 0 8 ∧ s.testBit p = false ∧ sCome τ (reachP τ) p s (toE τ r fr) = true := by
  obtain ⟨k1, k2, k3⟩ := (h fr s hf hs).2 h1
  obtain ⟨-, -, -, hne, -⟩ := hw.2.2 r hr
  refine ⟨k1, k2, come_closed hw hx hr he k3 ?_⟩
  unfold sCar
  rw [← mg_fr he hne, h2, Bool.true_or]
theorem CS.by {τ : tT} {p : Nat} {β : tT} (h : CS τ p β) (hw : wfT τ) (hx : τ 9 p < 8) {r fr s c : Nat} (hr : r < τ 0 1) (he : isE τ r fr) (hf : fr < 8) (hs : s < 256) (h1 : β (82 + fr) s = 1) (hc : c < τ 0 8) (hcp : c ≠ p) (h2 : mgS τ r fr (τ 10 c) (τ 11 c) = true) (h3 : (reachP τ c).testBit fr = true) : s ||| 2 ^ c < 2 ^ τ 0 8 ∧ (s ||| 2 ^ c).testBit p = false ∧ sCome τ (reachP τ) p (s ||| 2 ^ c) (toE τ r fr) = true := by
  obtain ⟨k1, k2, k3⟩ := (h fr s hf hs).2 h1
  obtain ⟨-, -, -, hne, -⟩ := hw.2.2 r hr
  have hsub : subB s (s ||| 2 ^ c) := fun i hi => by rw [Nat.testBit_or, hi, Bool.true_or]
  refine ⟨or_lt k1 hc, by rw [Nat.testBit_or, k2, Nat.testBit_two_pow, decide_eq_false hcp]; rfl, come_closed hw hx hr he (come_mono hw hx hsub k3) ?_⟩
  unfold sCar
  rw [Bool.or_eq_true]
  right
  rw [anyB_iff]
  refine ⟨c, hc, ?_⟩
  unfold carQ
  rw [← mg_fr he hne, h2, h3, Nat.testBit_or, Nat.testBit_two_pow_self, Bool.or_true]; rfl
/-- the table is closed -/
def CF (τ : tT) (p : Nat) (n m : Nat) (β : tT) : Prop := ∀ r, r < n → ∀ s, s < m → (β (82 + τ 3 r) s = 1 → CC τ p r (τ 3 r) s β) ∧ (β (82 + τ 4 r) s = 1 → CC τ p r (τ 4 r) s β)
theorem CF.all {τ : tT} {p : Nat} {β : tT} (hw : wfT τ) (hp : wfP τ) (hq : p < τ 0 8) (hc : CF τ p (τ 0 1) (2 ^ τ 0 8) β) (hs : CS τ p β) (h0 : β (82 + τ 9 p) 0 = 1) {s x : Nat} (hsP : s < 2 ^ τ 0 8) (hsp : s.testBit p = false) (h : sCome τ (reachP τ) p s x = true) : ∃ s', subB s' s ∧ s' < 2 ^ τ 0 8 ∧ x < 8 ∧ β (82 + x) s' = 1 := by
  have hw0 := hw.2.1
  have hx := (hp.2.2 p hq).1
  have go : ∀ r, r < τ 0 1 → ∀ fr, isE τ r fr → (∀ s', s' < 2 ^ τ 0 8 → β (82 + fr) s' = 1 → CC τ p r fr s' β) → (∃ s', subB s' s ∧ s' < 2 ^ τ 0 8 ∧ fr < 8 ∧ β (82 + fr) s' = 1) → sCar τ (reachP τ) p s r fr = true → ∃ s', subB s' s ∧ s' < 2 ^ τ 0 8 ∧ toE τ r fr < 8 ∧ β (82 + toE τ r fr) s' = 1 := by
    rintro r hr fr he hcc ⟨s', a1, a2, a3, a4⟩ hcar
    obtain ⟨-, -, -, hne, -⟩ := hw.2.2 r hr
    obtain ⟨c1, c2⟩ := hcc s' a2 a4
    unfold sCar at hcar
    rw [Bool.or_eq_true] at hcar
    rcases hcar with k | k
    · exact ⟨s', a1, a2, toE_lt hw hr, c1 (by rw [mg_fr he hne]; exact k)⟩
    · rw [anyB_iff] at k
      obtain ⟨c, hc1, k⟩ := k
      unfold carQ at k
      rw [Bool.and_eq_true, Bool.and_eq_true] at k
      have hcp : c ≠ p := fun e => by rw [e] at k; rw [hsp] at k; cases k.1.1
      refine ⟨s' ||| 2 ^ c, subB_or a1 (fun i hi => by rw [two_in hi]; exact k.1.1), or_lt a2 hc1, toE_lt hw hr, c2 c hc1 hcp (by rw [mg_fr he hne]; exact k.2) k.1.2⟩
  refine come_least (Z := fun i => ∃ s', subB s' s ∧ s' < 2 ^ τ 0 8 ∧ i < 8 ∧ β (82 + i) s' = 1) ⟨0, (fun i hi => by rw [Nat.zero_testBit] at hi; cases hi), Nat.two_pow_pos _, by omega, h0⟩ (fun r hr k1 k2 => ?_) (fun r hr k1 k2 => ?_) x h
  · have := go r hr (τ 3 r) (Or.inl rfl) (fun s' q1 q2 => (hc r hr s' q1).1 q2) k1 k2
    rw [toE, if_pos rfl] at this
    exact this
  · have := go r hr (τ 4 r) (Or.inr rfl) (fun s' q1 q2 => (hc r hr s' q1).2 q2) k1 k2
    obtain ⟨-, -, -, hne, -⟩ := hw.2.2 r hr
    rw [toE, if_neg hne] at this
    exact this
/-! the first of the fewest -/
def scB (f : Nat → Bool) : Nat → Option Nat
  | 0 => none
  | s + 1 => if (f s && fewB s (scB f s)) = true then some s else scB f s
theorem scB_s (f : Nat → Bool) (s : Nat) : scB f (s + 1) = if (f s && fewB s (scB f s)) = true then some s else scB f s := rfl
theorem scB_ok (f : Nat → Bool) : ∀ n, (scB f n = none → ∀ s, s < n → f s = false) ∧ ∀ b, scB f n = some b → b < n ∧ f b = true ∧ (∀ s, s < n → f s = true → bitsN b 24 ≤ bitsN s 24) ∧ (∀ s, s < b → f s = true → bitsN b 24 < bitsN s 24) := by
  intro n
  induction n with
  | zero => exact ⟨fun _ s hs => (by omega), fun b h => (by cases h)⟩
  | succ n ih =>
    obtain ⟨i1, i2⟩ := ih
    rw [scB_s]
    by_cases hf : f n = true
    · cases ho : scB f n with
      | none =>
        rw [hf, show fewB n none = true from rfl, Bool.true_and, if_pos rfl]
        refine ⟨(fun h => by cases h), fun b h => ?_⟩
        cases h
        have k := i1 ho
        refine ⟨by omega, hf, fun s hs hfs => ?_, fun s hs hfs => by rw [k s hs] at hfs; cases hfs⟩
        by_cases e : s = n
        · rw [e]; exact Nat.le_refl _
        · rw [k s (by omega)] at hfs; cases hfs
      | some c =>
        obtain ⟨j1, j2, j3, j4⟩ := i2 c ho
        by_cases hl : bitsN n 24 < bitsN c 24
        · rw [hf, show fewB n (some c) = true from decide_eq_true hl, Bool.true_and, if_pos rfl]
          refine ⟨(fun h => by cases h), fun b h => ?_⟩
          cases h
          refine ⟨by omega, hf, fun s hs hfs => ?_, fun s hs hfs => ?_⟩
          · by_cases e : s = n
            · rw [e]; exact Nat.le_refl _
            · have := j3 s (by omega) hfs; omega
          · have := j3 s hs hfs; omega
        · rw [hf, show fewB n (some c) = false from decide_eq_false hl, Bool.and_false, if_neg (by decide)]
          refine ⟨(fun h => by cases h), fun b h => ?_⟩
          cases h
          refine ⟨by omega, j2, fun s hs hfs => ?_, j4⟩
          by_cases e : s = n
          · rw [e]; omega
          · exact j3 s (by omega) hfs
    · rw [Bool.eq_false_iff.mpr hf, Bool.false_and, if_neg (by decide)]
      refine ⟨fun h s hs => ?_, fun b h => ?_⟩
      · by_cases e : s = n
        · rw [e]; exact Bool.eq_false_iff.mpr hf
        · exact i1 h s (by omega)
      · obtain ⟨j1, j2, j3, j4⟩ := i2 b h
        refine ⟨by omega, j2, fun s hs hfs => ?_, j4⟩
        by_cases e : s = n
        · rw [e] at hfs; exact absurd hfs hf
        · exact j3 s (by omega) hfs
theorem bitsN_sub {a b : Nat} (h : subB a b) : ∀ n, bitsN a n ≤ bitsN b n ∧ (bitsN a n = bitsN b n → ∀ i, i < n → a.testBit i = b.testBit i) := by
  intro n
  induction n with
  | zero => exact ⟨Nat.le_refl _, fun _ i hi => by omega⟩
  | succ n ih =>
    obtain ⟨i1, i2⟩ := ih
    simp only [bitsN]
    have k : bN (a.testBit n) ≤ bN (b.testBit n) := by
      cases ha : a.testBit n with
      | false => exact Nat.zero_le _
      | true => rw [h n ha]; exact Nat.le_refl _
    refine ⟨by omega, fun e i hi => ?_⟩
    have e1 : bitsN a n = bitsN b n := by omega
    by_cases q : i = n
    · subst q
      have e2 : bN (a.testBit i) = bN (b.testBit i) := by omega
      cases ha : a.testBit i <;> cases hb : b.testBit i <;> first | rfl | (rw [ha, hb] at e2; cases e2)
    · exact i2 e1 i (by omega)
theorem sub_eq {a b : Nat} (ha : a < 256) (hb : b < 256) (h : subB a b) (e : bitsN a 24 = bitsN b 24) : a = b := by
  apply Nat.eq_of_testBit_eq
  intro i
  by_cases hi : i < 24
  · exact (bitsN_sub h 24).2 e i hi
  · have k : ∀ z, z < 256 → z.testBit i = false := fun z hz => Nat.testBit_lt_two_pow (Nat.lt_of_lt_of_le hz (show 2 ^ 8 ≤ 2 ^ i from Nat.pow_le_pow_right (by decide) (by omega)))
    rw [k a ha, k b hb]
theorem scB_eq {f g : Nat → Bool} {n : Nat} (hn : n ≤ 256) (h1 : ∀ s, s < n → f s = true → g s = true) (h2 : ∀ s, s < n → g s = true → ∃ s', s' < n ∧ subB s' s ∧ f s' = true) : scB f n = scB g n := by
  obtain ⟨g1, g2⟩ := scB_ok g n
  obtain ⟨f1, f2⟩ := scB_ok f n
  cases hg : scB g n with
  | none =>
    cases hf : scB f n with
    | none => rfl
    | some a =>
      obtain ⟨a1, a2, -⟩ := f2 a hf
      have := g1 hg a a1
      rw [h1 a a1 a2] at this; cases this
  | some b =>
    obtain ⟨b1, b2, b3, b4⟩ := g2 b hg
    obtain ⟨s', c1, c2, c3⟩ := h2 b b1 b2
    have e : s' = b := sub_eq (by omega) (by omega) c2 (Nat.le_antisymm (bitsN_sub c2 24).1 (b3 s' c1 (h1 s' c1 c3)))
    rw [e] at c3
    cases hf : scB f n with
    | none => have := f1 hf b b1; rw [c3] at this; cases this
    | some a =>
      obtain ⟨a1, a2, a3, a4⟩ := f2 a hf
      have l1 := a3 b b1 c3
      have l2 := b3 a a1 (h1 a a1 a2)
      congr 1
      rcases Nat.lt_trichotomy a b with h | h | h
      · have := b4 a h (h1 a a1 a2); omega
      · exact h
      · have := a4 b h c3; omega
theorem carB_sc (τ : tT) (R : Nat → Nat) (p x : Nat) : ∀ n, carB τ R p x n = scB (fun s => !s.testBit p && sCome τ R p s x) n := by
  intro n
  induction n with
  | zero => rfl
  | succ n ih =>
    rw [carB_s, scB_s, ih]
    congr 1
    rw [Bool.and_assoc, Bool.and_assoc, Bool.and_comm (fewB n _)]
theorem carried_eq {τ : tT} {p x : Nat} {β : tT} (hw : wfT τ) (hp : wfP τ) (hq : p < τ 0 8) (hx : x < 8) (hc : CF τ p (τ 0 1) (2 ^ τ 0 8) β) (hs : CS τ p β) (h0 : β (82 + τ 9 p) 0 = 1) : scB (fun s => decide (β (82 + x) s ≠ 0)) (2 ^ τ 0 8) = carA τ p x := by
  have hpe := pw_le hp.1
  rw [carA, carB_sc]
  have e1 : ∀ s, s < 256 → decide (β (82 + x) s ≠ 0) = true → β (82 + x) s = 1 := fun s h1 h2 => by
    have := (hs x s hx h1).1
    have := of_decide_eq_true h2
    omega
  refine scB_eq hpe (fun s h1 h2 => ?_) (fun s h1 h2 => ?_)
  · obtain ⟨-, k2, k3⟩ := (hs x s hx (by omega)).2 (e1 s (by omega) h2)
    show (!s.testBit p && sCome τ (reachP τ) p s x) = true
    rw [k2, k3]; rfl
  · have h2 : (!s.testBit p && sCome τ (reachP τ) p s x) = true := h2
    rw [Bool.and_eq_true] at h2
    obtain ⟨s', a1, a2, a3, a4⟩ := CF.all hw hp hq hc hs h0 h1 (by simpa using h2.1) h2.2
    exact ⟨s', a2, a1, decide_eq_true (by rw [a4]; decide)⟩
