/-! rows: arraylength, a static void method over X's world, roads that meet with a parameter; facts for the walks of carriers -/
set_option maxRecDepth 100000
section XR3
variable {p : Program} {l : Launch} {e : Env} {R : Room} {s : State} {m : MethodId} {args : Array Value} {below : List Frame} {meth : Method} {c : Code} {Q : State → Prop} {D : va_G} {cl : List vw_C} {tys : List (ClassId × FieldType)} {A : Nat → Prop} {nL : Nat} {cc : ByteArray} {own : String} {ret : Option FieldType} {k n pc : Nat} {L : List (Option Value)} {st : List Value} {ad : Nat → Nat} {mk : Nat → (Nat → Nat) → va_E} {codes : List Nat} {τ : tT}
theorem g_alen (C0 : gC p s m args meth c D cl tys A nL cc own ret) {q0 j t0 N : Nat} {dA : ClassId} {x : Nat → Int32} {ty : FieldType} (hq : codes[q0]? = some j) (hm : mk j (τ j) = .inl (dA, N, .inl x)) (ht : tys[t0]? = some (dA, ty)) (hdg : decode cc pc = .ok (.arraylength, 1))
    (g : G p l e R s m args below meth c Q D cl A nL (cW ad mk codes τ) k n (pc + 1) L (.int (nI N) :: st)) : G p l e R s m args below meth c Q D cl A nL (cW ad mk codes τ) k n pc L (.ref (ad j) :: st) := by
  intro H locs ls hP hD hS hl
  have he : (cW ad mk codes τ)[q0]? = some (ad j, .inl (dA, N, .inl x)) := by rw [cW_get hq, hm]
  exact va_alen C0.x C0.b C0.K hP q0 t0 he ht rfl hdg (g H locs ls hP hD hS hl)
theorem g_iorE (C0 : gC p s m args meth c D cl tys A nL cc own ret) {ws : va_W} {x y v : Int32} (hv : x ||| y = v) (hdg : decode cc pc = .ok (.ior, 1)) (g : G p l e R s m args below meth c Q D cl A nL ws k n (pc + 1) L (.int v :: st)) : G p l e R s m args below meth c Q D cl A nL ws k n pc L (.int y :: .int x :: st) :=
  g_ior C0 hdg (by rw [hv]; exact g)
/-- roads that meet at pcJ, with a parameter -/
theorem G.meetP {σ : Type} {Φ : σ → tT → Prop} {wsf : tT → va_W} {ws : va_W} {pcJ : Nat} {LJ : σ → List (Option Value)} {stJ : List Value} (J : ∀ x β, Φ x β → G p l e R s m args below meth c Q D cl A nL (wsf β) k n pcJ (LJ x) stJ) (body : (∀ (x : σ) (β : tT), Φ x β → G p l e R s m args below meth c Q D cl A nL (wsf β) k n pcJ (LJ x) stJ) → G p l e R s m args below meth c Q D cl A nL ws k n pc L st) : G p l e R s m args below meth c Q D cl A nL ws k n pc L st :=
  body J
theorem g_csvX {post : tT → Prop} {y : MethodName} {bytes : ByteArray} {maxL ix na : Nat} {rm : Room} {As rest stk : List Value} {ro : Option FieldType} (C0 : gC p s m args meth c D cl tys (cA ad codes s.heap.size) nL cc own ro) (hN : NW s) (hM : XCV l y bytes maxL rm D cl tys ad mk codes As τ post)
    (w1 : Cond.methodLink own ix y ∈ lw_all) (w2 : Cond.static y ∈ lw_all) (w3 : Cond.initialized y.cls ∈ lw_all) (w4 : Cond.code y bytes maxL none ∈ lw_all)
    (hd : y.cls ≠ "java/lang/invoke/MethodHandle" ∧ y.cls ≠ "java/lang/invoke/VarHandle" ∧ (parseMethodDescriptor y.desc).map (fun d => d.parameters.length) = some na) (hR : rm.frames + 1 ≤ R.frames ∧ 8 + (maxL + 11) + rm.locals ≤ R.locals) (hrc : rm.cells = 0) (hrs : rm.slots = 0) (hkn : k ≤ R.cells ∧ n ≤ R.slots)
    (hna : As.length = na) (hst : stk = As.reverse ++ rest) (hW : (rest.map fun v => v.category).sum ≤ 8) (hdg : decode cc pc = .ok (.invokestatic ix, 3))
    (g : ∀ (τ' : tT), post τ' → G p l e R s m args below meth c Q D cl (cA ad codes s.heap.size) nL (cW ad mk codes τ') k n (pc + 3) L rest) : G p l e R s m args below meth c Q D cl (cA ad codes s.heap.size) nL (cW ad mk codes τ) k n pc L stk := by
  intro H locs ls hP hD hS hl
  refine va_callv (va_runS (As := As) (rest := rest) ⟨C0.x, C0.b, C0.ml, C0.ow, C0.ts⟩ (hM H.size) (va_cwS na C0.ts (lw_S w1 w2 w3 w4) rfl hrc hrs hd hR) ⟨cBlindX, cPreX hN C0.K hP hD⟩ rfl hna hl.1 hst (lv_room hW) hdg ⟨hkn.1, hkn.2⟩) hS (fun q _ h => cA_mono hS.1 q h) (fun q h => cA_mono hS.1 q h) (fun τ' t H1 locs1 ht hvm hpost hB hz hk1 hS1 => ?_)
  obtain ⟨hP1, hK1, hD1⟩ := hB
  rw [ht] at hP1
  exact g τ' hpost H1 locs1 ls hP1 (hD1.weaken (fun _ _ _ h => cA_mono hS.1 _ h)) hS1 hl
end XR3
def canS (τ : tT) (p r fr c : Nat) : Bool := decide (c ≠ p) && mgS τ r fr (τ 10 c) (τ 11 c) && (reachP τ c).testBit fr
theorem canS_t {τ : tT} {p r fr c : Nat} (h : canS τ p r fr c = true) : c ≠ p ∧ mgS τ r fr (τ 10 c) (τ 11 c) = true ∧ (reachP τ c).testBit fr = true := by
  unfold canS at h
  rw [Bool.and_eq_true, Bool.and_eq_true, decide_eq_true_eq] at h
  exact ⟨h.1.1, h.1.2, h.2⟩
theorem canS_f {τ : tT} {p r fr c : Nat} (h : canS τ p r fr c = false) (h1 : c ≠ p) (h2 : mgS τ r fr (τ 10 c) (τ 11 c) = true) (h3 : (reachP τ c).testBit fr = true) : False := by
  unfold canS at h
  rw [decide_eq_true h1, h2, h3] at h
  cases h
theorem RX.come {nS : Nat} {β τ : tT} (h : RX nS β τ) {x : Nat} (hx : x < 8) (s z : Nat) : RX nS (upc β (82 + x) s z) τ := h.scr1 _ _ _ (Or.inr (Or.inr (Or.inl (by omega))))
theorem BR.one {τ : tT} {p : Nat} {b0 β : tT} {ch : Bool} (h : BR τ p b0 β ch) {x s : Nat} (hx : x < 8) (hs : s < 256) (h1 : β (82 + x) s ≠ 0) : β (82 + x) s = 1 := by
  have := (h.1 x s hx hs).1
  omega
theorem BR.back {τ : tT} {p : Nat} {b0 β : tT} {ch : Bool} (h : BR τ p b0 β ch) (e : ch = false) {x s : Nat} (hx : x < 8) (hs : s < 256) {v : Nat} (h1 : β (82 + x) s = v) : b0 (82 + x) s = v := (h.2.2.2 e x s hx hs).symm.trans h1
theorem BR.keep {τ : tT} {p : Nat} {b0 β : tT} {ch : Bool} (h : BR τ p b0 β ch) {x s : Nat} (hx : x < 8) (hs : s < 256) (h1 : b0 (82 + x) s = 1) : β (82 + x) s = 1 := by
  have := h.2.1 x s hx hs
  have := (h.1 x s hx hs).1
  omega
theorem CC.ce {τ : tT} {p r fr s : Nat} {b0 β : tT} (hw : wfT τ) (hp8 : τ 0 8 ≤ 8) (hr : r < τ 0 1) (hs : s < 2 ^ τ 0 8) (he : CE b0 β) (h : CC τ p r fr s β) : CC τ p r fr s b0 := by
  have ht := toE_lt hw (fr := fr) hr
  have hp := pw_le hp8
  refine ⟨fun k => (he _ _ ht (by omega)).symm.trans (h.1 k), fun c hc k1 k2 k3 => (he _ _ ht ?_).symm.trans (h.2 c hc k1 k2 k3)⟩
  have := or_lt hs hc
  omega
theorem CC.ec {τ : tT} {p r fr s : Nat} {b0 β : tT} (hw : wfT τ) (hp8 : τ 0 8 ≤ 8) (hr : r < τ 0 1) (hs : s < 2 ^ τ 0 8) (he : CE b0 β) (h : CC τ p r fr s b0) : CC τ p r fr s β := CC.ce hw hp8 hr hs (fun x s hx hs => (he x s hx hs).symm) h
/-- for the stair r, the sets below n -/
def CG (τ : tT) (p r n : Nat) (β : tT) : Prop := ∀ s, s < n → (β (82 + τ 3 r) s = 1 → CC τ p r (τ 3 r) s β) ∧ (β (82 + τ 4 r) s = 1 → CC τ p r (τ 4 r) s β)
theorem CG.s {τ : tT} {p r n : Nat} {β : tT} (h : CG τ p r n β) (h3 : β (82 + τ 3 r) n = 1 → CC τ p r (τ 3 r) n β) (h4 : β (82 + τ 4 r) n = 1 → CC τ p r (τ 4 r) n β) : CG τ p r (n + 1) β := fun s hs => by
  by_cases e : s = n
  · subst e; exact ⟨h3, h4⟩
  · exact h s (by omega)
theorem CF.s {τ : tT} {p n m : Nat} {β : tT} (h : CF τ p n m β) (h2 : CG τ p n m β) : CF τ p (n + 1) m β := fun r hr => by
  by_cases e : r = n
  · subst e; exact h2
  · exact h r (by omega)
theorem CF.ec {τ : tT} {p : Nat} {b0 β : tT} (hw : wfT τ) (hp8 : τ 0 8 ≤ 8) (he : CE b0 β) (h : CF τ p (τ 0 1) (2 ^ τ 0 8) b0) : CF τ p (τ 0 1) (2 ^ τ 0 8) β := by
  have hp := pw_le hp8
  intro r hr s hs
  obtain ⟨-, a, b, -⟩ := hw.2.2 r hr
  have hw0 := hw.2.1
  obtain ⟨h3, h4⟩ := h r hr s hs
  exact ⟨fun k => CC.ec hw hp8 hr hs he (h3 ((he _ _ (by omega) (by omega)).symm.trans k)), fun k => CC.ec hw hp8 hr hs he (h4 ((he _ _ (by omega) (by omega)).symm.trans k))⟩
theorem car_mu {τ : tT} {p : Nat} {b β : tT} {ch : Bool} {k : Nat} (h : BR τ p b β ch) (hk : k = 2048 - cmN b) : 2 * (2048 - cmN β) + bN ch < 2 * k + bN true := by
  have h1 := cmN_top h.1
  cases ch with
  | false =>
    have := cmN_le (CE.cl (h.2.2.2 rfl))
    have := h.2.1
    have e : cmN b ≤ cmN β := cmN_le h.2.1
    show 2 * (2048 - cmN β) + 0 < 2 * k + 1
    omega
  | true =>
    have e := h.2.2.1 rfl
    show 2 * (2048 - cmN β) + 1 < 2 * k + 1
    omega
theorem CS.begin {τ : tT} {p : Nat} {β : tT} (hw : wfT τ) (hx : τ 9 p < 8) (h : ∀ x, x < 8 → ∀ s, s < 256 → β (82 + x) s = 0) : CS τ p (upc β (82 + τ 9 p) 0 1) ∧ (upc β (82 + τ 9 p) 0 1) (82 + τ 9 p) 0 = 1 := by
  refine ⟨fun x s hx' hs => ?_, upc_hit _ _ _ _⟩
  rw [upc_if]
  split
  · rename_i c
    refine ⟨Nat.le_refl _, fun _ => ?_⟩
    have e : x = τ 9 p := by omega
    subst e
    rw [c.2]
    exact ⟨Nat.two_pow_pos _, Nat.zero_testBit _, come_start hw hx⟩
  · rw [h x hx' s hs]
    exact ⟨Nat.zero_le _, fun e => by cases e⟩
theorem RX.fill {nS : Nat} {β τ : tT} (h : RX nS β τ) {i : Nat} (hi : i < 8) (hz : ∀ x, x < i → ∀ s, s < 256 → β (82 + x) s = 0) : RX nS (cpT β (82 + i) 256 (fun _ => 0)) τ ∧ ∀ x, x < i + 1 → ∀ s, s < 256 → (cpT β (82 + i) 256 (fun _ => 0)) (82 + x) s = 0 := by
  refine ⟨h.scratch (fun j hj => cpT_j _ _ _ _ (fun q => hj (Or.inr (Or.inr (Or.inl (by omega)))))), fun x hx s hs => ?_⟩
  by_cases e : x = i
  · subst e; rw [cpT_at, if_pos hs]
  · rw [cpT_j _ _ _ _ (by omega)]; exact hz x (by omega) s hs
theorem scB_lt2 {f : Nat → Bool} {n : Nat} (hn : n ≤ 256) : ∀ k, scB f n = some k → k < 2 ^ 31 := fun k h => by
  have := ((scB_ok f n).2 k h).1
  omega
theorem scB_lt {f : Nat → Bool} {n k : Nat} (h : scB f n = some k) : k < n := ((scB_ok f n).2 k h).1
theorem RX.rch {nS : Nat} {β τ : tT} {n : Nat} (h : RX nS β τ) : RX nS β (rchAll τ n) := h.same (fun _ _ _ _ _ _ _ _ _ => rfl) (fun j hj => upr_n (fun e => by subst e; revert hj; decide))
