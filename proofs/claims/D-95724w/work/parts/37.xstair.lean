/-! X: loops and meeting roads over any β with Φ; rows with the value named; a stair's fields and calls -/
set_option maxRecDepth 100000
section GX
variable {p : Program} {l : Launch} {e : Env} {R : Room} {s : State} {m : MethodId} {args : Array Value} {below : List Frame} {meth : Method} {c : Code} {Q : State → Prop} {D : va_G} {cl : List vw_C} {A : Nat → Prop} {nL : Nat} {k n pc : Nat} {L : List (Option Value)} {st : List Value}
theorem G.nmX {Φ : tT → Prop} {wsf : tT → va_W} {b : tT} (h : Φ b) (g : ∀ β, Φ β → G p l e R s m args below meth c Q D cl A nL (wsf β) k n pc L st) : G p l e R s m args below meth c Q D cl A nL (wsf b) k n pc L st := g b h
theorem G.loopX {Φ : Nat → tT → Prop} {wsf : tT → va_W} {Lf : Nat → List (Option Value)} {N i0 : Nat} (β : tT) (hβ : Φ i0 β) (hi : i0 ≤ N) (h0 : ∀ β, Φ N β → G p l e R s m args below meth c Q D cl A nL (wsf β) k n pc (Lf N) []) (hs : ∀ i β, i < N → i0 ≤ i → Φ i β → (∀ β, Φ (i + 1) β → G p l e R s m args below meth c Q D cl A nL (wsf β) k n pc (Lf (i + 1)) []) → G p l e R s m args below meth c Q D cl A nL (wsf β) k n pc (Lf i) []) : G p l e R s m args below meth c Q D cl A nL (wsf β) k n pc (Lf i0) [] := by
  have key : ∀ d i, i + d = N → i0 ≤ i → ∀ β, Φ i β → G p l e R s m args below meth c Q D cl A nL (wsf β) k n pc (Lf i) [] := by
    intro d
    induction d with
    | zero => intro i hi _; rw [Nat.add_zero] at hi; rw [hi]; exact h0
    | succ d ih => intro i hi h2 β hb; exact hs i β (by omega) h2 hb (ih (i + 1) (by omega) (by omega))
  exact key (N - i0) i0 (by omega) (Nat.le_refl _) β hβ
theorem G.whX {σ : Type} {wsf : tT → va_W} {Lf : σ → List (Option Value)} (μ : σ → Nat) (I : σ → tT → Prop) (x : σ) (β : tT) (hx : I x β) (hs : ∀ x β, I x β → (∀ y, μ y < μ x → ∀ β, I y β → G p l e R s m args below meth c Q D cl A nL (wsf β) k n pc (Lf y) []) → G p l e R s m args below meth c Q D cl A nL (wsf β) k n pc (Lf x) []) : G p l e R s m args below meth c Q D cl A nL (wsf β) k n pc (Lf x) [] := by
  have key : ∀ d x, μ x < d → ∀ β, I x β → G p l e R s m args below meth c Q D cl A nL (wsf β) k n pc (Lf x) [] := by
    intro d
    induction d with
    | zero => intro x h; omega
    | succ d ih => intro x h β hi; exact hs x β hi (fun y hl => ih y (by omega))
  exact key (μ x + 1) x (by omega) β hx
theorem G.joinX {Φ : tT → Prop} {wsf : tT → va_W} {ws : va_W} {pcJ : Nat} {LJ : List (Option Value)} {stJ : List Value} (x : Int32) (J : ∀ β, Φ β → G p l e R s m args below meth c Q D cl A nL (wsf β) k n pcJ LJ (.int x :: stJ)) (body : (∀ (β : tT), Φ β → ∀ (y : Int32), y = x → G p l e R s m args below meth c Q D cl A nL (wsf β) k n pcJ LJ (.int y :: stJ)) → G p l e R s m args below meth c Q D cl A nL ws k n pc L st) : G p l e R s m args below meth c Q D cl A nL ws k n pc L st :=
  body (fun β hb y h => h ▸ J β hb)
theorem G.meetX {Φ : tT → Prop} {wsf : tT → va_W} {ws : va_W} {pcJ : Nat} {LJ : List (Option Value)} {stJ : List Value} (J : ∀ β, Φ β → G p l e R s m args below meth c Q D cl A nL (wsf β) k n pcJ LJ stJ) (body : (∀ (β : tT), Φ β → G p l e R s m args below meth c Q D cl A nL (wsf β) k n pcJ LJ stJ) → G p l e R s m args below meth c Q D cl A nL ws k n pc L st) : G p l e R s m args below meth c Q D cl A nL ws k n pc L st :=
  body J
end GX
section XR2
variable {p : Program} {l : Launch} {e : Env} {R : Room} {s : State} {m : MethodId} {args : Array Value} {below : List Frame} {meth : Method} {c : Code} {Q : State → Prop} {D : va_G} {cl : List vw_C} {tys : List (ClassId × FieldType)} {A : Nat → Prop} {nL : Nat} {cc : ByteArray} {own : String} {ret : Option FieldType} {k n pc : Nat} {L : List (Option Value)} {st : List Value} {ad : Nat → Nat} {mk : Nat → (Nat → Nat) → va_E} {codes : List Nat} {τ : tT}
theorem g_ialdV (C0 : gC p s m args meth c D cl tys A nL cc own ret) {q0 j t0 N v : Nat} {dA : ClassId} (i : Nat) (hq : codes[q0]? = some j) (hm : ∀ f, mk j f = .inl (dA, N, .inl (fun i => nI (f i)))) (ht : tys[t0]? = some (dA, .int)) (hN : N < 2 ^ 31) (hi : i < N) (hv : τ j i = v) (hdg : decode cc pc = .ok (.iaload, 1))
    (g : G p l e R s m args below meth c Q D cl A nL (cW ad mk codes τ) k n (pc + 1) L (.int (nI v) :: st)) : G p l e R s m args below meth c Q D cl A nL (cW ad mk codes τ) k n pc L (.int (nI i) :: .ref (ad j) :: st) := by
  subst hv
  exact g_iald C0 i hq hm ht hN hi hdg g
theorem g_zaldV (C0 : gC p s m args meth c D cl tys A nL cc own ret) {q0 j t0 N v : Nat} {dA : ClassId} (i : Nat) (hq : codes[q0]? = some j) (hm : ∀ f, mk j f = .inl (dA, N, .inl (fun i => nI (f i)))) (ht : tys[t0]? = some (dA, .boolean)) (hN : N < 2 ^ 31) (hi : i < N) (hv : τ j i = v) (hdg : decode cc pc = .ok (.baload, 1))
    (g : G p l e R s m args below meth c Q D cl A nL (cW ad mk codes τ) k n (pc + 1) L (.int (nI v) :: st)) : G p l e R s m args below meth c Q D cl A nL (cW ad mk codes τ) k n pc L (.int (nI i) :: .ref (ad j) :: st) := by
  subst hv
  exact g_zald C0 i hq hm ht hN hi hdg g
theorem g_getR (C0 : gC p s m args meth c D cl tys A nL cc own ret) {C ref : String} {T : u_T} {N ci ix q0 j : Nat} {fs : List Value} {v : Value} (fk : Nat) (hq : codes[q0]? = some j) (hm : mk j (τ j) = .inr (ci, fs)) (hc : cl[ci]? = some (C, T, N)) (hin : ∀ w ∈ u_ws C T N, w ∈ lw_all) (hk : fk < N) (w1 : Cond.fieldLink own ix ref (T fk).2.1 (T fk).2.2.1 ∈ lw_all) (w2 : Cond.sameField ref (T fk).1 (T fk).2.1 (T fk).2.2.1 ∈ lw_all) (hv : fs[fk]? = some v) (hdg : decode cc pc = .ok (.getfield ix, 3))
    (g : G p l e R s m args below meth c Q D cl A nL (cW ad mk codes τ) k n (pc + 3) L (v :: st)) : G p l e R s m args below meth c Q D cl A nL (cW ad mk codes τ) k n pc L (.ref (ad j) :: st) := by
  intro H locs ls hP hD hS hl
  have he : (cW ad mk codes τ)[q0]? = some (ad j, .inr (ci, fs)) := by rw [cW_get hq, hm]
  exact va_get (D := D) (ci := ci) (v := v) (C := C) (T := T) (N := N) C0.x C0.b C0.ts hin C0.ow C0.K hP q0 he hc fk hk (C0.ts _ w1) (fun x h9 => u_same (C0.ts _ w2) x h9) hv hdg (g H locs ls hP hD hS hl)
end XR2
theorem xv {a b : Nat} (h : a = b) : some (Value.int (nI a)) = some (Value.int (nI b)) := by rw [h]
theorem xst_f {ad : Nat → Nat} {nS r : Nat} (h : r < nS) : (bif Nat.blt r nS then some (ad (90 + 2 * r)) else none) = some (ad (90 + 2 * r)) := by rw [blt_c, decide_eq_true h]; rfl
abbrev XI (l : Launch) (D : va_G) (dT : Nat → ClassId) (ad : Nat → Nat) (nS : Nat) (y : MethodName) (cc : ByteArray) (nL : Nat) (ret : FieldType) (rm : Room) (av : List Value) (β : tT) (post : Int32 → tT → Prop) : Prop := XCI l y cc nL ret rm D clA (tyA dT) ad (xMk dT ad nS) (xCodes nS) av β post
abbrev XV (l : Launch) (D : va_G) (dT : Nat → ClassId) (ad : Nat → Nat) (nS : Nat) (y : MethodName) (cc : ByteArray) (nL : Nat) (rm : Room) (av : List Value) (β : tT) (post : tT → Prop) : Prop := XCV l y cc nL rm D clA (tyA dT) ad (xMk dT ad nS) (xCodes nS) av β post
abbrev XF (l : Launch) (D : va_G) (dT : Nat → ClassId) (ad : Nat → Nat) (nS : Nat) (y : MethodName) (cc : ByteArray) (nL : Nat) (ret : FieldType) (rm : Room) (av : List Value) (β : tT) (post : tT → Prop) (j : Nat) : Prop := XCR l y cc nL ret rm D clA (tyA dT) ad (xMk dT ad nS) (xCodes nS) av β post j
section XE2
variable {l : Launch} {y : MethodName} {cc : ByteArray} {nL : Nat} {ret : FieldType} {rm : Room} {D : va_G} {dT : Nat → ClassId} {ad : Nat → Nat} {nS : Nat} {av : List Value} {β : tT} {L : List (Option Value)}
theorem XI.ofG {own : String} {post : Int32 → tT → Prop} (ho : y.cls = own) (hy : plainName y.cls = true) (hn : (lg_sl av).length ≤ nL) (hL : gL 0 L = lv_args 0 av)
    (h : ∀ (p : Program) (e : Env) (s : State) (m : MethodId) (below : List Frame) (meth : Method) (c : Code), gC p s m av.toArray meth c D clA (tyA dT) (cA ad (xCodes nS) s.heap.size) nL cc own (some ret) → NW s →
      G p l e rm s m av.toArray below meth c (MQ below (cQi D clA (tyA dT) ad (xMk dT ad nS) (xCodes nS) post s.heap.size) av.toArray s 0 0 (cA ad (xCodes nS) s.heap.size)) D clA (cA ad (xCodes nS) s.heap.size) nL (xW dT ad nS β) 0 0 0 L []) :
    XI l D dT ad nS y cc nL ret rm av β post := cEnterX (Qc := cQi D clA (tyA dT) ad (xMk dT ad nS) (xCodes nS) post) ho hy hn hL h
theorem XV.ofG {own : String} {post : tT → Prop} (ho : y.cls = own) (hy : plainName y.cls = true) (hn : (lg_sl av).length ≤ nL) (hL : gL 0 L = lv_args 0 av)
    (h : ∀ (p : Program) (e : Env) (s : State) (m : MethodId) (below : List Frame) (meth : Method) (c : Code), gC p s m av.toArray meth c D clA (tyA dT) (cA ad (xCodes nS) s.heap.size) nL cc own none → NW s →
      G p l e rm s m av.toArray below meth c (MQ below (cQv D clA (tyA dT) ad (xMk dT ad nS) (xCodes nS) post s.heap.size) av.toArray s 0 0 (cA ad (xCodes nS) s.heap.size)) D clA (cA ad (xCodes nS) s.heap.size) nL (xW dT ad nS β) 0 0 0 L []) :
    XV l D dT ad nS y cc nL rm av β post := cEnterX (Qc := cQv D clA (tyA dT) ad (xMk dT ad nS) (xCodes nS) post) ho hy hn hL h
theorem XF.ofG {own : String} {post : tT → Prop} {j : Nat} (ho : y.cls = own) (hy : plainName y.cls = true) (hn : (lg_sl av).length ≤ nL) (hL : gL 0 L = lv_args 0 av)
    (h : ∀ (p : Program) (e : Env) (s : State) (m : MethodId) (below : List Frame) (meth : Method) (c : Code), gC p s m av.toArray meth c D clA (tyA dT) (cA ad (xCodes nS) s.heap.size) nL cc own (some ret) → NW s →
      G p l e rm s m av.toArray below meth c (MQ below (cQr D clA (tyA dT) ad (xMk dT ad nS) (xCodes nS) post j s.heap.size) av.toArray s 0 0 (cA ad (xCodes nS) s.heap.size)) D clA (cA ad (xCodes nS) s.heap.size) nL (xW dT ad nS β) 0 0 0 L []) :
    XF l D dT ad nS y cc nL ret rm av β post j := cEnterX (Qc := cQr D clA (tyA dT) ad (xMk dT ad nS) (xCodes nS) post j) ho hy hn hL h
end XE2
section XS
variable {p : Program} {l : Launch} {e : Env} {R : Room} {s : State} {m : MethodId} {args : Array Value} {below : List Frame} {meth : Method} {c : Code} {Q : State → Prop} {D : va_G} {nL : Nat} {cc : ByteArray} {own : String} {ret : Option FieldType} {k n pc : Nat} {L : List (Option Value)} {st : List Value} {ad : Nat → Nat} {dT : Nat → ClassId} {nS : Nat} {β τ : tT}
theorem xs_cell {r : Nat} (hβ : RX nS β τ) (hr : r < nS) : xMk dT ad nS (90 + 2 * r) (β (90 + 2 * r)) = .inr (6 + τ 2 r, [.int (nI (τ 3 r)), .int (nI (τ 4 r)), .ref (ad (90 + 2 * r + 1)), .int (nI (τ 5 r))]) := by
  obtain ⟨h0, h1, h3, h4⟩ := hβ.st hr
  have := hβ.n10
  rw [xMk_stair (by omega), h4]
  unfold xFs
  rw [h0, h1, h3]
/-- a field of stair r is read -/
theorem xs_get {A : Nat → Prop} (C0 : gC p s m args meth c D clA (tyA dT) A nL cc own ret) {r ix : Nat} {v : Value} (hβ : RX nS β τ) (hr : r < nS) (hk3 : τ 2 r < 3) (fk : Nat) (hk : fk < 4) (w1 : Cond.fieldLink own ix "FittingStrides$Stair" (TX6 fk).2.1 (TX6 fk).2.2.1 ∈ lw_all) (hv : [Value.int (nI (τ 3 r)), .int (nI (τ 4 r)), .ref (ad (90 + 2 * r + 1)), .int (nI (τ 5 r))][fk]? = some v) (hdg : decode cc pc = .ok (.getfield ix, 3))
    (g : G p l e R s m args below meth c Q D clA A nL (xW dT ad nS β) k n (pc + 3) L (v :: st)) : G p l e R s m args below meth c Q D clA A nL (xW dT ad nS β) k n pc L (.ref (ad (90 + 2 * r)) :: st) := by
  have hm := xs_cell (dT := dT) (ad := ad) hβ hr
  have hq : (xCodes nS)[90 + 2 * r]? = some (90 + 2 * r) := xCode (by omega)
  have h3 : τ 2 r = 0 ∨ τ 2 r = 1 ∨ τ 2 r = 2 := by omega
  have f4 : fk = 0 ∨ fk = 1 ∨ fk = 2 ∨ fk = 3 := by omega
  rcases h3 with h | h | h
  · rw [h] at hm
    refine g_get C0 (C := RX6) (T := TX6) (N := 4) (ci := 6) fk hq hm rfl in_X6 hk ?_ hv hdg g
    rcases f4 with rfl | rfl | rfl | rfl <;> exact w1
  · rw [h] at hm
    refine g_get C0 (C := RX7) (T := TX7) (N := 4) (ci := 7) fk hq hm rfl in_X7 hk ?_ hv hdg g
    rcases f4 with rfl | rfl | rfl | rfl <;> exact w1
  · rw [h] at hm
    refine g_get C0 (C := RX8) (T := TX8) (N := 4) (ci := 8) fk hq hm rfl in_X8 hk ?_ hv hdg g
    rcases f4 with rfl | rfl | rfl | rfl <;> exact w1
/-- invokevirtual on stair r of a method that no kind overrides -/
theorem g_stU {x : MethodName} {bytes : ByteArray} {maxL na ix r : Nat} {rt : FieldType} {rm : Room} {As rest stk : List Value} {post : Int32 → tT → Prop} (C0 : gC p s m args meth c D clA (tyA dT) (cA ad (xCodes nS) s.heap.size) nL cc own ret) (hN : NW s) (hβ : RX nS β τ) (hr : r < nS) (hk3 : τ 2 r < 3) (hM : XI l D dT ad nS x bytes maxL rt rm (.ref (ad (90 + 2 * r)) :: As) β post)
    (w1 : Cond.methodLink own ix x ∈ lw_all) (w2 : Cond.sameMethod x.cls x.cls x.name x.desc ∈ lw_all) (w30 : Cond.selects RX6 x x ∈ lw_all) (w31 : Cond.selects RX7 x x ∈ lw_all) (w32 : Cond.selects RX8 x x ∈ lw_all) (w4 : Cond.instanceMethod x ∈ lw_all) (w5 : Cond.initialized x.cls ∈ lw_all) (w6 : Cond.code x bytes maxL (some rt) ∈ lw_all)
    (hd : x.cls ≠ "java/lang/invoke/MethodHandle" ∧ x.cls ≠ "java/lang/invoke/VarHandle" ∧ (parseMethodDescriptor x.desc).map (fun d => d.parameters.length) = some na) (hR : rm.frames + 1 ≤ R.frames ∧ 8 + (maxL + 11) + rm.locals ≤ R.locals) (hrc : rm.cells = 0) (hrs : rm.slots = 0) (hkn : k ≤ R.cells ∧ n ≤ R.slots)
    (hna : As.length = na) (hst : stk = As.reverse ++ .ref (ad (90 + 2 * r)) :: rest) (hW : (rest.map fun v => v.category).sum ≤ 8) (hdg : decode cc pc = .ok (.invokevirtual ix, 3))
    (g : ∀ (r : Int32) (β' : tT), post r β' → G p l e R s m args below meth c Q D clA (cA ad (xCodes nS) s.heap.size) nL (xW dT ad nS β') k n (pc + 3) L (.int r :: rest)) : G p l e R s m args below meth c Q D clA (cA ad (xCodes nS) s.heap.size) nL (xW dT ad nS β) k n pc L stk := by
  have hm := xs_cell (dT := dT) (ad := ad) hβ hr
  have hq : (xCodes nS)[90 + 2 * r]? = some (90 + 2 * r) := xCode (by omega)
  have h3 : τ 2 r = 0 ∨ τ 2 r = 1 ∨ τ 2 r = 2 := by omega
  rcases h3 with h | h | h
  · rw [h] at hm
    exact g_cuiX (C := RX6) (T := TX6) (N := 4) (ci := 6) C0 hN hM hq hm rfl (lw_cwU C0.ts w1 w2 w30 w4 w5 w6 hrc hrs hd hR) hkn hna hst hW hdg g
  · rw [h] at hm
    exact g_cuiX (C := RX7) (T := TX7) (N := 4) (ci := 7) C0 hN hM hq hm rfl (lw_cwU C0.ts w1 w2 w31 w4 w5 w6 hrc hrs hd hR) hkn hna hst hW hdg g
  · rw [h] at hm
    exact g_cuiX (C := RX8) (T := TX8) (N := 4) (ci := 8) C0 hN hM hq hm rfl (lw_cwU C0.ts w1 w2 w32 w4 w5 w6 hrc hrs hd hR) hkn hna hst hW hdg g
/-- invokevirtual on stair r of a method x that the kinds 1 and 2 override -/
theorem g_stO {x y1 y2 : MethodName} {b0 b1 b2 : ByteArray} {maxL na ix r : Nat} {rt : FieldType} {rm : Room} {As rest stk : List Value} {post : Int32 → tT → Prop} (C0 : gC p s m args meth c D clA (tyA dT) (cA ad (xCodes nS) s.heap.size) nL cc own ret) (hN : NW s) (hβ : RX nS β τ) (hr : r < nS) (hk3 : τ 2 r < 3) (hM0 : τ 2 r = 0 → XI l D dT ad nS x b0 maxL rt rm (.ref (ad (90 + 2 * r)) :: As) β post) (hM1 : τ 2 r = 1 → XI l D dT ad nS y1 b1 maxL rt rm (.ref (ad (90 + 2 * r)) :: As) β post) (hM2 : τ 2 r = 2 → XI l D dT ad nS y2 b2 maxL rt rm (.ref (ad (90 + 2 * r)) :: As) β post)
    (w1 : Cond.methodLink own ix x ∈ lw_all) (w2 : Cond.sameMethod x.cls x.cls x.name x.desc ∈ lw_all) (w30 : Cond.selects RX6 x x ∈ lw_all) (w31 : Cond.selects RX7 x y1 ∈ lw_all) (w32 : Cond.selects RX8 x y2 ∈ lw_all) (w40 : Cond.instanceMethod x ∈ lw_all) (w41 : Cond.instanceMethod y1 ∈ lw_all) (w42 : Cond.instanceMethod y2 ∈ lw_all) (w50 : Cond.initialized x.cls ∈ lw_all) (w51 : Cond.initialized y1.cls ∈ lw_all) (w52 : Cond.initialized y2.cls ∈ lw_all) (w60 : Cond.code x b0 maxL (some rt) ∈ lw_all) (w61 : Cond.code y1 b1 maxL (some rt) ∈ lw_all) (w62 : Cond.code y2 b2 maxL (some rt) ∈ lw_all)
    (hd : x.cls ≠ "java/lang/invoke/MethodHandle" ∧ x.cls ≠ "java/lang/invoke/VarHandle" ∧ (parseMethodDescriptor x.desc).map (fun d => d.parameters.length) = some na) (hR : rm.frames + 1 ≤ R.frames ∧ 8 + (maxL + 11) + rm.locals ≤ R.locals) (hrc : rm.cells = 0) (hrs : rm.slots = 0) (hkn : k ≤ R.cells ∧ n ≤ R.slots)
    (hna : As.length = na) (hst : stk = As.reverse ++ .ref (ad (90 + 2 * r)) :: rest) (hW : (rest.map fun v => v.category).sum ≤ 8) (hdg : decode cc pc = .ok (.invokevirtual ix, 3))
    (g : ∀ (r : Int32) (β' : tT), post r β' → G p l e R s m args below meth c Q D clA (cA ad (xCodes nS) s.heap.size) nL (xW dT ad nS β') k n (pc + 3) L (.int r :: rest)) : G p l e R s m args below meth c Q D clA (cA ad (xCodes nS) s.heap.size) nL (xW dT ad nS β) k n pc L stk := by
  have hm := xs_cell (dT := dT) (ad := ad) hβ hr
  have hq : (xCodes nS)[90 + 2 * r]? = some (90 + 2 * r) := xCode (by omega)
  have h3 : τ 2 r = 0 ∨ τ 2 r = 1 ∨ τ 2 r = 2 := by omega
  rcases h3 with h | h | h
  · have hM := hM0 h
    rw [h] at hm
    exact g_cuiX (C := RX6) (T := TX6) (N := 4) (ci := 6) C0 hN hM hq hm rfl (lw_cwU C0.ts w1 w2 w30 w40 w50 w60 hrc hrs hd hR) hkn hna hst hW hdg g
  · have hM := hM1 h
    rw [h] at hm
    exact g_cuiX (C := RX7) (T := TX7) (N := 4) (ci := 7) C0 hN hM hq hm rfl (lw_cwO C0.ts w1 w2 w40 w31 w41 w51 w61 w60 hrc hrs hd hR) hkn hna hst hW hdg g
  · have hM := hM2 h
    rw [h] at hm
    exact g_cuiX (C := RX8) (T := TX8) (N := 4) (ci := 8) C0 hN hM hq hm rfl (lw_cwO C0.ts w1 w2 w40 w32 w42 w52 w62 w60 hrc hrs hd hR) hkn hna hst hW hdg g
end XS
