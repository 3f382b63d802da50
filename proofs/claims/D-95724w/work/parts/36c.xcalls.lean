/-! calls and nest mates' fields, for contracts with NW -/
set_option maxRecDepth 100000
section XCalls
variable {p : Program} {l : Launch} {e : Env} {R : Room} {s : State} {m : MethodId} {args : Array Value} {below : List Frame} {meth : Method} {c : Code} {Q : State → Prop} {D : va_G} {cl : List vw_C} {tys : List (ClassId × FieldType)} {nL : Nat} {cc : ByteArray} {own : String} {ro : Option FieldType} {k n pc : Nat} {L : List (Option Value)} {ad : Nat → Nat} {mk : Nat → (Nat → Nat) → va_E} {codes : List Nat} {τ : tT}
  {x y : MethodName} {bytes : ByteArray} {maxL : Nat} {ret : FieldType} {rm : Room} {C : String} {T : u_T} {N ci ix q0 j na : Nat} {fs As rest stk : List Value}
theorem cBlindX {av : List Value} {sz : Nat} : FrameBlind (cPcX D cl tys ad mk codes av τ sz) := fun a U g mk q => by
  obtain ⟨q0, ⟨q1, qP, qK, qD⟩, qN⟩ := q
  exact ⟨q0, ⟨q1, qP, va_K.moved (u := U) (U := U.calling g mk a) (Vm.Alike.refl U.vm) qK, qD⟩, NW.same (u := U) (U := U.calling g mk a) rfl qN⟩
theorem cPreX {av : List Value} {H : Heap} {A : Nat → Prop} (hN : NW s) (hK : va_K D cl tys s) (hP : va_P D cl (cW ad mk codes τ) H) (hD : va_D A (cW ad mk codes τ)) : ∀ U : State, U.heap = H → s.WarmedH U.vm → cPcX D cl tys ad mk codes av τ H.size av.toArray U :=
  fun U hU hW => ⟨rfl, ⟨by rw [hU], by rw [hU]; exact hP, va_K.moved hW.alike hK, hD.weaken (fun _ _ _ _ => trivial)⟩, NW.warm hW hN⟩
theorem g_cuiX {post : Int32 → tT → Prop} (C0 : gC p s m args meth c D cl tys (cA ad codes s.heap.size) nL cc own ro) (hN : NW s) (hM : XCI l y bytes maxL ret rm D cl tys ad mk codes (.ref (ad j) :: As) τ post) (hq : codes[q0]? = some j) (hm : mk j (τ j) = .inr (ci, fs)) (hc : cl[ci]? = some (C, T, N))
    (cw : va_CU R s args own C x.cls ix x y bytes maxL (some ret) (ws_ y bytes maxL (some ret)) rm 0 0 na) (hkn : k ≤ R.cells ∧ n ≤ R.slots)
    (hna : As.length = na) (hst : stk = As.reverse ++ .ref (ad j) :: rest) (hW : (rest.map fun v => v.category).sum ≤ 8) (hdg : decode cc pc = .ok (.invokevirtual ix, 3))
    (g : ∀ (r : Int32) (τ' : tT), post r τ' → G p l e R s m args below meth c Q D cl (cA ad codes s.heap.size) nL (cW ad mk codes τ') k n (pc + 3) L (.int r :: rest)) : G p l e R s m args below meth c Q D cl (cA ad codes s.heap.size) nL (cW ad mk codes τ) k n pc L stk := by
  intro H locs ls hP hD hS hl
  have he : (cW ad mk codes τ)[q0]? = some (ad j, .inr (ci, fs)) := by rw [cW_get hq, hm]
  refine va_calli (va_runU (As := As) (rest := rest) (C := C) (b := ad j) ⟨C0.x, C0.b, C0.ml, C0.ow, C0.ts⟩ (hM H.size) cw ⟨cBlindX, va_recv C0.K hP hc he, cPreX hN C0.K hP hD⟩ rfl hna hl.1 hst (lv_room hW) hdg ⟨hkn.1, hkn.2⟩) hS (fun q _ h => cA_mono hS.1 q h) (fun q h => cA_mono hS.1 q h) (fun r τ' t H1 locs1 ht hvm hpost hB hz hk1 hS1 => ?_)
  obtain ⟨hP1, hK1, hD1⟩ := hB
  rw [ht] at hP1
  exact g r τ' hpost H1 locs1 ls hP1 (hD1.weaken (fun _ _ _ h => cA_mono hS.1 _ h)) hS1 hl
theorem g_cviX {post : Int32 → tT → Prop} (C0 : gC p s m args meth c D cl tys (cA ad codes s.heap.size) nL cc own ro) (hN : NW s) (hM : XCI l y bytes maxL ret rm D cl tys ad mk codes (.ref (ad j) :: As) τ post) (hq : codes[q0]? = some j) (hm : mk j (τ j) = .inr (ci, fs)) (hc : cl[ci]? = some (C, T, N))
    (w1 : Cond.methodLink own ix y ∈ lw_all) (w2 : Cond.instanceMethod y ∈ lw_all) (w3 : Cond.selects C y y ∈ lw_all) (w4 : Cond.initialized C ∈ lw_all) (w5 : Cond.code y bytes maxL (some ret) ∈ lw_all)
    (hd : y.cls = C ∧ y.cls ≠ "java/lang/invoke/MethodHandle" ∧ y.cls ≠ "java/lang/invoke/VarHandle" ∧ (parseMethodDescriptor y.desc).map (fun d => d.parameters.length) = some na) (hR : rm.frames + 1 ≤ R.frames ∧ 8 + (maxL + 11) + rm.locals ≤ R.locals) (hrc : rm.cells = 0) (hrs : rm.slots = 0) (hkn : k ≤ R.cells ∧ n ≤ R.slots)
    (hna : As.length = na) (hst : stk = As.reverse ++ .ref (ad j) :: rest) (hW : (rest.map fun v => v.category).sum ≤ 8) (hdg : decode cc pc = .ok (.invokevirtual ix, 3))
    (g : ∀ (r : Int32) (τ' : tT), post r τ' → G p l e R s m args below meth c Q D cl (cA ad codes s.heap.size) nL (cW ad mk codes τ') k n (pc + 3) L (.int r :: rest)) : G p l e R s m args below meth c Q D cl (cA ad codes s.heap.size) nL (cW ad mk codes τ) k n pc L stk := by
  intro H locs ls hP hD hS hl
  have he : (cW ad mk codes τ)[q0]? = some (ad j, .inr (ci, fs)) := by rw [cW_get hq, hm]
  refine va_calli (va_runV (As := As) (rest := rest) (C := C) (b := ad j) ⟨C0.x, C0.b, C0.ml, C0.ow, C0.ts⟩ (hM H.size) (cwV na C0.ts (lw_V w1 w2 w3 w4 w5) rfl hrc hrs hd hR) ⟨cBlindX, va_recv C0.K hP hc he, cPreX hN C0.K hP hD⟩ rfl hna hl.1 hst (lv_room hW) hdg ⟨hkn.1, hkn.2⟩) hS (fun q _ h => cA_mono hS.1 q h) (fun q h => cA_mono hS.1 q h) (fun r τ' t H1 locs1 ht hvm hpost hB hz hk1 hS1 => ?_)
  obtain ⟨hP1, hK1, hD1⟩ := hB
  rw [ht] at hP1
  exact g r τ' hpost H1 locs1 ls hP1 (hD1.weaken (fun _ _ _ h => cA_mono hS.1 _ h)) hS1 hl
theorem g_getN {A : Nat → Prop} {st : List Value} {host : String} {v : Value} (C0 : gC p s m args meth c D cl tys A nL cc own ro) (hN : NW s) (fk : Nat) (hq : codes[q0]? = some j) (hm : mk j (τ j) = .inr (ci, fs)) (hc : cl[ci]? = some (C, T, N)) (hin : ∀ w ∈ u_ws C T N, w ∈ lw_all) (hk : fk < N) (w1 : Cond.fieldLinkNest own ix (T fk).1 (T fk).2.1 (T fk).2.2.1 host ∈ lw_tbl) (hv : fs[fk]? = some v) (hdg : decode cc pc = .ok (.getfield ix, 3))
    (g : G p l e R s m args below meth c Q D cl A nL (cW ad mk codes τ) k n (pc + 3) L (v :: st)) : G p l e R s m args below meth c Q D cl A nL (cW ad mk codes τ) k n pc L (.ref (ad j) :: st) := by
  intro H locs ls hP hD hS hl
  have he : (cW ad mk codes τ)[q0]? = some (ad j, .inr (ci, fs)) := by rw [cW_get hq, hm]
  exact va_getN (D := D) (ci := ci) (v := v) (C := C) (T := T) (N := N) C0.x C0.b C0.ts hin C0.ow C0.K hP q0 he hc fk hk (hN.use w1 rfl) (fun _ h9 => h9) hv hdg (g H locs ls hP hD hS hl)
theorem g_cvvX {post : tT → Prop} (C0 : gC p s m args meth c D cl tys (cA ad codes s.heap.size) nL cc own ro) (hN : NW s) (hM : XCV l y bytes maxL rm D cl tys ad mk codes (.ref (ad j) :: As) τ post) (hq : codes[q0]? = some j) (hm : mk j (τ j) = .inr (ci, fs)) (hc : cl[ci]? = some (C, T, N))
    (w1 : Cond.methodLink own ix y ∈ lw_all) (w2 : Cond.instanceMethod y ∈ lw_all) (w3 : Cond.selects C y y ∈ lw_all) (w4 : Cond.initialized C ∈ lw_all) (w5 : Cond.code y bytes maxL none ∈ lw_all)
    (hd : y.cls = C ∧ y.cls ≠ "java/lang/invoke/MethodHandle" ∧ y.cls ≠ "java/lang/invoke/VarHandle" ∧ (parseMethodDescriptor y.desc).map (fun d => d.parameters.length) = some na) (hR : rm.frames + 1 ≤ R.frames ∧ 8 + (maxL + 11) + rm.locals ≤ R.locals) (hrc : rm.cells = 0) (hrs : rm.slots = 0) (hkn : k ≤ R.cells ∧ n ≤ R.slots)
    (hna : As.length = na) (hst : stk = As.reverse ++ .ref (ad j) :: rest) (hW : (rest.map fun v => v.category).sum ≤ 8) (hdg : decode cc pc = .ok (.invokevirtual ix, 3))
    (g : ∀ (τ' : tT), post τ' → G p l e R s m args below meth c Q D cl (cA ad codes s.heap.size) nL (cW ad mk codes τ') k n (pc + 3) L rest) : G p l e R s m args below meth c Q D cl (cA ad codes s.heap.size) nL (cW ad mk codes τ) k n pc L stk := by
  intro H locs ls hP hD hS hl
  have he : (cW ad mk codes τ)[q0]? = some (ad j, .inr (ci, fs)) := by rw [cW_get hq, hm]
  refine va_callv (va_runV (As := As) (rest := rest) (C := C) (b := ad j) ⟨C0.x, C0.b, C0.ml, C0.ow, C0.ts⟩ (hM H.size) (cwV na C0.ts (lw_V w1 w2 w3 w4 w5) rfl hrc hrs hd hR) ⟨cBlindX, va_recv C0.K hP hc he, cPreX hN C0.K hP hD⟩ rfl hna hl.1 hst (lv_room hW) hdg ⟨hkn.1, hkn.2⟩) hS (fun q _ h => cA_mono hS.1 q h) (fun q h => cA_mono hS.1 q h) (fun τ' t H1 locs1 ht hvm hpost hB hz hk1 hS1 => ?_)
  obtain ⟨hP1, hK1, hD1⟩ := hB
  rw [ht] at hP1
  exact g τ' hpost H1 locs1 ls hP1 (hD1.weaken (fun _ _ _ h => cA_mono hS.1 _ h)) hS1 hl
theorem g_cvrX {post : tT → Prop} {jr : Nat} (C0 : gC p s m args meth c D cl tys (cA ad codes s.heap.size) nL cc own ro) (hN : NW s) (hM : XCR l y bytes maxL ret rm D cl tys ad mk codes (.ref (ad j) :: As) τ post jr) (hq : codes[q0]? = some j) (hm : mk j (τ j) = .inr (ci, fs)) (hc : cl[ci]? = some (C, T, N))
    (w1 : Cond.methodLink own ix y ∈ lw_all) (w2 : Cond.instanceMethod y ∈ lw_all) (w3 : Cond.selects C y y ∈ lw_all) (w4 : Cond.initialized C ∈ lw_all) (w5 : Cond.code y bytes maxL (some ret) ∈ lw_all)
    (hd : y.cls = C ∧ y.cls ≠ "java/lang/invoke/MethodHandle" ∧ y.cls ≠ "java/lang/invoke/VarHandle" ∧ (parseMethodDescriptor y.desc).map (fun d => d.parameters.length) = some na) (hR : rm.frames + 1 ≤ R.frames ∧ 8 + (maxL + 11) + rm.locals ≤ R.locals) (hrc : rm.cells = 0) (hrs : rm.slots = 0) (hkn : k ≤ R.cells ∧ n ≤ R.slots)
    (hna : As.length = na) (hst : stk = As.reverse ++ .ref (ad j) :: rest) (hW : (rest.map fun v => v.category).sum ≤ 8) (hdg : decode cc pc = .ok (.invokevirtual ix, 3))
    (g : ∀ (τ' : tT), post τ' → G p l e R s m args below meth c Q D cl (cA ad codes s.heap.size) nL (cW ad mk codes τ') k n (pc + 3) L (.ref (ad jr) :: rest)) : G p l e R s m args below meth c Q D cl (cA ad codes s.heap.size) nL (cW ad mk codes τ) k n pc L stk := by
  intro H locs ls hP hD hS hl
  have he : (cW ad mk codes τ)[q0]? = some (ad j, .inr (ci, fs)) := by rw [cW_get hq, hm]
  refine va_callr (va_runV (As := As) (rest := rest) (C := C) (b := ad j) ⟨C0.x, C0.b, C0.ml, C0.ow, C0.ts⟩ (hM H.size) (cwV na C0.ts (lw_V w1 w2 w3 w4 w5) rfl hrc hrs hd hR) ⟨cBlindX, va_recv C0.K hP hc he, cPreX hN C0.K hP hD⟩ rfl hna hl.1 hst (lv_room hW) hdg ⟨hkn.1, hkn.2⟩) hS (fun q _ h => cA_mono hS.1 q h) (fun q h => cA_mono hS.1 q h) (fun τ' ra t H1 locs1 ht hvm hpost hB hz hk1 hS1 => ?_)
  obtain ⟨rfl, hP1, hK1, hD1⟩ := hB
  rw [ht] at hP1
  exact g τ' hpost H1 locs1 ls hP1 (hD1.weaken (fun _ _ _ h => cA_mono hS.1 _ h)) hS1 hl
theorem g_putN {A : Nat → Prop} {st : List Value} {host : String} (C0 : gC p s m args meth c D cl tys A nL cc own ro) (hN : NW s) {C : String} {T : u_T} {N ci ix q0 j : Nat} {F : (Nat → Nat) → List Value} {v : Value} {ty : FieldType} {z : Nat} (ty0 : Nat → FieldType) (hty : ∀ k, k < N → parseFieldDescriptor (T k).2.2.1 = some (ty0 k)) (hnm : ∀ a, a < N → ∀ b, b < N → a ≠ b → (T a).2.1 ≠ (T b).2.1) (hnd : va_nd codes = true) (fk : Nat) (hq : codes[q0]? = some j) (hm : ∀ f, mk j f = .inr (ci, F f)) (hc : cl[ci]? = some (C, T, N)) (hin : ∀ w ∈ u_ws C T N, w ∈ lw_all) (hk : fk < N) (w1 : Cond.fieldLinkNest own ix (T fk).1 (T fk).2.1 (T fk).2.2.1 host ∈ lw_tbl) (hfin : (T fk).2.2.2 = false) (hd : parseFieldDescriptor (T fk).2.2.1 = some ty) (hn : narrow ty v = v) (hfit : fits ty v = true) (hl : fk < (F (τ j)).length) (hv : (F (τ j)).set fk v = F (upn (τ j) fk z)) (hdg : decode cc pc = .ok (.putfield ix, 3))
    (g : G p l e R s m args below meth c Q D cl A nL (cW ad mk codes (upc τ j fk z)) k n (pc + 3) L st) : G p l e R s m args below meth c Q D cl A nL (cW ad mk codes τ) k n pc L (v :: .ref (ad j) :: st) := by
  intro H locs ls hP hD hS hll
  have he : (cW ad mk codes τ)[q0]? = some (ad j, .inr (ci, F (τ j))) := by rw [cW_get hq, hm]
  refine va_putN (D := D) (ci := ci) (v := v) (ty := ty) (C := C) (T := T) (N := N) C0.x C0.b C0.ts hin ty0 hty hnm C0.ow C0.K hP hD hS q0 he hc fk hk (hN.use w1 rfl) (fun _ h9 => h9) hfin hd hn hfit hl hdg (fun H1 locs1 hP1 hD1 hS1 => ?_)
  have e1 : (cW ad mk codes τ).set q0 (ad j, .inr (ci, (F (τ j)).set fk v)) = cW ad mk codes (upc τ j fk z) := by
    rw [hv, ← hm, cW_set hnd hq]; rfl
  rw [e1] at hP1 hD1
  exact g H1 locs1 ls hP1 hD1 hS1 hll
end XCalls
