/-! invokevirtual by the receiver's class: inherited and overriding methods -/
set_option maxRecDepth 100000
theorem lw_ws {y : MethodName} {b : ByteArray} {L : Nat} {r : Option FieldType} (h : Cond.code y b L r ∈ lw_all) : ∀ w ∈ ws_ y b L r, w ∈ lw_all := by
  intro w hw
  rcases List.mem_cons.mp hw with h1 | h1
  · rw [h1]; exact h
  · exact h1
section XVirt
variable {p : Program} {l : Launch} {e : Env} {R : Room} {s : State} {m : MethodId} {args : Array Value} {below : List Frame} {meth : Method} {c : Code} {Q : State → Prop} {D : va_G} {cl : List vw_C} {tys : List (ClassId × FieldType)} {nL : Nat} {cc : ByteArray} {own : String} {ro : Option FieldType} {k n pc : Nat} {L : List (Option Value)} {ad : Nat → Nat} {mk : Nat → (Nat → Nat) → va_E} {codes : List Nat} {τ : tT}
  {x y : MethodName} {bytes : ByteArray} {maxL : Nat} {ret : FieldType} {rm : Room} {C : String} {T : u_T} {N ci ix q0 j na : Nat} {fs As rest stk : List Value}
theorem lw_cwU {r : Option FieldType} (ht : ∀ w ∈ lw_all, w.before args s = true) (w1 : Cond.methodLink own ix x ∈ lw_all) (w2 : Cond.sameMethod x.cls x.cls x.name x.desc ∈ lw_all) (w3 : Cond.selects C x x ∈ lw_all) (w4 : Cond.instanceMethod x ∈ lw_all) (w5 : Cond.initialized x.cls ∈ lw_all) (w6 : Cond.code x bytes maxL r ∈ lw_all) (hrc : rm.cells = 0) (hrs : rm.slots = 0)
    (hd : x.cls ≠ "java/lang/invoke/MethodHandle" ∧ x.cls ≠ "java/lang/invoke/VarHandle" ∧ (parseMethodDescriptor x.desc).map (fun d => d.parameters.length) = some na) (hR : rm.frames + 1 ≤ R.frames ∧ 8 + (maxL + 11) + rm.locals ≤ R.locals) : va_CU R s args own C x.cls ix x x bytes maxL r (ws_ x bytes maxL r) rm 0 0 na :=
  va_cwU na ht (lw_good (fun w hw => by
    rcases List.mem_append.mp hw with h | h
    · simp only [List.mem_cons, List.not_mem_nil, or_false] at h
      rcases h with h | h | h | h | h <;> (rw [h]; assumption)
    · exact lw_ws w6 w h)) rfl hrc hrs rfl hd hR
theorem lw_cwO {r r0 : Option FieldType} {b0 : ByteArray} {m0 : Nat} (ht : ∀ w ∈ lw_all, w.before args s = true) (w1 : Cond.methodLink own ix x ∈ lw_all) (w2 : Cond.sameMethod x.cls x.cls x.name x.desc ∈ lw_all) (w0 : Cond.instanceMethod x ∈ lw_all) (w3 : Cond.selects C x y ∈ lw_all) (w4 : Cond.instanceMethod y ∈ lw_all) (w5 : Cond.initialized y.cls ∈ lw_all) (w6 : Cond.code y bytes maxL r ∈ lw_all) (w7 : Cond.code x b0 m0 r0 ∈ lw_all) (hrc : rm.cells = 0) (hrs : rm.slots = 0)
    (hd : x.cls ≠ "java/lang/invoke/MethodHandle" ∧ x.cls ≠ "java/lang/invoke/VarHandle" ∧ (parseMethodDescriptor x.desc).map (fun d => d.parameters.length) = some na) (hR : rm.frames + 1 ≤ R.frames ∧ 8 + (maxL + 11) + rm.locals ≤ R.locals) : va_CU R s args own C x.cls ix x y bytes maxL r (ws_ y bytes maxL r) rm 0 0 na :=
  va_cwO na ht (lw_good (fun w hw => by
    rcases List.mem_append.mp hw with h | h
    · simp only [List.mem_cons, List.not_mem_nil, or_false] at h
      rcases h with h | h | h | h | h | h <;> (rw [h]; assumption)
    · exact lw_ws w6 w h)) rfl hrc hrs w7 hd hR
/-- invokevirtual x on a receiver of class C, that runs y: an int or boolean answer -/
theorem g_cui {post : Int32 → tT → Prop} (C0 : gC p s m args meth c D cl tys (cA ad codes s.heap.size) nL cc own ro) (hM : CI l y bytes maxL ret rm D cl tys ad mk codes (.ref (ad j) :: As) τ post) (hq : codes[q0]? = some j) (hm : mk j (τ j) = .inr (ci, fs)) (hc : cl[ci]? = some (C, T, N))
    (cw : va_CU R s args own C x.cls ix x y bytes maxL (some ret) (ws_ y bytes maxL (some ret)) rm 0 0 na) (hkn : k ≤ R.cells ∧ n ≤ R.slots)
    (hna : As.length = na) (hst : stk = As.reverse ++ .ref (ad j) :: rest) (hW : (rest.map fun v => v.category).sum ≤ 8) (hdg : decode cc pc = .ok (.invokevirtual ix, 3))
    (g : ∀ (r : Int32) (τ' : tT), post r τ' → G p l e R s m args below meth c Q D cl (cA ad codes s.heap.size) nL (cW ad mk codes τ') k n (pc + 3) L (.int r :: rest)) : G p l e R s m args below meth c Q D cl (cA ad codes s.heap.size) nL (cW ad mk codes τ) k n pc L stk := by
  intro H locs ls hP hD hS hl
  have he : (cW ad mk codes τ)[q0]? = some (ad j, .inr (ci, fs)) := by rw [cW_get hq, hm]
  refine va_calli (va_runU (As := As) (rest := rest) (C := C) (b := ad j) ⟨C0.x, C0.b, C0.ml, C0.ow, C0.ts⟩ (hM H.size) cw ⟨cBlind, va_recv C0.K hP hc he, cPre C0.K hP hD⟩ rfl hna hl.1 hst (lv_room hW) hdg ⟨hkn.1, hkn.2⟩) hS (fun q _ h => cA_mono hS.1 q h) (fun q h => cA_mono hS.1 q h) (fun r τ' t H1 locs1 ht hvm hpost hB hz hk1 hS1 => ?_)
  obtain ⟨hP1, hK1, hD1⟩ := hB
  rw [ht] at hP1
  exact g r τ' hpost H1 locs1 ls hP1 (hD1.weaken (fun _ _ _ h => cA_mono hS.1 _ h)) hS1 hl
end XVirt
