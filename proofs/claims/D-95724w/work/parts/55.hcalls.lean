/-! calls over list worlds; frozen Strings; rows for texts -/
set_option maxRecDepth 100000
theorem hPre {s : State} {D : va_G} {dT : Nat → ClassId} {A : Nat → Prop} {kk : (Nat → Nat) × (Nat → Nat)} {av : List Value} {w : va_W} {H : Heap} {locs : List Loc} (hE : EZ dT kk A s s.heap) (hK : va_K D clA (tyA dT) s) (hP : va_P D clA w H) (hD : va_D A w) (hS : va_S A s.heap H locs) (hA : ∀ q, s.heap.size ≤ q → A q) : ∀ U : State, U.heap = H → s.WarmedH U.vm → hPc D dT kk av w H.size av.toArray U :=
  fun U hU hW => ⟨rfl, ⟨by rw [hU], by rw [hU]; exact hP, va_K.moved hW.alike hK, hD.weaken (fun _ _ _ _ => trivial)⟩, by
    rw [hU]
    refine ((hE.kept hS.2.1).narrow (fun q hq => ?_)).warm hW
    rcases va_A_iff.mp hq with ⟨e, he, rfl⟩ | h
    · exact (va_D_pw.mp hD).2 e he
    · exact hA q (Nat.le_trans hS.1 h)⟩
theorem hA_in {A : Nat → Prop} {w : va_W} {H0 H : Heap} {locs : List Loc} (hD : va_D A w) (hS : va_S A H0 H locs) (hA : ∀ q, H0.size ≤ q → A q) : ∀ q, va_A w H.size q → A q := fun q hq => by
  rcases va_A_iff.mp hq with ⟨e, he, rfl⟩ | h
  · exact (va_D_pw.mp hD).2 e he
  · exact hA q (Nat.le_trans hS.1 h)
theorem lw_cwU2 {R : Room} {s : State} {args : Array Value} {own C : String} {ix maxL na mc ms : Nat} {x : MethodName} {bytes : ByteArray} {rm : Room} {r : Option FieldType} (ht : ∀ w ∈ lw_all, w.before args s = true) (w1 : Cond.methodLink own ix x ∈ lw_all) (w2 : Cond.sameMethod x.cls x.cls x.name x.desc ∈ lw_all) (w3 : Cond.selects C x x ∈ lw_all) (w4 : Cond.instanceMethod x ∈ lw_all) (w5 : Cond.initialized x.cls ∈ lw_all) (w6 : Cond.code x bytes maxL r ∈ lw_all) (hrc : rm.cells = mc) (hrs : rm.slots = ms)
    (hd : x.cls ≠ "java/lang/invoke/MethodHandle" ∧ x.cls ≠ "java/lang/invoke/VarHandle" ∧ (parseMethodDescriptor x.desc).map (fun d => d.parameters.length) = some na) (hR : rm.frames + 1 ≤ R.frames ∧ 8 + (maxL + 11) + rm.locals ≤ R.locals) : va_CU R s args own C x.cls ix x x bytes maxL r (ws_ x bytes maxL r) rm mc ms na :=
  va_cwU na ht (lw_good (fun w hw => by
    rcases List.mem_append.mp hw with h | h
    · simp only [List.mem_cons, List.not_mem_nil, or_false] at h
      rcases h with h | h | h | h | h <;> (rw [h]; assumption)
    · exact lw_ws w6 w h)) rfl hrc hrs rfl hd hR
theorem lw_cwSU {R : Room} {s : State} {args : Array Value} {own : String} {ix maxL na mc ms : Nat} {y : MethodName} {bytes : ByteArray} {rm : Room} {r : Option FieldType} (ht : ∀ w ∈ lw_all, w.before args s = true) (w1 : Cond.methodLink own ix y ∈ lw_all) (w2 : Cond.sameMethod y.cls y.cls y.name y.desc ∈ lw_all) (w3 : Cond.superclass own y.cls ∈ lw_all) (w4 : Cond.instanceMethod y ∈ lw_all) (w5 : Cond.initialized y.cls ∈ lw_all) (w6 : Cond.code y bytes maxL r ∈ lw_all) (hrc : rm.cells = mc) (hrs : rm.slots = ms)
    (hd : y.name ≠ "<init>" ∧ (parseMethodDescriptor y.desc).map (fun d => d.parameters.length) = some na) (hR : rm.frames + 1 ≤ R.frames ∧ 8 + (maxL + 11) + rm.locals ≤ R.locals) : va_CS R s args own ix y bytes maxL r (ws_ y bytes maxL r) rm mc ms na :=
  va_cwSU na ht (lw_good (fun w hw => by
    rcases List.mem_append.mp hw with h | h
    · simp only [List.mem_cons, List.not_mem_nil, or_false] at h
      rcases h with h | h | h | h | h <;> (rw [h]; assumption)
    · exact lw_ws w6 w h)) rfl hrc hrs hd hR
section HCalls
variable {p : Program} {l : Launch} {e : Env} {R : Room} {s : State} {m : MethodId} {args : Array Value} {below : List Frame} {meth : Method} {c : Code} {Q : State → Prop} {D : va_G} {dT : Nat → ClassId} {A : Nat → Prop} {nL : Nat} {cc : ByteArray} {own : String} {ro : Option FieldType} {ws : va_W} {k n pc : Nat} {L : List (Option Value)} {st : List Value} {kk : (Nat → Nat) × (Nat → Nat)} {y : MethodName} {bytes : ByteArray} {maxL : Nat} {rm : Room} {C : String} {T : u_T} {N ci ix q0 a na mc ms : Nat} {fs As rest stk : List Value}
theorem h_cvi {S : Type} {wf : S → va_W} {post : Int32 → S → Prop} {rt : FieldType} (C0 : gC p s m args meth c D clA (tyA dT) A nL cc own ro) (hE : EZ dT kk A s s.heap) (hM : HC l y bytes maxL (some rt) rm D dT kk (.ref a :: As) ws (hQi D dT wf post) mc ms) (he : ws[q0]? = some (a, .inr (ci, fs))) (hc : clA[ci]? = some (C, T, N)) (w1 : Cond.methodLink own ix y ∈ lw_all) (w2 : Cond.instanceMethod y ∈ lw_all) (w3 : Cond.selects C y y ∈ lw_all) (w4 : Cond.initialized C ∈ lw_all) (w5 : Cond.code y bytes maxL (some rt) ∈ lw_all) (hd : y.cls = C ∧ y.cls ≠ "java/lang/invoke/MethodHandle" ∧ y.cls ≠ "java/lang/invoke/VarHandle" ∧ (parseMethodDescriptor y.desc).map (fun d => d.parameters.length) = some na) (hR : rm.frames + 1 ≤ R.frames ∧ 8 + (maxL + 11) + rm.locals ≤ R.locals) (hrc : rm.cells = mc) (hrs : rm.slots = ms) (hkn : k + mc ≤ R.cells ∧ n + ms ≤ R.slots)
    (hna : As.length = na) (hst : stk = As.reverse ++ .ref a :: rest) (hW : (rest.map fun v => v.category).sum ≤ 8) (hdg : decode cc pc = .ok (.invokevirtual ix, 3))
    (g : ∀ (r : Int32) (u : S), post r u → G p l e R s m args below meth c Q D clA A nL (wf u) (k + mc) (n + ms) (pc + 3) L (.int r :: rest)) : G p l e R s m args below meth c Q D clA A nL ws k n pc L stk := by
  intro H locs ls hP hD hS hl
  refine va_calli (va_runV (As := As) (rest := rest) (C := C) (b := a) ⟨C0.x, C0.b, C0.ml, C0.ow, C0.ts⟩ (hM H.size) (cwV na C0.ts (lw_V w1 w2 w3 w4 w5) rfl hrc hrs hd hR) ⟨hBlind, va_recv C0.K hP hc he, hPre hE C0.K hP hD hS C0.al⟩ rfl hna hl.1 hst (lv_room hW) hdg ⟨hkn.1, hkn.2⟩) hS (fun q _ h => hA_in hD hS C0.al q h) (fun q h => hA_in hD hS C0.al q h) (fun r u t H1 locs1 ht hvm hpost hBB hz hk1 hS1 => ?_)
  obtain ⟨hP1, hK1, hD1⟩ := hBB
  rw [ht] at hP1
  exact g r u hpost H1 locs1 ls hP1 (hD1.weaken (fun _ _ _ h => hA_in hD hS C0.al _ h)) hS1 hl
theorem h_cui {S : Type} {wf : S → va_W} {post : Int32 → S → Prop} {rt : FieldType} (C0 : gC p s m args meth c D clA (tyA dT) A nL cc own ro) (hE : EZ dT kk A s s.heap) (hM : HC l y bytes maxL (some rt) rm D dT kk (.ref a :: As) ws (hQi D dT wf post) mc ms) (he : ws[q0]? = some (a, .inr (ci, fs))) (hc : clA[ci]? = some (C, T, N)) (w1 : Cond.methodLink own ix y ∈ lw_all) (w2 : Cond.sameMethod y.cls y.cls y.name y.desc ∈ lw_all) (w3 : Cond.selects C y y ∈ lw_all) (w4 : Cond.instanceMethod y ∈ lw_all) (w5 : Cond.initialized y.cls ∈ lw_all) (w6 : Cond.code y bytes maxL (some rt) ∈ lw_all) (hd : y.cls ≠ "java/lang/invoke/MethodHandle" ∧ y.cls ≠ "java/lang/invoke/VarHandle" ∧ (parseMethodDescriptor y.desc).map (fun d => d.parameters.length) = some na) (hR : rm.frames + 1 ≤ R.frames ∧ 8 + (maxL + 11) + rm.locals ≤ R.locals) (hrc : rm.cells = mc) (hrs : rm.slots = ms) (hkn : k + mc ≤ R.cells ∧ n + ms ≤ R.slots)
    (hna : As.length = na) (hst : stk = As.reverse ++ .ref a :: rest) (hW : (rest.map fun v => v.category).sum ≤ 8) (hdg : decode cc pc = .ok (.invokevirtual ix, 3))
    (g : ∀ (r : Int32) (u : S), post r u → G p l e R s m args below meth c Q D clA A nL (wf u) (k + mc) (n + ms) (pc + 3) L (.int r :: rest)) : G p l e R s m args below meth c Q D clA A nL ws k n pc L stk := by
  intro H locs ls hP hD hS hl
  refine va_calli (va_runU (As := As) (rest := rest) (C := C) (b := a) ⟨C0.x, C0.b, C0.ml, C0.ow, C0.ts⟩ (hM H.size) (lw_cwU2 C0.ts w1 w2 w3 w4 w5 w6 hrc hrs hd hR) ⟨hBlind, va_recv C0.K hP hc he, hPre hE C0.K hP hD hS C0.al⟩ rfl hna hl.1 hst (lv_room hW) hdg ⟨hkn.1, hkn.2⟩) hS (fun q _ h => hA_in hD hS C0.al q h) (fun q h => hA_in hD hS C0.al q h) (fun r u t H1 locs1 ht hvm hpost hBB hz hk1 hS1 => ?_)
  obtain ⟨hP1, hK1, hD1⟩ := hBB
  rw [ht] at hP1
  exact g r u hpost H1 locs1 ls hP1 (hD1.weaken (fun _ _ _ h => hA_in hD hS C0.al _ h)) hS1 hl
theorem h_csi {S : Type} {wf : S → va_W} {post : Int32 → S → Prop} {rt : FieldType} (C0 : gC p s m args meth c D clA (tyA dT) A nL cc own ro) (hE : EZ dT kk A s s.heap) (hM : HC l y bytes maxL (some rt) rm D dT kk As ws (hQi D dT wf post) mc ms) (w1 : Cond.methodLink own ix y ∈ lw_all) (w2 : Cond.static y ∈ lw_all) (w3 : Cond.initialized y.cls ∈ lw_all) (w4 : Cond.code y bytes maxL (some rt) ∈ lw_all) (hd : y.cls ≠ "java/lang/invoke/MethodHandle" ∧ y.cls ≠ "java/lang/invoke/VarHandle" ∧ (parseMethodDescriptor y.desc).map (fun d => d.parameters.length) = some na) (hR : rm.frames + 1 ≤ R.frames ∧ 8 + (maxL + 11) + rm.locals ≤ R.locals) (hrc : rm.cells = mc) (hrs : rm.slots = ms) (hkn : k + mc ≤ R.cells ∧ n + ms ≤ R.slots)
    (hna : As.length = na) (hst : stk = As.reverse ++ rest) (hW : (rest.map fun v => v.category).sum ≤ 8) (hdg : decode cc pc = .ok (.invokestatic ix, 3))
    (g : ∀ (r : Int32) (u : S), post r u → G p l e R s m args below meth c Q D clA A nL (wf u) (k + mc) (n + ms) (pc + 3) L (.int r :: rest)) : G p l e R s m args below meth c Q D clA A nL ws k n pc L stk := by
  intro H locs ls hP hD hS hl
  refine va_calli (va_runS (As := As) (rest := rest) ⟨C0.x, C0.b, C0.ml, C0.ow, C0.ts⟩ (hM H.size) (va_cwS na C0.ts (lw_S w1 w2 w3 w4) rfl hrc hrs hd hR) ⟨hBlind, hPre hE C0.K hP hD hS C0.al⟩ rfl hna hl.1 hst (lv_room hW) hdg ⟨hkn.1, hkn.2⟩) hS (fun q _ h => hA_in hD hS C0.al q h) (fun q h => hA_in hD hS C0.al q h) (fun r u t H1 locs1 ht hvm hpost hBB hz hk1 hS1 => ?_)
  obtain ⟨hP1, hK1, hD1⟩ := hBB
  rw [ht] at hP1
  exact g r u hpost H1 locs1 ls hP1 (hD1.weaken (fun _ _ _ h => hA_in hD hS C0.al _ h)) hS1 hl
theorem h_cvv {S : Type} {wf : S → va_W} {post : S → Prop} (C0 : gC p s m args meth c D clA (tyA dT) A nL cc own ro) (hE : EZ dT kk A s s.heap) (hM : HC l y bytes maxL none rm D dT kk (.ref a :: As) ws (hQv D dT wf post) mc ms) (he : ws[q0]? = some (a, .inr (ci, fs))) (hc : clA[ci]? = some (C, T, N)) (w1 : Cond.methodLink own ix y ∈ lw_all) (w2 : Cond.instanceMethod y ∈ lw_all) (w3 : Cond.selects C y y ∈ lw_all) (w4 : Cond.initialized C ∈ lw_all) (w5 : Cond.code y bytes maxL none ∈ lw_all) (hd : y.cls = C ∧ y.cls ≠ "java/lang/invoke/MethodHandle" ∧ y.cls ≠ "java/lang/invoke/VarHandle" ∧ (parseMethodDescriptor y.desc).map (fun d => d.parameters.length) = some na) (hR : rm.frames + 1 ≤ R.frames ∧ 8 + (maxL + 11) + rm.locals ≤ R.locals) (hrc : rm.cells = mc) (hrs : rm.slots = ms) (hkn : k + mc ≤ R.cells ∧ n + ms ≤ R.slots)
    (hna : As.length = na) (hst : stk = As.reverse ++ .ref a :: rest) (hW : (rest.map fun v => v.category).sum ≤ 8) (hdg : decode cc pc = .ok (.invokevirtual ix, 3))
    (g : ∀ (u : S), post u → G p l e R s m args below meth c Q D clA A nL (wf u) (k + mc) (n + ms) (pc + 3) L rest) : G p l e R s m args below meth c Q D clA A nL ws k n pc L stk := by
  intro H locs ls hP hD hS hl
  refine va_callv (va_runV (As := As) (rest := rest) (C := C) (b := a) ⟨C0.x, C0.b, C0.ml, C0.ow, C0.ts⟩ (hM H.size) (cwV na C0.ts (lw_V w1 w2 w3 w4 w5) rfl hrc hrs hd hR) ⟨hBlind, va_recv C0.K hP hc he, hPre hE C0.K hP hD hS C0.al⟩ rfl hna hl.1 hst (lv_room hW) hdg ⟨hkn.1, hkn.2⟩) hS (fun q _ h => hA_in hD hS C0.al q h) (fun q h => hA_in hD hS C0.al q h) (fun u t H1 locs1 ht hvm hpost hBB hz hk1 hS1 => ?_)
  obtain ⟨hP1, hK1, hD1⟩ := hBB
  rw [ht] at hP1
  exact g u hpost H1 locs1 ls hP1 (hD1.weaken (fun _ _ _ h => hA_in hD hS C0.al _ h)) hS1 hl
theorem h_cuv {S : Type} {wf : S → va_W} {post : S → Prop} (C0 : gC p s m args meth c D clA (tyA dT) A nL cc own ro) (hE : EZ dT kk A s s.heap) (hM : HC l y bytes maxL none rm D dT kk (.ref a :: As) ws (hQv D dT wf post) mc ms) (he : ws[q0]? = some (a, .inr (ci, fs))) (hc : clA[ci]? = some (C, T, N)) (w1 : Cond.methodLink own ix y ∈ lw_all) (w2 : Cond.sameMethod y.cls y.cls y.name y.desc ∈ lw_all) (w3 : Cond.selects C y y ∈ lw_all) (w4 : Cond.instanceMethod y ∈ lw_all) (w5 : Cond.initialized y.cls ∈ lw_all) (w6 : Cond.code y bytes maxL none ∈ lw_all) (hd : y.cls ≠ "java/lang/invoke/MethodHandle" ∧ y.cls ≠ "java/lang/invoke/VarHandle" ∧ (parseMethodDescriptor y.desc).map (fun d => d.parameters.length) = some na) (hR : rm.frames + 1 ≤ R.frames ∧ 8 + (maxL + 11) + rm.locals ≤ R.locals) (hrc : rm.cells = mc) (hrs : rm.slots = ms) (hkn : k + mc ≤ R.cells ∧ n + ms ≤ R.slots)
    (hna : As.length = na) (hst : stk = As.reverse ++ .ref a :: rest) (hW : (rest.map fun v => v.category).sum ≤ 8) (hdg : decode cc pc = .ok (.invokevirtual ix, 3))
    (g : ∀ (u : S), post u → G p l e R s m args below meth c Q D clA A nL (wf u) (k + mc) (n + ms) (pc + 3) L rest) : G p l e R s m args below meth c Q D clA A nL ws k n pc L stk := by
  intro H locs ls hP hD hS hl
  refine va_callv (va_runU (As := As) (rest := rest) (C := C) (b := a) ⟨C0.x, C0.b, C0.ml, C0.ow, C0.ts⟩ (hM H.size) (lw_cwU2 C0.ts w1 w2 w3 w4 w5 w6 hrc hrs hd hR) ⟨hBlind, va_recv C0.K hP hc he, hPre hE C0.K hP hD hS C0.al⟩ rfl hna hl.1 hst (lv_room hW) hdg ⟨hkn.1, hkn.2⟩) hS (fun q _ h => hA_in hD hS C0.al q h) (fun q h => hA_in hD hS C0.al q h) (fun u t H1 locs1 ht hvm hpost hBB hz hk1 hS1 => ?_)
  obtain ⟨hP1, hK1, hD1⟩ := hBB
  rw [ht] at hP1
  exact g u hpost H1 locs1 ls hP1 (hD1.weaken (fun _ _ _ h => hA_in hD hS C0.al _ h)) hS1 hl
theorem h_csv {S : Type} {wf : S → va_W} {post : S → Prop} (C0 : gC p s m args meth c D clA (tyA dT) A nL cc own ro) (hE : EZ dT kk A s s.heap) (hM : HC l y bytes maxL none rm D dT kk As ws (hQv D dT wf post) mc ms) (w1 : Cond.methodLink own ix y ∈ lw_all) (w2 : Cond.static y ∈ lw_all) (w3 : Cond.initialized y.cls ∈ lw_all) (w4 : Cond.code y bytes maxL none ∈ lw_all) (hd : y.cls ≠ "java/lang/invoke/MethodHandle" ∧ y.cls ≠ "java/lang/invoke/VarHandle" ∧ (parseMethodDescriptor y.desc).map (fun d => d.parameters.length) = some na) (hR : rm.frames + 1 ≤ R.frames ∧ 8 + (maxL + 11) + rm.locals ≤ R.locals) (hrc : rm.cells = mc) (hrs : rm.slots = ms) (hkn : k + mc ≤ R.cells ∧ n + ms ≤ R.slots)
    (hna : As.length = na) (hst : stk = As.reverse ++ rest) (hW : (rest.map fun v => v.category).sum ≤ 8) (hdg : decode cc pc = .ok (.invokestatic ix, 3))
    (g : ∀ (u : S), post u → G p l e R s m args below meth c Q D clA A nL (wf u) (k + mc) (n + ms) (pc + 3) L rest) : G p l e R s m args below meth c Q D clA A nL ws k n pc L stk := by
  intro H locs ls hP hD hS hl
  refine va_callv (va_runS (As := As) (rest := rest) ⟨C0.x, C0.b, C0.ml, C0.ow, C0.ts⟩ (hM H.size) (va_cwS na C0.ts (lw_S w1 w2 w3 w4) rfl hrc hrs hd hR) ⟨hBlind, hPre hE C0.K hP hD hS C0.al⟩ rfl hna hl.1 hst (lv_room hW) hdg ⟨hkn.1, hkn.2⟩) hS (fun q _ h => hA_in hD hS C0.al q h) (fun q h => hA_in hD hS C0.al q h) (fun u t H1 locs1 ht hvm hpost hBB hz hk1 hS1 => ?_)
  obtain ⟨hP1, hK1, hD1⟩ := hBB
  rw [ht] at hP1
  exact g u hpost H1 locs1 ls hP1 (hD1.weaken (fun _ _ _ h => hA_in hD hS C0.al _ h)) hS1 hl
theorem h_cvr {S : Type} {wf : S → Nat → va_W} {post : S → Nat → Prop} {rt : FieldType} (C0 : gC p s m args meth c D clA (tyA dT) A nL cc own ro) (hE : EZ dT kk A s s.heap) (hM : HC l y bytes maxL (some rt) rm D dT kk (.ref a :: As) ws (hQr D dT wf post) mc ms) (he : ws[q0]? = some (a, .inr (ci, fs))) (hc : clA[ci]? = some (C, T, N)) (w1 : Cond.methodLink own ix y ∈ lw_all) (w2 : Cond.instanceMethod y ∈ lw_all) (w3 : Cond.selects C y y ∈ lw_all) (w4 : Cond.initialized C ∈ lw_all) (w5 : Cond.code y bytes maxL (some rt) ∈ lw_all) (hd : y.cls = C ∧ y.cls ≠ "java/lang/invoke/MethodHandle" ∧ y.cls ≠ "java/lang/invoke/VarHandle" ∧ (parseMethodDescriptor y.desc).map (fun d => d.parameters.length) = some na) (hR : rm.frames + 1 ≤ R.frames ∧ 8 + (maxL + 11) + rm.locals ≤ R.locals) (hrc : rm.cells = mc) (hrs : rm.slots = ms) (hkn : k + mc ≤ R.cells ∧ n + ms ≤ R.slots)
    (hna : As.length = na) (hst : stk = As.reverse ++ .ref a :: rest) (hW : (rest.map fun v => v.category).sum ≤ 8) (hdg : decode cc pc = .ok (.invokevirtual ix, 3))
    (g : ∀ (u : S) (r : Nat), post u r → G p l e R s m args below meth c Q D clA A nL (wf u r) (k + mc) (n + ms) (pc + 3) L (.ref r :: rest)) : G p l e R s m args below meth c Q D clA A nL ws k n pc L stk := by
  intro H locs ls hP hD hS hl
  refine va_callr (va_runV (As := As) (rest := rest) (C := C) (b := a) ⟨C0.x, C0.b, C0.ml, C0.ow, C0.ts⟩ (hM H.size) (cwV na C0.ts (lw_V w1 w2 w3 w4 w5) rfl hrc hrs hd hR) ⟨hBlind, va_recv C0.K hP hc he, hPre hE C0.K hP hD hS C0.al⟩ rfl hna hl.1 hst (lv_room hW) hdg ⟨hkn.1, hkn.2⟩) hS (fun q _ h => hA_in hD hS C0.al q h) (fun q h => hA_in hD hS C0.al q h) (fun u r t H1 locs1 ht hvm _ hBB hz hk1 hS1 => ?_)
  obtain ⟨hpost, hP1, hK1, hD1⟩ := hBB
  rw [ht] at hP1
  exact g u r hpost H1 locs1 ls hP1 (hD1.weaken (fun _ _ _ h => hA_in hD hS C0.al _ h)) hS1 hl
theorem h_cur {S : Type} {wf : S → Nat → va_W} {post : S → Nat → Prop} {rt : FieldType} (C0 : gC p s m args meth c D clA (tyA dT) A nL cc own ro) (hE : EZ dT kk A s s.heap) (hM : HC l y bytes maxL (some rt) rm D dT kk (.ref a :: As) ws (hQr D dT wf post) mc ms) (he : ws[q0]? = some (a, .inr (ci, fs))) (hc : clA[ci]? = some (C, T, N)) (w1 : Cond.methodLink own ix y ∈ lw_all) (w2 : Cond.sameMethod y.cls y.cls y.name y.desc ∈ lw_all) (w3 : Cond.selects C y y ∈ lw_all) (w4 : Cond.instanceMethod y ∈ lw_all) (w5 : Cond.initialized y.cls ∈ lw_all) (w6 : Cond.code y bytes maxL (some rt) ∈ lw_all) (hd : y.cls ≠ "java/lang/invoke/MethodHandle" ∧ y.cls ≠ "java/lang/invoke/VarHandle" ∧ (parseMethodDescriptor y.desc).map (fun d => d.parameters.length) = some na) (hR : rm.frames + 1 ≤ R.frames ∧ 8 + (maxL + 11) + rm.locals ≤ R.locals) (hrc : rm.cells = mc) (hrs : rm.slots = ms) (hkn : k + mc ≤ R.cells ∧ n + ms ≤ R.slots)
    (hna : As.length = na) (hst : stk = As.reverse ++ .ref a :: rest) (hW : (rest.map fun v => v.category).sum ≤ 8) (hdg : decode cc pc = .ok (.invokevirtual ix, 3))
    (g : ∀ (u : S) (r : Nat), post u r → G p l e R s m args below meth c Q D clA A nL (wf u r) (k + mc) (n + ms) (pc + 3) L (.ref r :: rest)) : G p l e R s m args below meth c Q D clA A nL ws k n pc L stk := by
  intro H locs ls hP hD hS hl
  refine va_callr (va_runU (As := As) (rest := rest) (C := C) (b := a) ⟨C0.x, C0.b, C0.ml, C0.ow, C0.ts⟩ (hM H.size) (lw_cwU2 C0.ts w1 w2 w3 w4 w5 w6 hrc hrs hd hR) ⟨hBlind, va_recv C0.K hP hc he, hPre hE C0.K hP hD hS C0.al⟩ rfl hna hl.1 hst (lv_room hW) hdg ⟨hkn.1, hkn.2⟩) hS (fun q _ h => hA_in hD hS C0.al q h) (fun q h => hA_in hD hS C0.al q h) (fun u r t H1 locs1 ht hvm _ hBB hz hk1 hS1 => ?_)
  obtain ⟨hpost, hP1, hK1, hD1⟩ := hBB
  rw [ht] at hP1
  exact g u r hpost H1 locs1 ls hP1 (hD1.weaken (fun _ _ _ h => hA_in hD hS C0.al _ h)) hS1 hl
theorem h_csr {S : Type} {wf : S → Nat → va_W} {post : S → Nat → Prop} {rt : FieldType} (C0 : gC p s m args meth c D clA (tyA dT) A nL cc own ro) (hE : EZ dT kk A s s.heap) (hM : HC l y bytes maxL (some rt) rm D dT kk As ws (hQr D dT wf post) mc ms) (w1 : Cond.methodLink own ix y ∈ lw_all) (w2 : Cond.static y ∈ lw_all) (w3 : Cond.initialized y.cls ∈ lw_all) (w4 : Cond.code y bytes maxL (some rt) ∈ lw_all) (hd : y.cls ≠ "java/lang/invoke/MethodHandle" ∧ y.cls ≠ "java/lang/invoke/VarHandle" ∧ (parseMethodDescriptor y.desc).map (fun d => d.parameters.length) = some na) (hR : rm.frames + 1 ≤ R.frames ∧ 8 + (maxL + 11) + rm.locals ≤ R.locals) (hrc : rm.cells = mc) (hrs : rm.slots = ms) (hkn : k + mc ≤ R.cells ∧ n + ms ≤ R.slots)
    (hna : As.length = na) (hst : stk = As.reverse ++ rest) (hW : (rest.map fun v => v.category).sum ≤ 8) (hdg : decode cc pc = .ok (.invokestatic ix, 3))
    (g : ∀ (u : S) (r : Nat), post u r → G p l e R s m args below meth c Q D clA A nL (wf u r) (k + mc) (n + ms) (pc + 3) L (.ref r :: rest)) : G p l e R s m args below meth c Q D clA A nL ws k n pc L stk := by
  intro H locs ls hP hD hS hl
  refine va_callr (va_runS (As := As) (rest := rest) ⟨C0.x, C0.b, C0.ml, C0.ow, C0.ts⟩ (hM H.size) (va_cwS na C0.ts (lw_S w1 w2 w3 w4) rfl hrc hrs hd hR) ⟨hBlind, hPre hE C0.K hP hD hS C0.al⟩ rfl hna hl.1 hst (lv_room hW) hdg ⟨hkn.1, hkn.2⟩) hS (fun q _ h => hA_in hD hS C0.al q h) (fun q h => hA_in hD hS C0.al q h) (fun u r t H1 locs1 ht hvm _ hBB hz hk1 hS1 => ?_)
  obtain ⟨hpost, hP1, hK1, hD1⟩ := hBB
  rw [ht] at hP1
  exact g u r hpost H1 locs1 ls hP1 (hD1.weaken (fun _ _ _ h => hA_in hD hS C0.al _ h)) hS1 hl
theorem h_ci {S : Type} {wf : S → va_W} {post : S → Prop} (C0 : gC p s m args meth c D clA (tyA dT) A nL cc own ro) (hE : EZ dT kk A s s.heap) (hM : HC l y bytes maxL none rm D dT kk (.ref a :: As) ws (hQv D dT wf post) mc ms) (w1 : Cond.methodLink own ix y ∈ lw_all) (w2 : Cond.instanceMethod y ∈ lw_all) (w3 : Cond.initialized y.cls ∈ lw_all) (w4 : Cond.code y bytes maxL none ∈ lw_all) (hy1 : y.name = "<init>") (hd : y.cls ≠ "java/lang/invoke/MethodHandle" ∧ y.cls ≠ "java/lang/invoke/VarHandle" ∧ (parseMethodDescriptor y.desc).map (fun d => d.parameters.length) = some na) (hR : rm.frames + 1 ≤ R.frames ∧ 8 + (maxL + 11) + rm.locals ≤ R.locals) (hrc : rm.cells = mc) (hrs : rm.slots = ms) (hkn : k + mc ≤ R.cells ∧ n + ms ≤ R.slots)
    (hna : As.length = na) (hst : stk = As.reverse ++ .ref a :: rest) (hW : (rest.map fun v => v.category).sum ≤ 8) (hdg : decode cc pc = .ok (.invokespecial ix, 3))
    (g : ∀ (u : S), post u → G p l e R s m args below meth c Q D clA A nL (wf u) (k + mc) (n + ms) (pc + 3) L rest) : G p l e R s m args below meth c Q D clA A nL ws k n pc L stk := by
  intro H locs ls hP hD hS hl
  refine va_callv (va_runI (As := As) (rest := rest) (b := a) ⟨C0.x, C0.b, C0.ml, C0.ow, C0.ts⟩ (hM H.size) (cwI na C0.ts (lw_meth w4) rfl hrc hrs (C0.ts _ w3) (C0.ts _ w1) (C0.ts _ w2) hy1 hd hR) ⟨hBlind, hPre hE C0.K hP hD hS C0.al⟩ rfl hna hl.1 hst (lv_room hW) hdg ⟨hkn.1, hkn.2⟩) hS (fun q _ h => hA_in hD hS C0.al q h) (fun q h => hA_in hD hS C0.al q h) (fun u t H1 locs1 ht hvm hpost hBB hz hk1 hS1 => ?_)
  obtain ⟨hP1, hK1, hD1⟩ := hBB
  rw [ht] at hP1
  exact g u hpost H1 locs1 ls hP1 (hD1.weaken (fun _ _ _ h => hA_in hD hS C0.al _ h)) hS1 hl
theorem h_ciN {S : Type} {wf : S → va_W} {post : S → Prop} (C0 : gC p s m args meth c D clA (tyA dT) A nL cc own ro) (hE : EZ dT kk A s s.heap) (hM : HC l y bytes maxL none rm D dT kk (.ref a :: As) ws (hQv D dT wf post) mc ms) {host : String} (w1 : Cond.methodLinkNest own ix y host ∈ lw_tbl) (w2 : Cond.instanceMethod y ∈ lw_all) (w3 : Cond.initialized y.cls ∈ lw_all) (w4 : Cond.code y bytes maxL none ∈ lw_all) (hy1 : y.name = "<init>") (hd : y.cls ≠ "java/lang/invoke/MethodHandle" ∧ y.cls ≠ "java/lang/invoke/VarHandle" ∧ (parseMethodDescriptor y.desc).map (fun d => d.parameters.length) = some na) (hR : rm.frames + 1 ≤ R.frames ∧ 8 + (maxL + 11) + rm.locals ≤ R.locals) (hrc : rm.cells = mc) (hrs : rm.slots = ms) (hkn : k + mc ≤ R.cells ∧ n + ms ≤ R.slots)
    (hna : As.length = na) (hst : stk = As.reverse ++ .ref a :: rest) (hW : (rest.map fun v => v.category).sum ≤ 8) (hdg : decode cc pc = .ok (.invokespecial ix, 3))
    (g : ∀ (u : S), post u → G p l e R s m args below meth c Q D clA A nL (wf u) (k + mc) (n + ms) (pc + 3) L rest) : G p l e R s m args below meth c Q D clA A nL ws k n pc L stk := by
  intro H locs ls hP hD hS hl
  refine va_callv (va_runIN (host := host) (As := As) (rest := rest) (b := a) ⟨C0.x, C0.b, C0.ml, C0.ow, C0.ts⟩ (hM H.size) ⟨va_cnB na C0.ts (lw_meth w4) rfl hrc hrs (hE.nw _ w1 rfl) (C0.ts _ w3) hd hR, hy1, C0.ts _ w2⟩ ⟨hBlind, hPre hE C0.K hP hD hS C0.al⟩ rfl hna hl.1 hst (lv_room hW) hdg ⟨hkn.1, hkn.2⟩) hS (fun q _ h => hA_in hD hS C0.al q h) (fun q h => hA_in hD hS C0.al q h) (fun u t H1 locs1 ht hvm hpost hBB hz hk1 hS1 => ?_)
  obtain ⟨hP1, hK1, hD1⟩ := hBB
  rw [ht] at hP1
  exact g u hpost H1 locs1 ls hP1 (hD1.weaken (fun _ _ _ h => hA_in hD hS C0.al _ h)) hS1 hl
theorem h_suR {S : Type} {wf : S → Nat → va_W} {post : S → Nat → Prop} {rt : FieldType} (C0 : gC p s m args meth c D clA (tyA dT) A nL cc own ro) (hE : EZ dT kk A s s.heap) (hM : HC l y bytes maxL (some rt) rm D dT kk (.ref a :: As) ws (hQr D dT wf post) mc ms) (he : ws[q0]? = some (a, .inr (ci, fs))) (hc : clA[ci]? = some (C, T, N)) (hca : ∃ cC, ClassAt s C cC) (w1 : Cond.methodLink own ix y ∈ lw_all) (w2 : Cond.sameMethod y.cls y.cls y.name y.desc ∈ lw_all) (w3 : Cond.superclass own y.cls ∈ lw_all) (w4 : Cond.instanceMethod y ∈ lw_all) (w5 : Cond.initialized y.cls ∈ lw_all) (w6 : Cond.code y bytes maxL (some rt) ∈ lw_all) (hd : y.name ≠ "<init>" ∧ (parseMethodDescriptor y.desc).map (fun d => d.parameters.length) = some na) (hR : rm.frames + 1 ≤ R.frames ∧ 8 + (maxL + 11) + rm.locals ≤ R.locals) (hrc : rm.cells = mc) (hrs : rm.slots = ms) (hkn : k + mc ≤ R.cells ∧ n + ms ≤ R.slots)
    (hna : As.length = na) (hst : stk = As.reverse ++ .ref a :: rest) (hW : (rest.map fun v => v.category).sum ≤ 8) (hdg : decode cc pc = .ok (.invokespecial ix, 3))
    (g : ∀ (u : S) (r : Nat), post u r → G p l e R s m args below meth c Q D clA A nL (wf u r) (k + mc) (n + ms) (pc + 3) L (.ref r :: rest)) : G p l e R s m args below meth c Q D clA A nL ws k n pc L stk := by
  intro H locs ls hP hD hS hl
  refine va_callr (va_runSU (As := As) (rest := rest) (C := C) (b := a) hca.choose_spec ⟨C0.x, C0.b, C0.ml, C0.ow, C0.ts⟩ (hM H.size) (lw_cwSU C0.ts w1 w2 w3 w4 w5 w6 hrc hrs hd hR) ⟨hBlind, va_recv C0.K hP hc he, hPre hE C0.K hP hD hS C0.al⟩ rfl hna hl.1 hst (lv_room hW) hdg ⟨hkn.1, hkn.2⟩) hS (fun q _ h => hA_in hD hS C0.al q h) (fun q h => hA_in hD hS C0.al q h) (fun u r t H1 locs1 ht hvm _ hBB hz hk1 hS1 => ?_)
  obtain ⟨hpost, hP1, hK1, hD1⟩ := hBB
  rw [ht] at hP1
  exact g u r hpost H1 locs1 ls hP1 (hD1.weaken (fun _ _ _ h => hA_in hD hS C0.al _ h)) hS1 hl
theorem h_suI {S : Type} {wf : S → va_W} {post : Int32 → S → Prop} {rt : FieldType} (C0 : gC p s m args meth c D clA (tyA dT) A nL cc own ro) (hE : EZ dT kk A s s.heap) (hM : HC l y bytes maxL (some rt) rm D dT kk (.ref a :: As) ws (hQi D dT wf post) mc ms) (he : ws[q0]? = some (a, .inr (ci, fs))) (hc : clA[ci]? = some (C, T, N)) (hca : ∃ cC, ClassAt s C cC) (w1 : Cond.methodLink own ix y ∈ lw_all) (w2 : Cond.sameMethod y.cls y.cls y.name y.desc ∈ lw_all) (w3 : Cond.superclass own y.cls ∈ lw_all) (w4 : Cond.instanceMethod y ∈ lw_all) (w5 : Cond.initialized y.cls ∈ lw_all) (w6 : Cond.code y bytes maxL (some rt) ∈ lw_all) (hd : y.name ≠ "<init>" ∧ (parseMethodDescriptor y.desc).map (fun d => d.parameters.length) = some na) (hR : rm.frames + 1 ≤ R.frames ∧ 8 + (maxL + 11) + rm.locals ≤ R.locals) (hrc : rm.cells = mc) (hrs : rm.slots = ms) (hkn : k + mc ≤ R.cells ∧ n + ms ≤ R.slots)
    (hna : As.length = na) (hst : stk = As.reverse ++ .ref a :: rest) (hW : (rest.map fun v => v.category).sum ≤ 8) (hdg : decode cc pc = .ok (.invokespecial ix, 3))
    (g : ∀ (r : Int32) (u : S), post r u → G p l e R s m args below meth c Q D clA A nL (wf u) (k + mc) (n + ms) (pc + 3) L (.int r :: rest)) : G p l e R s m args below meth c Q D clA A nL ws k n pc L stk := by
  intro H locs ls hP hD hS hl
  refine va_calli (va_runSU (As := As) (rest := rest) (C := C) (b := a) hca.choose_spec ⟨C0.x, C0.b, C0.ml, C0.ow, C0.ts⟩ (hM H.size) (lw_cwSU C0.ts w1 w2 w3 w4 w5 w6 hrc hrs hd hR) ⟨hBlind, va_recv C0.K hP hc he, hPre hE C0.K hP hD hS C0.al⟩ rfl hna hl.1 hst (lv_room hW) hdg ⟨hkn.1, hkn.2⟩) hS (fun q _ h => hA_in hD hS C0.al q h) (fun q h => hA_in hD hS C0.al q h) (fun r u t H1 locs1 ht hvm hpost hBB hz hk1 hS1 => ?_)
  obtain ⟨hP1, hK1, hD1⟩ := hBB
  rw [ht] at hP1
  exact g r u hpost H1 locs1 ls hP1 (hD1.weaken (fun _ _ _ h => hA_in hD hS C0.al _ h)) hS1 hl
end HCalls
section HT
variable {p : Program} {l : Launch} {e : Env} {R : Room} {s : State} {m : MethodId} {args : Array Value} {below : List Frame} {meth : Method} {c : Code} {Q : State → Prop} {D : va_G} {dT : Nat → ClassId} {A : Nat → Prop} {nL : Nat} {cc : ByteArray} {own : String} {ro : Option FieldType} {ws : va_W} {k n pc : Nat} {L : List (Option Value)} {st : List Value} {kk : (Nat → Nat) × (Nat → Nat)}
theorem h_cs (C0 : gC p s m args meth c D clA (tyA dT) A nL cc own ro) (hE : EZ dT kk A s s.heap) {ix : Nat} (w1 : Cond.fieldLink own ix "java/lang/String" "COMPACT_STRINGS" "Z" ∈ lw_all) (hdg : decode cc pc = .ok (.getstatic ix, 3)) (g : G p l e R s m args below meth c Q D clA A nL ws k n (pc + 3) L (.int (nI 1) :: st)) : G p l e R s m args below meth c Q D clA A nL ws k n pc L st := by
  intro H locs ls hP hD hS hl
  exact va_gets (v := .int (nI 1)) C0.x C0.b hE.cs hS C0.ow (C0.ts _ w1) (fun _ h9 => h9) hdg (g H locs ls hP hD hS hl)
theorem h_ldcS (C0 : gC p s m args meth c D clA (tyA dT) A nL cc own ro) (hE : EZ dT kk A s s.heap) {ix : Nat} (i : Nat) (hi : i < 6) (hix : sIx.getD i 0 = ix) (ho : own = "FittingStrides$Reader") (hdg : decode cc pc = .ok (.ldc ix, 2)) (g : G p l e R s m args below meth c Q D clA A nL ws k n (pc + 2) L (.ref (kk.1 i) :: st)) : G p l e R s m args below meth c Q D clA A nL ws k n pc L st := by
  intro H locs ls hP hD hS hl
  subst ho; subst hix
  exact va_ldcS C0.x C0.b C0.ow (hE.2.2.2.2.2.2.2 i hi) hdg (g H locs ls hP hD hS hl)
/-- System.arraycopy of bytes, from place 0 to place 0 -/
theorem h_copyB (C0 : gC p s m args meth c D clA (tyA dT) A nL cc own ro) {q0 q1 t0 n0 n1 ix a0 a1 : Nat} {dA : ClassId} {f h : Nat → Int32} {ws' : va_W} (N : Nat) (he0 : ws[q0]? = some (a0, .inl (dA, n0, .inl f))) (he1 : ws[q1]? = some (a1, .inl (dA, n1, .inl h))) (ht : (tyA dT)[t0]? = some (dA, .byte)) (hN : N < 2 ^ 31) (h0 : N ≤ n0) (h1 : N ≤ n1) (hfit : ∀ i, i < N → fits .byte (.int (f i)) = true) (hw : ws.set q1 (a1, .inl (dA, n1, .inl (va_cpy f h 0 0 N))) = ws')
    (w1 : Cond.methodLink own ix arraycopyName ∈ lw_all) (w2 : Cond.native arraycopyName ∈ lw_all) (w3 : Cond.static arraycopyName ∈ lw_all) (w4 : Cond.initialized "java/lang/System" ∈ lw_all) (hf : 1 ≤ R.frames) (hlo : (st.map fun v => v.category).sum + (nativeFrameWords "java/lang/System" "arraycopy" 5 + 11) ≤ R.locals) (hdg : decode cc pc = .ok (.invokestatic ix, 3))
    (g : G p l e R s m args below meth c Q D clA A nL ws' k n (pc + 3) L st) : G p l e R s m args below meth c Q D clA A nL ws k n pc L (.int (nI N) :: .int (nI 0) :: .ref a1 :: .int (nI 0) :: .ref a0 :: st) := by
  intro H locs ls hP hD hS hl
  subst hw
  have hz : (nI 0).toNatClampNeg = 0 := nI_clamp (by decide)
  have hn : (nI N).toNatClampNeg = N := nI_clamp hN
  refine va_copyi C0.x C0.b (by rw [C0.ml]; exact hl.1.symm) C0.ow (C0.ts _ w1) (C0.ts _ w2) (C0.ts _ w3) (C0.ts _ w4) C0.K hP hD hS q0 q1 t0 t0 he0 he1 ht ht rfl (nI_pos (by decide)) (nI_pos (by decide)) (nI_pos hN) (by rw [hz, hn]; omega) (by rw [hz, hn]; omega) (fun i hi => by rw [hn] at hi; rw [hz, Nat.zero_add]; exact hfit i hi) hf hlo hdg (fun H1 locs1 hP1 hD1 hS1 => ?_)
  rw [hz, hn] at hP1 hD1
  exact g H1 locs1 ls hP1 hD1 hS1 hl
/-- clone of a byte array -/
theorem h_clone (C0 : gC p s m args meth c D clA (tyA dT) A nL cc own ro) (hE : EZ dT kk A s s.heap) {q0 ix a : Nat} {f : Nat → Int32} {N : Nat} (he : ws[q0]? = some (a, .inl (dT 2, N, .inl f))) (hfit : ∀ i, i < N → fits .byte (.int (f i)) = true)
    (w1 : Cond.methodLink own ix ⟨"[B", "clone", "()Ljava/lang/Object;"⟩ ∈ lw_all) (w2 : Cond.sameMethod "[B" "java/lang/Object" "clone" "()Ljava/lang/Object;" ∈ lw_all) (w3 : Cond.native ⟨"java/lang/Object", "clone", "()Ljava/lang/Object;"⟩ ∈ lw_all) (w4 : Cond.instanceMethod ⟨"java/lang/Object", "clone", "()Ljava/lang/Object;"⟩ ∈ lw_all) (w5 : Cond.selects "[B" ⟨"[B", "clone", "()Ljava/lang/Object;"⟩ ⟨"java/lang/Object", "clone", "()Ljava/lang/Object;"⟩ ∈ lw_all)
    (hf : 1 ≤ R.frames) (hlo : (st.map fun v => v.category).sum + 14 ≤ R.locals) (hk : k + 1 ≤ R.cells ∧ n + N ≤ R.slots) (hdg : decode cc pc = .ok (.invokevirtual ix, 3))
    (g : ∀ q : Nat, G p l e R s m args below meth c Q D clA A nL (ws ++ [(q, .inl (dT 2, N, .inl f))]) (k + 1) (n + N) (pc + 3) L (.ref q :: st)) : G p l e R s m args below meth c Q D clA A nL ws k n pc L (.ref a :: st) := by
  intro H locs ls hP hD hS hl
  exact va_clone C0.x C0.b (by rw [C0.ml]; exact hl.1.symm) C0.ow (C0.ts _ w1) (C0.ts _ w2) (C0.ts _ w3) (C0.ts _ w4) (C0.ts _ w5) hE.2.2.1.1 C0.K hP hD hS C0.al q0 2 he rfl hE.fB (fun i v hv => by
    have hv : (arrV (dT 2) N (fun j => .int (f j))).slots[i]? = some v := hv
    by_cases hi : i < N
    · rw [arrV_read _ _ hi] at hv; cases hv; exact hfit i hi
    · rw [Array.getElem?_eq_none (by rw [arrV_size]; omega)] at hv; cases hv) hf hlo hk.1 hk.2 hdg (fun q H1 _ hP1 hD1 hS1 => g q H1 locs ls hP1 hD1 hS1 hl)
theorem h_castB (C0 : gC p s m args meth c D clA (tyA dT) A nL cc own ro) (hE : EZ dT kk A s s.heap) {q0 ix a : Nat} {x : vp_A} (he : ws[q0]? = some (a, .inl (dT 2, x))) (w1 : Cond.classLink own ix "[B" ∈ lw_all) (hdg : decode cc pc = .ok (.checkcast ix, 3)) (g : G p l e R s m args below meth c Q D clA A nL ws k n (pc + 3) L (.ref a :: st)) : G p l e R s m args below meth c Q D clA A nL ws k n pc L (.ref a :: st) := by
  intro H locs ls hP hD hS hl
  exact va_castA C0.x C0.b C0.ow (C0.ts _ w1) hP q0 he hE.fB hdg (g H locs ls hP hD hS hl)
/-- the constant i is a String: instanceof, checkcast, its coder, its bytes -/
theorem h_instK (C0 : gC p s m args meth c D clA (tyA dT) A nL cc own ro) (hE : EZ dT kk A s s.heap) {ix : Nat} (i : Nat) (hi : i < 6) (w1 : Cond.classLink own ix "java/lang/String" ∈ lw_all) (hdg : decode cc pc = .ok (.instanceof ix, 3)) (g : G p l e R s m args below meth c Q D clA A nL ws k n (pc + 3) L (.int (nI 1) :: st)) : G p l e R s m args below meth c Q D clA A nL ws k n pc L (.ref (kk.1 i) :: st) := by
  intro H locs ls hP hD hS hl
  exact va_instE C0.x C0.b C0.ow (C0.ts _ w1) (vk_recv hE.ks hi hS) hdg (g H locs ls hP hD hS hl)
theorem h_castK (C0 : gC p s m args meth c D clA (tyA dT) A nL cc own ro) (hE : EZ dT kk A s s.heap) {ix : Nat} (i : Nat) (hi : i < 6) (w1 : Cond.classLink own ix "java/lang/String" ∈ lw_all) (hdg : decode cc pc = .ok (.checkcast ix, 3)) (g : G p l e R s m args below meth c Q D clA A nL ws k n (pc + 3) L (.ref (kk.1 i) :: st)) : G p l e R s m args below meth c Q D clA A nL ws k n pc L (.ref (kk.1 i) :: st) := by
  intro H locs ls hP hD hS hl
  exact va_castE C0.x C0.b C0.ow (C0.ts _ w1) (vk_recv hE.ks hi hS) hdg (g H locs ls hP hD hS hl)
theorem h_codK (C0 : gC p s m args meth c D clA (tyA dT) A nL cc own ro) (hE : EZ dT kk A s s.heap) {ix : Nat} (i : Nat) (hi : i < 6) (w1 : Cond.fieldLink own ix "java/lang/String" "coder" "B" ∈ lw_all) (hdg : decode cc pc = .ok (.getfield ix, 3)) (g : G p l e R s m args below meth c Q D clA A nL ws k n (pc + 3) L (.int (nI 0) :: st)) : G p l e R s m args below meth c Q D clA A nL ws k n pc L (.ref (kk.1 i) :: st) := by
  intro H locs ls hP hD hS hl
  exact vk_getf (v := .int (nI 0)) C0.x C0.b (hE.ks.1 i hi).2.1 hS C0.ow (C0.ts _ w1) (fun _ h9 => h9) hdg (g H locs ls hP hD hS hl)
theorem h_valK (C0 : gC p s m args meth c D clA (tyA dT) A nL cc own ro) (hE : EZ dT kk A s s.heap) {ix : Nat} (i : Nat) (hi : i < 6) (w1 : Cond.fieldLink own ix "java/lang/String" "value" "[B" ∈ lw_all) (hdg : decode cc pc = .ok (.getfield ix, 3)) (g : G p l e R s m args below meth c Q D clA A nL ws k n (pc + 3) L (.ref (kk.2 i) :: st)) : G p l e R s m args below meth c Q D clA A nL ws k n pc L (.ref (kk.1 i) :: st) := by
  intro H locs ls hP hD hS hl
  exact vk_getf (v := .ref (kk.2 i)) C0.x C0.b (hE.ks.1 i hi).2.2.1 hS C0.ow (C0.ts _ w1) (fun _ h9 => h9) hdg (g H locs ls hP hD hS hl)
theorem h_lenK (C0 : gC p s m args meth c D clA (tyA dT) A nL cc own ro) (hE : EZ dT kk A s s.heap) (i : Nat) (hi : i < 6) (hdg : decode cc pc = .ok (.arraylength, 1)) (g : G p l e R s m args below meth c Q D clA A nL ws k n (pc + 1) L (.int (nI (sLen.getD i 0)) :: st)) : G p l e R s m args below meth c Q D clA A nL ws k n pc L (.ref (kk.2 i) :: st) := by
  intro H locs ls hP hD hS hl
  obtain ⟨cell, h1, h2, h3, h4, h5, h6, h7⟩ := ((hE.ks.1 i hi).2.2.2).kept hS.2.1
  exact W.alen (n := nI (sLen.getD i 0)) C0.x C0.b h1 h2 h5 rfl rfl hdg (g H locs ls hP hD hS hl)
theorem h_baldK (C0 : gC p s m args meth c D clA (tyA dT) A nL cc own ro) (hE : EZ dT kk A s s.heap) (i : Nat) (hi : i < 6) (j : Nat) (hj : j < sLen.getD i 0) (hdg : decode cc pc = .ok (.baload, 1)) (g : G p l e R s m args below meth c Q D clA A nL ws k n (pc + 1) L (.int ((sByt.getD i []).getD j 0) :: st)) : G p l e R s m args below meth c Q D clA A nL ws k n pc L (.int (nI j) :: .ref (kk.2 i) :: st) := by
  intro H locs ls hP hD hS hl
  have h6 : sLen.getD i 0 ≤ 6 := by
    have : ∀ i, i < 6 → sLen.getD i 0 ≤ 6 := by decide
    exact this i hi
  exact va_tb C0.x C0.b (hE.ks.1 i hi).2.2.2 hS (vp_in_nI hj (by omega)) (v := .int ((sByt.getD i []).getD j 0)) (by show Value.int ((sByt.getD i []).getD (nI j).toNatClampNeg 0) = _; rw [nI_clamp (by omega)]) hdg (g H locs ls hP hD hS hl)
theorem h_acmpne (C0 : gC p s m args meth c D clA (tyA dT) A nL cc own ro) {x y tgt : Nat} {off : Int} (hne : x ≠ y) (hdg : decode cc pc = .ok (.if_acmp .ne off, 3)) (ht : (pc : Int) + off = (tgt : Int)) (g : G p l e R s m args below meth c Q D clA A nL ws k n tgt L st) : G p l e R s m args below meth c Q D clA A nL ws k n pc L (.ref y :: .ref x :: st) := by
  intro H locs ls hP hD hS hl
  exact lv_acmp_ne (rx := some x) (ry := some y) C0.x C0.b hdg ht (fun _ => g H locs ls hP hD hS hl) (fun h => absurd (Option.some.inj h) hne)
/-- a cell of the world is no constant -/
theorem h_apart (C0 : gC p s m args meth c D clA (tyA dT) A nL cc own ro) (hE : EZ dT kk A s s.heap) {q0 a : Nat} {x : va_E} (he : ws[q0]? = some (a, x)) (i : Nat) (hi : i < 6) (g : a ≠ kk.1 i → G p l e R s m args below meth c Q D clA A nL ws k n pc L st) : G p l e R s m args below meth c Q D clA A nL ws k n pc L st := by
  intro H locs ls hP hD hS hl
  refine g (fun e => ?_) H locs ls hP hD hS hl
  obtain ⟨cell, -, -, -, h4⟩ := (hE.ks.1 i hi).1
  exact h4 (e ▸ hD.2 q0 _ he)
theorem h_lookup (C0 : gC p s m args meth c D clA (tyA dT) A nL cc own ro) {dflt : Int} {ps : Array (Int × Int)} {len tgt : Nat} {x : Int32} {off : Int} (hdg : decode cc pc = .ok (.lookupswitch dflt ps, len)) (hp : (ps.toList.zip (ps.toList.drop 1)).all (fun (a, next) => a.1 < next.1) = true) (ho : Op.lookupswitch.offset ps.toList dflt x.toInt = off) (ht : (pc : Int) + off = (tgt : Int)) (g : G p l e R s m args below meth c Q D clA A nL ws k n tgt L st) : G p l e R s m args below meth c Q D clA A nL ws k n pc L (.int x :: st) := by
  intro H locs ls hP hD hS hl
  exact lv_lookup C0.x C0.b hdg hp ho ht (g H locs ls hP hD hS hl)
theorem h_getsq (C0 : gC p s m args meth c D clA (tyA dT) A nL cc own ro) (hE : EZ dT kk A s s.heap) {ix : Nat} {nm ds : String} (hz : ∀ A U H, EZ dT kk A U H → va_Zq "java/lang/Throwable" nm ds A U H) (w1 : Cond.fieldLink own ix "java/lang/Throwable" nm ds ∈ lw_all) (hdg : decode cc pc = .ok (.getstatic ix, 3)) (g : ∀ v : Value, (v = .null ∨ ∃ t, v = .ref t) → G p l e R s m args below meth c Q D clA A nL ws k n (pc + 3) L (v :: st)) : G p l e R s m args below meth c Q D clA A nL ws k n pc L st := by
  intro H locs ls hP hD hS hl
  rcases hz _ _ _ hE with h | ⟨t, h⟩
  · exact va_gets (v := .null) C0.x C0.b h hS C0.ow (C0.ts _ w1) (fun _ h9 => h9) hdg (g .null (Or.inl rfl) H locs ls hP hD hS hl)
  · exact va_gets (v := .ref t) C0.x C0.b h hS C0.ow (C0.ts _ w1) (fun _ h9 => h9) hdg (g (.ref t) (Or.inr ⟨t, rfl⟩) H locs ls hP hD hS hl)
end HT
