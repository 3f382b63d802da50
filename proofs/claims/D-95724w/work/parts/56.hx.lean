/-! calls of private inherited methods, of methods that may throw; fronts; throws -/
set_option maxRecDepth 100000
section IV
variable {p : Program} {l : Launch} {e : Env} {R : Room} {s : State} {m : MethodId} {args : Array Value} {below : List Frame} {meth : Method} {c : Code} {T : State} {locs : List Loc} {cells slots : Nat}
/-- the step of an invoke: the callee mk of the name y is called with a -/
def Inv (p : Program) (l : Launch) (e : Env) (R : Room) (s : State) (m : MethodId) (args : Array Value) (below : List Frame) (meth : Method) (c : Code) (T : State) (locs : List Loc) (cells slots : Nat) (g : JFrame) (rest : List Value) (y : MethodName) (a : Array Value) : Prop :=
  ∃ (vm₁ : Vm) (mk : MethodId), Stand p l e R s m args below meth c (T.setVm vm₁) locs cells slots ∧ (T.setVm vm₁).methodNamed? y = some mk ∧
    ∀ target, (∀ acts, Steps p.tables e below (doInvoke e ((T.setVm vm₁).setTop { g with stack := rest }) acts mk a).1 target) → Steps p.tables e below (T.setTop g) target
theorem inv_v (X : Stand p l e R s m args below meth c T locs cells slots) (hexec : p.tables.exec = Jvm.exec) {own C : String} {index : Nat} {y : MethodName} {bytes : ByteArray} {maxL : Nat} {ret : Option FieldType}
    (hown : s.vm.findClass own = some m.cls) (hlink : (Cond.methodLink own index y).before args s = true) (hinst : (Cond.instanceMethod y).before args s = true) (hsel : (Cond.selects C y y).before args s = true)
    (hcode : (Cond.code y bytes maxL ret).before args s = true) (hy : y.cls ≠ "java/lang/invoke/MethodHandle" ∧ y.cls ≠ "java/lang/invoke/VarHandle")
    {b : Addr} {cellB : Cell} (hcell : T.heap[b]? = some cellB) (hobj : cellB.vm.isStatics = false) (hcls : s.vm.findClass C = some cellB.cls)
    {g : JFrame} (hg : g.method = m) {argsL rest : List Value} (hlen : ∀ sig, parseMethodDescriptor y.desc = some sig → argsL.length = sig.parameters.length)
    (hstack : g.stack = argsL.reverse ++ .ref b :: rest) (hdg : decode c.code g.pc = .ok (.invokevirtual index, 3)) : Inv p l e R s m args below meth c T locs cells slots g rest y (Value.ref b :: argsL).toArray := by
  obtain ⟨mk, methM, hnamed, hmethM, hstM, habM⟩ := Cond.instanceMethod_spec hinst
  obtain ⟨methM', cM, hmethM', -, -, -, -, -, -, hsigM⟩ := Cond.code_spec hnamed hcode
  cases hmethM.symm.trans hmethM'
  obtain ⟨c2, r2, m2, q1, q2, q3, q4, kP, hkP, hkPi⟩ := Cond.selects_spec hsel
  cases hcls.symm.trans q1
  cases (State.methodFound?_of_named hnamed hy).symm.trans q2
  cases hnamed.symm.trans q3
  have hselP : selectMethod e.platform s.vm cellB.cls mk = .method mk := by rw [Launch.admits_selectMethod X.admits]; exact q4
  obtain ⟨vm₁, X₁, hstep₁⟩ := X.invokevirtual hexec hown hlink hnamed hmethM hstM hkP hkPi hy (a := b) (cell := cellB) hcell
    (fun z h => by rw [h] at hobj; cases hobj) hselP hmethM habM hkP hkPi (g := g) hg (argsL := argsL) (rest := rest) (hlen _ hsigM) hstack hdg
  exact ⟨vm₁, mk, X₁, X₁.named hnamed, hstep₁⟩
theorem inv_p (X : Stand p l e R s m args below meth c T locs cells slots) (hexec : p.tables.exec = Jvm.exec) {own : String} {index : Nat} {y : MethodName} {bytes : ByteArray} {maxL : Nat} {ret : Option FieldType}
    (hown : s.vm.findClass own = some m.cls) (hlink : (Cond.methodLink own index y).before args s = true) (hsame : (Cond.sameMethod y.cls y.cls y.name y.desc).before args s = true) (hinst : (Cond.instanceMethod y).before args s = true) (hpriv : s.PrivateAt y)
    (hcode : (Cond.code y bytes maxL ret).before args s = true) (hy : y.cls ≠ "java/lang/invoke/MethodHandle" ∧ y.cls ≠ "java/lang/invoke/VarHandle")
    {b : Addr} {cellB : Cell} (hcell : T.heap[b]? = some cellB) (hobj : cellB.vm.isStatics = false)
    {g : JFrame} (hg : g.method = m) {argsL rest : List Value} (hlen : ∀ sig, parseMethodDescriptor y.desc = some sig → argsL.length = sig.parameters.length)
    (hstack : g.stack = argsL.reverse ++ .ref b :: rest) (hdg : decode c.code g.pc = .ok (.invokevirtual index, 3)) : Inv p l e R s m args below meth c T locs cells slots g rest y (Value.ref b :: argsL).toArray := by
  obtain ⟨mk, methM, hnamed, hmethM, hstM, habM⟩ := Cond.instanceMethod_spec hinst
  obtain ⟨methM', cM, hmethM', -, -, -, -, -, -, hsigM⟩ := Cond.code_spec hnamed hcode
  cases hmethM.symm.trans hmethM'
  obtain ⟨cn, ck, r1, hcn, hck, hni, hf, hn1⟩ := Cond.sameMethod_found hsame
  have hmc := findClass_of_methodNamed hnamed
  cases hcn.symm.trans hmc
  have hselP : selectMethod e.platform s.vm cellB.cls mk = .method mk := selectMethod_private hmethM (hpriv mk methM hnamed hmethM)
  obtain ⟨vm₁, X₁, hstep₁⟩ := X.invokevirtual hexec hown hlink hnamed hmethM hstM hck hni hy (a := b) (cell := cellB) hcell
    (fun z h => by rw [h] at hobj; cases hobj) hselP hmethM habM hck hni (g := g) hg (argsL := argsL) (rest := rest) (hlen _ hsigM) hstack hdg
  exact ⟨vm₁, mk, X₁, X₁.named hnamed, hstep₁⟩
theorem inv_s (X : Stand p l e R s m args below meth c T locs cells slots) (hexec : p.tables.exec = Jvm.exec) {own : String} {index : Nat} {y : MethodName} {bytes : ByteArray} {maxL : Nat} {ret : Option FieldType}
    (hown : s.vm.findClass own = some m.cls) (hlink : (Cond.methodLink own index y).before args s = true) (hstat : (Cond.static y).before args s = true) (hinit : (Cond.initialized y.cls).before args s = true)
    (hcode : (Cond.code y bytes maxL ret).before args s = true) (hy : y.cls ≠ "java/lang/invoke/MethodHandle" ∧ y.cls ≠ "java/lang/invoke/VarHandle")
    {g : JFrame} (hg : g.method = m) {argsL rest : List Value} (hlen : ∀ sig, parseMethodDescriptor y.desc = some sig → argsL.length = sig.parameters.length)
    (hstack : g.stack = argsL.reverse ++ rest) (hdg : decode c.code g.pc = .ok (.invokestatic index, 3)) : Inv p l e R s m args below meth c T locs cells slots g rest y argsL.toArray := by
  obtain ⟨mk, hnamed⟩ := Cond.code_named hcode
  obtain ⟨methM, cM, hmethM, -, -, -, -, -, -, hsigM⟩ := Cond.code_spec hnamed hcode
  have hstatic : methM.isStatic = true := Cond.static_spec hnamed hmethM hstat
  obtain ⟨kP, hkP, -⟩ := className_of_methodNamed hnamed
  have hinitP : kP.init = .initialized := Cond.initialized_spec (findClass_of_methodNamed hnamed) hkP hinit
  obtain ⟨vm₁, X₁, hstep₁⟩ := X.invokestatic hexec hown hlink hnamed hmethM hstatic hkP hinitP hy (g := g) hg (argsL := argsL) (rest := rest) (hlen _ hsigM) hstack hdg
  exact ⟨vm₁, mk, X₁, X₁.named hnamed, hstep₁⟩
end IV
theorem hpl {y : MethodName} {na : Nat} (h : (parseMethodDescriptor y.desc).map (fun d => d.parameters.length) = some na) {As : List Value} (hna : As.length = na) : ∀ sig, parseMethodDescriptor y.desc = some sig → As.length = sig.parameters.length := by
  intro sig hs
  rw [hs] at h
  rw [hna]
  exact (Option.some.inj h).symm
section HXC
variable {p : Program} {l : Launch} {e : Env} {R : Room} {s : State} {m : MethodId} {args : Array Value} {below : List Frame} {meth : Method} {c : Code} {Q : State → Prop} {D : va_G} {dT : Nat → ClassId} {A : Nat → Prop} {nL : Nat} {cc : ByteArray} {own : String} {ro : Option FieldType} {ws : va_W} {k n pc : Nat} {L : List (Option Value)} {st : List Value} {kk : (Nat → Nat) × (Nat → Nat)} {y : MethodName} {bytes : ByteArray} {maxL : Nat} {rm : Room} {C : String} {T : u_T} {N ci ix q0 a na mc ms : Nat} {fs As rest stk : List Value} {rr : Option FieldType}
theorem xS_next {A0 : Nat → Prop} {w : va_W} {H0 H H1 : Heap} {locs Lx : List Loc} (hD : va_D A0 w) (hS : va_S A0 H0 H locs) (hA : ∀ q, H0.size ≤ q → A0 q) (hz : H.size ≤ H1.size) (hk : ∀ q : Nat, q < H.size → ¬ va_A w H.size q → H1[q]? = H[q]?) (hL : ∀ q ∈ Lx, va_A w H.size q.base) : va_S A0 H0 H1 (locs ++ Lx) :=
  ⟨Nat.le_trans hS.1 hz, fun q h1 h2 => by rw [hk q (Nat.lt_of_lt_of_le h1 hS.1) (fun z => h2 (hA_in hD hS hA q z))]; exact hS.2.1 q h1 h2, fun q hq => by
    rcases List.mem_append.mp hq with h | h
    · exact hS.2.2 q h
    · exact hA_in hD hS hA _ (hL q h)⟩
/-- the core: a callee that may throw, called by an invoke whose step is at hand -/
theorem h_xcore {S S' : Type} {wf : S → va_W} {post : Option Value → S → Prop} {w1 w1' : va_W} {pt pt' : Nat → Nat → Prop} {wf' : S' → va_W} {post' : Option Value → S' → Prop} {kQ nQ : Nat} {av : List Value} {i0 : Instr}
    (C0 : gC p s m args meth c D clA (tyA dT) A nL cc own ro) (hE : EZ dT kk A s s.heap) (hx : c.exceptionTable.isEmpty = true) (hM : HX l y bytes maxL rr rm D dT kk av ws (hQx D dT wf post w1 pt) mc ms) (w5 : Cond.code y bytes maxL rr ∈ lw_all) (w6 : Cond.initialized y.cls ∈ lw_all)
    (hR : rm.frames + 1 ≤ R.frames ∧ 8 + (maxL + 11) + rm.locals ≤ R.locals) (hrc : rm.cells = mc) (hrs : rm.slots = ms) (hkn : k + mc ≤ R.cells ∧ n + ms ≤ R.slots) (hQ : k + mc ≤ kQ ∧ n + ms ≤ nQ) (hpt : ∀ a b, pt a b → pt' a b) (hsub : w1'.Sublist w1)
    (hW : (rest.map fun v => v.category).sum ≤ 8) (hdg : decode cc pc = .ok (i0, 3))
    (hI : ∀ (H : Heap) (locs : List Loc) (ls : Array Slot) (T : State), va_P D clA ws H → T.heap = H → Stand p l e R s m args below meth c T locs k n → Inv p l e R s m args below meth c T locs k n (F0 m pc ls stk) rest y av.toArray)
    (g : ∀ (r : Option Value) (u : S), post r u → G p l e R s m args below meth c (MQX below (hQx D dT wf' post' w1' pt' A) args s kQ nQ A) D clA A nL (wf u) (k + mc) (n + ms) (pc + 3) L (r.toList ++ rest)) :
    G p l e R s m args below meth c (MQX below (hQx D dT wf' post' w1' pt' A) args s kQ nQ A) D clA A nL ws k n pc L stk := by
  intro H locs ls hP hD hS hl T hT X
  obtain ⟨vm₁, mk, X₁, hnm, hstep⟩ := hI H locs ls T hP hT X
  obtain ⟨o, t, T', Lx, X', hLx, e1, e2, hQo, hret, hthr⟩ := backX (g := { F0 m pc ls stk with stack := rest }) (W := 8) (len := 3) (ig := i0) (bytes := bytes) (maxL := maxL) (ret := rr) (hM H.size) hBlind hrc hrs hR.1 hR.2 (pay_in C0.ts (lw_meth w5)) List.mem_cons_self (fun a' U hW => word_at hW (Or.inl (by first | rfl | simp [Cond.onTables, Cond.keeps, Cond.steady])) (C0.ts _ w6)) X₁ rfl (by rw [C0.ml]; exact hl.1) (by rw [C0.b]; exact hdg) (lv_room hW) hnm hkn.1 hkn.2 (hPre hE C0.K hP hD hS C0.al (T.setVm vm₁) hT X₁.warmed)
  obtain ⟨hor, hz, hk⟩ := hQo
  have hz' : H.size ≤ t.heap.size := by have := hz; rw [← hT]; exact this
  have hk' : ∀ q : Nat, q < H.size → ¬ va_A ws H.size q → t.heap[q]? = H[q]? := fun q h1 h2 => by have := hk q (by show q < T.heap.size; rw [hT]; exact h1) h2; rw [this]; show T.heap[q]? = H[q]?; rw [hT]
  have hS1 := xS_next hD hS C0.al hz' hk' hLx
  rcases hor with ⟨r, u, ho, hp, hB⟩ | ⟨x, fa, fb, ho, hp, hB⟩
  · obtain ⟨hP1, hK1, hD1⟩ := hB
    obtain ⟨t2, a1, b1⟩ := g r u hp t.heap (locs ++ Lx) ls hP1 (hD1.weaken (fun _ _ _ h => hA_in hD hS C0.al _ h)) hS1 hl T' e1 X'
    exact ⟨t2, hstep t2 fun acts => by rw [doInvoke_state]; exact (hret r ho).trans a1, b1⟩
  · obtain ⟨hP1, hK1, hD1⟩ := hB
    have X2 := stand_widen X' hQ.1 hQ.2
    obtain ⟨t2, a1, b1⟩ := W.leaveX (Qc := hQx D dT wf' post' w1' pt' A) (free := A) (a := x) (H := t.heap) hx C0.lk (g := { F0 m pc ls stk with stack := rest }) rfl rfl rfl (fun t' ht' hW' => ⟨Or.inr ⟨x, fa, fb, rfl, hpt _ _ hp, by rw [ht']; exact va_P_sl (List.Sublist.cons_cons _ hsub) hP1, va_K.moved hW'.alike C0.K, va_D_sl (List.Sublist.cons_cons _ hsub) (hD1.weaken (fun _ _ _ h => hA_in hD hS C0.al _ h))⟩, hS1.F ht'⟩) hS1.2.2 e1 X2
    exact ⟨t2, hstep t2 fun acts => by rw [doInvoke_state]; exact (hthr x ho).trans a1, b1⟩
theorem h_xv {S S' : Type} {wf : S → va_W} {post : Option Value → S → Prop} {w1 w1' : va_W} {pt pt' : Nat → Nat → Prop} {wf' : S' → va_W} {post' : Option Value → S' → Prop} {kQ nQ : Nat}
    (C0 : gC p s m args meth c D clA (tyA dT) A nL cc own ro) (hE : EZ dT kk A s s.heap) (hx : c.exceptionTable.isEmpty = true) (hM : HX l y bytes maxL rr rm D dT kk (.ref a :: As) ws (hQx D dT wf post w1 pt) mc ms) (he : ws[q0]? = some (a, .inr (ci, fs))) (hc : clA[ci]? = some (C, T, N)) (wl : Cond.methodLink own ix y ∈ lw_all) (wi : Cond.instanceMethod y ∈ lw_all) (wsl : Cond.selects C y y ∈ lw_all) (w6 : Cond.initialized C ∈ lw_all) (w5 : Cond.code y bytes maxL rr ∈ lw_all)
    (hd : y.cls = C ∧ y.cls ≠ "java/lang/invoke/MethodHandle" ∧ y.cls ≠ "java/lang/invoke/VarHandle" ∧ (parseMethodDescriptor y.desc).map (fun d => d.parameters.length) = some na) (hR : rm.frames + 1 ≤ R.frames ∧ 8 + (maxL + 11) + rm.locals ≤ R.locals) (hrc : rm.cells = mc) (hrs : rm.slots = ms) (hkn : k + mc ≤ R.cells ∧ n + ms ≤ R.slots) (hQ : k + mc ≤ kQ ∧ n + ms ≤ nQ) (hpt : ∀ a b, pt a b → pt' a b) (hsub : w1'.Sublist w1)
    (hna : As.length = na) (hst : stk = As.reverse ++ .ref a :: rest) (hW : (rest.map fun v => v.category).sum ≤ 8) (hdg : decode cc pc = .ok (.invokevirtual ix, 3))
    (g : ∀ (r : Option Value) (u : S), post r u → G p l e R s m args below meth c (MQX below (hQx D dT wf' post' w1' pt' A) args s kQ nQ A) D clA A nL (wf u) (k + mc) (n + ms) (pc + 3) L (r.toList ++ rest)) :
    G p l e R s m args below meth c (MQX below (hQx D dT wf' post' w1' pt' A) args s kQ nQ A) D clA A nL ws k n pc L stk := by
  refine h_xcore C0 hE hx hM w5 (hd.1 ▸ w6) hR hrc hrs hkn hQ hpt hsub hW hdg (fun H locs ls T hP hT X => ?_) g
  obtain ⟨cellB, hcB, hoB, hclB⟩ := va_recv (s := s) C0.K hP hc he
  exact inv_v X C0.x C0.ow (C0.ts _ wl) (C0.ts _ wi) (C0.ts _ wsl) (C0.ts _ w5) ⟨hd.2.1, hd.2.2.1⟩ (by rw [hT]; exact hcB) hoB hclB rfl (hpl hd.2.2.2 hna) hst (by rw [C0.b]; exact hdg)
theorem h_xs {S S' : Type} {wf : S → va_W} {post : Option Value → S → Prop} {w1 w1' : va_W} {pt pt' : Nat → Nat → Prop} {wf' : S' → va_W} {post' : Option Value → S' → Prop} {kQ nQ : Nat}
    (C0 : gC p s m args meth c D clA (tyA dT) A nL cc own ro) (hE : EZ dT kk A s s.heap) (hx : c.exceptionTable.isEmpty = true) (hM : HX l y bytes maxL rr rm D dT kk As ws (hQx D dT wf post w1 pt) mc ms) (wl : Cond.methodLink own ix y ∈ lw_all) (wi : Cond.static y ∈ lw_all) (w6 : Cond.initialized y.cls ∈ lw_all) (w5 : Cond.code y bytes maxL rr ∈ lw_all)
    (hd : y.cls ≠ "java/lang/invoke/MethodHandle" ∧ y.cls ≠ "java/lang/invoke/VarHandle" ∧ (parseMethodDescriptor y.desc).map (fun d => d.parameters.length) = some na) (hR : rm.frames + 1 ≤ R.frames ∧ 8 + (maxL + 11) + rm.locals ≤ R.locals) (hrc : rm.cells = mc) (hrs : rm.slots = ms) (hkn : k + mc ≤ R.cells ∧ n + ms ≤ R.slots) (hQ : k + mc ≤ kQ ∧ n + ms ≤ nQ) (hpt : ∀ a b, pt a b → pt' a b) (hsub : w1'.Sublist w1)
    (hna : As.length = na) (hst : stk = As.reverse ++ rest) (hW : (rest.map fun v => v.category).sum ≤ 8) (hdg : decode cc pc = .ok (.invokestatic ix, 3))
    (g : ∀ (r : Option Value) (u : S), post r u → G p l e R s m args below meth c (MQX below (hQx D dT wf' post' w1' pt' A) args s kQ nQ A) D clA A nL (wf u) (k + mc) (n + ms) (pc + 3) L (r.toList ++ rest)) :
    G p l e R s m args below meth c (MQX below (hQx D dT wf' post' w1' pt' A) args s kQ nQ A) D clA A nL ws k n pc L stk := by
  refine h_xcore C0 hE hx hM w5 w6 hR hrc hrs hkn hQ hpt hsub hW hdg (fun H locs ls T hP hT X => ?_) g
  exact inv_s X C0.x C0.ow (C0.ts _ wl) (C0.ts _ wi) (C0.ts _ w6) (C0.ts _ w5) ⟨hd.1, hd.2.1⟩ rfl (hpl hd.2.2 hna) hst (by rw [C0.b]; exact hdg)
end HXC
section HPC
variable {p : Program} {l : Launch} {e : Env} {R : Room} {s : State} {m : MethodId} {args : Array Value} {below : List Frame} {meth : Method} {c : Code} {Q : State → Prop} {D : va_G} {dT : Nat → ClassId} {A : Nat → Prop} {nL : Nat} {cc : ByteArray} {own : String} {ro : Option FieldType} {ws : va_W} {k n pc : Nat} {L : List (Option Value)} {st : List Value} {kk : (Nat → Nat) × (Nat → Nat)} {y : MethodName} {bytes : ByteArray} {maxL : Nat} {rm : Room} {C : String} {T : u_T} {N ci ix q0 a na mc ms : Nat} {fs As rest stk : List Value} {rr : Option FieldType}
/-- the core of a call that comes back: any invoke whose step is at hand -/
theorem h_pcore {av : List Value} {i0 : Instr} {Qf : Array Value → State → Outcome → State → Prop} {H : Heap} {locs : List Loc} {ls : Array Slot} (C0 : gC p s m args meth c D clA (tyA dT) A nL cc own ro) (hE : EZ dT kk A s s.heap) (hM : Met l y (ws_ y bytes maxL rr) rm (hPc D dT kk av ws H.size) Qf mc ms (va_A ws H.size)) (w5 : Cond.code y bytes maxL rr ∈ lw_all) (w6 : Cond.initialized y.cls ∈ lw_all)
    (hR : rm.frames + 1 ≤ R.frames ∧ 8 + (maxL + 11) + rm.locals ≤ R.locals) (hrc : rm.cells = mc) (hrs : rm.slots = ms) (hkn : k + mc ≤ R.cells ∧ n + ms ≤ R.slots) (hW : (rest.map fun v => v.category).sum ≤ 8) (hdg : decode cc pc = .ok (i0, 3))
    (hI : ∀ (T : State), T.heap = H → Stand p l e R s m args below meth c T locs k n → Inv p l e R s m args below meth c T locs k n (F0 m pc ls stk) rest y av.toArray)
    (hP : va_P D clA ws H) (hD : va_D A ws) (hS : va_S A s.heap H locs) (hl : ls.size = nL) : va_Run p l e R s m args below meth c H locs k n mc ms (F0 m pc ls stk) rest (Qf av.toArray) (va_A ws H.size) := by
  intro T hT X
  obtain ⟨vm₁, mk, X₁, hnm, hstep⟩ := hI T hT X
  have hK : Back l R p e below s args y 3 8 (PreOf R mc ms (hPc D dT kk av ws H.size)) (PostOf Qf mc ms (va_A ws H.size)) := back_of (bytes := bytes) (maxL := maxL) (ret := rr) hM hBlind hrc hrs hR.1 hR.2 (pay_in C0.ts (lw_meth w5)) List.mem_cons_self (fun a' U hW => word_at hW (Or.inl (by first | rfl | simp [Cond.onTables, Cond.keeps, Cond.steady])) (C0.ts _ w6))
  obtain ⟨v, ⟨U', l2, c2, s2⟩, X', ⟨g', mk', t, L', e1, e2, hq, h1, hL, h2, h3⟩, hsteps⟩ := hK m meth c ⟨T.setVm vm₁, locs, k, n⟩ { F0 m pc ls stk with stack := rest } i0 mk av.toArray X₁ rfl (by rw [C0.ml]; exact hl) (by rw [C0.b]; exact hdg) (lv_room hW) hnm ⟨hkn.1, hkn.2, hPre hE C0.K hP hD hS C0.al (T.setVm vm₁) hT X₁.warmed⟩
  dsimp only [Pt.U, Pt.locs, Pt.cells, Pt.slots] at X' e1 e2 h1 h2 h3 hsteps
  subst h1; subst h2; subst h3
  exact ⟨v, (T.setVm vm₁).calling g' mk' av.toArray, t, U', L', hT, X', hL, e1, e2, hq, fun target h => hstep target fun acts => by rw [doInvoke_state]; exact hsteps.trans h⟩
theorem h_cpi {S : Type} {wf : S → va_W} {post : Int32 → S → Prop} {rt : FieldType} (C0 : gC p s m args meth c D clA (tyA dT) A nL cc own ro) (hE : EZ dT kk A s s.heap) (hM : HC l y bytes maxL (some rt) rm D dT kk (.ref a :: As) ws (hQi D dT wf post) mc ms) (he : ws[q0]? = some (a, .inr (ci, fs))) (hc : clA[ci]? = some (C, T, N)) (hpr : s.PrivateAt y) (wl : Cond.methodLink own ix y ∈ lw_all) (wm : Cond.sameMethod y.cls y.cls y.name y.desc ∈ lw_all) (wi : Cond.instanceMethod y ∈ lw_all) (w6 : Cond.initialized y.cls ∈ lw_all) (w5 : Cond.code y bytes maxL (some rt) ∈ lw_all)
    (hd : y.cls ≠ "java/lang/invoke/MethodHandle" ∧ y.cls ≠ "java/lang/invoke/VarHandle" ∧ (parseMethodDescriptor y.desc).map (fun d => d.parameters.length) = some na) (hR : rm.frames + 1 ≤ R.frames ∧ 8 + (maxL + 11) + rm.locals ≤ R.locals) (hrc : rm.cells = mc) (hrs : rm.slots = ms) (hkn : k + mc ≤ R.cells ∧ n + ms ≤ R.slots)
    (hna : As.length = na) (hst : stk = As.reverse ++ .ref a :: rest) (hW : (rest.map fun v => v.category).sum ≤ 8) (hdg : decode cc pc = .ok (.invokevirtual ix, 3))
    (g : ∀ (r : Int32) (u : S), post r u → G p l e R s m args below meth c Q D clA A nL (wf u) (k + mc) (n + ms) (pc + 3) L (.int r :: rest)) : G p l e R s m args below meth c Q D clA A nL ws k n pc L stk := by
  intro H locs ls hP hD hS hl
  obtain ⟨cellB, hcB, hoB, hclB⟩ := va_recv (s := s) C0.K hP hc he
  refine va_calli (h_pcore (av := .ref a :: As) C0 hE (hM H.size) w5 w6 hR hrc hrs hkn hW hdg (fun T hT X => inv_p X C0.x C0.ow (C0.ts _ wl) (C0.ts _ wm) (C0.ts _ wi) hpr (C0.ts _ w5) ⟨hd.1, hd.2.1⟩ (by rw [hT]; exact hcB) hoB rfl (hpl hd.2.2 hna) hst (by rw [C0.b]; exact hdg)) hP hD hS hl.1) hS (fun q _ h => hA_in hD hS C0.al q h) (fun q h => hA_in hD hS C0.al q h) (fun r u t H1 locs1 ht hvm hpost hBB hz hk1 hS1 => ?_)
  obtain ⟨hP1, hK1, hD1⟩ := hBB
  rw [ht] at hP1
  exact g r u hpost H1 locs1 ls hP1 (hD1.weaken (fun _ _ _ h => hA_in hD hS C0.al _ h)) hS1 hl
theorem h_cpv {S : Type} {wf : S → va_W} {post : S → Prop} (C0 : gC p s m args meth c D clA (tyA dT) A nL cc own ro) (hE : EZ dT kk A s s.heap) (hM : HC l y bytes maxL none rm D dT kk (.ref a :: As) ws (hQv D dT wf post) mc ms) (he : ws[q0]? = some (a, .inr (ci, fs))) (hc : clA[ci]? = some (C, T, N)) (hpr : s.PrivateAt y) (wl : Cond.methodLink own ix y ∈ lw_all) (wm : Cond.sameMethod y.cls y.cls y.name y.desc ∈ lw_all) (wi : Cond.instanceMethod y ∈ lw_all) (w6 : Cond.initialized y.cls ∈ lw_all) (w5 : Cond.code y bytes maxL none ∈ lw_all)
    (hd : y.cls ≠ "java/lang/invoke/MethodHandle" ∧ y.cls ≠ "java/lang/invoke/VarHandle" ∧ (parseMethodDescriptor y.desc).map (fun d => d.parameters.length) = some na) (hR : rm.frames + 1 ≤ R.frames ∧ 8 + (maxL + 11) + rm.locals ≤ R.locals) (hrc : rm.cells = mc) (hrs : rm.slots = ms) (hkn : k + mc ≤ R.cells ∧ n + ms ≤ R.slots)
    (hna : As.length = na) (hst : stk = As.reverse ++ .ref a :: rest) (hW : (rest.map fun v => v.category).sum ≤ 8) (hdg : decode cc pc = .ok (.invokevirtual ix, 3))
    (g : ∀ (u : S), post u → G p l e R s m args below meth c Q D clA A nL (wf u) (k + mc) (n + ms) (pc + 3) L rest) : G p l e R s m args below meth c Q D clA A nL ws k n pc L stk := by
  intro H locs ls hP hD hS hl
  obtain ⟨cellB, hcB, hoB, hclB⟩ := va_recv (s := s) C0.K hP hc he
  refine va_callv (h_pcore (av := .ref a :: As) C0 hE (hM H.size) w5 w6 hR hrc hrs hkn hW hdg (fun T hT X => inv_p X C0.x C0.ow (C0.ts _ wl) (C0.ts _ wm) (C0.ts _ wi) hpr (C0.ts _ w5) ⟨hd.1, hd.2.1⟩ (by rw [hT]; exact hcB) hoB rfl (hpl hd.2.2 hna) hst (by rw [C0.b]; exact hdg)) hP hD hS hl.1) hS (fun q _ h => hA_in hD hS C0.al q h) (fun q h => hA_in hD hS C0.al q h) (fun u t H1 locs1 ht hvm hpost hBB hz hk1 hS1 => ?_)
  obtain ⟨hP1, hK1, hD1⟩ := hBB
  rw [ht] at hP1
  exact g u hpost H1 locs1 ls hP1 (hD1.weaken (fun _ _ _ h => hA_in hD hS C0.al _ h)) hS1 hl
/-- an overriding method: x is named, y is run -/
theorem h_coi {x : MethodName} {b0 : ByteArray} {m0 : Nat} {r0 : Option FieldType} {S : Type} {wf : S → va_W} {post : Int32 → S → Prop} {rt : FieldType} (C0 : gC p s m args meth c D clA (tyA dT) A nL cc own ro) (hE : EZ dT kk A s s.heap) (hM : HC l y bytes maxL (some rt) rm D dT kk (.ref a :: As) ws (hQi D dT wf post) mc ms) (he : ws[q0]? = some (a, .inr (ci, fs))) (hc : clA[ci]? = some (C, T, N)) (wl : Cond.methodLink own ix x ∈ lw_all) (wm : Cond.sameMethod x.cls x.cls x.name x.desc ∈ lw_all) (wi0 : Cond.instanceMethod x ∈ lw_all) (w50 : Cond.code x b0 m0 r0 ∈ lw_all) (wsl : Cond.selects C x y ∈ lw_all) (wi : Cond.instanceMethod y ∈ lw_all) (w6 : Cond.initialized y.cls ∈ lw_all) (w5 : Cond.code y bytes maxL (some rt) ∈ lw_all)
    (hd : x.cls ≠ "java/lang/invoke/MethodHandle" ∧ x.cls ≠ "java/lang/invoke/VarHandle" ∧ (parseMethodDescriptor x.desc).map (fun d => d.parameters.length) = some na) (hR : rm.frames + 1 ≤ R.frames ∧ 8 + (maxL + 11) + rm.locals ≤ R.locals) (hrc : rm.cells = mc) (hrs : rm.slots = ms) (hkn : k + mc ≤ R.cells ∧ n + ms ≤ R.slots)
    (hna : As.length = na) (hst : stk = As.reverse ++ .ref a :: rest) (hW : (rest.map fun v => v.category).sum ≤ 8) (hdg : decode cc pc = .ok (.invokevirtual ix, 3))
    (g : ∀ (r : Int32) (u : S), post r u → G p l e R s m args below meth c Q D clA A nL (wf u) (k + mc) (n + ms) (pc + 3) L (.int r :: rest)) : G p l e R s m args below meth c Q D clA A nL ws k n pc L stk := by
  intro H locs ls hP hD hS hl
  refine va_calli (va_runU (As := As) (rest := rest) (C := C) (b := a) ⟨C0.x, C0.b, C0.ml, C0.ow, C0.ts⟩ (hM H.size) (va_cwO na C0.ts (lw_good (fun w hw => by
    rcases List.mem_append.mp hw with h | h
    · simp only [List.mem_cons, List.not_mem_nil, or_false] at h
      rcases h with h | h | h | h | h | h <;> (rw [h]; assumption)
    · exact lw_ws w5 w h)) rfl hrc hrs w50 hd hR) ⟨hBlind, va_recv C0.K hP hc he, hPre hE C0.K hP hD hS C0.al⟩ rfl hna hl.1 hst (lv_room hW) hdg ⟨hkn.1, hkn.2⟩) hS (fun q _ h => hA_in hD hS C0.al q h) (fun q h => hA_in hD hS C0.al q h) (fun r u t H1 locs1 ht hvm hpost hBB hz hk1 hS1 => ?_)
  obtain ⟨hP1, hK1, hD1⟩ := hBB
  rw [ht] at hP1
  exact g r u hpost H1 locs1 ls hP1 (hD1.weaken (fun _ _ _ h => hA_in hD hS C0.al _ h)) hS1 hl
/-- a static of a nest mate that knows no world -/
theorem h_sni {ret : FieldType} {host : String} {v : Int32} (C0 : gC p s m args meth c D clA (tyA dT) A nL cc own ro) (hN : NW s) (hM : SI l y bytes maxL ret rm As v) (w1 : Cond.methodLinkNest own ix y host ∈ lw_tbl) (w2 : Cond.static y ∈ lw_all) (w3 : Cond.initialized y.cls ∈ lw_all) (w4 : Cond.code y bytes maxL (some ret) ∈ lw_all)
    (hd : y.cls ≠ "java/lang/invoke/MethodHandle" ∧ y.cls ≠ "java/lang/invoke/VarHandle" ∧ (parseMethodDescriptor y.desc).map (fun d => d.parameters.length) = some na) (hR : rm.frames + 1 ≤ R.frames ∧ 8 + (maxL + 11) + rm.locals ≤ R.locals) (hrc : rm.cells = 0) (hrs : rm.slots = 0) (hkn : k ≤ R.cells ∧ n ≤ R.slots)
    (hna : As.length = na) (hst : stk = As.reverse ++ rest) (hW : (rest.map fun v => v.category).sum ≤ 8) (hdg : decode cc pc = .ok (.invokestatic ix, 3))
    (g : G p l e R s m args below meth c Q D clA A nL ws k n (pc + 3) L (.int v :: rest)) : G p l e R s m args below meth c Q D clA A nL ws k n pc L stk := by
  intro H locs ls hP hD hS hl
  refine va_calli (va_runSN (host := host) (As := As) (rest := rest) ⟨C0.x, C0.b, C0.ml, C0.ow, C0.ts⟩ (hM H.size) ⟨va_cnB na C0.ts (lw_meth w4) rfl hrc hrs (hN _ w1 rfl) (C0.ts _ w3) hd hR, C0.ts _ w2, trivial⟩ ⟨cBlind, sPre⟩ rfl hna hl.1 hst (lv_room hW) hdg ⟨hkn.1, hkn.2⟩) hS (fun q _ h => sA_in hS C0.al q h) (fun q h => sA_in hS C0.al q h) (fun r u t H1 locs1 ht hvm hpost hB hz hk1 hS1 => ?_)
  subst hpost
  exact g H1 locs1 ls (sKept hP hk1) hD hS1 hl
end HPC
theorem perm_front {α : Type} : ∀ (i : Nat) (ws : List α) (x : α), ws[i]? = some x → ws.Perm (x :: ws.eraseIdx i)
  | _, [], _, h => by simp at h
  | 0, a :: t, x, h => by
    simp at h
    subst h
    exact List.Perm.refl _
  | i + 1, a :: t, x, h => by
    have := perm_front i t x (by simpa using h)
    exact (this.cons a).trans (List.Perm.swap x a _)
section HFR
variable {p : Program} {l : Launch} {e : Env} {R : Room} {s : State} {m : MethodId} {args : Array Value} {below : List Frame} {meth : Method} {c : Code} {Q : State → Prop} {D : va_G} {dT : Nat → ClassId} {A : Nat → Prop} {nL : Nat} {cc : ByteArray} {own : String} {ro : Option FieldType} {ws : va_W} {k n pc : Nat} {L : List (Option Value)} {st : List Value} {kk : (Nat → Nat) × (Nat → Nat)} {y : MethodName} {bytes : ByteArray} {maxL : Nat} {rm : Room} {C : String} {T : u_T} {N ci ix q0 a na mc ms : Nat} {fs As rest stk : List Value} {rr : Option FieldType}
/-- the cell at place i comes to the front -/
theorem G.front (i : Nat) {x : Nat × va_E} {ws' : va_W} (h : ws[i]? = some x) (hw : x :: ws.eraseIdx i = ws') (g : G p l e R s m args below meth c Q D clA A nL ws' k n pc L st) : G p l e R s m args below meth c Q D clA A nL ws k n pc L st := G.perm (hw ▸ perm_front i ws x h) g
theorem h_newF (C0 : gC p s m args meth c D clA (tyA dT) A nL cc own ro) {fs0 : List Value} (ty : Nat → FieldType) (hty : ∀ k, k < N → parseFieldDescriptor (T k).2.2.1 = some (ty k)) (hin : ∀ w ∈ u_ws C T N, w ∈ lw_all) (hc : clA[ci]? = some (C, T, N)) (w1 : Cond.classLink own ix C ∈ lw_all) (w2 : Cond.instantiable C N ∈ lw_all) (w3 : Cond.initialized C ∈ lw_all) (hfs : ∀ j, j < N → defaultValue (ty j) = vp_V fs0 j) (hk : k + 1 ≤ R.cells ∧ n + N ≤ R.slots) (hdg : decode cc pc = .ok (.new ix, 3))
    (g : ∀ q : Nat, G p l e R s m args below meth c Q D clA A nL ((q, .inr (ci, fs0)) :: ws) (k + 1) (n + N) (pc + 3) L (.ref q :: st)) : G p l e R s m args below meth c Q D clA A nL ws k n pc L st :=
  h_new C0 ty hty hin hc w1 w2 w3 hfs hk hdg (fun q => G.perm (List.perm_append_singleton _ _) (g q))
theorem h_newaF (C0 : gC p s m args meth c D clA (tyA dT) A nL cc own ro) {atype : ArrayType} {ty : FieldType} {dA : ClassId} (N : Nat) (hty : newarray.typeOf atype = ty) (hdef : defaultValue ty = .int 0) (hnm : s.vm.findClass ("[" ++ ty.toString) = some dA) (w1 : Cond.arrayClass ty ∈ lw_all) (hN : N < 2 ^ 31) (hbytes : N * componentBytes ty ≤ 536870912) (hk : k + 1 ≤ R.cells ∧ n + N ≤ R.slots) (hdg : decode cc pc = .ok (.newarray atype, 2))
    (g : ∀ q : Nat, G p l e R s m args below meth c Q D clA A nL ((q, .inl (dA, N, .inl (fun _ => 0))) :: ws) (k + 1) (n + N) (pc + 2) L (.ref q :: st)) : G p l e R s m args below meth c Q D clA A nL ws k n pc L (.int (nI N) :: st) :=
  h_newa C0 N hty hdef hnm w1 hN hbytes hk hdg (fun q => G.perm (List.perm_append_singleton _ _) (g q))
theorem h_cloneF (C0 : gC p s m args meth c D clA (tyA dT) A nL cc own ro) (hE : EZ dT kk A s s.heap) {f : Nat → Int32} {N : Nat} (he : ws[q0]? = some (a, .inl (dT 2, N, .inl f))) (hfit : ∀ i, i < N → fits .byte (.int (f i)) = true)
    (w1 : Cond.methodLink own ix ⟨"[B", "clone", "()Ljava/lang/Object;"⟩ ∈ lw_all) (w2 : Cond.sameMethod "[B" "java/lang/Object" "clone" "()Ljava/lang/Object;" ∈ lw_all) (w3 : Cond.native ⟨"java/lang/Object", "clone", "()Ljava/lang/Object;"⟩ ∈ lw_all) (w4 : Cond.instanceMethod ⟨"java/lang/Object", "clone", "()Ljava/lang/Object;"⟩ ∈ lw_all) (w5 : Cond.selects "[B" ⟨"[B", "clone", "()Ljava/lang/Object;"⟩ ⟨"java/lang/Object", "clone", "()Ljava/lang/Object;"⟩ ∈ lw_all)
    (hf : 1 ≤ R.frames) (hlo : (st.map fun v => v.category).sum + 14 ≤ R.locals) (hk : k + 1 ≤ R.cells ∧ n + N ≤ R.slots) (hdg : decode cc pc = .ok (.invokevirtual ix, 3))
    (g : ∀ q : Nat, G p l e R s m args below meth c Q D clA A nL ((q, .inl (dT 2, N, .inl f)) :: ws) (k + 1) (n + N) (pc + 3) L (.ref q :: st)) : G p l e R s m args below meth c Q D clA A nL ws k n pc L (.ref a :: st) :=
  h_clone C0 hE he hfit w1 w2 w3 w4 w5 hf hlo hk hdg (fun q => G.perm (List.perm_append_singleton _ _) (g q))
theorem h_athrow {S : Type} {wf : S → va_W} {post : Option Value → S → Prop} {w1 : va_W} {pt : Nat → Nat → Prop} {x fa fb : Nat} (C0 : gC p s m args meth c D clA (tyA dT) A nL cc own ro) (hx : c.exceptionTable.isEmpty = true) (hdg : decode cc pc = .ok (.athrow, 1)) (hw : ws = (x, .inr (5, fF fa fb)) :: w1) (h : pt fa fb) : G p l e R s m args below meth c (MQX below (hQx D dT wf post w1 pt A) args s k n A) D clA A nL ws k n pc L (.ref x :: st) := by
  intro H locs ls hP hD hS hl
  subst hw
  exact W.athrowX C0.x C0.b hx C0.lk (fun t ht hW => ⟨Or.inr ⟨x, fa, fb, rfl, h, by rw [ht]; exact hP, va_K.moved hW.alike C0.K, hD⟩, hS.F ht⟩) hS.2.2 hdg
theorem h_iretX {S : Type} {wf : S → va_W} {post : Option Value → S → Prop} {w1 : va_W} {pt : Nat → Nat → Prop} {v : Int32} (C0 : gC p s m args meth c D clA (tyA dT) A nL cc own (some .int)) (u : S) (hdg : decode cc pc = .ok (.ireturn, 1)) (hw : ws = wf u) (h : post (some (.int v)) u) : G p l e R s m args below meth c (MQX below (hQx D dT wf post w1 pt A) args s k n A) D clA A nL ws k n pc L [.int v] := by
  intro H locs ls hP hD hS hl
  subst hw
  exact W.mono (fun _ => MQ.x) (W.iret (v := v) C0.x C0.b C0.r (fun t ht hW => ⟨Or.inl ⟨_, u, rfl, h, by rw [ht]; exact hP, va_K.moved hW.alike C0.K, hD⟩, hS.F ht⟩) hS.2.2 hdg (hlocks := C0.lk))
theorem h_vretX {S : Type} {wf : S → va_W} {post : Option Value → S → Prop} {w1 : va_W} {pt : Nat → Nat → Prop} (C0 : gC p s m args meth c D clA (tyA dT) A nL cc own none) (u : S) (hdg : decode cc pc = .ok (.return_, 1)) (hw : ws = wf u) (h : post none u) : G p l e R s m args below meth c (MQX below (hQx D dT wf post w1 pt A) args s k n A) D clA A nL ws k n pc L [] := by
  intro H locs ls hP hD hS hl
  subst hw
  exact W.mono (fun _ => MQ.x) (W.vret C0.x C0.b C0.r (fun t ht hW => ⟨Or.inl ⟨_, u, rfl, h, by rw [ht]; exact hP, va_K.moved hW.alike C0.K, hD⟩, hS.F ht⟩) hS.2.2 hdg (hlocks := C0.lk))
theorem h_aretX {S : Type} {wf : S → va_W} {post : Option Value → S → Prop} {w1 : va_W} {pt : Nat → Nat → Prop} {rt : FieldType} (C0 : gC p s m args meth c D clA (tyA dT) A nL cc own (some rt)) (hrt : (∃ n, rt = .object n) ∨ ∃ t, rt = .array t) (u : S) (hdg : decode cc pc = .ok (.areturn, 1)) (hw : ws = wf u) (h : post (some (.ref a)) u) : G p l e R s m args below meth c (MQX below (hQx D dT wf post w1 pt A) args s k n A) D clA A nL ws k n pc L [.ref a] := by
  intro H locs ls hP hD hS hl
  subst hw
  exact W.mono (fun _ => MQ.x) (W.aret (v := .ref a) C0.x C0.b C0.r hrt (Or.inr ⟨_, rfl⟩) (fun t ht hW => ⟨Or.inl ⟨_, u, rfl, h, by rw [ht]; exact hP, va_K.moved hW.alike C0.K, hD⟩, hS.F ht⟩) hS.2.2 hdg (hlocks := C0.lk))
end HFR
