/-! a handler of the method's own, its class resolved at the first catch -/
set_option maxRecDepth 100000
section CT
variable {e : Env} {s : State} {f : JFrame} {a : Addr}
theorem go_link {E : CtlPost} {d : Bool} {acts : List Action} {Q : Handler → Pre} {x : ExceptionTableEntry} {t : List ExceptionTableEntry} {c : ClassId} {cell : Cell} {vm' : Vm} (hx : covers x f.pc = true) (h0 : x.catchType ≠ 0)
    (hg : (Jvm.resolveClass f.method.cls x.catchType).Gives e.toSetting s.vm (.ok c) vm') (hsz : vm'.classes.size ≤ s.vm.classes.size) (hcell : s.heap[a]? = some cell) (hobj : ∀ k, cell.vm ≠ .statics k)
    (hk : ∃ k, vm'.classes[cell.cls]? = some k) (hc : ∃ k, vm'.classes[c]? = some k) (hfit : vm'.assignable cell.cls c = true) :
    wp (findHandler.go f a (x :: t)) Q E e d acts s ↔ Q (.found x.handlerPc) d acts (s.setVm vm') := by
  simp only [covers] at hx
  obtain ⟨ha, ht⟩ := hg.op (op := VmOp.resolveClass f.method.cls x.catchType) rfl
  have hcell' : (s.setVm vm').heap[a]? = some cell := hcell
  simp [findHandler.go, hx, h0, ha, ht, hsz, hcell, hcell', hobj, hk, hc, hfit, VmOp.dirties, VmOp.acts]
theorem catch_step {r : List Frame} {pc : Nat} {s' : State} (hfind : ∀ (Q : Handler → Pre) (E : CtlPost) (d : Bool) (acts : List Action), wp (findHandler f a) Q E e d acts s ↔ Q (.found pc) d acts s') :
    (stepThrowing e s a (.java f :: r)).Is (s'.setFrames (.java { f with pc := pc, stack := [.ref a] } :: r)) [] := by
  simp only [stepThrowing, searchFrame, vmDo]
  generalize hr : Sem.go _ e false [] s = res
  obtain ⟨as, rfl, ha⟩ := Sem.eq_ok_of hr (a := Handler.found pc) (s' := s') (acts' := []) (by simp [hfind _ _ _ _])
  exact ⟨rfl, ha⟩
theorem caught_cold {tb : Tables} {target : State} {g : JFrame} {c : Code} {below : List Frame} {pc : Nat} {vm' : Vm} (h : At s g.method c below)
    (hfind : ∀ (Q : Handler → Pre) (E : CtlPost) (d : Bool) (acts : List Action), wp (findHandler g a) Q E e d acts ((s.setTop g).pushFrame (.throwing a)) ↔ Q (.found pc) d acts (((s.setTop g).pushFrame (.throwing a)).setVm vm'))
    (hrest : Steps tb e below ((s.setVm vm').setTop { g with pc := pc, stack := [.ref a] }) target) : Steps tb e below ((s.setTop g).pushFrame (.throwing a)) target := by
  obtain ⟨hgo, hw⟩ := h.throwing a
  refine Steps.head hgo hw ?_
  rw [stepThread_throwing (frames_entered h.top _), (catch_step (s := (s.setTop g).pushFrame (.throwing a)) hfind).1]
  obtain ⟨g₀, hg⟩ := Option.isSome_iff_exists.mp h.top
  obtain ⟨r, hr⟩ := State.topJava?_eq_some.mp hg
  have hr' : (s.setVm vm').frames = .java g₀ :: r := hr
  have e1 : (((s.setTop g).pushFrame (.throwing a)).setVm vm') = ((s.setVm vm').setFrames (.throwing a :: (s.setFrames (.java g :: r)).frames)) := by
    rw [State.pushFrame, State.setTop_of_frames _ hr, State.setFrames_setFrames]
    rfl
  rw [e1, State.setFrames_setFrames]
  rw [State.setTop_of_frames _ hr'] at hrest
  rw [hr]
  exact hrest
end CT
section CS
variable {p : Program} {l : Launch} {e : Env} {R : Room} {s : State} {m : MethodId} {args : Array Value} {below : List Frame} {meth : Method} {c : Code} {T : State} {locs : List Loc} {cells slots : Nat}
/-- the exception is caught by the first entry, whose class is linked -/
theorem catch_first (X : Stand p l e R s m args below meth c T locs cells slots) {own name : String} (hown : s.vm.findClass own = some m.cls) {x : ExceptionTableEntry} {rest : List ExceptionTableEntry} (hlink : (Cond.classLink own x.catchType name).before args s = true) (ht : c.exceptionTable.toList = x :: rest)
    {g : JFrame} (hg : g.method = m) (hx : covers x g.pc = true) (h0 : x.catchType ≠ 0) {a : Addr} {cell : Cell} {cT : ClassId} {ks : Class} (hcell : T.heap[a]? = some cell) (hobj : ∀ k, cell.vm ≠ .statics k) (hks : s.vm.classes[cell.cls]? = some ks) (hcT : s.vm.findClass name = some cT) (hasg : s.vm.assignable cell.cls cT = true) :
    ∃ vm', Stand p l e R s m args below meth c (T.setVm vm') locs cells slots ∧ ∀ target, Steps p.tables e below ((T.setVm vm').setTop { g with pc := x.handlerPc, stack := [.ref a] }) target → Steps p.tables e below ((T.setTop g).pushFrame (.throwing a)) target := by
  have hpl : e.platform.magicAccessors = ({} : Platform).magicAccessors := by rw [X.admits.platform]
  obtain ⟨c', hc', hcl⟩ := Cond.classLink_spec hown hlink e.platform hpl
  cases hcT.symm.trans hc'
  obtain ⟨dk, _, _, kt, hd, _, _, _, _, hkt, _, hopen⟩ := hcl.here
  have hcl₀ := X.warmed.classLinks hcl
  have hW' : s.WarmedH (T.vm.noted m.cls x.catchType (.cls cT)) := X.warmed.noted hd hopen (State.rightAt_cls hcl)
  obtain ⟨ks', hks', -⟩ := hW'.alike.2.2 _ _ hks
  obtain ⟨kt', hkt', -⟩ := hW'.alike.2.2 _ _ hkt
  refine ⟨_, X.noted hW', fun target hrest => ?_⟩
  subst hg
  have hat : At T g.method c below := X.here
  obtain ⟨methH, hmH, hcH⟩ : ∃ meth', T.vm.method? g.method = some meth' ∧ meth'.code = some c := by
    have := hat.code
    rw [State.code?_eq] at this
    cases hmm : T.vm.method? g.method with
    | none => rw [hmm] at this; cases this
    | some mm => rw [hmm] at this; exact ⟨mm, rfl, this⟩
  refine caught_cold (vm' := T.vm.noted g.method.cls x.catchType (.cls cT)) hat (fun Q E d acts => ?_) hrest
  have hvm := Stand.throwing_vm T g a
  have hhp := Stand.throwing_heap T g a
  rw [W.findHandler_eq (meth := methH) (code := c) (by rw [hvm]; exact hmH) hcH, ht]
  exact go_link hx h0 (by rw [hvm]; exact resolveClass_links e.toSetting hcl₀) (by rw [hvm, Vm.size_note]; exact Nat.le_refl _) (by rw [hhp]; exact hcell) hobj ⟨_, hks'⟩ ⟨_, hkt'⟩ (by rw [hW'.alike.assignable]; exact hasg)
end CS
