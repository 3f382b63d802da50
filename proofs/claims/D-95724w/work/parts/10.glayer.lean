/-! THE JUDGEMENT G: a walk's goal; the heap, its world, the locals are folded in. Rows g_..: one an instruction. -/
set_option maxRecDepth 100000
/-- the locals as a list by place (none: not known) -/
def gL : Nat → List (Option Value) → List (Nat × Value)
  | _, [] => []
  | i, none :: t => gL (i + 1) t
  | i, some v :: t => (i, v) :: gL (i + 1) t
theorem gL_mem : ∀ (L : List (Option Value)) (o : Nat) (q : Nat × Value), q ∈ gL o L ↔ ∃ j : Nat, L[j]? = some (some q.2) ∧ q.1 = o + j := by
  intro L
  induction L with
  | nil => intro o q; simp [gL]
  | cons a t ih =>
    intro o q
    cases a with
    | none =>
      rw [gL, ih]
      constructor
      · rintro ⟨j, h1, h2⟩
        exact ⟨j + 1, by simpa using h1, by omega⟩
      · rintro ⟨j, h1, h2⟩
        cases j with
        | zero => simp at h1
        | succ j => exact ⟨j, by simpa using h1, by omega⟩
    | some v =>
      rw [gL, List.mem_cons, ih]
      constructor
      · rintro (h | ⟨j, h1, h2⟩)
        · exact ⟨0, by rw [h]; simp, by rw [h]; simp⟩
        · exact ⟨j + 1, by simpa using h1, by omega⟩
      · rintro ⟨j, h1, h2⟩
        cases j with
        | zero =>
          left
          simp at h1
          obtain ⟨q1, q2⟩ := q
          simp at h1 h2
          rw [h1, h2]
        | succ j => exact Or.inr ⟨j, by simpa using h1, by omega⟩
theorem gL_at {ls : Array Slot} {nL : Nat} {L : List (Option Value)} (h : lv_has ls nL (gL 0 L)) {i : Nat} {v : Value} (hi : L[i]? = some (some v)) : ls[i]? = some (.val v) :=
  h.2.2 (i, v) ((gL_mem L 0 (i, v)).mpr ⟨i, hi, by simp⟩)
/-- no long stands just ahead of place i -/
def gFree (L : List (Option Value)) (i : Nat) : Bool := match i with
  | 0 => true
  | j + 1 => match L[j]? with
    | some (some v) => v.category == 1
    | _ => true
theorem gL_store1 {ls : Array Slot} {nL : Nat} {L : List (Option Value)} {i : Nat} {v : Value} (hf : gFree L i = true) (h : lv_has ls nL ((i, v) :: (gL 0 L).filter (fun q => !(q.1 == i) && !(q.1 + 1 == i && q.2.category == 2)))) : lv_has ls nL (gL 0 (L.set i (some v))) := by
  refine ⟨h.1, h.2.1, fun q hq => h.2.2 q ?_⟩
  obtain ⟨j, h1, h2⟩ := (gL_mem _ 0 q).mp hq
  obtain ⟨q1, q2⟩ := q
  simp at h1 h2
  subst h2
  rw [List.getElem?_set] at h1
  by_cases hj : i = q1
  · subst hj
    rw [if_pos rfl] at h1
    split at h1
    · cases h1
      exact List.mem_cons_self
    · cases h1
  · rw [if_neg hj] at h1
    refine List.mem_cons_of_mem _ (List.mem_filter.mpr ⟨(gL_mem _ 0 _).mpr ⟨q1, h1, by simp⟩, ?_⟩)
    simp only [Bool.and_eq_true, Bool.not_eq_true', beq_eq_false_iff_ne, ne_eq, Bool.and_eq_false_iff]
    refine ⟨fun e => hj e.symm, ?_⟩
    by_cases hz : q1 + 1 = i
    · right
      subst hz
      simp only [gFree, h1, beq_iff_eq] at hf
      omega
    · exact Or.inl hz
theorem gL_store2 {ls : Array Slot} {nL : Nat} {L : List (Option Value)} {i : Nat} {v : Value} (hf : gFree L i = true) (h : lv_has ls nL ((i, v) :: (gL 0 L).filter (fun q => !(q.1 == i) && (!(q.1 == i + 1) && !(q.1 + 1 == i && q.2.category == 2))))) : lv_has ls nL (gL 0 ((L.set i (some v)).set (i + 1) none)) := by
  refine ⟨h.1, h.2.1, fun q hq => h.2.2 q ?_⟩
  obtain ⟨j, h1, h2⟩ := (gL_mem _ 0 q).mp hq
  obtain ⟨q1, q2⟩ := q
  simp at h1 h2
  subst h2
  rw [List.getElem?_set] at h1
  by_cases hk : i + 1 = q1
  · rw [if_pos hk] at h1
    split at h1 <;> cases h1
  rw [if_neg hk, List.getElem?_set] at h1
  by_cases hj : i = q1
  · subst hj
    rw [if_pos rfl] at h1
    split at h1
    · cases h1
      exact List.mem_cons_self
    · cases h1
  · rw [if_neg hj] at h1
    refine List.mem_cons_of_mem _ (List.mem_filter.mpr ⟨(gL_mem _ 0 _).mpr ⟨q1, h1, by simp⟩, ?_⟩)
    simp only [Bool.and_eq_true, Bool.not_eq_true', beq_eq_false_iff_ne, ne_eq, Bool.and_eq_false_iff]
    refine ⟨fun e => hj e.symm, fun e => hk e.symm, ?_⟩
    by_cases hz : q1 + 1 = i
    · right
      subst hz
      simp only [gFree, h1, beq_iff_eq] at hf
      omega
    · exact Or.inl hz
/-- what is fixed all through a method's walk -/
def gC (p : Program) (s : State) (m : MethodId) (args : Array Value) (meth : Method) (c : Code) (D : va_G) (cl : List vw_C) (tys : List (ClassId × FieldType)) (A : Nat → Prop) (nL : Nat) (cc : ByteArray) (own : String) (ret : Option FieldType) : Prop :=
  p.tables.exec = Jvm.exec ∧ c.code = cc ∧ c.maxLocals = nL ∧ s.vm.findClass own = some m.cls ∧ (∀ w ∈ lw_all, w.before args s = true) ∧ va_K D cl tys s ∧ (∀ q : Nat, s.heap.size ≤ q → A q) ∧ meth.sig.returnType = ret ∧ meth.locks = false
section GC
variable {p : Program} {s : State} {m : MethodId} {args : Array Value} {meth : Method} {c : Code} {D : va_G} {cl : List vw_C} {tys : List (ClassId × FieldType)} {A : Nat → Prop} {nL : Nat} {cc : ByteArray} {own : String} {ret : Option FieldType}
theorem gC.x (h : gC p s m args meth c D cl tys A nL cc own ret) : p.tables.exec = Jvm.exec := h.1
theorem gC.b (h : gC p s m args meth c D cl tys A nL cc own ret) : c.code = cc := h.2.1
theorem gC.ml (h : gC p s m args meth c D cl tys A nL cc own ret) : c.maxLocals = nL := h.2.2.1
theorem gC.ow (h : gC p s m args meth c D cl tys A nL cc own ret) : s.vm.findClass own = some m.cls := h.2.2.2.1
theorem gC.ts (h : gC p s m args meth c D cl tys A nL cc own ret) : ∀ w ∈ lw_all, w.before args s = true := h.2.2.2.2.1
theorem gC.K (h : gC p s m args meth c D cl tys A nL cc own ret) : va_K D cl tys s := h.2.2.2.2.2.1
theorem gC.al (h : gC p s m args meth c D cl tys A nL cc own ret) : ∀ q : Nat, s.heap.size ≤ q → A q := h.2.2.2.2.2.2.1
theorem gC.r (h : gC p s m args meth c D cl tys A nL cc own ret) : meth.sig.returnType = ret := h.2.2.2.2.2.2.2.1
theorem gC.lk (h : gC p s m args meth c D cl tys A nL cc own ret) : meth.locks = false := h.2.2.2.2.2.2.2.2
end GC
/-- THE JUDGEMENT: with the world ws in the heap, k cells of n slots made, at pc, with the locals L and the stack st, the machine comes to Q -/
def G (p : Program) (l : Launch) (e : Env) (R : Room) (s : State) (m : MethodId) (args : Array Value) (below : List Frame) (meth : Method) (c : Code) (Q : State → Prop) (D : va_G) (cl : List vw_C) (A : Nat → Prop) (nL : Nat) (ws : va_W) (k n : Nat) (pc : Nat) (L : List (Option Value)) (st : List Value) : Prop :=
  ∀ (H : Heap) (locs : List Loc) (ls : Array Slot), va_P D cl ws H → va_D A ws → va_S A s.heap H locs → lv_has ls nL (gL 0 L) → W p l e R s m args below meth c H locs k n Q (F0 m pc ls st)
section GR
variable {p : Program} {l : Launch} {e : Env} {R : Room} {s : State} {m : MethodId} {args : Array Value} {below : List Frame} {meth : Method} {c : Code} {Q : State → Prop} {D : va_G} {cl : List vw_C} {tys : List (ClassId × FieldType)} {A : Nat → Prop} {nL : Nat} {cc : ByteArray} {own : String} {ret : Option FieldType} {ws : va_W} {k n pc : Nat} {L : List (Option Value)} {st : List Value}
theorem G.wsE {ws' : va_W} (h : ws = ws') (g : G p l e R s m args below meth c Q D cl A nL ws' k n pc L st) : G p l e R s m args below meth c Q D cl A nL ws k n pc L st := h ▸ g
theorem G.lE {L' : List (Option Value)} (h : L = L') (g : G p l e R s m args below meth c Q D cl A nL ws k n pc L' st) : G p l e R s m args below meth c Q D cl A nL ws k n pc L st := h ▸ g
theorem G.stE {st' : List Value} (h : st = st') (g : G p l e R s m args below meth c Q D cl A nL ws k n pc L st') : G p l e R s m args below meth c Q D cl A nL ws k n pc L st := h ▸ g
/-- fewer known locals -/
def gLe : List (Option Value) → List (Option Value) → Prop := fun L' L => ∀ (i : Nat) (v : Value), L'[i]? = some (some v) → L[i]? = some (some v)
theorem G.weak {L' : List (Option Value)} (h : gLe L' L) (g : G p l e R s m args below meth c Q D cl A nL ws k n pc L' st) : G p l e R s m args below meth c Q D cl A nL ws k n pc L st :=
  fun H locs ls hP hD hS hl => g H locs ls hP hD hS ⟨hl.1, hl.2.1, fun q hq => by
    obtain ⟨j, h1, h2⟩ := (gL_mem _ 0 q).mp hq
    exact hl.2.2 q ((gL_mem _ 0 q).mpr ⟨j, h _ _ h1, h2⟩)⟩
theorem G.forget (i : Nat) (g : G p l e R s m args below meth c Q D cl A nL ws k n pc (L.set i none) st) : G p l e R s m args below meth c Q D cl A nL ws k n pc L st :=
  G.weak (fun j v h => by
    rw [List.getElem?_set] at h
    split at h
    · split at h <;> cases h
    · exact h) g
theorem G.widen {k' n' : Nat} (h1 : k ≤ k') (h2 : n ≤ n') (g : G p l e R s m args below meth c Q D cl A nL ws k' n' pc L st) : G p l e R s m args below meth c Q D cl A nL ws k n pc L st :=
  fun H locs ls hP hD hS hl => W.widen h1 h2 (g H locs ls hP hD hS hl)

theorem g_iconst {v : Int32} {z : Int} (C0 : gC p s m args meth c D cl tys A nL cc own ret) (hdg : decode cc pc = .ok (.iconst z, 1)) (hv : Int32.ofInt z = v) (g : G p l e R s m args below meth c Q D cl A nL ws k n (pc + 1) L (.int v :: st)) : G p l e R s m args below meth c Q D cl A nL ws k n pc L st := by
  intro H locs ls hP hD hS hl
  exact lv_iconst C0.x C0.b hdg hv (g H locs ls hP hD hS hl)

theorem g_bipush {v : Int32} {z : Int} (C0 : gC p s m args meth c D cl tys A nL cc own ret) (hdg : decode cc pc = .ok (.bipush z, 2)) (hv : (Int8.ofInt z).toInt32 = v) (g : G p l e R s m args below meth c Q D cl A nL ws k n (pc + 2) L (.int v :: st)) : G p l e R s m args below meth c Q D cl A nL ws k n pc L st := by
  intro H locs ls hP hD hS hl
  exact lv_bipush C0.x C0.b hdg hv (g H locs ls hP hD hS hl)

theorem g_sipush {v : Int32} {z : Int} (C0 : gC p s m args meth c D cl tys A nL cc own ret) (hdg : decode cc pc = .ok (.sipush z, 3)) (hv : (Int16.ofInt z).toInt32 = v) (g : G p l e R s m args below meth c Q D cl A nL ws k n (pc + 3) L (.int v :: st)) : G p l e R s m args below meth c Q D cl A nL ws k n pc L st := by
  intro H locs ls hP hD hS hl
  exact lv_sipush C0.x C0.b hdg hv (g H locs ls hP hD hS hl)

theorem g_lconst {v : Int64} {z : Fin 2} (C0 : gC p s m args meth c D cl tys A nL cc own ret) (hdg : decode cc pc = .ok (.lconst z, 1)) (hv : Int64.ofNat (z : Nat) = v) (g : G p l e R s m args below meth c Q D cl A nL ws k n (pc + 1) L (.long v :: st)) : G p l e R s m args below meth c Q D cl A nL ws k n pc L st := by
  intro H locs ls hP hD hS hl
  exact lv_lconst C0.x C0.b hdg hv (g H locs ls hP hD hS hl)

theorem g_ldc {v : Int32} {ix : Nat} (C0 : gC p s m args meth c D cl tys A nL cc own ret) (hq : Jvm.Cond.constant own ix v ∈ lw_all) (hdg : decode cc pc = .ok (.ldc ix, 2)) (g : G p l e R s m args below meth c Q D cl A nL ws k n (pc + 2) L (.int v :: st)) : G p l e R s m args below meth c Q D cl A nL ws k n pc L st := by
  intro H locs ls hP hD hS hl
  exact lv_ldc C0.x C0.b C0.ow (C0.ts _ hq) hdg (g H locs ls hP hD hS hl)

theorem g_ldcw {v : Int32} {ix : Nat} (C0 : gC p s m args meth c D cl tys A nL cc own ret) (hq : Jvm.Cond.constant own ix v ∈ lw_all) (hdg : decode cc pc = .ok (.ldc_w ix, 3)) (g : G p l e R s m args below meth c Q D cl A nL ws k n (pc + 3) L (.int v :: st)) : G p l e R s m args below meth c Q D cl A nL ws k n pc L st := by
  intro H locs ls hP hD hS hl
  exact lv_ldcw C0.x C0.b C0.ow (C0.ts _ hq) hdg (g H locs ls hP hD hS hl)

theorem g_ldc2 {v : Int64} {ix : Nat} (C0 : gC p s m args meth c D cl tys A nL cc own ret) (hq : Jvm.Cond.constantLong own ix v ∈ lw_all) (hdg : decode cc pc = .ok (.ldc2_w ix, 3)) (g : G p l e R s m args below meth c Q D cl A nL ws k n (pc + 3) L (.long v :: st)) : G p l e R s m args below meth c Q D cl A nL ws k n pc L st := by
  intro H locs ls hP hD hS hl
  exact lv_ldc2 C0.x C0.b C0.ow (C0.ts _ hq) hdg (g H locs ls hP hD hS hl)

theorem g_iload (i : Nat) {x : Int32} (C0 : gC p s m args meth c D cl tys A nL cc own ret) (hi : L[i]? = some (some (.int x))) (hdg : decode cc pc = .ok (.iload i, 2)) (g : G p l e R s m args below meth c Q D cl A nL ws k n (pc + 2) L (.int x :: st)) : G p l e R s m args below meth c Q D cl A nL ws k n pc L st := by
  intro H locs ls hP hD hS hl
  exact lv_iload C0.x C0.b hdg (gL_at hl hi) (g H locs ls hP hD hS hl)

theorem g_iload_n (i : Nat) {j : Fin 4} {x : Int32} (C0 : gC p s m args meth c D cl tys A nL cc own ret) (hi : L[i]? = some (some (.int x))) (hdg : decode cc pc = .ok (.iload_n j, 1)) (hj : (j : Nat) = i) (g : G p l e R s m args below meth c Q D cl A nL ws k n (pc + 1) L (.int x :: st)) : G p l e R s m args below meth c Q D cl A nL ws k n pc L st := by
  intro H locs ls hP hD hS hl
  exact lv_iload_n C0.x C0.b hdg hj (gL_at hl hi) (g H locs ls hP hD hS hl)

theorem g_lload (i : Nat) {x : Int64} (C0 : gC p s m args meth c D cl tys A nL cc own ret) (hi : L[i]? = some (some (.long x))) (hdg : decode cc pc = .ok (.lload i, 2)) (g : G p l e R s m args below meth c Q D cl A nL ws k n (pc + 2) L (.long x :: st)) : G p l e R s m args below meth c Q D cl A nL ws k n pc L st := by
  intro H locs ls hP hD hS hl
  exact lv_lload C0.x C0.b hdg (gL_at hl hi) (g H locs ls hP hD hS hl)

theorem g_lload_n (i : Nat) {j : Fin 4} {x : Int64} (C0 : gC p s m args meth c D cl tys A nL cc own ret) (hi : L[i]? = some (some (.long x))) (hdg : decode cc pc = .ok (.lload_n j, 1)) (hj : (j : Nat) = i) (g : G p l e R s m args below meth c Q D cl A nL ws k n (pc + 1) L (.long x :: st)) : G p l e R s m args below meth c Q D cl A nL ws k n pc L st := by
  intro H locs ls hP hD hS hl
  exact lv_lload_n C0.x C0.b hdg hj (gL_at hl hi) (g H locs ls hP hD hS hl)

theorem g_aload (i : Nat) {x : Nat} (C0 : gC p s m args meth c D cl tys A nL cc own ret) (hi : L[i]? = some (some (.ref x))) (hdg : decode cc pc = .ok (.aload i, 2)) (g : G p l e R s m args below meth c Q D cl A nL ws k n (pc + 2) L (.ref x :: st)) : G p l e R s m args below meth c Q D cl A nL ws k n pc L st := by
  intro H locs ls hP hD hS hl
  exact lv_aload C0.x C0.b hdg (gL_at hl hi) (g H locs ls hP hD hS hl)

theorem g_aload_n (i : Nat) {j : Fin 4} {x : Nat} (C0 : gC p s m args meth c D cl tys A nL cc own ret) (hi : L[i]? = some (some (.ref x))) (hdg : decode cc pc = .ok (.aload_n j, 1)) (hj : (j : Nat) = i) (g : G p l e R s m args below meth c Q D cl A nL ws k n (pc + 1) L (.ref x :: st)) : G p l e R s m args below meth c Q D cl A nL ws k n pc L st := by
  intro H locs ls hP hD hS hl
  exact lv_aload_n C0.x C0.b hdg hj (gL_at hl hi) (g H locs ls hP hD hS hl)

theorem g_istore (i : Nat) {x : Int32} (C0 : gC p s m args meth c D cl tys A nL cc own ret) {L1 : List (Option Value)} (hf : gFree L i = true) (hn : i < nL) (hdg : decode cc pc = .ok (.istore i, 2)) (hL : L.set i (some (.int x)) = L1) (g : G p l e R s m args below meth c Q D cl A nL ws k n (pc + 2) L1 st) : G p l e R s m args below meth c Q D cl A nL ws k n pc L (.int x :: st) := by
  intro H locs ls hP hD hS hl
  exact lv_istore C0.x C0.b hdg hl hn rfl (fun ls' hl' => g H locs ls' hP hD hS (hL ▸ gL_store1 hf hl'))

theorem g_istore_n (i : Nat) {j : Fin 4} {x : Int32} (C0 : gC p s m args meth c D cl tys A nL cc own ret) {L1 : List (Option Value)} (hf : gFree L i = true) (hn : i < nL) (hdg : decode cc pc = .ok (.istore_n j, 1)) (hj : (j : Nat) = i) (hL : L.set i (some (.int x)) = L1) (g : G p l e R s m args below meth c Q D cl A nL ws k n (pc + 1) L1 st) : G p l e R s m args below meth c Q D cl A nL ws k n pc L (.int x :: st) := by
  intro H locs ls hP hD hS hl
  exact lv_istore_n C0.x C0.b hdg hj hl hn rfl (fun ls' hl' => g H locs ls' hP hD hS (hL ▸ gL_store1 hf hl'))

theorem g_astore (i : Nat) {x : Nat} (C0 : gC p s m args meth c D cl tys A nL cc own ret) {L1 : List (Option Value)} (hf : gFree L i = true) (hn : i < nL) (hdg : decode cc pc = .ok (.astore i, 2)) (hL : L.set i (some (.ref x)) = L1) (g : G p l e R s m args below meth c Q D cl A nL ws k n (pc + 2) L1 st) : G p l e R s m args below meth c Q D cl A nL ws k n pc L (.ref x :: st) := by
  intro H locs ls hP hD hS hl
  exact lv_astore C0.x C0.b hdg hl hn rfl (fun ls' hl' => g H locs ls' hP hD hS (hL ▸ gL_store1 hf hl'))

theorem g_astore_n (i : Nat) {j : Fin 4} {x : Nat} (C0 : gC p s m args meth c D cl tys A nL cc own ret) {L1 : List (Option Value)} (hf : gFree L i = true) (hn : i < nL) (hdg : decode cc pc = .ok (.astore_n j, 1)) (hj : (j : Nat) = i) (hL : L.set i (some (.ref x)) = L1) (g : G p l e R s m args below meth c Q D cl A nL ws k n (pc + 1) L1 st) : G p l e R s m args below meth c Q D cl A nL ws k n pc L (.ref x :: st) := by
  intro H locs ls hP hD hS hl
  exact lv_astore_n C0.x C0.b hdg hj hl hn rfl (fun ls' hl' => g H locs ls' hP hD hS (hL ▸ gL_store1 hf hl'))

theorem g_iinc (i : Nat) {z : Int} {x v : Int32} (C0 : gC p s m args meth c D cl tys A nL cc own ret) (hi : L[i]? = some (some (.int x))) (hf : gFree L i = true) (hn : i < nL) (hdg : decode cc pc = .ok (.iinc i z, 3)) (hv : x + Int32.ofInt z = v) {L1 : List (Option Value)} (hL : L.set i (some (.int v)) = L1) (g : G p l e R s m args below meth c Q D cl A nL ws k n (pc + 3) L1 st) : G p l e R s m args below meth c Q D cl A nL ws k n pc L st := by
  intro H locs ls hP hD hS hl
  exact by
    obtain ⟨k0, hk0⟩ := List.getElem?_of_mem ((gL_mem L 0 (i, .int x)).mpr ⟨i, hi, by simp⟩)
    exact lv_iinc C0.x C0.b hdg hl hk0 hv hn rfl (fun ls' hl' => g H locs ls' hP hD hS (hL ▸ gL_store1 hf hl'))

theorem g_iadd {x y : Int32} (C0 : gC p s m args meth c D cl tys A nL cc own ret) (hdg : decode cc pc = .ok (.iadd, 1)) (g : G p l e R s m args below meth c Q D cl A nL ws k n (pc + 1) L (.int (x + y) :: st)) : G p l e R s m args below meth c Q D cl A nL ws k n pc L (.int y :: .int x :: st) := by
  intro H locs ls hP hD hS hl
  exact lv_iadd C0.x C0.b hdg (g H locs ls hP hD hS hl)

theorem g_isub {x y : Int32} (C0 : gC p s m args meth c D cl tys A nL cc own ret) (hdg : decode cc pc = .ok (.isub, 1)) (g : G p l e R s m args below meth c Q D cl A nL ws k n (pc + 1) L (.int (x - y) :: st)) : G p l e R s m args below meth c Q D cl A nL ws k n pc L (.int y :: .int x :: st) := by
  intro H locs ls hP hD hS hl
  exact lv_isub C0.x C0.b hdg (g H locs ls hP hD hS hl)

theorem g_imul {x y : Int32} (C0 : gC p s m args meth c D cl tys A nL cc own ret) (hdg : decode cc pc = .ok (.imul, 1)) (g : G p l e R s m args below meth c Q D cl A nL ws k n (pc + 1) L (.int (x * y) :: st)) : G p l e R s m args below meth c Q D cl A nL ws k n pc L (.int y :: .int x :: st) := by
  intro H locs ls hP hD hS hl
  exact lv_imul C0.x C0.b hdg (g H locs ls hP hD hS hl)

theorem g_iand {x y : Int32} (C0 : gC p s m args meth c D cl tys A nL cc own ret) (hdg : decode cc pc = .ok (.iand, 1)) (g : G p l e R s m args below meth c Q D cl A nL ws k n (pc + 1) L (.int (x &&& y) :: st)) : G p l e R s m args below meth c Q D cl A nL ws k n pc L (.int y :: .int x :: st) := by
  intro H locs ls hP hD hS hl
  exact lv_iand C0.x C0.b hdg (g H locs ls hP hD hS hl)

theorem g_ior {x y : Int32} (C0 : gC p s m args meth c D cl tys A nL cc own ret) (hdg : decode cc pc = .ok (.ior, 1)) (g : G p l e R s m args below meth c Q D cl A nL ws k n (pc + 1) L (.int (x ||| y) :: st)) : G p l e R s m args below meth c Q D cl A nL ws k n pc L (.int y :: .int x :: st) := by
  intro H locs ls hP hD hS hl
  exact lv_ior C0.x C0.b hdg (g H locs ls hP hD hS hl)

theorem g_ixor {x y : Int32} (C0 : gC p s m args meth c D cl tys A nL cc own ret) (hdg : decode cc pc = .ok (.ixor, 1)) (g : G p l e R s m args below meth c Q D cl A nL ws k n (pc + 1) L (.int (x ^^^ y) :: st)) : G p l e R s m args below meth c Q D cl A nL ws k n pc L (.int y :: .int x :: st) := by
  intro H locs ls hP hD hS hl
  exact lv_ixor C0.x C0.b hdg (g H locs ls hP hD hS hl)

theorem g_ishl {x y : Int32} (C0 : gC p s m args meth c D cl tys A nL cc own ret) (hdg : decode cc pc = .ok (.ishl, 1)) (g : G p l e R s m args below meth c Q D cl A nL ws k n (pc + 1) L (.int (x <<< (y &&& 31)) :: st)) : G p l e R s m args below meth c Q D cl A nL ws k n pc L (.int y :: .int x :: st) := by
  intro H locs ls hP hD hS hl
  exact lv_ishl C0.x C0.b hdg (g H locs ls hP hD hS hl)

theorem g_ishr {x y : Int32} (C0 : gC p s m args meth c D cl tys A nL cc own ret) (hdg : decode cc pc = .ok (.ishr, 1)) (g : G p l e R s m args below meth c Q D cl A nL ws k n (pc + 1) L (.int (x >>> (y &&& 31)) :: st)) : G p l e R s m args below meth c Q D cl A nL ws k n pc L (.int y :: .int x :: st) := by
  intro H locs ls hP hD hS hl
  exact lv_ishr C0.x C0.b hdg (g H locs ls hP hD hS hl)

theorem g_idiv {x y : Int32} (C0 : gC p s m args meth c D cl tys A nL cc own ret) (hne : ¬ y = 0) (hdg : decode cc pc = .ok (.idiv, 1)) (g : G p l e R s m args below meth c Q D cl A nL ws k n (pc + 1) L (.int (x / y) :: st)) : G p l e R s m args below meth c Q D cl A nL ws k n pc L (.int y :: .int x :: st) := by
  intro H locs ls hP hD hS hl
  exact lv_idiv C0.x C0.b hdg hne (g H locs ls hP hD hS hl)

theorem g_irem {x y : Int32} (C0 : gC p s m args meth c D cl tys A nL cc own ret) (hne : ¬ y = 0) (hdg : decode cc pc = .ok (.irem, 1)) (g : G p l e R s m args below meth c Q D cl A nL ws k n (pc + 1) L (.int (x - x / y * y) :: st)) : G p l e R s m args below meth c Q D cl A nL ws k n pc L (.int y :: .int x :: st) := by
  intro H locs ls hP hD hS hl
  exact lv_irem C0.x C0.b hdg hne (g H locs ls hP hD hS hl)

theorem g_ineg {x : Int32} (C0 : gC p s m args meth c D cl tys A nL cc own ret) (hdg : decode cc pc = .ok (.ineg, 1)) (g : G p l e R s m args below meth c Q D cl A nL ws k n (pc + 1) L (.int (-x) :: st)) : G p l e R s m args below meth c Q D cl A nL ws k n pc L (.int x :: st) := by
  intro H locs ls hP hD hS hl
  exact lv_ineg C0.x C0.b hdg (g H locs ls hP hD hS hl)

theorem g_ladd {x y : Int64} (C0 : gC p s m args meth c D cl tys A nL cc own ret) (hdg : decode cc pc = .ok (.ladd, 1)) (g : G p l e R s m args below meth c Q D cl A nL ws k n (pc + 1) L (.long (x + y) :: st)) : G p l e R s m args below meth c Q D cl A nL ws k n pc L (.long y :: .long x :: st) := by
  intro H locs ls hP hD hS hl
  exact lv_ladd C0.x C0.b hdg (g H locs ls hP hD hS hl)

theorem g_lsub {x y : Int64} (C0 : gC p s m args meth c D cl tys A nL cc own ret) (hdg : decode cc pc = .ok (.lsub, 1)) (g : G p l e R s m args below meth c Q D cl A nL ws k n (pc + 1) L (.long (x - y) :: st)) : G p l e R s m args below meth c Q D cl A nL ws k n pc L (.long y :: .long x :: st) := by
  intro H locs ls hP hD hS hl
  exact lv_lsub C0.x C0.b hdg (g H locs ls hP hD hS hl)

theorem g_lmul {x y : Int64} (C0 : gC p s m args meth c D cl tys A nL cc own ret) (hdg : decode cc pc = .ok (.lmul, 1)) (g : G p l e R s m args below meth c Q D cl A nL ws k n (pc + 1) L (.long (x * y) :: st)) : G p l e R s m args below meth c Q D cl A nL ws k n pc L (.long y :: .long x :: st) := by
  intro H locs ls hP hD hS hl
  exact lv_lmul C0.x C0.b hdg (g H locs ls hP hD hS hl)

theorem g_land {x y : Int64} (C0 : gC p s m args meth c D cl tys A nL cc own ret) (hdg : decode cc pc = .ok (.land, 1)) (g : G p l e R s m args below meth c Q D cl A nL ws k n (pc + 1) L (.long (x &&& y) :: st)) : G p l e R s m args below meth c Q D cl A nL ws k n pc L (.long y :: .long x :: st) := by
  intro H locs ls hP hD hS hl
  exact lv_land C0.x C0.b hdg (g H locs ls hP hD hS hl)

theorem g_lor {x y : Int64} (C0 : gC p s m args meth c D cl tys A nL cc own ret) (hdg : decode cc pc = .ok (.lor, 1)) (g : G p l e R s m args below meth c Q D cl A nL ws k n (pc + 1) L (.long (x ||| y) :: st)) : G p l e R s m args below meth c Q D cl A nL ws k n pc L (.long y :: .long x :: st) := by
  intro H locs ls hP hD hS hl
  exact lv_lor C0.x C0.b hdg (g H locs ls hP hD hS hl)

theorem g_ldiv {x y : Int64} (C0 : gC p s m args meth c D cl tys A nL cc own ret) (hne : ¬ y = 0) (hdg : decode cc pc = .ok (.ldiv, 1)) (g : G p l e R s m args below meth c Q D cl A nL ws k n (pc + 1) L (.long (x / y) :: st)) : G p l e R s m args below meth c Q D cl A nL ws k n pc L (.long y :: .long x :: st) := by
  intro H locs ls hP hD hS hl
  exact lv_ldiv C0.x C0.b hdg hne (g H locs ls hP hD hS hl)

theorem g_lrem {x y : Int64} (C0 : gC p s m args meth c D cl tys A nL cc own ret) (hne : ¬ y = 0) (hdg : decode cc pc = .ok (.lrem, 1)) (g : G p l e R s m args below meth c Q D cl A nL ws k n (pc + 1) L (.long (x - x / y * y) :: st)) : G p l e R s m args below meth c Q D cl A nL ws k n pc L (.long y :: .long x :: st) := by
  intro H locs ls hP hD hS hl
  exact lv_lrem C0.x C0.b hdg hne (g H locs ls hP hD hS hl)

theorem g_lshl {x v : Int64} {y : Int32} (C0 : gC p s m args meth c D cl tys A nL cc own ret) (hdg : decode cc pc = .ok (.lshl, 1)) (hv : x <<< (y.toInt64 &&& 63) = v) (g : G p l e R s m args below meth c Q D cl A nL ws k n (pc + 1) L (.long v :: st)) : G p l e R s m args below meth c Q D cl A nL ws k n pc L (.int y :: .long x :: st) := by
  intro H locs ls hP hD hS hl
  exact lv_lshl C0.x C0.b hdg hv (g H locs ls hP hD hS hl)

theorem g_lshr {x v : Int64} {y : Int32} (C0 : gC p s m args meth c D cl tys A nL cc own ret) (hdg : decode cc pc = .ok (.lshr, 1)) (hv : x >>> (y.toInt64 &&& 63) = v) (g : G p l e R s m args below meth c Q D cl A nL ws k n (pc + 1) L (.long v :: st)) : G p l e R s m args below meth c Q D cl A nL ws k n pc L (.int y :: .long x :: st) := by
  intro H locs ls hP hD hS hl
  exact lv_lshr C0.x C0.b hdg hv (g H locs ls hP hD hS hl)

theorem g_lcmp {x y : Int64} (C0 : gC p s m args meth c D cl tys A nL cc own ret) (hdg : decode cc pc = .ok (.lcmp, 1)) (g : G p l e R s m args below meth c Q D cl A nL ws k n (pc + 1) L (.int (lg_cmp x y) :: st)) : G p l e R s m args below meth c Q D cl A nL ws k n pc L (.long y :: .long x :: st) := by
  intro H locs ls hP hD hS hl
  exact W.lcmp C0.x C0.b hdg (g H locs ls hP hD hS hl)

theorem g_i2l {x : Int32} {v : Int64} (C0 : gC p s m args meth c D cl tys A nL cc own ret) (hdg : decode cc pc = .ok (.i2l, 1)) (hv : x.toInt64 = v) (g : G p l e R s m args below meth c Q D cl A nL ws k n (pc + 1) L (.long v :: st)) : G p l e R s m args below meth c Q D cl A nL ws k n pc L (.int x :: st) := by
  intro H locs ls hP hD hS hl
  exact lv_i2l C0.x C0.b hdg hv (g H locs ls hP hD hS hl)

theorem g_l2i {x : Int64} {v : Int32} (C0 : gC p s m args meth c D cl tys A nL cc own ret) (hdg : decode cc pc = .ok (.l2i, 1)) (hv : x.toInt32 = v) (g : G p l e R s m args below meth c Q D cl A nL ws k n (pc + 1) L (.int v :: st)) : G p l e R s m args below meth c Q D cl A nL ws k n pc L (.long x :: st) := by
  intro H locs ls hP hD hS hl
  exact lv_l2i C0.x C0.b hdg hv (g H locs ls hP hD hS hl)

theorem g_i2b {x v : Int32} (C0 : gC p s m args meth c D cl tys A nL cc own ret) (hdg : decode cc pc = .ok (.i2b, 1)) (hv : x.toInt8.toInt32 = v) (g : G p l e R s m args below meth c Q D cl A nL ws k n (pc + 1) L (.int v :: st)) : G p l e R s m args below meth c Q D cl A nL ws k n pc L (.int x :: st) := by
  intro H locs ls hP hD hS hl
  exact lv_i2b C0.x C0.b hdg hv (g H locs ls hP hD hS hl)

theorem g_i2c {x v : Int32} (C0 : gC p s m args meth c D cl tys A nL cc own ret) (hdg : decode cc pc = .ok (.i2c, 1)) (hv : (x.toUInt32 % 65536).toInt32 = v) (g : G p l e R s m args below meth c Q D cl A nL ws k n (pc + 1) L (.int v :: st)) : G p l e R s m args below meth c Q D cl A nL ws k n pc L (.int x :: st) := by
  intro H locs ls hP hD hS hl
  exact lv_i2c C0.x C0.b hdg hv (g H locs ls hP hD hS hl)

theorem g_dup {a : Value} (C0 : gC p s m args meth c D cl tys A nL cc own ret) (hdg : decode cc pc = .ok (.dup, 1)) (ha : a.category = 1) (g : G p l e R s m args below meth c Q D cl A nL ws k n (pc + 1) L (a :: a :: st)) : G p l e R s m args below meth c Q D cl A nL ws k n pc L (a :: st) := by
  intro H locs ls hP hD hS hl
  exact lv_dup C0.x C0.b hdg ha (g H locs ls hP hD hS hl)

theorem g_pop {a : Value} (C0 : gC p s m args meth c D cl tys A nL cc own ret) (hdg : decode cc pc = .ok (.pop, 1)) (ha : a.category = 1) (g : G p l e R s m args below meth c Q D cl A nL ws k n (pc + 1) L st) : G p l e R s m args below meth c Q D cl A nL ws k n pc L (a :: st) := by
  intro H locs ls hP hD hS hl
  exact lv_pop C0.x C0.b hdg ha (g H locs ls hP hD hS hl)

theorem g_dup_x1 {a b : Value} (C0 : gC p s m args meth c D cl tys A nL cc own ret) (hdg : decode cc pc = .ok (.dup_x1, 1)) (ha : a.category = 1) (hb : b.category = 1) (g : G p l e R s m args below meth c Q D cl A nL ws k n (pc + 1) L (a :: b :: a :: st)) : G p l e R s m args below meth c Q D cl A nL ws k n pc L (a :: b :: st) := by
  intro H locs ls hP hD hS hl
  exact lv_dup_x1 C0.x C0.b hdg ha hb (g H locs ls hP hD hS hl)

theorem g_dup2 {a b : Value} (C0 : gC p s m args meth c D cl tys A nL cc own ret) (hdg : decode cc pc = .ok (.dup2, 1)) (ha : a.category = 1) (hb : b.category = 1) (g : G p l e R s m args below meth c Q D cl A nL ws k n (pc + 1) L (a :: b :: a :: b :: st)) : G p l e R s m args below meth c Q D cl A nL ws k n pc L (a :: b :: st) := by
  intro H locs ls hP hD hS hl
  exact lv_dup2_11 C0.x C0.b hdg ha hb (g H locs ls hP hD hS hl)

theorem g_if_eq {x : Int32} {off : Int} (tgt : Nat) (C0 : gC p s m args meth c D cl tys A nL cc own ret) (hdg : decode cc pc = .ok (.ifCond .eq off, 3)) (ht : (pc : Int) + off = (tgt : Int)) (kt : x = 0 → G p l e R s m args below meth c Q D cl A nL ws k n tgt L st) (kf : ¬ x = 0 → G p l e R s m args below meth c Q D cl A nL ws k n (pc + 3) L st) : G p l e R s m args below meth c Q D cl A nL ws k n pc L (.int x :: st) := by
  intro H locs ls hP hD hS hl
  exact lv_if_eq C0.x C0.b hdg ht (fun h => kt h H locs ls hP hD hS hl) (fun h => kf h H locs ls hP hD hS hl)

theorem g_icmp_eq {x y : Int32} {off : Int} (tgt : Nat) (C0 : gC p s m args meth c D cl tys A nL cc own ret) (hdg : decode cc pc = .ok (.if_icmp .eq off, 3)) (ht : (pc : Int) + off = (tgt : Int)) (kt : x = y → G p l e R s m args below meth c Q D cl A nL ws k n tgt L st) (kf : ¬ x = y → G p l e R s m args below meth c Q D cl A nL ws k n (pc + 3) L st) : G p l e R s m args below meth c Q D cl A nL ws k n pc L (.int y :: .int x :: st) := by
  intro H locs ls hP hD hS hl
  exact lv_icmp_eq C0.x C0.b hdg ht (fun h => kt h H locs ls hP hD hS hl) (fun h => kf h H locs ls hP hD hS hl)

theorem g_if_ne {x : Int32} {off : Int} (tgt : Nat) (C0 : gC p s m args meth c D cl tys A nL cc own ret) (hdg : decode cc pc = .ok (.ifCond .ne off, 3)) (ht : (pc : Int) + off = (tgt : Int)) (kt : ¬ x = 0 → G p l e R s m args below meth c Q D cl A nL ws k n tgt L st) (kf : x = 0 → G p l e R s m args below meth c Q D cl A nL ws k n (pc + 3) L st) : G p l e R s m args below meth c Q D cl A nL ws k n pc L (.int x :: st) := by
  intro H locs ls hP hD hS hl
  exact lv_if_ne C0.x C0.b hdg ht (fun h => kt h H locs ls hP hD hS hl) (fun h => kf h H locs ls hP hD hS hl)

theorem g_icmp_ne {x y : Int32} {off : Int} (tgt : Nat) (C0 : gC p s m args meth c D cl tys A nL cc own ret) (hdg : decode cc pc = .ok (.if_icmp .ne off, 3)) (ht : (pc : Int) + off = (tgt : Int)) (kt : ¬ x = y → G p l e R s m args below meth c Q D cl A nL ws k n tgt L st) (kf : x = y → G p l e R s m args below meth c Q D cl A nL ws k n (pc + 3) L st) : G p l e R s m args below meth c Q D cl A nL ws k n pc L (.int y :: .int x :: st) := by
  intro H locs ls hP hD hS hl
  exact lv_icmp_ne C0.x C0.b hdg ht (fun h => kt h H locs ls hP hD hS hl) (fun h => kf h H locs ls hP hD hS hl)

theorem g_if_lt {x : Int32} {off : Int} (tgt : Nat) (C0 : gC p s m args meth c D cl tys A nL cc own ret) (hdg : decode cc pc = .ok (.ifCond .lt off, 3)) (ht : (pc : Int) + off = (tgt : Int)) (kt : x < 0 → G p l e R s m args below meth c Q D cl A nL ws k n tgt L st) (kf : ¬ x < 0 → G p l e R s m args below meth c Q D cl A nL ws k n (pc + 3) L st) : G p l e R s m args below meth c Q D cl A nL ws k n pc L (.int x :: st) := by
  intro H locs ls hP hD hS hl
  exact lv_if_lt C0.x C0.b hdg ht (fun h => kt h H locs ls hP hD hS hl) (fun h => kf h H locs ls hP hD hS hl)

theorem g_icmp_lt {x y : Int32} {off : Int} (tgt : Nat) (C0 : gC p s m args meth c D cl tys A nL cc own ret) (hdg : decode cc pc = .ok (.if_icmp .lt off, 3)) (ht : (pc : Int) + off = (tgt : Int)) (kt : x < y → G p l e R s m args below meth c Q D cl A nL ws k n tgt L st) (kf : ¬ x < y → G p l e R s m args below meth c Q D cl A nL ws k n (pc + 3) L st) : G p l e R s m args below meth c Q D cl A nL ws k n pc L (.int y :: .int x :: st) := by
  intro H locs ls hP hD hS hl
  exact lv_icmp_lt C0.x C0.b hdg ht (fun h => kt h H locs ls hP hD hS hl) (fun h => kf h H locs ls hP hD hS hl)

theorem g_if_ge {x : Int32} {off : Int} (tgt : Nat) (C0 : gC p s m args meth c D cl tys A nL cc own ret) (hdg : decode cc pc = .ok (.ifCond .ge off, 3)) (ht : (pc : Int) + off = (tgt : Int)) (kt : 0 ≤ x → G p l e R s m args below meth c Q D cl A nL ws k n tgt L st) (kf : ¬ 0 ≤ x → G p l e R s m args below meth c Q D cl A nL ws k n (pc + 3) L st) : G p l e R s m args below meth c Q D cl A nL ws k n pc L (.int x :: st) := by
  intro H locs ls hP hD hS hl
  exact lv_if_ge C0.x C0.b hdg ht (fun h => kt h H locs ls hP hD hS hl) (fun h => kf h H locs ls hP hD hS hl)

theorem g_icmp_ge {x y : Int32} {off : Int} (tgt : Nat) (C0 : gC p s m args meth c D cl tys A nL cc own ret) (hdg : decode cc pc = .ok (.if_icmp .ge off, 3)) (ht : (pc : Int) + off = (tgt : Int)) (kt : y ≤ x → G p l e R s m args below meth c Q D cl A nL ws k n tgt L st) (kf : ¬ y ≤ x → G p l e R s m args below meth c Q D cl A nL ws k n (pc + 3) L st) : G p l e R s m args below meth c Q D cl A nL ws k n pc L (.int y :: .int x :: st) := by
  intro H locs ls hP hD hS hl
  exact lv_icmp_ge C0.x C0.b hdg ht (fun h => kt h H locs ls hP hD hS hl) (fun h => kf h H locs ls hP hD hS hl)

theorem g_if_gt {x : Int32} {off : Int} (tgt : Nat) (C0 : gC p s m args meth c D cl tys A nL cc own ret) (hdg : decode cc pc = .ok (.ifCond .gt off, 3)) (ht : (pc : Int) + off = (tgt : Int)) (kt : 0 < x → G p l e R s m args below meth c Q D cl A nL ws k n tgt L st) (kf : ¬ 0 < x → G p l e R s m args below meth c Q D cl A nL ws k n (pc + 3) L st) : G p l e R s m args below meth c Q D cl A nL ws k n pc L (.int x :: st) := by
  intro H locs ls hP hD hS hl
  exact lv_if_gt C0.x C0.b hdg ht (fun h => kt h H locs ls hP hD hS hl) (fun h => kf h H locs ls hP hD hS hl)

theorem g_icmp_gt {x y : Int32} {off : Int} (tgt : Nat) (C0 : gC p s m args meth c D cl tys A nL cc own ret) (hdg : decode cc pc = .ok (.if_icmp .gt off, 3)) (ht : (pc : Int) + off = (tgt : Int)) (kt : y < x → G p l e R s m args below meth c Q D cl A nL ws k n tgt L st) (kf : ¬ y < x → G p l e R s m args below meth c Q D cl A nL ws k n (pc + 3) L st) : G p l e R s m args below meth c Q D cl A nL ws k n pc L (.int y :: .int x :: st) := by
  intro H locs ls hP hD hS hl
  exact lv_icmp_gt C0.x C0.b hdg ht (fun h => kt h H locs ls hP hD hS hl) (fun h => kf h H locs ls hP hD hS hl)

theorem g_if_le {x : Int32} {off : Int} (tgt : Nat) (C0 : gC p s m args meth c D cl tys A nL cc own ret) (hdg : decode cc pc = .ok (.ifCond .le off, 3)) (ht : (pc : Int) + off = (tgt : Int)) (kt : x ≤ 0 → G p l e R s m args below meth c Q D cl A nL ws k n tgt L st) (kf : ¬ x ≤ 0 → G p l e R s m args below meth c Q D cl A nL ws k n (pc + 3) L st) : G p l e R s m args below meth c Q D cl A nL ws k n pc L (.int x :: st) := by
  intro H locs ls hP hD hS hl
  exact lv_if_le C0.x C0.b hdg ht (fun h => kt h H locs ls hP hD hS hl) (fun h => kf h H locs ls hP hD hS hl)

theorem g_icmp_le {x y : Int32} {off : Int} (tgt : Nat) (C0 : gC p s m args meth c D cl tys A nL cc own ret) (hdg : decode cc pc = .ok (.if_icmp .le off, 3)) (ht : (pc : Int) + off = (tgt : Int)) (kt : x ≤ y → G p l e R s m args below meth c Q D cl A nL ws k n tgt L st) (kf : ¬ x ≤ y → G p l e R s m args below meth c Q D cl A nL ws k n (pc + 3) L st) : G p l e R s m args below meth c Q D cl A nL ws k n pc L (.int y :: .int x :: st) := by
  intro H locs ls hP hD hS hl
  exact lv_icmp_le C0.x C0.b hdg ht (fun h => kt h H locs ls hP hD hS hl) (fun h => kf h H locs ls hP hD hS hl)

theorem g_goto {off : Int} (tgt : Nat) (C0 : gC p s m args meth c D cl tys A nL cc own ret) (hdg : decode cc pc = .ok (.goto off, 3)) (ht : (pc : Int) + off = (tgt : Int)) (g : G p l e R s m args below meth c Q D cl A nL ws k n tgt L st) : G p l e R s m args below meth c Q D cl A nL ws k n pc L st := by
  intro H locs ls hP hD hS hl
  exact lv_goto C0.x C0.b hdg ht (g H locs ls hP hD hS hl)

theorem g_tableOut {dflt lo hi : Int} {offs : Array Int} {len : Nat} {x : Int32} (tgt : Nat) (C0 : gC p s m args meth c D cl tys A nL cc own ret) (hdg : decode cc pc = .ok (.tableswitch dflt lo hi offs, len)) (h : x.toInt < lo ∨ hi < x.toInt) (ht : (pc : Int) + dflt = (tgt : Int)) (g : G p l e R s m args below meth c Q D cl A nL ws k n tgt L st) : G p l e R s m args below meth c Q D cl A nL ws k n pc L (.int x :: st) := by
  intro H locs ls hP hD hS hl
  exact lv_tableOut C0.x C0.b hdg h ht (g H locs ls hP hD hS hl)

theorem g_tableIn {dflt lo hi : Int} {offs : Array Int} {len : Nat} {x : Int32} {off : Int} (tgt : Nat) (C0 : gC p s m args meth c D cl tys A nL cc own ret) (hdg : decode cc pc = .ok (.tableswitch dflt lo hi offs, len)) (h1 : ¬ x.toInt < lo) (h2 : ¬ hi < x.toInt) (ho : offs[(x.toInt - lo).toNat]? = some off) (ht : (pc : Int) + off = (tgt : Int)) (g : G p l e R s m args below meth c Q D cl A nL ws k n tgt L st) : G p l e R s m args below meth c Q D cl A nL ws k n pc L (.int x :: st) := by
  intro H locs ls hP hD hS hl
  exact lv_tableIn C0.x C0.b hdg h1 h2 ho ht (g H locs ls hP hD hS hl)

/-- a loop that counts up, over G -/
theorem G.loop {ws : Nat → va_W} {Lf : Nat → List (Option Value)} {N i0 : Nat} (hi : i0 ≤ N) (h0 : G p l e R s m args below meth c Q D cl A nL (ws N) k n pc (Lf N) []) (hs : ∀ i, i < N → i0 ≤ i → G p l e R s m args below meth c Q D cl A nL (ws (i + 1)) k n pc (Lf (i + 1)) [] → G p l e R s m args below meth c Q D cl A nL (ws i) k n pc (Lf i) []) : G p l e R s m args below meth c Q D cl A nL (ws i0) k n pc (Lf i0) [] := by
  have key : ∀ d i, i + d = N → i0 ≤ i → G p l e R s m args below meth c Q D cl A nL (ws i) k n pc (Lf i) [] := by
    intro d
    induction d with
    | zero => intro i hi _; rw [Nat.add_zero] at hi; rw [hi]; exact h0
    | succ d ih => intro i hi h2; exact hs i (by omega) h2 (ih (i + 1) (by omega) (by omega))
  exact key (N - i0) i0 (by omega) (Nat.le_refl _)
end GR
