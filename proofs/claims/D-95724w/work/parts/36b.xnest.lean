/-! contracts that also know the links to nest mates -/
set_option maxRecDepth 100000
def isNest : Cond → Bool
  | .fieldLinkNest _ _ _ _ _ _ => true
  | .methodLinkNest _ _ _ _ => true
  | _ => false
/-- the nest mates' links hold -/
def NW (U : State) : Prop := ∀ w ∈ lw_tbl, isNest w = true → va_Nw w U
theorem isNest_tabs {w : Cond} (h : isNest w = true) : w.onTables = true := by
  unfold isNest at h
  split at h <;> first | rfl | cases h
theorem NW.warm {s U : State} (hW : s.WarmedH U.vm) (h : NW s) : NW U := by
  intro w hw hn
  have h1 := h w hw hn
  unfold isNest at hn
  split at hn
  · exact va_Nw.warmF hW h1
  · exact va_Nw.warmM hW h1
  · cases hn
theorem NW.same {u U : State} (he : u.vm = U.vm) (h : NW u) : NW U := fun w hw hn => va_Nw.same (isNest_tabs hn) he (h w hw hn)
theorem NW.use {w : Cond} {A : Array Value} {U : State} (h : NW U) (hw : w ∈ lw_tbl) (hn : isNest w = true) : w.before A U = true := va_Nw.use (isNest_tabs hn) (h w hw hn)
abbrev cPcX (D : va_G) (cl : List vw_C) (tys : List (ClassId × FieldType)) (ad : Nat → Nat) (mk : Nat → (Nat → Nat) → va_E) (codes : List Nat) (av : List Value) (τ : tT) (sz : Nat) : Array Value → State → Prop :=
  va_Pc av (fun U => (U.heap.size = sz ∧ cB D cl tys ad mk codes (fun _ => True) τ U) ∧ NW U)
def XCI (l : Launch) (y : MethodName) (cc : ByteArray) (nL : Nat) (ret : FieldType) (rm : Room) (D : va_G) (cl : List vw_C) (tys : List (ClassId × FieldType)) (ad : Nat → Nat) (mk : Nat → (Nat → Nat) → va_E) (codes : List Nat) (av : List Value) (τ : tT) (post : Int32 → tT → Prop) : Prop :=
  ∀ sz, Met l y (ws_ y cc nL (some ret)) rm (cPcX D cl tys ad mk codes av τ sz) (cQi D cl tys ad mk codes post sz) 0 0 (cA ad codes sz)
def XCV (l : Launch) (y : MethodName) (cc : ByteArray) (nL : Nat) (rm : Room) (D : va_G) (cl : List vw_C) (tys : List (ClassId × FieldType)) (ad : Nat → Nat) (mk : Nat → (Nat → Nat) → va_E) (codes : List Nat) (av : List Value) (τ : tT) (post : tT → Prop) : Prop :=
  ∀ sz, Met l y (ws_ y cc nL none) rm (cPcX D cl tys ad mk codes av τ sz) (cQv D cl tys ad mk codes post sz) 0 0 (cA ad codes sz)
def XCR (l : Launch) (y : MethodName) (cc : ByteArray) (nL : Nat) (ret : FieldType) (rm : Room) (D : va_G) (cl : List vw_C) (tys : List (ClassId × FieldType)) (ad : Nat → Nat) (mk : Nat → (Nat → Nat) → va_E) (codes : List Nat) (av : List Value) (τ : tT) (post : tT → Prop) (j : Nat) : Prop :=
  ∀ sz, Met l y (ws_ y cc nL (some ret)) rm (cPcX D cl tys ad mk codes av τ sz) (cQr D cl tys ad mk codes post j sz) 0 0 (cA ad codes sz)
section XE
variable {l : Launch} {y : MethodName} {cc : ByteArray} {nL : Nat} {ret : FieldType} {rm : Room} {D : va_G} {cl : List vw_C} {tys : List (ClassId × FieldType)} {ad : Nat → Nat} {mk : Nat → (Nat → Nat) → va_E} {codes : List Nat} {av : List Value} {τ : tT} {L : List (Option Value)}
theorem cEnterX {own : String} {ro : Option FieldType} {Qc : Nat → Array Value → State → Outcome → State → Prop} (ho : y.cls = own) (hy : plainName y.cls = true) (hn : (lg_sl av).length ≤ nL) (hL : gL 0 L = lv_args 0 av)
    (h : ∀ (p : Program) (e : Env) (s : State) (m : MethodId) (below : List Frame) (meth : Method) (c : Code), gC p s m av.toArray meth c D cl tys (cA ad codes s.heap.size) nL cc own ro → NW s →
      G p l e rm s m av.toArray below meth c (MQ below (Qc s.heap.size) av.toArray s 0 0 (cA ad codes s.heap.size)) D cl (cA ad codes s.heap.size) nL (cW ad mk codes τ) 0 0 0 L []) :
    ∀ sz, Met l y (ws_ y cc nL ro) rm (cPcX D cl tys ad mk codes av τ sz) (Qc sz) 0 0 (cA ad codes sz) := by
  intro sz
  refine Met.ofW (cc := cc) (maxL := nL) (ret := ro) hy rfl ?_
  intro p e s m args below meth c s₁ B hml hv
  obtain ⟨rfl, ⟨hsz, hP, hK, hD0⟩, hNW⟩ := hv
  have hts := atoms_spec (ws := ws_ y cc nL ro) B.pre
  have hts : ∀ w ∈ lw_all, w.before av.toArray s = true := fun w h => hts w (List.mem_cons_of_mem _ h)
  subst hsz
  have hl := lv_entry av (n := nL) hn
  rw [lg_entry_eq]
  refine h p e s m below meth c ⟨B.exec, B.bytes, hml, ho ▸ findClass_of_methodNamed B.named, hts, hK, fun q hq => Or.inr hq, B.returns, B.notSynchronized⟩ hNW s.heap [] _ hP (cA_in hD0) va_S.rf ?_
  rw [hL]
  exact hl
end XE
