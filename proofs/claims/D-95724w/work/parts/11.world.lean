/-! worlds by codes: the cell of code j lies at ad j and holds mk j (τ j); τ j k: the number at place k of the cell j. Contracts over such worlds. -/
set_option maxRecDepth 100000
abbrev tT : Type := Nat → Nat → Nat
def upn (f : Nat → Nat) (k x : Nat) : Nat → Nat := fun q => bif Nat.beq q k then x else f q
def upr (τ : tT) (j : Nat) (f : Nat → Nat) : tT := fun i => bif Nat.beq i j then f else τ i
def upc (τ : tT) (j k x : Nat) : tT := upr τ j (upn (τ j) k x)
theorem upn_s (f : Nat → Nat) (k x : Nat) : upn f k x k = x := by simp [upn]
theorem upn_n {f : Nat → Nat} {k x q : Nat} (h : q ≠ k) : upn f k x q = f q := by
  have : Nat.beq q k = false := Bool.eq_false_iff.mpr (fun e => h (Nat.eq_of_beq_eq_true e))
  simp [upn, this]
theorem upn_if (f : Nat → Nat) (k x q : Nat) : upn f k x q = if q = k then x else f q := by
  by_cases h : q = k
  · subst h; rw [upn_s, if_pos rfl]
  · rw [upn_n h, if_neg h]
theorem upr_s (τ : tT) (j : Nat) (f : Nat → Nat) : upr τ j f j = f := by simp [upr]
theorem upr_n {τ : tT} {j i : Nat} {f : Nat → Nat} (h : i ≠ j) : upr τ j f i = τ i := by
  have : Nat.beq i j = false := Bool.eq_false_iff.mpr (fun e => h (Nat.eq_of_beq_eq_true e))
  simp [upr, this]
theorem upc_s (τ : tT) (j k x : Nat) : upc τ j k x j = upn (τ j) k x := by rw [upc, upr_s]
theorem upc_n {τ : tT} {j k x i : Nat} (h : i ≠ j) : upc τ j k x i = τ i := by rw [upc, upr_n h]
theorem upd_nI (f : Nat → Nat) (k x : Nat) : upd (fun i => nI (f i)) k (nI x) = fun i => nI (upn f k x i) := by
  funext i
  rw [upn_if]
  unfold upd
  by_cases h : i = k
  · rw [if_pos h, if_pos h]
  · rw [if_neg h, if_neg h]
def cW (ad : Nat → Nat) (mk : Nat → (Nat → Nat) → va_E) (codes : List Nat) (τ : tT) : va_W := codes.map (fun j => (ad j, mk j (τ j)))
theorem cW_get {ad : Nat → Nat} {mk : Nat → (Nat → Nat) → va_E} {codes : List Nat} {τ : tT} {q j : Nat} (h : codes[q]? = some j) : (cW ad mk codes τ)[q]? = some (ad j, mk j (τ j)) := by
  simp [cW, h]
theorem cW_set {ad : Nat → Nat} {mk : Nat → (Nat → Nat) → va_E} {codes : List Nat} {τ : tT} {q j : Nat} {f : Nat → Nat} (hn : va_nd codes = true) (h : codes[q]? = some j) : (cW ad mk codes τ).set q (ad j, mk j f) = cW ad mk codes (upr τ j f) := by
  apply List.ext_getElem?
  intro i
  obtain ⟨hq, hj⟩ := List.getElem?_eq_some_iff.mp h
  rw [List.getElem?_set]
  by_cases hi : q = i
  · subst hi
    rw [if_pos rfl, if_pos (by simpa [cW] using hq), cW_get h, upr_s]
  · rw [if_neg hi]
    simp only [cW, List.getElem?_map]
    cases hc : codes[i]? with
    | none => rfl
    | some j' =>
      have hne : j' ≠ j := by
        rintro rfl
        exact hi (va_nd_inj codes hn q i _ h hc)
      simp [upr_n hne]
def cA (ad : Nat → Nat) (codes : List Nat) (sz : Nat) : Nat → Prop := fun q => (∃ j ∈ codes, q = ad j) ∨ sz ≤ q
theorem cA_in {ad : Nat → Nat} {mk : Nat → (Nat → Nat) → va_E} {codes : List Nat} {τ : tT} {sz : Nat} {A : Nat → Prop} (h : va_D A (cW ad mk codes τ)) : va_D (cA ad codes sz) (cW ad mk codes τ) := by
  refine ⟨h.1, fun k q hk => ?_⟩
  simp only [cW, List.getElem?_map, Option.map_eq_some_iff] at hk
  obtain ⟨j, h1, rfl⟩ := hk
  exact Or.inl ⟨j, List.mem_of_getElem? h1, rfl⟩
theorem cA_mono {ad : Nat → Nat} {codes : List Nat} {a b : Nat} (h : a ≤ b) : ∀ q, cA ad codes b q → cA ad codes a q := by
  rintro q (h1 | h1)
  · exact Or.inl h1
  · exact Or.inr (Nat.le_trans h h1)
/-- the addresses are apart: of the state they don't speak -/
theorem cW_D {ad : Nat → Nat} {mk : Nat → (Nat → Nat) → va_E} {codes : List Nat} {τ τ' : tT} {A : Nat → Prop} (h : va_D A (cW ad mk codes τ)) : va_D A (cW ad mk codes τ') := by
  refine ⟨fun i j p q hp hq e => ?_, fun k q hk => ?_⟩
  · simp only [cW, List.getElem?_map, Option.map_eq_some_iff] at hp hq
    obtain ⟨a, ha, rfl⟩ := hp
    obtain ⟨b, hb, rfl⟩ := hq
    exact h.1 i j _ _ (cW_get ha) (cW_get hb) e
  · simp only [cW, List.getElem?_map, Option.map_eq_some_iff] at hk
    obtain ⟨a, ha, rfl⟩ := hk
    exact h.2 k (ad a, mk a (τ a)) (cW_get ha)
/-- a method's world: in the heap, its classes known, its cells apart -/
def cB (D : va_G) (cl : List vw_C) (tys : List (ClassId × FieldType)) (ad : Nat → Nat) (mk : Nat → (Nat → Nat) → va_E) (codes : List Nat) (A : Nat → Prop) (τ : tT) (U : State) : Prop :=
  va_P D cl (cW ad mk codes τ) U.heap ∧ va_K D cl tys U ∧ va_D A (cW ad mk codes τ)
abbrev cPc (D : va_G) (cl : List vw_C) (tys : List (ClassId × FieldType)) (ad : Nat → Nat) (mk : Nat → (Nat → Nat) → va_E) (codes : List Nat) (av : List Value) (τ : tT) (sz : Nat) : Array Value → State → Prop :=
  va_Pc av (fun U => U.heap.size = sz ∧ cB D cl tys ad mk codes (fun _ => True) τ U)
abbrev cQi (D : va_G) (cl : List vw_C) (tys : List (ClassId × FieldType)) (ad : Nat → Nat) (mk : Nat → (Nat → Nat) → va_E) (codes : List Nat) (post : Int32 → tT → Prop) (sz : Nat) : Array Value → State → Outcome → State → Prop :=
  va_Qi post (cB D cl tys ad mk codes (cA ad codes sz)) (cA ad codes sz)
abbrev cQv (D : va_G) (cl : List vw_C) (tys : List (ClassId × FieldType)) (ad : Nat → Nat) (mk : Nat → (Nat → Nat) → va_E) (codes : List Nat) (post : tT → Prop) (sz : Nat) : Array Value → State → Outcome → State → Prop :=
  va_Qv post (cB D cl tys ad mk codes (cA ad codes sz)) (cA ad codes sz)
abbrev cQr (D : va_G) (cl : List vw_C) (tys : List (ClassId × FieldType)) (ad : Nat → Nat) (mk : Nat → (Nat → Nat) → va_E) (codes : List Nat) (post : tT → Prop) (j : Nat) (sz : Nat) : Array Value → State → Outcome → State → Prop :=
  va_Qr post (fun τ' a t => a = ad j ∧ cB D cl tys ad mk codes (cA ad codes sz) τ' t) (cA ad codes sz)
/-- CONTRACT, an int or boolean answer: from the world τ, arguments av (the receiver first), the method answers r and leaves τ' with post r τ'; it makes nothing -/
def CI (l : Launch) (y : MethodName) (cc : ByteArray) (nL : Nat) (ret : FieldType) (rm : Room) (D : va_G) (cl : List vw_C) (tys : List (ClassId × FieldType)) (ad : Nat → Nat) (mk : Nat → (Nat → Nat) → va_E) (codes : List Nat) (av : List Value) (τ : tT) (post : Int32 → tT → Prop) : Prop :=
  ∀ sz, Met l y (ws_ y cc nL (some ret)) rm (cPc D cl tys ad mk codes av τ sz) (cQi D cl tys ad mk codes post sz) 0 0 (cA ad codes sz)
def CV (l : Launch) (y : MethodName) (cc : ByteArray) (nL : Nat) (rm : Room) (D : va_G) (cl : List vw_C) (tys : List (ClassId × FieldType)) (ad : Nat → Nat) (mk : Nat → (Nat → Nat) → va_E) (codes : List Nat) (av : List Value) (τ : tT) (post : tT → Prop) : Prop :=
  ∀ sz, Met l y (ws_ y cc nL none) rm (cPc D cl tys ad mk codes av τ sz) (cQv D cl tys ad mk codes post sz) 0 0 (cA ad codes sz)
def CR (l : Launch) (y : MethodName) (cc : ByteArray) (nL : Nat) (ret : FieldType) (rm : Room) (D : va_G) (cl : List vw_C) (tys : List (ClassId × FieldType)) (ad : Nat → Nat) (mk : Nat → (Nat → Nat) → va_E) (codes : List Nat) (av : List Value) (τ : tT) (post : tT → Prop) (j : Nat) : Prop :=
  ∀ sz, Met l y (ws_ y cc nL (some ret)) rm (cPc D cl tys ad mk codes av τ sz) (cQr D cl tys ad mk codes post j sz) 0 0 (cA ad codes sz)
abbrev cQl (D : va_G) (cl : List vw_C) (tys : List (ClassId × FieldType)) (ad : Nat → Nat) (mk : Nat → (Nat → Nat) → va_E) (codes : List Nat) (post : Int64 → tT → Prop) (sz : Nat) : Array Value → State → Outcome → State → Prop :=
  va_Ql post (cB D cl tys ad mk codes (cA ad codes sz)) (cA ad codes sz)
def CL (l : Launch) (y : MethodName) (cc : ByteArray) (nL : Nat) (rm : Room) (D : va_G) (cl : List vw_C) (tys : List (ClassId × FieldType)) (ad : Nat → Nat) (mk : Nat → (Nat → Nat) → va_E) (codes : List Nat) (av : List Value) (τ : tT) (post : Int64 → tT → Prop) : Prop :=
  ∀ sz, Met l y (ws_ y cc nL (some .long)) rm (cPc D cl tys ad mk codes av τ sz) (cQl D cl tys ad mk codes post sz) 0 0 (cA ad codes sz)
def sD : va_G := (fun _ => (0 : Nat), fun _ _ => 0)
def sAd : Nat → Nat := fun _ => 0
def sMk : Nat → (Nat → Nat) → va_E := fun _ _ => .inr (0, [])
def sT : tT := fun _ _ => 0
/-- a static method without a world: its answer is v -/
abbrev SI (l : Launch) (y : MethodName) (cc : ByteArray) (nL : Nat) (ret : FieldType) (rm : Room) (av : List Value) (v : Int32) : Prop := CI l y cc nL ret rm sD [] [] sAd sMk [] av sT (fun r _ => r = v)
abbrev SL (l : Launch) (y : MethodName) (cc : ByteArray) (nL : Nat) (rm : Room) (av : List Value) (v : Int64) : Prop := CL l y cc nL rm sD [] [] sAd sMk [] av sT (fun r _ => r = v)
section CE
variable {l : Launch} {y : MethodName} {cc : ByteArray} {nL : Nat} {ret : FieldType} {rm : Room} {D : va_G} {cl : List vw_C} {tys : List (ClassId × FieldType)} {ad : Nat → Nat} {mk : Nat → (Nat → Nat) → va_E} {codes : List Nat} {av : List Value} {τ : tT} {L : List (Option Value)}
theorem cEnter {own : String} {ro : Option FieldType} {Qc : Nat → Array Value → State → Outcome → State → Prop} (ho : y.cls = own) (hy : plainName y.cls = true) (hn : (lg_sl av).length ≤ nL) (hL : gL 0 L = lv_args 0 av)
    (h : ∀ (p : Program) (e : Env) (s : State) (m : MethodId) (below : List Frame) (meth : Method) (c : Code), gC p s m av.toArray meth c D cl tys (cA ad codes s.heap.size) nL cc own ro →
      G p l e rm s m av.toArray below meth c (MQ below (Qc s.heap.size) av.toArray s 0 0 (cA ad codes s.heap.size)) D cl (cA ad codes s.heap.size) nL (cW ad mk codes τ) 0 0 0 L []) :
    ∀ sz, Met l y (ws_ y cc nL ro) rm (cPc D cl tys ad mk codes av τ sz) (Qc sz) 0 0 (cA ad codes sz) := by
  intro sz
  refine Met.ofW (cc := cc) (maxL := nL) (ret := ro) hy rfl ?_
  intro p e s m args below meth c s₁ B hml hv
  obtain ⟨rfl, hsz, hP, hK, hD0⟩ := hv
  have hts := atoms_spec (ws := ws_ y cc nL ro) B.pre
  have hts : ∀ w ∈ lw_all, w.before av.toArray s = true := fun w h => hts w (List.mem_cons_of_mem _ h)
  subst hsz
  have hl := lv_entry av (n := nL) hn
  rw [lg_entry_eq]
  refine h p e s m below meth c ⟨B.exec, B.bytes, hml, ho ▸ findClass_of_methodNamed B.named, hts, hK, fun q hq => Or.inr hq, B.returns, B.notSynchronized⟩ s.heap [] _ hP (cA_in hD0) va_S.rf ?_
  rw [hL]
  exact hl
theorem CI.ofG {own : String} {post : Int32 → tT → Prop} (ho : y.cls = own) (hy : plainName y.cls = true) (hn : (lg_sl av).length ≤ nL) (hL : gL 0 L = lv_args 0 av)
    (h : ∀ (p : Program) (e : Env) (s : State) (m : MethodId) (below : List Frame) (meth : Method) (c : Code), gC p s m av.toArray meth c D cl tys (cA ad codes s.heap.size) nL cc own (some ret) →
      G p l e rm s m av.toArray below meth c (MQ below (cQi D cl tys ad mk codes post s.heap.size) av.toArray s 0 0 (cA ad codes s.heap.size)) D cl (cA ad codes s.heap.size) nL (cW ad mk codes τ) 0 0 0 L []) :
    CI l y cc nL ret rm D cl tys ad mk codes av τ post := cEnter (Qc := cQi D cl tys ad mk codes post) ho hy hn hL h
theorem CV.ofG {own : String} {post : tT → Prop} (ho : y.cls = own) (hy : plainName y.cls = true) (hn : (lg_sl av).length ≤ nL) (hL : gL 0 L = lv_args 0 av)
    (h : ∀ (p : Program) (e : Env) (s : State) (m : MethodId) (below : List Frame) (meth : Method) (c : Code), gC p s m av.toArray meth c D cl tys (cA ad codes s.heap.size) nL cc own none →
      G p l e rm s m av.toArray below meth c (MQ below (cQv D cl tys ad mk codes post s.heap.size) av.toArray s 0 0 (cA ad codes s.heap.size)) D cl (cA ad codes s.heap.size) nL (cW ad mk codes τ) 0 0 0 L []) :
    CV l y cc nL rm D cl tys ad mk codes av τ post := cEnter (Qc := cQv D cl tys ad mk codes post) ho hy hn hL h
theorem CR.ofG {own : String} {post : tT → Prop} {j : Nat} (ho : y.cls = own) (hy : plainName y.cls = true) (hn : (lg_sl av).length ≤ nL) (hL : gL 0 L = lv_args 0 av)
    (h : ∀ (p : Program) (e : Env) (s : State) (m : MethodId) (below : List Frame) (meth : Method) (c : Code), gC p s m av.toArray meth c D cl tys (cA ad codes s.heap.size) nL cc own (some ret) →
      G p l e rm s m av.toArray below meth c (MQ below (cQr D cl tys ad mk codes post j s.heap.size) av.toArray s 0 0 (cA ad codes s.heap.size)) D cl (cA ad codes s.heap.size) nL (cW ad mk codes τ) 0 0 0 L []) :
    CR l y cc nL ret rm D cl tys ad mk codes av τ post j := cEnter (Qc := cQr D cl tys ad mk codes post j) ho hy hn hL h
theorem CL.ofG {own : String} {post : Int64 → tT → Prop} (ho : y.cls = own) (hy : plainName y.cls = true) (hn : (lg_sl av).length ≤ nL) (hL : gL 0 L = lv_args 0 av)
    (h : ∀ (p : Program) (e : Env) (s : State) (m : MethodId) (below : List Frame) (meth : Method) (c : Code), gC p s m av.toArray meth c D cl tys (cA ad codes s.heap.size) nL cc own (some .long) →
      G p l e rm s m av.toArray below meth c (MQ below (cQl D cl tys ad mk codes post s.heap.size) av.toArray s 0 0 (cA ad codes s.heap.size)) D cl (cA ad codes s.heap.size) nL (cW ad mk codes τ) 0 0 0 L []) :
    CL l y cc nL rm D cl tys ad mk codes av τ post := cEnter (Qc := cQl D cl tys ad mk codes post) ho hy hn hL h
end CE
section CRet
variable {p : Program} {l : Launch} {e : Env} {R : Room} {s : State} {m : MethodId} {args : Array Value} {below : List Frame} {meth : Method} {c : Code} {D : va_G} {cl : List vw_C} {tys : List (ClassId × FieldType)} {nL : Nat} {cc : ByteArray} {own : String} {pc : Nat} {L : List (Option Value)} {ad : Nat → Nat} {mk : Nat → (Nat → Nat) → va_E} {codes : List Nat} {τ : tT}
theorem g_iret {post : Int32 → tT → Prop} {v : Int32} (C0 : gC p s m args meth c D cl tys (cA ad codes s.heap.size) nL cc own (some .int)) (hdg : decode cc pc = .ok (.ireturn, 1)) (h : post v τ) :
    G p l e R s m args below meth c (MQ below (cQi D cl tys ad mk codes post s.heap.size) args s 0 0 (cA ad codes s.heap.size)) D cl (cA ad codes s.heap.size) nL (cW ad mk codes τ) 0 0 pc L [.int v] := by
  intro H locs ls hP hD hS hl
  exact W.iret (v := v) C0.x C0.b C0.r (fun t ht hW => ⟨⟨v, τ, rfl, h, by rw [ht]; exact hP, va_K.moved hW.alike C0.K, hD⟩, hS.F ht⟩) hS.2.2 hdg (hlocks := C0.lk)
theorem g_zret {post : Int32 → tT → Prop} {v : Int32} (C0 : gC p s m args meth c D cl tys (cA ad codes s.heap.size) nL cc own (some .boolean)) (hdg : decode cc pc = .ok (.ireturn, 1)) (hn : narrow .boolean (.int v) = .int v) (h : post v τ) :
    G p l e R s m args below meth c (MQ below (cQi D cl tys ad mk codes post s.heap.size) args s 0 0 (cA ad codes s.heap.size)) D cl (cA ad codes s.heap.size) nL (cW ad mk codes τ) 0 0 pc L [.int v] := by
  intro H locs ls hP hD hS hl
  exact W.zret (v := v) C0.x C0.b C0.r hn (fun t ht hW => ⟨⟨v, τ, rfl, h, by rw [ht]; exact hP, va_K.moved hW.alike C0.K, hD⟩, hS.F ht⟩) hS.2.2 hdg (hlocks := C0.lk)
theorem g_lret {post : Int64 → tT → Prop} {v : Int64} (C0 : gC p s m args meth c D cl tys (cA ad codes s.heap.size) nL cc own (some .long)) (hdg : decode cc pc = .ok (.lreturn, 1)) (h : post v τ) :
    G p l e R s m args below meth c (MQ below (cQl D cl tys ad mk codes post s.heap.size) args s 0 0 (cA ad codes s.heap.size)) D cl (cA ad codes s.heap.size) nL (cW ad mk codes τ) 0 0 pc L [.long v] := by
  intro H locs ls hP hD hS hl
  exact W.lret (v := v) C0.x C0.b C0.r (fun t ht hW => ⟨⟨v, τ, rfl, h, by rw [ht]; exact hP, va_K.moved hW.alike C0.K, hD⟩, hS.F ht⟩) hS.2.2 hdg (hlocks := C0.lk)
theorem g_vret {post : tT → Prop} (C0 : gC p s m args meth c D cl tys (cA ad codes s.heap.size) nL cc own none) (hdg : decode cc pc = .ok (.return_, 1)) (h : post τ) :
    G p l e R s m args below meth c (MQ below (cQv D cl tys ad mk codes post s.heap.size) args s 0 0 (cA ad codes s.heap.size)) D cl (cA ad codes s.heap.size) nL (cW ad mk codes τ) 0 0 pc L [] := by
  intro H locs ls hP hD hS hl
  exact W.vret C0.x C0.b C0.r (fun t ht hW => ⟨⟨τ, rfl, h, by rw [ht]; exact hP, va_K.moved hW.alike C0.K, hD⟩, hS.F ht⟩) hS.2.2 hdg (hlocks := C0.lk)
theorem g_aret {post : tT → Prop} {j : Nat} {nm : String} (C0 : gC p s m args meth c D cl tys (cA ad codes s.heap.size) nL cc own (some (.object nm))) (hdg : decode cc pc = .ok (.areturn, 1)) (h : post τ) :
    G p l e R s m args below meth c (MQ below (cQr D cl tys ad mk codes post j s.heap.size) args s 0 0 (cA ad codes s.heap.size)) D cl (cA ad codes s.heap.size) nL (cW ad mk codes τ) 0 0 pc L [.ref (ad j)] := by
  intro H locs ls hP hD hS hl
  exact W.aret (v := .ref (ad j)) C0.x C0.b C0.r (Or.inl ⟨nm, rfl⟩) (Or.inr ⟨_, rfl⟩) (fun t ht hW => ⟨⟨τ, ad j, rfl, h, rfl, by rw [ht]; exact hP, va_K.moved hW.alike C0.K, hD⟩, hS.F ht⟩) hS.2.2 hdg (hlocks := C0.lk)
end CRet
section CRows
variable {p : Program} {l : Launch} {e : Env} {R : Room} {s : State} {m : MethodId} {args : Array Value} {below : List Frame} {meth : Method} {c : Code} {Q : State → Prop} {D : va_G} {cl : List vw_C} {tys : List (ClassId × FieldType)} {A : Nat → Prop} {nL : Nat} {cc : ByteArray} {own : String} {ret : Option FieldType} {k n pc : Nat} {L : List (Option Value)} {st : List Value} {ad : Nat → Nat} {mk : Nat → (Nat → Nat) → va_E} {codes : List Nat} {τ : tT}
/-- a field of an object of our own class is read -/
theorem g_get (C0 : gC p s m args meth c D cl tys A nL cc own ret) {C : String} {T : u_T} {N ci ix q0 j : Nat} {fs : List Value} {v : Value} (fk : Nat) (hq : codes[q0]? = some j) (hm : mk j (τ j) = .inr (ci, fs)) (hc : cl[ci]? = some (C, T, N)) (hin : ∀ w ∈ u_ws C T N, w ∈ lw_all) (hk : fk < N) (w1 : Cond.fieldLink own ix (T fk).1 (T fk).2.1 (T fk).2.2.1 ∈ lw_all) (hv : fs[fk]? = some v) (hdg : decode cc pc = .ok (.getfield ix, 3))
    (g : G p l e R s m args below meth c Q D cl A nL (cW ad mk codes τ) k n (pc + 3) L (v :: st)) : G p l e R s m args below meth c Q D cl A nL (cW ad mk codes τ) k n pc L (.ref (ad j) :: st) := by
  intro H locs ls hP hD hS hl
  have he : (cW ad mk codes τ)[q0]? = some (ad j, .inr (ci, fs)) := by rw [cW_get hq, hm]
  exact va_get (D := D) (ci := ci) (v := v) (C := C) (T := T) (N := N) C0.x C0.b C0.ts hin C0.ow C0.K hP q0 he hc fk hk (C0.ts _ w1) (fun _ h9 => h9) hv hdg (g H locs ls hP hD hS hl)
/-- a field of numbers is written -/
theorem g_put (C0 : gC p s m args meth c D cl tys A nL cc own ret) {C : String} {T : u_T} {N ci ix q0 j : Nat} {F : (Nat → Nat) → List Value} {v : Value} {ty : FieldType} {z : Nat} (ty0 : Nat → FieldType) (hty : ∀ k, k < N → parseFieldDescriptor (T k).2.2.1 = some (ty0 k)) (hnm : ∀ a, a < N → ∀ b, b < N → a ≠ b → (T a).2.1 ≠ (T b).2.1) (hnd : va_nd codes = true) (fk : Nat) (hq : codes[q0]? = some j) (hm : ∀ f, mk j f = .inr (ci, F f)) (hc : cl[ci]? = some (C, T, N)) (hin : ∀ w ∈ u_ws C T N, w ∈ lw_all) (hk : fk < N) (w1 : Cond.fieldLink own ix (T fk).1 (T fk).2.1 (T fk).2.2.1 ∈ lw_all) (hfin : (T fk).2.2.2 = false) (hd : parseFieldDescriptor (T fk).2.2.1 = some ty) (hn : narrow ty v = v) (hfit : fits ty v = true) (hl : fk < (F (τ j)).length) (hv : (F (τ j)).set fk v = F (upn (τ j) fk z)) (hdg : decode cc pc = .ok (.putfield ix, 3))
    (g : G p l e R s m args below meth c Q D cl A nL (cW ad mk codes (upc τ j fk z)) k n (pc + 3) L st) : G p l e R s m args below meth c Q D cl A nL (cW ad mk codes τ) k n pc L (v :: .ref (ad j) :: st) := by
  intro H locs ls hP hD hS hll
  have he : (cW ad mk codes τ)[q0]? = some (ad j, .inr (ci, F (τ j))) := by rw [cW_get hq, hm]
  refine va_put (D := D) (ci := ci) (v := v) (ty := ty) (C := C) (T := T) (N := N) C0.x C0.b C0.ts hin ty0 hty hnm C0.ow C0.K hP hD hS q0 he hc fk hk (C0.ts _ w1) (fun _ h9 => h9) hfin hd hn hfit hl hdg (fun H1 locs1 hP1 hD1 hS1 => ?_)
  have e1 : (cW ad mk codes τ).set q0 (ad j, .inr (ci, (F (τ j)).set fk v)) = cW ad mk codes (upc τ j fk z) := by
    rw [hv, ← hm, cW_set hnd hq]; rfl
  rw [e1] at hP1 hD1
  exact g H1 locs1 ls hP1 hD1 hS1 hll
/-- an int of an array is read -/
theorem g_iald (C0 : gC p s m args meth c D cl tys A nL cc own ret) {q0 j t0 N : Nat} {dA : ClassId} (i : Nat) (hq : codes[q0]? = some j) (hm : ∀ f, mk j f = .inl (dA, N, .inl (fun i => nI (f i)))) (ht : tys[t0]? = some (dA, .int)) (hN : N < 2 ^ 31) (hi : i < N) (hdg : decode cc pc = .ok (.iaload, 1))
    (g : G p l e R s m args below meth c Q D cl A nL (cW ad mk codes τ) k n (pc + 1) L (.int (nI (τ j i)) :: st)) : G p l e R s m args below meth c Q D cl A nL (cW ad mk codes τ) k n pc L (.int (nI i) :: .ref (ad j) :: st) := by
  intro H locs ls hP hD hS hl
  have he : (cW ad mk codes τ)[q0]? = some (ad j, .inl (dA, N, .inl (fun i => nI (τ j i)))) := by rw [cW_get hq, hm]
  refine va_iald C0.x C0.b C0.K hP q0 t0 he ht (vp_in_nI hi hN) hdg ?_
  rw [nI_clamp (by omega)]
  exact g H locs ls hP hD hS hl
theorem g_zald (C0 : gC p s m args meth c D cl tys A nL cc own ret) {q0 j t0 N : Nat} {dA : ClassId} (i : Nat) (hq : codes[q0]? = some j) (hm : ∀ f, mk j f = .inl (dA, N, .inl (fun i => nI (f i)))) (ht : tys[t0]? = some (dA, .boolean)) (hN : N < 2 ^ 31) (hi : i < N) (hdg : decode cc pc = .ok (.baload, 1))
    (g : G p l e R s m args below meth c Q D cl A nL (cW ad mk codes τ) k n (pc + 1) L (.int (nI (τ j i)) :: st)) : G p l e R s m args below meth c Q D cl A nL (cW ad mk codes τ) k n pc L (.int (nI i) :: .ref (ad j) :: st) := by
  intro H locs ls hP hD hS hl
  have he : (cW ad mk codes τ)[q0]? = some (ad j, .inl (dA, N, .inl (fun i => nI (τ j i)))) := by rw [cW_get hq, hm]
  refine va_zald C0.x C0.b C0.K hP q0 t0 he ht (vp_in_nI hi hN) hdg ?_
  rw [nI_clamp (by omega)]
  exact g H locs ls hP hD hS hl
theorem g_iast (C0 : gC p s m args meth c D cl tys A nL cc own ret) {q0 j t0 N : Nat} {dA : ClassId} (i x : Nat) (hnd : va_nd codes = true) (hq : codes[q0]? = some j) (hm : ∀ f, mk j f = .inl (dA, N, .inl (fun i => nI (f i)))) (ht : tys[t0]? = some (dA, .int)) (hN : N < 2 ^ 31) (hi : i < N) (hdg : decode cc pc = .ok (.iastore, 1))
    (g : G p l e R s m args below meth c Q D cl A nL (cW ad mk codes (upc τ j i x)) k n (pc + 1) L st) : G p l e R s m args below meth c Q D cl A nL (cW ad mk codes τ) k n pc L (.int (nI x) :: .int (nI i) :: .ref (ad j) :: st) := by
  intro H locs ls hP hD hS hl
  have he : (cW ad mk codes τ)[q0]? = some (ad j, .inl (dA, N, .inl (fun i => nI (τ j i)))) := by rw [cW_get hq, hm]
  refine va_iast C0.x C0.b C0.K hP hD hS q0 t0 he ht (vp_in_nI hi hN) hdg (fun H1 locs1 hP1 hD1 hS1 => ?_)
  rw [nI_clamp (by omega), upd_nI] at hP1 hD1
  have e1 : (cW ad mk codes τ).set q0 (ad j, .inl (dA, N, .inl (fun a => nI (upn (τ j) i x a)))) = cW ad mk codes (upc τ j i x) := by
    rw [← hm, cW_set hnd hq]; rfl
  rw [e1] at hP1 hD1
  exact g H1 locs1 ls hP1 hD1 hS1 hl
theorem g_zast (C0 : gC p s m args meth c D cl tys A nL cc own ret) {q0 j t0 N : Nat} {dA : ClassId} (i x : Nat) (hnd : va_nd codes = true) (hx : x < 2) (hq : codes[q0]? = some j) (hm : ∀ f, mk j f = .inl (dA, N, .inl (fun i => nI (f i)))) (ht : tys[t0]? = some (dA, .boolean)) (hN : N < 2 ^ 31) (hi : i < N) (hdg : decode cc pc = .ok (.bastore, 1))
    (g : G p l e R s m args below meth c Q D cl A nL (cW ad mk codes (upc τ j i x)) k n (pc + 1) L st) : G p l e R s m args below meth c Q D cl A nL (cW ad mk codes τ) k n pc L (.int (nI x) :: .int (nI i) :: .ref (ad j) :: st) := by
  intro H locs ls hP hD hS hl
  have he : (cW ad mk codes τ)[q0]? = some (ad j, .inl (dA, N, .inl (fun i => nI (τ j i)))) := by rw [cW_get hq, hm]
  refine va_zast C0.x C0.b C0.K hP hD hS q0 t0 he ht (vp_in_nI hi hN) hdg (fun H1 locs1 hP1 hD1 hS1 => ?_)
  have hz : vp_nar .boolean (nI x) = nI x := by
    rcases (show x = 0 ∨ x = 1 by omega) with rfl | rfl <;> decide
  rw [nI_clamp (by omega), hz, upd_nI] at hP1 hD1
  have e1 : (cW ad mk codes τ).set q0 (ad j, .inl (dA, N, .inl (fun a => nI (upn (τ j) i x a)))) = cW ad mk codes (upc τ j i x) := by
    rw [← hm, cW_set hnd hq]; rfl
  rw [e1] at hP1 hD1
  exact g H1 locs1 ls hP1 hD1 hS1 hl
end CRows
section CCalls
variable {p : Program} {l : Launch} {e : Env} {R : Room} {s : State} {m : MethodId} {args : Array Value} {below : List Frame} {meth : Method} {c : Code} {Q : State → Prop} {D : va_G} {cl : List vw_C} {tys : List (ClassId × FieldType)} {nL : Nat} {cc : ByteArray} {own : String} {ro : Option FieldType} {k n pc : Nat} {L : List (Option Value)} {ad : Nat → Nat} {mk : Nat → (Nat → Nat) → va_E} {codes : List Nat} {τ : tT}
  {y : MethodName} {bytes : ByteArray} {maxL : Nat} {ret : FieldType} {rm : Room} {C : String} {T : u_T} {N ci ix q0 j na : Nat} {fs As rest stk : List Value}
theorem cBlind {av : List Value} {sz : Nat} : FrameBlind (cPc D cl tys ad mk codes av τ sz) := fun a U g mk q => by
  obtain ⟨q0, q1, qP, qK, qD⟩ := q
  exact ⟨q0, q1, qP, va_K.moved (u := U) (U := U.calling g mk a) (Vm.Alike.refl U.vm) qK, qD⟩
theorem cPre {av : List Value} {H : Heap} {A : Nat → Prop} (hK : va_K D cl tys s) (hP : va_P D cl (cW ad mk codes τ) H) (hD : va_D A (cW ad mk codes τ)) : ∀ U : State, U.heap = H → s.WarmedH U.vm → cPc D cl tys ad mk codes av τ H.size av.toArray U :=
  fun U hU hW => ⟨rfl, by rw [hU], by rw [hU]; exact hP, va_K.moved hW.alike hK, hD.weaken (fun _ _ _ _ => trivial)⟩
/-- invokevirtual of a method of the receiver's own class that answers an int or a boolean -/
theorem g_cvi {post : Int32 → tT → Prop} (C0 : gC p s m args meth c D cl tys (cA ad codes s.heap.size) nL cc own ro) (hM : CI l y bytes maxL ret rm D cl tys ad mk codes (.ref (ad j) :: As) τ post) (hq : codes[q0]? = some j) (hm : mk j (τ j) = .inr (ci, fs)) (hc : cl[ci]? = some (C, T, N))
    (w1 : Cond.methodLink own ix y ∈ lw_all) (w2 : Cond.instanceMethod y ∈ lw_all) (w3 : Cond.selects C y y ∈ lw_all) (w4 : Cond.initialized C ∈ lw_all) (w5 : Cond.code y bytes maxL (some ret) ∈ lw_all)
    (hd : y.cls = C ∧ y.cls ≠ "java/lang/invoke/MethodHandle" ∧ y.cls ≠ "java/lang/invoke/VarHandle" ∧ (parseMethodDescriptor y.desc).map (fun d => d.parameters.length) = some na) (hR : rm.frames + 1 ≤ R.frames ∧ 8 + (maxL + 11) + rm.locals ≤ R.locals) (hrc : rm.cells = 0) (hrs : rm.slots = 0) (hkn : k ≤ R.cells ∧ n ≤ R.slots)
    (hna : As.length = na) (hst : stk = As.reverse ++ .ref (ad j) :: rest) (hW : (rest.map fun v => v.category).sum ≤ 8) (hdg : decode cc pc = .ok (.invokevirtual ix, 3))
    (g : ∀ (r : Int32) (τ' : tT), post r τ' → G p l e R s m args below meth c Q D cl (cA ad codes s.heap.size) nL (cW ad mk codes τ') k n (pc + 3) L (.int r :: rest)) : G p l e R s m args below meth c Q D cl (cA ad codes s.heap.size) nL (cW ad mk codes τ) k n pc L stk := by
  intro H locs ls hP hD hS hl
  have he : (cW ad mk codes τ)[q0]? = some (ad j, .inr (ci, fs)) := by rw [cW_get hq, hm]
  refine va_calli (va_runV (As := As) (rest := rest) (C := C) (b := ad j) ⟨C0.x, C0.b, C0.ml, C0.ow, C0.ts⟩ (hM H.size) (cwV na C0.ts (lw_V w1 w2 w3 w4 w5) rfl hrc hrs hd hR) ⟨cBlind, va_recv C0.K hP hc he, cPre C0.K hP hD⟩ rfl hna hl.1 hst (lv_room hW) hdg ⟨hkn.1, hkn.2⟩) hS (fun q _ h => cA_mono hS.1 q h) (fun q h => cA_mono hS.1 q h) (fun r τ' t H1 locs1 ht hvm hpost hB hz hk1 hS1 => ?_)
  obtain ⟨hP1, hK1, hD1⟩ := hB
  rw [ht] at hP1
  exact g r τ' hpost H1 locs1 ls hP1 (hD1.weaken (fun _ _ _ h => cA_mono hS.1 _ h)) hS1 hl
theorem g_cvv {post : tT → Prop} (C0 : gC p s m args meth c D cl tys (cA ad codes s.heap.size) nL cc own ro) (hM : CV l y bytes maxL rm D cl tys ad mk codes (.ref (ad j) :: As) τ post) (hq : codes[q0]? = some j) (hm : mk j (τ j) = .inr (ci, fs)) (hc : cl[ci]? = some (C, T, N))
    (w1 : Cond.methodLink own ix y ∈ lw_all) (w2 : Cond.instanceMethod y ∈ lw_all) (w3 : Cond.selects C y y ∈ lw_all) (w4 : Cond.initialized C ∈ lw_all) (w5 : Cond.code y bytes maxL none ∈ lw_all)
    (hd : y.cls = C ∧ y.cls ≠ "java/lang/invoke/MethodHandle" ∧ y.cls ≠ "java/lang/invoke/VarHandle" ∧ (parseMethodDescriptor y.desc).map (fun d => d.parameters.length) = some na) (hR : rm.frames + 1 ≤ R.frames ∧ 8 + (maxL + 11) + rm.locals ≤ R.locals) (hrc : rm.cells = 0) (hrs : rm.slots = 0) (hkn : k ≤ R.cells ∧ n ≤ R.slots)
    (hna : As.length = na) (hst : stk = As.reverse ++ .ref (ad j) :: rest) (hW : (rest.map fun v => v.category).sum ≤ 8) (hdg : decode cc pc = .ok (.invokevirtual ix, 3))
    (g : ∀ (τ' : tT), post τ' → G p l e R s m args below meth c Q D cl (cA ad codes s.heap.size) nL (cW ad mk codes τ') k n (pc + 3) L rest) : G p l e R s m args below meth c Q D cl (cA ad codes s.heap.size) nL (cW ad mk codes τ) k n pc L stk := by
  intro H locs ls hP hD hS hl
  have he : (cW ad mk codes τ)[q0]? = some (ad j, .inr (ci, fs)) := by rw [cW_get hq, hm]
  refine va_callv (va_runV (As := As) (rest := rest) (C := C) (b := ad j) ⟨C0.x, C0.b, C0.ml, C0.ow, C0.ts⟩ (hM H.size) (cwV na C0.ts (lw_V w1 w2 w3 w4 w5) rfl hrc hrs hd hR) ⟨cBlind, va_recv C0.K hP hc he, cPre C0.K hP hD⟩ rfl hna hl.1 hst (lv_room hW) hdg ⟨hkn.1, hkn.2⟩) hS (fun q _ h => cA_mono hS.1 q h) (fun q h => cA_mono hS.1 q h) (fun τ' t H1 locs1 ht hvm hpost hB hz hk1 hS1 => ?_)
  obtain ⟨hP1, hK1, hD1⟩ := hB
  rw [ht] at hP1
  exact g τ' hpost H1 locs1 ls hP1 (hD1.weaken (fun _ _ _ h => cA_mono hS.1 _ h)) hS1 hl
theorem g_cvr {post : tT → Prop} {jr : Nat} (C0 : gC p s m args meth c D cl tys (cA ad codes s.heap.size) nL cc own ro) (hM : CR l y bytes maxL ret rm D cl tys ad mk codes (.ref (ad j) :: As) τ post jr) (hq : codes[q0]? = some j) (hm : mk j (τ j) = .inr (ci, fs)) (hc : cl[ci]? = some (C, T, N))
    (w1 : Cond.methodLink own ix y ∈ lw_all) (w2 : Cond.instanceMethod y ∈ lw_all) (w3 : Cond.selects C y y ∈ lw_all) (w4 : Cond.initialized C ∈ lw_all) (w5 : Cond.code y bytes maxL (some ret) ∈ lw_all)
    (hd : y.cls = C ∧ y.cls ≠ "java/lang/invoke/MethodHandle" ∧ y.cls ≠ "java/lang/invoke/VarHandle" ∧ (parseMethodDescriptor y.desc).map (fun d => d.parameters.length) = some na) (hR : rm.frames + 1 ≤ R.frames ∧ 8 + (maxL + 11) + rm.locals ≤ R.locals) (hrc : rm.cells = 0) (hrs : rm.slots = 0) (hkn : k ≤ R.cells ∧ n ≤ R.slots)
    (hna : As.length = na) (hst : stk = As.reverse ++ .ref (ad j) :: rest) (hW : (rest.map fun v => v.category).sum ≤ 8) (hdg : decode cc pc = .ok (.invokevirtual ix, 3))
    (g : ∀ (τ' : tT), post τ' → G p l e R s m args below meth c Q D cl (cA ad codes s.heap.size) nL (cW ad mk codes τ') k n (pc + 3) L (.ref (ad jr) :: rest)) : G p l e R s m args below meth c Q D cl (cA ad codes s.heap.size) nL (cW ad mk codes τ) k n pc L stk := by
  intro H locs ls hP hD hS hl
  have he : (cW ad mk codes τ)[q0]? = some (ad j, .inr (ci, fs)) := by rw [cW_get hq, hm]
  refine va_callr (va_runV (As := As) (rest := rest) (C := C) (b := ad j) ⟨C0.x, C0.b, C0.ml, C0.ow, C0.ts⟩ (hM H.size) (cwV na C0.ts (lw_V w1 w2 w3 w4 w5) rfl hrc hrs hd hR) ⟨cBlind, va_recv C0.K hP hc he, cPre C0.K hP hD⟩ rfl hna hl.1 hst (lv_room hW) hdg ⟨hkn.1, hkn.2⟩) hS (fun q _ h => cA_mono hS.1 q h) (fun q h => cA_mono hS.1 q h) (fun τ' ra t H1 locs1 ht hvm hpost hB hz hk1 hS1 => ?_)
  obtain ⟨rfl, hP1, hK1, hD1⟩ := hB
  rw [ht] at hP1
  exact g τ' hpost H1 locs1 ls hP1 (hD1.weaken (fun _ _ _ h => cA_mono hS.1 _ h)) hS1 hl
theorem sPre {av : List Value} {H : Heap} : ∀ U : State, U.heap = H → s.WarmedH U.vm → cPc sD [] [] sAd sMk [] av sT H.size av.toArray U :=
  fun U hU hW => ⟨rfl, by rw [hU], fun k q hk => by simp [cW] at hk, ⟨fun _ _ h => by simp at h, fun _ _ h => by simp at h⟩, ⟨fun i j p q hp => by simp [cW] at hp, fun k q hk => by simp [cW] at hk⟩⟩
theorem sA_in {A : Nat → Prop} {H0 H : Heap} {locs : List Loc} (hS : va_S A H0 H locs) (hA : ∀ q : Nat, H0.size ≤ q → A q) : ∀ q, cA sAd [] H.size q → A q := by
  rintro q (⟨j, h, -⟩ | h)
  · simp at h
  · exact hA q (Nat.le_trans hS.1 h)
theorem sKept {ws : va_W} {H H1 : Heap} (hP : va_P D cl ws H) (hk : ∀ q : Nat, q < H.size → ¬ cA sAd [] H.size q → H1[q]? = H[q]?) : va_P D cl ws H1 :=
  hP.kept (fun i q hq => hk _ (hP i q hq).lt (by
    rintro (⟨j, h, -⟩ | h)
    · simp at h
    · exact absurd (hP i q hq).lt (by omega)))
/-- invokestatic of a method without a world -/
theorem g_csi {ws : va_W} {A : Nat → Prop} {v : Int32} (C0 : gC p s m args meth c D cl tys A nL cc own ro) (hM : SI l y bytes maxL ret rm As v)
    (w1 : Cond.methodLink own ix y ∈ lw_all) (w2 : Cond.static y ∈ lw_all) (w3 : Cond.initialized y.cls ∈ lw_all) (w4 : Cond.code y bytes maxL (some ret) ∈ lw_all)
    (hd : y.cls ≠ "java/lang/invoke/MethodHandle" ∧ y.cls ≠ "java/lang/invoke/VarHandle" ∧ (parseMethodDescriptor y.desc).map (fun d => d.parameters.length) = some na) (hR : rm.frames + 1 ≤ R.frames ∧ 8 + (maxL + 11) + rm.locals ≤ R.locals) (hrc : rm.cells = 0) (hrs : rm.slots = 0) (hkn : k ≤ R.cells ∧ n ≤ R.slots)
    (hna : As.length = na) (hst : stk = As.reverse ++ rest) (hW : (rest.map fun v => v.category).sum ≤ 8) (hdg : decode cc pc = .ok (.invokestatic ix, 3))
    (g : G p l e R s m args below meth c Q D cl A nL ws k n (pc + 3) L (.int v :: rest)) : G p l e R s m args below meth c Q D cl A nL ws k n pc L stk := by
  intro H locs ls hP hD hS hl
  refine va_calli (va_runS (As := As) (rest := rest) ⟨C0.x, C0.b, C0.ml, C0.ow, C0.ts⟩ (hM H.size) (va_cwS na C0.ts (lw_S w1 w2 w3 w4) rfl hrc hrs hd hR) ⟨cBlind, sPre⟩ rfl hna hl.1 hst (lv_room hW) hdg ⟨hkn.1, hkn.2⟩) hS (fun q _ h => sA_in hS C0.al q h) (fun q h => sA_in hS C0.al q h) (fun r u t H1 locs1 ht hvm hpost hB hz hk1 hS1 => ?_)
  subst hpost
  exact g H1 locs1 ls (sKept hP hk1) hD hS1 hl
theorem g_csl {ws : va_W} {A : Nat → Prop} {v : Int64} (C0 : gC p s m args meth c D cl tys A nL cc own ro) (hM : SL l y bytes maxL rm As v)
    (w1 : Cond.methodLink own ix y ∈ lw_all) (w2 : Cond.static y ∈ lw_all) (w3 : Cond.initialized y.cls ∈ lw_all) (w4 : Cond.code y bytes maxL (some .long) ∈ lw_all)
    (hd : y.cls ≠ "java/lang/invoke/MethodHandle" ∧ y.cls ≠ "java/lang/invoke/VarHandle" ∧ (parseMethodDescriptor y.desc).map (fun d => d.parameters.length) = some na) (hR : rm.frames + 1 ≤ R.frames ∧ 8 + (maxL + 11) + rm.locals ≤ R.locals) (hrc : rm.cells = 0) (hrs : rm.slots = 0) (hkn : k ≤ R.cells ∧ n ≤ R.slots)
    (hna : As.length = na) (hst : stk = As.reverse ++ rest) (hW : (rest.map fun v => v.category).sum ≤ 8) (hdg : decode cc pc = .ok (.invokestatic ix, 3))
    (g : G p l e R s m args below meth c Q D cl A nL ws k n (pc + 3) L (.long v :: rest)) : G p l e R s m args below meth c Q D cl A nL ws k n pc L stk := by
  intro H locs ls hP hD hS hl
  refine va_calll (va_runS (As := As) (rest := rest) ⟨C0.x, C0.b, C0.ml, C0.ow, C0.ts⟩ (hM H.size) (va_cwS na C0.ts (lw_S w1 w2 w3 w4) rfl hrc hrs hd hR) ⟨cBlind, sPre⟩ rfl hna hl.1 hst (lv_room hW) hdg ⟨hkn.1, hkn.2⟩) hS (fun q _ h => sA_in hS C0.al q h) (fun q h => sA_in hS C0.al q h) (fun r u t H1 locs1 ht hvm hpost hB hz hk1 hS1 => ?_)
  subst hpost
  exact g H1 locs1 ls (sKept hP hk1) hD hS1 hl
end CCalls
