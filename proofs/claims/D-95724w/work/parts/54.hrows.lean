/-! worlds as lists: permutations, what is frozen (EZ), contracts that make cells, rows h_.. -/
set_option maxRecDepth 100000
theorem va_D_pw {A : Nat → Prop} {ws : va_W} : va_D A ws ↔ ws.Pairwise (fun p q => p.1 ≠ q.1) ∧ ∀ q ∈ ws, A q.1 := by
  constructor
  · intro h
    refine ⟨List.pairwise_iff_getElem.mpr (fun i j hi hj hij e => ?_), fun q hq => ?_⟩
    · have := h.1 i j _ _ (List.getElem?_eq_getElem hi) (List.getElem?_eq_getElem hj) e
      omega
    · obtain ⟨i, hi⟩ := List.getElem?_of_mem hq
      exact h.2 i q hi
  · rintro ⟨h1, h2⟩
    refine ⟨fun i j p q hp hq e => ?_, fun k q hk => h2 q (List.mem_of_getElem? hk)⟩
    obtain ⟨hi, rfl⟩ := List.getElem?_eq_some_iff.mp hp
    obtain ⟨hj, rfl⟩ := List.getElem?_eq_some_iff.mp hq
    rcases Nat.lt_trichotomy i j with h | h | h
    · exact absurd e (List.pairwise_iff_getElem.mp h1 i j hi hj h)
    · exact h
    · exact absurd e.symm (List.pairwise_iff_getElem.mp h1 j i hj hi h)
theorem va_P_mem {D : va_G} {cl : List vw_C} {ws : va_W} {H : Heap} : va_P D cl ws H ↔ ∀ q ∈ ws, va_at D cl q H := by
  constructor
  · intro h q hq
    obtain ⟨i, hi⟩ := List.getElem?_of_mem hq
    exact h i q hi
  · intro h k q hk
    exact h q (List.mem_of_getElem? hk)
theorem va_D_perm {A : Nat → Prop} {ws ws' : va_W} (hp : ws.Perm ws') (h : va_D A ws) : va_D A ws' := by
  rw [va_D_pw] at h ⊢
  exact ⟨(hp.pairwise_iff (fun h => Ne.symm h)).mp h.1, fun q hq => h.2 q (hp.symm.subset hq)⟩
theorem va_P_perm {D : va_G} {cl : List vw_C} {ws ws' : va_W} {H : Heap} (hp : ws.Perm ws') (h : va_P D cl ws H) : va_P D cl ws' H := by
  rw [va_P_mem] at h ⊢
  exact fun q hq => h q (hp.symm.subset hq)
theorem va_D_sl {A : Nat → Prop} {ws ws' : va_W} (hp : ws'.Sublist ws) (h : va_D A ws) : va_D A ws' := by
  rw [va_D_pw] at h ⊢
  exact ⟨h.1.sublist hp, fun q hq => h.2 q (hp.subset hq)⟩
theorem va_P_sl {D : va_G} {cl : List vw_C} {ws ws' : va_W} {H : Heap} (hp : ws'.Sublist ws) (h : va_P D cl ws H) : va_P D cl ws' H := by
  rw [va_P_mem] at h ⊢
  exact fun q hq => h q (hp.subset hq)
theorem va_A_iff {ws : va_W} {sz q : Nat} : va_A ws sz q ↔ (∃ e ∈ ws, q = e.1) ∨ sz ≤ q := by
  unfold va_A
  constructor
  · rintro (⟨k, e, h⟩ | h)
    · exact Or.inl ⟨_, List.mem_of_getElem? h, rfl⟩
    · exact Or.inr h
  · rintro (⟨⟨a, e⟩, h, rfl⟩ | h)
    · obtain ⟨i, hi⟩ := List.getElem?_of_mem h
      exact Or.inl ⟨i, e, hi⟩
    · exact Or.inr h
/-- the String constants of Reader: their places in the file, their texts -/
def sIx : List Nat := [78, 86, 88, 124, 128, 130]
def sTx : List String := ["plain", "open", "leap", "places", "stair", "person"]
def sLen : List Nat := [5, 4, 4, 6, 5, 6]
def sByt : List (List Int32) := [[112, 108, 97, 105, 110], [111, 112, 101, 110], [108, 101, 97, 112], [112, 108, 97, 99, 101, 115], [115, 116, 97, 105, 114], [112, 101, 114, 115, 111, 110]]
theorem PrivateAt_moved {u U : State} {y : MethodName} (ha : u.vm.Alike U.vm) (h : u.PrivateAt y) : U.PrivateAt y := by
  intro mk meth h1 h2
  rw [ha.method?] at h2
  refine h mk meth ?_ h2
  rw [← h1]
  exact (State.methodNamed?_setVm ha y).symm
/-- a class of arrays of arrays: its name, its kind, its rows' kind -/
def a2 (nm : String) (cA cR : ClassId) (t0 t1 : FieldType) (U : State) : Prop := U.vm.findClass nm = some cA ∧ (∃ k : Class, U.vm.classes[cA]? = some k ∧ k.kind = .array cR t0) ∧ ∃ (k : Class) (cc : ClassId), U.vm.classes[cR]? = some k ∧ k.kind = .array cc t1
theorem a2_moved {nm : String} {cA cR : ClassId} {t0 t1 : FieldType} {u U : State} (ha : u.vm.Alike U.vm) (h : a2 nm cA cR t0 t1 u) : a2 nm cA cR t0 t1 U := by
  obtain ⟨h1, ⟨k, h2, h3⟩, k1, cc, h4, h5⟩ := h
  obtain ⟨k', hk', he⟩ := ha.2.2 _ _ h2
  obtain ⟨k1', hk1', he1⟩ := ha.2.2 _ _ h4
  exact ⟨by rw [ha.findClass]; exact h1, ⟨k', hk', by rw [he]; exact h3⟩, k1', cc, hk1', by rw [he1]; exact h5⟩
/-- the classes of arrays of references -/
def ao (dT : Nat → ClassId) (U : State) : Prop := va_AO "FittingStrides$Stair" U ∧ U.vm.findClass "[LFittingStrides$Stair;" = some (dT 5) ∧ va_AO "FittingStrides$Folk" U ∧ U.vm.findClass "[LFittingStrides$Folk;" = some (dT 6) ∧ a2 "[[I" (dT 3) (dT 0) (.array .int) .int U ∧ a2 "[[Z" (dT 4) (dT 1) (.array .boolean) .boolean U
theorem ao_moved {dT : Nat → ClassId} {u U : State} (ha : u.vm.Alike U.vm) (h : ao dT u) : ao dT U :=
  ⟨va_AO.moved ha h.1, by rw [ha.findClass]; exact h.2.1, va_AO.moved ha h.2.2.1, by rw [ha.findClass]; exact h.2.2.2.1, a2_moved ha h.2.2.2.2.1, a2_moved ha h.2.2.2.2.2⟩
/-- what lies outside our cells, and what the tables say -/
def EZ (dT : Nat → ClassId) (kk : (Nat → Nat) × (Nat → Nat)) (A : Nat → Prop) (U : State) (H : Heap) : Prop :=
  NW U ∧ (U.vm.findClass "[I" = some (dT 0) ∧ U.vm.findClass "[Z" = some (dT 1) ∧ U.vm.findClass "[B" = some (dT 2)) ∧ (va_Nw (.castable "[B" "java/lang/Cloneable") U ∧ U.PrivateAt yJ0_ensureCapacityInternal ∧ U.PrivateAt yJ0_newCapacity ∧ va_Nw (.castable "FittingStrides$OpenStair" "FittingStrides$Stair") U ∧ va_Nw (.castable "FittingStrides$LeapStair" "FittingStrides$Stair") U ∧ va_Nw (.castable "FittingStrides$Fault" "FittingStrides$Fault") U ∧ ao dT U) ∧
  va_Z "java/lang/String" "COMPACT_STRINGS" "Z" (.int 1) A U H ∧ va_Zq "java/lang/Throwable" "UNASSIGNED_STACK" "[Ljava/lang/StackTraceElement;" A U H ∧ va_Zq "java/lang/Throwable" "SUPPRESSED_SENTINEL" "Ljava/util/List;" A U H ∧
  vk_S 6 sLen sByt kk.1 kk.2 A U H ∧ ∀ i, i < 6 → vk_R "FittingStrides$Reader" (sIx.getD i 0) (sTx.getD i "") (kk.1 i) U
section EZs
variable {dT : Nat → ClassId} {kk : (Nat → Nat) × (Nat → Nat)} {A B : Nat → Prop} {U u : State} {H H1 : Heap}
theorem EZ.nw (h : EZ dT kk A U H) : NW U := h.1
theorem EZ.fI (h : EZ dT kk A U H) : U.vm.findClass "[I" = some (dT 0) := h.2.1.1
theorem EZ.fZ (h : EZ dT kk A U H) : U.vm.findClass "[Z" = some (dT 1) := h.2.1.2.1
theorem EZ.fB (h : EZ dT kk A U H) : U.vm.findClass "[B" = some (dT 2) := h.2.1.2.2
theorem EZ.cs (h : EZ dT kk A U H) : va_Z "java/lang/String" "COMPACT_STRINGS" "Z" (.int 1) A U H := h.2.2.2.1
theorem EZ.ks (h : EZ dT kk A U H) : vk_S 6 sLen sByt kk.1 kk.2 A U H := h.2.2.2.2.2.2.1
theorem EZ.kept (h : EZ dT kk A U H) (hq : ∀ a : Nat, a < H.size → ¬ A a → H1[a]? = H[a]?) : EZ dT kk A U H1 :=
  ⟨h.1, h.2.1, h.2.2.1, h.2.2.2.1.kept hq, h.2.2.2.2.1.kept hq, h.2.2.2.2.2.1.kept hq, h.2.2.2.2.2.2.1.kept hq, h.2.2.2.2.2.2.2⟩
theorem EZ.narrow (h : EZ dT kk A U H) (hAB : ∀ q, B q → A q) : EZ dT kk B U H :=
  ⟨h.1, h.2.1, h.2.2.1, h.2.2.2.1.narrow hAB, h.2.2.2.2.1.narrow hAB, h.2.2.2.2.2.1.narrow hAB, h.2.2.2.2.2.2.1.narrow hAB, h.2.2.2.2.2.2.2⟩
theorem EZ.warm (h : EZ dT kk A u H) (hW : u.WarmedH U.vm) : EZ dT kk A U H := by
  have ha := hW.alike
  refine ⟨h.1.warm hW, ?_, ?_, va_Z.moved ha h.2.2.2.1, va_Zq.moved ha h.2.2.2.2.1, va_Zq.moved ha h.2.2.2.2.2.1, vk_S.moved ha h.2.2.2.2.2.2.1, fun i hi => (h.2.2.2.2.2.2.2 i hi).warm hW⟩
  · rw [ha.findClass, ha.findClass, ha.findClass]; exact h.2.1
  · exact ⟨va_Nw.warmC hW h.2.2.1.1, PrivateAt_moved ha h.2.2.1.2.1, PrivateAt_moved ha h.2.2.1.2.2.1, va_Nw.warmC hW h.2.2.1.2.2.2.1, va_Nw.warmC hW h.2.2.1.2.2.2.2.1, va_Nw.warmC hW h.2.2.1.2.2.2.2.2.1, ao_moved ha h.2.2.1.2.2.2.2.2.2⟩
theorem EZ.same (h : EZ dT kk A u H) (he : u.vm = U.vm) : EZ dT kk A U H := by
  have ha : u.vm.Alike U.vm := he ▸ Vm.Alike.refl u.vm
  refine ⟨h.1.same he, by rw [← he]; exact h.2.1, ⟨va_Nw.same rfl he h.2.2.1.1, PrivateAt_moved ha h.2.2.1.2.1, PrivateAt_moved ha h.2.2.1.2.2.1, va_Nw.same rfl he h.2.2.1.2.2.2.1, va_Nw.same rfl he h.2.2.1.2.2.2.2.1, va_Nw.same rfl he h.2.2.1.2.2.2.2.2.1, ao_moved ha h.2.2.1.2.2.2.2.2.2⟩, va_Z.moved ha h.2.2.2.1, va_Zq.moved ha h.2.2.2.2.1, va_Zq.moved ha h.2.2.2.2.2.1, vk_S.moved ha h.2.2.2.2.2.2.1, fun i hi => (h.2.2.2.2.2.2.2 i hi).same he.symm⟩
end EZs
def hB (D : va_G) (dT : Nat → ClassId) (A : Nat → Prop) (w : va_W) (U : State) : Prop := va_P D clA w U.heap ∧ va_K D clA (tyA dT) U ∧ va_D A w
abbrev hPc (D : va_G) (dT : Nat → ClassId) (kk : (Nat → Nat) × (Nat → Nat)) (av : List Value) (w : va_W) (sz : Nat) : Array Value → State → Prop :=
  va_Pc av (fun U => (U.heap.size = sz ∧ hB D dT (fun _ => True) w U) ∧ EZ dT kk (va_A w sz) U U.heap)
theorem hBlind {D : va_G} {dT : Nat → ClassId} {kk : (Nat → Nat) × (Nat → Nat)} {av : List Value} {w : va_W} {sz : Nat} : FrameBlind (hPc D dT kk av w sz) := fun a U g mk q => by
  obtain ⟨q0, ⟨q1, qP, qK, qD⟩, qE⟩ := q
  exact ⟨q0, ⟨q1, qP, va_K.moved (u := U) (U := U.calling g mk a) (Vm.Alike.refl U.vm) qK, qD⟩, EZ.same (u := U) (U := U.calling g mk a) qE rfl⟩
/-- a contract over a list world -/
def HC (l : Launch) (y : MethodName) (cc : ByteArray) (nL : Nat) (ro : Option FieldType) (rm : Room) (D : va_G) (dT : Nat → ClassId) (kk : (Nat → Nat) × (Nat → Nat)) (av : List Value) (w : va_W) (Qc : (Nat → Prop) → Array Value → State → Outcome → State → Prop) (mc ms : Nat) : Prop :=
  ∀ sz, Met l y (ws_ y cc nL ro) rm (hPc D dT kk av w sz) (Qc (va_A w sz)) mc ms (va_A w sz)
def HX (l : Launch) (y : MethodName) (cc : ByteArray) (nL : Nat) (ro : Option FieldType) (rm : Room) (D : va_G) (dT : Nat → ClassId) (kk : (Nat → Nat) × (Nat → Nat)) (av : List Value) (w : va_W) (Qc : (Nat → Prop) → Array Value → State → Outcome → State → Prop) (mc ms : Nat) : Prop :=
  ∀ sz, MetX l y (ws_ y cc nL ro) rm (hPc D dT kk av w sz) (Qc (va_A w sz)) mc ms (va_A w sz)
abbrev hQi {S : Type} (D : va_G) (dT : Nat → ClassId) (wf : S → va_W) (post : Int32 → S → Prop) (A : Nat → Prop) : Array Value → State → Outcome → State → Prop := va_Qi post (fun u => hB D dT A (wf u)) A
abbrev hQv {S : Type} (D : va_G) (dT : Nat → ClassId) (wf : S → va_W) (post : S → Prop) (A : Nat → Prop) : Array Value → State → Outcome → State → Prop := va_Qv post (fun u => hB D dT A (wf u)) A
abbrev hQr {S : Type} (D : va_G) (dT : Nat → ClassId) (wf : S → Nat → va_W) (post : S → Nat → Prop) (A : Nat → Prop) : Array Value → State → Outcome → State → Prop := va_Qr (fun _ => True) (fun u a t => post u a ∧ hB D dT A (wf u a) t) A
/-- a Fault's fields -/
def fF (a b : Nat) : List Value := [.null, .null, .null, .null, .null, .int 0, .int (nI a), .int (nI b)]
def hQx {S : Type} (D : va_G) (dT : Nat → ClassId) (wf : S → va_W) (post : Option Value → S → Prop) (w1 : va_W) (pt : Nat → Nat → Prop) (A : Nat → Prop) : Array Value → State → Outcome → State → Prop :=
  fun _ st o t => ((∃ (r : Option Value) (u : S), o = .returned r ∧ post r u ∧ hB D dT A (wf u) t) ∨ (∃ (x a b : Nat), o = .threw x ∧ pt a b ∧ hB D dT A ((x, .inr (5, fF a b)) :: w1) t)) ∧ va_F A st t
theorem hD_in {A : Nat → Prop} {w : va_W} {sz : Nat} (h : va_D A w) : va_D (va_A w sz) w := ⟨h.1, fun k q hk => Or.inl ⟨k, q.2, hk⟩⟩
section HE
variable {l : Launch} {y : MethodName} {cc : ByteArray} {nL mc ms : Nat} {rm : Room} {D : va_G} {dT : Nat → ClassId} {kk : (Nat → Nat) × (Nat → Nat)} {av : List Value} {w : va_W} {L : List (Option Value)}
theorem HC.ofG {own : String} {ro : Option FieldType} {Qc : (Nat → Prop) → Array Value → State → Outcome → State → Prop} (ho : y.cls = own) (hy : plainName y.cls = true) (hn : (lg_sl av).length ≤ nL) (hL : gL 0 L = lv_args 0 av)
    (h : ∀ (p : Program) (e : Env) (s : State) (m : MethodId) (below : List Frame) (meth : Method) (c : Code) (A : Nat → Prop), A = va_A w s.heap.size → gC p s m av.toArray meth c D clA (tyA dT) A nL cc own ro → EZ dT kk A s s.heap → meth.name = y.name →
      G p l e rm s m av.toArray below meth c (MQ below (Qc A) av.toArray s mc ms A) D clA A nL w 0 0 0 L []) :
    HC l y cc nL ro rm D dT kk av w Qc mc ms := by
  intro sz
  refine Met.ofW (cc := cc) (maxL := nL) (ret := ro) hy rfl ?_
  intro p e s m args below meth c s₁ B hml hv
  obtain ⟨rfl, ⟨hsz, hP, hK, hD0⟩, hE⟩ := hv
  have hts := atoms_spec (ws := ws_ y cc nL ro) B.pre
  have hts : ∀ w ∈ lw_all, w.before av.toArray s = true := fun w h => hts w (List.mem_cons_of_mem _ h)
  subst hsz
  have hl := lv_entry av (n := nL) hn
  rw [lg_entry_eq]
  refine h p e s m below meth c _ rfl ⟨B.exec, B.bytes, hml, ho ▸ findClass_of_methodNamed B.named, hts, hK, fun q hq => Or.inr hq, B.returns, B.notSynchronized⟩ hE (name_of_methodNamed B.named B.method).1 s.heap [] _ hP (hD_in hD0) va_S.rf ?_
  rw [hL]
  exact hl
theorem HX.ofG {own : String} {ro : Option FieldType} {Qc : (Nat → Prop) → Array Value → State → Outcome → State → Prop} (ho : y.cls = own) (hy : plainName y.cls = true) (hn : (lg_sl av).length ≤ nL) (hL : gL 0 L = lv_args 0 av)
    (h : ∀ (p : Program) (e : Env) (s : State) (m : MethodId) (below : List Frame) (meth : Method) (c : Code) (A : Nat → Prop), A = va_A w s.heap.size → gC p s m av.toArray meth c D clA (tyA dT) A nL cc own ro → EZ dT kk A s s.heap → c.exceptionTable.isEmpty = true →
      G p l e rm s m av.toArray below meth c (MQX below (Qc A) av.toArray s mc ms A) D clA A nL w 0 0 0 L []) :
    HX l y cc nL ro rm D dT kk av w Qc mc ms := by
  intro sz
  refine MetX.ofW (cc := cc) (maxL := nL) (ret := ro) hy rfl ?_
  intro p e s m args below meth c s₁ B hml hv hx
  obtain ⟨rfl, ⟨hsz, hP, hK, hD0⟩, hE⟩ := hv
  have hts := atoms_spec (ws := ws_ y cc nL ro) B.pre
  have hts : ∀ w ∈ lw_all, w.before av.toArray s = true := fun w h => hts w (List.mem_cons_of_mem _ h)
  subst hsz
  have hl := lv_entry av (n := nL) hn
  rw [lg_entry_eq]
  refine h p e s m below meth c _ rfl ⟨B.exec, B.bytes, hml, ho ▸ findClass_of_methodNamed B.named, hts, hK, fun q hq => Or.inr hq, B.returns, B.notSynchronized⟩ hE hx s.heap [] _ hP (hD_in hD0) va_S.rf ?_
  rw [hL]
  exact hl
end HE
section HR
variable {p : Program} {l : Launch} {e : Env} {R : Room} {s : State} {m : MethodId} {args : Array Value} {below : List Frame} {meth : Method} {c : Code} {Q : State → Prop} {D : va_G} {dT : Nat → ClassId} {A : Nat → Prop} {nL : Nat} {cc : ByteArray} {own : String} {ret : Option FieldType} {ws : va_W} {k n pc : Nat} {L : List (Option Value)} {st : List Value}
theorem G.perm {ws' : va_W} (h : ws.Perm ws') (g : G p l e R s m args below meth c Q D clA A nL ws' k n pc L st) : G p l e R s m args below meth c Q D clA A nL ws k n pc L st := fun H locs ls hP hD hS hl => g H locs ls (va_P_perm h hP) (va_D_perm h hD) hS hl
theorem G.drop {ws' : va_W} (h : ws'.Sublist ws) (g : G p l e R s m args below meth c Q D clA A nL ws' k n pc L st) : G p l e R s m args below meth c Q D clA A nL ws k n pc L st := fun H locs ls hP hD hS hl => g H locs ls (va_P_sl h hP) (va_D_sl h hD) hS hl
theorem G.whK {σ : Type} {wf : σ → va_W} {Lf : σ → List (Option Value)} {kf nf : σ → Nat} (μ : σ → Nat) (I : σ → Prop) (x : σ) (hx : I x) (hs : ∀ x, I x → (∀ y, I y → μ y < μ x → G p l e R s m args below meth c Q D clA A nL (wf y) (kf y) (nf y) pc (Lf y) []) → G p l e R s m args below meth c Q D clA A nL (wf x) (kf x) (nf x) pc (Lf x) []) : G p l e R s m args below meth c Q D clA A nL (wf x) (kf x) (nf x) pc (Lf x) [] := by
  have key : ∀ d x, μ x < d → I x → G p l e R s m args below meth c Q D clA A nL (wf x) (kf x) (nf x) pc (Lf x) [] := by
    intro d
    induction d with
    | zero => intro x h; omega
    | succ d ih => intro x h hi; exact hs x hi (fun y hy hl => ih y (by omega) hy)
  exact key (μ x + 1) x (by omega) hx
/-- a field is read -/
theorem h_get (C0 : gC p s m args meth c D clA (tyA dT) A nL cc own ret) {C ref : String} {T : u_T} {N ci ix q0 a : Nat} {fs : List Value} {v : Value} (fk : Nat) (he : ws[q0]? = some (a, .inr (ci, fs))) (hc : clA[ci]? = some (C, T, N)) (hin : ∀ w ∈ u_ws C T N, w ∈ lw_all) (hk : fk < N) (w1 : Cond.fieldLink own ix (T fk).1 (T fk).2.1 (T fk).2.2.1 ∈ lw_all) (hv : fs[fk]? = some v) (hdg : decode cc pc = .ok (.getfield ix, 3))
    (g : G p l e R s m args below meth c Q D clA A nL ws k n (pc + 3) L (v :: st)) : G p l e R s m args below meth c Q D clA A nL ws k n pc L (.ref a :: st) := by
  intro H locs ls hP hD hS hl
  exact va_get (D := D) (ci := ci) (v := v) (C := C) (T := T) (N := N) C0.x C0.b C0.ts hin C0.ow C0.K hP q0 he hc fk hk (C0.ts _ w1) (fun _ h9 => h9) hv hdg (g H locs ls hP hD hS hl)
theorem h_getN (C0 : gC p s m args meth c D clA (tyA dT) A nL cc own ret) (hN : NW s) {C host : String} {T : u_T} {N ci ix q0 a : Nat} {fs : List Value} {v : Value} (fk : Nat) (he : ws[q0]? = some (a, .inr (ci, fs))) (hc : clA[ci]? = some (C, T, N)) (hin : ∀ w ∈ u_ws C T N, w ∈ lw_all) (hk : fk < N) (w1 : Cond.fieldLinkNest own ix (T fk).1 (T fk).2.1 (T fk).2.2.1 host ∈ lw_tbl) (hv : fs[fk]? = some v) (hdg : decode cc pc = .ok (.getfield ix, 3))
    (g : G p l e R s m args below meth c Q D clA A nL ws k n (pc + 3) L (v :: st)) : G p l e R s m args below meth c Q D clA A nL ws k n pc L (.ref a :: st) := by
  intro H locs ls hP hD hS hl
  exact va_getN (D := D) (ci := ci) (v := v) (C := C) (T := T) (N := N) C0.x C0.b C0.ts hin C0.ow C0.K hP q0 he hc fk hk (hN.use w1 rfl) (fun _ h9 => h9) hv hdg (g H locs ls hP hD hS hl)
theorem h_put (C0 : gC p s m args meth c D clA (tyA dT) A nL cc own ret) {C : String} {T : u_T} {N ci ix q0 a : Nat} {fs : List Value} {v : Value} {ty : FieldType} {ws' : va_W} (ty0 : Nat → FieldType) (hty : ∀ k, k < N → parseFieldDescriptor (T k).2.2.1 = some (ty0 k)) (hnm : ∀ a, a < N → ∀ b, b < N → a ≠ b → (T a).2.1 ≠ (T b).2.1) (fk : Nat) (he : ws[q0]? = some (a, .inr (ci, fs))) (hc : clA[ci]? = some (C, T, N)) (hin : ∀ w ∈ u_ws C T N, w ∈ lw_all) (hk : fk < N) (w1 : Cond.fieldLink own ix (T fk).1 (T fk).2.1 (T fk).2.2.1 ∈ lw_all) (hfin : (T fk).2.2.2 = false) (hd : parseFieldDescriptor (T fk).2.2.1 = some ty) (hn : narrow ty v = v) (hfit : fits ty v = true) (hl0 : fk < fs.length) (hw : ws.set q0 (a, .inr (ci, fs.set fk v)) = ws') (hdg : decode cc pc = .ok (.putfield ix, 3))
    (g : G p l e R s m args below meth c Q D clA A nL ws' k n (pc + 3) L st) : G p l e R s m args below meth c Q D clA A nL ws k n pc L (v :: .ref a :: st) := by
  intro H locs ls hP hD hS hl
  subst hw
  exact va_put (D := D) (ci := ci) (v := v) (ty := ty) (C := C) (T := T) (N := N) C0.x C0.b C0.ts hin ty0 hty hnm C0.ow C0.K hP hD hS q0 he hc fk hk (C0.ts _ w1) (fun _ h9 => h9) hfin hd hn hfit hl0 hdg (fun H1 locs1 hP1 hD1 hS1 => g H1 locs1 ls hP1 hD1 hS1 hl)
theorem h_putN (C0 : gC p s m args meth c D clA (tyA dT) A nL cc own ret) (hN : NW s) {C host : String} {T : u_T} {N ci ix q0 a : Nat} {fs : List Value} {v : Value} {ty : FieldType} {ws' : va_W} (ty0 : Nat → FieldType) (hty : ∀ k, k < N → parseFieldDescriptor (T k).2.2.1 = some (ty0 k)) (hnm : ∀ a, a < N → ∀ b, b < N → a ≠ b → (T a).2.1 ≠ (T b).2.1) (fk : Nat) (he : ws[q0]? = some (a, .inr (ci, fs))) (hc : clA[ci]? = some (C, T, N)) (hin : ∀ w ∈ u_ws C T N, w ∈ lw_all) (hk : fk < N) (w1 : Cond.fieldLinkNest own ix (T fk).1 (T fk).2.1 (T fk).2.2.1 host ∈ lw_tbl) (hfin : (T fk).2.2.2 = false) (hd : parseFieldDescriptor (T fk).2.2.1 = some ty) (hn : narrow ty v = v) (hfit : fits ty v = true) (hl0 : fk < fs.length) (hw : ws.set q0 (a, .inr (ci, fs.set fk v)) = ws') (hdg : decode cc pc = .ok (.putfield ix, 3))
    (g : G p l e R s m args below meth c Q D clA A nL ws' k n (pc + 3) L st) : G p l e R s m args below meth c Q D clA A nL ws k n pc L (v :: .ref a :: st) := by
  intro H locs ls hP hD hS hl
  subst hw
  exact va_putN (D := D) (ci := ci) (v := v) (ty := ty) (C := C) (T := T) (N := N) C0.x C0.b C0.ts hin ty0 hty hnm C0.ow C0.K hP hD hS q0 he hc fk hk (hN.use w1 rfl) (fun _ h9 => h9) hfin hd hn hfit hl0 hdg (fun H1 locs1 hP1 hD1 hS1 => g H1 locs1 ls hP1 hD1 hS1 hl)
/-- a final field, in a constructor -/
theorem h_putF (C0 : gC p s m args meth c D clA (tyA dT) A nL cc own ret) {C : String} {T : u_T} {N ci ix q0 a : Nat} {fs : List Value} {v : Value} {ty : FieldType} {ws' : va_W} (ty0 : Nat → FieldType) (hty : ∀ k, k < N → parseFieldDescriptor (T k).2.2.1 = some (ty0 k)) (hnm : ∀ a, a < N → ∀ b, b < N → a ≠ b → (T a).2.1 ≠ (T b).2.1) (hini : meth.name = "<init>") (fk : Nat) (he : ws[q0]? = some (a, .inr (ci, fs))) (hc : clA[ci]? = some (C, T, N)) (hin : ∀ w ∈ u_ws C T N, w ∈ lw_all) (hk : fk < N) (w1 : Cond.fieldLink own ix (T fk).1 (T fk).2.1 (T fk).2.2.1 ∈ lw_all) (hfin : (T fk).2.2.2 = true) (hdecl : (T fk).1 = own) (hd : parseFieldDescriptor (T fk).2.2.1 = some ty) (hn : narrow ty v = v) (hfit : fits ty v = true) (hl0 : fk < fs.length) (hw : ws.set q0 (a, .inr (ci, fs.set fk v)) = ws') (hdg : decode cc pc = .ok (.putfield ix, 3))
    (g : G p l e R s m args below meth c Q D clA A nL ws' k n (pc + 3) L st) : G p l e R s m args below meth c Q D clA A nL ws k n pc L (v :: .ref a :: st) := by
  intro H locs ls hP hD hS hl
  subst hw
  exact va_putF (D := D) (ci := ci) (v := v) (ty := ty) (C := C) (T := T) (N := N) C0.x C0.b C0.ts hin ty0 hty hnm C0.ow C0.K hP hD hS q0 he hc fk hk (C0.ts _ w1) (fun _ h9 => h9) hfin hini hdecl hd hn hfit hl0 hdg (fun H1 locs1 hP1 hD1 hS1 => g H1 locs1 ls hP1 hD1 hS1 hl)
theorem h_bald (C0 : gC p s m args meth c D clA (tyA dT) A nL cc own ret) {q0 t0 N a : Nat} {dA : ClassId} {f : Nat → Int32} {v : Int32} (i : Nat) (he : ws[q0]? = some (a, .inl (dA, N, .inl f))) (ht : (tyA dT)[t0]? = some (dA, .byte)) (hN : N < 2 ^ 31) (hi : i < N) (hv : f i = v) (hdg : decode cc pc = .ok (.baload, 1))
    (g : G p l e R s m args below meth c Q D clA A nL ws k n (pc + 1) L (.int v :: st)) : G p l e R s m args below meth c Q D clA A nL ws k n pc L (.int (nI i) :: .ref a :: st) := by
  intro H locs ls hP hD hS hl
  subst hv
  refine va_bald C0.x C0.b C0.K hP q0 t0 he ht (vp_in_nI hi hN) hdg ?_
  rw [nI_clamp (by omega)]
  exact g H locs ls hP hD hS hl
theorem h_bast (C0 : gC p s m args meth c D clA (tyA dT) A nL cc own ret) {q0 t0 N a : Nat} {dA : ClassId} {f : Nat → Int32} {x : Int32} {ws' : va_W} (i : Nat) (he : ws[q0]? = some (a, .inl (dA, N, .inl f))) (ht : (tyA dT)[t0]? = some (dA, .byte)) (hN : N < 2 ^ 31) (hi : i < N) (hw : ws.set q0 (a, .inl (dA, N, .inl (upd f i (vp_nar .byte x)))) = ws') (hdg : decode cc pc = .ok (.bastore, 1))
    (g : G p l e R s m args below meth c Q D clA A nL ws' k n (pc + 1) L st) : G p l e R s m args below meth c Q D clA A nL ws k n pc L (.int x :: .int (nI i) :: .ref a :: st) := by
  intro H locs ls hP hD hS hl
  subst hw
  refine va_bast C0.x C0.b C0.K hP hD hS q0 t0 he ht (vp_in_nI hi hN) hdg (fun H1 locs1 hP1 hD1 hS1 => ?_)
  rw [nI_clamp (by omega)] at hP1 hD1
  exact g H1 locs1 ls hP1 hD1 hS1 hl
theorem h_iast (C0 : gC p s m args meth c D clA (tyA dT) A nL cc own ret) {q0 t0 N a : Nat} {dA : ClassId} {f : Nat → Int32} {x : Int32} {ws' : va_W} (i : Nat) (he : ws[q0]? = some (a, .inl (dA, N, .inl f))) (ht : (tyA dT)[t0]? = some (dA, .int)) (hN : N < 2 ^ 31) (hi : i < N) (hw : ws.set q0 (a, .inl (dA, N, .inl (upd f i x))) = ws') (hdg : decode cc pc = .ok (.iastore, 1))
    (g : G p l e R s m args below meth c Q D clA A nL ws' k n (pc + 1) L st) : G p l e R s m args below meth c Q D clA A nL ws k n pc L (.int x :: .int (nI i) :: .ref a :: st) := by
  intro H locs ls hP hD hS hl
  subst hw
  refine va_iast C0.x C0.b C0.K hP hD hS q0 t0 he ht (vp_in_nI hi hN) hdg (fun H1 locs1 hP1 hD1 hS1 => ?_)
  rw [nI_clamp (by omega)] at hP1 hD1
  exact g H1 locs1 ls hP1 hD1 hS1 hl
theorem h_alen (C0 : gC p s m args meth c D clA (tyA dT) A nL cc own ret) {q0 t0 a : Nat} {dA : ClassId} {x : vp_A} {ty : FieldType} (he : ws[q0]? = some (a, .inl (dA, x))) (ht : (tyA dT)[t0]? = some (dA, ty)) (hdg : decode cc pc = .ok (.arraylength, 1))
    (g : G p l e R s m args below meth c Q D clA A nL ws k n (pc + 1) L (.int (nI x.1) :: st)) : G p l e R s m args below meth c Q D clA A nL ws k n pc L (.ref a :: st) := by
  intro H locs ls hP hD hS hl
  exact va_alen C0.x C0.b C0.K hP q0 t0 he ht rfl hdg (g H locs ls hP hD hS hl)
/-- an object is made -/
theorem h_new (C0 : gC p s m args meth c D clA (tyA dT) A nL cc own ret) {C : String} {T : u_T} {N ci ix : Nat} {fs : List Value} (ty : Nat → FieldType) (hty : ∀ k, k < N → parseFieldDescriptor (T k).2.2.1 = some (ty k)) (hin : ∀ w ∈ u_ws C T N, w ∈ lw_all) (hc : clA[ci]? = some (C, T, N)) (w1 : Cond.classLink own ix C ∈ lw_all) (w2 : Cond.instantiable C N ∈ lw_all) (w3 : Cond.initialized C ∈ lw_all) (hfs : ∀ j, j < N → defaultValue (ty j) = vp_V fs j) (hk : k + 1 ≤ R.cells ∧ n + N ≤ R.slots) (hdg : decode cc pc = .ok (.new ix, 3))
    (g : ∀ q : Nat, G p l e R s m args below meth c Q D clA A nL (ws ++ [(q, .inr (ci, fs))]) (k + 1) (n + N) (pc + 3) L (.ref q :: st)) : G p l e R s m args below meth c Q D clA A nL ws k n pc L st := by
  intro H locs ls hP hD hS hl
  exact va_new C0.x C0.b C0.ts hin ty hty C0.ow (C0.ts _ w1) (C0.ts _ w2) (C0.ts _ w3) C0.K hP hD hS C0.al hc hfs hk.1 hk.2 hdg (fun q H1 hP1 hD1 hS1 => g q H1 locs ls hP1 hD1 hS1 hl)
theorem newa_cls {ty : FieldType} {cA c2 : ClassId} {nm : String} (h : s.vm.findClass nm = some c2) (h2 : s.vm.findClass nm = some cA) : cA = c2 := Option.some.inj (h2.symm.trans h)
/-- an array of ints or bytes is made -/
theorem h_newa (C0 : gC p s m args meth c D clA (tyA dT) A nL cc own ret) {atype : ArrayType} {ty : FieldType} {dA : ClassId} (N : Nat) (hty : newarray.typeOf atype = ty) (hdef : defaultValue ty = .int 0) (hnm : s.vm.findClass ("[" ++ ty.toString) = some dA) (w1 : Cond.arrayClass ty ∈ lw_all) (hN : N < 2 ^ 31) (hbytes : N * componentBytes ty ≤ 536870912) (hk : k + 1 ≤ R.cells ∧ n + N ≤ R.slots) (hdg : decode cc pc = .ok (.newarray atype, 2))
    (g : ∀ q : Nat, G p l e R s m args below meth c Q D clA A nL (ws ++ [(q, .inl (dA, N, .inl (fun _ => 0)))]) (k + 1) (n + N) (pc + 2) L (.ref q :: st)) : G p l e R s m args below meth c Q D clA A nL ws k n pc L (.int (nI N) :: st) := by
  intro H locs ls hP hD hS hl
  subst hty
  refine va_newaK C0.x C0.b (C0.ts _ w1) (g := F0 m pc ls (.int (nI N) :: st)) rfl hdg (n := nI N) (N := N) rfl (nI_pos hN) (nI_clamp hN) hbytes hk.1 hk.2 rfl (fun H' cA e1 z1 o1 _ hf => ?_)
  have e0 : cA = dA := Option.some.inj (hf.symm.trans hnm)
  subst e0
  rw [hdef] at e1
  have hP1 : va_P D clA (ws ++ [(H.size, .inl (cA, N, .inl (fun _ => 0)))]) H' := by
    intro i q hi
    rw [List.getElem?_append] at hi
    split at hi
    · exact (hP i q hi).kept (o1 _ (hP i q hi).lt)
    · rename_i hlt
      cases hj : i - ws.length with
      | zero => rw [hj] at hi; cases hi; exact e1
      | succ j => rw [hj] at hi; cases hi
  have hD1 : va_D A (ws ++ [(H.size, .inl (cA, N, .inl (fun _ => 0)))]) := by
    rw [va_D_pw]
    rw [va_D_pw] at hD
    refine ⟨List.pairwise_append.mpr ⟨hD.1, List.pairwise_singleton _ _, fun a ha b hb e => ?_⟩, fun q hq => ?_⟩
    · rw [List.mem_singleton] at hb
      subst hb
      have := (va_P_mem.mp hP a ha).lt
      exact absurd e (Nat.ne_of_lt this)
    · rcases List.mem_append.mp hq with h | h
      · exact hD.2 q h
      · rw [List.mem_singleton] at h
        subst h
        exact C0.al _ hS.1
  exact g H.size H' locs ls hP1 hD1 ⟨by rw [z1]; exact Nat.le_succ_of_le hS.1, fun q h1 h2 => by rw [o1 q (Nat.lt_of_lt_of_le h1 hS.1)]; exact hS.2.1 q h1 h2, hS.2.2⟩ hl
theorem h_objInit (C0 : gC p s m args meth c D clA (tyA dT) A nL cc own ret) {ix a : Nat} (w1 : Cond.methodLink own ix Lib.objectInit ∈ lw_all) (w2 : Cond.instanceMethod Lib.objectInit ∈ lw_all) (w3 : Cond.code Lib.objectInit ⟨#[0xb1]⟩ 1 none ∈ lw_all) (hf : 1 ≤ R.frames) (hlo : (st.map fun v => v.category).sum + 12 ≤ R.locals) (hdg : decode cc pc = .ok (.invokespecial ix, 3))
    (g : G p l e R s m args below meth c Q D clA A nL ws k n (pc + 3) L st) : G p l e R s m args below meth c Q D clA A nL ws k n pc L (.ref a :: st) := by
  intro H locs ls hP hD hS hl
  exact W.objInit C0.x C0.b C0.ow (C0.ts _ w1) (C0.ts _ w2) (C0.ts _ w3) rfl (by rw [C0.ml]; exact hl.1) rfl hdg hf (by show 2 * 0 + _ + 12 ≤ _; omega) (g H locs ls hP hD hS hl)
theorem h_null (C0 : gC p s m args meth c D clA (tyA dT) A nL cc own ret) (hdg : decode cc pc = .ok (.aconst_null, 1)) (g : G p l e R s m args below meth c Q D clA A nL ws k n (pc + 1) L (.null :: st)) : G p l e R s m args below meth c Q D clA A nL ws k n pc L st := by
  intro H locs ls hP hD hS hl
  exact lv_null C0.x C0.b hdg (g H locs ls hP hD hS hl)
theorem h_iret {S : Type} {wf : S → va_W} {post : Int32 → S → Prop} {v : Int32} (C0 : gC p s m args meth c D clA (tyA dT) A nL cc own (some .int)) (u : S) (hdg : decode cc pc = .ok (.ireturn, 1)) (hw : ws = wf u) (h : post v u) : G p l e R s m args below meth c (MQ below (hQi D dT wf post A) args s k n A) D clA A nL ws k n pc L [.int v] := by
  intro H locs ls hP hD hS hl
  subst hw
  exact W.iret (v := v) C0.x C0.b C0.r (fun t ht hW => ⟨⟨v, u, rfl, h, by rw [ht]; exact hP, va_K.moved hW.alike C0.K, hD⟩, hS.F ht⟩) hS.2.2 hdg (hlocks := C0.lk)
theorem h_zret {S : Type} {wf : S → va_W} {post : Int32 → S → Prop} {v : Int32} (C0 : gC p s m args meth c D clA (tyA dT) A nL cc own (some .boolean)) (u : S) (hdg : decode cc pc = .ok (.ireturn, 1)) (hn : narrow .boolean (.int v) = .int v) (hw : ws = wf u) (h : post v u) : G p l e R s m args below meth c (MQ below (hQi D dT wf post A) args s k n A) D clA A nL ws k n pc L [.int v] := by
  intro H locs ls hP hD hS hl
  subst hw
  exact W.zret (v := v) C0.x C0.b C0.r hn (fun t ht hW => ⟨⟨v, u, rfl, h, by rw [ht]; exact hP, va_K.moved hW.alike C0.K, hD⟩, hS.F ht⟩) hS.2.2 hdg (hlocks := C0.lk)
theorem h_vret {S : Type} {wf : S → va_W} {post : S → Prop} (C0 : gC p s m args meth c D clA (tyA dT) A nL cc own none) (u : S) (hdg : decode cc pc = .ok (.return_, 1)) (hw : ws = wf u) (h : post u) : G p l e R s m args below meth c (MQ below (hQv D dT wf post A) args s k n A) D clA A nL ws k n pc L [] := by
  intro H locs ls hP hD hS hl
  subst hw
  exact W.vret C0.x C0.b C0.r (fun t ht hW => ⟨⟨u, rfl, h, by rw [ht]; exact hP, va_K.moved hW.alike C0.K, hD⟩, hS.F ht⟩) hS.2.2 hdg (hlocks := C0.lk)
theorem h_aret {S : Type} {wf : S → Nat → va_W} {post : S → Nat → Prop} {a : Nat} {rt : FieldType} (C0 : gC p s m args meth c D clA (tyA dT) A nL cc own (some rt)) (hrt : (∃ n, rt = .object n) ∨ ∃ t, rt = .array t) (u : S) (hdg : decode cc pc = .ok (.areturn, 1)) (hw : ws = wf u a) (h : post u a) : G p l e R s m args below meth c (MQ below (hQr D dT wf post A) args s k n A) D clA A nL ws k n pc L [.ref a] := by
  intro H locs ls hP hD hS hl
  subst hw
  exact W.aret (v := .ref a) C0.x C0.b C0.r hrt (Or.inr ⟨_, rfl⟩) (fun t ht hW => ⟨⟨u, a, rfl, trivial, h, by rw [ht]; exact hP, va_K.moved hW.alike C0.K, hD⟩, hS.F ht⟩) hS.2.2 hdg (hlocks := C0.lk)
end HR
