/-! small rows and words for texts -/
set_option maxRecDepth 100000
section HS
variable {p : Program} {l : Launch} {e : Env} {R : Room} {s : State} {m : MethodId} {args : Array Value} {below : List Frame} {meth : Method} {c : Code} {Q : State → Prop} {D : va_G} {dT : Nat → ClassId} {A : Nat → Prop} {nL : Nat} {cc : ByteArray} {own : String} {ro : Option FieldType} {ws : va_W} {k n pc : Nat} {L : List (Option Value)} {st : List Value}
theorem h_shr0 {x : Int32} (C0 : gC p s m args meth c D clA (tyA dT) A nL cc own ro) (hdg : decode cc pc = .ok (.ishr, 1)) (g : G p l e R s m args below meth c Q D clA A nL ws k n (pc + 1) L (.int x :: st)) : G p l e R s m args below meth c Q D clA A nL ws k n pc L (.int (nI 0) :: .int x :: st) :=
  g_ishr C0 hdg (G.stE (by rw [show nI 0 = (0 : Int32) from rfl, sb_shr0]) g)
theorem h_shl0 {x : Int32} (C0 : gC p s m args meth c D clA (tyA dT) A nL cc own ro) (hdg : decode cc pc = .ok (.ishl, 1)) (g : G p l e R s m args below meth c Q D clA A nL ws k n (pc + 1) L (.int x :: st)) : G p l e R s m args below meth c Q D clA A nL ws k n pc L (.int (nI 0) :: .int x :: st) :=
  g_ishl C0 hdg (G.stE (by rw [show nI 0 = (0 : Int32) from rfl, sb_shl0]) g)
theorem h_iald (C0 : gC p s m args meth c D clA (tyA dT) A nL cc own ro) {q0 t0 N a : Nat} {dA : ClassId} {f : Nat → Int32} {v : Int32} (i : Nat) (he : ws[q0]? = some (a, .inl (dA, N, .inl f))) (ht : (tyA dT)[t0]? = some (dA, .int)) (hN : N < 2 ^ 31) (hi : i < N) (hv : f i = v) (hdg : decode cc pc = .ok (.iaload, 1))
    (g : G p l e R s m args below meth c Q D clA A nL ws k n (pc + 1) L (.int v :: st)) : G p l e R s m args below meth c Q D clA A nL ws k n pc L (.int (nI i) :: .ref a :: st) := by
  intro H locs ls hP hD hS hl
  subst hv
  refine va_iald C0.x C0.b C0.K hP q0 t0 he ht (vp_in_nI hi hN) hdg ?_
  rw [nI_clamp (by omega)]
  exact g H locs ls hP hD hS hl
theorem h_aload_nN (i : Nat) {j : Fin 4} (C0 : gC p s m args meth c D clA (tyA dT) A nL cc own ro) (hi : L[i]? = some (some .null)) (hdg : decode cc pc = .ok (.aload_n j, 1)) (hj : (j : Nat) = i) (g : G p l e R s m args below meth c Q D clA A nL ws k n (pc + 1) L (.null :: st)) : G p l e R s m args below meth c Q D clA A nL ws k n pc L st := by
  intro H locs ls hP hD hS hl
  exact lv_aload_nN C0.x C0.b hdg hj (gL_at hl hi) (g H locs ls hP hD hS hl)
theorem ca_J1 (C0 : gC p s m args meth c D clA (tyA dT) A nL cc own ro) : ∃ cC, ClassAt s RJ1 cC := ⟨_, (C0.K.1 9 _ rfl).2⟩
/-- a reference is stored -/
theorem h_aast (C0 : gC p s m args meth c D clA (tyA dT) A nL cc own ro) {q0 t0 qk ci N a v : Nat} {dA : ClassId} {C : String} {T : u_T} {NF : Nat} {vs : List Value} {f : Nat → Option Nat} {ws' : va_W} (i : Nat) (he : ws[q0]? = some (a, .inl (dA, N, .inr (.inr (.inr (.inr f)))))) (ht : (tyA dT)[t0]? = some (dA, .object C)) (hv : ws[qk]? = some (v, .inr (ci, vs))) (hc : clA[ci]? = some (C, T, NF)) (hN : N < 2 ^ 31) (hi : i < N) (hw : ws.set q0 (a, .inl (dA, N, .inr (.inr (.inr (.inr (va_up f i (some v))))))) = ws') (hdg : decode cc pc = .ok (.aastore, 1))
    (g : G p l e R s m args below meth c Q D clA A nL ws' k n (pc + 1) L st) : G p l e R s m args below meth c Q D clA A nL ws k n pc L (.ref v :: .int (nI i) :: .ref a :: st) := by
  intro H locs ls hP hD hS hl
  subst hw
  refine va_astq C0.x C0.b C0.K hP hD hS q0 t0 qk ci (r := (C, T, NF)) he ht hv hc (vp_in_nI hi hN) hdg (fun H1 locs1 hP1 hD1 hS1 => ?_)
  rw [nI_clamp (by omega)] at hP1 hD1
  exact g H1 locs1 ls hP1 hD1 hS1 hl
theorem h_aastO (C0 : gC p s m args meth c D clA (tyA dT) A nL cc own ro) {q0 t0 qk ci N a v : Nat} {dA : ClassId} {C E : String} {T : u_T} {NF : Nat} {vs : List Value} {f : Nat → Option Nat} {ws' : va_W} (i : Nat) (hca : va_Nw (.castable C E) s) (he : ws[q0]? = some (a, .inl (dA, N, .inr (.inr (.inr (.inr f)))))) (ht : (tyA dT)[t0]? = some (dA, .object E)) (hv : ws[qk]? = some (v, .inr (ci, vs))) (hc : clA[ci]? = some (C, T, NF)) (hN : N < 2 ^ 31) (hi : i < N) (hw : ws.set q0 (a, .inl (dA, N, .inr (.inr (.inr (.inr (va_up f i (some v))))))) = ws') (hdg : decode cc pc = .ok (.aastore, 1))
    (g : G p l e R s m args below meth c Q D clA A nL ws' k n (pc + 1) L st) : G p l e R s m args below meth c Q D clA A nL ws k n pc L (.ref v :: .int (nI i) :: .ref a :: st) := by
  intro H locs ls hP hD hS hl
  subst hw
  refine va_astqO C0.x C0.b C0.K hP hD hS q0 t0 qk ci (r := (C, T, NF)) he ht hca hv hc (vp_in_nI hi hN) hdg (fun H1 locs1 hP1 hD1 hS1 => ?_)
  rw [nI_clamp (by omega)] at hP1 hD1
  exact g H1 locs1 ls hP1 hD1 hS1 hl
/-- an array of references is made -/
theorem h_anew (C0 : gC p s m args meth c D clA (tyA dT) A nL cc own ro) {C : String} {ix : Nat} {dA : ClassId} (N : Nat) (hao : va_AO C s) (hnm : s.vm.findClass ("[" ++ (FieldType.object C).toString) = some dA) (w1 : Cond.classLink own ix C ∈ lw_all) (hN : N < 2 ^ 31) (hbytes : N * 4 ≤ 536870912) (hk : k + 1 ≤ R.cells ∧ n + N ≤ R.slots) (hdg : decode cc pc = .ok (.anewarray ix, 3))
    (g : ∀ q : Nat, G p l e R s m args below meth c Q D clA A nL ((q, .inl (dA, N, .inr (.inr (.inr (.inr (fun _ => none)))))) :: ws) (k + 1) (n + N) (pc + 3) L (.ref q :: st)) : G p l e R s m args below meth c Q D clA A nL ws k n pc L (.int (nI N) :: st) := by
  intro H locs ls hP hD hS hl
  refine W.anew C0.x C0.b C0.ow (C0.ts _ w1) (va_AO.use hao) (g := F0 m pc ls (.int (nI N) :: st)) rfl hdg rfl (nI_pos hN) (by rw [nI_clamp hN]; exact hbytes) hk.1 (by rw [nI_clamp hN]; exact hk.2) (fun cA kA comp f1 f2 f3 f4 => ?_)
  have e0 : cA = dA := Option.some.inj (f1.symm.trans hnm)
  subst e0
  rw [nI_clamp hN]
  generalize hH1 : H.push ({ cls := cA, slots := Array.replicate N .null, vm := .none } : Cell) = H1
  have z1 : H1.size = H.size + 1 := by rw [← hH1, Array.size_push]
  have e1 : H1[H.size]? = some (arrV cA N (fun _ => .null)) := by rw [← hH1, Array.getElem?_push_size, ← arrV_new]
  have o1 : ∀ q : Nat, q < H.size → H1[q]? = H[q]? := fun q hq => by rw [← hH1, Array.getElem?_push, if_neg (Nat.ne_of_lt hq)]
  refine g H.size H1 locs ls (va_P_mem.mpr (fun q hq => ?_)) (va_D_pw.mpr ?_) ⟨by rw [z1]; exact Nat.le_succ_of_le hS.1, fun q h1 h2 => by rw [o1 q (Nat.lt_of_lt_of_le h1 hS.1)]; exact hS.2.1 q h1 h2, hS.2.2⟩ hl
  · rcases List.mem_cons.mp hq with h | h
    · subst h
      exact e1
    · exact (va_P_mem.mp hP q h).kept (o1 _ (va_P_mem.mp hP q h).lt)
  · rw [va_D_pw] at hD
    refine ⟨List.pairwise_cons.mpr ⟨fun q hq e => ?_, hD.1⟩, fun q hq => ?_⟩
    · have := (va_P_mem.mp hP q hq).lt
      exact absurd e.symm (Nat.ne_of_lt this)
    · rcases List.mem_cons.mp hq with h | h
      · subst h
        exact C0.al _ hS.1
      · exact hD.2 q h
/-- a loop over a list world: a counter in the locals, nothing else moves -/
theorem G.hloop {Lf : Nat → List (Option Value)} {I : Nat → Prop} (N i0 : Nat) (hi : i0 ≤ N) (h0 : I i0) (he : I N → G p l e R s m args below meth c Q D clA A nL ws k n pc (Lf N) st) (hs : ∀ i, i < N → I i → (I (i + 1) → G p l e R s m args below meth c Q D clA A nL ws k n pc (Lf (i + 1)) st) → G p l e R s m args below meth c Q D clA A nL ws k n pc (Lf i) st) : G p l e R s m args below meth c Q D clA A nL ws k n pc (Lf i0) st := by
  have key : ∀ d i, N - i = d → i ≤ N → I i → G p l e R s m args below meth c Q D clA A nL ws k n pc (Lf i) st := by
    intro d
    induction d with
    | zero =>
      intro i h1 h2 h3
      obtain rfl : i = N := by omega
      exact he h3
    | succ d ih => intro i h1 h2 h3; exact hs i (by omega) h3 (fun h4 => ih (i + 1) (by omega) (by omega) h4)
  exact key _ i0 rfl hi h0
end HS
theorem zq_nar {v : Value} (h : v = .null ∨ ∃ t, v = .ref t) {ty : FieldType} : narrow ty v = v := by
  rcases h with rfl | ⟨t, rfl⟩ <;> cases ty <;> rfl
theorem zq_fit {v : Value} (h : v = .null ∨ ∃ t, v = .ref t) {ty : FieldType} (ht : (∃ n, ty = .object n) ∨ ∃ t, ty = .array t) : fits ty v = true := by
  rcases h with rfl | ⟨t, rfl⟩ <;> rcases ht with ⟨n, rfl⟩ | ⟨t', rfl⟩ <;> rfl
theorem sb_le0 {q m : Nat} (h : q ≤ m) (hm : m < 2 ^ 30) : nI q - nI m ≤ 0 := by
  rw [Int32.le_iff_toInt_le, pk_sub_toInt (by omega) hm, Int32.toInt_zero]; omega
theorem sb_nle0 {q m : Nat} (h : m < q) (hm : q < 2 ^ 30) : ¬ nI q - nI m ≤ 0 := by
  rw [Int32.le_iff_toInt_le, pk_sub_toInt hm (by omega), Int32.toInt_zero]; omega
theorem lt_b : ∀ c, c < 128 → (nI c).toInt8.toInt32 = nI c := by decide
theorem lt_n : ∀ c, c < 128 → vp_nar .byte (nI c) = nI c := by decide
theorem lt_f : ∀ c, c < 128 → fits .byte (.int (nI c)) = true := by decide
/-- the text is the constant i -/
def eqB (n : Nat) (f : Nat → Int32) (i : Nat) : Bool := decide (n = sLen.getD i 0 ∧ ∀ j, j < n → f j = (sByt.getD i []).getD j 0)
/-- the hash of a text -/
def hsh (f : Nat → Int32) : Nat → Int32
  | 0 => 0
  | i + 1 => nI 31 * hsh f i + (f i &&& nI 255)
theorem sb_fitU' {f : Nat → Int32} {n : Nat} {x : Int32} (hf : sb_Fit f) (hx : fits .byte (.int x) = true) : sb_Fit (upd f n x) := fun j => by
  unfold upd
  split
  · exact hx
  · exact hf j
theorem sLen_le : ∀ i, i < 6 → sLen.getD i 0 ≤ 6 := by decide
