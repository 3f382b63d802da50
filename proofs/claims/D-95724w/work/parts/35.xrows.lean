/-! rows for X: references of an array; bytes -/
set_option maxRecDepth 100000
section XRows
variable {p : Program} {l : Launch} {e : Env} {R : Room} {s : State} {m : MethodId} {args : Array Value} {below : List Frame} {meth : Method} {c : Code} {Q : State → Prop} {D : va_G} {cl : List vw_C} {tys : List (ClassId × FieldType)} {A : Nat → Prop} {nL : Nat} {cc : ByteArray} {own : String} {ret : Option FieldType} {k n pc : Nat} {L : List (Option Value)} {st : List Value} {ad : Nat → Nat} {mk : Nat → (Nat → Nat) → va_E} {codes : List Nat} {τ : tT}
/-- a reference of an array of objects is read -/
theorem g_aald (C0 : gC p s m args meth c D cl tys A nL cc own ret) {q0 j t0 N jr : Nat} {dA : ClassId} {f : Nat → Option Nat} {C : String} (i : Nat) (hq : codes[q0]? = some j) (hm : mk j (τ j) = .inl (dA, N, .inr (.inr (.inr (.inr f))))) (ht : tys[t0]? = some (dA, .object C)) (hN : N < 2 ^ 31) (hi : i < N) (hf : f i = some (ad jr)) (hdg : decode cc pc = .ok (.aaload, 1))
    (g : G p l e R s m args below meth c Q D cl A nL (cW ad mk codes τ) k n (pc + 1) L (.ref (ad jr) :: st)) : G p l e R s m args below meth c Q D cl A nL (cW ad mk codes τ) k n pc L (.int (nI i) :: .ref (ad j) :: st) := by
  intro H locs ls hP hD hS hl
  have he : (cW ad mk codes τ)[q0]? = some (ad j, .inl (dA, N, .inr (.inr (.inr (.inr f))))) := by rw [cW_get hq, hm]
  refine va_aldq C0.x C0.b C0.K hP q0 t0 he ht (vp_in_nI hi hN) hdg ?_
  rw [nI_clamp (by omega), hf]
  exact g H locs ls hP hD hS hl
/-- a reference of an array of arrays is read -/
theorem g_aaldA (C0 : gC p s m args meth c D cl tys A nL cc own ret) {q0 j t0 N jr : Nat} {dA : ClassId} {f : Nat → Option Nat} {ty : FieldType} (i : Nat) (hq : codes[q0]? = some j) (hm : mk j (τ j) = .inl (dA, N, .inr (.inr (.inr (.inr f))))) (ht : tys[t0]? = some (dA, .array ty)) (hN : N < 2 ^ 31) (hi : i < N) (hf : f i = some (ad jr)) (hdg : decode cc pc = .ok (.aaload, 1))
    (g : G p l e R s m args below meth c Q D cl A nL (cW ad mk codes τ) k n (pc + 1) L (.ref (ad jr) :: st)) : G p l e R s m args below meth c Q D cl A nL (cW ad mk codes τ) k n pc L (.int (nI i) :: .ref (ad j) :: st) := by
  intro H locs ls hP hD hS hl
  have he : (cW ad mk codes τ)[q0]? = some (ad j, .inl (dA, N, .inr (.inr (.inr (.inr f))))) := by rw [cW_get hq, hm]
  have hin := vp_in_nI hi hN
  have hlt : (nI i).toNatClampNeg < N := Nat.not_le.mp fun q => hin (Or.inr q)
  have hfi : f (nI i).toNatClampNeg = some (ad jr) := by rw [nI_clamp (by omega)]; exact hf
  refine W.aald (v := .ref (ad jr)) (ty := .array ty) C0.x C0.b (hP q0 _ he) ((C0.K.2 t0 _ ht).1 N (fun j => va_rf (f j))) rfl (fun q => by cases q) (by show ¬ (nI i < 0 ∨ (arrV _ _ _).slots.size ≤ _); rw [arrV_size]; exact hin) (by show (arrV _ _ _).slots[_]? = _; rw [arrV_read _ _ hlt, hfi]; rfl) rfl rfl hdg ?_
  exact g H locs ls hP hD hS hl
/-- a byte of an array is read -/
theorem g_bald (C0 : gC p s m args meth c D cl tys A nL cc own ret) {q0 j t0 N : Nat} {dA : ClassId} {b : Nat → Int32} (i : Nat) (hq : codes[q0]? = some j) (hm : mk j (τ j) = .inl (dA, N, .inl b)) (ht : tys[t0]? = some (dA, .byte)) (hN : N < 2 ^ 31) (hi : i < N) (hdg : decode cc pc = .ok (.baload, 1))
    (g : G p l e R s m args below meth c Q D cl A nL (cW ad mk codes τ) k n (pc + 1) L (.int (b i) :: st)) : G p l e R s m args below meth c Q D cl A nL (cW ad mk codes τ) k n pc L (.int (nI i) :: .ref (ad j) :: st) := by
  intro H locs ls hP hD hS hl
  have he : (cW ad mk codes τ)[q0]? = some (ad j, .inl (dA, N, .inl b)) := by rw [cW_get hq, hm]
  refine va_bald C0.x C0.b C0.K hP q0 t0 he ht (vp_in_nI hi hN) hdg ?_
  rw [nI_clamp (by omega)]
  exact g H locs ls hP hD hS hl
end XRows
/-- what System.arraycopy of N ints from place 0 to place 0 leaves -/
def cp0 (τ : tT) (j0 j1 N : Nat) : tT := upr τ j1 (fun i => bif Nat.blt i N then τ j0 i else τ j1 i)
section XCopy
variable {p : Program} {l : Launch} {e : Env} {R : Room} {s : State} {m : MethodId} {args : Array Value} {below : List Frame} {meth : Method} {c : Code} {Q : State → Prop} {D : va_G} {cl : List vw_C} {tys : List (ClassId × FieldType)} {A : Nat → Prop} {nL : Nat} {cc : ByteArray} {own : String} {ret : Option FieldType} {k n pc : Nat} {L : List (Option Value)} {st : List Value} {ad : Nat → Nat} {mk : Nat → (Nat → Nat) → va_E} {codes : List Nat} {τ : tT}
theorem g_copy (C0 : gC p s m args meth c D cl tys A nL cc own ret) {q0 q1 j0 j1 t0 n0 n1 ix : Nat} {dA : ClassId} (N : Nat) (hnd : va_nd codes = true) (hq0 : codes[q0]? = some j0) (hm0 : ∀ f, mk j0 f = .inl (dA, n0, .inl (fun i => nI (f i)))) (hq1 : codes[q1]? = some j1) (hm1 : ∀ f, mk j1 f = .inl (dA, n1, .inl (fun i => nI (f i)))) (ht : tys[t0]? = some (dA, .int)) (hN : N < 2 ^ 31) (h0 : N ≤ n0) (h1 : N ≤ n1)
    (w1 : Cond.methodLink own ix arraycopyName ∈ lw_all) (w2 : Cond.native arraycopyName ∈ lw_all) (w3 : Cond.static arraycopyName ∈ lw_all) (w4 : Cond.initialized "java/lang/System" ∈ lw_all) (hf : 1 ≤ R.frames) (hlo : (st.map fun v => v.category).sum + (nativeFrameWords "java/lang/System" "arraycopy" 5 + 11) ≤ R.locals) (hdg : decode cc pc = .ok (.invokestatic ix, 3))
    (g : G p l e R s m args below meth c Q D cl A nL (cW ad mk codes (cp0 τ j0 j1 N)) k n (pc + 3) L st) : G p l e R s m args below meth c Q D cl A nL (cW ad mk codes τ) k n pc L (.int (nI N) :: .int (nI 0) :: .ref (ad j1) :: .int (nI 0) :: .ref (ad j0) :: st) := by
  intro H locs ls hP hD hS hl
  have he0 : (cW ad mk codes τ)[q0]? = some (ad j0, .inl (dA, n0, .inl (fun i => nI (τ j0 i)))) := by rw [cW_get hq0, hm0]
  have he1 : (cW ad mk codes τ)[q1]? = some (ad j1, .inl (dA, n1, .inl (fun i => nI (τ j1 i)))) := by rw [cW_get hq1, hm1]
  have hz : (nI 0).toNatClampNeg = 0 := nI_clamp (by decide)
  have hn : (nI N).toNatClampNeg = N := nI_clamp hN
  refine va_copyi C0.x C0.b (by rw [C0.ml]; exact hl.1.symm) C0.ow (C0.ts _ w1) (C0.ts _ w2) (C0.ts _ w3) (C0.ts _ w4) C0.K hP hD hS q0 q1 t0 t0 he0 he1 ht ht rfl (nI_pos (by decide)) (nI_pos (by decide)) (nI_pos hN) (by rw [hz, hn]; omega) (by rw [hz, hn]; omega) (fun i _ => rfl) hf hlo hdg (fun H1 locs1 hP1 hD1 hS1 => ?_)
  have e0 : va_cpy (fun i => nI (τ j0 i)) (fun i => nI (τ j1 i)) (nI 0).toNatClampNeg (nI 0).toNatClampNeg (nI N).toNatClampNeg = fun i => nI ((fun i => bif Nat.blt i N then τ j0 i else τ j1 i) i) := by
    funext i
    rw [hz, hn]
    simp only [va_cpy, blt_c, Bool.cond_decide, Nat.zero_le, true_and, Nat.zero_add, Nat.sub_zero]
    split <;> rfl
  rw [e0] at hP1 hD1
  have e1 : (cW ad mk codes τ).set q1 (ad j1, .inl (dA, n1, .inl (fun i => nI ((fun i => bif Nat.blt i N then τ j0 i else τ j1 i) i)))) = cW ad mk codes (cp0 τ j0 j1 N) := by
    rw [← hm1, cW_set hnd hq1]; rfl
  rw [e1] at hP1 hD1
  exact g H1 locs1 ls hP1 hD1 hS1 hl
theorem g_mmax (C0 : gC p s m args meth c D cl tys A nL cc own ret) {ws : va_W} {ix x y : Nat} (hx : x < 2 ^ 31) (hy : y < 2 ^ 31) (w1 : Cond.methodLink own ix Lib.Math.max.name ∈ lw_all) (w2 : Cond.static Lib.Math.max.name ∈ lw_all) (w3 : Cond.initialized "java/lang/Math" ∈ lw_all) (w4 : Cond.code Lib.Math.max.name Lib.Math.max.code 2 (some .int) ∈ lw_all) (hf : 1 ≤ R.frames) (hlo : (st.map fun v => v.category).sum + 13 ≤ R.locals) (hkn : k ≤ R.cells ∧ n ≤ R.slots) (hdg : decode cc pc = .ok (.invokestatic ix, 3))
    (g : G p l e R s m args below meth c Q D cl A nL ws k n (pc + 3) L (.int (nI (max x y)) :: st)) : G p l e R s m args below meth c Q D cl A nL ws k n pc L (.int (nI y) :: .int (nI x) :: st) := by
  intro H locs ls hP hD hS hl
  refine va_mmax C0.x C0.b (by rw [C0.ml]; exact hl.1.symm) C0.ow (C0.ts _ w1) (C0.ts _ w2) (C0.ts _ w3) (C0.ts _ w4) hf hlo hkn.1 hkn.2 hdg ?_
  have e0 : (if nI x < nI y then nI y else nI x) = nI (max x y) := by
    by_cases h : x < y
    · rw [if_pos (nI_lt h hy), Nat.max_eq_right (by omega)]
    · rw [if_neg (nI_nlt (by omega) hx), Nat.max_eq_left (by omega)]
  rw [e0]
  exact g H locs ls hP hD hS hl
end XCopy
