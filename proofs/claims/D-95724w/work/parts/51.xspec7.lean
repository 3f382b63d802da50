/-! X's words, seventh: the text's bytes -/
set_option maxRecDepth 100000
theorem by_eq (w : Int64) : (w &&& lN 255).toInt32.toInt8 = w.toInt32.toInt8 := by
  apply Int8.toBitVec_inj.mp
  rw [Int32.toBitVec_toInt8, Int32.toBitVec_toInt8, Int64.toBitVec_toInt32, Int64.toBitVec_toInt32]
  apply BitVec.eq_of_getLsbD_eq
  intro i hi
  have h255 : ∀ i : Fin 8, (lN 255).toBitVec.getLsbD i.val = true := by decide
  rw [BitVec.signExtend_eq_setWidth_of_le _ (by decide), BitVec.signExtend_eq_setWidth_of_le _ (by decide), BitVec.signExtend_eq_setWidth_of_le _ (by decide), BitVec.signExtend_eq_setWidth_of_le _ (by decide)]
  simp only [BitVec.getLsbD_setWidth, Int64.toBitVec_and, BitVec.getLsbD_and]
  rw [h255 ⟨i, hi⟩, Bool.and_true]
theorem bv_by (y : Int64) (k : Nat) : vp_nar .byte (y >>> ((nI (8 * k)).toInt64 &&& 63)).toInt32.toInt8.toInt32 = xBy (bv y k) := by
  rw [pk_vb, xBy, ← bv_eq, by_eq]
theorem upd_By (f : Nat → Nat) (k x : Nat) : upd (fun i => xBy (f i)) k (xBy x) = fun i => xBy (upn f k x i) := by
  funext i
  rw [upn_if]
  unfold upd
  by_cases h : i = k
  · rw [if_pos h, if_pos h]
  · rw [if_neg h, if_neg h]
section XB
variable {p : Program} {l : Launch} {e : Env} {R : Room} {s : State} {m : MethodId} {args : Array Value} {below : List Frame} {meth : Method} {c : Code} {Q : State → Prop} {D : va_G} {cl : List vw_C} {tys : List (ClassId × FieldType)} {A : Nat → Prop} {nL : Nat} {cc : ByteArray} {own : String} {ret : Option FieldType} {k n pc : Nat} {L : List (Option Value)} {st : List Value} {ad : Nat → Nat} {mk : Nat → (Nat → Nat) → va_E} {codes : List Nat} {τ : tT}
theorem g_bast (C0 : gC p s m args meth c D cl tys A nL cc own ret) {q0 j t0 N : Nat} {dA : ClassId} {x : Int32} (i z : Nat) (hnd : va_nd codes = true) (hq : codes[q0]? = some j) (hm : ∀ f, mk j f = .inl (dA, N, .inl (fun i => xBy (f i)))) (ht : tys[t0]? = some (dA, .byte)) (hN : N < 2 ^ 31) (hi : i < N) (hx : vp_nar .byte x = xBy z) (hdg : decode cc pc = .ok (.bastore, 1))
    (g : G p l e R s m args below meth c Q D cl A nL (cW ad mk codes (upc τ j i z)) k n (pc + 1) L st) : G p l e R s m args below meth c Q D cl A nL (cW ad mk codes τ) k n pc L (.int x :: .int (nI i) :: .ref (ad j) :: st) := by
  intro H locs ls hP hD hS hl
  have he : (cW ad mk codes τ)[q0]? = some (ad j, .inl (dA, N, .inl (fun i => xBy (τ j i)))) := by rw [cW_get hq, hm]
  refine va_bast C0.x C0.b C0.K hP hD hS q0 t0 he ht (vp_in_nI hi hN) hdg (fun H1 locs1 hP1 hD1 hS1 => ?_)
  rw [nI_clamp (by omega), hx, upd_By] at hP1 hD1
  have e1 : (cW ad mk codes τ).set q0 (ad j, .inl (dA, N, .inl (fun a => xBy (upn (τ j) i z a)))) = cW ad mk codes (upc τ j i z) := by
    rw [← hm, cW_set hnd hq]; rfl
  rw [e1] at hP1 hD1
  exact g H1 locs1 ls hP1 hD1 hS1 hl
end XB
