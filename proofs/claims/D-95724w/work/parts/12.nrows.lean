/-! rows of G over ints that are naturals: nI n; booleans nI (bN b) -/
set_option maxRecDepth 100000
def bN (b : Bool) : Nat := bif b then 1 else 0
theorem bN_lt (b : Bool) : bN b < 2 := by cases b <;> decide
theorem bN_le (b : Bool) : bN b ≤ 1 := by cases b <;> decide
theorem bN_t : bN true = 1 := rfl
theorem bN_f : bN false = 0 := rfl
theorem nI_or (a b : Nat) : nI a ||| nI b = nI (a ||| b) := by
  apply Int32.toBitVec_inj.mp
  rw [Int32.toBitVec_or]
  show BitVec.ofNat 32 a ||| BitVec.ofNat 32 b = BitVec.ofNat 32 (a ||| b)
  apply BitVec.eq_of_getLsbD_eq
  intro i hi
  simp [BitVec.getLsbD_ofNat, hi]
theorem nI_and (a b : Nat) : nI a &&& nI b = nI (a &&& b) := by
  apply Int32.toBitVec_inj.mp
  rw [Int32.toBitVec_and]
  show BitVec.ofNat 32 a &&& BitVec.ofNat 32 b = BitVec.ofNat 32 (a &&& b)
  apply BitVec.eq_of_getLsbD_eq
  intro i hi
  simp [BitVec.getLsbD_ofNat, hi]
theorem nI_shl1 : ∀ j, j < 31 → (nI 1) <<< (nI j &&& 31) = nI (2 ^ j) := by decide
theorem nI_m1 (P : Nat) (h : P < 2 ^ 31) : (nI P - nI 1).toInt = (P : Int) - 1 := by
  cases P with
  | zero => decide
  | succ P => rw [pk_sub (by omega), nI_toInt (by omega)]; omega
/-- x is a place of n -/
def ixB (x : Int32) (n : Nat) : Bool := decide (0 ≤ x.toInt ∧ x.toInt < n)
def rgB (x : Int32) (lo hi : Nat) : Bool := decide ((lo : Int) ≤ x.toInt ∧ x.toInt ≤ (hi : Int))
theorem nI_ofInt {x : Int32} (h : 0 ≤ x.toInt) : ∃ j : Nat, x = nI j ∧ (j : Int) = x.toInt ∧ j < 2 ^ 31 := by
  have h2 : x.toInt < 2 ^ 31 := by have := Int32.toInt_lt x; omega
  refine ⟨x.toInt.toNat, ?_, by omega, by omega⟩
  apply Int32.toInt_inj.mp
  rw [nI_toInt (by omega)]
  omega
theorem ixB_t {x : Int32} {n : Nat} (h : ixB x n = true) : ∃ j : Nat, x = nI j ∧ j < n ∧ j < 2 ^ 31 := by
  have h := of_decide_eq_true h
  obtain ⟨j, h1, h2, h3⟩ := nI_ofInt h.1
  exact ⟨j, h1, by omega, h3⟩
theorem ixB_n {j n : Nat} (hj : j < 2 ^ 31) : ixB (nI j) n = decide (j < n) := by
  unfold ixB
  rw [nI_toInt hj]
  congr 1
  simp
theorem rgB_t {x : Int32} {lo hi : Nat} (h : rgB x lo hi = true) : ∃ j : Nat, x = nI j ∧ lo ≤ j ∧ j ≤ hi ∧ j < 2 ^ 31 := by
  have h := of_decide_eq_true h
  obtain ⟨j, h1, h2, h3⟩ := nI_ofInt (x := x) (by omega)
  exact ⟨j, h1, by omega, by omega, h3⟩
section GN
variable {p : Program} {l : Launch} {e : Env} {R : Room} {s : State} {m : MethodId} {args : Array Value} {below : List Frame} {meth : Method} {c : Code} {Q : State → Prop} {D : va_G} {cl : List vw_C} {tys : List (ClassId × FieldType)} {A : Nat → Prop} {nL : Nat} {cc : ByteArray} {own : String} {ret : Option FieldType} {ws : va_W} {k n pc : Nat} {L : List (Option Value)} {st : List Value}
theorem g_iaddN {a b : Nat} (C0 : gC p s m args meth c D cl tys A nL cc own ret) (hdg : decode cc pc = .ok (.iadd, 1)) (g : G p l e R s m args below meth c Q D cl A nL ws k n (pc + 1) L (.int (nI (a + b)) :: st)) : G p l e R s m args below meth c Q D cl A nL ws k n pc L (.int (nI b) :: .int (nI a) :: st) :=
  g_iadd C0 hdg (by rw [nI_add a b]; exact g)
theorem g_imulN {a b : Nat} (C0 : gC p s m args meth c D cl tys A nL cc own ret) (hdg : decode cc pc = .ok (.imul, 1)) (g : G p l e R s m args below meth c Q D cl A nL ws k n (pc + 1) L (.int (nI (a * b)) :: st)) : G p l e R s m args below meth c Q D cl A nL ws k n pc L (.int (nI b) :: .int (nI a) :: st) :=
  g_imul C0 hdg (by rw [pk_mul a b]; exact g)
theorem g_isubN {a b : Nat} (C0 : gC p s m args meth c D cl tys A nL cc own ret) (hab : b ≤ a) (hdg : decode cc pc = .ok (.isub, 1)) (g : G p l e R s m args below meth c Q D cl A nL ws k n (pc + 1) L (.int (nI (a - b)) :: st)) : G p l e R s m args below meth c Q D cl A nL ws k n pc L (.int (nI b) :: .int (nI a) :: st) :=
  g_isub C0 hdg (by rw [pk_sub hab]; exact g)
theorem g_iorN {a b : Nat} (C0 : gC p s m args meth c D cl tys A nL cc own ret) (hdg : decode cc pc = .ok (.ior, 1)) (g : G p l e R s m args below meth c Q D cl A nL ws k n (pc + 1) L (.int (nI (a ||| b)) :: st)) : G p l e R s m args below meth c Q D cl A nL ws k n pc L (.int (nI b) :: .int (nI a) :: st) :=
  g_ior C0 hdg (by rw [nI_or a b]; exact g)
theorem g_iandN {a b : Nat} (C0 : gC p s m args meth c D cl tys A nL cc own ret) (hdg : decode cc pc = .ok (.iand, 1)) (g : G p l e R s m args below meth c Q D cl A nL ws k n (pc + 1) L (.int (nI (a &&& b)) :: st)) : G p l e R s m args below meth c Q D cl A nL ws k n pc L (.int (nI b) :: .int (nI a) :: st) :=
  g_iand C0 hdg (by rw [nI_and a b]; exact g)
theorem g_idivN {a b : Nat} (C0 : gC p s m args meth c D cl tys A nL cc own ret) (ha : a < 2 ^ 31) (h0 : 0 < b) (hb : b < 2 ^ 31) (hdg : decode cc pc = .ok (.idiv, 1)) (g : G p l e R s m args below meth c Q D cl A nL ws k n (pc + 1) L (.int (nI (a / b)) :: st)) : G p l e R s m args below meth c Q D cl A nL ws k n pc L (.int (nI b) :: .int (nI a) :: st) :=
  g_idiv C0 (nI_ne0 h0 hb) hdg (by rw [pk_div ha h0 hb]; exact g)
theorem g_iremN {a b : Nat} (C0 : gC p s m args meth c D cl tys A nL cc own ret) (ha : a < 2 ^ 31) (h0 : 0 < b) (hb : b < 2 ^ 31) (hdg : decode cc pc = .ok (.irem, 1)) (g : G p l e R s m args below meth c Q D cl A nL ws k n (pc + 1) L (.int (nI (a % b)) :: st)) : G p l e R s m args below meth c Q D cl A nL ws k n pc L (.int (nI b) :: .int (nI a) :: st) :=
  g_irem C0 (nI_ne0 h0 hb) hdg (by rw [pk_rem ha h0 hb]; exact g)
theorem g_ishl1N {b : Nat} (C0 : gC p s m args meth c D cl tys A nL cc own ret) (hb : b < 31) (hdg : decode cc pc = .ok (.ishl, 1)) (g : G p l e R s m args below meth c Q D cl A nL ws k n (pc + 1) L (.int (nI (2 ^ b)) :: st)) : G p l e R s m args below meth c Q D cl A nL ws k n pc L (.int (nI b) :: .int (nI 1) :: st) :=
  g_ishl C0 hdg (by rw [nI_shl1 b hb]; exact g)
theorem g_iinc1 (i : Nat) {a : Nat} (C0 : gC p s m args meth c D cl tys A nL cc own ret) (hi : L[i]? = some (some (.int (nI a)))) (hf : gFree L i = true) (hn : i < nL) (hdg : decode cc pc = .ok (.iinc i 1, 3)) {L1 : List (Option Value)} (hL : L.set i (some (.int (nI (a + 1)))) = L1) (g : G p l e R s m args below meth c Q D cl A nL ws k n (pc + 3) L1 st) : G p l e R s m args below meth c Q D cl A nL ws k n pc L st :=
  g_iinc (v := nI (a + 1)) i C0 hi hf hn hdg (nI_1 a) hL g
theorem g_icmp_ltN {a b : Nat} {off : Int} (tgt : Nat) (C0 : gC p s m args meth c D cl tys A nL cc own ret) (ha : a < 2 ^ 31) (hb : b < 2 ^ 31) (hdg : decode cc pc = .ok (.if_icmp .lt off, 3)) (ht : (pc : Int) + off = (tgt : Int)) (kt : a < b → G p l e R s m args below meth c Q D cl A nL ws k n tgt L st) (kf : b ≤ a → G p l e R s m args below meth c Q D cl A nL ws k n (pc + 3) L st) : G p l e R s m args below meth c Q D cl A nL ws k n pc L (.int (nI b) :: .int (nI a) :: st) :=
  g_icmp_lt tgt C0 hdg ht (fun h => kt ((nI_ltI ha hb).mp h)) (fun h => kf (Nat.le_of_not_lt (fun z => h ((nI_ltI ha hb).mpr z))))
theorem g_icmp_geN {a b : Nat} {off : Int} (tgt : Nat) (C0 : gC p s m args meth c D cl tys A nL cc own ret) (ha : a < 2 ^ 31) (hb : b < 2 ^ 31) (hdg : decode cc pc = .ok (.if_icmp .ge off, 3)) (ht : (pc : Int) + off = (tgt : Int)) (kt : b ≤ a → G p l e R s m args below meth c Q D cl A nL ws k n tgt L st) (kf : a < b → G p l e R s m args below meth c Q D cl A nL ws k n (pc + 3) L st) : G p l e R s m args below meth c Q D cl A nL ws k n pc L (.int (nI b) :: .int (nI a) :: st) :=
  g_icmp_ge tgt C0 hdg ht (fun h => kt ((nI_leI hb ha).mp h)) (fun h => kf (Nat.lt_of_not_le (fun z => h ((nI_leI hb ha).mpr z))))
theorem g_icmp_gtN {a b : Nat} {off : Int} (tgt : Nat) (C0 : gC p s m args meth c D cl tys A nL cc own ret) (ha : a < 2 ^ 31) (hb : b < 2 ^ 31) (hdg : decode cc pc = .ok (.if_icmp .gt off, 3)) (ht : (pc : Int) + off = (tgt : Int)) (kt : b < a → G p l e R s m args below meth c Q D cl A nL ws k n tgt L st) (kf : a ≤ b → G p l e R s m args below meth c Q D cl A nL ws k n (pc + 3) L st) : G p l e R s m args below meth c Q D cl A nL ws k n pc L (.int (nI b) :: .int (nI a) :: st) :=
  g_icmp_gt tgt C0 hdg ht (fun h => kt ((nI_ltI hb ha).mp h)) (fun h => kf (Nat.le_of_not_lt (fun z => h ((nI_ltI hb ha).mpr z))))
theorem g_icmp_leN {a b : Nat} {off : Int} (tgt : Nat) (C0 : gC p s m args meth c D cl tys A nL cc own ret) (ha : a < 2 ^ 31) (hb : b < 2 ^ 31) (hdg : decode cc pc = .ok (.if_icmp .le off, 3)) (ht : (pc : Int) + off = (tgt : Int)) (kt : a ≤ b → G p l e R s m args below meth c Q D cl A nL ws k n tgt L st) (kf : b < a → G p l e R s m args below meth c Q D cl A nL ws k n (pc + 3) L st) : G p l e R s m args below meth c Q D cl A nL ws k n pc L (.int (nI b) :: .int (nI a) :: st) :=
  g_icmp_le tgt C0 hdg ht (fun h => kt ((nI_leI ha hb).mp h)) (fun h => kf (Nat.lt_of_not_le (fun z => h ((nI_leI ha hb).mpr z))))
theorem g_icmp_eqN {a b : Nat} {off : Int} (tgt : Nat) (C0 : gC p s m args meth c D cl tys A nL cc own ret) (ha : a < 2 ^ 31) (hb : b < 2 ^ 31) (hdg : decode cc pc = .ok (.if_icmp .eq off, 3)) (ht : (pc : Int) + off = (tgt : Int)) (kt : a = b → G p l e R s m args below meth c Q D cl A nL ws k n tgt L st) (kf : a ≠ b → G p l e R s m args below meth c Q D cl A nL ws k n (pc + 3) L st) : G p l e R s m args below meth c Q D cl A nL ws k n pc L (.int (nI b) :: .int (nI a) :: st) :=
  g_icmp_eq tgt C0 hdg ht (fun h => kt ((nI_eq ha hb).mp h)) (fun h => kf (fun q => h ((nI_eq ha hb).mpr q)))
theorem g_icmp_neN {a b : Nat} {off : Int} (tgt : Nat) (C0 : gC p s m args meth c D cl tys A nL cc own ret) (ha : a < 2 ^ 31) (hb : b < 2 ^ 31) (hdg : decode cc pc = .ok (.if_icmp .ne off, 3)) (ht : (pc : Int) + off = (tgt : Int)) (kt : a ≠ b → G p l e R s m args below meth c Q D cl A nL ws k n tgt L st) (kf : a = b → G p l e R s m args below meth c Q D cl A nL ws k n (pc + 3) L st) : G p l e R s m args below meth c Q D cl A nL ws k n pc L (.int (nI b) :: .int (nI a) :: st) :=
  g_icmp_ne tgt C0 hdg ht (fun h => kt (fun q => h ((nI_eq ha hb).mpr q))) (fun h => kf ((nI_eq ha hb).mp h))
theorem g_if_eqN {a : Nat} {off : Int} (tgt : Nat) (C0 : gC p s m args meth c D cl tys A nL cc own ret) (ha : a < 2 ^ 31) (hdg : decode cc pc = .ok (.ifCond .eq off, 3)) (ht : (pc : Int) + off = (tgt : Int)) (kt : a = 0 → G p l e R s m args below meth c Q D cl A nL ws k n tgt L st) (kf : a ≠ 0 → G p l e R s m args below meth c Q D cl A nL ws k n (pc + 3) L st) : G p l e R s m args below meth c Q D cl A nL ws k n pc L (.int (nI a) :: st) :=
  g_if_eq tgt C0 hdg ht (fun h => kt ((nI_eq ha (by decide)).mp (h.trans nI_0.symm))) (fun h => kf (fun q => h (by rw [q]; exact nI_0)))
theorem g_if_neN {a : Nat} {off : Int} (tgt : Nat) (C0 : gC p s m args meth c D cl tys A nL cc own ret) (ha : a < 2 ^ 31) (hdg : decode cc pc = .ok (.ifCond .ne off, 3)) (ht : (pc : Int) + off = (tgt : Int)) (kt : a ≠ 0 → G p l e R s m args below meth c Q D cl A nL ws k n tgt L st) (kf : a = 0 → G p l e R s m args below meth c Q D cl A nL ws k n (pc + 3) L st) : G p l e R s m args below meth c Q D cl A nL ws k n pc L (.int (nI a) :: st) :=
  g_if_ne tgt C0 hdg ht (fun h => kt (fun q => h (by rw [q]; exact nI_0))) (fun h => kf ((nI_eq ha (by decide)).mp (h.trans nI_0.symm)))
theorem g_if_gtN {a : Nat} {off : Int} (tgt : Nat) (C0 : gC p s m args meth c D cl tys A nL cc own ret) (ha : a < 2 ^ 31) (hdg : decode cc pc = .ok (.ifCond .gt off, 3)) (ht : (pc : Int) + off = (tgt : Int)) (kt : 0 < a → G p l e R s m args below meth c Q D cl A nL ws k n tgt L st) (kf : a = 0 → G p l e R s m args below meth c Q D cl A nL ws k n (pc + 3) L st) : G p l e R s m args below meth c Q D cl A nL ws k n pc L (.int (nI a) :: st) :=
  g_if_gt tgt C0 hdg ht (fun h => kt (Nat.pos_of_ne_zero (fun q => absurd h (by rw [q]; decide)))) (fun h => kf (Nat.eq_zero_of_not_pos (fun q => h (nI_lt q ha))))
theorem g_if_leN {a : Nat} {off : Int} (tgt : Nat) (C0 : gC p s m args meth c D cl tys A nL cc own ret) (ha : a < 2 ^ 31) (hdg : decode cc pc = .ok (.ifCond .le off, 3)) (ht : (pc : Int) + off = (tgt : Int)) (kt : a = 0 → G p l e R s m args below meth c Q D cl A nL ws k n tgt L st) (kf : 0 < a → G p l e R s m args below meth c Q D cl A nL ws k n (pc + 3) L st) : G p l e R s m args below meth c Q D cl A nL ws k n pc L (.int (nI a) :: st) :=
  g_if_le tgt C0 hdg ht (fun h => kt (Nat.eq_zero_of_not_pos (fun q => nI_nle q ha h))) (fun h => kf (Nat.pos_of_ne_zero (fun q => h (by rw [q]; decide))))
theorem g_if_ltN {a : Nat} {off : Int} (tgt : Nat) (C0 : gC p s m args meth c D cl tys A nL cc own ret) (ha : a < 2 ^ 31) (hdg : decode cc pc = .ok (.ifCond .lt off, 3)) (ht : (pc : Int) + off = (tgt : Int)) (kf : G p l e R s m args below meth c Q D cl A nL ws k n (pc + 3) L st) : G p l e R s m args below meth c Q D cl A nL ws k n pc L (.int (nI a) :: st) :=
  g_if_lt tgt C0 hdg ht (fun h => absurd h (nI_pos ha)) (fun _ => kf)
theorem g_if_geN {a : Nat} {off : Int} (tgt : Nat) (C0 : gC p s m args meth c D cl tys A nL cc own ret) (ha : a < 2 ^ 31) (hdg : decode cc pc = .ok (.ifCond .ge off, 3)) (ht : (pc : Int) + off = (tgt : Int)) (kt : G p l e R s m args below meth c Q D cl A nL ws k n tgt L st) : G p l e R s m args below meth c Q D cl A nL ws k n pc L (.int (nI a) :: st) :=
  g_if_ge tgt C0 hdg ht (fun _ => kt) (fun h => absurd (nI_pos' ha) h)
theorem g_if_eqB {b : Bool} {off : Int} (tgt : Nat) (C0 : gC p s m args meth c D cl tys A nL cc own ret) (hdg : decode cc pc = .ok (.ifCond .eq off, 3)) (ht : (pc : Int) + off = (tgt : Int)) (kt : b = false → G p l e R s m args below meth c Q D cl A nL ws k n tgt L st) (kf : b = true → G p l e R s m args below meth c Q D cl A nL ws k n (pc + 3) L st) : G p l e R s m args below meth c Q D cl A nL ws k n pc L (.int (nI (bN b)) :: st) :=
  g_if_eq tgt C0 hdg ht (fun h => kt (by cases b; rfl; exact absurd h (by decide))) (fun h => kf (by cases b; exact absurd rfl h; rfl))
theorem g_if_neB {b : Bool} {off : Int} (tgt : Nat) (C0 : gC p s m args meth c D cl tys A nL cc own ret) (hdg : decode cc pc = .ok (.ifCond .ne off, 3)) (ht : (pc : Int) + off = (tgt : Int)) (kt : b = true → G p l e R s m args below meth c Q D cl A nL ws k n tgt L st) (kf : b = false → G p l e R s m args below meth c Q D cl A nL ws k n (pc + 3) L st) : G p l e R s m args below meth c Q D cl A nL ws k n pc L (.int (nI (bN b)) :: st) :=
  g_if_ne tgt C0 hdg ht (fun h => kt (by cases b; exact absurd rfl h; rfl)) (fun h => kf (by cases b; rfl; exact absurd h (by decide)))
theorem g_if_eqX {x : Int32} {off : Int} (tgt : Nat) (C0 : gC p s m args meth c D cl tys A nL cc own ret) (hdg : decode cc pc = .ok (.ifCond .eq off, 3)) (ht : (pc : Int) + off = (tgt : Int)) (kt : x = nI 0 → G p l e R s m args below meth c Q D cl A nL ws k n tgt L st) (kf : ¬ x = nI 0 → G p l e R s m args below meth c Q D cl A nL ws k n (pc + 3) L st) : G p l e R s m args below meth c Q D cl A nL ws k n pc L (.int x :: st) :=
  g_if_eq tgt C0 hdg ht (fun h => kt (h.trans nI_0.symm)) (fun h => kf (fun q => h (q.trans nI_0)))
theorem g_if_neX {x : Int32} {off : Int} (tgt : Nat) (C0 : gC p s m args meth c D cl tys A nL cc own ret) (hdg : decode cc pc = .ok (.ifCond .ne off, 3)) (ht : (pc : Int) + off = (tgt : Int)) (kt : ¬ x = nI 0 → G p l e R s m args below meth c Q D cl A nL ws k n tgt L st) (kf : x = nI 0 → G p l e R s m args below meth c Q D cl A nL ws k n (pc + 3) L st) : G p l e R s m args below meth c Q D cl A nL ws k n pc L (.int x :: st) :=
  g_if_ne tgt C0 hdg ht (fun h => kt (fun q => h (q.trans nI_0))) (fun h => kf (h.trans nI_0.symm))
theorem g_laddN {a b : Nat} (C0 : gC p s m args meth c D cl tys A nL cc own ret) (hdg : decode cc pc = .ok (.ladd, 1)) (g : G p l e R s m args below meth c Q D cl A nL ws k n (pc + 1) L (.long (lN (a + b)) :: st)) : G p l e R s m args below meth c Q D cl A nL ws k n pc L (.long (lN b) :: .long (lN a) :: st) :=
  g_ladd C0 hdg (by rw [lN_add a b]; exact g)
theorem g_lmulN {a b : Nat} (C0 : gC p s m args meth c D cl tys A nL cc own ret) (hdg : decode cc pc = .ok (.lmul, 1)) (g : G p l e R s m args below meth c Q D cl A nL ws k n (pc + 1) L (.long (lN (a * b)) :: st)) : G p l e R s m args below meth c Q D cl A nL ws k n pc L (.long (lN b) :: .long (lN a) :: st) :=
  g_lmul C0 hdg (by rw [lN_mul a b]; exact g)
theorem g_lsubN {a b : Nat} (C0 : gC p s m args meth c D cl tys A nL cc own ret) (hab : b ≤ a) (hdg : decode cc pc = .ok (.lsub, 1)) (g : G p l e R s m args below meth c Q D cl A nL ws k n (pc + 1) L (.long (lN (a - b)) :: st)) : G p l e R s m args below meth c Q D cl A nL ws k n pc L (.long (lN b) :: .long (lN a) :: st) :=
  g_lsub C0 hdg (by rw [lN_sub hab]; exact g)
theorem g_lremN {a b : Nat} (C0 : gC p s m args meth c D cl tys A nL cc own ret) (ha : a < 2 ^ 63) (h0 : 0 < b) (hb : b < 2 ^ 63) (hdg : decode cc pc = .ok (.lrem, 1)) (g : G p l e R s m args below meth c Q D cl A nL ws k n (pc + 1) L (.long (lN (a % b)) :: st)) : G p l e R s m args below meth c Q D cl A nL ws k n pc L (.long (lN b) :: .long (lN a) :: st) :=
  g_lrem C0 (fun q => absurd ((pk_lEQ hb (by decide)).mp (q.trans (show (0 : Int64) = lN 0 from rfl))) (by omega)) hdg (by rw [pk_lRem ha h0 hb]; exact g)
theorem g_l2iN {a : Nat} (C0 : gC p s m args meth c D cl tys A nL cc own ret) (hdg : decode cc pc = .ok (.l2i, 1)) (g : G p l e R s m args below meth c Q D cl A nL ws k n (pc + 1) L (.int (nI a) :: st)) : G p l e R s m args below meth c Q D cl A nL ws k n pc L (.long (lN a) :: st) :=
  g_l2i C0 hdg (lN_i a) g
end GN
/-- a loop that counts up: what holds behind it, and that a round leads from i to i + 1 -/
theorem loop_up {P : Nat → Prop} (n : Nat) (h0 : P n) (hs : ∀ i, i < n → P (i + 1) → P i) : ∀ i, i ≤ n → P i := by
  intro i hi
  obtain ⟨d, rfl⟩ := Nat.exists_eq_add_of_le hi
  induction d generalizing i with
  | zero => exact h0
  | succ d ih => exact hs i (by omega) (ih (i + 1) (by rw [show i + 1 + d = i + (d + 1) by omega]; exact h0) (by intro j hj h; exact hs j (by omega) h) (by omega))

