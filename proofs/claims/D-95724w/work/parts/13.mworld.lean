/-! the classes of the whole system; the model's world: code 0 the object, code k the array of its field k; τ 0 k: its field k -/
set_option maxRecDepth 100000
def clA : List vw_C := [(RX3, TX3, 44), (RX0, TX0, 14), (RX1, TX1, 7), (RX2, TX2, 10), (RX4, TX4, 5), (RX5, TX5, 8), (RX6, TX6, 4), (RX7, TX7, 4), (RX8, TX8, 4), (RJ1, TJ1, 4), (RJ2, TJ2, 4)]
def tyA (dT : Nat → ClassId) : List (ClassId × FieldType) := [(dT 0, .int), (dT 1, .boolean), (dT 2, .byte), (dT 3, .array .int), (dT 4, .array .boolean), (dT 5, .object "FittingStrides$Stair"), (dT 6, .object "FittingStrides$Folk")]
def mCodes : List Nat := [0, 2, 3, 4, 5, 6, 7, 9, 10, 11, 14, 24, 25, 26, 27, 28, 30, 31, 32, 33, 35, 36, 37, 39, 40, 41, 42, 43]
theorem mNd : va_nd mCodes = true := rfl
def mF (ad : Nat → Nat) (f : Nat → Nat) : List Value := [.int (nI (f 0)), .int (nI (f 1)), .ref (ad 2), .ref (ad 3), .ref (ad 4), .ref (ad 5), .ref (ad 6), .ref (ad 7), .int (nI (f 8)), .ref (ad 9), .ref (ad 10), .ref (ad 11), .int (nI (f 12)), .int (nI (f 13)), .ref (ad 14), .int (nI (f 15)), .int (nI (f 16)), .int (nI (f 17)), .long (lN (f 18)), .int (nI (f 19)), .int (nI (f 20)), .int (nI (f 21)), .int (nI (f 22)), .int (nI (f 23)), .ref (ad 24), .ref (ad 25), .ref (ad 26), .ref (ad 27), .ref (ad 28), .int (nI (f 29)), .ref (ad 30), .ref (ad 31), .ref (ad 32), .ref (ad 33), .int (nI (f 34)), .ref (ad 35), .ref (ad 36), .ref (ad 37), .int (nI (f 38)), .ref (ad 39), .ref (ad 40), .ref (ad 41), .ref (ad 42), .ref (ad 43)]
def mMk (dT : Nat → ClassId) (ad : Nat → Nat) (j : Nat) (f : Nat → Nat) : va_E := match j with
  | 0 => .inr (0, mF ad f)
  | 2 => .inl (dT 0, 10, .inl (fun i => nI (f i)))
  | 3 => .inl (dT 0, 10, .inl (fun i => nI (f i)))
  | 4 => .inl (dT 0, 10, .inl (fun i => nI (f i)))
  | 5 => .inl (dT 0, 10, .inl (fun i => nI (f i)))
  | 6 => .inl (dT 0, 30, .inl (fun i => nI (f i)))
  | 7 => .inl (dT 0, 10, .inl (fun i => nI (f i)))
  | 9 => .inl (dT 0, 8, .inl (fun i => nI (f i)))
  | 10 => .inl (dT 0, 8, .inl (fun i => nI (f i)))
  | 11 => .inl (dT 0, 8, .inl (fun i => nI (f i)))
  | 14 => .inl (dT 0, 500, .inl (fun i => nI (f i)))
  | 24 => .inl (dT 0, 10, .inl (fun i => nI (f i)))
  | 25 => .inl (dT 0, 10, .inl (fun i => nI (f i)))
  | 26 => .inl (dT 0, 10, .inl (fun i => nI (f i)))
  | 27 => .inl (dT 0, 10, .inl (fun i => nI (f i)))
  | 28 => .inl (dT 0, 30, .inl (fun i => nI (f i)))
  | 30 => .inl (dT 0, 8, .inl (fun i => nI (f i)))
  | 31 => .inl (dT 0, 8, .inl (fun i => nI (f i)))
  | 32 => .inl (dT 0, 8, .inl (fun i => nI (f i)))
  | 33 => .inl (dT 0, 8, .inl (fun i => nI (f i)))
  | 35 => .inl (dT 0, 20, .inl (fun i => nI (f i)))
  | 36 => .inl (dT 0, 20, .inl (fun i => nI (f i)))
  | 37 => .inl (dT 1, 20, .inl (fun i => nI (f i)))
  | 39 => .inl (dT 0, 40, .inl (fun i => nI (f i)))
  | 40 => .inl (dT 0, 40, .inl (fun i => nI (f i)))
  | 41 => .inl (dT 0, 8, .inl (fun i => nI (f i)))
  | 42 => .inl (dT 0, 140, .inl (fun i => nI (f i)))
  | 43 => .inl (dT 1, 2, .inl (fun i => nI (f i)))
  | _ => .inl (dT 0, 0, .inl (fun i => nI (f i)))
theorem mSet_0 (ad : Nat → Nat) (f : Nat → Nat) (z : Nat) : (mF ad f).set 0 (.int (nI z)) = mF ad (upn f 0 z) := rfl
theorem mSet_1 (ad : Nat → Nat) (f : Nat → Nat) (z : Nat) : (mF ad f).set 1 (.int (nI z)) = mF ad (upn f 1 z) := rfl
theorem mSet_8 (ad : Nat → Nat) (f : Nat → Nat) (z : Nat) : (mF ad f).set 8 (.int (nI z)) = mF ad (upn f 8 z) := rfl
theorem mSet_12 (ad : Nat → Nat) (f : Nat → Nat) (z : Nat) : (mF ad f).set 12 (.int (nI z)) = mF ad (upn f 12 z) := rfl
theorem mSet_13 (ad : Nat → Nat) (f : Nat → Nat) (z : Nat) : (mF ad f).set 13 (.int (nI z)) = mF ad (upn f 13 z) := rfl
theorem mSet_15 (ad : Nat → Nat) (f : Nat → Nat) (z : Nat) : (mF ad f).set 15 (.int (nI z)) = mF ad (upn f 15 z) := rfl
theorem mSet_16 (ad : Nat → Nat) (f : Nat → Nat) (z : Nat) : (mF ad f).set 16 (.int (nI z)) = mF ad (upn f 16 z) := rfl
theorem mSet_17 (ad : Nat → Nat) (f : Nat → Nat) (z : Nat) : (mF ad f).set 17 (.int (nI z)) = mF ad (upn f 17 z) := rfl
theorem mSet_19 (ad : Nat → Nat) (f : Nat → Nat) (z : Nat) : (mF ad f).set 19 (.int (nI z)) = mF ad (upn f 19 z) := rfl
theorem mSet_20 (ad : Nat → Nat) (f : Nat → Nat) (z : Nat) : (mF ad f).set 20 (.int (nI z)) = mF ad (upn f 20 z) := rfl
theorem mSet_21 (ad : Nat → Nat) (f : Nat → Nat) (z : Nat) : (mF ad f).set 21 (.int (nI z)) = mF ad (upn f 21 z) := rfl
theorem mSet_22 (ad : Nat → Nat) (f : Nat → Nat) (z : Nat) : (mF ad f).set 22 (.int (nI z)) = mF ad (upn f 22 z) := rfl
theorem mSet_23 (ad : Nat → Nat) (f : Nat → Nat) (z : Nat) : (mF ad f).set 23 (.int (nI z)) = mF ad (upn f 23 z) := rfl
theorem mSet_29 (ad : Nat → Nat) (f : Nat → Nat) (z : Nat) : (mF ad f).set 29 (.int (nI z)) = mF ad (upn f 29 z) := rfl
theorem mSet_34 (ad : Nat → Nat) (f : Nat → Nat) (z : Nat) : (mF ad f).set 34 (.int (nI z)) = mF ad (upn f 34 z) := rfl
theorem mSet_38 (ad : Nat → Nat) (f : Nat → Nat) (z : Nat) : (mF ad f).set 38 (.int (nI z)) = mF ad (upn f 38 z) := rfl
theorem mSet_18 (ad : Nat → Nat) (f : Nat → Nat) (z : Nat) : (mF ad f).set 18 (.long (lN z)) = mF ad (upn f 18 z) := rfl
abbrev mW (dT : Nat → ClassId) (ad : Nat → Nat) (τ : tT) : va_W := cW ad (mMk dT ad) mCodes τ
abbrev MI (l : Launch) (D : va_G) (dT : Nat → ClassId) (ad : Nat → Nat) (y : MethodName) (cc : ByteArray) (nL : Nat) (ret : FieldType) (rm : Room) (As : List Value) (τ : tT) (post : Int32 → tT → Prop) : Prop := CI l y cc nL ret rm D clA (tyA dT) ad (mMk dT ad) mCodes (.ref (ad 0) :: As) τ post
abbrev MV (l : Launch) (D : va_G) (dT : Nat → ClassId) (ad : Nat → Nat) (y : MethodName) (cc : ByteArray) (nL : Nat) (rm : Room) (As : List Value) (τ : tT) (post : tT → Prop) : Prop := CV l y cc nL rm D clA (tyA dT) ad (mMk dT ad) mCodes (.ref (ad 0) :: As) τ post
section MR
variable {p : Program} {l : Launch} {e : Env} {R : Room} {s : State} {m : MethodId} {args : Array Value} {below : List Frame} {meth : Method} {c : Code} {Q : State → Prop} {D : va_G} {dT : Nat → ClassId} {A : Nat → Prop} {nL : Nat} {cc : ByteArray} {ret : Option FieldType} {k n pc : Nat} {L : List (Option Value)} {st : List Value} {ad : Nat → Nat} {τ : tT}
theorem m_get (C0 : gC p s m args meth c D clA (tyA dT) A nL cc "FittingStridesModel" ret) {ix : Nat} {v : Value} (fk : Nat) (hk : fk < 44) (w1 : Cond.fieldLink "FittingStridesModel" ix (TX3 fk).1 (TX3 fk).2.1 (TX3 fk).2.2.1 ∈ lw_all) (hv : (mF ad (τ 0))[fk]? = some v) (hdg : decode cc pc = .ok (.getfield ix, 3))
    (g : G p l e R s m args below meth c Q D clA A nL (mW dT ad τ) k n (pc + 3) L (v :: st)) : G p l e R s m args below meth c Q D clA A nL (mW dT ad τ) k n pc L (.ref (ad 0) :: st) :=
  g_get C0 (q0 := 0) (j := 0) (ci := 0) fk rfl rfl rfl in_X3 hk w1 hv hdg g
theorem m_put (C0 : gC p s m args meth c D clA (tyA dT) A nL cc "FittingStridesModel" ret) {ix z : Nat} (fk : Nat) (hk : fk < 44) (w1 : Cond.fieldLink "FittingStridesModel" ix (TX3 fk).1 (TX3 fk).2.1 (TX3 fk).2.2.1 ∈ lw_all) (hfin : (TX3 fk).2.2.2 = false) (hd : parseFieldDescriptor (TX3 fk).2.2.1 = some .int) (hv : (mF ad (τ 0)).set fk (.int (nI z)) = mF ad (upn (τ 0) fk z)) (hdg : decode cc pc = .ok (.putfield ix, 3))
    (g : G p l e R s m args below meth c Q D clA A nL (mW dT ad (upc τ 0 fk z)) k n (pc + 3) L st) : G p l e R s m args below meth c Q D clA A nL (mW dT ad τ) k n pc L (.int (nI z) :: .ref (ad 0) :: st) :=
  g_put C0 (q0 := 0) (j := 0) (ci := 0) (F := mF ad) (ty := .int) tyX3 tyX3_ok nmX3 mNd fk rfl (fun _ => rfl) rfl in_X3 hk w1 hfin hd rfl rfl hk hv hdg g
theorem m_putL (C0 : gC p s m args meth c D clA (tyA dT) A nL cc "FittingStridesModel" ret) {ix z : Nat} (fk : Nat) (hk : fk < 44) (w1 : Cond.fieldLink "FittingStridesModel" ix (TX3 fk).1 (TX3 fk).2.1 (TX3 fk).2.2.1 ∈ lw_all) (hfin : (TX3 fk).2.2.2 = false) (hd : parseFieldDescriptor (TX3 fk).2.2.1 = some .long) (hv : (mF ad (τ 0)).set fk (.long (lN z)) = mF ad (upn (τ 0) fk z)) (hdg : decode cc pc = .ok (.putfield ix, 3))
    (g : G p l e R s m args below meth c Q D clA A nL (mW dT ad (upc τ 0 fk z)) k n (pc + 3) L st) : G p l e R s m args below meth c Q D clA A nL (mW dT ad τ) k n pc L (.long (lN z) :: .ref (ad 0) :: st) :=
  g_put C0 (q0 := 0) (j := 0) (ci := 0) (F := mF ad) (ty := .long) tyX3 tyX3_ok nmX3 mNd fk rfl (fun _ => rfl) rfl in_X3 hk w1 hfin hd rfl rfl hk hv hdg g
end MR

