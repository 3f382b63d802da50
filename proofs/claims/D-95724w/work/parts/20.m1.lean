/-! the model, first module: small words, fits, climbers -/
set_option maxRecDepth 100000
theorem bret1 {b : Bool} (h : b = true) : nI 1 = nI (bN b) := by rw [h]; rfl
theorem bret0 {b : Bool} (h : b = false) : nI 0 = nI (bN b) := by rw [h]; rfl
theorem in_1 {v lo hi : Int64} (h1 : ¬ lg_cmp v lo < 0) (h2 : ¬ 0 < lg_cmp v hi) : nI 1 = nI (bN (inB v lo hi)) :=
  bret1 (by rw [lg_cmp_lt] at h1; rw [lg_cmp_gt] at h2; exact decide_eq_true ⟨Int64.not_lt.mp h1, Int64.not_lt.mp h2⟩)
theorem in_0a {v lo hi : Int64} (h1 : lg_cmp v lo < 0) : nI 0 = nI (bN (inB v lo hi)) :=
  bret0 (by rw [lg_cmp_lt] at h1; exact decide_eq_false (fun q => Int64.not_lt.mpr q.1 h1))
theorem in_0b {v lo hi : Int64} (h1 : 0 < lg_cmp v hi) : nI 0 = nI (bN (inB v lo hi)) :=
  bret0 (by rw [lg_cmp_gt] at h1; exact decide_eq_false (fun q => Int64.not_lt.mpr q.2 h1))
theorem has_1 {b : Bool} (h : bN b = 1) : nI 1 = nI (bN b) := by rw [h]
theorem has_0 {b : Bool} (h : bN b ≠ 1) : nI 0 = nI (bN b) := by cases b; rfl; exact absurd rfl h
theorem fit_j {a b : Bool} (h : a = b) : nI (bN a) = nI (bN b) := by rw [h]
section GE
variable {p : Program} {l : Launch} {e : Env} {R : Room} {s : State} {m : MethodId} {args : Array Value} {below : List Frame} {meth : Method} {c : Code} {Q : State → Prop} {D : va_G} {cl : List vw_C} {tys : List (ClassId × FieldType)} {A : Nat → Prop} {nL : Nat} {cc : ByteArray} {own : String} {ret : Option FieldType} {ws : va_W} {k n pc : Nat} {L : List (Option Value)} {st : List Value}
theorem g_iandE (C0 : gC p s m args meth c D cl tys A nL cc own ret) {x y v : Int32} (hv : x &&& y = v) (hdg : decode cc pc = .ok (.iand, 1)) (g : G p l e R s m args below meth c Q D cl A nL ws k n (pc + 1) L (.int v :: st)) : G p l e R s m args below meth c Q D cl A nL ws k n pc L (.int y :: .int x :: st) :=
  g_iand C0 hdg (by rw [hv]; exact g)
end GE
set_option maxHeartbeats 4000000 in
set_option maxRecDepth 100000 in
theorem mM_in (l : Launch) (v : Int64) (lo : Int64) (hi : Int64)  : SI l yX3_in cX3_in 6 .boolean ({ frames := 0, cells := 0, slots := 0, locals := 0 }) [.long v, .long lo, .long hi] (nI (bN (inB v lo hi))) := by
  refine CI.ofG (own := "FittingStridesModel") (L := [some (.long v), none, some (.long lo), none, some (.long hi), none]) rfl (by decide) (Nat.le_of_ble_eq_true rfl) rfl ?_
  intro p' e' s' m' bl' mt' c' C0
  refine g_lload_n (pc := 0) 0 C0 rfl dX3_in_0 rfl ?_
  refine g_lload_n (pc := 1) 2 C0 rfl dX3_in_1 rfl ?_
  refine g_lcmp (pc := 2) C0 dX3_in_2 ?_
  refine g_if_lt (pc := 3) 17 C0 dX3_in_3 (by decide) (fun h3 => ?_) (fun h3 => ?_)
  · refine g_iconst (pc := 17) (v := (nI 0)) C0 dX3_in_17 (by decide) ?_
    exact g_zret (pc := 18) C0 dX3_in_18 (by decide) (in_0a h3)
  · refine g_lload_n (pc := 6) 0 C0 rfl dX3_in_6 rfl ?_
    refine g_lload (pc := 7) 4 C0 rfl dX3_in_7 ?_
    refine g_lcmp (pc := 9) C0 dX3_in_9 ?_
    refine g_if_gt (pc := 10) 17 C0 dX3_in_10 (by decide) (fun h10 => ?_) (fun h10 => ?_)
    · refine g_iconst (pc := 17) (v := (nI 0)) C0 dX3_in_17 (by decide) ?_
      exact g_zret (pc := 18) C0 dX3_in_18 (by decide) (in_0b h10)
    · refine g_iconst (pc := 13) (v := (nI 1)) C0 dX3_in_13 (by decide) ?_
      refine g_goto (pc := 14) 18 C0 dX3_in_14 (by decide) ?_
      exact g_zret (pc := 18) C0 dX3_in_18 (by decide) (in_1 h3 h10)
set_option maxHeartbeats 4000000 in
set_option maxRecDepth 100000 in
theorem mM_has (l : Launch) (x : Nat) (k : Nat) (hx : x < 2 ^ 31) (hk : k < 32) : SI l yX3_has cX3_has 2 .boolean ({ frames := 0, cells := 0, slots := 0, locals := 0 }) [.int (nI x), .int (nI k)] (nI (bN (x.testBit k))) := by
  refine CI.ofG (own := "FittingStridesModel") (L := [some (.int (nI x)), some (.int (nI k))]) rfl (by decide) (Nat.le_of_ble_eq_true rfl) rfl ?_
  intro p' e' s' m' bl' mt' c' C0
  refine g_iload_n (pc := 0) 0 C0 rfl dX3_has_0 rfl ?_
  refine g_iload_n (pc := 1) 1 C0 rfl dX3_has_1 rfl ?_
  refine g_ishr (pc := 2) C0 dX3_has_2 ?_
  refine g_iconst (pc := 3) (v := (nI 1)) C0 dX3_has_3 (by decide) ?_
  refine g_iandE (pc := 4) C0 (has_N k hk x hx) dX3_has_4 ?_
  refine g_iconst (pc := 5) (v := (nI 1)) C0 dX3_has_5 (by decide) ?_
  refine g_icmp_neN (pc := 6) 13 C0 (Nat.lt_trans (bN_lt _) (by decide)) (by decide) dX3_has_6 (by decide) (fun h6 => ?_) (fun h6 => ?_)
  · refine g_iconst (pc := 13) (v := (nI 0)) C0 dX3_has_13 (by decide) ?_
    exact g_zret (pc := 14) C0 dX3_has_14 (by decide) (has_0 h6)
  · refine g_iconst (pc := 9) (v := (nI 1)) C0 dX3_has_9 (by decide) ?_
    refine g_goto (pc := 10) 14 C0 dX3_has_10 (by decide) ?_
    exact g_zret (pc := 14) C0 dX3_has_14 (by decide) (has_1 h6)
set_option maxHeartbeats 4000000 in
set_option maxRecDepth 100000 in
theorem mM_bits (l : Launch) (x : Nat) (hx : x < 2 ^ 31) : SI l yX3_bits cX3_bits 3 .int ({ frames := 0, cells := 0, slots := 0, locals := 0 }) [.int (nI x)] (nI (bitsN x 24)) := by
  refine CI.ofG (own := "FittingStridesModel") (L := [some (.int (nI x)), none, none]) rfl (by decide) (Nat.le_of_ble_eq_true rfl) rfl ?_
  intro p' e' s' m' bl' mt' c' C0
  refine g_iconst (pc := 0) (v := (nI 0)) C0 dX3_bits_0 (by decide) ?_
  refine g_istore_n (pc := 1) 1 C0 (L1 := [some (.int (nI x)), some (.int (nI 0)), none]) rfl (by decide) dX3_bits_1 rfl rfl ?_
  refine g_iconst (pc := 2) (v := (nI 0)) C0 dX3_bits_2 (by decide) ?_
  refine g_istore_n (pc := 3) 2 C0 (L1 := [some (.int (nI x)), some (.int (nI 0)), some (.int (nI 0))]) rfl (by decide) dX3_bits_3 rfl rfl ?_
  refine G.loop (pc := 4) (ws := fun i => cW sAd sMk [] sT) (Lf := fun i => [some (.int (nI x)), some (.int (nI (bitsN x i))), some (.int (nI i))]) (N := 24) (i0 := 0) (Nat.zero_le _) ?_ (fun i4 hi4 hj4 ih4 => ?_)
  · refine g_iload_n (pc := 4) 2 C0 rfl dX3_bits_4 rfl ?_
    refine g_bipush (pc := 5) (v := (nI 24)) C0 dX3_bits_5 (by decide) ?_
    refine g_icmp_geN (pc := 7) 24 C0 (by decide) (by decide) dX3_bits_7 (by decide) (fun h7 => ?_) (fun h7 => ?_)
    rotate_left
    · exact absurd h7 (by omega)
    refine g_iload_n (pc := 24) 1 C0 rfl dX3_bits_24 rfl ?_
    exact g_iret (pc := 25) C0 dX3_bits_25 rfl
  · refine g_iload_n (pc := 4) 2 C0 rfl dX3_bits_4 rfl ?_
    refine g_bipush (pc := 5) (v := (nI 24)) C0 dX3_bits_5 (by decide) ?_
    refine g_icmp_geN (pc := 7) 24 C0 (by omega) (by decide) dX3_bits_7 (by decide) (fun h7 => ?_) (fun h7 => ?_)
    · exact absurd h7 (by omega)
    refine g_iload_n (pc := 10) 1 C0 rfl dX3_bits_10 rfl ?_
    refine g_iload_n (pc := 11) 0 C0 rfl dX3_bits_11 rfl ?_
    refine g_iload_n (pc := 12) 2 C0 rfl dX3_bits_12 rfl ?_
    refine g_ishr (pc := 13) C0 dX3_bits_13 ?_
    refine g_iconst (pc := 14) (v := (nI 1)) C0 dX3_bits_14 (by decide) ?_
    refine g_iandE (pc := 15) C0 (has_N i4 (by omega) x hx) dX3_bits_15 ?_
    refine g_iaddN (pc := 16) C0  dX3_bits_16 ?_
    refine g_istore_n (pc := 17) 1 C0 (L1 := [some (.int (nI x)), some (.int (nI ((bitsN x i4) + (bN (x.testBit i4))))), some (.int (nI i4))]) rfl (by decide) dX3_bits_17 rfl rfl ?_
    refine g_iinc1 (pc := 18) 2 C0 (L1 := [some (.int (nI x)), some (.int (nI ((bitsN x i4) + (bN (x.testBit i4))))), some (.int (nI (i4 + 1)))]) rfl rfl (by decide) dX3_bits_18 rfl ?_
    refine g_goto (pc := 21) 4 C0 dX3_bits_21 (by decide) ?_
    exact ih4
set_option maxHeartbeats 4000000 in
set_option maxRecDepth 100000 in
theorem mM_isPlace (l : Launch) (D : va_G) (dT : Nat → ClassId) (ad : Nat → Nat) (τ : tT) (x : Int32) (h : τ 0 0 < 2 ^ 31) : MI l D dT ad yX3_isPlace cX3_isPlace 2 .boolean ({ frames := 1, cells := 0, slots := 0, locals := 25 }) [.int x] τ (fun rr τ' => rr = (nI (bN (ixB x (τ 0 0)))) ∧ τ = τ') := by
  refine CI.ofG (own := "FittingStridesModel") (L := [some (.ref (ad 0)), some (.int x)]) rfl (by decide) (Nat.le_of_ble_eq_true rfl) rfl ?_
  intro p' e' s' m' bl' mt' c' C0
  refine g_iload_n (pc := 0) 1 C0 rfl dX3_isPlace_0 rfl ?_
  refine g_i2l (pc := 1) (v := x.toInt64) C0 dX3_isPlace_1 rfl ?_
  refine g_lconst (pc := 2) (v := lN 0) C0 dX3_isPlace_2 (by decide) ?_
  refine g_aload_n (pc := 3) 0 C0 rfl dX3_isPlace_3 rfl ?_
  refine m_get (pc := 4) (v := .int (nI (τ 0 0))) C0 0 (by decide) q969 rfl dX3_isPlace_4 ?_
  refine g_iconst (pc := 7) (v := (nI 1)) C0 dX3_isPlace_7 (by decide) ?_
  refine g_isub (pc := 8) C0 dX3_isPlace_8 ?_
  refine g_i2l (pc := 9) (v := ((nI (τ 0 0)) - (nI 1)).toInt64) C0 dX3_isPlace_9 rfl ?_
  refine g_csi (pc := 10) (na := 3) (As := [.long x.toInt64, .long (lN 0), .long (((nI (τ 0 0)) - (nI 1)).toInt64)]) (rest := []) C0 (mM_in l x.toInt64 (lN 0) (((nI (τ 0 0)) - (nI 1)).toInt64) ) q1107 q1108 q60 q1109 (by decide +kernel) ⟨Nat.le_of_ble_eq_true rfl, Nat.le_of_ble_eq_true rfl⟩ rfl rfl ⟨Nat.le_of_ble_eq_true rfl, Nat.le_of_ble_eq_true rfl⟩ rfl rfl (Nat.le_of_ble_eq_true rfl) dX3_isPlace_10 ?_
  exact g_zret (pc := 13) C0 dX3_isPlace_13 (nar_bN _) ⟨congrArg nI (congrArg bN (inB_ix x _ h)), rfl⟩
set_option maxHeartbeats 4000000 in
set_option maxRecDepth 100000 in
theorem mM_isStair (l : Launch) (D : va_G) (dT : Nat → ClassId) (ad : Nat → Nat) (τ : tT) (x : Int32) (h : τ 0 1 < 2 ^ 31) : MI l D dT ad yX3_isStair cX3_isStair 2 .boolean ({ frames := 1, cells := 0, slots := 0, locals := 25 }) [.int x] τ (fun rr τ' => rr = (nI (bN (ixB x (τ 0 1)))) ∧ τ = τ') := by
  refine CI.ofG (own := "FittingStridesModel") (L := [some (.ref (ad 0)), some (.int x)]) rfl (by decide) (Nat.le_of_ble_eq_true rfl) rfl ?_
  intro p' e' s' m' bl' mt' c' C0
  refine g_iload_n (pc := 0) 1 C0 rfl dX3_isStair_0 rfl ?_
  refine g_i2l (pc := 1) (v := x.toInt64) C0 dX3_isStair_1 rfl ?_
  refine g_lconst (pc := 2) (v := lN 0) C0 dX3_isStair_2 (by decide) ?_
  refine g_aload_n (pc := 3) 0 C0 rfl dX3_isStair_3 rfl ?_
  refine m_get (pc := 4) (v := .int (nI (τ 0 1))) C0 1 (by decide) q970 rfl dX3_isStair_4 ?_
  refine g_iconst (pc := 7) (v := (nI 1)) C0 dX3_isStair_7 (by decide) ?_
  refine g_isub (pc := 8) C0 dX3_isStair_8 ?_
  refine g_i2l (pc := 9) (v := ((nI (τ 0 1)) - (nI 1)).toInt64) C0 dX3_isStair_9 rfl ?_
  refine g_csi (pc := 10) (na := 3) (As := [.long x.toInt64, .long (lN 0), .long (((nI (τ 0 1)) - (nI 1)).toInt64)]) (rest := []) C0 (mM_in l x.toInt64 (lN 0) (((nI (τ 0 1)) - (nI 1)).toInt64) ) q1107 q1108 q60 q1109 (by decide +kernel) ⟨Nat.le_of_ble_eq_true rfl, Nat.le_of_ble_eq_true rfl⟩ rfl rfl ⟨Nat.le_of_ble_eq_true rfl, Nat.le_of_ble_eq_true rfl⟩ rfl rfl (Nat.le_of_ble_eq_true rfl) dX3_isStair_10 ?_
  exact g_zret (pc := 13) C0 dX3_isStair_13 (nar_bN _) ⟨congrArg nI (congrArg bN (inB_ix x _ h)), rfl⟩
set_option maxHeartbeats 4000000 in
set_option maxRecDepth 100000 in
theorem mM_isPerson (l : Launch) (D : va_G) (dT : Nat → ClassId) (ad : Nat → Nat) (τ : tT) (x : Int32) (h : τ 0 8 < 2 ^ 31) : MI l D dT ad yX3_isPerson cX3_isPerson 2 .boolean ({ frames := 1, cells := 0, slots := 0, locals := 25 }) [.int x] τ (fun rr τ' => rr = (nI (bN (ixB x (τ 0 8)))) ∧ τ = τ') := by
  refine CI.ofG (own := "FittingStridesModel") (L := [some (.ref (ad 0)), some (.int x)]) rfl (by decide) (Nat.le_of_ble_eq_true rfl) rfl ?_
  intro p' e' s' m' bl' mt' c' C0
  refine g_iload_n (pc := 0) 1 C0 rfl dX3_isPerson_0 rfl ?_
  refine g_i2l (pc := 1) (v := x.toInt64) C0 dX3_isPerson_1 rfl ?_
  refine g_lconst (pc := 2) (v := lN 0) C0 dX3_isPerson_2 (by decide) ?_
  refine g_aload_n (pc := 3) 0 C0 rfl dX3_isPerson_3 rfl ?_
  refine m_get (pc := 4) (v := .int (nI (τ 0 8))) C0 8 (by decide) q977 rfl dX3_isPerson_4 ?_
  refine g_iconst (pc := 7) (v := (nI 1)) C0 dX3_isPerson_7 (by decide) ?_
  refine g_isub (pc := 8) C0 dX3_isPerson_8 ?_
  refine g_i2l (pc := 9) (v := ((nI (τ 0 8)) - (nI 1)).toInt64) C0 dX3_isPerson_9 rfl ?_
  refine g_csi (pc := 10) (na := 3) (As := [.long x.toInt64, .long (lN 0), .long (((nI (τ 0 8)) - (nI 1)).toInt64)]) (rest := []) C0 (mM_in l x.toInt64 (lN 0) (((nI (τ 0 8)) - (nI 1)).toInt64) ) q1107 q1108 q60 q1109 (by decide +kernel) ⟨Nat.le_of_ble_eq_true rfl, Nat.le_of_ble_eq_true rfl⟩ rfl rfl ⟨Nat.le_of_ble_eq_true rfl, Nat.le_of_ble_eq_true rfl⟩ rfl rfl (Nat.le_of_ble_eq_true rfl) dX3_isPerson_10 ?_
  exact g_zret (pc := 13) C0 dX3_isPerson_13 (nar_bN _) ⟨congrArg nI (congrArg bN (inB_ix x _ h)), rfl⟩
set_option maxHeartbeats 4000000 in
set_option maxRecDepth 100000 in
theorem mM_isFit (l : Launch) (D : va_G) (dT : Nat → ClassId) (ad : Nat → Nat) (τ : tT) (r : Nat) (s : Nat) (hw : wfT τ) (hr : r < τ 0 1) (hs : s < 2 ^ 31) : MI l D dT ad yX3_isFit cX3_isFit 6 .boolean ({ frames := 0, cells := 0, slots := 0, locals := 0 }) [.int (nI r), .int (nI s)] τ (fun rr τ' => rr = (nI (bN (sFit τ r s))) ∧ τ = τ') := by
  refine CI.ofG (own := "FittingStridesModel") (L := [some (.ref (ad 0)), some (.int (nI r)), some (.int (nI s)), none, none, none]) rfl (by decide) (Nat.le_of_ble_eq_true rfl) rfl ?_
  intro p' e' s' m' bl' mt' c' C0
  obtain ⟨hw1, hw0, hw⟩ := hw
  obtain ⟨k1, -, -, -, k2, k3, k4⟩ := hw r hr
  refine g_iload_n (pc := 0) 2 C0 rfl dX3_isFit_0 rfl ?_
  refine g_if_neN (pc := 1) 6 C0 (by omega) dX3_isFit_1 (by decide) (fun h1 => ?_) (fun h1 => ?_)
  · refine g_iconst (pc := 6) (v := (nI 1)) C0 dX3_isFit_6 (by decide) ?_
    refine g_istore_n (pc := 7) 3 C0 (L1 := [some (.ref (ad 0)), some (.int (nI r)), some (.int (nI s)), some (.int (nI 1)), none, none]) rfl (by decide) dX3_isFit_7 rfl rfl ?_
    refine g_iconst (pc := 8) (v := (nI 0)) C0 dX3_isFit_8 (by decide) ?_
    refine g_istore (pc := 9) 4 C0 (L1 := [some (.ref (ad 0)), some (.int (nI r)), some (.int (nI s)), some (.int (nI 1)), some (.int (nI 0)), none]) rfl (by decide) dX3_isFit_9 rfl ?_
    refine G.loop (pc := 11) (ws := fun i => mW dT ad τ) (Lf := fun i => [some (.ref (ad 0)), some (.int (nI r)), some (.int (nI s)), some (.int (nI (bN (allB (fun j => fitP (τ 2 r) (τ 6 (3 * r + j)) s) i)))), some (.int (nI i)), none]) (N := τ 5 r) (i0 := 0) (Nat.zero_le _) ?_ (fun i11 hi11 hj11 ih11 => ?_)
    · refine g_iload (pc := 11) 4 C0 rfl dX3_isFit_11 ?_
      refine g_aload_n (pc := 13) 0 C0 rfl dX3_isFit_13 rfl ?_
      refine m_get (pc := 14) (v := .ref (ad 5)) C0 5 (by decide) q974 rfl dX3_isFit_14 ?_
      refine g_iload_n (pc := 17) 1 C0 rfl dX3_isFit_17 rfl ?_
      refine g_iald (pc := 18) (q0 := 4) (t0 := 0) C0 r rfl (fun _ => rfl) rfl (by decide) (by omega) dX3_isFit_18 ?_
      refine g_icmp_geN (pc := 19) 91 C0 (by omega) (by omega) dX3_isFit_19 (by decide) (fun h19 => ?_) (fun h19 => ?_)
      rotate_left
      · exact absurd h19 (by omega)
      refine g_iload_n (pc := 91) 3 C0 rfl dX3_isFit_91 rfl ?_
      exact g_zret (pc := 92) C0 dX3_isFit_92 (nar_bN _) ⟨by rw [sFit, if_neg (by omega)], rfl⟩
    · obtain ⟨g1, g2⟩ := k4 i11 hi11
      refine g_iload (pc := 11) 4 C0 rfl dX3_isFit_11 ?_
      refine g_aload_n (pc := 13) 0 C0 rfl dX3_isFit_13 rfl ?_
      refine m_get (pc := 14) (v := .ref (ad 5)) C0 5 (by decide) q974 rfl dX3_isFit_14 ?_
      refine g_iload_n (pc := 17) 1 C0 rfl dX3_isFit_17 rfl ?_
      refine g_iald (pc := 18) (q0 := 4) (t0 := 0) C0 r rfl (fun _ => rfl) rfl (by decide) (by omega) dX3_isFit_18 ?_
      refine g_icmp_geN (pc := 19) 91 C0 (by omega) (by omega) dX3_isFit_19 (by decide) (fun h19 => ?_) (fun h19 => ?_)
      · exact absurd h19 (by omega)
      refine g_aload_n (pc := 22) 0 C0 rfl dX3_isFit_22 rfl ?_
      refine m_get (pc := 23) (v := .ref (ad 6)) C0 6 (by decide) q975 rfl dX3_isFit_23 ?_
      refine g_iconst (pc := 26) (v := (nI 3)) C0 dX3_isFit_26 (by decide) ?_
      refine g_iload_n (pc := 27) 1 C0 rfl dX3_isFit_27 rfl ?_
      refine g_imulN (pc := 28) C0  dX3_isFit_28 ?_
      refine g_iload (pc := 29) 4 C0 rfl dX3_isFit_29 ?_
      refine g_iaddN (pc := 31) C0  dX3_isFit_31 ?_
      refine g_iald (pc := 32) (q0 := 5) (t0 := 0) C0 ((3 * r) + i11) rfl (fun _ => rfl) rfl (by decide) (by omega) dX3_isFit_32 ?_
      refine g_istore (pc := 33) 5 C0 (L1 := [some (.ref (ad 0)), some (.int (nI r)), some (.int (nI s)), some (.int (nI (bN (allB (fun j => fitP (τ 2 r) (τ 6 (3 * r + j)) s) i11)))), some (.int (nI i11)), some (.int (nI (τ 6 ((3 * r) + i11))))]) rfl (by decide) dX3_isFit_33 rfl ?_
      refine G.join (pcJ := 84) (wsJ := mW dT ad τ) (LJ := [some (.ref (ad 0)), some (.int (nI r)), some (.int (nI s)), some (.int (nI (bN (allB (fun j => fitP (τ 2 r) (τ 6 (3 * r + j)) s) i11)))), some (.int (nI i11)), some (.int (nI (τ 6 ((3 * r) + i11))))]) (stJ := []) (nI (bN (allB (fun j => fitP (τ 2 r) (τ 6 (3 * r + j)) s) (i11 + 1)))) ?_ (fun J84 => ?_)
      · refine g_istore_n (pc := 84) 3 C0 (L1 := [some (.ref (ad 0)), some (.int (nI r)), some (.int (nI s)), some (.int (nI (bN (allB (fun j => fitP (τ 2 r) (τ 6 (3 * r + j)) s) (i11 + 1))))), some (.int (nI i11)), some (.int (nI (τ 6 ((3 * r) + i11))))]) rfl (by decide) dX3_isFit_84 rfl rfl ?_
        refine g_iinc1 (pc := 85) 4 C0 (L1 := [some (.ref (ad 0)), some (.int (nI r)), some (.int (nI s)), some (.int (nI (bN (allB (fun j => fitP (τ 2 r) (τ 6 (3 * r + j)) s) (i11 + 1))))), some (.int (nI (i11 + 1))), some (.int (nI (τ 6 ((3 * r) + i11))))]) rfl rfl (by decide) dX3_isFit_85 rfl ?_
        refine g_goto (pc := 88) 11 C0 dX3_isFit_88 (by decide) ?_
        refine G.forget 5 ?_
        exact ih11
      · refine g_iload_n (pc := 35) 3 C0 rfl dX3_isFit_35 rfl ?_
        refine g_if_eqB (pc := 36) 83 C0 dX3_isFit_36 (by decide) (fun h36 => ?_) (fun h36 => ?_)
        · refine g_iconst (pc := 83) (v := (nI 0)) C0 dX3_isFit_83 (by decide) ?_
          exact J84 (nI 0) (bret0 (by rw [allB_s, h36]; first | done | (simp [fitP, h1, h36] <;> omega)))
        · refine g_aload_n (pc := 39) 0 C0 rfl dX3_isFit_39 rfl ?_
          refine m_get (pc := 40) (v := .ref (ad 2)) C0 2 (by decide) q971 rfl dX3_isFit_40 ?_
          refine g_iload_n (pc := 43) 1 C0 rfl dX3_isFit_43 rfl ?_
          refine g_iald (pc := 44) (q0 := 1) (t0 := 0) C0 r rfl (fun _ => rfl) rfl (by decide) (by omega) dX3_isFit_44 ?_
          refine g_iconst (pc := 45) (v := (nI 1)) C0 dX3_isFit_45 (by decide) ?_
          refine g_icmp_eqN (pc := 46) 79 C0 (by omega) (by decide) dX3_isFit_46 (by decide) (fun h46 => ?_) (fun h46 => ?_)
          · refine g_iconst (pc := 79) (v := (nI 1)) C0 dX3_isFit_79 (by decide) ?_
            refine g_goto (pc := 80) 84 C0 dX3_isFit_80 (by decide) ?_
            exact J84 (nI 1) (bret1 (by rw [allB_s, h36]; first | done | (simp [fitP, h1, h36, h46] <;> omega)))
          · refine g_aload_n (pc := 49) 0 C0 rfl dX3_isFit_49 rfl ?_
            refine m_get (pc := 50) (v := .ref (ad 2)) C0 2 (by decide) q971 rfl dX3_isFit_50 ?_
            refine g_iload_n (pc := 53) 1 C0 rfl dX3_isFit_53 rfl ?_
            refine g_iald (pc := 54) (q0 := 1) (t0 := 0) C0 r rfl (fun _ => rfl) rfl (by decide) (by omega) dX3_isFit_54 ?_
            refine g_if_neN (pc := 55) 68 C0 (by omega) dX3_isFit_55 (by decide) (fun h55 => ?_) (fun h55 => ?_)
            · refine g_iload_n (pc := 68) 2 C0 rfl dX3_isFit_68 rfl ?_
              refine g_iconst (pc := 69) (v := (nI 1)) C0 dX3_isFit_69 (by decide) ?_
              refine g_icmp_eqN (pc := 70) 79 C0 (by omega) (by decide) dX3_isFit_70 (by decide) (fun h70 => ?_) (fun h70 => ?_)
              · refine g_iconst (pc := 79) (v := (nI 1)) C0 dX3_isFit_79 (by decide) ?_
                refine g_goto (pc := 80) 84 C0 dX3_isFit_80 (by decide) ?_
                exact J84 (nI 1) (bret1 (by rw [allB_s, h36]; first | done | (simp [fitP, h1, h36, h46, h55, h70] <;> omega)))
              · refine g_iload_n (pc := 73) 2 C0 rfl dX3_isFit_73 rfl ?_
                refine g_iload (pc := 74) 5 C0 rfl dX3_isFit_74 ?_
                refine g_icmp_neN (pc := 76) 83 C0 (by omega) (by omega) dX3_isFit_76 (by decide) (fun h76 => ?_) (fun h76 => ?_)
                · refine g_iconst (pc := 83) (v := (nI 0)) C0 dX3_isFit_83 (by decide) ?_
                  exact J84 (nI 0) (bret0 (by rw [allB_s, h36]; first | done | (simp [fitP, h1, h36, h46, h55, h70, h76] <;> omega)))
                · refine g_iconst (pc := 79) (v := (nI 1)) C0 dX3_isFit_79 (by decide) ?_
                  refine g_goto (pc := 80) 84 C0 dX3_isFit_80 (by decide) ?_
                  exact J84 (nI 1) (bret1 (by rw [allB_s, h36]; first | done | (simp [fitP, h1, h36, h46, h55, h70, h76] <;> omega)))
            · refine g_iload (pc := 58) 5 C0 rfl dX3_isFit_58 ?_
              refine g_iload_n (pc := 60) 2 C0 rfl dX3_isFit_60 rfl ?_
              refine g_iremN (pc := 61) C0 (by omega) (by omega) (by omega) dX3_isFit_61 ?_
              refine g_if_neN (pc := 62) 83 C0 (Nat.lt_of_le_of_lt (Nat.mod_le _ _) (by omega)) dX3_isFit_62 (by decide) (fun h62 => ?_) (fun h62 => ?_)
              · refine g_iconst (pc := 83) (v := (nI 0)) C0 dX3_isFit_83 (by decide) ?_
                exact J84 (nI 0) (bret0 (by rw [allB_s, h36]; first | done | (simp [fitP, h1, h36, h46, h55, h62] <;> omega)))
              · refine g_goto (pc := 65) 79 C0 dX3_isFit_65 (by decide) ?_
                refine g_iconst (pc := 79) (v := (nI 1)) C0 dX3_isFit_79 (by decide) ?_
                refine g_goto (pc := 80) 84 C0 dX3_isFit_80 (by decide) ?_
                exact J84 (nI 1) (bret1 (by rw [allB_s, h36]; first | done | (simp [fitP, h1, h36, h46, h55, h62] <;> omega)))
  · refine g_iconst (pc := 4) (v := (nI 0)) C0 dX3_isFit_4 (by decide) ?_
    exact g_zret (pc := 5) C0 dX3_isFit_5 (by decide) ⟨by rw [sFit, if_pos h1]; rfl, rfl⟩
set_option maxHeartbeats 4000000 in
set_option maxRecDepth 100000 in
theorem mM_mayClimb (l : Launch) (D : va_G) (dT : Nat → ClassId) (ad : Nat → Nat) (τ : tT) (q : Nat) (r : Nat) (hw : wfT τ) (hp : wfP τ) (hq : q < τ 0 8) (hr : r < τ 0 1) : MI l D dT ad yX3_mayClimb cX3_mayClimb 3 .boolean ({ frames := 1, cells := 0, slots := 0, locals := 25 }) [.int (nI q), .int (nI r)] τ (fun rr τ' => rr = (nI (bN (sMay τ q r))) ∧ τ = τ') := by
  refine CI.ofG (own := "FittingStridesModel") (L := [some (.ref (ad 0)), some (.int (nI q)), some (.int (nI r))]) rfl (by decide) (Nat.le_of_ble_eq_true rfl) rfl ?_
  intro p' e' s' m' bl' mt' c' C0
  obtain ⟨hp0, -, hp⟩ := hp
  obtain ⟨g1, g2, g3, g4⟩ := hp q hq
  refine g_aload_n (pc := 0) 0 C0 rfl dX3_mayClimb_0 rfl ?_
  refine g_iload_n (pc := 1) 2 C0 rfl dX3_mayClimb_1 rfl ?_
  refine g_aload_n (pc := 2) 0 C0 rfl dX3_mayClimb_2 rfl ?_
  refine m_get (pc := 3) (v := .ref (ad 10)) C0 10 (by decide) q979 rfl dX3_mayClimb_3 ?_
  refine g_iload_n (pc := 6) 1 C0 rfl dX3_mayClimb_6 rfl ?_
  refine g_iald (pc := 7) (q0 := 8) (t0 := 0) C0 q rfl (fun _ => rfl) rfl (by decide) (by omega) dX3_mayClimb_7 ?_
  refine g_cvi (pc := 8) (na := 2) (As := [.int (nI r), .int (nI (τ 10 q))]) (rest := []) C0 (mM_isFit l D dT ad τ r (τ 10 q) hw (by omega) (by omega)) (q0 := 0) (j := 0) (ci := 0) (C := RX3) (T := TX3) (N := 44) rfl rfl rfl q1196 q1198 qs44 q60 q1199 (by decide +kernel) ⟨Nat.le_of_ble_eq_true rfl, Nat.le_of_ble_eq_true rfl⟩ rfl rfl ⟨Nat.le_of_ble_eq_true rfl, Nat.le_of_ble_eq_true rfl⟩ rfl rfl (Nat.le_of_ble_eq_true rfl) dX3_mayClimb_8 (fun r τ0 hc => ?_)
  obtain ⟨rfl, rfl⟩ := hc
  refine g_if_neB (pc := 11) 28 C0 dX3_mayClimb_11 (by decide) (fun h11 => ?_) (fun h11 => ?_)
  · refine g_iconst (pc := 28) (v := (nI 1)) C0 dX3_mayClimb_28 (by decide) ?_
    refine g_goto (pc := 29) 33 C0 dX3_mayClimb_29 (by decide) ?_
    exact g_zret (pc := 33) C0 dX3_mayClimb_33 (by decide) ⟨bret1 (by simp [sMay, h11] <;> omega), rfl⟩
  · refine g_aload_n (pc := 14) 0 C0 rfl dX3_mayClimb_14 rfl ?_
    refine g_iload_n (pc := 15) 2 C0 rfl dX3_mayClimb_15 rfl ?_
    refine g_aload_n (pc := 16) 0 C0 rfl dX3_mayClimb_16 rfl ?_
    refine m_get (pc := 17) (v := .ref (ad 11)) C0 11 (by decide) q980 rfl dX3_mayClimb_17 ?_
    refine g_iload_n (pc := 20) 1 C0 rfl dX3_mayClimb_20 rfl ?_
    refine g_iald (pc := 21) (q0 := 9) (t0 := 0) C0 q rfl (fun _ => rfl) rfl (by decide) (by omega) dX3_mayClimb_21 ?_
    refine g_cvi (pc := 22) (na := 2) (As := [.int (nI r), .int (nI (τ 11 q))]) (rest := []) C0 (mM_isFit l D dT ad τ r (τ 11 q) hw (by omega) (by omega)) (q0 := 0) (j := 0) (ci := 0) (C := RX3) (T := TX3) (N := 44) rfl rfl rfl q1196 q1198 qs44 q60 q1199 (by decide +kernel) ⟨Nat.le_of_ble_eq_true rfl, Nat.le_of_ble_eq_true rfl⟩ rfl rfl ⟨Nat.le_of_ble_eq_true rfl, Nat.le_of_ble_eq_true rfl⟩ rfl rfl (Nat.le_of_ble_eq_true rfl) dX3_mayClimb_22 (fun r τ0 hc => ?_)
    obtain ⟨rfl, rfl⟩ := hc
    refine g_if_eqB (pc := 25) 32 C0 dX3_mayClimb_25 (by decide) (fun h25 => ?_) (fun h25 => ?_)
    · refine g_iconst (pc := 32) (v := (nI 0)) C0 dX3_mayClimb_32 (by decide) ?_
      exact g_zret (pc := 33) C0 dX3_mayClimb_33 (by decide) ⟨bret0 (by simp [sMay, h11, h25] <;> omega), rfl⟩
    · refine g_iconst (pc := 28) (v := (nI 1)) C0 dX3_mayClimb_28 (by decide) ?_
      refine g_goto (pc := 29) 33 C0 dX3_mayClimb_29 (by decide) ?_
      exact g_zret (pc := 33) C0 dX3_mayClimb_33 (by decide) ⟨bret1 (by simp [sMay, h11, h25] <;> omega), rfl⟩
set_option maxHeartbeats 4000000 in
set_option maxRecDepth 100000 in
theorem mM_climbers (l : Launch) (D : va_G) (dT : Nat → ClassId) (ad : Nat → Nat) (τ : tT) (r : Nat) (hw : wfT τ) (hp : wfP τ) (hr : r < τ 0 1) : MI l D dT ad yX3_climbers cX3_climbers 4 .int ({ frames := 2, cells := 0, slots := 0, locals := 47 }) [.int (nI r)] τ (fun rr τ' => rr = (nI (sClimb τ r)) ∧ τ = τ') := by
  refine CI.ofG (own := "FittingStridesModel") (L := [some (.ref (ad 0)), some (.int (nI r)), none, none]) rfl (by decide) (Nat.le_of_ble_eq_true rfl) rfl ?_
  intro p' e' s' m' bl' mt' c' C0
  have hp0 := hp.1
  refine g_iconst (pc := 0) (v := (nI 0)) C0 dX3_climbers_0 (by decide) ?_
  refine g_istore_n (pc := 1) 2 C0 (L1 := [some (.ref (ad 0)), some (.int (nI r)), some (.int (nI 0)), none]) rfl (by decide) dX3_climbers_1 rfl rfl ?_
  refine g_iconst (pc := 2) (v := (nI 0)) C0 dX3_climbers_2 (by decide) ?_
  refine g_istore_n (pc := 3) 3 C0 (L1 := [some (.ref (ad 0)), some (.int (nI r)), some (.int (nI 0)), some (.int (nI 0))]) rfl (by decide) dX3_climbers_3 rfl rfl ?_
  refine G.loop (pc := 4) (ws := fun i => mW dT ad τ) (Lf := fun i => [some (.ref (ad 0)), some (.int (nI r)), some (.int (nI (orS (fun q => if sMay τ q r then 2 ^ q else 0) i))), some (.int (nI i))]) (N := τ 0 8) (i0 := 0) (Nat.zero_le _) ?_ (fun i4 hi4 hj4 ih4 => ?_)
  · refine g_iload_n (pc := 4) 3 C0 rfl dX3_climbers_4 rfl ?_
    refine g_aload_n (pc := 5) 0 C0 rfl dX3_climbers_5 rfl ?_
    refine m_get (pc := 6) (v := .int (nI (τ 0 8))) C0 8 (by decide) q977 rfl dX3_climbers_6 ?_
    refine g_icmp_geN (pc := 9) 37 C0 (by omega) (by omega) dX3_climbers_9 (by decide) (fun h9 => ?_) (fun h9 => ?_)
    rotate_left
    · exact absurd h9 (by omega)
    refine g_iload_n (pc := 37) 2 C0 rfl dX3_climbers_37 rfl ?_
    exact g_iret (pc := 38) C0 dX3_climbers_38 ⟨rfl, rfl⟩
  · refine g_iload_n (pc := 4) 3 C0 rfl dX3_climbers_4 rfl ?_
    refine g_aload_n (pc := 5) 0 C0 rfl dX3_climbers_5 rfl ?_
    refine m_get (pc := 6) (v := .int (nI (τ 0 8))) C0 8 (by decide) q977 rfl dX3_climbers_6 ?_
    refine g_icmp_geN (pc := 9) 37 C0 (by omega) (by omega) dX3_climbers_9 (by decide) (fun h9 => ?_) (fun h9 => ?_)
    · exact absurd h9 (by omega)
    refine g_iload_n (pc := 12) 2 C0 rfl dX3_climbers_12 rfl ?_
    refine G.join (pcJ := 29) (wsJ := mW dT ad τ) (LJ := [some (.ref (ad 0)), some (.int (nI r)), some (.int (nI (orS (fun q => if sMay τ q r then 2 ^ q else 0) i4))), some (.int (nI i4))]) (stJ := [.int (nI (orS (fun q => if sMay τ q r then 2 ^ q else 0) i4))]) (nI (if sMay τ i4 r then 2 ^ i4 else 0)) ?_ (fun J29 => ?_)
    · refine g_iorN (pc := 29) C0  dX3_climbers_29 ?_
      refine g_istore_n (pc := 30) 2 C0 (L1 := [some (.ref (ad 0)), some (.int (nI r)), some (.int (nI ((orS (fun q => if sMay τ q r then 2 ^ q else 0) i4) ||| (if sMay τ i4 r then 2 ^ i4 else 0)))), some (.int (nI i4))]) rfl (by decide) dX3_climbers_30 rfl rfl ?_
      refine g_iinc1 (pc := 31) 3 C0 (L1 := [some (.ref (ad 0)), some (.int (nI r)), some (.int (nI ((orS (fun q => if sMay τ q r then 2 ^ q else 0) i4) ||| (if sMay τ i4 r then 2 ^ i4 else 0)))), some (.int (nI (i4 + 1)))]) rfl rfl (by decide) dX3_climbers_31 rfl ?_
      refine g_goto (pc := 34) 4 C0 dX3_climbers_34 (by decide) ?_
      exact ih4
    · refine g_aload_n (pc := 13) 0 C0 rfl dX3_climbers_13 rfl ?_
      refine g_iload_n (pc := 14) 3 C0 rfl dX3_climbers_14 rfl ?_
      refine g_iload_n (pc := 15) 1 C0 rfl dX3_climbers_15 rfl ?_
      refine g_cvi (pc := 16) (na := 2) (As := [.int (nI i4), .int (nI r)]) (rest := [.int (nI (orS (fun q => if sMay τ q r then 2 ^ q else 0) i4))]) C0 (mM_mayClimb l D dT ad τ i4 r hw hp (by omega) (by omega)) (q0 := 0) (j := 0) (ci := 0) (C := RX3) (T := TX3) (N := 44) rfl rfl rfl q1192 q1194 qs43 q60 q1195 (by decide +kernel) ⟨Nat.le_of_ble_eq_true rfl, Nat.le_of_ble_eq_true rfl⟩ rfl rfl ⟨Nat.le_of_ble_eq_true rfl, Nat.le_of_ble_eq_true rfl⟩ rfl rfl (Nat.le_of_ble_eq_true rfl) dX3_climbers_16 (fun r τ0 hc => ?_)
      obtain ⟨rfl, rfl⟩ := hc
      refine g_if_eqB (pc := 19) 28 C0 dX3_climbers_19 (by decide) (fun h19 => ?_) (fun h19 => ?_)
      · refine g_iconst (pc := 28) (v := (nI 0)) C0 dX3_climbers_28 (by decide) ?_
        exact J29 (nI 0) (by simp [h19])
      · refine g_iconst (pc := 22) (v := (nI 1)) C0 dX3_climbers_22 (by decide) ?_
        refine g_iload_n (pc := 23) 3 C0 rfl dX3_climbers_23 rfl ?_
        refine g_ishl1N (pc := 24) C0 (by omega) dX3_climbers_24 ?_
        refine g_goto (pc := 25) 29 C0 dX3_climbers_25 (by decide) ?_
        exact J29 (nI (2 ^ i4)) (by simp [h19])
