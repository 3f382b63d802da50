/-! the model, eighth module -/
set_option maxRecDepth 100000
set_option maxHeartbeats 4000000 in
set_option maxRecDepth 100000 in
theorem mM_here (l : Launch) (D : va_G) (dT : Nat → ClassId) (ad : Nat → Nat) (τ : tT)  (hx : wfX τ) : MI l D dT ad yX3_here cX3_here 1 .int ({ frames := 0, cells := 0, slots := 0, locals := 0 }) [] τ (fun rr τ' => rr = (oI (hrV τ)) ∧ (upc τ 0 17 (hrA τ)) = τ') := by
  refine CI.ofG (own := "FittingStridesModel") (L := [some (.ref (ad 0))]) rfl (by decide) (Nat.le_of_ble_eq_true rfl) rfl ?_
  intro p' e' s' m' bl' mt' c' C0
  obtain ⟨x1, x2, x3⟩ := id hx
  obtain ⟨y1, y2, y3, y4⟩ := hrA_ok hx
  have y5 := hrA_in hx
  refine G.wsE (ws' := mW dT ad (upc τ 0 17 (τ 0 17))) (by rw [upc_self]) ?_
  refine G.loop (pc := 0) (ws := fun i => mW dT ad (upc τ 0 17 i)) (Lf := fun i => [some (.ref (ad 0))]) (N := hrA τ) (i0 := τ 0 17) y1 ?_ (fun i0 hi0 hj0 ih0 => ?_)
  · have g3 : hrA τ < τ 0 15 → τ 14 (hrA τ) < 256 := fun q => x2 _ (by omega)
    refine g_aload_n (pc := 0) 0 C0 rfl dX3_here_0 rfl ?_
    refine m_get (pc := 1) (v := .int (nI (hrA τ))) C0 17 (by decide) q986 rfl dX3_here_1 ?_
    refine g_aload_n (pc := 4) 0 C0 rfl dX3_here_4 rfl ?_
    refine m_get (pc := 5) (v := .int (nI (τ 0 15))) C0 15 (by decide) q984 rfl dX3_here_5 ?_
    refine g_icmp_geN (pc := 8) 38 C0 (by omega) (by omega) dX3_here_8 (by decide) (fun h8 => ?_) (fun h8 => ?_)
    · refine g_aload_n (pc := 38) 0 C0 rfl dX3_here_38 rfl ?_
      refine m_get (pc := 39) (v := .int (nI (hrA τ))) C0 17 (by decide) q986 rfl dX3_here_39 ?_
      refine g_aload_n (pc := 42) 0 C0 rfl dX3_here_42 rfl ?_
      refine m_get (pc := 43) (v := .int (nI (τ 0 15))) C0 15 (by decide) q984 rfl dX3_here_43 ?_
      refine g_icmp_geN (pc := 46) 61 C0 (by omega) (by omega) dX3_here_46 (by decide) (fun h46 => ?_) (fun h46 => ?_)
      · refine g_iconst (pc := 61) (v := (-1)) C0 dX3_here_61 (by decide) ?_
        exact g_iret (pc := 62) C0 dX3_here_62 ⟨by rw [hrV, if_neg (by omega)]; rfl, rfl⟩
      · refine g_aload_n (pc := 49) 0 C0 rfl dX3_here_49 rfl ?_
        refine m_get (pc := 50) (v := .ref (ad 14)) C0 14 (by decide) q983 rfl dX3_here_50 ?_
        refine g_aload_n (pc := 53) 0 C0 rfl dX3_here_53 rfl ?_
        refine m_get (pc := 54) (v := .int (nI (hrA τ))) C0 17 (by decide) q986 rfl dX3_here_54 ?_
        refine g_iald (pc := 57) (q0 := 10) (t0 := 0) C0 (hrA τ) rfl (fun _ => rfl) rfl (by decide) (by omega) dX3_here_57 ?_
        refine G.stE (st' := [.int (nI (τ 14 (hrA τ)))]) rfl ?_
        refine g_goto (pc := 58) 62 C0 dX3_here_58 (by decide) ?_
        exact g_iret (pc := 62) C0 dX3_here_62 ⟨by rw [hrV, if_pos (by omega)]; rfl, rfl⟩
    · refine g_aload_n (pc := 11) 0 C0 rfl dX3_here_11 rfl ?_
      refine m_get (pc := 12) (v := .ref (ad 14)) C0 14 (by decide) q983 rfl dX3_here_12 ?_
      refine g_aload_n (pc := 15) 0 C0 rfl dX3_here_15 rfl ?_
      refine m_get (pc := 16) (v := .int (nI (hrA τ))) C0 17 (by decide) q986 rfl dX3_here_16 ?_
      refine g_iald (pc := 19) (q0 := 10) (t0 := 0) C0 (hrA τ) rfl (fun _ => rfl) rfl (by decide) (by omega) dX3_here_19 ?_
      refine G.stE (st' := [.int (nI (τ 14 (hrA τ)))]) rfl ?_
      refine g_bipush (pc := 20) (v := (nI 32)) C0 dX3_here_20 (by decide) ?_
      refine g_icmp_neN (pc := 22) 38 C0 (by have := g3; first | omega | exact Nat.lt_trans (g3 h8) (by decide)) (by decide) dX3_here_22 (by decide) (fun h22 => ?_) (fun h22 => ?_)
      rotate_left
      · exact absurd h22 (y3 h8)
      refine g_aload_n (pc := 38) 0 C0 rfl dX3_here_38 rfl ?_
      refine m_get (pc := 39) (v := .int (nI (hrA τ))) C0 17 (by decide) q986 rfl dX3_here_39 ?_
      refine g_aload_n (pc := 42) 0 C0 rfl dX3_here_42 rfl ?_
      refine m_get (pc := 43) (v := .int (nI (τ 0 15))) C0 15 (by decide) q984 rfl dX3_here_43 ?_
      refine g_icmp_geN (pc := 46) 61 C0 (by omega) (by omega) dX3_here_46 (by decide) (fun h46 => ?_) (fun h46 => ?_)
      · refine g_iconst (pc := 61) (v := (-1)) C0 dX3_here_61 (by decide) ?_
        exact g_iret (pc := 62) C0 dX3_here_62 ⟨by rw [hrV, if_neg (by omega)]; rfl, rfl⟩
      · refine g_aload_n (pc := 49) 0 C0 rfl dX3_here_49 rfl ?_
        refine m_get (pc := 50) (v := .ref (ad 14)) C0 14 (by decide) q983 rfl dX3_here_50 ?_
        refine g_aload_n (pc := 53) 0 C0 rfl dX3_here_53 rfl ?_
        refine m_get (pc := 54) (v := .int (nI (hrA τ))) C0 17 (by decide) q986 rfl dX3_here_54 ?_
        refine g_iald (pc := 57) (q0 := 10) (t0 := 0) C0 (hrA τ) rfl (fun _ => rfl) rfl (by decide) (by omega) dX3_here_57 ?_
        refine G.stE (st' := [.int (nI (τ 14 (hrA τ)))]) rfl ?_
        refine g_goto (pc := 58) 62 C0 dX3_here_58 (by decide) ?_
        exact g_iret (pc := 62) C0 dX3_here_62 ⟨by rw [hrV, if_pos (by omega)]; rfl, rfl⟩
  · obtain ⟨g1, g2⟩ := y5 i0 hj0 hi0
    have g3 := x2 i0 (by omega)
    refine g_aload_n (pc := 0) 0 C0 rfl dX3_here_0 rfl ?_
    refine m_get (pc := 1) (v := .int (nI i0)) C0 17 (by decide) q986 rfl dX3_here_1 ?_
    refine g_aload_n (pc := 4) 0 C0 rfl dX3_here_4 rfl ?_
    refine m_get (pc := 5) (v := .int (nI (τ 0 15))) C0 15 (by decide) q984 rfl dX3_here_5 ?_
    refine g_icmp_geN (pc := 8) 38 C0 (by omega) (by omega) dX3_here_8 (by decide) (fun h8 => ?_) (fun h8 => ?_)
    · exact absurd h8 (by omega)
    refine g_aload_n (pc := 11) 0 C0 rfl dX3_here_11 rfl ?_
    refine m_get (pc := 12) (v := .ref (ad 14)) C0 14 (by decide) q983 rfl dX3_here_12 ?_
    refine g_aload_n (pc := 15) 0 C0 rfl dX3_here_15 rfl ?_
    refine m_get (pc := 16) (v := .int (nI i0)) C0 17 (by decide) q986 rfl dX3_here_16 ?_
    refine g_iald (pc := 19) (q0 := 10) (t0 := 0) C0 i0 rfl (fun _ => rfl) rfl (by decide) (by omega) dX3_here_19 ?_
    refine G.stE (st' := [.int (nI (τ 14 i0))]) rfl ?_
    refine g_bipush (pc := 20) (v := (nI 32)) C0 dX3_here_20 (by decide) ?_
    refine g_icmp_neN (pc := 22) 38 C0 (by have := g3; first | omega | exact Nat.lt_trans (g3 h8) (by decide)) (by decide) dX3_here_22 (by decide) (fun h22 => ?_) (fun h22 => ?_)
    · exact absurd h22 (fun q => q g2)
    refine g_aload_n (pc := 25) 0 C0 rfl dX3_here_25 rfl ?_
    refine g_dup (pc := 26) C0 dX3_here_26 rfl ?_
    refine m_get (pc := 27) (v := .int (nI i0)) C0 17 (by decide) q986 rfl dX3_here_27 ?_
    refine g_iconst (pc := 30) (v := (nI 1)) C0 dX3_here_30 (by decide) ?_
    refine g_iaddN (pc := 31) C0  dX3_here_31 ?_
    refine m_put (pc := 32) C0 17 (by decide) q986 rfl (by decide) (mSet_17 _ _ _) dX3_here_32 ?_
    refine g_goto (pc := 35) 0 C0 dX3_here_35 (by decide) ?_
    exact G.wsE (by rw [upc_upc]) ih0
set_option maxHeartbeats 4000000 in
set_option maxRecDepth 100000 in
theorem mM_fails (l : Launch) (D : va_G) (dT : Nat → ClassId) (ad : Nat → Nat) (τ : tT) (n : Nat) (x : Nat)  : MI l D dT ad yX3_fails cX3_fails 3 .int ({ frames := 0, cells := 0, slots := 0, locals := 0 }) [.int (nI n), .int (nI x)] τ (fun rr τ' => rr = (nI n) ∧ (upc τ 0 16 x) = τ') := by
  refine CI.ofG (own := "FittingStridesModel") (L := [some (.ref (ad 0)), some (.int (nI n)), some (.int (nI x))]) rfl (by decide) (Nat.le_of_ble_eq_true rfl) rfl ?_
  intro p' e' s' m' bl' mt' c' C0
  refine g_aload_n (pc := 0) 0 C0 rfl dX3_fails_0 rfl ?_
  refine g_iload_n (pc := 1) 2 C0 rfl dX3_fails_1 rfl ?_
  refine m_put (pc := 2) C0 16 (by decide) q985 rfl (by decide) (mSet_16 _ _ _) dX3_fails_2 ?_
  refine g_iload_n (pc := 5) 1 C0 rfl dX3_fails_5 rfl ?_
  exact g_iret (pc := 6) C0 dX3_fails_6 ⟨rfl, rfl⟩
set_option maxHeartbeats 4000000 in
set_option maxRecDepth 100000 in
theorem mM_code (l : Launch) (a : Nat) (b : Nat) (c : Nat) (d : Nat) (ha : 96 ≤ a) (hb : 96 ≤ b) (hc : 96 ≤ c) (hd : 96 ≤ d) (ha2 : a < 256) (hb2 : b < 256) (hc2 : c < 256) (hd2 : d < 256) : SL l yX3_code cX3_code 4 ({ frames := 0, cells := 0, slots := 0, locals := 0 }) [.int (nI a), .int (nI b), .int (nI c), .int (nI d)] (lN (code4 a b c d)) := by
  refine CL.ofG (own := "FittingStridesModel") (L := [some (.int (nI a)), some (.int (nI b)), some (.int (nI c)), some (.int (nI d))]) rfl (by decide) (Nat.le_of_ble_eq_true rfl) rfl ?_
  intro p' e' s' m' bl' mt' c' C0
  have c0 : Jvm.Cond.constantLong "FittingStridesModel" 140 (lN 27) ∈ lw_all := q1133
  refine g_ldc2 (pc := 0) (v := lN 27) C0 c0 dX3_code_0 ?_
  have c3 : Jvm.Cond.constantLong "FittingStridesModel" 140 (lN 27) ∈ lw_all := q1133
  refine g_ldc2 (pc := 3) (v := lN 27) C0 c3 dX3_code_3 ?_
  have c6 : Jvm.Cond.constantLong "FittingStridesModel" 140 (lN 27) ∈ lw_all := q1133
  refine g_ldc2 (pc := 6) (v := lN 27) C0 c6 dX3_code_6 ?_
  refine g_iload_n (pc := 9) 0 C0 rfl dX3_code_9 rfl ?_
  refine g_i2l (pc := 10) (v := lN a) C0 dX3_code_10 (nI_l (by omega)) ?_
  have c11 : Jvm.Cond.constantLong "FittingStridesModel" 142 (lN 96) ∈ lw_all := q1134
  refine g_ldc2 (pc := 11) (v := lN 96) C0 c11 dX3_code_11 ?_
  refine g_lsubN (pc := 14) C0 (by omega) dX3_code_14 ?_
  refine g_lmulN (pc := 15) C0 dX3_code_15 ?_
  refine g_iload_n (pc := 16) 1 C0 rfl dX3_code_16 rfl ?_
  refine g_i2l (pc := 17) (v := lN b) C0 dX3_code_17 (nI_l (by omega)) ?_
  refine g_laddN (pc := 18) C0 dX3_code_18 ?_
  have c19 : Jvm.Cond.constantLong "FittingStridesModel" 142 (lN 96) ∈ lw_all := q1134
  refine g_ldc2 (pc := 19) (v := lN 96) C0 c19 dX3_code_19 ?_
  refine g_lsubN (pc := 22) C0 (by omega) dX3_code_22 ?_
  refine g_lmulN (pc := 23) C0 dX3_code_23 ?_
  refine g_iload_n (pc := 24) 2 C0 rfl dX3_code_24 rfl ?_
  refine g_i2l (pc := 25) (v := lN c) C0 dX3_code_25 (nI_l (by omega)) ?_
  refine g_laddN (pc := 26) C0 dX3_code_26 ?_
  have c27 : Jvm.Cond.constantLong "FittingStridesModel" 142 (lN 96) ∈ lw_all := q1134
  refine g_ldc2 (pc := 27) (v := lN 96) C0 c27 dX3_code_27 ?_
  refine g_lsubN (pc := 30) C0 (by omega) dX3_code_30 ?_
  refine g_lmulN (pc := 31) C0 dX3_code_31 ?_
  refine g_iload_n (pc := 32) 3 C0 rfl dX3_code_32 rfl ?_
  refine g_i2l (pc := 33) (v := lN d) C0 dX3_code_33 (nI_l (by omega)) ?_
  refine g_laddN (pc := 34) C0 dX3_code_34 ?_
  have c35 : Jvm.Cond.constantLong "FittingStridesModel" 142 (lN 96) ∈ lw_all := q1134
  refine g_ldc2 (pc := 35) (v := lN 96) C0 c35 dX3_code_35 ?_
  refine g_lsubN (pc := 38) C0 (by omega) dX3_code_38 ?_
  exact g_lret (pc := 39) C0 dX3_code_39 rfl
set_option maxHeartbeats 4000000 in
set_option maxRecDepth 100000 in
theorem mM_longer (l : Launch) (v : Nat) (a : Nat) (b : Nat) (ha : 96 ≤ a) (ha2 : a < 256) (hb : b = 0 ∨ 96 ≤ b) (hb2 : b < 256) : SL l yX3_longer cX3_longer 4 ({ frames := 0, cells := 0, slots := 0, locals := 0 }) [.long (lN v), .int (nI a), .int (nI b)] (lN (codeL v a b)) := by
  refine CL.ofG (own := "FittingStridesModel") (L := [some (.long (lN v)), none, some (.int (nI a)), some (.int (nI b))]) rfl (by decide) (Nat.le_of_ble_eq_true rfl) rfl ?_
  intro p' e' s' m' bl' mt' c' C0
  refine g_iload_n (pc := 0) 3 C0 rfl dX3_longer_0 rfl ?_
  refine g_if_neN (pc := 1) 19 C0 (by omega) dX3_longer_1 (by decide) (fun h1 => ?_) (fun h1 => ?_)
  · have c19 : Jvm.Cond.constantLong "FittingStridesModel" 140 (lN 27) ∈ lw_all := q1133
    refine g_ldc2 (pc := 19) (v := lN 27) C0 c19 dX3_longer_19 ?_
    have c22 : Jvm.Cond.constantLong "FittingStridesModel" 140 (lN 27) ∈ lw_all := q1133
    refine g_ldc2 (pc := 22) (v := lN 27) C0 c22 dX3_longer_22 ?_
    refine g_lload_n (pc := 25) 0 C0 rfl dX3_longer_25 rfl ?_
    refine g_lmulN (pc := 26) C0 dX3_longer_26 ?_
    refine g_iload_n (pc := 27) 2 C0 rfl dX3_longer_27 rfl ?_
    refine g_i2l (pc := 28) (v := lN a) C0 dX3_longer_28 (nI_l (by omega)) ?_
    refine g_laddN (pc := 29) C0 dX3_longer_29 ?_
    have c30 : Jvm.Cond.constantLong "FittingStridesModel" 142 (lN 96) ∈ lw_all := q1134
    refine g_ldc2 (pc := 30) (v := lN 96) C0 c30 dX3_longer_30 ?_
    refine g_lsubN (pc := 33) C0 (by omega) dX3_longer_33 ?_
    refine g_lmulN (pc := 34) C0 dX3_longer_34 ?_
    refine g_iload_n (pc := 35) 3 C0 rfl dX3_longer_35 rfl ?_
    refine g_i2l (pc := 36) (v := lN b) C0 dX3_longer_36 (nI_l (by omega)) ?_
    refine g_laddN (pc := 37) C0 dX3_longer_37 ?_
    have c38 : Jvm.Cond.constantLong "FittingStridesModel" 142 (lN 96) ∈ lw_all := q1134
    refine g_ldc2 (pc := 38) (v := lN 96) C0 c38 dX3_longer_38 ?_
    refine g_lsubN (pc := 41) C0 (by omega) dX3_longer_41 ?_
    exact g_lret (pc := 42) C0 dX3_longer_42 (by rw [codeL, if_neg h1])
  · have c4 : Jvm.Cond.constantLong "FittingStridesModel" 140 (lN 27) ∈ lw_all := q1133
    refine g_ldc2 (pc := 4) (v := lN 27) C0 c4 dX3_longer_4 ?_
    refine g_lload_n (pc := 7) 0 C0 rfl dX3_longer_7 rfl ?_
    refine g_lmulN (pc := 8) C0 dX3_longer_8 ?_
    refine g_iload_n (pc := 9) 2 C0 rfl dX3_longer_9 rfl ?_
    refine g_i2l (pc := 10) (v := lN a) C0 dX3_longer_10 (nI_l (by omega)) ?_
    refine g_laddN (pc := 11) C0 dX3_longer_11 ?_
    have c12 : Jvm.Cond.constantLong "FittingStridesModel" 142 (lN 96) ∈ lw_all := q1134
    refine g_ldc2 (pc := 12) (v := lN 96) C0 c12 dX3_longer_12 ?_
    refine g_lsubN (pc := 15) C0 (by omega) dX3_longer_15 ?_
    refine g_goto (pc := 16) 42 C0 dX3_longer_16 (by decide) ?_
    exact g_lret (pc := 42) C0 dX3_longer_42 (by rw [codeL, if_pos h1])
set_option maxHeartbeats 4000000 in
set_option maxRecDepth 100000 in
theorem mM_readWord (l : Launch) (D : va_G) (dT : Nat → ClassId) (ad : Nat → Nat) (τ : tT)  (hx : wfX τ) : MV l D dT ad yX3_readWord cX3_readWord 2 ({ frames := 1, cells := 0, slots := 0, locals := 25 }) [] τ (fun τ' => (rwT τ) = τ') := by
  refine CV.ofG (own := "FittingStridesModel") (L := [some (.ref (ad 0)), none]) rfl (by decide) (Nat.le_of_ble_eq_true rfl) rfl ?_
  intro p' e' s' m' bl' mt' c' C0
  obtain ⟨x1, x2, x3⟩ := id hx
  obtain ⟨y1, y2, y3, y4⟩ := hrA_ok hx
  obtain ⟨e1, e2, e3, e4⟩ := wEnd_ok hx
  refine g_aload_n (pc := 0) 0 C0 rfl dX3_readWord_0 rfl ?_
  refine g_cvi (pc := 1) (na := 0) (As := []) (rest := []) C0 (mM_here l D dT ad τ  hx) (q0 := 0) (j := 0) (ci := 0) (C := RX3) (T := TX3) (N := 44) rfl rfl rfl q1117 q1119 qs31 q60 q1120 (by decide +kernel) ⟨Nat.le_of_ble_eq_true rfl, Nat.le_of_ble_eq_true rfl⟩ rfl rfl ⟨Nat.le_of_ble_eq_true rfl, Nat.le_of_ble_eq_true rfl⟩ rfl rfl (Nat.le_of_ble_eq_true rfl) dX3_readWord_1 (fun r τ0 hc => ?_)
  obtain ⟨rfl, rfl⟩ := hc
  refine g_istore_n (pc := 4) 1 C0 (L1 := [some (.ref (ad 0)), some (.int (oI (hrV τ)))]) rfl (by decide) dX3_readWord_4 rfl rfl ?_
  refine g_aload_n (pc := 5) 0 C0 rfl dX3_readWord_5 rfl ?_
  refine g_lconst (pc := 6) (v := lN 0) C0 dX3_readWord_6 (by decide) ?_
  refine m_putL (pc := 7) C0 18 (by decide) q987 rfl (by decide) (mSet_18 _ _ _) dX3_readWord_7 ?_
  refine g_aload_n (pc := 10) 0 C0 rfl dX3_readWord_10 rfl ?_
  refine g_aload_n (pc := 11) 0 C0 rfl dX3_readWord_11 rfl ?_
  refine m_get (pc := 12) (v := .int (nI (hrA τ))) C0 17 (by decide) q986 rfl dX3_readWord_12 ?_
  refine m_put (pc := 15) C0 19 (by decide) q988 rfl (by decide) (mSet_19 _ _ _) dX3_readWord_15 ?_
  refine G.wsE (ws' := mW dT ad (upc (upc (upc τ 0 17 (hrA τ)) 0 18 (wcd (τ 14) (hrA τ) (hrA τ - hrA τ))) 0 19 (hrA τ))) (by rw [Nat.sub_self]; rfl) ?_
  refine G.forget 1 ?_
  refine G.loop (pc := 18) (ws := fun i => mW dT ad (upc (upc (upc τ 0 17 (hrA τ)) 0 18 (wcd (τ 14) (hrA τ) (i - hrA τ))) 0 19 i)) (Lf := fun i => [some (.ref (ad 0)), none]) (N := wEnd τ) (i0 := hrA τ) e1 ?_ (fun j hi18 hj18 ih18 => ?_)
  · have gx : wEnd τ < τ 0 15 → τ 14 (wEnd τ) < 256 := fun q => x2 _ (by omega)
    have go : wEnd τ < τ 0 15 → inB (lN (τ 14 (wEnd τ))) (lN 97) (lN 122) = false := fun q => by rw [inB_n (Nat.lt_trans (gx q) (by decide)) (by decide) (by decide)]; exact decide_eq_false (e4 q)
    refine g_aload_n (pc := 18) 0 C0 rfl dX3_readWord_18 rfl ?_
    refine m_get (pc := 19) (v := .int (nI (wEnd τ))) C0 19 (by decide) q988 rfl dX3_readWord_19 ?_
    refine g_aload_n (pc := 22) 0 C0 rfl dX3_readWord_22 rfl ?_
    refine m_get (pc := 23) (v := .int (nI (τ 0 15))) C0 15 (by decide) q984 rfl dX3_readWord_23 ?_
    refine g_icmp_geN (pc := 26) 108 C0 (by omega) (by omega) dX3_readWord_26 (by decide) (fun h26 => ?_) (fun h26 => ?_)
    · exact g_vret (pc := 108) C0 dX3_readWord_108 rfl
    · refine g_aload_n (pc := 29) 0 C0 rfl dX3_readWord_29 rfl ?_
      refine m_get (pc := 30) (v := .ref (ad 14)) C0 14 (by decide) q983 rfl dX3_readWord_30 ?_
      refine g_aload_n (pc := 33) 0 C0 rfl dX3_readWord_33 rfl ?_
      refine m_get (pc := 34) (v := .int (nI (wEnd τ))) C0 19 (by decide) q988 rfl dX3_readWord_34 ?_
      refine g_iald (pc := 37) (q0 := 10) (t0 := 0) C0 (wEnd τ) rfl (fun _ => rfl) rfl (by decide) (by omega) dX3_readWord_37 ?_
      refine G.stE (st' := [.int (nI (τ 14 (wEnd τ)))]) rfl ?_
      refine g_i2l (pc := 38) (v := lN (τ 14 (wEnd τ))) C0 dX3_readWord_38 (nI_l (by first | omega | exact Nat.lt_trans (gx h26) (by decide))) ?_
      have c39 : Jvm.Cond.constantLong "FittingStridesModel" 132 (lN 97) ∈ lw_all := q1129
      refine g_ldc2 (pc := 39) (v := lN 97) C0 c39 dX3_readWord_39 ?_
      have c42 : Jvm.Cond.constantLong "FittingStridesModel" 134 (lN 122) ∈ lw_all := q1130
      refine g_ldc2 (pc := 42) (v := lN 122) C0 c42 dX3_readWord_42 ?_
      refine g_csi (pc := 45) (na := 3) (As := [.long (lN (τ 14 (wEnd τ))), .long (lN 97), .long (lN 122)]) (rest := []) C0 (mM_in l (lN (τ 14 (wEnd τ))) (lN 97) (lN 122) ) q1107 q1108 q60 q1109 (by decide +kernel) ⟨Nat.le_of_ble_eq_true rfl, Nat.le_of_ble_eq_true rfl⟩ rfl rfl ⟨Nat.le_of_ble_eq_true rfl, Nat.le_of_ble_eq_true rfl⟩ rfl rfl (Nat.le_of_ble_eq_true rfl) dX3_readWord_45 ?_
      refine g_if_eqB (pc := 48) 108 C0 dX3_readWord_48 (by decide) (fun h48 => ?_) (fun h48 => ?_)
      rotate_left
      · exact absurd h48 (by rw [go h26]; decide)
      exact g_vret (pc := 108) C0 dX3_readWord_108 rfl
  · obtain ⟨g1, g2, g3⟩ := e3 j hj18 hi18
    have gi : inB (lN (τ 14 j)) (lN 97) (lN 122) = true := by rw [inB_n (by omega) (by decide) (by decide)]; exact decide_eq_true ⟨g2, g3⟩
    have gl : wcd (τ 14) (hrA τ) (j - hrA τ) ≤ 270000000000026 := wcd_lt _ (fun i hi => (e3 (hrA τ + i) (by omega) (by omega)).2.2)
    refine g_aload_n (pc := 18) 0 C0 rfl dX3_readWord_18 rfl ?_
    refine m_get (pc := 19) (v := .int (nI j)) C0 19 (by decide) q988 rfl dX3_readWord_19 ?_
    refine g_aload_n (pc := 22) 0 C0 rfl dX3_readWord_22 rfl ?_
    refine m_get (pc := 23) (v := .int (nI (τ 0 15))) C0 15 (by decide) q984 rfl dX3_readWord_23 ?_
    refine g_icmp_geN (pc := 26) 108 C0 (by omega) (by omega) dX3_readWord_26 (by decide) (fun h26 => ?_) (fun h26 => ?_)
    · exact absurd h26 (by omega)
    refine g_aload_n (pc := 29) 0 C0 rfl dX3_readWord_29 rfl ?_
    refine m_get (pc := 30) (v := .ref (ad 14)) C0 14 (by decide) q983 rfl dX3_readWord_30 ?_
    refine g_aload_n (pc := 33) 0 C0 rfl dX3_readWord_33 rfl ?_
    refine m_get (pc := 34) (v := .int (nI j)) C0 19 (by decide) q988 rfl dX3_readWord_34 ?_
    refine g_iald (pc := 37) (q0 := 10) (t0 := 0) C0 j rfl (fun _ => rfl) rfl (by decide) (by omega) dX3_readWord_37 ?_
    refine G.stE (st' := [.int (nI (τ 14 j))]) rfl ?_
    refine g_i2l (pc := 38) (v := lN (τ 14 j)) C0 dX3_readWord_38 (nI_l (by first | omega | exact Nat.lt_trans (gx h26) (by decide))) ?_
    have c39 : Jvm.Cond.constantLong "FittingStridesModel" 132 (lN 97) ∈ lw_all := q1129
    refine g_ldc2 (pc := 39) (v := lN 97) C0 c39 dX3_readWord_39 ?_
    have c42 : Jvm.Cond.constantLong "FittingStridesModel" 134 (lN 122) ∈ lw_all := q1130
    refine g_ldc2 (pc := 42) (v := lN 122) C0 c42 dX3_readWord_42 ?_
    refine g_csi (pc := 45) (na := 3) (As := [.long (lN (τ 14 j)), .long (lN 97), .long (lN 122)]) (rest := []) C0 (mM_in l (lN (τ 14 j)) (lN 97) (lN 122) ) q1107 q1108 q60 q1109 (by decide +kernel) ⟨Nat.le_of_ble_eq_true rfl, Nat.le_of_ble_eq_true rfl⟩ rfl rfl ⟨Nat.le_of_ble_eq_true rfl, Nat.le_of_ble_eq_true rfl⟩ rfl rfl (Nat.le_of_ble_eq_true rfl) dX3_readWord_45 ?_
    refine g_if_eqB (pc := 48) 108 C0 dX3_readWord_48 (by decide) (fun h48 => ?_) (fun h48 => ?_)
    · exact absurd h48 (by rw [gi]; decide)
    refine g_aload_n (pc := 51) 0 C0 rfl dX3_readWord_51 rfl ?_
    refine G.meet (pcJ := 92) (wsJ := mW dT ad (upc (upc (upc τ 0 17 (hrA τ)) 0 18 (wcd (τ 14) (hrA τ) (j - hrA τ))) 0 19 j)) (LJ := [some (.ref (ad 0)), none]) (stJ := [.long (lN (wC (τ 14) (wcd (τ 14) (hrA τ) (j - hrA τ)) j)), .ref (ad 0)]) ?_ (fun J92 => ?_)
    · refine m_putL (pc := 92) C0 18 (by decide) q987 rfl (by decide) (mSet_18 _ _ _) dX3_readWord_92 ?_
      refine g_aload_n (pc := 95) 0 C0 rfl dX3_readWord_95 rfl ?_
      refine g_dup (pc := 96) C0 dX3_readWord_96 rfl ?_
      refine m_get (pc := 97) (v := .int (nI j)) C0 19 (by decide) q988 rfl dX3_readWord_97 ?_
      refine g_iconst (pc := 100) (v := (nI 1)) C0 dX3_readWord_100 (by decide) ?_
      refine g_iaddN (pc := 101) C0  dX3_readWord_101 ?_
      refine m_put (pc := 102) C0 19 (by decide) q988 rfl (by decide) (mSet_19 _ _ _) dX3_readWord_102 ?_
      refine g_goto (pc := 105) 18 C0 dX3_readWord_105 (by decide) ?_
      exact G.wsE (by rw [upc_comm (upc (upc τ 0 17 (hrA τ)) 0 18 (wcd (τ 14) (hrA τ) (j - hrA τ))) (j := 0) (k := 19) (j' := 0) (k' := 18) j _ (by decide), upc_upc, upc_upc, wcd_s _ hj18]) ih18
    · refine g_aload_n (pc := 52) 0 C0 rfl dX3_readWord_52 rfl ?_
      refine m_get (pc := 53) (v := .long (lN (wcd (τ 14) (hrA τ) (j - hrA τ)))) C0 18 (by decide) q987 rfl dX3_readWord_53 ?_
      have c56 : Jvm.Cond.constantLong "FittingStridesModel" 136 (lN 10000000000000) ∈ lw_all := q1131
      refine g_ldc2 (pc := 56) (v := lN 10000000000000) C0 c56 dX3_readWord_56 ?_
      refine g_lcmp (pc := 59) C0 dX3_readWord_59 ?_
      refine g_if_le (pc := 60) 69 C0 dX3_readWord_60 (by decide) (fun h60 => ?_) (fun h60 => ?_)
      · rw [lg_le_N (by omega) (by decide)] at h60
        have c69 : Jvm.Cond.constantLong "FittingStridesModel" 140 (lN 27) ∈ lw_all := q1133
        refine g_ldc2 (pc := 69) (v := lN 27) C0 c69 dX3_readWord_69 ?_
        refine g_aload_n (pc := 72) 0 C0 rfl dX3_readWord_72 rfl ?_
        refine m_get (pc := 73) (v := .long (lN (wcd (τ 14) (hrA τ) (j - hrA τ)))) C0 18 (by decide) q987 rfl dX3_readWord_73 ?_
        refine g_lmulN (pc := 76) C0 dX3_readWord_76 ?_
        refine g_aload_n (pc := 77) 0 C0 rfl dX3_readWord_77 rfl ?_
        refine m_get (pc := 78) (v := .ref (ad 14)) C0 14 (by decide) q983 rfl dX3_readWord_78 ?_
        refine g_aload_n (pc := 81) 0 C0 rfl dX3_readWord_81 rfl ?_
        refine m_get (pc := 82) (v := .int (nI j)) C0 19 (by decide) q988 rfl dX3_readWord_82 ?_
        refine g_iald (pc := 85) (q0 := 10) (t0 := 0) C0 j rfl (fun _ => rfl) rfl (by decide) (by omega) dX3_readWord_85 ?_
        refine G.stE (st' := [.int (nI (τ 14 j)), .long (lN (27 * (wcd (τ 14) (hrA τ) (j - hrA τ)))), .ref (ad 0)]) rfl ?_
        refine g_i2l (pc := 86) (v := lN (τ 14 j)) C0 dX3_readWord_86 (nI_l (by omega)) ?_
        refine g_laddN (pc := 87) C0 dX3_readWord_87 ?_
        have c88 : Jvm.Cond.constantLong "FittingStridesModel" 142 (lN 96) ∈ lw_all := q1134
        refine g_ldc2 (pc := 88) (v := lN 96) C0 c88 dX3_readWord_88 ?_
        refine g_lsubN (pc := 91) C0 (by omega) dX3_readWord_91 ?_
        exact G.stE (by rw [wC, if_neg (by omega)]) J92
      · rw [lg_le_N (by omega) (by decide)] at h60
        have c63 : Jvm.Cond.constantLong "FittingStridesModel" 138 (lN 20000000000000) ∈ lw_all := q1132
        refine g_ldc2 (pc := 63) (v := lN 20000000000000) C0 c63 dX3_readWord_63 ?_
        refine g_goto (pc := 66) 92 C0 dX3_readWord_66 (by decide) ?_
        exact G.stE (by rw [wC, if_pos (by omega)]) J92
set_option maxHeartbeats 4000000 in
set_option maxRecDepth 100000 in
theorem mM_takeNumber (l : Launch) (D : va_G) (dT : Nat → ClassId) (ad : Nat → Nat) (τ : tT) (lo : Nat) (hi : Nat) (hx : wfX τ) (hlo : lo < 2 ^ 31) (hhi : hi < 2 ^ 31) : MI l D dT ad yX3_takeNumber cX3_takeNumber 4 .int ({ frames := 1, cells := 0, slots := 0, locals := 25 }) [.int (nI lo), .int (nI hi)] τ (fun rr τ' => rr = (nI (numV τ lo hi)) ∧ (numT τ lo hi) = τ') := by
  refine CI.ofG (own := "FittingStridesModel") (L := [some (.ref (ad 0)), some (.int (nI lo)), some (.int (nI hi)), none]) rfl (by decide) (Nat.le_of_ble_eq_true rfl) rfl ?_
  intro p' e' s' m' bl' mt' c' C0
  obtain ⟨x1, x2, x3⟩ := id hx
  obtain ⟨y1, y2, y3, y4⟩ := hrA_ok hx
  obtain ⟨e1, e2, e3, e4⟩ := nEnd_ok hx
  have y7 := isD_rg (hrV_lt hx)
  have gn : nVal τ ≤ 100009 := ncd_lt _ (fun i hi => (e3 (hrA τ + i) (by omega) (by omega)).2.2)
  refine g_aload_n (pc := 0) 0 C0 rfl dX3_takeNumber_0 rfl ?_
  refine g_cvi (pc := 1) (na := 0) (As := []) (rest := []) C0 (mM_here l D dT ad τ  hx) (q0 := 0) (j := 0) (ci := 0) (C := RX3) (T := TX3) (N := 44) rfl rfl rfl q1117 q1119 qs31 q60 q1120 (by decide +kernel) ⟨Nat.le_of_ble_eq_true rfl, Nat.le_of_ble_eq_true rfl⟩ rfl rfl ⟨Nat.le_of_ble_eq_true rfl, Nat.le_of_ble_eq_true rfl⟩ rfl rfl (Nat.le_of_ble_eq_true rfl) dX3_takeNumber_1 (fun r τ0 hc => ?_)
  obtain ⟨rfl, rfl⟩ := hc
  refine g_istore_n (pc := 4) 3 C0 (L1 := [some (.ref (ad 0)), some (.int (nI lo)), some (.int (nI hi)), some (.int (oI (hrV τ)))]) rfl (by decide) dX3_takeNumber_4 rfl rfl ?_
  refine g_iload_n (pc := 5) 3 C0 rfl dX3_takeNumber_5 rfl ?_
  refine g_i2l (pc := 6) (v := (oI (hrV τ)).toInt64) C0 dX3_takeNumber_6 rfl ?_
  have c7 : Jvm.Cond.constantLong "FittingStridesModel" 144 (lN 48) ∈ lw_all := q1149
  refine g_ldc2 (pc := 7) (v := lN 48) C0 c7 dX3_takeNumber_7 ?_
  have c10 : Jvm.Cond.constantLong "FittingStridesModel" 146 (lN 57) ∈ lw_all := q1150
  refine g_ldc2 (pc := 10) (v := lN 57) C0 c10 dX3_takeNumber_10 ?_
  refine g_csi (pc := 13) (na := 3) (As := [.long ((oI (hrV τ)).toInt64), .long (lN 48), .long (lN 57)]) (rest := []) C0 (mM_in l ((oI (hrV τ)).toInt64) (lN 48) (lN 57) ) q1107 q1108 q60 q1109 (by decide +kernel) ⟨Nat.le_of_ble_eq_true rfl, Nat.le_of_ble_eq_true rfl⟩ rfl rfl ⟨Nat.le_of_ble_eq_true rfl, Nat.le_of_ble_eq_true rfl⟩ rfl rfl (Nat.le_of_ble_eq_true rfl) dX3_takeNumber_13 ?_
  refine g_if_neB (pc := 16) 29 C0 dX3_takeNumber_16 (by decide) (fun h16 => ?_) (fun h16 => ?_)
  · rw [inB_rg _ (lo := 48) (hi := 57) (by decide) (by decide), y7] at h16
    refine g_aload_n (pc := 29) 0 C0 rfl dX3_takeNumber_29 rfl ?_
    refine g_aload_n (pc := 30) 0 C0 rfl dX3_takeNumber_30 rfl ?_
    refine m_get (pc := 31) (v := .int (nI (hrA τ))) C0 17 (by decide) q986 rfl dX3_takeNumber_31 ?_
    refine m_put (pc := 34) C0 21 (by decide) q990 rfl (by decide) (mSet_21 _ _ _) dX3_takeNumber_34 ?_
    refine g_aload_n (pc := 37) 0 C0 rfl dX3_takeNumber_37 rfl ?_
    refine g_iconst (pc := 38) (v := (nI 0)) C0 dX3_takeNumber_38 (by decide) ?_
    refine m_put (pc := 39) C0 20 (by decide) q989 rfl (by decide) (mSet_20 _ _ _) dX3_takeNumber_39 ?_
    refine G.wsE (ws' := mW dT ad (upc (upc (upc τ 0 17 (hrA τ)) 0 21 (hrA τ)) 0 20 (ncd (τ 14) (hrA τ) (hrA τ - hrA τ)))) (by rw [Nat.sub_self]; rfl) ?_
    refine G.loop (pc := 42) (ws := fun i => mW dT ad (upc (upc (upc τ 0 17 i) 0 21 (hrA τ)) 0 20 (ncd (τ 14) (hrA τ) (i - hrA τ)))) (Lf := fun i => [some (.ref (ad 0)), some (.int (nI lo)), some (.int (nI hi)), some (.int (oI (hrV τ)))]) (N := nEnd τ) (i0 := hrA τ) e1 ?_ (fun j hi42 hj42 ih42 => ?_)
    · have gx : nEnd τ < τ 0 15 → τ 14 (nEnd τ) < 256 := fun q => x2 _ (by omega)
      have go : nEnd τ < τ 0 15 → inB (lN (τ 14 (nEnd τ))) (lN 48) (lN 57) = false := fun q => by rw [inB_n (Nat.lt_trans (gx q) (by decide)) (by decide) (by decide)]; exact decide_eq_false (e4 q)
      refine g_aload_n (pc := 42) 0 C0 rfl dX3_takeNumber_42 rfl ?_
      refine m_get (pc := 43) (v := .int (nI (nEnd τ))) C0 17 (by decide) q986 rfl dX3_takeNumber_43 ?_
      refine g_aload_n (pc := 46) 0 C0 rfl dX3_takeNumber_46 rfl ?_
      refine m_get (pc := 47) (v := .int (nI (τ 0 15))) C0 15 (by decide) q984 rfl dX3_takeNumber_47 ?_
      refine g_icmp_geN (pc := 50) 129 C0 (by omega) (by omega) dX3_takeNumber_50 (by decide) (fun h50 => ?_) (fun h50 => ?_)
      · refine g_aload_n (pc := 129) 0 C0 rfl dX3_takeNumber_129 rfl ?_
        refine m_get (pc := 130) (v := .int (nI (nEnd τ))) C0 17 (by decide) q986 rfl dX3_takeNumber_130 ?_
        refine g_aload_n (pc := 133) 0 C0 rfl dX3_takeNumber_133 rfl ?_
        refine m_get (pc := 134) (v := .int (nI (hrA τ))) C0 21 (by decide) q990 rfl dX3_takeNumber_134 ?_
        refine g_isubN (pc := 137) C0 e1 dX3_takeNumber_137 ?_
        refine g_iconst (pc := 138) (v := (nI 3)) C0 dX3_takeNumber_138 (by decide) ?_
        refine g_icmp_gtN (pc := 139) 157 C0 (by omega) (by decide) dX3_takeNumber_139 (by decide) (fun h139 => ?_) (fun h139 => ?_)
        · refine g_aload_n (pc := 157) 0 C0 rfl dX3_takeNumber_157 rfl ?_
          refine g_iconst (pc := 158) (v := (nI 2)) C0 dX3_takeNumber_158 (by decide) ?_
          refine g_aload_n (pc := 159) 0 C0 rfl dX3_takeNumber_159 rfl ?_
          refine m_get (pc := 160) (v := .int (nI (hrA τ))) C0 21 (by decide) q990 rfl dX3_takeNumber_160 ?_
          refine g_cvi (pc := 163) (na := 2) (As := [.int (nI 2), .int (nI (hrA τ))]) (rest := []) C0 (mM_fails l D dT ad (upc (upc (upc τ 0 17 (nEnd τ)) 0 21 (hrA τ)) 0 20 (ncd (τ 14) (hrA τ) (nEnd τ - hrA τ))) 2 (hrA τ) ) (q0 := 0) (j := 0) (ci := 0) (C := RX3) (T := TX3) (N := 44) rfl rfl rfl q1141 q1143 qs34 q60 q1144 (by decide +kernel) ⟨Nat.le_of_ble_eq_true rfl, Nat.le_of_ble_eq_true rfl⟩ rfl rfl ⟨Nat.le_of_ble_eq_true rfl, Nat.le_of_ble_eq_true rfl⟩ rfl rfl (Nat.le_of_ble_eq_true rfl) dX3_takeNumber_163 (fun r τ0 hc => ?_)
          obtain ⟨rfl, rfl⟩ := hc
          refine g_goto (pc := 166) 170 C0 dX3_takeNumber_166 (by decide) ?_
          exact g_iret (pc := 170) C0 dX3_takeNumber_170 ⟨by rw [numV, if_pos h16, if_pos (by omega)], by rw [numT, if_pos h16, if_pos (by omega)]; rfl⟩
        · refine g_aload_n (pc := 142) 0 C0 rfl dX3_takeNumber_142 rfl ?_
          refine m_get (pc := 143) (v := .int (nI (ncd (τ 14) (hrA τ) (nEnd τ - hrA τ)))) C0 20 (by decide) q989 rfl dX3_takeNumber_143 ?_
          refine g_i2l (pc := 146) (v := lN (ncd (τ 14) (hrA τ) (nEnd τ - hrA τ))) C0 dX3_takeNumber_146 (nI_l (by have := gn; unfold nVal at this; omega)) ?_
          refine g_iload_n (pc := 147) 1 C0 rfl dX3_takeNumber_147 rfl ?_
          refine g_i2l (pc := 148) (v := lN lo) C0 dX3_takeNumber_148 (nI_l hlo) ?_
          refine g_iload_n (pc := 149) 2 C0 rfl dX3_takeNumber_149 rfl ?_
          refine g_i2l (pc := 150) (v := lN hi) C0 dX3_takeNumber_150 (nI_l hhi) ?_
          refine g_csi (pc := 151) (na := 3) (As := [.long (lN (ncd (τ 14) (hrA τ) (nEnd τ - hrA τ))), .long (lN lo), .long (lN hi)]) (rest := []) C0 (mM_in l (lN (ncd (τ 14) (hrA τ) (nEnd τ - hrA τ))) (lN lo) (lN hi) ) q1107 q1108 q60 q1109 (by decide +kernel) ⟨Nat.le_of_ble_eq_true rfl, Nat.le_of_ble_eq_true rfl⟩ rfl rfl ⟨Nat.le_of_ble_eq_true rfl, Nat.le_of_ble_eq_true rfl⟩ rfl rfl (Nat.le_of_ble_eq_true rfl) dX3_takeNumber_151 ?_
          refine g_if_neB (pc := 154) 169 C0 dX3_takeNumber_154 (by decide) (fun h154 => ?_) (fun h154 => ?_)
          · rw [inB_n (by have := gn; unfold nVal at this; omega) (by omega) (by omega)] at h154; have h155 := of_decide_eq_true h154; have h156 : (lo ≤ nVal τ ∧ nVal τ ≤ hi) := h155
            refine g_iconst (pc := 169) (v := (nI 0)) C0 dX3_takeNumber_169 (by decide) ?_
            exact g_iret (pc := 170) C0 dX3_takeNumber_170 ⟨by rw [numV, if_pos h16, if_neg (by omega)], by rw [numT, if_pos h16, if_neg (by omega)]; rfl⟩
          · rw [inB_n (by have := gn; unfold nVal at this; omega) (by omega) (by omega)] at h154; have h155 := of_decide_eq_false h154; have h156 : ¬ (lo ≤ nVal τ ∧ nVal τ ≤ hi) := h155
            refine g_aload_n (pc := 157) 0 C0 rfl dX3_takeNumber_157 rfl ?_
            refine g_iconst (pc := 158) (v := (nI 2)) C0 dX3_takeNumber_158 (by decide) ?_
            refine g_aload_n (pc := 159) 0 C0 rfl dX3_takeNumber_159 rfl ?_
            refine m_get (pc := 160) (v := .int (nI (hrA τ))) C0 21 (by decide) q990 rfl dX3_takeNumber_160 ?_
            refine g_cvi (pc := 163) (na := 2) (As := [.int (nI 2), .int (nI (hrA τ))]) (rest := []) C0 (mM_fails l D dT ad (upc (upc (upc τ 0 17 (nEnd τ)) 0 21 (hrA τ)) 0 20 (ncd (τ 14) (hrA τ) (nEnd τ - hrA τ))) 2 (hrA τ) ) (q0 := 0) (j := 0) (ci := 0) (C := RX3) (T := TX3) (N := 44) rfl rfl rfl q1141 q1143 qs34 q60 q1144 (by decide +kernel) ⟨Nat.le_of_ble_eq_true rfl, Nat.le_of_ble_eq_true rfl⟩ rfl rfl ⟨Nat.le_of_ble_eq_true rfl, Nat.le_of_ble_eq_true rfl⟩ rfl rfl (Nat.le_of_ble_eq_true rfl) dX3_takeNumber_163 (fun r τ0 hc => ?_)
            obtain ⟨rfl, rfl⟩ := hc
            refine g_goto (pc := 166) 170 C0 dX3_takeNumber_166 (by decide) ?_
            exact g_iret (pc := 170) C0 dX3_takeNumber_170 ⟨by rw [numV, if_pos h16, if_pos (by omega)], by rw [numT, if_pos h16, if_pos (by omega)]; rfl⟩
      · refine g_aload_n (pc := 53) 0 C0 rfl dX3_takeNumber_53 rfl ?_
        refine m_get (pc := 54) (v := .ref (ad 14)) C0 14 (by decide) q983 rfl dX3_takeNumber_54 ?_
        refine g_aload_n (pc := 57) 0 C0 rfl dX3_takeNumber_57 rfl ?_
        refine m_get (pc := 58) (v := .int (nI (nEnd τ))) C0 17 (by decide) q986 rfl dX3_takeNumber_58 ?_
        refine g_iald (pc := 61) (q0 := 10) (t0 := 0) C0 (nEnd τ) rfl (fun _ => rfl) rfl (by decide) (by omega) dX3_takeNumber_61 ?_
        refine G.stE (st' := [.int (nI (τ 14 (nEnd τ)))]) rfl ?_
        refine g_i2l (pc := 62) (v := lN (τ 14 (nEnd τ))) C0 dX3_takeNumber_62 (nI_l (by first | omega | exact Nat.lt_trans (gx h50) (by decide))) ?_
        have c63 : Jvm.Cond.constantLong "FittingStridesModel" 144 (lN 48) ∈ lw_all := q1149
        refine g_ldc2 (pc := 63) (v := lN 48) C0 c63 dX3_takeNumber_63 ?_
        have c66 : Jvm.Cond.constantLong "FittingStridesModel" 146 (lN 57) ∈ lw_all := q1150
        refine g_ldc2 (pc := 66) (v := lN 57) C0 c66 dX3_takeNumber_66 ?_
        refine g_csi (pc := 69) (na := 3) (As := [.long (lN (τ 14 (nEnd τ))), .long (lN 48), .long (lN 57)]) (rest := []) C0 (mM_in l (lN (τ 14 (nEnd τ))) (lN 48) (lN 57) ) q1107 q1108 q60 q1109 (by decide +kernel) ⟨Nat.le_of_ble_eq_true rfl, Nat.le_of_ble_eq_true rfl⟩ rfl rfl ⟨Nat.le_of_ble_eq_true rfl, Nat.le_of_ble_eq_true rfl⟩ rfl rfl (Nat.le_of_ble_eq_true rfl) dX3_takeNumber_69 ?_
        refine g_if_eqB (pc := 72) 129 C0 dX3_takeNumber_72 (by decide) (fun h72 => ?_) (fun h72 => ?_)
        rotate_left
        · exact absurd h72 (by rw [go h50]; decide)
        refine g_aload_n (pc := 129) 0 C0 rfl dX3_takeNumber_129 rfl ?_
        refine m_get (pc := 130) (v := .int (nI (nEnd τ))) C0 17 (by decide) q986 rfl dX3_takeNumber_130 ?_
        refine g_aload_n (pc := 133) 0 C0 rfl dX3_takeNumber_133 rfl ?_
        refine m_get (pc := 134) (v := .int (nI (hrA τ))) C0 21 (by decide) q990 rfl dX3_takeNumber_134 ?_
        refine g_isubN (pc := 137) C0 e1 dX3_takeNumber_137 ?_
        refine g_iconst (pc := 138) (v := (nI 3)) C0 dX3_takeNumber_138 (by decide) ?_
        refine g_icmp_gtN (pc := 139) 157 C0 (by omega) (by decide) dX3_takeNumber_139 (by decide) (fun h139 => ?_) (fun h139 => ?_)
        · refine g_aload_n (pc := 157) 0 C0 rfl dX3_takeNumber_157 rfl ?_
          refine g_iconst (pc := 158) (v := (nI 2)) C0 dX3_takeNumber_158 (by decide) ?_
          refine g_aload_n (pc := 159) 0 C0 rfl dX3_takeNumber_159 rfl ?_
          refine m_get (pc := 160) (v := .int (nI (hrA τ))) C0 21 (by decide) q990 rfl dX3_takeNumber_160 ?_
          refine g_cvi (pc := 163) (na := 2) (As := [.int (nI 2), .int (nI (hrA τ))]) (rest := []) C0 (mM_fails l D dT ad (upc (upc (upc τ 0 17 (nEnd τ)) 0 21 (hrA τ)) 0 20 (ncd (τ 14) (hrA τ) (nEnd τ - hrA τ))) 2 (hrA τ) ) (q0 := 0) (j := 0) (ci := 0) (C := RX3) (T := TX3) (N := 44) rfl rfl rfl q1141 q1143 qs34 q60 q1144 (by decide +kernel) ⟨Nat.le_of_ble_eq_true rfl, Nat.le_of_ble_eq_true rfl⟩ rfl rfl ⟨Nat.le_of_ble_eq_true rfl, Nat.le_of_ble_eq_true rfl⟩ rfl rfl (Nat.le_of_ble_eq_true rfl) dX3_takeNumber_163 (fun r τ0 hc => ?_)
          obtain ⟨rfl, rfl⟩ := hc
          refine g_goto (pc := 166) 170 C0 dX3_takeNumber_166 (by decide) ?_
          exact g_iret (pc := 170) C0 dX3_takeNumber_170 ⟨by rw [numV, if_pos h16, if_pos (by omega)], by rw [numT, if_pos h16, if_pos (by omega)]; rfl⟩
        · refine g_aload_n (pc := 142) 0 C0 rfl dX3_takeNumber_142 rfl ?_
          refine m_get (pc := 143) (v := .int (nI (ncd (τ 14) (hrA τ) (nEnd τ - hrA τ)))) C0 20 (by decide) q989 rfl dX3_takeNumber_143 ?_
          refine g_i2l (pc := 146) (v := lN (ncd (τ 14) (hrA τ) (nEnd τ - hrA τ))) C0 dX3_takeNumber_146 (nI_l (by have := gn; unfold nVal at this; omega)) ?_
          refine g_iload_n (pc := 147) 1 C0 rfl dX3_takeNumber_147 rfl ?_
          refine g_i2l (pc := 148) (v := lN lo) C0 dX3_takeNumber_148 (nI_l hlo) ?_
          refine g_iload_n (pc := 149) 2 C0 rfl dX3_takeNumber_149 rfl ?_
          refine g_i2l (pc := 150) (v := lN hi) C0 dX3_takeNumber_150 (nI_l hhi) ?_
          refine g_csi (pc := 151) (na := 3) (As := [.long (lN (ncd (τ 14) (hrA τ) (nEnd τ - hrA τ))), .long (lN lo), .long (lN hi)]) (rest := []) C0 (mM_in l (lN (ncd (τ 14) (hrA τ) (nEnd τ - hrA τ))) (lN lo) (lN hi) ) q1107 q1108 q60 q1109 (by decide +kernel) ⟨Nat.le_of_ble_eq_true rfl, Nat.le_of_ble_eq_true rfl⟩ rfl rfl ⟨Nat.le_of_ble_eq_true rfl, Nat.le_of_ble_eq_true rfl⟩ rfl rfl (Nat.le_of_ble_eq_true rfl) dX3_takeNumber_151 ?_
          refine g_if_neB (pc := 154) 169 C0 dX3_takeNumber_154 (by decide) (fun h154 => ?_) (fun h154 => ?_)
          · rw [inB_n (by have := gn; unfold nVal at this; omega) (by omega) (by omega)] at h154; have h155 := of_decide_eq_true h154; have h156 : (lo ≤ nVal τ ∧ nVal τ ≤ hi) := h155
            refine g_iconst (pc := 169) (v := (nI 0)) C0 dX3_takeNumber_169 (by decide) ?_
            exact g_iret (pc := 170) C0 dX3_takeNumber_170 ⟨by rw [numV, if_pos h16, if_neg (by omega)], by rw [numT, if_pos h16, if_neg (by omega)]; rfl⟩
          · rw [inB_n (by have := gn; unfold nVal at this; omega) (by omega) (by omega)] at h154; have h155 := of_decide_eq_false h154; have h156 : ¬ (lo ≤ nVal τ ∧ nVal τ ≤ hi) := h155
            refine g_aload_n (pc := 157) 0 C0 rfl dX3_takeNumber_157 rfl ?_
            refine g_iconst (pc := 158) (v := (nI 2)) C0 dX3_takeNumber_158 (by decide) ?_
            refine g_aload_n (pc := 159) 0 C0 rfl dX3_takeNumber_159 rfl ?_
            refine m_get (pc := 160) (v := .int (nI (hrA τ))) C0 21 (by decide) q990 rfl dX3_takeNumber_160 ?_
            refine g_cvi (pc := 163) (na := 2) (As := [.int (nI 2), .int (nI (hrA τ))]) (rest := []) C0 (mM_fails l D dT ad (upc (upc (upc τ 0 17 (nEnd τ)) 0 21 (hrA τ)) 0 20 (ncd (τ 14) (hrA τ) (nEnd τ - hrA τ))) 2 (hrA τ) ) (q0 := 0) (j := 0) (ci := 0) (C := RX3) (T := TX3) (N := 44) rfl rfl rfl q1141 q1143 qs34 q60 q1144 (by decide +kernel) ⟨Nat.le_of_ble_eq_true rfl, Nat.le_of_ble_eq_true rfl⟩ rfl rfl ⟨Nat.le_of_ble_eq_true rfl, Nat.le_of_ble_eq_true rfl⟩ rfl rfl (Nat.le_of_ble_eq_true rfl) dX3_takeNumber_163 (fun r τ0 hc => ?_)
            obtain ⟨rfl, rfl⟩ := hc
            refine g_goto (pc := 166) 170 C0 dX3_takeNumber_166 (by decide) ?_
            exact g_iret (pc := 170) C0 dX3_takeNumber_170 ⟨by rw [numV, if_pos h16, if_pos (by omega)], by rw [numT, if_pos h16, if_pos (by omega)]; rfl⟩
    · obtain ⟨g1, g2, g3⟩ := e3 j hj42 hi42
      have gi : inB (lN (τ 14 j)) (lN 48) (lN 57) = true := by rw [inB_n (by omega) (by decide) (by decide)]; exact decide_eq_true ⟨g2, g3⟩
      have gl : ncd (τ 14) (hrA τ) (j - hrA τ) ≤ 100009 := ncd_lt _ (fun i hi => (e3 (hrA τ + i) (by omega) (by omega)).2.2)
      refine g_aload_n (pc := 42) 0 C0 rfl dX3_takeNumber_42 rfl ?_
      refine m_get (pc := 43) (v := .int (nI j)) C0 17 (by decide) q986 rfl dX3_takeNumber_43 ?_
      refine g_aload_n (pc := 46) 0 C0 rfl dX3_takeNumber_46 rfl ?_
      refine m_get (pc := 47) (v := .int (nI (τ 0 15))) C0 15 (by decide) q984 rfl dX3_takeNumber_47 ?_
      refine g_icmp_geN (pc := 50) 129 C0 (by omega) (by omega) dX3_takeNumber_50 (by decide) (fun h50 => ?_) (fun h50 => ?_)
      · exact absurd h50 (by omega)
      refine g_aload_n (pc := 53) 0 C0 rfl dX3_takeNumber_53 rfl ?_
      refine m_get (pc := 54) (v := .ref (ad 14)) C0 14 (by decide) q983 rfl dX3_takeNumber_54 ?_
      refine g_aload_n (pc := 57) 0 C0 rfl dX3_takeNumber_57 rfl ?_
      refine m_get (pc := 58) (v := .int (nI j)) C0 17 (by decide) q986 rfl dX3_takeNumber_58 ?_
      refine g_iald (pc := 61) (q0 := 10) (t0 := 0) C0 j rfl (fun _ => rfl) rfl (by decide) (by omega) dX3_takeNumber_61 ?_
      refine G.stE (st' := [.int (nI (τ 14 j))]) rfl ?_
      refine g_i2l (pc := 62) (v := lN (τ 14 j)) C0 dX3_takeNumber_62 (nI_l (by first | omega | exact Nat.lt_trans (gx h50) (by decide))) ?_
      have c63 : Jvm.Cond.constantLong "FittingStridesModel" 144 (lN 48) ∈ lw_all := q1149
      refine g_ldc2 (pc := 63) (v := lN 48) C0 c63 dX3_takeNumber_63 ?_
      have c66 : Jvm.Cond.constantLong "FittingStridesModel" 146 (lN 57) ∈ lw_all := q1150
      refine g_ldc2 (pc := 66) (v := lN 57) C0 c66 dX3_takeNumber_66 ?_
      refine g_csi (pc := 69) (na := 3) (As := [.long (lN (τ 14 j)), .long (lN 48), .long (lN 57)]) (rest := []) C0 (mM_in l (lN (τ 14 j)) (lN 48) (lN 57) ) q1107 q1108 q60 q1109 (by decide +kernel) ⟨Nat.le_of_ble_eq_true rfl, Nat.le_of_ble_eq_true rfl⟩ rfl rfl ⟨Nat.le_of_ble_eq_true rfl, Nat.le_of_ble_eq_true rfl⟩ rfl rfl (Nat.le_of_ble_eq_true rfl) dX3_takeNumber_69 ?_
      refine g_if_eqB (pc := 72) 129 C0 dX3_takeNumber_72 (by decide) (fun h72 => ?_) (fun h72 => ?_)
      · exact absurd h72 (by rw [gi]; decide)
      refine g_aload_n (pc := 75) 0 C0 rfl dX3_takeNumber_75 rfl ?_
      refine G.join (pcJ := 113) (wsJ := mW dT ad (upc (upc (upc τ 0 17 j) 0 21 (hrA τ)) 0 20 (ncd (τ 14) (hrA τ) (j - hrA τ)))) (LJ := [some (.ref (ad 0)), some (.int (nI lo)), some (.int (nI hi)), some (.int (oI (hrV τ)))]) (stJ := [.ref (ad 0)]) (nI (nC (τ 14) (ncd (τ 14) (hrA τ) (j - hrA τ)) j)) ?_ (fun J113 => ?_)
      · refine m_put (pc := 113) C0 20 (by decide) q989 rfl (by decide) (mSet_20 _ _ _) dX3_takeNumber_113 ?_
        refine g_aload_n (pc := 116) 0 C0 rfl dX3_takeNumber_116 rfl ?_
        refine g_dup (pc := 117) C0 dX3_takeNumber_117 rfl ?_
        refine m_get (pc := 118) (v := .int (nI j)) C0 17 (by decide) q986 rfl dX3_takeNumber_118 ?_
        refine g_iconst (pc := 121) (v := (nI 1)) C0 dX3_takeNumber_121 (by decide) ?_
        refine g_iaddN (pc := 122) C0  dX3_takeNumber_122 ?_
        refine m_put (pc := 123) C0 17 (by decide) q986 rfl (by decide) (mSet_17 _ _ _) dX3_takeNumber_123 ?_
        refine g_goto (pc := 126) 42 C0 dX3_takeNumber_126 (by decide) ?_
        exact G.wsE (by rw [upc_upc, upc_comm (upc τ 0 17 j) (j := 0) (k := 21) (j' := 0) (k' := 20) (hrA τ) _ (by decide), upc_comm (upc (upc τ 0 17 j) 0 20 _) (j := 0) (k := 21) (j' := 0) (k' := 17) (hrA τ) _ (by decide), upc_comm (upc τ 0 17 j) (j := 0) (k := 20) (j' := 0) (k' := 17) _ _ (by decide), upc_upc, ncd_s _ hj42, upc_comm (upc τ 0 17 (j + 1)) (j := 0) (k := 20) (j' := 0) (k' := 21) _ _ (by decide)]) ih42
      · refine g_aload_n (pc := 76) 0 C0 rfl dX3_takeNumber_76 rfl ?_
        refine m_get (pc := 77) (v := .int (nI (ncd (τ 14) (hrA τ) (j - hrA τ)))) C0 20 (by decide) q989 rfl dX3_takeNumber_77 ?_
        refine g_sipush (pc := 80) (v := (nI 10000)) C0 dX3_takeNumber_80 (by decide) ?_
        refine g_icmp_leN (pc := 83) 93 C0 (by omega) (by decide) dX3_takeNumber_83 (by decide) (fun h83 => ?_) (fun h83 => ?_)
        · refine g_bipush (pc := 93) (v := (nI 10)) C0 dX3_takeNumber_93 (by decide) ?_
          refine g_aload_n (pc := 95) 0 C0 rfl dX3_takeNumber_95 rfl ?_
          refine m_get (pc := 96) (v := .int (nI (ncd (τ 14) (hrA τ) (j - hrA τ)))) C0 20 (by decide) q989 rfl dX3_takeNumber_96 ?_
          refine g_imulN (pc := 99) C0  dX3_takeNumber_99 ?_
          refine g_aload_n (pc := 100) 0 C0 rfl dX3_takeNumber_100 rfl ?_
          refine m_get (pc := 101) (v := .ref (ad 14)) C0 14 (by decide) q983 rfl dX3_takeNumber_101 ?_
          refine g_aload_n (pc := 104) 0 C0 rfl dX3_takeNumber_104 rfl ?_
          refine m_get (pc := 105) (v := .int (nI j)) C0 17 (by decide) q986 rfl dX3_takeNumber_105 ?_
          refine g_iald (pc := 108) (q0 := 10) (t0 := 0) C0 j rfl (fun _ => rfl) rfl (by decide) (by omega) dX3_takeNumber_108 ?_
          refine G.stE (st' := [.int (nI (τ 14 j)), .int (nI (10 * (ncd (τ 14) (hrA τ) (j - hrA τ)))), .ref (ad 0)]) rfl ?_
          refine g_iaddN (pc := 109) C0  dX3_takeNumber_109 ?_
          refine g_bipush (pc := 110) (v := (nI 48)) C0 dX3_takeNumber_110 (by decide) ?_
          refine g_isubN (pc := 112) C0 (by omega) dX3_takeNumber_112 ?_
          exact J113 (nI (((10 * (ncd (τ 14) (hrA τ) (j - hrA τ))) + (τ 14 j)) - 48)) (congrArg nI (by rw [nC, if_neg (by omega)]))
        · refine g_aload_n (pc := 86) 0 C0 rfl dX3_takeNumber_86 rfl ?_
          refine m_get (pc := 87) (v := .int (nI (ncd (τ 14) (hrA τ) (j - hrA τ)))) C0 20 (by decide) q989 rfl dX3_takeNumber_87 ?_
          refine g_goto (pc := 90) 113 C0 dX3_takeNumber_90 (by decide) ?_
          exact J113 (nI (ncd (τ 14) (hrA τ) (j - hrA τ))) (congrArg nI (by rw [nC, if_pos (by omega)]))
  · rw [inB_rg _ (lo := 48) (hi := 57) (by decide) (by decide), y7] at h16
    refine g_aload_n (pc := 19) 0 C0 rfl dX3_takeNumber_19 rfl ?_
    refine g_iconst (pc := 20) (v := (nI 1)) C0 dX3_takeNumber_20 (by decide) ?_
    refine g_aload_n (pc := 21) 0 C0 rfl dX3_takeNumber_21 rfl ?_
    refine m_get (pc := 22) (v := .int (nI (hrA τ))) C0 17 (by decide) q986 rfl dX3_takeNumber_22 ?_
    refine g_cvi (pc := 25) (na := 2) (As := [.int (nI 1), .int (nI (hrA τ))]) (rest := []) C0 (mM_fails l D dT ad (upc τ 0 17 (hrA τ)) 1 (hrA τ) ) (q0 := 0) (j := 0) (ci := 0) (C := RX3) (T := TX3) (N := 44) rfl rfl rfl q1141 q1143 qs34 q60 q1144 (by decide +kernel) ⟨Nat.le_of_ble_eq_true rfl, Nat.le_of_ble_eq_true rfl⟩ rfl rfl ⟨Nat.le_of_ble_eq_true rfl, Nat.le_of_ble_eq_true rfl⟩ rfl rfl (Nat.le_of_ble_eq_true rfl) dX3_takeNumber_25 (fun r τ0 hc => ?_)
    obtain ⟨rfl, rfl⟩ := hc
    exact g_iret (pc := 28) C0 dX3_takeNumber_28 ⟨by rw [numV, h16]; rfl, by rw [numT, h16]; rfl⟩
