/-! the model, third module -/
set_option maxRecDepth 100000
set_option maxHeartbeats 4000000 in
set_option maxRecDepth 100000 in
theorem mM_build (l : Launch) (D : va_G) (dT : Nat → ClassId) (ad : Nat → Nat) (τ : tT) (r : Int32) (x : Int32) (n : Int32) (hw : wfT τ) : MI l D dT ad yX3_build cX3_build 5 .int ({ frames := 2, cells := 0, slots := 0, locals := 46 }) [.int r, .int x, .int n] τ (fun rr τ' => rr = (pBuild τ r x n) ∧ (pBuildT τ r x n) = τ') := by
  refine CI.ofG (own := "FittingStridesModel") (L := [some (.ref (ad 0)), some (.int r), some (.int x), some (.int n), none]) rfl (by decide) (Nat.le_of_ble_eq_true rfl) rfl ?_
  intro p' e' s' m' bl' mt' c' C0
  have hw1 := hw.1
  refine g_aload_n (pc := 0) 0 C0 rfl dX3_build_0 rfl ?_
  refine g_iload_n (pc := 1) 1 C0 rfl dX3_build_1 rfl ?_
  refine g_cvi (pc := 2) (na := 1) (As := [.int r]) (rest := []) C0 (mM_isStair l D dT ad τ r (by omega)) (q0 := 0) (j := 0) (ci := 0) (C := RX3) (T := TX3) (N := 44) rfl rfl rfl q1183 q1185 qs41 q60 q1186 (by decide +kernel) ⟨Nat.le_of_ble_eq_true rfl, Nat.le_of_ble_eq_true rfl⟩ rfl rfl ⟨Nat.le_of_ble_eq_true rfl, Nat.le_of_ble_eq_true rfl⟩ rfl rfl (Nat.le_of_ble_eq_true rfl) dX3_build_2 (fun r τ0 hc => ?_)
  obtain ⟨rfl, rfl⟩ := hc
  refine g_if_eqB (pc := 5) 26 C0 dX3_build_5 (by decide) (fun h5 => ?_) (fun h5 => ?_)
  · refine g_ldc (pc := 26) (v := -1000000001) C0 q1187 dX3_build_26 ?_
    exact g_iret (pc := 28) C0 dX3_build_28 ⟨by simp [pBuild, pBuildOk, h5]; try rfl, by simp [pBuildT, pBuildOk, h5]⟩
  · obtain ⟨r1, rfl, r1h, r1b⟩ := ixB_t h5
    obtain ⟨k1, k2, k3, k4, k5, k6, k7⟩ := hw.2.2 r1 r1h
    refine g_iload_n (pc := 8) 2 C0 rfl dX3_build_8 rfl ?_
    refine g_i2l (pc := 9) (v := x.toInt64) C0 dX3_build_9 rfl ?_
    refine g_lconst (pc := 10) (v := lN 0) C0 dX3_build_10 (by decide) ?_
    refine g_aload_n (pc := 11) 0 C0 rfl dX3_build_11 rfl ?_
    refine m_get (pc := 12) (v := .ref (ad 5)) C0 5 (by decide) q974 rfl dX3_build_12 ?_
    refine g_iload_n (pc := 15) 1 C0 rfl dX3_build_15 rfl ?_
    refine g_iald (pc := 16) (q0 := 4) (t0 := 0) C0 r1 rfl (fun _ => rfl) rfl (by decide) (by omega) dX3_build_16 ?_
    refine g_iconst (pc := 17) (v := (nI 1)) C0 dX3_build_17 (by decide) ?_
    refine g_isub (pc := 18) C0 dX3_build_18 ?_
    refine g_i2l (pc := 19) (v := ((nI (τ 5 r1)) - (nI 1)).toInt64) C0 dX3_build_19 rfl ?_
    refine g_csi (pc := 20) (na := 3) (As := [.long x.toInt64, .long (lN 0), .long (((nI (τ 5 r1)) - (nI 1)).toInt64)]) (rest := []) C0 (mM_in l x.toInt64 (lN 0) (((nI (τ 5 r1)) - (nI 1)).toInt64) ) q1107 q1108 q60 q1109 (by decide +kernel) ⟨Nat.le_of_ble_eq_true rfl, Nat.le_of_ble_eq_true rfl⟩ rfl rfl ⟨Nat.le_of_ble_eq_true rfl, Nat.le_of_ble_eq_true rfl⟩ rfl rfl (Nat.le_of_ble_eq_true rfl) dX3_build_20 ?_
    refine g_if_neB (pc := 23) 29 C0 dX3_build_23 (by decide) (fun h23 => ?_) (fun h23 => ?_)
    · rw [inB_ix x _ (by omega)] at h23
      obtain ⟨x1, rfl, x1h, x1b⟩ := ixB_t h23
      refine g_iload_n (pc := 29) 3 C0 rfl dX3_build_29 rfl ?_
      refine g_i2l (pc := 30) (v := n.toInt64) C0 dX3_build_30 rfl ?_
      refine g_lconst (pc := 31) (v := lN 1) C0 dX3_build_31 (by decide) ?_
      have c32 : Jvm.Cond.constantLong "FittingStridesModel" 248 (lN 720) ∈ lw_all := q1241
      refine g_ldc2 (pc := 32) (v := lN 720) C0 c32 dX3_build_32 ?_
      refine g_csi (pc := 35) (na := 3) (As := [.long n.toInt64, .long (lN 1), .long (lN 720)]) (rest := []) C0 (mM_in l n.toInt64 (lN 1) (lN 720) ) q1107 q1108 q60 q1109 (by decide +kernel) ⟨Nat.le_of_ble_eq_true rfl, Nat.le_of_ble_eq_true rfl⟩ rfl rfl ⟨Nat.le_of_ble_eq_true rfl, Nat.le_of_ble_eq_true rfl⟩ rfl rfl (Nat.le_of_ble_eq_true rfl) dX3_build_35 ?_
      refine g_if_neB (pc := 38) 44 C0 dX3_build_38 (by decide) (fun h38 => ?_) (fun h38 => ?_)
      · rw [inB_rg n (lo := 1) (hi := 720) (by decide) (by decide)] at h38
        obtain ⟨n1, rfl, n1l, n1h, n1b⟩ := rgB_t h38
        refine g_aload_n (pc := 44) 0 C0 rfl dX3_build_44 rfl ?_
        refine m_get (pc := 45) (v := .ref (ad 6)) C0 6 (by decide) q975 rfl dX3_build_45 ?_
        refine g_iconst (pc := 48) (v := (nI 3)) C0 dX3_build_48 (by decide) ?_
        refine g_iload_n (pc := 49) 1 C0 rfl dX3_build_49 rfl ?_
        refine g_imulN (pc := 50) C0  dX3_build_50 ?_
        refine g_iload_n (pc := 51) 2 C0 rfl dX3_build_51 rfl ?_
        refine g_iaddN (pc := 52) C0  dX3_build_52 ?_
        refine g_iald (pc := 53) (q0 := 5) (t0 := 0) C0 ((3 * r1) + x1) rfl (fun _ => rfl) rfl (by decide) (by omega) dX3_build_53 ?_
        refine g_istore (pc := 54) 4 C0 (L1 := [some (.ref (ad 0)), some (.int (nI r1)), some (.int (nI x1)), some (.int (nI n1)), some (.int (nI (τ 6 ((3 * r1) + x1))))]) rfl (by decide) dX3_build_54 rfl ?_
        refine g_aload_n (pc := 56) 0 C0 rfl dX3_build_56 rfl ?_
        refine m_get (pc := 57) (v := .ref (ad 6)) C0 6 (by decide) q975 rfl dX3_build_57 ?_
        refine g_iconst (pc := 60) (v := (nI 3)) C0 dX3_build_60 (by decide) ?_
        refine g_iload_n (pc := 61) 1 C0 rfl dX3_build_61 rfl ?_
        refine g_imulN (pc := 62) C0  dX3_build_62 ?_
        refine g_iload_n (pc := 63) 2 C0 rfl dX3_build_63 rfl ?_
        refine g_iaddN (pc := 64) C0  dX3_build_64 ?_
        refine g_iload_n (pc := 65) 3 C0 rfl dX3_build_65 rfl ?_
        refine g_iast (pc := 66) (q0 := 5) (t0 := 0) C0 ((3 * r1) + x1) n1 mNd rfl (fun _ => rfl) rfl (by decide) (by omega) dX3_build_66 ?_
        refine g_iload (pc := 67) 4 C0 rfl dX3_build_67 ?_
        exact g_iret (pc := 69) C0 dX3_build_69 ⟨by simp [pBuild, pBuildOk, h5, nI_clamp r1b, h23, nI_clamp x1b, h38, nI_clamp n1b]; try rfl, by simp [pBuildT, pBuildOk, h5, nI_clamp r1b, h23, nI_clamp x1b, h38, nI_clamp n1b]⟩
      · rw [inB_rg n (lo := 1) (hi := 720) (by decide) (by decide)] at h38
        refine g_ldc (pc := 41) (v := -1000000002) C0 q1110 dX3_build_41 ?_
        exact g_iret (pc := 43) C0 dX3_build_43 ⟨by simp [pBuild, pBuildOk, h5, nI_clamp r1b, h23, nI_clamp x1b, h38]; try rfl, by simp [pBuildT, pBuildOk, h5, nI_clamp r1b, h23, nI_clamp x1b, h38]⟩
    · rw [inB_ix x _ (by omega)] at h23
      refine g_ldc (pc := 26) (v := -1000000001) C0 q1187 dX3_build_26 ?_
      exact g_iret (pc := 28) C0 dX3_build_28 ⟨by simp [pBuild, pBuildOk, h5, nI_clamp r1b, h23]; try rfl, by simp [pBuildT, pBuildOk, h5, nI_clamp r1b, h23]⟩
set_option maxHeartbeats 4000000 in
set_option maxRecDepth 100000 in
theorem mM_law (l : Launch) (D : va_G) (dT : Nat → ClassId) (ad : Nat → Nat) (τ : tT) (v : Int32) (h : τ 0 12 < 2 ^ 31) : MI l D dT ad yX3_law cX3_law 3 .int ({ frames := 1, cells := 0, slots := 0, locals := 25 }) [.int v] τ (fun rr τ' => rr = (pLaw τ v) ∧ (pLawT τ v) = τ') := by
  refine CI.ofG (own := "FittingStridesModel") (L := [some (.ref (ad 0)), some (.int v), none]) rfl (by decide) (Nat.le_of_ble_eq_true rfl) rfl ?_
  intro p' e' s' m' bl' mt' c' C0
  refine g_iload_n (pc := 0) 1 C0 rfl dX3_law_0 rfl ?_
  refine g_i2l (pc := 1) (v := v.toInt64) C0 dX3_law_1 rfl ?_
  refine g_lconst (pc := 2) (v := lN 0) C0 dX3_law_2 (by decide) ?_
  refine g_lconst (pc := 3) (v := lN 1) C0 dX3_law_3 (by decide) ?_
  refine g_csi (pc := 4) (na := 3) (As := [.long v.toInt64, .long (lN 0), .long (lN 1)]) (rest := []) C0 (mM_in l v.toInt64 (lN 0) (lN 1) ) q1107 q1108 q60 q1109 (by decide +kernel) ⟨Nat.le_of_ble_eq_true rfl, Nat.le_of_ble_eq_true rfl⟩ rfl rfl ⟨Nat.le_of_ble_eq_true rfl, Nat.le_of_ble_eq_true rfl⟩ rfl rfl (Nat.le_of_ble_eq_true rfl) dX3_law_4 ?_
  refine g_if_neB (pc := 7) 13 C0 dX3_law_7 (by decide) (fun h7 => ?_) (fun h7 => ?_)
  · rw [inB_rg v (lo := 0) (hi := 1) (by decide) (by decide)] at h7
    obtain ⟨v1, rfl, v1l, v1h, v1b⟩ := rgB_t h7
    refine g_aload_n (pc := 13) 0 C0 rfl dX3_law_13 rfl ?_
    refine m_get (pc := 14) (v := .int (nI (τ 0 12))) C0 12 (by decide) q981 rfl dX3_law_14 ?_
    refine g_istore_n (pc := 17) 2 C0 (L1 := [some (.ref (ad 0)), some (.int (nI v1)), some (.int (nI (τ 0 12)))]) rfl (by decide) dX3_law_17 rfl rfl ?_
    refine g_aload_n (pc := 18) 0 C0 rfl dX3_law_18 rfl ?_
    refine g_iload_n (pc := 19) 1 C0 rfl dX3_law_19 rfl ?_
    refine m_put (pc := 20) C0 12 (by decide) q981 rfl (by decide) (mSet_12 _ _ _) dX3_law_20 ?_
    refine g_iload_n (pc := 23) 2 C0 rfl dX3_law_23 rfl ?_
    exact g_iret (pc := 24) C0 dX3_law_24 ⟨by simp [pLaw, h7, nI_clamp v1b]; try rfl, by simp [pLawT, h7, nI_clamp v1b]⟩
  · rw [inB_rg v (lo := 0) (hi := 1) (by decide) (by decide)] at h7
    refine g_ldc (pc := 10) (v := -1000000002) C0 q1110 dX3_law_10 ?_
    exact g_iret (pc := 12) C0 dX3_law_12 ⟨by simp [pLaw, h7]; try rfl, by simp [pLawT, h7]⟩
set_option maxHeartbeats 4000000 in
set_option maxRecDepth 100000 in
theorem mM_draw (l : Launch) (D : va_G) (dT : Nat → ClassId) (ad : Nat → Nat) (τ : tT) (n : Nat) (h : τ 0 13 < 2 ^ 31) (hn : 0 < n) (hn2 : n < 2 ^ 31) : MI l D dT ad yX3_draw cX3_draw 2 .int ({ frames := 0, cells := 0, slots := 0, locals := 0 }) [.int (nI n)] τ (fun rr τ' => rr = (nI (drawV τ n)) ∧ (drawT τ) = τ') := by
  refine CI.ofG (own := "FittingStridesModel") (L := [some (.ref (ad 0)), some (.int (nI n))]) rfl (by decide) (Nat.le_of_ble_eq_true rfl) rfl ?_
  intro p' e' s' m' bl' mt' c' C0
  refine g_aload_n (pc := 0) 0 C0 rfl dX3_draw_0 rfl ?_
  refine g_aload_n (pc := 1) 0 C0 rfl dX3_draw_1 rfl ?_
  refine m_get (pc := 2) (v := .int (nI (τ 0 13))) C0 13 (by decide) q982 rfl dX3_draw_2 ?_
  refine g_i2l (pc := 5) (v := lN (τ 0 13)) C0 dX3_draw_5 (nI_l h) ?_
  have c6 : Jvm.Cond.constantLong "FittingStridesModel" 253 (lN 1103515245) ∈ lw_all := q1259
  refine g_ldc2 (pc := 6) (v := lN 1103515245) C0 c6 dX3_draw_6 ?_
  refine g_lmulN (pc := 9) C0 dX3_draw_9 ?_
  have c10 : Jvm.Cond.constantLong "FittingStridesModel" 255 (lN 12345) ∈ lw_all := q1260
  refine g_ldc2 (pc := 10) (v := lN 12345) C0 c10 dX3_draw_10 ?_
  refine g_laddN (pc := 13) C0 dX3_draw_13 ?_
  have c14 : Jvm.Cond.constantLong "FittingStridesModel" 257 (lN 2147483648) ∈ lw_all := q1261
  refine g_ldc2 (pc := 14) (v := lN 2147483648) C0 c14 dX3_draw_14 ?_
  refine g_lremN (pc := 17) C0 (by omega) (by decide) (by decide) dX3_draw_17 ?_
  refine g_l2iN (pc := 18) C0 dX3_draw_18 ?_
  obtain ⟨z1, ez1⟩ : ∃ z, z = ((((τ 0 13) * 1103515245) + 12345) % 2147483648) := ⟨_, rfl⟩
  have hz1 : z1 < 2 ^ 31 := by rw [ez1]; exact Nat.mod_lt _ (by decide)
  refine G.stE (st' := [.int (nI z1), .ref (ad 0)]) (by rw [ez1]) ?_
  refine m_put (pc := 19) C0 13 (by decide) q982 rfl (by decide) (mSet_13 _ _ _) dX3_draw_19 ?_
  refine g_aload_n (pc := 22) 0 C0 rfl dX3_draw_22 rfl ?_
  refine m_get (pc := 23) (v := .int (nI z1)) C0 13 (by decide) q982 rfl dX3_draw_23 ?_
  have c26 : Jvm.Cond.constant "FittingStridesModel" 259 (nI 65536) ∈ lw_all := q1262
  refine g_ldcw (pc := 26) (v := nI 65536) C0 c26 dX3_draw_26 ?_
  refine g_idivN (pc := 29) C0 hz1 (by decide) (by decide) dX3_draw_29 ?_
  refine g_iload_n (pc := 30) 1 C0 rfl dX3_draw_30 rfl ?_
  refine g_iremN (pc := 31) C0 (Nat.lt_of_le_of_lt (Nat.div_le_self _ _) hz1) hn hn2 dX3_draw_31 ?_
  exact g_iret (pc := 32) C0 dX3_draw_32 ⟨by rw [drawV, sdN, ez1], by rw [drawT, sdN, ez1]⟩
set_option maxHeartbeats 4000000 in
set_option maxRecDepth 100000 in
theorem mM_dayNow (l : Launch) (D : va_G) (dT : Nat → ClassId) (ad : Nat → Nat) (τ : tT)  (hd : wfD τ) : MV l D dT ad yX3_dayNow cX3_dayNow 3 ({ frames := 3, cells := 0, slots := 0, locals := 69 }) [] τ (fun τ' => (dayT τ) = τ') := by
  refine CV.ofG (own := "FittingStridesModel") (L := [some (.ref (ad 0)), none, none]) rfl (by decide) (Nat.le_of_ble_eq_true rfl) rfl ?_
  intro p' e' s' m' bl' mt' c' C0
  obtain ⟨hT, hP, hs, hp8, hp1⟩ := id hd
  have hw1 := hT.1
  have hP8 := hP.1
  obtain ⟨b1, b2, b3, b4, b5⟩ := wfD_day1 hd
  obtain ⟨c1, c2, c3⟩ := wfD_day2 hd
  obtain ⟨c4, c5, c6, c7, c8⟩ := id c1
  refine g_aload_n (pc := 0) 0 C0 rfl dX3_dayNow_0 rfl ?_
  refine g_aload_n (pc := 1) 0 C0 rfl dX3_dayNow_1 rfl ?_
  refine m_get (pc := 2) (v := .int (nI (τ 0 8))) C0 8 (by decide) q977 rfl dX3_dayNow_2 ?_
  refine g_cvi (pc := 5) (na := 1) (As := [.int (nI (τ 0 8))]) (rest := []) C0 (mM_draw l D dT ad τ (τ 0 8) (by omega) (by omega) (by omega)) (q0 := 0) (j := 0) (ci := 0) (C := RX3) (T := TX3) (N := 44) rfl rfl rfl q1255 q1257 qs51 q60 q1258 (by decide +kernel) ⟨Nat.le_of_ble_eq_true rfl, Nat.le_of_ble_eq_true rfl⟩ rfl rfl ⟨Nat.le_of_ble_eq_true rfl, Nat.le_of_ble_eq_true rfl⟩ rfl rfl (Nat.le_of_ble_eq_true rfl) dX3_dayNow_5 (fun r t1 hc => ?_)
  obtain ⟨rfl, et1⟩ := hc
  have t1T : wfT t1 := by rw [← et1]; exact wfT_draw hT
  have t1P : wfP t1 := by rw [← et1]; exact wfP_draw hP
  have t1s : t1 0 13 < 2 ^ 31 := by rw [← et1]; exact drawT_sd _
  have t18 : t1 0 8 = τ 0 8 := by rw [← et1, drawT_k _ (by decide)]
  have t11 : t1 0 1 = τ 0 1 := by rw [← et1, drawT_k _ (by decide)]
  refine g_istore_n (pc := 8) 1 C0 (L1 := [some (.ref (ad 0)), some (.int (nI (drawV τ (τ 0 8)))), none]) rfl (by decide) dX3_dayNow_8 rfl rfl ?_
  obtain ⟨q0, eq0⟩ : ∃ z, z = (drawV τ (τ 0 8)) := ⟨_, rfl⟩
  have hq0 : q0 = dayP τ := eq0
  have hq1 : q0 < τ 0 8 := by rw [hq0]; exact b2
  refine G.lE (L' := [some (.ref (ad 0)), some (.int (nI q0)), none]) (by rw [eq0]) ?_
  refine g_aload_n (pc := 9) 0 C0 rfl dX3_dayNow_9 rfl ?_
  refine g_aload_n (pc := 10) 0 C0 rfl dX3_dayNow_10 rfl ?_
  refine m_get (pc := 11) (v := .int (nI (t1 0 1))) C0 1 (by decide) q970 rfl dX3_dayNow_11 ?_
  refine g_cvi (pc := 14) (na := 1) (As := [.int (nI (t1 0 1))]) (rest := []) C0 (mM_draw l D dT ad t1 (t1 0 1) (by omega) (by omega) (by omega)) (q0 := 0) (j := 0) (ci := 0) (C := RX3) (T := TX3) (N := 44) rfl rfl rfl q1255 q1257 qs51 q60 q1258 (by decide +kernel) ⟨Nat.le_of_ble_eq_true rfl, Nat.le_of_ble_eq_true rfl⟩ rfl rfl ⟨Nat.le_of_ble_eq_true rfl, Nat.le_of_ble_eq_true rfl⟩ rfl rfl (Nat.le_of_ble_eq_true rfl) dX3_dayNow_14 (fun r t2 hc => ?_)
  obtain ⟨rfl, et2⟩ := hc
  have t2T : wfT t2 := by rw [← et2]; exact wfT_draw t1T
  have t2P : wfP t2 := by rw [← et2]; exact wfP_draw t1P
  have t2s : t2 0 13 < 2 ^ 31 := by rw [← et2]; exact drawT_sd _
  have t28 : t2 0 8 = τ 0 8 := by rw [← et2, drawT_k _ (by decide)]; exact t18
  have t21 : t2 0 1 = τ 0 1 := by rw [← et2, drawT_k _ (by decide)]; exact t11
  have e1 : t2 = day1 τ := by rw [← et2, ← et1]; rfl
  refine g_istore_n (pc := 17) 2 C0 (L1 := [some (.ref (ad 0)), some (.int (nI q0)), some (.int (nI (drawV t1 (t1 0 1))))]) rfl (by decide) dX3_dayNow_17 rfl rfl ?_
  obtain ⟨r0, er0⟩ : ∃ z, z = (drawV t1 (t1 0 1)) := ⟨_, rfl⟩
  have hr0 : r0 = dayR τ := by rw [er0, dayR, et1, t11]
  have hr1 : r0 < τ 0 1 := by rw [hr0]; exact b3
  refine G.lE (L' := [some (.ref (ad 0)), some (.int (nI q0)), some (.int (nI r0))]) (by rw [er0]) ?_
  refine G.meet (pcJ := 33) (wsJ := mW dT ad (day2 τ)) (LJ := [some (.ref (ad 0)), some (.int (nI q0)), some (.int (nI r0))]) (stJ := []) ?_ (fun J33 => ?_)
  · refine g_aload_n (pc := 33) 0 C0 rfl dX3_dayNow_33 rfl ?_
    refine g_bipush (pc := 34) (v := (nI 16)) C0 dX3_dayNow_34 (by decide) ?_
    refine g_cvi (pc := 36) (na := 1) (As := [.int (nI 16)]) (rest := []) C0 (mM_draw l D dT ad (day2 τ) 16 (by omega) (by omega) (by omega)) (q0 := 0) (j := 0) (ci := 0) (C := RX3) (T := TX3) (N := 44) rfl rfl rfl q1255 q1257 qs51 q60 q1258 (by decide +kernel) ⟨Nat.le_of_ble_eq_true rfl, Nat.le_of_ble_eq_true rfl⟩ rfl rfl ⟨Nat.le_of_ble_eq_true rfl, Nat.le_of_ble_eq_true rfl⟩ rfl rfl (Nat.le_of_ble_eq_true rfl) dX3_dayNow_36 (fun r t4 hc => ?_)
    obtain ⟨rfl, et4⟩ := hc
    have t4T : wfT t4 := by rw [← et4]; exact wfT_draw c4
    have t4P : wfP t4 := by rw [← et4]; exact wfP_draw c5
    have t4s : t4 0 13 < 2 ^ 31 := by rw [← et4]; exact drawT_sd _
    have t48 : t4 0 8 = τ 0 8 := by rw [← et4, drawT_k _ (by decide)]; exact c2
    have t41 : t4 0 1 = τ 0 1 := by rw [← et4, drawT_k _ (by decide)]; exact c3
    refine g_if_neN (pc := 39) 120 C0 (Nat.lt_trans (drawV_lt _ (by decide)) (by decide)) dX3_dayNow_39 (by decide) (fun h39 => ?_) (fun h39 => ?_)
    · exact g_vret (pc := 120) C0 dX3_dayNow_120 (by rw [dayT, if_neg (fun c => h39 c.1)]; exact et4)
    · refine g_aload_n (pc := 42) 0 C0 rfl dX3_dayNow_42 rfl ?_
      refine m_get (pc := 43) (v := .int (nI (t4 0 8))) C0 8 (by decide) q977 rfl dX3_dayNow_43 ?_
      refine g_bipush (pc := 46) (v := (nI 8)) C0 dX3_dayNow_46 (by decide) ?_
      refine g_icmp_geN (pc := 48) 120 C0 (by omega) (by decide) dX3_dayNow_48 (by decide) (fun h48 => ?_) (fun h48 => ?_)
      · exact g_vret (pc := 120) C0 dX3_dayNow_120 (by rw [dayT, if_neg (fun c => by omega)]; exact et4)
      · refine g_aload_n (pc := 51) 0 C0 rfl dX3_dayNow_51 rfl ?_
        refine m_get (pc := 52) (v := .ref (ad 9)) C0 9 (by decide) q978 rfl dX3_dayNow_52 ?_
        refine g_aload_n (pc := 55) 0 C0 rfl dX3_dayNow_55 rfl ?_
        refine m_get (pc := 56) (v := .int (nI (t4 0 8))) C0 8 (by decide) q977 rfl dX3_dayNow_56 ?_
        refine g_aload_n (pc := 59) 0 C0 rfl dX3_dayNow_59 rfl ?_
        refine m_get (pc := 60) (v := .ref (ad 9)) C0 9 (by decide) q978 rfl dX3_dayNow_60 ?_
        refine g_iload_n (pc := 63) 1 C0 rfl dX3_dayNow_63 rfl ?_
        refine g_iald (pc := 64) (q0 := 7) (t0 := 0) C0 q0 rfl (fun _ => rfl) rfl (by decide) (by omega) dX3_dayNow_64 ?_
        refine g_iast (pc := 65) (q0 := 7) (t0 := 0) C0 (t4 0 8) (t4 9 q0) mNd rfl (fun _ => rfl) rfl (by decide) (by omega) dX3_dayNow_65 ?_
        obtain ⟨bb, ebb⟩ : ∃ z : tT, z = birth1 t4 q0 := ⟨_, rfl⟩
        have bbs : bb 0 13 < 2 ^ 31 := by rw [ebb, birth1, birth1_0]; exact t4s
        have bb8 : bb 0 8 = τ 0 8 := by rw [ebb, birth1, birth1_0]; exact t48
        refine G.wsE (ws' := mW dT ad bb) (by rw [ebb]; rfl) ?_
        refine g_aload_n (pc := 66) 0 C0 rfl dX3_dayNow_66 rfl ?_
        refine m_get (pc := 67) (v := .ref (ad 10)) C0 10 (by decide) q979 rfl dX3_dayNow_67 ?_
        refine g_aload_n (pc := 70) 0 C0 rfl dX3_dayNow_70 rfl ?_
        refine m_get (pc := 71) (v := .int (nI (bb 0 8))) C0 8 (by decide) q977 rfl dX3_dayNow_71 ?_
        refine G.meet (pcJ := 99) (wsJ := mW dT ad (birthD bb)) (LJ := [some (.ref (ad 0)), some (.int (nI q0)), some (.int (nI r0))]) (stJ := [.int (nI (birthF bb q0)), .int (nI (bb 0 8)), .ref (ad 10)]) ?_ (fun J99 => ?_)
        · obtain ⟨f0, f1, f2, f3, f4, f5⟩ := birthD_facts bb
          obtain ⟨t7, et7⟩ : ∃ z : tT, z = birthD bb := ⟨_, rfl⟩
          rw [← et7] at f2
          refine G.wsE (ws' := mW dT ad t7) (by rw [et7]) ?_
          refine g_iast (pc := 99) (q0 := 8) (t0 := 0) C0 (bb 0 8) (birthF bb q0) mNd rfl (fun _ => rfl) rfl (by decide) (by omega) dX3_dayNow_99 ?_
          refine g_aload_n (pc := 100) 0 C0 rfl dX3_dayNow_100 rfl ?_
          refine m_get (pc := 101) (v := .ref (ad 11)) C0 11 (by decide) q980 rfl dX3_dayNow_101 ?_
          refine g_aload_n (pc := 104) 0 C0 rfl dX3_dayNow_104 rfl ?_
          refine m_get (pc := 105) (v := .int (nI (t7 0 8))) C0 8 (by decide) q977 rfl dX3_dayNow_105 ?_
          refine g_iconst (pc := 108) (v := (nI 0)) C0 dX3_dayNow_108 (by decide) ?_
          refine g_iast (pc := 109) (q0 := 9) (t0 := 0) C0 (t7 0 8) 0 mNd rfl (fun _ => rfl) rfl (by decide) (by omega) dX3_dayNow_109 ?_
          refine g_aload_n (pc := 110) 0 C0 rfl dX3_dayNow_110 rfl ?_
          refine g_dup (pc := 111) C0 dX3_dayNow_111 rfl ?_
          refine m_get (pc := 112) (v := .int (nI (t7 0 8))) C0 8 (by decide) q977 rfl dX3_dayNow_112 ?_
          refine g_iconst (pc := 115) (v := (nI 1)) C0 dX3_dayNow_115 (by decide) ?_
          refine g_iaddN (pc := 116) C0  dX3_dayNow_116 ?_
          refine m_put (pc := 117) C0 8 (by decide) q977 rfl (by decide) (mSet_8 _ _ _) dX3_dayNow_117 ?_
          exact g_vret (pc := 120) C0 dX3_dayNow_120 (by rw [dayT, if_pos ⟨h39, by omega⟩, birthT, hq0.symm, et4, ← ebb, ← et7, f2, bb8, t48])
        · refine g_aload_n (pc := 74) 0 C0 rfl dX3_dayNow_74 rfl ?_
          refine g_iconst (pc := 75) (v := (nI 2)) C0 dX3_dayNow_75 (by decide) ?_
          refine g_cvi (pc := 76) (na := 1) (As := [.int (nI 2)]) (rest := [.int (nI (bb 0 8)), .ref (ad 10)]) C0 (mM_draw l D dT ad bb 2 (by omega) (by omega) (by omega)) (q0 := 0) (j := 0) (ci := 0) (C := RX3) (T := TX3) (N := 44) rfl rfl rfl q1255 q1257 qs51 q60 q1258 (by decide +kernel) ⟨Nat.le_of_ble_eq_true rfl, Nat.le_of_ble_eq_true rfl⟩ rfl rfl ⟨Nat.le_of_ble_eq_true rfl, Nat.le_of_ble_eq_true rfl⟩ rfl rfl (Nat.le_of_ble_eq_true rfl) dX3_dayNow_76 (fun r t5 hc => ?_)
          obtain ⟨rfl, et5⟩ := hc
          have t5s : t5 0 13 < 2 ^ 31 := by rw [← et5]; exact drawT_sd _
          have t510 : t5 10 q0 = bb 10 q0 := by rw [← et5, drawT_j _ (by decide)]
          have t58 : t5 0 8 = τ 0 8 := by rw [← et5, drawT_k _ (by decide)]; exact bb8
          refine g_if_neN (pc := 79) 91 C0 (Nat.lt_trans (drawV_lt _ (by decide)) (by decide)) dX3_dayNow_79 (by decide) (fun h79 => ?_) (fun h79 => ?_)
          · refine g_aload_n (pc := 91) 0 C0 rfl dX3_dayNow_91 rfl ?_
            refine g_bipush (pc := 92) (v := (nI 24)) C0 dX3_dayNow_92 (by decide) ?_
            refine g_cvi (pc := 94) (na := 1) (As := [.int (nI 24)]) (rest := [.int (nI (bb 0 8)), .ref (ad 10)]) C0 (mM_draw l D dT ad t5 24 (by omega) (by omega) (by omega)) (q0 := 0) (j := 0) (ci := 0) (C := RX3) (T := TX3) (N := 44) rfl rfl rfl q1255 q1257 qs51 q60 q1258 (by decide +kernel) ⟨Nat.le_of_ble_eq_true rfl, Nat.le_of_ble_eq_true rfl⟩ rfl rfl ⟨Nat.le_of_ble_eq_true rfl, Nat.le_of_ble_eq_true rfl⟩ rfl rfl (Nat.le_of_ble_eq_true rfl) dX3_dayNow_94 (fun r t6 hc => ?_)
            obtain ⟨rfl, et6⟩ := hc
            refine g_iconst (pc := 97) (v := (nI 1)) C0 dX3_dayNow_97 (by decide) ?_
            refine g_iaddN (pc := 98) C0  dX3_dayNow_98 ?_
            exact G.wsE (by rw [birthD, if_neg h79, et5, et6]) (G.stE (by rw [birthF, if_neg h79, et5]) J99)
          · refine g_aload_n (pc := 82) 0 C0 rfl dX3_dayNow_82 rfl ?_
            refine m_get (pc := 83) (v := .ref (ad 10)) C0 10 (by decide) q979 rfl dX3_dayNow_83 ?_
            refine g_iload_n (pc := 86) 1 C0 rfl dX3_dayNow_86 rfl ?_
            refine g_iald (pc := 87) (q0 := 8) (t0 := 0) C0 q0 rfl (fun _ => rfl) rfl (by decide) (by omega) dX3_dayNow_87 ?_
            refine g_goto (pc := 88) 99 C0 dX3_dayNow_88 (by decide) ?_
            exact G.wsE (by rw [birthD, if_pos h79, et5]) (G.stE (by rw [birthF, if_pos h79, ← t510]) J99)
  · refine g_aload_n (pc := 18) 0 C0 rfl dX3_dayNow_18 rfl ?_
    refine g_iload_n (pc := 19) 1 C0 rfl dX3_dayNow_19 rfl ?_
    refine g_iload_n (pc := 20) 2 C0 rfl dX3_dayNow_20 rfl ?_
    refine g_cvi (pc := 21) (na := 2) (As := [.int (nI q0), .int (nI r0)]) (rest := []) C0 (mM_canGo l D dT ad t2 q0 r0 t2T t2P (by omega) (by omega)) (q0 := 0) (j := 0) (ci := 0) (C := RX3) (T := TX3) (N := 44) rfl rfl rfl q1228 q1230 qs48 q60 q1231 (by decide +kernel) ⟨Nat.le_of_ble_eq_true rfl, Nat.le_of_ble_eq_true rfl⟩ rfl rfl ⟨Nat.le_of_ble_eq_true rfl, Nat.le_of_ble_eq_true rfl⟩ rfl rfl (Nat.le_of_ble_eq_true rfl) dX3_dayNow_21 (fun r τ0 hc => ?_)
    obtain ⟨rfl, rfl⟩ := hc
    refine g_if_eqB (pc := 24) 33 C0 dX3_dayNow_24 (by decide) (fun h24 => ?_) (fun h24 => ?_)
    · have e9 : day2 τ = t2 := by rw [day2, ← e1, ← hq0, ← hr0, if_neg (by rw [h24]; decide)]
      exact G.wsE (by rw [e9]) J33
    · refine g_aload_n (pc := 27) 0 C0 rfl dX3_dayNow_27 rfl ?_
      refine g_iload_n (pc := 28) 1 C0 rfl dX3_dayNow_28 rfl ?_
      refine g_iload_n (pc := 29) 2 C0 rfl dX3_dayNow_29 rfl ?_
      refine g_cvv (pc := 30) (na := 2) (As := [.int (nI q0), .int (nI r0)]) (rest := []) C0 (mM_goNow l D dT ad t2 q0 r0 t2T t2P (by omega) (by omega)) (q0 := 0) (j := 0) (ci := 0) (C := RX3) (T := TX3) (N := 44) rfl rfl rfl q1233 q1235 qs49 q60 q1236 (by decide +kernel) ⟨Nat.le_of_ble_eq_true rfl, Nat.le_of_ble_eq_true rfl⟩ rfl rfl ⟨Nat.le_of_ble_eq_true rfl, Nat.le_of_ble_eq_true rfl⟩ rfl rfl (Nat.le_of_ble_eq_true rfl) dX3_dayNow_30 (fun τ0 hc => ?_)
      subst hc
      have e9 : day2 τ = (goT t2 q0 r0) := by rw [day2, ← e1, ← hq0, ← hr0, if_pos h24]
      exact G.wsE (by rw [e9]) J33
set_option maxHeartbeats 4000000 in
set_option maxRecDepth 100000 in
theorem mM_drift (l : Launch) (D : va_G) (dT : Nat → ClassId) (ad : Nat → Nat) (τ : tT) (n : Int32) (hT : wfT τ) (hP : wfP τ) (hs : τ 0 13 < 2 ^ 31) : MI l D dT ad yX3_drift cX3_drift 3 .int ({ frames := 4, cells := 0, slots := 0, locals := 91 }) [.int n] τ (fun rr τ' => rr = (pDrift τ n) ∧ (pDriftT τ n) = τ') := by
  refine CI.ofG (own := "FittingStridesModel") (L := [some (.ref (ad 0)), some (.int n), none]) rfl (by decide) (Nat.le_of_ble_eq_true rfl) rfl ?_
  intro p' e' s' m' bl' mt' c' C0
  have hw1 := hT.1
  have hP8 := hP.1
  refine g_iload_n (pc := 0) 1 C0 rfl dX3_drift_0 rfl ?_
  refine g_i2l (pc := 1) (v := n.toInt64) C0 dX3_drift_1 rfl ?_
  refine g_lconst (pc := 2) (v := lN 1) C0 dX3_drift_2 (by decide) ?_
  have c3 : Jvm.Cond.constantLong "FittingStridesModel" 263 (lN 99) ∈ lw_all := q1250
  refine g_ldc2 (pc := 3) (v := lN 99) C0 c3 dX3_drift_3 ?_
  refine g_csi (pc := 6) (na := 3) (As := [.long n.toInt64, .long (lN 1), .long (lN 99)]) (rest := []) C0 (mM_in l n.toInt64 (lN 1) (lN 99) ) q1107 q1108 q60 q1109 (by decide +kernel) ⟨Nat.le_of_ble_eq_true rfl, Nat.le_of_ble_eq_true rfl⟩ rfl rfl ⟨Nat.le_of_ble_eq_true rfl, Nat.le_of_ble_eq_true rfl⟩ rfl rfl (Nat.le_of_ble_eq_true rfl) dX3_drift_6 ?_
  refine g_if_neB (pc := 9) 15 C0 dX3_drift_9 (by decide) (fun h9 => ?_) (fun h9 => ?_)
  · rw [inB_rg n (lo := 1) (hi := 99) (by decide) (by decide)] at h9
    obtain ⟨n1, rfl, n1l, n1h, n1b⟩ := rgB_t h9
    refine g_aload_n (pc := 15) 0 C0 rfl dX3_drift_15 rfl ?_
    refine m_get (pc := 16) (v := .int (nI (τ 0 8))) C0 8 (by decide) q977 rfl dX3_drift_16 ?_
    refine g_if_eqN (pc := 19) 29 C0 (by omega) dX3_drift_19 (by decide) (fun h19 => ?_) (fun h19 => ?_)
    · refine g_ldc (pc := 29) (v := -1000000003) C0 q1232 dX3_drift_29 ?_
      exact g_iret (pc := 31) C0 dX3_drift_31 ⟨by rw [pDrift, if_pos h9, if_pos (by omega)]; rfl, by rw [pDriftT, if_pos h9, if_pos (by omega)]⟩
    · refine g_aload_n (pc := 22) 0 C0 rfl dX3_drift_22 rfl ?_
      refine m_get (pc := 23) (v := .int (nI (τ 0 1))) C0 1 (by decide) q970 rfl dX3_drift_23 ?_
      refine g_if_neN (pc := 26) 32 C0 (by omega) dX3_drift_26 (by decide) (fun h26 => ?_) (fun h26 => ?_)
      · have hd : wfD τ := ⟨hT, hP, hs, by omega, by omega⟩
        refine g_iconst (pc := 32) (v := (nI 0)) C0 dX3_drift_32 (by decide) ?_
        refine g_istore_n (pc := 33) 2 C0 (L1 := [some (.ref (ad 0)), some (.int (nI n1)), some (.int (nI 0))]) rfl (by decide) dX3_drift_33 rfl rfl ?_
        refine G.loop (pc := 34) (ws := fun i => mW dT ad (dayN τ i)) (Lf := fun i => [some (.ref (ad 0)), some (.int (nI n1)), some (.int (nI i))]) (N := n1) (i0 := 0) (Nat.zero_le _) ?_ (fun i34 hi34 hj34 ih34 => ?_)
        · refine g_iload_n (pc := 34) 2 C0 rfl dX3_drift_34 rfl ?_
          refine g_iload_n (pc := 35) 1 C0 rfl dX3_drift_35 rfl ?_
          refine g_icmp_geN (pc := 36) 49 C0 (by omega) (by omega) dX3_drift_36 (by decide) (fun h36 => ?_) (fun h36 => ?_)
          rotate_left
          · exact absurd h36 (by omega)
          refine g_aload_n (pc := 49) 0 C0 rfl dX3_drift_49 rfl ?_
          refine m_get (pc := 50) (v := .int (nI ((dayN τ n1) 0 8))) C0 8 (by decide) q977 rfl dX3_drift_50 ?_
          exact g_iret (pc := 53) C0 dX3_drift_53 ⟨by rw [pDrift, if_pos h9, if_neg (by omega), nI_clamp n1b], by rw [pDriftT, if_pos h9, if_neg (by omega), nI_clamp n1b]⟩
        · refine g_iload_n (pc := 34) 2 C0 rfl dX3_drift_34 rfl ?_
          refine g_iload_n (pc := 35) 1 C0 rfl dX3_drift_35 rfl ?_
          refine g_icmp_geN (pc := 36) 49 C0 (by omega) (by omega) dX3_drift_36 (by decide) (fun h36 => ?_) (fun h36 => ?_)
          · exact absurd h36 (by omega)
          refine g_aload_n (pc := 39) 0 C0 rfl dX3_drift_39 rfl ?_
          refine g_cvv (pc := 40) (na := 0) (As := []) (rest := []) C0 (mM_dayNow l D dT ad (dayN τ i34)  (dayN_ok hd i34)) (q0 := 0) (j := 0) (ci := 0) (C := RX3) (T := TX3) (N := 44) rfl rfl rfl q1251 q1253 qs50 q60 q1254 (by decide +kernel) ⟨Nat.le_of_ble_eq_true rfl, Nat.le_of_ble_eq_true rfl⟩ rfl rfl ⟨Nat.le_of_ble_eq_true rfl, Nat.le_of_ble_eq_true rfl⟩ rfl rfl (Nat.le_of_ble_eq_true rfl) dX3_drift_40 (fun τ0 hc => ?_)
          subst hc
          refine g_iinc1 (pc := 43) 2 C0 (L1 := [some (.ref (ad 0)), some (.int (nI n1)), some (.int (nI (i34 + 1)))]) rfl rfl (by decide) dX3_drift_43 rfl ?_
          refine g_goto (pc := 46) 34 C0 dX3_drift_46 (by decide) ?_
          exact ih34
      · refine g_ldc (pc := 29) (v := -1000000003) C0 q1232 dX3_drift_29 ?_
        exact g_iret (pc := 31) C0 dX3_drift_31 ⟨by rw [pDrift, if_pos h9, if_pos (by omega)]; rfl, by rw [pDriftT, if_pos h9, if_pos (by omega)]⟩
  · rw [inB_rg n (lo := 1) (hi := 99) (by decide) (by decide)] at h9
    refine g_ldc (pc := 12) (v := -1000000002) C0 q1110 dX3_drift_12 ?_
    exact g_iret (pc := 14) C0 dX3_drift_14 ⟨by rw [pDrift, h9]; rfl, by rw [pDriftT, h9]; rfl⟩
set_option maxHeartbeats 4000000 in
set_option maxRecDepth 100000 in
theorem mM_reach (l : Launch) (D : va_G) (dT : Nat → ClassId) (ad : Nat → Nat) (τ : tT) (x : Int32) (z : Int32) (hw : wfT τ) (hp : wfP τ) : MI l D dT ad yX3_reach cX3_reach 3 .int ({ frames := 2, cells := 0, slots := 0, locals := 52 }) [.int x, .int z] τ (fun rr τ' => rr = (pReach τ x z) ∧ τ = τ') := by
  refine CI.ofG (own := "FittingStridesModel") (L := [some (.ref (ad 0)), some (.int x), some (.int z)]) rfl (by decide) (Nat.le_of_ble_eq_true rfl) rfl ?_
  intro p' e' s' m' bl' mt' c' C0
  have hw1 := hw.1
  have hw0 := hw.2.1
  have hp0 := hp.1
  have hp1 := hp.2.1
  refine g_aload_n (pc := 0) 0 C0 rfl dX3_reach_0 rfl ?_
  refine g_iload_n (pc := 1) 1 C0 rfl dX3_reach_1 rfl ?_
  refine g_cvi (pc := 2) (na := 1) (As := [.int x]) (rest := []) C0 (mM_isPlace l D dT ad τ x (by omega)) (q0 := 0) (j := 0) (ci := 0) (C := RX3) (T := TX3) (N := 44) rfl rfl rfl q1267 q1269 qs52 q60 q1270 (by decide +kernel) ⟨Nat.le_of_ble_eq_true rfl, Nat.le_of_ble_eq_true rfl⟩ rfl rfl ⟨Nat.le_of_ble_eq_true rfl, Nat.le_of_ble_eq_true rfl⟩ rfl rfl (Nat.le_of_ble_eq_true rfl) dX3_reach_2 (fun r τ0 hc => ?_)
  obtain ⟨rfl, rfl⟩ := hc
  refine g_if_neB (pc := 5) 11 C0 dX3_reach_5 (by decide) (fun h5 => ?_) (fun h5 => ?_)
  · obtain ⟨x1, rfl, x1h, x1b⟩ := ixB_t h5
    refine g_iload_n (pc := 11) 2 C0 rfl dX3_reach_11 rfl ?_
    refine g_i2l (pc := 12) (v := z.toInt64) C0 dX3_reach_12 rfl ?_
    refine g_lconst (pc := 13) (v := lN 1) C0 dX3_reach_13 (by decide) ?_
    have c14 : Jvm.Cond.constantLong "FittingStridesModel" 238 (lN 24) ∈ lw_all := q1223
    refine g_ldc2 (pc := 14) (v := lN 24) C0 c14 dX3_reach_14 ?_
    refine g_csi (pc := 17) (na := 3) (As := [.long z.toInt64, .long (lN 1), .long (lN 24)]) (rest := []) C0 (mM_in l z.toInt64 (lN 1) (lN 24) ) q1107 q1108 q60 q1109 (by decide +kernel) ⟨Nat.le_of_ble_eq_true rfl, Nat.le_of_ble_eq_true rfl⟩ rfl rfl ⟨Nat.le_of_ble_eq_true rfl, Nat.le_of_ble_eq_true rfl⟩ rfl rfl (Nat.le_of_ble_eq_true rfl) dX3_reach_17 ?_
    refine g_if_eqB (pc := 20) 33 C0 dX3_reach_20 (by decide) (fun h20 => ?_) (fun h20 => ?_)
    · rw [inB_rg z (lo := 1) (hi := 24) (by decide) (by decide)] at h20
      refine g_ldc (pc := 33) (v := -1000000002) C0 q1110 dX3_reach_33 ?_
      exact g_iret (pc := 35) C0 dX3_reach_35 ⟨by rw [pReach, if_pos h5, h20]; rfl, rfl⟩
    · rw [inB_rg z (lo := 1) (hi := 24) (by decide) (by decide)] at h20
      obtain ⟨z1, rfl, z1l, z1h, z1b⟩ := rgB_t h20
      refine g_aload_n (pc := 23) 0 C0 rfl dX3_reach_23 rfl ?_
      refine g_iload_n (pc := 24) 1 C0 rfl dX3_reach_24 rfl ?_
      refine g_iload_n (pc := 25) 2 C0 rfl dX3_reach_25 rfl ?_
      refine g_iconst (pc := 26) (v := (nI 0)) C0 dX3_reach_26 (by decide) ?_
      refine g_cvi (pc := 27) (na := 3) (As := [.int (nI x1), .int (nI z1), .int (nI 0)]) (rest := []) C0 (mM_reachOf l D dT ad τ x1 z1 0 hw hp (by omega) (by omega) (by omega)) (q0 := 0) (j := 0) (ci := 0) (C := RX3) (T := TX3) (N := 44) rfl rfl rfl q1212 q1214 qs47 q60 q1215 (by decide +kernel) ⟨Nat.le_of_ble_eq_true rfl, Nat.le_of_ble_eq_true rfl⟩ rfl rfl ⟨Nat.le_of_ble_eq_true rfl, Nat.le_of_ble_eq_true rfl⟩ rfl rfl (Nat.le_of_ble_eq_true rfl) dX3_reach_27 (fun r τ0 hc => ?_)
      obtain ⟨rfl, rfl⟩ := hc
      refine g_goto (pc := 30) 35 C0 dX3_reach_30 (by decide) ?_
      exact g_iret (pc := 35) C0 dX3_reach_35 ⟨by rw [pReach, if_pos h5, if_pos h20, nI_clamp x1b, nI_clamp z1b], rfl⟩
  · refine g_ldc (pc := 8) (v := -1000000001) C0 q1187 dX3_reach_8 ?_
    exact g_iret (pc := 10) C0 dX3_reach_10 ⟨by rw [pReach, h5]; rfl, rfl⟩
set_option maxHeartbeats 4000000 in
set_option maxRecDepth 100000 in
theorem mM_guests (l : Launch) (D : va_G) (dT : Nat → ClassId) (ad : Nat → Nat) (τ : tT) (q : Int32) (hw : wfT τ) (hp : wfP τ) : MI l D dT ad yX3_guests cX3_guests 4 .int ({ frames := 3, cells := 0, slots := 0, locals := 73 }) [.int q] τ (fun rr τ' => rr = (pGuests τ q) ∧ τ = τ') := by
  refine CI.ofG (own := "FittingStridesModel") (L := [some (.ref (ad 0)), some (.int q), none, none]) rfl (by decide) (Nat.le_of_ble_eq_true rfl) rfl ?_
  intro p' e' s' m' bl' mt' c' C0
  have hw1 := hw.1
  have hw0 := hw.2.1
  have hp0 := hp.1
  have hp1 := hp.2.1
  refine g_aload_n (pc := 0) 0 C0 rfl dX3_guests_0 rfl ?_
  refine g_iload_n (pc := 1) 1 C0 rfl dX3_guests_1 rfl ?_
  refine g_cvi (pc := 2) (na := 1) (As := [.int q]) (rest := []) C0 (mM_isPerson l D dT ad τ q (by omega)) (q0 := 0) (j := 0) (ci := 0) (C := RX3) (T := TX3) (N := 44) rfl rfl rfl q1204 q1206 qs45 q60 q1207 (by decide +kernel) ⟨Nat.le_of_ble_eq_true rfl, Nat.le_of_ble_eq_true rfl⟩ rfl rfl ⟨Nat.le_of_ble_eq_true rfl, Nat.le_of_ble_eq_true rfl⟩ rfl rfl (Nat.le_of_ble_eq_true rfl) dX3_guests_2 (fun r τ0 hc => ?_)
  obtain ⟨rfl, rfl⟩ := hc
  refine g_if_neB (pc := 5) 11 C0 dX3_guests_5 (by decide) (fun h5 => ?_) (fun h5 => ?_)
  · obtain ⟨q1, rfl, q1h, q1b⟩ := ixB_t h5
    obtain ⟨g1, g2, g3, g4⟩ := hp.2.2 q1 q1h
    refine g_iconst (pc := 11) (v := (nI 0)) C0 dX3_guests_11 (by decide) ?_
    refine g_istore_n (pc := 12) 2 C0 (L1 := [some (.ref (ad 0)), some (.int (nI q1)), some (.int (nI 0)), none]) rfl (by decide) dX3_guests_12 rfl rfl ?_
    refine g_iconst (pc := 13) (v := (nI 0)) C0 dX3_guests_13 (by decide) ?_
    refine g_istore_n (pc := 14) 3 C0 (L1 := [some (.ref (ad 0)), some (.int (nI q1)), some (.int (nI 0)), some (.int (nI 0))]) rfl (by decide) dX3_guests_14 rfl rfl ?_
    refine G.loop (pc := 15) (ws := fun i => mW dT ad τ) (Lf := fun i => [some (.ref (ad 0)), some (.int (nI q1)), some (.int (nI (orS (sGuest τ q1) i))), some (.int (nI i))]) (N := τ 0 8) (i0 := 0) (Nat.zero_le _) ?_ (fun i15 hi15 hj15 ih15 => ?_)
    · refine g_iload_n (pc := 15) 3 C0 rfl dX3_guests_15 rfl ?_
      refine g_aload_n (pc := 16) 0 C0 rfl dX3_guests_16 rfl ?_
      refine m_get (pc := 17) (v := .int (nI (τ 0 8))) C0 8 (by decide) q977 rfl dX3_guests_17 ?_
      refine g_icmp_geN (pc := 20) 61 C0 (by omega) (by omega) dX3_guests_20 (by decide) (fun h20 => ?_) (fun h20 => ?_)
      rotate_left
      · exact absurd h20 (by omega)
      refine g_iload_n (pc := 61) 2 C0 rfl dX3_guests_61 rfl ?_
      exact g_iret (pc := 62) C0 dX3_guests_62 ⟨by rw [pGuests, if_pos h5, nI_clamp q1b], rfl⟩
    · have hrr := reachP_lt hw hp (q := i15) hi15
      refine g_iload_n (pc := 15) 3 C0 rfl dX3_guests_15 rfl ?_
      refine g_aload_n (pc := 16) 0 C0 rfl dX3_guests_16 rfl ?_
      refine m_get (pc := 17) (v := .int (nI (τ 0 8))) C0 8 (by decide) q977 rfl dX3_guests_17 ?_
      refine g_icmp_geN (pc := 20) 61 C0 (by omega) (by omega) dX3_guests_20 (by decide) (fun h20 => ?_) (fun h20 => ?_)
      · exact absurd h20 (by omega)
      refine g_iload_n (pc := 23) 2 C0 rfl dX3_guests_23 rfl ?_
      refine G.join (pcJ := 53) (wsJ := mW dT ad τ) (LJ := [some (.ref (ad 0)), some (.int (nI q1)), some (.int (nI (orS (sGuest τ q1) i15))), some (.int (nI i15))]) (stJ := [.int (nI (orS (sGuest τ q1) i15))]) (nI (sGuest τ q1 i15)) ?_ (fun J53 => ?_)
      · refine g_iorN (pc := 53) C0  dX3_guests_53 ?_
        refine g_istore_n (pc := 54) 2 C0 (L1 := [some (.ref (ad 0)), some (.int (nI q1)), some (.int (nI ((orS (sGuest τ q1) i15) ||| (sGuest τ q1 i15)))), some (.int (nI i15))]) rfl (by decide) dX3_guests_54 rfl rfl ?_
        refine g_iinc1 (pc := 55) 3 C0 (L1 := [some (.ref (ad 0)), some (.int (nI q1)), some (.int (nI ((orS (sGuest τ q1) i15) ||| (sGuest τ q1 i15)))), some (.int (nI (i15 + 1)))]) rfl rfl (by decide) dX3_guests_55 rfl ?_
        refine g_goto (pc := 58) 15 C0 dX3_guests_58 (by decide) ?_
        exact ih15
      · refine g_iload_n (pc := 24) 3 C0 rfl dX3_guests_24 rfl ?_
        refine g_iload_n (pc := 25) 1 C0 rfl dX3_guests_25 rfl ?_
        refine g_icmp_eqN (pc := 26) 52 C0 (by omega) (by omega) dX3_guests_26 (by decide) (fun h26 => ?_) (fun h26 => ?_)
        · refine g_iconst (pc := 52) (v := (nI 0)) C0 dX3_guests_52 (by decide) ?_
          exact J53 (nI 0) (congrArg nI (by simp [sGuest, h5, nI_clamp q1b, h26] <;> omega))
        · refine g_aload_n (pc := 29) 0 C0 rfl dX3_guests_29 rfl ?_
          refine g_iload_n (pc := 30) 3 C0 rfl dX3_guests_30 rfl ?_
          refine g_cvi (pc := 31) (na := 1) (As := [.int (nI i15)]) (rest := [.int (nI (orS (sGuest τ q1) i15))]) C0 (mM_reachOfPerson l D dT ad τ i15 hw hp (by omega)) (q0 := 0) (j := 0) (ci := 0) (C := RX3) (T := TX3) (N := 44) rfl rfl rfl q1208 q1210 qs46 q60 q1211 (by decide +kernel) ⟨Nat.le_of_ble_eq_true rfl, Nat.le_of_ble_eq_true rfl⟩ rfl rfl ⟨Nat.le_of_ble_eq_true rfl, Nat.le_of_ble_eq_true rfl⟩ rfl rfl (Nat.le_of_ble_eq_true rfl) dX3_guests_31 (fun r τ0 hc => ?_)
          obtain ⟨rfl, rfl⟩ := hc
          refine g_aload_n (pc := 34) 0 C0 rfl dX3_guests_34 rfl ?_
          refine m_get (pc := 35) (v := .ref (ad 9)) C0 9 (by decide) q978 rfl dX3_guests_35 ?_
          refine g_iload_n (pc := 38) 1 C0 rfl dX3_guests_38 rfl ?_
          refine g_iald (pc := 39) (q0 := 7) (t0 := 0) C0 q1 rfl (fun _ => rfl) rfl (by decide) (by omega) dX3_guests_39 ?_
          refine g_csi (pc := 40) (na := 2) (As := [.int (nI (reachP τ i15)), .int (nI (τ 9 q1))]) (rest := [.int (nI (orS (sGuest τ q1) i15))]) C0 (mM_has l (reachP τ i15) (τ 9 q1) (by omega) (by omega)) q1216 q1217 q60 q1218 (by decide +kernel) ⟨Nat.le_of_ble_eq_true rfl, Nat.le_of_ble_eq_true rfl⟩ rfl rfl ⟨Nat.le_of_ble_eq_true rfl, Nat.le_of_ble_eq_true rfl⟩ rfl rfl (Nat.le_of_ble_eq_true rfl) dX3_guests_40 ?_
          refine g_if_eqB (pc := 43) 52 C0 dX3_guests_43 (by decide) (fun h43 => ?_) (fun h43 => ?_)
          · refine g_iconst (pc := 52) (v := (nI 0)) C0 dX3_guests_52 (by decide) ?_
            exact J53 (nI 0) (congrArg nI (by simp [sGuest, h5, nI_clamp q1b, h26, h43] <;> omega))
          · refine g_iconst (pc := 46) (v := (nI 1)) C0 dX3_guests_46 (by decide) ?_
            refine g_iload_n (pc := 47) 3 C0 rfl dX3_guests_47 rfl ?_
            refine g_ishl1N (pc := 48) C0 (by omega) dX3_guests_48 ?_
            refine g_goto (pc := 49) 53 C0 dX3_guests_49 (by decide) ?_
            exact J53 (nI (2 ^ i15)) (congrArg nI (by simp [sGuest, h5, nI_clamp q1b, h26, h43] <;> omega))
  · refine g_ldc (pc := 8) (v := -1000000001) C0 q1187 dX3_guests_8 ?_
    exact g_iret (pc := 10) C0 dX3_guests_10 ⟨by rw [pGuests, h5]; rfl, rfl⟩
