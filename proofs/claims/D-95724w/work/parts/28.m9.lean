/-! the model, ninth module -/
set_option maxRecDepth 100000
set_option maxHeartbeats 4000000 in
set_option maxRecDepth 100000 in
theorem mM_into (l : Launch) (D : va_G) (dT : Nat → ClassId) (ad : Nat → Nat) (τ : tT) (jj qq N : Nat) (k : Nat) (lo : Nat) (hi : Nat) (hx : wfX τ) (hlo : lo < 2 ^ 31) (hhi : hi < 2 ^ 31) (hq : mCodes[qq]? = some jj) (hm : ∀ f, mMk dT ad jj f = .inl (dT 0, N, .inl (fun i => nI (f i)))) (hN : N < 2 ^ 31) (hk : k < N) : MI l D dT ad yX3_into cX3_into 6 .int ({ frames := 2, cells := 0, slots := 0, locals := 48 }) [.ref (ad jj), .int (nI k), .int (nI lo), .int (nI hi)] τ (fun rr τ' => rr = (nI (numV τ lo hi)) ∧ (intoT τ jj k lo hi) = τ') := by
  refine CI.ofG (own := "FittingStridesModel") (L := [some (.ref (ad 0)), some (.ref (ad jj)), some (.int (nI k)), some (.int (nI lo)), some (.int (nI hi)), none]) rfl (by decide) (Nat.le_of_ble_eq_true rfl) rfl ?_
  intro p' e' s' m' bl' mt' c' C0
  refine g_aload_n (pc := 0) 0 C0 rfl dX3_into_0 rfl ?_
  refine g_iload_n (pc := 1) 3 C0 rfl dX3_into_1 rfl ?_
  refine g_iload (pc := 2) 4 C0 rfl dX3_into_2 ?_
  refine g_cvi (pc := 4) (na := 2) (As := [.int (nI lo), .int (nI hi)]) (rest := []) C0 (mM_takeNumber l D dT ad τ lo hi hx (by omega) (by omega)) (q0 := 0) (j := 0) (ci := 0) (C := RX3) (T := TX3) (N := 44) rfl rfl rfl q1145 q1147 qs35 q60 q1148 (by decide +kernel) ⟨Nat.le_of_ble_eq_true rfl, Nat.le_of_ble_eq_true rfl⟩ rfl rfl ⟨Nat.le_of_ble_eq_true rfl, Nat.le_of_ble_eq_true rfl⟩ rfl rfl (Nat.le_of_ble_eq_true rfl) dX3_into_4 (fun r τ0 hc => ?_)
  obtain ⟨rfl, rfl⟩ := hc
  refine g_istore (pc := 7) 5 C0 (L1 := [some (.ref (ad 0)), some (.ref (ad jj)), some (.int (nI k)), some (.int (nI lo)), some (.int (nI hi)), some (.int (nI (numV τ lo hi)))]) rfl (by decide) dX3_into_7 rfl ?_
  refine g_aload_n (pc := 9) 1 C0 rfl dX3_into_9 rfl ?_
  refine g_iload_n (pc := 10) 2 C0 rfl dX3_into_10 rfl ?_
  refine g_aload_n (pc := 11) 0 C0 rfl dX3_into_11 rfl ?_
  refine m_get (pc := 12) (v := .int (nI ((numT τ lo hi) 0 20))) C0 20 (by decide) q989 rfl dX3_into_12 ?_
  refine g_iast (pc := 15) (q0 := qq) (t0 := 0) C0 k ((numT τ lo hi) 0 20) mNd hq hm rfl hN hk dX3_into_15 ?_
  refine g_iload (pc := 16) 5 C0 rfl dX3_into_16 ?_
  exact g_iret (pc := 18) C0 dX3_into_18 ⟨rfl, rfl⟩
set_option maxHeartbeats 4000000 in
set_option maxRecDepth 100000 in
theorem mM_takePerson (l : Launch) (D : va_G) (dT : Nat → ClassId) (ad : Nat → Nat) (τ : tT)  (hy : wfY τ) (h29 : τ 0 29 < 8) (h22 : 1 ≤ τ 0 22) (h222 : τ 0 22 ≤ 8) : MI l D dT ad yX3_takePerson cX3_takePerson 3 .int ({ frames := 3, cells := 0, slots := 0, locals := 73 }) [] τ (fun rr τ' => rr = (nI (persV τ)) ∧ (persT τ) = τ') := by
  refine CI.ofG (own := "FittingStridesModel") (L := [some (.ref (ad 0)), none, none]) rfl (by decide) (Nat.le_of_ble_eq_true rfl) rfl ?_
  intro p' e' s' m' bl' mt' c' C0
  have hl := pnF_le τ
  have z3 := (wfY_pn3 hy)
  have y7 := isD_rg (hrV_lt z3.x)
  have hf1 : pnF1 τ ≤ 2 := numV_le _ _ _
  refine g_aload_n (pc := 0) 0 C0 rfl dX3_takePerson_0 rfl ?_
  refine m_get (pc := 1) (v := .int (nI (τ 0 29))) C0 29 (by decide) q998 rfl dX3_takePerson_1 ?_
  refine g_istore_n (pc := 4) 1 C0 (L1 := [some (.ref (ad 0)), some (.int (nI (τ 0 29))), none]) rfl (by decide) dX3_takePerson_4 rfl rfl ?_
  refine g_aload_n (pc := 5) 0 C0 rfl dX3_takePerson_5 rfl ?_
  refine g_dup (pc := 6) C0 dX3_takePerson_6 rfl ?_
  refine m_get (pc := 7) (v := .int (nI (τ 0 29))) C0 29 (by decide) q998 rfl dX3_takePerson_7 ?_
  refine g_iconst (pc := 10) (v := (nI 1)) C0 dX3_takePerson_10 (by decide) ?_
  refine g_iaddN (pc := 11) C0  dX3_takePerson_11 ?_
  refine m_put (pc := 12) C0 29 (by decide) q998 rfl (by decide) (mSet_29 _ _ _) dX3_takePerson_12 ?_
  obtain ⟨s0, es0⟩ : ∃ z : tT, z = pn0 τ := ⟨_, rfl⟩
  have s022 : s0 0 22 = τ 0 22 := by rw [es0]; rfl
  have s0y : wfY s0 := by rw [es0]; exact wfY_pn0 hy
  refine G.wsE (ws' := mW dT ad s0) (by rw [es0]; rfl) ?_
  refine g_aload_n (pc := 15) 0 C0 rfl dX3_takePerson_15 rfl ?_
  refine g_aload_n (pc := 16) 0 C0 rfl dX3_takePerson_16 rfl ?_
  refine m_get (pc := 17) (v := .ref (ad 30)) C0 30 (by decide) q999 rfl dX3_takePerson_17 ?_
  refine g_iload_n (pc := 20) 1 C0 rfl dX3_takePerson_20 rfl ?_
  refine g_iconst (pc := 21) (v := (nI 0)) C0 dX3_takePerson_21 (by decide) ?_
  refine g_aload_n (pc := 22) 0 C0 rfl dX3_takePerson_22 rfl ?_
  refine m_get (pc := 23) (v := .int (nI (s0 0 22))) C0 22 (by decide) q991 rfl dX3_takePerson_23 ?_
  refine g_iconst (pc := 26) (v := (nI 1)) C0 dX3_takePerson_26 (by decide) ?_
  refine g_isubN (pc := 27) C0 (by omega) dX3_takePerson_27 ?_
  refine g_cvi (pc := 28) (na := 4) (As := [.ref (ad 30), .int (nI (τ 0 29)), .int (nI 0), .int (nI ((s0 0 22) - 1))]) (rest := []) C0 (mM_into l D dT ad s0 30 16 8 (τ 0 29) 0 ((s0 0 22) - 1) s0y.x (by omega) (by omega) rfl (fun _ => rfl) (by decide) (by omega)) (q0 := 0) (j := 0) (ci := 0) (C := RX3) (T := TX3) (N := 44) rfl rfl rfl q1155 q1157 qs37 q60 q1158 (by decide +kernel) ⟨Nat.le_of_ble_eq_true rfl, Nat.le_of_ble_eq_true rfl⟩ rfl rfl ⟨Nat.le_of_ble_eq_true rfl, Nat.le_of_ble_eq_true rfl⟩ rfl rfl (Nat.le_of_ble_eq_true rfl) dX3_takePerson_28 (fun r s1 hc => ?_)
  obtain ⟨rfl, es1⟩ := hc
  have s1e : s1 = pn1 τ := by rw [← es1, pn1, ← es0, s022]
  have s1y : wfY s1 := by rw [s1e]; exact wfY_pn1 hy
  refine g_istore_n (pc := 31) 2 C0 (L1 := [some (.ref (ad 0)), some (.int (nI (τ 0 29))), some (.int (nI (numV s0 0 ((s0 0 22) - 1))))]) rfl (by decide) dX3_takePerson_31 rfl rfl ?_
  have hf2 : numV s0 0 (s0 0 22 - 1) = pnF1 τ := by rw [pnF1, es0]; rfl
  obtain ⟨f1, ef1⟩ : ∃ z, z = (numV s0 0 ((s0 0 22) - 1)) := ⟨_, rfl⟩
  have hf1e : f1 = pnF1 τ := by rw [ef1, hf2]
  refine G.lE (L' := [some (.ref (ad 0)), some (.int (nI (τ 0 29))), some (.int (nI f1))]) (by rw [ef1]) ?_
  refine G.meet (pcJ := 52) (wsJ := mW dT ad (pn2 τ)) (LJ := [some (.ref (ad 0)), some (.int (nI (τ 0 29))), none]) (stJ := [.int (nI (pnF τ))]) ?_ (fun J52 => ?_)
  · refine g_istore_n (pc := 52) 2 C0 (L1 := [some (.ref (ad 0)), some (.int (nI (τ 0 29))), some (.int (nI (pnF τ)))]) rfl (by decide) dX3_takePerson_52 rfl rfl ?_
    refine g_aload_n (pc := 53) 0 C0 rfl dX3_takePerson_53 rfl ?_
    refine m_get (pc := 54) (v := .ref (ad 32)) C0 32 (by decide) q1001 rfl dX3_takePerson_54 ?_
    refine g_iload_n (pc := 57) 1 C0 rfl dX3_takePerson_57 rfl ?_
    refine g_iconst (pc := 58) (v := (nI 0)) C0 dX3_takePerson_58 (by decide) ?_
    refine g_iast (pc := 59) (q0 := 18) (t0 := 0) C0 (τ 0 29) 0 mNd rfl (fun _ => rfl) rfl (by decide) (by omega) dX3_takePerson_59 ?_
    obtain ⟨s3, es3⟩ : ∃ z : tT, z = pn3 τ := ⟨_, rfl⟩
    have s3y : wfY s3 := by rw [es3]; exact z3
    refine G.wsE (ws' := mW dT ad s3) (by rw [es3]; rfl) ?_
    refine g_iload_n (pc := 60) 2 C0 rfl dX3_takePerson_60 rfl ?_
    refine g_if_gtN (pc := 61) 81 C0 (by omega) dX3_takePerson_61 (by decide) (fun h61 => ?_) (fun h61 => ?_)
    · refine g_iload_n (pc := 81) 2 C0 rfl dX3_takePerson_81 rfl ?_
      refine g_goto (pc := 82) 97 C0 dX3_takePerson_82 (by decide) ?_
      exact g_iret (pc := 97) C0 dX3_takePerson_97 ⟨by rw [persV, if_pos h61], by rw [persT, if_pos h61]; exact es3.symm⟩
    · refine g_aload_n (pc := 64) 0 C0 rfl dX3_takePerson_64 rfl ?_
      refine g_cvi (pc := 65) (na := 0) (As := []) (rest := []) C0 (mM_here l D dT ad s3  s3y.x) (q0 := 0) (j := 0) (ci := 0) (C := RX3) (T := TX3) (N := 44) rfl rfl rfl q1117 q1119 qs31 q60 q1120 (by decide +kernel) ⟨Nat.le_of_ble_eq_true rfl, Nat.le_of_ble_eq_true rfl⟩ rfl rfl ⟨Nat.le_of_ble_eq_true rfl, Nat.le_of_ble_eq_true rfl⟩ rfl rfl (Nat.le_of_ble_eq_true rfl) dX3_takePerson_65 (fun r τ0 hc => ?_)
      obtain ⟨rfl, rfl⟩ := hc
      refine g_i2l (pc := 68) (v := (oI (hrV s3)).toInt64) C0 dX3_takePerson_68 rfl ?_
      have c69 : Jvm.Cond.constantLong "FittingStridesModel" 144 (lN 48) ∈ lw_all := q1149
      refine g_ldc2 (pc := 69) (v := lN 48) C0 c69 dX3_takePerson_69 ?_
      have c72 : Jvm.Cond.constantLong "FittingStridesModel" 146 (lN 57) ∈ lw_all := q1150
      refine g_ldc2 (pc := 72) (v := lN 57) C0 c72 dX3_takePerson_72 ?_
      refine g_csi (pc := 75) (na := 3) (As := [.long ((oI (hrV s3)).toInt64), .long (lN 48), .long (lN 57)]) (rest := []) C0 (mM_in l ((oI (hrV s3)).toInt64) (lN 48) (lN 57) ) q1107 q1108 q60 q1109 (by decide +kernel) ⟨Nat.le_of_ble_eq_true rfl, Nat.le_of_ble_eq_true rfl⟩ rfl rfl ⟨Nat.le_of_ble_eq_true rfl, Nat.le_of_ble_eq_true rfl⟩ rfl rfl (Nat.le_of_ble_eq_true rfl) dX3_takePerson_75 ?_
      refine g_if_neB (pc := 78) 85 C0 dX3_takePerson_78 (by decide) (fun h78 => ?_) (fun h78 => ?_)
      · rw [inB_rg _ (lo := 48) (hi := 57) (by decide) (by decide), es3, y7] at h78
        refine g_aload_n (pc := 85) 0 C0 rfl dX3_takePerson_85 rfl ?_
        refine g_aload_n (pc := 86) 0 C0 rfl dX3_takePerson_86 rfl ?_
        refine m_get (pc := 87) (v := .ref (ad 32)) C0 32 (by decide) q1001 rfl dX3_takePerson_87 ?_
        refine g_iload_n (pc := 90) 1 C0 rfl dX3_takePerson_90 rfl ?_
        refine g_iconst (pc := 91) (v := (nI 1)) C0 dX3_takePerson_91 (by decide) ?_
        refine g_bipush (pc := 92) (v := (nI 24)) C0 dX3_takePerson_92 (by decide) ?_
        refine g_cvi (pc := 94) (na := 4) (As := [.ref (ad 32), .int (nI (τ 0 29)), .int (nI 1), .int (nI 24)]) (rest := []) C0 (mM_into l D dT ad (upc s3 0 17 (hrA s3)) 32 18 8 (τ 0 29) 1 24 (wfY_hr s3y).x (by omega) (by omega) rfl (fun _ => rfl) (by decide) (by omega)) (q0 := 0) (j := 0) (ci := 0) (C := RX3) (T := TX3) (N := 44) rfl rfl rfl q1155 q1157 qs37 q60 q1158 (by decide +kernel) ⟨Nat.le_of_ble_eq_true rfl, Nat.le_of_ble_eq_true rfl⟩ rfl rfl ⟨Nat.le_of_ble_eq_true rfl, Nat.le_of_ble_eq_true rfl⟩ rfl rfl (Nat.le_of_ble_eq_true rfl) dX3_takePerson_94 (fun r τ0 hc => ?_)
        obtain ⟨rfl, rfl⟩ := hc
        exact g_iret (pc := 97) C0 dX3_takePerson_97 ⟨by rw [persV, if_neg (by omega), if_pos h78, ← es3]; rfl, by rw [persT, if_neg (by omega), if_pos h78, ← es3]; rfl⟩
      · rw [inB_rg _ (lo := 48) (hi := 57) (by decide) (by decide), es3, y7] at h78
        refine g_iload_n (pc := 81) 2 C0 rfl dX3_takePerson_81 rfl ?_
        refine g_goto (pc := 82) 97 C0 dX3_takePerson_82 (by decide) ?_
        exact g_iret (pc := 97) C0 dX3_takePerson_97 ⟨by rw [persV, if_neg (by omega), if_neg (by rw [h78]; decide), h61], by rw [persT, if_neg (by omega), if_neg (by rw [h78]; decide), ← es3]; rfl⟩
  · have hf2 : numV s0 0 (s0 0 22 - 1) = pnF1 τ := by rw [pnF1, es0]; rfl
    refine g_iload_n (pc := 32) 2 C0 rfl dX3_takePerson_32 rfl ?_
    refine g_if_leN (pc := 33) 40 C0 (by omega) dX3_takePerson_33 (by decide) (fun h33 => ?_) (fun h33 => ?_)
    · refine g_aload_n (pc := 40) 0 C0 rfl dX3_takePerson_40 rfl ?_
      refine g_aload_n (pc := 41) 0 C0 rfl dX3_takePerson_41 rfl ?_
      refine m_get (pc := 42) (v := .ref (ad 31)) C0 31 (by decide) q1000 rfl dX3_takePerson_42 ?_
      refine g_iload_n (pc := 45) 1 C0 rfl dX3_takePerson_45 rfl ?_
      refine g_iconst (pc := 46) (v := (nI 1)) C0 dX3_takePerson_46 (by decide) ?_
      refine g_bipush (pc := 47) (v := (nI 24)) C0 dX3_takePerson_47 (by decide) ?_
      refine g_cvi (pc := 49) (na := 4) (As := [.ref (ad 31), .int (nI (τ 0 29)), .int (nI 1), .int (nI 24)]) (rest := []) C0 (mM_into l D dT ad s1 31 17 8 (τ 0 29) 1 24 s1y.x (by omega) (by omega) rfl (fun _ => rfl) (by decide) (by omega)) (q0 := 0) (j := 0) (ci := 0) (C := RX3) (T := TX3) (N := 44) rfl rfl rfl q1155 q1157 qs37 q60 q1158 (by decide +kernel) ⟨Nat.le_of_ble_eq_true rfl, Nat.le_of_ble_eq_true rfl⟩ rfl rfl ⟨Nat.le_of_ble_eq_true rfl, Nat.le_of_ble_eq_true rfl⟩ rfl rfl (Nat.le_of_ble_eq_true rfl) dX3_takePerson_49 (fun r τ0 hc => ?_)
      obtain ⟨rfl, rfl⟩ := hc
      have e9 : pnF τ = numV s1 1 24 := by rw [pnF, if_neg (by omega), s1e]
      have e8 : pn2 τ = (intoT s1 31 (τ 0 29) 1 24) := by rw [pn2, if_neg (by omega), s1e]
      refine G.forget 2 ?_
      refine G.wsE (ws' := mW dT ad (pn2 τ)) (by rw [e8]) ?_
      exact G.stE (by rw [e9]) J52
    · refine g_iload_n (pc := 36) 2 C0 rfl dX3_takePerson_36 rfl ?_
      refine g_goto (pc := 37) 52 C0 dX3_takePerson_37 (by decide) ?_
      have e9 : pnF τ = f1 := by rw [pnF, if_pos (by omega), hf1e]
      have e8 : pn2 τ = s1 := by rw [pn2, if_pos (by omega), s1e]
      refine G.forget 2 ?_
      refine G.wsE (ws' := mW dT ad (pn2 τ)) (by rw [e8]) ?_
      exact G.stE (by rw [e9]) J52
set_option maxHeartbeats 4000000 in
set_option maxRecDepth 100000 in
theorem mM_takeParts (l : Launch) (D : va_G) (dT : Nat → ClassId) (ad : Nat → Nat) (τ : tT) (r : Nat) (hy : wfY τ) (hr : r < 10) : MI l D dT ad yX3_takeParts cX3_takeParts 4 .int ({ frames := 3, cells := 0, slots := 0, locals := 73 }) [.int (nI r)] τ (fun rr τ' => rr = (nI (partV τ r)) ∧ (partT τ r) = τ') := by
  refine CI.ofG (own := "FittingStridesModel") (L := [some (.ref (ad 0)), some (.int (nI r)), none, none]) rfl (by decide) (Nat.le_of_ble_eq_true rfl) rfl ?_
  intro p' e' s' m' bl' mt' c' C0
  refine g_aload_n (pc := 0) 0 C0 rfl dX3_takeParts_0 rfl ?_
  refine m_get (pc := 1) (v := .ref (ad 27)) C0 27 (by decide) q996 rfl dX3_takeParts_1 ?_
  refine g_iload_n (pc := 4) 1 C0 rfl dX3_takeParts_4 rfl ?_
  refine g_iconst (pc := 5) (v := (nI 0)) C0 dX3_takeParts_5 (by decide) ?_
  refine g_iast (pc := 6) (q0 := 14) (t0 := 0) C0 r 0 mNd rfl (fun _ => rfl) rfl (by decide) (by omega) dX3_takeParts_6 ?_
  refine g_iconst (pc := 7) (v := (nI 1)) C0 dX3_takeParts_7 (by decide) ?_
  refine g_istore_n (pc := 8) 2 C0 (L1 := [some (.ref (ad 0)), some (.int (nI r)), some (.int (nI 1)), none]) rfl (by decide) dX3_takeParts_8 rfl rfl ?_
  refine G.wh (pc := 9) (ws := fun x : tT × Bool => mW dT ad x.1) (Lf := fun x : tT × Bool => [some (.ref (ad 0)), some (.int (nI r)), some (.int (nI (bN x.2))), none]) (tpM r) (tpI r (partV τ r) (partT τ r)) (takeParts0 τ r, true) (tp_start hy r) ?_
  rintro ⟨t, mm⟩ hI ih
  refine G.wsE (ws' := mW dT ad t) rfl ?_
  refine G.lE (L' := [some (.ref (ad 0)), some (.int (nI r)), some (.int (nI (bN mm))), none]) rfl ?_
  have ty : wfY t := hI.1
  refine g_iload_n (pc := 9) 2 C0 rfl dX3_takeParts_9 rfl ?_
  refine g_if_eqB (pc := 10) 112 C0 dX3_takeParts_10 (by decide) (fun h10 => ?_) (fun h10 => ?_)
  · refine g_iconst (pc := 112) (v := (nI 0)) C0 dX3_takeParts_112 (by decide) ?_
    exact g_iret (pc := 113) C0 dX3_takeParts_113 ⟨congrArg nI (hI.2.2.2 h10).1.symm, (hI.2.2.2 h10).2⟩
  · subst h10
    obtain ⟨u1, u2, u3⟩ := tp_unf hI
    have hnv := numV_le t 1 720
    refine g_aload_n (pc := 13) 0 C0 rfl dX3_takeParts_13 rfl ?_
    refine g_aload_n (pc := 14) 0 C0 rfl dX3_takeParts_14 rfl ?_
    refine m_get (pc := 15) (v := .ref (ad 28)) C0 28 (by decide) q997 rfl dX3_takeParts_15 ?_
    refine g_iconst (pc := 18) (v := (nI 3)) C0 dX3_takeParts_18 (by decide) ?_
    refine g_iload_n (pc := 19) 1 C0 rfl dX3_takeParts_19 rfl ?_
    refine g_imulN (pc := 20) C0  dX3_takeParts_20 ?_
    refine g_aload_n (pc := 21) 0 C0 rfl dX3_takeParts_21 rfl ?_
    refine m_get (pc := 22) (v := .ref (ad 27)) C0 27 (by decide) q996 rfl dX3_takeParts_22 ?_
    refine g_iload_n (pc := 25) 1 C0 rfl dX3_takeParts_25 rfl ?_
    refine g_iald (pc := 26) (q0 := 14) (t0 := 0) C0 r rfl (fun _ => rfl) rfl (by decide) (by omega) dX3_takeParts_26 ?_
    refine g_iaddN (pc := 27) C0  dX3_takeParts_27 ?_
    refine g_iconst (pc := 28) (v := (nI 1)) C0 dX3_takeParts_28 (by decide) ?_
    refine g_sipush (pc := 29) (v := (nI 720)) C0 dX3_takeParts_29 (by decide) ?_
    refine g_cvi (pc := 32) (na := 4) (As := [.ref (ad 28), .int (nI ((3 * r) + (t 27 r))), .int (nI 1), .int (nI 720)]) (rest := []) C0 (mM_into l D dT ad t 28 15 30 ((3 * r) + (t 27 r)) 1 720 ty.x (by omega) (by omega) rfl (fun _ => rfl) (by decide) (by omega)) (q0 := 0) (j := 0) (ci := 0) (C := RX3) (T := TX3) (N := 44) rfl rfl rfl q1155 q1157 qs37 q60 q1158 (by decide +kernel) ⟨Nat.le_of_ble_eq_true rfl, Nat.le_of_ble_eq_true rfl⟩ rfl rfl ⟨Nat.le_of_ble_eq_true rfl, Nat.le_of_ble_eq_true rfl⟩ rfl rfl (Nat.le_of_ble_eq_true rfl) dX3_takeParts_32 (fun r t1 hc => ?_)
    obtain ⟨rfl, et1⟩ := hc
    refine g_istore_n (pc := 35) 3 C0 (L1 := [some (.ref (ad 0)), some (.int (nI r)), some (.int (nI (bN true))), some (.int (nI (numV t 1 720)))]) rfl (by decide) dX3_takeParts_35 rfl rfl ?_
    refine g_iload_n (pc := 36) 3 C0 rfl dX3_takeParts_36 rfl ?_
    refine g_if_leN (pc := 37) 42 C0 (by omega) dX3_takeParts_37 (by decide) (fun h37 => ?_) (fun h37 => ?_)
    · refine g_aload_n (pc := 42) 0 C0 rfl dX3_takeParts_42 rfl ?_
      refine m_get (pc := 43) (v := .ref (ad 27)) C0 27 (by decide) q996 rfl dX3_takeParts_43 ?_
      refine g_iload_n (pc := 46) 1 C0 rfl dX3_takeParts_46 rfl ?_
      refine g_dup2 (pc := 47) C0 dX3_takeParts_47 rfl rfl ?_
      refine g_iald (pc := 48) (q0 := 14) (t0 := 0) C0 r rfl (fun _ => rfl) rfl (by decide) (by omega) dX3_takeParts_48 ?_
      refine g_iconst (pc := 49) (v := (nI 1)) C0 dX3_takeParts_49 (by decide) ?_
      refine g_iaddN (pc := 50) C0  dX3_takeParts_50 ?_
      refine g_iast (pc := 51) (q0 := 14) (t0 := 0) C0 r ((t1 27 r) + 1) mNd rfl (fun _ => rfl) rfl (by decide) (by omega) dX3_takeParts_51 ?_
      obtain ⟨t2, et2⟩ : ∃ z : tT, z = tp2 t r := ⟨_, rfl⟩
      have t2y : wfY t2 := by rw [et2]; exact wfY_tp2 ty r
      refine G.wsE (ws' := mW dT ad t2) (by rw [et2]; rw [tp2, tp1, et1, ← et1, intoT_j _ _ _ _ (by decide) (by decide)]) ?_
      refine g_aload_n (pc := 52) 0 C0 rfl dX3_takeParts_52 rfl ?_
      refine g_cvi (pc := 53) (na := 0) (As := []) (rest := []) C0 (mM_here l D dT ad t2  t2y.x) (q0 := 0) (j := 0) (ci := 0) (C := RX3) (T := TX3) (N := 44) rfl rfl rfl q1117 q1119 qs31 q60 q1120 (by decide +kernel) ⟨Nat.le_of_ble_eq_true rfl, Nat.le_of_ble_eq_true rfl⟩ rfl rfl ⟨Nat.le_of_ble_eq_true rfl, Nat.le_of_ble_eq_true rfl⟩ rfl rfl (Nat.le_of_ble_eq_true rfl) dX3_takeParts_53 (fun r τ0 hc => ?_)
      obtain ⟨rfl, rfl⟩ := hc
      refine g_bipush (pc := 56) (v := (nI 44)) C0 dX3_takeParts_56 (by decide) ?_
      refine g_icmp_ne (pc := 58) 65 C0 dX3_takeParts_58 (by decide) (fun h58 => ?_) (fun h58 => ?_)
      · have hc : hrV (tp2 t r) ≠ some 44 := by rw [← et2]; exact fun q => h58 ((oI_eq (hrV_lt t2y.x) (by decide)).mpr q)
        refine g_iconst (pc := 65) (v := (nI 0)) C0 dX3_takeParts_65 (by decide) ?_
        refine g_istore_n (pc := 66) 2 C0 (L1 := [some (.ref (ad 0)), some (.int (nI r)), some (.int (nI 0)), some (.int (nI (numV t 1 720)))]) rfl (by decide) dX3_takeParts_66 rfl rfl ?_
        obtain ⟨t3, et3⟩ : ∃ z : tT, z = tp3 t r := ⟨_, rfl⟩
        have t327 : t3 27 r = t 27 r + 1 := by rw [et3]; exact tp3_27 t r
        refine G.wsE (ws' := mW dT ad t3) (by rw [et3]; rw [tp3, ← et2]; rfl) ?_
        refine g_iload_n (pc := 67) 2 C0 rfl dX3_takeParts_67 rfl ?_
        refine g_if_eqN (pc := 68) 91 C0 (by decide) dX3_takeParts_68 (by decide) (fun h68 => ?_) (fun h68 => ?_)
        rotate_left
        · exact absurd h68 (by omega)
        refine g_aload_n (pc := 91) 0 C0 rfl dX3_takeParts_91 rfl ?_
        refine g_dup (pc := 92) C0 dX3_takeParts_92 rfl ?_
        refine m_get (pc := 93) (v := .int (nI (t3 0 17))) C0 17 (by decide) q986 rfl dX3_takeParts_93 ?_
        refine g_iload_n (pc := 96) 2 C0 rfl dX3_takeParts_96 rfl ?_
        refine g_if_eqN (pc := 97) 104 C0 (by decide) dX3_takeParts_97 (by decide) (fun h97 => ?_) (fun h97 => ?_)
        rotate_left
        · exact absurd h97 (by omega)
        refine g_iconst (pc := 104) (v := (nI 0)) C0 dX3_takeParts_104 (by decide) ?_
        refine g_iaddN (pc := 105) C0  dX3_takeParts_105 ?_
        refine m_put (pc := 106) C0 17 (by decide) q986 rfl (by decide) (mSet_17 _ _ _) dX3_takeParts_106 ?_
        refine g_goto (pc := 109) 9 C0 dX3_takeParts_109 (by decide) ?_
        refine G.forget 3 ?_
        obtain ⟨n1, n2⟩ := (tp_next hI h37).2 hc
        exact G.wsE (by rw [Nat.add_zero, upc_self, et3]) (ih (tp3 t r, false) n1 n2)
      · have hc : hrV (tp2 t r) = some 44 := by rw [← et2]; exact (oI_eq (hrV_lt t2y.x) (by decide)).mp h58
        refine g_iconst (pc := 61) (v := (nI 1)) C0 dX3_takeParts_61 (by decide) ?_
        refine g_goto (pc := 62) 66 C0 dX3_takeParts_62 (by decide) ?_
        refine g_istore_n (pc := 66) 2 C0 (L1 := [some (.ref (ad 0)), some (.int (nI r)), some (.int (nI 1)), some (.int (nI (numV t 1 720)))]) rfl (by decide) dX3_takeParts_66 rfl rfl ?_
        obtain ⟨t3, et3⟩ : ∃ z : tT, z = tp3 t r := ⟨_, rfl⟩
        have t327 : t3 27 r = t 27 r + 1 := by rw [et3]; exact tp3_27 t r
        refine G.wsE (ws' := mW dT ad t3) (by rw [et3]; rw [tp3, ← et2]; rfl) ?_
        refine g_iload_n (pc := 67) 2 C0 rfl dX3_takeParts_67 rfl ?_
        refine g_if_eqN (pc := 68) 91 C0 (by decide) dX3_takeParts_68 (by decide) (fun h68 => ?_) (fun h68 => ?_)
        · exact absurd h68 (by omega)
        refine g_aload_n (pc := 71) 0 C0 rfl dX3_takeParts_71 rfl ?_
        refine m_get (pc := 72) (v := .ref (ad 27)) C0 27 (by decide) q996 rfl dX3_takeParts_72 ?_
        refine g_iload_n (pc := 75) 1 C0 rfl dX3_takeParts_75 rfl ?_
        refine g_iald (pc := 76) (q0 := 14) (t0 := 0) C0 r rfl (fun _ => rfl) rfl (by decide) (by omega) dX3_takeParts_76 ?_
        refine g_iconst (pc := 77) (v := (nI 3)) C0 dX3_takeParts_77 (by decide) ?_
        refine g_icmp_neN (pc := 78) 91 C0 (by omega) (by decide) dX3_takeParts_78 (by decide) (fun h78 => ?_) (fun h78 => ?_)
        · refine g_aload_n (pc := 91) 0 C0 rfl dX3_takeParts_91 rfl ?_
          refine g_dup (pc := 92) C0 dX3_takeParts_92 rfl ?_
          refine m_get (pc := 93) (v := .int (nI (t3 0 17))) C0 17 (by decide) q986 rfl dX3_takeParts_93 ?_
          refine g_iload_n (pc := 96) 2 C0 rfl dX3_takeParts_96 rfl ?_
          refine g_if_eqN (pc := 97) 104 C0 (by decide) dX3_takeParts_97 (by decide) (fun h97 => ?_) (fun h97 => ?_)
          · exact absurd h97 (by omega)
          refine g_iconst (pc := 100) (v := (nI 1)) C0 dX3_takeParts_100 (by decide) ?_
          refine g_goto (pc := 101) 105 C0 dX3_takeParts_101 (by decide) ?_
          refine g_iaddN (pc := 105) C0  dX3_takeParts_105 ?_
          refine m_put (pc := 106) C0 17 (by decide) q986 rfl (by decide) (mSet_17 _ _ _) dX3_takeParts_106 ?_
          refine g_goto (pc := 109) 9 C0 dX3_takeParts_109 (by decide) ?_
          refine G.forget 3 ?_
          obtain ⟨n1, n2⟩ := (tp_next hI h37).1 hc (by omega)
          exact G.wsE (by rw [tp4, ← et3]) (ih (tp4 t r, true) n1 n2)
        · refine g_aload_n (pc := 81) 0 C0 rfl dX3_takeParts_81 rfl ?_
          refine g_iconst (pc := 82) (v := (nI 1)) C0 dX3_takeParts_82 (by decide) ?_
          refine g_aload_n (pc := 83) 0 C0 rfl dX3_takeParts_83 rfl ?_
          refine m_get (pc := 84) (v := .int (nI (t3 0 17))) C0 17 (by decide) q986 rfl dX3_takeParts_84 ?_
          refine g_cvi (pc := 87) (na := 2) (As := [.int (nI 1), .int (nI (t3 0 17))]) (rest := []) C0 (mM_fails l D dT ad t3 1 (t3 0 17) ) (q0 := 0) (j := 0) (ci := 0) (C := RX3) (T := TX3) (N := 44) rfl rfl rfl q1141 q1143 qs34 q60 q1144 (by decide +kernel) ⟨Nat.le_of_ble_eq_true rfl, Nat.le_of_ble_eq_true rfl⟩ rfl rfl ⟨Nat.le_of_ble_eq_true rfl, Nat.le_of_ble_eq_true rfl⟩ rfl rfl (Nat.le_of_ble_eq_true rfl) dX3_takeParts_87 (fun r τ0 hc => ?_)
          obtain ⟨rfl, rfl⟩ := hc
          exact g_iret (pc := 90) C0 dX3_takeParts_90 ⟨by rw [u2, if_neg (by omega), if_pos hc, if_pos (by omega)], by rw [u3, if_neg (by omega), if_pos hc, if_pos (by omega), ← et3]⟩
    · refine g_iload_n (pc := 40) 3 C0 rfl dX3_takeParts_40 rfl ?_
      exact g_iret (pc := 41) C0 dX3_takeParts_41 ⟨by rw [u2, if_pos h37], by rw [u3, if_pos h37]; exact et1⟩
