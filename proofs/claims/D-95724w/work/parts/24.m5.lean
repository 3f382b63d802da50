/-! the model, fifth module -/
set_option maxRecDepth 100000
set_option maxHeartbeats 4000000 in
set_option maxRecDepth 100000 in
theorem mM_see (l : Launch) (D : va_G) (dT : Nat → ClassId) (ad : Nat → Nat) (τ : tT) (f : Int32) (x : Int32) (wb : Bool) (hw : wfT τ) (h34 : τ 0 34 ≤ 20) : MI l D dT ad yX3_see cX3_see 4 .int ({ frames := 2, cells := 0, slots := 0, locals := 46 }) [.int f, .int x, .int (nI (bN wb))] τ (fun rr τ' => rr = (pSee τ f x) ∧ (pSeeT τ f x wb) = τ') := by
  refine CI.ofG (own := "FittingStridesModel") (L := [some (.ref (ad 0)), some (.int f), some (.int x), some (.int (nI (bN wb)))]) rfl (by decide) (Nat.le_of_ble_eq_true rfl) rfl ?_
  intro p' e' s' m' bl' mt' c' C0
  have hw0 := hw.2.1
  refine g_aload_n (pc := 0) 0 C0 rfl dX3_see_0 rfl ?_
  refine g_iload_n (pc := 1) 1 C0 rfl dX3_see_1 rfl ?_
  refine g_cvi (pc := 2) (na := 1) (As := [.int f]) (rest := []) C0 (mM_isPlace l D dT ad τ f (by omega)) (q0 := 0) (j := 0) (ci := 0) (C := RX3) (T := TX3) (N := 44) rfl rfl rfl q1267 q1269 qs52 q60 q1270 (by decide +kernel) ⟨Nat.le_of_ble_eq_true rfl, Nat.le_of_ble_eq_true rfl⟩ rfl rfl ⟨Nat.le_of_ble_eq_true rfl, Nat.le_of_ble_eq_true rfl⟩ rfl rfl (Nat.le_of_ble_eq_true rfl) dX3_see_2 (fun r τ0 hc => ?_)
  obtain ⟨rfl, rfl⟩ := hc
  refine g_if_eqB (pc := 5) 16 C0 dX3_see_5 (by decide) (fun h5 => ?_) (fun h5 => ?_)
  · refine g_ldc (pc := 16) (v := -1000000001) C0 q1187 dX3_see_16 ?_
    exact g_iret (pc := 18) C0 dX3_see_18 ⟨by simp [pSee, pSeeOk, h5]; try rfl, by simp [pSeeT, pSeeOk, seeT, h5]⟩
  · obtain ⟨f1, rfl, f1h, f1b⟩ := ixB_t h5
    refine g_aload_n (pc := 8) 0 C0 rfl dX3_see_8 rfl ?_
    refine g_iload_n (pc := 9) 2 C0 rfl dX3_see_9 rfl ?_
    refine g_cvi (pc := 10) (na := 1) (As := [.int x]) (rest := []) C0 (mM_isPlace l D dT ad τ x (by omega)) (q0 := 0) (j := 0) (ci := 0) (C := RX3) (T := TX3) (N := 44) rfl rfl rfl q1267 q1269 qs52 q60 q1270 (by decide +kernel) ⟨Nat.le_of_ble_eq_true rfl, Nat.le_of_ble_eq_true rfl⟩ rfl rfl ⟨Nat.le_of_ble_eq_true rfl, Nat.le_of_ble_eq_true rfl⟩ rfl rfl (Nat.le_of_ble_eq_true rfl) dX3_see_10 (fun r τ0 hc => ?_)
    obtain ⟨rfl, rfl⟩ := hc
    refine g_if_neB (pc := 13) 19 C0 dX3_see_13 (by decide) (fun h13 => ?_) (fun h13 => ?_)
    · obtain ⟨x1, rfl, x1h, x1b⟩ := ixB_t h13
      refine g_aload_n (pc := 19) 0 C0 rfl dX3_see_19 rfl ?_
      refine m_get (pc := 20) (v := .int (nI (τ 0 34))) C0 34 (by decide) q1003 rfl dX3_see_20 ?_
      refine g_bipush (pc := 23) (v := (nI 20)) C0 dX3_see_23 (by decide) ?_
      refine g_icmp_neN (pc := 25) 31 C0 (by omega) (by decide) dX3_see_25 (by decide) (fun h25 => ?_) (fun h25 => ?_)
      · refine g_aload_n (pc := 31) 0 C0 rfl dX3_see_31 rfl ?_
        refine m_get (pc := 32) (v := .ref (ad 35)) C0 35 (by decide) q1004 rfl dX3_see_32 ?_
        refine g_aload_n (pc := 35) 0 C0 rfl dX3_see_35 rfl ?_
        refine m_get (pc := 36) (v := .int (nI (τ 0 34))) C0 34 (by decide) q1003 rfl dX3_see_36 ?_
        refine g_iload_n (pc := 39) 1 C0 rfl dX3_see_39 rfl ?_
        refine g_iast (pc := 40) (q0 := 20) (t0 := 0) C0 (τ 0 34) f1 mNd rfl (fun _ => rfl) rfl (by decide) (by omega) dX3_see_40 ?_
        refine g_aload_n (pc := 41) 0 C0 rfl dX3_see_41 rfl ?_
        refine m_get (pc := 42) (v := .ref (ad 36)) C0 36 (by decide) q1005 rfl dX3_see_42 ?_
        refine g_aload_n (pc := 45) 0 C0 rfl dX3_see_45 rfl ?_
        refine m_get (pc := 46) (v := .int (nI (τ 0 34))) C0 34 (by decide) q1003 rfl dX3_see_46 ?_
        refine g_iload_n (pc := 49) 2 C0 rfl dX3_see_49 rfl ?_
        refine g_iast (pc := 50) (q0 := 21) (t0 := 0) C0 (τ 0 34) x1 mNd rfl (fun _ => rfl) rfl (by decide) (by omega) dX3_see_50 ?_
        refine g_aload_n (pc := 51) 0 C0 rfl dX3_see_51 rfl ?_
        refine m_get (pc := 52) (v := .ref (ad 37)) C0 37 (by decide) q1006 rfl dX3_see_52 ?_
        refine g_aload_n (pc := 55) 0 C0 rfl dX3_see_55 rfl ?_
        refine m_get (pc := 56) (v := .int (nI (τ 0 34))) C0 34 (by decide) q1003 rfl dX3_see_56 ?_
        refine g_iload_n (pc := 59) 3 C0 rfl dX3_see_59 rfl ?_
        refine g_zast (pc := 60) (q0 := 22) (t0 := 1) C0 (τ 0 34) (bN wb) mNd (bN_lt _) rfl (fun _ => rfl) rfl (by decide) (by omega) dX3_see_60 ?_
        refine g_aload_n (pc := 61) 0 C0 rfl dX3_see_61 rfl ?_
        refine g_dup (pc := 62) C0 dX3_see_62 rfl ?_
        refine m_get (pc := 63) (v := .int (nI (τ 0 34))) C0 34 (by decide) q1003 rfl dX3_see_63 ?_
        refine g_iconst (pc := 66) (v := (nI 1)) C0 dX3_see_66 (by decide) ?_
        refine g_iaddN (pc := 67) C0  dX3_see_67 ?_
        refine m_put (pc := 68) C0 34 (by decide) q1003 rfl (by decide) (mSet_34 _ _ _) dX3_see_68 ?_
        refine g_aload_n (pc := 71) 0 C0 rfl dX3_see_71 rfl ?_
        refine m_get (pc := 72) (v := .int (nI ((τ 0 34) + 1))) C0 34 (by decide) q1003 rfl dX3_see_72 ?_
        exact g_iret (pc := 75) C0 dX3_see_75 ⟨by simp [pSee, pSeeOk, h5, nI_clamp f1b, h13, nI_clamp x1b, h25]; try rfl, by simp [pSeeT, pSeeOk, seeT, h5, nI_clamp f1b, h13, nI_clamp x1b, h25]⟩
      · refine g_ldc (pc := 28) (v := -1000000004) C0 q1111 dX3_see_28 ?_
        exact g_iret (pc := 30) C0 dX3_see_30 ⟨by simp [pSee, pSeeOk, h5, nI_clamp f1b, h13, nI_clamp x1b, h25]; try rfl, by simp [pSeeT, pSeeOk, seeT, h5, nI_clamp f1b, h13, nI_clamp x1b, h25]⟩
    · refine g_ldc (pc := 16) (v := -1000000001) C0 q1187 dX3_see_16 ?_
      exact g_iret (pc := 18) C0 dX3_see_18 ⟨by simp [pSee, pSeeOk, h5, nI_clamp f1b, h13]; try rfl, by simp [pSeeT, pSeeOk, seeT, h5, nI_clamp f1b, h13]⟩
set_option maxHeartbeats 4000000 in
set_option maxRecDepth 100000 in
theorem mM_write (l : Launch) (D : va_G) (dT : Nat → ClassId) (ad : Nat → Nat) (τ : tT) (p : Int32) (r : Int32) (hw : τ 0 1 ≤ 10) (hp : τ 0 8 ≤ 8) (h38 : τ 0 38 ≤ 40) : MI l D dT ad yX3_write cX3_write 3 .int ({ frames := 2, cells := 0, slots := 0, locals := 46 }) [.int p, .int r] τ (fun rr τ' => rr = (pWrite τ p r) ∧ (pWriteT τ p r) = τ') := by
  refine CI.ofG (own := "FittingStridesModel") (L := [some (.ref (ad 0)), some (.int p), some (.int r)]) rfl (by decide) (Nat.le_of_ble_eq_true rfl) rfl ?_
  intro p' e' s' m' bl' mt' c' C0
  refine g_aload_n (pc := 0) 0 C0 rfl dX3_write_0 rfl ?_
  refine g_iload_n (pc := 1) 1 C0 rfl dX3_write_1 rfl ?_
  refine g_cvi (pc := 2) (na := 1) (As := [.int p]) (rest := []) C0 (mM_isPerson l D dT ad τ p (by omega)) (q0 := 0) (j := 0) (ci := 0) (C := RX3) (T := TX3) (N := 44) rfl rfl rfl q1204 q1206 qs45 q60 q1207 (by decide +kernel) ⟨Nat.le_of_ble_eq_true rfl, Nat.le_of_ble_eq_true rfl⟩ rfl rfl ⟨Nat.le_of_ble_eq_true rfl, Nat.le_of_ble_eq_true rfl⟩ rfl rfl (Nat.le_of_ble_eq_true rfl) dX3_write_2 (fun r τ0 hc => ?_)
  obtain ⟨rfl, rfl⟩ := hc
  refine g_if_eqB (pc := 5) 16 C0 dX3_write_5 (by decide) (fun h5 => ?_) (fun h5 => ?_)
  · refine g_ldc (pc := 16) (v := -1000000001) C0 q1187 dX3_write_16 ?_
    exact g_iret (pc := 18) C0 dX3_write_18 ⟨by simp [pWrite, pWriteOk, h5]; try rfl, by simp [pWriteT, pWriteOk, writeT, h5]⟩
  · obtain ⟨p1, rfl, p1h, p1b⟩ := ixB_t h5
    refine g_aload_n (pc := 8) 0 C0 rfl dX3_write_8 rfl ?_
    refine g_iload_n (pc := 9) 2 C0 rfl dX3_write_9 rfl ?_
    refine g_cvi (pc := 10) (na := 1) (As := [.int r]) (rest := []) C0 (mM_isStair l D dT ad τ r (by omega)) (q0 := 0) (j := 0) (ci := 0) (C := RX3) (T := TX3) (N := 44) rfl rfl rfl q1183 q1185 qs41 q60 q1186 (by decide +kernel) ⟨Nat.le_of_ble_eq_true rfl, Nat.le_of_ble_eq_true rfl⟩ rfl rfl ⟨Nat.le_of_ble_eq_true rfl, Nat.le_of_ble_eq_true rfl⟩ rfl rfl (Nat.le_of_ble_eq_true rfl) dX3_write_10 (fun r τ0 hc => ?_)
    obtain ⟨rfl, rfl⟩ := hc
    refine g_if_neB (pc := 13) 19 C0 dX3_write_13 (by decide) (fun h13 => ?_) (fun h13 => ?_)
    · obtain ⟨r1, rfl, r1h, r1b⟩ := ixB_t h13
      refine g_aload_n (pc := 19) 0 C0 rfl dX3_write_19 rfl ?_
      refine m_get (pc := 20) (v := .int (nI (τ 0 38))) C0 38 (by decide) q1007 rfl dX3_write_20 ?_
      refine g_bipush (pc := 23) (v := (nI 40)) C0 dX3_write_23 (by decide) ?_
      refine g_icmp_neN (pc := 25) 31 C0 (by omega) (by decide) dX3_write_25 (by decide) (fun h25 => ?_) (fun h25 => ?_)
      · refine g_aload_n (pc := 31) 0 C0 rfl dX3_write_31 rfl ?_
        refine m_get (pc := 32) (v := .ref (ad 39)) C0 39 (by decide) q1008 rfl dX3_write_32 ?_
        refine g_aload_n (pc := 35) 0 C0 rfl dX3_write_35 rfl ?_
        refine m_get (pc := 36) (v := .int (nI (τ 0 38))) C0 38 (by decide) q1007 rfl dX3_write_36 ?_
        refine g_iload_n (pc := 39) 1 C0 rfl dX3_write_39 rfl ?_
        refine g_iast (pc := 40) (q0 := 23) (t0 := 0) C0 (τ 0 38) p1 mNd rfl (fun _ => rfl) rfl (by decide) (by omega) dX3_write_40 ?_
        refine g_aload_n (pc := 41) 0 C0 rfl dX3_write_41 rfl ?_
        refine m_get (pc := 42) (v := .ref (ad 40)) C0 40 (by decide) q1009 rfl dX3_write_42 ?_
        refine g_aload_n (pc := 45) 0 C0 rfl dX3_write_45 rfl ?_
        refine m_get (pc := 46) (v := .int (nI (τ 0 38))) C0 38 (by decide) q1007 rfl dX3_write_46 ?_
        refine g_iload_n (pc := 49) 2 C0 rfl dX3_write_49 rfl ?_
        refine g_iast (pc := 50) (q0 := 24) (t0 := 0) C0 (τ 0 38) r1 mNd rfl (fun _ => rfl) rfl (by decide) (by omega) dX3_write_50 ?_
        refine g_aload_n (pc := 51) 0 C0 rfl dX3_write_51 rfl ?_
        refine g_dup (pc := 52) C0 dX3_write_52 rfl ?_
        refine m_get (pc := 53) (v := .int (nI (τ 0 38))) C0 38 (by decide) q1007 rfl dX3_write_53 ?_
        refine g_iconst (pc := 56) (v := (nI 1)) C0 dX3_write_56 (by decide) ?_
        refine g_iaddN (pc := 57) C0  dX3_write_57 ?_
        refine m_put (pc := 58) C0 38 (by decide) q1007 rfl (by decide) (mSet_38 _ _ _) dX3_write_58 ?_
        refine g_aload_n (pc := 61) 0 C0 rfl dX3_write_61 rfl ?_
        refine m_get (pc := 62) (v := .int (nI ((τ 0 38) + 1))) C0 38 (by decide) q1007 rfl dX3_write_62 ?_
        exact g_iret (pc := 65) C0 dX3_write_65 ⟨by simp [pWrite, pWriteOk, h5, nI_clamp p1b, h13, nI_clamp r1b, h25]; try rfl, by simp [pWriteT, pWriteOk, writeT, h5, nI_clamp p1b, h13, nI_clamp r1b, h25]⟩
      · refine g_ldc (pc := 28) (v := -1000000004) C0 q1111 dX3_write_28 ?_
        exact g_iret (pc := 30) C0 dX3_write_30 ⟨by simp [pWrite, pWriteOk, h5, nI_clamp p1b, h13, nI_clamp r1b, h25]; try rfl, by simp [pWriteT, pWriteOk, writeT, h5, nI_clamp p1b, h13, nI_clamp r1b, h25]⟩
    · refine g_ldc (pc := 16) (v := -1000000001) C0 q1187 dX3_write_16 ?_
      exact g_iret (pc := 18) C0 dX3_write_18 ⟨by simp [pWrite, pWriteOk, h5, nI_clamp p1b, h13]; try rfl, by simp [pWriteT, pWriteOk, writeT, h5, nI_clamp p1b, h13]⟩
set_option maxHeartbeats 4000000 in
set_option maxRecDepth 100000 in
theorem mM_tear (l : Launch) (D : va_G) (dT : Nat → ClassId) (ad : Nat → Nat) (τ : tT)   : MI l D dT ad yX3_tear cX3_tear 2 .int ({ frames := 0, cells := 0, slots := 0, locals := 0 }) [] τ (fun rr τ' => rr = (pTear τ) ∧ (tearT τ) = τ') := by
  refine CI.ofG (own := "FittingStridesModel") (L := [some (.ref (ad 0)), none]) rfl (by decide) (Nat.le_of_ble_eq_true rfl) rfl ?_
  intro p' e' s' m' bl' mt' c' C0
  refine g_aload_n (pc := 0) 0 C0 rfl dX3_tear_0 rfl ?_
  refine m_get (pc := 1) (v := .int (nI (τ 0 38))) C0 38 (by decide) q1007 rfl dX3_tear_1 ?_
  refine g_aload_n (pc := 4) 0 C0 rfl dX3_tear_4 rfl ?_
  refine m_get (pc := 5) (v := .int (nI (τ 0 34))) C0 34 (by decide) q1003 rfl dX3_tear_5 ?_
  refine g_iaddN (pc := 8) C0  dX3_tear_8 ?_
  refine g_istore_n (pc := 9) 1 C0 (L1 := [some (.ref (ad 0)), some (.int (nI ((τ 0 38) + (τ 0 34))))]) rfl (by decide) dX3_tear_9 rfl rfl ?_
  refine g_aload_n (pc := 10) 0 C0 rfl dX3_tear_10 rfl ?_
  refine g_iconst (pc := 11) (v := (nI 0)) C0 dX3_tear_11 (by decide) ?_
  refine m_put (pc := 12) C0 38 (by decide) q1007 rfl (by decide) (mSet_38 _ _ _) dX3_tear_12 ?_
  refine g_aload_n (pc := 15) 0 C0 rfl dX3_tear_15 rfl ?_
  refine g_iconst (pc := 16) (v := (nI 0)) C0 dX3_tear_16 (by decide) ?_
  refine m_put (pc := 17) C0 34 (by decide) q1003 rfl (by decide) (mSet_34 _ _ _) dX3_tear_17 ?_
  refine g_iload_n (pc := 20) 1 C0 rfl dX3_tear_20 rfl ?_
  exact g_iret (pc := 21) C0 dX3_tear_21 ⟨rfl, rfl⟩
set_option maxHeartbeats 4000000 in
set_option maxRecDepth 100000 in
theorem mM_seed (l : Launch) (D : va_G) (dT : Nat → ClassId) (ad : Nat → Nat) (τ : tT) (v : Int32)  : MI l D dT ad yX3_seed cX3_seed 3 .int ({ frames := 0, cells := 0, slots := 0, locals := 0 }) [.int v] τ (fun rr τ' => rr = (pSeed τ v) ∧ (pSeedT τ v) = τ') := by
  refine CI.ofG (own := "FittingStridesModel") (L := [some (.ref (ad 0)), some (.int v), none]) rfl (by decide) (Nat.le_of_ble_eq_true rfl) rfl ?_
  intro p' e' s' m' bl' mt' c' C0
  refine g_iload_n (pc := 0) 1 C0 rfl dX3_seed_0 rfl ?_
  refine g_if_ge (pc := 1) 7 C0 dX3_seed_1 (by decide) (fun h1 => ?_) (fun h1 => ?_)
  · have h2 : ¬ v < 0 := Int32.not_lt.mpr h1
    obtain ⟨v1, v1b, rfl⟩ := nI_of h2
    refine g_aload_n (pc := 7) 0 C0 rfl dX3_seed_7 rfl ?_
    refine m_get (pc := 8) (v := .int (nI (τ 0 13))) C0 13 (by decide) q982 rfl dX3_seed_8 ?_
    refine g_istore_n (pc := 11) 2 C0 (L1 := [some (.ref (ad 0)), some (.int (nI v1)), some (.int (nI (τ 0 13)))]) rfl (by decide) dX3_seed_11 rfl rfl ?_
    refine g_aload_n (pc := 12) 0 C0 rfl dX3_seed_12 rfl ?_
    refine g_iload_n (pc := 13) 1 C0 rfl dX3_seed_13 rfl ?_
    refine m_put (pc := 14) C0 13 (by decide) q982 rfl (by decide) (mSet_13 _ _ _) dX3_seed_14 ?_
    refine g_iload_n (pc := 17) 2 C0 rfl dX3_seed_17 rfl ?_
    exact g_iret (pc := 18) C0 dX3_seed_18 ⟨by rw [pSeed, if_neg h2], by rw [pSeedT, if_neg h2, nI_clamp v1b]⟩
  · refine g_ldc (pc := 4) (v := -1000000002) C0 q1110 dX3_seed_4 ?_
    exact g_iret (pc := 6) C0 dX3_seed_6 ⟨by rw [pSeed, if_pos (Int32.not_le.mp h1)]; rfl, by rw [pSeedT, if_pos (Int32.not_le.mp h1)]⟩
set_option maxHeartbeats 4000000 in
set_option maxRecDepth 100000 in
theorem mM_best (l : Launch) (D : va_G) (dT : Nat → ClassId) (ad : Nat → Nat) (τ : tT) (x : Int32) (hw : wfT τ) (hp : wfP τ) : MI l D dT ad yX3_best cX3_best 6 .int ({ frames := 2, cells := 0, slots := 0, locals := 52 }) [.int x] τ (fun rr τ' => rr = (pBest τ x) ∧ τ = τ') := by
  refine CI.ofG (own := "FittingStridesModel") (L := [some (.ref (ad 0)), some (.int x), none, none, none, none]) rfl (by decide) (Nat.le_of_ble_eq_true rfl) rfl ?_
  intro p' e' s' m' bl' mt' c' C0
  have hw1 := hw.1
  have hw0 := hw.2.1
  have hp0 := hp.1
  have hp1 := hp.2.1
  refine g_aload_n (pc := 0) 0 C0 rfl dX3_best_0 rfl ?_
  refine g_iload_n (pc := 1) 1 C0 rfl dX3_best_1 rfl ?_
  refine g_cvi (pc := 2) (na := 1) (As := [.int x]) (rest := []) C0 (mM_isPlace l D dT ad τ x (by omega)) (q0 := 0) (j := 0) (ci := 0) (C := RX3) (T := TX3) (N := 44) rfl rfl rfl q1267 q1269 qs52 q60 q1270 (by decide +kernel) ⟨Nat.le_of_ble_eq_true rfl, Nat.le_of_ble_eq_true rfl⟩ rfl rfl ⟨Nat.le_of_ble_eq_true rfl, Nat.le_of_ble_eq_true rfl⟩ rfl rfl (Nat.le_of_ble_eq_true rfl) dX3_best_2 (fun r τ0 hc => ?_)
  obtain ⟨rfl, rfl⟩ := hc
  refine g_if_neB (pc := 5) 11 C0 dX3_best_5 (by decide) (fun h5 => ?_) (fun h5 => ?_)
  · obtain ⟨x1, rfl, x1h, x1b⟩ := ixB_t h5
    refine g_iconst (pc := 11) (v := (nI 0)) C0 dX3_best_11 (by decide) ?_
    refine g_istore_n (pc := 12) 2 C0 (L1 := [some (.ref (ad 0)), some (.int (nI x1)), some (.int (nI 0)), none, none, none]) rfl (by decide) dX3_best_12 rfl rfl ?_
    refine g_iconst (pc := 13) (v := (nI 0)) C0 dX3_best_13 (by decide) ?_
    refine g_istore_n (pc := 14) 3 C0 (L1 := [some (.ref (ad 0)), some (.int (nI x1)), some (.int (nI 0)), some (.int (nI 0)), none, none]) rfl (by decide) dX3_best_14 rfl rfl ?_
    refine g_iconst (pc := 15) (v := (nI 1)) C0 dX3_best_15 (by decide) ?_
    refine g_istore (pc := 16) 4 C0 (L1 := [some (.ref (ad 0)), some (.int (nI x1)), some (.int (nI 0)), some (.int (nI 0)), some (.int (nI 1)), none]) rfl (by decide) dX3_best_16 rfl ?_
    refine G.loop (pc := 18) (ws := fun i => mW dT ad τ) (Lf := fun i => [some (.ref (ad 0)), some (.int (nI x1)), some (.int (nI ((bst τ x1 i).1))), some (.int (nI ((bst τ x1 i).2))), some (.int (nI i)), none]) (N := 25) (i0 := 1) (by omega) ?_ (fun i18 hi18 hj18 ih18 => ?_)
    · refine g_iload (pc := 18) 4 C0 rfl dX3_best_18 ?_
      refine g_bipush (pc := 20) (v := (nI 24)) C0 dX3_best_20 (by decide) ?_
      refine g_icmp_gtN (pc := 22) 70 C0 (by decide) (by decide) dX3_best_22 (by decide) (fun h22 => ?_) (fun h22 => ?_)
      rotate_left
      · exact absurd h22 (by omega)
      refine g_iload_n (pc := 70) 2 C0 rfl dX3_best_70 rfl ?_
      exact g_iret (pc := 71) C0 dX3_best_71 ⟨by rw [pBest, if_pos h5, nI_clamp x1b], rfl⟩
    · have hrl := reachS_lt hw i18 0 (place := x1) (by omega)
      obtain ⟨e1, e2⟩ := bst_lt τ x1 i18
      refine g_iload (pc := 18) 4 C0 rfl dX3_best_18 ?_
      refine g_bipush (pc := 20) (v := (nI 24)) C0 dX3_best_20 (by decide) ?_
      refine g_icmp_gtN (pc := 22) 70 C0 (by omega) (by decide) dX3_best_22 (by decide) (fun h22 => ?_) (fun h22 => ?_)
      · exact absurd h22 (by omega)
      refine g_aload_n (pc := 25) 0 C0 rfl dX3_best_25 rfl ?_
      refine g_iload_n (pc := 26) 1 C0 rfl dX3_best_26 rfl ?_
      refine g_iload (pc := 27) 4 C0 rfl dX3_best_27 ?_
      refine g_iconst (pc := 29) (v := (nI 0)) C0 dX3_best_29 (by decide) ?_
      refine g_cvi (pc := 30) (na := 3) (As := [.int (nI x1), .int (nI i18), .int (nI 0)]) (rest := []) C0 (mM_reachOf l D dT ad τ x1 i18 0 hw hp (by omega) (by omega) (by omega)) (q0 := 0) (j := 0) (ci := 0) (C := RX3) (T := TX3) (N := 44) rfl rfl rfl q1212 q1214 qs47 q60 q1215 (by decide +kernel) ⟨Nat.le_of_ble_eq_true rfl, Nat.le_of_ble_eq_true rfl⟩ rfl rfl ⟨Nat.le_of_ble_eq_true rfl, Nat.le_of_ble_eq_true rfl⟩ rfl rfl (Nat.le_of_ble_eq_true rfl) dX3_best_30 (fun r τ0 hc => ?_)
      obtain ⟨rfl, rfl⟩ := hc
      refine g_csi (pc := 33) (na := 1) (As := [.int (nI (reachS τ x1 i18 0))]) (rest := []) C0 (mM_bits l (reachS τ x1 i18 0) (by omega)) q1292 q1293 q60 q1294 (by decide +kernel) ⟨Nat.le_of_ble_eq_true rfl, Nat.le_of_ble_eq_true rfl⟩ rfl rfl ⟨Nat.le_of_ble_eq_true rfl, Nat.le_of_ble_eq_true rfl⟩ rfl rfl (Nat.le_of_ble_eq_true rfl) dX3_best_33 ?_
      refine g_istore (pc := 36) 5 C0 (L1 := [some (.ref (ad 0)), some (.int (nI x1)), some (.int (nI ((bst τ x1 i18).1))), some (.int (nI ((bst τ x1 i18).2))), some (.int (nI i18)), some (.int (nI (bitsN (reachS τ x1 i18 0) 24)))]) rfl (by decide) dX3_best_36 rfl ?_
      refine G.join (pcJ := 50) (wsJ := mW dT ad τ) (LJ := [some (.ref (ad 0)), some (.int (nI x1)), some (.int (nI ((bst τ x1 i18).1))), some (.int (nI ((bst τ x1 i18).2))), some (.int (nI i18)), some (.int (nI (bitsN (reachS τ x1 i18 0) 24)))]) (stJ := []) (nI ((bst τ x1 (i18 + 1)).1)) ?_ (fun J50 => ?_)
      · refine g_istore_n (pc := 50) 2 C0 (L1 := [some (.ref (ad 0)), some (.int (nI x1)), some (.int (nI ((bst τ x1 (i18 + 1)).1))), some (.int (nI ((bst τ x1 i18).2))), some (.int (nI i18)), some (.int (nI (bitsN (reachS τ x1 i18 0) 24)))]) rfl (by decide) dX3_best_50 rfl rfl ?_
        refine G.join (pcJ := 63) (wsJ := mW dT ad τ) (LJ := [some (.ref (ad 0)), some (.int (nI x1)), some (.int (nI ((bst τ x1 (i18 + 1)).1))), some (.int (nI ((bst τ x1 i18).2))), some (.int (nI i18)), some (.int (nI (bitsN (reachS τ x1 i18 0) 24)))]) (stJ := []) (nI ((bst τ x1 (i18 + 1)).2)) ?_ (fun J63 => ?_)
        · refine g_istore_n (pc := 63) 3 C0 (L1 := [some (.ref (ad 0)), some (.int (nI x1)), some (.int (nI ((bst τ x1 (i18 + 1)).1))), some (.int (nI ((bst τ x1 (i18 + 1)).2))), some (.int (nI i18)), some (.int (nI (bitsN (reachS τ x1 i18 0) 24)))]) rfl (by decide) dX3_best_63 rfl rfl ?_
          refine g_iinc1 (pc := 64) 4 C0 (L1 := [some (.ref (ad 0)), some (.int (nI x1)), some (.int (nI ((bst τ x1 (i18 + 1)).1))), some (.int (nI ((bst τ x1 (i18 + 1)).2))), some (.int (nI (i18 + 1))), some (.int (nI (bitsN (reachS τ x1 i18 0) 24)))]) rfl rfl (by decide) dX3_best_64 rfl ?_
          refine g_goto (pc := 67) 18 C0 dX3_best_67 (by decide) ?_
          refine G.forget 5 ?_
          exact ih18
        · refine g_iload (pc := 51) 5 C0 rfl dX3_best_51 ?_
          refine g_iload_n (pc := 53) 3 C0 rfl dX3_best_53 rfl ?_
          refine g_icmp_ltN (pc := 54) 62 C0 (Nat.lt_of_le_of_lt (bitsN_le _ _) (by decide)) (by omega) dX3_best_54 (by decide) (fun h54 => ?_) (fun h54 => ?_)
          · refine g_iload_n (pc := 62) 3 C0 rfl dX3_best_62 rfl ?_
            exact J63 (nI ((bst τ x1 i18).2)) (congrArg nI (by rw [bst_s τ x1 hj18, bstF]; split <;> first | rfl | omega))
          · refine g_iload (pc := 57) 5 C0 rfl dX3_best_57 ?_
            refine g_goto (pc := 59) 63 C0 dX3_best_59 (by decide) ?_
            exact J63 (nI (bitsN (reachS τ x1 i18 0) 24)) (congrArg nI (by rw [bst_s τ x1 hj18, bstF]; split <;> first | rfl | omega))
      · refine g_iload (pc := 38) 5 C0 rfl dX3_best_38 ?_
        refine g_iload_n (pc := 40) 3 C0 rfl dX3_best_40 rfl ?_
        refine g_icmp_ltN (pc := 41) 49 C0 (Nat.lt_of_le_of_lt (bitsN_le _ _) (by decide)) (by omega) dX3_best_41 (by decide) (fun h41 => ?_) (fun h41 => ?_)
        · refine g_iload_n (pc := 49) 2 C0 rfl dX3_best_49 rfl ?_
          exact J50 (nI ((bst τ x1 i18).1)) (congrArg nI (by rw [bst_s τ x1 hj18, bstF]; split <;> first | rfl | omega))
        · refine g_iload (pc := 44) 4 C0 rfl dX3_best_44 ?_
          refine g_goto (pc := 46) 50 C0 dX3_best_46 (by decide) ?_
          exact J50 (nI i18) (congrArg nI (by rw [bst_s τ x1 hj18, bstF]; split <;> first | rfl | omega))
  · refine g_ldc (pc := 8) (v := -1000000001) C0 q1187 dX3_best_8 ?_
    exact g_iret (pc := 10) C0 dX3_best_10 ⟨by rw [pBest, h5]; rfl, rfl⟩
set_option maxHeartbeats 4000000 in
set_option maxRecDepth 100000 in
theorem mM_fits (l : Launch) (D : va_G) (dT : Nat → ClassId) (ad : Nat → Nat) (τ : tT)  (hw : wfT τ) (hp : wfP τ) (hs : wfS τ) : MI l D dT ad yX3_fits cX3_fits 5 .int ({ frames := 2, cells := 0, slots := 0, locals := 52 }) [] τ (fun rr τ' => rr = (nI (fitsS τ)) ∧ τ = τ') := by
  refine CI.ofG (own := "FittingStridesModel") (L := [some (.ref (ad 0)), none, none, none, none]) rfl (by decide) (Nat.le_of_ble_eq_true rfl) rfl ?_
  intro p' e' s' m' bl' mt' c' C0
  have hw1 := hw.1
  have hw0 := hw.2.1
  have hp0 := hp.1
  have hp1 := hp.2.1
  obtain ⟨s1, s2⟩ := id hs
  refine g_iconst (pc := 0) (v := (nI 0)) C0 dX3_fits_0 (by decide) ?_
  refine g_istore_n (pc := 1) 1 C0 (L1 := [some (.ref (ad 0)), some (.int (nI 0)), none, none, none]) rfl (by decide) dX3_fits_1 rfl rfl ?_
  refine g_iconst (pc := 2) (v := (nI 1)) C0 dX3_fits_2 (by decide) ?_
  refine g_istore_n (pc := 3) 2 C0 (L1 := [some (.ref (ad 0)), some (.int (nI 0)), some (.int (nI 1)), none, none]) rfl (by decide) dX3_fits_3 rfl rfl ?_
  refine G.loop (pc := 4) (ws := fun i => mW dT ad τ) (Lf := fun i => [some (.ref (ad 0)), some (.int (nI (fitsN τ i))), some (.int (nI i)), none, none]) (N := 25) (i0 := 1) (by omega) ?_ (fun i4 hi4 hj4 ih4 => ?_)
  · refine g_iload_n (pc := 4) 2 C0 rfl dX3_fits_4 rfl ?_
    refine g_bipush (pc := 5) (v := (nI 24)) C0 dX3_fits_5 (by decide) ?_
    refine g_icmp_gtN (pc := 7) 95 C0 (by decide) (by decide) dX3_fits_7 (by decide) (fun h7 => ?_) (fun h7 => ?_)
    rotate_left
    · exact absurd h7 (by omega)
    refine g_iload_n (pc := 95) 1 C0 rfl dX3_fits_95 rfl ?_
    exact g_iret (pc := 96) C0 dX3_fits_96 ⟨rfl, rfl⟩
  · refine g_iload_n (pc := 4) 2 C0 rfl dX3_fits_4 rfl ?_
    refine g_bipush (pc := 5) (v := (nI 24)) C0 dX3_fits_5 (by decide) ?_
    refine g_icmp_gtN (pc := 7) 95 C0 (by omega) (by decide) dX3_fits_7 (by decide) (fun h7 => ?_) (fun h7 => ?_)
    · exact absurd h7 (by omega)
    refine g_iconst (pc := 10) (v := (nI 1)) C0 dX3_fits_10 (by decide) ?_
    refine g_istore_n (pc := 11) 3 C0 (L1 := [some (.ref (ad 0)), some (.int (nI (fitsN τ i4))), some (.int (nI i4)), some (.int (nI 1)), none]) rfl (by decide) dX3_fits_11 rfl rfl ?_
    refine g_iconst (pc := 12) (v := (nI 0)) C0 dX3_fits_12 (by decide) ?_
    refine g_istore (pc := 13) 4 C0 (L1 := [some (.ref (ad 0)), some (.int (nI (fitsN τ i4))), some (.int (nI i4)), some (.int (nI 1)), some (.int (nI 0))]) rfl (by decide) dX3_fits_13 rfl ?_
    refine G.loop (pc := 15) (ws := fun i => mW dT ad τ) (Lf := fun i => [some (.ref (ad 0)), some (.int (nI (fitsN τ i4))), some (.int (nI i4)), some (.int (nI (bN (allB (seenQ τ i4) i)))), some (.int (nI i))]) (N := τ 0 34) (i0 := 0) (Nat.zero_le _) ?_ (fun i15 hi15 hj15 ih15 => ?_)
    · refine g_iload (pc := 15) 4 C0 rfl dX3_fits_15 ?_
      refine g_aload_n (pc := 17) 0 C0 rfl dX3_fits_17 rfl ?_
      refine m_get (pc := 18) (v := .int (nI (τ 0 34))) C0 34 (by decide) q1003 rfl dX3_fits_18 ?_
      refine g_icmp_geN (pc := 21) 73 C0 (by omega) (by omega) dX3_fits_21 (by decide) (fun h21 => ?_) (fun h21 => ?_)
      rotate_left
      · exact absurd h21 (by omega)
      refine g_iload_n (pc := 73) 1 C0 rfl dX3_fits_73 rfl ?_
      refine G.join (pcJ := 87) (wsJ := mW dT ad τ) (LJ := [some (.ref (ad 0)), some (.int (nI (fitsN τ i4))), some (.int (nI i4)), some (.int (nI (bN (allB (seenQ τ i4) (τ 0 34))))), some (.int (nI (τ 0 34)))]) (stJ := [.int (nI (fitsN τ i4))]) (nI (if asSeen τ i4 = true then 2 ^ (i4 - 1) else 0)) ?_ (fun J87 => ?_)
      · refine g_iorN (pc := 87) C0  dX3_fits_87 ?_
        refine g_istore_n (pc := 88) 1 C0 (L1 := [some (.ref (ad 0)), some (.int (nI ((fitsN τ i4) ||| (if asSeen τ i4 = true then 2 ^ (i4 - 1) else 0)))), some (.int (nI i4)), some (.int (nI (bN (allB (seenQ τ i4) (τ 0 34))))), some (.int (nI (τ 0 34)))]) rfl (by decide) dX3_fits_88 rfl rfl ?_
        refine g_iinc1 (pc := 89) 2 C0 (L1 := [some (.ref (ad 0)), some (.int (nI ((fitsN τ i4) ||| (if asSeen τ i4 = true then 2 ^ (i4 - 1) else 0)))), some (.int (nI (i4 + 1))), some (.int (nI (bN (allB (seenQ τ i4) (τ 0 34))))), some (.int (nI (τ 0 34)))]) rfl rfl (by decide) dX3_fits_89 rfl ?_
        refine g_goto (pc := 92) 4 C0 dX3_fits_92 (by decide) ?_
        refine G.forget 3 ?_
        refine G.forget 4 ?_
        exact G.lE (by rw [fitsN_s τ hj4]; rfl) ih4
      · refine g_iload_n (pc := 74) 3 C0 rfl dX3_fits_74 rfl ?_
        refine g_if_eqB (pc := 75) 86 C0 dX3_fits_75 (by decide) (fun h75 => ?_) (fun h75 => ?_)
        · refine g_iconst (pc := 86) (v := (nI 0)) C0 dX3_fits_86 (by decide) ?_
          exact J87 (nI 0) (congrArg nI (by simp [asSeen, h75]))
        · refine g_iconst (pc := 78) (v := (nI 1)) C0 dX3_fits_78 (by decide) ?_
          refine g_iload_n (pc := 79) 2 C0 rfl dX3_fits_79 rfl ?_
          refine g_iconst (pc := 80) (v := (nI 1)) C0 dX3_fits_80 (by decide) ?_
          refine g_isubN (pc := 81) C0 (by omega) dX3_fits_81 ?_
          refine g_ishl1N (pc := 82) C0 (by omega) dX3_fits_82 ?_
          refine g_goto (pc := 83) 87 C0 dX3_fits_83 (by decide) ?_
          exact J87 (nI (2 ^ (i4 - 1))) (congrArg nI (by simp [asSeen, h75]))
    · obtain ⟨z1, z2, z3⟩ := s2 i15 hi15
      have hrl := reachS_lt hw i4 0 (place := τ 35 i15) (by omega)
      refine g_iload (pc := 15) 4 C0 rfl dX3_fits_15 ?_
      refine g_aload_n (pc := 17) 0 C0 rfl dX3_fits_17 rfl ?_
      refine m_get (pc := 18) (v := .int (nI (τ 0 34))) C0 34 (by decide) q1003 rfl dX3_fits_18 ?_
      refine g_icmp_geN (pc := 21) 73 C0 (by omega) (by omega) dX3_fits_21 (by decide) (fun h21 => ?_) (fun h21 => ?_)
      · exact absurd h21 (by omega)
      refine G.join (pcJ := 66) (wsJ := mW dT ad τ) (LJ := [some (.ref (ad 0)), some (.int (nI (fitsN τ i4))), some (.int (nI i4)), some (.int (nI (bN (allB (seenQ τ i4) i15)))), some (.int (nI i15))]) (stJ := []) (nI (bN (allB (seenQ τ i4) (i15 + 1)))) ?_ (fun J66 => ?_)
      · refine g_istore_n (pc := 66) 3 C0 (L1 := [some (.ref (ad 0)), some (.int (nI (fitsN τ i4))), some (.int (nI i4)), some (.int (nI (bN (allB (seenQ τ i4) (i15 + 1))))), some (.int (nI i15))]) rfl (by decide) dX3_fits_66 rfl rfl ?_
        refine g_iinc1 (pc := 67) 4 C0 (L1 := [some (.ref (ad 0)), some (.int (nI (fitsN τ i4))), some (.int (nI i4)), some (.int (nI (bN (allB (seenQ τ i4) (i15 + 1))))), some (.int (nI (i15 + 1)))]) rfl rfl (by decide) dX3_fits_67 rfl ?_
        refine g_goto (pc := 70) 15 C0 dX3_fits_70 (by decide) ?_
        exact ih15
      · refine g_iload_n (pc := 24) 3 C0 rfl dX3_fits_24 rfl ?_
        refine g_if_eqB (pc := 25) 65 C0 dX3_fits_25 (by decide) (fun h25 => ?_) (fun h25 => ?_)
        · refine g_iconst (pc := 65) (v := (nI 0)) C0 dX3_fits_65 (by decide) ?_
          exact J66 (nI 0) (bret0 (by rw [allB_s, h25]; first | done | (simp [seenQ, h25] <;> omega)))
        · refine g_aload_n (pc := 28) 0 C0 rfl dX3_fits_28 rfl ?_
          refine g_aload_n (pc := 29) 0 C0 rfl dX3_fits_29 rfl ?_
          refine m_get (pc := 30) (v := .ref (ad 35)) C0 35 (by decide) q1004 rfl dX3_fits_30 ?_
          refine g_iload (pc := 33) 4 C0 rfl dX3_fits_33 ?_
          refine g_iald (pc := 35) (q0 := 20) (t0 := 0) C0 i15 rfl (fun _ => rfl) rfl (by decide) (by omega) dX3_fits_35 ?_
          refine g_iload_n (pc := 36) 2 C0 rfl dX3_fits_36 rfl ?_
          refine g_iconst (pc := 37) (v := (nI 0)) C0 dX3_fits_37 (by decide) ?_
          refine g_cvi (pc := 38) (na := 3) (As := [.int (nI (τ 35 i15)), .int (nI i4), .int (nI 0)]) (rest := []) C0 (mM_reachOf l D dT ad τ (τ 35 i15) i4 0 hw hp (by omega) (by omega) (by omega)) (q0 := 0) (j := 0) (ci := 0) (C := RX3) (T := TX3) (N := 44) rfl rfl rfl q1212 q1214 qs47 q60 q1215 (by decide +kernel) ⟨Nat.le_of_ble_eq_true rfl, Nat.le_of_ble_eq_true rfl⟩ rfl rfl ⟨Nat.le_of_ble_eq_true rfl, Nat.le_of_ble_eq_true rfl⟩ rfl rfl (Nat.le_of_ble_eq_true rfl) dX3_fits_38 (fun r τ0 hc => ?_)
          obtain ⟨rfl, rfl⟩ := hc
          refine g_aload_n (pc := 41) 0 C0 rfl dX3_fits_41 rfl ?_
          refine m_get (pc := 42) (v := .ref (ad 36)) C0 36 (by decide) q1005 rfl dX3_fits_42 ?_
          refine g_iload (pc := 45) 4 C0 rfl dX3_fits_45 ?_
          refine g_iald (pc := 47) (q0 := 21) (t0 := 0) C0 i15 rfl (fun _ => rfl) rfl (by decide) (by omega) dX3_fits_47 ?_
          refine g_csi (pc := 48) (na := 2) (As := [.int (nI (reachS τ (τ 35 i15) i4 0)), .int (nI (τ 36 i15))]) (rest := []) C0 (mM_has l (reachS τ (τ 35 i15) i4 0) (τ 36 i15) (by omega) (by omega)) q1216 q1217 q60 q1218 (by decide +kernel) ⟨Nat.le_of_ble_eq_true rfl, Nat.le_of_ble_eq_true rfl⟩ rfl rfl ⟨Nat.le_of_ble_eq_true rfl, Nat.le_of_ble_eq_true rfl⟩ rfl rfl (Nat.le_of_ble_eq_true rfl) dX3_fits_48 ?_
          refine g_aload_n (pc := 51) 0 C0 rfl dX3_fits_51 rfl ?_
          refine m_get (pc := 52) (v := .ref (ad 37)) C0 37 (by decide) q1006 rfl dX3_fits_52 ?_
          refine g_iload (pc := 55) 4 C0 rfl dX3_fits_55 ?_
          refine g_zald (pc := 57) (q0 := 22) (t0 := 1) C0 i15 rfl (fun _ => rfl) rfl (by decide) (by omega) dX3_fits_57 ?_
          refine g_icmp_neN (pc := 58) 65 C0 (Nat.lt_trans (bN_lt _) (by decide)) (by omega) dX3_fits_58 (by decide) (fun h58 => ?_) (fun h58 => ?_)
          · refine g_iconst (pc := 65) (v := (nI 0)) C0 dX3_fits_65 (by decide) ?_
            exact J66 (nI 0) (bret0 (by rw [allB_s, h25]; first | done | (simp [seenQ, h25, h58] <;> omega)))
          · refine g_iconst (pc := 61) (v := (nI 1)) C0 dX3_fits_61 (by decide) ?_
            refine g_goto (pc := 62) 66 C0 dX3_fits_62 (by decide) ?_
            exact J66 (nI 1) (bret1 (by rw [allB_s, h25]; first | done | (simp [seenQ, h25, h58] <;> omega)))
set_option maxHeartbeats 4000000 in
set_option maxRecDepth 100000 in
theorem mM_cover (l : Launch) (D : va_G) (dT : Nat → ClassId) (ad : Nat → Nat) (τ : tT)  (hw : wfT τ) (hp : wfP τ) : MI l D dT ad yX3_cover cX3_cover 5 .int ({ frames := 3, cells := 0, slots := 0, locals := 70 }) [] τ (fun rr τ' => rr = (pCover τ) ∧ τ = τ') := by
  refine CI.ofG (own := "FittingStridesModel") (L := [some (.ref (ad 0)), none, none, none, none]) rfl (by decide) (Nat.le_of_ble_eq_true rfl) rfl ?_
  intro p' e' s' m' bl' mt' c' C0
  have hw1 := hw.1
  have hw0 := hw.2.1
  have hp0 := hp.1
  have hp1 := hp.2.1
  have hpw := pw_lt hp0
  have hpe := pw_le hp0
  refine g_iconst (pc := 0) (v := (-1)) C0 dX3_cover_0 (by decide) ?_
  refine g_istore_n (pc := 1) 1 C0 (L1 := [some (.ref (ad 0)), some (.int (-1)), none, none, none]) rfl (by decide) dX3_cover_1 rfl rfl ?_
  refine g_iconst (pc := 2) (v := (nI 0)) C0 dX3_cover_2 (by decide) ?_
  refine g_istore_n (pc := 3) 2 C0 (L1 := [some (.ref (ad 0)), some (.int (-1)), some (.int (nI 0)), none, none]) rfl (by decide) dX3_cover_3 rfl rfl ?_
  refine G.loop (pc := 4) (ws := fun i => mW dT ad τ) (Lf := fun i => [some (.ref (ad 0)), some (.int (oI (cvB τ i))), some (.int (nI i)), none, none]) (N := 2 ^ τ 0 8) (i0 := 0) (Nat.zero_le _) ?_ (fun i4 hi4 hj4 ih4 => ?_)
  · refine g_iload_n (pc := 4) 2 C0 rfl dX3_cover_4 rfl ?_
    refine g_iconst (pc := 5) (v := (nI 1)) C0 dX3_cover_5 (by decide) ?_
    refine g_aload_n (pc := 6) 0 C0 rfl dX3_cover_6 rfl ?_
    refine m_get (pc := 7) (v := .int (nI (τ 0 8))) C0 8 (by decide) q977 rfl dX3_cover_7 ?_
    refine g_ishl1N (pc := 10) C0 (by omega) dX3_cover_10 ?_
    refine g_icmp_geN (pc := 11) 90 C0 (by omega) (by omega) dX3_cover_11 (by decide) (fun h11 => ?_) (fun h11 => ?_)
    rotate_left
    · exact absurd h11 (by omega)
    refine g_iload_n (pc := 90) 1 C0 rfl dX3_cover_90 rfl ?_
    exact g_iret (pc := 91) C0 dX3_cover_91 ⟨rfl, rfl⟩
  · refine g_iload_n (pc := 4) 2 C0 rfl dX3_cover_4 rfl ?_
    refine g_iconst (pc := 5) (v := (nI 1)) C0 dX3_cover_5 (by decide) ?_
    refine g_aload_n (pc := 6) 0 C0 rfl dX3_cover_6 rfl ?_
    refine m_get (pc := 7) (v := .int (nI (τ 0 8))) C0 8 (by decide) q977 rfl dX3_cover_7 ?_
    refine g_ishl1N (pc := 10) C0 (by omega) dX3_cover_10 ?_
    refine g_icmp_geN (pc := 11) 90 C0 (by omega) (by omega) dX3_cover_11 (by decide) (fun h11 => ?_) (fun h11 => ?_)
    · exact absurd h11 (by omega)
    refine G.join (pcJ := 34) (wsJ := mW dT ad τ) (LJ := [some (.ref (ad 0)), some (.int (oI (cvB τ i4))), some (.int (nI i4)), none, none]) (stJ := []) (nI (bN (fewB i4 (cvB τ i4)))) ?_ (fun J34 => ?_)
    · refine g_istore_n (pc := 34) 3 C0 (L1 := [some (.ref (ad 0)), some (.int (oI (cvB τ i4))), some (.int (nI i4)), some (.int (nI (bN (fewB i4 (cvB τ i4))))), none]) rfl (by decide) dX3_cover_34 rfl rfl ?_
      refine G.lE (L' := [some (.ref (ad 0)), some (.int (oI (cvB τ i4))), some (.int (nI i4)), some (.int (nI (bN (cvA τ i4 (cvB τ i4) 0)))), none]) (by simp [cvA, allB]) ?_
      refine G.meet (pcJ := 74) (wsJ := mW dT ad τ) (LJ := [some (.ref (ad 0)), some (.int (oI (cvB τ i4))), some (.int (nI i4)), some (.int (nI (bN (cvA τ i4 (cvB τ i4) (τ 0 1))))), none]) (stJ := []) ?_ (fun J74 => ?_)
      · refine G.join (pcJ := 83) (wsJ := mW dT ad τ) (LJ := [some (.ref (ad 0)), some (.int (oI (cvB τ i4))), some (.int (nI i4)), some (.int (nI (bN (cvA τ i4 (cvB τ i4) (τ 0 1))))), none]) (stJ := []) (oI (cvB τ (i4 + 1))) ?_ (fun J83 => ?_)
        · refine g_istore_n (pc := 83) 1 C0 (L1 := [some (.ref (ad 0)), some (.int (oI (cvB τ (i4 + 1)))), some (.int (nI i4)), some (.int (nI (bN (cvA τ i4 (cvB τ i4) (τ 0 1))))), none]) rfl (by decide) dX3_cover_83 rfl rfl ?_
          refine g_iinc1 (pc := 84) 2 C0 (L1 := [some (.ref (ad 0)), some (.int (oI (cvB τ (i4 + 1)))), some (.int (nI (i4 + 1))), some (.int (nI (bN (cvA τ i4 (cvB τ i4) (τ 0 1))))), none]) rfl rfl (by decide) dX3_cover_84 rfl ?_
          refine g_goto (pc := 87) 4 C0 dX3_cover_87 (by decide) ?_
          refine G.forget 3 ?_
          exact ih4
        · refine g_iload_n (pc := 74) 3 C0 rfl dX3_cover_74 rfl ?_
          refine g_if_eqB (pc := 75) 82 C0 dX3_cover_75 (by decide) (fun h75 => ?_) (fun h75 => ?_)
          · refine g_iload_n (pc := 82) 1 C0 rfl dX3_cover_82 rfl ?_
            exact J83 (oI (cvB τ i4)) (by rw [cvB_s, h75]; rfl)
          · refine g_iload_n (pc := 78) 2 C0 rfl dX3_cover_78 rfl ?_
            refine g_goto (pc := 79) 83 C0 dX3_cover_79 (by decide) ?_
            exact J83 (nI i4) (by rw [cvB_s, h75]; rfl)
      · refine G.lE (L' := [some (.ref (ad 0)), some (.int (oI (cvB τ i4))), some (.int (nI i4)), some (.int (nI (bN (cvA τ i4 (cvB τ i4) 0)))), none]) (by simp [cvA, allB]) ?_
        refine g_iconst (pc := 35) (v := (nI 0)) C0 dX3_cover_35 (by decide) ?_
        refine g_istore (pc := 36) 4 C0 (L1 := [some (.ref (ad 0)), some (.int (oI (cvB τ i4))), some (.int (nI i4)), some (.int (nI (bN (cvA τ i4 (cvB τ i4) 0)))), some (.int (nI 0))]) rfl (by decide) dX3_cover_36 rfl ?_
        refine G.loop (pc := 38) (ws := fun i => mW dT ad τ) (Lf := fun i => [some (.ref (ad 0)), some (.int (oI (cvB τ i4))), some (.int (nI i4)), some (.int (nI (bN (cvA τ i4 (cvB τ i4) i)))), some (.int (nI i))]) (N := τ 0 1) (i0 := 0) (Nat.zero_le _) ?_ (fun i38 hi38 hj38 ih38 => ?_)
        · refine g_iload (pc := 38) 4 C0 rfl dX3_cover_38 ?_
          refine g_aload_n (pc := 40) 0 C0 rfl dX3_cover_40 rfl ?_
          refine m_get (pc := 41) (v := .int (nI (τ 0 1))) C0 1 (by decide) q970 rfl dX3_cover_41 ?_
          refine g_icmp_geN (pc := 44) 74 C0 (by omega) (by omega) dX3_cover_44 (by decide) (fun h44 => ?_) (fun h44 => ?_)
          rotate_left
          · exact absurd h44 (by omega)
          refine G.forget 4 ?_
          exact J74
        · refine g_iload (pc := 38) 4 C0 rfl dX3_cover_38 ?_
          refine g_aload_n (pc := 40) 0 C0 rfl dX3_cover_40 rfl ?_
          refine m_get (pc := 41) (v := .int (nI (τ 0 1))) C0 1 (by decide) q970 rfl dX3_cover_41 ?_
          refine g_icmp_geN (pc := 44) 74 C0 (by omega) (by omega) dX3_cover_44 (by decide) (fun h44 => ?_) (fun h44 => ?_)
          · exact absurd h44 (by omega)
          refine g_iload_n (pc := 47) 3 C0 rfl dX3_cover_47 rfl ?_
          refine g_if_eqB (pc := 48) 74 C0 dX3_cover_48 (by decide) (fun h48 => ?_) (fun h48 => ?_)
          · refine G.forget 4 ?_
            exact G.lE (by rw [cvA_f h48 (Nat.le_of_lt hi38), h48]; rfl) J74
          · refine G.join (pcJ := 67) (wsJ := mW dT ad τ) (LJ := [some (.ref (ad 0)), some (.int (oI (cvB τ i4))), some (.int (nI i4)), some (.int (nI (bN (cvA τ i4 (cvB τ i4) i38)))), some (.int (nI i38))]) (stJ := []) (nI (bN (cvA τ i4 (cvB τ i4) (i38 + 1)))) ?_ (fun J67 => ?_)
            · refine g_istore_n (pc := 67) 3 C0 (L1 := [some (.ref (ad 0)), some (.int (oI (cvB τ i4))), some (.int (nI i4)), some (.int (nI (bN (cvA τ i4 (cvB τ i4) (i38 + 1))))), some (.int (nI i38))]) rfl (by decide) dX3_cover_67 rfl rfl ?_
              refine g_iinc1 (pc := 68) 4 C0 (L1 := [some (.ref (ad 0)), some (.int (oI (cvB τ i4))), some (.int (nI i4)), some (.int (nI (bN (cvA τ i4 (cvB τ i4) (i38 + 1))))), some (.int (nI (i38 + 1)))]) rfl rfl (by decide) dX3_cover_68 rfl ?_
              refine g_goto (pc := 71) 38 C0 dX3_cover_71 (by decide) ?_
              exact ih38
            · refine g_aload_n (pc := 51) 0 C0 rfl dX3_cover_51 rfl ?_
              refine g_iload (pc := 52) 4 C0 rfl dX3_cover_52 ?_
              refine g_cvi (pc := 54) (na := 1) (As := [.int (nI i38)]) (rest := []) C0 (mM_climbers l D dT ad τ i38 hw hp (by omega)) (q0 := 0) (j := 0) (ci := 0) (C := RX3) (T := TX3) (N := 44) rfl rfl rfl q1188 q1190 qs42 q60 q1191 (by decide +kernel) ⟨Nat.le_of_ble_eq_true rfl, Nat.le_of_ble_eq_true rfl⟩ rfl rfl ⟨Nat.le_of_ble_eq_true rfl, Nat.le_of_ble_eq_true rfl⟩ rfl rfl (Nat.le_of_ble_eq_true rfl) dX3_cover_54 (fun r τ0 hc => ?_)
              obtain ⟨rfl, rfl⟩ := hc
              refine g_iload_n (pc := 57) 2 C0 rfl dX3_cover_57 rfl ?_
              refine g_iandN (pc := 58) C0  dX3_cover_58 ?_
              refine g_if_eqN (pc := 59) 66 C0 (Nat.lt_of_le_of_lt Nat.and_le_right (by omega)) dX3_cover_59 (by decide) (fun h59 => ?_) (fun h59 => ?_)
              · refine g_iconst (pc := 66) (v := (nI 0)) C0 dX3_cover_66 (by decide) ?_
                exact J67 (nI 0) (bret0 (by rw [cvA_s, h48]; first | done | (simp [cvQ, h48, h59] <;> omega)))
              · refine g_iconst (pc := 62) (v := (nI 1)) C0 dX3_cover_62 (by decide) ?_
                refine g_goto (pc := 63) 67 C0 dX3_cover_63 (by decide) ?_
                exact J67 (nI 1) (bret1 (by rw [cvA_s, h48]; first | done | (simp [cvQ, h48, h59] <;> omega)))
    · refine g_iload_n (pc := 14) 1 C0 rfl dX3_cover_14 rfl ?_
      refine g_if_lt (pc := 15) 29 C0 dX3_cover_15 (by decide) (fun h15 => ?_) (fun h15 => ?_)
      · refine g_iconst (pc := 29) (v := (nI 1)) C0 dX3_cover_29 (by decide) ?_
        refine g_goto (pc := 30) 34 C0 dX3_cover_30 (by decide) ?_
        exact J34 (nI 1) (bret1 (by rw [oI_none (cvB_lt2 (by omega)) h15]; rfl))
      · obtain ⟨bb, hbb⟩ := oI_some h15
        have hb3 := cvB_lt _ _ _ hbb
        refine G.lE (L' := [some (.ref (ad 0)), some (.int (nI bb)), some (.int (nI i4)), none, none]) (by rw [hbb]; rfl) ?_
        refine g_iload_n (pc := 18) 2 C0 rfl dX3_cover_18 rfl ?_
        refine g_csi (pc := 19) (na := 1) (As := [.int (nI i4)]) (rest := []) C0 (mM_bits l i4 (by omega)) q1292 q1293 q60 q1294 (by decide +kernel) ⟨Nat.le_of_ble_eq_true rfl, Nat.le_of_ble_eq_true rfl⟩ rfl rfl ⟨Nat.le_of_ble_eq_true rfl, Nat.le_of_ble_eq_true rfl⟩ rfl rfl (Nat.le_of_ble_eq_true rfl) dX3_cover_19 ?_
        refine g_iload_n (pc := 22) 1 C0 rfl dX3_cover_22 rfl ?_
        refine g_csi (pc := 23) (na := 1) (As := [.int (nI bb)]) (rest := [.int (nI (bitsN i4 24))]) C0 (mM_bits l bb (by omega)) q1292 q1293 q60 q1294 (by decide +kernel) ⟨Nat.le_of_ble_eq_true rfl, Nat.le_of_ble_eq_true rfl⟩ rfl rfl ⟨Nat.le_of_ble_eq_true rfl, Nat.le_of_ble_eq_true rfl⟩ rfl rfl (Nat.le_of_ble_eq_true rfl) dX3_cover_23 ?_
        refine g_icmp_geN (pc := 26) 33 C0 (Nat.lt_of_le_of_lt (bitsN_le _ _) (by decide)) (Nat.lt_of_le_of_lt (bitsN_le _ _) (by decide)) dX3_cover_26 (by decide) (fun h26 => ?_) (fun h26 => ?_)
        · refine g_iconst (pc := 33) (v := (nI 0)) C0 dX3_cover_33 (by decide) ?_
          refine G.lE (L' := [some (.ref (ad 0)), some (.int (oI (cvB τ i4))), some (.int (nI i4)), none, none]) (by rw [hbb]; rfl) ?_
          exact J34 (nI 0) (bret0 (by rw [hbb]; simp [fewB]; omega))
        · refine g_iconst (pc := 29) (v := (nI 1)) C0 dX3_cover_29 (by decide) ?_
          refine g_goto (pc := 30) 34 C0 dX3_cover_30 (by decide) ?_
          refine G.lE (L' := [some (.ref (ad 0)), some (.int (oI (cvB τ i4))), some (.int (nI i4)), none, none]) (by rw [hbb]; rfl) ?_
          exact J34 (nI 1) (bret1 (by rw [hbb]; simp [fewB]; omega))
set_option maxHeartbeats 4000000 in
set_option maxRecDepth 100000 in
theorem mM_step (l : Launch) (D : va_G) (dT : Nat → ClassId) (ad : Nat → Nat) (τ : tT) (r : Int32) (x : Int32) (y : Int32) (w : Int32) (hw : wfT τ) (hp : wfP τ) : MI l D dT ad yX3_step cX3_step 7 .int ({ frames := 3, cells := 0, slots := 0, locals := 70 }) [.int r, .int x, .int y, .int w] τ (fun rr τ' => rr = (pStep τ r x y w) ∧ τ = τ') := by
  refine CI.ofG (own := "FittingStridesModel") (L := [some (.ref (ad 0)), some (.int r), some (.int x), some (.int y), some (.int w), none, none]) rfl (by decide) (Nat.le_of_ble_eq_true rfl) rfl ?_
  intro p' e' s' m' bl' mt' c' C0
  have hw1 := hw.1
  have hw0 := hw.2.1
  have hp0 := hp.1
  have hp1 := hp.2.1
  refine g_aload_n (pc := 0) 0 C0 rfl dX3_step_0 rfl ?_
  refine g_iload_n (pc := 1) 1 C0 rfl dX3_step_1 rfl ?_
  refine g_cvi (pc := 2) (na := 1) (As := [.int r]) (rest := []) C0 (mM_isStair l D dT ad τ r (by omega)) (q0 := 0) (j := 0) (ci := 0) (C := RX3) (T := TX3) (N := 44) rfl rfl rfl q1183 q1185 qs41 q60 q1186 (by decide +kernel) ⟨Nat.le_of_ble_eq_true rfl, Nat.le_of_ble_eq_true rfl⟩ rfl rfl ⟨Nat.le_of_ble_eq_true rfl, Nat.le_of_ble_eq_true rfl⟩ rfl rfl (Nat.le_of_ble_eq_true rfl) dX3_step_2 (fun r τ0 hc => ?_)
  obtain ⟨rfl, rfl⟩ := hc
  refine g_if_eqB (pc := 5) 26 C0 dX3_step_5 (by decide) (fun h5 => ?_) (fun h5 => ?_)
  · refine g_ldc (pc := 26) (v := -1000000001) C0 q1187 dX3_step_26 ?_
    exact g_iret (pc := 28) C0 dX3_step_28 ⟨by simp [pStep, pBuildOk, h5]; rfl, rfl⟩
  · obtain ⟨r1, rfl, r1h, r1b⟩ := ixB_t h5
    obtain ⟨k1, k2, k3, k4, k5, k6, k7⟩ := hw.2.2 r1 r1h
    refine g_iload_n (pc := 8) 2 C0 rfl dX3_step_8 rfl ?_
    refine g_i2l (pc := 9) (v := x.toInt64) C0 dX3_step_9 rfl ?_
    refine g_lconst (pc := 10) (v := lN 0) C0 dX3_step_10 (by decide) ?_
    refine g_aload_n (pc := 11) 0 C0 rfl dX3_step_11 rfl ?_
    refine m_get (pc := 12) (v := .ref (ad 5)) C0 5 (by decide) q974 rfl dX3_step_12 ?_
    refine g_iload_n (pc := 15) 1 C0 rfl dX3_step_15 rfl ?_
    refine g_iald (pc := 16) (q0 := 4) (t0 := 0) C0 r1 rfl (fun _ => rfl) rfl (by decide) (by omega) dX3_step_16 ?_
    refine g_iconst (pc := 17) (v := (nI 1)) C0 dX3_step_17 (by decide) ?_
    refine g_isub (pc := 18) C0 dX3_step_18 ?_
    refine g_i2l (pc := 19) (v := ((nI (τ 5 r1)) - (nI 1)).toInt64) C0 dX3_step_19 rfl ?_
    refine g_csi (pc := 20) (na := 3) (As := [.long x.toInt64, .long (lN 0), .long (((nI (τ 5 r1)) - (nI 1)).toInt64)]) (rest := []) C0 (mM_in l x.toInt64 (lN 0) (((nI (τ 5 r1)) - (nI 1)).toInt64) ) q1107 q1108 q60 q1109 (by decide +kernel) ⟨Nat.le_of_ble_eq_true rfl, Nat.le_of_ble_eq_true rfl⟩ rfl rfl ⟨Nat.le_of_ble_eq_true rfl, Nat.le_of_ble_eq_true rfl⟩ rfl rfl (Nat.le_of_ble_eq_true rfl) dX3_step_20 ?_
    refine g_if_neB (pc := 23) 29 C0 dX3_step_23 (by decide) (fun h23 => ?_) (fun h23 => ?_)
    · rw [inB_ix x _ (by omega)] at h23
      obtain ⟨x1, rfl, x1h, x1b⟩ := ixB_t h23
      obtain ⟨k8, k9⟩ := k7 x1 x1h
      refine g_iload_n (pc := 29) 3 C0 rfl dX3_step_29 rfl ?_
      refine g_iconst (pc := 30) (v := (nI 1)) C0 dX3_step_30 (by decide) ?_
      refine g_icmp_eq (pc := 31) 39 C0 dX3_step_31 (by decide) (fun h31 => ?_) (fun h31 => ?_)
      · subst h31
        refine g_iload (pc := 39) 4 C0 rfl dX3_step_39 ?_
        refine g_i2l (pc := 41) (v := w.toInt64) C0 dX3_step_41 rfl ?_
        refine g_lconst (pc := 42) (v := lN 0) C0 dX3_step_42 (by decide) ?_
        refine g_lconst (pc := 43) (v := lN 1) C0 dX3_step_43 (by decide) ?_
        refine g_csi (pc := 44) (na := 3) (As := [.long w.toInt64, .long (lN 0), .long (lN 1)]) (rest := []) C0 (mM_in l w.toInt64 (lN 0) (lN 1) ) q1107 q1108 q60 q1109 (by decide +kernel) ⟨Nat.le_of_ble_eq_true rfl, Nat.le_of_ble_eq_true rfl⟩ rfl rfl ⟨Nat.le_of_ble_eq_true rfl, Nat.le_of_ble_eq_true rfl⟩ rfl rfl (Nat.le_of_ble_eq_true rfl) dX3_step_44 ?_
        refine g_if_eqB (pc := 47) 73 C0 dX3_step_47 (by decide) (fun h47 => ?_) (fun h47 => ?_)
        · rw [inB_rg w (lo := 0) (hi := 1) (by decide) (by decide)] at h47
          refine g_ldc (pc := 73) (v := -1000000002) C0 q1110 dX3_step_73 ?_
          exact g_iret (pc := 75) C0 dX3_step_75 ⟨by rw [pStep, pBuildOk, h5, nI_clamp r1b, h23, Bool.and_true, if_pos rfl, nI_clamp x1b, if_neg (fun c => by rw [c.2.1] at h47; cases h47)]; rfl, rfl⟩
        · rw [inB_rg w (lo := 0) (hi := 1) (by decide) (by decide)] at h47
          refine g_aload_n (pc := 50) 0 C0 rfl dX3_step_50 rfl ?_
          refine m_get (pc := 51) (v := .ref (ad 6)) C0 6 (by decide) q975 rfl dX3_step_51 ?_
          refine g_iconst (pc := 54) (v := (nI 3)) C0 dX3_step_54 (by decide) ?_
          refine g_iload_n (pc := 55) 1 C0 rfl dX3_step_55 rfl ?_
          refine g_imulN (pc := 56) C0  dX3_step_56 ?_
          refine g_iload_n (pc := 57) 2 C0 rfl dX3_step_57 rfl ?_
          refine g_iaddN (pc := 58) C0  dX3_step_58 ?_
          refine g_iald (pc := 59) (q0 := 5) (t0 := 0) C0 ((3 * r1) + x1) rfl (fun _ => rfl) rfl (by decide) (by omega) dX3_step_59 ?_
          refine g_iload_n (pc := 60) 3 C0 rfl dX3_step_60 rfl ?_
          refine g_iaddN (pc := 61) C0 dX3_step_61 ?_
          refine g_i2l (pc := 62) (v := lN ((τ 6 (3 * r1 + x1)) + 1)) C0 dX3_step_62 (nI_l (by omega)) ?_
          refine g_lconst (pc := 63) (v := lN 1) C0 dX3_step_63 (by decide) ?_
          have c64 : Jvm.Cond.constantLong "FittingStridesModel" 248 (lN 720) ∈ lw_all := q1241
          refine g_ldc2 (pc := 64) (v := lN 720) C0 c64 dX3_step_64 ?_
          refine g_csi (pc := 67) (na := 3) (As := [.long (lN ((τ 6 (3 * r1 + x1)) + 1)), .long (lN 1), .long (lN 720)]) (rest := []) C0 (mM_in l (lN ((τ 6 (3 * r1 + x1)) + 1)) (lN 1) (lN 720) ) q1107 q1108 q60 q1109 (by decide +kernel) ⟨Nat.le_of_ble_eq_true rfl, Nat.le_of_ble_eq_true rfl⟩ rfl rfl ⟨Nat.le_of_ble_eq_true rfl, Nat.le_of_ble_eq_true rfl⟩ rfl rfl (Nat.le_of_ble_eq_true rfl) dX3_step_67 ?_
          refine g_if_neB (pc := 70) 76 C0 dX3_step_70 (by decide) (fun h70 => ?_) (fun h70 => ?_)
          · rw [inB_n (by omega) (by decide) (by decide)] at h70
            have h71 := of_decide_eq_true h70
            refine g_aload_n (pc := 76) 0 C0 rfl dX3_step_76 rfl ?_
            refine g_iload_n (pc := 77) 1 C0 rfl dX3_step_77 rfl ?_
            refine g_cvi (pc := 78) (na := 1) (As := [.int (nI r1)]) (rest := []) C0 (mM_climbers l D dT ad τ r1 hw hp (by omega)) (q0 := 0) (j := 0) (ci := 0) (C := RX3) (T := TX3) (N := 44) rfl rfl rfl q1188 q1190 qs42 q60 q1191 (by decide +kernel) ⟨Nat.le_of_ble_eq_true rfl, Nat.le_of_ble_eq_true rfl⟩ rfl rfl ⟨Nat.le_of_ble_eq_true rfl, Nat.le_of_ble_eq_true rfl⟩ rfl rfl (Nat.le_of_ble_eq_true rfl) dX3_step_78 (fun r τ0 hc => ?_)
            obtain ⟨rfl, rfl⟩ := hc
            refine g_istore (pc := 81) 5 C0 (L1 := [some (.ref (ad 0)), some (.int (nI r1)), some (.int (nI x1)), some (.int (nI 1)), some (.int w), some (.int (nI (sClimb τ r1))), none]) rfl (by decide) dX3_step_81 rfl ?_
            refine g_aload_n (pc := 83) 0 C0 rfl dX3_step_83 rfl ?_
            refine m_get (pc := 84) (v := .ref (ad 6)) C0 6 (by decide) q975 rfl dX3_step_84 ?_
            refine g_iconst (pc := 87) (v := (nI 3)) C0 dX3_step_87 (by decide) ?_
            refine g_iload_n (pc := 88) 1 C0 rfl dX3_step_88 rfl ?_
            refine g_imulN (pc := 89) C0  dX3_step_89 ?_
            refine g_iload_n (pc := 90) 2 C0 rfl dX3_step_90 rfl ?_
            refine g_iaddN (pc := 91) C0  dX3_step_91 ?_
            refine g_dup2 (pc := 92) C0 dX3_step_92 rfl rfl ?_
            refine g_iald (pc := 93) (q0 := 5) (t0 := 0) C0 ((3 * r1) + x1) rfl (fun _ => rfl) rfl (by decide) (by omega) dX3_step_93 ?_
            refine g_iload_n (pc := 94) 3 C0 rfl dX3_step_94 rfl ?_
            refine g_iaddN (pc := 95) C0 dX3_step_95 ?_
            refine g_iast (pc := 96) (q0 := 5) (t0 := 0) C0 ((3 * r1) + x1) ((τ 6 (3 * r1 + x1)) + 1) mNd rfl (fun _ => rfl) rfl (by decide) (by omega) dX3_step_96 ?_
            have hw2 : wfT (upc τ 6 (3 * r1 + x1) ((τ 6 (3 * r1 + x1)) + 1)) := wfT_step hw r1h x1h (by omega) (by omega)
            have hp2 : wfP (upc τ 6 (3 * r1 + x1) ((τ 6 (3 * r1 + x1)) + 1)) := wfP_of (τ := τ) (τ' := (upc τ 6 (3 * r1 + x1) ((τ 6 (3 * r1 + x1)) + 1))) rfl rfl rfl rfl rfl rfl hp
            have hcl2 := sClimb_lt hp2 r1
            have hcl1 := sClimb_lt hp r1
            refine g_aload_n (pc := 97) 0 C0 rfl dX3_step_97 rfl ?_
            refine g_iload_n (pc := 98) 1 C0 rfl dX3_step_98 rfl ?_
            refine g_cvi (pc := 99) (na := 1) (As := [.int (nI r1)]) (rest := []) C0 (mM_climbers l D dT ad (upc τ 6 ((3 * r1) + x1) ((τ 6 (3 * r1 + x1)) + 1)) r1 hw2 hp2 r1h) (q0 := 0) (j := 0) (ci := 0) (C := RX3) (T := TX3) (N := 44) rfl rfl rfl q1188 q1190 qs42 q60 q1191 (by decide +kernel) ⟨Nat.le_of_ble_eq_true rfl, Nat.le_of_ble_eq_true rfl⟩ rfl rfl ⟨Nat.le_of_ble_eq_true rfl, Nat.le_of_ble_eq_true rfl⟩ rfl rfl (Nat.le_of_ble_eq_true rfl) dX3_step_99 (fun r τ0 hc => ?_)
            obtain ⟨rfl, rfl⟩ := hc
            refine g_istore (pc := 102) 6 C0 (L1 := [some (.ref (ad 0)), some (.int (nI r1)), some (.int (nI x1)), some (.int (nI 1)), some (.int w), some (.int (nI (sClimb τ r1))), some (.int (nI (sClimb (upc τ 6 ((3 * r1) + x1) ((τ 6 (3 * r1 + x1)) + 1)) r1)))]) rfl (by decide) dX3_step_102 rfl ?_
            refine g_aload_n (pc := 104) 0 C0 rfl dX3_step_104 rfl ?_
            refine m_get (pc := 105) (v := .ref (ad 6)) C0 6 (by decide) q975 rfl dX3_step_105 ?_
            refine g_iconst (pc := 108) (v := (nI 3)) C0 dX3_step_108 (by decide) ?_
            refine g_iload_n (pc := 109) 1 C0 rfl dX3_step_109 rfl ?_
            refine g_imulN (pc := 110) C0  dX3_step_110 ?_
            refine g_iload_n (pc := 111) 2 C0 rfl dX3_step_111 rfl ?_
            refine g_iaddN (pc := 112) C0  dX3_step_112 ?_
            refine g_dup2 (pc := 113) C0 dX3_step_113 rfl rfl ?_
            refine g_iald (pc := 114) (q0 := 5) (t0 := 0) C0 ((3 * r1) + x1) rfl (fun _ => rfl) rfl (by decide) (by omega) dX3_step_114 ?_
            refine G.stE (st' := [.int (nI ((τ 6 (3 * r1 + x1)) + 1)), .int (nI ((3 * r1) + x1)), .ref (ad 6)]) (by rw [upc_hit]) ?_
            refine g_iload_n (pc := 115) 3 C0 rfl dX3_step_115 rfl ?_
            refine g_isubE (pc := 116) C0 (add_sub1 _) dX3_step_116 ?_
            refine g_iast (pc := 117) (q0 := 5) (t0 := 0) C0 ((3 * r1) + x1) (τ 6 (3 * r1 + x1)) mNd rfl (fun _ => rfl) rfl (by decide) (by omega) dX3_step_117 ?_
            refine G.wsE (ws' := mW dT ad τ) (by rw [upc_upc, upc_self]) ?_
            refine g_iload (pc := 118) 4 C0 rfl dX3_step_118 ?_
            refine g_if_neX (pc := 120) 136 C0 dX3_step_120 (by decide) (fun h120 => ?_) (fun h120 => ?_)
            · refine g_iload (pc := 136) 5 C0 rfl dX3_step_136 ?_
              refine g_iload (pc := 138) 6 C0 rfl dX3_step_138 ?_
              refine g_iconst (pc := 140) (v := (-1)) C0 dX3_step_140 (by decide) ?_
              refine g_ixor (pc := 141) C0 dX3_step_141 ?_
              refine g_iandE (pc := 142) C0 (nd_N (by omega) (by omega)) dX3_step_142 ?_
              refine g_csi (pc := 143) (na := 1) (As := [.int (nI (ndS (sClimb τ r1) (sClimb (upc τ 6 ((3 * r1) + x1) ((τ 6 (3 * r1 + x1)) + 1)) r1)))]) (rest := []) C0 (mM_bits l (ndS (sClimb τ r1) (sClimb (upc τ 6 ((3 * r1) + x1) ((τ 6 (3 * r1 + x1)) + 1)) r1)) (Nat.lt_trans (ndS_lt (by omega)) (by decide))) q1292 q1293 q60 q1294 (by decide +kernel) ⟨Nat.le_of_ble_eq_true rfl, Nat.le_of_ble_eq_true rfl⟩ rfl rfl ⟨Nat.le_of_ble_eq_true rfl, Nat.le_of_ble_eq_true rfl⟩ rfl rfl (Nat.le_of_ble_eq_true rfl) dX3_step_143 ?_
              exact g_iret (pc := 146) C0 dX3_step_146 ⟨by rw [pStep, pBuildOk, h5, nI_clamp r1b, h23, Bool.and_true, if_pos rfl, nI_clamp x1b, if_pos ⟨Or.inl rfl, h47, fun _ => by omega, fun h => absurd h (by decide)⟩, decide_eq_true (rfl : nI 1 = nI 1), stepV, if_neg h120, climbW, if_pos rfl], rfl⟩
            · refine g_iload (pc := 123) 6 C0 rfl dX3_step_123 ?_
              refine g_iload (pc := 125) 5 C0 rfl dX3_step_125 ?_
              refine g_iconst (pc := 127) (v := (-1)) C0 dX3_step_127 (by decide) ?_
              refine g_ixor (pc := 128) C0 dX3_step_128 ?_
              refine g_iandE (pc := 129) C0 (nd_N (by omega) (by omega)) dX3_step_129 ?_
              refine g_csi (pc := 130) (na := 1) (As := [.int (nI (ndS (sClimb (upc τ 6 ((3 * r1) + x1) ((τ 6 (3 * r1 + x1)) + 1)) r1) (sClimb τ r1)))]) (rest := []) C0 (mM_bits l (ndS (sClimb (upc τ 6 ((3 * r1) + x1) ((τ 6 (3 * r1 + x1)) + 1)) r1) (sClimb τ r1)) (Nat.lt_trans (ndS_lt (by omega)) (by decide))) q1292 q1293 q60 q1294 (by decide +kernel) ⟨Nat.le_of_ble_eq_true rfl, Nat.le_of_ble_eq_true rfl⟩ rfl rfl ⟨Nat.le_of_ble_eq_true rfl, Nat.le_of_ble_eq_true rfl⟩ rfl rfl (Nat.le_of_ble_eq_true rfl) dX3_step_130 ?_
              refine g_goto (pc := 133) 146 C0 dX3_step_133 (by decide) ?_
              exact g_iret (pc := 146) C0 dX3_step_146 ⟨by rw [pStep, pBuildOk, h5, nI_clamp r1b, h23, Bool.and_true, if_pos rfl, nI_clamp x1b, if_pos ⟨Or.inl rfl, h47, fun _ => by omega, fun h => absurd h (by decide)⟩, decide_eq_true (rfl : nI 1 = nI 1), stepV, if_pos h120, climbW, if_pos rfl], rfl⟩
          · rw [inB_n (by omega) (by decide) (by decide)] at h70
            refine g_ldc (pc := 73) (v := -1000000002) C0 q1110 dX3_step_73 ?_
            exact g_iret (pc := 75) C0 dX3_step_75 ⟨by rw [pStep, pBuildOk, h5, nI_clamp r1b, h23, Bool.and_true, if_pos rfl, nI_clamp x1b, if_neg (fun c => by have q1 := of_decide_eq_false h70; have q2 := c.2.2.1 rfl; omega)]; rfl, rfl⟩
      · refine g_iload_n (pc := 34) 3 C0 rfl dX3_step_34 rfl ?_
        refine g_iconst (pc := 35) (v := (-1)) C0 dX3_step_35 (by decide) ?_
        refine g_icmp_ne (pc := 36) 73 C0 dX3_step_36 (by decide) (fun h36 => ?_) (fun h36 => ?_)
        · refine g_ldc (pc := 73) (v := -1000000002) C0 q1110 dX3_step_73 ?_
          exact g_iret (pc := 75) C0 dX3_step_75 ⟨by rw [pStep, pBuildOk, h5, nI_clamp r1b, h23, Bool.and_true, if_pos rfl, nI_clamp x1b, if_neg (fun c => c.1.elim h31 h36)]; rfl, rfl⟩
        · subst h36
          refine g_iload (pc := 39) 4 C0 rfl dX3_step_39 ?_
          refine g_i2l (pc := 41) (v := w.toInt64) C0 dX3_step_41 rfl ?_
          refine g_lconst (pc := 42) (v := lN 0) C0 dX3_step_42 (by decide) ?_
          refine g_lconst (pc := 43) (v := lN 1) C0 dX3_step_43 (by decide) ?_
          refine g_csi (pc := 44) (na := 3) (As := [.long w.toInt64, .long (lN 0), .long (lN 1)]) (rest := []) C0 (mM_in l w.toInt64 (lN 0) (lN 1) ) q1107 q1108 q60 q1109 (by decide +kernel) ⟨Nat.le_of_ble_eq_true rfl, Nat.le_of_ble_eq_true rfl⟩ rfl rfl ⟨Nat.le_of_ble_eq_true rfl, Nat.le_of_ble_eq_true rfl⟩ rfl rfl (Nat.le_of_ble_eq_true rfl) dX3_step_44 ?_
          refine g_if_eqB (pc := 47) 73 C0 dX3_step_47 (by decide) (fun h47 => ?_) (fun h47 => ?_)
          · rw [inB_rg w (lo := 0) (hi := 1) (by decide) (by decide)] at h47
            refine g_ldc (pc := 73) (v := -1000000002) C0 q1110 dX3_step_73 ?_
            exact g_iret (pc := 75) C0 dX3_step_75 ⟨by rw [pStep, pBuildOk, h5, nI_clamp r1b, h23, Bool.and_true, if_pos rfl, nI_clamp x1b, if_neg (fun c => by rw [c.2.1] at h47; cases h47)]; rfl, rfl⟩
          · rw [inB_rg w (lo := 0) (hi := 1) (by decide) (by decide)] at h47
            refine g_aload_n (pc := 50) 0 C0 rfl dX3_step_50 rfl ?_
            refine m_get (pc := 51) (v := .ref (ad 6)) C0 6 (by decide) q975 rfl dX3_step_51 ?_
            refine g_iconst (pc := 54) (v := (nI 3)) C0 dX3_step_54 (by decide) ?_
            refine g_iload_n (pc := 55) 1 C0 rfl dX3_step_55 rfl ?_
            refine g_imulN (pc := 56) C0  dX3_step_56 ?_
            refine g_iload_n (pc := 57) 2 C0 rfl dX3_step_57 rfl ?_
            refine g_iaddN (pc := 58) C0  dX3_step_58 ?_
            refine g_iald (pc := 59) (q0 := 5) (t0 := 0) C0 ((3 * r1) + x1) rfl (fun _ => rfl) rfl (by decide) (by omega) dX3_step_59 ?_
            refine g_iload_n (pc := 60) 3 C0 rfl dX3_step_60 rfl ?_
            refine g_iaddE (pc := 61) C0 (sb_m1 (by omega)) dX3_step_61 ?_
            refine g_i2l (pc := 62) (v := lN ((τ 6 (3 * r1 + x1)) - 1)) C0 dX3_step_62 (nI_l (by omega)) ?_
            refine g_lconst (pc := 63) (v := lN 1) C0 dX3_step_63 (by decide) ?_
            have c64 : Jvm.Cond.constantLong "FittingStridesModel" 248 (lN 720) ∈ lw_all := q1241
            refine g_ldc2 (pc := 64) (v := lN 720) C0 c64 dX3_step_64 ?_
            refine g_csi (pc := 67) (na := 3) (As := [.long (lN ((τ 6 (3 * r1 + x1)) - 1)), .long (lN 1), .long (lN 720)]) (rest := []) C0 (mM_in l (lN ((τ 6 (3 * r1 + x1)) - 1)) (lN 1) (lN 720) ) q1107 q1108 q60 q1109 (by decide +kernel) ⟨Nat.le_of_ble_eq_true rfl, Nat.le_of_ble_eq_true rfl⟩ rfl rfl ⟨Nat.le_of_ble_eq_true rfl, Nat.le_of_ble_eq_true rfl⟩ rfl rfl (Nat.le_of_ble_eq_true rfl) dX3_step_67 ?_
            refine g_if_neB (pc := 70) 76 C0 dX3_step_70 (by decide) (fun h70 => ?_) (fun h70 => ?_)
            · rw [inB_n (by omega) (by decide) (by decide)] at h70
              have h71 := of_decide_eq_true h70
              refine g_aload_n (pc := 76) 0 C0 rfl dX3_step_76 rfl ?_
              refine g_iload_n (pc := 77) 1 C0 rfl dX3_step_77 rfl ?_
              refine g_cvi (pc := 78) (na := 1) (As := [.int (nI r1)]) (rest := []) C0 (mM_climbers l D dT ad τ r1 hw hp (by omega)) (q0 := 0) (j := 0) (ci := 0) (C := RX3) (T := TX3) (N := 44) rfl rfl rfl q1188 q1190 qs42 q60 q1191 (by decide +kernel) ⟨Nat.le_of_ble_eq_true rfl, Nat.le_of_ble_eq_true rfl⟩ rfl rfl ⟨Nat.le_of_ble_eq_true rfl, Nat.le_of_ble_eq_true rfl⟩ rfl rfl (Nat.le_of_ble_eq_true rfl) dX3_step_78 (fun r τ0 hc => ?_)
              obtain ⟨rfl, rfl⟩ := hc
              refine g_istore (pc := 81) 5 C0 (L1 := [some (.ref (ad 0)), some (.int (nI r1)), some (.int (nI x1)), some (.int (-1)), some (.int w), some (.int (nI (sClimb τ r1))), none]) rfl (by decide) dX3_step_81 rfl ?_
              refine g_aload_n (pc := 83) 0 C0 rfl dX3_step_83 rfl ?_
              refine m_get (pc := 84) (v := .ref (ad 6)) C0 6 (by decide) q975 rfl dX3_step_84 ?_
              refine g_iconst (pc := 87) (v := (nI 3)) C0 dX3_step_87 (by decide) ?_
              refine g_iload_n (pc := 88) 1 C0 rfl dX3_step_88 rfl ?_
              refine g_imulN (pc := 89) C0  dX3_step_89 ?_
              refine g_iload_n (pc := 90) 2 C0 rfl dX3_step_90 rfl ?_
              refine g_iaddN (pc := 91) C0  dX3_step_91 ?_
              refine g_dup2 (pc := 92) C0 dX3_step_92 rfl rfl ?_
              refine g_iald (pc := 93) (q0 := 5) (t0 := 0) C0 ((3 * r1) + x1) rfl (fun _ => rfl) rfl (by decide) (by omega) dX3_step_93 ?_
              refine g_iload_n (pc := 94) 3 C0 rfl dX3_step_94 rfl ?_
              refine g_iaddE (pc := 95) C0 (sb_m1 (by omega)) dX3_step_95 ?_
              refine g_iast (pc := 96) (q0 := 5) (t0 := 0) C0 ((3 * r1) + x1) ((τ 6 (3 * r1 + x1)) - 1) mNd rfl (fun _ => rfl) rfl (by decide) (by omega) dX3_step_96 ?_
              have hw2 : wfT (upc τ 6 (3 * r1 + x1) ((τ 6 (3 * r1 + x1)) - 1)) := wfT_step hw r1h x1h (by omega) (by omega)
              have hp2 : wfP (upc τ 6 (3 * r1 + x1) ((τ 6 (3 * r1 + x1)) - 1)) := wfP_of (τ := τ) (τ' := (upc τ 6 (3 * r1 + x1) ((τ 6 (3 * r1 + x1)) - 1))) rfl rfl rfl rfl rfl rfl hp
              have hcl2 := sClimb_lt hp2 r1
              have hcl1 := sClimb_lt hp r1
              refine g_aload_n (pc := 97) 0 C0 rfl dX3_step_97 rfl ?_
              refine g_iload_n (pc := 98) 1 C0 rfl dX3_step_98 rfl ?_
              refine g_cvi (pc := 99) (na := 1) (As := [.int (nI r1)]) (rest := []) C0 (mM_climbers l D dT ad (upc τ 6 ((3 * r1) + x1) ((τ 6 (3 * r1 + x1)) - 1)) r1 hw2 hp2 r1h) (q0 := 0) (j := 0) (ci := 0) (C := RX3) (T := TX3) (N := 44) rfl rfl rfl q1188 q1190 qs42 q60 q1191 (by decide +kernel) ⟨Nat.le_of_ble_eq_true rfl, Nat.le_of_ble_eq_true rfl⟩ rfl rfl ⟨Nat.le_of_ble_eq_true rfl, Nat.le_of_ble_eq_true rfl⟩ rfl rfl (Nat.le_of_ble_eq_true rfl) dX3_step_99 (fun r τ0 hc => ?_)
              obtain ⟨rfl, rfl⟩ := hc
              refine g_istore (pc := 102) 6 C0 (L1 := [some (.ref (ad 0)), some (.int (nI r1)), some (.int (nI x1)), some (.int (-1)), some (.int w), some (.int (nI (sClimb τ r1))), some (.int (nI (sClimb (upc τ 6 ((3 * r1) + x1) ((τ 6 (3 * r1 + x1)) - 1)) r1)))]) rfl (by decide) dX3_step_102 rfl ?_
              refine g_aload_n (pc := 104) 0 C0 rfl dX3_step_104 rfl ?_
              refine m_get (pc := 105) (v := .ref (ad 6)) C0 6 (by decide) q975 rfl dX3_step_105 ?_
              refine g_iconst (pc := 108) (v := (nI 3)) C0 dX3_step_108 (by decide) ?_
              refine g_iload_n (pc := 109) 1 C0 rfl dX3_step_109 rfl ?_
              refine g_imulN (pc := 110) C0  dX3_step_110 ?_
              refine g_iload_n (pc := 111) 2 C0 rfl dX3_step_111 rfl ?_
              refine g_iaddN (pc := 112) C0  dX3_step_112 ?_
              refine g_dup2 (pc := 113) C0 dX3_step_113 rfl rfl ?_
              refine g_iald (pc := 114) (q0 := 5) (t0 := 0) C0 ((3 * r1) + x1) rfl (fun _ => rfl) rfl (by decide) (by omega) dX3_step_114 ?_
              refine G.stE (st' := [.int (nI ((τ 6 (3 * r1 + x1)) - 1)), .int (nI ((3 * r1) + x1)), .ref (ad 6)]) (by rw [upc_hit]) ?_
              refine g_iload_n (pc := 115) 3 C0 rfl dX3_step_115 rfl ?_
              refine g_isubE (pc := 116) C0 (sub_m1 (by omega)) dX3_step_116 ?_
              refine g_iast (pc := 117) (q0 := 5) (t0 := 0) C0 ((3 * r1) + x1) (τ 6 (3 * r1 + x1)) mNd rfl (fun _ => rfl) rfl (by decide) (by omega) dX3_step_117 ?_
              refine G.wsE (ws' := mW dT ad τ) (by rw [upc_upc, upc_self]) ?_
              refine g_iload (pc := 118) 4 C0 rfl dX3_step_118 ?_
              refine g_if_neX (pc := 120) 136 C0 dX3_step_120 (by decide) (fun h120 => ?_) (fun h120 => ?_)
              · refine g_iload (pc := 136) 5 C0 rfl dX3_step_136 ?_
                refine g_iload (pc := 138) 6 C0 rfl dX3_step_138 ?_
                refine g_iconst (pc := 140) (v := (-1)) C0 dX3_step_140 (by decide) ?_
                refine g_ixor (pc := 141) C0 dX3_step_141 ?_
                refine g_iandE (pc := 142) C0 (nd_N (by omega) (by omega)) dX3_step_142 ?_
                refine g_csi (pc := 143) (na := 1) (As := [.int (nI (ndS (sClimb τ r1) (sClimb (upc τ 6 ((3 * r1) + x1) ((τ 6 (3 * r1 + x1)) - 1)) r1)))]) (rest := []) C0 (mM_bits l (ndS (sClimb τ r1) (sClimb (upc τ 6 ((3 * r1) + x1) ((τ 6 (3 * r1 + x1)) - 1)) r1)) (Nat.lt_trans (ndS_lt (by omega)) (by decide))) q1292 q1293 q60 q1294 (by decide +kernel) ⟨Nat.le_of_ble_eq_true rfl, Nat.le_of_ble_eq_true rfl⟩ rfl rfl ⟨Nat.le_of_ble_eq_true rfl, Nat.le_of_ble_eq_true rfl⟩ rfl rfl (Nat.le_of_ble_eq_true rfl) dX3_step_143 ?_
                exact g_iret (pc := 146) C0 dX3_step_146 ⟨by rw [pStep, pBuildOk, h5, nI_clamp r1b, h23, Bool.and_true, if_pos rfl, nI_clamp x1b, if_pos ⟨Or.inr rfl, h47, fun h => absurd h (by decide), fun _ => by omega⟩, decide_eq_false (show ¬ (-1 : Int32) = nI 1 by decide), stepV, if_neg h120, climbW, if_neg (by decide)], rfl⟩
              · refine g_iload (pc := 123) 6 C0 rfl dX3_step_123 ?_
                refine g_iload (pc := 125) 5 C0 rfl dX3_step_125 ?_
                refine g_iconst (pc := 127) (v := (-1)) C0 dX3_step_127 (by decide) ?_
                refine g_ixor (pc := 128) C0 dX3_step_128 ?_
                refine g_iandE (pc := 129) C0 (nd_N (by omega) (by omega)) dX3_step_129 ?_
                refine g_csi (pc := 130) (na := 1) (As := [.int (nI (ndS (sClimb (upc τ 6 ((3 * r1) + x1) ((τ 6 (3 * r1 + x1)) - 1)) r1) (sClimb τ r1)))]) (rest := []) C0 (mM_bits l (ndS (sClimb (upc τ 6 ((3 * r1) + x1) ((τ 6 (3 * r1 + x1)) - 1)) r1) (sClimb τ r1)) (Nat.lt_trans (ndS_lt (by omega)) (by decide))) q1292 q1293 q60 q1294 (by decide +kernel) ⟨Nat.le_of_ble_eq_true rfl, Nat.le_of_ble_eq_true rfl⟩ rfl rfl ⟨Nat.le_of_ble_eq_true rfl, Nat.le_of_ble_eq_true rfl⟩ rfl rfl (Nat.le_of_ble_eq_true rfl) dX3_step_130 ?_
                refine g_goto (pc := 133) 146 C0 dX3_step_133 (by decide) ?_
                exact g_iret (pc := 146) C0 dX3_step_146 ⟨by rw [pStep, pBuildOk, h5, nI_clamp r1b, h23, Bool.and_true, if_pos rfl, nI_clamp x1b, if_pos ⟨Or.inr rfl, h47, fun h => absurd h (by decide), fun _ => by omega⟩, decide_eq_false (show ¬ (-1 : Int32) = nI 1 by decide), stepV, if_pos h120, climbW, if_neg (by decide)], rfl⟩
            · rw [inB_n (by omega) (by decide) (by decide)] at h70
              refine g_ldc (pc := 73) (v := -1000000002) C0 q1110 dX3_step_73 ?_
              exact g_iret (pc := 75) C0 dX3_step_75 ⟨by rw [pStep, pBuildOk, h5, nI_clamp r1b, h23, Bool.and_true, if_pos rfl, nI_clamp x1b, if_neg (fun c => by have q1 := of_decide_eq_false h70; have q2 := c.2.2.2 rfl; omega)]; rfl, rfl⟩
    · rw [inB_ix x _ (by omega)] at h23
      refine g_ldc (pc := 26) (v := -1000000001) C0 q1187 dX3_step_26 ?_
      exact g_iret (pc := 28) C0 dX3_step_28 ⟨by simp [pStep, pBuildOk, h5, nI_clamp r1b, h23]; rfl, rfl⟩
