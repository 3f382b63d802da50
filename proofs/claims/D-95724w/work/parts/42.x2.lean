/-! X, second module -/
set_option maxRecDepth 100000
set_option maxHeartbeats 4000000 in
set_option maxRecDepth 100000 in
theorem xJ_bitCount (l : Launch) (n : Nat) (hn : n < 256) : SI l yJ11_bitCount cJ11_bitCount 1 .int ({ frames := 0, cells := 0, slots := 0, locals := 0 }) [.int (nI n)] (nI (bitsN n 24)) := by
  refine CI.ofG (own := "java/lang/Integer") (L := [some (.int (nI n))]) rfl (by decide) (Nat.le_of_ble_eq_true rfl) rfl ?_
  intro p' e' s' m' bl' mt' c' C0
  refine G.lE (L' := [some (.int (nI n))]) rfl ?_
  refine g_iload_n (pc := 0) 0 C0 rfl dJ11_bitCount_0 rfl ?_
  refine g_iload_n (pc := 1) 0 C0 rfl dJ11_bitCount_1 rfl ?_
  refine g_iconst (pc := 2) (v := (nI 1)) C0 dJ11_bitCount_2 (by decide) ?_
  refine g_iushr (pc := 3) C0 dJ11_bitCount_3 ?_
  have c4 : Jvm.Cond.constant "java/lang/Integer" 265 (nI 1431655765) ∈ lw_all := q888
  refine g_ldcw (pc := 4) (v := nI 1431655765) C0 c4 dJ11_bitCount_4 ?_
  refine g_iand (pc := 7) C0 dJ11_bitCount_7 ?_
  refine g_isub (pc := 8) C0 dJ11_bitCount_8 ?_
  refine g_istore_n (pc := 9) 0 C0 (L1 := [some (.int ((nI n) - ((((nI n).toUInt32 >>> ((nI 1).toUInt32 &&& Int32.toUInt32 31)).toInt32) &&& (nI 1431655765))))]) rfl (by decide) dJ11_bitCount_9 rfl rfl ?_
  refine G.lE (L' := [some (.int (bc1 (nI n)))]) rfl ?_
  refine g_iload_n (pc := 10) 0 C0 rfl dJ11_bitCount_10 rfl ?_
  have c11 : Jvm.Cond.constant "java/lang/Integer" 266 (nI 858993459) ∈ lw_all := q889
  refine g_ldcw (pc := 11) (v := nI 858993459) C0 c11 dJ11_bitCount_11 ?_
  refine g_iand (pc := 14) C0 dJ11_bitCount_14 ?_
  refine g_iload_n (pc := 15) 0 C0 rfl dJ11_bitCount_15 rfl ?_
  refine g_iconst (pc := 16) (v := (nI 2)) C0 dJ11_bitCount_16 (by decide) ?_
  refine g_iushr (pc := 17) C0 dJ11_bitCount_17 ?_
  have c18 : Jvm.Cond.constant "java/lang/Integer" 266 (nI 858993459) ∈ lw_all := q889
  refine g_ldcw (pc := 18) (v := nI 858993459) C0 c18 dJ11_bitCount_18 ?_
  refine g_iand (pc := 21) C0 dJ11_bitCount_21 ?_
  refine g_iadd (pc := 22) C0 dJ11_bitCount_22 ?_
  refine g_istore_n (pc := 23) 0 C0 (L1 := [some (.int (((bc1 (nI n)) &&& (nI 858993459)) + ((((bc1 (nI n)).toUInt32 >>> ((nI 2).toUInt32 &&& Int32.toUInt32 31)).toInt32) &&& (nI 858993459))))]) rfl (by decide) dJ11_bitCount_23 rfl rfl ?_
  refine G.lE (L' := [some (.int (bc2 (bc1 (nI n))))]) rfl ?_
  refine g_iload_n (pc := 24) 0 C0 rfl dJ11_bitCount_24 rfl ?_
  refine g_iload_n (pc := 25) 0 C0 rfl dJ11_bitCount_25 rfl ?_
  refine g_iconst (pc := 26) (v := (nI 4)) C0 dJ11_bitCount_26 (by decide) ?_
  refine g_iushr (pc := 27) C0 dJ11_bitCount_27 ?_
  refine g_iadd (pc := 28) C0 dJ11_bitCount_28 ?_
  have c29 : Jvm.Cond.constant "java/lang/Integer" 267 (nI 252645135) ∈ lw_all := q890
  refine g_ldcw (pc := 29) (v := nI 252645135) C0 c29 dJ11_bitCount_29 ?_
  refine g_iand (pc := 32) C0 dJ11_bitCount_32 ?_
  refine g_istore_n (pc := 33) 0 C0 (L1 := [some (.int (((bc2 (bc1 (nI n))) + (((bc2 (bc1 (nI n))).toUInt32 >>> ((nI 4).toUInt32 &&& Int32.toUInt32 31)).toInt32)) &&& (nI 252645135)))]) rfl (by decide) dJ11_bitCount_33 rfl rfl ?_
  refine G.lE (L' := [some (.int (bc3 (bc2 (bc1 (nI n)))))]) rfl ?_
  refine g_iload_n (pc := 34) 0 C0 rfl dJ11_bitCount_34 rfl ?_
  refine g_iload_n (pc := 35) 0 C0 rfl dJ11_bitCount_35 rfl ?_
  refine g_bipush (pc := 36) (v := (nI 8)) C0 dJ11_bitCount_36 (by decide) ?_
  refine g_iushr (pc := 38) C0 dJ11_bitCount_38 ?_
  refine g_iadd (pc := 39) C0 dJ11_bitCount_39 ?_
  refine g_istore_n (pc := 40) 0 C0 (L1 := [some (.int ((bc3 (bc2 (bc1 (nI n)))) + (((bc3 (bc2 (bc1 (nI n)))).toUInt32 >>> ((nI 8).toUInt32 &&& Int32.toUInt32 31)).toInt32)))]) rfl (by decide) dJ11_bitCount_40 rfl rfl ?_
  refine G.lE (L' := [some (.int (bc4 (bc3 (bc2 (bc1 (nI n))))))]) rfl ?_
  refine g_iload_n (pc := 41) 0 C0 rfl dJ11_bitCount_41 rfl ?_
  refine g_iload_n (pc := 42) 0 C0 rfl dJ11_bitCount_42 rfl ?_
  refine g_bipush (pc := 43) (v := (nI 16)) C0 dJ11_bitCount_43 (by decide) ?_
  refine g_iushr (pc := 45) C0 dJ11_bitCount_45 ?_
  refine g_iadd (pc := 46) C0 dJ11_bitCount_46 ?_
  refine g_istore_n (pc := 47) 0 C0 (L1 := [some (.int ((bc4 (bc3 (bc2 (bc1 (nI n))))) + (((bc4 (bc3 (bc2 (bc1 (nI n))))).toUInt32 >>> ((nI 16).toUInt32 &&& Int32.toUInt32 31)).toInt32)))]) rfl (by decide) dJ11_bitCount_47 rfl rfl ?_
  refine G.lE (L' := [some (.int (bc5 (bc4 (bc3 (bc2 (bc1 (nI n)))))))]) rfl ?_
  refine g_iload_n (pc := 48) 0 C0 rfl dJ11_bitCount_48 rfl ?_
  refine g_bipush (pc := 49) (v := (nI 63)) C0 dJ11_bitCount_49 (by decide) ?_
  refine g_iand (pc := 51) C0 dJ11_bitCount_51 ?_
  exact g_iret (pc := 52) C0 dJ11_bitCount_52 (bc_ok n hn)
set_option maxHeartbeats 4000000 in
set_option maxRecDepth 100000 in
theorem xF_draw (l : Launch) (D : va_G) (dT : Nat → ClassId) (ad : Nat → Nat) (nS : Nat) (τ β : tT)  (n : Nat) (hβ : RX nS β τ) (h : τ 0 13 < 2 ^ 31) (hn0 : 0 < n) (hn2 : n < 2 ^ 31) : XI l D dT ad nS yX2_draw cX2_draw 2 .int ({ frames := 0, cells := 0, slots := 0, locals := 0 }) [.ref (ad 1), .int (nI n)] β (fun rr β' => rr = nI (drawV τ n) ∧ RX nS β' (drawT τ) ∧ ∀ j, j ≠ 1 → β' j = β j) := by
  refine XI.ofG (own := "FittingStrides$Folk") (L := [some (.ref (ad 1)), some (.int (nI n))]) rfl (by decide) (Nat.le_of_ble_eq_true rfl) rfl ?_
  intro p' e' s' m' bl' mt' c' C0 hN
  have hn := hβ.n
  have hn10 := hβ.n10
  refine g_aload_n (pc := 0) 0 C0 rfl dX2_draw_0 rfl ?_
  refine g_aload_n (pc := 1) 0 C0 rfl dX2_draw_1 rfl ?_
  refine g_get (pc := 2) (v := .int (nI (τ 0 13))) C0 (C := RX2) (T := TX2) (N := 10) (ci := 3) (q0 := 1) (j := 1) 7 (xCode (by omega)) rfl rfl in_X2 (by decide) q153 (xv hβ.f1_7) dX2_draw_2 ?_
  refine g_i2l (pc := 5) (v := lN (τ 0 13)) C0 dX2_draw_5 (nI_l h) ?_
  have c6 : Jvm.Cond.constantLong "FittingStrides$Folk" 78 (lN 1103515245) ∈ lw_all := q826
  refine g_ldc2 (pc := 6) (v := lN 1103515245) C0 c6 dX2_draw_6 ?_
  refine g_lmulN (pc := 9) C0 dX2_draw_9 ?_
  have c10 : Jvm.Cond.constantLong "FittingStrides$Folk" 80 (lN 12345) ∈ lw_all := q827
  refine g_ldc2 (pc := 10) (v := lN 12345) C0 c10 dX2_draw_10 ?_
  refine g_laddN (pc := 13) C0 dX2_draw_13 ?_
  have c14 : Jvm.Cond.constantLong "FittingStrides$Folk" 82 (lN 2147483648) ∈ lw_all := q828
  refine g_ldc2 (pc := 14) (v := lN 2147483648) C0 c14 dX2_draw_14 ?_
  refine g_lremN (pc := 17) C0 (by omega) (by decide) (by decide) dX2_draw_17 ?_
  refine g_l2iN (pc := 18) C0 dX2_draw_18 ?_
  obtain ⟨z1, ez1⟩ : ∃ z, z = ((((τ 0 13) * 1103515245) + 12345) % 2147483648) := ⟨_, rfl⟩
  have hz1 : z1 < 2 ^ 31 := by rw [ez1]; exact Nat.mod_lt _ (by decide)
  refine G.stE (st' := [.int (nI z1), .ref (ad 1)]) (by rw [ez1]) ?_
  refine g_put (pc := 19) C0 (C := RX2) (T := TX2) (N := 10) (ci := 3) (q0 := 1) (j := 1) (F := (xFf 5 6 7 21 8) ad) (ty := .int) (z := z1) tyX2 tyX2_ok nmX2 (xNd hβ.n10) 7 (xCode (by omega)) (fun _ => rfl) rfl in_X2 (by decide) q153 rfl (by decide) rfl rfl (by show _ < 10; decide) rfl dX2_draw_19 ?_
  have hdr : RX nS (upc β 1 7 z1) (drawT τ) := by rw [drawT, sdN, ← ez1]; exact hβ.w1_7 z1
  have hdk : ∀ j, j ≠ 1 → upc β 1 7 z1 j = β j := fun j hj => upc_n hj
  refine g_aload_n (pc := 22) 0 C0 rfl dX2_draw_22 rfl ?_
  refine g_get (pc := 23) (v := .int (nI z1)) C0 (C := RX2) (T := TX2) (N := 10) (ci := 3) (q0 := 1) (j := 1) 7 (xCode (by omega)) rfl rfl in_X2 (by decide) q153 rfl dX2_draw_23 ?_
  have c26 : Jvm.Cond.constant "FittingStrides$Folk" 84 (nI 65536) ∈ lw_all := q829
  refine g_ldc (pc := 26) (v := nI 65536) C0 c26 dX2_draw_26 ?_
  refine g_idivN (pc := 28) C0 hz1 (by decide) (by decide) dX2_draw_28 ?_
  refine g_iload_n (pc := 29) 1 C0 rfl dX2_draw_29 rfl ?_
  refine g_iremN (pc := 30) C0 (Nat.lt_of_le_of_lt (Nat.div_le_self _ _) hz1) hn0 hn2 dX2_draw_30 ?_
  exact g_iret (pc := 31) C0 dX2_draw_31 ⟨by rw [drawV, sdN, ez1], hdr, hdk⟩
set_option maxHeartbeats 4000000 in
set_option maxRecDepth 100000 in
theorem xX_beget (l : Launch) (D : va_G) (dT : Nat → ClassId) (ad : Nat → Nat) (nS : Nat) (τ β : tT)  (q : Nat) (hβ : RX nS β τ) (hq : q < τ 0 8) (h8 : τ 0 8 < 8) (hs : τ 0 13 < 2 ^ 31) : XV l D dT ad nS yX0_beget cX0_beget 3 ({ frames := 1, cells := 0, slots := 0, locals := 21 }) [.ref (ad 0), .int (nI q)] β (fun β' => RX nS β' (birthT τ q)) := by
  refine XV.ofG (own := "FittingStrides") (L := [some (.ref (ad 0)), some (.int (nI q)), none]) rfl (by decide) (Nat.le_of_ble_eq_true rfl) rfl ?_
  intro p' e' s' m' bl' mt' c' C0 hN
  have hn := hβ.n
  have hn10 := hβ.n10
  refine g_aload_n (pc := 0) 0 C0 rfl dX0_beget_0 rfl ?_
  refine g_get (pc := 1) (v := .ref (ad 1)) C0 (C := RX0) (T := TX0) (N := 14) (ci := 1) (q0 := 0) (j := 0) 1 (xCode (by omega)) rfl rfl in_X0 (by decide) q184 rfl dX0_beget_1 ?_
  refine g_getN (pc := 4) (v := .int (nI (τ 0 8))) C0 hN (C := RX2) (T := TX2) (N := 10) (ci := 3) (q0 := 1) (j := 1) 3 (xCode (by omega)) rfl rfl in_X2 (by decide) q146 (xv hβ.f1_3) dX0_beget_4 ?_
  refine g_istore_n (pc := 7) 2 C0 (L1 := [some (.ref (ad 0)), some (.int (nI q)), some (.int (nI (τ 0 8)))]) rfl (by decide) dX0_beget_7 rfl rfl ?_
  refine g_aload_n (pc := 8) 0 C0 rfl dX0_beget_8 rfl ?_
  refine g_get (pc := 9) (v := .ref (ad 1)) C0 (C := RX0) (T := TX0) (N := 14) (ci := 1) (q0 := 0) (j := 0) 1 (xCode (by omega)) rfl rfl in_X0 (by decide) q184 rfl dX0_beget_9 ?_
  refine g_getN (pc := 12) (v := .ref (ad 5)) C0 hN (C := RX2) (T := TX2) (N := 10) (ci := 3) (q0 := 1) (j := 1) 0 (xCode (by omega)) rfl rfl in_X2 (by decide) q140 rfl dX0_beget_12 ?_
  refine g_iload_n (pc := 15) 2 C0 rfl dX0_beget_15 rfl ?_
  refine g_aload_n (pc := 16) 0 C0 rfl dX0_beget_16 rfl ?_
  refine g_get (pc := 17) (v := .ref (ad 1)) C0 (C := RX0) (T := TX0) (N := 14) (ci := 1) (q0 := 0) (j := 0) 1 (xCode (by omega)) rfl rfl in_X0 (by decide) q184 rfl dX0_beget_17 ?_
  refine g_getN (pc := 20) (v := .ref (ad 5)) C0 hN (C := RX2) (T := TX2) (N := 10) (ci := 3) (q0 := 1) (j := 1) 0 (xCode (by omega)) rfl rfl in_X2 (by decide) q140 rfl dX0_beget_20 ?_
  refine g_iload_n (pc := 23) 1 C0 rfl dX0_beget_23 rfl ?_
  refine g_ialdV (pc := 24) (q0 := 5) (j := 5) (t0 := 0) (N := 8) (v := (τ 9 q)) C0 q (xCode (by omega)) (fun _ => rfl) rfl (by decide) (by omega) (hβ.a5 (by omega)) dX0_beget_24 ?_
  refine g_iast (pc := 25) (q0 := 5) (j := 5) (t0 := 0) (N := 8) C0 (τ 0 8) (τ 9 q) (xNd hβ.n10) (xCode (by omega)) (fun _ => rfl) rfl (by decide) (by omega) dX0_beget_25 ?_
  refine G.nmX (Φ := fun β => RX nS β (birth1 τ q) ∧ (β 5 (τ 0 8) = τ 9 q)) (wsf := fun β => xW dT ad nS β) ⟨hβ.w5 _ _, upc_hit _ _ _ _⟩ (fun β hβ => ?_)
  obtain ⟨hβ, hψ⟩ := hβ
  obtain ⟨bb, ebb⟩ : ∃ z : tT, z = birth1 τ q := ⟨_, rfl⟩
  rw [← ebb] at hβ
  have bbs : bb 0 13 < 2 ^ 31 := by rw [ebb, birth1, birth1_0]; exact hs
  have bb8 : bb 0 8 = τ 0 8 := by rw [ebb, birth1, birth1_0]
  have bb10 : bb 10 = τ 10 := by rw [ebb, birth1, upc_n (by decide)]
  refine g_aload_n (pc := 26) 0 C0 rfl dX0_beget_26 rfl ?_
  refine g_get (pc := 27) (v := .ref (ad 1)) C0 (C := RX0) (T := TX0) (N := 14) (ci := 1) (q0 := 0) (j := 0) 1 (xCode (by omega)) rfl rfl in_X0 (by decide) q184 rfl dX0_beget_27 ?_
  refine g_getN (pc := 30) (v := .ref (ad 6)) C0 hN (C := RX2) (T := TX2) (N := 10) (ci := 3) (q0 := 1) (j := 1) 1 (xCode (by omega)) rfl rfl in_X2 (by decide) q142 rfl dX0_beget_30 ?_
  refine g_iload_n (pc := 33) 2 C0 rfl dX0_beget_33 rfl ?_
  refine G.meetX (Φ := fun β => RX nS β (birthD bb) ∧ (β 5 (τ 0 8) = τ 9 q)) (wsf := fun β => xW dT ad nS β) (pcJ := 68) (LJ := [some (.ref (ad 0)), some (.int (nI q)), some (.int (nI (τ 0 8)))]) (stJ := [.int (nI (birthF bb q)), .int (nI (τ 0 8)), .ref (ad 6)]) (fun β hβ => ?_) (fun J68 => ?_)
  · obtain ⟨hβ, hψ⟩ := hβ
    obtain ⟨f0, f1, f2, f3, f4, f5⟩ := birthD_facts bb
    obtain ⟨t7, et7⟩ : ∃ z : tT, z = (birthD bb) := ⟨_, rfl⟩
    rw [← et7] at hβ
    rw [← et7] at f2
    obtain ⟨F, eF⟩ : ∃ z, z = birthF bb q := ⟨_, rfl⟩
    refine G.stE (st' := [.int (nI F), .int (nI (τ 0 8)), .ref (ad 6)]) (by rw [eF]) ?_
    refine g_iast (pc := 68) (q0 := 6) (j := 6) (t0 := 0) (N := 8) C0 (τ 0 8) F (xNd hβ.n10) (xCode (by omega)) (fun _ => rfl) rfl (by decide) (by omega) dX0_beget_68 ?_
    refine G.nmX (Φ := fun β => RX nS β (upc t7 10 (τ 0 8) F) ∧ (β 5 (τ 0 8) = τ 9 q ∧ β 6 (τ 0 8) = F)) (wsf := fun β => xW dT ad nS β) ⟨hβ.w6 _ _, hψ, upc_hit _ _ _ _⟩ (fun β hβ => ?_)
    obtain ⟨hβ, hψ⟩ := hβ
    refine g_aload_n (pc := 69) 0 C0 rfl dX0_beget_69 rfl ?_
    refine g_get (pc := 70) (v := .ref (ad 1)) C0 (C := RX0) (T := TX0) (N := 14) (ci := 1) (q0 := 0) (j := 0) 1 (xCode (by omega)) rfl rfl in_X0 (by decide) q184 rfl dX0_beget_70 ?_
    refine g_getN (pc := 73) (v := .ref (ad 7)) C0 hN (C := RX2) (T := TX2) (N := 10) (ci := 3) (q0 := 1) (j := 1) 2 (xCode (by omega)) rfl rfl in_X2 (by decide) q144 rfl dX0_beget_73 ?_
    refine g_iload_n (pc := 76) 2 C0 rfl dX0_beget_76 rfl ?_
    refine g_iconst (pc := 77) (v := (nI 0)) C0 dX0_beget_77 (by decide) ?_
    refine g_iast (pc := 78) (q0 := 7) (j := 7) (t0 := 0) (N := 8) C0 (τ 0 8) 0 (xNd hβ.n10) (xCode (by omega)) (fun _ => rfl) rfl (by decide) (by omega) dX0_beget_78 ?_
    refine G.nmX (Φ := fun β => RX nS β (upc (upc t7 10 (τ 0 8) F) 11 (τ 0 8) 0) ∧ (β 5 (τ 0 8) = τ 9 q ∧ β 6 (τ 0 8) = F ∧ β 7 (τ 0 8) = 0)) (wsf := fun β => xW dT ad nS β) ⟨hβ.w7 _ _, hψ.1, hψ.2, upc_hit _ _ _ _⟩ (fun β hβ => ?_)
    obtain ⟨hβ, hψ⟩ := hβ
    refine g_aload_n (pc := 79) 0 C0 rfl dX0_beget_79 rfl ?_
    refine g_get (pc := 80) (v := .ref (ad 1)) C0 (C := RX0) (T := TX0) (N := 14) (ci := 1) (q0 := 0) (j := 0) 1 (xCode (by omega)) rfl rfl in_X0 (by decide) q184 rfl dX0_beget_80 ?_
    refine g_dup (pc := 83) C0 dX0_beget_83 rfl ?_
    refine g_getN (pc := 84) (v := .int (nI (t7 0 8))) C0 hN (C := RX2) (T := TX2) (N := 10) (ci := 3) (q0 := 1) (j := 1) 3 (xCode (by omega)) rfl rfl in_X2 (by decide) q146 (xv hβ.f1_3) dX0_beget_84 ?_
    refine g_iconst (pc := 87) (v := (nI 1)) C0 dX0_beget_87 (by decide) ?_
    refine g_iaddN (pc := 88) C0  dX0_beget_88 ?_
    refine g_putN (pc := 89) C0 hN (C := RX2) (T := TX2) (N := 10) (ci := 3) (q0 := 1) (j := 1) (F := (xFf 5 6 7 21 8) ad) (ty := .int) (z := ((t7 0 8) + 1)) tyX2 tyX2_ok nmX2 (xNd hβ.n10) 3 (xCode (by omega)) (fun _ => rfl) rfl in_X2 (by decide) q146 rfl (by decide) rfl rfl (by show _ < 10; decide) rfl dX0_beget_89 ?_
    have hf8 : t7 0 8 = τ 0 8 := by rw [f2]; exact bb8
    rw [hf8]
    refine G.nmX (Φ := fun β => RX nS β (birthT τ q)) (wsf := fun β => xW dT ad nS β) (RX.birth ebb et7 hβ hψ.1 hψ.2.1 hψ.2.2 eF) (fun β hβ => ?_)
    exact g_vret (pc := 92) C0 dX0_beget_92 hβ
  · refine g_aload_n (pc := 34) 0 C0 rfl dX0_beget_34 rfl ?_
    refine g_get (pc := 35) (v := .ref (ad 1)) C0 (C := RX0) (T := TX0) (N := 14) (ci := 1) (q0 := 0) (j := 0) 1 (xCode (by omega)) rfl rfl in_X0 (by decide) q184 rfl dX0_beget_35 ?_
    refine g_iconst (pc := 38) (v := (nI 2)) C0 dX0_beget_38 (by decide) ?_
    refine g_cviX (pc := 39) (na := 1) (As := [.int (nI 2)]) (rest := [.int (nI (τ 0 8)), .ref (ad 6)]) C0 hN (xF_draw l D dT ad nS bb β  2 hβ (by omega) (by omega) (by omega)) (q0 := 1) (j := 1) (ci := 3) (C := RX2) (T := TX2) (N := 10) (xCode (by omega)) rfl rfl q822 q823 q824 q59 q825 (by decide +kernel) ⟨Nat.le_of_ble_eq_true rfl, Nat.le_of_ble_eq_true rfl⟩ rfl rfl ⟨Nat.le_of_ble_eq_true rfl, Nat.le_of_ble_eq_true rfl⟩ rfl rfl (Nat.le_of_ble_eq_true rfl) dX0_beget_39 (fun r β hc => ?_)
    obtain ⟨rfl, hβ, he⟩ := hc
    have hψ : β 5 (τ 0 8) = τ 9 q := by rw [he 5 (by decide)]; exact hψ
    obtain ⟨t5, et5⟩ : ∃ z : tT, z = (drawT bb) := ⟨_, rfl⟩
    rw [← et5] at hβ
    have t5s : t5 0 13 < 2 ^ 31 := by rw [et5]; exact drawT_sd _
    have t58 : t5 0 8 = τ 0 8 := by rw [et5, drawT_k _ (by decide)]; exact bb8
    have t510 : t5 10 = τ 10 := by rw [et5, drawT_j _ (by decide)]; exact bb10
    refine g_if_neN (pc := 42) 57 C0 (Nat.lt_trans (drawV_lt _ (by decide)) (by decide)) dX0_beget_42 (by decide) (fun h42 => ?_) (fun h42 => ?_)
    · refine g_aload_n (pc := 57) 0 C0 rfl dX0_beget_57 rfl ?_
      refine g_get (pc := 58) (v := .ref (ad 1)) C0 (C := RX0) (T := TX0) (N := 14) (ci := 1) (q0 := 0) (j := 0) 1 (xCode (by omega)) rfl rfl in_X0 (by decide) q184 rfl dX0_beget_58 ?_
      refine g_bipush (pc := 61) (v := (nI 24)) C0 dX0_beget_61 (by decide) ?_
      refine g_cviX (pc := 63) (na := 1) (As := [.int (nI 24)]) (rest := [.int (nI (τ 0 8)), .ref (ad 6)]) C0 hN (xF_draw l D dT ad nS t5 β  24 hβ (by omega) (by omega) (by omega)) (q0 := 1) (j := 1) (ci := 3) (C := RX2) (T := TX2) (N := 10) (xCode (by omega)) rfl rfl q822 q823 q824 q59 q825 (by decide +kernel) ⟨Nat.le_of_ble_eq_true rfl, Nat.le_of_ble_eq_true rfl⟩ rfl rfl ⟨Nat.le_of_ble_eq_true rfl, Nat.le_of_ble_eq_true rfl⟩ rfl rfl (Nat.le_of_ble_eq_true rfl) dX0_beget_63 (fun r β hc => ?_)
      obtain ⟨rfl, hβ, he⟩ := hc
      have hψ : β 5 (τ 0 8) = τ 9 q := by rw [he 5 (by decide)]; exact hψ
      obtain ⟨t6, et6⟩ : ∃ z : tT, z = (drawT t5) := ⟨_, rfl⟩
      rw [← et6] at hβ
      have t6s : t6 0 13 < 2 ^ 31 := by rw [et6]; exact drawT_sd _
      refine g_iconst (pc := 66) (v := (nI 1)) C0 dX0_beget_66 (by decide) ?_
      refine g_iaddN (pc := 67) C0  dX0_beget_67 ?_
      have hβ : RX nS β (birthD bb) := by rw [birthD, if_neg h42, ← et5, ← et6]; exact hβ
      exact G.stE (by rw [birthF, if_neg h42, ← et5]) (J68 β ⟨hβ, hψ⟩)
    · refine g_aload_n (pc := 45) 0 C0 rfl dX0_beget_45 rfl ?_
      refine g_get (pc := 46) (v := .ref (ad 1)) C0 (C := RX0) (T := TX0) (N := 14) (ci := 1) (q0 := 0) (j := 0) 1 (xCode (by omega)) rfl rfl in_X0 (by decide) q184 rfl dX0_beget_46 ?_
      refine g_getN (pc := 49) (v := .ref (ad 6)) C0 hN (C := RX2) (T := TX2) (N := 10) (ci := 3) (q0 := 1) (j := 1) 1 (xCode (by omega)) rfl rfl in_X2 (by decide) q142 rfl dX0_beget_49 ?_
      refine g_iload_n (pc := 52) 1 C0 rfl dX0_beget_52 rfl ?_
      refine g_ialdV (pc := 53) (q0 := 6) (j := 6) (t0 := 0) (N := 8) (v := (t5 10 q)) C0 q (xCode (by omega)) (fun _ => rfl) rfl (by decide) (by omega) (hβ.a6 (by omega)) dX0_beget_53 ?_
      refine g_goto (pc := 54) 68 C0 dX0_beget_54 (by decide) ?_
      have hβ : RX nS β (birthD bb) := by rw [birthD, if_pos h42, ← et5]; exact hβ
      exact G.stE (by rw [birthF, if_pos h42, bb10, t510]) (J68 β ⟨hβ, hψ⟩)
set_option maxHeartbeats 4000000 in
set_option maxRecDepth 100000 in
theorem xX_drift (l : Launch) (D : va_G) (dT : Nat → ClassId) (ad : Nat → Nat) (nS : Nat) (τ β : tT)  (n : Int32) (hβ : RX nS β τ) (hT : wfT τ) (hP : wfP τ) (hs : τ 0 13 < 2 ^ 31) : XI l D dT ad nS yX0_drift cX0_drift 5 .int ({ frames := 5, cells := 0, slots := 0, locals := 157 }) [.ref (ad 0), .int n] β (fun rr β' => rr = (pDrift τ n) ∧ RX nS β' (pDriftT τ n)) := by
  refine XI.ofG (own := "FittingStrides") (L := [some (.ref (ad 0)), some (.int n), none, none, none]) rfl (by decide) (Nat.le_of_ble_eq_true rfl) rfl ?_
  intro p' e' s' m' bl' mt' c' C0 hN
  have hn := hβ.n
  have hn10 := hβ.n10
  have hw1 := hT.1
  have hP8 := hP.1
  refine g_iload_n (pc := 0) 1 C0 rfl dX0_drift_0 rfl ?_
  refine g_iconst (pc := 1) (v := (nI 1)) C0 dX0_drift_1 (by decide) ?_
  refine g_bipush (pc := 2) (v := (nI 99)) C0 dX0_drift_2 (by decide) ?_
  refine g_csi (pc := 4) (na := 3) (As := [.int n, .int (nI 1), .int (nI 99)]) (rest := []) C0 (xX_isIn l n (nI 1) (nI 99) ) q232 q233 q57 q234 (by decide +kernel) ⟨Nat.le_of_ble_eq_true rfl, Nat.le_of_ble_eq_true rfl⟩ rfl rfl ⟨Nat.le_of_ble_eq_true rfl, Nat.le_of_ble_eq_true rfl⟩ rfl rfl (Nat.le_of_ble_eq_true rfl) dX0_drift_4 ?_
  refine g_if_neB (pc := 7) 13 C0 dX0_drift_7 (by decide) (fun h7 => ?_) (fun h7 => ?_)
  · rw [isInB_rg n (lo := 1) (hi := 99) (by decide) (by decide)] at h7
    obtain ⟨n1, rfl, n1l, n1h, n1b⟩ := rgB_t h7
    refine g_aload_n (pc := 13) 0 C0 rfl dX0_drift_13 rfl ?_
    refine g_get (pc := 14) (v := .ref (ad 1)) C0 (C := RX0) (T := TX0) (N := 14) (ci := 1) (q0 := 0) (j := 0) 1 (xCode (by omega)) rfl rfl in_X0 (by decide) q184 rfl dX0_drift_14 ?_
    refine g_getN (pc := 17) (v := .int (nI (τ 0 8))) C0 hN (C := RX2) (T := TX2) (N := 10) (ci := 3) (q0 := 1) (j := 1) 3 (xCode (by omega)) rfl rfl in_X2 (by decide) q146 (xv hβ.f1_3) dX0_drift_17 ?_
    refine g_if_eqN (pc := 20) 33 C0 (by omega) dX0_drift_20 (by decide) (fun h20 => ?_) (fun h20 => ?_)
    · refine g_ldc (pc := 33) (v := -1000000003) C0 q789 dX0_drift_33 ?_
      exact g_iret (pc := 35) C0 dX0_drift_35 ⟨by rw [pDrift, if_pos h7, if_pos (by omega)]; rfl, by rw [pDriftT, if_pos h7, if_pos (by omega)]; exact hβ⟩
    · refine g_aload_n (pc := 23) 0 C0 rfl dX0_drift_23 rfl ?_
      refine g_get (pc := 24) (v := .ref (ad 4)) C0 (C := RX0) (T := TX0) (N := 14) (ci := 1) (q0 := 0) (j := 0) 0 (xCode (by omega)) rfl rfl in_X0 (by decide) q183 rfl dX0_drift_24 ?_
      refine g_getN (pc := 27) (v := .int (nI (τ 0 1))) C0 hN (C := RX1) (T := TX1) (N := 7) (ci := 2) (q0 := 4) (j := 4) 2 (xCode (by omega)) rfl rfl in_X1 (by decide) q103 (xv hβ.f4_2) dX0_drift_27 ?_
      refine g_if_neN (pc := 30) 36 C0 (by omega) dX0_drift_30 (by decide) (fun h30 => ?_) (fun h30 => ?_)
      · have hd : wfD τ := ⟨hT, hP, hs, by omega, by omega⟩
        refine g_iconst (pc := 36) (v := (nI 0)) C0 dX0_drift_36 (by decide) ?_
        refine g_istore_n (pc := 37) 2 C0 (L1 := [some (.ref (ad 0)), some (.int (nI n1)), some (.int (nI 0)), none, none]) rfl (by decide) dX0_drift_37 rfl rfl ?_
        refine G.loopX (pc := 38) (Φ := fun i β => RX nS β (dayN τ i)) (wsf := fun β => xW dT ad nS β) (Lf := fun i => [some (.ref (ad 0)), some (.int (nI n1)), some (.int (nI i)), none, none]) (N := n1) (i0 := 0) β hβ (Nat.zero_le _) (fun β hβ => ?_) (fun i38 β hi38 hj38 hβ ih38 => ?_)
        · refine g_iload_n (pc := 38) 2 C0 rfl dX0_drift_38 rfl ?_
          refine g_iload_n (pc := 39) 1 C0 rfl dX0_drift_39 rfl ?_
          refine g_icmp_geN (pc := 40) 126 C0 (by omega) (by omega) dX0_drift_40 (by decide) (fun h40 => ?_) (fun h40 => ?_)
          rotate_left
          · exact absurd h40 (by omega)
          refine g_aload_n (pc := 126) 0 C0 rfl dX0_drift_126 rfl ?_
          refine g_get (pc := 127) (v := .ref (ad 1)) C0 (C := RX0) (T := TX0) (N := 14) (ci := 1) (q0 := 0) (j := 0) 1 (xCode (by omega)) rfl rfl in_X0 (by decide) q184 rfl dX0_drift_127 ?_
          refine g_getN (pc := 130) (v := .int (nI ((dayN τ n1) 0 8))) C0 hN (C := RX2) (T := TX2) (N := 10) (ci := 3) (q0 := 1) (j := 1) 3 (xCode (by omega)) rfl rfl in_X2 (by decide) q146 (xv hβ.f1_3) dX0_drift_130 ?_
          exact g_iret (pc := 133) C0 dX0_drift_133 ⟨by rw [pDrift, if_pos h7, if_neg (by omega), nI_clamp n1b], by rw [pDriftT, if_pos h7, if_neg (by omega), nI_clamp n1b]; exact hβ⟩
        · refine g_iload_n (pc := 38) 2 C0 rfl dX0_drift_38 rfl ?_
          refine g_iload_n (pc := 39) 1 C0 rfl dX0_drift_39 rfl ?_
          refine g_icmp_geN (pc := 40) 126 C0 (by omega) (by omega) dX0_drift_40 (by decide) (fun h40 => ?_) (fun h40 => ?_)
          · exact absurd h40 (by omega)
          have hd0 := dayN_ok hd i38
          obtain ⟨t0, et0⟩ : ∃ z : tT, z = (dayN τ i38) := ⟨_, rfl⟩
          rw [← et0] at hβ
          rw [← et0] at hd0
          obtain ⟨hT, hP, hs, hp8, hp1⟩ := id hd0
          have hw1 := hT.1
          have hP8 := hP.1
          obtain ⟨b1, b2, b3, b4, b5⟩ := wfD_day1 hd0
          obtain ⟨c1, c2, c3⟩ := wfD_day2 hd0
          obtain ⟨c4, c5, c6, c7, c8⟩ := id c1
          have hn0 : t0 0 1 = nS := hβ.n
          refine g_aload_n (pc := 43) 0 C0 rfl dX0_drift_43 rfl ?_
          refine g_get (pc := 44) (v := .ref (ad 1)) C0 (C := RX0) (T := TX0) (N := 14) (ci := 1) (q0 := 0) (j := 0) 1 (xCode (by omega)) rfl rfl in_X0 (by decide) q184 rfl dX0_drift_44 ?_
          refine g_aload_n (pc := 47) 0 C0 rfl dX0_drift_47 rfl ?_
          refine g_get (pc := 48) (v := .ref (ad 1)) C0 (C := RX0) (T := TX0) (N := 14) (ci := 1) (q0 := 0) (j := 0) 1 (xCode (by omega)) rfl rfl in_X0 (by decide) q184 rfl dX0_drift_48 ?_
          refine g_getN (pc := 51) (v := .int (nI (t0 0 8))) C0 hN (C := RX2) (T := TX2) (N := 10) (ci := 3) (q0 := 1) (j := 1) 3 (xCode (by omega)) rfl rfl in_X2 (by decide) q146 (xv hβ.f1_3) dX0_drift_51 ?_
          refine g_cviX (pc := 54) (na := 1) (As := [.int (nI (t0 0 8))]) (rest := []) C0 hN (xF_draw l D dT ad nS t0 β  (t0 0 8) hβ (by omega) (by omega) (by omega)) (q0 := 1) (j := 1) (ci := 3) (C := RX2) (T := TX2) (N := 10) (xCode (by omega)) rfl rfl q822 q823 q824 q59 q825 (by decide +kernel) ⟨Nat.le_of_ble_eq_true rfl, Nat.le_of_ble_eq_true rfl⟩ rfl rfl ⟨Nat.le_of_ble_eq_true rfl, Nat.le_of_ble_eq_true rfl⟩ rfl rfl (Nat.le_of_ble_eq_true rfl) dX0_drift_54 (fun r β hc => ?_)
          obtain ⟨rfl, hβ, he⟩ := hc
          obtain ⟨t1, et1⟩ : ∃ z : tT, z = (drawT t0) := ⟨_, rfl⟩
          rw [← et1] at hβ
          have t1T : wfT t1 := by rw [et1]; exact wfT_draw hT
          have t1P : wfP t1 := by rw [et1]; exact wfP_draw hP
          have t1s : t1 0 13 < 2 ^ 31 := by rw [et1]; exact drawT_sd _
          have t18 : t1 0 8 = t0 0 8 := by rw [et1, drawT_k _ (by decide)]
          have t11 : t1 0 1 = t0 0 1 := by rw [et1, drawT_k _ (by decide)]
          refine g_istore_n (pc := 57) 3 C0 (L1 := [some (.ref (ad 0)), some (.int (nI n1)), some (.int (nI i38)), some (.int (nI (drawV t0 (t0 0 8)))), none]) rfl (by decide) dX0_drift_57 rfl rfl ?_
          obtain ⟨q0, eq0⟩ : ∃ z, z = (drawV t0 (t0 0 8)) := ⟨_, rfl⟩
          have hq0 : q0 = dayP t0 := eq0
          have hq1 : q0 < t0 0 8 := by rw [hq0]; exact b2
          refine G.lE (L' := [some (.ref (ad 0)), some (.int (nI n1)), some (.int (nI i38)), some (.int (nI q0)), none]) (by rw [eq0]) ?_
          refine g_aload_n (pc := 58) 0 C0 rfl dX0_drift_58 rfl ?_
          refine g_get (pc := 59) (v := .ref (ad 1)) C0 (C := RX0) (T := TX0) (N := 14) (ci := 1) (q0 := 0) (j := 0) 1 (xCode (by omega)) rfl rfl in_X0 (by decide) q184 rfl dX0_drift_59 ?_
          refine g_aload_n (pc := 62) 0 C0 rfl dX0_drift_62 rfl ?_
          refine g_get (pc := 63) (v := .ref (ad 4)) C0 (C := RX0) (T := TX0) (N := 14) (ci := 1) (q0 := 0) (j := 0) 0 (xCode (by omega)) rfl rfl in_X0 (by decide) q183 rfl dX0_drift_63 ?_
          refine g_getN (pc := 66) (v := .int (nI (t1 0 1))) C0 hN (C := RX1) (T := TX1) (N := 7) (ci := 2) (q0 := 4) (j := 4) 2 (xCode (by omega)) rfl rfl in_X1 (by decide) q103 (xv hβ.f4_2) dX0_drift_66 ?_
          refine g_cviX (pc := 69) (na := 1) (As := [.int (nI (t1 0 1))]) (rest := []) C0 hN (xF_draw l D dT ad nS t1 β  (t1 0 1) hβ (by omega) (by omega) (by omega)) (q0 := 1) (j := 1) (ci := 3) (C := RX2) (T := TX2) (N := 10) (xCode (by omega)) rfl rfl q822 q823 q824 q59 q825 (by decide +kernel) ⟨Nat.le_of_ble_eq_true rfl, Nat.le_of_ble_eq_true rfl⟩ rfl rfl ⟨Nat.le_of_ble_eq_true rfl, Nat.le_of_ble_eq_true rfl⟩ rfl rfl (Nat.le_of_ble_eq_true rfl) dX0_drift_69 (fun r β hc => ?_)
          obtain ⟨rfl, hβ, he⟩ := hc
          obtain ⟨t2, et2⟩ : ∃ z : tT, z = (drawT t1) := ⟨_, rfl⟩
          rw [← et2] at hβ
          have t2T : wfT t2 := by rw [et2]; exact wfT_draw t1T
          have t2P : wfP t2 := by rw [et2]; exact wfP_draw t1P
          have t2s : t2 0 13 < 2 ^ 31 := by rw [et2]; exact drawT_sd _
          have t28 : t2 0 8 = t0 0 8 := by rw [et2, drawT_k _ (by decide)]; exact t18
          have t21 : t2 0 1 = t0 0 1 := by rw [et2, drawT_k _ (by decide)]; exact t11
          have e1 : t2 = day1 t0 := by rw [et2, et1]; rfl
          refine g_istore (pc := 72) 4 C0 (L1 := [some (.ref (ad 0)), some (.int (nI n1)), some (.int (nI i38)), some (.int (nI q0)), some (.int (nI (drawV t1 (t1 0 1))))]) rfl (by decide) dX0_drift_72 rfl ?_
          obtain ⟨r0, er0⟩ : ∃ z, z = (drawV t1 (t1 0 1)) := ⟨_, rfl⟩
          have hr0 : r0 = dayR t0 := by rw [er0, dayR, t11, et1]
          have hr1 : r0 < t0 0 1 := by rw [hr0]; exact b3
          refine G.lE (L' := [some (.ref (ad 0)), some (.int (nI n1)), some (.int (nI i38)), some (.int (nI q0)), some (.int (nI r0))]) (by rw [er0]) ?_
          refine G.meetX (Φ := fun β => RX nS β (day2 t0)) (wsf := fun β => xW dT ad nS β) (pcJ := 91) (LJ := [some (.ref (ad 0)), some (.int (nI n1)), some (.int (nI i38)), some (.int (nI q0)), some (.int (nI r0))]) (stJ := []) (fun β hβ => ?_) (fun J91 => ?_)
          · refine g_aload_n (pc := 91) 0 C0 rfl dX0_drift_91 rfl ?_
            refine g_get (pc := 92) (v := .ref (ad 1)) C0 (C := RX0) (T := TX0) (N := 14) (ci := 1) (q0 := 0) (j := 0) 1 (xCode (by omega)) rfl rfl in_X0 (by decide) q184 rfl dX0_drift_92 ?_
            refine g_bipush (pc := 95) (v := (nI 16)) C0 dX0_drift_95 (by decide) ?_
            refine g_cviX (pc := 97) (na := 1) (As := [.int (nI 16)]) (rest := []) C0 hN (xF_draw l D dT ad nS (day2 t0) β  16 hβ (by assumption) (by decide) (by decide)) (q0 := 1) (j := 1) (ci := 3) (C := RX2) (T := TX2) (N := 10) (xCode (by omega)) rfl rfl q822 q823 q824 q59 q825 (by decide +kernel) ⟨Nat.le_of_ble_eq_true rfl, Nat.le_of_ble_eq_true rfl⟩ rfl rfl ⟨Nat.le_of_ble_eq_true rfl, Nat.le_of_ble_eq_true rfl⟩ rfl rfl (Nat.le_of_ble_eq_true rfl) dX0_drift_97 (fun r β hc => ?_)
            obtain ⟨rfl, hβ, he⟩ := hc
            obtain ⟨t4, et4⟩ : ∃ z : tT, z = (drawT (day2 t0)) := ⟨_, rfl⟩
            rw [← et4] at hβ
            have t4T : wfT t4 := by rw [et4]; exact wfT_draw c4
            have t4P : wfP t4 := by rw [et4]; exact wfP_draw c5
            have t4s : t4 0 13 < 2 ^ 31 := by rw [et4]; exact drawT_sd _
            have t48 : t4 0 8 = t0 0 8 := by rw [et4, drawT_k _ (by decide)]; exact c2
            have t41 : t4 0 1 = t0 0 1 := by rw [et4, drawT_k _ (by decide)]; exact c3
            refine g_if_neN (pc := 100) 120 C0 (Nat.lt_trans (drawV_lt _ (by decide)) (by decide)) dX0_drift_100 (by decide) (fun h100 => ?_) (fun h100 => ?_)
            · refine g_iinc1 (pc := 120) 2 C0 (L1 := [some (.ref (ad 0)), some (.int (nI n1)), some (.int (nI (i38 + 1))), some (.int (nI q0)), some (.int (nI r0))]) rfl rfl (by decide) dX0_drift_120 rfl ?_
              refine g_goto (pc := 123) 38 C0 dX0_drift_123 (by decide) ?_
              refine G.forget 3 ?_
              refine G.forget 4 ?_
              subst er0
              subst eq0
              exact ih38 β (by show RX nS β (dayT (dayN τ i38)); rw [← et0, dayT, if_neg (fun c => h100 c.1), ← et4]; exact hβ)
            · refine g_aload_n (pc := 103) 0 C0 rfl dX0_drift_103 rfl ?_
              refine g_get (pc := 104) (v := .ref (ad 1)) C0 (C := RX0) (T := TX0) (N := 14) (ci := 1) (q0 := 0) (j := 0) 1 (xCode (by omega)) rfl rfl in_X0 (by decide) q184 rfl dX0_drift_104 ?_
              refine g_getN (pc := 107) (v := .int (nI (t4 0 8))) C0 hN (C := RX2) (T := TX2) (N := 10) (ci := 3) (q0 := 1) (j := 1) 3 (xCode (by omega)) rfl rfl in_X2 (by decide) q146 (xv hβ.f1_3) dX0_drift_107 ?_
              refine g_bipush (pc := 110) (v := (nI 8)) C0 dX0_drift_110 (by decide) ?_
              refine g_icmp_geN (pc := 112) 120 C0 (by omega) (by decide) dX0_drift_112 (by decide) (fun h112 => ?_) (fun h112 => ?_)
              · refine g_iinc1 (pc := 120) 2 C0 (L1 := [some (.ref (ad 0)), some (.int (nI n1)), some (.int (nI (i38 + 1))), some (.int (nI q0)), some (.int (nI r0))]) rfl rfl (by decide) dX0_drift_120 rfl ?_
                refine g_goto (pc := 123) 38 C0 dX0_drift_123 (by decide) ?_
                refine G.forget 3 ?_
                refine G.forget 4 ?_
                subst er0
                subst eq0
                exact ih38 β (by show RX nS β (dayT (dayN τ i38)); rw [← et0, dayT, if_neg (fun c => by omega), ← et4]; exact hβ)
              · refine g_aload_n (pc := 115) 0 C0 rfl dX0_drift_115 rfl ?_
                refine g_iload_n (pc := 116) 3 C0 rfl dX0_drift_116 rfl ?_
                refine g_cvvX (pc := 117) (na := 1) (As := [.int (nI q0)]) (rest := []) C0 hN (xX_beget l D dT ad nS t4 β  q0 hβ (by omega) (by omega) t4s) (q0 := 0) (j := 0) (ci := 1) (C := RX0) (T := TX0) (N := 14) (xCode (by omega)) rfl rfl q830 q832 qs21 q57 q833 (by decide +kernel) ⟨Nat.le_of_ble_eq_true rfl, Nat.le_of_ble_eq_true rfl⟩ rfl rfl ⟨Nat.le_of_ble_eq_true rfl, Nat.le_of_ble_eq_true rfl⟩ rfl rfl (Nat.le_of_ble_eq_true rfl) dX0_drift_117 (fun β hc => ?_)
                have hβ := hc
                refine g_iinc1 (pc := 120) 2 C0 (L1 := [some (.ref (ad 0)), some (.int (nI n1)), some (.int (nI (i38 + 1))), some (.int (nI q0)), some (.int (nI r0))]) rfl rfl (by decide) dX0_drift_120 rfl ?_
                refine g_goto (pc := 123) 38 C0 dX0_drift_123 (by decide) ?_
                refine G.forget 3 ?_
                refine G.forget 4 ?_
                subst er0
                subst eq0
                exact ih38 β (by show RX nS β (dayT (dayN τ i38)); rw [← et0, dayT, if_pos ⟨h100, by omega⟩, ← hq0, ← et4]; exact hβ)
          · refine g_aload_n (pc := 74) 0 C0 rfl dX0_drift_74 rfl ?_
            refine g_iload_n (pc := 75) 3 C0 rfl dX0_drift_75 rfl ?_
            refine g_iload (pc := 76) 4 C0 rfl dX0_drift_76 ?_
            refine g_cviX (pc := 78) (na := 2) (As := [.int (nI q0), .int (nI r0)]) (rest := []) C0 hN (xX_canGo l D dT ad nS t2 β  q0 r0 hβ t2T t2P (by omega) (by omega)) (q0 := 0) (j := 0) (ci := 1) (C := RX0) (T := TX0) (N := 14) (xCode (by omega)) rfl rfl q785 q787 qs17 q57 q788 (by decide +kernel) ⟨Nat.le_of_ble_eq_true rfl, Nat.le_of_ble_eq_true rfl⟩ rfl rfl ⟨Nat.le_of_ble_eq_true rfl, Nat.le_of_ble_eq_true rfl⟩ rfl rfl (Nat.le_of_ble_eq_true rfl) dX0_drift_78 (fun r β hc => ?_)
            obtain ⟨rfl, hβ⟩ := hc
            refine g_if_eqB (pc := 81) 91 C0 dX0_drift_81 (by decide) (fun h81 => ?_) (fun h81 => ?_)
            · have e9 : day2 t0 = t2 := by rw [day2, ← e1, ← hq0, ← hr0, if_neg (by rw [h81]; decide)]
              exact J91 β (by rw [e9]; exact hβ)
            · refine g_aload_n (pc := 84) 0 C0 rfl dX0_drift_84 rfl ?_
              refine g_iload_n (pc := 85) 3 C0 rfl dX0_drift_85 rfl ?_
              refine g_iload (pc := 86) 4 C0 rfl dX0_drift_86 ?_
              refine g_cvvX (pc := 88) (na := 2) (As := [.int (nI q0), .int (nI r0)]) (rest := []) C0 hN (xX_goNow l D dT ad nS t2 β  q0 r0 hβ t2T t2P (by omega) (by omega) h81) (q0 := 0) (j := 0) (ci := 1) (C := RX0) (T := TX0) (N := 14) (xCode (by omega)) rfl rfl q790 q792 qs18 q57 q793 (by decide +kernel) ⟨Nat.le_of_ble_eq_true rfl, Nat.le_of_ble_eq_true rfl⟩ rfl rfl ⟨Nat.le_of_ble_eq_true rfl, Nat.le_of_ble_eq_true rfl⟩ rfl rfl (Nat.le_of_ble_eq_true rfl) dX0_drift_88 (fun β hc => ?_)
              have hβ := hc
              have e9 : day2 t0 = (goT t2 q0 r0) := by rw [day2, ← e1, ← hq0, ← hr0, if_pos h81]
              exact J91 β (by rw [e9]; exact hβ)
      · refine g_ldc (pc := 33) (v := -1000000003) C0 q789 dX0_drift_33 ?_
        exact g_iret (pc := 35) C0 dX0_drift_35 ⟨by rw [pDrift, if_pos h7, if_pos (by omega)]; rfl, by rw [pDriftT, if_pos h7, if_pos (by omega)]; exact hβ⟩
  · rw [isInB_rg n (lo := 1) (hi := 99) (by decide) (by decide)] at h7
    refine g_ldc (pc := 10) (v := -1000000002) C0 q235 dX0_drift_10 ?_
    exact g_iret (pc := 12) C0 dX0_drift_12 ⟨by rw [pDrift, h7]; rfl, by rw [pDriftT, h7]; exact hβ⟩
