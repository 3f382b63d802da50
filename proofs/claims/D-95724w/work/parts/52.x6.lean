/-! X, sixth module -/
set_option maxRecDepth 100000
set_option maxHeartbeats 4000000 in
set_option maxRecDepth 100000 in
theorem xX_feed (l : Launch) (D : va_G) (dT : Nat → ClassId) (ad : Nat → Nat) (nS : Nat) (τ β : tT)  (n : Int32) (y : Int64) (hβ : RX nS β τ) (h15 : τ 0 15 ≤ 500) : XI l D dT ad nS yX0_feed cX0_feed 5 .int ({ frames := 1, cells := 0, slots := 0, locals := 22 }) [.ref (ad 0), .int n, .long y] β (fun rr β' => rr = (pFeed τ n) ∧ RX nS β' (pFeedT τ n y)) := by
  refine XI.ofG (own := "FittingStrides") (L := [some (.ref (ad 0)), some (.int n), some (.long y), none, none]) rfl (by decide) (Nat.le_of_ble_eq_true rfl) rfl ?_
  intro p' e' s' m' bl' mt' c' C0 hN
  have hn := hβ.n
  have hn10 := hβ.n10
  refine g_iload_n (pc := 0) 1 C0 rfl dX0_feed_0 rfl ?_
  refine g_iconst (pc := 1) (v := (nI 1)) C0 dX0_feed_1 (by decide) ?_
  refine g_bipush (pc := 2) (v := (nI 8)) C0 dX0_feed_2 (by decide) ?_
  refine g_csi (pc := 4) (na := 3) (As := [.int n, .int (nI 1), .int (nI 8)]) (rest := []) C0 (xX_isIn l n (nI 1) (nI 8) ) q232 q233 q57 q234 (by decide +kernel) ⟨Nat.le_of_ble_eq_true rfl, Nat.le_of_ble_eq_true rfl⟩ rfl rfl ⟨Nat.le_of_ble_eq_true rfl, Nat.le_of_ble_eq_true rfl⟩ rfl rfl (Nat.le_of_ble_eq_true rfl) dX0_feed_4 ?_
  refine g_if_neB (pc := 7) 13 C0 dX0_feed_7 (by decide) (fun h7 => ?_) (fun h7 => ?_)
  · rw [isInB_rg n (lo := 1) (hi := 8) (by decide) (by decide)] at h7
    obtain ⟨n1, rfl, n1l, n1h, n1b⟩ := rgB_t h7
    refine g_aload_n (pc := 13) 0 C0 rfl dX0_feed_13 rfl ?_
    refine g_get (pc := 14) (v := .int (nI (τ 0 15))) C0 (C := RX0) (T := TX0) (N := 14) (ci := 1) (q0 := 0) (j := 0) 9 (xCode (by omega)) rfl rfl in_X0 (by decide) q192 (xv hβ.f0_9) dX0_feed_14 ?_
    refine g_iload_n (pc := 17) 1 C0 rfl dX0_feed_17 rfl ?_
    refine g_iaddN (pc := 18) C0  dX0_feed_18 ?_
    refine g_sipush (pc := 19) (v := (nI 500)) C0 dX0_feed_19 (by decide) ?_
    refine g_icmp_leN (pc := 22) 28 C0 (by omega) (by decide) dX0_feed_22 (by decide) (fun h22 => ?_) (fun h22 => ?_)
    · refine g_iload_n (pc := 28) 1 C0 rfl dX0_feed_28 rfl ?_
      refine g_iconst (pc := 29) (v := (nI 1)) C0 dX0_feed_29 (by decide) ?_
      refine g_isubN (pc := 30) C0 (by omega) dX0_feed_30 ?_
      refine g_istore (pc := 31) 4 C0 (L1 := [some (.ref (ad 0)), some (.int (nI n1)), some (.long y), none, some (.int (nI (n1 - 1)))]) rfl (by decide) dX0_feed_31 rfl ?_
      refine G.lE (L' := [some (.ref (ad 0)), some (.int (nI n1)), some (.long y), none, some (.int (nI (n1 - 0) + (-1)))]) (by rw [fd_m1 (by omega)]; rfl) ?_
      refine G.loopX (pc := 33) (Φ := fun i β => RX nS β (fdT τ y n1 i)) (wsf := fun β => xW dT ad nS β) (Lf := fun i => [some (.ref (ad 0)), some (.int (nI n1)), some (.long y), none, some (.int (nI (n1 - i) + (-1)))]) (N := n1) (i0 := 0) β hβ (Nat.zero_le _) (fun β hβ => ?_) (fun i33 β hi33 hj33 hβ ih33 => ?_)
      · refine g_iload (pc := 33) 4 C0 rfl dX0_feed_33 ?_
        refine g_if_lt (pc := 35) 72 C0 dX0_feed_35 (by decide) (fun h35 => ?_) (fun h35 => ?_)
        rotate_left
        · exact absurd h35 (by rw [Nat.sub_self]; decide)
        refine g_aload_n (pc := 72) 0 C0 rfl dX0_feed_72 rfl ?_
        refine g_get (pc := 73) (v := .int (nI ((fdT τ y n1 n1) 0 15))) C0 (C := RX0) (T := TX0) (N := 14) (ci := 1) (q0 := 0) (j := 0) 9 (xCode (by omega)) rfl rfl in_X0 (by decide) q192 (xv hβ.f0_9) dX0_feed_73 ?_
        exact g_iret (pc := 76) C0 dX0_feed_76 ⟨by rw [pFeed, if_pos h7, nI_clamp n1b, if_pos (by omega), fdT_15], by rw [pFeedT, if_pos h7, nI_clamp n1b, if_pos (by omega)]; exact hβ⟩
      · refine g_iload (pc := 33) 4 C0 rfl dX0_feed_33 ?_
        refine g_if_lt (pc := 35) 72 C0 dX0_feed_35 (by decide) (fun h35 => ?_) (fun h35 => ?_)
        · exact absurd h35 (fd_ge (by omega) (by omega))
        have t15 := fdT_15 τ y n1 i33
        refine G.lE (L' := [some (.ref (ad 0)), some (.int (nI n1)), some (.long y), none, some (.int (nI (n1 - 1 - i33)))]) (by rw [fd_m1 (by omega), show n1 - i33 - 1 = n1 - 1 - i33 by omega]) ?_
        refine g_aload_n (pc := 38) 0 C0 rfl dX0_feed_38 rfl ?_
        refine g_get (pc := 39) (v := .ref (ad 13)) C0 (C := RX0) (T := TX0) (N := 14) (ci := 1) (q0 := 0) (j := 0) 8 (xCode (by omega)) rfl rfl in_X0 (by decide) q191 rfl dX0_feed_39 ?_
        refine g_aload_n (pc := 42) 0 C0 rfl dX0_feed_42 rfl ?_
        refine g_get (pc := 43) (v := .int (nI ((fdT τ y n1 i33) 0 15))) C0 (C := RX0) (T := TX0) (N := 14) (ci := 1) (q0 := 0) (j := 0) 9 (xCode (by omega)) rfl rfl in_X0 (by decide) q192 (xv hβ.f0_9) dX0_feed_43 ?_
        refine g_lload_n (pc := 46) 2 C0 rfl dX0_feed_46 rfl ?_
        refine g_bipush (pc := 47) (v := (nI 8)) C0 dX0_feed_47 (by decide) ?_
        refine g_iload (pc := 49) 4 C0 rfl dX0_feed_49 ?_
        refine g_imulN (pc := 51) C0  dX0_feed_51 ?_
        refine g_lshr (pc := 52) (v := y >>> ((nI (8 * (n1 - 1 - i33))).toInt64 &&& 63)) C0 dX0_feed_52 rfl ?_
        refine g_l2i (pc := 53) (v := (y >>> ((nI (8 * (n1 - 1 - i33))).toInt64 &&& 63)).toInt32) C0 dX0_feed_53 rfl ?_
        refine g_i2b (pc := 54) (v := ((y >>> ((nI (8 * (n1 - 1 - i33))).toInt64 &&& 63)).toInt32).toInt8.toInt32) C0 dX0_feed_54 rfl ?_
        refine g_bast (pc := 55) (q0 := 13) (j := 13) (t0 := 2) (N := 500) C0 ((fdT τ y n1 i33) 0 15) (bv y (n1 - 1 - i33)) (xNd hβ.n10) (xCode (by omega)) (fun _ => rfl) rfl (by decide) (by omega) (bv_by y _) dX0_feed_55 ?_
        refine G.nmX (Φ := fun β => RX nS β (upc (fdT τ y n1 i33) 14 ((fdT τ y n1 i33) 0 15) (bv y (n1 - 1 - i33)))) (wsf := fun β => xW dT ad nS β) (hβ.w13 _ _) (fun β hβ => ?_)
        refine g_aload_n (pc := 56) 0 C0 rfl dX0_feed_56 rfl ?_
        refine g_dup (pc := 57) C0 dX0_feed_57 rfl ?_
        refine g_get (pc := 58) (v := .int (nI ((fdT τ y n1 i33) 0 15))) C0 (C := RX0) (T := TX0) (N := 14) (ci := 1) (q0 := 0) (j := 0) 9 (xCode (by omega)) rfl rfl in_X0 (by decide) q192 (xv hβ.f0_9) dX0_feed_58 ?_
        refine g_iconst (pc := 61) (v := (nI 1)) C0 dX0_feed_61 (by decide) ?_
        refine g_iaddN (pc := 62) C0  dX0_feed_62 ?_
        refine g_put (pc := 63) C0 (C := RX0) (T := TX0) (N := 14) (ci := 1) (q0 := 0) (j := 0) (F := xF0 ad) (ty := .int) (z := (((fdT τ y n1 i33) 0 15) + 1)) tyX0 tyX0_ok nmX0 (xNd hβ.n10) 9 (xCode (by omega)) (fun _ => rfl) rfl in_X0 (by decide) q192 rfl (by decide) rfl rfl (by show _ < 14; decide) rfl dX0_feed_63 ?_
        refine G.nmX (Φ := fun β => RX nS β (upc (upc (fdT τ y n1 i33) 14 ((fdT τ y n1 i33) 0 15) (bv y (n1 - 1 - i33))) 0 15 (((fdT τ y n1 i33) 0 15) + 1))) (wsf := fun β => xW dT ad nS β) (hβ.w0_9 _) (fun β hβ => ?_)
        refine g_iinc (pc := 66) (v := nI (n1 - 1 - i33) + (-1)) 4 C0 (L1 := [some (.ref (ad 0)), some (.int (nI n1)), some (.long y), none, some (.int (nI (n1 - 1 - i33) + (-1)))]) rfl rfl (by decide) dX0_feed_66 rfl rfl ?_
        refine g_goto (pc := 69) 33 C0 dX0_feed_69 (by decide) ?_
        exact G.lE (by rw [show n1 - 1 - i33 = n1 - (i33 + 1) by omega]) (ih33 β hβ)
    · refine g_ldc (pc := 25) (v := -1000000004) C0 q236 dX0_feed_25 ?_
      exact g_iret (pc := 27) C0 dX0_feed_27 ⟨by rw [pFeed, if_pos h7, nI_clamp n1b, if_neg (by omega)]; rfl, by rw [pFeedT, if_pos h7, nI_clamp n1b, if_neg (by omega)]; exact hβ⟩
  · rw [isInB_rg n (lo := 1) (hi := 8) (by decide) (by decide)] at h7
    refine g_ldc (pc := 10) (v := -1000000002) C0 q235 dX0_feed_10 ?_
    exact g_iret (pc := 12) C0 dX0_feed_12 ⟨by rw [pFeed, h7]; rfl, by rw [pFeedT, h7]; exact hβ⟩
set_option maxHeartbeats 4000000 in
set_option maxRecDepth 100000 in
theorem xF_set_21 (l : Launch) (D : va_G) (dT : Nat → ClassId) (ad : Nat → Nat) (nS : Nat) (β : tT) (hn : nS ≤ 10) : XV l D dT ad nS yX2_set cX2_set 3 ({ frames := 1, cells := 0, slots := 0, locals := 64 }) [.ref (ad 2), .ref (ad 1)] β (fun β' => setB β 2 22 23 24 25 42 1 5 6 7 8 32 = β') := by
  refine XV.ofG (own := "FittingStrides$Folk") (L := [some (.ref (ad 2)), some (.ref (ad 1)), none]) rfl (by decide) (Nat.le_of_ble_eq_true rfl) rfl ?_
  intro p' e' s' m' bl' mt' c' C0 hN
  refine g_aload_n (pc := 0) 1 C0 rfl dX2_set_0 rfl ?_
  refine g_get (pc := 1) (v := .ref (ad 5)) C0 (C := RX2) (T := TX2) (N := 10) (ci := 3) (q0 := 1) (j := 1) 0 (xCode (by omega)) rfl rfl in_X2 (by decide) q139 rfl dX2_set_1 ?_
  refine g_iconst (pc := 4) (v := (nI 0)) C0 dX2_set_4 (by decide) ?_
  refine g_aload_n (pc := 5) 0 C0 rfl dX2_set_5 rfl ?_
  refine g_get (pc := 6) (v := .ref (ad 22)) C0 (C := RX2) (T := TX2) (N := 10) (ci := 3) (q0 := 2) (j := 2) 0 (xCode (by omega)) rfl rfl in_X2 (by decide) q139 rfl dX2_set_6 ?_
  refine g_iconst (pc := 9) (v := (nI 0)) C0 dX2_set_9 (by decide) ?_
  refine g_bipush (pc := 10) (v := (nI 8)) C0 dX2_set_10 (by decide) ?_
  refine g_copy (pc := 12) (q0 := 5) (j0 := 5) (q1 := 22) (j1 := 22) (t0 := 0) (n0 := 8) (n1 := 8) C0 8 (xNd hn) (xCode (by omega)) (fun _ => rfl) (xCode (by omega)) (fun _ => rfl) rfl (by decide) (by decide) (by decide) q680 q351 q350 q69 (Nat.le_of_ble_eq_true rfl) (by decide) dX2_set_12 ?_
  refine g_aload_n (pc := 15) 1 C0 rfl dX2_set_15 rfl ?_
  refine g_get (pc := 16) (v := .ref (ad 6)) C0 (C := RX2) (T := TX2) (N := 10) (ci := 3) (q0 := 1) (j := 1) 1 (xCode (by omega)) rfl rfl in_X2 (by decide) q141 rfl dX2_set_16 ?_
  refine g_iconst (pc := 19) (v := (nI 0)) C0 dX2_set_19 (by decide) ?_
  refine g_aload_n (pc := 20) 0 C0 rfl dX2_set_20 rfl ?_
  refine g_get (pc := 21) (v := .ref (ad 23)) C0 (C := RX2) (T := TX2) (N := 10) (ci := 3) (q0 := 2) (j := 2) 1 (xCode (by omega)) rfl rfl in_X2 (by decide) q141 rfl dX2_set_21 ?_
  refine g_iconst (pc := 24) (v := (nI 0)) C0 dX2_set_24 (by decide) ?_
  refine g_bipush (pc := 25) (v := (nI 8)) C0 dX2_set_25 (by decide) ?_
  refine g_copy (pc := 27) (q0 := 6) (j0 := 6) (q1 := 23) (j1 := 23) (t0 := 0) (n0 := 8) (n1 := 8) C0 8 (xNd hn) (xCode (by omega)) (fun _ => rfl) (xCode (by omega)) (fun _ => rfl) rfl (by decide) (by decide) (by decide) q680 q351 q350 q69 (Nat.le_of_ble_eq_true rfl) (by decide) dX2_set_27 ?_
  refine g_aload_n (pc := 30) 1 C0 rfl dX2_set_30 rfl ?_
  refine g_get (pc := 31) (v := .ref (ad 7)) C0 (C := RX2) (T := TX2) (N := 10) (ci := 3) (q0 := 1) (j := 1) 2 (xCode (by omega)) rfl rfl in_X2 (by decide) q143 rfl dX2_set_31 ?_
  refine g_iconst (pc := 34) (v := (nI 0)) C0 dX2_set_34 (by decide) ?_
  refine g_aload_n (pc := 35) 0 C0 rfl dX2_set_35 rfl ?_
  refine g_get (pc := 36) (v := .ref (ad 24)) C0 (C := RX2) (T := TX2) (N := 10) (ci := 3) (q0 := 2) (j := 2) 2 (xCode (by omega)) rfl rfl in_X2 (by decide) q143 rfl dX2_set_36 ?_
  refine g_iconst (pc := 39) (v := (nI 0)) C0 dX2_set_39 (by decide) ?_
  refine g_bipush (pc := 40) (v := (nI 8)) C0 dX2_set_40 (by decide) ?_
  refine g_copy (pc := 42) (q0 := 7) (j0 := 7) (q1 := 24) (j1 := 24) (t0 := 0) (n0 := 8) (n1 := 8) C0 8 (xNd hn) (xCode (by omega)) (fun _ => rfl) (xCode (by omega)) (fun _ => rfl) rfl (by decide) (by decide) (by decide) q680 q351 q350 q69 (Nat.le_of_ble_eq_true rfl) (by decide) dX2_set_42 ?_
  refine g_aload_n (pc := 45) 0 C0 rfl dX2_set_45 rfl ?_
  refine g_aload_n (pc := 46) 1 C0 rfl dX2_set_46 rfl ?_
  refine g_get (pc := 47) (v := .int (nI ((cp0 (cp0 (cp0 β 5 22 8) 6 23 8) 7 24 8) 1 3))) C0 (C := RX2) (T := TX2) (N := 10) (ci := 3) (q0 := 1) (j := 1) 3 (xCode (by omega)) rfl rfl in_X2 (by decide) q145 rfl dX2_set_47 ?_
  refine g_put (pc := 50) C0 (C := RX2) (T := TX2) (N := 10) (ci := 3) (q0 := 2) (j := 2) (F := (xFf 22 23 24 26 25) ad) (ty := .int) (z := ((cp0 (cp0 (cp0 β 5 22 8) 6 23 8) 7 24 8) 1 3)) tyX2 tyX2_ok nmX2 (xNd hn) 3 (xCode (by omega)) (fun _ => rfl) rfl in_X2 (by decide) q145 rfl (by decide) rfl rfl (by show _ < 10; decide) rfl dX2_set_50 ?_
  refine g_iconst (pc := 53) (v := (nI 0)) C0 dX2_set_53 (by decide) ?_
  refine g_istore_n (pc := 54) 2 C0 (L1 := [some (.ref (ad 2)), some (.ref (ad 1)), some (.int (nI 0))]) rfl (by decide) dX2_set_54 rfl rfl ?_
  obtain ⟨b4, eb4⟩ : ∃ z : tT, z = (upc (cp0 (cp0 (cp0 β 5 22 8) 6 23 8) 7 24 8) 2 3 ((cp0 (cp0 (cp0 β 5 22 8) 6 23 8) 7 24 8) 1 3)) := ⟨_, rfl⟩
  refine G.wsE (ws' := xW dT ad nS (cpR b4 32 42 0)) (by rw [cpR_0, eb4]) ?_
  refine G.loop (pc := 55) (ws := fun i => xW dT ad nS (cpR b4 32 42 i)) (Lf := fun i => [some (.ref (ad 2)), some (.ref (ad 1)), some (.int (nI i))]) (N := 10) (i0 := 0) (Nat.zero_le _) ?_ (fun i55 hi55 hj55 ih55 => ?_)
  · refine g_iload_n (pc := 55) 2 C0 rfl dX2_set_55 rfl ?_
    refine g_bipush (pc := 56) (v := (nI 10)) C0 dX2_set_56 (by decide) ?_
    refine g_icmp_geN (pc := 58) 85 C0 (by decide) (by decide) dX2_set_58 (by decide) (fun h58 => ?_) (fun h58 => ?_)
    rotate_left
    · exact absurd h58 (by omega)
    refine g_aload_n (pc := 85) 1 C0 rfl dX2_set_85 rfl ?_
    refine g_get (pc := 86) (v := .ref (ad 8)) C0 (C := RX2) (T := TX2) (N := 10) (ci := 3) (q0 := 1) (j := 1) 5 (xCode (by omega)) rfl rfl in_X2 (by decide) q149 rfl dX2_set_86 ?_
    refine g_iconst (pc := 89) (v := (nI 0)) C0 dX2_set_89 (by decide) ?_
    refine g_aload_n (pc := 90) 0 C0 rfl dX2_set_90 rfl ?_
    refine g_get (pc := 91) (v := .ref (ad 25)) C0 (C := RX2) (T := TX2) (N := 10) (ci := 3) (q0 := 2) (j := 2) 5 (xCode (by omega)) rfl rfl in_X2 (by decide) q149 rfl dX2_set_91 ?_
    refine g_iconst (pc := 94) (v := (nI 0)) C0 dX2_set_94 (by decide) ?_
    refine g_bipush (pc := 95) (v := (nI 10)) C0 dX2_set_95 (by decide) ?_
    refine g_copy (pc := 97) (q0 := 8) (j0 := 8) (q1 := 25) (j1 := 25) (t0 := 0) (n0 := 10) (n1 := 10) C0 10 (xNd hn) (xCode (by omega)) (fun _ => rfl) (xCode (by omega)) (fun _ => rfl) rfl (by decide) (by decide) (by decide) q680 q351 q350 q69 (Nat.le_of_ble_eq_true rfl) (by decide) dX2_set_97 ?_
    refine g_aload_n (pc := 100) 0 C0 rfl dX2_set_100 rfl ?_
    refine g_aload_n (pc := 101) 1 C0 rfl dX2_set_101 rfl ?_
    refine g_get (pc := 102) (v := .int (nI ((cp0 (cpR b4 32 42 10) 8 25 10) 1 6))) C0 (C := RX2) (T := TX2) (N := 10) (ci := 3) (q0 := 1) (j := 1) 6 (xCode (by omega)) rfl rfl in_X2 (by decide) q151 rfl dX2_set_102 ?_
    refine g_put (pc := 105) C0 (C := RX2) (T := TX2) (N := 10) (ci := 3) (q0 := 2) (j := 2) (F := (xFf 22 23 24 26 25) ad) (ty := .int) (z := ((cp0 (cpR b4 32 42 10) 8 25 10) 1 6)) tyX2 tyX2_ok nmX2 (xNd hn) 6 (xCode (by omega)) (fun _ => rfl) rfl in_X2 (by decide) q151 rfl (by decide) rfl rfl (by show _ < 10; decide) rfl dX2_set_105 ?_
    refine g_aload_n (pc := 108) 0 C0 rfl dX2_set_108 rfl ?_
    refine g_aload_n (pc := 109) 1 C0 rfl dX2_set_109 rfl ?_
    refine g_get (pc := 110) (v := .int (nI ((upc (cp0 (cpR b4 32 42 10) 8 25 10) 2 6 ((cp0 (cpR b4 32 42 10) 8 25 10) 1 6)) 1 7))) C0 (C := RX2) (T := TX2) (N := 10) (ci := 3) (q0 := 1) (j := 1) 7 (xCode (by omega)) rfl rfl in_X2 (by decide) q153 rfl dX2_set_110 ?_
    refine g_put (pc := 113) C0 (C := RX2) (T := TX2) (N := 10) (ci := 3) (q0 := 2) (j := 2) (F := (xFf 22 23 24 26 25) ad) (ty := .int) (z := ((upc (cp0 (cpR b4 32 42 10) 8 25 10) 2 6 ((cp0 (cpR b4 32 42 10) 8 25 10) 1 6)) 1 7)) tyX2 tyX2_ok nmX2 (xNd hn) 7 (xCode (by omega)) (fun _ => rfl) rfl in_X2 (by decide) q153 rfl (by decide) rfl rfl (by show _ < 10; decide) rfl dX2_set_113 ?_
    exact g_vret (pc := 116) C0 dX2_set_116 (by rw [eb4]; rfl)
  · refine g_iload_n (pc := 55) 2 C0 rfl dX2_set_55 rfl ?_
    refine g_bipush (pc := 56) (v := (nI 10)) C0 dX2_set_56 (by decide) ?_
    refine g_icmp_geN (pc := 58) 85 C0 (by omega) (by decide) dX2_set_58 (by decide) (fun h58 => ?_) (fun h58 => ?_)
    · exact absurd h58 (by omega)
    refine g_aload_n (pc := 61) 1 C0 rfl dX2_set_61 rfl ?_
    refine g_get (pc := 62) (v := .ref (ad 21)) C0 (C := RX2) (T := TX2) (N := 10) (ci := 3) (q0 := 1) (j := 1) 4 (xCode (by omega)) rfl rfl in_X2 (by decide) q147 rfl dX2_set_62 ?_
    refine g_iload_n (pc := 65) 2 C0 rfl dX2_set_65 rfl ?_
    refine g_aaldA (pc := 66) (q0 := 21) (j := 21) (t0 := 3) (N := 10) (jr := 32 + i55) C0 i55 (xCode (by omega)) rfl rfl (by decide) (by omega) rfl dX2_set_66 ?_
    refine g_iconst (pc := 67) (v := (nI 0)) C0 dX2_set_67 (by decide) ?_
    refine g_aload_n (pc := 68) 0 C0 rfl dX2_set_68 rfl ?_
    refine g_get (pc := 69) (v := .ref (ad 26)) C0 (C := RX2) (T := TX2) (N := 10) (ci := 3) (q0 := 2) (j := 2) 4 (xCode (by omega)) rfl rfl in_X2 (by decide) q147 rfl dX2_set_69 ?_
    refine g_iload_n (pc := 72) 2 C0 rfl dX2_set_72 rfl ?_
    refine g_aaldA (pc := 73) (q0 := 26) (j := 26) (t0 := 3) (N := 10) (jr := 42 + i55) C0 i55 (xCode (by omega)) rfl rfl (by decide) (by omega) rfl dX2_set_73 ?_
    refine g_iconst (pc := 74) (v := (nI 0)) C0 dX2_set_74 (by decide) ?_
    refine g_iconst (pc := 75) (v := (nI 3)) C0 dX2_set_75 (by decide) ?_
    refine g_copy (pc := 76) (q0 := 32 + i55) (j0 := 32 + i55) (q1 := 42 + i55) (j1 := 42 + i55) (t0 := 0) (n0 := 3) (n1 := 3) C0 3 (xNd hn) (xCode (by omega)) (fun f => xMk_row (by omega) f) (xCode (by omega)) (fun f => xMk_img0 (by omega) f) rfl (by decide) (by decide) (by decide) q680 q351 q350 q69 (Nat.le_of_ble_eq_true rfl) (by decide) dX2_set_76 ?_
    refine g_iinc1 (pc := 79) 2 C0 (L1 := [some (.ref (ad 2)), some (.ref (ad 1)), some (.int (nI (i55 + 1)))]) rfl rfl (by decide) dX2_set_79 rfl ?_
    refine g_goto (pc := 82) 55 C0 dX2_set_82 (by decide) ?_
    exact G.wsE (by rw [cpR_s i55 hi55 (by decide)]) ih55
set_option maxHeartbeats 4000000 in
set_option maxRecDepth 100000 in
theorem xF_set_31 (l : Launch) (D : va_G) (dT : Nat → ClassId) (ad : Nat → Nat) (nS : Nat) (β : tT) (hn : nS ≤ 10) : XV l D dT ad nS yX2_set cX2_set 3 ({ frames := 1, cells := 0, slots := 0, locals := 64 }) [.ref (ad 3), .ref (ad 1)] β (fun β' => setB β 3 27 28 29 30 52 1 5 6 7 8 32 = β') := by
  refine XV.ofG (own := "FittingStrides$Folk") (L := [some (.ref (ad 3)), some (.ref (ad 1)), none]) rfl (by decide) (Nat.le_of_ble_eq_true rfl) rfl ?_
  intro p' e' s' m' bl' mt' c' C0 hN
  refine g_aload_n (pc := 0) 1 C0 rfl dX2_set_0 rfl ?_
  refine g_get (pc := 1) (v := .ref (ad 5)) C0 (C := RX2) (T := TX2) (N := 10) (ci := 3) (q0 := 1) (j := 1) 0 (xCode (by omega)) rfl rfl in_X2 (by decide) q139 rfl dX2_set_1 ?_
  refine g_iconst (pc := 4) (v := (nI 0)) C0 dX2_set_4 (by decide) ?_
  refine g_aload_n (pc := 5) 0 C0 rfl dX2_set_5 rfl ?_
  refine g_get (pc := 6) (v := .ref (ad 27)) C0 (C := RX2) (T := TX2) (N := 10) (ci := 3) (q0 := 3) (j := 3) 0 (xCode (by omega)) rfl rfl in_X2 (by decide) q139 rfl dX2_set_6 ?_
  refine g_iconst (pc := 9) (v := (nI 0)) C0 dX2_set_9 (by decide) ?_
  refine g_bipush (pc := 10) (v := (nI 8)) C0 dX2_set_10 (by decide) ?_
  refine g_copy (pc := 12) (q0 := 5) (j0 := 5) (q1 := 27) (j1 := 27) (t0 := 0) (n0 := 8) (n1 := 8) C0 8 (xNd hn) (xCode (by omega)) (fun _ => rfl) (xCode (by omega)) (fun _ => rfl) rfl (by decide) (by decide) (by decide) q680 q351 q350 q69 (Nat.le_of_ble_eq_true rfl) (by decide) dX2_set_12 ?_
  refine g_aload_n (pc := 15) 1 C0 rfl dX2_set_15 rfl ?_
  refine g_get (pc := 16) (v := .ref (ad 6)) C0 (C := RX2) (T := TX2) (N := 10) (ci := 3) (q0 := 1) (j := 1) 1 (xCode (by omega)) rfl rfl in_X2 (by decide) q141 rfl dX2_set_16 ?_
  refine g_iconst (pc := 19) (v := (nI 0)) C0 dX2_set_19 (by decide) ?_
  refine g_aload_n (pc := 20) 0 C0 rfl dX2_set_20 rfl ?_
  refine g_get (pc := 21) (v := .ref (ad 28)) C0 (C := RX2) (T := TX2) (N := 10) (ci := 3) (q0 := 3) (j := 3) 1 (xCode (by omega)) rfl rfl in_X2 (by decide) q141 rfl dX2_set_21 ?_
  refine g_iconst (pc := 24) (v := (nI 0)) C0 dX2_set_24 (by decide) ?_
  refine g_bipush (pc := 25) (v := (nI 8)) C0 dX2_set_25 (by decide) ?_
  refine g_copy (pc := 27) (q0 := 6) (j0 := 6) (q1 := 28) (j1 := 28) (t0 := 0) (n0 := 8) (n1 := 8) C0 8 (xNd hn) (xCode (by omega)) (fun _ => rfl) (xCode (by omega)) (fun _ => rfl) rfl (by decide) (by decide) (by decide) q680 q351 q350 q69 (Nat.le_of_ble_eq_true rfl) (by decide) dX2_set_27 ?_
  refine g_aload_n (pc := 30) 1 C0 rfl dX2_set_30 rfl ?_
  refine g_get (pc := 31) (v := .ref (ad 7)) C0 (C := RX2) (T := TX2) (N := 10) (ci := 3) (q0 := 1) (j := 1) 2 (xCode (by omega)) rfl rfl in_X2 (by decide) q143 rfl dX2_set_31 ?_
  refine g_iconst (pc := 34) (v := (nI 0)) C0 dX2_set_34 (by decide) ?_
  refine g_aload_n (pc := 35) 0 C0 rfl dX2_set_35 rfl ?_
  refine g_get (pc := 36) (v := .ref (ad 29)) C0 (C := RX2) (T := TX2) (N := 10) (ci := 3) (q0 := 3) (j := 3) 2 (xCode (by omega)) rfl rfl in_X2 (by decide) q143 rfl dX2_set_36 ?_
  refine g_iconst (pc := 39) (v := (nI 0)) C0 dX2_set_39 (by decide) ?_
  refine g_bipush (pc := 40) (v := (nI 8)) C0 dX2_set_40 (by decide) ?_
  refine g_copy (pc := 42) (q0 := 7) (j0 := 7) (q1 := 29) (j1 := 29) (t0 := 0) (n0 := 8) (n1 := 8) C0 8 (xNd hn) (xCode (by omega)) (fun _ => rfl) (xCode (by omega)) (fun _ => rfl) rfl (by decide) (by decide) (by decide) q680 q351 q350 q69 (Nat.le_of_ble_eq_true rfl) (by decide) dX2_set_42 ?_
  refine g_aload_n (pc := 45) 0 C0 rfl dX2_set_45 rfl ?_
  refine g_aload_n (pc := 46) 1 C0 rfl dX2_set_46 rfl ?_
  refine g_get (pc := 47) (v := .int (nI ((cp0 (cp0 (cp0 β 5 27 8) 6 28 8) 7 29 8) 1 3))) C0 (C := RX2) (T := TX2) (N := 10) (ci := 3) (q0 := 1) (j := 1) 3 (xCode (by omega)) rfl rfl in_X2 (by decide) q145 rfl dX2_set_47 ?_
  refine g_put (pc := 50) C0 (C := RX2) (T := TX2) (N := 10) (ci := 3) (q0 := 3) (j := 3) (F := (xFf 27 28 29 31 30) ad) (ty := .int) (z := ((cp0 (cp0 (cp0 β 5 27 8) 6 28 8) 7 29 8) 1 3)) tyX2 tyX2_ok nmX2 (xNd hn) 3 (xCode (by omega)) (fun _ => rfl) rfl in_X2 (by decide) q145 rfl (by decide) rfl rfl (by show _ < 10; decide) rfl dX2_set_50 ?_
  refine g_iconst (pc := 53) (v := (nI 0)) C0 dX2_set_53 (by decide) ?_
  refine g_istore_n (pc := 54) 2 C0 (L1 := [some (.ref (ad 3)), some (.ref (ad 1)), some (.int (nI 0))]) rfl (by decide) dX2_set_54 rfl rfl ?_
  obtain ⟨b4, eb4⟩ : ∃ z : tT, z = (upc (cp0 (cp0 (cp0 β 5 27 8) 6 28 8) 7 29 8) 3 3 ((cp0 (cp0 (cp0 β 5 27 8) 6 28 8) 7 29 8) 1 3)) := ⟨_, rfl⟩
  refine G.wsE (ws' := xW dT ad nS (cpR b4 32 52 0)) (by rw [cpR_0, eb4]) ?_
  refine G.loop (pc := 55) (ws := fun i => xW dT ad nS (cpR b4 32 52 i)) (Lf := fun i => [some (.ref (ad 3)), some (.ref (ad 1)), some (.int (nI i))]) (N := 10) (i0 := 0) (Nat.zero_le _) ?_ (fun i55 hi55 hj55 ih55 => ?_)
  · refine g_iload_n (pc := 55) 2 C0 rfl dX2_set_55 rfl ?_
    refine g_bipush (pc := 56) (v := (nI 10)) C0 dX2_set_56 (by decide) ?_
    refine g_icmp_geN (pc := 58) 85 C0 (by decide) (by decide) dX2_set_58 (by decide) (fun h58 => ?_) (fun h58 => ?_)
    rotate_left
    · exact absurd h58 (by omega)
    refine g_aload_n (pc := 85) 1 C0 rfl dX2_set_85 rfl ?_
    refine g_get (pc := 86) (v := .ref (ad 8)) C0 (C := RX2) (T := TX2) (N := 10) (ci := 3) (q0 := 1) (j := 1) 5 (xCode (by omega)) rfl rfl in_X2 (by decide) q149 rfl dX2_set_86 ?_
    refine g_iconst (pc := 89) (v := (nI 0)) C0 dX2_set_89 (by decide) ?_
    refine g_aload_n (pc := 90) 0 C0 rfl dX2_set_90 rfl ?_
    refine g_get (pc := 91) (v := .ref (ad 30)) C0 (C := RX2) (T := TX2) (N := 10) (ci := 3) (q0 := 3) (j := 3) 5 (xCode (by omega)) rfl rfl in_X2 (by decide) q149 rfl dX2_set_91 ?_
    refine g_iconst (pc := 94) (v := (nI 0)) C0 dX2_set_94 (by decide) ?_
    refine g_bipush (pc := 95) (v := (nI 10)) C0 dX2_set_95 (by decide) ?_
    refine g_copy (pc := 97) (q0 := 8) (j0 := 8) (q1 := 30) (j1 := 30) (t0 := 0) (n0 := 10) (n1 := 10) C0 10 (xNd hn) (xCode (by omega)) (fun _ => rfl) (xCode (by omega)) (fun _ => rfl) rfl (by decide) (by decide) (by decide) q680 q351 q350 q69 (Nat.le_of_ble_eq_true rfl) (by decide) dX2_set_97 ?_
    refine g_aload_n (pc := 100) 0 C0 rfl dX2_set_100 rfl ?_
    refine g_aload_n (pc := 101) 1 C0 rfl dX2_set_101 rfl ?_
    refine g_get (pc := 102) (v := .int (nI ((cp0 (cpR b4 32 52 10) 8 30 10) 1 6))) C0 (C := RX2) (T := TX2) (N := 10) (ci := 3) (q0 := 1) (j := 1) 6 (xCode (by omega)) rfl rfl in_X2 (by decide) q151 rfl dX2_set_102 ?_
    refine g_put (pc := 105) C0 (C := RX2) (T := TX2) (N := 10) (ci := 3) (q0 := 3) (j := 3) (F := (xFf 27 28 29 31 30) ad) (ty := .int) (z := ((cp0 (cpR b4 32 52 10) 8 30 10) 1 6)) tyX2 tyX2_ok nmX2 (xNd hn) 6 (xCode (by omega)) (fun _ => rfl) rfl in_X2 (by decide) q151 rfl (by decide) rfl rfl (by show _ < 10; decide) rfl dX2_set_105 ?_
    refine g_aload_n (pc := 108) 0 C0 rfl dX2_set_108 rfl ?_
    refine g_aload_n (pc := 109) 1 C0 rfl dX2_set_109 rfl ?_
    refine g_get (pc := 110) (v := .int (nI ((upc (cp0 (cpR b4 32 52 10) 8 30 10) 3 6 ((cp0 (cpR b4 32 52 10) 8 30 10) 1 6)) 1 7))) C0 (C := RX2) (T := TX2) (N := 10) (ci := 3) (q0 := 1) (j := 1) 7 (xCode (by omega)) rfl rfl in_X2 (by decide) q153 rfl dX2_set_110 ?_
    refine g_put (pc := 113) C0 (C := RX2) (T := TX2) (N := 10) (ci := 3) (q0 := 3) (j := 3) (F := (xFf 27 28 29 31 30) ad) (ty := .int) (z := ((upc (cp0 (cpR b4 32 52 10) 8 30 10) 3 6 ((cp0 (cpR b4 32 52 10) 8 30 10) 1 6)) 1 7)) tyX2 tyX2_ok nmX2 (xNd hn) 7 (xCode (by omega)) (fun _ => rfl) rfl in_X2 (by decide) q153 rfl (by decide) rfl rfl (by show _ < 10; decide) rfl dX2_set_113 ?_
    exact g_vret (pc := 116) C0 dX2_set_116 (by rw [eb4]; rfl)
  · refine g_iload_n (pc := 55) 2 C0 rfl dX2_set_55 rfl ?_
    refine g_bipush (pc := 56) (v := (nI 10)) C0 dX2_set_56 (by decide) ?_
    refine g_icmp_geN (pc := 58) 85 C0 (by omega) (by decide) dX2_set_58 (by decide) (fun h58 => ?_) (fun h58 => ?_)
    · exact absurd h58 (by omega)
    refine g_aload_n (pc := 61) 1 C0 rfl dX2_set_61 rfl ?_
    refine g_get (pc := 62) (v := .ref (ad 21)) C0 (C := RX2) (T := TX2) (N := 10) (ci := 3) (q0 := 1) (j := 1) 4 (xCode (by omega)) rfl rfl in_X2 (by decide) q147 rfl dX2_set_62 ?_
    refine g_iload_n (pc := 65) 2 C0 rfl dX2_set_65 rfl ?_
    refine g_aaldA (pc := 66) (q0 := 21) (j := 21) (t0 := 3) (N := 10) (jr := 32 + i55) C0 i55 (xCode (by omega)) rfl rfl (by decide) (by omega) rfl dX2_set_66 ?_
    refine g_iconst (pc := 67) (v := (nI 0)) C0 dX2_set_67 (by decide) ?_
    refine g_aload_n (pc := 68) 0 C0 rfl dX2_set_68 rfl ?_
    refine g_get (pc := 69) (v := .ref (ad 31)) C0 (C := RX2) (T := TX2) (N := 10) (ci := 3) (q0 := 3) (j := 3) 4 (xCode (by omega)) rfl rfl in_X2 (by decide) q147 rfl dX2_set_69 ?_
    refine g_iload_n (pc := 72) 2 C0 rfl dX2_set_72 rfl ?_
    refine g_aaldA (pc := 73) (q0 := 31) (j := 31) (t0 := 3) (N := 10) (jr := 52 + i55) C0 i55 (xCode (by omega)) rfl rfl (by decide) (by omega) rfl dX2_set_73 ?_
    refine g_iconst (pc := 74) (v := (nI 0)) C0 dX2_set_74 (by decide) ?_
    refine g_iconst (pc := 75) (v := (nI 3)) C0 dX2_set_75 (by decide) ?_
    refine g_copy (pc := 76) (q0 := 32 + i55) (j0 := 32 + i55) (q1 := 52 + i55) (j1 := 52 + i55) (t0 := 0) (n0 := 3) (n1 := 3) C0 3 (xNd hn) (xCode (by omega)) (fun f => xMk_row (by omega) f) (xCode (by omega)) (fun f => xMk_img1 (by omega) f) rfl (by decide) (by decide) (by decide) q680 q351 q350 q69 (Nat.le_of_ble_eq_true rfl) (by decide) dX2_set_76 ?_
    refine g_iinc1 (pc := 79) 2 C0 (L1 := [some (.ref (ad 3)), some (.ref (ad 1)), some (.int (nI (i55 + 1)))]) rfl rfl (by decide) dX2_set_79 rfl ?_
    refine g_goto (pc := 82) 55 C0 dX2_set_82 (by decide) ?_
    exact G.wsE (by rw [cpR_s i55 hi55 (by decide)]) ih55
set_option maxHeartbeats 4000000 in
set_option maxRecDepth 100000 in
theorem xF_set_12 (l : Launch) (D : va_G) (dT : Nat → ClassId) (ad : Nat → Nat) (nS : Nat) (β : tT) (hn : nS ≤ 10) : XV l D dT ad nS yX2_set cX2_set 3 ({ frames := 1, cells := 0, slots := 0, locals := 64 }) [.ref (ad 1), .ref (ad 2)] β (fun β' => setB β 1 5 6 7 8 32 2 22 23 24 25 42 = β') := by
  refine XV.ofG (own := "FittingStrides$Folk") (L := [some (.ref (ad 1)), some (.ref (ad 2)), none]) rfl (by decide) (Nat.le_of_ble_eq_true rfl) rfl ?_
  intro p' e' s' m' bl' mt' c' C0 hN
  refine g_aload_n (pc := 0) 1 C0 rfl dX2_set_0 rfl ?_
  refine g_get (pc := 1) (v := .ref (ad 22)) C0 (C := RX2) (T := TX2) (N := 10) (ci := 3) (q0 := 2) (j := 2) 0 (xCode (by omega)) rfl rfl in_X2 (by decide) q139 rfl dX2_set_1 ?_
  refine g_iconst (pc := 4) (v := (nI 0)) C0 dX2_set_4 (by decide) ?_
  refine g_aload_n (pc := 5) 0 C0 rfl dX2_set_5 rfl ?_
  refine g_get (pc := 6) (v := .ref (ad 5)) C0 (C := RX2) (T := TX2) (N := 10) (ci := 3) (q0 := 1) (j := 1) 0 (xCode (by omega)) rfl rfl in_X2 (by decide) q139 rfl dX2_set_6 ?_
  refine g_iconst (pc := 9) (v := (nI 0)) C0 dX2_set_9 (by decide) ?_
  refine g_bipush (pc := 10) (v := (nI 8)) C0 dX2_set_10 (by decide) ?_
  refine g_copy (pc := 12) (q0 := 22) (j0 := 22) (q1 := 5) (j1 := 5) (t0 := 0) (n0 := 8) (n1 := 8) C0 8 (xNd hn) (xCode (by omega)) (fun _ => rfl) (xCode (by omega)) (fun _ => rfl) rfl (by decide) (by decide) (by decide) q680 q351 q350 q69 (Nat.le_of_ble_eq_true rfl) (by decide) dX2_set_12 ?_
  refine g_aload_n (pc := 15) 1 C0 rfl dX2_set_15 rfl ?_
  refine g_get (pc := 16) (v := .ref (ad 23)) C0 (C := RX2) (T := TX2) (N := 10) (ci := 3) (q0 := 2) (j := 2) 1 (xCode (by omega)) rfl rfl in_X2 (by decide) q141 rfl dX2_set_16 ?_
  refine g_iconst (pc := 19) (v := (nI 0)) C0 dX2_set_19 (by decide) ?_
  refine g_aload_n (pc := 20) 0 C0 rfl dX2_set_20 rfl ?_
  refine g_get (pc := 21) (v := .ref (ad 6)) C0 (C := RX2) (T := TX2) (N := 10) (ci := 3) (q0 := 1) (j := 1) 1 (xCode (by omega)) rfl rfl in_X2 (by decide) q141 rfl dX2_set_21 ?_
  refine g_iconst (pc := 24) (v := (nI 0)) C0 dX2_set_24 (by decide) ?_
  refine g_bipush (pc := 25) (v := (nI 8)) C0 dX2_set_25 (by decide) ?_
  refine g_copy (pc := 27) (q0 := 23) (j0 := 23) (q1 := 6) (j1 := 6) (t0 := 0) (n0 := 8) (n1 := 8) C0 8 (xNd hn) (xCode (by omega)) (fun _ => rfl) (xCode (by omega)) (fun _ => rfl) rfl (by decide) (by decide) (by decide) q680 q351 q350 q69 (Nat.le_of_ble_eq_true rfl) (by decide) dX2_set_27 ?_
  refine g_aload_n (pc := 30) 1 C0 rfl dX2_set_30 rfl ?_
  refine g_get (pc := 31) (v := .ref (ad 24)) C0 (C := RX2) (T := TX2) (N := 10) (ci := 3) (q0 := 2) (j := 2) 2 (xCode (by omega)) rfl rfl in_X2 (by decide) q143 rfl dX2_set_31 ?_
  refine g_iconst (pc := 34) (v := (nI 0)) C0 dX2_set_34 (by decide) ?_
  refine g_aload_n (pc := 35) 0 C0 rfl dX2_set_35 rfl ?_
  refine g_get (pc := 36) (v := .ref (ad 7)) C0 (C := RX2) (T := TX2) (N := 10) (ci := 3) (q0 := 1) (j := 1) 2 (xCode (by omega)) rfl rfl in_X2 (by decide) q143 rfl dX2_set_36 ?_
  refine g_iconst (pc := 39) (v := (nI 0)) C0 dX2_set_39 (by decide) ?_
  refine g_bipush (pc := 40) (v := (nI 8)) C0 dX2_set_40 (by decide) ?_
  refine g_copy (pc := 42) (q0 := 24) (j0 := 24) (q1 := 7) (j1 := 7) (t0 := 0) (n0 := 8) (n1 := 8) C0 8 (xNd hn) (xCode (by omega)) (fun _ => rfl) (xCode (by omega)) (fun _ => rfl) rfl (by decide) (by decide) (by decide) q680 q351 q350 q69 (Nat.le_of_ble_eq_true rfl) (by decide) dX2_set_42 ?_
  refine g_aload_n (pc := 45) 0 C0 rfl dX2_set_45 rfl ?_
  refine g_aload_n (pc := 46) 1 C0 rfl dX2_set_46 rfl ?_
  refine g_get (pc := 47) (v := .int (nI ((cp0 (cp0 (cp0 β 22 5 8) 23 6 8) 24 7 8) 2 3))) C0 (C := RX2) (T := TX2) (N := 10) (ci := 3) (q0 := 2) (j := 2) 3 (xCode (by omega)) rfl rfl in_X2 (by decide) q145 rfl dX2_set_47 ?_
  refine g_put (pc := 50) C0 (C := RX2) (T := TX2) (N := 10) (ci := 3) (q0 := 1) (j := 1) (F := (xFf 5 6 7 21 8) ad) (ty := .int) (z := ((cp0 (cp0 (cp0 β 22 5 8) 23 6 8) 24 7 8) 2 3)) tyX2 tyX2_ok nmX2 (xNd hn) 3 (xCode (by omega)) (fun _ => rfl) rfl in_X2 (by decide) q145 rfl (by decide) rfl rfl (by show _ < 10; decide) rfl dX2_set_50 ?_
  refine g_iconst (pc := 53) (v := (nI 0)) C0 dX2_set_53 (by decide) ?_
  refine g_istore_n (pc := 54) 2 C0 (L1 := [some (.ref (ad 1)), some (.ref (ad 2)), some (.int (nI 0))]) rfl (by decide) dX2_set_54 rfl rfl ?_
  obtain ⟨b4, eb4⟩ : ∃ z : tT, z = (upc (cp0 (cp0 (cp0 β 22 5 8) 23 6 8) 24 7 8) 1 3 ((cp0 (cp0 (cp0 β 22 5 8) 23 6 8) 24 7 8) 2 3)) := ⟨_, rfl⟩
  refine G.wsE (ws' := xW dT ad nS (cpR b4 42 32 0)) (by rw [cpR_0, eb4]) ?_
  refine G.loop (pc := 55) (ws := fun i => xW dT ad nS (cpR b4 42 32 i)) (Lf := fun i => [some (.ref (ad 1)), some (.ref (ad 2)), some (.int (nI i))]) (N := 10) (i0 := 0) (Nat.zero_le _) ?_ (fun i55 hi55 hj55 ih55 => ?_)
  · refine g_iload_n (pc := 55) 2 C0 rfl dX2_set_55 rfl ?_
    refine g_bipush (pc := 56) (v := (nI 10)) C0 dX2_set_56 (by decide) ?_
    refine g_icmp_geN (pc := 58) 85 C0 (by decide) (by decide) dX2_set_58 (by decide) (fun h58 => ?_) (fun h58 => ?_)
    rotate_left
    · exact absurd h58 (by omega)
    refine g_aload_n (pc := 85) 1 C0 rfl dX2_set_85 rfl ?_
    refine g_get (pc := 86) (v := .ref (ad 25)) C0 (C := RX2) (T := TX2) (N := 10) (ci := 3) (q0 := 2) (j := 2) 5 (xCode (by omega)) rfl rfl in_X2 (by decide) q149 rfl dX2_set_86 ?_
    refine g_iconst (pc := 89) (v := (nI 0)) C0 dX2_set_89 (by decide) ?_
    refine g_aload_n (pc := 90) 0 C0 rfl dX2_set_90 rfl ?_
    refine g_get (pc := 91) (v := .ref (ad 8)) C0 (C := RX2) (T := TX2) (N := 10) (ci := 3) (q0 := 1) (j := 1) 5 (xCode (by omega)) rfl rfl in_X2 (by decide) q149 rfl dX2_set_91 ?_
    refine g_iconst (pc := 94) (v := (nI 0)) C0 dX2_set_94 (by decide) ?_
    refine g_bipush (pc := 95) (v := (nI 10)) C0 dX2_set_95 (by decide) ?_
    refine g_copy (pc := 97) (q0 := 25) (j0 := 25) (q1 := 8) (j1 := 8) (t0 := 0) (n0 := 10) (n1 := 10) C0 10 (xNd hn) (xCode (by omega)) (fun _ => rfl) (xCode (by omega)) (fun _ => rfl) rfl (by decide) (by decide) (by decide) q680 q351 q350 q69 (Nat.le_of_ble_eq_true rfl) (by decide) dX2_set_97 ?_
    refine g_aload_n (pc := 100) 0 C0 rfl dX2_set_100 rfl ?_
    refine g_aload_n (pc := 101) 1 C0 rfl dX2_set_101 rfl ?_
    refine g_get (pc := 102) (v := .int (nI ((cp0 (cpR b4 42 32 10) 25 8 10) 2 6))) C0 (C := RX2) (T := TX2) (N := 10) (ci := 3) (q0 := 2) (j := 2) 6 (xCode (by omega)) rfl rfl in_X2 (by decide) q151 rfl dX2_set_102 ?_
    refine g_put (pc := 105) C0 (C := RX2) (T := TX2) (N := 10) (ci := 3) (q0 := 1) (j := 1) (F := (xFf 5 6 7 21 8) ad) (ty := .int) (z := ((cp0 (cpR b4 42 32 10) 25 8 10) 2 6)) tyX2 tyX2_ok nmX2 (xNd hn) 6 (xCode (by omega)) (fun _ => rfl) rfl in_X2 (by decide) q151 rfl (by decide) rfl rfl (by show _ < 10; decide) rfl dX2_set_105 ?_
    refine g_aload_n (pc := 108) 0 C0 rfl dX2_set_108 rfl ?_
    refine g_aload_n (pc := 109) 1 C0 rfl dX2_set_109 rfl ?_
    refine g_get (pc := 110) (v := .int (nI ((upc (cp0 (cpR b4 42 32 10) 25 8 10) 1 6 ((cp0 (cpR b4 42 32 10) 25 8 10) 2 6)) 2 7))) C0 (C := RX2) (T := TX2) (N := 10) (ci := 3) (q0 := 2) (j := 2) 7 (xCode (by omega)) rfl rfl in_X2 (by decide) q153 rfl dX2_set_110 ?_
    refine g_put (pc := 113) C0 (C := RX2) (T := TX2) (N := 10) (ci := 3) (q0 := 1) (j := 1) (F := (xFf 5 6 7 21 8) ad) (ty := .int) (z := ((upc (cp0 (cpR b4 42 32 10) 25 8 10) 1 6 ((cp0 (cpR b4 42 32 10) 25 8 10) 2 6)) 2 7)) tyX2 tyX2_ok nmX2 (xNd hn) 7 (xCode (by omega)) (fun _ => rfl) rfl in_X2 (by decide) q153 rfl (by decide) rfl rfl (by show _ < 10; decide) rfl dX2_set_113 ?_
    exact g_vret (pc := 116) C0 dX2_set_116 (by rw [eb4]; rfl)
  · refine g_iload_n (pc := 55) 2 C0 rfl dX2_set_55 rfl ?_
    refine g_bipush (pc := 56) (v := (nI 10)) C0 dX2_set_56 (by decide) ?_
    refine g_icmp_geN (pc := 58) 85 C0 (by omega) (by decide) dX2_set_58 (by decide) (fun h58 => ?_) (fun h58 => ?_)
    · exact absurd h58 (by omega)
    refine g_aload_n (pc := 61) 1 C0 rfl dX2_set_61 rfl ?_
    refine g_get (pc := 62) (v := .ref (ad 26)) C0 (C := RX2) (T := TX2) (N := 10) (ci := 3) (q0 := 2) (j := 2) 4 (xCode (by omega)) rfl rfl in_X2 (by decide) q147 rfl dX2_set_62 ?_
    refine g_iload_n (pc := 65) 2 C0 rfl dX2_set_65 rfl ?_
    refine g_aaldA (pc := 66) (q0 := 26) (j := 26) (t0 := 3) (N := 10) (jr := 42 + i55) C0 i55 (xCode (by omega)) rfl rfl (by decide) (by omega) rfl dX2_set_66 ?_
    refine g_iconst (pc := 67) (v := (nI 0)) C0 dX2_set_67 (by decide) ?_
    refine g_aload_n (pc := 68) 0 C0 rfl dX2_set_68 rfl ?_
    refine g_get (pc := 69) (v := .ref (ad 21)) C0 (C := RX2) (T := TX2) (N := 10) (ci := 3) (q0 := 1) (j := 1) 4 (xCode (by omega)) rfl rfl in_X2 (by decide) q147 rfl dX2_set_69 ?_
    refine g_iload_n (pc := 72) 2 C0 rfl dX2_set_72 rfl ?_
    refine g_aaldA (pc := 73) (q0 := 21) (j := 21) (t0 := 3) (N := 10) (jr := 32 + i55) C0 i55 (xCode (by omega)) rfl rfl (by decide) (by omega) rfl dX2_set_73 ?_
    refine g_iconst (pc := 74) (v := (nI 0)) C0 dX2_set_74 (by decide) ?_
    refine g_iconst (pc := 75) (v := (nI 3)) C0 dX2_set_75 (by decide) ?_
    refine g_copy (pc := 76) (q0 := 42 + i55) (j0 := 42 + i55) (q1 := 32 + i55) (j1 := 32 + i55) (t0 := 0) (n0 := 3) (n1 := 3) C0 3 (xNd hn) (xCode (by omega)) (fun f => xMk_img0 (by omega) f) (xCode (by omega)) (fun f => xMk_row (by omega) f) rfl (by decide) (by decide) (by decide) q680 q351 q350 q69 (Nat.le_of_ble_eq_true rfl) (by decide) dX2_set_76 ?_
    refine g_iinc1 (pc := 79) 2 C0 (L1 := [some (.ref (ad 1)), some (.ref (ad 2)), some (.int (nI (i55 + 1)))]) rfl rfl (by decide) dX2_set_79 rfl ?_
    refine g_goto (pc := 82) 55 C0 dX2_set_82 (by decide) ?_
    exact G.wsE (by rw [cpR_s i55 hi55 (by decide)]) ih55
set_option maxHeartbeats 4000000 in
set_option maxRecDepth 100000 in
theorem xF_set_13 (l : Launch) (D : va_G) (dT : Nat → ClassId) (ad : Nat → Nat) (nS : Nat) (β : tT) (hn : nS ≤ 10) : XV l D dT ad nS yX2_set cX2_set 3 ({ frames := 1, cells := 0, slots := 0, locals := 64 }) [.ref (ad 1), .ref (ad 3)] β (fun β' => setB β 1 5 6 7 8 32 3 27 28 29 30 52 = β') := by
  refine XV.ofG (own := "FittingStrides$Folk") (L := [some (.ref (ad 1)), some (.ref (ad 3)), none]) rfl (by decide) (Nat.le_of_ble_eq_true rfl) rfl ?_
  intro p' e' s' m' bl' mt' c' C0 hN
  refine g_aload_n (pc := 0) 1 C0 rfl dX2_set_0 rfl ?_
  refine g_get (pc := 1) (v := .ref (ad 27)) C0 (C := RX2) (T := TX2) (N := 10) (ci := 3) (q0 := 3) (j := 3) 0 (xCode (by omega)) rfl rfl in_X2 (by decide) q139 rfl dX2_set_1 ?_
  refine g_iconst (pc := 4) (v := (nI 0)) C0 dX2_set_4 (by decide) ?_
  refine g_aload_n (pc := 5) 0 C0 rfl dX2_set_5 rfl ?_
  refine g_get (pc := 6) (v := .ref (ad 5)) C0 (C := RX2) (T := TX2) (N := 10) (ci := 3) (q0 := 1) (j := 1) 0 (xCode (by omega)) rfl rfl in_X2 (by decide) q139 rfl dX2_set_6 ?_
  refine g_iconst (pc := 9) (v := (nI 0)) C0 dX2_set_9 (by decide) ?_
  refine g_bipush (pc := 10) (v := (nI 8)) C0 dX2_set_10 (by decide) ?_
  refine g_copy (pc := 12) (q0 := 27) (j0 := 27) (q1 := 5) (j1 := 5) (t0 := 0) (n0 := 8) (n1 := 8) C0 8 (xNd hn) (xCode (by omega)) (fun _ => rfl) (xCode (by omega)) (fun _ => rfl) rfl (by decide) (by decide) (by decide) q680 q351 q350 q69 (Nat.le_of_ble_eq_true rfl) (by decide) dX2_set_12 ?_
  refine g_aload_n (pc := 15) 1 C0 rfl dX2_set_15 rfl ?_
  refine g_get (pc := 16) (v := .ref (ad 28)) C0 (C := RX2) (T := TX2) (N := 10) (ci := 3) (q0 := 3) (j := 3) 1 (xCode (by omega)) rfl rfl in_X2 (by decide) q141 rfl dX2_set_16 ?_
  refine g_iconst (pc := 19) (v := (nI 0)) C0 dX2_set_19 (by decide) ?_
  refine g_aload_n (pc := 20) 0 C0 rfl dX2_set_20 rfl ?_
  refine g_get (pc := 21) (v := .ref (ad 6)) C0 (C := RX2) (T := TX2) (N := 10) (ci := 3) (q0 := 1) (j := 1) 1 (xCode (by omega)) rfl rfl in_X2 (by decide) q141 rfl dX2_set_21 ?_
  refine g_iconst (pc := 24) (v := (nI 0)) C0 dX2_set_24 (by decide) ?_
  refine g_bipush (pc := 25) (v := (nI 8)) C0 dX2_set_25 (by decide) ?_
  refine g_copy (pc := 27) (q0 := 28) (j0 := 28) (q1 := 6) (j1 := 6) (t0 := 0) (n0 := 8) (n1 := 8) C0 8 (xNd hn) (xCode (by omega)) (fun _ => rfl) (xCode (by omega)) (fun _ => rfl) rfl (by decide) (by decide) (by decide) q680 q351 q350 q69 (Nat.le_of_ble_eq_true rfl) (by decide) dX2_set_27 ?_
  refine g_aload_n (pc := 30) 1 C0 rfl dX2_set_30 rfl ?_
  refine g_get (pc := 31) (v := .ref (ad 29)) C0 (C := RX2) (T := TX2) (N := 10) (ci := 3) (q0 := 3) (j := 3) 2 (xCode (by omega)) rfl rfl in_X2 (by decide) q143 rfl dX2_set_31 ?_
  refine g_iconst (pc := 34) (v := (nI 0)) C0 dX2_set_34 (by decide) ?_
  refine g_aload_n (pc := 35) 0 C0 rfl dX2_set_35 rfl ?_
  refine g_get (pc := 36) (v := .ref (ad 7)) C0 (C := RX2) (T := TX2) (N := 10) (ci := 3) (q0 := 1) (j := 1) 2 (xCode (by omega)) rfl rfl in_X2 (by decide) q143 rfl dX2_set_36 ?_
  refine g_iconst (pc := 39) (v := (nI 0)) C0 dX2_set_39 (by decide) ?_
  refine g_bipush (pc := 40) (v := (nI 8)) C0 dX2_set_40 (by decide) ?_
  refine g_copy (pc := 42) (q0 := 29) (j0 := 29) (q1 := 7) (j1 := 7) (t0 := 0) (n0 := 8) (n1 := 8) C0 8 (xNd hn) (xCode (by omega)) (fun _ => rfl) (xCode (by omega)) (fun _ => rfl) rfl (by decide) (by decide) (by decide) q680 q351 q350 q69 (Nat.le_of_ble_eq_true rfl) (by decide) dX2_set_42 ?_
  refine g_aload_n (pc := 45) 0 C0 rfl dX2_set_45 rfl ?_
  refine g_aload_n (pc := 46) 1 C0 rfl dX2_set_46 rfl ?_
  refine g_get (pc := 47) (v := .int (nI ((cp0 (cp0 (cp0 β 27 5 8) 28 6 8) 29 7 8) 3 3))) C0 (C := RX2) (T := TX2) (N := 10) (ci := 3) (q0 := 3) (j := 3) 3 (xCode (by omega)) rfl rfl in_X2 (by decide) q145 rfl dX2_set_47 ?_
  refine g_put (pc := 50) C0 (C := RX2) (T := TX2) (N := 10) (ci := 3) (q0 := 1) (j := 1) (F := (xFf 5 6 7 21 8) ad) (ty := .int) (z := ((cp0 (cp0 (cp0 β 27 5 8) 28 6 8) 29 7 8) 3 3)) tyX2 tyX2_ok nmX2 (xNd hn) 3 (xCode (by omega)) (fun _ => rfl) rfl in_X2 (by decide) q145 rfl (by decide) rfl rfl (by show _ < 10; decide) rfl dX2_set_50 ?_
  refine g_iconst (pc := 53) (v := (nI 0)) C0 dX2_set_53 (by decide) ?_
  refine g_istore_n (pc := 54) 2 C0 (L1 := [some (.ref (ad 1)), some (.ref (ad 3)), some (.int (nI 0))]) rfl (by decide) dX2_set_54 rfl rfl ?_
  obtain ⟨b4, eb4⟩ : ∃ z : tT, z = (upc (cp0 (cp0 (cp0 β 27 5 8) 28 6 8) 29 7 8) 1 3 ((cp0 (cp0 (cp0 β 27 5 8) 28 6 8) 29 7 8) 3 3)) := ⟨_, rfl⟩
  refine G.wsE (ws' := xW dT ad nS (cpR b4 52 32 0)) (by rw [cpR_0, eb4]) ?_
  refine G.loop (pc := 55) (ws := fun i => xW dT ad nS (cpR b4 52 32 i)) (Lf := fun i => [some (.ref (ad 1)), some (.ref (ad 3)), some (.int (nI i))]) (N := 10) (i0 := 0) (Nat.zero_le _) ?_ (fun i55 hi55 hj55 ih55 => ?_)
  · refine g_iload_n (pc := 55) 2 C0 rfl dX2_set_55 rfl ?_
    refine g_bipush (pc := 56) (v := (nI 10)) C0 dX2_set_56 (by decide) ?_
    refine g_icmp_geN (pc := 58) 85 C0 (by decide) (by decide) dX2_set_58 (by decide) (fun h58 => ?_) (fun h58 => ?_)
    rotate_left
    · exact absurd h58 (by omega)
    refine g_aload_n (pc := 85) 1 C0 rfl dX2_set_85 rfl ?_
    refine g_get (pc := 86) (v := .ref (ad 30)) C0 (C := RX2) (T := TX2) (N := 10) (ci := 3) (q0 := 3) (j := 3) 5 (xCode (by omega)) rfl rfl in_X2 (by decide) q149 rfl dX2_set_86 ?_
    refine g_iconst (pc := 89) (v := (nI 0)) C0 dX2_set_89 (by decide) ?_
    refine g_aload_n (pc := 90) 0 C0 rfl dX2_set_90 rfl ?_
    refine g_get (pc := 91) (v := .ref (ad 8)) C0 (C := RX2) (T := TX2) (N := 10) (ci := 3) (q0 := 1) (j := 1) 5 (xCode (by omega)) rfl rfl in_X2 (by decide) q149 rfl dX2_set_91 ?_
    refine g_iconst (pc := 94) (v := (nI 0)) C0 dX2_set_94 (by decide) ?_
    refine g_bipush (pc := 95) (v := (nI 10)) C0 dX2_set_95 (by decide) ?_
    refine g_copy (pc := 97) (q0 := 30) (j0 := 30) (q1 := 8) (j1 := 8) (t0 := 0) (n0 := 10) (n1 := 10) C0 10 (xNd hn) (xCode (by omega)) (fun _ => rfl) (xCode (by omega)) (fun _ => rfl) rfl (by decide) (by decide) (by decide) q680 q351 q350 q69 (Nat.le_of_ble_eq_true rfl) (by decide) dX2_set_97 ?_
    refine g_aload_n (pc := 100) 0 C0 rfl dX2_set_100 rfl ?_
    refine g_aload_n (pc := 101) 1 C0 rfl dX2_set_101 rfl ?_
    refine g_get (pc := 102) (v := .int (nI ((cp0 (cpR b4 52 32 10) 30 8 10) 3 6))) C0 (C := RX2) (T := TX2) (N := 10) (ci := 3) (q0 := 3) (j := 3) 6 (xCode (by omega)) rfl rfl in_X2 (by decide) q151 rfl dX2_set_102 ?_
    refine g_put (pc := 105) C0 (C := RX2) (T := TX2) (N := 10) (ci := 3) (q0 := 1) (j := 1) (F := (xFf 5 6 7 21 8) ad) (ty := .int) (z := ((cp0 (cpR b4 52 32 10) 30 8 10) 3 6)) tyX2 tyX2_ok nmX2 (xNd hn) 6 (xCode (by omega)) (fun _ => rfl) rfl in_X2 (by decide) q151 rfl (by decide) rfl rfl (by show _ < 10; decide) rfl dX2_set_105 ?_
    refine g_aload_n (pc := 108) 0 C0 rfl dX2_set_108 rfl ?_
    refine g_aload_n (pc := 109) 1 C0 rfl dX2_set_109 rfl ?_
    refine g_get (pc := 110) (v := .int (nI ((upc (cp0 (cpR b4 52 32 10) 30 8 10) 1 6 ((cp0 (cpR b4 52 32 10) 30 8 10) 3 6)) 3 7))) C0 (C := RX2) (T := TX2) (N := 10) (ci := 3) (q0 := 3) (j := 3) 7 (xCode (by omega)) rfl rfl in_X2 (by decide) q153 rfl dX2_set_110 ?_
    refine g_put (pc := 113) C0 (C := RX2) (T := TX2) (N := 10) (ci := 3) (q0 := 1) (j := 1) (F := (xFf 5 6 7 21 8) ad) (ty := .int) (z := ((upc (cp0 (cpR b4 52 32 10) 30 8 10) 1 6 ((cp0 (cpR b4 52 32 10) 30 8 10) 3 6)) 3 7)) tyX2 tyX2_ok nmX2 (xNd hn) 7 (xCode (by omega)) (fun _ => rfl) rfl in_X2 (by decide) q153 rfl (by decide) rfl rfl (by show _ < 10; decide) rfl dX2_set_113 ?_
    exact g_vret (pc := 116) C0 dX2_set_116 (by rw [eb4]; rfl)
  · refine g_iload_n (pc := 55) 2 C0 rfl dX2_set_55 rfl ?_
    refine g_bipush (pc := 56) (v := (nI 10)) C0 dX2_set_56 (by decide) ?_
    refine g_icmp_geN (pc := 58) 85 C0 (by omega) (by decide) dX2_set_58 (by decide) (fun h58 => ?_) (fun h58 => ?_)
    · exact absurd h58 (by omega)
    refine g_aload_n (pc := 61) 1 C0 rfl dX2_set_61 rfl ?_
    refine g_get (pc := 62) (v := .ref (ad 31)) C0 (C := RX2) (T := TX2) (N := 10) (ci := 3) (q0 := 3) (j := 3) 4 (xCode (by omega)) rfl rfl in_X2 (by decide) q147 rfl dX2_set_62 ?_
    refine g_iload_n (pc := 65) 2 C0 rfl dX2_set_65 rfl ?_
    refine g_aaldA (pc := 66) (q0 := 31) (j := 31) (t0 := 3) (N := 10) (jr := 52 + i55) C0 i55 (xCode (by omega)) rfl rfl (by decide) (by omega) rfl dX2_set_66 ?_
    refine g_iconst (pc := 67) (v := (nI 0)) C0 dX2_set_67 (by decide) ?_
    refine g_aload_n (pc := 68) 0 C0 rfl dX2_set_68 rfl ?_
    refine g_get (pc := 69) (v := .ref (ad 21)) C0 (C := RX2) (T := TX2) (N := 10) (ci := 3) (q0 := 1) (j := 1) 4 (xCode (by omega)) rfl rfl in_X2 (by decide) q147 rfl dX2_set_69 ?_
    refine g_iload_n (pc := 72) 2 C0 rfl dX2_set_72 rfl ?_
    refine g_aaldA (pc := 73) (q0 := 21) (j := 21) (t0 := 3) (N := 10) (jr := 32 + i55) C0 i55 (xCode (by omega)) rfl rfl (by decide) (by omega) rfl dX2_set_73 ?_
    refine g_iconst (pc := 74) (v := (nI 0)) C0 dX2_set_74 (by decide) ?_
    refine g_iconst (pc := 75) (v := (nI 3)) C0 dX2_set_75 (by decide) ?_
    refine g_copy (pc := 76) (q0 := 52 + i55) (j0 := 52 + i55) (q1 := 32 + i55) (j1 := 32 + i55) (t0 := 0) (n0 := 3) (n1 := 3) C0 3 (xNd hn) (xCode (by omega)) (fun f => xMk_img1 (by omega) f) (xCode (by omega)) (fun f => xMk_row (by omega) f) rfl (by decide) (by decide) (by decide) q680 q351 q350 q69 (Nat.le_of_ble_eq_true rfl) (by decide) dX2_set_76 ?_
    refine g_iinc1 (pc := 79) 2 C0 (L1 := [some (.ref (ad 1)), some (.ref (ad 3)), some (.int (nI (i55 + 1)))]) rfl rfl (by decide) dX2_set_79 rfl ?_
    refine g_goto (pc := 82) 55 C0 dX2_set_82 (by decide) ?_
    exact G.wsE (by rw [cpR_s i55 hi55 (by decide)]) ih55
set_option maxHeartbeats 4000000 in
set_option maxRecDepth 100000 in
theorem xX_keep (l : Launch) (D : va_G) (dT : Nat → ClassId) (ad : Nat → Nat) (nS : Nat) (τ β : tT)  (i : Int32) (hβ : RX nS β τ) (h8 : τ 0 8 ≤ 8) (hI0 : τ 43 0 = 1 → τ 42 (0 + 64) ≤ 8) : XI l D dT ad nS yX0_keep cX0_keep 2 .int ({ frames := 2, cells := 0, slots := 0, locals := 86 }) [.ref (ad 0), .int i] β (fun rr β' => rr = (pKeep i) ∧ RX nS β' (pKeepT τ i)) := by
  refine XI.ofG (own := "FittingStrides") (L := [some (.ref (ad 0)), some (.int i)]) rfl (by decide) (Nat.le_of_ble_eq_true rfl) rfl ?_
  intro p' e' s' m' bl' mt' c' C0 hN
  refine g_iload_n (pc := 0) 1 C0 rfl dX0_keep_0 rfl ?_
  refine g_iconst (pc := 1) (v := (nI 0)) C0 dX0_keep_1 (by decide) ?_
  refine g_iconst (pc := 2) (v := (nI 1)) C0 dX0_keep_2 (by decide) ?_
  refine g_csi (pc := 3) (na := 3) (As := [.int i, .int (nI 0), .int (nI 1)]) (rest := []) C0 (xX_isIn l i (nI 0) (nI 1) ) q232 q233 q57 q234 (by decide +kernel) ⟨Nat.le_of_ble_eq_true rfl, Nat.le_of_ble_eq_true rfl⟩ rfl rfl ⟨Nat.le_of_ble_eq_true rfl, Nat.le_of_ble_eq_true rfl⟩ rfl rfl (Nat.le_of_ble_eq_true rfl) dX0_keep_3 ?_
  refine g_if_neB (pc := 6) 12 C0 dX0_keep_6 (by decide) (fun h6 => ?_) (fun h6 => ?_)
  · rw [isInB_rg i (lo := 0) (hi := 1) (by decide) (by decide)] at h6
    obtain ⟨i1, rfl, i1l, i1h, i1b⟩ := rgB_t h6
    refine g_aload_n (pc := 12) 0 C0 rfl dX0_keep_12 rfl ?_
    obtain rfl | rfl : i1 = 0 ∨ i1 = 1 := by omega
    · refine g_get (pc := 13) (v := .ref (ad 16)) C0 (C := RX0) (T := TX0) (N := 14) (ci := 1) (q0 := 0) (j := 0) 13 (xCode (by omega)) rfl rfl in_X0 (by decide) q196 rfl dX0_keep_13 ?_
      refine g_iload_n (pc := 16) 1 C0 rfl dX0_keep_16 rfl ?_
      refine g_aald (pc := 17) (q0 := 16) (j := 16) (t0 := 6) (N := 2) (jr := 2) C0 0 (xCode (by omega)) rfl rfl (by decide) (by omega) rfl dX0_keep_17 ?_
      refine g_aload_n (pc := 18) 0 C0 rfl dX0_keep_18 rfl ?_
      refine g_get (pc := 19) (v := .ref (ad 1)) C0 (C := RX0) (T := TX0) (N := 14) (ci := 1) (q0 := 0) (j := 0) 1 (xCode (by omega)) rfl rfl in_X0 (by decide) q184 rfl dX0_keep_19 ?_
      refine g_cvvX (pc := 22) (na := 1) (As := [.ref (ad 1)]) (rest := []) C0 hN (xF_set_21 l D dT ad nS β hβ.n10) (q0 := 2) (j := 2) (ci := 3) (C := RX2) (T := TX2) (N := 10) (xCode (by omega)) rfl rfl q955 q956 q957 q59 q958 (by decide +kernel) ⟨Nat.le_of_ble_eq_true rfl, Nat.le_of_ble_eq_true rfl⟩ rfl rfl ⟨Nat.le_of_ble_eq_true rfl, Nat.le_of_ble_eq_true rfl⟩ rfl rfl (Nat.le_of_ble_eq_true rfl) dX0_keep_22 (fun β0 hc => ?_)
      subst hc
      refine g_aload_n (pc := 25) 0 C0 rfl dX0_keep_25 rfl ?_
      refine g_get (pc := 26) (v := .ref (ad 16)) C0 (C := RX0) (T := TX0) (N := 14) (ci := 1) (q0 := 0) (j := 0) 13 (xCode (by omega)) rfl rfl in_X0 (by decide) q196 rfl dX0_keep_26 ?_
      refine g_iload_n (pc := 29) 1 C0 rfl dX0_keep_29 rfl ?_
      refine g_aald (pc := 30) (q0 := 16) (j := 16) (t0 := 6) (N := 2) (jr := 2) C0 0 (xCode (by omega)) rfl rfl (by decide) (by omega) rfl dX0_keep_30 ?_
      refine g_iconst (pc := 31) (v := (nI 1)) C0 dX0_keep_31 (by decide) ?_
      refine g_putN (pc := 32) C0 hN (C := RX2) (T := TX2) (N := 10) (ci := 3) (q0 := 2) (j := 2) (F := (xFf 22 23 24 26 25) ad) (ty := .boolean) (z := 1) tyX2 tyX2_ok nmX2 (xNd hβ.n10) 8 (xCode (by omega)) (fun _ => rfl) rfl in_X2 (by decide) q155 rfl (by decide) (by decide) rfl (by show _ < 10; decide) rfl dX0_keep_32 ?_
      refine G.nmX (Φ := fun β => RX nS β (keepT τ 0)) (wsf := fun β => xW dT ad nS β) (hβ.keep0 h8) (fun β hβ => ?_)
      refine g_iconst (pc := 35) (v := (nI 1)) C0 dX0_keep_35 (by decide) ?_
      exact g_iret (pc := 36) C0 dX0_keep_36 ⟨by rw [pKeep, if_pos h6], by rw [pKeepT, if_pos h6, nI_clamp (by decide)]; exact hβ⟩
    · refine g_get (pc := 13) (v := .ref (ad 16)) C0 (C := RX0) (T := TX0) (N := 14) (ci := 1) (q0 := 0) (j := 0) 13 (xCode (by omega)) rfl rfl in_X0 (by decide) q196 rfl dX0_keep_13 ?_
      refine g_iload_n (pc := 16) 1 C0 rfl dX0_keep_16 rfl ?_
      refine g_aald (pc := 17) (q0 := 16) (j := 16) (t0 := 6) (N := 2) (jr := 3) C0 1 (xCode (by omega)) rfl rfl (by decide) (by omega) rfl dX0_keep_17 ?_
      refine g_aload_n (pc := 18) 0 C0 rfl dX0_keep_18 rfl ?_
      refine g_get (pc := 19) (v := .ref (ad 1)) C0 (C := RX0) (T := TX0) (N := 14) (ci := 1) (q0 := 0) (j := 0) 1 (xCode (by omega)) rfl rfl in_X0 (by decide) q184 rfl dX0_keep_19 ?_
      refine g_cvvX (pc := 22) (na := 1) (As := [.ref (ad 1)]) (rest := []) C0 hN (xF_set_31 l D dT ad nS β hβ.n10) (q0 := 3) (j := 3) (ci := 3) (C := RX2) (T := TX2) (N := 10) (xCode (by omega)) rfl rfl q955 q956 q957 q59 q958 (by decide +kernel) ⟨Nat.le_of_ble_eq_true rfl, Nat.le_of_ble_eq_true rfl⟩ rfl rfl ⟨Nat.le_of_ble_eq_true rfl, Nat.le_of_ble_eq_true rfl⟩ rfl rfl (Nat.le_of_ble_eq_true rfl) dX0_keep_22 (fun β0 hc => ?_)
      subst hc
      refine g_aload_n (pc := 25) 0 C0 rfl dX0_keep_25 rfl ?_
      refine g_get (pc := 26) (v := .ref (ad 16)) C0 (C := RX0) (T := TX0) (N := 14) (ci := 1) (q0 := 0) (j := 0) 13 (xCode (by omega)) rfl rfl in_X0 (by decide) q196 rfl dX0_keep_26 ?_
      refine g_iload_n (pc := 29) 1 C0 rfl dX0_keep_29 rfl ?_
      refine g_aald (pc := 30) (q0 := 16) (j := 16) (t0 := 6) (N := 2) (jr := 3) C0 1 (xCode (by omega)) rfl rfl (by decide) (by omega) rfl dX0_keep_30 ?_
      refine g_iconst (pc := 31) (v := (nI 1)) C0 dX0_keep_31 (by decide) ?_
      refine g_putN (pc := 32) C0 hN (C := RX2) (T := TX2) (N := 10) (ci := 3) (q0 := 3) (j := 3) (F := (xFf 27 28 29 31 30) ad) (ty := .boolean) (z := 1) tyX2 tyX2_ok nmX2 (xNd hβ.n10) 8 (xCode (by omega)) (fun _ => rfl) rfl in_X2 (by decide) q155 rfl (by decide) (by decide) rfl (by show _ < 10; decide) rfl dX0_keep_32 ?_
      refine G.nmX (Φ := fun β => RX nS β (keepT τ 1)) (wsf := fun β => xW dT ad nS β) (hβ.keep1 h8 hI0) (fun β hβ => ?_)
      refine g_iconst (pc := 35) (v := (nI 1)) C0 dX0_keep_35 (by decide) ?_
      exact g_iret (pc := 36) C0 dX0_keep_36 ⟨by rw [pKeep, if_pos h6], by rw [pKeepT, if_pos h6, nI_clamp (by decide)]; exact hβ⟩
  · rw [isInB_rg i (lo := 0) (hi := 1) (by decide) (by decide)] at h6
    refine g_ldc (pc := 9) (v := -1000000001) C0 q704 dX0_keep_9 ?_
    exact g_iret (pc := 11) C0 dX0_keep_11 ⟨by rw [pKeep, h6]; rfl, by rw [pKeepT, h6]; exact hβ⟩
set_option maxHeartbeats 4000000 in
set_option maxRecDepth 100000 in
theorem xX_goBack (l : Launch) (D : va_G) (dT : Nat → ClassId) (ad : Nat → Nat) (nS : Nat) (τ β : tT)  (i : Int32) (hβ : RX nS β τ) (h43 : ∀ j, j < 2 → τ 43 j < 2) (hI0 : τ 43 0 = 1 → τ 42 (0 + 64) ≤ 8) (hI1 : τ 43 1 = 1 → τ 42 (70 + 64) ≤ 8) : XI l D dT ad nS yX0_goBack cX0_goBack 2 .int ({ frames := 2, cells := 0, slots := 0, locals := 86 }) [.ref (ad 0), .int i] β (fun rr β' => rr = (pGoBack τ i) ∧ RX nS β' (pGoBackT τ i)) := by
  refine XI.ofG (own := "FittingStrides") (L := [some (.ref (ad 0)), some (.int i)]) rfl (by decide) (Nat.le_of_ble_eq_true rfl) rfl ?_
  intro p' e' s' m' bl' mt' c' C0 hN
  refine g_iload_n (pc := 0) 1 C0 rfl dX0_goBack_0 rfl ?_
  refine g_iconst (pc := 1) (v := (nI 0)) C0 dX0_goBack_1 (by decide) ?_
  refine g_iconst (pc := 2) (v := (nI 1)) C0 dX0_goBack_2 (by decide) ?_
  refine g_csi (pc := 3) (na := 3) (As := [.int i, .int (nI 0), .int (nI 1)]) (rest := []) C0 (xX_isIn l i (nI 0) (nI 1) ) q232 q233 q57 q234 (by decide +kernel) ⟨Nat.le_of_ble_eq_true rfl, Nat.le_of_ble_eq_true rfl⟩ rfl rfl ⟨Nat.le_of_ble_eq_true rfl, Nat.le_of_ble_eq_true rfl⟩ rfl rfl (Nat.le_of_ble_eq_true rfl) dX0_goBack_3 ?_
  refine g_if_neB (pc := 6) 12 C0 dX0_goBack_6 (by decide) (fun h6 => ?_) (fun h6 => ?_)
  · rw [isInB_rg i (lo := 0) (hi := 1) (by decide) (by decide)] at h6
    obtain ⟨i1, rfl, i1l, i1h, i1b⟩ := rgB_t h6
    refine g_aload_n (pc := 12) 0 C0 rfl dX0_goBack_12 rfl ?_
    obtain rfl | rfl : i1 = 0 ∨ i1 = 1 := by omega
    · refine g_get (pc := 13) (v := .ref (ad 16)) C0 (C := RX0) (T := TX0) (N := 14) (ci := 1) (q0 := 0) (j := 0) 13 (xCode (by omega)) rfl rfl in_X0 (by decide) q196 rfl dX0_goBack_13 ?_
      refine g_iload_n (pc := 16) 1 C0 rfl dX0_goBack_16 rfl ?_
      refine g_aald (pc := 17) (q0 := 16) (j := 16) (t0 := 6) (N := 2) (jr := 2) C0 0 (xCode (by omega)) rfl rfl (by decide) (by omega) rfl dX0_goBack_17 ?_
      refine g_getN (pc := 18) (v := .int (nI (τ 43 0))) C0 hN (C := RX2) (T := TX2) (N := 10) (ci := 3) (q0 := 2) (j := 2) 8 (xCode (by omega)) rfl rfl in_X2 (by decide) q155 (xv hβ.f2_8) dX0_goBack_18 ?_
      refine g_if_neN (pc := 21) 27 C0 (Nat.lt_trans (h43 _ (by decide)) (by decide)) dX0_goBack_21 (by decide) (fun h21 => ?_) (fun h21 => ?_)
      · refine g_aload_n (pc := 27) 0 C0 rfl dX0_goBack_27 rfl ?_
        refine g_get (pc := 28) (v := .ref (ad 1)) C0 (C := RX0) (T := TX0) (N := 14) (ci := 1) (q0 := 0) (j := 0) 1 (xCode (by omega)) rfl rfl in_X0 (by decide) q184 rfl dX0_goBack_28 ?_
        refine g_aload_n (pc := 31) 0 C0 rfl dX0_goBack_31 rfl ?_
        refine g_get (pc := 32) (v := .ref (ad 16)) C0 (C := RX0) (T := TX0) (N := 14) (ci := 1) (q0 := 0) (j := 0) 13 (xCode (by omega)) rfl rfl in_X0 (by decide) q196 rfl dX0_goBack_32 ?_
        refine g_iload_n (pc := 35) 1 C0 rfl dX0_goBack_35 rfl ?_
        refine g_aald (pc := 36) (q0 := 16) (j := 16) (t0 := 6) (N := 2) (jr := 2) C0 0 (xCode (by omega)) rfl rfl (by decide) (by omega) rfl dX0_goBack_36 ?_
        refine g_cvvX (pc := 37) (na := 1) (As := [.ref (ad 2)]) (rest := []) C0 hN (xF_set_12 l D dT ad nS β hβ.n10) (q0 := 1) (j := 1) (ci := 3) (C := RX2) (T := TX2) (N := 10) (xCode (by omega)) rfl rfl q955 q956 q957 q59 q958 (by decide +kernel) ⟨Nat.le_of_ble_eq_true rfl, Nat.le_of_ble_eq_true rfl⟩ rfl rfl ⟨Nat.le_of_ble_eq_true rfl, Nat.le_of_ble_eq_true rfl⟩ rfl rfl (Nat.le_of_ble_eq_true rfl) dX0_goBack_37 (fun β0 hc => ?_)
        subst hc
        refine G.nmX (Φ := fun β => RX nS β (gbT τ 0)) (wsf := fun β => xW dT ad nS β) (hβ.back0 (by have := h43 0 (by decide); omega) (hI0 (by have := h43 0 (by decide); omega))) (fun β hβ => ?_)
        refine g_iconst (pc := 40) (v := (nI 1)) C0 dX0_goBack_40 (by decide) ?_
        exact g_iret (pc := 41) C0 dX0_goBack_41 ⟨by rw [pGoBack, if_pos h6, nI_clamp (by decide), if_neg h21], by rw [pGoBackT, if_pos h6, nI_clamp (by decide), if_neg h21]; exact hβ⟩
      · refine g_ldc (pc := 24) (v := -1000000003) C0 q789 dX0_goBack_24 ?_
        exact g_iret (pc := 26) C0 dX0_goBack_26 ⟨by rw [pGoBack, if_pos h6, nI_clamp (by decide), if_pos h21]; rfl, by rw [pGoBackT, if_pos h6, nI_clamp (by decide), if_pos h21]; exact hβ⟩
    · refine g_get (pc := 13) (v := .ref (ad 16)) C0 (C := RX0) (T := TX0) (N := 14) (ci := 1) (q0 := 0) (j := 0) 13 (xCode (by omega)) rfl rfl in_X0 (by decide) q196 rfl dX0_goBack_13 ?_
      refine g_iload_n (pc := 16) 1 C0 rfl dX0_goBack_16 rfl ?_
      refine g_aald (pc := 17) (q0 := 16) (j := 16) (t0 := 6) (N := 2) (jr := 3) C0 1 (xCode (by omega)) rfl rfl (by decide) (by omega) rfl dX0_goBack_17 ?_
      refine g_getN (pc := 18) (v := .int (nI (τ 43 1))) C0 hN (C := RX2) (T := TX2) (N := 10) (ci := 3) (q0 := 3) (j := 3) 8 (xCode (by omega)) rfl rfl in_X2 (by decide) q155 (xv hβ.f3_8) dX0_goBack_18 ?_
      refine g_if_neN (pc := 21) 27 C0 (Nat.lt_trans (h43 _ (by decide)) (by decide)) dX0_goBack_21 (by decide) (fun h21 => ?_) (fun h21 => ?_)
      · refine g_aload_n (pc := 27) 0 C0 rfl dX0_goBack_27 rfl ?_
        refine g_get (pc := 28) (v := .ref (ad 1)) C0 (C := RX0) (T := TX0) (N := 14) (ci := 1) (q0 := 0) (j := 0) 1 (xCode (by omega)) rfl rfl in_X0 (by decide) q184 rfl dX0_goBack_28 ?_
        refine g_aload_n (pc := 31) 0 C0 rfl dX0_goBack_31 rfl ?_
        refine g_get (pc := 32) (v := .ref (ad 16)) C0 (C := RX0) (T := TX0) (N := 14) (ci := 1) (q0 := 0) (j := 0) 13 (xCode (by omega)) rfl rfl in_X0 (by decide) q196 rfl dX0_goBack_32 ?_
        refine g_iload_n (pc := 35) 1 C0 rfl dX0_goBack_35 rfl ?_
        refine g_aald (pc := 36) (q0 := 16) (j := 16) (t0 := 6) (N := 2) (jr := 3) C0 1 (xCode (by omega)) rfl rfl (by decide) (by omega) rfl dX0_goBack_36 ?_
        refine g_cvvX (pc := 37) (na := 1) (As := [.ref (ad 3)]) (rest := []) C0 hN (xF_set_13 l D dT ad nS β hβ.n10) (q0 := 1) (j := 1) (ci := 3) (C := RX2) (T := TX2) (N := 10) (xCode (by omega)) rfl rfl q955 q956 q957 q59 q958 (by decide +kernel) ⟨Nat.le_of_ble_eq_true rfl, Nat.le_of_ble_eq_true rfl⟩ rfl rfl ⟨Nat.le_of_ble_eq_true rfl, Nat.le_of_ble_eq_true rfl⟩ rfl rfl (Nat.le_of_ble_eq_true rfl) dX0_goBack_37 (fun β0 hc => ?_)
        subst hc
        refine G.nmX (Φ := fun β => RX nS β (gbT τ 70)) (wsf := fun β => xW dT ad nS β) (hβ.back1 (by have := h43 1 (by decide); omega) (hI1 (by have := h43 1 (by decide); omega))) (fun β hβ => ?_)
        refine g_iconst (pc := 40) (v := (nI 1)) C0 dX0_goBack_40 (by decide) ?_
        exact g_iret (pc := 41) C0 dX0_goBack_41 ⟨by rw [pGoBack, if_pos h6, nI_clamp (by decide), if_neg h21], by rw [pGoBackT, if_pos h6, nI_clamp (by decide), if_neg h21]; exact hβ⟩
      · refine g_ldc (pc := 24) (v := -1000000003) C0 q789 dX0_goBack_24 ?_
        exact g_iret (pc := 26) C0 dX0_goBack_26 ⟨by rw [pGoBack, if_pos h6, nI_clamp (by decide), if_pos h21]; rfl, by rw [pGoBackT, if_pos h6, nI_clamp (by decide), if_pos h21]; exact hβ⟩
  · rw [isInB_rg i (lo := 0) (hi := 1) (by decide) (by decide)] at h6
    refine g_ldc (pc := 9) (v := -1000000001) C0 q704 dX0_goBack_9 ?_
    exact g_iret (pc := 11) C0 dX0_goBack_11 ⟨by rw [pGoBack, h6]; rfl, by rw [pGoBackT, h6]; exact hβ⟩
