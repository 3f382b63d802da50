/-! the model, twelfth module -/
set_option maxRecDepth 100000
set_option maxHeartbeats 4000000 in
set_option maxRecDepth 100000 in
theorem mM_feed (l : Launch) (D : va_G) (dT : Nat → ClassId) (ad : Nat → Nat) (τ : tT) (n : Int32) (y : Int64) (h15 : τ 0 15 ≤ 500) : MI l D dT ad yX3_feed cX3_feed 5 .int ({ frames := 1, cells := 0, slots := 0, locals := 25 }) [.int n, .long y] τ (fun rr τ' => rr = (pFeed τ n) ∧ (pFeedT τ n y) = τ') := by
  refine CI.ofG (own := "FittingStridesModel") (L := [some (.ref (ad 0)), some (.int n), some (.long y), none, none]) rfl (by decide) (Nat.le_of_ble_eq_true rfl) rfl ?_
  intro p' e' s' m' bl' mt' c' C0
  refine g_iload_n (pc := 0) 1 C0 rfl dX3_feed_0 rfl ?_
  refine g_i2l (pc := 1) (v := n.toInt64) C0 dX3_feed_1 rfl ?_
  refine g_lconst (pc := 2) (v := lN 1) C0 dX3_feed_2 (by decide) ?_
  have c3 : Jvm.Cond.constantLong "FittingStridesModel" 109 (lN 8) ∈ lw_all := q1106
  refine g_ldc2 (pc := 3) (v := lN 8) C0 c3 dX3_feed_3 ?_
  refine g_csi (pc := 6) (na := 3) (As := [.long n.toInt64, .long (lN 1), .long (lN 8)]) (rest := []) C0 (mM_in l n.toInt64 (lN 1) (lN 8) ) q1107 q1108 q60 q1109 (by decide +kernel) ⟨Nat.le_of_ble_eq_true rfl, Nat.le_of_ble_eq_true rfl⟩ rfl rfl ⟨Nat.le_of_ble_eq_true rfl, Nat.le_of_ble_eq_true rfl⟩ rfl rfl (Nat.le_of_ble_eq_true rfl) dX3_feed_6 ?_
  refine g_if_neB (pc := 9) 15 C0 dX3_feed_9 (by decide) (fun h9 => ?_) (fun h9 => ?_)
  · rw [inB_rg n (lo := 1) (hi := 8) (by decide) (by decide)] at h9
    obtain ⟨n1, rfl, n1l, n1h, n1b⟩ := rgB_t h9
    refine g_aload_n (pc := 15) 0 C0 rfl dX3_feed_15 rfl ?_
    refine m_get (pc := 16) (v := .int (nI (τ 0 15))) C0 15 (by decide) q984 rfl dX3_feed_16 ?_
    refine g_iload_n (pc := 19) 1 C0 rfl dX3_feed_19 rfl ?_
    refine g_iaddN (pc := 20) C0  dX3_feed_20 ?_
    refine g_sipush (pc := 21) (v := (nI 500)) C0 dX3_feed_21 (by decide) ?_
    refine g_icmp_leN (pc := 24) 30 C0 (by omega) (by decide) dX3_feed_24 (by decide) (fun h24 => ?_) (fun h24 => ?_)
    · refine g_iload_n (pc := 30) 1 C0 rfl dX3_feed_30 rfl ?_
      refine g_iconst (pc := 31) (v := (nI 1)) C0 dX3_feed_31 (by decide) ?_
      refine g_isubN (pc := 32) C0 (by omega) dX3_feed_32 ?_
      refine g_istore (pc := 33) 4 C0 (L1 := [some (.ref (ad 0)), some (.int (nI n1)), some (.long y), none, some (.int (nI (n1 - 1)))]) rfl (by decide) dX3_feed_33 rfl ?_
      refine G.lE (L' := [some (.ref (ad 0)), some (.int (nI n1)), some (.long y), none, some (.int (nI (n1 - 0) + (-1)))]) (by rw [fd_m1 (by omega)]; rfl) ?_
      refine G.loop (pc := 35) (ws := fun i => mW dT ad (fdT τ y n1 i)) (Lf := fun i => [some (.ref (ad 0)), some (.int (nI n1)), some (.long y), none, some (.int (nI (n1 - i) + (-1)))]) (N := n1) (i0 := 0) (Nat.zero_le _) ?_ (fun i35 hi35 hj35 ih35 => ?_)
      · refine g_iload (pc := 35) 4 C0 rfl dX3_feed_35 ?_
        refine g_if_lt (pc := 37) 77 C0 dX3_feed_37 (by decide) (fun h37 => ?_) (fun h37 => ?_)
        rotate_left
        · exact absurd h37 (by rw [Nat.sub_self]; decide)
        refine g_aload_n (pc := 77) 0 C0 rfl dX3_feed_77 rfl ?_
        refine m_get (pc := 78) (v := .int (nI ((fdT τ y n1 n1) 0 15))) C0 15 (by decide) q984 rfl dX3_feed_78 ?_
        exact g_iret (pc := 81) C0 dX3_feed_81 ⟨by rw [pFeed, if_pos h9, nI_clamp n1b, if_pos (by omega), fdT_15], by rw [pFeedT, if_pos h9, nI_clamp n1b, if_pos (by omega)]⟩
      · refine g_iload (pc := 35) 4 C0 rfl dX3_feed_35 ?_
        refine g_if_lt (pc := 37) 77 C0 dX3_feed_37 (by decide) (fun h37 => ?_) (fun h37 => ?_)
        · exact absurd h37 (fd_ge (by omega) (by omega))
        have t15 := fdT_15 τ y n1 i35
        refine G.lE (L' := [some (.ref (ad 0)), some (.int (nI n1)), some (.long y), none, some (.int (nI (n1 - 1 - i35)))]) (by rw [fd_m1 (by omega), show n1 - i35 - 1 = n1 - 1 - i35 by omega]) ?_
        refine g_aload_n (pc := 40) 0 C0 rfl dX3_feed_40 rfl ?_
        refine m_get (pc := 41) (v := .ref (ad 14)) C0 14 (by decide) q983 rfl dX3_feed_41 ?_
        refine g_aload_n (pc := 44) 0 C0 rfl dX3_feed_44 rfl ?_
        refine m_get (pc := 45) (v := .int (nI ((fdT τ y n1 i35) 0 15))) C0 15 (by decide) q984 rfl dX3_feed_45 ?_
        refine g_lload_n (pc := 48) 2 C0 rfl dX3_feed_48 rfl ?_
        refine g_bipush (pc := 49) (v := (nI 8)) C0 dX3_feed_49 (by decide) ?_
        refine g_iload (pc := 51) 4 C0 rfl dX3_feed_51 ?_
        refine g_imulN (pc := 53) C0  dX3_feed_53 ?_
        refine g_lshr (pc := 54) (v := y >>> ((nI (8 * (n1 - 1 - i35))).toInt64 &&& 63)) C0 dX3_feed_54 rfl ?_
        have c55 : Jvm.Cond.constantLong "FittingStridesModel" 116 (lN 255) ∈ lw_all := q1112
        refine g_ldc2 (pc := 55) (v := lN 255) C0 c55 dX3_feed_55 ?_
        refine g_land (pc := 58) C0 dX3_feed_58 ?_
        refine g_l2i (pc := 59) (v := nI (bv y (n1 - 1 - i35))) C0 dX3_feed_59 (bv_eq y (n1 - 1 - i35)) ?_
        refine g_iast (pc := 60) (q0 := 10) (t0 := 0) C0 ((fdT τ y n1 i35) 0 15) (bv y (n1 - 1 - i35)) mNd rfl (fun _ => rfl) rfl (by decide) (by omega) dX3_feed_60 ?_
        refine g_aload_n (pc := 61) 0 C0 rfl dX3_feed_61 rfl ?_
        refine g_dup (pc := 62) C0 dX3_feed_62 rfl ?_
        refine m_get (pc := 63) (v := .int (nI ((fdT τ y n1 i35) 0 15))) C0 15 (by decide) q984 rfl dX3_feed_63 ?_
        refine g_iconst (pc := 66) (v := (nI 1)) C0 dX3_feed_66 (by decide) ?_
        refine g_iaddN (pc := 67) C0  dX3_feed_67 ?_
        refine m_put (pc := 68) C0 15 (by decide) q984 rfl (by decide) (mSet_15 _ _ _) dX3_feed_68 ?_
        refine g_iinc (pc := 71) (v := nI (n1 - 1 - i35) + (-1)) 4 C0 (L1 := [some (.ref (ad 0)), some (.int (nI n1)), some (.long y), none, some (.int (nI (n1 - 1 - i35) + (-1)))]) rfl rfl (by decide) dX3_feed_71 rfl rfl ?_
        refine g_goto (pc := 74) 35 C0 dX3_feed_74 (by decide) ?_
        exact G.lE (by rw [show n1 - 1 - i35 = n1 - (i35 + 1) by omega]) ih35
    · refine g_ldc (pc := 27) (v := -1000000004) C0 q1111 dX3_feed_27 ?_
      exact g_iret (pc := 29) C0 dX3_feed_29 ⟨by rw [pFeed, if_pos h9, nI_clamp n1b, if_neg (by omega)]; rfl, by rw [pFeedT, if_pos h9, nI_clamp n1b, if_neg (by omega)]⟩
  · rw [inB_rg n (lo := 1) (hi := 8) (by decide) (by decide)] at h9
    refine g_ldc (pc := 12) (v := -1000000002) C0 q1110 dX3_feed_12 ?_
    exact g_iret (pc := 14) C0 dX3_feed_14 ⟨by rw [pFeed, h9]; rfl, by rw [pFeedT, h9]; rfl⟩
