/-! the model, sixth module -/
set_option maxRecDepth 100000
set_option maxHeartbeats 4000000 in
set_option maxRecDepth 100000 in
theorem mM_go (l : Launch) (D : va_G) (dT : Nat → ClassId) (ad : Nat → Nat) (τ : tT) (q : Int32) (r : Int32) (hw : wfT τ) (hp : wfP τ) : MI l D dT ad yX3_go cX3_go 3 .int ({ frames := 3, cells := 0, slots := 0, locals := 69 }) [.int q, .int r] τ (fun rr τ' => rr = (pGo τ q r) ∧ (pGoT τ q r) = τ') := by
  refine CI.ofG (own := "FittingStridesModel") (L := [some (.ref (ad 0)), some (.int q), some (.int r)]) rfl (by decide) (Nat.le_of_ble_eq_true rfl) rfl ?_
  intro p' e' s' m' bl' mt' c' C0
  have hw1 := hw.1
  have hw0 := hw.2.1
  have hp0 := hp.1
  have hp1 := hp.2.1
  refine g_aload_n (pc := 0) 0 C0 rfl dX3_go_0 rfl ?_
  refine g_iload_n (pc := 1) 1 C0 rfl dX3_go_1 rfl ?_
  refine g_cvi (pc := 2) (na := 1) (As := [.int q]) (rest := []) C0 (mM_isPerson l D dT ad τ q (by omega)) (q0 := 0) (j := 0) (ci := 0) (C := RX3) (T := TX3) (N := 44) rfl rfl rfl q1204 q1206 qs45 q60 q1207 (by decide +kernel) ⟨Nat.le_of_ble_eq_true rfl, Nat.le_of_ble_eq_true rfl⟩ rfl rfl ⟨Nat.le_of_ble_eq_true rfl, Nat.le_of_ble_eq_true rfl⟩ rfl rfl (Nat.le_of_ble_eq_true rfl) dX3_go_2 (fun r τ0 hc => ?_)
  obtain ⟨rfl, rfl⟩ := hc
  refine g_if_eqB (pc := 5) 16 C0 dX3_go_5 (by decide) (fun h5 => ?_) (fun h5 => ?_)
  · refine g_ldc (pc := 16) (v := -1000000001) C0 q1187 dX3_go_16 ?_
    exact g_iret (pc := 18) C0 dX3_go_18 ⟨by simp [pGo, h5]; rfl, by simp [pGoT, h5]⟩
  · obtain ⟨q1, rfl, q1h, q1b⟩ := ixB_t h5
    obtain ⟨g1, g2, g3, g4⟩ := hp.2.2 q1 q1h
    refine g_aload_n (pc := 8) 0 C0 rfl dX3_go_8 rfl ?_
    refine g_iload_n (pc := 9) 2 C0 rfl dX3_go_9 rfl ?_
    refine g_cvi (pc := 10) (na := 1) (As := [.int r]) (rest := []) C0 (mM_isStair l D dT ad τ r (by omega)) (q0 := 0) (j := 0) (ci := 0) (C := RX3) (T := TX3) (N := 44) rfl rfl rfl q1183 q1185 qs41 q60 q1186 (by decide +kernel) ⟨Nat.le_of_ble_eq_true rfl, Nat.le_of_ble_eq_true rfl⟩ rfl rfl ⟨Nat.le_of_ble_eq_true rfl, Nat.le_of_ble_eq_true rfl⟩ rfl rfl (Nat.le_of_ble_eq_true rfl) dX3_go_10 (fun r τ0 hc => ?_)
    obtain ⟨rfl, rfl⟩ := hc
    refine g_if_neB (pc := 13) 19 C0 dX3_go_13 (by decide) (fun h13 => ?_) (fun h13 => ?_)
    · obtain ⟨r1, rfl, r1h, r1b⟩ := ixB_t h13
      obtain ⟨k1, k2, k3, k4, k5, k6, k7⟩ := hw.2.2 r1 r1h
      refine g_aload_n (pc := 19) 0 C0 rfl dX3_go_19 rfl ?_
      refine g_iload_n (pc := 20) 1 C0 rfl dX3_go_20 rfl ?_
      refine g_iload_n (pc := 21) 2 C0 rfl dX3_go_21 rfl ?_
      refine g_cvi (pc := 22) (na := 2) (As := [.int (nI q1), .int (nI r1)]) (rest := []) C0 (mM_canGo l D dT ad τ q1 r1 hw hp (by omega) (by omega)) (q0 := 0) (j := 0) (ci := 0) (C := RX3) (T := TX3) (N := 44) rfl rfl rfl q1228 q1230 qs48 q60 q1231 (by decide +kernel) ⟨Nat.le_of_ble_eq_true rfl, Nat.le_of_ble_eq_true rfl⟩ rfl rfl ⟨Nat.le_of_ble_eq_true rfl, Nat.le_of_ble_eq_true rfl⟩ rfl rfl (Nat.le_of_ble_eq_true rfl) dX3_go_22 (fun r τ0 hc => ?_)
      obtain ⟨rfl, rfl⟩ := hc
      refine g_if_neB (pc := 25) 31 C0 dX3_go_25 (by decide) (fun h25 => ?_) (fun h25 => ?_)
      · refine g_aload_n (pc := 31) 0 C0 rfl dX3_go_31 rfl ?_
        refine g_iload_n (pc := 32) 1 C0 rfl dX3_go_32 rfl ?_
        refine g_iload_n (pc := 33) 2 C0 rfl dX3_go_33 rfl ?_
        refine g_cvv (pc := 34) (na := 2) (As := [.int (nI q1), .int (nI r1)]) (rest := []) C0 (mM_goNow l D dT ad τ q1 r1 hw hp (by omega) (by omega)) (q0 := 0) (j := 0) (ci := 0) (C := RX3) (T := TX3) (N := 44) rfl rfl rfl q1233 q1235 qs49 q60 q1236 (by decide +kernel) ⟨Nat.le_of_ble_eq_true rfl, Nat.le_of_ble_eq_true rfl⟩ rfl rfl ⟨Nat.le_of_ble_eq_true rfl, Nat.le_of_ble_eq_true rfl⟩ rfl rfl (Nat.le_of_ble_eq_true rfl) dX3_go_34 (fun τ0 hc => ?_)
        subst hc
        refine g_aload_n (pc := 37) 0 C0 rfl dX3_go_37 rfl ?_
        refine m_get (pc := 38) (v := .ref (ad 9)) C0 9 (by decide) q978 rfl dX3_go_38 ?_
        refine g_iload_n (pc := 41) 1 C0 rfl dX3_go_41 rfl ?_
        refine g_iald (pc := 42) (q0 := 7) (t0 := 0) C0 q1 rfl (fun _ => rfl) rfl (by decide) (by omega) dX3_go_42 ?_
        exact g_iret (pc := 43) C0 dX3_go_43 ⟨by rw [pGo, h5, h13, Bool.and_true, if_pos rfl, nI_clamp q1b, nI_clamp r1b, if_pos h25, goT, upc_hit], by rw [pGoT, h5, h13, Bool.and_true, if_pos rfl, nI_clamp q1b, nI_clamp r1b, if_pos h25]⟩
      · refine g_ldc (pc := 28) (v := -1000000003) C0 q1232 dX3_go_28 ?_
        exact g_iret (pc := 30) C0 dX3_go_30 ⟨by rw [pGo, h5, h13, Bool.and_true, if_pos rfl, nI_clamp q1b, nI_clamp r1b, h25]; rfl, by rw [pGoT, h5, h13, Bool.and_true, if_pos rfl, nI_clamp q1b, nI_clamp r1b, h25]; rfl⟩
    · refine g_ldc (pc := 16) (v := -1000000001) C0 q1187 dX3_go_16 ?_
      exact g_iret (pc := 18) C0 dX3_go_18 ⟨by simp [pGo, h5, nI_clamp q1b, h13]; rfl, by simp [pGoT, h5, nI_clamp q1b, h13]⟩
set_option maxHeartbeats 4000000 in
set_option maxRecDepth 100000 in
theorem mM_worst (l : Launch) (D : va_G) (dT : Nat → ClassId) (ad : Nat → Nat) (τ : tT) (w : Int32) (hw : wfT τ) (hp : wfP τ) : MI l D dT ad yX3_worst cX3_worst 7 .int ({ frames := 4, cells := 0, slots := 0, locals := 96 }) [.int w] τ (fun rr τ' => rr = (pWorst τ w) ∧ τ = τ') := by
  refine CI.ofG (own := "FittingStridesModel") (L := [some (.ref (ad 0)), some (.int w), none, none, none, none, none]) rfl (by decide) (Nat.le_of_ble_eq_true rfl) rfl ?_
  intro p' e' s' m' bl' mt' c' C0
  have hw1 := hw.1
  have hw0 := hw.2.1
  have hp0 := hp.1
  have hp1 := hp.2.1
  obtain ⟨hz1, hz2⟩ := wrS_ok hw (τ 0 1) (Nat.le_refl _)
  refine g_iload_n (pc := 0) 1 C0 rfl dX3_worst_0 rfl ?_
  refine g_i2l (pc := 1) (v := w.toInt64) C0 dX3_worst_1 rfl ?_
  refine g_lconst (pc := 2) (v := lN 0) C0 dX3_worst_2 (by decide) ?_
  have c3 : Jvm.Cond.constantLong "FittingStridesModel" 286 (lN 2) ∈ lw_all := q1311
  refine g_ldc2 (pc := 3) (v := lN 2) C0 c3 dX3_worst_3 ?_
  refine g_csi (pc := 6) (na := 3) (As := [.long w.toInt64, .long (lN 0), .long (lN 2)]) (rest := []) C0 (mM_in l w.toInt64 (lN 0) (lN 2) ) q1107 q1108 q60 q1109 (by decide +kernel) ⟨Nat.le_of_ble_eq_true rfl, Nat.le_of_ble_eq_true rfl⟩ rfl rfl ⟨Nat.le_of_ble_eq_true rfl, Nat.le_of_ble_eq_true rfl⟩ rfl rfl (Nat.le_of_ble_eq_true rfl) dX3_worst_6 ?_
  refine g_if_neB (pc := 9) 15 C0 dX3_worst_9 (by decide) (fun h9 => ?_) (fun h9 => ?_)
  · rw [inB_rg w (lo := 0) (hi := 2) (by decide) (by decide)] at h9
    refine g_iconst (pc := 15) (v := (-1)) C0 dX3_worst_15 (by decide) ?_
    refine g_istore_n (pc := 16) 2 C0 (L1 := [some (.ref (ad 0)), some (.int w), some (.int (-1)), none, none, none, none]) rfl (by decide) dX3_worst_16 rfl rfl ?_
    refine g_iconst (pc := 17) (v := (nI 0)) C0 dX3_worst_17 (by decide) ?_
    refine g_istore_n (pc := 18) 3 C0 (L1 := [some (.ref (ad 0)), some (.int w), some (.int (-1)), some (.int (nI 0)), none, none, none]) rfl (by decide) dX3_worst_18 rfl rfl ?_
    refine g_iconst (pc := 19) (v := (nI 0)) C0 dX3_worst_19 (by decide) ?_
    refine g_istore (pc := 20) 4 C0 (L1 := [some (.ref (ad 0)), some (.int w), some (.int (-1)), some (.int (nI 0)), some (.int (nI 0)), none, none]) rfl (by decide) dX3_worst_20 rfl ?_
    refine G.loop (pc := 22) (ws := fun i => mW dT ad τ) (Lf := fun i => [some (.ref (ad 0)), some (.int w), some (.int (oI (wrS τ i).1)), some (.int (nI ((wrS τ i).2))), some (.int (nI i)), none, none]) (N := τ 0 1) (i0 := 0) (Nat.zero_le _) ?_ (fun i22 hi22 hj22 ih22 => ?_)
    · refine g_iload (pc := 22) 4 C0 rfl dX3_worst_22 ?_
      refine g_aload_n (pc := 24) 0 C0 rfl dX3_worst_24 rfl ?_
      refine m_get (pc := 25) (v := .int (nI (τ 0 1))) C0 1 (by decide) q970 rfl dX3_worst_25 ?_
      refine g_icmp_geN (pc := 28) 121 C0 (by omega) (by omega) dX3_worst_28 (by decide) (fun h28 => ?_) (fun h28 => ?_)
      rotate_left
      · exact absurd h28 (by omega)
      refine g_iload_n (pc := 121) 2 C0 rfl dX3_worst_121 rfl ?_
      refine g_if_ge (pc := 122) 129 C0 dX3_worst_122 (by decide) (fun h122 => ?_) (fun h122 => ?_)
      · obtain ⟨bb, hbb⟩ := oI_some (Int32.not_lt.mpr h122)
        have hb3 := hz2 bb hbb
        refine G.lE (L' := [some (.ref (ad 0)), some (.int w), some (.int (nI bb)), some (.int (nI ((wrS τ (τ 0 1)).2))), some (.int (nI (τ 0 1))), none, none]) (by rw [hbb]; rfl) ?_
        refine g_iload_n (pc := 129) 1 C0 rfl dX3_worst_129 rfl ?_
        refine g_if_neX (pc := 130) 139 C0 dX3_worst_130 (by decide) (fun h130 => ?_) (fun h130 => ?_)
        · refine g_iload_n (pc := 139) 1 C0 rfl dX3_worst_139 rfl ?_
          refine g_iconst (pc := 140) (v := (nI 1)) C0 dX3_worst_140 (by decide) ?_
          refine g_icmp_ne (pc := 141) 150 C0 dX3_worst_141 (by decide) (fun h141 => ?_) (fun h141 => ?_)
          · refine g_iload_n (pc := 150) 3 C0 rfl dX3_worst_150 rfl ?_
            exact g_iret (pc := 151) C0 dX3_worst_151 ⟨by rw [pWorst, if_pos h9, if_neg (by rw [hbb]; simp), if_neg h130, if_neg h141], rfl⟩
          · refine g_iload_n (pc := 144) 2 C0 rfl dX3_worst_144 rfl ?_
            refine g_iconst (pc := 145) (v := (nI 3)) C0 dX3_worst_145 (by decide) ?_
            refine g_iremN (pc := 146) C0 (by omega) (by decide) (by decide) dX3_worst_146 ?_
            refine g_goto (pc := 147) 151 C0 dX3_worst_147 (by decide) ?_
            exact g_iret (pc := 151) C0 dX3_worst_151 ⟨by rw [pWorst, if_pos h9, if_neg (by rw [hbb]; simp), if_neg h130, if_pos h141]; rw [hbb]; rfl, rfl⟩
        · refine g_iload_n (pc := 133) 2 C0 rfl dX3_worst_133 rfl ?_
          refine g_iconst (pc := 134) (v := (nI 3)) C0 dX3_worst_134 (by decide) ?_
          refine g_idivN (pc := 135) C0 (by omega) (by decide) (by decide) dX3_worst_135 ?_
          refine g_goto (pc := 136) 151 C0 dX3_worst_136 (by decide) ?_
          exact g_iret (pc := 151) C0 dX3_worst_151 ⟨by rw [pWorst, if_pos h9, if_neg (by rw [hbb]; simp), if_pos h130]; rw [hbb]; rfl, rfl⟩
      · refine g_iconst (pc := 125) (v := (-1)) C0 dX3_worst_125 (by decide) ?_
        refine g_goto (pc := 126) 151 C0 dX3_worst_126 (by decide) ?_
        exact g_iret (pc := 151) C0 dX3_worst_151 ⟨by rw [pWorst, if_pos h9, if_pos (oI_none (fun k e => Nat.lt_trans (hz2 k e) (by decide)) (Int32.not_le.mp h122))], rfl⟩
    · obtain ⟨k1, k2, k3, k4, k5, k6, k7⟩ := hw.2.2 i22 hi22
      refine g_iload (pc := 22) 4 C0 rfl dX3_worst_22 ?_
      refine g_aload_n (pc := 24) 0 C0 rfl dX3_worst_24 rfl ?_
      refine m_get (pc := 25) (v := .int (nI (τ 0 1))) C0 1 (by decide) q970 rfl dX3_worst_25 ?_
      refine g_icmp_geN (pc := 28) 121 C0 (by omega) (by omega) dX3_worst_28 (by decide) (fun h28 => ?_) (fun h28 => ?_)
      · exact absurd h28 (by omega)
      refine g_iconst (pc := 31) (v := (nI 0)) C0 dX3_worst_31 (by decide) ?_
      refine g_istore (pc := 32) 5 C0 (L1 := [some (.ref (ad 0)), some (.int w), some (.int (oI (wrS τ i22).1)), some (.int (nI ((wrS τ i22).2))), some (.int (nI i22)), some (.int (nI 0)), none]) rfl (by decide) dX3_worst_32 rfl ?_
      refine G.loop (pc := 34) (ws := fun i => mW dT ad τ) (Lf := fun i => [some (.ref (ad 0)), some (.int w), some (.int (oI (wrI τ i22 (wrS τ i22) i).1)), some (.int (nI ((wrI τ i22 (wrS τ i22) i).2))), some (.int (nI i22)), some (.int (nI i)), none]) (N := τ 5 i22) (i0 := 0) (Nat.zero_le _) ?_ (fun i34 hi34 hj34 ih34 => ?_)
      · refine g_iload (pc := 34) 5 C0 rfl dX3_worst_34 ?_
        refine g_aload_n (pc := 36) 0 C0 rfl dX3_worst_36 rfl ?_
        refine m_get (pc := 37) (v := .ref (ad 5)) C0 5 (by decide) q974 rfl dX3_worst_37 ?_
        refine g_iload (pc := 40) 4 C0 rfl dX3_worst_40 ?_
        refine g_iald (pc := 42) (q0 := 4) (t0 := 0) C0 i22 rfl (fun _ => rfl) rfl (by decide) (by omega) dX3_worst_42 ?_
        refine g_icmp_geN (pc := 43) 115 C0 (by omega) (by omega) dX3_worst_43 (by decide) (fun h43 => ?_) (fun h43 => ?_)
        rotate_left
        · exact absurd h43 (by omega)
        refine g_iinc1 (pc := 115) 4 C0 (L1 := [some (.ref (ad 0)), some (.int w), some (.int (oI (wrI τ i22 (wrS τ i22) (τ 5 i22)).1)), some (.int (nI ((wrI τ i22 (wrS τ i22) (τ 5 i22)).2))), some (.int (nI (i22 + 1))), some (.int (nI (τ 5 i22))), none]) rfl rfl (by decide) dX3_worst_115 rfl ?_
        refine g_goto (pc := 118) 22 C0 dX3_worst_118 (by decide) ?_
        refine G.forget 5 ?_
        exact ih22
      · obtain ⟨k8, k9⟩ := k7 i34 hi34
        obtain ⟨y1, y2⟩ := wrI_ok hw hi22 (wrS_ok hw i22 (by omega)) i34 (by omega)
        refine g_iload (pc := 34) 5 C0 rfl dX3_worst_34 ?_
        refine g_aload_n (pc := 36) 0 C0 rfl dX3_worst_36 rfl ?_
        refine m_get (pc := 37) (v := .ref (ad 5)) C0 5 (by decide) q974 rfl dX3_worst_37 ?_
        refine g_iload (pc := 40) 4 C0 rfl dX3_worst_40 ?_
        refine g_iald (pc := 42) (q0 := 4) (t0 := 0) C0 i22 rfl (fun _ => rfl) rfl (by decide) (by omega) dX3_worst_42 ?_
        refine g_icmp_geN (pc := 43) 115 C0 (by omega) (by omega) dX3_worst_43 (by decide) (fun h43 => ?_) (fun h43 => ?_)
        · exact absurd h43 (by omega)
        refine G.join (pcJ := 76) (wsJ := mW dT ad τ) (LJ := [some (.ref (ad 0)), some (.int w), some (.int (oI (wrI τ i22 (wrS τ i22) i34).1)), some (.int (nI ((wrI τ i22 (wrS τ i22) i34).2))), some (.int (nI i22)), some (.int (nI i34)), none]) (stJ := []) (nI (wrsW τ i22 i34)) ?_ (fun J76 => ?_)
        · refine g_istore (pc := 76) 6 C0 (L1 := [some (.ref (ad 0)), some (.int w), some (.int (oI (wrI τ i22 (wrS τ i22) i34).1)), some (.int (nI ((wrI τ i22 (wrS τ i22) i34).2))), some (.int (nI i22)), some (.int (nI i34)), some (.int (nI (wrsW τ i22 i34)))]) rfl (by decide) dX3_worst_76 rfl ?_
          obtain ⟨v6, ev6⟩ : ∃ z, z = (wrsW τ i22 i34) := ⟨_, rfl⟩
          have hv6 : v6 ≤ 24 := by rw [ev6]; exact wrsW_le _ _ _
          refine G.lE (L' := [some (.ref (ad 0)), some (.int w), some (.int (oI (wrI τ i22 (wrS τ i22) i34).1)), some (.int (nI ((wrI τ i22 (wrS τ i22) i34).2))), some (.int (nI i22)), some (.int (nI i34)), some (.int (nI v6))]) (by rw [ev6]) ?_
          refine G.join (pcJ := 95) (wsJ := mW dT ad τ) (LJ := [some (.ref (ad 0)), some (.int w), some (.int (oI (wrI τ i22 (wrS τ i22) i34).1)), some (.int (nI ((wrI τ i22 (wrS τ i22) i34).2))), some (.int (nI i22)), some (.int (nI i34)), some (.int (nI v6))]) (stJ := []) (oI (wrI τ i22 (wrS τ i22) (i34 + 1)).1) ?_ (fun J95 => ?_)
          · refine g_istore_n (pc := 95) 2 C0 (L1 := [some (.ref (ad 0)), some (.int w), some (.int (oI (wrI τ i22 (wrS τ i22) (i34 + 1)).1)), some (.int (nI ((wrI τ i22 (wrS τ i22) i34).2))), some (.int (nI i22)), some (.int (nI i34)), some (.int (nI v6))]) rfl (by decide) dX3_worst_95 rfl rfl ?_
            refine G.join (pcJ := 108) (wsJ := mW dT ad τ) (LJ := [some (.ref (ad 0)), some (.int w), some (.int (oI (wrI τ i22 (wrS τ i22) (i34 + 1)).1)), some (.int (nI ((wrI τ i22 (wrS τ i22) i34).2))), some (.int (nI i22)), some (.int (nI i34)), some (.int (nI v6))]) (stJ := []) (nI ((wrI τ i22 (wrS τ i22) (i34 + 1)).2)) ?_ (fun J108 => ?_)
            · refine g_istore_n (pc := 108) 3 C0 (L1 := [some (.ref (ad 0)), some (.int w), some (.int (oI (wrI τ i22 (wrS τ i22) (i34 + 1)).1)), some (.int (nI ((wrI τ i22 (wrS τ i22) (i34 + 1)).2))), some (.int (nI i22)), some (.int (nI i34)), some (.int (nI v6))]) rfl (by decide) dX3_worst_108 rfl rfl ?_
              refine g_iinc1 (pc := 109) 5 C0 (L1 := [some (.ref (ad 0)), some (.int w), some (.int (oI (wrI τ i22 (wrS τ i22) (i34 + 1)).1)), some (.int (nI ((wrI τ i22 (wrS τ i22) (i34 + 1)).2))), some (.int (nI i22)), some (.int (nI (i34 + 1))), some (.int (nI v6))]) rfl rfl (by decide) dX3_worst_109 rfl ?_
              refine g_goto (pc := 112) 34 C0 dX3_worst_112 (by decide) ?_
              refine G.forget 6 ?_
              subst ev6
              exact ih34
            · refine g_iload (pc := 96) 6 C0 rfl dX3_worst_96 ?_
              refine g_iload_n (pc := 98) 3 C0 rfl dX3_worst_98 rfl ?_
              refine g_icmp_leN (pc := 99) 107 C0 (by omega) (by omega) dX3_worst_99 (by decide) (fun h99 => ?_) (fun h99 => ?_)
              · refine g_iload_n (pc := 107) 3 C0 rfl dX3_worst_107 rfl ?_
                exact J108 (nI ((wrI τ i22 (wrS τ i22) i34).2)) (by rw [wrI_s, wrF, ← ev6, if_neg (by omega)])
              · refine g_iload (pc := 102) 6 C0 rfl dX3_worst_102 ?_
                refine g_goto (pc := 104) 108 C0 dX3_worst_104 (by decide) ?_
                exact J108 (nI v6) (by rw [wrI_s, wrF, ← ev6, if_pos h99])
          · refine g_iload (pc := 78) 6 C0 rfl dX3_worst_78 ?_
            refine g_iload_n (pc := 80) 3 C0 rfl dX3_worst_80 rfl ?_
            refine g_icmp_leN (pc := 81) 94 C0 (by omega) (by omega) dX3_worst_81 (by decide) (fun h81 => ?_) (fun h81 => ?_)
            · refine g_iload_n (pc := 94) 2 C0 rfl dX3_worst_94 rfl ?_
              exact J95 (oI (wrI τ i22 (wrS τ i22) i34).1) (by rw [wrI_s, wrF, ← ev6, if_neg (by omega)])
            · refine g_iconst (pc := 84) (v := (nI 3)) C0 dX3_worst_84 (by decide) ?_
              refine g_iload (pc := 85) 4 C0 rfl dX3_worst_85 ?_
              refine g_imulN (pc := 87) C0  dX3_worst_87 ?_
              refine g_iload (pc := 88) 5 C0 rfl dX3_worst_88 ?_
              refine g_iaddN (pc := 90) C0  dX3_worst_90 ?_
              refine g_goto (pc := 91) 95 C0 dX3_worst_91 (by decide) ?_
              exact J95 (nI ((3 * i22) + i34)) (by rw [wrI_s, wrF, ← ev6, if_pos h81]; rfl)
        · refine g_aload_n (pc := 46) 0 C0 rfl dX3_worst_46 rfl ?_
          refine m_get (pc := 47) (v := .ref (ad 6)) C0 6 (by decide) q975 rfl dX3_worst_47 ?_
          refine g_iconst (pc := 50) (v := (nI 3)) C0 dX3_worst_50 (by decide) ?_
          refine g_iload (pc := 51) 4 C0 rfl dX3_worst_51 ?_
          refine g_imulN (pc := 53) C0  dX3_worst_53 ?_
          refine g_iload (pc := 54) 5 C0 rfl dX3_worst_54 ?_
          refine g_iaddN (pc := 56) C0  dX3_worst_56 ?_
          refine g_iald (pc := 57) (q0 := 5) (t0 := 0) C0 ((3 * i22) + i34) rfl (fun _ => rfl) rfl (by decide) (by omega) dX3_worst_57 ?_
          refine g_iconst (pc := 58) (v := (nI 1)) C0 dX3_worst_58 (by decide) ?_
          refine g_icmp_leN (pc := 59) 75 C0 (by omega) (by decide) dX3_worst_59 (by decide) (fun h59 => ?_) (fun h59 => ?_)
          · refine g_iconst (pc := 75) (v := (nI 0)) C0 dX3_worst_75 (by decide) ?_
            exact J76 (nI 0) (congrArg nI (by simp [wrsW, h9, h59] <;> omega))
          · refine g_aload_n (pc := 62) 0 C0 rfl dX3_worst_62 rfl ?_
            refine g_iload (pc := 63) 4 C0 rfl dX3_worst_63 ?_
            refine g_iload (pc := 65) 5 C0 rfl dX3_worst_65 ?_
            refine g_iconst (pc := 67) (v := (-1)) C0 dX3_worst_67 (by decide) ?_
            refine g_iconst (pc := 68) (v := (nI 1)) C0 dX3_worst_68 (by decide) ?_
            refine g_cvi (pc := 69) (na := 4) (As := [.int (nI i22), .int (nI i34), .int (-1), .int (nI 1)]) (rest := []) C0 (mM_step l D dT ad τ (nI i22) (nI i34) (-1) (nI 1) hw hp) (q0 := 0) (j := 0) (ci := 0) (C := RX3) (T := TX3) (N := 44) rfl rfl rfl q1312 q1304 q1305 q60 q1306 (by decide +kernel) ⟨Nat.le_of_ble_eq_true rfl, Nat.le_of_ble_eq_true rfl⟩ rfl rfl ⟨Nat.le_of_ble_eq_true rfl, Nat.le_of_ble_eq_true rfl⟩ rfl rfl (Nat.le_of_ble_eq_true rfl) dX3_worst_69 (fun r τ0 hc => ?_)
            obtain ⟨rfl, rfl⟩ := hc
            refine G.stE (st' := [.int (nI (wrsV τ i22 i34))]) (by rw [pStep_wrs hw hi22 hi34 h59]) ?_
            refine g_goto (pc := 72) 76 C0 dX3_worst_72 (by decide) ?_
            exact J76 (nI (wrsV τ i22 i34)) (congrArg nI (by simp [wrsW, h9, h59] <;> omega))
  · rw [inB_rg w (lo := 0) (hi := 2) (by decide) (by decide)] at h9
    refine g_ldc (pc := 12) (v := -1000000002) C0 q1110 dX3_worst_12 ?_
    exact g_iret (pc := 14) C0 dX3_worst_14 ⟨by rw [pWorst, h9]; rfl, rfl⟩
set_option maxHeartbeats 4000000 in
set_option maxRecDepth 100000 in
theorem mM_ask (l : Launch) (D : va_G) (dT : Nat → ClassId) (ad : Nat → Nat) (τ : tT)  (hw : wfT τ) (hp : wfP τ) (hs : wfS τ) : MI l D dT ad yX3_ask cX3_ask 9 .int ({ frames := 3, cells := 0, slots := 0, locals := 76 }) [] τ (fun rr τ' => rr = (pAsk τ) ∧ τ = τ') := by
  refine CI.ofG (own := "FittingStridesModel") (L := [some (.ref (ad 0)), none, none, none, none, none, none, none, none]) rfl (by decide) (Nat.le_of_ble_eq_true rfl) rfl ?_
  intro p' e' s' m' bl' mt' c' C0
  have hw1 := hw.1
  have hw0 := hw.2.1
  have hp0 := hp.1
  have hp1 := hp.2.1
  refine g_aload_n (pc := 0) 0 C0 rfl dX3_ask_0 rfl ?_
  refine g_cvi (pc := 1) (na := 0) (As := []) (rest := []) C0 (mM_fits l D dT ad τ  hw hp hs) (q0 := 0) (j := 0) (ci := 0) (C := RX3) (T := TX3) (N := 44) rfl rfl rfl q1333 q1326 q1327 q60 q1328 (by decide +kernel) ⟨Nat.le_of_ble_eq_true rfl, Nat.le_of_ble_eq_true rfl⟩ rfl rfl ⟨Nat.le_of_ble_eq_true rfl, Nat.le_of_ble_eq_true rfl⟩ rfl rfl (Nat.le_of_ble_eq_true rfl) dX3_ask_1 (fun r τ0 hc => ?_)
  obtain ⟨rfl, rfl⟩ := hc
  refine g_istore_n (pc := 4) 1 C0 (L1 := [some (.ref (ad 0)), some (.int (nI (fitsS τ))), none, none, none, none, none, none, none]) rfl (by decide) dX3_ask_4 rfl rfl ?_
  obtain ⟨st1, est1⟩ : ∃ z, z = (fitsS τ) := ⟨_, rfl⟩
  have hst : st1 < 2 ^ 24 := by rw [est1]; exact fitsN_lt τ 25 (by decide)
  refine G.lE (L' := [some (.ref (ad 0)), some (.int (nI st1)), none, none, none, none, none, none, none]) (by rw [est1]) ?_
  refine g_iconst (pc := 5) (v := (-1)) C0 dX3_ask_5 (by decide) ?_
  refine g_istore_n (pc := 6) 2 C0 (L1 := [some (.ref (ad 0)), some (.int (nI st1)), some (.int (-1)), none, none, none, none, none, none]) rfl (by decide) dX3_ask_6 rfl rfl ?_
  refine g_iconst (pc := 7) (v := (nI 0)) C0 dX3_ask_7 (by decide) ?_
  refine g_istore_n (pc := 8) 3 C0 (L1 := [some (.ref (ad 0)), some (.int (nI st1)), some (.int (-1)), some (.int (nI 0)), none, none, none, none, none]) rfl (by decide) dX3_ask_8 rfl rfl ?_
  refine g_iconst (pc := 9) (v := (nI 0)) C0 dX3_ask_9 (by decide) ?_
  refine g_istore (pc := 10) 4 C0 (L1 := [some (.ref (ad 0)), some (.int (nI st1)), some (.int (-1)), some (.int (nI 0)), some (.int (nI 0)), none, none, none, none]) rfl (by decide) dX3_ask_10 rfl ?_
  refine G.loop (pc := 12) (ws := fun i => mW dT ad τ) (Lf := fun i => [some (.ref (ad 0)), some (.int (nI st1)), some (.int (oI (askS τ st1 i).1)), some (.int (nI ((askS τ st1 i).2))), some (.int (nI i)), none, none, none, none]) (N := τ 0 1) (i0 := 0) (Nat.zero_le _) ?_ (fun i12 hi12 hj12 ih12 => ?_)
  · refine g_iload (pc := 12) 4 C0 rfl dX3_ask_12 ?_
    refine g_aload_n (pc := 14) 0 C0 rfl dX3_ask_14 rfl ?_
    refine m_get (pc := 15) (v := .int (nI (τ 0 1))) C0 1 (by decide) q970 rfl dX3_ask_15 ?_
    refine g_icmp_geN (pc := 18) 160 C0 (by omega) (by omega) dX3_ask_18 (by decide) (fun h18 => ?_) (fun h18 => ?_)
    rotate_left
    · exact absurd h18 (by omega)
    refine g_iload_n (pc := 160) 2 C0 rfl dX3_ask_160 rfl ?_
    exact g_iret (pc := 161) C0 dX3_ask_161 ⟨by rw [pAsk, ← est1], rfl⟩
  · obtain ⟨a1, a2⟩ := askS_ok τ st1 i12
    obtain ⟨a3, a4, a5⟩ := askO_le τ st1 i12
    have hyl : askY τ st1 i12 25 ≤ bitsN st1 24 := askY_le τ st1 i12 24
    have hbn : ∀ k, (askS τ st1 i12).1 = some k → k < 2 ^ 31 := fun k e => by have := a2 k e; omega
    refine g_iload (pc := 12) 4 C0 rfl dX3_ask_12 ?_
    refine g_aload_n (pc := 14) 0 C0 rfl dX3_ask_14 rfl ?_
    refine m_get (pc := 15) (v := .int (nI (τ 0 1))) C0 1 (by decide) q970 rfl dX3_ask_15 ?_
    refine g_icmp_geN (pc := 18) 160 C0 (by omega) (by omega) dX3_ask_18 (by decide) (fun h18 => ?_) (fun h18 => ?_)
    · exact absurd h18 (by omega)
    refine g_iconst (pc := 21) (v := (nI 0)) C0 dX3_ask_21 (by decide) ?_
    refine g_istore (pc := 22) 5 C0 (L1 := [some (.ref (ad 0)), some (.int (nI st1)), some (.int (oI (askS τ st1 i12).1)), some (.int (nI ((askS τ st1 i12).2))), some (.int (nI i12)), some (.int (nI 0)), none, none, none]) rfl (by decide) dX3_ask_22 rfl ?_
    refine g_iconst (pc := 24) (v := (nI 1)) C0 dX3_ask_24 (by decide) ?_
    refine g_istore (pc := 25) 6 C0 (L1 := [some (.ref (ad 0)), some (.int (nI st1)), some (.int (oI (askS τ st1 i12).1)), some (.int (nI ((askS τ st1 i12).2))), some (.int (nI i12)), some (.int (nI 0)), some (.int (nI 1)), none, none]) rfl (by decide) dX3_ask_25 rfl ?_
    refine G.loop (pc := 27) (ws := fun i => mW dT ad τ) (Lf := fun i => [some (.ref (ad 0)), some (.int (nI st1)), some (.int (oI (askS τ st1 i12).1)), some (.int (nI ((askS τ st1 i12).2))), some (.int (nI i12)), some (.int (nI (askY τ st1 i12 i))), some (.int (nI i)), none, none]) (N := 25) (i0 := 1) (by omega) ?_ (fun i27 hi27 hj27 ih27 => ?_)
    · refine g_iload (pc := 27) 6 C0 rfl dX3_ask_27 ?_
      refine g_bipush (pc := 29) (v := (nI 24)) C0 dX3_ask_29 (by decide) ?_
      refine g_icmp_gtN (pc := 31) 72 C0 (by decide) (by decide) dX3_ask_31 (by decide) (fun h31 => ?_) (fun h31 => ?_)
      rotate_left
      · exact absurd h31 (by omega)
      obtain ⟨y5, ey5⟩ : ∃ z, z = (askY τ st1 i12 25) := ⟨_, rfl⟩
      refine G.lE (L' := [some (.ref (ad 0)), some (.int (nI st1)), some (.int (oI (askS τ st1 i12).1)), some (.int (nI ((askS τ st1 i12).2))), some (.int (nI i12)), some (.int (nI y5)), some (.int (nI 25)), none, none]) (by rw [ey5]) ?_
      refine g_iload_n (pc := 72) 1 C0 rfl dX3_ask_72 rfl ?_
      refine g_csi (pc := 73) (na := 1) (As := [.int (nI st1)]) (rest := []) C0 (mM_bits l st1 (by omega)) q1292 q1293 q60 q1294 (by decide +kernel) ⟨Nat.le_of_ble_eq_true rfl, Nat.le_of_ble_eq_true rfl⟩ rfl rfl ⟨Nat.le_of_ble_eq_true rfl, Nat.le_of_ble_eq_true rfl⟩ rfl rfl (Nat.le_of_ble_eq_true rfl) dX3_ask_73 ?_
      refine g_iload (pc := 76) 5 C0 rfl dX3_ask_76 ?_
      refine g_isubN (pc := 78) C0 (by omega) dX3_ask_78 ?_
      refine g_istore (pc := 79) 6 C0 (L1 := [some (.ref (ad 0)), some (.int (nI st1)), some (.int (oI (askS τ st1 i12).1)), some (.int (nI ((askS τ st1 i12).2))), some (.int (nI i12)), some (.int (nI y5)), some (.int (nI ((bitsN st1 24) - y5))), none, none]) rfl (by decide) dX3_ask_79 rfl ?_
      obtain ⟨no6, eno6⟩ : ∃ z, z = ((bitsN st1 24) - y5) := ⟨_, rfl⟩
      have hno6 : no6 = askN τ st1 i12 := by rw [eno6, ey5]; rfl
      refine G.lE (L' := [some (.ref (ad 0)), some (.int (nI st1)), some (.int (oI (askS τ st1 i12).1)), some (.int (nI ((askS τ st1 i12).2))), some (.int (nI i12)), some (.int (nI y5)), some (.int (nI no6)), none, none]) (by rw [eno6]) ?_
      refine G.join (pcJ := 101) (wsJ := mW dT ad τ) (LJ := [some (.ref (ad 0)), some (.int (nI st1)), some (.int (oI (askS τ st1 i12).1)), some (.int (nI ((askS τ st1 i12).2))), some (.int (nI i12)), some (.int (nI y5)), some (.int (nI no6)), none, none]) (stJ := []) (nI (askO τ st1 i12)) ?_ (fun J101 => ?_)
      · refine g_istore (pc := 101) 7 C0 (L1 := [some (.ref (ad 0)), some (.int (nI st1)), some (.int (oI (askS τ st1 i12).1)), some (.int (nI ((askS τ st1 i12).2))), some (.int (nI i12)), some (.int (nI y5)), some (.int (nI no6)), some (.int (nI (askO τ st1 i12))), none]) rfl (by decide) dX3_ask_101 rfl ?_
        obtain ⟨of7, eof7⟩ : ∃ z, z = (askO τ st1 i12) := ⟨_, rfl⟩
        refine G.lE (L' := [some (.ref (ad 0)), some (.int (nI st1)), some (.int (oI (askS τ st1 i12).1)), some (.int (nI ((askS τ st1 i12).2))), some (.int (nI i12)), some (.int (nI y5)), some (.int (nI no6)), some (.int (nI of7)), none]) (by rw [eof7]) ?_
        refine G.join (pcJ := 128) (wsJ := mW dT ad τ) (LJ := [some (.ref (ad 0)), some (.int (nI st1)), some (.int (oI (askS τ st1 i12).1)), some (.int (nI ((askS τ st1 i12).2))), some (.int (nI i12)), some (.int (nI y5)), some (.int (nI no6)), some (.int (nI of7)), none]) (stJ := []) (nI (bN (askB τ st1 i12 (askS τ st1 i12)))) ?_ (fun J128 => ?_)
        · refine g_istore (pc := 128) 8 C0 (L1 := [some (.ref (ad 0)), some (.int (nI st1)), some (.int (oI (askS τ st1 i12).1)), some (.int (nI ((askS τ st1 i12).2))), some (.int (nI i12)), some (.int (nI y5)), some (.int (nI no6)), some (.int (nI of7)), some (.int (nI (bN (askB τ st1 i12 (askS τ st1 i12)))))]) rfl (by decide) dX3_ask_128 rfl ?_
          refine G.join (pcJ := 141) (wsJ := mW dT ad τ) (LJ := [some (.ref (ad 0)), some (.int (nI st1)), some (.int (oI (askS τ st1 i12).1)), some (.int (nI ((askS τ st1 i12).2))), some (.int (nI i12)), some (.int (nI y5)), some (.int (nI no6)), some (.int (nI of7)), some (.int (nI (bN (askB τ st1 i12 (askS τ st1 i12)))))]) (stJ := []) (oI (askS τ st1 (i12 + 1)).1) ?_ (fun J141 => ?_)
          · refine g_istore_n (pc := 141) 2 C0 (L1 := [some (.ref (ad 0)), some (.int (nI st1)), some (.int (oI (askS τ st1 (i12 + 1)).1)), some (.int (nI ((askS τ st1 i12).2))), some (.int (nI i12)), some (.int (nI y5)), some (.int (nI no6)), some (.int (nI of7)), some (.int (nI (bN (askB τ st1 i12 (askS τ st1 i12)))))]) rfl (by decide) dX3_ask_141 rfl rfl ?_
            refine G.join (pcJ := 153) (wsJ := mW dT ad τ) (LJ := [some (.ref (ad 0)), some (.int (nI st1)), some (.int (oI (askS τ st1 (i12 + 1)).1)), some (.int (nI ((askS τ st1 i12).2))), some (.int (nI i12)), some (.int (nI y5)), some (.int (nI no6)), some (.int (nI of7)), some (.int (nI (bN (askB τ st1 i12 (askS τ st1 i12)))))]) (stJ := []) (nI ((askS τ st1 (i12 + 1)).2)) ?_ (fun J153 => ?_)
            · refine g_istore_n (pc := 153) 3 C0 (L1 := [some (.ref (ad 0)), some (.int (nI st1)), some (.int (oI (askS τ st1 (i12 + 1)).1)), some (.int (nI ((askS τ st1 (i12 + 1)).2))), some (.int (nI i12)), some (.int (nI y5)), some (.int (nI no6)), some (.int (nI of7)), some (.int (nI (bN (askB τ st1 i12 (askS τ st1 i12)))))]) rfl (by decide) dX3_ask_153 rfl rfl ?_
              refine g_iinc1 (pc := 154) 4 C0 (L1 := [some (.ref (ad 0)), some (.int (nI st1)), some (.int (oI (askS τ st1 (i12 + 1)).1)), some (.int (nI ((askS τ st1 (i12 + 1)).2))), some (.int (nI (i12 + 1))), some (.int (nI y5)), some (.int (nI no6)), some (.int (nI of7)), some (.int (nI (bN (askB τ st1 i12 (askS τ st1 i12)))))]) rfl rfl (by decide) dX3_ask_154 rfl ?_
              refine g_goto (pc := 157) 12 C0 dX3_ask_157 (by decide) ?_
              refine G.forget 5 ?_
              refine G.forget 6 ?_
              refine G.forget 7 ?_
              refine G.forget 8 ?_
              exact ih12
            · refine g_iload (pc := 142) 8 C0 rfl dX3_ask_142 ?_
              refine g_if_eqB (pc := 144) 152 C0 dX3_ask_144 (by decide) (fun h144 => ?_) (fun h144 => ?_)
              · refine g_iload_n (pc := 152) 3 C0 rfl dX3_ask_152 rfl ?_
                exact J153 (nI ((askS τ st1 i12).2)) (congrArg nI (by rw [askS_s, h144]; rfl))
              · refine g_iload (pc := 147) 7 C0 rfl dX3_ask_147 ?_
                refine g_goto (pc := 149) 153 C0 dX3_ask_149 (by decide) ?_
                exact J153 (nI of7) (congrArg nI (by rw [askS_s, h144]; exact eof7))
          · refine g_iload (pc := 130) 8 C0 rfl dX3_ask_130 ?_
            refine g_if_eqB (pc := 132) 140 C0 dX3_ask_132 (by decide) (fun h132 => ?_) (fun h132 => ?_)
            · refine g_iload_n (pc := 140) 2 C0 rfl dX3_ask_140 rfl ?_
              exact J141 (oI (askS τ st1 i12).1) (by rw [askS_s, h132]; rfl)
            · refine g_iload (pc := 135) 4 C0 rfl dX3_ask_135 ?_
              refine g_goto (pc := 137) 141 C0 dX3_ask_137 (by decide) ?_
              exact J141 (nI i12) (by rw [askS_s, h132]; rfl)
        · refine g_iload (pc := 103) 5 C0 rfl dX3_ask_103 ?_
          refine g_if_leN (pc := 105) 127 C0 (by omega) dX3_ask_105 (by decide) (fun h105 => ?_) (fun h105 => ?_)
          · refine g_iconst (pc := 127) (v := (nI 0)) C0 dX3_ask_127 (by decide) ?_
            exact J128 (nI 0) (bret0 (by rw [askB, ← ey5, decide_eq_false (by omega)]; rfl))
          · refine g_iload (pc := 108) 6 C0 rfl dX3_ask_108 ?_
            refine g_if_leN (pc := 110) 127 C0 (by omega) dX3_ask_110 (by decide) (fun h110 => ?_) (fun h110 => ?_)
            · refine g_iconst (pc := 127) (v := (nI 0)) C0 dX3_ask_127 (by decide) ?_
              exact J128 (nI 0) (bret0 (by rw [askB, ← ey5, decide_eq_true (by omega), ← hno6, decide_eq_false (by omega)]; rfl))
            · refine g_iload_n (pc := 113) 2 C0 rfl dX3_ask_113 rfl ?_
              refine g_if_lt (pc := 114) 123 C0 dX3_ask_114 (by decide) (fun h114 => ?_) (fun h114 => ?_)
              · refine g_iconst (pc := 123) (v := (nI 1)) C0 dX3_ask_123 (by decide) ?_
                refine g_goto (pc := 124) 128 C0 dX3_ask_124 (by decide) ?_
                exact J128 (nI 1) (bret1 (by rw [askB, ← ey5, decide_eq_true (by omega), ← hno6, decide_eq_true (by omega), oI_isNone h114 hbn]; rfl))
              · refine g_iload (pc := 117) 7 C0 rfl dX3_ask_117 ?_
                refine g_iload_n (pc := 119) 3 C0 rfl dX3_ask_119 rfl ?_
                refine g_icmp_geN (pc := 120) 127 C0 (by omega) (by omega) dX3_ask_120 (by decide) (fun h120 => ?_) (fun h120 => ?_)
                · refine g_iconst (pc := 127) (v := (nI 0)) C0 dX3_ask_127 (by decide) ?_
                  exact J128 (nI 0) (bret0 (by rw [askB, ← ey5, decide_eq_true (by omega), ← hno6, decide_eq_true (by omega), oI_isSome h114, ← eof7, decide_eq_false (by omega)]; rfl))
                · refine g_iconst (pc := 123) (v := (nI 1)) C0 dX3_ask_123 (by decide) ?_
                  refine g_goto (pc := 124) 128 C0 dX3_ask_124 (by decide) ?_
                  exact J128 (nI 1) (bret1 (by rw [askB, ← ey5, decide_eq_true (by omega), ← hno6, decide_eq_true (by omega), oI_isSome h114, ← eof7, decide_eq_true (by omega)]; rfl))
      · refine g_iload (pc := 81) 5 C0 rfl dX3_ask_81 ?_
        refine g_iload (pc := 83) 6 C0 rfl dX3_ask_83 ?_
        refine g_icmp_leN (pc := 85) 96 C0 (by omega) (by omega) dX3_ask_85 (by decide) (fun h85 => ?_) (fun h85 => ?_)
        · refine g_iload (pc := 96) 6 C0 rfl dX3_ask_96 ?_
          refine g_iload (pc := 98) 5 C0 rfl dX3_ask_98 ?_
          refine g_isubN (pc := 100) C0 (by omega) dX3_ask_100 ?_
          exact J101 (nI (no6 - y5)) (congrArg nI (by rw [askO, ← hno6, ← ey5, if_neg (by omega)]))
        · refine g_iload (pc := 88) 5 C0 rfl dX3_ask_88 ?_
          refine g_iload (pc := 90) 6 C0 rfl dX3_ask_90 ?_
          refine g_isubN (pc := 92) C0 (by omega) dX3_ask_92 ?_
          refine g_goto (pc := 93) 101 C0 dX3_ask_93 (by decide) ?_
          exact J101 (nI (y5 - no6)) (congrArg nI (by rw [askO, ← hno6, ← ey5, if_pos (by omega)]))
    · refine g_iload (pc := 27) 6 C0 rfl dX3_ask_27 ?_
      refine g_bipush (pc := 29) (v := (nI 24)) C0 dX3_ask_29 (by decide) ?_
      refine g_icmp_gtN (pc := 31) 72 C0 (by omega) (by decide) dX3_ask_31 (by decide) (fun h31 => ?_) (fun h31 => ?_)
      · exact absurd h31 (by omega)
      refine g_iload (pc := 34) 5 C0 rfl dX3_ask_34 ?_
      refine G.join (pcJ := 63) (wsJ := mW dT ad τ) (LJ := [some (.ref (ad 0)), some (.int (nI st1)), some (.int (oI (askS τ st1 i12).1)), some (.int (nI ((askS τ st1 i12).2))), some (.int (nI i12)), some (.int (nI (askY τ st1 i12 i27))), some (.int (nI i27)), none, none]) (stJ := [.int (nI (askY τ st1 i12 i27))]) (nI (bN (st1.testBit (i27 - 1) && sFit τ i12 i27))) ?_ (fun J63 => ?_)
      · refine g_iaddN (pc := 63) C0  dX3_ask_63 ?_
        refine g_istore (pc := 64) 5 C0 (L1 := [some (.ref (ad 0)), some (.int (nI st1)), some (.int (oI (askS τ st1 i12).1)), some (.int (nI ((askS τ st1 i12).2))), some (.int (nI i12)), some (.int (nI ((askY τ st1 i12 i27) + (bN (st1.testBit (i27 - 1) && sFit τ i12 i27))))), some (.int (nI i27)), none, none]) rfl (by decide) dX3_ask_64 rfl ?_
        refine g_iinc1 (pc := 66) 6 C0 (L1 := [some (.ref (ad 0)), some (.int (nI st1)), some (.int (oI (askS τ st1 i12).1)), some (.int (nI ((askS τ st1 i12).2))), some (.int (nI i12)), some (.int (nI ((askY τ st1 i12 i27) + (bN (st1.testBit (i27 - 1) && sFit τ i12 i27))))), some (.int (nI (i27 + 1))), none, none]) rfl rfl (by decide) dX3_ask_66 rfl ?_
        refine g_goto (pc := 69) 27 C0 dX3_ask_69 (by decide) ?_
        exact G.lE (by rw [askY_s τ st1 i12 hj27]) ih27
      · refine g_iload_n (pc := 36) 1 C0 rfl dX3_ask_36 rfl ?_
        refine g_iload (pc := 37) 6 C0 rfl dX3_ask_37 ?_
        refine g_iconst (pc := 39) (v := (nI 1)) C0 dX3_ask_39 (by decide) ?_
        refine g_isubN (pc := 40) C0 (by omega) dX3_ask_40 ?_
        refine g_csi (pc := 41) (na := 2) (As := [.int (nI st1), .int (nI (i27 - 1))]) (rest := [.int (nI (askY τ st1 i12 i27))]) C0 (mM_has l st1 (i27 - 1) (by omega) (by omega)) q1216 q1217 q60 q1218 (by decide +kernel) ⟨Nat.le_of_ble_eq_true rfl, Nat.le_of_ble_eq_true rfl⟩ rfl rfl ⟨Nat.le_of_ble_eq_true rfl, Nat.le_of_ble_eq_true rfl⟩ rfl rfl (Nat.le_of_ble_eq_true rfl) dX3_ask_41 ?_
        refine g_if_eqB (pc := 44) 62 C0 dX3_ask_44 (by decide) (fun h44 => ?_) (fun h44 => ?_)
        · refine g_iconst (pc := 62) (v := (nI 0)) C0 dX3_ask_62 (by decide) ?_
          exact J63 (nI 0) (congrArg nI (by simp [h44, bN]))
        · refine g_aload_n (pc := 47) 0 C0 rfl dX3_ask_47 rfl ?_
          refine g_iload (pc := 48) 4 C0 rfl dX3_ask_48 ?_
          refine g_iload (pc := 50) 6 C0 rfl dX3_ask_50 ?_
          refine g_cvi (pc := 52) (na := 2) (As := [.int (nI i12), .int (nI i27)]) (rest := [.int (nI (askY τ st1 i12 i27))]) C0 (mM_isFit l D dT ad τ i12 i27 hw (by omega) (by omega)) (q0 := 0) (j := 0) (ci := 0) (C := RX3) (T := TX3) (N := 44) rfl rfl rfl q1196 q1198 qs44 q60 q1199 (by decide +kernel) ⟨Nat.le_of_ble_eq_true rfl, Nat.le_of_ble_eq_true rfl⟩ rfl rfl ⟨Nat.le_of_ble_eq_true rfl, Nat.le_of_ble_eq_true rfl⟩ rfl rfl (Nat.le_of_ble_eq_true rfl) dX3_ask_52 (fun r τ0 hc => ?_)
          obtain ⟨rfl, rfl⟩ := hc
          refine g_if_eqB (pc := 55) 62 C0 dX3_ask_55 (by decide) (fun h55 => ?_) (fun h55 => ?_)
          · refine g_iconst (pc := 62) (v := (nI 0)) C0 dX3_ask_62 (by decide) ?_
            exact J63 (nI 0) (congrArg nI (by simp [h44, h55, bN]))
          · refine g_iconst (pc := 58) (v := (nI 1)) C0 dX3_ask_58 (by decide) ?_
            refine g_goto (pc := 59) 63 C0 dX3_ask_59 (by decide) ?_
            exact J63 (nI 1) (congrArg nI (by simp [h44, h55, bN]))
