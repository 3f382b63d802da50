/-! X, fourth module -/
set_option maxRecDepth 100000
set_option maxHeartbeats 4000000 in
set_option maxRecDepth 100000 in
theorem xX_climbersWith (l : Launch) (D : va_G) (dT : Nat → ClassId) (ad : Nat → Nat) (nS : Nat) (τ β : tT)  (r : Nat) (x : Nat) (up : Bool) (hβ : RX nS β τ) (hw : wfT τ) (hp : wfP τ) (hr : r < nS) (hx : x < τ 5 r) (h1 : 1 ≤ byN (τ 6 (3 * r + x)) up) (h2 : byN (τ 6 (3 * r + x)) up ≤ 720) : XI l D dT ad nS yX0_climbersWith cX0_climbersWith 5 .int ({ frames := 4, cells := 0, slots := 0, locals := 133 }) [.ref (ad 0), .int (nI r), .int (nI x), .int (byI up)] β (fun rr β' => rr = (nI (climbW τ r x up)) ∧ RX nS β' τ) := by
  refine XI.ofG (own := "FittingStrides") (L := [some (.ref (ad 0)), some (.int (nI r)), some (.int (nI x)), some (.int (byI up)), none]) rfl (by decide) (Nat.le_of_ble_eq_true rfl) rfl ?_
  intro p' e' s' m' bl' mt' c' C0 hN
  have hn := hβ.n
  have hn10 := hβ.n10
  have hw1 := hw.1
  have hw0 := hw.2.1
  have hp0 := hp.1
  have hp1 := hp.2.1
  obtain ⟨k1, k2, k3, k4, k5, k6, k7⟩ := hw.2.2 r (by omega)
  obtain ⟨k8, k9⟩ := k7 x hx
  have h3p : ∀ q, q < nS → τ 5 q ≤ 3 := fun q hq => (hw.2.2 q (by omega)).2.2.2.2.2.1
  have hw2 : wfT (upc τ 6 (3 * r + x) (byN (τ 6 (3 * r + x)) up)) := wfT_step hw (by omega) hx h1 h2
  have hp2 : wfP (upc τ 6 (3 * r + x) (byN (τ 6 (3 * r + x)) up)) := wfP_of (τ := τ) (τ' := upc τ 6 (3 * r + x) (byN (τ 6 (3 * r + x)) up)) rfl rfl rfl rfl rfl rfl hp
  refine g_aload_n (pc := 0) 0 C0 rfl dX0_climbersWith_0 rfl ?_
  refine g_get (pc := 1) (v := .ref (ad 1)) C0 (C := RX0) (T := TX0) (N := 14) (ci := 1) (q0 := 0) (j := 0) 1 (xCode (by omega)) rfl rfl in_X0 (by decide) q184 rfl dX0_climbersWith_1 ?_
  refine g_getN (pc := 4) (v := .ref (ad 21)) C0 hN (C := RX2) (T := TX2) (N := 10) (ci := 3) (q0 := 1) (j := 1) 4 (xCode (by omega)) rfl rfl in_X2 (by decide) q148 rfl dX0_climbersWith_4 ?_
  refine g_iload_n (pc := 7) 1 C0 rfl dX0_climbersWith_7 rfl ?_
  refine g_aaldA (pc := 8) (q0 := 21) (j := 21) (t0 := 3) (N := 10) (jr := 32 + r) C0 r (xCode (by omega)) rfl rfl (by decide) (by omega) rfl dX0_climbersWith_8 ?_
  refine g_iload_n (pc := 9) 2 C0 rfl dX0_climbersWith_9 rfl ?_
  refine g_dup2 (pc := 10) C0 dX0_climbersWith_10 rfl rfl ?_
  refine g_ialdV (pc := 11) (q0 := (32 + r)) (j := (32 + r)) (t0 := 0) (N := 3) (v := (τ 6 (3 * r + x))) C0 x (xCode (by omega)) (fun f => xMk_row (by omega) f) rfl (by decide) (by omega) ((hβ.row (by omega) (by omega)).trans (stp_in hx)) dX0_climbersWith_11 ?_
  refine g_iload_n (pc := 12) 3 C0 rfl dX0_climbersWith_12 rfl ?_
  refine g_iaddE (pc := 13) C0 (by_add k8 up) dX0_climbersWith_13 ?_
  refine g_iast (pc := 14) (q0 := (32 + r)) (j := (32 + r)) (t0 := 0) (N := 3) C0 x (byN (τ 6 (3 * r + x)) up) (xNd hβ.n10) (xCode (by omega)) (fun f => xMk_row (by omega) f) rfl (by decide) (by omega) dX0_climbersWith_14 ?_
  refine G.nmX (Φ := fun β => RX nS β (upc τ 6 (3 * r + x) (byN (τ 6 (3 * r + x)) up))) (wsf := fun β => xW dT ad nS β) (hβ.wR (by omega) h3p hx _) (fun β hβ => ?_)
  refine g_aload_n (pc := 15) 0 C0 rfl dX0_climbersWith_15 rfl ?_
  refine g_iload_n (pc := 16) 1 C0 rfl dX0_climbersWith_16 rfl ?_
  refine g_cviX (pc := 17) (na := 1) (As := [.int (nI r)]) (rest := []) C0 hN (xX_climbers l D dT ad nS (upc τ 6 (3 * r + x) (byN (τ 6 (3 * r + x)) up)) β  r hβ hw2 hp2 hr) (q0 := 0) (j := 0) (ci := 1) (C := RX0) (T := TX0) (N := 14) (xCode (by omega)) rfl rfl q721 q723 qs11 q57 q724 (by decide +kernel) ⟨Nat.le_of_ble_eq_true rfl, Nat.le_of_ble_eq_true rfl⟩ rfl rfl ⟨Nat.le_of_ble_eq_true rfl, Nat.le_of_ble_eq_true rfl⟩ rfl rfl (Nat.le_of_ble_eq_true rfl) dX0_climbersWith_17 (fun r β hc => ?_)
  obtain ⟨rfl, hβ⟩ := hc
  refine g_istore (pc := 20) 4 C0 (L1 := [some (.ref (ad 0)), some (.int (nI r)), some (.int (nI x)), some (.int (byI up)), some (.int (nI (sClimb (upc τ 6 (3 * r + x) (byN (τ 6 (3 * r + x)) up)) r)))]) rfl (by decide) dX0_climbersWith_20 rfl ?_
  refine g_aload_n (pc := 22) 0 C0 rfl dX0_climbersWith_22 rfl ?_
  refine g_get (pc := 23) (v := .ref (ad 1)) C0 (C := RX0) (T := TX0) (N := 14) (ci := 1) (q0 := 0) (j := 0) 1 (xCode (by omega)) rfl rfl in_X0 (by decide) q184 rfl dX0_climbersWith_23 ?_
  refine g_getN (pc := 26) (v := .ref (ad 21)) C0 hN (C := RX2) (T := TX2) (N := 10) (ci := 3) (q0 := 1) (j := 1) 4 (xCode (by omega)) rfl rfl in_X2 (by decide) q148 rfl dX0_climbersWith_26 ?_
  refine g_iload_n (pc := 29) 1 C0 rfl dX0_climbersWith_29 rfl ?_
  refine g_aaldA (pc := 30) (q0 := 21) (j := 21) (t0 := 3) (N := 10) (jr := 32 + r) C0 r (xCode (by omega)) rfl rfl (by decide) (by omega) rfl dX0_climbersWith_30 ?_
  refine g_iload_n (pc := 31) 2 C0 rfl dX0_climbersWith_31 rfl ?_
  refine g_dup2 (pc := 32) C0 dX0_climbersWith_32 rfl rfl ?_
  refine g_ialdV (pc := 33) (q0 := (32 + r)) (j := (32 + r)) (t0 := 0) (N := 3) (v := (byN (τ 6 (3 * r + x)) up)) C0 x (xCode (by omega)) (fun f => xMk_row (by omega) f) rfl (by decide) (by omega) ((hβ.row hr (by omega)).trans ((stp_in (τ := upc τ 6 (3 * r + x) (byN (τ 6 (3 * r + x)) up)) (show x < τ 5 r from hx)).trans (upc_hit _ _ _ _))) dX0_climbersWith_33 ?_
  refine g_iload_n (pc := 34) 3 C0 rfl dX0_climbersWith_34 rfl ?_
  refine g_isubE (pc := 35) C0 (by_sub k8 up) dX0_climbersWith_35 ?_
  refine g_iast (pc := 36) (q0 := (32 + r)) (j := (32 + r)) (t0 := 0) (N := 3) C0 x (τ 6 (3 * r + x)) (xNd hβ.n10) (xCode (by omega)) (fun f => xMk_row (by omega) f) rfl (by decide) (by omega) dX0_climbersWith_36 ?_
  refine G.nmX (Φ := fun β => RX nS β τ) (wsf := fun β => xW dT ad nS β) (by have k := hβ.wR hr h3p (show x < τ 5 r from hx) (τ 6 (3 * r + x)); rw [upc_upc, upc_self] at k; exact k) (fun β hβ => ?_)
  refine g_iload (pc := 37) 4 C0 rfl dX0_climbersWith_37 ?_
  exact g_iret (pc := 39) C0 dX0_climbersWith_39 ⟨rfl, hβ⟩
set_option maxHeartbeats 4000000 in
set_option maxRecDepth 100000 in
theorem xX_step (l : Launch) (D : va_G) (dT : Nat → ClassId) (ad : Nat → Nat) (nS : Nat) (τ β : tT)  (r : Int32) (x : Int32) (y : Int32) (w : Int32) (hβ : RX nS β τ) (hw : wfT τ) (hp : wfP τ) : XI l D dT ad nS yX0_step cX0_step 8 .int ({ frames := 5, cells := 0, slots := 0, locals := 157 }) [.ref (ad 0), .int r, .int x, .int y, .int w] β (fun rr β' => rr = (pStep τ r x y w) ∧ RX nS β' τ) := by
  refine XI.ofG (own := "FittingStrides") (L := [some (.ref (ad 0)), some (.int r), some (.int x), some (.int y), some (.int w), none, none, none]) rfl (by decide) (Nat.le_of_ble_eq_true rfl) rfl ?_
  intro p' e' s' m' bl' mt' c' C0 hN
  have hn := hβ.n
  have hn10 := hβ.n10
  have hw1 := hw.1
  have hw0 := hw.2.1
  have hp0 := hp.1
  have hp1 := hp.2.1
  refine g_aload_n (pc := 0) 0 C0 rfl dX0_step_0 rfl ?_
  refine g_iload_n (pc := 1) 1 C0 rfl dX0_step_1 rfl ?_
  refine g_iload_n (pc := 2) 2 C0 rfl dX0_step_2 rfl ?_
  refine g_cviX (pc := 3) (na := 2) (As := [.int r, .int x]) (rest := []) C0 hN (xX_isPart l D dT ad nS τ β  r x hβ hw) (q0 := 0) (j := 0) (ci := 1) (C := RX0) (T := TX0) (N := 14) (xCode (by omega)) rfl rfl q810 q812 qs20 q57 q813 (by decide +kernel) ⟨Nat.le_of_ble_eq_true rfl, Nat.le_of_ble_eq_true rfl⟩ rfl rfl ⟨Nat.le_of_ble_eq_true rfl, Nat.le_of_ble_eq_true rfl⟩ rfl rfl (Nat.le_of_ble_eq_true rfl) dX0_step_3 (fun r β0 hc => ?_)
  obtain ⟨rfl, rfl⟩ := hc
  refine g_if_neB (pc := 6) 12 C0 dX0_step_6 (by decide) (fun h6 => ?_) (fun h6 => ?_)
  · simp only [pBuildOk, Bool.and_eq_true] at h6
    obtain ⟨hr1, hx1⟩ := h6
    obtain ⟨r1, rfl, r1h, r1b⟩ := ixB_t hr1
    obtain ⟨k1, k2, k3, k4, k5, k6, k7⟩ := hw.2.2 r1 r1h
    rw [nI_clamp r1b] at hx1
    obtain ⟨x1, rfl, x1h, x1b⟩ := ixB_t hx1
    have hpb : pBuildOk τ (nI r1) (nI x1) = true := by simp [pBuildOk, ixB_n r1b, ixB_n x1b, nI_clamp r1b, r1h, x1h]
    obtain ⟨k8, k9⟩ := k7 x1 x1h
    refine g_iload_n (pc := 12) 3 C0 rfl dX0_step_12 rfl ?_
    refine g_iconst (pc := 13) (v := (nI 1)) C0 dX0_step_13 (by decide) ?_
    refine g_icmp_eq (pc := 14) 22 C0 dX0_step_14 (by decide) (fun h14 => ?_) (fun h14 => ?_)
    · subst h14
      refine g_iconst (pc := 22) (v := (nI 1)) C0 dX0_step_22 (by decide) ?_
      refine g_goto (pc := 23) 27 C0 dX0_step_23 (by decide) ?_
      refine g_istore (pc := 27) 5 C0 (L1 := [some (.ref (ad 0)), some (.int (nI r1)), some (.int (nI x1)), some (.int (nI 1)), some (.int w), some (.int (nI 1)), none, none]) rfl (by decide) dX0_step_27 rfl ?_
      refine g_iload (pc := 29) 5 C0 rfl dX0_step_29 ?_
      refine g_if_eqN (pc := 31) 67 C0 (by omega) dX0_step_31 (by decide) (fun h31 => ?_) (fun h31 => ?_)
      · exact absurd h31 (by decide)
      refine g_iload (pc := 34) 4 C0 rfl dX0_step_34 ?_
      refine g_iconst (pc := 36) (v := (nI 0)) C0 dX0_step_36 (by decide) ?_
      refine g_iconst (pc := 37) (v := (nI 1)) C0 dX0_step_37 (by decide) ?_
      refine g_csi (pc := 38) (na := 3) (As := [.int w, .int (nI 0), .int (nI 1)]) (rest := []) C0 (xX_isIn l w (nI 0) (nI 1) ) q232 q233 q57 q234 (by decide +kernel) ⟨Nat.le_of_ble_eq_true rfl, Nat.le_of_ble_eq_true rfl⟩ rfl rfl ⟨Nat.le_of_ble_eq_true rfl, Nat.le_of_ble_eq_true rfl⟩ rfl rfl (Nat.le_of_ble_eq_true rfl) dX0_step_38 ?_
      refine g_if_eqB (pc := 41) 67 C0 dX0_step_41 (by decide) (fun h41 => ?_) (fun h41 => ?_)
      · rw [isInB_rg w (lo := 0) (hi := 1) (by decide) (by decide)] at h41
        refine g_ldc (pc := 67) (v := -1000000002) C0 q235 dX0_step_67 ?_
        exact g_iret (pc := 69) C0 dX0_step_69 ⟨by rw [pStep, if_pos hpb, nI_clamp r1b, nI_clamp x1b, if_neg (fun c => by rw [c.2.1] at h41; cases h41)]; rfl, hβ⟩
      · rw [isInB_rg w (lo := 0) (hi := 1) (by decide) (by decide)] at h41
        refine g_aload_n (pc := 44) 0 C0 rfl dX0_step_44 rfl ?_
        refine g_get (pc := 45) (v := .ref (ad 1)) C0 (C := RX0) (T := TX0) (N := 14) (ci := 1) (q0 := 0) (j := 0) 1 (xCode (by omega)) rfl rfl in_X0 (by decide) q184 rfl dX0_step_45 ?_
        refine g_getN (pc := 48) (v := .ref (ad 21)) C0 hN (C := RX2) (T := TX2) (N := 10) (ci := 3) (q0 := 1) (j := 1) 4 (xCode (by omega)) rfl rfl in_X2 (by decide) q148 rfl dX0_step_48 ?_
        refine g_iload_n (pc := 51) 1 C0 rfl dX0_step_51 rfl ?_
        refine g_aaldA (pc := 52) (q0 := 21) (j := 21) (t0 := 3) (N := 10) (jr := 32 + r1) C0 r1 (xCode (by omega)) rfl rfl (by decide) (by omega) rfl dX0_step_52 ?_
        refine g_iload_n (pc := 53) 2 C0 rfl dX0_step_53 rfl ?_
        refine g_ialdV (pc := 54) (q0 := (32 + r1)) (j := (32 + r1)) (t0 := 0) (N := 3) (v := (τ 6 (3 * r1 + x1))) C0 x1 (xCode (by omega)) (fun f => xMk_row (by omega) f) rfl (by decide) (by omega) ((hβ.row (by omega) (by omega)).trans (stp_in x1h)) dX0_step_54 ?_
        refine g_iload_n (pc := 55) 3 C0 rfl dX0_step_55 rfl ?_
        refine g_iaddN (pc := 56) C0 dX0_step_56 ?_
        refine g_iconst (pc := 57) (v := (nI 1)) C0 dX0_step_57 (by decide) ?_
        refine g_sipush (pc := 58) (v := (nI 720)) C0 dX0_step_58 (by decide) ?_
        refine g_csi (pc := 61) (na := 3) (As := [.int (nI ((τ 6 (3 * r1 + x1)) + 1)), .int (nI 1), .int (nI 720)]) (rest := []) C0 (xX_isIn l (nI ((τ 6 (3 * r1 + x1)) + 1)) (nI 1) (nI 720) ) q232 q233 q57 q234 (by decide +kernel) ⟨Nat.le_of_ble_eq_true rfl, Nat.le_of_ble_eq_true rfl⟩ rfl rfl ⟨Nat.le_of_ble_eq_true rfl, Nat.le_of_ble_eq_true rfl⟩ rfl rfl (Nat.le_of_ble_eq_true rfl) dX0_step_61 ?_
        refine g_if_neB (pc := 64) 70 C0 dX0_step_64 (by decide) (fun h64 => ?_) (fun h64 => ?_)
        · rw [isInB_n (by omega) (by decide) (by decide)] at h64
          have h65 := of_decide_eq_true h64
          refine g_aload_n (pc := 70) 0 C0 rfl dX0_step_70 rfl ?_
          refine g_iload_n (pc := 71) 1 C0 rfl dX0_step_71 rfl ?_
          refine g_iload_n (pc := 72) 2 C0 rfl dX0_step_72 rfl ?_
          refine g_iload_n (pc := 73) 3 C0 rfl dX0_step_73 rfl ?_
          refine g_cviX (pc := 74) (na := 3) (As := [.int (nI r1), .int (nI x1), .int (nI 1)]) (rest := []) C0 hN (xX_climbersWith l D dT ad nS τ β  r1 x1 true hβ hw hp (by omega) x1h (by show 1 ≤ byN _ _; simp only [byN]; simp; try omega) (by show byN _ _ ≤ 720; simp only [byN]; simp; omega)) (q0 := 0) (j := 0) (ci := 1) (C := RX0) (T := TX0) (N := 14) (xCode (by omega)) rfl rfl q895 q897 qs28 q57 q898 (by decide +kernel) ⟨Nat.le_of_ble_eq_true rfl, Nat.le_of_ble_eq_true rfl⟩ rfl rfl ⟨Nat.le_of_ble_eq_true rfl, Nat.le_of_ble_eq_true rfl⟩ rfl rfl (Nat.le_of_ble_eq_true rfl) dX0_step_74 (fun r β hc => ?_)
          obtain ⟨rfl, hβ⟩ := hc
          refine g_istore (pc := 77) 6 C0 (L1 := [some (.ref (ad 0)), some (.int (nI r1)), some (.int (nI x1)), some (.int (nI 1)), some (.int w), some (.int (nI 1)), some (.int (nI (climbW τ r1 x1 true))), none]) rfl (by decide) dX0_step_77 rfl ?_
          have hcl2 : climbW τ r1 x1 true < 256 := climbW_lt hp _ _ _
          have hcl1 := sClimb_lt hp r1
          refine g_aload_n (pc := 79) 0 C0 rfl dX0_step_79 rfl ?_
          refine g_iload_n (pc := 80) 1 C0 rfl dX0_step_80 rfl ?_
          refine g_cviX (pc := 81) (na := 1) (As := [.int (nI r1)]) (rest := []) C0 hN (xX_climbers l D dT ad nS τ β  r1 hβ hw hp (by omega)) (q0 := 0) (j := 0) (ci := 1) (C := RX0) (T := TX0) (N := 14) (xCode (by omega)) rfl rfl q721 q723 qs11 q57 q724 (by decide +kernel) ⟨Nat.le_of_ble_eq_true rfl, Nat.le_of_ble_eq_true rfl⟩ rfl rfl ⟨Nat.le_of_ble_eq_true rfl, Nat.le_of_ble_eq_true rfl⟩ rfl rfl (Nat.le_of_ble_eq_true rfl) dX0_step_81 (fun r β hc => ?_)
          obtain ⟨rfl, hβ⟩ := hc
          refine g_istore (pc := 84) 7 C0 (L1 := [some (.ref (ad 0)), some (.int (nI r1)), some (.int (nI x1)), some (.int (nI 1)), some (.int w), some (.int (nI 1)), some (.int (nI (climbW τ r1 x1 true))), some (.int (nI (sClimb τ r1)))]) rfl (by decide) dX0_step_84 rfl ?_
          refine g_iload (pc := 86) 4 C0 rfl dX0_step_86 ?_
          refine g_if_neX (pc := 88) 101 C0 dX0_step_88 (by decide) (fun h88 => ?_) (fun h88 => ?_)
          · refine g_iload (pc := 101) 7 C0 rfl dX0_step_101 ?_
            refine g_iload (pc := 103) 6 C0 rfl dX0_step_103 ?_
            refine g_iconst (pc := 105) (v := (-1)) C0 dX0_step_105 (by decide) ?_
            refine g_ixor (pc := 106) C0 dX0_step_106 ?_
            refine g_iandE (pc := 107) C0 (nd_N (by omega) (by omega)) dX0_step_107 ?_
            refine g_csi (pc := 108) (na := 1) (As := [.int (nI (ndS (sClimb τ r1) (climbW τ r1 x1 true)))]) (rest := []) C0 (xJ_bitCount l (ndS (sClimb τ r1) (climbW τ r1 x1 true)) (ndS_lt (by omega))) q885 q886 q78 q887 (by decide +kernel) ⟨Nat.le_of_ble_eq_true rfl, Nat.le_of_ble_eq_true rfl⟩ rfl rfl ⟨Nat.le_of_ble_eq_true rfl, Nat.le_of_ble_eq_true rfl⟩ rfl rfl (Nat.le_of_ble_eq_true rfl) dX0_step_108 ?_
            exact g_iret (pc := 111) C0 dX0_step_111 ⟨by rw [pStep, if_pos hpb, nI_clamp r1b, nI_clamp x1b, if_pos ⟨Or.inl rfl, h41, fun _ => by omega, fun h => absurd h (by decide)⟩, decide_eq_true (rfl : nI 1 = nI 1), stepV, if_neg h88], hβ⟩
          · refine g_iload (pc := 91) 6 C0 rfl dX0_step_91 ?_
            refine g_iload (pc := 93) 7 C0 rfl dX0_step_93 ?_
            refine g_iconst (pc := 95) (v := (-1)) C0 dX0_step_95 (by decide) ?_
            refine g_ixor (pc := 96) C0 dX0_step_96 ?_
            refine g_iandE (pc := 97) C0 (nd_N (by omega) (by omega)) dX0_step_97 ?_
            refine g_goto (pc := 98) 108 C0 dX0_step_98 (by decide) ?_
            refine g_csi (pc := 108) (na := 1) (As := [.int (nI (ndS (climbW τ r1 x1 true) (sClimb τ r1)))]) (rest := []) C0 (xJ_bitCount l (ndS (climbW τ r1 x1 true) (sClimb τ r1)) (ndS_lt (by omega))) q885 q886 q78 q887 (by decide +kernel) ⟨Nat.le_of_ble_eq_true rfl, Nat.le_of_ble_eq_true rfl⟩ rfl rfl ⟨Nat.le_of_ble_eq_true rfl, Nat.le_of_ble_eq_true rfl⟩ rfl rfl (Nat.le_of_ble_eq_true rfl) dX0_step_108 ?_
            exact g_iret (pc := 111) C0 dX0_step_111 ⟨by rw [pStep, if_pos hpb, nI_clamp r1b, nI_clamp x1b, if_pos ⟨Or.inl rfl, h41, fun _ => by omega, fun h => absurd h (by decide)⟩, decide_eq_true (rfl : nI 1 = nI 1), stepV, if_pos h88], hβ⟩
        · rw [isInB_n (by omega) (by decide) (by decide)] at h64
          refine g_ldc (pc := 67) (v := -1000000002) C0 q235 dX0_step_67 ?_
          exact g_iret (pc := 69) C0 dX0_step_69 ⟨by rw [pStep, if_pos hpb, nI_clamp r1b, nI_clamp x1b, if_neg (fun c => by have q1 := of_decide_eq_false h64; have q2 := c.2.2.1 rfl; omega)]; rfl, hβ⟩
    · refine g_iload_n (pc := 17) 3 C0 rfl dX0_step_17 rfl ?_
      refine g_iconst (pc := 18) (v := (-1)) C0 dX0_step_18 (by decide) ?_
      refine g_icmp_ne (pc := 19) 26 C0 dX0_step_19 (by decide) (fun h19 => ?_) (fun h19 => ?_)
      · refine g_iconst (pc := 26) (v := (nI 0)) C0 dX0_step_26 (by decide) ?_
        refine g_istore (pc := 27) 5 C0 (L1 := [some (.ref (ad 0)), some (.int (nI r1)), some (.int (nI x1)), some (.int y), some (.int w), some (.int (nI 0)), none, none]) rfl (by decide) dX0_step_27 rfl ?_
        refine g_iload (pc := 29) 5 C0 rfl dX0_step_29 ?_
        refine g_if_eqN (pc := 31) 67 C0 (by omega) dX0_step_31 (by decide) (fun h31 => ?_) (fun h31 => ?_)
        rotate_left
        · exact absurd h31 (by decide)
        refine g_ldc (pc := 67) (v := -1000000002) C0 q235 dX0_step_67 ?_
        exact g_iret (pc := 69) C0 dX0_step_69 ⟨by rw [pStep, if_pos hpb, nI_clamp r1b, nI_clamp x1b, if_neg (fun c => c.1.elim h14 h19)]; rfl, hβ⟩
      · subst h19
        refine g_iconst (pc := 22) (v := (nI 1)) C0 dX0_step_22 (by decide) ?_
        refine g_goto (pc := 23) 27 C0 dX0_step_23 (by decide) ?_
        refine g_istore (pc := 27) 5 C0 (L1 := [some (.ref (ad 0)), some (.int (nI r1)), some (.int (nI x1)), some (.int (-1)), some (.int w), some (.int (nI 1)), none, none]) rfl (by decide) dX0_step_27 rfl ?_
        refine g_iload (pc := 29) 5 C0 rfl dX0_step_29 ?_
        refine g_if_eqN (pc := 31) 67 C0 (by omega) dX0_step_31 (by decide) (fun h31 => ?_) (fun h31 => ?_)
        · exact absurd h31 (by decide)
        refine g_iload (pc := 34) 4 C0 rfl dX0_step_34 ?_
        refine g_iconst (pc := 36) (v := (nI 0)) C0 dX0_step_36 (by decide) ?_
        refine g_iconst (pc := 37) (v := (nI 1)) C0 dX0_step_37 (by decide) ?_
        refine g_csi (pc := 38) (na := 3) (As := [.int w, .int (nI 0), .int (nI 1)]) (rest := []) C0 (xX_isIn l w (nI 0) (nI 1) ) q232 q233 q57 q234 (by decide +kernel) ⟨Nat.le_of_ble_eq_true rfl, Nat.le_of_ble_eq_true rfl⟩ rfl rfl ⟨Nat.le_of_ble_eq_true rfl, Nat.le_of_ble_eq_true rfl⟩ rfl rfl (Nat.le_of_ble_eq_true rfl) dX0_step_38 ?_
        refine g_if_eqB (pc := 41) 67 C0 dX0_step_41 (by decide) (fun h41 => ?_) (fun h41 => ?_)
        · rw [isInB_rg w (lo := 0) (hi := 1) (by decide) (by decide)] at h41
          refine g_ldc (pc := 67) (v := -1000000002) C0 q235 dX0_step_67 ?_
          exact g_iret (pc := 69) C0 dX0_step_69 ⟨by rw [pStep, if_pos hpb, nI_clamp r1b, nI_clamp x1b, if_neg (fun c => by rw [c.2.1] at h41; cases h41)]; rfl, hβ⟩
        · rw [isInB_rg w (lo := 0) (hi := 1) (by decide) (by decide)] at h41
          refine g_aload_n (pc := 44) 0 C0 rfl dX0_step_44 rfl ?_
          refine g_get (pc := 45) (v := .ref (ad 1)) C0 (C := RX0) (T := TX0) (N := 14) (ci := 1) (q0 := 0) (j := 0) 1 (xCode (by omega)) rfl rfl in_X0 (by decide) q184 rfl dX0_step_45 ?_
          refine g_getN (pc := 48) (v := .ref (ad 21)) C0 hN (C := RX2) (T := TX2) (N := 10) (ci := 3) (q0 := 1) (j := 1) 4 (xCode (by omega)) rfl rfl in_X2 (by decide) q148 rfl dX0_step_48 ?_
          refine g_iload_n (pc := 51) 1 C0 rfl dX0_step_51 rfl ?_
          refine g_aaldA (pc := 52) (q0 := 21) (j := 21) (t0 := 3) (N := 10) (jr := 32 + r1) C0 r1 (xCode (by omega)) rfl rfl (by decide) (by omega) rfl dX0_step_52 ?_
          refine g_iload_n (pc := 53) 2 C0 rfl dX0_step_53 rfl ?_
          refine g_ialdV (pc := 54) (q0 := (32 + r1)) (j := (32 + r1)) (t0 := 0) (N := 3) (v := (τ 6 (3 * r1 + x1))) C0 x1 (xCode (by omega)) (fun f => xMk_row (by omega) f) rfl (by decide) (by omega) ((hβ.row (by omega) (by omega)).trans (stp_in x1h)) dX0_step_54 ?_
          refine g_iload_n (pc := 55) 3 C0 rfl dX0_step_55 rfl ?_
          refine g_iaddE (pc := 56) C0 (sb_m1 (by omega)) dX0_step_56 ?_
          refine g_iconst (pc := 57) (v := (nI 1)) C0 dX0_step_57 (by decide) ?_
          refine g_sipush (pc := 58) (v := (nI 720)) C0 dX0_step_58 (by decide) ?_
          refine g_csi (pc := 61) (na := 3) (As := [.int (nI ((τ 6 (3 * r1 + x1)) - 1)), .int (nI 1), .int (nI 720)]) (rest := []) C0 (xX_isIn l (nI ((τ 6 (3 * r1 + x1)) - 1)) (nI 1) (nI 720) ) q232 q233 q57 q234 (by decide +kernel) ⟨Nat.le_of_ble_eq_true rfl, Nat.le_of_ble_eq_true rfl⟩ rfl rfl ⟨Nat.le_of_ble_eq_true rfl, Nat.le_of_ble_eq_true rfl⟩ rfl rfl (Nat.le_of_ble_eq_true rfl) dX0_step_61 ?_
          refine g_if_neB (pc := 64) 70 C0 dX0_step_64 (by decide) (fun h64 => ?_) (fun h64 => ?_)
          · rw [isInB_n (by omega) (by decide) (by decide)] at h64
            have h65 := of_decide_eq_true h64
            refine g_aload_n (pc := 70) 0 C0 rfl dX0_step_70 rfl ?_
            refine g_iload_n (pc := 71) 1 C0 rfl dX0_step_71 rfl ?_
            refine g_iload_n (pc := 72) 2 C0 rfl dX0_step_72 rfl ?_
            refine g_iload_n (pc := 73) 3 C0 rfl dX0_step_73 rfl ?_
            refine g_cviX (pc := 74) (na := 3) (As := [.int (nI r1), .int (nI x1), .int (-1)]) (rest := []) C0 hN (xX_climbersWith l D dT ad nS τ β  r1 x1 false hβ hw hp (by omega) x1h (by show 1 ≤ byN _ _; simp only [byN]; simp; try omega) (by show byN _ _ ≤ 720; simp only [byN]; simp; omega)) (q0 := 0) (j := 0) (ci := 1) (C := RX0) (T := TX0) (N := 14) (xCode (by omega)) rfl rfl q895 q897 qs28 q57 q898 (by decide +kernel) ⟨Nat.le_of_ble_eq_true rfl, Nat.le_of_ble_eq_true rfl⟩ rfl rfl ⟨Nat.le_of_ble_eq_true rfl, Nat.le_of_ble_eq_true rfl⟩ rfl rfl (Nat.le_of_ble_eq_true rfl) dX0_step_74 (fun r β hc => ?_)
            obtain ⟨rfl, hβ⟩ := hc
            refine g_istore (pc := 77) 6 C0 (L1 := [some (.ref (ad 0)), some (.int (nI r1)), some (.int (nI x1)), some (.int (-1)), some (.int w), some (.int (nI 1)), some (.int (nI (climbW τ r1 x1 false))), none]) rfl (by decide) dX0_step_77 rfl ?_
            have hcl2 : climbW τ r1 x1 false < 256 := climbW_lt hp _ _ _
            have hcl1 := sClimb_lt hp r1
            refine g_aload_n (pc := 79) 0 C0 rfl dX0_step_79 rfl ?_
            refine g_iload_n (pc := 80) 1 C0 rfl dX0_step_80 rfl ?_
            refine g_cviX (pc := 81) (na := 1) (As := [.int (nI r1)]) (rest := []) C0 hN (xX_climbers l D dT ad nS τ β  r1 hβ hw hp (by omega)) (q0 := 0) (j := 0) (ci := 1) (C := RX0) (T := TX0) (N := 14) (xCode (by omega)) rfl rfl q721 q723 qs11 q57 q724 (by decide +kernel) ⟨Nat.le_of_ble_eq_true rfl, Nat.le_of_ble_eq_true rfl⟩ rfl rfl ⟨Nat.le_of_ble_eq_true rfl, Nat.le_of_ble_eq_true rfl⟩ rfl rfl (Nat.le_of_ble_eq_true rfl) dX0_step_81 (fun r β hc => ?_)
            obtain ⟨rfl, hβ⟩ := hc
            refine g_istore (pc := 84) 7 C0 (L1 := [some (.ref (ad 0)), some (.int (nI r1)), some (.int (nI x1)), some (.int (-1)), some (.int w), some (.int (nI 1)), some (.int (nI (climbW τ r1 x1 false))), some (.int (nI (sClimb τ r1)))]) rfl (by decide) dX0_step_84 rfl ?_
            refine g_iload (pc := 86) 4 C0 rfl dX0_step_86 ?_
            refine g_if_neX (pc := 88) 101 C0 dX0_step_88 (by decide) (fun h88 => ?_) (fun h88 => ?_)
            · refine g_iload (pc := 101) 7 C0 rfl dX0_step_101 ?_
              refine g_iload (pc := 103) 6 C0 rfl dX0_step_103 ?_
              refine g_iconst (pc := 105) (v := (-1)) C0 dX0_step_105 (by decide) ?_
              refine g_ixor (pc := 106) C0 dX0_step_106 ?_
              refine g_iandE (pc := 107) C0 (nd_N (by omega) (by omega)) dX0_step_107 ?_
              refine g_csi (pc := 108) (na := 1) (As := [.int (nI (ndS (sClimb τ r1) (climbW τ r1 x1 false)))]) (rest := []) C0 (xJ_bitCount l (ndS (sClimb τ r1) (climbW τ r1 x1 false)) (ndS_lt (by omega))) q885 q886 q78 q887 (by decide +kernel) ⟨Nat.le_of_ble_eq_true rfl, Nat.le_of_ble_eq_true rfl⟩ rfl rfl ⟨Nat.le_of_ble_eq_true rfl, Nat.le_of_ble_eq_true rfl⟩ rfl rfl (Nat.le_of_ble_eq_true rfl) dX0_step_108 ?_
              exact g_iret (pc := 111) C0 dX0_step_111 ⟨by rw [pStep, if_pos hpb, nI_clamp r1b, nI_clamp x1b, if_pos ⟨Or.inr rfl, h41, fun h => absurd h (by decide), fun _ => by omega⟩, decide_eq_false (show ¬ (-1 : Int32) = nI 1 by decide), stepV, if_neg h88], hβ⟩
            · refine g_iload (pc := 91) 6 C0 rfl dX0_step_91 ?_
              refine g_iload (pc := 93) 7 C0 rfl dX0_step_93 ?_
              refine g_iconst (pc := 95) (v := (-1)) C0 dX0_step_95 (by decide) ?_
              refine g_ixor (pc := 96) C0 dX0_step_96 ?_
              refine g_iandE (pc := 97) C0 (nd_N (by omega) (by omega)) dX0_step_97 ?_
              refine g_goto (pc := 98) 108 C0 dX0_step_98 (by decide) ?_
              refine g_csi (pc := 108) (na := 1) (As := [.int (nI (ndS (climbW τ r1 x1 false) (sClimb τ r1)))]) (rest := []) C0 (xJ_bitCount l (ndS (climbW τ r1 x1 false) (sClimb τ r1)) (ndS_lt (by omega))) q885 q886 q78 q887 (by decide +kernel) ⟨Nat.le_of_ble_eq_true rfl, Nat.le_of_ble_eq_true rfl⟩ rfl rfl ⟨Nat.le_of_ble_eq_true rfl, Nat.le_of_ble_eq_true rfl⟩ rfl rfl (Nat.le_of_ble_eq_true rfl) dX0_step_108 ?_
              exact g_iret (pc := 111) C0 dX0_step_111 ⟨by rw [pStep, if_pos hpb, nI_clamp r1b, nI_clamp x1b, if_pos ⟨Or.inr rfl, h41, fun h => absurd h (by decide), fun _ => by omega⟩, decide_eq_false (show ¬ (-1 : Int32) = nI 1 by decide), stepV, if_pos h88], hβ⟩
          · rw [isInB_n (by omega) (by decide) (by decide)] at h64
            refine g_ldc (pc := 67) (v := -1000000002) C0 q235 dX0_step_67 ?_
            exact g_iret (pc := 69) C0 dX0_step_69 ⟨by rw [pStep, if_pos hpb, nI_clamp r1b, nI_clamp x1b, if_neg (fun c => by have q1 := of_decide_eq_false h64; have q2 := c.2.2.2 rfl; omega)]; rfl, hβ⟩
  · refine g_ldc (pc := 9) (v := -1000000001) C0 q704 dX0_step_9 ?_
    exact g_iret (pc := 11) C0 dX0_step_11 ⟨by simp [pStep, h6]; rfl, hβ⟩
set_option maxHeartbeats 4000000 in
set_option maxRecDepth 100000 in
theorem xX_worst (l : Launch) (D : va_G) (dT : Nat → ClassId) (ad : Nat → Nat) (nS : Nat) (τ β : tT)  (w : Int32) (hβ : RX nS β τ) (hw : wfT τ) (hp : wfP τ) : XI l D dT ad nS yX0_worst cX0_worst 8 .int ({ frames := 5, cells := 0, slots := 0, locals := 157 }) [.ref (ad 0), .int w] β (fun rr β' => rr = (pWorst τ w) ∧ RX nS β' τ) := by
  refine XI.ofG (own := "FittingStrides") (L := [some (.ref (ad 0)), some (.int w), none, none, none, none, none, none]) rfl (by decide) (Nat.le_of_ble_eq_true rfl) rfl ?_
  intro p' e' s' m' bl' mt' c' C0 hN
  have hn := hβ.n
  have hn10 := hβ.n10
  have hw1 := hw.1
  have hw0 := hw.2.1
  have hp0 := hp.1
  have hp1 := hp.2.1
  obtain ⟨hz1, hz2⟩ := wrS_ok hw (τ 0 1) (Nat.le_refl _)
  refine g_iload_n (pc := 0) 1 C0 rfl dX0_worst_0 rfl ?_
  refine g_iconst (pc := 1) (v := (nI 0)) C0 dX0_worst_1 (by decide) ?_
  refine g_iconst (pc := 2) (v := (nI 2)) C0 dX0_worst_2 (by decide) ?_
  refine g_csi (pc := 3) (na := 3) (As := [.int w, .int (nI 0), .int (nI 2)]) (rest := []) C0 (xX_isIn l w (nI 0) (nI 2) ) q232 q233 q57 q234 (by decide +kernel) ⟨Nat.le_of_ble_eq_true rfl, Nat.le_of_ble_eq_true rfl⟩ rfl rfl ⟨Nat.le_of_ble_eq_true rfl, Nat.le_of_ble_eq_true rfl⟩ rfl rfl (Nat.le_of_ble_eq_true rfl) dX0_worst_3 ?_
  refine g_if_neB (pc := 6) 12 C0 dX0_worst_6 (by decide) (fun h6 => ?_) (fun h6 => ?_)
  · rw [isInB_rg w (lo := 0) (hi := 2) (by decide) (by decide)] at h6
    refine g_iconst (pc := 12) (v := (-1)) C0 dX0_worst_12 (by decide) ?_
    refine g_istore_n (pc := 13) 2 C0 (L1 := [some (.ref (ad 0)), some (.int w), some (.int (-1)), none, none, none, none, none]) rfl (by decide) dX0_worst_13 rfl rfl ?_
    refine g_iconst (pc := 14) (v := (-1)) C0 dX0_worst_14 (by decide) ?_
    refine g_istore_n (pc := 15) 3 C0 (L1 := [some (.ref (ad 0)), some (.int w), some (.int (-1)), some (.int (-1)), none, none, none, none]) rfl (by decide) dX0_worst_15 rfl rfl ?_
    refine g_iconst (pc := 16) (v := (nI 0)) C0 dX0_worst_16 (by decide) ?_
    refine g_istore (pc := 17) 4 C0 (L1 := [some (.ref (ad 0)), some (.int w), some (.int (-1)), some (.int (-1)), some (.int (nI 0)), none, none, none]) rfl (by decide) dX0_worst_17 rfl ?_
    refine g_iconst (pc := 19) (v := (nI 0)) C0 dX0_worst_19 (by decide) ?_
    refine g_istore (pc := 20) 5 C0 (L1 := [some (.ref (ad 0)), some (.int w), some (.int (-1)), some (.int (-1)), some (.int (nI 0)), some (.int (nI 0)), none, none]) rfl (by decide) dX0_worst_20 rfl ?_
    refine G.loopX (pc := 22) (Φ := fun i β => RX nS β τ) (wsf := fun β => xW dT ad nS β) (Lf := fun i => [some (.ref (ad 0)), some (.int w), some (.int (oI (oD (wrS τ i).1))), some (.int (oI (oM (wrS τ i).1))), some (.int (nI ((wrS τ i).2))), some (.int (nI i)), none, none]) (N := τ 0 1) (i0 := 0) β hβ (Nat.zero_le _) (fun β hβ => ?_) (fun i22 β hi22 hj22 hβ ih22 => ?_)
    · refine g_iload (pc := 22) 5 C0 rfl dX0_worst_22 ?_
      refine g_aload_n (pc := 24) 0 C0 rfl dX0_worst_24 rfl ?_
      refine g_get (pc := 25) (v := .ref (ad 4)) C0 (C := RX0) (T := TX0) (N := 14) (ci := 1) (q0 := 0) (j := 0) 0 (xCode (by omega)) rfl rfl in_X0 (by decide) q183 rfl dX0_worst_25 ?_
      refine g_getN (pc := 28) (v := .int (nI (τ 0 1))) C0 hN (C := RX1) (T := TX1) (N := 7) (ci := 2) (q0 := 4) (j := 4) 2 (xCode (by omega)) rfl rfl in_X1 (by decide) q103 (xv hβ.f4_2) dX0_worst_28 ?_
      refine g_icmp_geN (pc := 31) 128 C0 (by omega) (by omega) dX0_worst_31 (by decide) (fun h31 => ?_) (fun h31 => ?_)
      rotate_left
      · exact absurd h31 (by omega)
      refine g_iload_n (pc := 128) 2 C0 rfl dX0_worst_128 rfl ?_
      refine g_iconst (pc := 129) (v := (-1)) C0 dX0_worst_129 (by decide) ?_
      refine g_icmp_ne (pc := 130) 137 C0 dX0_worst_130 (by decide) (fun h130 => ?_) (fun h130 => ?_)
      · obtain ⟨bb, hbb⟩ : ∃ b, (wrS τ (τ 0 1)).1 = some b := by cases hq : (wrS τ (τ 0 1)).1 with | none => exact absurd (by rw [hq]; rfl) h130 | some b => exact ⟨b, rfl⟩
        have hb3 := hz2 bb hbb
        refine G.lE (L' := [some (.ref (ad 0)), some (.int w), some (.int (nI (bb / 3))), some (.int (nI (bb % 3))), some (.int (nI ((wrS τ (τ 0 1)).2))), some (.int (nI (τ 0 1))), none, none]) (by rw [hbb]; rfl) ?_
        refine g_iload_n (pc := 137) 1 C0 rfl dX0_worst_137 rfl ?_
        refine g_if_neX (pc := 138) 145 C0 dX0_worst_138 (by decide) (fun h138 => ?_) (fun h138 => ?_)
        · refine g_iload_n (pc := 145) 1 C0 rfl dX0_worst_145 rfl ?_
          refine g_iconst (pc := 146) (v := (nI 1)) C0 dX0_worst_146 (by decide) ?_
          refine g_icmp_ne (pc := 147) 154 C0 dX0_worst_147 (by decide) (fun h147 => ?_) (fun h147 => ?_)
          · refine g_iload (pc := 154) 4 C0 rfl dX0_worst_154 ?_
            exact g_iret (pc := 156) C0 dX0_worst_156 ⟨by rw [pWorst, if_pos h6, if_neg (by rw [hbb]; simp), if_neg h138, if_neg h147], hβ⟩
          · refine g_iload_n (pc := 150) 3 C0 rfl dX0_worst_150 rfl ?_
            refine g_goto (pc := 151) 156 C0 dX0_worst_151 (by decide) ?_
            exact g_iret (pc := 156) C0 dX0_worst_156 ⟨by rw [pWorst, if_pos h6, if_neg (by rw [hbb]; simp), if_neg h138, if_pos h147]; rw [hbb]; rfl, hβ⟩
        · refine g_iload_n (pc := 141) 2 C0 rfl dX0_worst_141 rfl ?_
          refine g_goto (pc := 142) 156 C0 dX0_worst_142 (by decide) ?_
          exact g_iret (pc := 156) C0 dX0_worst_156 ⟨by rw [pWorst, if_pos h6, if_neg (by rw [hbb]; simp), if_pos h138]; rw [hbb]; rfl, hβ⟩
      · refine g_iconst (pc := 133) (v := (-1)) C0 dX0_worst_133 (by decide) ?_
        refine g_goto (pc := 134) 156 C0 dX0_worst_134 (by decide) ?_
        exact g_iret (pc := 156) C0 dX0_worst_156 ⟨by rw [pWorst, if_pos h6, if_pos (by have k := oI_m1 h130 (oD_some hz2); cases hq : (wrS τ (τ 0 1)).1 with | none => rfl | some b => rw [hq] at k; cases k)], hβ⟩
    · obtain ⟨k1, k2, k3, k4, k5, k6, k7⟩ := hw.2.2 i22 hi22
      refine g_iload (pc := 22) 5 C0 rfl dX0_worst_22 ?_
      refine g_aload_n (pc := 24) 0 C0 rfl dX0_worst_24 rfl ?_
      refine g_get (pc := 25) (v := .ref (ad 4)) C0 (C := RX0) (T := TX0) (N := 14) (ci := 1) (q0 := 0) (j := 0) 0 (xCode (by omega)) rfl rfl in_X0 (by decide) q183 rfl dX0_worst_25 ?_
      refine g_getN (pc := 28) (v := .int (nI (τ 0 1))) C0 hN (C := RX1) (T := TX1) (N := 7) (ci := 2) (q0 := 4) (j := 4) 2 (xCode (by omega)) rfl rfl in_X1 (by decide) q103 (xv hβ.f4_2) dX0_worst_28 ?_
      refine g_icmp_geN (pc := 31) 128 C0 (by omega) (by omega) dX0_worst_31 (by decide) (fun h31 => ?_) (fun h31 => ?_)
      · exact absurd h31 (by omega)
      refine g_iconst (pc := 34) (v := (nI 0)) C0 dX0_worst_34 (by decide) ?_
      refine g_istore (pc := 35) 6 C0 (L1 := [some (.ref (ad 0)), some (.int w), some (.int (oI (oD (wrS τ i22).1))), some (.int (oI (oM (wrS τ i22).1))), some (.int (nI ((wrS τ i22).2))), some (.int (nI i22)), some (.int (nI 0)), none]) rfl (by decide) dX0_worst_35 rfl ?_
      refine G.loopX (pc := 37) (Φ := fun i β => RX nS β τ) (wsf := fun β => xW dT ad nS β) (Lf := fun i => [some (.ref (ad 0)), some (.int w), some (.int (oI (oD (wrI τ i22 (wrS τ i22) i).1))), some (.int (oI (oM (wrI τ i22 (wrS τ i22) i).1))), some (.int (nI ((wrI τ i22 (wrS τ i22) i).2))), some (.int (nI i22)), some (.int (nI i)), none]) (N := τ 5 i22) (i0 := 0) β hβ (Nat.zero_le _) (fun β hβ => ?_) (fun i37 β hi37 hj37 hβ ih37 => ?_)
      · refine g_iload (pc := 37) 6 C0 rfl dX0_worst_37 ?_
        refine g_aload_n (pc := 39) 0 C0 rfl dX0_worst_39 rfl ?_
        refine g_get (pc := 40) (v := .ref (ad 4)) C0 (C := RX0) (T := TX0) (N := 14) (ci := 1) (q0 := 0) (j := 0) 0 (xCode (by omega)) rfl rfl in_X0 (by decide) q183 rfl dX0_worst_40 ?_
        refine g_getN (pc := 43) (v := .ref (ad 17)) C0 hN (C := RX1) (T := TX1) (N := 7) (ci := 2) (q0 := 4) (j := 4) 1 (xCode (by omega)) rfl rfl in_X1 (by decide) q100 rfl dX0_worst_43 ?_
        refine g_iload (pc := 46) 5 C0 rfl dX0_worst_46 ?_
        refine g_aald (pc := 48) (q0 := 17) (j := 17) (t0 := 5) (N := 10) (jr := 90 + 2 * i22) C0 i22 (xCode (by omega)) rfl rfl (by decide) (by omega) (xst_f (by omega)) dX0_worst_48 ?_
        refine xs_get (pc := 49) (r := i22) (v := .int (nI (τ 5 i22))) C0 hβ (by omega) (hw.2.2 i22 (by omega)).1 3 (by decide) q640 rfl dX0_worst_49 ?_
        refine g_icmp_geN (pc := 52) 122 C0 (by omega) (by omega) dX0_worst_52 (by decide) (fun h52 => ?_) (fun h52 => ?_)
        rotate_left
        · exact absurd h52 (by omega)
        refine g_iinc1 (pc := 122) 5 C0 (L1 := [some (.ref (ad 0)), some (.int w), some (.int (oI (oD (wrI τ i22 (wrS τ i22) (τ 5 i22)).1))), some (.int (oI (oM (wrI τ i22 (wrS τ i22) (τ 5 i22)).1))), some (.int (nI ((wrI τ i22 (wrS τ i22) (τ 5 i22)).2))), some (.int (nI (i22 + 1))), some (.int (nI (τ 5 i22))), none]) rfl rfl (by decide) dX0_worst_122 rfl ?_
        refine g_goto (pc := 125) 22 C0 dX0_worst_125 (by decide) ?_
        refine G.forget 6 ?_
        exact ih22 β hβ
      · obtain ⟨k8, k9⟩ := k7 i37 hi37
        obtain ⟨y1, y2⟩ := wrI_ok hw hi22 (wrS_ok hw i22 (by omega)) i37 (by omega)
        have hcl2 : climbW τ i22 i37 false < 256 := climbW_lt hp _ _ _
        have hcl1 := sClimb_lt hp i22
        refine g_iload (pc := 37) 6 C0 rfl dX0_worst_37 ?_
        refine g_aload_n (pc := 39) 0 C0 rfl dX0_worst_39 rfl ?_
        refine g_get (pc := 40) (v := .ref (ad 4)) C0 (C := RX0) (T := TX0) (N := 14) (ci := 1) (q0 := 0) (j := 0) 0 (xCode (by omega)) rfl rfl in_X0 (by decide) q183 rfl dX0_worst_40 ?_
        refine g_getN (pc := 43) (v := .ref (ad 17)) C0 hN (C := RX1) (T := TX1) (N := 7) (ci := 2) (q0 := 4) (j := 4) 1 (xCode (by omega)) rfl rfl in_X1 (by decide) q100 rfl dX0_worst_43 ?_
        refine g_iload (pc := 46) 5 C0 rfl dX0_worst_46 ?_
        refine g_aald (pc := 48) (q0 := 17) (j := 17) (t0 := 5) (N := 10) (jr := 90 + 2 * i22) C0 i22 (xCode (by omega)) rfl rfl (by decide) (by omega) (xst_f (by omega)) dX0_worst_48 ?_
        refine xs_get (pc := 49) (r := i22) (v := .int (nI (τ 5 i22))) C0 hβ (by omega) (hw.2.2 i22 (by omega)).1 3 (by decide) q640 rfl dX0_worst_49 ?_
        refine g_icmp_geN (pc := 52) 122 C0 (by omega) (by omega) dX0_worst_52 (by decide) (fun h52 => ?_) (fun h52 => ?_)
        · exact absurd h52 (by omega)
        refine G.joinX (Φ := fun β => RX nS β τ) (wsf := fun β => xW dT ad nS β) (pcJ := 97) (LJ := [some (.ref (ad 0)), some (.int w), some (.int (oI (oD (wrI τ i22 (wrS τ i22) i37).1))), some (.int (oI (oM (wrI τ i22 (wrS τ i22) i37).1))), some (.int (nI ((wrI τ i22 (wrS τ i22) i37).2))), some (.int (nI i22)), some (.int (nI i37)), none]) (stJ := []) (nI (wrsW τ i22 i37)) (fun β hβ => ?_) (fun J97 => ?_)
        · refine g_istore (pc := 97) 7 C0 (L1 := [some (.ref (ad 0)), some (.int w), some (.int (oI (oD (wrI τ i22 (wrS τ i22) i37).1))), some (.int (oI (oM (wrI τ i22 (wrS τ i22) i37).1))), some (.int (nI ((wrI τ i22 (wrS τ i22) i37).2))), some (.int (nI i22)), some (.int (nI i37)), some (.int (nI (wrsW τ i22 i37)))]) rfl (by decide) dX0_worst_97 rfl ?_
          obtain ⟨v7, ev7⟩ : ∃ z, z = (wrsW τ i22 i37) := ⟨_, rfl⟩
          have hv7 : v7 ≤ 24 := by rw [ev7]; exact wrsW_le _ _ _
          refine G.lE (L' := [some (.ref (ad 0)), some (.int w), some (.int (oI (oD (wrI τ i22 (wrS τ i22) i37).1))), some (.int (oI (oM (wrI τ i22 (wrS τ i22) i37).1))), some (.int (nI ((wrI τ i22 (wrS τ i22) i37).2))), some (.int (nI i22)), some (.int (nI i37)), some (.int (nI v7))]) (by rw [ev7]) ?_
          refine G.meetX (Φ := fun β => RX nS β τ) (wsf := fun β => xW dT ad nS β) (pcJ := 116) (LJ := [some (.ref (ad 0)), some (.int w), some (.int (oI (oD (wrI τ i22 (wrS τ i22) (i37 + 1)).1))), some (.int (oI (oM (wrI τ i22 (wrS τ i22) (i37 + 1)).1))), some (.int (nI ((wrI τ i22 (wrS τ i22) (i37 + 1)).2))), some (.int (nI i22)), some (.int (nI i37)), none]) (stJ := []) (fun β hβ => ?_) (fun J116 => ?_)
          · refine g_iinc1 (pc := 116) 6 C0 (L1 := [some (.ref (ad 0)), some (.int w), some (.int (oI (oD (wrI τ i22 (wrS τ i22) (i37 + 1)).1))), some (.int (oI (oM (wrI τ i22 (wrS τ i22) (i37 + 1)).1))), some (.int (nI ((wrI τ i22 (wrS τ i22) (i37 + 1)).2))), some (.int (nI i22)), some (.int (nI (i37 + 1))), none]) rfl rfl (by decide) dX0_worst_116 rfl ?_
            refine g_goto (pc := 119) 37 C0 dX0_worst_119 (by decide) ?_
            subst ev7
            exact ih37 β hβ
          · refine g_iload (pc := 99) 7 C0 rfl dX0_worst_99 ?_
            refine g_iload (pc := 101) 4 C0 rfl dX0_worst_101 ?_
            refine g_icmp_leN (pc := 103) 116 C0 (by omega) (by omega) dX0_worst_103 (by decide) (fun h103 => ?_) (fun h103 => ?_)
            · refine G.forget 7 ?_
              exact G.lE (by rw [wrI_s, wrF, ← ev7, if_neg (by omega)]; rfl) (J116 β hβ)
            · refine g_iload (pc := 106) 5 C0 rfl dX0_worst_106 ?_
              refine g_istore_n (pc := 108) 2 C0 (L1 := [some (.ref (ad 0)), some (.int w), some (.int (nI i22)), some (.int (oI (oM (wrI τ i22 (wrS τ i22) i37).1))), some (.int (nI ((wrI τ i22 (wrS τ i22) i37).2))), some (.int (nI i22)), some (.int (nI i37)), some (.int (nI v7))]) rfl (by decide) dX0_worst_108 rfl rfl ?_
              refine g_iload (pc := 109) 6 C0 rfl dX0_worst_109 ?_
              refine g_istore_n (pc := 111) 3 C0 (L1 := [some (.ref (ad 0)), some (.int w), some (.int (nI i22)), some (.int (nI i37)), some (.int (nI ((wrI τ i22 (wrS τ i22) i37).2))), some (.int (nI i22)), some (.int (nI i37)), some (.int (nI v7))]) rfl (by decide) dX0_worst_111 rfl rfl ?_
              refine g_iload (pc := 112) 7 C0 rfl dX0_worst_112 ?_
              refine g_istore (pc := 114) 4 C0 (L1 := [some (.ref (ad 0)), some (.int w), some (.int (nI i22)), some (.int (nI i37)), some (.int (nI v7)), some (.int (nI i22)), some (.int (nI i37)), some (.int (nI v7))]) rfl (by decide) dX0_worst_114 rfl ?_
              refine G.forget 7 ?_
              exact G.lE (by rw [wrI_s, wrF, ← ev7, if_pos h103]; show _ = [_, _, some (Value.int (nI ((3 * i22 + i37) / 3))), some (Value.int (nI ((3 * i22 + i37) % 3))), _, _, _, _]; rw [show (3 * i22 + i37) / 3 = i22 by omega, show (3 * i22 + i37) % 3 = i37 by omega]; rfl) (J116 β hβ)
        · refine g_aload_n (pc := 55) 0 C0 rfl dX0_worst_55 rfl ?_
          refine g_get (pc := 56) (v := .ref (ad 1)) C0 (C := RX0) (T := TX0) (N := 14) (ci := 1) (q0 := 0) (j := 0) 1 (xCode (by omega)) rfl rfl in_X0 (by decide) q184 rfl dX0_worst_56 ?_
          refine g_getN (pc := 59) (v := .ref (ad 21)) C0 hN (C := RX2) (T := TX2) (N := 10) (ci := 3) (q0 := 1) (j := 1) 4 (xCode (by omega)) rfl rfl in_X2 (by decide) q148 rfl dX0_worst_59 ?_
          refine g_iload (pc := 62) 5 C0 rfl dX0_worst_62 ?_
          refine g_aaldA (pc := 64) (q0 := 21) (j := 21) (t0 := 3) (N := 10) (jr := 32 + i22) C0 i22 (xCode (by omega)) rfl rfl (by decide) (by omega) rfl dX0_worst_64 ?_
          refine g_iload (pc := 65) 6 C0 rfl dX0_worst_65 ?_
          refine g_ialdV (pc := 67) (q0 := (32 + i22)) (j := (32 + i22)) (t0 := 0) (N := 3) (v := (τ 6 (3 * i22 + i37))) C0 i37 (xCode (by omega)) (fun f => xMk_row (by omega) f) rfl (by decide) (by omega) ((hβ.row (by omega) (by omega)).trans (stp_in hi37)) dX0_worst_67 ?_
          refine g_iconst (pc := 68) (v := (nI 1)) C0 dX0_worst_68 (by decide) ?_
          refine g_icmp_leN (pc := 69) 96 C0 (by omega) (by decide) dX0_worst_69 (by decide) (fun h69 => ?_) (fun h69 => ?_)
          · refine g_iconst (pc := 96) (v := (nI 0)) C0 dX0_worst_96 (by decide) ?_
            exact J97 β hβ (nI 0) (congrArg nI (by simp [wrsW, wrsV, h6, h69] <;> omega))
          · refine g_aload_n (pc := 72) 0 C0 rfl dX0_worst_72 rfl ?_
            refine g_iload (pc := 73) 5 C0 rfl dX0_worst_73 ?_
            refine g_cviX (pc := 75) (na := 1) (As := [.int (nI i22)]) (rest := []) C0 hN (xX_climbers l D dT ad nS τ β  i22 hβ hw hp (by omega)) (q0 := 0) (j := 0) (ci := 1) (C := RX0) (T := TX0) (N := 14) (xCode (by omega)) rfl rfl q721 q723 qs11 q57 q724 (by decide +kernel) ⟨Nat.le_of_ble_eq_true rfl, Nat.le_of_ble_eq_true rfl⟩ rfl rfl ⟨Nat.le_of_ble_eq_true rfl, Nat.le_of_ble_eq_true rfl⟩ rfl rfl (Nat.le_of_ble_eq_true rfl) dX0_worst_75 (fun r β hc => ?_)
            obtain ⟨rfl, hβ⟩ := hc
            refine g_aload_n (pc := 78) 0 C0 rfl dX0_worst_78 rfl ?_
            refine g_iload (pc := 79) 5 C0 rfl dX0_worst_79 ?_
            refine g_iload (pc := 81) 6 C0 rfl dX0_worst_81 ?_
            refine g_iconst (pc := 83) (v := (-1)) C0 dX0_worst_83 (by decide) ?_
            refine g_cviX (pc := 84) (na := 3) (As := [.int (nI i22), .int (nI i37), .int (-1)]) (rest := [.int (nI (sClimb τ i22))]) C0 hN (xX_climbersWith l D dT ad nS τ β  i22 i37 false hβ hw hp (by omega) (by omega) (by show 1 ≤ byN _ _; simp only [byN]; simp; omega) (by show byN _ _ ≤ 720; simp only [byN]; simp; omega)) (q0 := 0) (j := 0) (ci := 1) (C := RX0) (T := TX0) (N := 14) (xCode (by omega)) rfl rfl q895 q897 qs28 q57 q898 (by decide +kernel) ⟨Nat.le_of_ble_eq_true rfl, Nat.le_of_ble_eq_true rfl⟩ rfl rfl ⟨Nat.le_of_ble_eq_true rfl, Nat.le_of_ble_eq_true rfl⟩ rfl rfl (Nat.le_of_ble_eq_true rfl) dX0_worst_84 (fun r β hc => ?_)
            obtain ⟨rfl, hβ⟩ := hc
            refine g_iconst (pc := 87) (v := (-1)) C0 dX0_worst_87 (by decide) ?_
            refine g_ixor (pc := 88) C0 dX0_worst_88 ?_
            refine g_iandE (pc := 89) C0 (nd_N (by omega) (by omega)) dX0_worst_89 ?_
            refine g_csi (pc := 90) (na := 1) (As := [.int (nI (ndS (sClimb τ i22) (climbW τ i22 i37 false)))]) (rest := []) C0 (xJ_bitCount l (ndS (sClimb τ i22) (climbW τ i22 i37 false)) (ndS_lt (by omega))) q885 q886 q78 q887 (by decide +kernel) ⟨Nat.le_of_ble_eq_true rfl, Nat.le_of_ble_eq_true rfl⟩ rfl rfl ⟨Nat.le_of_ble_eq_true rfl, Nat.le_of_ble_eq_true rfl⟩ rfl rfl (Nat.le_of_ble_eq_true rfl) dX0_worst_90 ?_
            refine g_goto (pc := 93) 97 C0 dX0_worst_93 (by decide) ?_
            exact J97 β hβ (nI (bitsN (ndS (sClimb τ i22) (climbW τ i22 i37 false)) 24)) (congrArg nI (by simp [wrsW, wrsV, h6, h69] <;> omega))
  · rw [isInB_rg w (lo := 0) (hi := 2) (by decide) (by decide)] at h6
    refine g_ldc (pc := 9) (v := -1000000002) C0 q235 dX0_worst_9 ?_
    exact g_iret (pc := 11) C0 dX0_worst_11 ⟨by rw [pWorst, h6]; rfl, hβ⟩
set_option maxHeartbeats 4000000 in
set_option maxRecDepth 100000 in
theorem xX_ask (l : Launch) (D : va_G) (dT : Nat → ClassId) (ad : Nat → Nat) (nS : Nat) (τ β : tT)   (hβ : RX nS β τ) (hw : wfT τ) (hp : wfP τ) (hv : wfS τ) : XI l D dT ad nS yX0_ask cX0_ask 9 .int ({ frames := 7, cells := 0, slots := 0, locals := 207 }) [.ref (ad 0)] β (fun rr β' => rr = (pAsk τ) ∧ RX nS β' τ) := by
  refine XI.ofG (own := "FittingStrides") (L := [some (.ref (ad 0)), none, none, none, none, none, none, none, none]) rfl (by decide) (Nat.le_of_ble_eq_true rfl) rfl ?_
  intro p' e' s' m' bl' mt' c' C0 hN
  have hn := hβ.n
  have hn10 := hβ.n10
  have hw1 := hw.1
  have hw0 := hw.2.1
  have hp0 := hp.1
  have hp1 := hp.2.1
  refine g_aload_n (pc := 0) 0 C0 rfl dX0_ask_0 rfl ?_
  refine g_cviX (pc := 1) (na := 0) (As := []) (rest := []) C0 hN (xX_fits l D dT ad nS τ β   hβ hw hp hv) (q0 := 0) (j := 0) (ci := 1) (C := RX0) (T := TX0) (N := 14) (xCode (by omega)) rfl rfl q931 q920 q921 q57 q922 (by decide +kernel) ⟨Nat.le_of_ble_eq_true rfl, Nat.le_of_ble_eq_true rfl⟩ rfl rfl ⟨Nat.le_of_ble_eq_true rfl, Nat.le_of_ble_eq_true rfl⟩ rfl rfl (Nat.le_of_ble_eq_true rfl) dX0_ask_1 (fun r β hc => ?_)
  obtain ⟨rfl, hβ⟩ := hc
  refine g_istore_n (pc := 4) 1 C0 (L1 := [some (.ref (ad 0)), some (.int (nI (fitsS τ))), none, none, none, none, none, none, none]) rfl (by decide) dX0_ask_4 rfl rfl ?_
  obtain ⟨st1, est1⟩ : ∃ z, z = (fitsS τ) := ⟨_, rfl⟩
  have hst : st1 < 2 ^ 24 := by rw [est1]; exact fitsN_lt τ 25 (by decide)
  refine G.lE (L' := [some (.ref (ad 0)), some (.int (nI st1)), none, none, none, none, none, none, none]) (by rw [est1]) ?_
  refine g_iconst (pc := 5) (v := (-1)) C0 dX0_ask_5 (by decide) ?_
  refine g_istore_n (pc := 6) 2 C0 (L1 := [some (.ref (ad 0)), some (.int (nI st1)), some (.int (-1)), none, none, none, none, none, none]) rfl (by decide) dX0_ask_6 rfl rfl ?_
  refine g_iconst (pc := 7) (v := (nI 0)) C0 dX0_ask_7 (by decide) ?_
  refine g_istore_n (pc := 8) 3 C0 (L1 := [some (.ref (ad 0)), some (.int (nI st1)), some (.int (-1)), some (.int (nI 0)), none, none, none, none, none]) rfl (by decide) dX0_ask_8 rfl rfl ?_
  refine g_iconst (pc := 9) (v := (nI 0)) C0 dX0_ask_9 (by decide) ?_
  refine g_istore (pc := 10) 4 C0 (L1 := [some (.ref (ad 0)), some (.int (nI st1)), some (.int (-1)), some (.int (nI 0)), some (.int (nI 0)), none, none, none, none]) rfl (by decide) dX0_ask_10 rfl ?_
  refine G.loopX (pc := 12) (Φ := fun i β => RX nS β τ) (wsf := fun β => xW dT ad nS β) (Lf := fun i => [some (.ref (ad 0)), some (.int (nI st1)), some (.int (oI (askS τ st1 i).1)), some (.int (nI ((askS τ st1 i).2))), some (.int (nI i)), none, none, none, none]) (N := τ 0 1) (i0 := 0) β hβ (Nat.zero_le _) (fun β hβ => ?_) (fun i12 β hi12 hj12 hβ ih12 => ?_)
  · refine g_iload (pc := 12) 4 C0 rfl dX0_ask_12 ?_
    refine g_aload_n (pc := 14) 0 C0 rfl dX0_ask_14 rfl ?_
    refine g_get (pc := 15) (v := .ref (ad 4)) C0 (C := RX0) (T := TX0) (N := 14) (ci := 1) (q0 := 0) (j := 0) 0 (xCode (by omega)) rfl rfl in_X0 (by decide) q183 rfl dX0_ask_15 ?_
    refine g_getN (pc := 18) (v := .int (nI (τ 0 1))) C0 hN (C := RX1) (T := TX1) (N := 7) (ci := 2) (q0 := 4) (j := 4) 2 (xCode (by omega)) rfl rfl in_X1 (by decide) q103 (xv hβ.f4_2) dX0_ask_18 ?_
    refine g_icmp_geN (pc := 21) 156 C0 (by omega) (by omega) dX0_ask_21 (by decide) (fun h21 => ?_) (fun h21 => ?_)
    rotate_left
    · exact absurd h21 (by omega)
    refine g_iload_n (pc := 156) 2 C0 rfl dX0_ask_156 rfl ?_
    exact g_iret (pc := 157) C0 dX0_ask_157 ⟨by rw [pAsk, ← est1], hβ⟩
  · obtain ⟨a1, a2⟩ := askS_ok τ st1 i12
    obtain ⟨a3, a4, a5⟩ := askO_le τ st1 i12
    have hbn : ∀ k, (askS τ st1 i12).1 = some k → k < 2 ^ 31 := fun k e => by have := a2 k e; omega
    refine g_iload (pc := 12) 4 C0 rfl dX0_ask_12 ?_
    refine g_aload_n (pc := 14) 0 C0 rfl dX0_ask_14 rfl ?_
    refine g_get (pc := 15) (v := .ref (ad 4)) C0 (C := RX0) (T := TX0) (N := 14) (ci := 1) (q0 := 0) (j := 0) 0 (xCode (by omega)) rfl rfl in_X0 (by decide) q183 rfl dX0_ask_15 ?_
    refine g_getN (pc := 18) (v := .int (nI (τ 0 1))) C0 hN (C := RX1) (T := TX1) (N := 7) (ci := 2) (q0 := 4) (j := 4) 2 (xCode (by omega)) rfl rfl in_X1 (by decide) q103 (xv hβ.f4_2) dX0_ask_18 ?_
    refine g_icmp_geN (pc := 21) 156 C0 (by omega) (by omega) dX0_ask_21 (by decide) (fun h21 => ?_) (fun h21 => ?_)
    · exact absurd h21 (by omega)
    refine g_iconst (pc := 24) (v := (nI 0)) C0 dX0_ask_24 (by decide) ?_
    refine g_istore (pc := 25) 5 C0 (L1 := [some (.ref (ad 0)), some (.int (nI st1)), some (.int (oI (askS τ st1 i12).1)), some (.int (nI ((askS τ st1 i12).2))), some (.int (nI i12)), some (.int (nI 0)), none, none, none]) rfl (by decide) dX0_ask_25 rfl ?_
    refine g_iconst (pc := 27) (v := (nI 0)) C0 dX0_ask_27 (by decide) ?_
    refine g_istore (pc := 28) 6 C0 (L1 := [some (.ref (ad 0)), some (.int (nI st1)), some (.int (oI (askS τ st1 i12).1)), some (.int (nI ((askS τ st1 i12).2))), some (.int (nI i12)), some (.int (nI 0)), some (.int (nI 0)), none, none]) rfl (by decide) dX0_ask_28 rfl ?_
    refine g_iconst (pc := 30) (v := (nI 1)) C0 dX0_ask_30 (by decide) ?_
    refine g_istore (pc := 31) 7 C0 (L1 := [some (.ref (ad 0)), some (.int (nI st1)), some (.int (oI (askS τ st1 i12).1)), some (.int (nI ((askS τ st1 i12).2))), some (.int (nI i12)), some (.int (nI 0)), some (.int (nI 0)), some (.int (nI 1)), none]) rfl (by decide) dX0_ask_31 rfl ?_
    refine G.loopX (pc := 33) (Φ := fun i β => RX nS β τ) (wsf := fun β => xW dT ad nS β) (Lf := fun i => [some (.ref (ad 0)), some (.int (nI st1)), some (.int (oI (askS τ st1 i12).1)), some (.int (nI ((askS τ st1 i12).2))), some (.int (nI i12)), some (.int (nI (askY τ st1 i12 i))), some (.int (nI (askZ τ st1 i12 i))), some (.int (nI i)), none]) (N := 25) (i0 := 1) β hβ (by omega) (fun β hβ => ?_) (fun i33 β hi33 hj33 hβ ih33 => ?_)
    · refine g_iload (pc := 33) 7 C0 rfl dX0_ask_33 ?_
      refine g_bipush (pc := 35) (v := (nI 24)) C0 dX0_ask_35 (by decide) ?_
      refine g_icmp_gtN (pc := 37) 111 C0 (by decide) (by decide) dX0_ask_37 (by decide) (fun h37 => ?_) (fun h37 => ?_)
      rotate_left
      · exact absurd h37 (by omega)
      obtain ⟨y5, ey5⟩ : ∃ z, z = (askY τ st1 i12 25) := ⟨_, rfl⟩
      refine G.lE (L' := [some (.ref (ad 0)), some (.int (nI st1)), some (.int (oI (askS τ st1 i12).1)), some (.int (nI ((askS τ st1 i12).2))), some (.int (nI i12)), some (.int (nI y5)), some (.int (nI (askZ τ st1 i12 25))), some (.int (nI 25)), none]) (by rw [ey5]) ?_
      obtain ⟨no6, eno6⟩ : ∃ z, z = (askZ τ st1 i12 25) := ⟨_, rfl⟩
      have hno6 : no6 = askN τ st1 i12 := by rw [eno6]; exact askZ_N τ st1 i12
      rw [← ey5] at a4
      rw [← hno6] at a5
      refine G.lE (L' := [some (.ref (ad 0)), some (.int (nI st1)), some (.int (oI (askS τ st1 i12).1)), some (.int (nI ((askS τ st1 i12).2))), some (.int (nI i12)), some (.int (nI y5)), some (.int (nI no6)), some (.int (nI 25)), none]) (by rw [eno6]) ?_
      refine G.meetX (Φ := fun β => RX nS β τ) (wsf := fun β => xW dT ad nS β) (pcJ := 150) (LJ := [some (.ref (ad 0)), some (.int (nI st1)), some (.int (oI (askS τ st1 (i12 + 1)).1)), some (.int (nI ((askS τ st1 (i12 + 1)).2))), some (.int (nI i12)), none, none, none, none]) (stJ := []) (fun β hβ => ?_) (fun J150 => ?_)
      · refine g_iinc1 (pc := 150) 4 C0 (L1 := [some (.ref (ad 0)), some (.int (nI st1)), some (.int (oI (askS τ st1 (i12 + 1)).1)), some (.int (nI ((askS τ st1 (i12 + 1)).2))), some (.int (nI (i12 + 1))), none, none, none, none]) rfl rfl (by decide) dX0_ask_150 rfl ?_
        refine g_goto (pc := 153) 12 C0 dX0_ask_153 (by decide) ?_
        exact ih12 β hβ
      · refine g_iload (pc := 111) 5 C0 rfl dX0_ask_111 ?_
        refine g_if_leN (pc := 113) 150 C0 (by omega) dX0_ask_113 (by decide) (fun h113 => ?_) (fun h113 => ?_)
        · refine G.forget 5 ?_
          refine G.forget 6 ?_
          refine G.forget 7 ?_
          refine G.forget 8 ?_
          have hB : askB τ st1 i12 (askS τ st1 i12) = false := by rw [askB, ← ey5, ← hno6, decide_eq_false (show ¬ 0 < y5 by omega)]; rfl
          exact G.lE (by rw [askS_s, hB]; rfl) (J150 β hβ)
        · refine g_iload (pc := 116) 6 C0 rfl dX0_ask_116 ?_
          refine g_if_leN (pc := 118) 150 C0 (by omega) dX0_ask_118 (by decide) (fun h118 => ?_) (fun h118 => ?_)
          · refine G.forget 5 ?_
            refine G.forget 6 ?_
            refine G.forget 7 ?_
            refine G.forget 8 ?_
            have hB : askB τ st1 i12 (askS τ st1 i12) = false := by rw [askB, ← ey5, ← hno6, decide_eq_true (show 0 < y5 by omega), decide_eq_false (show ¬ 0 < no6 by omega)]; rfl
            exact G.lE (by rw [askS_s, hB]; rfl) (J150 β hβ)
          · refine g_iload_n (pc := 121) 2 C0 rfl dX0_ask_121 rfl ?_
            refine g_iconst (pc := 122) (v := (-1)) C0 dX0_ask_122 (by decide) ?_
            refine g_icmp_eq (pc := 123) 138 C0 dX0_ask_123 (by decide) (fun h123 => ?_) (fun h123 => ?_)
            · refine g_iload (pc := 138) 4 C0 rfl dX0_ask_138 ?_
              refine g_istore_n (pc := 140) 2 C0 (L1 := [some (.ref (ad 0)), some (.int (nI st1)), some (.int (nI i12)), some (.int (nI ((askS τ st1 i12).2))), some (.int (nI i12)), some (.int (nI y5)), some (.int (nI no6)), some (.int (nI 25)), none]) rfl (by decide) dX0_ask_140 rfl rfl ?_
              refine g_iload (pc := 141) 5 C0 rfl dX0_ask_141 ?_
              refine g_iload (pc := 143) 6 C0 rfl dX0_ask_143 ?_
              refine g_isub (pc := 145) C0 dX0_ask_145 ?_
              refine g_mabs (pc := 146) (v := (nI (askO τ st1 i12))) C0 (by rw [abs_N (by omega) (by omega), askO, ← hno6, ← ey5]) q932 q933 q67 q934 (Nat.le_of_ble_eq_true rfl) (Nat.le_of_ble_eq_true rfl) ⟨Nat.le_of_ble_eq_true rfl, Nat.le_of_ble_eq_true rfl⟩ dX0_ask_146 ?_
              refine g_istore_n (pc := 149) 3 C0 (L1 := [some (.ref (ad 0)), some (.int (nI st1)), some (.int (nI i12)), some (.int (nI (askO τ st1 i12))), some (.int (nI i12)), some (.int (nI y5)), some (.int (nI no6)), some (.int (nI 25)), none]) rfl (by decide) dX0_ask_149 rfl rfl ?_
              refine G.forget 5 ?_
              refine G.forget 6 ?_
              refine G.forget 7 ?_
              refine G.forget 8 ?_
              have hB : askB τ st1 i12 (askS τ st1 i12) = true := by rw [askB, ← ey5, ← hno6, decide_eq_true (show 0 < y5 by omega), decide_eq_true (show 0 < no6 by omega), oI_m1 h123 hbn]; rfl
              exact G.lE (by rw [askS_s, hB]; rfl) (J150 β hβ)
            · refine g_iload (pc := 126) 5 C0 rfl dX0_ask_126 ?_
              refine g_iload (pc := 128) 6 C0 rfl dX0_ask_128 ?_
              refine g_isub (pc := 130) C0 dX0_ask_130 ?_
              refine g_mabs (pc := 131) (v := (nI (askO τ st1 i12))) C0 (by rw [abs_N (by omega) (by omega), askO, ← hno6, ← ey5]) q932 q933 q67 q934 (Nat.le_of_ble_eq_true rfl) (Nat.le_of_ble_eq_true rfl) ⟨Nat.le_of_ble_eq_true rfl, Nat.le_of_ble_eq_true rfl⟩ dX0_ask_131 ?_
              refine g_iload_n (pc := 134) 3 C0 rfl dX0_ask_134 rfl ?_
              refine g_icmp_geN (pc := 135) 150 C0 (by omega) (by omega) dX0_ask_135 (by decide) (fun h135 => ?_) (fun h135 => ?_)
              · refine G.forget 5 ?_
                refine G.forget 6 ?_
                refine G.forget 7 ?_
                refine G.forget 8 ?_
                have hB : askB τ st1 i12 (askS τ st1 i12) = false := by rw [askB, ← ey5, ← hno6, decide_eq_true (show 0 < y5 by omega), decide_eq_true (show 0 < no6 by omega), oI_nn h123, decide_eq_false (by omega)]; rfl
                exact G.lE (by rw [askS_s, hB]; rfl) (J150 β hβ)
              · refine g_iload (pc := 138) 4 C0 rfl dX0_ask_138 ?_
                refine g_istore_n (pc := 140) 2 C0 (L1 := [some (.ref (ad 0)), some (.int (nI st1)), some (.int (nI i12)), some (.int (nI ((askS τ st1 i12).2))), some (.int (nI i12)), some (.int (nI y5)), some (.int (nI no6)), some (.int (nI 25)), none]) rfl (by decide) dX0_ask_140 rfl rfl ?_
                refine g_iload (pc := 141) 5 C0 rfl dX0_ask_141 ?_
                refine g_iload (pc := 143) 6 C0 rfl dX0_ask_143 ?_
                refine g_isub (pc := 145) C0 dX0_ask_145 ?_
                refine g_mabs (pc := 146) (v := (nI (askO τ st1 i12))) C0 (by rw [abs_N (by omega) (by omega), askO, ← hno6, ← ey5]) q932 q933 q67 q934 (Nat.le_of_ble_eq_true rfl) (Nat.le_of_ble_eq_true rfl) ⟨Nat.le_of_ble_eq_true rfl, Nat.le_of_ble_eq_true rfl⟩ dX0_ask_146 ?_
                refine g_istore_n (pc := 149) 3 C0 (L1 := [some (.ref (ad 0)), some (.int (nI st1)), some (.int (nI i12)), some (.int (nI (askO τ st1 i12))), some (.int (nI i12)), some (.int (nI y5)), some (.int (nI no6)), some (.int (nI 25)), none]) rfl (by decide) dX0_ask_149 rfl rfl ?_
                refine G.forget 5 ?_
                refine G.forget 6 ?_
                refine G.forget 7 ?_
                refine G.forget 8 ?_
                have hB : askB τ st1 i12 (askS τ st1 i12) = true := by rw [askB, ← ey5, ← hno6, decide_eq_true (show 0 < y5 by omega), decide_eq_true (show 0 < no6 by omega), oI_nn h123, decide_eq_true (by omega)]; rfl
                exact G.lE (by rw [askS_s, hB]; rfl) (J150 β hβ)
    · refine g_iload (pc := 33) 7 C0 rfl dX0_ask_33 ?_
      refine g_bipush (pc := 35) (v := (nI 24)) C0 dX0_ask_35 (by decide) ?_
      refine g_icmp_gtN (pc := 37) 111 C0 (by omega) (by decide) dX0_ask_37 (by decide) (fun h37 => ?_) (fun h37 => ?_)
      · exact absurd h37 (by omega)
      refine g_aload_n (pc := 40) 0 C0 rfl dX0_ask_40 rfl ?_
      refine g_iload (pc := 41) 4 C0 rfl dX0_ask_41 ?_
      refine g_cvrX (pc := 43) (na := 1) (As := [.int (nI i12)]) (rest := []) C0 hN (xX_at l D dT ad nS τ β  i12 hβ hw (by omega)) (q0 := 0) (j := 0) (ci := 1) (C := RX0) (T := TX0) (N := 14) (xCode (by omega)) rfl rfl q705 q707 qs10 q57 q708 (by decide +kernel) ⟨Nat.le_of_ble_eq_true rfl, Nat.le_of_ble_eq_true rfl⟩ rfl rfl ⟨Nat.le_of_ble_eq_true rfl, Nat.le_of_ble_eq_true rfl⟩ rfl rfl (Nat.le_of_ble_eq_true rfl) dX0_ask_43 (fun β hc => ?_)
      obtain ⟨hβ, hs, he⟩ := hc
      refine g_iload (pc := 46) 7 C0 rfl dX0_ask_46 ?_
      refine g_stU (pc := 48) (r := i12) (na := 1) (As := [.int (nI i33)]) (rest := []) C0 hN hβ (by omega) (hw.2.2 i12 (by omega)).1 (xS_fits l D dT ad nS τ β i12 i33 hβ hw (by omega) hs (by omega) (by omega)) q729 q732 q731 q734 q733 q730 q75 q735 (by decide +kernel) ⟨Nat.le_of_ble_eq_true rfl, Nat.le_of_ble_eq_true rfl⟩ rfl rfl ⟨Nat.le_of_ble_eq_true rfl, Nat.le_of_ble_eq_true rfl⟩ rfl rfl (Nat.le_of_ble_eq_true rfl) dX0_ask_48 (fun r β0 hc => ?_)
      obtain ⟨rfl, rfl⟩ := hc
      refine g_istore (pc := 51) 8 C0 (L1 := [some (.ref (ad 0)), some (.int (nI st1)), some (.int (oI (askS τ st1 i12).1)), some (.int (nI ((askS τ st1 i12).2))), some (.int (nI i12)), some (.int (nI (askY τ st1 i12 i33))), some (.int (nI (askZ τ st1 i12 i33))), some (.int (nI i33)), some (.int (nI (bN (sFit τ i12 i33))))]) rfl (by decide) dX0_ask_51 rfl ?_
      refine g_iload (pc := 53) 5 C0 rfl dX0_ask_53 ?_
      refine G.join (pcJ := 76) (wsJ := xW dT ad nS β) (LJ := [some (.ref (ad 0)), some (.int (nI st1)), some (.int (oI (askS τ st1 i12).1)), some (.int (nI ((askS τ st1 i12).2))), some (.int (nI i12)), some (.int (nI (askY τ st1 i12 i33))), some (.int (nI (askZ τ st1 i12 i33))), some (.int (nI i33)), some (.int (nI (bN (sFit τ i12 i33))))]) (stJ := [.int (nI (askY τ st1 i12 i33))]) (nI (bN (st1.testBit (i33 - 1) && sFit τ i12 i33))) ?_ (fun J76 => ?_)
      · refine g_iaddN (pc := 76) C0  dX0_ask_76 ?_
        refine g_istore (pc := 77) 5 C0 (L1 := [some (.ref (ad 0)), some (.int (nI st1)), some (.int (oI (askS τ st1 i12).1)), some (.int (nI ((askS τ st1 i12).2))), some (.int (nI i12)), some (.int (nI ((askY τ st1 i12 i33) + (bN (st1.testBit (i33 - 1) && sFit τ i12 i33))))), some (.int (nI (askZ τ st1 i12 i33))), some (.int (nI i33)), some (.int (nI (bN (sFit τ i12 i33))))]) rfl (by decide) dX0_ask_77 rfl ?_
        refine g_iload (pc := 79) 6 C0 rfl dX0_ask_79 ?_
        refine G.join (pcJ := 102) (wsJ := xW dT ad nS β) (LJ := [some (.ref (ad 0)), some (.int (nI st1)), some (.int (oI (askS τ st1 i12).1)), some (.int (nI ((askS τ st1 i12).2))), some (.int (nI i12)), some (.int (nI ((askY τ st1 i12 i33) + (bN (st1.testBit (i33 - 1) && sFit τ i12 i33))))), some (.int (nI (askZ τ st1 i12 i33))), some (.int (nI i33)), some (.int (nI (bN (sFit τ i12 i33))))]) (stJ := [.int (nI (askZ τ st1 i12 i33))]) (nI (bN (st1.testBit (i33 - 1) && !sFit τ i12 i33))) ?_ (fun J102 => ?_)
        · refine g_iaddN (pc := 102) C0  dX0_ask_102 ?_
          refine g_istore (pc := 103) 6 C0 (L1 := [some (.ref (ad 0)), some (.int (nI st1)), some (.int (oI (askS τ st1 i12).1)), some (.int (nI ((askS τ st1 i12).2))), some (.int (nI i12)), some (.int (nI ((askY τ st1 i12 i33) + (bN (st1.testBit (i33 - 1) && sFit τ i12 i33))))), some (.int (nI ((askZ τ st1 i12 i33) + (bN (st1.testBit (i33 - 1) && !sFit τ i12 i33))))), some (.int (nI i33)), some (.int (nI (bN (sFit τ i12 i33))))]) rfl (by decide) dX0_ask_103 rfl ?_
          refine g_iinc1 (pc := 105) 7 C0 (L1 := [some (.ref (ad 0)), some (.int (nI st1)), some (.int (oI (askS τ st1 i12).1)), some (.int (nI ((askS τ st1 i12).2))), some (.int (nI i12)), some (.int (nI ((askY τ st1 i12 i33) + (bN (st1.testBit (i33 - 1) && sFit τ i12 i33))))), some (.int (nI ((askZ τ st1 i12 i33) + (bN (st1.testBit (i33 - 1) && !sFit τ i12 i33))))), some (.int (nI (i33 + 1))), some (.int (nI (bN (sFit τ i12 i33))))]) rfl rfl (by decide) dX0_ask_105 rfl ?_
          refine g_goto (pc := 108) 33 C0 dX0_ask_108 (by decide) ?_
          refine G.forget 8 ?_
          exact G.lE (by rw [askY_s τ st1 i12 hj33, askZ_s τ st1 i12 hj33]; rfl) (ih33 β hβ)
        · refine g_iload_n (pc := 81) 1 C0 rfl dX0_ask_81 rfl ?_
          refine g_iload (pc := 82) 7 C0 rfl dX0_ask_82 ?_
          refine g_iconst (pc := 84) (v := (nI 1)) C0 dX0_ask_84 (by decide) ?_
          refine g_isubN (pc := 85) C0 (by omega) dX0_ask_85 ?_
          refine g_csi (pc := 86) (na := 2) (As := [.int (nI st1), .int (nI (i33 - 1))]) (rest := [.int (nI (askZ τ st1 i12 i33))]) C0 (xX_has l st1 (i33 - 1) (by omega) (by omega)) q763 q764 q57 q765 (by decide +kernel) ⟨Nat.le_of_ble_eq_true rfl, Nat.le_of_ble_eq_true rfl⟩ rfl rfl ⟨Nat.le_of_ble_eq_true rfl, Nat.le_of_ble_eq_true rfl⟩ rfl rfl (Nat.le_of_ble_eq_true rfl) dX0_ask_86 ?_
          refine g_if_eqB (pc := 89) 101 C0 dX0_ask_89 (by decide) (fun h89 => ?_) (fun h89 => ?_)
          · refine g_iconst (pc := 101) (v := (nI 0)) C0 dX0_ask_101 (by decide) ?_
            exact J102 (nI 0) (congrArg nI (by simp [h89, bN]))
          · refine g_iload (pc := 92) 8 C0 rfl dX0_ask_92 ?_
            refine g_if_neB (pc := 94) 101 C0 dX0_ask_94 (by decide) (fun h94 => ?_) (fun h94 => ?_)
            · refine g_iconst (pc := 101) (v := (nI 0)) C0 dX0_ask_101 (by decide) ?_
              exact J102 (nI 0) (congrArg nI (by simp [h89, h94, bN]))
            · refine g_iconst (pc := 97) (v := (nI 1)) C0 dX0_ask_97 (by decide) ?_
              refine g_goto (pc := 98) 102 C0 dX0_ask_98 (by decide) ?_
              exact J102 (nI 1) (congrArg nI (by simp [h89, h94, bN]))
      · refine g_iload_n (pc := 55) 1 C0 rfl dX0_ask_55 rfl ?_
        refine g_iload (pc := 56) 7 C0 rfl dX0_ask_56 ?_
        refine g_iconst (pc := 58) (v := (nI 1)) C0 dX0_ask_58 (by decide) ?_
        refine g_isubN (pc := 59) C0 (by omega) dX0_ask_59 ?_
        refine g_csi (pc := 60) (na := 2) (As := [.int (nI st1), .int (nI (i33 - 1))]) (rest := [.int (nI (askY τ st1 i12 i33))]) C0 (xX_has l st1 (i33 - 1) (by omega) (by omega)) q763 q764 q57 q765 (by decide +kernel) ⟨Nat.le_of_ble_eq_true rfl, Nat.le_of_ble_eq_true rfl⟩ rfl rfl ⟨Nat.le_of_ble_eq_true rfl, Nat.le_of_ble_eq_true rfl⟩ rfl rfl (Nat.le_of_ble_eq_true rfl) dX0_ask_60 ?_
        refine g_if_eqB (pc := 63) 75 C0 dX0_ask_63 (by decide) (fun h63 => ?_) (fun h63 => ?_)
        · refine g_iconst (pc := 75) (v := (nI 0)) C0 dX0_ask_75 (by decide) ?_
          exact J76 (nI 0) (congrArg nI (by simp [h63, bN]))
        · refine g_iload (pc := 66) 8 C0 rfl dX0_ask_66 ?_
          refine g_if_eqB (pc := 68) 75 C0 dX0_ask_68 (by decide) (fun h68 => ?_) (fun h68 => ?_)
          · refine g_iconst (pc := 75) (v := (nI 0)) C0 dX0_ask_75 (by decide) ?_
            exact J76 (nI 0) (congrArg nI (by simp [h63, h68, bN]))
          · refine g_iconst (pc := 71) (v := (nI 1)) C0 dX0_ask_71 (by decide) ?_
            refine g_goto (pc := 72) 76 C0 dX0_ask_72 (by decide) ?_
            exact J76 (nI 1) (congrArg nI (by simp [h63, h68, bN]))
set_option maxHeartbeats 4000000 in
set_option maxRecDepth 100000 in
theorem xX_judge (l : Launch) (D : va_G) (dT : Nat → ClassId) (ad : Nat → Nat) (nS : Nat) (τ β : tT)   (hβ : RX nS β τ) (hw : wfT τ) (hp : wfP τ) (hb : wfB τ) : XI l D dT ad nS yX0_judge cX0_judge 4 .int ({ frames := 4, cells := 0, slots := 0, locals := 135 }) [.ref (ad 0)] β (fun rr β' => rr = (pJudge τ) ∧ RX nS β' τ) := by
  refine XI.ofG (own := "FittingStrides") (L := [some (.ref (ad 0)), none, none, none]) rfl (by decide) (Nat.le_of_ble_eq_true rfl) rfl ?_
  intro p' e' s' m' bl' mt' c' C0 hN
  have hn := hβ.n
  have hn10 := hβ.n10
  have hw1 := hw.1
  have hw0 := hw.2.1
  have hp0 := hp.1
  have hp1 := hp.2.1
  obtain ⟨b1, b2⟩ := id hb
  refine g_aload_n (pc := 0) 0 C0 rfl dX0_judge_0 rfl ?_
  refine g_get (pc := 1) (v := .ref (ad 1)) C0 (C := RX0) (T := TX0) (N := 14) (ci := 1) (q0 := 0) (j := 0) 1 (xCode (by omega)) rfl rfl in_X0 (by decide) q184 rfl dX0_judge_1 ?_
  refine g_getN (pc := 4) (v := .ref (ad 5)) C0 hN (C := RX2) (T := TX2) (N := 10) (ci := 3) (q0 := 1) (j := 1) 0 (xCode (by omega)) rfl rfl in_X2 (by decide) q140 rfl dX0_judge_4 ?_
  refine g_iconst (pc := 7) (v := (nI 0)) C0 dX0_judge_7 (by decide) ?_
  refine g_aload_n (pc := 8) 0 C0 rfl dX0_judge_8 rfl ?_
  refine g_get (pc := 9) (v := .ref (ad 15)) C0 (C := RX0) (T := TX0) (N := 14) (ci := 1) (q0 := 0) (j := 0) 12 (xCode (by omega)) rfl rfl in_X0 (by decide) q195 rfl dX0_judge_9 ?_
  refine g_iconst (pc := 12) (v := (nI 0)) C0 dX0_judge_12 (by decide) ?_
  refine g_bipush (pc := 13) (v := (nI 8)) C0 dX0_judge_13 (by decide) ?_
  refine g_copy (pc := 15) (q0 := 5) (j0 := 5) (q1 := 15) (j1 := 15) (t0 := 0) (n0 := 8) (n1 := 8) C0 8 (xNd hβ.n10) (xCode (by omega)) (fun _ => rfl) (xCode (by omega)) (fun _ => rfl) rfl (by decide) (by decide) (by decide) q709 q351 q350 q69 (Nat.le_of_ble_eq_true rfl) (by decide) dX0_judge_15 ?_
  refine G.nmX (Φ := fun β => RX nS β τ ∧ ((∀ q, q < τ 0 8 → β 15 q = (jS τ 0).1 q) ∧ (jS τ 0).2 = none)) (wsf := fun β => xW dT ad nS β) (hβ.where0 hp0) (fun β hβ => ?_)
  obtain ⟨hβ, hψ⟩ := hβ
  refine g_iconst (pc := 18) (v := (nI 0)) C0 dX0_judge_18 (by decide) ?_
  refine g_istore_n (pc := 19) 1 C0 (L1 := [some (.ref (ad 0)), some (.int (nI 0)), none, none]) rfl (by decide) dX0_judge_19 rfl rfl ?_
  refine G.loopX (pc := 20) (Φ := fun i β => RX nS β τ ∧ ((∀ q, q < τ 0 8 → β 15 q = (jS τ i).1 q) ∧ (jS τ i).2 = none)) (wsf := fun β => xW dT ad nS β) (Lf := fun i => [some (.ref (ad 0)), some (.int (nI i)), none, none]) (N := τ 0 38) (i0 := 0) β ⟨hβ, hψ⟩ (Nat.zero_le _) (fun β hβ => ?_) (fun i20 β hi20 hj20 hβ ih20 => ?_)
  · obtain ⟨hβ, hψ⟩ := hβ
    refine g_iload_n (pc := 20) 1 C0 rfl dX0_judge_20 rfl ?_
    refine g_aload_n (pc := 21) 0 C0 rfl dX0_judge_21 rfl ?_
    refine g_get (pc := 22) (v := .int (nI (τ 0 38))) C0 (C := RX0) (T := TX0) (N := 14) (ci := 1) (q0 := 0) (j := 0) 7 (xCode (by omega)) rfl rfl in_X0 (by decide) q190 (xv hβ.f0_7) dX0_judge_22 ?_
    refine g_icmp_geN (pc := 25) 114 C0 (by omega) (by omega) dX0_judge_25 (by decide) (fun h25 => ?_) (fun h25 => ?_)
    rotate_left
    · exact absurd h25 (by omega)
    refine g_iconst (pc := 114) (v := (-1)) C0 dX0_judge_114 (by decide) ?_
    exact g_iret (pc := 115) C0 dX0_judge_115 ⟨by rw [pJudge, hψ.2]; rfl, hβ⟩
  · obtain ⟨hβ, hψ⟩ := hβ
    obtain ⟨b3, b4⟩ := b2 i20 hi20
    obtain ⟨j1, j2, j3⟩ := jS_ok hw hp hb i20 (by omega)
    refine g_iload_n (pc := 20) 1 C0 rfl dX0_judge_20 rfl ?_
    refine g_aload_n (pc := 21) 0 C0 rfl dX0_judge_21 rfl ?_
    refine g_get (pc := 22) (v := .int (nI (τ 0 38))) C0 (C := RX0) (T := TX0) (N := 14) (ci := 1) (q0 := 0) (j := 0) 7 (xCode (by omega)) rfl rfl in_X0 (by decide) q190 (xv hβ.f0_7) dX0_judge_22 ?_
    refine g_icmp_geN (pc := 25) 114 C0 (by omega) (by omega) dX0_judge_25 (by decide) (fun h25 => ?_) (fun h25 => ?_)
    · exact absurd h25 (by omega)
    refine g_aload_n (pc := 28) 0 C0 rfl dX0_judge_28 rfl ?_
    refine g_get (pc := 29) (v := .ref (ad 11)) C0 (C := RX0) (T := TX0) (N := 14) (ci := 1) (q0 := 0) (j := 0) 5 (xCode (by omega)) rfl rfl in_X0 (by decide) q188 rfl dX0_judge_29 ?_
    refine g_iload_n (pc := 32) 1 C0 rfl dX0_judge_32 rfl ?_
    refine g_ialdV (pc := 33) (q0 := 11) (j := 11) (t0 := 0) (N := 40) (v := (τ 39 i20)) C0 i20 (xCode (by omega)) (fun _ => rfl) rfl (by decide) (by omega) (hβ.a11 (by omega)) dX0_judge_33 ?_
    refine g_istore_n (pc := 34) 2 C0 (L1 := [some (.ref (ad 0)), some (.int (nI i20)), some (.int (nI (τ 39 i20))), none]) rfl (by decide) dX0_judge_34 rfl rfl ?_
    refine g_aload_n (pc := 35) 0 C0 rfl dX0_judge_35 rfl ?_
    refine g_get (pc := 36) (v := .ref (ad 12)) C0 (C := RX0) (T := TX0) (N := 14) (ci := 1) (q0 := 0) (j := 0) 6 (xCode (by omega)) rfl rfl in_X0 (by decide) q189 rfl dX0_judge_36 ?_
    refine g_iload_n (pc := 39) 1 C0 rfl dX0_judge_39 rfl ?_
    refine g_ialdV (pc := 40) (q0 := 12) (j := 12) (t0 := 0) (N := 40) (v := (τ 40 i20)) C0 i20 (xCode (by omega)) (fun _ => rfl) rfl (by decide) (by omega) (hβ.a12 (by omega)) dX0_judge_40 ?_
    refine g_istore_n (pc := 41) 3 C0 (L1 := [some (.ref (ad 0)), some (.int (nI i20)), some (.int (nI (τ 39 i20))), some (.int (nI (τ 40 i20)))]) rfl (by decide) dX0_judge_41 rfl rfl ?_
    refine g_aload_n (pc := 42) 0 C0 rfl dX0_judge_42 rfl ?_
    refine g_iload_n (pc := 43) 2 C0 rfl dX0_judge_43 rfl ?_
    refine g_cviX (pc := 44) (na := 1) (As := [.int (nI (τ 39 i20))]) (rest := []) C0 hN (xX_isPerson l D dT ad nS τ β  (nI (τ 39 i20)) hβ (by omega)) (q0 := 0) (j := 0) (ci := 1) (C := RX0) (T := TX0) (N := 14) (xCode (by omega)) rfl rfl q751 q753 qs13 q57 q754 (by decide +kernel) ⟨Nat.le_of_ble_eq_true rfl, Nat.le_of_ble_eq_true rfl⟩ rfl rfl ⟨Nat.le_of_ble_eq_true rfl, Nat.le_of_ble_eq_true rfl⟩ rfl rfl (Nat.le_of_ble_eq_true rfl) dX0_judge_44 (fun r β0 hc => ?_)
    obtain ⟨rfl, rfl⟩ := hc
    refine g_if_eqB (pc := 47) 82 C0 dX0_judge_47 (by decide) (fun h47 => ?_) (fun h47 => ?_)
    · refine g_iload_n (pc := 82) 1 C0 rfl dX0_judge_82 rfl ?_
      exact g_iret (pc := 83) C0 dX0_judge_83 ⟨by rw [pJudge, jS_no hi20 hψ.2 (fun q => by rw [ixB_n (by omega), decide_eq_true q] at h47; cases h47)]; rfl, hβ⟩
    · have p2h : τ 39 i20 < τ 0 8 := by rw [ixB_n (by omega)] at h47; exact of_decide_eq_true h47
      obtain ⟨g1, g2, g3, g4⟩ := hp.2.2 _ p2h
      have j4 := j1 _ p2h
      refine g_aload_n (pc := 50) 0 C0 rfl dX0_judge_50 rfl ?_
      refine g_iload_n (pc := 51) 3 C0 rfl dX0_judge_51 rfl ?_
      refine g_aload_n (pc := 52) 0 C0 rfl dX0_judge_52 rfl ?_
      refine g_get (pc := 53) (v := .ref (ad 15)) C0 (C := RX0) (T := TX0) (N := 14) (ci := 1) (q0 := 0) (j := 0) 12 (xCode (by omega)) rfl rfl in_X0 (by decide) q195 rfl dX0_judge_53 ?_
      refine g_iload_n (pc := 56) 2 C0 rfl dX0_judge_56 rfl ?_
      refine g_ialdV (pc := 57) (q0 := 15) (j := 15) (t0 := 0) (N := 8) (v := ((jS τ i20).1 (τ 39 i20))) C0 (τ 39 i20) (xCode (by omega)) (fun _ => rfl) rfl (by decide) (by omega) (hψ.1 _ p2h) dX0_judge_57 ?_
      refine g_aload_n (pc := 58) 0 C0 rfl dX0_judge_58 rfl ?_
      refine g_get (pc := 59) (v := .ref (ad 1)) C0 (C := RX0) (T := TX0) (N := 14) (ci := 1) (q0 := 0) (j := 0) 1 (xCode (by omega)) rfl rfl in_X0 (by decide) q184 rfl dX0_judge_59 ?_
      refine g_getN (pc := 62) (v := .ref (ad 6)) C0 hN (C := RX2) (T := TX2) (N := 10) (ci := 3) (q0 := 1) (j := 1) 1 (xCode (by omega)) rfl rfl in_X2 (by decide) q142 rfl dX0_judge_62 ?_
      refine g_iload_n (pc := 65) 2 C0 rfl dX0_judge_65 rfl ?_
      refine g_ialdV (pc := 66) (q0 := 6) (j := 6) (t0 := 0) (N := 8) (v := (τ 10 (τ 39 i20))) C0 (τ 39 i20) (xCode (by omega)) (fun _ => rfl) rfl (by decide) (by omega) (hβ.a6 (by omega)) dX0_judge_66 ?_
      refine g_aload_n (pc := 67) 0 C0 rfl dX0_judge_67 rfl ?_
      refine g_get (pc := 68) (v := .ref (ad 1)) C0 (C := RX0) (T := TX0) (N := 14) (ci := 1) (q0 := 0) (j := 0) 1 (xCode (by omega)) rfl rfl in_X0 (by decide) q184 rfl dX0_judge_68 ?_
      refine g_getN (pc := 71) (v := .ref (ad 7)) C0 hN (C := RX2) (T := TX2) (N := 10) (ci := 3) (q0 := 1) (j := 1) 2 (xCode (by omega)) rfl rfl in_X2 (by decide) q144 rfl dX0_judge_71 ?_
      refine g_iload_n (pc := 74) 2 C0 rfl dX0_judge_74 rfl ?_
      refine g_ialdV (pc := 75) (q0 := 7) (j := 7) (t0 := 0) (N := 8) (v := (τ 11 (τ 39 i20))) C0 (τ 39 i20) (xCode (by omega)) (fun _ => rfl) rfl (by decide) (by omega) (hβ.a7 (by omega)) dX0_judge_75 ?_
      refine g_cviX (pc := 76) (na := 4) (As := [.int (nI (τ 40 i20)), .int (nI ((jS τ i20).1 (τ 39 i20))), .int (nI (τ 10 (τ 39 i20))), .int (nI (τ 11 (τ 39 i20)))]) (rest := []) C0 hN (xX_mayGo l D dT ad nS τ β  (τ 40 i20) ((jS τ i20).1 (τ 39 i20)) (τ 10 (τ 39 i20)) (τ 11 (τ 39 i20)) hβ hw hp (by omega) (by omega) (by omega) (by omega) (by omega)) (q0 := 0) (j := 0) (ci := 1) (C := RX0) (T := TX0) (N := 14) (xCode (by omega)) rfl rfl q766 q768 qs16 q57 q769 (by decide +kernel) ⟨Nat.le_of_ble_eq_true rfl, Nat.le_of_ble_eq_true rfl⟩ rfl rfl ⟨Nat.le_of_ble_eq_true rfl, Nat.le_of_ble_eq_true rfl⟩ rfl rfl (Nat.le_of_ble_eq_true rfl) dX0_judge_76 (fun r β hc => ?_)
      obtain ⟨rfl, hβ, he⟩ := hc
      have hψ : (∀ q, q < τ 0 8 → β 15 q = (jS τ i20).1 q) ∧ (jS τ i20).2 = none := ⟨fun q hq => by rw [he 15 (by decide)]; exact hψ.1 q hq, hψ.2⟩
      refine g_if_neB (pc := 79) 84 C0 dX0_judge_79 (by decide) (fun h79 => ?_) (fun h79 => ?_)
      · refine g_aload_n (pc := 84) 0 C0 rfl dX0_judge_84 rfl ?_
        refine g_get (pc := 85) (v := .ref (ad 15)) C0 (C := RX0) (T := TX0) (N := 14) (ci := 1) (q0 := 0) (j := 0) 12 (xCode (by omega)) rfl rfl in_X0 (by decide) q195 rfl dX0_judge_85 ?_
        refine g_iload_n (pc := 88) 2 C0 rfl dX0_judge_88 rfl ?_
        refine g_aload_n (pc := 89) 0 C0 rfl dX0_judge_89 rfl ?_
        refine g_get (pc := 90) (v := .ref (ad 4)) C0 (C := RX0) (T := TX0) (N := 14) (ci := 1) (q0 := 0) (j := 0) 0 (xCode (by omega)) rfl rfl in_X0 (by decide) q183 rfl dX0_judge_90 ?_
        refine g_getN (pc := 93) (v := .ref (ad 17)) C0 hN (C := RX1) (T := TX1) (N := 7) (ci := 2) (q0 := 4) (j := 4) 1 (xCode (by omega)) rfl rfl in_X1 (by decide) q100 rfl dX0_judge_93 ?_
        refine g_iload_n (pc := 96) 3 C0 rfl dX0_judge_96 rfl ?_
        refine g_aald (pc := 97) (q0 := 17) (j := 17) (t0 := 5) (N := 10) (jr := 90 + 2 * (τ 40 i20)) C0 (τ 40 i20) (xCode (by omega)) rfl rfl (by decide) (by omega) (xst_f (by omega)) dX0_judge_97 ?_
        refine g_aload_n (pc := 98) 0 C0 rfl dX0_judge_98 rfl ?_
        refine g_get (pc := 99) (v := .ref (ad 15)) C0 (C := RX0) (T := TX0) (N := 14) (ci := 1) (q0 := 0) (j := 0) 12 (xCode (by omega)) rfl rfl in_X0 (by decide) q195 rfl dX0_judge_99 ?_
        refine g_iload_n (pc := 102) 2 C0 rfl dX0_judge_102 rfl ?_
        refine g_ialdV (pc := 103) (q0 := 15) (j := 15) (t0 := 0) (N := 8) (v := ((jS τ i20).1 (τ 39 i20))) C0 (τ 39 i20) (xCode (by omega)) (fun _ => rfl) rfl (by decide) (by omega) (hψ.1 _ p2h) dX0_judge_103 ?_
        refine g_stU (pc := 104) (r := (τ 40 i20)) (na := 1) (As := [.int (nI ((jS τ i20).1 (τ 39 i20)))]) (rest := [.int (nI (τ 39 i20)), .ref (ad 15)]) C0 hN hβ (by omega) (hw.2.2 (τ 40 i20) (by omega)).1 (xS_other l D dT ad nS τ β (τ 40 i20) ((jS τ i20).1 (τ 39 i20)) hβ hw (by omega) (by omega)) q770 q773 q772 q775 q774 q771 q75 q776 (by decide +kernel) ⟨Nat.le_of_ble_eq_true rfl, Nat.le_of_ble_eq_true rfl⟩ rfl rfl ⟨Nat.le_of_ble_eq_true rfl, Nat.le_of_ble_eq_true rfl⟩ rfl rfl (Nat.le_of_ble_eq_true rfl) dX0_judge_104 (fun r β0 hc => ?_)
        obtain ⟨rfl, rfl⟩ := hc
        obtain ⟨o1, o2⟩ := jS_go hψ.2 p2h h79
        refine G.stE (st' := [.int (nI (goOther (upr τ 9 (jS τ i20).1) (τ 39 i20) (τ 40 i20))), .int (nI (τ 39 i20)), .ref (ad 15)]) (by rw [o1]) ?_
        refine g_iast (pc := 107) (q0 := 15) (j := 15) (t0 := 0) (N := 8) C0 (τ 39 i20) (goOther (upr τ 9 (jS τ i20).1) (τ 39 i20) (τ 40 i20)) (xNd hβ.n10) (xCode (by omega)) (fun _ => rfl) rfl (by decide) (by omega) dX0_judge_107 ?_
        refine G.nmX (Φ := fun β => RX nS β τ ∧ ((∀ q, q < τ 0 8 → β 15 q = (jS τ (i20 + 1)).1 q) ∧ (jS τ (i20 + 1)).2 = none)) (wsf := fun β => xW dT ad nS β) ⟨hβ.scr1 _ _ _ (Or.inl rfl), by rw [o2]; exact ⟨fun q hq => by rw [upc_s]; exact upn2 (hψ.1 q hq), rfl⟩⟩ (fun β hβ => ?_)
        obtain ⟨hβ, hψ⟩ := hβ
        refine g_iinc1 (pc := 108) 1 C0 (L1 := [some (.ref (ad 0)), some (.int (nI (i20 + 1))), some (.int (nI (τ 39 i20))), some (.int (nI (τ 40 i20)))]) rfl rfl (by decide) dX0_judge_108 rfl ?_
        refine g_goto (pc := 111) 20 C0 dX0_judge_111 (by decide) ?_
        refine G.forget 2 ?_
        refine G.forget 3 ?_
        exact ih20 β ⟨hβ, hψ⟩
      · refine g_iload_n (pc := 82) 1 C0 rfl dX0_judge_82 rfl ?_
        exact g_iret (pc := 83) C0 dX0_judge_83 ⟨by rw [pJudge, jS_no hi20 hψ.2 (fun _ => h79)]; rfl, hβ⟩
