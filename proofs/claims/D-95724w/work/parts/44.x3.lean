/-! X, third module -/
set_option maxRecDepth 100000
set_option maxHeartbeats 4000000 in
set_option maxRecDepth 100000 in
theorem xX_fault (l : Launch) (D : va_G) (dT : Nat → ClassId) (ad : Nat → Nat) (nS : Nat) (τ β : tT)   (hβ : RX nS β τ)  : XI l D dT ad nS yX0_fault cX0_fault 1 .int ({ frames := 0, cells := 0, slots := 0, locals := 0 }) [.ref (ad 0)] β (fun rr β' => rr = (nI (τ 0 16)) ∧ β = β') := by
  refine XI.ofG (own := "FittingStrides") (L := [some (.ref (ad 0))]) rfl (by decide) (Nat.le_of_ble_eq_true rfl) rfl ?_
  intro p' e' s' m' bl' mt' c' C0 hN
  refine g_aload_n (pc := 0) 0 C0 rfl dX0_fault_0 rfl ?_
  refine g_get (pc := 1) (v := .int (nI (τ 0 16))) C0 (C := RX0) (T := TX0) (N := 14) (ci := 1) (q0 := 0) (j := 0) 10 (xCode (by omega)) rfl rfl in_X0 (by decide) q193 (xv hβ.f0_10) dX0_fault_1 ?_
  exact g_iret (pc := 4) C0 dX0_fault_4 ⟨rfl, rfl⟩
set_option maxHeartbeats 4000000 in
set_option maxRecDepth 100000 in
theorem xX_reach (l : Launch) (D : va_G) (dT : Nat → ClassId) (ad : Nat → Nat) (nS : Nat) (τ β : tT)  (x : Int32) (z : Int32) (hβ : RX nS β τ) (hw : wfT τ) (hp : wfP τ) : XI l D dT ad nS yX0_reach cX0_reach 3 .int ({ frames := 5, cells := 0, slots := 0, locals := 162 }) [.ref (ad 0), .int x, .int z] β (fun rr β' => rr = (pReach τ x z) ∧ RX nS β' τ) := by
  refine XI.ofG (own := "FittingStrides") (L := [some (.ref (ad 0)), some (.int x), some (.int z)]) rfl (by decide) (Nat.le_of_ble_eq_true rfl) rfl ?_
  intro p' e' s' m' bl' mt' c' C0 hN
  have hn := hβ.n
  have hn10 := hβ.n10
  have hw1 := hw.1
  have hw0 := hw.2.1
  have hp0 := hp.1
  have hp1 := hp.2.1
  refine g_aload_n (pc := 0) 0 C0 rfl dX0_reach_0 rfl ?_
  refine g_iload_n (pc := 1) 1 C0 rfl dX0_reach_1 rfl ?_
  refine g_cviX (pc := 2) (na := 1) (As := [.int x]) (rest := []) C0 hN (xX_isPlace l D dT ad nS τ β  x hβ (by omega)) (q0 := 0) (j := 0) (ci := 1) (C := RX0) (T := TX0) (N := 14) (xCode (by omega)) rfl rfl q838 q840 qs22 q57 q841 (by decide +kernel) ⟨Nat.le_of_ble_eq_true rfl, Nat.le_of_ble_eq_true rfl⟩ rfl rfl ⟨Nat.le_of_ble_eq_true rfl, Nat.le_of_ble_eq_true rfl⟩ rfl rfl (Nat.le_of_ble_eq_true rfl) dX0_reach_2 (fun r β0 hc => ?_)
  obtain ⟨rfl, rfl⟩ := hc
  refine g_if_neB (pc := 5) 11 C0 dX0_reach_5 (by decide) (fun h5 => ?_) (fun h5 => ?_)
  · obtain ⟨x1, rfl, x1h, x1b⟩ := ixB_t h5
    refine g_iload_n (pc := 11) 2 C0 rfl dX0_reach_11 rfl ?_
    refine g_iconst (pc := 12) (v := (nI 1)) C0 dX0_reach_12 (by decide) ?_
    refine g_bipush (pc := 13) (v := (nI 24)) C0 dX0_reach_13 (by decide) ?_
    refine g_csi (pc := 15) (na := 3) (As := [.int z, .int (nI 1), .int (nI 24)]) (rest := []) C0 (xX_isIn l z (nI 1) (nI 24) ) q232 q233 q57 q234 (by decide +kernel) ⟨Nat.le_of_ble_eq_true rfl, Nat.le_of_ble_eq_true rfl⟩ rfl rfl ⟨Nat.le_of_ble_eq_true rfl, Nat.le_of_ble_eq_true rfl⟩ rfl rfl (Nat.le_of_ble_eq_true rfl) dX0_reach_15 ?_
    refine g_if_eqB (pc := 18) 31 C0 dX0_reach_18 (by decide) (fun h18 => ?_) (fun h18 => ?_)
    · rw [isInB_rg z (lo := 1) (hi := 24) (by decide) (by decide)] at h18
      refine g_ldc (pc := 31) (v := -1000000002) C0 q235 dX0_reach_31 ?_
      exact g_iret (pc := 33) C0 dX0_reach_33 ⟨by rw [pReach, if_pos h5, h18]; rfl, hβ⟩
    · rw [isInB_rg z (lo := 1) (hi := 24) (by decide) (by decide)] at h18
      obtain ⟨z1, rfl, z1l, z1h, z1b⟩ := rgB_t h18
      refine g_aload_n (pc := 21) 0 C0 rfl dX0_reach_21 rfl ?_
      refine g_iload_n (pc := 22) 1 C0 rfl dX0_reach_22 rfl ?_
      refine g_iload_n (pc := 23) 2 C0 rfl dX0_reach_23 rfl ?_
      refine g_iconst (pc := 24) (v := (nI 0)) C0 dX0_reach_24 (by decide) ?_
      refine g_cviX (pc := 25) (na := 3) (As := [.int (nI x1), .int (nI z1), .int (nI 0)]) (rest := []) C0 hN (xX_reachOf l D dT ad nS τ β  x1 z1 0 hβ hw hp (by omega) (by omega) (by omega) (by omega)) (q0 := 0) (j := 0) (ci := 1) (C := RX0) (T := TX0) (N := 14) (xCode (by omega)) rfl rfl q759 q761 qs15 q57 q762 (by decide +kernel) ⟨Nat.le_of_ble_eq_true rfl, Nat.le_of_ble_eq_true rfl⟩ rfl rfl ⟨Nat.le_of_ble_eq_true rfl, Nat.le_of_ble_eq_true rfl⟩ rfl rfl (Nat.le_of_ble_eq_true rfl) dX0_reach_25 (fun r β hc => ?_)
      obtain ⟨rfl, hβ, he⟩ := hc
      refine g_goto (pc := 28) 33 C0 dX0_reach_28 (by decide) ?_
      exact g_iret (pc := 33) C0 dX0_reach_33 ⟨by rw [pReach, if_pos h5, if_pos h18, nI_clamp x1b, nI_clamp z1b], hβ⟩
  · refine g_ldc (pc := 8) (v := -1000000001) C0 q704 dX0_reach_8 ?_
    exact g_iret (pc := 10) C0 dX0_reach_10 ⟨by rw [pReach, h5]; rfl, hβ⟩
set_option maxHeartbeats 4000000 in
set_option maxRecDepth 100000 in
theorem xX_guests (l : Launch) (D : va_G) (dT : Nat → ClassId) (ad : Nat → Nat) (nS : Nat) (τ β : tT)  (q : Int32) (hβ : RX nS β τ) (hw : wfT τ) (hp : wfP τ) : XI l D dT ad nS yX0_guests cX0_guests 4 .int ({ frames := 6, cells := 0, slots := 0, locals := 183 }) [.ref (ad 0), .int q] β (fun rr β' => rr = (pGuests τ q) ∧ RX nS β' τ) := by
  refine XI.ofG (own := "FittingStrides") (L := [some (.ref (ad 0)), some (.int q), none, none]) rfl (by decide) (Nat.le_of_ble_eq_true rfl) rfl ?_
  intro p' e' s' m' bl' mt' c' C0 hN
  have hn := hβ.n
  have hn10 := hβ.n10
  have hw1 := hw.1
  have hw0 := hw.2.1
  have hp0 := hp.1
  have hp1 := hp.2.1
  refine g_aload_n (pc := 0) 0 C0 rfl dX0_guests_0 rfl ?_
  refine g_iload_n (pc := 1) 1 C0 rfl dX0_guests_1 rfl ?_
  refine g_cviX (pc := 2) (na := 1) (As := [.int q]) (rest := []) C0 hN (xX_isPerson l D dT ad nS τ β  q hβ (by omega)) (q0 := 0) (j := 0) (ci := 1) (C := RX0) (T := TX0) (N := 14) (xCode (by omega)) rfl rfl q751 q753 qs13 q57 q754 (by decide +kernel) ⟨Nat.le_of_ble_eq_true rfl, Nat.le_of_ble_eq_true rfl⟩ rfl rfl ⟨Nat.le_of_ble_eq_true rfl, Nat.le_of_ble_eq_true rfl⟩ rfl rfl (Nat.le_of_ble_eq_true rfl) dX0_guests_2 (fun r β0 hc => ?_)
  obtain ⟨rfl, rfl⟩ := hc
  refine g_if_neB (pc := 5) 11 C0 dX0_guests_5 (by decide) (fun h5 => ?_) (fun h5 => ?_)
  · obtain ⟨q1, rfl, q1h, q1b⟩ := ixB_t h5
    obtain ⟨g1, g2, g3, g4⟩ := hp.2.2 q1 q1h
    refine g_iconst (pc := 11) (v := (nI 0)) C0 dX0_guests_11 (by decide) ?_
    refine g_istore_n (pc := 12) 2 C0 (L1 := [some (.ref (ad 0)), some (.int (nI q1)), some (.int (nI 0)), none]) rfl (by decide) dX0_guests_12 rfl rfl ?_
    refine g_iconst (pc := 13) (v := (nI 0)) C0 dX0_guests_13 (by decide) ?_
    refine g_istore_n (pc := 14) 3 C0 (L1 := [some (.ref (ad 0)), some (.int (nI q1)), some (.int (nI 0)), some (.int (nI 0))]) rfl (by decide) dX0_guests_14 rfl rfl ?_
    refine G.loopX (pc := 15) (Φ := fun i β => RX nS β τ) (wsf := fun β => xW dT ad nS β) (Lf := fun i => [some (.ref (ad 0)), some (.int (nI q1)), some (.int (nI (orS (sGuest τ q1) i))), some (.int (nI i))]) (N := τ 0 8) (i0 := 0) β hβ (Nat.zero_le _) (fun β hβ => ?_) (fun i15 β hi15 hj15 hβ ih15 => ?_)
    · refine g_iload_n (pc := 15) 3 C0 rfl dX0_guests_15 rfl ?_
      refine g_aload_n (pc := 16) 0 C0 rfl dX0_guests_16 rfl ?_
      refine g_get (pc := 17) (v := .ref (ad 1)) C0 (C := RX0) (T := TX0) (N := 14) (ci := 1) (q0 := 0) (j := 0) 1 (xCode (by omega)) rfl rfl in_X0 (by decide) q184 rfl dX0_guests_17 ?_
      refine g_getN (pc := 20) (v := .int (nI (τ 0 8))) C0 hN (C := RX2) (T := TX2) (N := 10) (ci := 3) (q0 := 1) (j := 1) 3 (xCode (by omega)) rfl rfl in_X2 (by decide) q146 (xv hβ.f1_3) dX0_guests_20 ?_
      refine g_icmp_geN (pc := 23) 67 C0 (by omega) (by omega) dX0_guests_23 (by decide) (fun h23 => ?_) (fun h23 => ?_)
      rotate_left
      · exact absurd h23 (by omega)
      refine g_iload_n (pc := 67) 2 C0 rfl dX0_guests_67 rfl ?_
      exact g_iret (pc := 68) C0 dX0_guests_68 ⟨by rw [pGuests, if_pos h5, nI_clamp q1b], hβ⟩
    · have hrl := reachP_lt hw hp hi15
      refine g_iload_n (pc := 15) 3 C0 rfl dX0_guests_15 rfl ?_
      refine g_aload_n (pc := 16) 0 C0 rfl dX0_guests_16 rfl ?_
      refine g_get (pc := 17) (v := .ref (ad 1)) C0 (C := RX0) (T := TX0) (N := 14) (ci := 1) (q0 := 0) (j := 0) 1 (xCode (by omega)) rfl rfl in_X0 (by decide) q184 rfl dX0_guests_17 ?_
      refine g_getN (pc := 20) (v := .int (nI (τ 0 8))) C0 hN (C := RX2) (T := TX2) (N := 10) (ci := 3) (q0 := 1) (j := 1) 3 (xCode (by omega)) rfl rfl in_X2 (by decide) q146 (xv hβ.f1_3) dX0_guests_20 ?_
      refine g_icmp_geN (pc := 23) 67 C0 (by omega) (by omega) dX0_guests_23 (by decide) (fun h23 => ?_) (fun h23 => ?_)
      · exact absurd h23 (by omega)
      refine g_iload_n (pc := 26) 2 C0 rfl dX0_guests_26 rfl ?_
      refine G.joinX (Φ := fun β => RX nS β τ) (wsf := fun β => xW dT ad nS β) (pcJ := 59) (LJ := [some (.ref (ad 0)), some (.int (nI q1)), some (.int (nI (orS (sGuest τ q1) i15))), some (.int (nI i15))]) (stJ := [.int (nI (orS (sGuest τ q1) i15))]) (nI (sGuest τ q1 i15)) (fun β hβ => ?_) (fun J59 => ?_)
      · refine g_iorN (pc := 59) C0  dX0_guests_59 ?_
        refine g_istore_n (pc := 60) 2 C0 (L1 := [some (.ref (ad 0)), some (.int (nI q1)), some (.int (nI ((orS (sGuest τ q1) i15) ||| (sGuest τ q1 i15)))), some (.int (nI i15))]) rfl (by decide) dX0_guests_60 rfl rfl ?_
        refine g_iinc1 (pc := 61) 3 C0 (L1 := [some (.ref (ad 0)), some (.int (nI q1)), some (.int (nI ((orS (sGuest τ q1) i15) ||| (sGuest τ q1 i15)))), some (.int (nI (i15 + 1)))]) rfl rfl (by decide) dX0_guests_61 rfl ?_
        refine g_goto (pc := 64) 15 C0 dX0_guests_64 (by decide) ?_
        exact ih15 β hβ
      · refine g_iload_n (pc := 27) 3 C0 rfl dX0_guests_27 rfl ?_
        refine g_iload_n (pc := 28) 1 C0 rfl dX0_guests_28 rfl ?_
        refine g_icmp_eqN (pc := 29) 58 C0 (by omega) (by omega) dX0_guests_29 (by decide) (fun h29 => ?_) (fun h29 => ?_)
        · refine g_iconst (pc := 58) (v := (nI 0)) C0 dX0_guests_58 (by decide) ?_
          exact J59 β hβ (nI 0) (congrArg nI (by simp [sGuest, h5, nI_clamp q1b, h29]))
        · refine g_aload_n (pc := 32) 0 C0 rfl dX0_guests_32 rfl ?_
          refine g_iload_n (pc := 33) 3 C0 rfl dX0_guests_33 rfl ?_
          refine g_cviX (pc := 34) (na := 1) (As := [.int (nI i15)]) (rest := [.int (nI (orS (sGuest τ q1) i15))]) C0 hN (xX_reachOfPerson l D dT ad nS τ β  i15 hβ hw hp (by omega)) (q0 := 0) (j := 0) (ci := 1) (C := RX0) (T := TX0) (N := 14) (xCode (by omega)) rfl rfl q755 q757 qs14 q57 q758 (by decide +kernel) ⟨Nat.le_of_ble_eq_true rfl, Nat.le_of_ble_eq_true rfl⟩ rfl rfl ⟨Nat.le_of_ble_eq_true rfl, Nat.le_of_ble_eq_true rfl⟩ rfl rfl (Nat.le_of_ble_eq_true rfl) dX0_guests_34 (fun r β hc => ?_)
          obtain ⟨rfl, hβ, he⟩ := hc
          refine g_aload_n (pc := 37) 0 C0 rfl dX0_guests_37 rfl ?_
          refine g_get (pc := 38) (v := .ref (ad 1)) C0 (C := RX0) (T := TX0) (N := 14) (ci := 1) (q0 := 0) (j := 0) 1 (xCode (by omega)) rfl rfl in_X0 (by decide) q184 rfl dX0_guests_38 ?_
          refine g_getN (pc := 41) (v := .ref (ad 5)) C0 hN (C := RX2) (T := TX2) (N := 10) (ci := 3) (q0 := 1) (j := 1) 0 (xCode (by omega)) rfl rfl in_X2 (by decide) q140 rfl dX0_guests_41 ?_
          refine g_iload_n (pc := 44) 1 C0 rfl dX0_guests_44 rfl ?_
          refine g_ialdV (pc := 45) (q0 := 5) (j := 5) (t0 := 0) (N := 8) (v := (τ 9 q1)) C0 q1 (xCode (by omega)) (fun _ => rfl) rfl (by decide) (by omega) (hβ.a5 (by omega)) dX0_guests_45 ?_
          refine g_csi (pc := 46) (na := 2) (As := [.int (nI (reachP τ i15)), .int (nI (τ 9 q1))]) (rest := [.int (nI (orS (sGuest τ q1) i15))]) C0 (xX_has l (reachP τ i15) (τ 9 q1) (by omega) (by omega)) q763 q764 q57 q765 (by decide +kernel) ⟨Nat.le_of_ble_eq_true rfl, Nat.le_of_ble_eq_true rfl⟩ rfl rfl ⟨Nat.le_of_ble_eq_true rfl, Nat.le_of_ble_eq_true rfl⟩ rfl rfl (Nat.le_of_ble_eq_true rfl) dX0_guests_46 ?_
          refine g_if_eqB (pc := 49) 58 C0 dX0_guests_49 (by decide) (fun h49 => ?_) (fun h49 => ?_)
          · refine g_iconst (pc := 58) (v := (nI 0)) C0 dX0_guests_58 (by decide) ?_
            exact J59 β hβ (nI 0) (congrArg nI (by simp [sGuest, h5, nI_clamp q1b, h29, h49]))
          · refine g_iconst (pc := 52) (v := (nI 1)) C0 dX0_guests_52 (by decide) ?_
            refine g_iload_n (pc := 53) 3 C0 rfl dX0_guests_53 rfl ?_
            refine g_ishl1N (pc := 54) C0 (by omega) dX0_guests_54 ?_
            refine g_goto (pc := 55) 59 C0 dX0_guests_55 (by decide) ?_
            exact J59 β hβ (nI (2 ^ i15)) (congrArg nI (by simp [sGuest, h5, nI_clamp q1b, h29, h49]))
  · refine g_ldc (pc := 8) (v := -1000000001) C0 q704 dX0_guests_8 ?_
    exact g_iret (pc := 10) C0 dX0_guests_10 ⟨by rw [pGuests, h5]; rfl, hβ⟩
set_option maxHeartbeats 4000000 in
set_option maxRecDepth 100000 in
theorem xX_isSet (l : Launch) (D : va_G) (dT : Nat → ClassId) (ad : Nat → Nat) (nS : Nat) (τ β : tT)  (x : Int32) (hβ : RX nS β τ) (hp0 : τ 0 8 ≤ 8) : XI l D dT ad nS yX0_isSet cX0_isSet 2 .boolean ({ frames := 1, cells := 0, slots := 0, locals := 22 }) [.ref (ad 0), .int x] β (fun rr β' => rr = (nI (bN (ixB x (2 ^ τ 0 8)))) ∧ β = β') := by
  refine XI.ofG (own := "FittingStrides") (L := [some (.ref (ad 0)), some (.int x)]) rfl (by decide) (Nat.le_of_ble_eq_true rfl) rfl ?_
  intro p' e' s' m' bl' mt' c' C0 hN
  have hpw := pw_lt hp0
  refine g_iload_n (pc := 0) 1 C0 rfl dX0_isSet_0 rfl ?_
  refine g_iconst (pc := 1) (v := (nI 0)) C0 dX0_isSet_1 (by decide) ?_
  refine g_iconst (pc := 2) (v := (nI 1)) C0 dX0_isSet_2 (by decide) ?_
  refine g_aload_n (pc := 3) 0 C0 rfl dX0_isSet_3 rfl ?_
  refine g_get (pc := 4) (v := .ref (ad 1)) C0 (C := RX0) (T := TX0) (N := 14) (ci := 1) (q0 := 0) (j := 0) 1 (xCode (by omega)) rfl rfl in_X0 (by decide) q184 rfl dX0_isSet_4 ?_
  refine g_getN (pc := 7) (v := .int (nI (τ 0 8))) C0 hN (C := RX2) (T := TX2) (N := 10) (ci := 3) (q0 := 1) (j := 1) 3 (xCode (by omega)) rfl rfl in_X2 (by decide) q146 (xv hβ.f1_3) dX0_isSet_7 ?_
  refine g_ishl1N (pc := 10) C0 (by omega) dX0_isSet_10 ?_
  refine g_iconst (pc := 11) (v := (nI 1)) C0 dX0_isSet_11 (by decide) ?_
  refine g_isub (pc := 12) C0 dX0_isSet_12 ?_
  refine g_csi (pc := 13) (na := 3) (As := [.int x, .int (nI 0), .int ((nI (2 ^ (τ 0 8))) - (nI 1))]) (rest := []) C0 (xX_isIn l x (nI 0) ((nI (2 ^ (τ 0 8))) - (nI 1)) ) q232 q233 q57 q234 (by decide +kernel) ⟨Nat.le_of_ble_eq_true rfl, Nat.le_of_ble_eq_true rfl⟩ rfl rfl ⟨Nat.le_of_ble_eq_true rfl, Nat.le_of_ble_eq_true rfl⟩ rfl rfl (Nat.le_of_ble_eq_true rfl) dX0_isSet_13 ?_
  exact g_zret (pc := 16) C0 dX0_isSet_16 (nar_bN _) ⟨congrArg nI (congrArg bN (isInB_ix x _ hpw)), rfl⟩
set_option maxHeartbeats 4000000 in
set_option maxRecDepth 100000 in
theorem xX_multipleOf (l : Launch) (D : va_G) (dT : Nat → ClassId) (ad : Nat → Nat) (nS : Nat) (τ β : tT)  (set : Nat) (hβ : RX nS β τ) (hp : wfP τ) (hset : set < 2 ^ 31) : XI l D dT ad nS yX0_multipleOf cX0_multipleOf 4 .int ({ frames := 1, cells := 0, slots := 0, locals := 24 }) [.ref (ad 0), .int (nI set)] β (fun rr β' => rr = (nI (mulN τ set (τ 0 8))) ∧ β = β') := by
  refine XI.ofG (own := "FittingStrides") (L := [some (.ref (ad 0)), some (.int (nI set)), none, none]) rfl (by decide) (Nat.le_of_ble_eq_true rfl) rfl ?_
  intro p' e' s' m' bl' mt' c' C0 hN
  have hp0 := hp.1
  refine g_iconst (pc := 0) (v := (nI 1)) C0 dX0_multipleOf_0 (by decide) ?_
  refine g_istore_n (pc := 1) 2 C0 (L1 := [some (.ref (ad 0)), some (.int (nI set)), some (.int (nI 1)), none]) rfl (by decide) dX0_multipleOf_1 rfl rfl ?_
  refine g_iconst (pc := 2) (v := (nI 0)) C0 dX0_multipleOf_2 (by decide) ?_
  refine g_istore_n (pc := 3) 3 C0 (L1 := [some (.ref (ad 0)), some (.int (nI set)), some (.int (nI 1)), some (.int (nI 0))]) rfl (by decide) dX0_multipleOf_3 rfl rfl ?_
  refine G.loop (pc := 4) (ws := fun i => xW dT ad nS β) (Lf := fun i => [some (.ref (ad 0)), some (.int (nI set)), some (.int (nI (mulN τ set i))), some (.int (nI i))]) (N := τ 0 8) (i0 := 0) (Nat.zero_le _) ?_ (fun i4 hi4 hj4 ih4 => ?_)
  · refine g_iload_n (pc := 4) 3 C0 rfl dX0_multipleOf_4 rfl ?_
    refine g_aload_n (pc := 5) 0 C0 rfl dX0_multipleOf_5 rfl ?_
    refine g_get (pc := 6) (v := .ref (ad 1)) C0 (C := RX0) (T := TX0) (N := 14) (ci := 1) (q0 := 0) (j := 0) 1 (xCode (by omega)) rfl rfl in_X0 (by decide) q184 rfl dX0_multipleOf_6 ?_
    refine g_getN (pc := 9) (v := .int (nI (τ 0 8))) C0 hN (C := RX2) (T := TX2) (N := 10) (ci := 3) (q0 := 1) (j := 1) 3 (xCode (by omega)) rfl rfl in_X2 (by decide) q146 (xv hβ.f1_3) dX0_multipleOf_9 ?_
    refine g_icmp_geN (pc := 12) 65 C0 (by omega) (by omega) dX0_multipleOf_12 (by decide) (fun h12 => ?_) (fun h12 => ?_)
    rotate_left
    · exact absurd h12 (by omega)
    refine g_iload_n (pc := 65) 2 C0 rfl dX0_multipleOf_65 rfl ?_
    exact g_iret (pc := 66) C0 dX0_multipleOf_66 ⟨rfl, rfl⟩
  · obtain ⟨g1, g2, g3, g4⟩ := hp.2.2 i4 hi4
    obtain ⟨m1, m2⟩ := mulN_ok hp set i4 (by omega)
    have hgp : 0 < Nat.gcd (mulN τ set i4) (τ 10 i4) := Nat.gcd_pos_of_pos_left _ m1
    have hgl : Nat.gcd (mulN τ set i4) (τ 10 i4) ≤ 2400000 := Nat.le_trans (Nat.le_of_dvd m1 (Nat.gcd_dvd_left _ _)) m2
    refine g_iload_n (pc := 4) 3 C0 rfl dX0_multipleOf_4 rfl ?_
    refine g_aload_n (pc := 5) 0 C0 rfl dX0_multipleOf_5 rfl ?_
    refine g_get (pc := 6) (v := .ref (ad 1)) C0 (C := RX0) (T := TX0) (N := 14) (ci := 1) (q0 := 0) (j := 0) 1 (xCode (by omega)) rfl rfl in_X0 (by decide) q184 rfl dX0_multipleOf_6 ?_
    refine g_getN (pc := 9) (v := .int (nI (τ 0 8))) C0 hN (C := RX2) (T := TX2) (N := 10) (ci := 3) (q0 := 1) (j := 1) 3 (xCode (by omega)) rfl rfl in_X2 (by decide) q146 (xv hβ.f1_3) dX0_multipleOf_9 ?_
    refine g_icmp_geN (pc := 12) 65 C0 (by omega) (by omega) dX0_multipleOf_12 (by decide) (fun h12 => ?_) (fun h12 => ?_)
    · exact absurd h12 (by omega)
    refine G.join (pcJ := 58) (wsJ := xW dT ad nS β) (LJ := [some (.ref (ad 0)), some (.int (nI set)), some (.int (nI (mulN τ set i4))), some (.int (nI i4))]) (stJ := []) (nI (mulN τ set (i4 + 1))) ?_ (fun J58 => ?_)
    · refine g_istore_n (pc := 58) 2 C0 (L1 := [some (.ref (ad 0)), some (.int (nI set)), some (.int (nI (mulN τ set (i4 + 1)))), some (.int (nI i4))]) rfl (by decide) dX0_multipleOf_58 rfl rfl ?_
      refine g_iinc1 (pc := 59) 3 C0 (L1 := [some (.ref (ad 0)), some (.int (nI set)), some (.int (nI (mulN τ set (i4 + 1)))), some (.int (nI (i4 + 1)))]) rfl rfl (by decide) dX0_multipleOf_59 rfl ?_
      refine g_goto (pc := 62) 4 C0 dX0_multipleOf_62 (by decide) ?_
      exact ih4
    · refine g_iload_n (pc := 15) 1 C0 rfl dX0_multipleOf_15 rfl ?_
      refine g_iload_n (pc := 16) 3 C0 rfl dX0_multipleOf_16 rfl ?_
      refine g_csi (pc := 17) (na := 2) (As := [.int (nI set), .int (nI i4)]) (rest := []) C0 (xX_has l set i4 (by omega) (by omega)) q763 q764 q57 q765 (by decide +kernel) ⟨Nat.le_of_ble_eq_true rfl, Nat.le_of_ble_eq_true rfl⟩ rfl rfl ⟨Nat.le_of_ble_eq_true rfl, Nat.le_of_ble_eq_true rfl⟩ rfl rfl (Nat.le_of_ble_eq_true rfl) dX0_multipleOf_17 ?_
      refine g_if_eqB (pc := 20) 57 C0 dX0_multipleOf_20 (by decide) (fun h20 => ?_) (fun h20 => ?_)
      · refine g_iload_n (pc := 57) 2 C0 rfl dX0_multipleOf_57 rfl ?_
        exact J58 (nI (mulN τ set i4)) (congrArg nI (by rw [mulN_s]; simp [h20] <;> omega))
      · refine g_iload_n (pc := 23) 2 C0 rfl dX0_multipleOf_23 rfl ?_
        have c24 : Jvm.Cond.constant "FittingStrides" 229 (nI 100000) ∈ lw_all := q858
        refine g_ldc (pc := 24) (v := nI 100000) C0 c24 dX0_multipleOf_24 ?_
        refine g_icmp_gtN (pc := 26) 57 C0 (by omega) (by decide) dX0_multipleOf_26 (by decide) (fun h26 => ?_) (fun h26 => ?_)
        · refine g_iload_n (pc := 57) 2 C0 rfl dX0_multipleOf_57 rfl ?_
          exact J58 (nI (mulN τ set i4)) (congrArg nI (by rw [mulN_s]; simp [h20, h26] <;> omega))
        · refine g_iload_n (pc := 29) 2 C0 rfl dX0_multipleOf_29 rfl ?_
          refine g_iload_n (pc := 30) 2 C0 rfl dX0_multipleOf_30 rfl ?_
          refine g_aload_n (pc := 31) 0 C0 rfl dX0_multipleOf_31 rfl ?_
          refine g_get (pc := 32) (v := .ref (ad 1)) C0 (C := RX0) (T := TX0) (N := 14) (ci := 1) (q0 := 0) (j := 0) 1 (xCode (by omega)) rfl rfl in_X0 (by decide) q184 rfl dX0_multipleOf_32 ?_
          refine g_getN (pc := 35) (v := .ref (ad 6)) C0 hN (C := RX2) (T := TX2) (N := 10) (ci := 3) (q0 := 1) (j := 1) 1 (xCode (by omega)) rfl rfl in_X2 (by decide) q142 rfl dX0_multipleOf_35 ?_
          refine g_iload_n (pc := 38) 3 C0 rfl dX0_multipleOf_38 rfl ?_
          refine g_ialdV (pc := 39) (q0 := 6) (j := 6) (t0 := 0) (N := 8) (v := (τ 10 i4)) C0 i4 (xCode (by omega)) (fun _ => rfl) rfl (by decide) (by omega) (hβ.a6 (by omega)) dX0_multipleOf_39 ?_
          refine g_csi (pc := 40) (na := 2) (As := [.int (nI (mulN τ set i4)), .int (nI (τ 10 i4))]) (rest := [.int (nI (mulN τ set i4))]) C0 (xX_common l (mulN τ set i4) (τ 10 i4) (by omega) (by omega)) q859 q860 q57 q861 (by decide +kernel) ⟨Nat.le_of_ble_eq_true rfl, Nat.le_of_ble_eq_true rfl⟩ rfl rfl ⟨Nat.le_of_ble_eq_true rfl, Nat.le_of_ble_eq_true rfl⟩ rfl rfl (Nat.le_of_ble_eq_true rfl) dX0_multipleOf_40 ?_
          refine g_idivN (pc := 43) C0 (by omega) hgp (by omega) dX0_multipleOf_43 ?_
          refine g_aload_n (pc := 44) 0 C0 rfl dX0_multipleOf_44 rfl ?_
          refine g_get (pc := 45) (v := .ref (ad 1)) C0 (C := RX0) (T := TX0) (N := 14) (ci := 1) (q0 := 0) (j := 0) 1 (xCode (by omega)) rfl rfl in_X0 (by decide) q184 rfl dX0_multipleOf_45 ?_
          refine g_getN (pc := 48) (v := .ref (ad 6)) C0 hN (C := RX2) (T := TX2) (N := 10) (ci := 3) (q0 := 1) (j := 1) 1 (xCode (by omega)) rfl rfl in_X2 (by decide) q142 rfl dX0_multipleOf_48 ?_
          refine g_iload_n (pc := 51) 3 C0 rfl dX0_multipleOf_51 rfl ?_
          refine g_ialdV (pc := 52) (q0 := 6) (j := 6) (t0 := 0) (N := 8) (v := (τ 10 i4)) C0 i4 (xCode (by omega)) (fun _ => rfl) rfl (by decide) (by omega) (hβ.a6 (by omega)) dX0_multipleOf_52 ?_
          refine g_imulN (pc := 53) C0  dX0_multipleOf_53 ?_
          refine g_goto (pc := 54) 58 C0 dX0_multipleOf_54 (by decide) ?_
          exact J58 (nI (((mulN τ set i4) / (Nat.gcd (mulN τ set i4) (τ 10 i4))) * (τ 10 i4))) (congrArg nI (by rw [mulN_s]; simp [h20, h26] <;> omega))
set_option maxHeartbeats 4000000 in
set_option maxRecDepth 100000 in
theorem xX_keepsOff (l : Launch) (D : va_G) (dT : Nat → ClassId) (ad : Nat → Nat) (nS : Nat) (τ β : tT)  (n : Nat) (b : Nat) (hβ : RX nS β τ) (hp : wfP τ) (h1 : n < 2 ^ 31) (h2 : b < 2 ^ 31) : XI l D dT ad nS yX0_keepsOff cX0_keepsOff 6 .boolean ({ frames := 1, cells := 0, slots := 0, locals := 21 }) [.ref (ad 0), .int (nI n), .int (nI b)] β (fun rr β' => rr = (nI (bN (koS τ n b))) ∧ β = β') := by
  refine XI.ofG (own := "FittingStrides") (L := [some (.ref (ad 0)), some (.int (nI n)), some (.int (nI b)), none, none, none]) rfl (by decide) (Nat.le_of_ble_eq_true rfl) rfl ?_
  intro p' e' s' m' bl' mt' c' C0 hN
  have hp0 := hp.1
  refine g_iconst (pc := 0) (v := (nI 1)) C0 dX0_keepsOff_0 (by decide) ?_
  refine g_istore_n (pc := 1) 3 C0 (L1 := [some (.ref (ad 0)), some (.int (nI n)), some (.int (nI b)), some (.int (nI 1)), none, none]) rfl (by decide) dX0_keepsOff_1 rfl rfl ?_
  refine g_iconst (pc := 2) (v := (nI 0)) C0 dX0_keepsOff_2 (by decide) ?_
  refine g_istore (pc := 3) 4 C0 (L1 := [some (.ref (ad 0)), some (.int (nI n)), some (.int (nI b)), some (.int (nI 1)), some (.int (nI 0)), none]) rfl (by decide) dX0_keepsOff_3 rfl ?_
  refine G.loop (pc := 5) (ws := fun i => xW dT ad nS β) (Lf := fun i => [some (.ref (ad 0)), some (.int (nI n)), some (.int (nI b)), some (.int (nI (bN (allB (koQ τ n b) i)))), some (.int (nI i)), none]) (N := τ 0 8) (i0 := 0) (Nat.zero_le _) ?_ (fun i5 hi5 hj5 ih5 => ?_)
  · refine g_iload (pc := 5) 4 C0 rfl dX0_keepsOff_5 ?_
    refine g_aload_n (pc := 7) 0 C0 rfl dX0_keepsOff_7 rfl ?_
    refine g_get (pc := 8) (v := .ref (ad 1)) C0 (C := RX0) (T := TX0) (N := 14) (ci := 1) (q0 := 0) (j := 0) 1 (xCode (by omega)) rfl rfl in_X0 (by decide) q184 rfl dX0_keepsOff_8 ?_
    refine g_getN (pc := 11) (v := .int (nI (τ 0 8))) C0 hN (C := RX2) (T := TX2) (N := 10) (ci := 3) (q0 := 1) (j := 1) 3 (xCode (by omega)) rfl rfl in_X2 (by decide) q146 (xv hβ.f1_3) dX0_keepsOff_11 ?_
    refine g_icmp_geN (pc := 14) 95 C0 (by omega) (by omega) dX0_keepsOff_14 (by decide) (fun h14 => ?_) (fun h14 => ?_)
    rotate_left
    · exact absurd h14 (by omega)
    refine g_iload_n (pc := 95) 3 C0 rfl dX0_keepsOff_95 rfl ?_
    exact g_zret (pc := 96) C0 dX0_keepsOff_96 (nar_bN _) ⟨rfl, rfl⟩
  · obtain ⟨g1, g2, g3, g4⟩ := hp.2.2 i5 hi5
    refine g_iload (pc := 5) 4 C0 rfl dX0_keepsOff_5 ?_
    refine g_aload_n (pc := 7) 0 C0 rfl dX0_keepsOff_7 rfl ?_
    refine g_get (pc := 8) (v := .ref (ad 1)) C0 (C := RX0) (T := TX0) (N := 14) (ci := 1) (q0 := 0) (j := 0) 1 (xCode (by omega)) rfl rfl in_X0 (by decide) q184 rfl dX0_keepsOff_8 ?_
    refine g_getN (pc := 11) (v := .int (nI (τ 0 8))) C0 hN (C := RX2) (T := TX2) (N := 10) (ci := 3) (q0 := 1) (j := 1) 3 (xCode (by omega)) rfl rfl in_X2 (by decide) q146 (xv hβ.f1_3) dX0_keepsOff_11 ?_
    refine g_icmp_geN (pc := 14) 95 C0 (by omega) (by omega) dX0_keepsOff_14 (by decide) (fun h14 => ?_) (fun h14 => ?_)
    · exact absurd h14 (by omega)
    refine G.join (pcJ := 65) (wsJ := xW dT ad nS β) (LJ := [some (.ref (ad 0)), some (.int (nI n)), some (.int (nI b)), some (.int (nI (bN (allB (koQ τ n b) i5)))), some (.int (nI i5)), none]) (stJ := []) (nI (bN (eithS τ n i5))) ?_ (fun J65 => ?_)
    · refine g_istore (pc := 65) 5 C0 (L1 := [some (.ref (ad 0)), some (.int (nI n)), some (.int (nI b)), some (.int (nI (bN (allB (koQ τ n b) i5)))), some (.int (nI i5)), some (.int (nI (bN (eithS τ n i5))))]) rfl (by decide) dX0_keepsOff_65 rfl ?_
      refine g_iload_n (pc := 67) 3 C0 rfl dX0_keepsOff_67 rfl ?_
      refine G.join (pcJ := 87) (wsJ := xW dT ad nS β) (LJ := [some (.ref (ad 0)), some (.int (nI n)), some (.int (nI b)), some (.int (nI (bN (allB (koQ τ n b) i5)))), some (.int (nI i5)), some (.int (nI (bN (eithS τ n i5))))]) (stJ := [.int (nI (bN (allB (koQ τ n b) i5)))]) (nI (bN (koQ τ n b i5))) ?_ (fun J87 => ?_)
      · refine g_iandE (pc := 87) C0 (bN_and _ _) dX0_keepsOff_87 ?_
        refine g_istore_n (pc := 88) 3 C0 (L1 := [some (.ref (ad 0)), some (.int (nI n)), some (.int (nI b)), some (.int (nI (bN (allB (koQ τ n b) i5 && koQ τ n b i5)))), some (.int (nI i5)), some (.int (nI (bN (eithS τ n i5))))]) rfl (by decide) dX0_keepsOff_88 rfl rfl ?_
        refine g_iinc1 (pc := 89) 4 C0 (L1 := [some (.ref (ad 0)), some (.int (nI n)), some (.int (nI b)), some (.int (nI (bN (allB (koQ τ n b) i5 && koQ τ n b i5)))), some (.int (nI (i5 + 1))), some (.int (nI (bN (eithS τ n i5))))]) rfl rfl (by decide) dX0_keepsOff_89 rfl ?_
        refine g_goto (pc := 92) 5 C0 dX0_keepsOff_92 (by decide) ?_
        refine G.forget 5 ?_
        exact ih5
      · refine g_iload_n (pc := 68) 2 C0 rfl dX0_keepsOff_68 rfl ?_
        refine g_iload (pc := 69) 4 C0 rfl dX0_keepsOff_69 ?_
        refine g_csi (pc := 71) (na := 2) (As := [.int (nI b), .int (nI i5)]) (rest := [.int (nI (bN (allB (koQ τ n b) i5)))]) C0 (xX_has l b i5 (by omega) (by omega)) q763 q764 q57 q765 (by decide +kernel) ⟨Nat.le_of_ble_eq_true rfl, Nat.le_of_ble_eq_true rfl⟩ rfl rfl ⟨Nat.le_of_ble_eq_true rfl, Nat.le_of_ble_eq_true rfl⟩ rfl rfl (Nat.le_of_ble_eq_true rfl) dX0_keepsOff_71 ?_
        refine g_if_eqB (pc := 74) 82 C0 dX0_keepsOff_74 (by decide) (fun h74 => ?_) (fun h74 => ?_)
        · refine g_iconst (pc := 82) (v := (nI 1)) C0 dX0_keepsOff_82 (by decide) ?_
          refine g_goto (pc := 83) 87 C0 dX0_keepsOff_83 (by decide) ?_
          exact J87 (nI 1) (bret1 (by simp [koQ, h74] <;> omega))
        · refine g_iload (pc := 77) 5 C0 rfl dX0_keepsOff_77 ?_
          refine g_if_neB (pc := 79) 86 C0 dX0_keepsOff_79 (by decide) (fun h79 => ?_) (fun h79 => ?_)
          · refine g_iconst (pc := 86) (v := (nI 0)) C0 dX0_keepsOff_86 (by decide) ?_
            exact J87 (nI 0) (bret0 (by simp [koQ, h74, h79] <;> omega))
          · refine g_iconst (pc := 82) (v := (nI 1)) C0 dX0_keepsOff_82 (by decide) ?_
            refine g_goto (pc := 83) 87 C0 dX0_keepsOff_83 (by decide) ?_
            exact J87 (nI 1) (bret1 (by simp [koQ, h74, h79] <;> omega))
    · refine g_iload_n (pc := 17) 1 C0 rfl dX0_keepsOff_17 rfl ?_
      refine g_aload_n (pc := 18) 0 C0 rfl dX0_keepsOff_18 rfl ?_
      refine g_get (pc := 19) (v := .ref (ad 1)) C0 (C := RX0) (T := TX0) (N := 14) (ci := 1) (q0 := 0) (j := 0) 1 (xCode (by omega)) rfl rfl in_X0 (by decide) q184 rfl dX0_keepsOff_19 ?_
      refine g_getN (pc := 22) (v := .ref (ad 6)) C0 hN (C := RX2) (T := TX2) (N := 10) (ci := 3) (q0 := 1) (j := 1) 1 (xCode (by omega)) rfl rfl in_X2 (by decide) q142 rfl dX0_keepsOff_22 ?_
      refine g_iload (pc := 25) 4 C0 rfl dX0_keepsOff_25 ?_
      refine g_ialdV (pc := 27) (q0 := 6) (j := 6) (t0 := 0) (N := 8) (v := (τ 10 i5)) C0 i5 (xCode (by omega)) (fun _ => rfl) rfl (by decide) (by omega) (hβ.a6 (by omega)) dX0_keepsOff_27 ?_
      refine g_iremN (pc := 28) C0 (by omega) (by omega) (by omega) dX0_keepsOff_28 ?_
      refine g_if_eqN (pc := 29) 60 C0 (Nat.lt_of_le_of_lt (Nat.mod_le _ _) h1) dX0_keepsOff_29 (by decide) (fun h29 => ?_) (fun h29 => ?_)
      · refine g_iconst (pc := 60) (v := (nI 1)) C0 dX0_keepsOff_60 (by decide) ?_
        refine g_goto (pc := 61) 65 C0 dX0_keepsOff_61 (by decide) ?_
        exact J65 (nI 1) (bret1 (by simp [eithS, goesS, h29] <;> omega))
      · refine g_aload_n (pc := 32) 0 C0 rfl dX0_keepsOff_32 rfl ?_
        refine g_get (pc := 33) (v := .ref (ad 1)) C0 (C := RX0) (T := TX0) (N := 14) (ci := 1) (q0 := 0) (j := 0) 1 (xCode (by omega)) rfl rfl in_X0 (by decide) q184 rfl dX0_keepsOff_33 ?_
        refine g_getN (pc := 36) (v := .ref (ad 7)) C0 hN (C := RX2) (T := TX2) (N := 10) (ci := 3) (q0 := 1) (j := 1) 2 (xCode (by omega)) rfl rfl in_X2 (by decide) q144 rfl dX0_keepsOff_36 ?_
        refine g_iload (pc := 39) 4 C0 rfl dX0_keepsOff_39 ?_
        refine g_ialdV (pc := 41) (q0 := 7) (j := 7) (t0 := 0) (N := 8) (v := (τ 11 i5)) C0 i5 (xCode (by omega)) (fun _ => rfl) rfl (by decide) (by omega) (hβ.a7 (by omega)) dX0_keepsOff_41 ?_
        refine g_if_leN (pc := 42) 64 C0 (by omega) dX0_keepsOff_42 (by decide) (fun h42 => ?_) (fun h42 => ?_)
        · refine g_iconst (pc := 64) (v := (nI 0)) C0 dX0_keepsOff_64 (by decide) ?_
          exact J65 (nI 0) (bret0 (by simp [eithS, goesS, h29, h42] <;> omega))
        · refine g_iload_n (pc := 45) 1 C0 rfl dX0_keepsOff_45 rfl ?_
          refine g_aload_n (pc := 46) 0 C0 rfl dX0_keepsOff_46 rfl ?_
          refine g_get (pc := 47) (v := .ref (ad 1)) C0 (C := RX0) (T := TX0) (N := 14) (ci := 1) (q0 := 0) (j := 0) 1 (xCode (by omega)) rfl rfl in_X0 (by decide) q184 rfl dX0_keepsOff_47 ?_
          refine g_getN (pc := 50) (v := .ref (ad 7)) C0 hN (C := RX2) (T := TX2) (N := 10) (ci := 3) (q0 := 1) (j := 1) 2 (xCode (by omega)) rfl rfl in_X2 (by decide) q144 rfl dX0_keepsOff_50 ?_
          refine g_iload (pc := 53) 4 C0 rfl dX0_keepsOff_53 ?_
          refine g_ialdV (pc := 55) (q0 := 7) (j := 7) (t0 := 0) (N := 8) (v := (τ 11 i5)) C0 i5 (xCode (by omega)) (fun _ => rfl) rfl (by decide) (by omega) (hβ.a7 (by omega)) dX0_keepsOff_55 ?_
          refine g_iremN (pc := 56) C0 (by omega) (by omega) (by omega) dX0_keepsOff_56 ?_
          refine g_if_neN (pc := 57) 64 C0 (Nat.lt_of_le_of_lt (Nat.mod_le _ _) h1) dX0_keepsOff_57 (by decide) (fun h57 => ?_) (fun h57 => ?_)
          · refine g_iconst (pc := 64) (v := (nI 0)) C0 dX0_keepsOff_64 (by decide) ?_
            exact J65 (nI 0) (bret0 (by simp [eithS, goesS, h29, h42, h57] <;> omega))
          · refine g_iconst (pc := 60) (v := (nI 1)) C0 dX0_keepsOff_60 (by decide) ?_
            refine g_goto (pc := 61) 65 C0 dX0_keepsOff_61 (by decide) ?_
            exact J65 (nI 1) (bret1 (by simp [eithS, goesS, h29, h42, h57] <;> omega))
set_option maxHeartbeats 4000000 in
set_option maxRecDepth 100000 in
theorem xX_wish (l : Launch) (D : va_G) (dT : Nat → ClassId) (ad : Nat → Nat) (nS : Nat) (τ β : tT)  (a : Int32) (b : Int32) (hβ : RX nS β τ) (hp : wfP τ) : XI l D dT ad nS yX0_wish cX0_wish 4 .int ({ frames := 2, cells := 0, slots := 0, locals := 47 }) [.ref (ad 0), .int a, .int b] β (fun rr β' => rr = (pWish τ a b) ∧ RX nS β' τ) := by
  refine XI.ofG (own := "FittingStrides") (L := [some (.ref (ad 0)), some (.int a), some (.int b), none]) rfl (by decide) (Nat.le_of_ble_eq_true rfl) rfl ?_
  intro p' e' s' m' bl' mt' c' C0 hN
  have hp0 := hp.1
  have hpe := pw_le hp0
  refine g_aload_n (pc := 0) 0 C0 rfl dX0_wish_0 rfl ?_
  refine g_iload_n (pc := 1) 1 C0 rfl dX0_wish_1 rfl ?_
  refine g_cviX (pc := 2) (na := 1) (As := [.int a]) (rest := []) C0 hN (xX_isSet l D dT ad nS τ β  a hβ (by omega)) (q0 := 0) (j := 0) (ci := 1) (C := RX0) (T := TX0) (N := 14) (xCode (by omega)) rfl rfl q850 q852 qs23 q57 q853 (by decide +kernel) ⟨Nat.le_of_ble_eq_true rfl, Nat.le_of_ble_eq_true rfl⟩ rfl rfl ⟨Nat.le_of_ble_eq_true rfl, Nat.le_of_ble_eq_true rfl⟩ rfl rfl (Nat.le_of_ble_eq_true rfl) dX0_wish_2 (fun r β0 hc => ?_)
  obtain ⟨rfl, rfl⟩ := hc
  refine g_if_eqB (pc := 5) 16 C0 dX0_wish_5 (by decide) (fun h5 => ?_) (fun h5 => ?_)
  · refine g_ldc (pc := 16) (v := -1000000001) C0 q704 dX0_wish_16 ?_
    exact g_iret (pc := 18) C0 dX0_wish_18 ⟨by simp [pWish, h5]; rfl, hβ⟩
  · obtain ⟨a1, rfl, a1h, a1b⟩ := ixB_t h5
    refine g_aload_n (pc := 8) 0 C0 rfl dX0_wish_8 rfl ?_
    refine g_iload_n (pc := 9) 2 C0 rfl dX0_wish_9 rfl ?_
    refine g_cviX (pc := 10) (na := 1) (As := [.int b]) (rest := []) C0 hN (xX_isSet l D dT ad nS τ β  b hβ (by omega)) (q0 := 0) (j := 0) (ci := 1) (C := RX0) (T := TX0) (N := 14) (xCode (by omega)) rfl rfl q850 q852 qs23 q57 q853 (by decide +kernel) ⟨Nat.le_of_ble_eq_true rfl, Nat.le_of_ble_eq_true rfl⟩ rfl rfl ⟨Nat.le_of_ble_eq_true rfl, Nat.le_of_ble_eq_true rfl⟩ rfl rfl (Nat.le_of_ble_eq_true rfl) dX0_wish_10 (fun r β0 hc => ?_)
    obtain ⟨rfl, rfl⟩ := hc
    refine g_if_neB (pc := 13) 19 C0 dX0_wish_13 (by decide) (fun h13 => ?_) (fun h13 => ?_)
    · obtain ⟨b1, rfl, b1h, b1b⟩ := ixB_t h13
      refine g_aload_n (pc := 19) 0 C0 rfl dX0_wish_19 rfl ?_
      refine g_iload_n (pc := 20) 1 C0 rfl dX0_wish_20 rfl ?_
      refine g_cviX (pc := 21) (na := 1) (As := [.int (nI a1)]) (rest := []) C0 hN (xX_multipleOf l D dT ad nS τ β  a1 hβ hp (by omega)) (q0 := 0) (j := 0) (ci := 1) (C := RX0) (T := TX0) (N := 14) (xCode (by omega)) rfl rfl q854 q856 qs24 q57 q857 (by decide +kernel) ⟨Nat.le_of_ble_eq_true rfl, Nat.le_of_ble_eq_true rfl⟩ rfl rfl ⟨Nat.le_of_ble_eq_true rfl, Nat.le_of_ble_eq_true rfl⟩ rfl rfl (Nat.le_of_ble_eq_true rfl) dX0_wish_21 (fun r β0 hc => ?_)
      obtain ⟨rfl, rfl⟩ := hc
      refine g_istore_n (pc := 24) 3 C0 (L1 := [some (.ref (ad 0)), some (.int (nI a1)), some (.int (nI b1)), some (.int (nI (mulN τ a1 (τ 0 8))))]) rfl (by decide) dX0_wish_24 rfl rfl ?_
      obtain ⟨m1, m2⟩ := mulN_ok hp a1 _ (Nat.le_refl _)
      refine g_iload_n (pc := 25) 3 C0 rfl dX0_wish_25 rfl ?_
      have c26 : Jvm.Cond.constant "FittingStrides" 229 (nI 100000) ∈ lw_all := q858
      refine g_ldc (pc := 26) (v := nI 100000) C0 c26 dX0_wish_26 ?_
      refine g_icmp_gtN (pc := 28) 44 C0 (by omega) (by decide) dX0_wish_28 (by decide) (fun h28 => ?_) (fun h28 => ?_)
      · refine g_iconst (pc := 44) (v := (-1)) C0 dX0_wish_44 (by decide) ?_
        exact g_iret (pc := 45) C0 dX0_wish_45 ⟨by rw [pWish, h5, h13, Bool.and_true, if_pos rfl, nI_clamp a1b, nI_clamp b1b, wish_no hp (fun c => by omega)]; rfl, hβ⟩
      · refine g_aload_n (pc := 31) 0 C0 rfl dX0_wish_31 rfl ?_
        refine g_iload_n (pc := 32) 3 C0 rfl dX0_wish_32 rfl ?_
        refine g_iload_n (pc := 33) 2 C0 rfl dX0_wish_33 rfl ?_
        refine g_cviX (pc := 34) (na := 2) (As := [.int (nI (mulN τ a1 (τ 0 8))), .int (nI b1)]) (rest := []) C0 hN (xX_keepsOff l D dT ad nS τ β  (mulN τ a1 (τ 0 8)) b1 hβ hp (by omega) (by omega)) (q0 := 0) (j := 0) (ci := 1) (C := RX0) (T := TX0) (N := 14) (xCode (by omega)) rfl rfl q862 q864 qs25 q57 q865 (by decide +kernel) ⟨Nat.le_of_ble_eq_true rfl, Nat.le_of_ble_eq_true rfl⟩ rfl rfl ⟨Nat.le_of_ble_eq_true rfl, Nat.le_of_ble_eq_true rfl⟩ rfl rfl (Nat.le_of_ble_eq_true rfl) dX0_wish_34 (fun r β0 hc => ?_)
        obtain ⟨rfl, rfl⟩ := hc
        refine g_if_eqB (pc := 37) 44 C0 dX0_wish_37 (by decide) (fun h37 => ?_) (fun h37 => ?_)
        · refine g_iconst (pc := 44) (v := (-1)) C0 dX0_wish_44 (by decide) ?_
          exact g_iret (pc := 45) C0 dX0_wish_45 ⟨by rw [pWish, h5, h13, Bool.and_true, if_pos rfl, nI_clamp a1b, nI_clamp b1b, wish_no hp (fun c => by rw [c.2] at h37; cases h37)]; rfl, hβ⟩
        · refine g_iload_n (pc := 40) 3 C0 rfl dX0_wish_40 rfl ?_
          refine g_goto (pc := 41) 45 C0 dX0_wish_41 (by decide) ?_
          exact g_iret (pc := 45) C0 dX0_wish_45 ⟨by rw [pWish, h5, h13, Bool.and_true, if_pos rfl, nI_clamp a1b, nI_clamp b1b, wish_yes hp h28 h37]; rfl, hβ⟩
    · refine g_ldc (pc := 16) (v := -1000000001) C0 q704 dX0_wish_16 ?_
      exact g_iret (pc := 18) C0 dX0_wish_18 ⟨by simp [pWish, h5, nI_clamp a1b, h13]; rfl, hβ⟩
set_option maxHeartbeats 4000000 in
set_option maxRecDepth 100000 in
theorem xX_pair (l : Launch) (D : va_G) (dT : Nat → ClassId) (ad : Nat → Nat) (nS : Nat) (τ β : tT)  (p : Int32) (q : Int32) (w : Int32) (hβ : RX nS β τ) (hw : wfT τ) (hp : wfP τ) : XI l D dT ad nS yX0_pair cX0_pair 4 .int ({ frames := 6, cells := 0, slots := 0, locals := 183 }) [.ref (ad 0), .int p, .int q, .int w] β (fun rr β' => rr = (pPair τ p q w) ∧ RX nS β' τ) := by
  refine XI.ofG (own := "FittingStrides") (L := [some (.ref (ad 0)), some (.int p), some (.int q), some (.int w)]) rfl (by decide) (Nat.le_of_ble_eq_true rfl) rfl ?_
  intro p' e' s' m' bl' mt' c' C0 hN
  have hn := hβ.n
  have hn10 := hβ.n10
  have hw1 := hw.1
  have hw0 := hw.2.1
  have hp0 := hp.1
  have hp1 := hp.2.1
  refine g_aload_n (pc := 0) 0 C0 rfl dX0_pair_0 rfl ?_
  refine g_iload_n (pc := 1) 1 C0 rfl dX0_pair_1 rfl ?_
  refine g_cviX (pc := 2) (na := 1) (As := [.int p]) (rest := []) C0 hN (xX_isPerson l D dT ad nS τ β  p hβ (by omega)) (q0 := 0) (j := 0) (ci := 1) (C := RX0) (T := TX0) (N := 14) (xCode (by omega)) rfl rfl q751 q753 qs13 q57 q754 (by decide +kernel) ⟨Nat.le_of_ble_eq_true rfl, Nat.le_of_ble_eq_true rfl⟩ rfl rfl ⟨Nat.le_of_ble_eq_true rfl, Nat.le_of_ble_eq_true rfl⟩ rfl rfl (Nat.le_of_ble_eq_true rfl) dX0_pair_2 (fun r β0 hc => ?_)
  obtain ⟨rfl, rfl⟩ := hc
  refine g_if_eqB (pc := 5) 21 C0 dX0_pair_5 (by decide) (fun h5 => ?_) (fun h5 => ?_)
  · refine g_ldc (pc := 21) (v := -1000000001) C0 q704 dX0_pair_21 ?_
    exact g_iret (pc := 23) C0 dX0_pair_23 ⟨by simp [pPair, pPairOk, h5]; rfl, hβ⟩
  · obtain ⟨p1, rfl, p1h, p1b⟩ := ixB_t h5
    obtain ⟨g1, g2, g3, g4⟩ := hp.2.2 p1 p1h
    refine g_aload_n (pc := 8) 0 C0 rfl dX0_pair_8 rfl ?_
    refine g_iload_n (pc := 9) 2 C0 rfl dX0_pair_9 rfl ?_
    refine g_cviX (pc := 10) (na := 1) (As := [.int q]) (rest := []) C0 hN (xX_isPerson l D dT ad nS τ β  q hβ (by omega)) (q0 := 0) (j := 0) (ci := 1) (C := RX0) (T := TX0) (N := 14) (xCode (by omega)) rfl rfl q751 q753 qs13 q57 q754 (by decide +kernel) ⟨Nat.le_of_ble_eq_true rfl, Nat.le_of_ble_eq_true rfl⟩ rfl rfl ⟨Nat.le_of_ble_eq_true rfl, Nat.le_of_ble_eq_true rfl⟩ rfl rfl (Nat.le_of_ble_eq_true rfl) dX0_pair_10 (fun r β0 hc => ?_)
    obtain ⟨rfl, rfl⟩ := hc
    refine g_if_eqB (pc := 13) 21 C0 dX0_pair_13 (by decide) (fun h13 => ?_) (fun h13 => ?_)
    · refine g_ldc (pc := 21) (v := -1000000001) C0 q704 dX0_pair_21 ?_
      exact g_iret (pc := 23) C0 dX0_pair_23 ⟨by simp [pPair, pPairOk, h5, nI_clamp p1b, h13]; rfl, hβ⟩
    · obtain ⟨q1, rfl, q1h, q1b⟩ := ixB_t h13
      obtain ⟨g5, g6, g7, g8⟩ := hp.2.2 q1 q1h
      refine g_iload_n (pc := 16) 1 C0 rfl dX0_pair_16 rfl ?_
      refine g_iload_n (pc := 17) 2 C0 rfl dX0_pair_17 rfl ?_
      refine g_icmp_neN (pc := 18) 24 C0 (by omega) (by omega) dX0_pair_18 (by decide) (fun h18 => ?_) (fun h18 => ?_)
      · have hne : ¬ nI p1 = nI q1 := fun z => h18 ((nI_eq p1b q1b).mp z)
        refine g_iload_n (pc := 24) 3 C0 rfl dX0_pair_24 rfl ?_
        refine g_iconst (pc := 25) (v := (nI 0)) C0 dX0_pair_25 (by decide) ?_
        refine g_iconst (pc := 26) (v := (nI 1)) C0 dX0_pair_26 (by decide) ?_
        refine g_csi (pc := 27) (na := 3) (As := [.int w, .int (nI 0), .int (nI 1)]) (rest := []) C0 (xX_isIn l w (nI 0) (nI 1) ) q232 q233 q57 q234 (by decide +kernel) ⟨Nat.le_of_ble_eq_true rfl, Nat.le_of_ble_eq_true rfl⟩ rfl rfl ⟨Nat.le_of_ble_eq_true rfl, Nat.le_of_ble_eq_true rfl⟩ rfl rfl (Nat.le_of_ble_eq_true rfl) dX0_pair_27 ?_
        refine g_if_neB (pc := 30) 36 C0 dX0_pair_30 (by decide) (fun h30 => ?_) (fun h30 => ?_)
        · rw [isInB_rg w (lo := 0) (hi := 1) (by decide) (by decide)] at h30
          refine g_iload_n (pc := 36) 3 C0 rfl dX0_pair_36 rfl ?_
          refine g_if_neX (pc := 37) 54 C0 dX0_pair_37 (by decide) (fun h37 => ?_) (fun h37 => ?_)
          · have hpq : 2 ^ p1 ||| 2 ^ q1 < 2 ^ 8 := Nat.or_lt_two_pow (Nat.pow_lt_pow_right (by decide) (by omega)) (Nat.pow_lt_pow_right (by decide) (by omega))
            refine g_aload_n (pc := 54) 0 C0 rfl dX0_pair_54 rfl ?_
            refine g_iconst (pc := 55) (v := (nI 1)) C0 dX0_pair_55 (by decide) ?_
            refine g_iload_n (pc := 56) 1 C0 rfl dX0_pair_56 rfl ?_
            refine g_ishl1N (pc := 57) C0 (by omega) dX0_pair_57 ?_
            refine g_iconst (pc := 58) (v := (nI 1)) C0 dX0_pair_58 (by decide) ?_
            refine g_iload_n (pc := 59) 2 C0 rfl dX0_pair_59 rfl ?_
            refine g_ishl1N (pc := 60) C0 (by omega) dX0_pair_60 ?_
            refine g_iorN (pc := 61) C0  dX0_pair_61 ?_
            refine g_cviX (pc := 62) (na := 1) (As := [.int (nI ((2 ^ p1) ||| (2 ^ q1)))]) (rest := []) C0 hN (xX_multipleOf l D dT ad nS τ β  ((2 ^ p1) ||| (2 ^ q1)) hβ hp (by omega)) (q0 := 0) (j := 0) (ci := 1) (C := RX0) (T := TX0) (N := 14) (xCode (by omega)) rfl rfl q854 q856 qs24 q57 q857 (by decide +kernel) ⟨Nat.le_of_ble_eq_true rfl, Nat.le_of_ble_eq_true rfl⟩ rfl rfl ⟨Nat.le_of_ble_eq_true rfl, Nat.le_of_ble_eq_true rfl⟩ rfl rfl (Nat.le_of_ble_eq_true rfl) dX0_pair_62 (fun r β0 hc => ?_)
            obtain ⟨rfl, rfl⟩ := hc
            exact g_iret (pc := 65) C0 dX0_pair_65 ⟨by rw [pPair, pPairOk, h5, h13, decide_eq_false hne, h30]; simp [nI_clamp p1b, nI_clamp q1b, h37, mulN_pair hp p1h q1h], hβ⟩
          · refine g_aload_n (pc := 40) 0 C0 rfl dX0_pair_40 rfl ?_
            refine g_iload_n (pc := 41) 1 C0 rfl dX0_pair_41 rfl ?_
            refine g_cviX (pc := 42) (na := 1) (As := [.int (nI p1)]) (rest := []) C0 hN (xX_reachOfPerson l D dT ad nS τ β  p1 hβ hw hp (by omega)) (q0 := 0) (j := 0) (ci := 1) (C := RX0) (T := TX0) (N := 14) (xCode (by omega)) rfl rfl q755 q757 qs14 q57 q758 (by decide +kernel) ⟨Nat.le_of_ble_eq_true rfl, Nat.le_of_ble_eq_true rfl⟩ rfl rfl ⟨Nat.le_of_ble_eq_true rfl, Nat.le_of_ble_eq_true rfl⟩ rfl rfl (Nat.le_of_ble_eq_true rfl) dX0_pair_42 (fun r β hc => ?_)
            obtain ⟨rfl, hβ, he⟩ := hc
            refine g_aload_n (pc := 45) 0 C0 rfl dX0_pair_45 rfl ?_
            refine g_iload_n (pc := 46) 2 C0 rfl dX0_pair_46 rfl ?_
            refine g_cviX (pc := 47) (na := 1) (As := [.int (nI q1)]) (rest := [.int (nI (reachP τ p1))]) C0 hN (xX_reachOfPerson l D dT ad nS τ β  q1 hβ hw hp (by omega)) (q0 := 0) (j := 0) (ci := 1) (C := RX0) (T := TX0) (N := 14) (xCode (by omega)) rfl rfl q755 q757 qs14 q57 q758 (by decide +kernel) ⟨Nat.le_of_ble_eq_true rfl, Nat.le_of_ble_eq_true rfl⟩ rfl rfl ⟨Nat.le_of_ble_eq_true rfl, Nat.le_of_ble_eq_true rfl⟩ rfl rfl (Nat.le_of_ble_eq_true rfl) dX0_pair_47 (fun r β hc => ?_)
            obtain ⟨rfl, hβ, he⟩ := hc
            refine g_iandN (pc := 50) C0  dX0_pair_50 ?_
            refine g_goto (pc := 51) 65 C0 dX0_pair_51 (by decide) ?_
            exact g_iret (pc := 65) C0 dX0_pair_65 ⟨by rw [pPair, pPairOk, h5, h13, decide_eq_false hne, h30]; simp [nI_clamp p1b, nI_clamp q1b, h37], hβ⟩
        · rw [isInB_rg w (lo := 0) (hi := 1) (by decide) (by decide)] at h30
          refine g_ldc (pc := 33) (v := -1000000002) C0 q235 dX0_pair_33 ?_
          exact g_iret (pc := 35) C0 dX0_pair_35 ⟨by rw [pPair, pPairOk, h5, h13, decide_eq_false hne, h30]; rfl, hβ⟩
      · refine g_ldc (pc := 21) (v := -1000000001) C0 q704 dX0_pair_21 ?_
        exact g_iret (pc := 23) C0 dX0_pair_23 ⟨by rw [pPair, pPairOk, h5, h13, h18]; simp; rfl, hβ⟩
set_option maxHeartbeats 4000000 in
set_option maxRecDepth 100000 in
theorem xX_see (l : Launch) (D : va_G) (dT : Nat → ClassId) (ad : Nat → Nat) (nS : Nat) (τ β : tT)  (f : Int32) (x : Int32) (wb : Bool) (hβ : RX nS β τ) (hw : wfT τ) (h34 : τ 0 34 ≤ 20) : XI l D dT ad nS yX0_see cX0_see 4 .int ({ frames := 2, cells := 0, slots := 0, locals := 43 }) [.ref (ad 0), .int f, .int x, .int (nI (bN wb))] β (fun rr β' => rr = (pSee τ f x) ∧ RX nS β' (pSeeT τ f x wb)) := by
  refine XI.ofG (own := "FittingStrides") (L := [some (.ref (ad 0)), some (.int f), some (.int x), some (.int (nI (bN wb)))]) rfl (by decide) (Nat.le_of_ble_eq_true rfl) rfl ?_
  intro p' e' s' m' bl' mt' c' C0 hN
  have hw0 := hw.2.1
  refine g_aload_n (pc := 0) 0 C0 rfl dX0_see_0 rfl ?_
  refine g_iload_n (pc := 1) 1 C0 rfl dX0_see_1 rfl ?_
  refine g_cviX (pc := 2) (na := 1) (As := [.int f]) (rest := []) C0 hN (xX_isPlace l D dT ad nS τ β  f hβ (by omega)) (q0 := 0) (j := 0) (ci := 1) (C := RX0) (T := TX0) (N := 14) (xCode (by omega)) rfl rfl q838 q840 qs22 q57 q841 (by decide +kernel) ⟨Nat.le_of_ble_eq_true rfl, Nat.le_of_ble_eq_true rfl⟩ rfl rfl ⟨Nat.le_of_ble_eq_true rfl, Nat.le_of_ble_eq_true rfl⟩ rfl rfl (Nat.le_of_ble_eq_true rfl) dX0_see_2 (fun r β0 hc => ?_)
  obtain ⟨rfl, rfl⟩ := hc
  refine g_if_eqB (pc := 5) 16 C0 dX0_see_5 (by decide) (fun h5 => ?_) (fun h5 => ?_)
  · refine g_ldc (pc := 16) (v := -1000000001) C0 q704 dX0_see_16 ?_
    exact g_iret (pc := 18) C0 dX0_see_18 ⟨by simp [pSee, pSeeOk, h5]; try rfl, by simpa [pSeeT, pSeeOk, seeT, h5] using hβ⟩
  · obtain ⟨f1, rfl, f1h, f1b⟩ := ixB_t h5
    refine g_aload_n (pc := 8) 0 C0 rfl dX0_see_8 rfl ?_
    refine g_iload_n (pc := 9) 2 C0 rfl dX0_see_9 rfl ?_
    refine g_cviX (pc := 10) (na := 1) (As := [.int x]) (rest := []) C0 hN (xX_isPlace l D dT ad nS τ β  x hβ (by omega)) (q0 := 0) (j := 0) (ci := 1) (C := RX0) (T := TX0) (N := 14) (xCode (by omega)) rfl rfl q838 q840 qs22 q57 q841 (by decide +kernel) ⟨Nat.le_of_ble_eq_true rfl, Nat.le_of_ble_eq_true rfl⟩ rfl rfl ⟨Nat.le_of_ble_eq_true rfl, Nat.le_of_ble_eq_true rfl⟩ rfl rfl (Nat.le_of_ble_eq_true rfl) dX0_see_10 (fun r β0 hc => ?_)
    obtain ⟨rfl, rfl⟩ := hc
    refine g_if_neB (pc := 13) 19 C0 dX0_see_13 (by decide) (fun h13 => ?_) (fun h13 => ?_)
    · obtain ⟨x1, rfl, x1h, x1b⟩ := ixB_t h13
      refine g_aload_n (pc := 19) 0 C0 rfl dX0_see_19 rfl ?_
      refine g_get (pc := 20) (v := .int (nI (τ 0 34))) C0 (C := RX0) (T := TX0) (N := 14) (ci := 1) (q0 := 0) (j := 0) 4 (xCode (by omega)) rfl rfl in_X0 (by decide) q187 (xv hβ.f0_4) dX0_see_20 ?_
      refine g_bipush (pc := 23) (v := (nI 20)) C0 dX0_see_23 (by decide) ?_
      refine g_icmp_neN (pc := 25) 31 C0 (by omega) (by decide) dX0_see_25 (by decide) (fun h25 => ?_) (fun h25 => ?_)
      · refine g_aload_n (pc := 31) 0 C0 rfl dX0_see_31 rfl ?_
        refine g_get (pc := 32) (v := .ref (ad 9)) C0 (C := RX0) (T := TX0) (N := 14) (ci := 1) (q0 := 0) (j := 0) 2 (xCode (by omega)) rfl rfl in_X0 (by decide) q185 rfl dX0_see_32 ?_
        refine g_aload_n (pc := 35) 0 C0 rfl dX0_see_35 rfl ?_
        refine g_get (pc := 36) (v := .int (nI (τ 0 34))) C0 (C := RX0) (T := TX0) (N := 14) (ci := 1) (q0 := 0) (j := 0) 4 (xCode (by omega)) rfl rfl in_X0 (by decide) q187 (xv hβ.f0_4) dX0_see_36 ?_
        refine g_aaldA (pc := 39) (q0 := 9) (j := 9) (t0 := 3) (N := 20) (jr := 62 + (τ 0 34)) C0 (τ 0 34) (xCode (by omega)) rfl rfl (by decide) (by omega) rfl dX0_see_39 ?_
        refine g_iconst (pc := 40) (v := (nI 0)) C0 dX0_see_40 (by decide) ?_
        refine g_iload_n (pc := 41) 1 C0 rfl dX0_see_41 rfl ?_
        refine g_iast (pc := 42) (q0 := (62 + (τ 0 34))) (j := (62 + (τ 0 34))) (t0 := 0) (N := 2) C0 0 f1 (xNd hβ.n10) (xCode (by omega)) (fun f => xMk_seen (by omega) f) rfl (by decide) (by omega) dX0_see_42 ?_
        refine G.nmX (Φ := fun β => RX nS β (upc τ 35 (τ 0 34) f1)) (wsf := fun β => xW dT ad nS β) (hβ.wS0 (by omega) _) (fun β hβ => ?_)
        refine g_aload_n (pc := 43) 0 C0 rfl dX0_see_43 rfl ?_
        refine g_get (pc := 44) (v := .ref (ad 9)) C0 (C := RX0) (T := TX0) (N := 14) (ci := 1) (q0 := 0) (j := 0) 2 (xCode (by omega)) rfl rfl in_X0 (by decide) q185 rfl dX0_see_44 ?_
        refine g_aload_n (pc := 47) 0 C0 rfl dX0_see_47 rfl ?_
        refine g_get (pc := 48) (v := .int (nI (τ 0 34))) C0 (C := RX0) (T := TX0) (N := 14) (ci := 1) (q0 := 0) (j := 0) 4 (xCode (by omega)) rfl rfl in_X0 (by decide) q187 (xv hβ.f0_4) dX0_see_48 ?_
        refine g_aaldA (pc := 51) (q0 := 9) (j := 9) (t0 := 3) (N := 20) (jr := 62 + (τ 0 34)) C0 (τ 0 34) (xCode (by omega)) rfl rfl (by decide) (by omega) rfl dX0_see_51 ?_
        refine g_iconst (pc := 52) (v := (nI 1)) C0 dX0_see_52 (by decide) ?_
        refine g_iload_n (pc := 53) 2 C0 rfl dX0_see_53 rfl ?_
        refine g_iast (pc := 54) (q0 := (62 + (τ 0 34))) (j := (62 + (τ 0 34))) (t0 := 0) (N := 2) C0 1 x1 (xNd hβ.n10) (xCode (by omega)) (fun f => xMk_seen (by omega) f) rfl (by decide) (by omega) dX0_see_54 ?_
        refine G.nmX (Φ := fun β => RX nS β (upc (upc τ 35 (τ 0 34) f1) 36 (τ 0 34) x1)) (wsf := fun β => xW dT ad nS β) (hβ.wS1 (by omega) _) (fun β hβ => ?_)
        refine g_aload_n (pc := 55) 0 C0 rfl dX0_see_55 rfl ?_
        refine g_get (pc := 56) (v := .ref (ad 10)) C0 (C := RX0) (T := TX0) (N := 14) (ci := 1) (q0 := 0) (j := 0) 3 (xCode (by omega)) rfl rfl in_X0 (by decide) q186 rfl dX0_see_56 ?_
        refine g_aload_n (pc := 59) 0 C0 rfl dX0_see_59 rfl ?_
        refine g_get (pc := 60) (v := .int (nI (τ 0 34))) C0 (C := RX0) (T := TX0) (N := 14) (ci := 1) (q0 := 0) (j := 0) 4 (xCode (by omega)) rfl rfl in_X0 (by decide) q187 (xv hβ.f0_4) dX0_see_60 ?_
        refine g_iload_n (pc := 63) 3 C0 rfl dX0_see_63 rfl ?_
        refine g_zast (pc := 64) (q0 := 10) (j := 10) (t0 := 1) (N := 20) C0 (τ 0 34) (bN wb) (xNd hβ.n10) (bN_lt _) (xCode (by omega)) (fun _ => rfl) rfl (by decide) (by omega) dX0_see_64 ?_
        refine G.nmX (Φ := fun β => RX nS β (upc (upc (upc τ 35 (τ 0 34) f1) 36 (τ 0 34) x1) 37 (τ 0 34) (bN wb))) (wsf := fun β => xW dT ad nS β) (hβ.w10 _ _) (fun β hβ => ?_)
        refine g_aload_n (pc := 65) 0 C0 rfl dX0_see_65 rfl ?_
        refine g_dup (pc := 66) C0 dX0_see_66 rfl ?_
        refine g_get (pc := 67) (v := .int (nI (τ 0 34))) C0 (C := RX0) (T := TX0) (N := 14) (ci := 1) (q0 := 0) (j := 0) 4 (xCode (by omega)) rfl rfl in_X0 (by decide) q187 (xv hβ.f0_4) dX0_see_67 ?_
        refine g_iconst (pc := 70) (v := (nI 1)) C0 dX0_see_70 (by decide) ?_
        refine g_iaddN (pc := 71) C0  dX0_see_71 ?_
        refine g_put (pc := 72) C0 (C := RX0) (T := TX0) (N := 14) (ci := 1) (q0 := 0) (j := 0) (F := xF0 ad) (ty := .int) (z := ((τ 0 34) + 1)) tyX0 tyX0_ok nmX0 (xNd hβ.n10) 4 (xCode (by omega)) (fun _ => rfl) rfl in_X0 (by decide) q187 rfl (by decide) rfl rfl (by show _ < 14; decide) rfl dX0_see_72 ?_
        refine G.nmX (Φ := fun β => RX nS β (upc (upc (upc (upc τ 35 (τ 0 34) f1) 36 (τ 0 34) x1) 37 (τ 0 34) (bN wb)) 0 34 ((τ 0 34) + 1))) (wsf := fun β => xW dT ad nS β) (hβ.w0_4 _) (fun β hβ => ?_)
        refine g_aload_n (pc := 75) 0 C0 rfl dX0_see_75 rfl ?_
        refine g_get (pc := 76) (v := .int (nI ((τ 0 34) + 1))) C0 (C := RX0) (T := TX0) (N := 14) (ci := 1) (q0 := 0) (j := 0) 4 (xCode (by omega)) rfl rfl in_X0 (by decide) q187 (xv hβ.f0_4) dX0_see_76 ?_
        exact g_iret (pc := 79) C0 dX0_see_79 ⟨by simp [pSee, pSeeOk, h5, nI_clamp f1b, h13, nI_clamp x1b, h25]; try rfl, by simpa [pSeeT, pSeeOk, seeT, h5, nI_clamp f1b, h13, nI_clamp x1b, h25] using hβ⟩
      · refine g_ldc (pc := 28) (v := -1000000004) C0 q236 dX0_see_28 ?_
        exact g_iret (pc := 30) C0 dX0_see_30 ⟨by simp [pSee, pSeeOk, h5, nI_clamp f1b, h13, nI_clamp x1b, h25]; try rfl, by simpa [pSeeT, pSeeOk, seeT, h5, nI_clamp f1b, h13, nI_clamp x1b, h25] using hβ⟩
    · refine g_ldc (pc := 16) (v := -1000000001) C0 q704 dX0_see_16 ?_
      exact g_iret (pc := 18) C0 dX0_see_18 ⟨by simp [pSee, pSeeOk, h5, nI_clamp f1b, h13]; try rfl, by simpa [pSeeT, pSeeOk, seeT, h5, nI_clamp f1b, h13] using hβ⟩
set_option maxHeartbeats 4000000 in
set_option maxRecDepth 100000 in
theorem xX_write (l : Launch) (D : va_G) (dT : Nat → ClassId) (ad : Nat → Nat) (nS : Nat) (τ β : tT)  (p : Int32) (r : Int32) (hβ : RX nS β τ) (hp : τ 0 8 ≤ 8) (h38 : τ 0 38 ≤ 40) : XI l D dT ad nS yX0_write cX0_write 3 .int ({ frames := 2, cells := 0, slots := 0, locals := 43 }) [.ref (ad 0), .int p, .int r] β (fun rr β' => rr = (pWrite τ p r) ∧ RX nS β' (pWriteT τ p r)) := by
  refine XI.ofG (own := "FittingStrides") (L := [some (.ref (ad 0)), some (.int p), some (.int r)]) rfl (by decide) (Nat.le_of_ble_eq_true rfl) rfl ?_
  intro p' e' s' m' bl' mt' c' C0 hN
  have hn := hβ.n
  have hn10 := hβ.n10
  refine g_aload_n (pc := 0) 0 C0 rfl dX0_write_0 rfl ?_
  refine g_iload_n (pc := 1) 1 C0 rfl dX0_write_1 rfl ?_
  refine g_cviX (pc := 2) (na := 1) (As := [.int p]) (rest := []) C0 hN (xX_isPerson l D dT ad nS τ β  p hβ (by omega)) (q0 := 0) (j := 0) (ci := 1) (C := RX0) (T := TX0) (N := 14) (xCode (by omega)) rfl rfl q751 q753 qs13 q57 q754 (by decide +kernel) ⟨Nat.le_of_ble_eq_true rfl, Nat.le_of_ble_eq_true rfl⟩ rfl rfl ⟨Nat.le_of_ble_eq_true rfl, Nat.le_of_ble_eq_true rfl⟩ rfl rfl (Nat.le_of_ble_eq_true rfl) dX0_write_2 (fun r β0 hc => ?_)
  obtain ⟨rfl, rfl⟩ := hc
  refine g_if_eqB (pc := 5) 16 C0 dX0_write_5 (by decide) (fun h5 => ?_) (fun h5 => ?_)
  · refine g_ldc (pc := 16) (v := -1000000001) C0 q704 dX0_write_16 ?_
    exact g_iret (pc := 18) C0 dX0_write_18 ⟨by simp [pWrite, pWriteOk, h5]; try rfl, by simpa [pWriteT, pWriteOk, writeT, h5] using hβ⟩
  · obtain ⟨p1, rfl, p1h, p1b⟩ := ixB_t h5
    refine g_aload_n (pc := 8) 0 C0 rfl dX0_write_8 rfl ?_
    refine g_iload_n (pc := 9) 2 C0 rfl dX0_write_9 rfl ?_
    refine g_cviX (pc := 10) (na := 1) (As := [.int r]) (rest := []) C0 hN (xX_isStair l D dT ad nS τ β  r hβ (by omega)) (q0 := 0) (j := 0) (ci := 1) (C := RX0) (T := TX0) (N := 14) (xCode (by omega)) rfl rfl q700 q702 qs9 q57 q703 (by decide +kernel) ⟨Nat.le_of_ble_eq_true rfl, Nat.le_of_ble_eq_true rfl⟩ rfl rfl ⟨Nat.le_of_ble_eq_true rfl, Nat.le_of_ble_eq_true rfl⟩ rfl rfl (Nat.le_of_ble_eq_true rfl) dX0_write_10 (fun r β0 hc => ?_)
    obtain ⟨rfl, rfl⟩ := hc
    refine g_if_neB (pc := 13) 19 C0 dX0_write_13 (by decide) (fun h13 => ?_) (fun h13 => ?_)
    · obtain ⟨r1, rfl, r1h, r1b⟩ := ixB_t h13
      refine g_aload_n (pc := 19) 0 C0 rfl dX0_write_19 rfl ?_
      refine g_get (pc := 20) (v := .int (nI (τ 0 38))) C0 (C := RX0) (T := TX0) (N := 14) (ci := 1) (q0 := 0) (j := 0) 7 (xCode (by omega)) rfl rfl in_X0 (by decide) q190 (xv hβ.f0_7) dX0_write_20 ?_
      refine g_bipush (pc := 23) (v := (nI 40)) C0 dX0_write_23 (by decide) ?_
      refine g_icmp_neN (pc := 25) 31 C0 (by omega) (by decide) dX0_write_25 (by decide) (fun h25 => ?_) (fun h25 => ?_)
      · refine g_aload_n (pc := 31) 0 C0 rfl dX0_write_31 rfl ?_
        refine g_get (pc := 32) (v := .ref (ad 11)) C0 (C := RX0) (T := TX0) (N := 14) (ci := 1) (q0 := 0) (j := 0) 5 (xCode (by omega)) rfl rfl in_X0 (by decide) q188 rfl dX0_write_32 ?_
        refine g_aload_n (pc := 35) 0 C0 rfl dX0_write_35 rfl ?_
        refine g_get (pc := 36) (v := .int (nI (τ 0 38))) C0 (C := RX0) (T := TX0) (N := 14) (ci := 1) (q0 := 0) (j := 0) 7 (xCode (by omega)) rfl rfl in_X0 (by decide) q190 (xv hβ.f0_7) dX0_write_36 ?_
        refine g_iload_n (pc := 39) 1 C0 rfl dX0_write_39 rfl ?_
        refine g_iast (pc := 40) (q0 := 11) (j := 11) (t0 := 0) (N := 40) C0 (τ 0 38) p1 (xNd hβ.n10) (xCode (by omega)) (fun _ => rfl) rfl (by decide) (by omega) dX0_write_40 ?_
        refine G.nmX (Φ := fun β => RX nS β (upc τ 39 (τ 0 38) p1)) (wsf := fun β => xW dT ad nS β) (hβ.w11 _ _) (fun β hβ => ?_)
        refine g_aload_n (pc := 41) 0 C0 rfl dX0_write_41 rfl ?_
        refine g_get (pc := 42) (v := .ref (ad 12)) C0 (C := RX0) (T := TX0) (N := 14) (ci := 1) (q0 := 0) (j := 0) 6 (xCode (by omega)) rfl rfl in_X0 (by decide) q189 rfl dX0_write_42 ?_
        refine g_aload_n (pc := 45) 0 C0 rfl dX0_write_45 rfl ?_
        refine g_get (pc := 46) (v := .int (nI (τ 0 38))) C0 (C := RX0) (T := TX0) (N := 14) (ci := 1) (q0 := 0) (j := 0) 7 (xCode (by omega)) rfl rfl in_X0 (by decide) q190 (xv hβ.f0_7) dX0_write_46 ?_
        refine g_iload_n (pc := 49) 2 C0 rfl dX0_write_49 rfl ?_
        refine g_iast (pc := 50) (q0 := 12) (j := 12) (t0 := 0) (N := 40) C0 (τ 0 38) r1 (xNd hβ.n10) (xCode (by omega)) (fun _ => rfl) rfl (by decide) (by omega) dX0_write_50 ?_
        refine G.nmX (Φ := fun β => RX nS β (upc (upc τ 39 (τ 0 38) p1) 40 (τ 0 38) r1)) (wsf := fun β => xW dT ad nS β) (hβ.w12 _ _) (fun β hβ => ?_)
        refine g_aload_n (pc := 51) 0 C0 rfl dX0_write_51 rfl ?_
        refine g_dup (pc := 52) C0 dX0_write_52 rfl ?_
        refine g_get (pc := 53) (v := .int (nI (τ 0 38))) C0 (C := RX0) (T := TX0) (N := 14) (ci := 1) (q0 := 0) (j := 0) 7 (xCode (by omega)) rfl rfl in_X0 (by decide) q190 (xv hβ.f0_7) dX0_write_53 ?_
        refine g_iconst (pc := 56) (v := (nI 1)) C0 dX0_write_56 (by decide) ?_
        refine g_iaddN (pc := 57) C0  dX0_write_57 ?_
        refine g_put (pc := 58) C0 (C := RX0) (T := TX0) (N := 14) (ci := 1) (q0 := 0) (j := 0) (F := xF0 ad) (ty := .int) (z := ((τ 0 38) + 1)) tyX0 tyX0_ok nmX0 (xNd hβ.n10) 7 (xCode (by omega)) (fun _ => rfl) rfl in_X0 (by decide) q190 rfl (by decide) rfl rfl (by show _ < 14; decide) rfl dX0_write_58 ?_
        refine G.nmX (Φ := fun β => RX nS β (upc (upc (upc τ 39 (τ 0 38) p1) 40 (τ 0 38) r1) 0 38 ((τ 0 38) + 1))) (wsf := fun β => xW dT ad nS β) (hβ.w0_7 _) (fun β hβ => ?_)
        refine g_aload_n (pc := 61) 0 C0 rfl dX0_write_61 rfl ?_
        refine g_get (pc := 62) (v := .int (nI ((τ 0 38) + 1))) C0 (C := RX0) (T := TX0) (N := 14) (ci := 1) (q0 := 0) (j := 0) 7 (xCode (by omega)) rfl rfl in_X0 (by decide) q190 (xv hβ.f0_7) dX0_write_62 ?_
        exact g_iret (pc := 65) C0 dX0_write_65 ⟨by simp [pWrite, pWriteOk, h5, nI_clamp p1b, h13, nI_clamp r1b, h25]; try rfl, by simpa [pWriteT, pWriteOk, writeT, h5, nI_clamp p1b, h13, nI_clamp r1b, h25] using hβ⟩
      · refine g_ldc (pc := 28) (v := -1000000004) C0 q236 dX0_write_28 ?_
        exact g_iret (pc := 30) C0 dX0_write_30 ⟨by simp [pWrite, pWriteOk, h5, nI_clamp p1b, h13, nI_clamp r1b, h25]; try rfl, by simpa [pWriteT, pWriteOk, writeT, h5, nI_clamp p1b, h13, nI_clamp r1b, h25] using hβ⟩
    · refine g_ldc (pc := 16) (v := -1000000001) C0 q704 dX0_write_16 ?_
      exact g_iret (pc := 18) C0 dX0_write_18 ⟨by simp [pWrite, pWriteOk, h5, nI_clamp p1b, h13]; try rfl, by simpa [pWriteT, pWriteOk, writeT, h5, nI_clamp p1b, h13] using hβ⟩
set_option maxHeartbeats 4000000 in
set_option maxRecDepth 100000 in
theorem xX_tear (l : Launch) (D : va_G) (dT : Nat → ClassId) (ad : Nat → Nat) (nS : Nat) (τ β : tT)   (hβ : RX nS β τ)  : XI l D dT ad nS yX0_tear cX0_tear 2 .int ({ frames := 0, cells := 0, slots := 0, locals := 0 }) [.ref (ad 0)] β (fun rr β' => rr = (pTear τ) ∧ RX nS β' (tearT τ)) := by
  refine XI.ofG (own := "FittingStrides") (L := [some (.ref (ad 0)), none]) rfl (by decide) (Nat.le_of_ble_eq_true rfl) rfl ?_
  intro p' e' s' m' bl' mt' c' C0 hN
  refine g_aload_n (pc := 0) 0 C0 rfl dX0_tear_0 rfl ?_
  refine g_get (pc := 1) (v := .int (nI (τ 0 38))) C0 (C := RX0) (T := TX0) (N := 14) (ci := 1) (q0 := 0) (j := 0) 7 (xCode (by omega)) rfl rfl in_X0 (by decide) q190 (xv hβ.f0_7) dX0_tear_1 ?_
  refine g_aload_n (pc := 4) 0 C0 rfl dX0_tear_4 rfl ?_
  refine g_get (pc := 5) (v := .int (nI (τ 0 34))) C0 (C := RX0) (T := TX0) (N := 14) (ci := 1) (q0 := 0) (j := 0) 4 (xCode (by omega)) rfl rfl in_X0 (by decide) q187 (xv hβ.f0_4) dX0_tear_5 ?_
  refine g_iaddN (pc := 8) C0  dX0_tear_8 ?_
  refine g_istore_n (pc := 9) 1 C0 (L1 := [some (.ref (ad 0)), some (.int (nI ((τ 0 38) + (τ 0 34))))]) rfl (by decide) dX0_tear_9 rfl rfl ?_
  refine g_aload_n (pc := 10) 0 C0 rfl dX0_tear_10 rfl ?_
  refine g_iconst (pc := 11) (v := (nI 0)) C0 dX0_tear_11 (by decide) ?_
  refine g_put (pc := 12) C0 (C := RX0) (T := TX0) (N := 14) (ci := 1) (q0 := 0) (j := 0) (F := xF0 ad) (ty := .int) (z := 0) tyX0 tyX0_ok nmX0 (xNd hβ.n10) 7 (xCode (by omega)) (fun _ => rfl) rfl in_X0 (by decide) q190 rfl (by decide) rfl rfl (by show _ < 14; decide) rfl dX0_tear_12 ?_
  refine G.nmX (Φ := fun β => RX nS β (upc τ 0 38 0)) (wsf := fun β => xW dT ad nS β) (hβ.w0_7 _) (fun β hβ => ?_)
  refine g_aload_n (pc := 15) 0 C0 rfl dX0_tear_15 rfl ?_
  refine g_iconst (pc := 16) (v := (nI 0)) C0 dX0_tear_16 (by decide) ?_
  refine g_put (pc := 17) C0 (C := RX0) (T := TX0) (N := 14) (ci := 1) (q0 := 0) (j := 0) (F := xF0 ad) (ty := .int) (z := 0) tyX0 tyX0_ok nmX0 (xNd hβ.n10) 4 (xCode (by omega)) (fun _ => rfl) rfl in_X0 (by decide) q187 rfl (by decide) rfl rfl (by show _ < 14; decide) rfl dX0_tear_17 ?_
  refine G.nmX (Φ := fun β => RX nS β (upc (upc τ 0 38 0) 0 34 0)) (wsf := fun β => xW dT ad nS β) (hβ.w0_4 _) (fun β hβ => ?_)
  refine g_iload_n (pc := 20) 1 C0 rfl dX0_tear_20 rfl ?_
  exact g_iret (pc := 21) C0 dX0_tear_21 ⟨rfl, hβ⟩
set_option maxHeartbeats 4000000 in
set_option maxRecDepth 100000 in
theorem xX_seed (l : Launch) (D : va_G) (dT : Nat → ClassId) (ad : Nat → Nat) (nS : Nat) (τ β : tT)  (v : Int32) (hβ : RX nS β τ)  : XI l D dT ad nS yX0_seed cX0_seed 3 .int ({ frames := 0, cells := 0, slots := 0, locals := 0 }) [.ref (ad 0), .int v] β (fun rr β' => rr = (pSeed τ v) ∧ RX nS β' (pSeedT τ v)) := by
  refine XI.ofG (own := "FittingStrides") (L := [some (.ref (ad 0)), some (.int v), none]) rfl (by decide) (Nat.le_of_ble_eq_true rfl) rfl ?_
  intro p' e' s' m' bl' mt' c' C0 hN
  refine g_iload_n (pc := 0) 1 C0 rfl dX0_seed_0 rfl ?_
  refine g_if_ge (pc := 1) 7 C0 dX0_seed_1 (by decide) (fun h1 => ?_) (fun h1 => ?_)
  · have h2 : ¬ v < 0 := Int32.not_lt.mpr h1
    obtain ⟨v1, v1b, rfl⟩ := nI_of h2
    refine g_aload_n (pc := 7) 0 C0 rfl dX0_seed_7 rfl ?_
    refine g_get (pc := 8) (v := .ref (ad 1)) C0 (C := RX0) (T := TX0) (N := 14) (ci := 1) (q0 := 0) (j := 0) 1 (xCode (by omega)) rfl rfl in_X0 (by decide) q184 rfl dX0_seed_8 ?_
    refine g_getN (pc := 11) (v := .int (nI (τ 0 13))) C0 hN (C := RX2) (T := TX2) (N := 10) (ci := 3) (q0 := 1) (j := 1) 7 (xCode (by omega)) rfl rfl in_X2 (by decide) q154 (xv hβ.f1_7) dX0_seed_11 ?_
    refine g_istore_n (pc := 14) 2 C0 (L1 := [some (.ref (ad 0)), some (.int (nI v1)), some (.int (nI (τ 0 13)))]) rfl (by decide) dX0_seed_14 rfl rfl ?_
    refine g_aload_n (pc := 15) 0 C0 rfl dX0_seed_15 rfl ?_
    refine g_get (pc := 16) (v := .ref (ad 1)) C0 (C := RX0) (T := TX0) (N := 14) (ci := 1) (q0 := 0) (j := 0) 1 (xCode (by omega)) rfl rfl in_X0 (by decide) q184 rfl dX0_seed_16 ?_
    refine g_iload_n (pc := 19) 1 C0 rfl dX0_seed_19 rfl ?_
    refine g_putN (pc := 20) C0 hN (C := RX2) (T := TX2) (N := 10) (ci := 3) (q0 := 1) (j := 1) (F := (xFf 5 6 7 21 8) ad) (ty := .int) (z := v1) tyX2 tyX2_ok nmX2 (xNd hβ.n10) 7 (xCode (by omega)) (fun _ => rfl) rfl in_X2 (by decide) q154 rfl (by decide) rfl rfl (by show _ < 10; decide) rfl dX0_seed_20 ?_
    refine G.nmX (Φ := fun β => RX nS β (upc τ 0 13 v1)) (wsf := fun β => xW dT ad nS β) (hβ.w1_7 _) (fun β hβ => ?_)
    refine g_iload_n (pc := 23) 2 C0 rfl dX0_seed_23 rfl ?_
    exact g_iret (pc := 24) C0 dX0_seed_24 ⟨by rw [pSeed, if_neg h2], by rw [pSeedT, if_neg h2, nI_clamp v1b]; exact hβ⟩
  · refine g_ldc (pc := 4) (v := -1000000002) C0 q235 dX0_seed_4 ?_
    exact g_iret (pc := 6) C0 dX0_seed_6 ⟨by rw [pSeed, if_pos (Int32.not_le.mp h1)]; rfl, by rw [pSeedT, if_pos (Int32.not_le.mp h1)]; exact hβ⟩
set_option maxHeartbeats 4000000 in
set_option maxRecDepth 100000 in
theorem xX_areClimbedBy (l : Launch) (D : va_G) (dT : Nat → ClassId) (ad : Nat → Nat) (nS : Nat) (τ β : tT)  (s : Nat) (hβ : RX nS β τ) (hw : wfT τ) (hp : wfP τ) (hs : s < 2 ^ 31) : XI l D dT ad nS yX0_areClimbedBy cX0_areClimbedBy 4 .boolean ({ frames := 4, cells := 0, slots := 0, locals := 133 }) [.ref (ad 0), .int (nI s)] β (fun rr β' => rr = (nI (bN (allB (cvQ τ s) (τ 0 1)))) ∧ RX nS β' τ) := by
  refine XI.ofG (own := "FittingStrides") (L := [some (.ref (ad 0)), some (.int (nI s)), none, none]) rfl (by decide) (Nat.le_of_ble_eq_true rfl) rfl ?_
  intro p' e' s' m' bl' mt' c' C0 hN
  have hn := hβ.n
  have hn10 := hβ.n10
  have hw1 := hw.1
  have hw0 := hw.2.1
  have hp0 := hp.1
  have hp1 := hp.2.1
  refine g_iconst (pc := 0) (v := (nI 1)) C0 dX0_areClimbedBy_0 (by decide) ?_
  refine g_istore_n (pc := 1) 2 C0 (L1 := [some (.ref (ad 0)), some (.int (nI s)), some (.int (nI 1)), none]) rfl (by decide) dX0_areClimbedBy_1 rfl rfl ?_
  refine G.meetX (Φ := fun β => RX nS β τ) (wsf := fun β => xW dT ad nS β) (pcJ := 41) (LJ := [some (.ref (ad 0)), some (.int (nI s)), some (.int (nI (bN (allB (cvQ τ s) (τ 0 1))))), none]) (stJ := []) (fun β hβ => ?_) (fun J41 => ?_)
  · refine g_iload_n (pc := 41) 2 C0 rfl dX0_areClimbedBy_41 rfl ?_
    exact g_zret (pc := 42) C0 dX0_areClimbedBy_42 (nar_bN _) ⟨rfl, hβ⟩
  · refine g_iconst (pc := 2) (v := (nI 0)) C0 dX0_areClimbedBy_2 (by decide) ?_
    refine g_istore_n (pc := 3) 3 C0 (L1 := [some (.ref (ad 0)), some (.int (nI s)), some (.int (nI 1)), some (.int (nI 0))]) rfl (by decide) dX0_areClimbedBy_3 rfl rfl ?_
    refine G.loopX (pc := 4) (Φ := fun i β => RX nS β τ) (wsf := fun β => xW dT ad nS β) (Lf := fun i => [some (.ref (ad 0)), some (.int (nI s)), some (.int (nI (bN (allB (cvQ τ s) i)))), some (.int (nI i))]) (N := τ 0 1) (i0 := 0) β hβ (Nat.zero_le _) (fun β hβ => ?_) (fun i4 β hi4 hj4 hβ ih4 => ?_)
    · refine g_iload_n (pc := 4) 3 C0 rfl dX0_areClimbedBy_4 rfl ?_
      refine g_aload_n (pc := 5) 0 C0 rfl dX0_areClimbedBy_5 rfl ?_
      refine g_get (pc := 6) (v := .ref (ad 4)) C0 (C := RX0) (T := TX0) (N := 14) (ci := 1) (q0 := 0) (j := 0) 0 (xCode (by omega)) rfl rfl in_X0 (by decide) q183 rfl dX0_areClimbedBy_6 ?_
      refine g_getN (pc := 9) (v := .int (nI (τ 0 1))) C0 hN (C := RX1) (T := TX1) (N := 7) (ci := 2) (q0 := 4) (j := 4) 2 (xCode (by omega)) rfl rfl in_X1 (by decide) q103 (xv hβ.f4_2) dX0_areClimbedBy_9 ?_
      refine g_icmp_geN (pc := 12) 41 C0 (by omega) (by omega) dX0_areClimbedBy_12 (by decide) (fun h12 => ?_) (fun h12 => ?_)
      rotate_left
      · exact absurd h12 (by omega)
      refine G.forget 3 ?_
      exact J41 β hβ
    · refine g_iload_n (pc := 4) 3 C0 rfl dX0_areClimbedBy_4 rfl ?_
      refine g_aload_n (pc := 5) 0 C0 rfl dX0_areClimbedBy_5 rfl ?_
      refine g_get (pc := 6) (v := .ref (ad 4)) C0 (C := RX0) (T := TX0) (N := 14) (ci := 1) (q0 := 0) (j := 0) 0 (xCode (by omega)) rfl rfl in_X0 (by decide) q183 rfl dX0_areClimbedBy_6 ?_
      refine g_getN (pc := 9) (v := .int (nI (τ 0 1))) C0 hN (C := RX1) (T := TX1) (N := 7) (ci := 2) (q0 := 4) (j := 4) 2 (xCode (by omega)) rfl rfl in_X1 (by decide) q103 (xv hβ.f4_2) dX0_areClimbedBy_9 ?_
      refine g_icmp_geN (pc := 12) 41 C0 (by omega) (by omega) dX0_areClimbedBy_12 (by decide) (fun h12 => ?_) (fun h12 => ?_)
      · exact absurd h12 (by omega)
      refine g_iload_n (pc := 15) 2 C0 rfl dX0_areClimbedBy_15 rfl ?_
      refine g_if_eqB (pc := 16) 41 C0 dX0_areClimbedBy_16 (by decide) (fun h16 => ?_) (fun h16 => ?_)
      · refine G.forget 3 ?_
        exact G.lE (by rw [allB_f h16 (Nat.le_of_lt hi4), h16]; rfl) (J41 β hβ)
      · refine G.joinX (Φ := fun β => RX nS β τ) (wsf := fun β => xW dT ad nS β) (pcJ := 34) (LJ := [some (.ref (ad 0)), some (.int (nI s)), some (.int (nI (bN (allB (cvQ τ s) i4)))), some (.int (nI i4))]) (stJ := []) (nI (bN (allB (cvQ τ s) (i4 + 1)))) (fun β hβ => ?_) (fun J34 => ?_)
        · refine g_istore_n (pc := 34) 2 C0 (L1 := [some (.ref (ad 0)), some (.int (nI s)), some (.int (nI (bN (allB (cvQ τ s) (i4 + 1))))), some (.int (nI i4))]) rfl (by decide) dX0_areClimbedBy_34 rfl rfl ?_
          refine g_iinc1 (pc := 35) 3 C0 (L1 := [some (.ref (ad 0)), some (.int (nI s)), some (.int (nI (bN (allB (cvQ τ s) (i4 + 1))))), some (.int (nI (i4 + 1)))]) rfl rfl (by decide) dX0_areClimbedBy_35 rfl ?_
          refine g_goto (pc := 38) 4 C0 dX0_areClimbedBy_38 (by decide) ?_
          exact ih4 β hβ
        · refine g_aload_n (pc := 19) 0 C0 rfl dX0_areClimbedBy_19 rfl ?_
          refine g_iload_n (pc := 20) 3 C0 rfl dX0_areClimbedBy_20 rfl ?_
          refine g_cviX (pc := 21) (na := 1) (As := [.int (nI i4)]) (rest := []) C0 hN (xX_climbers l D dT ad nS τ β  i4 hβ hw hp (by omega)) (q0 := 0) (j := 0) (ci := 1) (C := RX0) (T := TX0) (N := 14) (xCode (by omega)) rfl rfl q721 q723 qs11 q57 q724 (by decide +kernel) ⟨Nat.le_of_ble_eq_true rfl, Nat.le_of_ble_eq_true rfl⟩ rfl rfl ⟨Nat.le_of_ble_eq_true rfl, Nat.le_of_ble_eq_true rfl⟩ rfl rfl (Nat.le_of_ble_eq_true rfl) dX0_areClimbedBy_21 (fun r β hc => ?_)
          obtain ⟨rfl, hβ⟩ := hc
          refine g_iload_n (pc := 24) 1 C0 rfl dX0_areClimbedBy_24 rfl ?_
          refine g_iandN (pc := 25) C0  dX0_areClimbedBy_25 ?_
          refine g_if_eqN (pc := 26) 33 C0 (Nat.lt_of_le_of_lt Nat.and_le_right hs) dX0_areClimbedBy_26 (by decide) (fun h26 => ?_) (fun h26 => ?_)
          · refine g_iconst (pc := 33) (v := (nI 0)) C0 dX0_areClimbedBy_33 (by decide) ?_
            exact J34 β hβ (nI 0) (bret0 (by rw [allB_s, h16]; first | done | (simp [cvQ, h16, h26] <;> omega)))
          · refine g_iconst (pc := 29) (v := (nI 1)) C0 dX0_areClimbedBy_29 (by decide) ?_
            refine g_goto (pc := 30) 34 C0 dX0_areClimbedBy_30 (by decide) ?_
            exact J34 β hβ (nI 1) (bret1 (by rw [allB_s, h16]; first | done | (simp [cvQ, h16, h26] <;> omega)))
set_option maxHeartbeats 4000000 in
set_option maxRecDepth 100000 in
theorem xX_isAsSeen (l : Launch) (D : va_G) (dT : Nat → ClassId) (ad : Nat → Nat) (nS : Nat) (τ β : tT)  (s : Nat) (hβ : RX nS β τ) (hw : wfT τ) (hp : wfP τ) (hv : wfS τ) (h1 : 1 ≤ s) (h2 : s ≤ 24) : XI l D dT ad nS yX0_isAsSeen cX0_isAsSeen 4 .boolean ({ frames := 5, cells := 0, slots := 0, locals := 162 }) [.ref (ad 0), .int (nI s)] β (fun rr β' => rr = (nI (bN (asSeen τ s))) ∧ RX nS β' τ) := by
  refine XI.ofG (own := "FittingStrides") (L := [some (.ref (ad 0)), some (.int (nI s)), none, none]) rfl (by decide) (Nat.le_of_ble_eq_true rfl) rfl ?_
  intro p' e' s' m' bl' mt' c' C0 hN
  have hn := hβ.n
  have hn10 := hβ.n10
  have hw1 := hw.1
  have hw0 := hw.2.1
  have hp0 := hp.1
  have hp1 := hp.2.1
  obtain ⟨s1, s2⟩ := id hv
  refine g_iconst (pc := 0) (v := (nI 1)) C0 dX0_isAsSeen_0 (by decide) ?_
  refine g_istore_n (pc := 1) 2 C0 (L1 := [some (.ref (ad 0)), some (.int (nI s)), some (.int (nI 1)), none]) rfl (by decide) dX0_isAsSeen_1 rfl rfl ?_
  refine G.meetX (Φ := fun β => RX nS β τ) (wsf := fun β => xW dT ad nS β) (pcJ := 62) (LJ := [some (.ref (ad 0)), some (.int (nI s)), some (.int (nI (bN (allB (seenQ τ s) (τ 0 34))))), none]) (stJ := []) (fun β hβ => ?_) (fun J62 => ?_)
  · refine g_iload_n (pc := 62) 2 C0 rfl dX0_isAsSeen_62 rfl ?_
    exact g_zret (pc := 63) C0 dX0_isAsSeen_63 (nar_bN _) ⟨rfl, hβ⟩
  · refine g_iconst (pc := 2) (v := (nI 0)) C0 dX0_isAsSeen_2 (by decide) ?_
    refine g_istore_n (pc := 3) 3 C0 (L1 := [some (.ref (ad 0)), some (.int (nI s)), some (.int (nI 1)), some (.int (nI 0))]) rfl (by decide) dX0_isAsSeen_3 rfl rfl ?_
    refine G.loopX (pc := 4) (Φ := fun i β => RX nS β τ) (wsf := fun β => xW dT ad nS β) (Lf := fun i => [some (.ref (ad 0)), some (.int (nI s)), some (.int (nI (bN (allB (seenQ τ s) i)))), some (.int (nI i))]) (N := τ 0 34) (i0 := 0) β hβ (Nat.zero_le _) (fun β hβ => ?_) (fun i4 β hi4 hj4 hβ ih4 => ?_)
    · refine g_iload_n (pc := 4) 3 C0 rfl dX0_isAsSeen_4 rfl ?_
      refine g_aload_n (pc := 5) 0 C0 rfl dX0_isAsSeen_5 rfl ?_
      refine g_get (pc := 6) (v := .int (nI (τ 0 34))) C0 (C := RX0) (T := TX0) (N := 14) (ci := 1) (q0 := 0) (j := 0) 4 (xCode (by omega)) rfl rfl in_X0 (by decide) q187 (xv hβ.f0_4) dX0_isAsSeen_6 ?_
      refine g_icmp_geN (pc := 9) 62 C0 (by omega) (by omega) dX0_isAsSeen_9 (by decide) (fun h9 => ?_) (fun h9 => ?_)
      rotate_left
      · exact absurd h9 (by omega)
      refine G.forget 3 ?_
      exact J62 β hβ
    · obtain ⟨z1, z2, z3⟩ := s2 i4 hi4
      have hrl := reachS_lt hw s 0 (place := τ 35 i4) (by omega)
      refine g_iload_n (pc := 4) 3 C0 rfl dX0_isAsSeen_4 rfl ?_
      refine g_aload_n (pc := 5) 0 C0 rfl dX0_isAsSeen_5 rfl ?_
      refine g_get (pc := 6) (v := .int (nI (τ 0 34))) C0 (C := RX0) (T := TX0) (N := 14) (ci := 1) (q0 := 0) (j := 0) 4 (xCode (by omega)) rfl rfl in_X0 (by decide) q187 (xv hβ.f0_4) dX0_isAsSeen_6 ?_
      refine g_icmp_geN (pc := 9) 62 C0 (by omega) (by omega) dX0_isAsSeen_9 (by decide) (fun h9 => ?_) (fun h9 => ?_)
      · exact absurd h9 (by omega)
      refine g_iload_n (pc := 12) 2 C0 rfl dX0_isAsSeen_12 rfl ?_
      refine g_if_eqB (pc := 13) 62 C0 dX0_isAsSeen_13 (by decide) (fun h13 => ?_) (fun h13 => ?_)
      · refine G.forget 3 ?_
        exact G.lE (by rw [allB_f h13 (Nat.le_of_lt hi4), h13]; rfl) (J62 β hβ)
      · refine G.joinX (Φ := fun β => RX nS β τ) (wsf := fun β => xW dT ad nS β) (pcJ := 55) (LJ := [some (.ref (ad 0)), some (.int (nI s)), some (.int (nI (bN (allB (seenQ τ s) i4)))), some (.int (nI i4))]) (stJ := []) (nI (bN (allB (seenQ τ s) (i4 + 1)))) (fun β hβ => ?_) (fun J55 => ?_)
        · refine g_istore_n (pc := 55) 2 C0 (L1 := [some (.ref (ad 0)), some (.int (nI s)), some (.int (nI (bN (allB (seenQ τ s) (i4 + 1))))), some (.int (nI i4))]) rfl (by decide) dX0_isAsSeen_55 rfl rfl ?_
          refine g_iinc1 (pc := 56) 3 C0 (L1 := [some (.ref (ad 0)), some (.int (nI s)), some (.int (nI (bN (allB (seenQ τ s) (i4 + 1))))), some (.int (nI (i4 + 1)))]) rfl rfl (by decide) dX0_isAsSeen_56 rfl ?_
          refine g_goto (pc := 59) 4 C0 dX0_isAsSeen_59 (by decide) ?_
          exact ih4 β hβ
        · refine g_aload_n (pc := 16) 0 C0 rfl dX0_isAsSeen_16 rfl ?_
          refine g_aload_n (pc := 17) 0 C0 rfl dX0_isAsSeen_17 rfl ?_
          refine g_get (pc := 18) (v := .ref (ad 9)) C0 (C := RX0) (T := TX0) (N := 14) (ci := 1) (q0 := 0) (j := 0) 2 (xCode (by omega)) rfl rfl in_X0 (by decide) q185 rfl dX0_isAsSeen_18 ?_
          refine g_iload_n (pc := 21) 3 C0 rfl dX0_isAsSeen_21 rfl ?_
          refine g_aaldA (pc := 22) (q0 := 9) (j := 9) (t0 := 3) (N := 20) (jr := 62 + i4) C0 i4 (xCode (by omega)) rfl rfl (by decide) (by omega) rfl dX0_isAsSeen_22 ?_
          refine g_iconst (pc := 23) (v := (nI 0)) C0 dX0_isAsSeen_23 (by decide) ?_
          refine g_ialdV (pc := 24) (q0 := (62 + i4)) (j := (62 + i4)) (t0 := 0) (N := 2) (v := (τ 35 i4)) C0 0 (xCode (by omega)) (fun f => xMk_seen (by omega) f) rfl (by decide) (by omega) (hβ.seen0 (by omega)) dX0_isAsSeen_24 ?_
          refine g_iload_n (pc := 25) 1 C0 rfl dX0_isAsSeen_25 rfl ?_
          refine g_iconst (pc := 26) (v := (nI 0)) C0 dX0_isAsSeen_26 (by decide) ?_
          refine g_cviX (pc := 27) (na := 3) (As := [.int (nI (τ 35 i4)), .int (nI s), .int (nI 0)]) (rest := []) C0 hN (xX_reachOf l D dT ad nS τ β  (τ 35 i4) s 0 hβ hw hp (by omega) (by omega) (by omega) (by omega)) (q0 := 0) (j := 0) (ci := 1) (C := RX0) (T := TX0) (N := 14) (xCode (by omega)) rfl rfl q759 q761 qs15 q57 q762 (by decide +kernel) ⟨Nat.le_of_ble_eq_true rfl, Nat.le_of_ble_eq_true rfl⟩ rfl rfl ⟨Nat.le_of_ble_eq_true rfl, Nat.le_of_ble_eq_true rfl⟩ rfl rfl (Nat.le_of_ble_eq_true rfl) dX0_isAsSeen_27 (fun r β hc => ?_)
          obtain ⟨rfl, hβ, he⟩ := hc
          refine g_aload_n (pc := 30) 0 C0 rfl dX0_isAsSeen_30 rfl ?_
          refine g_get (pc := 31) (v := .ref (ad 9)) C0 (C := RX0) (T := TX0) (N := 14) (ci := 1) (q0 := 0) (j := 0) 2 (xCode (by omega)) rfl rfl in_X0 (by decide) q185 rfl dX0_isAsSeen_31 ?_
          refine g_iload_n (pc := 34) 3 C0 rfl dX0_isAsSeen_34 rfl ?_
          refine g_aaldA (pc := 35) (q0 := 9) (j := 9) (t0 := 3) (N := 20) (jr := 62 + i4) C0 i4 (xCode (by omega)) rfl rfl (by decide) (by omega) rfl dX0_isAsSeen_35 ?_
          refine g_iconst (pc := 36) (v := (nI 1)) C0 dX0_isAsSeen_36 (by decide) ?_
          refine g_ialdV (pc := 37) (q0 := (62 + i4)) (j := (62 + i4)) (t0 := 0) (N := 2) (v := (τ 36 i4)) C0 1 (xCode (by omega)) (fun f => xMk_seen (by omega) f) rfl (by decide) (by omega) (hβ.seen1 (by omega)) dX0_isAsSeen_37 ?_
          refine g_csi (pc := 38) (na := 2) (As := [.int (nI (reachS τ (τ 35 i4) s 0)), .int (nI (τ 36 i4))]) (rest := []) C0 (xX_has l (reachS τ (τ 35 i4) s 0) (τ 36 i4) (by omega) (by omega)) q763 q764 q57 q765 (by decide +kernel) ⟨Nat.le_of_ble_eq_true rfl, Nat.le_of_ble_eq_true rfl⟩ rfl rfl ⟨Nat.le_of_ble_eq_true rfl, Nat.le_of_ble_eq_true rfl⟩ rfl rfl (Nat.le_of_ble_eq_true rfl) dX0_isAsSeen_38 ?_
          refine g_aload_n (pc := 41) 0 C0 rfl dX0_isAsSeen_41 rfl ?_
          refine g_get (pc := 42) (v := .ref (ad 10)) C0 (C := RX0) (T := TX0) (N := 14) (ci := 1) (q0 := 0) (j := 0) 3 (xCode (by omega)) rfl rfl in_X0 (by decide) q186 rfl dX0_isAsSeen_42 ?_
          refine g_iload_n (pc := 45) 3 C0 rfl dX0_isAsSeen_45 rfl ?_
          refine g_zaldV (pc := 46) (q0 := 10) (j := 10) (t0 := 1) (N := 20) (v := (τ 37 i4)) C0 i4 (xCode (by omega)) (fun _ => rfl) rfl (by decide) (by omega) (hβ.a10 (by omega)) dX0_isAsSeen_46 ?_
          refine g_icmp_neN (pc := 47) 54 C0 (Nat.lt_trans (bN_lt _) (by decide)) (by omega) dX0_isAsSeen_47 (by decide) (fun h47 => ?_) (fun h47 => ?_)
          · refine g_iconst (pc := 54) (v := (nI 0)) C0 dX0_isAsSeen_54 (by decide) ?_
            exact J55 β hβ (nI 0) (bret0 (by rw [allB_s, h13]; first | done | (simp [seenQ, h13, h47] <;> omega)))
          · refine g_iconst (pc := 50) (v := (nI 1)) C0 dX0_isAsSeen_50 (by decide) ?_
            refine g_goto (pc := 51) 55 C0 dX0_isAsSeen_51 (by decide) ?_
            exact J55 β hβ (nI 1) (bret1 (by rw [allB_s, h13]; first | done | (simp [seenQ, h13, h47] <;> omega)))
set_option maxHeartbeats 4000000 in
set_option maxRecDepth 100000 in
theorem xX_fits (l : Launch) (D : va_G) (dT : Nat → ClassId) (ad : Nat → Nat) (nS : Nat) (τ β : tT)   (hβ : RX nS β τ) (hw : wfT τ) (hp : wfP τ) (hv : wfS τ) : XI l D dT ad nS yX0_fits cX0_fits 3 .int ({ frames := 6, cells := 0, slots := 0, locals := 185 }) [.ref (ad 0)] β (fun rr β' => rr = (nI (fitsS τ)) ∧ RX nS β' τ) := by
  refine XI.ofG (own := "FittingStrides") (L := [some (.ref (ad 0)), none, none]) rfl (by decide) (Nat.le_of_ble_eq_true rfl) rfl ?_
  intro p' e' s' m' bl' mt' c' C0 hN
  have hn := hβ.n
  have hn10 := hβ.n10
  have hw1 := hw.1
  have hw0 := hw.2.1
  have hp0 := hp.1
  have hp1 := hp.2.1
  refine g_iconst (pc := 0) (v := (nI 0)) C0 dX0_fits_0 (by decide) ?_
  refine g_istore_n (pc := 1) 1 C0 (L1 := [some (.ref (ad 0)), some (.int (nI 0)), none]) rfl (by decide) dX0_fits_1 rfl rfl ?_
  refine g_iconst (pc := 2) (v := (nI 1)) C0 dX0_fits_2 (by decide) ?_
  refine g_istore_n (pc := 3) 2 C0 (L1 := [some (.ref (ad 0)), some (.int (nI 0)), some (.int (nI 1))]) rfl (by decide) dX0_fits_3 rfl rfl ?_
  refine G.loopX (pc := 4) (Φ := fun i β => RX nS β τ) (wsf := fun β => xW dT ad nS β) (Lf := fun i => [some (.ref (ad 0)), some (.int (nI (fitsN τ i))), some (.int (nI i))]) (N := 25) (i0 := 1) β hβ (by omega) (fun β hβ => ?_) (fun i4 β hi4 hj4 hβ ih4 => ?_)
  · refine g_iload_n (pc := 4) 2 C0 rfl dX0_fits_4 rfl ?_
    refine g_bipush (pc := 5) (v := (nI 24)) C0 dX0_fits_5 (by decide) ?_
    refine g_icmp_gtN (pc := 7) 36 C0 (by decide) (by decide) dX0_fits_7 (by decide) (fun h7 => ?_) (fun h7 => ?_)
    rotate_left
    · exact absurd h7 (by omega)
    refine g_iload_n (pc := 36) 1 C0 rfl dX0_fits_36 rfl ?_
    exact g_iret (pc := 37) C0 dX0_fits_37 ⟨rfl, hβ⟩
  · refine g_iload_n (pc := 4) 2 C0 rfl dX0_fits_4 rfl ?_
    refine g_bipush (pc := 5) (v := (nI 24)) C0 dX0_fits_5 (by decide) ?_
    refine g_icmp_gtN (pc := 7) 36 C0 (by omega) (by decide) dX0_fits_7 (by decide) (fun h7 => ?_) (fun h7 => ?_)
    · exact absurd h7 (by omega)
    refine g_iload_n (pc := 10) 1 C0 rfl dX0_fits_10 rfl ?_
    refine G.joinX (Φ := fun β => RX nS β τ) (wsf := fun β => xW dT ad nS β) (pcJ := 28) (LJ := [some (.ref (ad 0)), some (.int (nI (fitsN τ i4))), some (.int (nI i4))]) (stJ := [.int (nI (fitsN τ i4))]) (nI (if asSeen τ i4 = true then 2 ^ (i4 - 1) else 0)) (fun β hβ => ?_) (fun J28 => ?_)
    · refine g_iorN (pc := 28) C0  dX0_fits_28 ?_
      refine g_istore_n (pc := 29) 1 C0 (L1 := [some (.ref (ad 0)), some (.int (nI ((fitsN τ i4) ||| (if asSeen τ i4 = true then 2 ^ (i4 - 1) else 0)))), some (.int (nI i4))]) rfl (by decide) dX0_fits_29 rfl rfl ?_
      refine g_iinc1 (pc := 30) 2 C0 (L1 := [some (.ref (ad 0)), some (.int (nI ((fitsN τ i4) ||| (if asSeen τ i4 = true then 2 ^ (i4 - 1) else 0)))), some (.int (nI (i4 + 1)))]) rfl rfl (by decide) dX0_fits_30 rfl ?_
      refine g_goto (pc := 33) 4 C0 dX0_fits_33 (by decide) ?_
      exact G.lE (by rw [fitsN_s τ hj4]) (ih4 β hβ)
    · refine g_aload_n (pc := 11) 0 C0 rfl dX0_fits_11 rfl ?_
      refine g_iload_n (pc := 12) 2 C0 rfl dX0_fits_12 rfl ?_
      refine g_cviX (pc := 13) (na := 1) (As := [.int (nI i4)]) (rest := [.int (nI (fitsN τ i4))]) C0 hN (xX_isAsSeen l D dT ad nS τ β  i4 hβ hw hp hv (by omega) (by omega)) (q0 := 0) (j := 0) (ci := 1) (C := RX0) (T := TX0) (N := 14) (xCode (by omega)) rfl rfl q923 q925 qs30 q57 q926 (by decide +kernel) ⟨Nat.le_of_ble_eq_true rfl, Nat.le_of_ble_eq_true rfl⟩ rfl rfl ⟨Nat.le_of_ble_eq_true rfl, Nat.le_of_ble_eq_true rfl⟩ rfl rfl (Nat.le_of_ble_eq_true rfl) dX0_fits_13 (fun r β hc => ?_)
      obtain ⟨rfl, hβ⟩ := hc
      refine g_if_eqB (pc := 16) 27 C0 dX0_fits_16 (by decide) (fun h16 => ?_) (fun h16 => ?_)
      · refine g_iconst (pc := 27) (v := (nI 0)) C0 dX0_fits_27 (by decide) ?_
        exact J28 β hβ (nI 0) (congrArg nI (by simp [h16]))
      · refine g_iconst (pc := 19) (v := (nI 1)) C0 dX0_fits_19 (by decide) ?_
        refine g_iload_n (pc := 20) 2 C0 rfl dX0_fits_20 rfl ?_
        refine g_iconst (pc := 21) (v := (nI 1)) C0 dX0_fits_21 (by decide) ?_
        refine g_isubN (pc := 22) C0 (by omega) dX0_fits_22 ?_
        refine g_ishl1N (pc := 23) C0 (by omega) dX0_fits_23 ?_
        refine g_goto (pc := 24) 28 C0 dX0_fits_24 (by decide) ?_
        exact J28 β hβ (nI (2 ^ (i4 - 1))) (congrArg nI (by simp [h16]))
set_option maxHeartbeats 4000000 in
set_option maxRecDepth 100000 in
theorem xX_best (l : Launch) (D : va_G) (dT : Nat → ClassId) (ad : Nat → Nat) (nS : Nat) (τ β : tT)  (x : Int32) (hβ : RX nS β τ) (hw : wfT τ) (hp : wfP τ) : XI l D dT ad nS yX0_best cX0_best 6 .int ({ frames := 5, cells := 0, slots := 0, locals := 162 }) [.ref (ad 0), .int x] β (fun rr β' => rr = (pBest τ x) ∧ RX nS β' τ) := by
  refine XI.ofG (own := "FittingStrides") (L := [some (.ref (ad 0)), some (.int x), none, none, none, none]) rfl (by decide) (Nat.le_of_ble_eq_true rfl) rfl ?_
  intro p' e' s' m' bl' mt' c' C0 hN
  have hn := hβ.n
  have hn10 := hβ.n10
  have hw1 := hw.1
  have hw0 := hw.2.1
  have hp0 := hp.1
  have hp1 := hp.2.1
  refine g_aload_n (pc := 0) 0 C0 rfl dX0_best_0 rfl ?_
  refine g_iload_n (pc := 1) 1 C0 rfl dX0_best_1 rfl ?_
  refine g_cviX (pc := 2) (na := 1) (As := [.int x]) (rest := []) C0 hN (xX_isPlace l D dT ad nS τ β  x hβ (by omega)) (q0 := 0) (j := 0) (ci := 1) (C := RX0) (T := TX0) (N := 14) (xCode (by omega)) rfl rfl q838 q840 qs22 q57 q841 (by decide +kernel) ⟨Nat.le_of_ble_eq_true rfl, Nat.le_of_ble_eq_true rfl⟩ rfl rfl ⟨Nat.le_of_ble_eq_true rfl, Nat.le_of_ble_eq_true rfl⟩ rfl rfl (Nat.le_of_ble_eq_true rfl) dX0_best_2 (fun r β0 hc => ?_)
  obtain ⟨rfl, rfl⟩ := hc
  refine g_if_neB (pc := 5) 11 C0 dX0_best_5 (by decide) (fun h5 => ?_) (fun h5 => ?_)
  · obtain ⟨x1, rfl, x1h, x1b⟩ := ixB_t h5
    refine g_iconst (pc := 11) (v := (nI 1)) C0 dX0_best_11 (by decide) ?_
    refine g_istore_n (pc := 12) 2 C0 (L1 := [some (.ref (ad 0)), some (.int (nI x1)), some (.int (nI 1)), none, none, none]) rfl (by decide) dX0_best_12 rfl rfl ?_
    refine g_iconst (pc := 13) (v := (nI 0)) C0 dX0_best_13 (by decide) ?_
    refine g_istore_n (pc := 14) 3 C0 (L1 := [some (.ref (ad 0)), some (.int (nI x1)), some (.int (nI 1)), some (.int (nI 0)), none, none]) rfl (by decide) dX0_best_14 rfl rfl ?_
    refine g_iconst (pc := 15) (v := (nI 1)) C0 dX0_best_15 (by decide) ?_
    refine g_istore (pc := 16) 4 C0 (L1 := [some (.ref (ad 0)), some (.int (nI x1)), some (.int (nI 1)), some (.int (nI 0)), some (.int (nI 1)), none]) rfl (by decide) dX0_best_16 rfl ?_
    refine G.loopX (pc := 18) (Φ := fun i β => RX nS β τ) (wsf := fun β => xW dT ad nS β) (Lf := fun i => [some (.ref (ad 0)), some (.int (nI x1)), some (.int (nI (max 1 (bst τ x1 i).1))), some (.int (nI ((bst τ x1 i).2))), some (.int (nI i)), none]) (N := 25) (i0 := 1) β hβ (by omega) (fun β hβ => ?_) (fun i18 β hi18 hj18 hβ ih18 => ?_)
    · refine g_iload (pc := 18) 4 C0 rfl dX0_best_18 ?_
      refine g_bipush (pc := 20) (v := (nI 24)) C0 dX0_best_20 (by decide) ?_
      refine g_icmp_gtN (pc := 22) 64 C0 (by decide) (by decide) dX0_best_22 (by decide) (fun h22 => ?_) (fun h22 => ?_)
      rotate_left
      · exact absurd h22 (by omega)
      refine g_iload_n (pc := 64) 2 C0 rfl dX0_best_64 rfl ?_
      exact g_iret (pc := 65) C0 dX0_best_65 ⟨by rw [pBest, if_pos h5, nI_clamp x1b, bst_m1], hβ⟩
    · have hrl := reachS_lt hw i18 0 (place := x1) (by omega)
      obtain ⟨e1, e2⟩ := bst_lt τ x1 i18
      refine g_iload (pc := 18) 4 C0 rfl dX0_best_18 ?_
      refine g_bipush (pc := 20) (v := (nI 24)) C0 dX0_best_20 (by decide) ?_
      refine g_icmp_gtN (pc := 22) 64 C0 (by omega) (by decide) dX0_best_22 (by decide) (fun h22 => ?_) (fun h22 => ?_)
      · exact absurd h22 (by omega)
      refine g_aload_n (pc := 25) 0 C0 rfl dX0_best_25 rfl ?_
      refine g_iload_n (pc := 26) 1 C0 rfl dX0_best_26 rfl ?_
      refine g_iload (pc := 27) 4 C0 rfl dX0_best_27 ?_
      refine g_iconst (pc := 29) (v := (nI 0)) C0 dX0_best_29 (by decide) ?_
      refine g_cviX (pc := 30) (na := 3) (As := [.int (nI x1), .int (nI i18), .int (nI 0)]) (rest := []) C0 hN (xX_reachOf l D dT ad nS τ β  x1 i18 0 hβ hw hp (by omega) (by omega) (by omega) (by omega)) (q0 := 0) (j := 0) (ci := 1) (C := RX0) (T := TX0) (N := 14) (xCode (by omega)) rfl rfl q759 q761 qs15 q57 q762 (by decide +kernel) ⟨Nat.le_of_ble_eq_true rfl, Nat.le_of_ble_eq_true rfl⟩ rfl rfl ⟨Nat.le_of_ble_eq_true rfl, Nat.le_of_ble_eq_true rfl⟩ rfl rfl (Nat.le_of_ble_eq_true rfl) dX0_best_30 (fun r β hc => ?_)
      obtain ⟨rfl, hβ, he⟩ := hc
      refine g_csi (pc := 33) (na := 1) (As := [.int (nI (reachS τ x1 i18 0))]) (rest := []) C0 (xJ_bitCount l (reachS τ x1 i18 0) (by omega)) q885 q886 q78 q887 (by decide +kernel) ⟨Nat.le_of_ble_eq_true rfl, Nat.le_of_ble_eq_true rfl⟩ rfl rfl ⟨Nat.le_of_ble_eq_true rfl, Nat.le_of_ble_eq_true rfl⟩ rfl rfl (Nat.le_of_ble_eq_true rfl) dX0_best_33 ?_
      refine g_istore (pc := 36) 5 C0 (L1 := [some (.ref (ad 0)), some (.int (nI x1)), some (.int (nI (max 1 (bst τ x1 i18).1))), some (.int (nI ((bst τ x1 i18).2))), some (.int (nI i18)), some (.int (nI (bitsN (reachS τ x1 i18 0) 24)))]) rfl (by decide) dX0_best_36 rfl ?_
      obtain ⟨n5, en5⟩ : ∃ z, z = (bitsN (reachS τ x1 i18 0) 24) := ⟨_, rfl⟩
      have hn5 : n5 ≤ 24 := by rw [en5]; exact bitsN_le _ _
      refine G.lE (L' := [some (.ref (ad 0)), some (.int (nI x1)), some (.int (nI (max 1 (bst τ x1 i18).1))), some (.int (nI ((bst τ x1 i18).2))), some (.int (nI i18)), some (.int (nI n5))]) (by rw [en5]) ?_
      refine G.join (pcJ := 50) (wsJ := xW dT ad nS β) (LJ := [some (.ref (ad 0)), some (.int (nI x1)), some (.int (nI (max 1 (bst τ x1 i18).1))), some (.int (nI ((bst τ x1 i18).2))), some (.int (nI i18)), some (.int (nI n5))]) (stJ := []) (nI (max 1 (bst τ x1 (i18 + 1)).1)) ?_ (fun J50 => ?_)
      · refine g_istore_n (pc := 50) 2 C0 (L1 := [some (.ref (ad 0)), some (.int (nI x1)), some (.int (nI (max 1 (bst τ x1 (i18 + 1)).1))), some (.int (nI ((bst τ x1 i18).2))), some (.int (nI i18)), some (.int (nI n5))]) rfl (by decide) dX0_best_50 rfl rfl ?_
        refine g_iload_n (pc := 51) 3 C0 rfl dX0_best_51 rfl ?_
        refine g_iload (pc := 52) 5 C0 rfl dX0_best_52 ?_
        refine g_mmax (pc := 54) C0 (by omega) (by omega) q798 q329 q67 q330 (Nat.le_of_ble_eq_true rfl) (Nat.le_of_ble_eq_true rfl) ⟨Nat.le_of_ble_eq_true rfl, Nat.le_of_ble_eq_true rfl⟩ dX0_best_54 ?_
        refine g_istore_n (pc := 57) 3 C0 (L1 := [some (.ref (ad 0)), some (.int (nI x1)), some (.int (nI (max 1 (bst τ x1 (i18 + 1)).1))), some (.int (nI (max ((bst τ x1 i18).2) n5))), some (.int (nI i18)), some (.int (nI n5))]) rfl (by decide) dX0_best_57 rfl rfl ?_
        refine g_iinc1 (pc := 58) 4 C0 (L1 := [some (.ref (ad 0)), some (.int (nI x1)), some (.int (nI (max 1 (bst τ x1 (i18 + 1)).1))), some (.int (nI (max ((bst τ x1 i18).2) n5))), some (.int (nI (i18 + 1))), some (.int (nI n5))]) rfl rfl (by decide) dX0_best_58 rfl ?_
        refine g_goto (pc := 61) 18 C0 dX0_best_61 (by decide) ?_
        refine G.forget 5 ?_
        subst en5
        exact G.lE (by rw [bst_mx τ x1 hj18]; rfl) (ih18 β hβ)
      · refine g_iload (pc := 38) 5 C0 rfl dX0_best_38 ?_
        refine g_iload_n (pc := 40) 3 C0 rfl dX0_best_40 rfl ?_
        refine g_icmp_ltN (pc := 41) 49 C0 (by omega) (by omega) dX0_best_41 (by decide) (fun h41 => ?_) (fun h41 => ?_)
        · refine g_iload_n (pc := 49) 2 C0 rfl dX0_best_49 rfl ?_
          exact J50 (nI (max 1 (bst τ x1 i18).1)) (congrArg nI (by rw [bst_s τ x1 hj18, bstF, ← en5]; split <;> first | rfl | omega | (show _ = max 1 i18; omega)))
        · refine g_iload (pc := 44) 4 C0 rfl dX0_best_44 ?_
          refine g_goto (pc := 46) 50 C0 dX0_best_46 (by decide) ?_
          exact J50 (nI i18) (congrArg nI (by rw [bst_s τ x1 hj18, bstF, ← en5]; split <;> first | rfl | omega | (show _ = max 1 i18; omega)))
  · refine g_ldc (pc := 8) (v := -1000000001) C0 q704 dX0_best_8 ?_
    exact g_iret (pc := 10) C0 dX0_best_10 ⟨by rw [pBest, h5]; rfl, hβ⟩
set_option maxHeartbeats 4000000 in
set_option maxRecDepth 100000 in
theorem xX_cover (l : Launch) (D : va_G) (dT : Nat → ClassId) (ad : Nat → Nat) (nS : Nat) (τ β : tT)   (hβ : RX nS β τ) (hw : wfT τ) (hp : wfP τ) : XI l D dT ad nS yX0_cover cX0_cover 4 .int ({ frames := 5, cells := 0, slots := 0, locals := 156 }) [.ref (ad 0)] β (fun rr β' => rr = (pCover τ) ∧ RX nS β' τ) := by
  refine XI.ofG (own := "FittingStrides") (L := [some (.ref (ad 0)), none, none, none]) rfl (by decide) (Nat.le_of_ble_eq_true rfl) rfl ?_
  intro p' e' s' m' bl' mt' c' C0 hN
  have hn := hβ.n
  have hn10 := hβ.n10
  have hw1 := hw.1
  have hw0 := hw.2.1
  have hp0 := hp.1
  have hp1 := hp.2.1
  have hpw := pw_lt hp0
  have hpe := pw_le hp0
  refine g_iconst (pc := 0) (v := (-1)) C0 dX0_cover_0 (by decide) ?_
  refine g_istore_n (pc := 1) 1 C0 (L1 := [some (.ref (ad 0)), some (.int (-1)), none, none]) rfl (by decide) dX0_cover_1 rfl rfl ?_
  refine g_iconst (pc := 2) (v := (nI 0)) C0 dX0_cover_2 (by decide) ?_
  refine g_istore_n (pc := 3) 2 C0 (L1 := [some (.ref (ad 0)), some (.int (-1)), some (.int (nI 0)), none]) rfl (by decide) dX0_cover_3 rfl rfl ?_
  refine G.loopX (pc := 4) (Φ := fun i β => RX nS β τ) (wsf := fun β => xW dT ad nS β) (Lf := fun i => [some (.ref (ad 0)), some (.int (oI (cvB τ i))), some (.int (nI i)), none]) (N := 2 ^ τ 0 8) (i0 := 0) β hβ (Nat.zero_le _) (fun β hβ => ?_) (fun i4 β hi4 hj4 hβ ih4 => ?_)
  · refine g_iload_n (pc := 4) 2 C0 rfl dX0_cover_4 rfl ?_
    refine g_iconst (pc := 5) (v := (nI 1)) C0 dX0_cover_5 (by decide) ?_
    refine g_aload_n (pc := 6) 0 C0 rfl dX0_cover_6 rfl ?_
    refine g_get (pc := 7) (v := .ref (ad 1)) C0 (C := RX0) (T := TX0) (N := 14) (ci := 1) (q0 := 0) (j := 0) 1 (xCode (by omega)) rfl rfl in_X0 (by decide) q184 rfl dX0_cover_7 ?_
    refine g_getN (pc := 10) (v := .int (nI (τ 0 8))) C0 hN (C := RX2) (T := TX2) (N := 10) (ci := 3) (q0 := 1) (j := 1) 3 (xCode (by omega)) rfl rfl in_X2 (by decide) q146 (xv hβ.f1_3) dX0_cover_10 ?_
    refine g_ishl1N (pc := 13) C0 (by omega) dX0_cover_13 ?_
    refine g_icmp_geN (pc := 14) 63 C0 (by omega) (by omega) dX0_cover_14 (by decide) (fun h14 => ?_) (fun h14 => ?_)
    rotate_left
    · exact absurd h14 (by omega)
    refine g_iload_n (pc := 63) 1 C0 rfl dX0_cover_63 rfl ?_
    exact g_iret (pc := 64) C0 dX0_cover_64 ⟨rfl, hβ⟩
  · refine g_iload_n (pc := 4) 2 C0 rfl dX0_cover_4 rfl ?_
    refine g_iconst (pc := 5) (v := (nI 1)) C0 dX0_cover_5 (by decide) ?_
    refine g_aload_n (pc := 6) 0 C0 rfl dX0_cover_6 rfl ?_
    refine g_get (pc := 7) (v := .ref (ad 1)) C0 (C := RX0) (T := TX0) (N := 14) (ci := 1) (q0 := 0) (j := 0) 1 (xCode (by omega)) rfl rfl in_X0 (by decide) q184 rfl dX0_cover_7 ?_
    refine g_getN (pc := 10) (v := .int (nI (τ 0 8))) C0 hN (C := RX2) (T := TX2) (N := 10) (ci := 3) (q0 := 1) (j := 1) 3 (xCode (by omega)) rfl rfl in_X2 (by decide) q146 (xv hβ.f1_3) dX0_cover_10 ?_
    refine g_ishl1N (pc := 13) C0 (by omega) dX0_cover_13 ?_
    refine g_icmp_geN (pc := 14) 63 C0 (by omega) (by omega) dX0_cover_14 (by decide) (fun h14 => ?_) (fun h14 => ?_)
    · exact absurd h14 (by omega)
    refine G.join (pcJ := 38) (wsJ := xW dT ad nS β) (LJ := [some (.ref (ad 0)), some (.int (oI (cvB τ i4))), some (.int (nI i4)), none]) (stJ := []) (nI (bN (fewB i4 (cvB τ i4)))) ?_ (fun J38 => ?_)
    · refine g_istore_n (pc := 38) 3 C0 (L1 := [some (.ref (ad 0)), some (.int (oI (cvB τ i4))), some (.int (nI i4)), some (.int (nI (bN (fewB i4 (cvB τ i4)))))]) rfl (by decide) dX0_cover_38 rfl rfl ?_
      refine G.joinX (Φ := fun β => RX nS β τ) (wsf := fun β => xW dT ad nS β) (pcJ := 56) (LJ := [some (.ref (ad 0)), some (.int (oI (cvB τ i4))), some (.int (nI i4)), some (.int (nI (bN (fewB i4 (cvB τ i4)))))]) (stJ := []) (oI (cvB τ (i4 + 1))) (fun β hβ => ?_) (fun J56 => ?_)
      · refine g_istore_n (pc := 56) 1 C0 (L1 := [some (.ref (ad 0)), some (.int (oI (cvB τ (i4 + 1)))), some (.int (nI i4)), some (.int (nI (bN (fewB i4 (cvB τ i4)))))]) rfl (by decide) dX0_cover_56 rfl rfl ?_
        refine g_iinc1 (pc := 57) 2 C0 (L1 := [some (.ref (ad 0)), some (.int (oI (cvB τ (i4 + 1)))), some (.int (nI (i4 + 1))), some (.int (nI (bN (fewB i4 (cvB τ i4)))))]) rfl rfl (by decide) dX0_cover_57 rfl ?_
        refine g_goto (pc := 60) 4 C0 dX0_cover_60 (by decide) ?_
        refine G.forget 3 ?_
        exact ih4 β hβ
      · refine g_iload_n (pc := 39) 3 C0 rfl dX0_cover_39 rfl ?_
        refine g_if_eqB (pc := 40) 55 C0 dX0_cover_40 (by decide) (fun h40 => ?_) (fun h40 => ?_)
        · refine g_iload_n (pc := 55) 1 C0 rfl dX0_cover_55 rfl ?_
          exact J56 β hβ (oI (cvB τ i4)) (by rw [cvB_s, cvA, h40]; rfl)
        · refine g_aload_n (pc := 43) 0 C0 rfl dX0_cover_43 rfl ?_
          refine g_iload_n (pc := 44) 2 C0 rfl dX0_cover_44 rfl ?_
          refine g_cviX (pc := 45) (na := 1) (As := [.int (nI i4)]) (rest := []) C0 hN (xX_areClimbedBy l D dT ad nS τ β  i4 hβ hw hp (by omega)) (q0 := 0) (j := 0) (ci := 1) (C := RX0) (T := TX0) (N := 14) (xCode (by omega)) rfl rfl q911 q913 qs29 q57 q914 (by decide +kernel) ⟨Nat.le_of_ble_eq_true rfl, Nat.le_of_ble_eq_true rfl⟩ rfl rfl ⟨Nat.le_of_ble_eq_true rfl, Nat.le_of_ble_eq_true rfl⟩ rfl rfl (Nat.le_of_ble_eq_true rfl) dX0_cover_45 (fun r β hc => ?_)
          obtain ⟨rfl, hβ⟩ := hc
          refine g_if_eqB (pc := 48) 55 C0 dX0_cover_48 (by decide) (fun h48 => ?_) (fun h48 => ?_)
          · refine g_iload_n (pc := 55) 1 C0 rfl dX0_cover_55 rfl ?_
            exact J56 β hβ (oI (cvB τ i4)) (by rw [cvB_s, cvA, h40, h48]; rfl)
          · refine g_iload_n (pc := 51) 2 C0 rfl dX0_cover_51 rfl ?_
            refine g_goto (pc := 52) 56 C0 dX0_cover_52 (by decide) ?_
            exact J56 β hβ (nI i4) (by rw [cvB_s, cvA, h40, h48]; rfl)
    · refine g_iload_n (pc := 17) 1 C0 rfl dX0_cover_17 rfl ?_
      refine g_iconst (pc := 18) (v := (-1)) C0 dX0_cover_18 (by decide) ?_
      refine g_icmp_eq (pc := 19) 33 C0 dX0_cover_19 (by decide) (fun h19 => ?_) (fun h19 => ?_)
      · refine g_iconst (pc := 33) (v := (nI 1)) C0 dX0_cover_33 (by decide) ?_
        refine g_goto (pc := 34) 38 C0 dX0_cover_34 (by decide) ?_
        exact J38 (nI 1) (bret1 (by rw [oI_m1 h19 (cvB_lt2 (by omega))]; rfl))
      · obtain ⟨bb, hbb⟩ := oI_nm1 h19
        have hb3 := cvB_lt _ _ _ hbb
        refine G.lE (L' := [some (.ref (ad 0)), some (.int (nI bb)), some (.int (nI i4)), none]) (by rw [hbb]; rfl) ?_
        refine g_iload_n (pc := 22) 2 C0 rfl dX0_cover_22 rfl ?_
        refine g_csi (pc := 23) (na := 1) (As := [.int (nI i4)]) (rest := []) C0 (xJ_bitCount l i4 (by omega)) q885 q886 q78 q887 (by decide +kernel) ⟨Nat.le_of_ble_eq_true rfl, Nat.le_of_ble_eq_true rfl⟩ rfl rfl ⟨Nat.le_of_ble_eq_true rfl, Nat.le_of_ble_eq_true rfl⟩ rfl rfl (Nat.le_of_ble_eq_true rfl) dX0_cover_23 ?_
        refine g_iload_n (pc := 26) 1 C0 rfl dX0_cover_26 rfl ?_
        refine g_csi (pc := 27) (na := 1) (As := [.int (nI bb)]) (rest := [.int (nI (bitsN i4 24))]) C0 (xJ_bitCount l bb (by omega)) q885 q886 q78 q887 (by decide +kernel) ⟨Nat.le_of_ble_eq_true rfl, Nat.le_of_ble_eq_true rfl⟩ rfl rfl ⟨Nat.le_of_ble_eq_true rfl, Nat.le_of_ble_eq_true rfl⟩ rfl rfl (Nat.le_of_ble_eq_true rfl) dX0_cover_27 ?_
        refine g_icmp_geN (pc := 30) 37 C0 (Nat.lt_of_le_of_lt (bitsN_le _ _) (by decide)) (Nat.lt_of_le_of_lt (bitsN_le _ _) (by decide)) dX0_cover_30 (by decide) (fun h30 => ?_) (fun h30 => ?_)
        · refine g_iconst (pc := 37) (v := (nI 0)) C0 dX0_cover_37 (by decide) ?_
          refine G.lE (L' := [some (.ref (ad 0)), some (.int (oI (cvB τ i4))), some (.int (nI i4)), none]) (by rw [hbb]; rfl) ?_
          exact J38 (nI 0) (bret0 (by rw [hbb]; simp [fewB]; omega))
        · refine g_iconst (pc := 33) (v := (nI 1)) C0 dX0_cover_33 (by decide) ?_
          refine g_goto (pc := 34) 38 C0 dX0_cover_34 (by decide) ?_
          refine G.lE (L' := [some (.ref (ad 0)), some (.int (oI (cvB τ i4))), some (.int (nI i4)), none]) (by rw [hbb]; rfl) ?_
          exact J38 (nI 1) (bret1 (by rw [hbb]; simp [fewB]; omega))
