/-! X, first module -/
set_option maxRecDepth 100000
set_option maxHeartbeats 4000000 in
set_option maxRecDepth 100000 in
theorem xX_isIn (l : Launch) (v : Int32) (a : Int32) (b : Int32)  : SI l yX0_isIn cX0_isIn 3 .boolean ({ frames := 0, cells := 0, slots := 0, locals := 0 }) [.int v, .int a, .int b] (nI (bN (isInB v a b))) := by
  refine CI.ofG (own := "FittingStrides") (L := [some (.int v), some (.int a), some (.int b)]) rfl (by decide) (Nat.le_of_ble_eq_true rfl) rfl ?_
  intro p' e' s' m' bl' mt' c' C0
  refine g_iload_n (pc := 0) 0 C0 rfl dX0_isIn_0 rfl ?_
  refine g_iload_n (pc := 1) 1 C0 rfl dX0_isIn_1 rfl ?_
  refine g_icmp_lt (pc := 2) 14 C0 dX0_isIn_2 (by decide) (fun h2 => ?_) (fun h2 => ?_)
  · refine g_iconst (pc := 14) (v := (nI 0)) C0 dX0_isIn_14 (by decide) ?_
    exact g_zret (pc := 15) C0 dX0_isIn_15 (by decide) (isIn_0a h2)
  · refine g_iload_n (pc := 5) 0 C0 rfl dX0_isIn_5 rfl ?_
    refine g_iload_n (pc := 6) 2 C0 rfl dX0_isIn_6 rfl ?_
    refine g_icmp_gt (pc := 7) 14 C0 dX0_isIn_7 (by decide) (fun h7 => ?_) (fun h7 => ?_)
    · refine g_iconst (pc := 14) (v := (nI 0)) C0 dX0_isIn_14 (by decide) ?_
      exact g_zret (pc := 15) C0 dX0_isIn_15 (by decide) (isIn_0b h7)
    · refine g_iconst (pc := 10) (v := (nI 1)) C0 dX0_isIn_10 (by decide) ?_
      refine g_goto (pc := 11) 15 C0 dX0_isIn_11 (by decide) ?_
      exact g_zret (pc := 15) C0 dX0_isIn_15 (by decide) (isIn_1 h2 h7)
set_option maxHeartbeats 4000000 in
set_option maxRecDepth 100000 in
theorem xX_has (l : Launch) (x : Nat) (k : Nat) (hx : x < 2 ^ 31) (hk : k < 32) : SI l yX0_has cX0_has 2 .boolean ({ frames := 0, cells := 0, slots := 0, locals := 0 }) [.int (nI x), .int (nI k)] (nI (bN (x.testBit k))) := by
  refine CI.ofG (own := "FittingStrides") (L := [some (.int (nI x)), some (.int (nI k))]) rfl (by decide) (Nat.le_of_ble_eq_true rfl) rfl ?_
  intro p' e' s' m' bl' mt' c' C0
  refine g_iload_n (pc := 0) 0 C0 rfl dX0_has_0 rfl ?_
  refine g_iload_n (pc := 1) 1 C0 rfl dX0_has_1 rfl ?_
  refine g_ishr (pc := 2) C0 dX0_has_2 ?_
  refine g_iconst (pc := 3) (v := (nI 1)) C0 dX0_has_3 (by decide) ?_
  refine g_iandE (pc := 4) C0 (has_N k hk x hx) dX0_has_4 ?_
  refine g_iconst (pc := 5) (v := (nI 1)) C0 dX0_has_5 (by decide) ?_
  refine g_icmp_neN (pc := 6) 13 C0 (Nat.lt_trans (bN_lt _) (by decide)) (by decide) dX0_has_6 (by decide) (fun h6 => ?_) (fun h6 => ?_)
  · refine g_iconst (pc := 13) (v := (nI 0)) C0 dX0_has_13 (by decide) ?_
    exact g_zret (pc := 14) C0 dX0_has_14 (by decide) (has_0 h6)
  · refine g_iconst (pc := 9) (v := (nI 1)) C0 dX0_has_9 (by decide) ?_
    refine g_goto (pc := 10) 14 C0 dX0_has_10 (by decide) ?_
    exact g_zret (pc := 14) C0 dX0_has_14 (by decide) (has_1 h6)
set_option maxHeartbeats 4000000 in
set_option maxRecDepth 100000 in
theorem xX_common (l : Launch) (a : Nat) (b : Nat) (ha : a < 2 ^ 31) (hb : b < 2 ^ 31) : SI l yX0_common cX0_common 5 .int ({ frames := 0, cells := 0, slots := 0, locals := 0 }) [.int (nI a), .int (nI b)] (nI (Nat.gcd a b)) := by
  refine CI.ofG (own := "FittingStrides") (L := [some (.int (nI a)), some (.int (nI b)), none, none, none]) rfl (by decide) (Nat.le_of_ble_eq_true rfl) rfl ?_
  intro p' e' s' m' bl' mt' c' C0
  refine g_iload_n (pc := 0) 0 C0 rfl dX0_common_0 rfl ?_
  refine g_istore_n (pc := 1) 2 C0 (L1 := [some (.int (nI a)), some (.int (nI b)), some (.int (nI a)), none, none]) rfl (by decide) dX0_common_1 rfl rfl ?_
  refine g_iload_n (pc := 2) 1 C0 rfl dX0_common_2 rfl ?_
  refine g_istore_n (pc := 3) 3 C0 (L1 := [some (.int (nI a)), some (.int (nI b)), some (.int (nI a)), some (.int (nI b)), none]) rfl (by decide) dX0_common_3 rfl rfl ?_
  refine G.wh (pc := 4) (ws := fun _ => cW sAd sMk [] sT) (Lf := fun xx : Nat × Nat => [some (.int (nI a)), some (.int (nI b)), some (.int (nI xx.1)), some (.int (nI xx.2)), none]) (fun xx => xx.2) (fun xx => Nat.gcd xx.1 xx.2 = Nat.gcd a b ∧ xx.1 < 2 ^ 31 ∧ xx.2 < 2 ^ 31) (a, b) ⟨rfl, ha, hb⟩ ?_
  rintro ⟨x4, y4⟩ ⟨j1, j2, j3⟩ ih4
  have j1 : Nat.gcd x4 y4 = Nat.gcd a b := j1
  have j2 : x4 < 2 ^ 31 := j2
  have j3 : y4 < 2 ^ 31 := j3
  refine G.lE (L' := [some (.int (nI a)), some (.int (nI b)), some (.int (nI x4)), some (.int (nI y4)), none]) rfl ?_
  refine g_iload_n (pc := 4) 3 C0 rfl dX0_common_4 rfl ?_
  refine g_if_eqN (pc := 5) 21 C0 (by omega) dX0_common_5 (by decide) (fun h5 => ?_) (fun h5 => ?_)
  · refine g_iload_n (pc := 21) 2 C0 rfl dX0_common_21 rfl ?_
    exact g_iret (pc := 22) C0 dX0_common_22 (by rw [← j1, h5, Nat.gcd_zero_right])
  · refine g_iload_n (pc := 8) 2 C0 rfl dX0_common_8 rfl ?_
    refine g_iload_n (pc := 9) 3 C0 rfl dX0_common_9 rfl ?_
    refine g_iremN (pc := 10) C0 (by omega) (by omega) (by omega) dX0_common_10 ?_
    refine g_istore (pc := 11) 4 C0 (L1 := [some (.int (nI a)), some (.int (nI b)), some (.int (nI x4)), some (.int (nI y4)), some (.int (nI (x4 % y4)))]) rfl (by decide) dX0_common_11 rfl ?_
    refine g_iload_n (pc := 13) 3 C0 rfl dX0_common_13 rfl ?_
    refine g_istore_n (pc := 14) 2 C0 (L1 := [some (.int (nI a)), some (.int (nI b)), some (.int (nI y4)), some (.int (nI y4)), some (.int (nI (x4 % y4)))]) rfl (by decide) dX0_common_14 rfl rfl ?_
    refine g_iload (pc := 15) 4 C0 rfl dX0_common_15 ?_
    refine g_istore_n (pc := 17) 3 C0 (L1 := [some (.int (nI a)), some (.int (nI b)), some (.int (nI y4)), some (.int (nI (x4 % y4))), some (.int (nI (x4 % y4)))]) rfl (by decide) dX0_common_17 rfl rfl ?_
    refine g_goto (pc := 18) 4 C0 dX0_common_18 (by decide) ?_
    refine G.forget 4 ?_
    exact ih4 (y4, x4 % y4) ⟨(gcd_st x4 y4).trans j1, j3, Nat.lt_of_le_of_lt (Nat.mod_le _ _) j2⟩ (Nat.mod_lt _ (by omega))
set_option maxHeartbeats 4000000 in
set_option maxRecDepth 100000 in
theorem xX_isPlace (l : Launch) (D : va_G) (dT : Nat → ClassId) (ad : Nat → Nat) (nS : Nat) (τ β : tT)  (x : Int32) (hβ : RX nS β τ) (h : τ 0 0 < 2 ^ 31) : XI l D dT ad nS yX0_isPlace cX0_isPlace 2 .boolean ({ frames := 1, cells := 0, slots := 0, locals := 22 }) [.ref (ad 0), .int x] β (fun rr β' => rr = (nI (bN (ixB x (τ 0 0)))) ∧ β = β') := by
  refine XI.ofG (own := "FittingStrides") (L := [some (.ref (ad 0)), some (.int x)]) rfl (by decide) (Nat.le_of_ble_eq_true rfl) rfl ?_
  intro p' e' s' m' bl' mt' c' C0 hN
  refine g_iload_n (pc := 0) 1 C0 rfl dX0_isPlace_0 rfl ?_
  refine g_iconst (pc := 1) (v := (nI 0)) C0 dX0_isPlace_1 (by decide) ?_
  refine g_aload_n (pc := 2) 0 C0 rfl dX0_isPlace_2 rfl ?_
  refine g_get (pc := 3) (v := .ref (ad 4)) C0 (C := RX0) (T := TX0) (N := 14) (ci := 1) (q0 := 0) (j := 0) 0 (xCode (by omega)) rfl rfl in_X0 (by decide) q183 rfl dX0_isPlace_3 ?_
  refine g_getN (pc := 6) (v := .int (nI (τ 0 0))) C0 hN (C := RX1) (T := TX1) (N := 7) (ci := 2) (q0 := 4) (j := 4) 0 (xCode (by omega)) rfl rfl in_X1 (by decide) q96 (xv hβ.f4_0) dX0_isPlace_6 ?_
  refine g_iconst (pc := 9) (v := (nI 1)) C0 dX0_isPlace_9 (by decide) ?_
  refine g_isub (pc := 10) C0 dX0_isPlace_10 ?_
  refine g_csi (pc := 11) (na := 3) (As := [.int x, .int (nI 0), .int ((nI (τ 0 0)) - (nI 1))]) (rest := []) C0 (xX_isIn l x (nI 0) ((nI (τ 0 0)) - (nI 1)) ) q232 q233 q57 q234 (by decide +kernel) ⟨Nat.le_of_ble_eq_true rfl, Nat.le_of_ble_eq_true rfl⟩ rfl rfl ⟨Nat.le_of_ble_eq_true rfl, Nat.le_of_ble_eq_true rfl⟩ rfl rfl (Nat.le_of_ble_eq_true rfl) dX0_isPlace_11 ?_
  exact g_zret (pc := 14) C0 dX0_isPlace_14 (nar_bN _) ⟨congrArg nI (congrArg bN (isInB_ix x _ h)), rfl⟩
set_option maxHeartbeats 4000000 in
set_option maxRecDepth 100000 in
theorem xX_isStair (l : Launch) (D : va_G) (dT : Nat → ClassId) (ad : Nat → Nat) (nS : Nat) (τ β : tT)  (x : Int32) (hβ : RX nS β τ) (h : τ 0 1 < 2 ^ 31) : XI l D dT ad nS yX0_isStair cX0_isStair 2 .boolean ({ frames := 1, cells := 0, slots := 0, locals := 22 }) [.ref (ad 0), .int x] β (fun rr β' => rr = (nI (bN (ixB x (τ 0 1)))) ∧ β = β') := by
  refine XI.ofG (own := "FittingStrides") (L := [some (.ref (ad 0)), some (.int x)]) rfl (by decide) (Nat.le_of_ble_eq_true rfl) rfl ?_
  intro p' e' s' m' bl' mt' c' C0 hN
  refine g_iload_n (pc := 0) 1 C0 rfl dX0_isStair_0 rfl ?_
  refine g_iconst (pc := 1) (v := (nI 0)) C0 dX0_isStair_1 (by decide) ?_
  refine g_aload_n (pc := 2) 0 C0 rfl dX0_isStair_2 rfl ?_
  refine g_get (pc := 3) (v := .ref (ad 4)) C0 (C := RX0) (T := TX0) (N := 14) (ci := 1) (q0 := 0) (j := 0) 0 (xCode (by omega)) rfl rfl in_X0 (by decide) q183 rfl dX0_isStair_3 ?_
  refine g_getN (pc := 6) (v := .int (nI (τ 0 1))) C0 hN (C := RX1) (T := TX1) (N := 7) (ci := 2) (q0 := 4) (j := 4) 2 (xCode (by omega)) rfl rfl in_X1 (by decide) q103 (xv hβ.f4_2) dX0_isStair_6 ?_
  refine g_iconst (pc := 9) (v := (nI 1)) C0 dX0_isStair_9 (by decide) ?_
  refine g_isub (pc := 10) C0 dX0_isStair_10 ?_
  refine g_csi (pc := 11) (na := 3) (As := [.int x, .int (nI 0), .int ((nI (τ 0 1)) - (nI 1))]) (rest := []) C0 (xX_isIn l x (nI 0) ((nI (τ 0 1)) - (nI 1)) ) q232 q233 q57 q234 (by decide +kernel) ⟨Nat.le_of_ble_eq_true rfl, Nat.le_of_ble_eq_true rfl⟩ rfl rfl ⟨Nat.le_of_ble_eq_true rfl, Nat.le_of_ble_eq_true rfl⟩ rfl rfl (Nat.le_of_ble_eq_true rfl) dX0_isStair_11 ?_
  exact g_zret (pc := 14) C0 dX0_isStair_14 (nar_bN _) ⟨congrArg nI (congrArg bN (isInB_ix x _ h)), rfl⟩
set_option maxHeartbeats 4000000 in
set_option maxRecDepth 100000 in
theorem xX_isPerson (l : Launch) (D : va_G) (dT : Nat → ClassId) (ad : Nat → Nat) (nS : Nat) (τ β : tT)  (x : Int32) (hβ : RX nS β τ) (h : τ 0 8 < 2 ^ 31) : XI l D dT ad nS yX0_isPerson cX0_isPerson 2 .boolean ({ frames := 1, cells := 0, slots := 0, locals := 22 }) [.ref (ad 0), .int x] β (fun rr β' => rr = (nI (bN (ixB x (τ 0 8)))) ∧ β = β') := by
  refine XI.ofG (own := "FittingStrides") (L := [some (.ref (ad 0)), some (.int x)]) rfl (by decide) (Nat.le_of_ble_eq_true rfl) rfl ?_
  intro p' e' s' m' bl' mt' c' C0 hN
  refine g_iload_n (pc := 0) 1 C0 rfl dX0_isPerson_0 rfl ?_
  refine g_iconst (pc := 1) (v := (nI 0)) C0 dX0_isPerson_1 (by decide) ?_
  refine g_aload_n (pc := 2) 0 C0 rfl dX0_isPerson_2 rfl ?_
  refine g_get (pc := 3) (v := .ref (ad 1)) C0 (C := RX0) (T := TX0) (N := 14) (ci := 1) (q0 := 0) (j := 0) 1 (xCode (by omega)) rfl rfl in_X0 (by decide) q184 rfl dX0_isPerson_3 ?_
  refine g_getN (pc := 6) (v := .int (nI (τ 0 8))) C0 hN (C := RX2) (T := TX2) (N := 10) (ci := 3) (q0 := 1) (j := 1) 3 (xCode (by omega)) rfl rfl in_X2 (by decide) q146 (xv hβ.f1_3) dX0_isPerson_6 ?_
  refine g_iconst (pc := 9) (v := (nI 1)) C0 dX0_isPerson_9 (by decide) ?_
  refine g_isub (pc := 10) C0 dX0_isPerson_10 ?_
  refine g_csi (pc := 11) (na := 3) (As := [.int x, .int (nI 0), .int ((nI (τ 0 8)) - (nI 1))]) (rest := []) C0 (xX_isIn l x (nI 0) ((nI (τ 0 8)) - (nI 1)) ) q232 q233 q57 q234 (by decide +kernel) ⟨Nat.le_of_ble_eq_true rfl, Nat.le_of_ble_eq_true rfl⟩ rfl rfl ⟨Nat.le_of_ble_eq_true rfl, Nat.le_of_ble_eq_true rfl⟩ rfl rfl (Nat.le_of_ble_eq_true rfl) dX0_isPerson_11 ?_
  exact g_zret (pc := 14) C0 dX0_isPerson_14 (nar_bN _) ⟨congrArg nI (congrArg bN (isInB_ix x _ h)), rfl⟩
set_option maxHeartbeats 4000000 in
set_option maxRecDepth 100000 in
theorem xS_goesInto (l : Launch) (D : va_G) (dT : Nat → ClassId) (ad : Nat → Nat) (nS : Nat) (τ β : tT) (r : Nat) (s : Nat) (i : Nat) (hβ : RX nS β τ) (hw : wfT τ) (hr : r < nS) (hs : ∀ i, i < 3 → β (90 + 2 * r + 1) i = stp τ r i) (h1 : 1 ≤ s) (h2 : s < 2 ^ 31) (hi : i < τ 5 r) (hk : τ 2 r = 0) : XI l D dT ad nS yX6_goesInto cX6_goesInto 3 .boolean ({ frames := 0, cells := 0, slots := 0, locals := 0 }) [.ref (ad (90 + 2 * r)), .int (nI s), .int (nI i)] β (fun rr β' => rr = (nI (bN (fitP (τ 2 r) (τ 6 (3 * r + i)) s))) ∧ β = β') := by
  refine XI.ofG (own := "FittingStrides$Stair") (L := [some (.ref (ad (90 + 2 * r))), some (.int (nI s)), some (.int (nI i))]) rfl (by decide) (Nat.le_of_ble_eq_true rfl) rfl ?_
  intro p' e' s' m' bl' mt' c' C0 hN
  have hn := hβ.n
  have hn10 := hβ.n10
  obtain ⟨k1, k2, k3, k4, k5, k6, k7⟩ := hw.2.2 r (by omega)
  obtain ⟨g1, g2⟩ := k7 i hi
  refine g_aload_n (pc := 0) 0 C0 rfl dX6_goesInto_0 rfl ?_
  refine xs_get (pc := 1) (r := r) (v := .ref (ad (90 + 2 * r + 1))) C0 hβ (by omega) (hw.2.2 r (by omega)).1 2 (by decide) q632 rfl dX6_goesInto_1 ?_
  refine g_iload_n (pc := 4) 2 C0 rfl dX6_goesInto_4 rfl ?_
  refine g_ialdV (pc := 5) (q0 := (90 + 2 * r + 1)) (j := (90 + 2 * r + 1)) (t0 := 0) (N := 3) (v := (τ 6 (3 * r + i))) C0 i (xCode (by omega)) (fun f => xMk_steps (by omega) f) rfl (by decide) (by omega) ((hs _ (by omega)).trans (stp_in hi)) dX6_goesInto_5 ?_
  refine g_iload_n (pc := 6) 1 C0 rfl dX6_goesInto_6 rfl ?_
  refine g_iremN (pc := 7) C0 (by omega) (by omega) (by omega) dX6_goesInto_7 ?_
  refine g_if_neN (pc := 8) 15 C0 (Nat.lt_of_le_of_lt (Nat.mod_le _ _) (by omega)) dX6_goesInto_8 (by decide) (fun h8 => ?_) (fun h8 => ?_)
  · refine g_iconst (pc := 15) (v := (nI 0)) C0 dX6_goesInto_15 (by decide) ?_
    exact g_zret (pc := 16) C0 dX6_goesInto_16 (by decide) ⟨bret0 (by rw [fitP_0 hk]; simp [h8]), rfl⟩
  · refine g_iconst (pc := 11) (v := (nI 1)) C0 dX6_goesInto_11 (by decide) ?_
    refine g_goto (pc := 12) 16 C0 dX6_goesInto_12 (by decide) ?_
    exact g_zret (pc := 16) C0 dX6_goesInto_16 (by decide) ⟨bret1 (by rw [fitP_0 hk]; simp [h8]), rfl⟩
set_option maxHeartbeats 4000000 in
set_option maxRecDepth 100000 in
theorem xO_goesInto (l : Launch) (D : va_G) (dT : Nat → ClassId) (ad : Nat → Nat) (nS : Nat) (τ β : tT) (r : Nat) (s : Nat) (i : Nat) (hβ : RX nS β τ) (hw : wfT τ) (hr : r < nS) (hs : ∀ i, i < 3 → β (90 + 2 * r + 1) i = stp τ r i) (h1 : 1 ≤ s) (h2 : s < 2 ^ 31) (hi : i < τ 5 r) (hk : τ 2 r = 1) : XI l D dT ad nS yX7_goesInto cX7_goesInto 3 .boolean ({ frames := 0, cells := 0, slots := 0, locals := 0 }) [.ref (ad (90 + 2 * r)), .int (nI s), .int (nI i)] β (fun rr β' => rr = (nI (bN (fitP (τ 2 r) (τ 6 (3 * r + i)) s))) ∧ β = β') := by
  refine XI.ofG (own := "FittingStrides$OpenStair") (L := [some (.ref (ad (90 + 2 * r))), some (.int (nI s)), some (.int (nI i))]) rfl (by decide) (Nat.le_of_ble_eq_true rfl) rfl ?_
  intro p' e' s' m' bl' mt' c' C0 hN
  have hn := hβ.n
  have hn10 := hβ.n10
  refine g_iconst (pc := 0) (v := (nI 1)) C0 dX7_goesInto_0 (by decide) ?_
  exact g_zret (pc := 1) C0 dX7_goesInto_1 (by decide) ⟨bret1 (fitP_1 hk), rfl⟩
set_option maxHeartbeats 4000000 in
set_option maxRecDepth 100000 in
theorem xL_goesInto (l : Launch) (D : va_G) (dT : Nat → ClassId) (ad : Nat → Nat) (nS : Nat) (τ β : tT) (r : Nat) (s : Nat) (i : Nat) (hβ : RX nS β τ) (hw : wfT τ) (hr : r < nS) (hs : ∀ i, i < 3 → β (90 + 2 * r + 1) i = stp τ r i) (h1 : 1 ≤ s) (h2 : s < 2 ^ 31) (hi : i < τ 5 r) (hk : τ 2 r = 2) : XI l D dT ad nS yX8_goesInto cX8_goesInto 3 .boolean ({ frames := 0, cells := 0, slots := 0, locals := 0 }) [.ref (ad (90 + 2 * r)), .int (nI s), .int (nI i)] β (fun rr β' => rr = (nI (bN (fitP (τ 2 r) (τ 6 (3 * r + i)) s))) ∧ β = β') := by
  refine XI.ofG (own := "FittingStrides$LeapStair") (L := [some (.ref (ad (90 + 2 * r))), some (.int (nI s)), some (.int (nI i))]) rfl (by decide) (Nat.le_of_ble_eq_true rfl) rfl ?_
  intro p' e' s' m' bl' mt' c' C0 hN
  have hn := hβ.n
  have hn10 := hβ.n10
  obtain ⟨k1, k2, k3, k4, k5, k6, k7⟩ := hw.2.2 r (by omega)
  obtain ⟨g1, g2⟩ := k7 i hi
  have hcell := xs_cell (dT := dT) (ad := ad) hβ hr
  rw [hk] at hcell
  refine g_iload_n (pc := 0) 1 C0 rfl dX8_goesInto_0 rfl ?_
  refine g_iconst (pc := 1) (v := (nI 1)) C0 dX8_goesInto_1 (by decide) ?_
  refine g_icmp_eqN (pc := 2) 15 C0 (by omega) (by decide) dX8_goesInto_2 (by decide) (fun h2 => ?_) (fun h2 => ?_)
  · refine g_iconst (pc := 15) (v := (nI 1)) C0 dX8_goesInto_15 (by decide) ?_
    refine g_goto (pc := 16) 20 C0 dX8_goesInto_16 (by decide) ?_
    exact g_zret (pc := 20) C0 dX8_goesInto_20 (by decide) ⟨bret1 (by rw [fitP_2 hk]; simp [h2]), rfl⟩
  · refine g_iload_n (pc := 5) 1 C0 rfl dX8_goesInto_5 rfl ?_
    refine g_aload_n (pc := 6) 0 C0 rfl dX8_goesInto_6 rfl ?_
    refine g_getR (pc := 7) (v := .ref (ad (90 + 2 * r + 1))) C0 (C := RX8) (T := TX8) (N := 4) (ci := 8) (q0 := 90 + 2 * r) (j := 90 + 2 * r) 2 (xCode (by omega)) hcell rfl in_X8 (by decide) q634 q635 rfl dX8_goesInto_7 ?_
    refine g_iload_n (pc := 10) 2 C0 rfl dX8_goesInto_10 rfl ?_
    refine g_ialdV (pc := 11) (q0 := (90 + 2 * r + 1)) (j := (90 + 2 * r + 1)) (t0 := 0) (N := 3) (v := (τ 6 (3 * r + i))) C0 i (xCode (by omega)) (fun f => xMk_steps (by omega) f) rfl (by decide) (by omega) ((hs _ (by omega)).trans (stp_in hi)) dX8_goesInto_11 ?_
    refine g_icmp_neN (pc := 12) 19 C0 (by omega) (by omega) dX8_goesInto_12 (by decide) (fun h12 => ?_) (fun h12 => ?_)
    · refine g_iconst (pc := 19) (v := (nI 0)) C0 dX8_goesInto_19 (by decide) ?_
      exact g_zret (pc := 20) C0 dX8_goesInto_20 (by decide) ⟨bret0 (by rw [fitP_2 hk]; simp [h2, h12]), rfl⟩
    · refine g_iconst (pc := 15) (v := (nI 1)) C0 dX8_goesInto_15 (by decide) ?_
      refine g_goto (pc := 16) 20 C0 dX8_goesInto_16 (by decide) ?_
      exact g_zret (pc := 20) C0 dX8_goesInto_20 (by decide) ⟨bret1 (by rw [fitP_2 hk]; simp [h2, h12]), rfl⟩
set_option maxHeartbeats 4000000 in
set_option maxRecDepth 100000 in
theorem xS_kind (l : Launch) (D : va_G) (dT : Nat → ClassId) (ad : Nat → Nat) (nS : Nat) (τ β : tT) (r : Nat)  (hβ : RX nS β τ) (hk : τ 2 r = 0) : XI l D dT ad nS yX6_kind cX6_kind 1 .int ({ frames := 0, cells := 0, slots := 0, locals := 0 }) [.ref (ad (90 + 2 * r))] β (fun rr β' => rr = (nI (τ 2 r)) ∧ β = β') := by
  refine XI.ofG (own := "FittingStrides$Stair") (L := [some (.ref (ad (90 + 2 * r)))]) rfl (by decide) (Nat.le_of_ble_eq_true rfl) rfl ?_
  intro p' e' s' m' bl' mt' c' C0 hN
  refine g_iconst (pc := 0) (v := (nI 0)) C0 dX6_kind_0 (by decide) ?_
  exact g_iret (pc := 1) C0 dX6_kind_1 ⟨by rw [hk], rfl⟩
set_option maxHeartbeats 4000000 in
set_option maxRecDepth 100000 in
theorem xO_kind (l : Launch) (D : va_G) (dT : Nat → ClassId) (ad : Nat → Nat) (nS : Nat) (τ β : tT) (r : Nat)  (hβ : RX nS β τ) (hk : τ 2 r = 1) : XI l D dT ad nS yX7_kind cX7_kind 1 .int ({ frames := 0, cells := 0, slots := 0, locals := 0 }) [.ref (ad (90 + 2 * r))] β (fun rr β' => rr = (nI (τ 2 r)) ∧ β = β') := by
  refine XI.ofG (own := "FittingStrides$OpenStair") (L := [some (.ref (ad (90 + 2 * r)))]) rfl (by decide) (Nat.le_of_ble_eq_true rfl) rfl ?_
  intro p' e' s' m' bl' mt' c' C0 hN
  refine g_iconst (pc := 0) (v := (nI 1)) C0 dX7_kind_0 (by decide) ?_
  exact g_iret (pc := 1) C0 dX7_kind_1 ⟨by rw [hk], rfl⟩
set_option maxHeartbeats 4000000 in
set_option maxRecDepth 100000 in
theorem xL_kind (l : Launch) (D : va_G) (dT : Nat → ClassId) (ad : Nat → Nat) (nS : Nat) (τ β : tT) (r : Nat)  (hβ : RX nS β τ) (hk : τ 2 r = 2) : XI l D dT ad nS yX8_kind cX8_kind 1 .int ({ frames := 0, cells := 0, slots := 0, locals := 0 }) [.ref (ad (90 + 2 * r))] β (fun rr β' => rr = (nI (τ 2 r)) ∧ β = β') := by
  refine XI.ofG (own := "FittingStrides$LeapStair") (L := [some (.ref (ad (90 + 2 * r)))]) rfl (by decide) (Nat.le_of_ble_eq_true rfl) rfl ?_
  intro p' e' s' m' bl' mt' c' C0 hN
  refine g_iconst (pc := 0) (v := (nI 2)) C0 dX8_kind_0 (by decide) ?_
  exact g_iret (pc := 1) C0 dX8_kind_1 ⟨by rw [hk], rfl⟩
set_option maxHeartbeats 4000000 in
set_option maxRecDepth 100000 in
theorem xS_fits (l : Launch) (D : va_G) (dT : Nat → ClassId) (ad : Nat → Nat) (nS : Nat) (τ β : tT) (r : Nat) (s : Nat) (hβ : RX nS β τ) (hw : wfT τ) (hr : r < nS) (hs : ∀ i, i < 3 → β (90 + 2 * r + 1) i = stp τ r i) (h1 : 1 ≤ s) (h2 : s < 2 ^ 31) : XI l D dT ad nS yX6_fits cX6_fits 4 .boolean ({ frames := 1, cells := 0, slots := 0, locals := 22 }) [.ref (ad (90 + 2 * r)), .int (nI s)] β (fun rr β' => rr = (nI (bN (sFit τ r s))) ∧ β = β') := by
  refine XI.ofG (own := "FittingStrides$Stair") (L := [some (.ref (ad (90 + 2 * r))), some (.int (nI s)), none, none]) rfl (by decide) (Nat.le_of_ble_eq_true rfl) rfl ?_
  intro p' e' s' m' bl' mt' c' C0 hN
  have hn := hβ.n
  have hn10 := hβ.n10
  obtain ⟨k1, k2, k3, k4, k5, k6, k7⟩ := hw.2.2 r (by omega)
  refine g_iconst (pc := 0) (v := (nI 1)) C0 dX6_fits_0 (by decide) ?_
  refine g_istore_n (pc := 1) 2 C0 (L1 := [some (.ref (ad (90 + 2 * r))), some (.int (nI s)), some (.int (nI 1)), none]) rfl (by decide) dX6_fits_1 rfl rfl ?_
  refine g_iconst (pc := 2) (v := (nI 0)) C0 dX6_fits_2 (by decide) ?_
  refine g_istore_n (pc := 3) 3 C0 (L1 := [some (.ref (ad (90 + 2 * r))), some (.int (nI s)), some (.int (nI 1)), some (.int (nI 0))]) rfl (by decide) dX6_fits_3 rfl rfl ?_
  refine G.loop (pc := 4) (ws := fun i => xW dT ad nS β) (Lf := fun i => [some (.ref (ad (90 + 2 * r))), some (.int (nI s)), some (.int (nI (bN (allB (fun j => fitP (τ 2 r) (τ 6 (3 * r + j)) s) i)))), some (.int (nI i))]) (N := τ 5 r) (i0 := 0) (Nat.zero_le _) ?_ (fun i4 hi4 hj4 ih4 => ?_)
  · refine g_iload_n (pc := 4) 3 C0 rfl dX6_fits_4 rfl ?_
    refine g_aload_n (pc := 5) 0 C0 rfl dX6_fits_5 rfl ?_
    refine xs_get (pc := 6) (r := r) (v := .int (nI (τ 5 r))) C0 hβ (by omega) (hw.2.2 r (by omega)).1 3 (by decide) q638 rfl dX6_fits_6 ?_
    refine g_icmp_geN (pc := 9) 27 C0 (by omega) (by omega) dX6_fits_9 (by decide) (fun h9 => ?_) (fun h9 => ?_)
    rotate_left
    · exact absurd h9 (by omega)
    refine g_iload_n (pc := 27) 2 C0 rfl dX6_fits_27 rfl ?_
    exact g_zret (pc := 28) C0 dX6_fits_28 (nar_bN _) ⟨by rw [sFit, if_neg (by omega)], rfl⟩
  · refine g_iload_n (pc := 4) 3 C0 rfl dX6_fits_4 rfl ?_
    refine g_aload_n (pc := 5) 0 C0 rfl dX6_fits_5 rfl ?_
    refine xs_get (pc := 6) (r := r) (v := .int (nI (τ 5 r))) C0 hβ (by omega) (hw.2.2 r (by omega)).1 3 (by decide) q638 rfl dX6_fits_6 ?_
    refine g_icmp_geN (pc := 9) 27 C0 (by omega) (by omega) dX6_fits_9 (by decide) (fun h9 => ?_) (fun h9 => ?_)
    · exact absurd h9 (by omega)
    refine g_iload_n (pc := 12) 2 C0 rfl dX6_fits_12 rfl ?_
    refine g_aload_n (pc := 13) 0 C0 rfl dX6_fits_13 rfl ?_
    refine g_iload_n (pc := 14) 1 C0 rfl dX6_fits_14 rfl ?_
    refine g_iload_n (pc := 15) 3 C0 rfl dX6_fits_15 rfl ?_
    refine g_stO (pc := 16) (r := r) (na := 2) (As := [.int (nI s), .int (nI i4)]) (rest := [.int (nI (bN (allB (fun j => fitP (τ 2 r) (τ 6 (3 * r + j)) s) i4)))]) C0 hN hβ (by omega) (hw.2.2 r (by omega)).1 (fun hk => xS_goesInto l D dT ad nS τ β r s i4 hβ hw (by omega) hs (by omega) (by omega) (by omega) hk) (fun hk => xO_goesInto l D dT ad nS τ β r s i4 hβ hw (by omega) hs (by omega) (by omega) (by omega) hk) (fun hk => xL_goesInto l D dT ad nS τ β r s i4 hβ hw (by omega) hs (by omega) (by omega) (by omega) hk) q736 q739 q738 q743 q740 q737 q744 q741 q75 q76 q77 q746 q745 q742 (by decide +kernel) ⟨Nat.le_of_ble_eq_true rfl, Nat.le_of_ble_eq_true rfl⟩ rfl rfl ⟨Nat.le_of_ble_eq_true rfl, Nat.le_of_ble_eq_true rfl⟩ rfl rfl (Nat.le_of_ble_eq_true rfl) dX6_fits_16 (fun r β0 hc => ?_)
    obtain ⟨rfl, rfl⟩ := hc
    refine g_iandE (pc := 19) C0 (bN_and _ _) dX6_fits_19 ?_
    refine g_istore_n (pc := 20) 2 C0 (L1 := [some (.ref (ad (90 + 2 * r))), some (.int (nI s)), some (.int (nI (bN (allB (fun j => fitP (τ 2 r) (τ 6 (3 * r + j)) s) i4 && fitP (τ 2 r) (τ 6 (3 * r + i4)) s)))), some (.int (nI i4))]) rfl (by decide) dX6_fits_20 rfl rfl ?_
    refine g_iinc1 (pc := 21) 3 C0 (L1 := [some (.ref (ad (90 + 2 * r))), some (.int (nI s)), some (.int (nI (bN (allB (fun j => fitP (τ 2 r) (τ 6 (3 * r + j)) s) i4 && fitP (τ 2 r) (τ 6 (3 * r + i4)) s)))), some (.int (nI (i4 + 1)))]) rfl rfl (by decide) dX6_fits_21 rfl ?_
    refine g_goto (pc := 24) 4 C0 dX6_fits_24 (by decide) ?_
    exact ih4
set_option maxHeartbeats 4000000 in
set_option maxRecDepth 100000 in
theorem xS_taken (l : Launch) (D : va_G) (dT : Nat → ClassId) (ad : Nat → Nat) (nS : Nat) (τ β : tT) (r : Nat) (s : Nat) (hβ : RX nS β τ) (hw : wfT τ) (hr : r < nS) (hs : ∀ i, i < 3 → β (90 + 2 * r + 1) i = stp τ r i) (h1 : 1 ≤ s) (h2 : s ≤ 24) : XI l D dT ad nS yX6_taken cX6_taken 4 .int ({ frames := 0, cells := 0, slots := 0, locals := 0 }) [.ref (ad (90 + 2 * r)), .int (nI s)] β (fun rr β' => rr = (nI (wearS τ r s)) ∧ β = β') := by
  refine XI.ofG (own := "FittingStrides$Stair") (L := [some (.ref (ad (90 + 2 * r))), some (.int (nI s)), none, none]) rfl (by decide) (Nat.le_of_ble_eq_true rfl) rfl ?_
  intro p' e' s' m' bl' mt' c' C0 hN
  have hn := hβ.n
  have hn10 := hβ.n10
  obtain ⟨k1, k2, k3, k4, k5, k6, k7⟩ := hw.2.2 r (by omega)
  refine g_iconst (pc := 0) (v := (nI 0)) C0 dX6_taken_0 (by decide) ?_
  refine g_istore_n (pc := 1) 2 C0 (L1 := [some (.ref (ad (90 + 2 * r))), some (.int (nI s)), some (.int (nI 0)), none]) rfl (by decide) dX6_taken_1 rfl rfl ?_
  refine g_iconst (pc := 2) (v := (nI 0)) C0 dX6_taken_2 (by decide) ?_
  refine g_istore_n (pc := 3) 3 C0 (L1 := [some (.ref (ad (90 + 2 * r))), some (.int (nI s)), some (.int (nI 0)), some (.int (nI 0))]) rfl (by decide) dX6_taken_3 rfl rfl ?_
  refine G.loop (pc := 4) (ws := fun i => xW dT ad nS β) (Lf := fun i => [some (.ref (ad (90 + 2 * r))), some (.int (nI s)), some (.int (nI (sumS (fun i => (τ 6 (3 * r + i) + s - 1) / s) i))), some (.int (nI i))]) (N := τ 5 r) (i0 := 0) (Nat.zero_le _) ?_ (fun i4 hi4 hj4 ih4 => ?_)
  · refine g_iload_n (pc := 4) 3 C0 rfl dX6_taken_4 rfl ?_
    refine g_aload_n (pc := 5) 0 C0 rfl dX6_taken_5 rfl ?_
    refine xs_get (pc := 6) (r := r) (v := .int (nI (τ 5 r))) C0 hβ (by omega) (hw.2.2 r (by omega)).1 3 (by decide) q638 rfl dX6_taken_6 ?_
    refine g_icmp_geN (pc := 9) 33 C0 (by omega) (by omega) dX6_taken_9 (by decide) (fun h9 => ?_) (fun h9 => ?_)
    rotate_left
    · exact absurd h9 (by omega)
    refine g_iload_n (pc := 33) 2 C0 rfl dX6_taken_33 rfl ?_
    exact g_iret (pc := 34) C0 dX6_taken_34 ⟨rfl, rfl⟩
  · obtain ⟨g1, g2⟩ := k7 i4 hi4
    refine g_iload_n (pc := 4) 3 C0 rfl dX6_taken_4 rfl ?_
    refine g_aload_n (pc := 5) 0 C0 rfl dX6_taken_5 rfl ?_
    refine xs_get (pc := 6) (r := r) (v := .int (nI (τ 5 r))) C0 hβ (by omega) (hw.2.2 r (by omega)).1 3 (by decide) q638 rfl dX6_taken_6 ?_
    refine g_icmp_geN (pc := 9) 33 C0 (by omega) (by omega) dX6_taken_9 (by decide) (fun h9 => ?_) (fun h9 => ?_)
    · exact absurd h9 (by omega)
    refine g_iload_n (pc := 12) 2 C0 rfl dX6_taken_12 rfl ?_
    refine g_aload_n (pc := 13) 0 C0 rfl dX6_taken_13 rfl ?_
    refine xs_get (pc := 14) (r := r) (v := .ref (ad (90 + 2 * r + 1))) C0 hβ (by omega) (hw.2.2 r (by omega)).1 2 (by decide) q632 rfl dX6_taken_14 ?_
    refine g_iload_n (pc := 17) 3 C0 rfl dX6_taken_17 rfl ?_
    refine g_ialdV (pc := 18) (q0 := (90 + 2 * r + 1)) (j := (90 + 2 * r + 1)) (t0 := 0) (N := 3) (v := (τ 6 (3 * r + i4))) C0 i4 (xCode (by omega)) (fun f => xMk_steps (by omega) f) rfl (by decide) (by omega) ((hs _ (by omega)).trans (stp_in (by omega))) dX6_taken_18 ?_
    refine g_iload_n (pc := 19) 1 C0 rfl dX6_taken_19 rfl ?_
    refine g_iaddN (pc := 20) C0  dX6_taken_20 ?_
    refine g_iconst (pc := 21) (v := (nI 1)) C0 dX6_taken_21 (by decide) ?_
    refine g_isubN (pc := 22) C0 (by omega) dX6_taken_22 ?_
    refine g_iload_n (pc := 23) 1 C0 rfl dX6_taken_23 rfl ?_
    refine g_idivN (pc := 24) C0 (by omega) (by omega) (by omega) dX6_taken_24 ?_
    refine g_iaddN (pc := 25) C0  dX6_taken_25 ?_
    refine g_istore_n (pc := 26) 2 C0 (L1 := [some (.ref (ad (90 + 2 * r))), some (.int (nI s)), some (.int (nI ((sumS (fun i => (τ 6 (3 * r + i) + s - 1) / s) i4) + ((((τ 6 (3 * r + i4)) + s) - 1) / s)))), some (.int (nI i4))]) rfl (by decide) dX6_taken_26 rfl rfl ?_
    refine g_iinc1 (pc := 27) 3 C0 (L1 := [some (.ref (ad (90 + 2 * r))), some (.int (nI s)), some (.int (nI ((sumS (fun i => (τ 6 (3 * r + i) + s - 1) / s) i4) + ((((τ 6 (3 * r + i4)) + s) - 1) / s)))), some (.int (nI (i4 + 1)))]) rfl rfl (by decide) dX6_taken_27 rfl ?_
    refine g_goto (pc := 30) 4 C0 dX6_taken_30 (by decide) ?_
    exact ih4
set_option maxHeartbeats 4000000 in
set_option maxRecDepth 100000 in
theorem xS_other (l : Launch) (D : va_G) (dT : Nat → ClassId) (ad : Nat → Nat) (nS : Nat) (τ β : tT) (r : Nat) (x : Nat) (hβ : RX nS β τ) (hw : wfT τ) (hr : r < nS) (hx : x < 2 ^ 31) : XI l D dT ad nS yX6_other cX6_other 2 .int ({ frames := 0, cells := 0, slots := 0, locals := 0 }) [.ref (ad (90 + 2 * r)), .int (nI x)] β (fun rr β' => rr = (othS τ r x) ∧ β = β') := by
  refine XI.ofG (own := "FittingStrides$Stair") (L := [some (.ref (ad (90 + 2 * r))), some (.int (nI x))]) rfl (by decide) (Nat.le_of_ble_eq_true rfl) rfl ?_
  intro p' e' s' m' bl' mt' c' C0 hN
  have hn := hβ.n
  have hn10 := hβ.n10
  obtain ⟨k1, k2, k3, k4, k5, k6, k7⟩ := hw.2.2 r (by omega)
  have hw0 := hw.2.1
  refine g_aload_n (pc := 0) 0 C0 rfl dX6_other_0 rfl ?_
  refine xs_get (pc := 1) (r := r) (v := .int (nI (τ 3 r))) C0 hβ (by omega) (hw.2.2 r (by omega)).1 0 (by decide) q628 rfl dX6_other_1 ?_
  refine g_iload_n (pc := 4) 1 C0 rfl dX6_other_4 rfl ?_
  refine g_icmp_neN (pc := 5) 15 C0 (by omega) (by omega) dX6_other_5 (by decide) (fun h5 => ?_) (fun h5 => ?_)
  · refine g_aload_n (pc := 15) 0 C0 rfl dX6_other_15 rfl ?_
    refine xs_get (pc := 16) (r := r) (v := .int (nI (τ 4 r))) C0 hβ (by omega) (hw.2.2 r (by omega)).1 1 (by decide) q630 rfl dX6_other_16 ?_
    refine g_iload_n (pc := 19) 1 C0 rfl dX6_other_19 rfl ?_
    refine g_icmp_neN (pc := 20) 30 C0 (by omega) (by omega) dX6_other_20 (by decide) (fun h20 => ?_) (fun h20 => ?_)
    · refine g_iconst (pc := 30) (v := (-1)) C0 dX6_other_30 (by decide) ?_
      exact g_iret (pc := 31) C0 dX6_other_31 ⟨by rw [othS, if_neg h5, if_neg h20], rfl⟩
    · refine g_aload_n (pc := 23) 0 C0 rfl dX6_other_23 rfl ?_
      refine xs_get (pc := 24) (r := r) (v := .int (nI (τ 3 r))) C0 hβ (by omega) (hw.2.2 r (by omega)).1 0 (by decide) q628 rfl dX6_other_24 ?_
      refine g_goto (pc := 27) 31 C0 dX6_other_27 (by decide) ?_
      exact g_iret (pc := 31) C0 dX6_other_31 ⟨by rw [othS, if_neg h5, if_pos h20], rfl⟩
  · refine g_aload_n (pc := 8) 0 C0 rfl dX6_other_8 rfl ?_
    refine xs_get (pc := 9) (r := r) (v := .int (nI (τ 4 r))) C0 hβ (by omega) (hw.2.2 r (by omega)).1 1 (by decide) q630 rfl dX6_other_9 ?_
    refine g_goto (pc := 12) 31 C0 dX6_other_12 (by decide) ?_
    exact g_iret (pc := 31) C0 dX6_other_31 ⟨by rw [othS, if_pos h5], rfl⟩
set_option maxHeartbeats 4000000 in
set_option maxRecDepth 100000 in
theorem xX_at (l : Launch) (D : va_G) (dT : Nat → ClassId) (ad : Nat → Nat) (nS : Nat) (τ β : tT)  (r : Nat) (hβ : RX nS β τ) (hw : wfT τ) (hr : r < nS) : XF l D dT ad nS yX0_at cX0_at 3 (Jvm.ClassFile.FieldType.object "FittingStrides$Stair") ({ frames := 1, cells := 0, slots := 0, locals := 64 }) [.ref (ad 0), .int (nI r)] β (fun β' => RX nS β' τ ∧ (∀ i, i < 3 → β' (90 + 2 * r + 1) i = stp τ r i) ∧ FR β β') (90 + 2 * r) := by
  refine XF.ofG (own := "FittingStrides") (L := [some (.ref (ad 0)), some (.int (nI r)), none]) rfl (by decide) (Nat.le_of_ble_eq_true rfl) rfl ?_
  intro p' e' s' m' bl' mt' c' C0 hN
  obtain ⟨b0, eb0⟩ : ∃ z : tT, z = β := ⟨_, rfl⟩
  have hψ : FR b0 β := FR.rf eb0
  have hn := hβ.n
  have hn10 := hβ.n10
  refine g_aload_n (pc := 0) 0 C0 rfl dX0_at_0 rfl ?_
  refine g_get (pc := 1) (v := .ref (ad 4)) C0 (C := RX0) (T := TX0) (N := 14) (ci := 1) (q0 := 0) (j := 0) 0 (xCode (by omega)) rfl rfl in_X0 (by decide) q183 rfl dX0_at_1 ?_
  refine g_getN (pc := 4) (v := .ref (ad 17)) C0 hN (C := RX1) (T := TX1) (N := 7) (ci := 2) (q0 := 4) (j := 4) 1 (xCode (by omega)) rfl rfl in_X1 (by decide) q100 rfl dX0_at_4 ?_
  refine g_iload_n (pc := 7) 1 C0 rfl dX0_at_7 rfl ?_
  refine g_aald (pc := 8) (q0 := 17) (j := 17) (t0 := 5) (N := 10) (jr := 90 + 2 * r) C0 r (xCode (by omega)) rfl rfl (by decide) (by omega) (xst_f (by omega)) dX0_at_8 ?_
  refine g_astore_n (pc := 9) 2 C0 (L1 := [some (.ref (ad 0)), some (.int (nI r)), some (.ref (ad (90 + 2 * r)))]) rfl (by decide) dX0_at_9 rfl rfl ?_
  refine g_aload_n (pc := 10) 0 C0 rfl dX0_at_10 rfl ?_
  refine g_get (pc := 11) (v := .ref (ad 1)) C0 (C := RX0) (T := TX0) (N := 14) (ci := 1) (q0 := 0) (j := 0) 1 (xCode (by omega)) rfl rfl in_X0 (by decide) q184 rfl dX0_at_11 ?_
  refine g_getN (pc := 14) (v := .ref (ad 21)) C0 hN (C := RX2) (T := TX2) (N := 10) (ci := 3) (q0 := 1) (j := 1) 4 (xCode (by omega)) rfl rfl in_X2 (by decide) q148 rfl dX0_at_14 ?_
  refine g_iload_n (pc := 17) 1 C0 rfl dX0_at_17 rfl ?_
  refine g_aaldA (pc := 18) (q0 := 21) (j := 21) (t0 := 3) (N := 10) (jr := 32 + r) C0 r (xCode (by omega)) rfl rfl (by decide) (by omega) rfl dX0_at_18 ?_
  refine g_iconst (pc := 19) (v := (nI 0)) C0 dX0_at_19 (by decide) ?_
  refine g_aload_n (pc := 20) 2 C0 rfl dX0_at_20 rfl ?_
  refine xs_get (pc := 21) (r := r) (v := .ref (ad (90 + 2 * r + 1))) C0 hβ (by omega) (hw.2.2 r (by omega)).1 2 (by decide) q637 rfl dX0_at_21 ?_
  refine g_iconst (pc := 24) (v := (nI 0)) C0 dX0_at_24 (by decide) ?_
  refine g_iconst (pc := 25) (v := (nI 3)) C0 dX0_at_25 (by decide) ?_
  refine g_copy (pc := 26) (q0 := 32 + r) (j0 := 32 + r) (q1 := 90 + 2 * r + 1) (j1 := 90 + 2 * r + 1) (t0 := 0) (n0 := 3) (n1 := 3) C0 3 (xNd hβ.n10) (xCode (by omega)) (fun f => xMk_row (by omega) f) (xCode (by omega)) (fun f => xMk_steps (by omega) f) rfl (by decide) (by decide) (by decide) q709 q351 q350 q69 (Nat.le_of_ble_eq_true rfl) (by decide) dX0_at_26 ?_
  refine G.nmX (Φ := fun β => RX nS β τ ∧ ((∀ i, i < 3 → β (90 + 2 * r + 1) i = stp τ r i) ∧ FR b0 β)) (wsf := fun β => xW dT ad nS β) ⟨(hβ.copyAt hr).1, (hβ.copyAt hr).2, FR.tr hψ (FR.copyAt β r)⟩ (fun β hβ => ?_)
  obtain ⟨hβ, hψ⟩ := hβ
  refine g_aload_n (pc := 29) 2 C0 rfl dX0_at_29 rfl ?_
  exact g_aret (pc := 30) C0 dX0_at_30 ⟨hβ, hψ.1, FR.go hψ.2 eb0⟩
set_option maxHeartbeats 4000000 in
set_option maxRecDepth 100000 in
theorem xX_mayClimb (l : Launch) (D : va_G) (dT : Nat → ClassId) (ad : Nat → Nat) (nS : Nat) (τ β : tT)  (r : Nat) (s : Nat) (t : Nat) (hβ : RX nS β τ) (hw : wfT τ) (hr : r < nS) (h1 : 1 ≤ s) (h2 : s < 2 ^ 31) (h3 : t < 2 ^ 31) : XI l D dT ad nS yX0_mayClimb cX0_mayClimb 5 .boolean ({ frames := 2, cells := 0, slots := 0, locals := 86 }) [.ref (ad 0), .int (nI r), .int (nI s), .int (nI t)] β (fun rr β' => rr = (nI (bN (sFit τ r s || sFit τ r t))) ∧ RX nS β' τ ∧ FR β β') := by
  refine XI.ofG (own := "FittingStrides") (L := [some (.ref (ad 0)), some (.int (nI r)), some (.int (nI s)), some (.int (nI t)), none]) rfl (by decide) (Nat.le_of_ble_eq_true rfl) rfl ?_
  intro p' e' s' m' bl' mt' c' C0 hN
  obtain ⟨b0, eb0⟩ : ∃ z : tT, z = β := ⟨_, rfl⟩
  have hψ : FR b0 β := FR.rf eb0
  have hn := hβ.n
  have hn10 := hβ.n10
  refine g_aload_n (pc := 0) 0 C0 rfl dX0_mayClimb_0 rfl ?_
  refine g_iload_n (pc := 1) 1 C0 rfl dX0_mayClimb_1 rfl ?_
  refine g_cvrX (pc := 2) (na := 1) (As := [.int (nI r)]) (rest := []) C0 hN (xX_at l D dT ad nS τ β  r hβ hw (by omega)) (q0 := 0) (j := 0) (ci := 1) (C := RX0) (T := TX0) (N := 14) (xCode (by omega)) rfl rfl q705 q707 qs10 q57 q708 (by decide +kernel) ⟨Nat.le_of_ble_eq_true rfl, Nat.le_of_ble_eq_true rfl⟩ rfl rfl ⟨Nat.le_of_ble_eq_true rfl, Nat.le_of_ble_eq_true rfl⟩ rfl rfl (Nat.le_of_ble_eq_true rfl) dX0_mayClimb_2 (fun β hc => ?_)
  obtain ⟨hβ, hs, he⟩ := hc
  have hψ := FR.tr hψ he
  refine g_astore (pc := 5) 4 C0 (L1 := [some (.ref (ad 0)), some (.int (nI r)), some (.int (nI s)), some (.int (nI t)), some (.ref (ad (90 + 2 * r)))]) rfl (by decide) dX0_mayClimb_5 rfl ?_
  refine g_aload (pc := 7) 4 C0 rfl dX0_mayClimb_7 ?_
  refine g_iload_n (pc := 9) 2 C0 rfl dX0_mayClimb_9 rfl ?_
  refine g_stU (pc := 10) (r := r) (na := 1) (As := [.int (nI s)]) (rest := []) C0 hN hβ (by omega) (hw.2.2 r (by omega)).1 (xS_fits l D dT ad nS τ β r s hβ hw (by omega) hs (by omega) (by omega)) q729 q732 q731 q734 q733 q730 q75 q735 (by decide +kernel) ⟨Nat.le_of_ble_eq_true rfl, Nat.le_of_ble_eq_true rfl⟩ rfl rfl ⟨Nat.le_of_ble_eq_true rfl, Nat.le_of_ble_eq_true rfl⟩ rfl rfl (Nat.le_of_ble_eq_true rfl) dX0_mayClimb_10 (fun r β0 hc => ?_)
  obtain ⟨rfl, rfl⟩ := hc
  refine g_if_neB (pc := 13) 29 C0 dX0_mayClimb_13 (by decide) (fun h13 => ?_) (fun h13 => ?_)
  · refine g_iconst (pc := 29) (v := (nI 1)) C0 dX0_mayClimb_29 (by decide) ?_
    refine g_goto (pc := 30) 34 C0 dX0_mayClimb_30 (by decide) ?_
    exact g_zret (pc := 34) C0 dX0_mayClimb_34 (by decide) ⟨bret1 (by simp [sFit_0, h13] <;> omega), hβ, FR.go hψ eb0⟩
  · refine g_iload_n (pc := 16) 3 C0 rfl dX0_mayClimb_16 rfl ?_
    refine g_if_leN (pc := 17) 33 C0 (by omega) dX0_mayClimb_17 (by decide) (fun h17 => ?_) (fun h17 => ?_)
    · refine g_iconst (pc := 33) (v := (nI 0)) C0 dX0_mayClimb_33 (by decide) ?_
      exact g_zret (pc := 34) C0 dX0_mayClimb_34 (by decide) ⟨bret0 (by simp [sFit_0, h13, h17] <;> omega), hβ, FR.go hψ eb0⟩
    · refine g_aload (pc := 20) 4 C0 rfl dX0_mayClimb_20 ?_
      refine g_iload_n (pc := 22) 3 C0 rfl dX0_mayClimb_22 rfl ?_
      refine g_stU (pc := 23) (r := r) (na := 1) (As := [.int (nI t)]) (rest := []) C0 hN hβ (by omega) (hw.2.2 r (by omega)).1 (xS_fits l D dT ad nS τ β r t hβ hw (by omega) hs (by omega) (by omega)) q729 q732 q731 q734 q733 q730 q75 q735 (by decide +kernel) ⟨Nat.le_of_ble_eq_true rfl, Nat.le_of_ble_eq_true rfl⟩ rfl rfl ⟨Nat.le_of_ble_eq_true rfl, Nat.le_of_ble_eq_true rfl⟩ rfl rfl (Nat.le_of_ble_eq_true rfl) dX0_mayClimb_23 (fun r β0 hc => ?_)
      obtain ⟨rfl, rfl⟩ := hc
      refine g_if_eqB (pc := 26) 33 C0 dX0_mayClimb_26 (by decide) (fun h26 => ?_) (fun h26 => ?_)
      · refine g_iconst (pc := 33) (v := (nI 0)) C0 dX0_mayClimb_33 (by decide) ?_
        exact g_zret (pc := 34) C0 dX0_mayClimb_34 (by decide) ⟨bret0 (by simp [sFit_0, h13, h17, h26] <;> omega), hβ, FR.go hψ eb0⟩
      · refine g_iconst (pc := 29) (v := (nI 1)) C0 dX0_mayClimb_29 (by decide) ?_
        refine g_goto (pc := 30) 34 C0 dX0_mayClimb_30 (by decide) ?_
        exact g_zret (pc := 34) C0 dX0_mayClimb_34 (by decide) ⟨bret1 (by simp [sFit_0, h13, h17, h26] <;> omega), hβ, FR.go hψ eb0⟩
set_option maxHeartbeats 4000000 in
set_option maxRecDepth 100000 in
theorem xX_mayGo (l : Launch) (D : va_G) (dT : Nat → ClassId) (ad : Nat → Nat) (nS : Nat) (τ β : tT)  (r : Nat) (x : Nat) (s : Nat) (t : Nat) (hβ : RX nS β τ) (hw : wfT τ) (hp : wfP τ) (hr : r < nS) (hx : x < 2 ^ 31) (h1 : 1 ≤ s) (h2 : s < 2 ^ 31) (h3 : t < 2 ^ 31) : XI l D dT ad nS yX0_mayGo cX0_mayGo 6 .boolean ({ frames := 3, cells := 0, slots := 0, locals := 110 }) [.ref (ad 0), .int (nI r), .int (nI x), .int (nI s), .int (nI t)] β (fun rr β' => rr = (nI (bN (mgS τ r x s t))) ∧ RX nS β' τ ∧ FR β β') := by
  refine XI.ofG (own := "FittingStrides") (L := [some (.ref (ad 0)), some (.int (nI r)), some (.int (nI x)), some (.int (nI s)), some (.int (nI t)), none]) rfl (by decide) (Nat.le_of_ble_eq_true rfl) rfl ?_
  intro p' e' s' m' bl' mt' c' C0 hN
  obtain ⟨b0, eb0⟩ : ∃ z : tT, z = β := ⟨_, rfl⟩
  have hψ : FR b0 β := FR.rf eb0
  have hn := hβ.n
  have hn10 := hβ.n10
  obtain ⟨k1, k2, k3, k4, k5, k6, k7⟩ := hw.2.2 r (by omega)
  have hw0 := hw.2.1
  have hp1 := hp.2.1
  refine G.join (pcJ := 32) (wsJ := xW dT ad nS β) (LJ := [some (.ref (ad 0)), some (.int (nI r)), some (.int (nI x)), some (.int (nI s)), some (.int (nI t)), none]) (stJ := []) (nI (bN (decide (τ 0 12 = 1) && decide (τ 4 r = x)))) ?_ (fun J32 => ?_)
  · refine g_istore (pc := 32) 5 C0 (L1 := [some (.ref (ad 0)), some (.int (nI r)), some (.int (nI x)), some (.int (nI s)), some (.int (nI t)), some (.int (nI (bN (decide (τ 0 12 = 1) && decide (τ 4 r = x)))))]) rfl (by decide) dX0_mayGo_32 rfl ?_
    refine g_aload_n (pc := 34) 0 C0 rfl dX0_mayGo_34 rfl ?_
    refine g_get (pc := 35) (v := .ref (ad 4)) C0 (C := RX0) (T := TX0) (N := 14) (ci := 1) (q0 := 0) (j := 0) 0 (xCode (by omega)) rfl rfl in_X0 (by decide) q183 rfl dX0_mayGo_35 ?_
    refine g_getN (pc := 38) (v := .ref (ad 17)) C0 hN (C := RX1) (T := TX1) (N := 7) (ci := 2) (q0 := 4) (j := 4) 1 (xCode (by omega)) rfl rfl in_X1 (by decide) q100 rfl dX0_mayGo_38 ?_
    refine g_iload_n (pc := 41) 1 C0 rfl dX0_mayGo_41 rfl ?_
    refine g_aald (pc := 42) (q0 := 17) (j := 17) (t0 := 5) (N := 10) (jr := 90 + 2 * r) C0 r (xCode (by omega)) rfl rfl (by decide) (by omega) (xst_f (by omega)) dX0_mayGo_42 ?_
    refine g_iload_n (pc := 43) 2 C0 rfl dX0_mayGo_43 rfl ?_
    refine g_stU (pc := 44) (r := r) (na := 1) (As := [.int (nI x)]) (rest := []) C0 hN hβ (by omega) (hw.2.2 r (by omega)).1 (xS_other l D dT ad nS τ β r x hβ hw (by omega) (by omega)) q770 q773 q772 q775 q774 q771 q75 q776 (by decide +kernel) ⟨Nat.le_of_ble_eq_true rfl, Nat.le_of_ble_eq_true rfl⟩ rfl rfl ⟨Nat.le_of_ble_eq_true rfl, Nat.le_of_ble_eq_true rfl⟩ rfl rfl (Nat.le_of_ble_eq_true rfl) dX0_mayGo_44 (fun r β0 hc => ?_)
    obtain ⟨rfl, rfl⟩ := hc
    refine g_iconst (pc := 47) (v := (-1)) C0 dX0_mayGo_47 (by decide) ?_
    refine g_icmp_eq (pc := 48) 71 C0 dX0_mayGo_48 (by decide) (fun h48 => ?_) (fun h48 => ?_)
    · refine g_iconst (pc := 71) (v := (nI 0)) C0 dX0_mayGo_71 (by decide) ?_
      exact g_zret (pc := 72) C0 dX0_mayGo_72 (by decide) ⟨bret0 (by rw [mgS_eq (by omega) (by omega)]; simp [h48]), hβ, FR.go hψ eb0⟩
    · refine g_iload (pc := 51) 5 C0 rfl dX0_mayGo_51 ?_
      refine g_if_neB (pc := 53) 67 C0 dX0_mayGo_53 (by decide) (fun h53 => ?_) (fun h53 => ?_)
      · refine g_iconst (pc := 67) (v := (nI 1)) C0 dX0_mayGo_67 (by decide) ?_
        refine g_goto (pc := 68) 72 C0 dX0_mayGo_68 (by decide) ?_
        exact g_zret (pc := 72) C0 dX0_mayGo_72 (by decide) ⟨bret1 (by rw [mgS_eq (by omega) (by omega)]; simp [h48, h53]), hβ, FR.go hψ eb0⟩
      · refine g_aload_n (pc := 56) 0 C0 rfl dX0_mayGo_56 rfl ?_
        refine g_iload_n (pc := 57) 1 C0 rfl dX0_mayGo_57 rfl ?_
        refine g_iload_n (pc := 58) 3 C0 rfl dX0_mayGo_58 rfl ?_
        refine g_iload (pc := 59) 4 C0 rfl dX0_mayGo_59 ?_
        refine g_cviX (pc := 61) (na := 3) (As := [.int (nI r), .int (nI s), .int (nI t)]) (rest := []) C0 hN (xX_mayClimb l D dT ad nS τ β  r s t hβ hw (by omega) (by omega) (by omega) (by omega)) (q0 := 0) (j := 0) (ci := 1) (C := RX0) (T := TX0) (N := 14) (xCode (by omega)) rfl rfl q725 q727 qs12 q57 q728 (by decide +kernel) ⟨Nat.le_of_ble_eq_true rfl, Nat.le_of_ble_eq_true rfl⟩ rfl rfl ⟨Nat.le_of_ble_eq_true rfl, Nat.le_of_ble_eq_true rfl⟩ rfl rfl (Nat.le_of_ble_eq_true rfl) dX0_mayGo_61 (fun r β hc => ?_)
        obtain ⟨rfl, hβ, he⟩ := hc
        have hψ := FR.tr hψ he
        refine g_if_eqB (pc := 64) 71 C0 dX0_mayGo_64 (by decide) (fun h64 => ?_) (fun h64 => ?_)
        · refine g_iconst (pc := 71) (v := (nI 0)) C0 dX0_mayGo_71 (by decide) ?_
          exact g_zret (pc := 72) C0 dX0_mayGo_72 (by decide) ⟨bret0 (by rw [mgS_eq (by omega) (by omega)]; simp [h48, h53, h64]), hβ, FR.go hψ eb0⟩
        · refine g_iconst (pc := 67) (v := (nI 1)) C0 dX0_mayGo_67 (by decide) ?_
          refine g_goto (pc := 68) 72 C0 dX0_mayGo_68 (by decide) ?_
          exact g_zret (pc := 72) C0 dX0_mayGo_72 (by decide) ⟨bret1 (by rw [mgS_eq (by omega) (by omega)]; simp [h48, h53, h64]), hβ, FR.go hψ eb0⟩
  · refine g_aload_n (pc := 0) 0 C0 rfl dX0_mayGo_0 rfl ?_
    refine g_get (pc := 1) (v := .ref (ad 1)) C0 (C := RX0) (T := TX0) (N := 14) (ci := 1) (q0 := 0) (j := 0) 1 (xCode (by omega)) rfl rfl in_X0 (by decide) q184 rfl dX0_mayGo_1 ?_
    refine g_getN (pc := 4) (v := .int (nI (τ 0 12))) C0 hN (C := RX2) (T := TX2) (N := 10) (ci := 3) (q0 := 1) (j := 1) 6 (xCode (by omega)) rfl rfl in_X2 (by decide) q152 (xv hβ.f1_6) dX0_mayGo_4 ?_
    refine g_iconst (pc := 7) (v := (nI 1)) C0 dX0_mayGo_7 (by decide) ?_
    refine g_icmp_neN (pc := 8) 31 C0 (by omega) (by decide) dX0_mayGo_8 (by decide) (fun h8 => ?_) (fun h8 => ?_)
    · refine g_iconst (pc := 31) (v := (nI 0)) C0 dX0_mayGo_31 (by decide) ?_
      exact J32 (nI 0) (bret0 (by simp [h8] <;> omega))
    · refine g_aload_n (pc := 11) 0 C0 rfl dX0_mayGo_11 rfl ?_
      refine g_get (pc := 12) (v := .ref (ad 4)) C0 (C := RX0) (T := TX0) (N := 14) (ci := 1) (q0 := 0) (j := 0) 0 (xCode (by omega)) rfl rfl in_X0 (by decide) q183 rfl dX0_mayGo_12 ?_
      refine g_getN (pc := 15) (v := .ref (ad 17)) C0 hN (C := RX1) (T := TX1) (N := 7) (ci := 2) (q0 := 4) (j := 4) 1 (xCode (by omega)) rfl rfl in_X1 (by decide) q100 rfl dX0_mayGo_15 ?_
      refine g_iload_n (pc := 18) 1 C0 rfl dX0_mayGo_18 rfl ?_
      refine g_aald (pc := 19) (q0 := 17) (j := 17) (t0 := 5) (N := 10) (jr := 90 + 2 * r) C0 r (xCode (by omega)) rfl rfl (by decide) (by omega) (xst_f (by omega)) dX0_mayGo_19 ?_
      refine xs_get (pc := 20) (r := r) (v := .int (nI (τ 4 r))) C0 hβ (by omega) (hw.2.2 r (by omega)).1 1 (by decide) q631 rfl dX0_mayGo_20 ?_
      refine g_iload_n (pc := 23) 2 C0 rfl dX0_mayGo_23 rfl ?_
      refine g_icmp_neN (pc := 24) 31 C0 (by omega) (by omega) dX0_mayGo_24 (by decide) (fun h24 => ?_) (fun h24 => ?_)
      · refine g_iconst (pc := 31) (v := (nI 0)) C0 dX0_mayGo_31 (by decide) ?_
        exact J32 (nI 0) (bret0 (by simp [h8, h24] <;> omega))
      · refine g_iconst (pc := 27) (v := (nI 1)) C0 dX0_mayGo_27 (by decide) ?_
        refine g_goto (pc := 28) 32 C0 dX0_mayGo_28 (by decide) ?_
        exact J32 (nI 1) (bret1 (by simp [h8, h24] <;> omega))
set_option maxHeartbeats 4000000 in
set_option maxRecDepth 100000 in
theorem xX_reachOf (l : Launch) (D : va_G) (dT : Nat → ClassId) (ad : Nat → Nat) (nS : Nat) (τ β : tT)  (place : Nat) (one : Nat) (two : Nat) (hβ : RX nS β τ) (hw : wfT τ) (hp : wfP τ) (h0 : place < 8) (h1 : 1 ≤ one) (h1b : one < 2 ^ 31) (h2 : two < 2 ^ 31) : XI l D dT ad nS yX0_reachOf cX0_reachOf 8 .int ({ frames := 4, cells := 0, slots := 0, locals := 135 }) [.ref (ad 0), .int (nI place), .int (nI one), .int (nI two)] β (fun rr β' => rr = (nI (reachS τ place one two)) ∧ RX nS β' τ ∧ FR β β') := by
  refine XI.ofG (own := "FittingStrides") (L := [some (.ref (ad 0)), some (.int (nI place)), some (.int (nI one)), some (.int (nI two)), none, none, none, none]) rfl (by decide) (Nat.le_of_ble_eq_true rfl) rfl ?_
  intro p' e' s' m' bl' mt' c' C0 hN
  obtain ⟨b0, eb0⟩ : ∃ z : tT, z = β := ⟨_, rfl⟩
  have hψ : FR b0 β := FR.rf eb0
  have hn := hβ.n
  have hn10 := hβ.n10
  have hw1 := hw.1
  have hw0 := hw.2.1
  have hpl : 2 ^ place < 256 := show 2 ^ place < 2 ^ 8 from Nat.pow_lt_pow_right (by decide) h0
  refine g_iconst (pc := 0) (v := (nI 1)) C0 dX0_reachOf_0 (by decide) ?_
  refine g_iload_n (pc := 1) 1 C0 rfl dX0_reachOf_1 rfl ?_
  refine g_ishl1N (pc := 2) C0 (by omega) dX0_reachOf_2 ?_
  refine g_istore (pc := 3) 4 C0 (L1 := [some (.ref (ad 0)), some (.int (nI place)), some (.int (nI one)), some (.int (nI two)), some (.int (nI (2 ^ place))), none, none, none]) rfl (by decide) dX0_reachOf_3 rfl ?_
  refine g_iconst (pc := 5) (v := (nI 0)) C0 dX0_reachOf_5 (by decide) ?_
  refine g_istore (pc := 6) 5 C0 (L1 := [some (.ref (ad 0)), some (.int (nI place)), some (.int (nI one)), some (.int (nI two)), some (.int (nI (2 ^ place))), some (.int (nI 0)), none, none]) rfl (by decide) dX0_reachOf_6 rfl ?_
  refine G.whX (pc := 8) (wsf := fun β => xW dT ad nS β) (Lf := fun xx : Nat × Nat => [some (.ref (ad 0)), some (.int (nI place)), some (.int (nI one)), some (.int (nI two)), some (.int (nI xx.1)), some (.int (nI xx.2)), none, none]) fxM (fun xx β => fxI (fun set => rchP τ one two set (τ 0 1)) (reachS τ place one two) xx ∧ RX nS β τ ∧ (FR b0 β)) (2 ^ place, 0) β ⟨(fx_0 hpl (Nat.pos_iff_ne_zero.mp (Nat.two_pow_pos _))), ⟨hβ, hψ⟩⟩ ?_
  rintro ⟨set8, was8⟩ β ⟨hI8, hβ⟩ ih8
  obtain ⟨hβ, hψ⟩ := hβ
  have hs8 : set8 < 256 := hI8.1
  have hw8 : was8 < 256 := hI8.2.1
  refine G.lE (L' := [some (.ref (ad 0)), some (.int (nI place)), some (.int (nI one)), some (.int (nI two)), some (.int (nI set8)), some (.int (nI was8)), none, none]) rfl ?_
  refine g_iload (pc := 8) 4 C0 rfl dX0_reachOf_8 ?_
  refine g_iload (pc := 10) 5 C0 rfl dX0_reachOf_10 ?_
  refine g_icmp_eqN (pc := 12) 145 C0 (by omega) (by omega) dX0_reachOf_12 (by decide) (fun h12 => ?_) (fun h12 => ?_)
  · refine g_iload (pc := 145) 4 C0 rfl dX0_reachOf_145 ?_
    exact g_iret (pc := 147) C0 dX0_reachOf_147 ⟨congrArg nI (hI8.2.2.1 h12.symm).symm, hβ, FR.go hψ eb0⟩
  · have fs8 := fx_s (P := (fun set => rchP τ one two set (τ 0 1))) (rch_hP hw one two) hI8 (Ne.symm h12)
    refine g_iload (pc := 15) 4 C0 rfl dX0_reachOf_15 ?_
    refine g_istore (pc := 17) 5 C0 (L1 := [some (.ref (ad 0)), some (.int (nI place)), some (.int (nI one)), some (.int (nI two)), some (.int (nI set8)), some (.int (nI set8)), none, none]) rfl (by decide) dX0_reachOf_17 rfl ?_
    refine g_iconst (pc := 19) (v := (nI 0)) C0 dX0_reachOf_19 (by decide) ?_
    refine g_istore (pc := 20) 6 C0 (L1 := [some (.ref (ad 0)), some (.int (nI place)), some (.int (nI one)), some (.int (nI two)), some (.int (nI set8)), some (.int (nI set8)), some (.int (nI 0)), none]) rfl (by decide) dX0_reachOf_20 rfl ?_
    refine G.loopX (pc := 22) (Φ := fun i β => RX nS β τ ∧ (FR b0 β)) (wsf := fun β => xW dT ad nS β) (Lf := fun i => [some (.ref (ad 0)), some (.int (nI place)), some (.int (nI one)), some (.int (nI two)), some (.int (nI (rchP τ one two set8 i))), some (.int (nI set8)), some (.int (nI i)), none]) (N := τ 0 1) (i0 := 0) β ⟨hβ, hψ⟩ (Nat.zero_le _) (fun β hβ => ?_) (fun i22 β hi22 hj22 hβ ih22 => ?_)
    · obtain ⟨hβ, hψ⟩ := hβ
      refine g_iload (pc := 22) 6 C0 rfl dX0_reachOf_22 ?_
      refine g_aload_n (pc := 24) 0 C0 rfl dX0_reachOf_24 rfl ?_
      refine g_get (pc := 25) (v := .ref (ad 4)) C0 (C := RX0) (T := TX0) (N := 14) (ci := 1) (q0 := 0) (j := 0) 0 (xCode (by omega)) rfl rfl in_X0 (by decide) q183 rfl dX0_reachOf_25 ?_
      refine g_getN (pc := 28) (v := .int (nI (τ 0 1))) C0 hN (C := RX1) (T := TX1) (N := 7) (ci := 2) (q0 := 4) (j := 4) 2 (xCode (by omega)) rfl rfl in_X1 (by decide) q103 (xv hβ.f4_2) dX0_reachOf_28 ?_
      refine g_icmp_geN (pc := 31) 142 C0 (by omega) (by omega) dX0_reachOf_31 (by decide) (fun h31 => ?_) (fun h31 => ?_)
      rotate_left
      · exact absurd h31 (by omega)
      refine g_goto (pc := 142) 8 C0 dX0_reachOf_142 (by decide) ?_
      refine G.forget 6 ?_
      exact ih8 ((fun set => rchP τ one two set (τ 0 1)) set8, set8) fs8.2 β ⟨fs8.1, ⟨hβ, hψ⟩⟩
    · obtain ⟨hβ, hψ⟩ := hβ
      obtain ⟨k1, k2, k3, k4, k5, k6, k7⟩ := hw.2.2 i22 hi22
      have hb := (rchP_ok hw one two hs8 i22 (by omega)).2
      refine g_iload (pc := 22) 6 C0 rfl dX0_reachOf_22 ?_
      refine g_aload_n (pc := 24) 0 C0 rfl dX0_reachOf_24 rfl ?_
      refine g_get (pc := 25) (v := .ref (ad 4)) C0 (C := RX0) (T := TX0) (N := 14) (ci := 1) (q0 := 0) (j := 0) 0 (xCode (by omega)) rfl rfl in_X0 (by decide) q183 rfl dX0_reachOf_25 ?_
      refine g_getN (pc := 28) (v := .int (nI (τ 0 1))) C0 hN (C := RX1) (T := TX1) (N := 7) (ci := 2) (q0 := 4) (j := 4) 2 (xCode (by omega)) rfl rfl in_X1 (by decide) q103 (xv hβ.f4_2) dX0_reachOf_28 ?_
      refine g_icmp_geN (pc := 31) 142 C0 (by omega) (by omega) dX0_reachOf_31 (by decide) (fun h31 => ?_) (fun h31 => ?_)
      · exact absurd h31 (by omega)
      refine g_aload_n (pc := 34) 0 C0 rfl dX0_reachOf_34 rfl ?_
      refine g_get (pc := 35) (v := .ref (ad 4)) C0 (C := RX0) (T := TX0) (N := 14) (ci := 1) (q0 := 0) (j := 0) 0 (xCode (by omega)) rfl rfl in_X0 (by decide) q183 rfl dX0_reachOf_35 ?_
      refine g_getN (pc := 38) (v := .ref (ad 17)) C0 hN (C := RX1) (T := TX1) (N := 7) (ci := 2) (q0 := 4) (j := 4) 1 (xCode (by omega)) rfl rfl in_X1 (by decide) q100 rfl dX0_reachOf_38 ?_
      refine g_iload (pc := 41) 6 C0 rfl dX0_reachOf_41 ?_
      refine g_aald (pc := 43) (q0 := 17) (j := 17) (t0 := 5) (N := 10) (jr := 90 + 2 * i22) C0 i22 (xCode (by omega)) rfl rfl (by decide) (by omega) (xst_f (by omega)) dX0_reachOf_43 ?_
      refine g_astore (pc := 44) 7 C0 (L1 := [some (.ref (ad 0)), some (.int (nI place)), some (.int (nI one)), some (.int (nI two)), some (.int (nI (rchP τ one two set8 i22))), some (.int (nI set8)), some (.int (nI i22)), some (.ref (ad (90 + 2 * i22)))]) rfl (by decide) dX0_reachOf_44 rfl ?_
      refine g_iload (pc := 46) 4 C0 rfl dX0_reachOf_46 ?_
      refine G.joinX (Φ := fun β => RX nS β τ ∧ (FR b0 β)) (wsf := fun β => xW dT ad nS β) (pcJ := 88) (LJ := [some (.ref (ad 0)), some (.int (nI place)), some (.int (nI one)), some (.int (nI two)), some (.int (nI (rchP τ one two set8 i22))), some (.int (nI set8)), some (.int (nI i22)), some (.ref (ad (90 + 2 * i22)))]) (stJ := [.int (nI (rchP τ one two set8 i22))]) (nI (if ((sFit τ i22 one || sFit τ i22 two) && (rchP τ one two set8 i22).testBit (τ 3 i22)) = true then 2 ^ τ 4 i22 else 0)) (fun β hβ => ?_) (fun J88 => ?_)
      · obtain ⟨hβ, hψ⟩ := hβ
        refine g_iorN (pc := 88) C0  dX0_reachOf_88 ?_
        refine g_istore (pc := 89) 4 C0 (L1 := [some (.ref (ad 0)), some (.int (nI place)), some (.int (nI one)), some (.int (nI two)), some (.int (nI ((rchP τ one two set8 i22) ||| (if ((sFit τ i22 one || sFit τ i22 two) && (rchP τ one two set8 i22).testBit (τ 3 i22)) = true then 2 ^ τ 4 i22 else 0)))), some (.int (nI set8)), some (.int (nI i22)), some (.ref (ad (90 + 2 * i22)))]) rfl (by decide) dX0_reachOf_89 rfl ?_
        obtain ⟨B1, eB1⟩ : ∃ z, z = ((rchP τ one two set8 i22) ||| (if ((sFit τ i22 one || sFit τ i22 two) && (rchP τ one two set8 i22).testBit (τ 3 i22)) = true then 2 ^ τ 4 i22 else 0)) := ⟨_, rfl⟩
        have hb2 : B1 < 2 ^ 8 := by rw [eB1]; exact Nat.or_lt_two_pow hb (ite_lt (Nat.pow_lt_pow_right (by decide) (by omega)) (by decide))
        refine G.lE (L' := [some (.ref (ad 0)), some (.int (nI place)), some (.int (nI one)), some (.int (nI two)), some (.int (nI B1)), some (.int (nI set8)), some (.int (nI i22)), some (.ref (ad (90 + 2 * i22)))]) (by rw [eB1]) ?_
        refine g_iload (pc := 91) 4 C0 rfl dX0_reachOf_91 ?_
        refine G.joinX (Φ := fun β => RX nS β τ ∧ (FR b0 β)) (wsf := fun β => xW dT ad nS β) (pcJ := 133) (LJ := [some (.ref (ad 0)), some (.int (nI place)), some (.int (nI one)), some (.int (nI two)), some (.int (nI B1)), some (.int (nI set8)), some (.int (nI i22)), some (.ref (ad (90 + 2 * i22)))]) (stJ := [.int (nI B1)]) (nI (if ((sFit τ i22 one || sFit τ i22 two || decide (τ 0 12 = 1)) && B1.testBit (τ 4 i22)) = true then 2 ^ τ 3 i22 else 0)) (fun β hβ => ?_) (fun J133 => ?_)
        · obtain ⟨hβ, hψ⟩ := hβ
          refine g_iorN (pc := 133) C0  dX0_reachOf_133 ?_
          refine g_istore (pc := 134) 4 C0 (L1 := [some (.ref (ad 0)), some (.int (nI place)), some (.int (nI one)), some (.int (nI two)), some (.int (nI (B1 ||| (if ((sFit τ i22 one || sFit τ i22 two || decide (τ 0 12 = 1)) && B1.testBit (τ 4 i22)) = true then 2 ^ τ 3 i22 else 0)))), some (.int (nI set8)), some (.int (nI i22)), some (.ref (ad (90 + 2 * i22)))]) rfl (by decide) dX0_reachOf_134 rfl ?_
          refine g_iinc1 (pc := 136) 6 C0 (L1 := [some (.ref (ad 0)), some (.int (nI place)), some (.int (nI one)), some (.int (nI two)), some (.int (nI (B1 ||| (if ((sFit τ i22 one || sFit τ i22 two || decide (τ 0 12 = 1)) && B1.testBit (τ 4 i22)) = true then 2 ^ τ 3 i22 else 0)))), some (.int (nI set8)), some (.int (nI (i22 + 1))), some (.ref (ad (90 + 2 * i22)))]) rfl rfl (by decide) dX0_reachOf_136 rfl ?_
          refine g_goto (pc := 139) 22 C0 dX0_reachOf_139 (by decide) ?_
          refine G.forget 7 ?_
          subst eB1
          exact ih22 β ⟨hβ, hψ⟩
        · refine g_iload (pc := 93) 4 C0 rfl dX0_reachOf_93 ?_
          refine g_aload (pc := 95) 7 C0 rfl dX0_reachOf_95 ?_
          refine xs_get (pc := 97) (r := i22) (v := .int (nI (τ 4 i22))) C0 hβ (by omega) (hw.2.2 i22 (by omega)).1 1 (by decide) q631 rfl dX0_reachOf_97 ?_
          refine g_csi (pc := 100) (na := 2) (As := [.int (nI B1), .int (nI (τ 4 i22))]) (rest := [.int (nI B1)]) C0 (xX_has l B1 (τ 4 i22) (by omega) (by omega)) q763 q764 q57 q765 (by decide +kernel) ⟨Nat.le_of_ble_eq_true rfl, Nat.le_of_ble_eq_true rfl⟩ rfl rfl ⟨Nat.le_of_ble_eq_true rfl, Nat.le_of_ble_eq_true rfl⟩ rfl rfl (Nat.le_of_ble_eq_true rfl) dX0_reachOf_100 ?_
          refine g_if_eqB (pc := 103) 132 C0 dX0_reachOf_103 (by decide) (fun h103 => ?_) (fun h103 => ?_)
          · refine g_iconst (pc := 132) (v := (nI 0)) C0 dX0_reachOf_132 (by decide) ?_
            exact J133 β ⟨hβ, hψ⟩ (nI 0) (congrArg nI (by simp [h103]))
          · refine g_aload_n (pc := 106) 0 C0 rfl dX0_reachOf_106 rfl ?_
            refine g_iload (pc := 107) 6 C0 rfl dX0_reachOf_107 ?_
            refine g_aload (pc := 109) 7 C0 rfl dX0_reachOf_109 ?_
            refine xs_get (pc := 111) (r := i22) (v := .int (nI (τ 4 i22))) C0 hβ (by omega) (hw.2.2 i22 (by omega)).1 1 (by decide) q631 rfl dX0_reachOf_111 ?_
            refine g_iload_n (pc := 114) 2 C0 rfl dX0_reachOf_114 rfl ?_
            refine g_iload_n (pc := 115) 3 C0 rfl dX0_reachOf_115 rfl ?_
            refine g_cviX (pc := 116) (na := 4) (As := [.int (nI i22), .int (nI (τ 4 i22)), .int (nI one), .int (nI two)]) (rest := [.int (nI B1)]) C0 hN (xX_mayGo l D dT ad nS τ β  i22 (τ 4 i22) one two hβ hw hp (by omega) (by omega) (by omega) (by omega) (by omega)) (q0 := 0) (j := 0) (ci := 1) (C := RX0) (T := TX0) (N := 14) (xCode (by omega)) rfl rfl q766 q768 qs16 q57 q769 (by decide +kernel) ⟨Nat.le_of_ble_eq_true rfl, Nat.le_of_ble_eq_true rfl⟩ rfl rfl ⟨Nat.le_of_ble_eq_true rfl, Nat.le_of_ble_eq_true rfl⟩ rfl rfl (Nat.le_of_ble_eq_true rfl) dX0_reachOf_116 (fun r β hc => ?_)
            obtain ⟨rfl, hβ, he⟩ := hc
            have hψ := FR.tr hψ he
            refine g_if_eqB (pc := 119) 132 C0 dX0_reachOf_119 (by decide) (fun h119 => ?_) (fun h119 => ?_)
            · refine g_iconst (pc := 132) (v := (nI 0)) C0 dX0_reachOf_132 (by decide) ?_
              exact J133 β ⟨hβ, hψ⟩ (nI 0) (congrArg nI (by rw [mgS_to] at h119; simp [h103, h119]))
            · refine g_iconst (pc := 122) (v := (nI 1)) C0 dX0_reachOf_122 (by decide) ?_
              refine g_aload (pc := 123) 7 C0 rfl dX0_reachOf_123 ?_
              refine xs_get (pc := 125) (r := i22) (v := .int (nI (τ 3 i22))) C0 hβ (by omega) (hw.2.2 i22 (by omega)).1 0 (by decide) q629 rfl dX0_reachOf_125 ?_
              refine g_ishl1N (pc := 128) C0 (by omega) dX0_reachOf_128 ?_
              refine g_goto (pc := 129) 133 C0 dX0_reachOf_129 (by decide) ?_
              exact J133 β ⟨hβ, hψ⟩ (nI (2 ^ (τ 3 i22))) (congrArg nI (by rw [mgS_to] at h119; simp [h103, h119]))
      · refine g_iload (pc := 48) 4 C0 rfl dX0_reachOf_48 ?_
        refine g_aload (pc := 50) 7 C0 rfl dX0_reachOf_50 ?_
        refine xs_get (pc := 52) (r := i22) (v := .int (nI (τ 3 i22))) C0 hβ (by omega) (hw.2.2 i22 (by omega)).1 0 (by decide) q629 rfl dX0_reachOf_52 ?_
        refine g_csi (pc := 55) (na := 2) (As := [.int (nI (rchP τ one two set8 i22)), .int (nI (τ 3 i22))]) (rest := [.int (nI (rchP τ one two set8 i22))]) C0 (xX_has l (rchP τ one two set8 i22) (τ 3 i22) (by omega) (by omega)) q763 q764 q57 q765 (by decide +kernel) ⟨Nat.le_of_ble_eq_true rfl, Nat.le_of_ble_eq_true rfl⟩ rfl rfl ⟨Nat.le_of_ble_eq_true rfl, Nat.le_of_ble_eq_true rfl⟩ rfl rfl (Nat.le_of_ble_eq_true rfl) dX0_reachOf_55 ?_
        refine g_if_eqB (pc := 58) 87 C0 dX0_reachOf_58 (by decide) (fun h58 => ?_) (fun h58 => ?_)
        · refine g_iconst (pc := 87) (v := (nI 0)) C0 dX0_reachOf_87 (by decide) ?_
          exact J88 β ⟨hβ, hψ⟩ (nI 0) (congrArg nI (by simp [h58]))
        · refine g_aload_n (pc := 61) 0 C0 rfl dX0_reachOf_61 rfl ?_
          refine g_iload (pc := 62) 6 C0 rfl dX0_reachOf_62 ?_
          refine g_aload (pc := 64) 7 C0 rfl dX0_reachOf_64 ?_
          refine xs_get (pc := 66) (r := i22) (v := .int (nI (τ 3 i22))) C0 hβ (by omega) (hw.2.2 i22 (by omega)).1 0 (by decide) q629 rfl dX0_reachOf_66 ?_
          refine g_iload_n (pc := 69) 2 C0 rfl dX0_reachOf_69 rfl ?_
          refine g_iload_n (pc := 70) 3 C0 rfl dX0_reachOf_70 rfl ?_
          refine g_cviX (pc := 71) (na := 4) (As := [.int (nI i22), .int (nI (τ 3 i22)), .int (nI one), .int (nI two)]) (rest := [.int (nI (rchP τ one two set8 i22))]) C0 hN (xX_mayGo l D dT ad nS τ β  i22 (τ 3 i22) one two hβ hw hp (by omega) (by omega) (by omega) (by omega) (by omega)) (q0 := 0) (j := 0) (ci := 1) (C := RX0) (T := TX0) (N := 14) (xCode (by omega)) rfl rfl q766 q768 qs16 q57 q769 (by decide +kernel) ⟨Nat.le_of_ble_eq_true rfl, Nat.le_of_ble_eq_true rfl⟩ rfl rfl ⟨Nat.le_of_ble_eq_true rfl, Nat.le_of_ble_eq_true rfl⟩ rfl rfl (Nat.le_of_ble_eq_true rfl) dX0_reachOf_71 (fun r β hc => ?_)
          obtain ⟨rfl, hβ, he⟩ := hc
          have hψ := FR.tr hψ he
          refine g_if_eqB (pc := 74) 87 C0 dX0_reachOf_74 (by decide) (fun h74 => ?_) (fun h74 => ?_)
          · refine g_iconst (pc := 87) (v := (nI 0)) C0 dX0_reachOf_87 (by decide) ?_
            exact J88 β ⟨hβ, hψ⟩ (nI 0) (congrArg nI (by rw [mgS_from k4] at h74; simp [h58, h74]))
          · refine g_iconst (pc := 77) (v := (nI 1)) C0 dX0_reachOf_77 (by decide) ?_
            refine g_aload (pc := 78) 7 C0 rfl dX0_reachOf_78 ?_
            refine xs_get (pc := 80) (r := i22) (v := .int (nI (τ 4 i22))) C0 hβ (by omega) (hw.2.2 i22 (by omega)).1 1 (by decide) q631 rfl dX0_reachOf_80 ?_
            refine g_ishl1N (pc := 83) C0 (by omega) dX0_reachOf_83 ?_
            refine g_goto (pc := 84) 88 C0 dX0_reachOf_84 (by decide) ?_
            exact J88 β ⟨hβ, hψ⟩ (nI (2 ^ (τ 4 i22))) (congrArg nI (by rw [mgS_from k4] at h74; simp [h58, h74]))
set_option maxHeartbeats 4000000 in
set_option maxRecDepth 100000 in
theorem xX_reachOfPerson (l : Launch) (D : va_G) (dT : Nat → ClassId) (ad : Nat → Nat) (nS : Nat) (τ β : tT)  (q : Nat) (hβ : RX nS β τ) (hw : wfT τ) (hp : wfP τ) (hq : q < τ 0 8) : XI l D dT ad nS yX0_reachOfPerson cX0_reachOfPerson 2 .int ({ frames := 5, cells := 0, slots := 0, locals := 162 }) [.ref (ad 0), .int (nI q)] β (fun rr β' => rr = (nI (reachP τ q)) ∧ RX nS β' τ ∧ FR β β') := by
  refine XI.ofG (own := "FittingStrides") (L := [some (.ref (ad 0)), some (.int (nI q))]) rfl (by decide) (Nat.le_of_ble_eq_true rfl) rfl ?_
  intro p' e' s' m' bl' mt' c' C0 hN
  obtain ⟨b0, eb0⟩ : ∃ z : tT, z = β := ⟨_, rfl⟩
  have hψ : FR b0 β := FR.rf eb0
  have hn := hβ.n
  have hn10 := hβ.n10
  have hw1 := hw.1
  have hw0 := hw.2.1
  have hp0 := hp.1
  have hp1 := hp.2.1
  obtain ⟨g1, g2, g3, g4⟩ := hp.2.2 q hq
  refine g_aload_n (pc := 0) 0 C0 rfl dX0_reachOfPerson_0 rfl ?_
  refine g_aload_n (pc := 1) 0 C0 rfl dX0_reachOfPerson_1 rfl ?_
  refine g_get (pc := 2) (v := .ref (ad 1)) C0 (C := RX0) (T := TX0) (N := 14) (ci := 1) (q0 := 0) (j := 0) 1 (xCode (by omega)) rfl rfl in_X0 (by decide) q184 rfl dX0_reachOfPerson_2 ?_
  refine g_getN (pc := 5) (v := .ref (ad 5)) C0 hN (C := RX2) (T := TX2) (N := 10) (ci := 3) (q0 := 1) (j := 1) 0 (xCode (by omega)) rfl rfl in_X2 (by decide) q140 rfl dX0_reachOfPerson_5 ?_
  refine g_iload_n (pc := 8) 1 C0 rfl dX0_reachOfPerson_8 rfl ?_
  refine g_ialdV (pc := 9) (q0 := 5) (j := 5) (t0 := 0) (N := 8) (v := (τ 9 q)) C0 q (xCode (by omega)) (fun _ => rfl) rfl (by decide) (by omega) (hβ.a5 (by omega)) dX0_reachOfPerson_9 ?_
  refine g_aload_n (pc := 10) 0 C0 rfl dX0_reachOfPerson_10 rfl ?_
  refine g_get (pc := 11) (v := .ref (ad 1)) C0 (C := RX0) (T := TX0) (N := 14) (ci := 1) (q0 := 0) (j := 0) 1 (xCode (by omega)) rfl rfl in_X0 (by decide) q184 rfl dX0_reachOfPerson_11 ?_
  refine g_getN (pc := 14) (v := .ref (ad 6)) C0 hN (C := RX2) (T := TX2) (N := 10) (ci := 3) (q0 := 1) (j := 1) 1 (xCode (by omega)) rfl rfl in_X2 (by decide) q142 rfl dX0_reachOfPerson_14 ?_
  refine g_iload_n (pc := 17) 1 C0 rfl dX0_reachOfPerson_17 rfl ?_
  refine g_ialdV (pc := 18) (q0 := 6) (j := 6) (t0 := 0) (N := 8) (v := (τ 10 q)) C0 q (xCode (by omega)) (fun _ => rfl) rfl (by decide) (by omega) (hβ.a6 (by omega)) dX0_reachOfPerson_18 ?_
  refine g_aload_n (pc := 19) 0 C0 rfl dX0_reachOfPerson_19 rfl ?_
  refine g_get (pc := 20) (v := .ref (ad 1)) C0 (C := RX0) (T := TX0) (N := 14) (ci := 1) (q0 := 0) (j := 0) 1 (xCode (by omega)) rfl rfl in_X0 (by decide) q184 rfl dX0_reachOfPerson_20 ?_
  refine g_getN (pc := 23) (v := .ref (ad 7)) C0 hN (C := RX2) (T := TX2) (N := 10) (ci := 3) (q0 := 1) (j := 1) 2 (xCode (by omega)) rfl rfl in_X2 (by decide) q144 rfl dX0_reachOfPerson_23 ?_
  refine g_iload_n (pc := 26) 1 C0 rfl dX0_reachOfPerson_26 rfl ?_
  refine g_ialdV (pc := 27) (q0 := 7) (j := 7) (t0 := 0) (N := 8) (v := (τ 11 q)) C0 q (xCode (by omega)) (fun _ => rfl) rfl (by decide) (by omega) (hβ.a7 (by omega)) dX0_reachOfPerson_27 ?_
  refine g_cviX (pc := 28) (na := 3) (As := [.int (nI (τ 9 q)), .int (nI (τ 10 q)), .int (nI (τ 11 q))]) (rest := []) C0 hN (xX_reachOf l D dT ad nS τ β  (τ 9 q) (τ 10 q) (τ 11 q) hβ hw hp (by omega) (by omega) (by omega) (by omega)) (q0 := 0) (j := 0) (ci := 1) (C := RX0) (T := TX0) (N := 14) (xCode (by omega)) rfl rfl q759 q761 qs15 q57 q762 (by decide +kernel) ⟨Nat.le_of_ble_eq_true rfl, Nat.le_of_ble_eq_true rfl⟩ rfl rfl ⟨Nat.le_of_ble_eq_true rfl, Nat.le_of_ble_eq_true rfl⟩ rfl rfl (Nat.le_of_ble_eq_true rfl) dX0_reachOfPerson_28 (fun r β hc => ?_)
  obtain ⟨rfl, hβ, he⟩ := hc
  have hψ := FR.tr hψ he
  exact g_iret (pc := 31) C0 dX0_reachOfPerson_31 ⟨rfl, hβ, FR.go hψ eb0⟩
set_option maxHeartbeats 4000000 in
set_option maxRecDepth 100000 in
theorem xX_climbers (l : Launch) (D : va_G) (dT : Nat → ClassId) (ad : Nat → Nat) (nS : Nat) (τ β : tT)  (r : Nat) (hβ : RX nS β τ) (hw : wfT τ) (hp : wfP τ) (hr : r < nS) : XI l D dT ad nS yX0_climbers cX0_climbers 4 .int ({ frames := 3, cells := 0, slots := 0, locals := 110 }) [.ref (ad 0), .int (nI r)] β (fun rr β' => rr = (nI (sClimb τ r)) ∧ RX nS β' τ) := by
  refine XI.ofG (own := "FittingStrides") (L := [some (.ref (ad 0)), some (.int (nI r)), none, none]) rfl (by decide) (Nat.le_of_ble_eq_true rfl) rfl ?_
  intro p' e' s' m' bl' mt' c' C0 hN
  have hn := hβ.n
  have hn10 := hβ.n10
  have hw1 := hw.1
  have hw0 := hw.2.1
  have hp0 := hp.1
  have hp1 := hp.2.1
  refine g_iconst (pc := 0) (v := (nI 0)) C0 dX0_climbers_0 (by decide) ?_
  refine g_istore_n (pc := 1) 2 C0 (L1 := [some (.ref (ad 0)), some (.int (nI r)), some (.int (nI 0)), none]) rfl (by decide) dX0_climbers_1 rfl rfl ?_
  refine g_iconst (pc := 2) (v := (nI 0)) C0 dX0_climbers_2 (by decide) ?_
  refine g_istore_n (pc := 3) 3 C0 (L1 := [some (.ref (ad 0)), some (.int (nI r)), some (.int (nI 0)), some (.int (nI 0))]) rfl (by decide) dX0_climbers_3 rfl rfl ?_
  refine G.loopX (pc := 4) (Φ := fun i β => RX nS β τ) (wsf := fun β => xW dT ad nS β) (Lf := fun i => [some (.ref (ad 0)), some (.int (nI r)), some (.int (nI (orS (fun q => if sMay τ q r then 2 ^ q else 0) i))), some (.int (nI i))]) (N := τ 0 8) (i0 := 0) β hβ (Nat.zero_le _) (fun β hβ => ?_) (fun i4 β hi4 hj4 hβ ih4 => ?_)
  · refine g_iload_n (pc := 4) 3 C0 rfl dX0_climbers_4 rfl ?_
    refine g_aload_n (pc := 5) 0 C0 rfl dX0_climbers_5 rfl ?_
    refine g_get (pc := 6) (v := .ref (ad 1)) C0 (C := RX0) (T := TX0) (N := 14) (ci := 1) (q0 := 0) (j := 0) 1 (xCode (by omega)) rfl rfl in_X0 (by decide) q184 rfl dX0_climbers_6 ?_
    refine g_getN (pc := 9) (v := .int (nI (τ 0 8))) C0 hN (C := RX2) (T := TX2) (N := 10) (ci := 3) (q0 := 1) (j := 1) 3 (xCode (by omega)) rfl rfl in_X2 (by decide) q146 (xv hβ.f1_3) dX0_climbers_9 ?_
    refine g_icmp_geN (pc := 12) 57 C0 (by omega) (by omega) dX0_climbers_12 (by decide) (fun h12 => ?_) (fun h12 => ?_)
    rotate_left
    · exact absurd h12 (by omega)
    refine g_iload_n (pc := 57) 2 C0 rfl dX0_climbers_57 rfl ?_
    exact g_iret (pc := 58) C0 dX0_climbers_58 ⟨rfl, hβ⟩
  · obtain ⟨g1, g2, g3, g4⟩ := hp.2.2 i4 hi4
    refine g_iload_n (pc := 4) 3 C0 rfl dX0_climbers_4 rfl ?_
    refine g_aload_n (pc := 5) 0 C0 rfl dX0_climbers_5 rfl ?_
    refine g_get (pc := 6) (v := .ref (ad 1)) C0 (C := RX0) (T := TX0) (N := 14) (ci := 1) (q0 := 0) (j := 0) 1 (xCode (by omega)) rfl rfl in_X0 (by decide) q184 rfl dX0_climbers_6 ?_
    refine g_getN (pc := 9) (v := .int (nI (τ 0 8))) C0 hN (C := RX2) (T := TX2) (N := 10) (ci := 3) (q0 := 1) (j := 1) 3 (xCode (by omega)) rfl rfl in_X2 (by decide) q146 (xv hβ.f1_3) dX0_climbers_9 ?_
    refine g_icmp_geN (pc := 12) 57 C0 (by omega) (by omega) dX0_climbers_12 (by decide) (fun h12 => ?_) (fun h12 => ?_)
    · exact absurd h12 (by omega)
    refine g_iload_n (pc := 15) 2 C0 rfl dX0_climbers_15 rfl ?_
    refine G.joinX (Φ := fun β => RX nS β τ) (wsf := fun β => xW dT ad nS β) (pcJ := 49) (LJ := [some (.ref (ad 0)), some (.int (nI r)), some (.int (nI (orS (fun q => if sMay τ q r then 2 ^ q else 0) i4))), some (.int (nI i4))]) (stJ := [.int (nI (orS (fun q => if sMay τ q r then 2 ^ q else 0) i4))]) (nI (if sMay τ i4 r then 2 ^ i4 else 0)) (fun β hβ => ?_) (fun J49 => ?_)
    · refine g_iorN (pc := 49) C0  dX0_climbers_49 ?_
      refine g_istore_n (pc := 50) 2 C0 (L1 := [some (.ref (ad 0)), some (.int (nI r)), some (.int (nI ((orS (fun q => if sMay τ q r then 2 ^ q else 0) i4) ||| (if sMay τ i4 r then 2 ^ i4 else 0)))), some (.int (nI i4))]) rfl (by decide) dX0_climbers_50 rfl rfl ?_
      refine g_iinc1 (pc := 51) 3 C0 (L1 := [some (.ref (ad 0)), some (.int (nI r)), some (.int (nI ((orS (fun q => if sMay τ q r then 2 ^ q else 0) i4) ||| (if sMay τ i4 r then 2 ^ i4 else 0)))), some (.int (nI (i4 + 1)))]) rfl rfl (by decide) dX0_climbers_51 rfl ?_
      refine g_goto (pc := 54) 4 C0 dX0_climbers_54 (by decide) ?_
      exact ih4 β hβ
    · refine g_aload_n (pc := 16) 0 C0 rfl dX0_climbers_16 rfl ?_
      refine g_iload_n (pc := 17) 1 C0 rfl dX0_climbers_17 rfl ?_
      refine g_aload_n (pc := 18) 0 C0 rfl dX0_climbers_18 rfl ?_
      refine g_get (pc := 19) (v := .ref (ad 1)) C0 (C := RX0) (T := TX0) (N := 14) (ci := 1) (q0 := 0) (j := 0) 1 (xCode (by omega)) rfl rfl in_X0 (by decide) q184 rfl dX0_climbers_19 ?_
      refine g_getN (pc := 22) (v := .ref (ad 6)) C0 hN (C := RX2) (T := TX2) (N := 10) (ci := 3) (q0 := 1) (j := 1) 1 (xCode (by omega)) rfl rfl in_X2 (by decide) q142 rfl dX0_climbers_22 ?_
      refine g_iload_n (pc := 25) 3 C0 rfl dX0_climbers_25 rfl ?_
      refine g_ialdV (pc := 26) (q0 := 6) (j := 6) (t0 := 0) (N := 8) (v := (τ 10 i4)) C0 i4 (xCode (by omega)) (fun _ => rfl) rfl (by decide) (by omega) (hβ.a6 (by omega)) dX0_climbers_26 ?_
      refine g_aload_n (pc := 27) 0 C0 rfl dX0_climbers_27 rfl ?_
      refine g_get (pc := 28) (v := .ref (ad 1)) C0 (C := RX0) (T := TX0) (N := 14) (ci := 1) (q0 := 0) (j := 0) 1 (xCode (by omega)) rfl rfl in_X0 (by decide) q184 rfl dX0_climbers_28 ?_
      refine g_getN (pc := 31) (v := .ref (ad 7)) C0 hN (C := RX2) (T := TX2) (N := 10) (ci := 3) (q0 := 1) (j := 1) 2 (xCode (by omega)) rfl rfl in_X2 (by decide) q144 rfl dX0_climbers_31 ?_
      refine g_iload_n (pc := 34) 3 C0 rfl dX0_climbers_34 rfl ?_
      refine g_ialdV (pc := 35) (q0 := 7) (j := 7) (t0 := 0) (N := 8) (v := (τ 11 i4)) C0 i4 (xCode (by omega)) (fun _ => rfl) rfl (by decide) (by omega) (hβ.a7 (by omega)) dX0_climbers_35 ?_
      refine g_cviX (pc := 36) (na := 3) (As := [.int (nI r), .int (nI (τ 10 i4)), .int (nI (τ 11 i4))]) (rest := [.int (nI (orS (fun q => if sMay τ q r then 2 ^ q else 0) i4))]) C0 hN (xX_mayClimb l D dT ad nS τ β  r (τ 10 i4) (τ 11 i4) hβ hw (by omega) (by omega) (by omega) (by omega)) (q0 := 0) (j := 0) (ci := 1) (C := RX0) (T := TX0) (N := 14) (xCode (by omega)) rfl rfl q725 q727 qs12 q57 q728 (by decide +kernel) ⟨Nat.le_of_ble_eq_true rfl, Nat.le_of_ble_eq_true rfl⟩ rfl rfl ⟨Nat.le_of_ble_eq_true rfl, Nat.le_of_ble_eq_true rfl⟩ rfl rfl (Nat.le_of_ble_eq_true rfl) dX0_climbers_36 (fun r β hc => ?_)
      obtain ⟨rfl, hβ, he⟩ := hc
      refine g_if_eqB (pc := 39) 48 C0 dX0_climbers_39 (by decide) (fun h39 => ?_) (fun h39 => ?_)
      · refine g_iconst (pc := 48) (v := (nI 0)) C0 dX0_climbers_48 (by decide) ?_
        exact J49 β hβ (nI 0) (by simp [sMay, h39])
      · refine g_iconst (pc := 42) (v := (nI 1)) C0 dX0_climbers_42 (by decide) ?_
        refine g_iload_n (pc := 43) 3 C0 rfl dX0_climbers_43 rfl ?_
        refine g_ishl1N (pc := 44) C0 (by omega) dX0_climbers_44 ?_
        refine g_goto (pc := 45) 49 C0 dX0_climbers_45 (by decide) ?_
        exact J49 β hβ (nI (2 ^ i4)) (by simp [sMay, h39])
set_option maxHeartbeats 4000000 in
set_option maxRecDepth 100000 in
theorem xX_allWorn (l : Launch) (D : va_G) (dT : Nat → ClassId) (ad : Nat → Nat) (nS : Nat) (τ β : tT)   (hβ : RX nS β τ)  : XI l D dT ad nS yX0_allWorn cX0_allWorn 3 .int ({ frames := 0, cells := 0, slots := 0, locals := 0 }) [.ref (ad 0)] β (fun rr β' => rr = (nI (sumS (τ 7) (τ 0 1))) ∧ β = β') := by
  refine XI.ofG (own := "FittingStrides") (L := [some (.ref (ad 0)), none, none]) rfl (by decide) (Nat.le_of_ble_eq_true rfl) rfl ?_
  intro p' e' s' m' bl' mt' c' C0 hN
  have hn := hβ.n
  have hn10 := hβ.n10
  refine g_iconst (pc := 0) (v := (nI 0)) C0 dX0_allWorn_0 (by decide) ?_
  refine g_istore_n (pc := 1) 1 C0 (L1 := [some (.ref (ad 0)), some (.int (nI 0)), none]) rfl (by decide) dX0_allWorn_1 rfl rfl ?_
  refine g_iconst (pc := 2) (v := (nI 0)) C0 dX0_allWorn_2 (by decide) ?_
  refine g_istore_n (pc := 3) 2 C0 (L1 := [some (.ref (ad 0)), some (.int (nI 0)), some (.int (nI 0))]) rfl (by decide) dX0_allWorn_3 rfl rfl ?_
  refine G.loop (pc := 4) (ws := fun i => xW dT ad nS β) (Lf := fun i => [some (.ref (ad 0)), some (.int (nI (sumS (τ 7) i))), some (.int (nI i))]) (N := τ 0 1) (i0 := 0) (Nat.zero_le _) ?_ (fun i4 hi4 hj4 ih4 => ?_)
  · refine g_iload_n (pc := 4) 2 C0 rfl dX0_allWorn_4 rfl ?_
    refine g_aload_n (pc := 5) 0 C0 rfl dX0_allWorn_5 rfl ?_
    refine g_get (pc := 6) (v := .ref (ad 4)) C0 (C := RX0) (T := TX0) (N := 14) (ci := 1) (q0 := 0) (j := 0) 0 (xCode (by omega)) rfl rfl in_X0 (by decide) q183 rfl dX0_allWorn_6 ?_
    refine g_getN (pc := 9) (v := .int (nI (τ 0 1))) C0 hN (C := RX1) (T := TX1) (N := 7) (ci := 2) (q0 := 4) (j := 4) 2 (xCode (by omega)) rfl rfl in_X1 (by decide) q103 (xv hβ.f4_2) dX0_allWorn_9 ?_
    refine g_icmp_geN (pc := 12) 33 C0 (by omega) (by omega) dX0_allWorn_12 (by decide) (fun h12 => ?_) (fun h12 => ?_)
    rotate_left
    · exact absurd h12 (by omega)
    refine g_iload_n (pc := 33) 1 C0 rfl dX0_allWorn_33 rfl ?_
    exact g_iret (pc := 34) C0 dX0_allWorn_34 ⟨rfl, rfl⟩
  · refine g_iload_n (pc := 4) 2 C0 rfl dX0_allWorn_4 rfl ?_
    refine g_aload_n (pc := 5) 0 C0 rfl dX0_allWorn_5 rfl ?_
    refine g_get (pc := 6) (v := .ref (ad 4)) C0 (C := RX0) (T := TX0) (N := 14) (ci := 1) (q0 := 0) (j := 0) 0 (xCode (by omega)) rfl rfl in_X0 (by decide) q183 rfl dX0_allWorn_6 ?_
    refine g_getN (pc := 9) (v := .int (nI (τ 0 1))) C0 hN (C := RX1) (T := TX1) (N := 7) (ci := 2) (q0 := 4) (j := 4) 2 (xCode (by omega)) rfl rfl in_X1 (by decide) q103 (xv hβ.f4_2) dX0_allWorn_9 ?_
    refine g_icmp_geN (pc := 12) 33 C0 (by omega) (by omega) dX0_allWorn_12 (by decide) (fun h12 => ?_) (fun h12 => ?_)
    · exact absurd h12 (by omega)
    refine g_iload_n (pc := 15) 1 C0 rfl dX0_allWorn_15 rfl ?_
    refine g_aload_n (pc := 16) 0 C0 rfl dX0_allWorn_16 rfl ?_
    refine g_get (pc := 17) (v := .ref (ad 1)) C0 (C := RX0) (T := TX0) (N := 14) (ci := 1) (q0 := 0) (j := 0) 1 (xCode (by omega)) rfl rfl in_X0 (by decide) q184 rfl dX0_allWorn_17 ?_
    refine g_getN (pc := 20) (v := .ref (ad 8)) C0 hN (C := RX2) (T := TX2) (N := 10) (ci := 3) (q0 := 1) (j := 1) 5 (xCode (by omega)) rfl rfl in_X2 (by decide) q150 rfl dX0_allWorn_20 ?_
    refine g_iload_n (pc := 23) 2 C0 rfl dX0_allWorn_23 rfl ?_
    refine g_ialdV (pc := 24) (q0 := 8) (j := 8) (t0 := 0) (N := 10) (v := (τ 7 i4)) C0 i4 (xCode (by omega)) (fun _ => rfl) rfl (by decide) (by omega) (hβ.a8 (by omega)) dX0_allWorn_24 ?_
    refine g_iaddN (pc := 25) C0  dX0_allWorn_25 ?_
    refine g_istore_n (pc := 26) 1 C0 (L1 := [some (.ref (ad 0)), some (.int (nI ((sumS (τ 7) i4) + (τ 7 i4)))), some (.int (nI i4))]) rfl (by decide) dX0_allWorn_26 rfl rfl ?_
    refine g_iinc1 (pc := 27) 2 C0 (L1 := [some (.ref (ad 0)), some (.int (nI ((sumS (τ 7) i4) + (τ 7 i4)))), some (.int (nI (i4 + 1)))]) rfl rfl (by decide) dX0_allWorn_27 rfl ?_
    refine g_goto (pc := 30) 4 C0 dX0_allWorn_30 (by decide) ?_
    exact ih4
set_option maxHeartbeats 4000000 in
set_option maxRecDepth 100000 in
theorem xX_told (l : Launch) (D : va_G) (dT : Nat → ClassId) (ad : Nat → Nat) (nS : Nat) (τ β : tT)  (w : Int32) (hβ : RX nS β τ)  : XI l D dT ad nS yX0_told cX0_told 2 .int ({ frames := 1, cells := 0, slots := 0, locals := 22 }) [.ref (ad 0), .int w] β (fun rr β' => rr = (pTold τ w) ∧ β = β') := by
  refine XI.ofG (own := "FittingStrides") (L := [some (.ref (ad 0)), some (.int w)]) rfl (by decide) (Nat.le_of_ble_eq_true rfl) rfl ?_
  intro p' e' s' m' bl' mt' c' C0 hN
  have hn := hβ.n
  have hn10 := hβ.n10
  refine g_iload_n (pc := 0) 1 C0 rfl dX0_told_0 rfl ?_
  by_cases hs1 : w.toInt < 0 ∨ 7 < w.toInt
  · have hv1_0 : ¬ w = nI 0 := sw_out hs1 (by decide) (by decide)
    have hv1_1 : ¬ w = nI 1 := sw_out hs1 (by decide) (by decide)
    have hv1_2 : ¬ w = nI 2 := sw_out hs1 (by decide) (by decide)
    have hv1_3 : ¬ w = nI 3 := sw_out hs1 (by decide) (by decide)
    have hv1_4 : ¬ w = nI 4 := sw_out hs1 (by decide) (by decide)
    have hv1_5 : ¬ w = nI 5 := sw_out hs1 (by decide) (by decide)
    have hv1_6 : ¬ w = nI 6 := sw_out hs1 (by decide) (by decide)
    have hv1_7 : ¬ w = nI 7 := sw_out hs1 (by decide) (by decide)
    refine g_tableOut (pc := 1) 100 C0 dX0_told_1 hs1 (by decide) ?_
    refine g_ldc (pc := 100) (v := -1000000002) C0 q235 dX0_told_100 ?_
    exact g_iret (pc := 102) C0 dX0_told_102 ⟨by rw [pTold, if_neg hv1_0, if_neg hv1_1, if_neg hv1_2, if_neg hv1_3, if_neg hv1_4, if_neg hv1_5, if_neg hv1_6, if_neg hv1_7]; first | done | rfl, rfl⟩
  by_cases hv1_0 : w = nI 0
  · refine g_tableIn (pc := 1) 48 C0 dX0_told_1 (by omega) (by omega) (off := 47) (by rw [hv1_0]; rfl) (by decide) ?_
    refine g_aload_n (pc := 48) 0 C0 rfl dX0_told_48 rfl ?_
    refine g_get (pc := 49) (v := .ref (ad 4)) C0 (C := RX0) (T := TX0) (N := 14) (ci := 1) (q0 := 0) (j := 0) 0 (xCode (by omega)) rfl rfl in_X0 (by decide) q183 rfl dX0_told_49 ?_
    refine g_getN (pc := 52) (v := .int (nI (τ 0 0))) C0 hN (C := RX1) (T := TX1) (N := 7) (ci := 2) (q0 := 4) (j := 4) 0 (xCode (by omega)) rfl rfl in_X1 (by decide) q96 (xv hβ.f4_0) dX0_told_52 ?_
    exact g_iret (pc := 55) C0 dX0_told_55 ⟨by rw [pTold, if_pos hv1_0]; first | done | rfl, rfl⟩
  have hn1_0 := sw_ne hv1_0 (by decide)
  by_cases hv1_1 : w = nI 1
  · refine g_tableIn (pc := 1) 56 C0 dX0_told_1 (by omega) (by omega) (off := 55) (by rw [hv1_1]; rfl) (by decide) ?_
    refine g_aload_n (pc := 56) 0 C0 rfl dX0_told_56 rfl ?_
    refine g_get (pc := 57) (v := .ref (ad 4)) C0 (C := RX0) (T := TX0) (N := 14) (ci := 1) (q0 := 0) (j := 0) 0 (xCode (by omega)) rfl rfl in_X0 (by decide) q183 rfl dX0_told_57 ?_
    refine g_getN (pc := 60) (v := .int (nI (τ 0 1))) C0 hN (C := RX1) (T := TX1) (N := 7) (ci := 2) (q0 := 4) (j := 4) 2 (xCode (by omega)) rfl rfl in_X1 (by decide) q103 (xv hβ.f4_2) dX0_told_60 ?_
    exact g_iret (pc := 63) C0 dX0_told_63 ⟨by rw [pTold, if_neg hv1_0, if_pos hv1_1]; first | done | rfl, rfl⟩
  have hn1_1 := sw_ne hv1_1 (by decide)
  by_cases hv1_2 : w = nI 2
  · refine g_tableIn (pc := 1) 64 C0 dX0_told_1 (by omega) (by omega) (off := 63) (by rw [hv1_2]; rfl) (by decide) ?_
    refine g_aload_n (pc := 64) 0 C0 rfl dX0_told_64 rfl ?_
    refine g_get (pc := 65) (v := .ref (ad 1)) C0 (C := RX0) (T := TX0) (N := 14) (ci := 1) (q0 := 0) (j := 0) 1 (xCode (by omega)) rfl rfl in_X0 (by decide) q184 rfl dX0_told_65 ?_
    refine g_getN (pc := 68) (v := .int (nI (τ 0 8))) C0 hN (C := RX2) (T := TX2) (N := 10) (ci := 3) (q0 := 1) (j := 1) 3 (xCode (by omega)) rfl rfl in_X2 (by decide) q146 (xv hβ.f1_3) dX0_told_68 ?_
    exact g_iret (pc := 71) C0 dX0_told_71 ⟨by rw [pTold, if_neg hv1_0, if_neg hv1_1, if_pos hv1_2]; first | done | rfl, rfl⟩
  have hn1_2 := sw_ne hv1_2 (by decide)
  by_cases hv1_3 : w = nI 3
  · refine g_tableIn (pc := 1) 72 C0 dX0_told_1 (by omega) (by omega) (off := 71) (by rw [hv1_3]; rfl) (by decide) ?_
    refine g_aload_n (pc := 72) 0 C0 rfl dX0_told_72 rfl ?_
    refine g_get (pc := 73) (v := .int (nI (τ 0 15))) C0 (C := RX0) (T := TX0) (N := 14) (ci := 1) (q0 := 0) (j := 0) 9 (xCode (by omega)) rfl rfl in_X0 (by decide) q192 (xv hβ.f0_9) dX0_told_73 ?_
    exact g_iret (pc := 76) C0 dX0_told_76 ⟨by rw [pTold, if_neg hv1_0, if_neg hv1_1, if_neg hv1_2, if_pos hv1_3]; first | done | rfl, rfl⟩
  have hn1_3 := sw_ne hv1_3 (by decide)
  by_cases hv1_4 : w = nI 4
  · refine g_tableIn (pc := 1) 77 C0 dX0_told_1 (by omega) (by omega) (off := 76) (by rw [hv1_4]; rfl) (by decide) ?_
    refine g_aload_n (pc := 77) 0 C0 rfl dX0_told_77 rfl ?_
    refine g_get (pc := 78) (v := .ref (ad 1)) C0 (C := RX0) (T := TX0) (N := 14) (ci := 1) (q0 := 0) (j := 0) 1 (xCode (by omega)) rfl rfl in_X0 (by decide) q184 rfl dX0_told_78 ?_
    refine g_getN (pc := 81) (v := .int (nI (τ 0 12))) C0 hN (C := RX2) (T := TX2) (N := 10) (ci := 3) (q0 := 1) (j := 1) 6 (xCode (by omega)) rfl rfl in_X2 (by decide) q152 (xv hβ.f1_6) dX0_told_81 ?_
    exact g_iret (pc := 84) C0 dX0_told_84 ⟨by rw [pTold, if_neg hv1_0, if_neg hv1_1, if_neg hv1_2, if_neg hv1_3, if_pos hv1_4]; first | done | rfl, rfl⟩
  have hn1_4 := sw_ne hv1_4 (by decide)
  by_cases hv1_5 : w = nI 5
  · refine g_tableIn (pc := 1) 85 C0 dX0_told_1 (by omega) (by omega) (off := 84) (by rw [hv1_5]; rfl) (by decide) ?_
    refine g_aload_n (pc := 85) 0 C0 rfl dX0_told_85 rfl ?_
    refine g_get (pc := 86) (v := .int (nI (τ 0 34))) C0 (C := RX0) (T := TX0) (N := 14) (ci := 1) (q0 := 0) (j := 0) 4 (xCode (by omega)) rfl rfl in_X0 (by decide) q187 (xv hβ.f0_4) dX0_told_86 ?_
    exact g_iret (pc := 89) C0 dX0_told_89 ⟨by rw [pTold, if_neg hv1_0, if_neg hv1_1, if_neg hv1_2, if_neg hv1_3, if_neg hv1_4, if_pos hv1_5]; first | done | rfl, rfl⟩
  have hn1_5 := sw_ne hv1_5 (by decide)
  by_cases hv1_6 : w = nI 6
  · refine g_tableIn (pc := 1) 90 C0 dX0_told_1 (by omega) (by omega) (off := 89) (by rw [hv1_6]; rfl) (by decide) ?_
    refine g_aload_n (pc := 90) 0 C0 rfl dX0_told_90 rfl ?_
    refine g_get (pc := 91) (v := .int (nI (τ 0 38))) C0 (C := RX0) (T := TX0) (N := 14) (ci := 1) (q0 := 0) (j := 0) 7 (xCode (by omega)) rfl rfl in_X0 (by decide) q190 (xv hβ.f0_7) dX0_told_91 ?_
    exact g_iret (pc := 94) C0 dX0_told_94 ⟨by rw [pTold, if_neg hv1_0, if_neg hv1_1, if_neg hv1_2, if_neg hv1_3, if_neg hv1_4, if_neg hv1_5, if_pos hv1_6]; first | done | rfl, rfl⟩
  have hn1_6 := sw_ne hv1_6 (by decide)
  have hv1_7 : w = nI 7 := sw_last (by omega) (by decide)
  · refine g_tableIn (pc := 1) 95 C0 dX0_told_1 (by omega) (by omega) (off := 94) (by rw [hv1_7]; rfl) (by decide) ?_
    refine g_aload_n (pc := 95) 0 C0 rfl dX0_told_95 rfl ?_
    refine g_cviX (pc := 96) (na := 0) (As := []) (rest := []) C0 hN (xX_allWorn l D dT ad nS τ β   hβ ) (q0 := 0) (j := 0) (ci := 1) (C := RX0) (T := TX0) (N := 14) (xCode (by omega)) rfl rfl q692 q694 qs8 q57 q695 (by decide +kernel) ⟨Nat.le_of_ble_eq_true rfl, Nat.le_of_ble_eq_true rfl⟩ rfl rfl ⟨Nat.le_of_ble_eq_true rfl, Nat.le_of_ble_eq_true rfl⟩ rfl rfl (Nat.le_of_ble_eq_true rfl) dX0_told_96 (fun r β0 hc => ?_)
    obtain ⟨rfl, rfl⟩ := hc
    exact g_iret (pc := 99) C0 dX0_told_99 ⟨by rw [pTold, if_neg hv1_0, if_neg hv1_1, if_neg hv1_2, if_neg hv1_3, if_neg hv1_4, if_neg hv1_5, if_neg hv1_6, if_pos hv1_7]; first | done | rfl, rfl⟩
set_option maxHeartbeats 4000000 in
set_option maxRecDepth 100000 in
theorem xX_stair (l : Launch) (D : va_G) (dT : Nat → ClassId) (ad : Nat → Nat) (nS : Nat) (τ β : tT)  (r : Int32) (w : Int32) (hβ : RX nS β τ) (hw : wfT τ) (hp : wfP τ) : XI l D dT ad nS yX0_stair cX0_stair 4 .int ({ frames := 4, cells := 0, slots := 0, locals := 133 }) [.ref (ad 0), .int r, .int w] β (fun rr β' => rr = (pStair τ r w) ∧ RX nS β' τ) := by
  refine XI.ofG (own := "FittingStrides") (L := [some (.ref (ad 0)), some (.int r), some (.int w), none]) rfl (by decide) (Nat.le_of_ble_eq_true rfl) rfl ?_
  intro p' e' s' m' bl' mt' c' C0 hN
  have hn := hβ.n
  have hn10 := hβ.n10
  have hw1 := hw.1
  have hw0 := hw.2.1
  have hp0 := hp.1
  have hp1 := hp.2.1
  refine g_aload_n (pc := 0) 0 C0 rfl dX0_stair_0 rfl ?_
  refine g_iload_n (pc := 1) 1 C0 rfl dX0_stair_1 rfl ?_
  refine g_cviX (pc := 2) (na := 1) (As := [.int r]) (rest := []) C0 hN (xX_isStair l D dT ad nS τ β  r hβ (by omega)) (q0 := 0) (j := 0) (ci := 1) (C := RX0) (T := TX0) (N := 14) (xCode (by omega)) rfl rfl q700 q702 qs9 q57 q703 (by decide +kernel) ⟨Nat.le_of_ble_eq_true rfl, Nat.le_of_ble_eq_true rfl⟩ rfl rfl ⟨Nat.le_of_ble_eq_true rfl, Nat.le_of_ble_eq_true rfl⟩ rfl rfl (Nat.le_of_ble_eq_true rfl) dX0_stair_2 (fun r β0 hc => ?_)
  obtain ⟨rfl, rfl⟩ := hc
  refine g_if_neB (pc := 5) 11 C0 dX0_stair_5 (by decide) (fun h5 => ?_) (fun h5 => ?_)
  · obtain ⟨r1, rfl, r1h, r1b⟩ := ixB_t h5
    obtain ⟨k1, k2, k3, k4, k5, k6, k7⟩ := hw.2.2 r1 r1h
    refine g_aload_n (pc := 11) 0 C0 rfl dX0_stair_11 rfl ?_
    refine g_iload_n (pc := 12) 1 C0 rfl dX0_stair_12 rfl ?_
    refine g_cvrX (pc := 13) (na := 1) (As := [.int (nI r1)]) (rest := []) C0 hN (xX_at l D dT ad nS τ β  r1 hβ hw (by omega)) (q0 := 0) (j := 0) (ci := 1) (C := RX0) (T := TX0) (N := 14) (xCode (by omega)) rfl rfl q705 q707 qs10 q57 q708 (by decide +kernel) ⟨Nat.le_of_ble_eq_true rfl, Nat.le_of_ble_eq_true rfl⟩ rfl rfl ⟨Nat.le_of_ble_eq_true rfl, Nat.le_of_ble_eq_true rfl⟩ rfl rfl (Nat.le_of_ble_eq_true rfl) dX0_stair_13 (fun β hc => ?_)
    obtain ⟨hβ, hs, he⟩ := hc
    refine g_astore_n (pc := 16) 3 C0 (L1 := [some (.ref (ad 0)), some (.int (nI r1)), some (.int w), some (.ref (ad (90 + 2 * r1)))]) rfl (by decide) dX0_stair_16 rfl rfl ?_
    refine g_iload_n (pc := 17) 2 C0 rfl dX0_stair_17 rfl ?_
    by_cases hs18 : w.toInt < 0 ∨ 8 < w.toInt
    · have hv18_0 : ¬ w = nI 0 := sw_out hs18 (by decide) (by decide)
      have hv18_1 : ¬ w = nI 1 := sw_out hs18 (by decide) (by decide)
      have hv18_2 : ¬ w = nI 2 := sw_out hs18 (by decide) (by decide)
      have hv18_3 : ¬ w = nI 3 := sw_out hs18 (by decide) (by decide)
      have hv18_4 : ¬ w = nI 4 := sw_out hs18 (by decide) (by decide)
      have hv18_5 : ¬ w = nI 5 := sw_out hs18 (by decide) (by decide)
      have hv18_6 : ¬ w = nI 6 := sw_out hs18 (by decide) (by decide)
      have hv18_7 : ¬ w = nI 7 := sw_out hs18 (by decide) (by decide)
      have hv18_8 : ¬ w = nI 8 := sw_out hs18 (by decide) (by decide)
      refine g_tableOut (pc := 18) 113 C0 dX0_stair_18 hs18 (by decide) ?_
      refine g_ldc (pc := 113) (v := -1000000002) C0 q235 dX0_stair_113 ?_
      exact g_iret (pc := 115) C0 dX0_stair_115 ⟨by rw [pStair, if_pos h5, nI_clamp r1b, pStairN, if_neg hv18_0, if_neg hv18_1, if_neg hv18_2, if_neg hv18_3, if_neg hv18_4, if_neg hv18_5, if_neg hv18_6, if_neg hv18_7, if_neg hv18_8]; first | done | rfl, hβ⟩
    by_cases hv18_0 : w = nI 0
    · refine g_tableIn (pc := 18) 68 C0 dX0_stair_18 (by omega) (by omega) (off := 50) (by rw [hv18_0]; rfl) (by decide) ?_
      refine g_aload_n (pc := 68) 3 C0 rfl dX0_stair_68 rfl ?_
      refine g_stO (pc := 69) (r := r1) (na := 0) (As := []) (rest := []) C0 hN hβ (by omega) (hw.2.2 r1 (by omega)).1 (fun hk => xS_kind l D dT ad nS τ β r1 hβ hk) (fun hk => xO_kind l D dT ad nS τ β r1 hβ hk) (fun hk => xL_kind l D dT ad nS τ β r1 hβ hk) q710 q713 q712 q717 q714 q711 q718 q715 q75 q76 q77 q720 q719 q716 (by decide +kernel) ⟨Nat.le_of_ble_eq_true rfl, Nat.le_of_ble_eq_true rfl⟩ rfl rfl ⟨Nat.le_of_ble_eq_true rfl, Nat.le_of_ble_eq_true rfl⟩ rfl rfl (Nat.le_of_ble_eq_true rfl) dX0_stair_69 (fun r β0 hc => ?_)
      obtain ⟨rfl, rfl⟩ := hc
      exact g_iret (pc := 72) C0 dX0_stair_72 ⟨by rw [pStair, if_pos h5, nI_clamp r1b, pStairN, if_pos hv18_0]; first | done | rfl, hβ⟩
    have hn18_0 := sw_ne hv18_0 (by decide)
    by_cases hv18_1 : w = nI 1
    · refine g_tableIn (pc := 18) 73 C0 dX0_stair_18 (by omega) (by omega) (off := 55) (by rw [hv18_1]; rfl) (by decide) ?_
      refine g_aload_n (pc := 73) 3 C0 rfl dX0_stair_73 rfl ?_
      refine xs_get (pc := 74) (r := r1) (v := .int (nI (τ 3 r1))) C0 hβ (by omega) (hw.2.2 r1 (by omega)).1 0 (by decide) q629 rfl dX0_stair_74 ?_
      exact g_iret (pc := 77) C0 dX0_stair_77 ⟨by rw [pStair, if_pos h5, nI_clamp r1b, pStairN, if_neg hv18_0, if_pos hv18_1]; first | done | rfl, hβ⟩
    have hn18_1 := sw_ne hv18_1 (by decide)
    by_cases hv18_2 : w = nI 2
    · refine g_tableIn (pc := 18) 78 C0 dX0_stair_18 (by omega) (by omega) (off := 60) (by rw [hv18_2]; rfl) (by decide) ?_
      refine g_aload_n (pc := 78) 3 C0 rfl dX0_stair_78 rfl ?_
      refine xs_get (pc := 79) (r := r1) (v := .int (nI (τ 4 r1))) C0 hβ (by omega) (hw.2.2 r1 (by omega)).1 1 (by decide) q631 rfl dX0_stair_79 ?_
      exact g_iret (pc := 82) C0 dX0_stair_82 ⟨by rw [pStair, if_pos h5, nI_clamp r1b, pStairN, if_neg hv18_0, if_neg hv18_1, if_pos hv18_2]; first | done | rfl, hβ⟩
    have hn18_2 := sw_ne hv18_2 (by decide)
    by_cases hv18_3 : w = nI 3
    · refine g_tableIn (pc := 18) 83 C0 dX0_stair_18 (by omega) (by omega) (off := 65) (by rw [hv18_3]; rfl) (by decide) ?_
      refine g_aload_n (pc := 83) 3 C0 rfl dX0_stair_83 rfl ?_
      refine xs_get (pc := 84) (r := r1) (v := .int (nI (τ 5 r1))) C0 hβ (by omega) (hw.2.2 r1 (by omega)).1 3 (by decide) q640 rfl dX0_stair_84 ?_
      exact g_iret (pc := 87) C0 dX0_stair_87 ⟨by rw [pStair, if_pos h5, nI_clamp r1b, pStairN, if_neg hv18_0, if_neg hv18_1, if_neg hv18_2, if_pos hv18_3]; first | done | rfl, hβ⟩
    have hn18_3 := sw_ne hv18_3 (by decide)
    by_cases hv18_4 : w = nI 4
    · refine g_tableIn (pc := 18) 88 C0 dX0_stair_18 (by omega) (by omega) (off := 70) (by rw [hv18_4]; rfl) (by decide) ?_
      refine G.lE (L' := [some (.ref (ad 0)), some (.int (nI r1)), some (.int (nI 4)), some (.ref (ad (90 + 2 * r1)))]) (by rw [hv18_4]) ?_
      refine g_aload_n (pc := 88) 3 C0 rfl dX0_stair_88 rfl ?_
      refine xs_get (pc := 89) (r := r1) (v := .ref (ad (90 + 2 * r1 + 1))) C0 hβ (by omega) (hw.2.2 r1 (by omega)).1 2 (by decide) q637 rfl dX0_stair_89 ?_
      refine g_iload_n (pc := 92) 2 C0 rfl dX0_stair_92 rfl ?_
      refine g_iconst (pc := 93) (v := (nI 4)) C0 dX0_stair_93 (by decide) ?_
      refine g_isubN (pc := 94) C0 (by decide) dX0_stair_94 ?_
      refine g_ialdV (pc := 95) (q0 := (90 + 2 * r1 + 1)) (j := (90 + 2 * r1 + 1)) (t0 := 0) (N := 3) (v := (stp τ r1 (4 - 4))) C0 (4 - 4) (xCode (by omega)) (fun f => xMk_steps (by omega) f) rfl (by decide) (by decide) (hs _ (by omega)) dX0_stair_95 ?_
      exact g_iret (pc := 96) C0 dX0_stair_96 ⟨by rw [pStair, if_pos h5, nI_clamp r1b, pStairN, if_neg hv18_0, if_neg hv18_1, if_neg hv18_2, if_neg hv18_3, if_pos hv18_4]; rw [stp_in (by omega)]; rfl, hβ⟩
    have hn18_4 := sw_ne hv18_4 (by decide)
    by_cases hv18_5 : w = nI 5
    · refine g_tableIn (pc := 18) 88 C0 dX0_stair_18 (by omega) (by omega) (off := 70) (by rw [hv18_5]; rfl) (by decide) ?_
      refine G.lE (L' := [some (.ref (ad 0)), some (.int (nI r1)), some (.int (nI 5)), some (.ref (ad (90 + 2 * r1)))]) (by rw [hv18_5]) ?_
      refine g_aload_n (pc := 88) 3 C0 rfl dX0_stair_88 rfl ?_
      refine xs_get (pc := 89) (r := r1) (v := .ref (ad (90 + 2 * r1 + 1))) C0 hβ (by omega) (hw.2.2 r1 (by omega)).1 2 (by decide) q637 rfl dX0_stair_89 ?_
      refine g_iload_n (pc := 92) 2 C0 rfl dX0_stair_92 rfl ?_
      refine g_iconst (pc := 93) (v := (nI 4)) C0 dX0_stair_93 (by decide) ?_
      refine g_isubN (pc := 94) C0 (by decide) dX0_stair_94 ?_
      refine g_ialdV (pc := 95) (q0 := (90 + 2 * r1 + 1)) (j := (90 + 2 * r1 + 1)) (t0 := 0) (N := 3) (v := (stp τ r1 (5 - 4))) C0 (5 - 4) (xCode (by omega)) (fun f => xMk_steps (by omega) f) rfl (by decide) (by decide) (hs _ (by omega)) dX0_stair_95 ?_
      exact g_iret (pc := 96) C0 dX0_stair_96 ⟨by rw [pStair, if_pos h5, nI_clamp r1b, pStairN, if_neg hv18_0, if_neg hv18_1, if_neg hv18_2, if_neg hv18_3, if_neg hv18_4, if_pos hv18_5]; first | done | rfl, hβ⟩
    have hn18_5 := sw_ne hv18_5 (by decide)
    by_cases hv18_6 : w = nI 6
    · refine g_tableIn (pc := 18) 88 C0 dX0_stair_18 (by omega) (by omega) (off := 70) (by rw [hv18_6]; rfl) (by decide) ?_
      refine G.lE (L' := [some (.ref (ad 0)), some (.int (nI r1)), some (.int (nI 6)), some (.ref (ad (90 + 2 * r1)))]) (by rw [hv18_6]) ?_
      refine g_aload_n (pc := 88) 3 C0 rfl dX0_stair_88 rfl ?_
      refine xs_get (pc := 89) (r := r1) (v := .ref (ad (90 + 2 * r1 + 1))) C0 hβ (by omega) (hw.2.2 r1 (by omega)).1 2 (by decide) q637 rfl dX0_stair_89 ?_
      refine g_iload_n (pc := 92) 2 C0 rfl dX0_stair_92 rfl ?_
      refine g_iconst (pc := 93) (v := (nI 4)) C0 dX0_stair_93 (by decide) ?_
      refine g_isubN (pc := 94) C0 (by decide) dX0_stair_94 ?_
      refine g_ialdV (pc := 95) (q0 := (90 + 2 * r1 + 1)) (j := (90 + 2 * r1 + 1)) (t0 := 0) (N := 3) (v := (stp τ r1 (6 - 4))) C0 (6 - 4) (xCode (by omega)) (fun f => xMk_steps (by omega) f) rfl (by decide) (by decide) (hs _ (by omega)) dX0_stair_95 ?_
      exact g_iret (pc := 96) C0 dX0_stair_96 ⟨by rw [pStair, if_pos h5, nI_clamp r1b, pStairN, if_neg hv18_0, if_neg hv18_1, if_neg hv18_2, if_neg hv18_3, if_neg hv18_4, if_neg hv18_5, if_pos hv18_6]; first | done | rfl, hβ⟩
    have hn18_6 := sw_ne hv18_6 (by decide)
    by_cases hv18_7 : w = nI 7
    · refine g_tableIn (pc := 18) 97 C0 dX0_stair_18 (by omega) (by omega) (off := 79) (by rw [hv18_7]; rfl) (by decide) ?_
      refine g_aload_n (pc := 97) 0 C0 rfl dX0_stair_97 rfl ?_
      refine g_get (pc := 98) (v := .ref (ad 1)) C0 (C := RX0) (T := TX0) (N := 14) (ci := 1) (q0 := 0) (j := 0) 1 (xCode (by omega)) rfl rfl in_X0 (by decide) q184 rfl dX0_stair_98 ?_
      refine g_getN (pc := 101) (v := .ref (ad 8)) C0 hN (C := RX2) (T := TX2) (N := 10) (ci := 3) (q0 := 1) (j := 1) 5 (xCode (by omega)) rfl rfl in_X2 (by decide) q150 rfl dX0_stair_101 ?_
      refine g_iload_n (pc := 104) 1 C0 rfl dX0_stair_104 rfl ?_
      refine g_ialdV (pc := 105) (q0 := 8) (j := 8) (t0 := 0) (N := 10) (v := (τ 7 r1)) C0 r1 (xCode (by omega)) (fun _ => rfl) rfl (by decide) (by omega) (hβ.a8 (by omega)) dX0_stair_105 ?_
      exact g_iret (pc := 106) C0 dX0_stair_106 ⟨by rw [pStair, if_pos h5, nI_clamp r1b, pStairN, if_neg hv18_0, if_neg hv18_1, if_neg hv18_2, if_neg hv18_3, if_neg hv18_4, if_neg hv18_5, if_neg hv18_6, if_pos hv18_7]; first | done | rfl, hβ⟩
    have hn18_7 := sw_ne hv18_7 (by decide)
    have hv18_8 : w = nI 8 := sw_last (by omega) (by decide)
    · refine g_tableIn (pc := 18) 107 C0 dX0_stair_18 (by omega) (by omega) (off := 89) (by rw [hv18_8]; rfl) (by decide) ?_
      refine g_aload_n (pc := 107) 0 C0 rfl dX0_stair_107 rfl ?_
      refine g_iload_n (pc := 108) 1 C0 rfl dX0_stair_108 rfl ?_
      refine g_cviX (pc := 109) (na := 1) (As := [.int (nI r1)]) (rest := []) C0 hN (xX_climbers l D dT ad nS τ β  r1 hβ hw hp (by omega)) (q0 := 0) (j := 0) (ci := 1) (C := RX0) (T := TX0) (N := 14) (xCode (by omega)) rfl rfl q721 q723 qs11 q57 q724 (by decide +kernel) ⟨Nat.le_of_ble_eq_true rfl, Nat.le_of_ble_eq_true rfl⟩ rfl rfl ⟨Nat.le_of_ble_eq_true rfl, Nat.le_of_ble_eq_true rfl⟩ rfl rfl (Nat.le_of_ble_eq_true rfl) dX0_stair_109 (fun r β hc => ?_)
      obtain ⟨rfl, hβ⟩ := hc
      exact g_iret (pc := 112) C0 dX0_stair_112 ⟨by rw [pStair, if_pos h5, nI_clamp r1b, pStairN, if_neg hv18_0, if_neg hv18_1, if_neg hv18_2, if_neg hv18_3, if_neg hv18_4, if_neg hv18_5, if_neg hv18_6, if_neg hv18_7, if_pos hv18_8]; first | done | rfl, hβ⟩
  · refine g_ldc (pc := 8) (v := -1000000001) C0 q704 dX0_stair_8 ?_
    exact g_iret (pc := 10) C0 dX0_stair_10 ⟨by rw [pStair, h5]; rfl, hβ⟩
set_option maxHeartbeats 4000000 in
set_option maxRecDepth 100000 in
theorem xX_person (l : Launch) (D : va_G) (dT : Nat → ClassId) (ad : Nat → Nat) (nS : Nat) (τ β : tT)  (q : Int32) (w : Int32) (hβ : RX nS β τ) (hw : wfT τ) (hp : wfP τ) : XI l D dT ad nS yX0_person cX0_person 3 .int ({ frames := 6, cells := 0, slots := 0, locals := 183 }) [.ref (ad 0), .int q, .int w] β (fun rr β' => rr = (pPerson τ q w) ∧ RX nS β' τ) := by
  refine XI.ofG (own := "FittingStrides") (L := [some (.ref (ad 0)), some (.int q), some (.int w)]) rfl (by decide) (Nat.le_of_ble_eq_true rfl) rfl ?_
  intro p' e' s' m' bl' mt' c' C0 hN
  have hn := hβ.n
  have hn10 := hβ.n10
  have hw1 := hw.1
  have hw0 := hw.2.1
  have hp0 := hp.1
  have hp1 := hp.2.1
  refine g_aload_n (pc := 0) 0 C0 rfl dX0_person_0 rfl ?_
  refine g_iload_n (pc := 1) 1 C0 rfl dX0_person_1 rfl ?_
  refine g_cviX (pc := 2) (na := 1) (As := [.int q]) (rest := []) C0 hN (xX_isPerson l D dT ad nS τ β  q hβ (by omega)) (q0 := 0) (j := 0) (ci := 1) (C := RX0) (T := TX0) (N := 14) (xCode (by omega)) rfl rfl q751 q753 qs13 q57 q754 (by decide +kernel) ⟨Nat.le_of_ble_eq_true rfl, Nat.le_of_ble_eq_true rfl⟩ rfl rfl ⟨Nat.le_of_ble_eq_true rfl, Nat.le_of_ble_eq_true rfl⟩ rfl rfl (Nat.le_of_ble_eq_true rfl) dX0_person_2 (fun r β0 hc => ?_)
  obtain ⟨rfl, rfl⟩ := hc
  refine g_if_neB (pc := 5) 11 C0 dX0_person_5 (by decide) (fun h5 => ?_) (fun h5 => ?_)
  · obtain ⟨q1, rfl, q1h, q1b⟩ := ixB_t h5
    obtain ⟨g1, g2, g3, g4⟩ := hp.2.2 q1 q1h
    refine g_iload_n (pc := 11) 2 C0 rfl dX0_person_11 rfl ?_
    by_cases hs12 : w.toInt < 0 ∨ 3 < w.toInt
    · have hv12_0 : ¬ w = nI 0 := sw_out hs12 (by decide) (by decide)
      have hv12_1 : ¬ w = nI 1 := sw_out hs12 (by decide) (by decide)
      have hv12_2 : ¬ w = nI 2 := sw_out hs12 (by decide) (by decide)
      have hv12_3 : ¬ w = nI 3 := sw_out hs12 (by decide) (by decide)
      refine g_tableOut (pc := 12) 80 C0 dX0_person_12 hs12 (by decide) ?_
      refine g_ldc (pc := 80) (v := -1000000002) C0 q235 dX0_person_80 ?_
      exact g_iret (pc := 82) C0 dX0_person_82 ⟨by rw [pPerson, if_pos h5, nI_clamp q1b, pPersonN, if_neg hv12_0, if_neg hv12_1, if_neg hv12_2, if_neg hv12_3]; first | done | rfl, hβ⟩
    by_cases hv12_0 : w = nI 0
    · refine g_tableIn (pc := 12) 44 C0 dX0_person_12 (by omega) (by omega) (off := 32) (by rw [hv12_0]; rfl) (by decide) ?_
      refine g_aload_n (pc := 44) 0 C0 rfl dX0_person_44 rfl ?_
      refine g_get (pc := 45) (v := .ref (ad 1)) C0 (C := RX0) (T := TX0) (N := 14) (ci := 1) (q0 := 0) (j := 0) 1 (xCode (by omega)) rfl rfl in_X0 (by decide) q184 rfl dX0_person_45 ?_
      refine g_getN (pc := 48) (v := .ref (ad 5)) C0 hN (C := RX2) (T := TX2) (N := 10) (ci := 3) (q0 := 1) (j := 1) 0 (xCode (by omega)) rfl rfl in_X2 (by decide) q140 rfl dX0_person_48 ?_
      refine g_iload_n (pc := 51) 1 C0 rfl dX0_person_51 rfl ?_
      refine g_ialdV (pc := 52) (q0 := 5) (j := 5) (t0 := 0) (N := 8) (v := (τ 9 q1)) C0 q1 (xCode (by omega)) (fun _ => rfl) rfl (by decide) (by omega) (hβ.a5 (by omega)) dX0_person_52 ?_
      exact g_iret (pc := 53) C0 dX0_person_53 ⟨by rw [pPerson, if_pos h5, nI_clamp q1b, pPersonN, if_pos hv12_0]; first | done | rfl, hβ⟩
    have hn12_0 := sw_ne hv12_0 (by decide)
    by_cases hv12_1 : w = nI 1
    · refine g_tableIn (pc := 12) 54 C0 dX0_person_12 (by omega) (by omega) (off := 42) (by rw [hv12_1]; rfl) (by decide) ?_
      refine g_aload_n (pc := 54) 0 C0 rfl dX0_person_54 rfl ?_
      refine g_get (pc := 55) (v := .ref (ad 1)) C0 (C := RX0) (T := TX0) (N := 14) (ci := 1) (q0 := 0) (j := 0) 1 (xCode (by omega)) rfl rfl in_X0 (by decide) q184 rfl dX0_person_55 ?_
      refine g_getN (pc := 58) (v := .ref (ad 6)) C0 hN (C := RX2) (T := TX2) (N := 10) (ci := 3) (q0 := 1) (j := 1) 1 (xCode (by omega)) rfl rfl in_X2 (by decide) q142 rfl dX0_person_58 ?_
      refine g_iload_n (pc := 61) 1 C0 rfl dX0_person_61 rfl ?_
      refine g_ialdV (pc := 62) (q0 := 6) (j := 6) (t0 := 0) (N := 8) (v := (τ 10 q1)) C0 q1 (xCode (by omega)) (fun _ => rfl) rfl (by decide) (by omega) (hβ.a6 (by omega)) dX0_person_62 ?_
      exact g_iret (pc := 63) C0 dX0_person_63 ⟨by rw [pPerson, if_pos h5, nI_clamp q1b, pPersonN, if_neg hv12_0, if_pos hv12_1]; first | done | rfl, hβ⟩
    have hn12_1 := sw_ne hv12_1 (by decide)
    by_cases hv12_2 : w = nI 2
    · refine g_tableIn (pc := 12) 64 C0 dX0_person_12 (by omega) (by omega) (off := 52) (by rw [hv12_2]; rfl) (by decide) ?_
      refine g_aload_n (pc := 64) 0 C0 rfl dX0_person_64 rfl ?_
      refine g_get (pc := 65) (v := .ref (ad 1)) C0 (C := RX0) (T := TX0) (N := 14) (ci := 1) (q0 := 0) (j := 0) 1 (xCode (by omega)) rfl rfl in_X0 (by decide) q184 rfl dX0_person_65 ?_
      refine g_getN (pc := 68) (v := .ref (ad 7)) C0 hN (C := RX2) (T := TX2) (N := 10) (ci := 3) (q0 := 1) (j := 1) 2 (xCode (by omega)) rfl rfl in_X2 (by decide) q144 rfl dX0_person_68 ?_
      refine g_iload_n (pc := 71) 1 C0 rfl dX0_person_71 rfl ?_
      refine g_ialdV (pc := 72) (q0 := 7) (j := 7) (t0 := 0) (N := 8) (v := (τ 11 q1)) C0 q1 (xCode (by omega)) (fun _ => rfl) rfl (by decide) (by omega) (hβ.a7 (by omega)) dX0_person_72 ?_
      exact g_iret (pc := 73) C0 dX0_person_73 ⟨by rw [pPerson, if_pos h5, nI_clamp q1b, pPersonN, if_neg hv12_0, if_neg hv12_1, if_pos hv12_2]; first | done | rfl, hβ⟩
    have hn12_2 := sw_ne hv12_2 (by decide)
    have hv12_3 : w = nI 3 := sw_last (by omega) (by decide)
    · refine g_tableIn (pc := 12) 74 C0 dX0_person_12 (by omega) (by omega) (off := 62) (by rw [hv12_3]; rfl) (by decide) ?_
      refine g_aload_n (pc := 74) 0 C0 rfl dX0_person_74 rfl ?_
      refine g_iload_n (pc := 75) 1 C0 rfl dX0_person_75 rfl ?_
      refine g_cviX (pc := 76) (na := 1) (As := [.int (nI q1)]) (rest := []) C0 hN (xX_reachOfPerson l D dT ad nS τ β  q1 hβ hw hp (by omega)) (q0 := 0) (j := 0) (ci := 1) (C := RX0) (T := TX0) (N := 14) (xCode (by omega)) rfl rfl q755 q757 qs14 q57 q758 (by decide +kernel) ⟨Nat.le_of_ble_eq_true rfl, Nat.le_of_ble_eq_true rfl⟩ rfl rfl ⟨Nat.le_of_ble_eq_true rfl, Nat.le_of_ble_eq_true rfl⟩ rfl rfl (Nat.le_of_ble_eq_true rfl) dX0_person_76 (fun r β hc => ?_)
      obtain ⟨rfl, hβ, he⟩ := hc
      exact g_iret (pc := 79) C0 dX0_person_79 ⟨by rw [pPerson, if_pos h5, nI_clamp q1b, pPersonN, if_neg hv12_0, if_neg hv12_1, if_neg hv12_2, if_pos hv12_3]; first | done | rfl, hβ⟩
  · refine g_ldc (pc := 8) (v := -1000000001) C0 q704 dX0_person_8 ?_
    exact g_iret (pc := 10) C0 dX0_person_10 ⟨by rw [pPerson, h5]; rfl, hβ⟩
set_option maxHeartbeats 4000000 in
set_option maxRecDepth 100000 in
theorem xX_fit (l : Launch) (D : va_G) (dT : Nat → ClassId) (ad : Nat → Nat) (nS : Nat) (τ β : tT)  (r : Int32) (z : Int32) (hβ : RX nS β τ) (hw : wfT τ) : XI l D dT ad nS yX0_fit cX0_fit 3 .int ({ frames := 2, cells := 0, slots := 0, locals := 86 }) [.ref (ad 0), .int r, .int z] β (fun rr β' => rr = (pFit τ r z) ∧ RX nS β' τ) := by
  refine XI.ofG (own := "FittingStrides") (L := [some (.ref (ad 0)), some (.int r), some (.int z)]) rfl (by decide) (Nat.le_of_ble_eq_true rfl) rfl ?_
  intro p' e' s' m' bl' mt' c' C0 hN
  have hn := hβ.n
  have hn10 := hβ.n10
  have hw1 := hw.1
  refine g_aload_n (pc := 0) 0 C0 rfl dX0_fit_0 rfl ?_
  refine g_iload_n (pc := 1) 1 C0 rfl dX0_fit_1 rfl ?_
  refine g_cviX (pc := 2) (na := 1) (As := [.int r]) (rest := []) C0 hN (xX_isStair l D dT ad nS τ β  r hβ (by omega)) (q0 := 0) (j := 0) (ci := 1) (C := RX0) (T := TX0) (N := 14) (xCode (by omega)) rfl rfl q700 q702 qs9 q57 q703 (by decide +kernel) ⟨Nat.le_of_ble_eq_true rfl, Nat.le_of_ble_eq_true rfl⟩ rfl rfl ⟨Nat.le_of_ble_eq_true rfl, Nat.le_of_ble_eq_true rfl⟩ rfl rfl (Nat.le_of_ble_eq_true rfl) dX0_fit_2 (fun r β0 hc => ?_)
  obtain ⟨rfl, rfl⟩ := hc
  refine g_if_neB (pc := 5) 11 C0 dX0_fit_5 (by decide) (fun h5 => ?_) (fun h5 => ?_)
  · obtain ⟨r1, rfl, r1h, r1b⟩ := ixB_t h5
    refine g_iload_n (pc := 11) 2 C0 rfl dX0_fit_11 rfl ?_
    refine g_iconst (pc := 12) (v := (nI 1)) C0 dX0_fit_12 (by decide) ?_
    refine g_bipush (pc := 13) (v := (nI 24)) C0 dX0_fit_13 (by decide) ?_
    refine g_csi (pc := 15) (na := 3) (As := [.int z, .int (nI 1), .int (nI 24)]) (rest := []) C0 (xX_isIn l z (nI 1) (nI 24) ) q232 q233 q57 q234 (by decide +kernel) ⟨Nat.le_of_ble_eq_true rfl, Nat.le_of_ble_eq_true rfl⟩ rfl rfl ⟨Nat.le_of_ble_eq_true rfl, Nat.le_of_ble_eq_true rfl⟩ rfl rfl (Nat.le_of_ble_eq_true rfl) dX0_fit_15 ?_
    refine g_if_neB (pc := 18) 26 C0 dX0_fit_18 (by decide) (fun h18 => ?_) (fun h18 => ?_)
    · rw [isInB_rg z (lo := 1) (hi := 24) (by decide) (by decide)] at h18
      obtain ⟨z1, rfl, z1l, z1h, z1b⟩ := rgB_t h18
      refine g_aload_n (pc := 26) 0 C0 rfl dX0_fit_26 rfl ?_
      refine g_iload_n (pc := 27) 1 C0 rfl dX0_fit_27 rfl ?_
      refine g_cvrX (pc := 28) (na := 1) (As := [.int (nI r1)]) (rest := []) C0 hN (xX_at l D dT ad nS τ β  r1 hβ hw (by omega)) (q0 := 0) (j := 0) (ci := 1) (C := RX0) (T := TX0) (N := 14) (xCode (by omega)) rfl rfl q705 q707 qs10 q57 q708 (by decide +kernel) ⟨Nat.le_of_ble_eq_true rfl, Nat.le_of_ble_eq_true rfl⟩ rfl rfl ⟨Nat.le_of_ble_eq_true rfl, Nat.le_of_ble_eq_true rfl⟩ rfl rfl (Nat.le_of_ble_eq_true rfl) dX0_fit_28 (fun β hc => ?_)
      obtain ⟨hβ, hs, he⟩ := hc
      refine g_iload_n (pc := 31) 2 C0 rfl dX0_fit_31 rfl ?_
      refine g_stU (pc := 32) (r := r1) (na := 1) (As := [.int (nI z1)]) (rest := []) C0 hN hβ (by omega) (hw.2.2 r1 (by omega)).1 (xS_fits l D dT ad nS τ β r1 z1 hβ hw (by omega) hs (by omega) (by omega)) q729 q732 q731 q734 q733 q730 q75 q735 (by decide +kernel) ⟨Nat.le_of_ble_eq_true rfl, Nat.le_of_ble_eq_true rfl⟩ rfl rfl ⟨Nat.le_of_ble_eq_true rfl, Nat.le_of_ble_eq_true rfl⟩ rfl rfl (Nat.le_of_ble_eq_true rfl) dX0_fit_32 (fun r β0 hc => ?_)
      obtain ⟨rfl, rfl⟩ := hc
      refine g_if_eqB (pc := 35) 42 C0 dX0_fit_35 (by decide) (fun h35 => ?_) (fun h35 => ?_)
      · refine g_iconst (pc := 42) (v := (nI 0)) C0 dX0_fit_42 (by decide) ?_
        exact g_iret (pc := 43) C0 dX0_fit_43 ⟨by rw [pFit, if_pos h5, if_pos h18, nI_clamp r1b, nI_clamp z1b, h35]; rfl, hβ⟩
      · refine g_iconst (pc := 38) (v := (nI 1)) C0 dX0_fit_38 (by decide) ?_
        refine g_goto (pc := 39) 43 C0 dX0_fit_39 (by decide) ?_
        exact g_iret (pc := 43) C0 dX0_fit_43 ⟨by rw [pFit, if_pos h5, if_pos h18, nI_clamp r1b, nI_clamp z1b, h35]; rfl, hβ⟩
    · rw [isInB_rg z (lo := 1) (hi := 24) (by decide) (by decide)] at h18
      refine g_ldc (pc := 21) (v := -1000000002) C0 q235 dX0_fit_21 ?_
      refine g_goto (pc := 23) 43 C0 dX0_fit_23 (by decide) ?_
      exact g_iret (pc := 43) C0 dX0_fit_43 ⟨by rw [pFit, if_pos h5, h18]; rfl, hβ⟩
  · refine g_ldc (pc := 8) (v := -1000000001) C0 q704 dX0_fit_8 ?_
    exact g_iret (pc := 10) C0 dX0_fit_10 ⟨by rw [pFit, h5]; rfl, hβ⟩
set_option maxHeartbeats 4000000 in
set_option maxRecDepth 100000 in
theorem xX_canGo (l : Launch) (D : va_G) (dT : Nat → ClassId) (ad : Nat → Nat) (nS : Nat) (τ β : tT)  (q : Nat) (r : Nat) (hβ : RX nS β τ) (hw : wfT τ) (hp : wfP τ) (hq : q < τ 0 8) (hr : r < nS) : XI l D dT ad nS yX0_canGo cX0_canGo 3 .boolean ({ frames := 4, cells := 0, slots := 0, locals := 135 }) [.ref (ad 0), .int (nI q), .int (nI r)] β (fun rr β' => rr = (nI (bN (sCan τ q r))) ∧ RX nS β' τ) := by
  refine XI.ofG (own := "FittingStrides") (L := [some (.ref (ad 0)), some (.int (nI q)), some (.int (nI r))]) rfl (by decide) (Nat.le_of_ble_eq_true rfl) rfl ?_
  intro p' e' s' m' bl' mt' c' C0 hN
  have hn := hβ.n
  have hn10 := hβ.n10
  have hw1 := hw.1
  have hw0 := hw.2.1
  have hp0 := hp.1
  have hp1 := hp.2.1
  obtain ⟨g1, g2, g3, g4⟩ := hp.2.2 q hq
  refine g_aload_n (pc := 0) 0 C0 rfl dX0_canGo_0 rfl ?_
  refine g_iload_n (pc := 1) 2 C0 rfl dX0_canGo_1 rfl ?_
  refine g_aload_n (pc := 2) 0 C0 rfl dX0_canGo_2 rfl ?_
  refine g_get (pc := 3) (v := .ref (ad 1)) C0 (C := RX0) (T := TX0) (N := 14) (ci := 1) (q0 := 0) (j := 0) 1 (xCode (by omega)) rfl rfl in_X0 (by decide) q184 rfl dX0_canGo_3 ?_
  refine g_getN (pc := 6) (v := .ref (ad 5)) C0 hN (C := RX2) (T := TX2) (N := 10) (ci := 3) (q0 := 1) (j := 1) 0 (xCode (by omega)) rfl rfl in_X2 (by decide) q140 rfl dX0_canGo_6 ?_
  refine g_iload_n (pc := 9) 1 C0 rfl dX0_canGo_9 rfl ?_
  refine g_ialdV (pc := 10) (q0 := 5) (j := 5) (t0 := 0) (N := 8) (v := (τ 9 q)) C0 q (xCode (by omega)) (fun _ => rfl) rfl (by decide) (by omega) (hβ.a5 (by omega)) dX0_canGo_10 ?_
  refine g_aload_n (pc := 11) 0 C0 rfl dX0_canGo_11 rfl ?_
  refine g_get (pc := 12) (v := .ref (ad 1)) C0 (C := RX0) (T := TX0) (N := 14) (ci := 1) (q0 := 0) (j := 0) 1 (xCode (by omega)) rfl rfl in_X0 (by decide) q184 rfl dX0_canGo_12 ?_
  refine g_getN (pc := 15) (v := .ref (ad 6)) C0 hN (C := RX2) (T := TX2) (N := 10) (ci := 3) (q0 := 1) (j := 1) 1 (xCode (by omega)) rfl rfl in_X2 (by decide) q142 rfl dX0_canGo_15 ?_
  refine g_iload_n (pc := 18) 1 C0 rfl dX0_canGo_18 rfl ?_
  refine g_ialdV (pc := 19) (q0 := 6) (j := 6) (t0 := 0) (N := 8) (v := (τ 10 q)) C0 q (xCode (by omega)) (fun _ => rfl) rfl (by decide) (by omega) (hβ.a6 (by omega)) dX0_canGo_19 ?_
  refine g_aload_n (pc := 20) 0 C0 rfl dX0_canGo_20 rfl ?_
  refine g_get (pc := 21) (v := .ref (ad 1)) C0 (C := RX0) (T := TX0) (N := 14) (ci := 1) (q0 := 0) (j := 0) 1 (xCode (by omega)) rfl rfl in_X0 (by decide) q184 rfl dX0_canGo_21 ?_
  refine g_getN (pc := 24) (v := .ref (ad 7)) C0 hN (C := RX2) (T := TX2) (N := 10) (ci := 3) (q0 := 1) (j := 1) 2 (xCode (by omega)) rfl rfl in_X2 (by decide) q144 rfl dX0_canGo_24 ?_
  refine g_iload_n (pc := 27) 1 C0 rfl dX0_canGo_27 rfl ?_
  refine g_ialdV (pc := 28) (q0 := 7) (j := 7) (t0 := 0) (N := 8) (v := (τ 11 q)) C0 q (xCode (by omega)) (fun _ => rfl) rfl (by decide) (by omega) (hβ.a7 (by omega)) dX0_canGo_28 ?_
  refine g_cviX (pc := 29) (na := 4) (As := [.int (nI r), .int (nI (τ 9 q)), .int (nI (τ 10 q)), .int (nI (τ 11 q))]) (rest := []) C0 hN (xX_mayGo l D dT ad nS τ β  r (τ 9 q) (τ 10 q) (τ 11 q) hβ hw hp (by omega) (by omega) (by omega) (by omega) (by omega)) (q0 := 0) (j := 0) (ci := 1) (C := RX0) (T := TX0) (N := 14) (xCode (by omega)) rfl rfl q766 q768 qs16 q57 q769 (by decide +kernel) ⟨Nat.le_of_ble_eq_true rfl, Nat.le_of_ble_eq_true rfl⟩ rfl rfl ⟨Nat.le_of_ble_eq_true rfl, Nat.le_of_ble_eq_true rfl⟩ rfl rfl (Nat.le_of_ble_eq_true rfl) dX0_canGo_29 (fun r β hc => ?_)
  obtain ⟨rfl, hβ, he⟩ := hc
  exact g_zret (pc := 32) C0 dX0_canGo_32 (nar_bN _) ⟨by rw [mgS_can], hβ⟩
set_option maxHeartbeats 4000000 in
set_option maxRecDepth 100000 in
theorem xX_strideFor (l : Launch) (D : va_G) (dT : Nat → ClassId) (ad : Nat → Nat) (nS : Nat) (τ β : tT)  (q : Nat) (r : Nat) (hβ : RX nS β τ) (hw : wfT τ) (hp : wfP τ) (hq : q < τ 0 8) (hr : r < nS) : XI l D dT ad nS yX0_strideFor cX0_strideFor 7 .int ({ frames := 2, cells := 0, slots := 0, locals := 86 }) [.ref (ad 0), .int (nI q), .int (nI r)] β (fun rr β' => rr = nI (goStride τ q r) ∧ RX nS β' τ ∧ ∀ i, i < 3 → β' (90 + 2 * r + 1) i = stp τ r i) := by
  refine XI.ofG (own := "FittingStrides") (L := [some (.ref (ad 0)), some (.int (nI q)), some (.int (nI r)), none, none, none, none]) rfl (by decide) (Nat.le_of_ble_eq_true rfl) rfl ?_
  intro p' e' s' m' bl' mt' c' C0 hN
  have hn := hβ.n
  have hn10 := hβ.n10
  have hw1 := hw.1
  have hw0 := hw.2.1
  have hp0 := hp.1
  have hp1 := hp.2.1
  obtain ⟨g1, g2, g3, g4⟩ := hp.2.2 q hq
  refine g_aload_n (pc := 0) 0 C0 rfl dX0_strideFor_0 rfl ?_
  refine g_iload_n (pc := 1) 2 C0 rfl dX0_strideFor_1 rfl ?_
  refine g_cvrX (pc := 2) (na := 1) (As := [.int (nI r)]) (rest := []) C0 hN (xX_at l D dT ad nS τ β  r hβ hw (by omega)) (q0 := 0) (j := 0) (ci := 1) (C := RX0) (T := TX0) (N := 14) (xCode (by omega)) rfl rfl q705 q707 qs10 q57 q708 (by decide +kernel) ⟨Nat.le_of_ble_eq_true rfl, Nat.le_of_ble_eq_true rfl⟩ rfl rfl ⟨Nat.le_of_ble_eq_true rfl, Nat.le_of_ble_eq_true rfl⟩ rfl rfl (Nat.le_of_ble_eq_true rfl) dX0_strideFor_2 (fun β hc => ?_)
  obtain ⟨hβ, hs, he⟩ := hc
  refine g_astore_n (pc := 5) 3 C0 (L1 := [some (.ref (ad 0)), some (.int (nI q)), some (.int (nI r)), some (.ref (ad (90 + 2 * r))), none, none, none]) rfl (by decide) dX0_strideFor_5 rfl rfl ?_
  refine G.join (pcJ := 35) (wsJ := xW dT ad nS β) (LJ := [some (.ref (ad 0)), some (.int (nI q)), some (.int (nI r)), some (.ref (ad (90 + 2 * r))), none, none, none]) (stJ := []) (nI (gsA τ q r)) ?_ (fun J35 => ?_)
  · have hA : gsA τ q r ≤ 24 := by unfold gsA; split <;> omega
    refine g_istore (pc := 35) 4 C0 (L1 := [some (.ref (ad 0)), some (.int (nI q)), some (.int (nI r)), some (.ref (ad (90 + 2 * r))), some (.int (nI (gsA τ q r))), none, none]) rfl (by decide) dX0_strideFor_35 rfl ?_
    refine G.join (pcJ := 78) (wsJ := xW dT ad nS β) (LJ := [some (.ref (ad 0)), some (.int (nI q)), some (.int (nI r)), some (.ref (ad (90 + 2 * r))), some (.int (nI (gsA τ q r))), none, none]) (stJ := []) (nI (gsB τ q r)) ?_ (fun J78 => ?_)
    · have hB : gsB τ q r ≤ 24 := by unfold gsB; split <;> omega
      refine g_istore (pc := 78) 5 C0 (L1 := [some (.ref (ad 0)), some (.int (nI q)), some (.int (nI r)), some (.ref (ad (90 + 2 * r))), some (.int (nI (gsA τ q r))), some (.int (nI (gsB τ q r))), none]) rfl (by decide) dX0_strideFor_78 rfl ?_
      refine g_iload (pc := 80) 4 C0 rfl dX0_strideFor_80 ?_
      refine g_iload (pc := 82) 5 C0 rfl dX0_strideFor_82 ?_
      refine g_mmax (pc := 84) C0 (by omega) (by omega) q798 q329 q67 q330 (Nat.le_of_ble_eq_true rfl) (Nat.le_of_ble_eq_true rfl) ⟨Nat.le_of_ble_eq_true rfl, Nat.le_of_ble_eq_true rfl⟩ dX0_strideFor_84 ?_
      refine g_istore (pc := 87) 6 C0 (L1 := [some (.ref (ad 0)), some (.int (nI q)), some (.int (nI r)), some (.ref (ad (90 + 2 * r))), some (.int (nI (gsA τ q r))), some (.int (nI (gsB τ q r))), some (.int (nI (max (gsA τ q r) (gsB τ q r))))]) rfl (by decide) dX0_strideFor_87 rfl ?_
      refine g_iload (pc := 89) 6 C0 rfl dX0_strideFor_89 ?_
      refine g_if_neN (pc := 91) 106 C0 (by omega) dX0_strideFor_91 (by decide) (fun h91 => ?_) (fun h91 => ?_)
      · refine g_iload (pc := 106) 6 C0 rfl dX0_strideFor_106 ?_
        exact g_iret (pc := 108) C0 dX0_strideFor_108 ⟨congrArg nI (((if_neg h91).symm).trans (gs_eq g2)), hβ, hs⟩
      · refine g_aload_n (pc := 94) 0 C0 rfl dX0_strideFor_94 rfl ?_
        refine g_get (pc := 95) (v := .ref (ad 1)) C0 (C := RX0) (T := TX0) (N := 14) (ci := 1) (q0 := 0) (j := 0) 1 (xCode (by omega)) rfl rfl in_X0 (by decide) q184 rfl dX0_strideFor_95 ?_
        refine g_getN (pc := 98) (v := .ref (ad 6)) C0 hN (C := RX2) (T := TX2) (N := 10) (ci := 3) (q0 := 1) (j := 1) 1 (xCode (by omega)) rfl rfl in_X2 (by decide) q142 rfl dX0_strideFor_98 ?_
        refine g_iload_n (pc := 101) 1 C0 rfl dX0_strideFor_101 rfl ?_
        refine g_ialdV (pc := 102) (q0 := 6) (j := 6) (t0 := 0) (N := 8) (v := (τ 10 q)) C0 q (xCode (by omega)) (fun _ => rfl) rfl (by decide) (by omega) (hβ.a6 (by omega)) dX0_strideFor_102 ?_
        refine g_goto (pc := 103) 108 C0 dX0_strideFor_103 (by decide) ?_
        exact g_iret (pc := 108) C0 dX0_strideFor_108 ⟨congrArg nI (((if_pos h91).symm).trans (gs_eq g2)), hβ, hs⟩
    · refine g_aload_n (pc := 37) 0 C0 rfl dX0_strideFor_37 rfl ?_
      refine g_get (pc := 38) (v := .ref (ad 1)) C0 (C := RX0) (T := TX0) (N := 14) (ci := 1) (q0 := 0) (j := 0) 1 (xCode (by omega)) rfl rfl in_X0 (by decide) q184 rfl dX0_strideFor_38 ?_
      refine g_getN (pc := 41) (v := .ref (ad 7)) C0 hN (C := RX2) (T := TX2) (N := 10) (ci := 3) (q0 := 1) (j := 1) 2 (xCode (by omega)) rfl rfl in_X2 (by decide) q144 rfl dX0_strideFor_41 ?_
      refine g_iload_n (pc := 44) 1 C0 rfl dX0_strideFor_44 rfl ?_
      refine g_ialdV (pc := 45) (q0 := 7) (j := 7) (t0 := 0) (N := 8) (v := (τ 11 q)) C0 q (xCode (by omega)) (fun _ => rfl) rfl (by decide) (by omega) (hβ.a7 (by omega)) dX0_strideFor_45 ?_
      refine g_if_leN (pc := 46) 77 C0 (by omega) dX0_strideFor_46 (by decide) (fun h46 => ?_) (fun h46 => ?_)
      · refine g_iconst (pc := 77) (v := (nI 0)) C0 dX0_strideFor_77 (by decide) ?_
        exact J78 (nI 0) (congrArg nI (by simp [gsB, sFit_0, h46]))
      · refine g_aload_n (pc := 49) 3 C0 rfl dX0_strideFor_49 rfl ?_
        refine g_aload_n (pc := 50) 0 C0 rfl dX0_strideFor_50 rfl ?_
        refine g_get (pc := 51) (v := .ref (ad 1)) C0 (C := RX0) (T := TX0) (N := 14) (ci := 1) (q0 := 0) (j := 0) 1 (xCode (by omega)) rfl rfl in_X0 (by decide) q184 rfl dX0_strideFor_51 ?_
        refine g_getN (pc := 54) (v := .ref (ad 7)) C0 hN (C := RX2) (T := TX2) (N := 10) (ci := 3) (q0 := 1) (j := 1) 2 (xCode (by omega)) rfl rfl in_X2 (by decide) q144 rfl dX0_strideFor_54 ?_
        refine g_iload_n (pc := 57) 1 C0 rfl dX0_strideFor_57 rfl ?_
        refine g_ialdV (pc := 58) (q0 := 7) (j := 7) (t0 := 0) (N := 8) (v := (τ 11 q)) C0 q (xCode (by omega)) (fun _ => rfl) rfl (by decide) (by omega) (hβ.a7 (by omega)) dX0_strideFor_58 ?_
        refine g_stU (pc := 59) (r := r) (na := 1) (As := [.int (nI (τ 11 q))]) (rest := []) C0 hN hβ (by omega) (hw.2.2 r (by omega)).1 (xS_fits l D dT ad nS τ β r (τ 11 q) hβ hw (by omega) hs (by omega) (by omega)) q729 q732 q731 q734 q733 q730 q75 q735 (by decide +kernel) ⟨Nat.le_of_ble_eq_true rfl, Nat.le_of_ble_eq_true rfl⟩ rfl rfl ⟨Nat.le_of_ble_eq_true rfl, Nat.le_of_ble_eq_true rfl⟩ rfl rfl (Nat.le_of_ble_eq_true rfl) dX0_strideFor_59 (fun r β0 hc => ?_)
        obtain ⟨rfl, rfl⟩ := hc
        refine g_if_eqB (pc := 62) 77 C0 dX0_strideFor_62 (by decide) (fun h62 => ?_) (fun h62 => ?_)
        · refine g_iconst (pc := 77) (v := (nI 0)) C0 dX0_strideFor_77 (by decide) ?_
          exact J78 (nI 0) (congrArg nI (by simp [gsB, sFit_0, h46, h62]))
        · refine g_aload_n (pc := 65) 0 C0 rfl dX0_strideFor_65 rfl ?_
          refine g_get (pc := 66) (v := .ref (ad 1)) C0 (C := RX0) (T := TX0) (N := 14) (ci := 1) (q0 := 0) (j := 0) 1 (xCode (by omega)) rfl rfl in_X0 (by decide) q184 rfl dX0_strideFor_66 ?_
          refine g_getN (pc := 69) (v := .ref (ad 7)) C0 hN (C := RX2) (T := TX2) (N := 10) (ci := 3) (q0 := 1) (j := 1) 2 (xCode (by omega)) rfl rfl in_X2 (by decide) q144 rfl dX0_strideFor_69 ?_
          refine g_iload_n (pc := 72) 1 C0 rfl dX0_strideFor_72 rfl ?_
          refine g_ialdV (pc := 73) (q0 := 7) (j := 7) (t0 := 0) (N := 8) (v := (τ 11 q)) C0 q (xCode (by omega)) (fun _ => rfl) rfl (by decide) (by omega) (hβ.a7 (by omega)) dX0_strideFor_73 ?_
          refine g_goto (pc := 74) 78 C0 dX0_strideFor_74 (by decide) ?_
          exact J78 (nI (τ 11 q)) (congrArg nI (by simp [gsB, sFit_0, h46, h62]))
  · refine g_aload_n (pc := 6) 3 C0 rfl dX0_strideFor_6 rfl ?_
    refine g_aload_n (pc := 7) 0 C0 rfl dX0_strideFor_7 rfl ?_
    refine g_get (pc := 8) (v := .ref (ad 1)) C0 (C := RX0) (T := TX0) (N := 14) (ci := 1) (q0 := 0) (j := 0) 1 (xCode (by omega)) rfl rfl in_X0 (by decide) q184 rfl dX0_strideFor_8 ?_
    refine g_getN (pc := 11) (v := .ref (ad 6)) C0 hN (C := RX2) (T := TX2) (N := 10) (ci := 3) (q0 := 1) (j := 1) 1 (xCode (by omega)) rfl rfl in_X2 (by decide) q142 rfl dX0_strideFor_11 ?_
    refine g_iload_n (pc := 14) 1 C0 rfl dX0_strideFor_14 rfl ?_
    refine g_ialdV (pc := 15) (q0 := 6) (j := 6) (t0 := 0) (N := 8) (v := (τ 10 q)) C0 q (xCode (by omega)) (fun _ => rfl) rfl (by decide) (by omega) (hβ.a6 (by omega)) dX0_strideFor_15 ?_
    refine g_stU (pc := 16) (r := r) (na := 1) (As := [.int (nI (τ 10 q))]) (rest := []) C0 hN hβ (by omega) (hw.2.2 r (by omega)).1 (xS_fits l D dT ad nS τ β r (τ 10 q) hβ hw (by omega) hs (by omega) (by omega)) q729 q732 q731 q734 q733 q730 q75 q735 (by decide +kernel) ⟨Nat.le_of_ble_eq_true rfl, Nat.le_of_ble_eq_true rfl⟩ rfl rfl ⟨Nat.le_of_ble_eq_true rfl, Nat.le_of_ble_eq_true rfl⟩ rfl rfl (Nat.le_of_ble_eq_true rfl) dX0_strideFor_16 (fun r β0 hc => ?_)
    obtain ⟨rfl, rfl⟩ := hc
    refine g_if_eqB (pc := 19) 34 C0 dX0_strideFor_19 (by decide) (fun h19 => ?_) (fun h19 => ?_)
    · refine g_iconst (pc := 34) (v := (nI 0)) C0 dX0_strideFor_34 (by decide) ?_
      exact J35 (nI 0) (congrArg nI (by simp [gsA, h19]))
    · refine g_aload_n (pc := 22) 0 C0 rfl dX0_strideFor_22 rfl ?_
      refine g_get (pc := 23) (v := .ref (ad 1)) C0 (C := RX0) (T := TX0) (N := 14) (ci := 1) (q0 := 0) (j := 0) 1 (xCode (by omega)) rfl rfl in_X0 (by decide) q184 rfl dX0_strideFor_23 ?_
      refine g_getN (pc := 26) (v := .ref (ad 6)) C0 hN (C := RX2) (T := TX2) (N := 10) (ci := 3) (q0 := 1) (j := 1) 1 (xCode (by omega)) rfl rfl in_X2 (by decide) q142 rfl dX0_strideFor_26 ?_
      refine g_iload_n (pc := 29) 1 C0 rfl dX0_strideFor_29 rfl ?_
      refine g_ialdV (pc := 30) (q0 := 6) (j := 6) (t0 := 0) (N := 8) (v := (τ 10 q)) C0 q (xCode (by omega)) (fun _ => rfl) rfl (by decide) (by omega) (hβ.a6 (by omega)) dX0_strideFor_30 ?_
      refine g_goto (pc := 31) 35 C0 dX0_strideFor_31 (by decide) ?_
      exact J35 (nI (τ 10 q)) (congrArg nI (by simp [gsA, h19]))
set_option maxHeartbeats 4000000 in
set_option maxRecDepth 100000 in
theorem xX_goNow (l : Launch) (D : va_G) (dT : Nat → ClassId) (ad : Nat → Nat) (nS : Nat) (τ β : tT)  (q : Nat) (r : Nat) (hβ : RX nS β τ) (hw : wfT τ) (hp : wfP τ) (hq : q < τ 0 8) (hr : r < nS) (hc : sCan τ q r = true) : XV l D dT ad nS yX0_goNow cX0_goNow 3 ({ frames := 3, cells := 0, slots := 0, locals := 112 }) [.ref (ad 0), .int (nI q), .int (nI r)] β (fun β' => RX nS β' (goT τ q r)) := by
  refine XV.ofG (own := "FittingStrides") (L := [some (.ref (ad 0)), some (.int (nI q)), some (.int (nI r))]) rfl (by decide) (Nat.le_of_ble_eq_true rfl) rfl ?_
  intro p' e' s' m' bl' mt' c' C0 hN
  have hn := hβ.n
  have hn10 := hβ.n10
  have hw1 := hw.1
  have hw0 := hw.2.1
  have hp0 := hp.1
  have hp1 := hp.2.1
  obtain ⟨g1, g2, g3, g4⟩ := hp.2.2 q hq
  obtain ⟨z1, z2⟩ := goStride_ok hp hq (r := r)
  have hgo := oth_go hc
  have hcc := hc
  refine g_aload_n (pc := 0) 0 C0 rfl dX0_goNow_0 rfl ?_
  refine g_get (pc := 1) (v := .ref (ad 1)) C0 (C := RX0) (T := TX0) (N := 14) (ci := 1) (q0 := 0) (j := 0) 1 (xCode (by omega)) rfl rfl in_X0 (by decide) q184 rfl dX0_goNow_1 ?_
  refine g_getN (pc := 4) (v := .ref (ad 8)) C0 hN (C := RX2) (T := TX2) (N := 10) (ci := 3) (q0 := 1) (j := 1) 5 (xCode (by omega)) rfl rfl in_X2 (by decide) q150 rfl dX0_goNow_4 ?_
  refine g_iload_n (pc := 7) 2 C0 rfl dX0_goNow_7 rfl ?_
  refine g_dup2 (pc := 8) C0 dX0_goNow_8 rfl rfl ?_
  refine g_ialdV (pc := 9) (q0 := 8) (j := 8) (t0 := 0) (N := 10) (v := (τ 7 r)) C0 r (xCode (by omega)) (fun _ => rfl) rfl (by decide) (by omega) (hβ.a8 (by omega)) dX0_goNow_9 ?_
  refine g_aload_n (pc := 10) 0 C0 rfl dX0_goNow_10 rfl ?_
  refine g_iload_n (pc := 11) 2 C0 rfl dX0_goNow_11 rfl ?_
  refine g_cvrX (pc := 12) (na := 1) (As := [.int (nI r)]) (rest := [.int (nI (τ 7 r)), .int (nI r), .ref (ad 8)]) C0 hN (xX_at l D dT ad nS τ β  r hβ hw (by omega)) (q0 := 0) (j := 0) (ci := 1) (C := RX0) (T := TX0) (N := 14) (xCode (by omega)) rfl rfl q705 q707 qs10 q57 q708 (by decide +kernel) ⟨Nat.le_of_ble_eq_true rfl, Nat.le_of_ble_eq_true rfl⟩ rfl rfl ⟨Nat.le_of_ble_eq_true rfl, Nat.le_of_ble_eq_true rfl⟩ rfl rfl (Nat.le_of_ble_eq_true rfl) dX0_goNow_12 (fun β hc => ?_)
  obtain ⟨hβ, hs, he⟩ := hc
  refine g_aload_n (pc := 15) 0 C0 rfl dX0_goNow_15 rfl ?_
  refine g_iload_n (pc := 16) 1 C0 rfl dX0_goNow_16 rfl ?_
  refine g_iload_n (pc := 17) 2 C0 rfl dX0_goNow_17 rfl ?_
  refine g_cviX (pc := 18) (na := 2) (As := [.int (nI q), .int (nI r)]) (rest := [.ref (ad (90 + 2 * r)), .int (nI (τ 7 r)), .int (nI r), .ref (ad 8)]) C0 hN (xX_strideFor l D dT ad nS τ β  q r hβ hw hp (by omega) (by omega)) (q0 := 0) (j := 0) (ci := 1) (C := RX0) (T := TX0) (N := 14) (xCode (by omega)) rfl rfl q794 q796 qs19 q57 q797 (by decide +kernel) ⟨Nat.le_of_ble_eq_true rfl, Nat.le_of_ble_eq_true rfl⟩ rfl rfl ⟨Nat.le_of_ble_eq_true rfl, Nat.le_of_ble_eq_true rfl⟩ rfl rfl (Nat.le_of_ble_eq_true rfl) dX0_goNow_18 (fun r β hc => ?_)
  obtain ⟨rfl, hβ, hs⟩ := hc
  refine g_stU (pc := 21) (r := r) (na := 1) (As := [.int (nI (goStride τ q r))]) (rest := [.int (nI (τ 7 r)), .int (nI r), .ref (ad 8)]) C0 hN hβ (by omega) (hw.2.2 r (by omega)).1 (xS_taken l D dT ad nS τ β r (goStride τ q r) hβ hw (by omega) hs (by omega) (by omega)) q799 q802 q801 q804 q803 q800 q75 q805 (by decide +kernel) ⟨Nat.le_of_ble_eq_true rfl, Nat.le_of_ble_eq_true rfl⟩ rfl rfl ⟨Nat.le_of_ble_eq_true rfl, Nat.le_of_ble_eq_true rfl⟩ rfl rfl (Nat.le_of_ble_eq_true rfl) dX0_goNow_21 (fun r β0 hc => ?_)
  obtain ⟨rfl, rfl⟩ := hc
  refine g_iaddN (pc := 24) C0  dX0_goNow_24 ?_
  refine g_iast (pc := 25) (q0 := 8) (j := 8) (t0 := 0) (N := 10) C0 r ((τ 7 r) + (wearS τ r (goStride τ q r))) (xNd hβ.n10) (xCode (by omega)) (fun _ => rfl) rfl (by decide) (by omega) dX0_goNow_25 ?_
  refine G.nmX (Φ := fun β => RX nS β (upc τ 7 r ((τ 7 r) + (wearS τ r (goStride τ q r))))) (wsf := fun β => xW dT ad nS β) (hβ.w8 _ _) (fun β hβ => ?_)
  refine g_aload_n (pc := 26) 0 C0 rfl dX0_goNow_26 rfl ?_
  refine g_get (pc := 27) (v := .ref (ad 1)) C0 (C := RX0) (T := TX0) (N := 14) (ci := 1) (q0 := 0) (j := 0) 1 (xCode (by omega)) rfl rfl in_X0 (by decide) q184 rfl dX0_goNow_27 ?_
  refine g_getN (pc := 30) (v := .ref (ad 5)) C0 hN (C := RX2) (T := TX2) (N := 10) (ci := 3) (q0 := 1) (j := 1) 0 (xCode (by omega)) rfl rfl in_X2 (by decide) q140 rfl dX0_goNow_30 ?_
  refine g_iload_n (pc := 33) 1 C0 rfl dX0_goNow_33 rfl ?_
  refine g_aload_n (pc := 34) 0 C0 rfl dX0_goNow_34 rfl ?_
  refine g_get (pc := 35) (v := .ref (ad 4)) C0 (C := RX0) (T := TX0) (N := 14) (ci := 1) (q0 := 0) (j := 0) 0 (xCode (by omega)) rfl rfl in_X0 (by decide) q183 rfl dX0_goNow_35 ?_
  refine g_getN (pc := 38) (v := .ref (ad 17)) C0 hN (C := RX1) (T := TX1) (N := 7) (ci := 2) (q0 := 4) (j := 4) 1 (xCode (by omega)) rfl rfl in_X1 (by decide) q100 rfl dX0_goNow_38 ?_
  refine g_iload_n (pc := 41) 2 C0 rfl dX0_goNow_41 rfl ?_
  refine g_aald (pc := 42) (q0 := 17) (j := 17) (t0 := 5) (N := 10) (jr := 90 + 2 * r) C0 r (xCode (by omega)) rfl rfl (by decide) (by omega) (xst_f (by omega)) dX0_goNow_42 ?_
  refine g_aload_n (pc := 43) 0 C0 rfl dX0_goNow_43 rfl ?_
  refine g_get (pc := 44) (v := .ref (ad 1)) C0 (C := RX0) (T := TX0) (N := 14) (ci := 1) (q0 := 0) (j := 0) 1 (xCode (by omega)) rfl rfl in_X0 (by decide) q184 rfl dX0_goNow_44 ?_
  refine g_getN (pc := 47) (v := .ref (ad 5)) C0 hN (C := RX2) (T := TX2) (N := 10) (ci := 3) (q0 := 1) (j := 1) 0 (xCode (by omega)) rfl rfl in_X2 (by decide) q140 rfl dX0_goNow_47 ?_
  refine g_iload_n (pc := 50) 1 C0 rfl dX0_goNow_50 rfl ?_
  refine g_ialdV (pc := 51) (q0 := 5) (j := 5) (t0 := 0) (N := 8) (v := (τ 9 q)) C0 q (xCode (by omega)) (fun _ => rfl) rfl (by decide) (by omega) (hβ.a5 (show q < τ 0 8 from hq)) dX0_goNow_51 ?_
  refine g_stU (pc := 52) (r := r) (na := 1) (As := [.int (nI (τ 9 q))]) (rest := [.int (nI q), .ref (ad 5)]) C0 hN hβ (by omega) (hw.2.2 r (by omega)).1 (xS_other l D dT ad nS (upc τ 7 r ((τ 7 r) + (wearS τ r (goStride τ q r)))) β r (τ 9 q) hβ (wfT_of (τ := τ) rfl rfl rfl rfl rfl rfl rfl hw) (by omega) (by omega)) q770 q773 q772 q775 q774 q771 q75 q776 (by decide +kernel) ⟨Nat.le_of_ble_eq_true rfl, Nat.le_of_ble_eq_true rfl⟩ rfl rfl ⟨Nat.le_of_ble_eq_true rfl, Nat.le_of_ble_eq_true rfl⟩ rfl rfl (Nat.le_of_ble_eq_true rfl) dX0_goNow_52 (fun r β0 hc => ?_)
  obtain ⟨rfl, rfl⟩ := hc
  refine G.stE (st' := [.int (nI (goOther τ q r)), .int (nI q), .ref (ad 5)]) (by rw [show othS (upc τ 7 r (τ 7 r + wearS τ r (goStride τ q r))) r (τ 9 q) = othS τ r (τ 9 q) from rfl, hgo]) ?_
  refine g_iast (pc := 55) (q0 := 5) (j := 5) (t0 := 0) (N := 8) C0 q (goOther τ q r) (xNd hβ.n10) (xCode (by omega)) (fun _ => rfl) rfl (by decide) (by omega) dX0_goNow_55 ?_
  refine G.nmX (Φ := fun β => RX nS β (upc (upc τ 7 r ((τ 7 r) + (wearS τ r (goStride τ q r)))) 9 q (goOther τ q r))) (wsf := fun β => xW dT ad nS β) (hβ.w5 _ _) (fun β hβ => ?_)
  exact g_vret (pc := 56) C0 dX0_goNow_56 hβ
set_option maxHeartbeats 4000000 in
set_option maxRecDepth 100000 in
theorem xX_go (l : Launch) (D : va_G) (dT : Nat → ClassId) (ad : Nat → Nat) (nS : Nat) (τ β : tT)  (q : Int32) (r : Int32) (hβ : RX nS β τ) (hw : wfT τ) (hp : wfP τ) : XI l D dT ad nS yX0_go cX0_go 3 .int ({ frames := 5, cells := 0, slots := 0, locals := 157 }) [.ref (ad 0), .int q, .int r] β (fun rr β' => rr = (pGo τ q r) ∧ RX nS β' (pGoT τ q r)) := by
  refine XI.ofG (own := "FittingStrides") (L := [some (.ref (ad 0)), some (.int q), some (.int r)]) rfl (by decide) (Nat.le_of_ble_eq_true rfl) rfl ?_
  intro p' e' s' m' bl' mt' c' C0 hN
  have hn := hβ.n
  have hn10 := hβ.n10
  have hw1 := hw.1
  have hw0 := hw.2.1
  have hp0 := hp.1
  have hp1 := hp.2.1
  refine g_aload_n (pc := 0) 0 C0 rfl dX0_go_0 rfl ?_
  refine g_iload_n (pc := 1) 1 C0 rfl dX0_go_1 rfl ?_
  refine g_cviX (pc := 2) (na := 1) (As := [.int q]) (rest := []) C0 hN (xX_isPerson l D dT ad nS τ β  q hβ (by omega)) (q0 := 0) (j := 0) (ci := 1) (C := RX0) (T := TX0) (N := 14) (xCode (by omega)) rfl rfl q751 q753 qs13 q57 q754 (by decide +kernel) ⟨Nat.le_of_ble_eq_true rfl, Nat.le_of_ble_eq_true rfl⟩ rfl rfl ⟨Nat.le_of_ble_eq_true rfl, Nat.le_of_ble_eq_true rfl⟩ rfl rfl (Nat.le_of_ble_eq_true rfl) dX0_go_2 (fun r β0 hc => ?_)
  obtain ⟨rfl, rfl⟩ := hc
  refine g_if_eqB (pc := 5) 16 C0 dX0_go_5 (by decide) (fun h5 => ?_) (fun h5 => ?_)
  · refine g_ldc (pc := 16) (v := -1000000001) C0 q704 dX0_go_16 ?_
    exact g_iret (pc := 18) C0 dX0_go_18 ⟨by simp [pGo, h5]; rfl, by simp only [pGoT, h5]; simpa using hβ⟩
  · obtain ⟨q1, rfl, q1h, q1b⟩ := ixB_t h5
    refine g_aload_n (pc := 8) 0 C0 rfl dX0_go_8 rfl ?_
    refine g_iload_n (pc := 9) 2 C0 rfl dX0_go_9 rfl ?_
    refine g_cviX (pc := 10) (na := 1) (As := [.int r]) (rest := []) C0 hN (xX_isStair l D dT ad nS τ β  r hβ (by omega)) (q0 := 0) (j := 0) (ci := 1) (C := RX0) (T := TX0) (N := 14) (xCode (by omega)) rfl rfl q700 q702 qs9 q57 q703 (by decide +kernel) ⟨Nat.le_of_ble_eq_true rfl, Nat.le_of_ble_eq_true rfl⟩ rfl rfl ⟨Nat.le_of_ble_eq_true rfl, Nat.le_of_ble_eq_true rfl⟩ rfl rfl (Nat.le_of_ble_eq_true rfl) dX0_go_10 (fun r β0 hc => ?_)
    obtain ⟨rfl, rfl⟩ := hc
    refine g_if_neB (pc := 13) 19 C0 dX0_go_13 (by decide) (fun h13 => ?_) (fun h13 => ?_)
    · obtain ⟨r1, rfl, r1h, r1b⟩ := ixB_t h13
      obtain ⟨k1, k2, k3, k4, k5, k6, k7⟩ := hw.2.2 r1 r1h
      refine g_aload_n (pc := 19) 0 C0 rfl dX0_go_19 rfl ?_
      refine g_iload_n (pc := 20) 1 C0 rfl dX0_go_20 rfl ?_
      refine g_iload_n (pc := 21) 2 C0 rfl dX0_go_21 rfl ?_
      refine g_cviX (pc := 22) (na := 2) (As := [.int (nI q1), .int (nI r1)]) (rest := []) C0 hN (xX_canGo l D dT ad nS τ β  q1 r1 hβ hw hp (by omega) (by omega)) (q0 := 0) (j := 0) (ci := 1) (C := RX0) (T := TX0) (N := 14) (xCode (by omega)) rfl rfl q785 q787 qs17 q57 q788 (by decide +kernel) ⟨Nat.le_of_ble_eq_true rfl, Nat.le_of_ble_eq_true rfl⟩ rfl rfl ⟨Nat.le_of_ble_eq_true rfl, Nat.le_of_ble_eq_true rfl⟩ rfl rfl (Nat.le_of_ble_eq_true rfl) dX0_go_22 (fun r β hc => ?_)
      obtain ⟨rfl, hβ⟩ := hc
      refine g_if_neB (pc := 25) 31 C0 dX0_go_25 (by decide) (fun h25 => ?_) (fun h25 => ?_)
      · refine g_aload_n (pc := 31) 0 C0 rfl dX0_go_31 rfl ?_
        refine g_iload_n (pc := 32) 1 C0 rfl dX0_go_32 rfl ?_
        refine g_iload_n (pc := 33) 2 C0 rfl dX0_go_33 rfl ?_
        refine g_cvvX (pc := 34) (na := 2) (As := [.int (nI q1), .int (nI r1)]) (rest := []) C0 hN (xX_goNow l D dT ad nS τ β  q1 r1 hβ hw hp (by omega) (by omega) h25) (q0 := 0) (j := 0) (ci := 1) (C := RX0) (T := TX0) (N := 14) (xCode (by omega)) rfl rfl q790 q792 qs18 q57 q793 (by decide +kernel) ⟨Nat.le_of_ble_eq_true rfl, Nat.le_of_ble_eq_true rfl⟩ rfl rfl ⟨Nat.le_of_ble_eq_true rfl, Nat.le_of_ble_eq_true rfl⟩ rfl rfl (Nat.le_of_ble_eq_true rfl) dX0_go_34 (fun β hc => ?_)
        have hβ := hc
        refine g_aload_n (pc := 37) 0 C0 rfl dX0_go_37 rfl ?_
        refine g_get (pc := 38) (v := .ref (ad 1)) C0 (C := RX0) (T := TX0) (N := 14) (ci := 1) (q0 := 0) (j := 0) 1 (xCode (by omega)) rfl rfl in_X0 (by decide) q184 rfl dX0_go_38 ?_
        refine g_getN (pc := 41) (v := .ref (ad 5)) C0 hN (C := RX2) (T := TX2) (N := 10) (ci := 3) (q0 := 1) (j := 1) 0 (xCode (by omega)) rfl rfl in_X2 (by decide) q140 rfl dX0_go_41 ?_
        refine g_iload_n (pc := 44) 1 C0 rfl dX0_go_44 rfl ?_
        refine g_ialdV (pc := 45) (q0 := 5) (j := 5) (t0 := 0) (N := 8) (v := (goOther τ q1 r1)) C0 q1 (xCode (by omega)) (fun _ => rfl) rfl (by decide) (by omega) ((hβ.a5 (by rw [goT_0]; omega)).trans (by rw [goT, upc_hit])) dX0_go_45 ?_
        exact g_iret (pc := 46) C0 dX0_go_46 ⟨by simp [pGo, h5, nI_clamp q1b, h13, nI_clamp r1b, h25], by simpa [pGoT, h5, nI_clamp q1b, h13, nI_clamp r1b, h25] using hβ⟩
      · refine g_ldc (pc := 28) (v := -1000000003) C0 q789 dX0_go_28 ?_
        exact g_iret (pc := 30) C0 dX0_go_30 ⟨by simp [pGo, h5, nI_clamp q1b, h13, nI_clamp r1b, h25]; rfl, by simpa [pGoT, h5, nI_clamp q1b, h13, nI_clamp r1b, h25] using hβ⟩
    · refine g_ldc (pc := 16) (v := -1000000001) C0 q704 dX0_go_16 ?_
      exact g_iret (pc := 18) C0 dX0_go_18 ⟨by simp [pGo, h5, nI_clamp q1b, h13]; rfl, by simp only [pGoT, h5, nI_clamp q1b, h13]; simpa using hβ⟩
set_option maxHeartbeats 4000000 in
set_option maxRecDepth 100000 in
theorem xX_isPart (l : Launch) (D : va_G) (dT : Nat → ClassId) (ad : Nat → Nat) (nS : Nat) (τ β : tT)  (r : Int32) (x : Int32) (hβ : RX nS β τ) (hw : wfT τ) : XI l D dT ad nS yX0_isPart cX0_isPart 3 .boolean ({ frames := 2, cells := 0, slots := 0, locals := 43 }) [.ref (ad 0), .int r, .int x] β (fun rr β' => rr = (nI (bN (pBuildOk τ r x))) ∧ β = β') := by
  refine XI.ofG (own := "FittingStrides") (L := [some (.ref (ad 0)), some (.int r), some (.int x)]) rfl (by decide) (Nat.le_of_ble_eq_true rfl) rfl ?_
  intro p' e' s' m' bl' mt' c' C0 hN
  have hn := hβ.n
  have hn10 := hβ.n10
  have hw1 := hw.1
  refine g_aload_n (pc := 0) 0 C0 rfl dX0_isPart_0 rfl ?_
  refine g_iload_n (pc := 1) 1 C0 rfl dX0_isPart_1 rfl ?_
  refine g_cviX (pc := 2) (na := 1) (As := [.int r]) (rest := []) C0 hN (xX_isStair l D dT ad nS τ β  r hβ (by omega)) (q0 := 0) (j := 0) (ci := 1) (C := RX0) (T := TX0) (N := 14) (xCode (by omega)) rfl rfl q700 q702 qs9 q57 q703 (by decide +kernel) ⟨Nat.le_of_ble_eq_true rfl, Nat.le_of_ble_eq_true rfl⟩ rfl rfl ⟨Nat.le_of_ble_eq_true rfl, Nat.le_of_ble_eq_true rfl⟩ rfl rfl (Nat.le_of_ble_eq_true rfl) dX0_isPart_2 (fun r β0 hc => ?_)
  obtain ⟨rfl, rfl⟩ := hc
  refine g_if_eqB (pc := 5) 34 C0 dX0_isPart_5 (by decide) (fun h5 => ?_) (fun h5 => ?_)
  · refine g_iconst (pc := 34) (v := (nI 0)) C0 dX0_isPart_34 (by decide) ?_
    exact g_zret (pc := 35) C0 dX0_isPart_35 (by decide) ⟨bret0 (by simp [pBuildOk, h5]), rfl⟩
  · obtain ⟨r1, rfl, r1h, r1b⟩ := ixB_t h5
    obtain ⟨k1, k2, k3, k4, k5, k6, k7⟩ := hw.2.2 r1 r1h
    refine g_iload_n (pc := 8) 2 C0 rfl dX0_isPart_8 rfl ?_
    refine g_iconst (pc := 9) (v := (nI 0)) C0 dX0_isPart_9 (by decide) ?_
    refine g_aload_n (pc := 10) 0 C0 rfl dX0_isPart_10 rfl ?_
    refine g_get (pc := 11) (v := .ref (ad 4)) C0 (C := RX0) (T := TX0) (N := 14) (ci := 1) (q0 := 0) (j := 0) 0 (xCode (by omega)) rfl rfl in_X0 (by decide) q183 rfl dX0_isPart_11 ?_
    refine g_getN (pc := 14) (v := .ref (ad 17)) C0 hN (C := RX1) (T := TX1) (N := 7) (ci := 2) (q0 := 4) (j := 4) 1 (xCode (by omega)) rfl rfl in_X1 (by decide) q100 rfl dX0_isPart_14 ?_
    refine g_iload_n (pc := 17) 1 C0 rfl dX0_isPart_17 rfl ?_
    refine g_aald (pc := 18) (q0 := 17) (j := 17) (t0 := 5) (N := 10) (jr := 90 + 2 * r1) C0 r1 (xCode (by omega)) rfl rfl (by decide) (by omega) (xst_f (by omega)) dX0_isPart_18 ?_
    refine xs_get (pc := 19) (r := r1) (v := .int (nI (τ 5 r1))) C0 hβ (by omega) (hw.2.2 r1 (by omega)).1 3 (by decide) q640 rfl dX0_isPart_19 ?_
    refine g_iconst (pc := 22) (v := (nI 1)) C0 dX0_isPart_22 (by decide) ?_
    refine g_isub (pc := 23) C0 dX0_isPart_23 ?_
    refine g_csi (pc := 24) (na := 3) (As := [.int x, .int (nI 0), .int ((nI (τ 5 r1)) - (nI 1))]) (rest := []) C0 (xX_isIn l x (nI 0) ((nI (τ 5 r1)) - (nI 1)) ) q232 q233 q57 q234 (by decide +kernel) ⟨Nat.le_of_ble_eq_true rfl, Nat.le_of_ble_eq_true rfl⟩ rfl rfl ⟨Nat.le_of_ble_eq_true rfl, Nat.le_of_ble_eq_true rfl⟩ rfl rfl (Nat.le_of_ble_eq_true rfl) dX0_isPart_24 ?_
    refine g_if_eqB (pc := 27) 34 C0 dX0_isPart_27 (by decide) (fun h27 => ?_) (fun h27 => ?_)
    · rw [isInB_ix x _ (by omega)] at h27
      refine g_iconst (pc := 34) (v := (nI 0)) C0 dX0_isPart_34 (by decide) ?_
      exact g_zret (pc := 35) C0 dX0_isPart_35 (by decide) ⟨bret0 (by simp [pBuildOk, h5, nI_clamp r1b, h27]), rfl⟩
    · rw [isInB_ix x _ (by omega)] at h27
      refine g_iconst (pc := 30) (v := (nI 1)) C0 dX0_isPart_30 (by decide) ?_
      refine g_goto (pc := 31) 35 C0 dX0_isPart_31 (by decide) ?_
      exact g_zret (pc := 35) C0 dX0_isPart_35 (by decide) ⟨bret1 (by simp [pBuildOk, h5, nI_clamp r1b, h27]), rfl⟩
set_option maxHeartbeats 4000000 in
set_option maxRecDepth 100000 in
theorem xX_build (l : Launch) (D : va_G) (dT : Nat → ClassId) (ad : Nat → Nat) (nS : Nat) (τ β : tT)  (r : Int32) (x : Int32) (z : Int32) (hβ : RX nS β τ) (hw : wfT τ) : XI l D dT ad nS yX0_build cX0_build 5 .int ({ frames := 3, cells := 0, slots := 0, locals := 65 }) [.ref (ad 0), .int r, .int x, .int z] β (fun rr β' => rr = (pBuild τ r x z) ∧ RX nS β' (pBuildT τ r x z)) := by
  refine XI.ofG (own := "FittingStrides") (L := [some (.ref (ad 0)), some (.int r), some (.int x), some (.int z), none]) rfl (by decide) (Nat.le_of_ble_eq_true rfl) rfl ?_
  intro p' e' s' m' bl' mt' c' C0 hN
  have hn := hβ.n
  have hn10 := hβ.n10
  have hw1 := hw.1
  have h3p : ∀ q, q < nS → τ 5 q ≤ 3 := fun q hq => (hw.2.2 q (by omega)).2.2.2.2.2.1
  refine g_aload_n (pc := 0) 0 C0 rfl dX0_build_0 rfl ?_
  refine g_iload_n (pc := 1) 1 C0 rfl dX0_build_1 rfl ?_
  refine g_iload_n (pc := 2) 2 C0 rfl dX0_build_2 rfl ?_
  refine g_cviX (pc := 3) (na := 2) (As := [.int r, .int x]) (rest := []) C0 hN (xX_isPart l D dT ad nS τ β  r x hβ hw) (q0 := 0) (j := 0) (ci := 1) (C := RX0) (T := TX0) (N := 14) (xCode (by omega)) rfl rfl q810 q812 qs20 q57 q813 (by decide +kernel) ⟨Nat.le_of_ble_eq_true rfl, Nat.le_of_ble_eq_true rfl⟩ rfl rfl ⟨Nat.le_of_ble_eq_true rfl, Nat.le_of_ble_eq_true rfl⟩ rfl rfl (Nat.le_of_ble_eq_true rfl) dX0_build_3 (fun r β0 hc => ?_)
  obtain ⟨rfl, rfl⟩ := hc
  refine g_if_neB (pc := 6) 12 C0 dX0_build_6 (by decide) (fun h6 => ?_) (fun h6 => ?_)
  · simp only [pBuildOk, Bool.and_eq_true] at h6
    obtain ⟨hr1, hx1⟩ := h6
    obtain ⟨r1, rfl, r1h, r1b⟩ := ixB_t hr1
    obtain ⟨k1, k2, k3, k4, k5, k6, k7⟩ := hw.2.2 r1 r1h
    rw [nI_clamp r1b] at hx1
    obtain ⟨x1, rfl, x1h, x1b⟩ := ixB_t hx1
    have hpb : pBuildOk τ (nI r1) (nI x1) = true := by simp [pBuildOk, ixB_n r1b, ixB_n x1b, nI_clamp r1b, r1h, x1h]
    refine g_iload_n (pc := 12) 3 C0 rfl dX0_build_12 rfl ?_
    refine g_iconst (pc := 13) (v := (nI 1)) C0 dX0_build_13 (by decide) ?_
    refine g_sipush (pc := 14) (v := (nI 720)) C0 dX0_build_14 (by decide) ?_
    refine g_csi (pc := 17) (na := 3) (As := [.int z, .int (nI 1), .int (nI 720)]) (rest := []) C0 (xX_isIn l z (nI 1) (nI 720) ) q232 q233 q57 q234 (by decide +kernel) ⟨Nat.le_of_ble_eq_true rfl, Nat.le_of_ble_eq_true rfl⟩ rfl rfl ⟨Nat.le_of_ble_eq_true rfl, Nat.le_of_ble_eq_true rfl⟩ rfl rfl (Nat.le_of_ble_eq_true rfl) dX0_build_17 ?_
    refine g_if_neB (pc := 20) 26 C0 dX0_build_20 (by decide) (fun h20 => ?_) (fun h20 => ?_)
    · rw [isInB_rg z (lo := 1) (hi := 720) (by decide) (by decide)] at h20
      obtain ⟨z1, rfl, z1l, z1h, z1b⟩ := rgB_t h20
      refine g_aload_n (pc := 26) 0 C0 rfl dX0_build_26 rfl ?_
      refine g_get (pc := 27) (v := .ref (ad 1)) C0 (C := RX0) (T := TX0) (N := 14) (ci := 1) (q0 := 0) (j := 0) 1 (xCode (by omega)) rfl rfl in_X0 (by decide) q184 rfl dX0_build_27 ?_
      refine g_getN (pc := 30) (v := .ref (ad 21)) C0 hN (C := RX2) (T := TX2) (N := 10) (ci := 3) (q0 := 1) (j := 1) 4 (xCode (by omega)) rfl rfl in_X2 (by decide) q148 rfl dX0_build_30 ?_
      refine g_iload_n (pc := 33) 1 C0 rfl dX0_build_33 rfl ?_
      refine g_aaldA (pc := 34) (q0 := 21) (j := 21) (t0 := 3) (N := 10) (jr := 32 + r1) C0 r1 (xCode (by omega)) rfl rfl (by decide) (by omega) rfl dX0_build_34 ?_
      refine g_iload_n (pc := 35) 2 C0 rfl dX0_build_35 rfl ?_
      refine g_ialdV (pc := 36) (q0 := (32 + r1)) (j := (32 + r1)) (t0 := 0) (N := 3) (v := (τ 6 (3 * r1 + x1))) C0 x1 (xCode (by omega)) (fun f => xMk_row (by omega) f) rfl (by decide) (by omega) ((hβ.row (by omega) (by omega)).trans (stp_in x1h)) dX0_build_36 ?_
      refine g_istore (pc := 37) 4 C0 (L1 := [some (.ref (ad 0)), some (.int (nI r1)), some (.int (nI x1)), some (.int (nI z1)), some (.int (nI (τ 6 (3 * r1 + x1))))]) rfl (by decide) dX0_build_37 rfl ?_
      refine g_aload_n (pc := 39) 0 C0 rfl dX0_build_39 rfl ?_
      refine g_get (pc := 40) (v := .ref (ad 1)) C0 (C := RX0) (T := TX0) (N := 14) (ci := 1) (q0 := 0) (j := 0) 1 (xCode (by omega)) rfl rfl in_X0 (by decide) q184 rfl dX0_build_40 ?_
      refine g_getN (pc := 43) (v := .ref (ad 21)) C0 hN (C := RX2) (T := TX2) (N := 10) (ci := 3) (q0 := 1) (j := 1) 4 (xCode (by omega)) rfl rfl in_X2 (by decide) q148 rfl dX0_build_43 ?_
      refine g_iload_n (pc := 46) 1 C0 rfl dX0_build_46 rfl ?_
      refine g_aaldA (pc := 47) (q0 := 21) (j := 21) (t0 := 3) (N := 10) (jr := 32 + r1) C0 r1 (xCode (by omega)) rfl rfl (by decide) (by omega) rfl dX0_build_47 ?_
      refine g_iload_n (pc := 48) 2 C0 rfl dX0_build_48 rfl ?_
      refine g_iload_n (pc := 49) 3 C0 rfl dX0_build_49 rfl ?_
      refine g_iast (pc := 50) (q0 := (32 + r1)) (j := (32 + r1)) (t0 := 0) (N := 3) C0 x1 z1 (xNd hβ.n10) (xCode (by omega)) (fun f => xMk_row (by omega) f) rfl (by decide) (by omega) dX0_build_50 ?_
      refine G.nmX (Φ := fun β => RX nS β (upc τ 6 (3 * r1 + x1) z1)) (wsf := fun β => xW dT ad nS β) (hβ.wR (by omega) h3p x1h _) (fun β hβ => ?_)
      refine g_iload (pc := 51) 4 C0 rfl dX0_build_51 ?_
      exact g_iret (pc := 53) C0 dX0_build_53 ⟨by simp [pBuild, hpb, h20, nI_clamp r1b, nI_clamp x1b], by simpa [pBuildT, hpb, h20, nI_clamp r1b, nI_clamp x1b, nI_clamp z1b] using hβ⟩
    · rw [isInB_rg z (lo := 1) (hi := 720) (by decide) (by decide)] at h20
      refine g_ldc (pc := 23) (v := -1000000002) C0 q235 dX0_build_23 ?_
      exact g_iret (pc := 25) C0 dX0_build_25 ⟨by simp [pBuild, hpb, h20]; rfl, by simpa [pBuildT, hpb, h20] using hβ⟩
  · refine g_ldc (pc := 9) (v := -1000000001) C0 q704 dX0_build_9 ?_
    exact g_iret (pc := 11) C0 dX0_build_11 ⟨by simp [pBuild, h6]; rfl, by simpa [pBuildT, h6] using hβ⟩
set_option maxHeartbeats 4000000 in
set_option maxRecDepth 100000 in
theorem xX_law (l : Launch) (D : va_G) (dT : Nat → ClassId) (ad : Nat → Nat) (nS : Nat) (τ β : tT)  (v : Int32) (hβ : RX nS β τ)  : XI l D dT ad nS yX0_law cX0_law 3 .int ({ frames := 1, cells := 0, slots := 0, locals := 22 }) [.ref (ad 0), .int v] β (fun rr β' => rr = (pLaw τ v) ∧ RX nS β' (pLawT τ v)) := by
  refine XI.ofG (own := "FittingStrides") (L := [some (.ref (ad 0)), some (.int v), none]) rfl (by decide) (Nat.le_of_ble_eq_true rfl) rfl ?_
  intro p' e' s' m' bl' mt' c' C0 hN
  have hn := hβ.n
  have hn10 := hβ.n10
  refine g_iload_n (pc := 0) 1 C0 rfl dX0_law_0 rfl ?_
  refine g_iconst (pc := 1) (v := (nI 0)) C0 dX0_law_1 (by decide) ?_
  refine g_iconst (pc := 2) (v := (nI 1)) C0 dX0_law_2 (by decide) ?_
  refine g_csi (pc := 3) (na := 3) (As := [.int v, .int (nI 0), .int (nI 1)]) (rest := []) C0 (xX_isIn l v (nI 0) (nI 1) ) q232 q233 q57 q234 (by decide +kernel) ⟨Nat.le_of_ble_eq_true rfl, Nat.le_of_ble_eq_true rfl⟩ rfl rfl ⟨Nat.le_of_ble_eq_true rfl, Nat.le_of_ble_eq_true rfl⟩ rfl rfl (Nat.le_of_ble_eq_true rfl) dX0_law_3 ?_
  refine g_if_neB (pc := 6) 12 C0 dX0_law_6 (by decide) (fun h6 => ?_) (fun h6 => ?_)
  · rw [isInB_rg v (lo := 0) (hi := 1) (by decide) (by decide)] at h6
    obtain ⟨v1, rfl, v1l, v1h, v1b⟩ := rgB_t h6
    refine g_aload_n (pc := 12) 0 C0 rfl dX0_law_12 rfl ?_
    refine g_get (pc := 13) (v := .ref (ad 1)) C0 (C := RX0) (T := TX0) (N := 14) (ci := 1) (q0 := 0) (j := 0) 1 (xCode (by omega)) rfl rfl in_X0 (by decide) q184 rfl dX0_law_13 ?_
    refine g_getN (pc := 16) (v := .int (nI (τ 0 12))) C0 hN (C := RX2) (T := TX2) (N := 10) (ci := 3) (q0 := 1) (j := 1) 6 (xCode (by omega)) rfl rfl in_X2 (by decide) q152 (xv hβ.f1_6) dX0_law_16 ?_
    refine g_istore_n (pc := 19) 2 C0 (L1 := [some (.ref (ad 0)), some (.int (nI v1)), some (.int (nI (τ 0 12)))]) rfl (by decide) dX0_law_19 rfl rfl ?_
    refine g_aload_n (pc := 20) 0 C0 rfl dX0_law_20 rfl ?_
    refine g_get (pc := 21) (v := .ref (ad 1)) C0 (C := RX0) (T := TX0) (N := 14) (ci := 1) (q0 := 0) (j := 0) 1 (xCode (by omega)) rfl rfl in_X0 (by decide) q184 rfl dX0_law_21 ?_
    refine g_iload_n (pc := 24) 1 C0 rfl dX0_law_24 rfl ?_
    refine g_putN (pc := 25) C0 hN (C := RX2) (T := TX2) (N := 10) (ci := 3) (q0 := 1) (j := 1) (F := (xFf 5 6 7 21 8) ad) (ty := .int) (z := v1) tyX2 tyX2_ok nmX2 (xNd hβ.n10) 6 (xCode (by omega)) (fun _ => rfl) rfl in_X2 (by decide) q152 rfl (by decide) rfl rfl (by show _ < 10; decide) rfl dX0_law_25 ?_
    refine G.nmX (Φ := fun β => RX nS β (upc τ 0 12 v1)) (wsf := fun β => xW dT ad nS β) (hβ.w1_6 _) (fun β hβ => ?_)
    refine g_iload_n (pc := 28) 2 C0 rfl dX0_law_28 rfl ?_
    exact g_iret (pc := 29) C0 dX0_law_29 ⟨by simp [pLaw, h6], by simpa [pLawT, h6, nI_clamp v1b] using hβ⟩
  · rw [isInB_rg v (lo := 0) (hi := 1) (by decide) (by decide)] at h6
    refine g_ldc (pc := 9) (v := -1000000002) C0 q235 dX0_law_9 ?_
    exact g_iret (pc := 11) C0 dX0_law_11 ⟨by simp [pLaw, h6]; rfl, by simpa [pLawT, h6] using hβ⟩
