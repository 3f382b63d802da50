/-! the model, second module -/
set_option maxRecDepth 100000
set_option maxHeartbeats 4000000 in
set_option maxRecDepth 100000 in
theorem mM_fault (l : Launch) (D : va_G) (dT : Nat → ClassId) (ad : Nat → Nat) (τ : tT)   : MI l D dT ad yX3_fault cX3_fault 1 .int ({ frames := 0, cells := 0, slots := 0, locals := 0 }) [] τ (fun rr τ' => rr = (nI (τ 0 16)) ∧ τ = τ') := by
  refine CI.ofG (own := "FittingStridesModel") (L := [some (.ref (ad 0))]) rfl (by decide) (Nat.le_of_ble_eq_true rfl) rfl ?_
  intro p' e' s' m' bl' mt' c' C0
  refine g_aload_n (pc := 0) 0 C0 rfl dX3_fault_0 rfl ?_
  refine m_get (pc := 1) (v := .int (nI (τ 0 16))) C0 16 (by decide) q985 rfl dX3_fault_1 ?_
  exact g_iret (pc := 4) C0 dX3_fault_4 ⟨rfl, rfl⟩
set_option maxHeartbeats 4000000 in
set_option maxRecDepth 100000 in
theorem mM_allWorn (l : Launch) (D : va_G) (dT : Nat → ClassId) (ad : Nat → Nat) (τ : tT)  (h : τ 0 1 ≤ 10) : MI l D dT ad yX3_allWorn cX3_allWorn 3 .int ({ frames := 0, cells := 0, slots := 0, locals := 0 }) [] τ (fun rr τ' => rr = (nI (sumS (τ 7) (τ 0 1))) ∧ τ = τ') := by
  refine CI.ofG (own := "FittingStridesModel") (L := [some (.ref (ad 0)), none, none]) rfl (by decide) (Nat.le_of_ble_eq_true rfl) rfl ?_
  intro p' e' s' m' bl' mt' c' C0
  refine g_iconst (pc := 0) (v := (nI 0)) C0 dX3_allWorn_0 (by decide) ?_
  refine g_istore_n (pc := 1) 1 C0 (L1 := [some (.ref (ad 0)), some (.int (nI 0)), none]) rfl (by decide) dX3_allWorn_1 rfl rfl ?_
  refine g_iconst (pc := 2) (v := (nI 0)) C0 dX3_allWorn_2 (by decide) ?_
  refine g_istore_n (pc := 3) 2 C0 (L1 := [some (.ref (ad 0)), some (.int (nI 0)), some (.int (nI 0))]) rfl (by decide) dX3_allWorn_3 rfl rfl ?_
  refine G.loop (pc := 4) (ws := fun i => mW dT ad τ) (Lf := fun i => [some (.ref (ad 0)), some (.int (nI (sumS (τ 7) i))), some (.int (nI i))]) (N := τ 0 1) (i0 := 0) (Nat.zero_le _) ?_ (fun i4 hi4 hj4 ih4 => ?_)
  · refine g_iload_n (pc := 4) 2 C0 rfl dX3_allWorn_4 rfl ?_
    refine g_aload_n (pc := 5) 0 C0 rfl dX3_allWorn_5 rfl ?_
    refine m_get (pc := 6) (v := .int (nI (τ 0 1))) C0 1 (by decide) q970 rfl dX3_allWorn_6 ?_
    refine g_icmp_geN (pc := 9) 27 C0 (by omega) (by omega) dX3_allWorn_9 (by decide) (fun h9 => ?_) (fun h9 => ?_)
    rotate_left
    · exact absurd h9 (by omega)
    refine g_iload_n (pc := 27) 1 C0 rfl dX3_allWorn_27 rfl ?_
    exact g_iret (pc := 28) C0 dX3_allWorn_28 ⟨rfl, rfl⟩
  · refine g_iload_n (pc := 4) 2 C0 rfl dX3_allWorn_4 rfl ?_
    refine g_aload_n (pc := 5) 0 C0 rfl dX3_allWorn_5 rfl ?_
    refine m_get (pc := 6) (v := .int (nI (τ 0 1))) C0 1 (by decide) q970 rfl dX3_allWorn_6 ?_
    refine g_icmp_geN (pc := 9) 27 C0 (by omega) (by omega) dX3_allWorn_9 (by decide) (fun h9 => ?_) (fun h9 => ?_)
    · exact absurd h9 (by omega)
    refine g_iload_n (pc := 12) 1 C0 rfl dX3_allWorn_12 rfl ?_
    refine g_aload_n (pc := 13) 0 C0 rfl dX3_allWorn_13 rfl ?_
    refine m_get (pc := 14) (v := .ref (ad 7)) C0 7 (by decide) q976 rfl dX3_allWorn_14 ?_
    refine g_iload_n (pc := 17) 2 C0 rfl dX3_allWorn_17 rfl ?_
    refine g_iald (pc := 18) (q0 := 6) (t0 := 0) C0 i4 rfl (fun _ => rfl) rfl (by decide) (by omega) dX3_allWorn_18 ?_
    refine g_iaddN (pc := 19) C0  dX3_allWorn_19 ?_
    refine g_istore_n (pc := 20) 1 C0 (L1 := [some (.ref (ad 0)), some (.int (nI ((sumS (τ 7) i4) + (τ 7 i4)))), some (.int (nI i4))]) rfl (by decide) dX3_allWorn_20 rfl rfl ?_
    refine g_iinc1 (pc := 21) 2 C0 (L1 := [some (.ref (ad 0)), some (.int (nI ((sumS (τ 7) i4) + (τ 7 i4)))), some (.int (nI (i4 + 1)))]) rfl rfl (by decide) dX3_allWorn_21 rfl ?_
    refine g_goto (pc := 24) 4 C0 dX3_allWorn_24 (by decide) ?_
    exact ih4
set_option maxHeartbeats 4000000 in
set_option maxRecDepth 100000 in
theorem mM_told (l : Launch) (D : va_G) (dT : Nat → ClassId) (ad : Nat → Nat) (τ : tT) (w : Int32) (h : τ 0 1 ≤ 10) : MI l D dT ad yX3_told cX3_told 2 .int ({ frames := 1, cells := 0, slots := 0, locals := 22 }) [.int w] τ (fun rr τ' => rr = (pTold τ w) ∧ τ = τ') := by
  refine CI.ofG (own := "FittingStridesModel") (L := [some (.ref (ad 0)), some (.int w)]) rfl (by decide) (Nat.le_of_ble_eq_true rfl) rfl ?_
  intro p' e' s' m' bl' mt' c' C0
  refine g_iload_n (pc := 0) 1 C0 rfl dX3_told_0 rfl ?_
  by_cases hs1 : w.toInt < 0 ∨ 7 < w.toInt
  · have hv1_0 : ¬ w = nI 0 := sw_out hs1 (by decide) (by decide)
    have hv1_1 : ¬ w = nI 1 := sw_out hs1 (by decide) (by decide)
    have hv1_2 : ¬ w = nI 2 := sw_out hs1 (by decide) (by decide)
    have hv1_3 : ¬ w = nI 3 := sw_out hs1 (by decide) (by decide)
    have hv1_4 : ¬ w = nI 4 := sw_out hs1 (by decide) (by decide)
    have hv1_5 : ¬ w = nI 5 := sw_out hs1 (by decide) (by decide)
    have hv1_6 : ¬ w = nI 6 := sw_out hs1 (by decide) (by decide)
    have hv1_7 : ¬ w = nI 7 := sw_out hs1 (by decide) (by decide)
    refine g_tableOut (pc := 1) 88 C0 dX3_told_1 hs1 (by decide) ?_
    refine g_ldc (pc := 88) (v := -1000000002) C0 q1110 dX3_told_88 ?_
    exact g_iret (pc := 90) C0 dX3_told_90 ⟨by rw [pTold, if_neg hv1_0, if_neg hv1_1, if_neg hv1_2, if_neg hv1_3, if_neg hv1_4, if_neg hv1_5, if_neg hv1_6, if_neg hv1_7]; first | done | rfl, rfl⟩
  by_cases hv1_0 : w = nI 0
  · refine g_tableIn (pc := 1) 48 C0 dX3_told_1 (by omega) (by omega) (off := 47) (by rw [hv1_0]; rfl) (by decide) ?_
    refine g_aload_n (pc := 48) 0 C0 rfl dX3_told_48 rfl ?_
    refine m_get (pc := 49) (v := .int (nI (τ 0 0))) C0 0 (by decide) q969 rfl dX3_told_49 ?_
    exact g_iret (pc := 52) C0 dX3_told_52 ⟨by rw [pTold, if_pos hv1_0]; first | done | rfl, rfl⟩
  have hn1_0 := sw_ne hv1_0 (by decide)
  by_cases hv1_1 : w = nI 1
  · refine g_tableIn (pc := 1) 53 C0 dX3_told_1 (by omega) (by omega) (off := 52) (by rw [hv1_1]; rfl) (by decide) ?_
    refine g_aload_n (pc := 53) 0 C0 rfl dX3_told_53 rfl ?_
    refine m_get (pc := 54) (v := .int (nI (τ 0 1))) C0 1 (by decide) q970 rfl dX3_told_54 ?_
    exact g_iret (pc := 57) C0 dX3_told_57 ⟨by rw [pTold, if_neg hv1_0, if_pos hv1_1]; first | done | rfl, rfl⟩
  have hn1_1 := sw_ne hv1_1 (by decide)
  by_cases hv1_2 : w = nI 2
  · refine g_tableIn (pc := 1) 58 C0 dX3_told_1 (by omega) (by omega) (off := 57) (by rw [hv1_2]; rfl) (by decide) ?_
    refine g_aload_n (pc := 58) 0 C0 rfl dX3_told_58 rfl ?_
    refine m_get (pc := 59) (v := .int (nI (τ 0 8))) C0 8 (by decide) q977 rfl dX3_told_59 ?_
    exact g_iret (pc := 62) C0 dX3_told_62 ⟨by rw [pTold, if_neg hv1_0, if_neg hv1_1, if_pos hv1_2]; first | done | rfl, rfl⟩
  have hn1_2 := sw_ne hv1_2 (by decide)
  by_cases hv1_3 : w = nI 3
  · refine g_tableIn (pc := 1) 63 C0 dX3_told_1 (by omega) (by omega) (off := 62) (by rw [hv1_3]; rfl) (by decide) ?_
    refine g_aload_n (pc := 63) 0 C0 rfl dX3_told_63 rfl ?_
    refine m_get (pc := 64) (v := .int (nI (τ 0 15))) C0 15 (by decide) q984 rfl dX3_told_64 ?_
    exact g_iret (pc := 67) C0 dX3_told_67 ⟨by rw [pTold, if_neg hv1_0, if_neg hv1_1, if_neg hv1_2, if_pos hv1_3]; first | done | rfl, rfl⟩
  have hn1_3 := sw_ne hv1_3 (by decide)
  by_cases hv1_4 : w = nI 4
  · refine g_tableIn (pc := 1) 68 C0 dX3_told_1 (by omega) (by omega) (off := 67) (by rw [hv1_4]; rfl) (by decide) ?_
    refine g_aload_n (pc := 68) 0 C0 rfl dX3_told_68 rfl ?_
    refine m_get (pc := 69) (v := .int (nI (τ 0 12))) C0 12 (by decide) q981 rfl dX3_told_69 ?_
    exact g_iret (pc := 72) C0 dX3_told_72 ⟨by rw [pTold, if_neg hv1_0, if_neg hv1_1, if_neg hv1_2, if_neg hv1_3, if_pos hv1_4]; first | done | rfl, rfl⟩
  have hn1_4 := sw_ne hv1_4 (by decide)
  by_cases hv1_5 : w = nI 5
  · refine g_tableIn (pc := 1) 73 C0 dX3_told_1 (by omega) (by omega) (off := 72) (by rw [hv1_5]; rfl) (by decide) ?_
    refine g_aload_n (pc := 73) 0 C0 rfl dX3_told_73 rfl ?_
    refine m_get (pc := 74) (v := .int (nI (τ 0 34))) C0 34 (by decide) q1003 rfl dX3_told_74 ?_
    exact g_iret (pc := 77) C0 dX3_told_77 ⟨by rw [pTold, if_neg hv1_0, if_neg hv1_1, if_neg hv1_2, if_neg hv1_3, if_neg hv1_4, if_pos hv1_5]; first | done | rfl, rfl⟩
  have hn1_5 := sw_ne hv1_5 (by decide)
  by_cases hv1_6 : w = nI 6
  · refine g_tableIn (pc := 1) 78 C0 dX3_told_1 (by omega) (by omega) (off := 77) (by rw [hv1_6]; rfl) (by decide) ?_
    refine g_aload_n (pc := 78) 0 C0 rfl dX3_told_78 rfl ?_
    refine m_get (pc := 79) (v := .int (nI (τ 0 38))) C0 38 (by decide) q1007 rfl dX3_told_79 ?_
    exact g_iret (pc := 82) C0 dX3_told_82 ⟨by rw [pTold, if_neg hv1_0, if_neg hv1_1, if_neg hv1_2, if_neg hv1_3, if_neg hv1_4, if_neg hv1_5, if_pos hv1_6]; first | done | rfl, rfl⟩
  have hn1_6 := sw_ne hv1_6 (by decide)
  have hv1_7 : w = nI 7 := sw_last (by omega) (by decide)
  · refine g_tableIn (pc := 1) 83 C0 dX3_told_1 (by omega) (by omega) (off := 82) (by rw [hv1_7]; rfl) (by decide) ?_
    refine g_aload_n (pc := 83) 0 C0 rfl dX3_told_83 rfl ?_
    refine g_cvi (pc := 84) (na := 0) (As := []) (rest := []) C0 (mM_allWorn l D dT ad τ  (by omega)) (q0 := 0) (j := 0) (ci := 0) (C := RX3) (T := TX3) (N := 44) rfl rfl rfl q1175 q1177 qs40 q60 q1178 (by decide +kernel) ⟨Nat.le_of_ble_eq_true rfl, Nat.le_of_ble_eq_true rfl⟩ rfl rfl ⟨Nat.le_of_ble_eq_true rfl, Nat.le_of_ble_eq_true rfl⟩ rfl rfl (Nat.le_of_ble_eq_true rfl) dX3_told_84 (fun r τ0 hc => ?_)
    obtain ⟨rfl, rfl⟩ := hc
    exact g_iret (pc := 87) C0 dX3_told_87 ⟨by rw [pTold, if_neg hv1_0, if_neg hv1_1, if_neg hv1_2, if_neg hv1_3, if_neg hv1_4, if_neg hv1_5, if_neg hv1_6, if_pos hv1_7]; first | done | rfl, rfl⟩
set_option maxHeartbeats 4000000 in
set_option maxRecDepth 100000 in
theorem mM_stair (l : Launch) (D : va_G) (dT : Nat → ClassId) (ad : Nat → Nat) (τ : tT) (r : Int32) (w : Int32) (hw : wfT τ) (hp : wfP τ) : MI l D dT ad yX3_stair cX3_stair 3 .int ({ frames := 3, cells := 0, slots := 0, locals := 70 }) [.int r, .int w] τ (fun rr τ' => rr = (pStair τ r w) ∧ τ = τ') := by
  refine CI.ofG (own := "FittingStridesModel") (L := [some (.ref (ad 0)), some (.int r), some (.int w)]) rfl (by decide) (Nat.le_of_ble_eq_true rfl) rfl ?_
  intro p' e' s' m' bl' mt' c' C0
  have hw1 := hw.1
  refine g_aload_n (pc := 0) 0 C0 rfl dX3_stair_0 rfl ?_
  refine g_iload_n (pc := 1) 1 C0 rfl dX3_stair_1 rfl ?_
  refine g_cvi (pc := 2) (na := 1) (As := [.int r]) (rest := []) C0 (mM_isStair l D dT ad τ r (by omega)) (q0 := 0) (j := 0) (ci := 0) (C := RX3) (T := TX3) (N := 44) rfl rfl rfl q1183 q1185 qs41 q60 q1186 (by decide +kernel) ⟨Nat.le_of_ble_eq_true rfl, Nat.le_of_ble_eq_true rfl⟩ rfl rfl ⟨Nat.le_of_ble_eq_true rfl, Nat.le_of_ble_eq_true rfl⟩ rfl rfl (Nat.le_of_ble_eq_true rfl) dX3_stair_2 (fun r τ0 hc => ?_)
  obtain ⟨rfl, rfl⟩ := hc
  refine g_if_neB (pc := 5) 11 C0 dX3_stair_5 (by decide) (fun h5 => ?_) (fun h5 => ?_)
  · obtain ⟨r1, rfl, r1h, r1b⟩ := ixB_t h5
    obtain ⟨k1, k2, k3, k4, k5, k6, k7⟩ := hw.2.2 r1 r1h
    refine g_iload_n (pc := 11) 2 C0 rfl dX3_stair_11 rfl ?_
    by_cases hs12 : w.toInt < 0 ∨ 8 < w.toInt
    · have hv12_0 : ¬ w = nI 0 := sw_out hs12 (by decide) (by decide)
      have hv12_1 : ¬ w = nI 1 := sw_out hs12 (by decide) (by decide)
      have hv12_2 : ¬ w = nI 2 := sw_out hs12 (by decide) (by decide)
      have hv12_3 : ¬ w = nI 3 := sw_out hs12 (by decide) (by decide)
      have hv12_4 : ¬ w = nI 4 := sw_out hs12 (by decide) (by decide)
      have hv12_5 : ¬ w = nI 5 := sw_out hs12 (by decide) (by decide)
      have hv12_6 : ¬ w = nI 6 := sw_out hs12 (by decide) (by decide)
      have hv12_7 : ¬ w = nI 7 := sw_out hs12 (by decide) (by decide)
      have hv12_8 : ¬ w = nI 8 := sw_out hs12 (by decide) (by decide)
      refine g_tableOut (pc := 12) 164 C0 dX3_stair_12 hs12 (by decide) ?_
      refine g_ldc (pc := 164) (v := -1000000002) C0 q1110 dX3_stair_164 ?_
      exact g_iret (pc := 166) C0 dX3_stair_166 ⟨by rw [pStair, if_pos h5, nI_clamp r1b, pStairN, if_neg hv12_0, if_neg hv12_1, if_neg hv12_2, if_neg hv12_3, if_neg hv12_4, if_neg hv12_5, if_neg hv12_6, if_neg hv12_7, if_neg hv12_8]; first | done | rfl, rfl⟩
    by_cases hv12_0 : w = nI 0
    · refine g_tableIn (pc := 12) 64 C0 dX3_stair_12 (by omega) (by omega) (off := 52) (by rw [hv12_0]; rfl) (by decide) ?_
      refine g_aload_n (pc := 64) 0 C0 rfl dX3_stair_64 rfl ?_
      refine m_get (pc := 65) (v := .ref (ad 2)) C0 2 (by decide) q971 rfl dX3_stair_65 ?_
      refine g_iload_n (pc := 68) 1 C0 rfl dX3_stair_68 rfl ?_
      refine g_iald (pc := 69) (q0 := 1) (t0 := 0) C0 r1 rfl (fun _ => rfl) rfl (by decide) (by omega) dX3_stair_69 ?_
      exact g_iret (pc := 70) C0 dX3_stair_70 ⟨by rw [pStair, if_pos h5, nI_clamp r1b, pStairN, if_pos hv12_0]; first | done | rfl, rfl⟩
    have hn12_0 := sw_ne hv12_0 (by decide)
    by_cases hv12_1 : w = nI 1
    · refine g_tableIn (pc := 12) 71 C0 dX3_stair_12 (by omega) (by omega) (off := 59) (by rw [hv12_1]; rfl) (by decide) ?_
      refine g_aload_n (pc := 71) 0 C0 rfl dX3_stair_71 rfl ?_
      refine m_get (pc := 72) (v := .ref (ad 3)) C0 3 (by decide) q972 rfl dX3_stair_72 ?_
      refine g_iload_n (pc := 75) 1 C0 rfl dX3_stair_75 rfl ?_
      refine g_iald (pc := 76) (q0 := 2) (t0 := 0) C0 r1 rfl (fun _ => rfl) rfl (by decide) (by omega) dX3_stair_76 ?_
      exact g_iret (pc := 77) C0 dX3_stair_77 ⟨by rw [pStair, if_pos h5, nI_clamp r1b, pStairN, if_neg hv12_0, if_pos hv12_1]; first | done | rfl, rfl⟩
    have hn12_1 := sw_ne hv12_1 (by decide)
    by_cases hv12_2 : w = nI 2
    · refine g_tableIn (pc := 12) 78 C0 dX3_stair_12 (by omega) (by omega) (off := 66) (by rw [hv12_2]; rfl) (by decide) ?_
      refine g_aload_n (pc := 78) 0 C0 rfl dX3_stair_78 rfl ?_
      refine m_get (pc := 79) (v := .ref (ad 4)) C0 4 (by decide) q973 rfl dX3_stair_79 ?_
      refine g_iload_n (pc := 82) 1 C0 rfl dX3_stair_82 rfl ?_
      refine g_iald (pc := 83) (q0 := 3) (t0 := 0) C0 r1 rfl (fun _ => rfl) rfl (by decide) (by omega) dX3_stair_83 ?_
      exact g_iret (pc := 84) C0 dX3_stair_84 ⟨by rw [pStair, if_pos h5, nI_clamp r1b, pStairN, if_neg hv12_0, if_neg hv12_1, if_pos hv12_2]; first | done | rfl, rfl⟩
    have hn12_2 := sw_ne hv12_2 (by decide)
    by_cases hv12_3 : w = nI 3
    · refine g_tableIn (pc := 12) 85 C0 dX3_stair_12 (by omega) (by omega) (off := 73) (by rw [hv12_3]; rfl) (by decide) ?_
      refine g_aload_n (pc := 85) 0 C0 rfl dX3_stair_85 rfl ?_
      refine m_get (pc := 86) (v := .ref (ad 5)) C0 5 (by decide) q974 rfl dX3_stair_86 ?_
      refine g_iload_n (pc := 89) 1 C0 rfl dX3_stair_89 rfl ?_
      refine g_iald (pc := 90) (q0 := 4) (t0 := 0) C0 r1 rfl (fun _ => rfl) rfl (by decide) (by omega) dX3_stair_90 ?_
      exact g_iret (pc := 91) C0 dX3_stair_91 ⟨by rw [pStair, if_pos h5, nI_clamp r1b, pStairN, if_neg hv12_0, if_neg hv12_1, if_neg hv12_2, if_pos hv12_3]; first | done | rfl, rfl⟩
    have hn12_3 := sw_ne hv12_3 (by decide)
    by_cases hv12_4 : w = nI 4
    · refine g_tableIn (pc := 12) 92 C0 dX3_stair_12 (by omega) (by omega) (off := 80) (by rw [hv12_4]; rfl) (by decide) ?_
      refine g_aload_n (pc := 92) 0 C0 rfl dX3_stair_92 rfl ?_
      refine m_get (pc := 93) (v := .ref (ad 6)) C0 6 (by decide) q975 rfl dX3_stair_93 ?_
      refine g_iconst (pc := 96) (v := (nI 3)) C0 dX3_stair_96 (by decide) ?_
      refine g_iload_n (pc := 97) 1 C0 rfl dX3_stair_97 rfl ?_
      refine g_imulN (pc := 98) C0  dX3_stair_98 ?_
      refine g_iald (pc := 99) (q0 := 5) (t0 := 0) C0 (3 * r1) rfl (fun _ => rfl) rfl (by decide) (by omega) dX3_stair_99 ?_
      exact g_iret (pc := 100) C0 dX3_stair_100 ⟨by rw [pStair, if_pos h5, nI_clamp r1b, pStairN, if_neg hv12_0, if_neg hv12_1, if_neg hv12_2, if_neg hv12_3, if_pos hv12_4]; first | done | rfl, rfl⟩
    have hn12_4 := sw_ne hv12_4 (by decide)
    by_cases hv12_5 : w = nI 5
    · refine g_tableIn (pc := 12) 101 C0 dX3_stair_12 (by omega) (by omega) (off := 89) (by rw [hv12_5]; rfl) (by decide) ?_
      refine g_aload_n (pc := 101) 0 C0 rfl dX3_stair_101 rfl ?_
      refine m_get (pc := 102) (v := .ref (ad 5)) C0 5 (by decide) q974 rfl dX3_stair_102 ?_
      refine g_iload_n (pc := 105) 1 C0 rfl dX3_stair_105 rfl ?_
      refine g_iald (pc := 106) (q0 := 4) (t0 := 0) C0 r1 rfl (fun _ => rfl) rfl (by decide) (by omega) dX3_stair_106 ?_
      refine g_iconst (pc := 107) (v := (nI 1)) C0 dX3_stair_107 (by decide) ?_
      refine g_icmp_leN (pc := 108) 124 C0 (by omega) (by decide) dX3_stair_108 (by decide) (fun h108 => ?_) (fun h108 => ?_)
      · refine g_iconst (pc := 124) (v := (nI 0)) C0 dX3_stair_124 (by decide) ?_
        exact g_iret (pc := 125) C0 dX3_stair_125 ⟨by rw [pStair, if_pos h5, nI_clamp r1b, pStairN, if_neg hv12_0, if_neg hv12_1, if_neg hv12_2, if_neg hv12_3, if_neg hv12_4, if_pos hv12_5]; rw [if_neg (by omega)], rfl⟩
      · refine g_aload_n (pc := 111) 0 C0 rfl dX3_stair_111 rfl ?_
        refine m_get (pc := 112) (v := .ref (ad 6)) C0 6 (by decide) q975 rfl dX3_stair_112 ?_
        refine g_iconst (pc := 115) (v := (nI 3)) C0 dX3_stair_115 (by decide) ?_
        refine g_iload_n (pc := 116) 1 C0 rfl dX3_stair_116 rfl ?_
        refine g_imulN (pc := 117) C0  dX3_stair_117 ?_
        refine g_iconst (pc := 118) (v := (nI 1)) C0 dX3_stair_118 (by decide) ?_
        refine g_iaddN (pc := 119) C0  dX3_stair_119 ?_
        refine g_iald (pc := 120) (q0 := 5) (t0 := 0) C0 ((3 * r1) + 1) rfl (fun _ => rfl) rfl (by decide) (by omega) dX3_stair_120 ?_
        refine g_goto (pc := 121) 125 C0 dX3_stair_121 (by decide) ?_
        exact g_iret (pc := 125) C0 dX3_stair_125 ⟨by rw [pStair, if_pos h5, nI_clamp r1b, pStairN, if_neg hv12_0, if_neg hv12_1, if_neg hv12_2, if_neg hv12_3, if_neg hv12_4, if_pos hv12_5]; rw [if_pos (by omega)], rfl⟩
    have hn12_5 := sw_ne hv12_5 (by decide)
    by_cases hv12_6 : w = nI 6
    · refine g_tableIn (pc := 12) 126 C0 dX3_stair_12 (by omega) (by omega) (off := 114) (by rw [hv12_6]; rfl) (by decide) ?_
      refine g_aload_n (pc := 126) 0 C0 rfl dX3_stair_126 rfl ?_
      refine m_get (pc := 127) (v := .ref (ad 5)) C0 5 (by decide) q974 rfl dX3_stair_127 ?_
      refine g_iload_n (pc := 130) 1 C0 rfl dX3_stair_130 rfl ?_
      refine g_iald (pc := 131) (q0 := 4) (t0 := 0) C0 r1 rfl (fun _ => rfl) rfl (by decide) (by omega) dX3_stair_131 ?_
      refine g_iconst (pc := 132) (v := (nI 2)) C0 dX3_stair_132 (by decide) ?_
      refine g_icmp_leN (pc := 133) 149 C0 (by omega) (by decide) dX3_stair_133 (by decide) (fun h133 => ?_) (fun h133 => ?_)
      · refine g_iconst (pc := 149) (v := (nI 0)) C0 dX3_stair_149 (by decide) ?_
        exact g_iret (pc := 150) C0 dX3_stair_150 ⟨by rw [pStair, if_pos h5, nI_clamp r1b, pStairN, if_neg hv12_0, if_neg hv12_1, if_neg hv12_2, if_neg hv12_3, if_neg hv12_4, if_neg hv12_5, if_pos hv12_6]; rw [if_neg (by omega)], rfl⟩
      · refine g_aload_n (pc := 136) 0 C0 rfl dX3_stair_136 rfl ?_
        refine m_get (pc := 137) (v := .ref (ad 6)) C0 6 (by decide) q975 rfl dX3_stair_137 ?_
        refine g_iconst (pc := 140) (v := (nI 3)) C0 dX3_stair_140 (by decide) ?_
        refine g_iload_n (pc := 141) 1 C0 rfl dX3_stair_141 rfl ?_
        refine g_imulN (pc := 142) C0  dX3_stair_142 ?_
        refine g_iconst (pc := 143) (v := (nI 2)) C0 dX3_stair_143 (by decide) ?_
        refine g_iaddN (pc := 144) C0  dX3_stair_144 ?_
        refine g_iald (pc := 145) (q0 := 5) (t0 := 0) C0 ((3 * r1) + 2) rfl (fun _ => rfl) rfl (by decide) (by omega) dX3_stair_145 ?_
        refine g_goto (pc := 146) 150 C0 dX3_stair_146 (by decide) ?_
        exact g_iret (pc := 150) C0 dX3_stair_150 ⟨by rw [pStair, if_pos h5, nI_clamp r1b, pStairN, if_neg hv12_0, if_neg hv12_1, if_neg hv12_2, if_neg hv12_3, if_neg hv12_4, if_neg hv12_5, if_pos hv12_6]; rw [if_pos (by omega)], rfl⟩
    have hn12_6 := sw_ne hv12_6 (by decide)
    by_cases hv12_7 : w = nI 7
    · refine g_tableIn (pc := 12) 151 C0 dX3_stair_12 (by omega) (by omega) (off := 139) (by rw [hv12_7]; rfl) (by decide) ?_
      refine g_aload_n (pc := 151) 0 C0 rfl dX3_stair_151 rfl ?_
      refine m_get (pc := 152) (v := .ref (ad 7)) C0 7 (by decide) q976 rfl dX3_stair_152 ?_
      refine g_iload_n (pc := 155) 1 C0 rfl dX3_stair_155 rfl ?_
      refine g_iald (pc := 156) (q0 := 6) (t0 := 0) C0 r1 rfl (fun _ => rfl) rfl (by decide) (by omega) dX3_stair_156 ?_
      exact g_iret (pc := 157) C0 dX3_stair_157 ⟨by rw [pStair, if_pos h5, nI_clamp r1b, pStairN, if_neg hv12_0, if_neg hv12_1, if_neg hv12_2, if_neg hv12_3, if_neg hv12_4, if_neg hv12_5, if_neg hv12_6, if_pos hv12_7]; first | done | rfl, rfl⟩
    have hn12_7 := sw_ne hv12_7 (by decide)
    have hv12_8 : w = nI 8 := sw_last (by omega) (by decide)
    · refine g_tableIn (pc := 12) 158 C0 dX3_stair_12 (by omega) (by omega) (off := 146) (by rw [hv12_8]; rfl) (by decide) ?_
      refine g_aload_n (pc := 158) 0 C0 rfl dX3_stair_158 rfl ?_
      refine g_iload_n (pc := 159) 1 C0 rfl dX3_stair_159 rfl ?_
      refine g_cvi (pc := 160) (na := 1) (As := [.int (nI r1)]) (rest := []) C0 (mM_climbers l D dT ad τ r1 hw hp (by omega)) (q0 := 0) (j := 0) (ci := 0) (C := RX3) (T := TX3) (N := 44) rfl rfl rfl q1188 q1190 qs42 q60 q1191 (by decide +kernel) ⟨Nat.le_of_ble_eq_true rfl, Nat.le_of_ble_eq_true rfl⟩ rfl rfl ⟨Nat.le_of_ble_eq_true rfl, Nat.le_of_ble_eq_true rfl⟩ rfl rfl (Nat.le_of_ble_eq_true rfl) dX3_stair_160 (fun r τ0 hc => ?_)
      obtain ⟨rfl, rfl⟩ := hc
      exact g_iret (pc := 163) C0 dX3_stair_163 ⟨by rw [pStair, if_pos h5, nI_clamp r1b, pStairN, if_neg hv12_0, if_neg hv12_1, if_neg hv12_2, if_neg hv12_3, if_neg hv12_4, if_neg hv12_5, if_neg hv12_6, if_neg hv12_7, if_pos hv12_8]; first | done | rfl, rfl⟩
  · refine g_ldc (pc := 8) (v := -1000000001) C0 q1187 dX3_stair_8 ?_
    exact g_iret (pc := 10) C0 dX3_stair_10 ⟨by rw [pStair, h5]; rfl, rfl⟩
set_option maxHeartbeats 4000000 in
set_option maxRecDepth 100000 in
theorem mM_reachOf (l : Launch) (D : va_G) (dT : Nat → ClassId) (ad : Nat → Nat) (τ : tT) (place : Nat) (one : Nat) (two : Nat) (hw : wfT τ) (hp : wfP τ) (h0 : place < 8) (h1 : one < 2 ^ 31) (h2 : two < 2 ^ 31) : MI l D dT ad yX3_reachOf cX3_reachOf 8 .int ({ frames := 1, cells := 0, slots := 0, locals := 25 }) [.int (nI place), .int (nI one), .int (nI two)] τ (fun rr τ' => rr = (nI (reachS τ place one two)) ∧ τ = τ') := by
  refine CI.ofG (own := "FittingStridesModel") (L := [some (.ref (ad 0)), some (.int (nI place)), some (.int (nI one)), some (.int (nI two)), none, none, none, none]) rfl (by decide) (Nat.le_of_ble_eq_true rfl) rfl ?_
  intro p' e' s' m' bl' mt' c' C0
  have hw1 := hw.1
  have hw0 := hw.2.1
  have hp1 := hp.2.1
  have hpl : 2 ^ place < 256 := show 2 ^ place < 2 ^ 8 from Nat.pow_lt_pow_right (by decide) h0
  refine g_iconst (pc := 0) (v := (nI 1)) C0 dX3_reachOf_0 (by decide) ?_
  refine g_iload_n (pc := 1) 1 C0 rfl dX3_reachOf_1 rfl ?_
  refine g_ishl1N (pc := 2) C0 (by omega) dX3_reachOf_2 ?_
  refine g_istore (pc := 3) 4 C0 (L1 := [some (.ref (ad 0)), some (.int (nI place)), some (.int (nI one)), some (.int (nI two)), some (.int (nI (2 ^ place))), none, none, none]) rfl (by decide) dX3_reachOf_3 rfl ?_
  refine g_iconst (pc := 5) (v := (nI 0)) C0 dX3_reachOf_5 (by decide) ?_
  refine g_istore (pc := 6) 5 C0 (L1 := [some (.ref (ad 0)), some (.int (nI place)), some (.int (nI one)), some (.int (nI two)), some (.int (nI (2 ^ place))), some (.int (nI 0)), none, none]) rfl (by decide) dX3_reachOf_6 rfl ?_
  refine G.wh (pc := 8) (ws := fun _ => mW dT ad τ) (Lf := fun xx : Nat × Nat => [some (.ref (ad 0)), some (.int (nI place)), some (.int (nI one)), some (.int (nI two)), some (.int (nI xx.1)), some (.int (nI xx.2)), none, none]) fxM (fxI (fun set => rchP τ one two set (τ 0 1)) (reachS τ place one two)) (2 ^ place, 0) (fx_0 hpl (Nat.pos_iff_ne_zero.mp (Nat.two_pow_pos _))) ?_
  rintro ⟨set8, was8⟩ hI8 ih8
  have hs8 : set8 < 256 := hI8.1
  have hw8 : was8 < 256 := hI8.2.1
  refine G.lE (L' := [some (.ref (ad 0)), some (.int (nI place)), some (.int (nI one)), some (.int (nI two)), some (.int (nI set8)), some (.int (nI was8)), none, none]) rfl ?_
  refine g_iload (pc := 8) 5 C0 rfl dX3_reachOf_8 ?_
  refine g_iload (pc := 10) 4 C0 rfl dX3_reachOf_10 ?_
  refine g_icmp_eqN (pc := 12) 151 C0 (by omega) (by omega) dX3_reachOf_12 (by decide) (fun h12 => ?_) (fun h12 => ?_)
  · refine g_iload (pc := 151) 4 C0 rfl dX3_reachOf_151 ?_
    exact g_iret (pc := 153) C0 dX3_reachOf_153 ⟨congrArg nI (hI8.2.2.1 h12).symm, rfl⟩
  · have fs8 := fx_s (P := (fun set => rchP τ one two set (τ 0 1))) (rch_hP hw one two) hI8 h12
    refine g_iload (pc := 15) 4 C0 rfl dX3_reachOf_15 ?_
    refine g_istore (pc := 17) 5 C0 (L1 := [some (.ref (ad 0)), some (.int (nI place)), some (.int (nI one)), some (.int (nI two)), some (.int (nI set8)), some (.int (nI set8)), none, none]) rfl (by decide) dX3_reachOf_17 rfl ?_
    refine g_iconst (pc := 19) (v := (nI 0)) C0 dX3_reachOf_19 (by decide) ?_
    refine g_istore (pc := 20) 6 C0 (L1 := [some (.ref (ad 0)), some (.int (nI place)), some (.int (nI one)), some (.int (nI two)), some (.int (nI set8)), some (.int (nI set8)), some (.int (nI 0)), none]) rfl (by decide) dX3_reachOf_20 rfl ?_
    refine G.loop (pc := 22) (ws := fun i => mW dT ad τ) (Lf := fun i => [some (.ref (ad 0)), some (.int (nI place)), some (.int (nI one)), some (.int (nI two)), some (.int (nI (rchP τ one two set8 i))), some (.int (nI set8)), some (.int (nI i)), none]) (N := τ 0 1) (i0 := 0) (Nat.zero_le _) ?_ (fun i22 hi22 hj22 ih22 => ?_)
    · refine g_iload (pc := 22) 6 C0 rfl dX3_reachOf_22 ?_
      refine g_aload_n (pc := 24) 0 C0 rfl dX3_reachOf_24 rfl ?_
      refine m_get (pc := 25) (v := .int (nI (τ 0 1))) C0 1 (by decide) q970 rfl dX3_reachOf_25 ?_
      refine g_icmp_geN (pc := 28) 148 C0 (by omega) (by omega) dX3_reachOf_28 (by decide) (fun h28 => ?_) (fun h28 => ?_)
      rotate_left
      · exact absurd h28 (by omega)
      refine g_goto (pc := 148) 8 C0 dX3_reachOf_148 (by decide) ?_
      refine G.forget 6 ?_
      exact ih8 ((fun set => rchP τ one two set (τ 0 1)) set8, set8) fs8.1 fs8.2
    · obtain ⟨k1, k2, k3, k4, k5, k6, k7⟩ := hw.2.2 i22 hi22
      have hb := (rchP_ok hw one two hs8 i22 (by omega)).2
      refine g_iload (pc := 22) 6 C0 rfl dX3_reachOf_22 ?_
      refine g_aload_n (pc := 24) 0 C0 rfl dX3_reachOf_24 rfl ?_
      refine m_get (pc := 25) (v := .int (nI (τ 0 1))) C0 1 (by decide) q970 rfl dX3_reachOf_25 ?_
      refine g_icmp_geN (pc := 28) 148 C0 (by omega) (by omega) dX3_reachOf_28 (by decide) (fun h28 => ?_) (fun h28 => ?_)
      · exact absurd h28 (by omega)
      refine G.join (pcJ := 56) (wsJ := mW dT ad τ) (LJ := [some (.ref (ad 0)), some (.int (nI place)), some (.int (nI one)), some (.int (nI two)), some (.int (nI (rchP τ one two set8 i22))), some (.int (nI set8)), some (.int (nI i22)), none]) (stJ := []) (nI (bN (sFit τ i22 one || sFit τ i22 two))) ?_ (fun J56 => ?_)
      · refine g_istore (pc := 56) 7 C0 (L1 := [some (.ref (ad 0)), some (.int (nI place)), some (.int (nI one)), some (.int (nI two)), some (.int (nI (rchP τ one two set8 i22))), some (.int (nI set8)), some (.int (nI i22)), some (.int (nI (bN (sFit τ i22 one || sFit τ i22 two))))]) rfl (by decide) dX3_reachOf_56 rfl ?_
        obtain ⟨A1, eA1⟩ : ∃ z, z = (sFit τ i22 one || sFit τ i22 two) := ⟨_, rfl⟩
        refine G.lE (L' := [some (.ref (ad 0)), some (.int (nI place)), some (.int (nI one)), some (.int (nI two)), some (.int (nI (rchP τ one two set8 i22))), some (.int (nI set8)), some (.int (nI i22)), some (.int (nI (bN A1)))]) (by rw [eA1]) ?_
        refine g_iload (pc := 58) 4 C0 rfl dX3_reachOf_58 ?_
        refine G.join (pcJ := 93) (wsJ := mW dT ad τ) (LJ := [some (.ref (ad 0)), some (.int (nI place)), some (.int (nI one)), some (.int (nI two)), some (.int (nI (rchP τ one two set8 i22))), some (.int (nI set8)), some (.int (nI i22)), some (.int (nI (bN A1)))]) (stJ := [.int (nI (rchP τ one two set8 i22))]) (nI (if (A1 && (rchP τ one two set8 i22).testBit (τ 3 i22)) = true then 2 ^ τ 4 i22 else 0)) ?_ (fun J93 => ?_)
        · refine g_iorN (pc := 93) C0  dX3_reachOf_93 ?_
          refine g_istore (pc := 94) 4 C0 (L1 := [some (.ref (ad 0)), some (.int (nI place)), some (.int (nI one)), some (.int (nI two)), some (.int (nI ((rchP τ one two set8 i22) ||| (if (A1 && (rchP τ one two set8 i22).testBit (τ 3 i22)) = true then 2 ^ τ 4 i22 else 0)))), some (.int (nI set8)), some (.int (nI i22)), some (.int (nI (bN A1)))]) rfl (by decide) dX3_reachOf_94 rfl ?_
          obtain ⟨B1, eB1⟩ : ∃ z, z = ((rchP τ one two set8 i22) ||| (if (A1 && (rchP τ one two set8 i22).testBit (τ 3 i22)) = true then 2 ^ τ 4 i22 else 0)) := ⟨_, rfl⟩
          have hb2 : B1 < 2 ^ 8 := by rw [eB1]; exact Nat.or_lt_two_pow hb (ite_lt (Nat.pow_lt_pow_right (by decide) (by omega)) (by decide))
          refine G.lE (L' := [some (.ref (ad 0)), some (.int (nI place)), some (.int (nI one)), some (.int (nI two)), some (.int (nI B1)), some (.int (nI set8)), some (.int (nI i22)), some (.int (nI (bN A1)))]) (by rw [eB1]) ?_
          refine g_iload (pc := 96) 4 C0 rfl dX3_reachOf_96 ?_
          refine G.join (pcJ := 139) (wsJ := mW dT ad τ) (LJ := [some (.ref (ad 0)), some (.int (nI place)), some (.int (nI one)), some (.int (nI two)), some (.int (nI B1)), some (.int (nI set8)), some (.int (nI i22)), some (.int (nI (bN A1)))]) (stJ := [.int (nI B1)]) (nI (if ((A1 || decide (τ 0 12 = 1)) && B1.testBit (τ 4 i22)) = true then 2 ^ τ 3 i22 else 0)) ?_ (fun J139 => ?_)
          · refine g_iorN (pc := 139) C0  dX3_reachOf_139 ?_
            refine g_istore (pc := 140) 4 C0 (L1 := [some (.ref (ad 0)), some (.int (nI place)), some (.int (nI one)), some (.int (nI two)), some (.int (nI (B1 ||| (if ((A1 || decide (τ 0 12 = 1)) && B1.testBit (τ 4 i22)) = true then 2 ^ τ 3 i22 else 0)))), some (.int (nI set8)), some (.int (nI i22)), some (.int (nI (bN A1)))]) rfl (by decide) dX3_reachOf_140 rfl ?_
            refine g_iinc1 (pc := 142) 6 C0 (L1 := [some (.ref (ad 0)), some (.int (nI place)), some (.int (nI one)), some (.int (nI two)), some (.int (nI (B1 ||| (if ((A1 || decide (τ 0 12 = 1)) && B1.testBit (τ 4 i22)) = true then 2 ^ τ 3 i22 else 0)))), some (.int (nI set8)), some (.int (nI (i22 + 1))), some (.int (nI (bN A1)))]) rfl rfl (by decide) dX3_reachOf_142 rfl ?_
            refine g_goto (pc := 145) 22 C0 dX3_reachOf_145 (by decide) ?_
            refine G.forget 7 ?_
            subst eB1
            subst eA1
            exact ih22
          · refine g_iload (pc := 98) 7 C0 rfl dX3_reachOf_98 ?_
            refine g_if_neB (pc := 100) 111 C0 dX3_reachOf_100 (by decide) (fun h100 => ?_) (fun h100 => ?_)
            · refine g_iload (pc := 111) 4 C0 rfl dX3_reachOf_111 ?_
              refine g_aload_n (pc := 113) 0 C0 rfl dX3_reachOf_113 rfl ?_
              refine m_get (pc := 114) (v := .ref (ad 4)) C0 4 (by decide) q973 rfl dX3_reachOf_114 ?_
              refine g_iload (pc := 117) 6 C0 rfl dX3_reachOf_117 ?_
              refine g_iald (pc := 119) (q0 := 3) (t0 := 0) C0 i22 rfl (fun _ => rfl) rfl (by decide) (by omega) dX3_reachOf_119 ?_
              refine g_csi (pc := 120) (na := 2) (As := [.int (nI B1), .int (nI (τ 4 i22))]) (rest := [.int (nI B1)]) C0 (mM_has l B1 (τ 4 i22) (by omega) (by omega)) q1216 q1217 q60 q1218 (by decide +kernel) ⟨Nat.le_of_ble_eq_true rfl, Nat.le_of_ble_eq_true rfl⟩ rfl rfl ⟨Nat.le_of_ble_eq_true rfl, Nat.le_of_ble_eq_true rfl⟩ rfl rfl (Nat.le_of_ble_eq_true rfl) dX3_reachOf_120 ?_
              refine g_if_eqB (pc := 123) 138 C0 dX3_reachOf_123 (by decide) (fun h123 => ?_) (fun h123 => ?_)
              · refine g_iconst (pc := 138) (v := (nI 0)) C0 dX3_reachOf_138 (by decide) ?_
                exact J139 (nI 0) (congrArg nI (by simp [h12, h100, h123] <;> omega))
              · refine g_iconst (pc := 126) (v := (nI 1)) C0 dX3_reachOf_126 (by decide) ?_
                refine g_aload_n (pc := 127) 0 C0 rfl dX3_reachOf_127 rfl ?_
                refine m_get (pc := 128) (v := .ref (ad 3)) C0 3 (by decide) q972 rfl dX3_reachOf_128 ?_
                refine g_iload (pc := 131) 6 C0 rfl dX3_reachOf_131 ?_
                refine g_iald (pc := 133) (q0 := 2) (t0 := 0) C0 i22 rfl (fun _ => rfl) rfl (by decide) (by omega) dX3_reachOf_133 ?_
                refine g_ishl1N (pc := 134) C0 (by omega) dX3_reachOf_134 ?_
                refine g_goto (pc := 135) 139 C0 dX3_reachOf_135 (by decide) ?_
                exact J139 (nI (2 ^ (τ 3 i22))) (congrArg nI (by simp [h12, h100, h123] <;> omega))
            · refine g_aload_n (pc := 103) 0 C0 rfl dX3_reachOf_103 rfl ?_
              refine m_get (pc := 104) (v := .int (nI (τ 0 12))) C0 12 (by decide) q981 rfl dX3_reachOf_104 ?_
              refine g_iconst (pc := 107) (v := (nI 1)) C0 dX3_reachOf_107 (by decide) ?_
              refine g_icmp_neN (pc := 108) 138 C0 (by omega) (by decide) dX3_reachOf_108 (by decide) (fun h108 => ?_) (fun h108 => ?_)
              · refine g_iconst (pc := 138) (v := (nI 0)) C0 dX3_reachOf_138 (by decide) ?_
                exact J139 (nI 0) (congrArg nI (by simp [h12, h100, h108] <;> omega))
              · refine g_iload (pc := 111) 4 C0 rfl dX3_reachOf_111 ?_
                refine g_aload_n (pc := 113) 0 C0 rfl dX3_reachOf_113 rfl ?_
                refine m_get (pc := 114) (v := .ref (ad 4)) C0 4 (by decide) q973 rfl dX3_reachOf_114 ?_
                refine g_iload (pc := 117) 6 C0 rfl dX3_reachOf_117 ?_
                refine g_iald (pc := 119) (q0 := 3) (t0 := 0) C0 i22 rfl (fun _ => rfl) rfl (by decide) (by omega) dX3_reachOf_119 ?_
                refine g_csi (pc := 120) (na := 2) (As := [.int (nI B1), .int (nI (τ 4 i22))]) (rest := [.int (nI B1)]) C0 (mM_has l B1 (τ 4 i22) (by omega) (by omega)) q1216 q1217 q60 q1218 (by decide +kernel) ⟨Nat.le_of_ble_eq_true rfl, Nat.le_of_ble_eq_true rfl⟩ rfl rfl ⟨Nat.le_of_ble_eq_true rfl, Nat.le_of_ble_eq_true rfl⟩ rfl rfl (Nat.le_of_ble_eq_true rfl) dX3_reachOf_120 ?_
                refine g_if_eqB (pc := 123) 138 C0 dX3_reachOf_123 (by decide) (fun h123 => ?_) (fun h123 => ?_)
                · refine g_iconst (pc := 138) (v := (nI 0)) C0 dX3_reachOf_138 (by decide) ?_
                  exact J139 (nI 0) (congrArg nI (by simp [h12, h100, h108, h123] <;> omega))
                · refine g_iconst (pc := 126) (v := (nI 1)) C0 dX3_reachOf_126 (by decide) ?_
                  refine g_aload_n (pc := 127) 0 C0 rfl dX3_reachOf_127 rfl ?_
                  refine m_get (pc := 128) (v := .ref (ad 3)) C0 3 (by decide) q972 rfl dX3_reachOf_128 ?_
                  refine g_iload (pc := 131) 6 C0 rfl dX3_reachOf_131 ?_
                  refine g_iald (pc := 133) (q0 := 2) (t0 := 0) C0 i22 rfl (fun _ => rfl) rfl (by decide) (by omega) dX3_reachOf_133 ?_
                  refine g_ishl1N (pc := 134) C0 (by omega) dX3_reachOf_134 ?_
                  refine g_goto (pc := 135) 139 C0 dX3_reachOf_135 (by decide) ?_
                  exact J139 (nI (2 ^ (τ 3 i22))) (congrArg nI (by simp [h12, h100, h108, h123] <;> omega))
        · refine g_iload (pc := 60) 7 C0 rfl dX3_reachOf_60 ?_
          refine g_if_eqB (pc := 62) 92 C0 dX3_reachOf_62 (by decide) (fun h62 => ?_) (fun h62 => ?_)
          · refine g_iconst (pc := 92) (v := (nI 0)) C0 dX3_reachOf_92 (by decide) ?_
            exact J93 (nI 0) (congrArg nI (by simp [h12, h62] <;> omega))
          · refine g_iload (pc := 65) 4 C0 rfl dX3_reachOf_65 ?_
            refine g_aload_n (pc := 67) 0 C0 rfl dX3_reachOf_67 rfl ?_
            refine m_get (pc := 68) (v := .ref (ad 3)) C0 3 (by decide) q972 rfl dX3_reachOf_68 ?_
            refine g_iload (pc := 71) 6 C0 rfl dX3_reachOf_71 ?_
            refine g_iald (pc := 73) (q0 := 2) (t0 := 0) C0 i22 rfl (fun _ => rfl) rfl (by decide) (by omega) dX3_reachOf_73 ?_
            refine g_csi (pc := 74) (na := 2) (As := [.int (nI (rchP τ one two set8 i22)), .int (nI (τ 3 i22))]) (rest := [.int (nI (rchP τ one two set8 i22))]) C0 (mM_has l (rchP τ one two set8 i22) (τ 3 i22) (by omega) (by omega)) q1216 q1217 q60 q1218 (by decide +kernel) ⟨Nat.le_of_ble_eq_true rfl, Nat.le_of_ble_eq_true rfl⟩ rfl rfl ⟨Nat.le_of_ble_eq_true rfl, Nat.le_of_ble_eq_true rfl⟩ rfl rfl (Nat.le_of_ble_eq_true rfl) dX3_reachOf_74 ?_
            refine g_if_eqB (pc := 77) 92 C0 dX3_reachOf_77 (by decide) (fun h77 => ?_) (fun h77 => ?_)
            · refine g_iconst (pc := 92) (v := (nI 0)) C0 dX3_reachOf_92 (by decide) ?_
              exact J93 (nI 0) (congrArg nI (by simp [h12, h62, h77] <;> omega))
            · refine g_iconst (pc := 80) (v := (nI 1)) C0 dX3_reachOf_80 (by decide) ?_
              refine g_aload_n (pc := 81) 0 C0 rfl dX3_reachOf_81 rfl ?_
              refine m_get (pc := 82) (v := .ref (ad 4)) C0 4 (by decide) q973 rfl dX3_reachOf_82 ?_
              refine g_iload (pc := 85) 6 C0 rfl dX3_reachOf_85 ?_
              refine g_iald (pc := 87) (q0 := 3) (t0 := 0) C0 i22 rfl (fun _ => rfl) rfl (by decide) (by omega) dX3_reachOf_87 ?_
              refine g_ishl1N (pc := 88) C0 (by omega) dX3_reachOf_88 ?_
              refine g_goto (pc := 89) 93 C0 dX3_reachOf_89 (by decide) ?_
              exact J93 (nI (2 ^ (τ 4 i22))) (congrArg nI (by simp [h12, h62, h77] <;> omega))
      · refine g_aload_n (pc := 31) 0 C0 rfl dX3_reachOf_31 rfl ?_
        refine g_iload (pc := 32) 6 C0 rfl dX3_reachOf_32 ?_
        refine g_iload_n (pc := 34) 2 C0 rfl dX3_reachOf_34 rfl ?_
        refine g_cvi (pc := 35) (na := 2) (As := [.int (nI i22), .int (nI one)]) (rest := []) C0 (mM_isFit l D dT ad τ i22 one hw (by omega) (by omega)) (q0 := 0) (j := 0) (ci := 0) (C := RX3) (T := TX3) (N := 44) rfl rfl rfl q1196 q1198 qs44 q60 q1199 (by decide +kernel) ⟨Nat.le_of_ble_eq_true rfl, Nat.le_of_ble_eq_true rfl⟩ rfl rfl ⟨Nat.le_of_ble_eq_true rfl, Nat.le_of_ble_eq_true rfl⟩ rfl rfl (Nat.le_of_ble_eq_true rfl) dX3_reachOf_35 (fun r τ0 hc => ?_)
        obtain ⟨rfl, rfl⟩ := hc
        refine g_if_neB (pc := 38) 51 C0 dX3_reachOf_38 (by decide) (fun h38 => ?_) (fun h38 => ?_)
        · refine g_iconst (pc := 51) (v := (nI 1)) C0 dX3_reachOf_51 (by decide) ?_
          refine g_goto (pc := 52) 56 C0 dX3_reachOf_52 (by decide) ?_
          exact J56 (nI 1) (bret1 (by simp [h12, h38] <;> omega))
        · refine g_aload_n (pc := 41) 0 C0 rfl dX3_reachOf_41 rfl ?_
          refine g_iload (pc := 42) 6 C0 rfl dX3_reachOf_42 ?_
          refine g_iload_n (pc := 44) 3 C0 rfl dX3_reachOf_44 rfl ?_
          refine g_cvi (pc := 45) (na := 2) (As := [.int (nI i22), .int (nI two)]) (rest := []) C0 (mM_isFit l D dT ad τ i22 two hw (by omega) (by omega)) (q0 := 0) (j := 0) (ci := 0) (C := RX3) (T := TX3) (N := 44) rfl rfl rfl q1196 q1198 qs44 q60 q1199 (by decide +kernel) ⟨Nat.le_of_ble_eq_true rfl, Nat.le_of_ble_eq_true rfl⟩ rfl rfl ⟨Nat.le_of_ble_eq_true rfl, Nat.le_of_ble_eq_true rfl⟩ rfl rfl (Nat.le_of_ble_eq_true rfl) dX3_reachOf_45 (fun r τ0 hc => ?_)
          obtain ⟨rfl, rfl⟩ := hc
          refine g_if_eqB (pc := 48) 55 C0 dX3_reachOf_48 (by decide) (fun h48 => ?_) (fun h48 => ?_)
          · refine g_iconst (pc := 55) (v := (nI 0)) C0 dX3_reachOf_55 (by decide) ?_
            exact J56 (nI 0) (bret0 (by simp [h12, h38, h48] <;> omega))
          · refine g_iconst (pc := 51) (v := (nI 1)) C0 dX3_reachOf_51 (by decide) ?_
            refine g_goto (pc := 52) 56 C0 dX3_reachOf_52 (by decide) ?_
            exact J56 (nI 1) (bret1 (by simp [h12, h38, h48] <;> omega))
set_option maxHeartbeats 4000000 in
set_option maxRecDepth 100000 in
theorem mM_reachOfPerson (l : Launch) (D : va_G) (dT : Nat → ClassId) (ad : Nat → Nat) (τ : tT) (q : Nat) (hw : wfT τ) (hp : wfP τ) (hq : q < τ 0 8) : MI l D dT ad yX3_reachOfPerson cX3_reachOfPerson 2 .int ({ frames := 2, cells := 0, slots := 0, locals := 52 }) [.int (nI q)] τ (fun rr τ' => rr = (nI (reachP τ q)) ∧ τ = τ') := by
  refine CI.ofG (own := "FittingStridesModel") (L := [some (.ref (ad 0)), some (.int (nI q))]) rfl (by decide) (Nat.le_of_ble_eq_true rfl) rfl ?_
  intro p' e' s' m' bl' mt' c' C0
  obtain ⟨hp0, hp1, hp2⟩ := id hp
  obtain ⟨g1, g2, g3, g4⟩ := hp2 q hq
  have hw0 := hw.2.1
  refine g_aload_n (pc := 0) 0 C0 rfl dX3_reachOfPerson_0 rfl ?_
  refine g_aload_n (pc := 1) 0 C0 rfl dX3_reachOfPerson_1 rfl ?_
  refine m_get (pc := 2) (v := .ref (ad 9)) C0 9 (by decide) q978 rfl dX3_reachOfPerson_2 ?_
  refine g_iload_n (pc := 5) 1 C0 rfl dX3_reachOfPerson_5 rfl ?_
  refine g_iald (pc := 6) (q0 := 7) (t0 := 0) C0 q rfl (fun _ => rfl) rfl (by decide) (by omega) dX3_reachOfPerson_6 ?_
  refine g_aload_n (pc := 7) 0 C0 rfl dX3_reachOfPerson_7 rfl ?_
  refine m_get (pc := 8) (v := .ref (ad 10)) C0 10 (by decide) q979 rfl dX3_reachOfPerson_8 ?_
  refine g_iload_n (pc := 11) 1 C0 rfl dX3_reachOfPerson_11 rfl ?_
  refine g_iald (pc := 12) (q0 := 8) (t0 := 0) C0 q rfl (fun _ => rfl) rfl (by decide) (by omega) dX3_reachOfPerson_12 ?_
  refine g_aload_n (pc := 13) 0 C0 rfl dX3_reachOfPerson_13 rfl ?_
  refine m_get (pc := 14) (v := .ref (ad 11)) C0 11 (by decide) q980 rfl dX3_reachOfPerson_14 ?_
  refine g_iload_n (pc := 17) 1 C0 rfl dX3_reachOfPerson_17 rfl ?_
  refine g_iald (pc := 18) (q0 := 9) (t0 := 0) C0 q rfl (fun _ => rfl) rfl (by decide) (by omega) dX3_reachOfPerson_18 ?_
  refine g_cvi (pc := 19) (na := 3) (As := [.int (nI (τ 9 q)), .int (nI (τ 10 q)), .int (nI (τ 11 q))]) (rest := []) C0 (mM_reachOf l D dT ad τ (τ 9 q) (τ 10 q) (τ 11 q) hw hp (by omega) (by omega) (by omega)) (q0 := 0) (j := 0) (ci := 0) (C := RX3) (T := TX3) (N := 44) rfl rfl rfl q1212 q1214 qs47 q60 q1215 (by decide +kernel) ⟨Nat.le_of_ble_eq_true rfl, Nat.le_of_ble_eq_true rfl⟩ rfl rfl ⟨Nat.le_of_ble_eq_true rfl, Nat.le_of_ble_eq_true rfl⟩ rfl rfl (Nat.le_of_ble_eq_true rfl) dX3_reachOfPerson_19 (fun r τ0 hc => ?_)
  obtain ⟨rfl, rfl⟩ := hc
  exact g_iret (pc := 22) C0 dX3_reachOfPerson_22 ⟨rfl, rfl⟩
set_option maxHeartbeats 4000000 in
set_option maxRecDepth 100000 in
theorem mM_person (l : Launch) (D : va_G) (dT : Nat → ClassId) (ad : Nat → Nat) (τ : tT) (q : Int32) (w : Int32) (hw : wfT τ) (hp : wfP τ) : MI l D dT ad yX3_person cX3_person 3 .int ({ frames := 3, cells := 0, slots := 0, locals := 73 }) [.int q, .int w] τ (fun rr τ' => rr = (pPerson τ q w) ∧ τ = τ') := by
  refine CI.ofG (own := "FittingStridesModel") (L := [some (.ref (ad 0)), some (.int q), some (.int w)]) rfl (by decide) (Nat.le_of_ble_eq_true rfl) rfl ?_
  intro p' e' s' m' bl' mt' c' C0
  have hw1 := hw.1
  have hw0 := hw.2.1
  have hp0 := hp.1
  have hp1 := hp.2.1
  refine g_aload_n (pc := 0) 0 C0 rfl dX3_person_0 rfl ?_
  refine g_iload_n (pc := 1) 1 C0 rfl dX3_person_1 rfl ?_
  refine g_cvi (pc := 2) (na := 1) (As := [.int q]) (rest := []) C0 (mM_isPerson l D dT ad τ q (by omega)) (q0 := 0) (j := 0) (ci := 0) (C := RX3) (T := TX3) (N := 44) rfl rfl rfl q1204 q1206 qs45 q60 q1207 (by decide +kernel) ⟨Nat.le_of_ble_eq_true rfl, Nat.le_of_ble_eq_true rfl⟩ rfl rfl ⟨Nat.le_of_ble_eq_true rfl, Nat.le_of_ble_eq_true rfl⟩ rfl rfl (Nat.le_of_ble_eq_true rfl) dX3_person_2 (fun r τ0 hc => ?_)
  obtain ⟨rfl, rfl⟩ := hc
  refine g_if_neB (pc := 5) 11 C0 dX3_person_5 (by decide) (fun h5 => ?_) (fun h5 => ?_)
  · obtain ⟨q1, rfl, q1h, q1b⟩ := ixB_t h5
    obtain ⟨g1, g2, g3, g4⟩ := hp.2.2 q1 q1h
    refine g_iload_n (pc := 11) 2 C0 rfl dX3_person_11 rfl ?_
    refine g_if_neX (pc := 12) 24 C0 dX3_person_12 (by decide) (fun h12 => ?_) (fun h12 => ?_)
    · refine g_iload_n (pc := 24) 2 C0 rfl dX3_person_24 rfl ?_
      refine g_iconst (pc := 25) (v := (nI 1)) C0 dX3_person_25 (by decide) ?_
      refine g_icmp_ne (pc := 26) 38 C0 dX3_person_26 (by decide) (fun h26 => ?_) (fun h26 => ?_)
      · refine g_iload_n (pc := 38) 2 C0 rfl dX3_person_38 rfl ?_
        refine g_iconst (pc := 39) (v := (nI 2)) C0 dX3_person_39 (by decide) ?_
        refine g_icmp_ne (pc := 40) 52 C0 dX3_person_40 (by decide) (fun h40 => ?_) (fun h40 => ?_)
        · refine g_iload_n (pc := 52) 2 C0 rfl dX3_person_52 rfl ?_
          refine g_iconst (pc := 53) (v := (nI 3)) C0 dX3_person_53 (by decide) ?_
          refine g_icmp_ne (pc := 54) 65 C0 dX3_person_54 (by decide) (fun h54 => ?_) (fun h54 => ?_)
          · refine g_ldc (pc := 65) (v := -1000000002) C0 q1110 dX3_person_65 ?_
            exact g_iret (pc := 67) C0 dX3_person_67 ⟨by rw [pPerson, if_pos h5, nI_clamp q1b, pPersonN, if_neg h12, if_neg h26, if_neg h40, if_neg h54]; first | done | rfl, rfl⟩
          · refine g_aload_n (pc := 57) 0 C0 rfl dX3_person_57 rfl ?_
            refine g_iload_n (pc := 58) 1 C0 rfl dX3_person_58 rfl ?_
            refine g_cvi (pc := 59) (na := 1) (As := [.int (nI q1)]) (rest := []) C0 (mM_reachOfPerson l D dT ad τ q1 hw hp (by omega)) (q0 := 0) (j := 0) (ci := 0) (C := RX3) (T := TX3) (N := 44) rfl rfl rfl q1208 q1210 qs46 q60 q1211 (by decide +kernel) ⟨Nat.le_of_ble_eq_true rfl, Nat.le_of_ble_eq_true rfl⟩ rfl rfl ⟨Nat.le_of_ble_eq_true rfl, Nat.le_of_ble_eq_true rfl⟩ rfl rfl (Nat.le_of_ble_eq_true rfl) dX3_person_59 (fun r τ0 hc => ?_)
            obtain ⟨rfl, rfl⟩ := hc
            refine g_goto (pc := 62) 67 C0 dX3_person_62 (by decide) ?_
            exact g_iret (pc := 67) C0 dX3_person_67 ⟨by rw [pPerson, if_pos h5, nI_clamp q1b, pPersonN, if_neg h12, if_neg h26, if_neg h40, if_pos h54]; first | done | rfl, rfl⟩
        · refine g_aload_n (pc := 43) 0 C0 rfl dX3_person_43 rfl ?_
          refine m_get (pc := 44) (v := .ref (ad 11)) C0 11 (by decide) q980 rfl dX3_person_44 ?_
          refine g_iload_n (pc := 47) 1 C0 rfl dX3_person_47 rfl ?_
          refine g_iald (pc := 48) (q0 := 9) (t0 := 0) C0 q1 rfl (fun _ => rfl) rfl (by decide) (by omega) dX3_person_48 ?_
          refine g_goto (pc := 49) 67 C0 dX3_person_49 (by decide) ?_
          exact g_iret (pc := 67) C0 dX3_person_67 ⟨by rw [pPerson, if_pos h5, nI_clamp q1b, pPersonN, if_neg h12, if_neg h26, if_pos h40]; first | done | rfl, rfl⟩
      · refine g_aload_n (pc := 29) 0 C0 rfl dX3_person_29 rfl ?_
        refine m_get (pc := 30) (v := .ref (ad 10)) C0 10 (by decide) q979 rfl dX3_person_30 ?_
        refine g_iload_n (pc := 33) 1 C0 rfl dX3_person_33 rfl ?_
        refine g_iald (pc := 34) (q0 := 8) (t0 := 0) C0 q1 rfl (fun _ => rfl) rfl (by decide) (by omega) dX3_person_34 ?_
        refine g_goto (pc := 35) 67 C0 dX3_person_35 (by decide) ?_
        exact g_iret (pc := 67) C0 dX3_person_67 ⟨by rw [pPerson, if_pos h5, nI_clamp q1b, pPersonN, if_neg h12, if_pos h26]; first | done | rfl, rfl⟩
    · refine g_aload_n (pc := 15) 0 C0 rfl dX3_person_15 rfl ?_
      refine m_get (pc := 16) (v := .ref (ad 9)) C0 9 (by decide) q978 rfl dX3_person_16 ?_
      refine g_iload_n (pc := 19) 1 C0 rfl dX3_person_19 rfl ?_
      refine g_iald (pc := 20) (q0 := 7) (t0 := 0) C0 q1 rfl (fun _ => rfl) rfl (by decide) (by omega) dX3_person_20 ?_
      refine g_goto (pc := 21) 67 C0 dX3_person_21 (by decide) ?_
      exact g_iret (pc := 67) C0 dX3_person_67 ⟨by rw [pPerson, if_pos h5, nI_clamp q1b, pPersonN, if_pos h12]; first | done | rfl, rfl⟩
  · refine g_ldc (pc := 8) (v := -1000000001) C0 q1187 dX3_person_8 ?_
    exact g_iret (pc := 10) C0 dX3_person_10 ⟨by rw [pPerson, h5]; rfl, rfl⟩
set_option maxHeartbeats 4000000 in
set_option maxRecDepth 100000 in
theorem mM_fit (l : Launch) (D : va_G) (dT : Nat → ClassId) (ad : Nat → Nat) (τ : tT) (r : Int32) (z : Int32) (hw : wfT τ) : MI l D dT ad yX3_fit cX3_fit 3 .int ({ frames := 2, cells := 0, slots := 0, locals := 46 }) [.int r, .int z] τ (fun rr τ' => rr = (pFit τ r z) ∧ τ = τ') := by
  refine CI.ofG (own := "FittingStridesModel") (L := [some (.ref (ad 0)), some (.int r), some (.int z)]) rfl (by decide) (Nat.le_of_ble_eq_true rfl) rfl ?_
  intro p' e' s' m' bl' mt' c' C0
  have hw1 := hw.1
  refine g_aload_n (pc := 0) 0 C0 rfl dX3_fit_0 rfl ?_
  refine g_iload_n (pc := 1) 1 C0 rfl dX3_fit_1 rfl ?_
  refine g_cvi (pc := 2) (na := 1) (As := [.int r]) (rest := []) C0 (mM_isStair l D dT ad τ r (by omega)) (q0 := 0) (j := 0) (ci := 0) (C := RX3) (T := TX3) (N := 44) rfl rfl rfl q1183 q1185 qs41 q60 q1186 (by decide +kernel) ⟨Nat.le_of_ble_eq_true rfl, Nat.le_of_ble_eq_true rfl⟩ rfl rfl ⟨Nat.le_of_ble_eq_true rfl, Nat.le_of_ble_eq_true rfl⟩ rfl rfl (Nat.le_of_ble_eq_true rfl) dX3_fit_2 (fun r τ0 hc => ?_)
  obtain ⟨rfl, rfl⟩ := hc
  refine g_if_neB (pc := 5) 11 C0 dX3_fit_5 (by decide) (fun h5 => ?_) (fun h5 => ?_)
  · obtain ⟨r1, rfl, r1h, r1b⟩ := ixB_t h5
    refine g_iload_n (pc := 11) 2 C0 rfl dX3_fit_11 rfl ?_
    refine g_i2l (pc := 12) (v := z.toInt64) C0 dX3_fit_12 rfl ?_
    refine g_lconst (pc := 13) (v := lN 1) C0 dX3_fit_13 (by decide) ?_
    have c14 : Jvm.Cond.constantLong "FittingStridesModel" 238 (lN 24) ∈ lw_all := q1223
    refine g_ldc2 (pc := 14) (v := lN 24) C0 c14 dX3_fit_14 ?_
    refine g_csi (pc := 17) (na := 3) (As := [.long z.toInt64, .long (lN 1), .long (lN 24)]) (rest := []) C0 (mM_in l z.toInt64 (lN 1) (lN 24) ) q1107 q1108 q60 q1109 (by decide +kernel) ⟨Nat.le_of_ble_eq_true rfl, Nat.le_of_ble_eq_true rfl⟩ rfl rfl ⟨Nat.le_of_ble_eq_true rfl, Nat.le_of_ble_eq_true rfl⟩ rfl rfl (Nat.le_of_ble_eq_true rfl) dX3_fit_17 ?_
    refine g_if_neB (pc := 20) 28 C0 dX3_fit_20 (by decide) (fun h20 => ?_) (fun h20 => ?_)
    · rw [inB_rg z (lo := 1) (hi := 24) (by decide) (by decide)] at h20
      obtain ⟨z1, rfl, z1l, z1h, z1b⟩ := rgB_t h20
      refine g_aload_n (pc := 28) 0 C0 rfl dX3_fit_28 rfl ?_
      refine g_iload_n (pc := 29) 1 C0 rfl dX3_fit_29 rfl ?_
      refine g_iload_n (pc := 30) 2 C0 rfl dX3_fit_30 rfl ?_
      refine g_cvi (pc := 31) (na := 2) (As := [.int (nI r1), .int (nI z1)]) (rest := []) C0 (mM_isFit l D dT ad τ r1 z1 hw (by omega) (by omega)) (q0 := 0) (j := 0) (ci := 0) (C := RX3) (T := TX3) (N := 44) rfl rfl rfl q1196 q1198 qs44 q60 q1199 (by decide +kernel) ⟨Nat.le_of_ble_eq_true rfl, Nat.le_of_ble_eq_true rfl⟩ rfl rfl ⟨Nat.le_of_ble_eq_true rfl, Nat.le_of_ble_eq_true rfl⟩ rfl rfl (Nat.le_of_ble_eq_true rfl) dX3_fit_31 (fun r τ0 hc => ?_)
      obtain ⟨rfl, rfl⟩ := hc
      refine g_if_eqB (pc := 34) 41 C0 dX3_fit_34 (by decide) (fun h34 => ?_) (fun h34 => ?_)
      · refine g_iconst (pc := 41) (v := (nI 0)) C0 dX3_fit_41 (by decide) ?_
        exact g_iret (pc := 42) C0 dX3_fit_42 ⟨by rw [pFit, if_pos h5, if_pos h20, nI_clamp r1b, nI_clamp z1b, h34]; rfl, rfl⟩
      · refine g_iconst (pc := 37) (v := (nI 1)) C0 dX3_fit_37 (by decide) ?_
        refine g_goto (pc := 38) 42 C0 dX3_fit_38 (by decide) ?_
        exact g_iret (pc := 42) C0 dX3_fit_42 ⟨by rw [pFit, if_pos h5, if_pos h20, nI_clamp r1b, nI_clamp z1b, h34]; rfl, rfl⟩
    · rw [inB_rg z (lo := 1) (hi := 24) (by decide) (by decide)] at h20
      refine g_ldc (pc := 23) (v := -1000000002) C0 q1110 dX3_fit_23 ?_
      refine g_goto (pc := 25) 42 C0 dX3_fit_25 (by decide) ?_
      exact g_iret (pc := 42) C0 dX3_fit_42 ⟨by rw [pFit, if_pos h5, h20]; rfl, rfl⟩
  · refine g_ldc (pc := 8) (v := -1000000001) C0 q1187 dX3_fit_8 ?_
    exact g_iret (pc := 10) C0 dX3_fit_10 ⟨by rw [pFit, h5]; rfl, rfl⟩
set_option maxHeartbeats 4000000 in
set_option maxRecDepth 100000 in
theorem mM_canGo (l : Launch) (D : va_G) (dT : Nat → ClassId) (ad : Nat → Nat) (τ : tT) (q : Nat) (r : Nat) (hw : wfT τ) (hp : wfP τ) (hq : q < τ 0 8) (hr : r < τ 0 1) : MI l D dT ad yX3_canGo cX3_canGo 3 .boolean ({ frames := 2, cells := 0, slots := 0, locals := 47 }) [.int (nI q), .int (nI r)] τ (fun rr τ' => rr = (nI (bN (sCan τ q r))) ∧ τ = τ') := by
  refine CI.ofG (own := "FittingStridesModel") (L := [some (.ref (ad 0)), some (.int (nI q)), some (.int (nI r))]) rfl (by decide) (Nat.le_of_ble_eq_true rfl) rfl ?_
  intro p' e' s' m' bl' mt' c' C0
  have hw1 := hw.1
  have hw0 := hw.2.1
  have hp0 := hp.1
  have hp1 := hp.2.1
  obtain ⟨g1, g2, g3, g4⟩ := hp.2.2 q hq
  obtain ⟨k1, k2, k3, k4, k5, k6, k7⟩ := hw.2.2 r hr
  refine g_aload_n (pc := 0) 0 C0 rfl dX3_canGo_0 rfl ?_
  refine m_get (pc := 1) (v := .ref (ad 9)) C0 9 (by decide) q978 rfl dX3_canGo_1 ?_
  refine g_iload_n (pc := 4) 1 C0 rfl dX3_canGo_4 rfl ?_
  refine g_iald (pc := 5) (q0 := 7) (t0 := 0) C0 q rfl (fun _ => rfl) rfl (by decide) (by omega) dX3_canGo_5 ?_
  refine g_aload_n (pc := 6) 0 C0 rfl dX3_canGo_6 rfl ?_
  refine m_get (pc := 7) (v := .ref (ad 3)) C0 3 (by decide) q972 rfl dX3_canGo_7 ?_
  refine g_iload_n (pc := 10) 2 C0 rfl dX3_canGo_10 rfl ?_
  refine g_iald (pc := 11) (q0 := 2) (t0 := 0) C0 r rfl (fun _ => rfl) rfl (by decide) (by omega) dX3_canGo_11 ?_
  refine g_icmp_neN (pc := 12) 24 C0 (by omega) (by omega) dX3_canGo_12 (by decide) (fun h12 => ?_) (fun h12 => ?_)
  · refine g_aload_n (pc := 24) 0 C0 rfl dX3_canGo_24 rfl ?_
    refine m_get (pc := 25) (v := .ref (ad 9)) C0 9 (by decide) q978 rfl dX3_canGo_25 ?_
    refine g_iload_n (pc := 28) 1 C0 rfl dX3_canGo_28 rfl ?_
    refine g_iald (pc := 29) (q0 := 7) (t0 := 0) C0 q rfl (fun _ => rfl) rfl (by decide) (by omega) dX3_canGo_29 ?_
    refine g_aload_n (pc := 30) 0 C0 rfl dX3_canGo_30 rfl ?_
    refine m_get (pc := 31) (v := .ref (ad 4)) C0 4 (by decide) q973 rfl dX3_canGo_31 ?_
    refine g_iload_n (pc := 34) 2 C0 rfl dX3_canGo_34 rfl ?_
    refine g_iald (pc := 35) (q0 := 3) (t0 := 0) C0 r rfl (fun _ => rfl) rfl (by decide) (by omega) dX3_canGo_35 ?_
    refine g_icmp_neN (pc := 36) 60 C0 (by omega) (by omega) dX3_canGo_36 (by decide) (fun h36 => ?_) (fun h36 => ?_)
    · refine g_iconst (pc := 60) (v := (nI 0)) C0 dX3_canGo_60 (by decide) ?_
      exact g_zret (pc := 61) C0 dX3_canGo_61 (by decide) ⟨bret0 (by simp [sCan, h12, h36] <;> omega), rfl⟩
    · refine g_aload_n (pc := 39) 0 C0 rfl dX3_canGo_39 rfl ?_
      refine m_get (pc := 40) (v := .int (nI (τ 0 12))) C0 12 (by decide) q981 rfl dX3_canGo_40 ?_
      refine g_iconst (pc := 43) (v := (nI 1)) C0 dX3_canGo_43 (by decide) ?_
      refine g_icmp_eqN (pc := 44) 56 C0 (by omega) (by decide) dX3_canGo_44 (by decide) (fun h44 => ?_) (fun h44 => ?_)
      · refine g_iconst (pc := 56) (v := (nI 1)) C0 dX3_canGo_56 (by decide) ?_
        refine g_goto (pc := 57) 61 C0 dX3_canGo_57 (by decide) ?_
        exact g_zret (pc := 61) C0 dX3_canGo_61 (by decide) ⟨bret1 (by simp [sCan, h12, h36, h44] <;> omega), rfl⟩
      · refine g_aload_n (pc := 47) 0 C0 rfl dX3_canGo_47 rfl ?_
        refine g_iload_n (pc := 48) 1 C0 rfl dX3_canGo_48 rfl ?_
        refine g_iload_n (pc := 49) 2 C0 rfl dX3_canGo_49 rfl ?_
        refine g_cvi (pc := 50) (na := 2) (As := [.int (nI q), .int (nI r)]) (rest := []) C0 (mM_mayClimb l D dT ad τ q r hw hp (by omega) (by omega)) (q0 := 0) (j := 0) (ci := 0) (C := RX3) (T := TX3) (N := 44) rfl rfl rfl q1192 q1194 qs43 q60 q1195 (by decide +kernel) ⟨Nat.le_of_ble_eq_true rfl, Nat.le_of_ble_eq_true rfl⟩ rfl rfl ⟨Nat.le_of_ble_eq_true rfl, Nat.le_of_ble_eq_true rfl⟩ rfl rfl (Nat.le_of_ble_eq_true rfl) dX3_canGo_50 (fun r τ0 hc => ?_)
        obtain ⟨rfl, rfl⟩ := hc
        refine g_if_eqB (pc := 53) 60 C0 dX3_canGo_53 (by decide) (fun h53 => ?_) (fun h53 => ?_)
        · refine g_iconst (pc := 60) (v := (nI 0)) C0 dX3_canGo_60 (by decide) ?_
          exact g_zret (pc := 61) C0 dX3_canGo_61 (by decide) ⟨bret0 (by simp [sCan, h12, h36, h44, h53] <;> omega), rfl⟩
        · refine g_iconst (pc := 56) (v := (nI 1)) C0 dX3_canGo_56 (by decide) ?_
          refine g_goto (pc := 57) 61 C0 dX3_canGo_57 (by decide) ?_
          exact g_zret (pc := 61) C0 dX3_canGo_61 (by decide) ⟨bret1 (by simp [sCan, h12, h36, h44, h53] <;> omega), rfl⟩
  · refine g_aload_n (pc := 15) 0 C0 rfl dX3_canGo_15 rfl ?_
    refine g_iload_n (pc := 16) 1 C0 rfl dX3_canGo_16 rfl ?_
    refine g_iload_n (pc := 17) 2 C0 rfl dX3_canGo_17 rfl ?_
    refine g_cvi (pc := 18) (na := 2) (As := [.int (nI q), .int (nI r)]) (rest := []) C0 (mM_mayClimb l D dT ad τ q r hw hp (by omega) (by omega)) (q0 := 0) (j := 0) (ci := 0) (C := RX3) (T := TX3) (N := 44) rfl rfl rfl q1192 q1194 qs43 q60 q1195 (by decide +kernel) ⟨Nat.le_of_ble_eq_true rfl, Nat.le_of_ble_eq_true rfl⟩ rfl rfl ⟨Nat.le_of_ble_eq_true rfl, Nat.le_of_ble_eq_true rfl⟩ rfl rfl (Nat.le_of_ble_eq_true rfl) dX3_canGo_18 (fun r τ0 hc => ?_)
    obtain ⟨rfl, rfl⟩ := hc
    refine g_if_neB (pc := 21) 56 C0 dX3_canGo_21 (by decide) (fun h21 => ?_) (fun h21 => ?_)
    · refine g_iconst (pc := 56) (v := (nI 1)) C0 dX3_canGo_56 (by decide) ?_
      refine g_goto (pc := 57) 61 C0 dX3_canGo_57 (by decide) ?_
      exact g_zret (pc := 61) C0 dX3_canGo_61 (by decide) ⟨bret1 (by simp [sCan, h12, h21] <;> omega), rfl⟩
    · refine g_aload_n (pc := 24) 0 C0 rfl dX3_canGo_24 rfl ?_
      refine m_get (pc := 25) (v := .ref (ad 9)) C0 9 (by decide) q978 rfl dX3_canGo_25 ?_
      refine g_iload_n (pc := 28) 1 C0 rfl dX3_canGo_28 rfl ?_
      refine g_iald (pc := 29) (q0 := 7) (t0 := 0) C0 q rfl (fun _ => rfl) rfl (by decide) (by omega) dX3_canGo_29 ?_
      refine g_aload_n (pc := 30) 0 C0 rfl dX3_canGo_30 rfl ?_
      refine m_get (pc := 31) (v := .ref (ad 4)) C0 4 (by decide) q973 rfl dX3_canGo_31 ?_
      refine g_iload_n (pc := 34) 2 C0 rfl dX3_canGo_34 rfl ?_
      refine g_iald (pc := 35) (q0 := 3) (t0 := 0) C0 r rfl (fun _ => rfl) rfl (by decide) (by omega) dX3_canGo_35 ?_
      refine g_icmp_neN (pc := 36) 60 C0 (by omega) (by omega) dX3_canGo_36 (by decide) (fun h36 => ?_) (fun h36 => ?_)
      · refine g_iconst (pc := 60) (v := (nI 0)) C0 dX3_canGo_60 (by decide) ?_
        exact g_zret (pc := 61) C0 dX3_canGo_61 (by decide) ⟨bret0 (by simp [sCan, h12, h21, h36] <;> omega), rfl⟩
      · refine g_aload_n (pc := 39) 0 C0 rfl dX3_canGo_39 rfl ?_
        refine m_get (pc := 40) (v := .int (nI (τ 0 12))) C0 12 (by decide) q981 rfl dX3_canGo_40 ?_
        refine g_iconst (pc := 43) (v := (nI 1)) C0 dX3_canGo_43 (by decide) ?_
        refine g_icmp_eqN (pc := 44) 56 C0 (by omega) (by decide) dX3_canGo_44 (by decide) (fun h44 => ?_) (fun h44 => ?_)
        · refine g_iconst (pc := 56) (v := (nI 1)) C0 dX3_canGo_56 (by decide) ?_
          refine g_goto (pc := 57) 61 C0 dX3_canGo_57 (by decide) ?_
          exact g_zret (pc := 61) C0 dX3_canGo_61 (by decide) ⟨bret1 (by simp [sCan, h12, h21, h36, h44] <;> omega), rfl⟩
        · refine g_aload_n (pc := 47) 0 C0 rfl dX3_canGo_47 rfl ?_
          refine g_iload_n (pc := 48) 1 C0 rfl dX3_canGo_48 rfl ?_
          refine g_iload_n (pc := 49) 2 C0 rfl dX3_canGo_49 rfl ?_
          refine g_cvi (pc := 50) (na := 2) (As := [.int (nI q), .int (nI r)]) (rest := []) C0 (mM_mayClimb l D dT ad τ q r hw hp (by omega) (by omega)) (q0 := 0) (j := 0) (ci := 0) (C := RX3) (T := TX3) (N := 44) rfl rfl rfl q1192 q1194 qs43 q60 q1195 (by decide +kernel) ⟨Nat.le_of_ble_eq_true rfl, Nat.le_of_ble_eq_true rfl⟩ rfl rfl ⟨Nat.le_of_ble_eq_true rfl, Nat.le_of_ble_eq_true rfl⟩ rfl rfl (Nat.le_of_ble_eq_true rfl) dX3_canGo_50 (fun r τ0 hc => ?_)
          obtain ⟨rfl, rfl⟩ := hc
          refine g_if_eqB (pc := 53) 60 C0 dX3_canGo_53 (by decide) (fun h53 => ?_) (fun h53 => ?_)
          · refine g_iconst (pc := 60) (v := (nI 0)) C0 dX3_canGo_60 (by decide) ?_
            exact g_zret (pc := 61) C0 dX3_canGo_61 (by decide) ⟨bret0 (by simp [sCan, h12, h21, h36, h44, h53] <;> omega), rfl⟩
          · refine g_iconst (pc := 56) (v := (nI 1)) C0 dX3_canGo_56 (by decide) ?_
            refine g_goto (pc := 57) 61 C0 dX3_canGo_57 (by decide) ?_
            exact g_zret (pc := 61) C0 dX3_canGo_61 (by decide) ⟨bret1 (by simp [sCan, h12, h21, h36, h44, h53] <;> omega), rfl⟩
set_option maxHeartbeats 4000000 in
set_option maxRecDepth 100000 in
theorem mM_goNow (l : Launch) (D : va_G) (dT : Nat → ClassId) (ad : Nat → Nat) (τ : tT) (q : Nat) (r : Nat) (hw : wfT τ) (hp : wfP τ) (hq : q < τ 0 8) (hr : r < τ 0 1) : MV l D dT ad yX3_goNow cX3_goNow 7 ({ frames := 1, cells := 0, slots := 0, locals := 25 }) [.int (nI q), .int (nI r)] τ (fun τ' => (goT τ q r) = τ') := by
  refine CV.ofG (own := "FittingStridesModel") (L := [some (.ref (ad 0)), some (.int (nI q)), some (.int (nI r)), none, none, none, none]) rfl (by decide) (Nat.le_of_ble_eq_true rfl) rfl ?_
  intro p' e' s' m' bl' mt' c' C0
  have hw1 := hw.1
  have hw0 := hw.2.1
  have hp0 := hp.1
  have hp1 := hp.2.1
  obtain ⟨g1, g2, g3, g4⟩ := hp.2.2 q hq
  obtain ⟨k1, k2, k3, k4, k5, k6, k7⟩ := hw.2.2 r hr
  refine g_aload_n (pc := 0) 0 C0 rfl dX3_goNow_0 rfl ?_
  refine g_iload_n (pc := 1) 2 C0 rfl dX3_goNow_1 rfl ?_
  refine g_aload_n (pc := 2) 0 C0 rfl dX3_goNow_2 rfl ?_
  refine m_get (pc := 3) (v := .ref (ad 10)) C0 10 (by decide) q979 rfl dX3_goNow_3 ?_
  refine g_iload_n (pc := 6) 1 C0 rfl dX3_goNow_6 rfl ?_
  refine g_iald (pc := 7) (q0 := 8) (t0 := 0) C0 q rfl (fun _ => rfl) rfl (by decide) (by omega) dX3_goNow_7 ?_
  refine g_cvi (pc := 8) (na := 2) (As := [.int (nI r), .int (nI (τ 10 q))]) (rest := []) C0 (mM_isFit l D dT ad τ r (τ 10 q) hw (by omega) (by omega)) (q0 := 0) (j := 0) (ci := 0) (C := RX3) (T := TX3) (N := 44) rfl rfl rfl q1196 q1198 qs44 q60 q1199 (by decide +kernel) ⟨Nat.le_of_ble_eq_true rfl, Nat.le_of_ble_eq_true rfl⟩ rfl rfl ⟨Nat.le_of_ble_eq_true rfl, Nat.le_of_ble_eq_true rfl⟩ rfl rfl (Nat.le_of_ble_eq_true rfl) dX3_goNow_8 (fun r τ0 hc => ?_)
  obtain ⟨rfl, rfl⟩ := hc
  refine g_istore_n (pc := 11) 3 C0 (L1 := [some (.ref (ad 0)), some (.int (nI q)), some (.int (nI r)), some (.int (nI (bN (sFit τ r (τ 10 q))))), none, none, none]) rfl (by decide) dX3_goNow_11 rfl rfl ?_
  refine g_aload_n (pc := 12) 0 C0 rfl dX3_goNow_12 rfl ?_
  refine g_iload_n (pc := 13) 2 C0 rfl dX3_goNow_13 rfl ?_
  refine g_aload_n (pc := 14) 0 C0 rfl dX3_goNow_14 rfl ?_
  refine m_get (pc := 15) (v := .ref (ad 11)) C0 11 (by decide) q980 rfl dX3_goNow_15 ?_
  refine g_iload_n (pc := 18) 1 C0 rfl dX3_goNow_18 rfl ?_
  refine g_iald (pc := 19) (q0 := 9) (t0 := 0) C0 q rfl (fun _ => rfl) rfl (by decide) (by omega) dX3_goNow_19 ?_
  refine g_cvi (pc := 20) (na := 2) (As := [.int (nI r), .int (nI (τ 11 q))]) (rest := []) C0 (mM_isFit l D dT ad τ r (τ 11 q) hw (by omega) (by omega)) (q0 := 0) (j := 0) (ci := 0) (C := RX3) (T := TX3) (N := 44) rfl rfl rfl q1196 q1198 qs44 q60 q1199 (by decide +kernel) ⟨Nat.le_of_ble_eq_true rfl, Nat.le_of_ble_eq_true rfl⟩ rfl rfl ⟨Nat.le_of_ble_eq_true rfl, Nat.le_of_ble_eq_true rfl⟩ rfl rfl (Nat.le_of_ble_eq_true rfl) dX3_goNow_20 (fun r τ0 hc => ?_)
  obtain ⟨rfl, rfl⟩ := hc
  refine g_istore (pc := 23) 4 C0 (L1 := [some (.ref (ad 0)), some (.int (nI q)), some (.int (nI r)), some (.int (nI (bN (sFit τ r (τ 10 q))))), some (.int (nI (bN (sFit τ r (τ 11 q))))), none, none]) rfl (by decide) dX3_goNow_23 rfl ?_
  refine G.join (pcJ := 64) (wsJ := mW dT ad τ) (LJ := [some (.ref (ad 0)), some (.int (nI q)), some (.int (nI r)), some (.int (nI (bN (sFit τ r (τ 10 q))))), some (.int (nI (bN (sFit τ r (τ 11 q))))), none, none]) (stJ := []) (nI (goStride τ q r)) ?_ (fun J64 => ?_)
  · refine g_istore (pc := 64) 5 C0 (L1 := [some (.ref (ad 0)), some (.int (nI q)), some (.int (nI r)), some (.int (nI (bN (sFit τ r (τ 10 q))))), some (.int (nI (bN (sFit τ r (τ 11 q))))), some (.int (nI (goStride τ q r))), none]) rfl (by decide) dX3_goNow_64 rfl ?_
    obtain ⟨s5, es5⟩ : ∃ z, z = (goStride τ q r) := ⟨_, rfl⟩
    have hs5 : 1 ≤ s5 ∧ s5 ≤ 24 := by rw [es5]; exact goStride_ok hp hq
    refine G.lE (L' := [some (.ref (ad 0)), some (.int (nI q)), some (.int (nI r)), some (.int (nI (bN (sFit τ r (τ 10 q))))), some (.int (nI (bN (sFit τ r (τ 11 q))))), some (.int (nI s5)), none]) (by rw [es5]) ?_
    refine g_iconst (pc := 66) (v := (nI 0)) C0 dX3_goNow_66 (by decide) ?_
    refine g_istore (pc := 67) 6 C0 (L1 := [some (.ref (ad 0)), some (.int (nI q)), some (.int (nI r)), some (.int (nI (bN (sFit τ r (τ 10 q))))), some (.int (nI (bN (sFit τ r (τ 11 q))))), some (.int (nI s5)), some (.int (nI 0))]) rfl (by decide) dX3_goNow_67 rfl ?_
    refine G.wsE (ws' := mW dT ad (upc τ 7 r (τ 7 r + sumS (fun i => (τ 6 (3 * r + i) + s5 - 1) / s5) 0))) (by rw [show τ 7 r + sumS (fun i => (τ 6 (3 * r + i) + s5 - 1) / s5) 0 = τ 7 r from rfl, upc_self]) ?_
    refine G.loop (pc := 69) (ws := fun i => mW dT ad (upc τ 7 r (τ 7 r + sumS (fun i => (τ 6 (3 * r + i) + s5 - 1) / s5) i))) (Lf := fun i => [some (.ref (ad 0)), some (.int (nI q)), some (.int (nI r)), some (.int (nI (bN (sFit τ r (τ 10 q))))), some (.int (nI (bN (sFit τ r (τ 11 q))))), some (.int (nI s5)), some (.int (nI i))]) (N := τ 5 r) (i0 := 0) (Nat.zero_le _) ?_ (fun i69 hi69 hj69 ih69 => ?_)
    · refine g_iload (pc := 69) 6 C0 rfl dX3_goNow_69 ?_
      refine g_aload_n (pc := 71) 0 C0 rfl dX3_goNow_71 rfl ?_
      refine m_get (pc := 72) (v := .ref (ad 5)) C0 5 (by decide) q974 rfl dX3_goNow_72 ?_
      refine g_iload_n (pc := 75) 2 C0 rfl dX3_goNow_75 rfl ?_
      refine g_iald (pc := 76) (q0 := 4) (t0 := 0) C0 r rfl (fun _ => rfl) rfl (by decide) (by omega) dX3_goNow_76 ?_
      refine G.stE (st' := [.int (nI (τ 5 r)), .int (nI (τ 5 r))]) rfl ?_
      refine g_icmp_geN (pc := 77) 114 C0 (by omega) (by omega) dX3_goNow_77 (by decide) (fun h77 => ?_) (fun h77 => ?_)
      rotate_left
      · exact absurd h77 (by omega)
      refine g_aload_n (pc := 114) 0 C0 rfl dX3_goNow_114 rfl ?_
      refine m_get (pc := 115) (v := .ref (ad 9)) C0 9 (by decide) q978 rfl dX3_goNow_115 ?_
      refine g_iload_n (pc := 118) 1 C0 rfl dX3_goNow_118 rfl ?_
      refine G.join (pcJ := 149) (wsJ := mW dT ad (upc τ 7 r (τ 7 r + sumS (fun i => (τ 6 (3 * r + i) + s5 - 1) / s5) (τ 5 r)))) (LJ := [some (.ref (ad 0)), some (.int (nI q)), some (.int (nI r)), some (.int (nI (bN (sFit τ r (τ 10 q))))), some (.int (nI (bN (sFit τ r (τ 11 q))))), some (.int (nI s5)), some (.int (nI (τ 5 r)))]) (stJ := [.int (nI q), .ref (ad 9)]) (nI (goOther τ q r)) ?_ (fun J149 => ?_)
      · refine g_iast (pc := 149) (q0 := 7) (t0 := 0) C0 q (goOther τ q r) mNd rfl (fun _ => rfl) rfl (by decide) (by omega) dX3_goNow_149 ?_
        exact g_vret (pc := 150) C0 dX3_goNow_150 (by rw [goT, wearS, es5])
      · refine g_aload_n (pc := 119) 0 C0 rfl dX3_goNow_119 rfl ?_
        refine m_get (pc := 120) (v := .ref (ad 9)) C0 9 (by decide) q978 rfl dX3_goNow_120 ?_
        refine g_iload_n (pc := 123) 1 C0 rfl dX3_goNow_123 rfl ?_
        refine g_iald (pc := 124) (q0 := 7) (t0 := 0) C0 q rfl (fun _ => rfl) rfl (by decide) (by omega) dX3_goNow_124 ?_
        refine G.stE (st' := [.int (nI (τ 9 q)), .int (nI q), .ref (ad 9)]) rfl ?_
        refine g_aload_n (pc := 125) 0 C0 rfl dX3_goNow_125 rfl ?_
        refine m_get (pc := 126) (v := .ref (ad 3)) C0 3 (by decide) q972 rfl dX3_goNow_126 ?_
        refine g_iload_n (pc := 129) 2 C0 rfl dX3_goNow_129 rfl ?_
        refine g_iald (pc := 130) (q0 := 2) (t0 := 0) C0 r rfl (fun _ => rfl) rfl (by decide) (by omega) dX3_goNow_130 ?_
        refine G.stE (st' := [.int (nI (τ 3 r)), .int (nI (τ 9 q)), .int (nI q), .ref (ad 9)]) rfl ?_
        refine g_icmp_neN (pc := 131) 143 C0 (by omega) (by omega) dX3_goNow_131 (by decide) (fun h131 => ?_) (fun h131 => ?_)
        · refine g_aload_n (pc := 143) 0 C0 rfl dX3_goNow_143 rfl ?_
          refine m_get (pc := 144) (v := .ref (ad 3)) C0 3 (by decide) q972 rfl dX3_goNow_144 ?_
          refine g_iload_n (pc := 147) 2 C0 rfl dX3_goNow_147 rfl ?_
          refine g_iald (pc := 148) (q0 := 2) (t0 := 0) C0 r rfl (fun _ => rfl) rfl (by decide) (by omega) dX3_goNow_148 ?_
          refine G.stE (st' := [.int (nI (τ 3 r)), .int (nI q), .ref (ad 9)]) rfl ?_
          exact J149 (nI (τ 3 r)) (congrArg nI (by simp [goOther, h131] <;> omega))
        · refine g_aload_n (pc := 134) 0 C0 rfl dX3_goNow_134 rfl ?_
          refine m_get (pc := 135) (v := .ref (ad 4)) C0 4 (by decide) q973 rfl dX3_goNow_135 ?_
          refine g_iload_n (pc := 138) 2 C0 rfl dX3_goNow_138 rfl ?_
          refine g_iald (pc := 139) (q0 := 3) (t0 := 0) C0 r rfl (fun _ => rfl) rfl (by decide) (by omega) dX3_goNow_139 ?_
          refine G.stE (st' := [.int (nI (τ 4 r)), .int (nI q), .ref (ad 9)]) rfl ?_
          refine g_goto (pc := 140) 149 C0 dX3_goNow_140 (by decide) ?_
          exact J149 (nI (τ 4 r)) (congrArg nI (by simp [goOther, h131] <;> omega))
    · obtain ⟨k8, k9⟩ := k7 i69 hi69
      refine g_iload (pc := 69) 6 C0 rfl dX3_goNow_69 ?_
      refine g_aload_n (pc := 71) 0 C0 rfl dX3_goNow_71 rfl ?_
      refine m_get (pc := 72) (v := .ref (ad 5)) C0 5 (by decide) q974 rfl dX3_goNow_72 ?_
      refine g_iload_n (pc := 75) 2 C0 rfl dX3_goNow_75 rfl ?_
      refine g_iald (pc := 76) (q0 := 4) (t0 := 0) C0 r rfl (fun _ => rfl) rfl (by decide) (by omega) dX3_goNow_76 ?_
      refine G.stE (st' := [.int (nI (τ 5 r)), .int (nI i69)]) rfl ?_
      refine g_icmp_geN (pc := 77) 114 C0 (by omega) (by omega) dX3_goNow_77 (by decide) (fun h77 => ?_) (fun h77 => ?_)
      · exact absurd h77 (by omega)
      refine g_aload_n (pc := 80) 0 C0 rfl dX3_goNow_80 rfl ?_
      refine m_get (pc := 81) (v := .ref (ad 7)) C0 7 (by decide) q976 rfl dX3_goNow_81 ?_
      refine g_iload_n (pc := 84) 2 C0 rfl dX3_goNow_84 rfl ?_
      refine g_dup2 (pc := 85) C0 dX3_goNow_85 rfl rfl ?_
      refine g_iald (pc := 86) (q0 := 6) (t0 := 0) C0 r rfl (fun _ => rfl) rfl (by decide) (by omega) dX3_goNow_86 ?_
      refine G.stE (st' := [.int (nI (τ 7 r + sumS (fun i => (τ 6 (3 * r + i) + s5 - 1) / s5) i69)), .int (nI r), .ref (ad 7)]) (by rw [upc_hit]) ?_
      refine g_aload_n (pc := 87) 0 C0 rfl dX3_goNow_87 rfl ?_
      refine m_get (pc := 88) (v := .ref (ad 6)) C0 6 (by decide) q975 rfl dX3_goNow_88 ?_
      refine g_iconst (pc := 91) (v := (nI 3)) C0 dX3_goNow_91 (by decide) ?_
      refine g_iload_n (pc := 92) 2 C0 rfl dX3_goNow_92 rfl ?_
      refine g_imulN (pc := 93) C0  dX3_goNow_93 ?_
      refine g_iload (pc := 94) 6 C0 rfl dX3_goNow_94 ?_
      refine g_iaddN (pc := 96) C0  dX3_goNow_96 ?_
      refine g_iald (pc := 97) (q0 := 5) (t0 := 0) C0 ((3 * r) + i69) rfl (fun _ => rfl) rfl (by decide) (by omega) dX3_goNow_97 ?_
      refine G.stE (st' := [.int (nI (τ 6 ((3 * r) + i69))), .int (nI (τ 7 r + sumS (fun i => (τ 6 (3 * r + i) + s5 - 1) / s5) i69)), .int (nI r), .ref (ad 7)]) rfl ?_
      refine g_iload (pc := 98) 5 C0 rfl dX3_goNow_98 ?_
      refine g_iaddN (pc := 100) C0  dX3_goNow_100 ?_
      refine g_iconst (pc := 101) (v := (nI 1)) C0 dX3_goNow_101 (by decide) ?_
      refine g_isubN (pc := 102) C0 (by omega) dX3_goNow_102 ?_
      refine g_iload (pc := 103) 5 C0 rfl dX3_goNow_103 ?_
      refine g_idivN (pc := 105) C0 (by omega) (by omega) (by omega) dX3_goNow_105 ?_
      refine g_iaddN (pc := 106) C0  dX3_goNow_106 ?_
      refine g_iast (pc := 107) (q0 := 6) (t0 := 0) C0 r ((τ 7 r + sumS (fun i => (τ 6 (3 * r + i) + s5 - 1) / s5) i69) + ((((τ 6 ((3 * r) + i69)) + s5) - 1) / s5)) mNd rfl (fun _ => rfl) rfl (by decide) (by omega) dX3_goNow_107 ?_
      refine g_iinc1 (pc := 108) 6 C0 (L1 := [some (.ref (ad 0)), some (.int (nI q)), some (.int (nI r)), some (.int (nI (bN (sFit τ r (τ 10 q))))), some (.int (nI (bN (sFit τ r (τ 11 q))))), some (.int (nI s5)), some (.int (nI (i69 + 1)))]) rfl rfl (by decide) dX3_goNow_108 rfl ?_
      refine g_goto (pc := 111) 69 C0 dX3_goNow_111 (by decide) ?_
      exact G.wsE (by rw [upc_upc, Nat.add_assoc]; rfl) ih69
  · refine g_iload (pc := 25) 4 C0 rfl dX3_goNow_25 ?_
    refine g_if_eqB (pc := 27) 58 C0 dX3_goNow_27 (by decide) (fun h27 => ?_) (fun h27 => ?_)
    · refine g_aload_n (pc := 58) 0 C0 rfl dX3_goNow_58 rfl ?_
      refine m_get (pc := 59) (v := .ref (ad 10)) C0 10 (by decide) q979 rfl dX3_goNow_59 ?_
      refine g_iload_n (pc := 62) 1 C0 rfl dX3_goNow_62 rfl ?_
      refine g_iald (pc := 63) (q0 := 8) (t0 := 0) C0 q rfl (fun _ => rfl) rfl (by decide) (by omega) dX3_goNow_63 ?_
      exact J64 (nI (τ 10 q)) (congrArg nI (by simp [goStride, h27] <;> omega))
    · refine g_iload_n (pc := 30) 3 C0 rfl dX3_goNow_30 rfl ?_
      refine g_if_eqB (pc := 31) 49 C0 dX3_goNow_31 (by decide) (fun h31 => ?_) (fun h31 => ?_)
      · refine g_aload_n (pc := 49) 0 C0 rfl dX3_goNow_49 rfl ?_
        refine m_get (pc := 50) (v := .ref (ad 11)) C0 11 (by decide) q980 rfl dX3_goNow_50 ?_
        refine g_iload_n (pc := 53) 1 C0 rfl dX3_goNow_53 rfl ?_
        refine g_iald (pc := 54) (q0 := 9) (t0 := 0) C0 q rfl (fun _ => rfl) rfl (by decide) (by omega) dX3_goNow_54 ?_
        refine g_goto (pc := 55) 64 C0 dX3_goNow_55 (by decide) ?_
        exact J64 (nI (τ 11 q)) (congrArg nI (by simp [goStride, h27, h31] <;> omega))
      · refine g_aload_n (pc := 34) 0 C0 rfl dX3_goNow_34 rfl ?_
        refine m_get (pc := 35) (v := .ref (ad 11)) C0 11 (by decide) q980 rfl dX3_goNow_35 ?_
        refine g_iload_n (pc := 38) 1 C0 rfl dX3_goNow_38 rfl ?_
        refine g_iald (pc := 39) (q0 := 9) (t0 := 0) C0 q rfl (fun _ => rfl) rfl (by decide) (by omega) dX3_goNow_39 ?_
        refine g_aload_n (pc := 40) 0 C0 rfl dX3_goNow_40 rfl ?_
        refine m_get (pc := 41) (v := .ref (ad 10)) C0 10 (by decide) q979 rfl dX3_goNow_41 ?_
        refine g_iload_n (pc := 44) 1 C0 rfl dX3_goNow_44 rfl ?_
        refine g_iald (pc := 45) (q0 := 8) (t0 := 0) C0 q rfl (fun _ => rfl) rfl (by decide) (by omega) dX3_goNow_45 ?_
        refine g_icmp_leN (pc := 46) 58 C0 (by omega) (by omega) dX3_goNow_46 (by decide) (fun h46 => ?_) (fun h46 => ?_)
        · refine g_aload_n (pc := 58) 0 C0 rfl dX3_goNow_58 rfl ?_
          refine m_get (pc := 59) (v := .ref (ad 10)) C0 10 (by decide) q979 rfl dX3_goNow_59 ?_
          refine g_iload_n (pc := 62) 1 C0 rfl dX3_goNow_62 rfl ?_
          refine g_iald (pc := 63) (q0 := 8) (t0 := 0) C0 q rfl (fun _ => rfl) rfl (by decide) (by omega) dX3_goNow_63 ?_
          exact J64 (nI (τ 10 q)) (congrArg nI (by simp [goStride, h27, h31, h46] <;> omega))
        · refine g_aload_n (pc := 49) 0 C0 rfl dX3_goNow_49 rfl ?_
          refine m_get (pc := 50) (v := .ref (ad 11)) C0 11 (by decide) q980 rfl dX3_goNow_50 ?_
          refine g_iload_n (pc := 53) 1 C0 rfl dX3_goNow_53 rfl ?_
          refine g_iald (pc := 54) (q0 := 9) (t0 := 0) C0 q rfl (fun _ => rfl) rfl (by decide) (by omega) dX3_goNow_54 ?_
          refine g_goto (pc := 55) 64 C0 dX3_goNow_55 (by decide) ?_
          exact J64 (nI (τ 11 q)) (congrArg nI (by simp [goStride, h27, h31, h46] <;> omega))
