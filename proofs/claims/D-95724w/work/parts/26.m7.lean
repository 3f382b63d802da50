/-! the model, seventh module -/
set_option maxRecDepth 100000
set_option maxHeartbeats 4000000 in
set_option maxRecDepth 100000 in
theorem mM_keep (l : Launch) (D : va_G) (dT : Nat → ClassId) (ad : Nat → Nat) (τ : tT) (i : Int32)  : MI l D dT ad yX3_keep cX3_keep 4 .int ({ frames := 1, cells := 0, slots := 0, locals := 25 }) [.int i] τ (fun rr τ' => rr = (pKeep i) ∧ (pKeepT τ i) = τ') := by
  refine CI.ofG (own := "FittingStridesModel") (L := [some (.ref (ad 0)), some (.int i), none, none]) rfl (by decide) (Nat.le_of_ble_eq_true rfl) rfl ?_
  intro p' e' s' m' bl' mt' c' C0
  refine g_iload_n (pc := 0) 1 C0 rfl dX3_keep_0 rfl ?_
  refine g_i2l (pc := 1) (v := i.toInt64) C0 dX3_keep_1 rfl ?_
  refine g_lconst (pc := 2) (v := lN 0) C0 dX3_keep_2 (by decide) ?_
  refine g_lconst (pc := 3) (v := lN 1) C0 dX3_keep_3 (by decide) ?_
  refine g_csi (pc := 4) (na := 3) (As := [.long i.toInt64, .long (lN 0), .long (lN 1)]) (rest := []) C0 (mM_in l i.toInt64 (lN 0) (lN 1) ) q1107 q1108 q60 q1109 (by decide +kernel) ⟨Nat.le_of_ble_eq_true rfl, Nat.le_of_ble_eq_true rfl⟩ rfl rfl ⟨Nat.le_of_ble_eq_true rfl, Nat.le_of_ble_eq_true rfl⟩ rfl rfl (Nat.le_of_ble_eq_true rfl) dX3_keep_4 ?_
  refine g_if_neB (pc := 7) 13 C0 dX3_keep_7 (by decide) (fun h7 => ?_) (fun h7 => ?_)
  · rw [inB_rg i (lo := 0) (hi := 1) (by decide) (by decide)] at h7
    obtain ⟨i1, rfl, i1l, i1h, i1b⟩ := rgB_t h7
    refine g_bipush (pc := 13) (v := (nI 70)) C0 dX3_keep_13 (by decide) ?_
    refine g_iload_n (pc := 15) 1 C0 rfl dX3_keep_15 rfl ?_
    refine g_imulN (pc := 16) C0  dX3_keep_16 ?_
    refine g_istore_n (pc := 17) 2 C0 (L1 := [some (.ref (ad 0)), some (.int (nI i1)), some (.int (nI (70 * i1))), none]) rfl (by decide) dX3_keep_17 rfl rfl ?_
    refine g_iconst (pc := 18) (v := (nI 0)) C0 dX3_keep_18 (by decide) ?_
    refine g_istore_n (pc := 19) 3 C0 (L1 := [some (.ref (ad 0)), some (.int (nI i1)), some (.int (nI (70 * i1))), some (.int (nI 0))]) rfl (by decide) dX3_keep_19 rfl rfl ?_
    refine G.wsE (ws' := mW dT ad (kst τ (70 * i1) (kW1 0))) (by rw [kst_0 τ _ (fun o => by simp [kW1])]) ?_
    refine G.loop (pc := 20) (ws := fun i => mW dT ad (kst τ (70 * i1) (kW1 i))) (Lf := fun i => [some (.ref (ad 0)), some (.int (nI i1)), some (.int (nI (70 * i1))), some (.int (nI i))]) (N := 8) (i0 := 0) (Nat.zero_le _) ?_ (fun i20 hi20 hj20 ih20 => ?_)
    · refine g_iload_n (pc := 20) 3 C0 rfl dX3_keep_20 rfl ?_
      refine g_bipush (pc := 21) (v := (nI 8)) C0 dX3_keep_21 (by decide) ?_
      refine g_icmp_geN (pc := 23) 80 C0 (by decide) (by decide) dX3_keep_23 (by decide) (fun h23 => ?_) (fun h23 => ?_)
      rotate_left
      · exact absurd h23 (by omega)
      refine g_iconst (pc := 80) (v := (nI 0)) C0 dX3_keep_80 (by decide) ?_
      refine g_istore_n (pc := 81) 3 C0 (L1 := [some (.ref (ad 0)), some (.int (nI i1)), some (.int (nI (70 * i1))), some (.int (nI 0))]) rfl (by decide) dX3_keep_81 rfl rfl ?_
      refine G.wsE (ws' := mW dT ad (kst τ (70 * i1) (kW2 (24 + 0)))) (by rw [kst_c kW1_2]) ?_
      refine G.loop (pc := 82) (ws := fun i => mW dT ad (kst τ (70 * i1) (kW2 (24 + i)))) (Lf := fun i => [some (.ref (ad 0)), some (.int (nI i1)), some (.int (nI (70 * i1))), some (.int (nI i))]) (N := 30) (i0 := 0) (Nat.zero_le _) ?_ (fun i82 hi82 hj82 ih82 => ?_)
      · refine g_iload_n (pc := 82) 3 C0 rfl dX3_keep_82 rfl ?_
        refine g_bipush (pc := 83) (v := (nI 30)) C0 dX3_keep_83 (by decide) ?_
        refine g_icmp_geN (pc := 85) 111 C0 (by decide) (by decide) dX3_keep_85 (by decide) (fun h85 => ?_) (fun h85 => ?_)
        rotate_left
        · exact absurd h85 (by omega)
        refine g_iconst (pc := 111) (v := (nI 0)) C0 dX3_keep_111 (by decide) ?_
        refine g_istore_n (pc := 112) 3 C0 (L1 := [some (.ref (ad 0)), some (.int (nI i1)), some (.int (nI (70 * i1))), some (.int (nI 0))]) rfl (by decide) dX3_keep_112 rfl rfl ?_
        refine G.loop (pc := 113) (ws := fun i => mW dT ad (kst τ (70 * i1) (kW2 (54 + i)))) (Lf := fun i => [some (.ref (ad 0)), some (.int (nI i1)), some (.int (nI (70 * i1))), some (.int (nI i))]) (N := 10) (i0 := 0) (Nat.zero_le _) ?_ (fun i113 hi113 hj113 ih113 => ?_)
        · refine g_iload_n (pc := 113) 3 C0 rfl dX3_keep_113 rfl ?_
          refine g_bipush (pc := 114) (v := (nI 10)) C0 dX3_keep_114 (by decide) ?_
          refine g_icmp_geN (pc := 116) 142 C0 (by decide) (by decide) dX3_keep_116 (by decide) (fun h116 => ?_) (fun h116 => ?_)
          rotate_left
          · exact absurd h116 (by omega)
          refine g_aload_n (pc := 142) 0 C0 rfl dX3_keep_142 rfl ?_
          refine m_get (pc := 143) (v := .ref (ad 42)) C0 42 (by decide) q1011 rfl dX3_keep_143 ?_
          refine g_iload_n (pc := 146) 2 C0 rfl dX3_keep_146 rfl ?_
          refine g_bipush (pc := 147) (v := (nI 64)) C0 dX3_keep_147 (by decide) ?_
          refine g_iaddN (pc := 149) C0  dX3_keep_149 ?_
          refine g_aload_n (pc := 150) 0 C0 rfl dX3_keep_150 rfl ?_
          refine m_get (pc := 151) (v := .int (nI (τ 0 8))) C0 8 (by decide) q977 rfl dX3_keep_151 ?_
          refine g_iast (pc := 154) (q0 := 26) (t0 := 0) C0 ((70 * i1) + 64) (τ 0 8) mNd rfl (fun _ => rfl) rfl (by decide) (by omega) dX3_keep_154 ?_
          refine g_aload_n (pc := 155) 0 C0 rfl dX3_keep_155 rfl ?_
          refine m_get (pc := 156) (v := .ref (ad 42)) C0 42 (by decide) q1011 rfl dX3_keep_156 ?_
          refine g_iload_n (pc := 159) 2 C0 rfl dX3_keep_159 rfl ?_
          refine g_bipush (pc := 160) (v := (nI 65)) C0 dX3_keep_160 (by decide) ?_
          refine g_iaddN (pc := 162) C0  dX3_keep_162 ?_
          refine g_aload_n (pc := 163) 0 C0 rfl dX3_keep_163 rfl ?_
          refine m_get (pc := 164) (v := .int (nI (τ 0 12))) C0 12 (by decide) q981 rfl dX3_keep_164 ?_
          refine g_iast (pc := 167) (q0 := 26) (t0 := 0) C0 ((70 * i1) + 65) (τ 0 12) mNd rfl (fun _ => rfl) rfl (by decide) (by omega) dX3_keep_167 ?_
          refine g_aload_n (pc := 168) 0 C0 rfl dX3_keep_168 rfl ?_
          refine m_get (pc := 169) (v := .ref (ad 42)) C0 42 (by decide) q1011 rfl dX3_keep_169 ?_
          refine g_iload_n (pc := 172) 2 C0 rfl dX3_keep_172 rfl ?_
          refine g_bipush (pc := 173) (v := (nI 66)) C0 dX3_keep_173 (by decide) ?_
          refine g_iaddN (pc := 175) C0  dX3_keep_175 ?_
          refine g_aload_n (pc := 176) 0 C0 rfl dX3_keep_176 rfl ?_
          refine m_get (pc := 177) (v := .int (nI (τ 0 13))) C0 13 (by decide) q982 rfl dX3_keep_177 ?_
          refine g_iast (pc := 180) (q0 := 26) (t0 := 0) C0 ((70 * i1) + 66) (τ 0 13) mNd rfl (fun _ => rfl) rfl (by decide) (by omega) dX3_keep_180 ?_
          refine g_aload_n (pc := 181) 0 C0 rfl dX3_keep_181 rfl ?_
          refine m_get (pc := 182) (v := .ref (ad 43)) C0 43 (by decide) q1012 rfl dX3_keep_182 ?_
          refine g_iload_n (pc := 185) 1 C0 rfl dX3_keep_185 rfl ?_
          refine g_iconst (pc := 186) (v := (nI 1)) C0 dX3_keep_186 (by decide) ?_
          refine g_zast (pc := 187) (q0 := 27) (t0 := 1) C0 i1 1 mNd (by decide) rfl (fun _ => rfl) rfl (by decide) (by omega) dX3_keep_187 ?_
          refine g_iconst (pc := 188) (v := (nI 1)) C0 dX3_keep_188 (by decide) ?_
          exact g_iret (pc := 189) C0 dX3_keep_189 ⟨by rw [pKeep, if_pos h7], by rw [pKeepT, if_pos h7, nI_clamp i1b, keepT]; exact (keep_end τ (70 * i1) i1).symm⟩
        · refine g_iload_n (pc := 113) 3 C0 rfl dX3_keep_113 rfl ?_
          refine g_bipush (pc := 114) (v := (nI 10)) C0 dX3_keep_114 (by decide) ?_
          refine g_icmp_geN (pc := 116) 142 C0 (by omega) (by decide) dX3_keep_116 (by decide) (fun h116 => ?_) (fun h116 => ?_)
          · exact absurd h116 (by omega)
          refine g_aload_n (pc := 119) 0 C0 rfl dX3_keep_119 rfl ?_
          refine m_get (pc := 120) (v := .ref (ad 42)) C0 42 (by decide) q1011 rfl dX3_keep_120 ?_
          refine g_iload_n (pc := 123) 2 C0 rfl dX3_keep_123 rfl ?_
          refine g_bipush (pc := 124) (v := (nI 54)) C0 dX3_keep_124 (by decide) ?_
          refine g_iaddN (pc := 126) C0  dX3_keep_126 ?_
          refine g_iload_n (pc := 127) 3 C0 rfl dX3_keep_127 rfl ?_
          refine g_iaddN (pc := 128) C0  dX3_keep_128 ?_
          refine g_aload_n (pc := 129) 0 C0 rfl dX3_keep_129 rfl ?_
          refine m_get (pc := 130) (v := .ref (ad 7)) C0 7 (by decide) q976 rfl dX3_keep_130 ?_
          refine g_iload_n (pc := 133) 3 C0 rfl dX3_keep_133 rfl ?_
          refine g_iald (pc := 134) (q0 := 6) (t0 := 0) C0 i113 rfl (fun _ => rfl) rfl (by decide) (by omega) dX3_keep_134 ?_
          refine G.stE (st' := [.int (nI (τ 7 i113)), .int (nI (((70 * i1) + 54) + i113)), .ref (ad 42)]) rfl ?_
          refine g_iast (pc := 135) (q0 := 26) (t0 := 0) C0 (((70 * i1) + 54) + i113) (τ 7 i113) mNd rfl (fun _ => rfl) rfl (by decide) (by omega) dX3_keep_135 ?_
          refine g_iinc1 (pc := 136) 3 C0 (L1 := [some (.ref (ad 0)), some (.int (nI i1)), some (.int (nI (70 * i1))), some (.int (nI (i113 + 1)))]) rfl rfl (by decide) dX3_keep_136 rfl ?_
          refine g_goto (pc := 139) 113 C0 dX3_keep_139 (by decide) ?_
          exact G.wsE (by rw [kst_up τ _ _ (54 + i113) (Nat.add_assoc _ _ _) (img_7 τ hi113), kst_c (kW2_s (54 + i113))]; rfl) ih113
      · refine g_iload_n (pc := 82) 3 C0 rfl dX3_keep_82 rfl ?_
        refine g_bipush (pc := 83) (v := (nI 30)) C0 dX3_keep_83 (by decide) ?_
        refine g_icmp_geN (pc := 85) 111 C0 (by omega) (by decide) dX3_keep_85 (by decide) (fun h85 => ?_) (fun h85 => ?_)
        · exact absurd h85 (by omega)
        refine g_aload_n (pc := 88) 0 C0 rfl dX3_keep_88 rfl ?_
        refine m_get (pc := 89) (v := .ref (ad 42)) C0 42 (by decide) q1011 rfl dX3_keep_89 ?_
        refine g_iload_n (pc := 92) 2 C0 rfl dX3_keep_92 rfl ?_
        refine g_bipush (pc := 93) (v := (nI 24)) C0 dX3_keep_93 (by decide) ?_
        refine g_iaddN (pc := 95) C0  dX3_keep_95 ?_
        refine g_iload_n (pc := 96) 3 C0 rfl dX3_keep_96 rfl ?_
        refine g_iaddN (pc := 97) C0  dX3_keep_97 ?_
        refine g_aload_n (pc := 98) 0 C0 rfl dX3_keep_98 rfl ?_
        refine m_get (pc := 99) (v := .ref (ad 6)) C0 6 (by decide) q975 rfl dX3_keep_99 ?_
        refine g_iload_n (pc := 102) 3 C0 rfl dX3_keep_102 rfl ?_
        refine g_iald (pc := 103) (q0 := 5) (t0 := 0) C0 i82 rfl (fun _ => rfl) rfl (by decide) (by omega) dX3_keep_103 ?_
        refine G.stE (st' := [.int (nI (τ 6 i82)), .int (nI (((70 * i1) + 24) + i82)), .ref (ad 42)]) rfl ?_
        refine g_iast (pc := 104) (q0 := 26) (t0 := 0) C0 (((70 * i1) + 24) + i82) (τ 6 i82) mNd rfl (fun _ => rfl) rfl (by decide) (by omega) dX3_keep_104 ?_
        refine g_iinc1 (pc := 105) 3 C0 (L1 := [some (.ref (ad 0)), some (.int (nI i1)), some (.int (nI (70 * i1))), some (.int (nI (i82 + 1)))]) rfl rfl (by decide) dX3_keep_105 rfl ?_
        refine g_goto (pc := 108) 82 C0 dX3_keep_108 (by decide) ?_
        exact G.wsE (by rw [kst_up τ _ _ (24 + i82) (Nat.add_assoc _ _ _) (img_6 τ hi82), kst_c (kW2_s (24 + i82))]; rfl) ih82
    · refine g_iload_n (pc := 20) 3 C0 rfl dX3_keep_20 rfl ?_
      refine g_bipush (pc := 21) (v := (nI 8)) C0 dX3_keep_21 (by decide) ?_
      refine g_icmp_geN (pc := 23) 80 C0 (by omega) (by decide) dX3_keep_23 (by decide) (fun h23 => ?_) (fun h23 => ?_)
      · exact absurd h23 (by omega)
      refine g_aload_n (pc := 26) 0 C0 rfl dX3_keep_26 rfl ?_
      refine m_get (pc := 27) (v := .ref (ad 42)) C0 42 (by decide) q1011 rfl dX3_keep_27 ?_
      refine g_iload_n (pc := 30) 2 C0 rfl dX3_keep_30 rfl ?_
      refine g_iload_n (pc := 31) 3 C0 rfl dX3_keep_31 rfl ?_
      refine g_iaddN (pc := 32) C0  dX3_keep_32 ?_
      refine g_aload_n (pc := 33) 0 C0 rfl dX3_keep_33 rfl ?_
      refine m_get (pc := 34) (v := .ref (ad 9)) C0 9 (by decide) q978 rfl dX3_keep_34 ?_
      refine g_iload_n (pc := 37) 3 C0 rfl dX3_keep_37 rfl ?_
      refine g_iald (pc := 38) (q0 := 7) (t0 := 0) C0 i20 rfl (fun _ => rfl) rfl (by decide) (by omega) dX3_keep_38 ?_
      refine G.stE (st' := [.int (nI (τ 9 i20)), .int (nI ((70 * i1) + i20)), .ref (ad 42)]) rfl ?_
      refine g_iast (pc := 39) (q0 := 26) (t0 := 0) C0 ((70 * i1) + i20) (τ 9 i20) mNd rfl (fun _ => rfl) rfl (by decide) (by omega) dX3_keep_39 ?_
      refine g_aload_n (pc := 40) 0 C0 rfl dX3_keep_40 rfl ?_
      refine m_get (pc := 41) (v := .ref (ad 42)) C0 42 (by decide) q1011 rfl dX3_keep_41 ?_
      refine g_iload_n (pc := 44) 2 C0 rfl dX3_keep_44 rfl ?_
      refine g_bipush (pc := 45) (v := (nI 8)) C0 dX3_keep_45 (by decide) ?_
      refine g_iaddN (pc := 47) C0  dX3_keep_47 ?_
      refine g_iload_n (pc := 48) 3 C0 rfl dX3_keep_48 rfl ?_
      refine g_iaddN (pc := 49) C0  dX3_keep_49 ?_
      refine g_aload_n (pc := 50) 0 C0 rfl dX3_keep_50 rfl ?_
      refine m_get (pc := 51) (v := .ref (ad 10)) C0 10 (by decide) q979 rfl dX3_keep_51 ?_
      refine g_iload_n (pc := 54) 3 C0 rfl dX3_keep_54 rfl ?_
      refine g_iald (pc := 55) (q0 := 8) (t0 := 0) C0 i20 rfl (fun _ => rfl) rfl (by decide) (by omega) dX3_keep_55 ?_
      refine G.stE (st' := [.int (nI (τ 10 i20)), .int (nI (((70 * i1) + 8) + i20)), .ref (ad 42)]) rfl ?_
      refine g_iast (pc := 56) (q0 := 26) (t0 := 0) C0 (((70 * i1) + 8) + i20) (τ 10 i20) mNd rfl (fun _ => rfl) rfl (by decide) (by omega) dX3_keep_56 ?_
      refine g_aload_n (pc := 57) 0 C0 rfl dX3_keep_57 rfl ?_
      refine m_get (pc := 58) (v := .ref (ad 42)) C0 42 (by decide) q1011 rfl dX3_keep_58 ?_
      refine g_iload_n (pc := 61) 2 C0 rfl dX3_keep_61 rfl ?_
      refine g_bipush (pc := 62) (v := (nI 16)) C0 dX3_keep_62 (by decide) ?_
      refine g_iaddN (pc := 64) C0  dX3_keep_64 ?_
      refine g_iload_n (pc := 65) 3 C0 rfl dX3_keep_65 rfl ?_
      refine g_iaddN (pc := 66) C0  dX3_keep_66 ?_
      refine g_aload_n (pc := 67) 0 C0 rfl dX3_keep_67 rfl ?_
      refine m_get (pc := 68) (v := .ref (ad 11)) C0 11 (by decide) q980 rfl dX3_keep_68 ?_
      refine g_iload_n (pc := 71) 3 C0 rfl dX3_keep_71 rfl ?_
      refine g_iald (pc := 72) (q0 := 9) (t0 := 0) C0 i20 rfl (fun _ => rfl) rfl (by decide) (by omega) dX3_keep_72 ?_
      refine G.stE (st' := [.int (nI (τ 11 i20)), .int (nI (((70 * i1) + 16) + i20)), .ref (ad 42)]) rfl ?_
      refine g_iast (pc := 73) (q0 := 26) (t0 := 0) C0 (((70 * i1) + 16) + i20) (τ 11 i20) mNd rfl (fun _ => rfl) rfl (by decide) (by omega) dX3_keep_73 ?_
      refine g_iinc1 (pc := 74) 3 C0 (L1 := [some (.ref (ad 0)), some (.int (nI i1)), some (.int (nI (70 * i1))), some (.int (nI (i20 + 1)))]) rfl rfl (by decide) dX3_keep_74 rfl ?_
      refine g_goto (pc := 77) 20 C0 dX3_keep_77 (by decide) ?_
      exact G.wsE (by rw [kst_up τ _ _ i20 rfl (img_9 τ hi20), kst_up τ _ _ (8 + i20) (Nat.add_assoc _ _ _) (img_10 τ hi20), kst_up τ _ _ (16 + i20) (Nat.add_assoc _ _ _) (img_11 τ hi20), kst_c (kW1_s i20 hi20)]) ih20
  · rw [inB_rg i (lo := 0) (hi := 1) (by decide) (by decide)] at h7
    refine g_ldc (pc := 10) (v := -1000000001) C0 q1187 dX3_keep_10 ?_
    exact g_iret (pc := 12) C0 dX3_keep_12 ⟨by rw [pKeep, h7]; rfl, by rw [pKeepT, h7]; rfl⟩
set_option maxHeartbeats 4000000 in
set_option maxRecDepth 100000 in
theorem mM_goBack (l : Launch) (D : va_G) (dT : Nat → ClassId) (ad : Nat → Nat) (τ : tT) (i : Int32) (hk : ∀ j, j < 2 → τ 43 j < 2) : MI l D dT ad yX3_goBack cX3_goBack 4 .int ({ frames := 1, cells := 0, slots := 0, locals := 25 }) [.int i] τ (fun rr τ' => rr = (pGoBack τ i) ∧ (pGoBackT τ i) = τ') := by
  refine CI.ofG (own := "FittingStridesModel") (L := [some (.ref (ad 0)), some (.int i), none, none]) rfl (by decide) (Nat.le_of_ble_eq_true rfl) rfl ?_
  intro p' e' s' m' bl' mt' c' C0
  refine g_iload_n (pc := 0) 1 C0 rfl dX3_goBack_0 rfl ?_
  refine g_i2l (pc := 1) (v := i.toInt64) C0 dX3_goBack_1 rfl ?_
  refine g_lconst (pc := 2) (v := lN 0) C0 dX3_goBack_2 (by decide) ?_
  refine g_lconst (pc := 3) (v := lN 1) C0 dX3_goBack_3 (by decide) ?_
  refine g_csi (pc := 4) (na := 3) (As := [.long i.toInt64, .long (lN 0), .long (lN 1)]) (rest := []) C0 (mM_in l i.toInt64 (lN 0) (lN 1) ) q1107 q1108 q60 q1109 (by decide +kernel) ⟨Nat.le_of_ble_eq_true rfl, Nat.le_of_ble_eq_true rfl⟩ rfl rfl ⟨Nat.le_of_ble_eq_true rfl, Nat.le_of_ble_eq_true rfl⟩ rfl rfl (Nat.le_of_ble_eq_true rfl) dX3_goBack_4 ?_
  refine g_if_neB (pc := 7) 13 C0 dX3_goBack_7 (by decide) (fun h7 => ?_) (fun h7 => ?_)
  · rw [inB_rg i (lo := 0) (hi := 1) (by decide) (by decide)] at h7
    obtain ⟨i1, rfl, i1l, i1h, i1b⟩ := rgB_t h7
    have hk1 := hk i1 (by omega)
    refine g_aload_n (pc := 13) 0 C0 rfl dX3_goBack_13 rfl ?_
    refine m_get (pc := 14) (v := .ref (ad 43)) C0 43 (by decide) q1012 rfl dX3_goBack_14 ?_
    refine g_iload_n (pc := 17) 1 C0 rfl dX3_goBack_17 rfl ?_
    refine g_zald (pc := 18) (q0 := 27) (t0 := 1) C0 i1 rfl (fun _ => rfl) rfl (by decide) (by omega) dX3_goBack_18 ?_
    refine g_if_neN (pc := 19) 25 C0 (by omega) dX3_goBack_19 (by decide) (fun h19 => ?_) (fun h19 => ?_)
    · refine g_bipush (pc := 25) (v := (nI 70)) C0 dX3_goBack_25 (by decide) ?_
      refine g_iload_n (pc := 27) 1 C0 rfl dX3_goBack_27 rfl ?_
      refine g_imulN (pc := 28) C0  dX3_goBack_28 ?_
      refine g_istore_n (pc := 29) 2 C0 (L1 := [some (.ref (ad 0)), some (.int (nI i1)), some (.int (nI (70 * i1))), none]) rfl (by decide) dX3_goBack_29 rfl rfl ?_
      refine g_iconst (pc := 30) (v := (nI 0)) C0 dX3_goBack_30 (by decide) ?_
      refine g_istore_n (pc := 31) 3 C0 (L1 := [some (.ref (ad 0)), some (.int (nI i1)), some (.int (nI (70 * i1))), some (.int (nI 0))]) rfl (by decide) dX3_goBack_31 rfl rfl ?_
      refine G.wsE (ws' := mW dT ad (gbA τ (70 * i1) 0)) (by rw [gbA_0]) ?_
      refine G.loop (pc := 32) (ws := fun i => mW dT ad (gbA τ (70 * i1) i)) (Lf := fun i => [some (.ref (ad 0)), some (.int (nI i1)), some (.int (nI (70 * i1))), some (.int (nI i))]) (N := 8) (i0 := 0) (Nat.zero_le _) ?_ (fun i32 hi32 hj32 ih32 => ?_)
      · refine g_iload_n (pc := 32) 3 C0 rfl dX3_goBack_32 rfl ?_
        refine g_bipush (pc := 33) (v := (nI 8)) C0 dX3_goBack_33 (by decide) ?_
        refine g_icmp_geN (pc := 35) 92 C0 (by decide) (by decide) dX3_goBack_35 (by decide) (fun h35 => ?_) (fun h35 => ?_)
        rotate_left
        · exact absurd h35 (by omega)
        refine g_iconst (pc := 92) (v := (nI 0)) C0 dX3_goBack_92 (by decide) ?_
        refine g_istore_n (pc := 93) 3 C0 (L1 := [some (.ref (ad 0)), some (.int (nI i1)), some (.int (nI (70 * i1))), some (.int (nI 0))]) rfl (by decide) dX3_goBack_93 rfl rfl ?_
        refine G.wsE (ws' := mW dT ad (gbB τ (70 * i1) 0)) (by rw [gbB_0]) ?_
        refine G.loop (pc := 94) (ws := fun i => mW dT ad (gbB τ (70 * i1) i)) (Lf := fun i => [some (.ref (ad 0)), some (.int (nI i1)), some (.int (nI (70 * i1))), some (.int (nI i))]) (N := 30) (i0 := 0) (Nat.zero_le _) ?_ (fun i94 hi94 hj94 ih94 => ?_)
        · refine g_iload_n (pc := 94) 3 C0 rfl dX3_goBack_94 rfl ?_
          refine g_bipush (pc := 95) (v := (nI 30)) C0 dX3_goBack_95 (by decide) ?_
          refine g_icmp_geN (pc := 97) 123 C0 (by decide) (by decide) dX3_goBack_97 (by decide) (fun h97 => ?_) (fun h97 => ?_)
          rotate_left
          · exact absurd h97 (by omega)
          refine g_iconst (pc := 123) (v := (nI 0)) C0 dX3_goBack_123 (by decide) ?_
          refine g_istore_n (pc := 124) 3 C0 (L1 := [some (.ref (ad 0)), some (.int (nI i1)), some (.int (nI (70 * i1))), some (.int (nI 0))]) rfl (by decide) dX3_goBack_124 rfl rfl ?_
          refine G.wsE (ws' := mW dT ad (gbC τ (70 * i1) 0)) (by rw [gbC_0]) ?_
          refine G.loop (pc := 125) (ws := fun i => mW dT ad (gbC τ (70 * i1) i)) (Lf := fun i => [some (.ref (ad 0)), some (.int (nI i1)), some (.int (nI (70 * i1))), some (.int (nI i))]) (N := 10) (i0 := 0) (Nat.zero_le _) ?_ (fun i125 hi125 hj125 ih125 => ?_)
          · refine g_iload_n (pc := 125) 3 C0 rfl dX3_goBack_125 rfl ?_
            refine g_bipush (pc := 126) (v := (nI 10)) C0 dX3_goBack_126 (by decide) ?_
            refine g_icmp_geN (pc := 128) 154 C0 (by decide) (by decide) dX3_goBack_128 (by decide) (fun h128 => ?_) (fun h128 => ?_)
            rotate_left
            · exact absurd h128 (by omega)
            refine g_aload_n (pc := 154) 0 C0 rfl dX3_goBack_154 rfl ?_
            refine g_aload_n (pc := 155) 0 C0 rfl dX3_goBack_155 rfl ?_
            refine m_get (pc := 156) (v := .ref (ad 42)) C0 42 (by decide) q1011 rfl dX3_goBack_156 ?_
            refine g_iload_n (pc := 159) 2 C0 rfl dX3_goBack_159 rfl ?_
            refine g_bipush (pc := 160) (v := (nI 64)) C0 dX3_goBack_160 (by decide) ?_
            refine g_iaddN (pc := 162) C0  dX3_goBack_162 ?_
            refine g_iald (pc := 163) (q0 := 26) (t0 := 0) C0 ((70 * i1) + 64) rfl (fun _ => rfl) rfl (by decide) (by omega) dX3_goBack_163 ?_
            refine G.stE (st' := [.int (nI (τ 42 ((70 * i1) + 64))), .ref (ad 0)]) rfl ?_
            refine m_put (pc := 164) C0 8 (by decide) q977 rfl (by decide) (mSet_8 _ _ _) dX3_goBack_164 ?_
            refine g_aload_n (pc := 167) 0 C0 rfl dX3_goBack_167 rfl ?_
            refine g_aload_n (pc := 168) 0 C0 rfl dX3_goBack_168 rfl ?_
            refine m_get (pc := 169) (v := .ref (ad 42)) C0 42 (by decide) q1011 rfl dX3_goBack_169 ?_
            refine g_iload_n (pc := 172) 2 C0 rfl dX3_goBack_172 rfl ?_
            refine g_bipush (pc := 173) (v := (nI 65)) C0 dX3_goBack_173 (by decide) ?_
            refine g_iaddN (pc := 175) C0  dX3_goBack_175 ?_
            refine g_iald (pc := 176) (q0 := 26) (t0 := 0) C0 ((70 * i1) + 65) rfl (fun _ => rfl) rfl (by decide) (by omega) dX3_goBack_176 ?_
            refine G.stE (st' := [.int (nI (τ 42 ((70 * i1) + 65))), .ref (ad 0)]) rfl ?_
            refine m_put (pc := 177) C0 12 (by decide) q981 rfl (by decide) (mSet_12 _ _ _) dX3_goBack_177 ?_
            refine g_aload_n (pc := 180) 0 C0 rfl dX3_goBack_180 rfl ?_
            refine g_aload_n (pc := 181) 0 C0 rfl dX3_goBack_181 rfl ?_
            refine m_get (pc := 182) (v := .ref (ad 42)) C0 42 (by decide) q1011 rfl dX3_goBack_182 ?_
            refine g_iload_n (pc := 185) 2 C0 rfl dX3_goBack_185 rfl ?_
            refine g_bipush (pc := 186) (v := (nI 66)) C0 dX3_goBack_186 (by decide) ?_
            refine g_iaddN (pc := 188) C0  dX3_goBack_188 ?_
            refine g_iald (pc := 189) (q0 := 26) (t0 := 0) C0 ((70 * i1) + 66) rfl (fun _ => rfl) rfl (by decide) (by omega) dX3_goBack_189 ?_
            refine G.stE (st' := [.int (nI (τ 42 ((70 * i1) + 66))), .ref (ad 0)]) rfl ?_
            refine m_put (pc := 190) C0 13 (by decide) q982 rfl (by decide) (mSet_13 _ _ _) dX3_goBack_190 ?_
            refine g_iconst (pc := 193) (v := (nI 1)) C0 dX3_goBack_193 (by decide) ?_
            exact g_iret (pc := 194) C0 dX3_goBack_194 ⟨by rw [pGoBack, if_pos h7, nI_clamp i1b, if_neg h19], by rw [pGoBackT, if_pos h7, nI_clamp i1b, if_neg h19, gbT]⟩
          · refine g_iload_n (pc := 125) 3 C0 rfl dX3_goBack_125 rfl ?_
            refine g_bipush (pc := 126) (v := (nI 10)) C0 dX3_goBack_126 (by decide) ?_
            refine g_icmp_geN (pc := 128) 154 C0 (by omega) (by decide) dX3_goBack_128 (by decide) (fun h128 => ?_) (fun h128 => ?_)
            · exact absurd h128 (by omega)
            refine g_aload_n (pc := 131) 0 C0 rfl dX3_goBack_131 rfl ?_
            refine m_get (pc := 132) (v := .ref (ad 7)) C0 7 (by decide) q976 rfl dX3_goBack_132 ?_
            refine g_iload_n (pc := 135) 3 C0 rfl dX3_goBack_135 rfl ?_
            refine g_aload_n (pc := 136) 0 C0 rfl dX3_goBack_136 rfl ?_
            refine m_get (pc := 137) (v := .ref (ad 42)) C0 42 (by decide) q1011 rfl dX3_goBack_137 ?_
            refine g_iload_n (pc := 140) 2 C0 rfl dX3_goBack_140 rfl ?_
            refine g_bipush (pc := 141) (v := (nI 54)) C0 dX3_goBack_141 (by decide) ?_
            refine g_iaddN (pc := 143) C0  dX3_goBack_143 ?_
            refine g_iload_n (pc := 144) 3 C0 rfl dX3_goBack_144 rfl ?_
            refine g_iaddN (pc := 145) C0  dX3_goBack_145 ?_
            refine g_iald (pc := 146) (q0 := 26) (t0 := 0) C0 (((70 * i1) + 54) + i125) rfl (fun _ => rfl) rfl (by decide) (by omega) dX3_goBack_146 ?_
            refine G.stE (st' := [.int (nI (τ 42 (((70 * i1) + 54) + i125))), .int (nI i125), .ref (ad 7)]) rfl ?_
            refine g_iast (pc := 147) (q0 := 6) (t0 := 0) C0 i125 (τ 42 (((70 * i1) + 54) + i125)) mNd rfl (fun _ => rfl) rfl (by decide) (by omega) dX3_goBack_147 ?_
            refine g_iinc1 (pc := 148) 3 C0 (L1 := [some (.ref (ad 0)), some (.int (nI i1)), some (.int (nI (70 * i1))), some (.int (nI (i125 + 1)))]) rfl rfl (by decide) dX3_goBack_148 rfl ?_
            refine g_goto (pc := 151) 125 C0 dX3_goBack_151 (by decide) ?_
            exact G.wsE (by rw [gbC_s]) ih125
        · refine g_iload_n (pc := 94) 3 C0 rfl dX3_goBack_94 rfl ?_
          refine g_bipush (pc := 95) (v := (nI 30)) C0 dX3_goBack_95 (by decide) ?_
          refine g_icmp_geN (pc := 97) 123 C0 (by omega) (by decide) dX3_goBack_97 (by decide) (fun h97 => ?_) (fun h97 => ?_)
          · exact absurd h97 (by omega)
          refine g_aload_n (pc := 100) 0 C0 rfl dX3_goBack_100 rfl ?_
          refine m_get (pc := 101) (v := .ref (ad 6)) C0 6 (by decide) q975 rfl dX3_goBack_101 ?_
          refine g_iload_n (pc := 104) 3 C0 rfl dX3_goBack_104 rfl ?_
          refine g_aload_n (pc := 105) 0 C0 rfl dX3_goBack_105 rfl ?_
          refine m_get (pc := 106) (v := .ref (ad 42)) C0 42 (by decide) q1011 rfl dX3_goBack_106 ?_
          refine g_iload_n (pc := 109) 2 C0 rfl dX3_goBack_109 rfl ?_
          refine g_bipush (pc := 110) (v := (nI 24)) C0 dX3_goBack_110 (by decide) ?_
          refine g_iaddN (pc := 112) C0  dX3_goBack_112 ?_
          refine g_iload_n (pc := 113) 3 C0 rfl dX3_goBack_113 rfl ?_
          refine g_iaddN (pc := 114) C0  dX3_goBack_114 ?_
          refine g_iald (pc := 115) (q0 := 26) (t0 := 0) C0 (((70 * i1) + 24) + i94) rfl (fun _ => rfl) rfl (by decide) (by omega) dX3_goBack_115 ?_
          refine G.stE (st' := [.int (nI (τ 42 (((70 * i1) + 24) + i94))), .int (nI i94), .ref (ad 6)]) rfl ?_
          refine g_iast (pc := 116) (q0 := 5) (t0 := 0) C0 i94 (τ 42 (((70 * i1) + 24) + i94)) mNd rfl (fun _ => rfl) rfl (by decide) (by omega) dX3_goBack_116 ?_
          refine g_iinc1 (pc := 117) 3 C0 (L1 := [some (.ref (ad 0)), some (.int (nI i1)), some (.int (nI (70 * i1))), some (.int (nI (i94 + 1)))]) rfl rfl (by decide) dX3_goBack_117 rfl ?_
          refine g_goto (pc := 120) 94 C0 dX3_goBack_120 (by decide) ?_
          exact G.wsE (by rw [gbB_s]) ih94
      · refine g_iload_n (pc := 32) 3 C0 rfl dX3_goBack_32 rfl ?_
        refine g_bipush (pc := 33) (v := (nI 8)) C0 dX3_goBack_33 (by decide) ?_
        refine g_icmp_geN (pc := 35) 92 C0 (by omega) (by decide) dX3_goBack_35 (by decide) (fun h35 => ?_) (fun h35 => ?_)
        · exact absurd h35 (by omega)
        refine g_aload_n (pc := 38) 0 C0 rfl dX3_goBack_38 rfl ?_
        refine m_get (pc := 39) (v := .ref (ad 9)) C0 9 (by decide) q978 rfl dX3_goBack_39 ?_
        refine g_iload_n (pc := 42) 3 C0 rfl dX3_goBack_42 rfl ?_
        refine g_aload_n (pc := 43) 0 C0 rfl dX3_goBack_43 rfl ?_
        refine m_get (pc := 44) (v := .ref (ad 42)) C0 42 (by decide) q1011 rfl dX3_goBack_44 ?_
        refine g_iload_n (pc := 47) 2 C0 rfl dX3_goBack_47 rfl ?_
        refine g_iload_n (pc := 48) 3 C0 rfl dX3_goBack_48 rfl ?_
        refine g_iaddN (pc := 49) C0  dX3_goBack_49 ?_
        refine g_iald (pc := 50) (q0 := 26) (t0 := 0) C0 ((70 * i1) + i32) rfl (fun _ => rfl) rfl (by decide) (by omega) dX3_goBack_50 ?_
        refine G.stE (st' := [.int (nI (τ 42 ((70 * i1) + i32))), .int (nI i32), .ref (ad 9)]) rfl ?_
        refine g_iast (pc := 51) (q0 := 7) (t0 := 0) C0 i32 (τ 42 ((70 * i1) + i32)) mNd rfl (fun _ => rfl) rfl (by decide) (by omega) dX3_goBack_51 ?_
        refine g_aload_n (pc := 52) 0 C0 rfl dX3_goBack_52 rfl ?_
        refine m_get (pc := 53) (v := .ref (ad 10)) C0 10 (by decide) q979 rfl dX3_goBack_53 ?_
        refine g_iload_n (pc := 56) 3 C0 rfl dX3_goBack_56 rfl ?_
        refine g_aload_n (pc := 57) 0 C0 rfl dX3_goBack_57 rfl ?_
        refine m_get (pc := 58) (v := .ref (ad 42)) C0 42 (by decide) q1011 rfl dX3_goBack_58 ?_
        refine g_iload_n (pc := 61) 2 C0 rfl dX3_goBack_61 rfl ?_
        refine g_bipush (pc := 62) (v := (nI 8)) C0 dX3_goBack_62 (by decide) ?_
        refine g_iaddN (pc := 64) C0  dX3_goBack_64 ?_
        refine g_iload_n (pc := 65) 3 C0 rfl dX3_goBack_65 rfl ?_
        refine g_iaddN (pc := 66) C0  dX3_goBack_66 ?_
        refine g_iald (pc := 67) (q0 := 26) (t0 := 0) C0 (((70 * i1) + 8) + i32) rfl (fun _ => rfl) rfl (by decide) (by omega) dX3_goBack_67 ?_
        refine G.stE (st' := [.int (nI (τ 42 (((70 * i1) + 8) + i32))), .int (nI i32), .ref (ad 10)]) rfl ?_
        refine g_iast (pc := 68) (q0 := 8) (t0 := 0) C0 i32 (τ 42 (((70 * i1) + 8) + i32)) mNd rfl (fun _ => rfl) rfl (by decide) (by omega) dX3_goBack_68 ?_
        refine g_aload_n (pc := 69) 0 C0 rfl dX3_goBack_69 rfl ?_
        refine m_get (pc := 70) (v := .ref (ad 11)) C0 11 (by decide) q980 rfl dX3_goBack_70 ?_
        refine g_iload_n (pc := 73) 3 C0 rfl dX3_goBack_73 rfl ?_
        refine g_aload_n (pc := 74) 0 C0 rfl dX3_goBack_74 rfl ?_
        refine m_get (pc := 75) (v := .ref (ad 42)) C0 42 (by decide) q1011 rfl dX3_goBack_75 ?_
        refine g_iload_n (pc := 78) 2 C0 rfl dX3_goBack_78 rfl ?_
        refine g_bipush (pc := 79) (v := (nI 16)) C0 dX3_goBack_79 (by decide) ?_
        refine g_iaddN (pc := 81) C0  dX3_goBack_81 ?_
        refine g_iload_n (pc := 82) 3 C0 rfl dX3_goBack_82 rfl ?_
        refine g_iaddN (pc := 83) C0  dX3_goBack_83 ?_
        refine g_iald (pc := 84) (q0 := 26) (t0 := 0) C0 (((70 * i1) + 16) + i32) rfl (fun _ => rfl) rfl (by decide) (by omega) dX3_goBack_84 ?_
        refine G.stE (st' := [.int (nI (τ 42 (((70 * i1) + 16) + i32))), .int (nI i32), .ref (ad 11)]) rfl ?_
        refine g_iast (pc := 85) (q0 := 9) (t0 := 0) C0 i32 (τ 42 (((70 * i1) + 16) + i32)) mNd rfl (fun _ => rfl) rfl (by decide) (by omega) dX3_goBack_85 ?_
        refine g_iinc1 (pc := 86) 3 C0 (L1 := [some (.ref (ad 0)), some (.int (nI i1)), some (.int (nI (70 * i1))), some (.int (nI (i32 + 1)))]) rfl rfl (by decide) dX3_goBack_86 rfl ?_
        refine g_goto (pc := 89) 32 C0 dX3_goBack_89 (by decide) ?_
        exact G.wsE (by rw [gbA_s]) ih32
    · refine g_ldc (pc := 22) (v := -1000000003) C0 q1232 dX3_goBack_22 ?_
      exact g_iret (pc := 24) C0 dX3_goBack_24 ⟨by rw [pGoBack, if_pos h7, nI_clamp i1b, if_pos h19]; rfl, by rw [pGoBackT, if_pos h7, nI_clamp i1b, if_pos h19]⟩
  · rw [inB_rg i (lo := 0) (hi := 1) (by decide) (by decide)] at h7
    refine g_ldc (pc := 10) (v := -1000000001) C0 q1187 dX3_goBack_10 ?_
    exact g_iret (pc := 12) C0 dX3_goBack_12 ⟨by rw [pGoBack, h7]; rfl, by rw [pGoBackT, h7]; rfl⟩
set_option maxHeartbeats 4000000 in
set_option maxRecDepth 100000 in
theorem mM_judge (l : Launch) (D : va_G) (dT : Nat → ClassId) (ad : Nat → Nat) (τ : tT)  (hw : wfT τ) (hp : wfP τ) (hb : wfB τ) : MI l D dT ad yX3_judge cX3_judge 5 .int ({ frames := 3, cells := 0, slots := 0, locals := 69 }) [] τ (fun rr τ' => rr = (pJudge τ) ∧ (judgeT τ) = τ') := by
  refine CI.ofG (own := "FittingStridesModel") (L := [some (.ref (ad 0)), none, none, none, none]) rfl (by decide) (Nat.le_of_ble_eq_true rfl) rfl ?_
  intro p' e' s' m' bl' mt' c' C0
  have hw1 := hw.1
  have hw0 := hw.2.1
  have hp0 := hp.1
  have hp1 := hp.2.1
  obtain ⟨b0, b1⟩ := id hb
  obtain ⟨z1, z2, z3⟩ := jS_ok hw hp hb (τ 0 38) (Nat.le_refl _)
  refine g_iconst (pc := 0) (v := (nI 0)) C0 dX3_judge_0 (by decide) ?_
  refine g_istore_n (pc := 1) 1 C0 (L1 := [some (.ref (ad 0)), some (.int (nI 0)), none, none, none]) rfl (by decide) dX3_judge_1 rfl rfl ?_
  refine G.wsE (ws' := mW dT ad (cpT τ 41 0 (τ 9))) (by rw [cpT_0]) ?_
  refine G.loop (pc := 2) (ws := fun i => mW dT ad (cpT τ 41 i (τ 9))) (Lf := fun i => [some (.ref (ad 0)), some (.int (nI i)), none, none, none]) (N := 8) (i0 := 0) (Nat.zero_le _) ?_ (fun i2 hi2 hj2 ih2 => ?_)
  · refine g_iload_n (pc := 2) 1 C0 rfl dX3_judge_2 rfl ?_
    refine g_bipush (pc := 3) (v := (nI 8)) C0 dX3_judge_3 (by decide) ?_
    refine g_icmp_geN (pc := 5) 26 C0 (by decide) (by decide) dX3_judge_5 (by decide) (fun h5 => ?_) (fun h5 => ?_)
    rotate_left
    · exact absurd h5 (by omega)
    refine g_iconst (pc := 26) (v := (-1)) C0 dX3_judge_26 (by decide) ?_
    refine g_istore_n (pc := 27) 1 C0 (L1 := [some (.ref (ad 0)), some (.int (-1)), none, none, none]) rfl (by decide) dX3_judge_27 rfl rfl ?_
    refine G.wsE (ws' := mW dT ad (jT τ (jS τ 0).1)) (by rw [← jT_0]; rfl) ?_
    refine G.meet (pcJ := 125) (wsJ := mW dT ad (jT τ (jS τ (τ 0 38)).1)) (LJ := [some (.ref (ad 0)), some (.int (oI (jS τ (τ 0 38)).2)), none, none, none]) (stJ := []) ?_ (fun J125 => ?_)
    · refine g_iconst (pc := 125) (v := (nI 0)) C0 dX3_judge_125 (by decide) ?_
      refine g_istore_n (pc := 126) 2 C0 (L1 := [some (.ref (ad 0)), some (.int (oI (jS τ (τ 0 38)).2)), some (.int (nI 0)), none, none]) rfl (by decide) dX3_judge_126 rfl rfl ?_
      refine G.wsE (ws' := mW dT ad (jR τ (jS τ (τ 0 38)).1 0)) (by rw [jR_0]) ?_
      refine G.loop (pc := 127) (ws := fun i => mW dT ad (jR τ (jS τ (τ 0 38)).1 i)) (Lf := fun i => [some (.ref (ad 0)), some (.int (oI (jS τ (τ 0 38)).2)), some (.int (nI i)), none, none]) (N := 8) (i0 := 0) (Nat.zero_le _) ?_ (fun i127 hi127 hj127 ih127 => ?_)
      · refine g_iload_n (pc := 127) 2 C0 rfl dX3_judge_127 rfl ?_
        refine g_bipush (pc := 128) (v := (nI 8)) C0 dX3_judge_128 (by decide) ?_
        refine g_icmp_geN (pc := 130) 151 C0 (by decide) (by decide) dX3_judge_130 (by decide) (fun h130 => ?_) (fun h130 => ?_)
        rotate_left
        · exact absurd h130 (by omega)
        refine g_iload_n (pc := 151) 1 C0 rfl dX3_judge_151 rfl ?_
        exact g_iret (pc := 152) C0 dX3_judge_152 ⟨rfl, (jR_8 z2).symm⟩
      · refine g_iload_n (pc := 127) 2 C0 rfl dX3_judge_127 rfl ?_
        refine g_bipush (pc := 128) (v := (nI 8)) C0 dX3_judge_128 (by decide) ?_
        refine g_icmp_geN (pc := 130) 151 C0 (by omega) (by decide) dX3_judge_130 (by decide) (fun h130 => ?_) (fun h130 => ?_)
        · exact absurd h130 (by omega)
        refine g_aload_n (pc := 133) 0 C0 rfl dX3_judge_133 rfl ?_
        refine m_get (pc := 134) (v := .ref (ad 9)) C0 9 (by decide) q978 rfl dX3_judge_134 ?_
        refine g_iload_n (pc := 137) 2 C0 rfl dX3_judge_137 rfl ?_
        refine g_aload_n (pc := 138) 0 C0 rfl dX3_judge_138 rfl ?_
        refine m_get (pc := 139) (v := .ref (ad 41)) C0 41 (by decide) q1010 rfl dX3_judge_139 ?_
        refine g_iload_n (pc := 142) 2 C0 rfl dX3_judge_142 rfl ?_
        refine g_iald (pc := 143) (q0 := 25) (t0 := 0) C0 i127 rfl (fun _ => rfl) rfl (by decide) (by omega) dX3_judge_143 ?_
        refine g_iast (pc := 144) (q0 := 7) (t0 := 0) C0 i127 ((jR τ (jS τ (τ 0 38)).1 i127) 41 i127) mNd rfl (fun _ => rfl) rfl (by decide) (by omega) dX3_judge_144 ?_
        refine g_iinc1 (pc := 145) 2 C0 (L1 := [some (.ref (ad 0)), some (.int (oI (jS τ (τ 0 38)).2)), some (.int (nI (i127 + 1))), none, none]) rfl rfl (by decide) dX3_judge_145 rfl ?_
        refine g_goto (pc := 148) 127 C0 dX3_judge_148 (by decide) ?_
        exact G.wsE (by rw [jR_s _ _ hi127]) ih127
    · refine g_iconst (pc := 28) (v := (nI 0)) C0 dX3_judge_28 (by decide) ?_
      refine g_istore_n (pc := 29) 2 C0 (L1 := [some (.ref (ad 0)), some (.int (-1)), some (.int (nI 0)), none, none]) rfl (by decide) dX3_judge_29 rfl rfl ?_
      refine G.loop (pc := 30) (ws := fun i => mW dT ad (jT τ (jS τ i).1)) (Lf := fun i => [some (.ref (ad 0)), some (.int (oI (jS τ i).2)), some (.int (nI i)), none, none]) (N := τ 0 38) (i0 := 0) (Nat.zero_le _) ?_ (fun i30 hi30 hj30 ih30 => ?_)
      · refine g_iload_n (pc := 30) 2 C0 rfl dX3_judge_30 rfl ?_
        refine g_aload_n (pc := 31) 0 C0 rfl dX3_judge_31 rfl ?_
        refine m_get (pc := 32) (v := .int (nI (τ 0 38))) C0 38 (by decide) q1007 rfl dX3_judge_32 ?_
        refine g_icmp_geN (pc := 35) 125 C0 (by omega) (by omega) dX3_judge_35 (by decide) (fun h35 => ?_) (fun h35 => ?_)
        rotate_left
        · exact absurd h35 (by omega)
        refine G.forget 2 ?_
        exact J125
      · obtain ⟨y1, y2, y3⟩ := jS_ok hw hp hb i30 (by omega)
        obtain ⟨b2, b3⟩ := b1 i30 hi30
        have hne : ∀ h : 0 ≤ oI (jS τ i30).2, (jS τ i30).2 ≠ none := fun h e => by rw [e] at h; exact absurd h (by decide)
        obtain ⟨k1, k2, k3, k4, k5, k6, k7⟩ := hw.2.2 _ b3
        refine g_iload_n (pc := 30) 2 C0 rfl dX3_judge_30 rfl ?_
        refine g_aload_n (pc := 31) 0 C0 rfl dX3_judge_31 rfl ?_
        refine m_get (pc := 32) (v := .int (nI (τ 0 38))) C0 38 (by decide) q1007 rfl dX3_judge_32 ?_
        refine g_icmp_geN (pc := 35) 125 C0 (by omega) (by omega) dX3_judge_35 (by decide) (fun h35 => ?_) (fun h35 => ?_)
        · exact absurd h35 (by omega)
        refine g_iload_n (pc := 38) 1 C0 rfl dX3_judge_38 rfl ?_
        refine g_if_ge (pc := 39) 125 C0 dX3_judge_39 (by decide) (fun h39 => ?_) (fun h39 => ?_)
        · refine G.forget 2 ?_
          exact G.wsE (by rw [jS_stay (hne h39) (Nat.le_of_lt hi30)]) (G.lE (by rw [jS_stay (hne h39) (Nat.le_of_lt hi30)]; rfl) J125)
        · have hno : (jS τ i30).2 = none := oI_none (fun k e => by have := y3 k e; omega) (Int32.not_le.mp h39)
          refine g_aload_n (pc := 42) 0 C0 rfl dX3_judge_42 rfl ?_
          refine m_get (pc := 43) (v := .ref (ad 39)) C0 39 (by decide) q1008 rfl dX3_judge_43 ?_
          refine g_iload_n (pc := 46) 2 C0 rfl dX3_judge_46 rfl ?_
          refine g_iald (pc := 47) (q0 := 23) (t0 := 0) C0 i30 rfl (fun _ => rfl) rfl (by decide) (by omega) dX3_judge_47 ?_
          refine G.stE (st' := [.int (nI (τ 39 i30))]) rfl ?_
          refine g_istore_n (pc := 48) 3 C0 (L1 := [some (.ref (ad 0)), some (.int (oI (jS τ i30).2)), some (.int (nI i30)), some (.int (nI (τ 39 i30))), none]) rfl (by decide) dX3_judge_48 rfl rfl ?_
          refine g_aload_n (pc := 49) 0 C0 rfl dX3_judge_49 rfl ?_
          refine m_get (pc := 50) (v := .ref (ad 40)) C0 40 (by decide) q1009 rfl dX3_judge_50 ?_
          refine g_iload_n (pc := 53) 2 C0 rfl dX3_judge_53 rfl ?_
          refine g_iald (pc := 54) (q0 := 24) (t0 := 0) C0 i30 rfl (fun _ => rfl) rfl (by decide) (by omega) dX3_judge_54 ?_
          refine G.stE (st' := [.int (nI (τ 40 i30))]) rfl ?_
          refine g_istore (pc := 55) 4 C0 (L1 := [some (.ref (ad 0)), some (.int (oI (jS τ i30).2)), some (.int (nI i30)), some (.int (nI (τ 39 i30))), some (.int (nI (τ 40 i30)))]) rfl (by decide) dX3_judge_55 rfl ?_
          refine G.meet (pcJ := 119) (wsJ := mW dT ad (jT τ (jS τ (i30 + 1)).1)) (LJ := [some (.ref (ad 0)), some (.int (oI (jS τ (i30 + 1)).2)), some (.int (nI i30)), some (.int (nI (τ 39 i30))), some (.int (nI (τ 40 i30)))]) (stJ := []) ?_ (fun J119 => ?_)
          · refine g_iinc1 (pc := 119) 2 C0 (L1 := [some (.ref (ad 0)), some (.int (oI (jS τ (i30 + 1)).2)), some (.int (nI (i30 + 1))), some (.int (nI (τ 39 i30))), some (.int (nI (τ 40 i30)))]) rfl rfl (by decide) dX3_judge_119 rfl ?_
            refine g_goto (pc := 122) 30 C0 dX3_judge_122 (by decide) ?_
            refine G.forget 3 ?_
            refine G.forget 4 ?_
            exact ih30
          · refine g_iload_n (pc := 57) 3 C0 rfl dX3_judge_57 rfl ?_
            refine g_aload_n (pc := 58) 0 C0 rfl dX3_judge_58 rfl ?_
            refine m_get (pc := 59) (v := .int (nI (τ 0 8))) C0 8 (by decide) q977 rfl dX3_judge_59 ?_
            refine g_icmp_geN (pc := 62) 117 C0 (by omega) (by omega) dX3_judge_62 (by decide) (fun h62 => ?_) (fun h62 => ?_)
            · refine g_iload_n (pc := 117) 2 C0 rfl dX3_judge_117 rfl ?_
              refine g_istore_n (pc := 118) 1 C0 (L1 := [some (.ref (ad 0)), some (.int (nI i30)), some (.int (nI i30)), some (.int (nI (τ 39 i30))), some (.int (nI (τ 40 i30)))]) rfl (by decide) dX3_judge_118 rfl rfl ?_
              have e9 : jS τ (i30 + 1) = ((jS τ i30).1, some i30) := by rw [jS_s, if_pos hno, decide_eq_false (by omega)]; rfl
              exact G.wsE (by rw [e9]) (G.lE (by rw [e9]; rfl) J119)
            · refine g_aload_n (pc := 65) 0 C0 rfl dX3_judge_65 rfl ?_
              refine g_iload_n (pc := 66) 3 C0 rfl dX3_judge_66 rfl ?_
              refine g_iload (pc := 67) 4 C0 rfl dX3_judge_67 ?_
              refine g_cvi (pc := 69) (na := 2) (As := [.int (nI (τ 39 i30)), .int (nI (τ 40 i30))]) (rest := []) C0 (mM_canGo l D dT ad (jT τ (jS τ i30).1) (τ 39 i30) (τ 40 i30) (jT_T hw) (jT_P hp y1) h62 b3) (q0 := 0) (j := 0) (ci := 0) (C := RX3) (T := TX3) (N := 44) rfl rfl rfl q1228 q1230 qs48 q60 q1231 (by decide +kernel) ⟨Nat.le_of_ble_eq_true rfl, Nat.le_of_ble_eq_true rfl⟩ rfl rfl ⟨Nat.le_of_ble_eq_true rfl, Nat.le_of_ble_eq_true rfl⟩ rfl rfl (Nat.le_of_ble_eq_true rfl) dX3_judge_69 (fun r τ0 hc => ?_)
              obtain ⟨rfl, rfl⟩ := hc
              refine g_if_eqB (pc := 72) 117 C0 dX3_judge_72 (by decide) (fun h72 => ?_) (fun h72 => ?_)
              · refine g_iload_n (pc := 117) 2 C0 rfl dX3_judge_117 rfl ?_
                refine g_istore_n (pc := 118) 1 C0 (L1 := [some (.ref (ad 0)), some (.int (nI i30)), some (.int (nI i30)), some (.int (nI (τ 39 i30))), some (.int (nI (τ 40 i30)))]) rfl (by decide) dX3_judge_118 rfl rfl ?_
                have e9 : jS τ (i30 + 1) = ((jS τ i30).1, some i30) := by rw [jS_s, if_pos hno, decide_eq_true h62, ← jT_can, h72]; rfl
                exact G.wsE (by rw [e9]) (G.lE (by rw [e9]; rfl) J119)
              · refine g_aload_n (pc := 75) 0 C0 rfl dX3_judge_75 rfl ?_
                refine m_get (pc := 76) (v := .ref (ad 9)) C0 9 (by decide) q978 rfl dX3_judge_76 ?_
                refine g_iload_n (pc := 79) 3 C0 rfl dX3_judge_79 rfl ?_
                refine G.join (pcJ := 113) (wsJ := mW dT ad (jT τ (jS τ i30).1)) (LJ := [some (.ref (ad 0)), some (.int (oI (jS τ i30).2)), some (.int (nI i30)), some (.int (nI (τ 39 i30))), some (.int (nI (τ 40 i30)))]) (stJ := [.int (nI (τ 39 i30)), .ref (ad 9)]) (nI (goOther (upr τ 9 (jS τ i30).1) (τ 39 i30) (τ 40 i30))) ?_ (fun J113 => ?_)
                · refine g_iast (pc := 113) (q0 := 7) (t0 := 0) C0 (τ 39 i30) (goOther (upr τ 9 (jS τ i30).1) (τ 39 i30) (τ 40 i30)) mNd rfl (fun _ => rfl) rfl (by decide) (by omega) dX3_judge_113 ?_
                  refine g_goto (pc := 114) 119 C0 dX3_judge_114 (by decide) ?_
                  have e9 : jS τ (i30 + 1) = (upn (jS τ i30).1 (τ 39 i30) (goOther (upr τ 9 (jS τ i30).1) (τ 39 i30) (τ 40 i30)), none) := by rw [jS_s, if_pos hno, decide_eq_true h62, ← jT_can, h72]; rfl
                  exact G.wsE (by rw [jT_up, e9]) (G.lE (by rw [e9, hno]) J119)
                · refine g_aload_n (pc := 80) 0 C0 rfl dX3_judge_80 rfl ?_
                  refine m_get (pc := 81) (v := .ref (ad 9)) C0 9 (by decide) q978 rfl dX3_judge_81 ?_
                  refine g_iload_n (pc := 84) 3 C0 rfl dX3_judge_84 rfl ?_
                  refine g_iald (pc := 85) (q0 := 7) (t0 := 0) C0 (τ 39 i30) rfl (fun _ => rfl) rfl (by decide) (by omega) dX3_judge_85 ?_
                  refine g_aload_n (pc := 86) 0 C0 rfl dX3_judge_86 rfl ?_
                  refine m_get (pc := 87) (v := .ref (ad 3)) C0 3 (by decide) q972 rfl dX3_judge_87 ?_
                  refine g_iload (pc := 90) 4 C0 rfl dX3_judge_90 ?_
                  refine g_iald (pc := 92) (q0 := 2) (t0 := 0) C0 (τ 40 i30) rfl (fun _ => rfl) rfl (by decide) (by omega) dX3_judge_92 ?_
                  refine G.stE (st' := [.int (nI (τ 3 (τ 40 i30))), .int (nI ((jT τ (jS τ i30).1) 9 (τ 39 i30))), .int (nI (τ 39 i30)), .ref (ad 9)]) rfl ?_
                  refine g_icmp_neN (pc := 93) 106 C0 (Nat.lt_trans (y1 _ h62) (by omega)) (by omega) dX3_judge_93 (by decide) (fun h93 => ?_) (fun h93 => ?_)
                  · refine g_aload_n (pc := 106) 0 C0 rfl dX3_judge_106 rfl ?_
                    refine m_get (pc := 107) (v := .ref (ad 3)) C0 3 (by decide) q972 rfl dX3_judge_107 ?_
                    refine g_iload (pc := 110) 4 C0 rfl dX3_judge_110 ?_
                    refine g_iald (pc := 112) (q0 := 2) (t0 := 0) C0 (τ 40 i30) rfl (fun _ => rfl) rfl (by decide) (by omega) dX3_judge_112 ?_
                    refine G.stE (st' := [.int (nI (τ 3 (τ 40 i30))), .int (nI (τ 39 i30)), .ref (ad 9)]) rfl ?_
                    exact J113 (nI (τ 3 (τ 40 i30))) (congrArg nI (by unfold goOther; exact (if_neg h93).symm))
                  · refine g_aload_n (pc := 96) 0 C0 rfl dX3_judge_96 rfl ?_
                    refine m_get (pc := 97) (v := .ref (ad 4)) C0 4 (by decide) q973 rfl dX3_judge_97 ?_
                    refine g_iload (pc := 100) 4 C0 rfl dX3_judge_100 ?_
                    refine g_iald (pc := 102) (q0 := 3) (t0 := 0) C0 (τ 40 i30) rfl (fun _ => rfl) rfl (by decide) (by omega) dX3_judge_102 ?_
                    refine G.stE (st' := [.int (nI (τ 4 (τ 40 i30))), .int (nI (τ 39 i30)), .ref (ad 9)]) rfl ?_
                    refine g_goto (pc := 103) 113 C0 dX3_judge_103 (by decide) ?_
                    exact J113 (nI (τ 4 (τ 40 i30))) (congrArg nI (by unfold goOther; exact (if_pos h93).symm))
  · refine g_iload_n (pc := 2) 1 C0 rfl dX3_judge_2 rfl ?_
    refine g_bipush (pc := 3) (v := (nI 8)) C0 dX3_judge_3 (by decide) ?_
    refine g_icmp_geN (pc := 5) 26 C0 (by omega) (by decide) dX3_judge_5 (by decide) (fun h5 => ?_) (fun h5 => ?_)
    · exact absurd h5 (by omega)
    refine g_aload_n (pc := 8) 0 C0 rfl dX3_judge_8 rfl ?_
    refine m_get (pc := 9) (v := .ref (ad 41)) C0 41 (by decide) q1010 rfl dX3_judge_9 ?_
    refine g_iload_n (pc := 12) 1 C0 rfl dX3_judge_12 rfl ?_
    refine g_aload_n (pc := 13) 0 C0 rfl dX3_judge_13 rfl ?_
    refine m_get (pc := 14) (v := .ref (ad 9)) C0 9 (by decide) q978 rfl dX3_judge_14 ?_
    refine g_iload_n (pc := 17) 1 C0 rfl dX3_judge_17 rfl ?_
    refine g_iald (pc := 18) (q0 := 7) (t0 := 0) C0 i2 rfl (fun _ => rfl) rfl (by decide) (by omega) dX3_judge_18 ?_
    refine G.stE (st' := [.int (nI (τ 9 i2)), .int (nI i2), .ref (ad 41)]) rfl ?_
    refine g_iast (pc := 19) (q0 := 25) (t0 := 0) C0 i2 (τ 9 i2) mNd rfl (fun _ => rfl) rfl (by decide) (by omega) dX3_judge_19 ?_
    refine g_iinc1 (pc := 20) 1 C0 (L1 := [some (.ref (ad 0)), some (.int (nI (i2 + 1))), none, none, none]) rfl rfl (by decide) dX3_judge_20 rfl ?_
    refine g_goto (pc := 23) 2 C0 dX3_judge_23 (by decide) ?_
    exact G.wsE (by rw [cpT_s]) ih2
