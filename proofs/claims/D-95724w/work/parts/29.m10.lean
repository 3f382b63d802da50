/-! the model, tenth module -/
set_option maxRecDepth 100000
set_option maxHeartbeats 4000000 in
set_option maxRecDepth 100000 in
theorem mM_takeStair (l : Launch) (D : va_G) (dT : Nat → ClassId) (ad : Nat → Nat) (τ : tT)  (hy : wfY τ) (h23 : τ 0 23 < 10) (h22 : 1 ≤ τ 0 22) (h222 : τ 0 22 ≤ 8) : MI l D dT ad yX3_takeStair cX3_takeStair 4 .int ({ frames := 4, cells := 0, slots := 0, locals := 96 }) [] τ (fun rr τ' => rr = (nI (stairV τ)) ∧ (stairT τ) = τ') := by
  refine CI.ofG (own := "FittingStridesModel") (L := [some (.ref (ad 0)), none, none, none]) rfl (by decide) (Nat.le_of_ble_eq_true rfl) rfl ?_
  intro p' e' s' m' bl' mt' c' C0
  have hs0 : wfY (sr0 τ) := ⟨hy.1, hy.2.1, hy.2.2⟩
  have hsl : sr1 τ 0 18 ≤ 270000000000026 := by rw [sr1, rwT_18]; exact wSaid_le hs0.x
  have hko : ∀ q, kindW (sr1 τ 0 18) = some q → q < 2 ^ 31 := fun q e => Nat.lt_trans (kindW_lt e) (by decide)
  refine g_aload_n (pc := 0) 0 C0 rfl dX3_takeStair_0 rfl ?_
  refine m_get (pc := 1) (v := .int (nI (τ 0 23))) C0 23 (by decide) q992 rfl dX3_takeStair_1 ?_
  refine g_istore_n (pc := 4) 1 C0 (L1 := [some (.ref (ad 0)), some (.int (nI (τ 0 23))), none, none]) rfl (by decide) dX3_takeStair_4 rfl rfl ?_
  refine g_aload_n (pc := 5) 0 C0 rfl dX3_takeStair_5 rfl ?_
  refine g_dup (pc := 6) C0 dX3_takeStair_6 rfl ?_
  refine m_get (pc := 7) (v := .int (nI (τ 0 23))) C0 23 (by decide) q992 rfl dX3_takeStair_7 ?_
  refine g_iconst (pc := 10) (v := (nI 1)) C0 dX3_takeStair_10 (by decide) ?_
  refine g_iaddN (pc := 11) C0  dX3_takeStair_11 ?_
  refine m_put (pc := 12) C0 23 (by decide) q992 rfl (by decide) (mSet_23 _ _ _) dX3_takeStair_12 ?_
  refine g_aload_n (pc := 15) 0 C0 rfl dX3_takeStair_15 rfl ?_
  refine g_cvv (pc := 16) (na := 0) (As := []) (rest := []) C0 (mM_readWord l D dT ad (upc τ 0 23 ((τ 0 23) + 1))  hs0.x) (q0 := 0) (j := 0) (ci := 0) (C := RX3) (T := TX3) (N := 44) rfl rfl rfl q1125 q1127 qs33 q60 q1128 (by decide +kernel) ⟨Nat.le_of_ble_eq_true rfl, Nat.le_of_ble_eq_true rfl⟩ rfl rfl ⟨Nat.le_of_ble_eq_true rfl, Nat.le_of_ble_eq_true rfl⟩ rfl rfl (Nat.le_of_ble_eq_true rfl) dX3_takeStair_16 (fun τ0 hc => ?_)
  subst hc
  obtain ⟨s1, es1⟩ : ∃ z : tT, z = sr1 τ := ⟨_, rfl⟩
  have s122 : s1 0 22 = τ 0 22 := by rw [es1, sr1_k _ (by decide) (by decide) (by decide) (by decide)]
  have s1y : wfY s1 := by rw [es1]; exact wfY_sr1 hy
  rw [← es1] at hsl hko
  refine G.wsE (ws' := mW dT ad s1) (by rw [es1]; rfl) ?_
  refine G.join (pcJ := 95) (wsJ := mW dT ad s1) (LJ := [some (.ref (ad 0)), some (.int (nI (τ 0 23))), none, none]) (stJ := []) (oI (kindW (s1 0 18))) ?_ (fun J95 => ?_)
  · refine g_istore_n (pc := 95) 2 C0 (L1 := [some (.ref (ad 0)), some (.int (nI (τ 0 23))), some (.int (oI (kindW (s1 0 18)))), none]) rfl (by decide) dX3_takeStair_95 rfl rfl ?_
    refine g_iload_n (pc := 96) 2 C0 rfl dX3_takeStair_96 rfl ?_
    refine g_if_ge (pc := 97) 110 C0 dX3_takeStair_97 (by decide) (fun h97 => ?_) (fun h97 => ?_)
    · obtain ⟨k, hk⟩ := oI_some (Int32.not_lt.mpr h97)
      have hk3 := kindW_lt hk
      obtain ⟨v1, v2⟩ := stairV_s (by rw [← es1]; exact hk)
      have hfl := srF_le τ k
      have hf1l : srF1 τ k ≤ 2 := numV_le _ _ _
      refine G.lE (L' := [some (.ref (ad 0)), some (.int (nI (τ 0 23))), some (.int (nI k)), none]) (by rw [hk]; rfl) ?_
      refine g_aload_n (pc := 110) 0 C0 rfl dX3_takeStair_110 rfl ?_
      refine g_aload_n (pc := 111) 0 C0 rfl dX3_takeStair_111 rfl ?_
      refine m_get (pc := 112) (v := .int (nI (s1 0 19))) C0 19 (by decide) q988 rfl dX3_takeStair_112 ?_
      refine m_put (pc := 115) C0 17 (by decide) q986 rfl (by decide) (mSet_17 _ _ _) dX3_takeStair_115 ?_
      refine g_aload_n (pc := 118) 0 C0 rfl dX3_takeStair_118 rfl ?_
      refine m_get (pc := 119) (v := .ref (ad 24)) C0 24 (by decide) q993 rfl dX3_takeStair_119 ?_
      refine g_iload_n (pc := 122) 1 C0 rfl dX3_takeStair_122 rfl ?_
      refine g_iload_n (pc := 123) 2 C0 rfl dX3_takeStair_123 rfl ?_
      refine g_iast (pc := 124) (q0 := 11) (t0 := 0) C0 (τ 0 23) k mNd rfl (fun _ => rfl) rfl (by decide) (by omega) dX3_takeStair_124 ?_
      obtain ⟨s2, es2⟩ : ∃ z : tT, z = sr2 τ k := ⟨_, rfl⟩
      have s222 : s2 0 22 = τ 0 22 := by rw [es2, sr2_k _ _ (by decide) (by decide) (by decide) (by decide)]
      have s2y : wfY s2 := by rw [es2]; exact wfY_sr2 hy k
      refine G.wsE (ws' := mW dT ad s2) (by rw [es2]; rw [sr2, ← es1]) ?_
      refine g_aload_n (pc := 125) 0 C0 rfl dX3_takeStair_125 rfl ?_
      refine g_aload_n (pc := 126) 0 C0 rfl dX3_takeStair_126 rfl ?_
      refine m_get (pc := 127) (v := .ref (ad 25)) C0 25 (by decide) q994 rfl dX3_takeStair_127 ?_
      refine g_iload_n (pc := 130) 1 C0 rfl dX3_takeStair_130 rfl ?_
      refine g_iconst (pc := 131) (v := (nI 0)) C0 dX3_takeStair_131 (by decide) ?_
      refine g_aload_n (pc := 132) 0 C0 rfl dX3_takeStair_132 rfl ?_
      refine m_get (pc := 133) (v := .int (nI (s2 0 22))) C0 22 (by decide) q991 rfl dX3_takeStair_133 ?_
      refine g_iconst (pc := 136) (v := (nI 1)) C0 dX3_takeStair_136 (by decide) ?_
      refine g_isubN (pc := 137) C0 (by omega) dX3_takeStair_137 ?_
      refine g_cvi (pc := 138) (na := 4) (As := [.ref (ad 25), .int (nI (τ 0 23)), .int (nI 0), .int (nI ((s2 0 22) - 1))]) (rest := []) C0 (mM_into l D dT ad s2 25 12 10 (τ 0 23) 0 ((s2 0 22) - 1) s2y.x (by omega) (by omega) rfl (fun _ => rfl) (by decide) (by omega)) (q0 := 0) (j := 0) (ci := 0) (C := RX3) (T := TX3) (N := 44) rfl rfl rfl q1155 q1157 qs37 q60 q1158 (by decide +kernel) ⟨Nat.le_of_ble_eq_true rfl, Nat.le_of_ble_eq_true rfl⟩ rfl rfl ⟨Nat.le_of_ble_eq_true rfl, Nat.le_of_ble_eq_true rfl⟩ rfl rfl (Nat.le_of_ble_eq_true rfl) dX3_takeStair_138 (fun r s3 hc => ?_)
      obtain ⟨rfl, es3⟩ := hc
      have s3e : s3 = sr3 τ k := by rw [← es3, sr3, es2, sr2_k _ _ (by decide) (by decide) (by decide) (by decide)]
      have s322 : s3 0 22 = τ 0 22 := by rw [s3e, sr3_k _ _ (by decide) (by decide) (by decide) (by decide) (by decide) (by decide) (by decide)]
      have s3y : wfY s3 := by rw [s3e]; exact wfY_sr3 hy k
      refine g_istore_n (pc := 141) 3 C0 (L1 := [some (.ref (ad 0)), some (.int (nI (τ 0 23))), some (.int (nI k)), some (.int (nI (numV s2 0 ((s2 0 22) - 1))))]) rfl (by decide) dX3_takeStair_141 rfl rfl ?_
      have hf2 : numV s2 0 (s2 0 22 - 1) = srF1 τ k := by rw [srF1, es2, sr2_k _ _ (by decide) (by decide) (by decide) (by decide)]
      obtain ⟨f1, ef1⟩ : ∃ z, z = (numV s2 0 ((s2 0 22) - 1)) := ⟨_, rfl⟩
      have hf1e : f1 = srF1 τ k := by rw [ef1, hf2]
      refine G.lE (L' := [some (.ref (ad 0)), some (.int (nI (τ 0 23))), some (.int (nI k)), some (.int (nI f1))]) (by rw [ef1]) ?_
      refine G.meet (pcJ := 166) (wsJ := mW dT ad (sr4 τ k)) (LJ := [some (.ref (ad 0)), some (.int (nI (τ 0 23))), some (.int (nI k)), none]) (stJ := [.int (nI (srF τ k))]) ?_ (fun J166 => ?_)
      · refine g_istore_n (pc := 166) 3 C0 (L1 := [some (.ref (ad 0)), some (.int (nI (τ 0 23))), some (.int (nI k)), some (.int (nI (srF τ k)))]) rfl (by decide) dX3_takeStair_166 rfl rfl ?_
        obtain ⟨s4, es4⟩ : ∃ z : tT, z = sr4 τ k := ⟨_, rfl⟩
        have s4y : wfY s4 := by rw [es4]; exact wfY_sr4 hy k
        refine G.wsE (ws' := mW dT ad s4) (by rw [es4]) ?_
        refine g_iload_n (pc := 167) 3 C0 rfl dX3_takeStair_167 rfl ?_
        refine g_if_leN (pc := 168) 173 C0 (by omega) dX3_takeStair_168 (by decide) (fun h168 => ?_) (fun h168 => ?_)
        · obtain ⟨z1, z2⟩ := sr4_lt hy k h168; rw [← es4] at z1 z2
          refine g_aload_n (pc := 173) 0 C0 rfl dX3_takeStair_173 rfl ?_
          refine m_get (pc := 174) (v := .ref (ad 25)) C0 25 (by decide) q994 rfl dX3_takeStair_174 ?_
          refine g_iload_n (pc := 177) 1 C0 rfl dX3_takeStair_177 rfl ?_
          refine g_iald (pc := 178) (q0 := 12) (t0 := 0) C0 (τ 0 23) rfl (fun _ => rfl) rfl (by decide) (by omega) dX3_takeStair_178 ?_
          refine g_aload_n (pc := 179) 0 C0 rfl dX3_takeStair_179 rfl ?_
          refine m_get (pc := 180) (v := .ref (ad 26)) C0 26 (by decide) q995 rfl dX3_takeStair_180 ?_
          refine g_iload_n (pc := 183) 1 C0 rfl dX3_takeStair_183 rfl ?_
          refine g_iald (pc := 184) (q0 := 13) (t0 := 0) C0 (τ 0 23) rfl (fun _ => rfl) rfl (by decide) (by omega) dX3_takeStair_184 ?_
          refine g_icmp_neN (pc := 185) 200 C0 z1 z2 dX3_takeStair_185 (by decide) (fun h185 => ?_) (fun h185 => ?_)
          · refine g_aload_n (pc := 200) 0 C0 rfl dX3_takeStair_200 rfl ?_
            refine g_iload_n (pc := 201) 1 C0 rfl dX3_takeStair_201 rfl ?_
            refine g_cvi (pc := 202) (na := 1) (As := [.int (nI (τ 0 23))]) (rest := []) C0 (mM_takeParts l D dT ad s4 (τ 0 23) s4y (by omega)) (q0 := 0) (j := 0) (ci := 0) (C := RX3) (T := TX3) (N := 44) rfl rfl rfl q1159 q1161 qs38 q60 q1162 (by decide +kernel) ⟨Nat.le_of_ble_eq_true rfl, Nat.le_of_ble_eq_true rfl⟩ rfl rfl ⟨Nat.le_of_ble_eq_true rfl, Nat.le_of_ble_eq_true rfl⟩ rfl rfl (Nat.le_of_ble_eq_true rfl) dX3_takeStair_202 (fun r τ0 hc => ?_)
            obtain ⟨rfl, rfl⟩ := hc
            exact g_iret (pc := 205) C0 dX3_takeStair_205 ⟨by rw [v1, srV, if_neg (by omega), ← es4, if_neg h185], by rw [v2, srT, if_neg (by omega), ← es4, if_neg h185]⟩
          · refine g_aload_n (pc := 188) 0 C0 rfl dX3_takeStair_188 rfl ?_
            refine g_iconst (pc := 189) (v := (nI 4)) C0 dX3_takeStair_189 (by decide) ?_
            refine g_aload_n (pc := 190) 0 C0 rfl dX3_takeStair_190 rfl ?_
            refine m_get (pc := 191) (v := .int (nI (s4 0 21))) C0 21 (by decide) q990 rfl dX3_takeStair_191 ?_
            refine g_cvi (pc := 194) (na := 2) (As := [.int (nI 4), .int (nI (s4 0 21))]) (rest := []) C0 (mM_fails l D dT ad s4 4 (s4 0 21) ) (q0 := 0) (j := 0) (ci := 0) (C := RX3) (T := TX3) (N := 44) rfl rfl rfl q1141 q1143 qs34 q60 q1144 (by decide +kernel) ⟨Nat.le_of_ble_eq_true rfl, Nat.le_of_ble_eq_true rfl⟩ rfl rfl ⟨Nat.le_of_ble_eq_true rfl, Nat.le_of_ble_eq_true rfl⟩ rfl rfl (Nat.le_of_ble_eq_true rfl) dX3_takeStair_194 (fun r τ0 hc => ?_)
            obtain ⟨rfl, rfl⟩ := hc
            refine g_goto (pc := 197) 205 C0 dX3_takeStair_197 (by decide) ?_
            exact g_iret (pc := 205) C0 dX3_takeStair_205 ⟨by rw [v1, srV, if_neg (by omega), ← es4, if_pos h185], by rw [v2, srT, if_neg (by omega), ← es4, if_pos h185]⟩
        · refine g_iload_n (pc := 171) 3 C0 rfl dX3_takeStair_171 rfl ?_
          exact g_iret (pc := 172) C0 dX3_takeStair_172 ⟨by rw [v1, srV, if_pos h168], by rw [v2, srT, if_pos h168]; exact es4.symm⟩
      · have hf2 : numV s2 0 (s2 0 22 - 1) = srF1 τ k := by rw [srF1, es2, sr2_k _ _ (by decide) (by decide) (by decide) (by decide)]
        refine g_iload_n (pc := 142) 3 C0 rfl dX3_takeStair_142 rfl ?_
        refine g_if_leN (pc := 143) 150 C0 (by omega) dX3_takeStair_143 (by decide) (fun h143 => ?_) (fun h143 => ?_)
        · refine g_aload_n (pc := 150) 0 C0 rfl dX3_takeStair_150 rfl ?_
          refine g_aload_n (pc := 151) 0 C0 rfl dX3_takeStair_151 rfl ?_
          refine m_get (pc := 152) (v := .ref (ad 26)) C0 26 (by decide) q995 rfl dX3_takeStair_152 ?_
          refine g_iload_n (pc := 155) 1 C0 rfl dX3_takeStair_155 rfl ?_
          refine g_iconst (pc := 156) (v := (nI 0)) C0 dX3_takeStair_156 (by decide) ?_
          refine g_aload_n (pc := 157) 0 C0 rfl dX3_takeStair_157 rfl ?_
          refine m_get (pc := 158) (v := .int (nI (s3 0 22))) C0 22 (by decide) q991 rfl dX3_takeStair_158 ?_
          refine g_iconst (pc := 161) (v := (nI 1)) C0 dX3_takeStair_161 (by decide) ?_
          refine g_isubN (pc := 162) C0 (by omega) dX3_takeStair_162 ?_
          refine g_cvi (pc := 163) (na := 4) (As := [.ref (ad 26), .int (nI (τ 0 23)), .int (nI 0), .int (nI ((s3 0 22) - 1))]) (rest := []) C0 (mM_into l D dT ad s3 26 13 10 (τ 0 23) 0 ((s3 0 22) - 1) s3y.x (by omega) (by omega) rfl (fun _ => rfl) (by decide) (by omega)) (q0 := 0) (j := 0) (ci := 0) (C := RX3) (T := TX3) (N := 44) rfl rfl rfl q1155 q1157 qs37 q60 q1158 (by decide +kernel) ⟨Nat.le_of_ble_eq_true rfl, Nat.le_of_ble_eq_true rfl⟩ rfl rfl ⟨Nat.le_of_ble_eq_true rfl, Nat.le_of_ble_eq_true rfl⟩ rfl rfl (Nat.le_of_ble_eq_true rfl) dX3_takeStair_163 (fun r τ0 hc => ?_)
          obtain ⟨rfl, rfl⟩ := hc
          have e9 : srF τ k = numV s3 0 ((s3 0 22) - 1) := by rw [srF, if_neg (by omega), ← s3e, ← s322]
          have e8 : sr4 τ k = (intoT s3 26 (τ 0 23) 0 ((s3 0 22) - 1)) := by rw [sr4, if_neg (by omega), ← s3e, ← s322]
          refine G.forget 3 ?_
          refine G.wsE (ws' := mW dT ad (sr4 τ k)) (by rw [e8]) ?_
          exact G.stE (by rw [e9]) J166
        · refine g_iload_n (pc := 146) 3 C0 rfl dX3_takeStair_146 rfl ?_
          refine g_goto (pc := 147) 166 C0 dX3_takeStair_147 (by decide) ?_
          have e9 : srF τ k = f1 := by rw [srF, if_pos (by omega), hf1e]
          have e8 : sr4 τ k = s3 := by rw [sr4, if_pos (by omega), ← s3e]
          refine G.forget 3 ?_
          refine G.wsE (ws' := mW dT ad (sr4 τ k)) (by rw [e8]) ?_
          exact G.stE (by rw [e9]) J166
    · refine g_aload_n (pc := 100) 0 C0 rfl dX3_takeStair_100 rfl ?_
      refine g_iconst (pc := 101) (v := (nI 1)) C0 dX3_takeStair_101 (by decide) ?_
      refine g_aload_n (pc := 102) 0 C0 rfl dX3_takeStair_102 rfl ?_
      refine m_get (pc := 103) (v := .int (nI (s1 0 17))) C0 17 (by decide) q986 rfl dX3_takeStair_103 ?_
      refine g_cvi (pc := 106) (na := 2) (As := [.int (nI 1), .int (nI (s1 0 17))]) (rest := []) C0 (mM_fails l D dT ad s1 1 (s1 0 17) ) (q0 := 0) (j := 0) (ci := 0) (C := RX3) (T := TX3) (N := 44) rfl rfl rfl q1141 q1143 qs34 q60 q1144 (by decide +kernel) ⟨Nat.le_of_ble_eq_true rfl, Nat.le_of_ble_eq_true rfl⟩ rfl rfl ⟨Nat.le_of_ble_eq_true rfl, Nat.le_of_ble_eq_true rfl⟩ rfl rfl (Nat.le_of_ble_eq_true rfl) dX3_takeStair_106 (fun r τ0 hc => ?_)
      obtain ⟨rfl, rfl⟩ := hc
      exact g_iret (pc := 109) C0 dX3_takeStair_109 ⟨congrArg nI (stairV_n (by rw [← es1]; exact oI_none hko (Int32.not_le.mp h97))).1.symm, by rw [(stairV_n (by rw [← es1]; exact oI_none hko (Int32.not_le.mp h97))).2, ← es1]⟩
  · refine g_aload_n (pc := 19) 0 C0 rfl dX3_takeStair_19 rfl ?_
    refine m_get (pc := 20) (v := .long (lN (s1 0 18))) C0 18 (by decide) q987 rfl dX3_takeStair_20 ?_
    refine g_bipush (pc := 23) (v := (nI 112)) C0 dX3_takeStair_23 (by decide) ?_
    refine g_bipush (pc := 25) (v := (nI 108)) C0 dX3_takeStair_25 (by decide) ?_
    refine g_bipush (pc := 27) (v := (nI 97)) C0 dX3_takeStair_27 (by decide) ?_
    refine g_bipush (pc := 29) (v := (nI 105)) C0 dX3_takeStair_29 (by decide) ?_
    refine g_csl (pc := 31) (na := 4) (As := [.int (nI 112), .int (nI 108), .int (nI 97), .int (nI 105)]) (rest := [.long (lN (s1 0 18))]) C0 (mM_code l 112 108 97 105 (by decide) (by decide) (by decide) (by decide) (by decide) (by decide) (by decide) (by decide)) q1135 q1136 q60 q1137 (by decide +kernel) ⟨Nat.le_of_ble_eq_true rfl, Nat.le_of_ble_eq_true rfl⟩ rfl rfl ⟨Nat.le_of_ble_eq_true rfl, Nat.le_of_ble_eq_true rfl⟩ rfl rfl (Nat.le_of_ble_eq_true rfl) dX3_takeStair_31 ?_
    refine g_bipush (pc := 34) (v := (nI 110)) C0 dX3_takeStair_34 (by decide) ?_
    refine g_iconst (pc := 36) (v := (nI 0)) C0 dX3_takeStair_36 (by decide) ?_
    refine g_csl (pc := 37) (na := 3) (As := [.long (lN (code4 112 108 97 105)), .int (nI 110), .int (nI 0)]) (rest := [.long (lN (s1 0 18))]) C0 (mM_longer l (code4 112 108 97 105) 110 0 (by decide) (by decide) (by decide) (by decide)) q1138 q1139 q60 q1140 (by decide +kernel) ⟨Nat.le_of_ble_eq_true rfl, Nat.le_of_ble_eq_true rfl⟩ rfl rfl ⟨Nat.le_of_ble_eq_true rfl, Nat.le_of_ble_eq_true rfl⟩ rfl rfl (Nat.le_of_ble_eq_true rfl) dX3_takeStair_37 ?_
    refine g_lcmp (pc := 40) C0 dX3_takeStair_40 ?_
    refine g_if_neX (pc := 41) 48 C0 dX3_takeStair_41 (by decide) (fun h41 => ?_) (fun h41 => ?_)
    · refine g_aload_n (pc := 48) 0 C0 rfl dX3_takeStair_48 rfl ?_
      refine m_get (pc := 49) (v := .long (lN (s1 0 18))) C0 18 (by decide) q987 rfl dX3_takeStair_49 ?_
      refine g_bipush (pc := 52) (v := (nI 111)) C0 dX3_takeStair_52 (by decide) ?_
      refine g_bipush (pc := 54) (v := (nI 112)) C0 dX3_takeStair_54 (by decide) ?_
      refine g_bipush (pc := 56) (v := (nI 101)) C0 dX3_takeStair_56 (by decide) ?_
      refine g_bipush (pc := 58) (v := (nI 110)) C0 dX3_takeStair_58 (by decide) ?_
      refine g_csl (pc := 60) (na := 4) (As := [.int (nI 111), .int (nI 112), .int (nI 101), .int (nI 110)]) (rest := [.long (lN (s1 0 18))]) C0 (mM_code l 111 112 101 110 (by decide) (by decide) (by decide) (by decide) (by decide) (by decide) (by decide) (by decide)) q1135 q1136 q60 q1137 (by decide +kernel) ⟨Nat.le_of_ble_eq_true rfl, Nat.le_of_ble_eq_true rfl⟩ rfl rfl ⟨Nat.le_of_ble_eq_true rfl, Nat.le_of_ble_eq_true rfl⟩ rfl rfl (Nat.le_of_ble_eq_true rfl) dX3_takeStair_60 ?_
      refine g_lcmp (pc := 63) C0 dX3_takeStair_63 ?_
      refine g_if_neX (pc := 64) 71 C0 dX3_takeStair_64 (by decide) (fun h64 => ?_) (fun h64 => ?_)
      · refine g_aload_n (pc := 71) 0 C0 rfl dX3_takeStair_71 rfl ?_
        refine m_get (pc := 72) (v := .long (lN (s1 0 18))) C0 18 (by decide) q987 rfl dX3_takeStair_72 ?_
        refine g_bipush (pc := 75) (v := (nI 108)) C0 dX3_takeStair_75 (by decide) ?_
        refine g_bipush (pc := 77) (v := (nI 101)) C0 dX3_takeStair_77 (by decide) ?_
        refine g_bipush (pc := 79) (v := (nI 97)) C0 dX3_takeStair_79 (by decide) ?_
        refine g_bipush (pc := 81) (v := (nI 112)) C0 dX3_takeStair_81 (by decide) ?_
        refine g_csl (pc := 83) (na := 4) (As := [.int (nI 108), .int (nI 101), .int (nI 97), .int (nI 112)]) (rest := [.long (lN (s1 0 18))]) C0 (mM_code l 108 101 97 112 (by decide) (by decide) (by decide) (by decide) (by decide) (by decide) (by decide) (by decide)) q1135 q1136 q60 q1137 (by decide +kernel) ⟨Nat.le_of_ble_eq_true rfl, Nat.le_of_ble_eq_true rfl⟩ rfl rfl ⟨Nat.le_of_ble_eq_true rfl, Nat.le_of_ble_eq_true rfl⟩ rfl rfl (Nat.le_of_ble_eq_true rfl) dX3_takeStair_83 ?_
        refine g_lcmp (pc := 86) C0 dX3_takeStair_86 ?_
        refine g_if_neX (pc := 87) 94 C0 dX3_takeStair_87 (by decide) (fun h87 => ?_) (fun h87 => ?_)
        · refine g_iconst (pc := 94) (v := (-1)) C0 dX3_takeStair_94 (by decide) ?_
          exact J95 (-1) (by have kh41 : ¬ s1 0 18 = cPlain := lg_ne_w hsl (by decide) h41; have kh64 : ¬ s1 0 18 = cOpen := lg_ne_w hsl (by decide) h64; have kh87 : ¬ s1 0 18 = cLeap := lg_ne_w hsl (by decide) h87; rw [kindW, if_neg kh41, if_neg kh64, if_neg kh87]; rfl)
        · refine g_iconst (pc := 90) (v := (nI 2)) C0 dX3_takeStair_90 (by decide) ?_
          refine g_goto (pc := 91) 95 C0 dX3_takeStair_91 (by decide) ?_
          exact J95 (nI 2) (by have kh41 : ¬ s1 0 18 = cPlain := lg_ne_w hsl (by decide) h41; have kh64 : ¬ s1 0 18 = cOpen := lg_ne_w hsl (by decide) h64; have kh87 : s1 0 18 = cLeap := lg_eq_w hsl (by decide) h87; rw [kindW, if_neg kh41, if_neg kh64, if_pos kh87]; rfl)
      · refine g_iconst (pc := 67) (v := (nI 1)) C0 dX3_takeStair_67 (by decide) ?_
        refine g_goto (pc := 68) 95 C0 dX3_takeStair_68 (by decide) ?_
        exact J95 (nI 1) (by have kh41 : ¬ s1 0 18 = cPlain := lg_ne_w hsl (by decide) h41; have kh64 : s1 0 18 = cOpen := lg_eq_w hsl (by decide) h64; rw [kindW, if_neg kh41, if_pos kh64]; rfl)
    · refine g_iconst (pc := 44) (v := (nI 0)) C0 dX3_takeStair_44 (by decide) ?_
      refine g_goto (pc := 45) 95 C0 dX3_takeStair_45 (by decide) ?_
      exact J95 (nI 0) (by have kh41 : s1 0 18 = cPlain := lg_eq_w hsl (by decide) h41; rw [kindW, if_pos kh41]; rfl)
