/-! the model, eleventh module -/
set_option maxRecDepth 100000
set_option maxHeartbeats 4000000 in
set_option maxRecDepth 100000 in
theorem mM_takeClause (l : Launch) (D : va_G) (dT : Nat → ClassId) (ad : Nat → Nat) (τ : tT)  (hy : wfY τ) (h22 : τ 0 22 ≤ 8) (h23 : τ 0 23 ≤ 10) (h29 : τ 0 29 ≤ 8) : MI l D dT ad yX3_takeClause cX3_takeClause 4 .int ({ frames := 5, cells := 0, slots := 0, locals := 119 }) [] τ (fun rr τ' => rr = (nI (claV τ)) ∧ (claT τ) = τ') := by
  refine CI.ofG (own := "FittingStridesModel") (L := [some (.ref (ad 0)), none, none, none]) rfl (by decide) (Nat.le_of_ble_eq_true rfl) rfl ?_
  intro p' e' s' m' bl' mt' c' C0
  have hsl : cl1 τ 0 18 ≤ 270000000000026 := by rw [cl1, rwT_18]; exact wSaid_le hy.x
  have hko : ∀ q, clK (cl1 τ 0 18) = some q → q < 2 ^ 31 := fun q e => Nat.lt_trans (clK_lt e) (by decide)
  have ho1 : ∀ q, oneK (cl1 τ 0 18) = some q → q < 2 ^ 31 := fun q e => Nat.lt_trans (oneK_lt e) (by decide)
  refine g_aload_n (pc := 0) 0 C0 rfl dX3_takeClause_0 rfl ?_
  refine g_cvv (pc := 1) (na := 0) (As := []) (rest := []) C0 (mM_readWord l D dT ad τ  hy.x) (q0 := 0) (j := 0) (ci := 0) (C := RX3) (T := TX3) (N := 44) rfl rfl rfl q1125 q1127 qs33 q60 q1128 (by decide +kernel) ⟨Nat.le_of_ble_eq_true rfl, Nat.le_of_ble_eq_true rfl⟩ rfl rfl ⟨Nat.le_of_ble_eq_true rfl, Nat.le_of_ble_eq_true rfl⟩ rfl rfl (Nat.le_of_ble_eq_true rfl) dX3_takeClause_1 (fun τ0 hc => ?_)
  subst hc
  obtain ⟨s1, es1⟩ : ∃ z : tT, z = cl1 τ := ⟨_, rfl⟩
  have s122 : s1 0 22 = τ 0 22 := by rw [es1, cl1_k _ (by decide) (by decide) (by decide)]
  have s123 : s1 0 23 = τ 0 23 := by rw [es1, cl1_k _ (by decide) (by decide) (by decide)]
  have s129 : s1 0 29 = τ 0 29 := by rw [es1, cl1_k _ (by decide) (by decide) (by decide)]
  have s1y : wfY s1 := by rw [es1]; exact wfY_cl1 hy
  rw [← es1] at hsl hko ho1
  refine G.wsE (ws' := mW dT ad s1) (by rw [es1]; rfl) ?_
  refine G.join (pcJ := 64) (wsJ := mW dT ad s1) (LJ := [some (.ref (ad 0)), none, none, none]) (stJ := []) (oI (oneK (s1 0 18))) ?_ (fun J64 => ?_)
  · refine g_istore_n (pc := 64) 1 C0 (L1 := [some (.ref (ad 0)), some (.int (oI (oneK (s1 0 18)))), none, none]) rfl (by decide) dX3_takeClause_64 rfl rfl ?_
    refine G.join (pcJ := 104) (wsJ := mW dT ad s1) (LJ := [some (.ref (ad 0)), some (.int (oI (oneK (s1 0 18)))), none, none]) (stJ := []) (oI (clK (s1 0 18))) ?_ (fun J104 => ?_)
    · refine g_istore_n (pc := 104) 2 C0 (L1 := [some (.ref (ad 0)), some (.int (oI (oneK (s1 0 18)))), some (.int (oI (clK (s1 0 18)))), none]) rfl (by decide) dX3_takeClause_104 rfl rfl ?_
      refine g_iload_n (pc := 105) 2 C0 rfl dX3_takeClause_105 rfl ?_
      refine g_if_lt (pc := 106) 120 C0 dX3_takeClause_106 (by decide) (fun h106 => ?_) (fun h106 => ?_)
      · refine g_aload_n (pc := 120) 0 C0 rfl dX3_takeClause_120 rfl ?_
        refine g_iconst (pc := 121) (v := (nI 1)) C0 dX3_takeClause_121 (by decide) ?_
        refine g_aload_n (pc := 122) 0 C0 rfl dX3_takeClause_122 rfl ?_
        refine m_get (pc := 123) (v := .int (nI (s1 0 17))) C0 17 (by decide) q986 rfl dX3_takeClause_123 ?_
        refine g_cvi (pc := 126) (na := 2) (As := [.int (nI 1), .int (nI (s1 0 17))]) (rest := []) C0 (mM_fails l D dT ad s1 1 (s1 0 17) ) (q0 := 0) (j := 0) (ci := 0) (C := RX3) (T := TX3) (N := 44) rfl rfl rfl q1141 q1143 qs34 q60 q1144 (by decide +kernel) ⟨Nat.le_of_ble_eq_true rfl, Nat.le_of_ble_eq_true rfl⟩ rfl rfl ⟨Nat.le_of_ble_eq_true rfl, Nat.le_of_ble_eq_true rfl⟩ rfl rfl (Nat.le_of_ble_eq_true rfl) dX3_takeClause_126 (fun r τ0 hc => ?_)
        obtain ⟨rfl, rfl⟩ := hc
        exact g_iret (pc := 129) C0 dX3_takeClause_129 ⟨congrArg nI (cla_n (by rw [clS, ← es1]; exact oI_none hko h106)).1.symm, by rw [(cla_n (by rw [clS, ← es1]; exact oI_none hko h106)).2, clFail, ← es1]⟩
      · obtain ⟨k, hk⟩ := oI_some h106
        have hk3 := clK_lt hk
        obtain ⟨v1, v2⟩ := cla_s (τ := τ) (by rw [clS, ← es1]; exact hk)
        have hal := cqA_le τ k
        have hby := wfY_clB hy k
        refine G.lE (L' := [some (.ref (ad 0)), some (.int (oI (oneK (s1 0 18)))), some (.int (nI k)), none]) (by rw [hk]; rfl) ?_
        refine g_iload_n (pc := 109) 2 C0 rfl dX3_takeClause_109 rfl ?_
        refine g_if_leN (pc := 110) 130 C0 (by omega) dX3_takeClause_110 (by decide) (fun h110 => ?_) (fun h110 => ?_)
        · refine G.meetH (h := clFull τ k = false ∧ ¬ (0 < k ∧ τ 0 22 = 0)) (pcJ := 180) (wsJ := mW dT ad s1) (LJ := [some (.ref (ad 0)), some (.int (oI (oneK (s1 0 18)))), some (.int (nI k)), none]) (stJ := []) (fun hfu => ?_) (fun J180 => ?_)
          · refine g_aload_n (pc := 180) 0 C0 rfl dX3_takeClause_180 rfl ?_
            refine g_aload_n (pc := 181) 0 C0 rfl dX3_takeClause_181 rfl ?_
            refine m_get (pc := 182) (v := .int (nI (s1 0 19))) C0 19 (by decide) q988 rfl dX3_takeClause_182 ?_
            refine m_put (pc := 185) C0 17 (by decide) q986 rfl (by decide) (mSet_17 _ _ _) dX3_takeClause_185 ?_
            refine g_iconst (pc := 188) (v := (nI 0)) C0 dX3_takeClause_188 (by decide) ?_
            refine g_istore_n (pc := 189) 3 C0 (L1 := [some (.ref (ad 0)), some (.int (oI (oneK (s1 0 18)))), some (.int (nI k)), some (.int (nI 0))]) rfl (by decide) dX3_takeClause_189 rfl rfl ?_
            obtain ⟨s2, es2⟩ : ∃ z : tT, z = cl2 τ := ⟨_, rfl⟩
            have s2y : wfY s2 := by rw [es2]; exact wfY_cl2 hy
            have s222 : s2 0 22 = τ 0 22 := by rw [es2, cl2_k _ (by decide) (by decide) (by decide)]
            have s223 : s2 0 23 = τ 0 23 := by rw [es2, cl2_k _ (by decide) (by decide) (by decide)]
            have s229 : s2 0 29 = τ 0 29 := by rw [es2, cl2_k _ (by decide) (by decide) (by decide)]
            refine G.wsE (ws' := mW dT ad s2) (by rw [es2]; rw [cl2, ← es1]) ?_
            have hpl : k = 1 → 1 ≤ τ 0 22 ∧ τ 0 23 < 10 := fun e => by subst e; have := of_decide_eq_false (show decide (τ 0 23 = 10) = false from hfu.1); omega
            have hpp : ¬ k = 0 → ¬ k = 1 → 1 ≤ τ 0 22 ∧ τ 0 29 < 8 := fun e e2 => by have q := hfu.1; rw [clFull, if_neg e, if_neg e2] at q; have := of_decide_eq_false q; omega
            refine G.meet (pcJ := 230) (wsJ := mW dT ad (clB τ k)) (LJ := [some (.ref (ad 0)), some (.int (oI (oneK (s1 0 18)))), some (.int (nI k)), some (.int (nI (cqA τ k)))]) (stJ := []) ?_ (fun J230 => ?_)
            · obtain ⟨f7, e7⟩ : ∃ z, z = cqA τ k := ⟨_, rfl⟩
              refine G.lE (L' := [some (.ref (ad 0)), some (.int (oI (oneK (s1 0 18)))), some (.int (nI k)), some (.int (nI f7))]) (by rw [e7]) ?_
              obtain ⟨s5, es5⟩ : ∃ z : tT, z = clB τ k := ⟨_, rfl⟩
              have s5y : wfY s5 := by rw [es5]; exact hby
              refine G.wsE (ws' := mW dT ad s5) (by rw [es5]) ?_
              refine g_iload_n (pc := 230) 3 C0 rfl dX3_takeClause_230 rfl ?_
              refine g_if_neN (pc := 231) 253 C0 (by omega) dX3_takeClause_231 (by decide) (fun h231 => ?_) (fun h231 => ?_)
              · refine g_aload_n (pc := 253) 0 C0 rfl dX3_takeClause_253 rfl ?_
                refine g_dup (pc := 254) C0 dX3_takeClause_254 rfl ?_
                refine m_get (pc := 255) (v := .int (nI (s5 0 17))) C0 17 (by decide) q986 rfl dX3_takeClause_255 ?_
                refine g_iconst (pc := 258) (v := (nI 1)) C0 dX3_takeClause_258 (by decide) ?_
                refine g_iaddN (pc := 259) C0  dX3_takeClause_259 ?_
                refine m_put (pc := 260) C0 17 (by decide) q986 rfl (by decide) (mSet_17 _ _ _) dX3_takeClause_260 ?_
                refine g_iload_n (pc := 263) 3 C0 rfl dX3_takeClause_263 rfl ?_
                exact g_iret (pc := 264) C0 dX3_takeClause_264 ⟨by rw [v1, ckV, if_neg hfu.2, hfu.1, clEV, ← e7, if_neg h231]; rfl, by rw [v2, ckT, if_neg hfu.2, hfu.1, clET, ← e7, if_neg h231, ← es5]; rfl⟩
              · refine g_aload_n (pc := 234) 0 C0 rfl dX3_takeClause_234 rfl ?_
                refine g_cvi (pc := 235) (na := 0) (As := []) (rest := []) C0 (mM_here l D dT ad s5  s5y.x) (q0 := 0) (j := 0) (ci := 0) (C := RX3) (T := TX3) (N := 44) rfl rfl rfl q1117 q1119 qs31 q60 q1120 (by decide +kernel) ⟨Nat.le_of_ble_eq_true rfl, Nat.le_of_ble_eq_true rfl⟩ rfl rfl ⟨Nat.le_of_ble_eq_true rfl, Nat.le_of_ble_eq_true rfl⟩ rfl rfl (Nat.le_of_ble_eq_true rfl) dX3_takeClause_235 (fun r τ0 hc => ?_)
                obtain ⟨rfl, rfl⟩ := hc
                refine g_bipush (pc := 238) (v := (nI 59)) C0 dX3_takeClause_238 (by decide) ?_
                refine g_icmp_eq (pc := 240) 253 C0 dX3_takeClause_240 (by decide) (fun h240 => ?_) (fun h240 => ?_)
                · have hc : hrV s5 = some 59 := (oI_eq (hrV_lt s5y.x) (by decide)).mp h240
                  refine g_aload_n (pc := 253) 0 C0 rfl dX3_takeClause_253 rfl ?_
                  refine g_dup (pc := 254) C0 dX3_takeClause_254 rfl ?_
                  refine m_get (pc := 255) (v := .int (nI (hrA s5))) C0 17 (by decide) q986 rfl dX3_takeClause_255 ?_
                  refine g_iconst (pc := 258) (v := (nI 1)) C0 dX3_takeClause_258 (by decide) ?_
                  refine g_iaddN (pc := 259) C0  dX3_takeClause_259 ?_
                  refine m_put (pc := 260) C0 17 (by decide) q986 rfl (by decide) (mSet_17 _ _ _) dX3_takeClause_260 ?_
                  refine g_iload_n (pc := 263) 3 C0 rfl dX3_takeClause_263 rfl ?_
                  exact g_iret (pc := 264) C0 dX3_takeClause_264 ⟨by rw [v1, ckV, if_neg hfu.2, hfu.1, clEV, ← e7, if_pos h231, ← es5, if_pos hc]; exact congrArg nI h231, by rw [v2, ckT, if_neg hfu.2, hfu.1, clET, ← e7, if_pos h231, ← es5, if_pos hc]; rfl⟩
                · have hc : ¬ hrV s5 = some 59 := fun q => h240 ((oI_eq (hrV_lt s5y.x) (by decide)).mpr q)
                  refine g_aload_n (pc := 243) 0 C0 rfl dX3_takeClause_243 rfl ?_
                  refine g_iconst (pc := 244) (v := (nI 1)) C0 dX3_takeClause_244 (by decide) ?_
                  refine g_aload_n (pc := 245) 0 C0 rfl dX3_takeClause_245 rfl ?_
                  refine m_get (pc := 246) (v := .int (nI (hrA s5))) C0 17 (by decide) q986 rfl dX3_takeClause_246 ?_
                  refine g_cvi (pc := 249) (na := 2) (As := [.int (nI 1), .int (nI (hrA s5))]) (rest := []) C0 (mM_fails l D dT ad (upc s5 0 17 (hrA s5)) 1 (hrA s5) ) (q0 := 0) (j := 0) (ci := 0) (C := RX3) (T := TX3) (N := 44) rfl rfl rfl q1141 q1143 qs34 q60 q1144 (by decide +kernel) ⟨Nat.le_of_ble_eq_true rfl, Nat.le_of_ble_eq_true rfl⟩ rfl rfl ⟨Nat.le_of_ble_eq_true rfl, Nat.le_of_ble_eq_true rfl⟩ rfl rfl (Nat.le_of_ble_eq_true rfl) dX3_takeClause_249 (fun r τ0 hc => ?_)
                  obtain ⟨rfl, rfl⟩ := hc
                  exact g_iret (pc := 252) C0 dX3_takeClause_252 ⟨by rw [v1, ckV, if_neg hfu.2, hfu.1, clEV, ← e7, if_pos h231, ← es5, if_neg hc]; rfl, by rw [v2, ckT, if_neg hfu.2, hfu.1, clET, ← e7, if_pos h231, ← es5, if_neg hc]; rfl⟩
            · refine g_iload_n (pc := 190) 2 C0 rfl dX3_takeClause_190 rfl ?_
              refine g_if_neN (pc := 191) 213 C0 (by omega) dX3_takeClause_191 (by decide) (fun h191 => ?_) (fun h191 => ?_)
              · refine g_iload_n (pc := 213) 2 C0 rfl dX3_takeClause_213 rfl ?_
                refine g_iconst (pc := 214) (v := (nI 1)) C0 dX3_takeClause_214 (by decide) ?_
                refine g_icmp_neN (pc := 215) 225 C0 (by omega) (by decide) dX3_takeClause_215 (by decide) (fun h215 => ?_) (fun h215 => ?_)
                · refine g_aload_n (pc := 225) 0 C0 rfl dX3_takeClause_225 rfl ?_
                  refine g_cvi (pc := 226) (na := 0) (As := []) (rest := []) C0 (mM_takePerson l D dT ad s2  s2y (by have := hpp h191 h215; omega) (by have := hpp h191 h215; omega) (by omega)) (q0 := 0) (j := 0) (ci := 0) (C := RX3) (T := TX3) (N := 44) rfl rfl rfl q1163 q1165 qs39 q60 q1166 (by decide +kernel) ⟨Nat.le_of_ble_eq_true rfl, Nat.le_of_ble_eq_true rfl⟩ rfl rfl ⟨Nat.le_of_ble_eq_true rfl, Nat.le_of_ble_eq_true rfl⟩ rfl rfl (Nat.le_of_ble_eq_true rfl) dX3_takeClause_226 (fun r τ0 hc => ?_)
                  obtain ⟨rfl, rfl⟩ := hc
                  refine g_istore_n (pc := 229) 3 C0 (L1 := [some (.ref (ad 0)), some (.int (oI (oneK (s1 0 18)))), some (.int (nI k)), some (.int (nI (persV s2)))]) rfl (by decide) dX3_takeClause_229 rfl rfl ?_
                  have e9 : cqA τ k = persV s2 := by rw [cqA, if_neg h191, if_neg h215, ← es2]
                  have e8 : clB τ k = (persT s2) := by rw [clB, if_neg h191, if_neg h215, ← es2]
                  refine G.wsE (ws' := mW dT ad (clB τ k)) (by rw [e8]) ?_
                  exact G.lE (by rw [e9]) J230
                · refine g_aload_n (pc := 218) 0 C0 rfl dX3_takeClause_218 rfl ?_
                  refine g_cvi (pc := 219) (na := 0) (As := []) (rest := []) C0 (mM_takeStair l D dT ad s2  s2y (by have := hpl h215; omega) (by have := hpl h215; omega) (by omega)) (q0 := 0) (j := 0) (ci := 0) (C := RX3) (T := TX3) (N := 44) rfl rfl rfl q1151 q1153 qs36 q60 q1154 (by decide +kernel) ⟨Nat.le_of_ble_eq_true rfl, Nat.le_of_ble_eq_true rfl⟩ rfl rfl ⟨Nat.le_of_ble_eq_true rfl, Nat.le_of_ble_eq_true rfl⟩ rfl rfl (Nat.le_of_ble_eq_true rfl) dX3_takeClause_219 (fun r τ0 hc => ?_)
                  obtain ⟨rfl, rfl⟩ := hc
                  refine g_goto (pc := 222) 229 C0 dX3_takeClause_222 (by decide) ?_
                  refine g_istore_n (pc := 229) 3 C0 (L1 := [some (.ref (ad 0)), some (.int (oI (oneK (s1 0 18)))), some (.int (nI k)), some (.int (nI (stairV s2)))]) rfl (by decide) dX3_takeClause_229 rfl rfl ?_
                  have e9 : cqA τ k = stairV s2 := by rw [cqA, if_neg h191, if_pos h215, ← es2]
                  have e8 : clB τ k = (stairT s2) := by rw [clB, if_neg h191, if_pos h215, ← es2]
                  refine G.wsE (ws' := mW dT ad (clB τ k)) (by rw [e8]) ?_
                  exact G.lE (by rw [e9]) J230
              · refine g_aload_n (pc := 194) 0 C0 rfl dX3_takeClause_194 rfl ?_
                refine g_iconst (pc := 195) (v := (nI 1)) C0 dX3_takeClause_195 (by decide) ?_
                refine g_bipush (pc := 196) (v := (nI 8)) C0 dX3_takeClause_196 (by decide) ?_
                refine g_cvi (pc := 198) (na := 2) (As := [.int (nI 1), .int (nI 8)]) (rest := []) C0 (mM_takeNumber l D dT ad s2 1 8 s2y.x (by decide) (by decide)) (q0 := 0) (j := 0) (ci := 0) (C := RX3) (T := TX3) (N := 44) rfl rfl rfl q1145 q1147 qs35 q60 q1148 (by decide +kernel) ⟨Nat.le_of_ble_eq_true rfl, Nat.le_of_ble_eq_true rfl⟩ rfl rfl ⟨Nat.le_of_ble_eq_true rfl, Nat.le_of_ble_eq_true rfl⟩ rfl rfl (Nat.le_of_ble_eq_true rfl) dX3_takeClause_198 (fun r τ0 hc => ?_)
                obtain ⟨rfl, rfl⟩ := hc
                refine g_istore_n (pc := 201) 3 C0 (L1 := [some (.ref (ad 0)), some (.int (oI (oneK (s1 0 18)))), some (.int (nI k)), some (.int (nI (numV s2 1 8)))]) rfl (by decide) dX3_takeClause_201 rfl rfl ?_
                refine g_aload_n (pc := 202) 0 C0 rfl dX3_takeClause_202 rfl ?_
                refine g_aload_n (pc := 203) 0 C0 rfl dX3_takeClause_203 rfl ?_
                refine m_get (pc := 204) (v := .int (nI ((numT s2 1 8) 0 20))) C0 20 (by decide) q989 rfl dX3_takeClause_204 ?_
                refine m_put (pc := 207) C0 22 (by decide) q991 rfl (by decide) (mSet_22 _ _ _) dX3_takeClause_207 ?_
                refine g_goto (pc := 210) 230 C0 dX3_takeClause_210 (by decide) ?_
                have e9 : cqA τ k = numV s2 1 8 := by rw [cqA, if_pos h191, ← es2]
                have e8 : clB τ k = (upc (numT s2 1 8) 0 22 ((numT s2 1 8) 0 20)) := by rw [clB, if_pos h191, clP, ← es2]
                refine G.wsE (ws' := mW dT ad (clB τ k)) (by rw [e8]) ?_
                exact G.lE (by rw [e9]) J230
          · refine g_iload_n (pc := 130) 2 C0 rfl dX3_takeClause_130 rfl ?_
            refine g_if_neN (pc := 131) 144 C0 (by omega) dX3_takeClause_131 (by decide) (fun h131 => ?_) (fun h131 => ?_)
            · refine g_iload_n (pc := 144) 2 C0 rfl dX3_takeClause_144 rfl ?_
              refine g_iconst (pc := 145) (v := (nI 1)) C0 dX3_takeClause_145 (by decide) ?_
              refine g_icmp_neN (pc := 146) 161 C0 (by omega) (by decide) dX3_takeClause_146 (by decide) (fun h146 => ?_) (fun h146 => ?_)
              · refine g_aload_n (pc := 161) 0 C0 rfl dX3_takeClause_161 rfl ?_
                refine m_get (pc := 162) (v := .int (nI (s1 0 29))) C0 29 (by decide) q998 rfl dX3_takeClause_162 ?_
                refine g_bipush (pc := 165) (v := (nI 8)) C0 dX3_takeClause_165 (by decide) ?_
                refine g_icmp_neN (pc := 167) 180 C0 (by omega) (by decide) dX3_takeClause_167 (by decide) (fun h167 => ?_) (fun h167 => ?_)
                · exact J180 ⟨by rw [clFull, if_neg h131, if_neg h146]; exact decide_eq_false (by omega), by omega⟩
                · have hfu : clFull τ k = true := by rw [clFull, if_neg h131, if_neg h146]; exact decide_eq_true (by omega)
                  refine g_aload_n (pc := 170) 0 C0 rfl dX3_takeClause_170 rfl ?_
                  refine g_iconst (pc := 171) (v := (nI 3)) C0 dX3_takeClause_171 (by decide) ?_
                  refine g_aload_n (pc := 172) 0 C0 rfl dX3_takeClause_172 rfl ?_
                  refine m_get (pc := 173) (v := .int (nI (s1 0 17))) C0 17 (by decide) q986 rfl dX3_takeClause_173 ?_
                  refine g_cvi (pc := 176) (na := 2) (As := [.int (nI 3), .int (nI (s1 0 17))]) (rest := []) C0 (mM_fails l D dT ad s1 3 (s1 0 17) ) (q0 := 0) (j := 0) (ci := 0) (C := RX3) (T := TX3) (N := 44) rfl rfl rfl q1141 q1143 qs34 q60 q1144 (by decide +kernel) ⟨Nat.le_of_ble_eq_true rfl, Nat.le_of_ble_eq_true rfl⟩ rfl rfl ⟨Nat.le_of_ble_eq_true rfl, Nat.le_of_ble_eq_true rfl⟩ rfl rfl (Nat.le_of_ble_eq_true rfl) dX3_takeClause_176 (fun r τ0 hc => ?_)
                  obtain ⟨rfl, rfl⟩ := hc
                  exact g_iret (pc := 179) C0 dX3_takeClause_179 ⟨by rw [v1, ckV, if_neg (by omega), if_pos hfu], by rw [v2, ckT, if_neg (by omega), if_pos hfu, clFail, ← es1]⟩
              · refine g_aload_n (pc := 149) 0 C0 rfl dX3_takeClause_149 rfl ?_
                refine m_get (pc := 150) (v := .int (nI (s1 0 23))) C0 23 (by decide) q992 rfl dX3_takeClause_150 ?_
                refine g_bipush (pc := 153) (v := (nI 10)) C0 dX3_takeClause_153 (by decide) ?_
                refine g_icmp_neN (pc := 155) 180 C0 (by omega) (by decide) dX3_takeClause_155 (by decide) (fun h155 => ?_) (fun h155 => ?_)
                · exact J180 ⟨by rw [clFull, if_neg h131, if_pos h146]; exact decide_eq_false (by omega), by omega⟩
                · refine g_goto (pc := 158) 170 C0 dX3_takeClause_158 (by decide) ?_
                  have hfu : clFull τ k = true := by rw [clFull, if_neg h131, if_pos h146]; exact decide_eq_true (by omega)
                  refine g_aload_n (pc := 170) 0 C0 rfl dX3_takeClause_170 rfl ?_
                  refine g_iconst (pc := 171) (v := (nI 3)) C0 dX3_takeClause_171 (by decide) ?_
                  refine g_aload_n (pc := 172) 0 C0 rfl dX3_takeClause_172 rfl ?_
                  refine m_get (pc := 173) (v := .int (nI (s1 0 17))) C0 17 (by decide) q986 rfl dX3_takeClause_173 ?_
                  refine g_cvi (pc := 176) (na := 2) (As := [.int (nI 3), .int (nI (s1 0 17))]) (rest := []) C0 (mM_fails l D dT ad s1 3 (s1 0 17) ) (q0 := 0) (j := 0) (ci := 0) (C := RX3) (T := TX3) (N := 44) rfl rfl rfl q1141 q1143 qs34 q60 q1144 (by decide +kernel) ⟨Nat.le_of_ble_eq_true rfl, Nat.le_of_ble_eq_true rfl⟩ rfl rfl ⟨Nat.le_of_ble_eq_true rfl, Nat.le_of_ble_eq_true rfl⟩ rfl rfl (Nat.le_of_ble_eq_true rfl) dX3_takeClause_176 (fun r τ0 hc => ?_)
                  obtain ⟨rfl, rfl⟩ := hc
                  exact g_iret (pc := 179) C0 dX3_takeClause_179 ⟨by rw [v1, ckV, if_neg (by omega), if_pos hfu], by rw [v2, ckT, if_neg (by omega), if_pos hfu, clFail, ← es1]⟩
            · refine g_aload_n (pc := 134) 0 C0 rfl dX3_takeClause_134 rfl ?_
              refine m_get (pc := 135) (v := .int (nI (s1 0 22))) C0 22 (by decide) q991 rfl dX3_takeClause_135 ?_
              refine g_if_leN (pc := 138) 180 C0 (by omega) dX3_takeClause_138 (by decide) (fun h138 => ?_) (fun h138 => ?_)
              · exact J180 ⟨by rw [clFull, if_pos h131]; exact decide_eq_false (by omega), by omega⟩
              · refine g_goto (pc := 141) 170 C0 dX3_takeClause_141 (by decide) ?_
                have hfu : clFull τ k = true := by rw [clFull, if_pos h131]; exact decide_eq_true (by omega)
                refine g_aload_n (pc := 170) 0 C0 rfl dX3_takeClause_170 rfl ?_
                refine g_iconst (pc := 171) (v := (nI 3)) C0 dX3_takeClause_171 (by decide) ?_
                refine g_aload_n (pc := 172) 0 C0 rfl dX3_takeClause_172 rfl ?_
                refine m_get (pc := 173) (v := .int (nI (s1 0 17))) C0 17 (by decide) q986 rfl dX3_takeClause_173 ?_
                refine g_cvi (pc := 176) (na := 2) (As := [.int (nI 3), .int (nI (s1 0 17))]) (rest := []) C0 (mM_fails l D dT ad s1 3 (s1 0 17) ) (q0 := 0) (j := 0) (ci := 0) (C := RX3) (T := TX3) (N := 44) rfl rfl rfl q1141 q1143 qs34 q60 q1144 (by decide +kernel) ⟨Nat.le_of_ble_eq_true rfl, Nat.le_of_ble_eq_true rfl⟩ rfl rfl ⟨Nat.le_of_ble_eq_true rfl, Nat.le_of_ble_eq_true rfl⟩ rfl rfl (Nat.le_of_ble_eq_true rfl) dX3_takeClause_176 (fun r τ0 hc => ?_)
                obtain ⟨rfl, rfl⟩ := hc
                exact g_iret (pc := 179) C0 dX3_takeClause_179 ⟨by rw [v1, ckV, if_neg (by omega), if_pos hfu], by rw [v2, ckT, if_neg (by omega), if_pos hfu, clFail, ← es1]⟩
        · refine g_aload_n (pc := 113) 0 C0 rfl dX3_takeClause_113 rfl ?_
          refine m_get (pc := 114) (v := .int (nI (s1 0 22))) C0 22 (by decide) q991 rfl dX3_takeClause_114 ?_
          refine g_if_neN (pc := 117) 130 C0 (by omega) dX3_takeClause_117 (by decide) (fun h117 => ?_) (fun h117 => ?_)
          · refine G.meetH (h := clFull τ k = false ∧ ¬ (0 < k ∧ τ 0 22 = 0)) (pcJ := 180) (wsJ := mW dT ad s1) (LJ := [some (.ref (ad 0)), some (.int (oI (oneK (s1 0 18)))), some (.int (nI k)), none]) (stJ := []) (fun hfu => ?_) (fun J180 => ?_)
            · refine g_aload_n (pc := 180) 0 C0 rfl dX3_takeClause_180 rfl ?_
              refine g_aload_n (pc := 181) 0 C0 rfl dX3_takeClause_181 rfl ?_
              refine m_get (pc := 182) (v := .int (nI (s1 0 19))) C0 19 (by decide) q988 rfl dX3_takeClause_182 ?_
              refine m_put (pc := 185) C0 17 (by decide) q986 rfl (by decide) (mSet_17 _ _ _) dX3_takeClause_185 ?_
              refine g_iconst (pc := 188) (v := (nI 0)) C0 dX3_takeClause_188 (by decide) ?_
              refine g_istore_n (pc := 189) 3 C0 (L1 := [some (.ref (ad 0)), some (.int (oI (oneK (s1 0 18)))), some (.int (nI k)), some (.int (nI 0))]) rfl (by decide) dX3_takeClause_189 rfl rfl ?_
              obtain ⟨s2, es2⟩ : ∃ z : tT, z = cl2 τ := ⟨_, rfl⟩
              have s2y : wfY s2 := by rw [es2]; exact wfY_cl2 hy
              have s222 : s2 0 22 = τ 0 22 := by rw [es2, cl2_k _ (by decide) (by decide) (by decide)]
              have s223 : s2 0 23 = τ 0 23 := by rw [es2, cl2_k _ (by decide) (by decide) (by decide)]
              have s229 : s2 0 29 = τ 0 29 := by rw [es2, cl2_k _ (by decide) (by decide) (by decide)]
              refine G.wsE (ws' := mW dT ad s2) (by rw [es2]; rw [cl2, ← es1]) ?_
              have hpl : k = 1 → 1 ≤ τ 0 22 ∧ τ 0 23 < 10 := fun e => by subst e; have := of_decide_eq_false (show decide (τ 0 23 = 10) = false from hfu.1); omega
              have hpp : ¬ k = 0 → ¬ k = 1 → 1 ≤ τ 0 22 ∧ τ 0 29 < 8 := fun e e2 => by have q := hfu.1; rw [clFull, if_neg e, if_neg e2] at q; have := of_decide_eq_false q; omega
              refine G.meet (pcJ := 230) (wsJ := mW dT ad (clB τ k)) (LJ := [some (.ref (ad 0)), some (.int (oI (oneK (s1 0 18)))), some (.int (nI k)), some (.int (nI (cqA τ k)))]) (stJ := []) ?_ (fun J230 => ?_)
              · obtain ⟨f7, e7⟩ : ∃ z, z = cqA τ k := ⟨_, rfl⟩
                refine G.lE (L' := [some (.ref (ad 0)), some (.int (oI (oneK (s1 0 18)))), some (.int (nI k)), some (.int (nI f7))]) (by rw [e7]) ?_
                obtain ⟨s5, es5⟩ : ∃ z : tT, z = clB τ k := ⟨_, rfl⟩
                have s5y : wfY s5 := by rw [es5]; exact hby
                refine G.wsE (ws' := mW dT ad s5) (by rw [es5]) ?_
                refine g_iload_n (pc := 230) 3 C0 rfl dX3_takeClause_230 rfl ?_
                refine g_if_neN (pc := 231) 253 C0 (by omega) dX3_takeClause_231 (by decide) (fun h231 => ?_) (fun h231 => ?_)
                · refine g_aload_n (pc := 253) 0 C0 rfl dX3_takeClause_253 rfl ?_
                  refine g_dup (pc := 254) C0 dX3_takeClause_254 rfl ?_
                  refine m_get (pc := 255) (v := .int (nI (s5 0 17))) C0 17 (by decide) q986 rfl dX3_takeClause_255 ?_
                  refine g_iconst (pc := 258) (v := (nI 1)) C0 dX3_takeClause_258 (by decide) ?_
                  refine g_iaddN (pc := 259) C0  dX3_takeClause_259 ?_
                  refine m_put (pc := 260) C0 17 (by decide) q986 rfl (by decide) (mSet_17 _ _ _) dX3_takeClause_260 ?_
                  refine g_iload_n (pc := 263) 3 C0 rfl dX3_takeClause_263 rfl ?_
                  exact g_iret (pc := 264) C0 dX3_takeClause_264 ⟨by rw [v1, ckV, if_neg hfu.2, hfu.1, clEV, ← e7, if_neg h231]; rfl, by rw [v2, ckT, if_neg hfu.2, hfu.1, clET, ← e7, if_neg h231, ← es5]; rfl⟩
                · refine g_aload_n (pc := 234) 0 C0 rfl dX3_takeClause_234 rfl ?_
                  refine g_cvi (pc := 235) (na := 0) (As := []) (rest := []) C0 (mM_here l D dT ad s5  s5y.x) (q0 := 0) (j := 0) (ci := 0) (C := RX3) (T := TX3) (N := 44) rfl rfl rfl q1117 q1119 qs31 q60 q1120 (by decide +kernel) ⟨Nat.le_of_ble_eq_true rfl, Nat.le_of_ble_eq_true rfl⟩ rfl rfl ⟨Nat.le_of_ble_eq_true rfl, Nat.le_of_ble_eq_true rfl⟩ rfl rfl (Nat.le_of_ble_eq_true rfl) dX3_takeClause_235 (fun r τ0 hc => ?_)
                  obtain ⟨rfl, rfl⟩ := hc
                  refine g_bipush (pc := 238) (v := (nI 59)) C0 dX3_takeClause_238 (by decide) ?_
                  refine g_icmp_eq (pc := 240) 253 C0 dX3_takeClause_240 (by decide) (fun h240 => ?_) (fun h240 => ?_)
                  · have hc : hrV s5 = some 59 := (oI_eq (hrV_lt s5y.x) (by decide)).mp h240
                    refine g_aload_n (pc := 253) 0 C0 rfl dX3_takeClause_253 rfl ?_
                    refine g_dup (pc := 254) C0 dX3_takeClause_254 rfl ?_
                    refine m_get (pc := 255) (v := .int (nI (hrA s5))) C0 17 (by decide) q986 rfl dX3_takeClause_255 ?_
                    refine g_iconst (pc := 258) (v := (nI 1)) C0 dX3_takeClause_258 (by decide) ?_
                    refine g_iaddN (pc := 259) C0  dX3_takeClause_259 ?_
                    refine m_put (pc := 260) C0 17 (by decide) q986 rfl (by decide) (mSet_17 _ _ _) dX3_takeClause_260 ?_
                    refine g_iload_n (pc := 263) 3 C0 rfl dX3_takeClause_263 rfl ?_
                    exact g_iret (pc := 264) C0 dX3_takeClause_264 ⟨by rw [v1, ckV, if_neg hfu.2, hfu.1, clEV, ← e7, if_pos h231, ← es5, if_pos hc]; exact congrArg nI h231, by rw [v2, ckT, if_neg hfu.2, hfu.1, clET, ← e7, if_pos h231, ← es5, if_pos hc]; rfl⟩
                  · have hc : ¬ hrV s5 = some 59 := fun q => h240 ((oI_eq (hrV_lt s5y.x) (by decide)).mpr q)
                    refine g_aload_n (pc := 243) 0 C0 rfl dX3_takeClause_243 rfl ?_
                    refine g_iconst (pc := 244) (v := (nI 1)) C0 dX3_takeClause_244 (by decide) ?_
                    refine g_aload_n (pc := 245) 0 C0 rfl dX3_takeClause_245 rfl ?_
                    refine m_get (pc := 246) (v := .int (nI (hrA s5))) C0 17 (by decide) q986 rfl dX3_takeClause_246 ?_
                    refine g_cvi (pc := 249) (na := 2) (As := [.int (nI 1), .int (nI (hrA s5))]) (rest := []) C0 (mM_fails l D dT ad (upc s5 0 17 (hrA s5)) 1 (hrA s5) ) (q0 := 0) (j := 0) (ci := 0) (C := RX3) (T := TX3) (N := 44) rfl rfl rfl q1141 q1143 qs34 q60 q1144 (by decide +kernel) ⟨Nat.le_of_ble_eq_true rfl, Nat.le_of_ble_eq_true rfl⟩ rfl rfl ⟨Nat.le_of_ble_eq_true rfl, Nat.le_of_ble_eq_true rfl⟩ rfl rfl (Nat.le_of_ble_eq_true rfl) dX3_takeClause_249 (fun r τ0 hc => ?_)
                    obtain ⟨rfl, rfl⟩ := hc
                    exact g_iret (pc := 252) C0 dX3_takeClause_252 ⟨by rw [v1, ckV, if_neg hfu.2, hfu.1, clEV, ← e7, if_pos h231, ← es5, if_neg hc]; rfl, by rw [v2, ckT, if_neg hfu.2, hfu.1, clET, ← e7, if_pos h231, ← es5, if_neg hc]; rfl⟩
              · refine g_iload_n (pc := 190) 2 C0 rfl dX3_takeClause_190 rfl ?_
                refine g_if_neN (pc := 191) 213 C0 (by omega) dX3_takeClause_191 (by decide) (fun h191 => ?_) (fun h191 => ?_)
                · refine g_iload_n (pc := 213) 2 C0 rfl dX3_takeClause_213 rfl ?_
                  refine g_iconst (pc := 214) (v := (nI 1)) C0 dX3_takeClause_214 (by decide) ?_
                  refine g_icmp_neN (pc := 215) 225 C0 (by omega) (by decide) dX3_takeClause_215 (by decide) (fun h215 => ?_) (fun h215 => ?_)
                  · refine g_aload_n (pc := 225) 0 C0 rfl dX3_takeClause_225 rfl ?_
                    refine g_cvi (pc := 226) (na := 0) (As := []) (rest := []) C0 (mM_takePerson l D dT ad s2  s2y (by have := hpp h191 h215; omega) (by have := hpp h191 h215; omega) (by omega)) (q0 := 0) (j := 0) (ci := 0) (C := RX3) (T := TX3) (N := 44) rfl rfl rfl q1163 q1165 qs39 q60 q1166 (by decide +kernel) ⟨Nat.le_of_ble_eq_true rfl, Nat.le_of_ble_eq_true rfl⟩ rfl rfl ⟨Nat.le_of_ble_eq_true rfl, Nat.le_of_ble_eq_true rfl⟩ rfl rfl (Nat.le_of_ble_eq_true rfl) dX3_takeClause_226 (fun r τ0 hc => ?_)
                    obtain ⟨rfl, rfl⟩ := hc
                    refine g_istore_n (pc := 229) 3 C0 (L1 := [some (.ref (ad 0)), some (.int (oI (oneK (s1 0 18)))), some (.int (nI k)), some (.int (nI (persV s2)))]) rfl (by decide) dX3_takeClause_229 rfl rfl ?_
                    have e9 : cqA τ k = persV s2 := by rw [cqA, if_neg h191, if_neg h215, ← es2]
                    have e8 : clB τ k = (persT s2) := by rw [clB, if_neg h191, if_neg h215, ← es2]
                    refine G.wsE (ws' := mW dT ad (clB τ k)) (by rw [e8]) ?_
                    exact G.lE (by rw [e9]) J230
                  · refine g_aload_n (pc := 218) 0 C0 rfl dX3_takeClause_218 rfl ?_
                    refine g_cvi (pc := 219) (na := 0) (As := []) (rest := []) C0 (mM_takeStair l D dT ad s2  s2y (by have := hpl h215; omega) (by have := hpl h215; omega) (by omega)) (q0 := 0) (j := 0) (ci := 0) (C := RX3) (T := TX3) (N := 44) rfl rfl rfl q1151 q1153 qs36 q60 q1154 (by decide +kernel) ⟨Nat.le_of_ble_eq_true rfl, Nat.le_of_ble_eq_true rfl⟩ rfl rfl ⟨Nat.le_of_ble_eq_true rfl, Nat.le_of_ble_eq_true rfl⟩ rfl rfl (Nat.le_of_ble_eq_true rfl) dX3_takeClause_219 (fun r τ0 hc => ?_)
                    obtain ⟨rfl, rfl⟩ := hc
                    refine g_goto (pc := 222) 229 C0 dX3_takeClause_222 (by decide) ?_
                    refine g_istore_n (pc := 229) 3 C0 (L1 := [some (.ref (ad 0)), some (.int (oI (oneK (s1 0 18)))), some (.int (nI k)), some (.int (nI (stairV s2)))]) rfl (by decide) dX3_takeClause_229 rfl rfl ?_
                    have e9 : cqA τ k = stairV s2 := by rw [cqA, if_neg h191, if_pos h215, ← es2]
                    have e8 : clB τ k = (stairT s2) := by rw [clB, if_neg h191, if_pos h215, ← es2]
                    refine G.wsE (ws' := mW dT ad (clB τ k)) (by rw [e8]) ?_
                    exact G.lE (by rw [e9]) J230
                · refine g_aload_n (pc := 194) 0 C0 rfl dX3_takeClause_194 rfl ?_
                  refine g_iconst (pc := 195) (v := (nI 1)) C0 dX3_takeClause_195 (by decide) ?_
                  refine g_bipush (pc := 196) (v := (nI 8)) C0 dX3_takeClause_196 (by decide) ?_
                  refine g_cvi (pc := 198) (na := 2) (As := [.int (nI 1), .int (nI 8)]) (rest := []) C0 (mM_takeNumber l D dT ad s2 1 8 s2y.x (by decide) (by decide)) (q0 := 0) (j := 0) (ci := 0) (C := RX3) (T := TX3) (N := 44) rfl rfl rfl q1145 q1147 qs35 q60 q1148 (by decide +kernel) ⟨Nat.le_of_ble_eq_true rfl, Nat.le_of_ble_eq_true rfl⟩ rfl rfl ⟨Nat.le_of_ble_eq_true rfl, Nat.le_of_ble_eq_true rfl⟩ rfl rfl (Nat.le_of_ble_eq_true rfl) dX3_takeClause_198 (fun r τ0 hc => ?_)
                  obtain ⟨rfl, rfl⟩ := hc
                  refine g_istore_n (pc := 201) 3 C0 (L1 := [some (.ref (ad 0)), some (.int (oI (oneK (s1 0 18)))), some (.int (nI k)), some (.int (nI (numV s2 1 8)))]) rfl (by decide) dX3_takeClause_201 rfl rfl ?_
                  refine g_aload_n (pc := 202) 0 C0 rfl dX3_takeClause_202 rfl ?_
                  refine g_aload_n (pc := 203) 0 C0 rfl dX3_takeClause_203 rfl ?_
                  refine m_get (pc := 204) (v := .int (nI ((numT s2 1 8) 0 20))) C0 20 (by decide) q989 rfl dX3_takeClause_204 ?_
                  refine m_put (pc := 207) C0 22 (by decide) q991 rfl (by decide) (mSet_22 _ _ _) dX3_takeClause_207 ?_
                  refine g_goto (pc := 210) 230 C0 dX3_takeClause_210 (by decide) ?_
                  have e9 : cqA τ k = numV s2 1 8 := by rw [cqA, if_pos h191, ← es2]
                  have e8 : clB τ k = (upc (numT s2 1 8) 0 22 ((numT s2 1 8) 0 20)) := by rw [clB, if_pos h191, clP, ← es2]
                  refine G.wsE (ws' := mW dT ad (clB τ k)) (by rw [e8]) ?_
                  exact G.lE (by rw [e9]) J230
            · refine g_iload_n (pc := 130) 2 C0 rfl dX3_takeClause_130 rfl ?_
              refine g_if_neN (pc := 131) 144 C0 (by omega) dX3_takeClause_131 (by decide) (fun h131 => ?_) (fun h131 => ?_)
              · refine g_iload_n (pc := 144) 2 C0 rfl dX3_takeClause_144 rfl ?_
                refine g_iconst (pc := 145) (v := (nI 1)) C0 dX3_takeClause_145 (by decide) ?_
                refine g_icmp_neN (pc := 146) 161 C0 (by omega) (by decide) dX3_takeClause_146 (by decide) (fun h146 => ?_) (fun h146 => ?_)
                · refine g_aload_n (pc := 161) 0 C0 rfl dX3_takeClause_161 rfl ?_
                  refine m_get (pc := 162) (v := .int (nI (s1 0 29))) C0 29 (by decide) q998 rfl dX3_takeClause_162 ?_
                  refine g_bipush (pc := 165) (v := (nI 8)) C0 dX3_takeClause_165 (by decide) ?_
                  refine g_icmp_neN (pc := 167) 180 C0 (by omega) (by decide) dX3_takeClause_167 (by decide) (fun h167 => ?_) (fun h167 => ?_)
                  · exact J180 ⟨by rw [clFull, if_neg h131, if_neg h146]; exact decide_eq_false (by omega), by omega⟩
                  · have hfu : clFull τ k = true := by rw [clFull, if_neg h131, if_neg h146]; exact decide_eq_true (by omega)
                    refine g_aload_n (pc := 170) 0 C0 rfl dX3_takeClause_170 rfl ?_
                    refine g_iconst (pc := 171) (v := (nI 3)) C0 dX3_takeClause_171 (by decide) ?_
                    refine g_aload_n (pc := 172) 0 C0 rfl dX3_takeClause_172 rfl ?_
                    refine m_get (pc := 173) (v := .int (nI (s1 0 17))) C0 17 (by decide) q986 rfl dX3_takeClause_173 ?_
                    refine g_cvi (pc := 176) (na := 2) (As := [.int (nI 3), .int (nI (s1 0 17))]) (rest := []) C0 (mM_fails l D dT ad s1 3 (s1 0 17) ) (q0 := 0) (j := 0) (ci := 0) (C := RX3) (T := TX3) (N := 44) rfl rfl rfl q1141 q1143 qs34 q60 q1144 (by decide +kernel) ⟨Nat.le_of_ble_eq_true rfl, Nat.le_of_ble_eq_true rfl⟩ rfl rfl ⟨Nat.le_of_ble_eq_true rfl, Nat.le_of_ble_eq_true rfl⟩ rfl rfl (Nat.le_of_ble_eq_true rfl) dX3_takeClause_176 (fun r τ0 hc => ?_)
                    obtain ⟨rfl, rfl⟩ := hc
                    exact g_iret (pc := 179) C0 dX3_takeClause_179 ⟨by rw [v1, ckV, if_neg (by omega), if_pos hfu], by rw [v2, ckT, if_neg (by omega), if_pos hfu, clFail, ← es1]⟩
                · refine g_aload_n (pc := 149) 0 C0 rfl dX3_takeClause_149 rfl ?_
                  refine m_get (pc := 150) (v := .int (nI (s1 0 23))) C0 23 (by decide) q992 rfl dX3_takeClause_150 ?_
                  refine g_bipush (pc := 153) (v := (nI 10)) C0 dX3_takeClause_153 (by decide) ?_
                  refine g_icmp_neN (pc := 155) 180 C0 (by omega) (by decide) dX3_takeClause_155 (by decide) (fun h155 => ?_) (fun h155 => ?_)
                  · exact J180 ⟨by rw [clFull, if_neg h131, if_pos h146]; exact decide_eq_false (by omega), by omega⟩
                  · refine g_goto (pc := 158) 170 C0 dX3_takeClause_158 (by decide) ?_
                    have hfu : clFull τ k = true := by rw [clFull, if_neg h131, if_pos h146]; exact decide_eq_true (by omega)
                    refine g_aload_n (pc := 170) 0 C0 rfl dX3_takeClause_170 rfl ?_
                    refine g_iconst (pc := 171) (v := (nI 3)) C0 dX3_takeClause_171 (by decide) ?_
                    refine g_aload_n (pc := 172) 0 C0 rfl dX3_takeClause_172 rfl ?_
                    refine m_get (pc := 173) (v := .int (nI (s1 0 17))) C0 17 (by decide) q986 rfl dX3_takeClause_173 ?_
                    refine g_cvi (pc := 176) (na := 2) (As := [.int (nI 3), .int (nI (s1 0 17))]) (rest := []) C0 (mM_fails l D dT ad s1 3 (s1 0 17) ) (q0 := 0) (j := 0) (ci := 0) (C := RX3) (T := TX3) (N := 44) rfl rfl rfl q1141 q1143 qs34 q60 q1144 (by decide +kernel) ⟨Nat.le_of_ble_eq_true rfl, Nat.le_of_ble_eq_true rfl⟩ rfl rfl ⟨Nat.le_of_ble_eq_true rfl, Nat.le_of_ble_eq_true rfl⟩ rfl rfl (Nat.le_of_ble_eq_true rfl) dX3_takeClause_176 (fun r τ0 hc => ?_)
                    obtain ⟨rfl, rfl⟩ := hc
                    exact g_iret (pc := 179) C0 dX3_takeClause_179 ⟨by rw [v1, ckV, if_neg (by omega), if_pos hfu], by rw [v2, ckT, if_neg (by omega), if_pos hfu, clFail, ← es1]⟩
              · refine g_aload_n (pc := 134) 0 C0 rfl dX3_takeClause_134 rfl ?_
                refine m_get (pc := 135) (v := .int (nI (s1 0 22))) C0 22 (by decide) q991 rfl dX3_takeClause_135 ?_
                refine g_if_leN (pc := 138) 180 C0 (by omega) dX3_takeClause_138 (by decide) (fun h138 => ?_) (fun h138 => ?_)
                · exact J180 ⟨by rw [clFull, if_pos h131]; exact decide_eq_false (by omega), by omega⟩
                · refine g_goto (pc := 141) 170 C0 dX3_takeClause_141 (by decide) ?_
                  have hfu : clFull τ k = true := by rw [clFull, if_pos h131]; exact decide_eq_true (by omega)
                  refine g_aload_n (pc := 170) 0 C0 rfl dX3_takeClause_170 rfl ?_
                  refine g_iconst (pc := 171) (v := (nI 3)) C0 dX3_takeClause_171 (by decide) ?_
                  refine g_aload_n (pc := 172) 0 C0 rfl dX3_takeClause_172 rfl ?_
                  refine m_get (pc := 173) (v := .int (nI (s1 0 17))) C0 17 (by decide) q986 rfl dX3_takeClause_173 ?_
                  refine g_cvi (pc := 176) (na := 2) (As := [.int (nI 3), .int (nI (s1 0 17))]) (rest := []) C0 (mM_fails l D dT ad s1 3 (s1 0 17) ) (q0 := 0) (j := 0) (ci := 0) (C := RX3) (T := TX3) (N := 44) rfl rfl rfl q1141 q1143 qs34 q60 q1144 (by decide +kernel) ⟨Nat.le_of_ble_eq_true rfl, Nat.le_of_ble_eq_true rfl⟩ rfl rfl ⟨Nat.le_of_ble_eq_true rfl, Nat.le_of_ble_eq_true rfl⟩ rfl rfl (Nat.le_of_ble_eq_true rfl) dX3_takeClause_176 (fun r τ0 hc => ?_)
                  obtain ⟨rfl, rfl⟩ := hc
                  exact g_iret (pc := 179) C0 dX3_takeClause_179 ⟨by rw [v1, ckV, if_neg (by omega), if_pos hfu], by rw [v2, ckT, if_neg (by omega), if_pos hfu, clFail, ← es1]⟩
          · refine g_aload_n (pc := 120) 0 C0 rfl dX3_takeClause_120 rfl ?_
            refine g_iconst (pc := 121) (v := (nI 1)) C0 dX3_takeClause_121 (by decide) ?_
            refine g_aload_n (pc := 122) 0 C0 rfl dX3_takeClause_122 rfl ?_
            refine m_get (pc := 123) (v := .int (nI (s1 0 17))) C0 17 (by decide) q986 rfl dX3_takeClause_123 ?_
            refine g_cvi (pc := 126) (na := 2) (As := [.int (nI 1), .int (nI (s1 0 17))]) (rest := []) C0 (mM_fails l D dT ad s1 1 (s1 0 17) ) (q0 := 0) (j := 0) (ci := 0) (C := RX3) (T := TX3) (N := 44) rfl rfl rfl q1141 q1143 qs34 q60 q1144 (by decide +kernel) ⟨Nat.le_of_ble_eq_true rfl, Nat.le_of_ble_eq_true rfl⟩ rfl rfl ⟨Nat.le_of_ble_eq_true rfl, Nat.le_of_ble_eq_true rfl⟩ rfl rfl (Nat.le_of_ble_eq_true rfl) dX3_takeClause_126 (fun r τ0 hc => ?_)
            obtain ⟨rfl, rfl⟩ := hc
            exact g_iret (pc := 129) C0 dX3_takeClause_129 ⟨by rw [v1, ckV, if_pos ⟨by omega, by omega⟩], by rw [v2, ckT, if_pos ⟨by omega, by omega⟩, clFail, ← es1]⟩
    · refine g_iload_n (pc := 65) 1 C0 rfl dX3_takeClause_65 rfl ?_
      refine g_if_lt (pc := 66) 73 C0 dX3_takeClause_66 (by decide) (fun h66 => ?_) (fun h66 => ?_)
      · refine g_aload_n (pc := 73) 0 C0 rfl dX3_takeClause_73 rfl ?_
        refine m_get (pc := 74) (v := .long (lN (s1 0 18))) C0 18 (by decide) q987 rfl dX3_takeClause_74 ?_
        refine g_bipush (pc := 77) (v := (nI 112)) C0 dX3_takeClause_77 (by decide) ?_
        refine g_bipush (pc := 79) (v := (nI 101)) C0 dX3_takeClause_79 (by decide) ?_
        refine g_bipush (pc := 81) (v := (nI 114)) C0 dX3_takeClause_81 (by decide) ?_
        refine g_bipush (pc := 83) (v := (nI 115)) C0 dX3_takeClause_83 (by decide) ?_
        refine g_csl (pc := 85) (na := 4) (As := [.int (nI 112), .int (nI 101), .int (nI 114), .int (nI 115)]) (rest := [.long (lN (s1 0 18))]) C0 (mM_code l 112 101 114 115 (by decide) (by decide) (by decide) (by decide) (by decide) (by decide) (by decide) (by decide)) q1135 q1136 q60 q1137 (by decide +kernel) ⟨Nat.le_of_ble_eq_true rfl, Nat.le_of_ble_eq_true rfl⟩ rfl rfl ⟨Nat.le_of_ble_eq_true rfl, Nat.le_of_ble_eq_true rfl⟩ rfl rfl (Nat.le_of_ble_eq_true rfl) dX3_takeClause_85 ?_
        refine g_bipush (pc := 88) (v := (nI 111)) C0 dX3_takeClause_88 (by decide) ?_
        refine g_bipush (pc := 90) (v := (nI 110)) C0 dX3_takeClause_90 (by decide) ?_
        refine g_csl (pc := 92) (na := 3) (As := [.long (lN (code4 112 101 114 115)), .int (nI 111), .int (nI 110)]) (rest := [.long (lN (s1 0 18))]) C0 (mM_longer l (code4 112 101 114 115) 111 110 (by decide) (by decide) (by decide) (by decide)) q1138 q1139 q60 q1140 (by decide +kernel) ⟨Nat.le_of_ble_eq_true rfl, Nat.le_of_ble_eq_true rfl⟩ rfl rfl ⟨Nat.le_of_ble_eq_true rfl, Nat.le_of_ble_eq_true rfl⟩ rfl rfl (Nat.le_of_ble_eq_true rfl) dX3_takeClause_92 ?_
        refine g_lcmp (pc := 95) C0 dX3_takeClause_95 ?_
        refine g_if_neX (pc := 96) 103 C0 dX3_takeClause_96 (by decide) (fun h96 => ?_) (fun h96 => ?_)
        · refine g_iconst (pc := 103) (v := (-1)) C0 dX3_takeClause_103 (by decide) ?_
          exact J104 (-1) (by have kh96 : ¬ s1 0 18 = cPerson := lg_ne_w hsl (by decide) h96; rw [clK_two (oI_none ho1 h66), if_neg kh96]; rfl)
        · refine g_iconst (pc := 99) (v := (nI 2)) C0 dX3_takeClause_99 (by decide) ?_
          refine g_goto (pc := 100) 104 C0 dX3_takeClause_100 (by decide) ?_
          exact J104 (nI 2) (by have kh96 : s1 0 18 = cPerson := lg_eq_w hsl (by decide) h96; rw [clK_two (oI_none ho1 h66), if_pos kh96]; rfl)
      · refine g_iload_n (pc := 69) 1 C0 rfl dX3_takeClause_69 rfl ?_
        refine g_goto (pc := 70) 104 C0 dX3_takeClause_70 (by decide) ?_
        exact J104 (oI (oneK (s1 0 18))) (by obtain ⟨q, hq⟩ := oI_some h66; rw [clK_one hq])
  · refine g_aload_n (pc := 4) 0 C0 rfl dX3_takeClause_4 rfl ?_
    refine m_get (pc := 5) (v := .long (lN (s1 0 18))) C0 18 (by decide) q987 rfl dX3_takeClause_5 ?_
    refine g_bipush (pc := 8) (v := (nI 112)) C0 dX3_takeClause_8 (by decide) ?_
    refine g_bipush (pc := 10) (v := (nI 108)) C0 dX3_takeClause_10 (by decide) ?_
    refine g_bipush (pc := 12) (v := (nI 97)) C0 dX3_takeClause_12 (by decide) ?_
    refine g_bipush (pc := 14) (v := (nI 99)) C0 dX3_takeClause_14 (by decide) ?_
    refine g_csl (pc := 16) (na := 4) (As := [.int (nI 112), .int (nI 108), .int (nI 97), .int (nI 99)]) (rest := [.long (lN (s1 0 18))]) C0 (mM_code l 112 108 97 99 (by decide) (by decide) (by decide) (by decide) (by decide) (by decide) (by decide) (by decide)) q1135 q1136 q60 q1137 (by decide +kernel) ⟨Nat.le_of_ble_eq_true rfl, Nat.le_of_ble_eq_true rfl⟩ rfl rfl ⟨Nat.le_of_ble_eq_true rfl, Nat.le_of_ble_eq_true rfl⟩ rfl rfl (Nat.le_of_ble_eq_true rfl) dX3_takeClause_16 ?_
    refine g_bipush (pc := 19) (v := (nI 101)) C0 dX3_takeClause_19 (by decide) ?_
    refine g_bipush (pc := 21) (v := (nI 115)) C0 dX3_takeClause_21 (by decide) ?_
    refine g_csl (pc := 23) (na := 3) (As := [.long (lN (code4 112 108 97 99)), .int (nI 101), .int (nI 115)]) (rest := [.long (lN (s1 0 18))]) C0 (mM_longer l (code4 112 108 97 99) 101 115 (by decide) (by decide) (by decide) (by decide)) q1138 q1139 q60 q1140 (by decide +kernel) ⟨Nat.le_of_ble_eq_true rfl, Nat.le_of_ble_eq_true rfl⟩ rfl rfl ⟨Nat.le_of_ble_eq_true rfl, Nat.le_of_ble_eq_true rfl⟩ rfl rfl (Nat.le_of_ble_eq_true rfl) dX3_takeClause_23 ?_
    refine g_lcmp (pc := 26) C0 dX3_takeClause_26 ?_
    refine g_if_neX (pc := 27) 34 C0 dX3_takeClause_27 (by decide) (fun h27 => ?_) (fun h27 => ?_)
    · refine g_aload_n (pc := 34) 0 C0 rfl dX3_takeClause_34 rfl ?_
      refine m_get (pc := 35) (v := .long (lN (s1 0 18))) C0 18 (by decide) q987 rfl dX3_takeClause_35 ?_
      refine g_bipush (pc := 38) (v := (nI 115)) C0 dX3_takeClause_38 (by decide) ?_
      refine g_bipush (pc := 40) (v := (nI 116)) C0 dX3_takeClause_40 (by decide) ?_
      refine g_bipush (pc := 42) (v := (nI 97)) C0 dX3_takeClause_42 (by decide) ?_
      refine g_bipush (pc := 44) (v := (nI 105)) C0 dX3_takeClause_44 (by decide) ?_
      refine g_csl (pc := 46) (na := 4) (As := [.int (nI 115), .int (nI 116), .int (nI 97), .int (nI 105)]) (rest := [.long (lN (s1 0 18))]) C0 (mM_code l 115 116 97 105 (by decide) (by decide) (by decide) (by decide) (by decide) (by decide) (by decide) (by decide)) q1135 q1136 q60 q1137 (by decide +kernel) ⟨Nat.le_of_ble_eq_true rfl, Nat.le_of_ble_eq_true rfl⟩ rfl rfl ⟨Nat.le_of_ble_eq_true rfl, Nat.le_of_ble_eq_true rfl⟩ rfl rfl (Nat.le_of_ble_eq_true rfl) dX3_takeClause_46 ?_
      refine g_bipush (pc := 49) (v := (nI 114)) C0 dX3_takeClause_49 (by decide) ?_
      refine g_iconst (pc := 51) (v := (nI 0)) C0 dX3_takeClause_51 (by decide) ?_
      refine g_csl (pc := 52) (na := 3) (As := [.long (lN (code4 115 116 97 105)), .int (nI 114), .int (nI 0)]) (rest := [.long (lN (s1 0 18))]) C0 (mM_longer l (code4 115 116 97 105) 114 0 (by decide) (by decide) (by decide) (by decide)) q1138 q1139 q60 q1140 (by decide +kernel) ⟨Nat.le_of_ble_eq_true rfl, Nat.le_of_ble_eq_true rfl⟩ rfl rfl ⟨Nat.le_of_ble_eq_true rfl, Nat.le_of_ble_eq_true rfl⟩ rfl rfl (Nat.le_of_ble_eq_true rfl) dX3_takeClause_52 ?_
      refine g_lcmp (pc := 55) C0 dX3_takeClause_55 ?_
      refine g_if_neX (pc := 56) 63 C0 dX3_takeClause_56 (by decide) (fun h56 => ?_) (fun h56 => ?_)
      · refine g_iconst (pc := 63) (v := (-1)) C0 dX3_takeClause_63 (by decide) ?_
        exact J64 (-1) (by have kh27 : ¬ s1 0 18 = cPlaces := lg_ne_w hsl (by decide) h27; have kh56 : ¬ s1 0 18 = cStair := lg_ne_w hsl (by decide) h56; rw [oneK, if_neg kh27, if_neg kh56]; rfl)
      · refine g_iconst (pc := 59) (v := (nI 1)) C0 dX3_takeClause_59 (by decide) ?_
        refine g_goto (pc := 60) 64 C0 dX3_takeClause_60 (by decide) ?_
        exact J64 (nI 1) (by have kh27 : ¬ s1 0 18 = cPlaces := lg_ne_w hsl (by decide) h27; have kh56 : s1 0 18 = cStair := lg_eq_w hsl (by decide) h56; rw [oneK, if_neg kh27, if_pos kh56]; rfl)
    · refine g_iconst (pc := 30) (v := (nI 0)) C0 dX3_takeClause_30 (by decide) ?_
      refine g_goto (pc := 31) 64 C0 dX3_takeClause_31 (by decide) ?_
      exact J64 (nI 0) (by have kh27 : s1 0 18 = cPlaces := lg_eq_w hsl (by decide) h27; rw [oneK, if_pos kh27]; rfl)
