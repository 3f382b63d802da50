/-! the model, thirteenth module -/
set_option maxRecDepth 100000
set_option maxHeartbeats 4000000 in
set_option maxRecDepth 100000 in
theorem mM_town (l : Launch) (D : va_G) (dT : Nat → ClassId) (ad : Nat → Nat) (τ : tT)  (h1 : τ 0 15 ≤ 500) (h2 : ∀ k, k < 500 → τ 14 k < 256) : MI l D dT ad yX3_town cX3_town 3 .int ({ frames := 6, cells := 0, slots := 0, locals := 142 }) [] τ (fun rr τ' => rr = (pTown τ) ∧ (pTownT τ) = τ') := by
  refine CI.ofG (own := "FittingStridesModel") (L := [some (.ref (ad 0)), none, none]) rfl (by decide) (Nat.le_of_ble_eq_true rfl) rfl ?_
  intro p' e' s' m' bl' mt' c' C0
  have hvl : townV τ ≤ 4 := townV_le h1 h2
  refine g_aload_n (pc := 0) 0 C0 rfl dX3_town_0 rfl ?_
  refine g_iconst (pc := 1) (v := (nI 4294967295)) C0 dX3_town_1 (by decide) ?_
  refine m_put (pc := 2) C0 16 (by decide) q985 rfl (by decide) (mSet_16 _ _ _) dX3_town_2 ?_
  refine g_aload_n (pc := 5) 0 C0 rfl dX3_town_5 rfl ?_
  refine g_iconst (pc := 6) (v := (nI 0)) C0 dX3_town_6 (by decide) ?_
  refine m_put (pc := 7) C0 17 (by decide) q986 rfl (by decide) (mSet_17 _ _ _) dX3_town_7 ?_
  refine g_aload_n (pc := 10) 0 C0 rfl dX3_town_10 rfl ?_
  refine g_iconst (pc := 11) (v := (nI 0)) C0 dX3_town_11 (by decide) ?_
  refine m_put (pc := 12) C0 22 (by decide) q991 rfl (by decide) (mSet_22 _ _ _) dX3_town_12 ?_
  refine g_aload_n (pc := 15) 0 C0 rfl dX3_town_15 rfl ?_
  refine g_iconst (pc := 16) (v := (nI 0)) C0 dX3_town_16 (by decide) ?_
  refine m_put (pc := 17) C0 23 (by decide) q992 rfl (by decide) (mSet_23 _ _ _) dX3_town_17 ?_
  refine g_aload_n (pc := 20) 0 C0 rfl dX3_town_20 rfl ?_
  refine g_iconst (pc := 21) (v := (nI 0)) C0 dX3_town_21 (by decide) ?_
  refine m_put (pc := 22) C0 29 (by decide) q998 rfl (by decide) (mSet_29 _ _ _) dX3_town_22 ?_
  refine g_iconst (pc := 25) (v := (nI 0)) C0 dX3_town_25 (by decide) ?_
  refine g_istore_n (pc := 26) 1 C0 (L1 := [some (.ref (ad 0)), some (.int (nI 0)), none]) rfl (by decide) dX3_town_26 rfl rfl ?_
  refine G.wsE (ws' := mW dT ad (tw0 τ)) rfl ?_
  refine G.meet (pcJ := 46) (wsJ := mW dT ad (twS τ)) (LJ := [some (.ref (ad 0)), some (.int (nI (townV τ))), none]) (stJ := []) ?_ (fun J46 => ?_)
  · refine g_aload_n (pc := 46) 0 C0 rfl dX3_town_46 rfl ?_
    refine g_iconst (pc := 47) (v := (nI 0)) C0 dX3_town_47 (by decide) ?_
    refine m_put (pc := 48) C0 15 (by decide) q984 rfl (by decide) (mSet_15 _ _ _) dX3_town_48 ?_
    obtain ⟨e, ee⟩ : ∃ z : tT, z = twE τ := ⟨_, rfl⟩
    refine G.wsE (ws' := mW dT ad e) (by rw [ee]; rfl) ?_
    refine g_iload_n (pc := 51) 1 C0 rfl dX3_town_51 rfl ?_
    refine g_if_leN (pc := 52) 60 C0 (by omega) dX3_town_52 (by decide) (fun h52 => ?_) (fun h52 => ?_)
    · refine g_aload_n (pc := 60) 0 C0 rfl dX3_town_60 rfl ?_
      refine g_aload_n (pc := 61) 0 C0 rfl dX3_town_61 rfl ?_
      refine m_get (pc := 62) (v := .int (nI (e 0 22))) C0 22 (by decide) q991 rfl dX3_town_62 ?_
      refine m_put (pc := 65) C0 0 (by decide) q969 rfl (by decide) (mSet_0 _ _ _) dX3_town_65 ?_
      refine g_aload_n (pc := 68) 0 C0 rfl dX3_town_68 rfl ?_
      refine g_aload_n (pc := 69) 0 C0 rfl dX3_town_69 rfl ?_
      refine m_get (pc := 70) (v := .int (nI (e 0 23))) C0 23 (by decide) q992 rfl dX3_town_70 ?_
      refine m_put (pc := 73) C0 1 (by decide) q970 rfl (by decide) (mSet_1 _ _ _) dX3_town_73 ?_
      refine g_aload_n (pc := 76) 0 C0 rfl dX3_town_76 rfl ?_
      refine g_aload_n (pc := 77) 0 C0 rfl dX3_town_77 rfl ?_
      refine m_get (pc := 78) (v := .int (nI (e 0 29))) C0 29 (by decide) q998 rfl dX3_town_78 ?_
      refine m_put (pc := 81) C0 8 (by decide) q977 rfl (by decide) (mSet_8 _ _ _) dX3_town_81 ?_
      obtain ⟨s, es⟩ : ∃ z : tT, z = tcN e := ⟨_, rfl⟩
      refine G.wsE (ws' := mW dT ad s) (by rw [es]; rfl) ?_
      refine g_iconst (pc := 84) (v := (nI 0)) C0 dX3_town_84 (by decide) ?_
      refine g_istore_n (pc := 85) 2 C0 (L1 := [some (.ref (ad 0)), some (.int (nI (townV τ))), some (.int (nI 0))]) rfl (by decide) dX3_town_85 rfl rfl ?_
      refine G.wsE (ws' := mW dT ad (tcA s 0)) (by rw [tcA_0]) ?_
      refine G.loop (pc := 86) (ws := fun i => mW dT ad (tcA s i)) (Lf := fun i => [some (.ref (ad 0)), some (.int (nI (townV τ))), some (.int (nI i))]) (N := 10) (i0 := 0) (Nat.zero_le _) ?_ (fun i86 hi86 hj86 ih86 => ?_)
      · refine g_iload_n (pc := 86) 2 C0 rfl dX3_town_86 rfl ?_
        refine g_bipush (pc := 87) (v := (nI 10)) C0 dX3_town_87 (by decide) ?_
        refine g_icmp_geN (pc := 89) 153 C0 (by decide) (by decide) dX3_town_89 (by decide) (fun h89 => ?_) (fun h89 => ?_)
        rotate_left
        · exact absurd h89 (by omega)
        refine g_iconst (pc := 153) (v := (nI 0)) C0 dX3_town_153 (by decide) ?_
        refine g_istore_n (pc := 154) 2 C0 (L1 := [some (.ref (ad 0)), some (.int (nI (townV τ))), some (.int (nI 0))]) rfl (by decide) dX3_town_154 rfl rfl ?_
        refine G.wsE (ws' := mW dT ad (tcB s 0)) (by rw [tcB_0]) ?_
        refine G.loop (pc := 155) (ws := fun i => mW dT ad (tcB s i)) (Lf := fun i => [some (.ref (ad 0)), some (.int (nI (townV τ))), some (.int (nI i))]) (N := 30) (i0 := 0) (Nat.zero_le _) ?_ (fun i155 hi155 hj155 ih155 => ?_)
        · refine g_iload_n (pc := 155) 2 C0 rfl dX3_town_155 rfl ?_
          refine g_bipush (pc := 156) (v := (nI 30)) C0 dX3_town_156 (by decide) ?_
          refine g_icmp_geN (pc := 158) 179 C0 (by decide) (by decide) dX3_town_158 (by decide) (fun h158 => ?_) (fun h158 => ?_)
          rotate_left
          · exact absurd h158 (by omega)
          refine g_iconst (pc := 179) (v := (nI 0)) C0 dX3_town_179 (by decide) ?_
          refine g_istore_n (pc := 180) 2 C0 (L1 := [some (.ref (ad 0)), some (.int (nI (townV τ))), some (.int (nI 0))]) rfl (by decide) dX3_town_180 rfl rfl ?_
          refine G.wsE (ws' := mW dT ad (tcC s 0)) (by rw [tcC_0]) ?_
          refine G.loop (pc := 181) (ws := fun i => mW dT ad (tcC s i)) (Lf := fun i => [some (.ref (ad 0)), some (.int (nI (townV τ))), some (.int (nI i))]) (N := 8) (i0 := 0) (Nat.zero_le _) ?_ (fun i181 hi181 hj181 ih181 => ?_)
          · refine g_iload_n (pc := 181) 2 C0 rfl dX3_town_181 rfl ?_
            refine g_bipush (pc := 182) (v := (nI 8)) C0 dX3_town_182 (by decide) ?_
            refine g_icmp_geN (pc := 184) 229 C0 (by decide) (by decide) dX3_town_184 (by decide) (fun h184 => ?_) (fun h184 => ?_)
            rotate_left
            · exact absurd h184 (by omega)
            refine g_aload_n (pc := 229) 0 C0 rfl dX3_town_229 rfl ?_
            refine g_iconst (pc := 230) (v := (nI 0)) C0 dX3_town_230 (by decide) ?_
            refine m_put (pc := 231) C0 34 (by decide) q1003 rfl (by decide) (mSet_34 _ _ _) dX3_town_231 ?_
            refine g_aload_n (pc := 234) 0 C0 rfl dX3_town_234 rfl ?_
            refine g_iconst (pc := 235) (v := (nI 0)) C0 dX3_town_235 (by decide) ?_
            refine m_put (pc := 236) C0 38 (by decide) q1007 rfl (by decide) (mSet_38 _ _ _) dX3_town_236 ?_
            refine g_aload_n (pc := 239) 0 C0 rfl dX3_town_239 rfl ?_
            refine m_get (pc := 240) (v := .ref (ad 43)) C0 43 (by decide) q1012 rfl dX3_town_240 ?_
            refine g_iconst (pc := 243) (v := (nI 0)) C0 dX3_town_243 (by decide) ?_
            refine g_iconst (pc := 244) (v := (nI 0)) C0 dX3_town_244 (by decide) ?_
            refine g_zast (pc := 245) (q0 := 27) (t0 := 1) C0 0 0 mNd (by decide) rfl (fun _ => rfl) rfl (by decide) (by omega) dX3_town_245 ?_
            refine g_aload_n (pc := 246) 0 C0 rfl dX3_town_246 rfl ?_
            refine m_get (pc := 247) (v := .ref (ad 43)) C0 43 (by decide) q1012 rfl dX3_town_247 ?_
            refine g_iconst (pc := 250) (v := (nI 1)) C0 dX3_town_250 (by decide) ?_
            refine g_iconst (pc := 251) (v := (nI 0)) C0 dX3_town_251 (by decide) ?_
            refine g_zast (pc := 252) (q0 := 27) (t0 := 1) C0 1 0 mNd (by decide) rfl (fun _ => rfl) rfl (by decide) (by omega) dX3_town_252 ?_
            refine g_aload_n (pc := 253) 0 C0 rfl dX3_town_253 rfl ?_
            refine m_get (pc := 254) (v := .int (nI (s 0 0))) C0 0 (by decide) q969 rfl dX3_town_254 ?_
            exact g_iret (pc := 257) C0 dX3_town_257 ⟨by rw [pTown, if_neg (by omega), ← ee, es]; rfl, by rw [pTownT, if_neg (by omega), ← ee, ← es]; rfl⟩
          · refine g_iload_n (pc := 181) 2 C0 rfl dX3_town_181 rfl ?_
            refine g_bipush (pc := 182) (v := (nI 8)) C0 dX3_town_182 (by decide) ?_
            refine g_icmp_geN (pc := 184) 229 C0 (by omega) (by decide) dX3_town_184 (by decide) (fun h184 => ?_) (fun h184 => ?_)
            · exact absurd h184 (by omega)
            refine g_aload_n (pc := 187) 0 C0 rfl dX3_town_187 rfl ?_
            refine m_get (pc := 188) (v := .ref (ad 9)) C0 9 (by decide) q978 rfl dX3_town_188 ?_
            refine g_iload_n (pc := 191) 2 C0 rfl dX3_town_191 rfl ?_
            refine g_aload_n (pc := 192) 0 C0 rfl dX3_town_192 rfl ?_
            refine m_get (pc := 193) (v := .ref (ad 30)) C0 30 (by decide) q999 rfl dX3_town_193 ?_
            refine g_iload_n (pc := 196) 2 C0 rfl dX3_town_196 rfl ?_
            refine g_iald (pc := 197) (q0 := 16) (t0 := 0) C0 i181 rfl (fun _ => rfl) rfl (by decide) (by omega) dX3_town_197 ?_
            refine G.stE (st' := [.int (nI (s 30 i181)), .int (nI i181), .ref (ad 9)]) rfl ?_
            refine g_iast (pc := 198) (q0 := 7) (t0 := 0) C0 i181 (s 30 i181) mNd rfl (fun _ => rfl) rfl (by decide) (by omega) dX3_town_198 ?_
            refine g_aload_n (pc := 199) 0 C0 rfl dX3_town_199 rfl ?_
            refine m_get (pc := 200) (v := .ref (ad 10)) C0 10 (by decide) q979 rfl dX3_town_200 ?_
            refine g_iload_n (pc := 203) 2 C0 rfl dX3_town_203 rfl ?_
            refine g_aload_n (pc := 204) 0 C0 rfl dX3_town_204 rfl ?_
            refine m_get (pc := 205) (v := .ref (ad 31)) C0 31 (by decide) q1000 rfl dX3_town_205 ?_
            refine g_iload_n (pc := 208) 2 C0 rfl dX3_town_208 rfl ?_
            refine g_iald (pc := 209) (q0 := 17) (t0 := 0) C0 i181 rfl (fun _ => rfl) rfl (by decide) (by omega) dX3_town_209 ?_
            refine G.stE (st' := [.int (nI (s 31 i181)), .int (nI i181), .ref (ad 10)]) rfl ?_
            refine g_iast (pc := 210) (q0 := 8) (t0 := 0) C0 i181 (s 31 i181) mNd rfl (fun _ => rfl) rfl (by decide) (by omega) dX3_town_210 ?_
            refine g_aload_n (pc := 211) 0 C0 rfl dX3_town_211 rfl ?_
            refine m_get (pc := 212) (v := .ref (ad 11)) C0 11 (by decide) q980 rfl dX3_town_212 ?_
            refine g_iload_n (pc := 215) 2 C0 rfl dX3_town_215 rfl ?_
            refine g_aload_n (pc := 216) 0 C0 rfl dX3_town_216 rfl ?_
            refine m_get (pc := 217) (v := .ref (ad 32)) C0 32 (by decide) q1001 rfl dX3_town_217 ?_
            refine g_iload_n (pc := 220) 2 C0 rfl dX3_town_220 rfl ?_
            refine g_iald (pc := 221) (q0 := 18) (t0 := 0) C0 i181 rfl (fun _ => rfl) rfl (by decide) (by omega) dX3_town_221 ?_
            refine G.stE (st' := [.int (nI (s 32 i181)), .int (nI i181), .ref (ad 11)]) rfl ?_
            refine g_iast (pc := 222) (q0 := 9) (t0 := 0) C0 i181 (s 32 i181) mNd rfl (fun _ => rfl) rfl (by decide) (by omega) dX3_town_222 ?_
            refine g_iinc1 (pc := 223) 2 C0 (L1 := [some (.ref (ad 0)), some (.int (nI (townV τ))), some (.int (nI (i181 + 1)))]) rfl rfl (by decide) dX3_town_223 rfl ?_
            refine g_goto (pc := 226) 181 C0 dX3_town_226 (by decide) ?_
            exact G.wsE (by rw [tcC_s]) ih181
        · refine g_iload_n (pc := 155) 2 C0 rfl dX3_town_155 rfl ?_
          refine g_bipush (pc := 156) (v := (nI 30)) C0 dX3_town_156 (by decide) ?_
          refine g_icmp_geN (pc := 158) 179 C0 (by omega) (by decide) dX3_town_158 (by decide) (fun h158 => ?_) (fun h158 => ?_)
          · exact absurd h158 (by omega)
          refine g_aload_n (pc := 161) 0 C0 rfl dX3_town_161 rfl ?_
          refine m_get (pc := 162) (v := .ref (ad 6)) C0 6 (by decide) q975 rfl dX3_town_162 ?_
          refine g_iload_n (pc := 165) 2 C0 rfl dX3_town_165 rfl ?_
          refine g_aload_n (pc := 166) 0 C0 rfl dX3_town_166 rfl ?_
          refine m_get (pc := 167) (v := .ref (ad 28)) C0 28 (by decide) q997 rfl dX3_town_167 ?_
          refine g_iload_n (pc := 170) 2 C0 rfl dX3_town_170 rfl ?_
          refine g_iald (pc := 171) (q0 := 15) (t0 := 0) C0 i155 rfl (fun _ => rfl) rfl (by decide) (by omega) dX3_town_171 ?_
          refine G.stE (st' := [.int (nI (s 28 i155)), .int (nI i155), .ref (ad 6)]) rfl ?_
          refine g_iast (pc := 172) (q0 := 5) (t0 := 0) C0 i155 (s 28 i155) mNd rfl (fun _ => rfl) rfl (by decide) (by omega) dX3_town_172 ?_
          refine g_iinc1 (pc := 173) 2 C0 (L1 := [some (.ref (ad 0)), some (.int (nI (townV τ))), some (.int (nI (i155 + 1)))]) rfl rfl (by decide) dX3_town_173 rfl ?_
          refine g_goto (pc := 176) 155 C0 dX3_town_176 (by decide) ?_
          exact G.wsE (by rw [tcB_s]) ih155
      · refine g_iload_n (pc := 86) 2 C0 rfl dX3_town_86 rfl ?_
        refine g_bipush (pc := 87) (v := (nI 10)) C0 dX3_town_87 (by decide) ?_
        refine g_icmp_geN (pc := 89) 153 C0 (by omega) (by decide) dX3_town_89 (by decide) (fun h89 => ?_) (fun h89 => ?_)
        · exact absurd h89 (by omega)
        refine g_aload_n (pc := 92) 0 C0 rfl dX3_town_92 rfl ?_
        refine m_get (pc := 93) (v := .ref (ad 2)) C0 2 (by decide) q971 rfl dX3_town_93 ?_
        refine g_iload_n (pc := 96) 2 C0 rfl dX3_town_96 rfl ?_
        refine g_aload_n (pc := 97) 0 C0 rfl dX3_town_97 rfl ?_
        refine m_get (pc := 98) (v := .ref (ad 24)) C0 24 (by decide) q993 rfl dX3_town_98 ?_
        refine g_iload_n (pc := 101) 2 C0 rfl dX3_town_101 rfl ?_
        refine g_iald (pc := 102) (q0 := 11) (t0 := 0) C0 i86 rfl (fun _ => rfl) rfl (by decide) (by omega) dX3_town_102 ?_
        refine G.stE (st' := [.int (nI (s 24 i86)), .int (nI i86), .ref (ad 2)]) rfl ?_
        refine g_iast (pc := 103) (q0 := 1) (t0 := 0) C0 i86 (s 24 i86) mNd rfl (fun _ => rfl) rfl (by decide) (by omega) dX3_town_103 ?_
        refine g_aload_n (pc := 104) 0 C0 rfl dX3_town_104 rfl ?_
        refine m_get (pc := 105) (v := .ref (ad 3)) C0 3 (by decide) q972 rfl dX3_town_105 ?_
        refine g_iload_n (pc := 108) 2 C0 rfl dX3_town_108 rfl ?_
        refine g_aload_n (pc := 109) 0 C0 rfl dX3_town_109 rfl ?_
        refine m_get (pc := 110) (v := .ref (ad 25)) C0 25 (by decide) q994 rfl dX3_town_110 ?_
        refine g_iload_n (pc := 113) 2 C0 rfl dX3_town_113 rfl ?_
        refine g_iald (pc := 114) (q0 := 12) (t0 := 0) C0 i86 rfl (fun _ => rfl) rfl (by decide) (by omega) dX3_town_114 ?_
        refine G.stE (st' := [.int (nI (s 25 i86)), .int (nI i86), .ref (ad 3)]) rfl ?_
        refine g_iast (pc := 115) (q0 := 2) (t0 := 0) C0 i86 (s 25 i86) mNd rfl (fun _ => rfl) rfl (by decide) (by omega) dX3_town_115 ?_
        refine g_aload_n (pc := 116) 0 C0 rfl dX3_town_116 rfl ?_
        refine m_get (pc := 117) (v := .ref (ad 4)) C0 4 (by decide) q973 rfl dX3_town_117 ?_
        refine g_iload_n (pc := 120) 2 C0 rfl dX3_town_120 rfl ?_
        refine g_aload_n (pc := 121) 0 C0 rfl dX3_town_121 rfl ?_
        refine m_get (pc := 122) (v := .ref (ad 26)) C0 26 (by decide) q995 rfl dX3_town_122 ?_
        refine g_iload_n (pc := 125) 2 C0 rfl dX3_town_125 rfl ?_
        refine g_iald (pc := 126) (q0 := 13) (t0 := 0) C0 i86 rfl (fun _ => rfl) rfl (by decide) (by omega) dX3_town_126 ?_
        refine G.stE (st' := [.int (nI (s 26 i86)), .int (nI i86), .ref (ad 4)]) rfl ?_
        refine g_iast (pc := 127) (q0 := 3) (t0 := 0) C0 i86 (s 26 i86) mNd rfl (fun _ => rfl) rfl (by decide) (by omega) dX3_town_127 ?_
        refine g_aload_n (pc := 128) 0 C0 rfl dX3_town_128 rfl ?_
        refine m_get (pc := 129) (v := .ref (ad 5)) C0 5 (by decide) q974 rfl dX3_town_129 ?_
        refine g_iload_n (pc := 132) 2 C0 rfl dX3_town_132 rfl ?_
        refine g_aload_n (pc := 133) 0 C0 rfl dX3_town_133 rfl ?_
        refine m_get (pc := 134) (v := .ref (ad 27)) C0 27 (by decide) q996 rfl dX3_town_134 ?_
        refine g_iload_n (pc := 137) 2 C0 rfl dX3_town_137 rfl ?_
        refine g_iald (pc := 138) (q0 := 14) (t0 := 0) C0 i86 rfl (fun _ => rfl) rfl (by decide) (by omega) dX3_town_138 ?_
        refine G.stE (st' := [.int (nI (s 27 i86)), .int (nI i86), .ref (ad 5)]) rfl ?_
        refine g_iast (pc := 139) (q0 := 4) (t0 := 0) C0 i86 (s 27 i86) mNd rfl (fun _ => rfl) rfl (by decide) (by omega) dX3_town_139 ?_
        refine g_aload_n (pc := 140) 0 C0 rfl dX3_town_140 rfl ?_
        refine m_get (pc := 141) (v := .ref (ad 7)) C0 7 (by decide) q976 rfl dX3_town_141 ?_
        refine g_iload_n (pc := 144) 2 C0 rfl dX3_town_144 rfl ?_
        refine g_iconst (pc := 145) (v := (nI 0)) C0 dX3_town_145 (by decide) ?_
        refine g_iast (pc := 146) (q0 := 6) (t0 := 0) C0 i86 0 mNd rfl (fun _ => rfl) rfl (by decide) (by omega) dX3_town_146 ?_
        refine g_iinc1 (pc := 147) 2 C0 (L1 := [some (.ref (ad 0)), some (.int (nI (townV τ))), some (.int (nI (i86 + 1)))]) rfl rfl (by decide) dX3_town_147 rfl ?_
        refine g_goto (pc := 150) 86 C0 dX3_town_150 (by decide) ?_
        exact G.wsE (by rw [tcA_s]) ih86
    · refine g_bipush (pc := 55) (v := (-10)) C0 dX3_town_55 (by decide) ?_
      refine g_iload_n (pc := 57) 1 C0 rfl dX3_town_57 rfl ?_
      refine g_isub (pc := 58) C0 dX3_town_58 ?_
      exact g_iret (pc := 59) C0 dX3_town_59 ⟨by rw [pTown, if_pos h52], by rw [pTownT, if_pos h52]; exact ee.symm⟩
  · refine G.wh (pc := 27) (ws := fun x : tT × Nat => mW dT ad x.1) (Lf := fun x : tT × Nat => [some (.ref (ad 0)), some (.int (nI x.2)), none]) prM (prI (townV τ) (twS τ)) (tw0 τ, 0) (tw_start h1 h2) ?_
    rintro ⟨t, f⟩ hI ih
    refine G.wsE (ws' := mW dT ad t) rfl ?_
    refine G.lE (L' := [some (.ref (ad 0)), some (.int (nI f)), none]) rfl ?_
    have hf4 : f ≤ 4 := hI.1
    refine g_iload_n (pc := 27) 1 C0 rfl dX3_town_27 rfl ?_
    refine g_if_neN (pc := 28) 46 C0 (by omega) dX3_town_28 (by decide) (fun h28 => ?_) (fun h28 => ?_)
    · obtain ⟨v1, v2⟩ := hI.2.2 h28
      have v1 : townV τ = f := v1
      have v2 : twS τ = t := v2
      exact G.wsE (by rw [v2]) (G.lE (by rw [v1]) J46)
    · subst h28
      have hC : wfC t := (hI.2.1 rfl).1
      have hlt := hrV_lt hC.1.x
      refine g_aload_n (pc := 31) 0 C0 rfl dX3_town_31 rfl ?_
      refine g_cvi (pc := 32) (na := 0) (As := []) (rest := []) C0 (mM_here l D dT ad t  hC.1.x) (q0 := 0) (j := 0) (ci := 0) (C := RX3) (T := TX3) (N := 44) rfl rfl rfl q1117 q1119 qs31 q60 q1120 (by decide +kernel) ⟨Nat.le_of_ble_eq_true rfl, Nat.le_of_ble_eq_true rfl⟩ rfl rfl ⟨Nat.le_of_ble_eq_true rfl, Nat.le_of_ble_eq_true rfl⟩ rfl rfl (Nat.le_of_ble_eq_true rfl) dX3_town_32 (fun r τ0 hc => ?_)
      obtain ⟨rfl, rfl⟩ := hc
      refine g_if_lt (pc := 35) 46 C0 dX3_town_35 (by decide) (fun h35 => ?_) (fun h35 => ?_)
      · have hn : hrV t = none := oI_none (fun k e => Nat.lt_trans (hlt k e) (by decide)) h35
        obtain ⟨v1, v2⟩ := pr_end hI hn
        exact G.wsE (by rw [v2]; rfl) (G.lE (by rw [v1]) J46)
      · have hn : hrV t ≠ none := by obtain ⟨q, hq⟩ := oI_some h35; rw [hq]; simp
        obtain ⟨c1, c2⟩ := wfC_hr hC
        refine G.wsE (ws' := mW dT ad (hrT t)) rfl ?_
        refine g_aload_n (pc := 38) 0 C0 rfl dX3_town_38 rfl ?_
        refine g_cvi (pc := 39) (na := 0) (As := []) (rest := []) C0 (mM_takeClause l D dT ad (hrT t)  c1.1 c1.2.1 c1.2.2.1 c1.2.2.2) (q0 := 0) (j := 0) (ci := 0) (C := RX3) (T := TX3) (N := 44) rfl rfl rfl q1121 q1123 qs32 q60 q1124 (by decide +kernel) ⟨Nat.le_of_ble_eq_true rfl, Nat.le_of_ble_eq_true rfl⟩ rfl rfl ⟨Nat.le_of_ble_eq_true rfl, Nat.le_of_ble_eq_true rfl⟩ rfl rfl (Nat.le_of_ble_eq_true rfl) dX3_town_39 (fun r τ0 hc => ?_)
        obtain ⟨rfl, rfl⟩ := hc
        refine g_istore_n (pc := 42) 1 C0 (L1 := [some (.ref (ad 0)), some (.int (nI (claV (hrT t)))), none]) rfl (by decide) dX3_town_42 rfl rfl ?_
        refine g_goto (pc := 43) 27 C0 dX3_town_43 (by decide) ?_
        obtain ⟨n1, n2⟩ := pr_next hI hn
        exact ih (claT (hrT t), claV (hrT t)) n1 n2
