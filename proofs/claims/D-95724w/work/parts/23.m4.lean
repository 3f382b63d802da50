/-! the model, fourth module -/
set_option maxRecDepth 100000
set_option maxHeartbeats 4000000 in
set_option maxRecDepth 100000 in
theorem mM_isWish (l : Launch) (D : va_G) (dT : Nat → ClassId) (ad : Nat → Nat) (τ : tT) (n : Nat) (a : Nat) (b : Nat) (hp : wfP τ) (hn : n < 2 ^ 31) (ha : a < 2 ^ 31) (hb : b < 2 ^ 31) : MI l D dT ad yX3_isWish cX3_isWish 8 .boolean ({ frames := 1, cells := 0, slots := 0, locals := 21 }) [.int (nI n), .int (nI a), .int (nI b)] τ (fun rr τ' => rr = (nI (bN (sWish τ n a b))) ∧ τ = τ') := by
  refine CI.ofG (own := "FittingStridesModel") (L := [some (.ref (ad 0)), some (.int (nI n)), some (.int (nI a)), some (.int (nI b)), none, none, none, none]) rfl (by decide) (Nat.le_of_ble_eq_true rfl) rfl ?_
  intro p' e' s' m' bl' mt' c' C0
  have hp0 := hp.1
  refine g_iconst (pc := 0) (v := (nI 1)) C0 dX3_isWish_0 (by decide) ?_
  refine g_istore (pc := 1) 4 C0 (L1 := [some (.ref (ad 0)), some (.int (nI n)), some (.int (nI a)), some (.int (nI b)), some (.int (nI 1)), none, none, none]) rfl (by decide) dX3_isWish_1 rfl ?_
  refine g_iconst (pc := 3) (v := (nI 0)) C0 dX3_isWish_3 (by decide) ?_
  refine g_istore (pc := 4) 5 C0 (L1 := [some (.ref (ad 0)), some (.int (nI n)), some (.int (nI a)), some (.int (nI b)), some (.int (nI 1)), some (.int (nI 0)), none, none]) rfl (by decide) dX3_isWish_4 rfl ?_
  refine G.loop (pc := 6) (ws := fun i => mW dT ad τ) (Lf := fun i => [some (.ref (ad 0)), some (.int (nI n)), some (.int (nI a)), some (.int (nI b)), some (.int (nI (bN (allB (wishQ τ n a b) i)))), some (.int (nI i)), none, none]) (N := τ 0 8) (i0 := 0) (Nat.zero_le _) ?_ (fun i6 hi6 hj6 ih6 => ?_)
  · refine g_iload (pc := 6) 5 C0 rfl dX3_isWish_6 ?_
    refine g_aload_n (pc := 8) 0 C0 rfl dX3_isWish_8 rfl ?_
    refine m_get (pc := 9) (v := .int (nI (τ 0 8))) C0 8 (by decide) q977 rfl dX3_isWish_9 ?_
    refine g_icmp_geN (pc := 12) 114 C0 (by omega) (by omega) dX3_isWish_12 (by decide) (fun h12 => ?_) (fun h12 => ?_)
    rotate_left
    · exact absurd h12 (by omega)
    refine g_iload (pc := 114) 4 C0 rfl dX3_isWish_114 ?_
    exact g_zret (pc := 116) C0 dX3_isWish_116 (nar_bN _) ⟨rfl, rfl⟩
  · obtain ⟨g1, g2, g3, g4⟩ := hp.2.2 i6 hi6
    refine g_iload (pc := 6) 5 C0 rfl dX3_isWish_6 ?_
    refine g_aload_n (pc := 8) 0 C0 rfl dX3_isWish_8 rfl ?_
    refine m_get (pc := 9) (v := .int (nI (τ 0 8))) C0 8 (by decide) q977 rfl dX3_isWish_9 ?_
    refine g_icmp_geN (pc := 12) 114 C0 (by omega) (by omega) dX3_isWish_12 (by decide) (fun h12 => ?_) (fun h12 => ?_)
    · exact absurd h12 (by omega)
    refine G.join (pcJ := 32) (wsJ := mW dT ad τ) (LJ := [some (.ref (ad 0)), some (.int (nI n)), some (.int (nI a)), some (.int (nI b)), some (.int (nI (bN (allB (wishQ τ n a b) i6)))), some (.int (nI i6)), none, none]) (stJ := []) (nI (bN (goesS τ n i6))) ?_ (fun J32 => ?_)
    · refine g_istore (pc := 32) 6 C0 (L1 := [some (.ref (ad 0)), some (.int (nI n)), some (.int (nI a)), some (.int (nI b)), some (.int (nI (bN (allB (wishQ τ n a b) i6)))), some (.int (nI i6)), some (.int (nI (bN (goesS τ n i6)))), none]) rfl (by decide) dX3_isWish_32 rfl ?_
      refine G.join (pcJ := 66) (wsJ := mW dT ad τ) (LJ := [some (.ref (ad 0)), some (.int (nI n)), some (.int (nI a)), some (.int (nI b)), some (.int (nI (bN (allB (wishQ τ n a b) i6)))), some (.int (nI i6)), some (.int (nI (bN (goesS τ n i6)))), none]) (stJ := []) (nI (bN (eithS τ n i6))) ?_ (fun J66 => ?_)
      · refine g_istore (pc := 66) 7 C0 (L1 := [some (.ref (ad 0)), some (.int (nI n)), some (.int (nI a)), some (.int (nI b)), some (.int (nI (bN (allB (wishQ τ n a b) i6)))), some (.int (nI i6)), some (.int (nI (bN (goesS τ n i6)))), some (.int (nI (bN (eithS τ n i6))))]) rfl (by decide) dX3_isWish_66 rfl ?_
        refine G.join (pcJ := 106) (wsJ := mW dT ad τ) (LJ := [some (.ref (ad 0)), some (.int (nI n)), some (.int (nI a)), some (.int (nI b)), some (.int (nI (bN (allB (wishQ τ n a b) i6)))), some (.int (nI i6)), some (.int (nI (bN (goesS τ n i6)))), some (.int (nI (bN (eithS τ n i6))))]) (stJ := []) (nI (bN (allB (wishQ τ n a b) (i6 + 1)))) ?_ (fun J106 => ?_)
        · refine g_istore (pc := 106) 4 C0 (L1 := [some (.ref (ad 0)), some (.int (nI n)), some (.int (nI a)), some (.int (nI b)), some (.int (nI (bN (allB (wishQ τ n a b) (i6 + 1))))), some (.int (nI i6)), some (.int (nI (bN (goesS τ n i6)))), some (.int (nI (bN (eithS τ n i6))))]) rfl (by decide) dX3_isWish_106 rfl ?_
          refine g_iinc1 (pc := 108) 5 C0 (L1 := [some (.ref (ad 0)), some (.int (nI n)), some (.int (nI a)), some (.int (nI b)), some (.int (nI (bN (allB (wishQ τ n a b) (i6 + 1))))), some (.int (nI (i6 + 1))), some (.int (nI (bN (goesS τ n i6)))), some (.int (nI (bN (eithS τ n i6))))]) rfl rfl (by decide) dX3_isWish_108 rfl ?_
          refine g_goto (pc := 111) 6 C0 dX3_isWish_111 (by decide) ?_
          refine G.forget 6 ?_
          refine G.forget 7 ?_
          exact ih6
        · refine g_iload (pc := 68) 4 C0 rfl dX3_isWish_68 ?_
          refine g_if_eqB (pc := 70) 105 C0 dX3_isWish_70 (by decide) (fun h70 => ?_) (fun h70 => ?_)
          · refine g_iconst (pc := 105) (v := (nI 0)) C0 dX3_isWish_105 (by decide) ?_
            exact J106 (nI 0) (bret0 (by rw [allB_s, h70]; first | done | (simp [wishQ, h70] <;> omega)))
          · refine g_iload_n (pc := 73) 2 C0 rfl dX3_isWish_73 rfl ?_
            refine g_iload (pc := 74) 5 C0 rfl dX3_isWish_74 ?_
            refine g_csi (pc := 76) (na := 2) (As := [.int (nI a), .int (nI i6)]) (rest := []) C0 (mM_has l a i6 (by omega) (by omega)) q1216 q1217 q60 q1218 (by decide +kernel) ⟨Nat.le_of_ble_eq_true rfl, Nat.le_of_ble_eq_true rfl⟩ rfl rfl ⟨Nat.le_of_ble_eq_true rfl, Nat.le_of_ble_eq_true rfl⟩ rfl rfl (Nat.le_of_ble_eq_true rfl) dX3_isWish_76 ?_
            refine g_if_eqB (pc := 79) 87 C0 dX3_isWish_79 (by decide) (fun h79 => ?_) (fun h79 => ?_)
            · refine g_iload_n (pc := 87) 3 C0 rfl dX3_isWish_87 rfl ?_
              refine g_iload (pc := 88) 5 C0 rfl dX3_isWish_88 ?_
              refine g_csi (pc := 90) (na := 2) (As := [.int (nI b), .int (nI i6)]) (rest := []) C0 (mM_has l b i6 (by omega) (by omega)) q1216 q1217 q60 q1218 (by decide +kernel) ⟨Nat.le_of_ble_eq_true rfl, Nat.le_of_ble_eq_true rfl⟩ rfl rfl ⟨Nat.le_of_ble_eq_true rfl, Nat.le_of_ble_eq_true rfl⟩ rfl rfl (Nat.le_of_ble_eq_true rfl) dX3_isWish_90 ?_
              refine g_if_eqB (pc := 93) 101 C0 dX3_isWish_93 (by decide) (fun h93 => ?_) (fun h93 => ?_)
              · refine g_iconst (pc := 101) (v := (nI 1)) C0 dX3_isWish_101 (by decide) ?_
                refine g_goto (pc := 102) 106 C0 dX3_isWish_102 (by decide) ?_
                exact J106 (nI 1) (bret1 (by rw [allB_s, h70]; first | done | (simp [wishQ, h70, h79, h93] <;> omega)))
              · refine g_iload (pc := 96) 7 C0 rfl dX3_isWish_96 ?_
                refine g_if_neB (pc := 98) 105 C0 dX3_isWish_98 (by decide) (fun h98 => ?_) (fun h98 => ?_)
                · refine g_iconst (pc := 105) (v := (nI 0)) C0 dX3_isWish_105 (by decide) ?_
                  exact J106 (nI 0) (bret0 (by rw [allB_s, h70]; first | done | (simp [wishQ, h70, h79, h93, h98] <;> omega)))
                · refine g_iconst (pc := 101) (v := (nI 1)) C0 dX3_isWish_101 (by decide) ?_
                  refine g_goto (pc := 102) 106 C0 dX3_isWish_102 (by decide) ?_
                  exact J106 (nI 1) (bret1 (by rw [allB_s, h70]; first | done | (simp [wishQ, h70, h79, h93, h98] <;> omega)))
            · refine g_iload (pc := 82) 6 C0 rfl dX3_isWish_82 ?_
              refine g_if_eqB (pc := 84) 105 C0 dX3_isWish_84 (by decide) (fun h84 => ?_) (fun h84 => ?_)
              · refine g_iconst (pc := 105) (v := (nI 0)) C0 dX3_isWish_105 (by decide) ?_
                exact J106 (nI 0) (bret0 (by rw [allB_s, h70]; first | done | (simp [wishQ, h70, h79, h84] <;> omega)))
              · refine g_iload_n (pc := 87) 3 C0 rfl dX3_isWish_87 rfl ?_
                refine g_iload (pc := 88) 5 C0 rfl dX3_isWish_88 ?_
                refine g_csi (pc := 90) (na := 2) (As := [.int (nI b), .int (nI i6)]) (rest := []) C0 (mM_has l b i6 (by omega) (by omega)) q1216 q1217 q60 q1218 (by decide +kernel) ⟨Nat.le_of_ble_eq_true rfl, Nat.le_of_ble_eq_true rfl⟩ rfl rfl ⟨Nat.le_of_ble_eq_true rfl, Nat.le_of_ble_eq_true rfl⟩ rfl rfl (Nat.le_of_ble_eq_true rfl) dX3_isWish_90 ?_
                refine g_if_eqB (pc := 93) 101 C0 dX3_isWish_93 (by decide) (fun h93 => ?_) (fun h93 => ?_)
                · refine g_iconst (pc := 101) (v := (nI 1)) C0 dX3_isWish_101 (by decide) ?_
                  refine g_goto (pc := 102) 106 C0 dX3_isWish_102 (by decide) ?_
                  exact J106 (nI 1) (bret1 (by rw [allB_s, h70]; first | done | (simp [wishQ, h70, h79, h84, h93] <;> omega)))
                · refine g_iload (pc := 96) 7 C0 rfl dX3_isWish_96 ?_
                  refine g_if_neB (pc := 98) 105 C0 dX3_isWish_98 (by decide) (fun h98 => ?_) (fun h98 => ?_)
                  · refine g_iconst (pc := 105) (v := (nI 0)) C0 dX3_isWish_105 (by decide) ?_
                    exact J106 (nI 0) (bret0 (by rw [allB_s, h70]; first | done | (simp [wishQ, h70, h79, h84, h93, h98] <;> omega)))
                  · refine g_iconst (pc := 101) (v := (nI 1)) C0 dX3_isWish_101 (by decide) ?_
                    refine g_goto (pc := 102) 106 C0 dX3_isWish_102 (by decide) ?_
                    exact J106 (nI 1) (bret1 (by rw [allB_s, h70]; first | done | (simp [wishQ, h70, h79, h84, h93, h98] <;> omega)))
      · refine g_iload (pc := 34) 6 C0 rfl dX3_isWish_34 ?_
        refine g_if_neB (pc := 36) 61 C0 dX3_isWish_36 (by decide) (fun h36 => ?_) (fun h36 => ?_)
        · refine g_iconst (pc := 61) (v := (nI 1)) C0 dX3_isWish_61 (by decide) ?_
          refine g_goto (pc := 62) 66 C0 dX3_isWish_62 (by decide) ?_
          exact J66 (nI 1) (bret1 (by simp [eithS, h36] <;> omega))
        · refine g_aload_n (pc := 39) 0 C0 rfl dX3_isWish_39 rfl ?_
          refine m_get (pc := 40) (v := .ref (ad 11)) C0 11 (by decide) q980 rfl dX3_isWish_40 ?_
          refine g_iload (pc := 43) 5 C0 rfl dX3_isWish_43 ?_
          refine g_iald (pc := 45) (q0 := 9) (t0 := 0) C0 i6 rfl (fun _ => rfl) rfl (by decide) (by omega) dX3_isWish_45 ?_
          refine g_if_leN (pc := 46) 65 C0 (by omega) dX3_isWish_46 (by decide) (fun h46 => ?_) (fun h46 => ?_)
          · refine g_iconst (pc := 65) (v := (nI 0)) C0 dX3_isWish_65 (by decide) ?_
            exact J66 (nI 0) (bret0 (by simp [eithS, h36, h46] <;> omega))
          · refine g_iload_n (pc := 49) 1 C0 rfl dX3_isWish_49 rfl ?_
            refine g_aload_n (pc := 50) 0 C0 rfl dX3_isWish_50 rfl ?_
            refine m_get (pc := 51) (v := .ref (ad 11)) C0 11 (by decide) q980 rfl dX3_isWish_51 ?_
            refine g_iload (pc := 54) 5 C0 rfl dX3_isWish_54 ?_
            refine g_iald (pc := 56) (q0 := 9) (t0 := 0) C0 i6 rfl (fun _ => rfl) rfl (by decide) (by omega) dX3_isWish_56 ?_
            refine g_iremN (pc := 57) C0 (by omega) (by omega) (by omega) dX3_isWish_57 ?_
            refine g_if_neN (pc := 58) 65 C0 (Nat.lt_of_le_of_lt (Nat.mod_le _ _) hn) dX3_isWish_58 (by decide) (fun h58 => ?_) (fun h58 => ?_)
            · refine g_iconst (pc := 65) (v := (nI 0)) C0 dX3_isWish_65 (by decide) ?_
              exact J66 (nI 0) (bret0 (by simp [eithS, h36, h46, h58] <;> omega))
            · refine g_iconst (pc := 61) (v := (nI 1)) C0 dX3_isWish_61 (by decide) ?_
              refine g_goto (pc := 62) 66 C0 dX3_isWish_62 (by decide) ?_
              exact J66 (nI 1) (bret1 (by simp [eithS, h36, h46, h58] <;> omega))
    · refine g_iload_n (pc := 15) 1 C0 rfl dX3_isWish_15 rfl ?_
      refine g_aload_n (pc := 16) 0 C0 rfl dX3_isWish_16 rfl ?_
      refine m_get (pc := 17) (v := .ref (ad 10)) C0 10 (by decide) q979 rfl dX3_isWish_17 ?_
      refine g_iload (pc := 20) 5 C0 rfl dX3_isWish_20 ?_
      refine g_iald (pc := 22) (q0 := 8) (t0 := 0) C0 i6 rfl (fun _ => rfl) rfl (by decide) (by omega) dX3_isWish_22 ?_
      refine g_iremN (pc := 23) C0 (by omega) (by omega) (by omega) dX3_isWish_23 ?_
      refine g_if_neN (pc := 24) 31 C0 (Nat.lt_of_le_of_lt (Nat.mod_le _ _) hn) dX3_isWish_24 (by decide) (fun h24 => ?_) (fun h24 => ?_)
      · refine g_iconst (pc := 31) (v := (nI 0)) C0 dX3_isWish_31 (by decide) ?_
        exact J32 (nI 0) (bret0 (by simp [goesS, h24] <;> omega))
      · refine g_iconst (pc := 27) (v := (nI 1)) C0 dX3_isWish_27 (by decide) ?_
        refine g_goto (pc := 28) 32 C0 dX3_isWish_28 (by decide) ?_
        exact J32 (nI 1) (bret1 (by simp [goesS, h24] <;> omega))
set_option maxHeartbeats 4000000 in
set_option maxRecDepth 100000 in
theorem mM_wish (l : Launch) (D : va_G) (dT : Nat → ClassId) (ad : Nat → Nat) (τ : tT) (a : Int32) (b : Int32) (hp : wfP τ) : MI l D dT ad yX3_wish cX3_wish 5 .int ({ frames := 2, cells := 0, slots := 0, locals := 48 }) [.int a, .int b] τ (fun rr τ' => rr = (pWish τ a b) ∧ τ = τ') := by
  refine CI.ofG (own := "FittingStridesModel") (L := [some (.ref (ad 0)), some (.int a), some (.int b), none, none]) rfl (by decide) (Nat.le_of_ble_eq_true rfl) rfl ?_
  intro p' e' s' m' bl' mt' c' C0
  have hp0 := hp.1
  have hpw := pw_lt hp0
  have hpe := pw_le hp0
  refine g_iconst (pc := 0) (v := (nI 1)) C0 dX3_wish_0 (by decide) ?_
  refine g_aload_n (pc := 1) 0 C0 rfl dX3_wish_1 rfl ?_
  refine m_get (pc := 2) (v := .int (nI (τ 0 8))) C0 8 (by decide) q977 rfl dX3_wish_2 ?_
  refine g_ishl1N (pc := 5) C0 (by omega) dX3_wish_5 ?_
  refine g_iconst (pc := 6) (v := (nI 1)) C0 dX3_wish_6 (by decide) ?_
  refine g_isub (pc := 7) C0 dX3_wish_7 ?_
  refine g_istore_n (pc := 8) 3 C0 (L1 := [some (.ref (ad 0)), some (.int a), some (.int b), some (.int ((nI (2 ^ (τ 0 8))) - (nI 1))), none]) rfl (by decide) dX3_wish_8 rfl rfl ?_
  refine g_iload_n (pc := 9) 1 C0 rfl dX3_wish_9 rfl ?_
  refine g_i2l (pc := 10) (v := a.toInt64) C0 dX3_wish_10 rfl ?_
  refine g_lconst (pc := 11) (v := lN 0) C0 dX3_wish_11 (by decide) ?_
  refine g_iload_n (pc := 12) 3 C0 rfl dX3_wish_12 rfl ?_
  refine g_i2l (pc := 13) (v := ((nI (2 ^ (τ 0 8))) - (nI 1)).toInt64) C0 dX3_wish_13 rfl ?_
  refine g_csi (pc := 14) (na := 3) (As := [.long a.toInt64, .long (lN 0), .long (((nI (2 ^ (τ 0 8))) - (nI 1)).toInt64)]) (rest := []) C0 (mM_in l a.toInt64 (lN 0) (((nI (2 ^ (τ 0 8))) - (nI 1)).toInt64) ) q1107 q1108 q60 q1109 (by decide +kernel) ⟨Nat.le_of_ble_eq_true rfl, Nat.le_of_ble_eq_true rfl⟩ rfl rfl ⟨Nat.le_of_ble_eq_true rfl, Nat.le_of_ble_eq_true rfl⟩ rfl rfl (Nat.le_of_ble_eq_true rfl) dX3_wish_14 ?_
  refine g_if_eqB (pc := 17) 31 C0 dX3_wish_17 (by decide) (fun h17 => ?_) (fun h17 => ?_)
  · rw [inB_ix a _ hpw] at h17
    refine g_ldc (pc := 31) (v := -1000000001) C0 q1187 dX3_wish_31 ?_
    exact g_iret (pc := 33) C0 dX3_wish_33 ⟨by simp [pWish, h17]; rfl, rfl⟩
  · rw [inB_ix a _ hpw] at h17
    obtain ⟨a1, rfl, a1h, a1b⟩ := ixB_t h17
    refine g_iload_n (pc := 20) 2 C0 rfl dX3_wish_20 rfl ?_
    refine g_i2l (pc := 21) (v := b.toInt64) C0 dX3_wish_21 rfl ?_
    refine g_lconst (pc := 22) (v := lN 0) C0 dX3_wish_22 (by decide) ?_
    refine g_iload_n (pc := 23) 3 C0 rfl dX3_wish_23 rfl ?_
    refine g_i2l (pc := 24) (v := ((nI (2 ^ (τ 0 8))) - (nI 1)).toInt64) C0 dX3_wish_24 rfl ?_
    refine g_csi (pc := 25) (na := 3) (As := [.long b.toInt64, .long (lN 0), .long (((nI (2 ^ (τ 0 8))) - (nI 1)).toInt64)]) (rest := []) C0 (mM_in l b.toInt64 (lN 0) (((nI (2 ^ (τ 0 8))) - (nI 1)).toInt64) ) q1107 q1108 q60 q1109 (by decide +kernel) ⟨Nat.le_of_ble_eq_true rfl, Nat.le_of_ble_eq_true rfl⟩ rfl rfl ⟨Nat.le_of_ble_eq_true rfl, Nat.le_of_ble_eq_true rfl⟩ rfl rfl (Nat.le_of_ble_eq_true rfl) dX3_wish_25 ?_
    refine g_if_neB (pc := 28) 34 C0 dX3_wish_28 (by decide) (fun h28 => ?_) (fun h28 => ?_)
    · rw [inB_ix b _ hpw] at h28
      obtain ⟨b1, rfl, b1h, b1b⟩ := ixB_t h28
      refine g_iconst (pc := 34) (v := (nI 1)) C0 dX3_wish_34 (by decide) ?_
      refine g_istore (pc := 35) 4 C0 (L1 := [some (.ref (ad 0)), some (.int (nI a1)), some (.int (nI b1)), some (.int ((nI (2 ^ (τ 0 8))) - (nI 1))), some (.int (nI 1))]) rfl (by decide) dX3_wish_35 rfl ?_
      refine G.wh (pc := 37) (ws := fun _ => mW dT ad τ) (Lf := fun x : Nat => [some (.ref (ad 0)), some (.int (nI a1)), some (.int (nI b1)), some (.int ((nI (2 ^ (τ 0 8))) - (nI 1))), some (.int (nI x))]) (fun x => 100001 - x) (fun x => 1 ≤ x ∧ x ≤ 100001 ∧ fndN (fun n => sWish τ n a1 b1) 100000 1 = fndN (fun n => sWish τ n a1 b1) (100000 + 1 - x) x) 1 ⟨by decide, by decide, fndN_0 _ _⟩ ?_
      intro n hI37 ih37
      obtain ⟨j1, j2, j3⟩ := hI37
      refine g_iload (pc := 37) 4 C0 rfl dX3_wish_37 ?_
      have c39 : Jvm.Cond.constant "FittingStridesModel" 271 (nI 100000) ∈ lw_all := q1279
      refine g_ldcw (pc := 39) (v := nI 100000) C0 c39 dX3_wish_39 ?_
      refine g_icmp_gtN (pc := 42) 65 C0 (by omega) (by decide) dX3_wish_42 (by decide) (fun h42 => ?_) (fun h42 => ?_)
      · refine g_iconst (pc := 65) (v := (-1)) C0 dX3_wish_65 (by decide) ?_
        exact g_iret (pc := 66) C0 dX3_wish_66 ⟨by rw [pWish, h17, h28, Bool.and_true, if_pos rfl, nI_clamp a1b, nI_clamp b1b, fndN_end (by omega) j3]; rfl, rfl⟩
      · refine g_aload_n (pc := 45) 0 C0 rfl dX3_wish_45 rfl ?_
        refine g_iload (pc := 46) 4 C0 rfl dX3_wish_46 ?_
        refine g_iload_n (pc := 48) 1 C0 rfl dX3_wish_48 rfl ?_
        refine g_iload_n (pc := 49) 2 C0 rfl dX3_wish_49 rfl ?_
        refine g_cvi (pc := 50) (na := 3) (As := [.int (nI n), .int (nI a1), .int (nI b1)]) (rest := []) C0 (mM_isWish l D dT ad τ n a1 b1 hp (by omega) (by omega) (by omega)) (q0 := 0) (j := 0) (ci := 0) (C := RX3) (T := TX3) (N := 44) rfl rfl rfl q1280 q1282 qs53 q60 q1283 (by decide +kernel) ⟨Nat.le_of_ble_eq_true rfl, Nat.le_of_ble_eq_true rfl⟩ rfl rfl ⟨Nat.le_of_ble_eq_true rfl, Nat.le_of_ble_eq_true rfl⟩ rfl rfl (Nat.le_of_ble_eq_true rfl) dX3_wish_50 (fun r τ0 hc => ?_)
        obtain ⟨rfl, rfl⟩ := hc
        refine g_if_eqB (pc := 53) 59 C0 dX3_wish_53 (by decide) (fun h53 => ?_) (fun h53 => ?_)
        · refine g_iinc1 (pc := 59) 4 C0 (L1 := [some (.ref (ad 0)), some (.int (nI a1)), some (.int (nI b1)), some (.int ((nI (2 ^ (τ 0 8))) - (nI 1))), some (.int (nI (n + 1)))]) rfl rfl (by decide) dX3_wish_59 rfl ?_
          refine g_goto (pc := 62) 37 C0 dX3_wish_62 (by decide) ?_
          exact ih37 _ ⟨by omega, by omega, fndN_at j1 (by omega) h53 j3⟩ (by show _ < _; omega)
        · refine g_iload (pc := 56) 4 C0 rfl dX3_wish_56 ?_
          exact g_iret (pc := 58) C0 dX3_wish_58 ⟨by rw [pWish, h17, h28, Bool.and_true, if_pos rfl, nI_clamp a1b, nI_clamp b1b, fndN_hit j1 (by omega) h53 j3]; rfl, rfl⟩
    · rw [inB_ix b _ hpw] at h28
      refine g_ldc (pc := 31) (v := -1000000001) C0 q1187 dX3_wish_31 ?_
      exact g_iret (pc := 33) C0 dX3_wish_33 ⟨by simp [pWish, h17, nI_clamp a1b, h28]; rfl, rfl⟩
set_option maxHeartbeats 4000000 in
set_option maxRecDepth 100000 in
theorem mM_pair (l : Launch) (D : va_G) (dT : Nat → ClassId) (ad : Nat → Nat) (τ : tT) (p : Int32) (q : Int32) (w : Int32) (hw : wfT τ) (hp : wfP τ) : MI l D dT ad yX3_pair cX3_pair 5 .int ({ frames := 3, cells := 0, slots := 0, locals := 73 }) [.int p, .int q, .int w] τ (fun rr τ' => rr = (pPair τ p q w) ∧ τ = τ') := by
  refine CI.ofG (own := "FittingStridesModel") (L := [some (.ref (ad 0)), some (.int p), some (.int q), some (.int w), none]) rfl (by decide) (Nat.le_of_ble_eq_true rfl) rfl ?_
  intro p' e' s' m' bl' mt' c' C0
  have hw1 := hw.1
  have hw0 := hw.2.1
  have hp0 := hp.1
  have hp1 := hp.2.1
  refine g_aload_n (pc := 0) 0 C0 rfl dX3_pair_0 rfl ?_
  refine g_iload_n (pc := 1) 1 C0 rfl dX3_pair_1 rfl ?_
  refine g_cvi (pc := 2) (na := 1) (As := [.int p]) (rest := []) C0 (mM_isPerson l D dT ad τ p (by omega)) (q0 := 0) (j := 0) (ci := 0) (C := RX3) (T := TX3) (N := 44) rfl rfl rfl q1204 q1206 qs45 q60 q1207 (by decide +kernel) ⟨Nat.le_of_ble_eq_true rfl, Nat.le_of_ble_eq_true rfl⟩ rfl rfl ⟨Nat.le_of_ble_eq_true rfl, Nat.le_of_ble_eq_true rfl⟩ rfl rfl (Nat.le_of_ble_eq_true rfl) dX3_pair_2 (fun r τ0 hc => ?_)
  obtain ⟨rfl, rfl⟩ := hc
  refine g_if_eqB (pc := 5) 21 C0 dX3_pair_5 (by decide) (fun h5 => ?_) (fun h5 => ?_)
  · refine g_ldc (pc := 21) (v := -1000000001) C0 q1187 dX3_pair_21 ?_
    exact g_iret (pc := 23) C0 dX3_pair_23 ⟨by simp [pPair, pPairOk, h5]; rfl, rfl⟩
  · obtain ⟨p1, rfl, p1h, p1b⟩ := ixB_t h5
    obtain ⟨g1, g2, g3, g4⟩ := hp.2.2 p1 p1h
    refine g_aload_n (pc := 8) 0 C0 rfl dX3_pair_8 rfl ?_
    refine g_iload_n (pc := 9) 2 C0 rfl dX3_pair_9 rfl ?_
    refine g_cvi (pc := 10) (na := 1) (As := [.int q]) (rest := []) C0 (mM_isPerson l D dT ad τ q (by omega)) (q0 := 0) (j := 0) (ci := 0) (C := RX3) (T := TX3) (N := 44) rfl rfl rfl q1204 q1206 qs45 q60 q1207 (by decide +kernel) ⟨Nat.le_of_ble_eq_true rfl, Nat.le_of_ble_eq_true rfl⟩ rfl rfl ⟨Nat.le_of_ble_eq_true rfl, Nat.le_of_ble_eq_true rfl⟩ rfl rfl (Nat.le_of_ble_eq_true rfl) dX3_pair_10 (fun r τ0 hc => ?_)
    obtain ⟨rfl, rfl⟩ := hc
    refine g_if_eqB (pc := 13) 21 C0 dX3_pair_13 (by decide) (fun h13 => ?_) (fun h13 => ?_)
    · refine g_ldc (pc := 21) (v := -1000000001) C0 q1187 dX3_pair_21 ?_
      exact g_iret (pc := 23) C0 dX3_pair_23 ⟨by simp [pPair, pPairOk, h5, nI_clamp p1b, h13]; rfl, rfl⟩
    · obtain ⟨q1, rfl, q1h, q1b⟩ := ixB_t h13
      obtain ⟨g5, g6, g7, g8⟩ := hp.2.2 q1 q1h
      refine g_iload_n (pc := 16) 1 C0 rfl dX3_pair_16 rfl ?_
      refine g_iload_n (pc := 17) 2 C0 rfl dX3_pair_17 rfl ?_
      refine g_icmp_neN (pc := 18) 24 C0 (by omega) (by omega) dX3_pair_18 (by decide) (fun h18 => ?_) (fun h18 => ?_)
      · have hne : ¬ nI p1 = nI q1 := fun z => h18 ((nI_eq p1b q1b).mp z)
        refine g_iload_n (pc := 24) 3 C0 rfl dX3_pair_24 rfl ?_
        refine g_i2l (pc := 25) (v := w.toInt64) C0 dX3_pair_25 rfl ?_
        refine g_lconst (pc := 26) (v := lN 0) C0 dX3_pair_26 (by decide) ?_
        refine g_lconst (pc := 27) (v := lN 1) C0 dX3_pair_27 (by decide) ?_
        refine g_csi (pc := 28) (na := 3) (As := [.long w.toInt64, .long (lN 0), .long (lN 1)]) (rest := []) C0 (mM_in l w.toInt64 (lN 0) (lN 1) ) q1107 q1108 q60 q1109 (by decide +kernel) ⟨Nat.le_of_ble_eq_true rfl, Nat.le_of_ble_eq_true rfl⟩ rfl rfl ⟨Nat.le_of_ble_eq_true rfl, Nat.le_of_ble_eq_true rfl⟩ rfl rfl (Nat.le_of_ble_eq_true rfl) dX3_pair_28 ?_
        refine g_if_neB (pc := 31) 37 C0 dX3_pair_31 (by decide) (fun h31 => ?_) (fun h31 => ?_)
        · rw [inB_rg w (lo := 0) (hi := 1) (by decide) (by decide)] at h31
          refine g_iload_n (pc := 37) 3 C0 rfl dX3_pair_37 rfl ?_
          refine g_if_neX (pc := 38) 53 C0 dX3_pair_38 (by decide) (fun h38 => ?_) (fun h38 => ?_)
          · obtain ⟨c1, c2⟩ := lcm_le g2 g3 g6 g7
            refine g_iconst (pc := 53) (v := (nI 1)) C0 dX3_pair_53 (by decide) ?_
            refine g_istore (pc := 54) 4 C0 (L1 := [some (.ref (ad 0)), some (.int (nI p1)), some (.int (nI q1)), some (.int w), some (.int (nI 1))]) rfl (by decide) dX3_pair_54 rfl ?_
            refine G.wh (pc := 56) (ws := fun _ => mW dT ad τ) (Lf := fun x : Nat => [some (.ref (ad 0)), some (.int (nI p1)), some (.int (nI q1)), some (.int w), some (.int (nI x))]) (fun x => 577 - x) (fun x => 1 ≤ x ∧ x ≤ Nat.lcm (τ 10 p1) (τ 10 q1)) 1 ⟨Nat.le_refl _, c1⟩ ?_
            intro n hI56 ih56
            obtain ⟨j1, j2⟩ := hI56
            have j3 : n < 2 ^ 31 := by omega
            refine g_iload (pc := 56) 4 C0 rfl dX3_pair_56 ?_
            refine g_aload_n (pc := 58) 0 C0 rfl dX3_pair_58 rfl ?_
            refine m_get (pc := 59) (v := .ref (ad 10)) C0 10 (by decide) q979 rfl dX3_pair_59 ?_
            refine g_iload_n (pc := 62) 1 C0 rfl dX3_pair_62 rfl ?_
            refine g_iald (pc := 63) (q0 := 8) (t0 := 0) C0 p1 rfl (fun _ => rfl) rfl (by decide) (by omega) dX3_pair_63 ?_
            refine g_iremN (pc := 64) C0 (by omega) (by omega) (by omega) dX3_pair_64 ?_
            refine g_if_neN (pc := 65) 80 C0 (Nat.lt_of_le_of_lt (Nat.mod_le _ _) j3) dX3_pair_65 (by decide) (fun h65 => ?_) (fun h65 => ?_)
            · refine g_iinc1 (pc := 80) 4 C0 (L1 := [some (.ref (ad 0)), some (.int (nI p1)), some (.int (nI q1)), some (.int w), some (.int (nI (n + 1)))]) rfl rfl (by decide) dX3_pair_80 rfl ?_
              refine g_goto (pc := 83) 56 C0 dX3_pair_83 (by decide) ?_
              exact ih56 _ ⟨by omega, lcm_step g2 g6 j1 j2 (by omega)⟩ (by show _ < _; omega)
            · refine g_iload (pc := 68) 4 C0 rfl dX3_pair_68 ?_
              refine g_aload_n (pc := 70) 0 C0 rfl dX3_pair_70 rfl ?_
              refine m_get (pc := 71) (v := .ref (ad 10)) C0 10 (by decide) q979 rfl dX3_pair_71 ?_
              refine g_iload_n (pc := 74) 2 C0 rfl dX3_pair_74 rfl ?_
              refine g_iald (pc := 75) (q0 := 8) (t0 := 0) C0 q1 rfl (fun _ => rfl) rfl (by decide) (by omega) dX3_pair_75 ?_
              refine g_iremN (pc := 76) C0 (by omega) (by omega) (by omega) dX3_pair_76 ?_
              refine g_if_eqN (pc := 77) 86 C0 (Nat.lt_of_le_of_lt (Nat.mod_le _ _) j3) dX3_pair_77 (by decide) (fun h77 => ?_) (fun h77 => ?_)
              · refine g_iload (pc := 86) 4 C0 rfl dX3_pair_86 ?_
                exact g_iret (pc := 88) C0 dX3_pair_88 ⟨by rw [pPair, pPairOk, h5, h13, decide_eq_false hne, h31]; simp [nI_clamp p1b, nI_clamp q1b, h38]; rw [← lcm_end j1 j2 h65 h77], rfl⟩
              · refine g_iinc1 (pc := 80) 4 C0 (L1 := [some (.ref (ad 0)), some (.int (nI p1)), some (.int (nI q1)), some (.int w), some (.int (nI (n + 1)))]) rfl rfl (by decide) dX3_pair_80 rfl ?_
                refine g_goto (pc := 83) 56 C0 dX3_pair_83 (by decide) ?_
                exact ih56 _ ⟨by omega, lcm_step g2 g6 j1 j2 (by omega)⟩ (by show _ < _; omega)
          · refine g_aload_n (pc := 41) 0 C0 rfl dX3_pair_41 rfl ?_
            refine g_iload_n (pc := 42) 1 C0 rfl dX3_pair_42 rfl ?_
            refine g_cvi (pc := 43) (na := 1) (As := [.int (nI p1)]) (rest := []) C0 (mM_reachOfPerson l D dT ad τ p1 hw hp (by omega)) (q0 := 0) (j := 0) (ci := 0) (C := RX3) (T := TX3) (N := 44) rfl rfl rfl q1208 q1210 qs46 q60 q1211 (by decide +kernel) ⟨Nat.le_of_ble_eq_true rfl, Nat.le_of_ble_eq_true rfl⟩ rfl rfl ⟨Nat.le_of_ble_eq_true rfl, Nat.le_of_ble_eq_true rfl⟩ rfl rfl (Nat.le_of_ble_eq_true rfl) dX3_pair_43 (fun r τ0 hc => ?_)
            obtain ⟨rfl, rfl⟩ := hc
            refine g_aload_n (pc := 46) 0 C0 rfl dX3_pair_46 rfl ?_
            refine g_iload_n (pc := 47) 2 C0 rfl dX3_pair_47 rfl ?_
            refine g_cvi (pc := 48) (na := 1) (As := [.int (nI q1)]) (rest := [.int (nI (reachP τ p1))]) C0 (mM_reachOfPerson l D dT ad τ q1 hw hp (by omega)) (q0 := 0) (j := 0) (ci := 0) (C := RX3) (T := TX3) (N := 44) rfl rfl rfl q1208 q1210 qs46 q60 q1211 (by decide +kernel) ⟨Nat.le_of_ble_eq_true rfl, Nat.le_of_ble_eq_true rfl⟩ rfl rfl ⟨Nat.le_of_ble_eq_true rfl, Nat.le_of_ble_eq_true rfl⟩ rfl rfl (Nat.le_of_ble_eq_true rfl) dX3_pair_48 (fun r τ0 hc => ?_)
            obtain ⟨rfl, rfl⟩ := hc
            refine g_iandN (pc := 51) C0  dX3_pair_51 ?_
            exact g_iret (pc := 52) C0 dX3_pair_52 ⟨by rw [pPair, pPairOk, h5, h13, decide_eq_false hne, h31]; simp [nI_clamp p1b, nI_clamp q1b, h38], rfl⟩
        · rw [inB_rg w (lo := 0) (hi := 1) (by decide) (by decide)] at h31
          refine g_ldc (pc := 34) (v := -1000000002) C0 q1110 dX3_pair_34 ?_
          exact g_iret (pc := 36) C0 dX3_pair_36 ⟨by rw [pPair, pPairOk, h5, h13, decide_eq_false hne, h31]; rfl, rfl⟩
      · refine g_ldc (pc := 21) (v := -1000000001) C0 q1187 dX3_pair_21 ?_
        exact g_iret (pc := 23) C0 dX3_pair_23 ⟨by rw [pPair, pPairOk, h5, h13, h18]; simp; rfl, rfl⟩
set_option maxHeartbeats 4000000 in
set_option maxRecDepth 100000 in
theorem mM_isCarried (l : Launch) (D : va_G) (dT : Nat → ClassId) (ad : Nat → Nat) (τ : tT) (q : Nat) (set : Nat) (r : Nat) (fr : Nat) (hw : wfT τ) (hp : wfP τ) (hq : q < τ 0 8) (hset : set < 2 ^ 31) (hr : r < τ 0 1) (hf : fr < 8) (hR : ∀ x, x < τ 0 8 → τ 33 x < 256) : MI l D dT ad yX3_isCarried cX3_isCarried 8 .boolean ({ frames := 2, cells := 0, slots := 0, locals := 47 }) [.int (nI q), .int (nI set), .int (nI r), .int (nI fr)] τ (fun rr τ' => rr = (nI (bN (sCar τ (τ 33) q set r fr))) ∧ τ = τ') := by
  refine CI.ofG (own := "FittingStridesModel") (L := [some (.ref (ad 0)), some (.int (nI q)), some (.int (nI set)), some (.int (nI r)), some (.int (nI fr)), none, none, none]) rfl (by decide) (Nat.le_of_ble_eq_true rfl) rfl ?_
  intro p' e' s' m' bl' mt' c' C0
  have hw1 := hw.1
  have hw0 := hw.2.1
  have hp0 := hp.1
  have hp1 := hp.2.1
  obtain ⟨k1, k2, k3, k4, k5, k6, k7⟩ := hw.2.2 r hr
  refine G.join (pcJ := 16) (wsJ := mW dT ad τ) (LJ := [some (.ref (ad 0)), some (.int (nI q)), some (.int (nI set)), some (.int (nI r)), some (.int (nI fr)), none, none, none]) (stJ := []) (nI (bN (decide (fr = τ 3 r)))) ?_ (fun J16 => ?_)
  · refine g_istore (pc := 16) 5 C0 (L1 := [some (.ref (ad 0)), some (.int (nI q)), some (.int (nI set)), some (.int (nI r)), some (.int (nI fr)), some (.int (nI (bN (decide (fr = τ 3 r))))), none, none]) rfl (by decide) dX3_isCarried_16 rfl ?_
    refine G.join (pcJ := 45) (wsJ := mW dT ad τ) (LJ := [some (.ref (ad 0)), some (.int (nI q)), some (.int (nI set)), some (.int (nI r)), some (.int (nI fr)), some (.int (nI (bN (decide (fr = τ 3 r))))), none, none]) (stJ := []) (nI (bN (frS τ q r fr))) ?_ (fun J45 => ?_)
    · refine g_istore (pc := 45) 6 C0 (L1 := [some (.ref (ad 0)), some (.int (nI q)), some (.int (nI set)), some (.int (nI r)), some (.int (nI fr)), some (.int (nI (bN (decide (fr = τ 3 r))))), some (.int (nI (bN (frS τ q r fr)))), none]) rfl (by decide) dX3_isCarried_45 rfl ?_
      refine g_iconst (pc := 47) (v := (nI 0)) C0 dX3_isCarried_47 (by decide) ?_
      refine g_istore (pc := 48) 7 C0 (L1 := [some (.ref (ad 0)), some (.int (nI q)), some (.int (nI set)), some (.int (nI r)), some (.int (nI fr)), some (.int (nI (bN (decide (fr = τ 3 r))))), some (.int (nI (bN (frS τ q r fr)))), some (.int (nI 0))]) rfl (by decide) dX3_isCarried_48 rfl ?_
      refine G.lE (L' := [some (.ref (ad 0)), some (.int (nI q)), some (.int (nI set)), some (.int (nI r)), some (.int (nI fr)), some (.int (nI (bN (decide (fr = τ 3 r))))), some (.int (nI (bN (frS τ q r fr || anyB (carQ τ (τ 33) set r fr) 0)))), some (.int (nI 0))]) (by simp [anyB]) ?_
      refine G.loop (pc := 50) (ws := fun i => mW dT ad τ) (Lf := fun i => [some (.ref (ad 0)), some (.int (nI q)), some (.int (nI set)), some (.int (nI r)), some (.int (nI fr)), some (.int (nI (bN (decide (fr = τ 3 r))))), some (.int (nI (bN (frS τ q r fr || anyB (carQ τ (τ 33) set r fr) i)))), some (.int (nI i))]) (N := τ 0 8) (i0 := 0) (Nat.zero_le _) ?_ (fun i50 hi50 hj50 ih50 => ?_)
      · refine g_iload (pc := 50) 7 C0 rfl dX3_isCarried_50 ?_
        refine g_aload_n (pc := 52) 0 C0 rfl dX3_isCarried_52 rfl ?_
        refine m_get (pc := 53) (v := .int (nI (τ 0 8))) C0 8 (by decide) q977 rfl dX3_isCarried_53 ?_
        refine g_icmp_geN (pc := 56) 124 C0 (by omega) (by omega) dX3_isCarried_56 (by decide) (fun h56 => ?_) (fun h56 => ?_)
        rotate_left
        · exact absurd h56 (by omega)
        refine g_iload (pc := 124) 6 C0 rfl dX3_isCarried_124 ?_
        exact g_zret (pc := 126) C0 dX3_isCarried_126 (nar_bN _) ⟨rfl, rfl⟩
      · have hRi := hR i50 hi50
        refine g_iload (pc := 50) 7 C0 rfl dX3_isCarried_50 ?_
        refine g_aload_n (pc := 52) 0 C0 rfl dX3_isCarried_52 rfl ?_
        refine m_get (pc := 53) (v := .int (nI (τ 0 8))) C0 8 (by decide) q977 rfl dX3_isCarried_53 ?_
        refine g_icmp_geN (pc := 56) 124 C0 (by omega) (by omega) dX3_isCarried_56 (by decide) (fun h56 => ?_) (fun h56 => ?_)
        · exact absurd h56 (by omega)
        refine G.join (pcJ := 116) (wsJ := mW dT ad τ) (LJ := [some (.ref (ad 0)), some (.int (nI q)), some (.int (nI set)), some (.int (nI r)), some (.int (nI fr)), some (.int (nI (bN (decide (fr = τ 3 r))))), some (.int (nI (bN (frS τ q r fr || anyB (carQ τ (τ 33) set r fr) i50)))), some (.int (nI i50))]) (stJ := []) (nI (bN (frS τ q r fr || anyB (carQ τ (τ 33) set r fr) (i50 + 1)))) ?_ (fun J116 => ?_)
        · refine g_istore (pc := 116) 6 C0 (L1 := [some (.ref (ad 0)), some (.int (nI q)), some (.int (nI set)), some (.int (nI r)), some (.int (nI fr)), some (.int (nI (bN (decide (fr = τ 3 r))))), some (.int (nI (bN (frS τ q r fr || anyB (carQ τ (τ 33) set r fr) (i50 + 1))))), some (.int (nI i50))]) rfl (by decide) dX3_isCarried_116 rfl ?_
          refine g_iinc1 (pc := 118) 7 C0 (L1 := [some (.ref (ad 0)), some (.int (nI q)), some (.int (nI set)), some (.int (nI r)), some (.int (nI fr)), some (.int (nI (bN (decide (fr = τ 3 r))))), some (.int (nI (bN (frS τ q r fr || anyB (carQ τ (τ 33) set r fr) (i50 + 1))))), some (.int (nI (i50 + 1)))]) rfl rfl (by decide) dX3_isCarried_118 rfl ?_
          refine g_goto (pc := 121) 50 C0 dX3_isCarried_121 (by decide) ?_
          exact ih50
        · refine g_iload (pc := 59) 6 C0 rfl dX3_isCarried_59 ?_
          refine g_if_neB (pc := 61) 111 C0 dX3_isCarried_61 (by decide) (fun h61 => ?_) (fun h61 => ?_)
          · refine g_iconst (pc := 111) (v := (nI 1)) C0 dX3_isCarried_111 (by decide) ?_
            refine g_goto (pc := 112) 116 C0 dX3_isCarried_112 (by decide) ?_
            exact J116 (nI 1) (bret1 (by rw [anyB_s, ← Bool.or_assoc, h61]; first | done | (simp [carQ, frS, h61] <;> omega)))
          · refine g_iload_n (pc := 64) 2 C0 rfl dX3_isCarried_64 rfl ?_
            refine g_iload (pc := 65) 7 C0 rfl dX3_isCarried_65 ?_
            refine g_csi (pc := 67) (na := 2) (As := [.int (nI set), .int (nI i50)]) (rest := []) C0 (mM_has l set i50 (by omega) (by omega)) q1216 q1217 q60 q1218 (by decide +kernel) ⟨Nat.le_of_ble_eq_true rfl, Nat.le_of_ble_eq_true rfl⟩ rfl rfl ⟨Nat.le_of_ble_eq_true rfl, Nat.le_of_ble_eq_true rfl⟩ rfl rfl (Nat.le_of_ble_eq_true rfl) dX3_isCarried_67 ?_
            refine g_if_eqB (pc := 70) 115 C0 dX3_isCarried_70 (by decide) (fun h70 => ?_) (fun h70 => ?_)
            · refine g_iconst (pc := 115) (v := (nI 0)) C0 dX3_isCarried_115 (by decide) ?_
              exact J116 (nI 0) (bret0 (by rw [anyB_s, ← Bool.or_assoc, h61]; first | done | (simp [carQ, frS, h61, h70] <;> omega)))
            · refine g_aload_n (pc := 73) 0 C0 rfl dX3_isCarried_73 rfl ?_
              refine m_get (pc := 74) (v := .ref (ad 33)) C0 33 (by decide) q1002 rfl dX3_isCarried_74 ?_
              refine g_iload (pc := 77) 7 C0 rfl dX3_isCarried_77 ?_
              refine g_iald (pc := 79) (q0 := 19) (t0 := 0) C0 i50 rfl (fun _ => rfl) rfl (by decide) (by omega) dX3_isCarried_79 ?_
              refine g_iload (pc := 80) 4 C0 rfl dX3_isCarried_80 ?_
              refine g_csi (pc := 82) (na := 2) (As := [.int (nI (τ 33 i50)), .int (nI fr)]) (rest := []) C0 (mM_has l (τ 33 i50) fr (by omega) (by omega)) q1216 q1217 q60 q1218 (by decide +kernel) ⟨Nat.le_of_ble_eq_true rfl, Nat.le_of_ble_eq_true rfl⟩ rfl rfl ⟨Nat.le_of_ble_eq_true rfl, Nat.le_of_ble_eq_true rfl⟩ rfl rfl (Nat.le_of_ble_eq_true rfl) dX3_isCarried_82 ?_
              refine g_if_eqB (pc := 85) 115 C0 dX3_isCarried_85 (by decide) (fun h85 => ?_) (fun h85 => ?_)
              · refine g_iconst (pc := 115) (v := (nI 0)) C0 dX3_isCarried_115 (by decide) ?_
                exact J116 (nI 0) (bret0 (by rw [anyB_s, ← Bool.or_assoc, h61]; first | done | (simp [carQ, frS, h61, h70, h85] <;> omega)))
              · refine g_aload_n (pc := 88) 0 C0 rfl dX3_isCarried_88 rfl ?_
                refine g_iload (pc := 89) 7 C0 rfl dX3_isCarried_89 ?_
                refine g_iload_n (pc := 91) 3 C0 rfl dX3_isCarried_91 rfl ?_
                refine g_cvi (pc := 92) (na := 2) (As := [.int (nI i50), .int (nI r)]) (rest := []) C0 (mM_mayClimb l D dT ad τ i50 r hw hp (by omega) (by omega)) (q0 := 0) (j := 0) (ci := 0) (C := RX3) (T := TX3) (N := 44) rfl rfl rfl q1192 q1194 qs43 q60 q1195 (by decide +kernel) ⟨Nat.le_of_ble_eq_true rfl, Nat.le_of_ble_eq_true rfl⟩ rfl rfl ⟨Nat.le_of_ble_eq_true rfl, Nat.le_of_ble_eq_true rfl⟩ rfl rfl (Nat.le_of_ble_eq_true rfl) dX3_isCarried_92 (fun r τ0 hc => ?_)
                obtain ⟨rfl, rfl⟩ := hc
                refine g_if_neB (pc := 95) 111 C0 dX3_isCarried_95 (by decide) (fun h95 => ?_) (fun h95 => ?_)
                · refine g_iconst (pc := 111) (v := (nI 1)) C0 dX3_isCarried_111 (by decide) ?_
                  refine g_goto (pc := 112) 116 C0 dX3_isCarried_112 (by decide) ?_
                  exact J116 (nI 1) (bret1 (by rw [anyB_s, ← Bool.or_assoc, h61]; first | done | (simp [carQ, frS, h61, h70, h85, h95] <;> omega)))
                · refine g_iload (pc := 98) 5 C0 rfl dX3_isCarried_98 ?_
                  refine g_if_neB (pc := 100) 115 C0 dX3_isCarried_100 (by decide) (fun h100 => ?_) (fun h100 => ?_)
                  · refine g_iconst (pc := 115) (v := (nI 0)) C0 dX3_isCarried_115 (by decide) ?_
                    exact J116 (nI 0) (bret0 (by rw [anyB_s, ← Bool.or_assoc, h61]; first | done | (simp [carQ, frS, h61, h70, h85, h95, h100] <;> omega)))
                  · refine g_aload_n (pc := 103) 0 C0 rfl dX3_isCarried_103 rfl ?_
                    refine m_get (pc := 104) (v := .int (nI (τ 0 12))) C0 12 (by decide) q981 rfl dX3_isCarried_104 ?_
                    refine g_iconst (pc := 107) (v := (nI 1)) C0 dX3_isCarried_107 (by decide) ?_
                    refine g_icmp_neN (pc := 108) 115 C0 (by omega) (by decide) dX3_isCarried_108 (by decide) (fun h108 => ?_) (fun h108 => ?_)
                    · refine g_iconst (pc := 115) (v := (nI 0)) C0 dX3_isCarried_115 (by decide) ?_
                      exact J116 (nI 0) (bret0 (by rw [anyB_s, ← Bool.or_assoc, h61]; first | done | (simp [carQ, frS, h61, h70, h85, h95, h100, h108] <;> omega)))
                    · refine g_iconst (pc := 111) (v := (nI 1)) C0 dX3_isCarried_111 (by decide) ?_
                      refine g_goto (pc := 112) 116 C0 dX3_isCarried_112 (by decide) ?_
                      exact J116 (nI 1) (bret1 (by rw [anyB_s, ← Bool.or_assoc, h61]; first | done | (simp [carQ, frS, h61, h70, h85, h95, h100, h108] <;> omega)))
    · refine g_aload_n (pc := 18) 0 C0 rfl dX3_isCarried_18 rfl ?_
      refine g_iload_n (pc := 19) 1 C0 rfl dX3_isCarried_19 rfl ?_
      refine g_iload_n (pc := 20) 3 C0 rfl dX3_isCarried_20 rfl ?_
      refine g_cvi (pc := 21) (na := 2) (As := [.int (nI q), .int (nI r)]) (rest := []) C0 (mM_mayClimb l D dT ad τ q r hw hp (by omega) (by omega)) (q0 := 0) (j := 0) (ci := 0) (C := RX3) (T := TX3) (N := 44) rfl rfl rfl q1192 q1194 qs43 q60 q1195 (by decide +kernel) ⟨Nat.le_of_ble_eq_true rfl, Nat.le_of_ble_eq_true rfl⟩ rfl rfl ⟨Nat.le_of_ble_eq_true rfl, Nat.le_of_ble_eq_true rfl⟩ rfl rfl (Nat.le_of_ble_eq_true rfl) dX3_isCarried_21 (fun r τ0 hc => ?_)
      obtain ⟨rfl, rfl⟩ := hc
      refine g_if_neB (pc := 24) 40 C0 dX3_isCarried_24 (by decide) (fun h24 => ?_) (fun h24 => ?_)
      · refine g_iconst (pc := 40) (v := (nI 1)) C0 dX3_isCarried_40 (by decide) ?_
        refine g_goto (pc := 41) 45 C0 dX3_isCarried_41 (by decide) ?_
        exact J45 (nI 1) (bret1 (by simp [frS, h24] <;> omega))
      · refine g_iload (pc := 27) 5 C0 rfl dX3_isCarried_27 ?_
        refine g_if_neB (pc := 29) 44 C0 dX3_isCarried_29 (by decide) (fun h29 => ?_) (fun h29 => ?_)
        · refine g_iconst (pc := 44) (v := (nI 0)) C0 dX3_isCarried_44 (by decide) ?_
          exact J45 (nI 0) (bret0 (by simp [frS, h24, h29] <;> omega))
        · refine g_aload_n (pc := 32) 0 C0 rfl dX3_isCarried_32 rfl ?_
          refine m_get (pc := 33) (v := .int (nI (τ 0 12))) C0 12 (by decide) q981 rfl dX3_isCarried_33 ?_
          refine g_iconst (pc := 36) (v := (nI 1)) C0 dX3_isCarried_36 (by decide) ?_
          refine g_icmp_neN (pc := 37) 44 C0 (by omega) (by decide) dX3_isCarried_37 (by decide) (fun h37 => ?_) (fun h37 => ?_)
          · refine g_iconst (pc := 44) (v := (nI 0)) C0 dX3_isCarried_44 (by decide) ?_
            exact J45 (nI 0) (bret0 (by simp [frS, h24, h29, h37] <;> omega))
          · refine g_iconst (pc := 40) (v := (nI 1)) C0 dX3_isCarried_40 (by decide) ?_
            refine g_goto (pc := 41) 45 C0 dX3_isCarried_41 (by decide) ?_
            exact J45 (nI 1) (bret1 (by simp [frS, h24, h29, h37] <;> omega))
  · refine g_iload (pc := 0) 4 C0 rfl dX3_isCarried_0 ?_
    refine g_aload_n (pc := 2) 0 C0 rfl dX3_isCarried_2 rfl ?_
    refine m_get (pc := 3) (v := .ref (ad 3)) C0 3 (by decide) q972 rfl dX3_isCarried_3 ?_
    refine g_iload_n (pc := 6) 3 C0 rfl dX3_isCarried_6 rfl ?_
    refine g_iald (pc := 7) (q0 := 2) (t0 := 0) C0 r rfl (fun _ => rfl) rfl (by decide) (by omega) dX3_isCarried_7 ?_
    refine g_icmp_neN (pc := 8) 15 C0 (by omega) (by omega) dX3_isCarried_8 (by decide) (fun h8 => ?_) (fun h8 => ?_)
    · refine g_iconst (pc := 15) (v := (nI 0)) C0 dX3_isCarried_15 (by decide) ?_
      exact J16 (nI 0) (bret0 (by simp [h8] <;> omega))
    · refine g_iconst (pc := 11) (v := (nI 1)) C0 dX3_isCarried_11 (by decide) ?_
      refine g_goto (pc := 12) 16 C0 dX3_isCarried_12 (by decide) ?_
      exact J16 (nI 1) (bret1 (by simp [h8] <;> omega))
set_option maxHeartbeats 4000000 in
set_option maxRecDepth 100000 in
theorem mM_comesBy (l : Launch) (D : va_G) (dT : Nat → ClassId) (ad : Nat → Nat) (τ : tT) (q : Nat) (set : Nat) (x : Nat) (hw : wfT τ) (hp : wfP τ) (hq : q < τ 0 8) (hset : set < 2 ^ 31) (hx : x < 8) (hR : ∀ z, z < τ 0 8 → τ 33 z < 256) : MI l D dT ad yX3_comesBy cX3_comesBy 7 .boolean ({ frames := 3, cells := 0, slots := 0, locals := 74 }) [.int (nI q), .int (nI set), .int (nI x)] τ (fun rr τ' => rr = (nI (bN (sCome τ (τ 33) q set x))) ∧ τ = τ') := by
  refine CI.ofG (own := "FittingStridesModel") (L := [some (.ref (ad 0)), some (.int (nI q)), some (.int (nI set)), some (.int (nI x)), none, none, none]) rfl (by decide) (Nat.le_of_ble_eq_true rfl) rfl ?_
  intro p' e' s' m' bl' mt' c' C0
  have hw1 := hw.1
  have hw0 := hw.2.1
  have hp0 := hp.1
  have hp1 := hp.2.1
  obtain ⟨g1, g2, g3, g4⟩ := hp.2.2 q hq
  have hpl : 2 ^ τ 9 q < 256 := show 2 ^ τ 9 q < 2 ^ 8 from Nat.pow_lt_pow_right (by decide) (by omega)
  refine g_iconst (pc := 0) (v := (nI 1)) C0 dX3_comesBy_0 (by decide) ?_
  refine g_aload_n (pc := 1) 0 C0 rfl dX3_comesBy_1 rfl ?_
  refine m_get (pc := 2) (v := .ref (ad 9)) C0 9 (by decide) q978 rfl dX3_comesBy_2 ?_
  refine g_iload_n (pc := 5) 1 C0 rfl dX3_comesBy_5 rfl ?_
  refine g_iald (pc := 6) (q0 := 7) (t0 := 0) C0 q rfl (fun _ => rfl) rfl (by decide) (by omega) dX3_comesBy_6 ?_
  refine g_ishl1N (pc := 7) C0 (by omega) dX3_comesBy_7 ?_
  refine g_istore (pc := 8) 4 C0 (L1 := [some (.ref (ad 0)), some (.int (nI q)), some (.int (nI set)), some (.int (nI x)), some (.int (nI (2 ^ (τ 9 q)))), none, none]) rfl (by decide) dX3_comesBy_8 rfl ?_
  refine g_iconst (pc := 10) (v := (nI 0)) C0 dX3_comesBy_10 (by decide) ?_
  refine g_istore (pc := 11) 5 C0 (L1 := [some (.ref (ad 0)), some (.int (nI q)), some (.int (nI set)), some (.int (nI x)), some (.int (nI (2 ^ (τ 9 q)))), some (.int (nI 0)), none]) rfl (by decide) dX3_comesBy_11 rfl ?_
  refine G.wh (pc := 13) (ws := fun _ => mW dT ad τ) (Lf := fun xx : Nat × Nat => [some (.ref (ad 0)), some (.int (nI q)), some (.int (nI set)), some (.int (nI x)), some (.int (nI xx.1)), some (.int (nI xx.2)), none]) fxM (fxI (fun got => cmP τ (τ 33) q set got (τ 0 1)) (comeS τ (τ 33) q set)) (2 ^ τ 9 q, 0) (fx_0 hpl (Nat.pos_iff_ne_zero.mp (Nat.two_pow_pos _))) ?_
  rintro ⟨set13, was13⟩ hI13 ih13
  have hs13 : set13 < 256 := hI13.1
  have hw13 : was13 < 256 := hI13.2.1
  refine G.lE (L' := [some (.ref (ad 0)), some (.int (nI q)), some (.int (nI set)), some (.int (nI x)), some (.int (nI set13)), some (.int (nI was13)), none]) rfl ?_
  refine g_iload (pc := 13) 5 C0 rfl dX3_comesBy_13 ?_
  refine g_iload (pc := 15) 4 C0 rfl dX3_comesBy_15 ?_
  refine g_icmp_eqN (pc := 17) 147 C0 (by omega) (by omega) dX3_comesBy_17 (by decide) (fun h17 => ?_) (fun h17 => ?_)
  · refine g_iload (pc := 147) 4 C0 rfl dX3_comesBy_147 ?_
    refine g_iload_n (pc := 149) 3 C0 rfl dX3_comesBy_149 rfl ?_
    refine g_csi (pc := 150) (na := 2) (As := [.int (nI set13), .int (nI x)]) (rest := []) C0 (mM_has l set13 x (by omega) (by omega)) q1216 q1217 q60 q1218 (by decide +kernel) ⟨Nat.le_of_ble_eq_true rfl, Nat.le_of_ble_eq_true rfl⟩ rfl rfl ⟨Nat.le_of_ble_eq_true rfl, Nat.le_of_ble_eq_true rfl⟩ rfl rfl (Nat.le_of_ble_eq_true rfl) dX3_comesBy_150 ?_
    exact g_zret (pc := 153) C0 dX3_comesBy_153 (nar_bN _) ⟨by rw [sCome, hI13.2.2.1 h17], rfl⟩
  · have fs13 := fx_s (P := (fun got => cmP τ (τ 33) q set got (τ 0 1))) (cm_hP hw (τ 33) q set) hI13 h17
    refine g_iload (pc := 20) 4 C0 rfl dX3_comesBy_20 ?_
    refine g_istore (pc := 22) 5 C0 (L1 := [some (.ref (ad 0)), some (.int (nI q)), some (.int (nI set)), some (.int (nI x)), some (.int (nI set13)), some (.int (nI set13)), none]) rfl (by decide) dX3_comesBy_22 rfl ?_
    refine g_iconst (pc := 24) (v := (nI 0)) C0 dX3_comesBy_24 (by decide) ?_
    refine g_istore (pc := 25) 6 C0 (L1 := [some (.ref (ad 0)), some (.int (nI q)), some (.int (nI set)), some (.int (nI x)), some (.int (nI set13)), some (.int (nI set13)), some (.int (nI 0))]) rfl (by decide) dX3_comesBy_25 rfl ?_
    refine G.loop (pc := 27) (ws := fun i => mW dT ad τ) (Lf := fun i => [some (.ref (ad 0)), some (.int (nI q)), some (.int (nI set)), some (.int (nI x)), some (.int (nI (cmP τ (τ 33) q set set13 i))), some (.int (nI set13)), some (.int (nI i))]) (N := τ 0 1) (i0 := 0) (Nat.zero_le _) ?_ (fun i27 hi27 hj27 ih27 => ?_)
    · refine g_iload (pc := 27) 6 C0 rfl dX3_comesBy_27 ?_
      refine g_aload_n (pc := 29) 0 C0 rfl dX3_comesBy_29 rfl ?_
      refine m_get (pc := 30) (v := .int (nI (τ 0 1))) C0 1 (by decide) q970 rfl dX3_comesBy_30 ?_
      refine g_icmp_geN (pc := 33) 144 C0 (by omega) (by omega) dX3_comesBy_33 (by decide) (fun h33 => ?_) (fun h33 => ?_)
      rotate_left
      · exact absurd h33 (by omega)
      refine g_goto (pc := 144) 13 C0 dX3_comesBy_144 (by decide) ?_
      refine G.forget 6 ?_
      exact ih13 ((fun got => cmP τ (τ 33) q set got (τ 0 1)) set13, set13) fs13.1 fs13.2
    · obtain ⟨k1, k2, k3, k4, k5, k6, k7⟩ := hw.2.2 i27 hi27
      have hb := (cmP_ok hw (τ 33) q set hs13 i27 (by omega)).2
      refine g_iload (pc := 27) 6 C0 rfl dX3_comesBy_27 ?_
      refine g_aload_n (pc := 29) 0 C0 rfl dX3_comesBy_29 rfl ?_
      refine m_get (pc := 30) (v := .int (nI (τ 0 1))) C0 1 (by decide) q970 rfl dX3_comesBy_30 ?_
      refine g_icmp_geN (pc := 33) 144 C0 (by omega) (by omega) dX3_comesBy_33 (by decide) (fun h33 => ?_) (fun h33 => ?_)
      · exact absurd h33 (by omega)
      refine g_iload (pc := 36) 4 C0 rfl dX3_comesBy_36 ?_
      refine G.join (pcJ := 84) (wsJ := mW dT ad τ) (LJ := [some (.ref (ad 0)), some (.int (nI q)), some (.int (nI set)), some (.int (nI x)), some (.int (nI (cmP τ (τ 33) q set set13 i27))), some (.int (nI set13)), some (.int (nI i27))]) (stJ := [.int (nI (cmP τ (τ 33) q set set13 i27))]) (nI (if ((cmP τ (τ 33) q set set13 i27).testBit (τ 3 i27) && sCar τ (τ 33) q set i27 (τ 3 i27)) = true then 2 ^ τ 4 i27 else 0)) ?_ (fun J84 => ?_)
      · refine g_iorN (pc := 84) C0  dX3_comesBy_84 ?_
        refine g_istore (pc := 85) 4 C0 (L1 := [some (.ref (ad 0)), some (.int (nI q)), some (.int (nI set)), some (.int (nI x)), some (.int (nI ((cmP τ (τ 33) q set set13 i27) ||| (if ((cmP τ (τ 33) q set set13 i27).testBit (τ 3 i27) && sCar τ (τ 33) q set i27 (τ 3 i27)) = true then 2 ^ τ 4 i27 else 0)))), some (.int (nI set13)), some (.int (nI i27))]) rfl (by decide) dX3_comesBy_85 rfl ?_
        obtain ⟨B1, eB1⟩ : ∃ z, z = ((cmP τ (τ 33) q set set13 i27) ||| (if ((cmP τ (τ 33) q set set13 i27).testBit (τ 3 i27) && sCar τ (τ 33) q set i27 (τ 3 i27)) = true then 2 ^ τ 4 i27 else 0)) := ⟨_, rfl⟩
        have hb2 : B1 < 2 ^ 8 := by rw [eB1]; exact Nat.or_lt_two_pow hb (ite_lt (Nat.pow_lt_pow_right (by decide) (by omega)) (by decide))
        refine G.lE (L' := [some (.ref (ad 0)), some (.int (nI q)), some (.int (nI set)), some (.int (nI x)), some (.int (nI B1)), some (.int (nI set13)), some (.int (nI i27))]) (by rw [eB1]) ?_
        refine g_iload (pc := 87) 4 C0 rfl dX3_comesBy_87 ?_
        refine G.join (pcJ := 135) (wsJ := mW dT ad τ) (LJ := [some (.ref (ad 0)), some (.int (nI q)), some (.int (nI set)), some (.int (nI x)), some (.int (nI B1)), some (.int (nI set13)), some (.int (nI i27))]) (stJ := [.int (nI B1)]) (nI (if (B1.testBit (τ 4 i27) && sCar τ (τ 33) q set i27 (τ 4 i27)) = true then 2 ^ τ 3 i27 else 0)) ?_ (fun J135 => ?_)
        · refine g_iorN (pc := 135) C0  dX3_comesBy_135 ?_
          refine g_istore (pc := 136) 4 C0 (L1 := [some (.ref (ad 0)), some (.int (nI q)), some (.int (nI set)), some (.int (nI x)), some (.int (nI (B1 ||| (if (B1.testBit (τ 4 i27) && sCar τ (τ 33) q set i27 (τ 4 i27)) = true then 2 ^ τ 3 i27 else 0)))), some (.int (nI set13)), some (.int (nI i27))]) rfl (by decide) dX3_comesBy_136 rfl ?_
          refine g_iinc1 (pc := 138) 6 C0 (L1 := [some (.ref (ad 0)), some (.int (nI q)), some (.int (nI set)), some (.int (nI x)), some (.int (nI (B1 ||| (if (B1.testBit (τ 4 i27) && sCar τ (τ 33) q set i27 (τ 4 i27)) = true then 2 ^ τ 3 i27 else 0)))), some (.int (nI set13)), some (.int (nI (i27 + 1)))]) rfl rfl (by decide) dX3_comesBy_138 rfl ?_
          refine g_goto (pc := 141) 27 C0 dX3_comesBy_141 (by decide) ?_
          subst eB1
          exact ih27
        · refine g_iload (pc := 89) 4 C0 rfl dX3_comesBy_89 ?_
          refine g_aload_n (pc := 91) 0 C0 rfl dX3_comesBy_91 rfl ?_
          refine m_get (pc := 92) (v := .ref (ad 4)) C0 4 (by decide) q973 rfl dX3_comesBy_92 ?_
          refine g_iload (pc := 95) 6 C0 rfl dX3_comesBy_95 ?_
          refine g_iald (pc := 97) (q0 := 3) (t0 := 0) C0 i27 rfl (fun _ => rfl) rfl (by decide) (by omega) dX3_comesBy_97 ?_
          refine g_csi (pc := 98) (na := 2) (As := [.int (nI B1), .int (nI (τ 4 i27))]) (rest := [.int (nI B1)]) C0 (mM_has l B1 (τ 4 i27) (by omega) (by omega)) q1216 q1217 q60 q1218 (by decide +kernel) ⟨Nat.le_of_ble_eq_true rfl, Nat.le_of_ble_eq_true rfl⟩ rfl rfl ⟨Nat.le_of_ble_eq_true rfl, Nat.le_of_ble_eq_true rfl⟩ rfl rfl (Nat.le_of_ble_eq_true rfl) dX3_comesBy_98 ?_
          refine g_if_eqB (pc := 101) 134 C0 dX3_comesBy_101 (by decide) (fun h101 => ?_) (fun h101 => ?_)
          · refine g_iconst (pc := 134) (v := (nI 0)) C0 dX3_comesBy_134 (by decide) ?_
            exact J135 (nI 0) (congrArg nI (by simp [h17, h101] <;> omega))
          · refine g_aload_n (pc := 104) 0 C0 rfl dX3_comesBy_104 rfl ?_
            refine g_iload_n (pc := 105) 1 C0 rfl dX3_comesBy_105 rfl ?_
            refine g_iload_n (pc := 106) 2 C0 rfl dX3_comesBy_106 rfl ?_
            refine g_iload (pc := 107) 6 C0 rfl dX3_comesBy_107 ?_
            refine g_aload_n (pc := 109) 0 C0 rfl dX3_comesBy_109 rfl ?_
            refine m_get (pc := 110) (v := .ref (ad 4)) C0 4 (by decide) q973 rfl dX3_comesBy_110 ?_
            refine g_iload (pc := 113) 6 C0 rfl dX3_comesBy_113 ?_
            refine g_iald (pc := 115) (q0 := 3) (t0 := 0) C0 i27 rfl (fun _ => rfl) rfl (by decide) (by omega) dX3_comesBy_115 ?_
            refine g_cvi (pc := 116) (na := 4) (As := [.int (nI q), .int (nI set), .int (nI i27), .int (nI (τ 4 i27))]) (rest := [.int (nI B1)]) C0 (mM_isCarried l D dT ad τ q set i27 (τ 4 i27) hw hp (by omega) (by omega) (by omega) (by omega) hR) (q0 := 0) (j := 0) (ci := 0) (C := RX3) (T := TX3) (N := 44) rfl rfl rfl q1299 q1301 qs55 q60 q1302 (by decide +kernel) ⟨Nat.le_of_ble_eq_true rfl, Nat.le_of_ble_eq_true rfl⟩ rfl rfl ⟨Nat.le_of_ble_eq_true rfl, Nat.le_of_ble_eq_true rfl⟩ rfl rfl (Nat.le_of_ble_eq_true rfl) dX3_comesBy_116 (fun r τ0 hc => ?_)
            obtain ⟨rfl, rfl⟩ := hc
            refine g_if_eqB (pc := 119) 134 C0 dX3_comesBy_119 (by decide) (fun h119 => ?_) (fun h119 => ?_)
            · refine g_iconst (pc := 134) (v := (nI 0)) C0 dX3_comesBy_134 (by decide) ?_
              exact J135 (nI 0) (congrArg nI (by simp [h17, h101, h119] <;> omega))
            · refine g_iconst (pc := 122) (v := (nI 1)) C0 dX3_comesBy_122 (by decide) ?_
              refine g_aload_n (pc := 123) 0 C0 rfl dX3_comesBy_123 rfl ?_
              refine m_get (pc := 124) (v := .ref (ad 3)) C0 3 (by decide) q972 rfl dX3_comesBy_124 ?_
              refine g_iload (pc := 127) 6 C0 rfl dX3_comesBy_127 ?_
              refine g_iald (pc := 129) (q0 := 2) (t0 := 0) C0 i27 rfl (fun _ => rfl) rfl (by decide) (by omega) dX3_comesBy_129 ?_
              refine g_ishl1N (pc := 130) C0 (by omega) dX3_comesBy_130 ?_
              refine g_goto (pc := 131) 135 C0 dX3_comesBy_131 (by decide) ?_
              exact J135 (nI (2 ^ (τ 3 i27))) (congrArg nI (by simp [h17, h101, h119] <;> omega))
      · refine g_iload (pc := 38) 4 C0 rfl dX3_comesBy_38 ?_
        refine g_aload_n (pc := 40) 0 C0 rfl dX3_comesBy_40 rfl ?_
        refine m_get (pc := 41) (v := .ref (ad 3)) C0 3 (by decide) q972 rfl dX3_comesBy_41 ?_
        refine g_iload (pc := 44) 6 C0 rfl dX3_comesBy_44 ?_
        refine g_iald (pc := 46) (q0 := 2) (t0 := 0) C0 i27 rfl (fun _ => rfl) rfl (by decide) (by omega) dX3_comesBy_46 ?_
        refine g_csi (pc := 47) (na := 2) (As := [.int (nI (cmP τ (τ 33) q set set13 i27)), .int (nI (τ 3 i27))]) (rest := [.int (nI (cmP τ (τ 33) q set set13 i27))]) C0 (mM_has l (cmP τ (τ 33) q set set13 i27) (τ 3 i27) (by omega) (by omega)) q1216 q1217 q60 q1218 (by decide +kernel) ⟨Nat.le_of_ble_eq_true rfl, Nat.le_of_ble_eq_true rfl⟩ rfl rfl ⟨Nat.le_of_ble_eq_true rfl, Nat.le_of_ble_eq_true rfl⟩ rfl rfl (Nat.le_of_ble_eq_true rfl) dX3_comesBy_47 ?_
        refine g_if_eqB (pc := 50) 83 C0 dX3_comesBy_50 (by decide) (fun h50 => ?_) (fun h50 => ?_)
        · refine g_iconst (pc := 83) (v := (nI 0)) C0 dX3_comesBy_83 (by decide) ?_
          exact J84 (nI 0) (congrArg nI (by simp [h17, h50] <;> omega))
        · refine g_aload_n (pc := 53) 0 C0 rfl dX3_comesBy_53 rfl ?_
          refine g_iload_n (pc := 54) 1 C0 rfl dX3_comesBy_54 rfl ?_
          refine g_iload_n (pc := 55) 2 C0 rfl dX3_comesBy_55 rfl ?_
          refine g_iload (pc := 56) 6 C0 rfl dX3_comesBy_56 ?_
          refine g_aload_n (pc := 58) 0 C0 rfl dX3_comesBy_58 rfl ?_
          refine m_get (pc := 59) (v := .ref (ad 3)) C0 3 (by decide) q972 rfl dX3_comesBy_59 ?_
          refine g_iload (pc := 62) 6 C0 rfl dX3_comesBy_62 ?_
          refine g_iald (pc := 64) (q0 := 2) (t0 := 0) C0 i27 rfl (fun _ => rfl) rfl (by decide) (by omega) dX3_comesBy_64 ?_
          refine g_cvi (pc := 65) (na := 4) (As := [.int (nI q), .int (nI set), .int (nI i27), .int (nI (τ 3 i27))]) (rest := [.int (nI (cmP τ (τ 33) q set set13 i27))]) C0 (mM_isCarried l D dT ad τ q set i27 (τ 3 i27) hw hp (by omega) (by omega) (by omega) (by omega) hR) (q0 := 0) (j := 0) (ci := 0) (C := RX3) (T := TX3) (N := 44) rfl rfl rfl q1299 q1301 qs55 q60 q1302 (by decide +kernel) ⟨Nat.le_of_ble_eq_true rfl, Nat.le_of_ble_eq_true rfl⟩ rfl rfl ⟨Nat.le_of_ble_eq_true rfl, Nat.le_of_ble_eq_true rfl⟩ rfl rfl (Nat.le_of_ble_eq_true rfl) dX3_comesBy_65 (fun r τ0 hc => ?_)
          obtain ⟨rfl, rfl⟩ := hc
          refine g_if_eqB (pc := 68) 83 C0 dX3_comesBy_68 (by decide) (fun h68 => ?_) (fun h68 => ?_)
          · refine g_iconst (pc := 83) (v := (nI 0)) C0 dX3_comesBy_83 (by decide) ?_
            exact J84 (nI 0) (congrArg nI (by simp [h17, h50, h68] <;> omega))
          · refine g_iconst (pc := 71) (v := (nI 1)) C0 dX3_comesBy_71 (by decide) ?_
            refine g_aload_n (pc := 72) 0 C0 rfl dX3_comesBy_72 rfl ?_
            refine m_get (pc := 73) (v := .ref (ad 4)) C0 4 (by decide) q973 rfl dX3_comesBy_73 ?_
            refine g_iload (pc := 76) 6 C0 rfl dX3_comesBy_76 ?_
            refine g_iald (pc := 78) (q0 := 3) (t0 := 0) C0 i27 rfl (fun _ => rfl) rfl (by decide) (by omega) dX3_comesBy_78 ?_
            refine g_ishl1N (pc := 79) C0 (by omega) dX3_comesBy_79 ?_
            refine g_goto (pc := 80) 84 C0 dX3_comesBy_80 (by decide) ?_
            exact J84 (nI (2 ^ (τ 4 i27))) (congrArg nI (by simp [h17, h50, h68] <;> omega))
set_option maxHeartbeats 4000000 in
set_option maxRecDepth 100000 in
theorem mM_carried (l : Launch) (D : va_G) (dT : Nat → ClassId) (ad : Nat → Nat) (τ : tT) (p : Int32) (x : Int32) (w : Int32) (hw : wfT τ) (hp : wfP τ) : MI l D dT ad yX3_carried cX3_carried 7 .int ({ frames := 4, cells := 0, slots := 0, locals := 100 }) [.int p, .int x, .int w] τ (fun rr τ' => rr = (pCarried τ p x w) ∧ (pCarriedT τ p x w) = τ') := by
  refine CI.ofG (own := "FittingStridesModel") (L := [some (.ref (ad 0)), some (.int p), some (.int x), some (.int w), none, none, none]) rfl (by decide) (Nat.le_of_ble_eq_true rfl) rfl ?_
  intro p' e' s' m' bl' mt' c' C0
  have hw1 := hw.1
  have hw0 := hw.2.1
  have hp0 := hp.1
  have hp1 := hp.2.1
  have hpw := pw_lt hp0
  have hpe := pw_le hp0
  refine g_aload_n (pc := 0) 0 C0 rfl dX3_carried_0 rfl ?_
  refine g_iload_n (pc := 1) 1 C0 rfl dX3_carried_1 rfl ?_
  refine g_cvi (pc := 2) (na := 1) (As := [.int p]) (rest := []) C0 (mM_isPerson l D dT ad τ p (by omega)) (q0 := 0) (j := 0) (ci := 0) (C := RX3) (T := TX3) (N := 44) rfl rfl rfl q1204 q1206 qs45 q60 q1207 (by decide +kernel) ⟨Nat.le_of_ble_eq_true rfl, Nat.le_of_ble_eq_true rfl⟩ rfl rfl ⟨Nat.le_of_ble_eq_true rfl, Nat.le_of_ble_eq_true rfl⟩ rfl rfl (Nat.le_of_ble_eq_true rfl) dX3_carried_2 (fun r τ0 hc => ?_)
  obtain ⟨rfl, rfl⟩ := hc
  refine g_if_eqB (pc := 5) 16 C0 dX3_carried_5 (by decide) (fun h5 => ?_) (fun h5 => ?_)
  · refine g_ldc (pc := 16) (v := -1000000001) C0 q1187 dX3_carried_16 ?_
    exact g_iret (pc := 18) C0 dX3_carried_18 ⟨by simp [pCarried, pCarOk, h5]; rfl, by simp [pCarriedT, pCarOk, h5]⟩
  · obtain ⟨p1, rfl, p1h, p1b⟩ := ixB_t h5
    refine g_aload_n (pc := 8) 0 C0 rfl dX3_carried_8 rfl ?_
    refine g_iload_n (pc := 9) 2 C0 rfl dX3_carried_9 rfl ?_
    refine g_cvi (pc := 10) (na := 1) (As := [.int x]) (rest := []) C0 (mM_isPlace l D dT ad τ x (by omega)) (q0 := 0) (j := 0) (ci := 0) (C := RX3) (T := TX3) (N := 44) rfl rfl rfl q1267 q1269 qs52 q60 q1270 (by decide +kernel) ⟨Nat.le_of_ble_eq_true rfl, Nat.le_of_ble_eq_true rfl⟩ rfl rfl ⟨Nat.le_of_ble_eq_true rfl, Nat.le_of_ble_eq_true rfl⟩ rfl rfl (Nat.le_of_ble_eq_true rfl) dX3_carried_10 (fun r τ0 hc => ?_)
    obtain ⟨rfl, rfl⟩ := hc
    refine g_if_neB (pc := 13) 19 C0 dX3_carried_13 (by decide) (fun h13 => ?_) (fun h13 => ?_)
    · obtain ⟨x1, rfl, x1h, x1b⟩ := ixB_t h13
      refine g_iload_n (pc := 19) 3 C0 rfl dX3_carried_19 rfl ?_
      refine g_i2l (pc := 20) (v := w.toInt64) C0 dX3_carried_20 rfl ?_
      refine g_lconst (pc := 21) (v := lN 0) C0 dX3_carried_21 (by decide) ?_
      refine g_lconst (pc := 22) (v := lN 1) C0 dX3_carried_22 (by decide) ?_
      refine g_csi (pc := 23) (na := 3) (As := [.long w.toInt64, .long (lN 0), .long (lN 1)]) (rest := []) C0 (mM_in l w.toInt64 (lN 0) (lN 1) ) q1107 q1108 q60 q1109 (by decide +kernel) ⟨Nat.le_of_ble_eq_true rfl, Nat.le_of_ble_eq_true rfl⟩ rfl rfl ⟨Nat.le_of_ble_eq_true rfl, Nat.le_of_ble_eq_true rfl⟩ rfl rfl (Nat.le_of_ble_eq_true rfl) dX3_carried_23 ?_
      refine g_if_neB (pc := 26) 32 C0 dX3_carried_26 (by decide) (fun h26 => ?_) (fun h26 => ?_)
      · rw [inB_rg w (lo := 0) (hi := 1) (by decide) (by decide)] at h26
        refine g_iconst (pc := 32) (v := (nI 0)) C0 dX3_carried_32 (by decide) ?_
        refine g_istore (pc := 33) 4 C0 (L1 := [some (.ref (ad 0)), some (.int (nI p1)), some (.int (nI x1)), some (.int w), some (.int (nI 0)), none, none]) rfl (by decide) dX3_carried_33 rfl ?_
        refine G.wsE (ws' := mW dT ad (rchAll τ 0)) (by rw [rchAll_0]) ?_
        refine G.loop (pc := 35) (ws := fun i => mW dT ad (rchAll τ i)) (Lf := fun i => [some (.ref (ad 0)), some (.int (nI p1)), some (.int (nI x1)), some (.int w), some (.int (nI i)), none, none]) (N := τ 0 8) (i0 := 0) (Nat.zero_le _) ?_ (fun i35 hi35 hj35 ih35 => ?_)
        · refine g_iload (pc := 35) 4 C0 rfl dX3_carried_35 ?_
          refine g_aload_n (pc := 37) 0 C0 rfl dX3_carried_37 rfl ?_
          refine m_get (pc := 38) (v := .int (nI (τ 0 8))) C0 8 (by decide) q977 rfl dX3_carried_38 ?_
          refine g_icmp_geN (pc := 41) 63 C0 (by omega) (by omega) dX3_carried_41 (by decide) (fun h41 => ?_) (fun h41 => ?_)
          rotate_left
          · exact absurd h41 (by omega)
          refine g_iconst (pc := 63) (v := (-1)) C0 dX3_carried_63 (by decide) ?_
          refine g_istore (pc := 64) 4 C0 (L1 := [some (.ref (ad 0)), some (.int (nI p1)), some (.int (nI x1)), some (.int w), some (.int (-1)), none, none]) rfl (by decide) dX3_carried_64 rfl ?_
          refine g_iconst (pc := 66) (v := (nI 0)) C0 dX3_carried_66 (by decide) ?_
          refine g_istore (pc := 67) 5 C0 (L1 := [some (.ref (ad 0)), some (.int (nI p1)), some (.int (nI x1)), some (.int w), some (.int (-1)), some (.int (nI 0)), none]) rfl (by decide) dX3_carried_67 rfl ?_
          refine G.loop (pc := 69) (ws := fun i => mW dT ad (rchAll τ (τ 0 8))) (Lf := fun i => [some (.ref (ad 0)), some (.int (nI p1)), some (.int (nI x1)), some (.int w), some (.int (oI (carB (rchAll τ (τ 0 8)) ((rchAll τ (τ 0 8)) 33) p1 x1 i))), some (.int (nI i)), none]) (N := 2 ^ τ 0 8) (i0 := 0) (Nat.zero_le _) ?_ (fun i69 hi69 hj69 ih69 => ?_)
          · refine g_iload (pc := 69) 5 C0 rfl dX3_carried_69 ?_
            refine g_iconst (pc := 71) (v := (nI 1)) C0 dX3_carried_71 (by decide) ?_
            refine g_aload_n (pc := 72) 0 C0 rfl dX3_carried_72 rfl ?_
            refine m_get (pc := 73) (v := .int (nI (τ 0 8))) C0 8 (by decide) q977 rfl dX3_carried_73 ?_
            refine g_ishl1N (pc := 76) C0 (by omega) dX3_carried_76 ?_
            refine g_icmp_geN (pc := 77) 145 C0 (by omega) (by omega) dX3_carried_77 (by decide) (fun h77 => ?_) (fun h77 => ?_)
            rotate_left
            · exact absurd h77 (by omega)
            refine g_iload (pc := 145) 4 C0 rfl dX3_carried_145 ?_
            refine g_if_lt (pc := 147) 155 C0 dX3_carried_147 (by decide) (fun h147 => ?_) (fun h147 => ?_)
            · refine g_iload (pc := 155) 4 C0 rfl dX3_carried_155 ?_
              refine g_goto (pc := 157) 165 C0 dX3_carried_157 (by decide) ?_
              exact g_iret (pc := 165) C0 dX3_carried_165 ⟨by rw [rchAll_carB] at h147; rw [pCarried, pCarOk, h5, h13, h26, nI_clamp p1b, nI_clamp x1b]; rw [rchAll_carB, show carA τ p1 x1 = none from oI_none (carB_lt2 hpe) h147]; simp [oI_none (carB_lt2 hpe) h147], by rw [pCarriedT, pCarOk, h5, h13, h26]; rfl⟩
            · obtain ⟨bb, hbb⟩ := oI_some h147
              have hb3 := carB_lt _ _ _ _ _ _ hbb
              refine G.lE (L' := [some (.ref (ad 0)), some (.int (nI p1)), some (.int (nI x1)), some (.int w), some (.int (nI bb)), some (.int (nI (2 ^ τ 0 8))), none]) (by rw [hbb]; rfl) ?_
              refine g_iload_n (pc := 150) 3 C0 rfl dX3_carried_150 rfl ?_
              refine g_iconst (pc := 151) (v := (nI 1)) C0 dX3_carried_151 (by decide) ?_
              refine g_icmp_ne (pc := 152) 160 C0 dX3_carried_152 (by decide) (fun h152 => ?_) (fun h152 => ?_)
              · refine g_iload (pc := 160) 4 C0 rfl dX3_carried_160 ?_
                refine g_csi (pc := 162) (na := 1) (As := [.int (nI bb)]) (rest := []) C0 (mM_bits l bb (by omega)) q1292 q1293 q60 q1294 (by decide +kernel) ⟨Nat.le_of_ble_eq_true rfl, Nat.le_of_ble_eq_true rfl⟩ rfl rfl ⟨Nat.le_of_ble_eq_true rfl, Nat.le_of_ble_eq_true rfl⟩ rfl rfl (Nat.le_of_ble_eq_true rfl) dX3_carried_162 ?_
                exact g_iret (pc := 165) C0 dX3_carried_165 ⟨by rw [rchAll_carB] at hbb; rw [pCarried, pCarOk, h5, h13, h26, nI_clamp p1b, nI_clamp x1b]; rw [show carA τ p1 x1 = some bb from hbb]; simp [h152, oI], by rw [pCarriedT, pCarOk, h5, h13, h26]; rfl⟩
              · refine g_iload (pc := 155) 4 C0 rfl dX3_carried_155 ?_
                refine g_goto (pc := 157) 165 C0 dX3_carried_157 (by decide) ?_
                exact g_iret (pc := 165) C0 dX3_carried_165 ⟨by rw [rchAll_carB] at hbb; rw [pCarried, pCarOk, h5, h13, h26, nI_clamp p1b, nI_clamp x1b]; rw [show carA τ p1 x1 = some bb from hbb]; simp [h152, oI], by rw [pCarriedT, pCarOk, h5, h13, h26]; rfl⟩
          · refine g_iload (pc := 69) 5 C0 rfl dX3_carried_69 ?_
            refine g_iconst (pc := 71) (v := (nI 1)) C0 dX3_carried_71 (by decide) ?_
            refine g_aload_n (pc := 72) 0 C0 rfl dX3_carried_72 rfl ?_
            refine m_get (pc := 73) (v := .int (nI (τ 0 8))) C0 8 (by decide) q977 rfl dX3_carried_73 ?_
            refine g_ishl1N (pc := 76) C0 (by omega) dX3_carried_76 ?_
            refine g_icmp_geN (pc := 77) 145 C0 (by omega) (by omega) dX3_carried_77 (by decide) (fun h77 => ?_) (fun h77 => ?_)
            · exact absurd h77 (by omega)
            refine G.join (pcJ := 112) (wsJ := mW dT ad (rchAll τ (τ 0 8))) (LJ := [some (.ref (ad 0)), some (.int (nI p1)), some (.int (nI x1)), some (.int w), some (.int (oI (carB (rchAll τ (τ 0 8)) ((rchAll τ (τ 0 8)) 33) p1 x1 i69))), some (.int (nI i69)), none]) (stJ := []) (nI (bN (!i69.testBit p1 && fewB i69 (carB (rchAll τ (τ 0 8)) ((rchAll τ (τ 0 8)) 33) p1 x1 i69)))) ?_ (fun J112 => ?_)
            · refine g_istore (pc := 112) 6 C0 (L1 := [some (.ref (ad 0)), some (.int (nI p1)), some (.int (nI x1)), some (.int w), some (.int (oI (carB (rchAll τ (τ 0 8)) ((rchAll τ (τ 0 8)) 33) p1 x1 i69))), some (.int (nI i69)), some (.int (nI (bN (!i69.testBit p1 && fewB i69 (carB (rchAll τ (τ 0 8)) ((rchAll τ (τ 0 8)) 33) p1 x1 i69)))))]) rfl (by decide) dX3_carried_112 rfl ?_
              refine G.join (pcJ := 137) (wsJ := mW dT ad (rchAll τ (τ 0 8))) (LJ := [some (.ref (ad 0)), some (.int (nI p1)), some (.int (nI x1)), some (.int w), some (.int (oI (carB (rchAll τ (τ 0 8)) ((rchAll τ (τ 0 8)) 33) p1 x1 i69))), some (.int (nI i69)), some (.int (nI (bN (!i69.testBit p1 && fewB i69 (carB (rchAll τ (τ 0 8)) ((rchAll τ (τ 0 8)) 33) p1 x1 i69)))))]) (stJ := []) (oI (carB (rchAll τ (τ 0 8)) ((rchAll τ (τ 0 8)) 33) p1 x1 (i69 + 1))) ?_ (fun J137 => ?_)
              · refine g_istore (pc := 137) 4 C0 (L1 := [some (.ref (ad 0)), some (.int (nI p1)), some (.int (nI x1)), some (.int w), some (.int (oI (carB (rchAll τ (τ 0 8)) ((rchAll τ (τ 0 8)) 33) p1 x1 (i69 + 1)))), some (.int (nI i69)), some (.int (nI (bN (!i69.testBit p1 && fewB i69 (carB (rchAll τ (τ 0 8)) ((rchAll τ (τ 0 8)) 33) p1 x1 i69)))))]) rfl (by decide) dX3_carried_137 rfl ?_
                refine g_iinc1 (pc := 139) 5 C0 (L1 := [some (.ref (ad 0)), some (.int (nI p1)), some (.int (nI x1)), some (.int w), some (.int (oI (carB (rchAll τ (τ 0 8)) ((rchAll τ (τ 0 8)) 33) p1 x1 (i69 + 1)))), some (.int (nI (i69 + 1))), some (.int (nI (bN (!i69.testBit p1 && fewB i69 (carB (rchAll τ (τ 0 8)) ((rchAll τ (τ 0 8)) 33) p1 x1 i69)))))]) rfl rfl (by decide) dX3_carried_139 rfl ?_
                refine g_goto (pc := 142) 69 C0 dX3_carried_142 (by decide) ?_
                refine G.forget 6 ?_
                exact ih69
              · refine g_iload (pc := 114) 6 C0 rfl dX3_carried_114 ?_
                refine g_if_eqB (pc := 116) 135 C0 dX3_carried_116 (by decide) (fun h116 => ?_) (fun h116 => ?_)
                · refine g_iload (pc := 135) 4 C0 rfl dX3_carried_135 ?_
                  exact J137 (oI (carB (rchAll τ (τ 0 8)) ((rchAll τ (τ 0 8)) 33) p1 x1 i69)) (by rw [carB_s, h116]; rfl)
                · refine g_aload_n (pc := 119) 0 C0 rfl dX3_carried_119 rfl ?_
                  refine g_iload_n (pc := 120) 1 C0 rfl dX3_carried_120 rfl ?_
                  refine g_iload (pc := 121) 5 C0 rfl dX3_carried_121 ?_
                  refine g_iload_n (pc := 123) 2 C0 rfl dX3_carried_123 rfl ?_
                  refine g_cvi (pc := 124) (na := 3) (As := [.int (nI p1), .int (nI i69), .int (nI x1)]) (rest := []) C0 (mM_comesBy l D dT ad (rchAll τ (τ 0 8)) p1 i69 x1 (rchAll_T hw) (rchAll_P hp) p1h (by omega) (by omega) (rchAll_R hw hp)) (q0 := 0) (j := 0) (ci := 0) (C := RX3) (T := TX3) (N := 44) rfl rfl rfl q1295 q1297 qs54 q60 q1298 (by decide +kernel) ⟨Nat.le_of_ble_eq_true rfl, Nat.le_of_ble_eq_true rfl⟩ rfl rfl ⟨Nat.le_of_ble_eq_true rfl, Nat.le_of_ble_eq_true rfl⟩ rfl rfl (Nat.le_of_ble_eq_true rfl) dX3_carried_124 (fun r τ0 hc => ?_)
                  obtain ⟨rfl, rfl⟩ := hc
                  refine g_if_eqB (pc := 127) 135 C0 dX3_carried_127 (by decide) (fun h127 => ?_) (fun h127 => ?_)
                  · refine g_iload (pc := 135) 4 C0 rfl dX3_carried_135 ?_
                    exact J137 (oI (carB (rchAll τ (τ 0 8)) ((rchAll τ (τ 0 8)) 33) p1 x1 i69)) (by rw [carB_s, h116, h127]; rfl)
                  · refine g_iload (pc := 130) 5 C0 rfl dX3_carried_130 ?_
                    refine g_goto (pc := 132) 137 C0 dX3_carried_132 (by decide) ?_
                    exact J137 (nI i69) (by rw [carB_s, h116, h127]; rfl)
            · refine g_iload (pc := 80) 5 C0 rfl dX3_carried_80 ?_
              refine g_iload_n (pc := 82) 1 C0 rfl dX3_carried_82 rfl ?_
              refine g_csi (pc := 83) (na := 2) (As := [.int (nI i69), .int (nI p1)]) (rest := []) C0 (mM_has l i69 p1 (by omega) (by omega)) q1216 q1217 q60 q1218 (by decide +kernel) ⟨Nat.le_of_ble_eq_true rfl, Nat.le_of_ble_eq_true rfl⟩ rfl rfl ⟨Nat.le_of_ble_eq_true rfl, Nat.le_of_ble_eq_true rfl⟩ rfl rfl (Nat.le_of_ble_eq_true rfl) dX3_carried_83 ?_
              refine g_if_neB (pc := 86) 111 C0 dX3_carried_86 (by decide) (fun h86 => ?_) (fun h86 => ?_)
              · refine g_iconst (pc := 111) (v := (nI 0)) C0 dX3_carried_111 (by decide) ?_
                exact J112 (nI 0) (bret0 (by rw [h86]; rfl))
              · refine g_iload (pc := 89) 4 C0 rfl dX3_carried_89 ?_
                refine g_if_lt (pc := 91) 107 C0 dX3_carried_91 (by decide) (fun h91 => ?_) (fun h91 => ?_)
                · refine g_iconst (pc := 107) (v := (nI 1)) C0 dX3_carried_107 (by decide) ?_
                  refine g_goto (pc := 108) 112 C0 dX3_carried_108 (by decide) ?_
                  exact J112 (nI 1) (bret1 (by rw [h86, oI_none (carB_lt2 (by omega)) h91]; rfl))
                · obtain ⟨bb, hbb⟩ := oI_some h91
                  have hb3 := carB_lt _ _ _ _ _ _ hbb
                  refine G.lE (L' := [some (.ref (ad 0)), some (.int (nI p1)), some (.int (nI x1)), some (.int w), some (.int (nI bb)), some (.int (nI i69)), none]) (by rw [hbb]; rfl) ?_
                  refine g_iload (pc := 94) 5 C0 rfl dX3_carried_94 ?_
                  refine g_csi (pc := 96) (na := 1) (As := [.int (nI i69)]) (rest := []) C0 (mM_bits l i69 (by omega)) q1292 q1293 q60 q1294 (by decide +kernel) ⟨Nat.le_of_ble_eq_true rfl, Nat.le_of_ble_eq_true rfl⟩ rfl rfl ⟨Nat.le_of_ble_eq_true rfl, Nat.le_of_ble_eq_true rfl⟩ rfl rfl (Nat.le_of_ble_eq_true rfl) dX3_carried_96 ?_
                  refine g_iload (pc := 99) 4 C0 rfl dX3_carried_99 ?_
                  refine g_csi (pc := 101) (na := 1) (As := [.int (nI bb)]) (rest := [.int (nI (bitsN i69 24))]) C0 (mM_bits l bb (by omega)) q1292 q1293 q60 q1294 (by decide +kernel) ⟨Nat.le_of_ble_eq_true rfl, Nat.le_of_ble_eq_true rfl⟩ rfl rfl ⟨Nat.le_of_ble_eq_true rfl, Nat.le_of_ble_eq_true rfl⟩ rfl rfl (Nat.le_of_ble_eq_true rfl) dX3_carried_101 ?_
                  refine g_icmp_geN (pc := 104) 111 C0 (Nat.lt_of_le_of_lt (bitsN_le _ _) (by decide)) (Nat.lt_of_le_of_lt (bitsN_le _ _) (by decide)) dX3_carried_104 (by decide) (fun h104 => ?_) (fun h104 => ?_)
                  · refine g_iconst (pc := 111) (v := (nI 0)) C0 dX3_carried_111 (by decide) ?_
                    refine G.lE (L' := [some (.ref (ad 0)), some (.int (nI p1)), some (.int (nI x1)), some (.int w), some (.int (oI (carB (rchAll τ (τ 0 8)) ((rchAll τ (τ 0 8)) 33) p1 x1 i69))), some (.int (nI i69)), none]) (by rw [hbb]; rfl) ?_
                    exact J112 (nI 0) (bret0 (by rw [h86, hbb]; simp [fewB]; omega))
                  · refine g_iconst (pc := 107) (v := (nI 1)) C0 dX3_carried_107 (by decide) ?_
                    refine g_goto (pc := 108) 112 C0 dX3_carried_108 (by decide) ?_
                    refine G.lE (L' := [some (.ref (ad 0)), some (.int (nI p1)), some (.int (nI x1)), some (.int w), some (.int (oI (carB (rchAll τ (τ 0 8)) ((rchAll τ (τ 0 8)) 33) p1 x1 i69))), some (.int (nI i69)), none]) (by rw [hbb]; rfl) ?_
                    exact J112 (nI 1) (bret1 (by rw [h86, hbb]; simp [fewB]; omega))
        · refine g_iload (pc := 35) 4 C0 rfl dX3_carried_35 ?_
          refine g_aload_n (pc := 37) 0 C0 rfl dX3_carried_37 rfl ?_
          refine m_get (pc := 38) (v := .int (nI (τ 0 8))) C0 8 (by decide) q977 rfl dX3_carried_38 ?_
          refine g_icmp_geN (pc := 41) 63 C0 (by omega) (by omega) dX3_carried_41 (by decide) (fun h41 => ?_) (fun h41 => ?_)
          · exact absurd h41 (by omega)
          refine g_aload_n (pc := 44) 0 C0 rfl dX3_carried_44 rfl ?_
          refine m_get (pc := 45) (v := .ref (ad 33)) C0 33 (by decide) q1002 rfl dX3_carried_45 ?_
          refine g_iload (pc := 48) 4 C0 rfl dX3_carried_48 ?_
          refine g_aload_n (pc := 50) 0 C0 rfl dX3_carried_50 rfl ?_
          refine g_iload (pc := 51) 4 C0 rfl dX3_carried_51 ?_
          refine g_cvi (pc := 53) (na := 1) (As := [.int (nI i35)]) (rest := [.int (nI i35), .ref (ad 33)]) C0 (mM_reachOfPerson l D dT ad (rchAll τ i35) i35 (rchAll_T hw) (rchAll_P hp) hi35) (q0 := 0) (j := 0) (ci := 0) (C := RX3) (T := TX3) (N := 44) rfl rfl rfl q1208 q1210 qs46 q60 q1211 (by decide +kernel) ⟨Nat.le_of_ble_eq_true rfl, Nat.le_of_ble_eq_true rfl⟩ rfl rfl ⟨Nat.le_of_ble_eq_true rfl, Nat.le_of_ble_eq_true rfl⟩ rfl rfl (Nat.le_of_ble_eq_true rfl) dX3_carried_53 (fun r τ0 hc => ?_)
          obtain ⟨rfl, rfl⟩ := hc
          refine g_iast (pc := 56) (q0 := 19) (t0 := 0) C0 i35 (reachP (rchAll τ i35) i35) mNd rfl (fun _ => rfl) rfl (by decide) (by omega) dX3_carried_56 ?_
          refine g_iinc1 (pc := 57) 4 C0 (L1 := [some (.ref (ad 0)), some (.int (nI p1)), some (.int (nI x1)), some (.int w), some (.int (nI (i35 + 1))), none, none]) rfl rfl (by decide) dX3_carried_57 rfl ?_
          refine g_goto (pc := 60) 35 C0 dX3_carried_60 (by decide) ?_
          exact G.wsE (by rw [rchAll_reachP, rchAll_s]) ih35
      · rw [inB_rg w (lo := 0) (hi := 1) (by decide) (by decide)] at h26
        refine g_ldc (pc := 29) (v := -1000000002) C0 q1110 dX3_carried_29 ?_
        exact g_iret (pc := 31) C0 dX3_carried_31 ⟨by rw [pCarried, pCarOk, h5, h13, h26]; rfl, by rw [pCarriedT, pCarOk, h5, h13, h26]; rfl⟩
    · refine g_ldc (pc := 16) (v := -1000000001) C0 q1187 dX3_carried_16 ?_
      exact g_iret (pc := 18) C0 dX3_carried_18 ⟨by simp [pCarried, pCarOk, h5, nI_clamp p1b, h13]; rfl, by simp [pCarriedT, pCarOk, h5, nI_clamp p1b, h13]⟩
