/-! printed by gen/h2run.py: String.hashCode, Fault, Reader.want -/
theorem lk2 {n : Nat} (h0 : n ≠ 0) (h1 : n ≠ 1) (hn : n < 2 ^ 31) : Op.lookupswitch.offset [(0, 26), (1, 30)] 40 (nI n).toInt = 40 := by
  rw [nI_toInt hn]
  have e0 : ¬ ((0 : Int) = (n : Int)) := by omega
  have e1 : ¬ ((1 : Int) = (n : Int)) := by omega
  simp [Op.lookupswitch.offset, List.find?, e0, e1]
theorem hsh_1 (f : Nat → Int32) : f 0 &&& nI 255 = hsh f 1 := by
  show f 0 &&& nI 255 = nI 31 * 0 + (f 0 &&& nI 255)
  rw [Int32.mul_zero, Int32.zero_add]
set_option maxHeartbeats 4000000 in
set_option maxRecDepth 100000 in
theorem hJ2_isLatin1 (l : Launch) (D : va_G) (dT : Nat → ClassId) (kk : (Nat → Nat) × (Nat → Nat)) (Xs : va_W) (s q : Nat) (h z : Int32)  : HC l yJ2_isLatin1 cJ2_isLatin1 1 (some .boolean) ({ frames := 0, cells := 0, slots := 0, locals := 0 }) D dT kk [.ref s] ((s, .inr (10, [.ref q, .int (nI 0), .int h, .int z])) :: Xs) (hQi D dT (fun (u : Unit) => (s, .inr (10, [.ref q, .int (nI 0), .int h, .int z])) :: Xs) (fun rr _ => rr = nI 1 ∧ True)) 0 0 := by
  refine HC.ofG (own := "java/lang/String") (L := [some (.ref s)]) rfl (by decide) (Nat.le_of_ble_eq_true rfl) rfl ?_
  intro p' e' s' m' bl' mt' c' A' hA' C0 hE hnm
  refine h_cs (pc := 0) C0 hE q441 dJ2_isLatin1_0 ?_
  refine g_if_eqN (pc := 3) 17 C0 (by decide) dJ2_isLatin1_3 (by decide) (fun h3 => ?_) (fun h3 => ?_)
  · exact absurd h3 (by decide)
  refine g_aload_n (pc := 6) 0 C0 rfl dJ2_isLatin1_6 rfl ?_
  refine h_get (pc := 7) (v := .int (nI 0)) (C := RJ2) (T := TJ2) (N := 4) (ci := 10) (q0 := 0) (ref := "") C0 1 rfl rfl in_J2 (by decide) q456 rfl dJ2_isLatin1_7 ?_
  refine g_if_neN (pc := 10) 17 C0 (by decide) dJ2_isLatin1_10 (by decide) (fun h10 => ?_) (fun h10 => ?_)
  · exact absurd h10 (fun h => h rfl)
  refine g_iconst (pc := 13) (v := (nI 1)) C0 dJ2_isLatin1_13 (by decide) ?_
  refine g_goto (pc := 14) 18 C0 dJ2_isLatin1_14 (by decide) ?_
  exact h_zret (pc := 18) C0 () dJ2_isLatin1_18 (by decide) rfl ⟨rfl, trivial⟩
set_option maxHeartbeats 4000000 in
set_option maxRecDepth 100000 in
theorem hJ4_signedHashCode (l : Launch) (D : va_G) (dT : Nat → ClassId) (kk : (Nat → Nat) × (Nat → Nat)) (Xs : va_W) (q n : Nat) (f : Nat → Int32) (hn : n < 2 ^ 28) : HC l yJ4_signedHashCode cJ4_signedHashCode 6 (some .int) ({ frames := 0, cells := 0, slots := 0, locals := 0 }) D dT kk [.int (nI 0), .ref q, .int (nI 0), .int (nI n)] ((q, .inl (dT 2, n, .inl f)) :: Xs) (hQi D dT (fun (u : Unit) => (q, .inl (dT 2, n, .inl f)) :: Xs) (fun rr _ => rr = hsh f n ∧ True)) 0 0 := by
  refine HC.ofG (own := "jdk/internal/util/ArraysSupport") (L := [some (.int (nI 0)), some (.ref q), some (.int (nI 0)), some (.int (nI n)), none, none]) rfl (by decide) (Nat.le_of_ble_eq_true rfl) rfl ?_
  intro p' e' s' m' bl' mt' c' A' hA' C0 hE hnm
  refine g_iload_n (pc := 0) 2 C0 rfl dJ4_signedHashCode_0 rfl ?_
  refine g_iload_n (pc := 1) 3 C0 rfl dJ4_signedHashCode_1 rfl ?_
  refine g_iaddN (pc := 2) C0  dJ4_signedHashCode_2 ?_
  refine G.stE (st' := [.int (nI n)]) (by rw [show 0 + n = n by omega]) ?_
  refine g_istore (pc := 3) 4 C0 (L1 := [some (.int (nI 0)), some (.ref q), some (.int (nI 0)), some (.int (nI n)), some (.int (nI n)), none]) rfl (by decide) dJ4_signedHashCode_3 rfl ?_
  refine g_iload_n (pc := 5) 2 C0 rfl dJ4_signedHashCode_5 rfl ?_
  refine g_istore (pc := 6) 5 C0 (L1 := [some (.int (nI 0)), some (.ref q), some (.int (nI 0)), some (.int (nI n)), some (.int (nI n)), some (.int (nI 0))]) rfl (by decide) dJ4_signedHashCode_6 rfl ?_
  refine G.lE (L' := [some (.int (hsh f 0)), some (.ref q), some (.int (nI 0)), some (.int (nI n)), some (.int (nI n)), some (.int (nI 0))]) rfl ?_
  refine G.hloop (pc := 8) (Lf := fun i => [some (.int (hsh f i)), some (.ref q), some (.int (nI 0)), some (.int (nI n)), some (.int (nI n)), some (.int (nI i))]) (I := fun _ => True) n 0 (Nat.zero_le _) trivial (fun _ => ?_) (fun i9 hlt9 hi9 ih9 => ?_)
  · refine g_iload (pc := 8) 5 C0 rfl dJ4_signedHashCode_8 ?_
    refine g_iload (pc := 10) 4 C0 rfl dJ4_signedHashCode_10 ?_
    refine g_icmp_geN (pc := 12) 35 C0 (by omega) (by omega) dJ4_signedHashCode_12 (by decide) (fun h12 => ?_) (fun h12 => ?_)
    rotate_left
    · exact absurd h12 (by omega)
    refine g_iload_n (pc := 35) 0 C0 rfl dJ4_signedHashCode_35 rfl ?_
    exact h_iret (pc := 36) C0 () dJ4_signedHashCode_36 rfl ⟨rfl, trivial⟩
  · refine g_iload (pc := 8) 5 C0 rfl dJ4_signedHashCode_8 ?_
    refine g_iload (pc := 10) 4 C0 rfl dJ4_signedHashCode_10 ?_
    refine g_icmp_geN (pc := 12) 35 C0 (by omega) (by omega) dJ4_signedHashCode_12 (by decide) (fun h12 => ?_) (fun h12 => ?_)
    · exact absurd h12 (by omega)
    refine g_bipush (pc := 15) (v := (nI 31)) C0 dJ4_signedHashCode_15 (by decide) ?_
    refine g_iload_n (pc := 17) 0 C0 rfl dJ4_signedHashCode_17 rfl ?_
    refine g_imul (pc := 18) C0 dJ4_signedHashCode_18 ?_
    refine g_aload_n (pc := 19) 1 C0 rfl dJ4_signedHashCode_19 rfl ?_
    refine g_iload (pc := 20) 5 C0 rfl dJ4_signedHashCode_20 ?_
    refine h_bald (pc := 22) (q0 := 0) (t0 := 2) (v := (f i9)) C0 i9 rfl rfl (by omega) (by omega) rfl dJ4_signedHashCode_22 ?_
    refine g_sipush (pc := 23) (v := (nI 255)) C0 dJ4_signedHashCode_23 (by decide) ?_
    refine g_iand (pc := 26) C0 dJ4_signedHashCode_26 ?_
    refine g_iadd (pc := 27) C0 dJ4_signedHashCode_27 ?_
    refine g_istore_n (pc := 28) 0 C0 (L1 := [some (.int (((nI 31) * (hsh f i9)) + ((f i9) &&& (nI 255)))), some (.ref q), some (.int (nI 0)), some (.int (nI n)), some (.int (nI n)), some (.int (nI i9))]) rfl (by decide) dJ4_signedHashCode_28 rfl rfl ?_
    refine g_iinc1 (pc := 29) 5 C0 (L1 := [some (.int (((nI 31) * (hsh f i9)) + ((f i9) &&& (nI 255)))), some (.ref q), some (.int (nI 0)), some (.int (nI n)), some (.int (nI n)), some (.int (nI (i9 + 1)))]) rfl rfl (by decide) dJ4_signedHashCode_29 rfl ?_
    refine g_goto (pc := 32) 8 C0 dJ4_signedHashCode_32 (by decide) ?_
    refine G.lE (L' := [some (.int (hsh f (i9 + 1))), some (.ref q), some (.int (nI 0)), some (.int (nI n)), some (.int (nI n)), some (.int (nI (i9 + 1)))]) rfl ?_
    exact ih9 trivial
set_option maxHeartbeats 4000000 in
set_option maxRecDepth 100000 in
theorem hJ4_vectorizedHashCode (l : Launch) (D : va_G) (dT : Nat → ClassId) (kk : (Nat → Nat) × (Nat → Nat)) (Xs : va_W) (q n : Nat) (f : Nat → Int32) (hn : n < 2 ^ 28) : HC l yJ4_vectorizedHashCode cJ4_vectorizedHashCode 5 (some .int) ({ frames := 1, cells := 0, slots := 0, locals := 25 }) D dT kk [.ref q, .int (nI 0), .int (nI n), .int (nI 0), .int (nI 4)] ((q, .inl (dT 2, n, .inl f)) :: Xs) (hQi D dT (fun (u : Unit) => (q, .inl (dT 2, n, .inl f)) :: Xs) (fun rr _ => rr = hsh f n ∧ True)) 0 0 := by
  refine HC.ofG (own := "jdk/internal/util/ArraysSupport") (L := [some (.ref q), some (.int (nI 0)), some (.int (nI n)), some (.int (nI 0)), some (.int (nI 4))]) rfl (by decide) (Nat.le_of_ble_eq_true rfl) rfl ?_
  intro p' e' s' m' bl' mt' c' A' hA' C0 hE hnm
  refine g_iload (pc := 0) 4 C0 rfl dJ4_vectorizedHashCode_0 ?_
  refine g_tableIn (pc := 2) 44 C0 dJ4_vectorizedHashCode_2 (by decide) (by decide) (off := 42) rfl (by decide) ?_
  refine g_iload_n (pc := 44) 3 C0 rfl dJ4_vectorizedHashCode_44 rfl ?_
  refine g_aload_n (pc := 45) 0 C0 rfl dJ4_vectorizedHashCode_45 rfl ?_
  refine h_castB (pc := 46) (q0 := 0) C0 hE rfl q565 dJ4_vectorizedHashCode_46 ?_
  refine g_iload_n (pc := 49) 1 C0 rfl dJ4_vectorizedHashCode_49 rfl ?_
  refine g_iload_n (pc := 50) 2 C0 rfl dJ4_vectorizedHashCode_50 rfl ?_
  refine h_csi (pc := 51) (na := 4) (As := [.int (nI 0), .ref q, .int (nI 0), .int (nI n)]) (rest := []) C0 hE (hJ4_signedHashCode l D dT kk Xs q n f (by omega)) q566 q567 q66 q568 (by decide +kernel) ⟨Nat.le_of_ble_eq_true rfl, Nat.le_of_ble_eq_true rfl⟩ rfl rfl ⟨Nat.le_of_ble_eq_true rfl, Nat.le_of_ble_eq_true rfl⟩ rfl rfl (Nat.le_of_ble_eq_true rfl) dJ4_vectorizedHashCode_51 (fun r u hq9 => ?_)
  obtain ⟨rfl, -⟩ := hq9
  refine g_goto (pc := 54) 157 C0 dJ4_vectorizedHashCode_54 (by decide) ?_
  exact h_iret (pc := 157) C0 () dJ4_vectorizedHashCode_157 rfl ⟨rfl, trivial⟩
set_option maxHeartbeats 4000000 in
set_option maxRecDepth 100000 in
theorem hJ7_hashCode (l : Launch) (D : va_G) (dT : Nat → ClassId) (kk : (Nat → Nat) × (Nat → Nat)) (Xs : va_W) (q n : Nat) (f : Nat → Int32) (hn : n < 2 ^ 28) : HC l yJ7_hashCode cJ7_hashCode 1 (some .int) ({ frames := 2, cells := 0, slots := 0, locals := 49 }) D dT kk [.ref q] ((q, .inl (dT 2, n, .inl f)) :: Xs) (hQi D dT (fun (u : Unit) => (q, .inl (dT 2, n, .inl f)) :: Xs) (fun rr _ => rr = hsh f n ∧ True)) 0 0 := by
  refine HC.ofG (own := "java/lang/StringLatin1") (L := [some (.ref q)]) rfl (by decide) (Nat.le_of_ble_eq_true rfl) rfl ?_
  intro p' e' s' m' bl' mt' c' A' hA' C0 hE hnm
  refine g_aload_n (pc := 0) 0 C0 rfl dJ7_hashCode_0 rfl ?_
  refine h_alen (pc := 1) (q0 := 0) (t0 := 2) C0 rfl rfl dJ7_hashCode_1 ?_
  refine G.stE (st' := [.int (nI n)]) rfl ?_
  by_cases h0 : n = 0
  · subst h0
    refine h_lookup (pc := 2) (tgt := 28) (off := 26) C0 dJ7_hashCode_2 (by decide) rfl (by decide) ?_
    refine g_iconst (pc := 28) (v := (nI 0)) C0 dJ7_hashCode_28 (by decide) ?_
    refine g_goto (pc := 29) 51 C0 dJ7_hashCode_29 (by decide) ?_
    exact h_iret (pc := 51) C0 () dJ7_hashCode_51 rfl ⟨rfl, trivial⟩
  by_cases h1 : n = 1
  · subst h1
    refine h_lookup (pc := 2) (tgt := 32) (off := 30) C0 dJ7_hashCode_2 (by decide) rfl (by decide) ?_
    refine g_aload_n (pc := 32) 0 C0 rfl dJ7_hashCode_32 rfl ?_
    refine g_iconst (pc := 33) (v := (nI 0)) C0 dJ7_hashCode_33 (by decide) ?_
    refine h_bald (pc := 34) (q0 := 0) (t0 := 2) (v := (f 0)) C0 0 rfl rfl (by decide) (by decide) rfl dJ7_hashCode_34 ?_
    refine g_sipush (pc := 35) (v := (nI 255)) C0 dJ7_hashCode_35 (by decide) ?_
    refine g_iand (pc := 38) C0 dJ7_hashCode_38 ?_
    refine g_goto (pc := 39) 51 C0 dJ7_hashCode_39 (by decide) ?_
    exact h_iret (pc := 51) C0 () dJ7_hashCode_51 rfl ⟨hsh_1 f, trivial⟩
  · have hn2 := hn
    refine h_lookup (pc := 2) (tgt := 42) (off := 40) C0 dJ7_hashCode_2 (by decide) (lk2 h0 h1 (by omega)) (by decide) ?_
    refine g_aload_n (pc := 42) 0 C0 rfl dJ7_hashCode_42 rfl ?_
    refine g_iconst (pc := 43) (v := (nI 0)) C0 dJ7_hashCode_43 (by decide) ?_
    refine g_aload_n (pc := 44) 0 C0 rfl dJ7_hashCode_44 rfl ?_
    refine h_alen (pc := 45) (q0 := 0) (t0 := 2) C0 rfl rfl dJ7_hashCode_45 ?_
    refine G.stE (st' := [.int (nI n), .int (nI 0), .ref q]) rfl ?_
    refine g_iconst (pc := 46) (v := (nI 0)) C0 dJ7_hashCode_46 (by decide) ?_
    refine g_iconst (pc := 47) (v := (nI 4)) C0 dJ7_hashCode_47 (by decide) ?_
    refine h_csi (pc := 48) (na := 5) (As := [.ref q, .int (nI 0), .int (nI n), .int (nI 0), .int (nI 4)]) (rest := []) C0 hE (hJ4_vectorizedHashCode l D dT kk Xs q n f (by omega)) q562 q563 q66 q564 (by decide +kernel) ⟨Nat.le_of_ble_eq_true rfl, Nat.le_of_ble_eq_true rfl⟩ rfl rfl ⟨Nat.le_of_ble_eq_true rfl, Nat.le_of_ble_eq_true rfl⟩ rfl rfl (Nat.le_of_ble_eq_true rfl) dJ7_hashCode_48 (fun r u hq9 => ?_)
    obtain ⟨rfl, -⟩ := hq9
    exact h_iret (pc := 51) C0 () dJ7_hashCode_51 rfl ⟨rfl, trivial⟩
set_option maxHeartbeats 4000000 in
set_option maxRecDepth 100000 in
theorem hJ2_hashCode (l : Launch) (D : va_G) (dT : Nat → ClassId) (kk : (Nat → Nat) × (Nat → Nat)) (Xs : va_W) (s q n : Nat) (f : Nat → Int32) (hn : n < 2 ^ 28) : HC l yJ2_hashCode cJ2_hashCode 2 (some .int) ({ frames := 3, cells := 0, slots := 0, locals := 69 }) D dT kk [.ref s] ((s, .inr (10, [.ref q, .int (nI 0), .int (nI 0), .int (nI 0)])) :: (q, .inl (dT 2, n, .inl f)) :: Xs) (hQi D dT (fun (u : Int32 × Int32) => (s, .inr (10, [.ref q, .int (nI 0), .int u.1, .int u.2])) :: (q, .inl (dT 2, n, .inl f)) :: Xs) (fun rr _ => rr = hsh f n ∧ True)) 0 0 := by
  refine HC.ofG (own := "java/lang/String") (L := [some (.ref s), none]) rfl (by decide) (Nat.le_of_ble_eq_true rfl) rfl ?_
  intro p' e' s' m' bl' mt' c' A' hA' C0 hE hnm
  refine g_aload_n (pc := 0) 0 C0 rfl dJ2_hashCode_0 rfl ?_
  refine h_get (pc := 1) (v := .int (nI 0)) (C := RJ2) (T := TJ2) (N := 4) (ci := 10) (q0 := 0) (ref := "") C0 2 rfl rfl in_J2 (by decide) q457 rfl dJ2_hashCode_1 ?_
  refine g_istore_n (pc := 4) 1 C0 (L1 := [some (.ref s), some (.int (nI 0))]) rfl (by decide) dJ2_hashCode_4 rfl rfl ?_
  refine g_iload_n (pc := 5) 1 C0 rfl dJ2_hashCode_5 rfl ?_
  refine g_if_neN (pc := 6) 58 C0 (by decide) dJ2_hashCode_6 (by decide) (fun h6 => ?_) (fun h6 => ?_)
  · exact absurd h6 (fun h => h rfl)
  refine g_aload_n (pc := 9) 0 C0 rfl dJ2_hashCode_9 rfl ?_
  refine h_get (pc := 10) (v := .int (nI 0)) (C := RJ2) (T := TJ2) (N := 4) (ci := 10) (q0 := 0) (ref := "") C0 3 rfl rfl in_J2 (by decide) q458 rfl dJ2_hashCode_10 ?_
  refine g_if_neN (pc := 13) 58 C0 (by decide) dJ2_hashCode_13 (by decide) (fun h13 => ?_) (fun h13 => ?_)
  · exact absurd h13 (fun h => h rfl)
  refine g_aload_n (pc := 16) 0 C0 rfl dJ2_hashCode_16 rfl ?_
  refine h_cvi (pc := 17) (na := 0) (As := []) (rest := []) C0 hE (hJ2_isLatin1 l D dT kk ((q, .inl (dT 2, n, .inl f)) :: Xs) s q (nI 0) (nI 0)) (q0 := 0) (ci := 10) (C := RJ2) (T := TJ2) (N := 4) (a := s) rfl rfl q555 q556 q557 q64 q558 (by decide +kernel) ⟨Nat.le_of_ble_eq_true rfl, Nat.le_of_ble_eq_true rfl⟩ rfl rfl ⟨Nat.le_of_ble_eq_true rfl, Nat.le_of_ble_eq_true rfl⟩ rfl rfl (Nat.le_of_ble_eq_true rfl) dJ2_hashCode_17 (fun r u hq9 => ?_)
  obtain ⟨rfl, -⟩ := hq9
  refine g_if_eqN (pc := 20) 33 C0 (by decide) dJ2_hashCode_20 (by decide) (fun h20 => ?_) (fun h20 => ?_)
  · exact absurd h20 (by decide)
  refine g_aload_n (pc := 23) 0 C0 rfl dJ2_hashCode_23 rfl ?_
  refine h_get (pc := 24) (v := .ref q) (C := RJ2) (T := TJ2) (N := 4) (ci := 10) (q0 := 0) (ref := "") C0 0 rfl rfl in_J2 (by decide) q455 rfl dJ2_hashCode_24 ?_
  refine G.front 1 (ws' := (q, .inl (dT 2, n, .inl f)) :: (s, .inr (10, [.ref q, .int (nI 0), .int (nI 0), .int (nI 0)])) :: Xs) rfl rfl ?_
  refine h_csi (pc := 27) (na := 1) (As := [.ref q]) (rest := []) C0 hE (hJ7_hashCode l D dT kk ((s, .inr (10, [.ref q, .int (nI 0), .int (nI 0), .int (nI 0)])) :: Xs) q n f (by omega)) q559 q560 q70 q561 (by decide +kernel) ⟨Nat.le_of_ble_eq_true rfl, Nat.le_of_ble_eq_true rfl⟩ rfl rfl ⟨Nat.le_of_ble_eq_true rfl, Nat.le_of_ble_eq_true rfl⟩ rfl rfl (Nat.le_of_ble_eq_true rfl) dJ2_hashCode_27 (fun r u hq9 => ?_)
  obtain ⟨rfl, -⟩ := hq9
  refine g_goto (pc := 30) 40 C0 dJ2_hashCode_30 (by decide) ?_
  refine g_istore_n (pc := 40) 1 C0 (L1 := [some (.ref s), some (.int (hsh f n))]) rfl (by decide) dJ2_hashCode_40 rfl rfl ?_
  refine g_iload_n (pc := 41) 1 C0 rfl dJ2_hashCode_41 rfl ?_
  refine g_if_neX (pc := 42) 53 C0 dJ2_hashCode_42 (by decide) (fun h42 => ?_) (fun h42 => ?_)
  · refine g_aload_n (pc := 53) 0 C0 rfl dJ2_hashCode_53 rfl ?_
    refine g_iload_n (pc := 54) 1 C0 rfl dJ2_hashCode_54 rfl ?_
    refine h_put (pc := 55) (C := RJ2) (T := TJ2) (N := 4) (ci := 10) (q0 := 1) (ty := .int) (ws' := (q, .inl (dT 2, n, .inl f)) :: (s, .inr (10, [.ref q, .int (nI 0), .int (hsh f n), .int (nI 0)])) :: Xs) C0 tyJ2 tyJ2_ok nmJ2 2 rfl rfl in_J2 (by decide) q457 rfl rfl rfl rfl (by show 2 < 4; decide) rfl dJ2_hashCode_55 ?_
    refine g_iload_n (pc := 58) 1 C0 rfl dJ2_hashCode_58 rfl ?_
    refine G.front 1 (ws' := (s, .inr (10, [.ref q, .int (nI 0), .int (hsh f n), .int (nI 0)])) :: (q, .inl (dT 2, n, .inl f)) :: Xs) rfl rfl ?_
    exact h_iret (pc := 59) C0 ((hsh f n), (nI 0)) dJ2_hashCode_59 rfl ⟨rfl, trivial⟩
  · refine g_aload_n (pc := 45) 0 C0 rfl dJ2_hashCode_45 rfl ?_
    refine g_iconst (pc := 46) (v := (nI 1)) C0 dJ2_hashCode_46 (by decide) ?_
    refine h_put (pc := 47) (C := RJ2) (T := TJ2) (N := 4) (ci := 10) (q0 := 1) (ty := .boolean) (ws' := (q, .inl (dT 2, n, .inl f)) :: (s, .inr (10, [.ref q, .int (nI 0), .int (nI 0), .int (nI 1)])) :: Xs) C0 tyJ2 tyJ2_ok nmJ2 3 rfl rfl in_J2 (by decide) q458 rfl rfl (by decide) rfl (by show 3 < 4; decide) rfl dJ2_hashCode_47 ?_
    refine g_goto (pc := 50) 58 C0 dJ2_hashCode_50 (by decide) ?_
    refine g_iload_n (pc := 58) 1 C0 rfl dJ2_hashCode_58 rfl ?_
    refine G.front 1 (ws' := (s, .inr (10, [.ref q, .int (nI 0), .int (nI 0), .int (nI 1)])) :: (q, .inl (dT 2, n, .inl f)) :: Xs) rfl rfl ?_
    exact h_iret (pc := 59) C0 ((nI 0), (nI 1)) dJ2_hashCode_59 rfl ⟨rfl, trivial⟩
set_option maxHeartbeats 4000000 in
set_option maxRecDepth 100000 in
theorem hJ9_init_2 (l : Launch) (D : va_G) (dT : Nat → ClassId) (kk : (Nat → Nat) × (Nat → Nat)) (Xs : va_W) (x : Nat)  : HC l yJ9_init_2 cJ9_init_2 5 none ({ frames := 1, cells := 0, slots := 0, locals := 20 }) D dT kk [.ref x, .null, .null, .int (nI 0), .int (nI 0)] ((x, .inr (5, [.null, .null, .null, .null, .null, .int (nI 0), .int (nI 0), .int (nI 0)])) :: Xs) (hQv D dT (fun (u : Unit) => (x, .inr (5, [.null, .null, .null, .null, .null, .int (nI 0), .int (nI 0), .int (nI 0)])) :: Xs) (fun _ => True)) 0 0 := by
  refine HC.ofG (own := "java/lang/Throwable") (L := [some (.ref x), some (.null), some (.null), some (.int (nI 0)), some (.int (nI 0))]) rfl (by decide) (Nat.le_of_ble_eq_true rfl) rfl ?_
  intro p' e' s' m' bl' mt' c' A' hA' C0 hE hnm
  refine g_aload_n (pc := 0) 0 C0 rfl dJ9_init_2_0 rfl ?_
  refine h_objInit (pc := 1) C0 q507 q85 q86 (Nat.le_of_ble_eq_true rfl) (Nat.le_of_ble_eq_true rfl) dJ9_init_2_1 ?_
  refine g_aload_n (pc := 4) 0 C0 rfl dJ9_init_2_4 rfl ?_
  refine g_aload_n (pc := 5) 0 C0 rfl dJ9_init_2_5 rfl ?_
  refine h_put (pc := 6) (C := RX5) (T := TX5) (N := 8) (ci := 5) (q0 := 0) (ws' := (x, .inr (5, [.ref x, .null, .null, .null, .null, .int (nI 0), .int (nI 0), .int (nI 0)])) :: Xs) C0 tyX5 tyX5_ok nmX5 0 rfl rfl in_X5 (by decide) q536 rfl rfl rfl rfl (by show 0 < 8; decide) rfl dJ9_init_2_6 ?_
  refine g_aload_n (pc := 9) 0 C0 rfl dJ9_init_2_9 rfl ?_
  refine h_getsq (pc := 10) C0 hE (fun _ _ _ h => h.2.2.2.2.1) q508 dJ9_init_2_10 (fun v10 hv10 => ?_)
  refine h_put (pc := 13) (C := RX5) (T := TX5) (N := 8) (ci := 5) (q0 := 0) (ws' := (x, .inr (5, [.ref x, v10, .null, .null, .null, .int (nI 0), .int (nI 0), .int (nI 0)])) :: Xs) C0 tyX5 tyX5_ok nmX5 1 rfl rfl in_X5 (by decide) q537 rfl rfl (zq_nar hv10) (zq_fit hv10 (Or.inr ⟨_, rfl⟩)) (by show 1 < 8; decide) rfl dJ9_init_2_13 ?_
  refine g_aload_n (pc := 16) 0 C0 rfl dJ9_init_2_16 rfl ?_
  refine h_getsq (pc := 17) C0 hE (fun _ _ _ h => h.2.2.2.2.2.1) q510 dJ9_init_2_17 (fun v17 hv17 => ?_)
  refine h_put (pc := 20) (C := RX5) (T := TX5) (N := 8) (ci := 5) (q0 := 0) (ws' := (x, .inr (5, [.ref x, v10, v17, .null, .null, .int (nI 0), .int (nI 0), .int (nI 0)])) :: Xs) C0 tyX5 tyX5_ok nmX5 2 rfl rfl in_X5 (by decide) q538 rfl rfl (zq_nar hv17) (zq_fit hv17 (Or.inl ⟨_, rfl⟩)) (by show 2 < 8; decide) rfl dJ9_init_2_20 ?_
  refine g_iload (pc := 23) 4 C0 rfl dJ9_init_2_23 ?_
  refine g_if_eqN (pc := 25) 36 C0 (by decide) dJ9_init_2_25 (by decide) (fun h25 => ?_) (fun h25 => ?_)
  rotate_left
  · exact absurd h25 (fun h => h rfl)
  refine g_aload_n (pc := 36) 0 C0 rfl dJ9_init_2_36 rfl ?_
  refine h_null (pc := 37) C0 dJ9_init_2_37 ?_
  refine h_put (pc := 38) (C := RX5) (T := TX5) (N := 8) (ci := 5) (q0 := 0) (ws' := (x, .inr (5, [.ref x, .null, v17, .null, .null, .int (nI 0), .int (nI 0), .int (nI 0)])) :: Xs) C0 tyX5 tyX5_ok nmX5 1 rfl rfl in_X5 (by decide) q537 rfl rfl rfl rfl (by show 1 < 8; decide) rfl dJ9_init_2_38 ?_
  refine g_aload_n (pc := 41) 0 C0 rfl dJ9_init_2_41 rfl ?_
  refine h_aload_nN (pc := 42) 1 C0 rfl dJ9_init_2_42 rfl ?_
  refine h_put (pc := 43) (C := RX5) (T := TX5) (N := 8) (ci := 5) (q0 := 0) (ws' := (x, .inr (5, [.ref x, .null, v17, .null, .null, .int (nI 0), .int (nI 0), .int (nI 0)])) :: Xs) C0 tyX5 tyX5_ok nmX5 3 rfl rfl in_X5 (by decide) q535 rfl rfl rfl rfl (by show 3 < 8; decide) rfl dJ9_init_2_43 ?_
  refine g_aload_n (pc := 46) 0 C0 rfl dJ9_init_2_46 rfl ?_
  refine h_aload_nN (pc := 47) 2 C0 rfl dJ9_init_2_47 rfl ?_
  refine h_put (pc := 48) (C := RX5) (T := TX5) (N := 8) (ci := 5) (q0 := 0) (ws' := (x, .inr (5, [.null, .null, v17, .null, .null, .int (nI 0), .int (nI 0), .int (nI 0)])) :: Xs) C0 tyX5 tyX5_ok nmX5 0 rfl rfl in_X5 (by decide) q536 rfl rfl rfl rfl (by show 0 < 8; decide) rfl dJ9_init_2_48 ?_
  refine g_iload_n (pc := 51) 3 C0 rfl dJ9_init_2_51 rfl ?_
  refine g_if_neN (pc := 52) 60 C0 (by decide) dJ9_init_2_52 (by decide) (fun h52 => ?_) (fun h52 => ?_)
  · exact absurd h52 (fun h => h rfl)
  refine g_aload_n (pc := 55) 0 C0 rfl dJ9_init_2_55 rfl ?_
  refine h_null (pc := 56) C0 dJ9_init_2_56 ?_
  refine h_put (pc := 57) (C := RX5) (T := TX5) (N := 8) (ci := 5) (q0 := 0) (ws' := (x, .inr (5, [.null, .null, .null, .null, .null, .int (nI 0), .int (nI 0), .int (nI 0)])) :: Xs) C0 tyX5 tyX5_ok nmX5 2 rfl rfl in_X5 (by decide) q538 rfl rfl rfl rfl (by show 2 < 8; decide) rfl dJ9_init_2_57 ?_
  exact h_vret (pc := 60) C0 () dJ9_init_2_60 rfl trivial
set_option maxHeartbeats 4000000 in
set_option maxRecDepth 100000 in
theorem hJ10_init (l : Launch) (D : va_G) (dT : Nat → ClassId) (kk : (Nat → Nat) × (Nat → Nat)) (Xs : va_W) (x : Nat)  : HC l yJ10_init cJ10_init 5 none ({ frames := 2, cells := 0, slots := 0, locals := 44 }) D dT kk [.ref x, .null, .null, .int (nI 0), .int (nI 0)] ((x, .inr (5, [.null, .null, .null, .null, .null, .int (nI 0), .int (nI 0), .int (nI 0)])) :: Xs) (hQv D dT (fun (u : Unit) => (x, .inr (5, [.null, .null, .null, .null, .null, .int (nI 0), .int (nI 0), .int (nI 0)])) :: Xs) (fun _ => True)) 0 0 := by
  refine HC.ofG (own := "java/lang/Exception") (L := [some (.ref x), some (.null), some (.null), some (.int (nI 0)), some (.int (nI 0))]) rfl (by decide) (Nat.le_of_ble_eq_true rfl) rfl ?_
  intro p' e' s' m' bl' mt' c' A' hA' C0 hE hnm
  refine g_aload_n (pc := 0) 0 C0 rfl dJ10_init_0 rfl ?_
  refine h_aload_nN (pc := 1) 1 C0 rfl dJ10_init_1 rfl ?_
  refine h_aload_nN (pc := 2) 2 C0 rfl dJ10_init_2 rfl ?_
  refine g_iload_n (pc := 3) 3 C0 rfl dJ10_init_3 rfl ?_
  refine g_iload (pc := 4) 4 C0 rfl dJ10_init_4 ?_
  refine h_ci (pc := 6) (na := 4) (As := [.null, .null, .int (nI 0), .int (nI 0)]) (rest := []) C0 hE (hJ9_init_2 l D dT kk Xs x) q527 q528 q72 q529 rfl (by decide +kernel) ⟨Nat.le_of_ble_eq_true rfl, Nat.le_of_ble_eq_true rfl⟩ rfl rfl ⟨Nat.le_of_ble_eq_true rfl, Nat.le_of_ble_eq_true rfl⟩ rfl rfl (Nat.le_of_ble_eq_true rfl) dJ10_init_6 (fun u hq9 => ?_)
  exact h_vret (pc := 9) C0 () dJ10_init_9 rfl trivial
set_option maxHeartbeats 4000000 in
set_option maxRecDepth 100000 in
theorem hX5_init (l : Launch) (D : va_G) (dT : Nat → ClassId) (kk : (Nat → Nat) × (Nat → Nat)) (Xs : va_W) (x a b : Nat)  : HC l yX5_init cX5_init 3 none ({ frames := 3, cells := 0, slots := 0, locals := 68 }) D dT kk [.ref x, .int (nI a), .int (nI b)] ((x, .inr (5, [.null, .null, .null, .null, .null, .int (nI 0), .int (nI 0), .int (nI 0)])) :: Xs) (hQv D dT (fun (u : Unit) => (x, .inr (5, fF a b)) :: Xs) (fun _ => True)) 0 0 := by
  refine HC.ofG (own := "FittingStrides$Fault") (L := [some (.ref x), some (.int (nI a)), some (.int (nI b))]) rfl (by decide) (Nat.le_of_ble_eq_true rfl) rfl ?_
  intro p' e' s' m' bl' mt' c' A' hA' C0 hE hnm
  refine g_aload_n (pc := 0) 0 C0 rfl dX5_init_0 rfl ?_
  refine h_null (pc := 1) C0 dX5_init_1 ?_
  refine h_null (pc := 2) C0 dX5_init_2 ?_
  refine g_iconst (pc := 3) (v := (nI 0)) C0 dX5_init_3 (by decide) ?_
  refine g_iconst (pc := 4) (v := (nI 0)) C0 dX5_init_4 (by decide) ?_
  refine h_ci (pc := 5) (na := 4) (As := [.null, .null, .int (nI 0), .int (nI 0)]) (rest := []) C0 hE (hJ10_init l D dT kk Xs x) q524 q525 q73 q526 rfl (by decide +kernel) ⟨Nat.le_of_ble_eq_true rfl, Nat.le_of_ble_eq_true rfl⟩ rfl rfl ⟨Nat.le_of_ble_eq_true rfl, Nat.le_of_ble_eq_true rfl⟩ rfl rfl (Nat.le_of_ble_eq_true rfl) dX5_init_5 (fun u hq9 => ?_)
  refine g_aload_n (pc := 8) 0 C0 rfl dX5_init_8 rfl ?_
  refine g_iload_n (pc := 9) 1 C0 rfl dX5_init_9 rfl ?_
  refine h_putF (pc := 10) (C := RX5) (T := TX5) (N := 8) (ci := 5) (q0 := 0) (ty := .int) (ws' := (x, .inr (5, [.null, .null, .null, .null, .null, .int (nI 0), .int (nI a), .int (nI 0)])) :: Xs) C0 tyX5 tyX5_ok nmX5 (hnm.trans rfl) 6 rfl rfl in_X5 (by decide) q530 rfl rfl rfl rfl rfl (by show 6 < 8; decide) rfl dX5_init_10 ?_
  refine g_aload_n (pc := 13) 0 C0 rfl dX5_init_13 rfl ?_
  refine g_iload_n (pc := 14) 2 C0 rfl dX5_init_14 rfl ?_
  refine h_putF (pc := 15) (C := RX5) (T := TX5) (N := 8) (ci := 5) (q0 := 0) (ty := .int) (ws' := (x, .inr (5, [.null, .null, .null, .null, .null, .int (nI 0), .int (nI a), .int (nI b)])) :: Xs) C0 tyX5 tyX5_ok nmX5 (hnm.trans rfl) 7 rfl rfl in_X5 (by decide) q532 rfl rfl rfl rfl rfl (by show 7 < 8; decide) rfl dX5_init_15 ?_
  exact h_vret (pc := 18) C0 () dX5_init_18 rfl trivial
set_option maxHeartbeats 4000000 in
set_option maxRecDepth 100000 in
theorem hX4_want (l : Launch) (D : va_G) (dT : Nat → ClassId) (kk : (Nat → Nat) × (Nat → Nat)) (Xs : va_W) (b : Bool) (nu pl : Nat)  : HX l yX4_want cX4_want 3 none ({ frames := 4, cells := 1, slots := 8, locals := 90 }) D dT kk [.int (nI (bN b)), .int (nI nu), .int (nI pl)] (Xs) (hQx D dT (fun (u : Unit) => Xs) (fun r _ => r = none ∧ b = true) (Xs) (fun fa fb => fa = nu ∧ fb = pl ∧ b = false)) 1 8 := by
  refine HX.ofG (own := "FittingStrides$Reader") (L := [some (.int (nI (bN b))), some (.int (nI nu)), some (.int (nI pl))]) rfl (by decide) (Nat.le_of_ble_eq_true rfl) rfl ?_
  intro p' e' s' m' bl' mt' c' A' hA' C0 hE hx
  refine g_iload_n (pc := 0) 0 C0 rfl dX4_want_0 rfl ?_
  refine g_if_neB (pc := 1) 14 C0 dX4_want_1 (by decide) (fun h1 => ?_) (fun h1 => ?_)
  · refine G.widen (k' := 1) (n' := 8) (by decide) (by decide) ?_
    exact h_vretX (pc := 14) C0 () dX4_want_14 rfl ⟨rfl, h1⟩
  · refine h_newF (pc := 4) (C := RX5) (T := TX5) (N := 8) (ci := 5) (fs0 := [.null, .null, .null, .null, .null, .int (nI 0), .int (nI 0), .int (nI 0)]) C0 tyX5 tyX5_ok in_X5 rfl q484 q485 q74 (by decide) ⟨Nat.le_of_ble_eq_true rfl, Nat.le_of_ble_eq_true rfl⟩ dX4_want_4 (fun q4 => ?_)
    refine g_dup (pc := 7) C0 dX4_want_7 rfl ?_
    refine g_iload_n (pc := 8) 1 C0 rfl dX4_want_8 rfl ?_
    refine g_iload_n (pc := 9) 2 C0 rfl dX4_want_9 rfl ?_
    refine h_ci (pc := 10) (na := 2) (As := [.int (nI nu), .int (nI pl)]) (rest := [.ref q4]) C0 hE (hX5_init l D dT kk Xs q4 nu pl) q521 q522 q74 q523 rfl (by decide +kernel) ⟨Nat.le_of_ble_eq_true rfl, Nat.le_of_ble_eq_true rfl⟩ rfl rfl ⟨Nat.le_of_ble_eq_true rfl, Nat.le_of_ble_eq_true rfl⟩ rfl rfl (Nat.le_of_ble_eq_true rfl) dX4_want_10 (fun u hq9 => ?_)
    exact h_athrow (pc := 13) C0 hx dX4_want_13 rfl ⟨rfl, rfl, h1⟩
