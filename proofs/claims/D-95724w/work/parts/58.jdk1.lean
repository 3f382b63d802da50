/-! printed by gen/h1run.py: StringBuilder, String, Arrays over list worlds -/
set_option maxHeartbeats 4000000 in
set_option maxRecDepth 100000 in
theorem hJ7_canEncode (l : Launch) (c : Nat) (hc : c < 256) : SI l yJ7_canEncode cJ7_canEncode 1 .boolean ({ frames := 0, cells := 0, slots := 0, locals := 0 }) [.int (nI c)] (nI 1) := by
  refine CI.ofG (own := "java/lang/StringLatin1") (L := [some (.int (nI c))]) rfl (by decide) (Nat.le_of_ble_eq_true rfl) rfl ?_
  intro p' e' s' m' bl' mt' c' C0
  refine g_iload_n (pc := 0) 0 C0 rfl dJ7_canEncode_0 rfl ?_
  refine g_sipush (pc := 1) (v := (nI 255)) C0 dJ7_canEncode_1 (by decide) ?_
  refine g_icmp_gtN (pc := 4) 11 C0 (by omega) (by decide) dJ7_canEncode_4 (by decide) (fun h4 => ?_) (fun h4 => ?_)
  · exact absurd h4 (by omega)
  refine g_iconst (pc := 7) (v := (nI 1)) C0 dJ7_canEncode_7 (by decide) ?_
  refine g_goto (pc := 8) 12 C0 dJ7_canEncode_8 (by decide) ?_
  exact g_zret (pc := 12) C0 dJ7_canEncode_12 (by decide) rfl
set_option maxHeartbeats 4000000 in
set_option maxRecDepth 100000 in
theorem hJ4_newLength (l : Launch) (a b c : Nat) (h0 : 0 < b) (h : a + max b c < 2147483639) : SI l yJ4_newLength cJ4_newLength 4 .int ({ frames := 1, cells := 0, slots := 0, locals := 21 }) [.int (nI a), .int (nI b), .int (nI c)] (nI (a + max b c)) := by
  refine CI.ofG (own := "jdk/internal/util/ArraysSupport") (L := [some (.int (nI a)), some (.int (nI b)), some (.int (nI c)), none]) rfl (by decide) (Nat.le_of_ble_eq_true rfl) rfl ?_
  intro p' e' s' m' bl' mt' c' C0
  refine g_iload_n (pc := 0) 0 C0 rfl dJ4_newLength_0 rfl ?_
  refine g_iload_n (pc := 1) 1 C0 rfl dJ4_newLength_1 rfl ?_
  refine g_iload_n (pc := 2) 2 C0 rfl dJ4_newLength_2 rfl ?_
  refine g_mmax (pc := 3) C0 (by omega) (by omega) q328 q329 q67 q330 (Nat.le_of_ble_eq_true rfl) (Nat.le_of_ble_eq_true rfl) ⟨Nat.le_of_ble_eq_true rfl, Nat.le_of_ble_eq_true rfl⟩ dJ4_newLength_3 ?_
  refine g_iaddN (pc := 6) C0  dJ4_newLength_6 ?_
  refine g_istore_n (pc := 7) 3 C0 (L1 := [some (.int (nI a)), some (.int (nI b)), some (.int (nI c)), some (.int (nI (a + (max b c))))]) rfl (by decide) dJ4_newLength_7 rfl rfl ?_
  refine g_iconst (pc := 8) (v := (nI 0)) C0 dJ4_newLength_8 (by decide) ?_
  refine g_iload_n (pc := 9) 3 C0 rfl dJ4_newLength_9 rfl ?_
  refine g_icmp_geN (pc := 10) 21 C0 (by decide) (by omega) dJ4_newLength_10 (by decide) (fun h10 => ?_) (fun h10 => ?_)
  · exact absurd h10 (by omega)
  refine g_iload_n (pc := 13) 3 C0 rfl dJ4_newLength_13 rfl ?_
  have c14 : Jvm.Cond.constant "jdk/internal/util/ArraysSupport" 200 (nI 2147483639) ∈ lw_all := q331
  refine g_ldc (pc := 14) (v := nI 2147483639) C0 c14 dJ4_newLength_14 ?_
  refine g_icmp_gtN (pc := 16) 21 C0 (by omega) (by decide) dJ4_newLength_16 (by decide) (fun h16 => ?_) (fun h16 => ?_)
  · exact absurd h16 (by omega)
  refine g_iload_n (pc := 19) 3 C0 rfl dJ4_newLength_19 rfl ?_
  exact g_iret (pc := 20) C0 dJ4_newLength_20 rfl
set_option maxHeartbeats 4000000 in
set_option maxRecDepth 100000 in
theorem hJ0_isLatin1 (l : Launch) (D : va_G) (dT : Nat → ClassId) (kk : (Nat → Nat) × (Nat → Nat)) (Xs : va_W) (sb va n : Nat)  : HC l yJ0_isLatin1 cJ0_isLatin1 1 (some .boolean) ({ frames := 0, cells := 0, slots := 0, locals := 0 }) D dT kk [.ref sb] ((sb, .inr (9, [.ref va, .int (nI 0), .int (nI 0), .int (nI n)])) :: Xs) (hQi D dT (fun (u : Unit) => (sb, .inr (9, [.ref va, .int (nI 0), .int (nI 0), .int (nI n)])) :: Xs) (fun rr _ => rr = nI 1 ∧ True)) 0 0 := by
  refine HC.ofG (own := "java/lang/AbstractStringBuilder") (L := [some (.ref sb)]) rfl (by decide) (Nat.le_of_ble_eq_true rfl) rfl ?_
  intro p' e' s' m' bl' mt' c' A' hA' C0 hE hnm
  refine h_cs (pc := 0) C0 hE q287 dJ0_isLatin1_0 ?_
  refine g_if_eqN (pc := 3) 17 C0 (by decide) dJ0_isLatin1_3 (by decide) (fun h3 => ?_) (fun h3 => ?_)
  · exact absurd h3 (by decide)
  refine g_aload_n (pc := 6) 0 C0 rfl dJ0_isLatin1_6 rfl ?_
  refine h_get (pc := 7) (v := .int (nI 0)) (C := RJ1) (T := TJ1) (N := 4) (ci := 9) (q0 := 0) (ref := "") C0 1 rfl rfl in_J1 (by decide) q297 rfl dJ0_isLatin1_7 ?_
  refine g_if_neN (pc := 10) 17 C0 (by decide) dJ0_isLatin1_10 (by decide) (fun h10 => ?_) (fun h10 => ?_)
  · exact absurd h10 (fun h => h rfl)
  refine g_iconst (pc := 13) (v := (nI 1)) C0 dJ0_isLatin1_13 (by decide) ?_
  refine g_goto (pc := 14) 18 C0 dJ0_isLatin1_14 (by decide) ?_
  exact h_zret (pc := 18) C0 () dJ0_isLatin1_18 (by decide) rfl ⟨rfl, trivial⟩
set_option maxHeartbeats 4000000 in
set_option maxRecDepth 100000 in
theorem hJ0_length (l : Launch) (D : va_G) (dT : Nat → ClassId) (kk : (Nat → Nat) × (Nat → Nat)) (Xs : va_W) (sb va n : Nat)  : HC l yJ0_length cJ0_length 1 (some .int) ({ frames := 0, cells := 0, slots := 0, locals := 0 }) D dT kk [.ref sb] ((sb, .inr (9, [.ref va, .int (nI 0), .int (nI 0), .int (nI n)])) :: Xs) (hQi D dT (fun (u : Unit) => (sb, .inr (9, [.ref va, .int (nI 0), .int (nI 0), .int (nI n)])) :: Xs) (fun rr _ => rr = nI n ∧ True)) 0 0 := by
  refine HC.ofG (own := "java/lang/AbstractStringBuilder") (L := [some (.ref sb)]) rfl (by decide) (Nat.le_of_ble_eq_true rfl) rfl ?_
  intro p' e' s' m' bl' mt' c' A' hA' C0 hE hnm
  refine g_aload_n (pc := 0) 0 C0 rfl dJ0_length_0 rfl ?_
  refine h_get (pc := 1) (v := .int (nI n)) (C := RJ1) (T := TJ1) (N := 4) (ci := 9) (q0 := 0) (ref := "") C0 3 rfl rfl in_J1 (by decide) q299 rfl dJ0_length_1 ?_
  exact h_iret (pc := 4) C0 () dJ0_length_4 rfl ⟨rfl, trivial⟩
set_option maxHeartbeats 4000000 in
set_option maxRecDepth 100000 in
theorem hJ1_length (l : Launch) (D : va_G) (dT : Nat → ClassId) (kk : (Nat → Nat) × (Nat → Nat)) (Xs : va_W) (sb va n : Nat)  : HC l yJ1_length cJ1_length 1 (some .int) ({ frames := 1, cells := 0, slots := 0, locals := 20 }) D dT kk [.ref sb] ((sb, .inr (9, [.ref va, .int (nI 0), .int (nI 0), .int (nI n)])) :: Xs) (hQi D dT (fun (u : Unit) => (sb, .inr (9, [.ref va, .int (nI 0), .int (nI 0), .int (nI n)])) :: Xs) (fun rr _ => rr = nI n ∧ True)) 0 0 := by
  refine HC.ofG (own := "java/lang/StringBuilder") (L := [some (.ref sb)]) rfl (by decide) (Nat.le_of_ble_eq_true rfl) rfl ?_
  intro p' e' s' m' bl' mt' c' A' hA' C0 hE hnm
  refine g_aload_n (pc := 0) 0 C0 rfl dJ1_length_0 rfl ?_
  refine h_suI (pc := 1) (na := 0) (As := []) (rest := []) C0 hE (hJ0_length l D dT kk Xs sb va n) (q0 := 0) (ci := 9) (C := RJ1) (T := TJ1) (N := 4) (a := sb) rfl rfl (ca_J1 C0) q429 q425 q308 q424 q62 q430 (by decide +kernel) ⟨Nat.le_of_ble_eq_true rfl, Nat.le_of_ble_eq_true rfl⟩ rfl rfl ⟨Nat.le_of_ble_eq_true rfl, Nat.le_of_ble_eq_true rfl⟩ rfl rfl (Nat.le_of_ble_eq_true rfl) dJ1_length_1 (fun r u hq9 => ?_)
  obtain ⟨rfl, -⟩ := hq9
  exact h_iret (pc := 4) C0 () dJ1_length_4 rfl ⟨rfl, trivial⟩
set_option maxHeartbeats 4000000 in
set_option maxRecDepth 100000 in
theorem hJ0_getValue (l : Launch) (D : va_G) (dT : Nat → ClassId) (kk : (Nat → Nat) × (Nat → Nat)) (Xs : va_W) (sb va n : Nat)  : HC l yJ0_getValue cJ0_getValue 1 (some (.array .byte)) ({ frames := 0, cells := 0, slots := 0, locals := 0 }) D dT kk [.ref sb] ((sb, .inr (9, [.ref va, .int (nI 0), .int (nI 0), .int (nI n)])) :: Xs) (hQr D dT (fun (u : Unit) (r : Nat) => (sb, .inr (9, [.ref va, .int (nI 0), .int (nI 0), .int (nI n)])) :: Xs) (fun _ rr => rr = va ∧ True)) 0 0 := by
  refine HC.ofG (own := "java/lang/AbstractStringBuilder") (L := [some (.ref sb)]) rfl (by decide) (Nat.le_of_ble_eq_true rfl) rfl ?_
  intro p' e' s' m' bl' mt' c' A' hA' C0 hE hnm
  refine g_aload_n (pc := 0) 0 C0 rfl dJ0_getValue_0 rfl ?_
  refine h_get (pc := 1) (v := .ref va) (C := RJ1) (T := TJ1) (N := 4) (ci := 9) (q0 := 0) (ref := "") C0 0 rfl rfl in_J1 (by decide) q296 rfl dJ0_getValue_1 ?_
  exact h_aret (pc := 4) C0 (Or.inr ⟨_, rfl⟩) () dJ0_getValue_4 rfl ⟨rfl, trivial⟩
set_option maxHeartbeats 4000000 in
set_option maxRecDepth 100000 in
theorem hJ0_init (l : Launch) (D : va_G) (dT : Nat → ClassId) (kk : (Nat → Nat) × (Nat → Nat)) (Xs : va_W) (sb : Nat)  : HC l yJ0_init cJ0_init 2 none ({ frames := 1, cells := 1, slots := 16, locals := 20 }) D dT kk [.ref sb, .int (nI 16)] ((sb, .inr (9, [.null, .int (nI 0), .int (nI 0), .int (nI 0)])) :: Xs) (hQv D dT (fun (u : Nat) => (sb, .inr (9, [.ref u, .int (nI 0), .int (nI 0), .int (nI 0)])) :: (u, .inl (dT 2, 16, .inl (fun _ => 0))) :: Xs) (fun _ => True)) 1 16 := by
  refine HC.ofG (own := "java/lang/AbstractStringBuilder") (L := [some (.ref sb), some (.int (nI 16))]) rfl (by decide) (Nat.le_of_ble_eq_true rfl) rfl ?_
  intro p' e' s' m' bl' mt' c' A' hA' C0 hE hnm
  refine g_aload_n (pc := 0) 0 C0 rfl dJ0_init_0 rfl ?_
  refine h_objInit (pc := 1) C0 q286 q85 q86 (Nat.le_of_ble_eq_true rfl) (Nat.le_of_ble_eq_true rfl) dJ0_init_1 ?_
  refine h_cs (pc := 4) C0 hE q287 dJ0_init_4 ?_
  refine g_if_eqN (pc := 7) 25 C0 (by decide) dJ0_init_7 (by decide) (fun h7 => ?_) (fun h7 => ?_)
  · exact absurd h7 (by decide)
  refine g_aload_n (pc := 10) 0 C0 rfl dJ0_init_10 rfl ?_
  refine g_iload_n (pc := 11) 1 C0 rfl dJ0_init_11 rfl ?_
  refine h_newaF (pc := 12) (ty := .byte) (dA := dT 2) C0 16 rfl rfl hE.fB q227 (by decide) (by decide) ⟨Nat.le_of_ble_eq_true rfl, Nat.le_of_ble_eq_true rfl⟩ dJ0_init_12 (fun q12 => ?_)
  refine h_put (pc := 14) (C := RJ1) (T := TJ1) (N := 4) (ci := 9) (q0 := 1) (ws' := (q12, .inl (dT 2, 16, .inl (fun _ => 0))) :: (sb, .inr (9, [.ref q12, .int (nI 0), .int (nI 0), .int (nI 0)])) :: Xs) C0 tyJ1 tyJ1_ok nmJ1 0 rfl rfl in_J1 (by decide) q296 rfl rfl rfl rfl (by show 0 < 4; decide) rfl dJ0_init_14 ?_
  refine g_aload_n (pc := 17) 0 C0 rfl dJ0_init_17 rfl ?_
  refine g_iconst (pc := 18) (v := (nI 0)) C0 dJ0_init_18 (by decide) ?_
  refine h_put (pc := 19) (C := RJ1) (T := TJ1) (N := 4) (ci := 9) (q0 := 1) (ty := .byte) (ws' := (q12, .inl (dT 2, 16, .inl (fun _ => 0))) :: (sb, .inr (9, [.ref q12, .int (nI 0), .int (nI 0), .int (nI 0)])) :: Xs) C0 tyJ1 tyJ1_ok nmJ1 1 rfl rfl in_J1 (by decide) q297 rfl rfl (by decide) rfl (by show 1 < 4; decide) rfl dJ0_init_19 ?_
  refine g_goto (pc := 22) 38 C0 dJ0_init_22 (by decide) ?_
  refine G.front 1 (ws' := (sb, .inr (9, [.ref q12, .int (nI 0), .int (nI 0), .int (nI 0)])) :: (q12, .inl (dT 2, 16, .inl (fun _ => 0))) :: Xs) rfl rfl ?_
  exact h_vret (pc := 38) C0 q12 dJ0_init_38 rfl trivial
set_option maxHeartbeats 4000000 in
set_option maxRecDepth 100000 in
theorem hJ1_init (l : Launch) (D : va_G) (dT : Nat → ClassId) (kk : (Nat → Nat) × (Nat → Nat)) (Xs : va_W) (sb : Nat)  : HC l yJ1_init cJ1_init 1 none ({ frames := 2, cells := 1, slots := 16, locals := 41 }) D dT kk [.ref sb] ((sb, .inr (9, [.null, .int (nI 0), .int (nI 0), .int (nI 0)])) :: Xs) (hQv D dT (fun (u : Nat) => (sb, .inr (9, [.ref u, .int (nI 0), .int (nI 0), .int (nI 0)])) :: (u, .inl (dT 2, 16, .inl (fun _ => 0))) :: Xs) (fun _ => True)) 1 16 := by
  refine HC.ofG (own := "java/lang/StringBuilder") (L := [some (.ref sb)]) rfl (by decide) (Nat.le_of_ble_eq_true rfl) rfl ?_
  intro p' e' s' m' bl' mt' c' A' hA' C0 hE hnm
  refine g_aload_n (pc := 0) 0 C0 rfl dJ1_init_0 rfl ?_
  refine g_bipush (pc := 1) (v := (nI 16)) C0 dJ1_init_1 (by decide) ?_
  refine h_ci (pc := 3) (na := 1) (As := [.int (nI 16)]) (rest := []) C0 hE (hJ0_init l D dT kk Xs sb) q283 q284 q62 q285 rfl (by decide +kernel) ⟨Nat.le_of_ble_eq_true rfl, Nat.le_of_ble_eq_true rfl⟩ rfl rfl ⟨Nat.le_of_ble_eq_true rfl, Nat.le_of_ble_eq_true rfl⟩ rfl rfl (Nat.le_of_ble_eq_true rfl) dJ1_init_3 (fun u3 hq9 => ?_)
  exact h_vret (pc := 6) C0 u3 dJ1_init_6 rfl trivial
set_option maxHeartbeats 4000000 in
set_option maxRecDepth 100000 in
theorem hJ6_copyOf (l : Launch) (D : va_G) (dT : Nat → ClassId) (kk : (Nat → Nat) × (Nat → Nat)) (Xs : va_W) (va m N : Nat) (f : Nat → Int32) (hm : m < N) (hN : N < 2 ^ 28) (hf : sb_Fit f) : HC l yJ6_copyOf cJ6_copyOf 3 (some (.array .byte)) ({ frames := 1, cells := 1, slots := N, locals := 64 }) D dT kk [.ref va, .int (nI N)] ((va, .inl (dT 2, m, .inl f)) :: Xs) (hQr D dT (fun (u : Unit) (r : Nat) => (r, .inl (dT 2, N, .inl (va_cpy f (fun _ => 0) 0 0 m))) :: (va, .inl (dT 2, m, .inl f)) :: Xs) (fun _ _ => True)) 1 N := by
  refine HC.ofG (own := "java/util/Arrays") (L := [some (.ref va), some (.int (nI N)), none]) rfl (by decide) (Nat.le_of_ble_eq_true rfl) rfl ?_
  intro p' e' s' m' bl' mt' c' A' hA' C0 hE hnm
  refine g_iload_n (pc := 0) 1 C0 rfl dJ6_copyOf_0 rfl ?_
  refine g_aload_n (pc := 1) 0 C0 rfl dJ6_copyOf_1 rfl ?_
  refine h_alen (pc := 2) (q0 := 0) (t0 := 2) C0 rfl rfl dJ6_copyOf_2 ?_
  refine G.stE (st' := [.int (nI m), .int (nI N)]) rfl ?_
  refine g_icmp_neN (pc := 3) 14 C0 (by omega) (by omega) dJ6_copyOf_3 (by decide) (fun h3 => ?_) (fun h3 => ?_)
  rotate_left
  · exact absurd h3 (by omega)
  refine g_iload_n (pc := 14) 1 C0 rfl dJ6_copyOf_14 rfl ?_
  refine h_newaF (pc := 15) (ty := .byte) (dA := dT 2) C0 N rfl rfl hE.fB q227 (by omega) (by dsimp only [componentBytes]; omega) (by constructor <;> dsimp only <;> omega) dJ6_copyOf_15 (fun q15 => ?_)
  refine g_astore_n (pc := 17) 2 C0 (L1 := [some (.ref va), some (.int (nI N)), some (.ref q15)]) rfl (by decide) dJ6_copyOf_17 rfl rfl ?_
  refine g_aload_n (pc := 18) 0 C0 rfl dJ6_copyOf_18 rfl ?_
  refine g_iconst (pc := 19) (v := (nI 0)) C0 dJ6_copyOf_19 (by decide) ?_
  refine g_aload_n (pc := 20) 2 C0 rfl dJ6_copyOf_20 rfl ?_
  refine g_iconst (pc := 21) (v := (nI 0)) C0 dJ6_copyOf_21 (by decide) ?_
  refine g_aload_n (pc := 22) 0 C0 rfl dJ6_copyOf_22 rfl ?_
  refine h_alen (pc := 23) (q0 := 1) (t0 := 2) C0 rfl rfl dJ6_copyOf_23 ?_
  refine G.stE (st' := [.int (nI m), .int (nI 0), .ref q15, .int (nI 0), .ref va]) rfl ?_
  refine g_iload_n (pc := 24) 1 C0 rfl dJ6_copyOf_24 rfl ?_
  refine g_mmin (pc := 25) C0 (by omega) (by omega) q346 q347 q67 q348 (Nat.le_of_ble_eq_true rfl) (Nat.le_of_ble_eq_true rfl) (by constructor <;> dsimp only <;> omega) dJ6_copyOf_25 ?_
  refine G.stE (st' := [.int (nI m), .int (nI 0), .ref q15, .int (nI 0), .ref va]) (by rw [show min m N = m by omega]) ?_
  refine h_copyB (pc := 28) (q0 := 1) (q1 := 0) (t0 := 2) (ws' := (q15, .inl (dT 2, N, .inl (va_cpy f (fun _ => 0) 0 0 m))) :: (va, .inl (dT 2, m, .inl f)) :: Xs) C0 m rfl rfl rfl (by omega) (by omega) (by omega) (fun i _ => hf i) rfl q349 q351 q350 q69 (Nat.le_of_ble_eq_true rfl) (Nat.le_of_ble_eq_true rfl) dJ6_copyOf_28 ?_
  refine g_aload_n (pc := 31) 2 C0 rfl dJ6_copyOf_31 rfl ?_
  refine G.widen (k' := 1) (n' := N) (by decide) (by omega) ?_
  exact h_aret (pc := 32) C0 (Or.inr ⟨_, rfl⟩) () dJ6_copyOf_32 rfl trivial
set_option maxHeartbeats 4000000 in
set_option maxRecDepth 100000 in
theorem hJ0_newCapacity (l : Launch) (D : va_G) (dT : Nat → ClassId) (kk : (Nat → Nat) × (Nat → Nat)) (Xs : va_W) (sb va m n : Nat) (f : Nat → Int32) (hm : m < 2 ^ 26) : HC l yJ0_newCapacity cJ0_newCapacity 6 (some .int) ({ frames := 2, cells := 0, slots := 0, locals := 44 }) D dT kk [.ref sb, .int (nI (m + 1))] ((sb, .inr (9, [.ref va, .int (nI 0), .int (nI 0), .int (nI n)])) :: (va, .inl (dT 2, m, .inl f)) :: Xs) (hQi D dT (fun (u : Unit) => (sb, .inr (9, [.ref va, .int (nI 0), .int (nI 0), .int (nI n)])) :: (va, .inl (dT 2, m, .inl f)) :: Xs) (fun rr _ => rr = nI (2 * m + 2) ∧ True)) 0 0 := by
  refine HC.ofG (own := "java/lang/AbstractStringBuilder") (L := [some (.ref sb), some (.int (nI (m + 1))), none, none, none, none]) rfl (by decide) (Nat.le_of_ble_eq_true rfl) rfl ?_
  intro p' e' s' m' bl' mt' c' A' hA' C0 hE hnm
  refine g_aload_n (pc := 0) 0 C0 rfl dJ0_newCapacity_0 rfl ?_
  refine h_get (pc := 1) (v := .ref va) (C := RJ1) (T := TJ1) (N := 4) (ci := 9) (q0 := 0) (ref := "") C0 0 rfl rfl in_J1 (by decide) q296 rfl dJ0_newCapacity_1 ?_
  refine h_alen (pc := 4) (q0 := 1) (t0 := 2) C0 rfl rfl dJ0_newCapacity_4 ?_
  refine G.stE (st' := [.int (nI m)]) rfl ?_
  refine g_istore_n (pc := 5) 2 C0 (L1 := [some (.ref sb), some (.int (nI (m + 1))), some (.int (nI m)), none, none, none]) rfl (by decide) dJ0_newCapacity_5 rfl rfl ?_
  refine g_iload_n (pc := 6) 1 C0 rfl dJ0_newCapacity_6 rfl ?_
  refine g_aload_n (pc := 7) 0 C0 rfl dJ0_newCapacity_7 rfl ?_
  refine h_get (pc := 8) (v := .int (nI 0)) (C := RJ1) (T := TJ1) (N := 4) (ci := 9) (q0 := 0) (ref := "") C0 1 rfl rfl in_J1 (by decide) q297 rfl dJ0_newCapacity_8 ?_
  refine h_shl0 (pc := 11) C0 dJ0_newCapacity_11 ?_
  refine g_istore_n (pc := 12) 3 C0 (L1 := [some (.ref sb), some (.int (nI (m + 1))), some (.int (nI m)), some (.int (nI (m + 1))), none, none]) rfl (by decide) dJ0_newCapacity_12 rfl rfl ?_
  refine g_iload_n (pc := 13) 3 C0 rfl dJ0_newCapacity_13 rfl ?_
  refine g_iload_n (pc := 14) 2 C0 rfl dJ0_newCapacity_14 rfl ?_
  refine g_isubN (pc := 15) C0 (by omega) dJ0_newCapacity_15 ?_
  refine g_istore (pc := 16) 4 C0 (L1 := [some (.ref sb), some (.int (nI (m + 1))), some (.int (nI m)), some (.int (nI (m + 1))), some (.int (nI ((m + 1) - m))), none]) rfl (by decide) dJ0_newCapacity_16 rfl ?_
  refine g_iload_n (pc := 18) 2 C0 rfl dJ0_newCapacity_18 rfl ?_
  refine g_iload (pc := 19) 4 C0 rfl dJ0_newCapacity_19 ?_
  refine g_iload_n (pc := 21) 2 C0 rfl dJ0_newCapacity_21 rfl ?_
  refine g_iconst (pc := 22) (v := (nI 2)) C0 dJ0_newCapacity_22 (by decide) ?_
  refine g_aload_n (pc := 23) 0 C0 rfl dJ0_newCapacity_23 rfl ?_
  refine h_get (pc := 24) (v := .int (nI 0)) (C := RJ1) (T := TJ1) (N := 4) (ci := 9) (q0 := 0) (ref := "") C0 1 rfl rfl in_J1 (by decide) q297 rfl dJ0_newCapacity_24 ?_
  refine h_shl0 (pc := 27) C0 dJ0_newCapacity_27 ?_
  refine g_iaddN (pc := 28) C0  dJ0_newCapacity_28 ?_
  refine g_csi (pc := 29) (na := 3) (As := [.int (nI m), .int (nI ((m + 1) - m)), .int (nI (m + 2))]) (rest := []) C0 (hJ4_newLength l m ((m + 1) - m) (m + 2) (by omega) (by omega)) q325 q326 q66 q327 (by decide +kernel) ⟨Nat.le_of_ble_eq_true rfl, Nat.le_of_ble_eq_true rfl⟩ rfl rfl ⟨Nat.le_of_ble_eq_true rfl, Nat.le_of_ble_eq_true rfl⟩ rfl rfl (Nat.le_of_ble_eq_true rfl) dJ0_newCapacity_29 ?_
  refine g_istore (pc := 32) 5 C0 (L1 := [some (.ref sb), some (.int (nI (m + 1))), some (.int (nI m)), some (.int (nI (m + 1))), some (.int (nI ((m + 1) - m))), some (.int (nI (m + max ((m + 1) - m) (m + 2))))]) rfl (by decide) dJ0_newCapacity_32 rfl ?_
  refine g_iload (pc := 34) 5 C0 rfl dJ0_newCapacity_34 ?_
  have c36 : Jvm.Cond.constant "java/lang/AbstractStringBuilder" 39 (nI 2147483647) ∈ lw_all := q335
  refine g_ldc (pc := 36) (v := nI 2147483647) C0 c36 dJ0_newCapacity_36 ?_
  refine g_icmp_neN (pc := 38) 51 C0 (by omega) (by decide) dJ0_newCapacity_38 (by decide) (fun h38 => ?_) (fun h38 => ?_)
  rotate_left
  · exact absurd h38 (by omega)
  refine g_iload (pc := 51) 5 C0 rfl dJ0_newCapacity_51 ?_
  refine g_aload_n (pc := 53) 0 C0 rfl dJ0_newCapacity_53 rfl ?_
  refine h_get (pc := 54) (v := .int (nI 0)) (C := RJ1) (T := TJ1) (N := 4) (ci := 9) (q0 := 0) (ref := "") C0 1 rfl rfl in_J1 (by decide) q297 rfl dJ0_newCapacity_54 ?_
  refine h_shr0 (pc := 57) C0 dJ0_newCapacity_57 ?_
  exact h_iret (pc := 58) C0 () dJ0_newCapacity_58 rfl ⟨congrArg nI (by omega), trivial⟩
set_option maxHeartbeats 4000000 in
set_option maxRecDepth 100000 in
theorem hJ0_ensF (l : Launch) (D : va_G) (dT : Nat → ClassId) (kk : (Nat → Nat) × (Nat → Nat)) (Xs : va_W) (sb va m n q : Nat) (f : Nat → Int32) (hq : q ≤ m) (hm : m < 2 ^ 26) : HC l yJ0_ensureCapacityInternal cJ0_ensureCapacityInternal 3 none ({ frames := 0, cells := 0, slots := 0, locals := 0 }) D dT kk [.ref sb, .int (nI q)] ((sb, .inr (9, [.ref va, .int (nI 0), .int (nI 0), .int (nI n)])) :: (va, .inl (dT 2, m, .inl f)) :: Xs) (hQv D dT (fun (u : Unit) => (sb, .inr (9, [.ref va, .int (nI 0), .int (nI 0), .int (nI n)])) :: (va, .inl (dT 2, m, .inl f)) :: Xs) (fun _ => True)) 0 0 := by
  refine HC.ofG (own := "java/lang/AbstractStringBuilder") (L := [some (.ref sb), some (.int (nI q)), none]) rfl (by decide) (Nat.le_of_ble_eq_true rfl) rfl ?_
  intro p' e' s' m' bl' mt' c' A' hA' C0 hE hnm
  refine g_aload_n (pc := 0) 0 C0 rfl dJ0_ensureCapacityInternal_0 rfl ?_
  refine h_get (pc := 1) (v := .ref va) (C := RJ1) (T := TJ1) (N := 4) (ci := 9) (q0 := 0) (ref := "") C0 0 rfl rfl in_J1 (by decide) q296 rfl dJ0_ensureCapacityInternal_1 ?_
  refine h_alen (pc := 4) (q0 := 1) (t0 := 2) C0 rfl rfl dJ0_ensureCapacityInternal_4 ?_
  refine G.stE (st' := [.int (nI m)]) rfl ?_
  refine g_aload_n (pc := 5) 0 C0 rfl dJ0_ensureCapacityInternal_5 rfl ?_
  refine h_get (pc := 6) (v := .int (nI 0)) (C := RJ1) (T := TJ1) (N := 4) (ci := 9) (q0 := 0) (ref := "") C0 1 rfl rfl in_J1 (by decide) q297 rfl dJ0_ensureCapacityInternal_6 ?_
  refine h_shr0 (pc := 9) C0 dJ0_ensureCapacityInternal_9 ?_
  refine g_istore_n (pc := 10) 2 C0 (L1 := [some (.ref sb), some (.int (nI q)), some (.int (nI m))]) rfl (by decide) dJ0_ensureCapacityInternal_10 rfl rfl ?_
  refine g_iload_n (pc := 11) 1 C0 rfl dJ0_ensureCapacityInternal_11 rfl ?_
  refine g_iload_n (pc := 12) 2 C0 rfl dJ0_ensureCapacityInternal_12 rfl ?_
  refine g_isub (pc := 13) C0 dJ0_ensureCapacityInternal_13 ?_
  refine g_if_le (pc := 14) 38 C0 dJ0_ensureCapacityInternal_14 (by decide) (fun h14 => ?_) (fun h14 => ?_)
  rotate_left
  · exact absurd h14 (fun h => h (sb_le0 hq (by omega)))
  exact h_vret (pc := 38) C0 () dJ0_ensureCapacityInternal_38 rfl trivial
set_option maxHeartbeats 4000000 in
set_option maxRecDepth 100000 in
theorem hJ0_ensG (l : Launch) (D : va_G) (dT : Nat → ClassId) (kk : (Nat → Nat) × (Nat → Nat)) (Xs : va_W) (sb va m n : Nat) (f : Nat → Int32) (hm : m < 2 ^ 26) (hf : sb_Fit f) : HC l yJ0_ensureCapacityInternal cJ0_ensureCapacityInternal 3 none ({ frames := 3, cells := 1, slots := 2 * m + 2, locals := 86 }) D dT kk [.ref sb, .int (nI (m + 1))] ((sb, .inr (9, [.ref va, .int (nI 0), .int (nI 0), .int (nI n)])) :: (va, .inl (dT 2, m, .inl f)) :: Xs) (hQv D dT (fun (u : Nat) => (sb, .inr (9, [.ref u, .int (nI 0), .int (nI 0), .int (nI n)])) :: (u, .inl (dT 2, 2 * m + 2, .inl (va_cpy f (fun _ => 0) 0 0 m))) :: Xs) (fun _ => True)) 1 (2 * m + 2) := by
  refine HC.ofG (own := "java/lang/AbstractStringBuilder") (L := [some (.ref sb), some (.int (nI (m + 1))), none]) rfl (by decide) (Nat.le_of_ble_eq_true rfl) rfl ?_
  intro p' e' s' m' bl' mt' c' A' hA' C0 hE hnm
  refine g_aload_n (pc := 0) 0 C0 rfl dJ0_ensureCapacityInternal_0 rfl ?_
  refine h_get (pc := 1) (v := .ref va) (C := RJ1) (T := TJ1) (N := 4) (ci := 9) (q0 := 0) (ref := "") C0 0 rfl rfl in_J1 (by decide) q296 rfl dJ0_ensureCapacityInternal_1 ?_
  refine h_alen (pc := 4) (q0 := 1) (t0 := 2) C0 rfl rfl dJ0_ensureCapacityInternal_4 ?_
  refine G.stE (st' := [.int (nI m)]) rfl ?_
  refine g_aload_n (pc := 5) 0 C0 rfl dJ0_ensureCapacityInternal_5 rfl ?_
  refine h_get (pc := 6) (v := .int (nI 0)) (C := RJ1) (T := TJ1) (N := 4) (ci := 9) (q0 := 0) (ref := "") C0 1 rfl rfl in_J1 (by decide) q297 rfl dJ0_ensureCapacityInternal_6 ?_
  refine h_shr0 (pc := 9) C0 dJ0_ensureCapacityInternal_9 ?_
  refine g_istore_n (pc := 10) 2 C0 (L1 := [some (.ref sb), some (.int (nI (m + 1))), some (.int (nI m))]) rfl (by decide) dJ0_ensureCapacityInternal_10 rfl rfl ?_
  refine g_iload_n (pc := 11) 1 C0 rfl dJ0_ensureCapacityInternal_11 rfl ?_
  refine g_iload_n (pc := 12) 2 C0 rfl dJ0_ensureCapacityInternal_12 rfl ?_
  refine g_isub (pc := 13) C0 dJ0_ensureCapacityInternal_13 ?_
  refine g_if_le (pc := 14) 38 C0 dJ0_ensureCapacityInternal_14 (by decide) (fun h14 => ?_) (fun h14 => ?_)
  · exact absurd h14 (sb_nle0 (by omega) (by omega))
  refine g_aload_n (pc := 17) 0 C0 rfl dJ0_ensureCapacityInternal_17 rfl ?_
  refine g_aload_n (pc := 18) 0 C0 rfl dJ0_ensureCapacityInternal_18 rfl ?_
  refine h_get (pc := 19) (v := .ref va) (C := RJ1) (T := TJ1) (N := 4) (ci := 9) (q0 := 0) (ref := "") C0 0 rfl rfl in_J1 (by decide) q296 rfl dJ0_ensureCapacityInternal_19 ?_
  refine g_aload_n (pc := 22) 0 C0 rfl dJ0_ensureCapacityInternal_22 rfl ?_
  refine g_iload_n (pc := 23) 1 C0 rfl dJ0_ensureCapacityInternal_23 rfl ?_
  refine h_cpi (pc := 24) (na := 1) (As := [.int (nI (m + 1))]) (rest := [.ref va, .ref sb]) C0 hE (hJ0_newCapacity l D dT kk Xs sb va m n f (by omega)) (q0 := 0) (ci := 9) (C := RJ1) (T := TJ1) (N := 4) (a := sb) rfl rfl hE.2.2.1.2.2.1 q321 q1361 q323 q62 q324 (by decide +kernel) ⟨Nat.le_of_ble_eq_true rfl, Nat.le_of_ble_eq_true rfl⟩ rfl rfl (by constructor <;> dsimp only <;> omega) rfl rfl (Nat.le_of_ble_eq_true rfl) dJ0_ensureCapacityInternal_24 (fun r u hq9 => ?_)
  obtain ⟨rfl, -⟩ := hq9
  refine g_aload_n (pc := 27) 0 C0 rfl dJ0_ensureCapacityInternal_27 rfl ?_
  refine h_get (pc := 28) (v := .int (nI 0)) (C := RJ1) (T := TJ1) (N := 4) (ci := 9) (q0 := 0) (ref := "") C0 1 rfl rfl in_J1 (by decide) q297 rfl dJ0_ensureCapacityInternal_28 ?_
  refine h_shl0 (pc := 31) C0 dJ0_ensureCapacityInternal_31 ?_
  refine G.front 1 (ws' := (va, .inl (dT 2, m, .inl f)) :: (sb, .inr (9, [.ref va, .int (nI 0), .int (nI 0), .int (nI n)])) :: Xs) rfl rfl ?_
  refine h_csr (pc := 32) (na := 2) (As := [.ref va, .int (nI (2 * m + 2))]) (rest := [.ref sb]) C0 hE (hJ6_copyOf l D dT kk ((sb, .inr (9, [.ref va, .int (nI 0), .int (nI 0), .int (nI n)])) :: Xs) va m (2 * m + 2) f (by omega) (by omega) hf) q336 q337 q68 q338 (by decide +kernel) ⟨Nat.le_of_ble_eq_true rfl, Nat.le_of_ble_eq_true rfl⟩ rfl rfl (by constructor <;> dsimp only <;> omega) rfl rfl (Nat.le_of_ble_eq_true rfl) dJ0_ensureCapacityInternal_32 (fun u r32 hq9 => ?_)
  refine h_put (pc := 35) (C := RJ1) (T := TJ1) (N := 4) (ci := 9) (q0 := 2) (ws' := (r32, .inl (dT 2, 2 * m + 2, .inl (va_cpy f (fun _ => 0) 0 0 m))) :: (va, .inl (dT 2, m, .inl f)) :: (sb, .inr (9, [.ref r32, .int (nI 0), .int (nI 0), .int (nI n)])) :: Xs) C0 tyJ1 tyJ1_ok nmJ1 0 rfl rfl in_J1 (by decide) q296 rfl rfl rfl rfl (by show 0 < 4; decide) rfl dJ0_ensureCapacityInternal_35 ?_
  refine G.drop (ws' := (r32, .inl (dT 2, 2 * m + 2, .inl (va_cpy f (fun _ => 0) 0 0 m))) :: (sb, .inr (9, [.ref r32, .int (nI 0), .int (nI 0), .int (nI n)])) :: Xs) (List.Sublist.cons_cons _ (List.Sublist.cons _ (List.Sublist.cons_cons _ (List.Sublist.refl _)))) ?_
  refine G.front 1 (ws' := (sb, .inr (9, [.ref r32, .int (nI 0), .int (nI 0), .int (nI n)])) :: (r32, .inl (dT 2, 2 * m + 2, .inl (va_cpy f (fun _ => 0) 0 0 m))) :: Xs) rfl rfl ?_
  refine G.widen (k' := 1) (n' := 2 * m + 2) (by decide) (by omega) ?_
  exact h_vret (pc := 38) C0 r32 dJ0_ensureCapacityInternal_38 rfl trivial
set_option maxHeartbeats 4000000 in
set_option maxRecDepth 100000 in
theorem hJ0_appF (l : Launch) (D : va_G) (dT : Nat → ClassId) (kk : (Nat → Nat) × (Nat → Nat)) (Xs : va_W) (sb va m n c : Nat) (f : Nat → Int32) (hn : n < m) (hm : m < 2 ^ 26) (hc : c < 128) (hf : sb_Fit f) : HC l yJ0_append cJ0_append 2 (some (.object "java/lang/AbstractStringBuilder")) ({ frames := 1, cells := 0, slots := 0, locals := 22 }) D dT kk [.ref sb, .int (nI c)] ((sb, .inr (9, [.ref va, .int (nI 0), .int (nI 0), .int (nI n)])) :: (va, .inl (dT 2, m, .inl f)) :: Xs) (hQr D dT (fun (u : Nat × (Nat → Int32)) (r : Nat) => (sb, .inr (9, [.ref u.1, .int (nI 0), .int (nI 0), .int (nI (n + 1))])) :: (u.1, .inl (dT 2, m, .inl u.2)) :: Xs) (fun u rr => rr = sb ∧ (∀ j, j < n → u.2 j = f j) ∧ u.2 n = nI c ∧ sb_Fit u.2)) 0 0 := by
  refine HC.ofG (own := "java/lang/AbstractStringBuilder") (L := [some (.ref sb), some (.int (nI c))]) rfl (by decide) (Nat.le_of_ble_eq_true rfl) rfl ?_
  intro p' e' s' m' bl' mt' c' A' hA' C0 hE hnm
  refine g_aload_n (pc := 0) 0 C0 rfl dJ0_append_0 rfl ?_
  refine g_aload_n (pc := 1) 0 C0 rfl dJ0_append_1 rfl ?_
  refine h_get (pc := 2) (v := .int (nI n)) (C := RJ1) (T := TJ1) (N := 4) (ci := 9) (q0 := 0) (ref := "") C0 3 rfl rfl in_J1 (by decide) q299 rfl dJ0_append_2 ?_
  refine g_iconst (pc := 5) (v := (nI 1)) C0 dJ0_append_5 (by decide) ?_
  refine g_iaddN (pc := 6) C0  dJ0_append_6 ?_
  refine h_cpv (pc := 7) (na := 1) (As := [.int (nI (n + 1))]) (rest := []) C0 hE (hJ0_ensF l D dT kk Xs sb va m n (n + 1) f (by omega) (by omega)) (q0 := 0) (ci := 9) (C := RJ1) (T := TJ1) (N := 4) (a := sb) rfl rfl hE.2.2.1.2.1 q317 q1360 q319 q62 q320 (by decide +kernel) ⟨Nat.le_of_ble_eq_true rfl, Nat.le_of_ble_eq_true rfl⟩ rfl rfl ⟨Nat.le_of_ble_eq_true rfl, Nat.le_of_ble_eq_true rfl⟩ rfl rfl (Nat.le_of_ble_eq_true rfl) dJ0_append_7 (fun u hq9 => ?_)
  refine g_aload_n (pc := 10) 0 C0 rfl dJ0_append_10 rfl ?_
  refine h_cui (pc := 11) (na := 0) (As := []) (rest := []) C0 hE (hJ0_isLatin1 l D dT kk ((va, .inl (dT 2, m, .inl f)) :: Xs) sb va n) (q0 := 0) (ci := 9) (C := RJ1) (T := TJ1) (N := 4) (a := sb) rfl rfl q352 q354 q355 q353 q62 q356 (by decide +kernel) ⟨Nat.le_of_ble_eq_true rfl, Nat.le_of_ble_eq_true rfl⟩ rfl rfl ⟨Nat.le_of_ble_eq_true rfl, Nat.le_of_ble_eq_true rfl⟩ rfl rfl (Nat.le_of_ble_eq_true rfl) dJ0_append_11 (fun r u hq9 => ?_)
  obtain ⟨rfl, -⟩ := hq9
  refine g_if_eqN (pc := 14) 45 C0 (by decide) dJ0_append_14 (by decide) (fun h14 => ?_) (fun h14 => ?_)
  · exact absurd h14 (by decide)
  refine g_iload_n (pc := 17) 1 C0 rfl dJ0_append_17 rfl ?_
  refine g_csi (pc := 18) (na := 1) (As := [.int (nI c)]) (rest := []) C0 (hJ7_canEncode l c (by omega)) q357 q358 q70 q359 (by decide +kernel) ⟨Nat.le_of_ble_eq_true rfl, Nat.le_of_ble_eq_true rfl⟩ rfl rfl ⟨Nat.le_of_ble_eq_true rfl, Nat.le_of_ble_eq_true rfl⟩ rfl rfl (Nat.le_of_ble_eq_true rfl) dJ0_append_18 ?_
  refine g_if_eqN (pc := 21) 45 C0 (by decide) dJ0_append_21 (by decide) (fun h21 => ?_) (fun h21 => ?_)
  · exact absurd h21 (by decide)
  refine g_aload_n (pc := 24) 0 C0 rfl dJ0_append_24 rfl ?_
  refine h_get (pc := 25) (v := .ref va) (C := RJ1) (T := TJ1) (N := 4) (ci := 9) (q0 := 0) (ref := "") C0 0 rfl rfl in_J1 (by decide) q296 rfl dJ0_append_25 ?_
  refine g_aload_n (pc := 28) 0 C0 rfl dJ0_append_28 rfl ?_
  refine g_dup (pc := 29) C0 dJ0_append_29 rfl ?_
  refine h_get (pc := 30) (v := .int (nI n)) (C := RJ1) (T := TJ1) (N := 4) (ci := 9) (q0 := 0) (ref := "") C0 3 rfl rfl in_J1 (by decide) q299 rfl dJ0_append_30 ?_
  refine g_dup_x1 (pc := 33) C0 dJ0_append_33 rfl rfl ?_
  refine g_iconst (pc := 34) (v := (nI 1)) C0 dJ0_append_34 (by decide) ?_
  refine g_iaddN (pc := 35) C0  dJ0_append_35 ?_
  refine h_put (pc := 36) (C := RJ1) (T := TJ1) (N := 4) (ci := 9) (q0 := 0) (ty := .int) (ws' := (sb, .inr (9, [.ref va, .int (nI 0), .int (nI 0), .int (nI (n + 1))])) :: (va, .inl (dT 2, m, .inl f)) :: Xs) C0 tyJ1 tyJ1_ok nmJ1 3 rfl rfl in_J1 (by decide) q299 rfl rfl rfl rfl (by show 3 < 4; decide) rfl dJ0_append_36 ?_
  refine g_iload_n (pc := 39) 1 C0 rfl dJ0_append_39 rfl ?_
  refine g_i2b (pc := 40) (v := (nI c)) C0 dJ0_append_40 (lt_b _ hc) ?_
  refine h_bast (pc := 41) (q0 := 1) (t0 := 2) (ws' := (sb, .inr (9, [.ref va, .int (nI 0), .int (nI 0), .int (nI (n + 1))])) :: (va, .inl (dT 2, m, .inl (upd f n (vp_nar .byte (nI c))))) :: Xs) C0 n rfl rfl (by omega) (by omega) rfl dJ0_append_41 ?_
  refine g_goto (pc := 42) 75 C0 dJ0_append_42 (by decide) ?_
  refine G.wsE (ws' := (sb, .inr (9, [.ref va, .int (nI 0), .int (nI 0), .int (nI (n + 1))])) :: (va, .inl (dT 2, m, .inl (upd f n (nI c)))) :: Xs) (by rw [lt_n _ hc]) ?_
  refine g_aload_n (pc := 75) 0 C0 rfl dJ0_append_75 rfl ?_
  exact h_aret (pc := 76) C0 (Or.inl ⟨_, rfl⟩) (va, upd f n (nI c)) dJ0_append_76 rfl ⟨rfl, fun j hj => if_neg (by omega), if_pos rfl, sb_fitU' hf (lt_f _ hc)⟩
set_option maxHeartbeats 4000000 in
set_option maxRecDepth 100000 in
theorem hJ0_appG (l : Launch) (D : va_G) (dT : Nat → ClassId) (kk : (Nat → Nat) × (Nat → Nat)) (Xs : va_W) (sb va m n c : Nat) (f : Nat → Int32) (hn : n = m) (hm : m < 2 ^ 26) (hc : c < 128) (hf : sb_Fit f) : HC l yJ0_append cJ0_append 2 (some (.object "java/lang/AbstractStringBuilder")) ({ frames := 4, cells := 1, slots := 2 * m + 2, locals := 108 }) D dT kk [.ref sb, .int (nI c)] ((sb, .inr (9, [.ref va, .int (nI 0), .int (nI 0), .int (nI n)])) :: (va, .inl (dT 2, m, .inl f)) :: Xs) (hQr D dT (fun (u : Nat × (Nat → Int32)) (r : Nat) => (sb, .inr (9, [.ref u.1, .int (nI 0), .int (nI 0), .int (nI (n + 1))])) :: (u.1, .inl (dT 2, (2 * m + 2), .inl u.2)) :: Xs) (fun u rr => rr = sb ∧ (∀ j, j < n → u.2 j = f j) ∧ u.2 n = nI c ∧ sb_Fit u.2)) 1 (2 * m + 2) := by
  refine HC.ofG (own := "java/lang/AbstractStringBuilder") (L := [some (.ref sb), some (.int (nI c))]) rfl (by decide) (Nat.le_of_ble_eq_true rfl) rfl ?_
  intro p' e' s' m' bl' mt' c' A' hA' C0 hE hnm
  subst hn
  refine g_aload_n (pc := 0) 0 C0 rfl dJ0_append_0 rfl ?_
  refine g_aload_n (pc := 1) 0 C0 rfl dJ0_append_1 rfl ?_
  refine h_get (pc := 2) (v := .int (nI n)) (C := RJ1) (T := TJ1) (N := 4) (ci := 9) (q0 := 0) (ref := "") C0 3 rfl rfl in_J1 (by decide) q299 rfl dJ0_append_2 ?_
  refine g_iconst (pc := 5) (v := (nI 1)) C0 dJ0_append_5 (by decide) ?_
  refine g_iaddN (pc := 6) C0  dJ0_append_6 ?_
  refine h_cpv (pc := 7) (na := 1) (As := [.int (nI (n + 1))]) (rest := []) C0 hE (hJ0_ensG l D dT kk Xs sb va n n f (by omega) hf) (q0 := 0) (ci := 9) (C := RJ1) (T := TJ1) (N := 4) (a := sb) rfl rfl hE.2.2.1.2.1 q317 q1360 q319 q62 q320 (by decide +kernel) ⟨Nat.le_of_ble_eq_true rfl, Nat.le_of_ble_eq_true rfl⟩ rfl rfl (by constructor <;> dsimp only <;> omega) rfl rfl (Nat.le_of_ble_eq_true rfl) dJ0_append_7 (fun u7 hq9 => ?_)
  refine g_aload_n (pc := 10) 0 C0 rfl dJ0_append_10 rfl ?_
  refine h_cui (pc := 11) (na := 0) (As := []) (rest := []) C0 hE (hJ0_isLatin1 l D dT kk ((u7, .inl (dT 2, 2 * n + 2, .inl (va_cpy f (fun _ => 0) 0 0 n))) :: Xs) sb u7 n) (q0 := 0) (ci := 9) (C := RJ1) (T := TJ1) (N := 4) (a := sb) rfl rfl q352 q354 q355 q353 q62 q356 (by decide +kernel) ⟨Nat.le_of_ble_eq_true rfl, Nat.le_of_ble_eq_true rfl⟩ rfl rfl (by constructor <;> dsimp only <;> omega) rfl rfl (Nat.le_of_ble_eq_true rfl) dJ0_append_11 (fun r u hq9 => ?_)
  obtain ⟨rfl, -⟩ := hq9
  refine g_if_eqN (pc := 14) 45 C0 (by decide) dJ0_append_14 (by decide) (fun h14 => ?_) (fun h14 => ?_)
  · exact absurd h14 (by decide)
  refine g_iload_n (pc := 17) 1 C0 rfl dJ0_append_17 rfl ?_
  refine g_csi (pc := 18) (na := 1) (As := [.int (nI c)]) (rest := []) C0 (hJ7_canEncode l c (by omega)) q357 q358 q70 q359 (by decide +kernel) ⟨Nat.le_of_ble_eq_true rfl, Nat.le_of_ble_eq_true rfl⟩ rfl rfl (by constructor <;> dsimp only <;> omega) rfl rfl (Nat.le_of_ble_eq_true rfl) dJ0_append_18 ?_
  refine g_if_eqN (pc := 21) 45 C0 (by decide) dJ0_append_21 (by decide) (fun h21 => ?_) (fun h21 => ?_)
  · exact absurd h21 (by decide)
  refine g_aload_n (pc := 24) 0 C0 rfl dJ0_append_24 rfl ?_
  refine h_get (pc := 25) (v := .ref u7) (C := RJ1) (T := TJ1) (N := 4) (ci := 9) (q0 := 0) (ref := "") C0 0 rfl rfl in_J1 (by decide) q296 rfl dJ0_append_25 ?_
  refine g_aload_n (pc := 28) 0 C0 rfl dJ0_append_28 rfl ?_
  refine g_dup (pc := 29) C0 dJ0_append_29 rfl ?_
  refine h_get (pc := 30) (v := .int (nI n)) (C := RJ1) (T := TJ1) (N := 4) (ci := 9) (q0 := 0) (ref := "") C0 3 rfl rfl in_J1 (by decide) q299 rfl dJ0_append_30 ?_
  refine g_dup_x1 (pc := 33) C0 dJ0_append_33 rfl rfl ?_
  refine g_iconst (pc := 34) (v := (nI 1)) C0 dJ0_append_34 (by decide) ?_
  refine g_iaddN (pc := 35) C0  dJ0_append_35 ?_
  refine h_put (pc := 36) (C := RJ1) (T := TJ1) (N := 4) (ci := 9) (q0 := 0) (ty := .int) (ws' := (sb, .inr (9, [.ref u7, .int (nI 0), .int (nI 0), .int (nI (n + 1))])) :: (u7, .inl (dT 2, 2 * n + 2, .inl (va_cpy f (fun _ => 0) 0 0 n))) :: Xs) C0 tyJ1 tyJ1_ok nmJ1 3 rfl rfl in_J1 (by decide) q299 rfl rfl rfl rfl (by show 3 < 4; decide) rfl dJ0_append_36 ?_
  refine g_iload_n (pc := 39) 1 C0 rfl dJ0_append_39 rfl ?_
  refine g_i2b (pc := 40) (v := (nI c)) C0 dJ0_append_40 (lt_b _ hc) ?_
  refine h_bast (pc := 41) (q0 := 1) (t0 := 2) (ws' := (sb, .inr (9, [.ref u7, .int (nI 0), .int (nI 0), .int (nI (n + 1))])) :: (u7, .inl (dT 2, 2 * n + 2, .inl (upd (va_cpy f (fun _ => 0) 0 0 n) n (vp_nar .byte (nI c))))) :: Xs) C0 n rfl rfl (by omega) (by omega) rfl dJ0_append_41 ?_
  refine g_goto (pc := 42) 75 C0 dJ0_append_42 (by decide) ?_
  refine G.wsE (ws' := (sb, .inr (9, [.ref u7, .int (nI 0), .int (nI 0), .int (nI (n + 1))])) :: (u7, .inl (dT 2, 2 * n + 2, .inl (upd (va_cpy f (fun _ => 0) 0 0 n) n (nI c)))) :: Xs) (by rw [lt_n _ hc]) ?_
  refine g_aload_n (pc := 75) 0 C0 rfl dJ0_append_75 rfl ?_
  refine G.widen (k' := 1) (n' := 2 * n + 2) (by decide) (by omega) ?_
  exact h_aret (pc := 76) C0 (Or.inl ⟨_, rfl⟩) (u7, upd (va_cpy f (fun _ => 0) 0 0 n) n (nI c)) dJ0_append_76 rfl ⟨rfl, fun j hj => (if_neg (by omega)).trans (sb_cpy0 hj), if_pos rfl, sb_fitU' (sb_fitC hf sb_fit0) (lt_f _ hc)⟩
set_option maxHeartbeats 4000000 in
set_option maxRecDepth 100000 in
theorem hJ1_appF (l : Launch) (D : va_G) (dT : Nat → ClassId) (kk : (Nat → Nat) × (Nat → Nat)) (Xs : va_W) (sb va m n c : Nat) (f : Nat → Int32) (hn : n < m) (hm : m < 2 ^ 26) (hc : c < 128) (hf : sb_Fit f) : HC l yJ1_append cJ1_append 2 (some (.object "java/lang/StringBuilder")) ({ frames := 2, cells := 0, slots := 0, locals := 43 }) D dT kk [.ref sb, .int (nI c)] ((sb, .inr (9, [.ref va, .int (nI 0), .int (nI 0), .int (nI n)])) :: (va, .inl (dT 2, m, .inl f)) :: Xs) (hQr D dT (fun (u : Nat × (Nat → Int32)) (r : Nat) => (sb, .inr (9, [.ref u.1, .int (nI 0), .int (nI 0), .int (nI (n + 1))])) :: (u.1, .inl (dT 2, m, .inl u.2)) :: Xs) (fun u rr => rr = sb ∧ (∀ j, j < n → u.2 j = f j) ∧ u.2 n = nI c ∧ sb_Fit u.2)) 0 0 := by
  refine HC.ofG (own := "java/lang/StringBuilder") (L := [some (.ref sb), some (.int (nI c))]) rfl (by decide) (Nat.le_of_ble_eq_true rfl) rfl ?_
  intro p' e' s' m' bl' mt' c' A' hA' C0 hE hnm
  refine g_aload_n (pc := 0) 0 C0 rfl dJ1_append_0 rfl ?_
  refine g_iload_n (pc := 1) 1 C0 rfl dJ1_append_1 rfl ?_
  refine h_suR (pc := 2) (na := 1) (As := [.int (nI c)]) (rest := []) C0 hE (hJ0_appF l D dT kk Xs sb va m n c f hn hm hc hf) (q0 := 0) (ci := 9) (C := RJ1) (T := TJ1) (N := 4) (a := sb) rfl rfl (ca_J1 C0) q314 q1359 q308 q315 q62 q316 (by decide +kernel) ⟨Nat.le_of_ble_eq_true rfl, Nat.le_of_ble_eq_true rfl⟩ rfl rfl ⟨Nat.le_of_ble_eq_true rfl, Nat.le_of_ble_eq_true rfl⟩ rfl rfl (Nat.le_of_ble_eq_true rfl) dJ1_append_2 (fun u2 r hq9 => ?_)
  obtain ⟨e9, hA2, hB2, hF2⟩ := hq9
  have e9 := e9.symm
  subst e9
  refine g_pop (pc := 5) C0 dJ1_append_5 rfl ?_
  refine g_aload_n (pc := 6) 0 C0 rfl dJ1_append_6 rfl ?_
  exact h_aret (pc := 7) C0 (Or.inl ⟨_, rfl⟩) u2 dJ1_append_7 rfl ⟨rfl, hA2, hB2, hF2⟩
set_option maxHeartbeats 4000000 in
set_option maxRecDepth 100000 in
theorem hJ1_appG (l : Launch) (D : va_G) (dT : Nat → ClassId) (kk : (Nat → Nat) × (Nat → Nat)) (Xs : va_W) (sb va m n c : Nat) (f : Nat → Int32) (hn : n = m) (hm : m < 2 ^ 26) (hc : c < 128) (hf : sb_Fit f) : HC l yJ1_append cJ1_append 2 (some (.object "java/lang/StringBuilder")) ({ frames := 5, cells := 1, slots := 2 * m + 2, locals := 129 }) D dT kk [.ref sb, .int (nI c)] ((sb, .inr (9, [.ref va, .int (nI 0), .int (nI 0), .int (nI n)])) :: (va, .inl (dT 2, m, .inl f)) :: Xs) (hQr D dT (fun (u : Nat × (Nat → Int32)) (r : Nat) => (sb, .inr (9, [.ref u.1, .int (nI 0), .int (nI 0), .int (nI (n + 1))])) :: (u.1, .inl (dT 2, (2 * m + 2), .inl u.2)) :: Xs) (fun u rr => rr = sb ∧ (∀ j, j < n → u.2 j = f j) ∧ u.2 n = nI c ∧ sb_Fit u.2)) 1 (2 * m + 2) := by
  refine HC.ofG (own := "java/lang/StringBuilder") (L := [some (.ref sb), some (.int (nI c))]) rfl (by decide) (Nat.le_of_ble_eq_true rfl) rfl ?_
  intro p' e' s' m' bl' mt' c' A' hA' C0 hE hnm
  refine g_aload_n (pc := 0) 0 C0 rfl dJ1_append_0 rfl ?_
  refine g_iload_n (pc := 1) 1 C0 rfl dJ1_append_1 rfl ?_
  refine h_suR (pc := 2) (na := 1) (As := [.int (nI c)]) (rest := []) C0 hE (hJ0_appG l D dT kk Xs sb va m n c f hn hm hc hf) (q0 := 0) (ci := 9) (C := RJ1) (T := TJ1) (N := 4) (a := sb) rfl rfl (ca_J1 C0) q314 q1359 q308 q315 q62 q316 (by decide +kernel) ⟨Nat.le_of_ble_eq_true rfl, Nat.le_of_ble_eq_true rfl⟩ rfl rfl (by constructor <;> dsimp only <;> omega) rfl rfl (Nat.le_of_ble_eq_true rfl) dJ1_append_2 (fun u2 r hq9 => ?_)
  obtain ⟨e9, hA2, hB2, hF2⟩ := hq9
  have e9 := e9.symm
  subst e9
  refine g_pop (pc := 5) C0 dJ1_append_5 rfl ?_
  refine g_aload_n (pc := 6) 0 C0 rfl dJ1_append_6 rfl ?_
  refine G.widen (k' := 1) (n' := 2 * m + 2) (by decide) (by omega) ?_
  exact h_aret (pc := 7) C0 (Or.inl ⟨_, rfl⟩) u2 dJ1_append_7 rfl ⟨rfl, hA2, hB2, hF2⟩
set_option maxHeartbeats 4000000 in
set_option maxRecDepth 100000 in
theorem hJ6_checkLength (l : Launch) (D : va_G) (dT : Nat → ClassId) (kk : (Nat → Nat) × (Nat → Nat)) (Xs : va_W) (a b : Nat) (h : a ≤ b) (hb : b < 2 ^ 31) : HC l yJ6_checkLength cJ6_checkLength 2 none ({ frames := 0, cells := 0, slots := 0, locals := 0 }) D dT kk [.int (nI a), .int (nI b)] (Xs) (hQv D dT (fun (u : Unit) => Xs) (fun _ => True)) 0 0 := by
  refine HC.ofG (own := "java/util/Arrays") (L := [some (.int (nI a)), some (.int (nI b))]) rfl (by decide) (Nat.le_of_ble_eq_true rfl) rfl ?_
  intro p' e' s' m' bl' mt' c' A' hA' C0 hE hnm
  refine g_iload_n (pc := 0) 1 C0 rfl dJ6_checkLength_0 rfl ?_
  refine g_iload_n (pc := 1) 0 C0 rfl dJ6_checkLength_1 rfl ?_
  refine g_icmp_geN (pc := 2) 37 C0 (by omega) (by omega) dJ6_checkLength_2 (by decide) (fun h2 => ?_) (fun h2 => ?_)
  rotate_left
  · exact absurd h2 (by omega)
  exact h_vret (pc := 37) C0 () dJ6_checkLength_37 rfl trivial
set_option maxHeartbeats 4000000 in
set_option maxRecDepth 100000 in
theorem hJ6_copyOfRangeByte (l : Launch) (D : va_G) (dT : Nat → ClassId) (kk : (Nat → Nat) × (Nat → Nat)) (Xs : va_W) (va m n : Nat) (f : Nat → Int32) (hn : n < m) (hm : m < 2 ^ 28) (hf : sb_Fit f) : HC l yJ6_copyOfRangeByte cJ6_copyOfRangeByte 5 (some (.array .byte)) ({ frames := 1, cells := 1, slots := n, locals := 64 }) D dT kk [.ref va, .int (nI 0), .int (nI n)] ((va, .inl (dT 2, m, .inl f)) :: Xs) (hQr D dT (fun (u : Nat → Int32) (r : Nat) => (r, .inl (dT 2, n, .inl u)) :: (va, .inl (dT 2, m, .inl f)) :: Xs) (fun u _ => (∀ j, j < n → u j = f j) ∧ sb_Fit u)) 1 n := by
  refine HC.ofG (own := "java/util/Arrays") (L := [some (.ref va), some (.int (nI 0)), some (.int (nI n)), none, none]) rfl (by decide) (Nat.le_of_ble_eq_true rfl) rfl ?_
  intro p' e' s' m' bl' mt' c' A' hA' C0 hE hnm
  refine g_iload_n (pc := 0) 1 C0 rfl dJ6_copyOfRangeByte_0 rfl ?_
  refine g_iload_n (pc := 1) 2 C0 rfl dJ6_copyOfRangeByte_1 rfl ?_
  refine h_csv (pc := 2) (na := 2) (As := [.int (nI 0), .int (nI n)]) (rest := []) C0 hE (hJ6_checkLength l D dT kk ((va, .inl (dT 2, m, .inl f)) :: Xs) 0 n (by omega) (by omega)) q438 q439 q68 q440 (by decide +kernel) ⟨Nat.le_of_ble_eq_true rfl, Nat.le_of_ble_eq_true rfl⟩ rfl rfl (by constructor <;> dsimp only <;> omega) rfl rfl (Nat.le_of_ble_eq_true rfl) dJ6_copyOfRangeByte_2 (fun u hq9 => ?_)
  refine g_iload_n (pc := 5) 2 C0 rfl dJ6_copyOfRangeByte_5 rfl ?_
  refine g_iload_n (pc := 6) 1 C0 rfl dJ6_copyOfRangeByte_6 rfl ?_
  refine g_isubN (pc := 7) C0 (by omega) dJ6_copyOfRangeByte_7 ?_
  refine G.stE (st' := [.int (nI n)]) (by rw [show n - 0 = n by omega]) ?_
  refine g_istore_n (pc := 8) 3 C0 (L1 := [some (.ref va), some (.int (nI 0)), some (.int (nI n)), some (.int (nI n)), none]) rfl (by decide) dJ6_copyOfRangeByte_8 rfl rfl ?_
  refine g_iload_n (pc := 9) 3 C0 rfl dJ6_copyOfRangeByte_9 rfl ?_
  refine h_newaF (pc := 10) (ty := .byte) (dA := dT 2) C0 n rfl rfl hE.fB q227 (by omega) (by dsimp only [componentBytes]; omega) (by constructor <;> dsimp only <;> omega) dJ6_copyOfRangeByte_10 (fun q10 => ?_)
  refine g_astore (pc := 12) 4 C0 (L1 := [some (.ref va), some (.int (nI 0)), some (.int (nI n)), some (.int (nI n)), some (.ref q10)]) rfl (by decide) dJ6_copyOfRangeByte_12 rfl ?_
  refine g_aload_n (pc := 14) 0 C0 rfl dJ6_copyOfRangeByte_14 rfl ?_
  refine g_iload_n (pc := 15) 1 C0 rfl dJ6_copyOfRangeByte_15 rfl ?_
  refine g_aload (pc := 16) 4 C0 rfl dJ6_copyOfRangeByte_16 ?_
  refine g_iconst (pc := 18) (v := (nI 0)) C0 dJ6_copyOfRangeByte_18 (by decide) ?_
  refine g_aload_n (pc := 19) 0 C0 rfl dJ6_copyOfRangeByte_19 rfl ?_
  refine h_alen (pc := 20) (q0 := 1) (t0 := 2) C0 rfl rfl dJ6_copyOfRangeByte_20 ?_
  refine G.stE (st' := [.int (nI m), .int (nI 0), .ref q10, .int (nI 0), .ref va]) rfl ?_
  refine g_iload_n (pc := 21) 1 C0 rfl dJ6_copyOfRangeByte_21 rfl ?_
  refine g_isubN (pc := 22) C0 (by omega) dJ6_copyOfRangeByte_22 ?_
  refine G.stE (st' := [.int (nI m), .int (nI 0), .ref q10, .int (nI 0), .ref va]) (by rw [show m - 0 = m by omega]) ?_
  refine g_iload_n (pc := 23) 3 C0 rfl dJ6_copyOfRangeByte_23 rfl ?_
  refine g_mmin (pc := 24) C0 (by omega) (by omega) q346 q347 q67 q348 (Nat.le_of_ble_eq_true rfl) (Nat.le_of_ble_eq_true rfl) (by constructor <;> dsimp only <;> omega) dJ6_copyOfRangeByte_24 ?_
  refine G.stE (st' := [.int (nI n), .int (nI 0), .ref q10, .int (nI 0), .ref va]) (by rw [show min m n = n by omega]) ?_
  refine h_copyB (pc := 27) (q0 := 1) (q1 := 0) (t0 := 2) (ws' := (q10, .inl (dT 2, n, .inl (va_cpy f (fun _ => 0) 0 0 n))) :: (va, .inl (dT 2, m, .inl f)) :: Xs) C0 n rfl rfl rfl (by omega) (by omega) (by omega) (fun i _ => hf i) rfl q349 q351 q350 q69 (Nat.le_of_ble_eq_true rfl) (Nat.le_of_ble_eq_true rfl) dJ6_copyOfRangeByte_27 ?_
  refine g_aload (pc := 30) 4 C0 rfl dJ6_copyOfRangeByte_30 ?_
  refine G.widen (k' := 1) (n' := n) (by decide) (by omega) ?_
  exact h_aret (pc := 32) C0 (Or.inr ⟨_, rfl⟩) (va_cpy f (fun _ => 0) 0 0 n) dJ6_copyOfRangeByte_32 rfl ⟨fun j hj => sb_cpy0 hj, sb_fitC hf sb_fit0⟩
set_option maxHeartbeats 4000000 in
set_option maxRecDepth 100000 in
theorem hJ6_copyOfRange (l : Launch) (D : va_G) (dT : Nat → ClassId) (kk : (Nat → Nat) × (Nat → Nat)) (Xs : va_W) (va m n : Nat) (f : Nat → Int32) (hn : n ≤ m) (hm : m < 2 ^ 28) (hf : sb_Fit f) : HC l yJ6_copyOfRange cJ6_copyOfRange 3 (some (.array .byte)) ({ frames := 2, cells := 1, slots := n, locals := 88 }) D dT kk [.ref va, .int (nI 0), .int (nI n)] ((va, .inl (dT 2, m, .inl f)) :: Xs) (hQr D dT (fun (u : Nat → Int32) (r : Nat) => (r, .inl (dT 2, n, .inl u)) :: (va, .inl (dT 2, m, .inl f)) :: Xs) (fun u _ => (∀ j, j < n → u j = f j) ∧ sb_Fit u)) 1 n := by
  refine HC.ofG (own := "java/util/Arrays") (L := [some (.ref va), some (.int (nI 0)), some (.int (nI n))]) rfl (by decide) (Nat.le_of_ble_eq_true rfl) rfl ?_
  intro p' e' s' m' bl' mt' c' A' hA' C0 hE hnm
  refine g_iload_n (pc := 0) 1 C0 rfl dJ6_copyOfRange_0 rfl ?_
  refine g_if_neN (pc := 1) 10 C0 (by decide) dJ6_copyOfRange_1 (by decide) (fun h1 => ?_) (fun h1 => ?_)
  · exact absurd h1 (by decide)
  refine g_iload_n (pc := 4) 2 C0 rfl dJ6_copyOfRange_4 rfl ?_
  refine g_aload_n (pc := 5) 0 C0 rfl dJ6_copyOfRange_5 rfl ?_
  refine h_alen (pc := 6) (q0 := 0) (t0 := 2) C0 rfl rfl dJ6_copyOfRange_6 ?_
  refine G.stE (st' := [.int (nI m), .int (nI n)]) rfl ?_
  refine g_icmp_eqN (pc := 7) 17 C0 (by omega) (by omega) dJ6_copyOfRange_7 (by decide) (fun h7 => ?_) (fun h7 => ?_)
  · subst h7
    refine g_aload_n (pc := 17) 0 C0 rfl dJ6_copyOfRange_17 rfl ?_
    refine h_cloneF (pc := 18) (q0 := 0) C0 hE rfl (fun i _ => hf i) q339 q340 q341 q342 q343 (Nat.le_of_ble_eq_true rfl) (Nat.le_of_ble_eq_true rfl) (by constructor <;> dsimp only <;> omega) dJ6_copyOfRange_18 (fun q18 => ?_)
    refine h_castB (pc := 21) (q0 := 0) C0 hE rfl q345 dJ6_copyOfRange_21 ?_
    refine G.widen (k' := 1) (n' := n) (by decide) (by omega) ?_
    exact h_aret (pc := 24) C0 (Or.inr ⟨_, rfl⟩) f dJ6_copyOfRange_24 rfl ⟨fun _ _ => rfl, hf⟩
  · refine g_aload_n (pc := 10) 0 C0 rfl dJ6_copyOfRange_10 rfl ?_
    refine g_iload_n (pc := 11) 1 C0 rfl dJ6_copyOfRange_11 rfl ?_
    refine g_iload_n (pc := 12) 2 C0 rfl dJ6_copyOfRange_12 rfl ?_
    refine h_csr (pc := 13) (na := 3) (As := [.ref va, .int (nI 0), .int (nI n)]) (rest := []) C0 hE (hJ6_copyOfRangeByte l D dT kk Xs va m n f (by omega) hm hf) q435 q436 q68 q437 (by decide +kernel) ⟨Nat.le_of_ble_eq_true rfl, Nat.le_of_ble_eq_true rfl⟩ rfl rfl (by constructor <;> dsimp only <;> omega) rfl rfl (Nat.le_of_ble_eq_true rfl) dJ6_copyOfRange_13 (fun u13 r13 hq9 => ?_)
    obtain ⟨hA13, hF13⟩ := hq9
    refine G.widen (k' := 1) (n' := n) (by decide) (by omega) ?_
    exact h_aret (pc := 16) C0 (Or.inr ⟨_, rfl⟩) u13 dJ6_copyOfRange_16 rfl ⟨hA13, hF13⟩
set_option maxHeartbeats 4000000 in
set_option maxRecDepth 100000 in
theorem hJ2_init_2 (l : Launch) (D : va_G) (dT : Nat → ClassId) (kk : (Nat → Nat) × (Nat → Nat)) (Xs : va_W) (s sb va m n : Nat) (f : Nat → Int32) (hn : n ≤ m) (hm : m < 2 ^ 28) (hf : sb_Fit f) : HC l yJ2_init_2 cJ2_init_2 5 none ({ frames := 3, cells := 1, slots := n, locals := 110 }) D dT kk [.ref s, .ref sb, .null] ((s, .inr (10, [.null, .int (nI 0), .int (nI 0), .int (nI 0)])) :: (sb, .inr (9, [.ref va, .int (nI 0), .int (nI 0), .int (nI n)])) :: (va, .inl (dT 2, m, .inl f)) :: Xs) (hQv D dT (fun (u : Nat × (Nat → Int32)) => (s, .inr (10, [.ref u.1, .int (nI 0), .int (nI 0), .int (nI 0)])) :: (u.1, .inl (dT 2, n, .inl u.2)) :: (sb, .inr (9, [.ref va, .int (nI 0), .int (nI 0), .int (nI n)])) :: (va, .inl (dT 2, m, .inl f)) :: Xs) (fun u => (∀ j, j < n → u.2 j = f j) ∧ sb_Fit u.2)) 1 n := by
  refine HC.ofG (own := "java/lang/String") (L := [some (.ref s), some (.ref sb), some (.null), none, none]) rfl (by decide) (Nat.le_of_ble_eq_true rfl) rfl ?_
  intro p' e' s' m' bl' mt' c' A' hA' C0 hE hnm
  refine g_aload_n (pc := 0) 0 C0 rfl dJ2_init_2_0 rfl ?_
  refine h_objInit (pc := 1) C0 q417 q85 q86 (Nat.le_of_ble_eq_true rfl) (Nat.le_of_ble_eq_true rfl) dJ2_init_2_1 ?_
  refine g_aload_n (pc := 4) 1 C0 rfl dJ2_init_2_4 rfl ?_
  refine G.front 1 (ws' := (sb, .inr (9, [.ref va, .int (nI 0), .int (nI 0), .int (nI n)])) :: (s, .inr (10, [.null, .int (nI 0), .int (nI 0), .int (nI 0)])) :: (va, .inl (dT 2, m, .inl f)) :: Xs) rfl rfl ?_
  refine h_cur (pc := 5) (na := 0) (As := []) (rest := []) C0 hE (hJ0_getValue l D dT kk ((s, .inr (10, [.null, .int (nI 0), .int (nI 0), .int (nI 0)])) :: (va, .inl (dT 2, m, .inl f)) :: Xs) sb va n) (q0 := 0) (ci := 9) (C := RJ1) (T := TJ1) (N := 4) (a := sb) rfl rfl q418 q420 q421 q419 q62 q422 (by decide +kernel) ⟨Nat.le_of_ble_eq_true rfl, Nat.le_of_ble_eq_true rfl⟩ rfl rfl (by constructor <;> dsimp only <;> omega) rfl rfl (Nat.le_of_ble_eq_true rfl) dJ2_init_2_5 (fun u r hq9 => ?_)
  have e9 := hq9.1.symm
  subst e9
  refine g_astore_n (pc := 8) 3 C0 (L1 := [some (.ref s), some (.ref sb), some (.null), some (.ref va), none]) rfl (by decide) dJ2_init_2_8 rfl rfl ?_
  refine g_aload_n (pc := 9) 1 C0 rfl dJ2_init_2_9 rfl ?_
  refine h_coi (pc := 10) (na := 0) (As := []) (rest := []) C0 hE (hJ1_length l D dT kk ((s, .inr (10, [.null, .int (nI 0), .int (nI 0), .int (nI 0)])) :: (va, .inl (dT 2, m, .inl f)) :: Xs) sb va n) (q0 := 0) (ci := 9) (C := RJ1) (T := TJ1) (N := 4) (a := sb) rfl rfl q423 q425 q424 q430 q426 q427 q63 q428 (by decide +kernel) ⟨Nat.le_of_ble_eq_true rfl, Nat.le_of_ble_eq_true rfl⟩ rfl rfl (by constructor <;> dsimp only <;> omega) rfl rfl (Nat.le_of_ble_eq_true rfl) dJ2_init_2_10 (fun r u hq9 => ?_)
  obtain ⟨rfl, -⟩ := hq9
  refine g_istore (pc := 13) 4 C0 (L1 := [some (.ref s), some (.ref sb), some (.null), some (.ref va), some (.int (nI n))]) rfl (by decide) dJ2_init_2_13 rfl ?_
  refine g_aload_n (pc := 15) 1 C0 rfl dJ2_init_2_15 rfl ?_
  refine h_cui (pc := 16) (na := 0) (As := []) (rest := []) C0 hE (hJ0_isLatin1 l D dT kk ((s, .inr (10, [.null, .int (nI 0), .int (nI 0), .int (nI 0)])) :: (va, .inl (dT 2, m, .inl f)) :: Xs) sb va n) (q0 := 0) (ci := 9) (C := RJ1) (T := TJ1) (N := 4) (a := sb) rfl rfl q431 q354 q355 q353 q62 q356 (by decide +kernel) ⟨Nat.le_of_ble_eq_true rfl, Nat.le_of_ble_eq_true rfl⟩ rfl rfl (by constructor <;> dsimp only <;> omega) rfl rfl (Nat.le_of_ble_eq_true rfl) dJ2_init_2_16 (fun r u hq9 => ?_)
  obtain ⟨rfl, -⟩ := hq9
  refine g_if_eqN (pc := 19) 41 C0 (by decide) dJ2_init_2_19 (by decide) (fun h19 => ?_) (fun h19 => ?_)
  · exact absurd h19 (by decide)
  refine g_aload_n (pc := 22) 0 C0 rfl dJ2_init_2_22 rfl ?_
  refine g_iconst (pc := 23) (v := (nI 0)) C0 dJ2_init_2_23 (by decide) ?_
  refine h_putF (pc := 24) (C := RJ2) (T := TJ2) (N := 4) (ci := 10) (q0 := 1) (ty := .byte) (ws' := (sb, .inr (9, [.ref va, .int (nI 0), .int (nI 0), .int (nI n)])) :: (s, .inr (10, [.null, .int (nI 0), .int (nI 0), .int (nI 0)])) :: (va, .inl (dT 2, m, .inl f)) :: Xs) C0 tyJ2 tyJ2_ok nmJ2 (hnm.trans rfl) 1 rfl rfl in_J2 (by decide) q456 rfl rfl rfl (by decide) rfl (by show 1 < 4; decide) rfl dJ2_init_2_24 ?_
  refine g_aload_n (pc := 27) 0 C0 rfl dJ2_init_2_27 rfl ?_
  refine g_aload_n (pc := 28) 3 C0 rfl dJ2_init_2_28 rfl ?_
  refine g_iconst (pc := 29) (v := (nI 0)) C0 dJ2_init_2_29 (by decide) ?_
  refine g_iload (pc := 30) 4 C0 rfl dJ2_init_2_30 ?_
  refine G.front 2 (ws' := (va, .inl (dT 2, m, .inl f)) :: (sb, .inr (9, [.ref va, .int (nI 0), .int (nI 0), .int (nI n)])) :: (s, .inr (10, [.null, .int (nI 0), .int (nI 0), .int (nI 0)])) :: Xs) rfl rfl ?_
  refine h_csr (pc := 32) (na := 3) (As := [.ref va, .int (nI 0), .int (nI n)]) (rest := [.ref s]) C0 hE (hJ6_copyOfRange l D dT kk ((sb, .inr (9, [.ref va, .int (nI 0), .int (nI 0), .int (nI n)])) :: (s, .inr (10, [.null, .int (nI 0), .int (nI 0), .int (nI 0)])) :: Xs) va m n f hn hm hf) q432 q433 q68 q434 (by decide +kernel) ⟨Nat.le_of_ble_eq_true rfl, Nat.le_of_ble_eq_true rfl⟩ rfl rfl (by constructor <;> dsimp only <;> omega) rfl rfl (Nat.le_of_ble_eq_true rfl) dJ2_init_2_32 (fun u32 r32 hq9 => ?_)
  obtain ⟨hA32, hF32⟩ := hq9
  refine h_putF (pc := 35) (C := RJ2) (T := TJ2) (N := 4) (ci := 10) (q0 := 3) (ws' := (r32, .inl (dT 2, n, .inl u32)) :: (va, .inl (dT 2, m, .inl f)) :: (sb, .inr (9, [.ref va, .int (nI 0), .int (nI 0), .int (nI n)])) :: (s, .inr (10, [.ref r32, .int (nI 0), .int (nI 0), .int (nI 0)])) :: Xs) C0 tyJ2 tyJ2_ok nmJ2 (hnm.trans rfl) 0 rfl rfl in_J2 (by decide) q455 rfl rfl rfl rfl rfl (by show 0 < 4; decide) rfl dJ2_init_2_35 ?_
  refine g_goto (pc := 38) 97 C0 dJ2_init_2_38 (by decide) ?_
  refine G.front 1 (ws' := (va, .inl (dT 2, m, .inl f)) :: (r32, .inl (dT 2, n, .inl u32)) :: (sb, .inr (9, [.ref va, .int (nI 0), .int (nI 0), .int (nI n)])) :: (s, .inr (10, [.ref r32, .int (nI 0), .int (nI 0), .int (nI 0)])) :: Xs) rfl rfl ?_
  refine G.front 2 (ws' := (sb, .inr (9, [.ref va, .int (nI 0), .int (nI 0), .int (nI n)])) :: (va, .inl (dT 2, m, .inl f)) :: (r32, .inl (dT 2, n, .inl u32)) :: (s, .inr (10, [.ref r32, .int (nI 0), .int (nI 0), .int (nI 0)])) :: Xs) rfl rfl ?_
  refine G.front 2 (ws' := (r32, .inl (dT 2, n, .inl u32)) :: (sb, .inr (9, [.ref va, .int (nI 0), .int (nI 0), .int (nI n)])) :: (va, .inl (dT 2, m, .inl f)) :: (s, .inr (10, [.ref r32, .int (nI 0), .int (nI 0), .int (nI 0)])) :: Xs) rfl rfl ?_
  refine G.front 3 (ws' := (s, .inr (10, [.ref r32, .int (nI 0), .int (nI 0), .int (nI 0)])) :: (r32, .inl (dT 2, n, .inl u32)) :: (sb, .inr (9, [.ref va, .int (nI 0), .int (nI 0), .int (nI n)])) :: (va, .inl (dT 2, m, .inl f)) :: Xs) rfl rfl ?_
  refine G.widen (k' := 1) (n' := n) (by decide) (by omega) ?_
  exact h_vret (pc := 97) C0 (r32, u32) dJ2_init_2_97 rfl ⟨hA32, hF32⟩
set_option maxHeartbeats 4000000 in
set_option maxRecDepth 100000 in
theorem hJ2_init (l : Launch) (D : va_G) (dT : Nat → ClassId) (kk : (Nat → Nat) × (Nat → Nat)) (Xs : va_W) (s sb va m n : Nat) (f : Nat → Int32) (hn : n ≤ m) (hm : m < 2 ^ 28) (hf : sb_Fit f) : HC l yJ2_init cJ2_init 2 none ({ frames := 4, cells := 1, slots := n, locals := 134 }) D dT kk [.ref s, .ref sb] ((s, .inr (10, [.null, .int (nI 0), .int (nI 0), .int (nI 0)])) :: (sb, .inr (9, [.ref va, .int (nI 0), .int (nI 0), .int (nI n)])) :: (va, .inl (dT 2, m, .inl f)) :: Xs) (hQv D dT (fun (u : Nat × (Nat → Int32)) => (s, .inr (10, [.ref u.1, .int (nI 0), .int (nI 0), .int (nI 0)])) :: (u.1, .inl (dT 2, n, .inl u.2)) :: (sb, .inr (9, [.ref va, .int (nI 0), .int (nI 0), .int (nI n)])) :: (va, .inl (dT 2, m, .inl f)) :: Xs) (fun u => (∀ j, j < n → u.2 j = f j) ∧ sb_Fit u.2)) 1 n := by
  refine HC.ofG (own := "java/lang/String") (L := [some (.ref s), some (.ref sb)]) rfl (by decide) (Nat.le_of_ble_eq_true rfl) rfl ?_
  intro p' e' s' m' bl' mt' c' A' hA' C0 hE hnm
  refine g_aload_n (pc := 0) 0 C0 rfl dJ2_init_0 rfl ?_
  refine g_aload_n (pc := 1) 1 C0 rfl dJ2_init_1 rfl ?_
  refine h_null (pc := 2) C0 dJ2_init_2 ?_
  refine h_ci (pc := 3) (na := 2) (As := [.ref sb, .null]) (rest := []) C0 hE (hJ2_init_2 l D dT kk Xs s sb va m n f hn hm hf) q414 q415 q64 q416 rfl (by decide +kernel) ⟨Nat.le_of_ble_eq_true rfl, Nat.le_of_ble_eq_true rfl⟩ rfl rfl (by constructor <;> dsimp only <;> omega) rfl rfl (Nat.le_of_ble_eq_true rfl) dJ2_init_3 (fun u3 hq9 => ?_)
  obtain ⟨hA3, hF3⟩ := hq9
  refine G.widen (k' := 1) (n' := n) (by decide) (by omega) ?_
  exact h_vret (pc := 6) C0 u3 dJ2_init_6 rfl ⟨hA3, hF3⟩
set_option maxHeartbeats 4000000 in
set_option maxRecDepth 100000 in
theorem hJ1_toString (l : Launch) (D : va_G) (dT : Nat → ClassId) (kk : (Nat → Nat) × (Nat → Nat)) (Xs : va_W) (sb va m n : Nat) (f : Nat → Int32) (hn : n ≤ m) (hm : m < 2 ^ 28) (hf : sb_Fit f) : HC l yJ1_toString cJ1_toString 1 (some (.object "java/lang/String")) ({ frames := 5, cells := 2, slots := 4 + n, locals := 155 }) D dT kk [.ref sb] ((sb, .inr (9, [.ref va, .int (nI 0), .int (nI 0), .int (nI n)])) :: (va, .inl (dT 2, m, .inl f)) :: Xs) (hQr D dT (fun (u : Nat × (Nat → Int32)) (r : Nat) => (r, .inr (10, [.ref u.1, .int (nI 0), .int (nI 0), .int (nI 0)])) :: (u.1, .inl (dT 2, n, .inl u.2)) :: Xs) (fun u _ => (∀ j, j < n → u.2 j = f j) ∧ sb_Fit u.2)) 2 (4 + n) := by
  refine HC.ofG (own := "java/lang/StringBuilder") (L := [some (.ref sb)]) rfl (by decide) (Nat.le_of_ble_eq_true rfl) rfl ?_
  intro p' e' s' m' bl' mt' c' A' hA' C0 hE hnm
  refine h_newF (pc := 0) (C := RJ2) (T := TJ2) (N := 4) (ci := 10) (fs0 := [.null, .int (nI 0), .int (nI 0), .int (nI 0)]) C0 tyJ2 tyJ2_ok in_J2 rfl q409 q410 q64 (by decide) (by constructor <;> dsimp only <;> omega) dJ1_toString_0 (fun q0 => ?_)
  refine g_dup (pc := 3) C0 dJ1_toString_3 rfl ?_
  refine g_aload_n (pc := 4) 0 C0 rfl dJ1_toString_4 rfl ?_
  refine h_ci (pc := 5) (na := 1) (As := [.ref sb]) (rest := [.ref q0]) C0 hE (hJ2_init l D dT kk Xs q0 sb va m n f hn hm hf) q411 q412 q64 q413 rfl (by decide +kernel) ⟨Nat.le_of_ble_eq_true rfl, Nat.le_of_ble_eq_true rfl⟩ rfl rfl (by constructor <;> dsimp only <;> omega) rfl rfl (Nat.le_of_ble_eq_true rfl) dJ1_toString_5 (fun u5 hq9 => ?_)
  obtain ⟨hA5, hF5⟩ := hq9
  refine G.drop (ws' := (q0, .inr (10, [.ref u5.1, .int (nI 0), .int (nI 0), .int (nI 0)])) :: (u5.1, .inl (dT 2, n, .inl u5.2)) :: Xs) (List.Sublist.cons_cons _ (List.Sublist.cons_cons _ (List.Sublist.cons _ (List.Sublist.cons _ (List.Sublist.refl _))))) ?_
  refine G.widen (k' := 2) (n' := 4 + n) (by decide) (by omega) ?_
  exact h_aret (pc := 8) C0 (Or.inl ⟨_, rfl⟩) u5 dJ1_toString_8 rfl ⟨hA5, hF5⟩
set_option maxHeartbeats 4000000 in
set_option maxRecDepth 100000 in
theorem hJ7_equals (l : Launch) (D : va_G) (dT : Nat → ClassId) (kk : (Nat → Nat) × (Nat → Nat)) (Xs : va_W) (q n i0 : Nat) (f : Nat → Int32) (hi : i0 < 6) (hn : n < 2 ^ 28) : HC l yJ7_equals cJ7_equals 3 (some .boolean) ({ frames := 0, cells := 0, slots := 0, locals := 0 }) D dT kk [.ref q, .ref (kk.2 i0)] ((q, .inl (dT 2, n, .inl f)) :: Xs) (hQi D dT (fun (u : Unit) => (q, .inl (dT 2, n, .inl f)) :: Xs) (fun rr _ => rr = nI (bN (eqB n f i0)) ∧ True)) 0 0 := by
  refine HC.ofG (own := "java/lang/StringLatin1") (L := [some (.ref q), some (.ref (kk.2 i0)), none]) rfl (by decide) (Nat.le_of_ble_eq_true rfl) rfl ?_
  intro p' e' s' m' bl' mt' c' A' hA' C0 hE hnm
  have hs6 := sLen_le i0 hi
  refine g_aload_n (pc := 0) 0 C0 rfl dJ7_equals_0 rfl ?_
  refine h_alen (pc := 1) (q0 := 0) (t0 := 2) C0 rfl rfl dJ7_equals_1 ?_
  refine G.stE (st' := [.int (nI n)]) rfl ?_
  refine g_aload_n (pc := 2) 1 C0 rfl dJ7_equals_2 rfl ?_
  refine h_lenK (pc := 3) C0 hE i0 hi dJ7_equals_3 ?_
  refine g_icmp_neN (pc := 4) 34 C0 (by omega) (by omega) dJ7_equals_4 (by decide) (fun h4 => ?_) (fun h4 => ?_)
  · refine g_iconst (pc := 34) (v := (nI 0)) C0 dJ7_equals_34 (by decide) ?_
    exact h_zret (pc := 35) C0 () dJ7_equals_35 (by decide) rfl ⟨congrArg (fun b => nI (bN b)) (decide_eq_false (fun h => h4 h.1)).symm, trivial⟩
  · refine g_iconst (pc := 7) (v := (nI 0)) C0 dJ7_equals_7 (by decide) ?_
    refine g_istore_n (pc := 8) 2 C0 (L1 := [some (.ref q), some (.ref (kk.2 i0)), some (.int (nI 0))]) rfl (by decide) dJ7_equals_8 rfl rfl ?_
    refine G.hloop (pc := 9) (Lf := fun i => [some (.ref q), some (.ref (kk.2 i0)), some (.int (nI i))]) (I := fun i => ∀ j, j < i → f j = (sByt.getD i0 []).getD j 0) n 0 (Nat.zero_le _) (fun j hj => absurd hj (Nat.not_lt_zero j)) (fun hi9 => ?_) (fun i9 hlt9 hi9 ih9 => ?_)
    · refine g_iload_n (pc := 9) 2 C0 rfl dJ7_equals_9 rfl ?_
      refine g_aload_n (pc := 10) 0 C0 rfl dJ7_equals_10 rfl ?_
      refine h_alen (pc := 11) (q0 := 0) (t0 := 2) C0 rfl rfl dJ7_equals_11 ?_
      refine G.stE (st' := [.int (nI n), .int (nI n)]) rfl ?_
      refine g_icmp_geN (pc := 12) 32 C0 (by omega) (by omega) dJ7_equals_12 (by decide) (fun h12 => ?_) (fun h12 => ?_)
      rotate_left
      · exact absurd h12 (by omega)
      refine g_iconst (pc := 32) (v := (nI 1)) C0 dJ7_equals_32 (by decide) ?_
      exact h_zret (pc := 33) C0 () dJ7_equals_33 (by decide) rfl ⟨congrArg (fun b => nI (bN b)) (decide_eq_true ⟨h4.symm ▸ rfl, hi9⟩).symm, trivial⟩
    · refine g_iload_n (pc := 9) 2 C0 rfl dJ7_equals_9 rfl ?_
      refine g_aload_n (pc := 10) 0 C0 rfl dJ7_equals_10 rfl ?_
      refine h_alen (pc := 11) (q0 := 0) (t0 := 2) C0 rfl rfl dJ7_equals_11 ?_
      refine G.stE (st' := [.int (nI n), .int (nI i9)]) rfl ?_
      refine g_icmp_geN (pc := 12) 32 C0 (by omega) (by omega) dJ7_equals_12 (by decide) (fun h12 => ?_) (fun h12 => ?_)
      · exact absurd h12 (by omega)
      refine g_aload_n (pc := 15) 0 C0 rfl dJ7_equals_15 rfl ?_
      refine g_iload_n (pc := 16) 2 C0 rfl dJ7_equals_16 rfl ?_
      refine h_bald (pc := 17) (q0 := 0) (t0 := 2) (v := (f i9)) C0 i9 rfl rfl (by omega) (by omega) rfl dJ7_equals_17 ?_
      refine g_aload_n (pc := 18) 1 C0 rfl dJ7_equals_18 rfl ?_
      refine g_iload_n (pc := 19) 2 C0 rfl dJ7_equals_19 rfl ?_
      refine h_baldK (pc := 20) C0 hE i0 hi i9 (by omega) dJ7_equals_20 ?_
      refine g_icmp_eq (pc := 21) 26 C0 dJ7_equals_21 (by decide) (fun h21 => ?_) (fun h21 => ?_)
      · refine g_iinc1 (pc := 26) 2 C0 (L1 := [some (.ref q), some (.ref (kk.2 i0)), some (.int (nI (i9 + 1)))]) rfl rfl (by decide) dJ7_equals_26 rfl ?_
        refine g_goto (pc := 29) 9 C0 dJ7_equals_29 (by decide) ?_
        exact ih9 (fun j hj => by rcases Nat.lt_succ_iff_lt_or_eq.mp hj with h | h; exact hi9 j h; exact h ▸ h21)
      · refine g_iconst (pc := 24) (v := (nI 0)) C0 dJ7_equals_24 (by decide) ?_
        exact h_zret (pc := 25) C0 () dJ7_equals_25 (by decide) rfl ⟨congrArg (fun b => nI (bN b)) (decide_eq_false (fun h => h21 (h.2 _ hlt9))).symm, trivial⟩
set_option maxHeartbeats 4000000 in
set_option maxRecDepth 100000 in
theorem hJ2_equals (l : Launch) (D : va_G) (dT : Nat → ClassId) (kk : (Nat → Nat) × (Nat → Nat)) (Xs : va_W) (s q n i0 : Nat) (f : Nat → Int32) (h z : Int32) (hi : i0 < 6) (hn : n < 2 ^ 28) : HC l yJ2_equals cJ2_equals 3 (some .boolean) ({ frames := 1, cells := 0, slots := 0, locals := 22 }) D dT kk [.ref s, .ref (kk.1 i0)] ((s, .inr (10, [.ref q, .int (nI 0), .int h, .int z])) :: (q, .inl (dT 2, n, .inl f)) :: Xs) (hQi D dT (fun (u : Unit) => (s, .inr (10, [.ref q, .int (nI 0), .int h, .int z])) :: (q, .inl (dT 2, n, .inl f)) :: Xs) (fun rr _ => rr = nI (bN (eqB n f i0)) ∧ True)) 0 0 := by
  refine HC.ofG (own := "java/lang/String") (L := [some (.ref s), some (.ref (kk.1 i0)), none]) rfl (by decide) (Nat.le_of_ble_eq_true rfl) rfl ?_
  intro p' e' s' m' bl' mt' c' A' hA' C0 hE hnm
  refine g_aload_n (pc := 0) 0 C0 rfl dJ2_equals_0 rfl ?_
  refine g_aload_n (pc := 1) 1 C0 rfl dJ2_equals_1 rfl ?_
  refine h_apart (q0 := 0) C0 hE rfl i0 hi (fun hne => ?_)
  refine h_acmpne (pc := 2) (tgt := 7) C0 hne dJ2_equals_2 (by decide) ?_
  refine g_aload_n (pc := 7) 1 C0 rfl dJ2_equals_7 rfl ?_
  refine h_instK (pc := 8) C0 hE i0 hi q477 dJ2_equals_8 ?_
  refine g_if_eqN (pc := 11) 54 C0 (by decide) dJ2_equals_11 (by decide) (fun h11 => ?_) (fun h11 => ?_)
  · exact absurd h11 (by decide)
  refine g_aload_n (pc := 14) 1 C0 rfl dJ2_equals_14 rfl ?_
  refine h_castK (pc := 15) C0 hE i0 hi q477 dJ2_equals_15 ?_
  refine g_astore_n (pc := 18) 2 C0 (L1 := [some (.ref s), some (.ref (kk.1 i0)), some (.ref (kk.1 i0))]) rfl (by decide) dJ2_equals_18 rfl rfl ?_
  refine h_cs (pc := 19) C0 hE q441 dJ2_equals_19 ?_
  refine g_if_eqN (pc := 22) 36 C0 (by decide) dJ2_equals_22 (by decide) (fun h22 => ?_) (fun h22 => ?_)
  · exact absurd h22 (by decide)
  refine g_aload_n (pc := 25) 0 C0 rfl dJ2_equals_25 rfl ?_
  refine h_get (pc := 26) (v := .int (nI 0)) (C := RJ2) (T := TJ2) (N := 4) (ci := 10) (q0 := 0) (ref := "") C0 1 rfl rfl in_J2 (by decide) q456 rfl dJ2_equals_26 ?_
  refine g_aload_n (pc := 29) 2 C0 rfl dJ2_equals_29 rfl ?_
  refine h_codK (pc := 30) C0 hE i0 hi q456 dJ2_equals_30 ?_
  refine g_icmp_neN (pc := 33) 54 C0 (by decide) (by decide) dJ2_equals_33 (by decide) (fun h33 => ?_) (fun h33 => ?_)
  · exact absurd h33 (by decide)
  refine g_aload_n (pc := 36) 0 C0 rfl dJ2_equals_36 rfl ?_
  refine h_get (pc := 37) (v := .ref q) (C := RJ2) (T := TJ2) (N := 4) (ci := 10) (q0 := 0) (ref := "") C0 0 rfl rfl in_J2 (by decide) q455 rfl dJ2_equals_37 ?_
  refine g_aload_n (pc := 40) 2 C0 rfl dJ2_equals_40 rfl ?_
  refine h_valK (pc := 41) C0 hE i0 hi q455 dJ2_equals_41 ?_
  refine G.front 1 (ws' := (q, .inl (dT 2, n, .inl f)) :: (s, .inr (10, [.ref q, .int (nI 0), .int h, .int z])) :: Xs) rfl rfl ?_
  refine h_csi (pc := 44) (na := 2) (As := [.ref q, .ref (kk.2 i0)]) (rest := []) C0 hE (hJ7_equals l D dT kk ((s, .inr (10, [.ref q, .int (nI 0), .int h, .int z])) :: Xs) q n i0 f hi (by omega)) q478 q479 q70 q480 (by decide +kernel) ⟨Nat.le_of_ble_eq_true rfl, Nat.le_of_ble_eq_true rfl⟩ rfl rfl ⟨Nat.le_of_ble_eq_true rfl, Nat.le_of_ble_eq_true rfl⟩ rfl rfl (Nat.le_of_ble_eq_true rfl) dJ2_equals_44 (fun r u hq9 => ?_)
  obtain ⟨rfl, -⟩ := hq9
  refine g_if_eqB (pc := 47) 54 C0 dJ2_equals_47 (by decide) (fun h47 => ?_) (fun h47 => ?_)
  · refine g_iconst (pc := 54) (v := (nI 0)) C0 dJ2_equals_54 (by decide) ?_
    refine G.front 1 (ws' := (s, .inr (10, [.ref q, .int (nI 0), .int h, .int z])) :: (q, .inl (dT 2, n, .inl f)) :: Xs) rfl rfl ?_
    exact h_zret (pc := 55) C0 () dJ2_equals_55 (by decide) rfl ⟨congrArg (fun b => nI (bN b)) h47.symm, trivial⟩
  · refine g_iconst (pc := 50) (v := (nI 1)) C0 dJ2_equals_50 (by decide) ?_
    refine g_goto (pc := 51) 55 C0 dJ2_equals_51 (by decide) ?_
    refine G.front 1 (ws' := (s, .inr (10, [.ref q, .int (nI 0), .int h, .int z])) :: (q, .inl (dT 2, n, .inl f)) :: Xs) rfl rfl ?_
    exact h_zret (pc := 55) C0 () dJ2_equals_55 (by decide) rfl ⟨congrArg (fun b => nI (bN b)) h47.symm, trivial⟩
