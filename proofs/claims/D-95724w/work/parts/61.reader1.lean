/-! printed by gen/h3run.py: Reader.here, word, number, place -/
set_option maxHeartbeats 4000000 in
set_option maxRecDepth 100000 in
theorem hX4_here (l : Launch) (D : va_G) (dT : Nat → ClassId) (kk : (Nat → Nat) × (Nat → Nat)) (Xs : va_W) (rd tx tw at0 fr sz : Nat) (t : Nat → Nat) (hs : sz ≤ 500) (ht : ∀ k, k < 500 → t k < 256) (ha : at0 ≤ sz) : HC l yX4_here cX4_here 1 (some .int) ({ frames := 0, cells := 0, slots := 0, locals := 0 }) D dT kk [.ref rd] ((rd, .inr (4, [.ref tx, .int (nI sz), .ref tw, .int (nI at0), .int (nI fr)])) :: (tx, .inl (dT 2, 500, .inl (fun i => xBy (t i)))) :: Xs) (hQi D dT (fun (u : Unit) => (rd, .inr (4, [.ref tx, .int (nI sz), .ref tw, .int (nI (nxA t sz at0)), .int (nI fr)])) :: (tx, .inl (dT 2, 500, .inl (fun i => xBy (t i)))) :: Xs) (fun rr _ => rr = oI (nxV t sz at0) ∧ True)) 0 0 := by
  refine HC.ofG (own := "FittingStrides$Reader") (L := [some (.ref rd)]) rfl (by decide) (Nat.le_of_ble_eq_true rfl) rfl ?_
  intro p' e' s' m' bl' mt' c' A' hA' C0 hE hnm
  refine G.whK (pc := 0) (wf := fun a => (rd, .inr (4, [.ref tx, .int (nI sz), .ref tw, .int (nI a), .int (nI fr)])) :: (tx, .inl (dT 2, 500, .inl (fun i => xBy (t i)))) :: Xs) (Lf := fun _ => [some (.ref rd)]) (kf := fun _ => 0) (nf := fun _ => 0) (fun a => sz - a) (fun a => at0 ≤ a ∧ a ≤ sz ∧ nxA t sz a = nxA t sz at0) at0 ⟨Nat.le_refl _, ha, rfl⟩ (fun a hI ih => ?_)
  obtain ⟨hI1, hI2, hI3⟩ := hI
  refine g_aload_n (pc := 0) 0 C0 rfl dX4_here_0 rfl ?_
  refine h_get (pc := 1) (v := .int (nI a)) (C := RX4) (T := TX4) (N := 5) (ci := 4) (q0 := 0) (ref := "") C0 3 rfl rfl in_X4 (by decide) q253 rfl dX4_here_1 ?_
  refine g_aload_n (pc := 4) 0 C0 rfl dX4_here_4 rfl ?_
  refine h_get (pc := 5) (v := .int (nI sz)) (C := RX4) (T := TX4) (N := 5) (ci := 4) (q0 := 0) (ref := "") C0 1 rfl rfl in_X4 (by decide) q251 rfl dX4_here_5 ?_
  refine g_icmp_geN (pc := 8) 38 C0 (by omega) (by omega) dX4_here_8 (by decide) (fun h8 => ?_) (fun h8 => ?_)
  · have hA : nxA t sz at0 = a := hI3.symm.trans (runN_big _ h8)
    subst hA
    refine g_aload_n (pc := 38) 0 C0 rfl dX4_here_38 rfl ?_
    refine h_get (pc := 39) (v := .int (nI (nxA t sz at0))) (C := RX4) (T := TX4) (N := 5) (ci := 4) (q0 := 0) (ref := "") C0 3 rfl rfl in_X4 (by decide) q253 rfl dX4_here_39 ?_
    refine g_aload_n (pc := 42) 0 C0 rfl dX4_here_42 rfl ?_
    refine h_get (pc := 43) (v := .int (nI sz)) (C := RX4) (T := TX4) (N := 5) (ci := 4) (q0 := 0) (ref := "") C0 1 rfl rfl in_X4 (by decide) q251 rfl dX4_here_43 ?_
    refine g_icmp_geN (pc := 46) 65 C0 (by omega) (by omega) dX4_here_46 (by decide) (fun h46 => ?_) (fun h46 => ?_)
    rotate_left
    · exact absurd h46 (by omega)
    refine g_iconst (pc := 65) (v := (-1)) C0 dX4_here_65 (by decide) ?_
    exact h_iret (pc := 66) C0 () dX4_here_66 rfl ⟨by rw [nxV, if_neg (by omega)]; rfl, trivial⟩
  · refine g_aload_n (pc := 11) 0 C0 rfl dX4_here_11 rfl ?_
    refine h_get (pc := 12) (v := .ref tx) (C := RX4) (T := TX4) (N := 5) (ci := 4) (q0 := 0) (ref := "") C0 0 rfl rfl in_X4 (by decide) q250 rfl dX4_here_12 ?_
    refine g_aload_n (pc := 15) 0 C0 rfl dX4_here_15 rfl ?_
    refine h_get (pc := 16) (v := .int (nI a)) (C := RX4) (T := TX4) (N := 5) (ci := 4) (q0 := 0) (ref := "") C0 3 rfl rfl in_X4 (by decide) q253 rfl dX4_here_16 ?_
    refine h_bald (pc := 19) (q0 := 1) (t0 := 2) (v := ((fun i => xBy (t i)) a)) C0 a rfl rfl (by omega) (by omega) rfl dX4_here_19 ?_
    refine g_bipush (pc := 20) (v := (nI 32)) C0 dX4_here_20 (by decide) ?_
    refine g_icmp_ne (pc := 22) 38 C0 dX4_here_22 (by decide) (fun h22 => ?_) (fun h22 => ?_)
    · have hA : nxA t sz at0 = a := hI3.symm.trans (runN_e (p := isSp t) (decide_eq_false (fun h => h22 ((by_32 _ (ht a (by omega))).mpr h))))
      subst hA
      refine g_aload_n (pc := 38) 0 C0 rfl dX4_here_38 rfl ?_
      refine h_get (pc := 39) (v := .int (nI (nxA t sz at0))) (C := RX4) (T := TX4) (N := 5) (ci := 4) (q0 := 0) (ref := "") C0 3 rfl rfl in_X4 (by decide) q253 rfl dX4_here_39 ?_
      refine g_aload_n (pc := 42) 0 C0 rfl dX4_here_42 rfl ?_
      refine h_get (pc := 43) (v := .int (nI sz)) (C := RX4) (T := TX4) (N := 5) (ci := 4) (q0 := 0) (ref := "") C0 1 rfl rfl in_X4 (by decide) q251 rfl dX4_here_43 ?_
      refine g_icmp_geN (pc := 46) 65 C0 (by omega) (by omega) dX4_here_46 (by decide) (fun h46 => ?_) (fun h46 => ?_)
      · exact absurd h46 (by omega)
      refine g_aload_n (pc := 49) 0 C0 rfl dX4_here_49 rfl ?_
      refine h_get (pc := 50) (v := .ref tx) (C := RX4) (T := TX4) (N := 5) (ci := 4) (q0 := 0) (ref := "") C0 0 rfl rfl in_X4 (by decide) q250 rfl dX4_here_50 ?_
      refine g_aload_n (pc := 53) 0 C0 rfl dX4_here_53 rfl ?_
      refine h_get (pc := 54) (v := .int (nI (nxA t sz at0))) (C := RX4) (T := TX4) (N := 5) (ci := 4) (q0 := 0) (ref := "") C0 3 rfl rfl in_X4 (by decide) q253 rfl dX4_here_54 ?_
      refine h_bald (pc := 57) (q0 := 1) (t0 := 2) (v := ((fun i => xBy (t i)) (nxA t sz at0))) C0 (nxA t sz at0) rfl rfl (by omega) (by omega) rfl dX4_here_57 ?_
      refine g_sipush (pc := 58) (v := (nI 255)) C0 dX4_here_58 (by decide) ?_
      refine g_iand (pc := 61) C0 dX4_here_61 ?_
      refine G.stE (st' := [.int (nI (t (nxA t sz at0)))]) (by rw [by_255 _ (ht _ (by omega))]) ?_
      refine g_goto (pc := 62) 66 C0 dX4_here_62 (by decide) ?_
      exact h_iret (pc := 66) C0 () dX4_here_66 rfl ⟨by rw [nxV, if_pos (by omega)]; rfl, trivial⟩
    · refine g_aload_n (pc := 25) 0 C0 rfl dX4_here_25 rfl ?_
      refine g_dup (pc := 26) C0 dX4_here_26 rfl ?_
      refine h_get (pc := 27) (v := .int (nI a)) (C := RX4) (T := TX4) (N := 5) (ci := 4) (q0 := 0) (ref := "") C0 3 rfl rfl in_X4 (by decide) q253 rfl dX4_here_27 ?_
      refine g_iconst (pc := 30) (v := (nI 1)) C0 dX4_here_30 (by decide) ?_
      refine g_iaddN (pc := 31) C0  dX4_here_31 ?_
      refine h_put (pc := 32) (C := RX4) (T := TX4) (N := 5) (ci := 4) (q0 := 0) (ty := .int) (ws' := (rd, .inr (4, [.ref tx, .int (nI sz), .ref tw, .int (nI (a + 1)), .int (nI fr)])) :: (tx, .inl (dT 2, 500, .inl (fun i => xBy (t i)))) :: Xs) C0 tyX4 tyX4_ok nmX4 3 rfl rfl in_X4 (by decide) q253 rfl rfl rfl rfl (by show 3 < 5; decide) rfl dX4_here_32 ?_
      refine g_goto (pc := 35) 0 C0 dX4_here_35 (by decide) ?_
      exact ih (a + 1) ⟨by omega, by omega, (runN_s (p := isSp t) h8 (decide_eq_true ((by_32 _ (ht a (by omega))).mp h22))).symm.trans hI3⟩ (by omega)
set_option maxHeartbeats 4000000 in
set_option maxRecDepth 100000 in
theorem hX4_word (l : Launch) (D : va_G) (dT : Nat → ClassId) (kk : (Nat → Nat) × (Nat → Nat)) (Xs : va_W) (rd tx tw at0 fr sz : Nat) (t : Nat → Nat) (hs : sz ≤ 500) (ht : ∀ k, k < 500 → t k < 256) (ha : at0 ≤ sz) : HC l yX4_word cX4_word 3 (some (.object "java/lang/String")) ({ frames := 6, cells := 9, slots := 1640, locals := 175 }) D dT kk [.ref rd] ((rd, .inr (4, [.ref tx, .int (nI sz), .ref tw, .int (nI at0), .int (nI fr)])) :: (tx, .inl (dT 2, 500, .inl (fun i => xBy (t i)))) :: Xs) (hQr D dT (fun (u : Nat × (Nat → Int32)) (r : Nat) => (r, .inr (10, [.ref u.1, .int (nI 0), .int (nI 0), .int (nI 0)])) :: (u.1, .inl (dT 2, (wdW t sz at0 - nxA t sz at0), .inl u.2)) :: (rd, .inr (4, [.ref tx, .int (nI sz), .ref tw, .int (nI (wdW t sz at0)), .int (nI (nxA t sz at0))])) :: (tx, .inl (dT 2, 500, .inl (fun i => xBy (t i)))) :: Xs) (fun u _ => ∀ i, i < (wdW t sz at0 - nxA t sz at0) → u.2 i = nI (t (nxA t sz at0 + i)))) 9 1640 := by
  refine HC.ofG (own := "FittingStrides$Reader") (L := [some (.ref rd), none, none]) rfl (by decide) (Nat.le_of_ble_eq_true rfl) rfl ?_
  intro p' e' s' m' bl' mt' c' A' hA' C0 hE hnm
  obtain ⟨hA1, hA2⟩ := nxA_le (t := t) ha
  obtain ⟨hW1, hW2⟩ := wdW_le (t := t) ha
  refine h_newF (pc := 0) (C := RJ1) (T := TJ1) (N := 4) (ci := 9) (fs0 := [.null, .int (nI 0), .int (nI 0), .int (nI 0)]) C0 tyJ1 tyJ1_ok in_J1 rfl q278 q279 q63 (by decide) ⟨Nat.le_of_ble_eq_true rfl, Nat.le_of_ble_eq_true rfl⟩ dX4_word_0 (fun q0 => ?_)
  refine g_dup (pc := 3) C0 dX4_word_3 rfl ?_
  refine h_ci (pc := 4) (na := 0) (As := []) (rest := [.ref q0]) C0 hE (hJ1_init l D dT kk ((rd, .inr (4, [.ref tx, .int (nI sz), .ref tw, .int (nI at0), .int (nI fr)])) :: (tx, .inl (dT 2, 500, .inl (fun i => xBy (t i)))) :: Xs) q0) q280 q281 q63 q282 rfl (by decide +kernel) ⟨Nat.le_of_ble_eq_true rfl, Nat.le_of_ble_eq_true rfl⟩ rfl rfl ⟨Nat.le_of_ble_eq_true rfl, Nat.le_of_ble_eq_true rfl⟩ rfl rfl (Nat.le_of_ble_eq_true rfl) dX4_word_4 (fun u4 hq9 => ?_)
  refine g_astore_n (pc := 7) 1 C0 (L1 := [some (.ref rd), some (.ref q0), none]) rfl (by decide) dX4_word_7 rfl rfl ?_
  refine g_aload_n (pc := 8) 0 C0 rfl dX4_word_8 rfl ?_
  refine G.front 3 (ws' := (tx, .inl (dT 2, 500, .inl (fun i => xBy (t i)))) :: (q0, .inr (9, [.ref u4, .int (nI 0), .int (nI 0), .int (nI 0)])) :: (u4, .inl (dT 2, 16, .inl (fun _ => 0))) :: (rd, .inr (4, [.ref tx, .int (nI sz), .ref tw, .int (nI at0), .int (nI fr)])) :: Xs) rfl rfl ?_
  refine G.front 3 (ws' := (rd, .inr (4, [.ref tx, .int (nI sz), .ref tw, .int (nI at0), .int (nI fr)])) :: (tx, .inl (dT 2, 500, .inl (fun i => xBy (t i)))) :: (q0, .inr (9, [.ref u4, .int (nI 0), .int (nI 0), .int (nI 0)])) :: (u4, .inl (dT 2, 16, .inl (fun _ => 0))) :: Xs) rfl rfl ?_
  refine h_cvi (pc := 9) (na := 0) (As := []) (rest := []) C0 hE (hX4_here l D dT kk ((q0, .inr (9, [.ref u4, .int (nI 0), .int (nI 0), .int (nI 0)])) :: (u4, .inl (dT 2, 16, .inl (fun _ => 0))) :: Xs) rd tx tw at0 fr sz t hs ht (by omega)) (q0 := 0) (ci := 4) (C := RX4) (T := TX4) (N := 5) (a := rd) rfl rfl q270 q272 qs0 q61 q273 (by decide +kernel) ⟨Nat.le_of_ble_eq_true rfl, Nat.le_of_ble_eq_true rfl⟩ rfl rfl ⟨Nat.le_of_ble_eq_true rfl, Nat.le_of_ble_eq_true rfl⟩ rfl rfl (Nat.le_of_ble_eq_true rfl) dX4_word_9 (fun r u hq9 => ?_)
  obtain ⟨rfl, -⟩ := hq9
  refine g_istore_n (pc := 12) 2 C0 (L1 := [some (.ref rd), some (.ref q0), some (.int (oI (nxV t sz at0)))]) rfl (by decide) dX4_word_12 rfl rfl ?_
  refine g_aload_n (pc := 13) 0 C0 rfl dX4_word_13 rfl ?_
  refine g_aload_n (pc := 14) 0 C0 rfl dX4_word_14 rfl ?_
  refine h_get (pc := 15) (v := .int (nI (nxA t sz at0))) (C := RX4) (T := TX4) (N := 5) (ci := 4) (q0 := 0) (ref := "") C0 3 rfl rfl in_X4 (by decide) q253 rfl dX4_word_15 ?_
  refine h_put (pc := 18) (C := RX4) (T := TX4) (N := 5) (ci := 4) (q0 := 0) (ty := .int) (ws' := (rd, .inr (4, [.ref tx, .int (nI sz), .ref tw, .int (nI (nxA t sz at0)), .int (nI (nxA t sz at0))])) :: (tx, .inl (dT 2, 500, .inl (fun i => xBy (t i)))) :: (q0, .inr (9, [.ref u4, .int (nI 0), .int (nI 0), .int (nI 0)])) :: (u4, .inl (dT 2, 16, .inl (fun _ => 0))) :: Xs) C0 tyX4 tyX4_ok nmX4 4 rfl rfl in_X4 (by decide) q254 rfl rfl rfl rfl (by show 4 < 5; decide) rfl dX4_word_18 ?_
  refine G.front 1 (ws' := (tx, .inl (dT 2, 500, .inl (fun i => xBy (t i)))) :: (rd, .inr (4, [.ref tx, .int (nI sz), .ref tw, .int (nI (nxA t sz at0)), .int (nI (nxA t sz at0))])) :: (q0, .inr (9, [.ref u4, .int (nI 0), .int (nI 0), .int (nI 0)])) :: (u4, .inl (dT 2, 16, .inl (fun _ => 0))) :: Xs) rfl rfl ?_
  refine G.front 1 (ws' := (rd, .inr (4, [.ref tx, .int (nI sz), .ref tw, .int (nI (nxA t sz at0)), .int (nI (nxA t sz at0))])) :: (tx, .inl (dT 2, 500, .inl (fun i => xBy (t i)))) :: (q0, .inr (9, [.ref u4, .int (nI 0), .int (nI 0), .int (nI 0)])) :: (u4, .inl (dT 2, 16, .inl (fun _ => 0))) :: Xs) rfl rfl ?_
  refine G.front 3 (ws' := (u4, .inl (dT 2, 16, .inl (fun _ => 0))) :: (rd, .inr (4, [.ref tx, .int (nI sz), .ref tw, .int (nI (nxA t sz at0)), .int (nI (nxA t sz at0))])) :: (tx, .inl (dT 2, 500, .inl (fun i => xBy (t i)))) :: (q0, .inr (9, [.ref u4, .int (nI 0), .int (nI 0), .int (nI 0)])) :: Xs) rfl rfl ?_
  refine G.front 3 (ws' := (q0, .inr (9, [.ref u4, .int (nI 0), .int (nI 0), .int (nI 0)])) :: (u4, .inl (dT 2, 16, .inl (fun _ => 0))) :: (rd, .inr (4, [.ref tx, .int (nI sz), .ref tw, .int (nI (nxA t sz at0)), .int (nI (nxA t sz at0))])) :: (tx, .inl (dT 2, 500, .inl (fun i => xBy (t i)))) :: Xs) rfl rfl ?_
  refine G.forget 2 ?_
  refine G.lE (L' := [some (.ref rd), some (.ref q0), none]) rfl ?_
  refine G.whK (pc := 21) (wf := fun x => (q0, .inr (9, [.ref x.2.2.1, .int (nI 0), .int (nI 0), .int (nI x.1)])) :: (x.2.2.1, .inl (dT 2, (cp x.2.1), .inl x.2.2.2)) :: (rd, .inr (4, [.ref tx, .int (nI sz), .ref tw, .int (nI (nxA t sz at0 + x.1)), .int (nI (nxA t sz at0))])) :: (tx, .inl (dT 2, 500, .inl (fun i => xBy (t i)))) :: Xs) (Lf := fun _ => [some (.ref rd), some (.ref q0), none]) (kf := fun x => 2 + x.2.1) (nf := fun x => 4 + ss x.2.1) (fun x => sz - (nxA t sz at0 + x.1)) (wdI t sz (nxA t sz at0) (wdW t sz at0)) (0, 0, u4, fun _ => 0) ⟨by show nxA t sz at0 + 0 ≤ sz; omega, Nat.zero_le _, Nat.zero_le _, fun i hi => absurd hi (Nat.not_lt_zero i), sb_fit0, rfl⟩ ?_
  rintro ⟨n9, j, va, f⟩ ⟨hI1, hI2, hI3, hI4, hI5, hI6⟩ ih
  have hI1 : nxA t sz at0 + n9 ≤ sz := hI1
  have hI2 : n9 ≤ cp j := hI2
  have hI3 : j ≤ 5 := hI3
  have hI4 : ∀ i, i < n9 → f i = nI (t (nxA t sz at0 + i)) := hI4
  have hI5 : sb_Fit f := hI5
  have hI6 : runN (isLt t) sz (nxA t sz at0 + n9) = wdW t sz at0 := hI6
  obtain ⟨hj1, hj2⟩ := cp_le j hI3
  refine G.wsE (ws' := (q0, .inr (9, [.ref va, .int (nI 0), .int (nI 0), .int (nI n9)])) :: (va, .inl (dT 2, (cp j), .inl f)) :: (rd, .inr (4, [.ref tx, .int (nI sz), .ref tw, .int (nI (nxA t sz at0 + n9)), .int (nI (nxA t sz at0))])) :: (tx, .inl (dT 2, 500, .inl (fun i => xBy (t i)))) :: Xs) rfl ?_
  refine G.widen (k' := 2 + j) (n' := 4 + ss j) (Nat.le_refl _) (Nat.le_refl _) ?_
  refine g_aload_n (pc := 21) 0 C0 rfl dX4_word_21 rfl ?_
  refine h_get (pc := 22) (v := .int (nI (nxA t sz at0 + n9))) (C := RX4) (T := TX4) (N := 5) (ci := 4) (q0 := 2) (ref := "") C0 3 rfl rfl in_X4 (by decide) q253 rfl dX4_word_22 ?_
  refine g_aload_n (pc := 25) 0 C0 rfl dX4_word_25 rfl ?_
  refine h_get (pc := 26) (v := .int (nI sz)) (C := RX4) (T := TX4) (N := 5) (ci := 4) (q0 := 2) (ref := "") C0 1 rfl rfl in_X4 (by decide) q251 rfl dX4_word_26 ?_
  refine g_icmp_geN (pc := 29) 79 C0 (by omega) (by omega) dX4_word_29 (by decide) (fun h29 => ?_) (fun h29 => ?_)
  · have hW : wdW t sz at0 = nxA t sz at0 + n9 := hI6.symm.trans (runN_big _ h29)
    obtain rfl : n9 = wdW t sz at0 - nxA t sz at0 := by omega
    refine G.wsE (ws' := (q0, .inr (9, [.ref va, .int (nI 0), .int (nI 0), .int (nI (wdW t sz at0 - nxA t sz at0))])) :: (va, .inl (dT 2, (cp j), .inl f)) :: (rd, .inr (4, [.ref tx, .int (nI sz), .ref tw, .int (nI (wdW t sz at0)), .int (nI (nxA t sz at0))])) :: (tx, .inl (dT 2, 500, .inl (fun i => xBy (t i)))) :: Xs) (by rw [show nxA t sz at0 + (wdW t sz at0 - nxA t sz at0) = wdW t sz at0 by omega]) ?_
    refine g_aload_n (pc := 79) 1 C0 rfl dX4_word_79 rfl ?_
    refine h_cvr (pc := 80) (na := 0) (As := []) (rest := []) C0 hE (hJ1_toString l D dT kk ((rd, .inr (4, [.ref tx, .int (nI sz), .ref tw, .int (nI (wdW t sz at0)), .int (nI (nxA t sz at0))])) :: (tx, .inl (dT 2, 500, .inl (fun i => xBy (t i)))) :: Xs) q0 va (cp j) (wdW t sz at0 - nxA t sz at0) f (by omega) (by omega) hI5) (q0 := 0) (ci := 9) (C := RJ1) (T := TJ1) (N := 4) (a := q0) rfl rfl q405 q406 q407 q63 q408 (by decide +kernel) ⟨Nat.le_of_ble_eq_true rfl, Nat.le_of_ble_eq_true rfl⟩ rfl rfl (by constructor <;> dsimp only <;> omega) rfl rfl (Nat.le_of_ble_eq_true rfl) dX4_word_80 (fun u80 r80 hq9 => ?_)
    obtain ⟨hA80, hF80⟩ := hq9
    refine G.widen (k' := 9) (n' := 1640) (by omega) (by omega) ?_
    exact h_aret (pc := 83) C0 (Or.inl ⟨_, rfl⟩) u80 dX4_word_83 rfl (fun i hi => (hA80 i hi).trans (hI4 i hi))
  · refine g_aload_n (pc := 32) 0 C0 rfl dX4_word_32 rfl ?_
    refine h_get (pc := 33) (v := .ref tx) (C := RX4) (T := TX4) (N := 5) (ci := 4) (q0 := 2) (ref := "") C0 0 rfl rfl in_X4 (by decide) q250 rfl dX4_word_33 ?_
    refine g_aload_n (pc := 36) 0 C0 rfl dX4_word_36 rfl ?_
    refine h_get (pc := 37) (v := .int (nI (nxA t sz at0 + n9))) (C := RX4) (T := TX4) (N := 5) (ci := 4) (q0 := 2) (ref := "") C0 3 rfl rfl in_X4 (by decide) q253 rfl dX4_word_37 ?_
    refine h_bald (pc := 40) (q0 := 3) (t0 := 2) (v := ((fun i => xBy (t i)) (nxA t sz at0 + n9))) C0 (nxA t sz at0 + n9) rfl rfl (by omega) (by omega) rfl dX4_word_40 ?_
    refine g_bipush (pc := 41) (v := (nI 97)) C0 dX4_word_41 (by decide) ?_
    refine g_bipush (pc := 43) (v := (nI 122)) C0 dX4_word_43 (by decide) ?_
    refine h_sni (pc := 45) (na := 3) (As := [.int ((fun i => xBy (t i)) (nxA t sz at0 + n9)), .int (nI 97), .int (nI 122)]) (rest := []) C0 hE.nw (xX_isIn l ((fun i => xBy (t i)) (nxA t sz at0 + n9)) (nI 97) (nI 122)) q309 q233 q57 q234 (by decide +kernel) ⟨Nat.le_of_ble_eq_true rfl, Nat.le_of_ble_eq_true rfl⟩ rfl rfl (by constructor <;> dsimp only <;> omega) rfl rfl (Nat.le_of_ble_eq_true rfl) dX4_word_45 ?_
    refine g_if_eqB (pc := 48) 79 C0 dX4_word_48 (by decide) (fun h48 => ?_) (fun h48 => ?_)
    · rw [by_lt _ (ht _ (by omega))] at h48
      have hW : wdW t sz at0 = nxA t sz at0 + n9 := hI6.symm.trans (runN_e (p := isLt t) h48)
      obtain rfl : n9 = wdW t sz at0 - nxA t sz at0 := by omega
      refine G.wsE (ws' := (q0, .inr (9, [.ref va, .int (nI 0), .int (nI 0), .int (nI (wdW t sz at0 - nxA t sz at0))])) :: (va, .inl (dT 2, (cp j), .inl f)) :: (rd, .inr (4, [.ref tx, .int (nI sz), .ref tw, .int (nI (wdW t sz at0)), .int (nI (nxA t sz at0))])) :: (tx, .inl (dT 2, 500, .inl (fun i => xBy (t i)))) :: Xs) (by rw [show nxA t sz at0 + (wdW t sz at0 - nxA t sz at0) = wdW t sz at0 by omega]) ?_
      refine g_aload_n (pc := 79) 1 C0 rfl dX4_word_79 rfl ?_
      refine h_cvr (pc := 80) (na := 0) (As := []) (rest := []) C0 hE (hJ1_toString l D dT kk ((rd, .inr (4, [.ref tx, .int (nI sz), .ref tw, .int (nI (wdW t sz at0)), .int (nI (nxA t sz at0))])) :: (tx, .inl (dT 2, 500, .inl (fun i => xBy (t i)))) :: Xs) q0 va (cp j) (wdW t sz at0 - nxA t sz at0) f (by omega) (by omega) hI5) (q0 := 0) (ci := 9) (C := RJ1) (T := TJ1) (N := 4) (a := q0) rfl rfl q405 q406 q407 q63 q408 (by decide +kernel) ⟨Nat.le_of_ble_eq_true rfl, Nat.le_of_ble_eq_true rfl⟩ rfl rfl (by constructor <;> dsimp only <;> omega) rfl rfl (Nat.le_of_ble_eq_true rfl) dX4_word_80 (fun u80 r80 hq9 => ?_)
      obtain ⟨hA80, hF80⟩ := hq9
      refine G.widen (k' := 9) (n' := 1640) (by omega) (by omega) ?_
      exact h_aret (pc := 83) C0 (Or.inl ⟨_, rfl⟩) u80 dX4_word_83 rfl (fun i hi => (hA80 i hi).trans (hI4 i hi))
    · rw [by_lt _ (ht _ (by omega))] at h48
      have hl48 : isLt t (nxA t sz at0 + n9) = true := h48
      have h48 := of_decide_eq_true h48
      refine g_aload_n (pc := 51) 1 C0 rfl dX4_word_51 rfl ?_
      refine g_aload_n (pc := 52) 0 C0 rfl dX4_word_52 rfl ?_
      refine h_get (pc := 53) (v := .ref tx) (C := RX4) (T := TX4) (N := 5) (ci := 4) (q0 := 2) (ref := "") C0 0 rfl rfl in_X4 (by decide) q250 rfl dX4_word_53 ?_
      refine g_aload_n (pc := 56) 0 C0 rfl dX4_word_56 rfl ?_
      refine h_get (pc := 57) (v := .int (nI (nxA t sz at0 + n9))) (C := RX4) (T := TX4) (N := 5) (ci := 4) (q0 := 2) (ref := "") C0 3 rfl rfl in_X4 (by decide) q253 rfl dX4_word_57 ?_
      refine h_bald (pc := 60) (q0 := 3) (t0 := 2) (v := ((fun i => xBy (t i)) (nxA t sz at0 + n9))) C0 (nxA t sz at0 + n9) rfl rfl (by omega) (by omega) rfl dX4_word_60 ?_
      refine g_i2c (pc := 61) (v := (nI (t (nxA t sz at0 + n9)))) C0 dX4_word_61 (by_c _ (by omega)) ?_
      by_cases hfull : n9 < cp j
      · have hz9 := hfull
        refine h_cvr (pc := 62) (na := 1) (As := [.int (nI (t (nxA t sz at0 + n9)))]) (rest := []) C0 hE (hJ1_appF l D dT kk ((rd, .inr (4, [.ref tx, .int (nI sz), .ref tw, .int (nI (nxA t sz at0 + n9)), .int (nI (nxA t sz at0))])) :: (tx, .inl (dT 2, 500, .inl (fun i => xBy (t i)))) :: Xs) q0 va (cp j) n9 (t (nxA t sz at0 + n9)) f (by omega) (by omega) (by omega) hI5) (q0 := 0) (ci := 9) (C := RJ1) (T := TJ1) (N := 4) (a := q0) rfl rfl q310 q311 q312 q63 q313 (by decide +kernel) ⟨Nat.le_of_ble_eq_true rfl, Nat.le_of_ble_eq_true rfl⟩ rfl rfl (by constructor <;> dsimp only <;> omega) rfl rfl (Nat.le_of_ble_eq_true rfl) dX4_word_62 (fun u62 r hq9 => ?_)
        obtain ⟨e9, hA62, hB62, hF62⟩ := hq9
        have e9 := e9.symm
        subst e9
        refine g_pop (pc := 65) C0 dX4_word_65 rfl ?_
        refine g_aload_n (pc := 66) 0 C0 rfl dX4_word_66 rfl ?_
        refine g_dup (pc := 67) C0 dX4_word_67 rfl ?_
        refine h_get (pc := 68) (v := .int (nI (nxA t sz at0 + n9))) (C := RX4) (T := TX4) (N := 5) (ci := 4) (q0 := 2) (ref := "") C0 3 rfl rfl in_X4 (by decide) q253 rfl dX4_word_68 ?_
        refine g_iconst (pc := 71) (v := (nI 1)) C0 dX4_word_71 (by decide) ?_
        refine g_iaddN (pc := 72) C0  dX4_word_72 ?_
        refine h_put (pc := 73) (C := RX4) (T := TX4) (N := 5) (ci := 4) (q0 := 2) (ty := .int) (ws' := (q0, .inr (9, [.ref u62.1, .int (nI 0), .int (nI 0), .int (nI (n9 + 1))])) :: (u62.1, .inl (dT 2, (cp j), .inl u62.2)) :: (rd, .inr (4, [.ref tx, .int (nI sz), .ref tw, .int (nI ((nxA t sz at0 + n9) + 1)), .int (nI (nxA t sz at0))])) :: (tx, .inl (dT 2, 500, .inl (fun i => xBy (t i)))) :: Xs) C0 tyX4 tyX4_ok nmX4 3 rfl rfl in_X4 (by decide) q253 rfl rfl rfl rfl (by show 3 < 5; decide) rfl dX4_word_73 ?_
        refine g_goto (pc := 76) 21 C0 dX4_word_76 (by decide) ?_
        refine ih (n9 + 1, j, u62.1, u62.2) ⟨by show nxA t sz at0 + (n9 + 1) ≤ sz; omega, by simp only [cp]; omega, by show j ≤ 5; omega, fun i hi => ?_, hF62, (runN_s (p := isLt t) (by omega) hl48).symm.trans hI6⟩ (by show sz - (nxA t sz at0 + (n9 + 1)) < sz - (nxA t sz at0 + n9); omega)
        rcases Nat.lt_succ_iff_lt_or_eq.mp hi with h | h
        · exact (hA62 i h).trans (hI4 i h)
        · rw [h]; exact hB62
      · have hn5 : j ≤ 4 := by
          rcases Nat.lt_or_ge j 5 with h | h
          · omega
          · have e5 : j = 5 := by omega
            have := cp_5; rw [← e5] at this; omega
        have hz9 := (cp_le (j + 1) (by omega)).2
        simp only [ss, cp] at hz9
        refine h_cvr (pc := 62) (na := 1) (As := [.int (nI (t (nxA t sz at0 + n9)))]) (rest := []) C0 hE (hJ1_appG l D dT kk ((rd, .inr (4, [.ref tx, .int (nI sz), .ref tw, .int (nI (nxA t sz at0 + n9)), .int (nI (nxA t sz at0))])) :: (tx, .inl (dT 2, 500, .inl (fun i => xBy (t i)))) :: Xs) q0 va (cp j) n9 (t (nxA t sz at0 + n9)) f (by omega) (by omega) (by omega) hI5) (q0 := 0) (ci := 9) (C := RJ1) (T := TJ1) (N := 4) (a := q0) rfl rfl q310 q311 q312 q63 q313 (by decide +kernel) ⟨Nat.le_of_ble_eq_true rfl, Nat.le_of_ble_eq_true rfl⟩ rfl rfl (by constructor <;> dsimp only <;> omega) rfl rfl (Nat.le_of_ble_eq_true rfl) dX4_word_62 (fun u62 r hq9 => ?_)
        obtain ⟨e9, hA62, hB62, hF62⟩ := hq9
        have e9 := e9.symm
        subst e9
        refine g_pop (pc := 65) C0 dX4_word_65 rfl ?_
        refine g_aload_n (pc := 66) 0 C0 rfl dX4_word_66 rfl ?_
        refine g_dup (pc := 67) C0 dX4_word_67 rfl ?_
        refine h_get (pc := 68) (v := .int (nI (nxA t sz at0 + n9))) (C := RX4) (T := TX4) (N := 5) (ci := 4) (q0 := 2) (ref := "") C0 3 rfl rfl in_X4 (by decide) q253 rfl dX4_word_68 ?_
        refine g_iconst (pc := 71) (v := (nI 1)) C0 dX4_word_71 (by decide) ?_
        refine g_iaddN (pc := 72) C0  dX4_word_72 ?_
        refine h_put (pc := 73) (C := RX4) (T := TX4) (N := 5) (ci := 4) (q0 := 2) (ty := .int) (ws' := (q0, .inr (9, [.ref u62.1, .int (nI 0), .int (nI 0), .int (nI (n9 + 1))])) :: (u62.1, .inl (dT 2, 2 * (cp j) + 2, .inl u62.2)) :: (rd, .inr (4, [.ref tx, .int (nI sz), .ref tw, .int (nI ((nxA t sz at0 + n9) + 1)), .int (nI (nxA t sz at0))])) :: (tx, .inl (dT 2, 500, .inl (fun i => xBy (t i)))) :: Xs) C0 tyX4 tyX4_ok nmX4 3 rfl rfl in_X4 (by decide) q253 rfl rfl rfl rfl (by show 3 < 5; decide) rfl dX4_word_73 ?_
        refine g_goto (pc := 76) 21 C0 dX4_word_76 (by decide) ?_
        refine G.widen (k' := 2 + (j + 1)) (n' := 4 + ss (j + 1)) (by omega) (by simp only [ss, cp]; omega) ?_
        refine ih (n9 + 1, j + 1, u62.1, u62.2) ⟨by show nxA t sz at0 + (n9 + 1) ≤ sz; omega, by simp only [cp]; omega, by show j + 1 ≤ 5; omega, fun i hi => ?_, hF62, (runN_s (p := isLt t) (by omega) hl48).symm.trans hI6⟩ (by show sz - (nxA t sz at0 + (n9 + 1)) < sz - (nxA t sz at0 + n9); omega)
        rcases Nat.lt_succ_iff_lt_or_eq.mp hi with h | h
        · exact (hA62 i h).trans (hI4 i h)
        · rw [h]; exact hB62
set_option maxHeartbeats 4000000 in
set_option maxRecDepth 100000 in
theorem hX4_number (l : Launch) (D : va_G) (dT : Nat → ClassId) (kk : (Nat → Nat) × (Nat → Nat)) (Xs : va_W) (rd tx tw at0 fr sz : Nat) (t : Nat → Nat) (lo hi : Nat) (hs : sz ≤ 500) (ht : ∀ k, k < 500 → t k < 256) (ha : at0 ≤ sz) (hlo : lo < 2 ^ 31) (hhi : hi < 2 ^ 31) : HX l yX4_number cX4_number 4 (some .int) ({ frames := 5, cells := 2, slots := 16, locals := 112 }) D dT kk [.ref rd, .int (nI lo), .int (nI hi)] ((rd, .inr (4, [.ref tx, .int (nI sz), .ref tw, .int (nI at0), .int (nI fr)])) :: (tx, .inl (dT 2, 500, .inl (fun i => xBy (t i)))) :: Xs) (hQx D dT (fun (u : Unit) => (rd, .inr (4, [.ref tx, .int (nI sz), .ref tw, .int (nI (nuE t sz at0)), .int (nI (nxA t sz at0))])) :: (tx, .inl (dT 2, 500, .inl (fun i => xBy (t i)))) :: Xs) (fun r _ => r = some (.int (nI (nuV t sz at0))) ∧ nuF t sz at0 lo hi = 0) ((tx, .inl (dT 2, 500, .inl (fun i => xBy (t i)))) :: Xs) (fun fa fb => fa = nuF t sz at0 lo hi ∧ fb = nxA t sz at0 ∧ nuF t sz at0 lo hi ≠ 0)) 2 16 := by
  refine HX.ofG (own := "FittingStrides$Reader") (L := [some (.ref rd), some (.int (nI lo)), some (.int (nI hi)), none]) rfl (by decide) (Nat.le_of_ble_eq_true rfl) rfl ?_
  intro p' e' s' m' bl' mt' c' A' hA' C0 hE hx
  obtain ⟨hA1, hA2⟩ := nxA_le (t := t) ha
  obtain ⟨hE1, hE2⟩ := nuE_le (t := t) ha
  refine g_aload_n (pc := 0) 0 C0 rfl dX4_number_0 rfl ?_
  refine h_cvi (pc := 1) (na := 0) (As := []) (rest := []) C0 hE (hX4_here l D dT kk Xs rd tx tw at0 fr sz t hs ht (by omega)) (q0 := 0) (ci := 4) (C := RX4) (T := TX4) (N := 5) (a := rd) rfl rfl q270 q272 qs0 q61 q273 (by decide +kernel) ⟨Nat.le_of_ble_eq_true rfl, Nat.le_of_ble_eq_true rfl⟩ rfl rfl ⟨Nat.le_of_ble_eq_true rfl, Nat.le_of_ble_eq_true rfl⟩ rfl rfl (Nat.le_of_ble_eq_true rfl) dX4_number_1 (fun r u hq9 => ?_)
  obtain ⟨rfl, -⟩ := hq9
  refine g_bipush (pc := 4) (v := (nI 48)) C0 dX4_number_4 (by decide) ?_
  refine g_bipush (pc := 6) (v := (nI 57)) C0 dX4_number_6 (by decide) ?_
  refine h_sni (pc := 8) (na := 3) (As := [.int (oI (nxV t sz at0)), .int (nI 48), .int (nI 57)]) (rest := []) C0 hE.nw (xX_isIn l (oI (nxV t sz at0)) (nI 48) (nI 57)) q309 q233 q57 q234 (by decide +kernel) ⟨Nat.le_of_ble_eq_true rfl, Nat.le_of_ble_eq_true rfl⟩ rfl rfl ⟨Nat.le_of_ble_eq_true rfl, Nat.le_of_ble_eq_true rfl⟩ rfl rfl (Nat.le_of_ble_eq_true rfl) dX4_number_8 ?_
  refine g_iconst (pc := 11) (v := (nI 1)) C0 dX4_number_11 (by decide) ?_
  refine g_aload_n (pc := 12) 0 C0 rfl dX4_number_12 rfl ?_
  refine h_get (pc := 13) (v := .int (nI (nxA t sz at0))) (C := RX4) (T := TX4) (N := 5) (ci := 4) (q0 := 0) (ref := "") C0 3 rfl rfl in_X4 (by decide) q253 rfl dX4_number_13 ?_
  refine h_xs (pc := 16) (na := 3) (As := [.int (nI (bN (isInB (oI (nxV t sz at0)) (nI 48) (nI 57)))), .int (nI 1), .int (nI (nxA t sz at0))]) (rest := []) C0 hE hx (hX4_want l D dT kk ((rd, .inr (4, [.ref tx, .int (nI sz), .ref tw, .int (nI (nxA t sz at0)), .int (nI fr)])) :: (tx, .inl (dT 2, 500, .inl (fun i => xBy (t i)))) :: Xs) (isInB (oI (nxV t sz at0)) (nI 48) (nI 57)) 1 (nxA t sz at0)) q481 q482 q61 q483 (by decide +kernel) ⟨Nat.le_of_ble_eq_true rfl, Nat.le_of_ble_eq_true rfl⟩ rfl rfl ⟨Nat.le_of_ble_eq_true rfl, Nat.le_of_ble_eq_true rfl⟩ ⟨Nat.le_of_ble_eq_true rfl, Nat.le_of_ble_eq_true rfl⟩ (fun fa fb hp => by rw [oI_dg hs ht] at hp; exact ⟨hp.1.trans (nuF_1 hp.2.2).symm, hp.2.1, by rw [nuF_1 hp.2.2]; decide⟩) (List.Sublist.cons _ (List.Sublist.cons_cons _ (List.Sublist.refl _))) rfl rfl (Nat.le_of_ble_eq_true rfl) dX4_number_16 (fun r u hq9 => ?_)
  obtain ⟨rfl, hw16⟩ := hq9
  refine G.stE (st' := []) rfl ?_
  rw [oI_dg hs ht] at hw16
  refine g_aload_n (pc := 19) 0 C0 rfl dX4_number_19 rfl ?_
  refine g_aload_n (pc := 20) 0 C0 rfl dX4_number_20 rfl ?_
  refine h_get (pc := 21) (v := .int (nI (nxA t sz at0))) (C := RX4) (T := TX4) (N := 5) (ci := 4) (q0 := 0) (ref := "") C0 3 rfl rfl in_X4 (by decide) q253 rfl dX4_number_21 ?_
  refine h_put (pc := 24) (C := RX4) (T := TX4) (N := 5) (ci := 4) (q0 := 0) (ty := .int) (ws' := (rd, .inr (4, [.ref tx, .int (nI sz), .ref tw, .int (nI (nxA t sz at0)), .int (nI (nxA t sz at0))])) :: (tx, .inl (dT 2, 500, .inl (fun i => xBy (t i)))) :: Xs) C0 tyX4 tyX4_ok nmX4 4 rfl rfl in_X4 (by decide) q254 rfl rfl rfl rfl (by show 4 < 5; decide) rfl dX4_number_24 ?_
  refine g_iconst (pc := 27) (v := (nI 0)) C0 dX4_number_27 (by decide) ?_
  refine g_istore_n (pc := 28) 3 C0 (L1 := [some (.ref rd), some (.int (nI lo)), some (.int (nI hi)), some (.int (nI 0))]) rfl (by decide) dX4_number_28 rfl rfl ?_
  refine G.lE (L' := [some (.ref rd), some (.int (nI lo)), some (.int (nI hi)), some (.int (nI (mn t (nxA t sz at0) (0))))]) rfl ?_
  refine G.whK (pc := 29) (wf := fun x => (rd, .inr (4, [.ref tx, .int (nI sz), .ref tw, .int (nI (nxA t sz at0 + x)), .int (nI (nxA t sz at0))])) :: (tx, .inl (dT 2, 500, .inl (fun i => xBy (t i)))) :: Xs) (Lf := fun x => [some (.ref rd), some (.int (nI lo)), some (.int (nI hi)), some (.int (nI (mn t (nxA t sz at0) (x))))]) (kf := fun _ => 1) (nf := fun _ => 8) (fun x => sz - (nxA t sz at0 + x)) (nuI t sz (nxA t sz at0) (nuE t sz at0)) 0 ⟨by omega, fun i hi => absurd hi (Nat.not_lt_zero i), rfl⟩ ?_
  rintro n9 ⟨hI1, hI2, hI3⟩ ih
  have hm9 := mn_le t (nxA t sz at0) n9
  refine g_aload_n (pc := 29) 0 C0 rfl dX4_number_29 rfl ?_
  refine h_get (pc := 30) (v := .int (nI (nxA t sz at0 + n9))) (C := RX4) (T := TX4) (N := 5) (ci := 4) (q0 := 0) (ref := "") C0 3 rfl rfl in_X4 (by decide) q253 rfl dX4_number_30 ?_
  refine g_aload_n (pc := 33) 0 C0 rfl dX4_number_33 rfl ?_
  refine h_get (pc := 34) (v := .int (nI sz)) (C := RX4) (T := TX4) (N := 5) (ci := 4) (q0 := 0) (ref := "") C0 1 rfl rfl in_X4 (by decide) q251 rfl dX4_number_34 ?_
  refine g_icmp_geN (pc := 37) 96 C0 (by omega) (by omega) dX4_number_37 (by decide) (fun h37 => ?_) (fun h37 => ?_)
  · have hE9 : nuE t sz at0 = nxA t sz at0 + n9 := hI3.symm.trans (runN_big _ h37)
    refine g_aload_n (pc := 96) 0 C0 rfl dX4_number_96 rfl ?_
    refine h_get (pc := 97) (v := .int (nI (nxA t sz at0 + n9))) (C := RX4) (T := TX4) (N := 5) (ci := 4) (q0 := 0) (ref := "") C0 3 rfl rfl in_X4 (by decide) q253 rfl dX4_number_97 ?_
    refine g_aload_n (pc := 100) 0 C0 rfl dX4_number_100 rfl ?_
    refine h_get (pc := 101) (v := .int (nI (nxA t sz at0))) (C := RX4) (T := TX4) (N := 5) (ci := 4) (q0 := 0) (ref := "") C0 4 rfl rfl in_X4 (by decide) q254 rfl dX4_number_101 ?_
    refine g_iconst (pc := 104) (v := (nI 3)) C0 dX4_number_104 (by decide) ?_
    refine g_iaddN (pc := 105) C0  dX4_number_105 ?_
    refine g_icmp_gtN (pc := 106) 122 C0 (by omega) (by omega) dX4_number_106 (by decide) (fun h106 => ?_) (fun h106 => ?_)
    · refine g_iconst (pc := 122) (v := (nI 0)) C0 dX4_number_122 (by decide) ?_
      refine g_iconst (pc := 123) (v := (nI 2)) C0 dX4_number_123 (by decide) ?_
      refine g_aload_n (pc := 124) 0 C0 rfl dX4_number_124 rfl ?_
      refine h_get (pc := 125) (v := .int (nI (nxA t sz at0))) (C := RX4) (T := TX4) (N := 5) (ci := 4) (q0 := 0) (ref := "") C0 4 rfl rfl in_X4 (by decide) q254 rfl dX4_number_125 ?_
      refine h_xs (pc := 128) (na := 3) (As := [.int (nI 0), .int (nI 2), .int (nI (nxA t sz at0))]) (rest := []) C0 hE hx (hX4_want l D dT kk ((rd, .inr (4, [.ref tx, .int (nI sz), .ref tw, .int (nI (nxA t sz at0 + n9)), .int (nI (nxA t sz at0))])) :: (tx, .inl (dT 2, 500, .inl (fun i => xBy (t i)))) :: Xs) false 2 (nxA t sz at0)) q481 q482 q61 q483 (by decide +kernel) ⟨Nat.le_of_ble_eq_true rfl, Nat.le_of_ble_eq_true rfl⟩ rfl rfl ⟨Nat.le_of_ble_eq_true rfl, Nat.le_of_ble_eq_true rfl⟩ ⟨Nat.le_of_ble_eq_true rfl, Nat.le_of_ble_eq_true rfl⟩ (fun fa fb hp => ⟨hp.1.trans (nuF_2 hw16 ⟨hI1, hI2, hI3⟩ hE9 hlo hhi (Or.inl h106)).symm, hp.2.1, by rw [nuF_2 hw16 ⟨hI1, hI2, hI3⟩ hE9 hlo hhi (Or.inl h106)]; decide⟩) (List.Sublist.cons _ (List.Sublist.cons_cons _ (List.Sublist.refl _))) rfl rfl (Nat.le_of_ble_eq_true rfl) dX4_number_128 (fun r u hq9 => ?_)
      obtain ⟨rfl, hw128⟩ := hq9
      exact absurd hw128 (by decide)
    · refine g_iload_n (pc := 109) 3 C0 rfl dX4_number_109 rfl ?_
      refine g_iload_n (pc := 110) 1 C0 rfl dX4_number_110 rfl ?_
      refine g_iload_n (pc := 111) 2 C0 rfl dX4_number_111 rfl ?_
      refine h_sni (pc := 112) (na := 3) (As := [.int (nI (mn t (nxA t sz at0) n9)), .int (nI lo), .int (nI hi)]) (rest := []) C0 hE.nw (xX_isIn l (nI (mn t (nxA t sz at0) n9)) (nI lo) (nI hi)) q309 q233 q57 q234 (by decide +kernel) ⟨Nat.le_of_ble_eq_true rfl, Nat.le_of_ble_eq_true rfl⟩ rfl rfl ⟨Nat.le_of_ble_eq_true rfl, Nat.le_of_ble_eq_true rfl⟩ rfl rfl (Nat.le_of_ble_eq_true rfl) dX4_number_112 ?_
      refine g_if_eqB (pc := 115) 122 C0 dX4_number_115 (by decide) (fun h115 => ?_) (fun h115 => ?_)
      · refine g_iconst (pc := 122) (v := (nI 0)) C0 dX4_number_122 (by decide) ?_
        refine g_iconst (pc := 123) (v := (nI 2)) C0 dX4_number_123 (by decide) ?_
        refine g_aload_n (pc := 124) 0 C0 rfl dX4_number_124 rfl ?_
        refine h_get (pc := 125) (v := .int (nI (nxA t sz at0))) (C := RX4) (T := TX4) (N := 5) (ci := 4) (q0 := 0) (ref := "") C0 4 rfl rfl in_X4 (by decide) q254 rfl dX4_number_125 ?_
        refine h_xs (pc := 128) (na := 3) (As := [.int (nI 0), .int (nI 2), .int (nI (nxA t sz at0))]) (rest := []) C0 hE hx (hX4_want l D dT kk ((rd, .inr (4, [.ref tx, .int (nI sz), .ref tw, .int (nI (nxA t sz at0 + n9)), .int (nI (nxA t sz at0))])) :: (tx, .inl (dT 2, 500, .inl (fun i => xBy (t i)))) :: Xs) false 2 (nxA t sz at0)) q481 q482 q61 q483 (by decide +kernel) ⟨Nat.le_of_ble_eq_true rfl, Nat.le_of_ble_eq_true rfl⟩ rfl rfl ⟨Nat.le_of_ble_eq_true rfl, Nat.le_of_ble_eq_true rfl⟩ ⟨Nat.le_of_ble_eq_true rfl, Nat.le_of_ble_eq_true rfl⟩ (fun fa fb hp => ⟨hp.1.trans (nuF_2 hw16 ⟨hI1, hI2, hI3⟩ hE9 hlo hhi (Or.inr h115)).symm, hp.2.1, by rw [nuF_2 hw16 ⟨hI1, hI2, hI3⟩ hE9 hlo hhi (Or.inr h115)]; decide⟩) (List.Sublist.cons _ (List.Sublist.cons_cons _ (List.Sublist.refl _))) rfl rfl (Nat.le_of_ble_eq_true rfl) dX4_number_128 (fun r u hq9 => ?_)
        obtain ⟨rfl, hw128⟩ := hq9
        exact absurd hw128 (by decide)
      · refine g_iconst (pc := 118) (v := (nI 1)) C0 dX4_number_118 (by decide) ?_
        refine g_goto (pc := 119) 123 C0 dX4_number_119 (by decide) ?_
        refine g_iconst (pc := 123) (v := (nI 2)) C0 dX4_number_123 (by decide) ?_
        refine g_aload_n (pc := 124) 0 C0 rfl dX4_number_124 rfl ?_
        refine h_get (pc := 125) (v := .int (nI (nxA t sz at0))) (C := RX4) (T := TX4) (N := 5) (ci := 4) (q0 := 0) (ref := "") C0 4 rfl rfl in_X4 (by decide) q254 rfl dX4_number_125 ?_
        refine h_xs (pc := 128) (na := 3) (As := [.int (nI 1), .int (nI 2), .int (nI (nxA t sz at0))]) (rest := []) C0 hE hx (hX4_want l D dT kk ((rd, .inr (4, [.ref tx, .int (nI sz), .ref tw, .int (nI (nxA t sz at0 + n9)), .int (nI (nxA t sz at0))])) :: (tx, .inl (dT 2, 500, .inl (fun i => xBy (t i)))) :: Xs) true 2 (nxA t sz at0)) q481 q482 q61 q483 (by decide +kernel) ⟨Nat.le_of_ble_eq_true rfl, Nat.le_of_ble_eq_true rfl⟩ rfl rfl ⟨Nat.le_of_ble_eq_true rfl, Nat.le_of_ble_eq_true rfl⟩ ⟨Nat.le_of_ble_eq_true rfl, Nat.le_of_ble_eq_true rfl⟩ (fun fa fb hp => absurd hp.2.2 (by decide)) (List.Sublist.cons _ (List.Sublist.cons_cons _ (List.Sublist.refl _))) rfl rfl (Nat.le_of_ble_eq_true rfl) dX4_number_128 (fun r u hq9 => ?_)
        obtain ⟨rfl, hw128⟩ := hq9
        refine G.stE (st' := []) rfl ?_
        refine G.wsE (ws' := (rd, .inr (4, [.ref tx, .int (nI sz), .ref tw, .int (nI (nuE t sz at0)), .int (nI (nxA t sz at0))])) :: (tx, .inl (dT 2, 500, .inl (fun i => xBy (t i)))) :: Xs) (by rw [hE9]) ?_
        refine g_iload_n (pc := 131) 3 C0 rfl dX4_number_131 rfl ?_
        exact h_iretX (pc := 132) C0 () dX4_number_132 rfl ⟨by rw [(nuF_0 hw16 ⟨hI1, hI2, hI3⟩ hE9 (by omega) hlo hhi h115).2], (nuF_0 hw16 ⟨hI1, hI2, hI3⟩ hE9 (by omega) hlo hhi h115).1⟩
  · refine g_aload_n (pc := 40) 0 C0 rfl dX4_number_40 rfl ?_
    refine h_get (pc := 41) (v := .ref tx) (C := RX4) (T := TX4) (N := 5) (ci := 4) (q0 := 0) (ref := "") C0 0 rfl rfl in_X4 (by decide) q250 rfl dX4_number_41 ?_
    refine g_aload_n (pc := 44) 0 C0 rfl dX4_number_44 rfl ?_
    refine h_get (pc := 45) (v := .int (nI (nxA t sz at0 + n9))) (C := RX4) (T := TX4) (N := 5) (ci := 4) (q0 := 0) (ref := "") C0 3 rfl rfl in_X4 (by decide) q253 rfl dX4_number_45 ?_
    refine h_bald (pc := 48) (q0 := 1) (t0 := 2) (v := ((fun i => xBy (t i)) (nxA t sz at0 + n9))) C0 (nxA t sz at0 + n9) rfl rfl (by omega) (by omega) rfl dX4_number_48 ?_
    refine g_bipush (pc := 49) (v := (nI 48)) C0 dX4_number_49 (by decide) ?_
    refine g_bipush (pc := 51) (v := (nI 57)) C0 dX4_number_51 (by decide) ?_
    refine h_sni (pc := 53) (na := 3) (As := [.int ((fun i => xBy (t i)) (nxA t sz at0 + n9)), .int (nI 48), .int (nI 57)]) (rest := []) C0 hE.nw (xX_isIn l ((fun i => xBy (t i)) (nxA t sz at0 + n9)) (nI 48) (nI 57)) q309 q233 q57 q234 (by decide +kernel) ⟨Nat.le_of_ble_eq_true rfl, Nat.le_of_ble_eq_true rfl⟩ rfl rfl ⟨Nat.le_of_ble_eq_true rfl, Nat.le_of_ble_eq_true rfl⟩ rfl rfl (Nat.le_of_ble_eq_true rfl) dX4_number_53 ?_
    refine g_if_eqB (pc := 56) 96 C0 dX4_number_56 (by decide) (fun h56 => ?_) (fun h56 => ?_)
    · rw [by_dg _ (ht _ (by omega))] at h56
      have hE9 : nuE t sz at0 = nxA t sz at0 + n9 := hI3.symm.trans (runN_e (p := isDg t) h56)
      refine g_aload_n (pc := 96) 0 C0 rfl dX4_number_96 rfl ?_
      refine h_get (pc := 97) (v := .int (nI (nxA t sz at0 + n9))) (C := RX4) (T := TX4) (N := 5) (ci := 4) (q0 := 0) (ref := "") C0 3 rfl rfl in_X4 (by decide) q253 rfl dX4_number_97 ?_
      refine g_aload_n (pc := 100) 0 C0 rfl dX4_number_100 rfl ?_
      refine h_get (pc := 101) (v := .int (nI (nxA t sz at0))) (C := RX4) (T := TX4) (N := 5) (ci := 4) (q0 := 0) (ref := "") C0 4 rfl rfl in_X4 (by decide) q254 rfl dX4_number_101 ?_
      refine g_iconst (pc := 104) (v := (nI 3)) C0 dX4_number_104 (by decide) ?_
      refine g_iaddN (pc := 105) C0  dX4_number_105 ?_
      refine g_icmp_gtN (pc := 106) 122 C0 (by omega) (by omega) dX4_number_106 (by decide) (fun h106 => ?_) (fun h106 => ?_)
      · refine g_iconst (pc := 122) (v := (nI 0)) C0 dX4_number_122 (by decide) ?_
        refine g_iconst (pc := 123) (v := (nI 2)) C0 dX4_number_123 (by decide) ?_
        refine g_aload_n (pc := 124) 0 C0 rfl dX4_number_124 rfl ?_
        refine h_get (pc := 125) (v := .int (nI (nxA t sz at0))) (C := RX4) (T := TX4) (N := 5) (ci := 4) (q0 := 0) (ref := "") C0 4 rfl rfl in_X4 (by decide) q254 rfl dX4_number_125 ?_
        refine h_xs (pc := 128) (na := 3) (As := [.int (nI 0), .int (nI 2), .int (nI (nxA t sz at0))]) (rest := []) C0 hE hx (hX4_want l D dT kk ((rd, .inr (4, [.ref tx, .int (nI sz), .ref tw, .int (nI (nxA t sz at0 + n9)), .int (nI (nxA t sz at0))])) :: (tx, .inl (dT 2, 500, .inl (fun i => xBy (t i)))) :: Xs) false 2 (nxA t sz at0)) q481 q482 q61 q483 (by decide +kernel) ⟨Nat.le_of_ble_eq_true rfl, Nat.le_of_ble_eq_true rfl⟩ rfl rfl ⟨Nat.le_of_ble_eq_true rfl, Nat.le_of_ble_eq_true rfl⟩ ⟨Nat.le_of_ble_eq_true rfl, Nat.le_of_ble_eq_true rfl⟩ (fun fa fb hp => ⟨hp.1.trans (nuF_2 hw16 ⟨hI1, hI2, hI3⟩ hE9 hlo hhi (Or.inl h106)).symm, hp.2.1, by rw [nuF_2 hw16 ⟨hI1, hI2, hI3⟩ hE9 hlo hhi (Or.inl h106)]; decide⟩) (List.Sublist.cons _ (List.Sublist.cons_cons _ (List.Sublist.refl _))) rfl rfl (Nat.le_of_ble_eq_true rfl) dX4_number_128 (fun r u hq9 => ?_)
        obtain ⟨rfl, hw128⟩ := hq9
        exact absurd hw128 (by decide)
      · refine g_iload_n (pc := 109) 3 C0 rfl dX4_number_109 rfl ?_
        refine g_iload_n (pc := 110) 1 C0 rfl dX4_number_110 rfl ?_
        refine g_iload_n (pc := 111) 2 C0 rfl dX4_number_111 rfl ?_
        refine h_sni (pc := 112) (na := 3) (As := [.int (nI (mn t (nxA t sz at0) n9)), .int (nI lo), .int (nI hi)]) (rest := []) C0 hE.nw (xX_isIn l (nI (mn t (nxA t sz at0) n9)) (nI lo) (nI hi)) q309 q233 q57 q234 (by decide +kernel) ⟨Nat.le_of_ble_eq_true rfl, Nat.le_of_ble_eq_true rfl⟩ rfl rfl ⟨Nat.le_of_ble_eq_true rfl, Nat.le_of_ble_eq_true rfl⟩ rfl rfl (Nat.le_of_ble_eq_true rfl) dX4_number_112 ?_
        refine g_if_eqB (pc := 115) 122 C0 dX4_number_115 (by decide) (fun h115 => ?_) (fun h115 => ?_)
        · refine g_iconst (pc := 122) (v := (nI 0)) C0 dX4_number_122 (by decide) ?_
          refine g_iconst (pc := 123) (v := (nI 2)) C0 dX4_number_123 (by decide) ?_
          refine g_aload_n (pc := 124) 0 C0 rfl dX4_number_124 rfl ?_
          refine h_get (pc := 125) (v := .int (nI (nxA t sz at0))) (C := RX4) (T := TX4) (N := 5) (ci := 4) (q0 := 0) (ref := "") C0 4 rfl rfl in_X4 (by decide) q254 rfl dX4_number_125 ?_
          refine h_xs (pc := 128) (na := 3) (As := [.int (nI 0), .int (nI 2), .int (nI (nxA t sz at0))]) (rest := []) C0 hE hx (hX4_want l D dT kk ((rd, .inr (4, [.ref tx, .int (nI sz), .ref tw, .int (nI (nxA t sz at0 + n9)), .int (nI (nxA t sz at0))])) :: (tx, .inl (dT 2, 500, .inl (fun i => xBy (t i)))) :: Xs) false 2 (nxA t sz at0)) q481 q482 q61 q483 (by decide +kernel) ⟨Nat.le_of_ble_eq_true rfl, Nat.le_of_ble_eq_true rfl⟩ rfl rfl ⟨Nat.le_of_ble_eq_true rfl, Nat.le_of_ble_eq_true rfl⟩ ⟨Nat.le_of_ble_eq_true rfl, Nat.le_of_ble_eq_true rfl⟩ (fun fa fb hp => ⟨hp.1.trans (nuF_2 hw16 ⟨hI1, hI2, hI3⟩ hE9 hlo hhi (Or.inr h115)).symm, hp.2.1, by rw [nuF_2 hw16 ⟨hI1, hI2, hI3⟩ hE9 hlo hhi (Or.inr h115)]; decide⟩) (List.Sublist.cons _ (List.Sublist.cons_cons _ (List.Sublist.refl _))) rfl rfl (Nat.le_of_ble_eq_true rfl) dX4_number_128 (fun r u hq9 => ?_)
          obtain ⟨rfl, hw128⟩ := hq9
          exact absurd hw128 (by decide)
        · refine g_iconst (pc := 118) (v := (nI 1)) C0 dX4_number_118 (by decide) ?_
          refine g_goto (pc := 119) 123 C0 dX4_number_119 (by decide) ?_
          refine g_iconst (pc := 123) (v := (nI 2)) C0 dX4_number_123 (by decide) ?_
          refine g_aload_n (pc := 124) 0 C0 rfl dX4_number_124 rfl ?_
          refine h_get (pc := 125) (v := .int (nI (nxA t sz at0))) (C := RX4) (T := TX4) (N := 5) (ci := 4) (q0 := 0) (ref := "") C0 4 rfl rfl in_X4 (by decide) q254 rfl dX4_number_125 ?_
          refine h_xs (pc := 128) (na := 3) (As := [.int (nI 1), .int (nI 2), .int (nI (nxA t sz at0))]) (rest := []) C0 hE hx (hX4_want l D dT kk ((rd, .inr (4, [.ref tx, .int (nI sz), .ref tw, .int (nI (nxA t sz at0 + n9)), .int (nI (nxA t sz at0))])) :: (tx, .inl (dT 2, 500, .inl (fun i => xBy (t i)))) :: Xs) true 2 (nxA t sz at0)) q481 q482 q61 q483 (by decide +kernel) ⟨Nat.le_of_ble_eq_true rfl, Nat.le_of_ble_eq_true rfl⟩ rfl rfl ⟨Nat.le_of_ble_eq_true rfl, Nat.le_of_ble_eq_true rfl⟩ ⟨Nat.le_of_ble_eq_true rfl, Nat.le_of_ble_eq_true rfl⟩ (fun fa fb hp => absurd hp.2.2 (by decide)) (List.Sublist.cons _ (List.Sublist.cons_cons _ (List.Sublist.refl _))) rfl rfl (Nat.le_of_ble_eq_true rfl) dX4_number_128 (fun r u hq9 => ?_)
          obtain ⟨rfl, hw128⟩ := hq9
          refine G.stE (st' := []) rfl ?_
          refine G.wsE (ws' := (rd, .inr (4, [.ref tx, .int (nI sz), .ref tw, .int (nI (nuE t sz at0)), .int (nI (nxA t sz at0))])) :: (tx, .inl (dT 2, 500, .inl (fun i => xBy (t i)))) :: Xs) (by rw [hE9]) ?_
          refine g_iload_n (pc := 131) 3 C0 rfl dX4_number_131 rfl ?_
          exact h_iretX (pc := 132) C0 () dX4_number_132 rfl ⟨by rw [(nuF_0 hw16 ⟨hI1, hI2, hI3⟩ hE9 (by omega) hlo hhi h115).2], (nuF_0 hw16 ⟨hI1, hI2, hI3⟩ hE9 (by omega) hlo hhi h115).1⟩
    · rw [by_dg _ (ht _ (by omega))] at h56
      have hl56 : isDg t (nxA t sz at0 + n9) = true := h56
      have h56 := of_decide_eq_true h56
      refine g_sipush (pc := 59) (v := (nI 9999)) C0 dX4_number_59 (by decide) ?_
      refine g_bipush (pc := 62) (v := (nI 10)) C0 dX4_number_62 (by decide) ?_
      refine g_iload_n (pc := 64) 3 C0 rfl dX4_number_64 rfl ?_
      refine g_imulN (pc := 65) C0  dX4_number_65 ?_
      refine g_aload_n (pc := 66) 0 C0 rfl dX4_number_66 rfl ?_
      refine h_get (pc := 67) (v := .ref tx) (C := RX4) (T := TX4) (N := 5) (ci := 4) (q0 := 0) (ref := "") C0 0 rfl rfl in_X4 (by decide) q250 rfl dX4_number_67 ?_
      refine g_aload_n (pc := 70) 0 C0 rfl dX4_number_70 rfl ?_
      refine h_get (pc := 71) (v := .int (nI (nxA t sz at0 + n9))) (C := RX4) (T := TX4) (N := 5) (ci := 4) (q0 := 0) (ref := "") C0 3 rfl rfl in_X4 (by decide) q253 rfl dX4_number_71 ?_
      refine h_bald (pc := 74) (q0 := 1) (t0 := 2) (v := (nI (t (nxA t sz at0 + n9)))) C0 (nxA t sz at0 + n9) rfl rfl (by omega) (by omega) (by_lo _ (by omega)) dX4_number_74 ?_
      refine g_iaddN (pc := 75) C0  dX4_number_75 ?_
      refine g_bipush (pc := 76) (v := (nI 48)) C0 dX4_number_76 (by decide) ?_
      refine g_isubN (pc := 78) C0 (by omega) dX4_number_78 ?_
      refine g_mmin (pc := 79) C0 (by decide) (by omega) q610 q347 q67 q348 (Nat.le_of_ble_eq_true rfl) (Nat.le_of_ble_eq_true rfl) ⟨Nat.le_of_ble_eq_true rfl, Nat.le_of_ble_eq_true rfl⟩ dX4_number_79 ?_
      refine g_istore_n (pc := 82) 3 C0 (L1 := [some (.ref rd), some (.int (nI lo)), some (.int (nI hi)), some (.int (nI (min 9999 (((10 * (mn t (nxA t sz at0) n9)) + (t (nxA t sz at0 + n9))) - 48))))]) rfl (by decide) dX4_number_82 rfl rfl ?_
      refine g_aload_n (pc := 83) 0 C0 rfl dX4_number_83 rfl ?_
      refine g_dup (pc := 84) C0 dX4_number_84 rfl ?_
      refine h_get (pc := 85) (v := .int (nI (nxA t sz at0 + n9))) (C := RX4) (T := TX4) (N := 5) (ci := 4) (q0 := 0) (ref := "") C0 3 rfl rfl in_X4 (by decide) q253 rfl dX4_number_85 ?_
      refine g_iconst (pc := 88) (v := (nI 1)) C0 dX4_number_88 (by decide) ?_
      refine g_iaddN (pc := 89) C0  dX4_number_89 ?_
      refine h_put (pc := 90) (C := RX4) (T := TX4) (N := 5) (ci := 4) (q0 := 0) (ty := .int) (ws' := (rd, .inr (4, [.ref tx, .int (nI sz), .ref tw, .int (nI ((nxA t sz at0 + n9) + 1)), .int (nI (nxA t sz at0))])) :: (tx, .inl (dT 2, 500, .inl (fun i => xBy (t i)))) :: Xs) C0 tyX4 tyX4_ok nmX4 3 rfl rfl in_X4 (by decide) q253 rfl rfl rfl rfl (by show 3 < 5; decide) rfl dX4_number_90 ?_
      refine g_goto (pc := 93) 29 C0 dX4_number_93 (by decide) ?_
      refine G.lE (L' := [some (.ref rd), some (.int (nI lo)), some (.int (nI hi)), some (.int (nI (mn t (nxA t sz at0) (n9 + 1))))]) rfl ?_
      refine ih (n9 + 1) ⟨by omega, fun i hi => ?_, (runN_s (p := isDg t) (by omega) hl56).symm.trans hI3⟩ (by omega)
      rcases Nat.lt_succ_iff_lt_or_eq.mp hi with h | h
      · exact hI2 i h
      · rw [h]; exact h56
set_option maxHeartbeats 4000000 in
set_option maxRecDepth 100000 in
theorem hX4_place (l : Launch) (D : va_G) (dT : Nat → ClassId) (kk : (Nat → Nat) × (Nat → Nat)) (Xs : va_W) (rd tx tw at0 fr sz : Nat) (t : Nat → Nat) (pc sa sm pa sta sea pe : Nat) (hs : sz ≤ 500) (ht : ∀ k, k < 500 → t k < 256) (ha : at0 ≤ sz) (hp1 : 1 ≤ pc) (hp2 : pc ≤ 8) : HX l yX4_place cX4_place 1 (some .int) ({ frames := 6, cells := 2, slots := 16, locals := 135 }) D dT kk [.ref rd] ((rd, .inr (4, [.ref tx, .int (nI sz), .ref tw, .int (nI at0), .int (nI fr)])) :: (tx, .inl (dT 2, 500, .inl (fun i => xBy (t i)))) :: (tw, .inr (2, [.int (nI pc), .ref sa, .int (nI sm), .ref pa, .ref sta, .ref sea, .int (nI pe)])) :: Xs) (hQx D dT (fun (u : Unit) => (rd, .inr (4, [.ref tx, .int (nI sz), .ref tw, .int (nI (nuE t sz at0)), .int (nI (nxA t sz at0))])) :: (tx, .inl (dT 2, 500, .inl (fun i => xBy (t i)))) :: (tw, .inr (2, [.int (nI pc), .ref sa, .int (nI sm), .ref pa, .ref sta, .ref sea, .int (nI pe)])) :: Xs) (fun r _ => r = some (.int (nI (nuV t sz at0))) ∧ nuF t sz at0 0 (pc - 1) = 0) ((tx, .inl (dT 2, 500, .inl (fun i => xBy (t i)))) :: Xs) (fun fa fb => fa = nuF t sz at0 0 (pc - 1) ∧ fb = nxA t sz at0 ∧ nuF t sz at0 0 (pc - 1) ≠ 0)) 2 16 := by
  refine HX.ofG (own := "FittingStrides$Reader") (L := [some (.ref rd)]) rfl (by decide) (Nat.le_of_ble_eq_true rfl) rfl ?_
  intro p' e' s' m' bl' mt' c' A' hA' C0 hE hx
  refine g_aload_n (pc := 0) 0 C0 rfl dX4_place_0 rfl ?_
  refine g_iconst (pc := 1) (v := (nI 0)) C0 dX4_place_1 (by decide) ?_
  refine g_aload_n (pc := 2) 0 C0 rfl dX4_place_2 rfl ?_
  refine h_get (pc := 3) (v := .ref tw) (C := RX4) (T := TX4) (N := 5) (ci := 4) (q0 := 0) (ref := "") C0 2 rfl rfl in_X4 (by decide) q252 rfl dX4_place_3 ?_
  refine h_getN (pc := 6) (v := .int (nI pc)) (C := RX1) (T := TX1) (N := 7) (ci := 2) (q0 := 2)  C0 hE.nw 0 rfl rfl in_X1 (by decide) q95 rfl dX4_place_6 ?_
  refine g_iconst (pc := 9) (v := (nI 1)) C0 dX4_place_9 (by decide) ?_
  refine g_isubN (pc := 10) C0 (by omega) dX4_place_10 ?_
  refine h_xv (pc := 11) (na := 2) (As := [.int (nI 0), .int (nI (pc - 1))]) (rest := []) C0 hE hx (hX4_number l D dT kk ((tw, .inr (2, [.int (nI pc), .ref sa, .int (nI sm), .ref pa, .ref sta, .ref sea, .int (nI pe)])) :: Xs) rd tx tw at0 fr sz t 0 (pc - 1) hs ht (by omega) (by omega) (by omega)) (q0 := 0) (ci := 4) (C := RX4) (T := TX4) (N := 5) (a := rd) rfl rfl q606 q608 qs4 q61 q609 (by decide +kernel) ⟨Nat.le_of_ble_eq_true rfl, Nat.le_of_ble_eq_true rfl⟩ rfl rfl ⟨Nat.le_of_ble_eq_true rfl, Nat.le_of_ble_eq_true rfl⟩ ⟨Nat.le_of_ble_eq_true rfl, Nat.le_of_ble_eq_true rfl⟩ (fun fa fb hp => hp) (List.Sublist.cons_cons _ (List.Sublist.cons _ (List.Sublist.refl _))) rfl rfl (Nat.le_of_ble_eq_true rfl) dX4_place_11 (fun r u hq9 => ?_)
  obtain ⟨rfl, hn11⟩ := hq9
  refine G.stE (st' := [.int (nI (nuV t sz at0))]) rfl ?_
  exact h_iretX (pc := 14) C0 () dX4_place_14 rfl ⟨rfl, hn11⟩
