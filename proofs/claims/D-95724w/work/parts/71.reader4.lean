/-! printed by gen/h6run.py: Reader.all -/
set_option maxHeartbeats 4000000 in
set_option maxRecDepth 100000 in
theorem hX4_all (l : Launch) (D : va_G) (dT : Nat → ClassId) (kk : (Nat → Nat) × (Nat → Nat)) (Xs : va_W) (rd tx tw sz sa pa sta sea : Nat) (t : Nat → Nat) (τ0 Tf : tT) (V : Nat) (x0 : rS) (hs : sz ≤ 500) (ht : ∀ k, k < 500 → t k < 256) (h14 : τ0 14 = t) (h15 : τ0 0 15 = sz) (hr0 : rdx dT τ0 x0) (hw0 : rwf τ0) (hp0 : prI V Tf (τ0, 0)) : HX l yX4_all cX4_all 2 (some (.object "FittingStrides$Town")) ({ frames := 9, cells := 880, slots := 70160, locals := 247 }) D dT kk [.ref rd] (rW dT rd tx tw sz sa pa sta sea t Xs x0) (hQx D dT (fun (u : rS) => rW dT rd tx tw sz sa pa sta sea t Xs u) (fun r u => r = some (.ref tw) ∧ V = 0 ∧ rdx dT Tf u ∧ rwf Tf) ((tx, .inl (dT 2, 500, .inl (fun i => xBy (t i)))) :: Xs) (fun fa fb => fa = V ∧ fb = Tf 0 16 ∧ V ≠ 0)) 880 70160 := by
  refine HX.ofG (own := "FittingStrides$Reader") (L := [some (.ref rd), none]) rfl (by decide) (Nat.le_of_ble_eq_true rfl) rfl ?_
  intro p' e' s' m' bl' mt' c' A' hA' C0 hE hx
  refine G.widen (k' := 44 * cnt τ0) (n' := 3508 * cnt τ0) (Nat.zero_le _) (Nat.zero_le _) ?_
  refine G.whK (pc := 0) (wf := fun y => rW dT rd tx tw sz sa pa sta sea t Xs y.1) (Lf := fun _ => [some (.ref rd), none]) (kf := fun y => 44 * cnt y.2) (nf := fun y => 3508 * cnt y.2) (fun y => prM (y.2, 0)) (fun y => rdx dT y.2 y.1 ∧ rwf y.2 ∧ prI V Tf (y.2, 0) ∧ y.2 14 = t ∧ y.2 0 15 = sz) (x0, τ0) ⟨hr0, hw0, hp0, h14, h15⟩ ?_
  rintro ⟨x9, τ9⟩ ⟨hr, hw, hp, e14, e15⟩ ih
  have hr : rdx dT τ9 x9 := hr
  have hw : rwf τ9 := hw
  have hp : prI V Tf (τ9, 0) := hp
  have e14 : τ9 14 = t := e14
  have e15 : τ9 0 15 = sz := e15
  have hC := prI_C hp
  have hv9 : vw τ9 t sz x9.1 := ⟨e14, e15, hr.1.symm⟩
  have ha9 : x9.1 ≤ sz := by have := hC.1.2.2; rw [hr.1, ← e15]; exact this
  have hcn := cnt_le hC
  obtain ⟨hA1, hA2⟩ := nxA_le (t := t) ha9
  have e22 := hr.2.1
  have e23 := hr.2.2.1
  have e29 := hr.2.2.2.1
  have q22 := hC.2.1
  have q23 := hC.2.2.1
  have q29 := hC.2.2.2
  refine G.wsE (ws' := (rd, .inr (4, [.ref tx, .int (nI sz), .ref tw, .int (nI x9.1), .int (nI x9.2.1)])) :: (tx, .inl (dT 2, 500, .inl (fun i => xBy (t i)))) :: (tw, .inr (2, [.int (nI x9.2.2.1), .ref sa, .int (nI x9.2.2.2.1), .ref pa, .ref sta, .ref sea, .int (nI x9.2.2.2.2.1)])) :: (sa, .inl (dT 5, 10, .inr (.inr (.inr (.inr x9.2.2.2.2.2.1))))) :: (pa, .inl (dT 0, 8, .inl x9.2.2.2.2.2.2.1)) :: (sta, .inl (dT 0, 8, .inl x9.2.2.2.2.2.2.2.1)) :: (sea, .inl (dT 0, 8, .inl x9.2.2.2.2.2.2.2.2.1)) :: (x9.2.2.2.2.2.2.2.2.2 ++ Xs)) rfl ?_
  refine G.widen (k' := 44 * cnt τ9) (n' := 3508 * cnt τ9) (Nat.le_refl _) (Nat.le_refl _) ?_
  refine g_aload_n (pc := 0) 0 C0 rfl dX4_all_0 rfl ?_
  refine h_cvi (pc := 1) (na := 0) (As := []) (rest := []) C0 hE (hX4_here l D dT kk ((tw, .inr (2, [.int (nI x9.2.2.1), .ref sa, .int (nI x9.2.2.2.1), .ref pa, .ref sta, .ref sea, .int (nI x9.2.2.2.2.1)])) :: (sa, .inl (dT 5, 10, .inr (.inr (.inr (.inr x9.2.2.2.2.2.1))))) :: (pa, .inl (dT 0, 8, .inl x9.2.2.2.2.2.2.1)) :: (sta, .inl (dT 0, 8, .inl x9.2.2.2.2.2.2.2.1)) :: (sea, .inl (dT 0, 8, .inl x9.2.2.2.2.2.2.2.2.1)) :: (x9.2.2.2.2.2.2.2.2.2 ++ Xs)) rd tx tw x9.1 x9.2.1 sz t hs ht (by omega)) (q0 := 0) (ci := 4) (C := RX4) (T := TX4) (N := 5) (a := rd) rfl rfl q270 q272 qs0 q61 q273 (by decide +kernel) ⟨Nat.le_of_ble_eq_true rfl, Nat.le_of_ble_eq_true rfl⟩ rfl rfl (by constructor <;> dsimp only <;> omega) rfl rfl (Nat.le_of_ble_eq_true rfl) dX4_all_1 (fun r u hq9 => ?_)
  obtain ⟨rfl, -⟩ := hq9
  refine g_iconst (pc := 4) (v := (-1)) C0 dX4_all_4 (by decide) ?_
  refine g_icmp_eq (pc := 5) 57 C0 dX4_all_5 (by decide) (fun h5 => ?_) (fun h5 => ?_)
  · have hN : hrV τ9 = none := by rw [hv9.hv]; exact (oI_no (nxV_lt hs ht)).mp h5
    obtain ⟨eV, eT⟩ := pr_end hp hN
    refine g_aload_n (pc := 57) 0 C0 rfl dX4_all_57 rfl ?_
    refine h_get (pc := 58) (v := .ref tw) (C := RX4) (T := TX4) (N := 5) (ci := 4) (q0 := 0) (ref := "") C0 2 rfl rfl in_X4 (by decide) q252 rfl dX4_all_58 ?_
    refine G.widen (k' := 880) (n' := 70160) (by omega) (by omega) ?_
    exact h_aretX (pc := 61) C0 (Or.inl ⟨_, rfl⟩) (nxA t sz x9.1, x9.2.1, x9.2.2) dX4_all_61 rfl ⟨rfl, eV, by rw [eT]; unfold hrT; rw [hv9.ha]; exact rdx_at hr _ _, by rw [eT]; exact rwf_at hw _⟩
  · have hN : hrV τ9 ≠ none := by rw [hv9.hv]; exact fun h => h5 ((oI_no (nxV_lt hs ht)).mpr h)
    refine g_aload_n (pc := 8) 0 C0 rfl dX4_all_8 rfl ?_
    refine h_cvr (pc := 9) (na := 0) (As := []) (rest := []) C0 hE (hX4_word l D dT kk ((tw, .inr (2, [.int (nI x9.2.2.1), .ref sa, .int (nI x9.2.2.2.1), .ref pa, .ref sta, .ref sea, .int (nI x9.2.2.2.2.1)])) :: (sa, .inl (dT 5, 10, .inr (.inr (.inr (.inr x9.2.2.2.2.2.1))))) :: (pa, .inl (dT 0, 8, .inl x9.2.2.2.2.2.2.1)) :: (sta, .inl (dT 0, 8, .inl x9.2.2.2.2.2.2.2.1)) :: (sea, .inl (dT 0, 8, .inl x9.2.2.2.2.2.2.2.2.1)) :: (x9.2.2.2.2.2.2.2.2.2 ++ Xs)) rd tx tw (nxA t sz x9.1) x9.2.1 sz t hs ht (by omega)) (q0 := 0) (ci := 4) (C := RX4) (T := TX4) (N := 5) (a := rd) rfl rfl q274 q276 qs1 q61 q277 (by decide +kernel) ⟨Nat.le_of_ble_eq_true rfl, Nat.le_of_ble_eq_true rfl⟩ rfl rfl (by constructor <;> dsimp only <;> omega) rfl rfl (Nat.le_of_ble_eq_true rfl) dX4_all_9 (fun u9 r9 hq9 => ?_)
    refine g_astore_n (pc := 12) 1 C0 (L1 := [some (.ref rd), some (.ref r9)]) rfl (by decide) dX4_all_12 rfl rfl ?_
    refine g_aload_n (pc := 13) 0 C0 rfl dX4_all_13 rfl ?_
    refine g_aload_n (pc := 14) 1 C0 rfl dX4_all_14 rfl ?_
    refine g_aload_n (pc := 15) 0 C0 rfl dX4_all_15 rfl ?_
    refine h_get (pc := 16) (v := .int (nI (nxA t sz (nxA t sz x9.1)))) (C := RX4) (T := TX4) (N := 5) (ci := 4) (q0 := 2) (ref := "") C0 4 rfl rfl in_X4 (by decide) q254 rfl dX4_all_16 ?_
    refine h_xv (pc := 19) (na := 2) (As := [.ref r9, .int (nI (nxA t sz (nxA t sz x9.1)))]) (rest := []) C0 hE hx (hX4_clause l D dT kk (x9.2.2.2.2.2.2.2.2.2 ++ Xs) rd tx tw (nxA t sz x9.1) (nxA t sz (nxA t sz x9.1)) sz t x9.2.2.1 sa x9.2.2.2.1 pa sta sea x9.2.2.2.2.1 r9 u9.1 x9.2.2.2.2.2.1 x9.2.2.2.2.2.2.1 x9.2.2.2.2.2.2.2.1 x9.2.2.2.2.2.2.2.2.1 u9.2 hs ht hA2 (by omega) (by omega) (by omega) hq9) (q0 := 2) (ci := 4) (C := RX4) (T := TX4) (N := 5) (a := rd) rfl rfl q468 q470 qs2 q61 q471 (by decide +kernel) ⟨Nat.le_of_ble_eq_true rfl, Nat.le_of_ble_eq_true rfl⟩ rfl rfl (by constructor <;> dsimp only <;> omega) (by constructor <;> omega) (fun fa fb hpp => all_er hp hN hv9 ha9 (by rw [← e22, ← e23, ← e29]; exact hpp)) (List.Sublist.cons_cons _ (List.Sublist.trans (List.Sublist.refl _) (List.sublist_append_right _ _))) rfl rfl (Nat.le_of_ble_eq_true rfl) dX4_all_19 (fun r u19 hq9 => ?_)
    obtain ⟨rfl, hR19⟩ := hq9
    refine G.stE (st' := []) rfl ?_
    have hu9 : u19.1 ≤ sz := all_le hp hN hr hw hv9 ha9 hR19
    refine G.wsE (ws' := (rd, .inr (4, [.ref tx, .int (nI sz), .ref tw, .int (nI u19.1), .int (nI u19.2.1)])) :: (tx, .inl (dT 2, 500, .inl (fun i => xBy (t i)))) :: (tw, .inr (2, [.int (nI u19.2.2.1), .ref sa, .int (nI u19.2.2.2.1), .ref pa, .ref sta, .ref sea, .int (nI u19.2.2.2.2.1)])) :: (sa, .inl (dT 5, 10, .inr (.inr (.inr (.inr u19.2.2.2.2.2.1))))) :: (pa, .inl (dT 0, 8, .inl u19.2.2.2.2.2.2.1)) :: (sta, .inl (dT 0, 8, .inl u19.2.2.2.2.2.2.2.1)) :: (sea, .inl (dT 0, 8, .inl u19.2.2.2.2.2.2.2.2.1)) :: (u19.2.2.2.2.2.2.2.2.2 ++ (x9.2.2.2.2.2.2.2.2.2 ++ Xs))) rfl ?_
    refine g_aload_n (pc := 22) 0 C0 rfl dX4_all_22 rfl ?_
    refine h_cvi (pc := 23) (na := 0) (As := []) (rest := []) C0 hE (hX4_here l D dT kk ((tw, .inr (2, [.int (nI u19.2.2.1), .ref sa, .int (nI u19.2.2.2.1), .ref pa, .ref sta, .ref sea, .int (nI u19.2.2.2.2.1)])) :: (sa, .inl (dT 5, 10, .inr (.inr (.inr (.inr u19.2.2.2.2.2.1))))) :: (pa, .inl (dT 0, 8, .inl u19.2.2.2.2.2.2.1)) :: (sta, .inl (dT 0, 8, .inl u19.2.2.2.2.2.2.2.1)) :: (sea, .inl (dT 0, 8, .inl u19.2.2.2.2.2.2.2.2.1)) :: (u19.2.2.2.2.2.2.2.2.2 ++ (x9.2.2.2.2.2.2.2.2.2 ++ Xs))) rd tx tw u19.1 u19.2.1 sz t hs ht (by omega)) (q0 := 0) (ci := 4) (C := RX4) (T := TX4) (N := 5) (a := rd) rfl rfl q270 q272 qs0 q61 q273 (by decide +kernel) ⟨Nat.le_of_ble_eq_true rfl, Nat.le_of_ble_eq_true rfl⟩ rfl rfl (by constructor <;> dsimp only <;> omega) rfl rfl (Nat.le_of_ble_eq_true rfl) dX4_all_23 (fun r u hq9 => ?_)
    obtain ⟨rfl, -⟩ := hq9
    refine g_bipush (pc := 26) (v := (nI 59)) C0 dX4_all_26 (by decide) ?_
    refine g_icmp_ne (pc := 28) 35 C0 dX4_all_28 (by decide) (fun h28 => ?_) (fun h28 => ?_)
    · refine g_iconst (pc := 35) (v := (nI 0)) C0 dX4_all_35 (by decide) ?_
      refine g_iconst (pc := 36) (v := (nI 1)) C0 dX4_all_36 (by decide) ?_
      refine g_aload_n (pc := 37) 0 C0 rfl dX4_all_37 rfl ?_
      refine h_get (pc := 38) (v := .int (nI (nxA t sz u19.1))) (C := RX4) (T := TX4) (N := 5) (ci := 4) (q0 := 0) (ref := "") C0 3 rfl rfl in_X4 (by decide) q253 rfl dX4_all_38 ?_
      refine h_xs (pc := 41) (na := 3) (As := [.int (nI 0), .int (nI 1), .int (nI (nxA t sz u19.1))]) (rest := []) C0 hE hx (hX4_want l D dT kk ((rd, .inr (4, [.ref tx, .int (nI sz), .ref tw, .int (nI (nxA t sz u19.1)), .int (nI u19.2.1)])) :: (tx, .inl (dT 2, 500, .inl (fun i => xBy (t i)))) :: (tw, .inr (2, [.int (nI u19.2.2.1), .ref sa, .int (nI u19.2.2.2.1), .ref pa, .ref sta, .ref sea, .int (nI u19.2.2.2.2.1)])) :: (sa, .inl (dT 5, 10, .inr (.inr (.inr (.inr u19.2.2.2.2.2.1))))) :: (pa, .inl (dT 0, 8, .inl u19.2.2.2.2.2.2.1)) :: (sta, .inl (dT 0, 8, .inl u19.2.2.2.2.2.2.2.1)) :: (sea, .inl (dT 0, 8, .inl u19.2.2.2.2.2.2.2.2.1)) :: (u19.2.2.2.2.2.2.2.2.2 ++ (x9.2.2.2.2.2.2.2.2.2 ++ Xs))) false 1 (nxA t sz u19.1)) q481 q482 q61 q483 (by decide +kernel) ⟨Nat.le_of_ble_eq_true rfl, Nat.le_of_ble_eq_true rfl⟩ rfl rfl (by constructor <;> dsimp only <;> omega) (by constructor <;> omega) (fun fa fb hq8 => by rw [hq8.1, hq8.2.1]; exact all_ns hp hN hr hw hv9 ha9 hR19 (fun h => h28 ((oI_ch hs ht (by decide)).mpr h))) (List.Sublist.cons _ (List.Sublist.cons_cons _ (List.Sublist.cons _ (List.Sublist.cons _ (List.Sublist.cons _ (List.Sublist.cons _ (List.Sublist.cons _ (List.Sublist.trans (List.Sublist.trans (List.Sublist.refl _) (List.sublist_append_right _ _)) (List.sublist_append_right _ _))))))))) rfl rfl (Nat.le_of_ble_eq_true rfl) dX4_all_41 (fun r u hq9 => ?_)
      obtain ⟨rfl, hw41⟩ := hq9
      exact absurd hw41 (by decide)
    · refine g_iconst (pc := 31) (v := (nI 1)) C0 dX4_all_31 (by decide) ?_
      refine g_goto (pc := 32) 36 C0 dX4_all_32 (by decide) ?_
      refine g_iconst (pc := 36) (v := (nI 1)) C0 dX4_all_36 (by decide) ?_
      refine g_aload_n (pc := 37) 0 C0 rfl dX4_all_37 rfl ?_
      refine h_get (pc := 38) (v := .int (nI (nxA t sz u19.1))) (C := RX4) (T := TX4) (N := 5) (ci := 4) (q0 := 0) (ref := "") C0 3 rfl rfl in_X4 (by decide) q253 rfl dX4_all_38 ?_
      refine h_xs (pc := 41) (na := 3) (As := [.int (nI 1), .int (nI 1), .int (nI (nxA t sz u19.1))]) (rest := []) C0 hE hx (hX4_want l D dT kk ((rd, .inr (4, [.ref tx, .int (nI sz), .ref tw, .int (nI (nxA t sz u19.1)), .int (nI u19.2.1)])) :: (tx, .inl (dT 2, 500, .inl (fun i => xBy (t i)))) :: (tw, .inr (2, [.int (nI u19.2.2.1), .ref sa, .int (nI u19.2.2.2.1), .ref pa, .ref sta, .ref sea, .int (nI u19.2.2.2.2.1)])) :: (sa, .inl (dT 5, 10, .inr (.inr (.inr (.inr u19.2.2.2.2.2.1))))) :: (pa, .inl (dT 0, 8, .inl u19.2.2.2.2.2.2.1)) :: (sta, .inl (dT 0, 8, .inl u19.2.2.2.2.2.2.2.1)) :: (sea, .inl (dT 0, 8, .inl u19.2.2.2.2.2.2.2.2.1)) :: (u19.2.2.2.2.2.2.2.2.2 ++ (x9.2.2.2.2.2.2.2.2.2 ++ Xs))) true 1 (nxA t sz u19.1)) q481 q482 q61 q483 (by decide +kernel) ⟨Nat.le_of_ble_eq_true rfl, Nat.le_of_ble_eq_true rfl⟩ rfl rfl (by constructor <;> dsimp only <;> omega) (by constructor <;> omega) (fun fa fb hq8 => absurd hq8.2.2 (by decide)) (List.Sublist.cons _ (List.Sublist.cons_cons _ (List.Sublist.cons _ (List.Sublist.cons _ (List.Sublist.cons _ (List.Sublist.cons _ (List.Sublist.cons _ (List.Sublist.trans (List.Sublist.trans (List.Sublist.refl _) (List.sublist_append_right _ _)) (List.sublist_append_right _ _))))))))) rfl rfl (Nat.le_of_ble_eq_true rfl) dX4_all_41 (fun r u hq9 => ?_)
      obtain ⟨rfl, hw41⟩ := hq9
      refine G.stE (st' := []) rfl ?_
      refine g_aload_n (pc := 44) 0 C0 rfl dX4_all_44 rfl ?_
      refine g_dup (pc := 45) C0 dX4_all_45 rfl ?_
      refine h_get (pc := 46) (v := .int (nI (nxA t sz u19.1))) (C := RX4) (T := TX4) (N := 5) (ci := 4) (q0 := 0) (ref := "") C0 3 rfl rfl in_X4 (by decide) q253 rfl dX4_all_46 ?_
      refine g_iconst (pc := 49) (v := (nI 1)) C0 dX4_all_49 (by decide) ?_
      refine g_iaddN (pc := 50) C0  dX4_all_50 ?_
      refine h_put (pc := 51) (C := RX4) (T := TX4) (N := 5) (ci := 4) (q0 := 0) (ty := .int) (ws' := (rd, .inr (4, [.ref tx, .int (nI sz), .ref tw, .int (nI ((nxA t sz u19.1) + 1)), .int (nI u19.2.1)])) :: (tx, .inl (dT 2, 500, .inl (fun i => xBy (t i)))) :: (tw, .inr (2, [.int (nI u19.2.2.1), .ref sa, .int (nI u19.2.2.2.1), .ref pa, .ref sta, .ref sea, .int (nI u19.2.2.2.2.1)])) :: (sa, .inl (dT 5, 10, .inr (.inr (.inr (.inr u19.2.2.2.2.2.1))))) :: (pa, .inl (dT 0, 8, .inl u19.2.2.2.2.2.2.1)) :: (sta, .inl (dT 0, 8, .inl u19.2.2.2.2.2.2.2.1)) :: (sea, .inl (dT 0, 8, .inl u19.2.2.2.2.2.2.2.2.1)) :: (u19.2.2.2.2.2.2.2.2.2 ++ (x9.2.2.2.2.2.2.2.2.2 ++ Xs))) C0 tyX4 tyX4_ok nmX4 3 rfl rfl in_X4 (by decide) q253 rfl rfl rfl rfl (by show 3 < 5; decide) rfl dX4_all_51 ?_
      refine g_goto (pc := 54) 0 C0 dX4_all_54 (by decide) ?_
      refine G.wsE (ws' := rW dT rd tx tw sz sa pa sta sea t Xs (nxA t sz u19.1 + 1, u19.2.1, u19.2.2.1, u19.2.2.2.1, u19.2.2.2.2.1, u19.2.2.2.2.2.1, u19.2.2.2.2.2.2.1, u19.2.2.2.2.2.2.2.1, u19.2.2.2.2.2.2.2.2.1, u19.2.2.2.2.2.2.2.2.2 ++ x9.2.2.2.2.2.2.2.2.2)) (by simp only [rW, List.append_assoc]) ?_
      obtain ⟨g1, g2, g3, g4, g5, g6, g7⟩ := all_go hp hN hr hw hv9 ha9 hR19 ((oI_ch hs ht (by decide)).mp h28)
      refine G.forget 1 ?_
      refine G.widen (k' := 44 * cnt (claT (hrT τ9))) (n' := 3508 * cnt (claT (hrT τ9))) (by omega) (by omega) ?_
      exact ih ((nxA t sz u19.1 + 1, u19.2.1, u19.2.2.1, u19.2.2.2.1, u19.2.2.2.2.1, u19.2.2.2.2.2.1, u19.2.2.2.2.2.2.1, u19.2.2.2.2.2.2.2.1, u19.2.2.2.2.2.2.2.2.1, u19.2.2.2.2.2.2.2.2.2 ++ x9.2.2.2.2.2.2.2.2.2), claT (hrT τ9)) ⟨g1, g2, g3, g4, g5⟩ g6
