/-! X, fifth module -/
set_option maxRecDepth 100000
set_option maxHeartbeats 4000000 in
set_option maxRecDepth 100000 in
theorem xJ_fillI (l : Launch) (D : va_G) (dT : Nat → ClassId) (ad : Nat → Nat) (nS : Nat) (β : tT) (j N : Nat) (hn : nS ≤ 10) (hj : j < 90 + 2 * nS) (hm : ∀ f, xMk dT ad nS j f = .inl (dT 0, N, .inl (fun i => nI (f i)))) (hNN : N < 2 ^ 31) : XV l D dT ad nS yJ6_fill cJ6_fill 4 ({ frames := 0, cells := 0, slots := 0, locals := 0 }) [.ref (ad j), .int (nI 0)] β (fun β' => cpT β j N (fun _ => 0) = β') := by
  refine XV.ofG (own := "java/util/Arrays") (L := [some (.ref (ad j)), some (.int (nI 0)), none, none]) rfl (by decide) (Nat.le_of_ble_eq_true rfl) rfl ?_
  intro p' e' s' m' bl' mt' c' C0 hN
  refine g_iconst (pc := 0) (v := (nI 0)) C0 dJ6_fill_0 (by decide) ?_
  refine g_istore_n (pc := 1) 2 C0 (L1 := [some (.ref (ad j)), some (.int (nI 0)), some (.int (nI 0)), none]) rfl (by decide) dJ6_fill_1 rfl rfl ?_
  refine g_aload_n (pc := 2) 0 C0 rfl dJ6_fill_2 rfl ?_
  refine g_alen (pc := 3) (q0 := j) (j := j) (t0 := 0) (N := N) C0 (xCode hj) (hm _) rfl dJ6_fill_3 ?_
  refine g_istore_n (pc := 4) 3 C0 (L1 := [some (.ref (ad j)), some (.int (nI 0)), some (.int (nI 0)), some (.int (nI N))]) rfl (by decide) dJ6_fill_4 rfl rfl ?_
  refine G.wsE (ws' := xW dT ad nS (cpT β j 0 (fun _ => 0))) (by rw [cpT_0]) ?_
  refine G.loop (pc := 5) (ws := fun i => xW dT ad nS (cpT β j i (fun _ => 0))) (Lf := fun i => [some (.ref (ad j)), some (.int (nI 0)), some (.int (nI i)), some (.int (nI N))]) (N := N) (i0 := 0) (Nat.zero_le _) ?_ (fun i5 hi5 hj5 ih5 => ?_)
  · refine g_iload_n (pc := 5) 2 C0 rfl dJ6_fill_5 rfl ?_
    refine g_iload_n (pc := 6) 3 C0 rfl dJ6_fill_6 rfl ?_
    refine g_icmp_geN (pc := 7) 20 C0 (by omega) (by omega) dJ6_fill_7 (by decide) (fun h7 => ?_) (fun h7 => ?_)
    rotate_left
    · exact absurd h7 (by omega)
    exact g_vret (pc := 20) C0 dJ6_fill_20 rfl
  · refine g_iload_n (pc := 5) 2 C0 rfl dJ6_fill_5 rfl ?_
    refine g_iload_n (pc := 6) 3 C0 rfl dJ6_fill_6 rfl ?_
    refine g_icmp_geN (pc := 7) 20 C0 (by omega) (by omega) dJ6_fill_7 (by decide) (fun h7 => ?_) (fun h7 => ?_)
    · exact absurd h7 (by omega)
    refine g_aload_n (pc := 10) 0 C0 rfl dJ6_fill_10 rfl ?_
    refine g_iload_n (pc := 11) 2 C0 rfl dJ6_fill_11 rfl ?_
    refine g_iload_n (pc := 12) 1 C0 rfl dJ6_fill_12 rfl ?_
    refine g_iast (pc := 13) (q0 := j) (j := j) (t0 := 0) (N := N) C0 i5 0 (xNd hn) (xCode hj) hm rfl hNN (by omega) dJ6_fill_13 ?_
    refine g_iinc1 (pc := 14) 2 C0 (L1 := [some (.ref (ad j)), some (.int (nI 0)), some (.int (nI (i5 + 1))), some (.int (nI N))]) rfl rfl (by decide) dJ6_fill_14 rfl ?_
    refine g_goto (pc := 17) 5 C0 dJ6_fill_17 (by decide) ?_
    exact G.wsE (by rw [cpT_s β j i5 (fun _ => 0)]) ih5
set_option maxHeartbeats 4000000 in
set_option maxRecDepth 100000 in
theorem xJ_fillZ (l : Launch) (D : va_G) (dT : Nat → ClassId) (ad : Nat → Nat) (nS : Nat) (β : tT) (j N : Nat) (hn : nS ≤ 10) (hj : j < 90 + 2 * nS) (hm : ∀ f, xMk dT ad nS j f = .inl (dT 1, N, .inl (fun i => nI (f i)))) (hNN : N < 2 ^ 31) : XV l D dT ad nS yJ6_fill_2 cJ6_fill_2 4 ({ frames := 0, cells := 0, slots := 0, locals := 0 }) [.ref (ad j), .int (nI 0)] β (fun β' => cpT β j N (fun _ => 0) = β') := by
  refine XV.ofG (own := "java/util/Arrays") (L := [some (.ref (ad j)), some (.int (nI 0)), none, none]) rfl (by decide) (Nat.le_of_ble_eq_true rfl) rfl ?_
  intro p' e' s' m' bl' mt' c' C0 hN
  refine g_iconst (pc := 0) (v := (nI 0)) C0 dJ6_fill_2_0 (by decide) ?_
  refine g_istore_n (pc := 1) 2 C0 (L1 := [some (.ref (ad j)), some (.int (nI 0)), some (.int (nI 0)), none]) rfl (by decide) dJ6_fill_2_1 rfl rfl ?_
  refine g_aload_n (pc := 2) 0 C0 rfl dJ6_fill_2_2 rfl ?_
  refine g_alen (pc := 3) (q0 := j) (j := j) (t0 := 1) (N := N) C0 (xCode hj) (hm _) rfl dJ6_fill_2_3 ?_
  refine g_istore_n (pc := 4) 3 C0 (L1 := [some (.ref (ad j)), some (.int (nI 0)), some (.int (nI 0)), some (.int (nI N))]) rfl (by decide) dJ6_fill_2_4 rfl rfl ?_
  refine G.wsE (ws' := xW dT ad nS (cpT β j 0 (fun _ => 0))) (by rw [cpT_0]) ?_
  refine G.loop (pc := 5) (ws := fun i => xW dT ad nS (cpT β j i (fun _ => 0))) (Lf := fun i => [some (.ref (ad j)), some (.int (nI 0)), some (.int (nI i)), some (.int (nI N))]) (N := N) (i0 := 0) (Nat.zero_le _) ?_ (fun i5 hi5 hj5 ih5 => ?_)
  · refine g_iload_n (pc := 5) 2 C0 rfl dJ6_fill_2_5 rfl ?_
    refine g_iload_n (pc := 6) 3 C0 rfl dJ6_fill_2_6 rfl ?_
    refine g_icmp_geN (pc := 7) 20 C0 (by omega) (by omega) dJ6_fill_2_7 (by decide) (fun h7 => ?_) (fun h7 => ?_)
    rotate_left
    · exact absurd h7 (by omega)
    exact g_vret (pc := 20) C0 dJ6_fill_2_20 rfl
  · refine g_iload_n (pc := 5) 2 C0 rfl dJ6_fill_2_5 rfl ?_
    refine g_iload_n (pc := 6) 3 C0 rfl dJ6_fill_2_6 rfl ?_
    refine g_icmp_geN (pc := 7) 20 C0 (by omega) (by omega) dJ6_fill_2_7 (by decide) (fun h7 => ?_) (fun h7 => ?_)
    · exact absurd h7 (by omega)
    refine g_aload_n (pc := 10) 0 C0 rfl dJ6_fill_2_10 rfl ?_
    refine g_iload_n (pc := 11) 2 C0 rfl dJ6_fill_2_11 rfl ?_
    refine g_iload_n (pc := 12) 1 C0 rfl dJ6_fill_2_12 rfl ?_
    refine g_zast (pc := 13) (q0 := j) (j := j) (t0 := 1) (N := N) C0 i5 0 (xNd hn) (by decide) (xCode hj) hm rfl hNN (by omega) dJ6_fill_2_13 ?_
    refine g_iinc1 (pc := 14) 2 C0 (L1 := [some (.ref (ad j)), some (.int (nI 0)), some (.int (nI (i5 + 1))), some (.int (nI N))]) rfl rfl (by decide) dJ6_fill_2_14 rfl ?_
    refine g_goto (pc := 17) 5 C0 dJ6_fill_2_17 (by decide) ?_
    exact G.wsE (by rw [cpT_s β j i5 (fun _ => 0)]) ih5
set_option maxHeartbeats 4000000 in
set_option maxRecDepth 100000 in
theorem xX_bring (l : Launch) (D : va_G) (dT : Nat → ClassId) (ad : Nat → Nat) (nS : Nat) (τ β : tT)  (q : Nat) (r : Nat) (fr : Nat) (set : Nat) (hβ : RX nS β τ) (hw : wfT τ) (hp : wfP τ) (hq : q < τ 0 8) (hr : r < nS) (he0 : isE τ r fr) (hs : set < 2 ^ τ 0 8) (hcs : CS τ q β) (h1 : β (82 + fr) set = 1) : XI l D dT ad nS yX0_bring cX0_bring 9 .boolean ({ frames := 6, cells := 0, slots := 0, locals := 183 }) [.ref (ad 0), .int (nI q), .int (nI r), .int (nI fr), .int (nI set)] β (fun rr β' => ∃ ch, rr = nI (bN ch) ∧ RX nS β' τ ∧ BR τ q β β' ch ∧ (ch = false → CC τ q r fr set β)) := by
  refine XI.ofG (own := "FittingStrides") (L := [some (.ref (ad 0)), some (.int (nI q)), some (.int (nI r)), some (.int (nI fr)), some (.int (nI set)), none, none, none, none]) rfl (by decide) (Nat.le_of_ble_eq_true rfl) rfl ?_
  intro p' e' s' m' bl' mt' c' C0 hN
  have hn := hβ.n
  have hn10 := hβ.n10
  have hw1 := hw.1
  have hw0 := hw.2.1
  have hp0 := hp.1
  have hp1 := hp.2.1
  obtain ⟨k1, k2, k3, k4, k5, k6, k7⟩ := hw.2.2 r (by omega)
  obtain ⟨g1, g2, g3, g4⟩ := hp.2.2 q hq
  have hpe := pw_le hp0
  have hx9 : τ 9 q < 8 := by omega
  have hf8 : fr < 8 := by rcases he0 with e | e <;> omega
  have ht := toE_lt hw (fr := fr) (r := r) (by omega)
  obtain ⟨b0, eb0⟩ : ∃ z : tT, z = β := ⟨_, rfl⟩
  have hcb : CS τ q b0 := by rw [eb0]; exact hcs
  have h1b : b0 (82 + fr) set = 1 := by rw [eb0]; exact h1
  have hψ : BR τ q b0 β false := BR.rf' hcs eb0
  refine g_aload_n (pc := 0) 0 C0 rfl dX0_bring_0 rfl ?_
  refine g_get (pc := 1) (v := .ref (ad 4)) C0 (C := RX0) (T := TX0) (N := 14) (ci := 1) (q0 := 0) (j := 0) 0 (xCode (by omega)) rfl rfl in_X0 (by decide) q183 rfl dX0_bring_1 ?_
  refine g_getN (pc := 4) (v := .ref (ad 17)) C0 hN (C := RX1) (T := TX1) (N := 7) (ci := 2) (q0 := 4) (j := 4) 1 (xCode (by omega)) rfl rfl in_X1 (by decide) q100 rfl dX0_bring_4 ?_
  refine g_iload_n (pc := 7) 2 C0 rfl dX0_bring_7 rfl ?_
  refine g_aald (pc := 8) (q0 := 17) (j := 17) (t0 := 5) (N := 10) (jr := 90 + 2 * r) C0 r (xCode (by omega)) rfl rfl (by decide) (by omega) (xst_f (by omega)) dX0_bring_8 ?_
  refine g_iload_n (pc := 9) 3 C0 rfl dX0_bring_9 rfl ?_
  refine g_stU (pc := 10) (r := r) (na := 1) (As := [.int (nI fr)]) (rest := []) C0 hN hβ (by omega) (hw.2.2 r (by omega)).1 (xS_other l D dT ad nS τ β r fr hβ hw (by omega) (by omega)) q770 q773 q772 q775 q774 q771 q75 q776 (by decide +kernel) ⟨Nat.le_of_ble_eq_true rfl, Nat.le_of_ble_eq_true rfl⟩ rfl rfl ⟨Nat.le_of_ble_eq_true rfl, Nat.le_of_ble_eq_true rfl⟩ rfl rfl (Nat.le_of_ble_eq_true rfl) dX0_bring_10 (fun r β0 hc => ?_)
  obtain ⟨rfl, rfl⟩ := hc
  refine G.stE (st' := [.int (nI (toE τ r fr))]) (by rw [oth_toE he0]) ?_
  refine g_istore (pc := 13) 5 C0 (L1 := [some (.ref (ad 0)), some (.int (nI q)), some (.int (nI r)), some (.int (nI fr)), some (.int (nI set)), some (.int (nI (toE τ r fr))), none, none, none]) rfl (by decide) dX0_bring_13 rfl ?_
  refine g_iconst (pc := 15) (v := (nI 0)) C0 dX0_bring_15 (by decide) ?_
  refine g_istore (pc := 16) 6 C0 (L1 := [some (.ref (ad 0)), some (.int (nI q)), some (.int (nI r)), some (.int (nI fr)), some (.int (nI set)), some (.int (nI (toE τ r fr))), some (.int (nI 0)), none, none]) rfl (by decide) dX0_bring_16 rfl ?_
  refine G.meetP (σ := Bool) (Φ := fun ch β => RX nS β τ ∧ BR τ q b0 β ch ∧ (ch = false → CCp τ q r fr set b0)) (wsf := fun β => xW dT ad nS β) (pcJ := 72) (LJ := fun xx => [some (.ref (ad 0)), some (.int (nI q)), some (.int (nI r)), some (.int (nI fr)), some (.int (nI set)), some (.int (nI (toE τ r fr))), some (.int (nI (bN xx))), none, none]) (stJ := []) ?_ (fun J72 => ?_)
  · rintro ch0 β ⟨hβ, hψ, hI0⟩
    refine G.lE (L' := [some (.ref (ad 0)), some (.int (nI q)), some (.int (nI r)), some (.int (nI fr)), some (.int (nI set)), some (.int (nI (toE τ r fr))), some (.int (nI (bN ch0))), none, none]) rfl ?_
    refine g_iconst (pc := 72) (v := (nI 0)) C0 dX0_bring_72 (by decide) ?_
    refine g_istore (pc := 73) 7 C0 (L1 := [some (.ref (ad 0)), some (.int (nI q)), some (.int (nI r)), some (.int (nI fr)), some (.int (nI set)), some (.int (nI (toE τ r fr))), some (.int (nI (bN ch0))), some (.int (nI 0)), none]) rfl (by decide) dX0_bring_73 rfl ?_
    refine G.whX (pc := 75) (wsf := fun β => xW dT ad nS β) (Lf := fun xx : Nat × Bool => [some (.ref (ad 0)), some (.int (nI q)), some (.int (nI r)), some (.int (nI fr)), some (.int (nI set)), some (.int (nI (toE τ r fr))), some (.int (nI (bN xx.2))), some (.int (nI xx.1)), none]) (fun xx => τ 0 8 - xx.1) (fun xx β => xx.1 ≤ τ 0 8 ∧ RX nS β τ ∧ BR τ q b0 β xx.2 ∧ (xx.2 = false → CCp τ q r fr set b0 ∧ CCn τ q r fr set xx.1 b0)) (0, ch0) β ⟨Nat.zero_le _, hβ, hψ, fun k => ⟨hI0 k, fun c hc => by omega⟩⟩ ?_
    rintro ⟨i75, ch⟩ β ⟨hi75, hβ, hψ, hI⟩ ih75
    have hi75 : i75 ≤ τ 0 8 := hi75
    have hψ : BR τ q b0 β ch := hψ
    have hI : ch = false → CCp τ q r fr set b0 ∧ CCn τ q r fr set i75 b0 := hI
    refine G.lE (L' := [some (.ref (ad 0)), some (.int (nI q)), some (.int (nI r)), some (.int (nI fr)), some (.int (nI set)), some (.int (nI (toE τ r fr))), some (.int (nI (bN ch))), some (.int (nI i75)), none]) rfl ?_
    refine g_iload (pc := 75) 7 C0 rfl dX0_bring_75 ?_
    refine g_aload_n (pc := 77) 0 C0 rfl dX0_bring_77 rfl ?_
    refine g_get (pc := 78) (v := .ref (ad 1)) C0 (C := RX0) (T := TX0) (N := 14) (ci := 1) (q0 := 0) (j := 0) 1 (xCode (by omega)) rfl rfl in_X0 (by decide) q184 rfl dX0_bring_78 ?_
    refine g_getN (pc := 81) (v := .int (nI (τ 0 8))) C0 hN (C := RX2) (T := TX2) (N := 10) (ci := 3) (q0 := 1) (j := 1) 3 (xCode (by omega)) rfl rfl in_X2 (by decide) q146 (xv hβ.f1_3) dX0_bring_81 ?_
    refine g_icmp_geN (pc := 84) 190 C0 (by omega) (by omega) dX0_bring_84 (by decide) (fun h84 => ?_) (fun h84 => ?_)
    · refine g_iload (pc := 190) 6 C0 rfl dX0_bring_190 ?_
      exact g_zret (pc := 192) C0 dX0_bring_192 (nar_bN _) ⟨ch, rfl, hβ, eb0 ▸ hψ, fun k => by rw [← eb0]; exact ⟨(hI k).1, (show i75 = τ 0 8 by omega) ▸ (hI k).2⟩⟩
    · obtain ⟨f1, f2, f3, f4⟩ := hp.2.2 i75 h84
      have hol : set ||| 2 ^ i75 < 256 := Nat.lt_of_lt_of_le (or_lt hs h84) hpe
      have hrl := reachP_lt hw hp h84
      refine G.joinX (Φ := fun β => RX nS β τ ∧ (BR τ q b0 β ch)) (wsf := fun β => xW dT ad nS β) (pcJ := 140) (LJ := [some (.ref (ad 0)), some (.int (nI q)), some (.int (nI r)), some (.int (nI fr)), some (.int (nI set)), some (.int (nI (toE τ r fr))), some (.int (nI (bN ch))), some (.int (nI i75)), none]) (stJ := []) (nI (bN (canS τ q r fr i75))) (fun β hβ => ?_) (fun J140 => ?_)
      · obtain ⟨hβ, hψ⟩ := hβ
        refine g_istore (pc := 140) 8 C0 (L1 := [some (.ref (ad 0)), some (.int (nI q)), some (.int (nI r)), some (.int (nI fr)), some (.int (nI set)), some (.int (nI (toE τ r fr))), some (.int (nI (bN ch))), some (.int (nI i75)), some (.int (nI (bN (canS τ q r fr i75))))]) rfl (by decide) dX0_bring_140 rfl ?_
        refine g_iload (pc := 142) 8 C0 rfl dX0_bring_142 ?_
        refine g_if_eqB (pc := 144) 184 C0 dX0_bring_144 (by decide) (fun h144 => ?_) (fun h144 => ?_)
        · refine g_iinc1 (pc := 184) 7 C0 (L1 := [some (.ref (ad 0)), some (.int (nI q)), some (.int (nI r)), some (.int (nI fr)), some (.int (nI set)), some (.int (nI (toE τ r fr))), some (.int (nI (bN ch))), some (.int (nI (i75 + 1))), some (.int (nI (bN (canS τ q r fr i75))))]) rfl rfl (by decide) dX0_bring_184 rfl ?_
          refine g_goto (pc := 187) 75 C0 dX0_bring_187 (by decide) ?_
          refine G.forget 8 ?_
          exact ih75 (i75 + 1, ch) (by show _ < _; omega) β ⟨by show i75 + 1 ≤ _; omega, hβ, hψ, fun k => ⟨(hI k).1, CCn.s (hI k).2 (fun e1 e2 e3 => (canS_f h144 e1 e2 e3).elim)⟩⟩
        · refine g_aload_n (pc := 147) 0 C0 rfl dX0_bring_147 rfl ?_
          refine g_get (pc := 148) (v := .ref (ad 14)) C0 (C := RX0) (T := TX0) (N := 14) (ci := 1) (q0 := 0) (j := 0) 11 (xCode (by omega)) rfl rfl in_X0 (by decide) q194 rfl dX0_bring_148 ?_
          refine g_iload (pc := 151) 5 C0 rfl dX0_bring_151 ?_
          refine g_aaldA (pc := 153) (q0 := 14) (j := 14) (t0 := 4) (N := 8) (jr := 82 + (toE τ r fr)) C0 (toE τ r fr) (xCode (by omega)) rfl rfl (by decide) (by omega) rfl dX0_bring_153 ?_
          refine g_iload (pc := 154) 4 C0 rfl dX0_bring_154 ?_
          refine g_iconst (pc := 156) (v := (nI 1)) C0 dX0_bring_156 (by decide) ?_
          refine g_iload (pc := 157) 7 C0 rfl dX0_bring_157 ?_
          refine g_ishl1N (pc := 159) C0 (by omega) dX0_bring_159 ?_
          refine g_iorN (pc := 160) C0  dX0_bring_160 ?_
          refine g_zaldV (pc := 161) (q0 := (82 + (toE τ r fr))) (j := (82 + (toE τ r fr))) (t0 := 1) (N := 256) (v := (β (82 + (toE τ r fr)) (set ||| (2 ^ i75)))) C0 (set ||| (2 ^ i75)) (xCode (by omega)) (fun f => xMk_come (by omega) f) rfl (by decide) hol rfl dX0_bring_161 ?_
          refine g_if_neN (pc := 162) 184 C0 (Nat.lt_of_le_of_lt (hψ.1 _ _ ht hol).1 (by decide)) dX0_bring_162 (by decide) (fun h162 => ?_) (fun h162 => ?_)
          · refine g_iinc1 (pc := 184) 7 C0 (L1 := [some (.ref (ad 0)), some (.int (nI q)), some (.int (nI r)), some (.int (nI fr)), some (.int (nI set)), some (.int (nI (toE τ r fr))), some (.int (nI (bN ch))), some (.int (nI (i75 + 1))), some (.int (nI (bN (canS τ q r fr i75))))]) rfl rfl (by decide) dX0_bring_184 rfl ?_
            refine g_goto (pc := 187) 75 C0 dX0_bring_187 (by decide) ?_
            refine G.forget 8 ?_
            exact ih75 (i75 + 1, ch) (by show _ < _; omega) β ⟨by show i75 + 1 ≤ _; omega, hβ, hψ, fun k => ⟨(hI k).1, CCn.s (hI k).2 (fun _ _ _ => hψ.back k ht hol (hψ.one ht hol h162))⟩⟩
          · obtain ⟨c1, c2, c3⟩ := canS_t h144
            obtain ⟨y1, y2, y3⟩ := hcb.by hw hx9 (by omega) he0 (by omega) (by omega) h1b h84 c1 c2 c3
            refine g_aload_n (pc := 165) 0 C0 rfl dX0_bring_165 rfl ?_
            refine g_get (pc := 166) (v := .ref (ad 14)) C0 (C := RX0) (T := TX0) (N := 14) (ci := 1) (q0 := 0) (j := 0) 11 (xCode (by omega)) rfl rfl in_X0 (by decide) q194 rfl dX0_bring_166 ?_
            refine g_iload (pc := 169) 5 C0 rfl dX0_bring_169 ?_
            refine g_aaldA (pc := 171) (q0 := 14) (j := 14) (t0 := 4) (N := 8) (jr := 82 + (toE τ r fr)) C0 (toE τ r fr) (xCode (by omega)) rfl rfl (by decide) (by omega) rfl dX0_bring_171 ?_
            refine g_iload (pc := 172) 4 C0 rfl dX0_bring_172 ?_
            refine g_iconst (pc := 174) (v := (nI 1)) C0 dX0_bring_174 (by decide) ?_
            refine g_iload (pc := 175) 7 C0 rfl dX0_bring_175 ?_
            refine g_ishl1N (pc := 177) C0 (by omega) dX0_bring_177 ?_
            refine g_iorN (pc := 178) C0  dX0_bring_178 ?_
            refine g_iconst (pc := 179) (v := (nI 1)) C0 dX0_bring_179 (by decide) ?_
            refine g_zast (pc := 180) (q0 := (82 + (toE τ r fr))) (j := (82 + (toE τ r fr))) (t0 := 1) (N := 256) C0 (set ||| (2 ^ i75)) 1 (xNd hβ.n10) (by decide) (xCode (by omega)) (fun f => xMk_come (by omega) f) rfl (by decide) hol dX0_bring_180 ?_
            refine G.nmX (Φ := fun β => RX nS β τ ∧ (BR τ q b0 β true)) (wsf := fun β => xW dT ad nS β) ⟨hβ.come ht _ _, hψ.up ht hol (by omega) y1 y2 y3⟩ (fun β hβ => ?_)
            obtain ⟨hβ, hψ⟩ := hβ
            refine g_iconst (pc := 181) (v := (nI 1)) C0 dX0_bring_181 (by decide) ?_
            refine g_istore (pc := 182) 6 C0 (L1 := [some (.ref (ad 0)), some (.int (nI q)), some (.int (nI r)), some (.int (nI fr)), some (.int (nI set)), some (.int (nI (toE τ r fr))), some (.int (nI 1)), some (.int (nI i75)), some (.int (nI (bN (canS τ q r fr i75))))]) rfl (by decide) dX0_bring_182 rfl ?_
            refine g_iinc1 (pc := 184) 7 C0 (L1 := [some (.ref (ad 0)), some (.int (nI q)), some (.int (nI r)), some (.int (nI fr)), some (.int (nI set)), some (.int (nI (toE τ r fr))), some (.int (nI 1)), some (.int (nI (i75 + 1))), some (.int (nI (bN (canS τ q r fr i75))))]) rfl rfl (by decide) dX0_bring_184 rfl ?_
            refine g_goto (pc := 187) 75 C0 dX0_bring_187 (by decide) ?_
            refine G.forget 8 ?_
            exact ih75 (i75 + 1, true) (by show _ < _; omega) β ⟨by show i75 + 1 ≤ _; omega, hβ, hψ, fun k => by cases k⟩
      · refine g_iload (pc := 87) 7 C0 rfl dX0_bring_87 ?_
        refine g_iload_n (pc := 89) 1 C0 rfl dX0_bring_89 rfl ?_
        refine g_icmp_eqN (pc := 90) 139 C0 (by omega) (by omega) dX0_bring_90 (by decide) (fun h90 => ?_) (fun h90 => ?_)
        · refine g_iconst (pc := 139) (v := (nI 0)) C0 dX0_bring_139 (by decide) ?_
          exact J140 β ⟨hβ, hψ⟩ (nI 0) (bret0 (by simp [canS, h90]))
        · refine g_aload_n (pc := 93) 0 C0 rfl dX0_bring_93 rfl ?_
          refine g_iload_n (pc := 94) 2 C0 rfl dX0_bring_94 rfl ?_
          refine g_iload_n (pc := 95) 3 C0 rfl dX0_bring_95 rfl ?_
          refine g_aload_n (pc := 96) 0 C0 rfl dX0_bring_96 rfl ?_
          refine g_get (pc := 97) (v := .ref (ad 1)) C0 (C := RX0) (T := TX0) (N := 14) (ci := 1) (q0 := 0) (j := 0) 1 (xCode (by omega)) rfl rfl in_X0 (by decide) q184 rfl dX0_bring_97 ?_
          refine g_getN (pc := 100) (v := .ref (ad 6)) C0 hN (C := RX2) (T := TX2) (N := 10) (ci := 3) (q0 := 1) (j := 1) 1 (xCode (by omega)) rfl rfl in_X2 (by decide) q142 rfl dX0_bring_100 ?_
          refine g_iload (pc := 103) 7 C0 rfl dX0_bring_103 ?_
          refine g_ialdV (pc := 105) (q0 := 6) (j := 6) (t0 := 0) (N := 8) (v := (τ 10 i75)) C0 i75 (xCode (by omega)) (fun _ => rfl) rfl (by decide) (by omega) (hβ.a6 (by omega)) dX0_bring_105 ?_
          refine g_aload_n (pc := 106) 0 C0 rfl dX0_bring_106 rfl ?_
          refine g_get (pc := 107) (v := .ref (ad 1)) C0 (C := RX0) (T := TX0) (N := 14) (ci := 1) (q0 := 0) (j := 0) 1 (xCode (by omega)) rfl rfl in_X0 (by decide) q184 rfl dX0_bring_107 ?_
          refine g_getN (pc := 110) (v := .ref (ad 7)) C0 hN (C := RX2) (T := TX2) (N := 10) (ci := 3) (q0 := 1) (j := 1) 2 (xCode (by omega)) rfl rfl in_X2 (by decide) q144 rfl dX0_bring_110 ?_
          refine g_iload (pc := 113) 7 C0 rfl dX0_bring_113 ?_
          refine g_ialdV (pc := 115) (q0 := 7) (j := 7) (t0 := 0) (N := 8) (v := (τ 11 i75)) C0 i75 (xCode (by omega)) (fun _ => rfl) rfl (by decide) (by omega) (hβ.a7 (by omega)) dX0_bring_115 ?_
          refine g_cviX (pc := 116) (na := 4) (As := [.int (nI r), .int (nI fr), .int (nI (τ 10 i75)), .int (nI (τ 11 i75))]) (rest := []) C0 hN (xX_mayGo l D dT ad nS τ β  r fr (τ 10 i75) (τ 11 i75) hβ hw hp (by omega) (by omega) (by omega) (by omega) (by omega)) (q0 := 0) (j := 0) (ci := 1) (C := RX0) (T := TX0) (N := 14) (xCode (by omega)) rfl rfl q766 q768 qs16 q57 q769 (by decide +kernel) ⟨Nat.le_of_ble_eq_true rfl, Nat.le_of_ble_eq_true rfl⟩ rfl rfl ⟨Nat.le_of_ble_eq_true rfl, Nat.le_of_ble_eq_true rfl⟩ rfl rfl (Nat.le_of_ble_eq_true rfl) dX0_bring_116 (fun r β hc => ?_)
          obtain ⟨rfl, hβ, he⟩ := hc
          have hψ := hψ.fr he
          refine g_if_eqB (pc := 119) 139 C0 dX0_bring_119 (by decide) (fun h119 => ?_) (fun h119 => ?_)
          · refine g_iconst (pc := 139) (v := (nI 0)) C0 dX0_bring_139 (by decide) ?_
            exact J140 β ⟨hβ, hψ⟩ (nI 0) (bret0 (by simp [canS, h90, h119]))
          · refine g_aload_n (pc := 122) 0 C0 rfl dX0_bring_122 rfl ?_
            refine g_iload (pc := 123) 7 C0 rfl dX0_bring_123 ?_
            refine g_cviX (pc := 125) (na := 1) (As := [.int (nI i75)]) (rest := []) C0 hN (xX_reachOfPerson l D dT ad nS τ β  i75 hβ hw hp (by omega)) (q0 := 0) (j := 0) (ci := 1) (C := RX0) (T := TX0) (N := 14) (xCode (by omega)) rfl rfl q755 q757 qs14 q57 q758 (by decide +kernel) ⟨Nat.le_of_ble_eq_true rfl, Nat.le_of_ble_eq_true rfl⟩ rfl rfl ⟨Nat.le_of_ble_eq_true rfl, Nat.le_of_ble_eq_true rfl⟩ rfl rfl (Nat.le_of_ble_eq_true rfl) dX0_bring_125 (fun r β hc => ?_)
            obtain ⟨rfl, hβ, he⟩ := hc
            have hψ := hψ.fr he
            refine g_iload_n (pc := 128) 3 C0 rfl dX0_bring_128 rfl ?_
            refine g_csi (pc := 129) (na := 2) (As := [.int (nI (reachP τ i75)), .int (nI fr)]) (rest := []) C0 (xX_has l (reachP τ i75) fr (by omega) (by omega)) q763 q764 q57 q765 (by decide +kernel) ⟨Nat.le_of_ble_eq_true rfl, Nat.le_of_ble_eq_true rfl⟩ rfl rfl ⟨Nat.le_of_ble_eq_true rfl, Nat.le_of_ble_eq_true rfl⟩ rfl rfl (Nat.le_of_ble_eq_true rfl) dX0_bring_129 ?_
            refine g_if_eqB (pc := 132) 139 C0 dX0_bring_132 (by decide) (fun h132 => ?_) (fun h132 => ?_)
            · refine g_iconst (pc := 139) (v := (nI 0)) C0 dX0_bring_139 (by decide) ?_
              exact J140 β ⟨hβ, hψ⟩ (nI 0) (bret0 (by simp [canS, h90, h119, h132]))
            · refine g_iconst (pc := 135) (v := (nI 1)) C0 dX0_bring_135 (by decide) ?_
              refine g_goto (pc := 136) 140 C0 dX0_bring_136 (by decide) ?_
              exact J140 β ⟨hβ, hψ⟩ (nI 1) (bret1 (by simp [canS, h90, h119, h132]))
  · refine g_aload_n (pc := 18) 0 C0 rfl dX0_bring_18 rfl ?_
    refine g_iload_n (pc := 19) 2 C0 rfl dX0_bring_19 rfl ?_
    refine g_iload_n (pc := 20) 3 C0 rfl dX0_bring_20 rfl ?_
    refine g_aload_n (pc := 21) 0 C0 rfl dX0_bring_21 rfl ?_
    refine g_get (pc := 22) (v := .ref (ad 1)) C0 (C := RX0) (T := TX0) (N := 14) (ci := 1) (q0 := 0) (j := 0) 1 (xCode (by omega)) rfl rfl in_X0 (by decide) q184 rfl dX0_bring_22 ?_
    refine g_getN (pc := 25) (v := .ref (ad 6)) C0 hN (C := RX2) (T := TX2) (N := 10) (ci := 3) (q0 := 1) (j := 1) 1 (xCode (by omega)) rfl rfl in_X2 (by decide) q142 rfl dX0_bring_25 ?_
    refine g_iload_n (pc := 28) 1 C0 rfl dX0_bring_28 rfl ?_
    refine g_ialdV (pc := 29) (q0 := 6) (j := 6) (t0 := 0) (N := 8) (v := (τ 10 q)) C0 q (xCode (by omega)) (fun _ => rfl) rfl (by decide) (by omega) (hβ.a6 (by omega)) dX0_bring_29 ?_
    refine g_aload_n (pc := 30) 0 C0 rfl dX0_bring_30 rfl ?_
    refine g_get (pc := 31) (v := .ref (ad 1)) C0 (C := RX0) (T := TX0) (N := 14) (ci := 1) (q0 := 0) (j := 0) 1 (xCode (by omega)) rfl rfl in_X0 (by decide) q184 rfl dX0_bring_31 ?_
    refine g_getN (pc := 34) (v := .ref (ad 7)) C0 hN (C := RX2) (T := TX2) (N := 10) (ci := 3) (q0 := 1) (j := 1) 2 (xCode (by omega)) rfl rfl in_X2 (by decide) q144 rfl dX0_bring_34 ?_
    refine g_iload_n (pc := 37) 1 C0 rfl dX0_bring_37 rfl ?_
    refine g_ialdV (pc := 38) (q0 := 7) (j := 7) (t0 := 0) (N := 8) (v := (τ 11 q)) C0 q (xCode (by omega)) (fun _ => rfl) rfl (by decide) (by omega) (hβ.a7 (by omega)) dX0_bring_38 ?_
    refine g_cviX (pc := 39) (na := 4) (As := [.int (nI r), .int (nI fr), .int (nI (τ 10 q)), .int (nI (τ 11 q))]) (rest := []) C0 hN (xX_mayGo l D dT ad nS τ β  r fr (τ 10 q) (τ 11 q) hβ hw hp (by omega) (by omega) (by omega) (by omega) (by omega)) (q0 := 0) (j := 0) (ci := 1) (C := RX0) (T := TX0) (N := 14) (xCode (by omega)) rfl rfl q766 q768 qs16 q57 q769 (by decide +kernel) ⟨Nat.le_of_ble_eq_true rfl, Nat.le_of_ble_eq_true rfl⟩ rfl rfl ⟨Nat.le_of_ble_eq_true rfl, Nat.le_of_ble_eq_true rfl⟩ rfl rfl (Nat.le_of_ble_eq_true rfl) dX0_bring_39 (fun r β hc => ?_)
    obtain ⟨rfl, hβ, he⟩ := hc
    have hψ := hψ.fr he
    refine g_if_eqB (pc := 42) 72 C0 dX0_bring_42 (by decide) (fun h42 => ?_) (fun h42 => ?_)
    · exact J72 false β ⟨hβ, hψ, fun _ k => by rw [h42] at k; cases k⟩
    · refine g_aload_n (pc := 45) 0 C0 rfl dX0_bring_45 rfl ?_
      refine g_get (pc := 46) (v := .ref (ad 14)) C0 (C := RX0) (T := TX0) (N := 14) (ci := 1) (q0 := 0) (j := 0) 11 (xCode (by omega)) rfl rfl in_X0 (by decide) q194 rfl dX0_bring_46 ?_
      refine g_iload (pc := 49) 5 C0 rfl dX0_bring_49 ?_
      refine g_aaldA (pc := 51) (q0 := 14) (j := 14) (t0 := 4) (N := 8) (jr := 82 + (toE τ r fr)) C0 (toE τ r fr) (xCode (by omega)) rfl rfl (by decide) (by omega) rfl dX0_bring_51 ?_
      refine g_iload (pc := 52) 4 C0 rfl dX0_bring_52 ?_
      refine g_zaldV (pc := 54) (q0 := (82 + (toE τ r fr))) (j := (82 + (toE τ r fr))) (t0 := 1) (N := 256) (v := (β (82 + (toE τ r fr)) set)) C0 set (xCode (by omega)) (fun f => xMk_come (by omega) f) rfl (by decide) (by omega) rfl dX0_bring_54 ?_
      refine g_if_neN (pc := 55) 72 C0 (Nat.lt_of_le_of_lt (hψ.1 _ _ ht (by omega)).1 (by decide)) dX0_bring_55 (by decide) (fun h55 => ?_) (fun h55 => ?_)
      · exact J72 false β ⟨hβ, hψ, fun k _ => hψ.back k ht (by omega) (hψ.one ht (by omega) h55)⟩
      · obtain ⟨y1, y2, y3⟩ := hcb.self hw hx9 (by omega) he0 (by omega) (by omega) h1b h42
        refine g_aload_n (pc := 58) 0 C0 rfl dX0_bring_58 rfl ?_
        refine g_get (pc := 59) (v := .ref (ad 14)) C0 (C := RX0) (T := TX0) (N := 14) (ci := 1) (q0 := 0) (j := 0) 11 (xCode (by omega)) rfl rfl in_X0 (by decide) q194 rfl dX0_bring_59 ?_
        refine g_iload (pc := 62) 5 C0 rfl dX0_bring_62 ?_
        refine g_aaldA (pc := 64) (q0 := 14) (j := 14) (t0 := 4) (N := 8) (jr := 82 + (toE τ r fr)) C0 (toE τ r fr) (xCode (by omega)) rfl rfl (by decide) (by omega) rfl dX0_bring_64 ?_
        refine g_iload (pc := 65) 4 C0 rfl dX0_bring_65 ?_
        refine g_iconst (pc := 67) (v := (nI 1)) C0 dX0_bring_67 (by decide) ?_
        refine g_zast (pc := 68) (q0 := (82 + (toE τ r fr))) (j := (82 + (toE τ r fr))) (t0 := 1) (N := 256) C0 set 1 (xNd hβ.n10) (by decide) (xCode (by omega)) (fun f => xMk_come (by omega) f) rfl (by decide) (by omega) dX0_bring_68 ?_
        refine G.nmX (Φ := fun β => RX nS β τ ∧ (BR τ q b0 β true)) (wsf := fun β => xW dT ad nS β) ⟨hβ.come ht _ _, hψ.up ht (by omega) (by omega) y1 y2 y3⟩ (fun β hβ => ?_)
        obtain ⟨hβ, hψ⟩ := hβ
        refine g_iconst (pc := 69) (v := (nI 1)) C0 dX0_bring_69 (by decide) ?_
        refine g_istore (pc := 70) 6 C0 (L1 := [some (.ref (ad 0)), some (.int (nI q)), some (.int (nI r)), some (.int (nI fr)), some (.int (nI set)), some (.int (nI (toE τ r fr))), some (.int (nI 1)), none, none]) rfl (by decide) dX0_bring_70 rfl ?_
        exact J72 true β ⟨hβ, hψ, fun k => by cases k⟩
set_option maxHeartbeats 4000000 in
set_option maxRecDepth 100000 in
theorem xX_bringAll (l : Launch) (D : va_G) (dT : Nat → ClassId) (ad : Nat → Nat) (nS : Nat) (τ β : tT)  (q : Nat) (hβ : RX nS β τ) (hw : wfT τ) (hp : wfP τ) (hq : q < τ 0 8) (hcs : CS τ q β) : XI l D dT ad nS yX0_bringAll cX0_bringAll 5 .boolean ({ frames := 7, cells := 0, slots := 0, locals := 211 }) [.ref (ad 0), .int (nI q)] β (fun rr β' => ∃ ch, rr = nI (bN ch) ∧ RX nS β' τ ∧ BR τ q β β' ch ∧ (ch = false → CF τ q (τ 0 1) (2 ^ τ 0 8) β)) := by
  refine XI.ofG (own := "FittingStrides") (L := [some (.ref (ad 0)), some (.int (nI q)), none, none, none]) rfl (by decide) (Nat.le_of_ble_eq_true rfl) rfl ?_
  intro p' e' s' m' bl' mt' c' C0 hN
  have hn := hβ.n
  have hn10 := hβ.n10
  have hw1 := hw.1
  have hw0 := hw.2.1
  have hp0 := hp.1
  have hp1 := hp.2.1
  have hpe := pw_le hp0
  have hpw := pw_lt hp0
  obtain ⟨b0, eb0⟩ : ∃ z : tT, z = β := ⟨_, rfl⟩
  have hψ : BR τ q b0 β false := BR.rf' hcs eb0
  refine g_iconst (pc := 0) (v := (nI 0)) C0 dX0_bringAll_0 (by decide) ?_
  refine g_istore_n (pc := 1) 2 C0 (L1 := [some (.ref (ad 0)), some (.int (nI q)), some (.int (nI 0)), none, none]) rfl (by decide) dX0_bringAll_1 rfl rfl ?_
  refine g_iconst (pc := 2) (v := (nI 0)) C0 dX0_bringAll_2 (by decide) ?_
  refine g_istore_n (pc := 3) 3 C0 (L1 := [some (.ref (ad 0)), some (.int (nI q)), some (.int (nI 0)), some (.int (nI 0)), none]) rfl (by decide) dX0_bringAll_3 rfl rfl ?_
  refine G.whX (pc := 4) (wsf := fun β => xW dT ad nS β) (Lf := fun xx : Nat × Bool => [some (.ref (ad 0)), some (.int (nI q)), some (.int (nI (bN xx.2))), some (.int (nI xx.1)), none]) (fun xx => τ 0 1 - xx.1) (fun xx β => xx.1 ≤ τ 0 1 ∧ RX nS β τ ∧ BR τ q b0 β xx.2 ∧ (xx.2 = false → CF τ q xx.1 (2 ^ τ 0 8) b0)) (0, false) β ⟨Nat.zero_le _, hβ, hψ, fun k r hr => by omega⟩ ?_
  rintro ⟨r4, c4⟩ β ⟨hi4, hβ, hψ, hJ4⟩ ih4
  have hi4 : r4 ≤ τ 0 1 := hi4
  have hψ : BR τ q b0 β c4 := hψ
  have hJ4 : c4 = false → CF τ q r4 (2 ^ τ 0 8) b0 := hJ4
  refine G.lE (L' := [some (.ref (ad 0)), some (.int (nI q)), some (.int (nI (bN c4))), some (.int (nI r4)), none]) rfl ?_
  refine g_iload_n (pc := 4) 3 C0 rfl dX0_bringAll_4 rfl ?_
  refine g_aload_n (pc := 5) 0 C0 rfl dX0_bringAll_5 rfl ?_
  refine g_get (pc := 6) (v := .ref (ad 4)) C0 (C := RX0) (T := TX0) (N := 14) (ci := 1) (q0 := 0) (j := 0) 0 (xCode (by omega)) rfl rfl in_X0 (by decide) q183 rfl dX0_bringAll_6 ?_
  refine g_getN (pc := 9) (v := .int (nI (τ 0 1))) C0 hN (C := RX1) (T := TX1) (N := 7) (ci := 2) (q0 := 4) (j := 4) 2 (xCode (by omega)) rfl rfl in_X1 (by decide) q103 (xv hβ.f4_2) dX0_bringAll_9 ?_
  refine g_icmp_geN (pc := 12) 136 C0 (by omega) (by omega) dX0_bringAll_12 (by decide) (fun h12 => ?_) (fun h12 => ?_)
  · refine g_iload_n (pc := 136) 2 C0 rfl dX0_bringAll_136 rfl ?_
    exact g_zret (pc := 137) C0 dX0_bringAll_137 (nar_bN _) ⟨c4, rfl, hβ, eb0 ▸ hψ, fun k => by rw [← eb0]; exact (show r4 = τ 0 1 by omega) ▸ hJ4 k⟩
  · obtain ⟨k1, k2, k3, k4, k5, k6, k7⟩ := hw.2.2 r4 (by omega)
    refine g_iconst (pc := 15) (v := (nI 0)) C0 dX0_bringAll_15 (by decide) ?_
    refine g_istore (pc := 16) 4 C0 (L1 := [some (.ref (ad 0)), some (.int (nI q)), some (.int (nI (bN c4))), some (.int (nI r4)), some (.int (nI 0))]) rfl (by decide) dX0_bringAll_16 rfl ?_
    refine G.whX (pc := 18) (wsf := fun β => xW dT ad nS β) (Lf := fun xx : Nat × Bool => [some (.ref (ad 0)), some (.int (nI q)), some (.int (nI (bN xx.2))), some (.int (nI r4)), some (.int (nI xx.1))]) (fun xx => 2 ^ τ 0 8 - xx.1) (fun xx β => xx.1 ≤ 2 ^ τ 0 8 ∧ RX nS β τ ∧ BR τ q b0 β xx.2 ∧ (xx.2 = false → CF τ q r4 (2 ^ τ 0 8) b0 ∧ CG τ q r4 xx.1 b0)) (0, c4) β ⟨Nat.zero_le _, hβ, hψ, fun k => ⟨hJ4 k, fun s hs => by omega⟩⟩ ?_
    rintro ⟨s18, c18⟩ β ⟨hi18, hβ, hψ, hJ18⟩ ih18
    have hi18 : s18 ≤ 2 ^ τ 0 8 := hi18
    have hψ : BR τ q b0 β c18 := hψ
    have hJ18 : c18 = false → CF τ q r4 (2 ^ τ 0 8) b0 ∧ CG τ q r4 s18 b0 := hJ18
    refine G.lE (L' := [some (.ref (ad 0)), some (.int (nI q)), some (.int (nI (bN c18))), some (.int (nI r4)), some (.int (nI s18))]) rfl ?_
    refine g_iload (pc := 18) 4 C0 rfl dX0_bringAll_18 ?_
    refine g_iconst (pc := 20) (v := (nI 1)) C0 dX0_bringAll_20 (by decide) ?_
    refine g_aload_n (pc := 21) 0 C0 rfl dX0_bringAll_21 rfl ?_
    refine g_get (pc := 22) (v := .ref (ad 1)) C0 (C := RX0) (T := TX0) (N := 14) (ci := 1) (q0 := 0) (j := 0) 1 (xCode (by omega)) rfl rfl in_X0 (by decide) q184 rfl dX0_bringAll_22 ?_
    refine g_getN (pc := 25) (v := .int (nI (τ 0 8))) C0 hN (C := RX2) (T := TX2) (N := 10) (ci := 3) (q0 := 1) (j := 1) 3 (xCode (by omega)) rfl rfl in_X2 (by decide) q146 (xv hβ.f1_3) dX0_bringAll_25 ?_
    refine g_ishl1N (pc := 28) C0 (by omega) dX0_bringAll_28 ?_
    refine g_icmp_geN (pc := 29) 130 C0 (by omega) (by omega) dX0_bringAll_29 (by decide) (fun h29 => ?_) (fun h29 => ?_)
    · refine g_iinc1 (pc := 130) 3 C0 (L1 := [some (.ref (ad 0)), some (.int (nI q)), some (.int (nI (bN c18))), some (.int (nI (r4 + 1))), some (.int (nI s18))]) rfl rfl (by decide) dX0_bringAll_130 rfl ?_
      refine g_goto (pc := 133) 4 C0 dX0_bringAll_133 (by decide) ?_
      refine G.forget 4 ?_
      exact ih4 (r4 + 1, c18) (by show _ < _; omega) β ⟨by show r4 + 1 ≤ _; omega, hβ, hψ, fun k => CF.s (hJ18 k).1 ((show s18 = 2 ^ τ 0 8 by omega) ▸ (hJ18 k).2)⟩
    · refine g_aload_n (pc := 32) 0 C0 rfl dX0_bringAll_32 rfl ?_
      refine g_get (pc := 33) (v := .ref (ad 14)) C0 (C := RX0) (T := TX0) (N := 14) (ci := 1) (q0 := 0) (j := 0) 11 (xCode (by omega)) rfl rfl in_X0 (by decide) q194 rfl dX0_bringAll_33 ?_
      refine g_aload_n (pc := 36) 0 C0 rfl dX0_bringAll_36 rfl ?_
      refine g_get (pc := 37) (v := .ref (ad 4)) C0 (C := RX0) (T := TX0) (N := 14) (ci := 1) (q0 := 0) (j := 0) 0 (xCode (by omega)) rfl rfl in_X0 (by decide) q183 rfl dX0_bringAll_37 ?_
      refine g_getN (pc := 40) (v := .ref (ad 17)) C0 hN (C := RX1) (T := TX1) (N := 7) (ci := 2) (q0 := 4) (j := 4) 1 (xCode (by omega)) rfl rfl in_X1 (by decide) q100 rfl dX0_bringAll_40 ?_
      refine g_iload_n (pc := 43) 3 C0 rfl dX0_bringAll_43 rfl ?_
      refine g_aald (pc := 44) (q0 := 17) (j := 17) (t0 := 5) (N := 10) (jr := 90 + 2 * r4) C0 r4 (xCode (by omega)) rfl rfl (by decide) (by omega) (xst_f (by omega)) dX0_bringAll_44 ?_
      refine xs_get (pc := 45) (r := r4) (v := .int (nI (τ 3 r4))) C0 hβ (by omega) (hw.2.2 r4 (by omega)).1 0 (by decide) q629 rfl dX0_bringAll_45 ?_
      refine g_aaldA (pc := 48) (q0 := 14) (j := 14) (t0 := 4) (N := 8) (jr := 82 + (τ 3 r4)) C0 (τ 3 r4) (xCode (by omega)) rfl rfl (by decide) (by omega) rfl dX0_bringAll_48 ?_
      refine g_iload (pc := 49) 4 C0 rfl dX0_bringAll_49 ?_
      refine g_zaldV (pc := 51) (q0 := (82 + (τ 3 r4))) (j := (82 + (τ 3 r4))) (t0 := 1) (N := 256) (v := (β (82 + (τ 3 r4)) s18)) C0 s18 (xCode (by omega)) (fun f => xMk_come (by omega) f) rfl (by decide) (by omega) rfl dX0_bringAll_51 ?_
      refine g_if_eqN (pc := 52) 78 C0 (Nat.lt_of_le_of_lt (hψ.1 _ _ (by omega) (by omega)).1 (by decide)) dX0_bringAll_52 (by decide) (fun h52 => ?_) (fun h52 => ?_)
      · have hK3 : c18 = false → (CF τ q r4 (2 ^ τ 0 8) b0 ∧ CG τ q r4 s18 b0) ∧ (b0 (82 + τ 3 r4) s18 = 1 → CC τ q r4 (τ 3 r4) s18 b0) := fun k => ⟨hJ18 k, fun z => by rw [hψ.back k (by omega) (by omega) h52] at z; cases z⟩
        refine g_aload_n (pc := 78) 0 C0 rfl dX0_bringAll_78 rfl ?_
        refine g_get (pc := 79) (v := .ref (ad 14)) C0 (C := RX0) (T := TX0) (N := 14) (ci := 1) (q0 := 0) (j := 0) 11 (xCode (by omega)) rfl rfl in_X0 (by decide) q194 rfl dX0_bringAll_79 ?_
        refine g_aload_n (pc := 82) 0 C0 rfl dX0_bringAll_82 rfl ?_
        refine g_get (pc := 83) (v := .ref (ad 4)) C0 (C := RX0) (T := TX0) (N := 14) (ci := 1) (q0 := 0) (j := 0) 0 (xCode (by omega)) rfl rfl in_X0 (by decide) q183 rfl dX0_bringAll_83 ?_
        refine g_getN (pc := 86) (v := .ref (ad 17)) C0 hN (C := RX1) (T := TX1) (N := 7) (ci := 2) (q0 := 4) (j := 4) 1 (xCode (by omega)) rfl rfl in_X1 (by decide) q100 rfl dX0_bringAll_86 ?_
        refine g_iload_n (pc := 89) 3 C0 rfl dX0_bringAll_89 rfl ?_
        refine g_aald (pc := 90) (q0 := 17) (j := 17) (t0 := 5) (N := 10) (jr := 90 + 2 * r4) C0 r4 (xCode (by omega)) rfl rfl (by decide) (by omega) (xst_f (by omega)) dX0_bringAll_90 ?_
        refine xs_get (pc := 91) (r := r4) (v := .int (nI (τ 4 r4))) C0 hβ (by omega) (hw.2.2 r4 (by omega)).1 1 (by decide) q631 rfl dX0_bringAll_91 ?_
        refine g_aaldA (pc := 94) (q0 := 14) (j := 14) (t0 := 4) (N := 8) (jr := 82 + (τ 4 r4)) C0 (τ 4 r4) (xCode (by omega)) rfl rfl (by decide) (by omega) rfl dX0_bringAll_94 ?_
        refine g_iload (pc := 95) 4 C0 rfl dX0_bringAll_95 ?_
        refine g_zaldV (pc := 97) (q0 := (82 + (τ 4 r4))) (j := (82 + (τ 4 r4))) (t0 := 1) (N := 256) (v := (β (82 + (τ 4 r4)) s18)) C0 s18 (xCode (by omega)) (fun f => xMk_come (by omega) f) rfl (by decide) (by omega) rfl dX0_bringAll_97 ?_
        refine g_if_eqN (pc := 98) 124 C0 (Nat.lt_of_le_of_lt (hψ.1 _ _ (by omega) (by omega)).1 (by decide)) dX0_bringAll_98 (by decide) (fun h98 => ?_) (fun h98 => ?_)
        · have kk : (c18) = false → (c18) = false := fun k => k
          have hK4 : (c18) = false → b0 (82 + τ 4 r4) s18 = 1 → CC τ q r4 (τ 4 r4) s18 b0 := fun k z => by rw [hψ.back k (by omega) (by omega) h98] at z; cases z
          refine g_iinc1 (pc := 124) 4 C0 (L1 := [some (.ref (ad 0)), some (.int (nI q)), some (.int (nI (bN c18))), some (.int (nI r4)), some (.int (nI (s18 + 1)))]) rfl rfl (by decide) dX0_bringAll_124 rfl ?_
          refine g_goto (pc := 127) 18 C0 dX0_bringAll_127 (by decide) ?_
          exact ih18 (s18 + 1, c18) (by show _ < _; omega) β ⟨by show s18 + 1 ≤ _; omega, hβ, hψ, fun k => ⟨(hK3 (kk k)).1.1, CG.s (hK3 (kk k)).1.2 (hK3 (kk k)).2 (hK4 k)⟩⟩
        · refine g_iload_n (pc := 101) 2 C0 rfl dX0_bringAll_101 rfl ?_
          refine g_aload_n (pc := 102) 0 C0 rfl dX0_bringAll_102 rfl ?_
          refine g_iload_n (pc := 103) 1 C0 rfl dX0_bringAll_103 rfl ?_
          refine g_iload_n (pc := 104) 3 C0 rfl dX0_bringAll_104 rfl ?_
          refine g_aload_n (pc := 105) 0 C0 rfl dX0_bringAll_105 rfl ?_
          refine g_get (pc := 106) (v := .ref (ad 4)) C0 (C := RX0) (T := TX0) (N := 14) (ci := 1) (q0 := 0) (j := 0) 0 (xCode (by omega)) rfl rfl in_X0 (by decide) q183 rfl dX0_bringAll_106 ?_
          refine g_getN (pc := 109) (v := .ref (ad 17)) C0 hN (C := RX1) (T := TX1) (N := 7) (ci := 2) (q0 := 4) (j := 4) 1 (xCode (by omega)) rfl rfl in_X1 (by decide) q100 rfl dX0_bringAll_109 ?_
          refine g_iload_n (pc := 112) 3 C0 rfl dX0_bringAll_112 rfl ?_
          refine g_aald (pc := 113) (q0 := 17) (j := 17) (t0 := 5) (N := 10) (jr := 90 + 2 * r4) C0 r4 (xCode (by omega)) rfl rfl (by decide) (by omega) (xst_f (by omega)) dX0_bringAll_113 ?_
          refine xs_get (pc := 114) (r := r4) (v := .int (nI (τ 4 r4))) C0 hβ (by omega) (hw.2.2 r4 (by omega)).1 1 (by decide) q631 rfl dX0_bringAll_114 ?_
          refine g_iload (pc := 117) 4 C0 rfl dX0_bringAll_117 ?_
          refine g_cviX (pc := 119) (na := 4) (As := [.int (nI q), .int (nI r4), .int (nI (τ 4 r4)), .int (nI s18)]) (rest := [.int (nI (bN c18))]) C0 hN (xX_bring l D dT ad nS τ β  q r4 (τ 4 r4) s18 hβ hw hp (by omega) (by omega) (Or.inr rfl) (by omega) hψ.1 (hψ.one (by omega) (by omega) h98)) (q0 := 0) (j := 0) (ci := 1) (C := RX0) (T := TX0) (N := 14) (xCode (by omega)) rfl rfl q881 q883 qs27 q57 q884 (by decide +kernel) ⟨Nat.le_of_ble_eq_true rfl, Nat.le_of_ble_eq_true rfl⟩ rfl rfl ⟨Nat.le_of_ble_eq_true rfl, Nat.le_of_ble_eq_true rfl⟩ rfl rfl (Nat.le_of_ble_eq_true rfl) dX0_bringAll_119 (fun r β hc => ?_)
          obtain ⟨cb2, rfl, hβ, hbr, hcc⟩ := hc
          have hcc1 := hcc
          have hψ1 := hψ
          have hψ := hψ.tr hbr
          refine g_iorE (pc := 122) C0 (bN_or _ _) dX0_bringAll_122 ?_
          refine g_istore_n (pc := 123) 2 C0 (L1 := [some (.ref (ad 0)), some (.int (nI q)), some (.int (nI (bN ((c18) || cb2)))), some (.int (nI r4)), some (.int (nI s18))]) rfl (by decide) dX0_bringAll_123 rfl rfl ?_
          have kk : ((c18) || cb2) = false → (c18) = false := fun k => (Bool.or_eq_false_iff.mp k).1
          have hK4 : ((c18) || cb2) = false → b0 (82 + τ 4 r4) s18 = 1 → CC τ q r4 (τ 4 r4) s18 b0 := fun k _ => CC.ce hw hp0 (by omega) (by omega) (hψ1.2.2.2 (Bool.or_eq_false_iff.mp k).1) (hcc1 (Bool.or_eq_false_iff.mp k).2)
          refine g_iinc1 (pc := 124) 4 C0 (L1 := [some (.ref (ad 0)), some (.int (nI q)), some (.int (nI (bN ((c18) || cb2)))), some (.int (nI r4)), some (.int (nI (s18 + 1)))]) rfl rfl (by decide) dX0_bringAll_124 rfl ?_
          refine g_goto (pc := 127) 18 C0 dX0_bringAll_127 (by decide) ?_
          exact ih18 (s18 + 1, (c18) || cb2) (by show _ < _; omega) β ⟨by show s18 + 1 ≤ _; omega, hβ, hψ, fun k => ⟨(hK3 (kk k)).1.1, CG.s (hK3 (kk k)).1.2 (hK3 (kk k)).2 (hK4 k)⟩⟩
      · refine g_iload_n (pc := 55) 2 C0 rfl dX0_bringAll_55 rfl ?_
        refine g_aload_n (pc := 56) 0 C0 rfl dX0_bringAll_56 rfl ?_
        refine g_iload_n (pc := 57) 1 C0 rfl dX0_bringAll_57 rfl ?_
        refine g_iload_n (pc := 58) 3 C0 rfl dX0_bringAll_58 rfl ?_
        refine g_aload_n (pc := 59) 0 C0 rfl dX0_bringAll_59 rfl ?_
        refine g_get (pc := 60) (v := .ref (ad 4)) C0 (C := RX0) (T := TX0) (N := 14) (ci := 1) (q0 := 0) (j := 0) 0 (xCode (by omega)) rfl rfl in_X0 (by decide) q183 rfl dX0_bringAll_60 ?_
        refine g_getN (pc := 63) (v := .ref (ad 17)) C0 hN (C := RX1) (T := TX1) (N := 7) (ci := 2) (q0 := 4) (j := 4) 1 (xCode (by omega)) rfl rfl in_X1 (by decide) q100 rfl dX0_bringAll_63 ?_
        refine g_iload_n (pc := 66) 3 C0 rfl dX0_bringAll_66 rfl ?_
        refine g_aald (pc := 67) (q0 := 17) (j := 17) (t0 := 5) (N := 10) (jr := 90 + 2 * r4) C0 r4 (xCode (by omega)) rfl rfl (by decide) (by omega) (xst_f (by omega)) dX0_bringAll_67 ?_
        refine xs_get (pc := 68) (r := r4) (v := .int (nI (τ 3 r4))) C0 hβ (by omega) (hw.2.2 r4 (by omega)).1 0 (by decide) q629 rfl dX0_bringAll_68 ?_
        refine g_iload (pc := 71) 4 C0 rfl dX0_bringAll_71 ?_
        refine g_cviX (pc := 73) (na := 4) (As := [.int (nI q), .int (nI r4), .int (nI (τ 3 r4)), .int (nI s18)]) (rest := [.int (nI (bN c18))]) C0 hN (xX_bring l D dT ad nS τ β  q r4 (τ 3 r4) s18 hβ hw hp (by omega) (by omega) (Or.inl rfl) (by omega) hψ.1 (hψ.one (by omega) (by omega) h52)) (q0 := 0) (j := 0) (ci := 1) (C := RX0) (T := TX0) (N := 14) (xCode (by omega)) rfl rfl q881 q883 qs27 q57 q884 (by decide +kernel) ⟨Nat.le_of_ble_eq_true rfl, Nat.le_of_ble_eq_true rfl⟩ rfl rfl ⟨Nat.le_of_ble_eq_true rfl, Nat.le_of_ble_eq_true rfl⟩ rfl rfl (Nat.le_of_ble_eq_true rfl) dX0_bringAll_73 (fun r β hc => ?_)
        obtain ⟨cb, rfl, hβ, hbr, hcc⟩ := hc
        have hψ0 := hψ
        have hψ := hψ.tr hbr
        refine g_iorE (pc := 76) C0 (bN_or _ _) dX0_bringAll_76 ?_
        refine g_istore_n (pc := 77) 2 C0 (L1 := [some (.ref (ad 0)), some (.int (nI q)), some (.int (nI (bN (c18 || cb)))), some (.int (nI r4)), some (.int (nI s18))]) rfl (by decide) dX0_bringAll_77 rfl rfl ?_
        have hK3 : (c18 || cb) = false → (CF τ q r4 (2 ^ τ 0 8) b0 ∧ CG τ q r4 s18 b0) ∧ (b0 (82 + τ 3 r4) s18 = 1 → CC τ q r4 (τ 3 r4) s18 b0) := fun k => ⟨hJ18 (Bool.or_eq_false_iff.mp k).1, fun _ => CC.ce hw hp0 (by omega) (by omega) (hψ0.2.2.2 (Bool.or_eq_false_iff.mp k).1) (hcc (Bool.or_eq_false_iff.mp k).2)⟩
        refine g_aload_n (pc := 78) 0 C0 rfl dX0_bringAll_78 rfl ?_
        refine g_get (pc := 79) (v := .ref (ad 14)) C0 (C := RX0) (T := TX0) (N := 14) (ci := 1) (q0 := 0) (j := 0) 11 (xCode (by omega)) rfl rfl in_X0 (by decide) q194 rfl dX0_bringAll_79 ?_
        refine g_aload_n (pc := 82) 0 C0 rfl dX0_bringAll_82 rfl ?_
        refine g_get (pc := 83) (v := .ref (ad 4)) C0 (C := RX0) (T := TX0) (N := 14) (ci := 1) (q0 := 0) (j := 0) 0 (xCode (by omega)) rfl rfl in_X0 (by decide) q183 rfl dX0_bringAll_83 ?_
        refine g_getN (pc := 86) (v := .ref (ad 17)) C0 hN (C := RX1) (T := TX1) (N := 7) (ci := 2) (q0 := 4) (j := 4) 1 (xCode (by omega)) rfl rfl in_X1 (by decide) q100 rfl dX0_bringAll_86 ?_
        refine g_iload_n (pc := 89) 3 C0 rfl dX0_bringAll_89 rfl ?_
        refine g_aald (pc := 90) (q0 := 17) (j := 17) (t0 := 5) (N := 10) (jr := 90 + 2 * r4) C0 r4 (xCode (by omega)) rfl rfl (by decide) (by omega) (xst_f (by omega)) dX0_bringAll_90 ?_
        refine xs_get (pc := 91) (r := r4) (v := .int (nI (τ 4 r4))) C0 hβ (by omega) (hw.2.2 r4 (by omega)).1 1 (by decide) q631 rfl dX0_bringAll_91 ?_
        refine g_aaldA (pc := 94) (q0 := 14) (j := 14) (t0 := 4) (N := 8) (jr := 82 + (τ 4 r4)) C0 (τ 4 r4) (xCode (by omega)) rfl rfl (by decide) (by omega) rfl dX0_bringAll_94 ?_
        refine g_iload (pc := 95) 4 C0 rfl dX0_bringAll_95 ?_
        refine g_zaldV (pc := 97) (q0 := (82 + (τ 4 r4))) (j := (82 + (τ 4 r4))) (t0 := 1) (N := 256) (v := (β (82 + (τ 4 r4)) s18)) C0 s18 (xCode (by omega)) (fun f => xMk_come (by omega) f) rfl (by decide) (by omega) rfl dX0_bringAll_97 ?_
        refine g_if_eqN (pc := 98) 124 C0 (Nat.lt_of_le_of_lt (hψ.1 _ _ (by omega) (by omega)).1 (by decide)) dX0_bringAll_98 (by decide) (fun h98 => ?_) (fun h98 => ?_)
        · have kk : (c18 || cb) = false → (c18 || cb) = false := fun k => k
          have hK4 : (c18 || cb) = false → b0 (82 + τ 4 r4) s18 = 1 → CC τ q r4 (τ 4 r4) s18 b0 := fun k z => by rw [hψ.back k (by omega) (by omega) h98] at z; cases z
          refine g_iinc1 (pc := 124) 4 C0 (L1 := [some (.ref (ad 0)), some (.int (nI q)), some (.int (nI (bN (c18 || cb)))), some (.int (nI r4)), some (.int (nI (s18 + 1)))]) rfl rfl (by decide) dX0_bringAll_124 rfl ?_
          refine g_goto (pc := 127) 18 C0 dX0_bringAll_127 (by decide) ?_
          exact ih18 (s18 + 1, c18 || cb) (by show _ < _; omega) β ⟨by show s18 + 1 ≤ _; omega, hβ, hψ, fun k => ⟨(hK3 (kk k)).1.1, CG.s (hK3 (kk k)).1.2 (hK3 (kk k)).2 (hK4 k)⟩⟩
        · refine g_iload_n (pc := 101) 2 C0 rfl dX0_bringAll_101 rfl ?_
          refine g_aload_n (pc := 102) 0 C0 rfl dX0_bringAll_102 rfl ?_
          refine g_iload_n (pc := 103) 1 C0 rfl dX0_bringAll_103 rfl ?_
          refine g_iload_n (pc := 104) 3 C0 rfl dX0_bringAll_104 rfl ?_
          refine g_aload_n (pc := 105) 0 C0 rfl dX0_bringAll_105 rfl ?_
          refine g_get (pc := 106) (v := .ref (ad 4)) C0 (C := RX0) (T := TX0) (N := 14) (ci := 1) (q0 := 0) (j := 0) 0 (xCode (by omega)) rfl rfl in_X0 (by decide) q183 rfl dX0_bringAll_106 ?_
          refine g_getN (pc := 109) (v := .ref (ad 17)) C0 hN (C := RX1) (T := TX1) (N := 7) (ci := 2) (q0 := 4) (j := 4) 1 (xCode (by omega)) rfl rfl in_X1 (by decide) q100 rfl dX0_bringAll_109 ?_
          refine g_iload_n (pc := 112) 3 C0 rfl dX0_bringAll_112 rfl ?_
          refine g_aald (pc := 113) (q0 := 17) (j := 17) (t0 := 5) (N := 10) (jr := 90 + 2 * r4) C0 r4 (xCode (by omega)) rfl rfl (by decide) (by omega) (xst_f (by omega)) dX0_bringAll_113 ?_
          refine xs_get (pc := 114) (r := r4) (v := .int (nI (τ 4 r4))) C0 hβ (by omega) (hw.2.2 r4 (by omega)).1 1 (by decide) q631 rfl dX0_bringAll_114 ?_
          refine g_iload (pc := 117) 4 C0 rfl dX0_bringAll_117 ?_
          refine g_cviX (pc := 119) (na := 4) (As := [.int (nI q), .int (nI r4), .int (nI (τ 4 r4)), .int (nI s18)]) (rest := [.int (nI (bN (c18 || cb)))]) C0 hN (xX_bring l D dT ad nS τ β  q r4 (τ 4 r4) s18 hβ hw hp (by omega) (by omega) (Or.inr rfl) (by omega) hψ.1 (hψ.one (by omega) (by omega) h98)) (q0 := 0) (j := 0) (ci := 1) (C := RX0) (T := TX0) (N := 14) (xCode (by omega)) rfl rfl q881 q883 qs27 q57 q884 (by decide +kernel) ⟨Nat.le_of_ble_eq_true rfl, Nat.le_of_ble_eq_true rfl⟩ rfl rfl ⟨Nat.le_of_ble_eq_true rfl, Nat.le_of_ble_eq_true rfl⟩ rfl rfl (Nat.le_of_ble_eq_true rfl) dX0_bringAll_119 (fun r β hc => ?_)
          obtain ⟨cb2, rfl, hβ, hbr, hcc⟩ := hc
          have hcc1 := hcc
          have hψ1 := hψ
          have hψ := hψ.tr hbr
          refine g_iorE (pc := 122) C0 (bN_or _ _) dX0_bringAll_122 ?_
          refine g_istore_n (pc := 123) 2 C0 (L1 := [some (.ref (ad 0)), some (.int (nI q)), some (.int (nI (bN ((c18 || cb) || cb2)))), some (.int (nI r4)), some (.int (nI s18))]) rfl (by decide) dX0_bringAll_123 rfl rfl ?_
          have kk : ((c18 || cb) || cb2) = false → (c18 || cb) = false := fun k => (Bool.or_eq_false_iff.mp k).1
          have hK4 : ((c18 || cb) || cb2) = false → b0 (82 + τ 4 r4) s18 = 1 → CC τ q r4 (τ 4 r4) s18 b0 := fun k _ => CC.ce hw hp0 (by omega) (by omega) (hψ1.2.2.2 (Bool.or_eq_false_iff.mp k).1) (hcc1 (Bool.or_eq_false_iff.mp k).2)
          refine g_iinc1 (pc := 124) 4 C0 (L1 := [some (.ref (ad 0)), some (.int (nI q)), some (.int (nI (bN ((c18 || cb) || cb2)))), some (.int (nI r4)), some (.int (nI (s18 + 1)))]) rfl rfl (by decide) dX0_bringAll_124 rfl ?_
          refine g_goto (pc := 127) 18 C0 dX0_bringAll_127 (by decide) ?_
          exact ih18 (s18 + 1, (c18 || cb) || cb2) (by show _ < _; omega) β ⟨by show s18 + 1 ≤ _; omega, hβ, hψ, fun k => ⟨(hK3 (kk k)).1.1, CG.s (hK3 (kk k)).1.2 (hK3 (kk k)).2 (hK4 k)⟩⟩
set_option maxHeartbeats 4000000 in
set_option maxRecDepth 100000 in
theorem xX_carried (l : Launch) (D : va_G) (dT : Nat → ClassId) (ad : Nat → Nat) (nS : Nat) (τ β : tT)  (p : Int32) (x : Int32) (w : Int32) (hβ : RX nS β τ) (hw : wfT τ) (hp : wfP τ) : XI l D dT ad nS yX0_carried cX0_carried 8 .int ({ frames := 8, cells := 0, slots := 0, locals := 235 }) [.ref (ad 0), .int p, .int x, .int w] β (fun rr β' => rr = (pCarried τ p x w) ∧ RX nS β' (pCarriedT τ p x w)) := by
  refine XI.ofG (own := "FittingStrides") (L := [some (.ref (ad 0)), some (.int p), some (.int x), some (.int w), none, none, none, none]) rfl (by decide) (Nat.le_of_ble_eq_true rfl) rfl ?_
  intro p' e' s' m' bl' mt' c' C0 hN
  have hn := hβ.n
  have hn10 := hβ.n10
  have hw1 := hw.1
  have hw0 := hw.2.1
  have hp0 := hp.1
  have hp1 := hp.2.1
  have hpw := pw_lt hp0
  have hpe := pw_le hp0
  refine g_aload_n (pc := 0) 0 C0 rfl dX0_carried_0 rfl ?_
  refine g_iload_n (pc := 1) 1 C0 rfl dX0_carried_1 rfl ?_
  refine g_cviX (pc := 2) (na := 1) (As := [.int p]) (rest := []) C0 hN (xX_isPerson l D dT ad nS τ β  p hβ (by omega)) (q0 := 0) (j := 0) (ci := 1) (C := RX0) (T := TX0) (N := 14) (xCode (by omega)) rfl rfl q751 q753 qs13 q57 q754 (by decide +kernel) ⟨Nat.le_of_ble_eq_true rfl, Nat.le_of_ble_eq_true rfl⟩ rfl rfl ⟨Nat.le_of_ble_eq_true rfl, Nat.le_of_ble_eq_true rfl⟩ rfl rfl (Nat.le_of_ble_eq_true rfl) dX0_carried_2 (fun r β0 hc => ?_)
  obtain ⟨rfl, rfl⟩ := hc
  refine g_if_eqB (pc := 5) 16 C0 dX0_carried_5 (by decide) (fun h5 => ?_) (fun h5 => ?_)
  · refine g_ldc (pc := 16) (v := -1000000001) C0 q704 dX0_carried_16 ?_
    exact g_iret (pc := 18) C0 dX0_carried_18 ⟨by simp [pCarried, pCarOk, h5]; rfl, by simpa [pCarriedT, pCarOk, h5] using hβ⟩
  · obtain ⟨p1, rfl, p1h, p1b⟩ := ixB_t h5
    obtain ⟨g1, g2, g3, g4⟩ := hp.2.2 p1 p1h
    have hx9 : τ 9 p1 < 8 := by omega
    refine g_aload_n (pc := 8) 0 C0 rfl dX0_carried_8 rfl ?_
    refine g_iload_n (pc := 9) 2 C0 rfl dX0_carried_9 rfl ?_
    refine g_cviX (pc := 10) (na := 1) (As := [.int x]) (rest := []) C0 hN (xX_isPlace l D dT ad nS τ β  x hβ (by omega)) (q0 := 0) (j := 0) (ci := 1) (C := RX0) (T := TX0) (N := 14) (xCode (by omega)) rfl rfl q838 q840 qs22 q57 q841 (by decide +kernel) ⟨Nat.le_of_ble_eq_true rfl, Nat.le_of_ble_eq_true rfl⟩ rfl rfl ⟨Nat.le_of_ble_eq_true rfl, Nat.le_of_ble_eq_true rfl⟩ rfl rfl (Nat.le_of_ble_eq_true rfl) dX0_carried_10 (fun r β0 hc => ?_)
    obtain ⟨rfl, rfl⟩ := hc
    refine g_if_neB (pc := 13) 19 C0 dX0_carried_13 (by decide) (fun h13 => ?_) (fun h13 => ?_)
    · obtain ⟨x1, rfl, x1h, x1b⟩ := ixB_t h13
      refine g_iload_n (pc := 19) 3 C0 rfl dX0_carried_19 rfl ?_
      refine g_iconst (pc := 20) (v := (nI 0)) C0 dX0_carried_20 (by decide) ?_
      refine g_iconst (pc := 21) (v := (nI 1)) C0 dX0_carried_21 (by decide) ?_
      refine g_csi (pc := 22) (na := 3) (As := [.int w, .int (nI 0), .int (nI 1)]) (rest := []) C0 (xX_isIn l w (nI 0) (nI 1) ) q232 q233 q57 q234 (by decide +kernel) ⟨Nat.le_of_ble_eq_true rfl, Nat.le_of_ble_eq_true rfl⟩ rfl rfl ⟨Nat.le_of_ble_eq_true rfl, Nat.le_of_ble_eq_true rfl⟩ rfl rfl (Nat.le_of_ble_eq_true rfl) dX0_carried_22 ?_
      refine g_if_neB (pc := 25) 31 C0 dX0_carried_25 (by decide) (fun h25 => ?_) (fun h25 => ?_)
      · rw [isInB_rg w (lo := 0) (hi := 1) (by decide) (by decide)] at h25
        refine g_iconst (pc := 31) (v := (nI 0)) C0 dX0_carried_31 (by decide) ?_
        refine g_istore (pc := 32) 4 C0 (L1 := [some (.ref (ad 0)), some (.int (nI p1)), some (.int (nI x1)), some (.int w), some (.int (nI 0)), none, none, none]) rfl (by decide) dX0_carried_32 rfl ?_
        refine G.loopX (pc := 34) (Φ := fun i β => RX nS β τ ∧ (∀ x, x < i → ∀ s, s < 256 → β (82 + x) s = 0)) (wsf := fun β => xW dT ad nS β) (Lf := fun i => [some (.ref (ad 0)), some (.int (nI p1)), some (.int (nI x1)), some (.int w), some (.int (nI i)), none, none, none]) (N := 8) (i0 := 0) β ⟨hβ, fun x hx => by omega⟩ (Nat.zero_le _) (fun β hβ => ?_) (fun i34 β hi34 hj34 hβ ih34 => ?_)
        · obtain ⟨hβ, hψ⟩ := hβ
          refine g_iload (pc := 34) 4 C0 rfl dX0_carried_34 ?_
          refine g_bipush (pc := 36) (v := (nI 8)) C0 dX0_carried_36 (by decide) ?_
          refine g_icmp_geN (pc := 38) 58 C0 (by decide) (by decide) dX0_carried_38 (by decide) (fun h38 => ?_) (fun h38 => ?_)
          rotate_left
          · exact absurd h38 (by omega)
          refine g_aload_n (pc := 58) 0 C0 rfl dX0_carried_58 rfl ?_
          refine g_get (pc := 59) (v := .ref (ad 14)) C0 (C := RX0) (T := TX0) (N := 14) (ci := 1) (q0 := 0) (j := 0) 11 (xCode (by omega)) rfl rfl in_X0 (by decide) q194 rfl dX0_carried_59 ?_
          refine g_aload_n (pc := 62) 0 C0 rfl dX0_carried_62 rfl ?_
          refine g_get (pc := 63) (v := .ref (ad 1)) C0 (C := RX0) (T := TX0) (N := 14) (ci := 1) (q0 := 0) (j := 0) 1 (xCode (by omega)) rfl rfl in_X0 (by decide) q184 rfl dX0_carried_63 ?_
          refine g_getN (pc := 66) (v := .ref (ad 5)) C0 hN (C := RX2) (T := TX2) (N := 10) (ci := 3) (q0 := 1) (j := 1) 0 (xCode (by omega)) rfl rfl in_X2 (by decide) q140 rfl dX0_carried_66 ?_
          refine g_iload_n (pc := 69) 1 C0 rfl dX0_carried_69 rfl ?_
          refine g_ialdV (pc := 70) (q0 := 5) (j := 5) (t0 := 0) (N := 8) (v := (τ 9 p1)) C0 p1 (xCode (by omega)) (fun _ => rfl) rfl (by decide) (by omega) (hβ.a5 (by omega)) dX0_carried_70 ?_
          refine g_aaldA (pc := 71) (q0 := 14) (j := 14) (t0 := 4) (N := 8) (jr := 82 + (τ 9 p1)) C0 (τ 9 p1) (xCode (by omega)) rfl rfl (by decide) (by omega) rfl dX0_carried_71 ?_
          refine g_iconst (pc := 72) (v := (nI 0)) C0 dX0_carried_72 (by decide) ?_
          refine g_iconst (pc := 73) (v := (nI 1)) C0 dX0_carried_73 (by decide) ?_
          refine g_zast (pc := 74) (q0 := (82 + (τ 9 p1))) (j := (82 + (τ 9 p1))) (t0 := 1) (N := 256) C0 0 1 (xNd hβ.n10) (by decide) (xCode (by omega)) (fun f => xMk_come (by omega) f) rfl (by decide) (by omega) dX0_carried_74 ?_
          refine G.nmX (Φ := fun β => RX nS β τ ∧ (CS τ p1 β ∧ β (82 + τ 9 p1) 0 = 1)) (wsf := fun β => xW dT ad nS β) ⟨hβ.come (by omega) _ _, CS.begin hw hx9 hψ⟩ (fun β hβ => ?_)
          obtain ⟨hβ, hψ⟩ := hβ
          refine g_iconst (pc := 75) (v := (nI 1)) C0 dX0_carried_75 (by decide) ?_
          refine g_istore (pc := 76) 4 C0 (L1 := [some (.ref (ad 0)), some (.int (nI p1)), some (.int (nI x1)), some (.int w), some (.int (nI 1)), none, none, none]) rfl (by decide) dX0_carried_76 rfl ?_
          refine G.whX (pc := 78) (wsf := fun β => xW dT ad nS β) (Lf := fun xx : Bool × Nat => [some (.ref (ad 0)), some (.int (nI p1)), some (.int (nI x1)), some (.int w), some (.int (nI (bN xx.1))), none, none, none]) (fun xx => 2 * xx.2 + bN xx.1) (fun xx β => RX nS β τ ∧ CS τ p1 β ∧ β (82 + τ 9 p1) 0 = 1 ∧ xx.2 = 2048 - cmN β ∧ (xx.1 = false → CF τ p1 (τ 0 1) (2 ^ τ 0 8) β)) (true, 2048 - cmN β) β ⟨hβ, hψ.1, hψ.2, rfl, fun k => by cases k⟩ ?_
          rintro ⟨ch, k78⟩ β ⟨hβ, hcs, hc0, hk, hcf⟩ ih78
          have hk : k78 = 2048 - cmN β := hk
          have hcf : ch = false → CF τ p1 (τ 0 1) (2 ^ τ 0 8) β := hcf
          refine G.lE (L' := [some (.ref (ad 0)), some (.int (nI p1)), some (.int (nI x1)), some (.int w), some (.int (nI (bN ch))), none, none, none]) rfl ?_
          refine g_iload (pc := 78) 4 C0 rfl dX0_carried_78 ?_
          refine g_if_eqB (pc := 80) 93 C0 dX0_carried_80 (by decide) (fun h80 => ?_) (fun h80 => ?_)
          · have hcar : scB (fun s => decide (β (82 + x1) s ≠ 0)) (2 ^ τ 0 8) = carA τ p1 x1 := carried_eq hw hp p1h (by omega) (hcf h80) hcs hc0
            refine G.forget 4 ?_
            refine g_iconst (pc := 93) (v := (-1)) C0 dX0_carried_93 (by decide) ?_
            refine g_istore (pc := 94) 5 C0 (L1 := [some (.ref (ad 0)), some (.int (nI p1)), some (.int (nI x1)), some (.int w), none, some (.int (-1)), none, none]) rfl (by decide) dX0_carried_94 rfl ?_
            refine g_iconst (pc := 96) (v := (nI 0)) C0 dX0_carried_96 (by decide) ?_
            refine g_istore (pc := 97) 6 C0 (L1 := [some (.ref (ad 0)), some (.int (nI p1)), some (.int (nI x1)), some (.int w), none, some (.int (-1)), some (.int (nI 0)), none]) rfl (by decide) dX0_carried_97 rfl ?_
            refine G.loop (pc := 99) (ws := fun i => xW dT ad nS β) (Lf := fun i => [some (.ref (ad 0)), some (.int (nI p1)), some (.int (nI x1)), some (.int w), none, some (.int (oI (scB (fun s => decide (β (82 + x1) s ≠ 0)) i))), some (.int (nI i)), none]) (N := 2 ^ τ 0 8) (i0 := 0) (Nat.zero_le _) ?_ (fun i99 hi99 hj99 ih99 => ?_)
            · refine g_iload (pc := 99) 6 C0 rfl dX0_carried_99 ?_
              refine g_iconst (pc := 101) (v := (nI 1)) C0 dX0_carried_101 (by decide) ?_
              refine g_aload_n (pc := 102) 0 C0 rfl dX0_carried_102 rfl ?_
              refine g_get (pc := 103) (v := .ref (ad 1)) C0 (C := RX0) (T := TX0) (N := 14) (ci := 1) (q0 := 0) (j := 0) 1 (xCode (by omega)) rfl rfl in_X0 (by decide) q184 rfl dX0_carried_103 ?_
              refine g_getN (pc := 106) (v := .int (nI (τ 0 8))) C0 hN (C := RX2) (T := TX2) (N := 10) (ci := 3) (q0 := 1) (j := 1) 3 (xCode (by omega)) rfl rfl in_X2 (by decide) q146 (xv hβ.f1_3) dX0_carried_106 ?_
              refine g_ishl1N (pc := 109) C0 (by omega) dX0_carried_109 ?_
              refine g_icmp_geN (pc := 110) 171 C0 (by omega) (by omega) dX0_carried_110 (by decide) (fun h110 => ?_) (fun h110 => ?_)
              rotate_left
              · exact absurd h110 (by omega)
              refine g_iload_n (pc := 171) 3 C0 rfl dX0_carried_171 rfl ?_
              refine g_iconst (pc := 172) (v := (nI 1)) C0 dX0_carried_172 (by decide) ?_
              refine g_icmp_eq (pc := 173) 182 C0 dX0_carried_173 (by decide) (fun h173 => ?_) (fun h173 => ?_)
              · refine g_iload (pc := 182) 5 C0 rfl dX0_carried_182 ?_
                refine g_goto (pc := 184) 192 C0 dX0_carried_184 (by decide) ?_
                exact g_iret (pc := 192) C0 dX0_carried_192 ⟨by rw [pCarried, pCarOk, h5, h13, h25, nI_clamp p1b, nI_clamp x1b, ← hcar]; simp [h173], by rw [pCarriedT, pCarOk, h5, h13, h25]; exact RX.rch hβ⟩
              · refine g_iload (pc := 176) 5 C0 rfl dX0_carried_176 ?_
                refine g_iconst (pc := 178) (v := (-1)) C0 dX0_carried_178 (by decide) ?_
                refine g_icmp_ne (pc := 179) 187 C0 dX0_carried_179 (by decide) (fun h179 => ?_) (fun h179 => ?_)
                · obtain ⟨bb, hbb⟩ := oI_nm1 h179
                  have hb3 := scB_lt hbb
                  refine G.lE (L' := [some (.ref (ad 0)), some (.int (nI p1)), some (.int (nI x1)), some (.int w), none, some (.int (nI bb)), some (.int (nI (2 ^ τ 0 8))), none]) (by rw [hbb]; rfl) ?_
                  refine g_iload (pc := 187) 5 C0 rfl dX0_carried_187 ?_
                  refine g_csi (pc := 189) (na := 1) (As := [.int (nI bb)]) (rest := []) C0 (xJ_bitCount l bb (by omega)) q885 q886 q78 q887 (by decide +kernel) ⟨Nat.le_of_ble_eq_true rfl, Nat.le_of_ble_eq_true rfl⟩ rfl rfl ⟨Nat.le_of_ble_eq_true rfl, Nat.le_of_ble_eq_true rfl⟩ rfl rfl (Nat.le_of_ble_eq_true rfl) dX0_carried_189 ?_
                  exact g_iret (pc := 192) C0 dX0_carried_192 ⟨by rw [pCarried, pCarOk, h5, h13, h25, nI_clamp p1b, nI_clamp x1b, ← hcar]; rw [hbb]; simp [h173, oI], by rw [pCarriedT, pCarOk, h5, h13, h25]; exact RX.rch hβ⟩
                · refine g_iload (pc := 182) 5 C0 rfl dX0_carried_182 ?_
                  refine g_goto (pc := 184) 192 C0 dX0_carried_184 (by decide) ?_
                  exact g_iret (pc := 192) C0 dX0_carried_192 ⟨by rw [pCarried, pCarOk, h5, h13, h25, nI_clamp p1b, nI_clamp x1b, ← hcar]; rw [oI_m1 h179 (scB_lt2 hpe)]; simp [h173] <;> rfl, by rw [pCarriedT, pCarOk, h5, h13, h25]; exact RX.rch hβ⟩
            · refine g_iload (pc := 99) 6 C0 rfl dX0_carried_99 ?_
              refine g_iconst (pc := 101) (v := (nI 1)) C0 dX0_carried_101 (by decide) ?_
              refine g_aload_n (pc := 102) 0 C0 rfl dX0_carried_102 rfl ?_
              refine g_get (pc := 103) (v := .ref (ad 1)) C0 (C := RX0) (T := TX0) (N := 14) (ci := 1) (q0 := 0) (j := 0) 1 (xCode (by omega)) rfl rfl in_X0 (by decide) q184 rfl dX0_carried_103 ?_
              refine g_getN (pc := 106) (v := .int (nI (τ 0 8))) C0 hN (C := RX2) (T := TX2) (N := 10) (ci := 3) (q0 := 1) (j := 1) 3 (xCode (by omega)) rfl rfl in_X2 (by decide) q146 (xv hβ.f1_3) dX0_carried_106 ?_
              refine g_ishl1N (pc := 109) C0 (by omega) dX0_carried_109 ?_
              refine g_icmp_geN (pc := 110) 171 C0 (by omega) (by omega) dX0_carried_110 (by decide) (fun h110 => ?_) (fun h110 => ?_)
              · exact absurd h110 (by omega)
              refine G.join (pcJ := 137) (wsJ := xW dT ad nS β) (LJ := [some (.ref (ad 0)), some (.int (nI p1)), some (.int (nI x1)), some (.int w), none, some (.int (oI (scB (fun s => decide (β (82 + x1) s ≠ 0)) i99))), some (.int (nI i99)), none]) (stJ := []) (nI (bN (fewB i99 (scB (fun s => decide (β (82 + x1) s ≠ 0)) i99)))) ?_ (fun J137 => ?_)
              · refine g_istore (pc := 137) 7 C0 (L1 := [some (.ref (ad 0)), some (.int (nI p1)), some (.int (nI x1)), some (.int w), none, some (.int (oI (scB (fun s => decide (β (82 + x1) s ≠ 0)) i99))), some (.int (nI i99)), some (.int (nI (bN (fewB i99 (scB (fun s => decide (β (82 + x1) s ≠ 0)) i99)))))]) rfl (by decide) dX0_carried_137 rfl ?_
                refine G.join (pcJ := 163) (wsJ := xW dT ad nS β) (LJ := [some (.ref (ad 0)), some (.int (nI p1)), some (.int (nI x1)), some (.int w), none, some (.int (oI (scB (fun s => decide (β (82 + x1) s ≠ 0)) i99))), some (.int (nI i99)), some (.int (nI (bN (fewB i99 (scB (fun s => decide (β (82 + x1) s ≠ 0)) i99)))))]) (stJ := []) (oI (scB (fun s => decide (β (82 + x1) s ≠ 0)) (i99 + 1))) ?_ (fun J163 => ?_)
                · refine g_istore (pc := 163) 5 C0 (L1 := [some (.ref (ad 0)), some (.int (nI p1)), some (.int (nI x1)), some (.int w), none, some (.int (oI (scB (fun s => decide (β (82 + x1) s ≠ 0)) (i99 + 1)))), some (.int (nI i99)), some (.int (nI (bN (fewB i99 (scB (fun s => decide (β (82 + x1) s ≠ 0)) i99)))))]) rfl (by decide) dX0_carried_163 rfl ?_
                  refine g_iinc1 (pc := 165) 6 C0 (L1 := [some (.ref (ad 0)), some (.int (nI p1)), some (.int (nI x1)), some (.int w), none, some (.int (oI (scB (fun s => decide (β (82 + x1) s ≠ 0)) (i99 + 1)))), some (.int (nI (i99 + 1))), some (.int (nI (bN (fewB i99 (scB (fun s => decide (β (82 + x1) s ≠ 0)) i99)))))]) rfl rfl (by decide) dX0_carried_165 rfl ?_
                  refine g_goto (pc := 168) 99 C0 dX0_carried_168 (by decide) ?_
                  refine G.forget 7 ?_
                  exact ih99
                · refine g_aload_n (pc := 139) 0 C0 rfl dX0_carried_139 rfl ?_
                  refine g_get (pc := 140) (v := .ref (ad 14)) C0 (C := RX0) (T := TX0) (N := 14) (ci := 1) (q0 := 0) (j := 0) 11 (xCode (by omega)) rfl rfl in_X0 (by decide) q194 rfl dX0_carried_140 ?_
                  refine g_iload_n (pc := 143) 2 C0 rfl dX0_carried_143 rfl ?_
                  refine g_aaldA (pc := 144) (q0 := 14) (j := 14) (t0 := 4) (N := 8) (jr := 82 + x1) C0 x1 (xCode (by omega)) rfl rfl (by decide) (by omega) rfl dX0_carried_144 ?_
                  refine g_iload (pc := 145) 6 C0 rfl dX0_carried_145 ?_
                  refine g_zaldV (pc := 147) (q0 := (82 + x1)) (j := (82 + x1)) (t0 := 1) (N := 256) (v := (β (82 + x1) i99)) C0 i99 (xCode (by omega)) (fun f => xMk_come (by omega) f) rfl (by decide) (by omega) rfl dX0_carried_147 ?_
                  refine g_if_eqN (pc := 148) 161 C0 (Nat.lt_of_le_of_lt (hcs x1 i99 (by omega) (by omega)).1 (by decide)) dX0_carried_148 (by decide) (fun h148 => ?_) (fun h148 => ?_)
                  · refine g_iload (pc := 161) 5 C0 rfl dX0_carried_161 ?_
                    exact J163 (oI (scB (fun s => decide (β (82 + x1) s ≠ 0)) i99)) (by rw [scB_s, show decide (β (82 + x1) i99 ≠ 0) = false from decide_eq_false (fun z => z h148)]; rfl)
                  · refine g_iload (pc := 151) 7 C0 rfl dX0_carried_151 ?_
                    refine g_if_eqB (pc := 153) 161 C0 dX0_carried_153 (by decide) (fun h153 => ?_) (fun h153 => ?_)
                    · refine g_iload (pc := 161) 5 C0 rfl dX0_carried_161 ?_
                      exact J163 (oI (scB (fun s => decide (β (82 + x1) s ≠ 0)) i99)) (by rw [scB_s, h153, decide_eq_true h148]; rfl)
                    · refine g_iload (pc := 156) 6 C0 rfl dX0_carried_156 ?_
                      refine g_goto (pc := 158) 163 C0 dX0_carried_158 (by decide) ?_
                      exact J163 (nI i99) (by rw [scB_s, h153, decide_eq_true h148]; rfl)
              · refine g_iload (pc := 113) 5 C0 rfl dX0_carried_113 ?_
                refine g_iconst (pc := 115) (v := (-1)) C0 dX0_carried_115 (by decide) ?_
                refine g_icmp_eq (pc := 116) 132 C0 dX0_carried_116 (by decide) (fun h116 => ?_) (fun h116 => ?_)
                · refine g_iconst (pc := 132) (v := (nI 1)) C0 dX0_carried_132 (by decide) ?_
                  refine g_goto (pc := 133) 137 C0 dX0_carried_133 (by decide) ?_
                  exact J137 (nI 1) (bret1 (by rw [oI_m1 h116 (scB_lt2 (by omega))]; rfl))
                · obtain ⟨bb, hbb⟩ := oI_nm1 h116
                  have hb3 := scB_lt hbb
                  refine G.lE (L' := [some (.ref (ad 0)), some (.int (nI p1)), some (.int (nI x1)), some (.int w), none, some (.int (nI bb)), some (.int (nI i99)), none]) (by rw [hbb]; rfl) ?_
                  refine g_iload (pc := 119) 6 C0 rfl dX0_carried_119 ?_
                  refine g_csi (pc := 121) (na := 1) (As := [.int (nI i99)]) (rest := []) C0 (xJ_bitCount l i99 (by omega)) q885 q886 q78 q887 (by decide +kernel) ⟨Nat.le_of_ble_eq_true rfl, Nat.le_of_ble_eq_true rfl⟩ rfl rfl ⟨Nat.le_of_ble_eq_true rfl, Nat.le_of_ble_eq_true rfl⟩ rfl rfl (Nat.le_of_ble_eq_true rfl) dX0_carried_121 ?_
                  refine g_iload (pc := 124) 5 C0 rfl dX0_carried_124 ?_
                  refine g_csi (pc := 126) (na := 1) (As := [.int (nI bb)]) (rest := [.int (nI (bitsN i99 24))]) C0 (xJ_bitCount l bb (by omega)) q885 q886 q78 q887 (by decide +kernel) ⟨Nat.le_of_ble_eq_true rfl, Nat.le_of_ble_eq_true rfl⟩ rfl rfl ⟨Nat.le_of_ble_eq_true rfl, Nat.le_of_ble_eq_true rfl⟩ rfl rfl (Nat.le_of_ble_eq_true rfl) dX0_carried_126 ?_
                  refine g_icmp_geN (pc := 129) 136 C0 (Nat.lt_of_le_of_lt (bitsN_le _ _) (by decide)) (Nat.lt_of_le_of_lt (bitsN_le _ _) (by decide)) dX0_carried_129 (by decide) (fun h129 => ?_) (fun h129 => ?_)
                  · refine g_iconst (pc := 136) (v := (nI 0)) C0 dX0_carried_136 (by decide) ?_
                    refine G.lE (L' := [some (.ref (ad 0)), some (.int (nI p1)), some (.int (nI x1)), some (.int w), none, some (.int (oI (scB (fun s => decide (β (82 + x1) s ≠ 0)) i99))), some (.int (nI i99)), none]) (by rw [hbb]; rfl) ?_
                    exact J137 (nI 0) (bret0 (by rw [hbb]; simp [fewB]; omega))
                  · refine g_iconst (pc := 132) (v := (nI 1)) C0 dX0_carried_132 (by decide) ?_
                    refine g_goto (pc := 133) 137 C0 dX0_carried_133 (by decide) ?_
                    refine G.lE (L' := [some (.ref (ad 0)), some (.int (nI p1)), some (.int (nI x1)), some (.int w), none, some (.int (oI (scB (fun s => decide (β (82 + x1) s ≠ 0)) i99))), some (.int (nI i99)), none]) (by rw [hbb]; rfl) ?_
                    exact J137 (nI 1) (bret1 (by rw [hbb]; simp [fewB]; omega))
          · subst h80
            refine g_aload_n (pc := 83) 0 C0 rfl dX0_carried_83 rfl ?_
            refine g_iload_n (pc := 84) 1 C0 rfl dX0_carried_84 rfl ?_
            refine g_cviX (pc := 85) (na := 1) (As := [.int (nI p1)]) (rest := []) C0 hN (xX_bringAll l D dT ad nS τ β  p1 hβ hw hp p1h hcs) (q0 := 0) (j := 0) (ci := 1) (C := RX0) (T := TX0) (N := 14) (xCode (by omega)) rfl rfl q877 q879 qs26 q57 q880 (by decide +kernel) ⟨Nat.le_of_ble_eq_true rfl, Nat.le_of_ble_eq_true rfl⟩ rfl rfl ⟨Nat.le_of_ble_eq_true rfl, Nat.le_of_ble_eq_true rfl⟩ rfl rfl (Nat.le_of_ble_eq_true rfl) dX0_carried_85 (fun r β hc => ?_)
            obtain ⟨ch2, rfl, hβ, hbr, hcf2⟩ := hc
            refine g_istore (pc := 88) 4 C0 (L1 := [some (.ref (ad 0)), some (.int (nI p1)), some (.int (nI x1)), some (.int w), some (.int (nI (bN ch2))), none, none, none]) rfl (by decide) dX0_carried_88 rfl ?_
            refine g_goto (pc := 90) 78 C0 dX0_carried_90 (by decide) ?_
            exact ih78 (ch2, 2048 - cmN β) (car_mu hbr hk) β ⟨hβ, hbr.1, hbr.keep (by omega) (by decide) hc0, rfl, fun k => CF.ec hw hp0 (hbr.2.2.2 k) (hcf2 k)⟩
        · obtain ⟨hβ, hψ⟩ := hβ
          refine g_iload (pc := 34) 4 C0 rfl dX0_carried_34 ?_
          refine g_bipush (pc := 36) (v := (nI 8)) C0 dX0_carried_36 (by decide) ?_
          refine g_icmp_geN (pc := 38) 58 C0 (by omega) (by decide) dX0_carried_38 (by decide) (fun h38 => ?_) (fun h38 => ?_)
          · exact absurd h38 (by omega)
          refine g_aload_n (pc := 41) 0 C0 rfl dX0_carried_41 rfl ?_
          refine g_get (pc := 42) (v := .ref (ad 14)) C0 (C := RX0) (T := TX0) (N := 14) (ci := 1) (q0 := 0) (j := 0) 11 (xCode (by omega)) rfl rfl in_X0 (by decide) q194 rfl dX0_carried_42 ?_
          refine g_iload (pc := 45) 4 C0 rfl dX0_carried_45 ?_
          refine g_aaldA (pc := 47) (q0 := 14) (j := 14) (t0 := 4) (N := 8) (jr := 82 + i34) C0 i34 (xCode (by omega)) rfl rfl (by decide) (by omega) rfl dX0_carried_47 ?_
          refine g_iconst (pc := 48) (v := (nI 0)) C0 dX0_carried_48 (by decide) ?_
          refine g_csvX (pc := 49) (na := 2) (As := [.ref (ad (82 + i34)), .int (nI 0)]) (rest := []) C0 hN (xJ_fillZ l D dT ad nS β (82 + i34) 256 hβ.n10 (by omega) (fun f => xMk_come (by omega) f) (by decide)) q874 q875 q68 q876 (by decide +kernel) ⟨Nat.le_of_ble_eq_true rfl, Nat.le_of_ble_eq_true rfl⟩ rfl rfl ⟨Nat.le_of_ble_eq_true rfl, Nat.le_of_ble_eq_true rfl⟩ rfl rfl (Nat.le_of_ble_eq_true rfl) dX0_carried_49 (fun β0 hc => ?_)
          subst hc
          refine G.nmX (Φ := fun β => RX nS β τ ∧ (∀ x, x < (i34 + 1) → ∀ s, s < 256 → β (82 + x) s = 0)) (wsf := fun β => xW dT ad nS β) (hβ.fill (by omega) hψ) (fun β hβ => ?_)
          obtain ⟨hβ, hψ⟩ := hβ
          refine g_iinc1 (pc := 52) 4 C0 (L1 := [some (.ref (ad 0)), some (.int (nI p1)), some (.int (nI x1)), some (.int w), some (.int (nI (i34 + 1))), none, none, none]) rfl rfl (by decide) dX0_carried_52 rfl ?_
          refine g_goto (pc := 55) 34 C0 dX0_carried_55 (by decide) ?_
          exact ih34 β ⟨hβ, hψ⟩
      · rw [isInB_rg w (lo := 0) (hi := 1) (by decide) (by decide)] at h25
        refine g_ldc (pc := 28) (v := -1000000002) C0 q235 dX0_carried_28 ?_
        exact g_iret (pc := 30) C0 dX0_carried_30 ⟨by rw [pCarried, pCarOk, h5, h13, h25]; rfl, by rw [pCarriedT, pCarOk, h5, h13, h25]; exact hβ⟩
    · refine g_ldc (pc := 16) (v := -1000000001) C0 q704 dX0_carried_16 ?_
      exact g_iret (pc := 18) C0 dX0_carried_18 ⟨by simp [pCarried, pCarOk, h5, nI_clamp p1b, h13]; rfl, by simpa [pCarriedT, pCarOk, h5, nI_clamp p1b, h13] using hβ⟩
