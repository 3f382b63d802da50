/-! printed by gen/x7run.py: Folk.begin -/
set_option maxRecDepth 100000
def cpS (β : tT) (n : Nat) : tT := fun j => bif Nat.ble 32 j && Nat.blt j (32 + n) then (fun i => bif Nat.blt i 3 then β (90 + 2 * (j - 32) + 1) i else β j i) else β j
theorem cp0_n {τ : tT} {j0 j1 N j : Nat} (h : j ≠ j1) : cp0 τ j0 j1 N j = τ j := by unfold cp0; rw [upr_n h]
theorem cpS_out {β : tT} {n j : Nat} (h : j < 32 ∨ 32 + n ≤ j) : cpS β n j = β j := by
  unfold cpS
  have : (Nat.ble 32 j && Nat.blt j (32 + n)) = false := by
    rw [blt_c]
    rcases h with h | h
    · have : Nat.ble 32 j = false := by
        cases hb : Nat.ble 32 j with
        | false => rfl
        | true => exact absurd (Nat.le_of_ble_eq_true hb) (by omega)
      rw [this]; rfl
    · rw [decide_eq_false (by omega), Bool.and_false]
  rw [this]
  rfl
theorem cpS_in {β : tT} {n r i : Nat} (h : r < n) : cpS β n (32 + r) i = bif Nat.blt i 3 then β (90 + 2 * r + 1) i else β (32 + r) i := by
  unfold cpS
  have : (Nat.ble 32 (32 + r) && Nat.blt (32 + r) (32 + n)) = true := by
    rw [blt_c, decide_eq_true (by omega), Bool.and_true]
    exact Nat.ble_eq_true_of_le (by omega)
  rw [this]
  show (bif Nat.blt i 3 then β (90 + 2 * (32 + r - 32) + 1) i else β (32 + r) i) = _
  rw [show 32 + r - 32 = r by omega]
theorem cpS_0 (β : tT) : cpS β 0 = β := by
  funext j
  exact cpS_out (by omega)
theorem cpS_s {β : tT} (n : Nat) (h : n < 10) : cp0 (cpS β n) (90 + 2 * n + 1) (32 + n) 3 = cpS β (n + 1) := by
  funext j i
  unfold cp0
  by_cases e : j = 32 + n
  · subst e
    rw [upr_s, cpS_out (j := 90 + 2 * n + 1) (by omega), cpS_out (j := 32 + n) (by omega), cpS_in (by omega)]
  · rw [upr_n e]
    by_cases hj : j < 32 ∨ 32 + (n + 1) ≤ j
    · rw [cpS_out (by omega), cpS_out hj]
    · obtain ⟨r, rfl⟩ : ∃ r, j = 32 + r := ⟨j - 32, by omega⟩
      rw [cpS_in (by omega), cpS_in (by omega)]
/-- X's numbers when now has begun -/
def begB (nS : Nat) (β : tT) : tT := cpT (cpS (upc (cp0 (cp0 (cp0 β 18 5 8) 19 6 8) 20 7 8) 1 3 (β 4 6)) nS) 8 10 (fun _ => 0)
section XSB
variable {p : Program} {l : Launch} {e : Env} {R : Room} {s : State} {m : MethodId} {args : Array Value} {below : List Frame} {meth : Method} {c : Code} {Q : State → Prop} {D : va_G} {dT : Nat → ClassId} {nL : Nat} {cc : ByteArray} {own : String} {ret : Option FieldType} {ad : Nat → Nat} {nS : Nat} {β : tT} {k n pc : Nat} {L : List (Option Value)} {st : List Value}
theorem xsB_get {A : Nat → Prop} (C0 : gC p s m args meth c D clA (tyA dT) A nL cc own ret) {r ix : Nat} (hn : nS ≤ 10) (hr : r < nS) (hk3 : β (90 + 2 * r) 4 < 3) (w1 : Cond.fieldLink own ix "FittingStrides$Stair" "steps" "[I" ∈ lw_all) (hdg : decode cc pc = .ok (.getfield ix, 3))
    (g : G p l e R s m args below meth c Q D clA A nL (xW dT ad nS β) k n (pc + 3) L (.ref (ad (90 + 2 * r + 1)) :: st)) : G p l e R s m args below meth c Q D clA A nL (xW dT ad nS β) k n pc L (.ref (ad (90 + 2 * r)) :: st) := by
  have hm : xMk dT ad nS (90 + 2 * r) (β (90 + 2 * r)) = .inr (6 + β (90 + 2 * r) 4, xFs (90 + 2 * r) ad (β (90 + 2 * r))) := xMk_stair (by omega) _
  have hq : (xCodes nS)[90 + 2 * r]? = some (90 + 2 * r) := xCode (by omega)
  have h3 : β (90 + 2 * r) 4 = 0 ∨ β (90 + 2 * r) 4 = 1 ∨ β (90 + 2 * r) 4 = 2 := by omega
  rcases h3 with h | h | h
  · rw [h] at hm
    exact g_get C0 (C := RX6) (T := TX6) (N := 4) (ci := 6) 2 hq hm rfl in_X6 (by decide) w1 rfl hdg g
  · rw [h] at hm
    exact g_get C0 (C := RX7) (T := TX7) (N := 4) (ci := 7) 2 hq hm rfl in_X7 (by decide) w1 rfl hdg g
  · rw [h] at hm
    exact g_get C0 (C := RX8) (T := TX8) (N := 4) (ci := 8) 2 hq hm rfl in_X8 (by decide) w1 rfl hdg g
end XSB
set_option maxHeartbeats 4000000 in
set_option maxRecDepth 100000 in
theorem xF_begin (l : Launch) (D : va_G) (dT : Nat → ClassId) (ad : Nat → Nat) (nS : Nat) (β : tT) (hn : nS ≤ 10) (hm : β 4 2 = nS) (hk : ∀ r, r < nS → β (90 + 2 * r) 4 < 3) : XV l D dT ad nS yX2_begin cX2_begin 2 ({ frames := 1, cells := 0, slots := 0, locals := 64 }) [.ref (ad 1)] β (fun β' => begB nS β = β') := by
  refine XV.ofG (own := "FittingStrides$Folk") (L := [some (.ref (ad 1)), none]) rfl (by decide) (Nat.le_of_ble_eq_true rfl) rfl ?_
  intro p' e' s' m' bl' mt' c' C0 hN
  refine g_aload_n (pc := 0) 0 C0 rfl dX2_begin_0 rfl ?_
  refine g_get (pc := 1) (v := .ref (ad 0)) C0 (C := RX2) (T := TX2) (N := 10) (ci := 3) (q0 := 1) (j := 1) 9 (xCode (by omega)) rfl rfl in_X2 (by decide) q156 rfl dX2_begin_1 ?_
  refine g_getN (pc := 4) (v := .ref (ad 4)) C0 hN (C := RX0) (T := TX0) (N := 14) (ci := 1) (q0 := 0) (j := 0) 0 (xCode (by omega)) rfl rfl in_X0 (by decide) q182 rfl dX2_begin_4 ?_
  refine g_getN (pc := 7) (v := .ref (ad 18)) C0 hN (C := RX1) (T := TX1) (N := 7) (ci := 2) (q0 := 4) (j := 4) 3 (xCode (by omega)) rfl rfl in_X1 (by decide) q105 rfl dX2_begin_7 ?_
  refine g_iconst (pc := 10) (v := (nI 0)) C0 dX2_begin_10 (by decide) ?_
  refine g_aload_n (pc := 11) 0 C0 rfl dX2_begin_11 rfl ?_
  refine g_get (pc := 12) (v := .ref (ad 5)) C0 (C := RX2) (T := TX2) (N := 10) (ci := 3) (q0 := 1) (j := 1) 0 (xCode (by omega)) rfl rfl in_X2 (by decide) q139 rfl dX2_begin_12 ?_
  refine g_iconst (pc := 15) (v := (nI 0)) C0 dX2_begin_15 (by decide) ?_
  refine g_bipush (pc := 16) (v := (nI 8)) C0 dX2_begin_16 (by decide) ?_
  refine g_copy (pc := 18) (q0 := 18) (j0 := 18) (q1 := 5) (j1 := 5) (t0 := 0) (n0 := 8) (n1 := 8) C0 8 (xNd hn) (xCode (by omega)) (fun _ => rfl) (xCode (by omega)) (fun _ => rfl) rfl (by decide) (by decide) (by decide) q680 q351 q350 q69 (Nat.le_of_ble_eq_true rfl) (by decide) dX2_begin_18 ?_
  refine g_aload_n (pc := 21) 0 C0 rfl dX2_begin_21 rfl ?_
  refine g_get (pc := 22) (v := .ref (ad 0)) C0 (C := RX2) (T := TX2) (N := 10) (ci := 3) (q0 := 1) (j := 1) 9 (xCode (by omega)) rfl rfl in_X2 (by decide) q156 rfl dX2_begin_22 ?_
  refine g_getN (pc := 25) (v := .ref (ad 4)) C0 hN (C := RX0) (T := TX0) (N := 14) (ci := 1) (q0 := 0) (j := 0) 0 (xCode (by omega)) rfl rfl in_X0 (by decide) q182 rfl dX2_begin_25 ?_
  refine g_getN (pc := 28) (v := .ref (ad 19)) C0 hN (C := RX1) (T := TX1) (N := 7) (ci := 2) (q0 := 4) (j := 4) 4 (xCode (by omega)) rfl rfl in_X1 (by decide) q108 rfl dX2_begin_28 ?_
  refine g_iconst (pc := 31) (v := (nI 0)) C0 dX2_begin_31 (by decide) ?_
  refine g_aload_n (pc := 32) 0 C0 rfl dX2_begin_32 rfl ?_
  refine g_get (pc := 33) (v := .ref (ad 6)) C0 (C := RX2) (T := TX2) (N := 10) (ci := 3) (q0 := 1) (j := 1) 1 (xCode (by omega)) rfl rfl in_X2 (by decide) q141 rfl dX2_begin_33 ?_
  refine g_iconst (pc := 36) (v := (nI 0)) C0 dX2_begin_36 (by decide) ?_
  refine g_bipush (pc := 37) (v := (nI 8)) C0 dX2_begin_37 (by decide) ?_
  refine g_copy (pc := 39) (q0 := 19) (j0 := 19) (q1 := 6) (j1 := 6) (t0 := 0) (n0 := 8) (n1 := 8) C0 8 (xNd hn) (xCode (by omega)) (fun _ => rfl) (xCode (by omega)) (fun _ => rfl) rfl (by decide) (by decide) (by decide) q680 q351 q350 q69 (Nat.le_of_ble_eq_true rfl) (by decide) dX2_begin_39 ?_
  refine g_aload_n (pc := 42) 0 C0 rfl dX2_begin_42 rfl ?_
  refine g_get (pc := 43) (v := .ref (ad 0)) C0 (C := RX2) (T := TX2) (N := 10) (ci := 3) (q0 := 1) (j := 1) 9 (xCode (by omega)) rfl rfl in_X2 (by decide) q156 rfl dX2_begin_43 ?_
  refine g_getN (pc := 46) (v := .ref (ad 4)) C0 hN (C := RX0) (T := TX0) (N := 14) (ci := 1) (q0 := 0) (j := 0) 0 (xCode (by omega)) rfl rfl in_X0 (by decide) q182 rfl dX2_begin_46 ?_
  refine g_getN (pc := 49) (v := .ref (ad 20)) C0 hN (C := RX1) (T := TX1) (N := 7) (ci := 2) (q0 := 4) (j := 4) 5 (xCode (by omega)) rfl rfl in_X1 (by decide) q111 rfl dX2_begin_49 ?_
  refine g_iconst (pc := 52) (v := (nI 0)) C0 dX2_begin_52 (by decide) ?_
  refine g_aload_n (pc := 53) 0 C0 rfl dX2_begin_53 rfl ?_
  refine g_get (pc := 54) (v := .ref (ad 7)) C0 (C := RX2) (T := TX2) (N := 10) (ci := 3) (q0 := 1) (j := 1) 2 (xCode (by omega)) rfl rfl in_X2 (by decide) q143 rfl dX2_begin_54 ?_
  refine g_iconst (pc := 57) (v := (nI 0)) C0 dX2_begin_57 (by decide) ?_
  refine g_bipush (pc := 58) (v := (nI 8)) C0 dX2_begin_58 (by decide) ?_
  refine g_copy (pc := 60) (q0 := 20) (j0 := 20) (q1 := 7) (j1 := 7) (t0 := 0) (n0 := 8) (n1 := 8) C0 8 (xNd hn) (xCode (by omega)) (fun _ => rfl) (xCode (by omega)) (fun _ => rfl) rfl (by decide) (by decide) (by decide) q680 q351 q350 q69 (Nat.le_of_ble_eq_true rfl) (by decide) dX2_begin_60 ?_
  refine g_aload_n (pc := 63) 0 C0 rfl dX2_begin_63 rfl ?_
  refine g_aload_n (pc := 64) 0 C0 rfl dX2_begin_64 rfl ?_
  refine g_get (pc := 65) (v := .ref (ad 0)) C0 (C := RX2) (T := TX2) (N := 10) (ci := 3) (q0 := 1) (j := 1) 9 (xCode (by omega)) rfl rfl in_X2 (by decide) q156 rfl dX2_begin_65 ?_
  refine g_getN (pc := 68) (v := .ref (ad 4)) C0 hN (C := RX0) (T := TX0) (N := 14) (ci := 1) (q0 := 0) (j := 0) 0 (xCode (by omega)) rfl rfl in_X0 (by decide) q182 rfl dX2_begin_68 ?_
  refine g_getN (pc := 71) (v := .int (nI ((cp0 (cp0 (cp0 β 18 5 8) 19 6 8) 20 7 8) 4 6))) C0 hN (C := RX1) (T := TX1) (N := 7) (ci := 2) (q0 := 4) (j := 4) 6 (xCode (by omega)) rfl rfl in_X1 (by decide) q113 rfl dX2_begin_71 ?_
  refine g_put (pc := 74) C0 (C := RX2) (T := TX2) (N := 10) (ci := 3) (q0 := 1) (j := 1) (F := (xFf 5 6 7 21 8) ad) (ty := .int) (z := ((cp0 (cp0 (cp0 β 18 5 8) 19 6 8) 20 7 8) 4 6)) tyX2 tyX2_ok nmX2 (xNd hn) 3 (xCode (by omega)) (fun _ => rfl) rfl in_X2 (by decide) q145 rfl (by decide) rfl rfl (by show _ < 10; decide) rfl dX2_begin_74 ?_
  refine g_iconst (pc := 77) (v := (nI 0)) C0 dX2_begin_77 (by decide) ?_
  refine g_istore_n (pc := 78) 1 C0 (L1 := [some (.ref (ad 1)), some (.int (nI 0))]) rfl (by decide) dX2_begin_78 rfl rfl ?_
  obtain ⟨b4, eb4⟩ : ∃ z : tT, z = (upc (cp0 (cp0 (cp0 β 18 5 8) 19 6 8) 20 7 8) 1 3 ((cp0 (cp0 (cp0 β 18 5 8) 19 6 8) 20 7 8) 4 6)) := ⟨_, rfl⟩
  refine G.wsE (ws' := xW dT ad nS (cpS b4 0)) (by rw [cpS_0, eb4]) ?_
  refine G.loop (pc := 79) (ws := fun i => xW dT ad nS (cpS b4 i)) (Lf := fun i => [some (.ref (ad 1)), some (.int (nI i))]) (N := nS) (i0 := 0) (Nat.zero_le _) ?_ (fun i79 hi79 hj79 ih79 => ?_)
  · have h42 : (cpS b4 nS) 4 2 = nS := by rw [cpS_out (by omega), eb4]; exact hm
    refine g_iload_n (pc := 79) 1 C0 rfl dX2_begin_79 rfl ?_
    refine g_aload_n (pc := 80) 0 C0 rfl dX2_begin_80 rfl ?_
    refine g_get (pc := 81) (v := .ref (ad 0)) C0 (C := RX2) (T := TX2) (N := 10) (ci := 3) (q0 := 1) (j := 1) 9 (xCode (by omega)) rfl rfl in_X2 (by decide) q156 rfl dX2_begin_81 ?_
    refine g_getN (pc := 84) (v := .ref (ad 4)) C0 hN (C := RX0) (T := TX0) (N := 14) (ci := 1) (q0 := 0) (j := 0) 0 (xCode (by omega)) rfl rfl in_X0 (by decide) q182 rfl dX2_begin_84 ?_
    refine g_getN (pc := 87) (v := .int (nI nS)) C0 hN (C := RX1) (T := TX1) (N := 7) (ci := 2) (q0 := 4) (j := 4) 2 (xCode (by omega)) rfl rfl in_X1 (by decide) q101 (xv h42) dX2_begin_87 ?_
    refine g_icmp_geN (pc := 90) 126 C0 (by omega) (by omega) dX2_begin_90 (by decide) (fun h90 => ?_) (fun h90 => ?_)
    rotate_left
    · exact absurd h90 (by omega)
    refine g_aload_n (pc := 126) 0 C0 rfl dX2_begin_126 rfl ?_
    refine g_get (pc := 127) (v := .ref (ad 8)) C0 (C := RX2) (T := TX2) (N := 10) (ci := 3) (q0 := 1) (j := 1) 5 (xCode (by omega)) rfl rfl in_X2 (by decide) q149 rfl dX2_begin_127 ?_
    refine g_iconst (pc := 130) (v := (nI 0)) C0 dX2_begin_130 (by decide) ?_
    refine g_csvX (pc := 131) (na := 2) (As := [.ref (ad 8), .int (nI 0)]) (rest := []) C0 hN (xJ_fillI l D dT ad nS (cpS b4 nS) 8 10 hn (by omega) (fun _ => rfl) (by decide)) q681 q682 q68 q683 (by decide +kernel) ⟨Nat.le_of_ble_eq_true rfl, Nat.le_of_ble_eq_true rfl⟩ rfl rfl ⟨Nat.le_of_ble_eq_true rfl, Nat.le_of_ble_eq_true rfl⟩ rfl rfl (Nat.le_of_ble_eq_true rfl) dX2_begin_131 (fun β0 hc => ?_)
    subst hc
    exact g_vret (pc := 134) C0 dX2_begin_134 (by rw [eb4]; rfl)
  · have h42 : (cpS b4 i79) 4 2 = nS := by rw [cpS_out (by omega), eb4]; exact hm
    refine g_iload_n (pc := 79) 1 C0 rfl dX2_begin_79 rfl ?_
    refine g_aload_n (pc := 80) 0 C0 rfl dX2_begin_80 rfl ?_
    refine g_get (pc := 81) (v := .ref (ad 0)) C0 (C := RX2) (T := TX2) (N := 10) (ci := 3) (q0 := 1) (j := 1) 9 (xCode (by omega)) rfl rfl in_X2 (by decide) q156 rfl dX2_begin_81 ?_
    refine g_getN (pc := 84) (v := .ref (ad 4)) C0 hN (C := RX0) (T := TX0) (N := 14) (ci := 1) (q0 := 0) (j := 0) 0 (xCode (by omega)) rfl rfl in_X0 (by decide) q182 rfl dX2_begin_84 ?_
    refine g_getN (pc := 87) (v := .int (nI nS)) C0 hN (C := RX1) (T := TX1) (N := 7) (ci := 2) (q0 := 4) (j := 4) 2 (xCode (by omega)) rfl rfl in_X1 (by decide) q101 (xv h42) dX2_begin_87 ?_
    refine g_icmp_geN (pc := 90) 126 C0 (by omega) (by omega) dX2_begin_90 (by decide) (fun h90 => ?_) (fun h90 => ?_)
    · exact absurd h90 (by omega)
    refine g_aload_n (pc := 93) 0 C0 rfl dX2_begin_93 rfl ?_
    refine g_get (pc := 94) (v := .ref (ad 0)) C0 (C := RX2) (T := TX2) (N := 10) (ci := 3) (q0 := 1) (j := 1) 9 (xCode (by omega)) rfl rfl in_X2 (by decide) q156 rfl dX2_begin_94 ?_
    refine g_getN (pc := 97) (v := .ref (ad 4)) C0 hN (C := RX0) (T := TX0) (N := 14) (ci := 1) (q0 := 0) (j := 0) 0 (xCode (by omega)) rfl rfl in_X0 (by decide) q182 rfl dX2_begin_97 ?_
    refine g_getN (pc := 100) (v := .ref (ad 17)) C0 hN (C := RX1) (T := TX1) (N := 7) (ci := 2) (q0 := 4) (j := 4) 1 (xCode (by omega)) rfl rfl in_X1 (by decide) q98 rfl dX2_begin_100 ?_
    refine g_iload_n (pc := 103) 1 C0 rfl dX2_begin_103 rfl ?_
    refine g_aald (pc := 104) (q0 := 17) (j := 17) (t0 := 5) (N := 10) (jr := 90 + 2 * i79) C0 i79 (xCode (by omega)) rfl rfl (by decide) (by omega) (xst_f (by omega)) dX2_begin_104 ?_
    refine xsB_get (pc := 105) (r := i79) C0 hn (by omega) (by rw [cpS_out (by omega), eb4, upc_n (by omega), cp0_n (by omega), cp0_n (by omega), cp0_n (by omega)]; exact hk i79 (by omega)) q633 dX2_begin_105 ?_
    refine g_iconst (pc := 108) (v := (nI 0)) C0 dX2_begin_108 (by decide) ?_
    refine g_aload_n (pc := 109) 0 C0 rfl dX2_begin_109 rfl ?_
    refine g_get (pc := 110) (v := .ref (ad 21)) C0 (C := RX2) (T := TX2) (N := 10) (ci := 3) (q0 := 1) (j := 1) 4 (xCode (by omega)) rfl rfl in_X2 (by decide) q147 rfl dX2_begin_110 ?_
    refine g_iload_n (pc := 113) 1 C0 rfl dX2_begin_113 rfl ?_
    refine g_aaldA (pc := 114) (q0 := 21) (j := 21) (t0 := 3) (N := 10) (jr := 32 + i79) C0 i79 (xCode (by omega)) rfl rfl (by decide) (by omega) rfl dX2_begin_114 ?_
    refine g_iconst (pc := 115) (v := (nI 0)) C0 dX2_begin_115 (by decide) ?_
    refine g_iconst (pc := 116) (v := (nI 3)) C0 dX2_begin_116 (by decide) ?_
    refine g_copy (pc := 117) (q0 := 90 + 2 * i79 + 1) (j0 := 90 + 2 * i79 + 1) (q1 := 32 + i79) (j1 := 32 + i79) (t0 := 0) (n0 := 3) (n1 := 3) C0 3 (xNd hn) (xCode (by omega)) (fun f => xMk_steps (by omega) f) (xCode (by omega)) (fun f => xMk_row (by omega) f) rfl (by decide) (by decide) (by decide) q680 q351 q350 q69 (Nat.le_of_ble_eq_true rfl) (by decide) dX2_begin_117 ?_
    refine g_iinc1 (pc := 120) 1 C0 (L1 := [some (.ref (ad 1)), some (.int (nI (i79 + 1)))]) rfl rfl (by decide) dX2_begin_120 rfl ?_
    refine g_goto (pc := 123) 79 C0 dX2_begin_123 (by decide) ?_
    exact G.wsE (by rw [cpS_s i79 (by omega)]) ih79
