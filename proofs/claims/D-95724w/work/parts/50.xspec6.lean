/-! X's words, sixth: images (a Folk set to another) -/
set_option maxRecDepth 100000
/-- rows s.. are copied to rows d.., n of them, three places each -/
def cpR (β : tT) (s d n : Nat) : tT := fun j => bif Nat.ble d j && Nat.blt j (d + n) then (fun i => bif Nat.blt i 3 then β (j - d + s) i else β j i) else β j
theorem cpR_out {β : tT} {s d n j : Nat} (h : j < d ∨ d + n ≤ j) : cpR β s d n j = β j := by
  unfold cpR
  have : (Nat.ble d j && Nat.blt j (d + n)) = false := by
    rw [blt_c]
    rcases h with h | h
    · rw [show Nat.ble d j = false from Bool.eq_false_iff.mpr (fun q => by have := Nat.le_of_ble_eq_true q; omega)]; rfl
    · rw [decide_eq_false (by omega), Bool.and_false]
  rw [this]; rfl
theorem cpR_in {β : tT} {s d n r i : Nat} (h : r < n) (hi : i < 3) : cpR β s d n (r + d) i = β (r + s) i := by
  unfold cpR
  have : (Nat.ble d (r + d) && Nat.blt (r + d) (d + n)) = true := by
    rw [blt_c, decide_eq_true (by omega), Bool.and_true]
    exact Nat.ble_eq_true_of_le (by omega)
  rw [this]
  show (bif Nat.blt i 3 then β (r + d - d + s) i else β (r + d) i) = _
  rw [blt_c, decide_eq_true hi, Nat.add_sub_cancel]; rfl
theorem cpR_0 (β : tT) (s d : Nat) : cpR β s d 0 = β := by
  funext j
  exact cpR_out (by omega)
theorem cpR_s {β : tT} {s d : Nat} (n : Nat) (h : n < 10) (hsd : s + 10 ≤ d ∨ d + 10 ≤ s) : cp0 (cpR β s d n) (s + n) (d + n) 3 = cpR β s d (n + 1) := by
  funext j i
  unfold cp0
  by_cases e : j = d + n
  · subst e
    rw [upr_s, cpR_out (j := s + n) (by omega), cpR_out (j := d + n) (by omega)]
    have : (Nat.ble d (d + n) && Nat.blt (d + n) (d + (n + 1))) = true := by
      rw [blt_c, decide_eq_true (by omega), Bool.and_true]
      exact Nat.ble_eq_true_of_le (by omega)
    unfold cpR
    rw [this]
    show _ = (bif Nat.blt i 3 then β (d + n - d + s) i else β (d + n) i)
    rw [show d + n - d + s = s + n by omega]
  · rw [upr_n e]
    unfold cpR
    have : (Nat.ble d j && Nat.blt j (d + n)) = (Nat.ble d j && Nat.blt j (d + (n + 1))) := by
      rw [blt_c, blt_c]
      congr 1
      by_cases h1 : j < d + n
      · rw [decide_eq_true h1, decide_eq_true (by omega)]
      · rw [decide_eq_false h1, decide_eq_false (by omega)]
    rw [this]
/-- a Folk x (arrays a b c w, rows st) is set to the Folk y -/
def setB (β : tT) (x a b c w st y a' b' c' w' st' : Nat) : tT :=
  let b3 := cp0 (cp0 (cp0 β a' a 8) b' b 8) c' c 8
  let b4 := upc b3 x 3 (b3 y 3)
  let b6 := cp0 (cpR b4 st' st 10) w' w 10
  let b7 := upc b6 x 6 (b6 y 6)
  upc b7 x 7 (b7 y 7)
theorem kst_in {τ : tT} {k0 : Nat} {o : Nat} (h : o < 67) : kst τ k0 (kW2 67) 42 (k0 + o) = imgF τ o := by
  rw [kst, upr_s, if_pos (by rw [Nat.add_sub_cancel_left, kW2, decide_eq_true h, decide_eq_true (Nat.le_add_right _ _)]; rfl), Nat.add_sub_cancel_left]
theorem kst_lo {τ : tT} {k0 k : Nat} (h : k < k0) : kst τ k0 (kW2 67) 42 k = τ 42 k := by
  rw [kst, upr_s, decide_eq_false (by omega)]; rfl
theorem kst_hi {τ : tT} {k0 k : Nat} (h : k0 + 67 ≤ k) : kst τ k0 (kW2 67) 42 k = τ 42 k := by
  rw [kst, upr_s, if_neg (by rw [kW2, decide_eq_false (show ¬ k - k0 < 67 by omega), Bool.and_false]; decide)]
theorem blt_t {a b : Nat} (h : a < b) {x y : Nat} : (bif Nat.blt a b then x else y) = x := by rw [blt_c, decide_eq_true h]; rfl
/-- only an image and the model's images differ -/
theorem RX.img {nS : Nat} {β β' τ τ' : tT} (h : RX nS β τ) (ht : ∀ j, j ≠ 42 → j ≠ 43 → τ' j = τ j) (hb : ∀ j, j ∈ [0, 1, 4, 5, 6, 7, 8, 10, 11, 12, 13] ∨ (32 ≤ j ∧ j < 42) ∨ 62 ≤ j → β' j = β j) (h8 : β' 2 8 = τ' 43 0 ∧ β' 3 8 = τ' 43 1) (hi0 : τ' 43 0 = 1 → RXi nS β' τ' 2 0 22 23 24 25 42) (hi1 : τ' 43 1 = 1 → RXi nS β' τ' 3 70 27 28 29 30 52) : RX nS β' τ' := by
  obtain ⟨⟨h0, h0'⟩, ⟨s1, s2, s3, s4, s5, s6, s7, s8, s9, s10, s11⟩, h2, h3, h4, h5, h6, h7, h8', h9, h10⟩ := h
  have e0 := ht 0 (by decide) (by decide)
  have f : ∀ j, j ∈ [0, 1, 4, 5, 6, 7, 8, 10, 11, 12, 13] → β' j = β j := fun j hj => hb j (Or.inl hj)
  have b0 := f 0 (by decide)
  have b1 := f 1 (by decide)
  have b4 := f 4 (by decide)
  refine ⟨⟨by rw [e0]; exact h0, h0'⟩, ⟨by rw [b0, e0]; exact s1, by rw [b0, e0]; exact s2, by rw [b0, e0]; exact s3, by rw [b0, e0]; exact s4, by rw [b1, e0]; exact s5, by rw [b1, e0]; exact s6, by rw [b1, e0]; exact s7, by rw [b4, e0]; exact s8, by rw [b4, e0]; exact s9, h8.1, h8.2⟩, ?_, ?_, fun r i hr hi => ?_, fun i hi => ?_, ?_, ?_, fun r hr => ?_, hi0, hi1⟩
  · rw [f 5 (by decide), f 6 (by decide), f 7 (by decide), e0, ht 9 (by decide) (by decide), ht 10 (by decide) (by decide), ht 11 (by decide) (by decide)]; exact h2
  · rw [f 8 (by decide), ht 7 (by decide) (by decide)]; exact h3
  · rw [hb (r + 32) (by omega)]; unfold stp; rw [ht 5 (by decide) (by decide), ht 6 (by decide) (by decide)]; exact h4 r i hr hi
  · rw [hb (i + 62) (by omega), f 10 (by decide), ht 35 (by decide) (by decide), ht 36 (by decide) (by decide), ht 37 (by decide) (by decide)]; exact h5 i hi
  · rw [f 11 (by decide), f 12 (by decide), ht 39 (by decide) (by decide), ht 40 (by decide) (by decide)]; exact h6
  · rw [f 13 (by decide), ht 14 (by decide) (by decide)]; exact h7
  · rw [hb (2 * r + 90) (by omega), ht 3 (by decide) (by decide), ht 4 (by decide) (by decide), ht 5 (by decide) (by decide), ht 2 (by decide) (by decide)]; exact h8' r hr
theorem RX.keep0 {nS : Nat} {β τ : tT} (h : RX nS β τ) (h8 : τ 0 8 ≤ 8) : RX nS (upc (setB β 2 22 23 24 25 42 1 5 6 7 8 32) 2 8 1) (keepT τ 0) := by
  have hn := h.n10
  have hk42 : ∀ o, o < 67 → (keepT τ 0) 42 (0 + o) = imgF τ o := fun o ho => by
    rw [keepT, upc_n (by decide)]; exact kst_in (k0 := 0) ho
  have hout : ∀ j, (j < 42 ∨ 42 + 10 ≤ j) → j ≠ 2 → j ≠ 22 → j ≠ 23 → j ≠ 24 → j ≠ 25 → (upc (setB β 2 22 23 24 25 42 1 5 6 7 8 32) 2 8 1) j = β j := fun j h1 h2 h3 h4 h5 h6 => by
    unfold setB
    try simp only
    rw [upc_n h2, upc_n h2, upc_n h2, cp0, upr_n h6, cpR_out h1, upc_n h2, cp0, upr_n h5, cp0, upr_n h4, cp0, upr_n h3]
  refine h.img (fun j h1 h2 => ?_) (fun j hj => hout j (by simp only [List.mem_cons, List.not_mem_nil, or_false] at hj; omega) ?_ ?_ ?_ ?_ ?_) ?_ ?_ ?_
  · rw [keepT, upc_n h2, kst, upr_n h1]
  · rintro rfl; revert hj; decide
  · rintro rfl; revert hj; decide
  · rintro rfl; revert hj; decide
  · rintro rfl; revert hj; decide
  · rintro rfl; revert hj; decide
  · exact ⟨rfl, h.f3_8⟩
  · intro _
    refine ⟨⟨?_, ?_, ?_⟩, fun q hq => ⟨?_, ?_, ?_⟩, fun r hr => ?_, fun r i hr hi => ?_⟩
    · rw [hk42 64 (by decide), ← img_64]; exact h.f1_3
    · rw [hk42 65 (by decide), ← img_65]; exact h.f1_6
    · rw [hk42 66 (by decide), ← img_66]; exact h.f1_7
    all_goals try (rw [hk42 64 (by decide), ← img_64] at hq)
    · rw [hk42 q (by omega), ← img_9 τ (by omega)]; exact (blt_t (show q < 8 by omega)).trans (h.a5 hq)
    · rw [show 0 + 8 + q = 0 + (8 + q) by omega, hk42 (8 + q) (by omega), ← img_10 τ (by omega)]; exact (blt_t (show q < 8 by omega)).trans (h.a6 hq)
    · rw [show 0 + 16 + q = 0 + (16 + q) by omega, hk42 (16 + q) (by omega), ← img_11 τ (by omega)]; exact (blt_t (show q < 8 by omega)).trans (h.a7 hq)
    · rw [show 0 + 54 + r = 0 + (54 + r) by omega, hk42 (54 + r) (by omega), ← img_7 τ hr]; exact (blt_t hr).trans (h.a8 hr)
    · have e : (upc (setB β 2 22 23 24 25 42 1 5 6 7 8 32) 2 8 1) (r + 42) i = β (r + 32) i := by
        unfold setB
        try simp only
        rw [upc_n (by omega), upc_n (by omega), upc_n (by omega), cp0, upr_n (by omega), cpR_in (by omega) hi, upc_n (by omega), cp0, upr_n (by omega), cp0, upr_n (by omega), cp0, upr_n (by omega)]
      rw [e, h.2.2.2.2.1 r i hr hi]
      unfold stp ist
      show (if i < τ 5 r then _ else 0) = if i < τ 5 r then _ else 0
      by_cases hp : i < τ 5 r
      · rw [if_pos hp, if_pos hp, show 0 + 24 + (3 * r + i) = 0 + (24 + (3 * r + i)) by omega, hk42 (24 + (3 * r + i)) (by omega), ← img_6 τ (by omega)]
      · rw [if_neg hp, if_neg hp]
  · intro k
    have k : τ 43 1 = 1 := k
    have hk : ∀ k, 70 ≤ k → (keepT τ 0) 42 k = τ 42 k := fun k hk => by rw [keepT, upc_n (by decide)]; exact kst_hi (k0 := 0) (by omega)
    have k := h.2.2.2.2.2.2.2.2.2.2 k
    have k := k.congr (β' := upc (setB β 2 22 23 24 25 42 1 5 6 7 8 32) 2 8 1) (hout 3 (by omega) (by decide) (by decide) (by decide) (by decide) (by decide)) (hout 27 (by omega) (by decide) (by decide) (by decide) (by decide) (by decide)) (hout 28 (by omega) (by decide) (by decide) (by decide) (by decide) (by decide)) (hout 29 (by omega) (by decide) (by decide) (by decide) (by decide) (by decide)) (hout 30 (by omega) (by decide) (by decide) (by decide) (by decide) (by decide)) (fun r hr => hout _ (by omega) (by omega) (by omega) (by omega) (by omega) (by omega))
    obtain ⟨⟨k1, k2, k3⟩, k4, k5, k6⟩ := k
    refine ⟨⟨?_, ?_, ?_⟩, fun q hq => ?_, fun r hr => ?_, fun r i hr hi => ?_⟩
    · rw [hk _ (by decide)]; exact k1
    · rw [hk _ (by decide)]; exact k2
    · rw [hk _ (by decide)]; exact k3
    · rw [hk _ (by decide)] at hq
      rw [hk _ (by omega), hk _ (by omega), hk _ (by omega)]; exact k4 q hq
    · rw [hk _ (by omega)]; exact k5 r hr
    · rw [k6 r i hr hi]
      unfold ist
      show (if i < τ 5 r then _ else 0) = if i < τ 5 r then _ else 0
      by_cases hp : i < τ 5 r
      · rw [if_pos hp, if_pos hp, hk _ (by omega)]
      · rw [if_neg hp, if_neg hp]
theorem RX.keep1 {nS : Nat} {β τ : tT} (h : RX nS β τ) (h8 : τ 0 8 ≤ 8) (hI0 : τ 43 0 = 1 → τ 42 (0 + 64) ≤ 8) : RX nS (upc (setB β 3 27 28 29 30 52 1 5 6 7 8 32) 3 8 1) (keepT τ 1) := by
  have hn := h.n10
  have hk42 : ∀ o, o < 67 → (keepT τ 1) 42 (70 + o) = imgF τ o := fun o ho => by
    rw [keepT, upc_n (by decide)]; exact kst_in (k0 := 70) ho
  have hout : ∀ j, (j < 52 ∨ 52 + 10 ≤ j) → j ≠ 3 → j ≠ 27 → j ≠ 28 → j ≠ 29 → j ≠ 30 → (upc (setB β 3 27 28 29 30 52 1 5 6 7 8 32) 3 8 1) j = β j := fun j h1 h2 h3 h4 h5 h6 => by
    unfold setB
    try simp only
    rw [upc_n h2, upc_n h2, upc_n h2, cp0, upr_n h6, cpR_out h1, upc_n h2, cp0, upr_n h5, cp0, upr_n h4, cp0, upr_n h3]
  refine h.img (fun j h1 h2 => ?_) (fun j hj => hout j (by simp only [List.mem_cons, List.not_mem_nil, or_false] at hj; omega) ?_ ?_ ?_ ?_ ?_) ?_ ?_ ?_
  · rw [keepT, upc_n h2, kst, upr_n h1]
  · rintro rfl; revert hj; decide
  · rintro rfl; revert hj; decide
  · rintro rfl; revert hj; decide
  · rintro rfl; revert hj; decide
  · rintro rfl; revert hj; decide
  · exact ⟨h.f2_8, rfl⟩
  · intro k
    have k : τ 43 0 = 1 := k
    have hI0 := hI0 k
    have hk : ∀ k, k < 70 → (keepT τ 1) 42 k = τ 42 k := fun k hk => by rw [keepT, upc_n (by decide)]; exact kst_lo (k0 := 70) (by omega)
    have k := h.2.2.2.2.2.2.2.2.2.1 k
    have k := k.congr (β' := upc (setB β 3 27 28 29 30 52 1 5 6 7 8 32) 3 8 1) (hout 2 (by omega) (by decide) (by decide) (by decide) (by decide) (by decide)) (hout 22 (by omega) (by decide) (by decide) (by decide) (by decide) (by decide)) (hout 23 (by omega) (by decide) (by decide) (by decide) (by decide) (by decide)) (hout 24 (by omega) (by decide) (by decide) (by decide) (by decide) (by decide)) (hout 25 (by omega) (by decide) (by decide) (by decide) (by decide) (by decide)) (fun r hr => hout _ (by omega) (by omega) (by omega) (by omega) (by omega) (by omega))
    obtain ⟨⟨k1, k2, k3⟩, k4, k5, k6⟩ := k
    refine ⟨⟨?_, ?_, ?_⟩, fun q hq => ?_, fun r hr => ?_, fun r i hr hi => ?_⟩
    · rw [hk _ (by decide)]; exact k1
    · rw [hk _ (by decide)]; exact k2
    · rw [hk _ (by decide)]; exact k3
    · rw [hk _ (by decide)] at hq
      rw [hk _ (by omega), hk _ (by omega), hk _ (by omega)]; exact k4 q hq
    · rw [hk _ (by omega)]; exact k5 r hr
    · rw [k6 r i hr hi]
      unfold ist
      show (if i < τ 5 r then _ else 0) = if i < τ 5 r then _ else 0
      by_cases hp : i < τ 5 r
      · rw [if_pos hp, if_pos hp, hk _ (by omega)]
      · rw [if_neg hp, if_neg hp]
  · intro _
    refine ⟨⟨?_, ?_, ?_⟩, fun q hq => ⟨?_, ?_, ?_⟩, fun r hr => ?_, fun r i hr hi => ?_⟩
    · rw [hk42 64 (by decide), ← img_64]; exact h.f1_3
    · rw [hk42 65 (by decide), ← img_65]; exact h.f1_6
    · rw [hk42 66 (by decide), ← img_66]; exact h.f1_7
    all_goals try (rw [hk42 64 (by decide), ← img_64] at hq)
    · rw [hk42 q (by omega), ← img_9 τ (by omega)]; exact (blt_t (show q < 8 by omega)).trans (h.a5 hq)
    · rw [show 70 + 8 + q = 70 + (8 + q) by omega, hk42 (8 + q) (by omega), ← img_10 τ (by omega)]; exact (blt_t (show q < 8 by omega)).trans (h.a6 hq)
    · rw [show 70 + 16 + q = 70 + (16 + q) by omega, hk42 (16 + q) (by omega), ← img_11 τ (by omega)]; exact (blt_t (show q < 8 by omega)).trans (h.a7 hq)
    · rw [show 70 + 54 + r = 70 + (54 + r) by omega, hk42 (54 + r) (by omega), ← img_7 τ hr]; exact (blt_t hr).trans (h.a8 hr)
    · have e : (upc (setB β 3 27 28 29 30 52 1 5 6 7 8 32) 3 8 1) (r + 52) i = β (r + 32) i := by
        unfold setB
        try simp only
        rw [upc_n (by omega), upc_n (by omega), upc_n (by omega), cp0, upr_n (by omega), cpR_in (by omega) hi, upc_n (by omega), cp0, upr_n (by omega), cp0, upr_n (by omega), cp0, upr_n (by omega)]
      rw [e, h.2.2.2.2.1 r i hr hi]
      unfold stp ist
      show (if i < τ 5 r then _ else 0) = if i < τ 5 r then _ else 0
      by_cases hp : i < τ 5 r
      · rw [if_pos hp, if_pos hp, show 70 + 24 + (3 * r + i) = 70 + (24 + (3 * r + i)) by omega, hk42 (24 + (3 * r + i)) (by omega), ← img_6 τ (by omega)]
      · rw [if_neg hp, if_neg hp]
theorem RX.back0 {nS : Nat} {β τ : tT} (h : RX nS β τ) (hk : τ 43 0 = 1) (h8 : τ 42 (0 + 64) ≤ 8) : RX nS (setB β 1 5 6 7 8 32 2 22 23 24 25 42) (gbT τ 0) := by
  have hn := h.n10
  obtain ⟨⟨m1, m2, m3⟩, m4, m5, m6⟩ := h.2.2.2.2.2.2.2.2.2.1 hk
  have hout : ∀ j, (j < 32 ∨ 32 + 10 ≤ j) → j ≠ 1 → j ≠ 5 → j ≠ 6 → j ≠ 7 → j ≠ 8 → (setB β 1 5 6 7 8 32 2 22 23 24 25 42) j = β j := fun j h1 h2 h3 h4 h5 h6 => by
    unfold setB
    try simp only
    rw [upc_n h2, upc_n h2, cp0, upr_n h6, cpR_out h1, upc_n h2, cp0, upr_n h5, cp0, upr_n h4, cp0, upr_n h3]
  have ht : ∀ j, j ≠ 0 → j ≠ 6 → j ≠ 7 → j ≠ 9 → j ≠ 10 → j ≠ 11 → (gbT τ 0) j = τ j := fun j h0 h6 h7 h9 h10 h11 => by
    unfold gbT gbC gbB gbA
    rw [upc_n h0, upc_n h0, upc_n h0, cpT_j _ _ _ _ h7, cpT_j _ _ _ _ h6, cpT_j _ _ _ _ h11, cpT_j _ _ _ _ h10, cpT_j _ _ _ _ h9]
  have t9 : ∀ q, q < 8 → (gbT τ 0) 9 q = τ 42 (0 + q) := fun q hq => by
    unfold gbT gbC gbB gbA
    rw [upc_n (by decide), upc_n (by decide), upc_n (by decide), cpT_j _ _ _ _ (by decide), cpT_j _ _ _ _ (by decide), cpT_j _ _ _ _ (by decide), cpT_j _ _ _ _ (by decide), cpT_at, if_pos hq]
  have t10 : ∀ q, q < 8 → (gbT τ 0) 10 q = τ 42 (0 + 8 + q) := fun q hq => by
    unfold gbT gbC gbB gbA
    rw [upc_n (by decide), upc_n (by decide), upc_n (by decide), cpT_j _ _ _ _ (by decide), cpT_j _ _ _ _ (by decide), cpT_j _ _ _ _ (by decide), cpT_at, if_pos hq]
  have t11 : ∀ q, q < 8 → (gbT τ 0) 11 q = τ 42 (0 + 16 + q) := fun q hq => by
    unfold gbT gbC gbB gbA
    rw [upc_n (by decide), upc_n (by decide), upc_n (by decide), cpT_j _ _ _ _ (by decide), cpT_j _ _ _ _ (by decide), cpT_at, if_pos hq]
  have t6 : ∀ k, k < 30 → (gbT τ 0) 6 k = τ 42 (0 + 24 + k) := fun k hk => by
    unfold gbT gbC gbB
    rw [upc_n (by decide), upc_n (by decide), upc_n (by decide), cpT_j _ _ _ _ (by decide), cpT_at, if_pos hk]
  have t7 : ∀ k, k < 10 → (gbT τ 0) 7 k = τ 42 (0 + 54 + k) := fun k hk => by
    unfold gbT gbC
    rw [upc_n (by decide), upc_n (by decide), upc_n (by decide), cpT_at, if_pos hk]
  have e5 := ht 5 (by decide) (by decide) (by decide) (by decide) (by decide) (by decide)
  have e42 := ht 42 (by decide) (by decide) (by decide) (by decide) (by decide) (by decide)
  have e43 := ht 43 (by decide) (by decide) (by decide) (by decide) (by decide) (by decide)
  have hI : ∀ {X o a b c w st : Nat}, X ∈ [2, 3] → a ∈ [22, 27] → b ∈ [23, 28] → c ∈ [24, 29] → w ∈ [25, 30] → st ∈ [42, 52] → RXi nS β τ X o a b c w st → RXi nS (setB β 1 5 6 7 8 32 2 22 23 24 25 42) (gbT τ 0) X o a b c w st := by
    intro X o a b c w st q1 q2 q3 q4 q5 q6 k
    simp only [List.mem_cons, List.not_mem_nil, or_false] at q1 q2 q3 q4 q5 q6
    have k := k.congr (β' := setB β 1 5 6 7 8 32 2 22 23 24 25 42) (hout X (by omega) (by omega) (by omega) (by omega) (by omega) (by omega)) (hout a (by omega) (by omega) (by omega) (by omega) (by omega) (by omega)) (hout b (by omega) (by omega) (by omega) (by omega) (by omega) (by omega)) (hout c (by omega) (by omega) (by omega) (by omega) (by omega) (by omega)) (hout w (by omega) (by omega) (by omega) (by omega) (by omega) (by omega)) (fun r hr => hout _ (by omega) (by omega) (by omega) (by omega) (by omega) (by omega))
    unfold RXi ist at k ⊢
    rw [e42, e5]; exact k
  obtain ⟨⟨h0, h0'⟩, ⟨s1, s2, s3, s4, s5, s6, s7, s8, s9, s10, s11⟩, h2, h3, h4, h5, h6, h7, h8', h9, h10⟩ := h
  refine ⟨⟨h0, h0'⟩, ⟨s1, s2, s3, s4, m1, m2, m3, s8, s9, by rw [e43]; exact s10, by rw [e43]; exact s11⟩, fun q hq => ?_, fun r hr => ?_, fun r i hr hi => ?_, fun i hi => ?_, ?_, ?_, fun r hr => ?_, fun k => hI (by decide) (by decide) (by decide) (by decide) (by decide) (by decide) (h9 (by rw [← e43]; exact k)), fun k => hI (by decide) (by decide) (by decide) (by decide) (by decide) (by decide) (h10 (by rw [← e43]; exact k))⟩
  · have hq : q < τ 42 (0 + 64) := hq
    obtain ⟨c1, c2, c3⟩ := m4 q hq
    rw [t9 q (by omega), t10 q (by omega), t11 q (by omega)]
    exact ⟨(blt_t (show q < 8 by omega)).trans c1, (blt_t (show q < 8 by omega)).trans c2, (blt_t (show q < 8 by omega)).trans c3⟩
  · rw [t7 r hr]; exact (blt_t hr).trans (m5 r hr)
  · have e : (setB β 1 5 6 7 8 32 2 22 23 24 25 42) (r + 32) i = β (r + 42) i := by
      unfold setB
      try simp only
      rw [upc_n (by omega), upc_n (by omega), cp0, upr_n (by omega), cpR_in (by omega) hi, upc_n (by omega), cp0, upr_n (by omega), cp0, upr_n (by omega), cp0, upr_n (by omega)]
    rw [e, m6 r i hr hi]
    unfold stp ist
    rw [e5]
    by_cases hp : i < τ 5 r
    · rw [if_pos hp, if_pos hp, t6 _ (by omega)]
    · rw [if_neg hp, if_neg hp]
  · rw [hout (i + 62) (by omega) (by omega) (by omega) (by omega) (by omega) (by omega), hout 10 (by omega) (by decide) (by decide) (by decide) (by decide) (by decide), ht 35 (by decide) (by decide) (by decide) (by decide) (by decide) (by decide), ht 36 (by decide) (by decide) (by decide) (by decide) (by decide) (by decide), ht 37 (by decide) (by decide) (by decide) (by decide) (by decide) (by decide)]; exact h5 i hi
  · rw [hout 11 (by omega) (by decide) (by decide) (by decide) (by decide) (by decide), hout 12 (by omega) (by decide) (by decide) (by decide) (by decide) (by decide), ht 39 (by decide) (by decide) (by decide) (by decide) (by decide) (by decide), ht 40 (by decide) (by decide) (by decide) (by decide) (by decide) (by decide)]; exact h6
  · rw [hout 13 (by omega) (by decide) (by decide) (by decide) (by decide) (by decide), ht 14 (by decide) (by decide) (by decide) (by decide) (by decide) (by decide)]; exact h7
  · rw [hout (2 * r + 90) (by omega) (by omega) (by omega) (by omega) (by omega) (by omega), ht 3 (by decide) (by decide) (by decide) (by decide) (by decide) (by decide), ht 4 (by decide) (by decide) (by decide) (by decide) (by decide) (by decide), e5, ht 2 (by decide) (by decide) (by decide) (by decide) (by decide) (by decide)]; exact h8' r hr
theorem RX.back1 {nS : Nat} {β τ : tT} (h : RX nS β τ) (hk : τ 43 1 = 1) (h8 : τ 42 (70 + 64) ≤ 8) : RX nS (setB β 1 5 6 7 8 32 3 27 28 29 30 52) (gbT τ 70) := by
  have hn := h.n10
  obtain ⟨⟨m1, m2, m3⟩, m4, m5, m6⟩ := h.2.2.2.2.2.2.2.2.2.2 hk
  have hout : ∀ j, (j < 32 ∨ 32 + 10 ≤ j) → j ≠ 1 → j ≠ 5 → j ≠ 6 → j ≠ 7 → j ≠ 8 → (setB β 1 5 6 7 8 32 3 27 28 29 30 52) j = β j := fun j h1 h2 h3 h4 h5 h6 => by
    unfold setB
    try simp only
    rw [upc_n h2, upc_n h2, cp0, upr_n h6, cpR_out h1, upc_n h2, cp0, upr_n h5, cp0, upr_n h4, cp0, upr_n h3]
  have ht : ∀ j, j ≠ 0 → j ≠ 6 → j ≠ 7 → j ≠ 9 → j ≠ 10 → j ≠ 11 → (gbT τ 70) j = τ j := fun j h0 h6 h7 h9 h10 h11 => by
    unfold gbT gbC gbB gbA
    rw [upc_n h0, upc_n h0, upc_n h0, cpT_j _ _ _ _ h7, cpT_j _ _ _ _ h6, cpT_j _ _ _ _ h11, cpT_j _ _ _ _ h10, cpT_j _ _ _ _ h9]
  have t9 : ∀ q, q < 8 → (gbT τ 70) 9 q = τ 42 (70 + q) := fun q hq => by
    unfold gbT gbC gbB gbA
    rw [upc_n (by decide), upc_n (by decide), upc_n (by decide), cpT_j _ _ _ _ (by decide), cpT_j _ _ _ _ (by decide), cpT_j _ _ _ _ (by decide), cpT_j _ _ _ _ (by decide), cpT_at, if_pos hq]
  have t10 : ∀ q, q < 8 → (gbT τ 70) 10 q = τ 42 (70 + 8 + q) := fun q hq => by
    unfold gbT gbC gbB gbA
    rw [upc_n (by decide), upc_n (by decide), upc_n (by decide), cpT_j _ _ _ _ (by decide), cpT_j _ _ _ _ (by decide), cpT_j _ _ _ _ (by decide), cpT_at, if_pos hq]
  have t11 : ∀ q, q < 8 → (gbT τ 70) 11 q = τ 42 (70 + 16 + q) := fun q hq => by
    unfold gbT gbC gbB gbA
    rw [upc_n (by decide), upc_n (by decide), upc_n (by decide), cpT_j _ _ _ _ (by decide), cpT_j _ _ _ _ (by decide), cpT_at, if_pos hq]
  have t6 : ∀ k, k < 30 → (gbT τ 70) 6 k = τ 42 (70 + 24 + k) := fun k hk => by
    unfold gbT gbC gbB
    rw [upc_n (by decide), upc_n (by decide), upc_n (by decide), cpT_j _ _ _ _ (by decide), cpT_at, if_pos hk]
  have t7 : ∀ k, k < 10 → (gbT τ 70) 7 k = τ 42 (70 + 54 + k) := fun k hk => by
    unfold gbT gbC
    rw [upc_n (by decide), upc_n (by decide), upc_n (by decide), cpT_at, if_pos hk]
  have e5 := ht 5 (by decide) (by decide) (by decide) (by decide) (by decide) (by decide)
  have e42 := ht 42 (by decide) (by decide) (by decide) (by decide) (by decide) (by decide)
  have e43 := ht 43 (by decide) (by decide) (by decide) (by decide) (by decide) (by decide)
  have hI : ∀ {X o a b c w st : Nat}, X ∈ [2, 3] → a ∈ [22, 27] → b ∈ [23, 28] → c ∈ [24, 29] → w ∈ [25, 30] → st ∈ [42, 52] → RXi nS β τ X o a b c w st → RXi nS (setB β 1 5 6 7 8 32 3 27 28 29 30 52) (gbT τ 70) X o a b c w st := by
    intro X o a b c w st q1 q2 q3 q4 q5 q6 k
    simp only [List.mem_cons, List.not_mem_nil, or_false] at q1 q2 q3 q4 q5 q6
    have k := k.congr (β' := setB β 1 5 6 7 8 32 3 27 28 29 30 52) (hout X (by omega) (by omega) (by omega) (by omega) (by omega) (by omega)) (hout a (by omega) (by omega) (by omega) (by omega) (by omega) (by omega)) (hout b (by omega) (by omega) (by omega) (by omega) (by omega) (by omega)) (hout c (by omega) (by omega) (by omega) (by omega) (by omega) (by omega)) (hout w (by omega) (by omega) (by omega) (by omega) (by omega) (by omega)) (fun r hr => hout _ (by omega) (by omega) (by omega) (by omega) (by omega) (by omega))
    unfold RXi ist at k ⊢
    rw [e42, e5]; exact k
  obtain ⟨⟨h0, h0'⟩, ⟨s1, s2, s3, s4, s5, s6, s7, s8, s9, s10, s11⟩, h2, h3, h4, h5, h6, h7, h8', h9, h10⟩ := h
  refine ⟨⟨h0, h0'⟩, ⟨s1, s2, s3, s4, m1, m2, m3, s8, s9, by rw [e43]; exact s10, by rw [e43]; exact s11⟩, fun q hq => ?_, fun r hr => ?_, fun r i hr hi => ?_, fun i hi => ?_, ?_, ?_, fun r hr => ?_, fun k => hI (by decide) (by decide) (by decide) (by decide) (by decide) (by decide) (h9 (by rw [← e43]; exact k)), fun k => hI (by decide) (by decide) (by decide) (by decide) (by decide) (by decide) (h10 (by rw [← e43]; exact k))⟩
  · have hq : q < τ 42 (70 + 64) := hq
    obtain ⟨c1, c2, c3⟩ := m4 q hq
    rw [t9 q (by omega), t10 q (by omega), t11 q (by omega)]
    exact ⟨(blt_t (show q < 8 by omega)).trans c1, (blt_t (show q < 8 by omega)).trans c2, (blt_t (show q < 8 by omega)).trans c3⟩
  · rw [t7 r hr]; exact (blt_t hr).trans (m5 r hr)
  · have e : (setB β 1 5 6 7 8 32 3 27 28 29 30 52) (r + 32) i = β (r + 52) i := by
      unfold setB
      try simp only
      rw [upc_n (by omega), upc_n (by omega), cp0, upr_n (by omega), cpR_in (by omega) hi, upc_n (by omega), cp0, upr_n (by omega), cp0, upr_n (by omega), cp0, upr_n (by omega)]
    rw [e, m6 r i hr hi]
    unfold stp ist
    rw [e5]
    by_cases hp : i < τ 5 r
    · rw [if_pos hp, if_pos hp, t6 _ (by omega)]
    · rw [if_neg hp, if_neg hp]
  · rw [hout (i + 62) (by omega) (by omega) (by omega) (by omega) (by omega) (by omega), hout 10 (by omega) (by decide) (by decide) (by decide) (by decide) (by decide), ht 35 (by decide) (by decide) (by decide) (by decide) (by decide) (by decide), ht 36 (by decide) (by decide) (by decide) (by decide) (by decide) (by decide), ht 37 (by decide) (by decide) (by decide) (by decide) (by decide) (by decide)]; exact h5 i hi
  · rw [hout 11 (by omega) (by decide) (by decide) (by decide) (by decide) (by decide), hout 12 (by omega) (by decide) (by decide) (by decide) (by decide) (by decide), ht 39 (by decide) (by decide) (by decide) (by decide) (by decide) (by decide), ht 40 (by decide) (by decide) (by decide) (by decide) (by decide) (by decide)]; exact h6
  · rw [hout 13 (by omega) (by decide) (by decide) (by decide) (by decide) (by decide), ht 14 (by decide) (by decide) (by decide) (by decide) (by decide) (by decide)]; exact h7
  · rw [hout (2 * r + 90) (by omega) (by omega) (by omega) (by omega) (by omega) (by omega), ht 3 (by decide) (by decide) (by decide) (by decide) (by decide) (by decide), ht 4 (by decide) (by decide) (by decide) (by decide) (by decide) (by decide), e5, ht 2 (by decide) (by decide) (by decide) (by decide) (by decide) (by decide)]; exact h8' r hr
