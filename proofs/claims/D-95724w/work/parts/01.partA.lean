-- ===== PART A: goes FIRST, ahead of the names: the tables' words, and 'selects' of the private methods out of them =====
/-- a private method of a class that the tables say can be made, by its rows of tables_1 -/
def lw_okq (q : MethodName × Nat) : Prop := (q.1.cls ≠ "java/lang/invoke/MethodHandle" ∧ q.1.cls ≠ "java/lang/invoke/VarHandle") ∧ Cond.instantiable q.1.cls q.2 ∈ tables_1 ∧ Cond.privateMethod q.1 ∈ tables_1 ∧ Cond.instanceMethod q.1 ∈ tables_1
set_option maxRecDepth 100000
theorem lw_t1 {w : Cond} (h : w ∈ tables_1_1) : w ∈ tables_1 := List.mem_append_left _ h
theorem lw_t2 {w : Cond} (h : w ∈ tables_1_2) : w ∈ tables_1 := List.mem_append_right _ (List.mem_append_left _ h)
theorem lw_t3 {w : Cond} (h : w ∈ tables_1_3) : w ∈ tables_1 := List.mem_append_right _ (List.mem_append_right _ (List.mem_append_left _ h))
theorem lw_t4 {w : Cond} (h : w ∈ tables_1_4) : w ∈ tables_1 := List.mem_append_right _ (List.mem_append_right _ (List.mem_append_right _ (List.mem_append_left _ h)))
theorem lw_t5 {w : Cond} (h : w ∈ tables_1_5) : w ∈ tables_1 := List.mem_append_right _ (List.mem_append_right _ (List.mem_append_right _ (List.mem_append_right _ (List.mem_append_left _ h))))
theorem lw_t6 {w : Cond} (h : w ∈ tables_1_6) : w ∈ tables_1 := List.mem_append_right _ (List.mem_append_right _ (List.mem_append_right _ (List.mem_append_right _ (List.mem_append_right _ h))))
theorem lw_p0 : lw_okq (⟨"FittingStrides$Reader", "here", "()I"⟩, 5) := ⟨⟨by decide +kernel, by decide +kernel⟩, lw_t1 (List.mem_of_getElem? (i := 187) rfl), lw_t1 (List.mem_of_getElem? (i := 215) rfl), lw_t1 (List.mem_of_getElem? (i := 216) rfl)⟩
theorem lw_p1 : lw_okq (⟨"FittingStrides$Reader", "word", "()Ljava/lang/String;"⟩, 5) := ⟨⟨by decide +kernel, by decide +kernel⟩, lw_t1 (List.mem_of_getElem? (i := 187) rfl), lw_t1 (List.mem_of_getElem? (i := 219) rfl), lw_t1 (List.mem_of_getElem? (i := 220) rfl)⟩
theorem lw_p2 : lw_okq (⟨"FittingStrides$Reader", "clause", "(Ljava/lang/String;I)V"⟩, 5) := ⟨⟨by decide +kernel, by decide +kernel⟩, lw_t1 (List.mem_of_getElem? (i := 187) rfl), lw_t2 (List.mem_of_getElem? (i := 173) rfl), lw_t2 (List.mem_of_getElem? (i := 174) rfl)⟩
theorem lw_p3 : lw_okq (⟨"java/lang/Throwable", "fillInStackTrace", "(I)Ljava/lang/Throwable;"⟩, 6) := ⟨⟨by decide +kernel, by decide +kernel⟩, lw_t2 (List.mem_of_getElem? (i := 223) rfl), lw_t2 (List.mem_of_getElem? (i := 221) rfl), lw_t2 (List.mem_of_getElem? (i := 222) rfl)⟩
theorem lw_p4 : lw_okq (⟨"FittingStrides$Reader", "number", "(II)I"⟩, 5) := ⟨⟨by decide +kernel, by decide +kernel⟩, lw_t1 (List.mem_of_getElem? (i := 187) rfl), lw_t3 (List.mem_of_getElem? (i := 71) rfl), lw_t3 (List.mem_of_getElem? (i := 72) rfl)⟩
theorem lw_p5 : lw_okq (⟨"FittingStrides$Reader", "stair", "(I)V"⟩, 5) := ⟨⟨by decide +kernel, by decide +kernel⟩, lw_t1 (List.mem_of_getElem? (i := 187) rfl), lw_t3 (List.mem_of_getElem? (i := 76) rfl), lw_t3 (List.mem_of_getElem? (i := 77) rfl)⟩
theorem lw_p6 : lw_okq (⟨"FittingStrides$Reader", "place", "()I"⟩, 5) := ⟨⟨by decide +kernel, by decide +kernel⟩, lw_t1 (List.mem_of_getElem? (i := 187) rfl), lw_t3 (List.mem_of_getElem? (i := 83) rfl), lw_t3 (List.mem_of_getElem? (i := 84) rfl)⟩
theorem lw_p7 : lw_okq (⟨"FittingStrides$Reader", "person", "(I)V"⟩, 5) := ⟨⟨by decide +kernel, by decide +kernel⟩, lw_t1 (List.mem_of_getElem? (i := 187) rfl), lw_t3 (List.mem_of_getElem? (i := 137) rfl), lw_t3 (List.mem_of_getElem? (i := 138) rfl)⟩
theorem lw_p8 : lw_okq (⟨"FittingStrides", "allWorn", "()I"⟩, 14) := ⟨⟨by decide +kernel, by decide +kernel⟩, lw_t1 (List.mem_of_getElem? (i := 24) rfl), lw_t3 (List.mem_of_getElem? (i := 157) rfl), lw_t3 (List.mem_of_getElem? (i := 158) rfl)⟩
theorem lw_p9 : lw_okq (⟨"FittingStrides", "isStair", "(I)Z"⟩, 14) := ⟨⟨by decide +kernel, by decide +kernel⟩, lw_t1 (List.mem_of_getElem? (i := 24) rfl), lw_t3 (List.mem_of_getElem? (i := 165) rfl), lw_t3 (List.mem_of_getElem? (i := 166) rfl)⟩
theorem lw_p10 : lw_okq (⟨"FittingStrides", "at", "(I)LFittingStrides$Stair;"⟩, 14) := ⟨⟨by decide +kernel, by decide +kernel⟩, lw_t1 (List.mem_of_getElem? (i := 24) rfl), lw_t3 (List.mem_of_getElem? (i := 170) rfl), lw_t3 (List.mem_of_getElem? (i := 171) rfl)⟩
theorem lw_p11 : lw_okq (⟨"FittingStrides", "climbers", "(I)I"⟩, 14) := ⟨⟨by decide +kernel, by decide +kernel⟩, lw_t1 (List.mem_of_getElem? (i := 24) rfl), lw_t3 (List.mem_of_getElem? (i := 186) rfl), lw_t3 (List.mem_of_getElem? (i := 187) rfl)⟩
theorem lw_p12 : lw_okq (⟨"FittingStrides", "mayClimb", "(III)Z"⟩, 14) := ⟨⟨by decide +kernel, by decide +kernel⟩, lw_t1 (List.mem_of_getElem? (i := 24) rfl), lw_t3 (List.mem_of_getElem? (i := 190) rfl), lw_t3 (List.mem_of_getElem? (i := 191) rfl)⟩
theorem lw_p13 : lw_okq (⟨"FittingStrides", "isPerson", "(I)Z"⟩, 14) := ⟨⟨by decide +kernel, by decide +kernel⟩, lw_t1 (List.mem_of_getElem? (i := 24) rfl), lw_t3 (List.mem_of_getElem? (i := 216) rfl), lw_t3 (List.mem_of_getElem? (i := 217) rfl)⟩
theorem lw_p14 : lw_okq (⟨"FittingStrides", "reachOfPerson", "(I)I"⟩, 14) := ⟨⟨by decide +kernel, by decide +kernel⟩, lw_t1 (List.mem_of_getElem? (i := 24) rfl), lw_t3 (List.mem_of_getElem? (i := 220) rfl), lw_t3 (List.mem_of_getElem? (i := 221) rfl)⟩
theorem lw_p15 : lw_okq (⟨"FittingStrides", "reachOf", "(III)I"⟩, 14) := ⟨⟨by decide +kernel, by decide +kernel⟩, lw_t1 (List.mem_of_getElem? (i := 24) rfl), lw_t3 (List.mem_of_getElem? (i := 224) rfl), lw_t3 (List.mem_of_getElem? (i := 225) rfl)⟩
def lw_privs_1 : List (MethodName × Nat) := [(⟨"FittingStrides$Reader", "here", "()I"⟩, 5), (⟨"FittingStrides$Reader", "word", "()Ljava/lang/String;"⟩, 5), (⟨"FittingStrides$Reader", "clause", "(Ljava/lang/String;I)V"⟩, 5), (⟨"java/lang/Throwable", "fillInStackTrace", "(I)Ljava/lang/Throwable;"⟩, 6), (⟨"FittingStrides$Reader", "number", "(II)I"⟩, 5), (⟨"FittingStrides$Reader", "stair", "(I)V"⟩, 5), (⟨"FittingStrides$Reader", "place", "()I"⟩, 5), (⟨"FittingStrides$Reader", "person", "(I)V"⟩, 5), (⟨"FittingStrides", "allWorn", "()I"⟩, 14), (⟨"FittingStrides", "isStair", "(I)Z"⟩, 14), (⟨"FittingStrides", "at", "(I)LFittingStrides$Stair;"⟩, 14), (⟨"FittingStrides", "climbers", "(I)I"⟩, 14), (⟨"FittingStrides", "mayClimb", "(III)Z"⟩, 14), (⟨"FittingStrides", "isPerson", "(I)Z"⟩, 14), (⟨"FittingStrides", "reachOfPerson", "(I)I"⟩, 14), (⟨"FittingStrides", "reachOf", "(III)I"⟩, 14)]
theorem lw_r1 : ∀ q ∈ lw_privs_1, lw_okq q := List.forall_mem_cons.mpr ⟨lw_p0, List.forall_mem_cons.mpr ⟨lw_p1, List.forall_mem_cons.mpr ⟨lw_p2, List.forall_mem_cons.mpr ⟨lw_p3, List.forall_mem_cons.mpr ⟨lw_p4, List.forall_mem_cons.mpr ⟨lw_p5, List.forall_mem_cons.mpr ⟨lw_p6, List.forall_mem_cons.mpr ⟨lw_p7, List.forall_mem_cons.mpr ⟨lw_p8, List.forall_mem_cons.mpr ⟨lw_p9, List.forall_mem_cons.mpr ⟨lw_p10, List.forall_mem_cons.mpr ⟨lw_p11, List.forall_mem_cons.mpr ⟨lw_p12, List.forall_mem_cons.mpr ⟨lw_p13, List.forall_mem_cons.mpr ⟨lw_p14, List.forall_mem_cons.mpr ⟨lw_p15, fun _ h => absurd h List.not_mem_nil⟩⟩⟩⟩⟩⟩⟩⟩⟩⟩⟩⟩⟩⟩⟩⟩
theorem lw_p16 : lw_okq (⟨"FittingStrides", "mayGo", "(IIII)Z"⟩, 14) := ⟨⟨by decide +kernel, by decide +kernel⟩, lw_t1 (List.mem_of_getElem? (i := 24) rfl), lw_t3 (List.mem_of_getElem? (i := 231) rfl), lw_t3 (List.mem_of_getElem? (i := 232) rfl)⟩
theorem lw_p17 : lw_okq (⟨"FittingStrides", "canGo", "(II)Z"⟩, 14) := ⟨⟨by decide +kernel, by decide +kernel⟩, lw_t1 (List.mem_of_getElem? (i := 24) rfl), lw_t4 (List.mem_of_getElem? (i := 10) rfl), lw_t4 (List.mem_of_getElem? (i := 11) rfl)⟩
theorem lw_p18 : lw_okq (⟨"FittingStrides", "goNow", "(II)V"⟩, 14) := ⟨⟨by decide +kernel, by decide +kernel⟩, lw_t1 (List.mem_of_getElem? (i := 24) rfl), lw_t4 (List.mem_of_getElem? (i := 15) rfl), lw_t4 (List.mem_of_getElem? (i := 16) rfl)⟩
theorem lw_p19 : lw_okq (⟨"FittingStrides", "strideFor", "(II)I"⟩, 14) := ⟨⟨by decide +kernel, by decide +kernel⟩, lw_t1 (List.mem_of_getElem? (i := 24) rfl), lw_t4 (List.mem_of_getElem? (i := 19) rfl), lw_t4 (List.mem_of_getElem? (i := 20) rfl)⟩
theorem lw_p20 : lw_okq (⟨"FittingStrides", "isPart", "(II)Z"⟩, 14) := ⟨⟨by decide +kernel, by decide +kernel⟩, lw_t1 (List.mem_of_getElem? (i := 24) rfl), lw_t4 (List.mem_of_getElem? (i := 35) rfl), lw_t4 (List.mem_of_getElem? (i := 36) rfl)⟩
theorem lw_p21 : lw_okq (⟨"FittingStrides", "beget", "(I)V"⟩, 14) := ⟨⟨by decide +kernel, by decide +kernel⟩, lw_t1 (List.mem_of_getElem? (i := 24) rfl), lw_t4 (List.mem_of_getElem? (i := 55) rfl), lw_t4 (List.mem_of_getElem? (i := 56) rfl)⟩
theorem lw_p22 : lw_okq (⟨"FittingStrides", "isPlace", "(I)Z"⟩, 14) := ⟨⟨by decide +kernel, by decide +kernel⟩, lw_t1 (List.mem_of_getElem? (i := 24) rfl), lw_t4 (List.mem_of_getElem? (i := 63) rfl), lw_t4 (List.mem_of_getElem? (i := 64) rfl)⟩
theorem lw_p23 : lw_okq (⟨"FittingStrides", "isSet", "(I)Z"⟩, 14) := ⟨⟨by decide +kernel, by decide +kernel⟩, lw_t1 (List.mem_of_getElem? (i := 24) rfl), lw_t4 (List.mem_of_getElem? (i := 75) rfl), lw_t4 (List.mem_of_getElem? (i := 76) rfl)⟩
theorem lw_p24 : lw_okq (⟨"FittingStrides", "multipleOf", "(I)I"⟩, 14) := ⟨⟨by decide +kernel, by decide +kernel⟩, lw_t1 (List.mem_of_getElem? (i := 24) rfl), lw_t4 (List.mem_of_getElem? (i := 79) rfl), lw_t4 (List.mem_of_getElem? (i := 80) rfl)⟩
theorem lw_p25 : lw_okq (⟨"FittingStrides", "keepsOff", "(II)Z"⟩, 14) := ⟨⟨by decide +kernel, by decide +kernel⟩, lw_t1 (List.mem_of_getElem? (i := 24) rfl), lw_t4 (List.mem_of_getElem? (i := 87) rfl), lw_t4 (List.mem_of_getElem? (i := 88) rfl)⟩
theorem lw_p26 : lw_okq (⟨"FittingStrides", "bringAll", "(I)Z"⟩, 14) := ⟨⟨by decide +kernel, by decide +kernel⟩, lw_t1 (List.mem_of_getElem? (i := 24) rfl), lw_t4 (List.mem_of_getElem? (i := 102) rfl), lw_t4 (List.mem_of_getElem? (i := 103) rfl)⟩
theorem lw_p27 : lw_okq (⟨"FittingStrides", "bring", "(IIII)Z"⟩, 14) := ⟨⟨by decide +kernel, by decide +kernel⟩, lw_t1 (List.mem_of_getElem? (i := 24) rfl), lw_t4 (List.mem_of_getElem? (i := 106) rfl), lw_t4 (List.mem_of_getElem? (i := 107) rfl)⟩
theorem lw_p28 : lw_okq (⟨"FittingStrides", "climbersWith", "(III)I"⟩, 14) := ⟨⟨by decide +kernel, by decide +kernel⟩, lw_t1 (List.mem_of_getElem? (i := 24) rfl), lw_t4 (List.mem_of_getElem? (i := 120) rfl), lw_t4 (List.mem_of_getElem? (i := 121) rfl)⟩
theorem lw_p29 : lw_okq (⟨"FittingStrides", "areClimbedBy", "(I)Z"⟩, 14) := ⟨⟨by decide +kernel, by decide +kernel⟩, lw_t1 (List.mem_of_getElem? (i := 24) rfl), lw_t4 (List.mem_of_getElem? (i := 136) rfl), lw_t4 (List.mem_of_getElem? (i := 137) rfl)⟩
theorem lw_p30 : lw_okq (⟨"FittingStrides", "isAsSeen", "(I)Z"⟩, 14) := ⟨⟨by decide +kernel, by decide +kernel⟩, lw_t1 (List.mem_of_getElem? (i := 24) rfl), lw_t4 (List.mem_of_getElem? (i := 148) rfl), lw_t4 (List.mem_of_getElem? (i := 149) rfl)⟩
theorem lw_p31 : lw_okq (⟨"FittingStridesModel", "here", "()I"⟩, 44) := ⟨⟨by decide +kernel, by decide +kernel⟩, lw_t4 (List.mem_of_getElem? (i := 188) rfl), lw_t5 (List.mem_of_getElem? (i := 102) rfl), lw_t5 (List.mem_of_getElem? (i := 103) rfl)⟩
def lw_privs_2 : List (MethodName × Nat) := [(⟨"FittingStrides", "mayGo", "(IIII)Z"⟩, 14), (⟨"FittingStrides", "canGo", "(II)Z"⟩, 14), (⟨"FittingStrides", "goNow", "(II)V"⟩, 14), (⟨"FittingStrides", "strideFor", "(II)I"⟩, 14), (⟨"FittingStrides", "isPart", "(II)Z"⟩, 14), (⟨"FittingStrides", "beget", "(I)V"⟩, 14), (⟨"FittingStrides", "isPlace", "(I)Z"⟩, 14), (⟨"FittingStrides", "isSet", "(I)Z"⟩, 14), (⟨"FittingStrides", "multipleOf", "(I)I"⟩, 14), (⟨"FittingStrides", "keepsOff", "(II)Z"⟩, 14), (⟨"FittingStrides", "bringAll", "(I)Z"⟩, 14), (⟨"FittingStrides", "bring", "(IIII)Z"⟩, 14), (⟨"FittingStrides", "climbersWith", "(III)I"⟩, 14), (⟨"FittingStrides", "areClimbedBy", "(I)Z"⟩, 14), (⟨"FittingStrides", "isAsSeen", "(I)Z"⟩, 14), (⟨"FittingStridesModel", "here", "()I"⟩, 44)]
theorem lw_r2 : ∀ q ∈ lw_privs_2, lw_okq q := List.forall_mem_cons.mpr ⟨lw_p16, List.forall_mem_cons.mpr ⟨lw_p17, List.forall_mem_cons.mpr ⟨lw_p18, List.forall_mem_cons.mpr ⟨lw_p19, List.forall_mem_cons.mpr ⟨lw_p20, List.forall_mem_cons.mpr ⟨lw_p21, List.forall_mem_cons.mpr ⟨lw_p22, List.forall_mem_cons.mpr ⟨lw_p23, List.forall_mem_cons.mpr ⟨lw_p24, List.forall_mem_cons.mpr ⟨lw_p25, List.forall_mem_cons.mpr ⟨lw_p26, List.forall_mem_cons.mpr ⟨lw_p27, List.forall_mem_cons.mpr ⟨lw_p28, List.forall_mem_cons.mpr ⟨lw_p29, List.forall_mem_cons.mpr ⟨lw_p30, List.forall_mem_cons.mpr ⟨lw_p31, fun _ h => absurd h List.not_mem_nil⟩⟩⟩⟩⟩⟩⟩⟩⟩⟩⟩⟩⟩⟩⟩⟩
theorem lw_p32 : lw_okq (⟨"FittingStridesModel", "takeClause", "()I"⟩, 44) := ⟨⟨by decide +kernel, by decide +kernel⟩, lw_t4 (List.mem_of_getElem? (i := 188) rfl), lw_t5 (List.mem_of_getElem? (i := 106) rfl), lw_t5 (List.mem_of_getElem? (i := 107) rfl)⟩
theorem lw_p33 : lw_okq (⟨"FittingStridesModel", "readWord", "()V"⟩, 44) := ⟨⟨by decide +kernel, by decide +kernel⟩, lw_t4 (List.mem_of_getElem? (i := 188) rfl), lw_t5 (List.mem_of_getElem? (i := 110) rfl), lw_t5 (List.mem_of_getElem? (i := 111) rfl)⟩
theorem lw_p34 : lw_okq (⟨"FittingStridesModel", "fails", "(II)I"⟩, 44) := ⟨⟨by decide +kernel, by decide +kernel⟩, lw_t4 (List.mem_of_getElem? (i := 188) rfl), lw_t5 (List.mem_of_getElem? (i := 126) rfl), lw_t5 (List.mem_of_getElem? (i := 127) rfl)⟩
theorem lw_p35 : lw_okq (⟨"FittingStridesModel", "takeNumber", "(II)I"⟩, 44) := ⟨⟨by decide +kernel, by decide +kernel⟩, lw_t4 (List.mem_of_getElem? (i := 188) rfl), lw_t5 (List.mem_of_getElem? (i := 130) rfl), lw_t5 (List.mem_of_getElem? (i := 131) rfl)⟩
theorem lw_p36 : lw_okq (⟨"FittingStridesModel", "takeStair", "()I"⟩, 44) := ⟨⟨by decide +kernel, by decide +kernel⟩, lw_t4 (List.mem_of_getElem? (i := 188) rfl), lw_t5 (List.mem_of_getElem? (i := 136) rfl), lw_t5 (List.mem_of_getElem? (i := 137) rfl)⟩
theorem lw_p37 : lw_okq (⟨"FittingStridesModel", "into", "([IIII)I"⟩, 44) := ⟨⟨by decide +kernel, by decide +kernel⟩, lw_t4 (List.mem_of_getElem? (i := 188) rfl), lw_t5 (List.mem_of_getElem? (i := 140) rfl), lw_t5 (List.mem_of_getElem? (i := 141) rfl)⟩
theorem lw_p38 : lw_okq (⟨"FittingStridesModel", "takeParts", "(I)I"⟩, 44) := ⟨⟨by decide +kernel, by decide +kernel⟩, lw_t4 (List.mem_of_getElem? (i := 188) rfl), lw_t5 (List.mem_of_getElem? (i := 144) rfl), lw_t5 (List.mem_of_getElem? (i := 145) rfl)⟩
theorem lw_p39 : lw_okq (⟨"FittingStridesModel", "takePerson", "()I"⟩, 44) := ⟨⟨by decide +kernel, by decide +kernel⟩, lw_t4 (List.mem_of_getElem? (i := 188) rfl), lw_t5 (List.mem_of_getElem? (i := 148) rfl), lw_t5 (List.mem_of_getElem? (i := 149) rfl)⟩
theorem lw_p40 : lw_okq (⟨"FittingStridesModel", "allWorn", "()I"⟩, 44) := ⟨⟨by decide +kernel, by decide +kernel⟩, lw_t4 (List.mem_of_getElem? (i := 188) rfl), lw_t5 (List.mem_of_getElem? (i := 160) rfl), lw_t5 (List.mem_of_getElem? (i := 161) rfl)⟩
theorem lw_p41 : lw_okq (⟨"FittingStridesModel", "isStair", "(I)Z"⟩, 44) := ⟨⟨by decide +kernel, by decide +kernel⟩, lw_t4 (List.mem_of_getElem? (i := 188) rfl), lw_t5 (List.mem_of_getElem? (i := 168) rfl), lw_t5 (List.mem_of_getElem? (i := 169) rfl)⟩
theorem lw_p42 : lw_okq (⟨"FittingStridesModel", "climbers", "(I)I"⟩, 44) := ⟨⟨by decide +kernel, by decide +kernel⟩, lw_t4 (List.mem_of_getElem? (i := 188) rfl), lw_t5 (List.mem_of_getElem? (i := 173) rfl), lw_t5 (List.mem_of_getElem? (i := 174) rfl)⟩
theorem lw_p43 : lw_okq (⟨"FittingStridesModel", "mayClimb", "(II)Z"⟩, 44) := ⟨⟨by decide +kernel, by decide +kernel⟩, lw_t4 (List.mem_of_getElem? (i := 188) rfl), lw_t5 (List.mem_of_getElem? (i := 177) rfl), lw_t5 (List.mem_of_getElem? (i := 178) rfl)⟩
theorem lw_p44 : lw_okq (⟨"FittingStridesModel", "isFit", "(II)Z"⟩, 44) := ⟨⟨by decide +kernel, by decide +kernel⟩, lw_t4 (List.mem_of_getElem? (i := 188) rfl), lw_t5 (List.mem_of_getElem? (i := 181) rfl), lw_t5 (List.mem_of_getElem? (i := 182) rfl)⟩
theorem lw_p45 : lw_okq (⟨"FittingStridesModel", "isPerson", "(I)Z"⟩, 44) := ⟨⟨by decide +kernel, by decide +kernel⟩, lw_t4 (List.mem_of_getElem? (i := 188) rfl), lw_t5 (List.mem_of_getElem? (i := 189) rfl), lw_t5 (List.mem_of_getElem? (i := 190) rfl)⟩
theorem lw_p46 : lw_okq (⟨"FittingStridesModel", "reachOfPerson", "(I)I"⟩, 44) := ⟨⟨by decide +kernel, by decide +kernel⟩, lw_t4 (List.mem_of_getElem? (i := 188) rfl), lw_t5 (List.mem_of_getElem? (i := 193) rfl), lw_t5 (List.mem_of_getElem? (i := 194) rfl)⟩
theorem lw_p47 : lw_okq (⟨"FittingStridesModel", "reachOf", "(III)I"⟩, 44) := ⟨⟨by decide +kernel, by decide +kernel⟩, lw_t4 (List.mem_of_getElem? (i := 188) rfl), lw_t5 (List.mem_of_getElem? (i := 197) rfl), lw_t5 (List.mem_of_getElem? (i := 198) rfl)⟩
def lw_privs_3 : List (MethodName × Nat) := [(⟨"FittingStridesModel", "takeClause", "()I"⟩, 44), (⟨"FittingStridesModel", "readWord", "()V"⟩, 44), (⟨"FittingStridesModel", "fails", "(II)I"⟩, 44), (⟨"FittingStridesModel", "takeNumber", "(II)I"⟩, 44), (⟨"FittingStridesModel", "takeStair", "()I"⟩, 44), (⟨"FittingStridesModel", "into", "([IIII)I"⟩, 44), (⟨"FittingStridesModel", "takeParts", "(I)I"⟩, 44), (⟨"FittingStridesModel", "takePerson", "()I"⟩, 44), (⟨"FittingStridesModel", "allWorn", "()I"⟩, 44), (⟨"FittingStridesModel", "isStair", "(I)Z"⟩, 44), (⟨"FittingStridesModel", "climbers", "(I)I"⟩, 44), (⟨"FittingStridesModel", "mayClimb", "(II)Z"⟩, 44), (⟨"FittingStridesModel", "isFit", "(II)Z"⟩, 44), (⟨"FittingStridesModel", "isPerson", "(I)Z"⟩, 44), (⟨"FittingStridesModel", "reachOfPerson", "(I)I"⟩, 44), (⟨"FittingStridesModel", "reachOf", "(III)I"⟩, 44)]
theorem lw_r3 : ∀ q ∈ lw_privs_3, lw_okq q := List.forall_mem_cons.mpr ⟨lw_p32, List.forall_mem_cons.mpr ⟨lw_p33, List.forall_mem_cons.mpr ⟨lw_p34, List.forall_mem_cons.mpr ⟨lw_p35, List.forall_mem_cons.mpr ⟨lw_p36, List.forall_mem_cons.mpr ⟨lw_p37, List.forall_mem_cons.mpr ⟨lw_p38, List.forall_mem_cons.mpr ⟨lw_p39, List.forall_mem_cons.mpr ⟨lw_p40, List.forall_mem_cons.mpr ⟨lw_p41, List.forall_mem_cons.mpr ⟨lw_p42, List.forall_mem_cons.mpr ⟨lw_p43, List.forall_mem_cons.mpr ⟨lw_p44, List.forall_mem_cons.mpr ⟨lw_p45, List.forall_mem_cons.mpr ⟨lw_p46, List.forall_mem_cons.mpr ⟨lw_p47, fun _ h => absurd h List.not_mem_nil⟩⟩⟩⟩⟩⟩⟩⟩⟩⟩⟩⟩⟩⟩⟩⟩
theorem lw_p48 : lw_okq (⟨"FittingStridesModel", "canGo", "(II)Z"⟩, 44) := ⟨⟨by decide +kernel, by decide +kernel⟩, lw_t4 (List.mem_of_getElem? (i := 188) rfl), lw_t5 (List.mem_of_getElem? (i := 213) rfl), lw_t5 (List.mem_of_getElem? (i := 214) rfl)⟩
theorem lw_p49 : lw_okq (⟨"FittingStridesModel", "goNow", "(II)V"⟩, 44) := ⟨⟨by decide +kernel, by decide +kernel⟩, lw_t4 (List.mem_of_getElem? (i := 188) rfl), lw_t5 (List.mem_of_getElem? (i := 218) rfl), lw_t5 (List.mem_of_getElem? (i := 219) rfl)⟩
theorem lw_p50 : lw_okq (⟨"FittingStridesModel", "dayNow", "()V"⟩, 44) := ⟨⟨by decide +kernel, by decide +kernel⟩, lw_t4 (List.mem_of_getElem? (i := 188) rfl), lw_t5 (List.mem_of_getElem? (i := 236) rfl), lw_t5 (List.mem_of_getElem? (i := 237) rfl)⟩
theorem lw_p51 : lw_okq (⟨"FittingStridesModel", "draw", "(I)I"⟩, 44) := ⟨⟨by decide +kernel, by decide +kernel⟩, lw_t4 (List.mem_of_getElem? (i := 188) rfl), lw_t6 (List.mem_of_getElem? (i := 0) rfl), lw_t6 (List.mem_of_getElem? (i := 1) rfl)⟩
theorem lw_p52 : lw_okq (⟨"FittingStridesModel", "isPlace", "(I)Z"⟩, 44) := ⟨⟨by decide +kernel, by decide +kernel⟩, lw_t4 (List.mem_of_getElem? (i := 188) rfl), lw_t6 (List.mem_of_getElem? (i := 12) rfl), lw_t6 (List.mem_of_getElem? (i := 13) rfl)⟩
theorem lw_p53 : lw_okq (⟨"FittingStridesModel", "isWish", "(III)Z"⟩, 44) := ⟨⟨by decide +kernel, by decide +kernel⟩, lw_t4 (List.mem_of_getElem? (i := 188) rfl), lw_t6 (List.mem_of_getElem? (i := 25) rfl), lw_t6 (List.mem_of_getElem? (i := 26) rfl)⟩
theorem lw_p54 : lw_okq (⟨"FittingStridesModel", "comesBy", "(III)Z"⟩, 44) := ⟨⟨by decide +kernel, by decide +kernel⟩, lw_t4 (List.mem_of_getElem? (i := 188) rfl), lw_t6 (List.mem_of_getElem? (i := 40) rfl), lw_t6 (List.mem_of_getElem? (i := 41) rfl)⟩
theorem lw_p55 : lw_okq (⟨"FittingStridesModel", "isCarried", "(IIII)Z"⟩, 44) := ⟨⟨by decide +kernel, by decide +kernel⟩, lw_t4 (List.mem_of_getElem? (i := 188) rfl), lw_t6 (List.mem_of_getElem? (i := 44) rfl), lw_t6 (List.mem_of_getElem? (i := 45) rfl)⟩
def lw_privs_4 : List (MethodName × Nat) := [(⟨"FittingStridesModel", "canGo", "(II)Z"⟩, 44), (⟨"FittingStridesModel", "goNow", "(II)V"⟩, 44), (⟨"FittingStridesModel", "dayNow", "()V"⟩, 44), (⟨"FittingStridesModel", "draw", "(I)I"⟩, 44), (⟨"FittingStridesModel", "isPlace", "(I)Z"⟩, 44), (⟨"FittingStridesModel", "isWish", "(III)Z"⟩, 44), (⟨"FittingStridesModel", "comesBy", "(III)Z"⟩, 44), (⟨"FittingStridesModel", "isCarried", "(IIII)Z"⟩, 44)]
theorem lw_r4 : ∀ q ∈ lw_privs_4, lw_okq q := List.forall_mem_cons.mpr ⟨lw_p48, List.forall_mem_cons.mpr ⟨lw_p49, List.forall_mem_cons.mpr ⟨lw_p50, List.forall_mem_cons.mpr ⟨lw_p51, List.forall_mem_cons.mpr ⟨lw_p52, List.forall_mem_cons.mpr ⟨lw_p53, List.forall_mem_cons.mpr ⟨lw_p54, List.forall_mem_cons.mpr ⟨lw_p55, fun _ h => absurd h List.not_mem_nil⟩⟩⟩⟩⟩⟩⟩⟩
def lw_privs : List (MethodName × Nat) := lw_privs_1 ++ (lw_privs_2 ++ (lw_privs_3 ++ (lw_privs_4)))
def lw_tbl : List Cond := k2_sels lw_privs ++ tables_1
theorem lw_privs_ok : ∀ q ∈ lw_privs, lw_okq q := by
  show ∀ q ∈ lw_privs_1 ++ (lw_privs_2 ++ (lw_privs_3 ++ (lw_privs_4))), lw_okq q
  exact List.forall_mem_append.mpr ⟨lw_r1, List.forall_mem_append.mpr ⟨lw_r2, List.forall_mem_append.mpr ⟨lw_r3, lw_r4⟩⟩⟩
-- ===== ONE list of words for every method: the tables' words that hold all through a run =====
def lw_all : List Cond := lw_tbl.filter goodWord
/-- a word of the tables by its place: claim/WORDS.tsv -/
theorem lw_w {w : Cond} (i : Nat) (h : lw_tbl[i]? = some w) (g : goodWord w = true) : w ∈ lw_all := List.mem_filter.mpr ⟨List.mem_of_getElem? h, g⟩
theorem lw_all_tbl {w : Cond} (h : w ∈ lw_all) : w ∈ lw_tbl := (List.mem_filter.mp h).1
theorem lw_self : GoodIn lw_all lw_all := fun w h => ⟨h, good_of_word (List.mem_filter.mp h).2⟩
/-- a class's field words, by their places -/
theorem lw_in (ws : List Cond) (ps : List Nat) (hp : ws = ps.filterMap (fun i => lw_tbl[i]?)) (hg : ws.all goodWord = true) : ∀ w ∈ ws, w ∈ lw_all := by
  intro w h
  have h1 := List.all_eq_true.mp hg w h
  rw [hp] at h
  obtain ⟨i, -, hi⟩ := List.mem_filterMap.mp h
  exact lw_w i hi h1
/-- the words of a contract for the method y with code b, L locals, answer r -/
abbrev ws_ (y : MethodName) (b : ByteArray) (L : Nat) (r : Option FieldType) : List Cond := Cond.code y b L r :: lw_all
theorem lw_meth {y : MethodName} {b : ByteArray} {L : Nat} {r : Option FieldType} (h : Cond.code y b L r ∈ lw_all) : GoodIn lw_all (ws_ y b L r) := by
  intro w hw
  rcases List.mem_cons.mp hw with e | e
  · rw [e]
    exact lw_self _ h
  · exact lw_self _ e
theorem lw_app {a c : List Cond} (ha : ∀ w ∈ a, w ∈ lw_all) (hc : GoodIn lw_all c) : GoodIn lw_all (a ++ c) := by
  intro w hw
  rcases List.mem_append.mp hw with e | e
  · exact lw_self w (ha w e)
  · exact hc w e
/-- what a call through an object asks: cwV n hts (lw_V ..) -/
theorem lw_V {own : String} {idx : Nat} {C : String} {y : MethodName} {b : ByteArray} {L : Nat} {r : Option FieldType} (h1 : Cond.methodLink own idx y ∈ lw_all) (h2 : Cond.instanceMethod y ∈ lw_all) (h3 : Cond.selects C y y ∈ lw_all) (h4 : Cond.initialized C ∈ lw_all) (h5 : Cond.code y b L r ∈ lw_all) : GoodIn lw_all (wsV own idx C y (ws_ y b L r)) := by
  refine lw_app ?_ (lw_meth h5)
  intro w hw
  simp only [List.mem_cons, List.not_mem_nil, or_false] at hw
  rcases hw with e | e | e | e
  · rw [e]; exact h1
  · rw [e]; exact h2
  · rw [e]; exact h3
  · rw [e]; exact h4
/-- what a static call asks: va_cwS n hts (lw_S ..) -/
theorem lw_S {own : String} {idx : Nat} {y : MethodName} {b : ByteArray} {L : Nat} {r : Option FieldType} (h1 : Cond.methodLink own idx y ∈ lw_all) (h2 : Cond.static y ∈ lw_all) (h3 : Cond.initialized y.cls ∈ lw_all) (h4 : Cond.code y b L r ∈ lw_all) : GoodIn lw_all (va_wsS own idx y (ws_ y b L r)) := by
  refine lw_app ?_ (lw_meth h4)
  intro w hw
  simp only [List.mem_cons, List.not_mem_nil, or_false] at hw
  rcases hw with e | e | e
  · rw [e]; exact h1
  · rw [e]; exact h2
  · rw [e]; exact h3
/-- the words of a contract for a method WITH HANDLERS (hh: its table) -/
abbrev wsW_ (y : MethodName) (b : ByteArray) (L : Nat) (r : Option FieldType) (hh : List (Nat × Nat × Nat × Nat)) : List Cond := Cond.codeWith y b L r hh :: lw_all
theorem lw_methW {y : MethodName} {b : ByteArray} {L : Nat} {r : Option FieldType} {hh : List (Nat × Nat × Nat × Nat)} (h : Cond.codeWith y b L r hh ∈ lw_all) : GoodIn lw_all (wsW_ y b L r hh) := by
  intro w hw
  rcases List.mem_cons.mp hw with e | e
  · rw [e]
    exact lw_self _ h
  · exact lw_self _ e
/-- any list of words by their places (lw_in), good -/
theorem lw_good {ws : List Cond} (h : ∀ w ∈ ws, w ∈ lw_all) : GoodIn lw_all ws := fun w hw => lw_self w (h w hw)
/-- what a call of a method with handlers asks: vx_cwVW n hts (lw_VW ..), vx_cwSW n hts (lw_SW ..) -/
theorem lw_VW {own : String} {idx : Nat} {C : String} {y : MethodName} {b : ByteArray} {L : Nat} {r : Option FieldType} {hh : List (Nat × Nat × Nat × Nat)} (h1 : Cond.methodLink own idx y ∈ lw_all) (h2 : Cond.instanceMethod y ∈ lw_all) (h3 : Cond.selects C y y ∈ lw_all) (h4 : Cond.initialized C ∈ lw_all) (h5 : Cond.codeWith y b L r hh ∈ lw_all) : GoodIn lw_all (wsV own idx C y (wsW_ y b L r hh)) := by
  refine lw_app ?_ (lw_methW h5)
  intro w hw
  simp only [List.mem_cons, List.not_mem_nil, or_false] at hw
  rcases hw with e | e | e | e
  · rw [e]; exact h1
  · rw [e]; exact h2
  · rw [e]; exact h3
  · rw [e]; exact h4
theorem lw_SW {own : String} {idx : Nat} {y : MethodName} {b : ByteArray} {L : Nat} {r : Option FieldType} {hh : List (Nat × Nat × Nat × Nat)} (h1 : Cond.methodLink own idx y ∈ lw_all) (h2 : Cond.static y ∈ lw_all) (h3 : Cond.initialized y.cls ∈ lw_all) (h4 : Cond.codeWith y b L r hh ∈ lw_all) : GoodIn lw_all (va_wsS own idx y (wsW_ y b L r hh)) := by
  refine lw_app ?_ (lw_methW h4)
  intro w hw
  simp only [List.mem_cons, List.not_mem_nil, or_false] at hw
  rcases hw with e | e | e
  · rw [e]; exact h1
  · rw [e]; exact h2
  · rw [e]; exact h3
/-- a word by its place in its run of the tables -/
theorem lw_at {r : List Cond} (hr : ∀ w ∈ r, w ∈ lw_tbl) {w : Cond} (i : Nat) (h : r[i]? = some w) : w ∈ lw_tbl := hr w (List.mem_of_getElem? h)
theorem lw_g {w : Cond} (h : w ∈ lw_tbl) (g : goodWord w = true) : w ∈ lw_all := List.mem_filter.mpr ⟨h, g⟩
theorem lw_ms : ∀ w ∈ k2_sels lw_privs, w ∈ lw_tbl := fun w h => show w ∈ k2_sels lw_privs ++ tables_1 from List.mem_append_left _ h
theorem lw_m1 : ∀ w ∈ tables_1_1, w ∈ lw_tbl := fun w h => show w ∈ k2_sels lw_privs ++ tables_1 from List.mem_append_right (k2_sels lw_privs) (show w ∈ tables_1 from List.mem_append_left _ h)
theorem lw_m2 : ∀ w ∈ tables_1_2, w ∈ lw_tbl := fun w h => show w ∈ k2_sels lw_privs ++ tables_1 from List.mem_append_right (k2_sels lw_privs) (show w ∈ tables_1 from List.mem_append_right _ (List.mem_append_left _ h))
theorem lw_m3 : ∀ w ∈ tables_1_3, w ∈ lw_tbl := fun w h => show w ∈ k2_sels lw_privs ++ tables_1 from List.mem_append_right (k2_sels lw_privs) (show w ∈ tables_1 from List.mem_append_right _ (List.mem_append_right _ (List.mem_append_left _ h)))
theorem lw_m4 : ∀ w ∈ tables_1_4, w ∈ lw_tbl := fun w h => show w ∈ k2_sels lw_privs ++ tables_1 from List.mem_append_right (k2_sels lw_privs) (show w ∈ tables_1 from List.mem_append_right _ (List.mem_append_right _ (List.mem_append_right _ (List.mem_append_left _ h))))
theorem lw_m5 : ∀ w ∈ tables_1_5, w ∈ lw_tbl := fun w h => show w ∈ k2_sels lw_privs ++ tables_1 from List.mem_append_right (k2_sels lw_privs) (show w ∈ tables_1 from List.mem_append_right _ (List.mem_append_right _ (List.mem_append_right _ (List.mem_append_right _ (List.mem_append_left _ h)))))
theorem lw_m6 : ∀ w ∈ tables_1_6, w ∈ lw_tbl := fun w h => show w ∈ k2_sels lw_privs ++ tables_1 from List.mem_append_right (k2_sels lw_privs) (show w ∈ tables_1 from List.mem_append_right _ (List.mem_append_right _ (List.mem_append_right _ (List.mem_append_right _ (List.mem_append_right _ h)))))
theorem qs0 : (Cond.selects "FittingStrides$Reader" ⟨"FittingStrides$Reader", "here", "()I"⟩ ⟨"FittingStrides$Reader", "here", "()I"⟩) ∈ lw_all := lw_g (lw_at lw_ms 0 rfl) rfl
theorem qs1 : (Cond.selects "FittingStrides$Reader" ⟨"FittingStrides$Reader", "word", "()Ljava/lang/String;"⟩ ⟨"FittingStrides$Reader", "word", "()Ljava/lang/String;"⟩) ∈ lw_all := lw_g (lw_at lw_ms 1 rfl) rfl
theorem qs2 : (Cond.selects "FittingStrides$Reader" ⟨"FittingStrides$Reader", "clause", "(Ljava/lang/String;I)V"⟩ ⟨"FittingStrides$Reader", "clause", "(Ljava/lang/String;I)V"⟩) ∈ lw_all := lw_g (lw_at lw_ms 2 rfl) rfl
theorem qs3 : (Cond.selects "java/lang/Throwable" ⟨"java/lang/Throwable", "fillInStackTrace", "(I)Ljava/lang/Throwable;"⟩ ⟨"java/lang/Throwable", "fillInStackTrace", "(I)Ljava/lang/Throwable;"⟩) ∈ lw_all := lw_g (lw_at lw_ms 3 rfl) rfl
theorem qs4 : (Cond.selects "FittingStrides$Reader" ⟨"FittingStrides$Reader", "number", "(II)I"⟩ ⟨"FittingStrides$Reader", "number", "(II)I"⟩) ∈ lw_all := lw_g (lw_at lw_ms 4 rfl) rfl
theorem qs5 : (Cond.selects "FittingStrides$Reader" ⟨"FittingStrides$Reader", "stair", "(I)V"⟩ ⟨"FittingStrides$Reader", "stair", "(I)V"⟩) ∈ lw_all := lw_g (lw_at lw_ms 5 rfl) rfl
theorem qs6 : (Cond.selects "FittingStrides$Reader" ⟨"FittingStrides$Reader", "place", "()I"⟩ ⟨"FittingStrides$Reader", "place", "()I"⟩) ∈ lw_all := lw_g (lw_at lw_ms 6 rfl) rfl
theorem qs7 : (Cond.selects "FittingStrides$Reader" ⟨"FittingStrides$Reader", "person", "(I)V"⟩ ⟨"FittingStrides$Reader", "person", "(I)V"⟩) ∈ lw_all := lw_g (lw_at lw_ms 7 rfl) rfl
theorem qs8 : (Cond.selects "FittingStrides" ⟨"FittingStrides", "allWorn", "()I"⟩ ⟨"FittingStrides", "allWorn", "()I"⟩) ∈ lw_all := lw_g (lw_at lw_ms 8 rfl) rfl
theorem qs9 : (Cond.selects "FittingStrides" ⟨"FittingStrides", "isStair", "(I)Z"⟩ ⟨"FittingStrides", "isStair", "(I)Z"⟩) ∈ lw_all := lw_g (lw_at lw_ms 9 rfl) rfl
theorem qs10 : (Cond.selects "FittingStrides" ⟨"FittingStrides", "at", "(I)LFittingStrides$Stair;"⟩ ⟨"FittingStrides", "at", "(I)LFittingStrides$Stair;"⟩) ∈ lw_all := lw_g (lw_at lw_ms 10 rfl) rfl
theorem qs11 : (Cond.selects "FittingStrides" ⟨"FittingStrides", "climbers", "(I)I"⟩ ⟨"FittingStrides", "climbers", "(I)I"⟩) ∈ lw_all := lw_g (lw_at lw_ms 11 rfl) rfl
theorem qs12 : (Cond.selects "FittingStrides" ⟨"FittingStrides", "mayClimb", "(III)Z"⟩ ⟨"FittingStrides", "mayClimb", "(III)Z"⟩) ∈ lw_all := lw_g (lw_at lw_ms 12 rfl) rfl
theorem qs13 : (Cond.selects "FittingStrides" ⟨"FittingStrides", "isPerson", "(I)Z"⟩ ⟨"FittingStrides", "isPerson", "(I)Z"⟩) ∈ lw_all := lw_g (lw_at lw_ms 13 rfl) rfl
theorem qs14 : (Cond.selects "FittingStrides" ⟨"FittingStrides", "reachOfPerson", "(I)I"⟩ ⟨"FittingStrides", "reachOfPerson", "(I)I"⟩) ∈ lw_all := lw_g (lw_at lw_ms 14 rfl) rfl
theorem qs15 : (Cond.selects "FittingStrides" ⟨"FittingStrides", "reachOf", "(III)I"⟩ ⟨"FittingStrides", "reachOf", "(III)I"⟩) ∈ lw_all := lw_g (lw_at lw_ms 15 rfl) rfl
theorem qs16 : (Cond.selects "FittingStrides" ⟨"FittingStrides", "mayGo", "(IIII)Z"⟩ ⟨"FittingStrides", "mayGo", "(IIII)Z"⟩) ∈ lw_all := lw_g (lw_at lw_ms 16 rfl) rfl
theorem qs17 : (Cond.selects "FittingStrides" ⟨"FittingStrides", "canGo", "(II)Z"⟩ ⟨"FittingStrides", "canGo", "(II)Z"⟩) ∈ lw_all := lw_g (lw_at lw_ms 17 rfl) rfl
theorem qs18 : (Cond.selects "FittingStrides" ⟨"FittingStrides", "goNow", "(II)V"⟩ ⟨"FittingStrides", "goNow", "(II)V"⟩) ∈ lw_all := lw_g (lw_at lw_ms 18 rfl) rfl
theorem qs19 : (Cond.selects "FittingStrides" ⟨"FittingStrides", "strideFor", "(II)I"⟩ ⟨"FittingStrides", "strideFor", "(II)I"⟩) ∈ lw_all := lw_g (lw_at lw_ms 19 rfl) rfl
theorem qs20 : (Cond.selects "FittingStrides" ⟨"FittingStrides", "isPart", "(II)Z"⟩ ⟨"FittingStrides", "isPart", "(II)Z"⟩) ∈ lw_all := lw_g (lw_at lw_ms 20 rfl) rfl
theorem qs21 : (Cond.selects "FittingStrides" ⟨"FittingStrides", "beget", "(I)V"⟩ ⟨"FittingStrides", "beget", "(I)V"⟩) ∈ lw_all := lw_g (lw_at lw_ms 21 rfl) rfl
theorem qs22 : (Cond.selects "FittingStrides" ⟨"FittingStrides", "isPlace", "(I)Z"⟩ ⟨"FittingStrides", "isPlace", "(I)Z"⟩) ∈ lw_all := lw_g (lw_at lw_ms 22 rfl) rfl
theorem qs23 : (Cond.selects "FittingStrides" ⟨"FittingStrides", "isSet", "(I)Z"⟩ ⟨"FittingStrides", "isSet", "(I)Z"⟩) ∈ lw_all := lw_g (lw_at lw_ms 23 rfl) rfl
theorem qs24 : (Cond.selects "FittingStrides" ⟨"FittingStrides", "multipleOf", "(I)I"⟩ ⟨"FittingStrides", "multipleOf", "(I)I"⟩) ∈ lw_all := lw_g (lw_at lw_ms 24 rfl) rfl
theorem qs25 : (Cond.selects "FittingStrides" ⟨"FittingStrides", "keepsOff", "(II)Z"⟩ ⟨"FittingStrides", "keepsOff", "(II)Z"⟩) ∈ lw_all := lw_g (lw_at lw_ms 25 rfl) rfl
theorem qs26 : (Cond.selects "FittingStrides" ⟨"FittingStrides", "bringAll", "(I)Z"⟩ ⟨"FittingStrides", "bringAll", "(I)Z"⟩) ∈ lw_all := lw_g (lw_at lw_ms 26 rfl) rfl
theorem qs27 : (Cond.selects "FittingStrides" ⟨"FittingStrides", "bring", "(IIII)Z"⟩ ⟨"FittingStrides", "bring", "(IIII)Z"⟩) ∈ lw_all := lw_g (lw_at lw_ms 27 rfl) rfl
theorem qs28 : (Cond.selects "FittingStrides" ⟨"FittingStrides", "climbersWith", "(III)I"⟩ ⟨"FittingStrides", "climbersWith", "(III)I"⟩) ∈ lw_all := lw_g (lw_at lw_ms 28 rfl) rfl
theorem qs29 : (Cond.selects "FittingStrides" ⟨"FittingStrides", "areClimbedBy", "(I)Z"⟩ ⟨"FittingStrides", "areClimbedBy", "(I)Z"⟩) ∈ lw_all := lw_g (lw_at lw_ms 29 rfl) rfl
theorem qs30 : (Cond.selects "FittingStrides" ⟨"FittingStrides", "isAsSeen", "(I)Z"⟩ ⟨"FittingStrides", "isAsSeen", "(I)Z"⟩) ∈ lw_all := lw_g (lw_at lw_ms 30 rfl) rfl
theorem qs31 : (Cond.selects "FittingStridesModel" ⟨"FittingStridesModel", "here", "()I"⟩ ⟨"FittingStridesModel", "here", "()I"⟩) ∈ lw_all := lw_g (lw_at lw_ms 31 rfl) rfl
theorem qs32 : (Cond.selects "FittingStridesModel" ⟨"FittingStridesModel", "takeClause", "()I"⟩ ⟨"FittingStridesModel", "takeClause", "()I"⟩) ∈ lw_all := lw_g (lw_at lw_ms 32 rfl) rfl
theorem qs33 : (Cond.selects "FittingStridesModel" ⟨"FittingStridesModel", "readWord", "()V"⟩ ⟨"FittingStridesModel", "readWord", "()V"⟩) ∈ lw_all := lw_g (lw_at lw_ms 33 rfl) rfl
theorem qs34 : (Cond.selects "FittingStridesModel" ⟨"FittingStridesModel", "fails", "(II)I"⟩ ⟨"FittingStridesModel", "fails", "(II)I"⟩) ∈ lw_all := lw_g (lw_at lw_ms 34 rfl) rfl
theorem qs35 : (Cond.selects "FittingStridesModel" ⟨"FittingStridesModel", "takeNumber", "(II)I"⟩ ⟨"FittingStridesModel", "takeNumber", "(II)I"⟩) ∈ lw_all := lw_g (lw_at lw_ms 35 rfl) rfl
theorem qs36 : (Cond.selects "FittingStridesModel" ⟨"FittingStridesModel", "takeStair", "()I"⟩ ⟨"FittingStridesModel", "takeStair", "()I"⟩) ∈ lw_all := lw_g (lw_at lw_ms 36 rfl) rfl
theorem qs37 : (Cond.selects "FittingStridesModel" ⟨"FittingStridesModel", "into", "([IIII)I"⟩ ⟨"FittingStridesModel", "into", "([IIII)I"⟩) ∈ lw_all := lw_g (lw_at lw_ms 37 rfl) rfl
theorem qs38 : (Cond.selects "FittingStridesModel" ⟨"FittingStridesModel", "takeParts", "(I)I"⟩ ⟨"FittingStridesModel", "takeParts", "(I)I"⟩) ∈ lw_all := lw_g (lw_at lw_ms 38 rfl) rfl
theorem qs39 : (Cond.selects "FittingStridesModel" ⟨"FittingStridesModel", "takePerson", "()I"⟩ ⟨"FittingStridesModel", "takePerson", "()I"⟩) ∈ lw_all := lw_g (lw_at lw_ms 39 rfl) rfl
theorem qs40 : (Cond.selects "FittingStridesModel" ⟨"FittingStridesModel", "allWorn", "()I"⟩ ⟨"FittingStridesModel", "allWorn", "()I"⟩) ∈ lw_all := lw_g (lw_at lw_ms 40 rfl) rfl
theorem qs41 : (Cond.selects "FittingStridesModel" ⟨"FittingStridesModel", "isStair", "(I)Z"⟩ ⟨"FittingStridesModel", "isStair", "(I)Z"⟩) ∈ lw_all := lw_g (lw_at lw_ms 41 rfl) rfl
theorem qs42 : (Cond.selects "FittingStridesModel" ⟨"FittingStridesModel", "climbers", "(I)I"⟩ ⟨"FittingStridesModel", "climbers", "(I)I"⟩) ∈ lw_all := lw_g (lw_at lw_ms 42 rfl) rfl
theorem qs43 : (Cond.selects "FittingStridesModel" ⟨"FittingStridesModel", "mayClimb", "(II)Z"⟩ ⟨"FittingStridesModel", "mayClimb", "(II)Z"⟩) ∈ lw_all := lw_g (lw_at lw_ms 43 rfl) rfl
theorem qs44 : (Cond.selects "FittingStridesModel" ⟨"FittingStridesModel", "isFit", "(II)Z"⟩ ⟨"FittingStridesModel", "isFit", "(II)Z"⟩) ∈ lw_all := lw_g (lw_at lw_ms 44 rfl) rfl
theorem qs45 : (Cond.selects "FittingStridesModel" ⟨"FittingStridesModel", "isPerson", "(I)Z"⟩ ⟨"FittingStridesModel", "isPerson", "(I)Z"⟩) ∈ lw_all := lw_g (lw_at lw_ms 45 rfl) rfl
theorem qs46 : (Cond.selects "FittingStridesModel" ⟨"FittingStridesModel", "reachOfPerson", "(I)I"⟩ ⟨"FittingStridesModel", "reachOfPerson", "(I)I"⟩) ∈ lw_all := lw_g (lw_at lw_ms 46 rfl) rfl
theorem qs47 : (Cond.selects "FittingStridesModel" ⟨"FittingStridesModel", "reachOf", "(III)I"⟩ ⟨"FittingStridesModel", "reachOf", "(III)I"⟩) ∈ lw_all := lw_g (lw_at lw_ms 47 rfl) rfl
theorem qs48 : (Cond.selects "FittingStridesModel" ⟨"FittingStridesModel", "canGo", "(II)Z"⟩ ⟨"FittingStridesModel", "canGo", "(II)Z"⟩) ∈ lw_all := lw_g (lw_at lw_ms 48 rfl) rfl
theorem qs49 : (Cond.selects "FittingStridesModel" ⟨"FittingStridesModel", "goNow", "(II)V"⟩ ⟨"FittingStridesModel", "goNow", "(II)V"⟩) ∈ lw_all := lw_g (lw_at lw_ms 49 rfl) rfl
theorem qs50 : (Cond.selects "FittingStridesModel" ⟨"FittingStridesModel", "dayNow", "()V"⟩ ⟨"FittingStridesModel", "dayNow", "()V"⟩) ∈ lw_all := lw_g (lw_at lw_ms 50 rfl) rfl
theorem qs51 : (Cond.selects "FittingStridesModel" ⟨"FittingStridesModel", "draw", "(I)I"⟩ ⟨"FittingStridesModel", "draw", "(I)I"⟩) ∈ lw_all := lw_g (lw_at lw_ms 51 rfl) rfl
theorem qs52 : (Cond.selects "FittingStridesModel" ⟨"FittingStridesModel", "isPlace", "(I)Z"⟩ ⟨"FittingStridesModel", "isPlace", "(I)Z"⟩) ∈ lw_all := lw_g (lw_at lw_ms 52 rfl) rfl
theorem qs53 : (Cond.selects "FittingStridesModel" ⟨"FittingStridesModel", "isWish", "(III)Z"⟩ ⟨"FittingStridesModel", "isWish", "(III)Z"⟩) ∈ lw_all := lw_g (lw_at lw_ms 53 rfl) rfl
theorem qs54 : (Cond.selects "FittingStridesModel" ⟨"FittingStridesModel", "comesBy", "(III)Z"⟩ ⟨"FittingStridesModel", "comesBy", "(III)Z"⟩) ∈ lw_all := lw_g (lw_at lw_ms 54 rfl) rfl
theorem qs55 : (Cond.selects "FittingStridesModel" ⟨"FittingStridesModel", "isCarried", "(IIII)Z"⟩ ⟨"FittingStridesModel", "isCarried", "(IIII)Z"⟩) ∈ lw_all := lw_g (lw_at lw_ms 55 rfl) rfl
