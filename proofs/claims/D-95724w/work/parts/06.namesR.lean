/-! FittingStrides$Reader -/
set_option maxRecDepth 100000
def RX4 : String := "FittingStrides$Reader"
def TX4 : u_T := fun k => match k with
  | 0 => ("FittingStrides$Reader", "text", "[B", true)
  | 1 => ("FittingStrides$Reader", "size", "I", true)
  | 2 => ("FittingStrides$Reader", "town", "LFittingStrides$Town;", true)
  | 3 => ("FittingStrides$Reader", "at", "I", false)
  | _ => ("FittingStrides$Reader", "from", "I", false)
def tyX4 : Nat → FieldType := fun k => match k with
  | 0 => .array .byte
  | 1 => .int
  | 2 => .object "FittingStrides$Town"
  | 3 => .int
  | _ => .int
abbrev wsX40 : List Cond := u_ws RX4 TX4 5
theorem nmX4 : ∀ a, a < 5 → ∀ b, b < 5 → a ≠ b → (TX4 a).2.1 ≠ (TX4 b).2.1 := by decide +kernel
theorem tyX4_ok : ∀ k, k < 5 → parseFieldDescriptor (TX4 k).2.2.1 = some (tyX4 k) := by decide +kernel
abbrev cX4_init : ByteArray := prog_6_method_1_code
def yX4_init : MethodName := ⟨RX4, "<init>", "([BI)V"⟩
def dkwX4_init_1 : List UInt8 := [181, 0, 22, 177]
abbrev dktX4_init_1 : List UInt8 := dkwX4_init_1 ++ []
def dkwX4_init_0 : List UInt8 := [42, 183, 0, 3, 42, 187, 0, 9, 89, 183, 0, 11, 181, 0, 12, 42, 43, 181, 0, 18, 42, 28]
abbrev dktX4_init_0 : List UInt8 := dkwX4_init_0 ++ dktX4_init_1
theorem dksX4_init_0 : cX4_init.data.toList.drop 0 = dktX4_init_0 := by decide +kernel
theorem dksX4_init_1 : cX4_init.data.toList.drop 22 = dktX4_init_1 := dk_seg dksX4_init_0 22 rfl rfl
theorem dX4_init_0 : decode cX4_init 0 = .ok (.aload_n 0, 1) := dk_42 (dk_at dksX4_init_0 0 rfl rfl)
theorem dX4_init_1 : decode cX4_init 1 = .ok (.invokespecial 3, 3) := dk_183 0 3 (dk_at dksX4_init_0 1 rfl rfl)
theorem dX4_init_4 : decode cX4_init 4 = .ok (.aload_n 0, 1) := dk_42 (dk_at dksX4_init_0 4 rfl rfl)
theorem dX4_init_5 : decode cX4_init 5 = .ok (.new 9, 3) := dk_187 0 9 (dk_at dksX4_init_0 5 rfl rfl)
theorem dX4_init_8 : decode cX4_init 8 = .ok (.dup, 1) := dk_89 (dk_at dksX4_init_0 8 rfl rfl)
theorem dX4_init_9 : decode cX4_init 9 = .ok (.invokespecial 11, 3) := dk_183 0 11 (dk_at dksX4_init_0 9 rfl rfl)
theorem dX4_init_12 : decode cX4_init 12 = .ok (.putfield 12, 3) := dk_181 0 12 (dk_at dksX4_init_0 12 rfl rfl)
theorem dX4_init_15 : decode cX4_init 15 = .ok (.aload_n 0, 1) := dk_42 (dk_at dksX4_init_0 15 rfl rfl)
theorem dX4_init_16 : decode cX4_init 16 = .ok (.aload_n 1, 1) := dk_43 (dk_at dksX4_init_0 16 rfl rfl)
theorem dX4_init_17 : decode cX4_init 17 = .ok (.putfield 18, 3) := dk_181 0 18 (dk_at dksX4_init_0 17 rfl rfl)
theorem dX4_init_20 : decode cX4_init 20 = .ok (.aload_n 0, 1) := dk_42 (dk_at dksX4_init_0 20 rfl rfl)
theorem dX4_init_21 : decode cX4_init 21 = .ok (.iload_n 2, 1) := dk_28 (dk_at dksX4_init_0 21 rfl rfl)
theorem dX4_init_22 : decode cX4_init 22 = .ok (.putfield 22, 3) := dk_181 0 22 (dk_at dksX4_init_1 0 rfl rfl)
theorem dX4_init_25 : decode cX4_init 25 = .ok (.return_, 1) := dk_177 (dk_at dksX4_init_1 3 rfl rfl)
abbrev cX4_all : ByteArray := prog_6_method_10_code
def yX4_all : MethodName := ⟨RX4, "all", "()LFittingStrides$Town;"⟩
def dkwX4_all_2 : List UInt8 := [180, 0, 26, 4, 96, 181, 0, 26, 167, 255, 202, 42, 180, 0, 12, 176]
abbrev dktX4_all_2 : List UInt8 := dkwX4_all_2 ++ []
def dkwX4_all_1 : List UInt8 := [182, 0, 37, 16, 59, 160, 0, 7, 4, 167, 0, 4, 3, 4, 42, 180, 0, 26, 184, 0, 56, 42, 89]
abbrev dktX4_all_1 : List UInt8 := dkwX4_all_1 ++ dktX4_all_2
def dkwX4_all_0 : List UInt8 := [42, 182, 0, 37, 2, 159, 0, 52, 42, 182, 0, 75, 76, 42, 43, 42, 180, 0, 41, 182, 0, 137, 42]
abbrev dktX4_all_0 : List UInt8 := dkwX4_all_0 ++ dktX4_all_1
theorem dksX4_all_0 : cX4_all.data.toList.drop 0 = dktX4_all_0 := by decide +kernel
theorem dksX4_all_1 : cX4_all.data.toList.drop 23 = dktX4_all_1 := dk_seg dksX4_all_0 23 rfl rfl
theorem dksX4_all_2 : cX4_all.data.toList.drop 46 = dktX4_all_2 := dk_seg dksX4_all_1 23 rfl rfl
theorem dX4_all_0 : decode cX4_all 0 = .ok (.aload_n 0, 1) := dk_42 (dk_at dksX4_all_0 0 rfl rfl)
theorem dX4_all_1 : decode cX4_all 1 = .ok (.invokevirtual 37, 3) := dk_182 0 37 (dk_at dksX4_all_0 1 rfl rfl)
theorem dX4_all_4 : decode cX4_all 4 = .ok (.iconst (-1), 1) := dk_2 (dk_at dksX4_all_0 4 rfl rfl)
theorem dX4_all_5 : decode cX4_all 5 = .ok (.if_icmp .eq 52, 3) := dk_159 0 52 (dk_at dksX4_all_0 5 rfl rfl)
theorem dX4_all_8 : decode cX4_all 8 = .ok (.aload_n 0, 1) := dk_42 (dk_at dksX4_all_0 8 rfl rfl)
theorem dX4_all_9 : decode cX4_all 9 = .ok (.invokevirtual 75, 3) := dk_182 0 75 (dk_at dksX4_all_0 9 rfl rfl)
theorem dX4_all_12 : decode cX4_all 12 = .ok (.astore_n 1, 1) := dk_76 (dk_at dksX4_all_0 12 rfl rfl)
theorem dX4_all_13 : decode cX4_all 13 = .ok (.aload_n 0, 1) := dk_42 (dk_at dksX4_all_0 13 rfl rfl)
theorem dX4_all_14 : decode cX4_all 14 = .ok (.aload_n 1, 1) := dk_43 (dk_at dksX4_all_0 14 rfl rfl)
theorem dX4_all_15 : decode cX4_all 15 = .ok (.aload_n 0, 1) := dk_42 (dk_at dksX4_all_0 15 rfl rfl)
theorem dX4_all_16 : decode cX4_all 16 = .ok (.getfield 41, 3) := dk_180 0 41 (dk_at dksX4_all_0 16 rfl rfl)
theorem dX4_all_19 : decode cX4_all 19 = .ok (.invokevirtual 137, 3) := dk_182 0 137 (dk_at dksX4_all_0 19 rfl rfl)
theorem dX4_all_22 : decode cX4_all 22 = .ok (.aload_n 0, 1) := dk_42 (dk_at dksX4_all_0 22 rfl rfl)
theorem dX4_all_23 : decode cX4_all 23 = .ok (.invokevirtual 37, 3) := dk_182 0 37 (dk_at dksX4_all_1 0 rfl rfl)
theorem dX4_all_26 : decode cX4_all 26 = .ok (.bipush 59, 2) := dk_16 59 (dk_at dksX4_all_1 3 rfl rfl)
theorem dX4_all_28 : decode cX4_all 28 = .ok (.if_icmp .ne 7, 3) := dk_160 0 7 (dk_at dksX4_all_1 5 rfl rfl)
theorem dX4_all_31 : decode cX4_all 31 = .ok (.iconst 1, 1) := dk_4 (dk_at dksX4_all_1 8 rfl rfl)
theorem dX4_all_32 : decode cX4_all 32 = .ok (.goto 4, 3) := dk_167 0 4 (dk_at dksX4_all_1 9 rfl rfl)
theorem dX4_all_35 : decode cX4_all 35 = .ok (.iconst 0, 1) := dk_3 (dk_at dksX4_all_1 12 rfl rfl)
theorem dX4_all_36 : decode cX4_all 36 = .ok (.iconst 1, 1) := dk_4 (dk_at dksX4_all_1 13 rfl rfl)
theorem dX4_all_37 : decode cX4_all 37 = .ok (.aload_n 0, 1) := dk_42 (dk_at dksX4_all_1 14 rfl rfl)
theorem dX4_all_38 : decode cX4_all 38 = .ok (.getfield 26, 3) := dk_180 0 26 (dk_at dksX4_all_1 15 rfl rfl)
theorem dX4_all_41 : decode cX4_all 41 = .ok (.invokestatic 56, 3) := dk_184 0 56 (dk_at dksX4_all_1 18 rfl rfl)
theorem dX4_all_44 : decode cX4_all 44 = .ok (.aload_n 0, 1) := dk_42 (dk_at dksX4_all_1 21 rfl rfl)
theorem dX4_all_45 : decode cX4_all 45 = .ok (.dup, 1) := dk_89 (dk_at dksX4_all_1 22 rfl rfl)
theorem dX4_all_46 : decode cX4_all 46 = .ok (.getfield 26, 3) := dk_180 0 26 (dk_at dksX4_all_2 0 rfl rfl)
theorem dX4_all_49 : decode cX4_all 49 = .ok (.iconst 1, 1) := dk_4 (dk_at dksX4_all_2 3 rfl rfl)
theorem dX4_all_50 : decode cX4_all 50 = .ok (.iadd, 1) := dk_96 (dk_at dksX4_all_2 4 rfl rfl)
theorem dX4_all_51 : decode cX4_all 51 = .ok (.putfield 26, 3) := dk_181 0 26 (dk_at dksX4_all_2 5 rfl rfl)
theorem dX4_all_54 : decode cX4_all 54 = .ok (.goto (-54), 3) := dk_167 255 202 (dk_at dksX4_all_2 8 rfl rfl)
theorem dX4_all_57 : decode cX4_all 57 = .ok (.aload_n 0, 1) := dk_42 (dk_at dksX4_all_2 11 rfl rfl)
theorem dX4_all_58 : decode cX4_all 58 = .ok (.getfield 12, 3) := dk_180 0 12 (dk_at dksX4_all_2 12 rfl rfl)
theorem dX4_all_61 : decode cX4_all 61 = .ok (.areturn, 1) := dk_176 (dk_at dksX4_all_2 15 rfl rfl)
abbrev cX4_here : ByteArray := prog_6_method_2_code
def yX4_here : MethodName := ⟨RX4, "here", "()I"⟩
def dkwX4_here_2 : List UInt8 := [162, 0, 19, 42, 180, 0, 18, 42, 180, 0, 26, 51, 17, 0, 255, 126, 167, 0, 4, 2, 172]
abbrev dktX4_here_2 : List UInt8 := dkwX4_here_2 ++ []
def dkwX4_here_1 : List UInt8 := [160, 0, 16, 42, 89, 180, 0, 26, 4, 96, 181, 0, 26, 167, 255, 221, 42, 180, 0, 26, 42, 180, 0, 22]
abbrev dktX4_here_1 : List UInt8 := dkwX4_here_1 ++ dktX4_here_2
def dkwX4_here_0 : List UInt8 := [42, 180, 0, 26, 42, 180, 0, 22, 162, 0, 30, 42, 180, 0, 18, 42, 180, 0, 26, 51, 16, 32]
abbrev dktX4_here_0 : List UInt8 := dkwX4_here_0 ++ dktX4_here_1
theorem dksX4_here_0 : cX4_here.data.toList.drop 0 = dktX4_here_0 := by decide +kernel
theorem dksX4_here_1 : cX4_here.data.toList.drop 22 = dktX4_here_1 := dk_seg dksX4_here_0 22 rfl rfl
theorem dksX4_here_2 : cX4_here.data.toList.drop 46 = dktX4_here_2 := dk_seg dksX4_here_1 24 rfl rfl
theorem dX4_here_0 : decode cX4_here 0 = .ok (.aload_n 0, 1) := dk_42 (dk_at dksX4_here_0 0 rfl rfl)
theorem dX4_here_1 : decode cX4_here 1 = .ok (.getfield 26, 3) := dk_180 0 26 (dk_at dksX4_here_0 1 rfl rfl)
theorem dX4_here_4 : decode cX4_here 4 = .ok (.aload_n 0, 1) := dk_42 (dk_at dksX4_here_0 4 rfl rfl)
theorem dX4_here_5 : decode cX4_here 5 = .ok (.getfield 22, 3) := dk_180 0 22 (dk_at dksX4_here_0 5 rfl rfl)
theorem dX4_here_8 : decode cX4_here 8 = .ok (.if_icmp .ge 30, 3) := dk_162 0 30 (dk_at dksX4_here_0 8 rfl rfl)
theorem dX4_here_11 : decode cX4_here 11 = .ok (.aload_n 0, 1) := dk_42 (dk_at dksX4_here_0 11 rfl rfl)
theorem dX4_here_12 : decode cX4_here 12 = .ok (.getfield 18, 3) := dk_180 0 18 (dk_at dksX4_here_0 12 rfl rfl)
theorem dX4_here_15 : decode cX4_here 15 = .ok (.aload_n 0, 1) := dk_42 (dk_at dksX4_here_0 15 rfl rfl)
theorem dX4_here_16 : decode cX4_here 16 = .ok (.getfield 26, 3) := dk_180 0 26 (dk_at dksX4_here_0 16 rfl rfl)
theorem dX4_here_19 : decode cX4_here 19 = .ok (.baload, 1) := dk_51 (dk_at dksX4_here_0 19 rfl rfl)
theorem dX4_here_20 : decode cX4_here 20 = .ok (.bipush 32, 2) := dk_16 32 (dk_at dksX4_here_0 20 rfl rfl)
theorem dX4_here_22 : decode cX4_here 22 = .ok (.if_icmp .ne 16, 3) := dk_160 0 16 (dk_at dksX4_here_1 0 rfl rfl)
theorem dX4_here_25 : decode cX4_here 25 = .ok (.aload_n 0, 1) := dk_42 (dk_at dksX4_here_1 3 rfl rfl)
theorem dX4_here_26 : decode cX4_here 26 = .ok (.dup, 1) := dk_89 (dk_at dksX4_here_1 4 rfl rfl)
theorem dX4_here_27 : decode cX4_here 27 = .ok (.getfield 26, 3) := dk_180 0 26 (dk_at dksX4_here_1 5 rfl rfl)
theorem dX4_here_30 : decode cX4_here 30 = .ok (.iconst 1, 1) := dk_4 (dk_at dksX4_here_1 8 rfl rfl)
theorem dX4_here_31 : decode cX4_here 31 = .ok (.iadd, 1) := dk_96 (dk_at dksX4_here_1 9 rfl rfl)
theorem dX4_here_32 : decode cX4_here 32 = .ok (.putfield 26, 3) := dk_181 0 26 (dk_at dksX4_here_1 10 rfl rfl)
theorem dX4_here_35 : decode cX4_here 35 = .ok (.goto (-35), 3) := dk_167 255 221 (dk_at dksX4_here_1 13 rfl rfl)
theorem dX4_here_38 : decode cX4_here 38 = .ok (.aload_n 0, 1) := dk_42 (dk_at dksX4_here_1 16 rfl rfl)
theorem dX4_here_39 : decode cX4_here 39 = .ok (.getfield 26, 3) := dk_180 0 26 (dk_at dksX4_here_1 17 rfl rfl)
theorem dX4_here_42 : decode cX4_here 42 = .ok (.aload_n 0, 1) := dk_42 (dk_at dksX4_here_1 20 rfl rfl)
theorem dX4_here_43 : decode cX4_here 43 = .ok (.getfield 22, 3) := dk_180 0 22 (dk_at dksX4_here_1 21 rfl rfl)
theorem dX4_here_46 : decode cX4_here 46 = .ok (.if_icmp .ge 19, 3) := dk_162 0 19 (dk_at dksX4_here_2 0 rfl rfl)
theorem dX4_here_49 : decode cX4_here 49 = .ok (.aload_n 0, 1) := dk_42 (dk_at dksX4_here_2 3 rfl rfl)
theorem dX4_here_50 : decode cX4_here 50 = .ok (.getfield 18, 3) := dk_180 0 18 (dk_at dksX4_here_2 4 rfl rfl)
theorem dX4_here_53 : decode cX4_here 53 = .ok (.aload_n 0, 1) := dk_42 (dk_at dksX4_here_2 7 rfl rfl)
theorem dX4_here_54 : decode cX4_here 54 = .ok (.getfield 26, 3) := dk_180 0 26 (dk_at dksX4_here_2 8 rfl rfl)
theorem dX4_here_57 : decode cX4_here 57 = .ok (.baload, 1) := dk_51 (dk_at dksX4_here_2 11 rfl rfl)
theorem dX4_here_58 : decode cX4_here 58 = .ok (.sipush 255, 3) := dk_17 0 255 (dk_at dksX4_here_2 12 rfl rfl)
theorem dX4_here_61 : decode cX4_here 61 = .ok (.iand, 1) := dk_126 (dk_at dksX4_here_2 15 rfl rfl)
theorem dX4_here_62 : decode cX4_here 62 = .ok (.goto 4, 3) := dk_167 0 4 (dk_at dksX4_here_2 16 rfl rfl)
theorem dX4_here_65 : decode cX4_here 65 = .ok (.iconst (-1), 1) := dk_2 (dk_at dksX4_here_2 19 rfl rfl)
theorem dX4_here_66 : decode cX4_here 66 = .ok (.ireturn, 1) := dk_172 (dk_at dksX4_here_2 20 rfl rfl)
abbrev cX4_word : ByteArray := prog_6_method_4_code
def yX4_word : MethodName := ⟨RX4, "word", "()Ljava/lang/String;"⟩
def dkwX4_word_3 : List UInt8 := [180, 0, 26, 4, 96, 181, 0, 26, 167, 255, 201, 43, 182, 0, 52, 176]
abbrev dktX4_word_3 : List UInt8 := dkwX4_word_3 ++ []
def dkwX4_word_2 : List UInt8 := [184, 0, 44, 153, 0, 31, 43, 42, 180, 0, 18, 42, 180, 0, 26, 51, 146, 182, 0, 48, 87, 42, 89]
abbrev dktX4_word_2 : List UInt8 := dkwX4_word_2 ++ dktX4_word_3
def dkwX4_word_1 : List UInt8 := [180, 0, 26, 42, 180, 0, 22, 162, 0, 50, 42, 180, 0, 18, 42, 180, 0, 26, 51, 16, 97, 16, 122]
abbrev dktX4_word_1 : List UInt8 := dkwX4_word_1 ++ dktX4_word_2
def dkwX4_word_0 : List UInt8 := [187, 0, 34, 89, 183, 0, 36, 76, 42, 182, 0, 37, 61, 42, 42, 180, 0, 26, 181, 0, 41, 42]
abbrev dktX4_word_0 : List UInt8 := dkwX4_word_0 ++ dktX4_word_1
theorem dksX4_word_0 : cX4_word.data.toList.drop 0 = dktX4_word_0 := by decide +kernel
theorem dksX4_word_1 : cX4_word.data.toList.drop 22 = dktX4_word_1 := dk_seg dksX4_word_0 22 rfl rfl
theorem dksX4_word_2 : cX4_word.data.toList.drop 45 = dktX4_word_2 := dk_seg dksX4_word_1 23 rfl rfl
theorem dksX4_word_3 : cX4_word.data.toList.drop 68 = dktX4_word_3 := dk_seg dksX4_word_2 23 rfl rfl
theorem dX4_word_0 : decode cX4_word 0 = .ok (.new 34, 3) := dk_187 0 34 (dk_at dksX4_word_0 0 rfl rfl)
theorem dX4_word_3 : decode cX4_word 3 = .ok (.dup, 1) := dk_89 (dk_at dksX4_word_0 3 rfl rfl)
theorem dX4_word_4 : decode cX4_word 4 = .ok (.invokespecial 36, 3) := dk_183 0 36 (dk_at dksX4_word_0 4 rfl rfl)
theorem dX4_word_7 : decode cX4_word 7 = .ok (.astore_n 1, 1) := dk_76 (dk_at dksX4_word_0 7 rfl rfl)
theorem dX4_word_8 : decode cX4_word 8 = .ok (.aload_n 0, 1) := dk_42 (dk_at dksX4_word_0 8 rfl rfl)
theorem dX4_word_9 : decode cX4_word 9 = .ok (.invokevirtual 37, 3) := dk_182 0 37 (dk_at dksX4_word_0 9 rfl rfl)
theorem dX4_word_12 : decode cX4_word 12 = .ok (.istore_n 2, 1) := dk_61 (dk_at dksX4_word_0 12 rfl rfl)
theorem dX4_word_13 : decode cX4_word 13 = .ok (.aload_n 0, 1) := dk_42 (dk_at dksX4_word_0 13 rfl rfl)
theorem dX4_word_14 : decode cX4_word 14 = .ok (.aload_n 0, 1) := dk_42 (dk_at dksX4_word_0 14 rfl rfl)
theorem dX4_word_15 : decode cX4_word 15 = .ok (.getfield 26, 3) := dk_180 0 26 (dk_at dksX4_word_0 15 rfl rfl)
theorem dX4_word_18 : decode cX4_word 18 = .ok (.putfield 41, 3) := dk_181 0 41 (dk_at dksX4_word_0 18 rfl rfl)
theorem dX4_word_21 : decode cX4_word 21 = .ok (.aload_n 0, 1) := dk_42 (dk_at dksX4_word_0 21 rfl rfl)
theorem dX4_word_22 : decode cX4_word 22 = .ok (.getfield 26, 3) := dk_180 0 26 (dk_at dksX4_word_1 0 rfl rfl)
theorem dX4_word_25 : decode cX4_word 25 = .ok (.aload_n 0, 1) := dk_42 (dk_at dksX4_word_1 3 rfl rfl)
theorem dX4_word_26 : decode cX4_word 26 = .ok (.getfield 22, 3) := dk_180 0 22 (dk_at dksX4_word_1 4 rfl rfl)
theorem dX4_word_29 : decode cX4_word 29 = .ok (.if_icmp .ge 50, 3) := dk_162 0 50 (dk_at dksX4_word_1 7 rfl rfl)
theorem dX4_word_32 : decode cX4_word 32 = .ok (.aload_n 0, 1) := dk_42 (dk_at dksX4_word_1 10 rfl rfl)
theorem dX4_word_33 : decode cX4_word 33 = .ok (.getfield 18, 3) := dk_180 0 18 (dk_at dksX4_word_1 11 rfl rfl)
theorem dX4_word_36 : decode cX4_word 36 = .ok (.aload_n 0, 1) := dk_42 (dk_at dksX4_word_1 14 rfl rfl)
theorem dX4_word_37 : decode cX4_word 37 = .ok (.getfield 26, 3) := dk_180 0 26 (dk_at dksX4_word_1 15 rfl rfl)
theorem dX4_word_40 : decode cX4_word 40 = .ok (.baload, 1) := dk_51 (dk_at dksX4_word_1 18 rfl rfl)
theorem dX4_word_41 : decode cX4_word 41 = .ok (.bipush 97, 2) := dk_16 97 (dk_at dksX4_word_1 19 rfl rfl)
theorem dX4_word_43 : decode cX4_word 43 = .ok (.bipush 122, 2) := dk_16 122 (dk_at dksX4_word_1 21 rfl rfl)
theorem dX4_word_45 : decode cX4_word 45 = .ok (.invokestatic 44, 3) := dk_184 0 44 (dk_at dksX4_word_2 0 rfl rfl)
theorem dX4_word_48 : decode cX4_word 48 = .ok (.ifCond .eq 31, 3) := dk_153 0 31 (dk_at dksX4_word_2 3 rfl rfl)
theorem dX4_word_51 : decode cX4_word 51 = .ok (.aload_n 1, 1) := dk_43 (dk_at dksX4_word_2 6 rfl rfl)
theorem dX4_word_52 : decode cX4_word 52 = .ok (.aload_n 0, 1) := dk_42 (dk_at dksX4_word_2 7 rfl rfl)
theorem dX4_word_53 : decode cX4_word 53 = .ok (.getfield 18, 3) := dk_180 0 18 (dk_at dksX4_word_2 8 rfl rfl)
theorem dX4_word_56 : decode cX4_word 56 = .ok (.aload_n 0, 1) := dk_42 (dk_at dksX4_word_2 11 rfl rfl)
theorem dX4_word_57 : decode cX4_word 57 = .ok (.getfield 26, 3) := dk_180 0 26 (dk_at dksX4_word_2 12 rfl rfl)
theorem dX4_word_60 : decode cX4_word 60 = .ok (.baload, 1) := dk_51 (dk_at dksX4_word_2 15 rfl rfl)
theorem dX4_word_61 : decode cX4_word 61 = .ok (.i2c, 1) := dk_146 (dk_at dksX4_word_2 16 rfl rfl)
theorem dX4_word_62 : decode cX4_word 62 = .ok (.invokevirtual 48, 3) := dk_182 0 48 (dk_at dksX4_word_2 17 rfl rfl)
theorem dX4_word_65 : decode cX4_word 65 = .ok (.pop, 1) := dk_87 (dk_at dksX4_word_2 20 rfl rfl)
theorem dX4_word_66 : decode cX4_word 66 = .ok (.aload_n 0, 1) := dk_42 (dk_at dksX4_word_2 21 rfl rfl)
theorem dX4_word_67 : decode cX4_word 67 = .ok (.dup, 1) := dk_89 (dk_at dksX4_word_2 22 rfl rfl)
theorem dX4_word_68 : decode cX4_word 68 = .ok (.getfield 26, 3) := dk_180 0 26 (dk_at dksX4_word_3 0 rfl rfl)
theorem dX4_word_71 : decode cX4_word 71 = .ok (.iconst 1, 1) := dk_4 (dk_at dksX4_word_3 3 rfl rfl)
theorem dX4_word_72 : decode cX4_word 72 = .ok (.iadd, 1) := dk_96 (dk_at dksX4_word_3 4 rfl rfl)
theorem dX4_word_73 : decode cX4_word 73 = .ok (.putfield 26, 3) := dk_181 0 26 (dk_at dksX4_word_3 5 rfl rfl)
theorem dX4_word_76 : decode cX4_word 76 = .ok (.goto (-55), 3) := dk_167 255 201 (dk_at dksX4_word_3 8 rfl rfl)
theorem dX4_word_79 : decode cX4_word 79 = .ok (.aload_n 1, 1) := dk_43 (dk_at dksX4_word_3 11 rfl rfl)
theorem dX4_word_80 : decode cX4_word 80 = .ok (.invokevirtual 52, 3) := dk_182 0 52 (dk_at dksX4_word_3 12 rfl rfl)
theorem dX4_word_83 : decode cX4_word 83 = .ok (.areturn, 1) := dk_176 (dk_at dksX4_word_3 15 rfl rfl)
abbrev cX4_clause : ByteArray := prog_6_method_9_code
def yX4_clause : MethodName := ⟨RX4, "clause", "(Ljava/lang/String;I)V"⟩
def dkwX4_clause_8 : List UInt8 := [182, 0, 135, 167, 0, 13, 187, 0, 29, 89, 4, 28, 183, 0, 31, 191, 177]
abbrev dktX4_clause_8 : List UInt8 := dkwX4_clause_8 ++ []
def dkwX4_clause_7 : List UInt8 := [42, 4, 16, 8, 182, 0, 69, 181, 0, 66, 167, 0, 29, 42, 28, 182, 0, 132, 167, 0, 21, 42, 28]
abbrev dktX4_clause_7 : List UInt8 := dkwX4_clause_7 ++ dktX4_clause_8
def dkwX4_clause_6 : List UInt8 := [42, 180, 0, 12, 180, 0, 66, 154, 0, 7, 4, 167, 0, 4, 3, 6, 28, 184, 0, 56, 42, 180, 0, 12]
abbrev dktX4_clause_6 : List UInt8 := dkwX4_clause_6 ++ dktX4_clause_7
def dkwX4_clause_5 : List UInt8 := [170, 0, 0, 0, 0, 0, 0, 81, 0, 0, 0, 0, 0, 0, 0, 2, 0, 0, 0, 28, 0, 0, 0, 65, 0, 0, 0, 73]
abbrev dktX4_clause_5 : List UInt8 := dkwX4_clause_5 ++ dktX4_clause_6
def dkwX4_clause_4 : List UInt8 := [4, 54, 4, 167, 0, 15, 45, 18, 130, 182, 0, 80, 153, 0, 6, 5, 54, 4, 21, 4]
abbrev dktX4_clause_4 : List UInt8 := dkwX4_clause_4 ++ dktX4_clause_5
def dkwX4_clause_3 : List UInt8 := [45, 18, 124, 182, 0, 80, 153, 0, 36, 3, 54, 4, 167, 0, 30, 45, 18, 128, 182, 0, 80, 153, 0, 21]
abbrev dktX4_clause_3 : List UInt8 := dkwX4_clause_3 ++ dktX4_clause_4
def dkwX4_clause_2 : List UInt8 := [171, 0, 0, 0, 0, 76, 0, 0, 0, 3, 196, 227, 155, 85, 0, 0, 0, 64, 197, 62, 72, 76, 0, 0, 0, 34, 6, 138, 195, 73, 0, 0, 0, 49]
abbrev dktX4_clause_2 : List UInt8 := dkwX4_clause_2 ++ dktX4_clause_3
def dkwX4_clause_1 : List UInt8 := [4, 28, 184, 0, 56, 43, 78, 2, 54, 4, 45, 182, 0, 125]
abbrev dktX4_clause_1 : List UInt8 := dkwX4_clause_1 ++ dktX4_clause_2
def dkwX4_clause_0 : List UInt8 := [43, 18, 124, 182, 0, 80, 154, 0, 13, 42, 180, 0, 12, 180, 0, 66, 158, 0, 7, 4, 167, 0, 4, 3]
abbrev dktX4_clause_0 : List UInt8 := dkwX4_clause_0 ++ dktX4_clause_1
theorem dksX4_clause_0 : cX4_clause.data.toList.drop 0 = dktX4_clause_0 := by decide +kernel
theorem dksX4_clause_1 : cX4_clause.data.toList.drop 24 = dktX4_clause_1 := dk_seg dksX4_clause_0 24 rfl rfl
theorem dksX4_clause_2 : cX4_clause.data.toList.drop 38 = dktX4_clause_2 := dk_seg dksX4_clause_1 14 rfl rfl
theorem dksX4_clause_3 : cX4_clause.data.toList.drop 72 = dktX4_clause_3 := dk_seg dksX4_clause_2 34 rfl rfl
theorem dksX4_clause_4 : cX4_clause.data.toList.drop 96 = dktX4_clause_4 := dk_seg dksX4_clause_3 24 rfl rfl
theorem dksX4_clause_5 : cX4_clause.data.toList.drop 116 = dktX4_clause_5 := dk_seg dksX4_clause_4 20 rfl rfl
theorem dksX4_clause_6 : cX4_clause.data.toList.drop 144 = dktX4_clause_6 := dk_seg dksX4_clause_5 28 rfl rfl
theorem dksX4_clause_7 : cX4_clause.data.toList.drop 168 = dktX4_clause_7 := dk_seg dksX4_clause_6 24 rfl rfl
theorem dksX4_clause_8 : cX4_clause.data.toList.drop 191 = dktX4_clause_8 := dk_seg dksX4_clause_7 23 rfl rfl
theorem dX4_clause_0 : decode cX4_clause 0 = .ok (.aload_n 1, 1) := dk_43 (dk_at dksX4_clause_0 0 rfl rfl)
theorem dX4_clause_1 : decode cX4_clause 1 = .ok (.ldc 124, 2) := dk_18 124 (dk_at dksX4_clause_0 1 rfl rfl)
theorem dX4_clause_3 : decode cX4_clause 3 = .ok (.invokevirtual 80, 3) := dk_182 0 80 (dk_at dksX4_clause_0 3 rfl rfl)
theorem dX4_clause_6 : decode cX4_clause 6 = .ok (.ifCond .ne 13, 3) := dk_154 0 13 (dk_at dksX4_clause_0 6 rfl rfl)
theorem dX4_clause_9 : decode cX4_clause 9 = .ok (.aload_n 0, 1) := dk_42 (dk_at dksX4_clause_0 9 rfl rfl)
theorem dX4_clause_10 : decode cX4_clause 10 = .ok (.getfield 12, 3) := dk_180 0 12 (dk_at dksX4_clause_0 10 rfl rfl)
theorem dX4_clause_13 : decode cX4_clause 13 = .ok (.getfield 66, 3) := dk_180 0 66 (dk_at dksX4_clause_0 13 rfl rfl)
theorem dX4_clause_16 : decode cX4_clause 16 = .ok (.ifCond .le 7, 3) := dk_158 0 7 (dk_at dksX4_clause_0 16 rfl rfl)
theorem dX4_clause_19 : decode cX4_clause 19 = .ok (.iconst 1, 1) := dk_4 (dk_at dksX4_clause_0 19 rfl rfl)
theorem dX4_clause_20 : decode cX4_clause 20 = .ok (.goto 4, 3) := dk_167 0 4 (dk_at dksX4_clause_0 20 rfl rfl)
theorem dX4_clause_23 : decode cX4_clause 23 = .ok (.iconst 0, 1) := dk_3 (dk_at dksX4_clause_0 23 rfl rfl)
theorem dX4_clause_24 : decode cX4_clause 24 = .ok (.iconst 1, 1) := dk_4 (dk_at dksX4_clause_1 0 rfl rfl)
theorem dX4_clause_25 : decode cX4_clause 25 = .ok (.iload_n 2, 1) := dk_28 (dk_at dksX4_clause_1 1 rfl rfl)
theorem dX4_clause_26 : decode cX4_clause 26 = .ok (.invokestatic 56, 3) := dk_184 0 56 (dk_at dksX4_clause_1 2 rfl rfl)
theorem dX4_clause_29 : decode cX4_clause 29 = .ok (.aload_n 1, 1) := dk_43 (dk_at dksX4_clause_1 5 rfl rfl)
theorem dX4_clause_30 : decode cX4_clause 30 = .ok (.astore_n 3, 1) := dk_78 (dk_at dksX4_clause_1 6 rfl rfl)
theorem dX4_clause_31 : decode cX4_clause 31 = .ok (.iconst (-1), 1) := dk_2 (dk_at dksX4_clause_1 7 rfl rfl)
theorem dX4_clause_32 : decode cX4_clause 32 = .ok (.istore 4, 2) := dk_54 4 (dk_at dksX4_clause_1 8 rfl rfl)
theorem dX4_clause_34 : decode cX4_clause 34 = .ok (.aload_n 3, 1) := dk_45 (dk_at dksX4_clause_1 10 rfl rfl)
theorem dX4_clause_35 : decode cX4_clause 35 = .ok (.invokevirtual 125, 3) := dk_182 0 125 (dk_at dksX4_clause_1 11 rfl rfl)
theorem dX4_clause_38 : decode cX4_clause 38 = .ok (.lookupswitch 76 #[(-991716523, 64), (-985774004, 34), (109757257, 49)], 34) := by decide +kernel
theorem dX4_clause_72 : decode cX4_clause 72 = .ok (.aload_n 3, 1) := dk_45 (dk_at dksX4_clause_3 0 rfl rfl)
theorem dX4_clause_73 : decode cX4_clause 73 = .ok (.ldc 124, 2) := dk_18 124 (dk_at dksX4_clause_3 1 rfl rfl)
theorem dX4_clause_75 : decode cX4_clause 75 = .ok (.invokevirtual 80, 3) := dk_182 0 80 (dk_at dksX4_clause_3 3 rfl rfl)
theorem dX4_clause_78 : decode cX4_clause 78 = .ok (.ifCond .eq 36, 3) := dk_153 0 36 (dk_at dksX4_clause_3 6 rfl rfl)
theorem dX4_clause_81 : decode cX4_clause 81 = .ok (.iconst 0, 1) := dk_3 (dk_at dksX4_clause_3 9 rfl rfl)
theorem dX4_clause_82 : decode cX4_clause 82 = .ok (.istore 4, 2) := dk_54 4 (dk_at dksX4_clause_3 10 rfl rfl)
theorem dX4_clause_84 : decode cX4_clause 84 = .ok (.goto 30, 3) := dk_167 0 30 (dk_at dksX4_clause_3 12 rfl rfl)
theorem dX4_clause_87 : decode cX4_clause 87 = .ok (.aload_n 3, 1) := dk_45 (dk_at dksX4_clause_3 15 rfl rfl)
theorem dX4_clause_88 : decode cX4_clause 88 = .ok (.ldc 128, 2) := dk_18 128 (dk_at dksX4_clause_3 16 rfl rfl)
theorem dX4_clause_90 : decode cX4_clause 90 = .ok (.invokevirtual 80, 3) := dk_182 0 80 (dk_at dksX4_clause_3 18 rfl rfl)
theorem dX4_clause_93 : decode cX4_clause 93 = .ok (.ifCond .eq 21, 3) := dk_153 0 21 (dk_at dksX4_clause_3 21 rfl rfl)
theorem dX4_clause_96 : decode cX4_clause 96 = .ok (.iconst 1, 1) := dk_4 (dk_at dksX4_clause_4 0 rfl rfl)
theorem dX4_clause_97 : decode cX4_clause 97 = .ok (.istore 4, 2) := dk_54 4 (dk_at dksX4_clause_4 1 rfl rfl)
theorem dX4_clause_99 : decode cX4_clause 99 = .ok (.goto 15, 3) := dk_167 0 15 (dk_at dksX4_clause_4 3 rfl rfl)
theorem dX4_clause_102 : decode cX4_clause 102 = .ok (.aload_n 3, 1) := dk_45 (dk_at dksX4_clause_4 6 rfl rfl)
theorem dX4_clause_103 : decode cX4_clause 103 = .ok (.ldc 130, 2) := dk_18 130 (dk_at dksX4_clause_4 7 rfl rfl)
theorem dX4_clause_105 : decode cX4_clause 105 = .ok (.invokevirtual 80, 3) := dk_182 0 80 (dk_at dksX4_clause_4 9 rfl rfl)
theorem dX4_clause_108 : decode cX4_clause 108 = .ok (.ifCond .eq 6, 3) := dk_153 0 6 (dk_at dksX4_clause_4 12 rfl rfl)
theorem dX4_clause_111 : decode cX4_clause 111 = .ok (.iconst 2, 1) := dk_5 (dk_at dksX4_clause_4 15 rfl rfl)
theorem dX4_clause_112 : decode cX4_clause 112 = .ok (.istore 4, 2) := dk_54 4 (dk_at dksX4_clause_4 16 rfl rfl)
theorem dX4_clause_114 : decode cX4_clause 114 = .ok (.iload 4, 2) := dk_21 4 (dk_at dksX4_clause_4 18 rfl rfl)
theorem dX4_clause_116 : decode cX4_clause 116 = .ok (.tableswitch 81 0 2 #[28, 65, 73], 28) := by decide +kernel
theorem dX4_clause_144 : decode cX4_clause 144 = .ok (.aload_n 0, 1) := dk_42 (dk_at dksX4_clause_6 0 rfl rfl)
theorem dX4_clause_145 : decode cX4_clause 145 = .ok (.getfield 12, 3) := dk_180 0 12 (dk_at dksX4_clause_6 1 rfl rfl)
theorem dX4_clause_148 : decode cX4_clause 148 = .ok (.getfield 66, 3) := dk_180 0 66 (dk_at dksX4_clause_6 4 rfl rfl)
theorem dX4_clause_151 : decode cX4_clause 151 = .ok (.ifCond .ne 7, 3) := dk_154 0 7 (dk_at dksX4_clause_6 7 rfl rfl)
theorem dX4_clause_154 : decode cX4_clause 154 = .ok (.iconst 1, 1) := dk_4 (dk_at dksX4_clause_6 10 rfl rfl)
theorem dX4_clause_155 : decode cX4_clause 155 = .ok (.goto 4, 3) := dk_167 0 4 (dk_at dksX4_clause_6 11 rfl rfl)
theorem dX4_clause_158 : decode cX4_clause 158 = .ok (.iconst 0, 1) := dk_3 (dk_at dksX4_clause_6 14 rfl rfl)
theorem dX4_clause_159 : decode cX4_clause 159 = .ok (.iconst 3, 1) := dk_6 (dk_at dksX4_clause_6 15 rfl rfl)
theorem dX4_clause_160 : decode cX4_clause 160 = .ok (.iload_n 2, 1) := dk_28 (dk_at dksX4_clause_6 16 rfl rfl)
theorem dX4_clause_161 : decode cX4_clause 161 = .ok (.invokestatic 56, 3) := dk_184 0 56 (dk_at dksX4_clause_6 17 rfl rfl)
theorem dX4_clause_164 : decode cX4_clause 164 = .ok (.aload_n 0, 1) := dk_42 (dk_at dksX4_clause_6 20 rfl rfl)
theorem dX4_clause_165 : decode cX4_clause 165 = .ok (.getfield 12, 3) := dk_180 0 12 (dk_at dksX4_clause_6 21 rfl rfl)
theorem dX4_clause_168 : decode cX4_clause 168 = .ok (.aload_n 0, 1) := dk_42 (dk_at dksX4_clause_7 0 rfl rfl)
theorem dX4_clause_169 : decode cX4_clause 169 = .ok (.iconst 1, 1) := dk_4 (dk_at dksX4_clause_7 1 rfl rfl)
theorem dX4_clause_170 : decode cX4_clause 170 = .ok (.bipush 8, 2) := dk_16 8 (dk_at dksX4_clause_7 2 rfl rfl)
theorem dX4_clause_172 : decode cX4_clause 172 = .ok (.invokevirtual 69, 3) := dk_182 0 69 (dk_at dksX4_clause_7 4 rfl rfl)
theorem dX4_clause_175 : decode cX4_clause 175 = .ok (.putfield 66, 3) := dk_181 0 66 (dk_at dksX4_clause_7 7 rfl rfl)
theorem dX4_clause_178 : decode cX4_clause 178 = .ok (.goto 29, 3) := dk_167 0 29 (dk_at dksX4_clause_7 10 rfl rfl)
theorem dX4_clause_181 : decode cX4_clause 181 = .ok (.aload_n 0, 1) := dk_42 (dk_at dksX4_clause_7 13 rfl rfl)
theorem dX4_clause_182 : decode cX4_clause 182 = .ok (.iload_n 2, 1) := dk_28 (dk_at dksX4_clause_7 14 rfl rfl)
theorem dX4_clause_183 : decode cX4_clause 183 = .ok (.invokevirtual 132, 3) := dk_182 0 132 (dk_at dksX4_clause_7 15 rfl rfl)
theorem dX4_clause_186 : decode cX4_clause 186 = .ok (.goto 21, 3) := dk_167 0 21 (dk_at dksX4_clause_7 18 rfl rfl)
theorem dX4_clause_189 : decode cX4_clause 189 = .ok (.aload_n 0, 1) := dk_42 (dk_at dksX4_clause_7 21 rfl rfl)
theorem dX4_clause_190 : decode cX4_clause 190 = .ok (.iload_n 2, 1) := dk_28 (dk_at dksX4_clause_7 22 rfl rfl)
theorem dX4_clause_191 : decode cX4_clause 191 = .ok (.invokevirtual 135, 3) := dk_182 0 135 (dk_at dksX4_clause_8 0 rfl rfl)
theorem dX4_clause_194 : decode cX4_clause 194 = .ok (.goto 13, 3) := dk_167 0 13 (dk_at dksX4_clause_8 3 rfl rfl)
theorem dX4_clause_197 : decode cX4_clause 197 = .ok (.new 29, 3) := dk_187 0 29 (dk_at dksX4_clause_8 6 rfl rfl)
theorem dX4_clause_200 : decode cX4_clause 200 = .ok (.dup, 1) := dk_89 (dk_at dksX4_clause_8 9 rfl rfl)
theorem dX4_clause_201 : decode cX4_clause 201 = .ok (.iconst 1, 1) := dk_4 (dk_at dksX4_clause_8 10 rfl rfl)
theorem dX4_clause_202 : decode cX4_clause 202 = .ok (.iload_n 2, 1) := dk_28 (dk_at dksX4_clause_8 11 rfl rfl)
theorem dX4_clause_203 : decode cX4_clause 203 = .ok (.invokespecial 31, 3) := dk_183 0 31 (dk_at dksX4_clause_8 12 rfl rfl)
theorem dX4_clause_206 : decode cX4_clause 206 = .ok (.athrow, 1) := dk_191 (dk_at dksX4_clause_8 15 rfl rfl)
theorem dX4_clause_207 : decode cX4_clause 207 = .ok (.return_, 1) := dk_177 (dk_at dksX4_clause_8 16 rfl rfl)
abbrev cX4_want : ByteArray := prog_6_method_3_code
def yX4_want : MethodName := ⟨RX4, "want", "(ZII)V"⟩
def dkwX4_want_0 : List UInt8 := [26, 154, 0, 13, 187, 0, 29, 89, 27, 28, 183, 0, 31, 191, 177]
abbrev dktX4_want_0 : List UInt8 := dkwX4_want_0 ++ []
theorem dksX4_want_0 : cX4_want.data.toList.drop 0 = dktX4_want_0 := by decide +kernel
theorem dX4_want_0 : decode cX4_want 0 = .ok (.iload_n 0, 1) := dk_26 (dk_at dksX4_want_0 0 rfl rfl)
theorem dX4_want_1 : decode cX4_want 1 = .ok (.ifCond .ne 13, 3) := dk_154 0 13 (dk_at dksX4_want_0 1 rfl rfl)
theorem dX4_want_4 : decode cX4_want 4 = .ok (.new 29, 3) := dk_187 0 29 (dk_at dksX4_want_0 4 rfl rfl)
theorem dX4_want_7 : decode cX4_want 7 = .ok (.dup, 1) := dk_89 (dk_at dksX4_want_0 7 rfl rfl)
theorem dX4_want_8 : decode cX4_want 8 = .ok (.iload_n 1, 1) := dk_27 (dk_at dksX4_want_0 8 rfl rfl)
theorem dX4_want_9 : decode cX4_want 9 = .ok (.iload_n 2, 1) := dk_28 (dk_at dksX4_want_0 9 rfl rfl)
theorem dX4_want_10 : decode cX4_want 10 = .ok (.invokespecial 31, 3) := dk_183 0 31 (dk_at dksX4_want_0 10 rfl rfl)
theorem dX4_want_13 : decode cX4_want 13 = .ok (.athrow, 1) := dk_191 (dk_at dksX4_want_0 13 rfl rfl)
theorem dX4_want_14 : decode cX4_want 14 = .ok (.return_, 1) := dk_177 (dk_at dksX4_want_0 14 rfl rfl)
abbrev cX4_number : ByteArray := prog_6_method_5_code
def yX4_number : MethodName := ⟨RX4, "number", "(II)I"⟩
def dkwX4_number_5 : List UInt8 := [153, 0, 7, 4, 167, 0, 4, 3, 5, 42, 180, 0, 41, 184, 0, 56, 29, 172]
abbrev dktX4_number_5 : List UInt8 := dkwX4_number_5 ++ []
def dkwX4_number_4 : List UInt8 := [167, 255, 192, 42, 180, 0, 26, 42, 180, 0, 41, 6, 96, 163, 0, 16, 29, 27, 28, 184, 0, 44]
abbrev dktX4_number_4 : List UInt8 := dkwX4_number_4 ++ dktX4_number_5
def dkwX4_number_3 : List UInt8 := [180, 0, 26, 51, 96, 16, 48, 100, 184, 0, 60, 62, 42, 89, 180, 0, 26, 4, 96, 181, 0, 26]
abbrev dktX4_number_3 : List UInt8 := dkwX4_number_3 ++ dktX4_number_4
def dkwX4_number_2 : List UInt8 := [51, 16, 48, 16, 57, 184, 0, 44, 153, 0, 40, 17, 39, 15, 16, 10, 29, 104, 42, 180, 0, 18, 42]
abbrev dktX4_number_2 : List UInt8 := dkwX4_number_2 ++ dktX4_number_3
def dkwX4_number_1 : List UInt8 := [181, 0, 41, 3, 62, 42, 180, 0, 26, 42, 180, 0, 22, 162, 0, 59, 42, 180, 0, 18, 42, 180, 0, 26]
abbrev dktX4_number_1 : List UInt8 := dkwX4_number_1 ++ dktX4_number_2
def dkwX4_number_0 : List UInt8 := [42, 182, 0, 37, 16, 48, 16, 57, 184, 0, 44, 4, 42, 180, 0, 26, 184, 0, 56, 42, 42, 180, 0, 26]
abbrev dktX4_number_0 : List UInt8 := dkwX4_number_0 ++ dktX4_number_1
theorem dksX4_number_0 : cX4_number.data.toList.drop 0 = dktX4_number_0 := by decide +kernel
theorem dksX4_number_1 : cX4_number.data.toList.drop 24 = dktX4_number_1 := dk_seg dksX4_number_0 24 rfl rfl
theorem dksX4_number_2 : cX4_number.data.toList.drop 48 = dktX4_number_2 := dk_seg dksX4_number_1 24 rfl rfl
theorem dksX4_number_3 : cX4_number.data.toList.drop 71 = dktX4_number_3 := dk_seg dksX4_number_2 23 rfl rfl
theorem dksX4_number_4 : cX4_number.data.toList.drop 93 = dktX4_number_4 := dk_seg dksX4_number_3 22 rfl rfl
theorem dksX4_number_5 : cX4_number.data.toList.drop 115 = dktX4_number_5 := dk_seg dksX4_number_4 22 rfl rfl
theorem dX4_number_0 : decode cX4_number 0 = .ok (.aload_n 0, 1) := dk_42 (dk_at dksX4_number_0 0 rfl rfl)
theorem dX4_number_1 : decode cX4_number 1 = .ok (.invokevirtual 37, 3) := dk_182 0 37 (dk_at dksX4_number_0 1 rfl rfl)
theorem dX4_number_4 : decode cX4_number 4 = .ok (.bipush 48, 2) := dk_16 48 (dk_at dksX4_number_0 4 rfl rfl)
theorem dX4_number_6 : decode cX4_number 6 = .ok (.bipush 57, 2) := dk_16 57 (dk_at dksX4_number_0 6 rfl rfl)
theorem dX4_number_8 : decode cX4_number 8 = .ok (.invokestatic 44, 3) := dk_184 0 44 (dk_at dksX4_number_0 8 rfl rfl)
theorem dX4_number_11 : decode cX4_number 11 = .ok (.iconst 1, 1) := dk_4 (dk_at dksX4_number_0 11 rfl rfl)
theorem dX4_number_12 : decode cX4_number 12 = .ok (.aload_n 0, 1) := dk_42 (dk_at dksX4_number_0 12 rfl rfl)
theorem dX4_number_13 : decode cX4_number 13 = .ok (.getfield 26, 3) := dk_180 0 26 (dk_at dksX4_number_0 13 rfl rfl)
theorem dX4_number_16 : decode cX4_number 16 = .ok (.invokestatic 56, 3) := dk_184 0 56 (dk_at dksX4_number_0 16 rfl rfl)
theorem dX4_number_19 : decode cX4_number 19 = .ok (.aload_n 0, 1) := dk_42 (dk_at dksX4_number_0 19 rfl rfl)
theorem dX4_number_20 : decode cX4_number 20 = .ok (.aload_n 0, 1) := dk_42 (dk_at dksX4_number_0 20 rfl rfl)
theorem dX4_number_21 : decode cX4_number 21 = .ok (.getfield 26, 3) := dk_180 0 26 (dk_at dksX4_number_0 21 rfl rfl)
theorem dX4_number_24 : decode cX4_number 24 = .ok (.putfield 41, 3) := dk_181 0 41 (dk_at dksX4_number_1 0 rfl rfl)
theorem dX4_number_27 : decode cX4_number 27 = .ok (.iconst 0, 1) := dk_3 (dk_at dksX4_number_1 3 rfl rfl)
theorem dX4_number_28 : decode cX4_number 28 = .ok (.istore_n 3, 1) := dk_62 (dk_at dksX4_number_1 4 rfl rfl)
theorem dX4_number_29 : decode cX4_number 29 = .ok (.aload_n 0, 1) := dk_42 (dk_at dksX4_number_1 5 rfl rfl)
theorem dX4_number_30 : decode cX4_number 30 = .ok (.getfield 26, 3) := dk_180 0 26 (dk_at dksX4_number_1 6 rfl rfl)
theorem dX4_number_33 : decode cX4_number 33 = .ok (.aload_n 0, 1) := dk_42 (dk_at dksX4_number_1 9 rfl rfl)
theorem dX4_number_34 : decode cX4_number 34 = .ok (.getfield 22, 3) := dk_180 0 22 (dk_at dksX4_number_1 10 rfl rfl)
theorem dX4_number_37 : decode cX4_number 37 = .ok (.if_icmp .ge 59, 3) := dk_162 0 59 (dk_at dksX4_number_1 13 rfl rfl)
theorem dX4_number_40 : decode cX4_number 40 = .ok (.aload_n 0, 1) := dk_42 (dk_at dksX4_number_1 16 rfl rfl)
theorem dX4_number_41 : decode cX4_number 41 = .ok (.getfield 18, 3) := dk_180 0 18 (dk_at dksX4_number_1 17 rfl rfl)
theorem dX4_number_44 : decode cX4_number 44 = .ok (.aload_n 0, 1) := dk_42 (dk_at dksX4_number_1 20 rfl rfl)
theorem dX4_number_45 : decode cX4_number 45 = .ok (.getfield 26, 3) := dk_180 0 26 (dk_at dksX4_number_1 21 rfl rfl)
theorem dX4_number_48 : decode cX4_number 48 = .ok (.baload, 1) := dk_51 (dk_at dksX4_number_2 0 rfl rfl)
theorem dX4_number_49 : decode cX4_number 49 = .ok (.bipush 48, 2) := dk_16 48 (dk_at dksX4_number_2 1 rfl rfl)
theorem dX4_number_51 : decode cX4_number 51 = .ok (.bipush 57, 2) := dk_16 57 (dk_at dksX4_number_2 3 rfl rfl)
theorem dX4_number_53 : decode cX4_number 53 = .ok (.invokestatic 44, 3) := dk_184 0 44 (dk_at dksX4_number_2 5 rfl rfl)
theorem dX4_number_56 : decode cX4_number 56 = .ok (.ifCond .eq 40, 3) := dk_153 0 40 (dk_at dksX4_number_2 8 rfl rfl)
theorem dX4_number_59 : decode cX4_number 59 = .ok (.sipush 9999, 3) := dk_17 39 15 (dk_at dksX4_number_2 11 rfl rfl)
theorem dX4_number_62 : decode cX4_number 62 = .ok (.bipush 10, 2) := dk_16 10 (dk_at dksX4_number_2 14 rfl rfl)
theorem dX4_number_64 : decode cX4_number 64 = .ok (.iload_n 3, 1) := dk_29 (dk_at dksX4_number_2 16 rfl rfl)
theorem dX4_number_65 : decode cX4_number 65 = .ok (.imul, 1) := dk_104 (dk_at dksX4_number_2 17 rfl rfl)
theorem dX4_number_66 : decode cX4_number 66 = .ok (.aload_n 0, 1) := dk_42 (dk_at dksX4_number_2 18 rfl rfl)
theorem dX4_number_67 : decode cX4_number 67 = .ok (.getfield 18, 3) := dk_180 0 18 (dk_at dksX4_number_2 19 rfl rfl)
theorem dX4_number_70 : decode cX4_number 70 = .ok (.aload_n 0, 1) := dk_42 (dk_at dksX4_number_2 22 rfl rfl)
theorem dX4_number_71 : decode cX4_number 71 = .ok (.getfield 26, 3) := dk_180 0 26 (dk_at dksX4_number_3 0 rfl rfl)
theorem dX4_number_74 : decode cX4_number 74 = .ok (.baload, 1) := dk_51 (dk_at dksX4_number_3 3 rfl rfl)
theorem dX4_number_75 : decode cX4_number 75 = .ok (.iadd, 1) := dk_96 (dk_at dksX4_number_3 4 rfl rfl)
theorem dX4_number_76 : decode cX4_number 76 = .ok (.bipush 48, 2) := dk_16 48 (dk_at dksX4_number_3 5 rfl rfl)
theorem dX4_number_78 : decode cX4_number 78 = .ok (.isub, 1) := dk_100 (dk_at dksX4_number_3 7 rfl rfl)
theorem dX4_number_79 : decode cX4_number 79 = .ok (.invokestatic 60, 3) := dk_184 0 60 (dk_at dksX4_number_3 8 rfl rfl)
theorem dX4_number_82 : decode cX4_number 82 = .ok (.istore_n 3, 1) := dk_62 (dk_at dksX4_number_3 11 rfl rfl)
theorem dX4_number_83 : decode cX4_number 83 = .ok (.aload_n 0, 1) := dk_42 (dk_at dksX4_number_3 12 rfl rfl)
theorem dX4_number_84 : decode cX4_number 84 = .ok (.dup, 1) := dk_89 (dk_at dksX4_number_3 13 rfl rfl)
theorem dX4_number_85 : decode cX4_number 85 = .ok (.getfield 26, 3) := dk_180 0 26 (dk_at dksX4_number_3 14 rfl rfl)
theorem dX4_number_88 : decode cX4_number 88 = .ok (.iconst 1, 1) := dk_4 (dk_at dksX4_number_3 17 rfl rfl)
theorem dX4_number_89 : decode cX4_number 89 = .ok (.iadd, 1) := dk_96 (dk_at dksX4_number_3 18 rfl rfl)
theorem dX4_number_90 : decode cX4_number 90 = .ok (.putfield 26, 3) := dk_181 0 26 (dk_at dksX4_number_3 19 rfl rfl)
theorem dX4_number_93 : decode cX4_number 93 = .ok (.goto (-64), 3) := dk_167 255 192 (dk_at dksX4_number_4 0 rfl rfl)
theorem dX4_number_96 : decode cX4_number 96 = .ok (.aload_n 0, 1) := dk_42 (dk_at dksX4_number_4 3 rfl rfl)
theorem dX4_number_97 : decode cX4_number 97 = .ok (.getfield 26, 3) := dk_180 0 26 (dk_at dksX4_number_4 4 rfl rfl)
theorem dX4_number_100 : decode cX4_number 100 = .ok (.aload_n 0, 1) := dk_42 (dk_at dksX4_number_4 7 rfl rfl)
theorem dX4_number_101 : decode cX4_number 101 = .ok (.getfield 41, 3) := dk_180 0 41 (dk_at dksX4_number_4 8 rfl rfl)
theorem dX4_number_104 : decode cX4_number 104 = .ok (.iconst 3, 1) := dk_6 (dk_at dksX4_number_4 11 rfl rfl)
theorem dX4_number_105 : decode cX4_number 105 = .ok (.iadd, 1) := dk_96 (dk_at dksX4_number_4 12 rfl rfl)
theorem dX4_number_106 : decode cX4_number 106 = .ok (.if_icmp .gt 16, 3) := dk_163 0 16 (dk_at dksX4_number_4 13 rfl rfl)
theorem dX4_number_109 : decode cX4_number 109 = .ok (.iload_n 3, 1) := dk_29 (dk_at dksX4_number_4 16 rfl rfl)
theorem dX4_number_110 : decode cX4_number 110 = .ok (.iload_n 1, 1) := dk_27 (dk_at dksX4_number_4 17 rfl rfl)
theorem dX4_number_111 : decode cX4_number 111 = .ok (.iload_n 2, 1) := dk_28 (dk_at dksX4_number_4 18 rfl rfl)
theorem dX4_number_112 : decode cX4_number 112 = .ok (.invokestatic 44, 3) := dk_184 0 44 (dk_at dksX4_number_4 19 rfl rfl)
theorem dX4_number_115 : decode cX4_number 115 = .ok (.ifCond .eq 7, 3) := dk_153 0 7 (dk_at dksX4_number_5 0 rfl rfl)
theorem dX4_number_118 : decode cX4_number 118 = .ok (.iconst 1, 1) := dk_4 (dk_at dksX4_number_5 3 rfl rfl)
theorem dX4_number_119 : decode cX4_number 119 = .ok (.goto 4, 3) := dk_167 0 4 (dk_at dksX4_number_5 4 rfl rfl)
theorem dX4_number_122 : decode cX4_number 122 = .ok (.iconst 0, 1) := dk_3 (dk_at dksX4_number_5 7 rfl rfl)
theorem dX4_number_123 : decode cX4_number 123 = .ok (.iconst 2, 1) := dk_5 (dk_at dksX4_number_5 8 rfl rfl)
theorem dX4_number_124 : decode cX4_number 124 = .ok (.aload_n 0, 1) := dk_42 (dk_at dksX4_number_5 9 rfl rfl)
theorem dX4_number_125 : decode cX4_number 125 = .ok (.getfield 41, 3) := dk_180 0 41 (dk_at dksX4_number_5 10 rfl rfl)
theorem dX4_number_128 : decode cX4_number 128 = .ok (.invokestatic 56, 3) := dk_184 0 56 (dk_at dksX4_number_5 13 rfl rfl)
theorem dX4_number_131 : decode cX4_number 131 = .ok (.iload_n 3, 1) := dk_29 (dk_at dksX4_number_5 16 rfl rfl)
theorem dX4_number_132 : decode cX4_number 132 = .ok (.ireturn, 1) := dk_172 (dk_at dksX4_number_5 17 rfl rfl)
abbrev cX4_stair : ByteArray := prog_6_method_7_code
def yX4_stair : MethodName := ⟨RX4, "stair", "(I)V"⟩
def dkwX4_stair_12 : List UInt8 := [180, 0, 12, 89, 180, 0, 72, 4, 96, 181, 0, 72, 177]
abbrev dktX4_stair_12 : List UInt8 := dkwX4_stair_12 ++ []
def dkwX4_stair_11 : List UInt8 := [181, 0, 26, 167, 255, 159, 42, 180, 0, 12, 180, 0, 109, 42, 180, 0, 12, 180, 0, 72, 25, 5, 83, 42]
abbrev dktX4_stair_11 : List UInt8 := dkwX4_stair_11 ++ dktX4_stair_12
def dkwX4_stair_10 : List UInt8 := [180, 0, 26, 184, 0, 56, 42, 89, 180, 0, 26, 21, 6, 153, 0, 7, 4, 167, 0, 4, 3, 96]
abbrev dktX4_stair_10 : List UInt8 := dkwX4_stair_10 ++ dktX4_stair_11
def dkwX4_stair_9 : List UInt8 := [54, 6, 21, 6, 153, 0, 12, 25, 5, 180, 0, 106, 6, 162, 0, 7, 4, 167, 0, 4, 3, 4, 42]
abbrev dktX4_stair_9 : List UInt8 := dkwX4_stair_9 ++ dktX4_stair_10
def dkwX4_stair_8 : List UInt8 := [89, 180, 0, 106, 4, 96, 181, 0, 106, 42, 182, 0, 37, 16, 44, 160, 0, 7, 4, 167, 0, 4, 3]
abbrev dktX4_stair_8 : List UInt8 := dkwX4_stair_8 ++ dktX4_stair_9
def dkwX4_stair_7 : List UInt8 := [153, 0, 98, 25, 5, 180, 0, 102, 25, 5, 180, 0, 106, 42, 4, 17, 2, 208, 182, 0, 69, 79, 25, 5]
abbrev dktX4_stair_7 : List UInt8 := dkwX4_stair_7 ++ dktX4_stair_8
def dkwX4_stair_6 : List UInt8 := [183, 0, 98, 167, 0, 13, 187, 0, 99, 89, 29, 21, 4, 183, 0, 101, 58, 5, 4, 54, 6, 21, 6]
abbrev dktX4_stair_6 : List UInt8 := dkwX4_stair_6 ++ dktX4_stair_7
def dkwX4_stair_5 : List UInt8 := [183, 0, 95, 167, 0, 35, 44, 18, 86, 182, 0, 80, 153, 0, 16, 187, 0, 96, 89, 29, 21, 4]
abbrev dktX4_stair_5 : List UInt8 := dkwX4_stair_5 ++ dktX4_stair_6
def dkwX4_stair_4 : List UInt8 := [180, 0, 41, 184, 0, 56, 44, 18, 78, 182, 0, 80, 153, 0, 16, 187, 0, 93, 89, 29, 21, 4]
abbrev dktX4_stair_4 : List UInt8 := dkwX4_stair_4 ++ dktX4_stair_5
def dkwX4_stair_3 : List UInt8 := [182, 0, 90, 62, 42, 182, 0, 90, 54, 4, 29, 21, 4, 159, 0, 7, 4, 167, 0, 4, 3, 7, 42]
abbrev dktX4_stair_3 : List UInt8 := dkwX4_stair_3 ++ dktX4_stair_4
def dkwX4_stair_2 : List UInt8 := [18, 88, 182, 0, 80, 153, 0, 7, 4, 167, 0, 4, 3, 4, 42, 180, 0, 41, 184, 0, 56, 42]
abbrev dktX4_stair_2 : List UInt8 := dkwX4_stair_2 ++ dktX4_stair_3
def dkwX4_stair_1 : List UInt8 := [182, 0, 75, 77, 44, 18, 78, 182, 0, 80, 154, 0, 21, 44, 18, 86, 182, 0, 80, 154, 0, 12, 44]
abbrev dktX4_stair_1 : List UInt8 := dkwX4_stair_1 ++ dktX4_stair_2
def dkwX4_stair_0 : List UInt8 := [42, 180, 0, 12, 180, 0, 72, 16, 10, 162, 0, 7, 4, 167, 0, 4, 3, 6, 27, 184, 0, 56, 42]
abbrev dktX4_stair_0 : List UInt8 := dkwX4_stair_0 ++ dktX4_stair_1
theorem dksX4_stair_0 : cX4_stair.data.toList.drop 0 = dktX4_stair_0 := by decide +kernel
theorem dksX4_stair_1 : cX4_stair.data.toList.drop 23 = dktX4_stair_1 := dk_seg dksX4_stair_0 23 rfl rfl
theorem dksX4_stair_2 : cX4_stair.data.toList.drop 46 = dktX4_stair_2 := dk_seg dksX4_stair_1 23 rfl rfl
theorem dksX4_stair_3 : cX4_stair.data.toList.drop 68 = dktX4_stair_3 := dk_seg dksX4_stair_2 22 rfl rfl
theorem dksX4_stair_4 : cX4_stair.data.toList.drop 91 = dktX4_stair_4 := dk_seg dksX4_stair_3 23 rfl rfl
theorem dksX4_stair_5 : cX4_stair.data.toList.drop 113 = dktX4_stair_5 := dk_seg dksX4_stair_4 22 rfl rfl
theorem dksX4_stair_6 : cX4_stair.data.toList.drop 135 = dktX4_stair_6 := dk_seg dksX4_stair_5 22 rfl rfl
theorem dksX4_stair_7 : cX4_stair.data.toList.drop 158 = dktX4_stair_7 := dk_seg dksX4_stair_6 23 rfl rfl
theorem dksX4_stair_8 : cX4_stair.data.toList.drop 182 = dktX4_stair_8 := dk_seg dksX4_stair_7 24 rfl rfl
theorem dksX4_stair_9 : cX4_stair.data.toList.drop 205 = dktX4_stair_9 := dk_seg dksX4_stair_8 23 rfl rfl
theorem dksX4_stair_10 : cX4_stair.data.toList.drop 228 = dktX4_stair_10 := dk_seg dksX4_stair_9 23 rfl rfl
theorem dksX4_stair_11 : cX4_stair.data.toList.drop 250 = dktX4_stair_11 := dk_seg dksX4_stair_10 22 rfl rfl
theorem dksX4_stair_12 : cX4_stair.data.toList.drop 274 = dktX4_stair_12 := dk_seg dksX4_stair_11 24 rfl rfl
theorem dX4_stair_0 : decode cX4_stair 0 = .ok (.aload_n 0, 1) := dk_42 (dk_at dksX4_stair_0 0 rfl rfl)
theorem dX4_stair_1 : decode cX4_stair 1 = .ok (.getfield 12, 3) := dk_180 0 12 (dk_at dksX4_stair_0 1 rfl rfl)
theorem dX4_stair_4 : decode cX4_stair 4 = .ok (.getfield 72, 3) := dk_180 0 72 (dk_at dksX4_stair_0 4 rfl rfl)
theorem dX4_stair_7 : decode cX4_stair 7 = .ok (.bipush 10, 2) := dk_16 10 (dk_at dksX4_stair_0 7 rfl rfl)
theorem dX4_stair_9 : decode cX4_stair 9 = .ok (.if_icmp .ge 7, 3) := dk_162 0 7 (dk_at dksX4_stair_0 9 rfl rfl)
theorem dX4_stair_12 : decode cX4_stair 12 = .ok (.iconst 1, 1) := dk_4 (dk_at dksX4_stair_0 12 rfl rfl)
theorem dX4_stair_13 : decode cX4_stair 13 = .ok (.goto 4, 3) := dk_167 0 4 (dk_at dksX4_stair_0 13 rfl rfl)
theorem dX4_stair_16 : decode cX4_stair 16 = .ok (.iconst 0, 1) := dk_3 (dk_at dksX4_stair_0 16 rfl rfl)
theorem dX4_stair_17 : decode cX4_stair 17 = .ok (.iconst 3, 1) := dk_6 (dk_at dksX4_stair_0 17 rfl rfl)
theorem dX4_stair_18 : decode cX4_stair 18 = .ok (.iload_n 1, 1) := dk_27 (dk_at dksX4_stair_0 18 rfl rfl)
theorem dX4_stair_19 : decode cX4_stair 19 = .ok (.invokestatic 56, 3) := dk_184 0 56 (dk_at dksX4_stair_0 19 rfl rfl)
theorem dX4_stair_22 : decode cX4_stair 22 = .ok (.aload_n 0, 1) := dk_42 (dk_at dksX4_stair_0 22 rfl rfl)
theorem dX4_stair_23 : decode cX4_stair 23 = .ok (.invokevirtual 75, 3) := dk_182 0 75 (dk_at dksX4_stair_1 0 rfl rfl)
theorem dX4_stair_26 : decode cX4_stair 26 = .ok (.astore_n 2, 1) := dk_77 (dk_at dksX4_stair_1 3 rfl rfl)
theorem dX4_stair_27 : decode cX4_stair 27 = .ok (.aload_n 2, 1) := dk_44 (dk_at dksX4_stair_1 4 rfl rfl)
theorem dX4_stair_28 : decode cX4_stair 28 = .ok (.ldc 78, 2) := dk_18 78 (dk_at dksX4_stair_1 5 rfl rfl)
theorem dX4_stair_30 : decode cX4_stair 30 = .ok (.invokevirtual 80, 3) := dk_182 0 80 (dk_at dksX4_stair_1 7 rfl rfl)
theorem dX4_stair_33 : decode cX4_stair 33 = .ok (.ifCond .ne 21, 3) := dk_154 0 21 (dk_at dksX4_stair_1 10 rfl rfl)
theorem dX4_stair_36 : decode cX4_stair 36 = .ok (.aload_n 2, 1) := dk_44 (dk_at dksX4_stair_1 13 rfl rfl)
theorem dX4_stair_37 : decode cX4_stair 37 = .ok (.ldc 86, 2) := dk_18 86 (dk_at dksX4_stair_1 14 rfl rfl)
theorem dX4_stair_39 : decode cX4_stair 39 = .ok (.invokevirtual 80, 3) := dk_182 0 80 (dk_at dksX4_stair_1 16 rfl rfl)
theorem dX4_stair_42 : decode cX4_stair 42 = .ok (.ifCond .ne 12, 3) := dk_154 0 12 (dk_at dksX4_stair_1 19 rfl rfl)
theorem dX4_stair_45 : decode cX4_stair 45 = .ok (.aload_n 2, 1) := dk_44 (dk_at dksX4_stair_1 22 rfl rfl)
theorem dX4_stair_46 : decode cX4_stair 46 = .ok (.ldc 88, 2) := dk_18 88 (dk_at dksX4_stair_2 0 rfl rfl)
theorem dX4_stair_48 : decode cX4_stair 48 = .ok (.invokevirtual 80, 3) := dk_182 0 80 (dk_at dksX4_stair_2 2 rfl rfl)
theorem dX4_stair_51 : decode cX4_stair 51 = .ok (.ifCond .eq 7, 3) := dk_153 0 7 (dk_at dksX4_stair_2 5 rfl rfl)
theorem dX4_stair_54 : decode cX4_stair 54 = .ok (.iconst 1, 1) := dk_4 (dk_at dksX4_stair_2 8 rfl rfl)
theorem dX4_stair_55 : decode cX4_stair 55 = .ok (.goto 4, 3) := dk_167 0 4 (dk_at dksX4_stair_2 9 rfl rfl)
theorem dX4_stair_58 : decode cX4_stair 58 = .ok (.iconst 0, 1) := dk_3 (dk_at dksX4_stair_2 12 rfl rfl)
theorem dX4_stair_59 : decode cX4_stair 59 = .ok (.iconst 1, 1) := dk_4 (dk_at dksX4_stair_2 13 rfl rfl)
theorem dX4_stair_60 : decode cX4_stair 60 = .ok (.aload_n 0, 1) := dk_42 (dk_at dksX4_stair_2 14 rfl rfl)
theorem dX4_stair_61 : decode cX4_stair 61 = .ok (.getfield 41, 3) := dk_180 0 41 (dk_at dksX4_stair_2 15 rfl rfl)
theorem dX4_stair_64 : decode cX4_stair 64 = .ok (.invokestatic 56, 3) := dk_184 0 56 (dk_at dksX4_stair_2 18 rfl rfl)
theorem dX4_stair_67 : decode cX4_stair 67 = .ok (.aload_n 0, 1) := dk_42 (dk_at dksX4_stair_2 21 rfl rfl)
theorem dX4_stair_68 : decode cX4_stair 68 = .ok (.invokevirtual 90, 3) := dk_182 0 90 (dk_at dksX4_stair_3 0 rfl rfl)
theorem dX4_stair_71 : decode cX4_stair 71 = .ok (.istore_n 3, 1) := dk_62 (dk_at dksX4_stair_3 3 rfl rfl)
theorem dX4_stair_72 : decode cX4_stair 72 = .ok (.aload_n 0, 1) := dk_42 (dk_at dksX4_stair_3 4 rfl rfl)
theorem dX4_stair_73 : decode cX4_stair 73 = .ok (.invokevirtual 90, 3) := dk_182 0 90 (dk_at dksX4_stair_3 5 rfl rfl)
theorem dX4_stair_76 : decode cX4_stair 76 = .ok (.istore 4, 2) := dk_54 4 (dk_at dksX4_stair_3 8 rfl rfl)
theorem dX4_stair_78 : decode cX4_stair 78 = .ok (.iload_n 3, 1) := dk_29 (dk_at dksX4_stair_3 10 rfl rfl)
theorem dX4_stair_79 : decode cX4_stair 79 = .ok (.iload 4, 2) := dk_21 4 (dk_at dksX4_stair_3 11 rfl rfl)
theorem dX4_stair_81 : decode cX4_stair 81 = .ok (.if_icmp .eq 7, 3) := dk_159 0 7 (dk_at dksX4_stair_3 13 rfl rfl)
theorem dX4_stair_84 : decode cX4_stair 84 = .ok (.iconst 1, 1) := dk_4 (dk_at dksX4_stair_3 16 rfl rfl)
theorem dX4_stair_85 : decode cX4_stair 85 = .ok (.goto 4, 3) := dk_167 0 4 (dk_at dksX4_stair_3 17 rfl rfl)
theorem dX4_stair_88 : decode cX4_stair 88 = .ok (.iconst 0, 1) := dk_3 (dk_at dksX4_stair_3 20 rfl rfl)
theorem dX4_stair_89 : decode cX4_stair 89 = .ok (.iconst 4, 1) := dk_7 (dk_at dksX4_stair_3 21 rfl rfl)
theorem dX4_stair_90 : decode cX4_stair 90 = .ok (.aload_n 0, 1) := dk_42 (dk_at dksX4_stair_3 22 rfl rfl)
theorem dX4_stair_91 : decode cX4_stair 91 = .ok (.getfield 41, 3) := dk_180 0 41 (dk_at dksX4_stair_4 0 rfl rfl)
theorem dX4_stair_94 : decode cX4_stair 94 = .ok (.invokestatic 56, 3) := dk_184 0 56 (dk_at dksX4_stair_4 3 rfl rfl)
theorem dX4_stair_97 : decode cX4_stair 97 = .ok (.aload_n 2, 1) := dk_44 (dk_at dksX4_stair_4 6 rfl rfl)
theorem dX4_stair_98 : decode cX4_stair 98 = .ok (.ldc 78, 2) := dk_18 78 (dk_at dksX4_stair_4 7 rfl rfl)
theorem dX4_stair_100 : decode cX4_stair 100 = .ok (.invokevirtual 80, 3) := dk_182 0 80 (dk_at dksX4_stair_4 9 rfl rfl)
theorem dX4_stair_103 : decode cX4_stair 103 = .ok (.ifCond .eq 16, 3) := dk_153 0 16 (dk_at dksX4_stair_4 12 rfl rfl)
theorem dX4_stair_106 : decode cX4_stair 106 = .ok (.new 93, 3) := dk_187 0 93 (dk_at dksX4_stair_4 15 rfl rfl)
theorem dX4_stair_109 : decode cX4_stair 109 = .ok (.dup, 1) := dk_89 (dk_at dksX4_stair_4 18 rfl rfl)
theorem dX4_stair_110 : decode cX4_stair 110 = .ok (.iload_n 3, 1) := dk_29 (dk_at dksX4_stair_4 19 rfl rfl)
theorem dX4_stair_111 : decode cX4_stair 111 = .ok (.iload 4, 2) := dk_21 4 (dk_at dksX4_stair_4 20 rfl rfl)
theorem dX4_stair_113 : decode cX4_stair 113 = .ok (.invokespecial 95, 3) := dk_183 0 95 (dk_at dksX4_stair_5 0 rfl rfl)
theorem dX4_stair_116 : decode cX4_stair 116 = .ok (.goto 35, 3) := dk_167 0 35 (dk_at dksX4_stair_5 3 rfl rfl)
theorem dX4_stair_119 : decode cX4_stair 119 = .ok (.aload_n 2, 1) := dk_44 (dk_at dksX4_stair_5 6 rfl rfl)
theorem dX4_stair_120 : decode cX4_stair 120 = .ok (.ldc 86, 2) := dk_18 86 (dk_at dksX4_stair_5 7 rfl rfl)
theorem dX4_stair_122 : decode cX4_stair 122 = .ok (.invokevirtual 80, 3) := dk_182 0 80 (dk_at dksX4_stair_5 9 rfl rfl)
theorem dX4_stair_125 : decode cX4_stair 125 = .ok (.ifCond .eq 16, 3) := dk_153 0 16 (dk_at dksX4_stair_5 12 rfl rfl)
theorem dX4_stair_128 : decode cX4_stair 128 = .ok (.new 96, 3) := dk_187 0 96 (dk_at dksX4_stair_5 15 rfl rfl)
theorem dX4_stair_131 : decode cX4_stair 131 = .ok (.dup, 1) := dk_89 (dk_at dksX4_stair_5 18 rfl rfl)
theorem dX4_stair_132 : decode cX4_stair 132 = .ok (.iload_n 3, 1) := dk_29 (dk_at dksX4_stair_5 19 rfl rfl)
theorem dX4_stair_133 : decode cX4_stair 133 = .ok (.iload 4, 2) := dk_21 4 (dk_at dksX4_stair_5 20 rfl rfl)
theorem dX4_stair_135 : decode cX4_stair 135 = .ok (.invokespecial 98, 3) := dk_183 0 98 (dk_at dksX4_stair_6 0 rfl rfl)
theorem dX4_stair_138 : decode cX4_stair 138 = .ok (.goto 13, 3) := dk_167 0 13 (dk_at dksX4_stair_6 3 rfl rfl)
theorem dX4_stair_141 : decode cX4_stair 141 = .ok (.new 99, 3) := dk_187 0 99 (dk_at dksX4_stair_6 6 rfl rfl)
theorem dX4_stair_144 : decode cX4_stair 144 = .ok (.dup, 1) := dk_89 (dk_at dksX4_stair_6 9 rfl rfl)
theorem dX4_stair_145 : decode cX4_stair 145 = .ok (.iload_n 3, 1) := dk_29 (dk_at dksX4_stair_6 10 rfl rfl)
theorem dX4_stair_146 : decode cX4_stair 146 = .ok (.iload 4, 2) := dk_21 4 (dk_at dksX4_stair_6 11 rfl rfl)
theorem dX4_stair_148 : decode cX4_stair 148 = .ok (.invokespecial 101, 3) := dk_183 0 101 (dk_at dksX4_stair_6 13 rfl rfl)
theorem dX4_stair_151 : decode cX4_stair 151 = .ok (.astore 5, 2) := dk_58 5 (dk_at dksX4_stair_6 16 rfl rfl)
theorem dX4_stair_153 : decode cX4_stair 153 = .ok (.iconst 1, 1) := dk_4 (dk_at dksX4_stair_6 18 rfl rfl)
theorem dX4_stair_154 : decode cX4_stair 154 = .ok (.istore 6, 2) := dk_54 6 (dk_at dksX4_stair_6 19 rfl rfl)
theorem dX4_stair_156 : decode cX4_stair 156 = .ok (.iload 6, 2) := dk_21 6 (dk_at dksX4_stair_6 21 rfl rfl)
theorem dX4_stair_158 : decode cX4_stair 158 = .ok (.ifCond .eq 98, 3) := dk_153 0 98 (dk_at dksX4_stair_7 0 rfl rfl)
theorem dX4_stair_161 : decode cX4_stair 161 = .ok (.aload 5, 2) := dk_25 5 (dk_at dksX4_stair_7 3 rfl rfl)
theorem dX4_stair_163 : decode cX4_stair 163 = .ok (.getfield 102, 3) := dk_180 0 102 (dk_at dksX4_stair_7 5 rfl rfl)
theorem dX4_stair_166 : decode cX4_stair 166 = .ok (.aload 5, 2) := dk_25 5 (dk_at dksX4_stair_7 8 rfl rfl)
theorem dX4_stair_168 : decode cX4_stair 168 = .ok (.getfield 106, 3) := dk_180 0 106 (dk_at dksX4_stair_7 10 rfl rfl)
theorem dX4_stair_171 : decode cX4_stair 171 = .ok (.aload_n 0, 1) := dk_42 (dk_at dksX4_stair_7 13 rfl rfl)
theorem dX4_stair_172 : decode cX4_stair 172 = .ok (.iconst 1, 1) := dk_4 (dk_at dksX4_stair_7 14 rfl rfl)
theorem dX4_stair_173 : decode cX4_stair 173 = .ok (.sipush 720, 3) := dk_17 2 208 (dk_at dksX4_stair_7 15 rfl rfl)
theorem dX4_stair_176 : decode cX4_stair 176 = .ok (.invokevirtual 69, 3) := dk_182 0 69 (dk_at dksX4_stair_7 18 rfl rfl)
theorem dX4_stair_179 : decode cX4_stair 179 = .ok (.iastore, 1) := dk_79 (dk_at dksX4_stair_7 21 rfl rfl)
theorem dX4_stair_180 : decode cX4_stair 180 = .ok (.aload 5, 2) := dk_25 5 (dk_at dksX4_stair_7 22 rfl rfl)
theorem dX4_stair_182 : decode cX4_stair 182 = .ok (.dup, 1) := dk_89 (dk_at dksX4_stair_8 0 rfl rfl)
theorem dX4_stair_183 : decode cX4_stair 183 = .ok (.getfield 106, 3) := dk_180 0 106 (dk_at dksX4_stair_8 1 rfl rfl)
theorem dX4_stair_186 : decode cX4_stair 186 = .ok (.iconst 1, 1) := dk_4 (dk_at dksX4_stair_8 4 rfl rfl)
theorem dX4_stair_187 : decode cX4_stair 187 = .ok (.iadd, 1) := dk_96 (dk_at dksX4_stair_8 5 rfl rfl)
theorem dX4_stair_188 : decode cX4_stair 188 = .ok (.putfield 106, 3) := dk_181 0 106 (dk_at dksX4_stair_8 6 rfl rfl)
theorem dX4_stair_191 : decode cX4_stair 191 = .ok (.aload_n 0, 1) := dk_42 (dk_at dksX4_stair_8 9 rfl rfl)
theorem dX4_stair_192 : decode cX4_stair 192 = .ok (.invokevirtual 37, 3) := dk_182 0 37 (dk_at dksX4_stair_8 10 rfl rfl)
theorem dX4_stair_195 : decode cX4_stair 195 = .ok (.bipush 44, 2) := dk_16 44 (dk_at dksX4_stair_8 13 rfl rfl)
theorem dX4_stair_197 : decode cX4_stair 197 = .ok (.if_icmp .ne 7, 3) := dk_160 0 7 (dk_at dksX4_stair_8 15 rfl rfl)
theorem dX4_stair_200 : decode cX4_stair 200 = .ok (.iconst 1, 1) := dk_4 (dk_at dksX4_stair_8 18 rfl rfl)
theorem dX4_stair_201 : decode cX4_stair 201 = .ok (.goto 4, 3) := dk_167 0 4 (dk_at dksX4_stair_8 19 rfl rfl)
theorem dX4_stair_204 : decode cX4_stair 204 = .ok (.iconst 0, 1) := dk_3 (dk_at dksX4_stair_8 22 rfl rfl)
theorem dX4_stair_205 : decode cX4_stair 205 = .ok (.istore 6, 2) := dk_54 6 (dk_at dksX4_stair_9 0 rfl rfl)
theorem dX4_stair_207 : decode cX4_stair 207 = .ok (.iload 6, 2) := dk_21 6 (dk_at dksX4_stair_9 2 rfl rfl)
theorem dX4_stair_209 : decode cX4_stair 209 = .ok (.ifCond .eq 12, 3) := dk_153 0 12 (dk_at dksX4_stair_9 4 rfl rfl)
theorem dX4_stair_212 : decode cX4_stair 212 = .ok (.aload 5, 2) := dk_25 5 (dk_at dksX4_stair_9 7 rfl rfl)
theorem dX4_stair_214 : decode cX4_stair 214 = .ok (.getfield 106, 3) := dk_180 0 106 (dk_at dksX4_stair_9 9 rfl rfl)
theorem dX4_stair_217 : decode cX4_stair 217 = .ok (.iconst 3, 1) := dk_6 (dk_at dksX4_stair_9 12 rfl rfl)
theorem dX4_stair_218 : decode cX4_stair 218 = .ok (.if_icmp .ge 7, 3) := dk_162 0 7 (dk_at dksX4_stair_9 13 rfl rfl)
theorem dX4_stair_221 : decode cX4_stair 221 = .ok (.iconst 1, 1) := dk_4 (dk_at dksX4_stair_9 16 rfl rfl)
theorem dX4_stair_222 : decode cX4_stair 222 = .ok (.goto 4, 3) := dk_167 0 4 (dk_at dksX4_stair_9 17 rfl rfl)
theorem dX4_stair_225 : decode cX4_stair 225 = .ok (.iconst 0, 1) := dk_3 (dk_at dksX4_stair_9 20 rfl rfl)
theorem dX4_stair_226 : decode cX4_stair 226 = .ok (.iconst 1, 1) := dk_4 (dk_at dksX4_stair_9 21 rfl rfl)
theorem dX4_stair_227 : decode cX4_stair 227 = .ok (.aload_n 0, 1) := dk_42 (dk_at dksX4_stair_9 22 rfl rfl)
theorem dX4_stair_228 : decode cX4_stair 228 = .ok (.getfield 26, 3) := dk_180 0 26 (dk_at dksX4_stair_10 0 rfl rfl)
theorem dX4_stair_231 : decode cX4_stair 231 = .ok (.invokestatic 56, 3) := dk_184 0 56 (dk_at dksX4_stair_10 3 rfl rfl)
theorem dX4_stair_234 : decode cX4_stair 234 = .ok (.aload_n 0, 1) := dk_42 (dk_at dksX4_stair_10 6 rfl rfl)
theorem dX4_stair_235 : decode cX4_stair 235 = .ok (.dup, 1) := dk_89 (dk_at dksX4_stair_10 7 rfl rfl)
theorem dX4_stair_236 : decode cX4_stair 236 = .ok (.getfield 26, 3) := dk_180 0 26 (dk_at dksX4_stair_10 8 rfl rfl)
theorem dX4_stair_239 : decode cX4_stair 239 = .ok (.iload 6, 2) := dk_21 6 (dk_at dksX4_stair_10 11 rfl rfl)
theorem dX4_stair_241 : decode cX4_stair 241 = .ok (.ifCond .eq 7, 3) := dk_153 0 7 (dk_at dksX4_stair_10 13 rfl rfl)
theorem dX4_stair_244 : decode cX4_stair 244 = .ok (.iconst 1, 1) := dk_4 (dk_at dksX4_stair_10 16 rfl rfl)
theorem dX4_stair_245 : decode cX4_stair 245 = .ok (.goto 4, 3) := dk_167 0 4 (dk_at dksX4_stair_10 17 rfl rfl)
theorem dX4_stair_248 : decode cX4_stair 248 = .ok (.iconst 0, 1) := dk_3 (dk_at dksX4_stair_10 20 rfl rfl)
theorem dX4_stair_249 : decode cX4_stair 249 = .ok (.iadd, 1) := dk_96 (dk_at dksX4_stair_10 21 rfl rfl)
theorem dX4_stair_250 : decode cX4_stair 250 = .ok (.putfield 26, 3) := dk_181 0 26 (dk_at dksX4_stair_11 0 rfl rfl)
theorem dX4_stair_253 : decode cX4_stair 253 = .ok (.goto (-97), 3) := dk_167 255 159 (dk_at dksX4_stair_11 3 rfl rfl)
theorem dX4_stair_256 : decode cX4_stair 256 = .ok (.aload_n 0, 1) := dk_42 (dk_at dksX4_stair_11 6 rfl rfl)
theorem dX4_stair_257 : decode cX4_stair 257 = .ok (.getfield 12, 3) := dk_180 0 12 (dk_at dksX4_stair_11 7 rfl rfl)
theorem dX4_stair_260 : decode cX4_stair 260 = .ok (.getfield 109, 3) := dk_180 0 109 (dk_at dksX4_stair_11 10 rfl rfl)
theorem dX4_stair_263 : decode cX4_stair 263 = .ok (.aload_n 0, 1) := dk_42 (dk_at dksX4_stair_11 13 rfl rfl)
theorem dX4_stair_264 : decode cX4_stair 264 = .ok (.getfield 12, 3) := dk_180 0 12 (dk_at dksX4_stair_11 14 rfl rfl)
theorem dX4_stair_267 : decode cX4_stair 267 = .ok (.getfield 72, 3) := dk_180 0 72 (dk_at dksX4_stair_11 17 rfl rfl)
theorem dX4_stair_270 : decode cX4_stair 270 = .ok (.aload 5, 2) := dk_25 5 (dk_at dksX4_stair_11 20 rfl rfl)
theorem dX4_stair_272 : decode cX4_stair 272 = .ok (.aastore, 1) := dk_83 (dk_at dksX4_stair_11 22 rfl rfl)
theorem dX4_stair_273 : decode cX4_stair 273 = .ok (.aload_n 0, 1) := dk_42 (dk_at dksX4_stair_11 23 rfl rfl)
theorem dX4_stair_274 : decode cX4_stair 274 = .ok (.getfield 12, 3) := dk_180 0 12 (dk_at dksX4_stair_12 0 rfl rfl)
theorem dX4_stair_277 : decode cX4_stair 277 = .ok (.dup, 1) := dk_89 (dk_at dksX4_stair_12 3 rfl rfl)
theorem dX4_stair_278 : decode cX4_stair 278 = .ok (.getfield 72, 3) := dk_180 0 72 (dk_at dksX4_stair_12 4 rfl rfl)
theorem dX4_stair_281 : decode cX4_stair 281 = .ok (.iconst 1, 1) := dk_4 (dk_at dksX4_stair_12 7 rfl rfl)
theorem dX4_stair_282 : decode cX4_stair 282 = .ok (.iadd, 1) := dk_96 (dk_at dksX4_stair_12 8 rfl rfl)
theorem dX4_stair_283 : decode cX4_stair 283 = .ok (.putfield 72, 3) := dk_181 0 72 (dk_at dksX4_stair_12 9 rfl rfl)
theorem dX4_stair_286 : decode cX4_stair 286 = .ok (.return_, 1) := dk_177 (dk_at dksX4_stair_12 12 rfl rfl)
abbrev cX4_place : ByteArray := prog_6_method_6_code
def yX4_place : MethodName := ⟨RX4, "place", "()I"⟩
def dkwX4_place_0 : List UInt8 := [42, 3, 42, 180, 0, 12, 180, 0, 66, 4, 100, 182, 0, 69, 172]
abbrev dktX4_place_0 : List UInt8 := dkwX4_place_0 ++ []
theorem dksX4_place_0 : cX4_place.data.toList.drop 0 = dktX4_place_0 := by decide +kernel
theorem dX4_place_0 : decode cX4_place 0 = .ok (.aload_n 0, 1) := dk_42 (dk_at dksX4_place_0 0 rfl rfl)
theorem dX4_place_1 : decode cX4_place 1 = .ok (.iconst 0, 1) := dk_3 (dk_at dksX4_place_0 1 rfl rfl)
theorem dX4_place_2 : decode cX4_place 2 = .ok (.aload_n 0, 1) := dk_42 (dk_at dksX4_place_0 2 rfl rfl)
theorem dX4_place_3 : decode cX4_place 3 = .ok (.getfield 12, 3) := dk_180 0 12 (dk_at dksX4_place_0 3 rfl rfl)
theorem dX4_place_6 : decode cX4_place 6 = .ok (.getfield 66, 3) := dk_180 0 66 (dk_at dksX4_place_0 6 rfl rfl)
theorem dX4_place_9 : decode cX4_place 9 = .ok (.iconst 1, 1) := dk_4 (dk_at dksX4_place_0 9 rfl rfl)
theorem dX4_place_10 : decode cX4_place 10 = .ok (.isub, 1) := dk_100 (dk_at dksX4_place_0 10 rfl rfl)
theorem dX4_place_11 : decode cX4_place 11 = .ok (.invokevirtual 69, 3) := dk_182 0 69 (dk_at dksX4_place_0 11 rfl rfl)
theorem dX4_place_14 : decode cX4_place 14 = .ok (.ireturn, 1) := dk_172 (dk_at dksX4_place_0 14 rfl rfl)
abbrev cX4_person : ByteArray := prog_6_method_8_code
def yX4_person : MethodName := ⟨RX4, "person", "(I)V"⟩
def dkwX4_person_3 : List UInt8 := [4, 16, 24, 182, 0, 69, 79, 42, 180, 0, 12, 89, 180, 0, 113, 4, 96, 181, 0, 113, 177]
abbrev dktX4_person_3 : List UInt8 := dkwX4_person_3 ++ []
def dkwX4_person_2 : List UInt8 := [16, 24, 182, 0, 69, 79, 42, 182, 0, 37, 16, 59, 159, 0, 19, 42, 180, 0, 12, 180, 0, 121, 28, 42]
abbrev dktX4_person_2 : List UInt8 := dkwX4_person_2 ++ dktX4_person_3
def dkwX4_person_1 : List UInt8 := [42, 180, 0, 12, 180, 0, 116, 28, 42, 182, 0, 90, 79, 42, 180, 0, 12, 180, 0, 118, 28, 42, 4]
abbrev dktX4_person_1 : List UInt8 := dkwX4_person_1 ++ dktX4_person_2
def dkwX4_person_0 : List UInt8 := [42, 180, 0, 12, 180, 0, 113, 61, 28, 16, 8, 162, 0, 7, 4, 167, 0, 4, 3, 6, 27, 184, 0, 56]
abbrev dktX4_person_0 : List UInt8 := dkwX4_person_0 ++ dktX4_person_1
theorem dksX4_person_0 : cX4_person.data.toList.drop 0 = dktX4_person_0 := by decide +kernel
theorem dksX4_person_1 : cX4_person.data.toList.drop 24 = dktX4_person_1 := dk_seg dksX4_person_0 24 rfl rfl
theorem dksX4_person_2 : cX4_person.data.toList.drop 47 = dktX4_person_2 := dk_seg dksX4_person_1 23 rfl rfl
theorem dksX4_person_3 : cX4_person.data.toList.drop 71 = dktX4_person_3 := dk_seg dksX4_person_2 24 rfl rfl
theorem dX4_person_0 : decode cX4_person 0 = .ok (.aload_n 0, 1) := dk_42 (dk_at dksX4_person_0 0 rfl rfl)
theorem dX4_person_1 : decode cX4_person 1 = .ok (.getfield 12, 3) := dk_180 0 12 (dk_at dksX4_person_0 1 rfl rfl)
theorem dX4_person_4 : decode cX4_person 4 = .ok (.getfield 113, 3) := dk_180 0 113 (dk_at dksX4_person_0 4 rfl rfl)
theorem dX4_person_7 : decode cX4_person 7 = .ok (.istore_n 2, 1) := dk_61 (dk_at dksX4_person_0 7 rfl rfl)
theorem dX4_person_8 : decode cX4_person 8 = .ok (.iload_n 2, 1) := dk_28 (dk_at dksX4_person_0 8 rfl rfl)
theorem dX4_person_9 : decode cX4_person 9 = .ok (.bipush 8, 2) := dk_16 8 (dk_at dksX4_person_0 9 rfl rfl)
theorem dX4_person_11 : decode cX4_person 11 = .ok (.if_icmp .ge 7, 3) := dk_162 0 7 (dk_at dksX4_person_0 11 rfl rfl)
theorem dX4_person_14 : decode cX4_person 14 = .ok (.iconst 1, 1) := dk_4 (dk_at dksX4_person_0 14 rfl rfl)
theorem dX4_person_15 : decode cX4_person 15 = .ok (.goto 4, 3) := dk_167 0 4 (dk_at dksX4_person_0 15 rfl rfl)
theorem dX4_person_18 : decode cX4_person 18 = .ok (.iconst 0, 1) := dk_3 (dk_at dksX4_person_0 18 rfl rfl)
theorem dX4_person_19 : decode cX4_person 19 = .ok (.iconst 3, 1) := dk_6 (dk_at dksX4_person_0 19 rfl rfl)
theorem dX4_person_20 : decode cX4_person 20 = .ok (.iload_n 1, 1) := dk_27 (dk_at dksX4_person_0 20 rfl rfl)
theorem dX4_person_21 : decode cX4_person 21 = .ok (.invokestatic 56, 3) := dk_184 0 56 (dk_at dksX4_person_0 21 rfl rfl)
theorem dX4_person_24 : decode cX4_person 24 = .ok (.aload_n 0, 1) := dk_42 (dk_at dksX4_person_1 0 rfl rfl)
theorem dX4_person_25 : decode cX4_person 25 = .ok (.getfield 12, 3) := dk_180 0 12 (dk_at dksX4_person_1 1 rfl rfl)
theorem dX4_person_28 : decode cX4_person 28 = .ok (.getfield 116, 3) := dk_180 0 116 (dk_at dksX4_person_1 4 rfl rfl)
theorem dX4_person_31 : decode cX4_person 31 = .ok (.iload_n 2, 1) := dk_28 (dk_at dksX4_person_1 7 rfl rfl)
theorem dX4_person_32 : decode cX4_person 32 = .ok (.aload_n 0, 1) := dk_42 (dk_at dksX4_person_1 8 rfl rfl)
theorem dX4_person_33 : decode cX4_person 33 = .ok (.invokevirtual 90, 3) := dk_182 0 90 (dk_at dksX4_person_1 9 rfl rfl)
theorem dX4_person_36 : decode cX4_person 36 = .ok (.iastore, 1) := dk_79 (dk_at dksX4_person_1 12 rfl rfl)
theorem dX4_person_37 : decode cX4_person 37 = .ok (.aload_n 0, 1) := dk_42 (dk_at dksX4_person_1 13 rfl rfl)
theorem dX4_person_38 : decode cX4_person 38 = .ok (.getfield 12, 3) := dk_180 0 12 (dk_at dksX4_person_1 14 rfl rfl)
theorem dX4_person_41 : decode cX4_person 41 = .ok (.getfield 118, 3) := dk_180 0 118 (dk_at dksX4_person_1 17 rfl rfl)
theorem dX4_person_44 : decode cX4_person 44 = .ok (.iload_n 2, 1) := dk_28 (dk_at dksX4_person_1 20 rfl rfl)
theorem dX4_person_45 : decode cX4_person 45 = .ok (.aload_n 0, 1) := dk_42 (dk_at dksX4_person_1 21 rfl rfl)
theorem dX4_person_46 : decode cX4_person 46 = .ok (.iconst 1, 1) := dk_4 (dk_at dksX4_person_1 22 rfl rfl)
theorem dX4_person_47 : decode cX4_person 47 = .ok (.bipush 24, 2) := dk_16 24 (dk_at dksX4_person_2 0 rfl rfl)
theorem dX4_person_49 : decode cX4_person 49 = .ok (.invokevirtual 69, 3) := dk_182 0 69 (dk_at dksX4_person_2 2 rfl rfl)
theorem dX4_person_52 : decode cX4_person 52 = .ok (.iastore, 1) := dk_79 (dk_at dksX4_person_2 5 rfl rfl)
theorem dX4_person_53 : decode cX4_person 53 = .ok (.aload_n 0, 1) := dk_42 (dk_at dksX4_person_2 6 rfl rfl)
theorem dX4_person_54 : decode cX4_person 54 = .ok (.invokevirtual 37, 3) := dk_182 0 37 (dk_at dksX4_person_2 7 rfl rfl)
theorem dX4_person_57 : decode cX4_person 57 = .ok (.bipush 59, 2) := dk_16 59 (dk_at dksX4_person_2 10 rfl rfl)
theorem dX4_person_59 : decode cX4_person 59 = .ok (.if_icmp .eq 19, 3) := dk_159 0 19 (dk_at dksX4_person_2 12 rfl rfl)
theorem dX4_person_62 : decode cX4_person 62 = .ok (.aload_n 0, 1) := dk_42 (dk_at dksX4_person_2 15 rfl rfl)
theorem dX4_person_63 : decode cX4_person 63 = .ok (.getfield 12, 3) := dk_180 0 12 (dk_at dksX4_person_2 16 rfl rfl)
theorem dX4_person_66 : decode cX4_person 66 = .ok (.getfield 121, 3) := dk_180 0 121 (dk_at dksX4_person_2 19 rfl rfl)
theorem dX4_person_69 : decode cX4_person 69 = .ok (.iload_n 2, 1) := dk_28 (dk_at dksX4_person_2 22 rfl rfl)
theorem dX4_person_70 : decode cX4_person 70 = .ok (.aload_n 0, 1) := dk_42 (dk_at dksX4_person_2 23 rfl rfl)
theorem dX4_person_71 : decode cX4_person 71 = .ok (.iconst 1, 1) := dk_4 (dk_at dksX4_person_3 0 rfl rfl)
theorem dX4_person_72 : decode cX4_person 72 = .ok (.bipush 24, 2) := dk_16 24 (dk_at dksX4_person_3 1 rfl rfl)
theorem dX4_person_74 : decode cX4_person 74 = .ok (.invokevirtual 69, 3) := dk_182 0 69 (dk_at dksX4_person_3 3 rfl rfl)
theorem dX4_person_77 : decode cX4_person 77 = .ok (.iastore, 1) := dk_79 (dk_at dksX4_person_3 6 rfl rfl)
theorem dX4_person_78 : decode cX4_person 78 = .ok (.aload_n 0, 1) := dk_42 (dk_at dksX4_person_3 7 rfl rfl)
theorem dX4_person_79 : decode cX4_person 79 = .ok (.getfield 12, 3) := dk_180 0 12 (dk_at dksX4_person_3 8 rfl rfl)
theorem dX4_person_82 : decode cX4_person 82 = .ok (.dup, 1) := dk_89 (dk_at dksX4_person_3 11 rfl rfl)
theorem dX4_person_83 : decode cX4_person 83 = .ok (.getfield 113, 3) := dk_180 0 113 (dk_at dksX4_person_3 12 rfl rfl)
theorem dX4_person_86 : decode cX4_person 86 = .ok (.iconst 1, 1) := dk_4 (dk_at dksX4_person_3 15 rfl rfl)
theorem dX4_person_87 : decode cX4_person 87 = .ok (.iadd, 1) := dk_96 (dk_at dksX4_person_3 16 rfl rfl)
theorem dX4_person_88 : decode cX4_person 88 = .ok (.putfield 113, 3) := dk_181 0 113 (dk_at dksX4_person_3 17 rfl rfl)
theorem dX4_person_91 : decode cX4_person 91 = .ok (.return_, 1) := dk_177 (dk_at dksX4_person_3 20 rfl rfl)
theorem q61 : (Jvm.Cond.initialized "FittingStrides$Reader") ∈ lw_all := lw_g (lw_at lw_m1 5 rfl) rfl
theorem q95 : (Jvm.Cond.fieldLinkNest "FittingStrides$Reader" (66 : Nat) "FittingStrides$Town" "places" "I" "FittingStrides") ∈ lw_tbl := lw_at lw_m1 39 rfl
theorem q99 : (Jvm.Cond.fieldLinkNest "FittingStrides$Reader" (109 : Nat) "FittingStrides$Town" "stairs" "[LFittingStrides$Stair;" "FittingStrides") ∈ lw_tbl := lw_at lw_m1 43 rfl
theorem q102 : (Jvm.Cond.fieldLinkNest "FittingStrides$Reader" (72 : Nat) "FittingStrides$Town" "stairMany" "I" "FittingStrides") ∈ lw_tbl := lw_at lw_m1 46 rfl
theorem q106 : (Jvm.Cond.fieldLinkNest "FittingStrides$Reader" (116 : Nat) "FittingStrides$Town" "place" "[I" "FittingStrides") ∈ lw_tbl := lw_at lw_m1 50 rfl
theorem q109 : (Jvm.Cond.fieldLinkNest "FittingStrides$Reader" (118 : Nat) "FittingStrides$Town" "stride" "[I" "FittingStrides") ∈ lw_tbl := lw_at lw_m1 53 rfl
theorem q112 : (Jvm.Cond.fieldLinkNest "FittingStrides$Reader" (121 : Nat) "FittingStrides$Town" "second" "[I" "FittingStrides") ∈ lw_tbl := lw_at lw_m1 56 rfl
theorem q114 : (Jvm.Cond.fieldLinkNest "FittingStrides$Reader" (113 : Nat) "FittingStrides$Town" "persons" "I" "FittingStrides") ∈ lw_tbl := lw_at lw_m1 58 rfl
theorem q243 : (Jvm.Cond.instantiable "FittingStrides$Reader" (5 : Nat)) ∈ lw_all := lw_g (lw_at lw_m1 187 rfl) rfl
theorem q245 : (Jvm.Cond.instanceMethod ({ cls := "FittingStrides$Reader", name := "<init>", desc := "([BI)V" } : Jvm.MethodName)) ∈ lw_all := lw_g (lw_at lw_m1 189 rfl) rfl
theorem q246 : (Jvm.Cond.code ({ cls := "FittingStrides$Reader", name := "<init>", desc := "([BI)V" } : Jvm.MethodName) prog_6_method_1_code (3 : Nat) (Option.none : Option Jvm.ClassFile.FieldType)) ∈ lw_all := lw_g (lw_at lw_m1 190 rfl) rfl
theorem q247 : (Jvm.Cond.methodLink "FittingStrides$Reader" (3 : Nat) ({ cls := "java/lang/Object", name := "<init>", desc := "()V" } : Jvm.MethodName)) ∈ lw_all := lw_g (lw_at lw_m1 191 rfl) rfl
theorem q248 : (Jvm.Cond.classLink "FittingStrides$Reader" (9 : Nat) "FittingStrides$Town") ∈ lw_all := lw_g (lw_at lw_m1 192 rfl) rfl
theorem q249 : (Jvm.Cond.methodLinkNest "FittingStrides$Reader" (11 : Nat) ({ cls := "FittingStrides$Town", name := "<init>", desc := "()V" } : Jvm.MethodName) "FittingStrides") ∈ lw_tbl := lw_at lw_m1 193 rfl
theorem q250 : (Jvm.Cond.fieldLink "FittingStrides$Reader" (18 : Nat) "FittingStrides$Reader" "text" "[B") ∈ lw_all := lw_g (lw_at lw_m1 194 rfl) rfl
theorem q251 : (Jvm.Cond.fieldLink "FittingStrides$Reader" (22 : Nat) "FittingStrides$Reader" "size" "I") ∈ lw_all := lw_g (lw_at lw_m1 195 rfl) rfl
theorem q252 : (Jvm.Cond.fieldLink "FittingStrides$Reader" (12 : Nat) "FittingStrides$Reader" "town" "LFittingStrides$Town;") ∈ lw_all := lw_g (lw_at lw_m1 196 rfl) rfl
theorem q253 : (Jvm.Cond.fieldLink "FittingStrides$Reader" (26 : Nat) "FittingStrides$Reader" "at" "I") ∈ lw_all := lw_g (lw_at lw_m1 197 rfl) rfl
theorem q254 : (Jvm.Cond.fieldLink "FittingStrides$Reader" (41 : Nat) "FittingStrides$Reader" "from" "I") ∈ lw_all := lw_g (lw_at lw_m1 198 rfl) rfl
theorem q255 : (Jvm.Cond.laysFinal "FittingStrides$Reader" "FittingStrides$Reader" "text" "[B") ∈ lw_all := lw_g (lw_at lw_m1 199 rfl) rfl
theorem q256 : (Jvm.Cond.soleField "FittingStrides$Reader" "text") ∈ lw_all := lw_g (lw_at lw_m1 200 rfl) rfl
theorem q257 : (Jvm.Cond.laysFinal "FittingStrides$Reader" "FittingStrides$Reader" "size" "I") ∈ lw_all := lw_g (lw_at lw_m1 201 rfl) rfl
theorem q258 : (Jvm.Cond.soleField "FittingStrides$Reader" "size") ∈ lw_all := lw_g (lw_at lw_m1 202 rfl) rfl
theorem q259 : (Jvm.Cond.laysFinal "FittingStrides$Reader" "FittingStrides$Reader" "town" "LFittingStrides$Town;") ∈ lw_all := lw_g (lw_at lw_m1 203 rfl) rfl
theorem q260 : (Jvm.Cond.soleField "FittingStrides$Reader" "town") ∈ lw_all := lw_g (lw_at lw_m1 204 rfl) rfl
theorem q261 : (Jvm.Cond.lays "FittingStrides$Reader" "FittingStrides$Reader" "at" "I") ∈ lw_all := lw_g (lw_at lw_m1 205 rfl) rfl
theorem q262 : (Jvm.Cond.soleField "FittingStrides$Reader" "at") ∈ lw_all := lw_g (lw_at lw_m1 206 rfl) rfl
theorem q263 : (Jvm.Cond.lays "FittingStrides$Reader" "FittingStrides$Reader" "from" "I") ∈ lw_all := lw_g (lw_at lw_m1 207 rfl) rfl
theorem q264 : (Jvm.Cond.soleField "FittingStrides$Reader" "from") ∈ lw_all := lw_g (lw_at lw_m1 208 rfl) rfl
theorem q265 : (Jvm.Cond.superclass "FittingStrides$Reader" "java/lang/Object") ∈ lw_all := lw_g (lw_at lw_m1 209 rfl) rfl
theorem q267 : (Jvm.Cond.instanceMethod ({ cls := "FittingStrides$Reader", name := "all", desc := "()LFittingStrides$Town;" } : Jvm.MethodName)) ∈ lw_all := lw_g (lw_at lw_m1 211 rfl) rfl
theorem q268 : (Jvm.Cond.selects "FittingStrides$Reader" ({ cls := "FittingStrides$Reader", name := "all", desc := "()LFittingStrides$Town;" } : Jvm.MethodName) ({ cls := "FittingStrides$Reader", name := "all", desc := "()LFittingStrides$Town;" } : Jvm.MethodName)) ∈ lw_all := lw_g (lw_at lw_m1 212 rfl) rfl
theorem q269 : (Jvm.Cond.code ({ cls := "FittingStrides$Reader", name := "all", desc := "()LFittingStrides$Town;" } : Jvm.MethodName) prog_6_method_10_code (2 : Nat) (Option.some (Jvm.ClassFile.FieldType.object "FittingStrides$Town"))) ∈ lw_all := lw_g (lw_at lw_m1 213 rfl) rfl
theorem q270 : (Jvm.Cond.methodLink "FittingStrides$Reader" (37 : Nat) ({ cls := "FittingStrides$Reader", name := "here", desc := "()I" } : Jvm.MethodName)) ∈ lw_all := lw_g (lw_at lw_m1 214 rfl) rfl
theorem q271 : (Jvm.Cond.privateMethod ({ cls := "FittingStrides$Reader", name := "here", desc := "()I" } : Jvm.MethodName)) ∈ lw_tbl := lw_at lw_m1 215 rfl
theorem q272 : (Jvm.Cond.instanceMethod ({ cls := "FittingStrides$Reader", name := "here", desc := "()I" } : Jvm.MethodName)) ∈ lw_all := lw_g (lw_at lw_m1 216 rfl) rfl
theorem q273 : (Jvm.Cond.code ({ cls := "FittingStrides$Reader", name := "here", desc := "()I" } : Jvm.MethodName) prog_6_method_2_code (1 : Nat) (Option.some Jvm.ClassFile.FieldType.int)) ∈ lw_all := lw_g (lw_at lw_m1 217 rfl) rfl
theorem q274 : (Jvm.Cond.methodLink "FittingStrides$Reader" (75 : Nat) ({ cls := "FittingStrides$Reader", name := "word", desc := "()Ljava/lang/String;" } : Jvm.MethodName)) ∈ lw_all := lw_g (lw_at lw_m1 218 rfl) rfl
theorem q275 : (Jvm.Cond.privateMethod ({ cls := "FittingStrides$Reader", name := "word", desc := "()Ljava/lang/String;" } : Jvm.MethodName)) ∈ lw_tbl := lw_at lw_m1 219 rfl
theorem q276 : (Jvm.Cond.instanceMethod ({ cls := "FittingStrides$Reader", name := "word", desc := "()Ljava/lang/String;" } : Jvm.MethodName)) ∈ lw_all := lw_g (lw_at lw_m1 220 rfl) rfl
theorem q277 : (Jvm.Cond.code ({ cls := "FittingStrides$Reader", name := "word", desc := "()Ljava/lang/String;" } : Jvm.MethodName) prog_6_method_4_code (3 : Nat) (Option.some (Jvm.ClassFile.FieldType.object "java/lang/String"))) ∈ lw_all := lw_g (lw_at lw_m1 221 rfl) rfl
theorem q278 : (Jvm.Cond.classLink "FittingStrides$Reader" (34 : Nat) "java/lang/StringBuilder") ∈ lw_all := lw_g (lw_at lw_m1 222 rfl) rfl
theorem q280 : (Jvm.Cond.methodLink "FittingStrides$Reader" (36 : Nat) ({ cls := "java/lang/StringBuilder", name := "<init>", desc := "()V" } : Jvm.MethodName)) ∈ lw_all := lw_g (lw_at lw_m1 224 rfl) rfl
theorem q309 : (Jvm.Cond.methodLinkNest "FittingStrides$Reader" (44 : Nat) ({ cls := "FittingStrides", name := "isIn", desc := "(III)Z" } : Jvm.MethodName) "FittingStrides") ∈ lw_tbl := lw_at lw_m2 13 rfl
theorem q310 : (Jvm.Cond.methodLink "FittingStrides$Reader" (48 : Nat) ({ cls := "java/lang/StringBuilder", name := "append", desc := "(C)Ljava/lang/StringBuilder;" } : Jvm.MethodName)) ∈ lw_all := lw_g (lw_at lw_m2 14 rfl) rfl
theorem q405 : (Jvm.Cond.methodLink "FittingStrides$Reader" (52 : Nat) ({ cls := "java/lang/StringBuilder", name := "toString", desc := "()Ljava/lang/String;" } : Jvm.MethodName)) ∈ lw_all := lw_g (lw_at lw_m2 109 rfl) rfl
theorem q468 : (Jvm.Cond.methodLink "FittingStrides$Reader" (137 : Nat) ({ cls := "FittingStrides$Reader", name := "clause", desc := "(Ljava/lang/String;I)V" } : Jvm.MethodName)) ∈ lw_all := lw_g (lw_at lw_m2 172 rfl) rfl
theorem q469 : (Jvm.Cond.privateMethod ({ cls := "FittingStrides$Reader", name := "clause", desc := "(Ljava/lang/String;I)V" } : Jvm.MethodName)) ∈ lw_tbl := lw_at lw_m2 173 rfl
theorem q470 : (Jvm.Cond.instanceMethod ({ cls := "FittingStrides$Reader", name := "clause", desc := "(Ljava/lang/String;I)V" } : Jvm.MethodName)) ∈ lw_all := lw_g (lw_at lw_m2 174 rfl) rfl
theorem q471 : (Jvm.Cond.code ({ cls := "FittingStrides$Reader", name := "clause", desc := "(Ljava/lang/String;I)V" } : Jvm.MethodName) prog_6_method_9_code (5 : Nat) (Option.none : Option Jvm.ClassFile.FieldType)) ∈ lw_all := lw_g (lw_at lw_m2 175 rfl) rfl
theorem q472 : (Jvm.Cond.stringRef "FittingStrides$Reader" (124 : Nat) "places") ∈ lw_tbl := lw_at lw_m2 176 rfl
theorem q473 : (Jvm.Cond.methodLink "FittingStrides$Reader" (80 : Nat) ({ cls := "java/lang/String", name := "equals", desc := "(Ljava/lang/Object;)Z" } : Jvm.MethodName)) ∈ lw_all := lw_g (lw_at lw_m2 177 rfl) rfl
theorem q481 : (Jvm.Cond.methodLink "FittingStrides$Reader" (56 : Nat) ({ cls := "FittingStrides$Reader", name := "want", desc := "(ZII)V" } : Jvm.MethodName)) ∈ lw_all := lw_g (lw_at lw_m2 185 rfl) rfl
theorem q482 : (Jvm.Cond.static ({ cls := "FittingStrides$Reader", name := "want", desc := "(ZII)V" } : Jvm.MethodName)) ∈ lw_all := lw_g (lw_at lw_m2 186 rfl) rfl
theorem q483 : (Jvm.Cond.code ({ cls := "FittingStrides$Reader", name := "want", desc := "(ZII)V" } : Jvm.MethodName) prog_6_method_3_code (3 : Nat) (Option.none : Option Jvm.ClassFile.FieldType)) ∈ lw_all := lw_g (lw_at lw_m2 187 rfl) rfl
theorem q484 : (Jvm.Cond.classLink "FittingStrides$Reader" (29 : Nat) "FittingStrides$Fault") ∈ lw_all := lw_g (lw_at lw_m2 188 rfl) rfl
theorem q521 : (Jvm.Cond.methodLink "FittingStrides$Reader" (31 : Nat) ({ cls := "FittingStrides$Fault", name := "<init>", desc := "(II)V" } : Jvm.MethodName)) ∈ lw_all := lw_g (lw_at lw_m2 225 rfl) rfl
theorem q551 : (Jvm.Cond.methodLink "FittingStrides$Reader" (125 : Nat) ({ cls := "java/lang/String", name := "hashCode", desc := "()I" } : Jvm.MethodName)) ∈ lw_all := lw_g (lw_at lw_m3 15 rfl) rfl
theorem q604 : (Jvm.Cond.stringRef "FittingStrides$Reader" (128 : Nat) "stair") ∈ lw_tbl := lw_at lw_m3 68 rfl
theorem q605 : (Jvm.Cond.stringRef "FittingStrides$Reader" (130 : Nat) "person") ∈ lw_tbl := lw_at lw_m3 69 rfl
theorem q606 : (Jvm.Cond.methodLink "FittingStrides$Reader" (69 : Nat) ({ cls := "FittingStrides$Reader", name := "number", desc := "(II)I" } : Jvm.MethodName)) ∈ lw_all := lw_g (lw_at lw_m3 70 rfl) rfl
theorem q607 : (Jvm.Cond.privateMethod ({ cls := "FittingStrides$Reader", name := "number", desc := "(II)I" } : Jvm.MethodName)) ∈ lw_tbl := lw_at lw_m3 71 rfl
theorem q608 : (Jvm.Cond.instanceMethod ({ cls := "FittingStrides$Reader", name := "number", desc := "(II)I" } : Jvm.MethodName)) ∈ lw_all := lw_g (lw_at lw_m3 72 rfl) rfl
theorem q609 : (Jvm.Cond.code ({ cls := "FittingStrides$Reader", name := "number", desc := "(II)I" } : Jvm.MethodName) prog_6_method_5_code (4 : Nat) (Option.some Jvm.ClassFile.FieldType.int)) ∈ lw_all := lw_g (lw_at lw_m3 73 rfl) rfl
theorem q610 : (Jvm.Cond.methodLink "FittingStrides$Reader" (60 : Nat) ({ cls := "java/lang/Math", name := "min", desc := "(II)I" } : Jvm.MethodName)) ∈ lw_all := lw_g (lw_at lw_m3 74 rfl) rfl
theorem q611 : (Jvm.Cond.methodLink "FittingStrides$Reader" (132 : Nat) ({ cls := "FittingStrides$Reader", name := "stair", desc := "(I)V" } : Jvm.MethodName)) ∈ lw_all := lw_g (lw_at lw_m3 75 rfl) rfl
theorem q612 : (Jvm.Cond.privateMethod ({ cls := "FittingStrides$Reader", name := "stair", desc := "(I)V" } : Jvm.MethodName)) ∈ lw_tbl := lw_at lw_m3 76 rfl
theorem q613 : (Jvm.Cond.instanceMethod ({ cls := "FittingStrides$Reader", name := "stair", desc := "(I)V" } : Jvm.MethodName)) ∈ lw_all := lw_g (lw_at lw_m3 77 rfl) rfl
theorem q614 : (Jvm.Cond.code ({ cls := "FittingStrides$Reader", name := "stair", desc := "(I)V" } : Jvm.MethodName) prog_6_method_7_code (7 : Nat) (Option.none : Option Jvm.ClassFile.FieldType)) ∈ lw_all := lw_g (lw_at lw_m3 78 rfl) rfl
theorem q615 : (Jvm.Cond.stringRef "FittingStrides$Reader" (78 : Nat) "plain") ∈ lw_tbl := lw_at lw_m3 79 rfl
theorem q616 : (Jvm.Cond.stringRef "FittingStrides$Reader" (86 : Nat) "open") ∈ lw_tbl := lw_at lw_m3 80 rfl
theorem q617 : (Jvm.Cond.stringRef "FittingStrides$Reader" (88 : Nat) "leap") ∈ lw_tbl := lw_at lw_m3 81 rfl
theorem q618 : (Jvm.Cond.methodLink "FittingStrides$Reader" (90 : Nat) ({ cls := "FittingStrides$Reader", name := "place", desc := "()I" } : Jvm.MethodName)) ∈ lw_all := lw_g (lw_at lw_m3 82 rfl) rfl
theorem q619 : (Jvm.Cond.privateMethod ({ cls := "FittingStrides$Reader", name := "place", desc := "()I" } : Jvm.MethodName)) ∈ lw_tbl := lw_at lw_m3 83 rfl
theorem q620 : (Jvm.Cond.instanceMethod ({ cls := "FittingStrides$Reader", name := "place", desc := "()I" } : Jvm.MethodName)) ∈ lw_all := lw_g (lw_at lw_m3 84 rfl) rfl
theorem q621 : (Jvm.Cond.code ({ cls := "FittingStrides$Reader", name := "place", desc := "()I" } : Jvm.MethodName) prog_6_method_6_code (1 : Nat) (Option.some Jvm.ClassFile.FieldType.int)) ∈ lw_all := lw_g (lw_at lw_m3 85 rfl) rfl
theorem q622 : (Jvm.Cond.classLink "FittingStrides$Reader" (93 : Nat) "FittingStrides$Stair") ∈ lw_all := lw_g (lw_at lw_m3 86 rfl) rfl
theorem q624 : (Jvm.Cond.methodLink "FittingStrides$Reader" (95 : Nat) ({ cls := "FittingStrides$Stair", name := "<init>", desc := "(II)V" } : Jvm.MethodName)) ∈ lw_all := lw_g (lw_at lw_m3 88 rfl) rfl
theorem q636 : (Jvm.Cond.fieldLink "FittingStrides$Reader" (102 : Nat) "FittingStrides$Stair" "steps" "[I") ∈ lw_all := lw_g (lw_at lw_m3 100 rfl) rfl
theorem q639 : (Jvm.Cond.fieldLink "FittingStrides$Reader" (106 : Nat) "FittingStrides$Stair" "parts" "I") ∈ lw_all := lw_g (lw_at lw_m3 103 rfl) rfl
theorem q650 : (Jvm.Cond.classLink "FittingStrides$Reader" (96 : Nat) "FittingStrides$OpenStair") ∈ lw_all := lw_g (lw_at lw_m3 114 rfl) rfl
theorem q652 : (Jvm.Cond.methodLink "FittingStrides$Reader" (98 : Nat) ({ cls := "FittingStrides$OpenStair", name := "<init>", desc := "(II)V" } : Jvm.MethodName)) ∈ lw_all := lw_g (lw_at lw_m3 116 rfl) rfl
theorem q661 : (Jvm.Cond.classLink "FittingStrides$Reader" (99 : Nat) "FittingStrides$LeapStair") ∈ lw_all := lw_g (lw_at lw_m3 125 rfl) rfl
theorem q663 : (Jvm.Cond.methodLink "FittingStrides$Reader" (101 : Nat) ({ cls := "FittingStrides$LeapStair", name := "<init>", desc := "(II)V" } : Jvm.MethodName)) ∈ lw_all := lw_g (lw_at lw_m3 127 rfl) rfl
theorem q672 : (Jvm.Cond.methodLink "FittingStrides$Reader" (135 : Nat) ({ cls := "FittingStrides$Reader", name := "person", desc := "(I)V" } : Jvm.MethodName)) ∈ lw_all := lw_g (lw_at lw_m3 136 rfl) rfl
theorem q673 : (Jvm.Cond.privateMethod ({ cls := "FittingStrides$Reader", name := "person", desc := "(I)V" } : Jvm.MethodName)) ∈ lw_tbl := lw_at lw_m3 137 rfl
theorem q674 : (Jvm.Cond.instanceMethod ({ cls := "FittingStrides$Reader", name := "person", desc := "(I)V" } : Jvm.MethodName)) ∈ lw_all := lw_g (lw_at lw_m3 138 rfl) rfl
theorem q675 : (Jvm.Cond.code ({ cls := "FittingStrides$Reader", name := "person", desc := "(I)V" } : Jvm.MethodName) prog_6_method_8_code (3 : Nat) (Option.none : Option Jvm.ClassFile.FieldType)) ∈ lw_all := lw_g (lw_at lw_m3 139 rfl) rfl
theorem in_X4 : ∀ w ∈ wsX40, w ∈ lw_all := lw_in wsX40 [255, 257, 259, 261, 263] (by decide +kernel) (by decide +kernel)
/-! FittingStrides$Fault -/
set_option maxRecDepth 100000
def RX5 : String := "FittingStrides$Fault"
def TX5 : u_T := fun k => match k with
  | 0 => ("java/lang/Throwable", "cause", "Ljava/lang/Throwable;", false)
  | 1 => ("java/lang/Throwable", "stackTrace", "[Ljava/lang/StackTraceElement;", false)
  | 2 => ("java/lang/Throwable", "suppressedExceptions", "Ljava/util/List;", false)
  | 3 => ("java/lang/Throwable", "detailMessage", "Ljava/lang/String;", false)
  | 4 => ("java/lang/Throwable", "backtrace", "Ljava/lang/Object;", false)
  | 5 => ("java/lang/Throwable", "depth", "I", false)
  | 6 => ("FittingStrides$Fault", "number", "I", true)
  | _ => ("FittingStrides$Fault", "place", "I", true)
def tyX5 : Nat → FieldType := fun k => match k with
  | 0 => .object "java/lang/Throwable"
  | 1 => .array (.object "java/lang/StackTraceElement")
  | 2 => .object "java/util/List"
  | 3 => .object "java/lang/String"
  | 4 => .object "java/lang/Object"
  | 5 => .int
  | 6 => .int
  | _ => .int
abbrev wsX50 : List Cond := u_ws RX5 TX5 8
theorem nmX5 : ∀ a, a < 8 → ∀ b, b < 8 → a ≠ b → (TX5 a).2.1 ≠ (TX5 b).2.1 := by decide +kernel
theorem tyX5_ok : ∀ k, k < 8 → parseFieldDescriptor (TX5 k).2.2.1 = some (tyX5 k) := by decide +kernel
abbrev cX5_init : ByteArray := prog_2_method_1_code
def yX5_init : MethodName := ⟨RX5, "<init>", "(II)V"⟩
def dkwX5_init_0 : List UInt8 := [42, 1, 1, 3, 3, 183, 0, 1, 42, 27, 181, 0, 7, 42, 28, 181, 0, 13, 177]
abbrev dktX5_init_0 : List UInt8 := dkwX5_init_0 ++ []
theorem dksX5_init_0 : cX5_init.data.toList.drop 0 = dktX5_init_0 := by decide +kernel
theorem dX5_init_0 : decode cX5_init 0 = .ok (.aload_n 0, 1) := dk_42 (dk_at dksX5_init_0 0 rfl rfl)
theorem dX5_init_1 : decode cX5_init 1 = .ok (.aconst_null, 1) := dk_1 (dk_at dksX5_init_0 1 rfl rfl)
theorem dX5_init_2 : decode cX5_init 2 = .ok (.aconst_null, 1) := dk_1 (dk_at dksX5_init_0 2 rfl rfl)
theorem dX5_init_3 : decode cX5_init 3 = .ok (.iconst 0, 1) := dk_3 (dk_at dksX5_init_0 3 rfl rfl)
theorem dX5_init_4 : decode cX5_init 4 = .ok (.iconst 0, 1) := dk_3 (dk_at dksX5_init_0 4 rfl rfl)
theorem dX5_init_5 : decode cX5_init 5 = .ok (.invokespecial 1, 3) := dk_183 0 1 (dk_at dksX5_init_0 5 rfl rfl)
theorem dX5_init_8 : decode cX5_init 8 = .ok (.aload_n 0, 1) := dk_42 (dk_at dksX5_init_0 8 rfl rfl)
theorem dX5_init_9 : decode cX5_init 9 = .ok (.iload_n 1, 1) := dk_27 (dk_at dksX5_init_0 9 rfl rfl)
theorem dX5_init_10 : decode cX5_init 10 = .ok (.putfield 7, 3) := dk_181 0 7 (dk_at dksX5_init_0 10 rfl rfl)
theorem dX5_init_13 : decode cX5_init 13 = .ok (.aload_n 0, 1) := dk_42 (dk_at dksX5_init_0 13 rfl rfl)
theorem dX5_init_14 : decode cX5_init 14 = .ok (.iload_n 2, 1) := dk_28 (dk_at dksX5_init_0 14 rfl rfl)
theorem dX5_init_15 : decode cX5_init 15 = .ok (.putfield 13, 3) := dk_181 0 13 (dk_at dksX5_init_0 15 rfl rfl)
theorem dX5_init_18 : decode cX5_init 18 = .ok (.return_, 1) := dk_177 (dk_at dksX5_init_0 18 rfl rfl)
theorem q74 : (Jvm.Cond.initialized "FittingStrides$Fault") ∈ lw_all := lw_g (lw_at lw_m1 18 rfl) rfl
theorem q485 : (Jvm.Cond.instantiable "FittingStrides$Fault" (8 : Nat)) ∈ lw_all := lw_g (lw_at lw_m2 189 rfl) rfl
theorem q486 : (Jvm.Cond.castable "FittingStrides$Fault" "FittingStrides$Fault") ∈ lw_tbl := lw_at lw_m2 190 rfl
theorem q491 : (Jvm.Cond.selects "FittingStrides$Fault" ({ cls := "java/lang/Throwable", name := "fillInStackTrace", desc := "(I)Ljava/lang/Throwable;" } : Jvm.MethodName) ({ cls := "java/lang/Throwable", name := "fillInStackTrace", desc := "(I)Ljava/lang/Throwable;" } : Jvm.MethodName)) ∈ lw_all := lw_g (lw_at lw_m2 195 rfl) rfl
theorem q492 : (Jvm.Cond.selects "FittingStrides$Fault" ({ cls := "java/lang/Throwable", name := "fillInStackTrace", desc := "()Ljava/lang/Throwable;" } : Jvm.MethodName) ({ cls := "java/lang/Throwable", name := "fillInStackTrace", desc := "()Ljava/lang/Throwable;" } : Jvm.MethodName)) ∈ lw_all := lw_g (lw_at lw_m2 196 rfl) rfl
theorem q493 : (Jvm.Cond.lays "FittingStrides$Fault" "java/lang/Throwable" "cause" "Ljava/lang/Throwable;") ∈ lw_all := lw_g (lw_at lw_m2 197 rfl) rfl
theorem q495 : (Jvm.Cond.lays "FittingStrides$Fault" "java/lang/Throwable" "stackTrace" "[Ljava/lang/StackTraceElement;") ∈ lw_all := lw_g (lw_at lw_m2 199 rfl) rfl
theorem q497 : (Jvm.Cond.lays "FittingStrides$Fault" "java/lang/Throwable" "suppressedExceptions" "Ljava/util/List;") ∈ lw_all := lw_g (lw_at lw_m2 201 rfl) rfl
theorem q499 : (Jvm.Cond.lays "FittingStrides$Fault" "java/lang/Throwable" "detailMessage" "Ljava/lang/String;") ∈ lw_all := lw_g (lw_at lw_m2 203 rfl) rfl
theorem q501 : (Jvm.Cond.lays "FittingStrides$Fault" "java/lang/Throwable" "backtrace" "Ljava/lang/Object;") ∈ lw_all := lw_g (lw_at lw_m2 205 rfl) rfl
theorem q522 : (Jvm.Cond.instanceMethod ({ cls := "FittingStrides$Fault", name := "<init>", desc := "(II)V" } : Jvm.MethodName)) ∈ lw_all := lw_g (lw_at lw_m2 226 rfl) rfl
theorem q523 : (Jvm.Cond.code ({ cls := "FittingStrides$Fault", name := "<init>", desc := "(II)V" } : Jvm.MethodName) prog_2_method_1_code (3 : Nat) (Option.none : Option Jvm.ClassFile.FieldType)) ∈ lw_all := lw_g (lw_at lw_m2 227 rfl) rfl
theorem q524 : (Jvm.Cond.methodLink "FittingStrides$Fault" (1 : Nat) ({ cls := "java/lang/Exception", name := "<init>", desc := "(Ljava/lang/String;Ljava/lang/Throwable;ZZ)V" } : Jvm.MethodName)) ∈ lw_all := lw_g (lw_at lw_m2 228 rfl) rfl
theorem q530 : (Jvm.Cond.fieldLink "FittingStrides$Fault" (7 : Nat) "FittingStrides$Fault" "number" "I") ∈ lw_all := lw_g (lw_at lw_m2 234 rfl) rfl
theorem q532 : (Jvm.Cond.fieldLink "FittingStrides$Fault" (13 : Nat) "FittingStrides$Fault" "place" "I") ∈ lw_all := lw_g (lw_at lw_m2 236 rfl) rfl
theorem q539 : (Jvm.Cond.laysFinal "FittingStrides$Fault" "FittingStrides$Fault" "number" "I") ∈ lw_all := lw_g (lw_at lw_m3 3 rfl) rfl
theorem q540 : (Jvm.Cond.soleField "FittingStrides$Fault" "number") ∈ lw_all := lw_g (lw_at lw_m3 4 rfl) rfl
theorem q541 : (Jvm.Cond.laysFinal "FittingStrides$Fault" "FittingStrides$Fault" "place" "I") ∈ lw_all := lw_g (lw_at lw_m3 5 rfl) rfl
theorem q542 : (Jvm.Cond.soleField "FittingStrides$Fault" "place") ∈ lw_all := lw_g (lw_at lw_m3 6 rfl) rfl
theorem q547 : (Jvm.Cond.lays "FittingStrides$Fault" "java/lang/Throwable" "depth" "I") ∈ lw_all := lw_g (lw_at lw_m3 11 rfl) rfl
theorem q550 : (Jvm.Cond.superclass "FittingStrides$Fault" "java/lang/Exception") ∈ lw_all := lw_g (lw_at lw_m3 14 rfl) rfl
theorem in_X5 : ∀ w ∈ wsX50, w ∈ lw_all := lw_in wsX50 [493, 495, 497, 499, 501, 547, 539, 541] (by decide +kernel) (by decide +kernel)
