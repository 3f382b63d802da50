/-! FittingStrides -/
set_option maxRecDepth 100000
def RX0 : String := "FittingStrides"
def TX0 : u_T := fun k => match k with
  | 0 => ("FittingStrides", "town", "LFittingStrides$Town;", false)
  | 1 => ("FittingStrides", "now", "LFittingStrides$Folk;", true)
  | 2 => ("FittingStrides", "seen", "[[I", true)
  | 3 => ("FittingStrides", "wasThere", "[Z", true)
  | 4 => ("FittingStrides", "seenMany", "I", false)
  | 5 => ("FittingStrides", "bookPerson", "[I", true)
  | 6 => ("FittingStrides", "bookStair", "[I", true)
  | 7 => ("FittingStrides", "written", "I", false)
  | 8 => ("FittingStrides", "text", "[B", true)
  | 9 => ("FittingStrides", "size", "I", false)
  | 10 => ("FittingStrides", "fault", "I", false)
  | 11 => ("FittingStrides", "come", "[[Z", true)
  | 12 => ("FittingStrides", "where", "[I", true)
  | _ => ("FittingStrides", "images", "[LFittingStrides$Folk;", true)
def tyX0 : Nat → FieldType := fun k => match k with
  | 0 => .object "FittingStrides$Town"
  | 1 => .object "FittingStrides$Folk"
  | 2 => .array (.array .int)
  | 3 => .array .boolean
  | 4 => .int
  | 5 => .array .int
  | 6 => .array .int
  | 7 => .int
  | 8 => .array .byte
  | 9 => .int
  | 10 => .int
  | 11 => .array (.array .boolean)
  | 12 => .array .int
  | _ => .array (.object "FittingStrides$Folk")
abbrev wsX00 : List Cond := u_ws RX0 TX0 14
set_option maxRecDepth 100000 in
theorem nmX0 : ∀ a, a < 14 → ∀ b, b < 14 → a ≠ b → (TX0 a).2.1 ≠ (TX0 b).2.1 := by decide +kernel
set_option maxRecDepth 100000 in
theorem tyX0_ok : ∀ k, k < 14 → parseFieldDescriptor (TX0 k).2.2.1 = some (tyX0 k) := by decide +kernel
abbrev cX0_init : ByteArray := prog_1_method_4_code
def yX0_init : MethodName := ⟨RX0, "<init>", "()V"⟩
def dkwX0_init_5 : List UInt8 := [180, 0, 57, 27, 187, 0, 16, 89, 42, 183, 0, 18, 83, 132, 1, 1, 167, 255, 230, 177]
abbrev dktX0_init_5 : List UInt8 := dkwX0_init_5 ++ []
def dkwX0_init_4 : List UInt8 := [181, 0, 54, 42, 5, 189, 0, 16, 181, 0, 57, 3, 60, 27, 42, 180, 0, 57, 190, 162, 0, 23, 42]
abbrev dktX0_init_4 : List UInt8 := dkwX0_init_4 ++ dktX0_init_5
def dkwX0_init_3 : List UInt8 := [42, 2, 181, 0, 45, 42, 16, 8, 17, 1, 0, 197, 0, 49, 2, 181, 0, 51, 42, 16, 8, 188, 10]
abbrev dktX0_init_3 : List UInt8 := dkwX0_init_3 ++ dktX0_init_4
def dkwX0_init_2 : List UInt8 := [16, 40, 188, 10, 181, 0, 34, 42, 16, 40, 188, 10, 181, 0, 38, 42, 17, 1, 244, 188, 8, 181, 0, 41]
abbrev dktX0_init_2 : List UInt8 := dkwX0_init_2 ++ dktX0_init_3
def dkwX0_init_1 : List UInt8 := [181, 0, 21, 42, 16, 20, 5, 197, 0, 25, 2, 181, 0, 27, 42, 16, 20, 188, 4, 181, 0, 30, 42]
abbrev dktX0_init_1 : List UInt8 := dkwX0_init_1 ++ dktX0_init_2
def dkwX0_init_0 : List UInt8 := [42, 183, 0, 1, 42, 187, 0, 7, 89, 183, 0, 9, 181, 0, 10, 42, 187, 0, 16, 89, 42, 183, 0, 18]
abbrev dktX0_init_0 : List UInt8 := dkwX0_init_0 ++ dktX0_init_1
theorem dksX0_init_0 : cX0_init.data.toList.drop 0 = dktX0_init_0 := by decide +kernel
theorem dksX0_init_1 : cX0_init.data.toList.drop 24 = dktX0_init_1 := dk_seg dksX0_init_0 24 rfl rfl
theorem dksX0_init_2 : cX0_init.data.toList.drop 47 = dktX0_init_2 := dk_seg dksX0_init_1 23 rfl rfl
theorem dksX0_init_3 : cX0_init.data.toList.drop 71 = dktX0_init_3 := dk_seg dksX0_init_2 24 rfl rfl
theorem dksX0_init_4 : cX0_init.data.toList.drop 94 = dktX0_init_4 := dk_seg dksX0_init_3 23 rfl rfl
theorem dksX0_init_5 : cX0_init.data.toList.drop 117 = dktX0_init_5 := dk_seg dksX0_init_4 23 rfl rfl
theorem dX0_init_0 : decode cX0_init 0 = .ok (.aload_n 0, 1) := dk_42 (dk_at dksX0_init_0 0 rfl rfl)
theorem dX0_init_1 : decode cX0_init 1 = .ok (.invokespecial 1, 3) := dk_183 0 1 (dk_at dksX0_init_0 1 rfl rfl)
theorem dX0_init_4 : decode cX0_init 4 = .ok (.aload_n 0, 1) := dk_42 (dk_at dksX0_init_0 4 rfl rfl)
theorem dX0_init_5 : decode cX0_init 5 = .ok (.new 7, 3) := dk_187 0 7 (dk_at dksX0_init_0 5 rfl rfl)
theorem dX0_init_8 : decode cX0_init 8 = .ok (.dup, 1) := dk_89 (dk_at dksX0_init_0 8 rfl rfl)
theorem dX0_init_9 : decode cX0_init 9 = .ok (.invokespecial 9, 3) := dk_183 0 9 (dk_at dksX0_init_0 9 rfl rfl)
theorem dX0_init_12 : decode cX0_init 12 = .ok (.putfield 10, 3) := dk_181 0 10 (dk_at dksX0_init_0 12 rfl rfl)
theorem dX0_init_15 : decode cX0_init 15 = .ok (.aload_n 0, 1) := dk_42 (dk_at dksX0_init_0 15 rfl rfl)
theorem dX0_init_16 : decode cX0_init 16 = .ok (.new 16, 3) := dk_187 0 16 (dk_at dksX0_init_0 16 rfl rfl)
theorem dX0_init_19 : decode cX0_init 19 = .ok (.dup, 1) := dk_89 (dk_at dksX0_init_0 19 rfl rfl)
theorem dX0_init_20 : decode cX0_init 20 = .ok (.aload_n 0, 1) := dk_42 (dk_at dksX0_init_0 20 rfl rfl)
theorem dX0_init_21 : decode cX0_init 21 = .ok (.invokespecial 18, 3) := dk_183 0 18 (dk_at dksX0_init_0 21 rfl rfl)
theorem dX0_init_24 : decode cX0_init 24 = .ok (.putfield 21, 3) := dk_181 0 21 (dk_at dksX0_init_1 0 rfl rfl)
theorem dX0_init_27 : decode cX0_init 27 = .ok (.aload_n 0, 1) := dk_42 (dk_at dksX0_init_1 3 rfl rfl)
theorem dX0_init_28 : decode cX0_init 28 = .ok (.bipush 20, 2) := dk_16 20 (dk_at dksX0_init_1 4 rfl rfl)
theorem dX0_init_30 : decode cX0_init 30 = .ok (.iconst 2, 1) := dk_5 (dk_at dksX0_init_1 6 rfl rfl)
theorem dX0_init_31 : decode cX0_init 31 = .ok (.multianewarray 25 2, 4) := by decide +kernel
theorem dX0_init_35 : decode cX0_init 35 = .ok (.putfield 27, 3) := dk_181 0 27 (dk_at dksX0_init_1 11 rfl rfl)
theorem dX0_init_38 : decode cX0_init 38 = .ok (.aload_n 0, 1) := dk_42 (dk_at dksX0_init_1 14 rfl rfl)
theorem dX0_init_39 : decode cX0_init 39 = .ok (.bipush 20, 2) := dk_16 20 (dk_at dksX0_init_1 15 rfl rfl)
theorem dX0_init_41 : decode cX0_init 41 = .ok (.newarray .boolean, 2) := dk_188_4 (dk_at dksX0_init_1 17 rfl rfl)
theorem dX0_init_43 : decode cX0_init 43 = .ok (.putfield 30, 3) := dk_181 0 30 (dk_at dksX0_init_1 19 rfl rfl)
theorem dX0_init_46 : decode cX0_init 46 = .ok (.aload_n 0, 1) := dk_42 (dk_at dksX0_init_1 22 rfl rfl)
theorem dX0_init_47 : decode cX0_init 47 = .ok (.bipush 40, 2) := dk_16 40 (dk_at dksX0_init_2 0 rfl rfl)
theorem dX0_init_49 : decode cX0_init 49 = .ok (.newarray .int, 2) := dk_188_10 (dk_at dksX0_init_2 2 rfl rfl)
theorem dX0_init_51 : decode cX0_init 51 = .ok (.putfield 34, 3) := dk_181 0 34 (dk_at dksX0_init_2 4 rfl rfl)
theorem dX0_init_54 : decode cX0_init 54 = .ok (.aload_n 0, 1) := dk_42 (dk_at dksX0_init_2 7 rfl rfl)
theorem dX0_init_55 : decode cX0_init 55 = .ok (.bipush 40, 2) := dk_16 40 (dk_at dksX0_init_2 8 rfl rfl)
theorem dX0_init_57 : decode cX0_init 57 = .ok (.newarray .int, 2) := dk_188_10 (dk_at dksX0_init_2 10 rfl rfl)
theorem dX0_init_59 : decode cX0_init 59 = .ok (.putfield 38, 3) := dk_181 0 38 (dk_at dksX0_init_2 12 rfl rfl)
theorem dX0_init_62 : decode cX0_init 62 = .ok (.aload_n 0, 1) := dk_42 (dk_at dksX0_init_2 15 rfl rfl)
theorem dX0_init_63 : decode cX0_init 63 = .ok (.sipush 500, 3) := dk_17 1 244 (dk_at dksX0_init_2 16 rfl rfl)
theorem dX0_init_66 : decode cX0_init 66 = .ok (.newarray .byte, 2) := dk_188_8 (dk_at dksX0_init_2 19 rfl rfl)
theorem dX0_init_68 : decode cX0_init 68 = .ok (.putfield 41, 3) := dk_181 0 41 (dk_at dksX0_init_2 21 rfl rfl)
theorem dX0_init_71 : decode cX0_init 71 = .ok (.aload_n 0, 1) := dk_42 (dk_at dksX0_init_3 0 rfl rfl)
theorem dX0_init_72 : decode cX0_init 72 = .ok (.iconst (-1), 1) := dk_2 (dk_at dksX0_init_3 1 rfl rfl)
theorem dX0_init_73 : decode cX0_init 73 = .ok (.putfield 45, 3) := dk_181 0 45 (dk_at dksX0_init_3 2 rfl rfl)
theorem dX0_init_76 : decode cX0_init 76 = .ok (.aload_n 0, 1) := dk_42 (dk_at dksX0_init_3 5 rfl rfl)
theorem dX0_init_77 : decode cX0_init 77 = .ok (.bipush 8, 2) := dk_16 8 (dk_at dksX0_init_3 6 rfl rfl)
theorem dX0_init_79 : decode cX0_init 79 = .ok (.sipush 256, 3) := dk_17 1 0 (dk_at dksX0_init_3 8 rfl rfl)
theorem dX0_init_82 : decode cX0_init 82 = .ok (.multianewarray 49 2, 4) := by decide +kernel
theorem dX0_init_86 : decode cX0_init 86 = .ok (.putfield 51, 3) := dk_181 0 51 (dk_at dksX0_init_3 15 rfl rfl)
theorem dX0_init_89 : decode cX0_init 89 = .ok (.aload_n 0, 1) := dk_42 (dk_at dksX0_init_3 18 rfl rfl)
theorem dX0_init_90 : decode cX0_init 90 = .ok (.bipush 8, 2) := dk_16 8 (dk_at dksX0_init_3 19 rfl rfl)
theorem dX0_init_92 : decode cX0_init 92 = .ok (.newarray .int, 2) := dk_188_10 (dk_at dksX0_init_3 21 rfl rfl)
theorem dX0_init_94 : decode cX0_init 94 = .ok (.putfield 54, 3) := dk_181 0 54 (dk_at dksX0_init_4 0 rfl rfl)
theorem dX0_init_97 : decode cX0_init 97 = .ok (.aload_n 0, 1) := dk_42 (dk_at dksX0_init_4 3 rfl rfl)
theorem dX0_init_98 : decode cX0_init 98 = .ok (.iconst 2, 1) := dk_5 (dk_at dksX0_init_4 4 rfl rfl)
theorem dX0_init_99 : decode cX0_init 99 = .ok (.anewarray 16, 3) := dk_189 0 16 (dk_at dksX0_init_4 5 rfl rfl)
theorem dX0_init_102 : decode cX0_init 102 = .ok (.putfield 57, 3) := dk_181 0 57 (dk_at dksX0_init_4 8 rfl rfl)
theorem dX0_init_105 : decode cX0_init 105 = .ok (.iconst 0, 1) := dk_3 (dk_at dksX0_init_4 11 rfl rfl)
theorem dX0_init_106 : decode cX0_init 106 = .ok (.istore_n 1, 1) := dk_60 (dk_at dksX0_init_4 12 rfl rfl)
theorem dX0_init_107 : decode cX0_init 107 = .ok (.iload_n 1, 1) := dk_27 (dk_at dksX0_init_4 13 rfl rfl)
theorem dX0_init_108 : decode cX0_init 108 = .ok (.aload_n 0, 1) := dk_42 (dk_at dksX0_init_4 14 rfl rfl)
theorem dX0_init_109 : decode cX0_init 109 = .ok (.getfield 57, 3) := dk_180 0 57 (dk_at dksX0_init_4 15 rfl rfl)
theorem dX0_init_112 : decode cX0_init 112 = .ok (.arraylength, 1) := dk_190 (dk_at dksX0_init_4 18 rfl rfl)
theorem dX0_init_113 : decode cX0_init 113 = .ok (.if_icmp .ge 23, 3) := dk_162 0 23 (dk_at dksX0_init_4 19 rfl rfl)
theorem dX0_init_116 : decode cX0_init 116 = .ok (.aload_n 0, 1) := dk_42 (dk_at dksX0_init_4 22 rfl rfl)
theorem dX0_init_117 : decode cX0_init 117 = .ok (.getfield 57, 3) := dk_180 0 57 (dk_at dksX0_init_5 0 rfl rfl)
theorem dX0_init_120 : decode cX0_init 120 = .ok (.iload_n 1, 1) := dk_27 (dk_at dksX0_init_5 3 rfl rfl)
theorem dX0_init_121 : decode cX0_init 121 = .ok (.new 16, 3) := dk_187 0 16 (dk_at dksX0_init_5 4 rfl rfl)
theorem dX0_init_124 : decode cX0_init 124 = .ok (.dup, 1) := dk_89 (dk_at dksX0_init_5 7 rfl rfl)
theorem dX0_init_125 : decode cX0_init 125 = .ok (.aload_n 0, 1) := dk_42 (dk_at dksX0_init_5 8 rfl rfl)
theorem dX0_init_126 : decode cX0_init 126 = .ok (.invokespecial 18, 3) := dk_183 0 18 (dk_at dksX0_init_5 9 rfl rfl)
theorem dX0_init_129 : decode cX0_init 129 = .ok (.aastore, 1) := dk_83 (dk_at dksX0_init_5 12 rfl rfl)
theorem dX0_init_130 : decode cX0_init 130 = .ok (.iinc 1 1, 3) := dk_132 1 1 (dk_at dksX0_init_5 13 rfl rfl)
theorem dX0_init_133 : decode cX0_init 133 = .ok (.goto (-26), 3) := dk_167 255 230 (dk_at dksX0_init_5 16 rfl rfl)
theorem dX0_init_136 : decode cX0_init 136 = .ok (.return_, 1) := dk_177 (dk_at dksX0_init_5 19 rfl rfl)
abbrev cX0_feed : ByteArray := prog_1_method_5_code
def yX0_feed : MethodName := ⟨RX0, "feed", "(IJ)I"⟩
def dkwX0_feed_3 : List UInt8 := [167, 255, 220, 42, 180, 0, 66, 172]
abbrev dktX0_feed_3 : List UInt8 := dkwX0_feed_3 ++ []
def dkwX0_feed_2 : List UInt8 := [32, 16, 8, 21, 4, 104, 123, 136, 145, 84, 42, 89, 180, 0, 66, 4, 96, 181, 0, 66, 132, 4, 255]
abbrev dktX0_feed_2 : List UInt8 := dkwX0_feed_2 ++ dktX0_feed_3
def dkwX0_feed_1 : List UInt8 := [164, 0, 6, 18, 69, 172, 27, 4, 100, 54, 4, 21, 4, 155, 0, 37, 42, 180, 0, 41, 42, 180, 0, 66]
abbrev dktX0_feed_1 : List UInt8 := dkwX0_feed_1 ++ dktX0_feed_2
def dkwX0_feed_0 : List UInt8 := [27, 4, 16, 8, 184, 0, 61, 154, 0, 6, 18, 65, 172, 42, 180, 0, 66, 27, 96, 17, 1, 244]
abbrev dktX0_feed_0 : List UInt8 := dkwX0_feed_0 ++ dktX0_feed_1
theorem dksX0_feed_0 : cX0_feed.data.toList.drop 0 = dktX0_feed_0 := by decide +kernel
theorem dksX0_feed_1 : cX0_feed.data.toList.drop 22 = dktX0_feed_1 := dk_seg dksX0_feed_0 22 rfl rfl
theorem dksX0_feed_2 : cX0_feed.data.toList.drop 46 = dktX0_feed_2 := dk_seg dksX0_feed_1 24 rfl rfl
theorem dksX0_feed_3 : cX0_feed.data.toList.drop 69 = dktX0_feed_3 := dk_seg dksX0_feed_2 23 rfl rfl
theorem dX0_feed_0 : decode cX0_feed 0 = .ok (.iload_n 1, 1) := dk_27 (dk_at dksX0_feed_0 0 rfl rfl)
theorem dX0_feed_1 : decode cX0_feed 1 = .ok (.iconst 1, 1) := dk_4 (dk_at dksX0_feed_0 1 rfl rfl)
theorem dX0_feed_2 : decode cX0_feed 2 = .ok (.bipush 8, 2) := dk_16 8 (dk_at dksX0_feed_0 2 rfl rfl)
theorem dX0_feed_4 : decode cX0_feed 4 = .ok (.invokestatic 61, 3) := dk_184 0 61 (dk_at dksX0_feed_0 4 rfl rfl)
theorem dX0_feed_7 : decode cX0_feed 7 = .ok (.ifCond .ne 6, 3) := dk_154 0 6 (dk_at dksX0_feed_0 7 rfl rfl)
theorem dX0_feed_10 : decode cX0_feed 10 = .ok (.ldc 65, 2) := dk_18 65 (dk_at dksX0_feed_0 10 rfl rfl)
theorem dX0_feed_12 : decode cX0_feed 12 = .ok (.ireturn, 1) := dk_172 (dk_at dksX0_feed_0 12 rfl rfl)
theorem dX0_feed_13 : decode cX0_feed 13 = .ok (.aload_n 0, 1) := dk_42 (dk_at dksX0_feed_0 13 rfl rfl)
theorem dX0_feed_14 : decode cX0_feed 14 = .ok (.getfield 66, 3) := dk_180 0 66 (dk_at dksX0_feed_0 14 rfl rfl)
theorem dX0_feed_17 : decode cX0_feed 17 = .ok (.iload_n 1, 1) := dk_27 (dk_at dksX0_feed_0 17 rfl rfl)
theorem dX0_feed_18 : decode cX0_feed 18 = .ok (.iadd, 1) := dk_96 (dk_at dksX0_feed_0 18 rfl rfl)
theorem dX0_feed_19 : decode cX0_feed 19 = .ok (.sipush 500, 3) := dk_17 1 244 (dk_at dksX0_feed_0 19 rfl rfl)
theorem dX0_feed_22 : decode cX0_feed 22 = .ok (.if_icmp .le 6, 3) := dk_164 0 6 (dk_at dksX0_feed_1 0 rfl rfl)
theorem dX0_feed_25 : decode cX0_feed 25 = .ok (.ldc 69, 2) := dk_18 69 (dk_at dksX0_feed_1 3 rfl rfl)
theorem dX0_feed_27 : decode cX0_feed 27 = .ok (.ireturn, 1) := dk_172 (dk_at dksX0_feed_1 5 rfl rfl)
theorem dX0_feed_28 : decode cX0_feed 28 = .ok (.iload_n 1, 1) := dk_27 (dk_at dksX0_feed_1 6 rfl rfl)
theorem dX0_feed_29 : decode cX0_feed 29 = .ok (.iconst 1, 1) := dk_4 (dk_at dksX0_feed_1 7 rfl rfl)
theorem dX0_feed_30 : decode cX0_feed 30 = .ok (.isub, 1) := dk_100 (dk_at dksX0_feed_1 8 rfl rfl)
theorem dX0_feed_31 : decode cX0_feed 31 = .ok (.istore 4, 2) := dk_54 4 (dk_at dksX0_feed_1 9 rfl rfl)
theorem dX0_feed_33 : decode cX0_feed 33 = .ok (.iload 4, 2) := dk_21 4 (dk_at dksX0_feed_1 11 rfl rfl)
theorem dX0_feed_35 : decode cX0_feed 35 = .ok (.ifCond .lt 37, 3) := dk_155 0 37 (dk_at dksX0_feed_1 13 rfl rfl)
theorem dX0_feed_38 : decode cX0_feed 38 = .ok (.aload_n 0, 1) := dk_42 (dk_at dksX0_feed_1 16 rfl rfl)
theorem dX0_feed_39 : decode cX0_feed 39 = .ok (.getfield 41, 3) := dk_180 0 41 (dk_at dksX0_feed_1 17 rfl rfl)
theorem dX0_feed_42 : decode cX0_feed 42 = .ok (.aload_n 0, 1) := dk_42 (dk_at dksX0_feed_1 20 rfl rfl)
theorem dX0_feed_43 : decode cX0_feed 43 = .ok (.getfield 66, 3) := dk_180 0 66 (dk_at dksX0_feed_1 21 rfl rfl)
theorem dX0_feed_46 : decode cX0_feed 46 = .ok (.lload_n 2, 1) := dk_32 (dk_at dksX0_feed_2 0 rfl rfl)
theorem dX0_feed_47 : decode cX0_feed 47 = .ok (.bipush 8, 2) := dk_16 8 (dk_at dksX0_feed_2 1 rfl rfl)
theorem dX0_feed_49 : decode cX0_feed 49 = .ok (.iload 4, 2) := dk_21 4 (dk_at dksX0_feed_2 3 rfl rfl)
theorem dX0_feed_51 : decode cX0_feed 51 = .ok (.imul, 1) := dk_104 (dk_at dksX0_feed_2 5 rfl rfl)
theorem dX0_feed_52 : decode cX0_feed 52 = .ok (.lshr, 1) := dk_123 (dk_at dksX0_feed_2 6 rfl rfl)
theorem dX0_feed_53 : decode cX0_feed 53 = .ok (.l2i, 1) := dk_136 (dk_at dksX0_feed_2 7 rfl rfl)
theorem dX0_feed_54 : decode cX0_feed 54 = .ok (.i2b, 1) := dk_145 (dk_at dksX0_feed_2 8 rfl rfl)
theorem dX0_feed_55 : decode cX0_feed 55 = .ok (.bastore, 1) := dk_84 (dk_at dksX0_feed_2 9 rfl rfl)
theorem dX0_feed_56 : decode cX0_feed 56 = .ok (.aload_n 0, 1) := dk_42 (dk_at dksX0_feed_2 10 rfl rfl)
theorem dX0_feed_57 : decode cX0_feed 57 = .ok (.dup, 1) := dk_89 (dk_at dksX0_feed_2 11 rfl rfl)
theorem dX0_feed_58 : decode cX0_feed 58 = .ok (.getfield 66, 3) := dk_180 0 66 (dk_at dksX0_feed_2 12 rfl rfl)
theorem dX0_feed_61 : decode cX0_feed 61 = .ok (.iconst 1, 1) := dk_4 (dk_at dksX0_feed_2 15 rfl rfl)
theorem dX0_feed_62 : decode cX0_feed 62 = .ok (.iadd, 1) := dk_96 (dk_at dksX0_feed_2 16 rfl rfl)
theorem dX0_feed_63 : decode cX0_feed 63 = .ok (.putfield 66, 3) := dk_181 0 66 (dk_at dksX0_feed_2 17 rfl rfl)
theorem dX0_feed_66 : decode cX0_feed 66 = .ok (.iinc 4 (-1), 3) := dk_132 4 255 (dk_at dksX0_feed_2 20 rfl rfl)
theorem dX0_feed_69 : decode cX0_feed 69 = .ok (.goto (-36), 3) := dk_167 255 220 (dk_at dksX0_feed_3 0 rfl rfl)
theorem dX0_feed_72 : decode cX0_feed 72 = .ok (.aload_n 0, 1) := dk_42 (dk_at dksX0_feed_3 3 rfl rfl)
theorem dX0_feed_73 : decode cX0_feed 73 = .ok (.getfield 66, 3) := dk_180 0 66 (dk_at dksX0_feed_3 4 rfl rfl)
theorem dX0_feed_76 : decode cX0_feed 76 = .ok (.ireturn, 1) := dk_172 (dk_at dksX0_feed_3 7 rfl rfl)
abbrev cX0_isIn : ByteArray := prog_1_method_1_code
def yX0_isIn : MethodName := ⟨RX0, "isIn", "(III)Z"⟩
def dkwX0_isIn_0 : List UInt8 := [26, 27, 161, 0, 12, 26, 28, 163, 0, 7, 4, 167, 0, 4, 3, 172]
abbrev dktX0_isIn_0 : List UInt8 := dkwX0_isIn_0 ++ []
theorem dksX0_isIn_0 : cX0_isIn.data.toList.drop 0 = dktX0_isIn_0 := by decide +kernel
theorem dX0_isIn_0 : decode cX0_isIn 0 = .ok (.iload_n 0, 1) := dk_26 (dk_at dksX0_isIn_0 0 rfl rfl)
theorem dX0_isIn_1 : decode cX0_isIn 1 = .ok (.iload_n 1, 1) := dk_27 (dk_at dksX0_isIn_0 1 rfl rfl)
theorem dX0_isIn_2 : decode cX0_isIn 2 = .ok (.if_icmp .lt 12, 3) := dk_161 0 12 (dk_at dksX0_isIn_0 2 rfl rfl)
theorem dX0_isIn_5 : decode cX0_isIn 5 = .ok (.iload_n 0, 1) := dk_26 (dk_at dksX0_isIn_0 5 rfl rfl)
theorem dX0_isIn_6 : decode cX0_isIn 6 = .ok (.iload_n 2, 1) := dk_28 (dk_at dksX0_isIn_0 6 rfl rfl)
theorem dX0_isIn_7 : decode cX0_isIn 7 = .ok (.if_icmp .gt 7, 3) := dk_163 0 7 (dk_at dksX0_isIn_0 7 rfl rfl)
theorem dX0_isIn_10 : decode cX0_isIn 10 = .ok (.iconst 1, 1) := dk_4 (dk_at dksX0_isIn_0 10 rfl rfl)
theorem dX0_isIn_11 : decode cX0_isIn 11 = .ok (.goto 4, 3) := dk_167 0 4 (dk_at dksX0_isIn_0 11 rfl rfl)
theorem dX0_isIn_14 : decode cX0_isIn 14 = .ok (.iconst 0, 1) := dk_3 (dk_at dksX0_isIn_0 14 rfl rfl)
theorem dX0_isIn_15 : decode cX0_isIn 15 = .ok (.ireturn, 1) := dk_172 (dk_at dksX0_isIn_0 15 rfl rfl)
abbrev cX0_town : ByteArray := prog_1_method_6_code
def yX0_town : MethodName := ⟨RX0, "town", "()I"⟩
def dkwX0_town_4 : List UInt8 := [180, 0, 57, 4, 50, 3, 181, 0, 96, 42, 180, 0, 10, 180, 0, 100, 172]
abbrev dktX0_town_4 : List UInt8 := dkwX0_town_4 ++ []
def dkwX0_town_3 : List UInt8 := [182, 0, 87, 42, 3, 181, 0, 90, 42, 3, 181, 0, 93, 42, 180, 0, 57, 3, 50, 3, 181, 0, 96, 42]
abbrev dktX0_town_3 : List UInt8 := dkwX0_town_3 ++ dktX0_town_4
def dkwX0_town_2 : List UInt8 := [180, 0, 84, 100, 61, 42, 3, 181, 0, 66, 28, 172, 78, 42, 3, 181, 0, 66, 45, 191, 42, 180, 0, 21]
abbrev dktX0_town_2 : List UInt8 := dkwX0_town_2 ++ dktX0_town_3
def dkwX0_town_1 : List UInt8 := [181, 0, 10, 42, 3, 181, 0, 66, 167, 0, 35, 76, 42, 43, 180, 0, 81, 181, 0, 45, 16, 246, 43]
abbrev dktX0_town_1 : List UInt8 := dkwX0_town_1 ++ dktX0_town_2
def dkwX0_town_0 : List UInt8 := [42, 2, 181, 0, 45, 42, 187, 0, 70, 89, 42, 180, 0, 41, 42, 180, 0, 66, 183, 0, 72, 182, 0, 75]
abbrev dktX0_town_0 : List UInt8 := dkwX0_town_0 ++ dktX0_town_1
theorem dksX0_town_0 : cX0_town.data.toList.drop 0 = dktX0_town_0 := by decide +kernel
theorem dksX0_town_1 : cX0_town.data.toList.drop 24 = dktX0_town_1 := dk_seg dksX0_town_0 24 rfl rfl
theorem dksX0_town_2 : cX0_town.data.toList.drop 47 = dktX0_town_2 := dk_seg dksX0_town_1 23 rfl rfl
theorem dksX0_town_3 : cX0_town.data.toList.drop 71 = dktX0_town_3 := dk_seg dksX0_town_2 24 rfl rfl
theorem dksX0_town_4 : cX0_town.data.toList.drop 95 = dktX0_town_4 := dk_seg dksX0_town_3 24 rfl rfl
theorem dX0_town_0 : decode cX0_town 0 = .ok (.aload_n 0, 1) := dk_42 (dk_at dksX0_town_0 0 rfl rfl)
theorem dX0_town_1 : decode cX0_town 1 = .ok (.iconst (-1), 1) := dk_2 (dk_at dksX0_town_0 1 rfl rfl)
theorem dX0_town_2 : decode cX0_town 2 = .ok (.putfield 45, 3) := dk_181 0 45 (dk_at dksX0_town_0 2 rfl rfl)
theorem dX0_town_5 : decode cX0_town 5 = .ok (.aload_n 0, 1) := dk_42 (dk_at dksX0_town_0 5 rfl rfl)
theorem dX0_town_6 : decode cX0_town 6 = .ok (.new 70, 3) := dk_187 0 70 (dk_at dksX0_town_0 6 rfl rfl)
theorem dX0_town_9 : decode cX0_town 9 = .ok (.dup, 1) := dk_89 (dk_at dksX0_town_0 9 rfl rfl)
theorem dX0_town_10 : decode cX0_town 10 = .ok (.aload_n 0, 1) := dk_42 (dk_at dksX0_town_0 10 rfl rfl)
theorem dX0_town_11 : decode cX0_town 11 = .ok (.getfield 41, 3) := dk_180 0 41 (dk_at dksX0_town_0 11 rfl rfl)
theorem dX0_town_14 : decode cX0_town 14 = .ok (.aload_n 0, 1) := dk_42 (dk_at dksX0_town_0 14 rfl rfl)
theorem dX0_town_15 : decode cX0_town 15 = .ok (.getfield 66, 3) := dk_180 0 66 (dk_at dksX0_town_0 15 rfl rfl)
theorem dX0_town_18 : decode cX0_town 18 = .ok (.invokespecial 72, 3) := dk_183 0 72 (dk_at dksX0_town_0 18 rfl rfl)
theorem dX0_town_21 : decode cX0_town 21 = .ok (.invokevirtual 75, 3) := dk_182 0 75 (dk_at dksX0_town_0 21 rfl rfl)
theorem dX0_town_24 : decode cX0_town 24 = .ok (.putfield 10, 3) := dk_181 0 10 (dk_at dksX0_town_1 0 rfl rfl)
theorem dX0_town_27 : decode cX0_town 27 = .ok (.aload_n 0, 1) := dk_42 (dk_at dksX0_town_1 3 rfl rfl)
theorem dX0_town_28 : decode cX0_town 28 = .ok (.iconst 0, 1) := dk_3 (dk_at dksX0_town_1 4 rfl rfl)
theorem dX0_town_29 : decode cX0_town 29 = .ok (.putfield 66, 3) := dk_181 0 66 (dk_at dksX0_town_1 5 rfl rfl)
theorem dX0_town_32 : decode cX0_town 32 = .ok (.goto 35, 3) := dk_167 0 35 (dk_at dksX0_town_1 8 rfl rfl)
theorem dX0_town_35 : decode cX0_town 35 = .ok (.astore_n 1, 1) := dk_76 (dk_at dksX0_town_1 11 rfl rfl)
theorem dX0_town_36 : decode cX0_town 36 = .ok (.aload_n 0, 1) := dk_42 (dk_at dksX0_town_1 12 rfl rfl)
theorem dX0_town_37 : decode cX0_town 37 = .ok (.aload_n 1, 1) := dk_43 (dk_at dksX0_town_1 13 rfl rfl)
theorem dX0_town_38 : decode cX0_town 38 = .ok (.getfield 81, 3) := dk_180 0 81 (dk_at dksX0_town_1 14 rfl rfl)
theorem dX0_town_41 : decode cX0_town 41 = .ok (.putfield 45, 3) := dk_181 0 45 (dk_at dksX0_town_1 17 rfl rfl)
theorem dX0_town_44 : decode cX0_town 44 = .ok (.bipush (-10), 2) := dk_16 246 (dk_at dksX0_town_1 20 rfl rfl)
theorem dX0_town_46 : decode cX0_town 46 = .ok (.aload_n 1, 1) := dk_43 (dk_at dksX0_town_1 22 rfl rfl)
theorem dX0_town_47 : decode cX0_town 47 = .ok (.getfield 84, 3) := dk_180 0 84 (dk_at dksX0_town_2 0 rfl rfl)
theorem dX0_town_50 : decode cX0_town 50 = .ok (.isub, 1) := dk_100 (dk_at dksX0_town_2 3 rfl rfl)
theorem dX0_town_51 : decode cX0_town 51 = .ok (.istore_n 2, 1) := dk_61 (dk_at dksX0_town_2 4 rfl rfl)
theorem dX0_town_52 : decode cX0_town 52 = .ok (.aload_n 0, 1) := dk_42 (dk_at dksX0_town_2 5 rfl rfl)
theorem dX0_town_53 : decode cX0_town 53 = .ok (.iconst 0, 1) := dk_3 (dk_at dksX0_town_2 6 rfl rfl)
theorem dX0_town_54 : decode cX0_town 54 = .ok (.putfield 66, 3) := dk_181 0 66 (dk_at dksX0_town_2 7 rfl rfl)
theorem dX0_town_57 : decode cX0_town 57 = .ok (.iload_n 2, 1) := dk_28 (dk_at dksX0_town_2 10 rfl rfl)
theorem dX0_town_58 : decode cX0_town 58 = .ok (.ireturn, 1) := dk_172 (dk_at dksX0_town_2 11 rfl rfl)
theorem dX0_town_59 : decode cX0_town 59 = .ok (.astore_n 3, 1) := dk_78 (dk_at dksX0_town_2 12 rfl rfl)
theorem dX0_town_60 : decode cX0_town 60 = .ok (.aload_n 0, 1) := dk_42 (dk_at dksX0_town_2 13 rfl rfl)
theorem dX0_town_61 : decode cX0_town 61 = .ok (.iconst 0, 1) := dk_3 (dk_at dksX0_town_2 14 rfl rfl)
theorem dX0_town_62 : decode cX0_town 62 = .ok (.putfield 66, 3) := dk_181 0 66 (dk_at dksX0_town_2 15 rfl rfl)
theorem dX0_town_65 : decode cX0_town 65 = .ok (.aload_n 3, 1) := dk_45 (dk_at dksX0_town_2 18 rfl rfl)
theorem dX0_town_66 : decode cX0_town 66 = .ok (.athrow, 1) := dk_191 (dk_at dksX0_town_2 19 rfl rfl)
theorem dX0_town_67 : decode cX0_town 67 = .ok (.aload_n 0, 1) := dk_42 (dk_at dksX0_town_2 20 rfl rfl)
theorem dX0_town_68 : decode cX0_town 68 = .ok (.getfield 21, 3) := dk_180 0 21 (dk_at dksX0_town_2 21 rfl rfl)
theorem dX0_town_71 : decode cX0_town 71 = .ok (.invokevirtual 87, 3) := dk_182 0 87 (dk_at dksX0_town_3 0 rfl rfl)
theorem dX0_town_74 : decode cX0_town 74 = .ok (.aload_n 0, 1) := dk_42 (dk_at dksX0_town_3 3 rfl rfl)
theorem dX0_town_75 : decode cX0_town 75 = .ok (.iconst 0, 1) := dk_3 (dk_at dksX0_town_3 4 rfl rfl)
theorem dX0_town_76 : decode cX0_town 76 = .ok (.putfield 90, 3) := dk_181 0 90 (dk_at dksX0_town_3 5 rfl rfl)
theorem dX0_town_79 : decode cX0_town 79 = .ok (.aload_n 0, 1) := dk_42 (dk_at dksX0_town_3 8 rfl rfl)
theorem dX0_town_80 : decode cX0_town 80 = .ok (.iconst 0, 1) := dk_3 (dk_at dksX0_town_3 9 rfl rfl)
theorem dX0_town_81 : decode cX0_town 81 = .ok (.putfield 93, 3) := dk_181 0 93 (dk_at dksX0_town_3 10 rfl rfl)
theorem dX0_town_84 : decode cX0_town 84 = .ok (.aload_n 0, 1) := dk_42 (dk_at dksX0_town_3 13 rfl rfl)
theorem dX0_town_85 : decode cX0_town 85 = .ok (.getfield 57, 3) := dk_180 0 57 (dk_at dksX0_town_3 14 rfl rfl)
theorem dX0_town_88 : decode cX0_town 88 = .ok (.iconst 0, 1) := dk_3 (dk_at dksX0_town_3 17 rfl rfl)
theorem dX0_town_89 : decode cX0_town 89 = .ok (.aaload, 1) := dk_50 (dk_at dksX0_town_3 18 rfl rfl)
theorem dX0_town_90 : decode cX0_town 90 = .ok (.iconst 0, 1) := dk_3 (dk_at dksX0_town_3 19 rfl rfl)
theorem dX0_town_91 : decode cX0_town 91 = .ok (.putfield 96, 3) := dk_181 0 96 (dk_at dksX0_town_3 20 rfl rfl)
theorem dX0_town_94 : decode cX0_town 94 = .ok (.aload_n 0, 1) := dk_42 (dk_at dksX0_town_3 23 rfl rfl)
theorem dX0_town_95 : decode cX0_town 95 = .ok (.getfield 57, 3) := dk_180 0 57 (dk_at dksX0_town_4 0 rfl rfl)
theorem dX0_town_98 : decode cX0_town 98 = .ok (.iconst 1, 1) := dk_4 (dk_at dksX0_town_4 3 rfl rfl)
theorem dX0_town_99 : decode cX0_town 99 = .ok (.aaload, 1) := dk_50 (dk_at dksX0_town_4 4 rfl rfl)
theorem dX0_town_100 : decode cX0_town 100 = .ok (.iconst 0, 1) := dk_3 (dk_at dksX0_town_4 5 rfl rfl)
theorem dX0_town_101 : decode cX0_town 101 = .ok (.putfield 96, 3) := dk_181 0 96 (dk_at dksX0_town_4 6 rfl rfl)
theorem dX0_town_104 : decode cX0_town 104 = .ok (.aload_n 0, 1) := dk_42 (dk_at dksX0_town_4 9 rfl rfl)
theorem dX0_town_105 : decode cX0_town 105 = .ok (.getfield 10, 3) := dk_180 0 10 (dk_at dksX0_town_4 10 rfl rfl)
theorem dX0_town_108 : decode cX0_town 108 = .ok (.getfield 100, 3) := dk_180 0 100 (dk_at dksX0_town_4 13 rfl rfl)
theorem dX0_town_111 : decode cX0_town 111 = .ok (.ireturn, 1) := dk_172 (dk_at dksX0_town_4 16 rfl rfl)
abbrev cX0_fault : ByteArray := prog_1_method_7_code
def yX0_fault : MethodName := ⟨RX0, "fault", "()I"⟩
theorem dX0_fault_0 : decode cX0_fault 0 = .ok (.aload_n 0, 1) := by decide +kernel
theorem dX0_fault_1 : decode cX0_fault 1 = .ok (.getfield 45, 3) := by decide +kernel
theorem dX0_fault_4 : decode cX0_fault 4 = .ok (.ireturn, 1) := by decide +kernel
abbrev cX0_told : ByteArray := prog_1_method_18_code
def yX0_told : MethodName := ⟨RX0, "told", "(I)I"⟩
def dkwX0_told_4 : List UInt8 := [182, 0, 176, 172, 18, 65, 172]
abbrev dktX0_told_4 : List UInt8 := dkwX0_told_4 ++ []
def dkwX0_told_3 : List UInt8 := [42, 180, 0, 66, 172, 42, 180, 0, 21, 180, 0, 140, 172, 42, 180, 0, 90, 172, 42, 180, 0, 93, 172, 42]
abbrev dktX0_told_3 : List UInt8 := dkwX0_told_3 ++ dktX0_told_4
def dkwX0_told_2 : List UInt8 := [42, 180, 0, 10, 180, 0, 100, 172, 42, 180, 0, 10, 180, 0, 103, 172, 42, 180, 0, 21, 180, 0, 106, 172]
abbrev dktX0_told_2 : List UInt8 := dkwX0_told_2 ++ dktX0_told_3
def dkwX0_told_1 : List UInt8 := [170, 0, 0, 0, 0, 0, 99, 0, 0, 0, 0, 0, 0, 0, 7, 0, 0, 0, 47, 0, 0, 0, 55, 0, 0, 0, 63, 0, 0, 0, 71, 0, 0, 0, 76, 0, 0, 0, 84, 0, 0, 0, 89, 0, 0, 0, 94]
abbrev dktX0_told_1 : List UInt8 := dkwX0_told_1 ++ dktX0_told_2
def dkwX0_told_0 : List UInt8 := [27]
abbrev dktX0_told_0 : List UInt8 := dkwX0_told_0 ++ dktX0_told_1
theorem dksX0_told_0 : cX0_told.data.toList.drop 0 = dktX0_told_0 := by decide +kernel
theorem dksX0_told_1 : cX0_told.data.toList.drop 1 = dktX0_told_1 := dk_seg dksX0_told_0 1 rfl rfl
theorem dksX0_told_2 : cX0_told.data.toList.drop 48 = dktX0_told_2 := dk_seg dksX0_told_1 47 rfl rfl
theorem dksX0_told_3 : cX0_told.data.toList.drop 72 = dktX0_told_3 := dk_seg dksX0_told_2 24 rfl rfl
theorem dksX0_told_4 : cX0_told.data.toList.drop 96 = dktX0_told_4 := dk_seg dksX0_told_3 24 rfl rfl
theorem dX0_told_0 : decode cX0_told 0 = .ok (.iload_n 1, 1) := dk_27 (dk_at dksX0_told_0 0 rfl rfl)
theorem dX0_told_1 : decode cX0_told 1 = .ok (.tableswitch 99 0 7 #[47, 55, 63, 71, 76, 84, 89, 94], 47) := by decide +kernel
theorem dX0_told_48 : decode cX0_told 48 = .ok (.aload_n 0, 1) := dk_42 (dk_at dksX0_told_2 0 rfl rfl)
theorem dX0_told_49 : decode cX0_told 49 = .ok (.getfield 10, 3) := dk_180 0 10 (dk_at dksX0_told_2 1 rfl rfl)
theorem dX0_told_52 : decode cX0_told 52 = .ok (.getfield 100, 3) := dk_180 0 100 (dk_at dksX0_told_2 4 rfl rfl)
theorem dX0_told_55 : decode cX0_told 55 = .ok (.ireturn, 1) := dk_172 (dk_at dksX0_told_2 7 rfl rfl)
theorem dX0_told_56 : decode cX0_told 56 = .ok (.aload_n 0, 1) := dk_42 (dk_at dksX0_told_2 8 rfl rfl)
theorem dX0_told_57 : decode cX0_told 57 = .ok (.getfield 10, 3) := dk_180 0 10 (dk_at dksX0_told_2 9 rfl rfl)
theorem dX0_told_60 : decode cX0_told 60 = .ok (.getfield 103, 3) := dk_180 0 103 (dk_at dksX0_told_2 12 rfl rfl)
theorem dX0_told_63 : decode cX0_told 63 = .ok (.ireturn, 1) := dk_172 (dk_at dksX0_told_2 15 rfl rfl)
theorem dX0_told_64 : decode cX0_told 64 = .ok (.aload_n 0, 1) := dk_42 (dk_at dksX0_told_2 16 rfl rfl)
theorem dX0_told_65 : decode cX0_told 65 = .ok (.getfield 21, 3) := dk_180 0 21 (dk_at dksX0_told_2 17 rfl rfl)
theorem dX0_told_68 : decode cX0_told 68 = .ok (.getfield 106, 3) := dk_180 0 106 (dk_at dksX0_told_2 20 rfl rfl)
theorem dX0_told_71 : decode cX0_told 71 = .ok (.ireturn, 1) := dk_172 (dk_at dksX0_told_2 23 rfl rfl)
theorem dX0_told_72 : decode cX0_told 72 = .ok (.aload_n 0, 1) := dk_42 (dk_at dksX0_told_3 0 rfl rfl)
theorem dX0_told_73 : decode cX0_told 73 = .ok (.getfield 66, 3) := dk_180 0 66 (dk_at dksX0_told_3 1 rfl rfl)
theorem dX0_told_76 : decode cX0_told 76 = .ok (.ireturn, 1) := dk_172 (dk_at dksX0_told_3 4 rfl rfl)
theorem dX0_told_77 : decode cX0_told 77 = .ok (.aload_n 0, 1) := dk_42 (dk_at dksX0_told_3 5 rfl rfl)
theorem dX0_told_78 : decode cX0_told 78 = .ok (.getfield 21, 3) := dk_180 0 21 (dk_at dksX0_told_3 6 rfl rfl)
theorem dX0_told_81 : decode cX0_told 81 = .ok (.getfield 140, 3) := dk_180 0 140 (dk_at dksX0_told_3 9 rfl rfl)
theorem dX0_told_84 : decode cX0_told 84 = .ok (.ireturn, 1) := dk_172 (dk_at dksX0_told_3 12 rfl rfl)
theorem dX0_told_85 : decode cX0_told 85 = .ok (.aload_n 0, 1) := dk_42 (dk_at dksX0_told_3 13 rfl rfl)
theorem dX0_told_86 : decode cX0_told 86 = .ok (.getfield 90, 3) := dk_180 0 90 (dk_at dksX0_told_3 14 rfl rfl)
theorem dX0_told_89 : decode cX0_told 89 = .ok (.ireturn, 1) := dk_172 (dk_at dksX0_told_3 17 rfl rfl)
theorem dX0_told_90 : decode cX0_told 90 = .ok (.aload_n 0, 1) := dk_42 (dk_at dksX0_told_3 18 rfl rfl)
theorem dX0_told_91 : decode cX0_told 91 = .ok (.getfield 93, 3) := dk_180 0 93 (dk_at dksX0_told_3 19 rfl rfl)
theorem dX0_told_94 : decode cX0_told 94 = .ok (.ireturn, 1) := dk_172 (dk_at dksX0_told_3 22 rfl rfl)
theorem dX0_told_95 : decode cX0_told 95 = .ok (.aload_n 0, 1) := dk_42 (dk_at dksX0_told_3 23 rfl rfl)
theorem dX0_told_96 : decode cX0_told 96 = .ok (.invokevirtual 176, 3) := dk_182 0 176 (dk_at dksX0_told_4 0 rfl rfl)
theorem dX0_told_99 : decode cX0_told 99 = .ok (.ireturn, 1) := dk_172 (dk_at dksX0_told_4 3 rfl rfl)
theorem dX0_told_100 : decode cX0_told 100 = .ok (.ldc 65, 2) := dk_18 65 (dk_at dksX0_told_4 4 rfl rfl)
theorem dX0_told_102 : decode cX0_told 102 = .ok (.ireturn, 1) := dk_172 (dk_at dksX0_told_4 6 rfl rfl)
abbrev cX0_allWorn : ByteArray := prog_1_method_19_code
def yX0_allWorn : MethodName := ⟨RX0, "allWorn", "()I"⟩
def dkwX0_allWorn_1 : List UInt8 := [46, 96, 60, 132, 2, 1, 167, 255, 230, 27, 172]
abbrev dktX0_allWorn_1 : List UInt8 := dkwX0_allWorn_1 ++ []
def dkwX0_allWorn_0 : List UInt8 := [3, 60, 3, 61, 28, 42, 180, 0, 10, 180, 0, 103, 162, 0, 21, 27, 42, 180, 0, 21, 180, 0, 180, 28]
abbrev dktX0_allWorn_0 : List UInt8 := dkwX0_allWorn_0 ++ dktX0_allWorn_1
theorem dksX0_allWorn_0 : cX0_allWorn.data.toList.drop 0 = dktX0_allWorn_0 := by decide +kernel
theorem dksX0_allWorn_1 : cX0_allWorn.data.toList.drop 24 = dktX0_allWorn_1 := dk_seg dksX0_allWorn_0 24 rfl rfl
theorem dX0_allWorn_0 : decode cX0_allWorn 0 = .ok (.iconst 0, 1) := dk_3 (dk_at dksX0_allWorn_0 0 rfl rfl)
theorem dX0_allWorn_1 : decode cX0_allWorn 1 = .ok (.istore_n 1, 1) := dk_60 (dk_at dksX0_allWorn_0 1 rfl rfl)
theorem dX0_allWorn_2 : decode cX0_allWorn 2 = .ok (.iconst 0, 1) := dk_3 (dk_at dksX0_allWorn_0 2 rfl rfl)
theorem dX0_allWorn_3 : decode cX0_allWorn 3 = .ok (.istore_n 2, 1) := dk_61 (dk_at dksX0_allWorn_0 3 rfl rfl)
theorem dX0_allWorn_4 : decode cX0_allWorn 4 = .ok (.iload_n 2, 1) := dk_28 (dk_at dksX0_allWorn_0 4 rfl rfl)
theorem dX0_allWorn_5 : decode cX0_allWorn 5 = .ok (.aload_n 0, 1) := dk_42 (dk_at dksX0_allWorn_0 5 rfl rfl)
theorem dX0_allWorn_6 : decode cX0_allWorn 6 = .ok (.getfield 10, 3) := dk_180 0 10 (dk_at dksX0_allWorn_0 6 rfl rfl)
theorem dX0_allWorn_9 : decode cX0_allWorn 9 = .ok (.getfield 103, 3) := dk_180 0 103 (dk_at dksX0_allWorn_0 9 rfl rfl)
theorem dX0_allWorn_12 : decode cX0_allWorn 12 = .ok (.if_icmp .ge 21, 3) := dk_162 0 21 (dk_at dksX0_allWorn_0 12 rfl rfl)
theorem dX0_allWorn_15 : decode cX0_allWorn 15 = .ok (.iload_n 1, 1) := dk_27 (dk_at dksX0_allWorn_0 15 rfl rfl)
theorem dX0_allWorn_16 : decode cX0_allWorn 16 = .ok (.aload_n 0, 1) := dk_42 (dk_at dksX0_allWorn_0 16 rfl rfl)
theorem dX0_allWorn_17 : decode cX0_allWorn 17 = .ok (.getfield 21, 3) := dk_180 0 21 (dk_at dksX0_allWorn_0 17 rfl rfl)
theorem dX0_allWorn_20 : decode cX0_allWorn 20 = .ok (.getfield 180, 3) := dk_180 0 180 (dk_at dksX0_allWorn_0 20 rfl rfl)
theorem dX0_allWorn_23 : decode cX0_allWorn 23 = .ok (.iload_n 2, 1) := dk_28 (dk_at dksX0_allWorn_0 23 rfl rfl)
theorem dX0_allWorn_24 : decode cX0_allWorn 24 = .ok (.iaload, 1) := dk_46 (dk_at dksX0_allWorn_1 0 rfl rfl)
theorem dX0_allWorn_25 : decode cX0_allWorn 25 = .ok (.iadd, 1) := dk_96 (dk_at dksX0_allWorn_1 1 rfl rfl)
theorem dX0_allWorn_26 : decode cX0_allWorn 26 = .ok (.istore_n 1, 1) := dk_60 (dk_at dksX0_allWorn_1 2 rfl rfl)
theorem dX0_allWorn_27 : decode cX0_allWorn 27 = .ok (.iinc 2 1, 3) := dk_132 2 1 (dk_at dksX0_allWorn_1 3 rfl rfl)
theorem dX0_allWorn_30 : decode cX0_allWorn 30 = .ok (.goto (-26), 3) := dk_167 255 230 (dk_at dksX0_allWorn_1 6 rfl rfl)
theorem dX0_allWorn_33 : decode cX0_allWorn 33 = .ok (.iload_n 1, 1) := dk_27 (dk_at dksX0_allWorn_1 9 rfl rfl)
theorem dX0_allWorn_34 : decode cX0_allWorn 34 = .ok (.ireturn, 1) := dk_172 (dk_at dksX0_allWorn_1 10 rfl rfl)
abbrev cX0_stair : ByteArray := prog_1_method_20_code
def yX0_stair : MethodName := ⟨RX0, "stair", "(II)I"⟩
def dkwX0_stair_3 : List UInt8 := [28, 7, 100, 46, 172, 42, 180, 0, 21, 180, 0, 180, 27, 46, 172, 42, 27, 182, 0, 187, 172, 18, 65, 172]
abbrev dktX0_stair_3 : List UInt8 := dkwX0_stair_3 ++ []
def dkwX0_stair_2 : List UInt8 := [45, 182, 0, 184, 172, 45, 180, 0, 153, 172, 45, 180, 0, 143, 172, 45, 180, 0, 117, 172, 45, 180, 0, 125]
abbrev dktX0_stair_2 : List UInt8 := dkwX0_stair_2 ++ dktX0_stair_3
def dkwX0_stair_1 : List UInt8 := [170, 0, 0, 0, 0, 95, 0, 0, 0, 0, 0, 0, 0, 8, 0, 0, 0, 50, 0, 0, 0, 55, 0, 0, 0, 60, 0, 0, 0, 65, 0, 0, 0, 70, 0, 0, 0, 70, 0, 0, 0, 70, 0, 0, 0, 79, 0, 0, 0, 89]
abbrev dktX0_stair_1 : List UInt8 := dkwX0_stair_1 ++ dktX0_stair_2
def dkwX0_stair_0 : List UInt8 := [42, 27, 182, 0, 109, 154, 0, 6, 18, 183, 172, 42, 27, 182, 0, 133, 78, 28]
abbrev dktX0_stair_0 : List UInt8 := dkwX0_stair_0 ++ dktX0_stair_1
theorem dksX0_stair_0 : cX0_stair.data.toList.drop 0 = dktX0_stair_0 := by decide +kernel
theorem dksX0_stair_1 : cX0_stair.data.toList.drop 18 = dktX0_stair_1 := dk_seg dksX0_stair_0 18 rfl rfl
theorem dksX0_stair_2 : cX0_stair.data.toList.drop 68 = dktX0_stair_2 := dk_seg dksX0_stair_1 50 rfl rfl
theorem dksX0_stair_3 : cX0_stair.data.toList.drop 92 = dktX0_stair_3 := dk_seg dksX0_stair_2 24 rfl rfl
theorem dX0_stair_0 : decode cX0_stair 0 = .ok (.aload_n 0, 1) := dk_42 (dk_at dksX0_stair_0 0 rfl rfl)
theorem dX0_stair_1 : decode cX0_stair 1 = .ok (.iload_n 1, 1) := dk_27 (dk_at dksX0_stair_0 1 rfl rfl)
theorem dX0_stair_2 : decode cX0_stair 2 = .ok (.invokevirtual 109, 3) := dk_182 0 109 (dk_at dksX0_stair_0 2 rfl rfl)
theorem dX0_stair_5 : decode cX0_stair 5 = .ok (.ifCond .ne 6, 3) := dk_154 0 6 (dk_at dksX0_stair_0 5 rfl rfl)
theorem dX0_stair_8 : decode cX0_stair 8 = .ok (.ldc 183, 2) := dk_18 183 (dk_at dksX0_stair_0 8 rfl rfl)
theorem dX0_stair_10 : decode cX0_stair 10 = .ok (.ireturn, 1) := dk_172 (dk_at dksX0_stair_0 10 rfl rfl)
theorem dX0_stair_11 : decode cX0_stair 11 = .ok (.aload_n 0, 1) := dk_42 (dk_at dksX0_stair_0 11 rfl rfl)
theorem dX0_stair_12 : decode cX0_stair 12 = .ok (.iload_n 1, 1) := dk_27 (dk_at dksX0_stair_0 12 rfl rfl)
theorem dX0_stair_13 : decode cX0_stair 13 = .ok (.invokevirtual 133, 3) := dk_182 0 133 (dk_at dksX0_stair_0 13 rfl rfl)
theorem dX0_stair_16 : decode cX0_stair 16 = .ok (.astore_n 3, 1) := dk_78 (dk_at dksX0_stair_0 16 rfl rfl)
theorem dX0_stair_17 : decode cX0_stair 17 = .ok (.iload_n 2, 1) := dk_28 (dk_at dksX0_stair_0 17 rfl rfl)
theorem dX0_stair_18 : decode cX0_stair 18 = .ok (.tableswitch 95 0 8 #[50, 55, 60, 65, 70, 70, 70, 79, 89], 50) := by decide +kernel
theorem dX0_stair_68 : decode cX0_stair 68 = .ok (.aload_n 3, 1) := dk_45 (dk_at dksX0_stair_2 0 rfl rfl)
theorem dX0_stair_69 : decode cX0_stair 69 = .ok (.invokevirtual 184, 3) := dk_182 0 184 (dk_at dksX0_stair_2 1 rfl rfl)
theorem dX0_stair_72 : decode cX0_stair 72 = .ok (.ireturn, 1) := dk_172 (dk_at dksX0_stair_2 4 rfl rfl)
theorem dX0_stair_73 : decode cX0_stair 73 = .ok (.aload_n 3, 1) := dk_45 (dk_at dksX0_stair_2 5 rfl rfl)
theorem dX0_stair_74 : decode cX0_stair 74 = .ok (.getfield 153, 3) := dk_180 0 153 (dk_at dksX0_stair_2 6 rfl rfl)
theorem dX0_stair_77 : decode cX0_stair 77 = .ok (.ireturn, 1) := dk_172 (dk_at dksX0_stair_2 9 rfl rfl)
theorem dX0_stair_78 : decode cX0_stair 78 = .ok (.aload_n 3, 1) := dk_45 (dk_at dksX0_stair_2 10 rfl rfl)
theorem dX0_stair_79 : decode cX0_stair 79 = .ok (.getfield 143, 3) := dk_180 0 143 (dk_at dksX0_stair_2 11 rfl rfl)
theorem dX0_stair_82 : decode cX0_stair 82 = .ok (.ireturn, 1) := dk_172 (dk_at dksX0_stair_2 14 rfl rfl)
theorem dX0_stair_83 : decode cX0_stair 83 = .ok (.aload_n 3, 1) := dk_45 (dk_at dksX0_stair_2 15 rfl rfl)
theorem dX0_stair_84 : decode cX0_stair 84 = .ok (.getfield 117, 3) := dk_180 0 117 (dk_at dksX0_stair_2 16 rfl rfl)
theorem dX0_stair_87 : decode cX0_stair 87 = .ok (.ireturn, 1) := dk_172 (dk_at dksX0_stair_2 19 rfl rfl)
theorem dX0_stair_88 : decode cX0_stair 88 = .ok (.aload_n 3, 1) := dk_45 (dk_at dksX0_stair_2 20 rfl rfl)
theorem dX0_stair_89 : decode cX0_stair 89 = .ok (.getfield 125, 3) := dk_180 0 125 (dk_at dksX0_stair_2 21 rfl rfl)
theorem dX0_stair_92 : decode cX0_stair 92 = .ok (.iload_n 2, 1) := dk_28 (dk_at dksX0_stair_3 0 rfl rfl)
theorem dX0_stair_93 : decode cX0_stair 93 = .ok (.iconst 4, 1) := dk_7 (dk_at dksX0_stair_3 1 rfl rfl)
theorem dX0_stair_94 : decode cX0_stair 94 = .ok (.isub, 1) := dk_100 (dk_at dksX0_stair_3 2 rfl rfl)
theorem dX0_stair_95 : decode cX0_stair 95 = .ok (.iaload, 1) := dk_46 (dk_at dksX0_stair_3 3 rfl rfl)
theorem dX0_stair_96 : decode cX0_stair 96 = .ok (.ireturn, 1) := dk_172 (dk_at dksX0_stair_3 4 rfl rfl)
theorem dX0_stair_97 : decode cX0_stair 97 = .ok (.aload_n 0, 1) := dk_42 (dk_at dksX0_stair_3 5 rfl rfl)
theorem dX0_stair_98 : decode cX0_stair 98 = .ok (.getfield 21, 3) := dk_180 0 21 (dk_at dksX0_stair_3 6 rfl rfl)
theorem dX0_stair_101 : decode cX0_stair 101 = .ok (.getfield 180, 3) := dk_180 0 180 (dk_at dksX0_stair_3 9 rfl rfl)
theorem dX0_stair_104 : decode cX0_stair 104 = .ok (.iload_n 1, 1) := dk_27 (dk_at dksX0_stair_3 12 rfl rfl)
theorem dX0_stair_105 : decode cX0_stair 105 = .ok (.iaload, 1) := dk_46 (dk_at dksX0_stair_3 13 rfl rfl)
theorem dX0_stair_106 : decode cX0_stair 106 = .ok (.ireturn, 1) := dk_172 (dk_at dksX0_stair_3 14 rfl rfl)
theorem dX0_stair_107 : decode cX0_stair 107 = .ok (.aload_n 0, 1) := dk_42 (dk_at dksX0_stair_3 15 rfl rfl)
theorem dX0_stair_108 : decode cX0_stair 108 = .ok (.iload_n 1, 1) := dk_27 (dk_at dksX0_stair_3 16 rfl rfl)
theorem dX0_stair_109 : decode cX0_stair 109 = .ok (.invokevirtual 187, 3) := dk_182 0 187 (dk_at dksX0_stair_3 17 rfl rfl)
theorem dX0_stair_112 : decode cX0_stair 112 = .ok (.ireturn, 1) := dk_172 (dk_at dksX0_stair_3 20 rfl rfl)
theorem dX0_stair_113 : decode cX0_stair 113 = .ok (.ldc 65, 2) := dk_18 65 (dk_at dksX0_stair_3 21 rfl rfl)
theorem dX0_stair_115 : decode cX0_stair 115 = .ok (.ireturn, 1) := dk_172 (dk_at dksX0_stair_3 23 rfl rfl)
abbrev cX0_isStair : ByteArray := prog_1_method_9_code
def yX0_isStair : MethodName := ⟨RX0, "isStair", "(I)Z"⟩
def dkwX0_isStair_0 : List UInt8 := [27, 3, 42, 180, 0, 10, 180, 0, 103, 4, 100, 184, 0, 61, 172]
abbrev dktX0_isStair_0 : List UInt8 := dkwX0_isStair_0 ++ []
theorem dksX0_isStair_0 : cX0_isStair.data.toList.drop 0 = dktX0_isStair_0 := by decide +kernel
theorem dX0_isStair_0 : decode cX0_isStair 0 = .ok (.iload_n 1, 1) := dk_27 (dk_at dksX0_isStair_0 0 rfl rfl)
theorem dX0_isStair_1 : decode cX0_isStair 1 = .ok (.iconst 0, 1) := dk_3 (dk_at dksX0_isStair_0 1 rfl rfl)
theorem dX0_isStair_2 : decode cX0_isStair 2 = .ok (.aload_n 0, 1) := dk_42 (dk_at dksX0_isStair_0 2 rfl rfl)
theorem dX0_isStair_3 : decode cX0_isStair 3 = .ok (.getfield 10, 3) := dk_180 0 10 (dk_at dksX0_isStair_0 3 rfl rfl)
theorem dX0_isStair_6 : decode cX0_isStair 6 = .ok (.getfield 103, 3) := dk_180 0 103 (dk_at dksX0_isStair_0 6 rfl rfl)
theorem dX0_isStair_9 : decode cX0_isStair 9 = .ok (.iconst 1, 1) := dk_4 (dk_at dksX0_isStair_0 9 rfl rfl)
theorem dX0_isStair_10 : decode cX0_isStair 10 = .ok (.isub, 1) := dk_100 (dk_at dksX0_isStair_0 10 rfl rfl)
theorem dX0_isStair_11 : decode cX0_isStair 11 = .ok (.invokestatic 61, 3) := dk_184 0 61 (dk_at dksX0_isStair_0 11 rfl rfl)
theorem dX0_isStair_14 : decode cX0_isStair 14 = .ok (.ireturn, 1) := dk_172 (dk_at dksX0_isStair_0 14 rfl rfl)
abbrev cX0_at : ByteArray := prog_1_method_12_code
def yX0_at : MethodName := ⟨RX0, "at", "(I)LFittingStrides$Stair;"⟩
def dkwX0_at_1 : List UInt8 := [3, 6, 184, 0, 127, 44, 176]
abbrev dktX0_at_1 : List UInt8 := dkwX0_at_1 ++ []
def dkwX0_at_0 : List UInt8 := [42, 180, 0, 10, 180, 0, 113, 27, 50, 77, 42, 180, 0, 21, 180, 0, 122, 27, 50, 3, 44, 180, 0, 125]
abbrev dktX0_at_0 : List UInt8 := dkwX0_at_0 ++ dktX0_at_1
theorem dksX0_at_0 : cX0_at.data.toList.drop 0 = dktX0_at_0 := by decide +kernel
theorem dksX0_at_1 : cX0_at.data.toList.drop 24 = dktX0_at_1 := dk_seg dksX0_at_0 24 rfl rfl
theorem dX0_at_0 : decode cX0_at 0 = .ok (.aload_n 0, 1) := dk_42 (dk_at dksX0_at_0 0 rfl rfl)
theorem dX0_at_1 : decode cX0_at 1 = .ok (.getfield 10, 3) := dk_180 0 10 (dk_at dksX0_at_0 1 rfl rfl)
theorem dX0_at_4 : decode cX0_at 4 = .ok (.getfield 113, 3) := dk_180 0 113 (dk_at dksX0_at_0 4 rfl rfl)
theorem dX0_at_7 : decode cX0_at 7 = .ok (.iload_n 1, 1) := dk_27 (dk_at dksX0_at_0 7 rfl rfl)
theorem dX0_at_8 : decode cX0_at 8 = .ok (.aaload, 1) := dk_50 (dk_at dksX0_at_0 8 rfl rfl)
theorem dX0_at_9 : decode cX0_at 9 = .ok (.astore_n 2, 1) := dk_77 (dk_at dksX0_at_0 9 rfl rfl)
theorem dX0_at_10 : decode cX0_at 10 = .ok (.aload_n 0, 1) := dk_42 (dk_at dksX0_at_0 10 rfl rfl)
theorem dX0_at_11 : decode cX0_at 11 = .ok (.getfield 21, 3) := dk_180 0 21 (dk_at dksX0_at_0 11 rfl rfl)
theorem dX0_at_14 : decode cX0_at 14 = .ok (.getfield 122, 3) := dk_180 0 122 (dk_at dksX0_at_0 14 rfl rfl)
theorem dX0_at_17 : decode cX0_at 17 = .ok (.iload_n 1, 1) := dk_27 (dk_at dksX0_at_0 17 rfl rfl)
theorem dX0_at_18 : decode cX0_at 18 = .ok (.aaload, 1) := dk_50 (dk_at dksX0_at_0 18 rfl rfl)
theorem dX0_at_19 : decode cX0_at 19 = .ok (.iconst 0, 1) := dk_3 (dk_at dksX0_at_0 19 rfl rfl)
theorem dX0_at_20 : decode cX0_at 20 = .ok (.aload_n 2, 1) := dk_44 (dk_at dksX0_at_0 20 rfl rfl)
theorem dX0_at_21 : decode cX0_at 21 = .ok (.getfield 125, 3) := dk_180 0 125 (dk_at dksX0_at_0 21 rfl rfl)
theorem dX0_at_24 : decode cX0_at 24 = .ok (.iconst 0, 1) := dk_3 (dk_at dksX0_at_1 0 rfl rfl)
theorem dX0_at_25 : decode cX0_at 25 = .ok (.iconst 3, 1) := dk_6 (dk_at dksX0_at_1 1 rfl rfl)
theorem dX0_at_26 : decode cX0_at 26 = .ok (.invokestatic 127, 3) := dk_184 0 127 (dk_at dksX0_at_1 2 rfl rfl)
theorem dX0_at_29 : decode cX0_at 29 = .ok (.aload_n 2, 1) := dk_44 (dk_at dksX0_at_1 5 rfl rfl)
theorem dX0_at_30 : decode cX0_at 30 = .ok (.areturn, 1) := dk_176 (dk_at dksX0_at_1 6 rfl rfl)
abbrev cX0_climbers : ByteArray := prog_1_method_17_code
def yX0_climbers : MethodName := ⟨RX0, "climbers", "(I)I"⟩
def dkwX0_climbers_2 : List UInt8 := [167, 0, 4, 3, 128, 61, 132, 3, 1, 167, 255, 206, 28, 172]
abbrev dktX0_climbers_2 : List UInt8 := dkwX0_climbers_2 ++ []
def dkwX0_climbers_1 : List UInt8 := [180, 0, 166, 29, 46, 42, 180, 0, 21, 180, 0, 169, 29, 46, 182, 0, 150, 153, 0, 9, 4, 29, 120]
abbrev dktX0_climbers_1 : List UInt8 := dkwX0_climbers_1 ++ dktX0_climbers_2
def dkwX0_climbers_0 : List UInt8 := [3, 61, 3, 62, 29, 42, 180, 0, 21, 180, 0, 106, 162, 0, 45, 28, 42, 27, 42, 180, 0, 21]
abbrev dktX0_climbers_0 : List UInt8 := dkwX0_climbers_0 ++ dktX0_climbers_1
theorem dksX0_climbers_0 : cX0_climbers.data.toList.drop 0 = dktX0_climbers_0 := by decide +kernel
theorem dksX0_climbers_1 : cX0_climbers.data.toList.drop 22 = dktX0_climbers_1 := dk_seg dksX0_climbers_0 22 rfl rfl
theorem dksX0_climbers_2 : cX0_climbers.data.toList.drop 45 = dktX0_climbers_2 := dk_seg dksX0_climbers_1 23 rfl rfl
theorem dX0_climbers_0 : decode cX0_climbers 0 = .ok (.iconst 0, 1) := dk_3 (dk_at dksX0_climbers_0 0 rfl rfl)
theorem dX0_climbers_1 : decode cX0_climbers 1 = .ok (.istore_n 2, 1) := dk_61 (dk_at dksX0_climbers_0 1 rfl rfl)
theorem dX0_climbers_2 : decode cX0_climbers 2 = .ok (.iconst 0, 1) := dk_3 (dk_at dksX0_climbers_0 2 rfl rfl)
theorem dX0_climbers_3 : decode cX0_climbers 3 = .ok (.istore_n 3, 1) := dk_62 (dk_at dksX0_climbers_0 3 rfl rfl)
theorem dX0_climbers_4 : decode cX0_climbers 4 = .ok (.iload_n 3, 1) := dk_29 (dk_at dksX0_climbers_0 4 rfl rfl)
theorem dX0_climbers_5 : decode cX0_climbers 5 = .ok (.aload_n 0, 1) := dk_42 (dk_at dksX0_climbers_0 5 rfl rfl)
theorem dX0_climbers_6 : decode cX0_climbers 6 = .ok (.getfield 21, 3) := dk_180 0 21 (dk_at dksX0_climbers_0 6 rfl rfl)
theorem dX0_climbers_9 : decode cX0_climbers 9 = .ok (.getfield 106, 3) := dk_180 0 106 (dk_at dksX0_climbers_0 9 rfl rfl)
theorem dX0_climbers_12 : decode cX0_climbers 12 = .ok (.if_icmp .ge 45, 3) := dk_162 0 45 (dk_at dksX0_climbers_0 12 rfl rfl)
theorem dX0_climbers_15 : decode cX0_climbers 15 = .ok (.iload_n 2, 1) := dk_28 (dk_at dksX0_climbers_0 15 rfl rfl)
theorem dX0_climbers_16 : decode cX0_climbers 16 = .ok (.aload_n 0, 1) := dk_42 (dk_at dksX0_climbers_0 16 rfl rfl)
theorem dX0_climbers_17 : decode cX0_climbers 17 = .ok (.iload_n 1, 1) := dk_27 (dk_at dksX0_climbers_0 17 rfl rfl)
theorem dX0_climbers_18 : decode cX0_climbers 18 = .ok (.aload_n 0, 1) := dk_42 (dk_at dksX0_climbers_0 18 rfl rfl)
theorem dX0_climbers_19 : decode cX0_climbers 19 = .ok (.getfield 21, 3) := dk_180 0 21 (dk_at dksX0_climbers_0 19 rfl rfl)
theorem dX0_climbers_22 : decode cX0_climbers 22 = .ok (.getfield 166, 3) := dk_180 0 166 (dk_at dksX0_climbers_1 0 rfl rfl)
theorem dX0_climbers_25 : decode cX0_climbers 25 = .ok (.iload_n 3, 1) := dk_29 (dk_at dksX0_climbers_1 3 rfl rfl)
theorem dX0_climbers_26 : decode cX0_climbers 26 = .ok (.iaload, 1) := dk_46 (dk_at dksX0_climbers_1 4 rfl rfl)
theorem dX0_climbers_27 : decode cX0_climbers 27 = .ok (.aload_n 0, 1) := dk_42 (dk_at dksX0_climbers_1 5 rfl rfl)
theorem dX0_climbers_28 : decode cX0_climbers 28 = .ok (.getfield 21, 3) := dk_180 0 21 (dk_at dksX0_climbers_1 6 rfl rfl)
theorem dX0_climbers_31 : decode cX0_climbers 31 = .ok (.getfield 169, 3) := dk_180 0 169 (dk_at dksX0_climbers_1 9 rfl rfl)
theorem dX0_climbers_34 : decode cX0_climbers 34 = .ok (.iload_n 3, 1) := dk_29 (dk_at dksX0_climbers_1 12 rfl rfl)
theorem dX0_climbers_35 : decode cX0_climbers 35 = .ok (.iaload, 1) := dk_46 (dk_at dksX0_climbers_1 13 rfl rfl)
theorem dX0_climbers_36 : decode cX0_climbers 36 = .ok (.invokevirtual 150, 3) := dk_182 0 150 (dk_at dksX0_climbers_1 14 rfl rfl)
theorem dX0_climbers_39 : decode cX0_climbers 39 = .ok (.ifCond .eq 9, 3) := dk_153 0 9 (dk_at dksX0_climbers_1 17 rfl rfl)
theorem dX0_climbers_42 : decode cX0_climbers 42 = .ok (.iconst 1, 1) := dk_4 (dk_at dksX0_climbers_1 20 rfl rfl)
theorem dX0_climbers_43 : decode cX0_climbers 43 = .ok (.iload_n 3, 1) := dk_29 (dk_at dksX0_climbers_1 21 rfl rfl)
theorem dX0_climbers_44 : decode cX0_climbers 44 = .ok (.ishl, 1) := dk_120 (dk_at dksX0_climbers_1 22 rfl rfl)
theorem dX0_climbers_45 : decode cX0_climbers 45 = .ok (.goto 4, 3) := dk_167 0 4 (dk_at dksX0_climbers_2 0 rfl rfl)
theorem dX0_climbers_48 : decode cX0_climbers 48 = .ok (.iconst 0, 1) := dk_3 (dk_at dksX0_climbers_2 3 rfl rfl)
theorem dX0_climbers_49 : decode cX0_climbers 49 = .ok (.ior, 1) := dk_128 (dk_at dksX0_climbers_2 4 rfl rfl)
theorem dX0_climbers_50 : decode cX0_climbers 50 = .ok (.istore_n 2, 1) := dk_61 (dk_at dksX0_climbers_2 5 rfl rfl)
theorem dX0_climbers_51 : decode cX0_climbers 51 = .ok (.iinc 3 1, 3) := dk_132 3 1 (dk_at dksX0_climbers_2 6 rfl rfl)
theorem dX0_climbers_54 : decode cX0_climbers 54 = .ok (.goto (-50), 3) := dk_167 255 206 (dk_at dksX0_climbers_2 9 rfl rfl)
theorem dX0_climbers_57 : decode cX0_climbers 57 = .ok (.iload_n 2, 1) := dk_28 (dk_at dksX0_climbers_2 12 rfl rfl)
theorem dX0_climbers_58 : decode cX0_climbers 58 = .ok (.ireturn, 1) := dk_172 (dk_at dksX0_climbers_2 13 rfl rfl)
abbrev cX0_mayClimb : ByteArray := prog_1_method_13_code
def yX0_mayClimb : MethodName := ⟨RX0, "mayClimb", "(III)Z"⟩
def dkwX0_mayClimb_1 : List UInt8 := [182, 0, 137, 153, 0, 7, 4, 167, 0, 4, 3, 172]
abbrev dktX0_mayClimb_1 : List UInt8 := dkwX0_mayClimb_1 ++ []
def dkwX0_mayClimb_0 : List UInt8 := [42, 27, 182, 0, 133, 58, 4, 25, 4, 28, 182, 0, 137, 154, 0, 16, 29, 158, 0, 16, 25, 4, 29]
abbrev dktX0_mayClimb_0 : List UInt8 := dkwX0_mayClimb_0 ++ dktX0_mayClimb_1
theorem dksX0_mayClimb_0 : cX0_mayClimb.data.toList.drop 0 = dktX0_mayClimb_0 := by decide +kernel
theorem dksX0_mayClimb_1 : cX0_mayClimb.data.toList.drop 23 = dktX0_mayClimb_1 := dk_seg dksX0_mayClimb_0 23 rfl rfl
theorem dX0_mayClimb_0 : decode cX0_mayClimb 0 = .ok (.aload_n 0, 1) := dk_42 (dk_at dksX0_mayClimb_0 0 rfl rfl)
theorem dX0_mayClimb_1 : decode cX0_mayClimb 1 = .ok (.iload_n 1, 1) := dk_27 (dk_at dksX0_mayClimb_0 1 rfl rfl)
theorem dX0_mayClimb_2 : decode cX0_mayClimb 2 = .ok (.invokevirtual 133, 3) := dk_182 0 133 (dk_at dksX0_mayClimb_0 2 rfl rfl)
theorem dX0_mayClimb_5 : decode cX0_mayClimb 5 = .ok (.astore 4, 2) := dk_58 4 (dk_at dksX0_mayClimb_0 5 rfl rfl)
theorem dX0_mayClimb_7 : decode cX0_mayClimb 7 = .ok (.aload 4, 2) := dk_25 4 (dk_at dksX0_mayClimb_0 7 rfl rfl)
theorem dX0_mayClimb_9 : decode cX0_mayClimb 9 = .ok (.iload_n 2, 1) := dk_28 (dk_at dksX0_mayClimb_0 9 rfl rfl)
theorem dX0_mayClimb_10 : decode cX0_mayClimb 10 = .ok (.invokevirtual 137, 3) := dk_182 0 137 (dk_at dksX0_mayClimb_0 10 rfl rfl)
theorem dX0_mayClimb_13 : decode cX0_mayClimb 13 = .ok (.ifCond .ne 16, 3) := dk_154 0 16 (dk_at dksX0_mayClimb_0 13 rfl rfl)
theorem dX0_mayClimb_16 : decode cX0_mayClimb 16 = .ok (.iload_n 3, 1) := dk_29 (dk_at dksX0_mayClimb_0 16 rfl rfl)
theorem dX0_mayClimb_17 : decode cX0_mayClimb 17 = .ok (.ifCond .le 16, 3) := dk_158 0 16 (dk_at dksX0_mayClimb_0 17 rfl rfl)
theorem dX0_mayClimb_20 : decode cX0_mayClimb 20 = .ok (.aload 4, 2) := dk_25 4 (dk_at dksX0_mayClimb_0 20 rfl rfl)
theorem dX0_mayClimb_22 : decode cX0_mayClimb 22 = .ok (.iload_n 3, 1) := dk_29 (dk_at dksX0_mayClimb_0 22 rfl rfl)
theorem dX0_mayClimb_23 : decode cX0_mayClimb 23 = .ok (.invokevirtual 137, 3) := dk_182 0 137 (dk_at dksX0_mayClimb_1 0 rfl rfl)
theorem dX0_mayClimb_26 : decode cX0_mayClimb 26 = .ok (.ifCond .eq 7, 3) := dk_153 0 7 (dk_at dksX0_mayClimb_1 3 rfl rfl)
theorem dX0_mayClimb_29 : decode cX0_mayClimb 29 = .ok (.iconst 1, 1) := dk_4 (dk_at dksX0_mayClimb_1 6 rfl rfl)
theorem dX0_mayClimb_30 : decode cX0_mayClimb 30 = .ok (.goto 4, 3) := dk_167 0 4 (dk_at dksX0_mayClimb_1 7 rfl rfl)
theorem dX0_mayClimb_33 : decode cX0_mayClimb 33 = .ok (.iconst 0, 1) := dk_3 (dk_at dksX0_mayClimb_1 10 rfl rfl)
theorem dX0_mayClimb_34 : decode cX0_mayClimb 34 = .ok (.ireturn, 1) := dk_172 (dk_at dksX0_mayClimb_1 11 rfl rfl)
abbrev cX0_person : ByteArray := prog_1_method_21_code
def yX0_person : MethodName := ⟨RX0, "person", "(II)I"⟩
def dkwX0_person_3 : List UInt8 := [180, 0, 169, 27, 46, 172, 42, 27, 182, 0, 193, 172, 18, 65, 172]
abbrev dktX0_person_3 : List UInt8 := dkwX0_person_3 ++ []
def dkwX0_person_2 : List UInt8 := [42, 180, 0, 21, 180, 0, 164, 27, 46, 172, 42, 180, 0, 21, 180, 0, 166, 27, 46, 172, 42, 180, 0, 21]
abbrev dktX0_person_2 : List UInt8 := dkwX0_person_2 ++ dktX0_person_3
def dkwX0_person_1 : List UInt8 := [170, 0, 0, 0, 0, 0, 0, 68, 0, 0, 0, 0, 0, 0, 0, 3, 0, 0, 0, 32, 0, 0, 0, 42, 0, 0, 0, 52, 0, 0, 0, 62]
abbrev dktX0_person_1 : List UInt8 := dkwX0_person_1 ++ dktX0_person_2
def dkwX0_person_0 : List UInt8 := [42, 27, 182, 0, 190, 154, 0, 6, 18, 183, 172, 28]
abbrev dktX0_person_0 : List UInt8 := dkwX0_person_0 ++ dktX0_person_1
theorem dksX0_person_0 : cX0_person.data.toList.drop 0 = dktX0_person_0 := by decide +kernel
theorem dksX0_person_1 : cX0_person.data.toList.drop 12 = dktX0_person_1 := dk_seg dksX0_person_0 12 rfl rfl
theorem dksX0_person_2 : cX0_person.data.toList.drop 44 = dktX0_person_2 := dk_seg dksX0_person_1 32 rfl rfl
theorem dksX0_person_3 : cX0_person.data.toList.drop 68 = dktX0_person_3 := dk_seg dksX0_person_2 24 rfl rfl
theorem dX0_person_0 : decode cX0_person 0 = .ok (.aload_n 0, 1) := dk_42 (dk_at dksX0_person_0 0 rfl rfl)
theorem dX0_person_1 : decode cX0_person 1 = .ok (.iload_n 1, 1) := dk_27 (dk_at dksX0_person_0 1 rfl rfl)
theorem dX0_person_2 : decode cX0_person 2 = .ok (.invokevirtual 190, 3) := dk_182 0 190 (dk_at dksX0_person_0 2 rfl rfl)
theorem dX0_person_5 : decode cX0_person 5 = .ok (.ifCond .ne 6, 3) := dk_154 0 6 (dk_at dksX0_person_0 5 rfl rfl)
theorem dX0_person_8 : decode cX0_person 8 = .ok (.ldc 183, 2) := dk_18 183 (dk_at dksX0_person_0 8 rfl rfl)
theorem dX0_person_10 : decode cX0_person 10 = .ok (.ireturn, 1) := dk_172 (dk_at dksX0_person_0 10 rfl rfl)
theorem dX0_person_11 : decode cX0_person 11 = .ok (.iload_n 2, 1) := dk_28 (dk_at dksX0_person_0 11 rfl rfl)
theorem dX0_person_12 : decode cX0_person 12 = .ok (.tableswitch 68 0 3 #[32, 42, 52, 62], 32) := by decide +kernel
theorem dX0_person_44 : decode cX0_person 44 = .ok (.aload_n 0, 1) := dk_42 (dk_at dksX0_person_2 0 rfl rfl)
theorem dX0_person_45 : decode cX0_person 45 = .ok (.getfield 21, 3) := dk_180 0 21 (dk_at dksX0_person_2 1 rfl rfl)
theorem dX0_person_48 : decode cX0_person 48 = .ok (.getfield 164, 3) := dk_180 0 164 (dk_at dksX0_person_2 4 rfl rfl)
theorem dX0_person_51 : decode cX0_person 51 = .ok (.iload_n 1, 1) := dk_27 (dk_at dksX0_person_2 7 rfl rfl)
theorem dX0_person_52 : decode cX0_person 52 = .ok (.iaload, 1) := dk_46 (dk_at dksX0_person_2 8 rfl rfl)
theorem dX0_person_53 : decode cX0_person 53 = .ok (.ireturn, 1) := dk_172 (dk_at dksX0_person_2 9 rfl rfl)
theorem dX0_person_54 : decode cX0_person 54 = .ok (.aload_n 0, 1) := dk_42 (dk_at dksX0_person_2 10 rfl rfl)
theorem dX0_person_55 : decode cX0_person 55 = .ok (.getfield 21, 3) := dk_180 0 21 (dk_at dksX0_person_2 11 rfl rfl)
theorem dX0_person_58 : decode cX0_person 58 = .ok (.getfield 166, 3) := dk_180 0 166 (dk_at dksX0_person_2 14 rfl rfl)
theorem dX0_person_61 : decode cX0_person 61 = .ok (.iload_n 1, 1) := dk_27 (dk_at dksX0_person_2 17 rfl rfl)
theorem dX0_person_62 : decode cX0_person 62 = .ok (.iaload, 1) := dk_46 (dk_at dksX0_person_2 18 rfl rfl)
theorem dX0_person_63 : decode cX0_person 63 = .ok (.ireturn, 1) := dk_172 (dk_at dksX0_person_2 19 rfl rfl)
theorem dX0_person_64 : decode cX0_person 64 = .ok (.aload_n 0, 1) := dk_42 (dk_at dksX0_person_2 20 rfl rfl)
theorem dX0_person_65 : decode cX0_person 65 = .ok (.getfield 21, 3) := dk_180 0 21 (dk_at dksX0_person_2 21 rfl rfl)
theorem dX0_person_68 : decode cX0_person 68 = .ok (.getfield 169, 3) := dk_180 0 169 (dk_at dksX0_person_3 0 rfl rfl)
theorem dX0_person_71 : decode cX0_person 71 = .ok (.iload_n 1, 1) := dk_27 (dk_at dksX0_person_3 3 rfl rfl)
theorem dX0_person_72 : decode cX0_person 72 = .ok (.iaload, 1) := dk_46 (dk_at dksX0_person_3 4 rfl rfl)
theorem dX0_person_73 : decode cX0_person 73 = .ok (.ireturn, 1) := dk_172 (dk_at dksX0_person_3 5 rfl rfl)
theorem dX0_person_74 : decode cX0_person 74 = .ok (.aload_n 0, 1) := dk_42 (dk_at dksX0_person_3 6 rfl rfl)
theorem dX0_person_75 : decode cX0_person 75 = .ok (.iload_n 1, 1) := dk_27 (dk_at dksX0_person_3 7 rfl rfl)
theorem dX0_person_76 : decode cX0_person 76 = .ok (.invokevirtual 193, 3) := dk_182 0 193 (dk_at dksX0_person_3 8 rfl rfl)
theorem dX0_person_79 : decode cX0_person 79 = .ok (.ireturn, 1) := dk_172 (dk_at dksX0_person_3 11 rfl rfl)
theorem dX0_person_80 : decode cX0_person 80 = .ok (.ldc 65, 2) := dk_18 65 (dk_at dksX0_person_3 12 rfl rfl)
theorem dX0_person_82 : decode cX0_person 82 = .ok (.ireturn, 1) := dk_172 (dk_at dksX0_person_3 14 rfl rfl)
abbrev cX0_isPerson : ByteArray := prog_1_method_10_code
def yX0_isPerson : MethodName := ⟨RX0, "isPerson", "(I)Z"⟩
def dkwX0_isPerson_0 : List UInt8 := [27, 3, 42, 180, 0, 21, 180, 0, 106, 4, 100, 184, 0, 61, 172]
abbrev dktX0_isPerson_0 : List UInt8 := dkwX0_isPerson_0 ++ []
theorem dksX0_isPerson_0 : cX0_isPerson.data.toList.drop 0 = dktX0_isPerson_0 := by decide +kernel
theorem dX0_isPerson_0 : decode cX0_isPerson 0 = .ok (.iload_n 1, 1) := dk_27 (dk_at dksX0_isPerson_0 0 rfl rfl)
theorem dX0_isPerson_1 : decode cX0_isPerson 1 = .ok (.iconst 0, 1) := dk_3 (dk_at dksX0_isPerson_0 1 rfl rfl)
theorem dX0_isPerson_2 : decode cX0_isPerson 2 = .ok (.aload_n 0, 1) := dk_42 (dk_at dksX0_isPerson_0 2 rfl rfl)
theorem dX0_isPerson_3 : decode cX0_isPerson 3 = .ok (.getfield 21, 3) := dk_180 0 21 (dk_at dksX0_isPerson_0 3 rfl rfl)
theorem dX0_isPerson_6 : decode cX0_isPerson 6 = .ok (.getfield 106, 3) := dk_180 0 106 (dk_at dksX0_isPerson_0 6 rfl rfl)
theorem dX0_isPerson_9 : decode cX0_isPerson 9 = .ok (.iconst 1, 1) := dk_4 (dk_at dksX0_isPerson_0 9 rfl rfl)
theorem dX0_isPerson_10 : decode cX0_isPerson 10 = .ok (.isub, 1) := dk_100 (dk_at dksX0_isPerson_0 10 rfl rfl)
theorem dX0_isPerson_11 : decode cX0_isPerson 11 = .ok (.invokestatic 61, 3) := dk_184 0 61 (dk_at dksX0_isPerson_0 11 rfl rfl)
theorem dX0_isPerson_14 : decode cX0_isPerson 14 = .ok (.ireturn, 1) := dk_172 (dk_at dksX0_isPerson_0 14 rfl rfl)
abbrev cX0_reachOfPerson : ByteArray := prog_1_method_16_code
def yX0_reachOfPerson : MethodName := ⟨RX0, "reachOfPerson", "(I)I"⟩
def dkwX0_reachOfPerson_1 : List UInt8 := [180, 0, 169, 27, 46, 182, 0, 172, 172]
abbrev dktX0_reachOfPerson_1 : List UInt8 := dkwX0_reachOfPerson_1 ++ []
def dkwX0_reachOfPerson_0 : List UInt8 := [42, 42, 180, 0, 21, 180, 0, 164, 27, 46, 42, 180, 0, 21, 180, 0, 166, 27, 46, 42, 180, 0, 21]
abbrev dktX0_reachOfPerson_0 : List UInt8 := dkwX0_reachOfPerson_0 ++ dktX0_reachOfPerson_1
theorem dksX0_reachOfPerson_0 : cX0_reachOfPerson.data.toList.drop 0 = dktX0_reachOfPerson_0 := by decide +kernel
theorem dksX0_reachOfPerson_1 : cX0_reachOfPerson.data.toList.drop 23 = dktX0_reachOfPerson_1 := dk_seg dksX0_reachOfPerson_0 23 rfl rfl
theorem dX0_reachOfPerson_0 : decode cX0_reachOfPerson 0 = .ok (.aload_n 0, 1) := dk_42 (dk_at dksX0_reachOfPerson_0 0 rfl rfl)
theorem dX0_reachOfPerson_1 : decode cX0_reachOfPerson 1 = .ok (.aload_n 0, 1) := dk_42 (dk_at dksX0_reachOfPerson_0 1 rfl rfl)
theorem dX0_reachOfPerson_2 : decode cX0_reachOfPerson 2 = .ok (.getfield 21, 3) := dk_180 0 21 (dk_at dksX0_reachOfPerson_0 2 rfl rfl)
theorem dX0_reachOfPerson_5 : decode cX0_reachOfPerson 5 = .ok (.getfield 164, 3) := dk_180 0 164 (dk_at dksX0_reachOfPerson_0 5 rfl rfl)
theorem dX0_reachOfPerson_8 : decode cX0_reachOfPerson 8 = .ok (.iload_n 1, 1) := dk_27 (dk_at dksX0_reachOfPerson_0 8 rfl rfl)
theorem dX0_reachOfPerson_9 : decode cX0_reachOfPerson 9 = .ok (.iaload, 1) := dk_46 (dk_at dksX0_reachOfPerson_0 9 rfl rfl)
theorem dX0_reachOfPerson_10 : decode cX0_reachOfPerson 10 = .ok (.aload_n 0, 1) := dk_42 (dk_at dksX0_reachOfPerson_0 10 rfl rfl)
theorem dX0_reachOfPerson_11 : decode cX0_reachOfPerson 11 = .ok (.getfield 21, 3) := dk_180 0 21 (dk_at dksX0_reachOfPerson_0 11 rfl rfl)
theorem dX0_reachOfPerson_14 : decode cX0_reachOfPerson 14 = .ok (.getfield 166, 3) := dk_180 0 166 (dk_at dksX0_reachOfPerson_0 14 rfl rfl)
theorem dX0_reachOfPerson_17 : decode cX0_reachOfPerson 17 = .ok (.iload_n 1, 1) := dk_27 (dk_at dksX0_reachOfPerson_0 17 rfl rfl)
theorem dX0_reachOfPerson_18 : decode cX0_reachOfPerson 18 = .ok (.iaload, 1) := dk_46 (dk_at dksX0_reachOfPerson_0 18 rfl rfl)
theorem dX0_reachOfPerson_19 : decode cX0_reachOfPerson 19 = .ok (.aload_n 0, 1) := dk_42 (dk_at dksX0_reachOfPerson_0 19 rfl rfl)
theorem dX0_reachOfPerson_20 : decode cX0_reachOfPerson 20 = .ok (.getfield 21, 3) := dk_180 0 21 (dk_at dksX0_reachOfPerson_0 20 rfl rfl)
theorem dX0_reachOfPerson_23 : decode cX0_reachOfPerson 23 = .ok (.getfield 169, 3) := dk_180 0 169 (dk_at dksX0_reachOfPerson_1 0 rfl rfl)
theorem dX0_reachOfPerson_26 : decode cX0_reachOfPerson 26 = .ok (.iload_n 1, 1) := dk_27 (dk_at dksX0_reachOfPerson_1 3 rfl rfl)
theorem dX0_reachOfPerson_27 : decode cX0_reachOfPerson 27 = .ok (.iaload, 1) := dk_46 (dk_at dksX0_reachOfPerson_1 4 rfl rfl)
theorem dX0_reachOfPerson_28 : decode cX0_reachOfPerson 28 = .ok (.invokevirtual 172, 3) := dk_182 0 172 (dk_at dksX0_reachOfPerson_1 5 rfl rfl)
theorem dX0_reachOfPerson_31 : decode cX0_reachOfPerson 31 = .ok (.ireturn, 1) := dk_172 (dk_at dksX0_reachOfPerson_1 8 rfl rfl)
abbrev cX0_reachOf : ByteArray := prog_1_method_15_code
def yX0_reachOf : MethodName := ⟨RX0, "reachOf", "(III)I"⟩
def dkwX0_reachOf_6 : List UInt8 := [167, 255, 122, 21, 4, 172]
abbrev dktX0_reachOf_6 : List UInt8 := dkwX0_reachOf_6 ++ []
def dkwX0_reachOf_5 : List UInt8 := [153, 0, 13, 4, 25, 7, 180, 0, 153, 120, 167, 0, 4, 3, 128, 54, 4, 132, 6, 1, 167, 255, 139]
abbrev dktX0_reachOf_5 : List UInt8 := dkwX0_reachOf_5 ++ dktX0_reachOf_6
def dkwX0_reachOf_4 : List UInt8 := [25, 7, 180, 0, 143, 184, 0, 156, 153, 0, 29, 42, 21, 6, 25, 7, 180, 0, 143, 28, 29, 182, 0, 160]
abbrev dktX0_reachOf_4 : List UInt8 := dkwX0_reachOf_4 ++ dktX0_reachOf_5
def dkwX0_reachOf_3 : List UInt8 := [182, 0, 160, 153, 0, 13, 4, 25, 7, 180, 0, 143, 120, 167, 0, 4, 3, 128, 54, 4, 21, 4, 21, 4]
abbrev dktX0_reachOf_3 : List UInt8 := dkwX0_reachOf_3 ++ dktX0_reachOf_4
def dkwX0_reachOf_2 : List UInt8 := [21, 4, 25, 7, 180, 0, 153, 184, 0, 156, 153, 0, 29, 42, 21, 6, 25, 7, 180, 0, 153, 28, 29]
abbrev dktX0_reachOf_2 : List UInt8 := dkwX0_reachOf_2 ++ dktX0_reachOf_3
def dkwX0_reachOf_1 : List UInt8 := [42, 180, 0, 10, 180, 0, 103, 162, 0, 111, 42, 180, 0, 10, 180, 0, 113, 21, 6, 50, 58, 7, 21, 4]
abbrev dktX0_reachOf_1 : List UInt8 := dkwX0_reachOf_1 ++ dktX0_reachOf_2
def dkwX0_reachOf_0 : List UInt8 := [4, 27, 120, 54, 4, 3, 54, 5, 21, 4, 21, 5, 159, 0, 133, 21, 4, 54, 5, 3, 54, 6, 21, 6]
abbrev dktX0_reachOf_0 : List UInt8 := dkwX0_reachOf_0 ++ dktX0_reachOf_1
theorem dksX0_reachOf_0 : cX0_reachOf.data.toList.drop 0 = dktX0_reachOf_0 := by decide +kernel
theorem dksX0_reachOf_1 : cX0_reachOf.data.toList.drop 24 = dktX0_reachOf_1 := dk_seg dksX0_reachOf_0 24 rfl rfl
theorem dksX0_reachOf_2 : cX0_reachOf.data.toList.drop 48 = dktX0_reachOf_2 := dk_seg dksX0_reachOf_1 24 rfl rfl
theorem dksX0_reachOf_3 : cX0_reachOf.data.toList.drop 71 = dktX0_reachOf_3 := dk_seg dksX0_reachOf_2 23 rfl rfl
theorem dksX0_reachOf_4 : cX0_reachOf.data.toList.drop 95 = dktX0_reachOf_4 := dk_seg dksX0_reachOf_3 24 rfl rfl
theorem dksX0_reachOf_5 : cX0_reachOf.data.toList.drop 119 = dktX0_reachOf_5 := dk_seg dksX0_reachOf_4 24 rfl rfl
theorem dksX0_reachOf_6 : cX0_reachOf.data.toList.drop 142 = dktX0_reachOf_6 := dk_seg dksX0_reachOf_5 23 rfl rfl
theorem dX0_reachOf_0 : decode cX0_reachOf 0 = .ok (.iconst 1, 1) := dk_4 (dk_at dksX0_reachOf_0 0 rfl rfl)
theorem dX0_reachOf_1 : decode cX0_reachOf 1 = .ok (.iload_n 1, 1) := dk_27 (dk_at dksX0_reachOf_0 1 rfl rfl)
theorem dX0_reachOf_2 : decode cX0_reachOf 2 = .ok (.ishl, 1) := dk_120 (dk_at dksX0_reachOf_0 2 rfl rfl)
theorem dX0_reachOf_3 : decode cX0_reachOf 3 = .ok (.istore 4, 2) := dk_54 4 (dk_at dksX0_reachOf_0 3 rfl rfl)
theorem dX0_reachOf_5 : decode cX0_reachOf 5 = .ok (.iconst 0, 1) := dk_3 (dk_at dksX0_reachOf_0 5 rfl rfl)
theorem dX0_reachOf_6 : decode cX0_reachOf 6 = .ok (.istore 5, 2) := dk_54 5 (dk_at dksX0_reachOf_0 6 rfl rfl)
theorem dX0_reachOf_8 : decode cX0_reachOf 8 = .ok (.iload 4, 2) := dk_21 4 (dk_at dksX0_reachOf_0 8 rfl rfl)
theorem dX0_reachOf_10 : decode cX0_reachOf 10 = .ok (.iload 5, 2) := dk_21 5 (dk_at dksX0_reachOf_0 10 rfl rfl)
theorem dX0_reachOf_12 : decode cX0_reachOf 12 = .ok (.if_icmp .eq 133, 3) := dk_159 0 133 (dk_at dksX0_reachOf_0 12 rfl rfl)
theorem dX0_reachOf_15 : decode cX0_reachOf 15 = .ok (.iload 4, 2) := dk_21 4 (dk_at dksX0_reachOf_0 15 rfl rfl)
theorem dX0_reachOf_17 : decode cX0_reachOf 17 = .ok (.istore 5, 2) := dk_54 5 (dk_at dksX0_reachOf_0 17 rfl rfl)
theorem dX0_reachOf_19 : decode cX0_reachOf 19 = .ok (.iconst 0, 1) := dk_3 (dk_at dksX0_reachOf_0 19 rfl rfl)
theorem dX0_reachOf_20 : decode cX0_reachOf 20 = .ok (.istore 6, 2) := dk_54 6 (dk_at dksX0_reachOf_0 20 rfl rfl)
theorem dX0_reachOf_22 : decode cX0_reachOf 22 = .ok (.iload 6, 2) := dk_21 6 (dk_at dksX0_reachOf_0 22 rfl rfl)
theorem dX0_reachOf_24 : decode cX0_reachOf 24 = .ok (.aload_n 0, 1) := dk_42 (dk_at dksX0_reachOf_1 0 rfl rfl)
theorem dX0_reachOf_25 : decode cX0_reachOf 25 = .ok (.getfield 10, 3) := dk_180 0 10 (dk_at dksX0_reachOf_1 1 rfl rfl)
theorem dX0_reachOf_28 : decode cX0_reachOf 28 = .ok (.getfield 103, 3) := dk_180 0 103 (dk_at dksX0_reachOf_1 4 rfl rfl)
theorem dX0_reachOf_31 : decode cX0_reachOf 31 = .ok (.if_icmp .ge 111, 3) := dk_162 0 111 (dk_at dksX0_reachOf_1 7 rfl rfl)
theorem dX0_reachOf_34 : decode cX0_reachOf 34 = .ok (.aload_n 0, 1) := dk_42 (dk_at dksX0_reachOf_1 10 rfl rfl)
theorem dX0_reachOf_35 : decode cX0_reachOf 35 = .ok (.getfield 10, 3) := dk_180 0 10 (dk_at dksX0_reachOf_1 11 rfl rfl)
theorem dX0_reachOf_38 : decode cX0_reachOf 38 = .ok (.getfield 113, 3) := dk_180 0 113 (dk_at dksX0_reachOf_1 14 rfl rfl)
theorem dX0_reachOf_41 : decode cX0_reachOf 41 = .ok (.iload 6, 2) := dk_21 6 (dk_at dksX0_reachOf_1 17 rfl rfl)
theorem dX0_reachOf_43 : decode cX0_reachOf 43 = .ok (.aaload, 1) := dk_50 (dk_at dksX0_reachOf_1 19 rfl rfl)
theorem dX0_reachOf_44 : decode cX0_reachOf 44 = .ok (.astore 7, 2) := dk_58 7 (dk_at dksX0_reachOf_1 20 rfl rfl)
theorem dX0_reachOf_46 : decode cX0_reachOf 46 = .ok (.iload 4, 2) := dk_21 4 (dk_at dksX0_reachOf_1 22 rfl rfl)
theorem dX0_reachOf_48 : decode cX0_reachOf 48 = .ok (.iload 4, 2) := dk_21 4 (dk_at dksX0_reachOf_2 0 rfl rfl)
theorem dX0_reachOf_50 : decode cX0_reachOf 50 = .ok (.aload 7, 2) := dk_25 7 (dk_at dksX0_reachOf_2 2 rfl rfl)
theorem dX0_reachOf_52 : decode cX0_reachOf 52 = .ok (.getfield 153, 3) := dk_180 0 153 (dk_at dksX0_reachOf_2 4 rfl rfl)
theorem dX0_reachOf_55 : decode cX0_reachOf 55 = .ok (.invokestatic 156, 3) := dk_184 0 156 (dk_at dksX0_reachOf_2 7 rfl rfl)
theorem dX0_reachOf_58 : decode cX0_reachOf 58 = .ok (.ifCond .eq 29, 3) := dk_153 0 29 (dk_at dksX0_reachOf_2 10 rfl rfl)
theorem dX0_reachOf_61 : decode cX0_reachOf 61 = .ok (.aload_n 0, 1) := dk_42 (dk_at dksX0_reachOf_2 13 rfl rfl)
theorem dX0_reachOf_62 : decode cX0_reachOf 62 = .ok (.iload 6, 2) := dk_21 6 (dk_at dksX0_reachOf_2 14 rfl rfl)
theorem dX0_reachOf_64 : decode cX0_reachOf 64 = .ok (.aload 7, 2) := dk_25 7 (dk_at dksX0_reachOf_2 16 rfl rfl)
theorem dX0_reachOf_66 : decode cX0_reachOf 66 = .ok (.getfield 153, 3) := dk_180 0 153 (dk_at dksX0_reachOf_2 18 rfl rfl)
theorem dX0_reachOf_69 : decode cX0_reachOf 69 = .ok (.iload_n 2, 1) := dk_28 (dk_at dksX0_reachOf_2 21 rfl rfl)
theorem dX0_reachOf_70 : decode cX0_reachOf 70 = .ok (.iload_n 3, 1) := dk_29 (dk_at dksX0_reachOf_2 22 rfl rfl)
theorem dX0_reachOf_71 : decode cX0_reachOf 71 = .ok (.invokevirtual 160, 3) := dk_182 0 160 (dk_at dksX0_reachOf_3 0 rfl rfl)
theorem dX0_reachOf_74 : decode cX0_reachOf 74 = .ok (.ifCond .eq 13, 3) := dk_153 0 13 (dk_at dksX0_reachOf_3 3 rfl rfl)
theorem dX0_reachOf_77 : decode cX0_reachOf 77 = .ok (.iconst 1, 1) := dk_4 (dk_at dksX0_reachOf_3 6 rfl rfl)
theorem dX0_reachOf_78 : decode cX0_reachOf 78 = .ok (.aload 7, 2) := dk_25 7 (dk_at dksX0_reachOf_3 7 rfl rfl)
theorem dX0_reachOf_80 : decode cX0_reachOf 80 = .ok (.getfield 143, 3) := dk_180 0 143 (dk_at dksX0_reachOf_3 9 rfl rfl)
theorem dX0_reachOf_83 : decode cX0_reachOf 83 = .ok (.ishl, 1) := dk_120 (dk_at dksX0_reachOf_3 12 rfl rfl)
theorem dX0_reachOf_84 : decode cX0_reachOf 84 = .ok (.goto 4, 3) := dk_167 0 4 (dk_at dksX0_reachOf_3 13 rfl rfl)
theorem dX0_reachOf_87 : decode cX0_reachOf 87 = .ok (.iconst 0, 1) := dk_3 (dk_at dksX0_reachOf_3 16 rfl rfl)
theorem dX0_reachOf_88 : decode cX0_reachOf 88 = .ok (.ior, 1) := dk_128 (dk_at dksX0_reachOf_3 17 rfl rfl)
theorem dX0_reachOf_89 : decode cX0_reachOf 89 = .ok (.istore 4, 2) := dk_54 4 (dk_at dksX0_reachOf_3 18 rfl rfl)
theorem dX0_reachOf_91 : decode cX0_reachOf 91 = .ok (.iload 4, 2) := dk_21 4 (dk_at dksX0_reachOf_3 20 rfl rfl)
theorem dX0_reachOf_93 : decode cX0_reachOf 93 = .ok (.iload 4, 2) := dk_21 4 (dk_at dksX0_reachOf_3 22 rfl rfl)
theorem dX0_reachOf_95 : decode cX0_reachOf 95 = .ok (.aload 7, 2) := dk_25 7 (dk_at dksX0_reachOf_4 0 rfl rfl)
theorem dX0_reachOf_97 : decode cX0_reachOf 97 = .ok (.getfield 143, 3) := dk_180 0 143 (dk_at dksX0_reachOf_4 2 rfl rfl)
theorem dX0_reachOf_100 : decode cX0_reachOf 100 = .ok (.invokestatic 156, 3) := dk_184 0 156 (dk_at dksX0_reachOf_4 5 rfl rfl)
theorem dX0_reachOf_103 : decode cX0_reachOf 103 = .ok (.ifCond .eq 29, 3) := dk_153 0 29 (dk_at dksX0_reachOf_4 8 rfl rfl)
theorem dX0_reachOf_106 : decode cX0_reachOf 106 = .ok (.aload_n 0, 1) := dk_42 (dk_at dksX0_reachOf_4 11 rfl rfl)
theorem dX0_reachOf_107 : decode cX0_reachOf 107 = .ok (.iload 6, 2) := dk_21 6 (dk_at dksX0_reachOf_4 12 rfl rfl)
theorem dX0_reachOf_109 : decode cX0_reachOf 109 = .ok (.aload 7, 2) := dk_25 7 (dk_at dksX0_reachOf_4 14 rfl rfl)
theorem dX0_reachOf_111 : decode cX0_reachOf 111 = .ok (.getfield 143, 3) := dk_180 0 143 (dk_at dksX0_reachOf_4 16 rfl rfl)
theorem dX0_reachOf_114 : decode cX0_reachOf 114 = .ok (.iload_n 2, 1) := dk_28 (dk_at dksX0_reachOf_4 19 rfl rfl)
theorem dX0_reachOf_115 : decode cX0_reachOf 115 = .ok (.iload_n 3, 1) := dk_29 (dk_at dksX0_reachOf_4 20 rfl rfl)
theorem dX0_reachOf_116 : decode cX0_reachOf 116 = .ok (.invokevirtual 160, 3) := dk_182 0 160 (dk_at dksX0_reachOf_4 21 rfl rfl)
theorem dX0_reachOf_119 : decode cX0_reachOf 119 = .ok (.ifCond .eq 13, 3) := dk_153 0 13 (dk_at dksX0_reachOf_5 0 rfl rfl)
theorem dX0_reachOf_122 : decode cX0_reachOf 122 = .ok (.iconst 1, 1) := dk_4 (dk_at dksX0_reachOf_5 3 rfl rfl)
theorem dX0_reachOf_123 : decode cX0_reachOf 123 = .ok (.aload 7, 2) := dk_25 7 (dk_at dksX0_reachOf_5 4 rfl rfl)
theorem dX0_reachOf_125 : decode cX0_reachOf 125 = .ok (.getfield 153, 3) := dk_180 0 153 (dk_at dksX0_reachOf_5 6 rfl rfl)
theorem dX0_reachOf_128 : decode cX0_reachOf 128 = .ok (.ishl, 1) := dk_120 (dk_at dksX0_reachOf_5 9 rfl rfl)
theorem dX0_reachOf_129 : decode cX0_reachOf 129 = .ok (.goto 4, 3) := dk_167 0 4 (dk_at dksX0_reachOf_5 10 rfl rfl)
theorem dX0_reachOf_132 : decode cX0_reachOf 132 = .ok (.iconst 0, 1) := dk_3 (dk_at dksX0_reachOf_5 13 rfl rfl)
theorem dX0_reachOf_133 : decode cX0_reachOf 133 = .ok (.ior, 1) := dk_128 (dk_at dksX0_reachOf_5 14 rfl rfl)
theorem dX0_reachOf_134 : decode cX0_reachOf 134 = .ok (.istore 4, 2) := dk_54 4 (dk_at dksX0_reachOf_5 15 rfl rfl)
theorem dX0_reachOf_136 : decode cX0_reachOf 136 = .ok (.iinc 6 1, 3) := dk_132 6 1 (dk_at dksX0_reachOf_5 17 rfl rfl)
theorem dX0_reachOf_139 : decode cX0_reachOf 139 = .ok (.goto (-117), 3) := dk_167 255 139 (dk_at dksX0_reachOf_5 20 rfl rfl)
theorem dX0_reachOf_142 : decode cX0_reachOf 142 = .ok (.goto (-134), 3) := dk_167 255 122 (dk_at dksX0_reachOf_6 0 rfl rfl)
theorem dX0_reachOf_145 : decode cX0_reachOf 145 = .ok (.iload 4, 2) := dk_21 4 (dk_at dksX0_reachOf_6 3 rfl rfl)
theorem dX0_reachOf_147 : decode cX0_reachOf 147 = .ok (.ireturn, 1) := dk_172 (dk_at dksX0_reachOf_6 5 rfl rfl)
abbrev cX0_has : ByteArray := prog_1_method_2_code
def yX0_has : MethodName := ⟨RX0, "has", "(II)Z"⟩
def dkwX0_has_0 : List UInt8 := [26, 27, 122, 4, 126, 4, 160, 0, 7, 4, 167, 0, 4, 3, 172]
abbrev dktX0_has_0 : List UInt8 := dkwX0_has_0 ++ []
theorem dksX0_has_0 : cX0_has.data.toList.drop 0 = dktX0_has_0 := by decide +kernel
theorem dX0_has_0 : decode cX0_has 0 = .ok (.iload_n 0, 1) := dk_26 (dk_at dksX0_has_0 0 rfl rfl)
theorem dX0_has_1 : decode cX0_has 1 = .ok (.iload_n 1, 1) := dk_27 (dk_at dksX0_has_0 1 rfl rfl)
theorem dX0_has_2 : decode cX0_has 2 = .ok (.ishr, 1) := dk_122 (dk_at dksX0_has_0 2 rfl rfl)
theorem dX0_has_3 : decode cX0_has 3 = .ok (.iconst 1, 1) := dk_4 (dk_at dksX0_has_0 3 rfl rfl)
theorem dX0_has_4 : decode cX0_has 4 = .ok (.iand, 1) := dk_126 (dk_at dksX0_has_0 4 rfl rfl)
theorem dX0_has_5 : decode cX0_has 5 = .ok (.iconst 1, 1) := dk_4 (dk_at dksX0_has_0 5 rfl rfl)
theorem dX0_has_6 : decode cX0_has 6 = .ok (.if_icmp .ne 7, 3) := dk_160 0 7 (dk_at dksX0_has_0 6 rfl rfl)
theorem dX0_has_9 : decode cX0_has 9 = .ok (.iconst 1, 1) := dk_4 (dk_at dksX0_has_0 9 rfl rfl)
theorem dX0_has_10 : decode cX0_has 10 = .ok (.goto 4, 3) := dk_167 0 4 (dk_at dksX0_has_0 10 rfl rfl)
theorem dX0_has_13 : decode cX0_has 13 = .ok (.iconst 0, 1) := dk_3 (dk_at dksX0_has_0 13 rfl rfl)
theorem dX0_has_14 : decode cX0_has 14 = .ok (.ireturn, 1) := dk_172 (dk_at dksX0_has_0 14 rfl rfl)
abbrev cX0_mayGo : ByteArray := prog_1_method_14_code
def yX0_mayGo : MethodName := ⟨RX0, "mayGo", "(IIII)Z"⟩
def dkwX0_mayGo_3 : List UInt8 := [172]
abbrev dktX0_mayGo_3 : List UInt8 := dkwX0_mayGo_3 ++ []
def dkwX0_mayGo_2 : List UInt8 := [159, 0, 23, 21, 5, 154, 0, 14, 42, 27, 29, 21, 4, 182, 0, 150, 153, 0, 7, 4, 167, 0, 4, 3]
abbrev dktX0_mayGo_2 : List UInt8 := dkwX0_mayGo_2 ++ dktX0_mayGo_3
def dkwX0_mayGo_1 : List UInt8 := [160, 0, 7, 4, 167, 0, 4, 3, 54, 5, 42, 180, 0, 10, 180, 0, 113, 27, 50, 28, 182, 0, 146, 2]
abbrev dktX0_mayGo_1 : List UInt8 := dkwX0_mayGo_1 ++ dktX0_mayGo_2
def dkwX0_mayGo_0 : List UInt8 := [42, 180, 0, 21, 180, 0, 140, 4, 160, 0, 23, 42, 180, 0, 10, 180, 0, 113, 27, 50, 180, 0, 143, 28]
abbrev dktX0_mayGo_0 : List UInt8 := dkwX0_mayGo_0 ++ dktX0_mayGo_1
theorem dksX0_mayGo_0 : cX0_mayGo.data.toList.drop 0 = dktX0_mayGo_0 := by decide +kernel
theorem dksX0_mayGo_1 : cX0_mayGo.data.toList.drop 24 = dktX0_mayGo_1 := dk_seg dksX0_mayGo_0 24 rfl rfl
theorem dksX0_mayGo_2 : cX0_mayGo.data.toList.drop 48 = dktX0_mayGo_2 := dk_seg dksX0_mayGo_1 24 rfl rfl
theorem dksX0_mayGo_3 : cX0_mayGo.data.toList.drop 72 = dktX0_mayGo_3 := dk_seg dksX0_mayGo_2 24 rfl rfl
theorem dX0_mayGo_0 : decode cX0_mayGo 0 = .ok (.aload_n 0, 1) := dk_42 (dk_at dksX0_mayGo_0 0 rfl rfl)
theorem dX0_mayGo_1 : decode cX0_mayGo 1 = .ok (.getfield 21, 3) := dk_180 0 21 (dk_at dksX0_mayGo_0 1 rfl rfl)
theorem dX0_mayGo_4 : decode cX0_mayGo 4 = .ok (.getfield 140, 3) := dk_180 0 140 (dk_at dksX0_mayGo_0 4 rfl rfl)
theorem dX0_mayGo_7 : decode cX0_mayGo 7 = .ok (.iconst 1, 1) := dk_4 (dk_at dksX0_mayGo_0 7 rfl rfl)
theorem dX0_mayGo_8 : decode cX0_mayGo 8 = .ok (.if_icmp .ne 23, 3) := dk_160 0 23 (dk_at dksX0_mayGo_0 8 rfl rfl)
theorem dX0_mayGo_11 : decode cX0_mayGo 11 = .ok (.aload_n 0, 1) := dk_42 (dk_at dksX0_mayGo_0 11 rfl rfl)
theorem dX0_mayGo_12 : decode cX0_mayGo 12 = .ok (.getfield 10, 3) := dk_180 0 10 (dk_at dksX0_mayGo_0 12 rfl rfl)
theorem dX0_mayGo_15 : decode cX0_mayGo 15 = .ok (.getfield 113, 3) := dk_180 0 113 (dk_at dksX0_mayGo_0 15 rfl rfl)
theorem dX0_mayGo_18 : decode cX0_mayGo 18 = .ok (.iload_n 1, 1) := dk_27 (dk_at dksX0_mayGo_0 18 rfl rfl)
theorem dX0_mayGo_19 : decode cX0_mayGo 19 = .ok (.aaload, 1) := dk_50 (dk_at dksX0_mayGo_0 19 rfl rfl)
theorem dX0_mayGo_20 : decode cX0_mayGo 20 = .ok (.getfield 143, 3) := dk_180 0 143 (dk_at dksX0_mayGo_0 20 rfl rfl)
theorem dX0_mayGo_23 : decode cX0_mayGo 23 = .ok (.iload_n 2, 1) := dk_28 (dk_at dksX0_mayGo_0 23 rfl rfl)
theorem dX0_mayGo_24 : decode cX0_mayGo 24 = .ok (.if_icmp .ne 7, 3) := dk_160 0 7 (dk_at dksX0_mayGo_1 0 rfl rfl)
theorem dX0_mayGo_27 : decode cX0_mayGo 27 = .ok (.iconst 1, 1) := dk_4 (dk_at dksX0_mayGo_1 3 rfl rfl)
theorem dX0_mayGo_28 : decode cX0_mayGo 28 = .ok (.goto 4, 3) := dk_167 0 4 (dk_at dksX0_mayGo_1 4 rfl rfl)
theorem dX0_mayGo_31 : decode cX0_mayGo 31 = .ok (.iconst 0, 1) := dk_3 (dk_at dksX0_mayGo_1 7 rfl rfl)
theorem dX0_mayGo_32 : decode cX0_mayGo 32 = .ok (.istore 5, 2) := dk_54 5 (dk_at dksX0_mayGo_1 8 rfl rfl)
theorem dX0_mayGo_34 : decode cX0_mayGo 34 = .ok (.aload_n 0, 1) := dk_42 (dk_at dksX0_mayGo_1 10 rfl rfl)
theorem dX0_mayGo_35 : decode cX0_mayGo 35 = .ok (.getfield 10, 3) := dk_180 0 10 (dk_at dksX0_mayGo_1 11 rfl rfl)
theorem dX0_mayGo_38 : decode cX0_mayGo 38 = .ok (.getfield 113, 3) := dk_180 0 113 (dk_at dksX0_mayGo_1 14 rfl rfl)
theorem dX0_mayGo_41 : decode cX0_mayGo 41 = .ok (.iload_n 1, 1) := dk_27 (dk_at dksX0_mayGo_1 17 rfl rfl)
theorem dX0_mayGo_42 : decode cX0_mayGo 42 = .ok (.aaload, 1) := dk_50 (dk_at dksX0_mayGo_1 18 rfl rfl)
theorem dX0_mayGo_43 : decode cX0_mayGo 43 = .ok (.iload_n 2, 1) := dk_28 (dk_at dksX0_mayGo_1 19 rfl rfl)
theorem dX0_mayGo_44 : decode cX0_mayGo 44 = .ok (.invokevirtual 146, 3) := dk_182 0 146 (dk_at dksX0_mayGo_1 20 rfl rfl)
theorem dX0_mayGo_47 : decode cX0_mayGo 47 = .ok (.iconst (-1), 1) := dk_2 (dk_at dksX0_mayGo_1 23 rfl rfl)
theorem dX0_mayGo_48 : decode cX0_mayGo 48 = .ok (.if_icmp .eq 23, 3) := dk_159 0 23 (dk_at dksX0_mayGo_2 0 rfl rfl)
theorem dX0_mayGo_51 : decode cX0_mayGo 51 = .ok (.iload 5, 2) := dk_21 5 (dk_at dksX0_mayGo_2 3 rfl rfl)
theorem dX0_mayGo_53 : decode cX0_mayGo 53 = .ok (.ifCond .ne 14, 3) := dk_154 0 14 (dk_at dksX0_mayGo_2 5 rfl rfl)
theorem dX0_mayGo_56 : decode cX0_mayGo 56 = .ok (.aload_n 0, 1) := dk_42 (dk_at dksX0_mayGo_2 8 rfl rfl)
theorem dX0_mayGo_57 : decode cX0_mayGo 57 = .ok (.iload_n 1, 1) := dk_27 (dk_at dksX0_mayGo_2 9 rfl rfl)
theorem dX0_mayGo_58 : decode cX0_mayGo 58 = .ok (.iload_n 3, 1) := dk_29 (dk_at dksX0_mayGo_2 10 rfl rfl)
theorem dX0_mayGo_59 : decode cX0_mayGo 59 = .ok (.iload 4, 2) := dk_21 4 (dk_at dksX0_mayGo_2 11 rfl rfl)
theorem dX0_mayGo_61 : decode cX0_mayGo 61 = .ok (.invokevirtual 150, 3) := dk_182 0 150 (dk_at dksX0_mayGo_2 13 rfl rfl)
theorem dX0_mayGo_64 : decode cX0_mayGo 64 = .ok (.ifCond .eq 7, 3) := dk_153 0 7 (dk_at dksX0_mayGo_2 16 rfl rfl)
theorem dX0_mayGo_67 : decode cX0_mayGo 67 = .ok (.iconst 1, 1) := dk_4 (dk_at dksX0_mayGo_2 19 rfl rfl)
theorem dX0_mayGo_68 : decode cX0_mayGo 68 = .ok (.goto 4, 3) := dk_167 0 4 (dk_at dksX0_mayGo_2 20 rfl rfl)
theorem dX0_mayGo_71 : decode cX0_mayGo 71 = .ok (.iconst 0, 1) := dk_3 (dk_at dksX0_mayGo_2 23 rfl rfl)
theorem dX0_mayGo_72 : decode cX0_mayGo 72 = .ok (.ireturn, 1) := dk_172 (dk_at dksX0_mayGo_3 0 rfl rfl)
abbrev cX0_fit : ByteArray := prog_1_method_22_code
def yX0_fit : MethodName := ⟨RX0, "fit", "(II)I"⟩
def dkwX0_fit_1 : List UInt8 := [167, 0, 20, 42, 27, 182, 0, 133, 28, 182, 0, 137, 153, 0, 7, 4, 167, 0, 4, 3, 172]
abbrev dktX0_fit_1 : List UInt8 := dkwX0_fit_1 ++ []
def dkwX0_fit_0 : List UInt8 := [42, 27, 182, 0, 109, 154, 0, 6, 18, 183, 172, 28, 4, 16, 24, 184, 0, 61, 154, 0, 8, 18, 65]
abbrev dktX0_fit_0 : List UInt8 := dkwX0_fit_0 ++ dktX0_fit_1
theorem dksX0_fit_0 : cX0_fit.data.toList.drop 0 = dktX0_fit_0 := by decide +kernel
theorem dksX0_fit_1 : cX0_fit.data.toList.drop 23 = dktX0_fit_1 := dk_seg dksX0_fit_0 23 rfl rfl
theorem dX0_fit_0 : decode cX0_fit 0 = .ok (.aload_n 0, 1) := dk_42 (dk_at dksX0_fit_0 0 rfl rfl)
theorem dX0_fit_1 : decode cX0_fit 1 = .ok (.iload_n 1, 1) := dk_27 (dk_at dksX0_fit_0 1 rfl rfl)
theorem dX0_fit_2 : decode cX0_fit 2 = .ok (.invokevirtual 109, 3) := dk_182 0 109 (dk_at dksX0_fit_0 2 rfl rfl)
theorem dX0_fit_5 : decode cX0_fit 5 = .ok (.ifCond .ne 6, 3) := dk_154 0 6 (dk_at dksX0_fit_0 5 rfl rfl)
theorem dX0_fit_8 : decode cX0_fit 8 = .ok (.ldc 183, 2) := dk_18 183 (dk_at dksX0_fit_0 8 rfl rfl)
theorem dX0_fit_10 : decode cX0_fit 10 = .ok (.ireturn, 1) := dk_172 (dk_at dksX0_fit_0 10 rfl rfl)
theorem dX0_fit_11 : decode cX0_fit 11 = .ok (.iload_n 2, 1) := dk_28 (dk_at dksX0_fit_0 11 rfl rfl)
theorem dX0_fit_12 : decode cX0_fit 12 = .ok (.iconst 1, 1) := dk_4 (dk_at dksX0_fit_0 12 rfl rfl)
theorem dX0_fit_13 : decode cX0_fit 13 = .ok (.bipush 24, 2) := dk_16 24 (dk_at dksX0_fit_0 13 rfl rfl)
theorem dX0_fit_15 : decode cX0_fit 15 = .ok (.invokestatic 61, 3) := dk_184 0 61 (dk_at dksX0_fit_0 15 rfl rfl)
theorem dX0_fit_18 : decode cX0_fit 18 = .ok (.ifCond .ne 8, 3) := dk_154 0 8 (dk_at dksX0_fit_0 18 rfl rfl)
theorem dX0_fit_21 : decode cX0_fit 21 = .ok (.ldc 65, 2) := dk_18 65 (dk_at dksX0_fit_0 21 rfl rfl)
theorem dX0_fit_23 : decode cX0_fit 23 = .ok (.goto 20, 3) := dk_167 0 20 (dk_at dksX0_fit_1 0 rfl rfl)
theorem dX0_fit_26 : decode cX0_fit 26 = .ok (.aload_n 0, 1) := dk_42 (dk_at dksX0_fit_1 3 rfl rfl)
theorem dX0_fit_27 : decode cX0_fit 27 = .ok (.iload_n 1, 1) := dk_27 (dk_at dksX0_fit_1 4 rfl rfl)
theorem dX0_fit_28 : decode cX0_fit 28 = .ok (.invokevirtual 133, 3) := dk_182 0 133 (dk_at dksX0_fit_1 5 rfl rfl)
theorem dX0_fit_31 : decode cX0_fit 31 = .ok (.iload_n 2, 1) := dk_28 (dk_at dksX0_fit_1 8 rfl rfl)
theorem dX0_fit_32 : decode cX0_fit 32 = .ok (.invokevirtual 137, 3) := dk_182 0 137 (dk_at dksX0_fit_1 9 rfl rfl)
theorem dX0_fit_35 : decode cX0_fit 35 = .ok (.ifCond .eq 7, 3) := dk_153 0 7 (dk_at dksX0_fit_1 12 rfl rfl)
theorem dX0_fit_38 : decode cX0_fit 38 = .ok (.iconst 1, 1) := dk_4 (dk_at dksX0_fit_1 15 rfl rfl)
theorem dX0_fit_39 : decode cX0_fit 39 = .ok (.goto 4, 3) := dk_167 0 4 (dk_at dksX0_fit_1 16 rfl rfl)
theorem dX0_fit_42 : decode cX0_fit 42 = .ok (.iconst 0, 1) := dk_3 (dk_at dksX0_fit_1 19 rfl rfl)
theorem dX0_fit_43 : decode cX0_fit 43 = .ok (.ireturn, 1) := dk_172 (dk_at dksX0_fit_1 20 rfl rfl)
abbrev cX0_go : ByteArray := prog_1_method_26_code
def yX0_go : MethodName := ⟨RX0, "go", "(II)I"⟩
def dkwX0_go_2 : List UInt8 := [172]
abbrev dktX0_go_2 : List UInt8 := dkwX0_go_2 ++ []
def dkwX0_go_1 : List UInt8 := [182, 0, 208, 154, 0, 6, 18, 211, 172, 42, 27, 28, 182, 0, 212, 42, 180, 0, 21, 180, 0, 164, 27, 46]
abbrev dktX0_go_1 : List UInt8 := dkwX0_go_1 ++ dktX0_go_2
def dkwX0_go_0 : List UInt8 := [42, 27, 182, 0, 190, 153, 0, 11, 42, 28, 182, 0, 109, 154, 0, 6, 18, 183, 172, 42, 27, 28]
abbrev dktX0_go_0 : List UInt8 := dkwX0_go_0 ++ dktX0_go_1
theorem dksX0_go_0 : cX0_go.data.toList.drop 0 = dktX0_go_0 := by decide +kernel
theorem dksX0_go_1 : cX0_go.data.toList.drop 22 = dktX0_go_1 := dk_seg dksX0_go_0 22 rfl rfl
theorem dksX0_go_2 : cX0_go.data.toList.drop 46 = dktX0_go_2 := dk_seg dksX0_go_1 24 rfl rfl
theorem dX0_go_0 : decode cX0_go 0 = .ok (.aload_n 0, 1) := dk_42 (dk_at dksX0_go_0 0 rfl rfl)
theorem dX0_go_1 : decode cX0_go 1 = .ok (.iload_n 1, 1) := dk_27 (dk_at dksX0_go_0 1 rfl rfl)
theorem dX0_go_2 : decode cX0_go 2 = .ok (.invokevirtual 190, 3) := dk_182 0 190 (dk_at dksX0_go_0 2 rfl rfl)
theorem dX0_go_5 : decode cX0_go 5 = .ok (.ifCond .eq 11, 3) := dk_153 0 11 (dk_at dksX0_go_0 5 rfl rfl)
theorem dX0_go_8 : decode cX0_go 8 = .ok (.aload_n 0, 1) := dk_42 (dk_at dksX0_go_0 8 rfl rfl)
theorem dX0_go_9 : decode cX0_go 9 = .ok (.iload_n 2, 1) := dk_28 (dk_at dksX0_go_0 9 rfl rfl)
theorem dX0_go_10 : decode cX0_go 10 = .ok (.invokevirtual 109, 3) := dk_182 0 109 (dk_at dksX0_go_0 10 rfl rfl)
theorem dX0_go_13 : decode cX0_go 13 = .ok (.ifCond .ne 6, 3) := dk_154 0 6 (dk_at dksX0_go_0 13 rfl rfl)
theorem dX0_go_16 : decode cX0_go 16 = .ok (.ldc 183, 2) := dk_18 183 (dk_at dksX0_go_0 16 rfl rfl)
theorem dX0_go_18 : decode cX0_go 18 = .ok (.ireturn, 1) := dk_172 (dk_at dksX0_go_0 18 rfl rfl)
theorem dX0_go_19 : decode cX0_go 19 = .ok (.aload_n 0, 1) := dk_42 (dk_at dksX0_go_0 19 rfl rfl)
theorem dX0_go_20 : decode cX0_go 20 = .ok (.iload_n 1, 1) := dk_27 (dk_at dksX0_go_0 20 rfl rfl)
theorem dX0_go_21 : decode cX0_go 21 = .ok (.iload_n 2, 1) := dk_28 (dk_at dksX0_go_0 21 rfl rfl)
theorem dX0_go_22 : decode cX0_go 22 = .ok (.invokevirtual 208, 3) := dk_182 0 208 (dk_at dksX0_go_1 0 rfl rfl)
theorem dX0_go_25 : decode cX0_go 25 = .ok (.ifCond .ne 6, 3) := dk_154 0 6 (dk_at dksX0_go_1 3 rfl rfl)
theorem dX0_go_28 : decode cX0_go 28 = .ok (.ldc 211, 2) := dk_18 211 (dk_at dksX0_go_1 6 rfl rfl)
theorem dX0_go_30 : decode cX0_go 30 = .ok (.ireturn, 1) := dk_172 (dk_at dksX0_go_1 8 rfl rfl)
theorem dX0_go_31 : decode cX0_go 31 = .ok (.aload_n 0, 1) := dk_42 (dk_at dksX0_go_1 9 rfl rfl)
theorem dX0_go_32 : decode cX0_go 32 = .ok (.iload_n 1, 1) := dk_27 (dk_at dksX0_go_1 10 rfl rfl)
theorem dX0_go_33 : decode cX0_go 33 = .ok (.iload_n 2, 1) := dk_28 (dk_at dksX0_go_1 11 rfl rfl)
theorem dX0_go_34 : decode cX0_go 34 = .ok (.invokevirtual 212, 3) := dk_182 0 212 (dk_at dksX0_go_1 12 rfl rfl)
theorem dX0_go_37 : decode cX0_go 37 = .ok (.aload_n 0, 1) := dk_42 (dk_at dksX0_go_1 15 rfl rfl)
theorem dX0_go_38 : decode cX0_go 38 = .ok (.getfield 21, 3) := dk_180 0 21 (dk_at dksX0_go_1 16 rfl rfl)
theorem dX0_go_41 : decode cX0_go 41 = .ok (.getfield 164, 3) := dk_180 0 164 (dk_at dksX0_go_1 19 rfl rfl)
theorem dX0_go_44 : decode cX0_go 44 = .ok (.iload_n 1, 1) := dk_27 (dk_at dksX0_go_1 22 rfl rfl)
theorem dX0_go_45 : decode cX0_go 45 = .ok (.iaload, 1) := dk_46 (dk_at dksX0_go_1 23 rfl rfl)
theorem dX0_go_46 : decode cX0_go 46 = .ok (.ireturn, 1) := dk_172 (dk_at dksX0_go_2 0 rfl rfl)
abbrev cX0_canGo : ByteArray := prog_1_method_23_code
def yX0_canGo : MethodName := ⟨RX0, "canGo", "(II)Z"⟩
def dkwX0_canGo_1 : List UInt8 := [180, 0, 169, 27, 46, 182, 0, 160, 172]
abbrev dktX0_canGo_1 : List UInt8 := dkwX0_canGo_1 ++ []
def dkwX0_canGo_0 : List UInt8 := [42, 28, 42, 180, 0, 21, 180, 0, 164, 27, 46, 42, 180, 0, 21, 180, 0, 166, 27, 46, 42, 180, 0, 21]
abbrev dktX0_canGo_0 : List UInt8 := dkwX0_canGo_0 ++ dktX0_canGo_1
theorem dksX0_canGo_0 : cX0_canGo.data.toList.drop 0 = dktX0_canGo_0 := by decide +kernel
theorem dksX0_canGo_1 : cX0_canGo.data.toList.drop 24 = dktX0_canGo_1 := dk_seg dksX0_canGo_0 24 rfl rfl
theorem dX0_canGo_0 : decode cX0_canGo 0 = .ok (.aload_n 0, 1) := dk_42 (dk_at dksX0_canGo_0 0 rfl rfl)
theorem dX0_canGo_1 : decode cX0_canGo 1 = .ok (.iload_n 2, 1) := dk_28 (dk_at dksX0_canGo_0 1 rfl rfl)
theorem dX0_canGo_2 : decode cX0_canGo 2 = .ok (.aload_n 0, 1) := dk_42 (dk_at dksX0_canGo_0 2 rfl rfl)
theorem dX0_canGo_3 : decode cX0_canGo 3 = .ok (.getfield 21, 3) := dk_180 0 21 (dk_at dksX0_canGo_0 3 rfl rfl)
theorem dX0_canGo_6 : decode cX0_canGo 6 = .ok (.getfield 164, 3) := dk_180 0 164 (dk_at dksX0_canGo_0 6 rfl rfl)
theorem dX0_canGo_9 : decode cX0_canGo 9 = .ok (.iload_n 1, 1) := dk_27 (dk_at dksX0_canGo_0 9 rfl rfl)
theorem dX0_canGo_10 : decode cX0_canGo 10 = .ok (.iaload, 1) := dk_46 (dk_at dksX0_canGo_0 10 rfl rfl)
theorem dX0_canGo_11 : decode cX0_canGo 11 = .ok (.aload_n 0, 1) := dk_42 (dk_at dksX0_canGo_0 11 rfl rfl)
theorem dX0_canGo_12 : decode cX0_canGo 12 = .ok (.getfield 21, 3) := dk_180 0 21 (dk_at dksX0_canGo_0 12 rfl rfl)
theorem dX0_canGo_15 : decode cX0_canGo 15 = .ok (.getfield 166, 3) := dk_180 0 166 (dk_at dksX0_canGo_0 15 rfl rfl)
theorem dX0_canGo_18 : decode cX0_canGo 18 = .ok (.iload_n 1, 1) := dk_27 (dk_at dksX0_canGo_0 18 rfl rfl)
theorem dX0_canGo_19 : decode cX0_canGo 19 = .ok (.iaload, 1) := dk_46 (dk_at dksX0_canGo_0 19 rfl rfl)
theorem dX0_canGo_20 : decode cX0_canGo 20 = .ok (.aload_n 0, 1) := dk_42 (dk_at dksX0_canGo_0 20 rfl rfl)
theorem dX0_canGo_21 : decode cX0_canGo 21 = .ok (.getfield 21, 3) := dk_180 0 21 (dk_at dksX0_canGo_0 21 rfl rfl)
theorem dX0_canGo_24 : decode cX0_canGo 24 = .ok (.getfield 169, 3) := dk_180 0 169 (dk_at dksX0_canGo_1 0 rfl rfl)
theorem dX0_canGo_27 : decode cX0_canGo 27 = .ok (.iload_n 1, 1) := dk_27 (dk_at dksX0_canGo_1 3 rfl rfl)
theorem dX0_canGo_28 : decode cX0_canGo 28 = .ok (.iaload, 1) := dk_46 (dk_at dksX0_canGo_1 4 rfl rfl)
theorem dX0_canGo_29 : decode cX0_canGo 29 = .ok (.invokevirtual 160, 3) := dk_182 0 160 (dk_at dksX0_canGo_1 5 rfl rfl)
theorem dX0_canGo_32 : decode cX0_canGo 32 = .ok (.ireturn, 1) := dk_172 (dk_at dksX0_canGo_1 8 rfl rfl)
abbrev cX0_goNow : ByteArray := prog_1_method_25_code
def yX0_goNow : MethodName := ⟨RX0, "goNow", "(II)V"⟩
def dkwX0_goNow_2 : List UInt8 := [180, 0, 164, 27, 46, 182, 0, 146, 79, 177]
abbrev dktX0_goNow_2 : List UInt8 := dkwX0_goNow_2 ++ []
def dkwX0_goNow_1 : List UInt8 := [96, 79, 42, 180, 0, 21, 180, 0, 164, 27, 42, 180, 0, 10, 180, 0, 113, 28, 50, 42, 180, 0, 21]
abbrev dktX0_goNow_1 : List UInt8 := dkwX0_goNow_1 ++ dktX0_goNow_2
def dkwX0_goNow_0 : List UInt8 := [42, 180, 0, 21, 180, 0, 180, 28, 92, 46, 42, 28, 182, 0, 133, 42, 27, 28, 182, 0, 202, 182, 0, 205]
abbrev dktX0_goNow_0 : List UInt8 := dkwX0_goNow_0 ++ dktX0_goNow_1
theorem dksX0_goNow_0 : cX0_goNow.data.toList.drop 0 = dktX0_goNow_0 := by decide +kernel
theorem dksX0_goNow_1 : cX0_goNow.data.toList.drop 24 = dktX0_goNow_1 := dk_seg dksX0_goNow_0 24 rfl rfl
theorem dksX0_goNow_2 : cX0_goNow.data.toList.drop 47 = dktX0_goNow_2 := dk_seg dksX0_goNow_1 23 rfl rfl
theorem dX0_goNow_0 : decode cX0_goNow 0 = .ok (.aload_n 0, 1) := dk_42 (dk_at dksX0_goNow_0 0 rfl rfl)
theorem dX0_goNow_1 : decode cX0_goNow 1 = .ok (.getfield 21, 3) := dk_180 0 21 (dk_at dksX0_goNow_0 1 rfl rfl)
theorem dX0_goNow_4 : decode cX0_goNow 4 = .ok (.getfield 180, 3) := dk_180 0 180 (dk_at dksX0_goNow_0 4 rfl rfl)
theorem dX0_goNow_7 : decode cX0_goNow 7 = .ok (.iload_n 2, 1) := dk_28 (dk_at dksX0_goNow_0 7 rfl rfl)
theorem dX0_goNow_8 : decode cX0_goNow 8 = .ok (.dup2, 1) := dk_92 (dk_at dksX0_goNow_0 8 rfl rfl)
theorem dX0_goNow_9 : decode cX0_goNow 9 = .ok (.iaload, 1) := dk_46 (dk_at dksX0_goNow_0 9 rfl rfl)
theorem dX0_goNow_10 : decode cX0_goNow 10 = .ok (.aload_n 0, 1) := dk_42 (dk_at dksX0_goNow_0 10 rfl rfl)
theorem dX0_goNow_11 : decode cX0_goNow 11 = .ok (.iload_n 2, 1) := dk_28 (dk_at dksX0_goNow_0 11 rfl rfl)
theorem dX0_goNow_12 : decode cX0_goNow 12 = .ok (.invokevirtual 133, 3) := dk_182 0 133 (dk_at dksX0_goNow_0 12 rfl rfl)
theorem dX0_goNow_15 : decode cX0_goNow 15 = .ok (.aload_n 0, 1) := dk_42 (dk_at dksX0_goNow_0 15 rfl rfl)
theorem dX0_goNow_16 : decode cX0_goNow 16 = .ok (.iload_n 1, 1) := dk_27 (dk_at dksX0_goNow_0 16 rfl rfl)
theorem dX0_goNow_17 : decode cX0_goNow 17 = .ok (.iload_n 2, 1) := dk_28 (dk_at dksX0_goNow_0 17 rfl rfl)
theorem dX0_goNow_18 : decode cX0_goNow 18 = .ok (.invokevirtual 202, 3) := dk_182 0 202 (dk_at dksX0_goNow_0 18 rfl rfl)
theorem dX0_goNow_21 : decode cX0_goNow 21 = .ok (.invokevirtual 205, 3) := dk_182 0 205 (dk_at dksX0_goNow_0 21 rfl rfl)
theorem dX0_goNow_24 : decode cX0_goNow 24 = .ok (.iadd, 1) := dk_96 (dk_at dksX0_goNow_1 0 rfl rfl)
theorem dX0_goNow_25 : decode cX0_goNow 25 = .ok (.iastore, 1) := dk_79 (dk_at dksX0_goNow_1 1 rfl rfl)
theorem dX0_goNow_26 : decode cX0_goNow 26 = .ok (.aload_n 0, 1) := dk_42 (dk_at dksX0_goNow_1 2 rfl rfl)
theorem dX0_goNow_27 : decode cX0_goNow 27 = .ok (.getfield 21, 3) := dk_180 0 21 (dk_at dksX0_goNow_1 3 rfl rfl)
theorem dX0_goNow_30 : decode cX0_goNow 30 = .ok (.getfield 164, 3) := dk_180 0 164 (dk_at dksX0_goNow_1 6 rfl rfl)
theorem dX0_goNow_33 : decode cX0_goNow 33 = .ok (.iload_n 1, 1) := dk_27 (dk_at dksX0_goNow_1 9 rfl rfl)
theorem dX0_goNow_34 : decode cX0_goNow 34 = .ok (.aload_n 0, 1) := dk_42 (dk_at dksX0_goNow_1 10 rfl rfl)
theorem dX0_goNow_35 : decode cX0_goNow 35 = .ok (.getfield 10, 3) := dk_180 0 10 (dk_at dksX0_goNow_1 11 rfl rfl)
theorem dX0_goNow_38 : decode cX0_goNow 38 = .ok (.getfield 113, 3) := dk_180 0 113 (dk_at dksX0_goNow_1 14 rfl rfl)
theorem dX0_goNow_41 : decode cX0_goNow 41 = .ok (.iload_n 2, 1) := dk_28 (dk_at dksX0_goNow_1 17 rfl rfl)
theorem dX0_goNow_42 : decode cX0_goNow 42 = .ok (.aaload, 1) := dk_50 (dk_at dksX0_goNow_1 18 rfl rfl)
theorem dX0_goNow_43 : decode cX0_goNow 43 = .ok (.aload_n 0, 1) := dk_42 (dk_at dksX0_goNow_1 19 rfl rfl)
theorem dX0_goNow_44 : decode cX0_goNow 44 = .ok (.getfield 21, 3) := dk_180 0 21 (dk_at dksX0_goNow_1 20 rfl rfl)
theorem dX0_goNow_47 : decode cX0_goNow 47 = .ok (.getfield 164, 3) := dk_180 0 164 (dk_at dksX0_goNow_2 0 rfl rfl)
theorem dX0_goNow_50 : decode cX0_goNow 50 = .ok (.iload_n 1, 1) := dk_27 (dk_at dksX0_goNow_2 3 rfl rfl)
theorem dX0_goNow_51 : decode cX0_goNow 51 = .ok (.iaload, 1) := dk_46 (dk_at dksX0_goNow_2 4 rfl rfl)
theorem dX0_goNow_52 : decode cX0_goNow 52 = .ok (.invokevirtual 146, 3) := dk_182 0 146 (dk_at dksX0_goNow_2 5 rfl rfl)
theorem dX0_goNow_55 : decode cX0_goNow 55 = .ok (.iastore, 1) := dk_79 (dk_at dksX0_goNow_2 8 rfl rfl)
theorem dX0_goNow_56 : decode cX0_goNow 56 = .ok (.return_, 1) := dk_177 (dk_at dksX0_goNow_2 9 rfl rfl)
abbrev cX0_strideFor : ByteArray := prog_1_method_24_code
def yX0_strideFor : MethodName := ⟨RX0, "strideFor", "(II)I"⟩
def dkwX0_strideFor_4 : List UInt8 := [154, 0, 15, 42, 180, 0, 21, 180, 0, 166, 27, 46, 167, 0, 5, 21, 6, 172]
abbrev dktX0_strideFor_4 : List UInt8 := dkwX0_strideFor_4 ++ []
def dkwX0_strideFor_3 : List UInt8 := [180, 0, 169, 27, 46, 167, 0, 4, 3, 54, 5, 21, 4, 21, 5, 184, 0, 196, 54, 6, 21, 6]
abbrev dktX0_strideFor_3 : List UInt8 := dkwX0_strideFor_3 ++ dktX0_strideFor_4
def dkwX0_strideFor_2 : List UInt8 := [158, 0, 31, 45, 42, 180, 0, 21, 180, 0, 169, 27, 46, 182, 0, 137, 153, 0, 15, 42, 180, 0, 21]
abbrev dktX0_strideFor_2 : List UInt8 := dkwX0_strideFor_2 ++ dktX0_strideFor_3
def dkwX0_strideFor_1 : List UInt8 := [180, 0, 21, 180, 0, 166, 27, 46, 167, 0, 4, 3, 54, 4, 42, 180, 0, 21, 180, 0, 169, 27, 46]
abbrev dktX0_strideFor_1 : List UInt8 := dkwX0_strideFor_1 ++ dktX0_strideFor_2
def dkwX0_strideFor_0 : List UInt8 := [42, 28, 182, 0, 133, 78, 45, 42, 180, 0, 21, 180, 0, 166, 27, 46, 182, 0, 137, 153, 0, 15, 42]
abbrev dktX0_strideFor_0 : List UInt8 := dkwX0_strideFor_0 ++ dktX0_strideFor_1
theorem dksX0_strideFor_0 : cX0_strideFor.data.toList.drop 0 = dktX0_strideFor_0 := by decide +kernel
theorem dksX0_strideFor_1 : cX0_strideFor.data.toList.drop 23 = dktX0_strideFor_1 := dk_seg dksX0_strideFor_0 23 rfl rfl
theorem dksX0_strideFor_2 : cX0_strideFor.data.toList.drop 46 = dktX0_strideFor_2 := dk_seg dksX0_strideFor_1 23 rfl rfl
theorem dksX0_strideFor_3 : cX0_strideFor.data.toList.drop 69 = dktX0_strideFor_3 := dk_seg dksX0_strideFor_2 23 rfl rfl
theorem dksX0_strideFor_4 : cX0_strideFor.data.toList.drop 91 = dktX0_strideFor_4 := dk_seg dksX0_strideFor_3 22 rfl rfl
theorem dX0_strideFor_0 : decode cX0_strideFor 0 = .ok (.aload_n 0, 1) := dk_42 (dk_at dksX0_strideFor_0 0 rfl rfl)
theorem dX0_strideFor_1 : decode cX0_strideFor 1 = .ok (.iload_n 2, 1) := dk_28 (dk_at dksX0_strideFor_0 1 rfl rfl)
theorem dX0_strideFor_2 : decode cX0_strideFor 2 = .ok (.invokevirtual 133, 3) := dk_182 0 133 (dk_at dksX0_strideFor_0 2 rfl rfl)
theorem dX0_strideFor_5 : decode cX0_strideFor 5 = .ok (.astore_n 3, 1) := dk_78 (dk_at dksX0_strideFor_0 5 rfl rfl)
theorem dX0_strideFor_6 : decode cX0_strideFor 6 = .ok (.aload_n 3, 1) := dk_45 (dk_at dksX0_strideFor_0 6 rfl rfl)
theorem dX0_strideFor_7 : decode cX0_strideFor 7 = .ok (.aload_n 0, 1) := dk_42 (dk_at dksX0_strideFor_0 7 rfl rfl)
theorem dX0_strideFor_8 : decode cX0_strideFor 8 = .ok (.getfield 21, 3) := dk_180 0 21 (dk_at dksX0_strideFor_0 8 rfl rfl)
theorem dX0_strideFor_11 : decode cX0_strideFor 11 = .ok (.getfield 166, 3) := dk_180 0 166 (dk_at dksX0_strideFor_0 11 rfl rfl)
theorem dX0_strideFor_14 : decode cX0_strideFor 14 = .ok (.iload_n 1, 1) := dk_27 (dk_at dksX0_strideFor_0 14 rfl rfl)
theorem dX0_strideFor_15 : decode cX0_strideFor 15 = .ok (.iaload, 1) := dk_46 (dk_at dksX0_strideFor_0 15 rfl rfl)
theorem dX0_strideFor_16 : decode cX0_strideFor 16 = .ok (.invokevirtual 137, 3) := dk_182 0 137 (dk_at dksX0_strideFor_0 16 rfl rfl)
theorem dX0_strideFor_19 : decode cX0_strideFor 19 = .ok (.ifCond .eq 15, 3) := dk_153 0 15 (dk_at dksX0_strideFor_0 19 rfl rfl)
theorem dX0_strideFor_22 : decode cX0_strideFor 22 = .ok (.aload_n 0, 1) := dk_42 (dk_at dksX0_strideFor_0 22 rfl rfl)
theorem dX0_strideFor_23 : decode cX0_strideFor 23 = .ok (.getfield 21, 3) := dk_180 0 21 (dk_at dksX0_strideFor_1 0 rfl rfl)
theorem dX0_strideFor_26 : decode cX0_strideFor 26 = .ok (.getfield 166, 3) := dk_180 0 166 (dk_at dksX0_strideFor_1 3 rfl rfl)
theorem dX0_strideFor_29 : decode cX0_strideFor 29 = .ok (.iload_n 1, 1) := dk_27 (dk_at dksX0_strideFor_1 6 rfl rfl)
theorem dX0_strideFor_30 : decode cX0_strideFor 30 = .ok (.iaload, 1) := dk_46 (dk_at dksX0_strideFor_1 7 rfl rfl)
theorem dX0_strideFor_31 : decode cX0_strideFor 31 = .ok (.goto 4, 3) := dk_167 0 4 (dk_at dksX0_strideFor_1 8 rfl rfl)
theorem dX0_strideFor_34 : decode cX0_strideFor 34 = .ok (.iconst 0, 1) := dk_3 (dk_at dksX0_strideFor_1 11 rfl rfl)
theorem dX0_strideFor_35 : decode cX0_strideFor 35 = .ok (.istore 4, 2) := dk_54 4 (dk_at dksX0_strideFor_1 12 rfl rfl)
theorem dX0_strideFor_37 : decode cX0_strideFor 37 = .ok (.aload_n 0, 1) := dk_42 (dk_at dksX0_strideFor_1 14 rfl rfl)
theorem dX0_strideFor_38 : decode cX0_strideFor 38 = .ok (.getfield 21, 3) := dk_180 0 21 (dk_at dksX0_strideFor_1 15 rfl rfl)
theorem dX0_strideFor_41 : decode cX0_strideFor 41 = .ok (.getfield 169, 3) := dk_180 0 169 (dk_at dksX0_strideFor_1 18 rfl rfl)
theorem dX0_strideFor_44 : decode cX0_strideFor 44 = .ok (.iload_n 1, 1) := dk_27 (dk_at dksX0_strideFor_1 21 rfl rfl)
theorem dX0_strideFor_45 : decode cX0_strideFor 45 = .ok (.iaload, 1) := dk_46 (dk_at dksX0_strideFor_1 22 rfl rfl)
theorem dX0_strideFor_46 : decode cX0_strideFor 46 = .ok (.ifCond .le 31, 3) := dk_158 0 31 (dk_at dksX0_strideFor_2 0 rfl rfl)
theorem dX0_strideFor_49 : decode cX0_strideFor 49 = .ok (.aload_n 3, 1) := dk_45 (dk_at dksX0_strideFor_2 3 rfl rfl)
theorem dX0_strideFor_50 : decode cX0_strideFor 50 = .ok (.aload_n 0, 1) := dk_42 (dk_at dksX0_strideFor_2 4 rfl rfl)
theorem dX0_strideFor_51 : decode cX0_strideFor 51 = .ok (.getfield 21, 3) := dk_180 0 21 (dk_at dksX0_strideFor_2 5 rfl rfl)
theorem dX0_strideFor_54 : decode cX0_strideFor 54 = .ok (.getfield 169, 3) := dk_180 0 169 (dk_at dksX0_strideFor_2 8 rfl rfl)
theorem dX0_strideFor_57 : decode cX0_strideFor 57 = .ok (.iload_n 1, 1) := dk_27 (dk_at dksX0_strideFor_2 11 rfl rfl)
theorem dX0_strideFor_58 : decode cX0_strideFor 58 = .ok (.iaload, 1) := dk_46 (dk_at dksX0_strideFor_2 12 rfl rfl)
theorem dX0_strideFor_59 : decode cX0_strideFor 59 = .ok (.invokevirtual 137, 3) := dk_182 0 137 (dk_at dksX0_strideFor_2 13 rfl rfl)
theorem dX0_strideFor_62 : decode cX0_strideFor 62 = .ok (.ifCond .eq 15, 3) := dk_153 0 15 (dk_at dksX0_strideFor_2 16 rfl rfl)
theorem dX0_strideFor_65 : decode cX0_strideFor 65 = .ok (.aload_n 0, 1) := dk_42 (dk_at dksX0_strideFor_2 19 rfl rfl)
theorem dX0_strideFor_66 : decode cX0_strideFor 66 = .ok (.getfield 21, 3) := dk_180 0 21 (dk_at dksX0_strideFor_2 20 rfl rfl)
theorem dX0_strideFor_69 : decode cX0_strideFor 69 = .ok (.getfield 169, 3) := dk_180 0 169 (dk_at dksX0_strideFor_3 0 rfl rfl)
theorem dX0_strideFor_72 : decode cX0_strideFor 72 = .ok (.iload_n 1, 1) := dk_27 (dk_at dksX0_strideFor_3 3 rfl rfl)
theorem dX0_strideFor_73 : decode cX0_strideFor 73 = .ok (.iaload, 1) := dk_46 (dk_at dksX0_strideFor_3 4 rfl rfl)
theorem dX0_strideFor_74 : decode cX0_strideFor 74 = .ok (.goto 4, 3) := dk_167 0 4 (dk_at dksX0_strideFor_3 5 rfl rfl)
theorem dX0_strideFor_77 : decode cX0_strideFor 77 = .ok (.iconst 0, 1) := dk_3 (dk_at dksX0_strideFor_3 8 rfl rfl)
theorem dX0_strideFor_78 : decode cX0_strideFor 78 = .ok (.istore 5, 2) := dk_54 5 (dk_at dksX0_strideFor_3 9 rfl rfl)
theorem dX0_strideFor_80 : decode cX0_strideFor 80 = .ok (.iload 4, 2) := dk_21 4 (dk_at dksX0_strideFor_3 11 rfl rfl)
theorem dX0_strideFor_82 : decode cX0_strideFor 82 = .ok (.iload 5, 2) := dk_21 5 (dk_at dksX0_strideFor_3 13 rfl rfl)
theorem dX0_strideFor_84 : decode cX0_strideFor 84 = .ok (.invokestatic 196, 3) := dk_184 0 196 (dk_at dksX0_strideFor_3 15 rfl rfl)
theorem dX0_strideFor_87 : decode cX0_strideFor 87 = .ok (.istore 6, 2) := dk_54 6 (dk_at dksX0_strideFor_3 18 rfl rfl)
theorem dX0_strideFor_89 : decode cX0_strideFor 89 = .ok (.iload 6, 2) := dk_21 6 (dk_at dksX0_strideFor_3 20 rfl rfl)
theorem dX0_strideFor_91 : decode cX0_strideFor 91 = .ok (.ifCond .ne 15, 3) := dk_154 0 15 (dk_at dksX0_strideFor_4 0 rfl rfl)
theorem dX0_strideFor_94 : decode cX0_strideFor 94 = .ok (.aload_n 0, 1) := dk_42 (dk_at dksX0_strideFor_4 3 rfl rfl)
theorem dX0_strideFor_95 : decode cX0_strideFor 95 = .ok (.getfield 21, 3) := dk_180 0 21 (dk_at dksX0_strideFor_4 4 rfl rfl)
theorem dX0_strideFor_98 : decode cX0_strideFor 98 = .ok (.getfield 166, 3) := dk_180 0 166 (dk_at dksX0_strideFor_4 7 rfl rfl)
theorem dX0_strideFor_101 : decode cX0_strideFor 101 = .ok (.iload_n 1, 1) := dk_27 (dk_at dksX0_strideFor_4 10 rfl rfl)
theorem dX0_strideFor_102 : decode cX0_strideFor 102 = .ok (.iaload, 1) := dk_46 (dk_at dksX0_strideFor_4 11 rfl rfl)
theorem dX0_strideFor_103 : decode cX0_strideFor 103 = .ok (.goto 5, 3) := dk_167 0 5 (dk_at dksX0_strideFor_4 12 rfl rfl)
theorem dX0_strideFor_106 : decode cX0_strideFor 106 = .ok (.iload 6, 2) := dk_21 6 (dk_at dksX0_strideFor_4 15 rfl rfl)
theorem dX0_strideFor_108 : decode cX0_strideFor 108 = .ok (.ireturn, 1) := dk_172 (dk_at dksX0_strideFor_4 17 rfl rfl)
abbrev cX0_build : ByteArray := prog_1_method_27_code
def yX0_build : MethodName := ⟨RX0, "build", "(III)I"⟩
def dkwX0_build_2 : List UInt8 := [50, 28, 29, 79, 21, 4, 172]
abbrev dktX0_build_2 : List UInt8 := dkwX0_build_2 ++ []
def dkwX0_build_1 : List UInt8 := [18, 65, 172, 42, 180, 0, 21, 180, 0, 122, 27, 50, 28, 46, 54, 4, 42, 180, 0, 21, 180, 0, 122, 27]
abbrev dktX0_build_1 : List UInt8 := dkwX0_build_1 ++ dktX0_build_2
def dkwX0_build_0 : List UInt8 := [42, 27, 28, 182, 0, 216, 154, 0, 6, 18, 183, 172, 29, 4, 17, 2, 208, 184, 0, 61, 154, 0, 6]
abbrev dktX0_build_0 : List UInt8 := dkwX0_build_0 ++ dktX0_build_1
theorem dksX0_build_0 : cX0_build.data.toList.drop 0 = dktX0_build_0 := by decide +kernel
theorem dksX0_build_1 : cX0_build.data.toList.drop 23 = dktX0_build_1 := dk_seg dksX0_build_0 23 rfl rfl
theorem dksX0_build_2 : cX0_build.data.toList.drop 47 = dktX0_build_2 := dk_seg dksX0_build_1 24 rfl rfl
theorem dX0_build_0 : decode cX0_build 0 = .ok (.aload_n 0, 1) := dk_42 (dk_at dksX0_build_0 0 rfl rfl)
theorem dX0_build_1 : decode cX0_build 1 = .ok (.iload_n 1, 1) := dk_27 (dk_at dksX0_build_0 1 rfl rfl)
theorem dX0_build_2 : decode cX0_build 2 = .ok (.iload_n 2, 1) := dk_28 (dk_at dksX0_build_0 2 rfl rfl)
theorem dX0_build_3 : decode cX0_build 3 = .ok (.invokevirtual 216, 3) := dk_182 0 216 (dk_at dksX0_build_0 3 rfl rfl)
theorem dX0_build_6 : decode cX0_build 6 = .ok (.ifCond .ne 6, 3) := dk_154 0 6 (dk_at dksX0_build_0 6 rfl rfl)
theorem dX0_build_9 : decode cX0_build 9 = .ok (.ldc 183, 2) := dk_18 183 (dk_at dksX0_build_0 9 rfl rfl)
theorem dX0_build_11 : decode cX0_build 11 = .ok (.ireturn, 1) := dk_172 (dk_at dksX0_build_0 11 rfl rfl)
theorem dX0_build_12 : decode cX0_build 12 = .ok (.iload_n 3, 1) := dk_29 (dk_at dksX0_build_0 12 rfl rfl)
theorem dX0_build_13 : decode cX0_build 13 = .ok (.iconst 1, 1) := dk_4 (dk_at dksX0_build_0 13 rfl rfl)
theorem dX0_build_14 : decode cX0_build 14 = .ok (.sipush 720, 3) := dk_17 2 208 (dk_at dksX0_build_0 14 rfl rfl)
theorem dX0_build_17 : decode cX0_build 17 = .ok (.invokestatic 61, 3) := dk_184 0 61 (dk_at dksX0_build_0 17 rfl rfl)
theorem dX0_build_20 : decode cX0_build 20 = .ok (.ifCond .ne 6, 3) := dk_154 0 6 (dk_at dksX0_build_0 20 rfl rfl)
theorem dX0_build_23 : decode cX0_build 23 = .ok (.ldc 65, 2) := dk_18 65 (dk_at dksX0_build_1 0 rfl rfl)
theorem dX0_build_25 : decode cX0_build 25 = .ok (.ireturn, 1) := dk_172 (dk_at dksX0_build_1 2 rfl rfl)
theorem dX0_build_26 : decode cX0_build 26 = .ok (.aload_n 0, 1) := dk_42 (dk_at dksX0_build_1 3 rfl rfl)
theorem dX0_build_27 : decode cX0_build 27 = .ok (.getfield 21, 3) := dk_180 0 21 (dk_at dksX0_build_1 4 rfl rfl)
theorem dX0_build_30 : decode cX0_build 30 = .ok (.getfield 122, 3) := dk_180 0 122 (dk_at dksX0_build_1 7 rfl rfl)
theorem dX0_build_33 : decode cX0_build 33 = .ok (.iload_n 1, 1) := dk_27 (dk_at dksX0_build_1 10 rfl rfl)
theorem dX0_build_34 : decode cX0_build 34 = .ok (.aaload, 1) := dk_50 (dk_at dksX0_build_1 11 rfl rfl)
theorem dX0_build_35 : decode cX0_build 35 = .ok (.iload_n 2, 1) := dk_28 (dk_at dksX0_build_1 12 rfl rfl)
theorem dX0_build_36 : decode cX0_build 36 = .ok (.iaload, 1) := dk_46 (dk_at dksX0_build_1 13 rfl rfl)
theorem dX0_build_37 : decode cX0_build 37 = .ok (.istore 4, 2) := dk_54 4 (dk_at dksX0_build_1 14 rfl rfl)
theorem dX0_build_39 : decode cX0_build 39 = .ok (.aload_n 0, 1) := dk_42 (dk_at dksX0_build_1 16 rfl rfl)
theorem dX0_build_40 : decode cX0_build 40 = .ok (.getfield 21, 3) := dk_180 0 21 (dk_at dksX0_build_1 17 rfl rfl)
theorem dX0_build_43 : decode cX0_build 43 = .ok (.getfield 122, 3) := dk_180 0 122 (dk_at dksX0_build_1 20 rfl rfl)
theorem dX0_build_46 : decode cX0_build 46 = .ok (.iload_n 1, 1) := dk_27 (dk_at dksX0_build_1 23 rfl rfl)
theorem dX0_build_47 : decode cX0_build 47 = .ok (.aaload, 1) := dk_50 (dk_at dksX0_build_2 0 rfl rfl)
theorem dX0_build_48 : decode cX0_build 48 = .ok (.iload_n 2, 1) := dk_28 (dk_at dksX0_build_2 1 rfl rfl)
theorem dX0_build_49 : decode cX0_build 49 = .ok (.iload_n 3, 1) := dk_29 (dk_at dksX0_build_2 2 rfl rfl)
theorem dX0_build_50 : decode cX0_build 50 = .ok (.iastore, 1) := dk_79 (dk_at dksX0_build_2 3 rfl rfl)
theorem dX0_build_51 : decode cX0_build 51 = .ok (.iload 4, 2) := dk_21 4 (dk_at dksX0_build_2 4 rfl rfl)
theorem dX0_build_53 : decode cX0_build 53 = .ok (.ireturn, 1) := dk_172 (dk_at dksX0_build_2 6 rfl rfl)
abbrev cX0_isPart : ByteArray := prog_1_method_11_code
def yX0_isPart : MethodName := ⟨RX0, "isPart", "(II)Z"⟩
def dkwX0_isPart_1 : List UInt8 := [184, 0, 61, 153, 0, 7, 4, 167, 0, 4, 3, 172]
abbrev dktX0_isPart_1 : List UInt8 := dkwX0_isPart_1 ++ []
def dkwX0_isPart_0 : List UInt8 := [42, 27, 182, 0, 109, 153, 0, 29, 28, 3, 42, 180, 0, 10, 180, 0, 113, 27, 50, 180, 0, 117, 4, 100]
abbrev dktX0_isPart_0 : List UInt8 := dkwX0_isPart_0 ++ dktX0_isPart_1
theorem dksX0_isPart_0 : cX0_isPart.data.toList.drop 0 = dktX0_isPart_0 := by decide +kernel
theorem dksX0_isPart_1 : cX0_isPart.data.toList.drop 24 = dktX0_isPart_1 := dk_seg dksX0_isPart_0 24 rfl rfl
theorem dX0_isPart_0 : decode cX0_isPart 0 = .ok (.aload_n 0, 1) := dk_42 (dk_at dksX0_isPart_0 0 rfl rfl)
theorem dX0_isPart_1 : decode cX0_isPart 1 = .ok (.iload_n 1, 1) := dk_27 (dk_at dksX0_isPart_0 1 rfl rfl)
theorem dX0_isPart_2 : decode cX0_isPart 2 = .ok (.invokevirtual 109, 3) := dk_182 0 109 (dk_at dksX0_isPart_0 2 rfl rfl)
theorem dX0_isPart_5 : decode cX0_isPart 5 = .ok (.ifCond .eq 29, 3) := dk_153 0 29 (dk_at dksX0_isPart_0 5 rfl rfl)
theorem dX0_isPart_8 : decode cX0_isPart 8 = .ok (.iload_n 2, 1) := dk_28 (dk_at dksX0_isPart_0 8 rfl rfl)
theorem dX0_isPart_9 : decode cX0_isPart 9 = .ok (.iconst 0, 1) := dk_3 (dk_at dksX0_isPart_0 9 rfl rfl)
theorem dX0_isPart_10 : decode cX0_isPart 10 = .ok (.aload_n 0, 1) := dk_42 (dk_at dksX0_isPart_0 10 rfl rfl)
theorem dX0_isPart_11 : decode cX0_isPart 11 = .ok (.getfield 10, 3) := dk_180 0 10 (dk_at dksX0_isPart_0 11 rfl rfl)
theorem dX0_isPart_14 : decode cX0_isPart 14 = .ok (.getfield 113, 3) := dk_180 0 113 (dk_at dksX0_isPart_0 14 rfl rfl)
theorem dX0_isPart_17 : decode cX0_isPart 17 = .ok (.iload_n 1, 1) := dk_27 (dk_at dksX0_isPart_0 17 rfl rfl)
theorem dX0_isPart_18 : decode cX0_isPart 18 = .ok (.aaload, 1) := dk_50 (dk_at dksX0_isPart_0 18 rfl rfl)
theorem dX0_isPart_19 : decode cX0_isPart 19 = .ok (.getfield 117, 3) := dk_180 0 117 (dk_at dksX0_isPart_0 19 rfl rfl)
theorem dX0_isPart_22 : decode cX0_isPart 22 = .ok (.iconst 1, 1) := dk_4 (dk_at dksX0_isPart_0 22 rfl rfl)
theorem dX0_isPart_23 : decode cX0_isPart 23 = .ok (.isub, 1) := dk_100 (dk_at dksX0_isPart_0 23 rfl rfl)
theorem dX0_isPart_24 : decode cX0_isPart 24 = .ok (.invokestatic 61, 3) := dk_184 0 61 (dk_at dksX0_isPart_1 0 rfl rfl)
theorem dX0_isPart_27 : decode cX0_isPart 27 = .ok (.ifCond .eq 7, 3) := dk_153 0 7 (dk_at dksX0_isPart_1 3 rfl rfl)
theorem dX0_isPart_30 : decode cX0_isPart 30 = .ok (.iconst 1, 1) := dk_4 (dk_at dksX0_isPart_1 6 rfl rfl)
theorem dX0_isPart_31 : decode cX0_isPart 31 = .ok (.goto 4, 3) := dk_167 0 4 (dk_at dksX0_isPart_1 7 rfl rfl)
theorem dX0_isPart_34 : decode cX0_isPart 34 = .ok (.iconst 0, 1) := dk_3 (dk_at dksX0_isPart_1 10 rfl rfl)
theorem dX0_isPart_35 : decode cX0_isPart 35 = .ok (.ireturn, 1) := dk_172 (dk_at dksX0_isPart_1 11 rfl rfl)
abbrev cX0_law : ByteArray := prog_1_method_28_code
def yX0_law : MethodName := ⟨RX0, "law", "(I)I"⟩
def dkwX0_law_1 : List UInt8 := [27, 181, 0, 140, 28, 172]
abbrev dktX0_law_1 : List UInt8 := dkwX0_law_1 ++ []
def dkwX0_law_0 : List UInt8 := [27, 3, 4, 184, 0, 61, 154, 0, 6, 18, 65, 172, 42, 180, 0, 21, 180, 0, 140, 61, 42, 180, 0, 21]
abbrev dktX0_law_0 : List UInt8 := dkwX0_law_0 ++ dktX0_law_1
theorem dksX0_law_0 : cX0_law.data.toList.drop 0 = dktX0_law_0 := by decide +kernel
theorem dksX0_law_1 : cX0_law.data.toList.drop 24 = dktX0_law_1 := dk_seg dksX0_law_0 24 rfl rfl
theorem dX0_law_0 : decode cX0_law 0 = .ok (.iload_n 1, 1) := dk_27 (dk_at dksX0_law_0 0 rfl rfl)
theorem dX0_law_1 : decode cX0_law 1 = .ok (.iconst 0, 1) := dk_3 (dk_at dksX0_law_0 1 rfl rfl)
theorem dX0_law_2 : decode cX0_law 2 = .ok (.iconst 1, 1) := dk_4 (dk_at dksX0_law_0 2 rfl rfl)
theorem dX0_law_3 : decode cX0_law 3 = .ok (.invokestatic 61, 3) := dk_184 0 61 (dk_at dksX0_law_0 3 rfl rfl)
theorem dX0_law_6 : decode cX0_law 6 = .ok (.ifCond .ne 6, 3) := dk_154 0 6 (dk_at dksX0_law_0 6 rfl rfl)
theorem dX0_law_9 : decode cX0_law 9 = .ok (.ldc 65, 2) := dk_18 65 (dk_at dksX0_law_0 9 rfl rfl)
theorem dX0_law_11 : decode cX0_law 11 = .ok (.ireturn, 1) := dk_172 (dk_at dksX0_law_0 11 rfl rfl)
theorem dX0_law_12 : decode cX0_law 12 = .ok (.aload_n 0, 1) := dk_42 (dk_at dksX0_law_0 12 rfl rfl)
theorem dX0_law_13 : decode cX0_law 13 = .ok (.getfield 21, 3) := dk_180 0 21 (dk_at dksX0_law_0 13 rfl rfl)
theorem dX0_law_16 : decode cX0_law 16 = .ok (.getfield 140, 3) := dk_180 0 140 (dk_at dksX0_law_0 16 rfl rfl)
theorem dX0_law_19 : decode cX0_law 19 = .ok (.istore_n 2, 1) := dk_61 (dk_at dksX0_law_0 19 rfl rfl)
theorem dX0_law_20 : decode cX0_law 20 = .ok (.aload_n 0, 1) := dk_42 (dk_at dksX0_law_0 20 rfl rfl)
theorem dX0_law_21 : decode cX0_law 21 = .ok (.getfield 21, 3) := dk_180 0 21 (dk_at dksX0_law_0 21 rfl rfl)
theorem dX0_law_24 : decode cX0_law 24 = .ok (.iload_n 1, 1) := dk_27 (dk_at dksX0_law_1 0 rfl rfl)
theorem dX0_law_25 : decode cX0_law 25 = .ok (.putfield 140, 3) := dk_181 0 140 (dk_at dksX0_law_1 1 rfl rfl)
theorem dX0_law_28 : decode cX0_law 28 = .ok (.iload_n 2, 1) := dk_28 (dk_at dksX0_law_1 4 rfl rfl)
theorem dX0_law_29 : decode cX0_law 29 = .ok (.ireturn, 1) := dk_172 (dk_at dksX0_law_1 5 rfl rfl)
abbrev cX0_drift : ByteArray := prog_1_method_30_code
def yX0_drift : MethodName := ⟨RX0, "drift", "(I)I"⟩
def dkwX0_drift_5 : List UInt8 := [182, 0, 222, 132, 2, 1, 167, 255, 171, 42, 180, 0, 21, 180, 0, 106, 172]
abbrev dktX0_drift_5 : List UInt8 := dkwX0_drift_5 ++ []
def dkwX0_drift_4 : List UInt8 := [16, 16, 182, 0, 219, 154, 0, 20, 42, 180, 0, 21, 180, 0, 106, 16, 8, 162, 0, 8, 42, 29]
abbrev dktX0_drift_4 : List UInt8 := dkwX0_drift_4 ++ dktX0_drift_5
def dkwX0_drift_3 : List UInt8 := [54, 4, 42, 29, 21, 4, 182, 0, 208, 153, 0, 10, 42, 29, 21, 4, 182, 0, 212, 42, 180, 0, 21]
abbrev dktX0_drift_3 : List UInt8 := dkwX0_drift_3 ++ dktX0_drift_4
def dkwX0_drift_2 : List UInt8 := [180, 0, 21, 180, 0, 106, 182, 0, 219, 62, 42, 180, 0, 21, 42, 180, 0, 10, 180, 0, 103, 182, 0, 219]
abbrev dktX0_drift_2 : List UInt8 := dkwX0_drift_2 ++ dktX0_drift_3
def dkwX0_drift_1 : List UInt8 := [180, 0, 10, 180, 0, 103, 154, 0, 6, 18, 211, 172, 3, 61, 28, 27, 162, 0, 86, 42, 180, 0, 21, 42]
abbrev dktX0_drift_1 : List UInt8 := dkwX0_drift_1 ++ dktX0_drift_2
def dkwX0_drift_0 : List UInt8 := [27, 4, 16, 99, 184, 0, 61, 154, 0, 6, 18, 65, 172, 42, 180, 0, 21, 180, 0, 106, 153, 0, 13, 42]
abbrev dktX0_drift_0 : List UInt8 := dkwX0_drift_0 ++ dktX0_drift_1
theorem dksX0_drift_0 : cX0_drift.data.toList.drop 0 = dktX0_drift_0 := by decide +kernel
theorem dksX0_drift_1 : cX0_drift.data.toList.drop 24 = dktX0_drift_1 := dk_seg dksX0_drift_0 24 rfl rfl
theorem dksX0_drift_2 : cX0_drift.data.toList.drop 48 = dktX0_drift_2 := dk_seg dksX0_drift_1 24 rfl rfl
theorem dksX0_drift_3 : cX0_drift.data.toList.drop 72 = dktX0_drift_3 := dk_seg dksX0_drift_2 24 rfl rfl
theorem dksX0_drift_4 : cX0_drift.data.toList.drop 95 = dktX0_drift_4 := dk_seg dksX0_drift_3 23 rfl rfl
theorem dksX0_drift_5 : cX0_drift.data.toList.drop 117 = dktX0_drift_5 := dk_seg dksX0_drift_4 22 rfl rfl
theorem dX0_drift_0 : decode cX0_drift 0 = .ok (.iload_n 1, 1) := dk_27 (dk_at dksX0_drift_0 0 rfl rfl)
theorem dX0_drift_1 : decode cX0_drift 1 = .ok (.iconst 1, 1) := dk_4 (dk_at dksX0_drift_0 1 rfl rfl)
theorem dX0_drift_2 : decode cX0_drift 2 = .ok (.bipush 99, 2) := dk_16 99 (dk_at dksX0_drift_0 2 rfl rfl)
theorem dX0_drift_4 : decode cX0_drift 4 = .ok (.invokestatic 61, 3) := dk_184 0 61 (dk_at dksX0_drift_0 4 rfl rfl)
theorem dX0_drift_7 : decode cX0_drift 7 = .ok (.ifCond .ne 6, 3) := dk_154 0 6 (dk_at dksX0_drift_0 7 rfl rfl)
theorem dX0_drift_10 : decode cX0_drift 10 = .ok (.ldc 65, 2) := dk_18 65 (dk_at dksX0_drift_0 10 rfl rfl)
theorem dX0_drift_12 : decode cX0_drift 12 = .ok (.ireturn, 1) := dk_172 (dk_at dksX0_drift_0 12 rfl rfl)
theorem dX0_drift_13 : decode cX0_drift 13 = .ok (.aload_n 0, 1) := dk_42 (dk_at dksX0_drift_0 13 rfl rfl)
theorem dX0_drift_14 : decode cX0_drift 14 = .ok (.getfield 21, 3) := dk_180 0 21 (dk_at dksX0_drift_0 14 rfl rfl)
theorem dX0_drift_17 : decode cX0_drift 17 = .ok (.getfield 106, 3) := dk_180 0 106 (dk_at dksX0_drift_0 17 rfl rfl)
theorem dX0_drift_20 : decode cX0_drift 20 = .ok (.ifCond .eq 13, 3) := dk_153 0 13 (dk_at dksX0_drift_0 20 rfl rfl)
theorem dX0_drift_23 : decode cX0_drift 23 = .ok (.aload_n 0, 1) := dk_42 (dk_at dksX0_drift_0 23 rfl rfl)
theorem dX0_drift_24 : decode cX0_drift 24 = .ok (.getfield 10, 3) := dk_180 0 10 (dk_at dksX0_drift_1 0 rfl rfl)
theorem dX0_drift_27 : decode cX0_drift 27 = .ok (.getfield 103, 3) := dk_180 0 103 (dk_at dksX0_drift_1 3 rfl rfl)
theorem dX0_drift_30 : decode cX0_drift 30 = .ok (.ifCond .ne 6, 3) := dk_154 0 6 (dk_at dksX0_drift_1 6 rfl rfl)
theorem dX0_drift_33 : decode cX0_drift 33 = .ok (.ldc 211, 2) := dk_18 211 (dk_at dksX0_drift_1 9 rfl rfl)
theorem dX0_drift_35 : decode cX0_drift 35 = .ok (.ireturn, 1) := dk_172 (dk_at dksX0_drift_1 11 rfl rfl)
theorem dX0_drift_36 : decode cX0_drift 36 = .ok (.iconst 0, 1) := dk_3 (dk_at dksX0_drift_1 12 rfl rfl)
theorem dX0_drift_37 : decode cX0_drift 37 = .ok (.istore_n 2, 1) := dk_61 (dk_at dksX0_drift_1 13 rfl rfl)
theorem dX0_drift_38 : decode cX0_drift 38 = .ok (.iload_n 2, 1) := dk_28 (dk_at dksX0_drift_1 14 rfl rfl)
theorem dX0_drift_39 : decode cX0_drift 39 = .ok (.iload_n 1, 1) := dk_27 (dk_at dksX0_drift_1 15 rfl rfl)
theorem dX0_drift_40 : decode cX0_drift 40 = .ok (.if_icmp .ge 86, 3) := dk_162 0 86 (dk_at dksX0_drift_1 16 rfl rfl)
theorem dX0_drift_43 : decode cX0_drift 43 = .ok (.aload_n 0, 1) := dk_42 (dk_at dksX0_drift_1 19 rfl rfl)
theorem dX0_drift_44 : decode cX0_drift 44 = .ok (.getfield 21, 3) := dk_180 0 21 (dk_at dksX0_drift_1 20 rfl rfl)
theorem dX0_drift_47 : decode cX0_drift 47 = .ok (.aload_n 0, 1) := dk_42 (dk_at dksX0_drift_1 23 rfl rfl)
theorem dX0_drift_48 : decode cX0_drift 48 = .ok (.getfield 21, 3) := dk_180 0 21 (dk_at dksX0_drift_2 0 rfl rfl)
theorem dX0_drift_51 : decode cX0_drift 51 = .ok (.getfield 106, 3) := dk_180 0 106 (dk_at dksX0_drift_2 3 rfl rfl)
theorem dX0_drift_54 : decode cX0_drift 54 = .ok (.invokevirtual 219, 3) := dk_182 0 219 (dk_at dksX0_drift_2 6 rfl rfl)
theorem dX0_drift_57 : decode cX0_drift 57 = .ok (.istore_n 3, 1) := dk_62 (dk_at dksX0_drift_2 9 rfl rfl)
theorem dX0_drift_58 : decode cX0_drift 58 = .ok (.aload_n 0, 1) := dk_42 (dk_at dksX0_drift_2 10 rfl rfl)
theorem dX0_drift_59 : decode cX0_drift 59 = .ok (.getfield 21, 3) := dk_180 0 21 (dk_at dksX0_drift_2 11 rfl rfl)
theorem dX0_drift_62 : decode cX0_drift 62 = .ok (.aload_n 0, 1) := dk_42 (dk_at dksX0_drift_2 14 rfl rfl)
theorem dX0_drift_63 : decode cX0_drift 63 = .ok (.getfield 10, 3) := dk_180 0 10 (dk_at dksX0_drift_2 15 rfl rfl)
theorem dX0_drift_66 : decode cX0_drift 66 = .ok (.getfield 103, 3) := dk_180 0 103 (dk_at dksX0_drift_2 18 rfl rfl)
theorem dX0_drift_69 : decode cX0_drift 69 = .ok (.invokevirtual 219, 3) := dk_182 0 219 (dk_at dksX0_drift_2 21 rfl rfl)
theorem dX0_drift_72 : decode cX0_drift 72 = .ok (.istore 4, 2) := dk_54 4 (dk_at dksX0_drift_3 0 rfl rfl)
theorem dX0_drift_74 : decode cX0_drift 74 = .ok (.aload_n 0, 1) := dk_42 (dk_at dksX0_drift_3 2 rfl rfl)
theorem dX0_drift_75 : decode cX0_drift 75 = .ok (.iload_n 3, 1) := dk_29 (dk_at dksX0_drift_3 3 rfl rfl)
theorem dX0_drift_76 : decode cX0_drift 76 = .ok (.iload 4, 2) := dk_21 4 (dk_at dksX0_drift_3 4 rfl rfl)
theorem dX0_drift_78 : decode cX0_drift 78 = .ok (.invokevirtual 208, 3) := dk_182 0 208 (dk_at dksX0_drift_3 6 rfl rfl)
theorem dX0_drift_81 : decode cX0_drift 81 = .ok (.ifCond .eq 10, 3) := dk_153 0 10 (dk_at dksX0_drift_3 9 rfl rfl)
theorem dX0_drift_84 : decode cX0_drift 84 = .ok (.aload_n 0, 1) := dk_42 (dk_at dksX0_drift_3 12 rfl rfl)
theorem dX0_drift_85 : decode cX0_drift 85 = .ok (.iload_n 3, 1) := dk_29 (dk_at dksX0_drift_3 13 rfl rfl)
theorem dX0_drift_86 : decode cX0_drift 86 = .ok (.iload 4, 2) := dk_21 4 (dk_at dksX0_drift_3 14 rfl rfl)
theorem dX0_drift_88 : decode cX0_drift 88 = .ok (.invokevirtual 212, 3) := dk_182 0 212 (dk_at dksX0_drift_3 16 rfl rfl)
theorem dX0_drift_91 : decode cX0_drift 91 = .ok (.aload_n 0, 1) := dk_42 (dk_at dksX0_drift_3 19 rfl rfl)
theorem dX0_drift_92 : decode cX0_drift 92 = .ok (.getfield 21, 3) := dk_180 0 21 (dk_at dksX0_drift_3 20 rfl rfl)
theorem dX0_drift_95 : decode cX0_drift 95 = .ok (.bipush 16, 2) := dk_16 16 (dk_at dksX0_drift_4 0 rfl rfl)
theorem dX0_drift_97 : decode cX0_drift 97 = .ok (.invokevirtual 219, 3) := dk_182 0 219 (dk_at dksX0_drift_4 2 rfl rfl)
theorem dX0_drift_100 : decode cX0_drift 100 = .ok (.ifCond .ne 20, 3) := dk_154 0 20 (dk_at dksX0_drift_4 5 rfl rfl)
theorem dX0_drift_103 : decode cX0_drift 103 = .ok (.aload_n 0, 1) := dk_42 (dk_at dksX0_drift_4 8 rfl rfl)
theorem dX0_drift_104 : decode cX0_drift 104 = .ok (.getfield 21, 3) := dk_180 0 21 (dk_at dksX0_drift_4 9 rfl rfl)
theorem dX0_drift_107 : decode cX0_drift 107 = .ok (.getfield 106, 3) := dk_180 0 106 (dk_at dksX0_drift_4 12 rfl rfl)
theorem dX0_drift_110 : decode cX0_drift 110 = .ok (.bipush 8, 2) := dk_16 8 (dk_at dksX0_drift_4 15 rfl rfl)
theorem dX0_drift_112 : decode cX0_drift 112 = .ok (.if_icmp .ge 8, 3) := dk_162 0 8 (dk_at dksX0_drift_4 17 rfl rfl)
theorem dX0_drift_115 : decode cX0_drift 115 = .ok (.aload_n 0, 1) := dk_42 (dk_at dksX0_drift_4 20 rfl rfl)
theorem dX0_drift_116 : decode cX0_drift 116 = .ok (.iload_n 3, 1) := dk_29 (dk_at dksX0_drift_4 21 rfl rfl)
theorem dX0_drift_117 : decode cX0_drift 117 = .ok (.invokevirtual 222, 3) := dk_182 0 222 (dk_at dksX0_drift_5 0 rfl rfl)
theorem dX0_drift_120 : decode cX0_drift 120 = .ok (.iinc 2 1, 3) := dk_132 2 1 (dk_at dksX0_drift_5 3 rfl rfl)
theorem dX0_drift_123 : decode cX0_drift 123 = .ok (.goto (-85), 3) := dk_167 255 171 (dk_at dksX0_drift_5 6 rfl rfl)
theorem dX0_drift_126 : decode cX0_drift 126 = .ok (.aload_n 0, 1) := dk_42 (dk_at dksX0_drift_5 9 rfl rfl)
theorem dX0_drift_127 : decode cX0_drift 127 = .ok (.getfield 21, 3) := dk_180 0 21 (dk_at dksX0_drift_5 10 rfl rfl)
theorem dX0_drift_130 : decode cX0_drift 130 = .ok (.getfield 106, 3) := dk_180 0 106 (dk_at dksX0_drift_5 13 rfl rfl)
theorem dX0_drift_133 : decode cX0_drift 133 = .ok (.ireturn, 1) := dk_172 (dk_at dksX0_drift_5 16 rfl rfl)
abbrev cX0_beget : ByteArray := prog_1_method_29_code
def yX0_beget : MethodName := ⟨RX0, "beget", "(I)V"⟩
def dkwX0_beget_3 : List UInt8 := [180, 0, 21, 180, 0, 169, 28, 3, 79, 42, 180, 0, 21, 89, 180, 0, 106, 4, 96, 181, 0, 106, 177]
abbrev dktX0_beget_3 : List UInt8 := dkwX0_beget_3 ++ []
def dkwX0_beget_2 : List UInt8 := [180, 0, 21, 180, 0, 166, 27, 46, 167, 0, 14, 42, 180, 0, 21, 16, 24, 182, 0, 219, 4, 96, 79, 42]
abbrev dktX0_beget_2 : List UInt8 := dkwX0_beget_2 ++ dktX0_beget_3
def dkwX0_beget_1 : List UInt8 := [46, 79, 42, 180, 0, 21, 180, 0, 166, 28, 42, 180, 0, 21, 5, 182, 0, 219, 154, 0, 15, 42]
abbrev dktX0_beget_1 : List UInt8 := dkwX0_beget_1 ++ dktX0_beget_2
def dkwX0_beget_0 : List UInt8 := [42, 180, 0, 21, 180, 0, 106, 61, 42, 180, 0, 21, 180, 0, 164, 28, 42, 180, 0, 21, 180, 0, 164, 27]
abbrev dktX0_beget_0 : List UInt8 := dkwX0_beget_0 ++ dktX0_beget_1
theorem dksX0_beget_0 : cX0_beget.data.toList.drop 0 = dktX0_beget_0 := by decide +kernel
theorem dksX0_beget_1 : cX0_beget.data.toList.drop 24 = dktX0_beget_1 := dk_seg dksX0_beget_0 24 rfl rfl
theorem dksX0_beget_2 : cX0_beget.data.toList.drop 46 = dktX0_beget_2 := dk_seg dksX0_beget_1 22 rfl rfl
theorem dksX0_beget_3 : cX0_beget.data.toList.drop 70 = dktX0_beget_3 := dk_seg dksX0_beget_2 24 rfl rfl
theorem dX0_beget_0 : decode cX0_beget 0 = .ok (.aload_n 0, 1) := dk_42 (dk_at dksX0_beget_0 0 rfl rfl)
theorem dX0_beget_1 : decode cX0_beget 1 = .ok (.getfield 21, 3) := dk_180 0 21 (dk_at dksX0_beget_0 1 rfl rfl)
theorem dX0_beget_4 : decode cX0_beget 4 = .ok (.getfield 106, 3) := dk_180 0 106 (dk_at dksX0_beget_0 4 rfl rfl)
theorem dX0_beget_7 : decode cX0_beget 7 = .ok (.istore_n 2, 1) := dk_61 (dk_at dksX0_beget_0 7 rfl rfl)
theorem dX0_beget_8 : decode cX0_beget 8 = .ok (.aload_n 0, 1) := dk_42 (dk_at dksX0_beget_0 8 rfl rfl)
theorem dX0_beget_9 : decode cX0_beget 9 = .ok (.getfield 21, 3) := dk_180 0 21 (dk_at dksX0_beget_0 9 rfl rfl)
theorem dX0_beget_12 : decode cX0_beget 12 = .ok (.getfield 164, 3) := dk_180 0 164 (dk_at dksX0_beget_0 12 rfl rfl)
theorem dX0_beget_15 : decode cX0_beget 15 = .ok (.iload_n 2, 1) := dk_28 (dk_at dksX0_beget_0 15 rfl rfl)
theorem dX0_beget_16 : decode cX0_beget 16 = .ok (.aload_n 0, 1) := dk_42 (dk_at dksX0_beget_0 16 rfl rfl)
theorem dX0_beget_17 : decode cX0_beget 17 = .ok (.getfield 21, 3) := dk_180 0 21 (dk_at dksX0_beget_0 17 rfl rfl)
theorem dX0_beget_20 : decode cX0_beget 20 = .ok (.getfield 164, 3) := dk_180 0 164 (dk_at dksX0_beget_0 20 rfl rfl)
theorem dX0_beget_23 : decode cX0_beget 23 = .ok (.iload_n 1, 1) := dk_27 (dk_at dksX0_beget_0 23 rfl rfl)
theorem dX0_beget_24 : decode cX0_beget 24 = .ok (.iaload, 1) := dk_46 (dk_at dksX0_beget_1 0 rfl rfl)
theorem dX0_beget_25 : decode cX0_beget 25 = .ok (.iastore, 1) := dk_79 (dk_at dksX0_beget_1 1 rfl rfl)
theorem dX0_beget_26 : decode cX0_beget 26 = .ok (.aload_n 0, 1) := dk_42 (dk_at dksX0_beget_1 2 rfl rfl)
theorem dX0_beget_27 : decode cX0_beget 27 = .ok (.getfield 21, 3) := dk_180 0 21 (dk_at dksX0_beget_1 3 rfl rfl)
theorem dX0_beget_30 : decode cX0_beget 30 = .ok (.getfield 166, 3) := dk_180 0 166 (dk_at dksX0_beget_1 6 rfl rfl)
theorem dX0_beget_33 : decode cX0_beget 33 = .ok (.iload_n 2, 1) := dk_28 (dk_at dksX0_beget_1 9 rfl rfl)
theorem dX0_beget_34 : decode cX0_beget 34 = .ok (.aload_n 0, 1) := dk_42 (dk_at dksX0_beget_1 10 rfl rfl)
theorem dX0_beget_35 : decode cX0_beget 35 = .ok (.getfield 21, 3) := dk_180 0 21 (dk_at dksX0_beget_1 11 rfl rfl)
theorem dX0_beget_38 : decode cX0_beget 38 = .ok (.iconst 2, 1) := dk_5 (dk_at dksX0_beget_1 14 rfl rfl)
theorem dX0_beget_39 : decode cX0_beget 39 = .ok (.invokevirtual 219, 3) := dk_182 0 219 (dk_at dksX0_beget_1 15 rfl rfl)
theorem dX0_beget_42 : decode cX0_beget 42 = .ok (.ifCond .ne 15, 3) := dk_154 0 15 (dk_at dksX0_beget_1 18 rfl rfl)
theorem dX0_beget_45 : decode cX0_beget 45 = .ok (.aload_n 0, 1) := dk_42 (dk_at dksX0_beget_1 21 rfl rfl)
theorem dX0_beget_46 : decode cX0_beget 46 = .ok (.getfield 21, 3) := dk_180 0 21 (dk_at dksX0_beget_2 0 rfl rfl)
theorem dX0_beget_49 : decode cX0_beget 49 = .ok (.getfield 166, 3) := dk_180 0 166 (dk_at dksX0_beget_2 3 rfl rfl)
theorem dX0_beget_52 : decode cX0_beget 52 = .ok (.iload_n 1, 1) := dk_27 (dk_at dksX0_beget_2 6 rfl rfl)
theorem dX0_beget_53 : decode cX0_beget 53 = .ok (.iaload, 1) := dk_46 (dk_at dksX0_beget_2 7 rfl rfl)
theorem dX0_beget_54 : decode cX0_beget 54 = .ok (.goto 14, 3) := dk_167 0 14 (dk_at dksX0_beget_2 8 rfl rfl)
theorem dX0_beget_57 : decode cX0_beget 57 = .ok (.aload_n 0, 1) := dk_42 (dk_at dksX0_beget_2 11 rfl rfl)
theorem dX0_beget_58 : decode cX0_beget 58 = .ok (.getfield 21, 3) := dk_180 0 21 (dk_at dksX0_beget_2 12 rfl rfl)
theorem dX0_beget_61 : decode cX0_beget 61 = .ok (.bipush 24, 2) := dk_16 24 (dk_at dksX0_beget_2 15 rfl rfl)
theorem dX0_beget_63 : decode cX0_beget 63 = .ok (.invokevirtual 219, 3) := dk_182 0 219 (dk_at dksX0_beget_2 17 rfl rfl)
theorem dX0_beget_66 : decode cX0_beget 66 = .ok (.iconst 1, 1) := dk_4 (dk_at dksX0_beget_2 20 rfl rfl)
theorem dX0_beget_67 : decode cX0_beget 67 = .ok (.iadd, 1) := dk_96 (dk_at dksX0_beget_2 21 rfl rfl)
theorem dX0_beget_68 : decode cX0_beget 68 = .ok (.iastore, 1) := dk_79 (dk_at dksX0_beget_2 22 rfl rfl)
theorem dX0_beget_69 : decode cX0_beget 69 = .ok (.aload_n 0, 1) := dk_42 (dk_at dksX0_beget_2 23 rfl rfl)
theorem dX0_beget_70 : decode cX0_beget 70 = .ok (.getfield 21, 3) := dk_180 0 21 (dk_at dksX0_beget_3 0 rfl rfl)
theorem dX0_beget_73 : decode cX0_beget 73 = .ok (.getfield 169, 3) := dk_180 0 169 (dk_at dksX0_beget_3 3 rfl rfl)
theorem dX0_beget_76 : decode cX0_beget 76 = .ok (.iload_n 2, 1) := dk_28 (dk_at dksX0_beget_3 6 rfl rfl)
theorem dX0_beget_77 : decode cX0_beget 77 = .ok (.iconst 0, 1) := dk_3 (dk_at dksX0_beget_3 7 rfl rfl)
theorem dX0_beget_78 : decode cX0_beget 78 = .ok (.iastore, 1) := dk_79 (dk_at dksX0_beget_3 8 rfl rfl)
theorem dX0_beget_79 : decode cX0_beget 79 = .ok (.aload_n 0, 1) := dk_42 (dk_at dksX0_beget_3 9 rfl rfl)
theorem dX0_beget_80 : decode cX0_beget 80 = .ok (.getfield 21, 3) := dk_180 0 21 (dk_at dksX0_beget_3 10 rfl rfl)
theorem dX0_beget_83 : decode cX0_beget 83 = .ok (.dup, 1) := dk_89 (dk_at dksX0_beget_3 13 rfl rfl)
theorem dX0_beget_84 : decode cX0_beget 84 = .ok (.getfield 106, 3) := dk_180 0 106 (dk_at dksX0_beget_3 14 rfl rfl)
theorem dX0_beget_87 : decode cX0_beget 87 = .ok (.iconst 1, 1) := dk_4 (dk_at dksX0_beget_3 17 rfl rfl)
theorem dX0_beget_88 : decode cX0_beget 88 = .ok (.iadd, 1) := dk_96 (dk_at dksX0_beget_3 18 rfl rfl)
theorem dX0_beget_89 : decode cX0_beget 89 = .ok (.putfield 106, 3) := dk_181 0 106 (dk_at dksX0_beget_3 19 rfl rfl)
theorem dX0_beget_92 : decode cX0_beget 92 = .ok (.return_, 1) := dk_177 (dk_at dksX0_beget_3 22 rfl rfl)
abbrev cX0_reach : ByteArray := prog_1_method_31_code
def yX0_reach : MethodName := ⟨RX0, "reach", "(II)I"⟩
def dkwX0_reach_1 : List UInt8 := [3, 182, 0, 172, 167, 0, 5, 18, 65, 172]
abbrev dktX0_reach_1 : List UInt8 := dkwX0_reach_1 ++ []
def dkwX0_reach_0 : List UInt8 := [42, 27, 182, 0, 226, 154, 0, 6, 18, 183, 172, 28, 4, 16, 24, 184, 0, 61, 153, 0, 13, 42, 27, 28]
abbrev dktX0_reach_0 : List UInt8 := dkwX0_reach_0 ++ dktX0_reach_1
theorem dksX0_reach_0 : cX0_reach.data.toList.drop 0 = dktX0_reach_0 := by decide +kernel
theorem dksX0_reach_1 : cX0_reach.data.toList.drop 24 = dktX0_reach_1 := dk_seg dksX0_reach_0 24 rfl rfl
theorem dX0_reach_0 : decode cX0_reach 0 = .ok (.aload_n 0, 1) := dk_42 (dk_at dksX0_reach_0 0 rfl rfl)
theorem dX0_reach_1 : decode cX0_reach 1 = .ok (.iload_n 1, 1) := dk_27 (dk_at dksX0_reach_0 1 rfl rfl)
theorem dX0_reach_2 : decode cX0_reach 2 = .ok (.invokevirtual 226, 3) := dk_182 0 226 (dk_at dksX0_reach_0 2 rfl rfl)
theorem dX0_reach_5 : decode cX0_reach 5 = .ok (.ifCond .ne 6, 3) := dk_154 0 6 (dk_at dksX0_reach_0 5 rfl rfl)
theorem dX0_reach_8 : decode cX0_reach 8 = .ok (.ldc 183, 2) := dk_18 183 (dk_at dksX0_reach_0 8 rfl rfl)
theorem dX0_reach_10 : decode cX0_reach 10 = .ok (.ireturn, 1) := dk_172 (dk_at dksX0_reach_0 10 rfl rfl)
theorem dX0_reach_11 : decode cX0_reach 11 = .ok (.iload_n 2, 1) := dk_28 (dk_at dksX0_reach_0 11 rfl rfl)
theorem dX0_reach_12 : decode cX0_reach 12 = .ok (.iconst 1, 1) := dk_4 (dk_at dksX0_reach_0 12 rfl rfl)
theorem dX0_reach_13 : decode cX0_reach 13 = .ok (.bipush 24, 2) := dk_16 24 (dk_at dksX0_reach_0 13 rfl rfl)
theorem dX0_reach_15 : decode cX0_reach 15 = .ok (.invokestatic 61, 3) := dk_184 0 61 (dk_at dksX0_reach_0 15 rfl rfl)
theorem dX0_reach_18 : decode cX0_reach 18 = .ok (.ifCond .eq 13, 3) := dk_153 0 13 (dk_at dksX0_reach_0 18 rfl rfl)
theorem dX0_reach_21 : decode cX0_reach 21 = .ok (.aload_n 0, 1) := dk_42 (dk_at dksX0_reach_0 21 rfl rfl)
theorem dX0_reach_22 : decode cX0_reach 22 = .ok (.iload_n 1, 1) := dk_27 (dk_at dksX0_reach_0 22 rfl rfl)
theorem dX0_reach_23 : decode cX0_reach 23 = .ok (.iload_n 2, 1) := dk_28 (dk_at dksX0_reach_0 23 rfl rfl)
theorem dX0_reach_24 : decode cX0_reach 24 = .ok (.iconst 0, 1) := dk_3 (dk_at dksX0_reach_1 0 rfl rfl)
theorem dX0_reach_25 : decode cX0_reach 25 = .ok (.invokevirtual 172, 3) := dk_182 0 172 (dk_at dksX0_reach_1 1 rfl rfl)
theorem dX0_reach_28 : decode cX0_reach 28 = .ok (.goto 5, 3) := dk_167 0 5 (dk_at dksX0_reach_1 4 rfl rfl)
theorem dX0_reach_31 : decode cX0_reach 31 = .ok (.ldc 65, 2) := dk_18 65 (dk_at dksX0_reach_1 7 rfl rfl)
theorem dX0_reach_33 : decode cX0_reach 33 = .ok (.ireturn, 1) := dk_172 (dk_at dksX0_reach_1 9 rfl rfl)
abbrev cX0_isPlace : ByteArray := prog_1_method_8_code
def yX0_isPlace : MethodName := ⟨RX0, "isPlace", "(I)Z"⟩
def dkwX0_isPlace_0 : List UInt8 := [27, 3, 42, 180, 0, 10, 180, 0, 100, 4, 100, 184, 0, 61, 172]
abbrev dktX0_isPlace_0 : List UInt8 := dkwX0_isPlace_0 ++ []
theorem dksX0_isPlace_0 : cX0_isPlace.data.toList.drop 0 = dktX0_isPlace_0 := by decide +kernel
theorem dX0_isPlace_0 : decode cX0_isPlace 0 = .ok (.iload_n 1, 1) := dk_27 (dk_at dksX0_isPlace_0 0 rfl rfl)
theorem dX0_isPlace_1 : decode cX0_isPlace 1 = .ok (.iconst 0, 1) := dk_3 (dk_at dksX0_isPlace_0 1 rfl rfl)
theorem dX0_isPlace_2 : decode cX0_isPlace 2 = .ok (.aload_n 0, 1) := dk_42 (dk_at dksX0_isPlace_0 2 rfl rfl)
theorem dX0_isPlace_3 : decode cX0_isPlace 3 = .ok (.getfield 10, 3) := dk_180 0 10 (dk_at dksX0_isPlace_0 3 rfl rfl)
theorem dX0_isPlace_6 : decode cX0_isPlace 6 = .ok (.getfield 100, 3) := dk_180 0 100 (dk_at dksX0_isPlace_0 6 rfl rfl)
theorem dX0_isPlace_9 : decode cX0_isPlace 9 = .ok (.iconst 1, 1) := dk_4 (dk_at dksX0_isPlace_0 9 rfl rfl)
theorem dX0_isPlace_10 : decode cX0_isPlace 10 = .ok (.isub, 1) := dk_100 (dk_at dksX0_isPlace_0 10 rfl rfl)
theorem dX0_isPlace_11 : decode cX0_isPlace 11 = .ok (.invokestatic 61, 3) := dk_184 0 61 (dk_at dksX0_isPlace_0 11 rfl rfl)
theorem dX0_isPlace_14 : decode cX0_isPlace 14 = .ok (.ireturn, 1) := dk_172 (dk_at dksX0_isPlace_0 14 rfl rfl)
abbrev cX0_guests : ByteArray := prog_1_method_32_code
def yX0_guests : MethodName := ⟨RX0, "guests", "(I)I"⟩
def dkwX0_guests_2 : List UInt8 := [184, 0, 156, 153, 0, 9, 4, 29, 120, 167, 0, 4, 3, 128, 61, 132, 3, 1, 167, 255, 207, 28, 172]
abbrev dktX0_guests_2 : List UInt8 := dkwX0_guests_2 ++ []
def dkwX0_guests_1 : List UInt8 := [162, 0, 44, 28, 29, 27, 159, 0, 29, 42, 29, 182, 0, 193, 42, 180, 0, 21, 180, 0, 164, 27, 46]
abbrev dktX0_guests_1 : List UInt8 := dkwX0_guests_1 ++ dktX0_guests_2
def dkwX0_guests_0 : List UInt8 := [42, 27, 182, 0, 190, 154, 0, 6, 18, 183, 172, 3, 61, 3, 62, 29, 42, 180, 0, 21, 180, 0, 106]
abbrev dktX0_guests_0 : List UInt8 := dkwX0_guests_0 ++ dktX0_guests_1
theorem dksX0_guests_0 : cX0_guests.data.toList.drop 0 = dktX0_guests_0 := by decide +kernel
theorem dksX0_guests_1 : cX0_guests.data.toList.drop 23 = dktX0_guests_1 := dk_seg dksX0_guests_0 23 rfl rfl
theorem dksX0_guests_2 : cX0_guests.data.toList.drop 46 = dktX0_guests_2 := dk_seg dksX0_guests_1 23 rfl rfl
theorem dX0_guests_0 : decode cX0_guests 0 = .ok (.aload_n 0, 1) := dk_42 (dk_at dksX0_guests_0 0 rfl rfl)
theorem dX0_guests_1 : decode cX0_guests 1 = .ok (.iload_n 1, 1) := dk_27 (dk_at dksX0_guests_0 1 rfl rfl)
theorem dX0_guests_2 : decode cX0_guests 2 = .ok (.invokevirtual 190, 3) := dk_182 0 190 (dk_at dksX0_guests_0 2 rfl rfl)
theorem dX0_guests_5 : decode cX0_guests 5 = .ok (.ifCond .ne 6, 3) := dk_154 0 6 (dk_at dksX0_guests_0 5 rfl rfl)
theorem dX0_guests_8 : decode cX0_guests 8 = .ok (.ldc 183, 2) := dk_18 183 (dk_at dksX0_guests_0 8 rfl rfl)
theorem dX0_guests_10 : decode cX0_guests 10 = .ok (.ireturn, 1) := dk_172 (dk_at dksX0_guests_0 10 rfl rfl)
theorem dX0_guests_11 : decode cX0_guests 11 = .ok (.iconst 0, 1) := dk_3 (dk_at dksX0_guests_0 11 rfl rfl)
theorem dX0_guests_12 : decode cX0_guests 12 = .ok (.istore_n 2, 1) := dk_61 (dk_at dksX0_guests_0 12 rfl rfl)
theorem dX0_guests_13 : decode cX0_guests 13 = .ok (.iconst 0, 1) := dk_3 (dk_at dksX0_guests_0 13 rfl rfl)
theorem dX0_guests_14 : decode cX0_guests 14 = .ok (.istore_n 3, 1) := dk_62 (dk_at dksX0_guests_0 14 rfl rfl)
theorem dX0_guests_15 : decode cX0_guests 15 = .ok (.iload_n 3, 1) := dk_29 (dk_at dksX0_guests_0 15 rfl rfl)
theorem dX0_guests_16 : decode cX0_guests 16 = .ok (.aload_n 0, 1) := dk_42 (dk_at dksX0_guests_0 16 rfl rfl)
theorem dX0_guests_17 : decode cX0_guests 17 = .ok (.getfield 21, 3) := dk_180 0 21 (dk_at dksX0_guests_0 17 rfl rfl)
theorem dX0_guests_20 : decode cX0_guests 20 = .ok (.getfield 106, 3) := dk_180 0 106 (dk_at dksX0_guests_0 20 rfl rfl)
theorem dX0_guests_23 : decode cX0_guests 23 = .ok (.if_icmp .ge 44, 3) := dk_162 0 44 (dk_at dksX0_guests_1 0 rfl rfl)
theorem dX0_guests_26 : decode cX0_guests 26 = .ok (.iload_n 2, 1) := dk_28 (dk_at dksX0_guests_1 3 rfl rfl)
theorem dX0_guests_27 : decode cX0_guests 27 = .ok (.iload_n 3, 1) := dk_29 (dk_at dksX0_guests_1 4 rfl rfl)
theorem dX0_guests_28 : decode cX0_guests 28 = .ok (.iload_n 1, 1) := dk_27 (dk_at dksX0_guests_1 5 rfl rfl)
theorem dX0_guests_29 : decode cX0_guests 29 = .ok (.if_icmp .eq 29, 3) := dk_159 0 29 (dk_at dksX0_guests_1 6 rfl rfl)
theorem dX0_guests_32 : decode cX0_guests 32 = .ok (.aload_n 0, 1) := dk_42 (dk_at dksX0_guests_1 9 rfl rfl)
theorem dX0_guests_33 : decode cX0_guests 33 = .ok (.iload_n 3, 1) := dk_29 (dk_at dksX0_guests_1 10 rfl rfl)
theorem dX0_guests_34 : decode cX0_guests 34 = .ok (.invokevirtual 193, 3) := dk_182 0 193 (dk_at dksX0_guests_1 11 rfl rfl)
theorem dX0_guests_37 : decode cX0_guests 37 = .ok (.aload_n 0, 1) := dk_42 (dk_at dksX0_guests_1 14 rfl rfl)
theorem dX0_guests_38 : decode cX0_guests 38 = .ok (.getfield 21, 3) := dk_180 0 21 (dk_at dksX0_guests_1 15 rfl rfl)
theorem dX0_guests_41 : decode cX0_guests 41 = .ok (.getfield 164, 3) := dk_180 0 164 (dk_at dksX0_guests_1 18 rfl rfl)
theorem dX0_guests_44 : decode cX0_guests 44 = .ok (.iload_n 1, 1) := dk_27 (dk_at dksX0_guests_1 21 rfl rfl)
theorem dX0_guests_45 : decode cX0_guests 45 = .ok (.iaload, 1) := dk_46 (dk_at dksX0_guests_1 22 rfl rfl)
theorem dX0_guests_46 : decode cX0_guests 46 = .ok (.invokestatic 156, 3) := dk_184 0 156 (dk_at dksX0_guests_2 0 rfl rfl)
theorem dX0_guests_49 : decode cX0_guests 49 = .ok (.ifCond .eq 9, 3) := dk_153 0 9 (dk_at dksX0_guests_2 3 rfl rfl)
theorem dX0_guests_52 : decode cX0_guests 52 = .ok (.iconst 1, 1) := dk_4 (dk_at dksX0_guests_2 6 rfl rfl)
theorem dX0_guests_53 : decode cX0_guests 53 = .ok (.iload_n 3, 1) := dk_29 (dk_at dksX0_guests_2 7 rfl rfl)
theorem dX0_guests_54 : decode cX0_guests 54 = .ok (.ishl, 1) := dk_120 (dk_at dksX0_guests_2 8 rfl rfl)
theorem dX0_guests_55 : decode cX0_guests 55 = .ok (.goto 4, 3) := dk_167 0 4 (dk_at dksX0_guests_2 9 rfl rfl)
theorem dX0_guests_58 : decode cX0_guests 58 = .ok (.iconst 0, 1) := dk_3 (dk_at dksX0_guests_2 12 rfl rfl)
theorem dX0_guests_59 : decode cX0_guests 59 = .ok (.ior, 1) := dk_128 (dk_at dksX0_guests_2 13 rfl rfl)
theorem dX0_guests_60 : decode cX0_guests 60 = .ok (.istore_n 2, 1) := dk_61 (dk_at dksX0_guests_2 14 rfl rfl)
theorem dX0_guests_61 : decode cX0_guests 61 = .ok (.iinc 3 1, 3) := dk_132 3 1 (dk_at dksX0_guests_2 15 rfl rfl)
theorem dX0_guests_64 : decode cX0_guests 64 = .ok (.goto (-49), 3) := dk_167 255 207 (dk_at dksX0_guests_2 18 rfl rfl)
theorem dX0_guests_67 : decode cX0_guests 67 = .ok (.iload_n 2, 1) := dk_28 (dk_at dksX0_guests_2 21 rfl rfl)
theorem dX0_guests_68 : decode cX0_guests 68 = .ok (.ireturn, 1) := dk_172 (dk_at dksX0_guests_2 22 rfl rfl)
abbrev cX0_wish : ByteArray := prog_1_method_36_code
def yX0_wish : MethodName := ⟨RX0, "wish", "(II)I"⟩
def dkwX0_wish_1 : List UInt8 := [62, 29, 18, 229, 163, 0, 16, 42, 29, 28, 182, 0, 239, 153, 0, 7, 29, 167, 0, 4, 2, 172]
abbrev dktX0_wish_1 : List UInt8 := dkwX0_wish_1 ++ []
def dkwX0_wish_0 : List UInt8 := [42, 27, 182, 0, 233, 153, 0, 11, 42, 28, 182, 0, 233, 154, 0, 6, 18, 183, 172, 42, 27, 182, 0, 236]
abbrev dktX0_wish_0 : List UInt8 := dkwX0_wish_0 ++ dktX0_wish_1
theorem dksX0_wish_0 : cX0_wish.data.toList.drop 0 = dktX0_wish_0 := by decide +kernel
theorem dksX0_wish_1 : cX0_wish.data.toList.drop 24 = dktX0_wish_1 := dk_seg dksX0_wish_0 24 rfl rfl
theorem dX0_wish_0 : decode cX0_wish 0 = .ok (.aload_n 0, 1) := dk_42 (dk_at dksX0_wish_0 0 rfl rfl)
theorem dX0_wish_1 : decode cX0_wish 1 = .ok (.iload_n 1, 1) := dk_27 (dk_at dksX0_wish_0 1 rfl rfl)
theorem dX0_wish_2 : decode cX0_wish 2 = .ok (.invokevirtual 233, 3) := dk_182 0 233 (dk_at dksX0_wish_0 2 rfl rfl)
theorem dX0_wish_5 : decode cX0_wish 5 = .ok (.ifCond .eq 11, 3) := dk_153 0 11 (dk_at dksX0_wish_0 5 rfl rfl)
theorem dX0_wish_8 : decode cX0_wish 8 = .ok (.aload_n 0, 1) := dk_42 (dk_at dksX0_wish_0 8 rfl rfl)
theorem dX0_wish_9 : decode cX0_wish 9 = .ok (.iload_n 2, 1) := dk_28 (dk_at dksX0_wish_0 9 rfl rfl)
theorem dX0_wish_10 : decode cX0_wish 10 = .ok (.invokevirtual 233, 3) := dk_182 0 233 (dk_at dksX0_wish_0 10 rfl rfl)
theorem dX0_wish_13 : decode cX0_wish 13 = .ok (.ifCond .ne 6, 3) := dk_154 0 6 (dk_at dksX0_wish_0 13 rfl rfl)
theorem dX0_wish_16 : decode cX0_wish 16 = .ok (.ldc 183, 2) := dk_18 183 (dk_at dksX0_wish_0 16 rfl rfl)
theorem dX0_wish_18 : decode cX0_wish 18 = .ok (.ireturn, 1) := dk_172 (dk_at dksX0_wish_0 18 rfl rfl)
theorem dX0_wish_19 : decode cX0_wish 19 = .ok (.aload_n 0, 1) := dk_42 (dk_at dksX0_wish_0 19 rfl rfl)
theorem dX0_wish_20 : decode cX0_wish 20 = .ok (.iload_n 1, 1) := dk_27 (dk_at dksX0_wish_0 20 rfl rfl)
theorem dX0_wish_21 : decode cX0_wish 21 = .ok (.invokevirtual 236, 3) := dk_182 0 236 (dk_at dksX0_wish_0 21 rfl rfl)
theorem dX0_wish_24 : decode cX0_wish 24 = .ok (.istore_n 3, 1) := dk_62 (dk_at dksX0_wish_1 0 rfl rfl)
theorem dX0_wish_25 : decode cX0_wish 25 = .ok (.iload_n 3, 1) := dk_29 (dk_at dksX0_wish_1 1 rfl rfl)
theorem dX0_wish_26 : decode cX0_wish 26 = .ok (.ldc 229, 2) := dk_18 229 (dk_at dksX0_wish_1 2 rfl rfl)
theorem dX0_wish_28 : decode cX0_wish 28 = .ok (.if_icmp .gt 16, 3) := dk_163 0 16 (dk_at dksX0_wish_1 4 rfl rfl)
theorem dX0_wish_31 : decode cX0_wish 31 = .ok (.aload_n 0, 1) := dk_42 (dk_at dksX0_wish_1 7 rfl rfl)
theorem dX0_wish_32 : decode cX0_wish 32 = .ok (.iload_n 3, 1) := dk_29 (dk_at dksX0_wish_1 8 rfl rfl)
theorem dX0_wish_33 : decode cX0_wish 33 = .ok (.iload_n 2, 1) := dk_28 (dk_at dksX0_wish_1 9 rfl rfl)
theorem dX0_wish_34 : decode cX0_wish 34 = .ok (.invokevirtual 239, 3) := dk_182 0 239 (dk_at dksX0_wish_1 10 rfl rfl)
theorem dX0_wish_37 : decode cX0_wish 37 = .ok (.ifCond .eq 7, 3) := dk_153 0 7 (dk_at dksX0_wish_1 13 rfl rfl)
theorem dX0_wish_40 : decode cX0_wish 40 = .ok (.iload_n 3, 1) := dk_29 (dk_at dksX0_wish_1 16 rfl rfl)
theorem dX0_wish_41 : decode cX0_wish 41 = .ok (.goto 4, 3) := dk_167 0 4 (dk_at dksX0_wish_1 17 rfl rfl)
theorem dX0_wish_44 : decode cX0_wish 44 = .ok (.iconst (-1), 1) := dk_2 (dk_at dksX0_wish_1 20 rfl rfl)
theorem dX0_wish_45 : decode cX0_wish 45 = .ok (.ireturn, 1) := dk_172 (dk_at dksX0_wish_1 21 rfl rfl)
abbrev cX0_isSet : ByteArray := prog_1_method_33_code
def yX0_isSet : MethodName := ⟨RX0, "isSet", "(I)Z"⟩
def dkwX0_isSet_0 : List UInt8 := [27, 3, 4, 42, 180, 0, 21, 180, 0, 106, 120, 4, 100, 184, 0, 61, 172]
abbrev dktX0_isSet_0 : List UInt8 := dkwX0_isSet_0 ++ []
theorem dksX0_isSet_0 : cX0_isSet.data.toList.drop 0 = dktX0_isSet_0 := by decide +kernel
theorem dX0_isSet_0 : decode cX0_isSet 0 = .ok (.iload_n 1, 1) := dk_27 (dk_at dksX0_isSet_0 0 rfl rfl)
theorem dX0_isSet_1 : decode cX0_isSet 1 = .ok (.iconst 0, 1) := dk_3 (dk_at dksX0_isSet_0 1 rfl rfl)
theorem dX0_isSet_2 : decode cX0_isSet 2 = .ok (.iconst 1, 1) := dk_4 (dk_at dksX0_isSet_0 2 rfl rfl)
theorem dX0_isSet_3 : decode cX0_isSet 3 = .ok (.aload_n 0, 1) := dk_42 (dk_at dksX0_isSet_0 3 rfl rfl)
theorem dX0_isSet_4 : decode cX0_isSet 4 = .ok (.getfield 21, 3) := dk_180 0 21 (dk_at dksX0_isSet_0 4 rfl rfl)
theorem dX0_isSet_7 : decode cX0_isSet 7 = .ok (.getfield 106, 3) := dk_180 0 106 (dk_at dksX0_isSet_0 7 rfl rfl)
theorem dX0_isSet_10 : decode cX0_isSet 10 = .ok (.ishl, 1) := dk_120 (dk_at dksX0_isSet_0 10 rfl rfl)
theorem dX0_isSet_11 : decode cX0_isSet 11 = .ok (.iconst 1, 1) := dk_4 (dk_at dksX0_isSet_0 11 rfl rfl)
theorem dX0_isSet_12 : decode cX0_isSet 12 = .ok (.isub, 1) := dk_100 (dk_at dksX0_isSet_0 12 rfl rfl)
theorem dX0_isSet_13 : decode cX0_isSet 13 = .ok (.invokestatic 61, 3) := dk_184 0 61 (dk_at dksX0_isSet_0 13 rfl rfl)
theorem dX0_isSet_16 : decode cX0_isSet 16 = .ok (.ireturn, 1) := dk_172 (dk_at dksX0_isSet_0 16 rfl rfl)
abbrev cX0_multipleOf : ByteArray := prog_1_method_34_code
def yX0_multipleOf : MethodName := ⟨RX0, "multipleOf", "(I)I"⟩
def dkwX0_multipleOf_2 : List UInt8 := [180, 0, 166, 29, 46, 104, 167, 0, 4, 28, 61, 132, 3, 1, 167, 255, 198, 28, 172]
abbrev dktX0_multipleOf_2 : List UInt8 := dkwX0_multipleOf_2 ++ []
def dkwX0_multipleOf_1 : List UInt8 := [18, 229, 163, 0, 31, 28, 28, 42, 180, 0, 21, 180, 0, 166, 29, 46, 184, 0, 230, 108, 42, 180, 0, 21]
abbrev dktX0_multipleOf_1 : List UInt8 := dkwX0_multipleOf_1 ++ dktX0_multipleOf_2
def dkwX0_multipleOf_0 : List UInt8 := [4, 61, 3, 62, 29, 42, 180, 0, 21, 180, 0, 106, 162, 0, 53, 27, 29, 184, 0, 156, 153, 0, 37, 28]
abbrev dktX0_multipleOf_0 : List UInt8 := dkwX0_multipleOf_0 ++ dktX0_multipleOf_1
theorem dksX0_multipleOf_0 : cX0_multipleOf.data.toList.drop 0 = dktX0_multipleOf_0 := by decide +kernel
theorem dksX0_multipleOf_1 : cX0_multipleOf.data.toList.drop 24 = dktX0_multipleOf_1 := dk_seg dksX0_multipleOf_0 24 rfl rfl
theorem dksX0_multipleOf_2 : cX0_multipleOf.data.toList.drop 48 = dktX0_multipleOf_2 := dk_seg dksX0_multipleOf_1 24 rfl rfl
theorem dX0_multipleOf_0 : decode cX0_multipleOf 0 = .ok (.iconst 1, 1) := dk_4 (dk_at dksX0_multipleOf_0 0 rfl rfl)
theorem dX0_multipleOf_1 : decode cX0_multipleOf 1 = .ok (.istore_n 2, 1) := dk_61 (dk_at dksX0_multipleOf_0 1 rfl rfl)
theorem dX0_multipleOf_2 : decode cX0_multipleOf 2 = .ok (.iconst 0, 1) := dk_3 (dk_at dksX0_multipleOf_0 2 rfl rfl)
theorem dX0_multipleOf_3 : decode cX0_multipleOf 3 = .ok (.istore_n 3, 1) := dk_62 (dk_at dksX0_multipleOf_0 3 rfl rfl)
theorem dX0_multipleOf_4 : decode cX0_multipleOf 4 = .ok (.iload_n 3, 1) := dk_29 (dk_at dksX0_multipleOf_0 4 rfl rfl)
theorem dX0_multipleOf_5 : decode cX0_multipleOf 5 = .ok (.aload_n 0, 1) := dk_42 (dk_at dksX0_multipleOf_0 5 rfl rfl)
theorem dX0_multipleOf_6 : decode cX0_multipleOf 6 = .ok (.getfield 21, 3) := dk_180 0 21 (dk_at dksX0_multipleOf_0 6 rfl rfl)
theorem dX0_multipleOf_9 : decode cX0_multipleOf 9 = .ok (.getfield 106, 3) := dk_180 0 106 (dk_at dksX0_multipleOf_0 9 rfl rfl)
theorem dX0_multipleOf_12 : decode cX0_multipleOf 12 = .ok (.if_icmp .ge 53, 3) := dk_162 0 53 (dk_at dksX0_multipleOf_0 12 rfl rfl)
theorem dX0_multipleOf_15 : decode cX0_multipleOf 15 = .ok (.iload_n 1, 1) := dk_27 (dk_at dksX0_multipleOf_0 15 rfl rfl)
theorem dX0_multipleOf_16 : decode cX0_multipleOf 16 = .ok (.iload_n 3, 1) := dk_29 (dk_at dksX0_multipleOf_0 16 rfl rfl)
theorem dX0_multipleOf_17 : decode cX0_multipleOf 17 = .ok (.invokestatic 156, 3) := dk_184 0 156 (dk_at dksX0_multipleOf_0 17 rfl rfl)
theorem dX0_multipleOf_20 : decode cX0_multipleOf 20 = .ok (.ifCond .eq 37, 3) := dk_153 0 37 (dk_at dksX0_multipleOf_0 20 rfl rfl)
theorem dX0_multipleOf_23 : decode cX0_multipleOf 23 = .ok (.iload_n 2, 1) := dk_28 (dk_at dksX0_multipleOf_0 23 rfl rfl)
theorem dX0_multipleOf_24 : decode cX0_multipleOf 24 = .ok (.ldc 229, 2) := dk_18 229 (dk_at dksX0_multipleOf_1 0 rfl rfl)
theorem dX0_multipleOf_26 : decode cX0_multipleOf 26 = .ok (.if_icmp .gt 31, 3) := dk_163 0 31 (dk_at dksX0_multipleOf_1 2 rfl rfl)
theorem dX0_multipleOf_29 : decode cX0_multipleOf 29 = .ok (.iload_n 2, 1) := dk_28 (dk_at dksX0_multipleOf_1 5 rfl rfl)
theorem dX0_multipleOf_30 : decode cX0_multipleOf 30 = .ok (.iload_n 2, 1) := dk_28 (dk_at dksX0_multipleOf_1 6 rfl rfl)
theorem dX0_multipleOf_31 : decode cX0_multipleOf 31 = .ok (.aload_n 0, 1) := dk_42 (dk_at dksX0_multipleOf_1 7 rfl rfl)
theorem dX0_multipleOf_32 : decode cX0_multipleOf 32 = .ok (.getfield 21, 3) := dk_180 0 21 (dk_at dksX0_multipleOf_1 8 rfl rfl)
theorem dX0_multipleOf_35 : decode cX0_multipleOf 35 = .ok (.getfield 166, 3) := dk_180 0 166 (dk_at dksX0_multipleOf_1 11 rfl rfl)
theorem dX0_multipleOf_38 : decode cX0_multipleOf 38 = .ok (.iload_n 3, 1) := dk_29 (dk_at dksX0_multipleOf_1 14 rfl rfl)
theorem dX0_multipleOf_39 : decode cX0_multipleOf 39 = .ok (.iaload, 1) := dk_46 (dk_at dksX0_multipleOf_1 15 rfl rfl)
theorem dX0_multipleOf_40 : decode cX0_multipleOf 40 = .ok (.invokestatic 230, 3) := dk_184 0 230 (dk_at dksX0_multipleOf_1 16 rfl rfl)
theorem dX0_multipleOf_43 : decode cX0_multipleOf 43 = .ok (.idiv, 1) := dk_108 (dk_at dksX0_multipleOf_1 19 rfl rfl)
theorem dX0_multipleOf_44 : decode cX0_multipleOf 44 = .ok (.aload_n 0, 1) := dk_42 (dk_at dksX0_multipleOf_1 20 rfl rfl)
theorem dX0_multipleOf_45 : decode cX0_multipleOf 45 = .ok (.getfield 21, 3) := dk_180 0 21 (dk_at dksX0_multipleOf_1 21 rfl rfl)
theorem dX0_multipleOf_48 : decode cX0_multipleOf 48 = .ok (.getfield 166, 3) := dk_180 0 166 (dk_at dksX0_multipleOf_2 0 rfl rfl)
theorem dX0_multipleOf_51 : decode cX0_multipleOf 51 = .ok (.iload_n 3, 1) := dk_29 (dk_at dksX0_multipleOf_2 3 rfl rfl)
theorem dX0_multipleOf_52 : decode cX0_multipleOf 52 = .ok (.iaload, 1) := dk_46 (dk_at dksX0_multipleOf_2 4 rfl rfl)
theorem dX0_multipleOf_53 : decode cX0_multipleOf 53 = .ok (.imul, 1) := dk_104 (dk_at dksX0_multipleOf_2 5 rfl rfl)
theorem dX0_multipleOf_54 : decode cX0_multipleOf 54 = .ok (.goto 4, 3) := dk_167 0 4 (dk_at dksX0_multipleOf_2 6 rfl rfl)
theorem dX0_multipleOf_57 : decode cX0_multipleOf 57 = .ok (.iload_n 2, 1) := dk_28 (dk_at dksX0_multipleOf_2 9 rfl rfl)
theorem dX0_multipleOf_58 : decode cX0_multipleOf 58 = .ok (.istore_n 2, 1) := dk_61 (dk_at dksX0_multipleOf_2 10 rfl rfl)
theorem dX0_multipleOf_59 : decode cX0_multipleOf 59 = .ok (.iinc 3 1, 3) := dk_132 3 1 (dk_at dksX0_multipleOf_2 11 rfl rfl)
theorem dX0_multipleOf_62 : decode cX0_multipleOf 62 = .ok (.goto (-58), 3) := dk_167 255 198 (dk_at dksX0_multipleOf_2 14 rfl rfl)
theorem dX0_multipleOf_65 : decode cX0_multipleOf 65 = .ok (.iload_n 2, 1) := dk_28 (dk_at dksX0_multipleOf_2 17 rfl rfl)
theorem dX0_multipleOf_66 : decode cX0_multipleOf 66 = .ok (.ireturn, 1) := dk_172 (dk_at dksX0_multipleOf_2 18 rfl rfl)
abbrev cX0_common : ByteArray := prog_1_method_3_code
def yX0_common : MethodName := ⟨RX0, "common", "(II)I"⟩
def dkwX0_common_0 : List UInt8 := [26, 61, 27, 62, 29, 153, 0, 16, 28, 29, 112, 54, 4, 29, 61, 21, 4, 62, 167, 255, 242, 28, 172]
abbrev dktX0_common_0 : List UInt8 := dkwX0_common_0 ++ []
theorem dksX0_common_0 : cX0_common.data.toList.drop 0 = dktX0_common_0 := by decide +kernel
theorem dX0_common_0 : decode cX0_common 0 = .ok (.iload_n 0, 1) := dk_26 (dk_at dksX0_common_0 0 rfl rfl)
theorem dX0_common_1 : decode cX0_common 1 = .ok (.istore_n 2, 1) := dk_61 (dk_at dksX0_common_0 1 rfl rfl)
theorem dX0_common_2 : decode cX0_common 2 = .ok (.iload_n 1, 1) := dk_27 (dk_at dksX0_common_0 2 rfl rfl)
theorem dX0_common_3 : decode cX0_common 3 = .ok (.istore_n 3, 1) := dk_62 (dk_at dksX0_common_0 3 rfl rfl)
theorem dX0_common_4 : decode cX0_common 4 = .ok (.iload_n 3, 1) := dk_29 (dk_at dksX0_common_0 4 rfl rfl)
theorem dX0_common_5 : decode cX0_common 5 = .ok (.ifCond .eq 16, 3) := dk_153 0 16 (dk_at dksX0_common_0 5 rfl rfl)
theorem dX0_common_8 : decode cX0_common 8 = .ok (.iload_n 2, 1) := dk_28 (dk_at dksX0_common_0 8 rfl rfl)
theorem dX0_common_9 : decode cX0_common 9 = .ok (.iload_n 3, 1) := dk_29 (dk_at dksX0_common_0 9 rfl rfl)
theorem dX0_common_10 : decode cX0_common 10 = .ok (.irem, 1) := dk_112 (dk_at dksX0_common_0 10 rfl rfl)
theorem dX0_common_11 : decode cX0_common 11 = .ok (.istore 4, 2) := dk_54 4 (dk_at dksX0_common_0 11 rfl rfl)
theorem dX0_common_13 : decode cX0_common 13 = .ok (.iload_n 3, 1) := dk_29 (dk_at dksX0_common_0 13 rfl rfl)
theorem dX0_common_14 : decode cX0_common 14 = .ok (.istore_n 2, 1) := dk_61 (dk_at dksX0_common_0 14 rfl rfl)
theorem dX0_common_15 : decode cX0_common 15 = .ok (.iload 4, 2) := dk_21 4 (dk_at dksX0_common_0 15 rfl rfl)
theorem dX0_common_17 : decode cX0_common 17 = .ok (.istore_n 3, 1) := dk_62 (dk_at dksX0_common_0 17 rfl rfl)
theorem dX0_common_18 : decode cX0_common 18 = .ok (.goto (-14), 3) := dk_167 255 242 (dk_at dksX0_common_0 18 rfl rfl)
theorem dX0_common_21 : decode cX0_common 21 = .ok (.iload_n 2, 1) := dk_28 (dk_at dksX0_common_0 21 rfl rfl)
theorem dX0_common_22 : decode cX0_common 22 = .ok (.ireturn, 1) := dk_172 (dk_at dksX0_common_0 22 rfl rfl)
abbrev cX0_keepsOff : ByteArray := prog_1_method_35_code
def yX0_keepsOff : MethodName := ⟨RX0, "keepsOff", "(II)Z"⟩
def dkwX0_keepsOff_4 : List UInt8 := [167, 255, 169, 29, 172]
abbrev dktX0_keepsOff_4 : List UInt8 := dkwX0_keepsOff_4 ++ []
def dkwX0_keepsOff_3 : List UInt8 := [21, 4, 184, 0, 156, 153, 0, 8, 21, 5, 154, 0, 7, 4, 167, 0, 4, 3, 126, 62, 132, 4, 1]
abbrev dktX0_keepsOff_3 : List UInt8 := dkwX0_keepsOff_3 ++ dktX0_keepsOff_4
def dkwX0_keepsOff_2 : List UInt8 := [42, 180, 0, 21, 180, 0, 169, 21, 4, 46, 112, 154, 0, 7, 4, 167, 0, 4, 3, 54, 5, 29, 28]
abbrev dktX0_keepsOff_2 : List UInt8 := dkwX0_keepsOff_2 ++ dktX0_keepsOff_3
def dkwX0_keepsOff_1 : List UInt8 := [180, 0, 166, 21, 4, 46, 112, 153, 0, 31, 42, 180, 0, 21, 180, 0, 169, 21, 4, 46, 158, 0, 22, 27]
abbrev dktX0_keepsOff_1 : List UInt8 := dkwX0_keepsOff_1 ++ dktX0_keepsOff_2
def dkwX0_keepsOff_0 : List UInt8 := [4, 62, 3, 54, 4, 21, 4, 42, 180, 0, 21, 180, 0, 106, 162, 0, 81, 27, 42, 180, 0, 21]
abbrev dktX0_keepsOff_0 : List UInt8 := dkwX0_keepsOff_0 ++ dktX0_keepsOff_1
theorem dksX0_keepsOff_0 : cX0_keepsOff.data.toList.drop 0 = dktX0_keepsOff_0 := by decide +kernel
theorem dksX0_keepsOff_1 : cX0_keepsOff.data.toList.drop 22 = dktX0_keepsOff_1 := dk_seg dksX0_keepsOff_0 22 rfl rfl
theorem dksX0_keepsOff_2 : cX0_keepsOff.data.toList.drop 46 = dktX0_keepsOff_2 := dk_seg dksX0_keepsOff_1 24 rfl rfl
theorem dksX0_keepsOff_3 : cX0_keepsOff.data.toList.drop 69 = dktX0_keepsOff_3 := dk_seg dksX0_keepsOff_2 23 rfl rfl
theorem dksX0_keepsOff_4 : cX0_keepsOff.data.toList.drop 92 = dktX0_keepsOff_4 := dk_seg dksX0_keepsOff_3 23 rfl rfl
theorem dX0_keepsOff_0 : decode cX0_keepsOff 0 = .ok (.iconst 1, 1) := dk_4 (dk_at dksX0_keepsOff_0 0 rfl rfl)
theorem dX0_keepsOff_1 : decode cX0_keepsOff 1 = .ok (.istore_n 3, 1) := dk_62 (dk_at dksX0_keepsOff_0 1 rfl rfl)
theorem dX0_keepsOff_2 : decode cX0_keepsOff 2 = .ok (.iconst 0, 1) := dk_3 (dk_at dksX0_keepsOff_0 2 rfl rfl)
theorem dX0_keepsOff_3 : decode cX0_keepsOff 3 = .ok (.istore 4, 2) := dk_54 4 (dk_at dksX0_keepsOff_0 3 rfl rfl)
theorem dX0_keepsOff_5 : decode cX0_keepsOff 5 = .ok (.iload 4, 2) := dk_21 4 (dk_at dksX0_keepsOff_0 5 rfl rfl)
theorem dX0_keepsOff_7 : decode cX0_keepsOff 7 = .ok (.aload_n 0, 1) := dk_42 (dk_at dksX0_keepsOff_0 7 rfl rfl)
theorem dX0_keepsOff_8 : decode cX0_keepsOff 8 = .ok (.getfield 21, 3) := dk_180 0 21 (dk_at dksX0_keepsOff_0 8 rfl rfl)
theorem dX0_keepsOff_11 : decode cX0_keepsOff 11 = .ok (.getfield 106, 3) := dk_180 0 106 (dk_at dksX0_keepsOff_0 11 rfl rfl)
theorem dX0_keepsOff_14 : decode cX0_keepsOff 14 = .ok (.if_icmp .ge 81, 3) := dk_162 0 81 (dk_at dksX0_keepsOff_0 14 rfl rfl)
theorem dX0_keepsOff_17 : decode cX0_keepsOff 17 = .ok (.iload_n 1, 1) := dk_27 (dk_at dksX0_keepsOff_0 17 rfl rfl)
theorem dX0_keepsOff_18 : decode cX0_keepsOff 18 = .ok (.aload_n 0, 1) := dk_42 (dk_at dksX0_keepsOff_0 18 rfl rfl)
theorem dX0_keepsOff_19 : decode cX0_keepsOff 19 = .ok (.getfield 21, 3) := dk_180 0 21 (dk_at dksX0_keepsOff_0 19 rfl rfl)
theorem dX0_keepsOff_22 : decode cX0_keepsOff 22 = .ok (.getfield 166, 3) := dk_180 0 166 (dk_at dksX0_keepsOff_1 0 rfl rfl)
theorem dX0_keepsOff_25 : decode cX0_keepsOff 25 = .ok (.iload 4, 2) := dk_21 4 (dk_at dksX0_keepsOff_1 3 rfl rfl)
theorem dX0_keepsOff_27 : decode cX0_keepsOff 27 = .ok (.iaload, 1) := dk_46 (dk_at dksX0_keepsOff_1 5 rfl rfl)
theorem dX0_keepsOff_28 : decode cX0_keepsOff 28 = .ok (.irem, 1) := dk_112 (dk_at dksX0_keepsOff_1 6 rfl rfl)
theorem dX0_keepsOff_29 : decode cX0_keepsOff 29 = .ok (.ifCond .eq 31, 3) := dk_153 0 31 (dk_at dksX0_keepsOff_1 7 rfl rfl)
theorem dX0_keepsOff_32 : decode cX0_keepsOff 32 = .ok (.aload_n 0, 1) := dk_42 (dk_at dksX0_keepsOff_1 10 rfl rfl)
theorem dX0_keepsOff_33 : decode cX0_keepsOff 33 = .ok (.getfield 21, 3) := dk_180 0 21 (dk_at dksX0_keepsOff_1 11 rfl rfl)
theorem dX0_keepsOff_36 : decode cX0_keepsOff 36 = .ok (.getfield 169, 3) := dk_180 0 169 (dk_at dksX0_keepsOff_1 14 rfl rfl)
theorem dX0_keepsOff_39 : decode cX0_keepsOff 39 = .ok (.iload 4, 2) := dk_21 4 (dk_at dksX0_keepsOff_1 17 rfl rfl)
theorem dX0_keepsOff_41 : decode cX0_keepsOff 41 = .ok (.iaload, 1) := dk_46 (dk_at dksX0_keepsOff_1 19 rfl rfl)
theorem dX0_keepsOff_42 : decode cX0_keepsOff 42 = .ok (.ifCond .le 22, 3) := dk_158 0 22 (dk_at dksX0_keepsOff_1 20 rfl rfl)
theorem dX0_keepsOff_45 : decode cX0_keepsOff 45 = .ok (.iload_n 1, 1) := dk_27 (dk_at dksX0_keepsOff_1 23 rfl rfl)
theorem dX0_keepsOff_46 : decode cX0_keepsOff 46 = .ok (.aload_n 0, 1) := dk_42 (dk_at dksX0_keepsOff_2 0 rfl rfl)
theorem dX0_keepsOff_47 : decode cX0_keepsOff 47 = .ok (.getfield 21, 3) := dk_180 0 21 (dk_at dksX0_keepsOff_2 1 rfl rfl)
theorem dX0_keepsOff_50 : decode cX0_keepsOff 50 = .ok (.getfield 169, 3) := dk_180 0 169 (dk_at dksX0_keepsOff_2 4 rfl rfl)
theorem dX0_keepsOff_53 : decode cX0_keepsOff 53 = .ok (.iload 4, 2) := dk_21 4 (dk_at dksX0_keepsOff_2 7 rfl rfl)
theorem dX0_keepsOff_55 : decode cX0_keepsOff 55 = .ok (.iaload, 1) := dk_46 (dk_at dksX0_keepsOff_2 9 rfl rfl)
theorem dX0_keepsOff_56 : decode cX0_keepsOff 56 = .ok (.irem, 1) := dk_112 (dk_at dksX0_keepsOff_2 10 rfl rfl)
theorem dX0_keepsOff_57 : decode cX0_keepsOff 57 = .ok (.ifCond .ne 7, 3) := dk_154 0 7 (dk_at dksX0_keepsOff_2 11 rfl rfl)
theorem dX0_keepsOff_60 : decode cX0_keepsOff 60 = .ok (.iconst 1, 1) := dk_4 (dk_at dksX0_keepsOff_2 14 rfl rfl)
theorem dX0_keepsOff_61 : decode cX0_keepsOff 61 = .ok (.goto 4, 3) := dk_167 0 4 (dk_at dksX0_keepsOff_2 15 rfl rfl)
theorem dX0_keepsOff_64 : decode cX0_keepsOff 64 = .ok (.iconst 0, 1) := dk_3 (dk_at dksX0_keepsOff_2 18 rfl rfl)
theorem dX0_keepsOff_65 : decode cX0_keepsOff 65 = .ok (.istore 5, 2) := dk_54 5 (dk_at dksX0_keepsOff_2 19 rfl rfl)
theorem dX0_keepsOff_67 : decode cX0_keepsOff 67 = .ok (.iload_n 3, 1) := dk_29 (dk_at dksX0_keepsOff_2 21 rfl rfl)
theorem dX0_keepsOff_68 : decode cX0_keepsOff 68 = .ok (.iload_n 2, 1) := dk_28 (dk_at dksX0_keepsOff_2 22 rfl rfl)
theorem dX0_keepsOff_69 : decode cX0_keepsOff 69 = .ok (.iload 4, 2) := dk_21 4 (dk_at dksX0_keepsOff_3 0 rfl rfl)
theorem dX0_keepsOff_71 : decode cX0_keepsOff 71 = .ok (.invokestatic 156, 3) := dk_184 0 156 (dk_at dksX0_keepsOff_3 2 rfl rfl)
theorem dX0_keepsOff_74 : decode cX0_keepsOff 74 = .ok (.ifCond .eq 8, 3) := dk_153 0 8 (dk_at dksX0_keepsOff_3 5 rfl rfl)
theorem dX0_keepsOff_77 : decode cX0_keepsOff 77 = .ok (.iload 5, 2) := dk_21 5 (dk_at dksX0_keepsOff_3 8 rfl rfl)
theorem dX0_keepsOff_79 : decode cX0_keepsOff 79 = .ok (.ifCond .ne 7, 3) := dk_154 0 7 (dk_at dksX0_keepsOff_3 10 rfl rfl)
theorem dX0_keepsOff_82 : decode cX0_keepsOff 82 = .ok (.iconst 1, 1) := dk_4 (dk_at dksX0_keepsOff_3 13 rfl rfl)
theorem dX0_keepsOff_83 : decode cX0_keepsOff 83 = .ok (.goto 4, 3) := dk_167 0 4 (dk_at dksX0_keepsOff_3 14 rfl rfl)
theorem dX0_keepsOff_86 : decode cX0_keepsOff 86 = .ok (.iconst 0, 1) := dk_3 (dk_at dksX0_keepsOff_3 17 rfl rfl)
theorem dX0_keepsOff_87 : decode cX0_keepsOff 87 = .ok (.iand, 1) := dk_126 (dk_at dksX0_keepsOff_3 18 rfl rfl)
theorem dX0_keepsOff_88 : decode cX0_keepsOff 88 = .ok (.istore_n 3, 1) := dk_62 (dk_at dksX0_keepsOff_3 19 rfl rfl)
theorem dX0_keepsOff_89 : decode cX0_keepsOff 89 = .ok (.iinc 4 1, 3) := dk_132 4 1 (dk_at dksX0_keepsOff_3 20 rfl rfl)
theorem dX0_keepsOff_92 : decode cX0_keepsOff 92 = .ok (.goto (-87), 3) := dk_167 255 169 (dk_at dksX0_keepsOff_4 0 rfl rfl)
theorem dX0_keepsOff_95 : decode cX0_keepsOff 95 = .ok (.iload_n 3, 1) := dk_29 (dk_at dksX0_keepsOff_4 3 rfl rfl)
theorem dX0_keepsOff_96 : decode cX0_keepsOff 96 = .ok (.ireturn, 1) := dk_172 (dk_at dksX0_keepsOff_4 4 rfl rfl)
abbrev cX0_pair : ByteArray := prog_1_method_37_code
def yX0_pair : MethodName := ⟨RX0, "pair", "(III)I"⟩
def dkwX0_pair_2 : List UInt8 := [182, 0, 193, 126, 167, 0, 14, 42, 4, 27, 120, 4, 28, 120, 128, 182, 0, 236, 172]
abbrev dktX0_pair_2 : List UInt8 := dkwX0_pair_2 ++ []
def dkwX0_pair_1 : List UInt8 := [29, 3, 4, 184, 0, 61, 154, 0, 6, 18, 65, 172, 29, 154, 0, 17, 42, 27, 182, 0, 193, 42, 28]
abbrev dktX0_pair_1 : List UInt8 := dkwX0_pair_1 ++ dktX0_pair_2
def dkwX0_pair_0 : List UInt8 := [42, 27, 182, 0, 190, 153, 0, 16, 42, 28, 182, 0, 190, 153, 0, 8, 27, 28, 160, 0, 6, 18, 183, 172]
abbrev dktX0_pair_0 : List UInt8 := dkwX0_pair_0 ++ dktX0_pair_1
theorem dksX0_pair_0 : cX0_pair.data.toList.drop 0 = dktX0_pair_0 := by decide +kernel
theorem dksX0_pair_1 : cX0_pair.data.toList.drop 24 = dktX0_pair_1 := dk_seg dksX0_pair_0 24 rfl rfl
theorem dksX0_pair_2 : cX0_pair.data.toList.drop 47 = dktX0_pair_2 := dk_seg dksX0_pair_1 23 rfl rfl
theorem dX0_pair_0 : decode cX0_pair 0 = .ok (.aload_n 0, 1) := dk_42 (dk_at dksX0_pair_0 0 rfl rfl)
theorem dX0_pair_1 : decode cX0_pair 1 = .ok (.iload_n 1, 1) := dk_27 (dk_at dksX0_pair_0 1 rfl rfl)
theorem dX0_pair_2 : decode cX0_pair 2 = .ok (.invokevirtual 190, 3) := dk_182 0 190 (dk_at dksX0_pair_0 2 rfl rfl)
theorem dX0_pair_5 : decode cX0_pair 5 = .ok (.ifCond .eq 16, 3) := dk_153 0 16 (dk_at dksX0_pair_0 5 rfl rfl)
theorem dX0_pair_8 : decode cX0_pair 8 = .ok (.aload_n 0, 1) := dk_42 (dk_at dksX0_pair_0 8 rfl rfl)
theorem dX0_pair_9 : decode cX0_pair 9 = .ok (.iload_n 2, 1) := dk_28 (dk_at dksX0_pair_0 9 rfl rfl)
theorem dX0_pair_10 : decode cX0_pair 10 = .ok (.invokevirtual 190, 3) := dk_182 0 190 (dk_at dksX0_pair_0 10 rfl rfl)
theorem dX0_pair_13 : decode cX0_pair 13 = .ok (.ifCond .eq 8, 3) := dk_153 0 8 (dk_at dksX0_pair_0 13 rfl rfl)
theorem dX0_pair_16 : decode cX0_pair 16 = .ok (.iload_n 1, 1) := dk_27 (dk_at dksX0_pair_0 16 rfl rfl)
theorem dX0_pair_17 : decode cX0_pair 17 = .ok (.iload_n 2, 1) := dk_28 (dk_at dksX0_pair_0 17 rfl rfl)
theorem dX0_pair_18 : decode cX0_pair 18 = .ok (.if_icmp .ne 6, 3) := dk_160 0 6 (dk_at dksX0_pair_0 18 rfl rfl)
theorem dX0_pair_21 : decode cX0_pair 21 = .ok (.ldc 183, 2) := dk_18 183 (dk_at dksX0_pair_0 21 rfl rfl)
theorem dX0_pair_23 : decode cX0_pair 23 = .ok (.ireturn, 1) := dk_172 (dk_at dksX0_pair_0 23 rfl rfl)
theorem dX0_pair_24 : decode cX0_pair 24 = .ok (.iload_n 3, 1) := dk_29 (dk_at dksX0_pair_1 0 rfl rfl)
theorem dX0_pair_25 : decode cX0_pair 25 = .ok (.iconst 0, 1) := dk_3 (dk_at dksX0_pair_1 1 rfl rfl)
theorem dX0_pair_26 : decode cX0_pair 26 = .ok (.iconst 1, 1) := dk_4 (dk_at dksX0_pair_1 2 rfl rfl)
theorem dX0_pair_27 : decode cX0_pair 27 = .ok (.invokestatic 61, 3) := dk_184 0 61 (dk_at dksX0_pair_1 3 rfl rfl)
theorem dX0_pair_30 : decode cX0_pair 30 = .ok (.ifCond .ne 6, 3) := dk_154 0 6 (dk_at dksX0_pair_1 6 rfl rfl)
theorem dX0_pair_33 : decode cX0_pair 33 = .ok (.ldc 65, 2) := dk_18 65 (dk_at dksX0_pair_1 9 rfl rfl)
theorem dX0_pair_35 : decode cX0_pair 35 = .ok (.ireturn, 1) := dk_172 (dk_at dksX0_pair_1 11 rfl rfl)
theorem dX0_pair_36 : decode cX0_pair 36 = .ok (.iload_n 3, 1) := dk_29 (dk_at dksX0_pair_1 12 rfl rfl)
theorem dX0_pair_37 : decode cX0_pair 37 = .ok (.ifCond .ne 17, 3) := dk_154 0 17 (dk_at dksX0_pair_1 13 rfl rfl)
theorem dX0_pair_40 : decode cX0_pair 40 = .ok (.aload_n 0, 1) := dk_42 (dk_at dksX0_pair_1 16 rfl rfl)
theorem dX0_pair_41 : decode cX0_pair 41 = .ok (.iload_n 1, 1) := dk_27 (dk_at dksX0_pair_1 17 rfl rfl)
theorem dX0_pair_42 : decode cX0_pair 42 = .ok (.invokevirtual 193, 3) := dk_182 0 193 (dk_at dksX0_pair_1 18 rfl rfl)
theorem dX0_pair_45 : decode cX0_pair 45 = .ok (.aload_n 0, 1) := dk_42 (dk_at dksX0_pair_1 21 rfl rfl)
theorem dX0_pair_46 : decode cX0_pair 46 = .ok (.iload_n 2, 1) := dk_28 (dk_at dksX0_pair_1 22 rfl rfl)
theorem dX0_pair_47 : decode cX0_pair 47 = .ok (.invokevirtual 193, 3) := dk_182 0 193 (dk_at dksX0_pair_2 0 rfl rfl)
theorem dX0_pair_50 : decode cX0_pair 50 = .ok (.iand, 1) := dk_126 (dk_at dksX0_pair_2 3 rfl rfl)
theorem dX0_pair_51 : decode cX0_pair 51 = .ok (.goto 14, 3) := dk_167 0 14 (dk_at dksX0_pair_2 4 rfl rfl)
theorem dX0_pair_54 : decode cX0_pair 54 = .ok (.aload_n 0, 1) := dk_42 (dk_at dksX0_pair_2 7 rfl rfl)
theorem dX0_pair_55 : decode cX0_pair 55 = .ok (.iconst 1, 1) := dk_4 (dk_at dksX0_pair_2 8 rfl rfl)
theorem dX0_pair_56 : decode cX0_pair 56 = .ok (.iload_n 1, 1) := dk_27 (dk_at dksX0_pair_2 9 rfl rfl)
theorem dX0_pair_57 : decode cX0_pair 57 = .ok (.ishl, 1) := dk_120 (dk_at dksX0_pair_2 10 rfl rfl)
theorem dX0_pair_58 : decode cX0_pair 58 = .ok (.iconst 1, 1) := dk_4 (dk_at dksX0_pair_2 11 rfl rfl)
theorem dX0_pair_59 : decode cX0_pair 59 = .ok (.iload_n 2, 1) := dk_28 (dk_at dksX0_pair_2 12 rfl rfl)
theorem dX0_pair_60 : decode cX0_pair 60 = .ok (.ishl, 1) := dk_120 (dk_at dksX0_pair_2 13 rfl rfl)
theorem dX0_pair_61 : decode cX0_pair 61 = .ok (.ior, 1) := dk_128 (dk_at dksX0_pair_2 14 rfl rfl)
theorem dX0_pair_62 : decode cX0_pair 62 = .ok (.invokevirtual 236, 3) := dk_182 0 236 (dk_at dksX0_pair_2 15 rfl rfl)
theorem dX0_pair_65 : decode cX0_pair 65 = .ok (.ireturn, 1) := dk_172 (dk_at dksX0_pair_2 18 rfl rfl)
abbrev cX0_carried : ByteArray := prog_1_method_40_code
def yX0_carried : MethodName := ⟨RX0, "carried", "(III)I"⟩
def dkwX0_carried_8 : List UInt8 := [21, 5, 184, 0, 254, 172]
abbrev dktX0_carried_8 : List UInt8 := dkwX0_carried_8 ++ []
def dkwX0_carried_7 : List UInt8 := [54, 5, 132, 6, 1, 167, 255, 187, 29, 4, 159, 0, 9, 21, 5, 2, 160, 0, 8, 21, 5, 167, 0, 8]
abbrev dktX0_carried_7 : List UInt8 := dkwX0_carried_7 ++ dktX0_carried_8
def dkwX0_carried_6 : List UInt8 := [180, 0, 51, 28, 50, 21, 6, 51, 153, 0, 13, 21, 7, 153, 0, 8, 21, 6, 167, 0, 5, 21, 5]
abbrev dktX0_carried_6 : List UInt8 := dkwX0_carried_6 ++ dktX0_carried_7
def dkwX0_carried_5 : List UInt8 := [159, 0, 16, 21, 6, 184, 0, 254, 21, 5, 184, 0, 254, 162, 0, 7, 4, 167, 0, 4, 3, 54, 7, 42]
abbrev dktX0_carried_5 : List UInt8 := dkwX0_carried_5 ++ dktX0_carried_6
def dkwX0_carried_4 : List UInt8 := [2, 54, 5, 3, 54, 6, 21, 6, 4, 42, 180, 0, 21, 180, 0, 106, 120, 162, 0, 61, 21, 5, 2]
abbrev dktX0_carried_4 : List UInt8 := dkwX0_carried_4 ++ dktX0_carried_5
def dkwX0_carried_3 : List UInt8 := [27, 46, 50, 3, 4, 84, 4, 54, 4, 21, 4, 153, 0, 13, 42, 27, 182, 0, 251, 54, 4, 167, 255, 244]
abbrev dktX0_carried_3 : List UInt8 := dkwX0_carried_3 ++ dktX0_carried_4
def dkwX0_carried_2 : List UInt8 := [21, 4, 50, 3, 184, 0, 245, 132, 4, 1, 167, 255, 235, 42, 180, 0, 51, 42, 180, 0, 21, 180, 0, 164]
abbrev dktX0_carried_2 : List UInt8 := dkwX0_carried_2 ++ dktX0_carried_3
def dkwX0_carried_1 : List UInt8 := [184, 0, 61, 154, 0, 6, 18, 65, 172, 3, 54, 4, 21, 4, 16, 8, 162, 0, 20, 42, 180, 0, 51]
abbrev dktX0_carried_1 : List UInt8 := dkwX0_carried_1 ++ dktX0_carried_2
def dkwX0_carried_0 : List UInt8 := [42, 27, 182, 0, 190, 153, 0, 11, 42, 28, 182, 0, 226, 154, 0, 6, 18, 183, 172, 29, 3, 4]
abbrev dktX0_carried_0 : List UInt8 := dkwX0_carried_0 ++ dktX0_carried_1
theorem dksX0_carried_0 : cX0_carried.data.toList.drop 0 = dktX0_carried_0 := by decide +kernel
theorem dksX0_carried_1 : cX0_carried.data.toList.drop 22 = dktX0_carried_1 := dk_seg dksX0_carried_0 22 rfl rfl
theorem dksX0_carried_2 : cX0_carried.data.toList.drop 45 = dktX0_carried_2 := dk_seg dksX0_carried_1 23 rfl rfl
theorem dksX0_carried_3 : cX0_carried.data.toList.drop 69 = dktX0_carried_3 := dk_seg dksX0_carried_2 24 rfl rfl
theorem dksX0_carried_4 : cX0_carried.data.toList.drop 93 = dktX0_carried_4 := dk_seg dksX0_carried_3 24 rfl rfl
theorem dksX0_carried_5 : cX0_carried.data.toList.drop 116 = dktX0_carried_5 := dk_seg dksX0_carried_4 23 rfl rfl
theorem dksX0_carried_6 : cX0_carried.data.toList.drop 140 = dktX0_carried_6 := dk_seg dksX0_carried_5 24 rfl rfl
theorem dksX0_carried_7 : cX0_carried.data.toList.drop 163 = dktX0_carried_7 := dk_seg dksX0_carried_6 23 rfl rfl
theorem dksX0_carried_8 : cX0_carried.data.toList.drop 187 = dktX0_carried_8 := dk_seg dksX0_carried_7 24 rfl rfl
theorem dX0_carried_0 : decode cX0_carried 0 = .ok (.aload_n 0, 1) := dk_42 (dk_at dksX0_carried_0 0 rfl rfl)
theorem dX0_carried_1 : decode cX0_carried 1 = .ok (.iload_n 1, 1) := dk_27 (dk_at dksX0_carried_0 1 rfl rfl)
theorem dX0_carried_2 : decode cX0_carried 2 = .ok (.invokevirtual 190, 3) := dk_182 0 190 (dk_at dksX0_carried_0 2 rfl rfl)
theorem dX0_carried_5 : decode cX0_carried 5 = .ok (.ifCond .eq 11, 3) := dk_153 0 11 (dk_at dksX0_carried_0 5 rfl rfl)
theorem dX0_carried_8 : decode cX0_carried 8 = .ok (.aload_n 0, 1) := dk_42 (dk_at dksX0_carried_0 8 rfl rfl)
theorem dX0_carried_9 : decode cX0_carried 9 = .ok (.iload_n 2, 1) := dk_28 (dk_at dksX0_carried_0 9 rfl rfl)
theorem dX0_carried_10 : decode cX0_carried 10 = .ok (.invokevirtual 226, 3) := dk_182 0 226 (dk_at dksX0_carried_0 10 rfl rfl)
theorem dX0_carried_13 : decode cX0_carried 13 = .ok (.ifCond .ne 6, 3) := dk_154 0 6 (dk_at dksX0_carried_0 13 rfl rfl)
theorem dX0_carried_16 : decode cX0_carried 16 = .ok (.ldc 183, 2) := dk_18 183 (dk_at dksX0_carried_0 16 rfl rfl)
theorem dX0_carried_18 : decode cX0_carried 18 = .ok (.ireturn, 1) := dk_172 (dk_at dksX0_carried_0 18 rfl rfl)
theorem dX0_carried_19 : decode cX0_carried 19 = .ok (.iload_n 3, 1) := dk_29 (dk_at dksX0_carried_0 19 rfl rfl)
theorem dX0_carried_20 : decode cX0_carried 20 = .ok (.iconst 0, 1) := dk_3 (dk_at dksX0_carried_0 20 rfl rfl)
theorem dX0_carried_21 : decode cX0_carried 21 = .ok (.iconst 1, 1) := dk_4 (dk_at dksX0_carried_0 21 rfl rfl)
theorem dX0_carried_22 : decode cX0_carried 22 = .ok (.invokestatic 61, 3) := dk_184 0 61 (dk_at dksX0_carried_1 0 rfl rfl)
theorem dX0_carried_25 : decode cX0_carried 25 = .ok (.ifCond .ne 6, 3) := dk_154 0 6 (dk_at dksX0_carried_1 3 rfl rfl)
theorem dX0_carried_28 : decode cX0_carried 28 = .ok (.ldc 65, 2) := dk_18 65 (dk_at dksX0_carried_1 6 rfl rfl)
theorem dX0_carried_30 : decode cX0_carried 30 = .ok (.ireturn, 1) := dk_172 (dk_at dksX0_carried_1 8 rfl rfl)
theorem dX0_carried_31 : decode cX0_carried 31 = .ok (.iconst 0, 1) := dk_3 (dk_at dksX0_carried_1 9 rfl rfl)
theorem dX0_carried_32 : decode cX0_carried 32 = .ok (.istore 4, 2) := dk_54 4 (dk_at dksX0_carried_1 10 rfl rfl)
theorem dX0_carried_34 : decode cX0_carried 34 = .ok (.iload 4, 2) := dk_21 4 (dk_at dksX0_carried_1 12 rfl rfl)
theorem dX0_carried_36 : decode cX0_carried 36 = .ok (.bipush 8, 2) := dk_16 8 (dk_at dksX0_carried_1 14 rfl rfl)
theorem dX0_carried_38 : decode cX0_carried 38 = .ok (.if_icmp .ge 20, 3) := dk_162 0 20 (dk_at dksX0_carried_1 16 rfl rfl)
theorem dX0_carried_41 : decode cX0_carried 41 = .ok (.aload_n 0, 1) := dk_42 (dk_at dksX0_carried_1 19 rfl rfl)
theorem dX0_carried_42 : decode cX0_carried 42 = .ok (.getfield 51, 3) := dk_180 0 51 (dk_at dksX0_carried_1 20 rfl rfl)
theorem dX0_carried_45 : decode cX0_carried 45 = .ok (.iload 4, 2) := dk_21 4 (dk_at dksX0_carried_2 0 rfl rfl)
theorem dX0_carried_47 : decode cX0_carried 47 = .ok (.aaload, 1) := dk_50 (dk_at dksX0_carried_2 2 rfl rfl)
theorem dX0_carried_48 : decode cX0_carried 48 = .ok (.iconst 0, 1) := dk_3 (dk_at dksX0_carried_2 3 rfl rfl)
theorem dX0_carried_49 : decode cX0_carried 49 = .ok (.invokestatic 245, 3) := dk_184 0 245 (dk_at dksX0_carried_2 4 rfl rfl)
theorem dX0_carried_52 : decode cX0_carried 52 = .ok (.iinc 4 1, 3) := dk_132 4 1 (dk_at dksX0_carried_2 7 rfl rfl)
theorem dX0_carried_55 : decode cX0_carried 55 = .ok (.goto (-21), 3) := dk_167 255 235 (dk_at dksX0_carried_2 10 rfl rfl)
theorem dX0_carried_58 : decode cX0_carried 58 = .ok (.aload_n 0, 1) := dk_42 (dk_at dksX0_carried_2 13 rfl rfl)
theorem dX0_carried_59 : decode cX0_carried 59 = .ok (.getfield 51, 3) := dk_180 0 51 (dk_at dksX0_carried_2 14 rfl rfl)
theorem dX0_carried_62 : decode cX0_carried 62 = .ok (.aload_n 0, 1) := dk_42 (dk_at dksX0_carried_2 17 rfl rfl)
theorem dX0_carried_63 : decode cX0_carried 63 = .ok (.getfield 21, 3) := dk_180 0 21 (dk_at dksX0_carried_2 18 rfl rfl)
theorem dX0_carried_66 : decode cX0_carried 66 = .ok (.getfield 164, 3) := dk_180 0 164 (dk_at dksX0_carried_2 21 rfl rfl)
theorem dX0_carried_69 : decode cX0_carried 69 = .ok (.iload_n 1, 1) := dk_27 (dk_at dksX0_carried_3 0 rfl rfl)
theorem dX0_carried_70 : decode cX0_carried 70 = .ok (.iaload, 1) := dk_46 (dk_at dksX0_carried_3 1 rfl rfl)
theorem dX0_carried_71 : decode cX0_carried 71 = .ok (.aaload, 1) := dk_50 (dk_at dksX0_carried_3 2 rfl rfl)
theorem dX0_carried_72 : decode cX0_carried 72 = .ok (.iconst 0, 1) := dk_3 (dk_at dksX0_carried_3 3 rfl rfl)
theorem dX0_carried_73 : decode cX0_carried 73 = .ok (.iconst 1, 1) := dk_4 (dk_at dksX0_carried_3 4 rfl rfl)
theorem dX0_carried_74 : decode cX0_carried 74 = .ok (.bastore, 1) := dk_84 (dk_at dksX0_carried_3 5 rfl rfl)
theorem dX0_carried_75 : decode cX0_carried 75 = .ok (.iconst 1, 1) := dk_4 (dk_at dksX0_carried_3 6 rfl rfl)
theorem dX0_carried_76 : decode cX0_carried 76 = .ok (.istore 4, 2) := dk_54 4 (dk_at dksX0_carried_3 7 rfl rfl)
theorem dX0_carried_78 : decode cX0_carried 78 = .ok (.iload 4, 2) := dk_21 4 (dk_at dksX0_carried_3 9 rfl rfl)
theorem dX0_carried_80 : decode cX0_carried 80 = .ok (.ifCond .eq 13, 3) := dk_153 0 13 (dk_at dksX0_carried_3 11 rfl rfl)
theorem dX0_carried_83 : decode cX0_carried 83 = .ok (.aload_n 0, 1) := dk_42 (dk_at dksX0_carried_3 14 rfl rfl)
theorem dX0_carried_84 : decode cX0_carried 84 = .ok (.iload_n 1, 1) := dk_27 (dk_at dksX0_carried_3 15 rfl rfl)
theorem dX0_carried_85 : decode cX0_carried 85 = .ok (.invokevirtual 251, 3) := dk_182 0 251 (dk_at dksX0_carried_3 16 rfl rfl)
theorem dX0_carried_88 : decode cX0_carried 88 = .ok (.istore 4, 2) := dk_54 4 (dk_at dksX0_carried_3 19 rfl rfl)
theorem dX0_carried_90 : decode cX0_carried 90 = .ok (.goto (-12), 3) := dk_167 255 244 (dk_at dksX0_carried_3 21 rfl rfl)
theorem dX0_carried_93 : decode cX0_carried 93 = .ok (.iconst (-1), 1) := dk_2 (dk_at dksX0_carried_4 0 rfl rfl)
theorem dX0_carried_94 : decode cX0_carried 94 = .ok (.istore 5, 2) := dk_54 5 (dk_at dksX0_carried_4 1 rfl rfl)
theorem dX0_carried_96 : decode cX0_carried 96 = .ok (.iconst 0, 1) := dk_3 (dk_at dksX0_carried_4 3 rfl rfl)
theorem dX0_carried_97 : decode cX0_carried 97 = .ok (.istore 6, 2) := dk_54 6 (dk_at dksX0_carried_4 4 rfl rfl)
theorem dX0_carried_99 : decode cX0_carried 99 = .ok (.iload 6, 2) := dk_21 6 (dk_at dksX0_carried_4 6 rfl rfl)
theorem dX0_carried_101 : decode cX0_carried 101 = .ok (.iconst 1, 1) := dk_4 (dk_at dksX0_carried_4 8 rfl rfl)
theorem dX0_carried_102 : decode cX0_carried 102 = .ok (.aload_n 0, 1) := dk_42 (dk_at dksX0_carried_4 9 rfl rfl)
theorem dX0_carried_103 : decode cX0_carried 103 = .ok (.getfield 21, 3) := dk_180 0 21 (dk_at dksX0_carried_4 10 rfl rfl)
theorem dX0_carried_106 : decode cX0_carried 106 = .ok (.getfield 106, 3) := dk_180 0 106 (dk_at dksX0_carried_4 13 rfl rfl)
theorem dX0_carried_109 : decode cX0_carried 109 = .ok (.ishl, 1) := dk_120 (dk_at dksX0_carried_4 16 rfl rfl)
theorem dX0_carried_110 : decode cX0_carried 110 = .ok (.if_icmp .ge 61, 3) := dk_162 0 61 (dk_at dksX0_carried_4 17 rfl rfl)
theorem dX0_carried_113 : decode cX0_carried 113 = .ok (.iload 5, 2) := dk_21 5 (dk_at dksX0_carried_4 20 rfl rfl)
theorem dX0_carried_115 : decode cX0_carried 115 = .ok (.iconst (-1), 1) := dk_2 (dk_at dksX0_carried_4 22 rfl rfl)
theorem dX0_carried_116 : decode cX0_carried 116 = .ok (.if_icmp .eq 16, 3) := dk_159 0 16 (dk_at dksX0_carried_5 0 rfl rfl)
theorem dX0_carried_119 : decode cX0_carried 119 = .ok (.iload 6, 2) := dk_21 6 (dk_at dksX0_carried_5 3 rfl rfl)
theorem dX0_carried_121 : decode cX0_carried 121 = .ok (.invokestatic 254, 3) := dk_184 0 254 (dk_at dksX0_carried_5 5 rfl rfl)
theorem dX0_carried_124 : decode cX0_carried 124 = .ok (.iload 5, 2) := dk_21 5 (dk_at dksX0_carried_5 8 rfl rfl)
theorem dX0_carried_126 : decode cX0_carried 126 = .ok (.invokestatic 254, 3) := dk_184 0 254 (dk_at dksX0_carried_5 10 rfl rfl)
theorem dX0_carried_129 : decode cX0_carried 129 = .ok (.if_icmp .ge 7, 3) := dk_162 0 7 (dk_at dksX0_carried_5 13 rfl rfl)
theorem dX0_carried_132 : decode cX0_carried 132 = .ok (.iconst 1, 1) := dk_4 (dk_at dksX0_carried_5 16 rfl rfl)
theorem dX0_carried_133 : decode cX0_carried 133 = .ok (.goto 4, 3) := dk_167 0 4 (dk_at dksX0_carried_5 17 rfl rfl)
theorem dX0_carried_136 : decode cX0_carried 136 = .ok (.iconst 0, 1) := dk_3 (dk_at dksX0_carried_5 20 rfl rfl)
theorem dX0_carried_137 : decode cX0_carried 137 = .ok (.istore 7, 2) := dk_54 7 (dk_at dksX0_carried_5 21 rfl rfl)
theorem dX0_carried_139 : decode cX0_carried 139 = .ok (.aload_n 0, 1) := dk_42 (dk_at dksX0_carried_5 23 rfl rfl)
theorem dX0_carried_140 : decode cX0_carried 140 = .ok (.getfield 51, 3) := dk_180 0 51 (dk_at dksX0_carried_6 0 rfl rfl)
theorem dX0_carried_143 : decode cX0_carried 143 = .ok (.iload_n 2, 1) := dk_28 (dk_at dksX0_carried_6 3 rfl rfl)
theorem dX0_carried_144 : decode cX0_carried 144 = .ok (.aaload, 1) := dk_50 (dk_at dksX0_carried_6 4 rfl rfl)
theorem dX0_carried_145 : decode cX0_carried 145 = .ok (.iload 6, 2) := dk_21 6 (dk_at dksX0_carried_6 5 rfl rfl)
theorem dX0_carried_147 : decode cX0_carried 147 = .ok (.baload, 1) := dk_51 (dk_at dksX0_carried_6 7 rfl rfl)
theorem dX0_carried_148 : decode cX0_carried 148 = .ok (.ifCond .eq 13, 3) := dk_153 0 13 (dk_at dksX0_carried_6 8 rfl rfl)
theorem dX0_carried_151 : decode cX0_carried 151 = .ok (.iload 7, 2) := dk_21 7 (dk_at dksX0_carried_6 11 rfl rfl)
theorem dX0_carried_153 : decode cX0_carried 153 = .ok (.ifCond .eq 8, 3) := dk_153 0 8 (dk_at dksX0_carried_6 13 rfl rfl)
theorem dX0_carried_156 : decode cX0_carried 156 = .ok (.iload 6, 2) := dk_21 6 (dk_at dksX0_carried_6 16 rfl rfl)
theorem dX0_carried_158 : decode cX0_carried 158 = .ok (.goto 5, 3) := dk_167 0 5 (dk_at dksX0_carried_6 18 rfl rfl)
theorem dX0_carried_161 : decode cX0_carried 161 = .ok (.iload 5, 2) := dk_21 5 (dk_at dksX0_carried_6 21 rfl rfl)
theorem dX0_carried_163 : decode cX0_carried 163 = .ok (.istore 5, 2) := dk_54 5 (dk_at dksX0_carried_7 0 rfl rfl)
theorem dX0_carried_165 : decode cX0_carried 165 = .ok (.iinc 6 1, 3) := dk_132 6 1 (dk_at dksX0_carried_7 2 rfl rfl)
theorem dX0_carried_168 : decode cX0_carried 168 = .ok (.goto (-69), 3) := dk_167 255 187 (dk_at dksX0_carried_7 5 rfl rfl)
theorem dX0_carried_171 : decode cX0_carried 171 = .ok (.iload_n 3, 1) := dk_29 (dk_at dksX0_carried_7 8 rfl rfl)
theorem dX0_carried_172 : decode cX0_carried 172 = .ok (.iconst 1, 1) := dk_4 (dk_at dksX0_carried_7 9 rfl rfl)
theorem dX0_carried_173 : decode cX0_carried 173 = .ok (.if_icmp .eq 9, 3) := dk_159 0 9 (dk_at dksX0_carried_7 10 rfl rfl)
theorem dX0_carried_176 : decode cX0_carried 176 = .ok (.iload 5, 2) := dk_21 5 (dk_at dksX0_carried_7 13 rfl rfl)
theorem dX0_carried_178 : decode cX0_carried 178 = .ok (.iconst (-1), 1) := dk_2 (dk_at dksX0_carried_7 15 rfl rfl)
theorem dX0_carried_179 : decode cX0_carried 179 = .ok (.if_icmp .ne 8, 3) := dk_160 0 8 (dk_at dksX0_carried_7 16 rfl rfl)
theorem dX0_carried_182 : decode cX0_carried 182 = .ok (.iload 5, 2) := dk_21 5 (dk_at dksX0_carried_7 19 rfl rfl)
theorem dX0_carried_184 : decode cX0_carried 184 = .ok (.goto 8, 3) := dk_167 0 8 (dk_at dksX0_carried_7 21 rfl rfl)
theorem dX0_carried_187 : decode cX0_carried 187 = .ok (.iload 5, 2) := dk_21 5 (dk_at dksX0_carried_8 0 rfl rfl)
theorem dX0_carried_189 : decode cX0_carried 189 = .ok (.invokestatic 254, 3) := dk_184 0 254 (dk_at dksX0_carried_8 2 rfl rfl)
theorem dX0_carried_192 : decode cX0_carried 192 = .ok (.ireturn, 1) := dk_172 (dk_at dksX0_carried_8 5 rfl rfl)
abbrev cX0_bringAll : ByteArray := prog_1_method_39_code
def yX0_bringAll : MethodName := ⟨RX0, "bringAll", "(I)Z"⟩
def dkwX0_bringAll_5 : List UInt8 := [180, 0, 143, 21, 4, 182, 0, 242, 128, 61, 132, 4, 1, 167, 255, 147, 132, 3, 1, 167, 255, 127, 28, 172]
abbrev dktX0_bringAll_5 : List UInt8 := dkwX0_bringAll_5 ++ []
def dkwX0_bringAll_4 : List UInt8 := [180, 0, 143, 50, 21, 4, 51, 153, 0, 26, 28, 42, 27, 29, 42, 180, 0, 10, 180, 0, 113, 29, 50]
abbrev dktX0_bringAll_4 : List UInt8 := dkwX0_bringAll_4 ++ dktX0_bringAll_5
def dkwX0_bringAll_3 : List UInt8 := [180, 0, 153, 21, 4, 182, 0, 242, 128, 61, 42, 180, 0, 51, 42, 180, 0, 10, 180, 0, 113, 29, 50]
abbrev dktX0_bringAll_3 : List UInt8 := dkwX0_bringAll_3 ++ dktX0_bringAll_4
def dkwX0_bringAll_2 : List UInt8 := [180, 0, 153, 50, 21, 4, 51, 153, 0, 26, 28, 42, 27, 29, 42, 180, 0, 10, 180, 0, 113, 29, 50]
abbrev dktX0_bringAll_2 : List UInt8 := dkwX0_bringAll_2 ++ dktX0_bringAll_3
def dkwX0_bringAll_1 : List UInt8 := [180, 0, 21, 180, 0, 106, 120, 162, 0, 101, 42, 180, 0, 51, 42, 180, 0, 10, 180, 0, 113, 29, 50]
abbrev dktX0_bringAll_1 : List UInt8 := dkwX0_bringAll_1 ++ dktX0_bringAll_2
def dkwX0_bringAll_0 : List UInt8 := [3, 61, 3, 62, 29, 42, 180, 0, 10, 180, 0, 103, 162, 0, 124, 3, 54, 4, 21, 4, 4, 42]
abbrev dktX0_bringAll_0 : List UInt8 := dkwX0_bringAll_0 ++ dktX0_bringAll_1
theorem dksX0_bringAll_0 : cX0_bringAll.data.toList.drop 0 = dktX0_bringAll_0 := by decide +kernel
theorem dksX0_bringAll_1 : cX0_bringAll.data.toList.drop 22 = dktX0_bringAll_1 := dk_seg dksX0_bringAll_0 22 rfl rfl
theorem dksX0_bringAll_2 : cX0_bringAll.data.toList.drop 45 = dktX0_bringAll_2 := dk_seg dksX0_bringAll_1 23 rfl rfl
theorem dksX0_bringAll_3 : cX0_bringAll.data.toList.drop 68 = dktX0_bringAll_3 := dk_seg dksX0_bringAll_2 23 rfl rfl
theorem dksX0_bringAll_4 : cX0_bringAll.data.toList.drop 91 = dktX0_bringAll_4 := dk_seg dksX0_bringAll_3 23 rfl rfl
theorem dksX0_bringAll_5 : cX0_bringAll.data.toList.drop 114 = dktX0_bringAll_5 := dk_seg dksX0_bringAll_4 23 rfl rfl
theorem dX0_bringAll_0 : decode cX0_bringAll 0 = .ok (.iconst 0, 1) := dk_3 (dk_at dksX0_bringAll_0 0 rfl rfl)
theorem dX0_bringAll_1 : decode cX0_bringAll 1 = .ok (.istore_n 2, 1) := dk_61 (dk_at dksX0_bringAll_0 1 rfl rfl)
theorem dX0_bringAll_2 : decode cX0_bringAll 2 = .ok (.iconst 0, 1) := dk_3 (dk_at dksX0_bringAll_0 2 rfl rfl)
theorem dX0_bringAll_3 : decode cX0_bringAll 3 = .ok (.istore_n 3, 1) := dk_62 (dk_at dksX0_bringAll_0 3 rfl rfl)
theorem dX0_bringAll_4 : decode cX0_bringAll 4 = .ok (.iload_n 3, 1) := dk_29 (dk_at dksX0_bringAll_0 4 rfl rfl)
theorem dX0_bringAll_5 : decode cX0_bringAll 5 = .ok (.aload_n 0, 1) := dk_42 (dk_at dksX0_bringAll_0 5 rfl rfl)
theorem dX0_bringAll_6 : decode cX0_bringAll 6 = .ok (.getfield 10, 3) := dk_180 0 10 (dk_at dksX0_bringAll_0 6 rfl rfl)
theorem dX0_bringAll_9 : decode cX0_bringAll 9 = .ok (.getfield 103, 3) := dk_180 0 103 (dk_at dksX0_bringAll_0 9 rfl rfl)
theorem dX0_bringAll_12 : decode cX0_bringAll 12 = .ok (.if_icmp .ge 124, 3) := dk_162 0 124 (dk_at dksX0_bringAll_0 12 rfl rfl)
theorem dX0_bringAll_15 : decode cX0_bringAll 15 = .ok (.iconst 0, 1) := dk_3 (dk_at dksX0_bringAll_0 15 rfl rfl)
theorem dX0_bringAll_16 : decode cX0_bringAll 16 = .ok (.istore 4, 2) := dk_54 4 (dk_at dksX0_bringAll_0 16 rfl rfl)
theorem dX0_bringAll_18 : decode cX0_bringAll 18 = .ok (.iload 4, 2) := dk_21 4 (dk_at dksX0_bringAll_0 18 rfl rfl)
theorem dX0_bringAll_20 : decode cX0_bringAll 20 = .ok (.iconst 1, 1) := dk_4 (dk_at dksX0_bringAll_0 20 rfl rfl)
theorem dX0_bringAll_21 : decode cX0_bringAll 21 = .ok (.aload_n 0, 1) := dk_42 (dk_at dksX0_bringAll_0 21 rfl rfl)
theorem dX0_bringAll_22 : decode cX0_bringAll 22 = .ok (.getfield 21, 3) := dk_180 0 21 (dk_at dksX0_bringAll_1 0 rfl rfl)
theorem dX0_bringAll_25 : decode cX0_bringAll 25 = .ok (.getfield 106, 3) := dk_180 0 106 (dk_at dksX0_bringAll_1 3 rfl rfl)
theorem dX0_bringAll_28 : decode cX0_bringAll 28 = .ok (.ishl, 1) := dk_120 (dk_at dksX0_bringAll_1 6 rfl rfl)
theorem dX0_bringAll_29 : decode cX0_bringAll 29 = .ok (.if_icmp .ge 101, 3) := dk_162 0 101 (dk_at dksX0_bringAll_1 7 rfl rfl)
theorem dX0_bringAll_32 : decode cX0_bringAll 32 = .ok (.aload_n 0, 1) := dk_42 (dk_at dksX0_bringAll_1 10 rfl rfl)
theorem dX0_bringAll_33 : decode cX0_bringAll 33 = .ok (.getfield 51, 3) := dk_180 0 51 (dk_at dksX0_bringAll_1 11 rfl rfl)
theorem dX0_bringAll_36 : decode cX0_bringAll 36 = .ok (.aload_n 0, 1) := dk_42 (dk_at dksX0_bringAll_1 14 rfl rfl)
theorem dX0_bringAll_37 : decode cX0_bringAll 37 = .ok (.getfield 10, 3) := dk_180 0 10 (dk_at dksX0_bringAll_1 15 rfl rfl)
theorem dX0_bringAll_40 : decode cX0_bringAll 40 = .ok (.getfield 113, 3) := dk_180 0 113 (dk_at dksX0_bringAll_1 18 rfl rfl)
theorem dX0_bringAll_43 : decode cX0_bringAll 43 = .ok (.iload_n 3, 1) := dk_29 (dk_at dksX0_bringAll_1 21 rfl rfl)
theorem dX0_bringAll_44 : decode cX0_bringAll 44 = .ok (.aaload, 1) := dk_50 (dk_at dksX0_bringAll_1 22 rfl rfl)
theorem dX0_bringAll_45 : decode cX0_bringAll 45 = .ok (.getfield 153, 3) := dk_180 0 153 (dk_at dksX0_bringAll_2 0 rfl rfl)
theorem dX0_bringAll_48 : decode cX0_bringAll 48 = .ok (.aaload, 1) := dk_50 (dk_at dksX0_bringAll_2 3 rfl rfl)
theorem dX0_bringAll_49 : decode cX0_bringAll 49 = .ok (.iload 4, 2) := dk_21 4 (dk_at dksX0_bringAll_2 4 rfl rfl)
theorem dX0_bringAll_51 : decode cX0_bringAll 51 = .ok (.baload, 1) := dk_51 (dk_at dksX0_bringAll_2 6 rfl rfl)
theorem dX0_bringAll_52 : decode cX0_bringAll 52 = .ok (.ifCond .eq 26, 3) := dk_153 0 26 (dk_at dksX0_bringAll_2 7 rfl rfl)
theorem dX0_bringAll_55 : decode cX0_bringAll 55 = .ok (.iload_n 2, 1) := dk_28 (dk_at dksX0_bringAll_2 10 rfl rfl)
theorem dX0_bringAll_56 : decode cX0_bringAll 56 = .ok (.aload_n 0, 1) := dk_42 (dk_at dksX0_bringAll_2 11 rfl rfl)
theorem dX0_bringAll_57 : decode cX0_bringAll 57 = .ok (.iload_n 1, 1) := dk_27 (dk_at dksX0_bringAll_2 12 rfl rfl)
theorem dX0_bringAll_58 : decode cX0_bringAll 58 = .ok (.iload_n 3, 1) := dk_29 (dk_at dksX0_bringAll_2 13 rfl rfl)
theorem dX0_bringAll_59 : decode cX0_bringAll 59 = .ok (.aload_n 0, 1) := dk_42 (dk_at dksX0_bringAll_2 14 rfl rfl)
theorem dX0_bringAll_60 : decode cX0_bringAll 60 = .ok (.getfield 10, 3) := dk_180 0 10 (dk_at dksX0_bringAll_2 15 rfl rfl)
theorem dX0_bringAll_63 : decode cX0_bringAll 63 = .ok (.getfield 113, 3) := dk_180 0 113 (dk_at dksX0_bringAll_2 18 rfl rfl)
theorem dX0_bringAll_66 : decode cX0_bringAll 66 = .ok (.iload_n 3, 1) := dk_29 (dk_at dksX0_bringAll_2 21 rfl rfl)
theorem dX0_bringAll_67 : decode cX0_bringAll 67 = .ok (.aaload, 1) := dk_50 (dk_at dksX0_bringAll_2 22 rfl rfl)
theorem dX0_bringAll_68 : decode cX0_bringAll 68 = .ok (.getfield 153, 3) := dk_180 0 153 (dk_at dksX0_bringAll_3 0 rfl rfl)
theorem dX0_bringAll_71 : decode cX0_bringAll 71 = .ok (.iload 4, 2) := dk_21 4 (dk_at dksX0_bringAll_3 3 rfl rfl)
theorem dX0_bringAll_73 : decode cX0_bringAll 73 = .ok (.invokevirtual 242, 3) := dk_182 0 242 (dk_at dksX0_bringAll_3 5 rfl rfl)
theorem dX0_bringAll_76 : decode cX0_bringAll 76 = .ok (.ior, 1) := dk_128 (dk_at dksX0_bringAll_3 8 rfl rfl)
theorem dX0_bringAll_77 : decode cX0_bringAll 77 = .ok (.istore_n 2, 1) := dk_61 (dk_at dksX0_bringAll_3 9 rfl rfl)
theorem dX0_bringAll_78 : decode cX0_bringAll 78 = .ok (.aload_n 0, 1) := dk_42 (dk_at dksX0_bringAll_3 10 rfl rfl)
theorem dX0_bringAll_79 : decode cX0_bringAll 79 = .ok (.getfield 51, 3) := dk_180 0 51 (dk_at dksX0_bringAll_3 11 rfl rfl)
theorem dX0_bringAll_82 : decode cX0_bringAll 82 = .ok (.aload_n 0, 1) := dk_42 (dk_at dksX0_bringAll_3 14 rfl rfl)
theorem dX0_bringAll_83 : decode cX0_bringAll 83 = .ok (.getfield 10, 3) := dk_180 0 10 (dk_at dksX0_bringAll_3 15 rfl rfl)
theorem dX0_bringAll_86 : decode cX0_bringAll 86 = .ok (.getfield 113, 3) := dk_180 0 113 (dk_at dksX0_bringAll_3 18 rfl rfl)
theorem dX0_bringAll_89 : decode cX0_bringAll 89 = .ok (.iload_n 3, 1) := dk_29 (dk_at dksX0_bringAll_3 21 rfl rfl)
theorem dX0_bringAll_90 : decode cX0_bringAll 90 = .ok (.aaload, 1) := dk_50 (dk_at dksX0_bringAll_3 22 rfl rfl)
theorem dX0_bringAll_91 : decode cX0_bringAll 91 = .ok (.getfield 143, 3) := dk_180 0 143 (dk_at dksX0_bringAll_4 0 rfl rfl)
theorem dX0_bringAll_94 : decode cX0_bringAll 94 = .ok (.aaload, 1) := dk_50 (dk_at dksX0_bringAll_4 3 rfl rfl)
theorem dX0_bringAll_95 : decode cX0_bringAll 95 = .ok (.iload 4, 2) := dk_21 4 (dk_at dksX0_bringAll_4 4 rfl rfl)
theorem dX0_bringAll_97 : decode cX0_bringAll 97 = .ok (.baload, 1) := dk_51 (dk_at dksX0_bringAll_4 6 rfl rfl)
theorem dX0_bringAll_98 : decode cX0_bringAll 98 = .ok (.ifCond .eq 26, 3) := dk_153 0 26 (dk_at dksX0_bringAll_4 7 rfl rfl)
theorem dX0_bringAll_101 : decode cX0_bringAll 101 = .ok (.iload_n 2, 1) := dk_28 (dk_at dksX0_bringAll_4 10 rfl rfl)
theorem dX0_bringAll_102 : decode cX0_bringAll 102 = .ok (.aload_n 0, 1) := dk_42 (dk_at dksX0_bringAll_4 11 rfl rfl)
theorem dX0_bringAll_103 : decode cX0_bringAll 103 = .ok (.iload_n 1, 1) := dk_27 (dk_at dksX0_bringAll_4 12 rfl rfl)
theorem dX0_bringAll_104 : decode cX0_bringAll 104 = .ok (.iload_n 3, 1) := dk_29 (dk_at dksX0_bringAll_4 13 rfl rfl)
theorem dX0_bringAll_105 : decode cX0_bringAll 105 = .ok (.aload_n 0, 1) := dk_42 (dk_at dksX0_bringAll_4 14 rfl rfl)
theorem dX0_bringAll_106 : decode cX0_bringAll 106 = .ok (.getfield 10, 3) := dk_180 0 10 (dk_at dksX0_bringAll_4 15 rfl rfl)
theorem dX0_bringAll_109 : decode cX0_bringAll 109 = .ok (.getfield 113, 3) := dk_180 0 113 (dk_at dksX0_bringAll_4 18 rfl rfl)
theorem dX0_bringAll_112 : decode cX0_bringAll 112 = .ok (.iload_n 3, 1) := dk_29 (dk_at dksX0_bringAll_4 21 rfl rfl)
theorem dX0_bringAll_113 : decode cX0_bringAll 113 = .ok (.aaload, 1) := dk_50 (dk_at dksX0_bringAll_4 22 rfl rfl)
theorem dX0_bringAll_114 : decode cX0_bringAll 114 = .ok (.getfield 143, 3) := dk_180 0 143 (dk_at dksX0_bringAll_5 0 rfl rfl)
theorem dX0_bringAll_117 : decode cX0_bringAll 117 = .ok (.iload 4, 2) := dk_21 4 (dk_at dksX0_bringAll_5 3 rfl rfl)
theorem dX0_bringAll_119 : decode cX0_bringAll 119 = .ok (.invokevirtual 242, 3) := dk_182 0 242 (dk_at dksX0_bringAll_5 5 rfl rfl)
theorem dX0_bringAll_122 : decode cX0_bringAll 122 = .ok (.ior, 1) := dk_128 (dk_at dksX0_bringAll_5 8 rfl rfl)
theorem dX0_bringAll_123 : decode cX0_bringAll 123 = .ok (.istore_n 2, 1) := dk_61 (dk_at dksX0_bringAll_5 9 rfl rfl)
theorem dX0_bringAll_124 : decode cX0_bringAll 124 = .ok (.iinc 4 1, 3) := dk_132 4 1 (dk_at dksX0_bringAll_5 10 rfl rfl)
theorem dX0_bringAll_127 : decode cX0_bringAll 127 = .ok (.goto (-109), 3) := dk_167 255 147 (dk_at dksX0_bringAll_5 13 rfl rfl)
theorem dX0_bringAll_130 : decode cX0_bringAll 130 = .ok (.iinc 3 1, 3) := dk_132 3 1 (dk_at dksX0_bringAll_5 16 rfl rfl)
theorem dX0_bringAll_133 : decode cX0_bringAll 133 = .ok (.goto (-129), 3) := dk_167 255 127 (dk_at dksX0_bringAll_5 19 rfl rfl)
theorem dX0_bringAll_136 : decode cX0_bringAll 136 = .ok (.iload_n 2, 1) := dk_28 (dk_at dksX0_bringAll_5 22 rfl rfl)
theorem dX0_bringAll_137 : decode cX0_bringAll 137 = .ok (.ireturn, 1) := dk_172 (dk_at dksX0_bringAll_5 23 rfl rfl)
abbrev cX0_bring : ByteArray := prog_1_method_38_code
def yX0_bring : MethodName := ⟨RX0, "bring", "(IIII)Z"⟩
def dkwX0_bring_8 : List UInt8 := [132, 7, 1, 167, 255, 144, 21, 6, 172]
abbrev dktX0_bring_8 : List UInt8 := dkwX0_bring_8 ++ []
def dkwX0_bring_7 : List UInt8 := [154, 0, 22, 42, 180, 0, 51, 21, 5, 50, 21, 4, 4, 21, 7, 120, 128, 4, 84, 4, 54, 6]
abbrev dktX0_bring_7 : List UInt8 := dkwX0_bring_7 ++ dktX0_bring_8
def dkwX0_bring_6 : List UInt8 := [54, 8, 21, 8, 153, 0, 40, 42, 180, 0, 51, 21, 5, 50, 21, 4, 4, 21, 7, 120, 128, 51]
abbrev dktX0_bring_6 : List UInt8 := dkwX0_bring_6 ++ dktX0_bring_7
def dkwX0_bring_5 : List UInt8 := [182, 0, 160, 153, 0, 20, 42, 21, 7, 182, 0, 193, 29, 184, 0, 156, 153, 0, 7, 4, 167, 0, 4, 3]
abbrev dktX0_bring_5 : List UInt8 := dkwX0_bring_5 ++ dktX0_bring_6
def dkwX0_bring_4 : List UInt8 := [28, 29, 42, 180, 0, 21, 180, 0, 166, 21, 7, 46, 42, 180, 0, 21, 180, 0, 169, 21, 7, 46]
abbrev dktX0_bring_4 : List UInt8 := dkwX0_bring_4 ++ dktX0_bring_5
def dkwX0_bring_3 : List UInt8 := [54, 6, 3, 54, 7, 21, 7, 42, 180, 0, 21, 180, 0, 106, 162, 0, 106, 21, 7, 27, 159, 0, 49, 42]
abbrev dktX0_bring_3 : List UInt8 := dkwX0_bring_3 ++ dktX0_bring_4
def dkwX0_bring_2 : List UInt8 := [180, 0, 51, 21, 5, 50, 21, 4, 51, 154, 0, 17, 42, 180, 0, 51, 21, 5, 50, 21, 4, 4, 84, 4]
abbrev dktX0_bring_2 : List UInt8 := dkwX0_bring_2 ++ dktX0_bring_3
def dkwX0_bring_1 : List UInt8 := [180, 0, 21, 180, 0, 166, 27, 46, 42, 180, 0, 21, 180, 0, 169, 27, 46, 182, 0, 160, 153, 0, 30, 42]
abbrev dktX0_bring_1 : List UInt8 := dkwX0_bring_1 ++ dktX0_bring_2
def dkwX0_bring_0 : List UInt8 := [42, 180, 0, 10, 180, 0, 113, 28, 50, 29, 182, 0, 146, 54, 5, 3, 54, 6, 42, 28, 29, 42]
abbrev dktX0_bring_0 : List UInt8 := dkwX0_bring_0 ++ dktX0_bring_1
theorem dksX0_bring_0 : cX0_bring.data.toList.drop 0 = dktX0_bring_0 := by decide +kernel
theorem dksX0_bring_1 : cX0_bring.data.toList.drop 22 = dktX0_bring_1 := dk_seg dksX0_bring_0 22 rfl rfl
theorem dksX0_bring_2 : cX0_bring.data.toList.drop 46 = dktX0_bring_2 := dk_seg dksX0_bring_1 24 rfl rfl
theorem dksX0_bring_3 : cX0_bring.data.toList.drop 70 = dktX0_bring_3 := dk_seg dksX0_bring_2 24 rfl rfl
theorem dksX0_bring_4 : cX0_bring.data.toList.drop 94 = dktX0_bring_4 := dk_seg dksX0_bring_3 24 rfl rfl
theorem dksX0_bring_5 : cX0_bring.data.toList.drop 116 = dktX0_bring_5 := dk_seg dksX0_bring_4 22 rfl rfl
theorem dksX0_bring_6 : cX0_bring.data.toList.drop 140 = dktX0_bring_6 := dk_seg dksX0_bring_5 24 rfl rfl
theorem dksX0_bring_7 : cX0_bring.data.toList.drop 162 = dktX0_bring_7 := dk_seg dksX0_bring_6 22 rfl rfl
theorem dksX0_bring_8 : cX0_bring.data.toList.drop 184 = dktX0_bring_8 := dk_seg dksX0_bring_7 22 rfl rfl
theorem dX0_bring_0 : decode cX0_bring 0 = .ok (.aload_n 0, 1) := dk_42 (dk_at dksX0_bring_0 0 rfl rfl)
theorem dX0_bring_1 : decode cX0_bring 1 = .ok (.getfield 10, 3) := dk_180 0 10 (dk_at dksX0_bring_0 1 rfl rfl)
theorem dX0_bring_4 : decode cX0_bring 4 = .ok (.getfield 113, 3) := dk_180 0 113 (dk_at dksX0_bring_0 4 rfl rfl)
theorem dX0_bring_7 : decode cX0_bring 7 = .ok (.iload_n 2, 1) := dk_28 (dk_at dksX0_bring_0 7 rfl rfl)
theorem dX0_bring_8 : decode cX0_bring 8 = .ok (.aaload, 1) := dk_50 (dk_at dksX0_bring_0 8 rfl rfl)
theorem dX0_bring_9 : decode cX0_bring 9 = .ok (.iload_n 3, 1) := dk_29 (dk_at dksX0_bring_0 9 rfl rfl)
theorem dX0_bring_10 : decode cX0_bring 10 = .ok (.invokevirtual 146, 3) := dk_182 0 146 (dk_at dksX0_bring_0 10 rfl rfl)
theorem dX0_bring_13 : decode cX0_bring 13 = .ok (.istore 5, 2) := dk_54 5 (dk_at dksX0_bring_0 13 rfl rfl)
theorem dX0_bring_15 : decode cX0_bring 15 = .ok (.iconst 0, 1) := dk_3 (dk_at dksX0_bring_0 15 rfl rfl)
theorem dX0_bring_16 : decode cX0_bring 16 = .ok (.istore 6, 2) := dk_54 6 (dk_at dksX0_bring_0 16 rfl rfl)
theorem dX0_bring_18 : decode cX0_bring 18 = .ok (.aload_n 0, 1) := dk_42 (dk_at dksX0_bring_0 18 rfl rfl)
theorem dX0_bring_19 : decode cX0_bring 19 = .ok (.iload_n 2, 1) := dk_28 (dk_at dksX0_bring_0 19 rfl rfl)
theorem dX0_bring_20 : decode cX0_bring 20 = .ok (.iload_n 3, 1) := dk_29 (dk_at dksX0_bring_0 20 rfl rfl)
theorem dX0_bring_21 : decode cX0_bring 21 = .ok (.aload_n 0, 1) := dk_42 (dk_at dksX0_bring_0 21 rfl rfl)
theorem dX0_bring_22 : decode cX0_bring 22 = .ok (.getfield 21, 3) := dk_180 0 21 (dk_at dksX0_bring_1 0 rfl rfl)
theorem dX0_bring_25 : decode cX0_bring 25 = .ok (.getfield 166, 3) := dk_180 0 166 (dk_at dksX0_bring_1 3 rfl rfl)
theorem dX0_bring_28 : decode cX0_bring 28 = .ok (.iload_n 1, 1) := dk_27 (dk_at dksX0_bring_1 6 rfl rfl)
theorem dX0_bring_29 : decode cX0_bring 29 = .ok (.iaload, 1) := dk_46 (dk_at dksX0_bring_1 7 rfl rfl)
theorem dX0_bring_30 : decode cX0_bring 30 = .ok (.aload_n 0, 1) := dk_42 (dk_at dksX0_bring_1 8 rfl rfl)
theorem dX0_bring_31 : decode cX0_bring 31 = .ok (.getfield 21, 3) := dk_180 0 21 (dk_at dksX0_bring_1 9 rfl rfl)
theorem dX0_bring_34 : decode cX0_bring 34 = .ok (.getfield 169, 3) := dk_180 0 169 (dk_at dksX0_bring_1 12 rfl rfl)
theorem dX0_bring_37 : decode cX0_bring 37 = .ok (.iload_n 1, 1) := dk_27 (dk_at dksX0_bring_1 15 rfl rfl)
theorem dX0_bring_38 : decode cX0_bring 38 = .ok (.iaload, 1) := dk_46 (dk_at dksX0_bring_1 16 rfl rfl)
theorem dX0_bring_39 : decode cX0_bring 39 = .ok (.invokevirtual 160, 3) := dk_182 0 160 (dk_at dksX0_bring_1 17 rfl rfl)
theorem dX0_bring_42 : decode cX0_bring 42 = .ok (.ifCond .eq 30, 3) := dk_153 0 30 (dk_at dksX0_bring_1 20 rfl rfl)
theorem dX0_bring_45 : decode cX0_bring 45 = .ok (.aload_n 0, 1) := dk_42 (dk_at dksX0_bring_1 23 rfl rfl)
theorem dX0_bring_46 : decode cX0_bring 46 = .ok (.getfield 51, 3) := dk_180 0 51 (dk_at dksX0_bring_2 0 rfl rfl)
theorem dX0_bring_49 : decode cX0_bring 49 = .ok (.iload 5, 2) := dk_21 5 (dk_at dksX0_bring_2 3 rfl rfl)
theorem dX0_bring_51 : decode cX0_bring 51 = .ok (.aaload, 1) := dk_50 (dk_at dksX0_bring_2 5 rfl rfl)
theorem dX0_bring_52 : decode cX0_bring 52 = .ok (.iload 4, 2) := dk_21 4 (dk_at dksX0_bring_2 6 rfl rfl)
theorem dX0_bring_54 : decode cX0_bring 54 = .ok (.baload, 1) := dk_51 (dk_at dksX0_bring_2 8 rfl rfl)
theorem dX0_bring_55 : decode cX0_bring 55 = .ok (.ifCond .ne 17, 3) := dk_154 0 17 (dk_at dksX0_bring_2 9 rfl rfl)
theorem dX0_bring_58 : decode cX0_bring 58 = .ok (.aload_n 0, 1) := dk_42 (dk_at dksX0_bring_2 12 rfl rfl)
theorem dX0_bring_59 : decode cX0_bring 59 = .ok (.getfield 51, 3) := dk_180 0 51 (dk_at dksX0_bring_2 13 rfl rfl)
theorem dX0_bring_62 : decode cX0_bring 62 = .ok (.iload 5, 2) := dk_21 5 (dk_at dksX0_bring_2 16 rfl rfl)
theorem dX0_bring_64 : decode cX0_bring 64 = .ok (.aaload, 1) := dk_50 (dk_at dksX0_bring_2 18 rfl rfl)
theorem dX0_bring_65 : decode cX0_bring 65 = .ok (.iload 4, 2) := dk_21 4 (dk_at dksX0_bring_2 19 rfl rfl)
theorem dX0_bring_67 : decode cX0_bring 67 = .ok (.iconst 1, 1) := dk_4 (dk_at dksX0_bring_2 21 rfl rfl)
theorem dX0_bring_68 : decode cX0_bring 68 = .ok (.bastore, 1) := dk_84 (dk_at dksX0_bring_2 22 rfl rfl)
theorem dX0_bring_69 : decode cX0_bring 69 = .ok (.iconst 1, 1) := dk_4 (dk_at dksX0_bring_2 23 rfl rfl)
theorem dX0_bring_70 : decode cX0_bring 70 = .ok (.istore 6, 2) := dk_54 6 (dk_at dksX0_bring_3 0 rfl rfl)
theorem dX0_bring_72 : decode cX0_bring 72 = .ok (.iconst 0, 1) := dk_3 (dk_at dksX0_bring_3 2 rfl rfl)
theorem dX0_bring_73 : decode cX0_bring 73 = .ok (.istore 7, 2) := dk_54 7 (dk_at dksX0_bring_3 3 rfl rfl)
theorem dX0_bring_75 : decode cX0_bring 75 = .ok (.iload 7, 2) := dk_21 7 (dk_at dksX0_bring_3 5 rfl rfl)
theorem dX0_bring_77 : decode cX0_bring 77 = .ok (.aload_n 0, 1) := dk_42 (dk_at dksX0_bring_3 7 rfl rfl)
theorem dX0_bring_78 : decode cX0_bring 78 = .ok (.getfield 21, 3) := dk_180 0 21 (dk_at dksX0_bring_3 8 rfl rfl)
theorem dX0_bring_81 : decode cX0_bring 81 = .ok (.getfield 106, 3) := dk_180 0 106 (dk_at dksX0_bring_3 11 rfl rfl)
theorem dX0_bring_84 : decode cX0_bring 84 = .ok (.if_icmp .ge 106, 3) := dk_162 0 106 (dk_at dksX0_bring_3 14 rfl rfl)
theorem dX0_bring_87 : decode cX0_bring 87 = .ok (.iload 7, 2) := dk_21 7 (dk_at dksX0_bring_3 17 rfl rfl)
theorem dX0_bring_89 : decode cX0_bring 89 = .ok (.iload_n 1, 1) := dk_27 (dk_at dksX0_bring_3 19 rfl rfl)
theorem dX0_bring_90 : decode cX0_bring 90 = .ok (.if_icmp .eq 49, 3) := dk_159 0 49 (dk_at dksX0_bring_3 20 rfl rfl)
theorem dX0_bring_93 : decode cX0_bring 93 = .ok (.aload_n 0, 1) := dk_42 (dk_at dksX0_bring_3 23 rfl rfl)
theorem dX0_bring_94 : decode cX0_bring 94 = .ok (.iload_n 2, 1) := dk_28 (dk_at dksX0_bring_4 0 rfl rfl)
theorem dX0_bring_95 : decode cX0_bring 95 = .ok (.iload_n 3, 1) := dk_29 (dk_at dksX0_bring_4 1 rfl rfl)
theorem dX0_bring_96 : decode cX0_bring 96 = .ok (.aload_n 0, 1) := dk_42 (dk_at dksX0_bring_4 2 rfl rfl)
theorem dX0_bring_97 : decode cX0_bring 97 = .ok (.getfield 21, 3) := dk_180 0 21 (dk_at dksX0_bring_4 3 rfl rfl)
theorem dX0_bring_100 : decode cX0_bring 100 = .ok (.getfield 166, 3) := dk_180 0 166 (dk_at dksX0_bring_4 6 rfl rfl)
theorem dX0_bring_103 : decode cX0_bring 103 = .ok (.iload 7, 2) := dk_21 7 (dk_at dksX0_bring_4 9 rfl rfl)
theorem dX0_bring_105 : decode cX0_bring 105 = .ok (.iaload, 1) := dk_46 (dk_at dksX0_bring_4 11 rfl rfl)
theorem dX0_bring_106 : decode cX0_bring 106 = .ok (.aload_n 0, 1) := dk_42 (dk_at dksX0_bring_4 12 rfl rfl)
theorem dX0_bring_107 : decode cX0_bring 107 = .ok (.getfield 21, 3) := dk_180 0 21 (dk_at dksX0_bring_4 13 rfl rfl)
theorem dX0_bring_110 : decode cX0_bring 110 = .ok (.getfield 169, 3) := dk_180 0 169 (dk_at dksX0_bring_4 16 rfl rfl)
theorem dX0_bring_113 : decode cX0_bring 113 = .ok (.iload 7, 2) := dk_21 7 (dk_at dksX0_bring_4 19 rfl rfl)
theorem dX0_bring_115 : decode cX0_bring 115 = .ok (.iaload, 1) := dk_46 (dk_at dksX0_bring_4 21 rfl rfl)
theorem dX0_bring_116 : decode cX0_bring 116 = .ok (.invokevirtual 160, 3) := dk_182 0 160 (dk_at dksX0_bring_5 0 rfl rfl)
theorem dX0_bring_119 : decode cX0_bring 119 = .ok (.ifCond .eq 20, 3) := dk_153 0 20 (dk_at dksX0_bring_5 3 rfl rfl)
theorem dX0_bring_122 : decode cX0_bring 122 = .ok (.aload_n 0, 1) := dk_42 (dk_at dksX0_bring_5 6 rfl rfl)
theorem dX0_bring_123 : decode cX0_bring 123 = .ok (.iload 7, 2) := dk_21 7 (dk_at dksX0_bring_5 7 rfl rfl)
theorem dX0_bring_125 : decode cX0_bring 125 = .ok (.invokevirtual 193, 3) := dk_182 0 193 (dk_at dksX0_bring_5 9 rfl rfl)
theorem dX0_bring_128 : decode cX0_bring 128 = .ok (.iload_n 3, 1) := dk_29 (dk_at dksX0_bring_5 12 rfl rfl)
theorem dX0_bring_129 : decode cX0_bring 129 = .ok (.invokestatic 156, 3) := dk_184 0 156 (dk_at dksX0_bring_5 13 rfl rfl)
theorem dX0_bring_132 : decode cX0_bring 132 = .ok (.ifCond .eq 7, 3) := dk_153 0 7 (dk_at dksX0_bring_5 16 rfl rfl)
theorem dX0_bring_135 : decode cX0_bring 135 = .ok (.iconst 1, 1) := dk_4 (dk_at dksX0_bring_5 19 rfl rfl)
theorem dX0_bring_136 : decode cX0_bring 136 = .ok (.goto 4, 3) := dk_167 0 4 (dk_at dksX0_bring_5 20 rfl rfl)
theorem dX0_bring_139 : decode cX0_bring 139 = .ok (.iconst 0, 1) := dk_3 (dk_at dksX0_bring_5 23 rfl rfl)
theorem dX0_bring_140 : decode cX0_bring 140 = .ok (.istore 8, 2) := dk_54 8 (dk_at dksX0_bring_6 0 rfl rfl)
theorem dX0_bring_142 : decode cX0_bring 142 = .ok (.iload 8, 2) := dk_21 8 (dk_at dksX0_bring_6 2 rfl rfl)
theorem dX0_bring_144 : decode cX0_bring 144 = .ok (.ifCond .eq 40, 3) := dk_153 0 40 (dk_at dksX0_bring_6 4 rfl rfl)
theorem dX0_bring_147 : decode cX0_bring 147 = .ok (.aload_n 0, 1) := dk_42 (dk_at dksX0_bring_6 7 rfl rfl)
theorem dX0_bring_148 : decode cX0_bring 148 = .ok (.getfield 51, 3) := dk_180 0 51 (dk_at dksX0_bring_6 8 rfl rfl)
theorem dX0_bring_151 : decode cX0_bring 151 = .ok (.iload 5, 2) := dk_21 5 (dk_at dksX0_bring_6 11 rfl rfl)
theorem dX0_bring_153 : decode cX0_bring 153 = .ok (.aaload, 1) := dk_50 (dk_at dksX0_bring_6 13 rfl rfl)
theorem dX0_bring_154 : decode cX0_bring 154 = .ok (.iload 4, 2) := dk_21 4 (dk_at dksX0_bring_6 14 rfl rfl)
theorem dX0_bring_156 : decode cX0_bring 156 = .ok (.iconst 1, 1) := dk_4 (dk_at dksX0_bring_6 16 rfl rfl)
theorem dX0_bring_157 : decode cX0_bring 157 = .ok (.iload 7, 2) := dk_21 7 (dk_at dksX0_bring_6 17 rfl rfl)
theorem dX0_bring_159 : decode cX0_bring 159 = .ok (.ishl, 1) := dk_120 (dk_at dksX0_bring_6 19 rfl rfl)
theorem dX0_bring_160 : decode cX0_bring 160 = .ok (.ior, 1) := dk_128 (dk_at dksX0_bring_6 20 rfl rfl)
theorem dX0_bring_161 : decode cX0_bring 161 = .ok (.baload, 1) := dk_51 (dk_at dksX0_bring_6 21 rfl rfl)
theorem dX0_bring_162 : decode cX0_bring 162 = .ok (.ifCond .ne 22, 3) := dk_154 0 22 (dk_at dksX0_bring_7 0 rfl rfl)
theorem dX0_bring_165 : decode cX0_bring 165 = .ok (.aload_n 0, 1) := dk_42 (dk_at dksX0_bring_7 3 rfl rfl)
theorem dX0_bring_166 : decode cX0_bring 166 = .ok (.getfield 51, 3) := dk_180 0 51 (dk_at dksX0_bring_7 4 rfl rfl)
theorem dX0_bring_169 : decode cX0_bring 169 = .ok (.iload 5, 2) := dk_21 5 (dk_at dksX0_bring_7 7 rfl rfl)
theorem dX0_bring_171 : decode cX0_bring 171 = .ok (.aaload, 1) := dk_50 (dk_at dksX0_bring_7 9 rfl rfl)
theorem dX0_bring_172 : decode cX0_bring 172 = .ok (.iload 4, 2) := dk_21 4 (dk_at dksX0_bring_7 10 rfl rfl)
theorem dX0_bring_174 : decode cX0_bring 174 = .ok (.iconst 1, 1) := dk_4 (dk_at dksX0_bring_7 12 rfl rfl)
theorem dX0_bring_175 : decode cX0_bring 175 = .ok (.iload 7, 2) := dk_21 7 (dk_at dksX0_bring_7 13 rfl rfl)
theorem dX0_bring_177 : decode cX0_bring 177 = .ok (.ishl, 1) := dk_120 (dk_at dksX0_bring_7 15 rfl rfl)
theorem dX0_bring_178 : decode cX0_bring 178 = .ok (.ior, 1) := dk_128 (dk_at dksX0_bring_7 16 rfl rfl)
theorem dX0_bring_179 : decode cX0_bring 179 = .ok (.iconst 1, 1) := dk_4 (dk_at dksX0_bring_7 17 rfl rfl)
theorem dX0_bring_180 : decode cX0_bring 180 = .ok (.bastore, 1) := dk_84 (dk_at dksX0_bring_7 18 rfl rfl)
theorem dX0_bring_181 : decode cX0_bring 181 = .ok (.iconst 1, 1) := dk_4 (dk_at dksX0_bring_7 19 rfl rfl)
theorem dX0_bring_182 : decode cX0_bring 182 = .ok (.istore 6, 2) := dk_54 6 (dk_at dksX0_bring_7 20 rfl rfl)
theorem dX0_bring_184 : decode cX0_bring 184 = .ok (.iinc 7 1, 3) := dk_132 7 1 (dk_at dksX0_bring_8 0 rfl rfl)
theorem dX0_bring_187 : decode cX0_bring 187 = .ok (.goto (-112), 3) := dk_167 255 144 (dk_at dksX0_bring_8 3 rfl rfl)
theorem dX0_bring_190 : decode cX0_bring 190 = .ok (.iload 6, 2) := dk_21 6 (dk_at dksX0_bring_8 6 rfl rfl)
theorem dX0_bring_192 : decode cX0_bring 192 = .ok (.ireturn, 1) := dk_172 (dk_at dksX0_bring_8 8 rfl rfl)
abbrev cX0_step : ByteArray := prog_1_method_42_code
def yX0_step : MethodName := ⟨RX0, "step", "(IIII)I"⟩
def dkwX0_step_4 : List UInt8 := [21, 7, 2, 130, 126, 167, 0, 10, 21, 7, 21, 6, 2, 130, 126, 184, 0, 254, 172]
abbrev dktX0_step_4 : List UInt8 := dkwX0_step_4 ++ []
def dkwX0_step_3 : List UInt8 := [172, 42, 27, 28, 29, 182, 1, 3, 54, 6, 42, 27, 182, 0, 187, 54, 7, 21, 4, 154, 0, 13, 21, 6]
abbrev dktX0_step_3 : List UInt8 := dkwX0_step_3 ++ dktX0_step_4
def dkwX0_step_2 : List UInt8 := [180, 0, 21, 180, 0, 122, 27, 50, 28, 46, 29, 96, 4, 17, 2, 208, 184, 0, 61, 154, 0, 6, 18, 65]
abbrev dktX0_step_2 : List UInt8 := dkwX0_step_2 ++ dktX0_step_3
def dkwX0_step_1 : List UInt8 := [167, 0, 4, 3, 54, 5, 21, 5, 153, 0, 36, 21, 4, 3, 4, 184, 0, 61, 153, 0, 26, 42]
abbrev dktX0_step_1 : List UInt8 := dkwX0_step_1 ++ dktX0_step_2
def dkwX0_step_0 : List UInt8 := [42, 27, 28, 182, 0, 216, 154, 0, 6, 18, 183, 172, 29, 4, 159, 0, 8, 29, 2, 160, 0, 7, 4]
abbrev dktX0_step_0 : List UInt8 := dkwX0_step_0 ++ dktX0_step_1
theorem dksX0_step_0 : cX0_step.data.toList.drop 0 = dktX0_step_0 := by decide +kernel
theorem dksX0_step_1 : cX0_step.data.toList.drop 23 = dktX0_step_1 := dk_seg dksX0_step_0 23 rfl rfl
theorem dksX0_step_2 : cX0_step.data.toList.drop 45 = dktX0_step_2 := dk_seg dksX0_step_1 22 rfl rfl
theorem dksX0_step_3 : cX0_step.data.toList.drop 69 = dktX0_step_3 := dk_seg dksX0_step_2 24 rfl rfl
theorem dksX0_step_4 : cX0_step.data.toList.drop 93 = dktX0_step_4 := dk_seg dksX0_step_3 24 rfl rfl
theorem dX0_step_0 : decode cX0_step 0 = .ok (.aload_n 0, 1) := dk_42 (dk_at dksX0_step_0 0 rfl rfl)
theorem dX0_step_1 : decode cX0_step 1 = .ok (.iload_n 1, 1) := dk_27 (dk_at dksX0_step_0 1 rfl rfl)
theorem dX0_step_2 : decode cX0_step 2 = .ok (.iload_n 2, 1) := dk_28 (dk_at dksX0_step_0 2 rfl rfl)
theorem dX0_step_3 : decode cX0_step 3 = .ok (.invokevirtual 216, 3) := dk_182 0 216 (dk_at dksX0_step_0 3 rfl rfl)
theorem dX0_step_6 : decode cX0_step 6 = .ok (.ifCond .ne 6, 3) := dk_154 0 6 (dk_at dksX0_step_0 6 rfl rfl)
theorem dX0_step_9 : decode cX0_step 9 = .ok (.ldc 183, 2) := dk_18 183 (dk_at dksX0_step_0 9 rfl rfl)
theorem dX0_step_11 : decode cX0_step 11 = .ok (.ireturn, 1) := dk_172 (dk_at dksX0_step_0 11 rfl rfl)
theorem dX0_step_12 : decode cX0_step 12 = .ok (.iload_n 3, 1) := dk_29 (dk_at dksX0_step_0 12 rfl rfl)
theorem dX0_step_13 : decode cX0_step 13 = .ok (.iconst 1, 1) := dk_4 (dk_at dksX0_step_0 13 rfl rfl)
theorem dX0_step_14 : decode cX0_step 14 = .ok (.if_icmp .eq 8, 3) := dk_159 0 8 (dk_at dksX0_step_0 14 rfl rfl)
theorem dX0_step_17 : decode cX0_step 17 = .ok (.iload_n 3, 1) := dk_29 (dk_at dksX0_step_0 17 rfl rfl)
theorem dX0_step_18 : decode cX0_step 18 = .ok (.iconst (-1), 1) := dk_2 (dk_at dksX0_step_0 18 rfl rfl)
theorem dX0_step_19 : decode cX0_step 19 = .ok (.if_icmp .ne 7, 3) := dk_160 0 7 (dk_at dksX0_step_0 19 rfl rfl)
theorem dX0_step_22 : decode cX0_step 22 = .ok (.iconst 1, 1) := dk_4 (dk_at dksX0_step_0 22 rfl rfl)
theorem dX0_step_23 : decode cX0_step 23 = .ok (.goto 4, 3) := dk_167 0 4 (dk_at dksX0_step_1 0 rfl rfl)
theorem dX0_step_26 : decode cX0_step 26 = .ok (.iconst 0, 1) := dk_3 (dk_at dksX0_step_1 3 rfl rfl)
theorem dX0_step_27 : decode cX0_step 27 = .ok (.istore 5, 2) := dk_54 5 (dk_at dksX0_step_1 4 rfl rfl)
theorem dX0_step_29 : decode cX0_step 29 = .ok (.iload 5, 2) := dk_21 5 (dk_at dksX0_step_1 6 rfl rfl)
theorem dX0_step_31 : decode cX0_step 31 = .ok (.ifCond .eq 36, 3) := dk_153 0 36 (dk_at dksX0_step_1 8 rfl rfl)
theorem dX0_step_34 : decode cX0_step 34 = .ok (.iload 4, 2) := dk_21 4 (dk_at dksX0_step_1 11 rfl rfl)
theorem dX0_step_36 : decode cX0_step 36 = .ok (.iconst 0, 1) := dk_3 (dk_at dksX0_step_1 13 rfl rfl)
theorem dX0_step_37 : decode cX0_step 37 = .ok (.iconst 1, 1) := dk_4 (dk_at dksX0_step_1 14 rfl rfl)
theorem dX0_step_38 : decode cX0_step 38 = .ok (.invokestatic 61, 3) := dk_184 0 61 (dk_at dksX0_step_1 15 rfl rfl)
theorem dX0_step_41 : decode cX0_step 41 = .ok (.ifCond .eq 26, 3) := dk_153 0 26 (dk_at dksX0_step_1 18 rfl rfl)
theorem dX0_step_44 : decode cX0_step 44 = .ok (.aload_n 0, 1) := dk_42 (dk_at dksX0_step_1 21 rfl rfl)
theorem dX0_step_45 : decode cX0_step 45 = .ok (.getfield 21, 3) := dk_180 0 21 (dk_at dksX0_step_2 0 rfl rfl)
theorem dX0_step_48 : decode cX0_step 48 = .ok (.getfield 122, 3) := dk_180 0 122 (dk_at dksX0_step_2 3 rfl rfl)
theorem dX0_step_51 : decode cX0_step 51 = .ok (.iload_n 1, 1) := dk_27 (dk_at dksX0_step_2 6 rfl rfl)
theorem dX0_step_52 : decode cX0_step 52 = .ok (.aaload, 1) := dk_50 (dk_at dksX0_step_2 7 rfl rfl)
theorem dX0_step_53 : decode cX0_step 53 = .ok (.iload_n 2, 1) := dk_28 (dk_at dksX0_step_2 8 rfl rfl)
theorem dX0_step_54 : decode cX0_step 54 = .ok (.iaload, 1) := dk_46 (dk_at dksX0_step_2 9 rfl rfl)
theorem dX0_step_55 : decode cX0_step 55 = .ok (.iload_n 3, 1) := dk_29 (dk_at dksX0_step_2 10 rfl rfl)
theorem dX0_step_56 : decode cX0_step 56 = .ok (.iadd, 1) := dk_96 (dk_at dksX0_step_2 11 rfl rfl)
theorem dX0_step_57 : decode cX0_step 57 = .ok (.iconst 1, 1) := dk_4 (dk_at dksX0_step_2 12 rfl rfl)
theorem dX0_step_58 : decode cX0_step 58 = .ok (.sipush 720, 3) := dk_17 2 208 (dk_at dksX0_step_2 13 rfl rfl)
theorem dX0_step_61 : decode cX0_step 61 = .ok (.invokestatic 61, 3) := dk_184 0 61 (dk_at dksX0_step_2 16 rfl rfl)
theorem dX0_step_64 : decode cX0_step 64 = .ok (.ifCond .ne 6, 3) := dk_154 0 6 (dk_at dksX0_step_2 19 rfl rfl)
theorem dX0_step_67 : decode cX0_step 67 = .ok (.ldc 65, 2) := dk_18 65 (dk_at dksX0_step_2 22 rfl rfl)
theorem dX0_step_69 : decode cX0_step 69 = .ok (.ireturn, 1) := dk_172 (dk_at dksX0_step_3 0 rfl rfl)
theorem dX0_step_70 : decode cX0_step 70 = .ok (.aload_n 0, 1) := dk_42 (dk_at dksX0_step_3 1 rfl rfl)
theorem dX0_step_71 : decode cX0_step 71 = .ok (.iload_n 1, 1) := dk_27 (dk_at dksX0_step_3 2 rfl rfl)
theorem dX0_step_72 : decode cX0_step 72 = .ok (.iload_n 2, 1) := dk_28 (dk_at dksX0_step_3 3 rfl rfl)
theorem dX0_step_73 : decode cX0_step 73 = .ok (.iload_n 3, 1) := dk_29 (dk_at dksX0_step_3 4 rfl rfl)
theorem dX0_step_74 : decode cX0_step 74 = .ok (.invokevirtual 259, 3) := dk_182 1 3 (dk_at dksX0_step_3 5 rfl rfl)
theorem dX0_step_77 : decode cX0_step 77 = .ok (.istore 6, 2) := dk_54 6 (dk_at dksX0_step_3 8 rfl rfl)
theorem dX0_step_79 : decode cX0_step 79 = .ok (.aload_n 0, 1) := dk_42 (dk_at dksX0_step_3 10 rfl rfl)
theorem dX0_step_80 : decode cX0_step 80 = .ok (.iload_n 1, 1) := dk_27 (dk_at dksX0_step_3 11 rfl rfl)
theorem dX0_step_81 : decode cX0_step 81 = .ok (.invokevirtual 187, 3) := dk_182 0 187 (dk_at dksX0_step_3 12 rfl rfl)
theorem dX0_step_84 : decode cX0_step 84 = .ok (.istore 7, 2) := dk_54 7 (dk_at dksX0_step_3 15 rfl rfl)
theorem dX0_step_86 : decode cX0_step 86 = .ok (.iload 4, 2) := dk_21 4 (dk_at dksX0_step_3 17 rfl rfl)
theorem dX0_step_88 : decode cX0_step 88 = .ok (.ifCond .ne 13, 3) := dk_154 0 13 (dk_at dksX0_step_3 19 rfl rfl)
theorem dX0_step_91 : decode cX0_step 91 = .ok (.iload 6, 2) := dk_21 6 (dk_at dksX0_step_3 22 rfl rfl)
theorem dX0_step_93 : decode cX0_step 93 = .ok (.iload 7, 2) := dk_21 7 (dk_at dksX0_step_4 0 rfl rfl)
theorem dX0_step_95 : decode cX0_step 95 = .ok (.iconst (-1), 1) := dk_2 (dk_at dksX0_step_4 2 rfl rfl)
theorem dX0_step_96 : decode cX0_step 96 = .ok (.ixor, 1) := dk_130 (dk_at dksX0_step_4 3 rfl rfl)
theorem dX0_step_97 : decode cX0_step 97 = .ok (.iand, 1) := dk_126 (dk_at dksX0_step_4 4 rfl rfl)
theorem dX0_step_98 : decode cX0_step 98 = .ok (.goto 10, 3) := dk_167 0 10 (dk_at dksX0_step_4 5 rfl rfl)
theorem dX0_step_101 : decode cX0_step 101 = .ok (.iload 7, 2) := dk_21 7 (dk_at dksX0_step_4 8 rfl rfl)
theorem dX0_step_103 : decode cX0_step 103 = .ok (.iload 6, 2) := dk_21 6 (dk_at dksX0_step_4 10 rfl rfl)
theorem dX0_step_105 : decode cX0_step 105 = .ok (.iconst (-1), 1) := dk_2 (dk_at dksX0_step_4 12 rfl rfl)
theorem dX0_step_106 : decode cX0_step 106 = .ok (.ixor, 1) := dk_130 (dk_at dksX0_step_4 13 rfl rfl)
theorem dX0_step_107 : decode cX0_step 107 = .ok (.iand, 1) := dk_126 (dk_at dksX0_step_4 14 rfl rfl)
theorem dX0_step_108 : decode cX0_step 108 = .ok (.invokestatic 254, 3) := dk_184 0 254 (dk_at dksX0_step_4 15 rfl rfl)
theorem dX0_step_111 : decode cX0_step 111 = .ok (.ireturn, 1) := dk_172 (dk_at dksX0_step_4 18 rfl rfl)
abbrev cX0_climbersWith : ByteArray := prog_1_method_41_code
def yX0_climbersWith : MethodName := ⟨RX0, "climbersWith", "(III)I"⟩
def dkwX0_climbersWith_1 : List UInt8 := [180, 0, 21, 180, 0, 122, 27, 50, 28, 92, 46, 29, 100, 79, 21, 4, 172]
abbrev dktX0_climbersWith_1 : List UInt8 := dkwX0_climbersWith_1 ++ []
def dkwX0_climbersWith_0 : List UInt8 := [42, 180, 0, 21, 180, 0, 122, 27, 50, 28, 92, 46, 29, 96, 79, 42, 27, 182, 0, 187, 54, 4, 42]
abbrev dktX0_climbersWith_0 : List UInt8 := dkwX0_climbersWith_0 ++ dktX0_climbersWith_1
theorem dksX0_climbersWith_0 : cX0_climbersWith.data.toList.drop 0 = dktX0_climbersWith_0 := by decide +kernel
theorem dksX0_climbersWith_1 : cX0_climbersWith.data.toList.drop 23 = dktX0_climbersWith_1 := dk_seg dksX0_climbersWith_0 23 rfl rfl
theorem dX0_climbersWith_0 : decode cX0_climbersWith 0 = .ok (.aload_n 0, 1) := dk_42 (dk_at dksX0_climbersWith_0 0 rfl rfl)
theorem dX0_climbersWith_1 : decode cX0_climbersWith 1 = .ok (.getfield 21, 3) := dk_180 0 21 (dk_at dksX0_climbersWith_0 1 rfl rfl)
theorem dX0_climbersWith_4 : decode cX0_climbersWith 4 = .ok (.getfield 122, 3) := dk_180 0 122 (dk_at dksX0_climbersWith_0 4 rfl rfl)
theorem dX0_climbersWith_7 : decode cX0_climbersWith 7 = .ok (.iload_n 1, 1) := dk_27 (dk_at dksX0_climbersWith_0 7 rfl rfl)
theorem dX0_climbersWith_8 : decode cX0_climbersWith 8 = .ok (.aaload, 1) := dk_50 (dk_at dksX0_climbersWith_0 8 rfl rfl)
theorem dX0_climbersWith_9 : decode cX0_climbersWith 9 = .ok (.iload_n 2, 1) := dk_28 (dk_at dksX0_climbersWith_0 9 rfl rfl)
theorem dX0_climbersWith_10 : decode cX0_climbersWith 10 = .ok (.dup2, 1) := dk_92 (dk_at dksX0_climbersWith_0 10 rfl rfl)
theorem dX0_climbersWith_11 : decode cX0_climbersWith 11 = .ok (.iaload, 1) := dk_46 (dk_at dksX0_climbersWith_0 11 rfl rfl)
theorem dX0_climbersWith_12 : decode cX0_climbersWith 12 = .ok (.iload_n 3, 1) := dk_29 (dk_at dksX0_climbersWith_0 12 rfl rfl)
theorem dX0_climbersWith_13 : decode cX0_climbersWith 13 = .ok (.iadd, 1) := dk_96 (dk_at dksX0_climbersWith_0 13 rfl rfl)
theorem dX0_climbersWith_14 : decode cX0_climbersWith 14 = .ok (.iastore, 1) := dk_79 (dk_at dksX0_climbersWith_0 14 rfl rfl)
theorem dX0_climbersWith_15 : decode cX0_climbersWith 15 = .ok (.aload_n 0, 1) := dk_42 (dk_at dksX0_climbersWith_0 15 rfl rfl)
theorem dX0_climbersWith_16 : decode cX0_climbersWith 16 = .ok (.iload_n 1, 1) := dk_27 (dk_at dksX0_climbersWith_0 16 rfl rfl)
theorem dX0_climbersWith_17 : decode cX0_climbersWith 17 = .ok (.invokevirtual 187, 3) := dk_182 0 187 (dk_at dksX0_climbersWith_0 17 rfl rfl)
theorem dX0_climbersWith_20 : decode cX0_climbersWith 20 = .ok (.istore 4, 2) := dk_54 4 (dk_at dksX0_climbersWith_0 20 rfl rfl)
theorem dX0_climbersWith_22 : decode cX0_climbersWith 22 = .ok (.aload_n 0, 1) := dk_42 (dk_at dksX0_climbersWith_0 22 rfl rfl)
theorem dX0_climbersWith_23 : decode cX0_climbersWith 23 = .ok (.getfield 21, 3) := dk_180 0 21 (dk_at dksX0_climbersWith_1 0 rfl rfl)
theorem dX0_climbersWith_26 : decode cX0_climbersWith 26 = .ok (.getfield 122, 3) := dk_180 0 122 (dk_at dksX0_climbersWith_1 3 rfl rfl)
theorem dX0_climbersWith_29 : decode cX0_climbersWith 29 = .ok (.iload_n 1, 1) := dk_27 (dk_at dksX0_climbersWith_1 6 rfl rfl)
theorem dX0_climbersWith_30 : decode cX0_climbersWith 30 = .ok (.aaload, 1) := dk_50 (dk_at dksX0_climbersWith_1 7 rfl rfl)
theorem dX0_climbersWith_31 : decode cX0_climbersWith 31 = .ok (.iload_n 2, 1) := dk_28 (dk_at dksX0_climbersWith_1 8 rfl rfl)
theorem dX0_climbersWith_32 : decode cX0_climbersWith 32 = .ok (.dup2, 1) := dk_92 (dk_at dksX0_climbersWith_1 9 rfl rfl)
theorem dX0_climbersWith_33 : decode cX0_climbersWith 33 = .ok (.iaload, 1) := dk_46 (dk_at dksX0_climbersWith_1 10 rfl rfl)
theorem dX0_climbersWith_34 : decode cX0_climbersWith 34 = .ok (.iload_n 3, 1) := dk_29 (dk_at dksX0_climbersWith_1 11 rfl rfl)
theorem dX0_climbersWith_35 : decode cX0_climbersWith 35 = .ok (.isub, 1) := dk_100 (dk_at dksX0_climbersWith_1 12 rfl rfl)
theorem dX0_climbersWith_36 : decode cX0_climbersWith 36 = .ok (.iastore, 1) := dk_79 (dk_at dksX0_climbersWith_1 13 rfl rfl)
theorem dX0_climbersWith_37 : decode cX0_climbersWith 37 = .ok (.iload 4, 2) := dk_21 4 (dk_at dksX0_climbersWith_1 14 rfl rfl)
theorem dX0_climbersWith_39 : decode cX0_climbersWith 39 = .ok (.ireturn, 1) := dk_172 (dk_at dksX0_climbersWith_1 16 rfl rfl)
abbrev cX0_worst : ByteArray := prog_1_method_43_code
def yX0_worst : MethodName := ⟨RX0, "worst", "(I)I"⟩
def dkwX0_worst_6 : List UInt8 := [167, 0, 14, 27, 4, 160, 0, 7, 29, 167, 0, 5, 21, 4, 172]
abbrev dktX0_worst_6 : List UInt8 := dkwX0_worst_6 ++ []
def dkwX0_worst_5 : List UInt8 := [167, 255, 174, 132, 5, 1, 167, 255, 153, 28, 2, 160, 0, 7, 2, 167, 0, 22, 27, 154, 0, 7, 28]
abbrev dktX0_worst_5 : List UInt8 := dkwX0_worst_5 ++ dktX0_worst_6
def dkwX0_worst_4 : List UInt8 := [3, 54, 7, 21, 7, 21, 4, 164, 0, 13, 21, 5, 61, 21, 6, 62, 21, 7, 54, 4, 132, 6, 1]
abbrev dktX0_worst_4 : List UInt8 := dkwX0_worst_4 ++ dktX0_worst_5
def dkwX0_worst_3 : List UInt8 := [42, 21, 5, 182, 0, 187, 42, 21, 5, 21, 6, 2, 182, 1, 3, 2, 130, 126, 184, 0, 254, 167, 0, 4]
abbrev dktX0_worst_3 : List UInt8 := dkwX0_worst_3 ++ dktX0_worst_4
def dkwX0_worst_2 : List UInt8 := [50, 180, 0, 117, 162, 0, 70, 42, 180, 0, 21, 180, 0, 122, 21, 5, 50, 21, 6, 46, 4, 164, 0, 27]
abbrev dktX0_worst_2 : List UInt8 := dkwX0_worst_2 ++ dktX0_worst_3
def dkwX0_worst_1 : List UInt8 := [42, 180, 0, 10, 180, 0, 103, 162, 0, 97, 3, 54, 6, 21, 6, 42, 180, 0, 10, 180, 0, 113, 21, 5]
abbrev dktX0_worst_1 : List UInt8 := dkwX0_worst_1 ++ dktX0_worst_2
def dkwX0_worst_0 : List UInt8 := [27, 3, 5, 184, 0, 61, 154, 0, 6, 18, 65, 172, 2, 61, 2, 62, 3, 54, 4, 3, 54, 5, 21, 5]
abbrev dktX0_worst_0 : List UInt8 := dkwX0_worst_0 ++ dktX0_worst_1
theorem dksX0_worst_0 : cX0_worst.data.toList.drop 0 = dktX0_worst_0 := by decide +kernel
theorem dksX0_worst_1 : cX0_worst.data.toList.drop 24 = dktX0_worst_1 := dk_seg dksX0_worst_0 24 rfl rfl
theorem dksX0_worst_2 : cX0_worst.data.toList.drop 48 = dktX0_worst_2 := dk_seg dksX0_worst_1 24 rfl rfl
theorem dksX0_worst_3 : cX0_worst.data.toList.drop 72 = dktX0_worst_3 := dk_seg dksX0_worst_2 24 rfl rfl
theorem dksX0_worst_4 : cX0_worst.data.toList.drop 96 = dktX0_worst_4 := dk_seg dksX0_worst_3 24 rfl rfl
theorem dksX0_worst_5 : cX0_worst.data.toList.drop 119 = dktX0_worst_5 := dk_seg dksX0_worst_4 23 rfl rfl
theorem dksX0_worst_6 : cX0_worst.data.toList.drop 142 = dktX0_worst_6 := dk_seg dksX0_worst_5 23 rfl rfl
theorem dX0_worst_0 : decode cX0_worst 0 = .ok (.iload_n 1, 1) := dk_27 (dk_at dksX0_worst_0 0 rfl rfl)
theorem dX0_worst_1 : decode cX0_worst 1 = .ok (.iconst 0, 1) := dk_3 (dk_at dksX0_worst_0 1 rfl rfl)
theorem dX0_worst_2 : decode cX0_worst 2 = .ok (.iconst 2, 1) := dk_5 (dk_at dksX0_worst_0 2 rfl rfl)
theorem dX0_worst_3 : decode cX0_worst 3 = .ok (.invokestatic 61, 3) := dk_184 0 61 (dk_at dksX0_worst_0 3 rfl rfl)
theorem dX0_worst_6 : decode cX0_worst 6 = .ok (.ifCond .ne 6, 3) := dk_154 0 6 (dk_at dksX0_worst_0 6 rfl rfl)
theorem dX0_worst_9 : decode cX0_worst 9 = .ok (.ldc 65, 2) := dk_18 65 (dk_at dksX0_worst_0 9 rfl rfl)
theorem dX0_worst_11 : decode cX0_worst 11 = .ok (.ireturn, 1) := dk_172 (dk_at dksX0_worst_0 11 rfl rfl)
theorem dX0_worst_12 : decode cX0_worst 12 = .ok (.iconst (-1), 1) := dk_2 (dk_at dksX0_worst_0 12 rfl rfl)
theorem dX0_worst_13 : decode cX0_worst 13 = .ok (.istore_n 2, 1) := dk_61 (dk_at dksX0_worst_0 13 rfl rfl)
theorem dX0_worst_14 : decode cX0_worst 14 = .ok (.iconst (-1), 1) := dk_2 (dk_at dksX0_worst_0 14 rfl rfl)
theorem dX0_worst_15 : decode cX0_worst 15 = .ok (.istore_n 3, 1) := dk_62 (dk_at dksX0_worst_0 15 rfl rfl)
theorem dX0_worst_16 : decode cX0_worst 16 = .ok (.iconst 0, 1) := dk_3 (dk_at dksX0_worst_0 16 rfl rfl)
theorem dX0_worst_17 : decode cX0_worst 17 = .ok (.istore 4, 2) := dk_54 4 (dk_at dksX0_worst_0 17 rfl rfl)
theorem dX0_worst_19 : decode cX0_worst 19 = .ok (.iconst 0, 1) := dk_3 (dk_at dksX0_worst_0 19 rfl rfl)
theorem dX0_worst_20 : decode cX0_worst 20 = .ok (.istore 5, 2) := dk_54 5 (dk_at dksX0_worst_0 20 rfl rfl)
theorem dX0_worst_22 : decode cX0_worst 22 = .ok (.iload 5, 2) := dk_21 5 (dk_at dksX0_worst_0 22 rfl rfl)
theorem dX0_worst_24 : decode cX0_worst 24 = .ok (.aload_n 0, 1) := dk_42 (dk_at dksX0_worst_1 0 rfl rfl)
theorem dX0_worst_25 : decode cX0_worst 25 = .ok (.getfield 10, 3) := dk_180 0 10 (dk_at dksX0_worst_1 1 rfl rfl)
theorem dX0_worst_28 : decode cX0_worst 28 = .ok (.getfield 103, 3) := dk_180 0 103 (dk_at dksX0_worst_1 4 rfl rfl)
theorem dX0_worst_31 : decode cX0_worst 31 = .ok (.if_icmp .ge 97, 3) := dk_162 0 97 (dk_at dksX0_worst_1 7 rfl rfl)
theorem dX0_worst_34 : decode cX0_worst 34 = .ok (.iconst 0, 1) := dk_3 (dk_at dksX0_worst_1 10 rfl rfl)
theorem dX0_worst_35 : decode cX0_worst 35 = .ok (.istore 6, 2) := dk_54 6 (dk_at dksX0_worst_1 11 rfl rfl)
theorem dX0_worst_37 : decode cX0_worst 37 = .ok (.iload 6, 2) := dk_21 6 (dk_at dksX0_worst_1 13 rfl rfl)
theorem dX0_worst_39 : decode cX0_worst 39 = .ok (.aload_n 0, 1) := dk_42 (dk_at dksX0_worst_1 15 rfl rfl)
theorem dX0_worst_40 : decode cX0_worst 40 = .ok (.getfield 10, 3) := dk_180 0 10 (dk_at dksX0_worst_1 16 rfl rfl)
theorem dX0_worst_43 : decode cX0_worst 43 = .ok (.getfield 113, 3) := dk_180 0 113 (dk_at dksX0_worst_1 19 rfl rfl)
theorem dX0_worst_46 : decode cX0_worst 46 = .ok (.iload 5, 2) := dk_21 5 (dk_at dksX0_worst_1 22 rfl rfl)
theorem dX0_worst_48 : decode cX0_worst 48 = .ok (.aaload, 1) := dk_50 (dk_at dksX0_worst_2 0 rfl rfl)
theorem dX0_worst_49 : decode cX0_worst 49 = .ok (.getfield 117, 3) := dk_180 0 117 (dk_at dksX0_worst_2 1 rfl rfl)
theorem dX0_worst_52 : decode cX0_worst 52 = .ok (.if_icmp .ge 70, 3) := dk_162 0 70 (dk_at dksX0_worst_2 4 rfl rfl)
theorem dX0_worst_55 : decode cX0_worst 55 = .ok (.aload_n 0, 1) := dk_42 (dk_at dksX0_worst_2 7 rfl rfl)
theorem dX0_worst_56 : decode cX0_worst 56 = .ok (.getfield 21, 3) := dk_180 0 21 (dk_at dksX0_worst_2 8 rfl rfl)
theorem dX0_worst_59 : decode cX0_worst 59 = .ok (.getfield 122, 3) := dk_180 0 122 (dk_at dksX0_worst_2 11 rfl rfl)
theorem dX0_worst_62 : decode cX0_worst 62 = .ok (.iload 5, 2) := dk_21 5 (dk_at dksX0_worst_2 14 rfl rfl)
theorem dX0_worst_64 : decode cX0_worst 64 = .ok (.aaload, 1) := dk_50 (dk_at dksX0_worst_2 16 rfl rfl)
theorem dX0_worst_65 : decode cX0_worst 65 = .ok (.iload 6, 2) := dk_21 6 (dk_at dksX0_worst_2 17 rfl rfl)
theorem dX0_worst_67 : decode cX0_worst 67 = .ok (.iaload, 1) := dk_46 (dk_at dksX0_worst_2 19 rfl rfl)
theorem dX0_worst_68 : decode cX0_worst 68 = .ok (.iconst 1, 1) := dk_4 (dk_at dksX0_worst_2 20 rfl rfl)
theorem dX0_worst_69 : decode cX0_worst 69 = .ok (.if_icmp .le 27, 3) := dk_164 0 27 (dk_at dksX0_worst_2 21 rfl rfl)
theorem dX0_worst_72 : decode cX0_worst 72 = .ok (.aload_n 0, 1) := dk_42 (dk_at dksX0_worst_3 0 rfl rfl)
theorem dX0_worst_73 : decode cX0_worst 73 = .ok (.iload 5, 2) := dk_21 5 (dk_at dksX0_worst_3 1 rfl rfl)
theorem dX0_worst_75 : decode cX0_worst 75 = .ok (.invokevirtual 187, 3) := dk_182 0 187 (dk_at dksX0_worst_3 3 rfl rfl)
theorem dX0_worst_78 : decode cX0_worst 78 = .ok (.aload_n 0, 1) := dk_42 (dk_at dksX0_worst_3 6 rfl rfl)
theorem dX0_worst_79 : decode cX0_worst 79 = .ok (.iload 5, 2) := dk_21 5 (dk_at dksX0_worst_3 7 rfl rfl)
theorem dX0_worst_81 : decode cX0_worst 81 = .ok (.iload 6, 2) := dk_21 6 (dk_at dksX0_worst_3 9 rfl rfl)
theorem dX0_worst_83 : decode cX0_worst 83 = .ok (.iconst (-1), 1) := dk_2 (dk_at dksX0_worst_3 11 rfl rfl)
theorem dX0_worst_84 : decode cX0_worst 84 = .ok (.invokevirtual 259, 3) := dk_182 1 3 (dk_at dksX0_worst_3 12 rfl rfl)
theorem dX0_worst_87 : decode cX0_worst 87 = .ok (.iconst (-1), 1) := dk_2 (dk_at dksX0_worst_3 15 rfl rfl)
theorem dX0_worst_88 : decode cX0_worst 88 = .ok (.ixor, 1) := dk_130 (dk_at dksX0_worst_3 16 rfl rfl)
theorem dX0_worst_89 : decode cX0_worst 89 = .ok (.iand, 1) := dk_126 (dk_at dksX0_worst_3 17 rfl rfl)
theorem dX0_worst_90 : decode cX0_worst 90 = .ok (.invokestatic 254, 3) := dk_184 0 254 (dk_at dksX0_worst_3 18 rfl rfl)
theorem dX0_worst_93 : decode cX0_worst 93 = .ok (.goto 4, 3) := dk_167 0 4 (dk_at dksX0_worst_3 21 rfl rfl)
theorem dX0_worst_96 : decode cX0_worst 96 = .ok (.iconst 0, 1) := dk_3 (dk_at dksX0_worst_4 0 rfl rfl)
theorem dX0_worst_97 : decode cX0_worst 97 = .ok (.istore 7, 2) := dk_54 7 (dk_at dksX0_worst_4 1 rfl rfl)
theorem dX0_worst_99 : decode cX0_worst 99 = .ok (.iload 7, 2) := dk_21 7 (dk_at dksX0_worst_4 3 rfl rfl)
theorem dX0_worst_101 : decode cX0_worst 101 = .ok (.iload 4, 2) := dk_21 4 (dk_at dksX0_worst_4 5 rfl rfl)
theorem dX0_worst_103 : decode cX0_worst 103 = .ok (.if_icmp .le 13, 3) := dk_164 0 13 (dk_at dksX0_worst_4 7 rfl rfl)
theorem dX0_worst_106 : decode cX0_worst 106 = .ok (.iload 5, 2) := dk_21 5 (dk_at dksX0_worst_4 10 rfl rfl)
theorem dX0_worst_108 : decode cX0_worst 108 = .ok (.istore_n 2, 1) := dk_61 (dk_at dksX0_worst_4 12 rfl rfl)
theorem dX0_worst_109 : decode cX0_worst 109 = .ok (.iload 6, 2) := dk_21 6 (dk_at dksX0_worst_4 13 rfl rfl)
theorem dX0_worst_111 : decode cX0_worst 111 = .ok (.istore_n 3, 1) := dk_62 (dk_at dksX0_worst_4 15 rfl rfl)
theorem dX0_worst_112 : decode cX0_worst 112 = .ok (.iload 7, 2) := dk_21 7 (dk_at dksX0_worst_4 16 rfl rfl)
theorem dX0_worst_114 : decode cX0_worst 114 = .ok (.istore 4, 2) := dk_54 4 (dk_at dksX0_worst_4 18 rfl rfl)
theorem dX0_worst_116 : decode cX0_worst 116 = .ok (.iinc 6 1, 3) := dk_132 6 1 (dk_at dksX0_worst_4 20 rfl rfl)
theorem dX0_worst_119 : decode cX0_worst 119 = .ok (.goto (-82), 3) := dk_167 255 174 (dk_at dksX0_worst_5 0 rfl rfl)
theorem dX0_worst_122 : decode cX0_worst 122 = .ok (.iinc 5 1, 3) := dk_132 5 1 (dk_at dksX0_worst_5 3 rfl rfl)
theorem dX0_worst_125 : decode cX0_worst 125 = .ok (.goto (-103), 3) := dk_167 255 153 (dk_at dksX0_worst_5 6 rfl rfl)
theorem dX0_worst_128 : decode cX0_worst 128 = .ok (.iload_n 2, 1) := dk_28 (dk_at dksX0_worst_5 9 rfl rfl)
theorem dX0_worst_129 : decode cX0_worst 129 = .ok (.iconst (-1), 1) := dk_2 (dk_at dksX0_worst_5 10 rfl rfl)
theorem dX0_worst_130 : decode cX0_worst 130 = .ok (.if_icmp .ne 7, 3) := dk_160 0 7 (dk_at dksX0_worst_5 11 rfl rfl)
theorem dX0_worst_133 : decode cX0_worst 133 = .ok (.iconst (-1), 1) := dk_2 (dk_at dksX0_worst_5 14 rfl rfl)
theorem dX0_worst_134 : decode cX0_worst 134 = .ok (.goto 22, 3) := dk_167 0 22 (dk_at dksX0_worst_5 15 rfl rfl)
theorem dX0_worst_137 : decode cX0_worst 137 = .ok (.iload_n 1, 1) := dk_27 (dk_at dksX0_worst_5 18 rfl rfl)
theorem dX0_worst_138 : decode cX0_worst 138 = .ok (.ifCond .ne 7, 3) := dk_154 0 7 (dk_at dksX0_worst_5 19 rfl rfl)
theorem dX0_worst_141 : decode cX0_worst 141 = .ok (.iload_n 2, 1) := dk_28 (dk_at dksX0_worst_5 22 rfl rfl)
theorem dX0_worst_142 : decode cX0_worst 142 = .ok (.goto 14, 3) := dk_167 0 14 (dk_at dksX0_worst_6 0 rfl rfl)
theorem dX0_worst_145 : decode cX0_worst 145 = .ok (.iload_n 1, 1) := dk_27 (dk_at dksX0_worst_6 3 rfl rfl)
theorem dX0_worst_146 : decode cX0_worst 146 = .ok (.iconst 1, 1) := dk_4 (dk_at dksX0_worst_6 4 rfl rfl)
theorem dX0_worst_147 : decode cX0_worst 147 = .ok (.if_icmp .ne 7, 3) := dk_160 0 7 (dk_at dksX0_worst_6 5 rfl rfl)
theorem dX0_worst_150 : decode cX0_worst 150 = .ok (.iload_n 3, 1) := dk_29 (dk_at dksX0_worst_6 8 rfl rfl)
theorem dX0_worst_151 : decode cX0_worst 151 = .ok (.goto 5, 3) := dk_167 0 5 (dk_at dksX0_worst_6 9 rfl rfl)
theorem dX0_worst_154 : decode cX0_worst 154 = .ok (.iload 4, 2) := dk_21 4 (dk_at dksX0_worst_6 12 rfl rfl)
theorem dX0_worst_156 : decode cX0_worst 156 = .ok (.ireturn, 1) := dk_172 (dk_at dksX0_worst_6 14 rfl rfl)
abbrev cX0_best : ByteArray := prog_1_method_44_code
def yX0_best : MethodName := ⟨RX0, "best", "(I)I"⟩
def dkwX0_best_2 : List UInt8 := [167, 0, 4, 28, 61, 29, 21, 5, 184, 0, 196, 62, 132, 4, 1, 167, 255, 213, 28, 172]
abbrev dktX0_best_2 : List UInt8 := dkwX0_best_2 ++ []
def dkwX0_best_1 : List UInt8 := [163, 0, 42, 42, 27, 21, 4, 3, 182, 0, 172, 184, 0, 254, 54, 5, 21, 5, 29, 161, 0, 8, 21, 4]
abbrev dktX0_best_1 : List UInt8 := dkwX0_best_1 ++ dktX0_best_2
def dkwX0_best_0 : List UInt8 := [42, 27, 182, 0, 226, 154, 0, 6, 18, 183, 172, 4, 61, 3, 62, 4, 54, 4, 21, 4, 16, 24]
abbrev dktX0_best_0 : List UInt8 := dkwX0_best_0 ++ dktX0_best_1
theorem dksX0_best_0 : cX0_best.data.toList.drop 0 = dktX0_best_0 := by decide +kernel
theorem dksX0_best_1 : cX0_best.data.toList.drop 22 = dktX0_best_1 := dk_seg dksX0_best_0 22 rfl rfl
theorem dksX0_best_2 : cX0_best.data.toList.drop 46 = dktX0_best_2 := dk_seg dksX0_best_1 24 rfl rfl
theorem dX0_best_0 : decode cX0_best 0 = .ok (.aload_n 0, 1) := dk_42 (dk_at dksX0_best_0 0 rfl rfl)
theorem dX0_best_1 : decode cX0_best 1 = .ok (.iload_n 1, 1) := dk_27 (dk_at dksX0_best_0 1 rfl rfl)
theorem dX0_best_2 : decode cX0_best 2 = .ok (.invokevirtual 226, 3) := dk_182 0 226 (dk_at dksX0_best_0 2 rfl rfl)
theorem dX0_best_5 : decode cX0_best 5 = .ok (.ifCond .ne 6, 3) := dk_154 0 6 (dk_at dksX0_best_0 5 rfl rfl)
theorem dX0_best_8 : decode cX0_best 8 = .ok (.ldc 183, 2) := dk_18 183 (dk_at dksX0_best_0 8 rfl rfl)
theorem dX0_best_10 : decode cX0_best 10 = .ok (.ireturn, 1) := dk_172 (dk_at dksX0_best_0 10 rfl rfl)
theorem dX0_best_11 : decode cX0_best 11 = .ok (.iconst 1, 1) := dk_4 (dk_at dksX0_best_0 11 rfl rfl)
theorem dX0_best_12 : decode cX0_best 12 = .ok (.istore_n 2, 1) := dk_61 (dk_at dksX0_best_0 12 rfl rfl)
theorem dX0_best_13 : decode cX0_best 13 = .ok (.iconst 0, 1) := dk_3 (dk_at dksX0_best_0 13 rfl rfl)
theorem dX0_best_14 : decode cX0_best 14 = .ok (.istore_n 3, 1) := dk_62 (dk_at dksX0_best_0 14 rfl rfl)
theorem dX0_best_15 : decode cX0_best 15 = .ok (.iconst 1, 1) := dk_4 (dk_at dksX0_best_0 15 rfl rfl)
theorem dX0_best_16 : decode cX0_best 16 = .ok (.istore 4, 2) := dk_54 4 (dk_at dksX0_best_0 16 rfl rfl)
theorem dX0_best_18 : decode cX0_best 18 = .ok (.iload 4, 2) := dk_21 4 (dk_at dksX0_best_0 18 rfl rfl)
theorem dX0_best_20 : decode cX0_best 20 = .ok (.bipush 24, 2) := dk_16 24 (dk_at dksX0_best_0 20 rfl rfl)
theorem dX0_best_22 : decode cX0_best 22 = .ok (.if_icmp .gt 42, 3) := dk_163 0 42 (dk_at dksX0_best_1 0 rfl rfl)
theorem dX0_best_25 : decode cX0_best 25 = .ok (.aload_n 0, 1) := dk_42 (dk_at dksX0_best_1 3 rfl rfl)
theorem dX0_best_26 : decode cX0_best 26 = .ok (.iload_n 1, 1) := dk_27 (dk_at dksX0_best_1 4 rfl rfl)
theorem dX0_best_27 : decode cX0_best 27 = .ok (.iload 4, 2) := dk_21 4 (dk_at dksX0_best_1 5 rfl rfl)
theorem dX0_best_29 : decode cX0_best 29 = .ok (.iconst 0, 1) := dk_3 (dk_at dksX0_best_1 7 rfl rfl)
theorem dX0_best_30 : decode cX0_best 30 = .ok (.invokevirtual 172, 3) := dk_182 0 172 (dk_at dksX0_best_1 8 rfl rfl)
theorem dX0_best_33 : decode cX0_best 33 = .ok (.invokestatic 254, 3) := dk_184 0 254 (dk_at dksX0_best_1 11 rfl rfl)
theorem dX0_best_36 : decode cX0_best 36 = .ok (.istore 5, 2) := dk_54 5 (dk_at dksX0_best_1 14 rfl rfl)
theorem dX0_best_38 : decode cX0_best 38 = .ok (.iload 5, 2) := dk_21 5 (dk_at dksX0_best_1 16 rfl rfl)
theorem dX0_best_40 : decode cX0_best 40 = .ok (.iload_n 3, 1) := dk_29 (dk_at dksX0_best_1 18 rfl rfl)
theorem dX0_best_41 : decode cX0_best 41 = .ok (.if_icmp .lt 8, 3) := dk_161 0 8 (dk_at dksX0_best_1 19 rfl rfl)
theorem dX0_best_44 : decode cX0_best 44 = .ok (.iload 4, 2) := dk_21 4 (dk_at dksX0_best_1 22 rfl rfl)
theorem dX0_best_46 : decode cX0_best 46 = .ok (.goto 4, 3) := dk_167 0 4 (dk_at dksX0_best_2 0 rfl rfl)
theorem dX0_best_49 : decode cX0_best 49 = .ok (.iload_n 2, 1) := dk_28 (dk_at dksX0_best_2 3 rfl rfl)
theorem dX0_best_50 : decode cX0_best 50 = .ok (.istore_n 2, 1) := dk_61 (dk_at dksX0_best_2 4 rfl rfl)
theorem dX0_best_51 : decode cX0_best 51 = .ok (.iload_n 3, 1) := dk_29 (dk_at dksX0_best_2 5 rfl rfl)
theorem dX0_best_52 : decode cX0_best 52 = .ok (.iload 5, 2) := dk_21 5 (dk_at dksX0_best_2 6 rfl rfl)
theorem dX0_best_54 : decode cX0_best 54 = .ok (.invokestatic 196, 3) := dk_184 0 196 (dk_at dksX0_best_2 8 rfl rfl)
theorem dX0_best_57 : decode cX0_best 57 = .ok (.istore_n 3, 1) := dk_62 (dk_at dksX0_best_2 11 rfl rfl)
theorem dX0_best_58 : decode cX0_best 58 = .ok (.iinc 4 1, 3) := dk_132 4 1 (dk_at dksX0_best_2 12 rfl rfl)
theorem dX0_best_61 : decode cX0_best 61 = .ok (.goto (-43), 3) := dk_167 255 213 (dk_at dksX0_best_2 15 rfl rfl)
theorem dX0_best_64 : decode cX0_best 64 = .ok (.iload_n 2, 1) := dk_28 (dk_at dksX0_best_2 18 rfl rfl)
theorem dX0_best_65 : decode cX0_best 65 = .ok (.ireturn, 1) := dk_172 (dk_at dksX0_best_2 19 rfl rfl)
abbrev cX0_cover : ByteArray := prog_1_method_46_code
def yX0_cover : MethodName := ⟨RX0, "cover", "()I"⟩
def dkwX0_cover_2 : List UInt8 := [182, 1, 6, 153, 0, 7, 28, 167, 0, 4, 27, 60, 132, 2, 1, 167, 255, 200, 27, 172]
abbrev dktX0_cover_2 : List UInt8 := dkwX0_cover_2 ++ []
def dkwX0_cover_1 : List UInt8 := [184, 0, 254, 27, 184, 0, 254, 162, 0, 7, 4, 167, 0, 4, 3, 62, 29, 153, 0, 15, 42, 28]
abbrev dktX0_cover_1 : List UInt8 := dkwX0_cover_1 ++ dktX0_cover_2
def dkwX0_cover_0 : List UInt8 := [2, 60, 3, 61, 28, 4, 42, 180, 0, 21, 180, 0, 106, 120, 162, 0, 49, 27, 2, 159, 0, 14, 28]
abbrev dktX0_cover_0 : List UInt8 := dkwX0_cover_0 ++ dktX0_cover_1
theorem dksX0_cover_0 : cX0_cover.data.toList.drop 0 = dktX0_cover_0 := by decide +kernel
theorem dksX0_cover_1 : cX0_cover.data.toList.drop 23 = dktX0_cover_1 := dk_seg dksX0_cover_0 23 rfl rfl
theorem dksX0_cover_2 : cX0_cover.data.toList.drop 45 = dktX0_cover_2 := dk_seg dksX0_cover_1 22 rfl rfl
theorem dX0_cover_0 : decode cX0_cover 0 = .ok (.iconst (-1), 1) := dk_2 (dk_at dksX0_cover_0 0 rfl rfl)
theorem dX0_cover_1 : decode cX0_cover 1 = .ok (.istore_n 1, 1) := dk_60 (dk_at dksX0_cover_0 1 rfl rfl)
theorem dX0_cover_2 : decode cX0_cover 2 = .ok (.iconst 0, 1) := dk_3 (dk_at dksX0_cover_0 2 rfl rfl)
theorem dX0_cover_3 : decode cX0_cover 3 = .ok (.istore_n 2, 1) := dk_61 (dk_at dksX0_cover_0 3 rfl rfl)
theorem dX0_cover_4 : decode cX0_cover 4 = .ok (.iload_n 2, 1) := dk_28 (dk_at dksX0_cover_0 4 rfl rfl)
theorem dX0_cover_5 : decode cX0_cover 5 = .ok (.iconst 1, 1) := dk_4 (dk_at dksX0_cover_0 5 rfl rfl)
theorem dX0_cover_6 : decode cX0_cover 6 = .ok (.aload_n 0, 1) := dk_42 (dk_at dksX0_cover_0 6 rfl rfl)
theorem dX0_cover_7 : decode cX0_cover 7 = .ok (.getfield 21, 3) := dk_180 0 21 (dk_at dksX0_cover_0 7 rfl rfl)
theorem dX0_cover_10 : decode cX0_cover 10 = .ok (.getfield 106, 3) := dk_180 0 106 (dk_at dksX0_cover_0 10 rfl rfl)
theorem dX0_cover_13 : decode cX0_cover 13 = .ok (.ishl, 1) := dk_120 (dk_at dksX0_cover_0 13 rfl rfl)
theorem dX0_cover_14 : decode cX0_cover 14 = .ok (.if_icmp .ge 49, 3) := dk_162 0 49 (dk_at dksX0_cover_0 14 rfl rfl)
theorem dX0_cover_17 : decode cX0_cover 17 = .ok (.iload_n 1, 1) := dk_27 (dk_at dksX0_cover_0 17 rfl rfl)
theorem dX0_cover_18 : decode cX0_cover 18 = .ok (.iconst (-1), 1) := dk_2 (dk_at dksX0_cover_0 18 rfl rfl)
theorem dX0_cover_19 : decode cX0_cover 19 = .ok (.if_icmp .eq 14, 3) := dk_159 0 14 (dk_at dksX0_cover_0 19 rfl rfl)
theorem dX0_cover_22 : decode cX0_cover 22 = .ok (.iload_n 2, 1) := dk_28 (dk_at dksX0_cover_0 22 rfl rfl)
theorem dX0_cover_23 : decode cX0_cover 23 = .ok (.invokestatic 254, 3) := dk_184 0 254 (dk_at dksX0_cover_1 0 rfl rfl)
theorem dX0_cover_26 : decode cX0_cover 26 = .ok (.iload_n 1, 1) := dk_27 (dk_at dksX0_cover_1 3 rfl rfl)
theorem dX0_cover_27 : decode cX0_cover 27 = .ok (.invokestatic 254, 3) := dk_184 0 254 (dk_at dksX0_cover_1 4 rfl rfl)
theorem dX0_cover_30 : decode cX0_cover 30 = .ok (.if_icmp .ge 7, 3) := dk_162 0 7 (dk_at dksX0_cover_1 7 rfl rfl)
theorem dX0_cover_33 : decode cX0_cover 33 = .ok (.iconst 1, 1) := dk_4 (dk_at dksX0_cover_1 10 rfl rfl)
theorem dX0_cover_34 : decode cX0_cover 34 = .ok (.goto 4, 3) := dk_167 0 4 (dk_at dksX0_cover_1 11 rfl rfl)
theorem dX0_cover_37 : decode cX0_cover 37 = .ok (.iconst 0, 1) := dk_3 (dk_at dksX0_cover_1 14 rfl rfl)
theorem dX0_cover_38 : decode cX0_cover 38 = .ok (.istore_n 3, 1) := dk_62 (dk_at dksX0_cover_1 15 rfl rfl)
theorem dX0_cover_39 : decode cX0_cover 39 = .ok (.iload_n 3, 1) := dk_29 (dk_at dksX0_cover_1 16 rfl rfl)
theorem dX0_cover_40 : decode cX0_cover 40 = .ok (.ifCond .eq 15, 3) := dk_153 0 15 (dk_at dksX0_cover_1 17 rfl rfl)
theorem dX0_cover_43 : decode cX0_cover 43 = .ok (.aload_n 0, 1) := dk_42 (dk_at dksX0_cover_1 20 rfl rfl)
theorem dX0_cover_44 : decode cX0_cover 44 = .ok (.iload_n 2, 1) := dk_28 (dk_at dksX0_cover_1 21 rfl rfl)
theorem dX0_cover_45 : decode cX0_cover 45 = .ok (.invokevirtual 262, 3) := dk_182 1 6 (dk_at dksX0_cover_2 0 rfl rfl)
theorem dX0_cover_48 : decode cX0_cover 48 = .ok (.ifCond .eq 7, 3) := dk_153 0 7 (dk_at dksX0_cover_2 3 rfl rfl)
theorem dX0_cover_51 : decode cX0_cover 51 = .ok (.iload_n 2, 1) := dk_28 (dk_at dksX0_cover_2 6 rfl rfl)
theorem dX0_cover_52 : decode cX0_cover 52 = .ok (.goto 4, 3) := dk_167 0 4 (dk_at dksX0_cover_2 7 rfl rfl)
theorem dX0_cover_55 : decode cX0_cover 55 = .ok (.iload_n 1, 1) := dk_27 (dk_at dksX0_cover_2 10 rfl rfl)
theorem dX0_cover_56 : decode cX0_cover 56 = .ok (.istore_n 1, 1) := dk_60 (dk_at dksX0_cover_2 11 rfl rfl)
theorem dX0_cover_57 : decode cX0_cover 57 = .ok (.iinc 2 1, 3) := dk_132 2 1 (dk_at dksX0_cover_2 12 rfl rfl)
theorem dX0_cover_60 : decode cX0_cover 60 = .ok (.goto (-56), 3) := dk_167 255 200 (dk_at dksX0_cover_2 15 rfl rfl)
theorem dX0_cover_63 : decode cX0_cover 63 = .ok (.iload_n 1, 1) := dk_27 (dk_at dksX0_cover_2 18 rfl rfl)
theorem dX0_cover_64 : decode cX0_cover 64 = .ok (.ireturn, 1) := dk_172 (dk_at dksX0_cover_2 19 rfl rfl)
abbrev cX0_areClimbedBy : ByteArray := prog_1_method_45_code
def yX0_areClimbedBy : MethodName := ⟨RX0, "areClimbedBy", "(I)Z"⟩
def dkwX0_areClimbedBy_1 : List UInt8 := [27, 126, 153, 0, 7, 4, 167, 0, 4, 3, 61, 132, 3, 1, 167, 255, 222, 28, 172]
abbrev dktX0_areClimbedBy_1 : List UInt8 := dkwX0_areClimbedBy_1 ++ []
def dkwX0_areClimbedBy_0 : List UInt8 := [4, 61, 3, 62, 29, 42, 180, 0, 10, 180, 0, 103, 162, 0, 29, 28, 153, 0, 25, 42, 29, 182, 0, 187]
abbrev dktX0_areClimbedBy_0 : List UInt8 := dkwX0_areClimbedBy_0 ++ dktX0_areClimbedBy_1
theorem dksX0_areClimbedBy_0 : cX0_areClimbedBy.data.toList.drop 0 = dktX0_areClimbedBy_0 := by decide +kernel
theorem dksX0_areClimbedBy_1 : cX0_areClimbedBy.data.toList.drop 24 = dktX0_areClimbedBy_1 := dk_seg dksX0_areClimbedBy_0 24 rfl rfl
theorem dX0_areClimbedBy_0 : decode cX0_areClimbedBy 0 = .ok (.iconst 1, 1) := dk_4 (dk_at dksX0_areClimbedBy_0 0 rfl rfl)
theorem dX0_areClimbedBy_1 : decode cX0_areClimbedBy 1 = .ok (.istore_n 2, 1) := dk_61 (dk_at dksX0_areClimbedBy_0 1 rfl rfl)
theorem dX0_areClimbedBy_2 : decode cX0_areClimbedBy 2 = .ok (.iconst 0, 1) := dk_3 (dk_at dksX0_areClimbedBy_0 2 rfl rfl)
theorem dX0_areClimbedBy_3 : decode cX0_areClimbedBy 3 = .ok (.istore_n 3, 1) := dk_62 (dk_at dksX0_areClimbedBy_0 3 rfl rfl)
theorem dX0_areClimbedBy_4 : decode cX0_areClimbedBy 4 = .ok (.iload_n 3, 1) := dk_29 (dk_at dksX0_areClimbedBy_0 4 rfl rfl)
theorem dX0_areClimbedBy_5 : decode cX0_areClimbedBy 5 = .ok (.aload_n 0, 1) := dk_42 (dk_at dksX0_areClimbedBy_0 5 rfl rfl)
theorem dX0_areClimbedBy_6 : decode cX0_areClimbedBy 6 = .ok (.getfield 10, 3) := dk_180 0 10 (dk_at dksX0_areClimbedBy_0 6 rfl rfl)
theorem dX0_areClimbedBy_9 : decode cX0_areClimbedBy 9 = .ok (.getfield 103, 3) := dk_180 0 103 (dk_at dksX0_areClimbedBy_0 9 rfl rfl)
theorem dX0_areClimbedBy_12 : decode cX0_areClimbedBy 12 = .ok (.if_icmp .ge 29, 3) := dk_162 0 29 (dk_at dksX0_areClimbedBy_0 12 rfl rfl)
theorem dX0_areClimbedBy_15 : decode cX0_areClimbedBy 15 = .ok (.iload_n 2, 1) := dk_28 (dk_at dksX0_areClimbedBy_0 15 rfl rfl)
theorem dX0_areClimbedBy_16 : decode cX0_areClimbedBy 16 = .ok (.ifCond .eq 25, 3) := dk_153 0 25 (dk_at dksX0_areClimbedBy_0 16 rfl rfl)
theorem dX0_areClimbedBy_19 : decode cX0_areClimbedBy 19 = .ok (.aload_n 0, 1) := dk_42 (dk_at dksX0_areClimbedBy_0 19 rfl rfl)
theorem dX0_areClimbedBy_20 : decode cX0_areClimbedBy 20 = .ok (.iload_n 3, 1) := dk_29 (dk_at dksX0_areClimbedBy_0 20 rfl rfl)
theorem dX0_areClimbedBy_21 : decode cX0_areClimbedBy 21 = .ok (.invokevirtual 187, 3) := dk_182 0 187 (dk_at dksX0_areClimbedBy_0 21 rfl rfl)
theorem dX0_areClimbedBy_24 : decode cX0_areClimbedBy 24 = .ok (.iload_n 1, 1) := dk_27 (dk_at dksX0_areClimbedBy_1 0 rfl rfl)
theorem dX0_areClimbedBy_25 : decode cX0_areClimbedBy 25 = .ok (.iand, 1) := dk_126 (dk_at dksX0_areClimbedBy_1 1 rfl rfl)
theorem dX0_areClimbedBy_26 : decode cX0_areClimbedBy 26 = .ok (.ifCond .eq 7, 3) := dk_153 0 7 (dk_at dksX0_areClimbedBy_1 2 rfl rfl)
theorem dX0_areClimbedBy_29 : decode cX0_areClimbedBy 29 = .ok (.iconst 1, 1) := dk_4 (dk_at dksX0_areClimbedBy_1 5 rfl rfl)
theorem dX0_areClimbedBy_30 : decode cX0_areClimbedBy 30 = .ok (.goto 4, 3) := dk_167 0 4 (dk_at dksX0_areClimbedBy_1 6 rfl rfl)
theorem dX0_areClimbedBy_33 : decode cX0_areClimbedBy 33 = .ok (.iconst 0, 1) := dk_3 (dk_at dksX0_areClimbedBy_1 9 rfl rfl)
theorem dX0_areClimbedBy_34 : decode cX0_areClimbedBy 34 = .ok (.istore_n 2, 1) := dk_61 (dk_at dksX0_areClimbedBy_1 10 rfl rfl)
theorem dX0_areClimbedBy_35 : decode cX0_areClimbedBy 35 = .ok (.iinc 3 1, 3) := dk_132 3 1 (dk_at dksX0_areClimbedBy_1 11 rfl rfl)
theorem dX0_areClimbedBy_38 : decode cX0_areClimbedBy 38 = .ok (.goto (-34), 3) := dk_167 255 222 (dk_at dksX0_areClimbedBy_1 14 rfl rfl)
theorem dX0_areClimbedBy_41 : decode cX0_areClimbedBy 41 = .ok (.iload_n 2, 1) := dk_28 (dk_at dksX0_areClimbedBy_1 17 rfl rfl)
theorem dX0_areClimbedBy_42 : decode cX0_areClimbedBy 42 = .ok (.ireturn, 1) := dk_172 (dk_at dksX0_areClimbedBy_1 18 rfl rfl)
abbrev cX0_see : ByteArray := prog_1_method_47_code
def yX0_see : MethodName := ⟨RX0, "see", "(IIZ)I"⟩
def dkwX0_see_3 : List UInt8 := [96, 181, 0, 90, 42, 180, 0, 90, 172]
abbrev dktX0_see_3 : List UInt8 := dkwX0_see_3 ++ []
def dkwX0_see_2 : List UInt8 := [42, 180, 0, 90, 50, 4, 28, 79, 42, 180, 0, 30, 42, 180, 0, 90, 29, 84, 42, 89, 180, 0, 90, 4]
abbrev dktX0_see_2 : List UInt8 := dkwX0_see_2 ++ dktX0_see_3
def dkwX0_see_1 : List UInt8 := [16, 20, 160, 0, 6, 18, 69, 172, 42, 180, 0, 27, 42, 180, 0, 90, 50, 3, 27, 79, 42, 180, 0, 27]
abbrev dktX0_see_1 : List UInt8 := dkwX0_see_1 ++ dktX0_see_2
def dkwX0_see_0 : List UInt8 := [42, 27, 182, 0, 226, 153, 0, 11, 42, 28, 182, 0, 226, 154, 0, 6, 18, 183, 172, 42, 180, 0, 90]
abbrev dktX0_see_0 : List UInt8 := dkwX0_see_0 ++ dktX0_see_1
theorem dksX0_see_0 : cX0_see.data.toList.drop 0 = dktX0_see_0 := by decide +kernel
theorem dksX0_see_1 : cX0_see.data.toList.drop 23 = dktX0_see_1 := dk_seg dksX0_see_0 23 rfl rfl
theorem dksX0_see_2 : cX0_see.data.toList.drop 47 = dktX0_see_2 := dk_seg dksX0_see_1 24 rfl rfl
theorem dksX0_see_3 : cX0_see.data.toList.drop 71 = dktX0_see_3 := dk_seg dksX0_see_2 24 rfl rfl
theorem dX0_see_0 : decode cX0_see 0 = .ok (.aload_n 0, 1) := dk_42 (dk_at dksX0_see_0 0 rfl rfl)
theorem dX0_see_1 : decode cX0_see 1 = .ok (.iload_n 1, 1) := dk_27 (dk_at dksX0_see_0 1 rfl rfl)
theorem dX0_see_2 : decode cX0_see 2 = .ok (.invokevirtual 226, 3) := dk_182 0 226 (dk_at dksX0_see_0 2 rfl rfl)
theorem dX0_see_5 : decode cX0_see 5 = .ok (.ifCond .eq 11, 3) := dk_153 0 11 (dk_at dksX0_see_0 5 rfl rfl)
theorem dX0_see_8 : decode cX0_see 8 = .ok (.aload_n 0, 1) := dk_42 (dk_at dksX0_see_0 8 rfl rfl)
theorem dX0_see_9 : decode cX0_see 9 = .ok (.iload_n 2, 1) := dk_28 (dk_at dksX0_see_0 9 rfl rfl)
theorem dX0_see_10 : decode cX0_see 10 = .ok (.invokevirtual 226, 3) := dk_182 0 226 (dk_at dksX0_see_0 10 rfl rfl)
theorem dX0_see_13 : decode cX0_see 13 = .ok (.ifCond .ne 6, 3) := dk_154 0 6 (dk_at dksX0_see_0 13 rfl rfl)
theorem dX0_see_16 : decode cX0_see 16 = .ok (.ldc 183, 2) := dk_18 183 (dk_at dksX0_see_0 16 rfl rfl)
theorem dX0_see_18 : decode cX0_see 18 = .ok (.ireturn, 1) := dk_172 (dk_at dksX0_see_0 18 rfl rfl)
theorem dX0_see_19 : decode cX0_see 19 = .ok (.aload_n 0, 1) := dk_42 (dk_at dksX0_see_0 19 rfl rfl)
theorem dX0_see_20 : decode cX0_see 20 = .ok (.getfield 90, 3) := dk_180 0 90 (dk_at dksX0_see_0 20 rfl rfl)
theorem dX0_see_23 : decode cX0_see 23 = .ok (.bipush 20, 2) := dk_16 20 (dk_at dksX0_see_1 0 rfl rfl)
theorem dX0_see_25 : decode cX0_see 25 = .ok (.if_icmp .ne 6, 3) := dk_160 0 6 (dk_at dksX0_see_1 2 rfl rfl)
theorem dX0_see_28 : decode cX0_see 28 = .ok (.ldc 69, 2) := dk_18 69 (dk_at dksX0_see_1 5 rfl rfl)
theorem dX0_see_30 : decode cX0_see 30 = .ok (.ireturn, 1) := dk_172 (dk_at dksX0_see_1 7 rfl rfl)
theorem dX0_see_31 : decode cX0_see 31 = .ok (.aload_n 0, 1) := dk_42 (dk_at dksX0_see_1 8 rfl rfl)
theorem dX0_see_32 : decode cX0_see 32 = .ok (.getfield 27, 3) := dk_180 0 27 (dk_at dksX0_see_1 9 rfl rfl)
theorem dX0_see_35 : decode cX0_see 35 = .ok (.aload_n 0, 1) := dk_42 (dk_at dksX0_see_1 12 rfl rfl)
theorem dX0_see_36 : decode cX0_see 36 = .ok (.getfield 90, 3) := dk_180 0 90 (dk_at dksX0_see_1 13 rfl rfl)
theorem dX0_see_39 : decode cX0_see 39 = .ok (.aaload, 1) := dk_50 (dk_at dksX0_see_1 16 rfl rfl)
theorem dX0_see_40 : decode cX0_see 40 = .ok (.iconst 0, 1) := dk_3 (dk_at dksX0_see_1 17 rfl rfl)
theorem dX0_see_41 : decode cX0_see 41 = .ok (.iload_n 1, 1) := dk_27 (dk_at dksX0_see_1 18 rfl rfl)
theorem dX0_see_42 : decode cX0_see 42 = .ok (.iastore, 1) := dk_79 (dk_at dksX0_see_1 19 rfl rfl)
theorem dX0_see_43 : decode cX0_see 43 = .ok (.aload_n 0, 1) := dk_42 (dk_at dksX0_see_1 20 rfl rfl)
theorem dX0_see_44 : decode cX0_see 44 = .ok (.getfield 27, 3) := dk_180 0 27 (dk_at dksX0_see_1 21 rfl rfl)
theorem dX0_see_47 : decode cX0_see 47 = .ok (.aload_n 0, 1) := dk_42 (dk_at dksX0_see_2 0 rfl rfl)
theorem dX0_see_48 : decode cX0_see 48 = .ok (.getfield 90, 3) := dk_180 0 90 (dk_at dksX0_see_2 1 rfl rfl)
theorem dX0_see_51 : decode cX0_see 51 = .ok (.aaload, 1) := dk_50 (dk_at dksX0_see_2 4 rfl rfl)
theorem dX0_see_52 : decode cX0_see 52 = .ok (.iconst 1, 1) := dk_4 (dk_at dksX0_see_2 5 rfl rfl)
theorem dX0_see_53 : decode cX0_see 53 = .ok (.iload_n 2, 1) := dk_28 (dk_at dksX0_see_2 6 rfl rfl)
theorem dX0_see_54 : decode cX0_see 54 = .ok (.iastore, 1) := dk_79 (dk_at dksX0_see_2 7 rfl rfl)
theorem dX0_see_55 : decode cX0_see 55 = .ok (.aload_n 0, 1) := dk_42 (dk_at dksX0_see_2 8 rfl rfl)
theorem dX0_see_56 : decode cX0_see 56 = .ok (.getfield 30, 3) := dk_180 0 30 (dk_at dksX0_see_2 9 rfl rfl)
theorem dX0_see_59 : decode cX0_see 59 = .ok (.aload_n 0, 1) := dk_42 (dk_at dksX0_see_2 12 rfl rfl)
theorem dX0_see_60 : decode cX0_see 60 = .ok (.getfield 90, 3) := dk_180 0 90 (dk_at dksX0_see_2 13 rfl rfl)
theorem dX0_see_63 : decode cX0_see 63 = .ok (.iload_n 3, 1) := dk_29 (dk_at dksX0_see_2 16 rfl rfl)
theorem dX0_see_64 : decode cX0_see 64 = .ok (.bastore, 1) := dk_84 (dk_at dksX0_see_2 17 rfl rfl)
theorem dX0_see_65 : decode cX0_see 65 = .ok (.aload_n 0, 1) := dk_42 (dk_at dksX0_see_2 18 rfl rfl)
theorem dX0_see_66 : decode cX0_see 66 = .ok (.dup, 1) := dk_89 (dk_at dksX0_see_2 19 rfl rfl)
theorem dX0_see_67 : decode cX0_see 67 = .ok (.getfield 90, 3) := dk_180 0 90 (dk_at dksX0_see_2 20 rfl rfl)
theorem dX0_see_70 : decode cX0_see 70 = .ok (.iconst 1, 1) := dk_4 (dk_at dksX0_see_2 23 rfl rfl)
theorem dX0_see_71 : decode cX0_see 71 = .ok (.iadd, 1) := dk_96 (dk_at dksX0_see_3 0 rfl rfl)
theorem dX0_see_72 : decode cX0_see 72 = .ok (.putfield 90, 3) := dk_181 0 90 (dk_at dksX0_see_3 1 rfl rfl)
theorem dX0_see_75 : decode cX0_see 75 = .ok (.aload_n 0, 1) := dk_42 (dk_at dksX0_see_3 4 rfl rfl)
theorem dX0_see_76 : decode cX0_see 76 = .ok (.getfield 90, 3) := dk_180 0 90 (dk_at dksX0_see_3 5 rfl rfl)
theorem dX0_see_79 : decode cX0_see 79 = .ok (.ireturn, 1) := dk_172 (dk_at dksX0_see_3 8 rfl rfl)
abbrev cX0_fits : ByteArray := prog_1_method_49_code
def yX0_fits : MethodName := ⟨RX0, "fits", "()I"⟩
def dkwX0_fits_1 : List UInt8 := [167, 0, 4, 3, 128, 60, 132, 2, 1, 167, 255, 227, 27, 172]
abbrev dktX0_fits_1 : List UInt8 := dkwX0_fits_1 ++ []
def dkwX0_fits_0 : List UInt8 := [3, 60, 4, 61, 28, 16, 24, 163, 0, 29, 27, 42, 28, 182, 1, 9, 153, 0, 11, 4, 28, 4, 100, 120]
abbrev dktX0_fits_0 : List UInt8 := dkwX0_fits_0 ++ dktX0_fits_1
theorem dksX0_fits_0 : cX0_fits.data.toList.drop 0 = dktX0_fits_0 := by decide +kernel
theorem dksX0_fits_1 : cX0_fits.data.toList.drop 24 = dktX0_fits_1 := dk_seg dksX0_fits_0 24 rfl rfl
theorem dX0_fits_0 : decode cX0_fits 0 = .ok (.iconst 0, 1) := dk_3 (dk_at dksX0_fits_0 0 rfl rfl)
theorem dX0_fits_1 : decode cX0_fits 1 = .ok (.istore_n 1, 1) := dk_60 (dk_at dksX0_fits_0 1 rfl rfl)
theorem dX0_fits_2 : decode cX0_fits 2 = .ok (.iconst 1, 1) := dk_4 (dk_at dksX0_fits_0 2 rfl rfl)
theorem dX0_fits_3 : decode cX0_fits 3 = .ok (.istore_n 2, 1) := dk_61 (dk_at dksX0_fits_0 3 rfl rfl)
theorem dX0_fits_4 : decode cX0_fits 4 = .ok (.iload_n 2, 1) := dk_28 (dk_at dksX0_fits_0 4 rfl rfl)
theorem dX0_fits_5 : decode cX0_fits 5 = .ok (.bipush 24, 2) := dk_16 24 (dk_at dksX0_fits_0 5 rfl rfl)
theorem dX0_fits_7 : decode cX0_fits 7 = .ok (.if_icmp .gt 29, 3) := dk_163 0 29 (dk_at dksX0_fits_0 7 rfl rfl)
theorem dX0_fits_10 : decode cX0_fits 10 = .ok (.iload_n 1, 1) := dk_27 (dk_at dksX0_fits_0 10 rfl rfl)
theorem dX0_fits_11 : decode cX0_fits 11 = .ok (.aload_n 0, 1) := dk_42 (dk_at dksX0_fits_0 11 rfl rfl)
theorem dX0_fits_12 : decode cX0_fits 12 = .ok (.iload_n 2, 1) := dk_28 (dk_at dksX0_fits_0 12 rfl rfl)
theorem dX0_fits_13 : decode cX0_fits 13 = .ok (.invokevirtual 265, 3) := dk_182 1 9 (dk_at dksX0_fits_0 13 rfl rfl)
theorem dX0_fits_16 : decode cX0_fits 16 = .ok (.ifCond .eq 11, 3) := dk_153 0 11 (dk_at dksX0_fits_0 16 rfl rfl)
theorem dX0_fits_19 : decode cX0_fits 19 = .ok (.iconst 1, 1) := dk_4 (dk_at dksX0_fits_0 19 rfl rfl)
theorem dX0_fits_20 : decode cX0_fits 20 = .ok (.iload_n 2, 1) := dk_28 (dk_at dksX0_fits_0 20 rfl rfl)
theorem dX0_fits_21 : decode cX0_fits 21 = .ok (.iconst 1, 1) := dk_4 (dk_at dksX0_fits_0 21 rfl rfl)
theorem dX0_fits_22 : decode cX0_fits 22 = .ok (.isub, 1) := dk_100 (dk_at dksX0_fits_0 22 rfl rfl)
theorem dX0_fits_23 : decode cX0_fits 23 = .ok (.ishl, 1) := dk_120 (dk_at dksX0_fits_0 23 rfl rfl)
theorem dX0_fits_24 : decode cX0_fits 24 = .ok (.goto 4, 3) := dk_167 0 4 (dk_at dksX0_fits_1 0 rfl rfl)
theorem dX0_fits_27 : decode cX0_fits 27 = .ok (.iconst 0, 1) := dk_3 (dk_at dksX0_fits_1 3 rfl rfl)
theorem dX0_fits_28 : decode cX0_fits 28 = .ok (.ior, 1) := dk_128 (dk_at dksX0_fits_1 4 rfl rfl)
theorem dX0_fits_29 : decode cX0_fits 29 = .ok (.istore_n 1, 1) := dk_60 (dk_at dksX0_fits_1 5 rfl rfl)
theorem dX0_fits_30 : decode cX0_fits 30 = .ok (.iinc 2 1, 3) := dk_132 2 1 (dk_at dksX0_fits_1 6 rfl rfl)
theorem dX0_fits_33 : decode cX0_fits 33 = .ok (.goto (-29), 3) := dk_167 255 227 (dk_at dksX0_fits_1 9 rfl rfl)
theorem dX0_fits_36 : decode cX0_fits 36 = .ok (.iload_n 1, 1) := dk_27 (dk_at dksX0_fits_1 12 rfl rfl)
theorem dX0_fits_37 : decode cX0_fits 37 = .ok (.ireturn, 1) := dk_172 (dk_at dksX0_fits_1 13 rfl rfl)
abbrev cX0_isAsSeen : ByteArray := prog_1_method_48_code
def yX0_isAsSeen : MethodName := ⟨RX0, "isAsSeen", "(I)Z"⟩
def dkwX0_isAsSeen_2 : List UInt8 := [160, 0, 7, 4, 167, 0, 4, 3, 61, 132, 3, 1, 167, 255, 201, 28, 172]
abbrev dktX0_isAsSeen_2 : List UInt8 := dkwX0_isAsSeen_2 ++ []
def dkwX0_isAsSeen_1 : List UInt8 := [46, 27, 3, 182, 0, 172, 42, 180, 0, 27, 29, 50, 4, 46, 184, 0, 156, 42, 180, 0, 30, 29, 51]
abbrev dktX0_isAsSeen_1 : List UInt8 := dkwX0_isAsSeen_1 ++ dktX0_isAsSeen_2
def dkwX0_isAsSeen_0 : List UInt8 := [4, 61, 3, 62, 29, 42, 180, 0, 90, 162, 0, 53, 28, 153, 0, 49, 42, 42, 180, 0, 27, 29, 50, 3]
abbrev dktX0_isAsSeen_0 : List UInt8 := dkwX0_isAsSeen_0 ++ dktX0_isAsSeen_1
theorem dksX0_isAsSeen_0 : cX0_isAsSeen.data.toList.drop 0 = dktX0_isAsSeen_0 := by decide +kernel
theorem dksX0_isAsSeen_1 : cX0_isAsSeen.data.toList.drop 24 = dktX0_isAsSeen_1 := dk_seg dksX0_isAsSeen_0 24 rfl rfl
theorem dksX0_isAsSeen_2 : cX0_isAsSeen.data.toList.drop 47 = dktX0_isAsSeen_2 := dk_seg dksX0_isAsSeen_1 23 rfl rfl
theorem dX0_isAsSeen_0 : decode cX0_isAsSeen 0 = .ok (.iconst 1, 1) := dk_4 (dk_at dksX0_isAsSeen_0 0 rfl rfl)
theorem dX0_isAsSeen_1 : decode cX0_isAsSeen 1 = .ok (.istore_n 2, 1) := dk_61 (dk_at dksX0_isAsSeen_0 1 rfl rfl)
theorem dX0_isAsSeen_2 : decode cX0_isAsSeen 2 = .ok (.iconst 0, 1) := dk_3 (dk_at dksX0_isAsSeen_0 2 rfl rfl)
theorem dX0_isAsSeen_3 : decode cX0_isAsSeen 3 = .ok (.istore_n 3, 1) := dk_62 (dk_at dksX0_isAsSeen_0 3 rfl rfl)
theorem dX0_isAsSeen_4 : decode cX0_isAsSeen 4 = .ok (.iload_n 3, 1) := dk_29 (dk_at dksX0_isAsSeen_0 4 rfl rfl)
theorem dX0_isAsSeen_5 : decode cX0_isAsSeen 5 = .ok (.aload_n 0, 1) := dk_42 (dk_at dksX0_isAsSeen_0 5 rfl rfl)
theorem dX0_isAsSeen_6 : decode cX0_isAsSeen 6 = .ok (.getfield 90, 3) := dk_180 0 90 (dk_at dksX0_isAsSeen_0 6 rfl rfl)
theorem dX0_isAsSeen_9 : decode cX0_isAsSeen 9 = .ok (.if_icmp .ge 53, 3) := dk_162 0 53 (dk_at dksX0_isAsSeen_0 9 rfl rfl)
theorem dX0_isAsSeen_12 : decode cX0_isAsSeen 12 = .ok (.iload_n 2, 1) := dk_28 (dk_at dksX0_isAsSeen_0 12 rfl rfl)
theorem dX0_isAsSeen_13 : decode cX0_isAsSeen 13 = .ok (.ifCond .eq 49, 3) := dk_153 0 49 (dk_at dksX0_isAsSeen_0 13 rfl rfl)
theorem dX0_isAsSeen_16 : decode cX0_isAsSeen 16 = .ok (.aload_n 0, 1) := dk_42 (dk_at dksX0_isAsSeen_0 16 rfl rfl)
theorem dX0_isAsSeen_17 : decode cX0_isAsSeen 17 = .ok (.aload_n 0, 1) := dk_42 (dk_at dksX0_isAsSeen_0 17 rfl rfl)
theorem dX0_isAsSeen_18 : decode cX0_isAsSeen 18 = .ok (.getfield 27, 3) := dk_180 0 27 (dk_at dksX0_isAsSeen_0 18 rfl rfl)
theorem dX0_isAsSeen_21 : decode cX0_isAsSeen 21 = .ok (.iload_n 3, 1) := dk_29 (dk_at dksX0_isAsSeen_0 21 rfl rfl)
theorem dX0_isAsSeen_22 : decode cX0_isAsSeen 22 = .ok (.aaload, 1) := dk_50 (dk_at dksX0_isAsSeen_0 22 rfl rfl)
theorem dX0_isAsSeen_23 : decode cX0_isAsSeen 23 = .ok (.iconst 0, 1) := dk_3 (dk_at dksX0_isAsSeen_0 23 rfl rfl)
theorem dX0_isAsSeen_24 : decode cX0_isAsSeen 24 = .ok (.iaload, 1) := dk_46 (dk_at dksX0_isAsSeen_1 0 rfl rfl)
theorem dX0_isAsSeen_25 : decode cX0_isAsSeen 25 = .ok (.iload_n 1, 1) := dk_27 (dk_at dksX0_isAsSeen_1 1 rfl rfl)
theorem dX0_isAsSeen_26 : decode cX0_isAsSeen 26 = .ok (.iconst 0, 1) := dk_3 (dk_at dksX0_isAsSeen_1 2 rfl rfl)
theorem dX0_isAsSeen_27 : decode cX0_isAsSeen 27 = .ok (.invokevirtual 172, 3) := dk_182 0 172 (dk_at dksX0_isAsSeen_1 3 rfl rfl)
theorem dX0_isAsSeen_30 : decode cX0_isAsSeen 30 = .ok (.aload_n 0, 1) := dk_42 (dk_at dksX0_isAsSeen_1 6 rfl rfl)
theorem dX0_isAsSeen_31 : decode cX0_isAsSeen 31 = .ok (.getfield 27, 3) := dk_180 0 27 (dk_at dksX0_isAsSeen_1 7 rfl rfl)
theorem dX0_isAsSeen_34 : decode cX0_isAsSeen 34 = .ok (.iload_n 3, 1) := dk_29 (dk_at dksX0_isAsSeen_1 10 rfl rfl)
theorem dX0_isAsSeen_35 : decode cX0_isAsSeen 35 = .ok (.aaload, 1) := dk_50 (dk_at dksX0_isAsSeen_1 11 rfl rfl)
theorem dX0_isAsSeen_36 : decode cX0_isAsSeen 36 = .ok (.iconst 1, 1) := dk_4 (dk_at dksX0_isAsSeen_1 12 rfl rfl)
theorem dX0_isAsSeen_37 : decode cX0_isAsSeen 37 = .ok (.iaload, 1) := dk_46 (dk_at dksX0_isAsSeen_1 13 rfl rfl)
theorem dX0_isAsSeen_38 : decode cX0_isAsSeen 38 = .ok (.invokestatic 156, 3) := dk_184 0 156 (dk_at dksX0_isAsSeen_1 14 rfl rfl)
theorem dX0_isAsSeen_41 : decode cX0_isAsSeen 41 = .ok (.aload_n 0, 1) := dk_42 (dk_at dksX0_isAsSeen_1 17 rfl rfl)
theorem dX0_isAsSeen_42 : decode cX0_isAsSeen 42 = .ok (.getfield 30, 3) := dk_180 0 30 (dk_at dksX0_isAsSeen_1 18 rfl rfl)
theorem dX0_isAsSeen_45 : decode cX0_isAsSeen 45 = .ok (.iload_n 3, 1) := dk_29 (dk_at dksX0_isAsSeen_1 21 rfl rfl)
theorem dX0_isAsSeen_46 : decode cX0_isAsSeen 46 = .ok (.baload, 1) := dk_51 (dk_at dksX0_isAsSeen_1 22 rfl rfl)
theorem dX0_isAsSeen_47 : decode cX0_isAsSeen 47 = .ok (.if_icmp .ne 7, 3) := dk_160 0 7 (dk_at dksX0_isAsSeen_2 0 rfl rfl)
theorem dX0_isAsSeen_50 : decode cX0_isAsSeen 50 = .ok (.iconst 1, 1) := dk_4 (dk_at dksX0_isAsSeen_2 3 rfl rfl)
theorem dX0_isAsSeen_51 : decode cX0_isAsSeen 51 = .ok (.goto 4, 3) := dk_167 0 4 (dk_at dksX0_isAsSeen_2 4 rfl rfl)
theorem dX0_isAsSeen_54 : decode cX0_isAsSeen 54 = .ok (.iconst 0, 1) := dk_3 (dk_at dksX0_isAsSeen_2 7 rfl rfl)
theorem dX0_isAsSeen_55 : decode cX0_isAsSeen 55 = .ok (.istore_n 2, 1) := dk_61 (dk_at dksX0_isAsSeen_2 8 rfl rfl)
theorem dX0_isAsSeen_56 : decode cX0_isAsSeen 56 = .ok (.iinc 3 1, 3) := dk_132 3 1 (dk_at dksX0_isAsSeen_2 9 rfl rfl)
theorem dX0_isAsSeen_59 : decode cX0_isAsSeen 59 = .ok (.goto (-55), 3) := dk_167 255 201 (dk_at dksX0_isAsSeen_2 12 rfl rfl)
theorem dX0_isAsSeen_62 : decode cX0_isAsSeen 62 = .ok (.iload_n 2, 1) := dk_28 (dk_at dksX0_isAsSeen_2 15 rfl rfl)
theorem dX0_isAsSeen_63 : decode cX0_isAsSeen 63 = .ok (.ireturn, 1) := dk_172 (dk_at dksX0_isAsSeen_2 16 rfl rfl)
abbrev cX0_ask : ByteArray := prog_1_method_50_code
def yX0_ask : MethodName := ⟨RX0, "ask", "()I"⟩
def dkwX0_ask_6 : List UInt8 := [21, 5, 21, 6, 100, 184, 1, 14, 62, 132, 4, 1, 167, 255, 115, 28, 172]
abbrev dktX0_ask_6 : List UInt8 := dkwX0_ask_6 ++ []
def dkwX0_ask_5 : List UInt8 := [158, 0, 32, 28, 2, 159, 0, 15, 21, 5, 21, 6, 100, 184, 1, 14, 29, 162, 0, 15, 21, 4, 61]
abbrev dktX0_ask_5 : List UInt8 := dkwX0_ask_5 ++ dktX0_ask_6
def dkwX0_ask_4 : List UInt8 := [154, 0, 7, 4, 167, 0, 4, 3, 96, 54, 6, 132, 7, 1, 167, 255, 181, 21, 5, 158, 0, 37, 21, 6]
abbrev dktX0_ask_4 : List UInt8 := dkwX0_ask_4 ++ dktX0_ask_5
def dkwX0_ask_3 : List UInt8 := [167, 0, 4, 3, 96, 54, 5, 21, 6, 27, 21, 7, 4, 100, 184, 0, 156, 153, 0, 12, 21, 8]
abbrev dktX0_ask_3 : List UInt8 := dkwX0_ask_3 ++ dktX0_ask_4
def dkwX0_ask_2 : List UInt8 := [182, 0, 137, 54, 8, 21, 5, 27, 21, 7, 4, 100, 184, 0, 156, 153, 0, 12, 21, 8, 153, 0, 7, 4]
abbrev dktX0_ask_2 : List UInt8 := dkwX0_ask_2 ++ dktX0_ask_3
def dkwX0_ask_1 : List UInt8 := [3, 54, 5, 3, 54, 6, 4, 54, 7, 21, 7, 16, 24, 163, 0, 74, 42, 21, 4, 182, 0, 133, 21, 7]
abbrev dktX0_ask_1 : List UInt8 := dkwX0_ask_1 ++ dktX0_ask_2
def dkwX0_ask_0 : List UInt8 := [42, 182, 1, 12, 60, 2, 61, 3, 62, 3, 54, 4, 21, 4, 42, 180, 0, 10, 180, 0, 103, 162, 0, 135]
abbrev dktX0_ask_0 : List UInt8 := dkwX0_ask_0 ++ dktX0_ask_1
theorem dksX0_ask_0 : cX0_ask.data.toList.drop 0 = dktX0_ask_0 := by decide +kernel
theorem dksX0_ask_1 : cX0_ask.data.toList.drop 24 = dktX0_ask_1 := dk_seg dksX0_ask_0 24 rfl rfl
theorem dksX0_ask_2 : cX0_ask.data.toList.drop 48 = dktX0_ask_2 := dk_seg dksX0_ask_1 24 rfl rfl
theorem dksX0_ask_3 : cX0_ask.data.toList.drop 72 = dktX0_ask_3 := dk_seg dksX0_ask_2 24 rfl rfl
theorem dksX0_ask_4 : cX0_ask.data.toList.drop 94 = dktX0_ask_4 := dk_seg dksX0_ask_3 22 rfl rfl
theorem dksX0_ask_5 : cX0_ask.data.toList.drop 118 = dktX0_ask_5 := dk_seg dksX0_ask_4 24 rfl rfl
theorem dksX0_ask_6 : cX0_ask.data.toList.drop 141 = dktX0_ask_6 := dk_seg dksX0_ask_5 23 rfl rfl
theorem dX0_ask_0 : decode cX0_ask 0 = .ok (.aload_n 0, 1) := dk_42 (dk_at dksX0_ask_0 0 rfl rfl)
theorem dX0_ask_1 : decode cX0_ask 1 = .ok (.invokevirtual 268, 3) := dk_182 1 12 (dk_at dksX0_ask_0 1 rfl rfl)
theorem dX0_ask_4 : decode cX0_ask 4 = .ok (.istore_n 1, 1) := dk_60 (dk_at dksX0_ask_0 4 rfl rfl)
theorem dX0_ask_5 : decode cX0_ask 5 = .ok (.iconst (-1), 1) := dk_2 (dk_at dksX0_ask_0 5 rfl rfl)
theorem dX0_ask_6 : decode cX0_ask 6 = .ok (.istore_n 2, 1) := dk_61 (dk_at dksX0_ask_0 6 rfl rfl)
theorem dX0_ask_7 : decode cX0_ask 7 = .ok (.iconst 0, 1) := dk_3 (dk_at dksX0_ask_0 7 rfl rfl)
theorem dX0_ask_8 : decode cX0_ask 8 = .ok (.istore_n 3, 1) := dk_62 (dk_at dksX0_ask_0 8 rfl rfl)
theorem dX0_ask_9 : decode cX0_ask 9 = .ok (.iconst 0, 1) := dk_3 (dk_at dksX0_ask_0 9 rfl rfl)
theorem dX0_ask_10 : decode cX0_ask 10 = .ok (.istore 4, 2) := dk_54 4 (dk_at dksX0_ask_0 10 rfl rfl)
theorem dX0_ask_12 : decode cX0_ask 12 = .ok (.iload 4, 2) := dk_21 4 (dk_at dksX0_ask_0 12 rfl rfl)
theorem dX0_ask_14 : decode cX0_ask 14 = .ok (.aload_n 0, 1) := dk_42 (dk_at dksX0_ask_0 14 rfl rfl)
theorem dX0_ask_15 : decode cX0_ask 15 = .ok (.getfield 10, 3) := dk_180 0 10 (dk_at dksX0_ask_0 15 rfl rfl)
theorem dX0_ask_18 : decode cX0_ask 18 = .ok (.getfield 103, 3) := dk_180 0 103 (dk_at dksX0_ask_0 18 rfl rfl)
theorem dX0_ask_21 : decode cX0_ask 21 = .ok (.if_icmp .ge 135, 3) := dk_162 0 135 (dk_at dksX0_ask_0 21 rfl rfl)
theorem dX0_ask_24 : decode cX0_ask 24 = .ok (.iconst 0, 1) := dk_3 (dk_at dksX0_ask_1 0 rfl rfl)
theorem dX0_ask_25 : decode cX0_ask 25 = .ok (.istore 5, 2) := dk_54 5 (dk_at dksX0_ask_1 1 rfl rfl)
theorem dX0_ask_27 : decode cX0_ask 27 = .ok (.iconst 0, 1) := dk_3 (dk_at dksX0_ask_1 3 rfl rfl)
theorem dX0_ask_28 : decode cX0_ask 28 = .ok (.istore 6, 2) := dk_54 6 (dk_at dksX0_ask_1 4 rfl rfl)
theorem dX0_ask_30 : decode cX0_ask 30 = .ok (.iconst 1, 1) := dk_4 (dk_at dksX0_ask_1 6 rfl rfl)
theorem dX0_ask_31 : decode cX0_ask 31 = .ok (.istore 7, 2) := dk_54 7 (dk_at dksX0_ask_1 7 rfl rfl)
theorem dX0_ask_33 : decode cX0_ask 33 = .ok (.iload 7, 2) := dk_21 7 (dk_at dksX0_ask_1 9 rfl rfl)
theorem dX0_ask_35 : decode cX0_ask 35 = .ok (.bipush 24, 2) := dk_16 24 (dk_at dksX0_ask_1 11 rfl rfl)
theorem dX0_ask_37 : decode cX0_ask 37 = .ok (.if_icmp .gt 74, 3) := dk_163 0 74 (dk_at dksX0_ask_1 13 rfl rfl)
theorem dX0_ask_40 : decode cX0_ask 40 = .ok (.aload_n 0, 1) := dk_42 (dk_at dksX0_ask_1 16 rfl rfl)
theorem dX0_ask_41 : decode cX0_ask 41 = .ok (.iload 4, 2) := dk_21 4 (dk_at dksX0_ask_1 17 rfl rfl)
theorem dX0_ask_43 : decode cX0_ask 43 = .ok (.invokevirtual 133, 3) := dk_182 0 133 (dk_at dksX0_ask_1 19 rfl rfl)
theorem dX0_ask_46 : decode cX0_ask 46 = .ok (.iload 7, 2) := dk_21 7 (dk_at dksX0_ask_1 22 rfl rfl)
theorem dX0_ask_48 : decode cX0_ask 48 = .ok (.invokevirtual 137, 3) := dk_182 0 137 (dk_at dksX0_ask_2 0 rfl rfl)
theorem dX0_ask_51 : decode cX0_ask 51 = .ok (.istore 8, 2) := dk_54 8 (dk_at dksX0_ask_2 3 rfl rfl)
theorem dX0_ask_53 : decode cX0_ask 53 = .ok (.iload 5, 2) := dk_21 5 (dk_at dksX0_ask_2 5 rfl rfl)
theorem dX0_ask_55 : decode cX0_ask 55 = .ok (.iload_n 1, 1) := dk_27 (dk_at dksX0_ask_2 7 rfl rfl)
theorem dX0_ask_56 : decode cX0_ask 56 = .ok (.iload 7, 2) := dk_21 7 (dk_at dksX0_ask_2 8 rfl rfl)
theorem dX0_ask_58 : decode cX0_ask 58 = .ok (.iconst 1, 1) := dk_4 (dk_at dksX0_ask_2 10 rfl rfl)
theorem dX0_ask_59 : decode cX0_ask 59 = .ok (.isub, 1) := dk_100 (dk_at dksX0_ask_2 11 rfl rfl)
theorem dX0_ask_60 : decode cX0_ask 60 = .ok (.invokestatic 156, 3) := dk_184 0 156 (dk_at dksX0_ask_2 12 rfl rfl)
theorem dX0_ask_63 : decode cX0_ask 63 = .ok (.ifCond .eq 12, 3) := dk_153 0 12 (dk_at dksX0_ask_2 15 rfl rfl)
theorem dX0_ask_66 : decode cX0_ask 66 = .ok (.iload 8, 2) := dk_21 8 (dk_at dksX0_ask_2 18 rfl rfl)
theorem dX0_ask_68 : decode cX0_ask 68 = .ok (.ifCond .eq 7, 3) := dk_153 0 7 (dk_at dksX0_ask_2 20 rfl rfl)
theorem dX0_ask_71 : decode cX0_ask 71 = .ok (.iconst 1, 1) := dk_4 (dk_at dksX0_ask_2 23 rfl rfl)
theorem dX0_ask_72 : decode cX0_ask 72 = .ok (.goto 4, 3) := dk_167 0 4 (dk_at dksX0_ask_3 0 rfl rfl)
theorem dX0_ask_75 : decode cX0_ask 75 = .ok (.iconst 0, 1) := dk_3 (dk_at dksX0_ask_3 3 rfl rfl)
theorem dX0_ask_76 : decode cX0_ask 76 = .ok (.iadd, 1) := dk_96 (dk_at dksX0_ask_3 4 rfl rfl)
theorem dX0_ask_77 : decode cX0_ask 77 = .ok (.istore 5, 2) := dk_54 5 (dk_at dksX0_ask_3 5 rfl rfl)
theorem dX0_ask_79 : decode cX0_ask 79 = .ok (.iload 6, 2) := dk_21 6 (dk_at dksX0_ask_3 7 rfl rfl)
theorem dX0_ask_81 : decode cX0_ask 81 = .ok (.iload_n 1, 1) := dk_27 (dk_at dksX0_ask_3 9 rfl rfl)
theorem dX0_ask_82 : decode cX0_ask 82 = .ok (.iload 7, 2) := dk_21 7 (dk_at dksX0_ask_3 10 rfl rfl)
theorem dX0_ask_84 : decode cX0_ask 84 = .ok (.iconst 1, 1) := dk_4 (dk_at dksX0_ask_3 12 rfl rfl)
theorem dX0_ask_85 : decode cX0_ask 85 = .ok (.isub, 1) := dk_100 (dk_at dksX0_ask_3 13 rfl rfl)
theorem dX0_ask_86 : decode cX0_ask 86 = .ok (.invokestatic 156, 3) := dk_184 0 156 (dk_at dksX0_ask_3 14 rfl rfl)
theorem dX0_ask_89 : decode cX0_ask 89 = .ok (.ifCond .eq 12, 3) := dk_153 0 12 (dk_at dksX0_ask_3 17 rfl rfl)
theorem dX0_ask_92 : decode cX0_ask 92 = .ok (.iload 8, 2) := dk_21 8 (dk_at dksX0_ask_3 20 rfl rfl)
theorem dX0_ask_94 : decode cX0_ask 94 = .ok (.ifCond .ne 7, 3) := dk_154 0 7 (dk_at dksX0_ask_4 0 rfl rfl)
theorem dX0_ask_97 : decode cX0_ask 97 = .ok (.iconst 1, 1) := dk_4 (dk_at dksX0_ask_4 3 rfl rfl)
theorem dX0_ask_98 : decode cX0_ask 98 = .ok (.goto 4, 3) := dk_167 0 4 (dk_at dksX0_ask_4 4 rfl rfl)
theorem dX0_ask_101 : decode cX0_ask 101 = .ok (.iconst 0, 1) := dk_3 (dk_at dksX0_ask_4 7 rfl rfl)
theorem dX0_ask_102 : decode cX0_ask 102 = .ok (.iadd, 1) := dk_96 (dk_at dksX0_ask_4 8 rfl rfl)
theorem dX0_ask_103 : decode cX0_ask 103 = .ok (.istore 6, 2) := dk_54 6 (dk_at dksX0_ask_4 9 rfl rfl)
theorem dX0_ask_105 : decode cX0_ask 105 = .ok (.iinc 7 1, 3) := dk_132 7 1 (dk_at dksX0_ask_4 11 rfl rfl)
theorem dX0_ask_108 : decode cX0_ask 108 = .ok (.goto (-75), 3) := dk_167 255 181 (dk_at dksX0_ask_4 14 rfl rfl)
theorem dX0_ask_111 : decode cX0_ask 111 = .ok (.iload 5, 2) := dk_21 5 (dk_at dksX0_ask_4 17 rfl rfl)
theorem dX0_ask_113 : decode cX0_ask 113 = .ok (.ifCond .le 37, 3) := dk_158 0 37 (dk_at dksX0_ask_4 19 rfl rfl)
theorem dX0_ask_116 : decode cX0_ask 116 = .ok (.iload 6, 2) := dk_21 6 (dk_at dksX0_ask_4 22 rfl rfl)
theorem dX0_ask_118 : decode cX0_ask 118 = .ok (.ifCond .le 32, 3) := dk_158 0 32 (dk_at dksX0_ask_5 0 rfl rfl)
theorem dX0_ask_121 : decode cX0_ask 121 = .ok (.iload_n 2, 1) := dk_28 (dk_at dksX0_ask_5 3 rfl rfl)
theorem dX0_ask_122 : decode cX0_ask 122 = .ok (.iconst (-1), 1) := dk_2 (dk_at dksX0_ask_5 4 rfl rfl)
theorem dX0_ask_123 : decode cX0_ask 123 = .ok (.if_icmp .eq 15, 3) := dk_159 0 15 (dk_at dksX0_ask_5 5 rfl rfl)
theorem dX0_ask_126 : decode cX0_ask 126 = .ok (.iload 5, 2) := dk_21 5 (dk_at dksX0_ask_5 8 rfl rfl)
theorem dX0_ask_128 : decode cX0_ask 128 = .ok (.iload 6, 2) := dk_21 6 (dk_at dksX0_ask_5 10 rfl rfl)
theorem dX0_ask_130 : decode cX0_ask 130 = .ok (.isub, 1) := dk_100 (dk_at dksX0_ask_5 12 rfl rfl)
theorem dX0_ask_131 : decode cX0_ask 131 = .ok (.invokestatic 270, 3) := dk_184 1 14 (dk_at dksX0_ask_5 13 rfl rfl)
theorem dX0_ask_134 : decode cX0_ask 134 = .ok (.iload_n 3, 1) := dk_29 (dk_at dksX0_ask_5 16 rfl rfl)
theorem dX0_ask_135 : decode cX0_ask 135 = .ok (.if_icmp .ge 15, 3) := dk_162 0 15 (dk_at dksX0_ask_5 17 rfl rfl)
theorem dX0_ask_138 : decode cX0_ask 138 = .ok (.iload 4, 2) := dk_21 4 (dk_at dksX0_ask_5 20 rfl rfl)
theorem dX0_ask_140 : decode cX0_ask 140 = .ok (.istore_n 2, 1) := dk_61 (dk_at dksX0_ask_5 22 rfl rfl)
theorem dX0_ask_141 : decode cX0_ask 141 = .ok (.iload 5, 2) := dk_21 5 (dk_at dksX0_ask_6 0 rfl rfl)
theorem dX0_ask_143 : decode cX0_ask 143 = .ok (.iload 6, 2) := dk_21 6 (dk_at dksX0_ask_6 2 rfl rfl)
theorem dX0_ask_145 : decode cX0_ask 145 = .ok (.isub, 1) := dk_100 (dk_at dksX0_ask_6 4 rfl rfl)
theorem dX0_ask_146 : decode cX0_ask 146 = .ok (.invokestatic 270, 3) := dk_184 1 14 (dk_at dksX0_ask_6 5 rfl rfl)
theorem dX0_ask_149 : decode cX0_ask 149 = .ok (.istore_n 3, 1) := dk_62 (dk_at dksX0_ask_6 8 rfl rfl)
theorem dX0_ask_150 : decode cX0_ask 150 = .ok (.iinc 4 1, 3) := dk_132 4 1 (dk_at dksX0_ask_6 9 rfl rfl)
theorem dX0_ask_153 : decode cX0_ask 153 = .ok (.goto (-141), 3) := dk_167 255 115 (dk_at dksX0_ask_6 12 rfl rfl)
theorem dX0_ask_156 : decode cX0_ask 156 = .ok (.iload_n 2, 1) := dk_28 (dk_at dksX0_ask_6 15 rfl rfl)
theorem dX0_ask_157 : decode cX0_ask 157 = .ok (.ireturn, 1) := dk_172 (dk_at dksX0_ask_6 16 rfl rfl)
abbrev cX0_write : ByteArray := prog_1_method_51_code
def yX0_write : MethodName := ⟨RX0, "write", "(II)I"⟩
def dkwX0_write_2 : List UInt8 := [180, 0, 93, 28, 79, 42, 89, 180, 0, 93, 4, 96, 181, 0, 93, 42, 180, 0, 93, 172]
abbrev dktX0_write_2 : List UInt8 := dkwX0_write_2 ++ []
def dkwX0_write_1 : List UInt8 := [16, 40, 160, 0, 6, 18, 69, 172, 42, 180, 0, 34, 42, 180, 0, 93, 27, 79, 42, 180, 0, 38, 42]
abbrev dktX0_write_1 : List UInt8 := dkwX0_write_1 ++ dktX0_write_2
def dkwX0_write_0 : List UInt8 := [42, 27, 182, 0, 190, 153, 0, 11, 42, 28, 182, 0, 109, 154, 0, 6, 18, 183, 172, 42, 180, 0, 93]
abbrev dktX0_write_0 : List UInt8 := dkwX0_write_0 ++ dktX0_write_1
theorem dksX0_write_0 : cX0_write.data.toList.drop 0 = dktX0_write_0 := by decide +kernel
theorem dksX0_write_1 : cX0_write.data.toList.drop 23 = dktX0_write_1 := dk_seg dksX0_write_0 23 rfl rfl
theorem dksX0_write_2 : cX0_write.data.toList.drop 46 = dktX0_write_2 := dk_seg dksX0_write_1 23 rfl rfl
theorem dX0_write_0 : decode cX0_write 0 = .ok (.aload_n 0, 1) := dk_42 (dk_at dksX0_write_0 0 rfl rfl)
theorem dX0_write_1 : decode cX0_write 1 = .ok (.iload_n 1, 1) := dk_27 (dk_at dksX0_write_0 1 rfl rfl)
theorem dX0_write_2 : decode cX0_write 2 = .ok (.invokevirtual 190, 3) := dk_182 0 190 (dk_at dksX0_write_0 2 rfl rfl)
theorem dX0_write_5 : decode cX0_write 5 = .ok (.ifCond .eq 11, 3) := dk_153 0 11 (dk_at dksX0_write_0 5 rfl rfl)
theorem dX0_write_8 : decode cX0_write 8 = .ok (.aload_n 0, 1) := dk_42 (dk_at dksX0_write_0 8 rfl rfl)
theorem dX0_write_9 : decode cX0_write 9 = .ok (.iload_n 2, 1) := dk_28 (dk_at dksX0_write_0 9 rfl rfl)
theorem dX0_write_10 : decode cX0_write 10 = .ok (.invokevirtual 109, 3) := dk_182 0 109 (dk_at dksX0_write_0 10 rfl rfl)
theorem dX0_write_13 : decode cX0_write 13 = .ok (.ifCond .ne 6, 3) := dk_154 0 6 (dk_at dksX0_write_0 13 rfl rfl)
theorem dX0_write_16 : decode cX0_write 16 = .ok (.ldc 183, 2) := dk_18 183 (dk_at dksX0_write_0 16 rfl rfl)
theorem dX0_write_18 : decode cX0_write 18 = .ok (.ireturn, 1) := dk_172 (dk_at dksX0_write_0 18 rfl rfl)
theorem dX0_write_19 : decode cX0_write 19 = .ok (.aload_n 0, 1) := dk_42 (dk_at dksX0_write_0 19 rfl rfl)
theorem dX0_write_20 : decode cX0_write 20 = .ok (.getfield 93, 3) := dk_180 0 93 (dk_at dksX0_write_0 20 rfl rfl)
theorem dX0_write_23 : decode cX0_write 23 = .ok (.bipush 40, 2) := dk_16 40 (dk_at dksX0_write_1 0 rfl rfl)
theorem dX0_write_25 : decode cX0_write 25 = .ok (.if_icmp .ne 6, 3) := dk_160 0 6 (dk_at dksX0_write_1 2 rfl rfl)
theorem dX0_write_28 : decode cX0_write 28 = .ok (.ldc 69, 2) := dk_18 69 (dk_at dksX0_write_1 5 rfl rfl)
theorem dX0_write_30 : decode cX0_write 30 = .ok (.ireturn, 1) := dk_172 (dk_at dksX0_write_1 7 rfl rfl)
theorem dX0_write_31 : decode cX0_write 31 = .ok (.aload_n 0, 1) := dk_42 (dk_at dksX0_write_1 8 rfl rfl)
theorem dX0_write_32 : decode cX0_write 32 = .ok (.getfield 34, 3) := dk_180 0 34 (dk_at dksX0_write_1 9 rfl rfl)
theorem dX0_write_35 : decode cX0_write 35 = .ok (.aload_n 0, 1) := dk_42 (dk_at dksX0_write_1 12 rfl rfl)
theorem dX0_write_36 : decode cX0_write 36 = .ok (.getfield 93, 3) := dk_180 0 93 (dk_at dksX0_write_1 13 rfl rfl)
theorem dX0_write_39 : decode cX0_write 39 = .ok (.iload_n 1, 1) := dk_27 (dk_at dksX0_write_1 16 rfl rfl)
theorem dX0_write_40 : decode cX0_write 40 = .ok (.iastore, 1) := dk_79 (dk_at dksX0_write_1 17 rfl rfl)
theorem dX0_write_41 : decode cX0_write 41 = .ok (.aload_n 0, 1) := dk_42 (dk_at dksX0_write_1 18 rfl rfl)
theorem dX0_write_42 : decode cX0_write 42 = .ok (.getfield 38, 3) := dk_180 0 38 (dk_at dksX0_write_1 19 rfl rfl)
theorem dX0_write_45 : decode cX0_write 45 = .ok (.aload_n 0, 1) := dk_42 (dk_at dksX0_write_1 22 rfl rfl)
theorem dX0_write_46 : decode cX0_write 46 = .ok (.getfield 93, 3) := dk_180 0 93 (dk_at dksX0_write_2 0 rfl rfl)
theorem dX0_write_49 : decode cX0_write 49 = .ok (.iload_n 2, 1) := dk_28 (dk_at dksX0_write_2 3 rfl rfl)
theorem dX0_write_50 : decode cX0_write 50 = .ok (.iastore, 1) := dk_79 (dk_at dksX0_write_2 4 rfl rfl)
theorem dX0_write_51 : decode cX0_write 51 = .ok (.aload_n 0, 1) := dk_42 (dk_at dksX0_write_2 5 rfl rfl)
theorem dX0_write_52 : decode cX0_write 52 = .ok (.dup, 1) := dk_89 (dk_at dksX0_write_2 6 rfl rfl)
theorem dX0_write_53 : decode cX0_write 53 = .ok (.getfield 93, 3) := dk_180 0 93 (dk_at dksX0_write_2 7 rfl rfl)
theorem dX0_write_56 : decode cX0_write 56 = .ok (.iconst 1, 1) := dk_4 (dk_at dksX0_write_2 10 rfl rfl)
theorem dX0_write_57 : decode cX0_write 57 = .ok (.iadd, 1) := dk_96 (dk_at dksX0_write_2 11 rfl rfl)
theorem dX0_write_58 : decode cX0_write 58 = .ok (.putfield 93, 3) := dk_181 0 93 (dk_at dksX0_write_2 12 rfl rfl)
theorem dX0_write_61 : decode cX0_write 61 = .ok (.aload_n 0, 1) := dk_42 (dk_at dksX0_write_2 15 rfl rfl)
theorem dX0_write_62 : decode cX0_write 62 = .ok (.getfield 93, 3) := dk_180 0 93 (dk_at dksX0_write_2 16 rfl rfl)
theorem dX0_write_65 : decode cX0_write 65 = .ok (.ireturn, 1) := dk_172 (dk_at dksX0_write_2 19 rfl rfl)
abbrev cX0_tear : ByteArray := prog_1_method_52_code
def yX0_tear : MethodName := ⟨RX0, "tear", "()I"⟩
def dkwX0_tear_0 : List UInt8 := [42, 180, 0, 93, 42, 180, 0, 90, 96, 60, 42, 3, 181, 0, 93, 42, 3, 181, 0, 90, 27, 172]
abbrev dktX0_tear_0 : List UInt8 := dkwX0_tear_0 ++ []
theorem dksX0_tear_0 : cX0_tear.data.toList.drop 0 = dktX0_tear_0 := by decide +kernel
theorem dX0_tear_0 : decode cX0_tear 0 = .ok (.aload_n 0, 1) := dk_42 (dk_at dksX0_tear_0 0 rfl rfl)
theorem dX0_tear_1 : decode cX0_tear 1 = .ok (.getfield 93, 3) := dk_180 0 93 (dk_at dksX0_tear_0 1 rfl rfl)
theorem dX0_tear_4 : decode cX0_tear 4 = .ok (.aload_n 0, 1) := dk_42 (dk_at dksX0_tear_0 4 rfl rfl)
theorem dX0_tear_5 : decode cX0_tear 5 = .ok (.getfield 90, 3) := dk_180 0 90 (dk_at dksX0_tear_0 5 rfl rfl)
theorem dX0_tear_8 : decode cX0_tear 8 = .ok (.iadd, 1) := dk_96 (dk_at dksX0_tear_0 8 rfl rfl)
theorem dX0_tear_9 : decode cX0_tear 9 = .ok (.istore_n 1, 1) := dk_60 (dk_at dksX0_tear_0 9 rfl rfl)
theorem dX0_tear_10 : decode cX0_tear 10 = .ok (.aload_n 0, 1) := dk_42 (dk_at dksX0_tear_0 10 rfl rfl)
theorem dX0_tear_11 : decode cX0_tear 11 = .ok (.iconst 0, 1) := dk_3 (dk_at dksX0_tear_0 11 rfl rfl)
theorem dX0_tear_12 : decode cX0_tear 12 = .ok (.putfield 93, 3) := dk_181 0 93 (dk_at dksX0_tear_0 12 rfl rfl)
theorem dX0_tear_15 : decode cX0_tear 15 = .ok (.aload_n 0, 1) := dk_42 (dk_at dksX0_tear_0 15 rfl rfl)
theorem dX0_tear_16 : decode cX0_tear 16 = .ok (.iconst 0, 1) := dk_3 (dk_at dksX0_tear_0 16 rfl rfl)
theorem dX0_tear_17 : decode cX0_tear 17 = .ok (.putfield 90, 3) := dk_181 0 90 (dk_at dksX0_tear_0 17 rfl rfl)
theorem dX0_tear_20 : decode cX0_tear 20 = .ok (.iload_n 1, 1) := dk_27 (dk_at dksX0_tear_0 20 rfl rfl)
theorem dX0_tear_21 : decode cX0_tear 21 = .ok (.ireturn, 1) := dk_172 (dk_at dksX0_tear_0 21 rfl rfl)
abbrev cX0_judge : ByteArray := prog_1_method_53_code
def yX0_judge : MethodName := ⟨RX0, "judge", "()I"⟩
def dkwX0_judge_5 : List UInt8 := [2, 172]
abbrev dktX0_judge_5 : List UInt8 := dkwX0_judge_5 ++ []
def dkwX0_judge_4 : List UInt8 := [180, 0, 10, 180, 0, 113, 29, 50, 42, 180, 0, 54, 28, 46, 182, 0, 146, 79, 132, 1, 1, 167, 255, 165]
abbrev dktX0_judge_4 : List UInt8 := dkwX0_judge_4 ++ dktX0_judge_5
def dkwX0_judge_3 : List UInt8 := [180, 0, 21, 180, 0, 169, 28, 46, 182, 0, 160, 154, 0, 5, 27, 172, 42, 180, 0, 54, 28, 42]
abbrev dktX0_judge_3 : List UInt8 := dkwX0_judge_3 ++ dktX0_judge_4
def dkwX0_judge_2 : List UInt8 := [182, 0, 190, 153, 0, 35, 42, 29, 42, 180, 0, 54, 28, 46, 42, 180, 0, 21, 180, 0, 166, 28, 46, 42]
abbrev dktX0_judge_2 : List UInt8 := dkwX0_judge_2 ++ dktX0_judge_3
def dkwX0_judge_1 : List UInt8 := [180, 0, 93, 162, 0, 89, 42, 180, 0, 34, 27, 46, 61, 42, 180, 0, 38, 27, 46, 62, 42, 28]
abbrev dktX0_judge_1 : List UInt8 := dkwX0_judge_1 ++ dktX0_judge_2
def dkwX0_judge_0 : List UInt8 := [42, 180, 0, 21, 180, 0, 164, 3, 42, 180, 0, 54, 3, 16, 8, 184, 0, 127, 3, 60, 27, 42]
abbrev dktX0_judge_0 : List UInt8 := dkwX0_judge_0 ++ dktX0_judge_1
theorem dksX0_judge_0 : cX0_judge.data.toList.drop 0 = dktX0_judge_0 := by decide +kernel
theorem dksX0_judge_1 : cX0_judge.data.toList.drop 22 = dktX0_judge_1 := dk_seg dksX0_judge_0 22 rfl rfl
theorem dksX0_judge_2 : cX0_judge.data.toList.drop 44 = dktX0_judge_2 := dk_seg dksX0_judge_1 22 rfl rfl
theorem dksX0_judge_3 : cX0_judge.data.toList.drop 68 = dktX0_judge_3 := dk_seg dksX0_judge_2 24 rfl rfl
theorem dksX0_judge_4 : cX0_judge.data.toList.drop 90 = dktX0_judge_4 := dk_seg dksX0_judge_3 22 rfl rfl
theorem dksX0_judge_5 : cX0_judge.data.toList.drop 114 = dktX0_judge_5 := dk_seg dksX0_judge_4 24 rfl rfl
theorem dX0_judge_0 : decode cX0_judge 0 = .ok (.aload_n 0, 1) := dk_42 (dk_at dksX0_judge_0 0 rfl rfl)
theorem dX0_judge_1 : decode cX0_judge 1 = .ok (.getfield 21, 3) := dk_180 0 21 (dk_at dksX0_judge_0 1 rfl rfl)
theorem dX0_judge_4 : decode cX0_judge 4 = .ok (.getfield 164, 3) := dk_180 0 164 (dk_at dksX0_judge_0 4 rfl rfl)
theorem dX0_judge_7 : decode cX0_judge 7 = .ok (.iconst 0, 1) := dk_3 (dk_at dksX0_judge_0 7 rfl rfl)
theorem dX0_judge_8 : decode cX0_judge 8 = .ok (.aload_n 0, 1) := dk_42 (dk_at dksX0_judge_0 8 rfl rfl)
theorem dX0_judge_9 : decode cX0_judge 9 = .ok (.getfield 54, 3) := dk_180 0 54 (dk_at dksX0_judge_0 9 rfl rfl)
theorem dX0_judge_12 : decode cX0_judge 12 = .ok (.iconst 0, 1) := dk_3 (dk_at dksX0_judge_0 12 rfl rfl)
theorem dX0_judge_13 : decode cX0_judge 13 = .ok (.bipush 8, 2) := dk_16 8 (dk_at dksX0_judge_0 13 rfl rfl)
theorem dX0_judge_15 : decode cX0_judge 15 = .ok (.invokestatic 127, 3) := dk_184 0 127 (dk_at dksX0_judge_0 15 rfl rfl)
theorem dX0_judge_18 : decode cX0_judge 18 = .ok (.iconst 0, 1) := dk_3 (dk_at dksX0_judge_0 18 rfl rfl)
theorem dX0_judge_19 : decode cX0_judge 19 = .ok (.istore_n 1, 1) := dk_60 (dk_at dksX0_judge_0 19 rfl rfl)
theorem dX0_judge_20 : decode cX0_judge 20 = .ok (.iload_n 1, 1) := dk_27 (dk_at dksX0_judge_0 20 rfl rfl)
theorem dX0_judge_21 : decode cX0_judge 21 = .ok (.aload_n 0, 1) := dk_42 (dk_at dksX0_judge_0 21 rfl rfl)
theorem dX0_judge_22 : decode cX0_judge 22 = .ok (.getfield 93, 3) := dk_180 0 93 (dk_at dksX0_judge_1 0 rfl rfl)
theorem dX0_judge_25 : decode cX0_judge 25 = .ok (.if_icmp .ge 89, 3) := dk_162 0 89 (dk_at dksX0_judge_1 3 rfl rfl)
theorem dX0_judge_28 : decode cX0_judge 28 = .ok (.aload_n 0, 1) := dk_42 (dk_at dksX0_judge_1 6 rfl rfl)
theorem dX0_judge_29 : decode cX0_judge 29 = .ok (.getfield 34, 3) := dk_180 0 34 (dk_at dksX0_judge_1 7 rfl rfl)
theorem dX0_judge_32 : decode cX0_judge 32 = .ok (.iload_n 1, 1) := dk_27 (dk_at dksX0_judge_1 10 rfl rfl)
theorem dX0_judge_33 : decode cX0_judge 33 = .ok (.iaload, 1) := dk_46 (dk_at dksX0_judge_1 11 rfl rfl)
theorem dX0_judge_34 : decode cX0_judge 34 = .ok (.istore_n 2, 1) := dk_61 (dk_at dksX0_judge_1 12 rfl rfl)
theorem dX0_judge_35 : decode cX0_judge 35 = .ok (.aload_n 0, 1) := dk_42 (dk_at dksX0_judge_1 13 rfl rfl)
theorem dX0_judge_36 : decode cX0_judge 36 = .ok (.getfield 38, 3) := dk_180 0 38 (dk_at dksX0_judge_1 14 rfl rfl)
theorem dX0_judge_39 : decode cX0_judge 39 = .ok (.iload_n 1, 1) := dk_27 (dk_at dksX0_judge_1 17 rfl rfl)
theorem dX0_judge_40 : decode cX0_judge 40 = .ok (.iaload, 1) := dk_46 (dk_at dksX0_judge_1 18 rfl rfl)
theorem dX0_judge_41 : decode cX0_judge 41 = .ok (.istore_n 3, 1) := dk_62 (dk_at dksX0_judge_1 19 rfl rfl)
theorem dX0_judge_42 : decode cX0_judge 42 = .ok (.aload_n 0, 1) := dk_42 (dk_at dksX0_judge_1 20 rfl rfl)
theorem dX0_judge_43 : decode cX0_judge 43 = .ok (.iload_n 2, 1) := dk_28 (dk_at dksX0_judge_1 21 rfl rfl)
theorem dX0_judge_44 : decode cX0_judge 44 = .ok (.invokevirtual 190, 3) := dk_182 0 190 (dk_at dksX0_judge_2 0 rfl rfl)
theorem dX0_judge_47 : decode cX0_judge 47 = .ok (.ifCond .eq 35, 3) := dk_153 0 35 (dk_at dksX0_judge_2 3 rfl rfl)
theorem dX0_judge_50 : decode cX0_judge 50 = .ok (.aload_n 0, 1) := dk_42 (dk_at dksX0_judge_2 6 rfl rfl)
theorem dX0_judge_51 : decode cX0_judge 51 = .ok (.iload_n 3, 1) := dk_29 (dk_at dksX0_judge_2 7 rfl rfl)
theorem dX0_judge_52 : decode cX0_judge 52 = .ok (.aload_n 0, 1) := dk_42 (dk_at dksX0_judge_2 8 rfl rfl)
theorem dX0_judge_53 : decode cX0_judge 53 = .ok (.getfield 54, 3) := dk_180 0 54 (dk_at dksX0_judge_2 9 rfl rfl)
theorem dX0_judge_56 : decode cX0_judge 56 = .ok (.iload_n 2, 1) := dk_28 (dk_at dksX0_judge_2 12 rfl rfl)
theorem dX0_judge_57 : decode cX0_judge 57 = .ok (.iaload, 1) := dk_46 (dk_at dksX0_judge_2 13 rfl rfl)
theorem dX0_judge_58 : decode cX0_judge 58 = .ok (.aload_n 0, 1) := dk_42 (dk_at dksX0_judge_2 14 rfl rfl)
theorem dX0_judge_59 : decode cX0_judge 59 = .ok (.getfield 21, 3) := dk_180 0 21 (dk_at dksX0_judge_2 15 rfl rfl)
theorem dX0_judge_62 : decode cX0_judge 62 = .ok (.getfield 166, 3) := dk_180 0 166 (dk_at dksX0_judge_2 18 rfl rfl)
theorem dX0_judge_65 : decode cX0_judge 65 = .ok (.iload_n 2, 1) := dk_28 (dk_at dksX0_judge_2 21 rfl rfl)
theorem dX0_judge_66 : decode cX0_judge 66 = .ok (.iaload, 1) := dk_46 (dk_at dksX0_judge_2 22 rfl rfl)
theorem dX0_judge_67 : decode cX0_judge 67 = .ok (.aload_n 0, 1) := dk_42 (dk_at dksX0_judge_2 23 rfl rfl)
theorem dX0_judge_68 : decode cX0_judge 68 = .ok (.getfield 21, 3) := dk_180 0 21 (dk_at dksX0_judge_3 0 rfl rfl)
theorem dX0_judge_71 : decode cX0_judge 71 = .ok (.getfield 169, 3) := dk_180 0 169 (dk_at dksX0_judge_3 3 rfl rfl)
theorem dX0_judge_74 : decode cX0_judge 74 = .ok (.iload_n 2, 1) := dk_28 (dk_at dksX0_judge_3 6 rfl rfl)
theorem dX0_judge_75 : decode cX0_judge 75 = .ok (.iaload, 1) := dk_46 (dk_at dksX0_judge_3 7 rfl rfl)
theorem dX0_judge_76 : decode cX0_judge 76 = .ok (.invokevirtual 160, 3) := dk_182 0 160 (dk_at dksX0_judge_3 8 rfl rfl)
theorem dX0_judge_79 : decode cX0_judge 79 = .ok (.ifCond .ne 5, 3) := dk_154 0 5 (dk_at dksX0_judge_3 11 rfl rfl)
theorem dX0_judge_82 : decode cX0_judge 82 = .ok (.iload_n 1, 1) := dk_27 (dk_at dksX0_judge_3 14 rfl rfl)
theorem dX0_judge_83 : decode cX0_judge 83 = .ok (.ireturn, 1) := dk_172 (dk_at dksX0_judge_3 15 rfl rfl)
theorem dX0_judge_84 : decode cX0_judge 84 = .ok (.aload_n 0, 1) := dk_42 (dk_at dksX0_judge_3 16 rfl rfl)
theorem dX0_judge_85 : decode cX0_judge 85 = .ok (.getfield 54, 3) := dk_180 0 54 (dk_at dksX0_judge_3 17 rfl rfl)
theorem dX0_judge_88 : decode cX0_judge 88 = .ok (.iload_n 2, 1) := dk_28 (dk_at dksX0_judge_3 20 rfl rfl)
theorem dX0_judge_89 : decode cX0_judge 89 = .ok (.aload_n 0, 1) := dk_42 (dk_at dksX0_judge_3 21 rfl rfl)
theorem dX0_judge_90 : decode cX0_judge 90 = .ok (.getfield 10, 3) := dk_180 0 10 (dk_at dksX0_judge_4 0 rfl rfl)
theorem dX0_judge_93 : decode cX0_judge 93 = .ok (.getfield 113, 3) := dk_180 0 113 (dk_at dksX0_judge_4 3 rfl rfl)
theorem dX0_judge_96 : decode cX0_judge 96 = .ok (.iload_n 3, 1) := dk_29 (dk_at dksX0_judge_4 6 rfl rfl)
theorem dX0_judge_97 : decode cX0_judge 97 = .ok (.aaload, 1) := dk_50 (dk_at dksX0_judge_4 7 rfl rfl)
theorem dX0_judge_98 : decode cX0_judge 98 = .ok (.aload_n 0, 1) := dk_42 (dk_at dksX0_judge_4 8 rfl rfl)
theorem dX0_judge_99 : decode cX0_judge 99 = .ok (.getfield 54, 3) := dk_180 0 54 (dk_at dksX0_judge_4 9 rfl rfl)
theorem dX0_judge_102 : decode cX0_judge 102 = .ok (.iload_n 2, 1) := dk_28 (dk_at dksX0_judge_4 12 rfl rfl)
theorem dX0_judge_103 : decode cX0_judge 103 = .ok (.iaload, 1) := dk_46 (dk_at dksX0_judge_4 13 rfl rfl)
theorem dX0_judge_104 : decode cX0_judge 104 = .ok (.invokevirtual 146, 3) := dk_182 0 146 (dk_at dksX0_judge_4 14 rfl rfl)
theorem dX0_judge_107 : decode cX0_judge 107 = .ok (.iastore, 1) := dk_79 (dk_at dksX0_judge_4 17 rfl rfl)
theorem dX0_judge_108 : decode cX0_judge 108 = .ok (.iinc 1 1, 3) := dk_132 1 1 (dk_at dksX0_judge_4 18 rfl rfl)
theorem dX0_judge_111 : decode cX0_judge 111 = .ok (.goto (-91), 3) := dk_167 255 165 (dk_at dksX0_judge_4 21 rfl rfl)
theorem dX0_judge_114 : decode cX0_judge 114 = .ok (.iconst (-1), 1) := dk_2 (dk_at dksX0_judge_5 0 rfl rfl)
theorem dX0_judge_115 : decode cX0_judge 115 = .ok (.ireturn, 1) := dk_172 (dk_at dksX0_judge_5 1 rfl rfl)
abbrev cX0_seed : ByteArray := prog_1_method_54_code
def yX0_seed : MethodName := ⟨RX0, "seed", "(I)I"⟩
def dkwX0_seed_1 : List UInt8 := [172]
abbrev dktX0_seed_1 : List UInt8 := dkwX0_seed_1 ++ []
def dkwX0_seed_0 : List UInt8 := [27, 156, 0, 6, 18, 65, 172, 42, 180, 0, 21, 180, 1, 17, 61, 42, 180, 0, 21, 27, 181, 1, 17, 28]
abbrev dktX0_seed_0 : List UInt8 := dkwX0_seed_0 ++ dktX0_seed_1
theorem dksX0_seed_0 : cX0_seed.data.toList.drop 0 = dktX0_seed_0 := by decide +kernel
theorem dksX0_seed_1 : cX0_seed.data.toList.drop 24 = dktX0_seed_1 := dk_seg dksX0_seed_0 24 rfl rfl
theorem dX0_seed_0 : decode cX0_seed 0 = .ok (.iload_n 1, 1) := dk_27 (dk_at dksX0_seed_0 0 rfl rfl)
theorem dX0_seed_1 : decode cX0_seed 1 = .ok (.ifCond .ge 6, 3) := dk_156 0 6 (dk_at dksX0_seed_0 1 rfl rfl)
theorem dX0_seed_4 : decode cX0_seed 4 = .ok (.ldc 65, 2) := dk_18 65 (dk_at dksX0_seed_0 4 rfl rfl)
theorem dX0_seed_6 : decode cX0_seed 6 = .ok (.ireturn, 1) := dk_172 (dk_at dksX0_seed_0 6 rfl rfl)
theorem dX0_seed_7 : decode cX0_seed 7 = .ok (.aload_n 0, 1) := dk_42 (dk_at dksX0_seed_0 7 rfl rfl)
theorem dX0_seed_8 : decode cX0_seed 8 = .ok (.getfield 21, 3) := dk_180 0 21 (dk_at dksX0_seed_0 8 rfl rfl)
theorem dX0_seed_11 : decode cX0_seed 11 = .ok (.getfield 273, 3) := dk_180 1 17 (dk_at dksX0_seed_0 11 rfl rfl)
theorem dX0_seed_14 : decode cX0_seed 14 = .ok (.istore_n 2, 1) := dk_61 (dk_at dksX0_seed_0 14 rfl rfl)
theorem dX0_seed_15 : decode cX0_seed 15 = .ok (.aload_n 0, 1) := dk_42 (dk_at dksX0_seed_0 15 rfl rfl)
theorem dX0_seed_16 : decode cX0_seed 16 = .ok (.getfield 21, 3) := dk_180 0 21 (dk_at dksX0_seed_0 16 rfl rfl)
theorem dX0_seed_19 : decode cX0_seed 19 = .ok (.iload_n 1, 1) := dk_27 (dk_at dksX0_seed_0 19 rfl rfl)
theorem dX0_seed_20 : decode cX0_seed 20 = .ok (.putfield 273, 3) := dk_181 1 17 (dk_at dksX0_seed_0 20 rfl rfl)
theorem dX0_seed_23 : decode cX0_seed 23 = .ok (.iload_n 2, 1) := dk_28 (dk_at dksX0_seed_0 23 rfl rfl)
theorem dX0_seed_24 : decode cX0_seed 24 = .ok (.ireturn, 1) := dk_172 (dk_at dksX0_seed_1 0 rfl rfl)
abbrev cX0_keep : ByteArray := prog_1_method_55_code
def yX0_keep : MethodName := ⟨RX0, "keep", "(I)I"⟩
def dkwX0_keep_1 : List UInt8 := [182, 1, 20, 42, 180, 0, 57, 27, 50, 4, 181, 0, 96, 4, 172]
abbrev dktX0_keep_1 : List UInt8 := dkwX0_keep_1 ++ []
def dkwX0_keep_0 : List UInt8 := [27, 3, 4, 184, 0, 61, 154, 0, 6, 18, 183, 172, 42, 180, 0, 57, 27, 50, 42, 180, 0, 21]
abbrev dktX0_keep_0 : List UInt8 := dkwX0_keep_0 ++ dktX0_keep_1
theorem dksX0_keep_0 : cX0_keep.data.toList.drop 0 = dktX0_keep_0 := by decide +kernel
theorem dksX0_keep_1 : cX0_keep.data.toList.drop 22 = dktX0_keep_1 := dk_seg dksX0_keep_0 22 rfl rfl
theorem dX0_keep_0 : decode cX0_keep 0 = .ok (.iload_n 1, 1) := dk_27 (dk_at dksX0_keep_0 0 rfl rfl)
theorem dX0_keep_1 : decode cX0_keep 1 = .ok (.iconst 0, 1) := dk_3 (dk_at dksX0_keep_0 1 rfl rfl)
theorem dX0_keep_2 : decode cX0_keep 2 = .ok (.iconst 1, 1) := dk_4 (dk_at dksX0_keep_0 2 rfl rfl)
theorem dX0_keep_3 : decode cX0_keep 3 = .ok (.invokestatic 61, 3) := dk_184 0 61 (dk_at dksX0_keep_0 3 rfl rfl)
theorem dX0_keep_6 : decode cX0_keep 6 = .ok (.ifCond .ne 6, 3) := dk_154 0 6 (dk_at dksX0_keep_0 6 rfl rfl)
theorem dX0_keep_9 : decode cX0_keep 9 = .ok (.ldc 183, 2) := dk_18 183 (dk_at dksX0_keep_0 9 rfl rfl)
theorem dX0_keep_11 : decode cX0_keep 11 = .ok (.ireturn, 1) := dk_172 (dk_at dksX0_keep_0 11 rfl rfl)
theorem dX0_keep_12 : decode cX0_keep 12 = .ok (.aload_n 0, 1) := dk_42 (dk_at dksX0_keep_0 12 rfl rfl)
theorem dX0_keep_13 : decode cX0_keep 13 = .ok (.getfield 57, 3) := dk_180 0 57 (dk_at dksX0_keep_0 13 rfl rfl)
theorem dX0_keep_16 : decode cX0_keep 16 = .ok (.iload_n 1, 1) := dk_27 (dk_at dksX0_keep_0 16 rfl rfl)
theorem dX0_keep_17 : decode cX0_keep 17 = .ok (.aaload, 1) := dk_50 (dk_at dksX0_keep_0 17 rfl rfl)
theorem dX0_keep_18 : decode cX0_keep 18 = .ok (.aload_n 0, 1) := dk_42 (dk_at dksX0_keep_0 18 rfl rfl)
theorem dX0_keep_19 : decode cX0_keep 19 = .ok (.getfield 21, 3) := dk_180 0 21 (dk_at dksX0_keep_0 19 rfl rfl)
theorem dX0_keep_22 : decode cX0_keep 22 = .ok (.invokevirtual 276, 3) := dk_182 1 20 (dk_at dksX0_keep_1 0 rfl rfl)
theorem dX0_keep_25 : decode cX0_keep 25 = .ok (.aload_n 0, 1) := dk_42 (dk_at dksX0_keep_1 3 rfl rfl)
theorem dX0_keep_26 : decode cX0_keep 26 = .ok (.getfield 57, 3) := dk_180 0 57 (dk_at dksX0_keep_1 4 rfl rfl)
theorem dX0_keep_29 : decode cX0_keep 29 = .ok (.iload_n 1, 1) := dk_27 (dk_at dksX0_keep_1 7 rfl rfl)
theorem dX0_keep_30 : decode cX0_keep 30 = .ok (.aaload, 1) := dk_50 (dk_at dksX0_keep_1 8 rfl rfl)
theorem dX0_keep_31 : decode cX0_keep 31 = .ok (.iconst 1, 1) := dk_4 (dk_at dksX0_keep_1 9 rfl rfl)
theorem dX0_keep_32 : decode cX0_keep 32 = .ok (.putfield 96, 3) := dk_181 0 96 (dk_at dksX0_keep_1 10 rfl rfl)
theorem dX0_keep_35 : decode cX0_keep 35 = .ok (.iconst 1, 1) := dk_4 (dk_at dksX0_keep_1 13 rfl rfl)
theorem dX0_keep_36 : decode cX0_keep 36 = .ok (.ireturn, 1) := dk_172 (dk_at dksX0_keep_1 14 rfl rfl)
abbrev cX0_goBack : ByteArray := prog_1_method_56_code
def yX0_goBack : MethodName := ⟨RX0, "goBack", "(I)I"⟩
def dkwX0_goBack_1 : List UInt8 := [18, 211, 172, 42, 180, 0, 21, 42, 180, 0, 57, 27, 50, 182, 1, 20, 4, 172]
abbrev dktX0_goBack_1 : List UInt8 := dkwX0_goBack_1 ++ []
def dkwX0_goBack_0 : List UInt8 := [27, 3, 4, 184, 0, 61, 154, 0, 6, 18, 183, 172, 42, 180, 0, 57, 27, 50, 180, 0, 96, 154, 0, 6]
abbrev dktX0_goBack_0 : List UInt8 := dkwX0_goBack_0 ++ dktX0_goBack_1
theorem dksX0_goBack_0 : cX0_goBack.data.toList.drop 0 = dktX0_goBack_0 := by decide +kernel
theorem dksX0_goBack_1 : cX0_goBack.data.toList.drop 24 = dktX0_goBack_1 := dk_seg dksX0_goBack_0 24 rfl rfl
theorem dX0_goBack_0 : decode cX0_goBack 0 = .ok (.iload_n 1, 1) := dk_27 (dk_at dksX0_goBack_0 0 rfl rfl)
theorem dX0_goBack_1 : decode cX0_goBack 1 = .ok (.iconst 0, 1) := dk_3 (dk_at dksX0_goBack_0 1 rfl rfl)
theorem dX0_goBack_2 : decode cX0_goBack 2 = .ok (.iconst 1, 1) := dk_4 (dk_at dksX0_goBack_0 2 rfl rfl)
theorem dX0_goBack_3 : decode cX0_goBack 3 = .ok (.invokestatic 61, 3) := dk_184 0 61 (dk_at dksX0_goBack_0 3 rfl rfl)
theorem dX0_goBack_6 : decode cX0_goBack 6 = .ok (.ifCond .ne 6, 3) := dk_154 0 6 (dk_at dksX0_goBack_0 6 rfl rfl)
theorem dX0_goBack_9 : decode cX0_goBack 9 = .ok (.ldc 183, 2) := dk_18 183 (dk_at dksX0_goBack_0 9 rfl rfl)
theorem dX0_goBack_11 : decode cX0_goBack 11 = .ok (.ireturn, 1) := dk_172 (dk_at dksX0_goBack_0 11 rfl rfl)
theorem dX0_goBack_12 : decode cX0_goBack 12 = .ok (.aload_n 0, 1) := dk_42 (dk_at dksX0_goBack_0 12 rfl rfl)
theorem dX0_goBack_13 : decode cX0_goBack 13 = .ok (.getfield 57, 3) := dk_180 0 57 (dk_at dksX0_goBack_0 13 rfl rfl)
theorem dX0_goBack_16 : decode cX0_goBack 16 = .ok (.iload_n 1, 1) := dk_27 (dk_at dksX0_goBack_0 16 rfl rfl)
theorem dX0_goBack_17 : decode cX0_goBack 17 = .ok (.aaload, 1) := dk_50 (dk_at dksX0_goBack_0 17 rfl rfl)
theorem dX0_goBack_18 : decode cX0_goBack 18 = .ok (.getfield 96, 3) := dk_180 0 96 (dk_at dksX0_goBack_0 18 rfl rfl)
theorem dX0_goBack_21 : decode cX0_goBack 21 = .ok (.ifCond .ne 6, 3) := dk_154 0 6 (dk_at dksX0_goBack_0 21 rfl rfl)
theorem dX0_goBack_24 : decode cX0_goBack 24 = .ok (.ldc 211, 2) := dk_18 211 (dk_at dksX0_goBack_1 0 rfl rfl)
theorem dX0_goBack_26 : decode cX0_goBack 26 = .ok (.ireturn, 1) := dk_172 (dk_at dksX0_goBack_1 2 rfl rfl)
theorem dX0_goBack_27 : decode cX0_goBack 27 = .ok (.aload_n 0, 1) := dk_42 (dk_at dksX0_goBack_1 3 rfl rfl)
theorem dX0_goBack_28 : decode cX0_goBack 28 = .ok (.getfield 21, 3) := dk_180 0 21 (dk_at dksX0_goBack_1 4 rfl rfl)
theorem dX0_goBack_31 : decode cX0_goBack 31 = .ok (.aload_n 0, 1) := dk_42 (dk_at dksX0_goBack_1 7 rfl rfl)
theorem dX0_goBack_32 : decode cX0_goBack 32 = .ok (.getfield 57, 3) := dk_180 0 57 (dk_at dksX0_goBack_1 8 rfl rfl)
theorem dX0_goBack_35 : decode cX0_goBack 35 = .ok (.iload_n 1, 1) := dk_27 (dk_at dksX0_goBack_1 11 rfl rfl)
theorem dX0_goBack_36 : decode cX0_goBack 36 = .ok (.aaload, 1) := dk_50 (dk_at dksX0_goBack_1 12 rfl rfl)
theorem dX0_goBack_37 : decode cX0_goBack 37 = .ok (.invokevirtual 276, 3) := dk_182 1 20 (dk_at dksX0_goBack_1 13 rfl rfl)
theorem dX0_goBack_40 : decode cX0_goBack 40 = .ok (.iconst 1, 1) := dk_4 (dk_at dksX0_goBack_1 16 rfl rfl)
theorem dX0_goBack_41 : decode cX0_goBack 41 = .ok (.ireturn, 1) := dk_172 (dk_at dksX0_goBack_1 17 rfl rfl)
theorem q57 : (Jvm.Cond.initialized "FittingStrides") ∈ lw_all := lw_g (lw_at lw_m1 1 rfl) rfl
theorem q80 : (Jvm.Cond.instantiable "FittingStrides" (14 : Nat)) ∈ lw_all := lw_g (lw_at lw_m1 24 rfl) rfl
theorem q82 : (Jvm.Cond.instanceMethod ({ cls := "FittingStrides", name := "<init>", desc := "()V" } : Jvm.MethodName)) ∈ lw_all := lw_g (lw_at lw_m1 26 rfl) rfl
theorem q83 : (Jvm.Cond.code ({ cls := "FittingStrides", name := "<init>", desc := "()V" } : Jvm.MethodName) prog_1_method_4_code (2 : Nat) (Option.none : Option Jvm.ClassFile.FieldType)) ∈ lw_all := lw_g (lw_at lw_m1 27 rfl) rfl
theorem q84 : (Jvm.Cond.methodLink "FittingStrides" (1 : Nat) ({ cls := "java/lang/Object", name := "<init>", desc := "()V" } : Jvm.MethodName)) ∈ lw_all := lw_g (lw_at lw_m1 28 rfl) rfl
theorem q87 : (Jvm.Cond.classLink "FittingStrides" (7 : Nat) "FittingStrides$Town") ∈ lw_all := lw_g (lw_at lw_m1 31 rfl) rfl
theorem q89 : (Jvm.Cond.methodLinkNest "FittingStrides" (9 : Nat) ({ cls := "FittingStrides$Town", name := "<init>", desc := "()V" } : Jvm.MethodName) "FittingStrides") ∈ lw_tbl := lw_at lw_m1 33 rfl
theorem q96 : (Jvm.Cond.fieldLinkNest "FittingStrides" (100 : Nat) "FittingStrides$Town" "places" "I" "FittingStrides") ∈ lw_tbl := lw_at lw_m1 40 rfl
theorem q100 : (Jvm.Cond.fieldLinkNest "FittingStrides" (113 : Nat) "FittingStrides$Town" "stairs" "[LFittingStrides$Stair;" "FittingStrides") ∈ lw_tbl := lw_at lw_m1 44 rfl
theorem q103 : (Jvm.Cond.fieldLinkNest "FittingStrides" (103 : Nat) "FittingStrides$Town" "stairMany" "I" "FittingStrides") ∈ lw_tbl := lw_at lw_m1 47 rfl
theorem q131 : (Jvm.Cond.classLink "FittingStrides" (16 : Nat) "FittingStrides$Folk") ∈ lw_all := lw_g (lw_at lw_m1 75 rfl) rfl
theorem q133 : (Jvm.Cond.methodLinkNest "FittingStrides" (18 : Nat) ({ cls := "FittingStrides$Folk", name := "<init>", desc := "(LFittingStrides;)V" } : Jvm.MethodName) "FittingStrides") ∈ lw_tbl := lw_at lw_m1 77 rfl
theorem q140 : (Jvm.Cond.fieldLinkNest "FittingStrides" (164 : Nat) "FittingStrides$Folk" "place" "[I" "FittingStrides") ∈ lw_tbl := lw_at lw_m1 84 rfl
theorem q142 : (Jvm.Cond.fieldLinkNest "FittingStrides" (166 : Nat) "FittingStrides$Folk" "stride" "[I" "FittingStrides") ∈ lw_tbl := lw_at lw_m1 86 rfl
theorem q144 : (Jvm.Cond.fieldLinkNest "FittingStrides" (169 : Nat) "FittingStrides$Folk" "second" "[I" "FittingStrides") ∈ lw_tbl := lw_at lw_m1 88 rfl
theorem q146 : (Jvm.Cond.fieldLinkNest "FittingStrides" (106 : Nat) "FittingStrides$Folk" "many" "I" "FittingStrides") ∈ lw_tbl := lw_at lw_m1 90 rfl
theorem q148 : (Jvm.Cond.fieldLinkNest "FittingStrides" (122 : Nat) "FittingStrides$Folk" "steps" "[[I" "FittingStrides") ∈ lw_tbl := lw_at lw_m1 92 rfl
theorem q150 : (Jvm.Cond.fieldLinkNest "FittingStrides" (180 : Nat) "FittingStrides$Folk" "worn" "[I" "FittingStrides") ∈ lw_tbl := lw_at lw_m1 94 rfl
theorem q152 : (Jvm.Cond.fieldLinkNest "FittingStrides" (140 : Nat) "FittingStrides$Folk" "law" "I" "FittingStrides") ∈ lw_tbl := lw_at lw_m1 96 rfl
theorem q154 : (Jvm.Cond.fieldLinkNest "FittingStrides" (273 : Nat) "FittingStrides$Folk" "seed" "I" "FittingStrides") ∈ lw_tbl := lw_at lw_m1 98 rfl
theorem q155 : (Jvm.Cond.fieldLinkNest "FittingStrides" (96 : Nat) "FittingStrides$Folk" "isKept" "Z" "FittingStrides") ∈ lw_tbl := lw_at lw_m1 99 rfl
theorem q178 : (Jvm.Cond.classLink "FittingStrides" (25 : Nat) "[[I") ∈ lw_all := lw_g (lw_at lw_m1 122 rfl) rfl
theorem q179 : (Jvm.Cond.classLink "FittingStrides" (49 : Nat) "[[Z") ∈ lw_all := lw_g (lw_at lw_m1 123 rfl) rfl
theorem q183 : (Jvm.Cond.fieldLink "FittingStrides" (10 : Nat) "FittingStrides" "town" "LFittingStrides$Town;") ∈ lw_all := lw_g (lw_at lw_m1 127 rfl) rfl
theorem q184 : (Jvm.Cond.fieldLink "FittingStrides" (21 : Nat) "FittingStrides" "now" "LFittingStrides$Folk;") ∈ lw_all := lw_g (lw_at lw_m1 128 rfl) rfl
theorem q185 : (Jvm.Cond.fieldLink "FittingStrides" (27 : Nat) "FittingStrides" "seen" "[[I") ∈ lw_all := lw_g (lw_at lw_m1 129 rfl) rfl
theorem q186 : (Jvm.Cond.fieldLink "FittingStrides" (30 : Nat) "FittingStrides" "wasThere" "[Z") ∈ lw_all := lw_g (lw_at lw_m1 130 rfl) rfl
theorem q187 : (Jvm.Cond.fieldLink "FittingStrides" (90 : Nat) "FittingStrides" "seenMany" "I") ∈ lw_all := lw_g (lw_at lw_m1 131 rfl) rfl
theorem q188 : (Jvm.Cond.fieldLink "FittingStrides" (34 : Nat) "FittingStrides" "bookPerson" "[I") ∈ lw_all := lw_g (lw_at lw_m1 132 rfl) rfl
theorem q189 : (Jvm.Cond.fieldLink "FittingStrides" (38 : Nat) "FittingStrides" "bookStair" "[I") ∈ lw_all := lw_g (lw_at lw_m1 133 rfl) rfl
theorem q190 : (Jvm.Cond.fieldLink "FittingStrides" (93 : Nat) "FittingStrides" "written" "I") ∈ lw_all := lw_g (lw_at lw_m1 134 rfl) rfl
theorem q191 : (Jvm.Cond.fieldLink "FittingStrides" (41 : Nat) "FittingStrides" "text" "[B") ∈ lw_all := lw_g (lw_at lw_m1 135 rfl) rfl
theorem q192 : (Jvm.Cond.fieldLink "FittingStrides" (66 : Nat) "FittingStrides" "size" "I") ∈ lw_all := lw_g (lw_at lw_m1 136 rfl) rfl
theorem q193 : (Jvm.Cond.fieldLink "FittingStrides" (45 : Nat) "FittingStrides" "fault" "I") ∈ lw_all := lw_g (lw_at lw_m1 137 rfl) rfl
theorem q194 : (Jvm.Cond.fieldLink "FittingStrides" (51 : Nat) "FittingStrides" "come" "[[Z") ∈ lw_all := lw_g (lw_at lw_m1 138 rfl) rfl
theorem q195 : (Jvm.Cond.fieldLink "FittingStrides" (54 : Nat) "FittingStrides" "where" "[I") ∈ lw_all := lw_g (lw_at lw_m1 139 rfl) rfl
theorem q196 : (Jvm.Cond.fieldLink "FittingStrides" (57 : Nat) "FittingStrides" "images" "[LFittingStrides$Folk;") ∈ lw_all := lw_g (lw_at lw_m1 140 rfl) rfl
theorem q197 : (Jvm.Cond.lays "FittingStrides" "FittingStrides" "town" "LFittingStrides$Town;") ∈ lw_all := lw_g (lw_at lw_m1 141 rfl) rfl
theorem q198 : (Jvm.Cond.soleField "FittingStrides" "town") ∈ lw_all := lw_g (lw_at lw_m1 142 rfl) rfl
theorem q199 : (Jvm.Cond.laysFinal "FittingStrides" "FittingStrides" "now" "LFittingStrides$Folk;") ∈ lw_all := lw_g (lw_at lw_m1 143 rfl) rfl
theorem q200 : (Jvm.Cond.soleField "FittingStrides" "now") ∈ lw_all := lw_g (lw_at lw_m1 144 rfl) rfl
theorem q201 : (Jvm.Cond.laysFinal "FittingStrides" "FittingStrides" "seen" "[[I") ∈ lw_all := lw_g (lw_at lw_m1 145 rfl) rfl
theorem q202 : (Jvm.Cond.soleField "FittingStrides" "seen") ∈ lw_all := lw_g (lw_at lw_m1 146 rfl) rfl
theorem q203 : (Jvm.Cond.laysFinal "FittingStrides" "FittingStrides" "wasThere" "[Z") ∈ lw_all := lw_g (lw_at lw_m1 147 rfl) rfl
theorem q204 : (Jvm.Cond.soleField "FittingStrides" "wasThere") ∈ lw_all := lw_g (lw_at lw_m1 148 rfl) rfl
theorem q205 : (Jvm.Cond.lays "FittingStrides" "FittingStrides" "seenMany" "I") ∈ lw_all := lw_g (lw_at lw_m1 149 rfl) rfl
theorem q206 : (Jvm.Cond.soleField "FittingStrides" "seenMany") ∈ lw_all := lw_g (lw_at lw_m1 150 rfl) rfl
theorem q207 : (Jvm.Cond.laysFinal "FittingStrides" "FittingStrides" "bookPerson" "[I") ∈ lw_all := lw_g (lw_at lw_m1 151 rfl) rfl
theorem q208 : (Jvm.Cond.soleField "FittingStrides" "bookPerson") ∈ lw_all := lw_g (lw_at lw_m1 152 rfl) rfl
theorem q209 : (Jvm.Cond.laysFinal "FittingStrides" "FittingStrides" "bookStair" "[I") ∈ lw_all := lw_g (lw_at lw_m1 153 rfl) rfl
theorem q210 : (Jvm.Cond.soleField "FittingStrides" "bookStair") ∈ lw_all := lw_g (lw_at lw_m1 154 rfl) rfl
theorem q211 : (Jvm.Cond.lays "FittingStrides" "FittingStrides" "written" "I") ∈ lw_all := lw_g (lw_at lw_m1 155 rfl) rfl
theorem q212 : (Jvm.Cond.soleField "FittingStrides" "written") ∈ lw_all := lw_g (lw_at lw_m1 156 rfl) rfl
theorem q213 : (Jvm.Cond.laysFinal "FittingStrides" "FittingStrides" "text" "[B") ∈ lw_all := lw_g (lw_at lw_m1 157 rfl) rfl
theorem q214 : (Jvm.Cond.soleField "FittingStrides" "text") ∈ lw_all := lw_g (lw_at lw_m1 158 rfl) rfl
theorem q215 : (Jvm.Cond.lays "FittingStrides" "FittingStrides" "size" "I") ∈ lw_all := lw_g (lw_at lw_m1 159 rfl) rfl
theorem q216 : (Jvm.Cond.soleField "FittingStrides" "size") ∈ lw_all := lw_g (lw_at lw_m1 160 rfl) rfl
theorem q217 : (Jvm.Cond.lays "FittingStrides" "FittingStrides" "fault" "I") ∈ lw_all := lw_g (lw_at lw_m1 161 rfl) rfl
theorem q218 : (Jvm.Cond.soleField "FittingStrides" "fault") ∈ lw_all := lw_g (lw_at lw_m1 162 rfl) rfl
theorem q219 : (Jvm.Cond.laysFinal "FittingStrides" "FittingStrides" "come" "[[Z") ∈ lw_all := lw_g (lw_at lw_m1 163 rfl) rfl
theorem q220 : (Jvm.Cond.soleField "FittingStrides" "come") ∈ lw_all := lw_g (lw_at lw_m1 164 rfl) rfl
theorem q221 : (Jvm.Cond.laysFinal "FittingStrides" "FittingStrides" "where" "[I") ∈ lw_all := lw_g (lw_at lw_m1 165 rfl) rfl
theorem q222 : (Jvm.Cond.soleField "FittingStrides" "where") ∈ lw_all := lw_g (lw_at lw_m1 166 rfl) rfl
theorem q223 : (Jvm.Cond.laysFinal "FittingStrides" "FittingStrides" "images" "[LFittingStrides$Folk;") ∈ lw_all := lw_g (lw_at lw_m1 167 rfl) rfl
theorem q224 : (Jvm.Cond.soleField "FittingStrides" "images") ∈ lw_all := lw_g (lw_at lw_m1 168 rfl) rfl
theorem q225 : (Jvm.Cond.superclass "FittingStrides" "java/lang/Object") ∈ lw_all := lw_g (lw_at lw_m1 169 rfl) rfl
theorem q229 : (Jvm.Cond.instanceMethod ({ cls := "FittingStrides", name := "feed", desc := "(IJ)I" } : Jvm.MethodName)) ∈ lw_all := lw_g (lw_at lw_m1 173 rfl) rfl
theorem q230 : (Jvm.Cond.selects "FittingStrides" ({ cls := "FittingStrides", name := "feed", desc := "(IJ)I" } : Jvm.MethodName) ({ cls := "FittingStrides", name := "feed", desc := "(IJ)I" } : Jvm.MethodName)) ∈ lw_all := lw_g (lw_at lw_m1 174 rfl) rfl
theorem q231 : (Jvm.Cond.code ({ cls := "FittingStrides", name := "feed", desc := "(IJ)I" } : Jvm.MethodName) prog_1_method_5_code (5 : Nat) (Option.some Jvm.ClassFile.FieldType.int)) ∈ lw_all := lw_g (lw_at lw_m1 175 rfl) rfl
theorem q232 : (Jvm.Cond.methodLink "FittingStrides" (61 : Nat) ({ cls := "FittingStrides", name := "isIn", desc := "(III)Z" } : Jvm.MethodName)) ∈ lw_all := lw_g (lw_at lw_m1 176 rfl) rfl
theorem q233 : (Jvm.Cond.static ({ cls := "FittingStrides", name := "isIn", desc := "(III)Z" } : Jvm.MethodName)) ∈ lw_all := lw_g (lw_at lw_m1 177 rfl) rfl
theorem q234 : (Jvm.Cond.code ({ cls := "FittingStrides", name := "isIn", desc := "(III)Z" } : Jvm.MethodName) prog_1_method_1_code (3 : Nat) (Option.some Jvm.ClassFile.FieldType.boolean)) ∈ lw_all := lw_g (lw_at lw_m1 178 rfl) rfl
theorem q235 : (Jvm.Cond.constant "FittingStrides" (65 : Nat) (-1000000002 : Int32)) ∈ lw_all := lw_g (lw_at lw_m1 179 rfl) rfl
theorem q236 : (Jvm.Cond.constant "FittingStrides" (69 : Nat) (-1000000004 : Int32)) ∈ lw_all := lw_g (lw_at lw_m1 180 rfl) rfl
theorem q238 : (Jvm.Cond.instanceMethod ({ cls := "FittingStrides", name := "town", desc := "()I" } : Jvm.MethodName)) ∈ lw_all := lw_g (lw_at lw_m1 182 rfl) rfl
theorem q239 : (Jvm.Cond.selects "FittingStrides" ({ cls := "FittingStrides", name := "town", desc := "()I" } : Jvm.MethodName) ({ cls := "FittingStrides", name := "town", desc := "()I" } : Jvm.MethodName)) ∈ lw_all := lw_g (lw_at lw_m1 183 rfl) rfl
theorem q240 : (Jvm.Cond.codeWith ({ cls := "FittingStrides", name := "town", desc := "()I" } : Jvm.MethodName) prog_1_method_6_code (4 : Nat) (Option.some Jvm.ClassFile.FieldType.int) [((5 : Nat), (27 : Nat), (35 : Nat), (79 : Nat)), ((5 : Nat), (27 : Nat), (59 : Nat), (0 : Nat)), ((35 : Nat), (52 : Nat), (59 : Nat), (0 : Nat))]) ∈ lw_all := lw_g (lw_at lw_m1 184 rfl) rfl
theorem q241 : (Jvm.Cond.classLink "FittingStrides" (79 : Nat) "FittingStrides$Fault") ∈ lw_all := lw_g (lw_at lw_m1 185 rfl) rfl
theorem q242 : (Jvm.Cond.classLink "FittingStrides" (70 : Nat) "FittingStrides$Reader") ∈ lw_all := lw_g (lw_at lw_m1 186 rfl) rfl
theorem q244 : (Jvm.Cond.methodLink "FittingStrides" (72 : Nat) ({ cls := "FittingStrides$Reader", name := "<init>", desc := "([BI)V" } : Jvm.MethodName)) ∈ lw_all := lw_g (lw_at lw_m1 188 rfl) rfl
theorem q266 : (Jvm.Cond.methodLink "FittingStrides" (75 : Nat) ({ cls := "FittingStrides$Reader", name := "all", desc := "()LFittingStrides$Town;" } : Jvm.MethodName)) ∈ lw_all := lw_g (lw_at lw_m1 210 rfl) rfl
theorem q531 : (Jvm.Cond.fieldLinkNest "FittingStrides" (84 : Nat) "FittingStrides$Fault" "number" "I" "FittingStrides") ∈ lw_tbl := lw_at lw_m2 235 rfl
theorem q533 : (Jvm.Cond.fieldLinkNest "FittingStrides" (81 : Nat) "FittingStrides$Fault" "place" "I" "FittingStrides") ∈ lw_tbl := lw_at lw_m2 237 rfl
theorem q629 : (Jvm.Cond.fieldLink "FittingStrides" (153 : Nat) "FittingStrides$Stair" "from" "I") ∈ lw_all := lw_g (lw_at lw_m3 93 rfl) rfl
theorem q631 : (Jvm.Cond.fieldLink "FittingStrides" (143 : Nat) "FittingStrides$Stair" "to" "I") ∈ lw_all := lw_g (lw_at lw_m3 95 rfl) rfl
theorem q637 : (Jvm.Cond.fieldLink "FittingStrides" (125 : Nat) "FittingStrides$Stair" "steps" "[I") ∈ lw_all := lw_g (lw_at lw_m3 101 rfl) rfl
theorem q640 : (Jvm.Cond.fieldLink "FittingStrides" (117 : Nat) "FittingStrides$Stair" "parts" "I") ∈ lw_all := lw_g (lw_at lw_m3 104 rfl) rfl
theorem q676 : (Jvm.Cond.methodLink "FittingStrides" (87 : Nat) ({ cls := "FittingStrides$Folk", name := "begin", desc := "()V" } : Jvm.MethodName)) ∈ lw_all := lw_g (lw_at lw_m3 140 rfl) rfl
theorem q685 : (Jvm.Cond.instanceMethod ({ cls := "FittingStrides", name := "fault", desc := "()I" } : Jvm.MethodName)) ∈ lw_all := lw_g (lw_at lw_m3 149 rfl) rfl
theorem q686 : (Jvm.Cond.selects "FittingStrides" ({ cls := "FittingStrides", name := "fault", desc := "()I" } : Jvm.MethodName) ({ cls := "FittingStrides", name := "fault", desc := "()I" } : Jvm.MethodName)) ∈ lw_all := lw_g (lw_at lw_m3 150 rfl) rfl
theorem q687 : (Jvm.Cond.code ({ cls := "FittingStrides", name := "fault", desc := "()I" } : Jvm.MethodName) prog_1_method_7_code (1 : Nat) (Option.some Jvm.ClassFile.FieldType.int)) ∈ lw_all := lw_g (lw_at lw_m3 151 rfl) rfl
theorem q689 : (Jvm.Cond.instanceMethod ({ cls := "FittingStrides", name := "told", desc := "(I)I" } : Jvm.MethodName)) ∈ lw_all := lw_g (lw_at lw_m3 153 rfl) rfl
theorem q690 : (Jvm.Cond.selects "FittingStrides" ({ cls := "FittingStrides", name := "told", desc := "(I)I" } : Jvm.MethodName) ({ cls := "FittingStrides", name := "told", desc := "(I)I" } : Jvm.MethodName)) ∈ lw_all := lw_g (lw_at lw_m3 154 rfl) rfl
theorem q691 : (Jvm.Cond.code ({ cls := "FittingStrides", name := "told", desc := "(I)I" } : Jvm.MethodName) prog_1_method_18_code (2 : Nat) (Option.some Jvm.ClassFile.FieldType.int)) ∈ lw_all := lw_g (lw_at lw_m3 155 rfl) rfl
theorem q692 : (Jvm.Cond.methodLink "FittingStrides" (176 : Nat) ({ cls := "FittingStrides", name := "allWorn", desc := "()I" } : Jvm.MethodName)) ∈ lw_all := lw_g (lw_at lw_m3 156 rfl) rfl
theorem q693 : (Jvm.Cond.privateMethod ({ cls := "FittingStrides", name := "allWorn", desc := "()I" } : Jvm.MethodName)) ∈ lw_tbl := lw_at lw_m3 157 rfl
theorem q694 : (Jvm.Cond.instanceMethod ({ cls := "FittingStrides", name := "allWorn", desc := "()I" } : Jvm.MethodName)) ∈ lw_all := lw_g (lw_at lw_m3 158 rfl) rfl
theorem q695 : (Jvm.Cond.code ({ cls := "FittingStrides", name := "allWorn", desc := "()I" } : Jvm.MethodName) prog_1_method_19_code (3 : Nat) (Option.some Jvm.ClassFile.FieldType.int)) ∈ lw_all := lw_g (lw_at lw_m3 159 rfl) rfl
theorem q697 : (Jvm.Cond.instanceMethod ({ cls := "FittingStrides", name := "stair", desc := "(II)I" } : Jvm.MethodName)) ∈ lw_all := lw_g (lw_at lw_m3 161 rfl) rfl
theorem q698 : (Jvm.Cond.selects "FittingStrides" ({ cls := "FittingStrides", name := "stair", desc := "(II)I" } : Jvm.MethodName) ({ cls := "FittingStrides", name := "stair", desc := "(II)I" } : Jvm.MethodName)) ∈ lw_all := lw_g (lw_at lw_m3 162 rfl) rfl
theorem q699 : (Jvm.Cond.code ({ cls := "FittingStrides", name := "stair", desc := "(II)I" } : Jvm.MethodName) prog_1_method_20_code (4 : Nat) (Option.some Jvm.ClassFile.FieldType.int)) ∈ lw_all := lw_g (lw_at lw_m3 163 rfl) rfl
theorem q700 : (Jvm.Cond.methodLink "FittingStrides" (109 : Nat) ({ cls := "FittingStrides", name := "isStair", desc := "(I)Z" } : Jvm.MethodName)) ∈ lw_all := lw_g (lw_at lw_m3 164 rfl) rfl
theorem q701 : (Jvm.Cond.privateMethod ({ cls := "FittingStrides", name := "isStair", desc := "(I)Z" } : Jvm.MethodName)) ∈ lw_tbl := lw_at lw_m3 165 rfl
theorem q702 : (Jvm.Cond.instanceMethod ({ cls := "FittingStrides", name := "isStair", desc := "(I)Z" } : Jvm.MethodName)) ∈ lw_all := lw_g (lw_at lw_m3 166 rfl) rfl
theorem q703 : (Jvm.Cond.code ({ cls := "FittingStrides", name := "isStair", desc := "(I)Z" } : Jvm.MethodName) prog_1_method_9_code (2 : Nat) (Option.some Jvm.ClassFile.FieldType.boolean)) ∈ lw_all := lw_g (lw_at lw_m3 167 rfl) rfl
theorem q704 : (Jvm.Cond.constant "FittingStrides" (183 : Nat) (-1000000001 : Int32)) ∈ lw_all := lw_g (lw_at lw_m3 168 rfl) rfl
theorem q705 : (Jvm.Cond.methodLink "FittingStrides" (133 : Nat) ({ cls := "FittingStrides", name := "at", desc := "(I)LFittingStrides$Stair;" } : Jvm.MethodName)) ∈ lw_all := lw_g (lw_at lw_m3 169 rfl) rfl
theorem q706 : (Jvm.Cond.privateMethod ({ cls := "FittingStrides", name := "at", desc := "(I)LFittingStrides$Stair;" } : Jvm.MethodName)) ∈ lw_tbl := lw_at lw_m3 170 rfl
theorem q707 : (Jvm.Cond.instanceMethod ({ cls := "FittingStrides", name := "at", desc := "(I)LFittingStrides$Stair;" } : Jvm.MethodName)) ∈ lw_all := lw_g (lw_at lw_m3 171 rfl) rfl
theorem q708 : (Jvm.Cond.code ({ cls := "FittingStrides", name := "at", desc := "(I)LFittingStrides$Stair;" } : Jvm.MethodName) prog_1_method_12_code (3 : Nat) (Option.some (Jvm.ClassFile.FieldType.object "FittingStrides$Stair"))) ∈ lw_all := lw_g (lw_at lw_m3 172 rfl) rfl
theorem q709 : (Jvm.Cond.methodLink "FittingStrides" (127 : Nat) ({ cls := "java/lang/System", name := "arraycopy", desc := "(Ljava/lang/Object;ILjava/lang/Object;II)V" } : Jvm.MethodName)) ∈ lw_all := lw_g (lw_at lw_m3 173 rfl) rfl
theorem q710 : (Jvm.Cond.methodLink "FittingStrides" (184 : Nat) ({ cls := "FittingStrides$Stair", name := "kind", desc := "()I" } : Jvm.MethodName)) ∈ lw_all := lw_g (lw_at lw_m3 174 rfl) rfl
theorem q721 : (Jvm.Cond.methodLink "FittingStrides" (187 : Nat) ({ cls := "FittingStrides", name := "climbers", desc := "(I)I" } : Jvm.MethodName)) ∈ lw_all := lw_g (lw_at lw_m3 185 rfl) rfl
theorem q722 : (Jvm.Cond.privateMethod ({ cls := "FittingStrides", name := "climbers", desc := "(I)I" } : Jvm.MethodName)) ∈ lw_tbl := lw_at lw_m3 186 rfl
theorem q723 : (Jvm.Cond.instanceMethod ({ cls := "FittingStrides", name := "climbers", desc := "(I)I" } : Jvm.MethodName)) ∈ lw_all := lw_g (lw_at lw_m3 187 rfl) rfl
theorem q724 : (Jvm.Cond.code ({ cls := "FittingStrides", name := "climbers", desc := "(I)I" } : Jvm.MethodName) prog_1_method_17_code (4 : Nat) (Option.some Jvm.ClassFile.FieldType.int)) ∈ lw_all := lw_g (lw_at lw_m3 188 rfl) rfl
theorem q725 : (Jvm.Cond.methodLink "FittingStrides" (150 : Nat) ({ cls := "FittingStrides", name := "mayClimb", desc := "(III)Z" } : Jvm.MethodName)) ∈ lw_all := lw_g (lw_at lw_m3 189 rfl) rfl
theorem q726 : (Jvm.Cond.privateMethod ({ cls := "FittingStrides", name := "mayClimb", desc := "(III)Z" } : Jvm.MethodName)) ∈ lw_tbl := lw_at lw_m3 190 rfl
theorem q727 : (Jvm.Cond.instanceMethod ({ cls := "FittingStrides", name := "mayClimb", desc := "(III)Z" } : Jvm.MethodName)) ∈ lw_all := lw_g (lw_at lw_m3 191 rfl) rfl
theorem q728 : (Jvm.Cond.code ({ cls := "FittingStrides", name := "mayClimb", desc := "(III)Z" } : Jvm.MethodName) prog_1_method_13_code (5 : Nat) (Option.some Jvm.ClassFile.FieldType.boolean)) ∈ lw_all := lw_g (lw_at lw_m3 192 rfl) rfl
theorem q729 : (Jvm.Cond.methodLink "FittingStrides" (137 : Nat) ({ cls := "FittingStrides$Stair", name := "fits", desc := "(I)Z" } : Jvm.MethodName)) ∈ lw_all := lw_g (lw_at lw_m3 193 rfl) rfl
theorem q748 : (Jvm.Cond.instanceMethod ({ cls := "FittingStrides", name := "person", desc := "(II)I" } : Jvm.MethodName)) ∈ lw_all := lw_g (lw_at lw_m3 212 rfl) rfl
theorem q749 : (Jvm.Cond.selects "FittingStrides" ({ cls := "FittingStrides", name := "person", desc := "(II)I" } : Jvm.MethodName) ({ cls := "FittingStrides", name := "person", desc := "(II)I" } : Jvm.MethodName)) ∈ lw_all := lw_g (lw_at lw_m3 213 rfl) rfl
theorem q750 : (Jvm.Cond.code ({ cls := "FittingStrides", name := "person", desc := "(II)I" } : Jvm.MethodName) prog_1_method_21_code (3 : Nat) (Option.some Jvm.ClassFile.FieldType.int)) ∈ lw_all := lw_g (lw_at lw_m3 214 rfl) rfl
theorem q751 : (Jvm.Cond.methodLink "FittingStrides" (190 : Nat) ({ cls := "FittingStrides", name := "isPerson", desc := "(I)Z" } : Jvm.MethodName)) ∈ lw_all := lw_g (lw_at lw_m3 215 rfl) rfl
theorem q752 : (Jvm.Cond.privateMethod ({ cls := "FittingStrides", name := "isPerson", desc := "(I)Z" } : Jvm.MethodName)) ∈ lw_tbl := lw_at lw_m3 216 rfl
theorem q753 : (Jvm.Cond.instanceMethod ({ cls := "FittingStrides", name := "isPerson", desc := "(I)Z" } : Jvm.MethodName)) ∈ lw_all := lw_g (lw_at lw_m3 217 rfl) rfl
theorem q754 : (Jvm.Cond.code ({ cls := "FittingStrides", name := "isPerson", desc := "(I)Z" } : Jvm.MethodName) prog_1_method_10_code (2 : Nat) (Option.some Jvm.ClassFile.FieldType.boolean)) ∈ lw_all := lw_g (lw_at lw_m3 218 rfl) rfl
theorem q755 : (Jvm.Cond.methodLink "FittingStrides" (193 : Nat) ({ cls := "FittingStrides", name := "reachOfPerson", desc := "(I)I" } : Jvm.MethodName)) ∈ lw_all := lw_g (lw_at lw_m3 219 rfl) rfl
theorem q756 : (Jvm.Cond.privateMethod ({ cls := "FittingStrides", name := "reachOfPerson", desc := "(I)I" } : Jvm.MethodName)) ∈ lw_tbl := lw_at lw_m3 220 rfl
theorem q757 : (Jvm.Cond.instanceMethod ({ cls := "FittingStrides", name := "reachOfPerson", desc := "(I)I" } : Jvm.MethodName)) ∈ lw_all := lw_g (lw_at lw_m3 221 rfl) rfl
theorem q758 : (Jvm.Cond.code ({ cls := "FittingStrides", name := "reachOfPerson", desc := "(I)I" } : Jvm.MethodName) prog_1_method_16_code (2 : Nat) (Option.some Jvm.ClassFile.FieldType.int)) ∈ lw_all := lw_g (lw_at lw_m3 222 rfl) rfl
theorem q759 : (Jvm.Cond.methodLink "FittingStrides" (172 : Nat) ({ cls := "FittingStrides", name := "reachOf", desc := "(III)I" } : Jvm.MethodName)) ∈ lw_all := lw_g (lw_at lw_m3 223 rfl) rfl
theorem q760 : (Jvm.Cond.privateMethod ({ cls := "FittingStrides", name := "reachOf", desc := "(III)I" } : Jvm.MethodName)) ∈ lw_tbl := lw_at lw_m3 224 rfl
theorem q761 : (Jvm.Cond.instanceMethod ({ cls := "FittingStrides", name := "reachOf", desc := "(III)I" } : Jvm.MethodName)) ∈ lw_all := lw_g (lw_at lw_m3 225 rfl) rfl
theorem q762 : (Jvm.Cond.code ({ cls := "FittingStrides", name := "reachOf", desc := "(III)I" } : Jvm.MethodName) prog_1_method_15_code (8 : Nat) (Option.some Jvm.ClassFile.FieldType.int)) ∈ lw_all := lw_g (lw_at lw_m3 226 rfl) rfl
theorem q763 : (Jvm.Cond.methodLink "FittingStrides" (156 : Nat) ({ cls := "FittingStrides", name := "has", desc := "(II)Z" } : Jvm.MethodName)) ∈ lw_all := lw_g (lw_at lw_m3 227 rfl) rfl
theorem q764 : (Jvm.Cond.static ({ cls := "FittingStrides", name := "has", desc := "(II)Z" } : Jvm.MethodName)) ∈ lw_all := lw_g (lw_at lw_m3 228 rfl) rfl
theorem q765 : (Jvm.Cond.code ({ cls := "FittingStrides", name := "has", desc := "(II)Z" } : Jvm.MethodName) prog_1_method_2_code (2 : Nat) (Option.some Jvm.ClassFile.FieldType.boolean)) ∈ lw_all := lw_g (lw_at lw_m3 229 rfl) rfl
theorem q766 : (Jvm.Cond.methodLink "FittingStrides" (160 : Nat) ({ cls := "FittingStrides", name := "mayGo", desc := "(IIII)Z" } : Jvm.MethodName)) ∈ lw_all := lw_g (lw_at lw_m3 230 rfl) rfl
theorem q767 : (Jvm.Cond.privateMethod ({ cls := "FittingStrides", name := "mayGo", desc := "(IIII)Z" } : Jvm.MethodName)) ∈ lw_tbl := lw_at lw_m3 231 rfl
theorem q768 : (Jvm.Cond.instanceMethod ({ cls := "FittingStrides", name := "mayGo", desc := "(IIII)Z" } : Jvm.MethodName)) ∈ lw_all := lw_g (lw_at lw_m3 232 rfl) rfl
theorem q769 : (Jvm.Cond.code ({ cls := "FittingStrides", name := "mayGo", desc := "(IIII)Z" } : Jvm.MethodName) prog_1_method_14_code (6 : Nat) (Option.some Jvm.ClassFile.FieldType.boolean)) ∈ lw_all := lw_g (lw_at lw_m3 233 rfl) rfl
theorem q770 : (Jvm.Cond.methodLink "FittingStrides" (146 : Nat) ({ cls := "FittingStrides$Stair", name := "other", desc := "(I)I" } : Jvm.MethodName)) ∈ lw_all := lw_g (lw_at lw_m3 234 rfl) rfl
theorem q778 : (Jvm.Cond.instanceMethod ({ cls := "FittingStrides", name := "fit", desc := "(II)I" } : Jvm.MethodName)) ∈ lw_all := lw_g (lw_at lw_m4 2 rfl) rfl
theorem q779 : (Jvm.Cond.selects "FittingStrides" ({ cls := "FittingStrides", name := "fit", desc := "(II)I" } : Jvm.MethodName) ({ cls := "FittingStrides", name := "fit", desc := "(II)I" } : Jvm.MethodName)) ∈ lw_all := lw_g (lw_at lw_m4 3 rfl) rfl
theorem q780 : (Jvm.Cond.code ({ cls := "FittingStrides", name := "fit", desc := "(II)I" } : Jvm.MethodName) prog_1_method_22_code (3 : Nat) (Option.some Jvm.ClassFile.FieldType.int)) ∈ lw_all := lw_g (lw_at lw_m4 4 rfl) rfl
theorem q782 : (Jvm.Cond.instanceMethod ({ cls := "FittingStrides", name := "go", desc := "(II)I" } : Jvm.MethodName)) ∈ lw_all := lw_g (lw_at lw_m4 6 rfl) rfl
theorem q783 : (Jvm.Cond.selects "FittingStrides" ({ cls := "FittingStrides", name := "go", desc := "(II)I" } : Jvm.MethodName) ({ cls := "FittingStrides", name := "go", desc := "(II)I" } : Jvm.MethodName)) ∈ lw_all := lw_g (lw_at lw_m4 7 rfl) rfl
theorem q784 : (Jvm.Cond.code ({ cls := "FittingStrides", name := "go", desc := "(II)I" } : Jvm.MethodName) prog_1_method_26_code (3 : Nat) (Option.some Jvm.ClassFile.FieldType.int)) ∈ lw_all := lw_g (lw_at lw_m4 8 rfl) rfl
theorem q785 : (Jvm.Cond.methodLink "FittingStrides" (208 : Nat) ({ cls := "FittingStrides", name := "canGo", desc := "(II)Z" } : Jvm.MethodName)) ∈ lw_all := lw_g (lw_at lw_m4 9 rfl) rfl
theorem q786 : (Jvm.Cond.privateMethod ({ cls := "FittingStrides", name := "canGo", desc := "(II)Z" } : Jvm.MethodName)) ∈ lw_tbl := lw_at lw_m4 10 rfl
theorem q787 : (Jvm.Cond.instanceMethod ({ cls := "FittingStrides", name := "canGo", desc := "(II)Z" } : Jvm.MethodName)) ∈ lw_all := lw_g (lw_at lw_m4 11 rfl) rfl
theorem q788 : (Jvm.Cond.code ({ cls := "FittingStrides", name := "canGo", desc := "(II)Z" } : Jvm.MethodName) prog_1_method_23_code (3 : Nat) (Option.some Jvm.ClassFile.FieldType.boolean)) ∈ lw_all := lw_g (lw_at lw_m4 12 rfl) rfl
theorem q789 : (Jvm.Cond.constant "FittingStrides" (211 : Nat) (-1000000003 : Int32)) ∈ lw_all := lw_g (lw_at lw_m4 13 rfl) rfl
theorem q790 : (Jvm.Cond.methodLink "FittingStrides" (212 : Nat) ({ cls := "FittingStrides", name := "goNow", desc := "(II)V" } : Jvm.MethodName)) ∈ lw_all := lw_g (lw_at lw_m4 14 rfl) rfl
theorem q791 : (Jvm.Cond.privateMethod ({ cls := "FittingStrides", name := "goNow", desc := "(II)V" } : Jvm.MethodName)) ∈ lw_tbl := lw_at lw_m4 15 rfl
theorem q792 : (Jvm.Cond.instanceMethod ({ cls := "FittingStrides", name := "goNow", desc := "(II)V" } : Jvm.MethodName)) ∈ lw_all := lw_g (lw_at lw_m4 16 rfl) rfl
theorem q793 : (Jvm.Cond.code ({ cls := "FittingStrides", name := "goNow", desc := "(II)V" } : Jvm.MethodName) prog_1_method_25_code (3 : Nat) (Option.none : Option Jvm.ClassFile.FieldType)) ∈ lw_all := lw_g (lw_at lw_m4 17 rfl) rfl
theorem q794 : (Jvm.Cond.methodLink "FittingStrides" (202 : Nat) ({ cls := "FittingStrides", name := "strideFor", desc := "(II)I" } : Jvm.MethodName)) ∈ lw_all := lw_g (lw_at lw_m4 18 rfl) rfl
theorem q795 : (Jvm.Cond.privateMethod ({ cls := "FittingStrides", name := "strideFor", desc := "(II)I" } : Jvm.MethodName)) ∈ lw_tbl := lw_at lw_m4 19 rfl
theorem q796 : (Jvm.Cond.instanceMethod ({ cls := "FittingStrides", name := "strideFor", desc := "(II)I" } : Jvm.MethodName)) ∈ lw_all := lw_g (lw_at lw_m4 20 rfl) rfl
theorem q797 : (Jvm.Cond.code ({ cls := "FittingStrides", name := "strideFor", desc := "(II)I" } : Jvm.MethodName) prog_1_method_24_code (7 : Nat) (Option.some Jvm.ClassFile.FieldType.int)) ∈ lw_all := lw_g (lw_at lw_m4 21 rfl) rfl
theorem q798 : (Jvm.Cond.methodLink "FittingStrides" (196 : Nat) ({ cls := "java/lang/Math", name := "max", desc := "(II)I" } : Jvm.MethodName)) ∈ lw_all := lw_g (lw_at lw_m4 22 rfl) rfl
theorem q799 : (Jvm.Cond.methodLink "FittingStrides" (205 : Nat) ({ cls := "FittingStrides$Stair", name := "taken", desc := "(I)I" } : Jvm.MethodName)) ∈ lw_all := lw_g (lw_at lw_m4 23 rfl) rfl
theorem q807 : (Jvm.Cond.instanceMethod ({ cls := "FittingStrides", name := "build", desc := "(III)I" } : Jvm.MethodName)) ∈ lw_all := lw_g (lw_at lw_m4 31 rfl) rfl
theorem q808 : (Jvm.Cond.selects "FittingStrides" ({ cls := "FittingStrides", name := "build", desc := "(III)I" } : Jvm.MethodName) ({ cls := "FittingStrides", name := "build", desc := "(III)I" } : Jvm.MethodName)) ∈ lw_all := lw_g (lw_at lw_m4 32 rfl) rfl
theorem q809 : (Jvm.Cond.code ({ cls := "FittingStrides", name := "build", desc := "(III)I" } : Jvm.MethodName) prog_1_method_27_code (5 : Nat) (Option.some Jvm.ClassFile.FieldType.int)) ∈ lw_all := lw_g (lw_at lw_m4 33 rfl) rfl
theorem q810 : (Jvm.Cond.methodLink "FittingStrides" (216 : Nat) ({ cls := "FittingStrides", name := "isPart", desc := "(II)Z" } : Jvm.MethodName)) ∈ lw_all := lw_g (lw_at lw_m4 34 rfl) rfl
theorem q811 : (Jvm.Cond.privateMethod ({ cls := "FittingStrides", name := "isPart", desc := "(II)Z" } : Jvm.MethodName)) ∈ lw_tbl := lw_at lw_m4 35 rfl
theorem q812 : (Jvm.Cond.instanceMethod ({ cls := "FittingStrides", name := "isPart", desc := "(II)Z" } : Jvm.MethodName)) ∈ lw_all := lw_g (lw_at lw_m4 36 rfl) rfl
theorem q813 : (Jvm.Cond.code ({ cls := "FittingStrides", name := "isPart", desc := "(II)Z" } : Jvm.MethodName) prog_1_method_11_code (3 : Nat) (Option.some Jvm.ClassFile.FieldType.boolean)) ∈ lw_all := lw_g (lw_at lw_m4 37 rfl) rfl
theorem q815 : (Jvm.Cond.instanceMethod ({ cls := "FittingStrides", name := "law", desc := "(I)I" } : Jvm.MethodName)) ∈ lw_all := lw_g (lw_at lw_m4 39 rfl) rfl
theorem q816 : (Jvm.Cond.selects "FittingStrides" ({ cls := "FittingStrides", name := "law", desc := "(I)I" } : Jvm.MethodName) ({ cls := "FittingStrides", name := "law", desc := "(I)I" } : Jvm.MethodName)) ∈ lw_all := lw_g (lw_at lw_m4 40 rfl) rfl
theorem q817 : (Jvm.Cond.code ({ cls := "FittingStrides", name := "law", desc := "(I)I" } : Jvm.MethodName) prog_1_method_28_code (3 : Nat) (Option.some Jvm.ClassFile.FieldType.int)) ∈ lw_all := lw_g (lw_at lw_m4 41 rfl) rfl
theorem q819 : (Jvm.Cond.instanceMethod ({ cls := "FittingStrides", name := "drift", desc := "(I)I" } : Jvm.MethodName)) ∈ lw_all := lw_g (lw_at lw_m4 43 rfl) rfl
theorem q820 : (Jvm.Cond.selects "FittingStrides" ({ cls := "FittingStrides", name := "drift", desc := "(I)I" } : Jvm.MethodName) ({ cls := "FittingStrides", name := "drift", desc := "(I)I" } : Jvm.MethodName)) ∈ lw_all := lw_g (lw_at lw_m4 44 rfl) rfl
theorem q821 : (Jvm.Cond.code ({ cls := "FittingStrides", name := "drift", desc := "(I)I" } : Jvm.MethodName) prog_1_method_30_code (5 : Nat) (Option.some Jvm.ClassFile.FieldType.int)) ∈ lw_all := lw_g (lw_at lw_m4 45 rfl) rfl
theorem q822 : (Jvm.Cond.methodLink "FittingStrides" (219 : Nat) ({ cls := "FittingStrides$Folk", name := "draw", desc := "(I)I" } : Jvm.MethodName)) ∈ lw_all := lw_g (lw_at lw_m4 46 rfl) rfl
theorem q830 : (Jvm.Cond.methodLink "FittingStrides" (222 : Nat) ({ cls := "FittingStrides", name := "beget", desc := "(I)V" } : Jvm.MethodName)) ∈ lw_all := lw_g (lw_at lw_m4 54 rfl) rfl
theorem q831 : (Jvm.Cond.privateMethod ({ cls := "FittingStrides", name := "beget", desc := "(I)V" } : Jvm.MethodName)) ∈ lw_tbl := lw_at lw_m4 55 rfl
theorem q832 : (Jvm.Cond.instanceMethod ({ cls := "FittingStrides", name := "beget", desc := "(I)V" } : Jvm.MethodName)) ∈ lw_all := lw_g (lw_at lw_m4 56 rfl) rfl
theorem q833 : (Jvm.Cond.code ({ cls := "FittingStrides", name := "beget", desc := "(I)V" } : Jvm.MethodName) prog_1_method_29_code (3 : Nat) (Option.none : Option Jvm.ClassFile.FieldType)) ∈ lw_all := lw_g (lw_at lw_m4 57 rfl) rfl
theorem q835 : (Jvm.Cond.instanceMethod ({ cls := "FittingStrides", name := "reach", desc := "(II)I" } : Jvm.MethodName)) ∈ lw_all := lw_g (lw_at lw_m4 59 rfl) rfl
theorem q836 : (Jvm.Cond.selects "FittingStrides" ({ cls := "FittingStrides", name := "reach", desc := "(II)I" } : Jvm.MethodName) ({ cls := "FittingStrides", name := "reach", desc := "(II)I" } : Jvm.MethodName)) ∈ lw_all := lw_g (lw_at lw_m4 60 rfl) rfl
theorem q837 : (Jvm.Cond.code ({ cls := "FittingStrides", name := "reach", desc := "(II)I" } : Jvm.MethodName) prog_1_method_31_code (3 : Nat) (Option.some Jvm.ClassFile.FieldType.int)) ∈ lw_all := lw_g (lw_at lw_m4 61 rfl) rfl
theorem q838 : (Jvm.Cond.methodLink "FittingStrides" (226 : Nat) ({ cls := "FittingStrides", name := "isPlace", desc := "(I)Z" } : Jvm.MethodName)) ∈ lw_all := lw_g (lw_at lw_m4 62 rfl) rfl
theorem q839 : (Jvm.Cond.privateMethod ({ cls := "FittingStrides", name := "isPlace", desc := "(I)Z" } : Jvm.MethodName)) ∈ lw_tbl := lw_at lw_m4 63 rfl
theorem q840 : (Jvm.Cond.instanceMethod ({ cls := "FittingStrides", name := "isPlace", desc := "(I)Z" } : Jvm.MethodName)) ∈ lw_all := lw_g (lw_at lw_m4 64 rfl) rfl
theorem q841 : (Jvm.Cond.code ({ cls := "FittingStrides", name := "isPlace", desc := "(I)Z" } : Jvm.MethodName) prog_1_method_8_code (2 : Nat) (Option.some Jvm.ClassFile.FieldType.boolean)) ∈ lw_all := lw_g (lw_at lw_m4 65 rfl) rfl
theorem q843 : (Jvm.Cond.instanceMethod ({ cls := "FittingStrides", name := "guests", desc := "(I)I" } : Jvm.MethodName)) ∈ lw_all := lw_g (lw_at lw_m4 67 rfl) rfl
theorem q844 : (Jvm.Cond.selects "FittingStrides" ({ cls := "FittingStrides", name := "guests", desc := "(I)I" } : Jvm.MethodName) ({ cls := "FittingStrides", name := "guests", desc := "(I)I" } : Jvm.MethodName)) ∈ lw_all := lw_g (lw_at lw_m4 68 rfl) rfl
theorem q845 : (Jvm.Cond.code ({ cls := "FittingStrides", name := "guests", desc := "(I)I" } : Jvm.MethodName) prog_1_method_32_code (4 : Nat) (Option.some Jvm.ClassFile.FieldType.int)) ∈ lw_all := lw_g (lw_at lw_m4 69 rfl) rfl
theorem q847 : (Jvm.Cond.instanceMethod ({ cls := "FittingStrides", name := "wish", desc := "(II)I" } : Jvm.MethodName)) ∈ lw_all := lw_g (lw_at lw_m4 71 rfl) rfl
theorem q848 : (Jvm.Cond.selects "FittingStrides" ({ cls := "FittingStrides", name := "wish", desc := "(II)I" } : Jvm.MethodName) ({ cls := "FittingStrides", name := "wish", desc := "(II)I" } : Jvm.MethodName)) ∈ lw_all := lw_g (lw_at lw_m4 72 rfl) rfl
theorem q849 : (Jvm.Cond.code ({ cls := "FittingStrides", name := "wish", desc := "(II)I" } : Jvm.MethodName) prog_1_method_36_code (4 : Nat) (Option.some Jvm.ClassFile.FieldType.int)) ∈ lw_all := lw_g (lw_at lw_m4 73 rfl) rfl
theorem q850 : (Jvm.Cond.methodLink "FittingStrides" (233 : Nat) ({ cls := "FittingStrides", name := "isSet", desc := "(I)Z" } : Jvm.MethodName)) ∈ lw_all := lw_g (lw_at lw_m4 74 rfl) rfl
theorem q851 : (Jvm.Cond.privateMethod ({ cls := "FittingStrides", name := "isSet", desc := "(I)Z" } : Jvm.MethodName)) ∈ lw_tbl := lw_at lw_m4 75 rfl
theorem q852 : (Jvm.Cond.instanceMethod ({ cls := "FittingStrides", name := "isSet", desc := "(I)Z" } : Jvm.MethodName)) ∈ lw_all := lw_g (lw_at lw_m4 76 rfl) rfl
theorem q853 : (Jvm.Cond.code ({ cls := "FittingStrides", name := "isSet", desc := "(I)Z" } : Jvm.MethodName) prog_1_method_33_code (2 : Nat) (Option.some Jvm.ClassFile.FieldType.boolean)) ∈ lw_all := lw_g (lw_at lw_m4 77 rfl) rfl
theorem q854 : (Jvm.Cond.methodLink "FittingStrides" (236 : Nat) ({ cls := "FittingStrides", name := "multipleOf", desc := "(I)I" } : Jvm.MethodName)) ∈ lw_all := lw_g (lw_at lw_m4 78 rfl) rfl
theorem q855 : (Jvm.Cond.privateMethod ({ cls := "FittingStrides", name := "multipleOf", desc := "(I)I" } : Jvm.MethodName)) ∈ lw_tbl := lw_at lw_m4 79 rfl
theorem q856 : (Jvm.Cond.instanceMethod ({ cls := "FittingStrides", name := "multipleOf", desc := "(I)I" } : Jvm.MethodName)) ∈ lw_all := lw_g (lw_at lw_m4 80 rfl) rfl
theorem q857 : (Jvm.Cond.code ({ cls := "FittingStrides", name := "multipleOf", desc := "(I)I" } : Jvm.MethodName) prog_1_method_34_code (4 : Nat) (Option.some Jvm.ClassFile.FieldType.int)) ∈ lw_all := lw_g (lw_at lw_m4 81 rfl) rfl
theorem q858 : (Jvm.Cond.constant "FittingStrides" (229 : Nat) (100000 : Int32)) ∈ lw_all := lw_g (lw_at lw_m4 82 rfl) rfl
theorem q859 : (Jvm.Cond.methodLink "FittingStrides" (230 : Nat) ({ cls := "FittingStrides", name := "common", desc := "(II)I" } : Jvm.MethodName)) ∈ lw_all := lw_g (lw_at lw_m4 83 rfl) rfl
theorem q860 : (Jvm.Cond.static ({ cls := "FittingStrides", name := "common", desc := "(II)I" } : Jvm.MethodName)) ∈ lw_all := lw_g (lw_at lw_m4 84 rfl) rfl
theorem q861 : (Jvm.Cond.code ({ cls := "FittingStrides", name := "common", desc := "(II)I" } : Jvm.MethodName) prog_1_method_3_code (5 : Nat) (Option.some Jvm.ClassFile.FieldType.int)) ∈ lw_all := lw_g (lw_at lw_m4 85 rfl) rfl
theorem q862 : (Jvm.Cond.methodLink "FittingStrides" (239 : Nat) ({ cls := "FittingStrides", name := "keepsOff", desc := "(II)Z" } : Jvm.MethodName)) ∈ lw_all := lw_g (lw_at lw_m4 86 rfl) rfl
theorem q863 : (Jvm.Cond.privateMethod ({ cls := "FittingStrides", name := "keepsOff", desc := "(II)Z" } : Jvm.MethodName)) ∈ lw_tbl := lw_at lw_m4 87 rfl
theorem q864 : (Jvm.Cond.instanceMethod ({ cls := "FittingStrides", name := "keepsOff", desc := "(II)Z" } : Jvm.MethodName)) ∈ lw_all := lw_g (lw_at lw_m4 88 rfl) rfl
theorem q865 : (Jvm.Cond.code ({ cls := "FittingStrides", name := "keepsOff", desc := "(II)Z" } : Jvm.MethodName) prog_1_method_35_code (6 : Nat) (Option.some Jvm.ClassFile.FieldType.boolean)) ∈ lw_all := lw_g (lw_at lw_m4 89 rfl) rfl
theorem q867 : (Jvm.Cond.instanceMethod ({ cls := "FittingStrides", name := "pair", desc := "(III)I" } : Jvm.MethodName)) ∈ lw_all := lw_g (lw_at lw_m4 91 rfl) rfl
theorem q868 : (Jvm.Cond.selects "FittingStrides" ({ cls := "FittingStrides", name := "pair", desc := "(III)I" } : Jvm.MethodName) ({ cls := "FittingStrides", name := "pair", desc := "(III)I" } : Jvm.MethodName)) ∈ lw_all := lw_g (lw_at lw_m4 92 rfl) rfl
theorem q869 : (Jvm.Cond.code ({ cls := "FittingStrides", name := "pair", desc := "(III)I" } : Jvm.MethodName) prog_1_method_37_code (4 : Nat) (Option.some Jvm.ClassFile.FieldType.int)) ∈ lw_all := lw_g (lw_at lw_m4 93 rfl) rfl
theorem q871 : (Jvm.Cond.instanceMethod ({ cls := "FittingStrides", name := "carried", desc := "(III)I" } : Jvm.MethodName)) ∈ lw_all := lw_g (lw_at lw_m4 95 rfl) rfl
theorem q872 : (Jvm.Cond.selects "FittingStrides" ({ cls := "FittingStrides", name := "carried", desc := "(III)I" } : Jvm.MethodName) ({ cls := "FittingStrides", name := "carried", desc := "(III)I" } : Jvm.MethodName)) ∈ lw_all := lw_g (lw_at lw_m4 96 rfl) rfl
theorem q873 : (Jvm.Cond.code ({ cls := "FittingStrides", name := "carried", desc := "(III)I" } : Jvm.MethodName) prog_1_method_40_code (8 : Nat) (Option.some Jvm.ClassFile.FieldType.int)) ∈ lw_all := lw_g (lw_at lw_m4 97 rfl) rfl
theorem q874 : (Jvm.Cond.methodLink "FittingStrides" (245 : Nat) ({ cls := "java/util/Arrays", name := "fill", desc := "([ZZ)V" } : Jvm.MethodName)) ∈ lw_all := lw_g (lw_at lw_m4 98 rfl) rfl
theorem q877 : (Jvm.Cond.methodLink "FittingStrides" (251 : Nat) ({ cls := "FittingStrides", name := "bringAll", desc := "(I)Z" } : Jvm.MethodName)) ∈ lw_all := lw_g (lw_at lw_m4 101 rfl) rfl
theorem q878 : (Jvm.Cond.privateMethod ({ cls := "FittingStrides", name := "bringAll", desc := "(I)Z" } : Jvm.MethodName)) ∈ lw_tbl := lw_at lw_m4 102 rfl
theorem q879 : (Jvm.Cond.instanceMethod ({ cls := "FittingStrides", name := "bringAll", desc := "(I)Z" } : Jvm.MethodName)) ∈ lw_all := lw_g (lw_at lw_m4 103 rfl) rfl
theorem q880 : (Jvm.Cond.code ({ cls := "FittingStrides", name := "bringAll", desc := "(I)Z" } : Jvm.MethodName) prog_1_method_39_code (5 : Nat) (Option.some Jvm.ClassFile.FieldType.boolean)) ∈ lw_all := lw_g (lw_at lw_m4 104 rfl) rfl
theorem q881 : (Jvm.Cond.methodLink "FittingStrides" (242 : Nat) ({ cls := "FittingStrides", name := "bring", desc := "(IIII)Z" } : Jvm.MethodName)) ∈ lw_all := lw_g (lw_at lw_m4 105 rfl) rfl
theorem q882 : (Jvm.Cond.privateMethod ({ cls := "FittingStrides", name := "bring", desc := "(IIII)Z" } : Jvm.MethodName)) ∈ lw_tbl := lw_at lw_m4 106 rfl
theorem q883 : (Jvm.Cond.instanceMethod ({ cls := "FittingStrides", name := "bring", desc := "(IIII)Z" } : Jvm.MethodName)) ∈ lw_all := lw_g (lw_at lw_m4 107 rfl) rfl
theorem q884 : (Jvm.Cond.code ({ cls := "FittingStrides", name := "bring", desc := "(IIII)Z" } : Jvm.MethodName) prog_1_method_38_code (9 : Nat) (Option.some Jvm.ClassFile.FieldType.boolean)) ∈ lw_all := lw_g (lw_at lw_m4 108 rfl) rfl
theorem q885 : (Jvm.Cond.methodLink "FittingStrides" (254 : Nat) ({ cls := "java/lang/Integer", name := "bitCount", desc := "(I)I" } : Jvm.MethodName)) ∈ lw_all := lw_g (lw_at lw_m4 109 rfl) rfl
theorem q892 : (Jvm.Cond.instanceMethod ({ cls := "FittingStrides", name := "step", desc := "(IIII)I" } : Jvm.MethodName)) ∈ lw_all := lw_g (lw_at lw_m4 116 rfl) rfl
theorem q893 : (Jvm.Cond.selects "FittingStrides" ({ cls := "FittingStrides", name := "step", desc := "(IIII)I" } : Jvm.MethodName) ({ cls := "FittingStrides", name := "step", desc := "(IIII)I" } : Jvm.MethodName)) ∈ lw_all := lw_g (lw_at lw_m4 117 rfl) rfl
theorem q894 : (Jvm.Cond.code ({ cls := "FittingStrides", name := "step", desc := "(IIII)I" } : Jvm.MethodName) prog_1_method_42_code (8 : Nat) (Option.some Jvm.ClassFile.FieldType.int)) ∈ lw_all := lw_g (lw_at lw_m4 118 rfl) rfl
theorem q895 : (Jvm.Cond.methodLink "FittingStrides" (259 : Nat) ({ cls := "FittingStrides", name := "climbersWith", desc := "(III)I" } : Jvm.MethodName)) ∈ lw_all := lw_g (lw_at lw_m4 119 rfl) rfl
theorem q896 : (Jvm.Cond.privateMethod ({ cls := "FittingStrides", name := "climbersWith", desc := "(III)I" } : Jvm.MethodName)) ∈ lw_tbl := lw_at lw_m4 120 rfl
theorem q897 : (Jvm.Cond.instanceMethod ({ cls := "FittingStrides", name := "climbersWith", desc := "(III)I" } : Jvm.MethodName)) ∈ lw_all := lw_g (lw_at lw_m4 121 rfl) rfl
theorem q898 : (Jvm.Cond.code ({ cls := "FittingStrides", name := "climbersWith", desc := "(III)I" } : Jvm.MethodName) prog_1_method_41_code (5 : Nat) (Option.some Jvm.ClassFile.FieldType.int)) ∈ lw_all := lw_g (lw_at lw_m4 122 rfl) rfl
theorem q900 : (Jvm.Cond.instanceMethod ({ cls := "FittingStrides", name := "worst", desc := "(I)I" } : Jvm.MethodName)) ∈ lw_all := lw_g (lw_at lw_m4 124 rfl) rfl
theorem q901 : (Jvm.Cond.selects "FittingStrides" ({ cls := "FittingStrides", name := "worst", desc := "(I)I" } : Jvm.MethodName) ({ cls := "FittingStrides", name := "worst", desc := "(I)I" } : Jvm.MethodName)) ∈ lw_all := lw_g (lw_at lw_m4 125 rfl) rfl
theorem q902 : (Jvm.Cond.code ({ cls := "FittingStrides", name := "worst", desc := "(I)I" } : Jvm.MethodName) prog_1_method_43_code (8 : Nat) (Option.some Jvm.ClassFile.FieldType.int)) ∈ lw_all := lw_g (lw_at lw_m4 126 rfl) rfl
theorem q904 : (Jvm.Cond.instanceMethod ({ cls := "FittingStrides", name := "best", desc := "(I)I" } : Jvm.MethodName)) ∈ lw_all := lw_g (lw_at lw_m4 128 rfl) rfl
theorem q905 : (Jvm.Cond.selects "FittingStrides" ({ cls := "FittingStrides", name := "best", desc := "(I)I" } : Jvm.MethodName) ({ cls := "FittingStrides", name := "best", desc := "(I)I" } : Jvm.MethodName)) ∈ lw_all := lw_g (lw_at lw_m4 129 rfl) rfl
theorem q906 : (Jvm.Cond.code ({ cls := "FittingStrides", name := "best", desc := "(I)I" } : Jvm.MethodName) prog_1_method_44_code (6 : Nat) (Option.some Jvm.ClassFile.FieldType.int)) ∈ lw_all := lw_g (lw_at lw_m4 130 rfl) rfl
theorem q908 : (Jvm.Cond.instanceMethod ({ cls := "FittingStrides", name := "cover", desc := "()I" } : Jvm.MethodName)) ∈ lw_all := lw_g (lw_at lw_m4 132 rfl) rfl
theorem q909 : (Jvm.Cond.selects "FittingStrides" ({ cls := "FittingStrides", name := "cover", desc := "()I" } : Jvm.MethodName) ({ cls := "FittingStrides", name := "cover", desc := "()I" } : Jvm.MethodName)) ∈ lw_all := lw_g (lw_at lw_m4 133 rfl) rfl
theorem q910 : (Jvm.Cond.code ({ cls := "FittingStrides", name := "cover", desc := "()I" } : Jvm.MethodName) prog_1_method_46_code (4 : Nat) (Option.some Jvm.ClassFile.FieldType.int)) ∈ lw_all := lw_g (lw_at lw_m4 134 rfl) rfl
theorem q911 : (Jvm.Cond.methodLink "FittingStrides" (262 : Nat) ({ cls := "FittingStrides", name := "areClimbedBy", desc := "(I)Z" } : Jvm.MethodName)) ∈ lw_all := lw_g (lw_at lw_m4 135 rfl) rfl
theorem q912 : (Jvm.Cond.privateMethod ({ cls := "FittingStrides", name := "areClimbedBy", desc := "(I)Z" } : Jvm.MethodName)) ∈ lw_tbl := lw_at lw_m4 136 rfl
theorem q913 : (Jvm.Cond.instanceMethod ({ cls := "FittingStrides", name := "areClimbedBy", desc := "(I)Z" } : Jvm.MethodName)) ∈ lw_all := lw_g (lw_at lw_m4 137 rfl) rfl
theorem q914 : (Jvm.Cond.code ({ cls := "FittingStrides", name := "areClimbedBy", desc := "(I)Z" } : Jvm.MethodName) prog_1_method_45_code (4 : Nat) (Option.some Jvm.ClassFile.FieldType.boolean)) ∈ lw_all := lw_g (lw_at lw_m4 138 rfl) rfl
theorem q916 : (Jvm.Cond.instanceMethod ({ cls := "FittingStrides", name := "see", desc := "(IIZ)I" } : Jvm.MethodName)) ∈ lw_all := lw_g (lw_at lw_m4 140 rfl) rfl
theorem q917 : (Jvm.Cond.selects "FittingStrides" ({ cls := "FittingStrides", name := "see", desc := "(IIZ)I" } : Jvm.MethodName) ({ cls := "FittingStrides", name := "see", desc := "(IIZ)I" } : Jvm.MethodName)) ∈ lw_all := lw_g (lw_at lw_m4 141 rfl) rfl
theorem q918 : (Jvm.Cond.code ({ cls := "FittingStrides", name := "see", desc := "(IIZ)I" } : Jvm.MethodName) prog_1_method_47_code (4 : Nat) (Option.some Jvm.ClassFile.FieldType.int)) ∈ lw_all := lw_g (lw_at lw_m4 142 rfl) rfl
theorem q920 : (Jvm.Cond.instanceMethod ({ cls := "FittingStrides", name := "fits", desc := "()I" } : Jvm.MethodName)) ∈ lw_all := lw_g (lw_at lw_m4 144 rfl) rfl
theorem q921 : (Jvm.Cond.selects "FittingStrides" ({ cls := "FittingStrides", name := "fits", desc := "()I" } : Jvm.MethodName) ({ cls := "FittingStrides", name := "fits", desc := "()I" } : Jvm.MethodName)) ∈ lw_all := lw_g (lw_at lw_m4 145 rfl) rfl
theorem q922 : (Jvm.Cond.code ({ cls := "FittingStrides", name := "fits", desc := "()I" } : Jvm.MethodName) prog_1_method_49_code (3 : Nat) (Option.some Jvm.ClassFile.FieldType.int)) ∈ lw_all := lw_g (lw_at lw_m4 146 rfl) rfl
theorem q923 : (Jvm.Cond.methodLink "FittingStrides" (265 : Nat) ({ cls := "FittingStrides", name := "isAsSeen", desc := "(I)Z" } : Jvm.MethodName)) ∈ lw_all := lw_g (lw_at lw_m4 147 rfl) rfl
theorem q924 : (Jvm.Cond.privateMethod ({ cls := "FittingStrides", name := "isAsSeen", desc := "(I)Z" } : Jvm.MethodName)) ∈ lw_tbl := lw_at lw_m4 148 rfl
theorem q925 : (Jvm.Cond.instanceMethod ({ cls := "FittingStrides", name := "isAsSeen", desc := "(I)Z" } : Jvm.MethodName)) ∈ lw_all := lw_g (lw_at lw_m4 149 rfl) rfl
theorem q926 : (Jvm.Cond.code ({ cls := "FittingStrides", name := "isAsSeen", desc := "(I)Z" } : Jvm.MethodName) prog_1_method_48_code (4 : Nat) (Option.some Jvm.ClassFile.FieldType.boolean)) ∈ lw_all := lw_g (lw_at lw_m4 150 rfl) rfl
theorem q928 : (Jvm.Cond.instanceMethod ({ cls := "FittingStrides", name := "ask", desc := "()I" } : Jvm.MethodName)) ∈ lw_all := lw_g (lw_at lw_m4 152 rfl) rfl
theorem q929 : (Jvm.Cond.selects "FittingStrides" ({ cls := "FittingStrides", name := "ask", desc := "()I" } : Jvm.MethodName) ({ cls := "FittingStrides", name := "ask", desc := "()I" } : Jvm.MethodName)) ∈ lw_all := lw_g (lw_at lw_m4 153 rfl) rfl
theorem q930 : (Jvm.Cond.code ({ cls := "FittingStrides", name := "ask", desc := "()I" } : Jvm.MethodName) prog_1_method_50_code (9 : Nat) (Option.some Jvm.ClassFile.FieldType.int)) ∈ lw_all := lw_g (lw_at lw_m4 154 rfl) rfl
theorem q931 : (Jvm.Cond.methodLink "FittingStrides" (268 : Nat) ({ cls := "FittingStrides", name := "fits", desc := "()I" } : Jvm.MethodName)) ∈ lw_all := lw_g (lw_at lw_m4 155 rfl) rfl
theorem q932 : (Jvm.Cond.methodLink "FittingStrides" (270 : Nat) ({ cls := "java/lang/Math", name := "abs", desc := "(I)I" } : Jvm.MethodName)) ∈ lw_all := lw_g (lw_at lw_m4 156 rfl) rfl
theorem q936 : (Jvm.Cond.instanceMethod ({ cls := "FittingStrides", name := "write", desc := "(II)I" } : Jvm.MethodName)) ∈ lw_all := lw_g (lw_at lw_m4 160 rfl) rfl
theorem q937 : (Jvm.Cond.selects "FittingStrides" ({ cls := "FittingStrides", name := "write", desc := "(II)I" } : Jvm.MethodName) ({ cls := "FittingStrides", name := "write", desc := "(II)I" } : Jvm.MethodName)) ∈ lw_all := lw_g (lw_at lw_m4 161 rfl) rfl
theorem q938 : (Jvm.Cond.code ({ cls := "FittingStrides", name := "write", desc := "(II)I" } : Jvm.MethodName) prog_1_method_51_code (3 : Nat) (Option.some Jvm.ClassFile.FieldType.int)) ∈ lw_all := lw_g (lw_at lw_m4 162 rfl) rfl
theorem q940 : (Jvm.Cond.instanceMethod ({ cls := "FittingStrides", name := "tear", desc := "()I" } : Jvm.MethodName)) ∈ lw_all := lw_g (lw_at lw_m4 164 rfl) rfl
theorem q941 : (Jvm.Cond.selects "FittingStrides" ({ cls := "FittingStrides", name := "tear", desc := "()I" } : Jvm.MethodName) ({ cls := "FittingStrides", name := "tear", desc := "()I" } : Jvm.MethodName)) ∈ lw_all := lw_g (lw_at lw_m4 165 rfl) rfl
theorem q942 : (Jvm.Cond.code ({ cls := "FittingStrides", name := "tear", desc := "()I" } : Jvm.MethodName) prog_1_method_52_code (2 : Nat) (Option.some Jvm.ClassFile.FieldType.int)) ∈ lw_all := lw_g (lw_at lw_m4 166 rfl) rfl
theorem q944 : (Jvm.Cond.instanceMethod ({ cls := "FittingStrides", name := "judge", desc := "()I" } : Jvm.MethodName)) ∈ lw_all := lw_g (lw_at lw_m4 168 rfl) rfl
theorem q945 : (Jvm.Cond.selects "FittingStrides" ({ cls := "FittingStrides", name := "judge", desc := "()I" } : Jvm.MethodName) ({ cls := "FittingStrides", name := "judge", desc := "()I" } : Jvm.MethodName)) ∈ lw_all := lw_g (lw_at lw_m4 169 rfl) rfl
theorem q946 : (Jvm.Cond.code ({ cls := "FittingStrides", name := "judge", desc := "()I" } : Jvm.MethodName) prog_1_method_53_code (4 : Nat) (Option.some Jvm.ClassFile.FieldType.int)) ∈ lw_all := lw_g (lw_at lw_m4 170 rfl) rfl
theorem q948 : (Jvm.Cond.instanceMethod ({ cls := "FittingStrides", name := "seed", desc := "(I)I" } : Jvm.MethodName)) ∈ lw_all := lw_g (lw_at lw_m4 172 rfl) rfl
theorem q949 : (Jvm.Cond.selects "FittingStrides" ({ cls := "FittingStrides", name := "seed", desc := "(I)I" } : Jvm.MethodName) ({ cls := "FittingStrides", name := "seed", desc := "(I)I" } : Jvm.MethodName)) ∈ lw_all := lw_g (lw_at lw_m4 173 rfl) rfl
theorem q950 : (Jvm.Cond.code ({ cls := "FittingStrides", name := "seed", desc := "(I)I" } : Jvm.MethodName) prog_1_method_54_code (3 : Nat) (Option.some Jvm.ClassFile.FieldType.int)) ∈ lw_all := lw_g (lw_at lw_m4 174 rfl) rfl
theorem q952 : (Jvm.Cond.instanceMethod ({ cls := "FittingStrides", name := "keep", desc := "(I)I" } : Jvm.MethodName)) ∈ lw_all := lw_g (lw_at lw_m4 176 rfl) rfl
theorem q953 : (Jvm.Cond.selects "FittingStrides" ({ cls := "FittingStrides", name := "keep", desc := "(I)I" } : Jvm.MethodName) ({ cls := "FittingStrides", name := "keep", desc := "(I)I" } : Jvm.MethodName)) ∈ lw_all := lw_g (lw_at lw_m4 177 rfl) rfl
theorem q954 : (Jvm.Cond.code ({ cls := "FittingStrides", name := "keep", desc := "(I)I" } : Jvm.MethodName) prog_1_method_55_code (2 : Nat) (Option.some Jvm.ClassFile.FieldType.int)) ∈ lw_all := lw_g (lw_at lw_m4 178 rfl) rfl
theorem q955 : (Jvm.Cond.methodLink "FittingStrides" (276 : Nat) ({ cls := "FittingStrides$Folk", name := "set", desc := "(LFittingStrides$Folk;)V" } : Jvm.MethodName)) ∈ lw_all := lw_g (lw_at lw_m4 179 rfl) rfl
theorem q960 : (Jvm.Cond.instanceMethod ({ cls := "FittingStrides", name := "goBack", desc := "(I)I" } : Jvm.MethodName)) ∈ lw_all := lw_g (lw_at lw_m4 184 rfl) rfl
theorem q961 : (Jvm.Cond.selects "FittingStrides" ({ cls := "FittingStrides", name := "goBack", desc := "(I)I" } : Jvm.MethodName) ({ cls := "FittingStrides", name := "goBack", desc := "(I)I" } : Jvm.MethodName)) ∈ lw_all := lw_g (lw_at lw_m4 185 rfl) rfl
theorem q962 : (Jvm.Cond.code ({ cls := "FittingStrides", name := "goBack", desc := "(I)I" } : Jvm.MethodName) prog_1_method_56_code (2 : Nat) (Option.some Jvm.ClassFile.FieldType.int)) ∈ lw_all := lw_g (lw_at lw_m4 186 rfl) rfl
theorem in_X0 : ∀ w ∈ wsX00, w ∈ lw_all := lw_in wsX00 [197, 199, 201, 203, 205, 207, 209, 211, 213, 215, 217, 219, 221, 223] (by decide +kernel) (by decide +kernel)
