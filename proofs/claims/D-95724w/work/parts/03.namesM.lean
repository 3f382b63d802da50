/-! FittingStridesModel -/
set_option maxRecDepth 100000
def RX3 : String := "FittingStridesModel"
def TX3 : u_T := fun k => match k with
  | 0 => ("FittingStridesModel", "places", "I", false)
  | 1 => ("FittingStridesModel", "stairs", "I", false)
  | 2 => ("FittingStridesModel", "kind", "[I", true)
  | 3 => ("FittingStridesModel", "low", "[I", true)
  | 4 => ("FittingStridesModel", "high", "[I", true)
  | 5 => ("FittingStridesModel", "parts", "[I", true)
  | 6 => ("FittingStridesModel", "steps", "[I", true)
  | 7 => ("FittingStridesModel", "worn", "[I", true)
  | 8 => ("FittingStridesModel", "persons", "I", false)
  | 9 => ("FittingStridesModel", "at", "[I", true)
  | 10 => ("FittingStridesModel", "first", "[I", true)
  | 11 => ("FittingStridesModel", "second", "[I", true)
  | 12 => ("FittingStridesModel", "law", "I", false)
  | 13 => ("FittingStridesModel", "seed", "I", false)
  | 14 => ("FittingStridesModel", "text", "[I", true)
  | 15 => ("FittingStridesModel", "texted", "I", false)
  | 16 => ("FittingStridesModel", "faultPlace", "I", false)
  | 17 => ("FittingStridesModel", "at0", "I", false)
  | 18 => ("FittingStridesModel", "said", "J", false)
  | 19 => ("FittingStridesModel", "wordEnd", "I", false)
  | 20 => ("FittingStridesModel", "number", "I", false)
  | 21 => ("FittingStridesModel", "numberAt", "I", false)
  | 22 => ("FittingStridesModel", "readPlaces", "I", false)
  | 23 => ("FittingStridesModel", "readStairs", "I", false)
  | 24 => ("FittingStridesModel", "readKind", "[I", true)
  | 25 => ("FittingStridesModel", "readLow", "[I", true)
  | 26 => ("FittingStridesModel", "readHigh", "[I", true)
  | 27 => ("FittingStridesModel", "readParts", "[I", true)
  | 28 => ("FittingStridesModel", "readSteps", "[I", true)
  | 29 => ("FittingStridesModel", "readPersons", "I", false)
  | 30 => ("FittingStridesModel", "readAt", "[I", true)
  | 31 => ("FittingStridesModel", "readFirst", "[I", true)
  | 32 => ("FittingStridesModel", "readSecond", "[I", true)
  | 33 => ("FittingStridesModel", "reaches", "[I", true)
  | 34 => ("FittingStridesModel", "sights", "I", false)
  | 35 => ("FittingStridesModel", "seenFrom", "[I", true)
  | 36 => ("FittingStridesModel", "seenAt", "[I", true)
  | 37 => ("FittingStridesModel", "seenWas", "[Z", true)
  | 38 => ("FittingStridesModel", "booked", "I", false)
  | 39 => ("FittingStridesModel", "bookWho", "[I", true)
  | 40 => ("FittingStridesModel", "bookStair", "[I", true)
  | 41 => ("FittingStridesModel", "wasAt", "[I", true)
  | 42 => ("FittingStridesModel", "images", "[I", true)
  | _ => ("FittingStridesModel", "isKept", "[Z", true)
def tyX3 : Nat → FieldType := fun k => match k with
  | 0 => .int
  | 1 => .int
  | 2 => .array .int
  | 3 => .array .int
  | 4 => .array .int
  | 5 => .array .int
  | 6 => .array .int
  | 7 => .array .int
  | 8 => .int
  | 9 => .array .int
  | 10 => .array .int
  | 11 => .array .int
  | 12 => .int
  | 13 => .int
  | 14 => .array .int
  | 15 => .int
  | 16 => .int
  | 17 => .int
  | 18 => .long
  | 19 => .int
  | 20 => .int
  | 21 => .int
  | 22 => .int
  | 23 => .int
  | 24 => .array .int
  | 25 => .array .int
  | 26 => .array .int
  | 27 => .array .int
  | 28 => .array .int
  | 29 => .int
  | 30 => .array .int
  | 31 => .array .int
  | 32 => .array .int
  | 33 => .array .int
  | 34 => .int
  | 35 => .array .int
  | 36 => .array .int
  | 37 => .array .boolean
  | 38 => .int
  | 39 => .array .int
  | 40 => .array .int
  | 41 => .array .int
  | 42 => .array .int
  | _ => .array .boolean
abbrev wsX30 : List Cond := u_ws RX3 TX3 44
set_option maxRecDepth 100000 in
theorem nmX3 : ∀ a, a < 44 → ∀ b, b < 44 → a ≠ b → (TX3 a).2.1 ≠ (TX3 b).2.1 := by decide +kernel
set_option maxRecDepth 100000 in
theorem tyX3_ok : ∀ k, k < 44 → parseFieldDescriptor (TX3 k).2.2.1 = some (tyX3 k) := by decide +kernel
abbrev cX3_init : ByteArray := prog_10_method_1_code
def yX3_init : MethodName := ⟨RX3, "<init>", "()V"⟩
def dkwX3_init_9 : List UInt8 := [188, 10, 181, 0, 90, 42, 5, 188, 4, 181, 0, 93, 42, 3, 181, 0, 96, 177]
abbrev dktX3_init_9 : List UInt8 := dkwX3_init_9 ++ []
def dkwX3_init_8 : List UInt8 := [181, 0, 81, 42, 16, 40, 188, 10, 181, 0, 84, 42, 16, 8, 188, 10, 181, 0, 87, 42, 17, 0, 140]
abbrev dktX3_init_8 : List UInt8 := dkwX3_init_8 ++ dktX3_init_9
def dkwX3_init_7 : List UInt8 := [181, 0, 71, 42, 16, 20, 188, 10, 181, 0, 74, 42, 16, 20, 188, 4, 181, 0, 77, 42, 16, 40, 188, 10]
abbrev dktX3_init_7 : List UInt8 := dkwX3_init_7 ++ dktX3_init_8
def dkwX3_init_6 : List UInt8 := [181, 0, 62, 42, 16, 8, 188, 10, 181, 0, 65, 42, 16, 8, 188, 10, 181, 0, 68, 42, 16, 20, 188, 10]
abbrev dktX3_init_6 : List UInt8 := dkwX3_init_6 ++ dktX3_init_7
def dkwX3_init_5 : List UInt8 := [181, 0, 53, 42, 16, 30, 188, 10, 181, 0, 56, 42, 16, 8, 188, 10, 181, 0, 59, 42, 16, 8, 188, 10]
abbrev dktX3_init_5 : List UInt8 := dkwX3_init_5 ++ dktX3_init_6
def dkwX3_init_4 : List UInt8 := [181, 0, 44, 42, 16, 10, 188, 10, 181, 0, 47, 42, 16, 10, 188, 10, 181, 0, 50, 42, 16, 10, 188, 10]
abbrev dktX3_init_4 : List UInt8 := dkwX3_init_4 ++ dktX3_init_5
def dkwX3_init_3 : List UInt8 := [188, 10, 181, 0, 34, 42, 17, 1, 244, 188, 10, 181, 0, 37, 42, 2, 181, 0, 40, 42, 16, 10, 188, 10]
abbrev dktX3_init_3 : List UInt8 := dkwX3_init_3 ++ dktX3_init_4
def dkwX3_init_2 : List UInt8 := [188, 10, 181, 0, 25, 42, 16, 8, 188, 10, 181, 0, 28, 42, 16, 8, 188, 10, 181, 0, 31, 42, 16, 8]
abbrev dktX3_init_2 : List UInt8 := dkwX3_init_2 ++ dktX3_init_3
def dkwX3_init_1 : List UInt8 := [188, 10, 181, 0, 16, 42, 16, 10, 188, 10, 181, 0, 19, 42, 16, 30, 188, 10, 181, 0, 22, 42, 16, 10]
abbrev dktX3_init_1 : List UInt8 := dkwX3_init_1 ++ dktX3_init_2
def dkwX3_init_0 : List UInt8 := [42, 183, 0, 1, 42, 16, 10, 188, 10, 181, 0, 7, 42, 16, 10, 188, 10, 181, 0, 13, 42, 16, 10]
abbrev dktX3_init_0 : List UInt8 := dkwX3_init_0 ++ dktX3_init_1
theorem dksX3_init_0 : cX3_init.data.toList.drop 0 = dktX3_init_0 := by decide +kernel
theorem dksX3_init_1 : cX3_init.data.toList.drop 23 = dktX3_init_1 := dk_seg dksX3_init_0 23 rfl rfl
theorem dksX3_init_2 : cX3_init.data.toList.drop 47 = dktX3_init_2 := dk_seg dksX3_init_1 24 rfl rfl
theorem dksX3_init_3 : cX3_init.data.toList.drop 71 = dktX3_init_3 := dk_seg dksX3_init_2 24 rfl rfl
theorem dksX3_init_4 : cX3_init.data.toList.drop 95 = dktX3_init_4 := dk_seg dksX3_init_3 24 rfl rfl
theorem dksX3_init_5 : cX3_init.data.toList.drop 119 = dktX3_init_5 := dk_seg dksX3_init_4 24 rfl rfl
theorem dksX3_init_6 : cX3_init.data.toList.drop 143 = dktX3_init_6 := dk_seg dksX3_init_5 24 rfl rfl
theorem dksX3_init_7 : cX3_init.data.toList.drop 167 = dktX3_init_7 := dk_seg dksX3_init_6 24 rfl rfl
theorem dksX3_init_8 : cX3_init.data.toList.drop 191 = dktX3_init_8 := dk_seg dksX3_init_7 24 rfl rfl
theorem dksX3_init_9 : cX3_init.data.toList.drop 214 = dktX3_init_9 := dk_seg dksX3_init_8 23 rfl rfl
theorem dX3_init_0 : decode cX3_init 0 = .ok (.aload_n 0, 1) := dk_42 (dk_at dksX3_init_0 0 rfl rfl)
theorem dX3_init_1 : decode cX3_init 1 = .ok (.invokespecial 1, 3) := dk_183 0 1 (dk_at dksX3_init_0 1 rfl rfl)
theorem dX3_init_4 : decode cX3_init 4 = .ok (.aload_n 0, 1) := dk_42 (dk_at dksX3_init_0 4 rfl rfl)
theorem dX3_init_5 : decode cX3_init 5 = .ok (.bipush 10, 2) := dk_16 10 (dk_at dksX3_init_0 5 rfl rfl)
theorem dX3_init_7 : decode cX3_init 7 = .ok (.newarray .int, 2) := dk_188_10 (dk_at dksX3_init_0 7 rfl rfl)
theorem dX3_init_9 : decode cX3_init 9 = .ok (.putfield 7, 3) := dk_181 0 7 (dk_at dksX3_init_0 9 rfl rfl)
theorem dX3_init_12 : decode cX3_init 12 = .ok (.aload_n 0, 1) := dk_42 (dk_at dksX3_init_0 12 rfl rfl)
theorem dX3_init_13 : decode cX3_init 13 = .ok (.bipush 10, 2) := dk_16 10 (dk_at dksX3_init_0 13 rfl rfl)
theorem dX3_init_15 : decode cX3_init 15 = .ok (.newarray .int, 2) := dk_188_10 (dk_at dksX3_init_0 15 rfl rfl)
theorem dX3_init_17 : decode cX3_init 17 = .ok (.putfield 13, 3) := dk_181 0 13 (dk_at dksX3_init_0 17 rfl rfl)
theorem dX3_init_20 : decode cX3_init 20 = .ok (.aload_n 0, 1) := dk_42 (dk_at dksX3_init_0 20 rfl rfl)
theorem dX3_init_21 : decode cX3_init 21 = .ok (.bipush 10, 2) := dk_16 10 (dk_at dksX3_init_0 21 rfl rfl)
theorem dX3_init_23 : decode cX3_init 23 = .ok (.newarray .int, 2) := dk_188_10 (dk_at dksX3_init_1 0 rfl rfl)
theorem dX3_init_25 : decode cX3_init 25 = .ok (.putfield 16, 3) := dk_181 0 16 (dk_at dksX3_init_1 2 rfl rfl)
theorem dX3_init_28 : decode cX3_init 28 = .ok (.aload_n 0, 1) := dk_42 (dk_at dksX3_init_1 5 rfl rfl)
theorem dX3_init_29 : decode cX3_init 29 = .ok (.bipush 10, 2) := dk_16 10 (dk_at dksX3_init_1 6 rfl rfl)
theorem dX3_init_31 : decode cX3_init 31 = .ok (.newarray .int, 2) := dk_188_10 (dk_at dksX3_init_1 8 rfl rfl)
theorem dX3_init_33 : decode cX3_init 33 = .ok (.putfield 19, 3) := dk_181 0 19 (dk_at dksX3_init_1 10 rfl rfl)
theorem dX3_init_36 : decode cX3_init 36 = .ok (.aload_n 0, 1) := dk_42 (dk_at dksX3_init_1 13 rfl rfl)
theorem dX3_init_37 : decode cX3_init 37 = .ok (.bipush 30, 2) := dk_16 30 (dk_at dksX3_init_1 14 rfl rfl)
theorem dX3_init_39 : decode cX3_init 39 = .ok (.newarray .int, 2) := dk_188_10 (dk_at dksX3_init_1 16 rfl rfl)
theorem dX3_init_41 : decode cX3_init 41 = .ok (.putfield 22, 3) := dk_181 0 22 (dk_at dksX3_init_1 18 rfl rfl)
theorem dX3_init_44 : decode cX3_init 44 = .ok (.aload_n 0, 1) := dk_42 (dk_at dksX3_init_1 21 rfl rfl)
theorem dX3_init_45 : decode cX3_init 45 = .ok (.bipush 10, 2) := dk_16 10 (dk_at dksX3_init_1 22 rfl rfl)
theorem dX3_init_47 : decode cX3_init 47 = .ok (.newarray .int, 2) := dk_188_10 (dk_at dksX3_init_2 0 rfl rfl)
theorem dX3_init_49 : decode cX3_init 49 = .ok (.putfield 25, 3) := dk_181 0 25 (dk_at dksX3_init_2 2 rfl rfl)
theorem dX3_init_52 : decode cX3_init 52 = .ok (.aload_n 0, 1) := dk_42 (dk_at dksX3_init_2 5 rfl rfl)
theorem dX3_init_53 : decode cX3_init 53 = .ok (.bipush 8, 2) := dk_16 8 (dk_at dksX3_init_2 6 rfl rfl)
theorem dX3_init_55 : decode cX3_init 55 = .ok (.newarray .int, 2) := dk_188_10 (dk_at dksX3_init_2 8 rfl rfl)
theorem dX3_init_57 : decode cX3_init 57 = .ok (.putfield 28, 3) := dk_181 0 28 (dk_at dksX3_init_2 10 rfl rfl)
theorem dX3_init_60 : decode cX3_init 60 = .ok (.aload_n 0, 1) := dk_42 (dk_at dksX3_init_2 13 rfl rfl)
theorem dX3_init_61 : decode cX3_init 61 = .ok (.bipush 8, 2) := dk_16 8 (dk_at dksX3_init_2 14 rfl rfl)
theorem dX3_init_63 : decode cX3_init 63 = .ok (.newarray .int, 2) := dk_188_10 (dk_at dksX3_init_2 16 rfl rfl)
theorem dX3_init_65 : decode cX3_init 65 = .ok (.putfield 31, 3) := dk_181 0 31 (dk_at dksX3_init_2 18 rfl rfl)
theorem dX3_init_68 : decode cX3_init 68 = .ok (.aload_n 0, 1) := dk_42 (dk_at dksX3_init_2 21 rfl rfl)
theorem dX3_init_69 : decode cX3_init 69 = .ok (.bipush 8, 2) := dk_16 8 (dk_at dksX3_init_2 22 rfl rfl)
theorem dX3_init_71 : decode cX3_init 71 = .ok (.newarray .int, 2) := dk_188_10 (dk_at dksX3_init_3 0 rfl rfl)
theorem dX3_init_73 : decode cX3_init 73 = .ok (.putfield 34, 3) := dk_181 0 34 (dk_at dksX3_init_3 2 rfl rfl)
theorem dX3_init_76 : decode cX3_init 76 = .ok (.aload_n 0, 1) := dk_42 (dk_at dksX3_init_3 5 rfl rfl)
theorem dX3_init_77 : decode cX3_init 77 = .ok (.sipush 500, 3) := dk_17 1 244 (dk_at dksX3_init_3 6 rfl rfl)
theorem dX3_init_80 : decode cX3_init 80 = .ok (.newarray .int, 2) := dk_188_10 (dk_at dksX3_init_3 9 rfl rfl)
theorem dX3_init_82 : decode cX3_init 82 = .ok (.putfield 37, 3) := dk_181 0 37 (dk_at dksX3_init_3 11 rfl rfl)
theorem dX3_init_85 : decode cX3_init 85 = .ok (.aload_n 0, 1) := dk_42 (dk_at dksX3_init_3 14 rfl rfl)
theorem dX3_init_86 : decode cX3_init 86 = .ok (.iconst (-1), 1) := dk_2 (dk_at dksX3_init_3 15 rfl rfl)
theorem dX3_init_87 : decode cX3_init 87 = .ok (.putfield 40, 3) := dk_181 0 40 (dk_at dksX3_init_3 16 rfl rfl)
theorem dX3_init_90 : decode cX3_init 90 = .ok (.aload_n 0, 1) := dk_42 (dk_at dksX3_init_3 19 rfl rfl)
theorem dX3_init_91 : decode cX3_init 91 = .ok (.bipush 10, 2) := dk_16 10 (dk_at dksX3_init_3 20 rfl rfl)
theorem dX3_init_93 : decode cX3_init 93 = .ok (.newarray .int, 2) := dk_188_10 (dk_at dksX3_init_3 22 rfl rfl)
theorem dX3_init_95 : decode cX3_init 95 = .ok (.putfield 44, 3) := dk_181 0 44 (dk_at dksX3_init_4 0 rfl rfl)
theorem dX3_init_98 : decode cX3_init 98 = .ok (.aload_n 0, 1) := dk_42 (dk_at dksX3_init_4 3 rfl rfl)
theorem dX3_init_99 : decode cX3_init 99 = .ok (.bipush 10, 2) := dk_16 10 (dk_at dksX3_init_4 4 rfl rfl)
theorem dX3_init_101 : decode cX3_init 101 = .ok (.newarray .int, 2) := dk_188_10 (dk_at dksX3_init_4 6 rfl rfl)
theorem dX3_init_103 : decode cX3_init 103 = .ok (.putfield 47, 3) := dk_181 0 47 (dk_at dksX3_init_4 8 rfl rfl)
theorem dX3_init_106 : decode cX3_init 106 = .ok (.aload_n 0, 1) := dk_42 (dk_at dksX3_init_4 11 rfl rfl)
theorem dX3_init_107 : decode cX3_init 107 = .ok (.bipush 10, 2) := dk_16 10 (dk_at dksX3_init_4 12 rfl rfl)
theorem dX3_init_109 : decode cX3_init 109 = .ok (.newarray .int, 2) := dk_188_10 (dk_at dksX3_init_4 14 rfl rfl)
theorem dX3_init_111 : decode cX3_init 111 = .ok (.putfield 50, 3) := dk_181 0 50 (dk_at dksX3_init_4 16 rfl rfl)
theorem dX3_init_114 : decode cX3_init 114 = .ok (.aload_n 0, 1) := dk_42 (dk_at dksX3_init_4 19 rfl rfl)
theorem dX3_init_115 : decode cX3_init 115 = .ok (.bipush 10, 2) := dk_16 10 (dk_at dksX3_init_4 20 rfl rfl)
theorem dX3_init_117 : decode cX3_init 117 = .ok (.newarray .int, 2) := dk_188_10 (dk_at dksX3_init_4 22 rfl rfl)
theorem dX3_init_119 : decode cX3_init 119 = .ok (.putfield 53, 3) := dk_181 0 53 (dk_at dksX3_init_5 0 rfl rfl)
theorem dX3_init_122 : decode cX3_init 122 = .ok (.aload_n 0, 1) := dk_42 (dk_at dksX3_init_5 3 rfl rfl)
theorem dX3_init_123 : decode cX3_init 123 = .ok (.bipush 30, 2) := dk_16 30 (dk_at dksX3_init_5 4 rfl rfl)
theorem dX3_init_125 : decode cX3_init 125 = .ok (.newarray .int, 2) := dk_188_10 (dk_at dksX3_init_5 6 rfl rfl)
theorem dX3_init_127 : decode cX3_init 127 = .ok (.putfield 56, 3) := dk_181 0 56 (dk_at dksX3_init_5 8 rfl rfl)
theorem dX3_init_130 : decode cX3_init 130 = .ok (.aload_n 0, 1) := dk_42 (dk_at dksX3_init_5 11 rfl rfl)
theorem dX3_init_131 : decode cX3_init 131 = .ok (.bipush 8, 2) := dk_16 8 (dk_at dksX3_init_5 12 rfl rfl)
theorem dX3_init_133 : decode cX3_init 133 = .ok (.newarray .int, 2) := dk_188_10 (dk_at dksX3_init_5 14 rfl rfl)
theorem dX3_init_135 : decode cX3_init 135 = .ok (.putfield 59, 3) := dk_181 0 59 (dk_at dksX3_init_5 16 rfl rfl)
theorem dX3_init_138 : decode cX3_init 138 = .ok (.aload_n 0, 1) := dk_42 (dk_at dksX3_init_5 19 rfl rfl)
theorem dX3_init_139 : decode cX3_init 139 = .ok (.bipush 8, 2) := dk_16 8 (dk_at dksX3_init_5 20 rfl rfl)
theorem dX3_init_141 : decode cX3_init 141 = .ok (.newarray .int, 2) := dk_188_10 (dk_at dksX3_init_5 22 rfl rfl)
theorem dX3_init_143 : decode cX3_init 143 = .ok (.putfield 62, 3) := dk_181 0 62 (dk_at dksX3_init_6 0 rfl rfl)
theorem dX3_init_146 : decode cX3_init 146 = .ok (.aload_n 0, 1) := dk_42 (dk_at dksX3_init_6 3 rfl rfl)
theorem dX3_init_147 : decode cX3_init 147 = .ok (.bipush 8, 2) := dk_16 8 (dk_at dksX3_init_6 4 rfl rfl)
theorem dX3_init_149 : decode cX3_init 149 = .ok (.newarray .int, 2) := dk_188_10 (dk_at dksX3_init_6 6 rfl rfl)
theorem dX3_init_151 : decode cX3_init 151 = .ok (.putfield 65, 3) := dk_181 0 65 (dk_at dksX3_init_6 8 rfl rfl)
theorem dX3_init_154 : decode cX3_init 154 = .ok (.aload_n 0, 1) := dk_42 (dk_at dksX3_init_6 11 rfl rfl)
theorem dX3_init_155 : decode cX3_init 155 = .ok (.bipush 8, 2) := dk_16 8 (dk_at dksX3_init_6 12 rfl rfl)
theorem dX3_init_157 : decode cX3_init 157 = .ok (.newarray .int, 2) := dk_188_10 (dk_at dksX3_init_6 14 rfl rfl)
theorem dX3_init_159 : decode cX3_init 159 = .ok (.putfield 68, 3) := dk_181 0 68 (dk_at dksX3_init_6 16 rfl rfl)
theorem dX3_init_162 : decode cX3_init 162 = .ok (.aload_n 0, 1) := dk_42 (dk_at dksX3_init_6 19 rfl rfl)
theorem dX3_init_163 : decode cX3_init 163 = .ok (.bipush 20, 2) := dk_16 20 (dk_at dksX3_init_6 20 rfl rfl)
theorem dX3_init_165 : decode cX3_init 165 = .ok (.newarray .int, 2) := dk_188_10 (dk_at dksX3_init_6 22 rfl rfl)
theorem dX3_init_167 : decode cX3_init 167 = .ok (.putfield 71, 3) := dk_181 0 71 (dk_at dksX3_init_7 0 rfl rfl)
theorem dX3_init_170 : decode cX3_init 170 = .ok (.aload_n 0, 1) := dk_42 (dk_at dksX3_init_7 3 rfl rfl)
theorem dX3_init_171 : decode cX3_init 171 = .ok (.bipush 20, 2) := dk_16 20 (dk_at dksX3_init_7 4 rfl rfl)
theorem dX3_init_173 : decode cX3_init 173 = .ok (.newarray .int, 2) := dk_188_10 (dk_at dksX3_init_7 6 rfl rfl)
theorem dX3_init_175 : decode cX3_init 175 = .ok (.putfield 74, 3) := dk_181 0 74 (dk_at dksX3_init_7 8 rfl rfl)
theorem dX3_init_178 : decode cX3_init 178 = .ok (.aload_n 0, 1) := dk_42 (dk_at dksX3_init_7 11 rfl rfl)
theorem dX3_init_179 : decode cX3_init 179 = .ok (.bipush 20, 2) := dk_16 20 (dk_at dksX3_init_7 12 rfl rfl)
theorem dX3_init_181 : decode cX3_init 181 = .ok (.newarray .boolean, 2) := dk_188_4 (dk_at dksX3_init_7 14 rfl rfl)
theorem dX3_init_183 : decode cX3_init 183 = .ok (.putfield 77, 3) := dk_181 0 77 (dk_at dksX3_init_7 16 rfl rfl)
theorem dX3_init_186 : decode cX3_init 186 = .ok (.aload_n 0, 1) := dk_42 (dk_at dksX3_init_7 19 rfl rfl)
theorem dX3_init_187 : decode cX3_init 187 = .ok (.bipush 40, 2) := dk_16 40 (dk_at dksX3_init_7 20 rfl rfl)
theorem dX3_init_189 : decode cX3_init 189 = .ok (.newarray .int, 2) := dk_188_10 (dk_at dksX3_init_7 22 rfl rfl)
theorem dX3_init_191 : decode cX3_init 191 = .ok (.putfield 81, 3) := dk_181 0 81 (dk_at dksX3_init_8 0 rfl rfl)
theorem dX3_init_194 : decode cX3_init 194 = .ok (.aload_n 0, 1) := dk_42 (dk_at dksX3_init_8 3 rfl rfl)
theorem dX3_init_195 : decode cX3_init 195 = .ok (.bipush 40, 2) := dk_16 40 (dk_at dksX3_init_8 4 rfl rfl)
theorem dX3_init_197 : decode cX3_init 197 = .ok (.newarray .int, 2) := dk_188_10 (dk_at dksX3_init_8 6 rfl rfl)
theorem dX3_init_199 : decode cX3_init 199 = .ok (.putfield 84, 3) := dk_181 0 84 (dk_at dksX3_init_8 8 rfl rfl)
theorem dX3_init_202 : decode cX3_init 202 = .ok (.aload_n 0, 1) := dk_42 (dk_at dksX3_init_8 11 rfl rfl)
theorem dX3_init_203 : decode cX3_init 203 = .ok (.bipush 8, 2) := dk_16 8 (dk_at dksX3_init_8 12 rfl rfl)
theorem dX3_init_205 : decode cX3_init 205 = .ok (.newarray .int, 2) := dk_188_10 (dk_at dksX3_init_8 14 rfl rfl)
theorem dX3_init_207 : decode cX3_init 207 = .ok (.putfield 87, 3) := dk_181 0 87 (dk_at dksX3_init_8 16 rfl rfl)
theorem dX3_init_210 : decode cX3_init 210 = .ok (.aload_n 0, 1) := dk_42 (dk_at dksX3_init_8 19 rfl rfl)
theorem dX3_init_211 : decode cX3_init 211 = .ok (.sipush 140, 3) := dk_17 0 140 (dk_at dksX3_init_8 20 rfl rfl)
theorem dX3_init_214 : decode cX3_init 214 = .ok (.newarray .int, 2) := dk_188_10 (dk_at dksX3_init_9 0 rfl rfl)
theorem dX3_init_216 : decode cX3_init 216 = .ok (.putfield 90, 3) := dk_181 0 90 (dk_at dksX3_init_9 2 rfl rfl)
theorem dX3_init_219 : decode cX3_init 219 = .ok (.aload_n 0, 1) := dk_42 (dk_at dksX3_init_9 5 rfl rfl)
theorem dX3_init_220 : decode cX3_init 220 = .ok (.iconst 2, 1) := dk_5 (dk_at dksX3_init_9 6 rfl rfl)
theorem dX3_init_221 : decode cX3_init 221 = .ok (.newarray .boolean, 2) := dk_188_4 (dk_at dksX3_init_9 7 rfl rfl)
theorem dX3_init_223 : decode cX3_init 223 = .ok (.putfield 93, 3) := dk_181 0 93 (dk_at dksX3_init_9 9 rfl rfl)
theorem dX3_init_226 : decode cX3_init 226 = .ok (.aload_n 0, 1) := dk_42 (dk_at dksX3_init_9 12 rfl rfl)
theorem dX3_init_227 : decode cX3_init 227 = .ok (.iconst 0, 1) := dk_3 (dk_at dksX3_init_9 13 rfl rfl)
theorem dX3_init_228 : decode cX3_init 228 = .ok (.putfield 96, 3) := dk_181 0 96 (dk_at dksX3_init_9 14 rfl rfl)
theorem dX3_init_231 : decode cX3_init 231 = .ok (.return_, 1) := dk_177 (dk_at dksX3_init_9 17 rfl rfl)
abbrev cX3_feed : ByteArray := prog_10_method_9_code
def yX3_feed : MethodName := ⟨RX3, "feed", "(IJ)I"⟩
def dkwX3_feed_3 : List UInt8 := [132, 4, 255, 167, 255, 217, 42, 180, 0, 112, 172]
abbrev dktX3_feed_3 : List UInt8 := dkwX3_feed_3 ++ []
def dkwX3_feed_2 : List UInt8 := [32, 16, 8, 21, 4, 104, 123, 20, 0, 116, 127, 136, 79, 42, 89, 180, 0, 112, 4, 96, 181, 0, 112]
abbrev dktX3_feed_2 : List UInt8 := dkwX3_feed_2 ++ dktX3_feed_3
def dkwX3_feed_1 : List UInt8 := [164, 0, 6, 18, 115, 172, 27, 4, 100, 54, 4, 21, 4, 155, 0, 40, 42, 180, 0, 37, 42, 180, 0, 112]
abbrev dktX3_feed_1 : List UInt8 := dkwX3_feed_1 ++ dktX3_feed_2
def dkwX3_feed_0 : List UInt8 := [27, 133, 10, 20, 0, 109, 184, 0, 99, 154, 0, 6, 18, 111, 172, 42, 180, 0, 112, 27, 96, 17, 1, 244]
abbrev dktX3_feed_0 : List UInt8 := dkwX3_feed_0 ++ dktX3_feed_1
theorem dksX3_feed_0 : cX3_feed.data.toList.drop 0 = dktX3_feed_0 := by decide +kernel
theorem dksX3_feed_1 : cX3_feed.data.toList.drop 24 = dktX3_feed_1 := dk_seg dksX3_feed_0 24 rfl rfl
theorem dksX3_feed_2 : cX3_feed.data.toList.drop 48 = dktX3_feed_2 := dk_seg dksX3_feed_1 24 rfl rfl
theorem dksX3_feed_3 : cX3_feed.data.toList.drop 71 = dktX3_feed_3 := dk_seg dksX3_feed_2 23 rfl rfl
theorem dX3_feed_0 : decode cX3_feed 0 = .ok (.iload_n 1, 1) := dk_27 (dk_at dksX3_feed_0 0 rfl rfl)
theorem dX3_feed_1 : decode cX3_feed 1 = .ok (.i2l, 1) := dk_133 (dk_at dksX3_feed_0 1 rfl rfl)
theorem dX3_feed_2 : decode cX3_feed 2 = .ok (.lconst 1, 1) := dk_10 (dk_at dksX3_feed_0 2 rfl rfl)
theorem dX3_feed_3 : decode cX3_feed 3 = .ok (.ldc2_w 109, 3) := dk_20 0 109 (dk_at dksX3_feed_0 3 rfl rfl)
theorem dX3_feed_6 : decode cX3_feed 6 = .ok (.invokestatic 99, 3) := dk_184 0 99 (dk_at dksX3_feed_0 6 rfl rfl)
theorem dX3_feed_9 : decode cX3_feed 9 = .ok (.ifCond .ne 6, 3) := dk_154 0 6 (dk_at dksX3_feed_0 9 rfl rfl)
theorem dX3_feed_12 : decode cX3_feed 12 = .ok (.ldc 111, 2) := dk_18 111 (dk_at dksX3_feed_0 12 rfl rfl)
theorem dX3_feed_14 : decode cX3_feed 14 = .ok (.ireturn, 1) := dk_172 (dk_at dksX3_feed_0 14 rfl rfl)
theorem dX3_feed_15 : decode cX3_feed 15 = .ok (.aload_n 0, 1) := dk_42 (dk_at dksX3_feed_0 15 rfl rfl)
theorem dX3_feed_16 : decode cX3_feed 16 = .ok (.getfield 112, 3) := dk_180 0 112 (dk_at dksX3_feed_0 16 rfl rfl)
theorem dX3_feed_19 : decode cX3_feed 19 = .ok (.iload_n 1, 1) := dk_27 (dk_at dksX3_feed_0 19 rfl rfl)
theorem dX3_feed_20 : decode cX3_feed 20 = .ok (.iadd, 1) := dk_96 (dk_at dksX3_feed_0 20 rfl rfl)
theorem dX3_feed_21 : decode cX3_feed 21 = .ok (.sipush 500, 3) := dk_17 1 244 (dk_at dksX3_feed_0 21 rfl rfl)
theorem dX3_feed_24 : decode cX3_feed 24 = .ok (.if_icmp .le 6, 3) := dk_164 0 6 (dk_at dksX3_feed_1 0 rfl rfl)
theorem dX3_feed_27 : decode cX3_feed 27 = .ok (.ldc 115, 2) := dk_18 115 (dk_at dksX3_feed_1 3 rfl rfl)
theorem dX3_feed_29 : decode cX3_feed 29 = .ok (.ireturn, 1) := dk_172 (dk_at dksX3_feed_1 5 rfl rfl)
theorem dX3_feed_30 : decode cX3_feed 30 = .ok (.iload_n 1, 1) := dk_27 (dk_at dksX3_feed_1 6 rfl rfl)
theorem dX3_feed_31 : decode cX3_feed 31 = .ok (.iconst 1, 1) := dk_4 (dk_at dksX3_feed_1 7 rfl rfl)
theorem dX3_feed_32 : decode cX3_feed 32 = .ok (.isub, 1) := dk_100 (dk_at dksX3_feed_1 8 rfl rfl)
theorem dX3_feed_33 : decode cX3_feed 33 = .ok (.istore 4, 2) := dk_54 4 (dk_at dksX3_feed_1 9 rfl rfl)
theorem dX3_feed_35 : decode cX3_feed 35 = .ok (.iload 4, 2) := dk_21 4 (dk_at dksX3_feed_1 11 rfl rfl)
theorem dX3_feed_37 : decode cX3_feed 37 = .ok (.ifCond .lt 40, 3) := dk_155 0 40 (dk_at dksX3_feed_1 13 rfl rfl)
theorem dX3_feed_40 : decode cX3_feed 40 = .ok (.aload_n 0, 1) := dk_42 (dk_at dksX3_feed_1 16 rfl rfl)
theorem dX3_feed_41 : decode cX3_feed 41 = .ok (.getfield 37, 3) := dk_180 0 37 (dk_at dksX3_feed_1 17 rfl rfl)
theorem dX3_feed_44 : decode cX3_feed 44 = .ok (.aload_n 0, 1) := dk_42 (dk_at dksX3_feed_1 20 rfl rfl)
theorem dX3_feed_45 : decode cX3_feed 45 = .ok (.getfield 112, 3) := dk_180 0 112 (dk_at dksX3_feed_1 21 rfl rfl)
theorem dX3_feed_48 : decode cX3_feed 48 = .ok (.lload_n 2, 1) := dk_32 (dk_at dksX3_feed_2 0 rfl rfl)
theorem dX3_feed_49 : decode cX3_feed 49 = .ok (.bipush 8, 2) := dk_16 8 (dk_at dksX3_feed_2 1 rfl rfl)
theorem dX3_feed_51 : decode cX3_feed 51 = .ok (.iload 4, 2) := dk_21 4 (dk_at dksX3_feed_2 3 rfl rfl)
theorem dX3_feed_53 : decode cX3_feed 53 = .ok (.imul, 1) := dk_104 (dk_at dksX3_feed_2 5 rfl rfl)
theorem dX3_feed_54 : decode cX3_feed 54 = .ok (.lshr, 1) := dk_123 (dk_at dksX3_feed_2 6 rfl rfl)
theorem dX3_feed_55 : decode cX3_feed 55 = .ok (.ldc2_w 116, 3) := dk_20 0 116 (dk_at dksX3_feed_2 7 rfl rfl)
theorem dX3_feed_58 : decode cX3_feed 58 = .ok (.land, 1) := dk_127 (dk_at dksX3_feed_2 10 rfl rfl)
theorem dX3_feed_59 : decode cX3_feed 59 = .ok (.l2i, 1) := dk_136 (dk_at dksX3_feed_2 11 rfl rfl)
theorem dX3_feed_60 : decode cX3_feed 60 = .ok (.iastore, 1) := dk_79 (dk_at dksX3_feed_2 12 rfl rfl)
theorem dX3_feed_61 : decode cX3_feed 61 = .ok (.aload_n 0, 1) := dk_42 (dk_at dksX3_feed_2 13 rfl rfl)
theorem dX3_feed_62 : decode cX3_feed 62 = .ok (.dup, 1) := dk_89 (dk_at dksX3_feed_2 14 rfl rfl)
theorem dX3_feed_63 : decode cX3_feed 63 = .ok (.getfield 112, 3) := dk_180 0 112 (dk_at dksX3_feed_2 15 rfl rfl)
theorem dX3_feed_66 : decode cX3_feed 66 = .ok (.iconst 1, 1) := dk_4 (dk_at dksX3_feed_2 18 rfl rfl)
theorem dX3_feed_67 : decode cX3_feed 67 = .ok (.iadd, 1) := dk_96 (dk_at dksX3_feed_2 19 rfl rfl)
theorem dX3_feed_68 : decode cX3_feed 68 = .ok (.putfield 112, 3) := dk_181 0 112 (dk_at dksX3_feed_2 20 rfl rfl)
theorem dX3_feed_71 : decode cX3_feed 71 = .ok (.iinc 4 (-1), 3) := dk_132 4 255 (dk_at dksX3_feed_3 0 rfl rfl)
theorem dX3_feed_74 : decode cX3_feed 74 = .ok (.goto (-39), 3) := dk_167 255 217 (dk_at dksX3_feed_3 3 rfl rfl)
theorem dX3_feed_77 : decode cX3_feed 77 = .ok (.aload_n 0, 1) := dk_42 (dk_at dksX3_feed_3 6 rfl rfl)
theorem dX3_feed_78 : decode cX3_feed 78 = .ok (.getfield 112, 3) := dk_180 0 112 (dk_at dksX3_feed_3 7 rfl rfl)
theorem dX3_feed_81 : decode cX3_feed 81 = .ok (.ireturn, 1) := dk_172 (dk_at dksX3_feed_3 10 rfl rfl)
abbrev cX3_in : ByteArray := prog_10_method_3_code
def yX3_in : MethodName := ⟨RX3, "in", "(JJJ)Z"⟩
def dkwX3_in_0 : List UInt8 := [30, 32, 148, 155, 0, 14, 30, 22, 4, 148, 157, 0, 7, 4, 167, 0, 4, 3, 172]
abbrev dktX3_in_0 : List UInt8 := dkwX3_in_0 ++ []
theorem dksX3_in_0 : cX3_in.data.toList.drop 0 = dktX3_in_0 := by decide +kernel
theorem dX3_in_0 : decode cX3_in 0 = .ok (.lload_n 0, 1) := dk_30 (dk_at dksX3_in_0 0 rfl rfl)
theorem dX3_in_1 : decode cX3_in 1 = .ok (.lload_n 2, 1) := dk_32 (dk_at dksX3_in_0 1 rfl rfl)
theorem dX3_in_2 : decode cX3_in 2 = .ok (.lcmp, 1) := dk_148 (dk_at dksX3_in_0 2 rfl rfl)
theorem dX3_in_3 : decode cX3_in 3 = .ok (.ifCond .lt 14, 3) := dk_155 0 14 (dk_at dksX3_in_0 3 rfl rfl)
theorem dX3_in_6 : decode cX3_in 6 = .ok (.lload_n 0, 1) := dk_30 (dk_at dksX3_in_0 6 rfl rfl)
theorem dX3_in_7 : decode cX3_in 7 = .ok (.lload 4, 2) := dk_22 4 (dk_at dksX3_in_0 7 rfl rfl)
theorem dX3_in_9 : decode cX3_in 9 = .ok (.lcmp, 1) := dk_148 (dk_at dksX3_in_0 9 rfl rfl)
theorem dX3_in_10 : decode cX3_in 10 = .ok (.ifCond .gt 7, 3) := dk_157 0 7 (dk_at dksX3_in_0 10 rfl rfl)
theorem dX3_in_13 : decode cX3_in 13 = .ok (.iconst 1, 1) := dk_4 (dk_at dksX3_in_0 13 rfl rfl)
theorem dX3_in_14 : decode cX3_in 14 = .ok (.goto 4, 3) := dk_167 0 4 (dk_at dksX3_in_0 14 rfl rfl)
theorem dX3_in_17 : decode cX3_in 17 = .ok (.iconst 0, 1) := dk_3 (dk_at dksX3_in_0 17 rfl rfl)
theorem dX3_in_18 : decode cX3_in 18 = .ok (.ireturn, 1) := dk_172 (dk_at dksX3_in_0 18 rfl rfl)
abbrev cX3_town : ByteArray := prog_10_method_21_code
def yX3_town : MethodName := ⟨RX3, "town", "()I"⟩
def dkwX3_town_10 : List UInt8 := [181, 0, 201, 42, 180, 0, 93, 3, 3, 84, 42, 180, 0, 93, 4, 3, 84, 42, 180, 0, 96, 172]
abbrev dktX3_town_10 : List UInt8 := dkwX3_town_10 ++ []
def dkwX3_town_9 : List UInt8 := [180, 0, 34, 28, 42, 180, 0, 65, 28, 46, 79, 132, 2, 1, 167, 255, 211, 42, 3, 181, 0, 198, 42, 3]
abbrev dktX3_town_9 : List UInt8 := dkwX3_town_9 ++ dktX3_town_10
def dkwX3_town_8 : List UInt8 := [180, 0, 28, 28, 42, 180, 0, 59, 28, 46, 79, 42, 180, 0, 31, 28, 42, 180, 0, 62, 28, 46, 79, 42]
abbrev dktX3_town_8 : List UInt8 := dkwX3_town_8 ++ dktX3_town_9
def dkwX3_town_7 : List UInt8 := [28, 42, 180, 0, 56, 28, 46, 79, 132, 2, 1, 167, 255, 235, 3, 61, 28, 16, 8, 162, 0, 45, 42]
abbrev dktX3_town_7 : List UInt8 := dkwX3_town_7 ++ dktX3_town_8
def dkwX3_town_6 : List UInt8 := [180, 0, 25, 28, 3, 79, 132, 2, 1, 167, 255, 192, 3, 61, 28, 16, 30, 162, 0, 21, 42, 180, 0, 22]
abbrev dktX3_town_6 : List UInt8 := dkwX3_town_6 ++ dktX3_town_7
def dkwX3_town_5 : List UInt8 := [180, 0, 16, 28, 42, 180, 0, 50, 28, 46, 79, 42, 180, 0, 19, 28, 42, 180, 0, 53, 28, 46, 79, 42]
abbrev dktX3_town_5 : List UInt8 := dkwX3_town_5 ++ dktX3_town_6
def dkwX3_town_4 : List UInt8 := [180, 0, 7, 28, 42, 180, 0, 44, 28, 46, 79, 42, 180, 0, 13, 28, 42, 180, 0, 47, 28, 46, 79, 42]
abbrev dktX3_town_4 : List UInt8 := dkwX3_town_4 ++ dktX3_town_5
def dkwX3_town_3 : List UInt8 := [180, 0, 165, 181, 0, 103, 42, 42, 180, 0, 186, 181, 0, 106, 3, 61, 28, 16, 10, 162, 0, 64, 42]
abbrev dktX3_town_3 : List UInt8 := dkwX3_town_3 ++ dktX3_town_4
def dkwX3_town_2 : List UInt8 := [42, 3, 181, 0, 112, 27, 158, 0, 8, 16, 246, 27, 100, 172, 42, 42, 180, 0, 179, 181, 0, 96, 42, 42]
abbrev dktX3_town_2 : List UInt8 := dkwX3_town_2 ++ dktX3_town_3
def dkwX3_town_1 : List UInt8 := [181, 0, 186, 3, 60, 27, 154, 0, 18, 42, 182, 0, 121, 155, 0, 11, 42, 182, 0, 195, 60, 167, 255, 240]
abbrev dktX3_town_1 : List UInt8 := dkwX3_town_1 ++ dktX3_town_2
def dkwX3_town_0 : List UInt8 := [42, 2, 181, 0, 40, 42, 3, 181, 0, 118, 42, 3, 181, 0, 179, 42, 3, 181, 0, 165, 42, 3]
abbrev dktX3_town_0 : List UInt8 := dkwX3_town_0 ++ dktX3_town_1
theorem dksX3_town_0 : cX3_town.data.toList.drop 0 = dktX3_town_0 := by decide +kernel
theorem dksX3_town_1 : cX3_town.data.toList.drop 22 = dktX3_town_1 := dk_seg dksX3_town_0 22 rfl rfl
theorem dksX3_town_2 : cX3_town.data.toList.drop 46 = dktX3_town_2 := dk_seg dksX3_town_1 24 rfl rfl
theorem dksX3_town_3 : cX3_town.data.toList.drop 70 = dktX3_town_3 := dk_seg dksX3_town_2 24 rfl rfl
theorem dksX3_town_4 : cX3_town.data.toList.drop 93 = dktX3_town_4 := dk_seg dksX3_town_3 23 rfl rfl
theorem dksX3_town_5 : cX3_town.data.toList.drop 117 = dktX3_town_5 := dk_seg dksX3_town_4 24 rfl rfl
theorem dksX3_town_6 : cX3_town.data.toList.drop 141 = dktX3_town_6 := dk_seg dksX3_town_5 24 rfl rfl
theorem dksX3_town_7 : cX3_town.data.toList.drop 165 = dktX3_town_7 := dk_seg dksX3_town_6 24 rfl rfl
theorem dksX3_town_8 : cX3_town.data.toList.drop 188 = dktX3_town_8 := dk_seg dksX3_town_7 23 rfl rfl
theorem dksX3_town_9 : cX3_town.data.toList.drop 212 = dktX3_town_9 := dk_seg dksX3_town_8 24 rfl rfl
theorem dksX3_town_10 : cX3_town.data.toList.drop 236 = dktX3_town_10 := dk_seg dksX3_town_9 24 rfl rfl
theorem dX3_town_0 : decode cX3_town 0 = .ok (.aload_n 0, 1) := dk_42 (dk_at dksX3_town_0 0 rfl rfl)
theorem dX3_town_1 : decode cX3_town 1 = .ok (.iconst (-1), 1) := dk_2 (dk_at dksX3_town_0 1 rfl rfl)
theorem dX3_town_2 : decode cX3_town 2 = .ok (.putfield 40, 3) := dk_181 0 40 (dk_at dksX3_town_0 2 rfl rfl)
theorem dX3_town_5 : decode cX3_town 5 = .ok (.aload_n 0, 1) := dk_42 (dk_at dksX3_town_0 5 rfl rfl)
theorem dX3_town_6 : decode cX3_town 6 = .ok (.iconst 0, 1) := dk_3 (dk_at dksX3_town_0 6 rfl rfl)
theorem dX3_town_7 : decode cX3_town 7 = .ok (.putfield 118, 3) := dk_181 0 118 (dk_at dksX3_town_0 7 rfl rfl)
theorem dX3_town_10 : decode cX3_town 10 = .ok (.aload_n 0, 1) := dk_42 (dk_at dksX3_town_0 10 rfl rfl)
theorem dX3_town_11 : decode cX3_town 11 = .ok (.iconst 0, 1) := dk_3 (dk_at dksX3_town_0 11 rfl rfl)
theorem dX3_town_12 : decode cX3_town 12 = .ok (.putfield 179, 3) := dk_181 0 179 (dk_at dksX3_town_0 12 rfl rfl)
theorem dX3_town_15 : decode cX3_town 15 = .ok (.aload_n 0, 1) := dk_42 (dk_at dksX3_town_0 15 rfl rfl)
theorem dX3_town_16 : decode cX3_town 16 = .ok (.iconst 0, 1) := dk_3 (dk_at dksX3_town_0 16 rfl rfl)
theorem dX3_town_17 : decode cX3_town 17 = .ok (.putfield 165, 3) := dk_181 0 165 (dk_at dksX3_town_0 17 rfl rfl)
theorem dX3_town_20 : decode cX3_town 20 = .ok (.aload_n 0, 1) := dk_42 (dk_at dksX3_town_0 20 rfl rfl)
theorem dX3_town_21 : decode cX3_town 21 = .ok (.iconst 0, 1) := dk_3 (dk_at dksX3_town_0 21 rfl rfl)
theorem dX3_town_22 : decode cX3_town 22 = .ok (.putfield 186, 3) := dk_181 0 186 (dk_at dksX3_town_1 0 rfl rfl)
theorem dX3_town_25 : decode cX3_town 25 = .ok (.iconst 0, 1) := dk_3 (dk_at dksX3_town_1 3 rfl rfl)
theorem dX3_town_26 : decode cX3_town 26 = .ok (.istore_n 1, 1) := dk_60 (dk_at dksX3_town_1 4 rfl rfl)
theorem dX3_town_27 : decode cX3_town 27 = .ok (.iload_n 1, 1) := dk_27 (dk_at dksX3_town_1 5 rfl rfl)
theorem dX3_town_28 : decode cX3_town 28 = .ok (.ifCond .ne 18, 3) := dk_154 0 18 (dk_at dksX3_town_1 6 rfl rfl)
theorem dX3_town_31 : decode cX3_town 31 = .ok (.aload_n 0, 1) := dk_42 (dk_at dksX3_town_1 9 rfl rfl)
theorem dX3_town_32 : decode cX3_town 32 = .ok (.invokevirtual 121, 3) := dk_182 0 121 (dk_at dksX3_town_1 10 rfl rfl)
theorem dX3_town_35 : decode cX3_town 35 = .ok (.ifCond .lt 11, 3) := dk_155 0 11 (dk_at dksX3_town_1 13 rfl rfl)
theorem dX3_town_38 : decode cX3_town 38 = .ok (.aload_n 0, 1) := dk_42 (dk_at dksX3_town_1 16 rfl rfl)
theorem dX3_town_39 : decode cX3_town 39 = .ok (.invokevirtual 195, 3) := dk_182 0 195 (dk_at dksX3_town_1 17 rfl rfl)
theorem dX3_town_42 : decode cX3_town 42 = .ok (.istore_n 1, 1) := dk_60 (dk_at dksX3_town_1 20 rfl rfl)
theorem dX3_town_43 : decode cX3_town 43 = .ok (.goto (-16), 3) := dk_167 255 240 (dk_at dksX3_town_1 21 rfl rfl)
theorem dX3_town_46 : decode cX3_town 46 = .ok (.aload_n 0, 1) := dk_42 (dk_at dksX3_town_2 0 rfl rfl)
theorem dX3_town_47 : decode cX3_town 47 = .ok (.iconst 0, 1) := dk_3 (dk_at dksX3_town_2 1 rfl rfl)
theorem dX3_town_48 : decode cX3_town 48 = .ok (.putfield 112, 3) := dk_181 0 112 (dk_at dksX3_town_2 2 rfl rfl)
theorem dX3_town_51 : decode cX3_town 51 = .ok (.iload_n 1, 1) := dk_27 (dk_at dksX3_town_2 5 rfl rfl)
theorem dX3_town_52 : decode cX3_town 52 = .ok (.ifCond .le 8, 3) := dk_158 0 8 (dk_at dksX3_town_2 6 rfl rfl)
theorem dX3_town_55 : decode cX3_town 55 = .ok (.bipush (-10), 2) := dk_16 246 (dk_at dksX3_town_2 9 rfl rfl)
theorem dX3_town_57 : decode cX3_town 57 = .ok (.iload_n 1, 1) := dk_27 (dk_at dksX3_town_2 11 rfl rfl)
theorem dX3_town_58 : decode cX3_town 58 = .ok (.isub, 1) := dk_100 (dk_at dksX3_town_2 12 rfl rfl)
theorem dX3_town_59 : decode cX3_town 59 = .ok (.ireturn, 1) := dk_172 (dk_at dksX3_town_2 13 rfl rfl)
theorem dX3_town_60 : decode cX3_town 60 = .ok (.aload_n 0, 1) := dk_42 (dk_at dksX3_town_2 14 rfl rfl)
theorem dX3_town_61 : decode cX3_town 61 = .ok (.aload_n 0, 1) := dk_42 (dk_at dksX3_town_2 15 rfl rfl)
theorem dX3_town_62 : decode cX3_town 62 = .ok (.getfield 179, 3) := dk_180 0 179 (dk_at dksX3_town_2 16 rfl rfl)
theorem dX3_town_65 : decode cX3_town 65 = .ok (.putfield 96, 3) := dk_181 0 96 (dk_at dksX3_town_2 19 rfl rfl)
theorem dX3_town_68 : decode cX3_town 68 = .ok (.aload_n 0, 1) := dk_42 (dk_at dksX3_town_2 22 rfl rfl)
theorem dX3_town_69 : decode cX3_town 69 = .ok (.aload_n 0, 1) := dk_42 (dk_at dksX3_town_2 23 rfl rfl)
theorem dX3_town_70 : decode cX3_town 70 = .ok (.getfield 165, 3) := dk_180 0 165 (dk_at dksX3_town_3 0 rfl rfl)
theorem dX3_town_73 : decode cX3_town 73 = .ok (.putfield 103, 3) := dk_181 0 103 (dk_at dksX3_town_3 3 rfl rfl)
theorem dX3_town_76 : decode cX3_town 76 = .ok (.aload_n 0, 1) := dk_42 (dk_at dksX3_town_3 6 rfl rfl)
theorem dX3_town_77 : decode cX3_town 77 = .ok (.aload_n 0, 1) := dk_42 (dk_at dksX3_town_3 7 rfl rfl)
theorem dX3_town_78 : decode cX3_town 78 = .ok (.getfield 186, 3) := dk_180 0 186 (dk_at dksX3_town_3 8 rfl rfl)
theorem dX3_town_81 : decode cX3_town 81 = .ok (.putfield 106, 3) := dk_181 0 106 (dk_at dksX3_town_3 11 rfl rfl)
theorem dX3_town_84 : decode cX3_town 84 = .ok (.iconst 0, 1) := dk_3 (dk_at dksX3_town_3 14 rfl rfl)
theorem dX3_town_85 : decode cX3_town 85 = .ok (.istore_n 2, 1) := dk_61 (dk_at dksX3_town_3 15 rfl rfl)
theorem dX3_town_86 : decode cX3_town 86 = .ok (.iload_n 2, 1) := dk_28 (dk_at dksX3_town_3 16 rfl rfl)
theorem dX3_town_87 : decode cX3_town 87 = .ok (.bipush 10, 2) := dk_16 10 (dk_at dksX3_town_3 17 rfl rfl)
theorem dX3_town_89 : decode cX3_town 89 = .ok (.if_icmp .ge 64, 3) := dk_162 0 64 (dk_at dksX3_town_3 19 rfl rfl)
theorem dX3_town_92 : decode cX3_town 92 = .ok (.aload_n 0, 1) := dk_42 (dk_at dksX3_town_3 22 rfl rfl)
theorem dX3_town_93 : decode cX3_town 93 = .ok (.getfield 7, 3) := dk_180 0 7 (dk_at dksX3_town_4 0 rfl rfl)
theorem dX3_town_96 : decode cX3_town 96 = .ok (.iload_n 2, 1) := dk_28 (dk_at dksX3_town_4 3 rfl rfl)
theorem dX3_town_97 : decode cX3_town 97 = .ok (.aload_n 0, 1) := dk_42 (dk_at dksX3_town_4 4 rfl rfl)
theorem dX3_town_98 : decode cX3_town 98 = .ok (.getfield 44, 3) := dk_180 0 44 (dk_at dksX3_town_4 5 rfl rfl)
theorem dX3_town_101 : decode cX3_town 101 = .ok (.iload_n 2, 1) := dk_28 (dk_at dksX3_town_4 8 rfl rfl)
theorem dX3_town_102 : decode cX3_town 102 = .ok (.iaload, 1) := dk_46 (dk_at dksX3_town_4 9 rfl rfl)
theorem dX3_town_103 : decode cX3_town 103 = .ok (.iastore, 1) := dk_79 (dk_at dksX3_town_4 10 rfl rfl)
theorem dX3_town_104 : decode cX3_town 104 = .ok (.aload_n 0, 1) := dk_42 (dk_at dksX3_town_4 11 rfl rfl)
theorem dX3_town_105 : decode cX3_town 105 = .ok (.getfield 13, 3) := dk_180 0 13 (dk_at dksX3_town_4 12 rfl rfl)
theorem dX3_town_108 : decode cX3_town 108 = .ok (.iload_n 2, 1) := dk_28 (dk_at dksX3_town_4 15 rfl rfl)
theorem dX3_town_109 : decode cX3_town 109 = .ok (.aload_n 0, 1) := dk_42 (dk_at dksX3_town_4 16 rfl rfl)
theorem dX3_town_110 : decode cX3_town 110 = .ok (.getfield 47, 3) := dk_180 0 47 (dk_at dksX3_town_4 17 rfl rfl)
theorem dX3_town_113 : decode cX3_town 113 = .ok (.iload_n 2, 1) := dk_28 (dk_at dksX3_town_4 20 rfl rfl)
theorem dX3_town_114 : decode cX3_town 114 = .ok (.iaload, 1) := dk_46 (dk_at dksX3_town_4 21 rfl rfl)
theorem dX3_town_115 : decode cX3_town 115 = .ok (.iastore, 1) := dk_79 (dk_at dksX3_town_4 22 rfl rfl)
theorem dX3_town_116 : decode cX3_town 116 = .ok (.aload_n 0, 1) := dk_42 (dk_at dksX3_town_4 23 rfl rfl)
theorem dX3_town_117 : decode cX3_town 117 = .ok (.getfield 16, 3) := dk_180 0 16 (dk_at dksX3_town_5 0 rfl rfl)
theorem dX3_town_120 : decode cX3_town 120 = .ok (.iload_n 2, 1) := dk_28 (dk_at dksX3_town_5 3 rfl rfl)
theorem dX3_town_121 : decode cX3_town 121 = .ok (.aload_n 0, 1) := dk_42 (dk_at dksX3_town_5 4 rfl rfl)
theorem dX3_town_122 : decode cX3_town 122 = .ok (.getfield 50, 3) := dk_180 0 50 (dk_at dksX3_town_5 5 rfl rfl)
theorem dX3_town_125 : decode cX3_town 125 = .ok (.iload_n 2, 1) := dk_28 (dk_at dksX3_town_5 8 rfl rfl)
theorem dX3_town_126 : decode cX3_town 126 = .ok (.iaload, 1) := dk_46 (dk_at dksX3_town_5 9 rfl rfl)
theorem dX3_town_127 : decode cX3_town 127 = .ok (.iastore, 1) := dk_79 (dk_at dksX3_town_5 10 rfl rfl)
theorem dX3_town_128 : decode cX3_town 128 = .ok (.aload_n 0, 1) := dk_42 (dk_at dksX3_town_5 11 rfl rfl)
theorem dX3_town_129 : decode cX3_town 129 = .ok (.getfield 19, 3) := dk_180 0 19 (dk_at dksX3_town_5 12 rfl rfl)
theorem dX3_town_132 : decode cX3_town 132 = .ok (.iload_n 2, 1) := dk_28 (dk_at dksX3_town_5 15 rfl rfl)
theorem dX3_town_133 : decode cX3_town 133 = .ok (.aload_n 0, 1) := dk_42 (dk_at dksX3_town_5 16 rfl rfl)
theorem dX3_town_134 : decode cX3_town 134 = .ok (.getfield 53, 3) := dk_180 0 53 (dk_at dksX3_town_5 17 rfl rfl)
theorem dX3_town_137 : decode cX3_town 137 = .ok (.iload_n 2, 1) := dk_28 (dk_at dksX3_town_5 20 rfl rfl)
theorem dX3_town_138 : decode cX3_town 138 = .ok (.iaload, 1) := dk_46 (dk_at dksX3_town_5 21 rfl rfl)
theorem dX3_town_139 : decode cX3_town 139 = .ok (.iastore, 1) := dk_79 (dk_at dksX3_town_5 22 rfl rfl)
theorem dX3_town_140 : decode cX3_town 140 = .ok (.aload_n 0, 1) := dk_42 (dk_at dksX3_town_5 23 rfl rfl)
theorem dX3_town_141 : decode cX3_town 141 = .ok (.getfield 25, 3) := dk_180 0 25 (dk_at dksX3_town_6 0 rfl rfl)
theorem dX3_town_144 : decode cX3_town 144 = .ok (.iload_n 2, 1) := dk_28 (dk_at dksX3_town_6 3 rfl rfl)
theorem dX3_town_145 : decode cX3_town 145 = .ok (.iconst 0, 1) := dk_3 (dk_at dksX3_town_6 4 rfl rfl)
theorem dX3_town_146 : decode cX3_town 146 = .ok (.iastore, 1) := dk_79 (dk_at dksX3_town_6 5 rfl rfl)
theorem dX3_town_147 : decode cX3_town 147 = .ok (.iinc 2 1, 3) := dk_132 2 1 (dk_at dksX3_town_6 6 rfl rfl)
theorem dX3_town_150 : decode cX3_town 150 = .ok (.goto (-64), 3) := dk_167 255 192 (dk_at dksX3_town_6 9 rfl rfl)
theorem dX3_town_153 : decode cX3_town 153 = .ok (.iconst 0, 1) := dk_3 (dk_at dksX3_town_6 12 rfl rfl)
theorem dX3_town_154 : decode cX3_town 154 = .ok (.istore_n 2, 1) := dk_61 (dk_at dksX3_town_6 13 rfl rfl)
theorem dX3_town_155 : decode cX3_town 155 = .ok (.iload_n 2, 1) := dk_28 (dk_at dksX3_town_6 14 rfl rfl)
theorem dX3_town_156 : decode cX3_town 156 = .ok (.bipush 30, 2) := dk_16 30 (dk_at dksX3_town_6 15 rfl rfl)
theorem dX3_town_158 : decode cX3_town 158 = .ok (.if_icmp .ge 21, 3) := dk_162 0 21 (dk_at dksX3_town_6 17 rfl rfl)
theorem dX3_town_161 : decode cX3_town 161 = .ok (.aload_n 0, 1) := dk_42 (dk_at dksX3_town_6 20 rfl rfl)
theorem dX3_town_162 : decode cX3_town 162 = .ok (.getfield 22, 3) := dk_180 0 22 (dk_at dksX3_town_6 21 rfl rfl)
theorem dX3_town_165 : decode cX3_town 165 = .ok (.iload_n 2, 1) := dk_28 (dk_at dksX3_town_7 0 rfl rfl)
theorem dX3_town_166 : decode cX3_town 166 = .ok (.aload_n 0, 1) := dk_42 (dk_at dksX3_town_7 1 rfl rfl)
theorem dX3_town_167 : decode cX3_town 167 = .ok (.getfield 56, 3) := dk_180 0 56 (dk_at dksX3_town_7 2 rfl rfl)
theorem dX3_town_170 : decode cX3_town 170 = .ok (.iload_n 2, 1) := dk_28 (dk_at dksX3_town_7 5 rfl rfl)
theorem dX3_town_171 : decode cX3_town 171 = .ok (.iaload, 1) := dk_46 (dk_at dksX3_town_7 6 rfl rfl)
theorem dX3_town_172 : decode cX3_town 172 = .ok (.iastore, 1) := dk_79 (dk_at dksX3_town_7 7 rfl rfl)
theorem dX3_town_173 : decode cX3_town 173 = .ok (.iinc 2 1, 3) := dk_132 2 1 (dk_at dksX3_town_7 8 rfl rfl)
theorem dX3_town_176 : decode cX3_town 176 = .ok (.goto (-21), 3) := dk_167 255 235 (dk_at dksX3_town_7 11 rfl rfl)
theorem dX3_town_179 : decode cX3_town 179 = .ok (.iconst 0, 1) := dk_3 (dk_at dksX3_town_7 14 rfl rfl)
theorem dX3_town_180 : decode cX3_town 180 = .ok (.istore_n 2, 1) := dk_61 (dk_at dksX3_town_7 15 rfl rfl)
theorem dX3_town_181 : decode cX3_town 181 = .ok (.iload_n 2, 1) := dk_28 (dk_at dksX3_town_7 16 rfl rfl)
theorem dX3_town_182 : decode cX3_town 182 = .ok (.bipush 8, 2) := dk_16 8 (dk_at dksX3_town_7 17 rfl rfl)
theorem dX3_town_184 : decode cX3_town 184 = .ok (.if_icmp .ge 45, 3) := dk_162 0 45 (dk_at dksX3_town_7 19 rfl rfl)
theorem dX3_town_187 : decode cX3_town 187 = .ok (.aload_n 0, 1) := dk_42 (dk_at dksX3_town_7 22 rfl rfl)
theorem dX3_town_188 : decode cX3_town 188 = .ok (.getfield 28, 3) := dk_180 0 28 (dk_at dksX3_town_8 0 rfl rfl)
theorem dX3_town_191 : decode cX3_town 191 = .ok (.iload_n 2, 1) := dk_28 (dk_at dksX3_town_8 3 rfl rfl)
theorem dX3_town_192 : decode cX3_town 192 = .ok (.aload_n 0, 1) := dk_42 (dk_at dksX3_town_8 4 rfl rfl)
theorem dX3_town_193 : decode cX3_town 193 = .ok (.getfield 59, 3) := dk_180 0 59 (dk_at dksX3_town_8 5 rfl rfl)
theorem dX3_town_196 : decode cX3_town 196 = .ok (.iload_n 2, 1) := dk_28 (dk_at dksX3_town_8 8 rfl rfl)
theorem dX3_town_197 : decode cX3_town 197 = .ok (.iaload, 1) := dk_46 (dk_at dksX3_town_8 9 rfl rfl)
theorem dX3_town_198 : decode cX3_town 198 = .ok (.iastore, 1) := dk_79 (dk_at dksX3_town_8 10 rfl rfl)
theorem dX3_town_199 : decode cX3_town 199 = .ok (.aload_n 0, 1) := dk_42 (dk_at dksX3_town_8 11 rfl rfl)
theorem dX3_town_200 : decode cX3_town 200 = .ok (.getfield 31, 3) := dk_180 0 31 (dk_at dksX3_town_8 12 rfl rfl)
theorem dX3_town_203 : decode cX3_town 203 = .ok (.iload_n 2, 1) := dk_28 (dk_at dksX3_town_8 15 rfl rfl)
theorem dX3_town_204 : decode cX3_town 204 = .ok (.aload_n 0, 1) := dk_42 (dk_at dksX3_town_8 16 rfl rfl)
theorem dX3_town_205 : decode cX3_town 205 = .ok (.getfield 62, 3) := dk_180 0 62 (dk_at dksX3_town_8 17 rfl rfl)
theorem dX3_town_208 : decode cX3_town 208 = .ok (.iload_n 2, 1) := dk_28 (dk_at dksX3_town_8 20 rfl rfl)
theorem dX3_town_209 : decode cX3_town 209 = .ok (.iaload, 1) := dk_46 (dk_at dksX3_town_8 21 rfl rfl)
theorem dX3_town_210 : decode cX3_town 210 = .ok (.iastore, 1) := dk_79 (dk_at dksX3_town_8 22 rfl rfl)
theorem dX3_town_211 : decode cX3_town 211 = .ok (.aload_n 0, 1) := dk_42 (dk_at dksX3_town_8 23 rfl rfl)
theorem dX3_town_212 : decode cX3_town 212 = .ok (.getfield 34, 3) := dk_180 0 34 (dk_at dksX3_town_9 0 rfl rfl)
theorem dX3_town_215 : decode cX3_town 215 = .ok (.iload_n 2, 1) := dk_28 (dk_at dksX3_town_9 3 rfl rfl)
theorem dX3_town_216 : decode cX3_town 216 = .ok (.aload_n 0, 1) := dk_42 (dk_at dksX3_town_9 4 rfl rfl)
theorem dX3_town_217 : decode cX3_town 217 = .ok (.getfield 65, 3) := dk_180 0 65 (dk_at dksX3_town_9 5 rfl rfl)
theorem dX3_town_220 : decode cX3_town 220 = .ok (.iload_n 2, 1) := dk_28 (dk_at dksX3_town_9 8 rfl rfl)
theorem dX3_town_221 : decode cX3_town 221 = .ok (.iaload, 1) := dk_46 (dk_at dksX3_town_9 9 rfl rfl)
theorem dX3_town_222 : decode cX3_town 222 = .ok (.iastore, 1) := dk_79 (dk_at dksX3_town_9 10 rfl rfl)
theorem dX3_town_223 : decode cX3_town 223 = .ok (.iinc 2 1, 3) := dk_132 2 1 (dk_at dksX3_town_9 11 rfl rfl)
theorem dX3_town_226 : decode cX3_town 226 = .ok (.goto (-45), 3) := dk_167 255 211 (dk_at dksX3_town_9 14 rfl rfl)
theorem dX3_town_229 : decode cX3_town 229 = .ok (.aload_n 0, 1) := dk_42 (dk_at dksX3_town_9 17 rfl rfl)
theorem dX3_town_230 : decode cX3_town 230 = .ok (.iconst 0, 1) := dk_3 (dk_at dksX3_town_9 18 rfl rfl)
theorem dX3_town_231 : decode cX3_town 231 = .ok (.putfield 198, 3) := dk_181 0 198 (dk_at dksX3_town_9 19 rfl rfl)
theorem dX3_town_234 : decode cX3_town 234 = .ok (.aload_n 0, 1) := dk_42 (dk_at dksX3_town_9 22 rfl rfl)
theorem dX3_town_235 : decode cX3_town 235 = .ok (.iconst 0, 1) := dk_3 (dk_at dksX3_town_9 23 rfl rfl)
theorem dX3_town_236 : decode cX3_town 236 = .ok (.putfield 201, 3) := dk_181 0 201 (dk_at dksX3_town_10 0 rfl rfl)
theorem dX3_town_239 : decode cX3_town 239 = .ok (.aload_n 0, 1) := dk_42 (dk_at dksX3_town_10 3 rfl rfl)
theorem dX3_town_240 : decode cX3_town 240 = .ok (.getfield 93, 3) := dk_180 0 93 (dk_at dksX3_town_10 4 rfl rfl)
theorem dX3_town_243 : decode cX3_town 243 = .ok (.iconst 0, 1) := dk_3 (dk_at dksX3_town_10 7 rfl rfl)
theorem dX3_town_244 : decode cX3_town 244 = .ok (.iconst 0, 1) := dk_3 (dk_at dksX3_town_10 8 rfl rfl)
theorem dX3_town_245 : decode cX3_town 245 = .ok (.bastore, 1) := dk_84 (dk_at dksX3_town_10 9 rfl rfl)
theorem dX3_town_246 : decode cX3_town 246 = .ok (.aload_n 0, 1) := dk_42 (dk_at dksX3_town_10 10 rfl rfl)
theorem dX3_town_247 : decode cX3_town 247 = .ok (.getfield 93, 3) := dk_180 0 93 (dk_at dksX3_town_10 11 rfl rfl)
theorem dX3_town_250 : decode cX3_town 250 = .ok (.iconst 1, 1) := dk_4 (dk_at dksX3_town_10 14 rfl rfl)
theorem dX3_town_251 : decode cX3_town 251 = .ok (.iconst 0, 1) := dk_3 (dk_at dksX3_town_10 15 rfl rfl)
theorem dX3_town_252 : decode cX3_town 252 = .ok (.bastore, 1) := dk_84 (dk_at dksX3_town_10 16 rfl rfl)
theorem dX3_town_253 : decode cX3_town 253 = .ok (.aload_n 0, 1) := dk_42 (dk_at dksX3_town_10 17 rfl rfl)
theorem dX3_town_254 : decode cX3_town 254 = .ok (.getfield 96, 3) := dk_180 0 96 (dk_at dksX3_town_10 18 rfl rfl)
theorem dX3_town_257 : decode cX3_town 257 = .ok (.ireturn, 1) := dk_172 (dk_at dksX3_town_10 21 rfl rfl)
abbrev cX3_here : ByteArray := prog_10_method_10_code
def yX3_here : MethodName := ⟨RX3, "here", "()I"⟩
def dkwX3_here_2 : List UInt8 := [162, 0, 15, 42, 180, 0, 37, 42, 180, 0, 118, 46, 167, 0, 4, 2, 172]
abbrev dktX3_here_2 : List UInt8 := dkwX3_here_2 ++ []
def dkwX3_here_1 : List UInt8 := [160, 0, 16, 42, 89, 180, 0, 118, 4, 96, 181, 0, 118, 167, 255, 221, 42, 180, 0, 118, 42, 180, 0, 112]
abbrev dktX3_here_1 : List UInt8 := dkwX3_here_1 ++ dktX3_here_2
def dkwX3_here_0 : List UInt8 := [42, 180, 0, 118, 42, 180, 0, 112, 162, 0, 30, 42, 180, 0, 37, 42, 180, 0, 118, 46, 16, 32]
abbrev dktX3_here_0 : List UInt8 := dkwX3_here_0 ++ dktX3_here_1
theorem dksX3_here_0 : cX3_here.data.toList.drop 0 = dktX3_here_0 := by decide +kernel
theorem dksX3_here_1 : cX3_here.data.toList.drop 22 = dktX3_here_1 := dk_seg dksX3_here_0 22 rfl rfl
theorem dksX3_here_2 : cX3_here.data.toList.drop 46 = dktX3_here_2 := dk_seg dksX3_here_1 24 rfl rfl
theorem dX3_here_0 : decode cX3_here 0 = .ok (.aload_n 0, 1) := dk_42 (dk_at dksX3_here_0 0 rfl rfl)
theorem dX3_here_1 : decode cX3_here 1 = .ok (.getfield 118, 3) := dk_180 0 118 (dk_at dksX3_here_0 1 rfl rfl)
theorem dX3_here_4 : decode cX3_here 4 = .ok (.aload_n 0, 1) := dk_42 (dk_at dksX3_here_0 4 rfl rfl)
theorem dX3_here_5 : decode cX3_here 5 = .ok (.getfield 112, 3) := dk_180 0 112 (dk_at dksX3_here_0 5 rfl rfl)
theorem dX3_here_8 : decode cX3_here 8 = .ok (.if_icmp .ge 30, 3) := dk_162 0 30 (dk_at dksX3_here_0 8 rfl rfl)
theorem dX3_here_11 : decode cX3_here 11 = .ok (.aload_n 0, 1) := dk_42 (dk_at dksX3_here_0 11 rfl rfl)
theorem dX3_here_12 : decode cX3_here 12 = .ok (.getfield 37, 3) := dk_180 0 37 (dk_at dksX3_here_0 12 rfl rfl)
theorem dX3_here_15 : decode cX3_here 15 = .ok (.aload_n 0, 1) := dk_42 (dk_at dksX3_here_0 15 rfl rfl)
theorem dX3_here_16 : decode cX3_here 16 = .ok (.getfield 118, 3) := dk_180 0 118 (dk_at dksX3_here_0 16 rfl rfl)
theorem dX3_here_19 : decode cX3_here 19 = .ok (.iaload, 1) := dk_46 (dk_at dksX3_here_0 19 rfl rfl)
theorem dX3_here_20 : decode cX3_here 20 = .ok (.bipush 32, 2) := dk_16 32 (dk_at dksX3_here_0 20 rfl rfl)
theorem dX3_here_22 : decode cX3_here 22 = .ok (.if_icmp .ne 16, 3) := dk_160 0 16 (dk_at dksX3_here_1 0 rfl rfl)
theorem dX3_here_25 : decode cX3_here 25 = .ok (.aload_n 0, 1) := dk_42 (dk_at dksX3_here_1 3 rfl rfl)
theorem dX3_here_26 : decode cX3_here 26 = .ok (.dup, 1) := dk_89 (dk_at dksX3_here_1 4 rfl rfl)
theorem dX3_here_27 : decode cX3_here 27 = .ok (.getfield 118, 3) := dk_180 0 118 (dk_at dksX3_here_1 5 rfl rfl)
theorem dX3_here_30 : decode cX3_here 30 = .ok (.iconst 1, 1) := dk_4 (dk_at dksX3_here_1 8 rfl rfl)
theorem dX3_here_31 : decode cX3_here 31 = .ok (.iadd, 1) := dk_96 (dk_at dksX3_here_1 9 rfl rfl)
theorem dX3_here_32 : decode cX3_here 32 = .ok (.putfield 118, 3) := dk_181 0 118 (dk_at dksX3_here_1 10 rfl rfl)
theorem dX3_here_35 : decode cX3_here 35 = .ok (.goto (-35), 3) := dk_167 255 221 (dk_at dksX3_here_1 13 rfl rfl)
theorem dX3_here_38 : decode cX3_here 38 = .ok (.aload_n 0, 1) := dk_42 (dk_at dksX3_here_1 16 rfl rfl)
theorem dX3_here_39 : decode cX3_here 39 = .ok (.getfield 118, 3) := dk_180 0 118 (dk_at dksX3_here_1 17 rfl rfl)
theorem dX3_here_42 : decode cX3_here 42 = .ok (.aload_n 0, 1) := dk_42 (dk_at dksX3_here_1 20 rfl rfl)
theorem dX3_here_43 : decode cX3_here 43 = .ok (.getfield 112, 3) := dk_180 0 112 (dk_at dksX3_here_1 21 rfl rfl)
theorem dX3_here_46 : decode cX3_here 46 = .ok (.if_icmp .ge 15, 3) := dk_162 0 15 (dk_at dksX3_here_2 0 rfl rfl)
theorem dX3_here_49 : decode cX3_here 49 = .ok (.aload_n 0, 1) := dk_42 (dk_at dksX3_here_2 3 rfl rfl)
theorem dX3_here_50 : decode cX3_here 50 = .ok (.getfield 37, 3) := dk_180 0 37 (dk_at dksX3_here_2 4 rfl rfl)
theorem dX3_here_53 : decode cX3_here 53 = .ok (.aload_n 0, 1) := dk_42 (dk_at dksX3_here_2 7 rfl rfl)
theorem dX3_here_54 : decode cX3_here 54 = .ok (.getfield 118, 3) := dk_180 0 118 (dk_at dksX3_here_2 8 rfl rfl)
theorem dX3_here_57 : decode cX3_here 57 = .ok (.iaload, 1) := dk_46 (dk_at dksX3_here_2 11 rfl rfl)
theorem dX3_here_58 : decode cX3_here 58 = .ok (.goto 4, 3) := dk_167 0 4 (dk_at dksX3_here_2 12 rfl rfl)
theorem dX3_here_61 : decode cX3_here 61 = .ok (.iconst (-1), 1) := dk_2 (dk_at dksX3_here_2 15 rfl rfl)
theorem dX3_here_62 : decode cX3_here 62 = .ok (.ireturn, 1) := dk_172 (dk_at dksX3_here_2 16 rfl rfl)
abbrev cX3_takeClause : ByteArray := prog_10_method_20_code
def yX3_takeClause : MethodName := ⟨RX3, "takeClause", "()I"⟩
def dkwX3_takeClause_11 : List UInt8 := [180, 0, 118, 4, 96, 181, 0, 118, 29, 172]
abbrev dktX3_takeClause_11 : List UInt8 := dkwX3_takeClause_11 ++ []
def dkwX3_takeClause_10 : List UInt8 := [154, 0, 22, 42, 182, 0, 121, 16, 59, 159, 0, 13, 42, 4, 42, 180, 0, 118, 182, 0, 148, 172, 42, 89]
abbrev dktX3_takeClause_10 : List UInt8 := dkwX3_takeClause_10 ++ dktX3_takeClause_11
def dkwX3_takeClause_9 : List UInt8 := [181, 0, 179, 167, 0, 20, 28, 4, 160, 0, 10, 42, 182, 0, 189, 167, 0, 7, 42, 182, 0, 192, 62, 29]
abbrev dktX3_takeClause_9 : List UInt8 := dkwX3_takeClause_9 ++ dktX3_takeClause_10
def dkwX3_takeClause_8 : List UInt8 := [181, 0, 118, 3, 62, 28, 154, 0, 22, 42, 4, 16, 8, 182, 0, 158, 62, 42, 42, 180, 0, 155]
abbrev dktX3_takeClause_8 : List UInt8 := dkwX3_takeClause_8 ++ dktX3_takeClause_9
def dkwX3_takeClause_7 : List UInt8 := [180, 0, 186, 16, 8, 160, 0, 13, 42, 6, 42, 180, 0, 118, 182, 0, 148, 172, 42, 42, 180, 0, 129]
abbrev dktX3_takeClause_7 : List UInt8 := dkwX3_takeClause_7 ++ dktX3_takeClause_8
def dkwX3_takeClause_6 : List UInt8 := [158, 0, 42, 167, 0, 29, 28, 4, 160, 0, 15, 42, 180, 0, 165, 16, 10, 160, 0, 25, 167, 0, 12, 42]
abbrev dktX3_takeClause_6 : List UInt8 := dkwX3_takeClause_6 ++ dktX3_takeClause_7
def dkwX3_takeClause_5 : List UInt8 := [180, 0, 179, 154, 0, 13, 42, 4, 42, 180, 0, 118, 182, 0, 148, 172, 28, 154, 0, 13, 42, 180, 0, 179]
abbrev dktX3_takeClause_5 : List UInt8 := dkwX3_takeClause_5 ++ dktX3_takeClause_6
def dkwX3_takeClause_4 : List UInt8 := [184, 0, 175, 148, 154, 0, 7, 5, 167, 0, 4, 2, 61, 28, 155, 0, 14, 28, 158, 0, 20, 42]
abbrev dktX3_takeClause_4 : List UInt8 := dkwX3_takeClause_4 ++ dktX3_takeClause_5
def dkwX3_takeClause_3 : List UInt8 := [167, 0, 34, 42, 180, 0, 125, 16, 112, 16, 101, 16, 114, 16, 115, 184, 0, 171, 16, 111, 16, 110]
abbrev dktX3_takeClause_3 : List UInt8 := dkwX3_takeClause_3 ++ dktX3_takeClause_4
def dkwX3_takeClause_2 : List UInt8 := [184, 0, 171, 16, 114, 3, 184, 0, 175, 148, 154, 0, 7, 4, 167, 0, 4, 2, 60, 27, 155, 0, 7, 27]
abbrev dktX3_takeClause_2 : List UInt8 := dkwX3_takeClause_2 ++ dktX3_takeClause_3
def dkwX3_takeClause_1 : List UInt8 := [184, 0, 175, 148, 154, 0, 7, 3, 167, 0, 33, 42, 180, 0, 125, 16, 115, 16, 116, 16, 97, 16, 105]
abbrev dktX3_takeClause_1 : List UInt8 := dkwX3_takeClause_1 ++ dktX3_takeClause_2
def dkwX3_takeClause_0 : List UInt8 := [42, 182, 0, 168, 42, 180, 0, 125, 16, 112, 16, 108, 16, 97, 16, 99, 184, 0, 171, 16, 101, 16, 115]
abbrev dktX3_takeClause_0 : List UInt8 := dkwX3_takeClause_0 ++ dktX3_takeClause_1
theorem dksX3_takeClause_0 : cX3_takeClause.data.toList.drop 0 = dktX3_takeClause_0 := by decide +kernel
theorem dksX3_takeClause_1 : cX3_takeClause.data.toList.drop 23 = dktX3_takeClause_1 := dk_seg dksX3_takeClause_0 23 rfl rfl
theorem dksX3_takeClause_2 : cX3_takeClause.data.toList.drop 46 = dktX3_takeClause_2 := dk_seg dksX3_takeClause_1 23 rfl rfl
theorem dksX3_takeClause_3 : cX3_takeClause.data.toList.drop 70 = dktX3_takeClause_3 := dk_seg dksX3_takeClause_2 24 rfl rfl
theorem dksX3_takeClause_4 : cX3_takeClause.data.toList.drop 92 = dktX3_takeClause_4 := dk_seg dksX3_takeClause_3 22 rfl rfl
theorem dksX3_takeClause_5 : cX3_takeClause.data.toList.drop 114 = dktX3_takeClause_5 := dk_seg dksX3_takeClause_4 22 rfl rfl
theorem dksX3_takeClause_6 : cX3_takeClause.data.toList.drop 138 = dktX3_takeClause_6 := dk_seg dksX3_takeClause_5 24 rfl rfl
theorem dksX3_takeClause_7 : cX3_takeClause.data.toList.drop 162 = dktX3_takeClause_7 := dk_seg dksX3_takeClause_6 24 rfl rfl
theorem dksX3_takeClause_8 : cX3_takeClause.data.toList.drop 185 = dktX3_takeClause_8 := dk_seg dksX3_takeClause_7 23 rfl rfl
theorem dksX3_takeClause_9 : cX3_takeClause.data.toList.drop 207 = dktX3_takeClause_9 := dk_seg dksX3_takeClause_8 22 rfl rfl
theorem dksX3_takeClause_10 : cX3_takeClause.data.toList.drop 231 = dktX3_takeClause_10 := dk_seg dksX3_takeClause_9 24 rfl rfl
theorem dksX3_takeClause_11 : cX3_takeClause.data.toList.drop 255 = dktX3_takeClause_11 := dk_seg dksX3_takeClause_10 24 rfl rfl
theorem dX3_takeClause_0 : decode cX3_takeClause 0 = .ok (.aload_n 0, 1) := dk_42 (dk_at dksX3_takeClause_0 0 rfl rfl)
theorem dX3_takeClause_1 : decode cX3_takeClause 1 = .ok (.invokevirtual 168, 3) := dk_182 0 168 (dk_at dksX3_takeClause_0 1 rfl rfl)
theorem dX3_takeClause_4 : decode cX3_takeClause 4 = .ok (.aload_n 0, 1) := dk_42 (dk_at dksX3_takeClause_0 4 rfl rfl)
theorem dX3_takeClause_5 : decode cX3_takeClause 5 = .ok (.getfield 125, 3) := dk_180 0 125 (dk_at dksX3_takeClause_0 5 rfl rfl)
theorem dX3_takeClause_8 : decode cX3_takeClause 8 = .ok (.bipush 112, 2) := dk_16 112 (dk_at dksX3_takeClause_0 8 rfl rfl)
theorem dX3_takeClause_10 : decode cX3_takeClause 10 = .ok (.bipush 108, 2) := dk_16 108 (dk_at dksX3_takeClause_0 10 rfl rfl)
theorem dX3_takeClause_12 : decode cX3_takeClause 12 = .ok (.bipush 97, 2) := dk_16 97 (dk_at dksX3_takeClause_0 12 rfl rfl)
theorem dX3_takeClause_14 : decode cX3_takeClause 14 = .ok (.bipush 99, 2) := dk_16 99 (dk_at dksX3_takeClause_0 14 rfl rfl)
theorem dX3_takeClause_16 : decode cX3_takeClause 16 = .ok (.invokestatic 171, 3) := dk_184 0 171 (dk_at dksX3_takeClause_0 16 rfl rfl)
theorem dX3_takeClause_19 : decode cX3_takeClause 19 = .ok (.bipush 101, 2) := dk_16 101 (dk_at dksX3_takeClause_0 19 rfl rfl)
theorem dX3_takeClause_21 : decode cX3_takeClause 21 = .ok (.bipush 115, 2) := dk_16 115 (dk_at dksX3_takeClause_0 21 rfl rfl)
theorem dX3_takeClause_23 : decode cX3_takeClause 23 = .ok (.invokestatic 175, 3) := dk_184 0 175 (dk_at dksX3_takeClause_1 0 rfl rfl)
theorem dX3_takeClause_26 : decode cX3_takeClause 26 = .ok (.lcmp, 1) := dk_148 (dk_at dksX3_takeClause_1 3 rfl rfl)
theorem dX3_takeClause_27 : decode cX3_takeClause 27 = .ok (.ifCond .ne 7, 3) := dk_154 0 7 (dk_at dksX3_takeClause_1 4 rfl rfl)
theorem dX3_takeClause_30 : decode cX3_takeClause 30 = .ok (.iconst 0, 1) := dk_3 (dk_at dksX3_takeClause_1 7 rfl rfl)
theorem dX3_takeClause_31 : decode cX3_takeClause 31 = .ok (.goto 33, 3) := dk_167 0 33 (dk_at dksX3_takeClause_1 8 rfl rfl)
theorem dX3_takeClause_34 : decode cX3_takeClause 34 = .ok (.aload_n 0, 1) := dk_42 (dk_at dksX3_takeClause_1 11 rfl rfl)
theorem dX3_takeClause_35 : decode cX3_takeClause 35 = .ok (.getfield 125, 3) := dk_180 0 125 (dk_at dksX3_takeClause_1 12 rfl rfl)
theorem dX3_takeClause_38 : decode cX3_takeClause 38 = .ok (.bipush 115, 2) := dk_16 115 (dk_at dksX3_takeClause_1 15 rfl rfl)
theorem dX3_takeClause_40 : decode cX3_takeClause 40 = .ok (.bipush 116, 2) := dk_16 116 (dk_at dksX3_takeClause_1 17 rfl rfl)
theorem dX3_takeClause_42 : decode cX3_takeClause 42 = .ok (.bipush 97, 2) := dk_16 97 (dk_at dksX3_takeClause_1 19 rfl rfl)
theorem dX3_takeClause_44 : decode cX3_takeClause 44 = .ok (.bipush 105, 2) := dk_16 105 (dk_at dksX3_takeClause_1 21 rfl rfl)
theorem dX3_takeClause_46 : decode cX3_takeClause 46 = .ok (.invokestatic 171, 3) := dk_184 0 171 (dk_at dksX3_takeClause_2 0 rfl rfl)
theorem dX3_takeClause_49 : decode cX3_takeClause 49 = .ok (.bipush 114, 2) := dk_16 114 (dk_at dksX3_takeClause_2 3 rfl rfl)
theorem dX3_takeClause_51 : decode cX3_takeClause 51 = .ok (.iconst 0, 1) := dk_3 (dk_at dksX3_takeClause_2 5 rfl rfl)
theorem dX3_takeClause_52 : decode cX3_takeClause 52 = .ok (.invokestatic 175, 3) := dk_184 0 175 (dk_at dksX3_takeClause_2 6 rfl rfl)
theorem dX3_takeClause_55 : decode cX3_takeClause 55 = .ok (.lcmp, 1) := dk_148 (dk_at dksX3_takeClause_2 9 rfl rfl)
theorem dX3_takeClause_56 : decode cX3_takeClause 56 = .ok (.ifCond .ne 7, 3) := dk_154 0 7 (dk_at dksX3_takeClause_2 10 rfl rfl)
theorem dX3_takeClause_59 : decode cX3_takeClause 59 = .ok (.iconst 1, 1) := dk_4 (dk_at dksX3_takeClause_2 13 rfl rfl)
theorem dX3_takeClause_60 : decode cX3_takeClause 60 = .ok (.goto 4, 3) := dk_167 0 4 (dk_at dksX3_takeClause_2 14 rfl rfl)
theorem dX3_takeClause_63 : decode cX3_takeClause 63 = .ok (.iconst (-1), 1) := dk_2 (dk_at dksX3_takeClause_2 17 rfl rfl)
theorem dX3_takeClause_64 : decode cX3_takeClause 64 = .ok (.istore_n 1, 1) := dk_60 (dk_at dksX3_takeClause_2 18 rfl rfl)
theorem dX3_takeClause_65 : decode cX3_takeClause 65 = .ok (.iload_n 1, 1) := dk_27 (dk_at dksX3_takeClause_2 19 rfl rfl)
theorem dX3_takeClause_66 : decode cX3_takeClause 66 = .ok (.ifCond .lt 7, 3) := dk_155 0 7 (dk_at dksX3_takeClause_2 20 rfl rfl)
theorem dX3_takeClause_69 : decode cX3_takeClause 69 = .ok (.iload_n 1, 1) := dk_27 (dk_at dksX3_takeClause_2 23 rfl rfl)
theorem dX3_takeClause_70 : decode cX3_takeClause 70 = .ok (.goto 34, 3) := dk_167 0 34 (dk_at dksX3_takeClause_3 0 rfl rfl)
theorem dX3_takeClause_73 : decode cX3_takeClause 73 = .ok (.aload_n 0, 1) := dk_42 (dk_at dksX3_takeClause_3 3 rfl rfl)
theorem dX3_takeClause_74 : decode cX3_takeClause 74 = .ok (.getfield 125, 3) := dk_180 0 125 (dk_at dksX3_takeClause_3 4 rfl rfl)
theorem dX3_takeClause_77 : decode cX3_takeClause 77 = .ok (.bipush 112, 2) := dk_16 112 (dk_at dksX3_takeClause_3 7 rfl rfl)
theorem dX3_takeClause_79 : decode cX3_takeClause 79 = .ok (.bipush 101, 2) := dk_16 101 (dk_at dksX3_takeClause_3 9 rfl rfl)
theorem dX3_takeClause_81 : decode cX3_takeClause 81 = .ok (.bipush 114, 2) := dk_16 114 (dk_at dksX3_takeClause_3 11 rfl rfl)
theorem dX3_takeClause_83 : decode cX3_takeClause 83 = .ok (.bipush 115, 2) := dk_16 115 (dk_at dksX3_takeClause_3 13 rfl rfl)
theorem dX3_takeClause_85 : decode cX3_takeClause 85 = .ok (.invokestatic 171, 3) := dk_184 0 171 (dk_at dksX3_takeClause_3 15 rfl rfl)
theorem dX3_takeClause_88 : decode cX3_takeClause 88 = .ok (.bipush 111, 2) := dk_16 111 (dk_at dksX3_takeClause_3 18 rfl rfl)
theorem dX3_takeClause_90 : decode cX3_takeClause 90 = .ok (.bipush 110, 2) := dk_16 110 (dk_at dksX3_takeClause_3 20 rfl rfl)
theorem dX3_takeClause_92 : decode cX3_takeClause 92 = .ok (.invokestatic 175, 3) := dk_184 0 175 (dk_at dksX3_takeClause_4 0 rfl rfl)
theorem dX3_takeClause_95 : decode cX3_takeClause 95 = .ok (.lcmp, 1) := dk_148 (dk_at dksX3_takeClause_4 3 rfl rfl)
theorem dX3_takeClause_96 : decode cX3_takeClause 96 = .ok (.ifCond .ne 7, 3) := dk_154 0 7 (dk_at dksX3_takeClause_4 4 rfl rfl)
theorem dX3_takeClause_99 : decode cX3_takeClause 99 = .ok (.iconst 2, 1) := dk_5 (dk_at dksX3_takeClause_4 7 rfl rfl)
theorem dX3_takeClause_100 : decode cX3_takeClause 100 = .ok (.goto 4, 3) := dk_167 0 4 (dk_at dksX3_takeClause_4 8 rfl rfl)
theorem dX3_takeClause_103 : decode cX3_takeClause 103 = .ok (.iconst (-1), 1) := dk_2 (dk_at dksX3_takeClause_4 11 rfl rfl)
theorem dX3_takeClause_104 : decode cX3_takeClause 104 = .ok (.istore_n 2, 1) := dk_61 (dk_at dksX3_takeClause_4 12 rfl rfl)
theorem dX3_takeClause_105 : decode cX3_takeClause 105 = .ok (.iload_n 2, 1) := dk_28 (dk_at dksX3_takeClause_4 13 rfl rfl)
theorem dX3_takeClause_106 : decode cX3_takeClause 106 = .ok (.ifCond .lt 14, 3) := dk_155 0 14 (dk_at dksX3_takeClause_4 14 rfl rfl)
theorem dX3_takeClause_109 : decode cX3_takeClause 109 = .ok (.iload_n 2, 1) := dk_28 (dk_at dksX3_takeClause_4 17 rfl rfl)
theorem dX3_takeClause_110 : decode cX3_takeClause 110 = .ok (.ifCond .le 20, 3) := dk_158 0 20 (dk_at dksX3_takeClause_4 18 rfl rfl)
theorem dX3_takeClause_113 : decode cX3_takeClause 113 = .ok (.aload_n 0, 1) := dk_42 (dk_at dksX3_takeClause_4 21 rfl rfl)
theorem dX3_takeClause_114 : decode cX3_takeClause 114 = .ok (.getfield 179, 3) := dk_180 0 179 (dk_at dksX3_takeClause_5 0 rfl rfl)
theorem dX3_takeClause_117 : decode cX3_takeClause 117 = .ok (.ifCond .ne 13, 3) := dk_154 0 13 (dk_at dksX3_takeClause_5 3 rfl rfl)
theorem dX3_takeClause_120 : decode cX3_takeClause 120 = .ok (.aload_n 0, 1) := dk_42 (dk_at dksX3_takeClause_5 6 rfl rfl)
theorem dX3_takeClause_121 : decode cX3_takeClause 121 = .ok (.iconst 1, 1) := dk_4 (dk_at dksX3_takeClause_5 7 rfl rfl)
theorem dX3_takeClause_122 : decode cX3_takeClause 122 = .ok (.aload_n 0, 1) := dk_42 (dk_at dksX3_takeClause_5 8 rfl rfl)
theorem dX3_takeClause_123 : decode cX3_takeClause 123 = .ok (.getfield 118, 3) := dk_180 0 118 (dk_at dksX3_takeClause_5 9 rfl rfl)
theorem dX3_takeClause_126 : decode cX3_takeClause 126 = .ok (.invokevirtual 148, 3) := dk_182 0 148 (dk_at dksX3_takeClause_5 12 rfl rfl)
theorem dX3_takeClause_129 : decode cX3_takeClause 129 = .ok (.ireturn, 1) := dk_172 (dk_at dksX3_takeClause_5 15 rfl rfl)
theorem dX3_takeClause_130 : decode cX3_takeClause 130 = .ok (.iload_n 2, 1) := dk_28 (dk_at dksX3_takeClause_5 16 rfl rfl)
theorem dX3_takeClause_131 : decode cX3_takeClause 131 = .ok (.ifCond .ne 13, 3) := dk_154 0 13 (dk_at dksX3_takeClause_5 17 rfl rfl)
theorem dX3_takeClause_134 : decode cX3_takeClause 134 = .ok (.aload_n 0, 1) := dk_42 (dk_at dksX3_takeClause_5 20 rfl rfl)
theorem dX3_takeClause_135 : decode cX3_takeClause 135 = .ok (.getfield 179, 3) := dk_180 0 179 (dk_at dksX3_takeClause_5 21 rfl rfl)
theorem dX3_takeClause_138 : decode cX3_takeClause 138 = .ok (.ifCond .le 42, 3) := dk_158 0 42 (dk_at dksX3_takeClause_6 0 rfl rfl)
theorem dX3_takeClause_141 : decode cX3_takeClause 141 = .ok (.goto 29, 3) := dk_167 0 29 (dk_at dksX3_takeClause_6 3 rfl rfl)
theorem dX3_takeClause_144 : decode cX3_takeClause 144 = .ok (.iload_n 2, 1) := dk_28 (dk_at dksX3_takeClause_6 6 rfl rfl)
theorem dX3_takeClause_145 : decode cX3_takeClause 145 = .ok (.iconst 1, 1) := dk_4 (dk_at dksX3_takeClause_6 7 rfl rfl)
theorem dX3_takeClause_146 : decode cX3_takeClause 146 = .ok (.if_icmp .ne 15, 3) := dk_160 0 15 (dk_at dksX3_takeClause_6 8 rfl rfl)
theorem dX3_takeClause_149 : decode cX3_takeClause 149 = .ok (.aload_n 0, 1) := dk_42 (dk_at dksX3_takeClause_6 11 rfl rfl)
theorem dX3_takeClause_150 : decode cX3_takeClause 150 = .ok (.getfield 165, 3) := dk_180 0 165 (dk_at dksX3_takeClause_6 12 rfl rfl)
theorem dX3_takeClause_153 : decode cX3_takeClause 153 = .ok (.bipush 10, 2) := dk_16 10 (dk_at dksX3_takeClause_6 15 rfl rfl)
theorem dX3_takeClause_155 : decode cX3_takeClause 155 = .ok (.if_icmp .ne 25, 3) := dk_160 0 25 (dk_at dksX3_takeClause_6 17 rfl rfl)
theorem dX3_takeClause_158 : decode cX3_takeClause 158 = .ok (.goto 12, 3) := dk_167 0 12 (dk_at dksX3_takeClause_6 20 rfl rfl)
theorem dX3_takeClause_161 : decode cX3_takeClause 161 = .ok (.aload_n 0, 1) := dk_42 (dk_at dksX3_takeClause_6 23 rfl rfl)
theorem dX3_takeClause_162 : decode cX3_takeClause 162 = .ok (.getfield 186, 3) := dk_180 0 186 (dk_at dksX3_takeClause_7 0 rfl rfl)
theorem dX3_takeClause_165 : decode cX3_takeClause 165 = .ok (.bipush 8, 2) := dk_16 8 (dk_at dksX3_takeClause_7 3 rfl rfl)
theorem dX3_takeClause_167 : decode cX3_takeClause 167 = .ok (.if_icmp .ne 13, 3) := dk_160 0 13 (dk_at dksX3_takeClause_7 5 rfl rfl)
theorem dX3_takeClause_170 : decode cX3_takeClause 170 = .ok (.aload_n 0, 1) := dk_42 (dk_at dksX3_takeClause_7 8 rfl rfl)
theorem dX3_takeClause_171 : decode cX3_takeClause 171 = .ok (.iconst 3, 1) := dk_6 (dk_at dksX3_takeClause_7 9 rfl rfl)
theorem dX3_takeClause_172 : decode cX3_takeClause 172 = .ok (.aload_n 0, 1) := dk_42 (dk_at dksX3_takeClause_7 10 rfl rfl)
theorem dX3_takeClause_173 : decode cX3_takeClause 173 = .ok (.getfield 118, 3) := dk_180 0 118 (dk_at dksX3_takeClause_7 11 rfl rfl)
theorem dX3_takeClause_176 : decode cX3_takeClause 176 = .ok (.invokevirtual 148, 3) := dk_182 0 148 (dk_at dksX3_takeClause_7 14 rfl rfl)
theorem dX3_takeClause_179 : decode cX3_takeClause 179 = .ok (.ireturn, 1) := dk_172 (dk_at dksX3_takeClause_7 17 rfl rfl)
theorem dX3_takeClause_180 : decode cX3_takeClause 180 = .ok (.aload_n 0, 1) := dk_42 (dk_at dksX3_takeClause_7 18 rfl rfl)
theorem dX3_takeClause_181 : decode cX3_takeClause 181 = .ok (.aload_n 0, 1) := dk_42 (dk_at dksX3_takeClause_7 19 rfl rfl)
theorem dX3_takeClause_182 : decode cX3_takeClause 182 = .ok (.getfield 129, 3) := dk_180 0 129 (dk_at dksX3_takeClause_7 20 rfl rfl)
theorem dX3_takeClause_185 : decode cX3_takeClause 185 = .ok (.putfield 118, 3) := dk_181 0 118 (dk_at dksX3_takeClause_8 0 rfl rfl)
theorem dX3_takeClause_188 : decode cX3_takeClause 188 = .ok (.iconst 0, 1) := dk_3 (dk_at dksX3_takeClause_8 3 rfl rfl)
theorem dX3_takeClause_189 : decode cX3_takeClause 189 = .ok (.istore_n 3, 1) := dk_62 (dk_at dksX3_takeClause_8 4 rfl rfl)
theorem dX3_takeClause_190 : decode cX3_takeClause 190 = .ok (.iload_n 2, 1) := dk_28 (dk_at dksX3_takeClause_8 5 rfl rfl)
theorem dX3_takeClause_191 : decode cX3_takeClause 191 = .ok (.ifCond .ne 22, 3) := dk_154 0 22 (dk_at dksX3_takeClause_8 6 rfl rfl)
theorem dX3_takeClause_194 : decode cX3_takeClause 194 = .ok (.aload_n 0, 1) := dk_42 (dk_at dksX3_takeClause_8 9 rfl rfl)
theorem dX3_takeClause_195 : decode cX3_takeClause 195 = .ok (.iconst 1, 1) := dk_4 (dk_at dksX3_takeClause_8 10 rfl rfl)
theorem dX3_takeClause_196 : decode cX3_takeClause 196 = .ok (.bipush 8, 2) := dk_16 8 (dk_at dksX3_takeClause_8 11 rfl rfl)
theorem dX3_takeClause_198 : decode cX3_takeClause 198 = .ok (.invokevirtual 158, 3) := dk_182 0 158 (dk_at dksX3_takeClause_8 13 rfl rfl)
theorem dX3_takeClause_201 : decode cX3_takeClause 201 = .ok (.istore_n 3, 1) := dk_62 (dk_at dksX3_takeClause_8 16 rfl rfl)
theorem dX3_takeClause_202 : decode cX3_takeClause 202 = .ok (.aload_n 0, 1) := dk_42 (dk_at dksX3_takeClause_8 17 rfl rfl)
theorem dX3_takeClause_203 : decode cX3_takeClause 203 = .ok (.aload_n 0, 1) := dk_42 (dk_at dksX3_takeClause_8 18 rfl rfl)
theorem dX3_takeClause_204 : decode cX3_takeClause 204 = .ok (.getfield 155, 3) := dk_180 0 155 (dk_at dksX3_takeClause_8 19 rfl rfl)
theorem dX3_takeClause_207 : decode cX3_takeClause 207 = .ok (.putfield 179, 3) := dk_181 0 179 (dk_at dksX3_takeClause_9 0 rfl rfl)
theorem dX3_takeClause_210 : decode cX3_takeClause 210 = .ok (.goto 20, 3) := dk_167 0 20 (dk_at dksX3_takeClause_9 3 rfl rfl)
theorem dX3_takeClause_213 : decode cX3_takeClause 213 = .ok (.iload_n 2, 1) := dk_28 (dk_at dksX3_takeClause_9 6 rfl rfl)
theorem dX3_takeClause_214 : decode cX3_takeClause 214 = .ok (.iconst 1, 1) := dk_4 (dk_at dksX3_takeClause_9 7 rfl rfl)
theorem dX3_takeClause_215 : decode cX3_takeClause 215 = .ok (.if_icmp .ne 10, 3) := dk_160 0 10 (dk_at dksX3_takeClause_9 8 rfl rfl)
theorem dX3_takeClause_218 : decode cX3_takeClause 218 = .ok (.aload_n 0, 1) := dk_42 (dk_at dksX3_takeClause_9 11 rfl rfl)
theorem dX3_takeClause_219 : decode cX3_takeClause 219 = .ok (.invokevirtual 189, 3) := dk_182 0 189 (dk_at dksX3_takeClause_9 12 rfl rfl)
theorem dX3_takeClause_222 : decode cX3_takeClause 222 = .ok (.goto 7, 3) := dk_167 0 7 (dk_at dksX3_takeClause_9 15 rfl rfl)
theorem dX3_takeClause_225 : decode cX3_takeClause 225 = .ok (.aload_n 0, 1) := dk_42 (dk_at dksX3_takeClause_9 18 rfl rfl)
theorem dX3_takeClause_226 : decode cX3_takeClause 226 = .ok (.invokevirtual 192, 3) := dk_182 0 192 (dk_at dksX3_takeClause_9 19 rfl rfl)
theorem dX3_takeClause_229 : decode cX3_takeClause 229 = .ok (.istore_n 3, 1) := dk_62 (dk_at dksX3_takeClause_9 22 rfl rfl)
theorem dX3_takeClause_230 : decode cX3_takeClause 230 = .ok (.iload_n 3, 1) := dk_29 (dk_at dksX3_takeClause_9 23 rfl rfl)
theorem dX3_takeClause_231 : decode cX3_takeClause 231 = .ok (.ifCond .ne 22, 3) := dk_154 0 22 (dk_at dksX3_takeClause_10 0 rfl rfl)
theorem dX3_takeClause_234 : decode cX3_takeClause 234 = .ok (.aload_n 0, 1) := dk_42 (dk_at dksX3_takeClause_10 3 rfl rfl)
theorem dX3_takeClause_235 : decode cX3_takeClause 235 = .ok (.invokevirtual 121, 3) := dk_182 0 121 (dk_at dksX3_takeClause_10 4 rfl rfl)
theorem dX3_takeClause_238 : decode cX3_takeClause 238 = .ok (.bipush 59, 2) := dk_16 59 (dk_at dksX3_takeClause_10 7 rfl rfl)
theorem dX3_takeClause_240 : decode cX3_takeClause 240 = .ok (.if_icmp .eq 13, 3) := dk_159 0 13 (dk_at dksX3_takeClause_10 9 rfl rfl)
theorem dX3_takeClause_243 : decode cX3_takeClause 243 = .ok (.aload_n 0, 1) := dk_42 (dk_at dksX3_takeClause_10 12 rfl rfl)
theorem dX3_takeClause_244 : decode cX3_takeClause 244 = .ok (.iconst 1, 1) := dk_4 (dk_at dksX3_takeClause_10 13 rfl rfl)
theorem dX3_takeClause_245 : decode cX3_takeClause 245 = .ok (.aload_n 0, 1) := dk_42 (dk_at dksX3_takeClause_10 14 rfl rfl)
theorem dX3_takeClause_246 : decode cX3_takeClause 246 = .ok (.getfield 118, 3) := dk_180 0 118 (dk_at dksX3_takeClause_10 15 rfl rfl)
theorem dX3_takeClause_249 : decode cX3_takeClause 249 = .ok (.invokevirtual 148, 3) := dk_182 0 148 (dk_at dksX3_takeClause_10 18 rfl rfl)
theorem dX3_takeClause_252 : decode cX3_takeClause 252 = .ok (.ireturn, 1) := dk_172 (dk_at dksX3_takeClause_10 21 rfl rfl)
theorem dX3_takeClause_253 : decode cX3_takeClause 253 = .ok (.aload_n 0, 1) := dk_42 (dk_at dksX3_takeClause_10 22 rfl rfl)
theorem dX3_takeClause_254 : decode cX3_takeClause 254 = .ok (.dup, 1) := dk_89 (dk_at dksX3_takeClause_10 23 rfl rfl)
theorem dX3_takeClause_255 : decode cX3_takeClause 255 = .ok (.getfield 118, 3) := dk_180 0 118 (dk_at dksX3_takeClause_11 0 rfl rfl)
theorem dX3_takeClause_258 : decode cX3_takeClause 258 = .ok (.iconst 1, 1) := dk_4 (dk_at dksX3_takeClause_11 3 rfl rfl)
theorem dX3_takeClause_259 : decode cX3_takeClause 259 = .ok (.iadd, 1) := dk_96 (dk_at dksX3_takeClause_11 4 rfl rfl)
theorem dX3_takeClause_260 : decode cX3_takeClause 260 = .ok (.putfield 118, 3) := dk_181 0 118 (dk_at dksX3_takeClause_11 5 rfl rfl)
theorem dX3_takeClause_263 : decode cX3_takeClause 263 = .ok (.iload_n 3, 1) := dk_29 (dk_at dksX3_takeClause_11 8 rfl rfl)
theorem dX3_takeClause_264 : decode cX3_takeClause 264 = .ok (.ireturn, 1) := dk_172 (dk_at dksX3_takeClause_11 9 rfl rfl)
abbrev cX3_readWord : ByteArray := prog_10_method_12_code
def yX3_readWord : MethodName := ⟨RX3, "readWord", "()V"⟩
def dkwX3_readWord_4 : List UInt8 := [181, 0, 125, 42, 89, 180, 0, 129, 4, 96, 181, 0, 129, 167, 255, 169, 177]
abbrev dktX3_readWord_4 : List UInt8 := dkwX3_readWord_4 ++ []
def dkwX3_readWord_3 : List UInt8 := [20, 0, 140, 42, 180, 0, 125, 105, 42, 180, 0, 37, 42, 180, 0, 129, 46, 133, 97, 20, 0, 142, 101]
abbrev dktX3_readWord_3 : List UInt8 := dkwX3_readWord_3 ++ dktX3_readWord_4
def dkwX3_readWord_2 : List UInt8 := [184, 0, 99, 153, 0, 60, 42, 42, 180, 0, 125, 20, 0, 136, 148, 158, 0, 9, 20, 0, 138, 167, 0, 26]
abbrev dktX3_readWord_2 : List UInt8 := dkwX3_readWord_2 ++ dktX3_readWord_3
def dkwX3_readWord_1 : List UInt8 := [180, 0, 112, 162, 0, 82, 42, 180, 0, 37, 42, 180, 0, 129, 46, 133, 20, 0, 132, 20, 0, 134]
abbrev dktX3_readWord_1 : List UInt8 := dkwX3_readWord_1 ++ dktX3_readWord_2
def dkwX3_readWord_0 : List UInt8 := [42, 182, 0, 121, 60, 42, 9, 181, 0, 125, 42, 42, 180, 0, 118, 181, 0, 129, 42, 180, 0, 129, 42]
abbrev dktX3_readWord_0 : List UInt8 := dkwX3_readWord_0 ++ dktX3_readWord_1
theorem dksX3_readWord_0 : cX3_readWord.data.toList.drop 0 = dktX3_readWord_0 := by decide +kernel
theorem dksX3_readWord_1 : cX3_readWord.data.toList.drop 23 = dktX3_readWord_1 := dk_seg dksX3_readWord_0 23 rfl rfl
theorem dksX3_readWord_2 : cX3_readWord.data.toList.drop 45 = dktX3_readWord_2 := dk_seg dksX3_readWord_1 22 rfl rfl
theorem dksX3_readWord_3 : cX3_readWord.data.toList.drop 69 = dktX3_readWord_3 := dk_seg dksX3_readWord_2 24 rfl rfl
theorem dksX3_readWord_4 : cX3_readWord.data.toList.drop 92 = dktX3_readWord_4 := dk_seg dksX3_readWord_3 23 rfl rfl
theorem dX3_readWord_0 : decode cX3_readWord 0 = .ok (.aload_n 0, 1) := dk_42 (dk_at dksX3_readWord_0 0 rfl rfl)
theorem dX3_readWord_1 : decode cX3_readWord 1 = .ok (.invokevirtual 121, 3) := dk_182 0 121 (dk_at dksX3_readWord_0 1 rfl rfl)
theorem dX3_readWord_4 : decode cX3_readWord 4 = .ok (.istore_n 1, 1) := dk_60 (dk_at dksX3_readWord_0 4 rfl rfl)
theorem dX3_readWord_5 : decode cX3_readWord 5 = .ok (.aload_n 0, 1) := dk_42 (dk_at dksX3_readWord_0 5 rfl rfl)
theorem dX3_readWord_6 : decode cX3_readWord 6 = .ok (.lconst 0, 1) := dk_9 (dk_at dksX3_readWord_0 6 rfl rfl)
theorem dX3_readWord_7 : decode cX3_readWord 7 = .ok (.putfield 125, 3) := dk_181 0 125 (dk_at dksX3_readWord_0 7 rfl rfl)
theorem dX3_readWord_10 : decode cX3_readWord 10 = .ok (.aload_n 0, 1) := dk_42 (dk_at dksX3_readWord_0 10 rfl rfl)
theorem dX3_readWord_11 : decode cX3_readWord 11 = .ok (.aload_n 0, 1) := dk_42 (dk_at dksX3_readWord_0 11 rfl rfl)
theorem dX3_readWord_12 : decode cX3_readWord 12 = .ok (.getfield 118, 3) := dk_180 0 118 (dk_at dksX3_readWord_0 12 rfl rfl)
theorem dX3_readWord_15 : decode cX3_readWord 15 = .ok (.putfield 129, 3) := dk_181 0 129 (dk_at dksX3_readWord_0 15 rfl rfl)
theorem dX3_readWord_18 : decode cX3_readWord 18 = .ok (.aload_n 0, 1) := dk_42 (dk_at dksX3_readWord_0 18 rfl rfl)
theorem dX3_readWord_19 : decode cX3_readWord 19 = .ok (.getfield 129, 3) := dk_180 0 129 (dk_at dksX3_readWord_0 19 rfl rfl)
theorem dX3_readWord_22 : decode cX3_readWord 22 = .ok (.aload_n 0, 1) := dk_42 (dk_at dksX3_readWord_0 22 rfl rfl)
theorem dX3_readWord_23 : decode cX3_readWord 23 = .ok (.getfield 112, 3) := dk_180 0 112 (dk_at dksX3_readWord_1 0 rfl rfl)
theorem dX3_readWord_26 : decode cX3_readWord 26 = .ok (.if_icmp .ge 82, 3) := dk_162 0 82 (dk_at dksX3_readWord_1 3 rfl rfl)
theorem dX3_readWord_29 : decode cX3_readWord 29 = .ok (.aload_n 0, 1) := dk_42 (dk_at dksX3_readWord_1 6 rfl rfl)
theorem dX3_readWord_30 : decode cX3_readWord 30 = .ok (.getfield 37, 3) := dk_180 0 37 (dk_at dksX3_readWord_1 7 rfl rfl)
theorem dX3_readWord_33 : decode cX3_readWord 33 = .ok (.aload_n 0, 1) := dk_42 (dk_at dksX3_readWord_1 10 rfl rfl)
theorem dX3_readWord_34 : decode cX3_readWord 34 = .ok (.getfield 129, 3) := dk_180 0 129 (dk_at dksX3_readWord_1 11 rfl rfl)
theorem dX3_readWord_37 : decode cX3_readWord 37 = .ok (.iaload, 1) := dk_46 (dk_at dksX3_readWord_1 14 rfl rfl)
theorem dX3_readWord_38 : decode cX3_readWord 38 = .ok (.i2l, 1) := dk_133 (dk_at dksX3_readWord_1 15 rfl rfl)
theorem dX3_readWord_39 : decode cX3_readWord 39 = .ok (.ldc2_w 132, 3) := dk_20 0 132 (dk_at dksX3_readWord_1 16 rfl rfl)
theorem dX3_readWord_42 : decode cX3_readWord 42 = .ok (.ldc2_w 134, 3) := dk_20 0 134 (dk_at dksX3_readWord_1 19 rfl rfl)
theorem dX3_readWord_45 : decode cX3_readWord 45 = .ok (.invokestatic 99, 3) := dk_184 0 99 (dk_at dksX3_readWord_2 0 rfl rfl)
theorem dX3_readWord_48 : decode cX3_readWord 48 = .ok (.ifCond .eq 60, 3) := dk_153 0 60 (dk_at dksX3_readWord_2 3 rfl rfl)
theorem dX3_readWord_51 : decode cX3_readWord 51 = .ok (.aload_n 0, 1) := dk_42 (dk_at dksX3_readWord_2 6 rfl rfl)
theorem dX3_readWord_52 : decode cX3_readWord 52 = .ok (.aload_n 0, 1) := dk_42 (dk_at dksX3_readWord_2 7 rfl rfl)
theorem dX3_readWord_53 : decode cX3_readWord 53 = .ok (.getfield 125, 3) := dk_180 0 125 (dk_at dksX3_readWord_2 8 rfl rfl)
theorem dX3_readWord_56 : decode cX3_readWord 56 = .ok (.ldc2_w 136, 3) := dk_20 0 136 (dk_at dksX3_readWord_2 11 rfl rfl)
theorem dX3_readWord_59 : decode cX3_readWord 59 = .ok (.lcmp, 1) := dk_148 (dk_at dksX3_readWord_2 14 rfl rfl)
theorem dX3_readWord_60 : decode cX3_readWord 60 = .ok (.ifCond .le 9, 3) := dk_158 0 9 (dk_at dksX3_readWord_2 15 rfl rfl)
theorem dX3_readWord_63 : decode cX3_readWord 63 = .ok (.ldc2_w 138, 3) := dk_20 0 138 (dk_at dksX3_readWord_2 18 rfl rfl)
theorem dX3_readWord_66 : decode cX3_readWord 66 = .ok (.goto 26, 3) := dk_167 0 26 (dk_at dksX3_readWord_2 21 rfl rfl)
theorem dX3_readWord_69 : decode cX3_readWord 69 = .ok (.ldc2_w 140, 3) := dk_20 0 140 (dk_at dksX3_readWord_3 0 rfl rfl)
theorem dX3_readWord_72 : decode cX3_readWord 72 = .ok (.aload_n 0, 1) := dk_42 (dk_at dksX3_readWord_3 3 rfl rfl)
theorem dX3_readWord_73 : decode cX3_readWord 73 = .ok (.getfield 125, 3) := dk_180 0 125 (dk_at dksX3_readWord_3 4 rfl rfl)
theorem dX3_readWord_76 : decode cX3_readWord 76 = .ok (.lmul, 1) := dk_105 (dk_at dksX3_readWord_3 7 rfl rfl)
theorem dX3_readWord_77 : decode cX3_readWord 77 = .ok (.aload_n 0, 1) := dk_42 (dk_at dksX3_readWord_3 8 rfl rfl)
theorem dX3_readWord_78 : decode cX3_readWord 78 = .ok (.getfield 37, 3) := dk_180 0 37 (dk_at dksX3_readWord_3 9 rfl rfl)
theorem dX3_readWord_81 : decode cX3_readWord 81 = .ok (.aload_n 0, 1) := dk_42 (dk_at dksX3_readWord_3 12 rfl rfl)
theorem dX3_readWord_82 : decode cX3_readWord 82 = .ok (.getfield 129, 3) := dk_180 0 129 (dk_at dksX3_readWord_3 13 rfl rfl)
theorem dX3_readWord_85 : decode cX3_readWord 85 = .ok (.iaload, 1) := dk_46 (dk_at dksX3_readWord_3 16 rfl rfl)
theorem dX3_readWord_86 : decode cX3_readWord 86 = .ok (.i2l, 1) := dk_133 (dk_at dksX3_readWord_3 17 rfl rfl)
theorem dX3_readWord_87 : decode cX3_readWord 87 = .ok (.ladd, 1) := dk_97 (dk_at dksX3_readWord_3 18 rfl rfl)
theorem dX3_readWord_88 : decode cX3_readWord 88 = .ok (.ldc2_w 142, 3) := dk_20 0 142 (dk_at dksX3_readWord_3 19 rfl rfl)
theorem dX3_readWord_91 : decode cX3_readWord 91 = .ok (.lsub, 1) := dk_101 (dk_at dksX3_readWord_3 22 rfl rfl)
theorem dX3_readWord_92 : decode cX3_readWord 92 = .ok (.putfield 125, 3) := dk_181 0 125 (dk_at dksX3_readWord_4 0 rfl rfl)
theorem dX3_readWord_95 : decode cX3_readWord 95 = .ok (.aload_n 0, 1) := dk_42 (dk_at dksX3_readWord_4 3 rfl rfl)
theorem dX3_readWord_96 : decode cX3_readWord 96 = .ok (.dup, 1) := dk_89 (dk_at dksX3_readWord_4 4 rfl rfl)
theorem dX3_readWord_97 : decode cX3_readWord 97 = .ok (.getfield 129, 3) := dk_180 0 129 (dk_at dksX3_readWord_4 5 rfl rfl)
theorem dX3_readWord_100 : decode cX3_readWord 100 = .ok (.iconst 1, 1) := dk_4 (dk_at dksX3_readWord_4 8 rfl rfl)
theorem dX3_readWord_101 : decode cX3_readWord 101 = .ok (.iadd, 1) := dk_96 (dk_at dksX3_readWord_4 9 rfl rfl)
theorem dX3_readWord_102 : decode cX3_readWord 102 = .ok (.putfield 129, 3) := dk_181 0 129 (dk_at dksX3_readWord_4 10 rfl rfl)
theorem dX3_readWord_105 : decode cX3_readWord 105 = .ok (.goto (-87), 3) := dk_167 255 169 (dk_at dksX3_readWord_4 13 rfl rfl)
theorem dX3_readWord_108 : decode cX3_readWord 108 = .ok (.return_, 1) := dk_177 (dk_at dksX3_readWord_4 16 rfl rfl)
abbrev cX3_code : ByteArray := prog_10_method_13_code
def yX3_code : MethodName := ⟨RX3, "code", "(IIII)J"⟩
def dkwX3_code_1 : List UInt8 := [28, 133, 97, 20, 0, 142, 101, 105, 29, 133, 97, 20, 0, 142, 101, 173]
abbrev dktX3_code_1 : List UInt8 := dkwX3_code_1 ++ []
def dkwX3_code_0 : List UInt8 := [20, 0, 140, 20, 0, 140, 20, 0, 140, 26, 133, 20, 0, 142, 101, 105, 27, 133, 97, 20, 0, 142, 101, 105]
abbrev dktX3_code_0 : List UInt8 := dkwX3_code_0 ++ dktX3_code_1
theorem dksX3_code_0 : cX3_code.data.toList.drop 0 = dktX3_code_0 := by decide +kernel
theorem dksX3_code_1 : cX3_code.data.toList.drop 24 = dktX3_code_1 := dk_seg dksX3_code_0 24 rfl rfl
theorem dX3_code_0 : decode cX3_code 0 = .ok (.ldc2_w 140, 3) := dk_20 0 140 (dk_at dksX3_code_0 0 rfl rfl)
theorem dX3_code_3 : decode cX3_code 3 = .ok (.ldc2_w 140, 3) := dk_20 0 140 (dk_at dksX3_code_0 3 rfl rfl)
theorem dX3_code_6 : decode cX3_code 6 = .ok (.ldc2_w 140, 3) := dk_20 0 140 (dk_at dksX3_code_0 6 rfl rfl)
theorem dX3_code_9 : decode cX3_code 9 = .ok (.iload_n 0, 1) := dk_26 (dk_at dksX3_code_0 9 rfl rfl)
theorem dX3_code_10 : decode cX3_code 10 = .ok (.i2l, 1) := dk_133 (dk_at dksX3_code_0 10 rfl rfl)
theorem dX3_code_11 : decode cX3_code 11 = .ok (.ldc2_w 142, 3) := dk_20 0 142 (dk_at dksX3_code_0 11 rfl rfl)
theorem dX3_code_14 : decode cX3_code 14 = .ok (.lsub, 1) := dk_101 (dk_at dksX3_code_0 14 rfl rfl)
theorem dX3_code_15 : decode cX3_code 15 = .ok (.lmul, 1) := dk_105 (dk_at dksX3_code_0 15 rfl rfl)
theorem dX3_code_16 : decode cX3_code 16 = .ok (.iload_n 1, 1) := dk_27 (dk_at dksX3_code_0 16 rfl rfl)
theorem dX3_code_17 : decode cX3_code 17 = .ok (.i2l, 1) := dk_133 (dk_at dksX3_code_0 17 rfl rfl)
theorem dX3_code_18 : decode cX3_code 18 = .ok (.ladd, 1) := dk_97 (dk_at dksX3_code_0 18 rfl rfl)
theorem dX3_code_19 : decode cX3_code 19 = .ok (.ldc2_w 142, 3) := dk_20 0 142 (dk_at dksX3_code_0 19 rfl rfl)
theorem dX3_code_22 : decode cX3_code 22 = .ok (.lsub, 1) := dk_101 (dk_at dksX3_code_0 22 rfl rfl)
theorem dX3_code_23 : decode cX3_code 23 = .ok (.lmul, 1) := dk_105 (dk_at dksX3_code_0 23 rfl rfl)
theorem dX3_code_24 : decode cX3_code 24 = .ok (.iload_n 2, 1) := dk_28 (dk_at dksX3_code_1 0 rfl rfl)
theorem dX3_code_25 : decode cX3_code 25 = .ok (.i2l, 1) := dk_133 (dk_at dksX3_code_1 1 rfl rfl)
theorem dX3_code_26 : decode cX3_code 26 = .ok (.ladd, 1) := dk_97 (dk_at dksX3_code_1 2 rfl rfl)
theorem dX3_code_27 : decode cX3_code 27 = .ok (.ldc2_w 142, 3) := dk_20 0 142 (dk_at dksX3_code_1 3 rfl rfl)
theorem dX3_code_30 : decode cX3_code 30 = .ok (.lsub, 1) := dk_101 (dk_at dksX3_code_1 6 rfl rfl)
theorem dX3_code_31 : decode cX3_code 31 = .ok (.lmul, 1) := dk_105 (dk_at dksX3_code_1 7 rfl rfl)
theorem dX3_code_32 : decode cX3_code 32 = .ok (.iload_n 3, 1) := dk_29 (dk_at dksX3_code_1 8 rfl rfl)
theorem dX3_code_33 : decode cX3_code 33 = .ok (.i2l, 1) := dk_133 (dk_at dksX3_code_1 9 rfl rfl)
theorem dX3_code_34 : decode cX3_code 34 = .ok (.ladd, 1) := dk_97 (dk_at dksX3_code_1 10 rfl rfl)
theorem dX3_code_35 : decode cX3_code 35 = .ok (.ldc2_w 142, 3) := dk_20 0 142 (dk_at dksX3_code_1 11 rfl rfl)
theorem dX3_code_38 : decode cX3_code 38 = .ok (.lsub, 1) := dk_101 (dk_at dksX3_code_1 14 rfl rfl)
theorem dX3_code_39 : decode cX3_code 39 = .ok (.lreturn, 1) := dk_173 (dk_at dksX3_code_1 15 rfl rfl)
abbrev cX3_longer : ByteArray := prog_10_method_14_code
def yX3_longer : MethodName := ⟨RX3, "longer", "(JII)J"⟩
def dkwX3_longer_1 : List UInt8 := [20, 0, 140, 30, 105, 28, 133, 97, 20, 0, 142, 101, 105, 29, 133, 97, 20, 0, 142, 101, 173]
abbrev dktX3_longer_1 : List UInt8 := dkwX3_longer_1 ++ []
def dkwX3_longer_0 : List UInt8 := [29, 154, 0, 18, 20, 0, 140, 30, 105, 28, 133, 97, 20, 0, 142, 101, 167, 0, 26, 20, 0, 140]
abbrev dktX3_longer_0 : List UInt8 := dkwX3_longer_0 ++ dktX3_longer_1
theorem dksX3_longer_0 : cX3_longer.data.toList.drop 0 = dktX3_longer_0 := by decide +kernel
theorem dksX3_longer_1 : cX3_longer.data.toList.drop 22 = dktX3_longer_1 := dk_seg dksX3_longer_0 22 rfl rfl
theorem dX3_longer_0 : decode cX3_longer 0 = .ok (.iload_n 3, 1) := dk_29 (dk_at dksX3_longer_0 0 rfl rfl)
theorem dX3_longer_1 : decode cX3_longer 1 = .ok (.ifCond .ne 18, 3) := dk_154 0 18 (dk_at dksX3_longer_0 1 rfl rfl)
theorem dX3_longer_4 : decode cX3_longer 4 = .ok (.ldc2_w 140, 3) := dk_20 0 140 (dk_at dksX3_longer_0 4 rfl rfl)
theorem dX3_longer_7 : decode cX3_longer 7 = .ok (.lload_n 0, 1) := dk_30 (dk_at dksX3_longer_0 7 rfl rfl)
theorem dX3_longer_8 : decode cX3_longer 8 = .ok (.lmul, 1) := dk_105 (dk_at dksX3_longer_0 8 rfl rfl)
theorem dX3_longer_9 : decode cX3_longer 9 = .ok (.iload_n 2, 1) := dk_28 (dk_at dksX3_longer_0 9 rfl rfl)
theorem dX3_longer_10 : decode cX3_longer 10 = .ok (.i2l, 1) := dk_133 (dk_at dksX3_longer_0 10 rfl rfl)
theorem dX3_longer_11 : decode cX3_longer 11 = .ok (.ladd, 1) := dk_97 (dk_at dksX3_longer_0 11 rfl rfl)
theorem dX3_longer_12 : decode cX3_longer 12 = .ok (.ldc2_w 142, 3) := dk_20 0 142 (dk_at dksX3_longer_0 12 rfl rfl)
theorem dX3_longer_15 : decode cX3_longer 15 = .ok (.lsub, 1) := dk_101 (dk_at dksX3_longer_0 15 rfl rfl)
theorem dX3_longer_16 : decode cX3_longer 16 = .ok (.goto 26, 3) := dk_167 0 26 (dk_at dksX3_longer_0 16 rfl rfl)
theorem dX3_longer_19 : decode cX3_longer 19 = .ok (.ldc2_w 140, 3) := dk_20 0 140 (dk_at dksX3_longer_0 19 rfl rfl)
theorem dX3_longer_22 : decode cX3_longer 22 = .ok (.ldc2_w 140, 3) := dk_20 0 140 (dk_at dksX3_longer_1 0 rfl rfl)
theorem dX3_longer_25 : decode cX3_longer 25 = .ok (.lload_n 0, 1) := dk_30 (dk_at dksX3_longer_1 3 rfl rfl)
theorem dX3_longer_26 : decode cX3_longer 26 = .ok (.lmul, 1) := dk_105 (dk_at dksX3_longer_1 4 rfl rfl)
theorem dX3_longer_27 : decode cX3_longer 27 = .ok (.iload_n 2, 1) := dk_28 (dk_at dksX3_longer_1 5 rfl rfl)
theorem dX3_longer_28 : decode cX3_longer 28 = .ok (.i2l, 1) := dk_133 (dk_at dksX3_longer_1 6 rfl rfl)
theorem dX3_longer_29 : decode cX3_longer 29 = .ok (.ladd, 1) := dk_97 (dk_at dksX3_longer_1 7 rfl rfl)
theorem dX3_longer_30 : decode cX3_longer 30 = .ok (.ldc2_w 142, 3) := dk_20 0 142 (dk_at dksX3_longer_1 8 rfl rfl)
theorem dX3_longer_33 : decode cX3_longer 33 = .ok (.lsub, 1) := dk_101 (dk_at dksX3_longer_1 11 rfl rfl)
theorem dX3_longer_34 : decode cX3_longer 34 = .ok (.lmul, 1) := dk_105 (dk_at dksX3_longer_1 12 rfl rfl)
theorem dX3_longer_35 : decode cX3_longer 35 = .ok (.iload_n 3, 1) := dk_29 (dk_at dksX3_longer_1 13 rfl rfl)
theorem dX3_longer_36 : decode cX3_longer 36 = .ok (.i2l, 1) := dk_133 (dk_at dksX3_longer_1 14 rfl rfl)
theorem dX3_longer_37 : decode cX3_longer 37 = .ok (.ladd, 1) := dk_97 (dk_at dksX3_longer_1 15 rfl rfl)
theorem dX3_longer_38 : decode cX3_longer 38 = .ok (.ldc2_w 142, 3) := dk_20 0 142 (dk_at dksX3_longer_1 16 rfl rfl)
theorem dX3_longer_41 : decode cX3_longer 41 = .ok (.lsub, 1) := dk_101 (dk_at dksX3_longer_1 19 rfl rfl)
theorem dX3_longer_42 : decode cX3_longer 42 = .ok (.lreturn, 1) := dk_173 (dk_at dksX3_longer_1 20 rfl rfl)
abbrev cX3_fails : ByteArray := prog_10_method_11_code
def yX3_fails : MethodName := ⟨RX3, "fails", "(II)I"⟩
def dkwX3_fails_0 : List UInt8 := [42, 28, 181, 0, 40, 27, 172]
abbrev dktX3_fails_0 : List UInt8 := dkwX3_fails_0 ++ []
theorem dksX3_fails_0 : cX3_fails.data.toList.drop 0 = dktX3_fails_0 := by decide +kernel
theorem dX3_fails_0 : decode cX3_fails 0 = .ok (.aload_n 0, 1) := dk_42 (dk_at dksX3_fails_0 0 rfl rfl)
theorem dX3_fails_1 : decode cX3_fails 1 = .ok (.iload_n 2, 1) := dk_28 (dk_at dksX3_fails_0 1 rfl rfl)
theorem dX3_fails_2 : decode cX3_fails 2 = .ok (.putfield 40, 3) := dk_181 0 40 (dk_at dksX3_fails_0 2 rfl rfl)
theorem dX3_fails_5 : decode cX3_fails 5 = .ok (.iload_n 1, 1) := dk_27 (dk_at dksX3_fails_0 5 rfl rfl)
theorem dX3_fails_6 : decode cX3_fails 6 = .ok (.ireturn, 1) := dk_172 (dk_at dksX3_fails_0 6 rfl rfl)
abbrev cX3_takeNumber : ByteArray := prog_10_method_15_code
def yX3_takeNumber : MethodName := ⟨RX3, "takeNumber", "(II)I"⟩
def dkwX3_takeNumber_7 : List UInt8 := [182, 0, 148, 167, 0, 4, 3, 172]
abbrev dktX3_takeNumber_7 : List UInt8 := dkwX3_takeNumber_7 ++ []
def dkwX3_takeNumber_6 : List UInt8 := [163, 0, 18, 42, 180, 0, 155, 133, 27, 133, 28, 133, 184, 0, 99, 154, 0, 15, 42, 5, 42, 180, 0, 152]
abbrev dktX3_takeNumber_6 : List UInt8 := dkwX3_takeNumber_6 ++ dktX3_takeNumber_7
def dkwX3_takeNumber_5 : List UInt8 := [89, 180, 0, 118, 4, 96, 181, 0, 118, 167, 255, 172, 42, 180, 0, 118, 42, 180, 0, 152, 100, 6]
abbrev dktX3_takeNumber_5 : List UInt8 := dkwX3_takeNumber_5 ++ dktX3_takeNumber_6
def dkwX3_takeNumber_4 : List UInt8 := [16, 10, 42, 180, 0, 155, 104, 42, 180, 0, 37, 42, 180, 0, 118, 46, 96, 16, 48, 100, 181, 0, 155, 42]
abbrev dktX3_takeNumber_4 : List UInt8 := dkwX3_takeNumber_4 ++ dktX3_takeNumber_5
def dkwX3_takeNumber_3 : List UInt8 := [184, 0, 99, 153, 0, 57, 42, 42, 180, 0, 155, 17, 39, 16, 164, 0, 10, 42, 180, 0, 155, 167, 0, 23]
abbrev dktX3_takeNumber_3 : List UInt8 := dkwX3_takeNumber_3 ++ dktX3_takeNumber_4
def dkwX3_takeNumber_2 : List UInt8 := [42, 180, 0, 112, 162, 0, 79, 42, 180, 0, 37, 42, 180, 0, 118, 46, 133, 20, 0, 144, 20, 0, 146]
abbrev dktX3_takeNumber_2 : List UInt8 := dkwX3_takeNumber_2 ++ dktX3_takeNumber_3
def dkwX3_takeNumber_1 : List UInt8 := [180, 0, 118, 182, 0, 148, 172, 42, 42, 180, 0, 118, 181, 0, 152, 42, 3, 181, 0, 155, 42, 180, 0, 118]
abbrev dktX3_takeNumber_1 : List UInt8 := dkwX3_takeNumber_1 ++ dktX3_takeNumber_2
def dkwX3_takeNumber_0 : List UInt8 := [42, 182, 0, 121, 62, 29, 133, 20, 0, 144, 20, 0, 146, 184, 0, 99, 154, 0, 13, 42, 4, 42]
abbrev dktX3_takeNumber_0 : List UInt8 := dkwX3_takeNumber_0 ++ dktX3_takeNumber_1
theorem dksX3_takeNumber_0 : cX3_takeNumber.data.toList.drop 0 = dktX3_takeNumber_0 := by decide +kernel
theorem dksX3_takeNumber_1 : cX3_takeNumber.data.toList.drop 22 = dktX3_takeNumber_1 := dk_seg dksX3_takeNumber_0 22 rfl rfl
theorem dksX3_takeNumber_2 : cX3_takeNumber.data.toList.drop 46 = dktX3_takeNumber_2 := dk_seg dksX3_takeNumber_1 24 rfl rfl
theorem dksX3_takeNumber_3 : cX3_takeNumber.data.toList.drop 69 = dktX3_takeNumber_3 := dk_seg dksX3_takeNumber_2 23 rfl rfl
theorem dksX3_takeNumber_4 : cX3_takeNumber.data.toList.drop 93 = dktX3_takeNumber_4 := dk_seg dksX3_takeNumber_3 24 rfl rfl
theorem dksX3_takeNumber_5 : cX3_takeNumber.data.toList.drop 117 = dktX3_takeNumber_5 := dk_seg dksX3_takeNumber_4 24 rfl rfl
theorem dksX3_takeNumber_6 : cX3_takeNumber.data.toList.drop 139 = dktX3_takeNumber_6 := dk_seg dksX3_takeNumber_5 22 rfl rfl
theorem dksX3_takeNumber_7 : cX3_takeNumber.data.toList.drop 163 = dktX3_takeNumber_7 := dk_seg dksX3_takeNumber_6 24 rfl rfl
theorem dX3_takeNumber_0 : decode cX3_takeNumber 0 = .ok (.aload_n 0, 1) := dk_42 (dk_at dksX3_takeNumber_0 0 rfl rfl)
theorem dX3_takeNumber_1 : decode cX3_takeNumber 1 = .ok (.invokevirtual 121, 3) := dk_182 0 121 (dk_at dksX3_takeNumber_0 1 rfl rfl)
theorem dX3_takeNumber_4 : decode cX3_takeNumber 4 = .ok (.istore_n 3, 1) := dk_62 (dk_at dksX3_takeNumber_0 4 rfl rfl)
theorem dX3_takeNumber_5 : decode cX3_takeNumber 5 = .ok (.iload_n 3, 1) := dk_29 (dk_at dksX3_takeNumber_0 5 rfl rfl)
theorem dX3_takeNumber_6 : decode cX3_takeNumber 6 = .ok (.i2l, 1) := dk_133 (dk_at dksX3_takeNumber_0 6 rfl rfl)
theorem dX3_takeNumber_7 : decode cX3_takeNumber 7 = .ok (.ldc2_w 144, 3) := dk_20 0 144 (dk_at dksX3_takeNumber_0 7 rfl rfl)
theorem dX3_takeNumber_10 : decode cX3_takeNumber 10 = .ok (.ldc2_w 146, 3) := dk_20 0 146 (dk_at dksX3_takeNumber_0 10 rfl rfl)
theorem dX3_takeNumber_13 : decode cX3_takeNumber 13 = .ok (.invokestatic 99, 3) := dk_184 0 99 (dk_at dksX3_takeNumber_0 13 rfl rfl)
theorem dX3_takeNumber_16 : decode cX3_takeNumber 16 = .ok (.ifCond .ne 13, 3) := dk_154 0 13 (dk_at dksX3_takeNumber_0 16 rfl rfl)
theorem dX3_takeNumber_19 : decode cX3_takeNumber 19 = .ok (.aload_n 0, 1) := dk_42 (dk_at dksX3_takeNumber_0 19 rfl rfl)
theorem dX3_takeNumber_20 : decode cX3_takeNumber 20 = .ok (.iconst 1, 1) := dk_4 (dk_at dksX3_takeNumber_0 20 rfl rfl)
theorem dX3_takeNumber_21 : decode cX3_takeNumber 21 = .ok (.aload_n 0, 1) := dk_42 (dk_at dksX3_takeNumber_0 21 rfl rfl)
theorem dX3_takeNumber_22 : decode cX3_takeNumber 22 = .ok (.getfield 118, 3) := dk_180 0 118 (dk_at dksX3_takeNumber_1 0 rfl rfl)
theorem dX3_takeNumber_25 : decode cX3_takeNumber 25 = .ok (.invokevirtual 148, 3) := dk_182 0 148 (dk_at dksX3_takeNumber_1 3 rfl rfl)
theorem dX3_takeNumber_28 : decode cX3_takeNumber 28 = .ok (.ireturn, 1) := dk_172 (dk_at dksX3_takeNumber_1 6 rfl rfl)
theorem dX3_takeNumber_29 : decode cX3_takeNumber 29 = .ok (.aload_n 0, 1) := dk_42 (dk_at dksX3_takeNumber_1 7 rfl rfl)
theorem dX3_takeNumber_30 : decode cX3_takeNumber 30 = .ok (.aload_n 0, 1) := dk_42 (dk_at dksX3_takeNumber_1 8 rfl rfl)
theorem dX3_takeNumber_31 : decode cX3_takeNumber 31 = .ok (.getfield 118, 3) := dk_180 0 118 (dk_at dksX3_takeNumber_1 9 rfl rfl)
theorem dX3_takeNumber_34 : decode cX3_takeNumber 34 = .ok (.putfield 152, 3) := dk_181 0 152 (dk_at dksX3_takeNumber_1 12 rfl rfl)
theorem dX3_takeNumber_37 : decode cX3_takeNumber 37 = .ok (.aload_n 0, 1) := dk_42 (dk_at dksX3_takeNumber_1 15 rfl rfl)
theorem dX3_takeNumber_38 : decode cX3_takeNumber 38 = .ok (.iconst 0, 1) := dk_3 (dk_at dksX3_takeNumber_1 16 rfl rfl)
theorem dX3_takeNumber_39 : decode cX3_takeNumber 39 = .ok (.putfield 155, 3) := dk_181 0 155 (dk_at dksX3_takeNumber_1 17 rfl rfl)
theorem dX3_takeNumber_42 : decode cX3_takeNumber 42 = .ok (.aload_n 0, 1) := dk_42 (dk_at dksX3_takeNumber_1 20 rfl rfl)
theorem dX3_takeNumber_43 : decode cX3_takeNumber 43 = .ok (.getfield 118, 3) := dk_180 0 118 (dk_at dksX3_takeNumber_1 21 rfl rfl)
theorem dX3_takeNumber_46 : decode cX3_takeNumber 46 = .ok (.aload_n 0, 1) := dk_42 (dk_at dksX3_takeNumber_2 0 rfl rfl)
theorem dX3_takeNumber_47 : decode cX3_takeNumber 47 = .ok (.getfield 112, 3) := dk_180 0 112 (dk_at dksX3_takeNumber_2 1 rfl rfl)
theorem dX3_takeNumber_50 : decode cX3_takeNumber 50 = .ok (.if_icmp .ge 79, 3) := dk_162 0 79 (dk_at dksX3_takeNumber_2 4 rfl rfl)
theorem dX3_takeNumber_53 : decode cX3_takeNumber 53 = .ok (.aload_n 0, 1) := dk_42 (dk_at dksX3_takeNumber_2 7 rfl rfl)
theorem dX3_takeNumber_54 : decode cX3_takeNumber 54 = .ok (.getfield 37, 3) := dk_180 0 37 (dk_at dksX3_takeNumber_2 8 rfl rfl)
theorem dX3_takeNumber_57 : decode cX3_takeNumber 57 = .ok (.aload_n 0, 1) := dk_42 (dk_at dksX3_takeNumber_2 11 rfl rfl)
theorem dX3_takeNumber_58 : decode cX3_takeNumber 58 = .ok (.getfield 118, 3) := dk_180 0 118 (dk_at dksX3_takeNumber_2 12 rfl rfl)
theorem dX3_takeNumber_61 : decode cX3_takeNumber 61 = .ok (.iaload, 1) := dk_46 (dk_at dksX3_takeNumber_2 15 rfl rfl)
theorem dX3_takeNumber_62 : decode cX3_takeNumber 62 = .ok (.i2l, 1) := dk_133 (dk_at dksX3_takeNumber_2 16 rfl rfl)
theorem dX3_takeNumber_63 : decode cX3_takeNumber 63 = .ok (.ldc2_w 144, 3) := dk_20 0 144 (dk_at dksX3_takeNumber_2 17 rfl rfl)
theorem dX3_takeNumber_66 : decode cX3_takeNumber 66 = .ok (.ldc2_w 146, 3) := dk_20 0 146 (dk_at dksX3_takeNumber_2 20 rfl rfl)
theorem dX3_takeNumber_69 : decode cX3_takeNumber 69 = .ok (.invokestatic 99, 3) := dk_184 0 99 (dk_at dksX3_takeNumber_3 0 rfl rfl)
theorem dX3_takeNumber_72 : decode cX3_takeNumber 72 = .ok (.ifCond .eq 57, 3) := dk_153 0 57 (dk_at dksX3_takeNumber_3 3 rfl rfl)
theorem dX3_takeNumber_75 : decode cX3_takeNumber 75 = .ok (.aload_n 0, 1) := dk_42 (dk_at dksX3_takeNumber_3 6 rfl rfl)
theorem dX3_takeNumber_76 : decode cX3_takeNumber 76 = .ok (.aload_n 0, 1) := dk_42 (dk_at dksX3_takeNumber_3 7 rfl rfl)
theorem dX3_takeNumber_77 : decode cX3_takeNumber 77 = .ok (.getfield 155, 3) := dk_180 0 155 (dk_at dksX3_takeNumber_3 8 rfl rfl)
theorem dX3_takeNumber_80 : decode cX3_takeNumber 80 = .ok (.sipush 10000, 3) := dk_17 39 16 (dk_at dksX3_takeNumber_3 11 rfl rfl)
theorem dX3_takeNumber_83 : decode cX3_takeNumber 83 = .ok (.if_icmp .le 10, 3) := dk_164 0 10 (dk_at dksX3_takeNumber_3 14 rfl rfl)
theorem dX3_takeNumber_86 : decode cX3_takeNumber 86 = .ok (.aload_n 0, 1) := dk_42 (dk_at dksX3_takeNumber_3 17 rfl rfl)
theorem dX3_takeNumber_87 : decode cX3_takeNumber 87 = .ok (.getfield 155, 3) := dk_180 0 155 (dk_at dksX3_takeNumber_3 18 rfl rfl)
theorem dX3_takeNumber_90 : decode cX3_takeNumber 90 = .ok (.goto 23, 3) := dk_167 0 23 (dk_at dksX3_takeNumber_3 21 rfl rfl)
theorem dX3_takeNumber_93 : decode cX3_takeNumber 93 = .ok (.bipush 10, 2) := dk_16 10 (dk_at dksX3_takeNumber_4 0 rfl rfl)
theorem dX3_takeNumber_95 : decode cX3_takeNumber 95 = .ok (.aload_n 0, 1) := dk_42 (dk_at dksX3_takeNumber_4 2 rfl rfl)
theorem dX3_takeNumber_96 : decode cX3_takeNumber 96 = .ok (.getfield 155, 3) := dk_180 0 155 (dk_at dksX3_takeNumber_4 3 rfl rfl)
theorem dX3_takeNumber_99 : decode cX3_takeNumber 99 = .ok (.imul, 1) := dk_104 (dk_at dksX3_takeNumber_4 6 rfl rfl)
theorem dX3_takeNumber_100 : decode cX3_takeNumber 100 = .ok (.aload_n 0, 1) := dk_42 (dk_at dksX3_takeNumber_4 7 rfl rfl)
theorem dX3_takeNumber_101 : decode cX3_takeNumber 101 = .ok (.getfield 37, 3) := dk_180 0 37 (dk_at dksX3_takeNumber_4 8 rfl rfl)
theorem dX3_takeNumber_104 : decode cX3_takeNumber 104 = .ok (.aload_n 0, 1) := dk_42 (dk_at dksX3_takeNumber_4 11 rfl rfl)
theorem dX3_takeNumber_105 : decode cX3_takeNumber 105 = .ok (.getfield 118, 3) := dk_180 0 118 (dk_at dksX3_takeNumber_4 12 rfl rfl)
theorem dX3_takeNumber_108 : decode cX3_takeNumber 108 = .ok (.iaload, 1) := dk_46 (dk_at dksX3_takeNumber_4 15 rfl rfl)
theorem dX3_takeNumber_109 : decode cX3_takeNumber 109 = .ok (.iadd, 1) := dk_96 (dk_at dksX3_takeNumber_4 16 rfl rfl)
theorem dX3_takeNumber_110 : decode cX3_takeNumber 110 = .ok (.bipush 48, 2) := dk_16 48 (dk_at dksX3_takeNumber_4 17 rfl rfl)
theorem dX3_takeNumber_112 : decode cX3_takeNumber 112 = .ok (.isub, 1) := dk_100 (dk_at dksX3_takeNumber_4 19 rfl rfl)
theorem dX3_takeNumber_113 : decode cX3_takeNumber 113 = .ok (.putfield 155, 3) := dk_181 0 155 (dk_at dksX3_takeNumber_4 20 rfl rfl)
theorem dX3_takeNumber_116 : decode cX3_takeNumber 116 = .ok (.aload_n 0, 1) := dk_42 (dk_at dksX3_takeNumber_4 23 rfl rfl)
theorem dX3_takeNumber_117 : decode cX3_takeNumber 117 = .ok (.dup, 1) := dk_89 (dk_at dksX3_takeNumber_5 0 rfl rfl)
theorem dX3_takeNumber_118 : decode cX3_takeNumber 118 = .ok (.getfield 118, 3) := dk_180 0 118 (dk_at dksX3_takeNumber_5 1 rfl rfl)
theorem dX3_takeNumber_121 : decode cX3_takeNumber 121 = .ok (.iconst 1, 1) := dk_4 (dk_at dksX3_takeNumber_5 4 rfl rfl)
theorem dX3_takeNumber_122 : decode cX3_takeNumber 122 = .ok (.iadd, 1) := dk_96 (dk_at dksX3_takeNumber_5 5 rfl rfl)
theorem dX3_takeNumber_123 : decode cX3_takeNumber 123 = .ok (.putfield 118, 3) := dk_181 0 118 (dk_at dksX3_takeNumber_5 6 rfl rfl)
theorem dX3_takeNumber_126 : decode cX3_takeNumber 126 = .ok (.goto (-84), 3) := dk_167 255 172 (dk_at dksX3_takeNumber_5 9 rfl rfl)
theorem dX3_takeNumber_129 : decode cX3_takeNumber 129 = .ok (.aload_n 0, 1) := dk_42 (dk_at dksX3_takeNumber_5 12 rfl rfl)
theorem dX3_takeNumber_130 : decode cX3_takeNumber 130 = .ok (.getfield 118, 3) := dk_180 0 118 (dk_at dksX3_takeNumber_5 13 rfl rfl)
theorem dX3_takeNumber_133 : decode cX3_takeNumber 133 = .ok (.aload_n 0, 1) := dk_42 (dk_at dksX3_takeNumber_5 16 rfl rfl)
theorem dX3_takeNumber_134 : decode cX3_takeNumber 134 = .ok (.getfield 152, 3) := dk_180 0 152 (dk_at dksX3_takeNumber_5 17 rfl rfl)
theorem dX3_takeNumber_137 : decode cX3_takeNumber 137 = .ok (.isub, 1) := dk_100 (dk_at dksX3_takeNumber_5 20 rfl rfl)
theorem dX3_takeNumber_138 : decode cX3_takeNumber 138 = .ok (.iconst 3, 1) := dk_6 (dk_at dksX3_takeNumber_5 21 rfl rfl)
theorem dX3_takeNumber_139 : decode cX3_takeNumber 139 = .ok (.if_icmp .gt 18, 3) := dk_163 0 18 (dk_at dksX3_takeNumber_6 0 rfl rfl)
theorem dX3_takeNumber_142 : decode cX3_takeNumber 142 = .ok (.aload_n 0, 1) := dk_42 (dk_at dksX3_takeNumber_6 3 rfl rfl)
theorem dX3_takeNumber_143 : decode cX3_takeNumber 143 = .ok (.getfield 155, 3) := dk_180 0 155 (dk_at dksX3_takeNumber_6 4 rfl rfl)
theorem dX3_takeNumber_146 : decode cX3_takeNumber 146 = .ok (.i2l, 1) := dk_133 (dk_at dksX3_takeNumber_6 7 rfl rfl)
theorem dX3_takeNumber_147 : decode cX3_takeNumber 147 = .ok (.iload_n 1, 1) := dk_27 (dk_at dksX3_takeNumber_6 8 rfl rfl)
theorem dX3_takeNumber_148 : decode cX3_takeNumber 148 = .ok (.i2l, 1) := dk_133 (dk_at dksX3_takeNumber_6 9 rfl rfl)
theorem dX3_takeNumber_149 : decode cX3_takeNumber 149 = .ok (.iload_n 2, 1) := dk_28 (dk_at dksX3_takeNumber_6 10 rfl rfl)
theorem dX3_takeNumber_150 : decode cX3_takeNumber 150 = .ok (.i2l, 1) := dk_133 (dk_at dksX3_takeNumber_6 11 rfl rfl)
theorem dX3_takeNumber_151 : decode cX3_takeNumber 151 = .ok (.invokestatic 99, 3) := dk_184 0 99 (dk_at dksX3_takeNumber_6 12 rfl rfl)
theorem dX3_takeNumber_154 : decode cX3_takeNumber 154 = .ok (.ifCond .ne 15, 3) := dk_154 0 15 (dk_at dksX3_takeNumber_6 15 rfl rfl)
theorem dX3_takeNumber_157 : decode cX3_takeNumber 157 = .ok (.aload_n 0, 1) := dk_42 (dk_at dksX3_takeNumber_6 18 rfl rfl)
theorem dX3_takeNumber_158 : decode cX3_takeNumber 158 = .ok (.iconst 2, 1) := dk_5 (dk_at dksX3_takeNumber_6 19 rfl rfl)
theorem dX3_takeNumber_159 : decode cX3_takeNumber 159 = .ok (.aload_n 0, 1) := dk_42 (dk_at dksX3_takeNumber_6 20 rfl rfl)
theorem dX3_takeNumber_160 : decode cX3_takeNumber 160 = .ok (.getfield 152, 3) := dk_180 0 152 (dk_at dksX3_takeNumber_6 21 rfl rfl)
theorem dX3_takeNumber_163 : decode cX3_takeNumber 163 = .ok (.invokevirtual 148, 3) := dk_182 0 148 (dk_at dksX3_takeNumber_7 0 rfl rfl)
theorem dX3_takeNumber_166 : decode cX3_takeNumber 166 = .ok (.goto 4, 3) := dk_167 0 4 (dk_at dksX3_takeNumber_7 3 rfl rfl)
theorem dX3_takeNumber_169 : decode cX3_takeNumber 169 = .ok (.iconst 0, 1) := dk_3 (dk_at dksX3_takeNumber_7 6 rfl rfl)
theorem dX3_takeNumber_170 : decode cX3_takeNumber 170 = .ok (.ireturn, 1) := dk_172 (dk_at dksX3_takeNumber_7 7 rfl rfl)
abbrev cX3_takeStair : ByteArray := prog_10_method_18_code
def yX3_takeStair : MethodName := ⟨RX3, "takeStair", "()I"⟩
def dkwX3_takeStair_8 : List UInt8 := [160, 0, 15, 42, 7, 42, 180, 0, 152, 182, 0, 148, 167, 0, 8, 42, 27, 182, 0, 182, 172]
abbrev dktX3_takeStair_8 : List UInt8 := dkwX3_takeStair_8 ++ []
def dkwX3_takeStair_7 : List UInt8 := [100, 182, 0, 161, 62, 29, 158, 0, 5, 29, 172, 42, 180, 0, 47, 27, 46, 42, 180, 0, 50, 27, 46]
abbrev dktX3_takeStair_7 : List UInt8 := dkwX3_takeStair_7 ++ dktX3_takeStair_8
def dkwX3_takeStair_6 : List UInt8 := [182, 0, 161, 62, 29, 158, 0, 7, 29, 167, 0, 19, 42, 42, 180, 0, 50, 27, 3, 42, 180, 0, 179, 4]
abbrev dktX3_takeStair_6 : List UInt8 := dkwX3_takeStair_6 ++ dktX3_takeStair_7
def dkwX3_takeStair_5 : List UInt8 := [181, 0, 118, 42, 180, 0, 44, 27, 28, 79, 42, 42, 180, 0, 47, 27, 3, 42, 180, 0, 179, 4, 100]
abbrev dktX3_takeStair_5 : List UInt8 := dkwX3_takeStair_5 ++ dktX3_takeStair_6
def dkwX3_takeStair_4 : List UInt8 := [167, 0, 4, 2, 61, 28, 156, 0, 13, 42, 4, 42, 180, 0, 118, 182, 0, 148, 172, 42, 42, 180, 0, 129]
abbrev dktX3_takeStair_4 : List UInt8 := dkwX3_takeStair_4 ++ dktX3_takeStair_5
def dkwX3_takeStair_3 : List UInt8 := [167, 0, 27, 42, 180, 0, 125, 16, 108, 16, 101, 16, 97, 16, 112, 184, 0, 171, 148, 154, 0, 7, 5]
abbrev dktX3_takeStair_3 : List UInt8 := dkwX3_takeStair_3 ++ dktX3_takeStair_4
def dkwX3_takeStair_2 : List UInt8 := [167, 0, 50, 42, 180, 0, 125, 16, 111, 16, 112, 16, 101, 16, 110, 184, 0, 171, 148, 154, 0, 7, 4]
abbrev dktX3_takeStair_2 : List UInt8 := dkwX3_takeStair_2 ++ dktX3_takeStair_3
def dkwX3_takeStair_1 : List UInt8 := [16, 112, 16, 108, 16, 97, 16, 105, 184, 0, 171, 16, 110, 3, 184, 0, 175, 148, 154, 0, 7, 3]
abbrev dktX3_takeStair_1 : List UInt8 := dkwX3_takeStair_1 ++ dktX3_takeStair_2
def dkwX3_takeStair_0 : List UInt8 := [42, 180, 0, 165, 60, 42, 89, 180, 0, 165, 4, 96, 181, 0, 165, 42, 182, 0, 168, 42, 180, 0, 125]
abbrev dktX3_takeStair_0 : List UInt8 := dkwX3_takeStair_0 ++ dktX3_takeStair_1
theorem dksX3_takeStair_0 : cX3_takeStair.data.toList.drop 0 = dktX3_takeStair_0 := by decide +kernel
theorem dksX3_takeStair_1 : cX3_takeStair.data.toList.drop 23 = dktX3_takeStair_1 := dk_seg dksX3_takeStair_0 23 rfl rfl
theorem dksX3_takeStair_2 : cX3_takeStair.data.toList.drop 45 = dktX3_takeStair_2 := dk_seg dksX3_takeStair_1 22 rfl rfl
theorem dksX3_takeStair_3 : cX3_takeStair.data.toList.drop 68 = dktX3_takeStair_3 := dk_seg dksX3_takeStair_2 23 rfl rfl
theorem dksX3_takeStair_4 : cX3_takeStair.data.toList.drop 91 = dktX3_takeStair_4 := dk_seg dksX3_takeStair_3 23 rfl rfl
theorem dksX3_takeStair_5 : cX3_takeStair.data.toList.drop 115 = dktX3_takeStair_5 := dk_seg dksX3_takeStair_4 24 rfl rfl
theorem dksX3_takeStair_6 : cX3_takeStair.data.toList.drop 138 = dktX3_takeStair_6 := dk_seg dksX3_takeStair_5 23 rfl rfl
theorem dksX3_takeStair_7 : cX3_takeStair.data.toList.drop 162 = dktX3_takeStair_7 := dk_seg dksX3_takeStair_6 24 rfl rfl
theorem dksX3_takeStair_8 : cX3_takeStair.data.toList.drop 185 = dktX3_takeStair_8 := dk_seg dksX3_takeStair_7 23 rfl rfl
theorem dX3_takeStair_0 : decode cX3_takeStair 0 = .ok (.aload_n 0, 1) := dk_42 (dk_at dksX3_takeStair_0 0 rfl rfl)
theorem dX3_takeStair_1 : decode cX3_takeStair 1 = .ok (.getfield 165, 3) := dk_180 0 165 (dk_at dksX3_takeStair_0 1 rfl rfl)
theorem dX3_takeStair_4 : decode cX3_takeStair 4 = .ok (.istore_n 1, 1) := dk_60 (dk_at dksX3_takeStair_0 4 rfl rfl)
theorem dX3_takeStair_5 : decode cX3_takeStair 5 = .ok (.aload_n 0, 1) := dk_42 (dk_at dksX3_takeStair_0 5 rfl rfl)
theorem dX3_takeStair_6 : decode cX3_takeStair 6 = .ok (.dup, 1) := dk_89 (dk_at dksX3_takeStair_0 6 rfl rfl)
theorem dX3_takeStair_7 : decode cX3_takeStair 7 = .ok (.getfield 165, 3) := dk_180 0 165 (dk_at dksX3_takeStair_0 7 rfl rfl)
theorem dX3_takeStair_10 : decode cX3_takeStair 10 = .ok (.iconst 1, 1) := dk_4 (dk_at dksX3_takeStair_0 10 rfl rfl)
theorem dX3_takeStair_11 : decode cX3_takeStair 11 = .ok (.iadd, 1) := dk_96 (dk_at dksX3_takeStair_0 11 rfl rfl)
theorem dX3_takeStair_12 : decode cX3_takeStair 12 = .ok (.putfield 165, 3) := dk_181 0 165 (dk_at dksX3_takeStair_0 12 rfl rfl)
theorem dX3_takeStair_15 : decode cX3_takeStair 15 = .ok (.aload_n 0, 1) := dk_42 (dk_at dksX3_takeStair_0 15 rfl rfl)
theorem dX3_takeStair_16 : decode cX3_takeStair 16 = .ok (.invokevirtual 168, 3) := dk_182 0 168 (dk_at dksX3_takeStair_0 16 rfl rfl)
theorem dX3_takeStair_19 : decode cX3_takeStair 19 = .ok (.aload_n 0, 1) := dk_42 (dk_at dksX3_takeStair_0 19 rfl rfl)
theorem dX3_takeStair_20 : decode cX3_takeStair 20 = .ok (.getfield 125, 3) := dk_180 0 125 (dk_at dksX3_takeStair_0 20 rfl rfl)
theorem dX3_takeStair_23 : decode cX3_takeStair 23 = .ok (.bipush 112, 2) := dk_16 112 (dk_at dksX3_takeStair_1 0 rfl rfl)
theorem dX3_takeStair_25 : decode cX3_takeStair 25 = .ok (.bipush 108, 2) := dk_16 108 (dk_at dksX3_takeStair_1 2 rfl rfl)
theorem dX3_takeStair_27 : decode cX3_takeStair 27 = .ok (.bipush 97, 2) := dk_16 97 (dk_at dksX3_takeStair_1 4 rfl rfl)
theorem dX3_takeStair_29 : decode cX3_takeStair 29 = .ok (.bipush 105, 2) := dk_16 105 (dk_at dksX3_takeStair_1 6 rfl rfl)
theorem dX3_takeStair_31 : decode cX3_takeStair 31 = .ok (.invokestatic 171, 3) := dk_184 0 171 (dk_at dksX3_takeStair_1 8 rfl rfl)
theorem dX3_takeStair_34 : decode cX3_takeStair 34 = .ok (.bipush 110, 2) := dk_16 110 (dk_at dksX3_takeStair_1 11 rfl rfl)
theorem dX3_takeStair_36 : decode cX3_takeStair 36 = .ok (.iconst 0, 1) := dk_3 (dk_at dksX3_takeStair_1 13 rfl rfl)
theorem dX3_takeStair_37 : decode cX3_takeStair 37 = .ok (.invokestatic 175, 3) := dk_184 0 175 (dk_at dksX3_takeStair_1 14 rfl rfl)
theorem dX3_takeStair_40 : decode cX3_takeStair 40 = .ok (.lcmp, 1) := dk_148 (dk_at dksX3_takeStair_1 17 rfl rfl)
theorem dX3_takeStair_41 : decode cX3_takeStair 41 = .ok (.ifCond .ne 7, 3) := dk_154 0 7 (dk_at dksX3_takeStair_1 18 rfl rfl)
theorem dX3_takeStair_44 : decode cX3_takeStair 44 = .ok (.iconst 0, 1) := dk_3 (dk_at dksX3_takeStair_1 21 rfl rfl)
theorem dX3_takeStair_45 : decode cX3_takeStair 45 = .ok (.goto 50, 3) := dk_167 0 50 (dk_at dksX3_takeStair_2 0 rfl rfl)
theorem dX3_takeStair_48 : decode cX3_takeStair 48 = .ok (.aload_n 0, 1) := dk_42 (dk_at dksX3_takeStair_2 3 rfl rfl)
theorem dX3_takeStair_49 : decode cX3_takeStair 49 = .ok (.getfield 125, 3) := dk_180 0 125 (dk_at dksX3_takeStair_2 4 rfl rfl)
theorem dX3_takeStair_52 : decode cX3_takeStair 52 = .ok (.bipush 111, 2) := dk_16 111 (dk_at dksX3_takeStair_2 7 rfl rfl)
theorem dX3_takeStair_54 : decode cX3_takeStair 54 = .ok (.bipush 112, 2) := dk_16 112 (dk_at dksX3_takeStair_2 9 rfl rfl)
theorem dX3_takeStair_56 : decode cX3_takeStair 56 = .ok (.bipush 101, 2) := dk_16 101 (dk_at dksX3_takeStair_2 11 rfl rfl)
theorem dX3_takeStair_58 : decode cX3_takeStair 58 = .ok (.bipush 110, 2) := dk_16 110 (dk_at dksX3_takeStair_2 13 rfl rfl)
theorem dX3_takeStair_60 : decode cX3_takeStair 60 = .ok (.invokestatic 171, 3) := dk_184 0 171 (dk_at dksX3_takeStair_2 15 rfl rfl)
theorem dX3_takeStair_63 : decode cX3_takeStair 63 = .ok (.lcmp, 1) := dk_148 (dk_at dksX3_takeStair_2 18 rfl rfl)
theorem dX3_takeStair_64 : decode cX3_takeStair 64 = .ok (.ifCond .ne 7, 3) := dk_154 0 7 (dk_at dksX3_takeStair_2 19 rfl rfl)
theorem dX3_takeStair_67 : decode cX3_takeStair 67 = .ok (.iconst 1, 1) := dk_4 (dk_at dksX3_takeStair_2 22 rfl rfl)
theorem dX3_takeStair_68 : decode cX3_takeStair 68 = .ok (.goto 27, 3) := dk_167 0 27 (dk_at dksX3_takeStair_3 0 rfl rfl)
theorem dX3_takeStair_71 : decode cX3_takeStair 71 = .ok (.aload_n 0, 1) := dk_42 (dk_at dksX3_takeStair_3 3 rfl rfl)
theorem dX3_takeStair_72 : decode cX3_takeStair 72 = .ok (.getfield 125, 3) := dk_180 0 125 (dk_at dksX3_takeStair_3 4 rfl rfl)
theorem dX3_takeStair_75 : decode cX3_takeStair 75 = .ok (.bipush 108, 2) := dk_16 108 (dk_at dksX3_takeStair_3 7 rfl rfl)
theorem dX3_takeStair_77 : decode cX3_takeStair 77 = .ok (.bipush 101, 2) := dk_16 101 (dk_at dksX3_takeStair_3 9 rfl rfl)
theorem dX3_takeStair_79 : decode cX3_takeStair 79 = .ok (.bipush 97, 2) := dk_16 97 (dk_at dksX3_takeStair_3 11 rfl rfl)
theorem dX3_takeStair_81 : decode cX3_takeStair 81 = .ok (.bipush 112, 2) := dk_16 112 (dk_at dksX3_takeStair_3 13 rfl rfl)
theorem dX3_takeStair_83 : decode cX3_takeStair 83 = .ok (.invokestatic 171, 3) := dk_184 0 171 (dk_at dksX3_takeStair_3 15 rfl rfl)
theorem dX3_takeStair_86 : decode cX3_takeStair 86 = .ok (.lcmp, 1) := dk_148 (dk_at dksX3_takeStair_3 18 rfl rfl)
theorem dX3_takeStair_87 : decode cX3_takeStair 87 = .ok (.ifCond .ne 7, 3) := dk_154 0 7 (dk_at dksX3_takeStair_3 19 rfl rfl)
theorem dX3_takeStair_90 : decode cX3_takeStair 90 = .ok (.iconst 2, 1) := dk_5 (dk_at dksX3_takeStair_3 22 rfl rfl)
theorem dX3_takeStair_91 : decode cX3_takeStair 91 = .ok (.goto 4, 3) := dk_167 0 4 (dk_at dksX3_takeStair_4 0 rfl rfl)
theorem dX3_takeStair_94 : decode cX3_takeStair 94 = .ok (.iconst (-1), 1) := dk_2 (dk_at dksX3_takeStair_4 3 rfl rfl)
theorem dX3_takeStair_95 : decode cX3_takeStair 95 = .ok (.istore_n 2, 1) := dk_61 (dk_at dksX3_takeStair_4 4 rfl rfl)
theorem dX3_takeStair_96 : decode cX3_takeStair 96 = .ok (.iload_n 2, 1) := dk_28 (dk_at dksX3_takeStair_4 5 rfl rfl)
theorem dX3_takeStair_97 : decode cX3_takeStair 97 = .ok (.ifCond .ge 13, 3) := dk_156 0 13 (dk_at dksX3_takeStair_4 6 rfl rfl)
theorem dX3_takeStair_100 : decode cX3_takeStair 100 = .ok (.aload_n 0, 1) := dk_42 (dk_at dksX3_takeStair_4 9 rfl rfl)
theorem dX3_takeStair_101 : decode cX3_takeStair 101 = .ok (.iconst 1, 1) := dk_4 (dk_at dksX3_takeStair_4 10 rfl rfl)
theorem dX3_takeStair_102 : decode cX3_takeStair 102 = .ok (.aload_n 0, 1) := dk_42 (dk_at dksX3_takeStair_4 11 rfl rfl)
theorem dX3_takeStair_103 : decode cX3_takeStair 103 = .ok (.getfield 118, 3) := dk_180 0 118 (dk_at dksX3_takeStair_4 12 rfl rfl)
theorem dX3_takeStair_106 : decode cX3_takeStair 106 = .ok (.invokevirtual 148, 3) := dk_182 0 148 (dk_at dksX3_takeStair_4 15 rfl rfl)
theorem dX3_takeStair_109 : decode cX3_takeStair 109 = .ok (.ireturn, 1) := dk_172 (dk_at dksX3_takeStair_4 18 rfl rfl)
theorem dX3_takeStair_110 : decode cX3_takeStair 110 = .ok (.aload_n 0, 1) := dk_42 (dk_at dksX3_takeStair_4 19 rfl rfl)
theorem dX3_takeStair_111 : decode cX3_takeStair 111 = .ok (.aload_n 0, 1) := dk_42 (dk_at dksX3_takeStair_4 20 rfl rfl)
theorem dX3_takeStair_112 : decode cX3_takeStair 112 = .ok (.getfield 129, 3) := dk_180 0 129 (dk_at dksX3_takeStair_4 21 rfl rfl)
theorem dX3_takeStair_115 : decode cX3_takeStair 115 = .ok (.putfield 118, 3) := dk_181 0 118 (dk_at dksX3_takeStair_5 0 rfl rfl)
theorem dX3_takeStair_118 : decode cX3_takeStair 118 = .ok (.aload_n 0, 1) := dk_42 (dk_at dksX3_takeStair_5 3 rfl rfl)
theorem dX3_takeStair_119 : decode cX3_takeStair 119 = .ok (.getfield 44, 3) := dk_180 0 44 (dk_at dksX3_takeStair_5 4 rfl rfl)
theorem dX3_takeStair_122 : decode cX3_takeStair 122 = .ok (.iload_n 1, 1) := dk_27 (dk_at dksX3_takeStair_5 7 rfl rfl)
theorem dX3_takeStair_123 : decode cX3_takeStair 123 = .ok (.iload_n 2, 1) := dk_28 (dk_at dksX3_takeStair_5 8 rfl rfl)
theorem dX3_takeStair_124 : decode cX3_takeStair 124 = .ok (.iastore, 1) := dk_79 (dk_at dksX3_takeStair_5 9 rfl rfl)
theorem dX3_takeStair_125 : decode cX3_takeStair 125 = .ok (.aload_n 0, 1) := dk_42 (dk_at dksX3_takeStair_5 10 rfl rfl)
theorem dX3_takeStair_126 : decode cX3_takeStair 126 = .ok (.aload_n 0, 1) := dk_42 (dk_at dksX3_takeStair_5 11 rfl rfl)
theorem dX3_takeStair_127 : decode cX3_takeStair 127 = .ok (.getfield 47, 3) := dk_180 0 47 (dk_at dksX3_takeStair_5 12 rfl rfl)
theorem dX3_takeStair_130 : decode cX3_takeStair 130 = .ok (.iload_n 1, 1) := dk_27 (dk_at dksX3_takeStair_5 15 rfl rfl)
theorem dX3_takeStair_131 : decode cX3_takeStair 131 = .ok (.iconst 0, 1) := dk_3 (dk_at dksX3_takeStair_5 16 rfl rfl)
theorem dX3_takeStair_132 : decode cX3_takeStair 132 = .ok (.aload_n 0, 1) := dk_42 (dk_at dksX3_takeStair_5 17 rfl rfl)
theorem dX3_takeStair_133 : decode cX3_takeStair 133 = .ok (.getfield 179, 3) := dk_180 0 179 (dk_at dksX3_takeStair_5 18 rfl rfl)
theorem dX3_takeStair_136 : decode cX3_takeStair 136 = .ok (.iconst 1, 1) := dk_4 (dk_at dksX3_takeStair_5 21 rfl rfl)
theorem dX3_takeStair_137 : decode cX3_takeStair 137 = .ok (.isub, 1) := dk_100 (dk_at dksX3_takeStair_5 22 rfl rfl)
theorem dX3_takeStair_138 : decode cX3_takeStair 138 = .ok (.invokevirtual 161, 3) := dk_182 0 161 (dk_at dksX3_takeStair_6 0 rfl rfl)
theorem dX3_takeStair_141 : decode cX3_takeStair 141 = .ok (.istore_n 3, 1) := dk_62 (dk_at dksX3_takeStair_6 3 rfl rfl)
theorem dX3_takeStair_142 : decode cX3_takeStair 142 = .ok (.iload_n 3, 1) := dk_29 (dk_at dksX3_takeStair_6 4 rfl rfl)
theorem dX3_takeStair_143 : decode cX3_takeStair 143 = .ok (.ifCond .le 7, 3) := dk_158 0 7 (dk_at dksX3_takeStair_6 5 rfl rfl)
theorem dX3_takeStair_146 : decode cX3_takeStair 146 = .ok (.iload_n 3, 1) := dk_29 (dk_at dksX3_takeStair_6 8 rfl rfl)
theorem dX3_takeStair_147 : decode cX3_takeStair 147 = .ok (.goto 19, 3) := dk_167 0 19 (dk_at dksX3_takeStair_6 9 rfl rfl)
theorem dX3_takeStair_150 : decode cX3_takeStair 150 = .ok (.aload_n 0, 1) := dk_42 (dk_at dksX3_takeStair_6 12 rfl rfl)
theorem dX3_takeStair_151 : decode cX3_takeStair 151 = .ok (.aload_n 0, 1) := dk_42 (dk_at dksX3_takeStair_6 13 rfl rfl)
theorem dX3_takeStair_152 : decode cX3_takeStair 152 = .ok (.getfield 50, 3) := dk_180 0 50 (dk_at dksX3_takeStair_6 14 rfl rfl)
theorem dX3_takeStair_155 : decode cX3_takeStair 155 = .ok (.iload_n 1, 1) := dk_27 (dk_at dksX3_takeStair_6 17 rfl rfl)
theorem dX3_takeStair_156 : decode cX3_takeStair 156 = .ok (.iconst 0, 1) := dk_3 (dk_at dksX3_takeStair_6 18 rfl rfl)
theorem dX3_takeStair_157 : decode cX3_takeStair 157 = .ok (.aload_n 0, 1) := dk_42 (dk_at dksX3_takeStair_6 19 rfl rfl)
theorem dX3_takeStair_158 : decode cX3_takeStair 158 = .ok (.getfield 179, 3) := dk_180 0 179 (dk_at dksX3_takeStair_6 20 rfl rfl)
theorem dX3_takeStair_161 : decode cX3_takeStair 161 = .ok (.iconst 1, 1) := dk_4 (dk_at dksX3_takeStair_6 23 rfl rfl)
theorem dX3_takeStair_162 : decode cX3_takeStair 162 = .ok (.isub, 1) := dk_100 (dk_at dksX3_takeStair_7 0 rfl rfl)
theorem dX3_takeStair_163 : decode cX3_takeStair 163 = .ok (.invokevirtual 161, 3) := dk_182 0 161 (dk_at dksX3_takeStair_7 1 rfl rfl)
theorem dX3_takeStair_166 : decode cX3_takeStair 166 = .ok (.istore_n 3, 1) := dk_62 (dk_at dksX3_takeStair_7 4 rfl rfl)
theorem dX3_takeStair_167 : decode cX3_takeStair 167 = .ok (.iload_n 3, 1) := dk_29 (dk_at dksX3_takeStair_7 5 rfl rfl)
theorem dX3_takeStair_168 : decode cX3_takeStair 168 = .ok (.ifCond .le 5, 3) := dk_158 0 5 (dk_at dksX3_takeStair_7 6 rfl rfl)
theorem dX3_takeStair_171 : decode cX3_takeStair 171 = .ok (.iload_n 3, 1) := dk_29 (dk_at dksX3_takeStair_7 9 rfl rfl)
theorem dX3_takeStair_172 : decode cX3_takeStair 172 = .ok (.ireturn, 1) := dk_172 (dk_at dksX3_takeStair_7 10 rfl rfl)
theorem dX3_takeStair_173 : decode cX3_takeStair 173 = .ok (.aload_n 0, 1) := dk_42 (dk_at dksX3_takeStair_7 11 rfl rfl)
theorem dX3_takeStair_174 : decode cX3_takeStair 174 = .ok (.getfield 47, 3) := dk_180 0 47 (dk_at dksX3_takeStair_7 12 rfl rfl)
theorem dX3_takeStair_177 : decode cX3_takeStair 177 = .ok (.iload_n 1, 1) := dk_27 (dk_at dksX3_takeStair_7 15 rfl rfl)
theorem dX3_takeStair_178 : decode cX3_takeStair 178 = .ok (.iaload, 1) := dk_46 (dk_at dksX3_takeStair_7 16 rfl rfl)
theorem dX3_takeStair_179 : decode cX3_takeStair 179 = .ok (.aload_n 0, 1) := dk_42 (dk_at dksX3_takeStair_7 17 rfl rfl)
theorem dX3_takeStair_180 : decode cX3_takeStair 180 = .ok (.getfield 50, 3) := dk_180 0 50 (dk_at dksX3_takeStair_7 18 rfl rfl)
theorem dX3_takeStair_183 : decode cX3_takeStair 183 = .ok (.iload_n 1, 1) := dk_27 (dk_at dksX3_takeStair_7 21 rfl rfl)
theorem dX3_takeStair_184 : decode cX3_takeStair 184 = .ok (.iaload, 1) := dk_46 (dk_at dksX3_takeStair_7 22 rfl rfl)
theorem dX3_takeStair_185 : decode cX3_takeStair 185 = .ok (.if_icmp .ne 15, 3) := dk_160 0 15 (dk_at dksX3_takeStair_8 0 rfl rfl)
theorem dX3_takeStair_188 : decode cX3_takeStair 188 = .ok (.aload_n 0, 1) := dk_42 (dk_at dksX3_takeStair_8 3 rfl rfl)
theorem dX3_takeStair_189 : decode cX3_takeStair 189 = .ok (.iconst 4, 1) := dk_7 (dk_at dksX3_takeStair_8 4 rfl rfl)
theorem dX3_takeStair_190 : decode cX3_takeStair 190 = .ok (.aload_n 0, 1) := dk_42 (dk_at dksX3_takeStair_8 5 rfl rfl)
theorem dX3_takeStair_191 : decode cX3_takeStair 191 = .ok (.getfield 152, 3) := dk_180 0 152 (dk_at dksX3_takeStair_8 6 rfl rfl)
theorem dX3_takeStair_194 : decode cX3_takeStair 194 = .ok (.invokevirtual 148, 3) := dk_182 0 148 (dk_at dksX3_takeStair_8 9 rfl rfl)
theorem dX3_takeStair_197 : decode cX3_takeStair 197 = .ok (.goto 8, 3) := dk_167 0 8 (dk_at dksX3_takeStair_8 12 rfl rfl)
theorem dX3_takeStair_200 : decode cX3_takeStair 200 = .ok (.aload_n 0, 1) := dk_42 (dk_at dksX3_takeStair_8 15 rfl rfl)
theorem dX3_takeStair_201 : decode cX3_takeStair 201 = .ok (.iload_n 1, 1) := dk_27 (dk_at dksX3_takeStair_8 16 rfl rfl)
theorem dX3_takeStair_202 : decode cX3_takeStair 202 = .ok (.invokevirtual 182, 3) := dk_182 0 182 (dk_at dksX3_takeStair_8 17 rfl rfl)
theorem dX3_takeStair_205 : decode cX3_takeStair 205 = .ok (.ireturn, 1) := dk_172 (dk_at dksX3_takeStair_8 20 rfl rfl)
abbrev cX3_into : ByteArray := prog_10_method_16_code
def yX3_into : MethodName := ⟨RX3, "into", "([IIII)I"⟩
def dkwX3_into_0 : List UInt8 := [42, 29, 21, 4, 182, 0, 158, 54, 5, 43, 28, 42, 180, 0, 155, 79, 21, 5, 172]
abbrev dktX3_into_0 : List UInt8 := dkwX3_into_0 ++ []
theorem dksX3_into_0 : cX3_into.data.toList.drop 0 = dktX3_into_0 := by decide +kernel
theorem dX3_into_0 : decode cX3_into 0 = .ok (.aload_n 0, 1) := dk_42 (dk_at dksX3_into_0 0 rfl rfl)
theorem dX3_into_1 : decode cX3_into 1 = .ok (.iload_n 3, 1) := dk_29 (dk_at dksX3_into_0 1 rfl rfl)
theorem dX3_into_2 : decode cX3_into 2 = .ok (.iload 4, 2) := dk_21 4 (dk_at dksX3_into_0 2 rfl rfl)
theorem dX3_into_4 : decode cX3_into 4 = .ok (.invokevirtual 158, 3) := dk_182 0 158 (dk_at dksX3_into_0 4 rfl rfl)
theorem dX3_into_7 : decode cX3_into 7 = .ok (.istore 5, 2) := dk_54 5 (dk_at dksX3_into_0 7 rfl rfl)
theorem dX3_into_9 : decode cX3_into 9 = .ok (.aload_n 1, 1) := dk_43 (dk_at dksX3_into_0 9 rfl rfl)
theorem dX3_into_10 : decode cX3_into 10 = .ok (.iload_n 2, 1) := dk_28 (dk_at dksX3_into_0 10 rfl rfl)
theorem dX3_into_11 : decode cX3_into 11 = .ok (.aload_n 0, 1) := dk_42 (dk_at dksX3_into_0 11 rfl rfl)
theorem dX3_into_12 : decode cX3_into 12 = .ok (.getfield 155, 3) := dk_180 0 155 (dk_at dksX3_into_0 12 rfl rfl)
theorem dX3_into_15 : decode cX3_into 15 = .ok (.iastore, 1) := dk_79 (dk_at dksX3_into_0 15 rfl rfl)
theorem dX3_into_16 : decode cX3_into 16 = .ok (.iload 5, 2) := dk_21 5 (dk_at dksX3_into_0 16 rfl rfl)
theorem dX3_into_18 : decode cX3_into 18 = .ok (.ireturn, 1) := dk_172 (dk_at dksX3_into_0 18 rfl rfl)
abbrev cX3_takeParts : ByteArray := prog_10_method_17_code
def yX3_takeParts : MethodName := ⟨RX3, "takeParts", "(I)I"⟩
def dkwX3_takeParts_4 : List UInt8 := [89, 180, 0, 118, 28, 153, 0, 7, 4, 167, 0, 4, 3, 96, 181, 0, 118, 167, 255, 156, 3, 172]
abbrev dktX3_takeParts_4 : List UInt8 := dkwX3_takeParts_4 ++ []
def dkwX3_takeParts_3 : List UInt8 := [153, 0, 23, 42, 180, 0, 53, 27, 46, 6, 160, 0, 13, 42, 4, 42, 180, 0, 118, 182, 0, 148, 172, 42]
abbrev dktX3_takeParts_3 : List UInt8 := dkwX3_takeParts_3 ++ dktX3_takeParts_4
def dkwX3_takeParts_2 : List UInt8 := [27, 92, 46, 4, 96, 79, 42, 182, 0, 121, 16, 44, 160, 0, 7, 4, 167, 0, 4, 3, 61, 28]
abbrev dktX3_takeParts_2 : List UInt8 := dkwX3_takeParts_2 ++ dktX3_takeParts_3
def dkwX3_takeParts_1 : List UInt8 := [180, 0, 53, 27, 46, 96, 4, 17, 2, 208, 182, 0, 161, 62, 29, 158, 0, 5, 29, 172, 42, 180, 0, 53]
abbrev dktX3_takeParts_1 : List UInt8 := dkwX3_takeParts_1 ++ dktX3_takeParts_2
def dkwX3_takeParts_0 : List UInt8 := [42, 180, 0, 53, 27, 3, 79, 4, 61, 28, 153, 0, 102, 42, 42, 180, 0, 56, 6, 27, 104, 42]
abbrev dktX3_takeParts_0 : List UInt8 := dkwX3_takeParts_0 ++ dktX3_takeParts_1
theorem dksX3_takeParts_0 : cX3_takeParts.data.toList.drop 0 = dktX3_takeParts_0 := by decide +kernel
theorem dksX3_takeParts_1 : cX3_takeParts.data.toList.drop 22 = dktX3_takeParts_1 := dk_seg dksX3_takeParts_0 22 rfl rfl
theorem dksX3_takeParts_2 : cX3_takeParts.data.toList.drop 46 = dktX3_takeParts_2 := dk_seg dksX3_takeParts_1 24 rfl rfl
theorem dksX3_takeParts_3 : cX3_takeParts.data.toList.drop 68 = dktX3_takeParts_3 := dk_seg dksX3_takeParts_2 22 rfl rfl
theorem dksX3_takeParts_4 : cX3_takeParts.data.toList.drop 92 = dktX3_takeParts_4 := dk_seg dksX3_takeParts_3 24 rfl rfl
theorem dX3_takeParts_0 : decode cX3_takeParts 0 = .ok (.aload_n 0, 1) := dk_42 (dk_at dksX3_takeParts_0 0 rfl rfl)
theorem dX3_takeParts_1 : decode cX3_takeParts 1 = .ok (.getfield 53, 3) := dk_180 0 53 (dk_at dksX3_takeParts_0 1 rfl rfl)
theorem dX3_takeParts_4 : decode cX3_takeParts 4 = .ok (.iload_n 1, 1) := dk_27 (dk_at dksX3_takeParts_0 4 rfl rfl)
theorem dX3_takeParts_5 : decode cX3_takeParts 5 = .ok (.iconst 0, 1) := dk_3 (dk_at dksX3_takeParts_0 5 rfl rfl)
theorem dX3_takeParts_6 : decode cX3_takeParts 6 = .ok (.iastore, 1) := dk_79 (dk_at dksX3_takeParts_0 6 rfl rfl)
theorem dX3_takeParts_7 : decode cX3_takeParts 7 = .ok (.iconst 1, 1) := dk_4 (dk_at dksX3_takeParts_0 7 rfl rfl)
theorem dX3_takeParts_8 : decode cX3_takeParts 8 = .ok (.istore_n 2, 1) := dk_61 (dk_at dksX3_takeParts_0 8 rfl rfl)
theorem dX3_takeParts_9 : decode cX3_takeParts 9 = .ok (.iload_n 2, 1) := dk_28 (dk_at dksX3_takeParts_0 9 rfl rfl)
theorem dX3_takeParts_10 : decode cX3_takeParts 10 = .ok (.ifCond .eq 102, 3) := dk_153 0 102 (dk_at dksX3_takeParts_0 10 rfl rfl)
theorem dX3_takeParts_13 : decode cX3_takeParts 13 = .ok (.aload_n 0, 1) := dk_42 (dk_at dksX3_takeParts_0 13 rfl rfl)
theorem dX3_takeParts_14 : decode cX3_takeParts 14 = .ok (.aload_n 0, 1) := dk_42 (dk_at dksX3_takeParts_0 14 rfl rfl)
theorem dX3_takeParts_15 : decode cX3_takeParts 15 = .ok (.getfield 56, 3) := dk_180 0 56 (dk_at dksX3_takeParts_0 15 rfl rfl)
theorem dX3_takeParts_18 : decode cX3_takeParts 18 = .ok (.iconst 3, 1) := dk_6 (dk_at dksX3_takeParts_0 18 rfl rfl)
theorem dX3_takeParts_19 : decode cX3_takeParts 19 = .ok (.iload_n 1, 1) := dk_27 (dk_at dksX3_takeParts_0 19 rfl rfl)
theorem dX3_takeParts_20 : decode cX3_takeParts 20 = .ok (.imul, 1) := dk_104 (dk_at dksX3_takeParts_0 20 rfl rfl)
theorem dX3_takeParts_21 : decode cX3_takeParts 21 = .ok (.aload_n 0, 1) := dk_42 (dk_at dksX3_takeParts_0 21 rfl rfl)
theorem dX3_takeParts_22 : decode cX3_takeParts 22 = .ok (.getfield 53, 3) := dk_180 0 53 (dk_at dksX3_takeParts_1 0 rfl rfl)
theorem dX3_takeParts_25 : decode cX3_takeParts 25 = .ok (.iload_n 1, 1) := dk_27 (dk_at dksX3_takeParts_1 3 rfl rfl)
theorem dX3_takeParts_26 : decode cX3_takeParts 26 = .ok (.iaload, 1) := dk_46 (dk_at dksX3_takeParts_1 4 rfl rfl)
theorem dX3_takeParts_27 : decode cX3_takeParts 27 = .ok (.iadd, 1) := dk_96 (dk_at dksX3_takeParts_1 5 rfl rfl)
theorem dX3_takeParts_28 : decode cX3_takeParts 28 = .ok (.iconst 1, 1) := dk_4 (dk_at dksX3_takeParts_1 6 rfl rfl)
theorem dX3_takeParts_29 : decode cX3_takeParts 29 = .ok (.sipush 720, 3) := dk_17 2 208 (dk_at dksX3_takeParts_1 7 rfl rfl)
theorem dX3_takeParts_32 : decode cX3_takeParts 32 = .ok (.invokevirtual 161, 3) := dk_182 0 161 (dk_at dksX3_takeParts_1 10 rfl rfl)
theorem dX3_takeParts_35 : decode cX3_takeParts 35 = .ok (.istore_n 3, 1) := dk_62 (dk_at dksX3_takeParts_1 13 rfl rfl)
theorem dX3_takeParts_36 : decode cX3_takeParts 36 = .ok (.iload_n 3, 1) := dk_29 (dk_at dksX3_takeParts_1 14 rfl rfl)
theorem dX3_takeParts_37 : decode cX3_takeParts 37 = .ok (.ifCond .le 5, 3) := dk_158 0 5 (dk_at dksX3_takeParts_1 15 rfl rfl)
theorem dX3_takeParts_40 : decode cX3_takeParts 40 = .ok (.iload_n 3, 1) := dk_29 (dk_at dksX3_takeParts_1 18 rfl rfl)
theorem dX3_takeParts_41 : decode cX3_takeParts 41 = .ok (.ireturn, 1) := dk_172 (dk_at dksX3_takeParts_1 19 rfl rfl)
theorem dX3_takeParts_42 : decode cX3_takeParts 42 = .ok (.aload_n 0, 1) := dk_42 (dk_at dksX3_takeParts_1 20 rfl rfl)
theorem dX3_takeParts_43 : decode cX3_takeParts 43 = .ok (.getfield 53, 3) := dk_180 0 53 (dk_at dksX3_takeParts_1 21 rfl rfl)
theorem dX3_takeParts_46 : decode cX3_takeParts 46 = .ok (.iload_n 1, 1) := dk_27 (dk_at dksX3_takeParts_2 0 rfl rfl)
theorem dX3_takeParts_47 : decode cX3_takeParts 47 = .ok (.dup2, 1) := dk_92 (dk_at dksX3_takeParts_2 1 rfl rfl)
theorem dX3_takeParts_48 : decode cX3_takeParts 48 = .ok (.iaload, 1) := dk_46 (dk_at dksX3_takeParts_2 2 rfl rfl)
theorem dX3_takeParts_49 : decode cX3_takeParts 49 = .ok (.iconst 1, 1) := dk_4 (dk_at dksX3_takeParts_2 3 rfl rfl)
theorem dX3_takeParts_50 : decode cX3_takeParts 50 = .ok (.iadd, 1) := dk_96 (dk_at dksX3_takeParts_2 4 rfl rfl)
theorem dX3_takeParts_51 : decode cX3_takeParts 51 = .ok (.iastore, 1) := dk_79 (dk_at dksX3_takeParts_2 5 rfl rfl)
theorem dX3_takeParts_52 : decode cX3_takeParts 52 = .ok (.aload_n 0, 1) := dk_42 (dk_at dksX3_takeParts_2 6 rfl rfl)
theorem dX3_takeParts_53 : decode cX3_takeParts 53 = .ok (.invokevirtual 121, 3) := dk_182 0 121 (dk_at dksX3_takeParts_2 7 rfl rfl)
theorem dX3_takeParts_56 : decode cX3_takeParts 56 = .ok (.bipush 44, 2) := dk_16 44 (dk_at dksX3_takeParts_2 10 rfl rfl)
theorem dX3_takeParts_58 : decode cX3_takeParts 58 = .ok (.if_icmp .ne 7, 3) := dk_160 0 7 (dk_at dksX3_takeParts_2 12 rfl rfl)
theorem dX3_takeParts_61 : decode cX3_takeParts 61 = .ok (.iconst 1, 1) := dk_4 (dk_at dksX3_takeParts_2 15 rfl rfl)
theorem dX3_takeParts_62 : decode cX3_takeParts 62 = .ok (.goto 4, 3) := dk_167 0 4 (dk_at dksX3_takeParts_2 16 rfl rfl)
theorem dX3_takeParts_65 : decode cX3_takeParts 65 = .ok (.iconst 0, 1) := dk_3 (dk_at dksX3_takeParts_2 19 rfl rfl)
theorem dX3_takeParts_66 : decode cX3_takeParts 66 = .ok (.istore_n 2, 1) := dk_61 (dk_at dksX3_takeParts_2 20 rfl rfl)
theorem dX3_takeParts_67 : decode cX3_takeParts 67 = .ok (.iload_n 2, 1) := dk_28 (dk_at dksX3_takeParts_2 21 rfl rfl)
theorem dX3_takeParts_68 : decode cX3_takeParts 68 = .ok (.ifCond .eq 23, 3) := dk_153 0 23 (dk_at dksX3_takeParts_3 0 rfl rfl)
theorem dX3_takeParts_71 : decode cX3_takeParts 71 = .ok (.aload_n 0, 1) := dk_42 (dk_at dksX3_takeParts_3 3 rfl rfl)
theorem dX3_takeParts_72 : decode cX3_takeParts 72 = .ok (.getfield 53, 3) := dk_180 0 53 (dk_at dksX3_takeParts_3 4 rfl rfl)
theorem dX3_takeParts_75 : decode cX3_takeParts 75 = .ok (.iload_n 1, 1) := dk_27 (dk_at dksX3_takeParts_3 7 rfl rfl)
theorem dX3_takeParts_76 : decode cX3_takeParts 76 = .ok (.iaload, 1) := dk_46 (dk_at dksX3_takeParts_3 8 rfl rfl)
theorem dX3_takeParts_77 : decode cX3_takeParts 77 = .ok (.iconst 3, 1) := dk_6 (dk_at dksX3_takeParts_3 9 rfl rfl)
theorem dX3_takeParts_78 : decode cX3_takeParts 78 = .ok (.if_icmp .ne 13, 3) := dk_160 0 13 (dk_at dksX3_takeParts_3 10 rfl rfl)
theorem dX3_takeParts_81 : decode cX3_takeParts 81 = .ok (.aload_n 0, 1) := dk_42 (dk_at dksX3_takeParts_3 13 rfl rfl)
theorem dX3_takeParts_82 : decode cX3_takeParts 82 = .ok (.iconst 1, 1) := dk_4 (dk_at dksX3_takeParts_3 14 rfl rfl)
theorem dX3_takeParts_83 : decode cX3_takeParts 83 = .ok (.aload_n 0, 1) := dk_42 (dk_at dksX3_takeParts_3 15 rfl rfl)
theorem dX3_takeParts_84 : decode cX3_takeParts 84 = .ok (.getfield 118, 3) := dk_180 0 118 (dk_at dksX3_takeParts_3 16 rfl rfl)
theorem dX3_takeParts_87 : decode cX3_takeParts 87 = .ok (.invokevirtual 148, 3) := dk_182 0 148 (dk_at dksX3_takeParts_3 19 rfl rfl)
theorem dX3_takeParts_90 : decode cX3_takeParts 90 = .ok (.ireturn, 1) := dk_172 (dk_at dksX3_takeParts_3 22 rfl rfl)
theorem dX3_takeParts_91 : decode cX3_takeParts 91 = .ok (.aload_n 0, 1) := dk_42 (dk_at dksX3_takeParts_3 23 rfl rfl)
theorem dX3_takeParts_92 : decode cX3_takeParts 92 = .ok (.dup, 1) := dk_89 (dk_at dksX3_takeParts_4 0 rfl rfl)
theorem dX3_takeParts_93 : decode cX3_takeParts 93 = .ok (.getfield 118, 3) := dk_180 0 118 (dk_at dksX3_takeParts_4 1 rfl rfl)
theorem dX3_takeParts_96 : decode cX3_takeParts 96 = .ok (.iload_n 2, 1) := dk_28 (dk_at dksX3_takeParts_4 4 rfl rfl)
theorem dX3_takeParts_97 : decode cX3_takeParts 97 = .ok (.ifCond .eq 7, 3) := dk_153 0 7 (dk_at dksX3_takeParts_4 5 rfl rfl)
theorem dX3_takeParts_100 : decode cX3_takeParts 100 = .ok (.iconst 1, 1) := dk_4 (dk_at dksX3_takeParts_4 8 rfl rfl)
theorem dX3_takeParts_101 : decode cX3_takeParts 101 = .ok (.goto 4, 3) := dk_167 0 4 (dk_at dksX3_takeParts_4 9 rfl rfl)
theorem dX3_takeParts_104 : decode cX3_takeParts 104 = .ok (.iconst 0, 1) := dk_3 (dk_at dksX3_takeParts_4 12 rfl rfl)
theorem dX3_takeParts_105 : decode cX3_takeParts 105 = .ok (.iadd, 1) := dk_96 (dk_at dksX3_takeParts_4 13 rfl rfl)
theorem dX3_takeParts_106 : decode cX3_takeParts 106 = .ok (.putfield 118, 3) := dk_181 0 118 (dk_at dksX3_takeParts_4 14 rfl rfl)
theorem dX3_takeParts_109 : decode cX3_takeParts 109 = .ok (.goto (-100), 3) := dk_167 255 156 (dk_at dksX3_takeParts_4 17 rfl rfl)
theorem dX3_takeParts_112 : decode cX3_takeParts 112 = .ok (.iconst 0, 1) := dk_3 (dk_at dksX3_takeParts_4 20 rfl rfl)
theorem dX3_takeParts_113 : decode cX3_takeParts 113 = .ok (.ireturn, 1) := dk_172 (dk_at dksX3_takeParts_4 21 rfl rfl)
abbrev cX3_takePerson : ByteArray := prog_10_method_19_code
def yX3_takePerson : MethodName := ⟨RX3, "takePerson", "()I"⟩
def dkwX3_takePerson_4 : List UInt8 := [16, 24, 182, 0, 161, 172]
abbrev dktX3_takePerson_4 : List UInt8 := dkwX3_takePerson_4 ++ []
def dkwX3_takePerson_3 : List UInt8 := [20, 0, 144, 20, 0, 146, 184, 0, 99, 154, 0, 7, 28, 167, 0, 15, 42, 42, 180, 0, 65, 27, 4]
abbrev dktX3_takePerson_3 : List UInt8 := dkwX3_takePerson_3 ++ dktX3_takePerson_4
def dkwX3_takePerson_2 : List UInt8 := [16, 24, 182, 0, 161, 61, 42, 180, 0, 65, 27, 3, 79, 28, 157, 0, 20, 42, 182, 0, 121, 133]
abbrev dktX3_takePerson_2 : List UInt8 := dkwX3_takePerson_2 ++ dktX3_takePerson_3
def dkwX3_takePerson_1 : List UInt8 := [180, 0, 179, 4, 100, 182, 0, 161, 61, 28, 158, 0, 7, 28, 167, 0, 15, 42, 42, 180, 0, 62, 27, 4]
abbrev dktX3_takePerson_1 : List UInt8 := dkwX3_takePerson_1 ++ dktX3_takePerson_2
def dkwX3_takePerson_0 : List UInt8 := [42, 180, 0, 186, 60, 42, 89, 180, 0, 186, 4, 96, 181, 0, 186, 42, 42, 180, 0, 59, 27, 3, 42]
abbrev dktX3_takePerson_0 : List UInt8 := dkwX3_takePerson_0 ++ dktX3_takePerson_1
theorem dksX3_takePerson_0 : cX3_takePerson.data.toList.drop 0 = dktX3_takePerson_0 := by decide +kernel
theorem dksX3_takePerson_1 : cX3_takePerson.data.toList.drop 23 = dktX3_takePerson_1 := dk_seg dksX3_takePerson_0 23 rfl rfl
theorem dksX3_takePerson_2 : cX3_takePerson.data.toList.drop 47 = dktX3_takePerson_2 := dk_seg dksX3_takePerson_1 24 rfl rfl
theorem dksX3_takePerson_3 : cX3_takePerson.data.toList.drop 69 = dktX3_takePerson_3 := dk_seg dksX3_takePerson_2 22 rfl rfl
theorem dksX3_takePerson_4 : cX3_takePerson.data.toList.drop 92 = dktX3_takePerson_4 := dk_seg dksX3_takePerson_3 23 rfl rfl
theorem dX3_takePerson_0 : decode cX3_takePerson 0 = .ok (.aload_n 0, 1) := dk_42 (dk_at dksX3_takePerson_0 0 rfl rfl)
theorem dX3_takePerson_1 : decode cX3_takePerson 1 = .ok (.getfield 186, 3) := dk_180 0 186 (dk_at dksX3_takePerson_0 1 rfl rfl)
theorem dX3_takePerson_4 : decode cX3_takePerson 4 = .ok (.istore_n 1, 1) := dk_60 (dk_at dksX3_takePerson_0 4 rfl rfl)
theorem dX3_takePerson_5 : decode cX3_takePerson 5 = .ok (.aload_n 0, 1) := dk_42 (dk_at dksX3_takePerson_0 5 rfl rfl)
theorem dX3_takePerson_6 : decode cX3_takePerson 6 = .ok (.dup, 1) := dk_89 (dk_at dksX3_takePerson_0 6 rfl rfl)
theorem dX3_takePerson_7 : decode cX3_takePerson 7 = .ok (.getfield 186, 3) := dk_180 0 186 (dk_at dksX3_takePerson_0 7 rfl rfl)
theorem dX3_takePerson_10 : decode cX3_takePerson 10 = .ok (.iconst 1, 1) := dk_4 (dk_at dksX3_takePerson_0 10 rfl rfl)
theorem dX3_takePerson_11 : decode cX3_takePerson 11 = .ok (.iadd, 1) := dk_96 (dk_at dksX3_takePerson_0 11 rfl rfl)
theorem dX3_takePerson_12 : decode cX3_takePerson 12 = .ok (.putfield 186, 3) := dk_181 0 186 (dk_at dksX3_takePerson_0 12 rfl rfl)
theorem dX3_takePerson_15 : decode cX3_takePerson 15 = .ok (.aload_n 0, 1) := dk_42 (dk_at dksX3_takePerson_0 15 rfl rfl)
theorem dX3_takePerson_16 : decode cX3_takePerson 16 = .ok (.aload_n 0, 1) := dk_42 (dk_at dksX3_takePerson_0 16 rfl rfl)
theorem dX3_takePerson_17 : decode cX3_takePerson 17 = .ok (.getfield 59, 3) := dk_180 0 59 (dk_at dksX3_takePerson_0 17 rfl rfl)
theorem dX3_takePerson_20 : decode cX3_takePerson 20 = .ok (.iload_n 1, 1) := dk_27 (dk_at dksX3_takePerson_0 20 rfl rfl)
theorem dX3_takePerson_21 : decode cX3_takePerson 21 = .ok (.iconst 0, 1) := dk_3 (dk_at dksX3_takePerson_0 21 rfl rfl)
theorem dX3_takePerson_22 : decode cX3_takePerson 22 = .ok (.aload_n 0, 1) := dk_42 (dk_at dksX3_takePerson_0 22 rfl rfl)
theorem dX3_takePerson_23 : decode cX3_takePerson 23 = .ok (.getfield 179, 3) := dk_180 0 179 (dk_at dksX3_takePerson_1 0 rfl rfl)
theorem dX3_takePerson_26 : decode cX3_takePerson 26 = .ok (.iconst 1, 1) := dk_4 (dk_at dksX3_takePerson_1 3 rfl rfl)
theorem dX3_takePerson_27 : decode cX3_takePerson 27 = .ok (.isub, 1) := dk_100 (dk_at dksX3_takePerson_1 4 rfl rfl)
theorem dX3_takePerson_28 : decode cX3_takePerson 28 = .ok (.invokevirtual 161, 3) := dk_182 0 161 (dk_at dksX3_takePerson_1 5 rfl rfl)
theorem dX3_takePerson_31 : decode cX3_takePerson 31 = .ok (.istore_n 2, 1) := dk_61 (dk_at dksX3_takePerson_1 8 rfl rfl)
theorem dX3_takePerson_32 : decode cX3_takePerson 32 = .ok (.iload_n 2, 1) := dk_28 (dk_at dksX3_takePerson_1 9 rfl rfl)
theorem dX3_takePerson_33 : decode cX3_takePerson 33 = .ok (.ifCond .le 7, 3) := dk_158 0 7 (dk_at dksX3_takePerson_1 10 rfl rfl)
theorem dX3_takePerson_36 : decode cX3_takePerson 36 = .ok (.iload_n 2, 1) := dk_28 (dk_at dksX3_takePerson_1 13 rfl rfl)
theorem dX3_takePerson_37 : decode cX3_takePerson 37 = .ok (.goto 15, 3) := dk_167 0 15 (dk_at dksX3_takePerson_1 14 rfl rfl)
theorem dX3_takePerson_40 : decode cX3_takePerson 40 = .ok (.aload_n 0, 1) := dk_42 (dk_at dksX3_takePerson_1 17 rfl rfl)
theorem dX3_takePerson_41 : decode cX3_takePerson 41 = .ok (.aload_n 0, 1) := dk_42 (dk_at dksX3_takePerson_1 18 rfl rfl)
theorem dX3_takePerson_42 : decode cX3_takePerson 42 = .ok (.getfield 62, 3) := dk_180 0 62 (dk_at dksX3_takePerson_1 19 rfl rfl)
theorem dX3_takePerson_45 : decode cX3_takePerson 45 = .ok (.iload_n 1, 1) := dk_27 (dk_at dksX3_takePerson_1 22 rfl rfl)
theorem dX3_takePerson_46 : decode cX3_takePerson 46 = .ok (.iconst 1, 1) := dk_4 (dk_at dksX3_takePerson_1 23 rfl rfl)
theorem dX3_takePerson_47 : decode cX3_takePerson 47 = .ok (.bipush 24, 2) := dk_16 24 (dk_at dksX3_takePerson_2 0 rfl rfl)
theorem dX3_takePerson_49 : decode cX3_takePerson 49 = .ok (.invokevirtual 161, 3) := dk_182 0 161 (dk_at dksX3_takePerson_2 2 rfl rfl)
theorem dX3_takePerson_52 : decode cX3_takePerson 52 = .ok (.istore_n 2, 1) := dk_61 (dk_at dksX3_takePerson_2 5 rfl rfl)
theorem dX3_takePerson_53 : decode cX3_takePerson 53 = .ok (.aload_n 0, 1) := dk_42 (dk_at dksX3_takePerson_2 6 rfl rfl)
theorem dX3_takePerson_54 : decode cX3_takePerson 54 = .ok (.getfield 65, 3) := dk_180 0 65 (dk_at dksX3_takePerson_2 7 rfl rfl)
theorem dX3_takePerson_57 : decode cX3_takePerson 57 = .ok (.iload_n 1, 1) := dk_27 (dk_at dksX3_takePerson_2 10 rfl rfl)
theorem dX3_takePerson_58 : decode cX3_takePerson 58 = .ok (.iconst 0, 1) := dk_3 (dk_at dksX3_takePerson_2 11 rfl rfl)
theorem dX3_takePerson_59 : decode cX3_takePerson 59 = .ok (.iastore, 1) := dk_79 (dk_at dksX3_takePerson_2 12 rfl rfl)
theorem dX3_takePerson_60 : decode cX3_takePerson 60 = .ok (.iload_n 2, 1) := dk_28 (dk_at dksX3_takePerson_2 13 rfl rfl)
theorem dX3_takePerson_61 : decode cX3_takePerson 61 = .ok (.ifCond .gt 20, 3) := dk_157 0 20 (dk_at dksX3_takePerson_2 14 rfl rfl)
theorem dX3_takePerson_64 : decode cX3_takePerson 64 = .ok (.aload_n 0, 1) := dk_42 (dk_at dksX3_takePerson_2 17 rfl rfl)
theorem dX3_takePerson_65 : decode cX3_takePerson 65 = .ok (.invokevirtual 121, 3) := dk_182 0 121 (dk_at dksX3_takePerson_2 18 rfl rfl)
theorem dX3_takePerson_68 : decode cX3_takePerson 68 = .ok (.i2l, 1) := dk_133 (dk_at dksX3_takePerson_2 21 rfl rfl)
theorem dX3_takePerson_69 : decode cX3_takePerson 69 = .ok (.ldc2_w 144, 3) := dk_20 0 144 (dk_at dksX3_takePerson_3 0 rfl rfl)
theorem dX3_takePerson_72 : decode cX3_takePerson 72 = .ok (.ldc2_w 146, 3) := dk_20 0 146 (dk_at dksX3_takePerson_3 3 rfl rfl)
theorem dX3_takePerson_75 : decode cX3_takePerson 75 = .ok (.invokestatic 99, 3) := dk_184 0 99 (dk_at dksX3_takePerson_3 6 rfl rfl)
theorem dX3_takePerson_78 : decode cX3_takePerson 78 = .ok (.ifCond .ne 7, 3) := dk_154 0 7 (dk_at dksX3_takePerson_3 9 rfl rfl)
theorem dX3_takePerson_81 : decode cX3_takePerson 81 = .ok (.iload_n 2, 1) := dk_28 (dk_at dksX3_takePerson_3 12 rfl rfl)
theorem dX3_takePerson_82 : decode cX3_takePerson 82 = .ok (.goto 15, 3) := dk_167 0 15 (dk_at dksX3_takePerson_3 13 rfl rfl)
theorem dX3_takePerson_85 : decode cX3_takePerson 85 = .ok (.aload_n 0, 1) := dk_42 (dk_at dksX3_takePerson_3 16 rfl rfl)
theorem dX3_takePerson_86 : decode cX3_takePerson 86 = .ok (.aload_n 0, 1) := dk_42 (dk_at dksX3_takePerson_3 17 rfl rfl)
theorem dX3_takePerson_87 : decode cX3_takePerson 87 = .ok (.getfield 65, 3) := dk_180 0 65 (dk_at dksX3_takePerson_3 18 rfl rfl)
theorem dX3_takePerson_90 : decode cX3_takePerson 90 = .ok (.iload_n 1, 1) := dk_27 (dk_at dksX3_takePerson_3 21 rfl rfl)
theorem dX3_takePerson_91 : decode cX3_takePerson 91 = .ok (.iconst 1, 1) := dk_4 (dk_at dksX3_takePerson_3 22 rfl rfl)
theorem dX3_takePerson_92 : decode cX3_takePerson 92 = .ok (.bipush 24, 2) := dk_16 24 (dk_at dksX3_takePerson_4 0 rfl rfl)
theorem dX3_takePerson_94 : decode cX3_takePerson 94 = .ok (.invokevirtual 161, 3) := dk_182 0 161 (dk_at dksX3_takePerson_4 2 rfl rfl)
theorem dX3_takePerson_97 : decode cX3_takePerson 97 = .ok (.ireturn, 1) := dk_172 (dk_at dksX3_takePerson_4 5 rfl rfl)
abbrev cX3_fault : ByteArray := prog_10_method_22_code
def yX3_fault : MethodName := ⟨RX3, "fault", "()I"⟩
theorem dX3_fault_0 : decode cX3_fault 0 = .ok (.aload_n 0, 1) := by decide +kernel
theorem dX3_fault_1 : decode cX3_fault 1 = .ok (.getfield 40, 3) := by decide +kernel
theorem dX3_fault_4 : decode cX3_fault 4 = .ok (.ireturn, 1) := by decide +kernel
abbrev cX3_told : ByteArray := prog_10_method_24_code
def yX3_told : MethodName := ⟨RX3, "told", "(I)I"⟩
def dkwX3_told_3 : List UInt8 := [172, 42, 180, 0, 198, 172, 42, 180, 0, 201, 172, 42, 182, 0, 207, 172, 18, 111, 172]
abbrev dktX3_told_3 : List UInt8 := dkwX3_told_3 ++ []
def dkwX3_told_2 : List UInt8 := [42, 180, 0, 96, 172, 42, 180, 0, 103, 172, 42, 180, 0, 106, 172, 42, 180, 0, 112, 172, 42, 180, 0, 204]
abbrev dktX3_told_2 : List UInt8 := dkwX3_told_2 ++ dktX3_told_3
def dkwX3_told_1 : List UInt8 := [170, 0, 0, 0, 0, 0, 87, 0, 0, 0, 0, 0, 0, 0, 7, 0, 0, 0, 47, 0, 0, 0, 52, 0, 0, 0, 57, 0, 0, 0, 62, 0, 0, 0, 67, 0, 0, 0, 72, 0, 0, 0, 77, 0, 0, 0, 82]
abbrev dktX3_told_1 : List UInt8 := dkwX3_told_1 ++ dktX3_told_2
def dkwX3_told_0 : List UInt8 := [27]
abbrev dktX3_told_0 : List UInt8 := dkwX3_told_0 ++ dktX3_told_1
theorem dksX3_told_0 : cX3_told.data.toList.drop 0 = dktX3_told_0 := by decide +kernel
theorem dksX3_told_1 : cX3_told.data.toList.drop 1 = dktX3_told_1 := dk_seg dksX3_told_0 1 rfl rfl
theorem dksX3_told_2 : cX3_told.data.toList.drop 48 = dktX3_told_2 := dk_seg dksX3_told_1 47 rfl rfl
theorem dksX3_told_3 : cX3_told.data.toList.drop 72 = dktX3_told_3 := dk_seg dksX3_told_2 24 rfl rfl
theorem dX3_told_0 : decode cX3_told 0 = .ok (.iload_n 1, 1) := dk_27 (dk_at dksX3_told_0 0 rfl rfl)
theorem dX3_told_1 : decode cX3_told 1 = .ok (.tableswitch 87 0 7 #[47, 52, 57, 62, 67, 72, 77, 82], 47) := by decide +kernel
theorem dX3_told_48 : decode cX3_told 48 = .ok (.aload_n 0, 1) := dk_42 (dk_at dksX3_told_2 0 rfl rfl)
theorem dX3_told_49 : decode cX3_told 49 = .ok (.getfield 96, 3) := dk_180 0 96 (dk_at dksX3_told_2 1 rfl rfl)
theorem dX3_told_52 : decode cX3_told 52 = .ok (.ireturn, 1) := dk_172 (dk_at dksX3_told_2 4 rfl rfl)
theorem dX3_told_53 : decode cX3_told 53 = .ok (.aload_n 0, 1) := dk_42 (dk_at dksX3_told_2 5 rfl rfl)
theorem dX3_told_54 : decode cX3_told 54 = .ok (.getfield 103, 3) := dk_180 0 103 (dk_at dksX3_told_2 6 rfl rfl)
theorem dX3_told_57 : decode cX3_told 57 = .ok (.ireturn, 1) := dk_172 (dk_at dksX3_told_2 9 rfl rfl)
theorem dX3_told_58 : decode cX3_told 58 = .ok (.aload_n 0, 1) := dk_42 (dk_at dksX3_told_2 10 rfl rfl)
theorem dX3_told_59 : decode cX3_told 59 = .ok (.getfield 106, 3) := dk_180 0 106 (dk_at dksX3_told_2 11 rfl rfl)
theorem dX3_told_62 : decode cX3_told 62 = .ok (.ireturn, 1) := dk_172 (dk_at dksX3_told_2 14 rfl rfl)
theorem dX3_told_63 : decode cX3_told 63 = .ok (.aload_n 0, 1) := dk_42 (dk_at dksX3_told_2 15 rfl rfl)
theorem dX3_told_64 : decode cX3_told 64 = .ok (.getfield 112, 3) := dk_180 0 112 (dk_at dksX3_told_2 16 rfl rfl)
theorem dX3_told_67 : decode cX3_told 67 = .ok (.ireturn, 1) := dk_172 (dk_at dksX3_told_2 19 rfl rfl)
theorem dX3_told_68 : decode cX3_told 68 = .ok (.aload_n 0, 1) := dk_42 (dk_at dksX3_told_2 20 rfl rfl)
theorem dX3_told_69 : decode cX3_told 69 = .ok (.getfield 204, 3) := dk_180 0 204 (dk_at dksX3_told_2 21 rfl rfl)
theorem dX3_told_72 : decode cX3_told 72 = .ok (.ireturn, 1) := dk_172 (dk_at dksX3_told_3 0 rfl rfl)
theorem dX3_told_73 : decode cX3_told 73 = .ok (.aload_n 0, 1) := dk_42 (dk_at dksX3_told_3 1 rfl rfl)
theorem dX3_told_74 : decode cX3_told 74 = .ok (.getfield 198, 3) := dk_180 0 198 (dk_at dksX3_told_3 2 rfl rfl)
theorem dX3_told_77 : decode cX3_told 77 = .ok (.ireturn, 1) := dk_172 (dk_at dksX3_told_3 5 rfl rfl)
theorem dX3_told_78 : decode cX3_told 78 = .ok (.aload_n 0, 1) := dk_42 (dk_at dksX3_told_3 6 rfl rfl)
theorem dX3_told_79 : decode cX3_told 79 = .ok (.getfield 201, 3) := dk_180 0 201 (dk_at dksX3_told_3 7 rfl rfl)
theorem dX3_told_82 : decode cX3_told 82 = .ok (.ireturn, 1) := dk_172 (dk_at dksX3_told_3 10 rfl rfl)
theorem dX3_told_83 : decode cX3_told 83 = .ok (.aload_n 0, 1) := dk_42 (dk_at dksX3_told_3 11 rfl rfl)
theorem dX3_told_84 : decode cX3_told 84 = .ok (.invokevirtual 207, 3) := dk_182 0 207 (dk_at dksX3_told_3 12 rfl rfl)
theorem dX3_told_87 : decode cX3_told 87 = .ok (.ireturn, 1) := dk_172 (dk_at dksX3_told_3 15 rfl rfl)
theorem dX3_told_88 : decode cX3_told 88 = .ok (.ldc 111, 2) := dk_18 111 (dk_at dksX3_told_3 16 rfl rfl)
theorem dX3_told_90 : decode cX3_told 90 = .ok (.ireturn, 1) := dk_172 (dk_at dksX3_told_3 18 rfl rfl)
abbrev cX3_allWorn : ByteArray := prog_10_method_23_code
def yX3_allWorn : MethodName := ⟨RX3, "allWorn", "()I"⟩
def dkwX3_allWorn_1 : List UInt8 := [167, 255, 236, 27, 172]
abbrev dktX3_allWorn_1 : List UInt8 := dkwX3_allWorn_1 ++ []
def dkwX3_allWorn_0 : List UInt8 := [3, 60, 3, 61, 28, 42, 180, 0, 103, 162, 0, 18, 27, 42, 180, 0, 25, 28, 46, 96, 60, 132, 2, 1]
abbrev dktX3_allWorn_0 : List UInt8 := dkwX3_allWorn_0 ++ dktX3_allWorn_1
theorem dksX3_allWorn_0 : cX3_allWorn.data.toList.drop 0 = dktX3_allWorn_0 := by decide +kernel
theorem dksX3_allWorn_1 : cX3_allWorn.data.toList.drop 24 = dktX3_allWorn_1 := dk_seg dksX3_allWorn_0 24 rfl rfl
theorem dX3_allWorn_0 : decode cX3_allWorn 0 = .ok (.iconst 0, 1) := dk_3 (dk_at dksX3_allWorn_0 0 rfl rfl)
theorem dX3_allWorn_1 : decode cX3_allWorn 1 = .ok (.istore_n 1, 1) := dk_60 (dk_at dksX3_allWorn_0 1 rfl rfl)
theorem dX3_allWorn_2 : decode cX3_allWorn 2 = .ok (.iconst 0, 1) := dk_3 (dk_at dksX3_allWorn_0 2 rfl rfl)
theorem dX3_allWorn_3 : decode cX3_allWorn 3 = .ok (.istore_n 2, 1) := dk_61 (dk_at dksX3_allWorn_0 3 rfl rfl)
theorem dX3_allWorn_4 : decode cX3_allWorn 4 = .ok (.iload_n 2, 1) := dk_28 (dk_at dksX3_allWorn_0 4 rfl rfl)
theorem dX3_allWorn_5 : decode cX3_allWorn 5 = .ok (.aload_n 0, 1) := dk_42 (dk_at dksX3_allWorn_0 5 rfl rfl)
theorem dX3_allWorn_6 : decode cX3_allWorn 6 = .ok (.getfield 103, 3) := dk_180 0 103 (dk_at dksX3_allWorn_0 6 rfl rfl)
theorem dX3_allWorn_9 : decode cX3_allWorn 9 = .ok (.if_icmp .ge 18, 3) := dk_162 0 18 (dk_at dksX3_allWorn_0 9 rfl rfl)
theorem dX3_allWorn_12 : decode cX3_allWorn 12 = .ok (.iload_n 1, 1) := dk_27 (dk_at dksX3_allWorn_0 12 rfl rfl)
theorem dX3_allWorn_13 : decode cX3_allWorn 13 = .ok (.aload_n 0, 1) := dk_42 (dk_at dksX3_allWorn_0 13 rfl rfl)
theorem dX3_allWorn_14 : decode cX3_allWorn 14 = .ok (.getfield 25, 3) := dk_180 0 25 (dk_at dksX3_allWorn_0 14 rfl rfl)
theorem dX3_allWorn_17 : decode cX3_allWorn 17 = .ok (.iload_n 2, 1) := dk_28 (dk_at dksX3_allWorn_0 17 rfl rfl)
theorem dX3_allWorn_18 : decode cX3_allWorn 18 = .ok (.iaload, 1) := dk_46 (dk_at dksX3_allWorn_0 18 rfl rfl)
theorem dX3_allWorn_19 : decode cX3_allWorn 19 = .ok (.iadd, 1) := dk_96 (dk_at dksX3_allWorn_0 19 rfl rfl)
theorem dX3_allWorn_20 : decode cX3_allWorn 20 = .ok (.istore_n 1, 1) := dk_60 (dk_at dksX3_allWorn_0 20 rfl rfl)
theorem dX3_allWorn_21 : decode cX3_allWorn 21 = .ok (.iinc 2 1, 3) := dk_132 2 1 (dk_at dksX3_allWorn_0 21 rfl rfl)
theorem dX3_allWorn_24 : decode cX3_allWorn 24 = .ok (.goto (-20), 3) := dk_167 255 236 (dk_at dksX3_allWorn_1 0 rfl rfl)
theorem dX3_allWorn_27 : decode cX3_allWorn 27 = .ok (.iload_n 1, 1) := dk_27 (dk_at dksX3_allWorn_1 3 rfl rfl)
theorem dX3_allWorn_28 : decode cX3_allWorn 28 = .ok (.ireturn, 1) := dk_172 (dk_at dksX3_allWorn_1 4 rfl rfl)
abbrev cX3_stair : ByteArray := prog_10_method_28_code
def yX3_stair : MethodName := ⟨RX3, "stair", "(II)I"⟩
def dkwX3_stair_6 : List UInt8 := [46, 172, 42, 27, 182, 0, 222, 172, 18, 111, 172]
abbrev dktX3_stair_6 : List UInt8 := dkwX3_stair_6 ++ []
def dkwX3_stair_5 : List UInt8 := [5, 164, 0, 16, 42, 180, 0, 22, 6, 27, 104, 5, 96, 46, 167, 0, 4, 3, 172, 42, 180, 0, 25, 27]
abbrev dktX3_stair_5 : List UInt8 := dkwX3_stair_5 ++ dktX3_stair_6
def dkwX3_stair_4 : List UInt8 := [164, 0, 16, 42, 180, 0, 22, 6, 27, 104, 4, 96, 46, 167, 0, 4, 3, 172, 42, 180, 0, 19, 27, 46]
abbrev dktX3_stair_4 : List UInt8 := dkwX3_stair_4 ++ dktX3_stair_5
def dkwX3_stair_3 : List UInt8 := [180, 0, 19, 27, 46, 172, 42, 180, 0, 22, 6, 27, 104, 46, 172, 42, 180, 0, 19, 27, 46, 4]
abbrev dktX3_stair_3 : List UInt8 := dkwX3_stair_3 ++ dktX3_stair_4
def dkwX3_stair_2 : List UInt8 := [42, 180, 0, 7, 27, 46, 172, 42, 180, 0, 13, 27, 46, 172, 42, 180, 0, 16, 27, 46, 172, 42]
abbrev dktX3_stair_2 : List UInt8 := dkwX3_stair_2 ++ dktX3_stair_3
def dkwX3_stair_1 : List UInt8 := [170, 0, 0, 0, 0, 0, 0, 152, 0, 0, 0, 0, 0, 0, 0, 8, 0, 0, 0, 52, 0, 0, 0, 59, 0, 0, 0, 66, 0, 0, 0, 73, 0, 0, 0, 80, 0, 0, 0, 89, 0, 0, 0, 114, 0, 0, 0, 139, 0, 0, 0, 146]
abbrev dktX3_stair_1 : List UInt8 := dkwX3_stair_1 ++ dktX3_stair_2
def dkwX3_stair_0 : List UInt8 := [42, 27, 182, 0, 217, 154, 0, 6, 18, 221, 172, 28]
abbrev dktX3_stair_0 : List UInt8 := dkwX3_stair_0 ++ dktX3_stair_1
theorem dksX3_stair_0 : cX3_stair.data.toList.drop 0 = dktX3_stair_0 := by decide +kernel
theorem dksX3_stair_1 : cX3_stair.data.toList.drop 12 = dktX3_stair_1 := dk_seg dksX3_stair_0 12 rfl rfl
theorem dksX3_stair_2 : cX3_stair.data.toList.drop 64 = dktX3_stair_2 := dk_seg dksX3_stair_1 52 rfl rfl
theorem dksX3_stair_3 : cX3_stair.data.toList.drop 86 = dktX3_stair_3 := dk_seg dksX3_stair_2 22 rfl rfl
theorem dksX3_stair_4 : cX3_stair.data.toList.drop 108 = dktX3_stair_4 := dk_seg dksX3_stair_3 22 rfl rfl
theorem dksX3_stair_5 : cX3_stair.data.toList.drop 132 = dktX3_stair_5 := dk_seg dksX3_stair_4 24 rfl rfl
theorem dksX3_stair_6 : cX3_stair.data.toList.drop 156 = dktX3_stair_6 := dk_seg dksX3_stair_5 24 rfl rfl
theorem dX3_stair_0 : decode cX3_stair 0 = .ok (.aload_n 0, 1) := dk_42 (dk_at dksX3_stair_0 0 rfl rfl)
theorem dX3_stair_1 : decode cX3_stair 1 = .ok (.iload_n 1, 1) := dk_27 (dk_at dksX3_stair_0 1 rfl rfl)
theorem dX3_stair_2 : decode cX3_stair 2 = .ok (.invokevirtual 217, 3) := dk_182 0 217 (dk_at dksX3_stair_0 2 rfl rfl)
theorem dX3_stair_5 : decode cX3_stair 5 = .ok (.ifCond .ne 6, 3) := dk_154 0 6 (dk_at dksX3_stair_0 5 rfl rfl)
theorem dX3_stair_8 : decode cX3_stair 8 = .ok (.ldc 221, 2) := dk_18 221 (dk_at dksX3_stair_0 8 rfl rfl)
theorem dX3_stair_10 : decode cX3_stair 10 = .ok (.ireturn, 1) := dk_172 (dk_at dksX3_stair_0 10 rfl rfl)
theorem dX3_stair_11 : decode cX3_stair 11 = .ok (.iload_n 2, 1) := dk_28 (dk_at dksX3_stair_0 11 rfl rfl)
theorem dX3_stair_12 : decode cX3_stair 12 = .ok (.tableswitch 152 0 8 #[52, 59, 66, 73, 80, 89, 114, 139, 146], 52) := by decide +kernel
theorem dX3_stair_64 : decode cX3_stair 64 = .ok (.aload_n 0, 1) := dk_42 (dk_at dksX3_stair_2 0 rfl rfl)
theorem dX3_stair_65 : decode cX3_stair 65 = .ok (.getfield 7, 3) := dk_180 0 7 (dk_at dksX3_stair_2 1 rfl rfl)
theorem dX3_stair_68 : decode cX3_stair 68 = .ok (.iload_n 1, 1) := dk_27 (dk_at dksX3_stair_2 4 rfl rfl)
theorem dX3_stair_69 : decode cX3_stair 69 = .ok (.iaload, 1) := dk_46 (dk_at dksX3_stair_2 5 rfl rfl)
theorem dX3_stair_70 : decode cX3_stair 70 = .ok (.ireturn, 1) := dk_172 (dk_at dksX3_stair_2 6 rfl rfl)
theorem dX3_stair_71 : decode cX3_stair 71 = .ok (.aload_n 0, 1) := dk_42 (dk_at dksX3_stair_2 7 rfl rfl)
theorem dX3_stair_72 : decode cX3_stair 72 = .ok (.getfield 13, 3) := dk_180 0 13 (dk_at dksX3_stair_2 8 rfl rfl)
theorem dX3_stair_75 : decode cX3_stair 75 = .ok (.iload_n 1, 1) := dk_27 (dk_at dksX3_stair_2 11 rfl rfl)
theorem dX3_stair_76 : decode cX3_stair 76 = .ok (.iaload, 1) := dk_46 (dk_at dksX3_stair_2 12 rfl rfl)
theorem dX3_stair_77 : decode cX3_stair 77 = .ok (.ireturn, 1) := dk_172 (dk_at dksX3_stair_2 13 rfl rfl)
theorem dX3_stair_78 : decode cX3_stair 78 = .ok (.aload_n 0, 1) := dk_42 (dk_at dksX3_stair_2 14 rfl rfl)
theorem dX3_stair_79 : decode cX3_stair 79 = .ok (.getfield 16, 3) := dk_180 0 16 (dk_at dksX3_stair_2 15 rfl rfl)
theorem dX3_stair_82 : decode cX3_stair 82 = .ok (.iload_n 1, 1) := dk_27 (dk_at dksX3_stair_2 18 rfl rfl)
theorem dX3_stair_83 : decode cX3_stair 83 = .ok (.iaload, 1) := dk_46 (dk_at dksX3_stair_2 19 rfl rfl)
theorem dX3_stair_84 : decode cX3_stair 84 = .ok (.ireturn, 1) := dk_172 (dk_at dksX3_stair_2 20 rfl rfl)
theorem dX3_stair_85 : decode cX3_stair 85 = .ok (.aload_n 0, 1) := dk_42 (dk_at dksX3_stair_2 21 rfl rfl)
theorem dX3_stair_86 : decode cX3_stair 86 = .ok (.getfield 19, 3) := dk_180 0 19 (dk_at dksX3_stair_3 0 rfl rfl)
theorem dX3_stair_89 : decode cX3_stair 89 = .ok (.iload_n 1, 1) := dk_27 (dk_at dksX3_stair_3 3 rfl rfl)
theorem dX3_stair_90 : decode cX3_stair 90 = .ok (.iaload, 1) := dk_46 (dk_at dksX3_stair_3 4 rfl rfl)
theorem dX3_stair_91 : decode cX3_stair 91 = .ok (.ireturn, 1) := dk_172 (dk_at dksX3_stair_3 5 rfl rfl)
theorem dX3_stair_92 : decode cX3_stair 92 = .ok (.aload_n 0, 1) := dk_42 (dk_at dksX3_stair_3 6 rfl rfl)
theorem dX3_stair_93 : decode cX3_stair 93 = .ok (.getfield 22, 3) := dk_180 0 22 (dk_at dksX3_stair_3 7 rfl rfl)
theorem dX3_stair_96 : decode cX3_stair 96 = .ok (.iconst 3, 1) := dk_6 (dk_at dksX3_stair_3 10 rfl rfl)
theorem dX3_stair_97 : decode cX3_stair 97 = .ok (.iload_n 1, 1) := dk_27 (dk_at dksX3_stair_3 11 rfl rfl)
theorem dX3_stair_98 : decode cX3_stair 98 = .ok (.imul, 1) := dk_104 (dk_at dksX3_stair_3 12 rfl rfl)
theorem dX3_stair_99 : decode cX3_stair 99 = .ok (.iaload, 1) := dk_46 (dk_at dksX3_stair_3 13 rfl rfl)
theorem dX3_stair_100 : decode cX3_stair 100 = .ok (.ireturn, 1) := dk_172 (dk_at dksX3_stair_3 14 rfl rfl)
theorem dX3_stair_101 : decode cX3_stair 101 = .ok (.aload_n 0, 1) := dk_42 (dk_at dksX3_stair_3 15 rfl rfl)
theorem dX3_stair_102 : decode cX3_stair 102 = .ok (.getfield 19, 3) := dk_180 0 19 (dk_at dksX3_stair_3 16 rfl rfl)
theorem dX3_stair_105 : decode cX3_stair 105 = .ok (.iload_n 1, 1) := dk_27 (dk_at dksX3_stair_3 19 rfl rfl)
theorem dX3_stair_106 : decode cX3_stair 106 = .ok (.iaload, 1) := dk_46 (dk_at dksX3_stair_3 20 rfl rfl)
theorem dX3_stair_107 : decode cX3_stair 107 = .ok (.iconst 1, 1) := dk_4 (dk_at dksX3_stair_3 21 rfl rfl)
theorem dX3_stair_108 : decode cX3_stair 108 = .ok (.if_icmp .le 16, 3) := dk_164 0 16 (dk_at dksX3_stair_4 0 rfl rfl)
theorem dX3_stair_111 : decode cX3_stair 111 = .ok (.aload_n 0, 1) := dk_42 (dk_at dksX3_stair_4 3 rfl rfl)
theorem dX3_stair_112 : decode cX3_stair 112 = .ok (.getfield 22, 3) := dk_180 0 22 (dk_at dksX3_stair_4 4 rfl rfl)
theorem dX3_stair_115 : decode cX3_stair 115 = .ok (.iconst 3, 1) := dk_6 (dk_at dksX3_stair_4 7 rfl rfl)
theorem dX3_stair_116 : decode cX3_stair 116 = .ok (.iload_n 1, 1) := dk_27 (dk_at dksX3_stair_4 8 rfl rfl)
theorem dX3_stair_117 : decode cX3_stair 117 = .ok (.imul, 1) := dk_104 (dk_at dksX3_stair_4 9 rfl rfl)
theorem dX3_stair_118 : decode cX3_stair 118 = .ok (.iconst 1, 1) := dk_4 (dk_at dksX3_stair_4 10 rfl rfl)
theorem dX3_stair_119 : decode cX3_stair 119 = .ok (.iadd, 1) := dk_96 (dk_at dksX3_stair_4 11 rfl rfl)
theorem dX3_stair_120 : decode cX3_stair 120 = .ok (.iaload, 1) := dk_46 (dk_at dksX3_stair_4 12 rfl rfl)
theorem dX3_stair_121 : decode cX3_stair 121 = .ok (.goto 4, 3) := dk_167 0 4 (dk_at dksX3_stair_4 13 rfl rfl)
theorem dX3_stair_124 : decode cX3_stair 124 = .ok (.iconst 0, 1) := dk_3 (dk_at dksX3_stair_4 16 rfl rfl)
theorem dX3_stair_125 : decode cX3_stair 125 = .ok (.ireturn, 1) := dk_172 (dk_at dksX3_stair_4 17 rfl rfl)
theorem dX3_stair_126 : decode cX3_stair 126 = .ok (.aload_n 0, 1) := dk_42 (dk_at dksX3_stair_4 18 rfl rfl)
theorem dX3_stair_127 : decode cX3_stair 127 = .ok (.getfield 19, 3) := dk_180 0 19 (dk_at dksX3_stair_4 19 rfl rfl)
theorem dX3_stair_130 : decode cX3_stair 130 = .ok (.iload_n 1, 1) := dk_27 (dk_at dksX3_stair_4 22 rfl rfl)
theorem dX3_stair_131 : decode cX3_stair 131 = .ok (.iaload, 1) := dk_46 (dk_at dksX3_stair_4 23 rfl rfl)
theorem dX3_stair_132 : decode cX3_stair 132 = .ok (.iconst 2, 1) := dk_5 (dk_at dksX3_stair_5 0 rfl rfl)
theorem dX3_stair_133 : decode cX3_stair 133 = .ok (.if_icmp .le 16, 3) := dk_164 0 16 (dk_at dksX3_stair_5 1 rfl rfl)
theorem dX3_stair_136 : decode cX3_stair 136 = .ok (.aload_n 0, 1) := dk_42 (dk_at dksX3_stair_5 4 rfl rfl)
theorem dX3_stair_137 : decode cX3_stair 137 = .ok (.getfield 22, 3) := dk_180 0 22 (dk_at dksX3_stair_5 5 rfl rfl)
theorem dX3_stair_140 : decode cX3_stair 140 = .ok (.iconst 3, 1) := dk_6 (dk_at dksX3_stair_5 8 rfl rfl)
theorem dX3_stair_141 : decode cX3_stair 141 = .ok (.iload_n 1, 1) := dk_27 (dk_at dksX3_stair_5 9 rfl rfl)
theorem dX3_stair_142 : decode cX3_stair 142 = .ok (.imul, 1) := dk_104 (dk_at dksX3_stair_5 10 rfl rfl)
theorem dX3_stair_143 : decode cX3_stair 143 = .ok (.iconst 2, 1) := dk_5 (dk_at dksX3_stair_5 11 rfl rfl)
theorem dX3_stair_144 : decode cX3_stair 144 = .ok (.iadd, 1) := dk_96 (dk_at dksX3_stair_5 12 rfl rfl)
theorem dX3_stair_145 : decode cX3_stair 145 = .ok (.iaload, 1) := dk_46 (dk_at dksX3_stair_5 13 rfl rfl)
theorem dX3_stair_146 : decode cX3_stair 146 = .ok (.goto 4, 3) := dk_167 0 4 (dk_at dksX3_stair_5 14 rfl rfl)
theorem dX3_stair_149 : decode cX3_stair 149 = .ok (.iconst 0, 1) := dk_3 (dk_at dksX3_stair_5 17 rfl rfl)
theorem dX3_stair_150 : decode cX3_stair 150 = .ok (.ireturn, 1) := dk_172 (dk_at dksX3_stair_5 18 rfl rfl)
theorem dX3_stair_151 : decode cX3_stair 151 = .ok (.aload_n 0, 1) := dk_42 (dk_at dksX3_stair_5 19 rfl rfl)
theorem dX3_stair_152 : decode cX3_stair 152 = .ok (.getfield 25, 3) := dk_180 0 25 (dk_at dksX3_stair_5 20 rfl rfl)
theorem dX3_stair_155 : decode cX3_stair 155 = .ok (.iload_n 1, 1) := dk_27 (dk_at dksX3_stair_5 23 rfl rfl)
theorem dX3_stair_156 : decode cX3_stair 156 = .ok (.iaload, 1) := dk_46 (dk_at dksX3_stair_6 0 rfl rfl)
theorem dX3_stair_157 : decode cX3_stair 157 = .ok (.ireturn, 1) := dk_172 (dk_at dksX3_stair_6 1 rfl rfl)
theorem dX3_stair_158 : decode cX3_stair 158 = .ok (.aload_n 0, 1) := dk_42 (dk_at dksX3_stair_6 2 rfl rfl)
theorem dX3_stair_159 : decode cX3_stair 159 = .ok (.iload_n 1, 1) := dk_27 (dk_at dksX3_stair_6 3 rfl rfl)
theorem dX3_stair_160 : decode cX3_stair 160 = .ok (.invokevirtual 222, 3) := dk_182 0 222 (dk_at dksX3_stair_6 4 rfl rfl)
theorem dX3_stair_163 : decode cX3_stair 163 = .ok (.ireturn, 1) := dk_172 (dk_at dksX3_stair_6 7 rfl rfl)
theorem dX3_stair_164 : decode cX3_stair 164 = .ok (.ldc 111, 2) := dk_18 111 (dk_at dksX3_stair_6 8 rfl rfl)
theorem dX3_stair_166 : decode cX3_stair 166 = .ok (.ireturn, 1) := dk_172 (dk_at dksX3_stair_6 10 rfl rfl)
abbrev cX3_isStair : ByteArray := prog_10_method_7_code
def yX3_isStair : MethodName := ⟨RX3, "isStair", "(I)Z"⟩
def dkwX3_isStair_0 : List UInt8 := [27, 133, 9, 42, 180, 0, 103, 4, 100, 133, 184, 0, 99, 172]
abbrev dktX3_isStair_0 : List UInt8 := dkwX3_isStair_0 ++ []
theorem dksX3_isStair_0 : cX3_isStair.data.toList.drop 0 = dktX3_isStair_0 := by decide +kernel
theorem dX3_isStair_0 : decode cX3_isStair 0 = .ok (.iload_n 1, 1) := dk_27 (dk_at dksX3_isStair_0 0 rfl rfl)
theorem dX3_isStair_1 : decode cX3_isStair 1 = .ok (.i2l, 1) := dk_133 (dk_at dksX3_isStair_0 1 rfl rfl)
theorem dX3_isStair_2 : decode cX3_isStair 2 = .ok (.lconst 0, 1) := dk_9 (dk_at dksX3_isStair_0 2 rfl rfl)
theorem dX3_isStair_3 : decode cX3_isStair 3 = .ok (.aload_n 0, 1) := dk_42 (dk_at dksX3_isStair_0 3 rfl rfl)
theorem dX3_isStair_4 : decode cX3_isStair 4 = .ok (.getfield 103, 3) := dk_180 0 103 (dk_at dksX3_isStair_0 4 rfl rfl)
theorem dX3_isStair_7 : decode cX3_isStair 7 = .ok (.iconst 1, 1) := dk_4 (dk_at dksX3_isStair_0 7 rfl rfl)
theorem dX3_isStair_8 : decode cX3_isStair 8 = .ok (.isub, 1) := dk_100 (dk_at dksX3_isStair_0 8 rfl rfl)
theorem dX3_isStair_9 : decode cX3_isStair 9 = .ok (.i2l, 1) := dk_133 (dk_at dksX3_isStair_0 9 rfl rfl)
theorem dX3_isStair_10 : decode cX3_isStair 10 = .ok (.invokestatic 99, 3) := dk_184 0 99 (dk_at dksX3_isStair_0 10 rfl rfl)
theorem dX3_isStair_13 : decode cX3_isStair 13 = .ok (.ireturn, 1) := dk_172 (dk_at dksX3_isStair_0 13 rfl rfl)
abbrev cX3_climbers : ByteArray := prog_10_method_27_code
def yX3_climbers : MethodName := ⟨RX3, "climbers", "(I)I"⟩
def dkwX3_climbers_1 : List UInt8 := [120, 167, 0, 4, 3, 128, 61, 132, 3, 1, 167, 255, 226, 28, 172]
abbrev dktX3_climbers_1 : List UInt8 := dkwX3_climbers_1 ++ []
def dkwX3_climbers_0 : List UInt8 := [3, 61, 3, 62, 29, 42, 180, 0, 106, 162, 0, 28, 28, 42, 29, 27, 182, 0, 214, 153, 0, 9, 4, 29]
abbrev dktX3_climbers_0 : List UInt8 := dkwX3_climbers_0 ++ dktX3_climbers_1
theorem dksX3_climbers_0 : cX3_climbers.data.toList.drop 0 = dktX3_climbers_0 := by decide +kernel
theorem dksX3_climbers_1 : cX3_climbers.data.toList.drop 24 = dktX3_climbers_1 := dk_seg dksX3_climbers_0 24 rfl rfl
theorem dX3_climbers_0 : decode cX3_climbers 0 = .ok (.iconst 0, 1) := dk_3 (dk_at dksX3_climbers_0 0 rfl rfl)
theorem dX3_climbers_1 : decode cX3_climbers 1 = .ok (.istore_n 2, 1) := dk_61 (dk_at dksX3_climbers_0 1 rfl rfl)
theorem dX3_climbers_2 : decode cX3_climbers 2 = .ok (.iconst 0, 1) := dk_3 (dk_at dksX3_climbers_0 2 rfl rfl)
theorem dX3_climbers_3 : decode cX3_climbers 3 = .ok (.istore_n 3, 1) := dk_62 (dk_at dksX3_climbers_0 3 rfl rfl)
theorem dX3_climbers_4 : decode cX3_climbers 4 = .ok (.iload_n 3, 1) := dk_29 (dk_at dksX3_climbers_0 4 rfl rfl)
theorem dX3_climbers_5 : decode cX3_climbers 5 = .ok (.aload_n 0, 1) := dk_42 (dk_at dksX3_climbers_0 5 rfl rfl)
theorem dX3_climbers_6 : decode cX3_climbers 6 = .ok (.getfield 106, 3) := dk_180 0 106 (dk_at dksX3_climbers_0 6 rfl rfl)
theorem dX3_climbers_9 : decode cX3_climbers 9 = .ok (.if_icmp .ge 28, 3) := dk_162 0 28 (dk_at dksX3_climbers_0 9 rfl rfl)
theorem dX3_climbers_12 : decode cX3_climbers 12 = .ok (.iload_n 2, 1) := dk_28 (dk_at dksX3_climbers_0 12 rfl rfl)
theorem dX3_climbers_13 : decode cX3_climbers 13 = .ok (.aload_n 0, 1) := dk_42 (dk_at dksX3_climbers_0 13 rfl rfl)
theorem dX3_climbers_14 : decode cX3_climbers 14 = .ok (.iload_n 3, 1) := dk_29 (dk_at dksX3_climbers_0 14 rfl rfl)
theorem dX3_climbers_15 : decode cX3_climbers 15 = .ok (.iload_n 1, 1) := dk_27 (dk_at dksX3_climbers_0 15 rfl rfl)
theorem dX3_climbers_16 : decode cX3_climbers 16 = .ok (.invokevirtual 214, 3) := dk_182 0 214 (dk_at dksX3_climbers_0 16 rfl rfl)
theorem dX3_climbers_19 : decode cX3_climbers 19 = .ok (.ifCond .eq 9, 3) := dk_153 0 9 (dk_at dksX3_climbers_0 19 rfl rfl)
theorem dX3_climbers_22 : decode cX3_climbers 22 = .ok (.iconst 1, 1) := dk_4 (dk_at dksX3_climbers_0 22 rfl rfl)
theorem dX3_climbers_23 : decode cX3_climbers 23 = .ok (.iload_n 3, 1) := dk_29 (dk_at dksX3_climbers_0 23 rfl rfl)
theorem dX3_climbers_24 : decode cX3_climbers 24 = .ok (.ishl, 1) := dk_120 (dk_at dksX3_climbers_1 0 rfl rfl)
theorem dX3_climbers_25 : decode cX3_climbers 25 = .ok (.goto 4, 3) := dk_167 0 4 (dk_at dksX3_climbers_1 1 rfl rfl)
theorem dX3_climbers_28 : decode cX3_climbers 28 = .ok (.iconst 0, 1) := dk_3 (dk_at dksX3_climbers_1 4 rfl rfl)
theorem dX3_climbers_29 : decode cX3_climbers 29 = .ok (.ior, 1) := dk_128 (dk_at dksX3_climbers_1 5 rfl rfl)
theorem dX3_climbers_30 : decode cX3_climbers 30 = .ok (.istore_n 2, 1) := dk_61 (dk_at dksX3_climbers_1 6 rfl rfl)
theorem dX3_climbers_31 : decode cX3_climbers 31 = .ok (.iinc 3 1, 3) := dk_132 3 1 (dk_at dksX3_climbers_1 7 rfl rfl)
theorem dX3_climbers_34 : decode cX3_climbers 34 = .ok (.goto (-30), 3) := dk_167 255 226 (dk_at dksX3_climbers_1 10 rfl rfl)
theorem dX3_climbers_37 : decode cX3_climbers 37 = .ok (.iload_n 2, 1) := dk_28 (dk_at dksX3_climbers_1 13 rfl rfl)
theorem dX3_climbers_38 : decode cX3_climbers 38 = .ok (.ireturn, 1) := dk_172 (dk_at dksX3_climbers_1 14 rfl rfl)
abbrev cX3_mayClimb : ByteArray := prog_10_method_26_code
def yX3_mayClimb : MethodName := ⟨RX3, "mayClimb", "(II)Z"⟩
def dkwX3_mayClimb_1 : List UInt8 := [182, 0, 210, 153, 0, 7, 4, 167, 0, 4, 3, 172]
abbrev dktX3_mayClimb_1 : List UInt8 := dkwX3_mayClimb_1 ++ []
def dkwX3_mayClimb_0 : List UInt8 := [42, 28, 42, 180, 0, 31, 27, 46, 182, 0, 210, 154, 0, 17, 42, 28, 42, 180, 0, 34, 27, 46]
abbrev dktX3_mayClimb_0 : List UInt8 := dkwX3_mayClimb_0 ++ dktX3_mayClimb_1
theorem dksX3_mayClimb_0 : cX3_mayClimb.data.toList.drop 0 = dktX3_mayClimb_0 := by decide +kernel
theorem dksX3_mayClimb_1 : cX3_mayClimb.data.toList.drop 22 = dktX3_mayClimb_1 := dk_seg dksX3_mayClimb_0 22 rfl rfl
theorem dX3_mayClimb_0 : decode cX3_mayClimb 0 = .ok (.aload_n 0, 1) := dk_42 (dk_at dksX3_mayClimb_0 0 rfl rfl)
theorem dX3_mayClimb_1 : decode cX3_mayClimb 1 = .ok (.iload_n 2, 1) := dk_28 (dk_at dksX3_mayClimb_0 1 rfl rfl)
theorem dX3_mayClimb_2 : decode cX3_mayClimb 2 = .ok (.aload_n 0, 1) := dk_42 (dk_at dksX3_mayClimb_0 2 rfl rfl)
theorem dX3_mayClimb_3 : decode cX3_mayClimb 3 = .ok (.getfield 31, 3) := dk_180 0 31 (dk_at dksX3_mayClimb_0 3 rfl rfl)
theorem dX3_mayClimb_6 : decode cX3_mayClimb 6 = .ok (.iload_n 1, 1) := dk_27 (dk_at dksX3_mayClimb_0 6 rfl rfl)
theorem dX3_mayClimb_7 : decode cX3_mayClimb 7 = .ok (.iaload, 1) := dk_46 (dk_at dksX3_mayClimb_0 7 rfl rfl)
theorem dX3_mayClimb_8 : decode cX3_mayClimb 8 = .ok (.invokevirtual 210, 3) := dk_182 0 210 (dk_at dksX3_mayClimb_0 8 rfl rfl)
theorem dX3_mayClimb_11 : decode cX3_mayClimb 11 = .ok (.ifCond .ne 17, 3) := dk_154 0 17 (dk_at dksX3_mayClimb_0 11 rfl rfl)
theorem dX3_mayClimb_14 : decode cX3_mayClimb 14 = .ok (.aload_n 0, 1) := dk_42 (dk_at dksX3_mayClimb_0 14 rfl rfl)
theorem dX3_mayClimb_15 : decode cX3_mayClimb 15 = .ok (.iload_n 2, 1) := dk_28 (dk_at dksX3_mayClimb_0 15 rfl rfl)
theorem dX3_mayClimb_16 : decode cX3_mayClimb 16 = .ok (.aload_n 0, 1) := dk_42 (dk_at dksX3_mayClimb_0 16 rfl rfl)
theorem dX3_mayClimb_17 : decode cX3_mayClimb 17 = .ok (.getfield 34, 3) := dk_180 0 34 (dk_at dksX3_mayClimb_0 17 rfl rfl)
theorem dX3_mayClimb_20 : decode cX3_mayClimb 20 = .ok (.iload_n 1, 1) := dk_27 (dk_at dksX3_mayClimb_0 20 rfl rfl)
theorem dX3_mayClimb_21 : decode cX3_mayClimb 21 = .ok (.iaload, 1) := dk_46 (dk_at dksX3_mayClimb_0 21 rfl rfl)
theorem dX3_mayClimb_22 : decode cX3_mayClimb 22 = .ok (.invokevirtual 210, 3) := dk_182 0 210 (dk_at dksX3_mayClimb_1 0 rfl rfl)
theorem dX3_mayClimb_25 : decode cX3_mayClimb 25 = .ok (.ifCond .eq 7, 3) := dk_153 0 7 (dk_at dksX3_mayClimb_1 3 rfl rfl)
theorem dX3_mayClimb_28 : decode cX3_mayClimb 28 = .ok (.iconst 1, 1) := dk_4 (dk_at dksX3_mayClimb_1 6 rfl rfl)
theorem dX3_mayClimb_29 : decode cX3_mayClimb 29 = .ok (.goto 4, 3) := dk_167 0 4 (dk_at dksX3_mayClimb_1 7 rfl rfl)
theorem dX3_mayClimb_32 : decode cX3_mayClimb 32 = .ok (.iconst 0, 1) := dk_3 (dk_at dksX3_mayClimb_1 10 rfl rfl)
theorem dX3_mayClimb_33 : decode cX3_mayClimb 33 = .ok (.ireturn, 1) := dk_172 (dk_at dksX3_mayClimb_1 11 rfl rfl)
abbrev cX3_isFit : ByteArray := prog_10_method_25_code
def yX3_isFit : MethodName := ⟨RX3, "isFit", "(II)Z"⟩
def dkwX3_isFit_3 : List UInt8 := [159, 0, 9, 28, 21, 5, 160, 0, 7, 4, 167, 0, 4, 3, 62, 132, 4, 1, 167, 255, 179, 29, 172]
abbrev dktX3_isFit_3 : List UInt8 := dkwX3_isFit_3 ++ []
def dkwX3_isFit_2 : List UInt8 := [159, 0, 33, 42, 180, 0, 7, 27, 46, 154, 0, 13, 21, 5, 28, 112, 154, 0, 21, 167, 0, 14, 28, 4]
abbrev dktX3_isFit_2 : List UInt8 := dkwX3_isFit_2 ++ dktX3_isFit_3
def dkwX3_isFit_1 : List UInt8 := [180, 0, 22, 6, 27, 104, 21, 4, 96, 46, 54, 5, 29, 153, 0, 47, 42, 180, 0, 7, 27, 46, 4]
abbrev dktX3_isFit_1 : List UInt8 := dkwX3_isFit_1 ++ dktX3_isFit_2
def dkwX3_isFit_0 : List UInt8 := [28, 154, 0, 5, 3, 172, 4, 62, 3, 54, 4, 21, 4, 42, 180, 0, 19, 27, 46, 162, 0, 72, 42]
abbrev dktX3_isFit_0 : List UInt8 := dkwX3_isFit_0 ++ dktX3_isFit_1
theorem dksX3_isFit_0 : cX3_isFit.data.toList.drop 0 = dktX3_isFit_0 := by decide +kernel
theorem dksX3_isFit_1 : cX3_isFit.data.toList.drop 23 = dktX3_isFit_1 := dk_seg dksX3_isFit_0 23 rfl rfl
theorem dksX3_isFit_2 : cX3_isFit.data.toList.drop 46 = dktX3_isFit_2 := dk_seg dksX3_isFit_1 23 rfl rfl
theorem dksX3_isFit_3 : cX3_isFit.data.toList.drop 70 = dktX3_isFit_3 := dk_seg dksX3_isFit_2 24 rfl rfl
theorem dX3_isFit_0 : decode cX3_isFit 0 = .ok (.iload_n 2, 1) := dk_28 (dk_at dksX3_isFit_0 0 rfl rfl)
theorem dX3_isFit_1 : decode cX3_isFit 1 = .ok (.ifCond .ne 5, 3) := dk_154 0 5 (dk_at dksX3_isFit_0 1 rfl rfl)
theorem dX3_isFit_4 : decode cX3_isFit 4 = .ok (.iconst 0, 1) := dk_3 (dk_at dksX3_isFit_0 4 rfl rfl)
theorem dX3_isFit_5 : decode cX3_isFit 5 = .ok (.ireturn, 1) := dk_172 (dk_at dksX3_isFit_0 5 rfl rfl)
theorem dX3_isFit_6 : decode cX3_isFit 6 = .ok (.iconst 1, 1) := dk_4 (dk_at dksX3_isFit_0 6 rfl rfl)
theorem dX3_isFit_7 : decode cX3_isFit 7 = .ok (.istore_n 3, 1) := dk_62 (dk_at dksX3_isFit_0 7 rfl rfl)
theorem dX3_isFit_8 : decode cX3_isFit 8 = .ok (.iconst 0, 1) := dk_3 (dk_at dksX3_isFit_0 8 rfl rfl)
theorem dX3_isFit_9 : decode cX3_isFit 9 = .ok (.istore 4, 2) := dk_54 4 (dk_at dksX3_isFit_0 9 rfl rfl)
theorem dX3_isFit_11 : decode cX3_isFit 11 = .ok (.iload 4, 2) := dk_21 4 (dk_at dksX3_isFit_0 11 rfl rfl)
theorem dX3_isFit_13 : decode cX3_isFit 13 = .ok (.aload_n 0, 1) := dk_42 (dk_at dksX3_isFit_0 13 rfl rfl)
theorem dX3_isFit_14 : decode cX3_isFit 14 = .ok (.getfield 19, 3) := dk_180 0 19 (dk_at dksX3_isFit_0 14 rfl rfl)
theorem dX3_isFit_17 : decode cX3_isFit 17 = .ok (.iload_n 1, 1) := dk_27 (dk_at dksX3_isFit_0 17 rfl rfl)
theorem dX3_isFit_18 : decode cX3_isFit 18 = .ok (.iaload, 1) := dk_46 (dk_at dksX3_isFit_0 18 rfl rfl)
theorem dX3_isFit_19 : decode cX3_isFit 19 = .ok (.if_icmp .ge 72, 3) := dk_162 0 72 (dk_at dksX3_isFit_0 19 rfl rfl)
theorem dX3_isFit_22 : decode cX3_isFit 22 = .ok (.aload_n 0, 1) := dk_42 (dk_at dksX3_isFit_0 22 rfl rfl)
theorem dX3_isFit_23 : decode cX3_isFit 23 = .ok (.getfield 22, 3) := dk_180 0 22 (dk_at dksX3_isFit_1 0 rfl rfl)
theorem dX3_isFit_26 : decode cX3_isFit 26 = .ok (.iconst 3, 1) := dk_6 (dk_at dksX3_isFit_1 3 rfl rfl)
theorem dX3_isFit_27 : decode cX3_isFit 27 = .ok (.iload_n 1, 1) := dk_27 (dk_at dksX3_isFit_1 4 rfl rfl)
theorem dX3_isFit_28 : decode cX3_isFit 28 = .ok (.imul, 1) := dk_104 (dk_at dksX3_isFit_1 5 rfl rfl)
theorem dX3_isFit_29 : decode cX3_isFit 29 = .ok (.iload 4, 2) := dk_21 4 (dk_at dksX3_isFit_1 6 rfl rfl)
theorem dX3_isFit_31 : decode cX3_isFit 31 = .ok (.iadd, 1) := dk_96 (dk_at dksX3_isFit_1 8 rfl rfl)
theorem dX3_isFit_32 : decode cX3_isFit 32 = .ok (.iaload, 1) := dk_46 (dk_at dksX3_isFit_1 9 rfl rfl)
theorem dX3_isFit_33 : decode cX3_isFit 33 = .ok (.istore 5, 2) := dk_54 5 (dk_at dksX3_isFit_1 10 rfl rfl)
theorem dX3_isFit_35 : decode cX3_isFit 35 = .ok (.iload_n 3, 1) := dk_29 (dk_at dksX3_isFit_1 12 rfl rfl)
theorem dX3_isFit_36 : decode cX3_isFit 36 = .ok (.ifCond .eq 47, 3) := dk_153 0 47 (dk_at dksX3_isFit_1 13 rfl rfl)
theorem dX3_isFit_39 : decode cX3_isFit 39 = .ok (.aload_n 0, 1) := dk_42 (dk_at dksX3_isFit_1 16 rfl rfl)
theorem dX3_isFit_40 : decode cX3_isFit 40 = .ok (.getfield 7, 3) := dk_180 0 7 (dk_at dksX3_isFit_1 17 rfl rfl)
theorem dX3_isFit_43 : decode cX3_isFit 43 = .ok (.iload_n 1, 1) := dk_27 (dk_at dksX3_isFit_1 20 rfl rfl)
theorem dX3_isFit_44 : decode cX3_isFit 44 = .ok (.iaload, 1) := dk_46 (dk_at dksX3_isFit_1 21 rfl rfl)
theorem dX3_isFit_45 : decode cX3_isFit 45 = .ok (.iconst 1, 1) := dk_4 (dk_at dksX3_isFit_1 22 rfl rfl)
theorem dX3_isFit_46 : decode cX3_isFit 46 = .ok (.if_icmp .eq 33, 3) := dk_159 0 33 (dk_at dksX3_isFit_2 0 rfl rfl)
theorem dX3_isFit_49 : decode cX3_isFit 49 = .ok (.aload_n 0, 1) := dk_42 (dk_at dksX3_isFit_2 3 rfl rfl)
theorem dX3_isFit_50 : decode cX3_isFit 50 = .ok (.getfield 7, 3) := dk_180 0 7 (dk_at dksX3_isFit_2 4 rfl rfl)
theorem dX3_isFit_53 : decode cX3_isFit 53 = .ok (.iload_n 1, 1) := dk_27 (dk_at dksX3_isFit_2 7 rfl rfl)
theorem dX3_isFit_54 : decode cX3_isFit 54 = .ok (.iaload, 1) := dk_46 (dk_at dksX3_isFit_2 8 rfl rfl)
theorem dX3_isFit_55 : decode cX3_isFit 55 = .ok (.ifCond .ne 13, 3) := dk_154 0 13 (dk_at dksX3_isFit_2 9 rfl rfl)
theorem dX3_isFit_58 : decode cX3_isFit 58 = .ok (.iload 5, 2) := dk_21 5 (dk_at dksX3_isFit_2 12 rfl rfl)
theorem dX3_isFit_60 : decode cX3_isFit 60 = .ok (.iload_n 2, 1) := dk_28 (dk_at dksX3_isFit_2 14 rfl rfl)
theorem dX3_isFit_61 : decode cX3_isFit 61 = .ok (.irem, 1) := dk_112 (dk_at dksX3_isFit_2 15 rfl rfl)
theorem dX3_isFit_62 : decode cX3_isFit 62 = .ok (.ifCond .ne 21, 3) := dk_154 0 21 (dk_at dksX3_isFit_2 16 rfl rfl)
theorem dX3_isFit_65 : decode cX3_isFit 65 = .ok (.goto 14, 3) := dk_167 0 14 (dk_at dksX3_isFit_2 19 rfl rfl)
theorem dX3_isFit_68 : decode cX3_isFit 68 = .ok (.iload_n 2, 1) := dk_28 (dk_at dksX3_isFit_2 22 rfl rfl)
theorem dX3_isFit_69 : decode cX3_isFit 69 = .ok (.iconst 1, 1) := dk_4 (dk_at dksX3_isFit_2 23 rfl rfl)
theorem dX3_isFit_70 : decode cX3_isFit 70 = .ok (.if_icmp .eq 9, 3) := dk_159 0 9 (dk_at dksX3_isFit_3 0 rfl rfl)
theorem dX3_isFit_73 : decode cX3_isFit 73 = .ok (.iload_n 2, 1) := dk_28 (dk_at dksX3_isFit_3 3 rfl rfl)
theorem dX3_isFit_74 : decode cX3_isFit 74 = .ok (.iload 5, 2) := dk_21 5 (dk_at dksX3_isFit_3 4 rfl rfl)
theorem dX3_isFit_76 : decode cX3_isFit 76 = .ok (.if_icmp .ne 7, 3) := dk_160 0 7 (dk_at dksX3_isFit_3 6 rfl rfl)
theorem dX3_isFit_79 : decode cX3_isFit 79 = .ok (.iconst 1, 1) := dk_4 (dk_at dksX3_isFit_3 9 rfl rfl)
theorem dX3_isFit_80 : decode cX3_isFit 80 = .ok (.goto 4, 3) := dk_167 0 4 (dk_at dksX3_isFit_3 10 rfl rfl)
theorem dX3_isFit_83 : decode cX3_isFit 83 = .ok (.iconst 0, 1) := dk_3 (dk_at dksX3_isFit_3 13 rfl rfl)
theorem dX3_isFit_84 : decode cX3_isFit 84 = .ok (.istore_n 3, 1) := dk_62 (dk_at dksX3_isFit_3 14 rfl rfl)
theorem dX3_isFit_85 : decode cX3_isFit 85 = .ok (.iinc 4 1, 3) := dk_132 4 1 (dk_at dksX3_isFit_3 15 rfl rfl)
theorem dX3_isFit_88 : decode cX3_isFit 88 = .ok (.goto (-77), 3) := dk_167 255 179 (dk_at dksX3_isFit_3 18 rfl rfl)
theorem dX3_isFit_91 : decode cX3_isFit 91 = .ok (.iload_n 3, 1) := dk_29 (dk_at dksX3_isFit_3 21 rfl rfl)
theorem dX3_isFit_92 : decode cX3_isFit 92 = .ok (.ireturn, 1) := dk_172 (dk_at dksX3_isFit_3 22 rfl rfl)
abbrev cX3_person : ByteArray := prog_10_method_31_code
def yX3_person : MethodName := ⟨RX3, "person", "(II)I"⟩
def dkwX3_person_2 : List UInt8 := [46, 167, 0, 18, 28, 6, 160, 0, 11, 42, 27, 182, 0, 235, 167, 0, 5, 18, 111, 172]
abbrev dktX3_person_2 : List UInt8 := dkwX3_person_2 ++ []
def dkwX3_person_1 : List UInt8 := [28, 4, 160, 0, 12, 42, 180, 0, 31, 27, 46, 167, 0, 32, 28, 5, 160, 0, 12, 42, 180, 0, 34, 27]
abbrev dktX3_person_1 : List UInt8 := dkwX3_person_1 ++ dktX3_person_2
def dkwX3_person_0 : List UInt8 := [42, 27, 182, 0, 232, 154, 0, 6, 18, 221, 172, 28, 154, 0, 12, 42, 180, 0, 28, 27, 46, 167, 0, 46]
abbrev dktX3_person_0 : List UInt8 := dkwX3_person_0 ++ dktX3_person_1
theorem dksX3_person_0 : cX3_person.data.toList.drop 0 = dktX3_person_0 := by decide +kernel
theorem dksX3_person_1 : cX3_person.data.toList.drop 24 = dktX3_person_1 := dk_seg dksX3_person_0 24 rfl rfl
theorem dksX3_person_2 : cX3_person.data.toList.drop 48 = dktX3_person_2 := dk_seg dksX3_person_1 24 rfl rfl
theorem dX3_person_0 : decode cX3_person 0 = .ok (.aload_n 0, 1) := dk_42 (dk_at dksX3_person_0 0 rfl rfl)
theorem dX3_person_1 : decode cX3_person 1 = .ok (.iload_n 1, 1) := dk_27 (dk_at dksX3_person_0 1 rfl rfl)
theorem dX3_person_2 : decode cX3_person 2 = .ok (.invokevirtual 232, 3) := dk_182 0 232 (dk_at dksX3_person_0 2 rfl rfl)
theorem dX3_person_5 : decode cX3_person 5 = .ok (.ifCond .ne 6, 3) := dk_154 0 6 (dk_at dksX3_person_0 5 rfl rfl)
theorem dX3_person_8 : decode cX3_person 8 = .ok (.ldc 221, 2) := dk_18 221 (dk_at dksX3_person_0 8 rfl rfl)
theorem dX3_person_10 : decode cX3_person 10 = .ok (.ireturn, 1) := dk_172 (dk_at dksX3_person_0 10 rfl rfl)
theorem dX3_person_11 : decode cX3_person 11 = .ok (.iload_n 2, 1) := dk_28 (dk_at dksX3_person_0 11 rfl rfl)
theorem dX3_person_12 : decode cX3_person 12 = .ok (.ifCond .ne 12, 3) := dk_154 0 12 (dk_at dksX3_person_0 12 rfl rfl)
theorem dX3_person_15 : decode cX3_person 15 = .ok (.aload_n 0, 1) := dk_42 (dk_at dksX3_person_0 15 rfl rfl)
theorem dX3_person_16 : decode cX3_person 16 = .ok (.getfield 28, 3) := dk_180 0 28 (dk_at dksX3_person_0 16 rfl rfl)
theorem dX3_person_19 : decode cX3_person 19 = .ok (.iload_n 1, 1) := dk_27 (dk_at dksX3_person_0 19 rfl rfl)
theorem dX3_person_20 : decode cX3_person 20 = .ok (.iaload, 1) := dk_46 (dk_at dksX3_person_0 20 rfl rfl)
theorem dX3_person_21 : decode cX3_person 21 = .ok (.goto 46, 3) := dk_167 0 46 (dk_at dksX3_person_0 21 rfl rfl)
theorem dX3_person_24 : decode cX3_person 24 = .ok (.iload_n 2, 1) := dk_28 (dk_at dksX3_person_1 0 rfl rfl)
theorem dX3_person_25 : decode cX3_person 25 = .ok (.iconst 1, 1) := dk_4 (dk_at dksX3_person_1 1 rfl rfl)
theorem dX3_person_26 : decode cX3_person 26 = .ok (.if_icmp .ne 12, 3) := dk_160 0 12 (dk_at dksX3_person_1 2 rfl rfl)
theorem dX3_person_29 : decode cX3_person 29 = .ok (.aload_n 0, 1) := dk_42 (dk_at dksX3_person_1 5 rfl rfl)
theorem dX3_person_30 : decode cX3_person 30 = .ok (.getfield 31, 3) := dk_180 0 31 (dk_at dksX3_person_1 6 rfl rfl)
theorem dX3_person_33 : decode cX3_person 33 = .ok (.iload_n 1, 1) := dk_27 (dk_at dksX3_person_1 9 rfl rfl)
theorem dX3_person_34 : decode cX3_person 34 = .ok (.iaload, 1) := dk_46 (dk_at dksX3_person_1 10 rfl rfl)
theorem dX3_person_35 : decode cX3_person 35 = .ok (.goto 32, 3) := dk_167 0 32 (dk_at dksX3_person_1 11 rfl rfl)
theorem dX3_person_38 : decode cX3_person 38 = .ok (.iload_n 2, 1) := dk_28 (dk_at dksX3_person_1 14 rfl rfl)
theorem dX3_person_39 : decode cX3_person 39 = .ok (.iconst 2, 1) := dk_5 (dk_at dksX3_person_1 15 rfl rfl)
theorem dX3_person_40 : decode cX3_person 40 = .ok (.if_icmp .ne 12, 3) := dk_160 0 12 (dk_at dksX3_person_1 16 rfl rfl)
theorem dX3_person_43 : decode cX3_person 43 = .ok (.aload_n 0, 1) := dk_42 (dk_at dksX3_person_1 19 rfl rfl)
theorem dX3_person_44 : decode cX3_person 44 = .ok (.getfield 34, 3) := dk_180 0 34 (dk_at dksX3_person_1 20 rfl rfl)
theorem dX3_person_47 : decode cX3_person 47 = .ok (.iload_n 1, 1) := dk_27 (dk_at dksX3_person_1 23 rfl rfl)
theorem dX3_person_48 : decode cX3_person 48 = .ok (.iaload, 1) := dk_46 (dk_at dksX3_person_2 0 rfl rfl)
theorem dX3_person_49 : decode cX3_person 49 = .ok (.goto 18, 3) := dk_167 0 18 (dk_at dksX3_person_2 1 rfl rfl)
theorem dX3_person_52 : decode cX3_person 52 = .ok (.iload_n 2, 1) := dk_28 (dk_at dksX3_person_2 4 rfl rfl)
theorem dX3_person_53 : decode cX3_person 53 = .ok (.iconst 3, 1) := dk_6 (dk_at dksX3_person_2 5 rfl rfl)
theorem dX3_person_54 : decode cX3_person 54 = .ok (.if_icmp .ne 11, 3) := dk_160 0 11 (dk_at dksX3_person_2 6 rfl rfl)
theorem dX3_person_57 : decode cX3_person 57 = .ok (.aload_n 0, 1) := dk_42 (dk_at dksX3_person_2 9 rfl rfl)
theorem dX3_person_58 : decode cX3_person 58 = .ok (.iload_n 1, 1) := dk_27 (dk_at dksX3_person_2 10 rfl rfl)
theorem dX3_person_59 : decode cX3_person 59 = .ok (.invokevirtual 235, 3) := dk_182 0 235 (dk_at dksX3_person_2 11 rfl rfl)
theorem dX3_person_62 : decode cX3_person 62 = .ok (.goto 5, 3) := dk_167 0 5 (dk_at dksX3_person_2 14 rfl rfl)
theorem dX3_person_65 : decode cX3_person 65 = .ok (.ldc 111, 2) := dk_18 111 (dk_at dksX3_person_2 17 rfl rfl)
theorem dX3_person_67 : decode cX3_person 67 = .ok (.ireturn, 1) := dk_172 (dk_at dksX3_person_2 19 rfl rfl)
abbrev cX3_isPerson : ByteArray := prog_10_method_8_code
def yX3_isPerson : MethodName := ⟨RX3, "isPerson", "(I)Z"⟩
def dkwX3_isPerson_0 : List UInt8 := [27, 133, 9, 42, 180, 0, 106, 4, 100, 133, 184, 0, 99, 172]
abbrev dktX3_isPerson_0 : List UInt8 := dkwX3_isPerson_0 ++ []
theorem dksX3_isPerson_0 : cX3_isPerson.data.toList.drop 0 = dktX3_isPerson_0 := by decide +kernel
theorem dX3_isPerson_0 : decode cX3_isPerson 0 = .ok (.iload_n 1, 1) := dk_27 (dk_at dksX3_isPerson_0 0 rfl rfl)
theorem dX3_isPerson_1 : decode cX3_isPerson 1 = .ok (.i2l, 1) := dk_133 (dk_at dksX3_isPerson_0 1 rfl rfl)
theorem dX3_isPerson_2 : decode cX3_isPerson 2 = .ok (.lconst 0, 1) := dk_9 (dk_at dksX3_isPerson_0 2 rfl rfl)
theorem dX3_isPerson_3 : decode cX3_isPerson 3 = .ok (.aload_n 0, 1) := dk_42 (dk_at dksX3_isPerson_0 3 rfl rfl)
theorem dX3_isPerson_4 : decode cX3_isPerson 4 = .ok (.getfield 106, 3) := dk_180 0 106 (dk_at dksX3_isPerson_0 4 rfl rfl)
theorem dX3_isPerson_7 : decode cX3_isPerson 7 = .ok (.iconst 1, 1) := dk_4 (dk_at dksX3_isPerson_0 7 rfl rfl)
theorem dX3_isPerson_8 : decode cX3_isPerson 8 = .ok (.isub, 1) := dk_100 (dk_at dksX3_isPerson_0 8 rfl rfl)
theorem dX3_isPerson_9 : decode cX3_isPerson 9 = .ok (.i2l, 1) := dk_133 (dk_at dksX3_isPerson_0 9 rfl rfl)
theorem dX3_isPerson_10 : decode cX3_isPerson 10 = .ok (.invokestatic 99, 3) := dk_184 0 99 (dk_at dksX3_isPerson_0 10 rfl rfl)
theorem dX3_isPerson_13 : decode cX3_isPerson 13 = .ok (.ireturn, 1) := dk_172 (dk_at dksX3_isPerson_0 13 rfl rfl)
abbrev cX3_reachOfPerson : ByteArray := prog_10_method_30_code
def yX3_reachOfPerson : MethodName := ⟨RX3, "reachOfPerson", "(I)I"⟩
def dkwX3_reachOfPerson_0 : List UInt8 := [42, 42, 180, 0, 28, 27, 46, 42, 180, 0, 31, 27, 46, 42, 180, 0, 34, 27, 46, 182, 0, 228, 172]
abbrev dktX3_reachOfPerson_0 : List UInt8 := dkwX3_reachOfPerson_0 ++ []
theorem dksX3_reachOfPerson_0 : cX3_reachOfPerson.data.toList.drop 0 = dktX3_reachOfPerson_0 := by decide +kernel
theorem dX3_reachOfPerson_0 : decode cX3_reachOfPerson 0 = .ok (.aload_n 0, 1) := dk_42 (dk_at dksX3_reachOfPerson_0 0 rfl rfl)
theorem dX3_reachOfPerson_1 : decode cX3_reachOfPerson 1 = .ok (.aload_n 0, 1) := dk_42 (dk_at dksX3_reachOfPerson_0 1 rfl rfl)
theorem dX3_reachOfPerson_2 : decode cX3_reachOfPerson 2 = .ok (.getfield 28, 3) := dk_180 0 28 (dk_at dksX3_reachOfPerson_0 2 rfl rfl)
theorem dX3_reachOfPerson_5 : decode cX3_reachOfPerson 5 = .ok (.iload_n 1, 1) := dk_27 (dk_at dksX3_reachOfPerson_0 5 rfl rfl)
theorem dX3_reachOfPerson_6 : decode cX3_reachOfPerson 6 = .ok (.iaload, 1) := dk_46 (dk_at dksX3_reachOfPerson_0 6 rfl rfl)
theorem dX3_reachOfPerson_7 : decode cX3_reachOfPerson 7 = .ok (.aload_n 0, 1) := dk_42 (dk_at dksX3_reachOfPerson_0 7 rfl rfl)
theorem dX3_reachOfPerson_8 : decode cX3_reachOfPerson 8 = .ok (.getfield 31, 3) := dk_180 0 31 (dk_at dksX3_reachOfPerson_0 8 rfl rfl)
theorem dX3_reachOfPerson_11 : decode cX3_reachOfPerson 11 = .ok (.iload_n 1, 1) := dk_27 (dk_at dksX3_reachOfPerson_0 11 rfl rfl)
theorem dX3_reachOfPerson_12 : decode cX3_reachOfPerson 12 = .ok (.iaload, 1) := dk_46 (dk_at dksX3_reachOfPerson_0 12 rfl rfl)
theorem dX3_reachOfPerson_13 : decode cX3_reachOfPerson 13 = .ok (.aload_n 0, 1) := dk_42 (dk_at dksX3_reachOfPerson_0 13 rfl rfl)
theorem dX3_reachOfPerson_14 : decode cX3_reachOfPerson 14 = .ok (.getfield 34, 3) := dk_180 0 34 (dk_at dksX3_reachOfPerson_0 14 rfl rfl)
theorem dX3_reachOfPerson_17 : decode cX3_reachOfPerson 17 = .ok (.iload_n 1, 1) := dk_27 (dk_at dksX3_reachOfPerson_0 17 rfl rfl)
theorem dX3_reachOfPerson_18 : decode cX3_reachOfPerson 18 = .ok (.iaload, 1) := dk_46 (dk_at dksX3_reachOfPerson_0 18 rfl rfl)
theorem dX3_reachOfPerson_19 : decode cX3_reachOfPerson 19 = .ok (.invokevirtual 228, 3) := dk_182 0 228 (dk_at dksX3_reachOfPerson_0 19 rfl rfl)
theorem dX3_reachOfPerson_22 : decode cX3_reachOfPerson 22 = .ok (.ireturn, 1) := dk_172 (dk_at dksX3_reachOfPerson_0 22 rfl rfl)
abbrev cX3_reachOf : ByteArray := prog_10_method_29_code
def yX3_reachOf : MethodName := ⟨RX3, "reachOf", "(III)I"⟩
def dkwX3_reachOf_6 : List UInt8 := [54, 4, 132, 6, 1, 167, 255, 133, 167, 255, 116, 21, 4, 172]
abbrev dktX3_reachOf_6 : List UInt8 := dkwX3_reachOf_6 ++ []
def dkwX3_reachOf_5 : List UInt8 := [21, 6, 46, 184, 0, 225, 153, 0, 15, 4, 42, 180, 0, 13, 21, 6, 46, 120, 167, 0, 4, 3, 128]
abbrev dktX3_reachOf_5 : List UInt8 := dkwX3_reachOf_5 ++ dktX3_reachOf_6
def dkwX3_reachOf_4 : List UInt8 := [54, 4, 21, 4, 21, 7, 154, 0, 11, 42, 180, 0, 204, 4, 160, 0, 30, 21, 4, 42, 180, 0, 16]
abbrev dktX3_reachOf_4 : List UInt8 := dkwX3_reachOf_4 ++ dktX3_reachOf_5
def dkwX3_reachOf_3 : List UInt8 := [21, 6, 46, 184, 0, 225, 153, 0, 15, 4, 42, 180, 0, 16, 21, 6, 46, 120, 167, 0, 4, 3, 128]
abbrev dktX3_reachOf_3 : List UInt8 := dkwX3_reachOf_3 ++ dktX3_reachOf_4
def dkwX3_reachOf_2 : List UInt8 := [153, 0, 7, 4, 167, 0, 4, 3, 54, 7, 21, 4, 21, 7, 153, 0, 30, 21, 4, 42, 180, 0, 13]
abbrev dktX3_reachOf_2 : List UInt8 := dkwX3_reachOf_2 ++ dktX3_reachOf_3
def dkwX3_reachOf_1 : List UInt8 := [42, 180, 0, 103, 162, 0, 120, 42, 21, 6, 28, 182, 0, 210, 154, 0, 13, 42, 21, 6, 29, 182, 0, 210]
abbrev dktX3_reachOf_1 : List UInt8 := dkwX3_reachOf_1 ++ dktX3_reachOf_2
def dkwX3_reachOf_0 : List UInt8 := [4, 27, 120, 54, 4, 3, 54, 5, 21, 5, 21, 4, 159, 0, 139, 21, 4, 54, 5, 3, 54, 6, 21, 6]
abbrev dktX3_reachOf_0 : List UInt8 := dkwX3_reachOf_0 ++ dktX3_reachOf_1
theorem dksX3_reachOf_0 : cX3_reachOf.data.toList.drop 0 = dktX3_reachOf_0 := by decide +kernel
theorem dksX3_reachOf_1 : cX3_reachOf.data.toList.drop 24 = dktX3_reachOf_1 := dk_seg dksX3_reachOf_0 24 rfl rfl
theorem dksX3_reachOf_2 : cX3_reachOf.data.toList.drop 48 = dktX3_reachOf_2 := dk_seg dksX3_reachOf_1 24 rfl rfl
theorem dksX3_reachOf_3 : cX3_reachOf.data.toList.drop 71 = dktX3_reachOf_3 := dk_seg dksX3_reachOf_2 23 rfl rfl
theorem dksX3_reachOf_4 : cX3_reachOf.data.toList.drop 94 = dktX3_reachOf_4 := dk_seg dksX3_reachOf_3 23 rfl rfl
theorem dksX3_reachOf_5 : cX3_reachOf.data.toList.drop 117 = dktX3_reachOf_5 := dk_seg dksX3_reachOf_4 23 rfl rfl
theorem dksX3_reachOf_6 : cX3_reachOf.data.toList.drop 140 = dktX3_reachOf_6 := dk_seg dksX3_reachOf_5 23 rfl rfl
theorem dX3_reachOf_0 : decode cX3_reachOf 0 = .ok (.iconst 1, 1) := dk_4 (dk_at dksX3_reachOf_0 0 rfl rfl)
theorem dX3_reachOf_1 : decode cX3_reachOf 1 = .ok (.iload_n 1, 1) := dk_27 (dk_at dksX3_reachOf_0 1 rfl rfl)
theorem dX3_reachOf_2 : decode cX3_reachOf 2 = .ok (.ishl, 1) := dk_120 (dk_at dksX3_reachOf_0 2 rfl rfl)
theorem dX3_reachOf_3 : decode cX3_reachOf 3 = .ok (.istore 4, 2) := dk_54 4 (dk_at dksX3_reachOf_0 3 rfl rfl)
theorem dX3_reachOf_5 : decode cX3_reachOf 5 = .ok (.iconst 0, 1) := dk_3 (dk_at dksX3_reachOf_0 5 rfl rfl)
theorem dX3_reachOf_6 : decode cX3_reachOf 6 = .ok (.istore 5, 2) := dk_54 5 (dk_at dksX3_reachOf_0 6 rfl rfl)
theorem dX3_reachOf_8 : decode cX3_reachOf 8 = .ok (.iload 5, 2) := dk_21 5 (dk_at dksX3_reachOf_0 8 rfl rfl)
theorem dX3_reachOf_10 : decode cX3_reachOf 10 = .ok (.iload 4, 2) := dk_21 4 (dk_at dksX3_reachOf_0 10 rfl rfl)
theorem dX3_reachOf_12 : decode cX3_reachOf 12 = .ok (.if_icmp .eq 139, 3) := dk_159 0 139 (dk_at dksX3_reachOf_0 12 rfl rfl)
theorem dX3_reachOf_15 : decode cX3_reachOf 15 = .ok (.iload 4, 2) := dk_21 4 (dk_at dksX3_reachOf_0 15 rfl rfl)
theorem dX3_reachOf_17 : decode cX3_reachOf 17 = .ok (.istore 5, 2) := dk_54 5 (dk_at dksX3_reachOf_0 17 rfl rfl)
theorem dX3_reachOf_19 : decode cX3_reachOf 19 = .ok (.iconst 0, 1) := dk_3 (dk_at dksX3_reachOf_0 19 rfl rfl)
theorem dX3_reachOf_20 : decode cX3_reachOf 20 = .ok (.istore 6, 2) := dk_54 6 (dk_at dksX3_reachOf_0 20 rfl rfl)
theorem dX3_reachOf_22 : decode cX3_reachOf 22 = .ok (.iload 6, 2) := dk_21 6 (dk_at dksX3_reachOf_0 22 rfl rfl)
theorem dX3_reachOf_24 : decode cX3_reachOf 24 = .ok (.aload_n 0, 1) := dk_42 (dk_at dksX3_reachOf_1 0 rfl rfl)
theorem dX3_reachOf_25 : decode cX3_reachOf 25 = .ok (.getfield 103, 3) := dk_180 0 103 (dk_at dksX3_reachOf_1 1 rfl rfl)
theorem dX3_reachOf_28 : decode cX3_reachOf 28 = .ok (.if_icmp .ge 120, 3) := dk_162 0 120 (dk_at dksX3_reachOf_1 4 rfl rfl)
theorem dX3_reachOf_31 : decode cX3_reachOf 31 = .ok (.aload_n 0, 1) := dk_42 (dk_at dksX3_reachOf_1 7 rfl rfl)
theorem dX3_reachOf_32 : decode cX3_reachOf 32 = .ok (.iload 6, 2) := dk_21 6 (dk_at dksX3_reachOf_1 8 rfl rfl)
theorem dX3_reachOf_34 : decode cX3_reachOf 34 = .ok (.iload_n 2, 1) := dk_28 (dk_at dksX3_reachOf_1 10 rfl rfl)
theorem dX3_reachOf_35 : decode cX3_reachOf 35 = .ok (.invokevirtual 210, 3) := dk_182 0 210 (dk_at dksX3_reachOf_1 11 rfl rfl)
theorem dX3_reachOf_38 : decode cX3_reachOf 38 = .ok (.ifCond .ne 13, 3) := dk_154 0 13 (dk_at dksX3_reachOf_1 14 rfl rfl)
theorem dX3_reachOf_41 : decode cX3_reachOf 41 = .ok (.aload_n 0, 1) := dk_42 (dk_at dksX3_reachOf_1 17 rfl rfl)
theorem dX3_reachOf_42 : decode cX3_reachOf 42 = .ok (.iload 6, 2) := dk_21 6 (dk_at dksX3_reachOf_1 18 rfl rfl)
theorem dX3_reachOf_44 : decode cX3_reachOf 44 = .ok (.iload_n 3, 1) := dk_29 (dk_at dksX3_reachOf_1 20 rfl rfl)
theorem dX3_reachOf_45 : decode cX3_reachOf 45 = .ok (.invokevirtual 210, 3) := dk_182 0 210 (dk_at dksX3_reachOf_1 21 rfl rfl)
theorem dX3_reachOf_48 : decode cX3_reachOf 48 = .ok (.ifCond .eq 7, 3) := dk_153 0 7 (dk_at dksX3_reachOf_2 0 rfl rfl)
theorem dX3_reachOf_51 : decode cX3_reachOf 51 = .ok (.iconst 1, 1) := dk_4 (dk_at dksX3_reachOf_2 3 rfl rfl)
theorem dX3_reachOf_52 : decode cX3_reachOf 52 = .ok (.goto 4, 3) := dk_167 0 4 (dk_at dksX3_reachOf_2 4 rfl rfl)
theorem dX3_reachOf_55 : decode cX3_reachOf 55 = .ok (.iconst 0, 1) := dk_3 (dk_at dksX3_reachOf_2 7 rfl rfl)
theorem dX3_reachOf_56 : decode cX3_reachOf 56 = .ok (.istore 7, 2) := dk_54 7 (dk_at dksX3_reachOf_2 8 rfl rfl)
theorem dX3_reachOf_58 : decode cX3_reachOf 58 = .ok (.iload 4, 2) := dk_21 4 (dk_at dksX3_reachOf_2 10 rfl rfl)
theorem dX3_reachOf_60 : decode cX3_reachOf 60 = .ok (.iload 7, 2) := dk_21 7 (dk_at dksX3_reachOf_2 12 rfl rfl)
theorem dX3_reachOf_62 : decode cX3_reachOf 62 = .ok (.ifCond .eq 30, 3) := dk_153 0 30 (dk_at dksX3_reachOf_2 14 rfl rfl)
theorem dX3_reachOf_65 : decode cX3_reachOf 65 = .ok (.iload 4, 2) := dk_21 4 (dk_at dksX3_reachOf_2 17 rfl rfl)
theorem dX3_reachOf_67 : decode cX3_reachOf 67 = .ok (.aload_n 0, 1) := dk_42 (dk_at dksX3_reachOf_2 19 rfl rfl)
theorem dX3_reachOf_68 : decode cX3_reachOf 68 = .ok (.getfield 13, 3) := dk_180 0 13 (dk_at dksX3_reachOf_2 20 rfl rfl)
theorem dX3_reachOf_71 : decode cX3_reachOf 71 = .ok (.iload 6, 2) := dk_21 6 (dk_at dksX3_reachOf_3 0 rfl rfl)
theorem dX3_reachOf_73 : decode cX3_reachOf 73 = .ok (.iaload, 1) := dk_46 (dk_at dksX3_reachOf_3 2 rfl rfl)
theorem dX3_reachOf_74 : decode cX3_reachOf 74 = .ok (.invokestatic 225, 3) := dk_184 0 225 (dk_at dksX3_reachOf_3 3 rfl rfl)
theorem dX3_reachOf_77 : decode cX3_reachOf 77 = .ok (.ifCond .eq 15, 3) := dk_153 0 15 (dk_at dksX3_reachOf_3 6 rfl rfl)
theorem dX3_reachOf_80 : decode cX3_reachOf 80 = .ok (.iconst 1, 1) := dk_4 (dk_at dksX3_reachOf_3 9 rfl rfl)
theorem dX3_reachOf_81 : decode cX3_reachOf 81 = .ok (.aload_n 0, 1) := dk_42 (dk_at dksX3_reachOf_3 10 rfl rfl)
theorem dX3_reachOf_82 : decode cX3_reachOf 82 = .ok (.getfield 16, 3) := dk_180 0 16 (dk_at dksX3_reachOf_3 11 rfl rfl)
theorem dX3_reachOf_85 : decode cX3_reachOf 85 = .ok (.iload 6, 2) := dk_21 6 (dk_at dksX3_reachOf_3 14 rfl rfl)
theorem dX3_reachOf_87 : decode cX3_reachOf 87 = .ok (.iaload, 1) := dk_46 (dk_at dksX3_reachOf_3 16 rfl rfl)
theorem dX3_reachOf_88 : decode cX3_reachOf 88 = .ok (.ishl, 1) := dk_120 (dk_at dksX3_reachOf_3 17 rfl rfl)
theorem dX3_reachOf_89 : decode cX3_reachOf 89 = .ok (.goto 4, 3) := dk_167 0 4 (dk_at dksX3_reachOf_3 18 rfl rfl)
theorem dX3_reachOf_92 : decode cX3_reachOf 92 = .ok (.iconst 0, 1) := dk_3 (dk_at dksX3_reachOf_3 21 rfl rfl)
theorem dX3_reachOf_93 : decode cX3_reachOf 93 = .ok (.ior, 1) := dk_128 (dk_at dksX3_reachOf_3 22 rfl rfl)
theorem dX3_reachOf_94 : decode cX3_reachOf 94 = .ok (.istore 4, 2) := dk_54 4 (dk_at dksX3_reachOf_4 0 rfl rfl)
theorem dX3_reachOf_96 : decode cX3_reachOf 96 = .ok (.iload 4, 2) := dk_21 4 (dk_at dksX3_reachOf_4 2 rfl rfl)
theorem dX3_reachOf_98 : decode cX3_reachOf 98 = .ok (.iload 7, 2) := dk_21 7 (dk_at dksX3_reachOf_4 4 rfl rfl)
theorem dX3_reachOf_100 : decode cX3_reachOf 100 = .ok (.ifCond .ne 11, 3) := dk_154 0 11 (dk_at dksX3_reachOf_4 6 rfl rfl)
theorem dX3_reachOf_103 : decode cX3_reachOf 103 = .ok (.aload_n 0, 1) := dk_42 (dk_at dksX3_reachOf_4 9 rfl rfl)
theorem dX3_reachOf_104 : decode cX3_reachOf 104 = .ok (.getfield 204, 3) := dk_180 0 204 (dk_at dksX3_reachOf_4 10 rfl rfl)
theorem dX3_reachOf_107 : decode cX3_reachOf 107 = .ok (.iconst 1, 1) := dk_4 (dk_at dksX3_reachOf_4 13 rfl rfl)
theorem dX3_reachOf_108 : decode cX3_reachOf 108 = .ok (.if_icmp .ne 30, 3) := dk_160 0 30 (dk_at dksX3_reachOf_4 14 rfl rfl)
theorem dX3_reachOf_111 : decode cX3_reachOf 111 = .ok (.iload 4, 2) := dk_21 4 (dk_at dksX3_reachOf_4 17 rfl rfl)
theorem dX3_reachOf_113 : decode cX3_reachOf 113 = .ok (.aload_n 0, 1) := dk_42 (dk_at dksX3_reachOf_4 19 rfl rfl)
theorem dX3_reachOf_114 : decode cX3_reachOf 114 = .ok (.getfield 16, 3) := dk_180 0 16 (dk_at dksX3_reachOf_4 20 rfl rfl)
theorem dX3_reachOf_117 : decode cX3_reachOf 117 = .ok (.iload 6, 2) := dk_21 6 (dk_at dksX3_reachOf_5 0 rfl rfl)
theorem dX3_reachOf_119 : decode cX3_reachOf 119 = .ok (.iaload, 1) := dk_46 (dk_at dksX3_reachOf_5 2 rfl rfl)
theorem dX3_reachOf_120 : decode cX3_reachOf 120 = .ok (.invokestatic 225, 3) := dk_184 0 225 (dk_at dksX3_reachOf_5 3 rfl rfl)
theorem dX3_reachOf_123 : decode cX3_reachOf 123 = .ok (.ifCond .eq 15, 3) := dk_153 0 15 (dk_at dksX3_reachOf_5 6 rfl rfl)
theorem dX3_reachOf_126 : decode cX3_reachOf 126 = .ok (.iconst 1, 1) := dk_4 (dk_at dksX3_reachOf_5 9 rfl rfl)
theorem dX3_reachOf_127 : decode cX3_reachOf 127 = .ok (.aload_n 0, 1) := dk_42 (dk_at dksX3_reachOf_5 10 rfl rfl)
theorem dX3_reachOf_128 : decode cX3_reachOf 128 = .ok (.getfield 13, 3) := dk_180 0 13 (dk_at dksX3_reachOf_5 11 rfl rfl)
theorem dX3_reachOf_131 : decode cX3_reachOf 131 = .ok (.iload 6, 2) := dk_21 6 (dk_at dksX3_reachOf_5 14 rfl rfl)
theorem dX3_reachOf_133 : decode cX3_reachOf 133 = .ok (.iaload, 1) := dk_46 (dk_at dksX3_reachOf_5 16 rfl rfl)
theorem dX3_reachOf_134 : decode cX3_reachOf 134 = .ok (.ishl, 1) := dk_120 (dk_at dksX3_reachOf_5 17 rfl rfl)
theorem dX3_reachOf_135 : decode cX3_reachOf 135 = .ok (.goto 4, 3) := dk_167 0 4 (dk_at dksX3_reachOf_5 18 rfl rfl)
theorem dX3_reachOf_138 : decode cX3_reachOf 138 = .ok (.iconst 0, 1) := dk_3 (dk_at dksX3_reachOf_5 21 rfl rfl)
theorem dX3_reachOf_139 : decode cX3_reachOf 139 = .ok (.ior, 1) := dk_128 (dk_at dksX3_reachOf_5 22 rfl rfl)
theorem dX3_reachOf_140 : decode cX3_reachOf 140 = .ok (.istore 4, 2) := dk_54 4 (dk_at dksX3_reachOf_6 0 rfl rfl)
theorem dX3_reachOf_142 : decode cX3_reachOf 142 = .ok (.iinc 6 1, 3) := dk_132 6 1 (dk_at dksX3_reachOf_6 2 rfl rfl)
theorem dX3_reachOf_145 : decode cX3_reachOf 145 = .ok (.goto (-123), 3) := dk_167 255 133 (dk_at dksX3_reachOf_6 5 rfl rfl)
theorem dX3_reachOf_148 : decode cX3_reachOf 148 = .ok (.goto (-140), 3) := dk_167 255 116 (dk_at dksX3_reachOf_6 8 rfl rfl)
theorem dX3_reachOf_151 : decode cX3_reachOf 151 = .ok (.iload 4, 2) := dk_21 4 (dk_at dksX3_reachOf_6 11 rfl rfl)
theorem dX3_reachOf_153 : decode cX3_reachOf 153 = .ok (.ireturn, 1) := dk_172 (dk_at dksX3_reachOf_6 13 rfl rfl)
abbrev cX3_has : ByteArray := prog_10_method_4_code
def yX3_has : MethodName := ⟨RX3, "has", "(II)Z"⟩
def dkwX3_has_0 : List UInt8 := [26, 27, 122, 4, 126, 4, 160, 0, 7, 4, 167, 0, 4, 3, 172]
abbrev dktX3_has_0 : List UInt8 := dkwX3_has_0 ++ []
theorem dksX3_has_0 : cX3_has.data.toList.drop 0 = dktX3_has_0 := by decide +kernel
theorem dX3_has_0 : decode cX3_has 0 = .ok (.iload_n 0, 1) := dk_26 (dk_at dksX3_has_0 0 rfl rfl)
theorem dX3_has_1 : decode cX3_has 1 = .ok (.iload_n 1, 1) := dk_27 (dk_at dksX3_has_0 1 rfl rfl)
theorem dX3_has_2 : decode cX3_has 2 = .ok (.ishr, 1) := dk_122 (dk_at dksX3_has_0 2 rfl rfl)
theorem dX3_has_3 : decode cX3_has 3 = .ok (.iconst 1, 1) := dk_4 (dk_at dksX3_has_0 3 rfl rfl)
theorem dX3_has_4 : decode cX3_has 4 = .ok (.iand, 1) := dk_126 (dk_at dksX3_has_0 4 rfl rfl)
theorem dX3_has_5 : decode cX3_has 5 = .ok (.iconst 1, 1) := dk_4 (dk_at dksX3_has_0 5 rfl rfl)
theorem dX3_has_6 : decode cX3_has 6 = .ok (.if_icmp .ne 7, 3) := dk_160 0 7 (dk_at dksX3_has_0 6 rfl rfl)
theorem dX3_has_9 : decode cX3_has 9 = .ok (.iconst 1, 1) := dk_4 (dk_at dksX3_has_0 9 rfl rfl)
theorem dX3_has_10 : decode cX3_has 10 = .ok (.goto 4, 3) := dk_167 0 4 (dk_at dksX3_has_0 10 rfl rfl)
theorem dX3_has_13 : decode cX3_has 13 = .ok (.iconst 0, 1) := dk_3 (dk_at dksX3_has_0 13 rfl rfl)
theorem dX3_has_14 : decode cX3_has 14 = .ok (.ireturn, 1) := dk_172 (dk_at dksX3_has_0 14 rfl rfl)
abbrev cX3_fit : ByteArray := prog_10_method_32_code
def yX3_fit : MethodName := ⟨RX3, "fit", "(II)I"⟩
def dkwX3_fit_1 : List UInt8 := [18, 111, 167, 0, 17, 42, 27, 28, 182, 0, 210, 153, 0, 7, 4, 167, 0, 4, 3, 172]
abbrev dktX3_fit_1 : List UInt8 := dkwX3_fit_1 ++ []
def dkwX3_fit_0 : List UInt8 := [42, 27, 182, 0, 217, 154, 0, 6, 18, 221, 172, 28, 133, 10, 20, 0, 238, 184, 0, 99, 154, 0, 8]
abbrev dktX3_fit_0 : List UInt8 := dkwX3_fit_0 ++ dktX3_fit_1
theorem dksX3_fit_0 : cX3_fit.data.toList.drop 0 = dktX3_fit_0 := by decide +kernel
theorem dksX3_fit_1 : cX3_fit.data.toList.drop 23 = dktX3_fit_1 := dk_seg dksX3_fit_0 23 rfl rfl
theorem dX3_fit_0 : decode cX3_fit 0 = .ok (.aload_n 0, 1) := dk_42 (dk_at dksX3_fit_0 0 rfl rfl)
theorem dX3_fit_1 : decode cX3_fit 1 = .ok (.iload_n 1, 1) := dk_27 (dk_at dksX3_fit_0 1 rfl rfl)
theorem dX3_fit_2 : decode cX3_fit 2 = .ok (.invokevirtual 217, 3) := dk_182 0 217 (dk_at dksX3_fit_0 2 rfl rfl)
theorem dX3_fit_5 : decode cX3_fit 5 = .ok (.ifCond .ne 6, 3) := dk_154 0 6 (dk_at dksX3_fit_0 5 rfl rfl)
theorem dX3_fit_8 : decode cX3_fit 8 = .ok (.ldc 221, 2) := dk_18 221 (dk_at dksX3_fit_0 8 rfl rfl)
theorem dX3_fit_10 : decode cX3_fit 10 = .ok (.ireturn, 1) := dk_172 (dk_at dksX3_fit_0 10 rfl rfl)
theorem dX3_fit_11 : decode cX3_fit 11 = .ok (.iload_n 2, 1) := dk_28 (dk_at dksX3_fit_0 11 rfl rfl)
theorem dX3_fit_12 : decode cX3_fit 12 = .ok (.i2l, 1) := dk_133 (dk_at dksX3_fit_0 12 rfl rfl)
theorem dX3_fit_13 : decode cX3_fit 13 = .ok (.lconst 1, 1) := dk_10 (dk_at dksX3_fit_0 13 rfl rfl)
theorem dX3_fit_14 : decode cX3_fit 14 = .ok (.ldc2_w 238, 3) := dk_20 0 238 (dk_at dksX3_fit_0 14 rfl rfl)
theorem dX3_fit_17 : decode cX3_fit 17 = .ok (.invokestatic 99, 3) := dk_184 0 99 (dk_at dksX3_fit_0 17 rfl rfl)
theorem dX3_fit_20 : decode cX3_fit 20 = .ok (.ifCond .ne 8, 3) := dk_154 0 8 (dk_at dksX3_fit_0 20 rfl rfl)
theorem dX3_fit_23 : decode cX3_fit 23 = .ok (.ldc 111, 2) := dk_18 111 (dk_at dksX3_fit_1 0 rfl rfl)
theorem dX3_fit_25 : decode cX3_fit 25 = .ok (.goto 17, 3) := dk_167 0 17 (dk_at dksX3_fit_1 2 rfl rfl)
theorem dX3_fit_28 : decode cX3_fit 28 = .ok (.aload_n 0, 1) := dk_42 (dk_at dksX3_fit_1 5 rfl rfl)
theorem dX3_fit_29 : decode cX3_fit 29 = .ok (.iload_n 1, 1) := dk_27 (dk_at dksX3_fit_1 6 rfl rfl)
theorem dX3_fit_30 : decode cX3_fit 30 = .ok (.iload_n 2, 1) := dk_28 (dk_at dksX3_fit_1 7 rfl rfl)
theorem dX3_fit_31 : decode cX3_fit 31 = .ok (.invokevirtual 210, 3) := dk_182 0 210 (dk_at dksX3_fit_1 8 rfl rfl)
theorem dX3_fit_34 : decode cX3_fit 34 = .ok (.ifCond .eq 7, 3) := dk_153 0 7 (dk_at dksX3_fit_1 11 rfl rfl)
theorem dX3_fit_37 : decode cX3_fit 37 = .ok (.iconst 1, 1) := dk_4 (dk_at dksX3_fit_1 14 rfl rfl)
theorem dX3_fit_38 : decode cX3_fit 38 = .ok (.goto 4, 3) := dk_167 0 4 (dk_at dksX3_fit_1 15 rfl rfl)
theorem dX3_fit_41 : decode cX3_fit 41 = .ok (.iconst 0, 1) := dk_3 (dk_at dksX3_fit_1 18 rfl rfl)
theorem dX3_fit_42 : decode cX3_fit 42 = .ok (.ireturn, 1) := dk_172 (dk_at dksX3_fit_1 19 rfl rfl)
abbrev cX3_go : ByteArray := prog_10_method_35_code
def yX3_go : MethodName := ⟨RX3, "go", "(II)I"⟩
def dkwX3_go_1 : List UInt8 := [182, 0, 240, 154, 0, 6, 18, 243, 172, 42, 27, 28, 182, 0, 244, 42, 180, 0, 28, 27, 46, 172]
abbrev dktX3_go_1 : List UInt8 := dkwX3_go_1 ++ []
def dkwX3_go_0 : List UInt8 := [42, 27, 182, 0, 232, 153, 0, 11, 42, 28, 182, 0, 217, 154, 0, 6, 18, 221, 172, 42, 27, 28]
abbrev dktX3_go_0 : List UInt8 := dkwX3_go_0 ++ dktX3_go_1
theorem dksX3_go_0 : cX3_go.data.toList.drop 0 = dktX3_go_0 := by decide +kernel
theorem dksX3_go_1 : cX3_go.data.toList.drop 22 = dktX3_go_1 := dk_seg dksX3_go_0 22 rfl rfl
theorem dX3_go_0 : decode cX3_go 0 = .ok (.aload_n 0, 1) := dk_42 (dk_at dksX3_go_0 0 rfl rfl)
theorem dX3_go_1 : decode cX3_go 1 = .ok (.iload_n 1, 1) := dk_27 (dk_at dksX3_go_0 1 rfl rfl)
theorem dX3_go_2 : decode cX3_go 2 = .ok (.invokevirtual 232, 3) := dk_182 0 232 (dk_at dksX3_go_0 2 rfl rfl)
theorem dX3_go_5 : decode cX3_go 5 = .ok (.ifCond .eq 11, 3) := dk_153 0 11 (dk_at dksX3_go_0 5 rfl rfl)
theorem dX3_go_8 : decode cX3_go 8 = .ok (.aload_n 0, 1) := dk_42 (dk_at dksX3_go_0 8 rfl rfl)
theorem dX3_go_9 : decode cX3_go 9 = .ok (.iload_n 2, 1) := dk_28 (dk_at dksX3_go_0 9 rfl rfl)
theorem dX3_go_10 : decode cX3_go 10 = .ok (.invokevirtual 217, 3) := dk_182 0 217 (dk_at dksX3_go_0 10 rfl rfl)
theorem dX3_go_13 : decode cX3_go 13 = .ok (.ifCond .ne 6, 3) := dk_154 0 6 (dk_at dksX3_go_0 13 rfl rfl)
theorem dX3_go_16 : decode cX3_go 16 = .ok (.ldc 221, 2) := dk_18 221 (dk_at dksX3_go_0 16 rfl rfl)
theorem dX3_go_18 : decode cX3_go 18 = .ok (.ireturn, 1) := dk_172 (dk_at dksX3_go_0 18 rfl rfl)
theorem dX3_go_19 : decode cX3_go 19 = .ok (.aload_n 0, 1) := dk_42 (dk_at dksX3_go_0 19 rfl rfl)
theorem dX3_go_20 : decode cX3_go 20 = .ok (.iload_n 1, 1) := dk_27 (dk_at dksX3_go_0 20 rfl rfl)
theorem dX3_go_21 : decode cX3_go 21 = .ok (.iload_n 2, 1) := dk_28 (dk_at dksX3_go_0 21 rfl rfl)
theorem dX3_go_22 : decode cX3_go 22 = .ok (.invokevirtual 240, 3) := dk_182 0 240 (dk_at dksX3_go_1 0 rfl rfl)
theorem dX3_go_25 : decode cX3_go 25 = .ok (.ifCond .ne 6, 3) := dk_154 0 6 (dk_at dksX3_go_1 3 rfl rfl)
theorem dX3_go_28 : decode cX3_go 28 = .ok (.ldc 243, 2) := dk_18 243 (dk_at dksX3_go_1 6 rfl rfl)
theorem dX3_go_30 : decode cX3_go 30 = .ok (.ireturn, 1) := dk_172 (dk_at dksX3_go_1 8 rfl rfl)
theorem dX3_go_31 : decode cX3_go 31 = .ok (.aload_n 0, 1) := dk_42 (dk_at dksX3_go_1 9 rfl rfl)
theorem dX3_go_32 : decode cX3_go 32 = .ok (.iload_n 1, 1) := dk_27 (dk_at dksX3_go_1 10 rfl rfl)
theorem dX3_go_33 : decode cX3_go 33 = .ok (.iload_n 2, 1) := dk_28 (dk_at dksX3_go_1 11 rfl rfl)
theorem dX3_go_34 : decode cX3_go 34 = .ok (.invokevirtual 244, 3) := dk_182 0 244 (dk_at dksX3_go_1 12 rfl rfl)
theorem dX3_go_37 : decode cX3_go 37 = .ok (.aload_n 0, 1) := dk_42 (dk_at dksX3_go_1 15 rfl rfl)
theorem dX3_go_38 : decode cX3_go 38 = .ok (.getfield 28, 3) := dk_180 0 28 (dk_at dksX3_go_1 16 rfl rfl)
theorem dX3_go_41 : decode cX3_go 41 = .ok (.iload_n 1, 1) := dk_27 (dk_at dksX3_go_1 19 rfl rfl)
theorem dX3_go_42 : decode cX3_go 42 = .ok (.iaload, 1) := dk_46 (dk_at dksX3_go_1 20 rfl rfl)
theorem dX3_go_43 : decode cX3_go 43 = .ok (.ireturn, 1) := dk_172 (dk_at dksX3_go_1 21 rfl rfl)
abbrev cX3_canGo : ByteArray := prog_10_method_33_code
def yX3_canGo : MethodName := ⟨RX3, "canGo", "(II)Z"⟩
def dkwX3_canGo_2 : List UInt8 := [27, 28, 182, 0, 214, 153, 0, 7, 4, 167, 0, 4, 3, 172]
abbrev dktX3_canGo_2 : List UInt8 := dkwX3_canGo_2 ++ []
def dkwX3_canGo_1 : List UInt8 := [42, 180, 0, 28, 27, 46, 42, 180, 0, 16, 28, 46, 160, 0, 24, 42, 180, 0, 204, 4, 159, 0, 12, 42]
abbrev dktX3_canGo_1 : List UInt8 := dkwX3_canGo_1 ++ dktX3_canGo_2
def dkwX3_canGo_0 : List UInt8 := [42, 180, 0, 28, 27, 46, 42, 180, 0, 13, 28, 46, 160, 0, 12, 42, 27, 28, 182, 0, 214, 154, 0, 35]
abbrev dktX3_canGo_0 : List UInt8 := dkwX3_canGo_0 ++ dktX3_canGo_1
theorem dksX3_canGo_0 : cX3_canGo.data.toList.drop 0 = dktX3_canGo_0 := by decide +kernel
theorem dksX3_canGo_1 : cX3_canGo.data.toList.drop 24 = dktX3_canGo_1 := dk_seg dksX3_canGo_0 24 rfl rfl
theorem dksX3_canGo_2 : cX3_canGo.data.toList.drop 48 = dktX3_canGo_2 := dk_seg dksX3_canGo_1 24 rfl rfl
theorem dX3_canGo_0 : decode cX3_canGo 0 = .ok (.aload_n 0, 1) := dk_42 (dk_at dksX3_canGo_0 0 rfl rfl)
theorem dX3_canGo_1 : decode cX3_canGo 1 = .ok (.getfield 28, 3) := dk_180 0 28 (dk_at dksX3_canGo_0 1 rfl rfl)
theorem dX3_canGo_4 : decode cX3_canGo 4 = .ok (.iload_n 1, 1) := dk_27 (dk_at dksX3_canGo_0 4 rfl rfl)
theorem dX3_canGo_5 : decode cX3_canGo 5 = .ok (.iaload, 1) := dk_46 (dk_at dksX3_canGo_0 5 rfl rfl)
theorem dX3_canGo_6 : decode cX3_canGo 6 = .ok (.aload_n 0, 1) := dk_42 (dk_at dksX3_canGo_0 6 rfl rfl)
theorem dX3_canGo_7 : decode cX3_canGo 7 = .ok (.getfield 13, 3) := dk_180 0 13 (dk_at dksX3_canGo_0 7 rfl rfl)
theorem dX3_canGo_10 : decode cX3_canGo 10 = .ok (.iload_n 2, 1) := dk_28 (dk_at dksX3_canGo_0 10 rfl rfl)
theorem dX3_canGo_11 : decode cX3_canGo 11 = .ok (.iaload, 1) := dk_46 (dk_at dksX3_canGo_0 11 rfl rfl)
theorem dX3_canGo_12 : decode cX3_canGo 12 = .ok (.if_icmp .ne 12, 3) := dk_160 0 12 (dk_at dksX3_canGo_0 12 rfl rfl)
theorem dX3_canGo_15 : decode cX3_canGo 15 = .ok (.aload_n 0, 1) := dk_42 (dk_at dksX3_canGo_0 15 rfl rfl)
theorem dX3_canGo_16 : decode cX3_canGo 16 = .ok (.iload_n 1, 1) := dk_27 (dk_at dksX3_canGo_0 16 rfl rfl)
theorem dX3_canGo_17 : decode cX3_canGo 17 = .ok (.iload_n 2, 1) := dk_28 (dk_at dksX3_canGo_0 17 rfl rfl)
theorem dX3_canGo_18 : decode cX3_canGo 18 = .ok (.invokevirtual 214, 3) := dk_182 0 214 (dk_at dksX3_canGo_0 18 rfl rfl)
theorem dX3_canGo_21 : decode cX3_canGo 21 = .ok (.ifCond .ne 35, 3) := dk_154 0 35 (dk_at dksX3_canGo_0 21 rfl rfl)
theorem dX3_canGo_24 : decode cX3_canGo 24 = .ok (.aload_n 0, 1) := dk_42 (dk_at dksX3_canGo_1 0 rfl rfl)
theorem dX3_canGo_25 : decode cX3_canGo 25 = .ok (.getfield 28, 3) := dk_180 0 28 (dk_at dksX3_canGo_1 1 rfl rfl)
theorem dX3_canGo_28 : decode cX3_canGo 28 = .ok (.iload_n 1, 1) := dk_27 (dk_at dksX3_canGo_1 4 rfl rfl)
theorem dX3_canGo_29 : decode cX3_canGo 29 = .ok (.iaload, 1) := dk_46 (dk_at dksX3_canGo_1 5 rfl rfl)
theorem dX3_canGo_30 : decode cX3_canGo 30 = .ok (.aload_n 0, 1) := dk_42 (dk_at dksX3_canGo_1 6 rfl rfl)
theorem dX3_canGo_31 : decode cX3_canGo 31 = .ok (.getfield 16, 3) := dk_180 0 16 (dk_at dksX3_canGo_1 7 rfl rfl)
theorem dX3_canGo_34 : decode cX3_canGo 34 = .ok (.iload_n 2, 1) := dk_28 (dk_at dksX3_canGo_1 10 rfl rfl)
theorem dX3_canGo_35 : decode cX3_canGo 35 = .ok (.iaload, 1) := dk_46 (dk_at dksX3_canGo_1 11 rfl rfl)
theorem dX3_canGo_36 : decode cX3_canGo 36 = .ok (.if_icmp .ne 24, 3) := dk_160 0 24 (dk_at dksX3_canGo_1 12 rfl rfl)
theorem dX3_canGo_39 : decode cX3_canGo 39 = .ok (.aload_n 0, 1) := dk_42 (dk_at dksX3_canGo_1 15 rfl rfl)
theorem dX3_canGo_40 : decode cX3_canGo 40 = .ok (.getfield 204, 3) := dk_180 0 204 (dk_at dksX3_canGo_1 16 rfl rfl)
theorem dX3_canGo_43 : decode cX3_canGo 43 = .ok (.iconst 1, 1) := dk_4 (dk_at dksX3_canGo_1 19 rfl rfl)
theorem dX3_canGo_44 : decode cX3_canGo 44 = .ok (.if_icmp .eq 12, 3) := dk_159 0 12 (dk_at dksX3_canGo_1 20 rfl rfl)
theorem dX3_canGo_47 : decode cX3_canGo 47 = .ok (.aload_n 0, 1) := dk_42 (dk_at dksX3_canGo_1 23 rfl rfl)
theorem dX3_canGo_48 : decode cX3_canGo 48 = .ok (.iload_n 1, 1) := dk_27 (dk_at dksX3_canGo_2 0 rfl rfl)
theorem dX3_canGo_49 : decode cX3_canGo 49 = .ok (.iload_n 2, 1) := dk_28 (dk_at dksX3_canGo_2 1 rfl rfl)
theorem dX3_canGo_50 : decode cX3_canGo 50 = .ok (.invokevirtual 214, 3) := dk_182 0 214 (dk_at dksX3_canGo_2 2 rfl rfl)
theorem dX3_canGo_53 : decode cX3_canGo 53 = .ok (.ifCond .eq 7, 3) := dk_153 0 7 (dk_at dksX3_canGo_2 5 rfl rfl)
theorem dX3_canGo_56 : decode cX3_canGo 56 = .ok (.iconst 1, 1) := dk_4 (dk_at dksX3_canGo_2 8 rfl rfl)
theorem dX3_canGo_57 : decode cX3_canGo 57 = .ok (.goto 4, 3) := dk_167 0 4 (dk_at dksX3_canGo_2 9 rfl rfl)
theorem dX3_canGo_60 : decode cX3_canGo 60 = .ok (.iconst 0, 1) := dk_3 (dk_at dksX3_canGo_2 12 rfl rfl)
theorem dX3_canGo_61 : decode cX3_canGo 61 = .ok (.ireturn, 1) := dk_172 (dk_at dksX3_canGo_2 13 rfl rfl)
abbrev cX3_goNow : ByteArray := prog_10_method_34_code
def yX3_goNow : MethodName := ⟨RX3, "goNow", "(II)V"⟩
def dkwX3_goNow_6 : List UInt8 := [46, 167, 0, 9, 42, 180, 0, 13, 28, 46, 79, 177]
abbrev dktX3_goNow_6 : List UInt8 := dkwX3_goNow_6 ++ []
def dkwX3_goNow_5 : List UInt8 := [180, 0, 28, 27, 42, 180, 0, 28, 27, 46, 42, 180, 0, 13, 28, 46, 160, 0, 12, 42, 180, 0, 16, 28]
abbrev dktX3_goNow_5 : List UInt8 := dkwX3_goNow_5 ++ dktX3_goNow_6
def dkwX3_goNow_4 : List UInt8 := [104, 21, 6, 96, 46, 21, 5, 96, 4, 100, 21, 5, 108, 96, 79, 132, 6, 1, 167, 255, 214, 42]
abbrev dktX3_goNow_4 : List UInt8 := dkwX3_goNow_4 ++ dktX3_goNow_5
def dkwX3_goNow_3 : List UInt8 := [21, 6, 42, 180, 0, 19, 28, 46, 162, 0, 37, 42, 180, 0, 25, 28, 92, 46, 42, 180, 0, 22, 6, 28]
abbrev dktX3_goNow_3 : List UInt8 := dkwX3_goNow_3 ++ dktX3_goNow_4
def dkwX3_goNow_2 : List UInt8 := [164, 0, 12, 42, 180, 0, 34, 27, 46, 167, 0, 9, 42, 180, 0, 31, 27, 46, 54, 5, 3, 54, 6]
abbrev dktX3_goNow_2 : List UInt8 := dkwX3_goNow_2 ++ dktX3_goNow_3
def dkwX3_goNow_1 : List UInt8 := [54, 4, 21, 4, 153, 0, 31, 29, 153, 0, 18, 42, 180, 0, 34, 27, 46, 42, 180, 0, 31, 27, 46]
abbrev dktX3_goNow_1 : List UInt8 := dkwX3_goNow_1 ++ dktX3_goNow_2
def dkwX3_goNow_0 : List UInt8 := [42, 28, 42, 180, 0, 31, 27, 46, 182, 0, 210, 62, 42, 28, 42, 180, 0, 34, 27, 46, 182, 0, 210]
abbrev dktX3_goNow_0 : List UInt8 := dkwX3_goNow_0 ++ dktX3_goNow_1
theorem dksX3_goNow_0 : cX3_goNow.data.toList.drop 0 = dktX3_goNow_0 := by decide +kernel
theorem dksX3_goNow_1 : cX3_goNow.data.toList.drop 23 = dktX3_goNow_1 := dk_seg dksX3_goNow_0 23 rfl rfl
theorem dksX3_goNow_2 : cX3_goNow.data.toList.drop 46 = dktX3_goNow_2 := dk_seg dksX3_goNow_1 23 rfl rfl
theorem dksX3_goNow_3 : cX3_goNow.data.toList.drop 69 = dktX3_goNow_3 := dk_seg dksX3_goNow_2 23 rfl rfl
theorem dksX3_goNow_4 : cX3_goNow.data.toList.drop 93 = dktX3_goNow_4 := dk_seg dksX3_goNow_3 24 rfl rfl
theorem dksX3_goNow_5 : cX3_goNow.data.toList.drop 115 = dktX3_goNow_5 := dk_seg dksX3_goNow_4 22 rfl rfl
theorem dksX3_goNow_6 : cX3_goNow.data.toList.drop 139 = dktX3_goNow_6 := dk_seg dksX3_goNow_5 24 rfl rfl
theorem dX3_goNow_0 : decode cX3_goNow 0 = .ok (.aload_n 0, 1) := dk_42 (dk_at dksX3_goNow_0 0 rfl rfl)
theorem dX3_goNow_1 : decode cX3_goNow 1 = .ok (.iload_n 2, 1) := dk_28 (dk_at dksX3_goNow_0 1 rfl rfl)
theorem dX3_goNow_2 : decode cX3_goNow 2 = .ok (.aload_n 0, 1) := dk_42 (dk_at dksX3_goNow_0 2 rfl rfl)
theorem dX3_goNow_3 : decode cX3_goNow 3 = .ok (.getfield 31, 3) := dk_180 0 31 (dk_at dksX3_goNow_0 3 rfl rfl)
theorem dX3_goNow_6 : decode cX3_goNow 6 = .ok (.iload_n 1, 1) := dk_27 (dk_at dksX3_goNow_0 6 rfl rfl)
theorem dX3_goNow_7 : decode cX3_goNow 7 = .ok (.iaload, 1) := dk_46 (dk_at dksX3_goNow_0 7 rfl rfl)
theorem dX3_goNow_8 : decode cX3_goNow 8 = .ok (.invokevirtual 210, 3) := dk_182 0 210 (dk_at dksX3_goNow_0 8 rfl rfl)
theorem dX3_goNow_11 : decode cX3_goNow 11 = .ok (.istore_n 3, 1) := dk_62 (dk_at dksX3_goNow_0 11 rfl rfl)
theorem dX3_goNow_12 : decode cX3_goNow 12 = .ok (.aload_n 0, 1) := dk_42 (dk_at dksX3_goNow_0 12 rfl rfl)
theorem dX3_goNow_13 : decode cX3_goNow 13 = .ok (.iload_n 2, 1) := dk_28 (dk_at dksX3_goNow_0 13 rfl rfl)
theorem dX3_goNow_14 : decode cX3_goNow 14 = .ok (.aload_n 0, 1) := dk_42 (dk_at dksX3_goNow_0 14 rfl rfl)
theorem dX3_goNow_15 : decode cX3_goNow 15 = .ok (.getfield 34, 3) := dk_180 0 34 (dk_at dksX3_goNow_0 15 rfl rfl)
theorem dX3_goNow_18 : decode cX3_goNow 18 = .ok (.iload_n 1, 1) := dk_27 (dk_at dksX3_goNow_0 18 rfl rfl)
theorem dX3_goNow_19 : decode cX3_goNow 19 = .ok (.iaload, 1) := dk_46 (dk_at dksX3_goNow_0 19 rfl rfl)
theorem dX3_goNow_20 : decode cX3_goNow 20 = .ok (.invokevirtual 210, 3) := dk_182 0 210 (dk_at dksX3_goNow_0 20 rfl rfl)
theorem dX3_goNow_23 : decode cX3_goNow 23 = .ok (.istore 4, 2) := dk_54 4 (dk_at dksX3_goNow_1 0 rfl rfl)
theorem dX3_goNow_25 : decode cX3_goNow 25 = .ok (.iload 4, 2) := dk_21 4 (dk_at dksX3_goNow_1 2 rfl rfl)
theorem dX3_goNow_27 : decode cX3_goNow 27 = .ok (.ifCond .eq 31, 3) := dk_153 0 31 (dk_at dksX3_goNow_1 4 rfl rfl)
theorem dX3_goNow_30 : decode cX3_goNow 30 = .ok (.iload_n 3, 1) := dk_29 (dk_at dksX3_goNow_1 7 rfl rfl)
theorem dX3_goNow_31 : decode cX3_goNow 31 = .ok (.ifCond .eq 18, 3) := dk_153 0 18 (dk_at dksX3_goNow_1 8 rfl rfl)
theorem dX3_goNow_34 : decode cX3_goNow 34 = .ok (.aload_n 0, 1) := dk_42 (dk_at dksX3_goNow_1 11 rfl rfl)
theorem dX3_goNow_35 : decode cX3_goNow 35 = .ok (.getfield 34, 3) := dk_180 0 34 (dk_at dksX3_goNow_1 12 rfl rfl)
theorem dX3_goNow_38 : decode cX3_goNow 38 = .ok (.iload_n 1, 1) := dk_27 (dk_at dksX3_goNow_1 15 rfl rfl)
theorem dX3_goNow_39 : decode cX3_goNow 39 = .ok (.iaload, 1) := dk_46 (dk_at dksX3_goNow_1 16 rfl rfl)
theorem dX3_goNow_40 : decode cX3_goNow 40 = .ok (.aload_n 0, 1) := dk_42 (dk_at dksX3_goNow_1 17 rfl rfl)
theorem dX3_goNow_41 : decode cX3_goNow 41 = .ok (.getfield 31, 3) := dk_180 0 31 (dk_at dksX3_goNow_1 18 rfl rfl)
theorem dX3_goNow_44 : decode cX3_goNow 44 = .ok (.iload_n 1, 1) := dk_27 (dk_at dksX3_goNow_1 21 rfl rfl)
theorem dX3_goNow_45 : decode cX3_goNow 45 = .ok (.iaload, 1) := dk_46 (dk_at dksX3_goNow_1 22 rfl rfl)
theorem dX3_goNow_46 : decode cX3_goNow 46 = .ok (.if_icmp .le 12, 3) := dk_164 0 12 (dk_at dksX3_goNow_2 0 rfl rfl)
theorem dX3_goNow_49 : decode cX3_goNow 49 = .ok (.aload_n 0, 1) := dk_42 (dk_at dksX3_goNow_2 3 rfl rfl)
theorem dX3_goNow_50 : decode cX3_goNow 50 = .ok (.getfield 34, 3) := dk_180 0 34 (dk_at dksX3_goNow_2 4 rfl rfl)
theorem dX3_goNow_53 : decode cX3_goNow 53 = .ok (.iload_n 1, 1) := dk_27 (dk_at dksX3_goNow_2 7 rfl rfl)
theorem dX3_goNow_54 : decode cX3_goNow 54 = .ok (.iaload, 1) := dk_46 (dk_at dksX3_goNow_2 8 rfl rfl)
theorem dX3_goNow_55 : decode cX3_goNow 55 = .ok (.goto 9, 3) := dk_167 0 9 (dk_at dksX3_goNow_2 9 rfl rfl)
theorem dX3_goNow_58 : decode cX3_goNow 58 = .ok (.aload_n 0, 1) := dk_42 (dk_at dksX3_goNow_2 12 rfl rfl)
theorem dX3_goNow_59 : decode cX3_goNow 59 = .ok (.getfield 31, 3) := dk_180 0 31 (dk_at dksX3_goNow_2 13 rfl rfl)
theorem dX3_goNow_62 : decode cX3_goNow 62 = .ok (.iload_n 1, 1) := dk_27 (dk_at dksX3_goNow_2 16 rfl rfl)
theorem dX3_goNow_63 : decode cX3_goNow 63 = .ok (.iaload, 1) := dk_46 (dk_at dksX3_goNow_2 17 rfl rfl)
theorem dX3_goNow_64 : decode cX3_goNow 64 = .ok (.istore 5, 2) := dk_54 5 (dk_at dksX3_goNow_2 18 rfl rfl)
theorem dX3_goNow_66 : decode cX3_goNow 66 = .ok (.iconst 0, 1) := dk_3 (dk_at dksX3_goNow_2 20 rfl rfl)
theorem dX3_goNow_67 : decode cX3_goNow 67 = .ok (.istore 6, 2) := dk_54 6 (dk_at dksX3_goNow_2 21 rfl rfl)
theorem dX3_goNow_69 : decode cX3_goNow 69 = .ok (.iload 6, 2) := dk_21 6 (dk_at dksX3_goNow_3 0 rfl rfl)
theorem dX3_goNow_71 : decode cX3_goNow 71 = .ok (.aload_n 0, 1) := dk_42 (dk_at dksX3_goNow_3 2 rfl rfl)
theorem dX3_goNow_72 : decode cX3_goNow 72 = .ok (.getfield 19, 3) := dk_180 0 19 (dk_at dksX3_goNow_3 3 rfl rfl)
theorem dX3_goNow_75 : decode cX3_goNow 75 = .ok (.iload_n 2, 1) := dk_28 (dk_at dksX3_goNow_3 6 rfl rfl)
theorem dX3_goNow_76 : decode cX3_goNow 76 = .ok (.iaload, 1) := dk_46 (dk_at dksX3_goNow_3 7 rfl rfl)
theorem dX3_goNow_77 : decode cX3_goNow 77 = .ok (.if_icmp .ge 37, 3) := dk_162 0 37 (dk_at dksX3_goNow_3 8 rfl rfl)
theorem dX3_goNow_80 : decode cX3_goNow 80 = .ok (.aload_n 0, 1) := dk_42 (dk_at dksX3_goNow_3 11 rfl rfl)
theorem dX3_goNow_81 : decode cX3_goNow 81 = .ok (.getfield 25, 3) := dk_180 0 25 (dk_at dksX3_goNow_3 12 rfl rfl)
theorem dX3_goNow_84 : decode cX3_goNow 84 = .ok (.iload_n 2, 1) := dk_28 (dk_at dksX3_goNow_3 15 rfl rfl)
theorem dX3_goNow_85 : decode cX3_goNow 85 = .ok (.dup2, 1) := dk_92 (dk_at dksX3_goNow_3 16 rfl rfl)
theorem dX3_goNow_86 : decode cX3_goNow 86 = .ok (.iaload, 1) := dk_46 (dk_at dksX3_goNow_3 17 rfl rfl)
theorem dX3_goNow_87 : decode cX3_goNow 87 = .ok (.aload_n 0, 1) := dk_42 (dk_at dksX3_goNow_3 18 rfl rfl)
theorem dX3_goNow_88 : decode cX3_goNow 88 = .ok (.getfield 22, 3) := dk_180 0 22 (dk_at dksX3_goNow_3 19 rfl rfl)
theorem dX3_goNow_91 : decode cX3_goNow 91 = .ok (.iconst 3, 1) := dk_6 (dk_at dksX3_goNow_3 22 rfl rfl)
theorem dX3_goNow_92 : decode cX3_goNow 92 = .ok (.iload_n 2, 1) := dk_28 (dk_at dksX3_goNow_3 23 rfl rfl)
theorem dX3_goNow_93 : decode cX3_goNow 93 = .ok (.imul, 1) := dk_104 (dk_at dksX3_goNow_4 0 rfl rfl)
theorem dX3_goNow_94 : decode cX3_goNow 94 = .ok (.iload 6, 2) := dk_21 6 (dk_at dksX3_goNow_4 1 rfl rfl)
theorem dX3_goNow_96 : decode cX3_goNow 96 = .ok (.iadd, 1) := dk_96 (dk_at dksX3_goNow_4 3 rfl rfl)
theorem dX3_goNow_97 : decode cX3_goNow 97 = .ok (.iaload, 1) := dk_46 (dk_at dksX3_goNow_4 4 rfl rfl)
theorem dX3_goNow_98 : decode cX3_goNow 98 = .ok (.iload 5, 2) := dk_21 5 (dk_at dksX3_goNow_4 5 rfl rfl)
theorem dX3_goNow_100 : decode cX3_goNow 100 = .ok (.iadd, 1) := dk_96 (dk_at dksX3_goNow_4 7 rfl rfl)
theorem dX3_goNow_101 : decode cX3_goNow 101 = .ok (.iconst 1, 1) := dk_4 (dk_at dksX3_goNow_4 8 rfl rfl)
theorem dX3_goNow_102 : decode cX3_goNow 102 = .ok (.isub, 1) := dk_100 (dk_at dksX3_goNow_4 9 rfl rfl)
theorem dX3_goNow_103 : decode cX3_goNow 103 = .ok (.iload 5, 2) := dk_21 5 (dk_at dksX3_goNow_4 10 rfl rfl)
theorem dX3_goNow_105 : decode cX3_goNow 105 = .ok (.idiv, 1) := dk_108 (dk_at dksX3_goNow_4 12 rfl rfl)
theorem dX3_goNow_106 : decode cX3_goNow 106 = .ok (.iadd, 1) := dk_96 (dk_at dksX3_goNow_4 13 rfl rfl)
theorem dX3_goNow_107 : decode cX3_goNow 107 = .ok (.iastore, 1) := dk_79 (dk_at dksX3_goNow_4 14 rfl rfl)
theorem dX3_goNow_108 : decode cX3_goNow 108 = .ok (.iinc 6 1, 3) := dk_132 6 1 (dk_at dksX3_goNow_4 15 rfl rfl)
theorem dX3_goNow_111 : decode cX3_goNow 111 = .ok (.goto (-42), 3) := dk_167 255 214 (dk_at dksX3_goNow_4 18 rfl rfl)
theorem dX3_goNow_114 : decode cX3_goNow 114 = .ok (.aload_n 0, 1) := dk_42 (dk_at dksX3_goNow_4 21 rfl rfl)
theorem dX3_goNow_115 : decode cX3_goNow 115 = .ok (.getfield 28, 3) := dk_180 0 28 (dk_at dksX3_goNow_5 0 rfl rfl)
theorem dX3_goNow_118 : decode cX3_goNow 118 = .ok (.iload_n 1, 1) := dk_27 (dk_at dksX3_goNow_5 3 rfl rfl)
theorem dX3_goNow_119 : decode cX3_goNow 119 = .ok (.aload_n 0, 1) := dk_42 (dk_at dksX3_goNow_5 4 rfl rfl)
theorem dX3_goNow_120 : decode cX3_goNow 120 = .ok (.getfield 28, 3) := dk_180 0 28 (dk_at dksX3_goNow_5 5 rfl rfl)
theorem dX3_goNow_123 : decode cX3_goNow 123 = .ok (.iload_n 1, 1) := dk_27 (dk_at dksX3_goNow_5 8 rfl rfl)
theorem dX3_goNow_124 : decode cX3_goNow 124 = .ok (.iaload, 1) := dk_46 (dk_at dksX3_goNow_5 9 rfl rfl)
theorem dX3_goNow_125 : decode cX3_goNow 125 = .ok (.aload_n 0, 1) := dk_42 (dk_at dksX3_goNow_5 10 rfl rfl)
theorem dX3_goNow_126 : decode cX3_goNow 126 = .ok (.getfield 13, 3) := dk_180 0 13 (dk_at dksX3_goNow_5 11 rfl rfl)
theorem dX3_goNow_129 : decode cX3_goNow 129 = .ok (.iload_n 2, 1) := dk_28 (dk_at dksX3_goNow_5 14 rfl rfl)
theorem dX3_goNow_130 : decode cX3_goNow 130 = .ok (.iaload, 1) := dk_46 (dk_at dksX3_goNow_5 15 rfl rfl)
theorem dX3_goNow_131 : decode cX3_goNow 131 = .ok (.if_icmp .ne 12, 3) := dk_160 0 12 (dk_at dksX3_goNow_5 16 rfl rfl)
theorem dX3_goNow_134 : decode cX3_goNow 134 = .ok (.aload_n 0, 1) := dk_42 (dk_at dksX3_goNow_5 19 rfl rfl)
theorem dX3_goNow_135 : decode cX3_goNow 135 = .ok (.getfield 16, 3) := dk_180 0 16 (dk_at dksX3_goNow_5 20 rfl rfl)
theorem dX3_goNow_138 : decode cX3_goNow 138 = .ok (.iload_n 2, 1) := dk_28 (dk_at dksX3_goNow_5 23 rfl rfl)
theorem dX3_goNow_139 : decode cX3_goNow 139 = .ok (.iaload, 1) := dk_46 (dk_at dksX3_goNow_6 0 rfl rfl)
theorem dX3_goNow_140 : decode cX3_goNow 140 = .ok (.goto 9, 3) := dk_167 0 9 (dk_at dksX3_goNow_6 1 rfl rfl)
theorem dX3_goNow_143 : decode cX3_goNow 143 = .ok (.aload_n 0, 1) := dk_42 (dk_at dksX3_goNow_6 4 rfl rfl)
theorem dX3_goNow_144 : decode cX3_goNow 144 = .ok (.getfield 13, 3) := dk_180 0 13 (dk_at dksX3_goNow_6 5 rfl rfl)
theorem dX3_goNow_147 : decode cX3_goNow 147 = .ok (.iload_n 2, 1) := dk_28 (dk_at dksX3_goNow_6 8 rfl rfl)
theorem dX3_goNow_148 : decode cX3_goNow 148 = .ok (.iaload, 1) := dk_46 (dk_at dksX3_goNow_6 9 rfl rfl)
theorem dX3_goNow_149 : decode cX3_goNow 149 = .ok (.iastore, 1) := dk_79 (dk_at dksX3_goNow_6 10 rfl rfl)
theorem dX3_goNow_150 : decode cX3_goNow 150 = .ok (.return_, 1) := dk_177 (dk_at dksX3_goNow_6 11 rfl rfl)
abbrev cX3_build : ByteArray := prog_10_method_36_code
def yX3_build : MethodName := ⟨RX3, "build", "(III)I"⟩
def dkwX3_build_3 : List UInt8 := [172]
abbrev dktX3_build_3 : List UInt8 := dkwX3_build_3 ++ []
def dkwX3_build_2 : List UInt8 := [180, 0, 22, 6, 27, 104, 28, 96, 46, 54, 4, 42, 180, 0, 22, 6, 27, 104, 28, 96, 29, 79, 21, 4]
abbrev dktX3_build_2 : List UInt8 := dkwX3_build_2 ++ dktX3_build_3
def dkwX3_build_1 : List UInt8 := [154, 0, 6, 18, 221, 172, 29, 133, 10, 20, 0, 248, 184, 0, 99, 154, 0, 6, 18, 111, 172, 42]
abbrev dktX3_build_1 : List UInt8 := dkwX3_build_1 ++ dktX3_build_2
def dkwX3_build_0 : List UInt8 := [42, 27, 182, 0, 217, 153, 0, 21, 28, 133, 9, 42, 180, 0, 19, 27, 46, 4, 100, 133, 184, 0, 99]
abbrev dktX3_build_0 : List UInt8 := dkwX3_build_0 ++ dktX3_build_1
theorem dksX3_build_0 : cX3_build.data.toList.drop 0 = dktX3_build_0 := by decide +kernel
theorem dksX3_build_1 : cX3_build.data.toList.drop 23 = dktX3_build_1 := dk_seg dksX3_build_0 23 rfl rfl
theorem dksX3_build_2 : cX3_build.data.toList.drop 45 = dktX3_build_2 := dk_seg dksX3_build_1 22 rfl rfl
theorem dksX3_build_3 : cX3_build.data.toList.drop 69 = dktX3_build_3 := dk_seg dksX3_build_2 24 rfl rfl
theorem dX3_build_0 : decode cX3_build 0 = .ok (.aload_n 0, 1) := dk_42 (dk_at dksX3_build_0 0 rfl rfl)
theorem dX3_build_1 : decode cX3_build 1 = .ok (.iload_n 1, 1) := dk_27 (dk_at dksX3_build_0 1 rfl rfl)
theorem dX3_build_2 : decode cX3_build 2 = .ok (.invokevirtual 217, 3) := dk_182 0 217 (dk_at dksX3_build_0 2 rfl rfl)
theorem dX3_build_5 : decode cX3_build 5 = .ok (.ifCond .eq 21, 3) := dk_153 0 21 (dk_at dksX3_build_0 5 rfl rfl)
theorem dX3_build_8 : decode cX3_build 8 = .ok (.iload_n 2, 1) := dk_28 (dk_at dksX3_build_0 8 rfl rfl)
theorem dX3_build_9 : decode cX3_build 9 = .ok (.i2l, 1) := dk_133 (dk_at dksX3_build_0 9 rfl rfl)
theorem dX3_build_10 : decode cX3_build 10 = .ok (.lconst 0, 1) := dk_9 (dk_at dksX3_build_0 10 rfl rfl)
theorem dX3_build_11 : decode cX3_build 11 = .ok (.aload_n 0, 1) := dk_42 (dk_at dksX3_build_0 11 rfl rfl)
theorem dX3_build_12 : decode cX3_build 12 = .ok (.getfield 19, 3) := dk_180 0 19 (dk_at dksX3_build_0 12 rfl rfl)
theorem dX3_build_15 : decode cX3_build 15 = .ok (.iload_n 1, 1) := dk_27 (dk_at dksX3_build_0 15 rfl rfl)
theorem dX3_build_16 : decode cX3_build 16 = .ok (.iaload, 1) := dk_46 (dk_at dksX3_build_0 16 rfl rfl)
theorem dX3_build_17 : decode cX3_build 17 = .ok (.iconst 1, 1) := dk_4 (dk_at dksX3_build_0 17 rfl rfl)
theorem dX3_build_18 : decode cX3_build 18 = .ok (.isub, 1) := dk_100 (dk_at dksX3_build_0 18 rfl rfl)
theorem dX3_build_19 : decode cX3_build 19 = .ok (.i2l, 1) := dk_133 (dk_at dksX3_build_0 19 rfl rfl)
theorem dX3_build_20 : decode cX3_build 20 = .ok (.invokestatic 99, 3) := dk_184 0 99 (dk_at dksX3_build_0 20 rfl rfl)
theorem dX3_build_23 : decode cX3_build 23 = .ok (.ifCond .ne 6, 3) := dk_154 0 6 (dk_at dksX3_build_1 0 rfl rfl)
theorem dX3_build_26 : decode cX3_build 26 = .ok (.ldc 221, 2) := dk_18 221 (dk_at dksX3_build_1 3 rfl rfl)
theorem dX3_build_28 : decode cX3_build 28 = .ok (.ireturn, 1) := dk_172 (dk_at dksX3_build_1 5 rfl rfl)
theorem dX3_build_29 : decode cX3_build 29 = .ok (.iload_n 3, 1) := dk_29 (dk_at dksX3_build_1 6 rfl rfl)
theorem dX3_build_30 : decode cX3_build 30 = .ok (.i2l, 1) := dk_133 (dk_at dksX3_build_1 7 rfl rfl)
theorem dX3_build_31 : decode cX3_build 31 = .ok (.lconst 1, 1) := dk_10 (dk_at dksX3_build_1 8 rfl rfl)
theorem dX3_build_32 : decode cX3_build 32 = .ok (.ldc2_w 248, 3) := dk_20 0 248 (dk_at dksX3_build_1 9 rfl rfl)
theorem dX3_build_35 : decode cX3_build 35 = .ok (.invokestatic 99, 3) := dk_184 0 99 (dk_at dksX3_build_1 12 rfl rfl)
theorem dX3_build_38 : decode cX3_build 38 = .ok (.ifCond .ne 6, 3) := dk_154 0 6 (dk_at dksX3_build_1 15 rfl rfl)
theorem dX3_build_41 : decode cX3_build 41 = .ok (.ldc 111, 2) := dk_18 111 (dk_at dksX3_build_1 18 rfl rfl)
theorem dX3_build_43 : decode cX3_build 43 = .ok (.ireturn, 1) := dk_172 (dk_at dksX3_build_1 20 rfl rfl)
theorem dX3_build_44 : decode cX3_build 44 = .ok (.aload_n 0, 1) := dk_42 (dk_at dksX3_build_1 21 rfl rfl)
theorem dX3_build_45 : decode cX3_build 45 = .ok (.getfield 22, 3) := dk_180 0 22 (dk_at dksX3_build_2 0 rfl rfl)
theorem dX3_build_48 : decode cX3_build 48 = .ok (.iconst 3, 1) := dk_6 (dk_at dksX3_build_2 3 rfl rfl)
theorem dX3_build_49 : decode cX3_build 49 = .ok (.iload_n 1, 1) := dk_27 (dk_at dksX3_build_2 4 rfl rfl)
theorem dX3_build_50 : decode cX3_build 50 = .ok (.imul, 1) := dk_104 (dk_at dksX3_build_2 5 rfl rfl)
theorem dX3_build_51 : decode cX3_build 51 = .ok (.iload_n 2, 1) := dk_28 (dk_at dksX3_build_2 6 rfl rfl)
theorem dX3_build_52 : decode cX3_build 52 = .ok (.iadd, 1) := dk_96 (dk_at dksX3_build_2 7 rfl rfl)
theorem dX3_build_53 : decode cX3_build 53 = .ok (.iaload, 1) := dk_46 (dk_at dksX3_build_2 8 rfl rfl)
theorem dX3_build_54 : decode cX3_build 54 = .ok (.istore 4, 2) := dk_54 4 (dk_at dksX3_build_2 9 rfl rfl)
theorem dX3_build_56 : decode cX3_build 56 = .ok (.aload_n 0, 1) := dk_42 (dk_at dksX3_build_2 11 rfl rfl)
theorem dX3_build_57 : decode cX3_build 57 = .ok (.getfield 22, 3) := dk_180 0 22 (dk_at dksX3_build_2 12 rfl rfl)
theorem dX3_build_60 : decode cX3_build 60 = .ok (.iconst 3, 1) := dk_6 (dk_at dksX3_build_2 15 rfl rfl)
theorem dX3_build_61 : decode cX3_build 61 = .ok (.iload_n 1, 1) := dk_27 (dk_at dksX3_build_2 16 rfl rfl)
theorem dX3_build_62 : decode cX3_build 62 = .ok (.imul, 1) := dk_104 (dk_at dksX3_build_2 17 rfl rfl)
theorem dX3_build_63 : decode cX3_build 63 = .ok (.iload_n 2, 1) := dk_28 (dk_at dksX3_build_2 18 rfl rfl)
theorem dX3_build_64 : decode cX3_build 64 = .ok (.iadd, 1) := dk_96 (dk_at dksX3_build_2 19 rfl rfl)
theorem dX3_build_65 : decode cX3_build 65 = .ok (.iload_n 3, 1) := dk_29 (dk_at dksX3_build_2 20 rfl rfl)
theorem dX3_build_66 : decode cX3_build 66 = .ok (.iastore, 1) := dk_79 (dk_at dksX3_build_2 21 rfl rfl)
theorem dX3_build_67 : decode cX3_build 67 = .ok (.iload 4, 2) := dk_21 4 (dk_at dksX3_build_2 22 rfl rfl)
theorem dX3_build_69 : decode cX3_build 69 = .ok (.ireturn, 1) := dk_172 (dk_at dksX3_build_3 0 rfl rfl)
abbrev cX3_law : ByteArray := prog_10_method_37_code
def yX3_law : MethodName := ⟨RX3, "law", "(I)I"⟩
def dkwX3_law_1 : List UInt8 := [172]
abbrev dktX3_law_1 : List UInt8 := dkwX3_law_1 ++ []
def dkwX3_law_0 : List UInt8 := [27, 133, 9, 10, 184, 0, 99, 154, 0, 6, 18, 111, 172, 42, 180, 0, 204, 61, 42, 27, 181, 0, 204, 28]
abbrev dktX3_law_0 : List UInt8 := dkwX3_law_0 ++ dktX3_law_1
theorem dksX3_law_0 : cX3_law.data.toList.drop 0 = dktX3_law_0 := by decide +kernel
theorem dksX3_law_1 : cX3_law.data.toList.drop 24 = dktX3_law_1 := dk_seg dksX3_law_0 24 rfl rfl
theorem dX3_law_0 : decode cX3_law 0 = .ok (.iload_n 1, 1) := dk_27 (dk_at dksX3_law_0 0 rfl rfl)
theorem dX3_law_1 : decode cX3_law 1 = .ok (.i2l, 1) := dk_133 (dk_at dksX3_law_0 1 rfl rfl)
theorem dX3_law_2 : decode cX3_law 2 = .ok (.lconst 0, 1) := dk_9 (dk_at dksX3_law_0 2 rfl rfl)
theorem dX3_law_3 : decode cX3_law 3 = .ok (.lconst 1, 1) := dk_10 (dk_at dksX3_law_0 3 rfl rfl)
theorem dX3_law_4 : decode cX3_law 4 = .ok (.invokestatic 99, 3) := dk_184 0 99 (dk_at dksX3_law_0 4 rfl rfl)
theorem dX3_law_7 : decode cX3_law 7 = .ok (.ifCond .ne 6, 3) := dk_154 0 6 (dk_at dksX3_law_0 7 rfl rfl)
theorem dX3_law_10 : decode cX3_law 10 = .ok (.ldc 111, 2) := dk_18 111 (dk_at dksX3_law_0 10 rfl rfl)
theorem dX3_law_12 : decode cX3_law 12 = .ok (.ireturn, 1) := dk_172 (dk_at dksX3_law_0 12 rfl rfl)
theorem dX3_law_13 : decode cX3_law 13 = .ok (.aload_n 0, 1) := dk_42 (dk_at dksX3_law_0 13 rfl rfl)
theorem dX3_law_14 : decode cX3_law 14 = .ok (.getfield 204, 3) := dk_180 0 204 (dk_at dksX3_law_0 14 rfl rfl)
theorem dX3_law_17 : decode cX3_law 17 = .ok (.istore_n 2, 1) := dk_61 (dk_at dksX3_law_0 17 rfl rfl)
theorem dX3_law_18 : decode cX3_law 18 = .ok (.aload_n 0, 1) := dk_42 (dk_at dksX3_law_0 18 rfl rfl)
theorem dX3_law_19 : decode cX3_law 19 = .ok (.iload_n 1, 1) := dk_27 (dk_at dksX3_law_0 19 rfl rfl)
theorem dX3_law_20 : decode cX3_law 20 = .ok (.putfield 204, 3) := dk_181 0 204 (dk_at dksX3_law_0 20 rfl rfl)
theorem dX3_law_23 : decode cX3_law 23 = .ok (.iload_n 2, 1) := dk_28 (dk_at dksX3_law_0 23 rfl rfl)
theorem dX3_law_24 : decode cX3_law 24 = .ok (.ireturn, 1) := dk_172 (dk_at dksX3_law_1 0 rfl rfl)
abbrev cX3_drift : ByteArray := prog_10_method_40_code
def yX3_drift : MethodName := ⟨RX3, "drift", "(I)I"⟩
def dkwX3_drift_2 : List UInt8 := [167, 255, 244, 42, 180, 0, 106, 172]
abbrev dktX3_drift_2 : List UInt8 := dkwX3_drift_2 ++ []
def dkwX3_drift_1 : List UInt8 := [180, 0, 103, 154, 0, 6, 18, 243, 172, 3, 61, 28, 27, 162, 0, 13, 42, 182, 1, 9, 132, 2, 1]
abbrev dktX3_drift_1 : List UInt8 := dkwX3_drift_1 ++ dktX3_drift_2
def dkwX3_drift_0 : List UInt8 := [27, 133, 10, 20, 1, 7, 184, 0, 99, 154, 0, 6, 18, 111, 172, 42, 180, 0, 106, 153, 0, 10, 42]
abbrev dktX3_drift_0 : List UInt8 := dkwX3_drift_0 ++ dktX3_drift_1
theorem dksX3_drift_0 : cX3_drift.data.toList.drop 0 = dktX3_drift_0 := by decide +kernel
theorem dksX3_drift_1 : cX3_drift.data.toList.drop 23 = dktX3_drift_1 := dk_seg dksX3_drift_0 23 rfl rfl
theorem dksX3_drift_2 : cX3_drift.data.toList.drop 46 = dktX3_drift_2 := dk_seg dksX3_drift_1 23 rfl rfl
theorem dX3_drift_0 : decode cX3_drift 0 = .ok (.iload_n 1, 1) := dk_27 (dk_at dksX3_drift_0 0 rfl rfl)
theorem dX3_drift_1 : decode cX3_drift 1 = .ok (.i2l, 1) := dk_133 (dk_at dksX3_drift_0 1 rfl rfl)
theorem dX3_drift_2 : decode cX3_drift 2 = .ok (.lconst 1, 1) := dk_10 (dk_at dksX3_drift_0 2 rfl rfl)
theorem dX3_drift_3 : decode cX3_drift 3 = .ok (.ldc2_w 263, 3) := dk_20 1 7 (dk_at dksX3_drift_0 3 rfl rfl)
theorem dX3_drift_6 : decode cX3_drift 6 = .ok (.invokestatic 99, 3) := dk_184 0 99 (dk_at dksX3_drift_0 6 rfl rfl)
theorem dX3_drift_9 : decode cX3_drift 9 = .ok (.ifCond .ne 6, 3) := dk_154 0 6 (dk_at dksX3_drift_0 9 rfl rfl)
theorem dX3_drift_12 : decode cX3_drift 12 = .ok (.ldc 111, 2) := dk_18 111 (dk_at dksX3_drift_0 12 rfl rfl)
theorem dX3_drift_14 : decode cX3_drift 14 = .ok (.ireturn, 1) := dk_172 (dk_at dksX3_drift_0 14 rfl rfl)
theorem dX3_drift_15 : decode cX3_drift 15 = .ok (.aload_n 0, 1) := dk_42 (dk_at dksX3_drift_0 15 rfl rfl)
theorem dX3_drift_16 : decode cX3_drift 16 = .ok (.getfield 106, 3) := dk_180 0 106 (dk_at dksX3_drift_0 16 rfl rfl)
theorem dX3_drift_19 : decode cX3_drift 19 = .ok (.ifCond .eq 10, 3) := dk_153 0 10 (dk_at dksX3_drift_0 19 rfl rfl)
theorem dX3_drift_22 : decode cX3_drift 22 = .ok (.aload_n 0, 1) := dk_42 (dk_at dksX3_drift_0 22 rfl rfl)
theorem dX3_drift_23 : decode cX3_drift 23 = .ok (.getfield 103, 3) := dk_180 0 103 (dk_at dksX3_drift_1 0 rfl rfl)
theorem dX3_drift_26 : decode cX3_drift 26 = .ok (.ifCond .ne 6, 3) := dk_154 0 6 (dk_at dksX3_drift_1 3 rfl rfl)
theorem dX3_drift_29 : decode cX3_drift 29 = .ok (.ldc 243, 2) := dk_18 243 (dk_at dksX3_drift_1 6 rfl rfl)
theorem dX3_drift_31 : decode cX3_drift 31 = .ok (.ireturn, 1) := dk_172 (dk_at dksX3_drift_1 8 rfl rfl)
theorem dX3_drift_32 : decode cX3_drift 32 = .ok (.iconst 0, 1) := dk_3 (dk_at dksX3_drift_1 9 rfl rfl)
theorem dX3_drift_33 : decode cX3_drift 33 = .ok (.istore_n 2, 1) := dk_61 (dk_at dksX3_drift_1 10 rfl rfl)
theorem dX3_drift_34 : decode cX3_drift 34 = .ok (.iload_n 2, 1) := dk_28 (dk_at dksX3_drift_1 11 rfl rfl)
theorem dX3_drift_35 : decode cX3_drift 35 = .ok (.iload_n 1, 1) := dk_27 (dk_at dksX3_drift_1 12 rfl rfl)
theorem dX3_drift_36 : decode cX3_drift 36 = .ok (.if_icmp .ge 13, 3) := dk_162 0 13 (dk_at dksX3_drift_1 13 rfl rfl)
theorem dX3_drift_39 : decode cX3_drift 39 = .ok (.aload_n 0, 1) := dk_42 (dk_at dksX3_drift_1 16 rfl rfl)
theorem dX3_drift_40 : decode cX3_drift 40 = .ok (.invokevirtual 265, 3) := dk_182 1 9 (dk_at dksX3_drift_1 17 rfl rfl)
theorem dX3_drift_43 : decode cX3_drift 43 = .ok (.iinc 2 1, 3) := dk_132 2 1 (dk_at dksX3_drift_1 20 rfl rfl)
theorem dX3_drift_46 : decode cX3_drift 46 = .ok (.goto (-12), 3) := dk_167 255 244 (dk_at dksX3_drift_2 0 rfl rfl)
theorem dX3_drift_49 : decode cX3_drift 49 = .ok (.aload_n 0, 1) := dk_42 (dk_at dksX3_drift_2 3 rfl rfl)
theorem dX3_drift_50 : decode cX3_drift 50 = .ok (.getfield 106, 3) := dk_180 0 106 (dk_at dksX3_drift_2 4 rfl rfl)
theorem dX3_drift_53 : decode cX3_drift 53 = .ok (.ireturn, 1) := dk_172 (dk_at dksX3_drift_2 7 rfl rfl)
abbrev cX3_dayNow : ByteArray := prog_10_method_39_code
def yX3_dayNow : MethodName := ⟨RX3, "dayNow", "()V"⟩
def dkwX3_dayNow_5 : List UInt8 := [181, 0, 106, 177]
abbrev dktX3_dayNow_5 : List UInt8 := dkwX3_dayNow_5 ++ []
def dkwX3_dayNow_4 : List UInt8 := [182, 1, 4, 4, 96, 79, 42, 180, 0, 34, 42, 180, 0, 106, 3, 79, 42, 89, 180, 0, 106, 4, 96]
abbrev dktX3_dayNow_4 : List UInt8 := dkwX3_dayNow_4 ++ dktX3_dayNow_5
def dkwX3_dayNow_3 : List UInt8 := [180, 0, 106, 42, 5, 182, 1, 4, 154, 0, 12, 42, 180, 0, 31, 27, 46, 167, 0, 11, 42, 16, 24]
abbrev dktX3_dayNow_3 : List UInt8 := dkwX3_dayNow_3 ++ dktX3_dayNow_4
def dkwX3_dayNow_2 : List UInt8 := [162, 0, 72, 42, 180, 0, 28, 42, 180, 0, 106, 42, 180, 0, 28, 27, 46, 79, 42, 180, 0, 31, 42]
abbrev dktX3_dayNow_2 : List UInt8 := dkwX3_dayNow_2 ++ dktX3_dayNow_3
def dkwX3_dayNow_1 : List UInt8 := [153, 0, 9, 42, 27, 28, 182, 0, 244, 42, 16, 16, 182, 1, 4, 154, 0, 81, 42, 180, 0, 106, 16, 8]
abbrev dktX3_dayNow_1 : List UInt8 := dkwX3_dayNow_1 ++ dktX3_dayNow_2
def dkwX3_dayNow_0 : List UInt8 := [42, 42, 180, 0, 106, 182, 1, 4, 60, 42, 42, 180, 0, 103, 182, 1, 4, 61, 42, 27, 28, 182, 0, 240]
abbrev dktX3_dayNow_0 : List UInt8 := dkwX3_dayNow_0 ++ dktX3_dayNow_1
theorem dksX3_dayNow_0 : cX3_dayNow.data.toList.drop 0 = dktX3_dayNow_0 := by decide +kernel
theorem dksX3_dayNow_1 : cX3_dayNow.data.toList.drop 24 = dktX3_dayNow_1 := dk_seg dksX3_dayNow_0 24 rfl rfl
theorem dksX3_dayNow_2 : cX3_dayNow.data.toList.drop 48 = dktX3_dayNow_2 := dk_seg dksX3_dayNow_1 24 rfl rfl
theorem dksX3_dayNow_3 : cX3_dayNow.data.toList.drop 71 = dktX3_dayNow_3 := dk_seg dksX3_dayNow_2 23 rfl rfl
theorem dksX3_dayNow_4 : cX3_dayNow.data.toList.drop 94 = dktX3_dayNow_4 := dk_seg dksX3_dayNow_3 23 rfl rfl
theorem dksX3_dayNow_5 : cX3_dayNow.data.toList.drop 117 = dktX3_dayNow_5 := dk_seg dksX3_dayNow_4 23 rfl rfl
theorem dX3_dayNow_0 : decode cX3_dayNow 0 = .ok (.aload_n 0, 1) := dk_42 (dk_at dksX3_dayNow_0 0 rfl rfl)
theorem dX3_dayNow_1 : decode cX3_dayNow 1 = .ok (.aload_n 0, 1) := dk_42 (dk_at dksX3_dayNow_0 1 rfl rfl)
theorem dX3_dayNow_2 : decode cX3_dayNow 2 = .ok (.getfield 106, 3) := dk_180 0 106 (dk_at dksX3_dayNow_0 2 rfl rfl)
theorem dX3_dayNow_5 : decode cX3_dayNow 5 = .ok (.invokevirtual 260, 3) := dk_182 1 4 (dk_at dksX3_dayNow_0 5 rfl rfl)
theorem dX3_dayNow_8 : decode cX3_dayNow 8 = .ok (.istore_n 1, 1) := dk_60 (dk_at dksX3_dayNow_0 8 rfl rfl)
theorem dX3_dayNow_9 : decode cX3_dayNow 9 = .ok (.aload_n 0, 1) := dk_42 (dk_at dksX3_dayNow_0 9 rfl rfl)
theorem dX3_dayNow_10 : decode cX3_dayNow 10 = .ok (.aload_n 0, 1) := dk_42 (dk_at dksX3_dayNow_0 10 rfl rfl)
theorem dX3_dayNow_11 : decode cX3_dayNow 11 = .ok (.getfield 103, 3) := dk_180 0 103 (dk_at dksX3_dayNow_0 11 rfl rfl)
theorem dX3_dayNow_14 : decode cX3_dayNow 14 = .ok (.invokevirtual 260, 3) := dk_182 1 4 (dk_at dksX3_dayNow_0 14 rfl rfl)
theorem dX3_dayNow_17 : decode cX3_dayNow 17 = .ok (.istore_n 2, 1) := dk_61 (dk_at dksX3_dayNow_0 17 rfl rfl)
theorem dX3_dayNow_18 : decode cX3_dayNow 18 = .ok (.aload_n 0, 1) := dk_42 (dk_at dksX3_dayNow_0 18 rfl rfl)
theorem dX3_dayNow_19 : decode cX3_dayNow 19 = .ok (.iload_n 1, 1) := dk_27 (dk_at dksX3_dayNow_0 19 rfl rfl)
theorem dX3_dayNow_20 : decode cX3_dayNow 20 = .ok (.iload_n 2, 1) := dk_28 (dk_at dksX3_dayNow_0 20 rfl rfl)
theorem dX3_dayNow_21 : decode cX3_dayNow 21 = .ok (.invokevirtual 240, 3) := dk_182 0 240 (dk_at dksX3_dayNow_0 21 rfl rfl)
theorem dX3_dayNow_24 : decode cX3_dayNow 24 = .ok (.ifCond .eq 9, 3) := dk_153 0 9 (dk_at dksX3_dayNow_1 0 rfl rfl)
theorem dX3_dayNow_27 : decode cX3_dayNow 27 = .ok (.aload_n 0, 1) := dk_42 (dk_at dksX3_dayNow_1 3 rfl rfl)
theorem dX3_dayNow_28 : decode cX3_dayNow 28 = .ok (.iload_n 1, 1) := dk_27 (dk_at dksX3_dayNow_1 4 rfl rfl)
theorem dX3_dayNow_29 : decode cX3_dayNow 29 = .ok (.iload_n 2, 1) := dk_28 (dk_at dksX3_dayNow_1 5 rfl rfl)
theorem dX3_dayNow_30 : decode cX3_dayNow 30 = .ok (.invokevirtual 244, 3) := dk_182 0 244 (dk_at dksX3_dayNow_1 6 rfl rfl)
theorem dX3_dayNow_33 : decode cX3_dayNow 33 = .ok (.aload_n 0, 1) := dk_42 (dk_at dksX3_dayNow_1 9 rfl rfl)
theorem dX3_dayNow_34 : decode cX3_dayNow 34 = .ok (.bipush 16, 2) := dk_16 16 (dk_at dksX3_dayNow_1 10 rfl rfl)
theorem dX3_dayNow_36 : decode cX3_dayNow 36 = .ok (.invokevirtual 260, 3) := dk_182 1 4 (dk_at dksX3_dayNow_1 12 rfl rfl)
theorem dX3_dayNow_39 : decode cX3_dayNow 39 = .ok (.ifCond .ne 81, 3) := dk_154 0 81 (dk_at dksX3_dayNow_1 15 rfl rfl)
theorem dX3_dayNow_42 : decode cX3_dayNow 42 = .ok (.aload_n 0, 1) := dk_42 (dk_at dksX3_dayNow_1 18 rfl rfl)
theorem dX3_dayNow_43 : decode cX3_dayNow 43 = .ok (.getfield 106, 3) := dk_180 0 106 (dk_at dksX3_dayNow_1 19 rfl rfl)
theorem dX3_dayNow_46 : decode cX3_dayNow 46 = .ok (.bipush 8, 2) := dk_16 8 (dk_at dksX3_dayNow_1 22 rfl rfl)
theorem dX3_dayNow_48 : decode cX3_dayNow 48 = .ok (.if_icmp .ge 72, 3) := dk_162 0 72 (dk_at dksX3_dayNow_2 0 rfl rfl)
theorem dX3_dayNow_51 : decode cX3_dayNow 51 = .ok (.aload_n 0, 1) := dk_42 (dk_at dksX3_dayNow_2 3 rfl rfl)
theorem dX3_dayNow_52 : decode cX3_dayNow 52 = .ok (.getfield 28, 3) := dk_180 0 28 (dk_at dksX3_dayNow_2 4 rfl rfl)
theorem dX3_dayNow_55 : decode cX3_dayNow 55 = .ok (.aload_n 0, 1) := dk_42 (dk_at dksX3_dayNow_2 7 rfl rfl)
theorem dX3_dayNow_56 : decode cX3_dayNow 56 = .ok (.getfield 106, 3) := dk_180 0 106 (dk_at dksX3_dayNow_2 8 rfl rfl)
theorem dX3_dayNow_59 : decode cX3_dayNow 59 = .ok (.aload_n 0, 1) := dk_42 (dk_at dksX3_dayNow_2 11 rfl rfl)
theorem dX3_dayNow_60 : decode cX3_dayNow 60 = .ok (.getfield 28, 3) := dk_180 0 28 (dk_at dksX3_dayNow_2 12 rfl rfl)
theorem dX3_dayNow_63 : decode cX3_dayNow 63 = .ok (.iload_n 1, 1) := dk_27 (dk_at dksX3_dayNow_2 15 rfl rfl)
theorem dX3_dayNow_64 : decode cX3_dayNow 64 = .ok (.iaload, 1) := dk_46 (dk_at dksX3_dayNow_2 16 rfl rfl)
theorem dX3_dayNow_65 : decode cX3_dayNow 65 = .ok (.iastore, 1) := dk_79 (dk_at dksX3_dayNow_2 17 rfl rfl)
theorem dX3_dayNow_66 : decode cX3_dayNow 66 = .ok (.aload_n 0, 1) := dk_42 (dk_at dksX3_dayNow_2 18 rfl rfl)
theorem dX3_dayNow_67 : decode cX3_dayNow 67 = .ok (.getfield 31, 3) := dk_180 0 31 (dk_at dksX3_dayNow_2 19 rfl rfl)
theorem dX3_dayNow_70 : decode cX3_dayNow 70 = .ok (.aload_n 0, 1) := dk_42 (dk_at dksX3_dayNow_2 22 rfl rfl)
theorem dX3_dayNow_71 : decode cX3_dayNow 71 = .ok (.getfield 106, 3) := dk_180 0 106 (dk_at dksX3_dayNow_3 0 rfl rfl)
theorem dX3_dayNow_74 : decode cX3_dayNow 74 = .ok (.aload_n 0, 1) := dk_42 (dk_at dksX3_dayNow_3 3 rfl rfl)
theorem dX3_dayNow_75 : decode cX3_dayNow 75 = .ok (.iconst 2, 1) := dk_5 (dk_at dksX3_dayNow_3 4 rfl rfl)
theorem dX3_dayNow_76 : decode cX3_dayNow 76 = .ok (.invokevirtual 260, 3) := dk_182 1 4 (dk_at dksX3_dayNow_3 5 rfl rfl)
theorem dX3_dayNow_79 : decode cX3_dayNow 79 = .ok (.ifCond .ne 12, 3) := dk_154 0 12 (dk_at dksX3_dayNow_3 8 rfl rfl)
theorem dX3_dayNow_82 : decode cX3_dayNow 82 = .ok (.aload_n 0, 1) := dk_42 (dk_at dksX3_dayNow_3 11 rfl rfl)
theorem dX3_dayNow_83 : decode cX3_dayNow 83 = .ok (.getfield 31, 3) := dk_180 0 31 (dk_at dksX3_dayNow_3 12 rfl rfl)
theorem dX3_dayNow_86 : decode cX3_dayNow 86 = .ok (.iload_n 1, 1) := dk_27 (dk_at dksX3_dayNow_3 15 rfl rfl)
theorem dX3_dayNow_87 : decode cX3_dayNow 87 = .ok (.iaload, 1) := dk_46 (dk_at dksX3_dayNow_3 16 rfl rfl)
theorem dX3_dayNow_88 : decode cX3_dayNow 88 = .ok (.goto 11, 3) := dk_167 0 11 (dk_at dksX3_dayNow_3 17 rfl rfl)
theorem dX3_dayNow_91 : decode cX3_dayNow 91 = .ok (.aload_n 0, 1) := dk_42 (dk_at dksX3_dayNow_3 20 rfl rfl)
theorem dX3_dayNow_92 : decode cX3_dayNow 92 = .ok (.bipush 24, 2) := dk_16 24 (dk_at dksX3_dayNow_3 21 rfl rfl)
theorem dX3_dayNow_94 : decode cX3_dayNow 94 = .ok (.invokevirtual 260, 3) := dk_182 1 4 (dk_at dksX3_dayNow_4 0 rfl rfl)
theorem dX3_dayNow_97 : decode cX3_dayNow 97 = .ok (.iconst 1, 1) := dk_4 (dk_at dksX3_dayNow_4 3 rfl rfl)
theorem dX3_dayNow_98 : decode cX3_dayNow 98 = .ok (.iadd, 1) := dk_96 (dk_at dksX3_dayNow_4 4 rfl rfl)
theorem dX3_dayNow_99 : decode cX3_dayNow 99 = .ok (.iastore, 1) := dk_79 (dk_at dksX3_dayNow_4 5 rfl rfl)
theorem dX3_dayNow_100 : decode cX3_dayNow 100 = .ok (.aload_n 0, 1) := dk_42 (dk_at dksX3_dayNow_4 6 rfl rfl)
theorem dX3_dayNow_101 : decode cX3_dayNow 101 = .ok (.getfield 34, 3) := dk_180 0 34 (dk_at dksX3_dayNow_4 7 rfl rfl)
theorem dX3_dayNow_104 : decode cX3_dayNow 104 = .ok (.aload_n 0, 1) := dk_42 (dk_at dksX3_dayNow_4 10 rfl rfl)
theorem dX3_dayNow_105 : decode cX3_dayNow 105 = .ok (.getfield 106, 3) := dk_180 0 106 (dk_at dksX3_dayNow_4 11 rfl rfl)
theorem dX3_dayNow_108 : decode cX3_dayNow 108 = .ok (.iconst 0, 1) := dk_3 (dk_at dksX3_dayNow_4 14 rfl rfl)
theorem dX3_dayNow_109 : decode cX3_dayNow 109 = .ok (.iastore, 1) := dk_79 (dk_at dksX3_dayNow_4 15 rfl rfl)
theorem dX3_dayNow_110 : decode cX3_dayNow 110 = .ok (.aload_n 0, 1) := dk_42 (dk_at dksX3_dayNow_4 16 rfl rfl)
theorem dX3_dayNow_111 : decode cX3_dayNow 111 = .ok (.dup, 1) := dk_89 (dk_at dksX3_dayNow_4 17 rfl rfl)
theorem dX3_dayNow_112 : decode cX3_dayNow 112 = .ok (.getfield 106, 3) := dk_180 0 106 (dk_at dksX3_dayNow_4 18 rfl rfl)
theorem dX3_dayNow_115 : decode cX3_dayNow 115 = .ok (.iconst 1, 1) := dk_4 (dk_at dksX3_dayNow_4 21 rfl rfl)
theorem dX3_dayNow_116 : decode cX3_dayNow 116 = .ok (.iadd, 1) := dk_96 (dk_at dksX3_dayNow_4 22 rfl rfl)
theorem dX3_dayNow_117 : decode cX3_dayNow 117 = .ok (.putfield 106, 3) := dk_181 0 106 (dk_at dksX3_dayNow_5 0 rfl rfl)
theorem dX3_dayNow_120 : decode cX3_dayNow 120 = .ok (.return_, 1) := dk_177 (dk_at dksX3_dayNow_5 3 rfl rfl)
abbrev cX3_draw : ByteArray := prog_10_method_38_code
def yX3_draw : MethodName := ⟨RX3, "draw", "(I)I"⟩
def dkwX3_draw_1 : List UInt8 := [180, 0, 250, 19, 1, 3, 108, 27, 112, 172]
abbrev dktX3_draw_1 : List UInt8 := dkwX3_draw_1 ++ []
def dkwX3_draw_0 : List UInt8 := [42, 42, 180, 0, 250, 133, 20, 0, 253, 105, 20, 0, 255, 97, 20, 1, 1, 113, 136, 181, 0, 250, 42]
abbrev dktX3_draw_0 : List UInt8 := dkwX3_draw_0 ++ dktX3_draw_1
theorem dksX3_draw_0 : cX3_draw.data.toList.drop 0 = dktX3_draw_0 := by decide +kernel
theorem dksX3_draw_1 : cX3_draw.data.toList.drop 23 = dktX3_draw_1 := dk_seg dksX3_draw_0 23 rfl rfl
theorem dX3_draw_0 : decode cX3_draw 0 = .ok (.aload_n 0, 1) := dk_42 (dk_at dksX3_draw_0 0 rfl rfl)
theorem dX3_draw_1 : decode cX3_draw 1 = .ok (.aload_n 0, 1) := dk_42 (dk_at dksX3_draw_0 1 rfl rfl)
theorem dX3_draw_2 : decode cX3_draw 2 = .ok (.getfield 250, 3) := dk_180 0 250 (dk_at dksX3_draw_0 2 rfl rfl)
theorem dX3_draw_5 : decode cX3_draw 5 = .ok (.i2l, 1) := dk_133 (dk_at dksX3_draw_0 5 rfl rfl)
theorem dX3_draw_6 : decode cX3_draw 6 = .ok (.ldc2_w 253, 3) := dk_20 0 253 (dk_at dksX3_draw_0 6 rfl rfl)
theorem dX3_draw_9 : decode cX3_draw 9 = .ok (.lmul, 1) := dk_105 (dk_at dksX3_draw_0 9 rfl rfl)
theorem dX3_draw_10 : decode cX3_draw 10 = .ok (.ldc2_w 255, 3) := dk_20 0 255 (dk_at dksX3_draw_0 10 rfl rfl)
theorem dX3_draw_13 : decode cX3_draw 13 = .ok (.ladd, 1) := dk_97 (dk_at dksX3_draw_0 13 rfl rfl)
theorem dX3_draw_14 : decode cX3_draw 14 = .ok (.ldc2_w 257, 3) := dk_20 1 1 (dk_at dksX3_draw_0 14 rfl rfl)
theorem dX3_draw_17 : decode cX3_draw 17 = .ok (.lrem, 1) := dk_113 (dk_at dksX3_draw_0 17 rfl rfl)
theorem dX3_draw_18 : decode cX3_draw 18 = .ok (.l2i, 1) := dk_136 (dk_at dksX3_draw_0 18 rfl rfl)
theorem dX3_draw_19 : decode cX3_draw 19 = .ok (.putfield 250, 3) := dk_181 0 250 (dk_at dksX3_draw_0 19 rfl rfl)
theorem dX3_draw_22 : decode cX3_draw 22 = .ok (.aload_n 0, 1) := dk_42 (dk_at dksX3_draw_0 22 rfl rfl)
theorem dX3_draw_23 : decode cX3_draw 23 = .ok (.getfield 250, 3) := dk_180 0 250 (dk_at dksX3_draw_1 0 rfl rfl)
theorem dX3_draw_26 : decode cX3_draw 26 = .ok (.ldc_w 259, 3) := dk_19 1 3 (dk_at dksX3_draw_1 3 rfl rfl)
theorem dX3_draw_29 : decode cX3_draw 29 = .ok (.idiv, 1) := dk_108 (dk_at dksX3_draw_1 6 rfl rfl)
theorem dX3_draw_30 : decode cX3_draw 30 = .ok (.iload_n 1, 1) := dk_27 (dk_at dksX3_draw_1 7 rfl rfl)
theorem dX3_draw_31 : decode cX3_draw 31 = .ok (.irem, 1) := dk_112 (dk_at dksX3_draw_1 8 rfl rfl)
theorem dX3_draw_32 : decode cX3_draw 32 = .ok (.ireturn, 1) := dk_172 (dk_at dksX3_draw_1 9 rfl rfl)
abbrev cX3_reach : ByteArray := prog_10_method_41_code
def yX3_reach : MethodName := ⟨RX3, "reach", "(II)I"⟩
def dkwX3_reach_1 : List UInt8 := [27, 28, 3, 182, 0, 228, 167, 0, 5, 18, 111, 172]
abbrev dktX3_reach_1 : List UInt8 := dkwX3_reach_1 ++ []
def dkwX3_reach_0 : List UInt8 := [42, 27, 182, 1, 12, 154, 0, 6, 18, 221, 172, 28, 133, 10, 20, 0, 238, 184, 0, 99, 153, 0, 13, 42]
abbrev dktX3_reach_0 : List UInt8 := dkwX3_reach_0 ++ dktX3_reach_1
theorem dksX3_reach_0 : cX3_reach.data.toList.drop 0 = dktX3_reach_0 := by decide +kernel
theorem dksX3_reach_1 : cX3_reach.data.toList.drop 24 = dktX3_reach_1 := dk_seg dksX3_reach_0 24 rfl rfl
theorem dX3_reach_0 : decode cX3_reach 0 = .ok (.aload_n 0, 1) := dk_42 (dk_at dksX3_reach_0 0 rfl rfl)
theorem dX3_reach_1 : decode cX3_reach 1 = .ok (.iload_n 1, 1) := dk_27 (dk_at dksX3_reach_0 1 rfl rfl)
theorem dX3_reach_2 : decode cX3_reach 2 = .ok (.invokevirtual 268, 3) := dk_182 1 12 (dk_at dksX3_reach_0 2 rfl rfl)
theorem dX3_reach_5 : decode cX3_reach 5 = .ok (.ifCond .ne 6, 3) := dk_154 0 6 (dk_at dksX3_reach_0 5 rfl rfl)
theorem dX3_reach_8 : decode cX3_reach 8 = .ok (.ldc 221, 2) := dk_18 221 (dk_at dksX3_reach_0 8 rfl rfl)
theorem dX3_reach_10 : decode cX3_reach 10 = .ok (.ireturn, 1) := dk_172 (dk_at dksX3_reach_0 10 rfl rfl)
theorem dX3_reach_11 : decode cX3_reach 11 = .ok (.iload_n 2, 1) := dk_28 (dk_at dksX3_reach_0 11 rfl rfl)
theorem dX3_reach_12 : decode cX3_reach 12 = .ok (.i2l, 1) := dk_133 (dk_at dksX3_reach_0 12 rfl rfl)
theorem dX3_reach_13 : decode cX3_reach 13 = .ok (.lconst 1, 1) := dk_10 (dk_at dksX3_reach_0 13 rfl rfl)
theorem dX3_reach_14 : decode cX3_reach 14 = .ok (.ldc2_w 238, 3) := dk_20 0 238 (dk_at dksX3_reach_0 14 rfl rfl)
theorem dX3_reach_17 : decode cX3_reach 17 = .ok (.invokestatic 99, 3) := dk_184 0 99 (dk_at dksX3_reach_0 17 rfl rfl)
theorem dX3_reach_20 : decode cX3_reach 20 = .ok (.ifCond .eq 13, 3) := dk_153 0 13 (dk_at dksX3_reach_0 20 rfl rfl)
theorem dX3_reach_23 : decode cX3_reach 23 = .ok (.aload_n 0, 1) := dk_42 (dk_at dksX3_reach_0 23 rfl rfl)
theorem dX3_reach_24 : decode cX3_reach 24 = .ok (.iload_n 1, 1) := dk_27 (dk_at dksX3_reach_1 0 rfl rfl)
theorem dX3_reach_25 : decode cX3_reach 25 = .ok (.iload_n 2, 1) := dk_28 (dk_at dksX3_reach_1 1 rfl rfl)
theorem dX3_reach_26 : decode cX3_reach 26 = .ok (.iconst 0, 1) := dk_3 (dk_at dksX3_reach_1 2 rfl rfl)
theorem dX3_reach_27 : decode cX3_reach 27 = .ok (.invokevirtual 228, 3) := dk_182 0 228 (dk_at dksX3_reach_1 3 rfl rfl)
theorem dX3_reach_30 : decode cX3_reach 30 = .ok (.goto 5, 3) := dk_167 0 5 (dk_at dksX3_reach_1 6 rfl rfl)
theorem dX3_reach_33 : decode cX3_reach 33 = .ok (.ldc 111, 2) := dk_18 111 (dk_at dksX3_reach_1 9 rfl rfl)
theorem dX3_reach_35 : decode cX3_reach 35 = .ok (.ireturn, 1) := dk_172 (dk_at dksX3_reach_1 11 rfl rfl)
abbrev cX3_isPlace : ByteArray := prog_10_method_6_code
def yX3_isPlace : MethodName := ⟨RX3, "isPlace", "(I)Z"⟩
def dkwX3_isPlace_0 : List UInt8 := [27, 133, 9, 42, 180, 0, 96, 4, 100, 133, 184, 0, 99, 172]
abbrev dktX3_isPlace_0 : List UInt8 := dkwX3_isPlace_0 ++ []
theorem dksX3_isPlace_0 : cX3_isPlace.data.toList.drop 0 = dktX3_isPlace_0 := by decide +kernel
theorem dX3_isPlace_0 : decode cX3_isPlace 0 = .ok (.iload_n 1, 1) := dk_27 (dk_at dksX3_isPlace_0 0 rfl rfl)
theorem dX3_isPlace_1 : decode cX3_isPlace 1 = .ok (.i2l, 1) := dk_133 (dk_at dksX3_isPlace_0 1 rfl rfl)
theorem dX3_isPlace_2 : decode cX3_isPlace 2 = .ok (.lconst 0, 1) := dk_9 (dk_at dksX3_isPlace_0 2 rfl rfl)
theorem dX3_isPlace_3 : decode cX3_isPlace 3 = .ok (.aload_n 0, 1) := dk_42 (dk_at dksX3_isPlace_0 3 rfl rfl)
theorem dX3_isPlace_4 : decode cX3_isPlace 4 = .ok (.getfield 96, 3) := dk_180 0 96 (dk_at dksX3_isPlace_0 4 rfl rfl)
theorem dX3_isPlace_7 : decode cX3_isPlace 7 = .ok (.iconst 1, 1) := dk_4 (dk_at dksX3_isPlace_0 7 rfl rfl)
theorem dX3_isPlace_8 : decode cX3_isPlace 8 = .ok (.isub, 1) := dk_100 (dk_at dksX3_isPlace_0 8 rfl rfl)
theorem dX3_isPlace_9 : decode cX3_isPlace 9 = .ok (.i2l, 1) := dk_133 (dk_at dksX3_isPlace_0 9 rfl rfl)
theorem dX3_isPlace_10 : decode cX3_isPlace 10 = .ok (.invokestatic 99, 3) := dk_184 0 99 (dk_at dksX3_isPlace_0 10 rfl rfl)
theorem dX3_isPlace_13 : decode cX3_isPlace 13 = .ok (.ireturn, 1) := dk_172 (dk_at dksX3_isPlace_0 13 rfl rfl)
abbrev cX3_guests : ByteArray := prog_10_method_42_code
def yX3_guests : MethodName := ⟨RX3, "guests", "(I)I"⟩
def dkwX3_guests_2 : List UInt8 := [120, 167, 0, 4, 3, 128, 61, 132, 3, 1, 167, 255, 213, 28, 172]
abbrev dktX3_guests_2 : List UInt8 := dkwX3_guests_2 ++ []
def dkwX3_guests_1 : List UInt8 := [29, 27, 159, 0, 26, 42, 29, 182, 0, 235, 42, 180, 0, 28, 27, 46, 184, 0, 225, 153, 0, 9, 4, 29]
abbrev dktX3_guests_1 : List UInt8 := dkwX3_guests_1 ++ dktX3_guests_2
def dkwX3_guests_0 : List UInt8 := [42, 27, 182, 0, 232, 154, 0, 6, 18, 221, 172, 3, 61, 3, 62, 29, 42, 180, 0, 106, 162, 0, 41, 28]
abbrev dktX3_guests_0 : List UInt8 := dkwX3_guests_0 ++ dktX3_guests_1
theorem dksX3_guests_0 : cX3_guests.data.toList.drop 0 = dktX3_guests_0 := by decide +kernel
theorem dksX3_guests_1 : cX3_guests.data.toList.drop 24 = dktX3_guests_1 := dk_seg dksX3_guests_0 24 rfl rfl
theorem dksX3_guests_2 : cX3_guests.data.toList.drop 48 = dktX3_guests_2 := dk_seg dksX3_guests_1 24 rfl rfl
theorem dX3_guests_0 : decode cX3_guests 0 = .ok (.aload_n 0, 1) := dk_42 (dk_at dksX3_guests_0 0 rfl rfl)
theorem dX3_guests_1 : decode cX3_guests 1 = .ok (.iload_n 1, 1) := dk_27 (dk_at dksX3_guests_0 1 rfl rfl)
theorem dX3_guests_2 : decode cX3_guests 2 = .ok (.invokevirtual 232, 3) := dk_182 0 232 (dk_at dksX3_guests_0 2 rfl rfl)
theorem dX3_guests_5 : decode cX3_guests 5 = .ok (.ifCond .ne 6, 3) := dk_154 0 6 (dk_at dksX3_guests_0 5 rfl rfl)
theorem dX3_guests_8 : decode cX3_guests 8 = .ok (.ldc 221, 2) := dk_18 221 (dk_at dksX3_guests_0 8 rfl rfl)
theorem dX3_guests_10 : decode cX3_guests 10 = .ok (.ireturn, 1) := dk_172 (dk_at dksX3_guests_0 10 rfl rfl)
theorem dX3_guests_11 : decode cX3_guests 11 = .ok (.iconst 0, 1) := dk_3 (dk_at dksX3_guests_0 11 rfl rfl)
theorem dX3_guests_12 : decode cX3_guests 12 = .ok (.istore_n 2, 1) := dk_61 (dk_at dksX3_guests_0 12 rfl rfl)
theorem dX3_guests_13 : decode cX3_guests 13 = .ok (.iconst 0, 1) := dk_3 (dk_at dksX3_guests_0 13 rfl rfl)
theorem dX3_guests_14 : decode cX3_guests 14 = .ok (.istore_n 3, 1) := dk_62 (dk_at dksX3_guests_0 14 rfl rfl)
theorem dX3_guests_15 : decode cX3_guests 15 = .ok (.iload_n 3, 1) := dk_29 (dk_at dksX3_guests_0 15 rfl rfl)
theorem dX3_guests_16 : decode cX3_guests 16 = .ok (.aload_n 0, 1) := dk_42 (dk_at dksX3_guests_0 16 rfl rfl)
theorem dX3_guests_17 : decode cX3_guests 17 = .ok (.getfield 106, 3) := dk_180 0 106 (dk_at dksX3_guests_0 17 rfl rfl)
theorem dX3_guests_20 : decode cX3_guests 20 = .ok (.if_icmp .ge 41, 3) := dk_162 0 41 (dk_at dksX3_guests_0 20 rfl rfl)
theorem dX3_guests_23 : decode cX3_guests 23 = .ok (.iload_n 2, 1) := dk_28 (dk_at dksX3_guests_0 23 rfl rfl)
theorem dX3_guests_24 : decode cX3_guests 24 = .ok (.iload_n 3, 1) := dk_29 (dk_at dksX3_guests_1 0 rfl rfl)
theorem dX3_guests_25 : decode cX3_guests 25 = .ok (.iload_n 1, 1) := dk_27 (dk_at dksX3_guests_1 1 rfl rfl)
theorem dX3_guests_26 : decode cX3_guests 26 = .ok (.if_icmp .eq 26, 3) := dk_159 0 26 (dk_at dksX3_guests_1 2 rfl rfl)
theorem dX3_guests_29 : decode cX3_guests 29 = .ok (.aload_n 0, 1) := dk_42 (dk_at dksX3_guests_1 5 rfl rfl)
theorem dX3_guests_30 : decode cX3_guests 30 = .ok (.iload_n 3, 1) := dk_29 (dk_at dksX3_guests_1 6 rfl rfl)
theorem dX3_guests_31 : decode cX3_guests 31 = .ok (.invokevirtual 235, 3) := dk_182 0 235 (dk_at dksX3_guests_1 7 rfl rfl)
theorem dX3_guests_34 : decode cX3_guests 34 = .ok (.aload_n 0, 1) := dk_42 (dk_at dksX3_guests_1 10 rfl rfl)
theorem dX3_guests_35 : decode cX3_guests 35 = .ok (.getfield 28, 3) := dk_180 0 28 (dk_at dksX3_guests_1 11 rfl rfl)
theorem dX3_guests_38 : decode cX3_guests 38 = .ok (.iload_n 1, 1) := dk_27 (dk_at dksX3_guests_1 14 rfl rfl)
theorem dX3_guests_39 : decode cX3_guests 39 = .ok (.iaload, 1) := dk_46 (dk_at dksX3_guests_1 15 rfl rfl)
theorem dX3_guests_40 : decode cX3_guests 40 = .ok (.invokestatic 225, 3) := dk_184 0 225 (dk_at dksX3_guests_1 16 rfl rfl)
theorem dX3_guests_43 : decode cX3_guests 43 = .ok (.ifCond .eq 9, 3) := dk_153 0 9 (dk_at dksX3_guests_1 19 rfl rfl)
theorem dX3_guests_46 : decode cX3_guests 46 = .ok (.iconst 1, 1) := dk_4 (dk_at dksX3_guests_1 22 rfl rfl)
theorem dX3_guests_47 : decode cX3_guests 47 = .ok (.iload_n 3, 1) := dk_29 (dk_at dksX3_guests_1 23 rfl rfl)
theorem dX3_guests_48 : decode cX3_guests 48 = .ok (.ishl, 1) := dk_120 (dk_at dksX3_guests_2 0 rfl rfl)
theorem dX3_guests_49 : decode cX3_guests 49 = .ok (.goto 4, 3) := dk_167 0 4 (dk_at dksX3_guests_2 1 rfl rfl)
theorem dX3_guests_52 : decode cX3_guests 52 = .ok (.iconst 0, 1) := dk_3 (dk_at dksX3_guests_2 4 rfl rfl)
theorem dX3_guests_53 : decode cX3_guests 53 = .ok (.ior, 1) := dk_128 (dk_at dksX3_guests_2 5 rfl rfl)
theorem dX3_guests_54 : decode cX3_guests 54 = .ok (.istore_n 2, 1) := dk_61 (dk_at dksX3_guests_2 6 rfl rfl)
theorem dX3_guests_55 : decode cX3_guests 55 = .ok (.iinc 3 1, 3) := dk_132 3 1 (dk_at dksX3_guests_2 7 rfl rfl)
theorem dX3_guests_58 : decode cX3_guests 58 = .ok (.goto (-43), 3) := dk_167 255 213 (dk_at dksX3_guests_2 10 rfl rfl)
theorem dX3_guests_61 : decode cX3_guests 61 = .ok (.iload_n 2, 1) := dk_28 (dk_at dksX3_guests_2 13 rfl rfl)
theorem dX3_guests_62 : decode cX3_guests 62 = .ok (.ireturn, 1) := dk_172 (dk_at dksX3_guests_2 14 rfl rfl)
abbrev cX3_wish : ByteArray := prog_10_method_44_code
def yX3_wish : MethodName := ⟨RX3, "wish", "(II)I"⟩
def dkwX3_wish_2 : List UInt8 := [27, 28, 182, 1, 16, 153, 0, 6, 21, 4, 172, 132, 4, 1, 167, 255, 231, 2, 172]
abbrev dktX3_wish_2 : List UInt8 := dkwX3_wish_2 ++ []
def dkwX3_wish_1 : List UInt8 := [133, 184, 0, 99, 154, 0, 6, 18, 221, 172, 4, 54, 4, 21, 4, 19, 1, 15, 163, 0, 23, 42, 21, 4]
abbrev dktX3_wish_1 : List UInt8 := dkwX3_wish_1 ++ dktX3_wish_2
def dkwX3_wish_0 : List UInt8 := [4, 42, 180, 0, 106, 120, 4, 100, 62, 27, 133, 9, 29, 133, 184, 0, 99, 153, 0, 14, 28, 133, 9, 29]
abbrev dktX3_wish_0 : List UInt8 := dkwX3_wish_0 ++ dktX3_wish_1
theorem dksX3_wish_0 : cX3_wish.data.toList.drop 0 = dktX3_wish_0 := by decide +kernel
theorem dksX3_wish_1 : cX3_wish.data.toList.drop 24 = dktX3_wish_1 := dk_seg dksX3_wish_0 24 rfl rfl
theorem dksX3_wish_2 : cX3_wish.data.toList.drop 48 = dktX3_wish_2 := dk_seg dksX3_wish_1 24 rfl rfl
theorem dX3_wish_0 : decode cX3_wish 0 = .ok (.iconst 1, 1) := dk_4 (dk_at dksX3_wish_0 0 rfl rfl)
theorem dX3_wish_1 : decode cX3_wish 1 = .ok (.aload_n 0, 1) := dk_42 (dk_at dksX3_wish_0 1 rfl rfl)
theorem dX3_wish_2 : decode cX3_wish 2 = .ok (.getfield 106, 3) := dk_180 0 106 (dk_at dksX3_wish_0 2 rfl rfl)
theorem dX3_wish_5 : decode cX3_wish 5 = .ok (.ishl, 1) := dk_120 (dk_at dksX3_wish_0 5 rfl rfl)
theorem dX3_wish_6 : decode cX3_wish 6 = .ok (.iconst 1, 1) := dk_4 (dk_at dksX3_wish_0 6 rfl rfl)
theorem dX3_wish_7 : decode cX3_wish 7 = .ok (.isub, 1) := dk_100 (dk_at dksX3_wish_0 7 rfl rfl)
theorem dX3_wish_8 : decode cX3_wish 8 = .ok (.istore_n 3, 1) := dk_62 (dk_at dksX3_wish_0 8 rfl rfl)
theorem dX3_wish_9 : decode cX3_wish 9 = .ok (.iload_n 1, 1) := dk_27 (dk_at dksX3_wish_0 9 rfl rfl)
theorem dX3_wish_10 : decode cX3_wish 10 = .ok (.i2l, 1) := dk_133 (dk_at dksX3_wish_0 10 rfl rfl)
theorem dX3_wish_11 : decode cX3_wish 11 = .ok (.lconst 0, 1) := dk_9 (dk_at dksX3_wish_0 11 rfl rfl)
theorem dX3_wish_12 : decode cX3_wish 12 = .ok (.iload_n 3, 1) := dk_29 (dk_at dksX3_wish_0 12 rfl rfl)
theorem dX3_wish_13 : decode cX3_wish 13 = .ok (.i2l, 1) := dk_133 (dk_at dksX3_wish_0 13 rfl rfl)
theorem dX3_wish_14 : decode cX3_wish 14 = .ok (.invokestatic 99, 3) := dk_184 0 99 (dk_at dksX3_wish_0 14 rfl rfl)
theorem dX3_wish_17 : decode cX3_wish 17 = .ok (.ifCond .eq 14, 3) := dk_153 0 14 (dk_at dksX3_wish_0 17 rfl rfl)
theorem dX3_wish_20 : decode cX3_wish 20 = .ok (.iload_n 2, 1) := dk_28 (dk_at dksX3_wish_0 20 rfl rfl)
theorem dX3_wish_21 : decode cX3_wish 21 = .ok (.i2l, 1) := dk_133 (dk_at dksX3_wish_0 21 rfl rfl)
theorem dX3_wish_22 : decode cX3_wish 22 = .ok (.lconst 0, 1) := dk_9 (dk_at dksX3_wish_0 22 rfl rfl)
theorem dX3_wish_23 : decode cX3_wish 23 = .ok (.iload_n 3, 1) := dk_29 (dk_at dksX3_wish_0 23 rfl rfl)
theorem dX3_wish_24 : decode cX3_wish 24 = .ok (.i2l, 1) := dk_133 (dk_at dksX3_wish_1 0 rfl rfl)
theorem dX3_wish_25 : decode cX3_wish 25 = .ok (.invokestatic 99, 3) := dk_184 0 99 (dk_at dksX3_wish_1 1 rfl rfl)
theorem dX3_wish_28 : decode cX3_wish 28 = .ok (.ifCond .ne 6, 3) := dk_154 0 6 (dk_at dksX3_wish_1 4 rfl rfl)
theorem dX3_wish_31 : decode cX3_wish 31 = .ok (.ldc 221, 2) := dk_18 221 (dk_at dksX3_wish_1 7 rfl rfl)
theorem dX3_wish_33 : decode cX3_wish 33 = .ok (.ireturn, 1) := dk_172 (dk_at dksX3_wish_1 9 rfl rfl)
theorem dX3_wish_34 : decode cX3_wish 34 = .ok (.iconst 1, 1) := dk_4 (dk_at dksX3_wish_1 10 rfl rfl)
theorem dX3_wish_35 : decode cX3_wish 35 = .ok (.istore 4, 2) := dk_54 4 (dk_at dksX3_wish_1 11 rfl rfl)
theorem dX3_wish_37 : decode cX3_wish 37 = .ok (.iload 4, 2) := dk_21 4 (dk_at dksX3_wish_1 13 rfl rfl)
theorem dX3_wish_39 : decode cX3_wish 39 = .ok (.ldc_w 271, 3) := dk_19 1 15 (dk_at dksX3_wish_1 15 rfl rfl)
theorem dX3_wish_42 : decode cX3_wish 42 = .ok (.if_icmp .gt 23, 3) := dk_163 0 23 (dk_at dksX3_wish_1 18 rfl rfl)
theorem dX3_wish_45 : decode cX3_wish 45 = .ok (.aload_n 0, 1) := dk_42 (dk_at dksX3_wish_1 21 rfl rfl)
theorem dX3_wish_46 : decode cX3_wish 46 = .ok (.iload 4, 2) := dk_21 4 (dk_at dksX3_wish_1 22 rfl rfl)
theorem dX3_wish_48 : decode cX3_wish 48 = .ok (.iload_n 1, 1) := dk_27 (dk_at dksX3_wish_2 0 rfl rfl)
theorem dX3_wish_49 : decode cX3_wish 49 = .ok (.iload_n 2, 1) := dk_28 (dk_at dksX3_wish_2 1 rfl rfl)
theorem dX3_wish_50 : decode cX3_wish 50 = .ok (.invokevirtual 272, 3) := dk_182 1 16 (dk_at dksX3_wish_2 2 rfl rfl)
theorem dX3_wish_53 : decode cX3_wish 53 = .ok (.ifCond .eq 6, 3) := dk_153 0 6 (dk_at dksX3_wish_2 5 rfl rfl)
theorem dX3_wish_56 : decode cX3_wish 56 = .ok (.iload 4, 2) := dk_21 4 (dk_at dksX3_wish_2 8 rfl rfl)
theorem dX3_wish_58 : decode cX3_wish 58 = .ok (.ireturn, 1) := dk_172 (dk_at dksX3_wish_2 10 rfl rfl)
theorem dX3_wish_59 : decode cX3_wish 59 = .ok (.iinc 4 1, 3) := dk_132 4 1 (dk_at dksX3_wish_2 11 rfl rfl)
theorem dX3_wish_62 : decode cX3_wish 62 = .ok (.goto (-25), 3) := dk_167 255 231 (dk_at dksX3_wish_2 14 rfl rfl)
theorem dX3_wish_65 : decode cX3_wish 65 = .ok (.iconst (-1), 1) := dk_2 (dk_at dksX3_wish_2 17 rfl rfl)
theorem dX3_wish_66 : decode cX3_wish 66 = .ok (.ireturn, 1) := dk_172 (dk_at dksX3_wish_2 18 rfl rfl)
abbrev cX3_isWish : ByteArray := prog_10_method_43_code
def yX3_isWish : MethodName := ⟨RX3, "isWish", "(III)Z"⟩
def dkwX3_isWish_4 : List UInt8 := [153, 0, 8, 21, 7, 154, 0, 7, 4, 167, 0, 4, 3, 54, 4, 132, 5, 1, 167, 255, 151, 21, 4, 172]
abbrev dktX3_isWish_4 : List UInt8 := dkwX3_isWish_4 ++ []
def dkwX3_isWish_3 : List UInt8 := [153, 0, 35, 28, 21, 5, 184, 0, 225, 153, 0, 8, 21, 6, 153, 0, 21, 29, 21, 5, 184, 0, 225]
abbrev dktX3_isWish_3 : List UInt8 := dkwX3_isWish_3 ++ dktX3_isWish_4
def dkwX3_isWish_2 : List UInt8 := [158, 0, 19, 27, 42, 180, 0, 34, 21, 5, 46, 112, 154, 0, 7, 4, 167, 0, 4, 3, 54, 7, 21, 4]
abbrev dktX3_isWish_2 : List UInt8 := dkwX3_isWish_2 ++ dktX3_isWish_3
def dkwX3_isWish_1 : List UInt8 := [154, 0, 7, 4, 167, 0, 4, 3, 54, 6, 21, 6, 154, 0, 25, 42, 180, 0, 34, 21, 5, 46]
abbrev dktX3_isWish_1 : List UInt8 := dkwX3_isWish_1 ++ dktX3_isWish_2
def dkwX3_isWish_0 : List UInt8 := [4, 54, 4, 3, 54, 5, 21, 5, 42, 180, 0, 106, 162, 0, 102, 27, 42, 180, 0, 31, 21, 5, 46, 112]
abbrev dktX3_isWish_0 : List UInt8 := dkwX3_isWish_0 ++ dktX3_isWish_1
theorem dksX3_isWish_0 : cX3_isWish.data.toList.drop 0 = dktX3_isWish_0 := by decide +kernel
theorem dksX3_isWish_1 : cX3_isWish.data.toList.drop 24 = dktX3_isWish_1 := dk_seg dksX3_isWish_0 24 rfl rfl
theorem dksX3_isWish_2 : cX3_isWish.data.toList.drop 46 = dktX3_isWish_2 := dk_seg dksX3_isWish_1 22 rfl rfl
theorem dksX3_isWish_3 : cX3_isWish.data.toList.drop 70 = dktX3_isWish_3 := dk_seg dksX3_isWish_2 24 rfl rfl
theorem dksX3_isWish_4 : cX3_isWish.data.toList.drop 93 = dktX3_isWish_4 := dk_seg dksX3_isWish_3 23 rfl rfl
theorem dX3_isWish_0 : decode cX3_isWish 0 = .ok (.iconst 1, 1) := dk_4 (dk_at dksX3_isWish_0 0 rfl rfl)
theorem dX3_isWish_1 : decode cX3_isWish 1 = .ok (.istore 4, 2) := dk_54 4 (dk_at dksX3_isWish_0 1 rfl rfl)
theorem dX3_isWish_3 : decode cX3_isWish 3 = .ok (.iconst 0, 1) := dk_3 (dk_at dksX3_isWish_0 3 rfl rfl)
theorem dX3_isWish_4 : decode cX3_isWish 4 = .ok (.istore 5, 2) := dk_54 5 (dk_at dksX3_isWish_0 4 rfl rfl)
theorem dX3_isWish_6 : decode cX3_isWish 6 = .ok (.iload 5, 2) := dk_21 5 (dk_at dksX3_isWish_0 6 rfl rfl)
theorem dX3_isWish_8 : decode cX3_isWish 8 = .ok (.aload_n 0, 1) := dk_42 (dk_at dksX3_isWish_0 8 rfl rfl)
theorem dX3_isWish_9 : decode cX3_isWish 9 = .ok (.getfield 106, 3) := dk_180 0 106 (dk_at dksX3_isWish_0 9 rfl rfl)
theorem dX3_isWish_12 : decode cX3_isWish 12 = .ok (.if_icmp .ge 102, 3) := dk_162 0 102 (dk_at dksX3_isWish_0 12 rfl rfl)
theorem dX3_isWish_15 : decode cX3_isWish 15 = .ok (.iload_n 1, 1) := dk_27 (dk_at dksX3_isWish_0 15 rfl rfl)
theorem dX3_isWish_16 : decode cX3_isWish 16 = .ok (.aload_n 0, 1) := dk_42 (dk_at dksX3_isWish_0 16 rfl rfl)
theorem dX3_isWish_17 : decode cX3_isWish 17 = .ok (.getfield 31, 3) := dk_180 0 31 (dk_at dksX3_isWish_0 17 rfl rfl)
theorem dX3_isWish_20 : decode cX3_isWish 20 = .ok (.iload 5, 2) := dk_21 5 (dk_at dksX3_isWish_0 20 rfl rfl)
theorem dX3_isWish_22 : decode cX3_isWish 22 = .ok (.iaload, 1) := dk_46 (dk_at dksX3_isWish_0 22 rfl rfl)
theorem dX3_isWish_23 : decode cX3_isWish 23 = .ok (.irem, 1) := dk_112 (dk_at dksX3_isWish_0 23 rfl rfl)
theorem dX3_isWish_24 : decode cX3_isWish 24 = .ok (.ifCond .ne 7, 3) := dk_154 0 7 (dk_at dksX3_isWish_1 0 rfl rfl)
theorem dX3_isWish_27 : decode cX3_isWish 27 = .ok (.iconst 1, 1) := dk_4 (dk_at dksX3_isWish_1 3 rfl rfl)
theorem dX3_isWish_28 : decode cX3_isWish 28 = .ok (.goto 4, 3) := dk_167 0 4 (dk_at dksX3_isWish_1 4 rfl rfl)
theorem dX3_isWish_31 : decode cX3_isWish 31 = .ok (.iconst 0, 1) := dk_3 (dk_at dksX3_isWish_1 7 rfl rfl)
theorem dX3_isWish_32 : decode cX3_isWish 32 = .ok (.istore 6, 2) := dk_54 6 (dk_at dksX3_isWish_1 8 rfl rfl)
theorem dX3_isWish_34 : decode cX3_isWish 34 = .ok (.iload 6, 2) := dk_21 6 (dk_at dksX3_isWish_1 10 rfl rfl)
theorem dX3_isWish_36 : decode cX3_isWish 36 = .ok (.ifCond .ne 25, 3) := dk_154 0 25 (dk_at dksX3_isWish_1 12 rfl rfl)
theorem dX3_isWish_39 : decode cX3_isWish 39 = .ok (.aload_n 0, 1) := dk_42 (dk_at dksX3_isWish_1 15 rfl rfl)
theorem dX3_isWish_40 : decode cX3_isWish 40 = .ok (.getfield 34, 3) := dk_180 0 34 (dk_at dksX3_isWish_1 16 rfl rfl)
theorem dX3_isWish_43 : decode cX3_isWish 43 = .ok (.iload 5, 2) := dk_21 5 (dk_at dksX3_isWish_1 19 rfl rfl)
theorem dX3_isWish_45 : decode cX3_isWish 45 = .ok (.iaload, 1) := dk_46 (dk_at dksX3_isWish_1 21 rfl rfl)
theorem dX3_isWish_46 : decode cX3_isWish 46 = .ok (.ifCond .le 19, 3) := dk_158 0 19 (dk_at dksX3_isWish_2 0 rfl rfl)
theorem dX3_isWish_49 : decode cX3_isWish 49 = .ok (.iload_n 1, 1) := dk_27 (dk_at dksX3_isWish_2 3 rfl rfl)
theorem dX3_isWish_50 : decode cX3_isWish 50 = .ok (.aload_n 0, 1) := dk_42 (dk_at dksX3_isWish_2 4 rfl rfl)
theorem dX3_isWish_51 : decode cX3_isWish 51 = .ok (.getfield 34, 3) := dk_180 0 34 (dk_at dksX3_isWish_2 5 rfl rfl)
theorem dX3_isWish_54 : decode cX3_isWish 54 = .ok (.iload 5, 2) := dk_21 5 (dk_at dksX3_isWish_2 8 rfl rfl)
theorem dX3_isWish_56 : decode cX3_isWish 56 = .ok (.iaload, 1) := dk_46 (dk_at dksX3_isWish_2 10 rfl rfl)
theorem dX3_isWish_57 : decode cX3_isWish 57 = .ok (.irem, 1) := dk_112 (dk_at dksX3_isWish_2 11 rfl rfl)
theorem dX3_isWish_58 : decode cX3_isWish 58 = .ok (.ifCond .ne 7, 3) := dk_154 0 7 (dk_at dksX3_isWish_2 12 rfl rfl)
theorem dX3_isWish_61 : decode cX3_isWish 61 = .ok (.iconst 1, 1) := dk_4 (dk_at dksX3_isWish_2 15 rfl rfl)
theorem dX3_isWish_62 : decode cX3_isWish 62 = .ok (.goto 4, 3) := dk_167 0 4 (dk_at dksX3_isWish_2 16 rfl rfl)
theorem dX3_isWish_65 : decode cX3_isWish 65 = .ok (.iconst 0, 1) := dk_3 (dk_at dksX3_isWish_2 19 rfl rfl)
theorem dX3_isWish_66 : decode cX3_isWish 66 = .ok (.istore 7, 2) := dk_54 7 (dk_at dksX3_isWish_2 20 rfl rfl)
theorem dX3_isWish_68 : decode cX3_isWish 68 = .ok (.iload 4, 2) := dk_21 4 (dk_at dksX3_isWish_2 22 rfl rfl)
theorem dX3_isWish_70 : decode cX3_isWish 70 = .ok (.ifCond .eq 35, 3) := dk_153 0 35 (dk_at dksX3_isWish_3 0 rfl rfl)
theorem dX3_isWish_73 : decode cX3_isWish 73 = .ok (.iload_n 2, 1) := dk_28 (dk_at dksX3_isWish_3 3 rfl rfl)
theorem dX3_isWish_74 : decode cX3_isWish 74 = .ok (.iload 5, 2) := dk_21 5 (dk_at dksX3_isWish_3 4 rfl rfl)
theorem dX3_isWish_76 : decode cX3_isWish 76 = .ok (.invokestatic 225, 3) := dk_184 0 225 (dk_at dksX3_isWish_3 6 rfl rfl)
theorem dX3_isWish_79 : decode cX3_isWish 79 = .ok (.ifCond .eq 8, 3) := dk_153 0 8 (dk_at dksX3_isWish_3 9 rfl rfl)
theorem dX3_isWish_82 : decode cX3_isWish 82 = .ok (.iload 6, 2) := dk_21 6 (dk_at dksX3_isWish_3 12 rfl rfl)
theorem dX3_isWish_84 : decode cX3_isWish 84 = .ok (.ifCond .eq 21, 3) := dk_153 0 21 (dk_at dksX3_isWish_3 14 rfl rfl)
theorem dX3_isWish_87 : decode cX3_isWish 87 = .ok (.iload_n 3, 1) := dk_29 (dk_at dksX3_isWish_3 17 rfl rfl)
theorem dX3_isWish_88 : decode cX3_isWish 88 = .ok (.iload 5, 2) := dk_21 5 (dk_at dksX3_isWish_3 18 rfl rfl)
theorem dX3_isWish_90 : decode cX3_isWish 90 = .ok (.invokestatic 225, 3) := dk_184 0 225 (dk_at dksX3_isWish_3 20 rfl rfl)
theorem dX3_isWish_93 : decode cX3_isWish 93 = .ok (.ifCond .eq 8, 3) := dk_153 0 8 (dk_at dksX3_isWish_4 0 rfl rfl)
theorem dX3_isWish_96 : decode cX3_isWish 96 = .ok (.iload 7, 2) := dk_21 7 (dk_at dksX3_isWish_4 3 rfl rfl)
theorem dX3_isWish_98 : decode cX3_isWish 98 = .ok (.ifCond .ne 7, 3) := dk_154 0 7 (dk_at dksX3_isWish_4 5 rfl rfl)
theorem dX3_isWish_101 : decode cX3_isWish 101 = .ok (.iconst 1, 1) := dk_4 (dk_at dksX3_isWish_4 8 rfl rfl)
theorem dX3_isWish_102 : decode cX3_isWish 102 = .ok (.goto 4, 3) := dk_167 0 4 (dk_at dksX3_isWish_4 9 rfl rfl)
theorem dX3_isWish_105 : decode cX3_isWish 105 = .ok (.iconst 0, 1) := dk_3 (dk_at dksX3_isWish_4 12 rfl rfl)
theorem dX3_isWish_106 : decode cX3_isWish 106 = .ok (.istore 4, 2) := dk_54 4 (dk_at dksX3_isWish_4 13 rfl rfl)
theorem dX3_isWish_108 : decode cX3_isWish 108 = .ok (.iinc 5 1, 3) := dk_132 5 1 (dk_at dksX3_isWish_4 15 rfl rfl)
theorem dX3_isWish_111 : decode cX3_isWish 111 = .ok (.goto (-105), 3) := dk_167 255 151 (dk_at dksX3_isWish_4 18 rfl rfl)
theorem dX3_isWish_114 : decode cX3_isWish 114 = .ok (.iload 4, 2) := dk_21 4 (dk_at dksX3_isWish_4 21 rfl rfl)
theorem dX3_isWish_116 : decode cX3_isWish 116 = .ok (.ireturn, 1) := dk_172 (dk_at dksX3_isWish_4 23 rfl rfl)
abbrev cX3_pair : ByteArray := prog_10_method_45_code
def yX3_pair : MethodName := ⟨RX3, "pair", "(III)I"⟩
def dkwX3_pair_3 : List UInt8 := [180, 0, 31, 28, 46, 112, 153, 0, 9, 132, 4, 1, 167, 255, 229, 21, 4, 172]
abbrev dktX3_pair_3 : List UInt8 := dkwX3_pair_3 ++ []
def dkwX3_pair_2 : List UInt8 := [182, 0, 235, 126, 172, 4, 54, 4, 21, 4, 42, 180, 0, 31, 27, 46, 112, 154, 0, 15, 21, 4, 42]
abbrev dktX3_pair_2 : List UInt8 := dkwX3_pair_2 ++ dktX3_pair_3
def dkwX3_pair_1 : List UInt8 := [29, 133, 9, 10, 184, 0, 99, 154, 0, 6, 18, 111, 172, 29, 154, 0, 15, 42, 27, 182, 0, 235, 42, 28]
abbrev dktX3_pair_1 : List UInt8 := dkwX3_pair_1 ++ dktX3_pair_2
def dkwX3_pair_0 : List UInt8 := [42, 27, 182, 0, 232, 153, 0, 16, 42, 28, 182, 0, 232, 153, 0, 8, 27, 28, 160, 0, 6, 18, 221, 172]
abbrev dktX3_pair_0 : List UInt8 := dkwX3_pair_0 ++ dktX3_pair_1
theorem dksX3_pair_0 : cX3_pair.data.toList.drop 0 = dktX3_pair_0 := by decide +kernel
theorem dksX3_pair_1 : cX3_pair.data.toList.drop 24 = dktX3_pair_1 := dk_seg dksX3_pair_0 24 rfl rfl
theorem dksX3_pair_2 : cX3_pair.data.toList.drop 48 = dktX3_pair_2 := dk_seg dksX3_pair_1 24 rfl rfl
theorem dksX3_pair_3 : cX3_pair.data.toList.drop 71 = dktX3_pair_3 := dk_seg dksX3_pair_2 23 rfl rfl
theorem dX3_pair_0 : decode cX3_pair 0 = .ok (.aload_n 0, 1) := dk_42 (dk_at dksX3_pair_0 0 rfl rfl)
theorem dX3_pair_1 : decode cX3_pair 1 = .ok (.iload_n 1, 1) := dk_27 (dk_at dksX3_pair_0 1 rfl rfl)
theorem dX3_pair_2 : decode cX3_pair 2 = .ok (.invokevirtual 232, 3) := dk_182 0 232 (dk_at dksX3_pair_0 2 rfl rfl)
theorem dX3_pair_5 : decode cX3_pair 5 = .ok (.ifCond .eq 16, 3) := dk_153 0 16 (dk_at dksX3_pair_0 5 rfl rfl)
theorem dX3_pair_8 : decode cX3_pair 8 = .ok (.aload_n 0, 1) := dk_42 (dk_at dksX3_pair_0 8 rfl rfl)
theorem dX3_pair_9 : decode cX3_pair 9 = .ok (.iload_n 2, 1) := dk_28 (dk_at dksX3_pair_0 9 rfl rfl)
theorem dX3_pair_10 : decode cX3_pair 10 = .ok (.invokevirtual 232, 3) := dk_182 0 232 (dk_at dksX3_pair_0 10 rfl rfl)
theorem dX3_pair_13 : decode cX3_pair 13 = .ok (.ifCond .eq 8, 3) := dk_153 0 8 (dk_at dksX3_pair_0 13 rfl rfl)
theorem dX3_pair_16 : decode cX3_pair 16 = .ok (.iload_n 1, 1) := dk_27 (dk_at dksX3_pair_0 16 rfl rfl)
theorem dX3_pair_17 : decode cX3_pair 17 = .ok (.iload_n 2, 1) := dk_28 (dk_at dksX3_pair_0 17 rfl rfl)
theorem dX3_pair_18 : decode cX3_pair 18 = .ok (.if_icmp .ne 6, 3) := dk_160 0 6 (dk_at dksX3_pair_0 18 rfl rfl)
theorem dX3_pair_21 : decode cX3_pair 21 = .ok (.ldc 221, 2) := dk_18 221 (dk_at dksX3_pair_0 21 rfl rfl)
theorem dX3_pair_23 : decode cX3_pair 23 = .ok (.ireturn, 1) := dk_172 (dk_at dksX3_pair_0 23 rfl rfl)
theorem dX3_pair_24 : decode cX3_pair 24 = .ok (.iload_n 3, 1) := dk_29 (dk_at dksX3_pair_1 0 rfl rfl)
theorem dX3_pair_25 : decode cX3_pair 25 = .ok (.i2l, 1) := dk_133 (dk_at dksX3_pair_1 1 rfl rfl)
theorem dX3_pair_26 : decode cX3_pair 26 = .ok (.lconst 0, 1) := dk_9 (dk_at dksX3_pair_1 2 rfl rfl)
theorem dX3_pair_27 : decode cX3_pair 27 = .ok (.lconst 1, 1) := dk_10 (dk_at dksX3_pair_1 3 rfl rfl)
theorem dX3_pair_28 : decode cX3_pair 28 = .ok (.invokestatic 99, 3) := dk_184 0 99 (dk_at dksX3_pair_1 4 rfl rfl)
theorem dX3_pair_31 : decode cX3_pair 31 = .ok (.ifCond .ne 6, 3) := dk_154 0 6 (dk_at dksX3_pair_1 7 rfl rfl)
theorem dX3_pair_34 : decode cX3_pair 34 = .ok (.ldc 111, 2) := dk_18 111 (dk_at dksX3_pair_1 10 rfl rfl)
theorem dX3_pair_36 : decode cX3_pair 36 = .ok (.ireturn, 1) := dk_172 (dk_at dksX3_pair_1 12 rfl rfl)
theorem dX3_pair_37 : decode cX3_pair 37 = .ok (.iload_n 3, 1) := dk_29 (dk_at dksX3_pair_1 13 rfl rfl)
theorem dX3_pair_38 : decode cX3_pair 38 = .ok (.ifCond .ne 15, 3) := dk_154 0 15 (dk_at dksX3_pair_1 14 rfl rfl)
theorem dX3_pair_41 : decode cX3_pair 41 = .ok (.aload_n 0, 1) := dk_42 (dk_at dksX3_pair_1 17 rfl rfl)
theorem dX3_pair_42 : decode cX3_pair 42 = .ok (.iload_n 1, 1) := dk_27 (dk_at dksX3_pair_1 18 rfl rfl)
theorem dX3_pair_43 : decode cX3_pair 43 = .ok (.invokevirtual 235, 3) := dk_182 0 235 (dk_at dksX3_pair_1 19 rfl rfl)
theorem dX3_pair_46 : decode cX3_pair 46 = .ok (.aload_n 0, 1) := dk_42 (dk_at dksX3_pair_1 22 rfl rfl)
theorem dX3_pair_47 : decode cX3_pair 47 = .ok (.iload_n 2, 1) := dk_28 (dk_at dksX3_pair_1 23 rfl rfl)
theorem dX3_pair_48 : decode cX3_pair 48 = .ok (.invokevirtual 235, 3) := dk_182 0 235 (dk_at dksX3_pair_2 0 rfl rfl)
theorem dX3_pair_51 : decode cX3_pair 51 = .ok (.iand, 1) := dk_126 (dk_at dksX3_pair_2 3 rfl rfl)
theorem dX3_pair_52 : decode cX3_pair 52 = .ok (.ireturn, 1) := dk_172 (dk_at dksX3_pair_2 4 rfl rfl)
theorem dX3_pair_53 : decode cX3_pair 53 = .ok (.iconst 1, 1) := dk_4 (dk_at dksX3_pair_2 5 rfl rfl)
theorem dX3_pair_54 : decode cX3_pair 54 = .ok (.istore 4, 2) := dk_54 4 (dk_at dksX3_pair_2 6 rfl rfl)
theorem dX3_pair_56 : decode cX3_pair 56 = .ok (.iload 4, 2) := dk_21 4 (dk_at dksX3_pair_2 8 rfl rfl)
theorem dX3_pair_58 : decode cX3_pair 58 = .ok (.aload_n 0, 1) := dk_42 (dk_at dksX3_pair_2 10 rfl rfl)
theorem dX3_pair_59 : decode cX3_pair 59 = .ok (.getfield 31, 3) := dk_180 0 31 (dk_at dksX3_pair_2 11 rfl rfl)
theorem dX3_pair_62 : decode cX3_pair 62 = .ok (.iload_n 1, 1) := dk_27 (dk_at dksX3_pair_2 14 rfl rfl)
theorem dX3_pair_63 : decode cX3_pair 63 = .ok (.iaload, 1) := dk_46 (dk_at dksX3_pair_2 15 rfl rfl)
theorem dX3_pair_64 : decode cX3_pair 64 = .ok (.irem, 1) := dk_112 (dk_at dksX3_pair_2 16 rfl rfl)
theorem dX3_pair_65 : decode cX3_pair 65 = .ok (.ifCond .ne 15, 3) := dk_154 0 15 (dk_at dksX3_pair_2 17 rfl rfl)
theorem dX3_pair_68 : decode cX3_pair 68 = .ok (.iload 4, 2) := dk_21 4 (dk_at dksX3_pair_2 20 rfl rfl)
theorem dX3_pair_70 : decode cX3_pair 70 = .ok (.aload_n 0, 1) := dk_42 (dk_at dksX3_pair_2 22 rfl rfl)
theorem dX3_pair_71 : decode cX3_pair 71 = .ok (.getfield 31, 3) := dk_180 0 31 (dk_at dksX3_pair_3 0 rfl rfl)
theorem dX3_pair_74 : decode cX3_pair 74 = .ok (.iload_n 2, 1) := dk_28 (dk_at dksX3_pair_3 3 rfl rfl)
theorem dX3_pair_75 : decode cX3_pair 75 = .ok (.iaload, 1) := dk_46 (dk_at dksX3_pair_3 4 rfl rfl)
theorem dX3_pair_76 : decode cX3_pair 76 = .ok (.irem, 1) := dk_112 (dk_at dksX3_pair_3 5 rfl rfl)
theorem dX3_pair_77 : decode cX3_pair 77 = .ok (.ifCond .eq 9, 3) := dk_153 0 9 (dk_at dksX3_pair_3 6 rfl rfl)
theorem dX3_pair_80 : decode cX3_pair 80 = .ok (.iinc 4 1, 3) := dk_132 4 1 (dk_at dksX3_pair_3 9 rfl rfl)
theorem dX3_pair_83 : decode cX3_pair 83 = .ok (.goto (-27), 3) := dk_167 255 229 (dk_at dksX3_pair_3 12 rfl rfl)
theorem dX3_pair_86 : decode cX3_pair 86 = .ok (.iload 4, 2) := dk_21 4 (dk_at dksX3_pair_3 15 rfl rfl)
theorem dX3_pair_88 : decode cX3_pair 88 = .ok (.ireturn, 1) := dk_172 (dk_at dksX3_pair_3 17 rfl rfl)
abbrev cX3_carried : ByteArray := prog_10_method_48_code
def yX3_carried : MethodName := ⟨RX3, "carried", "(III)I"⟩
def dkwX3_carried_7 : List UInt8 := [21, 4, 184, 1, 24, 172]
abbrev dktX3_carried_7 : List UInt8 := dkwX3_carried_7 ++ []
def dkwX3_carried_6 : List UInt8 := [54, 4, 132, 5, 1, 167, 255, 183, 21, 4, 155, 0, 8, 29, 4, 160, 0, 8, 21, 4, 167, 0, 8]
abbrev dktX3_carried_6 : List UInt8 := dkwX3_carried_6 ++ dktX3_carried_7
def dkwX3_carried_5 : List UInt8 := [21, 6, 153, 0, 19, 42, 27, 21, 5, 28, 182, 1, 27, 153, 0, 8, 21, 5, 167, 0, 5, 21, 4]
abbrev dktX3_carried_5 : List UInt8 := dkwX3_carried_5 ++ dktX3_carried_6
def dkwX3_carried_4 : List UInt8 := [155, 0, 16, 21, 5, 184, 1, 24, 21, 4, 184, 1, 24, 162, 0, 7, 4, 167, 0, 4, 3, 54, 6]
abbrev dktX3_carried_4 : List UInt8 := dkwX3_carried_4 ++ dktX3_carried_5
def dkwX3_carried_3 : List UInt8 := [21, 5, 4, 42, 180, 0, 106, 120, 162, 0, 68, 21, 5, 27, 184, 0, 225, 154, 0, 25, 21, 4]
abbrev dktX3_carried_3 : List UInt8 := dkwX3_carried_3 ++ dktX3_carried_4
def dkwX3_carried_2 : List UInt8 := [180, 0, 68, 21, 4, 42, 21, 4, 182, 0, 235, 79, 132, 4, 1, 167, 255, 231, 2, 54, 4, 3, 54, 5]
abbrev dktX3_carried_2 : List UInt8 := dkwX3_carried_2 ++ dktX3_carried_3
def dkwX3_carried_1 : List UInt8 := [184, 0, 99, 154, 0, 6, 18, 111, 172, 3, 54, 4, 21, 4, 42, 180, 0, 106, 162, 0, 22, 42]
abbrev dktX3_carried_1 : List UInt8 := dkwX3_carried_1 ++ dktX3_carried_2
def dkwX3_carried_0 : List UInt8 := [42, 27, 182, 0, 232, 153, 0, 11, 42, 28, 182, 1, 12, 154, 0, 6, 18, 221, 172, 29, 133, 9, 10]
abbrev dktX3_carried_0 : List UInt8 := dkwX3_carried_0 ++ dktX3_carried_1
theorem dksX3_carried_0 : cX3_carried.data.toList.drop 0 = dktX3_carried_0 := by decide +kernel
theorem dksX3_carried_1 : cX3_carried.data.toList.drop 23 = dktX3_carried_1 := dk_seg dksX3_carried_0 23 rfl rfl
theorem dksX3_carried_2 : cX3_carried.data.toList.drop 45 = dktX3_carried_2 := dk_seg dksX3_carried_1 22 rfl rfl
theorem dksX3_carried_3 : cX3_carried.data.toList.drop 69 = dktX3_carried_3 := dk_seg dksX3_carried_2 24 rfl rfl
theorem dksX3_carried_4 : cX3_carried.data.toList.drop 91 = dktX3_carried_4 := dk_seg dksX3_carried_3 22 rfl rfl
theorem dksX3_carried_5 : cX3_carried.data.toList.drop 114 = dktX3_carried_5 := dk_seg dksX3_carried_4 23 rfl rfl
theorem dksX3_carried_6 : cX3_carried.data.toList.drop 137 = dktX3_carried_6 := dk_seg dksX3_carried_5 23 rfl rfl
theorem dksX3_carried_7 : cX3_carried.data.toList.drop 160 = dktX3_carried_7 := dk_seg dksX3_carried_6 23 rfl rfl
theorem dX3_carried_0 : decode cX3_carried 0 = .ok (.aload_n 0, 1) := dk_42 (dk_at dksX3_carried_0 0 rfl rfl)
theorem dX3_carried_1 : decode cX3_carried 1 = .ok (.iload_n 1, 1) := dk_27 (dk_at dksX3_carried_0 1 rfl rfl)
theorem dX3_carried_2 : decode cX3_carried 2 = .ok (.invokevirtual 232, 3) := dk_182 0 232 (dk_at dksX3_carried_0 2 rfl rfl)
theorem dX3_carried_5 : decode cX3_carried 5 = .ok (.ifCond .eq 11, 3) := dk_153 0 11 (dk_at dksX3_carried_0 5 rfl rfl)
theorem dX3_carried_8 : decode cX3_carried 8 = .ok (.aload_n 0, 1) := dk_42 (dk_at dksX3_carried_0 8 rfl rfl)
theorem dX3_carried_9 : decode cX3_carried 9 = .ok (.iload_n 2, 1) := dk_28 (dk_at dksX3_carried_0 9 rfl rfl)
theorem dX3_carried_10 : decode cX3_carried 10 = .ok (.invokevirtual 268, 3) := dk_182 1 12 (dk_at dksX3_carried_0 10 rfl rfl)
theorem dX3_carried_13 : decode cX3_carried 13 = .ok (.ifCond .ne 6, 3) := dk_154 0 6 (dk_at dksX3_carried_0 13 rfl rfl)
theorem dX3_carried_16 : decode cX3_carried 16 = .ok (.ldc 221, 2) := dk_18 221 (dk_at dksX3_carried_0 16 rfl rfl)
theorem dX3_carried_18 : decode cX3_carried 18 = .ok (.ireturn, 1) := dk_172 (dk_at dksX3_carried_0 18 rfl rfl)
theorem dX3_carried_19 : decode cX3_carried 19 = .ok (.iload_n 3, 1) := dk_29 (dk_at dksX3_carried_0 19 rfl rfl)
theorem dX3_carried_20 : decode cX3_carried 20 = .ok (.i2l, 1) := dk_133 (dk_at dksX3_carried_0 20 rfl rfl)
theorem dX3_carried_21 : decode cX3_carried 21 = .ok (.lconst 0, 1) := dk_9 (dk_at dksX3_carried_0 21 rfl rfl)
theorem dX3_carried_22 : decode cX3_carried 22 = .ok (.lconst 1, 1) := dk_10 (dk_at dksX3_carried_0 22 rfl rfl)
theorem dX3_carried_23 : decode cX3_carried 23 = .ok (.invokestatic 99, 3) := dk_184 0 99 (dk_at dksX3_carried_1 0 rfl rfl)
theorem dX3_carried_26 : decode cX3_carried 26 = .ok (.ifCond .ne 6, 3) := dk_154 0 6 (dk_at dksX3_carried_1 3 rfl rfl)
theorem dX3_carried_29 : decode cX3_carried 29 = .ok (.ldc 111, 2) := dk_18 111 (dk_at dksX3_carried_1 6 rfl rfl)
theorem dX3_carried_31 : decode cX3_carried 31 = .ok (.ireturn, 1) := dk_172 (dk_at dksX3_carried_1 8 rfl rfl)
theorem dX3_carried_32 : decode cX3_carried 32 = .ok (.iconst 0, 1) := dk_3 (dk_at dksX3_carried_1 9 rfl rfl)
theorem dX3_carried_33 : decode cX3_carried 33 = .ok (.istore 4, 2) := dk_54 4 (dk_at dksX3_carried_1 10 rfl rfl)
theorem dX3_carried_35 : decode cX3_carried 35 = .ok (.iload 4, 2) := dk_21 4 (dk_at dksX3_carried_1 12 rfl rfl)
theorem dX3_carried_37 : decode cX3_carried 37 = .ok (.aload_n 0, 1) := dk_42 (dk_at dksX3_carried_1 14 rfl rfl)
theorem dX3_carried_38 : decode cX3_carried 38 = .ok (.getfield 106, 3) := dk_180 0 106 (dk_at dksX3_carried_1 15 rfl rfl)
theorem dX3_carried_41 : decode cX3_carried 41 = .ok (.if_icmp .ge 22, 3) := dk_162 0 22 (dk_at dksX3_carried_1 18 rfl rfl)
theorem dX3_carried_44 : decode cX3_carried 44 = .ok (.aload_n 0, 1) := dk_42 (dk_at dksX3_carried_1 21 rfl rfl)
theorem dX3_carried_45 : decode cX3_carried 45 = .ok (.getfield 68, 3) := dk_180 0 68 (dk_at dksX3_carried_2 0 rfl rfl)
theorem dX3_carried_48 : decode cX3_carried 48 = .ok (.iload 4, 2) := dk_21 4 (dk_at dksX3_carried_2 3 rfl rfl)
theorem dX3_carried_50 : decode cX3_carried 50 = .ok (.aload_n 0, 1) := dk_42 (dk_at dksX3_carried_2 5 rfl rfl)
theorem dX3_carried_51 : decode cX3_carried 51 = .ok (.iload 4, 2) := dk_21 4 (dk_at dksX3_carried_2 6 rfl rfl)
theorem dX3_carried_53 : decode cX3_carried 53 = .ok (.invokevirtual 235, 3) := dk_182 0 235 (dk_at dksX3_carried_2 8 rfl rfl)
theorem dX3_carried_56 : decode cX3_carried 56 = .ok (.iastore, 1) := dk_79 (dk_at dksX3_carried_2 11 rfl rfl)
theorem dX3_carried_57 : decode cX3_carried 57 = .ok (.iinc 4 1, 3) := dk_132 4 1 (dk_at dksX3_carried_2 12 rfl rfl)
theorem dX3_carried_60 : decode cX3_carried 60 = .ok (.goto (-25), 3) := dk_167 255 231 (dk_at dksX3_carried_2 15 rfl rfl)
theorem dX3_carried_63 : decode cX3_carried 63 = .ok (.iconst (-1), 1) := dk_2 (dk_at dksX3_carried_2 18 rfl rfl)
theorem dX3_carried_64 : decode cX3_carried 64 = .ok (.istore 4, 2) := dk_54 4 (dk_at dksX3_carried_2 19 rfl rfl)
theorem dX3_carried_66 : decode cX3_carried 66 = .ok (.iconst 0, 1) := dk_3 (dk_at dksX3_carried_2 21 rfl rfl)
theorem dX3_carried_67 : decode cX3_carried 67 = .ok (.istore 5, 2) := dk_54 5 (dk_at dksX3_carried_2 22 rfl rfl)
theorem dX3_carried_69 : decode cX3_carried 69 = .ok (.iload 5, 2) := dk_21 5 (dk_at dksX3_carried_3 0 rfl rfl)
theorem dX3_carried_71 : decode cX3_carried 71 = .ok (.iconst 1, 1) := dk_4 (dk_at dksX3_carried_3 2 rfl rfl)
theorem dX3_carried_72 : decode cX3_carried 72 = .ok (.aload_n 0, 1) := dk_42 (dk_at dksX3_carried_3 3 rfl rfl)
theorem dX3_carried_73 : decode cX3_carried 73 = .ok (.getfield 106, 3) := dk_180 0 106 (dk_at dksX3_carried_3 4 rfl rfl)
theorem dX3_carried_76 : decode cX3_carried 76 = .ok (.ishl, 1) := dk_120 (dk_at dksX3_carried_3 7 rfl rfl)
theorem dX3_carried_77 : decode cX3_carried 77 = .ok (.if_icmp .ge 68, 3) := dk_162 0 68 (dk_at dksX3_carried_3 8 rfl rfl)
theorem dX3_carried_80 : decode cX3_carried 80 = .ok (.iload 5, 2) := dk_21 5 (dk_at dksX3_carried_3 11 rfl rfl)
theorem dX3_carried_82 : decode cX3_carried 82 = .ok (.iload_n 1, 1) := dk_27 (dk_at dksX3_carried_3 13 rfl rfl)
theorem dX3_carried_83 : decode cX3_carried 83 = .ok (.invokestatic 225, 3) := dk_184 0 225 (dk_at dksX3_carried_3 14 rfl rfl)
theorem dX3_carried_86 : decode cX3_carried 86 = .ok (.ifCond .ne 25, 3) := dk_154 0 25 (dk_at dksX3_carried_3 17 rfl rfl)
theorem dX3_carried_89 : decode cX3_carried 89 = .ok (.iload 4, 2) := dk_21 4 (dk_at dksX3_carried_3 20 rfl rfl)
theorem dX3_carried_91 : decode cX3_carried 91 = .ok (.ifCond .lt 16, 3) := dk_155 0 16 (dk_at dksX3_carried_4 0 rfl rfl)
theorem dX3_carried_94 : decode cX3_carried 94 = .ok (.iload 5, 2) := dk_21 5 (dk_at dksX3_carried_4 3 rfl rfl)
theorem dX3_carried_96 : decode cX3_carried 96 = .ok (.invokestatic 280, 3) := dk_184 1 24 (dk_at dksX3_carried_4 5 rfl rfl)
theorem dX3_carried_99 : decode cX3_carried 99 = .ok (.iload 4, 2) := dk_21 4 (dk_at dksX3_carried_4 8 rfl rfl)
theorem dX3_carried_101 : decode cX3_carried 101 = .ok (.invokestatic 280, 3) := dk_184 1 24 (dk_at dksX3_carried_4 10 rfl rfl)
theorem dX3_carried_104 : decode cX3_carried 104 = .ok (.if_icmp .ge 7, 3) := dk_162 0 7 (dk_at dksX3_carried_4 13 rfl rfl)
theorem dX3_carried_107 : decode cX3_carried 107 = .ok (.iconst 1, 1) := dk_4 (dk_at dksX3_carried_4 16 rfl rfl)
theorem dX3_carried_108 : decode cX3_carried 108 = .ok (.goto 4, 3) := dk_167 0 4 (dk_at dksX3_carried_4 17 rfl rfl)
theorem dX3_carried_111 : decode cX3_carried 111 = .ok (.iconst 0, 1) := dk_3 (dk_at dksX3_carried_4 20 rfl rfl)
theorem dX3_carried_112 : decode cX3_carried 112 = .ok (.istore 6, 2) := dk_54 6 (dk_at dksX3_carried_4 21 rfl rfl)
theorem dX3_carried_114 : decode cX3_carried 114 = .ok (.iload 6, 2) := dk_21 6 (dk_at dksX3_carried_5 0 rfl rfl)
theorem dX3_carried_116 : decode cX3_carried 116 = .ok (.ifCond .eq 19, 3) := dk_153 0 19 (dk_at dksX3_carried_5 2 rfl rfl)
theorem dX3_carried_119 : decode cX3_carried 119 = .ok (.aload_n 0, 1) := dk_42 (dk_at dksX3_carried_5 5 rfl rfl)
theorem dX3_carried_120 : decode cX3_carried 120 = .ok (.iload_n 1, 1) := dk_27 (dk_at dksX3_carried_5 6 rfl rfl)
theorem dX3_carried_121 : decode cX3_carried 121 = .ok (.iload 5, 2) := dk_21 5 (dk_at dksX3_carried_5 7 rfl rfl)
theorem dX3_carried_123 : decode cX3_carried 123 = .ok (.iload_n 2, 1) := dk_28 (dk_at dksX3_carried_5 9 rfl rfl)
theorem dX3_carried_124 : decode cX3_carried 124 = .ok (.invokevirtual 283, 3) := dk_182 1 27 (dk_at dksX3_carried_5 10 rfl rfl)
theorem dX3_carried_127 : decode cX3_carried 127 = .ok (.ifCond .eq 8, 3) := dk_153 0 8 (dk_at dksX3_carried_5 13 rfl rfl)
theorem dX3_carried_130 : decode cX3_carried 130 = .ok (.iload 5, 2) := dk_21 5 (dk_at dksX3_carried_5 16 rfl rfl)
theorem dX3_carried_132 : decode cX3_carried 132 = .ok (.goto 5, 3) := dk_167 0 5 (dk_at dksX3_carried_5 18 rfl rfl)
theorem dX3_carried_135 : decode cX3_carried 135 = .ok (.iload 4, 2) := dk_21 4 (dk_at dksX3_carried_5 21 rfl rfl)
theorem dX3_carried_137 : decode cX3_carried 137 = .ok (.istore 4, 2) := dk_54 4 (dk_at dksX3_carried_6 0 rfl rfl)
theorem dX3_carried_139 : decode cX3_carried 139 = .ok (.iinc 5 1, 3) := dk_132 5 1 (dk_at dksX3_carried_6 2 rfl rfl)
theorem dX3_carried_142 : decode cX3_carried 142 = .ok (.goto (-73), 3) := dk_167 255 183 (dk_at dksX3_carried_6 5 rfl rfl)
theorem dX3_carried_145 : decode cX3_carried 145 = .ok (.iload 4, 2) := dk_21 4 (dk_at dksX3_carried_6 8 rfl rfl)
theorem dX3_carried_147 : decode cX3_carried 147 = .ok (.ifCond .lt 8, 3) := dk_155 0 8 (dk_at dksX3_carried_6 10 rfl rfl)
theorem dX3_carried_150 : decode cX3_carried 150 = .ok (.iload_n 3, 1) := dk_29 (dk_at dksX3_carried_6 13 rfl rfl)
theorem dX3_carried_151 : decode cX3_carried 151 = .ok (.iconst 1, 1) := dk_4 (dk_at dksX3_carried_6 14 rfl rfl)
theorem dX3_carried_152 : decode cX3_carried 152 = .ok (.if_icmp .ne 8, 3) := dk_160 0 8 (dk_at dksX3_carried_6 15 rfl rfl)
theorem dX3_carried_155 : decode cX3_carried 155 = .ok (.iload 4, 2) := dk_21 4 (dk_at dksX3_carried_6 18 rfl rfl)
theorem dX3_carried_157 : decode cX3_carried 157 = .ok (.goto 8, 3) := dk_167 0 8 (dk_at dksX3_carried_6 20 rfl rfl)
theorem dX3_carried_160 : decode cX3_carried 160 = .ok (.iload 4, 2) := dk_21 4 (dk_at dksX3_carried_7 0 rfl rfl)
theorem dX3_carried_162 : decode cX3_carried 162 = .ok (.invokestatic 280, 3) := dk_184 1 24 (dk_at dksX3_carried_7 2 rfl rfl)
theorem dX3_carried_165 : decode cX3_carried 165 = .ok (.ireturn, 1) := dk_172 (dk_at dksX3_carried_7 5 rfl rfl)
abbrev cX3_bits : ByteArray := prog_10_method_5_code
def yX3_bits : MethodName := ⟨RX3, "bits", "(I)I"⟩
def dkwX3_bits_1 : List UInt8 := [27, 172]
abbrev dktX3_bits_1 : List UInt8 := dkwX3_bits_1 ++ []
def dkwX3_bits_0 : List UInt8 := [3, 60, 3, 61, 28, 16, 24, 162, 0, 17, 27, 26, 28, 122, 4, 126, 96, 60, 132, 2, 1, 167, 255, 239]
abbrev dktX3_bits_0 : List UInt8 := dkwX3_bits_0 ++ dktX3_bits_1
theorem dksX3_bits_0 : cX3_bits.data.toList.drop 0 = dktX3_bits_0 := by decide +kernel
theorem dksX3_bits_1 : cX3_bits.data.toList.drop 24 = dktX3_bits_1 := dk_seg dksX3_bits_0 24 rfl rfl
theorem dX3_bits_0 : decode cX3_bits 0 = .ok (.iconst 0, 1) := dk_3 (dk_at dksX3_bits_0 0 rfl rfl)
theorem dX3_bits_1 : decode cX3_bits 1 = .ok (.istore_n 1, 1) := dk_60 (dk_at dksX3_bits_0 1 rfl rfl)
theorem dX3_bits_2 : decode cX3_bits 2 = .ok (.iconst 0, 1) := dk_3 (dk_at dksX3_bits_0 2 rfl rfl)
theorem dX3_bits_3 : decode cX3_bits 3 = .ok (.istore_n 2, 1) := dk_61 (dk_at dksX3_bits_0 3 rfl rfl)
theorem dX3_bits_4 : decode cX3_bits 4 = .ok (.iload_n 2, 1) := dk_28 (dk_at dksX3_bits_0 4 rfl rfl)
theorem dX3_bits_5 : decode cX3_bits 5 = .ok (.bipush 24, 2) := dk_16 24 (dk_at dksX3_bits_0 5 rfl rfl)
theorem dX3_bits_7 : decode cX3_bits 7 = .ok (.if_icmp .ge 17, 3) := dk_162 0 17 (dk_at dksX3_bits_0 7 rfl rfl)
theorem dX3_bits_10 : decode cX3_bits 10 = .ok (.iload_n 1, 1) := dk_27 (dk_at dksX3_bits_0 10 rfl rfl)
theorem dX3_bits_11 : decode cX3_bits 11 = .ok (.iload_n 0, 1) := dk_26 (dk_at dksX3_bits_0 11 rfl rfl)
theorem dX3_bits_12 : decode cX3_bits 12 = .ok (.iload_n 2, 1) := dk_28 (dk_at dksX3_bits_0 12 rfl rfl)
theorem dX3_bits_13 : decode cX3_bits 13 = .ok (.ishr, 1) := dk_122 (dk_at dksX3_bits_0 13 rfl rfl)
theorem dX3_bits_14 : decode cX3_bits 14 = .ok (.iconst 1, 1) := dk_4 (dk_at dksX3_bits_0 14 rfl rfl)
theorem dX3_bits_15 : decode cX3_bits 15 = .ok (.iand, 1) := dk_126 (dk_at dksX3_bits_0 15 rfl rfl)
theorem dX3_bits_16 : decode cX3_bits 16 = .ok (.iadd, 1) := dk_96 (dk_at dksX3_bits_0 16 rfl rfl)
theorem dX3_bits_17 : decode cX3_bits 17 = .ok (.istore_n 1, 1) := dk_60 (dk_at dksX3_bits_0 17 rfl rfl)
theorem dX3_bits_18 : decode cX3_bits 18 = .ok (.iinc 2 1, 3) := dk_132 2 1 (dk_at dksX3_bits_0 18 rfl rfl)
theorem dX3_bits_21 : decode cX3_bits 21 = .ok (.goto (-17), 3) := dk_167 255 239 (dk_at dksX3_bits_0 21 rfl rfl)
theorem dX3_bits_24 : decode cX3_bits 24 = .ok (.iload_n 1, 1) := dk_27 (dk_at dksX3_bits_1 0 rfl rfl)
theorem dX3_bits_25 : decode cX3_bits 25 = .ok (.ireturn, 1) := dk_172 (dk_at dksX3_bits_1 1 rfl rfl)
abbrev cX3_comesBy : ByteArray := prog_10_method_47_code
def yX3_comesBy : MethodName := ⟨RX3, "comesBy", "(III)Z"⟩
def dkwX3_comesBy_6 : List UInt8 := [167, 255, 142, 167, 255, 125, 21, 4, 29, 184, 0, 225, 172]
abbrev dktX3_comesBy_6 : List UInt8 := dkwX3_comesBy_6 ++ []
def dkwX3_comesBy_5 : List UInt8 := [153, 0, 15, 4, 42, 180, 0, 13, 21, 6, 46, 120, 167, 0, 4, 3, 128, 54, 4, 132, 6, 1]
abbrev dktX3_comesBy_5 : List UInt8 := dkwX3_comesBy_5 ++ dktX3_comesBy_6
def dkwX3_comesBy_4 : List UInt8 := [21, 6, 46, 184, 0, 225, 153, 0, 33, 42, 27, 28, 21, 6, 42, 180, 0, 16, 21, 6, 46, 182, 1, 20]
abbrev dktX3_comesBy_4 : List UInt8 := dkwX3_comesBy_4 ++ dktX3_comesBy_5
def dkwX3_comesBy_3 : List UInt8 := [4, 42, 180, 0, 16, 21, 6, 46, 120, 167, 0, 4, 3, 128, 54, 4, 21, 4, 21, 4, 42, 180, 0, 16]
abbrev dktX3_comesBy_3 : List UInt8 := dkwX3_comesBy_3 ++ dktX3_comesBy_4
def dkwX3_comesBy_2 : List UInt8 := [184, 0, 225, 153, 0, 33, 42, 27, 28, 21, 6, 42, 180, 0, 13, 21, 6, 46, 182, 1, 20, 153, 0, 15]
abbrev dktX3_comesBy_2 : List UInt8 := dkwX3_comesBy_2 ++ dktX3_comesBy_3
def dkwX3_comesBy_1 : List UInt8 := [3, 54, 6, 21, 6, 42, 180, 0, 103, 162, 0, 111, 21, 4, 21, 4, 42, 180, 0, 13, 21, 6, 46]
abbrev dktX3_comesBy_1 : List UInt8 := dkwX3_comesBy_1 ++ dktX3_comesBy_2
def dkwX3_comesBy_0 : List UInt8 := [4, 42, 180, 0, 28, 27, 46, 120, 54, 4, 3, 54, 5, 21, 5, 21, 4, 159, 0, 130, 21, 4, 54, 5]
abbrev dktX3_comesBy_0 : List UInt8 := dkwX3_comesBy_0 ++ dktX3_comesBy_1
theorem dksX3_comesBy_0 : cX3_comesBy.data.toList.drop 0 = dktX3_comesBy_0 := by decide +kernel
theorem dksX3_comesBy_1 : cX3_comesBy.data.toList.drop 24 = dktX3_comesBy_1 := dk_seg dksX3_comesBy_0 24 rfl rfl
theorem dksX3_comesBy_2 : cX3_comesBy.data.toList.drop 47 = dktX3_comesBy_2 := dk_seg dksX3_comesBy_1 23 rfl rfl
theorem dksX3_comesBy_3 : cX3_comesBy.data.toList.drop 71 = dktX3_comesBy_3 := dk_seg dksX3_comesBy_2 24 rfl rfl
theorem dksX3_comesBy_4 : cX3_comesBy.data.toList.drop 95 = dktX3_comesBy_4 := dk_seg dksX3_comesBy_3 24 rfl rfl
theorem dksX3_comesBy_5 : cX3_comesBy.data.toList.drop 119 = dktX3_comesBy_5 := dk_seg dksX3_comesBy_4 24 rfl rfl
theorem dksX3_comesBy_6 : cX3_comesBy.data.toList.drop 141 = dktX3_comesBy_6 := dk_seg dksX3_comesBy_5 22 rfl rfl
theorem dX3_comesBy_0 : decode cX3_comesBy 0 = .ok (.iconst 1, 1) := dk_4 (dk_at dksX3_comesBy_0 0 rfl rfl)
theorem dX3_comesBy_1 : decode cX3_comesBy 1 = .ok (.aload_n 0, 1) := dk_42 (dk_at dksX3_comesBy_0 1 rfl rfl)
theorem dX3_comesBy_2 : decode cX3_comesBy 2 = .ok (.getfield 28, 3) := dk_180 0 28 (dk_at dksX3_comesBy_0 2 rfl rfl)
theorem dX3_comesBy_5 : decode cX3_comesBy 5 = .ok (.iload_n 1, 1) := dk_27 (dk_at dksX3_comesBy_0 5 rfl rfl)
theorem dX3_comesBy_6 : decode cX3_comesBy 6 = .ok (.iaload, 1) := dk_46 (dk_at dksX3_comesBy_0 6 rfl rfl)
theorem dX3_comesBy_7 : decode cX3_comesBy 7 = .ok (.ishl, 1) := dk_120 (dk_at dksX3_comesBy_0 7 rfl rfl)
theorem dX3_comesBy_8 : decode cX3_comesBy 8 = .ok (.istore 4, 2) := dk_54 4 (dk_at dksX3_comesBy_0 8 rfl rfl)
theorem dX3_comesBy_10 : decode cX3_comesBy 10 = .ok (.iconst 0, 1) := dk_3 (dk_at dksX3_comesBy_0 10 rfl rfl)
theorem dX3_comesBy_11 : decode cX3_comesBy 11 = .ok (.istore 5, 2) := dk_54 5 (dk_at dksX3_comesBy_0 11 rfl rfl)
theorem dX3_comesBy_13 : decode cX3_comesBy 13 = .ok (.iload 5, 2) := dk_21 5 (dk_at dksX3_comesBy_0 13 rfl rfl)
theorem dX3_comesBy_15 : decode cX3_comesBy 15 = .ok (.iload 4, 2) := dk_21 4 (dk_at dksX3_comesBy_0 15 rfl rfl)
theorem dX3_comesBy_17 : decode cX3_comesBy 17 = .ok (.if_icmp .eq 130, 3) := dk_159 0 130 (dk_at dksX3_comesBy_0 17 rfl rfl)
theorem dX3_comesBy_20 : decode cX3_comesBy 20 = .ok (.iload 4, 2) := dk_21 4 (dk_at dksX3_comesBy_0 20 rfl rfl)
theorem dX3_comesBy_22 : decode cX3_comesBy 22 = .ok (.istore 5, 2) := dk_54 5 (dk_at dksX3_comesBy_0 22 rfl rfl)
theorem dX3_comesBy_24 : decode cX3_comesBy 24 = .ok (.iconst 0, 1) := dk_3 (dk_at dksX3_comesBy_1 0 rfl rfl)
theorem dX3_comesBy_25 : decode cX3_comesBy 25 = .ok (.istore 6, 2) := dk_54 6 (dk_at dksX3_comesBy_1 1 rfl rfl)
theorem dX3_comesBy_27 : decode cX3_comesBy 27 = .ok (.iload 6, 2) := dk_21 6 (dk_at dksX3_comesBy_1 3 rfl rfl)
theorem dX3_comesBy_29 : decode cX3_comesBy 29 = .ok (.aload_n 0, 1) := dk_42 (dk_at dksX3_comesBy_1 5 rfl rfl)
theorem dX3_comesBy_30 : decode cX3_comesBy 30 = .ok (.getfield 103, 3) := dk_180 0 103 (dk_at dksX3_comesBy_1 6 rfl rfl)
theorem dX3_comesBy_33 : decode cX3_comesBy 33 = .ok (.if_icmp .ge 111, 3) := dk_162 0 111 (dk_at dksX3_comesBy_1 9 rfl rfl)
theorem dX3_comesBy_36 : decode cX3_comesBy 36 = .ok (.iload 4, 2) := dk_21 4 (dk_at dksX3_comesBy_1 12 rfl rfl)
theorem dX3_comesBy_38 : decode cX3_comesBy 38 = .ok (.iload 4, 2) := dk_21 4 (dk_at dksX3_comesBy_1 14 rfl rfl)
theorem dX3_comesBy_40 : decode cX3_comesBy 40 = .ok (.aload_n 0, 1) := dk_42 (dk_at dksX3_comesBy_1 16 rfl rfl)
theorem dX3_comesBy_41 : decode cX3_comesBy 41 = .ok (.getfield 13, 3) := dk_180 0 13 (dk_at dksX3_comesBy_1 17 rfl rfl)
theorem dX3_comesBy_44 : decode cX3_comesBy 44 = .ok (.iload 6, 2) := dk_21 6 (dk_at dksX3_comesBy_1 20 rfl rfl)
theorem dX3_comesBy_46 : decode cX3_comesBy 46 = .ok (.iaload, 1) := dk_46 (dk_at dksX3_comesBy_1 22 rfl rfl)
theorem dX3_comesBy_47 : decode cX3_comesBy 47 = .ok (.invokestatic 225, 3) := dk_184 0 225 (dk_at dksX3_comesBy_2 0 rfl rfl)
theorem dX3_comesBy_50 : decode cX3_comesBy 50 = .ok (.ifCond .eq 33, 3) := dk_153 0 33 (dk_at dksX3_comesBy_2 3 rfl rfl)
theorem dX3_comesBy_53 : decode cX3_comesBy 53 = .ok (.aload_n 0, 1) := dk_42 (dk_at dksX3_comesBy_2 6 rfl rfl)
theorem dX3_comesBy_54 : decode cX3_comesBy 54 = .ok (.iload_n 1, 1) := dk_27 (dk_at dksX3_comesBy_2 7 rfl rfl)
theorem dX3_comesBy_55 : decode cX3_comesBy 55 = .ok (.iload_n 2, 1) := dk_28 (dk_at dksX3_comesBy_2 8 rfl rfl)
theorem dX3_comesBy_56 : decode cX3_comesBy 56 = .ok (.iload 6, 2) := dk_21 6 (dk_at dksX3_comesBy_2 9 rfl rfl)
theorem dX3_comesBy_58 : decode cX3_comesBy 58 = .ok (.aload_n 0, 1) := dk_42 (dk_at dksX3_comesBy_2 11 rfl rfl)
theorem dX3_comesBy_59 : decode cX3_comesBy 59 = .ok (.getfield 13, 3) := dk_180 0 13 (dk_at dksX3_comesBy_2 12 rfl rfl)
theorem dX3_comesBy_62 : decode cX3_comesBy 62 = .ok (.iload 6, 2) := dk_21 6 (dk_at dksX3_comesBy_2 15 rfl rfl)
theorem dX3_comesBy_64 : decode cX3_comesBy 64 = .ok (.iaload, 1) := dk_46 (dk_at dksX3_comesBy_2 17 rfl rfl)
theorem dX3_comesBy_65 : decode cX3_comesBy 65 = .ok (.invokevirtual 276, 3) := dk_182 1 20 (dk_at dksX3_comesBy_2 18 rfl rfl)
theorem dX3_comesBy_68 : decode cX3_comesBy 68 = .ok (.ifCond .eq 15, 3) := dk_153 0 15 (dk_at dksX3_comesBy_2 21 rfl rfl)
theorem dX3_comesBy_71 : decode cX3_comesBy 71 = .ok (.iconst 1, 1) := dk_4 (dk_at dksX3_comesBy_3 0 rfl rfl)
theorem dX3_comesBy_72 : decode cX3_comesBy 72 = .ok (.aload_n 0, 1) := dk_42 (dk_at dksX3_comesBy_3 1 rfl rfl)
theorem dX3_comesBy_73 : decode cX3_comesBy 73 = .ok (.getfield 16, 3) := dk_180 0 16 (dk_at dksX3_comesBy_3 2 rfl rfl)
theorem dX3_comesBy_76 : decode cX3_comesBy 76 = .ok (.iload 6, 2) := dk_21 6 (dk_at dksX3_comesBy_3 5 rfl rfl)
theorem dX3_comesBy_78 : decode cX3_comesBy 78 = .ok (.iaload, 1) := dk_46 (dk_at dksX3_comesBy_3 7 rfl rfl)
theorem dX3_comesBy_79 : decode cX3_comesBy 79 = .ok (.ishl, 1) := dk_120 (dk_at dksX3_comesBy_3 8 rfl rfl)
theorem dX3_comesBy_80 : decode cX3_comesBy 80 = .ok (.goto 4, 3) := dk_167 0 4 (dk_at dksX3_comesBy_3 9 rfl rfl)
theorem dX3_comesBy_83 : decode cX3_comesBy 83 = .ok (.iconst 0, 1) := dk_3 (dk_at dksX3_comesBy_3 12 rfl rfl)
theorem dX3_comesBy_84 : decode cX3_comesBy 84 = .ok (.ior, 1) := dk_128 (dk_at dksX3_comesBy_3 13 rfl rfl)
theorem dX3_comesBy_85 : decode cX3_comesBy 85 = .ok (.istore 4, 2) := dk_54 4 (dk_at dksX3_comesBy_3 14 rfl rfl)
theorem dX3_comesBy_87 : decode cX3_comesBy 87 = .ok (.iload 4, 2) := dk_21 4 (dk_at dksX3_comesBy_3 16 rfl rfl)
theorem dX3_comesBy_89 : decode cX3_comesBy 89 = .ok (.iload 4, 2) := dk_21 4 (dk_at dksX3_comesBy_3 18 rfl rfl)
theorem dX3_comesBy_91 : decode cX3_comesBy 91 = .ok (.aload_n 0, 1) := dk_42 (dk_at dksX3_comesBy_3 20 rfl rfl)
theorem dX3_comesBy_92 : decode cX3_comesBy 92 = .ok (.getfield 16, 3) := dk_180 0 16 (dk_at dksX3_comesBy_3 21 rfl rfl)
theorem dX3_comesBy_95 : decode cX3_comesBy 95 = .ok (.iload 6, 2) := dk_21 6 (dk_at dksX3_comesBy_4 0 rfl rfl)
theorem dX3_comesBy_97 : decode cX3_comesBy 97 = .ok (.iaload, 1) := dk_46 (dk_at dksX3_comesBy_4 2 rfl rfl)
theorem dX3_comesBy_98 : decode cX3_comesBy 98 = .ok (.invokestatic 225, 3) := dk_184 0 225 (dk_at dksX3_comesBy_4 3 rfl rfl)
theorem dX3_comesBy_101 : decode cX3_comesBy 101 = .ok (.ifCond .eq 33, 3) := dk_153 0 33 (dk_at dksX3_comesBy_4 6 rfl rfl)
theorem dX3_comesBy_104 : decode cX3_comesBy 104 = .ok (.aload_n 0, 1) := dk_42 (dk_at dksX3_comesBy_4 9 rfl rfl)
theorem dX3_comesBy_105 : decode cX3_comesBy 105 = .ok (.iload_n 1, 1) := dk_27 (dk_at dksX3_comesBy_4 10 rfl rfl)
theorem dX3_comesBy_106 : decode cX3_comesBy 106 = .ok (.iload_n 2, 1) := dk_28 (dk_at dksX3_comesBy_4 11 rfl rfl)
theorem dX3_comesBy_107 : decode cX3_comesBy 107 = .ok (.iload 6, 2) := dk_21 6 (dk_at dksX3_comesBy_4 12 rfl rfl)
theorem dX3_comesBy_109 : decode cX3_comesBy 109 = .ok (.aload_n 0, 1) := dk_42 (dk_at dksX3_comesBy_4 14 rfl rfl)
theorem dX3_comesBy_110 : decode cX3_comesBy 110 = .ok (.getfield 16, 3) := dk_180 0 16 (dk_at dksX3_comesBy_4 15 rfl rfl)
theorem dX3_comesBy_113 : decode cX3_comesBy 113 = .ok (.iload 6, 2) := dk_21 6 (dk_at dksX3_comesBy_4 18 rfl rfl)
theorem dX3_comesBy_115 : decode cX3_comesBy 115 = .ok (.iaload, 1) := dk_46 (dk_at dksX3_comesBy_4 20 rfl rfl)
theorem dX3_comesBy_116 : decode cX3_comesBy 116 = .ok (.invokevirtual 276, 3) := dk_182 1 20 (dk_at dksX3_comesBy_4 21 rfl rfl)
theorem dX3_comesBy_119 : decode cX3_comesBy 119 = .ok (.ifCond .eq 15, 3) := dk_153 0 15 (dk_at dksX3_comesBy_5 0 rfl rfl)
theorem dX3_comesBy_122 : decode cX3_comesBy 122 = .ok (.iconst 1, 1) := dk_4 (dk_at dksX3_comesBy_5 3 rfl rfl)
theorem dX3_comesBy_123 : decode cX3_comesBy 123 = .ok (.aload_n 0, 1) := dk_42 (dk_at dksX3_comesBy_5 4 rfl rfl)
theorem dX3_comesBy_124 : decode cX3_comesBy 124 = .ok (.getfield 13, 3) := dk_180 0 13 (dk_at dksX3_comesBy_5 5 rfl rfl)
theorem dX3_comesBy_127 : decode cX3_comesBy 127 = .ok (.iload 6, 2) := dk_21 6 (dk_at dksX3_comesBy_5 8 rfl rfl)
theorem dX3_comesBy_129 : decode cX3_comesBy 129 = .ok (.iaload, 1) := dk_46 (dk_at dksX3_comesBy_5 10 rfl rfl)
theorem dX3_comesBy_130 : decode cX3_comesBy 130 = .ok (.ishl, 1) := dk_120 (dk_at dksX3_comesBy_5 11 rfl rfl)
theorem dX3_comesBy_131 : decode cX3_comesBy 131 = .ok (.goto 4, 3) := dk_167 0 4 (dk_at dksX3_comesBy_5 12 rfl rfl)
theorem dX3_comesBy_134 : decode cX3_comesBy 134 = .ok (.iconst 0, 1) := dk_3 (dk_at dksX3_comesBy_5 15 rfl rfl)
theorem dX3_comesBy_135 : decode cX3_comesBy 135 = .ok (.ior, 1) := dk_128 (dk_at dksX3_comesBy_5 16 rfl rfl)
theorem dX3_comesBy_136 : decode cX3_comesBy 136 = .ok (.istore 4, 2) := dk_54 4 (dk_at dksX3_comesBy_5 17 rfl rfl)
theorem dX3_comesBy_138 : decode cX3_comesBy 138 = .ok (.iinc 6 1, 3) := dk_132 6 1 (dk_at dksX3_comesBy_5 19 rfl rfl)
theorem dX3_comesBy_141 : decode cX3_comesBy 141 = .ok (.goto (-114), 3) := dk_167 255 142 (dk_at dksX3_comesBy_6 0 rfl rfl)
theorem dX3_comesBy_144 : decode cX3_comesBy 144 = .ok (.goto (-131), 3) := dk_167 255 125 (dk_at dksX3_comesBy_6 3 rfl rfl)
theorem dX3_comesBy_147 : decode cX3_comesBy 147 = .ok (.iload 4, 2) := dk_21 4 (dk_at dksX3_comesBy_6 6 rfl rfl)
theorem dX3_comesBy_149 : decode cX3_comesBy 149 = .ok (.iload_n 3, 1) := dk_29 (dk_at dksX3_comesBy_6 8 rfl rfl)
theorem dX3_comesBy_150 : decode cX3_comesBy 150 = .ok (.invokestatic 225, 3) := dk_184 0 225 (dk_at dksX3_comesBy_6 9 rfl rfl)
theorem dX3_comesBy_153 : decode cX3_comesBy 153 = .ok (.ireturn, 1) := dk_172 (dk_at dksX3_comesBy_6 12 rfl rfl)
abbrev cX3_isCarried : ByteArray := prog_10_method_46_code
def yX3_isCarried : MethodName := ⟨RX3, "isCarried", "(IIII)Z"⟩
def dkwX3_isCarried_5 : List UInt8 := [54, 6, 132, 7, 1, 167, 255, 185, 21, 6, 172]
abbrev dktX3_isCarried_5 : List UInt8 := dkwX3_isCarried_5 ++ []
def dkwX3_isCarried_4 : List UInt8 := [182, 0, 214, 154, 0, 16, 21, 5, 154, 0, 15, 42, 180, 0, 204, 4, 160, 0, 7, 4, 167, 0, 4, 3]
abbrev dktX3_isCarried_4 : List UInt8 := dkwX3_isCarried_4 ++ dktX3_isCarried_5
def dkwX3_isCarried_3 : List UInt8 := [153, 0, 45, 42, 180, 0, 68, 21, 7, 46, 21, 4, 184, 0, 225, 153, 0, 30, 42, 21, 7, 29]
abbrev dktX3_isCarried_3 : List UInt8 := dkwX3_isCarried_3 ++ dktX3_isCarried_4
def dkwX3_isCarried_2 : List UInt8 := [54, 7, 21, 7, 42, 180, 0, 106, 162, 0, 68, 21, 6, 154, 0, 50, 28, 21, 7, 184, 0, 225]
abbrev dktX3_isCarried_2 : List UInt8 := dkwX3_isCarried_2 ++ dktX3_isCarried_3
def dkwX3_isCarried_1 : List UInt8 := [154, 0, 16, 21, 5, 154, 0, 15, 42, 180, 0, 204, 4, 160, 0, 7, 4, 167, 0, 4, 3, 54, 6, 3]
abbrev dktX3_isCarried_1 : List UInt8 := dkwX3_isCarried_1 ++ dktX3_isCarried_2
def dkwX3_isCarried_0 : List UInt8 := [21, 4, 42, 180, 0, 13, 29, 46, 160, 0, 7, 4, 167, 0, 4, 3, 54, 5, 42, 27, 29, 182, 0, 214]
abbrev dktX3_isCarried_0 : List UInt8 := dkwX3_isCarried_0 ++ dktX3_isCarried_1
theorem dksX3_isCarried_0 : cX3_isCarried.data.toList.drop 0 = dktX3_isCarried_0 := by decide +kernel
theorem dksX3_isCarried_1 : cX3_isCarried.data.toList.drop 24 = dktX3_isCarried_1 := dk_seg dksX3_isCarried_0 24 rfl rfl
theorem dksX3_isCarried_2 : cX3_isCarried.data.toList.drop 48 = dktX3_isCarried_2 := dk_seg dksX3_isCarried_1 24 rfl rfl
theorem dksX3_isCarried_3 : cX3_isCarried.data.toList.drop 70 = dktX3_isCarried_3 := dk_seg dksX3_isCarried_2 22 rfl rfl
theorem dksX3_isCarried_4 : cX3_isCarried.data.toList.drop 92 = dktX3_isCarried_4 := dk_seg dksX3_isCarried_3 22 rfl rfl
theorem dksX3_isCarried_5 : cX3_isCarried.data.toList.drop 116 = dktX3_isCarried_5 := dk_seg dksX3_isCarried_4 24 rfl rfl
theorem dX3_isCarried_0 : decode cX3_isCarried 0 = .ok (.iload 4, 2) := dk_21 4 (dk_at dksX3_isCarried_0 0 rfl rfl)
theorem dX3_isCarried_2 : decode cX3_isCarried 2 = .ok (.aload_n 0, 1) := dk_42 (dk_at dksX3_isCarried_0 2 rfl rfl)
theorem dX3_isCarried_3 : decode cX3_isCarried 3 = .ok (.getfield 13, 3) := dk_180 0 13 (dk_at dksX3_isCarried_0 3 rfl rfl)
theorem dX3_isCarried_6 : decode cX3_isCarried 6 = .ok (.iload_n 3, 1) := dk_29 (dk_at dksX3_isCarried_0 6 rfl rfl)
theorem dX3_isCarried_7 : decode cX3_isCarried 7 = .ok (.iaload, 1) := dk_46 (dk_at dksX3_isCarried_0 7 rfl rfl)
theorem dX3_isCarried_8 : decode cX3_isCarried 8 = .ok (.if_icmp .ne 7, 3) := dk_160 0 7 (dk_at dksX3_isCarried_0 8 rfl rfl)
theorem dX3_isCarried_11 : decode cX3_isCarried 11 = .ok (.iconst 1, 1) := dk_4 (dk_at dksX3_isCarried_0 11 rfl rfl)
theorem dX3_isCarried_12 : decode cX3_isCarried 12 = .ok (.goto 4, 3) := dk_167 0 4 (dk_at dksX3_isCarried_0 12 rfl rfl)
theorem dX3_isCarried_15 : decode cX3_isCarried 15 = .ok (.iconst 0, 1) := dk_3 (dk_at dksX3_isCarried_0 15 rfl rfl)
theorem dX3_isCarried_16 : decode cX3_isCarried 16 = .ok (.istore 5, 2) := dk_54 5 (dk_at dksX3_isCarried_0 16 rfl rfl)
theorem dX3_isCarried_18 : decode cX3_isCarried 18 = .ok (.aload_n 0, 1) := dk_42 (dk_at dksX3_isCarried_0 18 rfl rfl)
theorem dX3_isCarried_19 : decode cX3_isCarried 19 = .ok (.iload_n 1, 1) := dk_27 (dk_at dksX3_isCarried_0 19 rfl rfl)
theorem dX3_isCarried_20 : decode cX3_isCarried 20 = .ok (.iload_n 3, 1) := dk_29 (dk_at dksX3_isCarried_0 20 rfl rfl)
theorem dX3_isCarried_21 : decode cX3_isCarried 21 = .ok (.invokevirtual 214, 3) := dk_182 0 214 (dk_at dksX3_isCarried_0 21 rfl rfl)
theorem dX3_isCarried_24 : decode cX3_isCarried 24 = .ok (.ifCond .ne 16, 3) := dk_154 0 16 (dk_at dksX3_isCarried_1 0 rfl rfl)
theorem dX3_isCarried_27 : decode cX3_isCarried 27 = .ok (.iload 5, 2) := dk_21 5 (dk_at dksX3_isCarried_1 3 rfl rfl)
theorem dX3_isCarried_29 : decode cX3_isCarried 29 = .ok (.ifCond .ne 15, 3) := dk_154 0 15 (dk_at dksX3_isCarried_1 5 rfl rfl)
theorem dX3_isCarried_32 : decode cX3_isCarried 32 = .ok (.aload_n 0, 1) := dk_42 (dk_at dksX3_isCarried_1 8 rfl rfl)
theorem dX3_isCarried_33 : decode cX3_isCarried 33 = .ok (.getfield 204, 3) := dk_180 0 204 (dk_at dksX3_isCarried_1 9 rfl rfl)
theorem dX3_isCarried_36 : decode cX3_isCarried 36 = .ok (.iconst 1, 1) := dk_4 (dk_at dksX3_isCarried_1 12 rfl rfl)
theorem dX3_isCarried_37 : decode cX3_isCarried 37 = .ok (.if_icmp .ne 7, 3) := dk_160 0 7 (dk_at dksX3_isCarried_1 13 rfl rfl)
theorem dX3_isCarried_40 : decode cX3_isCarried 40 = .ok (.iconst 1, 1) := dk_4 (dk_at dksX3_isCarried_1 16 rfl rfl)
theorem dX3_isCarried_41 : decode cX3_isCarried 41 = .ok (.goto 4, 3) := dk_167 0 4 (dk_at dksX3_isCarried_1 17 rfl rfl)
theorem dX3_isCarried_44 : decode cX3_isCarried 44 = .ok (.iconst 0, 1) := dk_3 (dk_at dksX3_isCarried_1 20 rfl rfl)
theorem dX3_isCarried_45 : decode cX3_isCarried 45 = .ok (.istore 6, 2) := dk_54 6 (dk_at dksX3_isCarried_1 21 rfl rfl)
theorem dX3_isCarried_47 : decode cX3_isCarried 47 = .ok (.iconst 0, 1) := dk_3 (dk_at dksX3_isCarried_1 23 rfl rfl)
theorem dX3_isCarried_48 : decode cX3_isCarried 48 = .ok (.istore 7, 2) := dk_54 7 (dk_at dksX3_isCarried_2 0 rfl rfl)
theorem dX3_isCarried_50 : decode cX3_isCarried 50 = .ok (.iload 7, 2) := dk_21 7 (dk_at dksX3_isCarried_2 2 rfl rfl)
theorem dX3_isCarried_52 : decode cX3_isCarried 52 = .ok (.aload_n 0, 1) := dk_42 (dk_at dksX3_isCarried_2 4 rfl rfl)
theorem dX3_isCarried_53 : decode cX3_isCarried 53 = .ok (.getfield 106, 3) := dk_180 0 106 (dk_at dksX3_isCarried_2 5 rfl rfl)
theorem dX3_isCarried_56 : decode cX3_isCarried 56 = .ok (.if_icmp .ge 68, 3) := dk_162 0 68 (dk_at dksX3_isCarried_2 8 rfl rfl)
theorem dX3_isCarried_59 : decode cX3_isCarried 59 = .ok (.iload 6, 2) := dk_21 6 (dk_at dksX3_isCarried_2 11 rfl rfl)
theorem dX3_isCarried_61 : decode cX3_isCarried 61 = .ok (.ifCond .ne 50, 3) := dk_154 0 50 (dk_at dksX3_isCarried_2 13 rfl rfl)
theorem dX3_isCarried_64 : decode cX3_isCarried 64 = .ok (.iload_n 2, 1) := dk_28 (dk_at dksX3_isCarried_2 16 rfl rfl)
theorem dX3_isCarried_65 : decode cX3_isCarried 65 = .ok (.iload 7, 2) := dk_21 7 (dk_at dksX3_isCarried_2 17 rfl rfl)
theorem dX3_isCarried_67 : decode cX3_isCarried 67 = .ok (.invokestatic 225, 3) := dk_184 0 225 (dk_at dksX3_isCarried_2 19 rfl rfl)
theorem dX3_isCarried_70 : decode cX3_isCarried 70 = .ok (.ifCond .eq 45, 3) := dk_153 0 45 (dk_at dksX3_isCarried_3 0 rfl rfl)
theorem dX3_isCarried_73 : decode cX3_isCarried 73 = .ok (.aload_n 0, 1) := dk_42 (dk_at dksX3_isCarried_3 3 rfl rfl)
theorem dX3_isCarried_74 : decode cX3_isCarried 74 = .ok (.getfield 68, 3) := dk_180 0 68 (dk_at dksX3_isCarried_3 4 rfl rfl)
theorem dX3_isCarried_77 : decode cX3_isCarried 77 = .ok (.iload 7, 2) := dk_21 7 (dk_at dksX3_isCarried_3 7 rfl rfl)
theorem dX3_isCarried_79 : decode cX3_isCarried 79 = .ok (.iaload, 1) := dk_46 (dk_at dksX3_isCarried_3 9 rfl rfl)
theorem dX3_isCarried_80 : decode cX3_isCarried 80 = .ok (.iload 4, 2) := dk_21 4 (dk_at dksX3_isCarried_3 10 rfl rfl)
theorem dX3_isCarried_82 : decode cX3_isCarried 82 = .ok (.invokestatic 225, 3) := dk_184 0 225 (dk_at dksX3_isCarried_3 12 rfl rfl)
theorem dX3_isCarried_85 : decode cX3_isCarried 85 = .ok (.ifCond .eq 30, 3) := dk_153 0 30 (dk_at dksX3_isCarried_3 15 rfl rfl)
theorem dX3_isCarried_88 : decode cX3_isCarried 88 = .ok (.aload_n 0, 1) := dk_42 (dk_at dksX3_isCarried_3 18 rfl rfl)
theorem dX3_isCarried_89 : decode cX3_isCarried 89 = .ok (.iload 7, 2) := dk_21 7 (dk_at dksX3_isCarried_3 19 rfl rfl)
theorem dX3_isCarried_91 : decode cX3_isCarried 91 = .ok (.iload_n 3, 1) := dk_29 (dk_at dksX3_isCarried_3 21 rfl rfl)
theorem dX3_isCarried_92 : decode cX3_isCarried 92 = .ok (.invokevirtual 214, 3) := dk_182 0 214 (dk_at dksX3_isCarried_4 0 rfl rfl)
theorem dX3_isCarried_95 : decode cX3_isCarried 95 = .ok (.ifCond .ne 16, 3) := dk_154 0 16 (dk_at dksX3_isCarried_4 3 rfl rfl)
theorem dX3_isCarried_98 : decode cX3_isCarried 98 = .ok (.iload 5, 2) := dk_21 5 (dk_at dksX3_isCarried_4 6 rfl rfl)
theorem dX3_isCarried_100 : decode cX3_isCarried 100 = .ok (.ifCond .ne 15, 3) := dk_154 0 15 (dk_at dksX3_isCarried_4 8 rfl rfl)
theorem dX3_isCarried_103 : decode cX3_isCarried 103 = .ok (.aload_n 0, 1) := dk_42 (dk_at dksX3_isCarried_4 11 rfl rfl)
theorem dX3_isCarried_104 : decode cX3_isCarried 104 = .ok (.getfield 204, 3) := dk_180 0 204 (dk_at dksX3_isCarried_4 12 rfl rfl)
theorem dX3_isCarried_107 : decode cX3_isCarried 107 = .ok (.iconst 1, 1) := dk_4 (dk_at dksX3_isCarried_4 15 rfl rfl)
theorem dX3_isCarried_108 : decode cX3_isCarried 108 = .ok (.if_icmp .ne 7, 3) := dk_160 0 7 (dk_at dksX3_isCarried_4 16 rfl rfl)
theorem dX3_isCarried_111 : decode cX3_isCarried 111 = .ok (.iconst 1, 1) := dk_4 (dk_at dksX3_isCarried_4 19 rfl rfl)
theorem dX3_isCarried_112 : decode cX3_isCarried 112 = .ok (.goto 4, 3) := dk_167 0 4 (dk_at dksX3_isCarried_4 20 rfl rfl)
theorem dX3_isCarried_115 : decode cX3_isCarried 115 = .ok (.iconst 0, 1) := dk_3 (dk_at dksX3_isCarried_4 23 rfl rfl)
theorem dX3_isCarried_116 : decode cX3_isCarried 116 = .ok (.istore 6, 2) := dk_54 6 (dk_at dksX3_isCarried_5 0 rfl rfl)
theorem dX3_isCarried_118 : decode cX3_isCarried 118 = .ok (.iinc 7 1, 3) := dk_132 7 1 (dk_at dksX3_isCarried_5 2 rfl rfl)
theorem dX3_isCarried_121 : decode cX3_isCarried 121 = .ok (.goto (-71), 3) := dk_167 255 185 (dk_at dksX3_isCarried_5 5 rfl rfl)
theorem dX3_isCarried_124 : decode cX3_isCarried 124 = .ok (.iload 6, 2) := dk_21 6 (dk_at dksX3_isCarried_5 8 rfl rfl)
theorem dX3_isCarried_126 : decode cX3_isCarried 126 = .ok (.ireturn, 1) := dk_172 (dk_at dksX3_isCarried_5 10 rfl rfl)
abbrev cX3_step : ByteArray := prog_10_method_49_code
def yX3_step : MethodName := ⟨RX3, "step", "(IIII)I"⟩
def dkwX3_step_6 : List UInt8 := [126, 184, 1, 24, 172]
abbrev dktX3_step_6 : List UInt8 := dkwX3_step_6 ++ []
def dkwX3_step_5 : List UInt8 := [21, 4, 154, 0, 16, 21, 6, 21, 5, 2, 130, 126, 184, 1, 24, 167, 0, 13, 21, 5, 21, 6, 2, 130]
abbrev dktX3_step_5 : List UInt8 := dkwX3_step_5 ++ dktX3_step_6
def dkwX3_step_4 : List UInt8 := [29, 96, 79, 42, 27, 182, 0, 222, 54, 6, 42, 180, 0, 22, 6, 27, 104, 28, 96, 92, 46, 29, 100, 79]
abbrev dktX3_step_4 : List UInt8 := dkwX3_step_4 ++ dktX3_step_5
def dkwX3_step_3 : List UInt8 := [154, 0, 6, 18, 111, 172, 42, 27, 182, 0, 222, 54, 5, 42, 180, 0, 22, 6, 27, 104, 28, 96, 92, 46]
abbrev dktX3_step_3 : List UInt8 := dkwX3_step_3 ++ dktX3_step_4
def dkwX3_step_2 : List UInt8 := [153, 0, 26, 42, 180, 0, 22, 6, 27, 104, 28, 96, 46, 29, 96, 133, 10, 20, 0, 248, 184, 0, 99]
abbrev dktX3_step_2 : List UInt8 := dkwX3_step_2 ++ dktX3_step_3
def dkwX3_step_1 : List UInt8 := [154, 0, 6, 18, 221, 172, 29, 4, 159, 0, 8, 29, 2, 160, 0, 37, 21, 4, 133, 9, 10, 184, 0, 99]
abbrev dktX3_step_1 : List UInt8 := dkwX3_step_1 ++ dktX3_step_2
def dkwX3_step_0 : List UInt8 := [42, 27, 182, 0, 217, 153, 0, 21, 28, 133, 9, 42, 180, 0, 19, 27, 46, 4, 100, 133, 184, 0, 99]
abbrev dktX3_step_0 : List UInt8 := dkwX3_step_0 ++ dktX3_step_1
theorem dksX3_step_0 : cX3_step.data.toList.drop 0 = dktX3_step_0 := by decide +kernel
theorem dksX3_step_1 : cX3_step.data.toList.drop 23 = dktX3_step_1 := dk_seg dksX3_step_0 23 rfl rfl
theorem dksX3_step_2 : cX3_step.data.toList.drop 47 = dktX3_step_2 := dk_seg dksX3_step_1 24 rfl rfl
theorem dksX3_step_3 : cX3_step.data.toList.drop 70 = dktX3_step_3 := dk_seg dksX3_step_2 23 rfl rfl
theorem dksX3_step_4 : cX3_step.data.toList.drop 94 = dktX3_step_4 := dk_seg dksX3_step_3 24 rfl rfl
theorem dksX3_step_5 : cX3_step.data.toList.drop 118 = dktX3_step_5 := dk_seg dksX3_step_4 24 rfl rfl
theorem dksX3_step_6 : cX3_step.data.toList.drop 142 = dktX3_step_6 := dk_seg dksX3_step_5 24 rfl rfl
theorem dX3_step_0 : decode cX3_step 0 = .ok (.aload_n 0, 1) := dk_42 (dk_at dksX3_step_0 0 rfl rfl)
theorem dX3_step_1 : decode cX3_step 1 = .ok (.iload_n 1, 1) := dk_27 (dk_at dksX3_step_0 1 rfl rfl)
theorem dX3_step_2 : decode cX3_step 2 = .ok (.invokevirtual 217, 3) := dk_182 0 217 (dk_at dksX3_step_0 2 rfl rfl)
theorem dX3_step_5 : decode cX3_step 5 = .ok (.ifCond .eq 21, 3) := dk_153 0 21 (dk_at dksX3_step_0 5 rfl rfl)
theorem dX3_step_8 : decode cX3_step 8 = .ok (.iload_n 2, 1) := dk_28 (dk_at dksX3_step_0 8 rfl rfl)
theorem dX3_step_9 : decode cX3_step 9 = .ok (.i2l, 1) := dk_133 (dk_at dksX3_step_0 9 rfl rfl)
theorem dX3_step_10 : decode cX3_step 10 = .ok (.lconst 0, 1) := dk_9 (dk_at dksX3_step_0 10 rfl rfl)
theorem dX3_step_11 : decode cX3_step 11 = .ok (.aload_n 0, 1) := dk_42 (dk_at dksX3_step_0 11 rfl rfl)
theorem dX3_step_12 : decode cX3_step 12 = .ok (.getfield 19, 3) := dk_180 0 19 (dk_at dksX3_step_0 12 rfl rfl)
theorem dX3_step_15 : decode cX3_step 15 = .ok (.iload_n 1, 1) := dk_27 (dk_at dksX3_step_0 15 rfl rfl)
theorem dX3_step_16 : decode cX3_step 16 = .ok (.iaload, 1) := dk_46 (dk_at dksX3_step_0 16 rfl rfl)
theorem dX3_step_17 : decode cX3_step 17 = .ok (.iconst 1, 1) := dk_4 (dk_at dksX3_step_0 17 rfl rfl)
theorem dX3_step_18 : decode cX3_step 18 = .ok (.isub, 1) := dk_100 (dk_at dksX3_step_0 18 rfl rfl)
theorem dX3_step_19 : decode cX3_step 19 = .ok (.i2l, 1) := dk_133 (dk_at dksX3_step_0 19 rfl rfl)
theorem dX3_step_20 : decode cX3_step 20 = .ok (.invokestatic 99, 3) := dk_184 0 99 (dk_at dksX3_step_0 20 rfl rfl)
theorem dX3_step_23 : decode cX3_step 23 = .ok (.ifCond .ne 6, 3) := dk_154 0 6 (dk_at dksX3_step_1 0 rfl rfl)
theorem dX3_step_26 : decode cX3_step 26 = .ok (.ldc 221, 2) := dk_18 221 (dk_at dksX3_step_1 3 rfl rfl)
theorem dX3_step_28 : decode cX3_step 28 = .ok (.ireturn, 1) := dk_172 (dk_at dksX3_step_1 5 rfl rfl)
theorem dX3_step_29 : decode cX3_step 29 = .ok (.iload_n 3, 1) := dk_29 (dk_at dksX3_step_1 6 rfl rfl)
theorem dX3_step_30 : decode cX3_step 30 = .ok (.iconst 1, 1) := dk_4 (dk_at dksX3_step_1 7 rfl rfl)
theorem dX3_step_31 : decode cX3_step 31 = .ok (.if_icmp .eq 8, 3) := dk_159 0 8 (dk_at dksX3_step_1 8 rfl rfl)
theorem dX3_step_34 : decode cX3_step 34 = .ok (.iload_n 3, 1) := dk_29 (dk_at dksX3_step_1 11 rfl rfl)
theorem dX3_step_35 : decode cX3_step 35 = .ok (.iconst (-1), 1) := dk_2 (dk_at dksX3_step_1 12 rfl rfl)
theorem dX3_step_36 : decode cX3_step 36 = .ok (.if_icmp .ne 37, 3) := dk_160 0 37 (dk_at dksX3_step_1 13 rfl rfl)
theorem dX3_step_39 : decode cX3_step 39 = .ok (.iload 4, 2) := dk_21 4 (dk_at dksX3_step_1 16 rfl rfl)
theorem dX3_step_41 : decode cX3_step 41 = .ok (.i2l, 1) := dk_133 (dk_at dksX3_step_1 18 rfl rfl)
theorem dX3_step_42 : decode cX3_step 42 = .ok (.lconst 0, 1) := dk_9 (dk_at dksX3_step_1 19 rfl rfl)
theorem dX3_step_43 : decode cX3_step 43 = .ok (.lconst 1, 1) := dk_10 (dk_at dksX3_step_1 20 rfl rfl)
theorem dX3_step_44 : decode cX3_step 44 = .ok (.invokestatic 99, 3) := dk_184 0 99 (dk_at dksX3_step_1 21 rfl rfl)
theorem dX3_step_47 : decode cX3_step 47 = .ok (.ifCond .eq 26, 3) := dk_153 0 26 (dk_at dksX3_step_2 0 rfl rfl)
theorem dX3_step_50 : decode cX3_step 50 = .ok (.aload_n 0, 1) := dk_42 (dk_at dksX3_step_2 3 rfl rfl)
theorem dX3_step_51 : decode cX3_step 51 = .ok (.getfield 22, 3) := dk_180 0 22 (dk_at dksX3_step_2 4 rfl rfl)
theorem dX3_step_54 : decode cX3_step 54 = .ok (.iconst 3, 1) := dk_6 (dk_at dksX3_step_2 7 rfl rfl)
theorem dX3_step_55 : decode cX3_step 55 = .ok (.iload_n 1, 1) := dk_27 (dk_at dksX3_step_2 8 rfl rfl)
theorem dX3_step_56 : decode cX3_step 56 = .ok (.imul, 1) := dk_104 (dk_at dksX3_step_2 9 rfl rfl)
theorem dX3_step_57 : decode cX3_step 57 = .ok (.iload_n 2, 1) := dk_28 (dk_at dksX3_step_2 10 rfl rfl)
theorem dX3_step_58 : decode cX3_step 58 = .ok (.iadd, 1) := dk_96 (dk_at dksX3_step_2 11 rfl rfl)
theorem dX3_step_59 : decode cX3_step 59 = .ok (.iaload, 1) := dk_46 (dk_at dksX3_step_2 12 rfl rfl)
theorem dX3_step_60 : decode cX3_step 60 = .ok (.iload_n 3, 1) := dk_29 (dk_at dksX3_step_2 13 rfl rfl)
theorem dX3_step_61 : decode cX3_step 61 = .ok (.iadd, 1) := dk_96 (dk_at dksX3_step_2 14 rfl rfl)
theorem dX3_step_62 : decode cX3_step 62 = .ok (.i2l, 1) := dk_133 (dk_at dksX3_step_2 15 rfl rfl)
theorem dX3_step_63 : decode cX3_step 63 = .ok (.lconst 1, 1) := dk_10 (dk_at dksX3_step_2 16 rfl rfl)
theorem dX3_step_64 : decode cX3_step 64 = .ok (.ldc2_w 248, 3) := dk_20 0 248 (dk_at dksX3_step_2 17 rfl rfl)
theorem dX3_step_67 : decode cX3_step 67 = .ok (.invokestatic 99, 3) := dk_184 0 99 (dk_at dksX3_step_2 20 rfl rfl)
theorem dX3_step_70 : decode cX3_step 70 = .ok (.ifCond .ne 6, 3) := dk_154 0 6 (dk_at dksX3_step_3 0 rfl rfl)
theorem dX3_step_73 : decode cX3_step 73 = .ok (.ldc 111, 2) := dk_18 111 (dk_at dksX3_step_3 3 rfl rfl)
theorem dX3_step_75 : decode cX3_step 75 = .ok (.ireturn, 1) := dk_172 (dk_at dksX3_step_3 5 rfl rfl)
theorem dX3_step_76 : decode cX3_step 76 = .ok (.aload_n 0, 1) := dk_42 (dk_at dksX3_step_3 6 rfl rfl)
theorem dX3_step_77 : decode cX3_step 77 = .ok (.iload_n 1, 1) := dk_27 (dk_at dksX3_step_3 7 rfl rfl)
theorem dX3_step_78 : decode cX3_step 78 = .ok (.invokevirtual 222, 3) := dk_182 0 222 (dk_at dksX3_step_3 8 rfl rfl)
theorem dX3_step_81 : decode cX3_step 81 = .ok (.istore 5, 2) := dk_54 5 (dk_at dksX3_step_3 11 rfl rfl)
theorem dX3_step_83 : decode cX3_step 83 = .ok (.aload_n 0, 1) := dk_42 (dk_at dksX3_step_3 13 rfl rfl)
theorem dX3_step_84 : decode cX3_step 84 = .ok (.getfield 22, 3) := dk_180 0 22 (dk_at dksX3_step_3 14 rfl rfl)
theorem dX3_step_87 : decode cX3_step 87 = .ok (.iconst 3, 1) := dk_6 (dk_at dksX3_step_3 17 rfl rfl)
theorem dX3_step_88 : decode cX3_step 88 = .ok (.iload_n 1, 1) := dk_27 (dk_at dksX3_step_3 18 rfl rfl)
theorem dX3_step_89 : decode cX3_step 89 = .ok (.imul, 1) := dk_104 (dk_at dksX3_step_3 19 rfl rfl)
theorem dX3_step_90 : decode cX3_step 90 = .ok (.iload_n 2, 1) := dk_28 (dk_at dksX3_step_3 20 rfl rfl)
theorem dX3_step_91 : decode cX3_step 91 = .ok (.iadd, 1) := dk_96 (dk_at dksX3_step_3 21 rfl rfl)
theorem dX3_step_92 : decode cX3_step 92 = .ok (.dup2, 1) := dk_92 (dk_at dksX3_step_3 22 rfl rfl)
theorem dX3_step_93 : decode cX3_step 93 = .ok (.iaload, 1) := dk_46 (dk_at dksX3_step_3 23 rfl rfl)
theorem dX3_step_94 : decode cX3_step 94 = .ok (.iload_n 3, 1) := dk_29 (dk_at dksX3_step_4 0 rfl rfl)
theorem dX3_step_95 : decode cX3_step 95 = .ok (.iadd, 1) := dk_96 (dk_at dksX3_step_4 1 rfl rfl)
theorem dX3_step_96 : decode cX3_step 96 = .ok (.iastore, 1) := dk_79 (dk_at dksX3_step_4 2 rfl rfl)
theorem dX3_step_97 : decode cX3_step 97 = .ok (.aload_n 0, 1) := dk_42 (dk_at dksX3_step_4 3 rfl rfl)
theorem dX3_step_98 : decode cX3_step 98 = .ok (.iload_n 1, 1) := dk_27 (dk_at dksX3_step_4 4 rfl rfl)
theorem dX3_step_99 : decode cX3_step 99 = .ok (.invokevirtual 222, 3) := dk_182 0 222 (dk_at dksX3_step_4 5 rfl rfl)
theorem dX3_step_102 : decode cX3_step 102 = .ok (.istore 6, 2) := dk_54 6 (dk_at dksX3_step_4 8 rfl rfl)
theorem dX3_step_104 : decode cX3_step 104 = .ok (.aload_n 0, 1) := dk_42 (dk_at dksX3_step_4 10 rfl rfl)
theorem dX3_step_105 : decode cX3_step 105 = .ok (.getfield 22, 3) := dk_180 0 22 (dk_at dksX3_step_4 11 rfl rfl)
theorem dX3_step_108 : decode cX3_step 108 = .ok (.iconst 3, 1) := dk_6 (dk_at dksX3_step_4 14 rfl rfl)
theorem dX3_step_109 : decode cX3_step 109 = .ok (.iload_n 1, 1) := dk_27 (dk_at dksX3_step_4 15 rfl rfl)
theorem dX3_step_110 : decode cX3_step 110 = .ok (.imul, 1) := dk_104 (dk_at dksX3_step_4 16 rfl rfl)
theorem dX3_step_111 : decode cX3_step 111 = .ok (.iload_n 2, 1) := dk_28 (dk_at dksX3_step_4 17 rfl rfl)
theorem dX3_step_112 : decode cX3_step 112 = .ok (.iadd, 1) := dk_96 (dk_at dksX3_step_4 18 rfl rfl)
theorem dX3_step_113 : decode cX3_step 113 = .ok (.dup2, 1) := dk_92 (dk_at dksX3_step_4 19 rfl rfl)
theorem dX3_step_114 : decode cX3_step 114 = .ok (.iaload, 1) := dk_46 (dk_at dksX3_step_4 20 rfl rfl)
theorem dX3_step_115 : decode cX3_step 115 = .ok (.iload_n 3, 1) := dk_29 (dk_at dksX3_step_4 21 rfl rfl)
theorem dX3_step_116 : decode cX3_step 116 = .ok (.isub, 1) := dk_100 (dk_at dksX3_step_4 22 rfl rfl)
theorem dX3_step_117 : decode cX3_step 117 = .ok (.iastore, 1) := dk_79 (dk_at dksX3_step_4 23 rfl rfl)
theorem dX3_step_118 : decode cX3_step 118 = .ok (.iload 4, 2) := dk_21 4 (dk_at dksX3_step_5 0 rfl rfl)
theorem dX3_step_120 : decode cX3_step 120 = .ok (.ifCond .ne 16, 3) := dk_154 0 16 (dk_at dksX3_step_5 2 rfl rfl)
theorem dX3_step_123 : decode cX3_step 123 = .ok (.iload 6, 2) := dk_21 6 (dk_at dksX3_step_5 5 rfl rfl)
theorem dX3_step_125 : decode cX3_step 125 = .ok (.iload 5, 2) := dk_21 5 (dk_at dksX3_step_5 7 rfl rfl)
theorem dX3_step_127 : decode cX3_step 127 = .ok (.iconst (-1), 1) := dk_2 (dk_at dksX3_step_5 9 rfl rfl)
theorem dX3_step_128 : decode cX3_step 128 = .ok (.ixor, 1) := dk_130 (dk_at dksX3_step_5 10 rfl rfl)
theorem dX3_step_129 : decode cX3_step 129 = .ok (.iand, 1) := dk_126 (dk_at dksX3_step_5 11 rfl rfl)
theorem dX3_step_130 : decode cX3_step 130 = .ok (.invokestatic 280, 3) := dk_184 1 24 (dk_at dksX3_step_5 12 rfl rfl)
theorem dX3_step_133 : decode cX3_step 133 = .ok (.goto 13, 3) := dk_167 0 13 (dk_at dksX3_step_5 15 rfl rfl)
theorem dX3_step_136 : decode cX3_step 136 = .ok (.iload 5, 2) := dk_21 5 (dk_at dksX3_step_5 18 rfl rfl)
theorem dX3_step_138 : decode cX3_step 138 = .ok (.iload 6, 2) := dk_21 6 (dk_at dksX3_step_5 20 rfl rfl)
theorem dX3_step_140 : decode cX3_step 140 = .ok (.iconst (-1), 1) := dk_2 (dk_at dksX3_step_5 22 rfl rfl)
theorem dX3_step_141 : decode cX3_step 141 = .ok (.ixor, 1) := dk_130 (dk_at dksX3_step_5 23 rfl rfl)
theorem dX3_step_142 : decode cX3_step 142 = .ok (.iand, 1) := dk_126 (dk_at dksX3_step_6 0 rfl rfl)
theorem dX3_step_143 : decode cX3_step 143 = .ok (.invokestatic 280, 3) := dk_184 1 24 (dk_at dksX3_step_6 1 rfl rfl)
theorem dX3_step_146 : decode cX3_step 146 = .ok (.ireturn, 1) := dk_172 (dk_at dksX3_step_6 4 rfl rfl)
abbrev cX3_worst : ByteArray := prog_10_method_50_code
def yX3_worst : MethodName := ⟨RX3, "worst", "(I)I"⟩
def dkwX3_worst_6 : List UInt8 := [27, 4, 160, 0, 9, 28, 6, 112, 167, 0, 4, 29, 172]
abbrev dktX3_worst_6 : List UInt8 := dkwX3_worst_6 ++ []
def dkwX3_worst_5 : List UInt8 := [132, 4, 1, 167, 255, 160, 28, 156, 0, 7, 2, 167, 0, 25, 27, 154, 0, 9, 28, 6, 108, 167, 0, 15]
abbrev dktX3_worst_5 : List UInt8 := dkwX3_worst_5 ++ dktX3_worst_6
def dkwX3_worst_4 : List UInt8 := [167, 0, 4, 28, 61, 21, 6, 29, 164, 0, 8, 21, 6, 167, 0, 4, 29, 62, 132, 5, 1, 167, 255, 178]
abbrev dktX3_worst_4 : List UInt8 := dkwX3_worst_4 ++ dktX3_worst_5
def dkwX3_worst_3 : List UInt8 := [182, 1, 32, 167, 0, 4, 3, 54, 6, 21, 6, 29, 164, 0, 13, 6, 21, 4, 104, 21, 5, 96]
abbrev dktX3_worst_3 : List UInt8 := dkwX3_worst_3 ++ dktX3_worst_4
def dkwX3_worst_2 : List UInt8 := [180, 0, 22, 6, 21, 4, 104, 21, 5, 96, 46, 4, 164, 0, 16, 42, 21, 4, 21, 5, 2, 4]
abbrev dktX3_worst_2 : List UInt8 := dkwX3_worst_2 ++ dktX3_worst_3
def dkwX3_worst_1 : List UInt8 := [42, 180, 0, 103, 162, 0, 93, 3, 54, 5, 21, 5, 42, 180, 0, 19, 21, 4, 46, 162, 0, 72, 42]
abbrev dktX3_worst_1 : List UInt8 := dkwX3_worst_1 ++ dktX3_worst_2
def dkwX3_worst_0 : List UInt8 := [27, 133, 9, 20, 1, 30, 184, 0, 99, 154, 0, 6, 18, 111, 172, 2, 61, 3, 62, 3, 54, 4, 21, 4]
abbrev dktX3_worst_0 : List UInt8 := dkwX3_worst_0 ++ dktX3_worst_1
theorem dksX3_worst_0 : cX3_worst.data.toList.drop 0 = dktX3_worst_0 := by decide +kernel
theorem dksX3_worst_1 : cX3_worst.data.toList.drop 24 = dktX3_worst_1 := dk_seg dksX3_worst_0 24 rfl rfl
theorem dksX3_worst_2 : cX3_worst.data.toList.drop 47 = dktX3_worst_2 := dk_seg dksX3_worst_1 23 rfl rfl
theorem dksX3_worst_3 : cX3_worst.data.toList.drop 69 = dktX3_worst_3 := dk_seg dksX3_worst_2 22 rfl rfl
theorem dksX3_worst_4 : cX3_worst.data.toList.drop 91 = dktX3_worst_4 := dk_seg dksX3_worst_3 22 rfl rfl
theorem dksX3_worst_5 : cX3_worst.data.toList.drop 115 = dktX3_worst_5 := dk_seg dksX3_worst_4 24 rfl rfl
theorem dksX3_worst_6 : cX3_worst.data.toList.drop 139 = dktX3_worst_6 := dk_seg dksX3_worst_5 24 rfl rfl
theorem dX3_worst_0 : decode cX3_worst 0 = .ok (.iload_n 1, 1) := dk_27 (dk_at dksX3_worst_0 0 rfl rfl)
theorem dX3_worst_1 : decode cX3_worst 1 = .ok (.i2l, 1) := dk_133 (dk_at dksX3_worst_0 1 rfl rfl)
theorem dX3_worst_2 : decode cX3_worst 2 = .ok (.lconst 0, 1) := dk_9 (dk_at dksX3_worst_0 2 rfl rfl)
theorem dX3_worst_3 : decode cX3_worst 3 = .ok (.ldc2_w 286, 3) := dk_20 1 30 (dk_at dksX3_worst_0 3 rfl rfl)
theorem dX3_worst_6 : decode cX3_worst 6 = .ok (.invokestatic 99, 3) := dk_184 0 99 (dk_at dksX3_worst_0 6 rfl rfl)
theorem dX3_worst_9 : decode cX3_worst 9 = .ok (.ifCond .ne 6, 3) := dk_154 0 6 (dk_at dksX3_worst_0 9 rfl rfl)
theorem dX3_worst_12 : decode cX3_worst 12 = .ok (.ldc 111, 2) := dk_18 111 (dk_at dksX3_worst_0 12 rfl rfl)
theorem dX3_worst_14 : decode cX3_worst 14 = .ok (.ireturn, 1) := dk_172 (dk_at dksX3_worst_0 14 rfl rfl)
theorem dX3_worst_15 : decode cX3_worst 15 = .ok (.iconst (-1), 1) := dk_2 (dk_at dksX3_worst_0 15 rfl rfl)
theorem dX3_worst_16 : decode cX3_worst 16 = .ok (.istore_n 2, 1) := dk_61 (dk_at dksX3_worst_0 16 rfl rfl)
theorem dX3_worst_17 : decode cX3_worst 17 = .ok (.iconst 0, 1) := dk_3 (dk_at dksX3_worst_0 17 rfl rfl)
theorem dX3_worst_18 : decode cX3_worst 18 = .ok (.istore_n 3, 1) := dk_62 (dk_at dksX3_worst_0 18 rfl rfl)
theorem dX3_worst_19 : decode cX3_worst 19 = .ok (.iconst 0, 1) := dk_3 (dk_at dksX3_worst_0 19 rfl rfl)
theorem dX3_worst_20 : decode cX3_worst 20 = .ok (.istore 4, 2) := dk_54 4 (dk_at dksX3_worst_0 20 rfl rfl)
theorem dX3_worst_22 : decode cX3_worst 22 = .ok (.iload 4, 2) := dk_21 4 (dk_at dksX3_worst_0 22 rfl rfl)
theorem dX3_worst_24 : decode cX3_worst 24 = .ok (.aload_n 0, 1) := dk_42 (dk_at dksX3_worst_1 0 rfl rfl)
theorem dX3_worst_25 : decode cX3_worst 25 = .ok (.getfield 103, 3) := dk_180 0 103 (dk_at dksX3_worst_1 1 rfl rfl)
theorem dX3_worst_28 : decode cX3_worst 28 = .ok (.if_icmp .ge 93, 3) := dk_162 0 93 (dk_at dksX3_worst_1 4 rfl rfl)
theorem dX3_worst_31 : decode cX3_worst 31 = .ok (.iconst 0, 1) := dk_3 (dk_at dksX3_worst_1 7 rfl rfl)
theorem dX3_worst_32 : decode cX3_worst 32 = .ok (.istore 5, 2) := dk_54 5 (dk_at dksX3_worst_1 8 rfl rfl)
theorem dX3_worst_34 : decode cX3_worst 34 = .ok (.iload 5, 2) := dk_21 5 (dk_at dksX3_worst_1 10 rfl rfl)
theorem dX3_worst_36 : decode cX3_worst 36 = .ok (.aload_n 0, 1) := dk_42 (dk_at dksX3_worst_1 12 rfl rfl)
theorem dX3_worst_37 : decode cX3_worst 37 = .ok (.getfield 19, 3) := dk_180 0 19 (dk_at dksX3_worst_1 13 rfl rfl)
theorem dX3_worst_40 : decode cX3_worst 40 = .ok (.iload 4, 2) := dk_21 4 (dk_at dksX3_worst_1 16 rfl rfl)
theorem dX3_worst_42 : decode cX3_worst 42 = .ok (.iaload, 1) := dk_46 (dk_at dksX3_worst_1 18 rfl rfl)
theorem dX3_worst_43 : decode cX3_worst 43 = .ok (.if_icmp .ge 72, 3) := dk_162 0 72 (dk_at dksX3_worst_1 19 rfl rfl)
theorem dX3_worst_46 : decode cX3_worst 46 = .ok (.aload_n 0, 1) := dk_42 (dk_at dksX3_worst_1 22 rfl rfl)
theorem dX3_worst_47 : decode cX3_worst 47 = .ok (.getfield 22, 3) := dk_180 0 22 (dk_at dksX3_worst_2 0 rfl rfl)
theorem dX3_worst_50 : decode cX3_worst 50 = .ok (.iconst 3, 1) := dk_6 (dk_at dksX3_worst_2 3 rfl rfl)
theorem dX3_worst_51 : decode cX3_worst 51 = .ok (.iload 4, 2) := dk_21 4 (dk_at dksX3_worst_2 4 rfl rfl)
theorem dX3_worst_53 : decode cX3_worst 53 = .ok (.imul, 1) := dk_104 (dk_at dksX3_worst_2 6 rfl rfl)
theorem dX3_worst_54 : decode cX3_worst 54 = .ok (.iload 5, 2) := dk_21 5 (dk_at dksX3_worst_2 7 rfl rfl)
theorem dX3_worst_56 : decode cX3_worst 56 = .ok (.iadd, 1) := dk_96 (dk_at dksX3_worst_2 9 rfl rfl)
theorem dX3_worst_57 : decode cX3_worst 57 = .ok (.iaload, 1) := dk_46 (dk_at dksX3_worst_2 10 rfl rfl)
theorem dX3_worst_58 : decode cX3_worst 58 = .ok (.iconst 1, 1) := dk_4 (dk_at dksX3_worst_2 11 rfl rfl)
theorem dX3_worst_59 : decode cX3_worst 59 = .ok (.if_icmp .le 16, 3) := dk_164 0 16 (dk_at dksX3_worst_2 12 rfl rfl)
theorem dX3_worst_62 : decode cX3_worst 62 = .ok (.aload_n 0, 1) := dk_42 (dk_at dksX3_worst_2 15 rfl rfl)
theorem dX3_worst_63 : decode cX3_worst 63 = .ok (.iload 4, 2) := dk_21 4 (dk_at dksX3_worst_2 16 rfl rfl)
theorem dX3_worst_65 : decode cX3_worst 65 = .ok (.iload 5, 2) := dk_21 5 (dk_at dksX3_worst_2 18 rfl rfl)
theorem dX3_worst_67 : decode cX3_worst 67 = .ok (.iconst (-1), 1) := dk_2 (dk_at dksX3_worst_2 20 rfl rfl)
theorem dX3_worst_68 : decode cX3_worst 68 = .ok (.iconst 1, 1) := dk_4 (dk_at dksX3_worst_2 21 rfl rfl)
theorem dX3_worst_69 : decode cX3_worst 69 = .ok (.invokevirtual 288, 3) := dk_182 1 32 (dk_at dksX3_worst_3 0 rfl rfl)
theorem dX3_worst_72 : decode cX3_worst 72 = .ok (.goto 4, 3) := dk_167 0 4 (dk_at dksX3_worst_3 3 rfl rfl)
theorem dX3_worst_75 : decode cX3_worst 75 = .ok (.iconst 0, 1) := dk_3 (dk_at dksX3_worst_3 6 rfl rfl)
theorem dX3_worst_76 : decode cX3_worst 76 = .ok (.istore 6, 2) := dk_54 6 (dk_at dksX3_worst_3 7 rfl rfl)
theorem dX3_worst_78 : decode cX3_worst 78 = .ok (.iload 6, 2) := dk_21 6 (dk_at dksX3_worst_3 9 rfl rfl)
theorem dX3_worst_80 : decode cX3_worst 80 = .ok (.iload_n 3, 1) := dk_29 (dk_at dksX3_worst_3 11 rfl rfl)
theorem dX3_worst_81 : decode cX3_worst 81 = .ok (.if_icmp .le 13, 3) := dk_164 0 13 (dk_at dksX3_worst_3 12 rfl rfl)
theorem dX3_worst_84 : decode cX3_worst 84 = .ok (.iconst 3, 1) := dk_6 (dk_at dksX3_worst_3 15 rfl rfl)
theorem dX3_worst_85 : decode cX3_worst 85 = .ok (.iload 4, 2) := dk_21 4 (dk_at dksX3_worst_3 16 rfl rfl)
theorem dX3_worst_87 : decode cX3_worst 87 = .ok (.imul, 1) := dk_104 (dk_at dksX3_worst_3 18 rfl rfl)
theorem dX3_worst_88 : decode cX3_worst 88 = .ok (.iload 5, 2) := dk_21 5 (dk_at dksX3_worst_3 19 rfl rfl)
theorem dX3_worst_90 : decode cX3_worst 90 = .ok (.iadd, 1) := dk_96 (dk_at dksX3_worst_3 21 rfl rfl)
theorem dX3_worst_91 : decode cX3_worst 91 = .ok (.goto 4, 3) := dk_167 0 4 (dk_at dksX3_worst_4 0 rfl rfl)
theorem dX3_worst_94 : decode cX3_worst 94 = .ok (.iload_n 2, 1) := dk_28 (dk_at dksX3_worst_4 3 rfl rfl)
theorem dX3_worst_95 : decode cX3_worst 95 = .ok (.istore_n 2, 1) := dk_61 (dk_at dksX3_worst_4 4 rfl rfl)
theorem dX3_worst_96 : decode cX3_worst 96 = .ok (.iload 6, 2) := dk_21 6 (dk_at dksX3_worst_4 5 rfl rfl)
theorem dX3_worst_98 : decode cX3_worst 98 = .ok (.iload_n 3, 1) := dk_29 (dk_at dksX3_worst_4 7 rfl rfl)
theorem dX3_worst_99 : decode cX3_worst 99 = .ok (.if_icmp .le 8, 3) := dk_164 0 8 (dk_at dksX3_worst_4 8 rfl rfl)
theorem dX3_worst_102 : decode cX3_worst 102 = .ok (.iload 6, 2) := dk_21 6 (dk_at dksX3_worst_4 11 rfl rfl)
theorem dX3_worst_104 : decode cX3_worst 104 = .ok (.goto 4, 3) := dk_167 0 4 (dk_at dksX3_worst_4 13 rfl rfl)
theorem dX3_worst_107 : decode cX3_worst 107 = .ok (.iload_n 3, 1) := dk_29 (dk_at dksX3_worst_4 16 rfl rfl)
theorem dX3_worst_108 : decode cX3_worst 108 = .ok (.istore_n 3, 1) := dk_62 (dk_at dksX3_worst_4 17 rfl rfl)
theorem dX3_worst_109 : decode cX3_worst 109 = .ok (.iinc 5 1, 3) := dk_132 5 1 (dk_at dksX3_worst_4 18 rfl rfl)
theorem dX3_worst_112 : decode cX3_worst 112 = .ok (.goto (-78), 3) := dk_167 255 178 (dk_at dksX3_worst_4 21 rfl rfl)
theorem dX3_worst_115 : decode cX3_worst 115 = .ok (.iinc 4 1, 3) := dk_132 4 1 (dk_at dksX3_worst_5 0 rfl rfl)
theorem dX3_worst_118 : decode cX3_worst 118 = .ok (.goto (-96), 3) := dk_167 255 160 (dk_at dksX3_worst_5 3 rfl rfl)
theorem dX3_worst_121 : decode cX3_worst 121 = .ok (.iload_n 2, 1) := dk_28 (dk_at dksX3_worst_5 6 rfl rfl)
theorem dX3_worst_122 : decode cX3_worst 122 = .ok (.ifCond .ge 7, 3) := dk_156 0 7 (dk_at dksX3_worst_5 7 rfl rfl)
theorem dX3_worst_125 : decode cX3_worst 125 = .ok (.iconst (-1), 1) := dk_2 (dk_at dksX3_worst_5 10 rfl rfl)
theorem dX3_worst_126 : decode cX3_worst 126 = .ok (.goto 25, 3) := dk_167 0 25 (dk_at dksX3_worst_5 11 rfl rfl)
theorem dX3_worst_129 : decode cX3_worst 129 = .ok (.iload_n 1, 1) := dk_27 (dk_at dksX3_worst_5 14 rfl rfl)
theorem dX3_worst_130 : decode cX3_worst 130 = .ok (.ifCond .ne 9, 3) := dk_154 0 9 (dk_at dksX3_worst_5 15 rfl rfl)
theorem dX3_worst_133 : decode cX3_worst 133 = .ok (.iload_n 2, 1) := dk_28 (dk_at dksX3_worst_5 18 rfl rfl)
theorem dX3_worst_134 : decode cX3_worst 134 = .ok (.iconst 3, 1) := dk_6 (dk_at dksX3_worst_5 19 rfl rfl)
theorem dX3_worst_135 : decode cX3_worst 135 = .ok (.idiv, 1) := dk_108 (dk_at dksX3_worst_5 20 rfl rfl)
theorem dX3_worst_136 : decode cX3_worst 136 = .ok (.goto 15, 3) := dk_167 0 15 (dk_at dksX3_worst_5 21 rfl rfl)
theorem dX3_worst_139 : decode cX3_worst 139 = .ok (.iload_n 1, 1) := dk_27 (dk_at dksX3_worst_6 0 rfl rfl)
theorem dX3_worst_140 : decode cX3_worst 140 = .ok (.iconst 1, 1) := dk_4 (dk_at dksX3_worst_6 1 rfl rfl)
theorem dX3_worst_141 : decode cX3_worst 141 = .ok (.if_icmp .ne 9, 3) := dk_160 0 9 (dk_at dksX3_worst_6 2 rfl rfl)
theorem dX3_worst_144 : decode cX3_worst 144 = .ok (.iload_n 2, 1) := dk_28 (dk_at dksX3_worst_6 5 rfl rfl)
theorem dX3_worst_145 : decode cX3_worst 145 = .ok (.iconst 3, 1) := dk_6 (dk_at dksX3_worst_6 6 rfl rfl)
theorem dX3_worst_146 : decode cX3_worst 146 = .ok (.irem, 1) := dk_112 (dk_at dksX3_worst_6 7 rfl rfl)
theorem dX3_worst_147 : decode cX3_worst 147 = .ok (.goto 4, 3) := dk_167 0 4 (dk_at dksX3_worst_6 8 rfl rfl)
theorem dX3_worst_150 : decode cX3_worst 150 = .ok (.iload_n 3, 1) := dk_29 (dk_at dksX3_worst_6 11 rfl rfl)
theorem dX3_worst_151 : decode cX3_worst 151 = .ok (.ireturn, 1) := dk_172 (dk_at dksX3_worst_6 12 rfl rfl)
abbrev cX3_best : ByteArray := prog_10_method_51_code
def yX3_best : MethodName := ⟨RX3, "best", "(I)I"⟩
def dkwX3_best_3 : List UInt8 := [28, 172]
abbrev dktX3_best_3 : List UInt8 := dkwX3_best_3 ++ []
def dkwX3_best_2 : List UInt8 := [167, 0, 4, 28, 61, 21, 5, 29, 161, 0, 8, 21, 5, 167, 0, 4, 29, 62, 132, 4, 1, 167, 255, 207]
abbrev dktX3_best_2 : List UInt8 := dkwX3_best_2 ++ dktX3_best_3
def dkwX3_best_1 : List UInt8 := [163, 0, 48, 42, 27, 21, 4, 3, 182, 0, 228, 184, 1, 24, 54, 5, 21, 5, 29, 161, 0, 8, 21, 4]
abbrev dktX3_best_1 : List UInt8 := dkwX3_best_1 ++ dktX3_best_2
def dkwX3_best_0 : List UInt8 := [42, 27, 182, 1, 12, 154, 0, 6, 18, 221, 172, 3, 61, 3, 62, 4, 54, 4, 21, 4, 16, 24]
abbrev dktX3_best_0 : List UInt8 := dkwX3_best_0 ++ dktX3_best_1
theorem dksX3_best_0 : cX3_best.data.toList.drop 0 = dktX3_best_0 := by decide +kernel
theorem dksX3_best_1 : cX3_best.data.toList.drop 22 = dktX3_best_1 := dk_seg dksX3_best_0 22 rfl rfl
theorem dksX3_best_2 : cX3_best.data.toList.drop 46 = dktX3_best_2 := dk_seg dksX3_best_1 24 rfl rfl
theorem dksX3_best_3 : cX3_best.data.toList.drop 70 = dktX3_best_3 := dk_seg dksX3_best_2 24 rfl rfl
theorem dX3_best_0 : decode cX3_best 0 = .ok (.aload_n 0, 1) := dk_42 (dk_at dksX3_best_0 0 rfl rfl)
theorem dX3_best_1 : decode cX3_best 1 = .ok (.iload_n 1, 1) := dk_27 (dk_at dksX3_best_0 1 rfl rfl)
theorem dX3_best_2 : decode cX3_best 2 = .ok (.invokevirtual 268, 3) := dk_182 1 12 (dk_at dksX3_best_0 2 rfl rfl)
theorem dX3_best_5 : decode cX3_best 5 = .ok (.ifCond .ne 6, 3) := dk_154 0 6 (dk_at dksX3_best_0 5 rfl rfl)
theorem dX3_best_8 : decode cX3_best 8 = .ok (.ldc 221, 2) := dk_18 221 (dk_at dksX3_best_0 8 rfl rfl)
theorem dX3_best_10 : decode cX3_best 10 = .ok (.ireturn, 1) := dk_172 (dk_at dksX3_best_0 10 rfl rfl)
theorem dX3_best_11 : decode cX3_best 11 = .ok (.iconst 0, 1) := dk_3 (dk_at dksX3_best_0 11 rfl rfl)
theorem dX3_best_12 : decode cX3_best 12 = .ok (.istore_n 2, 1) := dk_61 (dk_at dksX3_best_0 12 rfl rfl)
theorem dX3_best_13 : decode cX3_best 13 = .ok (.iconst 0, 1) := dk_3 (dk_at dksX3_best_0 13 rfl rfl)
theorem dX3_best_14 : decode cX3_best 14 = .ok (.istore_n 3, 1) := dk_62 (dk_at dksX3_best_0 14 rfl rfl)
theorem dX3_best_15 : decode cX3_best 15 = .ok (.iconst 1, 1) := dk_4 (dk_at dksX3_best_0 15 rfl rfl)
theorem dX3_best_16 : decode cX3_best 16 = .ok (.istore 4, 2) := dk_54 4 (dk_at dksX3_best_0 16 rfl rfl)
theorem dX3_best_18 : decode cX3_best 18 = .ok (.iload 4, 2) := dk_21 4 (dk_at dksX3_best_0 18 rfl rfl)
theorem dX3_best_20 : decode cX3_best 20 = .ok (.bipush 24, 2) := dk_16 24 (dk_at dksX3_best_0 20 rfl rfl)
theorem dX3_best_22 : decode cX3_best 22 = .ok (.if_icmp .gt 48, 3) := dk_163 0 48 (dk_at dksX3_best_1 0 rfl rfl)
theorem dX3_best_25 : decode cX3_best 25 = .ok (.aload_n 0, 1) := dk_42 (dk_at dksX3_best_1 3 rfl rfl)
theorem dX3_best_26 : decode cX3_best 26 = .ok (.iload_n 1, 1) := dk_27 (dk_at dksX3_best_1 4 rfl rfl)
theorem dX3_best_27 : decode cX3_best 27 = .ok (.iload 4, 2) := dk_21 4 (dk_at dksX3_best_1 5 rfl rfl)
theorem dX3_best_29 : decode cX3_best 29 = .ok (.iconst 0, 1) := dk_3 (dk_at dksX3_best_1 7 rfl rfl)
theorem dX3_best_30 : decode cX3_best 30 = .ok (.invokevirtual 228, 3) := dk_182 0 228 (dk_at dksX3_best_1 8 rfl rfl)
theorem dX3_best_33 : decode cX3_best 33 = .ok (.invokestatic 280, 3) := dk_184 1 24 (dk_at dksX3_best_1 11 rfl rfl)
theorem dX3_best_36 : decode cX3_best 36 = .ok (.istore 5, 2) := dk_54 5 (dk_at dksX3_best_1 14 rfl rfl)
theorem dX3_best_38 : decode cX3_best 38 = .ok (.iload 5, 2) := dk_21 5 (dk_at dksX3_best_1 16 rfl rfl)
theorem dX3_best_40 : decode cX3_best 40 = .ok (.iload_n 3, 1) := dk_29 (dk_at dksX3_best_1 18 rfl rfl)
theorem dX3_best_41 : decode cX3_best 41 = .ok (.if_icmp .lt 8, 3) := dk_161 0 8 (dk_at dksX3_best_1 19 rfl rfl)
theorem dX3_best_44 : decode cX3_best 44 = .ok (.iload 4, 2) := dk_21 4 (dk_at dksX3_best_1 22 rfl rfl)
theorem dX3_best_46 : decode cX3_best 46 = .ok (.goto 4, 3) := dk_167 0 4 (dk_at dksX3_best_2 0 rfl rfl)
theorem dX3_best_49 : decode cX3_best 49 = .ok (.iload_n 2, 1) := dk_28 (dk_at dksX3_best_2 3 rfl rfl)
theorem dX3_best_50 : decode cX3_best 50 = .ok (.istore_n 2, 1) := dk_61 (dk_at dksX3_best_2 4 rfl rfl)
theorem dX3_best_51 : decode cX3_best 51 = .ok (.iload 5, 2) := dk_21 5 (dk_at dksX3_best_2 5 rfl rfl)
theorem dX3_best_53 : decode cX3_best 53 = .ok (.iload_n 3, 1) := dk_29 (dk_at dksX3_best_2 7 rfl rfl)
theorem dX3_best_54 : decode cX3_best 54 = .ok (.if_icmp .lt 8, 3) := dk_161 0 8 (dk_at dksX3_best_2 8 rfl rfl)
theorem dX3_best_57 : decode cX3_best 57 = .ok (.iload 5, 2) := dk_21 5 (dk_at dksX3_best_2 11 rfl rfl)
theorem dX3_best_59 : decode cX3_best 59 = .ok (.goto 4, 3) := dk_167 0 4 (dk_at dksX3_best_2 13 rfl rfl)
theorem dX3_best_62 : decode cX3_best 62 = .ok (.iload_n 3, 1) := dk_29 (dk_at dksX3_best_2 16 rfl rfl)
theorem dX3_best_63 : decode cX3_best 63 = .ok (.istore_n 3, 1) := dk_62 (dk_at dksX3_best_2 17 rfl rfl)
theorem dX3_best_64 : decode cX3_best 64 = .ok (.iinc 4 1, 3) := dk_132 4 1 (dk_at dksX3_best_2 18 rfl rfl)
theorem dX3_best_67 : decode cX3_best 67 = .ok (.goto (-49), 3) := dk_167 255 207 (dk_at dksX3_best_2 21 rfl rfl)
theorem dX3_best_70 : decode cX3_best 70 = .ok (.iload_n 2, 1) := dk_28 (dk_at dksX3_best_3 0 rfl rfl)
theorem dX3_best_71 : decode cX3_best 71 = .ok (.ireturn, 1) := dk_172 (dk_at dksX3_best_3 1 rfl rfl)
abbrev cX3_cover : ByteArray := prog_10_method_52_code
def yX3_cover : MethodName := ⟨RX3, "cover", "()I"⟩
def dkwX3_cover_3 : List UInt8 := [167, 255, 223, 29, 153, 0, 7, 28, 167, 0, 4, 27, 60, 132, 2, 1, 167, 255, 173, 27, 172]
abbrev dktX3_cover_3 : List UInt8 := dkwX3_cover_3 ++ []
def dkwX3_cover_2 : List UInt8 := [29, 153, 0, 26, 42, 21, 4, 182, 0, 222, 28, 126, 153, 0, 7, 4, 167, 0, 4, 3, 62, 132, 4, 1]
abbrev dktX3_cover_2 : List UInt8 := dkwX3_cover_2 ++ dktX3_cover_3
def dkwX3_cover_1 : List UInt8 := [184, 1, 24, 162, 0, 7, 4, 167, 0, 4, 3, 62, 3, 54, 4, 21, 4, 42, 180, 0, 103, 162, 0, 30]
abbrev dktX3_cover_1 : List UInt8 := dkwX3_cover_1 ++ dktX3_cover_2
def dkwX3_cover_0 : List UInt8 := [2, 60, 3, 61, 28, 4, 42, 180, 0, 106, 120, 162, 0, 79, 27, 155, 0, 14, 28, 184, 1, 24, 27]
abbrev dktX3_cover_0 : List UInt8 := dkwX3_cover_0 ++ dktX3_cover_1
theorem dksX3_cover_0 : cX3_cover.data.toList.drop 0 = dktX3_cover_0 := by decide +kernel
theorem dksX3_cover_1 : cX3_cover.data.toList.drop 23 = dktX3_cover_1 := dk_seg dksX3_cover_0 23 rfl rfl
theorem dksX3_cover_2 : cX3_cover.data.toList.drop 47 = dktX3_cover_2 := dk_seg dksX3_cover_1 24 rfl rfl
theorem dksX3_cover_3 : cX3_cover.data.toList.drop 71 = dktX3_cover_3 := dk_seg dksX3_cover_2 24 rfl rfl
theorem dX3_cover_0 : decode cX3_cover 0 = .ok (.iconst (-1), 1) := dk_2 (dk_at dksX3_cover_0 0 rfl rfl)
theorem dX3_cover_1 : decode cX3_cover 1 = .ok (.istore_n 1, 1) := dk_60 (dk_at dksX3_cover_0 1 rfl rfl)
theorem dX3_cover_2 : decode cX3_cover 2 = .ok (.iconst 0, 1) := dk_3 (dk_at dksX3_cover_0 2 rfl rfl)
theorem dX3_cover_3 : decode cX3_cover 3 = .ok (.istore_n 2, 1) := dk_61 (dk_at dksX3_cover_0 3 rfl rfl)
theorem dX3_cover_4 : decode cX3_cover 4 = .ok (.iload_n 2, 1) := dk_28 (dk_at dksX3_cover_0 4 rfl rfl)
theorem dX3_cover_5 : decode cX3_cover 5 = .ok (.iconst 1, 1) := dk_4 (dk_at dksX3_cover_0 5 rfl rfl)
theorem dX3_cover_6 : decode cX3_cover 6 = .ok (.aload_n 0, 1) := dk_42 (dk_at dksX3_cover_0 6 rfl rfl)
theorem dX3_cover_7 : decode cX3_cover 7 = .ok (.getfield 106, 3) := dk_180 0 106 (dk_at dksX3_cover_0 7 rfl rfl)
theorem dX3_cover_10 : decode cX3_cover 10 = .ok (.ishl, 1) := dk_120 (dk_at dksX3_cover_0 10 rfl rfl)
theorem dX3_cover_11 : decode cX3_cover 11 = .ok (.if_icmp .ge 79, 3) := dk_162 0 79 (dk_at dksX3_cover_0 11 rfl rfl)
theorem dX3_cover_14 : decode cX3_cover 14 = .ok (.iload_n 1, 1) := dk_27 (dk_at dksX3_cover_0 14 rfl rfl)
theorem dX3_cover_15 : decode cX3_cover 15 = .ok (.ifCond .lt 14, 3) := dk_155 0 14 (dk_at dksX3_cover_0 15 rfl rfl)
theorem dX3_cover_18 : decode cX3_cover 18 = .ok (.iload_n 2, 1) := dk_28 (dk_at dksX3_cover_0 18 rfl rfl)
theorem dX3_cover_19 : decode cX3_cover 19 = .ok (.invokestatic 280, 3) := dk_184 1 24 (dk_at dksX3_cover_0 19 rfl rfl)
theorem dX3_cover_22 : decode cX3_cover 22 = .ok (.iload_n 1, 1) := dk_27 (dk_at dksX3_cover_0 22 rfl rfl)
theorem dX3_cover_23 : decode cX3_cover 23 = .ok (.invokestatic 280, 3) := dk_184 1 24 (dk_at dksX3_cover_1 0 rfl rfl)
theorem dX3_cover_26 : decode cX3_cover 26 = .ok (.if_icmp .ge 7, 3) := dk_162 0 7 (dk_at dksX3_cover_1 3 rfl rfl)
theorem dX3_cover_29 : decode cX3_cover 29 = .ok (.iconst 1, 1) := dk_4 (dk_at dksX3_cover_1 6 rfl rfl)
theorem dX3_cover_30 : decode cX3_cover 30 = .ok (.goto 4, 3) := dk_167 0 4 (dk_at dksX3_cover_1 7 rfl rfl)
theorem dX3_cover_33 : decode cX3_cover 33 = .ok (.iconst 0, 1) := dk_3 (dk_at dksX3_cover_1 10 rfl rfl)
theorem dX3_cover_34 : decode cX3_cover 34 = .ok (.istore_n 3, 1) := dk_62 (dk_at dksX3_cover_1 11 rfl rfl)
theorem dX3_cover_35 : decode cX3_cover 35 = .ok (.iconst 0, 1) := dk_3 (dk_at dksX3_cover_1 12 rfl rfl)
theorem dX3_cover_36 : decode cX3_cover 36 = .ok (.istore 4, 2) := dk_54 4 (dk_at dksX3_cover_1 13 rfl rfl)
theorem dX3_cover_38 : decode cX3_cover 38 = .ok (.iload 4, 2) := dk_21 4 (dk_at dksX3_cover_1 15 rfl rfl)
theorem dX3_cover_40 : decode cX3_cover 40 = .ok (.aload_n 0, 1) := dk_42 (dk_at dksX3_cover_1 17 rfl rfl)
theorem dX3_cover_41 : decode cX3_cover 41 = .ok (.getfield 103, 3) := dk_180 0 103 (dk_at dksX3_cover_1 18 rfl rfl)
theorem dX3_cover_44 : decode cX3_cover 44 = .ok (.if_icmp .ge 30, 3) := dk_162 0 30 (dk_at dksX3_cover_1 21 rfl rfl)
theorem dX3_cover_47 : decode cX3_cover 47 = .ok (.iload_n 3, 1) := dk_29 (dk_at dksX3_cover_2 0 rfl rfl)
theorem dX3_cover_48 : decode cX3_cover 48 = .ok (.ifCond .eq 26, 3) := dk_153 0 26 (dk_at dksX3_cover_2 1 rfl rfl)
theorem dX3_cover_51 : decode cX3_cover 51 = .ok (.aload_n 0, 1) := dk_42 (dk_at dksX3_cover_2 4 rfl rfl)
theorem dX3_cover_52 : decode cX3_cover 52 = .ok (.iload 4, 2) := dk_21 4 (dk_at dksX3_cover_2 5 rfl rfl)
theorem dX3_cover_54 : decode cX3_cover 54 = .ok (.invokevirtual 222, 3) := dk_182 0 222 (dk_at dksX3_cover_2 7 rfl rfl)
theorem dX3_cover_57 : decode cX3_cover 57 = .ok (.iload_n 2, 1) := dk_28 (dk_at dksX3_cover_2 10 rfl rfl)
theorem dX3_cover_58 : decode cX3_cover 58 = .ok (.iand, 1) := dk_126 (dk_at dksX3_cover_2 11 rfl rfl)
theorem dX3_cover_59 : decode cX3_cover 59 = .ok (.ifCond .eq 7, 3) := dk_153 0 7 (dk_at dksX3_cover_2 12 rfl rfl)
theorem dX3_cover_62 : decode cX3_cover 62 = .ok (.iconst 1, 1) := dk_4 (dk_at dksX3_cover_2 15 rfl rfl)
theorem dX3_cover_63 : decode cX3_cover 63 = .ok (.goto 4, 3) := dk_167 0 4 (dk_at dksX3_cover_2 16 rfl rfl)
theorem dX3_cover_66 : decode cX3_cover 66 = .ok (.iconst 0, 1) := dk_3 (dk_at dksX3_cover_2 19 rfl rfl)
theorem dX3_cover_67 : decode cX3_cover 67 = .ok (.istore_n 3, 1) := dk_62 (dk_at dksX3_cover_2 20 rfl rfl)
theorem dX3_cover_68 : decode cX3_cover 68 = .ok (.iinc 4 1, 3) := dk_132 4 1 (dk_at dksX3_cover_2 21 rfl rfl)
theorem dX3_cover_71 : decode cX3_cover 71 = .ok (.goto (-33), 3) := dk_167 255 223 (dk_at dksX3_cover_3 0 rfl rfl)
theorem dX3_cover_74 : decode cX3_cover 74 = .ok (.iload_n 3, 1) := dk_29 (dk_at dksX3_cover_3 3 rfl rfl)
theorem dX3_cover_75 : decode cX3_cover 75 = .ok (.ifCond .eq 7, 3) := dk_153 0 7 (dk_at dksX3_cover_3 4 rfl rfl)
theorem dX3_cover_78 : decode cX3_cover 78 = .ok (.iload_n 2, 1) := dk_28 (dk_at dksX3_cover_3 7 rfl rfl)
theorem dX3_cover_79 : decode cX3_cover 79 = .ok (.goto 4, 3) := dk_167 0 4 (dk_at dksX3_cover_3 8 rfl rfl)
theorem dX3_cover_82 : decode cX3_cover 82 = .ok (.iload_n 1, 1) := dk_27 (dk_at dksX3_cover_3 11 rfl rfl)
theorem dX3_cover_83 : decode cX3_cover 83 = .ok (.istore_n 1, 1) := dk_60 (dk_at dksX3_cover_3 12 rfl rfl)
theorem dX3_cover_84 : decode cX3_cover 84 = .ok (.iinc 2 1, 3) := dk_132 2 1 (dk_at dksX3_cover_3 13 rfl rfl)
theorem dX3_cover_87 : decode cX3_cover 87 = .ok (.goto (-83), 3) := dk_167 255 173 (dk_at dksX3_cover_3 16 rfl rfl)
theorem dX3_cover_90 : decode cX3_cover 90 = .ok (.iload_n 1, 1) := dk_27 (dk_at dksX3_cover_3 19 rfl rfl)
theorem dX3_cover_91 : decode cX3_cover 91 = .ok (.ireturn, 1) := dk_172 (dk_at dksX3_cover_3 20 rfl rfl)
abbrev cX3_see : ByteArray := prog_10_method_53_code
def yX3_see : MethodName := ⟨RX3, "see", "(IIZ)I"⟩
def dkwX3_see_3 : List UInt8 := [181, 0, 198, 42, 180, 0, 198, 172]
abbrev dktX3_see_3 : List UInt8 := dkwX3_see_3 ++ []
def dkwX3_see_2 : List UInt8 := [180, 0, 198, 28, 79, 42, 180, 0, 77, 42, 180, 0, 198, 29, 84, 42, 89, 180, 0, 198, 4, 96]
abbrev dktX3_see_2 : List UInt8 := dkwX3_see_2 ++ dktX3_see_3
def dkwX3_see_1 : List UInt8 := [16, 20, 160, 0, 6, 18, 115, 172, 42, 180, 0, 71, 42, 180, 0, 198, 27, 79, 42, 180, 0, 74, 42]
abbrev dktX3_see_1 : List UInt8 := dkwX3_see_1 ++ dktX3_see_2
def dkwX3_see_0 : List UInt8 := [42, 27, 182, 1, 12, 153, 0, 11, 42, 28, 182, 1, 12, 154, 0, 6, 18, 221, 172, 42, 180, 0, 198]
abbrev dktX3_see_0 : List UInt8 := dkwX3_see_0 ++ dktX3_see_1
theorem dksX3_see_0 : cX3_see.data.toList.drop 0 = dktX3_see_0 := by decide +kernel
theorem dksX3_see_1 : cX3_see.data.toList.drop 23 = dktX3_see_1 := dk_seg dksX3_see_0 23 rfl rfl
theorem dksX3_see_2 : cX3_see.data.toList.drop 46 = dktX3_see_2 := dk_seg dksX3_see_1 23 rfl rfl
theorem dksX3_see_3 : cX3_see.data.toList.drop 68 = dktX3_see_3 := dk_seg dksX3_see_2 22 rfl rfl
theorem dX3_see_0 : decode cX3_see 0 = .ok (.aload_n 0, 1) := dk_42 (dk_at dksX3_see_0 0 rfl rfl)
theorem dX3_see_1 : decode cX3_see 1 = .ok (.iload_n 1, 1) := dk_27 (dk_at dksX3_see_0 1 rfl rfl)
theorem dX3_see_2 : decode cX3_see 2 = .ok (.invokevirtual 268, 3) := dk_182 1 12 (dk_at dksX3_see_0 2 rfl rfl)
theorem dX3_see_5 : decode cX3_see 5 = .ok (.ifCond .eq 11, 3) := dk_153 0 11 (dk_at dksX3_see_0 5 rfl rfl)
theorem dX3_see_8 : decode cX3_see 8 = .ok (.aload_n 0, 1) := dk_42 (dk_at dksX3_see_0 8 rfl rfl)
theorem dX3_see_9 : decode cX3_see 9 = .ok (.iload_n 2, 1) := dk_28 (dk_at dksX3_see_0 9 rfl rfl)
theorem dX3_see_10 : decode cX3_see 10 = .ok (.invokevirtual 268, 3) := dk_182 1 12 (dk_at dksX3_see_0 10 rfl rfl)
theorem dX3_see_13 : decode cX3_see 13 = .ok (.ifCond .ne 6, 3) := dk_154 0 6 (dk_at dksX3_see_0 13 rfl rfl)
theorem dX3_see_16 : decode cX3_see 16 = .ok (.ldc 221, 2) := dk_18 221 (dk_at dksX3_see_0 16 rfl rfl)
theorem dX3_see_18 : decode cX3_see 18 = .ok (.ireturn, 1) := dk_172 (dk_at dksX3_see_0 18 rfl rfl)
theorem dX3_see_19 : decode cX3_see 19 = .ok (.aload_n 0, 1) := dk_42 (dk_at dksX3_see_0 19 rfl rfl)
theorem dX3_see_20 : decode cX3_see 20 = .ok (.getfield 198, 3) := dk_180 0 198 (dk_at dksX3_see_0 20 rfl rfl)
theorem dX3_see_23 : decode cX3_see 23 = .ok (.bipush 20, 2) := dk_16 20 (dk_at dksX3_see_1 0 rfl rfl)
theorem dX3_see_25 : decode cX3_see 25 = .ok (.if_icmp .ne 6, 3) := dk_160 0 6 (dk_at dksX3_see_1 2 rfl rfl)
theorem dX3_see_28 : decode cX3_see 28 = .ok (.ldc 115, 2) := dk_18 115 (dk_at dksX3_see_1 5 rfl rfl)
theorem dX3_see_30 : decode cX3_see 30 = .ok (.ireturn, 1) := dk_172 (dk_at dksX3_see_1 7 rfl rfl)
theorem dX3_see_31 : decode cX3_see 31 = .ok (.aload_n 0, 1) := dk_42 (dk_at dksX3_see_1 8 rfl rfl)
theorem dX3_see_32 : decode cX3_see 32 = .ok (.getfield 71, 3) := dk_180 0 71 (dk_at dksX3_see_1 9 rfl rfl)
theorem dX3_see_35 : decode cX3_see 35 = .ok (.aload_n 0, 1) := dk_42 (dk_at dksX3_see_1 12 rfl rfl)
theorem dX3_see_36 : decode cX3_see 36 = .ok (.getfield 198, 3) := dk_180 0 198 (dk_at dksX3_see_1 13 rfl rfl)
theorem dX3_see_39 : decode cX3_see 39 = .ok (.iload_n 1, 1) := dk_27 (dk_at dksX3_see_1 16 rfl rfl)
theorem dX3_see_40 : decode cX3_see 40 = .ok (.iastore, 1) := dk_79 (dk_at dksX3_see_1 17 rfl rfl)
theorem dX3_see_41 : decode cX3_see 41 = .ok (.aload_n 0, 1) := dk_42 (dk_at dksX3_see_1 18 rfl rfl)
theorem dX3_see_42 : decode cX3_see 42 = .ok (.getfield 74, 3) := dk_180 0 74 (dk_at dksX3_see_1 19 rfl rfl)
theorem dX3_see_45 : decode cX3_see 45 = .ok (.aload_n 0, 1) := dk_42 (dk_at dksX3_see_1 22 rfl rfl)
theorem dX3_see_46 : decode cX3_see 46 = .ok (.getfield 198, 3) := dk_180 0 198 (dk_at dksX3_see_2 0 rfl rfl)
theorem dX3_see_49 : decode cX3_see 49 = .ok (.iload_n 2, 1) := dk_28 (dk_at dksX3_see_2 3 rfl rfl)
theorem dX3_see_50 : decode cX3_see 50 = .ok (.iastore, 1) := dk_79 (dk_at dksX3_see_2 4 rfl rfl)
theorem dX3_see_51 : decode cX3_see 51 = .ok (.aload_n 0, 1) := dk_42 (dk_at dksX3_see_2 5 rfl rfl)
theorem dX3_see_52 : decode cX3_see 52 = .ok (.getfield 77, 3) := dk_180 0 77 (dk_at dksX3_see_2 6 rfl rfl)
theorem dX3_see_55 : decode cX3_see 55 = .ok (.aload_n 0, 1) := dk_42 (dk_at dksX3_see_2 9 rfl rfl)
theorem dX3_see_56 : decode cX3_see 56 = .ok (.getfield 198, 3) := dk_180 0 198 (dk_at dksX3_see_2 10 rfl rfl)
theorem dX3_see_59 : decode cX3_see 59 = .ok (.iload_n 3, 1) := dk_29 (dk_at dksX3_see_2 13 rfl rfl)
theorem dX3_see_60 : decode cX3_see 60 = .ok (.bastore, 1) := dk_84 (dk_at dksX3_see_2 14 rfl rfl)
theorem dX3_see_61 : decode cX3_see 61 = .ok (.aload_n 0, 1) := dk_42 (dk_at dksX3_see_2 15 rfl rfl)
theorem dX3_see_62 : decode cX3_see 62 = .ok (.dup, 1) := dk_89 (dk_at dksX3_see_2 16 rfl rfl)
theorem dX3_see_63 : decode cX3_see 63 = .ok (.getfield 198, 3) := dk_180 0 198 (dk_at dksX3_see_2 17 rfl rfl)
theorem dX3_see_66 : decode cX3_see 66 = .ok (.iconst 1, 1) := dk_4 (dk_at dksX3_see_2 20 rfl rfl)
theorem dX3_see_67 : decode cX3_see 67 = .ok (.iadd, 1) := dk_96 (dk_at dksX3_see_2 21 rfl rfl)
theorem dX3_see_68 : decode cX3_see 68 = .ok (.putfield 198, 3) := dk_181 0 198 (dk_at dksX3_see_3 0 rfl rfl)
theorem dX3_see_71 : decode cX3_see 71 = .ok (.aload_n 0, 1) := dk_42 (dk_at dksX3_see_3 3 rfl rfl)
theorem dX3_see_72 : decode cX3_see 72 = .ok (.getfield 198, 3) := dk_180 0 198 (dk_at dksX3_see_3 4 rfl rfl)
theorem dX3_see_75 : decode cX3_see 75 = .ok (.ireturn, 1) := dk_172 (dk_at dksX3_see_3 7 rfl rfl)
abbrev cX3_fits : ByteArray := prog_10_method_54_code
def yX3_fits : MethodName := ⟨RX3, "fits", "()I"⟩
def dkwX3_fits_4 : List UInt8 := [167, 255, 168, 27, 172]
abbrev dktX3_fits_4 : List UInt8 := dkwX3_fits_4 ++ []
def dkwX3_fits_3 : List UInt8 := [167, 255, 201, 27, 29, 153, 0, 11, 4, 28, 4, 100, 120, 167, 0, 4, 3, 128, 60, 132, 2, 1]
abbrev dktX3_fits_3 : List UInt8 := dkwX3_fits_3 ++ dktX3_fits_4
def dkwX3_fits_2 : List UInt8 := [184, 0, 225, 42, 180, 0, 77, 21, 4, 51, 160, 0, 7, 4, 167, 0, 4, 3, 62, 132, 4, 1]
abbrev dktX3_fits_2 : List UInt8 := dkwX3_fits_2 ++ dktX3_fits_3
def dkwX3_fits_1 : List UInt8 := [29, 153, 0, 40, 42, 42, 180, 0, 71, 21, 4, 46, 28, 3, 182, 0, 228, 42, 180, 0, 74, 21, 4, 46]
abbrev dktX3_fits_1 : List UInt8 := dkwX3_fits_1 ++ dktX3_fits_2
def dkwX3_fits_0 : List UInt8 := [3, 60, 4, 61, 28, 16, 24, 163, 0, 88, 4, 62, 3, 54, 4, 21, 4, 42, 180, 0, 198, 162, 0, 52]
abbrev dktX3_fits_0 : List UInt8 := dkwX3_fits_0 ++ dktX3_fits_1
theorem dksX3_fits_0 : cX3_fits.data.toList.drop 0 = dktX3_fits_0 := by decide +kernel
theorem dksX3_fits_1 : cX3_fits.data.toList.drop 24 = dktX3_fits_1 := dk_seg dksX3_fits_0 24 rfl rfl
theorem dksX3_fits_2 : cX3_fits.data.toList.drop 48 = dktX3_fits_2 := dk_seg dksX3_fits_1 24 rfl rfl
theorem dksX3_fits_3 : cX3_fits.data.toList.drop 70 = dktX3_fits_3 := dk_seg dksX3_fits_2 22 rfl rfl
theorem dksX3_fits_4 : cX3_fits.data.toList.drop 92 = dktX3_fits_4 := dk_seg dksX3_fits_3 22 rfl rfl
theorem dX3_fits_0 : decode cX3_fits 0 = .ok (.iconst 0, 1) := dk_3 (dk_at dksX3_fits_0 0 rfl rfl)
theorem dX3_fits_1 : decode cX3_fits 1 = .ok (.istore_n 1, 1) := dk_60 (dk_at dksX3_fits_0 1 rfl rfl)
theorem dX3_fits_2 : decode cX3_fits 2 = .ok (.iconst 1, 1) := dk_4 (dk_at dksX3_fits_0 2 rfl rfl)
theorem dX3_fits_3 : decode cX3_fits 3 = .ok (.istore_n 2, 1) := dk_61 (dk_at dksX3_fits_0 3 rfl rfl)
theorem dX3_fits_4 : decode cX3_fits 4 = .ok (.iload_n 2, 1) := dk_28 (dk_at dksX3_fits_0 4 rfl rfl)
theorem dX3_fits_5 : decode cX3_fits 5 = .ok (.bipush 24, 2) := dk_16 24 (dk_at dksX3_fits_0 5 rfl rfl)
theorem dX3_fits_7 : decode cX3_fits 7 = .ok (.if_icmp .gt 88, 3) := dk_163 0 88 (dk_at dksX3_fits_0 7 rfl rfl)
theorem dX3_fits_10 : decode cX3_fits 10 = .ok (.iconst 1, 1) := dk_4 (dk_at dksX3_fits_0 10 rfl rfl)
theorem dX3_fits_11 : decode cX3_fits 11 = .ok (.istore_n 3, 1) := dk_62 (dk_at dksX3_fits_0 11 rfl rfl)
theorem dX3_fits_12 : decode cX3_fits 12 = .ok (.iconst 0, 1) := dk_3 (dk_at dksX3_fits_0 12 rfl rfl)
theorem dX3_fits_13 : decode cX3_fits 13 = .ok (.istore 4, 2) := dk_54 4 (dk_at dksX3_fits_0 13 rfl rfl)
theorem dX3_fits_15 : decode cX3_fits 15 = .ok (.iload 4, 2) := dk_21 4 (dk_at dksX3_fits_0 15 rfl rfl)
theorem dX3_fits_17 : decode cX3_fits 17 = .ok (.aload_n 0, 1) := dk_42 (dk_at dksX3_fits_0 17 rfl rfl)
theorem dX3_fits_18 : decode cX3_fits 18 = .ok (.getfield 198, 3) := dk_180 0 198 (dk_at dksX3_fits_0 18 rfl rfl)
theorem dX3_fits_21 : decode cX3_fits 21 = .ok (.if_icmp .ge 52, 3) := dk_162 0 52 (dk_at dksX3_fits_0 21 rfl rfl)
theorem dX3_fits_24 : decode cX3_fits 24 = .ok (.iload_n 3, 1) := dk_29 (dk_at dksX3_fits_1 0 rfl rfl)
theorem dX3_fits_25 : decode cX3_fits 25 = .ok (.ifCond .eq 40, 3) := dk_153 0 40 (dk_at dksX3_fits_1 1 rfl rfl)
theorem dX3_fits_28 : decode cX3_fits 28 = .ok (.aload_n 0, 1) := dk_42 (dk_at dksX3_fits_1 4 rfl rfl)
theorem dX3_fits_29 : decode cX3_fits 29 = .ok (.aload_n 0, 1) := dk_42 (dk_at dksX3_fits_1 5 rfl rfl)
theorem dX3_fits_30 : decode cX3_fits 30 = .ok (.getfield 71, 3) := dk_180 0 71 (dk_at dksX3_fits_1 6 rfl rfl)
theorem dX3_fits_33 : decode cX3_fits 33 = .ok (.iload 4, 2) := dk_21 4 (dk_at dksX3_fits_1 9 rfl rfl)
theorem dX3_fits_35 : decode cX3_fits 35 = .ok (.iaload, 1) := dk_46 (dk_at dksX3_fits_1 11 rfl rfl)
theorem dX3_fits_36 : decode cX3_fits 36 = .ok (.iload_n 2, 1) := dk_28 (dk_at dksX3_fits_1 12 rfl rfl)
theorem dX3_fits_37 : decode cX3_fits 37 = .ok (.iconst 0, 1) := dk_3 (dk_at dksX3_fits_1 13 rfl rfl)
theorem dX3_fits_38 : decode cX3_fits 38 = .ok (.invokevirtual 228, 3) := dk_182 0 228 (dk_at dksX3_fits_1 14 rfl rfl)
theorem dX3_fits_41 : decode cX3_fits 41 = .ok (.aload_n 0, 1) := dk_42 (dk_at dksX3_fits_1 17 rfl rfl)
theorem dX3_fits_42 : decode cX3_fits 42 = .ok (.getfield 74, 3) := dk_180 0 74 (dk_at dksX3_fits_1 18 rfl rfl)
theorem dX3_fits_45 : decode cX3_fits 45 = .ok (.iload 4, 2) := dk_21 4 (dk_at dksX3_fits_1 21 rfl rfl)
theorem dX3_fits_47 : decode cX3_fits 47 = .ok (.iaload, 1) := dk_46 (dk_at dksX3_fits_1 23 rfl rfl)
theorem dX3_fits_48 : decode cX3_fits 48 = .ok (.invokestatic 225, 3) := dk_184 0 225 (dk_at dksX3_fits_2 0 rfl rfl)
theorem dX3_fits_51 : decode cX3_fits 51 = .ok (.aload_n 0, 1) := dk_42 (dk_at dksX3_fits_2 3 rfl rfl)
theorem dX3_fits_52 : decode cX3_fits 52 = .ok (.getfield 77, 3) := dk_180 0 77 (dk_at dksX3_fits_2 4 rfl rfl)
theorem dX3_fits_55 : decode cX3_fits 55 = .ok (.iload 4, 2) := dk_21 4 (dk_at dksX3_fits_2 7 rfl rfl)
theorem dX3_fits_57 : decode cX3_fits 57 = .ok (.baload, 1) := dk_51 (dk_at dksX3_fits_2 9 rfl rfl)
theorem dX3_fits_58 : decode cX3_fits 58 = .ok (.if_icmp .ne 7, 3) := dk_160 0 7 (dk_at dksX3_fits_2 10 rfl rfl)
theorem dX3_fits_61 : decode cX3_fits 61 = .ok (.iconst 1, 1) := dk_4 (dk_at dksX3_fits_2 13 rfl rfl)
theorem dX3_fits_62 : decode cX3_fits 62 = .ok (.goto 4, 3) := dk_167 0 4 (dk_at dksX3_fits_2 14 rfl rfl)
theorem dX3_fits_65 : decode cX3_fits 65 = .ok (.iconst 0, 1) := dk_3 (dk_at dksX3_fits_2 17 rfl rfl)
theorem dX3_fits_66 : decode cX3_fits 66 = .ok (.istore_n 3, 1) := dk_62 (dk_at dksX3_fits_2 18 rfl rfl)
theorem dX3_fits_67 : decode cX3_fits 67 = .ok (.iinc 4 1, 3) := dk_132 4 1 (dk_at dksX3_fits_2 19 rfl rfl)
theorem dX3_fits_70 : decode cX3_fits 70 = .ok (.goto (-55), 3) := dk_167 255 201 (dk_at dksX3_fits_3 0 rfl rfl)
theorem dX3_fits_73 : decode cX3_fits 73 = .ok (.iload_n 1, 1) := dk_27 (dk_at dksX3_fits_3 3 rfl rfl)
theorem dX3_fits_74 : decode cX3_fits 74 = .ok (.iload_n 3, 1) := dk_29 (dk_at dksX3_fits_3 4 rfl rfl)
theorem dX3_fits_75 : decode cX3_fits 75 = .ok (.ifCond .eq 11, 3) := dk_153 0 11 (dk_at dksX3_fits_3 5 rfl rfl)
theorem dX3_fits_78 : decode cX3_fits 78 = .ok (.iconst 1, 1) := dk_4 (dk_at dksX3_fits_3 8 rfl rfl)
theorem dX3_fits_79 : decode cX3_fits 79 = .ok (.iload_n 2, 1) := dk_28 (dk_at dksX3_fits_3 9 rfl rfl)
theorem dX3_fits_80 : decode cX3_fits 80 = .ok (.iconst 1, 1) := dk_4 (dk_at dksX3_fits_3 10 rfl rfl)
theorem dX3_fits_81 : decode cX3_fits 81 = .ok (.isub, 1) := dk_100 (dk_at dksX3_fits_3 11 rfl rfl)
theorem dX3_fits_82 : decode cX3_fits 82 = .ok (.ishl, 1) := dk_120 (dk_at dksX3_fits_3 12 rfl rfl)
theorem dX3_fits_83 : decode cX3_fits 83 = .ok (.goto 4, 3) := dk_167 0 4 (dk_at dksX3_fits_3 13 rfl rfl)
theorem dX3_fits_86 : decode cX3_fits 86 = .ok (.iconst 0, 1) := dk_3 (dk_at dksX3_fits_3 16 rfl rfl)
theorem dX3_fits_87 : decode cX3_fits 87 = .ok (.ior, 1) := dk_128 (dk_at dksX3_fits_3 17 rfl rfl)
theorem dX3_fits_88 : decode cX3_fits 88 = .ok (.istore_n 1, 1) := dk_60 (dk_at dksX3_fits_3 18 rfl rfl)
theorem dX3_fits_89 : decode cX3_fits 89 = .ok (.iinc 2 1, 3) := dk_132 2 1 (dk_at dksX3_fits_3 19 rfl rfl)
theorem dX3_fits_92 : decode cX3_fits 92 = .ok (.goto (-88), 3) := dk_167 255 168 (dk_at dksX3_fits_4 0 rfl rfl)
theorem dX3_fits_95 : decode cX3_fits 95 = .ok (.iload_n 1, 1) := dk_27 (dk_at dksX3_fits_4 3 rfl rfl)
theorem dX3_fits_96 : decode cX3_fits 96 = .ok (.ireturn, 1) := dk_172 (dk_at dksX3_fits_4 4 rfl rfl)
abbrev cX3_ask : ByteArray := prog_10_method_55_code
def yX3_ask : MethodName := ⟨RX3, "ask", "()I"⟩
def dkwX3_ask_6 : List UInt8 := [153, 0, 8, 21, 7, 167, 0, 4, 29, 62, 132, 4, 1, 167, 255, 111, 28, 172]
abbrev dktX3_ask_6 : List UInt8 := dkwX3_ask_6 ++ []
def dkwX3_ask_5 : List UInt8 := [162, 0, 7, 4, 167, 0, 4, 3, 54, 8, 21, 8, 153, 0, 8, 21, 4, 167, 0, 4, 28, 61, 21, 8]
abbrev dktX3_ask_5 : List UInt8 := dkwX3_ask_5 ++ dktX3_ask_6
def dkwX3_ask_4 : List UInt8 := [21, 6, 21, 5, 100, 54, 7, 21, 5, 158, 0, 22, 21, 6, 158, 0, 17, 28, 155, 0, 9, 21, 7, 29]
abbrev dktX3_ask_4 : List UInt8 := dkwX3_ask_4 ++ dktX3_ask_5
def dkwX3_ask_3 : List UInt8 := [27, 184, 1, 24, 21, 5, 100, 54, 6, 21, 5, 21, 6, 164, 0, 11, 21, 5, 21, 6, 100, 167, 0, 8]
abbrev dktX3_ask_3 : List UInt8 := dkwX3_ask_3 ++ dktX3_ask_4
def dkwX3_ask_2 : List UInt8 := [21, 4, 21, 6, 182, 0, 210, 153, 0, 7, 4, 167, 0, 4, 3, 96, 54, 5, 132, 6, 1, 167, 255, 214]
abbrev dktX3_ask_2 : List UInt8 := dkwX3_ask_2 ++ dktX3_ask_3
def dkwX3_ask_1 : List UInt8 := [4, 54, 6, 21, 6, 16, 24, 163, 0, 41, 21, 5, 27, 21, 6, 4, 100, 184, 0, 225, 153, 0, 18, 42]
abbrev dktX3_ask_1 : List UInt8 := dkwX3_ask_1 ++ dktX3_ask_2
def dkwX3_ask_0 : List UInt8 := [42, 182, 1, 36, 60, 2, 61, 3, 62, 3, 54, 4, 21, 4, 42, 180, 0, 103, 162, 0, 142, 3, 54, 5]
abbrev dktX3_ask_0 : List UInt8 := dkwX3_ask_0 ++ dktX3_ask_1
theorem dksX3_ask_0 : cX3_ask.data.toList.drop 0 = dktX3_ask_0 := by decide +kernel
theorem dksX3_ask_1 : cX3_ask.data.toList.drop 24 = dktX3_ask_1 := dk_seg dksX3_ask_0 24 rfl rfl
theorem dksX3_ask_2 : cX3_ask.data.toList.drop 48 = dktX3_ask_2 := dk_seg dksX3_ask_1 24 rfl rfl
theorem dksX3_ask_3 : cX3_ask.data.toList.drop 72 = dktX3_ask_3 := dk_seg dksX3_ask_2 24 rfl rfl
theorem dksX3_ask_4 : cX3_ask.data.toList.drop 96 = dktX3_ask_4 := dk_seg dksX3_ask_3 24 rfl rfl
theorem dksX3_ask_5 : cX3_ask.data.toList.drop 120 = dktX3_ask_5 := dk_seg dksX3_ask_4 24 rfl rfl
theorem dksX3_ask_6 : cX3_ask.data.toList.drop 144 = dktX3_ask_6 := dk_seg dksX3_ask_5 24 rfl rfl
theorem dX3_ask_0 : decode cX3_ask 0 = .ok (.aload_n 0, 1) := dk_42 (dk_at dksX3_ask_0 0 rfl rfl)
theorem dX3_ask_1 : decode cX3_ask 1 = .ok (.invokevirtual 292, 3) := dk_182 1 36 (dk_at dksX3_ask_0 1 rfl rfl)
theorem dX3_ask_4 : decode cX3_ask 4 = .ok (.istore_n 1, 1) := dk_60 (dk_at dksX3_ask_0 4 rfl rfl)
theorem dX3_ask_5 : decode cX3_ask 5 = .ok (.iconst (-1), 1) := dk_2 (dk_at dksX3_ask_0 5 rfl rfl)
theorem dX3_ask_6 : decode cX3_ask 6 = .ok (.istore_n 2, 1) := dk_61 (dk_at dksX3_ask_0 6 rfl rfl)
theorem dX3_ask_7 : decode cX3_ask 7 = .ok (.iconst 0, 1) := dk_3 (dk_at dksX3_ask_0 7 rfl rfl)
theorem dX3_ask_8 : decode cX3_ask 8 = .ok (.istore_n 3, 1) := dk_62 (dk_at dksX3_ask_0 8 rfl rfl)
theorem dX3_ask_9 : decode cX3_ask 9 = .ok (.iconst 0, 1) := dk_3 (dk_at dksX3_ask_0 9 rfl rfl)
theorem dX3_ask_10 : decode cX3_ask 10 = .ok (.istore 4, 2) := dk_54 4 (dk_at dksX3_ask_0 10 rfl rfl)
theorem dX3_ask_12 : decode cX3_ask 12 = .ok (.iload 4, 2) := dk_21 4 (dk_at dksX3_ask_0 12 rfl rfl)
theorem dX3_ask_14 : decode cX3_ask 14 = .ok (.aload_n 0, 1) := dk_42 (dk_at dksX3_ask_0 14 rfl rfl)
theorem dX3_ask_15 : decode cX3_ask 15 = .ok (.getfield 103, 3) := dk_180 0 103 (dk_at dksX3_ask_0 15 rfl rfl)
theorem dX3_ask_18 : decode cX3_ask 18 = .ok (.if_icmp .ge 142, 3) := dk_162 0 142 (dk_at dksX3_ask_0 18 rfl rfl)
theorem dX3_ask_21 : decode cX3_ask 21 = .ok (.iconst 0, 1) := dk_3 (dk_at dksX3_ask_0 21 rfl rfl)
theorem dX3_ask_22 : decode cX3_ask 22 = .ok (.istore 5, 2) := dk_54 5 (dk_at dksX3_ask_0 22 rfl rfl)
theorem dX3_ask_24 : decode cX3_ask 24 = .ok (.iconst 1, 1) := dk_4 (dk_at dksX3_ask_1 0 rfl rfl)
theorem dX3_ask_25 : decode cX3_ask 25 = .ok (.istore 6, 2) := dk_54 6 (dk_at dksX3_ask_1 1 rfl rfl)
theorem dX3_ask_27 : decode cX3_ask 27 = .ok (.iload 6, 2) := dk_21 6 (dk_at dksX3_ask_1 3 rfl rfl)
theorem dX3_ask_29 : decode cX3_ask 29 = .ok (.bipush 24, 2) := dk_16 24 (dk_at dksX3_ask_1 5 rfl rfl)
theorem dX3_ask_31 : decode cX3_ask 31 = .ok (.if_icmp .gt 41, 3) := dk_163 0 41 (dk_at dksX3_ask_1 7 rfl rfl)
theorem dX3_ask_34 : decode cX3_ask 34 = .ok (.iload 5, 2) := dk_21 5 (dk_at dksX3_ask_1 10 rfl rfl)
theorem dX3_ask_36 : decode cX3_ask 36 = .ok (.iload_n 1, 1) := dk_27 (dk_at dksX3_ask_1 12 rfl rfl)
theorem dX3_ask_37 : decode cX3_ask 37 = .ok (.iload 6, 2) := dk_21 6 (dk_at dksX3_ask_1 13 rfl rfl)
theorem dX3_ask_39 : decode cX3_ask 39 = .ok (.iconst 1, 1) := dk_4 (dk_at dksX3_ask_1 15 rfl rfl)
theorem dX3_ask_40 : decode cX3_ask 40 = .ok (.isub, 1) := dk_100 (dk_at dksX3_ask_1 16 rfl rfl)
theorem dX3_ask_41 : decode cX3_ask 41 = .ok (.invokestatic 225, 3) := dk_184 0 225 (dk_at dksX3_ask_1 17 rfl rfl)
theorem dX3_ask_44 : decode cX3_ask 44 = .ok (.ifCond .eq 18, 3) := dk_153 0 18 (dk_at dksX3_ask_1 20 rfl rfl)
theorem dX3_ask_47 : decode cX3_ask 47 = .ok (.aload_n 0, 1) := dk_42 (dk_at dksX3_ask_1 23 rfl rfl)
theorem dX3_ask_48 : decode cX3_ask 48 = .ok (.iload 4, 2) := dk_21 4 (dk_at dksX3_ask_2 0 rfl rfl)
theorem dX3_ask_50 : decode cX3_ask 50 = .ok (.iload 6, 2) := dk_21 6 (dk_at dksX3_ask_2 2 rfl rfl)
theorem dX3_ask_52 : decode cX3_ask 52 = .ok (.invokevirtual 210, 3) := dk_182 0 210 (dk_at dksX3_ask_2 4 rfl rfl)
theorem dX3_ask_55 : decode cX3_ask 55 = .ok (.ifCond .eq 7, 3) := dk_153 0 7 (dk_at dksX3_ask_2 7 rfl rfl)
theorem dX3_ask_58 : decode cX3_ask 58 = .ok (.iconst 1, 1) := dk_4 (dk_at dksX3_ask_2 10 rfl rfl)
theorem dX3_ask_59 : decode cX3_ask 59 = .ok (.goto 4, 3) := dk_167 0 4 (dk_at dksX3_ask_2 11 rfl rfl)
theorem dX3_ask_62 : decode cX3_ask 62 = .ok (.iconst 0, 1) := dk_3 (dk_at dksX3_ask_2 14 rfl rfl)
theorem dX3_ask_63 : decode cX3_ask 63 = .ok (.iadd, 1) := dk_96 (dk_at dksX3_ask_2 15 rfl rfl)
theorem dX3_ask_64 : decode cX3_ask 64 = .ok (.istore 5, 2) := dk_54 5 (dk_at dksX3_ask_2 16 rfl rfl)
theorem dX3_ask_66 : decode cX3_ask 66 = .ok (.iinc 6 1, 3) := dk_132 6 1 (dk_at dksX3_ask_2 18 rfl rfl)
theorem dX3_ask_69 : decode cX3_ask 69 = .ok (.goto (-42), 3) := dk_167 255 214 (dk_at dksX3_ask_2 21 rfl rfl)
theorem dX3_ask_72 : decode cX3_ask 72 = .ok (.iload_n 1, 1) := dk_27 (dk_at dksX3_ask_3 0 rfl rfl)
theorem dX3_ask_73 : decode cX3_ask 73 = .ok (.invokestatic 280, 3) := dk_184 1 24 (dk_at dksX3_ask_3 1 rfl rfl)
theorem dX3_ask_76 : decode cX3_ask 76 = .ok (.iload 5, 2) := dk_21 5 (dk_at dksX3_ask_3 4 rfl rfl)
theorem dX3_ask_78 : decode cX3_ask 78 = .ok (.isub, 1) := dk_100 (dk_at dksX3_ask_3 6 rfl rfl)
theorem dX3_ask_79 : decode cX3_ask 79 = .ok (.istore 6, 2) := dk_54 6 (dk_at dksX3_ask_3 7 rfl rfl)
theorem dX3_ask_81 : decode cX3_ask 81 = .ok (.iload 5, 2) := dk_21 5 (dk_at dksX3_ask_3 9 rfl rfl)
theorem dX3_ask_83 : decode cX3_ask 83 = .ok (.iload 6, 2) := dk_21 6 (dk_at dksX3_ask_3 11 rfl rfl)
theorem dX3_ask_85 : decode cX3_ask 85 = .ok (.if_icmp .le 11, 3) := dk_164 0 11 (dk_at dksX3_ask_3 13 rfl rfl)
theorem dX3_ask_88 : decode cX3_ask 88 = .ok (.iload 5, 2) := dk_21 5 (dk_at dksX3_ask_3 16 rfl rfl)
theorem dX3_ask_90 : decode cX3_ask 90 = .ok (.iload 6, 2) := dk_21 6 (dk_at dksX3_ask_3 18 rfl rfl)
theorem dX3_ask_92 : decode cX3_ask 92 = .ok (.isub, 1) := dk_100 (dk_at dksX3_ask_3 20 rfl rfl)
theorem dX3_ask_93 : decode cX3_ask 93 = .ok (.goto 8, 3) := dk_167 0 8 (dk_at dksX3_ask_3 21 rfl rfl)
theorem dX3_ask_96 : decode cX3_ask 96 = .ok (.iload 6, 2) := dk_21 6 (dk_at dksX3_ask_4 0 rfl rfl)
theorem dX3_ask_98 : decode cX3_ask 98 = .ok (.iload 5, 2) := dk_21 5 (dk_at dksX3_ask_4 2 rfl rfl)
theorem dX3_ask_100 : decode cX3_ask 100 = .ok (.isub, 1) := dk_100 (dk_at dksX3_ask_4 4 rfl rfl)
theorem dX3_ask_101 : decode cX3_ask 101 = .ok (.istore 7, 2) := dk_54 7 (dk_at dksX3_ask_4 5 rfl rfl)
theorem dX3_ask_103 : decode cX3_ask 103 = .ok (.iload 5, 2) := dk_21 5 (dk_at dksX3_ask_4 7 rfl rfl)
theorem dX3_ask_105 : decode cX3_ask 105 = .ok (.ifCond .le 22, 3) := dk_158 0 22 (dk_at dksX3_ask_4 9 rfl rfl)
theorem dX3_ask_108 : decode cX3_ask 108 = .ok (.iload 6, 2) := dk_21 6 (dk_at dksX3_ask_4 12 rfl rfl)
theorem dX3_ask_110 : decode cX3_ask 110 = .ok (.ifCond .le 17, 3) := dk_158 0 17 (dk_at dksX3_ask_4 14 rfl rfl)
theorem dX3_ask_113 : decode cX3_ask 113 = .ok (.iload_n 2, 1) := dk_28 (dk_at dksX3_ask_4 17 rfl rfl)
theorem dX3_ask_114 : decode cX3_ask 114 = .ok (.ifCond .lt 9, 3) := dk_155 0 9 (dk_at dksX3_ask_4 18 rfl rfl)
theorem dX3_ask_117 : decode cX3_ask 117 = .ok (.iload 7, 2) := dk_21 7 (dk_at dksX3_ask_4 21 rfl rfl)
theorem dX3_ask_119 : decode cX3_ask 119 = .ok (.iload_n 3, 1) := dk_29 (dk_at dksX3_ask_4 23 rfl rfl)
theorem dX3_ask_120 : decode cX3_ask 120 = .ok (.if_icmp .ge 7, 3) := dk_162 0 7 (dk_at dksX3_ask_5 0 rfl rfl)
theorem dX3_ask_123 : decode cX3_ask 123 = .ok (.iconst 1, 1) := dk_4 (dk_at dksX3_ask_5 3 rfl rfl)
theorem dX3_ask_124 : decode cX3_ask 124 = .ok (.goto 4, 3) := dk_167 0 4 (dk_at dksX3_ask_5 4 rfl rfl)
theorem dX3_ask_127 : decode cX3_ask 127 = .ok (.iconst 0, 1) := dk_3 (dk_at dksX3_ask_5 7 rfl rfl)
theorem dX3_ask_128 : decode cX3_ask 128 = .ok (.istore 8, 2) := dk_54 8 (dk_at dksX3_ask_5 8 rfl rfl)
theorem dX3_ask_130 : decode cX3_ask 130 = .ok (.iload 8, 2) := dk_21 8 (dk_at dksX3_ask_5 10 rfl rfl)
theorem dX3_ask_132 : decode cX3_ask 132 = .ok (.ifCond .eq 8, 3) := dk_153 0 8 (dk_at dksX3_ask_5 12 rfl rfl)
theorem dX3_ask_135 : decode cX3_ask 135 = .ok (.iload 4, 2) := dk_21 4 (dk_at dksX3_ask_5 15 rfl rfl)
theorem dX3_ask_137 : decode cX3_ask 137 = .ok (.goto 4, 3) := dk_167 0 4 (dk_at dksX3_ask_5 17 rfl rfl)
theorem dX3_ask_140 : decode cX3_ask 140 = .ok (.iload_n 2, 1) := dk_28 (dk_at dksX3_ask_5 20 rfl rfl)
theorem dX3_ask_141 : decode cX3_ask 141 = .ok (.istore_n 2, 1) := dk_61 (dk_at dksX3_ask_5 21 rfl rfl)
theorem dX3_ask_142 : decode cX3_ask 142 = .ok (.iload 8, 2) := dk_21 8 (dk_at dksX3_ask_5 22 rfl rfl)
theorem dX3_ask_144 : decode cX3_ask 144 = .ok (.ifCond .eq 8, 3) := dk_153 0 8 (dk_at dksX3_ask_6 0 rfl rfl)
theorem dX3_ask_147 : decode cX3_ask 147 = .ok (.iload 7, 2) := dk_21 7 (dk_at dksX3_ask_6 3 rfl rfl)
theorem dX3_ask_149 : decode cX3_ask 149 = .ok (.goto 4, 3) := dk_167 0 4 (dk_at dksX3_ask_6 5 rfl rfl)
theorem dX3_ask_152 : decode cX3_ask 152 = .ok (.iload_n 3, 1) := dk_29 (dk_at dksX3_ask_6 8 rfl rfl)
theorem dX3_ask_153 : decode cX3_ask 153 = .ok (.istore_n 3, 1) := dk_62 (dk_at dksX3_ask_6 9 rfl rfl)
theorem dX3_ask_154 : decode cX3_ask 154 = .ok (.iinc 4 1, 3) := dk_132 4 1 (dk_at dksX3_ask_6 10 rfl rfl)
theorem dX3_ask_157 : decode cX3_ask 157 = .ok (.goto (-145), 3) := dk_167 255 111 (dk_at dksX3_ask_6 13 rfl rfl)
theorem dX3_ask_160 : decode cX3_ask 160 = .ok (.iload_n 2, 1) := dk_28 (dk_at dksX3_ask_6 16 rfl rfl)
theorem dX3_ask_161 : decode cX3_ask 161 = .ok (.ireturn, 1) := dk_172 (dk_at dksX3_ask_6 17 rfl rfl)
abbrev cX3_write : ByteArray := prog_10_method_56_code
def yX3_write : MethodName := ⟨RX3, "write", "(II)I"⟩
def dkwX3_write_2 : List UInt8 := [180, 0, 201, 28, 79, 42, 89, 180, 0, 201, 4, 96, 181, 0, 201, 42, 180, 0, 201, 172]
abbrev dktX3_write_2 : List UInt8 := dkwX3_write_2 ++ []
def dkwX3_write_1 : List UInt8 := [16, 40, 160, 0, 6, 18, 115, 172, 42, 180, 0, 81, 42, 180, 0, 201, 27, 79, 42, 180, 0, 84, 42]
abbrev dktX3_write_1 : List UInt8 := dkwX3_write_1 ++ dktX3_write_2
def dkwX3_write_0 : List UInt8 := [42, 27, 182, 0, 232, 153, 0, 11, 42, 28, 182, 0, 217, 154, 0, 6, 18, 221, 172, 42, 180, 0, 201]
abbrev dktX3_write_0 : List UInt8 := dkwX3_write_0 ++ dktX3_write_1
theorem dksX3_write_0 : cX3_write.data.toList.drop 0 = dktX3_write_0 := by decide +kernel
theorem dksX3_write_1 : cX3_write.data.toList.drop 23 = dktX3_write_1 := dk_seg dksX3_write_0 23 rfl rfl
theorem dksX3_write_2 : cX3_write.data.toList.drop 46 = dktX3_write_2 := dk_seg dksX3_write_1 23 rfl rfl
theorem dX3_write_0 : decode cX3_write 0 = .ok (.aload_n 0, 1) := dk_42 (dk_at dksX3_write_0 0 rfl rfl)
theorem dX3_write_1 : decode cX3_write 1 = .ok (.iload_n 1, 1) := dk_27 (dk_at dksX3_write_0 1 rfl rfl)
theorem dX3_write_2 : decode cX3_write 2 = .ok (.invokevirtual 232, 3) := dk_182 0 232 (dk_at dksX3_write_0 2 rfl rfl)
theorem dX3_write_5 : decode cX3_write 5 = .ok (.ifCond .eq 11, 3) := dk_153 0 11 (dk_at dksX3_write_0 5 rfl rfl)
theorem dX3_write_8 : decode cX3_write 8 = .ok (.aload_n 0, 1) := dk_42 (dk_at dksX3_write_0 8 rfl rfl)
theorem dX3_write_9 : decode cX3_write 9 = .ok (.iload_n 2, 1) := dk_28 (dk_at dksX3_write_0 9 rfl rfl)
theorem dX3_write_10 : decode cX3_write 10 = .ok (.invokevirtual 217, 3) := dk_182 0 217 (dk_at dksX3_write_0 10 rfl rfl)
theorem dX3_write_13 : decode cX3_write 13 = .ok (.ifCond .ne 6, 3) := dk_154 0 6 (dk_at dksX3_write_0 13 rfl rfl)
theorem dX3_write_16 : decode cX3_write 16 = .ok (.ldc 221, 2) := dk_18 221 (dk_at dksX3_write_0 16 rfl rfl)
theorem dX3_write_18 : decode cX3_write 18 = .ok (.ireturn, 1) := dk_172 (dk_at dksX3_write_0 18 rfl rfl)
theorem dX3_write_19 : decode cX3_write 19 = .ok (.aload_n 0, 1) := dk_42 (dk_at dksX3_write_0 19 rfl rfl)
theorem dX3_write_20 : decode cX3_write 20 = .ok (.getfield 201, 3) := dk_180 0 201 (dk_at dksX3_write_0 20 rfl rfl)
theorem dX3_write_23 : decode cX3_write 23 = .ok (.bipush 40, 2) := dk_16 40 (dk_at dksX3_write_1 0 rfl rfl)
theorem dX3_write_25 : decode cX3_write 25 = .ok (.if_icmp .ne 6, 3) := dk_160 0 6 (dk_at dksX3_write_1 2 rfl rfl)
theorem dX3_write_28 : decode cX3_write 28 = .ok (.ldc 115, 2) := dk_18 115 (dk_at dksX3_write_1 5 rfl rfl)
theorem dX3_write_30 : decode cX3_write 30 = .ok (.ireturn, 1) := dk_172 (dk_at dksX3_write_1 7 rfl rfl)
theorem dX3_write_31 : decode cX3_write 31 = .ok (.aload_n 0, 1) := dk_42 (dk_at dksX3_write_1 8 rfl rfl)
theorem dX3_write_32 : decode cX3_write 32 = .ok (.getfield 81, 3) := dk_180 0 81 (dk_at dksX3_write_1 9 rfl rfl)
theorem dX3_write_35 : decode cX3_write 35 = .ok (.aload_n 0, 1) := dk_42 (dk_at dksX3_write_1 12 rfl rfl)
theorem dX3_write_36 : decode cX3_write 36 = .ok (.getfield 201, 3) := dk_180 0 201 (dk_at dksX3_write_1 13 rfl rfl)
theorem dX3_write_39 : decode cX3_write 39 = .ok (.iload_n 1, 1) := dk_27 (dk_at dksX3_write_1 16 rfl rfl)
theorem dX3_write_40 : decode cX3_write 40 = .ok (.iastore, 1) := dk_79 (dk_at dksX3_write_1 17 rfl rfl)
theorem dX3_write_41 : decode cX3_write 41 = .ok (.aload_n 0, 1) := dk_42 (dk_at dksX3_write_1 18 rfl rfl)
theorem dX3_write_42 : decode cX3_write 42 = .ok (.getfield 84, 3) := dk_180 0 84 (dk_at dksX3_write_1 19 rfl rfl)
theorem dX3_write_45 : decode cX3_write 45 = .ok (.aload_n 0, 1) := dk_42 (dk_at dksX3_write_1 22 rfl rfl)
theorem dX3_write_46 : decode cX3_write 46 = .ok (.getfield 201, 3) := dk_180 0 201 (dk_at dksX3_write_2 0 rfl rfl)
theorem dX3_write_49 : decode cX3_write 49 = .ok (.iload_n 2, 1) := dk_28 (dk_at dksX3_write_2 3 rfl rfl)
theorem dX3_write_50 : decode cX3_write 50 = .ok (.iastore, 1) := dk_79 (dk_at dksX3_write_2 4 rfl rfl)
theorem dX3_write_51 : decode cX3_write 51 = .ok (.aload_n 0, 1) := dk_42 (dk_at dksX3_write_2 5 rfl rfl)
theorem dX3_write_52 : decode cX3_write 52 = .ok (.dup, 1) := dk_89 (dk_at dksX3_write_2 6 rfl rfl)
theorem dX3_write_53 : decode cX3_write 53 = .ok (.getfield 201, 3) := dk_180 0 201 (dk_at dksX3_write_2 7 rfl rfl)
theorem dX3_write_56 : decode cX3_write 56 = .ok (.iconst 1, 1) := dk_4 (dk_at dksX3_write_2 10 rfl rfl)
theorem dX3_write_57 : decode cX3_write 57 = .ok (.iadd, 1) := dk_96 (dk_at dksX3_write_2 11 rfl rfl)
theorem dX3_write_58 : decode cX3_write 58 = .ok (.putfield 201, 3) := dk_181 0 201 (dk_at dksX3_write_2 12 rfl rfl)
theorem dX3_write_61 : decode cX3_write 61 = .ok (.aload_n 0, 1) := dk_42 (dk_at dksX3_write_2 15 rfl rfl)
theorem dX3_write_62 : decode cX3_write 62 = .ok (.getfield 201, 3) := dk_180 0 201 (dk_at dksX3_write_2 16 rfl rfl)
theorem dX3_write_65 : decode cX3_write 65 = .ok (.ireturn, 1) := dk_172 (dk_at dksX3_write_2 19 rfl rfl)
abbrev cX3_tear : ByteArray := prog_10_method_57_code
def yX3_tear : MethodName := ⟨RX3, "tear", "()I"⟩
def dkwX3_tear_0 : List UInt8 := [42, 180, 0, 201, 42, 180, 0, 198, 96, 60, 42, 3, 181, 0, 201, 42, 3, 181, 0, 198, 27, 172]
abbrev dktX3_tear_0 : List UInt8 := dkwX3_tear_0 ++ []
theorem dksX3_tear_0 : cX3_tear.data.toList.drop 0 = dktX3_tear_0 := by decide +kernel
theorem dX3_tear_0 : decode cX3_tear 0 = .ok (.aload_n 0, 1) := dk_42 (dk_at dksX3_tear_0 0 rfl rfl)
theorem dX3_tear_1 : decode cX3_tear 1 = .ok (.getfield 201, 3) := dk_180 0 201 (dk_at dksX3_tear_0 1 rfl rfl)
theorem dX3_tear_4 : decode cX3_tear 4 = .ok (.aload_n 0, 1) := dk_42 (dk_at dksX3_tear_0 4 rfl rfl)
theorem dX3_tear_5 : decode cX3_tear 5 = .ok (.getfield 198, 3) := dk_180 0 198 (dk_at dksX3_tear_0 5 rfl rfl)
theorem dX3_tear_8 : decode cX3_tear 8 = .ok (.iadd, 1) := dk_96 (dk_at dksX3_tear_0 8 rfl rfl)
theorem dX3_tear_9 : decode cX3_tear 9 = .ok (.istore_n 1, 1) := dk_60 (dk_at dksX3_tear_0 9 rfl rfl)
theorem dX3_tear_10 : decode cX3_tear 10 = .ok (.aload_n 0, 1) := dk_42 (dk_at dksX3_tear_0 10 rfl rfl)
theorem dX3_tear_11 : decode cX3_tear 11 = .ok (.iconst 0, 1) := dk_3 (dk_at dksX3_tear_0 11 rfl rfl)
theorem dX3_tear_12 : decode cX3_tear 12 = .ok (.putfield 201, 3) := dk_181 0 201 (dk_at dksX3_tear_0 12 rfl rfl)
theorem dX3_tear_15 : decode cX3_tear 15 = .ok (.aload_n 0, 1) := dk_42 (dk_at dksX3_tear_0 15 rfl rfl)
theorem dX3_tear_16 : decode cX3_tear 16 = .ok (.iconst 0, 1) := dk_3 (dk_at dksX3_tear_0 16 rfl rfl)
theorem dX3_tear_17 : decode cX3_tear 17 = .ok (.putfield 198, 3) := dk_181 0 198 (dk_at dksX3_tear_0 17 rfl rfl)
theorem dX3_tear_20 : decode cX3_tear 20 = .ok (.iload_n 1, 1) := dk_27 (dk_at dksX3_tear_0 20 rfl rfl)
theorem dX3_tear_21 : decode cX3_tear 21 = .ok (.ireturn, 1) := dk_172 (dk_at dksX3_tear_0 21 rfl rfl)
abbrev cX3_judge : ByteArray := prog_10_method_58_code
def yX3_judge : MethodName := ⟨RX3, "judge", "()I"⟩
def dkwX3_judge_6 : List UInt8 := [180, 0, 87, 28, 46, 79, 132, 2, 1, 167, 255, 235, 27, 172]
abbrev dktX3_judge_6 : List UInt8 := dkwX3_judge_6 ++ []
def dkwX3_judge_5 : List UInt8 := [28, 60, 132, 2, 1, 167, 255, 164, 3, 61, 28, 16, 8, 162, 0, 21, 42, 180, 0, 28, 28, 42]
abbrev dktX3_judge_5 : List UInt8 := dkwX3_judge_5 ++ dktX3_judge_6
def dkwX3_judge_4 : List UInt8 := [160, 0, 13, 42, 180, 0, 16, 21, 4, 46, 167, 0, 10, 42, 180, 0, 13, 21, 4, 46, 79, 167, 0, 5]
abbrev dktX3_judge_4 : List UInt8 := dkwX3_judge_4 ++ dktX3_judge_5
def dkwX3_judge_3 : List UInt8 := [182, 0, 240, 153, 0, 45, 42, 180, 0, 28, 29, 42, 180, 0, 28, 29, 46, 42, 180, 0, 13, 21, 4, 46]
abbrev dktX3_judge_3 : List UInt8 := dkwX3_judge_3 ++ dktX3_judge_4
def dkwX3_judge_2 : List UInt8 := [46, 62, 42, 180, 0, 84, 28, 46, 54, 4, 29, 42, 180, 0, 106, 162, 0, 55, 42, 29, 21, 4]
abbrev dktX3_judge_2 : List UInt8 := dkwX3_judge_2 ++ dktX3_judge_3
def dkwX3_judge_1 : List UInt8 := [167, 255, 235, 2, 60, 3, 61, 28, 42, 180, 0, 201, 162, 0, 90, 27, 156, 0, 86, 42, 180, 0, 81, 28]
abbrev dktX3_judge_1 : List UInt8 := dkwX3_judge_1 ++ dktX3_judge_2
def dkwX3_judge_0 : List UInt8 := [3, 60, 27, 16, 8, 162, 0, 21, 42, 180, 0, 87, 27, 42, 180, 0, 28, 27, 46, 79, 132, 1, 1]
abbrev dktX3_judge_0 : List UInt8 := dkwX3_judge_0 ++ dktX3_judge_1
theorem dksX3_judge_0 : cX3_judge.data.toList.drop 0 = dktX3_judge_0 := by decide +kernel
theorem dksX3_judge_1 : cX3_judge.data.toList.drop 23 = dktX3_judge_1 := dk_seg dksX3_judge_0 23 rfl rfl
theorem dksX3_judge_2 : cX3_judge.data.toList.drop 47 = dktX3_judge_2 := dk_seg dksX3_judge_1 24 rfl rfl
theorem dksX3_judge_3 : cX3_judge.data.toList.drop 69 = dktX3_judge_3 := dk_seg dksX3_judge_2 22 rfl rfl
theorem dksX3_judge_4 : cX3_judge.data.toList.drop 93 = dktX3_judge_4 := dk_seg dksX3_judge_3 24 rfl rfl
theorem dksX3_judge_5 : cX3_judge.data.toList.drop 117 = dktX3_judge_5 := dk_seg dksX3_judge_4 24 rfl rfl
theorem dksX3_judge_6 : cX3_judge.data.toList.drop 139 = dktX3_judge_6 := dk_seg dksX3_judge_5 22 rfl rfl
theorem dX3_judge_0 : decode cX3_judge 0 = .ok (.iconst 0, 1) := dk_3 (dk_at dksX3_judge_0 0 rfl rfl)
theorem dX3_judge_1 : decode cX3_judge 1 = .ok (.istore_n 1, 1) := dk_60 (dk_at dksX3_judge_0 1 rfl rfl)
theorem dX3_judge_2 : decode cX3_judge 2 = .ok (.iload_n 1, 1) := dk_27 (dk_at dksX3_judge_0 2 rfl rfl)
theorem dX3_judge_3 : decode cX3_judge 3 = .ok (.bipush 8, 2) := dk_16 8 (dk_at dksX3_judge_0 3 rfl rfl)
theorem dX3_judge_5 : decode cX3_judge 5 = .ok (.if_icmp .ge 21, 3) := dk_162 0 21 (dk_at dksX3_judge_0 5 rfl rfl)
theorem dX3_judge_8 : decode cX3_judge 8 = .ok (.aload_n 0, 1) := dk_42 (dk_at dksX3_judge_0 8 rfl rfl)
theorem dX3_judge_9 : decode cX3_judge 9 = .ok (.getfield 87, 3) := dk_180 0 87 (dk_at dksX3_judge_0 9 rfl rfl)
theorem dX3_judge_12 : decode cX3_judge 12 = .ok (.iload_n 1, 1) := dk_27 (dk_at dksX3_judge_0 12 rfl rfl)
theorem dX3_judge_13 : decode cX3_judge 13 = .ok (.aload_n 0, 1) := dk_42 (dk_at dksX3_judge_0 13 rfl rfl)
theorem dX3_judge_14 : decode cX3_judge 14 = .ok (.getfield 28, 3) := dk_180 0 28 (dk_at dksX3_judge_0 14 rfl rfl)
theorem dX3_judge_17 : decode cX3_judge 17 = .ok (.iload_n 1, 1) := dk_27 (dk_at dksX3_judge_0 17 rfl rfl)
theorem dX3_judge_18 : decode cX3_judge 18 = .ok (.iaload, 1) := dk_46 (dk_at dksX3_judge_0 18 rfl rfl)
theorem dX3_judge_19 : decode cX3_judge 19 = .ok (.iastore, 1) := dk_79 (dk_at dksX3_judge_0 19 rfl rfl)
theorem dX3_judge_20 : decode cX3_judge 20 = .ok (.iinc 1 1, 3) := dk_132 1 1 (dk_at dksX3_judge_0 20 rfl rfl)
theorem dX3_judge_23 : decode cX3_judge 23 = .ok (.goto (-21), 3) := dk_167 255 235 (dk_at dksX3_judge_1 0 rfl rfl)
theorem dX3_judge_26 : decode cX3_judge 26 = .ok (.iconst (-1), 1) := dk_2 (dk_at dksX3_judge_1 3 rfl rfl)
theorem dX3_judge_27 : decode cX3_judge 27 = .ok (.istore_n 1, 1) := dk_60 (dk_at dksX3_judge_1 4 rfl rfl)
theorem dX3_judge_28 : decode cX3_judge 28 = .ok (.iconst 0, 1) := dk_3 (dk_at dksX3_judge_1 5 rfl rfl)
theorem dX3_judge_29 : decode cX3_judge 29 = .ok (.istore_n 2, 1) := dk_61 (dk_at dksX3_judge_1 6 rfl rfl)
theorem dX3_judge_30 : decode cX3_judge 30 = .ok (.iload_n 2, 1) := dk_28 (dk_at dksX3_judge_1 7 rfl rfl)
theorem dX3_judge_31 : decode cX3_judge 31 = .ok (.aload_n 0, 1) := dk_42 (dk_at dksX3_judge_1 8 rfl rfl)
theorem dX3_judge_32 : decode cX3_judge 32 = .ok (.getfield 201, 3) := dk_180 0 201 (dk_at dksX3_judge_1 9 rfl rfl)
theorem dX3_judge_35 : decode cX3_judge 35 = .ok (.if_icmp .ge 90, 3) := dk_162 0 90 (dk_at dksX3_judge_1 12 rfl rfl)
theorem dX3_judge_38 : decode cX3_judge 38 = .ok (.iload_n 1, 1) := dk_27 (dk_at dksX3_judge_1 15 rfl rfl)
theorem dX3_judge_39 : decode cX3_judge 39 = .ok (.ifCond .ge 86, 3) := dk_156 0 86 (dk_at dksX3_judge_1 16 rfl rfl)
theorem dX3_judge_42 : decode cX3_judge 42 = .ok (.aload_n 0, 1) := dk_42 (dk_at dksX3_judge_1 19 rfl rfl)
theorem dX3_judge_43 : decode cX3_judge 43 = .ok (.getfield 81, 3) := dk_180 0 81 (dk_at dksX3_judge_1 20 rfl rfl)
theorem dX3_judge_46 : decode cX3_judge 46 = .ok (.iload_n 2, 1) := dk_28 (dk_at dksX3_judge_1 23 rfl rfl)
theorem dX3_judge_47 : decode cX3_judge 47 = .ok (.iaload, 1) := dk_46 (dk_at dksX3_judge_2 0 rfl rfl)
theorem dX3_judge_48 : decode cX3_judge 48 = .ok (.istore_n 3, 1) := dk_62 (dk_at dksX3_judge_2 1 rfl rfl)
theorem dX3_judge_49 : decode cX3_judge 49 = .ok (.aload_n 0, 1) := dk_42 (dk_at dksX3_judge_2 2 rfl rfl)
theorem dX3_judge_50 : decode cX3_judge 50 = .ok (.getfield 84, 3) := dk_180 0 84 (dk_at dksX3_judge_2 3 rfl rfl)
theorem dX3_judge_53 : decode cX3_judge 53 = .ok (.iload_n 2, 1) := dk_28 (dk_at dksX3_judge_2 6 rfl rfl)
theorem dX3_judge_54 : decode cX3_judge 54 = .ok (.iaload, 1) := dk_46 (dk_at dksX3_judge_2 7 rfl rfl)
theorem dX3_judge_55 : decode cX3_judge 55 = .ok (.istore 4, 2) := dk_54 4 (dk_at dksX3_judge_2 8 rfl rfl)
theorem dX3_judge_57 : decode cX3_judge 57 = .ok (.iload_n 3, 1) := dk_29 (dk_at dksX3_judge_2 10 rfl rfl)
theorem dX3_judge_58 : decode cX3_judge 58 = .ok (.aload_n 0, 1) := dk_42 (dk_at dksX3_judge_2 11 rfl rfl)
theorem dX3_judge_59 : decode cX3_judge 59 = .ok (.getfield 106, 3) := dk_180 0 106 (dk_at dksX3_judge_2 12 rfl rfl)
theorem dX3_judge_62 : decode cX3_judge 62 = .ok (.if_icmp .ge 55, 3) := dk_162 0 55 (dk_at dksX3_judge_2 15 rfl rfl)
theorem dX3_judge_65 : decode cX3_judge 65 = .ok (.aload_n 0, 1) := dk_42 (dk_at dksX3_judge_2 18 rfl rfl)
theorem dX3_judge_66 : decode cX3_judge 66 = .ok (.iload_n 3, 1) := dk_29 (dk_at dksX3_judge_2 19 rfl rfl)
theorem dX3_judge_67 : decode cX3_judge 67 = .ok (.iload 4, 2) := dk_21 4 (dk_at dksX3_judge_2 20 rfl rfl)
theorem dX3_judge_69 : decode cX3_judge 69 = .ok (.invokevirtual 240, 3) := dk_182 0 240 (dk_at dksX3_judge_3 0 rfl rfl)
theorem dX3_judge_72 : decode cX3_judge 72 = .ok (.ifCond .eq 45, 3) := dk_153 0 45 (dk_at dksX3_judge_3 3 rfl rfl)
theorem dX3_judge_75 : decode cX3_judge 75 = .ok (.aload_n 0, 1) := dk_42 (dk_at dksX3_judge_3 6 rfl rfl)
theorem dX3_judge_76 : decode cX3_judge 76 = .ok (.getfield 28, 3) := dk_180 0 28 (dk_at dksX3_judge_3 7 rfl rfl)
theorem dX3_judge_79 : decode cX3_judge 79 = .ok (.iload_n 3, 1) := dk_29 (dk_at dksX3_judge_3 10 rfl rfl)
theorem dX3_judge_80 : decode cX3_judge 80 = .ok (.aload_n 0, 1) := dk_42 (dk_at dksX3_judge_3 11 rfl rfl)
theorem dX3_judge_81 : decode cX3_judge 81 = .ok (.getfield 28, 3) := dk_180 0 28 (dk_at dksX3_judge_3 12 rfl rfl)
theorem dX3_judge_84 : decode cX3_judge 84 = .ok (.iload_n 3, 1) := dk_29 (dk_at dksX3_judge_3 15 rfl rfl)
theorem dX3_judge_85 : decode cX3_judge 85 = .ok (.iaload, 1) := dk_46 (dk_at dksX3_judge_3 16 rfl rfl)
theorem dX3_judge_86 : decode cX3_judge 86 = .ok (.aload_n 0, 1) := dk_42 (dk_at dksX3_judge_3 17 rfl rfl)
theorem dX3_judge_87 : decode cX3_judge 87 = .ok (.getfield 13, 3) := dk_180 0 13 (dk_at dksX3_judge_3 18 rfl rfl)
theorem dX3_judge_90 : decode cX3_judge 90 = .ok (.iload 4, 2) := dk_21 4 (dk_at dksX3_judge_3 21 rfl rfl)
theorem dX3_judge_92 : decode cX3_judge 92 = .ok (.iaload, 1) := dk_46 (dk_at dksX3_judge_3 23 rfl rfl)
theorem dX3_judge_93 : decode cX3_judge 93 = .ok (.if_icmp .ne 13, 3) := dk_160 0 13 (dk_at dksX3_judge_4 0 rfl rfl)
theorem dX3_judge_96 : decode cX3_judge 96 = .ok (.aload_n 0, 1) := dk_42 (dk_at dksX3_judge_4 3 rfl rfl)
theorem dX3_judge_97 : decode cX3_judge 97 = .ok (.getfield 16, 3) := dk_180 0 16 (dk_at dksX3_judge_4 4 rfl rfl)
theorem dX3_judge_100 : decode cX3_judge 100 = .ok (.iload 4, 2) := dk_21 4 (dk_at dksX3_judge_4 7 rfl rfl)
theorem dX3_judge_102 : decode cX3_judge 102 = .ok (.iaload, 1) := dk_46 (dk_at dksX3_judge_4 9 rfl rfl)
theorem dX3_judge_103 : decode cX3_judge 103 = .ok (.goto 10, 3) := dk_167 0 10 (dk_at dksX3_judge_4 10 rfl rfl)
theorem dX3_judge_106 : decode cX3_judge 106 = .ok (.aload_n 0, 1) := dk_42 (dk_at dksX3_judge_4 13 rfl rfl)
theorem dX3_judge_107 : decode cX3_judge 107 = .ok (.getfield 13, 3) := dk_180 0 13 (dk_at dksX3_judge_4 14 rfl rfl)
theorem dX3_judge_110 : decode cX3_judge 110 = .ok (.iload 4, 2) := dk_21 4 (dk_at dksX3_judge_4 17 rfl rfl)
theorem dX3_judge_112 : decode cX3_judge 112 = .ok (.iaload, 1) := dk_46 (dk_at dksX3_judge_4 19 rfl rfl)
theorem dX3_judge_113 : decode cX3_judge 113 = .ok (.iastore, 1) := dk_79 (dk_at dksX3_judge_4 20 rfl rfl)
theorem dX3_judge_114 : decode cX3_judge 114 = .ok (.goto 5, 3) := dk_167 0 5 (dk_at dksX3_judge_4 21 rfl rfl)
theorem dX3_judge_117 : decode cX3_judge 117 = .ok (.iload_n 2, 1) := dk_28 (dk_at dksX3_judge_5 0 rfl rfl)
theorem dX3_judge_118 : decode cX3_judge 118 = .ok (.istore_n 1, 1) := dk_60 (dk_at dksX3_judge_5 1 rfl rfl)
theorem dX3_judge_119 : decode cX3_judge 119 = .ok (.iinc 2 1, 3) := dk_132 2 1 (dk_at dksX3_judge_5 2 rfl rfl)
theorem dX3_judge_122 : decode cX3_judge 122 = .ok (.goto (-92), 3) := dk_167 255 164 (dk_at dksX3_judge_5 5 rfl rfl)
theorem dX3_judge_125 : decode cX3_judge 125 = .ok (.iconst 0, 1) := dk_3 (dk_at dksX3_judge_5 8 rfl rfl)
theorem dX3_judge_126 : decode cX3_judge 126 = .ok (.istore_n 2, 1) := dk_61 (dk_at dksX3_judge_5 9 rfl rfl)
theorem dX3_judge_127 : decode cX3_judge 127 = .ok (.iload_n 2, 1) := dk_28 (dk_at dksX3_judge_5 10 rfl rfl)
theorem dX3_judge_128 : decode cX3_judge 128 = .ok (.bipush 8, 2) := dk_16 8 (dk_at dksX3_judge_5 11 rfl rfl)
theorem dX3_judge_130 : decode cX3_judge 130 = .ok (.if_icmp .ge 21, 3) := dk_162 0 21 (dk_at dksX3_judge_5 13 rfl rfl)
theorem dX3_judge_133 : decode cX3_judge 133 = .ok (.aload_n 0, 1) := dk_42 (dk_at dksX3_judge_5 16 rfl rfl)
theorem dX3_judge_134 : decode cX3_judge 134 = .ok (.getfield 28, 3) := dk_180 0 28 (dk_at dksX3_judge_5 17 rfl rfl)
theorem dX3_judge_137 : decode cX3_judge 137 = .ok (.iload_n 2, 1) := dk_28 (dk_at dksX3_judge_5 20 rfl rfl)
theorem dX3_judge_138 : decode cX3_judge 138 = .ok (.aload_n 0, 1) := dk_42 (dk_at dksX3_judge_5 21 rfl rfl)
theorem dX3_judge_139 : decode cX3_judge 139 = .ok (.getfield 87, 3) := dk_180 0 87 (dk_at dksX3_judge_6 0 rfl rfl)
theorem dX3_judge_142 : decode cX3_judge 142 = .ok (.iload_n 2, 1) := dk_28 (dk_at dksX3_judge_6 3 rfl rfl)
theorem dX3_judge_143 : decode cX3_judge 143 = .ok (.iaload, 1) := dk_46 (dk_at dksX3_judge_6 4 rfl rfl)
theorem dX3_judge_144 : decode cX3_judge 144 = .ok (.iastore, 1) := dk_79 (dk_at dksX3_judge_6 5 rfl rfl)
theorem dX3_judge_145 : decode cX3_judge 145 = .ok (.iinc 2 1, 3) := dk_132 2 1 (dk_at dksX3_judge_6 6 rfl rfl)
theorem dX3_judge_148 : decode cX3_judge 148 = .ok (.goto (-21), 3) := dk_167 255 235 (dk_at dksX3_judge_6 9 rfl rfl)
theorem dX3_judge_151 : decode cX3_judge 151 = .ok (.iload_n 1, 1) := dk_27 (dk_at dksX3_judge_6 12 rfl rfl)
theorem dX3_judge_152 : decode cX3_judge 152 = .ok (.ireturn, 1) := dk_172 (dk_at dksX3_judge_6 13 rfl rfl)
abbrev cX3_seed : ByteArray := prog_10_method_59_code
def yX3_seed : MethodName := ⟨RX3, "seed", "(I)I"⟩
def dkwX3_seed_0 : List UInt8 := [27, 156, 0, 6, 18, 111, 172, 42, 180, 0, 250, 61, 42, 27, 181, 0, 250, 28, 172]
abbrev dktX3_seed_0 : List UInt8 := dkwX3_seed_0 ++ []
theorem dksX3_seed_0 : cX3_seed.data.toList.drop 0 = dktX3_seed_0 := by decide +kernel
theorem dX3_seed_0 : decode cX3_seed 0 = .ok (.iload_n 1, 1) := dk_27 (dk_at dksX3_seed_0 0 rfl rfl)
theorem dX3_seed_1 : decode cX3_seed 1 = .ok (.ifCond .ge 6, 3) := dk_156 0 6 (dk_at dksX3_seed_0 1 rfl rfl)
theorem dX3_seed_4 : decode cX3_seed 4 = .ok (.ldc 111, 2) := dk_18 111 (dk_at dksX3_seed_0 4 rfl rfl)
theorem dX3_seed_6 : decode cX3_seed 6 = .ok (.ireturn, 1) := dk_172 (dk_at dksX3_seed_0 6 rfl rfl)
theorem dX3_seed_7 : decode cX3_seed 7 = .ok (.aload_n 0, 1) := dk_42 (dk_at dksX3_seed_0 7 rfl rfl)
theorem dX3_seed_8 : decode cX3_seed 8 = .ok (.getfield 250, 3) := dk_180 0 250 (dk_at dksX3_seed_0 8 rfl rfl)
theorem dX3_seed_11 : decode cX3_seed 11 = .ok (.istore_n 2, 1) := dk_61 (dk_at dksX3_seed_0 11 rfl rfl)
theorem dX3_seed_12 : decode cX3_seed 12 = .ok (.aload_n 0, 1) := dk_42 (dk_at dksX3_seed_0 12 rfl rfl)
theorem dX3_seed_13 : decode cX3_seed 13 = .ok (.iload_n 1, 1) := dk_27 (dk_at dksX3_seed_0 13 rfl rfl)
theorem dX3_seed_14 : decode cX3_seed 14 = .ok (.putfield 250, 3) := dk_181 0 250 (dk_at dksX3_seed_0 14 rfl rfl)
theorem dX3_seed_17 : decode cX3_seed 17 = .ok (.iload_n 2, 1) := dk_28 (dk_at dksX3_seed_0 17 rfl rfl)
theorem dX3_seed_18 : decode cX3_seed 18 = .ok (.ireturn, 1) := dk_172 (dk_at dksX3_seed_0 18 rfl rfl)
abbrev cX3_keep : ByteArray := prog_10_method_60_code
def yX3_keep : MethodName := ⟨RX3, "keep", "(I)I"⟩
def dkwX3_keep_7 : List UInt8 := [79, 42, 180, 0, 90, 28, 16, 66, 96, 42, 180, 0, 250, 79, 42, 180, 0, 93, 27, 4, 84, 4, 172]
abbrev dktX3_keep_7 : List UInt8 := dkwX3_keep_7 ++ []
def dkwX3_keep_6 : List UInt8 := [180, 0, 90, 28, 16, 64, 96, 42, 180, 0, 106, 79, 42, 180, 0, 90, 28, 16, 65, 96, 42, 180, 0, 204]
abbrev dktX3_keep_6 : List UInt8 := dkwX3_keep_6 ++ dktX3_keep_7
def dkwX3_keep_5 : List UInt8 := [42, 180, 0, 90, 28, 16, 54, 96, 29, 96, 42, 180, 0, 25, 29, 46, 79, 132, 3, 1, 167, 255, 230, 42]
abbrev dktX3_keep_5 : List UInt8 := dkwX3_keep_5 ++ dktX3_keep_6
def dkwX3_keep_4 : List UInt8 := [96, 29, 96, 42, 180, 0, 22, 29, 46, 79, 132, 3, 1, 167, 255, 230, 3, 62, 29, 16, 10, 162, 0, 26]
abbrev dktX3_keep_4 : List UInt8 := dkwX3_keep_4 ++ dktX3_keep_5
def dkwX3_keep_3 : List UInt8 := [29, 46, 79, 132, 3, 1, 167, 255, 199, 3, 62, 29, 16, 30, 162, 0, 26, 42, 180, 0, 90, 28, 16, 24]
abbrev dktX3_keep_3 : List UInt8 := dkwX3_keep_3 ++ dktX3_keep_4
def dkwX3_keep_2 : List UInt8 := [96, 29, 96, 42, 180, 0, 31, 29, 46, 79, 42, 180, 0, 90, 28, 16, 16, 96, 29, 96, 42, 180, 0, 34]
abbrev dktX3_keep_2 : List UInt8 := dkwX3_keep_2 ++ dktX3_keep_3
def dkwX3_keep_1 : List UInt8 := [162, 0, 57, 42, 180, 0, 90, 28, 29, 96, 42, 180, 0, 28, 29, 46, 79, 42, 180, 0, 90, 28, 16, 8]
abbrev dktX3_keep_1 : List UInt8 := dkwX3_keep_1 ++ dktX3_keep_2
def dkwX3_keep_0 : List UInt8 := [27, 133, 9, 10, 184, 0, 99, 154, 0, 6, 18, 221, 172, 16, 70, 27, 104, 61, 3, 62, 29, 16, 8]
abbrev dktX3_keep_0 : List UInt8 := dkwX3_keep_0 ++ dktX3_keep_1
theorem dksX3_keep_0 : cX3_keep.data.toList.drop 0 = dktX3_keep_0 := by decide +kernel
theorem dksX3_keep_1 : cX3_keep.data.toList.drop 23 = dktX3_keep_1 := dk_seg dksX3_keep_0 23 rfl rfl
theorem dksX3_keep_2 : cX3_keep.data.toList.drop 47 = dktX3_keep_2 := dk_seg dksX3_keep_1 24 rfl rfl
theorem dksX3_keep_3 : cX3_keep.data.toList.drop 71 = dktX3_keep_3 := dk_seg dksX3_keep_2 24 rfl rfl
theorem dksX3_keep_4 : cX3_keep.data.toList.drop 95 = dktX3_keep_4 := dk_seg dksX3_keep_3 24 rfl rfl
theorem dksX3_keep_5 : cX3_keep.data.toList.drop 119 = dktX3_keep_5 := dk_seg dksX3_keep_4 24 rfl rfl
theorem dksX3_keep_6 : cX3_keep.data.toList.drop 143 = dktX3_keep_6 := dk_seg dksX3_keep_5 24 rfl rfl
theorem dksX3_keep_7 : cX3_keep.data.toList.drop 167 = dktX3_keep_7 := dk_seg dksX3_keep_6 24 rfl rfl
theorem dX3_keep_0 : decode cX3_keep 0 = .ok (.iload_n 1, 1) := dk_27 (dk_at dksX3_keep_0 0 rfl rfl)
theorem dX3_keep_1 : decode cX3_keep 1 = .ok (.i2l, 1) := dk_133 (dk_at dksX3_keep_0 1 rfl rfl)
theorem dX3_keep_2 : decode cX3_keep 2 = .ok (.lconst 0, 1) := dk_9 (dk_at dksX3_keep_0 2 rfl rfl)
theorem dX3_keep_3 : decode cX3_keep 3 = .ok (.lconst 1, 1) := dk_10 (dk_at dksX3_keep_0 3 rfl rfl)
theorem dX3_keep_4 : decode cX3_keep 4 = .ok (.invokestatic 99, 3) := dk_184 0 99 (dk_at dksX3_keep_0 4 rfl rfl)
theorem dX3_keep_7 : decode cX3_keep 7 = .ok (.ifCond .ne 6, 3) := dk_154 0 6 (dk_at dksX3_keep_0 7 rfl rfl)
theorem dX3_keep_10 : decode cX3_keep 10 = .ok (.ldc 221, 2) := dk_18 221 (dk_at dksX3_keep_0 10 rfl rfl)
theorem dX3_keep_12 : decode cX3_keep 12 = .ok (.ireturn, 1) := dk_172 (dk_at dksX3_keep_0 12 rfl rfl)
theorem dX3_keep_13 : decode cX3_keep 13 = .ok (.bipush 70, 2) := dk_16 70 (dk_at dksX3_keep_0 13 rfl rfl)
theorem dX3_keep_15 : decode cX3_keep 15 = .ok (.iload_n 1, 1) := dk_27 (dk_at dksX3_keep_0 15 rfl rfl)
theorem dX3_keep_16 : decode cX3_keep 16 = .ok (.imul, 1) := dk_104 (dk_at dksX3_keep_0 16 rfl rfl)
theorem dX3_keep_17 : decode cX3_keep 17 = .ok (.istore_n 2, 1) := dk_61 (dk_at dksX3_keep_0 17 rfl rfl)
theorem dX3_keep_18 : decode cX3_keep 18 = .ok (.iconst 0, 1) := dk_3 (dk_at dksX3_keep_0 18 rfl rfl)
theorem dX3_keep_19 : decode cX3_keep 19 = .ok (.istore_n 3, 1) := dk_62 (dk_at dksX3_keep_0 19 rfl rfl)
theorem dX3_keep_20 : decode cX3_keep 20 = .ok (.iload_n 3, 1) := dk_29 (dk_at dksX3_keep_0 20 rfl rfl)
theorem dX3_keep_21 : decode cX3_keep 21 = .ok (.bipush 8, 2) := dk_16 8 (dk_at dksX3_keep_0 21 rfl rfl)
theorem dX3_keep_23 : decode cX3_keep 23 = .ok (.if_icmp .ge 57, 3) := dk_162 0 57 (dk_at dksX3_keep_1 0 rfl rfl)
theorem dX3_keep_26 : decode cX3_keep 26 = .ok (.aload_n 0, 1) := dk_42 (dk_at dksX3_keep_1 3 rfl rfl)
theorem dX3_keep_27 : decode cX3_keep 27 = .ok (.getfield 90, 3) := dk_180 0 90 (dk_at dksX3_keep_1 4 rfl rfl)
theorem dX3_keep_30 : decode cX3_keep 30 = .ok (.iload_n 2, 1) := dk_28 (dk_at dksX3_keep_1 7 rfl rfl)
theorem dX3_keep_31 : decode cX3_keep 31 = .ok (.iload_n 3, 1) := dk_29 (dk_at dksX3_keep_1 8 rfl rfl)
theorem dX3_keep_32 : decode cX3_keep 32 = .ok (.iadd, 1) := dk_96 (dk_at dksX3_keep_1 9 rfl rfl)
theorem dX3_keep_33 : decode cX3_keep 33 = .ok (.aload_n 0, 1) := dk_42 (dk_at dksX3_keep_1 10 rfl rfl)
theorem dX3_keep_34 : decode cX3_keep 34 = .ok (.getfield 28, 3) := dk_180 0 28 (dk_at dksX3_keep_1 11 rfl rfl)
theorem dX3_keep_37 : decode cX3_keep 37 = .ok (.iload_n 3, 1) := dk_29 (dk_at dksX3_keep_1 14 rfl rfl)
theorem dX3_keep_38 : decode cX3_keep 38 = .ok (.iaload, 1) := dk_46 (dk_at dksX3_keep_1 15 rfl rfl)
theorem dX3_keep_39 : decode cX3_keep 39 = .ok (.iastore, 1) := dk_79 (dk_at dksX3_keep_1 16 rfl rfl)
theorem dX3_keep_40 : decode cX3_keep 40 = .ok (.aload_n 0, 1) := dk_42 (dk_at dksX3_keep_1 17 rfl rfl)
theorem dX3_keep_41 : decode cX3_keep 41 = .ok (.getfield 90, 3) := dk_180 0 90 (dk_at dksX3_keep_1 18 rfl rfl)
theorem dX3_keep_44 : decode cX3_keep 44 = .ok (.iload_n 2, 1) := dk_28 (dk_at dksX3_keep_1 21 rfl rfl)
theorem dX3_keep_45 : decode cX3_keep 45 = .ok (.bipush 8, 2) := dk_16 8 (dk_at dksX3_keep_1 22 rfl rfl)
theorem dX3_keep_47 : decode cX3_keep 47 = .ok (.iadd, 1) := dk_96 (dk_at dksX3_keep_2 0 rfl rfl)
theorem dX3_keep_48 : decode cX3_keep 48 = .ok (.iload_n 3, 1) := dk_29 (dk_at dksX3_keep_2 1 rfl rfl)
theorem dX3_keep_49 : decode cX3_keep 49 = .ok (.iadd, 1) := dk_96 (dk_at dksX3_keep_2 2 rfl rfl)
theorem dX3_keep_50 : decode cX3_keep 50 = .ok (.aload_n 0, 1) := dk_42 (dk_at dksX3_keep_2 3 rfl rfl)
theorem dX3_keep_51 : decode cX3_keep 51 = .ok (.getfield 31, 3) := dk_180 0 31 (dk_at dksX3_keep_2 4 rfl rfl)
theorem dX3_keep_54 : decode cX3_keep 54 = .ok (.iload_n 3, 1) := dk_29 (dk_at dksX3_keep_2 7 rfl rfl)
theorem dX3_keep_55 : decode cX3_keep 55 = .ok (.iaload, 1) := dk_46 (dk_at dksX3_keep_2 8 rfl rfl)
theorem dX3_keep_56 : decode cX3_keep 56 = .ok (.iastore, 1) := dk_79 (dk_at dksX3_keep_2 9 rfl rfl)
theorem dX3_keep_57 : decode cX3_keep 57 = .ok (.aload_n 0, 1) := dk_42 (dk_at dksX3_keep_2 10 rfl rfl)
theorem dX3_keep_58 : decode cX3_keep 58 = .ok (.getfield 90, 3) := dk_180 0 90 (dk_at dksX3_keep_2 11 rfl rfl)
theorem dX3_keep_61 : decode cX3_keep 61 = .ok (.iload_n 2, 1) := dk_28 (dk_at dksX3_keep_2 14 rfl rfl)
theorem dX3_keep_62 : decode cX3_keep 62 = .ok (.bipush 16, 2) := dk_16 16 (dk_at dksX3_keep_2 15 rfl rfl)
theorem dX3_keep_64 : decode cX3_keep 64 = .ok (.iadd, 1) := dk_96 (dk_at dksX3_keep_2 17 rfl rfl)
theorem dX3_keep_65 : decode cX3_keep 65 = .ok (.iload_n 3, 1) := dk_29 (dk_at dksX3_keep_2 18 rfl rfl)
theorem dX3_keep_66 : decode cX3_keep 66 = .ok (.iadd, 1) := dk_96 (dk_at dksX3_keep_2 19 rfl rfl)
theorem dX3_keep_67 : decode cX3_keep 67 = .ok (.aload_n 0, 1) := dk_42 (dk_at dksX3_keep_2 20 rfl rfl)
theorem dX3_keep_68 : decode cX3_keep 68 = .ok (.getfield 34, 3) := dk_180 0 34 (dk_at dksX3_keep_2 21 rfl rfl)
theorem dX3_keep_71 : decode cX3_keep 71 = .ok (.iload_n 3, 1) := dk_29 (dk_at dksX3_keep_3 0 rfl rfl)
theorem dX3_keep_72 : decode cX3_keep 72 = .ok (.iaload, 1) := dk_46 (dk_at dksX3_keep_3 1 rfl rfl)
theorem dX3_keep_73 : decode cX3_keep 73 = .ok (.iastore, 1) := dk_79 (dk_at dksX3_keep_3 2 rfl rfl)
theorem dX3_keep_74 : decode cX3_keep 74 = .ok (.iinc 3 1, 3) := dk_132 3 1 (dk_at dksX3_keep_3 3 rfl rfl)
theorem dX3_keep_77 : decode cX3_keep 77 = .ok (.goto (-57), 3) := dk_167 255 199 (dk_at dksX3_keep_3 6 rfl rfl)
theorem dX3_keep_80 : decode cX3_keep 80 = .ok (.iconst 0, 1) := dk_3 (dk_at dksX3_keep_3 9 rfl rfl)
theorem dX3_keep_81 : decode cX3_keep 81 = .ok (.istore_n 3, 1) := dk_62 (dk_at dksX3_keep_3 10 rfl rfl)
theorem dX3_keep_82 : decode cX3_keep 82 = .ok (.iload_n 3, 1) := dk_29 (dk_at dksX3_keep_3 11 rfl rfl)
theorem dX3_keep_83 : decode cX3_keep 83 = .ok (.bipush 30, 2) := dk_16 30 (dk_at dksX3_keep_3 12 rfl rfl)
theorem dX3_keep_85 : decode cX3_keep 85 = .ok (.if_icmp .ge 26, 3) := dk_162 0 26 (dk_at dksX3_keep_3 14 rfl rfl)
theorem dX3_keep_88 : decode cX3_keep 88 = .ok (.aload_n 0, 1) := dk_42 (dk_at dksX3_keep_3 17 rfl rfl)
theorem dX3_keep_89 : decode cX3_keep 89 = .ok (.getfield 90, 3) := dk_180 0 90 (dk_at dksX3_keep_3 18 rfl rfl)
theorem dX3_keep_92 : decode cX3_keep 92 = .ok (.iload_n 2, 1) := dk_28 (dk_at dksX3_keep_3 21 rfl rfl)
theorem dX3_keep_93 : decode cX3_keep 93 = .ok (.bipush 24, 2) := dk_16 24 (dk_at dksX3_keep_3 22 rfl rfl)
theorem dX3_keep_95 : decode cX3_keep 95 = .ok (.iadd, 1) := dk_96 (dk_at dksX3_keep_4 0 rfl rfl)
theorem dX3_keep_96 : decode cX3_keep 96 = .ok (.iload_n 3, 1) := dk_29 (dk_at dksX3_keep_4 1 rfl rfl)
theorem dX3_keep_97 : decode cX3_keep 97 = .ok (.iadd, 1) := dk_96 (dk_at dksX3_keep_4 2 rfl rfl)
theorem dX3_keep_98 : decode cX3_keep 98 = .ok (.aload_n 0, 1) := dk_42 (dk_at dksX3_keep_4 3 rfl rfl)
theorem dX3_keep_99 : decode cX3_keep 99 = .ok (.getfield 22, 3) := dk_180 0 22 (dk_at dksX3_keep_4 4 rfl rfl)
theorem dX3_keep_102 : decode cX3_keep 102 = .ok (.iload_n 3, 1) := dk_29 (dk_at dksX3_keep_4 7 rfl rfl)
theorem dX3_keep_103 : decode cX3_keep 103 = .ok (.iaload, 1) := dk_46 (dk_at dksX3_keep_4 8 rfl rfl)
theorem dX3_keep_104 : decode cX3_keep 104 = .ok (.iastore, 1) := dk_79 (dk_at dksX3_keep_4 9 rfl rfl)
theorem dX3_keep_105 : decode cX3_keep 105 = .ok (.iinc 3 1, 3) := dk_132 3 1 (dk_at dksX3_keep_4 10 rfl rfl)
theorem dX3_keep_108 : decode cX3_keep 108 = .ok (.goto (-26), 3) := dk_167 255 230 (dk_at dksX3_keep_4 13 rfl rfl)
theorem dX3_keep_111 : decode cX3_keep 111 = .ok (.iconst 0, 1) := dk_3 (dk_at dksX3_keep_4 16 rfl rfl)
theorem dX3_keep_112 : decode cX3_keep 112 = .ok (.istore_n 3, 1) := dk_62 (dk_at dksX3_keep_4 17 rfl rfl)
theorem dX3_keep_113 : decode cX3_keep 113 = .ok (.iload_n 3, 1) := dk_29 (dk_at dksX3_keep_4 18 rfl rfl)
theorem dX3_keep_114 : decode cX3_keep 114 = .ok (.bipush 10, 2) := dk_16 10 (dk_at dksX3_keep_4 19 rfl rfl)
theorem dX3_keep_116 : decode cX3_keep 116 = .ok (.if_icmp .ge 26, 3) := dk_162 0 26 (dk_at dksX3_keep_4 21 rfl rfl)
theorem dX3_keep_119 : decode cX3_keep 119 = .ok (.aload_n 0, 1) := dk_42 (dk_at dksX3_keep_5 0 rfl rfl)
theorem dX3_keep_120 : decode cX3_keep 120 = .ok (.getfield 90, 3) := dk_180 0 90 (dk_at dksX3_keep_5 1 rfl rfl)
theorem dX3_keep_123 : decode cX3_keep 123 = .ok (.iload_n 2, 1) := dk_28 (dk_at dksX3_keep_5 4 rfl rfl)
theorem dX3_keep_124 : decode cX3_keep 124 = .ok (.bipush 54, 2) := dk_16 54 (dk_at dksX3_keep_5 5 rfl rfl)
theorem dX3_keep_126 : decode cX3_keep 126 = .ok (.iadd, 1) := dk_96 (dk_at dksX3_keep_5 7 rfl rfl)
theorem dX3_keep_127 : decode cX3_keep 127 = .ok (.iload_n 3, 1) := dk_29 (dk_at dksX3_keep_5 8 rfl rfl)
theorem dX3_keep_128 : decode cX3_keep 128 = .ok (.iadd, 1) := dk_96 (dk_at dksX3_keep_5 9 rfl rfl)
theorem dX3_keep_129 : decode cX3_keep 129 = .ok (.aload_n 0, 1) := dk_42 (dk_at dksX3_keep_5 10 rfl rfl)
theorem dX3_keep_130 : decode cX3_keep 130 = .ok (.getfield 25, 3) := dk_180 0 25 (dk_at dksX3_keep_5 11 rfl rfl)
theorem dX3_keep_133 : decode cX3_keep 133 = .ok (.iload_n 3, 1) := dk_29 (dk_at dksX3_keep_5 14 rfl rfl)
theorem dX3_keep_134 : decode cX3_keep 134 = .ok (.iaload, 1) := dk_46 (dk_at dksX3_keep_5 15 rfl rfl)
theorem dX3_keep_135 : decode cX3_keep 135 = .ok (.iastore, 1) := dk_79 (dk_at dksX3_keep_5 16 rfl rfl)
theorem dX3_keep_136 : decode cX3_keep 136 = .ok (.iinc 3 1, 3) := dk_132 3 1 (dk_at dksX3_keep_5 17 rfl rfl)
theorem dX3_keep_139 : decode cX3_keep 139 = .ok (.goto (-26), 3) := dk_167 255 230 (dk_at dksX3_keep_5 20 rfl rfl)
theorem dX3_keep_142 : decode cX3_keep 142 = .ok (.aload_n 0, 1) := dk_42 (dk_at dksX3_keep_5 23 rfl rfl)
theorem dX3_keep_143 : decode cX3_keep 143 = .ok (.getfield 90, 3) := dk_180 0 90 (dk_at dksX3_keep_6 0 rfl rfl)
theorem dX3_keep_146 : decode cX3_keep 146 = .ok (.iload_n 2, 1) := dk_28 (dk_at dksX3_keep_6 3 rfl rfl)
theorem dX3_keep_147 : decode cX3_keep 147 = .ok (.bipush 64, 2) := dk_16 64 (dk_at dksX3_keep_6 4 rfl rfl)
theorem dX3_keep_149 : decode cX3_keep 149 = .ok (.iadd, 1) := dk_96 (dk_at dksX3_keep_6 6 rfl rfl)
theorem dX3_keep_150 : decode cX3_keep 150 = .ok (.aload_n 0, 1) := dk_42 (dk_at dksX3_keep_6 7 rfl rfl)
theorem dX3_keep_151 : decode cX3_keep 151 = .ok (.getfield 106, 3) := dk_180 0 106 (dk_at dksX3_keep_6 8 rfl rfl)
theorem dX3_keep_154 : decode cX3_keep 154 = .ok (.iastore, 1) := dk_79 (dk_at dksX3_keep_6 11 rfl rfl)
theorem dX3_keep_155 : decode cX3_keep 155 = .ok (.aload_n 0, 1) := dk_42 (dk_at dksX3_keep_6 12 rfl rfl)
theorem dX3_keep_156 : decode cX3_keep 156 = .ok (.getfield 90, 3) := dk_180 0 90 (dk_at dksX3_keep_6 13 rfl rfl)
theorem dX3_keep_159 : decode cX3_keep 159 = .ok (.iload_n 2, 1) := dk_28 (dk_at dksX3_keep_6 16 rfl rfl)
theorem dX3_keep_160 : decode cX3_keep 160 = .ok (.bipush 65, 2) := dk_16 65 (dk_at dksX3_keep_6 17 rfl rfl)
theorem dX3_keep_162 : decode cX3_keep 162 = .ok (.iadd, 1) := dk_96 (dk_at dksX3_keep_6 19 rfl rfl)
theorem dX3_keep_163 : decode cX3_keep 163 = .ok (.aload_n 0, 1) := dk_42 (dk_at dksX3_keep_6 20 rfl rfl)
theorem dX3_keep_164 : decode cX3_keep 164 = .ok (.getfield 204, 3) := dk_180 0 204 (dk_at dksX3_keep_6 21 rfl rfl)
theorem dX3_keep_167 : decode cX3_keep 167 = .ok (.iastore, 1) := dk_79 (dk_at dksX3_keep_7 0 rfl rfl)
theorem dX3_keep_168 : decode cX3_keep 168 = .ok (.aload_n 0, 1) := dk_42 (dk_at dksX3_keep_7 1 rfl rfl)
theorem dX3_keep_169 : decode cX3_keep 169 = .ok (.getfield 90, 3) := dk_180 0 90 (dk_at dksX3_keep_7 2 rfl rfl)
theorem dX3_keep_172 : decode cX3_keep 172 = .ok (.iload_n 2, 1) := dk_28 (dk_at dksX3_keep_7 5 rfl rfl)
theorem dX3_keep_173 : decode cX3_keep 173 = .ok (.bipush 66, 2) := dk_16 66 (dk_at dksX3_keep_7 6 rfl rfl)
theorem dX3_keep_175 : decode cX3_keep 175 = .ok (.iadd, 1) := dk_96 (dk_at dksX3_keep_7 8 rfl rfl)
theorem dX3_keep_176 : decode cX3_keep 176 = .ok (.aload_n 0, 1) := dk_42 (dk_at dksX3_keep_7 9 rfl rfl)
theorem dX3_keep_177 : decode cX3_keep 177 = .ok (.getfield 250, 3) := dk_180 0 250 (dk_at dksX3_keep_7 10 rfl rfl)
theorem dX3_keep_180 : decode cX3_keep 180 = .ok (.iastore, 1) := dk_79 (dk_at dksX3_keep_7 13 rfl rfl)
theorem dX3_keep_181 : decode cX3_keep 181 = .ok (.aload_n 0, 1) := dk_42 (dk_at dksX3_keep_7 14 rfl rfl)
theorem dX3_keep_182 : decode cX3_keep 182 = .ok (.getfield 93, 3) := dk_180 0 93 (dk_at dksX3_keep_7 15 rfl rfl)
theorem dX3_keep_185 : decode cX3_keep 185 = .ok (.iload_n 1, 1) := dk_27 (dk_at dksX3_keep_7 18 rfl rfl)
theorem dX3_keep_186 : decode cX3_keep 186 = .ok (.iconst 1, 1) := dk_4 (dk_at dksX3_keep_7 19 rfl rfl)
theorem dX3_keep_187 : decode cX3_keep 187 = .ok (.bastore, 1) := dk_84 (dk_at dksX3_keep_7 20 rfl rfl)
theorem dX3_keep_188 : decode cX3_keep 188 = .ok (.iconst 1, 1) := dk_4 (dk_at dksX3_keep_7 21 rfl rfl)
theorem dX3_keep_189 : decode cX3_keep 189 = .ok (.ireturn, 1) := dk_172 (dk_at dksX3_keep_7 22 rfl rfl)
abbrev cX3_goBack : ByteArray := prog_10_method_61_code
def yX3_goBack : MethodName := ⟨RX3, "goBack", "(I)I"⟩
def dkwX3_goBack_8 : List UInt8 := [96, 46, 181, 0, 250, 4, 172]
abbrev dktX3_goBack_8 : List UInt8 := dkwX3_goBack_8 ++ []
def dkwX3_goBack_7 : List UInt8 := [181, 0, 106, 42, 42, 180, 0, 90, 28, 16, 65, 96, 46, 181, 0, 204, 42, 42, 180, 0, 90, 28, 16, 66]
abbrev dktX3_goBack_7 : List UInt8 := dkwX3_goBack_7 ++ dktX3_goBack_8
def dkwX3_goBack_6 : List UInt8 := [16, 54, 96, 29, 96, 46, 79, 132, 3, 1, 167, 255, 230, 42, 42, 180, 0, 90, 28, 16, 64, 96, 46]
abbrev dktX3_goBack_6 : List UInt8 := dkwX3_goBack_6 ++ dktX3_goBack_7
def dkwX3_goBack_5 : List UInt8 := [132, 3, 1, 167, 255, 230, 3, 62, 29, 16, 10, 162, 0, 26, 42, 180, 0, 25, 29, 42, 180, 0, 90, 28]
abbrev dktX3_goBack_5 : List UInt8 := dkwX3_goBack_5 ++ dktX3_goBack_6
def dkwX3_goBack_4 : List UInt8 := [29, 16, 30, 162, 0, 26, 42, 180, 0, 22, 29, 42, 180, 0, 90, 28, 16, 24, 96, 29, 96, 46, 79]
abbrev dktX3_goBack_4 : List UInt8 := dkwX3_goBack_4 ++ dktX3_goBack_5
def dkwX3_goBack_3 : List UInt8 := [180, 0, 34, 29, 42, 180, 0, 90, 28, 16, 16, 96, 29, 96, 46, 79, 132, 3, 1, 167, 255, 199, 3, 62]
abbrev dktX3_goBack_3 : List UInt8 := dkwX3_goBack_3 ++ dktX3_goBack_4
def dkwX3_goBack_2 : List UInt8 := [29, 96, 46, 79, 42, 180, 0, 31, 29, 42, 180, 0, 90, 28, 16, 8, 96, 29, 96, 46, 79, 42]
abbrev dktX3_goBack_2 : List UInt8 := dkwX3_goBack_2 ++ dktX3_goBack_3
def dkwX3_goBack_1 : List UInt8 := [172, 16, 70, 27, 104, 61, 3, 62, 29, 16, 8, 162, 0, 57, 42, 180, 0, 28, 29, 42, 180, 0, 90, 28]
abbrev dktX3_goBack_1 : List UInt8 := dkwX3_goBack_1 ++ dktX3_goBack_2
def dkwX3_goBack_0 : List UInt8 := [27, 133, 9, 10, 184, 0, 99, 154, 0, 6, 18, 221, 172, 42, 180, 0, 93, 27, 51, 154, 0, 6, 18, 243]
abbrev dktX3_goBack_0 : List UInt8 := dkwX3_goBack_0 ++ dktX3_goBack_1
theorem dksX3_goBack_0 : cX3_goBack.data.toList.drop 0 = dktX3_goBack_0 := by decide +kernel
theorem dksX3_goBack_1 : cX3_goBack.data.toList.drop 24 = dktX3_goBack_1 := dk_seg dksX3_goBack_0 24 rfl rfl
theorem dksX3_goBack_2 : cX3_goBack.data.toList.drop 48 = dktX3_goBack_2 := dk_seg dksX3_goBack_1 24 rfl rfl
theorem dksX3_goBack_3 : cX3_goBack.data.toList.drop 70 = dktX3_goBack_3 := dk_seg dksX3_goBack_2 22 rfl rfl
theorem dksX3_goBack_4 : cX3_goBack.data.toList.drop 94 = dktX3_goBack_4 := dk_seg dksX3_goBack_3 24 rfl rfl
theorem dksX3_goBack_5 : cX3_goBack.data.toList.drop 117 = dktX3_goBack_5 := dk_seg dksX3_goBack_4 23 rfl rfl
theorem dksX3_goBack_6 : cX3_goBack.data.toList.drop 141 = dktX3_goBack_6 := dk_seg dksX3_goBack_5 24 rfl rfl
theorem dksX3_goBack_7 : cX3_goBack.data.toList.drop 164 = dktX3_goBack_7 := dk_seg dksX3_goBack_6 23 rfl rfl
theorem dksX3_goBack_8 : cX3_goBack.data.toList.drop 188 = dktX3_goBack_8 := dk_seg dksX3_goBack_7 24 rfl rfl
theorem dX3_goBack_0 : decode cX3_goBack 0 = .ok (.iload_n 1, 1) := dk_27 (dk_at dksX3_goBack_0 0 rfl rfl)
theorem dX3_goBack_1 : decode cX3_goBack 1 = .ok (.i2l, 1) := dk_133 (dk_at dksX3_goBack_0 1 rfl rfl)
theorem dX3_goBack_2 : decode cX3_goBack 2 = .ok (.lconst 0, 1) := dk_9 (dk_at dksX3_goBack_0 2 rfl rfl)
theorem dX3_goBack_3 : decode cX3_goBack 3 = .ok (.lconst 1, 1) := dk_10 (dk_at dksX3_goBack_0 3 rfl rfl)
theorem dX3_goBack_4 : decode cX3_goBack 4 = .ok (.invokestatic 99, 3) := dk_184 0 99 (dk_at dksX3_goBack_0 4 rfl rfl)
theorem dX3_goBack_7 : decode cX3_goBack 7 = .ok (.ifCond .ne 6, 3) := dk_154 0 6 (dk_at dksX3_goBack_0 7 rfl rfl)
theorem dX3_goBack_10 : decode cX3_goBack 10 = .ok (.ldc 221, 2) := dk_18 221 (dk_at dksX3_goBack_0 10 rfl rfl)
theorem dX3_goBack_12 : decode cX3_goBack 12 = .ok (.ireturn, 1) := dk_172 (dk_at dksX3_goBack_0 12 rfl rfl)
theorem dX3_goBack_13 : decode cX3_goBack 13 = .ok (.aload_n 0, 1) := dk_42 (dk_at dksX3_goBack_0 13 rfl rfl)
theorem dX3_goBack_14 : decode cX3_goBack 14 = .ok (.getfield 93, 3) := dk_180 0 93 (dk_at dksX3_goBack_0 14 rfl rfl)
theorem dX3_goBack_17 : decode cX3_goBack 17 = .ok (.iload_n 1, 1) := dk_27 (dk_at dksX3_goBack_0 17 rfl rfl)
theorem dX3_goBack_18 : decode cX3_goBack 18 = .ok (.baload, 1) := dk_51 (dk_at dksX3_goBack_0 18 rfl rfl)
theorem dX3_goBack_19 : decode cX3_goBack 19 = .ok (.ifCond .ne 6, 3) := dk_154 0 6 (dk_at dksX3_goBack_0 19 rfl rfl)
theorem dX3_goBack_22 : decode cX3_goBack 22 = .ok (.ldc 243, 2) := dk_18 243 (dk_at dksX3_goBack_0 22 rfl rfl)
theorem dX3_goBack_24 : decode cX3_goBack 24 = .ok (.ireturn, 1) := dk_172 (dk_at dksX3_goBack_1 0 rfl rfl)
theorem dX3_goBack_25 : decode cX3_goBack 25 = .ok (.bipush 70, 2) := dk_16 70 (dk_at dksX3_goBack_1 1 rfl rfl)
theorem dX3_goBack_27 : decode cX3_goBack 27 = .ok (.iload_n 1, 1) := dk_27 (dk_at dksX3_goBack_1 3 rfl rfl)
theorem dX3_goBack_28 : decode cX3_goBack 28 = .ok (.imul, 1) := dk_104 (dk_at dksX3_goBack_1 4 rfl rfl)
theorem dX3_goBack_29 : decode cX3_goBack 29 = .ok (.istore_n 2, 1) := dk_61 (dk_at dksX3_goBack_1 5 rfl rfl)
theorem dX3_goBack_30 : decode cX3_goBack 30 = .ok (.iconst 0, 1) := dk_3 (dk_at dksX3_goBack_1 6 rfl rfl)
theorem dX3_goBack_31 : decode cX3_goBack 31 = .ok (.istore_n 3, 1) := dk_62 (dk_at dksX3_goBack_1 7 rfl rfl)
theorem dX3_goBack_32 : decode cX3_goBack 32 = .ok (.iload_n 3, 1) := dk_29 (dk_at dksX3_goBack_1 8 rfl rfl)
theorem dX3_goBack_33 : decode cX3_goBack 33 = .ok (.bipush 8, 2) := dk_16 8 (dk_at dksX3_goBack_1 9 rfl rfl)
theorem dX3_goBack_35 : decode cX3_goBack 35 = .ok (.if_icmp .ge 57, 3) := dk_162 0 57 (dk_at dksX3_goBack_1 11 rfl rfl)
theorem dX3_goBack_38 : decode cX3_goBack 38 = .ok (.aload_n 0, 1) := dk_42 (dk_at dksX3_goBack_1 14 rfl rfl)
theorem dX3_goBack_39 : decode cX3_goBack 39 = .ok (.getfield 28, 3) := dk_180 0 28 (dk_at dksX3_goBack_1 15 rfl rfl)
theorem dX3_goBack_42 : decode cX3_goBack 42 = .ok (.iload_n 3, 1) := dk_29 (dk_at dksX3_goBack_1 18 rfl rfl)
theorem dX3_goBack_43 : decode cX3_goBack 43 = .ok (.aload_n 0, 1) := dk_42 (dk_at dksX3_goBack_1 19 rfl rfl)
theorem dX3_goBack_44 : decode cX3_goBack 44 = .ok (.getfield 90, 3) := dk_180 0 90 (dk_at dksX3_goBack_1 20 rfl rfl)
theorem dX3_goBack_47 : decode cX3_goBack 47 = .ok (.iload_n 2, 1) := dk_28 (dk_at dksX3_goBack_1 23 rfl rfl)
theorem dX3_goBack_48 : decode cX3_goBack 48 = .ok (.iload_n 3, 1) := dk_29 (dk_at dksX3_goBack_2 0 rfl rfl)
theorem dX3_goBack_49 : decode cX3_goBack 49 = .ok (.iadd, 1) := dk_96 (dk_at dksX3_goBack_2 1 rfl rfl)
theorem dX3_goBack_50 : decode cX3_goBack 50 = .ok (.iaload, 1) := dk_46 (dk_at dksX3_goBack_2 2 rfl rfl)
theorem dX3_goBack_51 : decode cX3_goBack 51 = .ok (.iastore, 1) := dk_79 (dk_at dksX3_goBack_2 3 rfl rfl)
theorem dX3_goBack_52 : decode cX3_goBack 52 = .ok (.aload_n 0, 1) := dk_42 (dk_at dksX3_goBack_2 4 rfl rfl)
theorem dX3_goBack_53 : decode cX3_goBack 53 = .ok (.getfield 31, 3) := dk_180 0 31 (dk_at dksX3_goBack_2 5 rfl rfl)
theorem dX3_goBack_56 : decode cX3_goBack 56 = .ok (.iload_n 3, 1) := dk_29 (dk_at dksX3_goBack_2 8 rfl rfl)
theorem dX3_goBack_57 : decode cX3_goBack 57 = .ok (.aload_n 0, 1) := dk_42 (dk_at dksX3_goBack_2 9 rfl rfl)
theorem dX3_goBack_58 : decode cX3_goBack 58 = .ok (.getfield 90, 3) := dk_180 0 90 (dk_at dksX3_goBack_2 10 rfl rfl)
theorem dX3_goBack_61 : decode cX3_goBack 61 = .ok (.iload_n 2, 1) := dk_28 (dk_at dksX3_goBack_2 13 rfl rfl)
theorem dX3_goBack_62 : decode cX3_goBack 62 = .ok (.bipush 8, 2) := dk_16 8 (dk_at dksX3_goBack_2 14 rfl rfl)
theorem dX3_goBack_64 : decode cX3_goBack 64 = .ok (.iadd, 1) := dk_96 (dk_at dksX3_goBack_2 16 rfl rfl)
theorem dX3_goBack_65 : decode cX3_goBack 65 = .ok (.iload_n 3, 1) := dk_29 (dk_at dksX3_goBack_2 17 rfl rfl)
theorem dX3_goBack_66 : decode cX3_goBack 66 = .ok (.iadd, 1) := dk_96 (dk_at dksX3_goBack_2 18 rfl rfl)
theorem dX3_goBack_67 : decode cX3_goBack 67 = .ok (.iaload, 1) := dk_46 (dk_at dksX3_goBack_2 19 rfl rfl)
theorem dX3_goBack_68 : decode cX3_goBack 68 = .ok (.iastore, 1) := dk_79 (dk_at dksX3_goBack_2 20 rfl rfl)
theorem dX3_goBack_69 : decode cX3_goBack 69 = .ok (.aload_n 0, 1) := dk_42 (dk_at dksX3_goBack_2 21 rfl rfl)
theorem dX3_goBack_70 : decode cX3_goBack 70 = .ok (.getfield 34, 3) := dk_180 0 34 (dk_at dksX3_goBack_3 0 rfl rfl)
theorem dX3_goBack_73 : decode cX3_goBack 73 = .ok (.iload_n 3, 1) := dk_29 (dk_at dksX3_goBack_3 3 rfl rfl)
theorem dX3_goBack_74 : decode cX3_goBack 74 = .ok (.aload_n 0, 1) := dk_42 (dk_at dksX3_goBack_3 4 rfl rfl)
theorem dX3_goBack_75 : decode cX3_goBack 75 = .ok (.getfield 90, 3) := dk_180 0 90 (dk_at dksX3_goBack_3 5 rfl rfl)
theorem dX3_goBack_78 : decode cX3_goBack 78 = .ok (.iload_n 2, 1) := dk_28 (dk_at dksX3_goBack_3 8 rfl rfl)
theorem dX3_goBack_79 : decode cX3_goBack 79 = .ok (.bipush 16, 2) := dk_16 16 (dk_at dksX3_goBack_3 9 rfl rfl)
theorem dX3_goBack_81 : decode cX3_goBack 81 = .ok (.iadd, 1) := dk_96 (dk_at dksX3_goBack_3 11 rfl rfl)
theorem dX3_goBack_82 : decode cX3_goBack 82 = .ok (.iload_n 3, 1) := dk_29 (dk_at dksX3_goBack_3 12 rfl rfl)
theorem dX3_goBack_83 : decode cX3_goBack 83 = .ok (.iadd, 1) := dk_96 (dk_at dksX3_goBack_3 13 rfl rfl)
theorem dX3_goBack_84 : decode cX3_goBack 84 = .ok (.iaload, 1) := dk_46 (dk_at dksX3_goBack_3 14 rfl rfl)
theorem dX3_goBack_85 : decode cX3_goBack 85 = .ok (.iastore, 1) := dk_79 (dk_at dksX3_goBack_3 15 rfl rfl)
theorem dX3_goBack_86 : decode cX3_goBack 86 = .ok (.iinc 3 1, 3) := dk_132 3 1 (dk_at dksX3_goBack_3 16 rfl rfl)
theorem dX3_goBack_89 : decode cX3_goBack 89 = .ok (.goto (-57), 3) := dk_167 255 199 (dk_at dksX3_goBack_3 19 rfl rfl)
theorem dX3_goBack_92 : decode cX3_goBack 92 = .ok (.iconst 0, 1) := dk_3 (dk_at dksX3_goBack_3 22 rfl rfl)
theorem dX3_goBack_93 : decode cX3_goBack 93 = .ok (.istore_n 3, 1) := dk_62 (dk_at dksX3_goBack_3 23 rfl rfl)
theorem dX3_goBack_94 : decode cX3_goBack 94 = .ok (.iload_n 3, 1) := dk_29 (dk_at dksX3_goBack_4 0 rfl rfl)
theorem dX3_goBack_95 : decode cX3_goBack 95 = .ok (.bipush 30, 2) := dk_16 30 (dk_at dksX3_goBack_4 1 rfl rfl)
theorem dX3_goBack_97 : decode cX3_goBack 97 = .ok (.if_icmp .ge 26, 3) := dk_162 0 26 (dk_at dksX3_goBack_4 3 rfl rfl)
theorem dX3_goBack_100 : decode cX3_goBack 100 = .ok (.aload_n 0, 1) := dk_42 (dk_at dksX3_goBack_4 6 rfl rfl)
theorem dX3_goBack_101 : decode cX3_goBack 101 = .ok (.getfield 22, 3) := dk_180 0 22 (dk_at dksX3_goBack_4 7 rfl rfl)
theorem dX3_goBack_104 : decode cX3_goBack 104 = .ok (.iload_n 3, 1) := dk_29 (dk_at dksX3_goBack_4 10 rfl rfl)
theorem dX3_goBack_105 : decode cX3_goBack 105 = .ok (.aload_n 0, 1) := dk_42 (dk_at dksX3_goBack_4 11 rfl rfl)
theorem dX3_goBack_106 : decode cX3_goBack 106 = .ok (.getfield 90, 3) := dk_180 0 90 (dk_at dksX3_goBack_4 12 rfl rfl)
theorem dX3_goBack_109 : decode cX3_goBack 109 = .ok (.iload_n 2, 1) := dk_28 (dk_at dksX3_goBack_4 15 rfl rfl)
theorem dX3_goBack_110 : decode cX3_goBack 110 = .ok (.bipush 24, 2) := dk_16 24 (dk_at dksX3_goBack_4 16 rfl rfl)
theorem dX3_goBack_112 : decode cX3_goBack 112 = .ok (.iadd, 1) := dk_96 (dk_at dksX3_goBack_4 18 rfl rfl)
theorem dX3_goBack_113 : decode cX3_goBack 113 = .ok (.iload_n 3, 1) := dk_29 (dk_at dksX3_goBack_4 19 rfl rfl)
theorem dX3_goBack_114 : decode cX3_goBack 114 = .ok (.iadd, 1) := dk_96 (dk_at dksX3_goBack_4 20 rfl rfl)
theorem dX3_goBack_115 : decode cX3_goBack 115 = .ok (.iaload, 1) := dk_46 (dk_at dksX3_goBack_4 21 rfl rfl)
theorem dX3_goBack_116 : decode cX3_goBack 116 = .ok (.iastore, 1) := dk_79 (dk_at dksX3_goBack_4 22 rfl rfl)
theorem dX3_goBack_117 : decode cX3_goBack 117 = .ok (.iinc 3 1, 3) := dk_132 3 1 (dk_at dksX3_goBack_5 0 rfl rfl)
theorem dX3_goBack_120 : decode cX3_goBack 120 = .ok (.goto (-26), 3) := dk_167 255 230 (dk_at dksX3_goBack_5 3 rfl rfl)
theorem dX3_goBack_123 : decode cX3_goBack 123 = .ok (.iconst 0, 1) := dk_3 (dk_at dksX3_goBack_5 6 rfl rfl)
theorem dX3_goBack_124 : decode cX3_goBack 124 = .ok (.istore_n 3, 1) := dk_62 (dk_at dksX3_goBack_5 7 rfl rfl)
theorem dX3_goBack_125 : decode cX3_goBack 125 = .ok (.iload_n 3, 1) := dk_29 (dk_at dksX3_goBack_5 8 rfl rfl)
theorem dX3_goBack_126 : decode cX3_goBack 126 = .ok (.bipush 10, 2) := dk_16 10 (dk_at dksX3_goBack_5 9 rfl rfl)
theorem dX3_goBack_128 : decode cX3_goBack 128 = .ok (.if_icmp .ge 26, 3) := dk_162 0 26 (dk_at dksX3_goBack_5 11 rfl rfl)
theorem dX3_goBack_131 : decode cX3_goBack 131 = .ok (.aload_n 0, 1) := dk_42 (dk_at dksX3_goBack_5 14 rfl rfl)
theorem dX3_goBack_132 : decode cX3_goBack 132 = .ok (.getfield 25, 3) := dk_180 0 25 (dk_at dksX3_goBack_5 15 rfl rfl)
theorem dX3_goBack_135 : decode cX3_goBack 135 = .ok (.iload_n 3, 1) := dk_29 (dk_at dksX3_goBack_5 18 rfl rfl)
theorem dX3_goBack_136 : decode cX3_goBack 136 = .ok (.aload_n 0, 1) := dk_42 (dk_at dksX3_goBack_5 19 rfl rfl)
theorem dX3_goBack_137 : decode cX3_goBack 137 = .ok (.getfield 90, 3) := dk_180 0 90 (dk_at dksX3_goBack_5 20 rfl rfl)
theorem dX3_goBack_140 : decode cX3_goBack 140 = .ok (.iload_n 2, 1) := dk_28 (dk_at dksX3_goBack_5 23 rfl rfl)
theorem dX3_goBack_141 : decode cX3_goBack 141 = .ok (.bipush 54, 2) := dk_16 54 (dk_at dksX3_goBack_6 0 rfl rfl)
theorem dX3_goBack_143 : decode cX3_goBack 143 = .ok (.iadd, 1) := dk_96 (dk_at dksX3_goBack_6 2 rfl rfl)
theorem dX3_goBack_144 : decode cX3_goBack 144 = .ok (.iload_n 3, 1) := dk_29 (dk_at dksX3_goBack_6 3 rfl rfl)
theorem dX3_goBack_145 : decode cX3_goBack 145 = .ok (.iadd, 1) := dk_96 (dk_at dksX3_goBack_6 4 rfl rfl)
theorem dX3_goBack_146 : decode cX3_goBack 146 = .ok (.iaload, 1) := dk_46 (dk_at dksX3_goBack_6 5 rfl rfl)
theorem dX3_goBack_147 : decode cX3_goBack 147 = .ok (.iastore, 1) := dk_79 (dk_at dksX3_goBack_6 6 rfl rfl)
theorem dX3_goBack_148 : decode cX3_goBack 148 = .ok (.iinc 3 1, 3) := dk_132 3 1 (dk_at dksX3_goBack_6 7 rfl rfl)
theorem dX3_goBack_151 : decode cX3_goBack 151 = .ok (.goto (-26), 3) := dk_167 255 230 (dk_at dksX3_goBack_6 10 rfl rfl)
theorem dX3_goBack_154 : decode cX3_goBack 154 = .ok (.aload_n 0, 1) := dk_42 (dk_at dksX3_goBack_6 13 rfl rfl)
theorem dX3_goBack_155 : decode cX3_goBack 155 = .ok (.aload_n 0, 1) := dk_42 (dk_at dksX3_goBack_6 14 rfl rfl)
theorem dX3_goBack_156 : decode cX3_goBack 156 = .ok (.getfield 90, 3) := dk_180 0 90 (dk_at dksX3_goBack_6 15 rfl rfl)
theorem dX3_goBack_159 : decode cX3_goBack 159 = .ok (.iload_n 2, 1) := dk_28 (dk_at dksX3_goBack_6 18 rfl rfl)
theorem dX3_goBack_160 : decode cX3_goBack 160 = .ok (.bipush 64, 2) := dk_16 64 (dk_at dksX3_goBack_6 19 rfl rfl)
theorem dX3_goBack_162 : decode cX3_goBack 162 = .ok (.iadd, 1) := dk_96 (dk_at dksX3_goBack_6 21 rfl rfl)
theorem dX3_goBack_163 : decode cX3_goBack 163 = .ok (.iaload, 1) := dk_46 (dk_at dksX3_goBack_6 22 rfl rfl)
theorem dX3_goBack_164 : decode cX3_goBack 164 = .ok (.putfield 106, 3) := dk_181 0 106 (dk_at dksX3_goBack_7 0 rfl rfl)
theorem dX3_goBack_167 : decode cX3_goBack 167 = .ok (.aload_n 0, 1) := dk_42 (dk_at dksX3_goBack_7 3 rfl rfl)
theorem dX3_goBack_168 : decode cX3_goBack 168 = .ok (.aload_n 0, 1) := dk_42 (dk_at dksX3_goBack_7 4 rfl rfl)
theorem dX3_goBack_169 : decode cX3_goBack 169 = .ok (.getfield 90, 3) := dk_180 0 90 (dk_at dksX3_goBack_7 5 rfl rfl)
theorem dX3_goBack_172 : decode cX3_goBack 172 = .ok (.iload_n 2, 1) := dk_28 (dk_at dksX3_goBack_7 8 rfl rfl)
theorem dX3_goBack_173 : decode cX3_goBack 173 = .ok (.bipush 65, 2) := dk_16 65 (dk_at dksX3_goBack_7 9 rfl rfl)
theorem dX3_goBack_175 : decode cX3_goBack 175 = .ok (.iadd, 1) := dk_96 (dk_at dksX3_goBack_7 11 rfl rfl)
theorem dX3_goBack_176 : decode cX3_goBack 176 = .ok (.iaload, 1) := dk_46 (dk_at dksX3_goBack_7 12 rfl rfl)
theorem dX3_goBack_177 : decode cX3_goBack 177 = .ok (.putfield 204, 3) := dk_181 0 204 (dk_at dksX3_goBack_7 13 rfl rfl)
theorem dX3_goBack_180 : decode cX3_goBack 180 = .ok (.aload_n 0, 1) := dk_42 (dk_at dksX3_goBack_7 16 rfl rfl)
theorem dX3_goBack_181 : decode cX3_goBack 181 = .ok (.aload_n 0, 1) := dk_42 (dk_at dksX3_goBack_7 17 rfl rfl)
theorem dX3_goBack_182 : decode cX3_goBack 182 = .ok (.getfield 90, 3) := dk_180 0 90 (dk_at dksX3_goBack_7 18 rfl rfl)
theorem dX3_goBack_185 : decode cX3_goBack 185 = .ok (.iload_n 2, 1) := dk_28 (dk_at dksX3_goBack_7 21 rfl rfl)
theorem dX3_goBack_186 : decode cX3_goBack 186 = .ok (.bipush 66, 2) := dk_16 66 (dk_at dksX3_goBack_7 22 rfl rfl)
theorem dX3_goBack_188 : decode cX3_goBack 188 = .ok (.iadd, 1) := dk_96 (dk_at dksX3_goBack_8 0 rfl rfl)
theorem dX3_goBack_189 : decode cX3_goBack 189 = .ok (.iaload, 1) := dk_46 (dk_at dksX3_goBack_8 1 rfl rfl)
theorem dX3_goBack_190 : decode cX3_goBack 190 = .ok (.putfield 250, 3) := dk_181 0 250 (dk_at dksX3_goBack_8 2 rfl rfl)
theorem dX3_goBack_193 : decode cX3_goBack 193 = .ok (.iconst 1, 1) := dk_4 (dk_at dksX3_goBack_8 5 rfl rfl)
theorem dX3_goBack_194 : decode cX3_goBack 194 = .ok (.ireturn, 1) := dk_172 (dk_at dksX3_goBack_8 6 rfl rfl)
theorem q60 : (Jvm.Cond.initialized "FittingStridesModel") ∈ lw_all := lw_g (lw_at lw_m1 4 rfl) rfl
theorem q964 : (Jvm.Cond.instantiable "FittingStridesModel" (44 : Nat)) ∈ lw_all := lw_g (lw_at lw_m4 188 rfl) rfl
theorem q966 : (Jvm.Cond.instanceMethod ({ cls := "FittingStridesModel", name := "<init>", desc := "()V" } : Jvm.MethodName)) ∈ lw_all := lw_g (lw_at lw_m4 190 rfl) rfl
theorem q967 : (Jvm.Cond.code ({ cls := "FittingStridesModel", name := "<init>", desc := "()V" } : Jvm.MethodName) prog_10_method_1_code (1 : Nat) (Option.none : Option Jvm.ClassFile.FieldType)) ∈ lw_all := lw_g (lw_at lw_m4 191 rfl) rfl
theorem q968 : (Jvm.Cond.methodLink "FittingStridesModel" (1 : Nat) ({ cls := "java/lang/Object", name := "<init>", desc := "()V" } : Jvm.MethodName)) ∈ lw_all := lw_g (lw_at lw_m4 192 rfl) rfl
theorem q969 : (Jvm.Cond.fieldLink "FittingStridesModel" (96 : Nat) "FittingStridesModel" "places" "I") ∈ lw_all := lw_g (lw_at lw_m4 193 rfl) rfl
theorem q970 : (Jvm.Cond.fieldLink "FittingStridesModel" (103 : Nat) "FittingStridesModel" "stairs" "I") ∈ lw_all := lw_g (lw_at lw_m4 194 rfl) rfl
theorem q971 : (Jvm.Cond.fieldLink "FittingStridesModel" (7 : Nat) "FittingStridesModel" "kind" "[I") ∈ lw_all := lw_g (lw_at lw_m4 195 rfl) rfl
theorem q972 : (Jvm.Cond.fieldLink "FittingStridesModel" (13 : Nat) "FittingStridesModel" "low" "[I") ∈ lw_all := lw_g (lw_at lw_m4 196 rfl) rfl
theorem q973 : (Jvm.Cond.fieldLink "FittingStridesModel" (16 : Nat) "FittingStridesModel" "high" "[I") ∈ lw_all := lw_g (lw_at lw_m4 197 rfl) rfl
theorem q974 : (Jvm.Cond.fieldLink "FittingStridesModel" (19 : Nat) "FittingStridesModel" "parts" "[I") ∈ lw_all := lw_g (lw_at lw_m4 198 rfl) rfl
theorem q975 : (Jvm.Cond.fieldLink "FittingStridesModel" (22 : Nat) "FittingStridesModel" "steps" "[I") ∈ lw_all := lw_g (lw_at lw_m4 199 rfl) rfl
theorem q976 : (Jvm.Cond.fieldLink "FittingStridesModel" (25 : Nat) "FittingStridesModel" "worn" "[I") ∈ lw_all := lw_g (lw_at lw_m4 200 rfl) rfl
theorem q977 : (Jvm.Cond.fieldLink "FittingStridesModel" (106 : Nat) "FittingStridesModel" "persons" "I") ∈ lw_all := lw_g (lw_at lw_m4 201 rfl) rfl
theorem q978 : (Jvm.Cond.fieldLink "FittingStridesModel" (28 : Nat) "FittingStridesModel" "at" "[I") ∈ lw_all := lw_g (lw_at lw_m4 202 rfl) rfl
theorem q979 : (Jvm.Cond.fieldLink "FittingStridesModel" (31 : Nat) "FittingStridesModel" "first" "[I") ∈ lw_all := lw_g (lw_at lw_m4 203 rfl) rfl
theorem q980 : (Jvm.Cond.fieldLink "FittingStridesModel" (34 : Nat) "FittingStridesModel" "second" "[I") ∈ lw_all := lw_g (lw_at lw_m4 204 rfl) rfl
theorem q981 : (Jvm.Cond.fieldLink "FittingStridesModel" (204 : Nat) "FittingStridesModel" "law" "I") ∈ lw_all := lw_g (lw_at lw_m4 205 rfl) rfl
theorem q982 : (Jvm.Cond.fieldLink "FittingStridesModel" (250 : Nat) "FittingStridesModel" "seed" "I") ∈ lw_all := lw_g (lw_at lw_m4 206 rfl) rfl
theorem q983 : (Jvm.Cond.fieldLink "FittingStridesModel" (37 : Nat) "FittingStridesModel" "text" "[I") ∈ lw_all := lw_g (lw_at lw_m4 207 rfl) rfl
theorem q984 : (Jvm.Cond.fieldLink "FittingStridesModel" (112 : Nat) "FittingStridesModel" "texted" "I") ∈ lw_all := lw_g (lw_at lw_m4 208 rfl) rfl
theorem q985 : (Jvm.Cond.fieldLink "FittingStridesModel" (40 : Nat) "FittingStridesModel" "faultPlace" "I") ∈ lw_all := lw_g (lw_at lw_m4 209 rfl) rfl
theorem q986 : (Jvm.Cond.fieldLink "FittingStridesModel" (118 : Nat) "FittingStridesModel" "at0" "I") ∈ lw_all := lw_g (lw_at lw_m4 210 rfl) rfl
theorem q987 : (Jvm.Cond.fieldLink "FittingStridesModel" (125 : Nat) "FittingStridesModel" "said" "J") ∈ lw_all := lw_g (lw_at lw_m4 211 rfl) rfl
theorem q988 : (Jvm.Cond.fieldLink "FittingStridesModel" (129 : Nat) "FittingStridesModel" "wordEnd" "I") ∈ lw_all := lw_g (lw_at lw_m4 212 rfl) rfl
theorem q989 : (Jvm.Cond.fieldLink "FittingStridesModel" (155 : Nat) "FittingStridesModel" "number" "I") ∈ lw_all := lw_g (lw_at lw_m4 213 rfl) rfl
theorem q990 : (Jvm.Cond.fieldLink "FittingStridesModel" (152 : Nat) "FittingStridesModel" "numberAt" "I") ∈ lw_all := lw_g (lw_at lw_m4 214 rfl) rfl
theorem q991 : (Jvm.Cond.fieldLink "FittingStridesModel" (179 : Nat) "FittingStridesModel" "readPlaces" "I") ∈ lw_all := lw_g (lw_at lw_m4 215 rfl) rfl
theorem q992 : (Jvm.Cond.fieldLink "FittingStridesModel" (165 : Nat) "FittingStridesModel" "readStairs" "I") ∈ lw_all := lw_g (lw_at lw_m4 216 rfl) rfl
theorem q993 : (Jvm.Cond.fieldLink "FittingStridesModel" (44 : Nat) "FittingStridesModel" "readKind" "[I") ∈ lw_all := lw_g (lw_at lw_m4 217 rfl) rfl
theorem q994 : (Jvm.Cond.fieldLink "FittingStridesModel" (47 : Nat) "FittingStridesModel" "readLow" "[I") ∈ lw_all := lw_g (lw_at lw_m4 218 rfl) rfl
theorem q995 : (Jvm.Cond.fieldLink "FittingStridesModel" (50 : Nat) "FittingStridesModel" "readHigh" "[I") ∈ lw_all := lw_g (lw_at lw_m4 219 rfl) rfl
theorem q996 : (Jvm.Cond.fieldLink "FittingStridesModel" (53 : Nat) "FittingStridesModel" "readParts" "[I") ∈ lw_all := lw_g (lw_at lw_m4 220 rfl) rfl
theorem q997 : (Jvm.Cond.fieldLink "FittingStridesModel" (56 : Nat) "FittingStridesModel" "readSteps" "[I") ∈ lw_all := lw_g (lw_at lw_m4 221 rfl) rfl
theorem q998 : (Jvm.Cond.fieldLink "FittingStridesModel" (186 : Nat) "FittingStridesModel" "readPersons" "I") ∈ lw_all := lw_g (lw_at lw_m4 222 rfl) rfl
theorem q999 : (Jvm.Cond.fieldLink "FittingStridesModel" (59 : Nat) "FittingStridesModel" "readAt" "[I") ∈ lw_all := lw_g (lw_at lw_m4 223 rfl) rfl
theorem q1000 : (Jvm.Cond.fieldLink "FittingStridesModel" (62 : Nat) "FittingStridesModel" "readFirst" "[I") ∈ lw_all := lw_g (lw_at lw_m4 224 rfl) rfl
theorem q1001 : (Jvm.Cond.fieldLink "FittingStridesModel" (65 : Nat) "FittingStridesModel" "readSecond" "[I") ∈ lw_all := lw_g (lw_at lw_m4 225 rfl) rfl
theorem q1002 : (Jvm.Cond.fieldLink "FittingStridesModel" (68 : Nat) "FittingStridesModel" "reaches" "[I") ∈ lw_all := lw_g (lw_at lw_m4 226 rfl) rfl
theorem q1003 : (Jvm.Cond.fieldLink "FittingStridesModel" (198 : Nat) "FittingStridesModel" "sights" "I") ∈ lw_all := lw_g (lw_at lw_m4 227 rfl) rfl
theorem q1004 : (Jvm.Cond.fieldLink "FittingStridesModel" (71 : Nat) "FittingStridesModel" "seenFrom" "[I") ∈ lw_all := lw_g (lw_at lw_m4 228 rfl) rfl
theorem q1005 : (Jvm.Cond.fieldLink "FittingStridesModel" (74 : Nat) "FittingStridesModel" "seenAt" "[I") ∈ lw_all := lw_g (lw_at lw_m4 229 rfl) rfl
theorem q1006 : (Jvm.Cond.fieldLink "FittingStridesModel" (77 : Nat) "FittingStridesModel" "seenWas" "[Z") ∈ lw_all := lw_g (lw_at lw_m4 230 rfl) rfl
theorem q1007 : (Jvm.Cond.fieldLink "FittingStridesModel" (201 : Nat) "FittingStridesModel" "booked" "I") ∈ lw_all := lw_g (lw_at lw_m4 231 rfl) rfl
theorem q1008 : (Jvm.Cond.fieldLink "FittingStridesModel" (81 : Nat) "FittingStridesModel" "bookWho" "[I") ∈ lw_all := lw_g (lw_at lw_m4 232 rfl) rfl
theorem q1009 : (Jvm.Cond.fieldLink "FittingStridesModel" (84 : Nat) "FittingStridesModel" "bookStair" "[I") ∈ lw_all := lw_g (lw_at lw_m4 233 rfl) rfl
theorem q1010 : (Jvm.Cond.fieldLink "FittingStridesModel" (87 : Nat) "FittingStridesModel" "wasAt" "[I") ∈ lw_all := lw_g (lw_at lw_m4 234 rfl) rfl
theorem q1011 : (Jvm.Cond.fieldLink "FittingStridesModel" (90 : Nat) "FittingStridesModel" "images" "[I") ∈ lw_all := lw_g (lw_at lw_m4 235 rfl) rfl
theorem q1012 : (Jvm.Cond.fieldLink "FittingStridesModel" (93 : Nat) "FittingStridesModel" "isKept" "[Z") ∈ lw_all := lw_g (lw_at lw_m4 236 rfl) rfl
theorem q1013 : (Jvm.Cond.lays "FittingStridesModel" "FittingStridesModel" "places" "I") ∈ lw_all := lw_g (lw_at lw_m4 237 rfl) rfl
theorem q1014 : (Jvm.Cond.soleField "FittingStridesModel" "places") ∈ lw_all := lw_g (lw_at lw_m4 238 rfl) rfl
theorem q1015 : (Jvm.Cond.lays "FittingStridesModel" "FittingStridesModel" "stairs" "I") ∈ lw_all := lw_g (lw_at lw_m4 239 rfl) rfl
theorem q1016 : (Jvm.Cond.soleField "FittingStridesModel" "stairs") ∈ lw_all := lw_g (lw_at lw_m5 0 rfl) rfl
theorem q1017 : (Jvm.Cond.laysFinal "FittingStridesModel" "FittingStridesModel" "kind" "[I") ∈ lw_all := lw_g (lw_at lw_m5 1 rfl) rfl
theorem q1018 : (Jvm.Cond.soleField "FittingStridesModel" "kind") ∈ lw_all := lw_g (lw_at lw_m5 2 rfl) rfl
theorem q1019 : (Jvm.Cond.laysFinal "FittingStridesModel" "FittingStridesModel" "low" "[I") ∈ lw_all := lw_g (lw_at lw_m5 3 rfl) rfl
theorem q1020 : (Jvm.Cond.soleField "FittingStridesModel" "low") ∈ lw_all := lw_g (lw_at lw_m5 4 rfl) rfl
theorem q1021 : (Jvm.Cond.laysFinal "FittingStridesModel" "FittingStridesModel" "high" "[I") ∈ lw_all := lw_g (lw_at lw_m5 5 rfl) rfl
theorem q1022 : (Jvm.Cond.soleField "FittingStridesModel" "high") ∈ lw_all := lw_g (lw_at lw_m5 6 rfl) rfl
theorem q1023 : (Jvm.Cond.laysFinal "FittingStridesModel" "FittingStridesModel" "parts" "[I") ∈ lw_all := lw_g (lw_at lw_m5 7 rfl) rfl
theorem q1024 : (Jvm.Cond.soleField "FittingStridesModel" "parts") ∈ lw_all := lw_g (lw_at lw_m5 8 rfl) rfl
theorem q1025 : (Jvm.Cond.laysFinal "FittingStridesModel" "FittingStridesModel" "steps" "[I") ∈ lw_all := lw_g (lw_at lw_m5 9 rfl) rfl
theorem q1026 : (Jvm.Cond.soleField "FittingStridesModel" "steps") ∈ lw_all := lw_g (lw_at lw_m5 10 rfl) rfl
theorem q1027 : (Jvm.Cond.laysFinal "FittingStridesModel" "FittingStridesModel" "worn" "[I") ∈ lw_all := lw_g (lw_at lw_m5 11 rfl) rfl
theorem q1028 : (Jvm.Cond.soleField "FittingStridesModel" "worn") ∈ lw_all := lw_g (lw_at lw_m5 12 rfl) rfl
theorem q1029 : (Jvm.Cond.lays "FittingStridesModel" "FittingStridesModel" "persons" "I") ∈ lw_all := lw_g (lw_at lw_m5 13 rfl) rfl
theorem q1030 : (Jvm.Cond.soleField "FittingStridesModel" "persons") ∈ lw_all := lw_g (lw_at lw_m5 14 rfl) rfl
theorem q1031 : (Jvm.Cond.laysFinal "FittingStridesModel" "FittingStridesModel" "at" "[I") ∈ lw_all := lw_g (lw_at lw_m5 15 rfl) rfl
theorem q1032 : (Jvm.Cond.soleField "FittingStridesModel" "at") ∈ lw_all := lw_g (lw_at lw_m5 16 rfl) rfl
theorem q1033 : (Jvm.Cond.laysFinal "FittingStridesModel" "FittingStridesModel" "first" "[I") ∈ lw_all := lw_g (lw_at lw_m5 17 rfl) rfl
theorem q1034 : (Jvm.Cond.soleField "FittingStridesModel" "first") ∈ lw_all := lw_g (lw_at lw_m5 18 rfl) rfl
theorem q1035 : (Jvm.Cond.laysFinal "FittingStridesModel" "FittingStridesModel" "second" "[I") ∈ lw_all := lw_g (lw_at lw_m5 19 rfl) rfl
theorem q1036 : (Jvm.Cond.soleField "FittingStridesModel" "second") ∈ lw_all := lw_g (lw_at lw_m5 20 rfl) rfl
theorem q1037 : (Jvm.Cond.lays "FittingStridesModel" "FittingStridesModel" "law" "I") ∈ lw_all := lw_g (lw_at lw_m5 21 rfl) rfl
theorem q1038 : (Jvm.Cond.soleField "FittingStridesModel" "law") ∈ lw_all := lw_g (lw_at lw_m5 22 rfl) rfl
theorem q1039 : (Jvm.Cond.lays "FittingStridesModel" "FittingStridesModel" "seed" "I") ∈ lw_all := lw_g (lw_at lw_m5 23 rfl) rfl
theorem q1040 : (Jvm.Cond.soleField "FittingStridesModel" "seed") ∈ lw_all := lw_g (lw_at lw_m5 24 rfl) rfl
theorem q1041 : (Jvm.Cond.laysFinal "FittingStridesModel" "FittingStridesModel" "text" "[I") ∈ lw_all := lw_g (lw_at lw_m5 25 rfl) rfl
theorem q1042 : (Jvm.Cond.soleField "FittingStridesModel" "text") ∈ lw_all := lw_g (lw_at lw_m5 26 rfl) rfl
theorem q1043 : (Jvm.Cond.lays "FittingStridesModel" "FittingStridesModel" "texted" "I") ∈ lw_all := lw_g (lw_at lw_m5 27 rfl) rfl
theorem q1044 : (Jvm.Cond.soleField "FittingStridesModel" "texted") ∈ lw_all := lw_g (lw_at lw_m5 28 rfl) rfl
theorem q1045 : (Jvm.Cond.lays "FittingStridesModel" "FittingStridesModel" "faultPlace" "I") ∈ lw_all := lw_g (lw_at lw_m5 29 rfl) rfl
theorem q1046 : (Jvm.Cond.soleField "FittingStridesModel" "faultPlace") ∈ lw_all := lw_g (lw_at lw_m5 30 rfl) rfl
theorem q1047 : (Jvm.Cond.lays "FittingStridesModel" "FittingStridesModel" "at0" "I") ∈ lw_all := lw_g (lw_at lw_m5 31 rfl) rfl
theorem q1048 : (Jvm.Cond.soleField "FittingStridesModel" "at0") ∈ lw_all := lw_g (lw_at lw_m5 32 rfl) rfl
theorem q1049 : (Jvm.Cond.lays "FittingStridesModel" "FittingStridesModel" "said" "J") ∈ lw_all := lw_g (lw_at lw_m5 33 rfl) rfl
theorem q1050 : (Jvm.Cond.soleField "FittingStridesModel" "said") ∈ lw_all := lw_g (lw_at lw_m5 34 rfl) rfl
theorem q1051 : (Jvm.Cond.lays "FittingStridesModel" "FittingStridesModel" "wordEnd" "I") ∈ lw_all := lw_g (lw_at lw_m5 35 rfl) rfl
theorem q1052 : (Jvm.Cond.soleField "FittingStridesModel" "wordEnd") ∈ lw_all := lw_g (lw_at lw_m5 36 rfl) rfl
theorem q1053 : (Jvm.Cond.lays "FittingStridesModel" "FittingStridesModel" "number" "I") ∈ lw_all := lw_g (lw_at lw_m5 37 rfl) rfl
theorem q1054 : (Jvm.Cond.soleField "FittingStridesModel" "number") ∈ lw_all := lw_g (lw_at lw_m5 38 rfl) rfl
theorem q1055 : (Jvm.Cond.lays "FittingStridesModel" "FittingStridesModel" "numberAt" "I") ∈ lw_all := lw_g (lw_at lw_m5 39 rfl) rfl
theorem q1056 : (Jvm.Cond.soleField "FittingStridesModel" "numberAt") ∈ lw_all := lw_g (lw_at lw_m5 40 rfl) rfl
theorem q1057 : (Jvm.Cond.lays "FittingStridesModel" "FittingStridesModel" "readPlaces" "I") ∈ lw_all := lw_g (lw_at lw_m5 41 rfl) rfl
theorem q1058 : (Jvm.Cond.soleField "FittingStridesModel" "readPlaces") ∈ lw_all := lw_g (lw_at lw_m5 42 rfl) rfl
theorem q1059 : (Jvm.Cond.lays "FittingStridesModel" "FittingStridesModel" "readStairs" "I") ∈ lw_all := lw_g (lw_at lw_m5 43 rfl) rfl
theorem q1060 : (Jvm.Cond.soleField "FittingStridesModel" "readStairs") ∈ lw_all := lw_g (lw_at lw_m5 44 rfl) rfl
theorem q1061 : (Jvm.Cond.laysFinal "FittingStridesModel" "FittingStridesModel" "readKind" "[I") ∈ lw_all := lw_g (lw_at lw_m5 45 rfl) rfl
theorem q1062 : (Jvm.Cond.soleField "FittingStridesModel" "readKind") ∈ lw_all := lw_g (lw_at lw_m5 46 rfl) rfl
theorem q1063 : (Jvm.Cond.laysFinal "FittingStridesModel" "FittingStridesModel" "readLow" "[I") ∈ lw_all := lw_g (lw_at lw_m5 47 rfl) rfl
theorem q1064 : (Jvm.Cond.soleField "FittingStridesModel" "readLow") ∈ lw_all := lw_g (lw_at lw_m5 48 rfl) rfl
theorem q1065 : (Jvm.Cond.laysFinal "FittingStridesModel" "FittingStridesModel" "readHigh" "[I") ∈ lw_all := lw_g (lw_at lw_m5 49 rfl) rfl
theorem q1066 : (Jvm.Cond.soleField "FittingStridesModel" "readHigh") ∈ lw_all := lw_g (lw_at lw_m5 50 rfl) rfl
theorem q1067 : (Jvm.Cond.laysFinal "FittingStridesModel" "FittingStridesModel" "readParts" "[I") ∈ lw_all := lw_g (lw_at lw_m5 51 rfl) rfl
theorem q1068 : (Jvm.Cond.soleField "FittingStridesModel" "readParts") ∈ lw_all := lw_g (lw_at lw_m5 52 rfl) rfl
theorem q1069 : (Jvm.Cond.laysFinal "FittingStridesModel" "FittingStridesModel" "readSteps" "[I") ∈ lw_all := lw_g (lw_at lw_m5 53 rfl) rfl
theorem q1070 : (Jvm.Cond.soleField "FittingStridesModel" "readSteps") ∈ lw_all := lw_g (lw_at lw_m5 54 rfl) rfl
theorem q1071 : (Jvm.Cond.lays "FittingStridesModel" "FittingStridesModel" "readPersons" "I") ∈ lw_all := lw_g (lw_at lw_m5 55 rfl) rfl
theorem q1072 : (Jvm.Cond.soleField "FittingStridesModel" "readPersons") ∈ lw_all := lw_g (lw_at lw_m5 56 rfl) rfl
theorem q1073 : (Jvm.Cond.laysFinal "FittingStridesModel" "FittingStridesModel" "readAt" "[I") ∈ lw_all := lw_g (lw_at lw_m5 57 rfl) rfl
theorem q1074 : (Jvm.Cond.soleField "FittingStridesModel" "readAt") ∈ lw_all := lw_g (lw_at lw_m5 58 rfl) rfl
theorem q1075 : (Jvm.Cond.laysFinal "FittingStridesModel" "FittingStridesModel" "readFirst" "[I") ∈ lw_all := lw_g (lw_at lw_m5 59 rfl) rfl
theorem q1076 : (Jvm.Cond.soleField "FittingStridesModel" "readFirst") ∈ lw_all := lw_g (lw_at lw_m5 60 rfl) rfl
theorem q1077 : (Jvm.Cond.laysFinal "FittingStridesModel" "FittingStridesModel" "readSecond" "[I") ∈ lw_all := lw_g (lw_at lw_m5 61 rfl) rfl
theorem q1078 : (Jvm.Cond.soleField "FittingStridesModel" "readSecond") ∈ lw_all := lw_g (lw_at lw_m5 62 rfl) rfl
theorem q1079 : (Jvm.Cond.laysFinal "FittingStridesModel" "FittingStridesModel" "reaches" "[I") ∈ lw_all := lw_g (lw_at lw_m5 63 rfl) rfl
theorem q1080 : (Jvm.Cond.soleField "FittingStridesModel" "reaches") ∈ lw_all := lw_g (lw_at lw_m5 64 rfl) rfl
theorem q1081 : (Jvm.Cond.lays "FittingStridesModel" "FittingStridesModel" "sights" "I") ∈ lw_all := lw_g (lw_at lw_m5 65 rfl) rfl
theorem q1082 : (Jvm.Cond.soleField "FittingStridesModel" "sights") ∈ lw_all := lw_g (lw_at lw_m5 66 rfl) rfl
theorem q1083 : (Jvm.Cond.laysFinal "FittingStridesModel" "FittingStridesModel" "seenFrom" "[I") ∈ lw_all := lw_g (lw_at lw_m5 67 rfl) rfl
theorem q1084 : (Jvm.Cond.soleField "FittingStridesModel" "seenFrom") ∈ lw_all := lw_g (lw_at lw_m5 68 rfl) rfl
theorem q1085 : (Jvm.Cond.laysFinal "FittingStridesModel" "FittingStridesModel" "seenAt" "[I") ∈ lw_all := lw_g (lw_at lw_m5 69 rfl) rfl
theorem q1086 : (Jvm.Cond.soleField "FittingStridesModel" "seenAt") ∈ lw_all := lw_g (lw_at lw_m5 70 rfl) rfl
theorem q1087 : (Jvm.Cond.laysFinal "FittingStridesModel" "FittingStridesModel" "seenWas" "[Z") ∈ lw_all := lw_g (lw_at lw_m5 71 rfl) rfl
theorem q1088 : (Jvm.Cond.soleField "FittingStridesModel" "seenWas") ∈ lw_all := lw_g (lw_at lw_m5 72 rfl) rfl
theorem q1089 : (Jvm.Cond.lays "FittingStridesModel" "FittingStridesModel" "booked" "I") ∈ lw_all := lw_g (lw_at lw_m5 73 rfl) rfl
theorem q1090 : (Jvm.Cond.soleField "FittingStridesModel" "booked") ∈ lw_all := lw_g (lw_at lw_m5 74 rfl) rfl
theorem q1091 : (Jvm.Cond.laysFinal "FittingStridesModel" "FittingStridesModel" "bookWho" "[I") ∈ lw_all := lw_g (lw_at lw_m5 75 rfl) rfl
theorem q1092 : (Jvm.Cond.soleField "FittingStridesModel" "bookWho") ∈ lw_all := lw_g (lw_at lw_m5 76 rfl) rfl
theorem q1093 : (Jvm.Cond.laysFinal "FittingStridesModel" "FittingStridesModel" "bookStair" "[I") ∈ lw_all := lw_g (lw_at lw_m5 77 rfl) rfl
theorem q1094 : (Jvm.Cond.soleField "FittingStridesModel" "bookStair") ∈ lw_all := lw_g (lw_at lw_m5 78 rfl) rfl
theorem q1095 : (Jvm.Cond.laysFinal "FittingStridesModel" "FittingStridesModel" "wasAt" "[I") ∈ lw_all := lw_g (lw_at lw_m5 79 rfl) rfl
theorem q1096 : (Jvm.Cond.soleField "FittingStridesModel" "wasAt") ∈ lw_all := lw_g (lw_at lw_m5 80 rfl) rfl
theorem q1097 : (Jvm.Cond.laysFinal "FittingStridesModel" "FittingStridesModel" "images" "[I") ∈ lw_all := lw_g (lw_at lw_m5 81 rfl) rfl
theorem q1098 : (Jvm.Cond.soleField "FittingStridesModel" "images") ∈ lw_all := lw_g (lw_at lw_m5 82 rfl) rfl
theorem q1099 : (Jvm.Cond.laysFinal "FittingStridesModel" "FittingStridesModel" "isKept" "[Z") ∈ lw_all := lw_g (lw_at lw_m5 83 rfl) rfl
theorem q1100 : (Jvm.Cond.soleField "FittingStridesModel" "isKept") ∈ lw_all := lw_g (lw_at lw_m5 84 rfl) rfl
theorem q1101 : (Jvm.Cond.superclass "FittingStridesModel" "java/lang/Object") ∈ lw_all := lw_g (lw_at lw_m5 85 rfl) rfl
theorem q1103 : (Jvm.Cond.instanceMethod ({ cls := "FittingStridesModel", name := "feed", desc := "(IJ)I" } : Jvm.MethodName)) ∈ lw_all := lw_g (lw_at lw_m5 87 rfl) rfl
theorem q1104 : (Jvm.Cond.selects "FittingStridesModel" ({ cls := "FittingStridesModel", name := "feed", desc := "(IJ)I" } : Jvm.MethodName) ({ cls := "FittingStridesModel", name := "feed", desc := "(IJ)I" } : Jvm.MethodName)) ∈ lw_all := lw_g (lw_at lw_m5 88 rfl) rfl
theorem q1105 : (Jvm.Cond.code ({ cls := "FittingStridesModel", name := "feed", desc := "(IJ)I" } : Jvm.MethodName) prog_10_method_9_code (5 : Nat) (Option.some Jvm.ClassFile.FieldType.int)) ∈ lw_all := lw_g (lw_at lw_m5 89 rfl) rfl
theorem q1106 : (Jvm.Cond.constantLong "FittingStridesModel" (109 : Nat) (8 : Int64)) ∈ lw_all := lw_g (lw_at lw_m5 90 rfl) rfl
theorem q1107 : (Jvm.Cond.methodLink "FittingStridesModel" (99 : Nat) ({ cls := "FittingStridesModel", name := "in", desc := "(JJJ)Z" } : Jvm.MethodName)) ∈ lw_all := lw_g (lw_at lw_m5 91 rfl) rfl
theorem q1108 : (Jvm.Cond.static ({ cls := "FittingStridesModel", name := "in", desc := "(JJJ)Z" } : Jvm.MethodName)) ∈ lw_all := lw_g (lw_at lw_m5 92 rfl) rfl
theorem q1109 : (Jvm.Cond.code ({ cls := "FittingStridesModel", name := "in", desc := "(JJJ)Z" } : Jvm.MethodName) prog_10_method_3_code (6 : Nat) (Option.some Jvm.ClassFile.FieldType.boolean)) ∈ lw_all := lw_g (lw_at lw_m5 93 rfl) rfl
theorem q1110 : (Jvm.Cond.constant "FittingStridesModel" (111 : Nat) (-1000000002 : Int32)) ∈ lw_all := lw_g (lw_at lw_m5 94 rfl) rfl
theorem q1111 : (Jvm.Cond.constant "FittingStridesModel" (115 : Nat) (-1000000004 : Int32)) ∈ lw_all := lw_g (lw_at lw_m5 95 rfl) rfl
theorem q1112 : (Jvm.Cond.constantLong "FittingStridesModel" (116 : Nat) (255 : Int64)) ∈ lw_all := lw_g (lw_at lw_m5 96 rfl) rfl
theorem q1114 : (Jvm.Cond.instanceMethod ({ cls := "FittingStridesModel", name := "town", desc := "()I" } : Jvm.MethodName)) ∈ lw_all := lw_g (lw_at lw_m5 98 rfl) rfl
theorem q1115 : (Jvm.Cond.selects "FittingStridesModel" ({ cls := "FittingStridesModel", name := "town", desc := "()I" } : Jvm.MethodName) ({ cls := "FittingStridesModel", name := "town", desc := "()I" } : Jvm.MethodName)) ∈ lw_all := lw_g (lw_at lw_m5 99 rfl) rfl
theorem q1116 : (Jvm.Cond.code ({ cls := "FittingStridesModel", name := "town", desc := "()I" } : Jvm.MethodName) prog_10_method_21_code (3 : Nat) (Option.some Jvm.ClassFile.FieldType.int)) ∈ lw_all := lw_g (lw_at lw_m5 100 rfl) rfl
theorem q1117 : (Jvm.Cond.methodLink "FittingStridesModel" (121 : Nat) ({ cls := "FittingStridesModel", name := "here", desc := "()I" } : Jvm.MethodName)) ∈ lw_all := lw_g (lw_at lw_m5 101 rfl) rfl
theorem q1118 : (Jvm.Cond.privateMethod ({ cls := "FittingStridesModel", name := "here", desc := "()I" } : Jvm.MethodName)) ∈ lw_tbl := lw_at lw_m5 102 rfl
theorem q1119 : (Jvm.Cond.instanceMethod ({ cls := "FittingStridesModel", name := "here", desc := "()I" } : Jvm.MethodName)) ∈ lw_all := lw_g (lw_at lw_m5 103 rfl) rfl
theorem q1120 : (Jvm.Cond.code ({ cls := "FittingStridesModel", name := "here", desc := "()I" } : Jvm.MethodName) prog_10_method_10_code (1 : Nat) (Option.some Jvm.ClassFile.FieldType.int)) ∈ lw_all := lw_g (lw_at lw_m5 104 rfl) rfl
theorem q1121 : (Jvm.Cond.methodLink "FittingStridesModel" (195 : Nat) ({ cls := "FittingStridesModel", name := "takeClause", desc := "()I" } : Jvm.MethodName)) ∈ lw_all := lw_g (lw_at lw_m5 105 rfl) rfl
theorem q1122 : (Jvm.Cond.privateMethod ({ cls := "FittingStridesModel", name := "takeClause", desc := "()I" } : Jvm.MethodName)) ∈ lw_tbl := lw_at lw_m5 106 rfl
theorem q1123 : (Jvm.Cond.instanceMethod ({ cls := "FittingStridesModel", name := "takeClause", desc := "()I" } : Jvm.MethodName)) ∈ lw_all := lw_g (lw_at lw_m5 107 rfl) rfl
theorem q1124 : (Jvm.Cond.code ({ cls := "FittingStridesModel", name := "takeClause", desc := "()I" } : Jvm.MethodName) prog_10_method_20_code (4 : Nat) (Option.some Jvm.ClassFile.FieldType.int)) ∈ lw_all := lw_g (lw_at lw_m5 108 rfl) rfl
theorem q1125 : (Jvm.Cond.methodLink "FittingStridesModel" (168 : Nat) ({ cls := "FittingStridesModel", name := "readWord", desc := "()V" } : Jvm.MethodName)) ∈ lw_all := lw_g (lw_at lw_m5 109 rfl) rfl
theorem q1126 : (Jvm.Cond.privateMethod ({ cls := "FittingStridesModel", name := "readWord", desc := "()V" } : Jvm.MethodName)) ∈ lw_tbl := lw_at lw_m5 110 rfl
theorem q1127 : (Jvm.Cond.instanceMethod ({ cls := "FittingStridesModel", name := "readWord", desc := "()V" } : Jvm.MethodName)) ∈ lw_all := lw_g (lw_at lw_m5 111 rfl) rfl
theorem q1128 : (Jvm.Cond.code ({ cls := "FittingStridesModel", name := "readWord", desc := "()V" } : Jvm.MethodName) prog_10_method_12_code (2 : Nat) (Option.none : Option Jvm.ClassFile.FieldType)) ∈ lw_all := lw_g (lw_at lw_m5 112 rfl) rfl
theorem q1129 : (Jvm.Cond.constantLong "FittingStridesModel" (132 : Nat) (97 : Int64)) ∈ lw_all := lw_g (lw_at lw_m5 113 rfl) rfl
theorem q1130 : (Jvm.Cond.constantLong "FittingStridesModel" (134 : Nat) (122 : Int64)) ∈ lw_all := lw_g (lw_at lw_m5 114 rfl) rfl
theorem q1131 : (Jvm.Cond.constantLong "FittingStridesModel" (136 : Nat) (10000000000000 : Int64)) ∈ lw_all := lw_g (lw_at lw_m5 115 rfl) rfl
theorem q1132 : (Jvm.Cond.constantLong "FittingStridesModel" (138 : Nat) (20000000000000 : Int64)) ∈ lw_all := lw_g (lw_at lw_m5 116 rfl) rfl
theorem q1133 : (Jvm.Cond.constantLong "FittingStridesModel" (140 : Nat) (27 : Int64)) ∈ lw_all := lw_g (lw_at lw_m5 117 rfl) rfl
theorem q1134 : (Jvm.Cond.constantLong "FittingStridesModel" (142 : Nat) (96 : Int64)) ∈ lw_all := lw_g (lw_at lw_m5 118 rfl) rfl
theorem q1135 : (Jvm.Cond.methodLink "FittingStridesModel" (171 : Nat) ({ cls := "FittingStridesModel", name := "code", desc := "(IIII)J" } : Jvm.MethodName)) ∈ lw_all := lw_g (lw_at lw_m5 119 rfl) rfl
theorem q1136 : (Jvm.Cond.static ({ cls := "FittingStridesModel", name := "code", desc := "(IIII)J" } : Jvm.MethodName)) ∈ lw_all := lw_g (lw_at lw_m5 120 rfl) rfl
theorem q1137 : (Jvm.Cond.code ({ cls := "FittingStridesModel", name := "code", desc := "(IIII)J" } : Jvm.MethodName) prog_10_method_13_code (4 : Nat) (Option.some Jvm.ClassFile.FieldType.long)) ∈ lw_all := lw_g (lw_at lw_m5 121 rfl) rfl
theorem q1138 : (Jvm.Cond.methodLink "FittingStridesModel" (175 : Nat) ({ cls := "FittingStridesModel", name := "longer", desc := "(JII)J" } : Jvm.MethodName)) ∈ lw_all := lw_g (lw_at lw_m5 122 rfl) rfl
theorem q1139 : (Jvm.Cond.static ({ cls := "FittingStridesModel", name := "longer", desc := "(JII)J" } : Jvm.MethodName)) ∈ lw_all := lw_g (lw_at lw_m5 123 rfl) rfl
theorem q1140 : (Jvm.Cond.code ({ cls := "FittingStridesModel", name := "longer", desc := "(JII)J" } : Jvm.MethodName) prog_10_method_14_code (4 : Nat) (Option.some Jvm.ClassFile.FieldType.long)) ∈ lw_all := lw_g (lw_at lw_m5 124 rfl) rfl
theorem q1141 : (Jvm.Cond.methodLink "FittingStridesModel" (148 : Nat) ({ cls := "FittingStridesModel", name := "fails", desc := "(II)I" } : Jvm.MethodName)) ∈ lw_all := lw_g (lw_at lw_m5 125 rfl) rfl
theorem q1142 : (Jvm.Cond.privateMethod ({ cls := "FittingStridesModel", name := "fails", desc := "(II)I" } : Jvm.MethodName)) ∈ lw_tbl := lw_at lw_m5 126 rfl
theorem q1143 : (Jvm.Cond.instanceMethod ({ cls := "FittingStridesModel", name := "fails", desc := "(II)I" } : Jvm.MethodName)) ∈ lw_all := lw_g (lw_at lw_m5 127 rfl) rfl
theorem q1144 : (Jvm.Cond.code ({ cls := "FittingStridesModel", name := "fails", desc := "(II)I" } : Jvm.MethodName) prog_10_method_11_code (3 : Nat) (Option.some Jvm.ClassFile.FieldType.int)) ∈ lw_all := lw_g (lw_at lw_m5 128 rfl) rfl
theorem q1145 : (Jvm.Cond.methodLink "FittingStridesModel" (158 : Nat) ({ cls := "FittingStridesModel", name := "takeNumber", desc := "(II)I" } : Jvm.MethodName)) ∈ lw_all := lw_g (lw_at lw_m5 129 rfl) rfl
theorem q1146 : (Jvm.Cond.privateMethod ({ cls := "FittingStridesModel", name := "takeNumber", desc := "(II)I" } : Jvm.MethodName)) ∈ lw_tbl := lw_at lw_m5 130 rfl
theorem q1147 : (Jvm.Cond.instanceMethod ({ cls := "FittingStridesModel", name := "takeNumber", desc := "(II)I" } : Jvm.MethodName)) ∈ lw_all := lw_g (lw_at lw_m5 131 rfl) rfl
theorem q1148 : (Jvm.Cond.code ({ cls := "FittingStridesModel", name := "takeNumber", desc := "(II)I" } : Jvm.MethodName) prog_10_method_15_code (4 : Nat) (Option.some Jvm.ClassFile.FieldType.int)) ∈ lw_all := lw_g (lw_at lw_m5 132 rfl) rfl
theorem q1149 : (Jvm.Cond.constantLong "FittingStridesModel" (144 : Nat) (48 : Int64)) ∈ lw_all := lw_g (lw_at lw_m5 133 rfl) rfl
theorem q1150 : (Jvm.Cond.constantLong "FittingStridesModel" (146 : Nat) (57 : Int64)) ∈ lw_all := lw_g (lw_at lw_m5 134 rfl) rfl
theorem q1151 : (Jvm.Cond.methodLink "FittingStridesModel" (189 : Nat) ({ cls := "FittingStridesModel", name := "takeStair", desc := "()I" } : Jvm.MethodName)) ∈ lw_all := lw_g (lw_at lw_m5 135 rfl) rfl
theorem q1152 : (Jvm.Cond.privateMethod ({ cls := "FittingStridesModel", name := "takeStair", desc := "()I" } : Jvm.MethodName)) ∈ lw_tbl := lw_at lw_m5 136 rfl
theorem q1153 : (Jvm.Cond.instanceMethod ({ cls := "FittingStridesModel", name := "takeStair", desc := "()I" } : Jvm.MethodName)) ∈ lw_all := lw_g (lw_at lw_m5 137 rfl) rfl
theorem q1154 : (Jvm.Cond.code ({ cls := "FittingStridesModel", name := "takeStair", desc := "()I" } : Jvm.MethodName) prog_10_method_18_code (4 : Nat) (Option.some Jvm.ClassFile.FieldType.int)) ∈ lw_all := lw_g (lw_at lw_m5 138 rfl) rfl
theorem q1155 : (Jvm.Cond.methodLink "FittingStridesModel" (161 : Nat) ({ cls := "FittingStridesModel", name := "into", desc := "([IIII)I" } : Jvm.MethodName)) ∈ lw_all := lw_g (lw_at lw_m5 139 rfl) rfl
theorem q1156 : (Jvm.Cond.privateMethod ({ cls := "FittingStridesModel", name := "into", desc := "([IIII)I" } : Jvm.MethodName)) ∈ lw_tbl := lw_at lw_m5 140 rfl
theorem q1157 : (Jvm.Cond.instanceMethod ({ cls := "FittingStridesModel", name := "into", desc := "([IIII)I" } : Jvm.MethodName)) ∈ lw_all := lw_g (lw_at lw_m5 141 rfl) rfl
theorem q1158 : (Jvm.Cond.code ({ cls := "FittingStridesModel", name := "into", desc := "([IIII)I" } : Jvm.MethodName) prog_10_method_16_code (6 : Nat) (Option.some Jvm.ClassFile.FieldType.int)) ∈ lw_all := lw_g (lw_at lw_m5 142 rfl) rfl
theorem q1159 : (Jvm.Cond.methodLink "FittingStridesModel" (182 : Nat) ({ cls := "FittingStridesModel", name := "takeParts", desc := "(I)I" } : Jvm.MethodName)) ∈ lw_all := lw_g (lw_at lw_m5 143 rfl) rfl
theorem q1160 : (Jvm.Cond.privateMethod ({ cls := "FittingStridesModel", name := "takeParts", desc := "(I)I" } : Jvm.MethodName)) ∈ lw_tbl := lw_at lw_m5 144 rfl
theorem q1161 : (Jvm.Cond.instanceMethod ({ cls := "FittingStridesModel", name := "takeParts", desc := "(I)I" } : Jvm.MethodName)) ∈ lw_all := lw_g (lw_at lw_m5 145 rfl) rfl
theorem q1162 : (Jvm.Cond.code ({ cls := "FittingStridesModel", name := "takeParts", desc := "(I)I" } : Jvm.MethodName) prog_10_method_17_code (4 : Nat) (Option.some Jvm.ClassFile.FieldType.int)) ∈ lw_all := lw_g (lw_at lw_m5 146 rfl) rfl
theorem q1163 : (Jvm.Cond.methodLink "FittingStridesModel" (192 : Nat) ({ cls := "FittingStridesModel", name := "takePerson", desc := "()I" } : Jvm.MethodName)) ∈ lw_all := lw_g (lw_at lw_m5 147 rfl) rfl
theorem q1164 : (Jvm.Cond.privateMethod ({ cls := "FittingStridesModel", name := "takePerson", desc := "()I" } : Jvm.MethodName)) ∈ lw_tbl := lw_at lw_m5 148 rfl
theorem q1165 : (Jvm.Cond.instanceMethod ({ cls := "FittingStridesModel", name := "takePerson", desc := "()I" } : Jvm.MethodName)) ∈ lw_all := lw_g (lw_at lw_m5 149 rfl) rfl
theorem q1166 : (Jvm.Cond.code ({ cls := "FittingStridesModel", name := "takePerson", desc := "()I" } : Jvm.MethodName) prog_10_method_19_code (3 : Nat) (Option.some Jvm.ClassFile.FieldType.int)) ∈ lw_all := lw_g (lw_at lw_m5 150 rfl) rfl
theorem q1168 : (Jvm.Cond.instanceMethod ({ cls := "FittingStridesModel", name := "fault", desc := "()I" } : Jvm.MethodName)) ∈ lw_all := lw_g (lw_at lw_m5 152 rfl) rfl
theorem q1169 : (Jvm.Cond.selects "FittingStridesModel" ({ cls := "FittingStridesModel", name := "fault", desc := "()I" } : Jvm.MethodName) ({ cls := "FittingStridesModel", name := "fault", desc := "()I" } : Jvm.MethodName)) ∈ lw_all := lw_g (lw_at lw_m5 153 rfl) rfl
theorem q1170 : (Jvm.Cond.code ({ cls := "FittingStridesModel", name := "fault", desc := "()I" } : Jvm.MethodName) prog_10_method_22_code (1 : Nat) (Option.some Jvm.ClassFile.FieldType.int)) ∈ lw_all := lw_g (lw_at lw_m5 154 rfl) rfl
theorem q1172 : (Jvm.Cond.instanceMethod ({ cls := "FittingStridesModel", name := "told", desc := "(I)I" } : Jvm.MethodName)) ∈ lw_all := lw_g (lw_at lw_m5 156 rfl) rfl
theorem q1173 : (Jvm.Cond.selects "FittingStridesModel" ({ cls := "FittingStridesModel", name := "told", desc := "(I)I" } : Jvm.MethodName) ({ cls := "FittingStridesModel", name := "told", desc := "(I)I" } : Jvm.MethodName)) ∈ lw_all := lw_g (lw_at lw_m5 157 rfl) rfl
theorem q1174 : (Jvm.Cond.code ({ cls := "FittingStridesModel", name := "told", desc := "(I)I" } : Jvm.MethodName) prog_10_method_24_code (2 : Nat) (Option.some Jvm.ClassFile.FieldType.int)) ∈ lw_all := lw_g (lw_at lw_m5 158 rfl) rfl
theorem q1175 : (Jvm.Cond.methodLink "FittingStridesModel" (207 : Nat) ({ cls := "FittingStridesModel", name := "allWorn", desc := "()I" } : Jvm.MethodName)) ∈ lw_all := lw_g (lw_at lw_m5 159 rfl) rfl
theorem q1176 : (Jvm.Cond.privateMethod ({ cls := "FittingStridesModel", name := "allWorn", desc := "()I" } : Jvm.MethodName)) ∈ lw_tbl := lw_at lw_m5 160 rfl
theorem q1177 : (Jvm.Cond.instanceMethod ({ cls := "FittingStridesModel", name := "allWorn", desc := "()I" } : Jvm.MethodName)) ∈ lw_all := lw_g (lw_at lw_m5 161 rfl) rfl
theorem q1178 : (Jvm.Cond.code ({ cls := "FittingStridesModel", name := "allWorn", desc := "()I" } : Jvm.MethodName) prog_10_method_23_code (3 : Nat) (Option.some Jvm.ClassFile.FieldType.int)) ∈ lw_all := lw_g (lw_at lw_m5 162 rfl) rfl
theorem q1180 : (Jvm.Cond.instanceMethod ({ cls := "FittingStridesModel", name := "stair", desc := "(II)I" } : Jvm.MethodName)) ∈ lw_all := lw_g (lw_at lw_m5 164 rfl) rfl
theorem q1181 : (Jvm.Cond.selects "FittingStridesModel" ({ cls := "FittingStridesModel", name := "stair", desc := "(II)I" } : Jvm.MethodName) ({ cls := "FittingStridesModel", name := "stair", desc := "(II)I" } : Jvm.MethodName)) ∈ lw_all := lw_g (lw_at lw_m5 165 rfl) rfl
theorem q1182 : (Jvm.Cond.code ({ cls := "FittingStridesModel", name := "stair", desc := "(II)I" } : Jvm.MethodName) prog_10_method_28_code (3 : Nat) (Option.some Jvm.ClassFile.FieldType.int)) ∈ lw_all := lw_g (lw_at lw_m5 166 rfl) rfl
theorem q1183 : (Jvm.Cond.methodLink "FittingStridesModel" (217 : Nat) ({ cls := "FittingStridesModel", name := "isStair", desc := "(I)Z" } : Jvm.MethodName)) ∈ lw_all := lw_g (lw_at lw_m5 167 rfl) rfl
theorem q1184 : (Jvm.Cond.privateMethod ({ cls := "FittingStridesModel", name := "isStair", desc := "(I)Z" } : Jvm.MethodName)) ∈ lw_tbl := lw_at lw_m5 168 rfl
theorem q1185 : (Jvm.Cond.instanceMethod ({ cls := "FittingStridesModel", name := "isStair", desc := "(I)Z" } : Jvm.MethodName)) ∈ lw_all := lw_g (lw_at lw_m5 169 rfl) rfl
theorem q1186 : (Jvm.Cond.code ({ cls := "FittingStridesModel", name := "isStair", desc := "(I)Z" } : Jvm.MethodName) prog_10_method_7_code (2 : Nat) (Option.some Jvm.ClassFile.FieldType.boolean)) ∈ lw_all := lw_g (lw_at lw_m5 170 rfl) rfl
theorem q1187 : (Jvm.Cond.constant "FittingStridesModel" (221 : Nat) (-1000000001 : Int32)) ∈ lw_all := lw_g (lw_at lw_m5 171 rfl) rfl
theorem q1188 : (Jvm.Cond.methodLink "FittingStridesModel" (222 : Nat) ({ cls := "FittingStridesModel", name := "climbers", desc := "(I)I" } : Jvm.MethodName)) ∈ lw_all := lw_g (lw_at lw_m5 172 rfl) rfl
theorem q1189 : (Jvm.Cond.privateMethod ({ cls := "FittingStridesModel", name := "climbers", desc := "(I)I" } : Jvm.MethodName)) ∈ lw_tbl := lw_at lw_m5 173 rfl
theorem q1190 : (Jvm.Cond.instanceMethod ({ cls := "FittingStridesModel", name := "climbers", desc := "(I)I" } : Jvm.MethodName)) ∈ lw_all := lw_g (lw_at lw_m5 174 rfl) rfl
theorem q1191 : (Jvm.Cond.code ({ cls := "FittingStridesModel", name := "climbers", desc := "(I)I" } : Jvm.MethodName) prog_10_method_27_code (4 : Nat) (Option.some Jvm.ClassFile.FieldType.int)) ∈ lw_all := lw_g (lw_at lw_m5 175 rfl) rfl
theorem q1192 : (Jvm.Cond.methodLink "FittingStridesModel" (214 : Nat) ({ cls := "FittingStridesModel", name := "mayClimb", desc := "(II)Z" } : Jvm.MethodName)) ∈ lw_all := lw_g (lw_at lw_m5 176 rfl) rfl
theorem q1193 : (Jvm.Cond.privateMethod ({ cls := "FittingStridesModel", name := "mayClimb", desc := "(II)Z" } : Jvm.MethodName)) ∈ lw_tbl := lw_at lw_m5 177 rfl
theorem q1194 : (Jvm.Cond.instanceMethod ({ cls := "FittingStridesModel", name := "mayClimb", desc := "(II)Z" } : Jvm.MethodName)) ∈ lw_all := lw_g (lw_at lw_m5 178 rfl) rfl
theorem q1195 : (Jvm.Cond.code ({ cls := "FittingStridesModel", name := "mayClimb", desc := "(II)Z" } : Jvm.MethodName) prog_10_method_26_code (3 : Nat) (Option.some Jvm.ClassFile.FieldType.boolean)) ∈ lw_all := lw_g (lw_at lw_m5 179 rfl) rfl
theorem q1196 : (Jvm.Cond.methodLink "FittingStridesModel" (210 : Nat) ({ cls := "FittingStridesModel", name := "isFit", desc := "(II)Z" } : Jvm.MethodName)) ∈ lw_all := lw_g (lw_at lw_m5 180 rfl) rfl
theorem q1197 : (Jvm.Cond.privateMethod ({ cls := "FittingStridesModel", name := "isFit", desc := "(II)Z" } : Jvm.MethodName)) ∈ lw_tbl := lw_at lw_m5 181 rfl
theorem q1198 : (Jvm.Cond.instanceMethod ({ cls := "FittingStridesModel", name := "isFit", desc := "(II)Z" } : Jvm.MethodName)) ∈ lw_all := lw_g (lw_at lw_m5 182 rfl) rfl
theorem q1199 : (Jvm.Cond.code ({ cls := "FittingStridesModel", name := "isFit", desc := "(II)Z" } : Jvm.MethodName) prog_10_method_25_code (6 : Nat) (Option.some Jvm.ClassFile.FieldType.boolean)) ∈ lw_all := lw_g (lw_at lw_m5 183 rfl) rfl
theorem q1201 : (Jvm.Cond.instanceMethod ({ cls := "FittingStridesModel", name := "person", desc := "(II)I" } : Jvm.MethodName)) ∈ lw_all := lw_g (lw_at lw_m5 185 rfl) rfl
theorem q1202 : (Jvm.Cond.selects "FittingStridesModel" ({ cls := "FittingStridesModel", name := "person", desc := "(II)I" } : Jvm.MethodName) ({ cls := "FittingStridesModel", name := "person", desc := "(II)I" } : Jvm.MethodName)) ∈ lw_all := lw_g (lw_at lw_m5 186 rfl) rfl
theorem q1203 : (Jvm.Cond.code ({ cls := "FittingStridesModel", name := "person", desc := "(II)I" } : Jvm.MethodName) prog_10_method_31_code (3 : Nat) (Option.some Jvm.ClassFile.FieldType.int)) ∈ lw_all := lw_g (lw_at lw_m5 187 rfl) rfl
theorem q1204 : (Jvm.Cond.methodLink "FittingStridesModel" (232 : Nat) ({ cls := "FittingStridesModel", name := "isPerson", desc := "(I)Z" } : Jvm.MethodName)) ∈ lw_all := lw_g (lw_at lw_m5 188 rfl) rfl
theorem q1205 : (Jvm.Cond.privateMethod ({ cls := "FittingStridesModel", name := "isPerson", desc := "(I)Z" } : Jvm.MethodName)) ∈ lw_tbl := lw_at lw_m5 189 rfl
theorem q1206 : (Jvm.Cond.instanceMethod ({ cls := "FittingStridesModel", name := "isPerson", desc := "(I)Z" } : Jvm.MethodName)) ∈ lw_all := lw_g (lw_at lw_m5 190 rfl) rfl
theorem q1207 : (Jvm.Cond.code ({ cls := "FittingStridesModel", name := "isPerson", desc := "(I)Z" } : Jvm.MethodName) prog_10_method_8_code (2 : Nat) (Option.some Jvm.ClassFile.FieldType.boolean)) ∈ lw_all := lw_g (lw_at lw_m5 191 rfl) rfl
theorem q1208 : (Jvm.Cond.methodLink "FittingStridesModel" (235 : Nat) ({ cls := "FittingStridesModel", name := "reachOfPerson", desc := "(I)I" } : Jvm.MethodName)) ∈ lw_all := lw_g (lw_at lw_m5 192 rfl) rfl
theorem q1209 : (Jvm.Cond.privateMethod ({ cls := "FittingStridesModel", name := "reachOfPerson", desc := "(I)I" } : Jvm.MethodName)) ∈ lw_tbl := lw_at lw_m5 193 rfl
theorem q1210 : (Jvm.Cond.instanceMethod ({ cls := "FittingStridesModel", name := "reachOfPerson", desc := "(I)I" } : Jvm.MethodName)) ∈ lw_all := lw_g (lw_at lw_m5 194 rfl) rfl
theorem q1211 : (Jvm.Cond.code ({ cls := "FittingStridesModel", name := "reachOfPerson", desc := "(I)I" } : Jvm.MethodName) prog_10_method_30_code (2 : Nat) (Option.some Jvm.ClassFile.FieldType.int)) ∈ lw_all := lw_g (lw_at lw_m5 195 rfl) rfl
theorem q1212 : (Jvm.Cond.methodLink "FittingStridesModel" (228 : Nat) ({ cls := "FittingStridesModel", name := "reachOf", desc := "(III)I" } : Jvm.MethodName)) ∈ lw_all := lw_g (lw_at lw_m5 196 rfl) rfl
theorem q1213 : (Jvm.Cond.privateMethod ({ cls := "FittingStridesModel", name := "reachOf", desc := "(III)I" } : Jvm.MethodName)) ∈ lw_tbl := lw_at lw_m5 197 rfl
theorem q1214 : (Jvm.Cond.instanceMethod ({ cls := "FittingStridesModel", name := "reachOf", desc := "(III)I" } : Jvm.MethodName)) ∈ lw_all := lw_g (lw_at lw_m5 198 rfl) rfl
theorem q1215 : (Jvm.Cond.code ({ cls := "FittingStridesModel", name := "reachOf", desc := "(III)I" } : Jvm.MethodName) prog_10_method_29_code (8 : Nat) (Option.some Jvm.ClassFile.FieldType.int)) ∈ lw_all := lw_g (lw_at lw_m5 199 rfl) rfl
theorem q1216 : (Jvm.Cond.methodLink "FittingStridesModel" (225 : Nat) ({ cls := "FittingStridesModel", name := "has", desc := "(II)Z" } : Jvm.MethodName)) ∈ lw_all := lw_g (lw_at lw_m5 200 rfl) rfl
theorem q1217 : (Jvm.Cond.static ({ cls := "FittingStridesModel", name := "has", desc := "(II)Z" } : Jvm.MethodName)) ∈ lw_all := lw_g (lw_at lw_m5 201 rfl) rfl
theorem q1218 : (Jvm.Cond.code ({ cls := "FittingStridesModel", name := "has", desc := "(II)Z" } : Jvm.MethodName) prog_10_method_4_code (2 : Nat) (Option.some Jvm.ClassFile.FieldType.boolean)) ∈ lw_all := lw_g (lw_at lw_m5 202 rfl) rfl
theorem q1220 : (Jvm.Cond.instanceMethod ({ cls := "FittingStridesModel", name := "fit", desc := "(II)I" } : Jvm.MethodName)) ∈ lw_all := lw_g (lw_at lw_m5 204 rfl) rfl
theorem q1221 : (Jvm.Cond.selects "FittingStridesModel" ({ cls := "FittingStridesModel", name := "fit", desc := "(II)I" } : Jvm.MethodName) ({ cls := "FittingStridesModel", name := "fit", desc := "(II)I" } : Jvm.MethodName)) ∈ lw_all := lw_g (lw_at lw_m5 205 rfl) rfl
theorem q1222 : (Jvm.Cond.code ({ cls := "FittingStridesModel", name := "fit", desc := "(II)I" } : Jvm.MethodName) prog_10_method_32_code (3 : Nat) (Option.some Jvm.ClassFile.FieldType.int)) ∈ lw_all := lw_g (lw_at lw_m5 206 rfl) rfl
theorem q1223 : (Jvm.Cond.constantLong "FittingStridesModel" (238 : Nat) (24 : Int64)) ∈ lw_all := lw_g (lw_at lw_m5 207 rfl) rfl
theorem q1225 : (Jvm.Cond.instanceMethod ({ cls := "FittingStridesModel", name := "go", desc := "(II)I" } : Jvm.MethodName)) ∈ lw_all := lw_g (lw_at lw_m5 209 rfl) rfl
theorem q1226 : (Jvm.Cond.selects "FittingStridesModel" ({ cls := "FittingStridesModel", name := "go", desc := "(II)I" } : Jvm.MethodName) ({ cls := "FittingStridesModel", name := "go", desc := "(II)I" } : Jvm.MethodName)) ∈ lw_all := lw_g (lw_at lw_m5 210 rfl) rfl
theorem q1227 : (Jvm.Cond.code ({ cls := "FittingStridesModel", name := "go", desc := "(II)I" } : Jvm.MethodName) prog_10_method_35_code (3 : Nat) (Option.some Jvm.ClassFile.FieldType.int)) ∈ lw_all := lw_g (lw_at lw_m5 211 rfl) rfl
theorem q1228 : (Jvm.Cond.methodLink "FittingStridesModel" (240 : Nat) ({ cls := "FittingStridesModel", name := "canGo", desc := "(II)Z" } : Jvm.MethodName)) ∈ lw_all := lw_g (lw_at lw_m5 212 rfl) rfl
theorem q1229 : (Jvm.Cond.privateMethod ({ cls := "FittingStridesModel", name := "canGo", desc := "(II)Z" } : Jvm.MethodName)) ∈ lw_tbl := lw_at lw_m5 213 rfl
theorem q1230 : (Jvm.Cond.instanceMethod ({ cls := "FittingStridesModel", name := "canGo", desc := "(II)Z" } : Jvm.MethodName)) ∈ lw_all := lw_g (lw_at lw_m5 214 rfl) rfl
theorem q1231 : (Jvm.Cond.code ({ cls := "FittingStridesModel", name := "canGo", desc := "(II)Z" } : Jvm.MethodName) prog_10_method_33_code (3 : Nat) (Option.some Jvm.ClassFile.FieldType.boolean)) ∈ lw_all := lw_g (lw_at lw_m5 215 rfl) rfl
theorem q1232 : (Jvm.Cond.constant "FittingStridesModel" (243 : Nat) (-1000000003 : Int32)) ∈ lw_all := lw_g (lw_at lw_m5 216 rfl) rfl
theorem q1233 : (Jvm.Cond.methodLink "FittingStridesModel" (244 : Nat) ({ cls := "FittingStridesModel", name := "goNow", desc := "(II)V" } : Jvm.MethodName)) ∈ lw_all := lw_g (lw_at lw_m5 217 rfl) rfl
theorem q1234 : (Jvm.Cond.privateMethod ({ cls := "FittingStridesModel", name := "goNow", desc := "(II)V" } : Jvm.MethodName)) ∈ lw_tbl := lw_at lw_m5 218 rfl
theorem q1235 : (Jvm.Cond.instanceMethod ({ cls := "FittingStridesModel", name := "goNow", desc := "(II)V" } : Jvm.MethodName)) ∈ lw_all := lw_g (lw_at lw_m5 219 rfl) rfl
theorem q1236 : (Jvm.Cond.code ({ cls := "FittingStridesModel", name := "goNow", desc := "(II)V" } : Jvm.MethodName) prog_10_method_34_code (7 : Nat) (Option.none : Option Jvm.ClassFile.FieldType)) ∈ lw_all := lw_g (lw_at lw_m5 220 rfl) rfl
theorem q1238 : (Jvm.Cond.instanceMethod ({ cls := "FittingStridesModel", name := "build", desc := "(III)I" } : Jvm.MethodName)) ∈ lw_all := lw_g (lw_at lw_m5 222 rfl) rfl
theorem q1239 : (Jvm.Cond.selects "FittingStridesModel" ({ cls := "FittingStridesModel", name := "build", desc := "(III)I" } : Jvm.MethodName) ({ cls := "FittingStridesModel", name := "build", desc := "(III)I" } : Jvm.MethodName)) ∈ lw_all := lw_g (lw_at lw_m5 223 rfl) rfl
theorem q1240 : (Jvm.Cond.code ({ cls := "FittingStridesModel", name := "build", desc := "(III)I" } : Jvm.MethodName) prog_10_method_36_code (5 : Nat) (Option.some Jvm.ClassFile.FieldType.int)) ∈ lw_all := lw_g (lw_at lw_m5 224 rfl) rfl
theorem q1241 : (Jvm.Cond.constantLong "FittingStridesModel" (248 : Nat) (720 : Int64)) ∈ lw_all := lw_g (lw_at lw_m5 225 rfl) rfl
theorem q1243 : (Jvm.Cond.instanceMethod ({ cls := "FittingStridesModel", name := "law", desc := "(I)I" } : Jvm.MethodName)) ∈ lw_all := lw_g (lw_at lw_m5 227 rfl) rfl
theorem q1244 : (Jvm.Cond.selects "FittingStridesModel" ({ cls := "FittingStridesModel", name := "law", desc := "(I)I" } : Jvm.MethodName) ({ cls := "FittingStridesModel", name := "law", desc := "(I)I" } : Jvm.MethodName)) ∈ lw_all := lw_g (lw_at lw_m5 228 rfl) rfl
theorem q1245 : (Jvm.Cond.code ({ cls := "FittingStridesModel", name := "law", desc := "(I)I" } : Jvm.MethodName) prog_10_method_37_code (3 : Nat) (Option.some Jvm.ClassFile.FieldType.int)) ∈ lw_all := lw_g (lw_at lw_m5 229 rfl) rfl
theorem q1247 : (Jvm.Cond.instanceMethod ({ cls := "FittingStridesModel", name := "drift", desc := "(I)I" } : Jvm.MethodName)) ∈ lw_all := lw_g (lw_at lw_m5 231 rfl) rfl
theorem q1248 : (Jvm.Cond.selects "FittingStridesModel" ({ cls := "FittingStridesModel", name := "drift", desc := "(I)I" } : Jvm.MethodName) ({ cls := "FittingStridesModel", name := "drift", desc := "(I)I" } : Jvm.MethodName)) ∈ lw_all := lw_g (lw_at lw_m5 232 rfl) rfl
theorem q1249 : (Jvm.Cond.code ({ cls := "FittingStridesModel", name := "drift", desc := "(I)I" } : Jvm.MethodName) prog_10_method_40_code (3 : Nat) (Option.some Jvm.ClassFile.FieldType.int)) ∈ lw_all := lw_g (lw_at lw_m5 233 rfl) rfl
theorem q1250 : (Jvm.Cond.constantLong "FittingStridesModel" (263 : Nat) (99 : Int64)) ∈ lw_all := lw_g (lw_at lw_m5 234 rfl) rfl
theorem q1251 : (Jvm.Cond.methodLink "FittingStridesModel" (265 : Nat) ({ cls := "FittingStridesModel", name := "dayNow", desc := "()V" } : Jvm.MethodName)) ∈ lw_all := lw_g (lw_at lw_m5 235 rfl) rfl
theorem q1252 : (Jvm.Cond.privateMethod ({ cls := "FittingStridesModel", name := "dayNow", desc := "()V" } : Jvm.MethodName)) ∈ lw_tbl := lw_at lw_m5 236 rfl
theorem q1253 : (Jvm.Cond.instanceMethod ({ cls := "FittingStridesModel", name := "dayNow", desc := "()V" } : Jvm.MethodName)) ∈ lw_all := lw_g (lw_at lw_m5 237 rfl) rfl
theorem q1254 : (Jvm.Cond.code ({ cls := "FittingStridesModel", name := "dayNow", desc := "()V" } : Jvm.MethodName) prog_10_method_39_code (3 : Nat) (Option.none : Option Jvm.ClassFile.FieldType)) ∈ lw_all := lw_g (lw_at lw_m5 238 rfl) rfl
theorem q1255 : (Jvm.Cond.methodLink "FittingStridesModel" (260 : Nat) ({ cls := "FittingStridesModel", name := "draw", desc := "(I)I" } : Jvm.MethodName)) ∈ lw_all := lw_g (lw_at lw_m5 239 rfl) rfl
theorem q1256 : (Jvm.Cond.privateMethod ({ cls := "FittingStridesModel", name := "draw", desc := "(I)I" } : Jvm.MethodName)) ∈ lw_tbl := lw_at lw_m6 0 rfl
theorem q1257 : (Jvm.Cond.instanceMethod ({ cls := "FittingStridesModel", name := "draw", desc := "(I)I" } : Jvm.MethodName)) ∈ lw_all := lw_g (lw_at lw_m6 1 rfl) rfl
theorem q1258 : (Jvm.Cond.code ({ cls := "FittingStridesModel", name := "draw", desc := "(I)I" } : Jvm.MethodName) prog_10_method_38_code (2 : Nat) (Option.some Jvm.ClassFile.FieldType.int)) ∈ lw_all := lw_g (lw_at lw_m6 2 rfl) rfl
theorem q1259 : (Jvm.Cond.constantLong "FittingStridesModel" (253 : Nat) (1103515245 : Int64)) ∈ lw_all := lw_g (lw_at lw_m6 3 rfl) rfl
theorem q1260 : (Jvm.Cond.constantLong "FittingStridesModel" (255 : Nat) (12345 : Int64)) ∈ lw_all := lw_g (lw_at lw_m6 4 rfl) rfl
theorem q1261 : (Jvm.Cond.constantLong "FittingStridesModel" (257 : Nat) (2147483648 : Int64)) ∈ lw_all := lw_g (lw_at lw_m6 5 rfl) rfl
theorem q1262 : (Jvm.Cond.constant "FittingStridesModel" (259 : Nat) (65536 : Int32)) ∈ lw_all := lw_g (lw_at lw_m6 6 rfl) rfl
theorem q1264 : (Jvm.Cond.instanceMethod ({ cls := "FittingStridesModel", name := "reach", desc := "(II)I" } : Jvm.MethodName)) ∈ lw_all := lw_g (lw_at lw_m6 8 rfl) rfl
theorem q1265 : (Jvm.Cond.selects "FittingStridesModel" ({ cls := "FittingStridesModel", name := "reach", desc := "(II)I" } : Jvm.MethodName) ({ cls := "FittingStridesModel", name := "reach", desc := "(II)I" } : Jvm.MethodName)) ∈ lw_all := lw_g (lw_at lw_m6 9 rfl) rfl
theorem q1266 : (Jvm.Cond.code ({ cls := "FittingStridesModel", name := "reach", desc := "(II)I" } : Jvm.MethodName) prog_10_method_41_code (3 : Nat) (Option.some Jvm.ClassFile.FieldType.int)) ∈ lw_all := lw_g (lw_at lw_m6 10 rfl) rfl
theorem q1267 : (Jvm.Cond.methodLink "FittingStridesModel" (268 : Nat) ({ cls := "FittingStridesModel", name := "isPlace", desc := "(I)Z" } : Jvm.MethodName)) ∈ lw_all := lw_g (lw_at lw_m6 11 rfl) rfl
theorem q1268 : (Jvm.Cond.privateMethod ({ cls := "FittingStridesModel", name := "isPlace", desc := "(I)Z" } : Jvm.MethodName)) ∈ lw_tbl := lw_at lw_m6 12 rfl
theorem q1269 : (Jvm.Cond.instanceMethod ({ cls := "FittingStridesModel", name := "isPlace", desc := "(I)Z" } : Jvm.MethodName)) ∈ lw_all := lw_g (lw_at lw_m6 13 rfl) rfl
theorem q1270 : (Jvm.Cond.code ({ cls := "FittingStridesModel", name := "isPlace", desc := "(I)Z" } : Jvm.MethodName) prog_10_method_6_code (2 : Nat) (Option.some Jvm.ClassFile.FieldType.boolean)) ∈ lw_all := lw_g (lw_at lw_m6 14 rfl) rfl
theorem q1272 : (Jvm.Cond.instanceMethod ({ cls := "FittingStridesModel", name := "guests", desc := "(I)I" } : Jvm.MethodName)) ∈ lw_all := lw_g (lw_at lw_m6 16 rfl) rfl
theorem q1273 : (Jvm.Cond.selects "FittingStridesModel" ({ cls := "FittingStridesModel", name := "guests", desc := "(I)I" } : Jvm.MethodName) ({ cls := "FittingStridesModel", name := "guests", desc := "(I)I" } : Jvm.MethodName)) ∈ lw_all := lw_g (lw_at lw_m6 17 rfl) rfl
theorem q1274 : (Jvm.Cond.code ({ cls := "FittingStridesModel", name := "guests", desc := "(I)I" } : Jvm.MethodName) prog_10_method_42_code (4 : Nat) (Option.some Jvm.ClassFile.FieldType.int)) ∈ lw_all := lw_g (lw_at lw_m6 18 rfl) rfl
theorem q1276 : (Jvm.Cond.instanceMethod ({ cls := "FittingStridesModel", name := "wish", desc := "(II)I" } : Jvm.MethodName)) ∈ lw_all := lw_g (lw_at lw_m6 20 rfl) rfl
theorem q1277 : (Jvm.Cond.selects "FittingStridesModel" ({ cls := "FittingStridesModel", name := "wish", desc := "(II)I" } : Jvm.MethodName) ({ cls := "FittingStridesModel", name := "wish", desc := "(II)I" } : Jvm.MethodName)) ∈ lw_all := lw_g (lw_at lw_m6 21 rfl) rfl
theorem q1278 : (Jvm.Cond.code ({ cls := "FittingStridesModel", name := "wish", desc := "(II)I" } : Jvm.MethodName) prog_10_method_44_code (5 : Nat) (Option.some Jvm.ClassFile.FieldType.int)) ∈ lw_all := lw_g (lw_at lw_m6 22 rfl) rfl
theorem q1279 : (Jvm.Cond.constant "FittingStridesModel" (271 : Nat) (100000 : Int32)) ∈ lw_all := lw_g (lw_at lw_m6 23 rfl) rfl
theorem q1280 : (Jvm.Cond.methodLink "FittingStridesModel" (272 : Nat) ({ cls := "FittingStridesModel", name := "isWish", desc := "(III)Z" } : Jvm.MethodName)) ∈ lw_all := lw_g (lw_at lw_m6 24 rfl) rfl
theorem q1281 : (Jvm.Cond.privateMethod ({ cls := "FittingStridesModel", name := "isWish", desc := "(III)Z" } : Jvm.MethodName)) ∈ lw_tbl := lw_at lw_m6 25 rfl
theorem q1282 : (Jvm.Cond.instanceMethod ({ cls := "FittingStridesModel", name := "isWish", desc := "(III)Z" } : Jvm.MethodName)) ∈ lw_all := lw_g (lw_at lw_m6 26 rfl) rfl
theorem q1283 : (Jvm.Cond.code ({ cls := "FittingStridesModel", name := "isWish", desc := "(III)Z" } : Jvm.MethodName) prog_10_method_43_code (8 : Nat) (Option.some Jvm.ClassFile.FieldType.boolean)) ∈ lw_all := lw_g (lw_at lw_m6 27 rfl) rfl
theorem q1285 : (Jvm.Cond.instanceMethod ({ cls := "FittingStridesModel", name := "pair", desc := "(III)I" } : Jvm.MethodName)) ∈ lw_all := lw_g (lw_at lw_m6 29 rfl) rfl
theorem q1286 : (Jvm.Cond.selects "FittingStridesModel" ({ cls := "FittingStridesModel", name := "pair", desc := "(III)I" } : Jvm.MethodName) ({ cls := "FittingStridesModel", name := "pair", desc := "(III)I" } : Jvm.MethodName)) ∈ lw_all := lw_g (lw_at lw_m6 30 rfl) rfl
theorem q1287 : (Jvm.Cond.code ({ cls := "FittingStridesModel", name := "pair", desc := "(III)I" } : Jvm.MethodName) prog_10_method_45_code (5 : Nat) (Option.some Jvm.ClassFile.FieldType.int)) ∈ lw_all := lw_g (lw_at lw_m6 31 rfl) rfl
theorem q1289 : (Jvm.Cond.instanceMethod ({ cls := "FittingStridesModel", name := "carried", desc := "(III)I" } : Jvm.MethodName)) ∈ lw_all := lw_g (lw_at lw_m6 33 rfl) rfl
theorem q1290 : (Jvm.Cond.selects "FittingStridesModel" ({ cls := "FittingStridesModel", name := "carried", desc := "(III)I" } : Jvm.MethodName) ({ cls := "FittingStridesModel", name := "carried", desc := "(III)I" } : Jvm.MethodName)) ∈ lw_all := lw_g (lw_at lw_m6 34 rfl) rfl
theorem q1291 : (Jvm.Cond.code ({ cls := "FittingStridesModel", name := "carried", desc := "(III)I" } : Jvm.MethodName) prog_10_method_48_code (7 : Nat) (Option.some Jvm.ClassFile.FieldType.int)) ∈ lw_all := lw_g (lw_at lw_m6 35 rfl) rfl
theorem q1292 : (Jvm.Cond.methodLink "FittingStridesModel" (280 : Nat) ({ cls := "FittingStridesModel", name := "bits", desc := "(I)I" } : Jvm.MethodName)) ∈ lw_all := lw_g (lw_at lw_m6 36 rfl) rfl
theorem q1293 : (Jvm.Cond.static ({ cls := "FittingStridesModel", name := "bits", desc := "(I)I" } : Jvm.MethodName)) ∈ lw_all := lw_g (lw_at lw_m6 37 rfl) rfl
theorem q1294 : (Jvm.Cond.code ({ cls := "FittingStridesModel", name := "bits", desc := "(I)I" } : Jvm.MethodName) prog_10_method_5_code (3 : Nat) (Option.some Jvm.ClassFile.FieldType.int)) ∈ lw_all := lw_g (lw_at lw_m6 38 rfl) rfl
theorem q1295 : (Jvm.Cond.methodLink "FittingStridesModel" (283 : Nat) ({ cls := "FittingStridesModel", name := "comesBy", desc := "(III)Z" } : Jvm.MethodName)) ∈ lw_all := lw_g (lw_at lw_m6 39 rfl) rfl
theorem q1296 : (Jvm.Cond.privateMethod ({ cls := "FittingStridesModel", name := "comesBy", desc := "(III)Z" } : Jvm.MethodName)) ∈ lw_tbl := lw_at lw_m6 40 rfl
theorem q1297 : (Jvm.Cond.instanceMethod ({ cls := "FittingStridesModel", name := "comesBy", desc := "(III)Z" } : Jvm.MethodName)) ∈ lw_all := lw_g (lw_at lw_m6 41 rfl) rfl
theorem q1298 : (Jvm.Cond.code ({ cls := "FittingStridesModel", name := "comesBy", desc := "(III)Z" } : Jvm.MethodName) prog_10_method_47_code (7 : Nat) (Option.some Jvm.ClassFile.FieldType.boolean)) ∈ lw_all := lw_g (lw_at lw_m6 42 rfl) rfl
theorem q1299 : (Jvm.Cond.methodLink "FittingStridesModel" (276 : Nat) ({ cls := "FittingStridesModel", name := "isCarried", desc := "(IIII)Z" } : Jvm.MethodName)) ∈ lw_all := lw_g (lw_at lw_m6 43 rfl) rfl
theorem q1300 : (Jvm.Cond.privateMethod ({ cls := "FittingStridesModel", name := "isCarried", desc := "(IIII)Z" } : Jvm.MethodName)) ∈ lw_tbl := lw_at lw_m6 44 rfl
theorem q1301 : (Jvm.Cond.instanceMethod ({ cls := "FittingStridesModel", name := "isCarried", desc := "(IIII)Z" } : Jvm.MethodName)) ∈ lw_all := lw_g (lw_at lw_m6 45 rfl) rfl
theorem q1302 : (Jvm.Cond.code ({ cls := "FittingStridesModel", name := "isCarried", desc := "(IIII)Z" } : Jvm.MethodName) prog_10_method_46_code (8 : Nat) (Option.some Jvm.ClassFile.FieldType.boolean)) ∈ lw_all := lw_g (lw_at lw_m6 46 rfl) rfl
theorem q1304 : (Jvm.Cond.instanceMethod ({ cls := "FittingStridesModel", name := "step", desc := "(IIII)I" } : Jvm.MethodName)) ∈ lw_all := lw_g (lw_at lw_m6 48 rfl) rfl
theorem q1305 : (Jvm.Cond.selects "FittingStridesModel" ({ cls := "FittingStridesModel", name := "step", desc := "(IIII)I" } : Jvm.MethodName) ({ cls := "FittingStridesModel", name := "step", desc := "(IIII)I" } : Jvm.MethodName)) ∈ lw_all := lw_g (lw_at lw_m6 49 rfl) rfl
theorem q1306 : (Jvm.Cond.code ({ cls := "FittingStridesModel", name := "step", desc := "(IIII)I" } : Jvm.MethodName) prog_10_method_49_code (7 : Nat) (Option.some Jvm.ClassFile.FieldType.int)) ∈ lw_all := lw_g (lw_at lw_m6 50 rfl) rfl
theorem q1308 : (Jvm.Cond.instanceMethod ({ cls := "FittingStridesModel", name := "worst", desc := "(I)I" } : Jvm.MethodName)) ∈ lw_all := lw_g (lw_at lw_m6 52 rfl) rfl
theorem q1309 : (Jvm.Cond.selects "FittingStridesModel" ({ cls := "FittingStridesModel", name := "worst", desc := "(I)I" } : Jvm.MethodName) ({ cls := "FittingStridesModel", name := "worst", desc := "(I)I" } : Jvm.MethodName)) ∈ lw_all := lw_g (lw_at lw_m6 53 rfl) rfl
theorem q1310 : (Jvm.Cond.code ({ cls := "FittingStridesModel", name := "worst", desc := "(I)I" } : Jvm.MethodName) prog_10_method_50_code (7 : Nat) (Option.some Jvm.ClassFile.FieldType.int)) ∈ lw_all := lw_g (lw_at lw_m6 54 rfl) rfl
theorem q1311 : (Jvm.Cond.constantLong "FittingStridesModel" (286 : Nat) (2 : Int64)) ∈ lw_all := lw_g (lw_at lw_m6 55 rfl) rfl
theorem q1312 : (Jvm.Cond.methodLink "FittingStridesModel" (288 : Nat) ({ cls := "FittingStridesModel", name := "step", desc := "(IIII)I" } : Jvm.MethodName)) ∈ lw_all := lw_g (lw_at lw_m6 56 rfl) rfl
theorem q1314 : (Jvm.Cond.instanceMethod ({ cls := "FittingStridesModel", name := "best", desc := "(I)I" } : Jvm.MethodName)) ∈ lw_all := lw_g (lw_at lw_m6 58 rfl) rfl
theorem q1315 : (Jvm.Cond.selects "FittingStridesModel" ({ cls := "FittingStridesModel", name := "best", desc := "(I)I" } : Jvm.MethodName) ({ cls := "FittingStridesModel", name := "best", desc := "(I)I" } : Jvm.MethodName)) ∈ lw_all := lw_g (lw_at lw_m6 59 rfl) rfl
theorem q1316 : (Jvm.Cond.code ({ cls := "FittingStridesModel", name := "best", desc := "(I)I" } : Jvm.MethodName) prog_10_method_51_code (6 : Nat) (Option.some Jvm.ClassFile.FieldType.int)) ∈ lw_all := lw_g (lw_at lw_m6 60 rfl) rfl
theorem q1318 : (Jvm.Cond.instanceMethod ({ cls := "FittingStridesModel", name := "cover", desc := "()I" } : Jvm.MethodName)) ∈ lw_all := lw_g (lw_at lw_m6 62 rfl) rfl
theorem q1319 : (Jvm.Cond.selects "FittingStridesModel" ({ cls := "FittingStridesModel", name := "cover", desc := "()I" } : Jvm.MethodName) ({ cls := "FittingStridesModel", name := "cover", desc := "()I" } : Jvm.MethodName)) ∈ lw_all := lw_g (lw_at lw_m6 63 rfl) rfl
theorem q1320 : (Jvm.Cond.code ({ cls := "FittingStridesModel", name := "cover", desc := "()I" } : Jvm.MethodName) prog_10_method_52_code (5 : Nat) (Option.some Jvm.ClassFile.FieldType.int)) ∈ lw_all := lw_g (lw_at lw_m6 64 rfl) rfl
theorem q1322 : (Jvm.Cond.instanceMethod ({ cls := "FittingStridesModel", name := "see", desc := "(IIZ)I" } : Jvm.MethodName)) ∈ lw_all := lw_g (lw_at lw_m6 66 rfl) rfl
theorem q1323 : (Jvm.Cond.selects "FittingStridesModel" ({ cls := "FittingStridesModel", name := "see", desc := "(IIZ)I" } : Jvm.MethodName) ({ cls := "FittingStridesModel", name := "see", desc := "(IIZ)I" } : Jvm.MethodName)) ∈ lw_all := lw_g (lw_at lw_m6 67 rfl) rfl
theorem q1324 : (Jvm.Cond.code ({ cls := "FittingStridesModel", name := "see", desc := "(IIZ)I" } : Jvm.MethodName) prog_10_method_53_code (4 : Nat) (Option.some Jvm.ClassFile.FieldType.int)) ∈ lw_all := lw_g (lw_at lw_m6 68 rfl) rfl
theorem q1326 : (Jvm.Cond.instanceMethod ({ cls := "FittingStridesModel", name := "fits", desc := "()I" } : Jvm.MethodName)) ∈ lw_all := lw_g (lw_at lw_m6 70 rfl) rfl
theorem q1327 : (Jvm.Cond.selects "FittingStridesModel" ({ cls := "FittingStridesModel", name := "fits", desc := "()I" } : Jvm.MethodName) ({ cls := "FittingStridesModel", name := "fits", desc := "()I" } : Jvm.MethodName)) ∈ lw_all := lw_g (lw_at lw_m6 71 rfl) rfl
theorem q1328 : (Jvm.Cond.code ({ cls := "FittingStridesModel", name := "fits", desc := "()I" } : Jvm.MethodName) prog_10_method_54_code (5 : Nat) (Option.some Jvm.ClassFile.FieldType.int)) ∈ lw_all := lw_g (lw_at lw_m6 72 rfl) rfl
theorem q1330 : (Jvm.Cond.instanceMethod ({ cls := "FittingStridesModel", name := "ask", desc := "()I" } : Jvm.MethodName)) ∈ lw_all := lw_g (lw_at lw_m6 74 rfl) rfl
theorem q1331 : (Jvm.Cond.selects "FittingStridesModel" ({ cls := "FittingStridesModel", name := "ask", desc := "()I" } : Jvm.MethodName) ({ cls := "FittingStridesModel", name := "ask", desc := "()I" } : Jvm.MethodName)) ∈ lw_all := lw_g (lw_at lw_m6 75 rfl) rfl
theorem q1332 : (Jvm.Cond.code ({ cls := "FittingStridesModel", name := "ask", desc := "()I" } : Jvm.MethodName) prog_10_method_55_code (9 : Nat) (Option.some Jvm.ClassFile.FieldType.int)) ∈ lw_all := lw_g (lw_at lw_m6 76 rfl) rfl
theorem q1333 : (Jvm.Cond.methodLink "FittingStridesModel" (292 : Nat) ({ cls := "FittingStridesModel", name := "fits", desc := "()I" } : Jvm.MethodName)) ∈ lw_all := lw_g (lw_at lw_m6 77 rfl) rfl
theorem q1335 : (Jvm.Cond.instanceMethod ({ cls := "FittingStridesModel", name := "write", desc := "(II)I" } : Jvm.MethodName)) ∈ lw_all := lw_g (lw_at lw_m6 79 rfl) rfl
theorem q1336 : (Jvm.Cond.selects "FittingStridesModel" ({ cls := "FittingStridesModel", name := "write", desc := "(II)I" } : Jvm.MethodName) ({ cls := "FittingStridesModel", name := "write", desc := "(II)I" } : Jvm.MethodName)) ∈ lw_all := lw_g (lw_at lw_m6 80 rfl) rfl
theorem q1337 : (Jvm.Cond.code ({ cls := "FittingStridesModel", name := "write", desc := "(II)I" } : Jvm.MethodName) prog_10_method_56_code (3 : Nat) (Option.some Jvm.ClassFile.FieldType.int)) ∈ lw_all := lw_g (lw_at lw_m6 81 rfl) rfl
theorem q1339 : (Jvm.Cond.instanceMethod ({ cls := "FittingStridesModel", name := "tear", desc := "()I" } : Jvm.MethodName)) ∈ lw_all := lw_g (lw_at lw_m6 83 rfl) rfl
theorem q1340 : (Jvm.Cond.selects "FittingStridesModel" ({ cls := "FittingStridesModel", name := "tear", desc := "()I" } : Jvm.MethodName) ({ cls := "FittingStridesModel", name := "tear", desc := "()I" } : Jvm.MethodName)) ∈ lw_all := lw_g (lw_at lw_m6 84 rfl) rfl
theorem q1341 : (Jvm.Cond.code ({ cls := "FittingStridesModel", name := "tear", desc := "()I" } : Jvm.MethodName) prog_10_method_57_code (2 : Nat) (Option.some Jvm.ClassFile.FieldType.int)) ∈ lw_all := lw_g (lw_at lw_m6 85 rfl) rfl
theorem q1343 : (Jvm.Cond.instanceMethod ({ cls := "FittingStridesModel", name := "judge", desc := "()I" } : Jvm.MethodName)) ∈ lw_all := lw_g (lw_at lw_m6 87 rfl) rfl
theorem q1344 : (Jvm.Cond.selects "FittingStridesModel" ({ cls := "FittingStridesModel", name := "judge", desc := "()I" } : Jvm.MethodName) ({ cls := "FittingStridesModel", name := "judge", desc := "()I" } : Jvm.MethodName)) ∈ lw_all := lw_g (lw_at lw_m6 88 rfl) rfl
theorem q1345 : (Jvm.Cond.code ({ cls := "FittingStridesModel", name := "judge", desc := "()I" } : Jvm.MethodName) prog_10_method_58_code (5 : Nat) (Option.some Jvm.ClassFile.FieldType.int)) ∈ lw_all := lw_g (lw_at lw_m6 89 rfl) rfl
theorem q1347 : (Jvm.Cond.instanceMethod ({ cls := "FittingStridesModel", name := "seed", desc := "(I)I" } : Jvm.MethodName)) ∈ lw_all := lw_g (lw_at lw_m6 91 rfl) rfl
theorem q1348 : (Jvm.Cond.selects "FittingStridesModel" ({ cls := "FittingStridesModel", name := "seed", desc := "(I)I" } : Jvm.MethodName) ({ cls := "FittingStridesModel", name := "seed", desc := "(I)I" } : Jvm.MethodName)) ∈ lw_all := lw_g (lw_at lw_m6 92 rfl) rfl
theorem q1349 : (Jvm.Cond.code ({ cls := "FittingStridesModel", name := "seed", desc := "(I)I" } : Jvm.MethodName) prog_10_method_59_code (3 : Nat) (Option.some Jvm.ClassFile.FieldType.int)) ∈ lw_all := lw_g (lw_at lw_m6 93 rfl) rfl
theorem q1351 : (Jvm.Cond.instanceMethod ({ cls := "FittingStridesModel", name := "keep", desc := "(I)I" } : Jvm.MethodName)) ∈ lw_all := lw_g (lw_at lw_m6 95 rfl) rfl
theorem q1352 : (Jvm.Cond.selects "FittingStridesModel" ({ cls := "FittingStridesModel", name := "keep", desc := "(I)I" } : Jvm.MethodName) ({ cls := "FittingStridesModel", name := "keep", desc := "(I)I" } : Jvm.MethodName)) ∈ lw_all := lw_g (lw_at lw_m6 96 rfl) rfl
theorem q1353 : (Jvm.Cond.code ({ cls := "FittingStridesModel", name := "keep", desc := "(I)I" } : Jvm.MethodName) prog_10_method_60_code (4 : Nat) (Option.some Jvm.ClassFile.FieldType.int)) ∈ lw_all := lw_g (lw_at lw_m6 97 rfl) rfl
theorem q1355 : (Jvm.Cond.instanceMethod ({ cls := "FittingStridesModel", name := "goBack", desc := "(I)I" } : Jvm.MethodName)) ∈ lw_all := lw_g (lw_at lw_m6 99 rfl) rfl
theorem q1356 : (Jvm.Cond.selects "FittingStridesModel" ({ cls := "FittingStridesModel", name := "goBack", desc := "(I)I" } : Jvm.MethodName) ({ cls := "FittingStridesModel", name := "goBack", desc := "(I)I" } : Jvm.MethodName)) ∈ lw_all := lw_g (lw_at lw_m6 100 rfl) rfl
theorem q1357 : (Jvm.Cond.code ({ cls := "FittingStridesModel", name := "goBack", desc := "(I)I" } : Jvm.MethodName) prog_10_method_61_code (4 : Nat) (Option.some Jvm.ClassFile.FieldType.int)) ∈ lw_all := lw_g (lw_at lw_m6 101 rfl) rfl
theorem in_X3 : ∀ w ∈ wsX30, w ∈ lw_all := lw_in wsX30 [1013, 1015, 1017, 1019, 1021, 1023, 1025, 1027, 1029, 1031, 1033, 1035, 1037, 1039, 1041, 1043, 1045, 1047, 1049, 1051, 1053, 1055, 1057, 1059, 1061, 1063, 1065, 1067, 1069, 1071, 1073, 1075, 1077, 1079, 1081, 1083, 1085, 1087, 1089, 1091, 1093, 1095, 1097, 1099] (by decide +kernel) (by decide +kernel)
