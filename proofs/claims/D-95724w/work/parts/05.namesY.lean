/-! FittingStrides$Town -/
set_option maxRecDepth 100000
def RX1 : String := "FittingStrides$Town"
def TX1 : u_T := fun k => match k with
  | 0 => ("FittingStrides$Town", "places", "I", false)
  | 1 => ("FittingStrides$Town", "stairs", "[LFittingStrides$Stair;", true)
  | 2 => ("FittingStrides$Town", "stairMany", "I", false)
  | 3 => ("FittingStrides$Town", "place", "[I", true)
  | 4 => ("FittingStrides$Town", "stride", "[I", true)
  | 5 => ("FittingStrides$Town", "second", "[I", true)
  | _ => ("FittingStrides$Town", "persons", "I", false)
def tyX1 : Nat → FieldType := fun k => match k with
  | 0 => .int
  | 1 => .array (.object "FittingStrides$Stair")
  | 2 => .int
  | 3 => .array .int
  | 4 => .array .int
  | 5 => .array .int
  | _ => .int
abbrev wsX10 : List Cond := u_ws RX1 TX1 7
theorem nmX1 : ∀ a, a < 7 → ∀ b, b < 7 → a ≠ b → (TX1 a).2.1 ≠ (TX1 b).2.1 := by decide +kernel
theorem tyX1_ok : ∀ k, k < 7 → parseFieldDescriptor (TX1 k).2.2.1 = some (tyX1 k) := by decide +kernel
abbrev cX1_init : ByteArray := prog_8_method_1_code
def yX1_init : MethodName := ⟨RX1, "<init>", "()V"⟩
def dkwX1_init_1 : List UInt8 := [188, 10, 181, 0, 21, 42, 16, 8, 188, 10, 181, 0, 24, 177]
abbrev dktX1_init_1 : List UInt8 := dkwX1_init_1 ++ []
def dkwX1_init_0 : List UInt8 := [42, 183, 0, 3, 42, 16, 10, 189, 0, 9, 181, 0, 11, 42, 16, 8, 188, 10, 181, 0, 17, 42, 16, 8]
abbrev dktX1_init_0 : List UInt8 := dkwX1_init_0 ++ dktX1_init_1
theorem dksX1_init_0 : cX1_init.data.toList.drop 0 = dktX1_init_0 := by decide +kernel
theorem dksX1_init_1 : cX1_init.data.toList.drop 24 = dktX1_init_1 := dk_seg dksX1_init_0 24 rfl rfl
theorem dX1_init_0 : decode cX1_init 0 = .ok (.aload_n 0, 1) := dk_42 (dk_at dksX1_init_0 0 rfl rfl)
theorem dX1_init_1 : decode cX1_init 1 = .ok (.invokespecial 3, 3) := dk_183 0 3 (dk_at dksX1_init_0 1 rfl rfl)
theorem dX1_init_4 : decode cX1_init 4 = .ok (.aload_n 0, 1) := dk_42 (dk_at dksX1_init_0 4 rfl rfl)
theorem dX1_init_5 : decode cX1_init 5 = .ok (.bipush 10, 2) := dk_16 10 (dk_at dksX1_init_0 5 rfl rfl)
theorem dX1_init_7 : decode cX1_init 7 = .ok (.anewarray 9, 3) := dk_189 0 9 (dk_at dksX1_init_0 7 rfl rfl)
theorem dX1_init_10 : decode cX1_init 10 = .ok (.putfield 11, 3) := dk_181 0 11 (dk_at dksX1_init_0 10 rfl rfl)
theorem dX1_init_13 : decode cX1_init 13 = .ok (.aload_n 0, 1) := dk_42 (dk_at dksX1_init_0 13 rfl rfl)
theorem dX1_init_14 : decode cX1_init 14 = .ok (.bipush 8, 2) := dk_16 8 (dk_at dksX1_init_0 14 rfl rfl)
theorem dX1_init_16 : decode cX1_init 16 = .ok (.newarray .int, 2) := dk_188_10 (dk_at dksX1_init_0 16 rfl rfl)
theorem dX1_init_18 : decode cX1_init 18 = .ok (.putfield 17, 3) := dk_181 0 17 (dk_at dksX1_init_0 18 rfl rfl)
theorem dX1_init_21 : decode cX1_init 21 = .ok (.aload_n 0, 1) := dk_42 (dk_at dksX1_init_0 21 rfl rfl)
theorem dX1_init_22 : decode cX1_init 22 = .ok (.bipush 8, 2) := dk_16 8 (dk_at dksX1_init_0 22 rfl rfl)
theorem dX1_init_24 : decode cX1_init 24 = .ok (.newarray .int, 2) := dk_188_10 (dk_at dksX1_init_1 0 rfl rfl)
theorem dX1_init_26 : decode cX1_init 26 = .ok (.putfield 21, 3) := dk_181 0 21 (dk_at dksX1_init_1 2 rfl rfl)
theorem dX1_init_29 : decode cX1_init 29 = .ok (.aload_n 0, 1) := dk_42 (dk_at dksX1_init_1 5 rfl rfl)
theorem dX1_init_30 : decode cX1_init 30 = .ok (.bipush 8, 2) := dk_16 8 (dk_at dksX1_init_1 6 rfl rfl)
theorem dX1_init_32 : decode cX1_init 32 = .ok (.newarray .int, 2) := dk_188_10 (dk_at dksX1_init_1 8 rfl rfl)
theorem dX1_init_34 : decode cX1_init 34 = .ok (.putfield 24, 3) := dk_181 0 24 (dk_at dksX1_init_1 10 rfl rfl)
theorem dX1_init_37 : decode cX1_init 37 = .ok (.return_, 1) := dk_177 (dk_at dksX1_init_1 13 rfl rfl)
theorem q58 : (Jvm.Cond.initialized "FittingStrides$Town") ∈ lw_all := lw_g (lw_at lw_m1 2 rfl) rfl
theorem q88 : (Jvm.Cond.instantiable "FittingStrides$Town" (7 : Nat)) ∈ lw_all := lw_g (lw_at lw_m1 32 rfl) rfl
theorem q90 : (Jvm.Cond.instanceMethod ({ cls := "FittingStrides$Town", name := "<init>", desc := "()V" } : Jvm.MethodName)) ∈ lw_all := lw_g (lw_at lw_m1 34 rfl) rfl
theorem q91 : (Jvm.Cond.code ({ cls := "FittingStrides$Town", name := "<init>", desc := "()V" } : Jvm.MethodName) prog_8_method_1_code (1 : Nat) (Option.none : Option Jvm.ClassFile.FieldType)) ∈ lw_all := lw_g (lw_at lw_m1 35 rfl) rfl
theorem q92 : (Jvm.Cond.methodLink "FittingStrides$Town" (3 : Nat) ({ cls := "java/lang/Object", name := "<init>", desc := "()V" } : Jvm.MethodName)) ∈ lw_all := lw_g (lw_at lw_m1 36 rfl) rfl
theorem q93 : (Jvm.Cond.classLink "FittingStrides$Town" (9 : Nat) "FittingStrides$Stair") ∈ lw_all := lw_g (lw_at lw_m1 37 rfl) rfl
theorem q97 : (Jvm.Cond.fieldLink "FittingStrides$Town" (11 : Nat) "FittingStrides$Town" "stairs" "[LFittingStrides$Stair;") ∈ lw_all := lw_g (lw_at lw_m1 41 rfl) rfl
theorem q104 : (Jvm.Cond.fieldLink "FittingStrides$Town" (17 : Nat) "FittingStrides$Town" "place" "[I") ∈ lw_all := lw_g (lw_at lw_m1 48 rfl) rfl
theorem q107 : (Jvm.Cond.fieldLink "FittingStrides$Town" (21 : Nat) "FittingStrides$Town" "stride" "[I") ∈ lw_all := lw_g (lw_at lw_m1 51 rfl) rfl
theorem q110 : (Jvm.Cond.fieldLink "FittingStrides$Town" (24 : Nat) "FittingStrides$Town" "second" "[I") ∈ lw_all := lw_g (lw_at lw_m1 54 rfl) rfl
theorem q115 : (Jvm.Cond.lays "FittingStrides$Town" "FittingStrides$Town" "places" "I") ∈ lw_all := lw_g (lw_at lw_m1 59 rfl) rfl
theorem q116 : (Jvm.Cond.soleField "FittingStrides$Town" "places") ∈ lw_all := lw_g (lw_at lw_m1 60 rfl) rfl
theorem q117 : (Jvm.Cond.laysFinal "FittingStrides$Town" "FittingStrides$Town" "stairs" "[LFittingStrides$Stair;") ∈ lw_all := lw_g (lw_at lw_m1 61 rfl) rfl
theorem q118 : (Jvm.Cond.soleField "FittingStrides$Town" "stairs") ∈ lw_all := lw_g (lw_at lw_m1 62 rfl) rfl
theorem q119 : (Jvm.Cond.lays "FittingStrides$Town" "FittingStrides$Town" "stairMany" "I") ∈ lw_all := lw_g (lw_at lw_m1 63 rfl) rfl
theorem q120 : (Jvm.Cond.soleField "FittingStrides$Town" "stairMany") ∈ lw_all := lw_g (lw_at lw_m1 64 rfl) rfl
theorem q121 : (Jvm.Cond.laysFinal "FittingStrides$Town" "FittingStrides$Town" "place" "[I") ∈ lw_all := lw_g (lw_at lw_m1 65 rfl) rfl
theorem q122 : (Jvm.Cond.soleField "FittingStrides$Town" "place") ∈ lw_all := lw_g (lw_at lw_m1 66 rfl) rfl
theorem q123 : (Jvm.Cond.laysFinal "FittingStrides$Town" "FittingStrides$Town" "stride" "[I") ∈ lw_all := lw_g (lw_at lw_m1 67 rfl) rfl
theorem q124 : (Jvm.Cond.soleField "FittingStrides$Town" "stride") ∈ lw_all := lw_g (lw_at lw_m1 68 rfl) rfl
theorem q125 : (Jvm.Cond.laysFinal "FittingStrides$Town" "FittingStrides$Town" "second" "[I") ∈ lw_all := lw_g (lw_at lw_m1 69 rfl) rfl
theorem q126 : (Jvm.Cond.soleField "FittingStrides$Town" "second") ∈ lw_all := lw_g (lw_at lw_m1 70 rfl) rfl
theorem q127 : (Jvm.Cond.lays "FittingStrides$Town" "FittingStrides$Town" "persons" "I") ∈ lw_all := lw_g (lw_at lw_m1 71 rfl) rfl
theorem q128 : (Jvm.Cond.soleField "FittingStrides$Town" "persons") ∈ lw_all := lw_g (lw_at lw_m1 72 rfl) rfl
theorem q129 : (Jvm.Cond.superclass "FittingStrides$Town" "java/lang/Object") ∈ lw_all := lw_g (lw_at lw_m1 73 rfl) rfl
theorem in_X1 : ∀ w ∈ wsX10, w ∈ lw_all := lw_in wsX10 [115, 117, 119, 121, 123, 125, 127] (by decide +kernel) (by decide +kernel)
/-! FittingStrides$Folk -/
set_option maxRecDepth 100000
def RX2 : String := "FittingStrides$Folk"
def TX2 : u_T := fun k => match k with
  | 0 => ("FittingStrides$Folk", "place", "[I", true)
  | 1 => ("FittingStrides$Folk", "stride", "[I", true)
  | 2 => ("FittingStrides$Folk", "second", "[I", true)
  | 3 => ("FittingStrides$Folk", "many", "I", false)
  | 4 => ("FittingStrides$Folk", "steps", "[[I", true)
  | 5 => ("FittingStrides$Folk", "worn", "[I", true)
  | 6 => ("FittingStrides$Folk", "law", "I", false)
  | 7 => ("FittingStrides$Folk", "seed", "I", false)
  | 8 => ("FittingStrides$Folk", "isKept", "Z", false)
  | _ => ("FittingStrides$Folk", "this$0", "LFittingStrides;", true)
def tyX2 : Nat → FieldType := fun k => match k with
  | 0 => .array .int
  | 1 => .array .int
  | 2 => .array .int
  | 3 => .int
  | 4 => .array (.array .int)
  | 5 => .array .int
  | 6 => .int
  | 7 => .int
  | 8 => .boolean
  | _ => .object "FittingStrides"
abbrev wsX20 : List Cond := u_ws RX2 TX2 10
theorem nmX2 : ∀ a, a < 10 → ∀ b, b < 10 → a ≠ b → (TX2 a).2.1 ≠ (TX2 b).2.1 := by decide +kernel
theorem tyX2_ok : ∀ k, k < 10 → parseFieldDescriptor (TX2 k).2.2.1 = some (tyX2 k) := by decide +kernel
abbrev cX2_init : ByteArray := prog_3_method_1_code
def yX2_init : MethodName := ⟨RX2, "<init>", "(LFittingStrides;)V"⟩
def dkwX2_init_2 : List UInt8 := [16, 10, 188, 10, 181, 0, 30, 177]
abbrev dktX2_init_2 : List UInt8 := dkwX2_init_2 ++ []
def dkwX2_init_1 : List UInt8 := [181, 0, 19, 42, 16, 8, 188, 10, 181, 0, 22, 42, 16, 10, 6, 197, 0, 25, 2, 181, 0, 27, 42]
abbrev dktX2_init_1 : List UInt8 := dkwX2_init_1 ++ dktX2_init_2
def dkwX2_init_0 : List UInt8 := [42, 43, 181, 0, 3, 42, 183, 0, 9, 42, 16, 8, 188, 10, 181, 0, 15, 42, 16, 8, 188, 10]
abbrev dktX2_init_0 : List UInt8 := dkwX2_init_0 ++ dktX2_init_1
theorem dksX2_init_0 : cX2_init.data.toList.drop 0 = dktX2_init_0 := by decide +kernel
theorem dksX2_init_1 : cX2_init.data.toList.drop 22 = dktX2_init_1 := dk_seg dksX2_init_0 22 rfl rfl
theorem dksX2_init_2 : cX2_init.data.toList.drop 45 = dktX2_init_2 := dk_seg dksX2_init_1 23 rfl rfl
theorem dX2_init_0 : decode cX2_init 0 = .ok (.aload_n 0, 1) := dk_42 (dk_at dksX2_init_0 0 rfl rfl)
theorem dX2_init_1 : decode cX2_init 1 = .ok (.aload_n 1, 1) := dk_43 (dk_at dksX2_init_0 1 rfl rfl)
theorem dX2_init_2 : decode cX2_init 2 = .ok (.putfield 3, 3) := dk_181 0 3 (dk_at dksX2_init_0 2 rfl rfl)
theorem dX2_init_5 : decode cX2_init 5 = .ok (.aload_n 0, 1) := dk_42 (dk_at dksX2_init_0 5 rfl rfl)
theorem dX2_init_6 : decode cX2_init 6 = .ok (.invokespecial 9, 3) := dk_183 0 9 (dk_at dksX2_init_0 6 rfl rfl)
theorem dX2_init_9 : decode cX2_init 9 = .ok (.aload_n 0, 1) := dk_42 (dk_at dksX2_init_0 9 rfl rfl)
theorem dX2_init_10 : decode cX2_init 10 = .ok (.bipush 8, 2) := dk_16 8 (dk_at dksX2_init_0 10 rfl rfl)
theorem dX2_init_12 : decode cX2_init 12 = .ok (.newarray .int, 2) := dk_188_10 (dk_at dksX2_init_0 12 rfl rfl)
theorem dX2_init_14 : decode cX2_init 14 = .ok (.putfield 15, 3) := dk_181 0 15 (dk_at dksX2_init_0 14 rfl rfl)
theorem dX2_init_17 : decode cX2_init 17 = .ok (.aload_n 0, 1) := dk_42 (dk_at dksX2_init_0 17 rfl rfl)
theorem dX2_init_18 : decode cX2_init 18 = .ok (.bipush 8, 2) := dk_16 8 (dk_at dksX2_init_0 18 rfl rfl)
theorem dX2_init_20 : decode cX2_init 20 = .ok (.newarray .int, 2) := dk_188_10 (dk_at dksX2_init_0 20 rfl rfl)
theorem dX2_init_22 : decode cX2_init 22 = .ok (.putfield 19, 3) := dk_181 0 19 (dk_at dksX2_init_1 0 rfl rfl)
theorem dX2_init_25 : decode cX2_init 25 = .ok (.aload_n 0, 1) := dk_42 (dk_at dksX2_init_1 3 rfl rfl)
theorem dX2_init_26 : decode cX2_init 26 = .ok (.bipush 8, 2) := dk_16 8 (dk_at dksX2_init_1 4 rfl rfl)
theorem dX2_init_28 : decode cX2_init 28 = .ok (.newarray .int, 2) := dk_188_10 (dk_at dksX2_init_1 6 rfl rfl)
theorem dX2_init_30 : decode cX2_init 30 = .ok (.putfield 22, 3) := dk_181 0 22 (dk_at dksX2_init_1 8 rfl rfl)
theorem dX2_init_33 : decode cX2_init 33 = .ok (.aload_n 0, 1) := dk_42 (dk_at dksX2_init_1 11 rfl rfl)
theorem dX2_init_34 : decode cX2_init 34 = .ok (.bipush 10, 2) := dk_16 10 (dk_at dksX2_init_1 12 rfl rfl)
theorem dX2_init_36 : decode cX2_init 36 = .ok (.iconst 3, 1) := dk_6 (dk_at dksX2_init_1 14 rfl rfl)
theorem dX2_init_37 : decode cX2_init 37 = .ok (.multianewarray 25 2, 4) := by decide +kernel
theorem dX2_init_41 : decode cX2_init 41 = .ok (.putfield 27, 3) := dk_181 0 27 (dk_at dksX2_init_1 19 rfl rfl)
theorem dX2_init_44 : decode cX2_init 44 = .ok (.aload_n 0, 1) := dk_42 (dk_at dksX2_init_1 22 rfl rfl)
theorem dX2_init_45 : decode cX2_init 45 = .ok (.bipush 10, 2) := dk_16 10 (dk_at dksX2_init_2 0 rfl rfl)
theorem dX2_init_47 : decode cX2_init 47 = .ok (.newarray .int, 2) := dk_188_10 (dk_at dksX2_init_2 2 rfl rfl)
theorem dX2_init_49 : decode cX2_init 49 = .ok (.putfield 30, 3) := dk_181 0 30 (dk_at dksX2_init_2 4 rfl rfl)
theorem dX2_init_52 : decode cX2_init 52 = .ok (.return_, 1) := dk_177 (dk_at dksX2_init_2 7 rfl rfl)
abbrev cX2_begin : ByteArray := prog_3_method_2_code
def yX2_begin : MethodName := ⟨RX2, "begin", "()V"⟩
def dkwX2_begin_5 : List UInt8 := [50, 3, 6, 184, 0, 40, 132, 1, 1, 167, 255, 212, 42, 180, 0, 30, 3, 184, 0, 66, 177]
abbrev dktX2_begin_5 : List UInt8 := dkwX2_begin_5 ++ []
def dkwX2_begin_4 : List UInt8 := [162, 0, 36, 42, 180, 0, 3, 180, 0, 33, 180, 0, 58, 27, 50, 180, 0, 62, 3, 42, 180, 0, 27, 27]
abbrev dktX2_begin_4 : List UInt8 := dkwX2_begin_4 ++ dktX2_begin_5
def dkwX2_begin_3 : List UInt8 := [180, 0, 33, 180, 0, 48, 181, 0, 52, 3, 60, 27, 42, 180, 0, 3, 180, 0, 33, 180, 0, 55]
abbrev dktX2_begin_3 : List UInt8 := dkwX2_begin_3 ++ dktX2_begin_4
def dkwX2_begin_2 : List UInt8 := [180, 0, 33, 180, 0, 47, 3, 42, 180, 0, 22, 3, 16, 8, 184, 0, 40, 42, 42, 180, 0, 3]
abbrev dktX2_begin_2 : List UInt8 := dkwX2_begin_2 ++ dktX2_begin_3
def dkwX2_begin_1 : List UInt8 := [180, 0, 3, 180, 0, 33, 180, 0, 46, 3, 42, 180, 0, 19, 3, 16, 8, 184, 0, 40, 42, 180, 0, 3]
abbrev dktX2_begin_1 : List UInt8 := dkwX2_begin_1 ++ dktX2_begin_2
def dkwX2_begin_0 : List UInt8 := [42, 180, 0, 3, 180, 0, 33, 180, 0, 37, 3, 42, 180, 0, 15, 3, 16, 8, 184, 0, 40, 42]
abbrev dktX2_begin_0 : List UInt8 := dkwX2_begin_0 ++ dktX2_begin_1
theorem dksX2_begin_0 : cX2_begin.data.toList.drop 0 = dktX2_begin_0 := by decide +kernel
theorem dksX2_begin_1 : cX2_begin.data.toList.drop 22 = dktX2_begin_1 := dk_seg dksX2_begin_0 22 rfl rfl
theorem dksX2_begin_2 : cX2_begin.data.toList.drop 46 = dktX2_begin_2 := dk_seg dksX2_begin_1 24 rfl rfl
theorem dksX2_begin_3 : cX2_begin.data.toList.drop 68 = dktX2_begin_3 := dk_seg dksX2_begin_2 22 rfl rfl
theorem dksX2_begin_4 : cX2_begin.data.toList.drop 90 = dktX2_begin_4 := dk_seg dksX2_begin_3 22 rfl rfl
theorem dksX2_begin_5 : cX2_begin.data.toList.drop 114 = dktX2_begin_5 := dk_seg dksX2_begin_4 24 rfl rfl
theorem dX2_begin_0 : decode cX2_begin 0 = .ok (.aload_n 0, 1) := dk_42 (dk_at dksX2_begin_0 0 rfl rfl)
theorem dX2_begin_1 : decode cX2_begin 1 = .ok (.getfield 3, 3) := dk_180 0 3 (dk_at dksX2_begin_0 1 rfl rfl)
theorem dX2_begin_4 : decode cX2_begin 4 = .ok (.getfield 33, 3) := dk_180 0 33 (dk_at dksX2_begin_0 4 rfl rfl)
theorem dX2_begin_7 : decode cX2_begin 7 = .ok (.getfield 37, 3) := dk_180 0 37 (dk_at dksX2_begin_0 7 rfl rfl)
theorem dX2_begin_10 : decode cX2_begin 10 = .ok (.iconst 0, 1) := dk_3 (dk_at dksX2_begin_0 10 rfl rfl)
theorem dX2_begin_11 : decode cX2_begin 11 = .ok (.aload_n 0, 1) := dk_42 (dk_at dksX2_begin_0 11 rfl rfl)
theorem dX2_begin_12 : decode cX2_begin 12 = .ok (.getfield 15, 3) := dk_180 0 15 (dk_at dksX2_begin_0 12 rfl rfl)
theorem dX2_begin_15 : decode cX2_begin 15 = .ok (.iconst 0, 1) := dk_3 (dk_at dksX2_begin_0 15 rfl rfl)
theorem dX2_begin_16 : decode cX2_begin 16 = .ok (.bipush 8, 2) := dk_16 8 (dk_at dksX2_begin_0 16 rfl rfl)
theorem dX2_begin_18 : decode cX2_begin 18 = .ok (.invokestatic 40, 3) := dk_184 0 40 (dk_at dksX2_begin_0 18 rfl rfl)
theorem dX2_begin_21 : decode cX2_begin 21 = .ok (.aload_n 0, 1) := dk_42 (dk_at dksX2_begin_0 21 rfl rfl)
theorem dX2_begin_22 : decode cX2_begin 22 = .ok (.getfield 3, 3) := dk_180 0 3 (dk_at dksX2_begin_1 0 rfl rfl)
theorem dX2_begin_25 : decode cX2_begin 25 = .ok (.getfield 33, 3) := dk_180 0 33 (dk_at dksX2_begin_1 3 rfl rfl)
theorem dX2_begin_28 : decode cX2_begin 28 = .ok (.getfield 46, 3) := dk_180 0 46 (dk_at dksX2_begin_1 6 rfl rfl)
theorem dX2_begin_31 : decode cX2_begin 31 = .ok (.iconst 0, 1) := dk_3 (dk_at dksX2_begin_1 9 rfl rfl)
theorem dX2_begin_32 : decode cX2_begin 32 = .ok (.aload_n 0, 1) := dk_42 (dk_at dksX2_begin_1 10 rfl rfl)
theorem dX2_begin_33 : decode cX2_begin 33 = .ok (.getfield 19, 3) := dk_180 0 19 (dk_at dksX2_begin_1 11 rfl rfl)
theorem dX2_begin_36 : decode cX2_begin 36 = .ok (.iconst 0, 1) := dk_3 (dk_at dksX2_begin_1 14 rfl rfl)
theorem dX2_begin_37 : decode cX2_begin 37 = .ok (.bipush 8, 2) := dk_16 8 (dk_at dksX2_begin_1 15 rfl rfl)
theorem dX2_begin_39 : decode cX2_begin 39 = .ok (.invokestatic 40, 3) := dk_184 0 40 (dk_at dksX2_begin_1 17 rfl rfl)
theorem dX2_begin_42 : decode cX2_begin 42 = .ok (.aload_n 0, 1) := dk_42 (dk_at dksX2_begin_1 20 rfl rfl)
theorem dX2_begin_43 : decode cX2_begin 43 = .ok (.getfield 3, 3) := dk_180 0 3 (dk_at dksX2_begin_1 21 rfl rfl)
theorem dX2_begin_46 : decode cX2_begin 46 = .ok (.getfield 33, 3) := dk_180 0 33 (dk_at dksX2_begin_2 0 rfl rfl)
theorem dX2_begin_49 : decode cX2_begin 49 = .ok (.getfield 47, 3) := dk_180 0 47 (dk_at dksX2_begin_2 3 rfl rfl)
theorem dX2_begin_52 : decode cX2_begin 52 = .ok (.iconst 0, 1) := dk_3 (dk_at dksX2_begin_2 6 rfl rfl)
theorem dX2_begin_53 : decode cX2_begin 53 = .ok (.aload_n 0, 1) := dk_42 (dk_at dksX2_begin_2 7 rfl rfl)
theorem dX2_begin_54 : decode cX2_begin 54 = .ok (.getfield 22, 3) := dk_180 0 22 (dk_at dksX2_begin_2 8 rfl rfl)
theorem dX2_begin_57 : decode cX2_begin 57 = .ok (.iconst 0, 1) := dk_3 (dk_at dksX2_begin_2 11 rfl rfl)
theorem dX2_begin_58 : decode cX2_begin 58 = .ok (.bipush 8, 2) := dk_16 8 (dk_at dksX2_begin_2 12 rfl rfl)
theorem dX2_begin_60 : decode cX2_begin 60 = .ok (.invokestatic 40, 3) := dk_184 0 40 (dk_at dksX2_begin_2 14 rfl rfl)
theorem dX2_begin_63 : decode cX2_begin 63 = .ok (.aload_n 0, 1) := dk_42 (dk_at dksX2_begin_2 17 rfl rfl)
theorem dX2_begin_64 : decode cX2_begin 64 = .ok (.aload_n 0, 1) := dk_42 (dk_at dksX2_begin_2 18 rfl rfl)
theorem dX2_begin_65 : decode cX2_begin 65 = .ok (.getfield 3, 3) := dk_180 0 3 (dk_at dksX2_begin_2 19 rfl rfl)
theorem dX2_begin_68 : decode cX2_begin 68 = .ok (.getfield 33, 3) := dk_180 0 33 (dk_at dksX2_begin_3 0 rfl rfl)
theorem dX2_begin_71 : decode cX2_begin 71 = .ok (.getfield 48, 3) := dk_180 0 48 (dk_at dksX2_begin_3 3 rfl rfl)
theorem dX2_begin_74 : decode cX2_begin 74 = .ok (.putfield 52, 3) := dk_181 0 52 (dk_at dksX2_begin_3 6 rfl rfl)
theorem dX2_begin_77 : decode cX2_begin 77 = .ok (.iconst 0, 1) := dk_3 (dk_at dksX2_begin_3 9 rfl rfl)
theorem dX2_begin_78 : decode cX2_begin 78 = .ok (.istore_n 1, 1) := dk_60 (dk_at dksX2_begin_3 10 rfl rfl)
theorem dX2_begin_79 : decode cX2_begin 79 = .ok (.iload_n 1, 1) := dk_27 (dk_at dksX2_begin_3 11 rfl rfl)
theorem dX2_begin_80 : decode cX2_begin 80 = .ok (.aload_n 0, 1) := dk_42 (dk_at dksX2_begin_3 12 rfl rfl)
theorem dX2_begin_81 : decode cX2_begin 81 = .ok (.getfield 3, 3) := dk_180 0 3 (dk_at dksX2_begin_3 13 rfl rfl)
theorem dX2_begin_84 : decode cX2_begin 84 = .ok (.getfield 33, 3) := dk_180 0 33 (dk_at dksX2_begin_3 16 rfl rfl)
theorem dX2_begin_87 : decode cX2_begin 87 = .ok (.getfield 55, 3) := dk_180 0 55 (dk_at dksX2_begin_3 19 rfl rfl)
theorem dX2_begin_90 : decode cX2_begin 90 = .ok (.if_icmp .ge 36, 3) := dk_162 0 36 (dk_at dksX2_begin_4 0 rfl rfl)
theorem dX2_begin_93 : decode cX2_begin 93 = .ok (.aload_n 0, 1) := dk_42 (dk_at dksX2_begin_4 3 rfl rfl)
theorem dX2_begin_94 : decode cX2_begin 94 = .ok (.getfield 3, 3) := dk_180 0 3 (dk_at dksX2_begin_4 4 rfl rfl)
theorem dX2_begin_97 : decode cX2_begin 97 = .ok (.getfield 33, 3) := dk_180 0 33 (dk_at dksX2_begin_4 7 rfl rfl)
theorem dX2_begin_100 : decode cX2_begin 100 = .ok (.getfield 58, 3) := dk_180 0 58 (dk_at dksX2_begin_4 10 rfl rfl)
theorem dX2_begin_103 : decode cX2_begin 103 = .ok (.iload_n 1, 1) := dk_27 (dk_at dksX2_begin_4 13 rfl rfl)
theorem dX2_begin_104 : decode cX2_begin 104 = .ok (.aaload, 1) := dk_50 (dk_at dksX2_begin_4 14 rfl rfl)
theorem dX2_begin_105 : decode cX2_begin 105 = .ok (.getfield 62, 3) := dk_180 0 62 (dk_at dksX2_begin_4 15 rfl rfl)
theorem dX2_begin_108 : decode cX2_begin 108 = .ok (.iconst 0, 1) := dk_3 (dk_at dksX2_begin_4 18 rfl rfl)
theorem dX2_begin_109 : decode cX2_begin 109 = .ok (.aload_n 0, 1) := dk_42 (dk_at dksX2_begin_4 19 rfl rfl)
theorem dX2_begin_110 : decode cX2_begin 110 = .ok (.getfield 27, 3) := dk_180 0 27 (dk_at dksX2_begin_4 20 rfl rfl)
theorem dX2_begin_113 : decode cX2_begin 113 = .ok (.iload_n 1, 1) := dk_27 (dk_at dksX2_begin_4 23 rfl rfl)
theorem dX2_begin_114 : decode cX2_begin 114 = .ok (.aaload, 1) := dk_50 (dk_at dksX2_begin_5 0 rfl rfl)
theorem dX2_begin_115 : decode cX2_begin 115 = .ok (.iconst 0, 1) := dk_3 (dk_at dksX2_begin_5 1 rfl rfl)
theorem dX2_begin_116 : decode cX2_begin 116 = .ok (.iconst 3, 1) := dk_6 (dk_at dksX2_begin_5 2 rfl rfl)
theorem dX2_begin_117 : decode cX2_begin 117 = .ok (.invokestatic 40, 3) := dk_184 0 40 (dk_at dksX2_begin_5 3 rfl rfl)
theorem dX2_begin_120 : decode cX2_begin 120 = .ok (.iinc 1 1, 3) := dk_132 1 1 (dk_at dksX2_begin_5 6 rfl rfl)
theorem dX2_begin_123 : decode cX2_begin 123 = .ok (.goto (-44), 3) := dk_167 255 212 (dk_at dksX2_begin_5 9 rfl rfl)
theorem dX2_begin_126 : decode cX2_begin 126 = .ok (.aload_n 0, 1) := dk_42 (dk_at dksX2_begin_5 12 rfl rfl)
theorem dX2_begin_127 : decode cX2_begin 127 = .ok (.getfield 30, 3) := dk_180 0 30 (dk_at dksX2_begin_5 13 rfl rfl)
theorem dX2_begin_130 : decode cX2_begin 130 = .ok (.iconst 0, 1) := dk_3 (dk_at dksX2_begin_5 16 rfl rfl)
theorem dX2_begin_131 : decode cX2_begin 131 = .ok (.invokestatic 66, 3) := dk_184 0 66 (dk_at dksX2_begin_5 17 rfl rfl)
theorem dX2_begin_134 : decode cX2_begin 134 = .ok (.return_, 1) := dk_177 (dk_at dksX2_begin_5 20 rfl rfl)
abbrev cX2_draw : ByteArray := prog_3_method_4_code
def yX2_draw : MethodName := ⟨RX2, "draw", "(I)I"⟩
def dkwX2_draw_1 : List UInt8 := [180, 0, 75, 18, 84, 108, 27, 112, 172]
abbrev dktX2_draw_1 : List UInt8 := dkwX2_draw_1 ++ []
def dkwX2_draw_0 : List UInt8 := [42, 42, 180, 0, 75, 133, 20, 0, 78, 105, 20, 0, 80, 97, 20, 0, 82, 113, 136, 181, 0, 75, 42]
abbrev dktX2_draw_0 : List UInt8 := dkwX2_draw_0 ++ dktX2_draw_1
theorem dksX2_draw_0 : cX2_draw.data.toList.drop 0 = dktX2_draw_0 := by decide +kernel
theorem dksX2_draw_1 : cX2_draw.data.toList.drop 23 = dktX2_draw_1 := dk_seg dksX2_draw_0 23 rfl rfl
theorem dX2_draw_0 : decode cX2_draw 0 = .ok (.aload_n 0, 1) := dk_42 (dk_at dksX2_draw_0 0 rfl rfl)
theorem dX2_draw_1 : decode cX2_draw 1 = .ok (.aload_n 0, 1) := dk_42 (dk_at dksX2_draw_0 1 rfl rfl)
theorem dX2_draw_2 : decode cX2_draw 2 = .ok (.getfield 75, 3) := dk_180 0 75 (dk_at dksX2_draw_0 2 rfl rfl)
theorem dX2_draw_5 : decode cX2_draw 5 = .ok (.i2l, 1) := dk_133 (dk_at dksX2_draw_0 5 rfl rfl)
theorem dX2_draw_6 : decode cX2_draw 6 = .ok (.ldc2_w 78, 3) := dk_20 0 78 (dk_at dksX2_draw_0 6 rfl rfl)
theorem dX2_draw_9 : decode cX2_draw 9 = .ok (.lmul, 1) := dk_105 (dk_at dksX2_draw_0 9 rfl rfl)
theorem dX2_draw_10 : decode cX2_draw 10 = .ok (.ldc2_w 80, 3) := dk_20 0 80 (dk_at dksX2_draw_0 10 rfl rfl)
theorem dX2_draw_13 : decode cX2_draw 13 = .ok (.ladd, 1) := dk_97 (dk_at dksX2_draw_0 13 rfl rfl)
theorem dX2_draw_14 : decode cX2_draw 14 = .ok (.ldc2_w 82, 3) := dk_20 0 82 (dk_at dksX2_draw_0 14 rfl rfl)
theorem dX2_draw_17 : decode cX2_draw 17 = .ok (.lrem, 1) := dk_113 (dk_at dksX2_draw_0 17 rfl rfl)
theorem dX2_draw_18 : decode cX2_draw 18 = .ok (.l2i, 1) := dk_136 (dk_at dksX2_draw_0 18 rfl rfl)
theorem dX2_draw_19 : decode cX2_draw 19 = .ok (.putfield 75, 3) := dk_181 0 75 (dk_at dksX2_draw_0 19 rfl rfl)
theorem dX2_draw_22 : decode cX2_draw 22 = .ok (.aload_n 0, 1) := dk_42 (dk_at dksX2_draw_0 22 rfl rfl)
theorem dX2_draw_23 : decode cX2_draw 23 = .ok (.getfield 75, 3) := dk_180 0 75 (dk_at dksX2_draw_1 0 rfl rfl)
theorem dX2_draw_26 : decode cX2_draw 26 = .ok (.ldc 84, 2) := dk_18 84 (dk_at dksX2_draw_1 3 rfl rfl)
theorem dX2_draw_28 : decode cX2_draw 28 = .ok (.idiv, 1) := dk_108 (dk_at dksX2_draw_1 5 rfl rfl)
theorem dX2_draw_29 : decode cX2_draw 29 = .ok (.iload_n 1, 1) := dk_27 (dk_at dksX2_draw_1 6 rfl rfl)
theorem dX2_draw_30 : decode cX2_draw 30 = .ok (.irem, 1) := dk_112 (dk_at dksX2_draw_1 7 rfl rfl)
theorem dX2_draw_31 : decode cX2_draw 31 = .ok (.ireturn, 1) := dk_172 (dk_at dksX2_draw_1 8 rfl rfl)
abbrev cX2_set : ByteArray := prog_3_method_3_code
def yX2_set : MethodName := ⟨RX2, "set", "(LFittingStrides$Folk;)V"⟩
def dkwX2_set_5 : List UInt8 := [181, 0, 75, 177]
abbrev dktX2_set_5 : List UInt8 := dkwX2_set_5 ++ []
def dkwX2_set_4 : List UInt8 := [180, 0, 30, 3, 16, 10, 184, 0, 40, 42, 43, 180, 0, 72, 181, 0, 72, 42, 43, 180, 0, 75]
abbrev dktX2_set_4 : List UInt8 := dkwX2_set_4 ++ dktX2_set_5
def dkwX2_set_3 : List UInt8 := [180, 0, 27, 28, 50, 3, 6, 184, 0, 40, 132, 2, 1, 167, 255, 229, 43, 180, 0, 30, 3, 42]
abbrev dktX2_set_3 : List UInt8 := dkwX2_set_3 ++ dktX2_set_4
def dkwX2_set_2 : List UInt8 := [180, 0, 52, 181, 0, 52, 3, 61, 28, 16, 10, 162, 0, 27, 43, 180, 0, 27, 28, 50, 3, 42]
abbrev dktX2_set_2 : List UInt8 := dkwX2_set_2 ++ dktX2_set_3
def dkwX2_set_1 : List UInt8 := [3, 16, 8, 184, 0, 40, 43, 180, 0, 22, 3, 42, 180, 0, 22, 3, 16, 8, 184, 0, 40, 42, 43]
abbrev dktX2_set_1 : List UInt8 := dkwX2_set_1 ++ dktX2_set_2
def dkwX2_set_0 : List UInt8 := [43, 180, 0, 15, 3, 42, 180, 0, 15, 3, 16, 8, 184, 0, 40, 43, 180, 0, 19, 3, 42, 180, 0, 19]
abbrev dktX2_set_0 : List UInt8 := dkwX2_set_0 ++ dktX2_set_1
theorem dksX2_set_0 : cX2_set.data.toList.drop 0 = dktX2_set_0 := by decide +kernel
theorem dksX2_set_1 : cX2_set.data.toList.drop 24 = dktX2_set_1 := dk_seg dksX2_set_0 24 rfl rfl
theorem dksX2_set_2 : cX2_set.data.toList.drop 47 = dktX2_set_2 := dk_seg dksX2_set_1 23 rfl rfl
theorem dksX2_set_3 : cX2_set.data.toList.drop 69 = dktX2_set_3 := dk_seg dksX2_set_2 22 rfl rfl
theorem dksX2_set_4 : cX2_set.data.toList.drop 91 = dktX2_set_4 := dk_seg dksX2_set_3 22 rfl rfl
theorem dksX2_set_5 : cX2_set.data.toList.drop 113 = dktX2_set_5 := dk_seg dksX2_set_4 22 rfl rfl
theorem dX2_set_0 : decode cX2_set 0 = .ok (.aload_n 1, 1) := dk_43 (dk_at dksX2_set_0 0 rfl rfl)
theorem dX2_set_1 : decode cX2_set 1 = .ok (.getfield 15, 3) := dk_180 0 15 (dk_at dksX2_set_0 1 rfl rfl)
theorem dX2_set_4 : decode cX2_set 4 = .ok (.iconst 0, 1) := dk_3 (dk_at dksX2_set_0 4 rfl rfl)
theorem dX2_set_5 : decode cX2_set 5 = .ok (.aload_n 0, 1) := dk_42 (dk_at dksX2_set_0 5 rfl rfl)
theorem dX2_set_6 : decode cX2_set 6 = .ok (.getfield 15, 3) := dk_180 0 15 (dk_at dksX2_set_0 6 rfl rfl)
theorem dX2_set_9 : decode cX2_set 9 = .ok (.iconst 0, 1) := dk_3 (dk_at dksX2_set_0 9 rfl rfl)
theorem dX2_set_10 : decode cX2_set 10 = .ok (.bipush 8, 2) := dk_16 8 (dk_at dksX2_set_0 10 rfl rfl)
theorem dX2_set_12 : decode cX2_set 12 = .ok (.invokestatic 40, 3) := dk_184 0 40 (dk_at dksX2_set_0 12 rfl rfl)
theorem dX2_set_15 : decode cX2_set 15 = .ok (.aload_n 1, 1) := dk_43 (dk_at dksX2_set_0 15 rfl rfl)
theorem dX2_set_16 : decode cX2_set 16 = .ok (.getfield 19, 3) := dk_180 0 19 (dk_at dksX2_set_0 16 rfl rfl)
theorem dX2_set_19 : decode cX2_set 19 = .ok (.iconst 0, 1) := dk_3 (dk_at dksX2_set_0 19 rfl rfl)
theorem dX2_set_20 : decode cX2_set 20 = .ok (.aload_n 0, 1) := dk_42 (dk_at dksX2_set_0 20 rfl rfl)
theorem dX2_set_21 : decode cX2_set 21 = .ok (.getfield 19, 3) := dk_180 0 19 (dk_at dksX2_set_0 21 rfl rfl)
theorem dX2_set_24 : decode cX2_set 24 = .ok (.iconst 0, 1) := dk_3 (dk_at dksX2_set_1 0 rfl rfl)
theorem dX2_set_25 : decode cX2_set 25 = .ok (.bipush 8, 2) := dk_16 8 (dk_at dksX2_set_1 1 rfl rfl)
theorem dX2_set_27 : decode cX2_set 27 = .ok (.invokestatic 40, 3) := dk_184 0 40 (dk_at dksX2_set_1 3 rfl rfl)
theorem dX2_set_30 : decode cX2_set 30 = .ok (.aload_n 1, 1) := dk_43 (dk_at dksX2_set_1 6 rfl rfl)
theorem dX2_set_31 : decode cX2_set 31 = .ok (.getfield 22, 3) := dk_180 0 22 (dk_at dksX2_set_1 7 rfl rfl)
theorem dX2_set_34 : decode cX2_set 34 = .ok (.iconst 0, 1) := dk_3 (dk_at dksX2_set_1 10 rfl rfl)
theorem dX2_set_35 : decode cX2_set 35 = .ok (.aload_n 0, 1) := dk_42 (dk_at dksX2_set_1 11 rfl rfl)
theorem dX2_set_36 : decode cX2_set 36 = .ok (.getfield 22, 3) := dk_180 0 22 (dk_at dksX2_set_1 12 rfl rfl)
theorem dX2_set_39 : decode cX2_set 39 = .ok (.iconst 0, 1) := dk_3 (dk_at dksX2_set_1 15 rfl rfl)
theorem dX2_set_40 : decode cX2_set 40 = .ok (.bipush 8, 2) := dk_16 8 (dk_at dksX2_set_1 16 rfl rfl)
theorem dX2_set_42 : decode cX2_set 42 = .ok (.invokestatic 40, 3) := dk_184 0 40 (dk_at dksX2_set_1 18 rfl rfl)
theorem dX2_set_45 : decode cX2_set 45 = .ok (.aload_n 0, 1) := dk_42 (dk_at dksX2_set_1 21 rfl rfl)
theorem dX2_set_46 : decode cX2_set 46 = .ok (.aload_n 1, 1) := dk_43 (dk_at dksX2_set_1 22 rfl rfl)
theorem dX2_set_47 : decode cX2_set 47 = .ok (.getfield 52, 3) := dk_180 0 52 (dk_at dksX2_set_2 0 rfl rfl)
theorem dX2_set_50 : decode cX2_set 50 = .ok (.putfield 52, 3) := dk_181 0 52 (dk_at dksX2_set_2 3 rfl rfl)
theorem dX2_set_53 : decode cX2_set 53 = .ok (.iconst 0, 1) := dk_3 (dk_at dksX2_set_2 6 rfl rfl)
theorem dX2_set_54 : decode cX2_set 54 = .ok (.istore_n 2, 1) := dk_61 (dk_at dksX2_set_2 7 rfl rfl)
theorem dX2_set_55 : decode cX2_set 55 = .ok (.iload_n 2, 1) := dk_28 (dk_at dksX2_set_2 8 rfl rfl)
theorem dX2_set_56 : decode cX2_set 56 = .ok (.bipush 10, 2) := dk_16 10 (dk_at dksX2_set_2 9 rfl rfl)
theorem dX2_set_58 : decode cX2_set 58 = .ok (.if_icmp .ge 27, 3) := dk_162 0 27 (dk_at dksX2_set_2 11 rfl rfl)
theorem dX2_set_61 : decode cX2_set 61 = .ok (.aload_n 1, 1) := dk_43 (dk_at dksX2_set_2 14 rfl rfl)
theorem dX2_set_62 : decode cX2_set 62 = .ok (.getfield 27, 3) := dk_180 0 27 (dk_at dksX2_set_2 15 rfl rfl)
theorem dX2_set_65 : decode cX2_set 65 = .ok (.iload_n 2, 1) := dk_28 (dk_at dksX2_set_2 18 rfl rfl)
theorem dX2_set_66 : decode cX2_set 66 = .ok (.aaload, 1) := dk_50 (dk_at dksX2_set_2 19 rfl rfl)
theorem dX2_set_67 : decode cX2_set 67 = .ok (.iconst 0, 1) := dk_3 (dk_at dksX2_set_2 20 rfl rfl)
theorem dX2_set_68 : decode cX2_set 68 = .ok (.aload_n 0, 1) := dk_42 (dk_at dksX2_set_2 21 rfl rfl)
theorem dX2_set_69 : decode cX2_set 69 = .ok (.getfield 27, 3) := dk_180 0 27 (dk_at dksX2_set_3 0 rfl rfl)
theorem dX2_set_72 : decode cX2_set 72 = .ok (.iload_n 2, 1) := dk_28 (dk_at dksX2_set_3 3 rfl rfl)
theorem dX2_set_73 : decode cX2_set 73 = .ok (.aaload, 1) := dk_50 (dk_at dksX2_set_3 4 rfl rfl)
theorem dX2_set_74 : decode cX2_set 74 = .ok (.iconst 0, 1) := dk_3 (dk_at dksX2_set_3 5 rfl rfl)
theorem dX2_set_75 : decode cX2_set 75 = .ok (.iconst 3, 1) := dk_6 (dk_at dksX2_set_3 6 rfl rfl)
theorem dX2_set_76 : decode cX2_set 76 = .ok (.invokestatic 40, 3) := dk_184 0 40 (dk_at dksX2_set_3 7 rfl rfl)
theorem dX2_set_79 : decode cX2_set 79 = .ok (.iinc 2 1, 3) := dk_132 2 1 (dk_at dksX2_set_3 10 rfl rfl)
theorem dX2_set_82 : decode cX2_set 82 = .ok (.goto (-27), 3) := dk_167 255 229 (dk_at dksX2_set_3 13 rfl rfl)
theorem dX2_set_85 : decode cX2_set 85 = .ok (.aload_n 1, 1) := dk_43 (dk_at dksX2_set_3 16 rfl rfl)
theorem dX2_set_86 : decode cX2_set 86 = .ok (.getfield 30, 3) := dk_180 0 30 (dk_at dksX2_set_3 17 rfl rfl)
theorem dX2_set_89 : decode cX2_set 89 = .ok (.iconst 0, 1) := dk_3 (dk_at dksX2_set_3 20 rfl rfl)
theorem dX2_set_90 : decode cX2_set 90 = .ok (.aload_n 0, 1) := dk_42 (dk_at dksX2_set_3 21 rfl rfl)
theorem dX2_set_91 : decode cX2_set 91 = .ok (.getfield 30, 3) := dk_180 0 30 (dk_at dksX2_set_4 0 rfl rfl)
theorem dX2_set_94 : decode cX2_set 94 = .ok (.iconst 0, 1) := dk_3 (dk_at dksX2_set_4 3 rfl rfl)
theorem dX2_set_95 : decode cX2_set 95 = .ok (.bipush 10, 2) := dk_16 10 (dk_at dksX2_set_4 4 rfl rfl)
theorem dX2_set_97 : decode cX2_set 97 = .ok (.invokestatic 40, 3) := dk_184 0 40 (dk_at dksX2_set_4 6 rfl rfl)
theorem dX2_set_100 : decode cX2_set 100 = .ok (.aload_n 0, 1) := dk_42 (dk_at dksX2_set_4 9 rfl rfl)
theorem dX2_set_101 : decode cX2_set 101 = .ok (.aload_n 1, 1) := dk_43 (dk_at dksX2_set_4 10 rfl rfl)
theorem dX2_set_102 : decode cX2_set 102 = .ok (.getfield 72, 3) := dk_180 0 72 (dk_at dksX2_set_4 11 rfl rfl)
theorem dX2_set_105 : decode cX2_set 105 = .ok (.putfield 72, 3) := dk_181 0 72 (dk_at dksX2_set_4 14 rfl rfl)
theorem dX2_set_108 : decode cX2_set 108 = .ok (.aload_n 0, 1) := dk_42 (dk_at dksX2_set_4 17 rfl rfl)
theorem dX2_set_109 : decode cX2_set 109 = .ok (.aload_n 1, 1) := dk_43 (dk_at dksX2_set_4 18 rfl rfl)
theorem dX2_set_110 : decode cX2_set 110 = .ok (.getfield 75, 3) := dk_180 0 75 (dk_at dksX2_set_4 19 rfl rfl)
theorem dX2_set_113 : decode cX2_set 113 = .ok (.putfield 75, 3) := dk_181 0 75 (dk_at dksX2_set_5 0 rfl rfl)
theorem dX2_set_116 : decode cX2_set 116 = .ok (.return_, 1) := dk_177 (dk_at dksX2_set_5 3 rfl rfl)
theorem q59 : (Jvm.Cond.initialized "FittingStrides$Folk") ∈ lw_all := lw_g (lw_at lw_m1 3 rfl) rfl
theorem q98 : (Jvm.Cond.fieldLinkNest "FittingStrides$Folk" (58 : Nat) "FittingStrides$Town" "stairs" "[LFittingStrides$Stair;" "FittingStrides") ∈ lw_tbl := lw_at lw_m1 42 rfl
theorem q101 : (Jvm.Cond.fieldLinkNest "FittingStrides$Folk" (55 : Nat) "FittingStrides$Town" "stairMany" "I" "FittingStrides") ∈ lw_tbl := lw_at lw_m1 45 rfl
theorem q105 : (Jvm.Cond.fieldLinkNest "FittingStrides$Folk" (37 : Nat) "FittingStrides$Town" "place" "[I" "FittingStrides") ∈ lw_tbl := lw_at lw_m1 49 rfl
theorem q108 : (Jvm.Cond.fieldLinkNest "FittingStrides$Folk" (46 : Nat) "FittingStrides$Town" "stride" "[I" "FittingStrides") ∈ lw_tbl := lw_at lw_m1 52 rfl
theorem q111 : (Jvm.Cond.fieldLinkNest "FittingStrides$Folk" (47 : Nat) "FittingStrides$Town" "second" "[I" "FittingStrides") ∈ lw_tbl := lw_at lw_m1 55 rfl
theorem q113 : (Jvm.Cond.fieldLinkNest "FittingStrides$Folk" (48 : Nat) "FittingStrides$Town" "persons" "I" "FittingStrides") ∈ lw_tbl := lw_at lw_m1 57 rfl
theorem q132 : (Jvm.Cond.instantiable "FittingStrides$Folk" (10 : Nat)) ∈ lw_all := lw_g (lw_at lw_m1 76 rfl) rfl
theorem q134 : (Jvm.Cond.instanceMethod ({ cls := "FittingStrides$Folk", name := "<init>", desc := "(LFittingStrides;)V" } : Jvm.MethodName)) ∈ lw_all := lw_g (lw_at lw_m1 78 rfl) rfl
theorem q135 : (Jvm.Cond.code ({ cls := "FittingStrides$Folk", name := "<init>", desc := "(LFittingStrides;)V" } : Jvm.MethodName) prog_3_method_1_code (2 : Nat) (Option.none : Option Jvm.ClassFile.FieldType)) ∈ lw_all := lw_g (lw_at lw_m1 79 rfl) rfl
theorem q136 : (Jvm.Cond.methodLink "FittingStrides$Folk" (9 : Nat) ({ cls := "java/lang/Object", name := "<init>", desc := "()V" } : Jvm.MethodName)) ∈ lw_all := lw_g (lw_at lw_m1 80 rfl) rfl
theorem q137 : (Jvm.Cond.classLink "FittingStrides$Folk" (25 : Nat) "[[I") ∈ lw_all := lw_g (lw_at lw_m1 81 rfl) rfl
theorem q139 : (Jvm.Cond.fieldLink "FittingStrides$Folk" (15 : Nat) "FittingStrides$Folk" "place" "[I") ∈ lw_all := lw_g (lw_at lw_m1 83 rfl) rfl
theorem q141 : (Jvm.Cond.fieldLink "FittingStrides$Folk" (19 : Nat) "FittingStrides$Folk" "stride" "[I") ∈ lw_all := lw_g (lw_at lw_m1 85 rfl) rfl
theorem q143 : (Jvm.Cond.fieldLink "FittingStrides$Folk" (22 : Nat) "FittingStrides$Folk" "second" "[I") ∈ lw_all := lw_g (lw_at lw_m1 87 rfl) rfl
theorem q145 : (Jvm.Cond.fieldLink "FittingStrides$Folk" (52 : Nat) "FittingStrides$Folk" "many" "I") ∈ lw_all := lw_g (lw_at lw_m1 89 rfl) rfl
theorem q147 : (Jvm.Cond.fieldLink "FittingStrides$Folk" (27 : Nat) "FittingStrides$Folk" "steps" "[[I") ∈ lw_all := lw_g (lw_at lw_m1 91 rfl) rfl
theorem q149 : (Jvm.Cond.fieldLink "FittingStrides$Folk" (30 : Nat) "FittingStrides$Folk" "worn" "[I") ∈ lw_all := lw_g (lw_at lw_m1 93 rfl) rfl
theorem q151 : (Jvm.Cond.fieldLink "FittingStrides$Folk" (72 : Nat) "FittingStrides$Folk" "law" "I") ∈ lw_all := lw_g (lw_at lw_m1 95 rfl) rfl
theorem q153 : (Jvm.Cond.fieldLink "FittingStrides$Folk" (75 : Nat) "FittingStrides$Folk" "seed" "I") ∈ lw_all := lw_g (lw_at lw_m1 97 rfl) rfl
theorem q156 : (Jvm.Cond.fieldLink "FittingStrides$Folk" (3 : Nat) "FittingStrides$Folk" "this$0" "LFittingStrides;") ∈ lw_all := lw_g (lw_at lw_m1 100 rfl) rfl
theorem q157 : (Jvm.Cond.laysFinal "FittingStrides$Folk" "FittingStrides$Folk" "place" "[I") ∈ lw_all := lw_g (lw_at lw_m1 101 rfl) rfl
theorem q158 : (Jvm.Cond.soleField "FittingStrides$Folk" "place") ∈ lw_all := lw_g (lw_at lw_m1 102 rfl) rfl
theorem q159 : (Jvm.Cond.laysFinal "FittingStrides$Folk" "FittingStrides$Folk" "stride" "[I") ∈ lw_all := lw_g (lw_at lw_m1 103 rfl) rfl
theorem q160 : (Jvm.Cond.soleField "FittingStrides$Folk" "stride") ∈ lw_all := lw_g (lw_at lw_m1 104 rfl) rfl
theorem q161 : (Jvm.Cond.laysFinal "FittingStrides$Folk" "FittingStrides$Folk" "second" "[I") ∈ lw_all := lw_g (lw_at lw_m1 105 rfl) rfl
theorem q162 : (Jvm.Cond.soleField "FittingStrides$Folk" "second") ∈ lw_all := lw_g (lw_at lw_m1 106 rfl) rfl
theorem q163 : (Jvm.Cond.lays "FittingStrides$Folk" "FittingStrides$Folk" "many" "I") ∈ lw_all := lw_g (lw_at lw_m1 107 rfl) rfl
theorem q164 : (Jvm.Cond.soleField "FittingStrides$Folk" "many") ∈ lw_all := lw_g (lw_at lw_m1 108 rfl) rfl
theorem q165 : (Jvm.Cond.laysFinal "FittingStrides$Folk" "FittingStrides$Folk" "steps" "[[I") ∈ lw_all := lw_g (lw_at lw_m1 109 rfl) rfl
theorem q166 : (Jvm.Cond.soleField "FittingStrides$Folk" "steps") ∈ lw_all := lw_g (lw_at lw_m1 110 rfl) rfl
theorem q167 : (Jvm.Cond.laysFinal "FittingStrides$Folk" "FittingStrides$Folk" "worn" "[I") ∈ lw_all := lw_g (lw_at lw_m1 111 rfl) rfl
theorem q168 : (Jvm.Cond.soleField "FittingStrides$Folk" "worn") ∈ lw_all := lw_g (lw_at lw_m1 112 rfl) rfl
theorem q169 : (Jvm.Cond.lays "FittingStrides$Folk" "FittingStrides$Folk" "law" "I") ∈ lw_all := lw_g (lw_at lw_m1 113 rfl) rfl
theorem q170 : (Jvm.Cond.soleField "FittingStrides$Folk" "law") ∈ lw_all := lw_g (lw_at lw_m1 114 rfl) rfl
theorem q171 : (Jvm.Cond.lays "FittingStrides$Folk" "FittingStrides$Folk" "seed" "I") ∈ lw_all := lw_g (lw_at lw_m1 115 rfl) rfl
theorem q172 : (Jvm.Cond.soleField "FittingStrides$Folk" "seed") ∈ lw_all := lw_g (lw_at lw_m1 116 rfl) rfl
theorem q173 : (Jvm.Cond.lays "FittingStrides$Folk" "FittingStrides$Folk" "isKept" "Z") ∈ lw_all := lw_g (lw_at lw_m1 117 rfl) rfl
theorem q174 : (Jvm.Cond.soleField "FittingStrides$Folk" "isKept") ∈ lw_all := lw_g (lw_at lw_m1 118 rfl) rfl
theorem q175 : (Jvm.Cond.laysFinal "FittingStrides$Folk" "FittingStrides$Folk" "this$0" "LFittingStrides;") ∈ lw_all := lw_g (lw_at lw_m1 119 rfl) rfl
theorem q176 : (Jvm.Cond.soleField "FittingStrides$Folk" "this$0") ∈ lw_all := lw_g (lw_at lw_m1 120 rfl) rfl
theorem q177 : (Jvm.Cond.superclass "FittingStrides$Folk" "java/lang/Object") ∈ lw_all := lw_g (lw_at lw_m1 121 rfl) rfl
theorem q182 : (Jvm.Cond.fieldLinkNest "FittingStrides$Folk" (33 : Nat) "FittingStrides" "town" "LFittingStrides$Town;" "FittingStrides") ∈ lw_tbl := lw_at lw_m1 126 rfl
theorem q633 : (Jvm.Cond.fieldLink "FittingStrides$Folk" (62 : Nat) "FittingStrides$Stair" "steps" "[I") ∈ lw_all := lw_g (lw_at lw_m3 97 rfl) rfl
theorem q677 : (Jvm.Cond.instanceMethod ({ cls := "FittingStrides$Folk", name := "begin", desc := "()V" } : Jvm.MethodName)) ∈ lw_all := lw_g (lw_at lw_m3 141 rfl) rfl
theorem q678 : (Jvm.Cond.selects "FittingStrides$Folk" ({ cls := "FittingStrides$Folk", name := "begin", desc := "()V" } : Jvm.MethodName) ({ cls := "FittingStrides$Folk", name := "begin", desc := "()V" } : Jvm.MethodName)) ∈ lw_all := lw_g (lw_at lw_m3 142 rfl) rfl
theorem q679 : (Jvm.Cond.code ({ cls := "FittingStrides$Folk", name := "begin", desc := "()V" } : Jvm.MethodName) prog_3_method_2_code (2 : Nat) (Option.none : Option Jvm.ClassFile.FieldType)) ∈ lw_all := lw_g (lw_at lw_m3 143 rfl) rfl
theorem q680 : (Jvm.Cond.methodLink "FittingStrides$Folk" (40 : Nat) ({ cls := "java/lang/System", name := "arraycopy", desc := "(Ljava/lang/Object;ILjava/lang/Object;II)V" } : Jvm.MethodName)) ∈ lw_all := lw_g (lw_at lw_m3 144 rfl) rfl
theorem q681 : (Jvm.Cond.methodLink "FittingStrides$Folk" (66 : Nat) ({ cls := "java/util/Arrays", name := "fill", desc := "([II)V" } : Jvm.MethodName)) ∈ lw_all := lw_g (lw_at lw_m3 145 rfl) rfl
theorem q823 : (Jvm.Cond.instanceMethod ({ cls := "FittingStrides$Folk", name := "draw", desc := "(I)I" } : Jvm.MethodName)) ∈ lw_all := lw_g (lw_at lw_m4 47 rfl) rfl
theorem q824 : (Jvm.Cond.selects "FittingStrides$Folk" ({ cls := "FittingStrides$Folk", name := "draw", desc := "(I)I" } : Jvm.MethodName) ({ cls := "FittingStrides$Folk", name := "draw", desc := "(I)I" } : Jvm.MethodName)) ∈ lw_all := lw_g (lw_at lw_m4 48 rfl) rfl
theorem q825 : (Jvm.Cond.code ({ cls := "FittingStrides$Folk", name := "draw", desc := "(I)I" } : Jvm.MethodName) prog_3_method_4_code (2 : Nat) (Option.some Jvm.ClassFile.FieldType.int)) ∈ lw_all := lw_g (lw_at lw_m4 49 rfl) rfl
theorem q826 : (Jvm.Cond.constantLong "FittingStrides$Folk" (78 : Nat) (1103515245 : Int64)) ∈ lw_all := lw_g (lw_at lw_m4 50 rfl) rfl
theorem q827 : (Jvm.Cond.constantLong "FittingStrides$Folk" (80 : Nat) (12345 : Int64)) ∈ lw_all := lw_g (lw_at lw_m4 51 rfl) rfl
theorem q828 : (Jvm.Cond.constantLong "FittingStrides$Folk" (82 : Nat) (2147483648 : Int64)) ∈ lw_all := lw_g (lw_at lw_m4 52 rfl) rfl
theorem q829 : (Jvm.Cond.constant "FittingStrides$Folk" (84 : Nat) (65536 : Int32)) ∈ lw_all := lw_g (lw_at lw_m4 53 rfl) rfl
theorem q956 : (Jvm.Cond.instanceMethod ({ cls := "FittingStrides$Folk", name := "set", desc := "(LFittingStrides$Folk;)V" } : Jvm.MethodName)) ∈ lw_all := lw_g (lw_at lw_m4 180 rfl) rfl
theorem q957 : (Jvm.Cond.selects "FittingStrides$Folk" ({ cls := "FittingStrides$Folk", name := "set", desc := "(LFittingStrides$Folk;)V" } : Jvm.MethodName) ({ cls := "FittingStrides$Folk", name := "set", desc := "(LFittingStrides$Folk;)V" } : Jvm.MethodName)) ∈ lw_all := lw_g (lw_at lw_m4 181 rfl) rfl
theorem q958 : (Jvm.Cond.code ({ cls := "FittingStrides$Folk", name := "set", desc := "(LFittingStrides$Folk;)V" } : Jvm.MethodName) prog_3_method_3_code (3 : Nat) (Option.none : Option Jvm.ClassFile.FieldType)) ∈ lw_all := lw_g (lw_at lw_m4 182 rfl) rfl
theorem in_X2 : ∀ w ∈ wsX20, w ∈ lw_all := lw_in wsX20 [157, 159, 161, 163, 165, 167, 169, 171, 173, 175] (by decide +kernel) (by decide +kernel)
/-! FittingStrides$Stair -/
set_option maxRecDepth 100000
def RX6 : String := "FittingStrides$Stair"
def TX6 : u_T := fun k => match k with
  | 0 => ("FittingStrides$Stair", "from", "I", true)
  | 1 => ("FittingStrides$Stair", "to", "I", true)
  | 2 => ("FittingStrides$Stair", "steps", "[I", true)
  | _ => ("FittingStrides$Stair", "parts", "I", false)
def tyX6 : Nat → FieldType := fun k => match k with
  | 0 => .int
  | 1 => .int
  | 2 => .array .int
  | _ => .int
abbrev wsX60 : List Cond := u_ws RX6 TX6 4
theorem nmX6 : ∀ a, a < 4 → ∀ b, b < 4 → a ≠ b → (TX6 a).2.1 ≠ (TX6 b).2.1 := by decide +kernel
theorem tyX6_ok : ∀ k, k < 4 → parseFieldDescriptor (TX6 k).2.2.1 = some (tyX6 k) := by decide +kernel
abbrev cX6_init : ByteArray := prog_7_method_1_code
def yX6_init : MethodName := ⟨RX6, "<init>", "(II)V"⟩
def dkwX6_init_0 : List UInt8 := [42, 183, 0, 3, 42, 6, 188, 10, 181, 0, 9, 42, 27, 181, 0, 15, 42, 28, 181, 0, 19, 177]
abbrev dktX6_init_0 : List UInt8 := dkwX6_init_0 ++ []
theorem dksX6_init_0 : cX6_init.data.toList.drop 0 = dktX6_init_0 := by decide +kernel
theorem dX6_init_0 : decode cX6_init 0 = .ok (.aload_n 0, 1) := dk_42 (dk_at dksX6_init_0 0 rfl rfl)
theorem dX6_init_1 : decode cX6_init 1 = .ok (.invokespecial 3, 3) := dk_183 0 3 (dk_at dksX6_init_0 1 rfl rfl)
theorem dX6_init_4 : decode cX6_init 4 = .ok (.aload_n 0, 1) := dk_42 (dk_at dksX6_init_0 4 rfl rfl)
theorem dX6_init_5 : decode cX6_init 5 = .ok (.iconst 3, 1) := dk_6 (dk_at dksX6_init_0 5 rfl rfl)
theorem dX6_init_6 : decode cX6_init 6 = .ok (.newarray .int, 2) := dk_188_10 (dk_at dksX6_init_0 6 rfl rfl)
theorem dX6_init_8 : decode cX6_init 8 = .ok (.putfield 9, 3) := dk_181 0 9 (dk_at dksX6_init_0 8 rfl rfl)
theorem dX6_init_11 : decode cX6_init 11 = .ok (.aload_n 0, 1) := dk_42 (dk_at dksX6_init_0 11 rfl rfl)
theorem dX6_init_12 : decode cX6_init 12 = .ok (.iload_n 1, 1) := dk_27 (dk_at dksX6_init_0 12 rfl rfl)
theorem dX6_init_13 : decode cX6_init 13 = .ok (.putfield 15, 3) := dk_181 0 15 (dk_at dksX6_init_0 13 rfl rfl)
theorem dX6_init_16 : decode cX6_init 16 = .ok (.aload_n 0, 1) := dk_42 (dk_at dksX6_init_0 16 rfl rfl)
theorem dX6_init_17 : decode cX6_init 17 = .ok (.iload_n 2, 1) := dk_28 (dk_at dksX6_init_0 17 rfl rfl)
theorem dX6_init_18 : decode cX6_init 18 = .ok (.putfield 19, 3) := dk_181 0 19 (dk_at dksX6_init_0 18 rfl rfl)
theorem dX6_init_21 : decode cX6_init 21 = .ok (.return_, 1) := dk_177 (dk_at dksX6_init_0 21 rfl rfl)
abbrev cX6_kind : ByteArray := prog_7_method_2_code
def yX6_kind : MethodName := ⟨RX6, "kind", "()I"⟩
theorem dX6_kind_0 : decode cX6_kind 0 = .ok (.iconst 0, 1) := by decide +kernel
theorem dX6_kind_1 : decode cX6_kind 1 = .ok (.ireturn, 1) := by decide +kernel
abbrev cX6_fits : ByteArray := prog_7_method_4_code
def yX6_fits : MethodName := ⟨RX6, "fits", "(I)Z"⟩
def dkwX6_fits_1 : List UInt8 := [167, 255, 236, 28, 172]
abbrev dktX6_fits_1 : List UInt8 := dkwX6_fits_1 ++ []
def dkwX6_fits_0 : List UInt8 := [4, 61, 3, 62, 29, 42, 180, 0, 22, 162, 0, 18, 28, 42, 27, 29, 182, 0, 25, 126, 61, 132, 3, 1]
abbrev dktX6_fits_0 : List UInt8 := dkwX6_fits_0 ++ dktX6_fits_1
theorem dksX6_fits_0 : cX6_fits.data.toList.drop 0 = dktX6_fits_0 := by decide +kernel
theorem dksX6_fits_1 : cX6_fits.data.toList.drop 24 = dktX6_fits_1 := dk_seg dksX6_fits_0 24 rfl rfl
theorem dX6_fits_0 : decode cX6_fits 0 = .ok (.iconst 1, 1) := dk_4 (dk_at dksX6_fits_0 0 rfl rfl)
theorem dX6_fits_1 : decode cX6_fits 1 = .ok (.istore_n 2, 1) := dk_61 (dk_at dksX6_fits_0 1 rfl rfl)
theorem dX6_fits_2 : decode cX6_fits 2 = .ok (.iconst 0, 1) := dk_3 (dk_at dksX6_fits_0 2 rfl rfl)
theorem dX6_fits_3 : decode cX6_fits 3 = .ok (.istore_n 3, 1) := dk_62 (dk_at dksX6_fits_0 3 rfl rfl)
theorem dX6_fits_4 : decode cX6_fits 4 = .ok (.iload_n 3, 1) := dk_29 (dk_at dksX6_fits_0 4 rfl rfl)
theorem dX6_fits_5 : decode cX6_fits 5 = .ok (.aload_n 0, 1) := dk_42 (dk_at dksX6_fits_0 5 rfl rfl)
theorem dX6_fits_6 : decode cX6_fits 6 = .ok (.getfield 22, 3) := dk_180 0 22 (dk_at dksX6_fits_0 6 rfl rfl)
theorem dX6_fits_9 : decode cX6_fits 9 = .ok (.if_icmp .ge 18, 3) := dk_162 0 18 (dk_at dksX6_fits_0 9 rfl rfl)
theorem dX6_fits_12 : decode cX6_fits 12 = .ok (.iload_n 2, 1) := dk_28 (dk_at dksX6_fits_0 12 rfl rfl)
theorem dX6_fits_13 : decode cX6_fits 13 = .ok (.aload_n 0, 1) := dk_42 (dk_at dksX6_fits_0 13 rfl rfl)
theorem dX6_fits_14 : decode cX6_fits 14 = .ok (.iload_n 1, 1) := dk_27 (dk_at dksX6_fits_0 14 rfl rfl)
theorem dX6_fits_15 : decode cX6_fits 15 = .ok (.iload_n 3, 1) := dk_29 (dk_at dksX6_fits_0 15 rfl rfl)
theorem dX6_fits_16 : decode cX6_fits 16 = .ok (.invokevirtual 25, 3) := dk_182 0 25 (dk_at dksX6_fits_0 16 rfl rfl)
theorem dX6_fits_19 : decode cX6_fits 19 = .ok (.iand, 1) := dk_126 (dk_at dksX6_fits_0 19 rfl rfl)
theorem dX6_fits_20 : decode cX6_fits 20 = .ok (.istore_n 2, 1) := dk_61 (dk_at dksX6_fits_0 20 rfl rfl)
theorem dX6_fits_21 : decode cX6_fits 21 = .ok (.iinc 3 1, 3) := dk_132 3 1 (dk_at dksX6_fits_0 21 rfl rfl)
theorem dX6_fits_24 : decode cX6_fits 24 = .ok (.goto (-20), 3) := dk_167 255 236 (dk_at dksX6_fits_1 0 rfl rfl)
theorem dX6_fits_27 : decode cX6_fits 27 = .ok (.iload_n 2, 1) := dk_28 (dk_at dksX6_fits_1 3 rfl rfl)
theorem dX6_fits_28 : decode cX6_fits 28 = .ok (.ireturn, 1) := dk_172 (dk_at dksX6_fits_1 4 rfl rfl)
abbrev cX6_goesInto : ByteArray := prog_7_method_3_code
def yX6_goesInto : MethodName := ⟨RX6, "goesInto", "(II)Z"⟩
def dkwX6_goesInto_0 : List UInt8 := [42, 180, 0, 9, 28, 46, 27, 112, 154, 0, 7, 4, 167, 0, 4, 3, 172]
abbrev dktX6_goesInto_0 : List UInt8 := dkwX6_goesInto_0 ++ []
theorem dksX6_goesInto_0 : cX6_goesInto.data.toList.drop 0 = dktX6_goesInto_0 := by decide +kernel
theorem dX6_goesInto_0 : decode cX6_goesInto 0 = .ok (.aload_n 0, 1) := dk_42 (dk_at dksX6_goesInto_0 0 rfl rfl)
theorem dX6_goesInto_1 : decode cX6_goesInto 1 = .ok (.getfield 9, 3) := dk_180 0 9 (dk_at dksX6_goesInto_0 1 rfl rfl)
theorem dX6_goesInto_4 : decode cX6_goesInto 4 = .ok (.iload_n 2, 1) := dk_28 (dk_at dksX6_goesInto_0 4 rfl rfl)
theorem dX6_goesInto_5 : decode cX6_goesInto 5 = .ok (.iaload, 1) := dk_46 (dk_at dksX6_goesInto_0 5 rfl rfl)
theorem dX6_goesInto_6 : decode cX6_goesInto 6 = .ok (.iload_n 1, 1) := dk_27 (dk_at dksX6_goesInto_0 6 rfl rfl)
theorem dX6_goesInto_7 : decode cX6_goesInto 7 = .ok (.irem, 1) := dk_112 (dk_at dksX6_goesInto_0 7 rfl rfl)
theorem dX6_goesInto_8 : decode cX6_goesInto 8 = .ok (.ifCond .ne 7, 3) := dk_154 0 7 (dk_at dksX6_goesInto_0 8 rfl rfl)
theorem dX6_goesInto_11 : decode cX6_goesInto 11 = .ok (.iconst 1, 1) := dk_4 (dk_at dksX6_goesInto_0 11 rfl rfl)
theorem dX6_goesInto_12 : decode cX6_goesInto 12 = .ok (.goto 4, 3) := dk_167 0 4 (dk_at dksX6_goesInto_0 12 rfl rfl)
theorem dX6_goesInto_15 : decode cX6_goesInto 15 = .ok (.iconst 0, 1) := dk_3 (dk_at dksX6_goesInto_0 15 rfl rfl)
theorem dX6_goesInto_16 : decode cX6_goesInto 16 = .ok (.ireturn, 1) := dk_172 (dk_at dksX6_goesInto_0 16 rfl rfl)
abbrev cX6_other : ByteArray := prog_7_method_6_code
def yX6_other : MethodName := ⟨RX6, "other", "(I)I"⟩
def dkwX6_other_1 : List UInt8 := [180, 0, 15, 167, 0, 4, 2, 172]
abbrev dktX6_other_1 : List UInt8 := dkwX6_other_1 ++ []
def dkwX6_other_0 : List UInt8 := [42, 180, 0, 15, 27, 160, 0, 10, 42, 180, 0, 19, 167, 0, 19, 42, 180, 0, 19, 27, 160, 0, 10, 42]
abbrev dktX6_other_0 : List UInt8 := dkwX6_other_0 ++ dktX6_other_1
theorem dksX6_other_0 : cX6_other.data.toList.drop 0 = dktX6_other_0 := by decide +kernel
theorem dksX6_other_1 : cX6_other.data.toList.drop 24 = dktX6_other_1 := dk_seg dksX6_other_0 24 rfl rfl
theorem dX6_other_0 : decode cX6_other 0 = .ok (.aload_n 0, 1) := dk_42 (dk_at dksX6_other_0 0 rfl rfl)
theorem dX6_other_1 : decode cX6_other 1 = .ok (.getfield 15, 3) := dk_180 0 15 (dk_at dksX6_other_0 1 rfl rfl)
theorem dX6_other_4 : decode cX6_other 4 = .ok (.iload_n 1, 1) := dk_27 (dk_at dksX6_other_0 4 rfl rfl)
theorem dX6_other_5 : decode cX6_other 5 = .ok (.if_icmp .ne 10, 3) := dk_160 0 10 (dk_at dksX6_other_0 5 rfl rfl)
theorem dX6_other_8 : decode cX6_other 8 = .ok (.aload_n 0, 1) := dk_42 (dk_at dksX6_other_0 8 rfl rfl)
theorem dX6_other_9 : decode cX6_other 9 = .ok (.getfield 19, 3) := dk_180 0 19 (dk_at dksX6_other_0 9 rfl rfl)
theorem dX6_other_12 : decode cX6_other 12 = .ok (.goto 19, 3) := dk_167 0 19 (dk_at dksX6_other_0 12 rfl rfl)
theorem dX6_other_15 : decode cX6_other 15 = .ok (.aload_n 0, 1) := dk_42 (dk_at dksX6_other_0 15 rfl rfl)
theorem dX6_other_16 : decode cX6_other 16 = .ok (.getfield 19, 3) := dk_180 0 19 (dk_at dksX6_other_0 16 rfl rfl)
theorem dX6_other_19 : decode cX6_other 19 = .ok (.iload_n 1, 1) := dk_27 (dk_at dksX6_other_0 19 rfl rfl)
theorem dX6_other_20 : decode cX6_other 20 = .ok (.if_icmp .ne 10, 3) := dk_160 0 10 (dk_at dksX6_other_0 20 rfl rfl)
theorem dX6_other_23 : decode cX6_other 23 = .ok (.aload_n 0, 1) := dk_42 (dk_at dksX6_other_0 23 rfl rfl)
theorem dX6_other_24 : decode cX6_other 24 = .ok (.getfield 15, 3) := dk_180 0 15 (dk_at dksX6_other_1 0 rfl rfl)
theorem dX6_other_27 : decode cX6_other 27 = .ok (.goto 4, 3) := dk_167 0 4 (dk_at dksX6_other_1 3 rfl rfl)
theorem dX6_other_30 : decode cX6_other 30 = .ok (.iconst (-1), 1) := dk_2 (dk_at dksX6_other_1 6 rfl rfl)
theorem dX6_other_31 : decode cX6_other 31 = .ok (.ireturn, 1) := dk_172 (dk_at dksX6_other_1 7 rfl rfl)
abbrev cX6_taken : ByteArray := prog_7_method_5_code
def yX6_taken : MethodName := ⟨RX6, "taken", "(I)I"⟩
def dkwX6_taken_1 : List UInt8 := [108, 96, 61, 132, 3, 1, 167, 255, 230, 28, 172]
abbrev dktX6_taken_1 : List UInt8 := dkwX6_taken_1 ++ []
def dkwX6_taken_0 : List UInt8 := [3, 61, 3, 62, 29, 42, 180, 0, 22, 162, 0, 24, 28, 42, 180, 0, 9, 29, 46, 27, 96, 4, 100, 27]
abbrev dktX6_taken_0 : List UInt8 := dkwX6_taken_0 ++ dktX6_taken_1
theorem dksX6_taken_0 : cX6_taken.data.toList.drop 0 = dktX6_taken_0 := by decide +kernel
theorem dksX6_taken_1 : cX6_taken.data.toList.drop 24 = dktX6_taken_1 := dk_seg dksX6_taken_0 24 rfl rfl
theorem dX6_taken_0 : decode cX6_taken 0 = .ok (.iconst 0, 1) := dk_3 (dk_at dksX6_taken_0 0 rfl rfl)
theorem dX6_taken_1 : decode cX6_taken 1 = .ok (.istore_n 2, 1) := dk_61 (dk_at dksX6_taken_0 1 rfl rfl)
theorem dX6_taken_2 : decode cX6_taken 2 = .ok (.iconst 0, 1) := dk_3 (dk_at dksX6_taken_0 2 rfl rfl)
theorem dX6_taken_3 : decode cX6_taken 3 = .ok (.istore_n 3, 1) := dk_62 (dk_at dksX6_taken_0 3 rfl rfl)
theorem dX6_taken_4 : decode cX6_taken 4 = .ok (.iload_n 3, 1) := dk_29 (dk_at dksX6_taken_0 4 rfl rfl)
theorem dX6_taken_5 : decode cX6_taken 5 = .ok (.aload_n 0, 1) := dk_42 (dk_at dksX6_taken_0 5 rfl rfl)
theorem dX6_taken_6 : decode cX6_taken 6 = .ok (.getfield 22, 3) := dk_180 0 22 (dk_at dksX6_taken_0 6 rfl rfl)
theorem dX6_taken_9 : decode cX6_taken 9 = .ok (.if_icmp .ge 24, 3) := dk_162 0 24 (dk_at dksX6_taken_0 9 rfl rfl)
theorem dX6_taken_12 : decode cX6_taken 12 = .ok (.iload_n 2, 1) := dk_28 (dk_at dksX6_taken_0 12 rfl rfl)
theorem dX6_taken_13 : decode cX6_taken 13 = .ok (.aload_n 0, 1) := dk_42 (dk_at dksX6_taken_0 13 rfl rfl)
theorem dX6_taken_14 : decode cX6_taken 14 = .ok (.getfield 9, 3) := dk_180 0 9 (dk_at dksX6_taken_0 14 rfl rfl)
theorem dX6_taken_17 : decode cX6_taken 17 = .ok (.iload_n 3, 1) := dk_29 (dk_at dksX6_taken_0 17 rfl rfl)
theorem dX6_taken_18 : decode cX6_taken 18 = .ok (.iaload, 1) := dk_46 (dk_at dksX6_taken_0 18 rfl rfl)
theorem dX6_taken_19 : decode cX6_taken 19 = .ok (.iload_n 1, 1) := dk_27 (dk_at dksX6_taken_0 19 rfl rfl)
theorem dX6_taken_20 : decode cX6_taken 20 = .ok (.iadd, 1) := dk_96 (dk_at dksX6_taken_0 20 rfl rfl)
theorem dX6_taken_21 : decode cX6_taken 21 = .ok (.iconst 1, 1) := dk_4 (dk_at dksX6_taken_0 21 rfl rfl)
theorem dX6_taken_22 : decode cX6_taken 22 = .ok (.isub, 1) := dk_100 (dk_at dksX6_taken_0 22 rfl rfl)
theorem dX6_taken_23 : decode cX6_taken 23 = .ok (.iload_n 1, 1) := dk_27 (dk_at dksX6_taken_0 23 rfl rfl)
theorem dX6_taken_24 : decode cX6_taken 24 = .ok (.idiv, 1) := dk_108 (dk_at dksX6_taken_1 0 rfl rfl)
theorem dX6_taken_25 : decode cX6_taken 25 = .ok (.iadd, 1) := dk_96 (dk_at dksX6_taken_1 1 rfl rfl)
theorem dX6_taken_26 : decode cX6_taken 26 = .ok (.istore_n 2, 1) := dk_61 (dk_at dksX6_taken_1 2 rfl rfl)
theorem dX6_taken_27 : decode cX6_taken 27 = .ok (.iinc 3 1, 3) := dk_132 3 1 (dk_at dksX6_taken_1 3 rfl rfl)
theorem dX6_taken_30 : decode cX6_taken 30 = .ok (.goto (-26), 3) := dk_167 255 230 (dk_at dksX6_taken_1 6 rfl rfl)
theorem dX6_taken_33 : decode cX6_taken 33 = .ok (.iload_n 2, 1) := dk_28 (dk_at dksX6_taken_1 9 rfl rfl)
theorem dX6_taken_34 : decode cX6_taken 34 = .ok (.ireturn, 1) := dk_172 (dk_at dksX6_taken_1 10 rfl rfl)
theorem q75 : (Jvm.Cond.initialized "FittingStrides$Stair") ∈ lw_all := lw_g (lw_at lw_m1 19 rfl) rfl
theorem q623 : (Jvm.Cond.instantiable "FittingStrides$Stair" (4 : Nat)) ∈ lw_all := lw_g (lw_at lw_m3 87 rfl) rfl
theorem q625 : (Jvm.Cond.instanceMethod ({ cls := "FittingStrides$Stair", name := "<init>", desc := "(II)V" } : Jvm.MethodName)) ∈ lw_all := lw_g (lw_at lw_m3 89 rfl) rfl
theorem q626 : (Jvm.Cond.code ({ cls := "FittingStrides$Stair", name := "<init>", desc := "(II)V" } : Jvm.MethodName) prog_7_method_1_code (3 : Nat) (Option.none : Option Jvm.ClassFile.FieldType)) ∈ lw_all := lw_g (lw_at lw_m3 90 rfl) rfl
theorem q627 : (Jvm.Cond.methodLink "FittingStrides$Stair" (3 : Nat) ({ cls := "java/lang/Object", name := "<init>", desc := "()V" } : Jvm.MethodName)) ∈ lw_all := lw_g (lw_at lw_m3 91 rfl) rfl
theorem q628 : (Jvm.Cond.fieldLink "FittingStrides$Stair" (15 : Nat) "FittingStrides$Stair" "from" "I") ∈ lw_all := lw_g (lw_at lw_m3 92 rfl) rfl
theorem q630 : (Jvm.Cond.fieldLink "FittingStrides$Stair" (19 : Nat) "FittingStrides$Stair" "to" "I") ∈ lw_all := lw_g (lw_at lw_m3 94 rfl) rfl
theorem q632 : (Jvm.Cond.fieldLink "FittingStrides$Stair" (9 : Nat) "FittingStrides$Stair" "steps" "[I") ∈ lw_all := lw_g (lw_at lw_m3 96 rfl) rfl
theorem q638 : (Jvm.Cond.fieldLink "FittingStrides$Stair" (22 : Nat) "FittingStrides$Stair" "parts" "I") ∈ lw_all := lw_g (lw_at lw_m3 102 rfl) rfl
theorem q641 : (Jvm.Cond.laysFinal "FittingStrides$Stair" "FittingStrides$Stair" "from" "I") ∈ lw_all := lw_g (lw_at lw_m3 105 rfl) rfl
theorem q642 : (Jvm.Cond.soleField "FittingStrides$Stair" "from") ∈ lw_all := lw_g (lw_at lw_m3 106 rfl) rfl
theorem q643 : (Jvm.Cond.laysFinal "FittingStrides$Stair" "FittingStrides$Stair" "to" "I") ∈ lw_all := lw_g (lw_at lw_m3 107 rfl) rfl
theorem q644 : (Jvm.Cond.soleField "FittingStrides$Stair" "to") ∈ lw_all := lw_g (lw_at lw_m3 108 rfl) rfl
theorem q645 : (Jvm.Cond.laysFinal "FittingStrides$Stair" "FittingStrides$Stair" "steps" "[I") ∈ lw_all := lw_g (lw_at lw_m3 109 rfl) rfl
theorem q646 : (Jvm.Cond.soleField "FittingStrides$Stair" "steps") ∈ lw_all := lw_g (lw_at lw_m3 110 rfl) rfl
theorem q647 : (Jvm.Cond.lays "FittingStrides$Stair" "FittingStrides$Stair" "parts" "I") ∈ lw_all := lw_g (lw_at lw_m3 111 rfl) rfl
theorem q648 : (Jvm.Cond.soleField "FittingStrides$Stair" "parts") ∈ lw_all := lw_g (lw_at lw_m3 112 rfl) rfl
theorem q649 : (Jvm.Cond.superclass "FittingStrides$Stair" "java/lang/Object") ∈ lw_all := lw_g (lw_at lw_m3 113 rfl) rfl
theorem q711 : (Jvm.Cond.instanceMethod ({ cls := "FittingStrides$Stair", name := "kind", desc := "()I" } : Jvm.MethodName)) ∈ lw_all := lw_g (lw_at lw_m3 175 rfl) rfl
theorem q712 : (Jvm.Cond.selects "FittingStrides$Stair" ({ cls := "FittingStrides$Stair", name := "kind", desc := "()I" } : Jvm.MethodName) ({ cls := "FittingStrides$Stair", name := "kind", desc := "()I" } : Jvm.MethodName)) ∈ lw_all := lw_g (lw_at lw_m3 176 rfl) rfl
theorem q713 : (Jvm.Cond.sameMethod "FittingStrides$Stair" "FittingStrides$Stair" "kind" "()I") ∈ lw_all := lw_g (lw_at lw_m3 177 rfl) rfl
theorem q720 : (Jvm.Cond.code ({ cls := "FittingStrides$Stair", name := "kind", desc := "()I" } : Jvm.MethodName) prog_7_method_2_code (1 : Nat) (Option.some Jvm.ClassFile.FieldType.int)) ∈ lw_all := lw_g (lw_at lw_m3 184 rfl) rfl
theorem q730 : (Jvm.Cond.instanceMethod ({ cls := "FittingStrides$Stair", name := "fits", desc := "(I)Z" } : Jvm.MethodName)) ∈ lw_all := lw_g (lw_at lw_m3 194 rfl) rfl
theorem q731 : (Jvm.Cond.selects "FittingStrides$Stair" ({ cls := "FittingStrides$Stair", name := "fits", desc := "(I)Z" } : Jvm.MethodName) ({ cls := "FittingStrides$Stair", name := "fits", desc := "(I)Z" } : Jvm.MethodName)) ∈ lw_all := lw_g (lw_at lw_m3 195 rfl) rfl
theorem q732 : (Jvm.Cond.sameMethod "FittingStrides$Stair" "FittingStrides$Stair" "fits" "(I)Z") ∈ lw_all := lw_g (lw_at lw_m3 196 rfl) rfl
theorem q735 : (Jvm.Cond.code ({ cls := "FittingStrides$Stair", name := "fits", desc := "(I)Z" } : Jvm.MethodName) prog_7_method_4_code (4 : Nat) (Option.some Jvm.ClassFile.FieldType.boolean)) ∈ lw_all := lw_g (lw_at lw_m3 199 rfl) rfl
theorem q736 : (Jvm.Cond.methodLink "FittingStrides$Stair" (25 : Nat) ({ cls := "FittingStrides$Stair", name := "goesInto", desc := "(II)Z" } : Jvm.MethodName)) ∈ lw_all := lw_g (lw_at lw_m3 200 rfl) rfl
theorem q737 : (Jvm.Cond.instanceMethod ({ cls := "FittingStrides$Stair", name := "goesInto", desc := "(II)Z" } : Jvm.MethodName)) ∈ lw_all := lw_g (lw_at lw_m3 201 rfl) rfl
theorem q738 : (Jvm.Cond.selects "FittingStrides$Stair" ({ cls := "FittingStrides$Stair", name := "goesInto", desc := "(II)Z" } : Jvm.MethodName) ({ cls := "FittingStrides$Stair", name := "goesInto", desc := "(II)Z" } : Jvm.MethodName)) ∈ lw_all := lw_g (lw_at lw_m3 202 rfl) rfl
theorem q739 : (Jvm.Cond.sameMethod "FittingStrides$Stair" "FittingStrides$Stair" "goesInto" "(II)Z") ∈ lw_all := lw_g (lw_at lw_m3 203 rfl) rfl
theorem q746 : (Jvm.Cond.code ({ cls := "FittingStrides$Stair", name := "goesInto", desc := "(II)Z" } : Jvm.MethodName) prog_7_method_3_code (3 : Nat) (Option.some Jvm.ClassFile.FieldType.boolean)) ∈ lw_all := lw_g (lw_at lw_m3 210 rfl) rfl
theorem q771 : (Jvm.Cond.instanceMethod ({ cls := "FittingStrides$Stair", name := "other", desc := "(I)I" } : Jvm.MethodName)) ∈ lw_all := lw_g (lw_at lw_m3 235 rfl) rfl
theorem q772 : (Jvm.Cond.selects "FittingStrides$Stair" ({ cls := "FittingStrides$Stair", name := "other", desc := "(I)I" } : Jvm.MethodName) ({ cls := "FittingStrides$Stair", name := "other", desc := "(I)I" } : Jvm.MethodName)) ∈ lw_all := lw_g (lw_at lw_m3 236 rfl) rfl
theorem q773 : (Jvm.Cond.sameMethod "FittingStrides$Stair" "FittingStrides$Stair" "other" "(I)I") ∈ lw_all := lw_g (lw_at lw_m3 237 rfl) rfl
theorem q776 : (Jvm.Cond.code ({ cls := "FittingStrides$Stair", name := "other", desc := "(I)I" } : Jvm.MethodName) prog_7_method_6_code (2 : Nat) (Option.some Jvm.ClassFile.FieldType.int)) ∈ lw_all := lw_g (lw_at lw_m4 0 rfl) rfl
theorem q800 : (Jvm.Cond.instanceMethod ({ cls := "FittingStrides$Stair", name := "taken", desc := "(I)I" } : Jvm.MethodName)) ∈ lw_all := lw_g (lw_at lw_m4 24 rfl) rfl
theorem q801 : (Jvm.Cond.selects "FittingStrides$Stair" ({ cls := "FittingStrides$Stair", name := "taken", desc := "(I)I" } : Jvm.MethodName) ({ cls := "FittingStrides$Stair", name := "taken", desc := "(I)I" } : Jvm.MethodName)) ∈ lw_all := lw_g (lw_at lw_m4 25 rfl) rfl
theorem q802 : (Jvm.Cond.sameMethod "FittingStrides$Stair" "FittingStrides$Stair" "taken" "(I)I") ∈ lw_all := lw_g (lw_at lw_m4 26 rfl) rfl
theorem q805 : (Jvm.Cond.code ({ cls := "FittingStrides$Stair", name := "taken", desc := "(I)I" } : Jvm.MethodName) prog_7_method_5_code (4 : Nat) (Option.some Jvm.ClassFile.FieldType.int)) ∈ lw_all := lw_g (lw_at lw_m4 29 rfl) rfl
theorem in_X6 : ∀ w ∈ wsX60, w ∈ lw_all := lw_in wsX60 [641, 643, 645, 647] (by decide +kernel) (by decide +kernel)
/-! FittingStrides$OpenStair -/
set_option maxRecDepth 100000
def RX7 : String := "FittingStrides$OpenStair"
def TX7 : u_T := fun k => match k with
  | 0 => ("FittingStrides$Stair", "from", "I", true)
  | 1 => ("FittingStrides$Stair", "to", "I", true)
  | 2 => ("FittingStrides$Stair", "steps", "[I", true)
  | _ => ("FittingStrides$Stair", "parts", "I", false)
def tyX7 : Nat → FieldType := fun k => match k with
  | 0 => .int
  | 1 => .int
  | 2 => .array .int
  | _ => .int
abbrev wsX70 : List Cond := u_ws RX7 TX7 4
theorem nmX7 : ∀ a, a < 4 → ∀ b, b < 4 → a ≠ b → (TX7 a).2.1 ≠ (TX7 b).2.1 := by decide +kernel
theorem tyX7_ok : ∀ k, k < 4 → parseFieldDescriptor (TX7 k).2.2.1 = some (tyX7 k) := by decide +kernel
abbrev cX7_init : ByteArray := prog_5_method_1_code
def yX7_init : MethodName := ⟨RX7, "<init>", "(II)V"⟩
def dkwX7_init_0 : List UInt8 := [42, 27, 28, 183, 0, 1, 177]
abbrev dktX7_init_0 : List UInt8 := dkwX7_init_0 ++ []
theorem dksX7_init_0 : cX7_init.data.toList.drop 0 = dktX7_init_0 := by decide +kernel
theorem dX7_init_0 : decode cX7_init 0 = .ok (.aload_n 0, 1) := dk_42 (dk_at dksX7_init_0 0 rfl rfl)
theorem dX7_init_1 : decode cX7_init 1 = .ok (.iload_n 1, 1) := dk_27 (dk_at dksX7_init_0 1 rfl rfl)
theorem dX7_init_2 : decode cX7_init 2 = .ok (.iload_n 2, 1) := dk_28 (dk_at dksX7_init_0 2 rfl rfl)
theorem dX7_init_3 : decode cX7_init 3 = .ok (.invokespecial 1, 3) := dk_183 0 1 (dk_at dksX7_init_0 3 rfl rfl)
theorem dX7_init_6 : decode cX7_init 6 = .ok (.return_, 1) := dk_177 (dk_at dksX7_init_0 6 rfl rfl)
abbrev cX7_kind : ByteArray := prog_5_method_2_code
def yX7_kind : MethodName := ⟨RX7, "kind", "()I"⟩
theorem dX7_kind_0 : decode cX7_kind 0 = .ok (.iconst 1, 1) := by decide +kernel
theorem dX7_kind_1 : decode cX7_kind 1 = .ok (.ireturn, 1) := by decide +kernel
abbrev cX7_goesInto : ByteArray := prog_5_method_3_code
def yX7_goesInto : MethodName := ⟨RX7, "goesInto", "(II)Z"⟩
theorem dX7_goesInto_0 : decode cX7_goesInto 0 = .ok (.iconst 1, 1) := by decide +kernel
theorem dX7_goesInto_1 : decode cX7_goesInto 1 = .ok (.ireturn, 1) := by decide +kernel
theorem q76 : (Jvm.Cond.initialized "FittingStrides$OpenStair") ∈ lw_all := lw_g (lw_at lw_m1 20 rfl) rfl
theorem q651 : (Jvm.Cond.instantiable "FittingStrides$OpenStair" (4 : Nat)) ∈ lw_all := lw_g (lw_at lw_m3 115 rfl) rfl
theorem q653 : (Jvm.Cond.instanceMethod ({ cls := "FittingStrides$OpenStair", name := "<init>", desc := "(II)V" } : Jvm.MethodName)) ∈ lw_all := lw_g (lw_at lw_m3 117 rfl) rfl
theorem q654 : (Jvm.Cond.code ({ cls := "FittingStrides$OpenStair", name := "<init>", desc := "(II)V" } : Jvm.MethodName) prog_5_method_1_code (3 : Nat) (Option.none : Option Jvm.ClassFile.FieldType)) ∈ lw_all := lw_g (lw_at lw_m3 118 rfl) rfl
theorem q655 : (Jvm.Cond.methodLink "FittingStrides$OpenStair" (1 : Nat) ({ cls := "FittingStrides$Stair", name := "<init>", desc := "(II)V" } : Jvm.MethodName)) ∈ lw_all := lw_g (lw_at lw_m3 119 rfl) rfl
theorem q656 : (Jvm.Cond.laysFinal "FittingStrides$OpenStair" "FittingStrides$Stair" "from" "I") ∈ lw_all := lw_g (lw_at lw_m3 120 rfl) rfl
theorem q657 : (Jvm.Cond.laysFinal "FittingStrides$OpenStair" "FittingStrides$Stair" "to" "I") ∈ lw_all := lw_g (lw_at lw_m3 121 rfl) rfl
theorem q658 : (Jvm.Cond.laysFinal "FittingStrides$OpenStair" "FittingStrides$Stair" "steps" "[I") ∈ lw_all := lw_g (lw_at lw_m3 122 rfl) rfl
theorem q659 : (Jvm.Cond.lays "FittingStrides$OpenStair" "FittingStrides$Stair" "parts" "I") ∈ lw_all := lw_g (lw_at lw_m3 123 rfl) rfl
theorem q660 : (Jvm.Cond.superclass "FittingStrides$OpenStair" "FittingStrides$Stair") ∈ lw_all := lw_g (lw_at lw_m3 124 rfl) rfl
theorem q717 : (Jvm.Cond.selects "FittingStrides$OpenStair" ({ cls := "FittingStrides$Stair", name := "kind", desc := "()I" } : Jvm.MethodName) ({ cls := "FittingStrides$OpenStair", name := "kind", desc := "()I" } : Jvm.MethodName)) ∈ lw_all := lw_g (lw_at lw_m3 181 rfl) rfl
theorem q718 : (Jvm.Cond.instanceMethod ({ cls := "FittingStrides$OpenStair", name := "kind", desc := "()I" } : Jvm.MethodName)) ∈ lw_all := lw_g (lw_at lw_m3 182 rfl) rfl
theorem q719 : (Jvm.Cond.code ({ cls := "FittingStrides$OpenStair", name := "kind", desc := "()I" } : Jvm.MethodName) prog_5_method_2_code (1 : Nat) (Option.some Jvm.ClassFile.FieldType.int)) ∈ lw_all := lw_g (lw_at lw_m3 183 rfl) rfl
theorem q734 : (Jvm.Cond.selects "FittingStrides$OpenStair" ({ cls := "FittingStrides$Stair", name := "fits", desc := "(I)Z" } : Jvm.MethodName) ({ cls := "FittingStrides$Stair", name := "fits", desc := "(I)Z" } : Jvm.MethodName)) ∈ lw_all := lw_g (lw_at lw_m3 198 rfl) rfl
theorem q743 : (Jvm.Cond.selects "FittingStrides$OpenStair" ({ cls := "FittingStrides$Stair", name := "goesInto", desc := "(II)Z" } : Jvm.MethodName) ({ cls := "FittingStrides$OpenStair", name := "goesInto", desc := "(II)Z" } : Jvm.MethodName)) ∈ lw_all := lw_g (lw_at lw_m3 207 rfl) rfl
theorem q744 : (Jvm.Cond.instanceMethod ({ cls := "FittingStrides$OpenStair", name := "goesInto", desc := "(II)Z" } : Jvm.MethodName)) ∈ lw_all := lw_g (lw_at lw_m3 208 rfl) rfl
theorem q745 : (Jvm.Cond.code ({ cls := "FittingStrides$OpenStair", name := "goesInto", desc := "(II)Z" } : Jvm.MethodName) prog_5_method_3_code (3 : Nat) (Option.some Jvm.ClassFile.FieldType.boolean)) ∈ lw_all := lw_g (lw_at lw_m3 209 rfl) rfl
theorem q775 : (Jvm.Cond.selects "FittingStrides$OpenStair" ({ cls := "FittingStrides$Stair", name := "other", desc := "(I)I" } : Jvm.MethodName) ({ cls := "FittingStrides$Stair", name := "other", desc := "(I)I" } : Jvm.MethodName)) ∈ lw_all := lw_g (lw_at lw_m3 239 rfl) rfl
theorem q804 : (Jvm.Cond.selects "FittingStrides$OpenStair" ({ cls := "FittingStrides$Stair", name := "taken", desc := "(I)I" } : Jvm.MethodName) ({ cls := "FittingStrides$Stair", name := "taken", desc := "(I)I" } : Jvm.MethodName)) ∈ lw_all := lw_g (lw_at lw_m4 28 rfl) rfl
theorem q1364 : (Jvm.Cond.castable "FittingStrides$OpenStair" "FittingStrides$Stair") ∈ lw_tbl := lw_at lw_m6 108 rfl
theorem in_X7 : ∀ w ∈ wsX70, w ∈ lw_all := lw_in wsX70 [656, 657, 658, 659] (by decide +kernel) (by decide +kernel)
/-! FittingStrides$LeapStair -/
set_option maxRecDepth 100000
def RX8 : String := "FittingStrides$LeapStair"
def TX8 : u_T := fun k => match k with
  | 0 => ("FittingStrides$Stair", "from", "I", true)
  | 1 => ("FittingStrides$Stair", "to", "I", true)
  | 2 => ("FittingStrides$Stair", "steps", "[I", true)
  | _ => ("FittingStrides$Stair", "parts", "I", false)
def tyX8 : Nat → FieldType := fun k => match k with
  | 0 => .int
  | 1 => .int
  | 2 => .array .int
  | _ => .int
abbrev wsX80 : List Cond := u_ws RX8 TX8 4
theorem nmX8 : ∀ a, a < 4 → ∀ b, b < 4 → a ≠ b → (TX8 a).2.1 ≠ (TX8 b).2.1 := by decide +kernel
theorem tyX8_ok : ∀ k, k < 4 → parseFieldDescriptor (TX8 k).2.2.1 = some (tyX8 k) := by decide +kernel
abbrev cX8_init : ByteArray := prog_4_method_1_code
def yX8_init : MethodName := ⟨RX8, "<init>", "(II)V"⟩
def dkwX8_init_0 : List UInt8 := [42, 27, 28, 183, 0, 1, 177]
abbrev dktX8_init_0 : List UInt8 := dkwX8_init_0 ++ []
theorem dksX8_init_0 : cX8_init.data.toList.drop 0 = dktX8_init_0 := by decide +kernel
theorem dX8_init_0 : decode cX8_init 0 = .ok (.aload_n 0, 1) := dk_42 (dk_at dksX8_init_0 0 rfl rfl)
theorem dX8_init_1 : decode cX8_init 1 = .ok (.iload_n 1, 1) := dk_27 (dk_at dksX8_init_0 1 rfl rfl)
theorem dX8_init_2 : decode cX8_init 2 = .ok (.iload_n 2, 1) := dk_28 (dk_at dksX8_init_0 2 rfl rfl)
theorem dX8_init_3 : decode cX8_init 3 = .ok (.invokespecial 1, 3) := dk_183 0 1 (dk_at dksX8_init_0 3 rfl rfl)
theorem dX8_init_6 : decode cX8_init 6 = .ok (.return_, 1) := dk_177 (dk_at dksX8_init_0 6 rfl rfl)
abbrev cX8_kind : ByteArray := prog_4_method_2_code
def yX8_kind : MethodName := ⟨RX8, "kind", "()I"⟩
theorem dX8_kind_0 : decode cX8_kind 0 = .ok (.iconst 2, 1) := by decide +kernel
theorem dX8_kind_1 : decode cX8_kind 1 = .ok (.ireturn, 1) := by decide +kernel
abbrev cX8_goesInto : ByteArray := prog_4_method_3_code
def yX8_goesInto : MethodName := ⟨RX8, "goesInto", "(II)Z"⟩
def dkwX8_goesInto_0 : List UInt8 := [27, 4, 159, 0, 13, 27, 42, 180, 0, 7, 28, 46, 160, 0, 7, 4, 167, 0, 4, 3, 172]
abbrev dktX8_goesInto_0 : List UInt8 := dkwX8_goesInto_0 ++ []
theorem dksX8_goesInto_0 : cX8_goesInto.data.toList.drop 0 = dktX8_goesInto_0 := by decide +kernel
theorem dX8_goesInto_0 : decode cX8_goesInto 0 = .ok (.iload_n 1, 1) := dk_27 (dk_at dksX8_goesInto_0 0 rfl rfl)
theorem dX8_goesInto_1 : decode cX8_goesInto 1 = .ok (.iconst 1, 1) := dk_4 (dk_at dksX8_goesInto_0 1 rfl rfl)
theorem dX8_goesInto_2 : decode cX8_goesInto 2 = .ok (.if_icmp .eq 13, 3) := dk_159 0 13 (dk_at dksX8_goesInto_0 2 rfl rfl)
theorem dX8_goesInto_5 : decode cX8_goesInto 5 = .ok (.iload_n 1, 1) := dk_27 (dk_at dksX8_goesInto_0 5 rfl rfl)
theorem dX8_goesInto_6 : decode cX8_goesInto 6 = .ok (.aload_n 0, 1) := dk_42 (dk_at dksX8_goesInto_0 6 rfl rfl)
theorem dX8_goesInto_7 : decode cX8_goesInto 7 = .ok (.getfield 7, 3) := dk_180 0 7 (dk_at dksX8_goesInto_0 7 rfl rfl)
theorem dX8_goesInto_10 : decode cX8_goesInto 10 = .ok (.iload_n 2, 1) := dk_28 (dk_at dksX8_goesInto_0 10 rfl rfl)
theorem dX8_goesInto_11 : decode cX8_goesInto 11 = .ok (.iaload, 1) := dk_46 (dk_at dksX8_goesInto_0 11 rfl rfl)
theorem dX8_goesInto_12 : decode cX8_goesInto 12 = .ok (.if_icmp .ne 7, 3) := dk_160 0 7 (dk_at dksX8_goesInto_0 12 rfl rfl)
theorem dX8_goesInto_15 : decode cX8_goesInto 15 = .ok (.iconst 1, 1) := dk_4 (dk_at dksX8_goesInto_0 15 rfl rfl)
theorem dX8_goesInto_16 : decode cX8_goesInto 16 = .ok (.goto 4, 3) := dk_167 0 4 (dk_at dksX8_goesInto_0 16 rfl rfl)
theorem dX8_goesInto_19 : decode cX8_goesInto 19 = .ok (.iconst 0, 1) := dk_3 (dk_at dksX8_goesInto_0 19 rfl rfl)
theorem dX8_goesInto_20 : decode cX8_goesInto 20 = .ok (.ireturn, 1) := dk_172 (dk_at dksX8_goesInto_0 20 rfl rfl)
theorem q77 : (Jvm.Cond.initialized "FittingStrides$LeapStair") ∈ lw_all := lw_g (lw_at lw_m1 21 rfl) rfl
theorem q634 : (Jvm.Cond.fieldLink "FittingStrides$LeapStair" (7 : Nat) "FittingStrides$LeapStair" "steps" "[I") ∈ lw_all := lw_g (lw_at lw_m3 98 rfl) rfl
theorem q635 : (Jvm.Cond.sameField "FittingStrides$LeapStair" "FittingStrides$Stair" "steps" "[I") ∈ lw_all := lw_g (lw_at lw_m3 99 rfl) rfl
theorem q662 : (Jvm.Cond.instantiable "FittingStrides$LeapStair" (4 : Nat)) ∈ lw_all := lw_g (lw_at lw_m3 126 rfl) rfl
theorem q664 : (Jvm.Cond.instanceMethod ({ cls := "FittingStrides$LeapStair", name := "<init>", desc := "(II)V" } : Jvm.MethodName)) ∈ lw_all := lw_g (lw_at lw_m3 128 rfl) rfl
theorem q665 : (Jvm.Cond.code ({ cls := "FittingStrides$LeapStair", name := "<init>", desc := "(II)V" } : Jvm.MethodName) prog_4_method_1_code (3 : Nat) (Option.none : Option Jvm.ClassFile.FieldType)) ∈ lw_all := lw_g (lw_at lw_m3 129 rfl) rfl
theorem q666 : (Jvm.Cond.methodLink "FittingStrides$LeapStair" (1 : Nat) ({ cls := "FittingStrides$Stair", name := "<init>", desc := "(II)V" } : Jvm.MethodName)) ∈ lw_all := lw_g (lw_at lw_m3 130 rfl) rfl
theorem q667 : (Jvm.Cond.laysFinal "FittingStrides$LeapStair" "FittingStrides$Stair" "from" "I") ∈ lw_all := lw_g (lw_at lw_m3 131 rfl) rfl
theorem q668 : (Jvm.Cond.laysFinal "FittingStrides$LeapStair" "FittingStrides$Stair" "to" "I") ∈ lw_all := lw_g (lw_at lw_m3 132 rfl) rfl
theorem q669 : (Jvm.Cond.laysFinal "FittingStrides$LeapStair" "FittingStrides$Stair" "steps" "[I") ∈ lw_all := lw_g (lw_at lw_m3 133 rfl) rfl
theorem q670 : (Jvm.Cond.lays "FittingStrides$LeapStair" "FittingStrides$Stair" "parts" "I") ∈ lw_all := lw_g (lw_at lw_m3 134 rfl) rfl
theorem q671 : (Jvm.Cond.superclass "FittingStrides$LeapStair" "FittingStrides$Stair") ∈ lw_all := lw_g (lw_at lw_m3 135 rfl) rfl
theorem q714 : (Jvm.Cond.selects "FittingStrides$LeapStair" ({ cls := "FittingStrides$Stair", name := "kind", desc := "()I" } : Jvm.MethodName) ({ cls := "FittingStrides$LeapStair", name := "kind", desc := "()I" } : Jvm.MethodName)) ∈ lw_all := lw_g (lw_at lw_m3 178 rfl) rfl
theorem q715 : (Jvm.Cond.instanceMethod ({ cls := "FittingStrides$LeapStair", name := "kind", desc := "()I" } : Jvm.MethodName)) ∈ lw_all := lw_g (lw_at lw_m3 179 rfl) rfl
theorem q716 : (Jvm.Cond.code ({ cls := "FittingStrides$LeapStair", name := "kind", desc := "()I" } : Jvm.MethodName) prog_4_method_2_code (1 : Nat) (Option.some Jvm.ClassFile.FieldType.int)) ∈ lw_all := lw_g (lw_at lw_m3 180 rfl) rfl
theorem q733 : (Jvm.Cond.selects "FittingStrides$LeapStair" ({ cls := "FittingStrides$Stair", name := "fits", desc := "(I)Z" } : Jvm.MethodName) ({ cls := "FittingStrides$Stair", name := "fits", desc := "(I)Z" } : Jvm.MethodName)) ∈ lw_all := lw_g (lw_at lw_m3 197 rfl) rfl
theorem q740 : (Jvm.Cond.selects "FittingStrides$LeapStair" ({ cls := "FittingStrides$Stair", name := "goesInto", desc := "(II)Z" } : Jvm.MethodName) ({ cls := "FittingStrides$LeapStair", name := "goesInto", desc := "(II)Z" } : Jvm.MethodName)) ∈ lw_all := lw_g (lw_at lw_m3 204 rfl) rfl
theorem q741 : (Jvm.Cond.instanceMethod ({ cls := "FittingStrides$LeapStair", name := "goesInto", desc := "(II)Z" } : Jvm.MethodName)) ∈ lw_all := lw_g (lw_at lw_m3 205 rfl) rfl
theorem q742 : (Jvm.Cond.code ({ cls := "FittingStrides$LeapStair", name := "goesInto", desc := "(II)Z" } : Jvm.MethodName) prog_4_method_3_code (3 : Nat) (Option.some Jvm.ClassFile.FieldType.boolean)) ∈ lw_all := lw_g (lw_at lw_m3 206 rfl) rfl
theorem q774 : (Jvm.Cond.selects "FittingStrides$LeapStair" ({ cls := "FittingStrides$Stair", name := "other", desc := "(I)I" } : Jvm.MethodName) ({ cls := "FittingStrides$Stair", name := "other", desc := "(I)I" } : Jvm.MethodName)) ∈ lw_all := lw_g (lw_at lw_m3 238 rfl) rfl
theorem q803 : (Jvm.Cond.selects "FittingStrides$LeapStair" ({ cls := "FittingStrides$Stair", name := "taken", desc := "(I)I" } : Jvm.MethodName) ({ cls := "FittingStrides$Stair", name := "taken", desc := "(I)I" } : Jvm.MethodName)) ∈ lw_all := lw_g (lw_at lw_m4 27 rfl) rfl
theorem q1365 : (Jvm.Cond.castable "FittingStrides$LeapStair" "FittingStrides$Stair") ∈ lw_tbl := lw_at lw_m6 109 rfl
theorem in_X8 : ∀ w ∈ wsX80, w ∈ lw_all := lw_in wsX80 [667, 668, 669, 670] (by decide +kernel) (by decide +kernel)
