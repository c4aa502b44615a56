/-! CargoFlag -/
set_option maxRecDepth 100000
def RX0 : String := "CargoFlag"
def TX0 : u_T := fun k => match k with
  | 0 => ("CargoFlag", "trays", "[LCargoFlag$Tray;", true)
  | 1 => ("CargoFlag", "tape", "[B", true)
  | 2 => ("CargoFlag", "taped", "I", false)
  | 3 => ("CargoFlag", "faultKind", "I", false)
  | 4 => ("CargoFlag", "faultAt", "I", false)
  | 5 => ("CargoFlag", "bad", "LCargoFlag$Bad;", true)
  | 6 => ("CargoFlag", "refused", "LCargoFlag$Refused;", true)
  | 7 => ("CargoFlag", "status", "I", false)
  | 8 => ("CargoFlag", "above", "J", false)
  | 9 => ("CargoFlag", "under", "J", false)
  | 10 => ("CargoFlag", "now", "LCargoFlag$House;", true)
  | 11 => ("CargoFlag", "marks", "[LCargoFlag$House;", true)
  | 12 => ("CargoFlag", "markMany", "I", false)
  | 13 => ("CargoFlag", "aside", "LCargoFlag$World;", true)
  | 14 => ("CargoFlag", "turningGood", "I", false)
  | 15 => ("CargoFlag", "passingGood", "I", false)
  | 16 => ("CargoFlag", "peacefulCost", "I", false)
  | 17 => ("CargoFlag", "legs", "[I", true)
  | 18 => ("CargoFlag", "firstLeg", "[I", true)
  | 19 => ("CargoFlag", "bestLeg", "[I", true)
  | 20 => ("CargoFlag", "bestCoins", "I", false)
  | 21 => ("CargoFlag", "far", "[I", true)
  | 22 => ("CargoFlag", "sureGoods", "I", false)
  | 23 => ("CargoFlag", "last", "[I", true)
  | _ => ("CargoFlag", "hasLived", "Z", false)
def tyX0 : Nat → FieldType := fun k => match k with
  | 0 => .array (.object "CargoFlag$Tray")
  | 1 => .array .byte
  | 2 => .int
  | 3 => .int
  | 4 => .int
  | 5 => .object "CargoFlag$Bad"
  | 6 => .object "CargoFlag$Refused"
  | 7 => .int
  | 8 => .long
  | 9 => .long
  | 10 => .object "CargoFlag$House"
  | 11 => .array (.object "CargoFlag$House")
  | 12 => .int
  | 13 => .object "CargoFlag$World"
  | 14 => .int
  | 15 => .int
  | 16 => .int
  | 17 => .array .int
  | 18 => .array .int
  | 19 => .array .int
  | 20 => .int
  | 21 => .array .int
  | 22 => .int
  | 23 => .array .int
  | _ => .boolean
abbrev wsX00 : List Cond := u_ws RX0 TX0 25
set_option maxRecDepth 100000 in
theorem nmX0 : ∀ a, a < 25 → ∀ b, b < 25 → a ≠ b → (TX0 a).2.1 ≠ (TX0 b).2.1 := by decide +kernel
set_option maxRecDepth 100000 in
theorem tyX0_ok : ∀ k, k < 25 → parseFieldDescriptor (TX0 k).2.2.1 = some (tyX0 k) := by decide +kernel
abbrev cX0_init : ByteArray := prog_1_method_7_code
def yX0_init : MethodName := ⟨RX0, "<init>", "()V"⟩
def dkwX0_init_7 : List UInt8 := [181, 0, 82, 177]
abbrev dktX0_init_7 : List UInt8 := dkwX0_init_7 ++ []
def dkwX0_init_6 : List UInt8 := [181, 0, 73, 42, 5, 188, 10, 181, 0, 76, 42, 16, 6, 188, 10, 181, 0, 79, 42, 8, 188, 10]
abbrev dktX0_init_6 : List UInt8 := dkwX0_init_6 ++ dktX0_init_7
def dkwX0_init_5 : List UInt8 := [187, 0, 63, 89, 183, 0, 65, 181, 0, 66, 42, 16, 40, 188, 10, 181, 0, 70, 42, 5, 188, 10]
abbrev dktX0_init_5 : List UInt8 := dkwX0_init_5 ++ dktX0_init_6
def dkwX0_init_4 : List UInt8 := [181, 0, 48, 42, 187, 0, 52, 89, 183, 0, 54, 181, 0, 55, 42, 6, 189, 0, 52, 181, 0, 59, 42]
abbrev dktX0_init_4 : List UInt8 := dkwX0_init_4 ++ dktX0_init_5
def dkwX0_init_3 : List UInt8 := [187, 0, 34, 89, 183, 0, 36, 181, 0, 37, 42, 187, 0, 41, 89, 183, 0, 43, 181, 0, 44, 42, 10]
abbrev dktX0_init_3 : List UInt8 := dkwX0_init_3 ++ dktX0_init_4
def dkwX0_init_2 : List UInt8 := [83, 181, 0, 20, 42, 17, 3, 132, 188, 8, 181, 0, 24, 42, 2, 181, 0, 27, 42, 2, 181, 0, 31, 42]
abbrev dktX0_init_2 : List UInt8 := dkwX0_init_2 ++ dktX0_init_3
def dkwX0_init_1 : List UInt8 := [89, 183, 0, 19, 83, 89, 5, 187, 0, 17, 89, 183, 0, 19, 83, 89, 6, 187, 0, 17, 89, 183, 0, 19]
abbrev dktX0_init_1 : List UInt8 := dkwX0_init_1 ++ dktX0_init_2
def dkwX0_init_0 : List UInt8 := [42, 183, 0, 11, 42, 7, 189, 0, 17, 89, 3, 187, 0, 17, 89, 183, 0, 19, 83, 89, 4, 187, 0, 17]
abbrev dktX0_init_0 : List UInt8 := dkwX0_init_0 ++ dktX0_init_1
theorem dksX0_init_0 : cX0_init.data.toList.drop 0 = dktX0_init_0 := by decide +kernel
theorem dksX0_init_1 : cX0_init.data.toList.drop 24 = dktX0_init_1 := dk_seg dksX0_init_0 24 rfl rfl
theorem dksX0_init_2 : cX0_init.data.toList.drop 48 = dktX0_init_2 := dk_seg dksX0_init_1 24 rfl rfl
theorem dksX0_init_3 : cX0_init.data.toList.drop 72 = dktX0_init_3 := dk_seg dksX0_init_2 24 rfl rfl
theorem dksX0_init_4 : cX0_init.data.toList.drop 95 = dktX0_init_4 := dk_seg dksX0_init_3 23 rfl rfl
theorem dksX0_init_5 : cX0_init.data.toList.drop 118 = dktX0_init_5 := dk_seg dksX0_init_4 23 rfl rfl
theorem dksX0_init_6 : cX0_init.data.toList.drop 140 = dktX0_init_6 := dk_seg dksX0_init_5 22 rfl rfl
theorem dksX0_init_7 : cX0_init.data.toList.drop 162 = dktX0_init_7 := dk_seg dksX0_init_6 22 rfl rfl
theorem dX0_init_0 : decode cX0_init 0 = .ok (.aload_n 0, 1) := dk_42 (dk_at dksX0_init_0 0 rfl rfl)
theorem dX0_init_1 : decode cX0_init 1 = .ok (.invokespecial 11, 3) := dk_183 0 11 (dk_at dksX0_init_0 1 rfl rfl)
theorem dX0_init_4 : decode cX0_init 4 = .ok (.aload_n 0, 1) := dk_42 (dk_at dksX0_init_0 4 rfl rfl)
theorem dX0_init_5 : decode cX0_init 5 = .ok (.iconst 4, 1) := dk_7 (dk_at dksX0_init_0 5 rfl rfl)
theorem dX0_init_6 : decode cX0_init 6 = .ok (.anewarray 17, 3) := dk_189 0 17 (dk_at dksX0_init_0 6 rfl rfl)
theorem dX0_init_9 : decode cX0_init 9 = .ok (.dup, 1) := dk_89 (dk_at dksX0_init_0 9 rfl rfl)
theorem dX0_init_10 : decode cX0_init 10 = .ok (.iconst 0, 1) := dk_3 (dk_at dksX0_init_0 10 rfl rfl)
theorem dX0_init_11 : decode cX0_init 11 = .ok (.new 17, 3) := dk_187 0 17 (dk_at dksX0_init_0 11 rfl rfl)
theorem dX0_init_14 : decode cX0_init 14 = .ok (.dup, 1) := dk_89 (dk_at dksX0_init_0 14 rfl rfl)
theorem dX0_init_15 : decode cX0_init 15 = .ok (.invokespecial 19, 3) := dk_183 0 19 (dk_at dksX0_init_0 15 rfl rfl)
theorem dX0_init_18 : decode cX0_init 18 = .ok (.aastore, 1) := dk_83 (dk_at dksX0_init_0 18 rfl rfl)
theorem dX0_init_19 : decode cX0_init 19 = .ok (.dup, 1) := dk_89 (dk_at dksX0_init_0 19 rfl rfl)
theorem dX0_init_20 : decode cX0_init 20 = .ok (.iconst 1, 1) := dk_4 (dk_at dksX0_init_0 20 rfl rfl)
theorem dX0_init_21 : decode cX0_init 21 = .ok (.new 17, 3) := dk_187 0 17 (dk_at dksX0_init_0 21 rfl rfl)
theorem dX0_init_24 : decode cX0_init 24 = .ok (.dup, 1) := dk_89 (dk_at dksX0_init_1 0 rfl rfl)
theorem dX0_init_25 : decode cX0_init 25 = .ok (.invokespecial 19, 3) := dk_183 0 19 (dk_at dksX0_init_1 1 rfl rfl)
theorem dX0_init_28 : decode cX0_init 28 = .ok (.aastore, 1) := dk_83 (dk_at dksX0_init_1 4 rfl rfl)
theorem dX0_init_29 : decode cX0_init 29 = .ok (.dup, 1) := dk_89 (dk_at dksX0_init_1 5 rfl rfl)
theorem dX0_init_30 : decode cX0_init 30 = .ok (.iconst 2, 1) := dk_5 (dk_at dksX0_init_1 6 rfl rfl)
theorem dX0_init_31 : decode cX0_init 31 = .ok (.new 17, 3) := dk_187 0 17 (dk_at dksX0_init_1 7 rfl rfl)
theorem dX0_init_34 : decode cX0_init 34 = .ok (.dup, 1) := dk_89 (dk_at dksX0_init_1 10 rfl rfl)
theorem dX0_init_35 : decode cX0_init 35 = .ok (.invokespecial 19, 3) := dk_183 0 19 (dk_at dksX0_init_1 11 rfl rfl)
theorem dX0_init_38 : decode cX0_init 38 = .ok (.aastore, 1) := dk_83 (dk_at dksX0_init_1 14 rfl rfl)
theorem dX0_init_39 : decode cX0_init 39 = .ok (.dup, 1) := dk_89 (dk_at dksX0_init_1 15 rfl rfl)
theorem dX0_init_40 : decode cX0_init 40 = .ok (.iconst 3, 1) := dk_6 (dk_at dksX0_init_1 16 rfl rfl)
theorem dX0_init_41 : decode cX0_init 41 = .ok (.new 17, 3) := dk_187 0 17 (dk_at dksX0_init_1 17 rfl rfl)
theorem dX0_init_44 : decode cX0_init 44 = .ok (.dup, 1) := dk_89 (dk_at dksX0_init_1 20 rfl rfl)
theorem dX0_init_45 : decode cX0_init 45 = .ok (.invokespecial 19, 3) := dk_183 0 19 (dk_at dksX0_init_1 21 rfl rfl)
theorem dX0_init_48 : decode cX0_init 48 = .ok (.aastore, 1) := dk_83 (dk_at dksX0_init_2 0 rfl rfl)
theorem dX0_init_49 : decode cX0_init 49 = .ok (.putfield 20, 3) := dk_181 0 20 (dk_at dksX0_init_2 1 rfl rfl)
theorem dX0_init_52 : decode cX0_init 52 = .ok (.aload_n 0, 1) := dk_42 (dk_at dksX0_init_2 4 rfl rfl)
theorem dX0_init_53 : decode cX0_init 53 = .ok (.sipush 900, 3) := dk_17 3 132 (dk_at dksX0_init_2 5 rfl rfl)
theorem dX0_init_56 : decode cX0_init 56 = .ok (.newarray .byte, 2) := dk_188_8 (dk_at dksX0_init_2 8 rfl rfl)
theorem dX0_init_58 : decode cX0_init 58 = .ok (.putfield 24, 3) := dk_181 0 24 (dk_at dksX0_init_2 10 rfl rfl)
theorem dX0_init_61 : decode cX0_init 61 = .ok (.aload_n 0, 1) := dk_42 (dk_at dksX0_init_2 13 rfl rfl)
theorem dX0_init_62 : decode cX0_init 62 = .ok (.iconst (-1), 1) := dk_2 (dk_at dksX0_init_2 14 rfl rfl)
theorem dX0_init_63 : decode cX0_init 63 = .ok (.putfield 27, 3) := dk_181 0 27 (dk_at dksX0_init_2 15 rfl rfl)
theorem dX0_init_66 : decode cX0_init 66 = .ok (.aload_n 0, 1) := dk_42 (dk_at dksX0_init_2 18 rfl rfl)
theorem dX0_init_67 : decode cX0_init 67 = .ok (.iconst (-1), 1) := dk_2 (dk_at dksX0_init_2 19 rfl rfl)
theorem dX0_init_68 : decode cX0_init 68 = .ok (.putfield 31, 3) := dk_181 0 31 (dk_at dksX0_init_2 20 rfl rfl)
theorem dX0_init_71 : decode cX0_init 71 = .ok (.aload_n 0, 1) := dk_42 (dk_at dksX0_init_2 23 rfl rfl)
theorem dX0_init_72 : decode cX0_init 72 = .ok (.new 34, 3) := dk_187 0 34 (dk_at dksX0_init_3 0 rfl rfl)
theorem dX0_init_75 : decode cX0_init 75 = .ok (.dup, 1) := dk_89 (dk_at dksX0_init_3 3 rfl rfl)
theorem dX0_init_76 : decode cX0_init 76 = .ok (.invokespecial 36, 3) := dk_183 0 36 (dk_at dksX0_init_3 4 rfl rfl)
theorem dX0_init_79 : decode cX0_init 79 = .ok (.putfield 37, 3) := dk_181 0 37 (dk_at dksX0_init_3 7 rfl rfl)
theorem dX0_init_82 : decode cX0_init 82 = .ok (.aload_n 0, 1) := dk_42 (dk_at dksX0_init_3 10 rfl rfl)
theorem dX0_init_83 : decode cX0_init 83 = .ok (.new 41, 3) := dk_187 0 41 (dk_at dksX0_init_3 11 rfl rfl)
theorem dX0_init_86 : decode cX0_init 86 = .ok (.dup, 1) := dk_89 (dk_at dksX0_init_3 14 rfl rfl)
theorem dX0_init_87 : decode cX0_init 87 = .ok (.invokespecial 43, 3) := dk_183 0 43 (dk_at dksX0_init_3 15 rfl rfl)
theorem dX0_init_90 : decode cX0_init 90 = .ok (.putfield 44, 3) := dk_181 0 44 (dk_at dksX0_init_3 18 rfl rfl)
theorem dX0_init_93 : decode cX0_init 93 = .ok (.aload_n 0, 1) := dk_42 (dk_at dksX0_init_3 21 rfl rfl)
theorem dX0_init_94 : decode cX0_init 94 = .ok (.lconst 1, 1) := dk_10 (dk_at dksX0_init_3 22 rfl rfl)
theorem dX0_init_95 : decode cX0_init 95 = .ok (.putfield 48, 3) := dk_181 0 48 (dk_at dksX0_init_4 0 rfl rfl)
theorem dX0_init_98 : decode cX0_init 98 = .ok (.aload_n 0, 1) := dk_42 (dk_at dksX0_init_4 3 rfl rfl)
theorem dX0_init_99 : decode cX0_init 99 = .ok (.new 52, 3) := dk_187 0 52 (dk_at dksX0_init_4 4 rfl rfl)
theorem dX0_init_102 : decode cX0_init 102 = .ok (.dup, 1) := dk_89 (dk_at dksX0_init_4 7 rfl rfl)
theorem dX0_init_103 : decode cX0_init 103 = .ok (.invokespecial 54, 3) := dk_183 0 54 (dk_at dksX0_init_4 8 rfl rfl)
theorem dX0_init_106 : decode cX0_init 106 = .ok (.putfield 55, 3) := dk_181 0 55 (dk_at dksX0_init_4 11 rfl rfl)
theorem dX0_init_109 : decode cX0_init 109 = .ok (.aload_n 0, 1) := dk_42 (dk_at dksX0_init_4 14 rfl rfl)
theorem dX0_init_110 : decode cX0_init 110 = .ok (.iconst 3, 1) := dk_6 (dk_at dksX0_init_4 15 rfl rfl)
theorem dX0_init_111 : decode cX0_init 111 = .ok (.anewarray 52, 3) := dk_189 0 52 (dk_at dksX0_init_4 16 rfl rfl)
theorem dX0_init_114 : decode cX0_init 114 = .ok (.putfield 59, 3) := dk_181 0 59 (dk_at dksX0_init_4 19 rfl rfl)
theorem dX0_init_117 : decode cX0_init 117 = .ok (.aload_n 0, 1) := dk_42 (dk_at dksX0_init_4 22 rfl rfl)
theorem dX0_init_118 : decode cX0_init 118 = .ok (.new 63, 3) := dk_187 0 63 (dk_at dksX0_init_5 0 rfl rfl)
theorem dX0_init_121 : decode cX0_init 121 = .ok (.dup, 1) := dk_89 (dk_at dksX0_init_5 3 rfl rfl)
theorem dX0_init_122 : decode cX0_init 122 = .ok (.invokespecial 65, 3) := dk_183 0 65 (dk_at dksX0_init_5 4 rfl rfl)
theorem dX0_init_125 : decode cX0_init 125 = .ok (.putfield 66, 3) := dk_181 0 66 (dk_at dksX0_init_5 7 rfl rfl)
theorem dX0_init_128 : decode cX0_init 128 = .ok (.aload_n 0, 1) := dk_42 (dk_at dksX0_init_5 10 rfl rfl)
theorem dX0_init_129 : decode cX0_init 129 = .ok (.bipush 40, 2) := dk_16 40 (dk_at dksX0_init_5 11 rfl rfl)
theorem dX0_init_131 : decode cX0_init 131 = .ok (.newarray .int, 2) := dk_188_10 (dk_at dksX0_init_5 13 rfl rfl)
theorem dX0_init_133 : decode cX0_init 133 = .ok (.putfield 70, 3) := dk_181 0 70 (dk_at dksX0_init_5 15 rfl rfl)
theorem dX0_init_136 : decode cX0_init 136 = .ok (.aload_n 0, 1) := dk_42 (dk_at dksX0_init_5 18 rfl rfl)
theorem dX0_init_137 : decode cX0_init 137 = .ok (.iconst 2, 1) := dk_5 (dk_at dksX0_init_5 19 rfl rfl)
theorem dX0_init_138 : decode cX0_init 138 = .ok (.newarray .int, 2) := dk_188_10 (dk_at dksX0_init_5 20 rfl rfl)
theorem dX0_init_140 : decode cX0_init 140 = .ok (.putfield 73, 3) := dk_181 0 73 (dk_at dksX0_init_6 0 rfl rfl)
theorem dX0_init_143 : decode cX0_init 143 = .ok (.aload_n 0, 1) := dk_42 (dk_at dksX0_init_6 3 rfl rfl)
theorem dX0_init_144 : decode cX0_init 144 = .ok (.iconst 2, 1) := dk_5 (dk_at dksX0_init_6 4 rfl rfl)
theorem dX0_init_145 : decode cX0_init 145 = .ok (.newarray .int, 2) := dk_188_10 (dk_at dksX0_init_6 5 rfl rfl)
theorem dX0_init_147 : decode cX0_init 147 = .ok (.putfield 76, 3) := dk_181 0 76 (dk_at dksX0_init_6 7 rfl rfl)
theorem dX0_init_150 : decode cX0_init 150 = .ok (.aload_n 0, 1) := dk_42 (dk_at dksX0_init_6 10 rfl rfl)
theorem dX0_init_151 : decode cX0_init 151 = .ok (.bipush 6, 2) := dk_16 6 (dk_at dksX0_init_6 11 rfl rfl)
theorem dX0_init_153 : decode cX0_init 153 = .ok (.newarray .int, 2) := dk_188_10 (dk_at dksX0_init_6 13 rfl rfl)
theorem dX0_init_155 : decode cX0_init 155 = .ok (.putfield 79, 3) := dk_181 0 79 (dk_at dksX0_init_6 15 rfl rfl)
theorem dX0_init_158 : decode cX0_init 158 = .ok (.aload_n 0, 1) := dk_42 (dk_at dksX0_init_6 18 rfl rfl)
theorem dX0_init_159 : decode cX0_init 159 = .ok (.iconst 5, 1) := dk_8 (dk_at dksX0_init_6 19 rfl rfl)
theorem dX0_init_160 : decode cX0_init 160 = .ok (.newarray .int, 2) := dk_188_10 (dk_at dksX0_init_6 20 rfl rfl)
theorem dX0_init_162 : decode cX0_init 162 = .ok (.putfield 82, 3) := dk_181 0 82 (dk_at dksX0_init_7 0 rfl rfl)
theorem dX0_init_165 : decode cX0_init 165 = .ok (.return_, 1) := dk_177 (dk_at dksX0_init_7 3 rfl rfl)
abbrev cX0_status : ByteArray := prog_1_method_8_code
def yX0_status : MethodName := ⟨RX0, "status", "()I"⟩
theorem dX0_status_0 : decode cX0_status 0 = .ok (.aload_n 0, 1) := by decide +kernel
theorem dX0_status_1 : decode cX0_status 1 = .ok (.getfield 85, 3) := by decide +kernel
theorem dX0_status_4 : decode cX0_status 4 = .ok (.ireturn, 1) := by decide +kernel
abbrev cX0_top : ByteArray := prog_1_method_9_code
def yX0_top : MethodName := ⟨RX0, "top", "()J"⟩
theorem dX0_top_0 : decode cX0_top 0 = .ok (.aload_n 0, 1) := by decide +kernel
theorem dX0_top_1 : decode cX0_top 1 = .ok (.getfield 88, 3) := by decide +kernel
theorem dX0_top_4 : decode cX0_top 4 = .ok (.lreturn, 1) := by decide +kernel
abbrev cX0_bottom : ByteArray := prog_1_method_10_code
def yX0_bottom : MethodName := ⟨RX0, "bottom", "()J"⟩
theorem dX0_bottom_0 : decode cX0_bottom 0 = .ok (.aload_n 0, 1) := by decide +kernel
theorem dX0_bottom_1 : decode cX0_bottom 1 = .ok (.getfield 48, 3) := by decide +kernel
theorem dX0_bottom_4 : decode cX0_bottom 4 = .ok (.lreturn, 1) := by decide +kernel
abbrev cX0_tray : ByteArray := prog_1_method_16_code
def yX0_tray : MethodName := ⟨RX0, "tray", "(III)Z"⟩
def dkwX0_tray_3 : List UInt8 := [182, 0, 123, 172]
abbrev dktX0_tray_3 : List UInt8 := dkwX0_tray_3 ++ []
def dkwX0_tray_2 : List UInt8 := [184, 0, 118, 181, 0, 114, 4, 172, 58, 4, 42, 4, 181, 0, 85, 3, 172, 58, 4, 42, 25, 4]
abbrev dktX0_tray_2 : List UInt8 := dkwX0_tray_2 ++ dktX0_tray_3
def dkwX0_tray_1 : List UInt8 := [29, 16, 60, 163, 0, 7, 4, 167, 0, 4, 3, 4, 182, 0, 110, 42, 180, 0, 20, 27, 50, 28, 29]
abbrev dktX0_tray_1 : List UInt8 := dkwX0_tray_1 ++ dktX0_tray_2
def dkwX0_tray_0 : List UInt8 := [42, 3, 181, 0, 85, 42, 27, 155, 0, 27, 27, 7, 162, 0, 22, 28, 155, 0, 18, 28, 6, 163, 0, 13]
abbrev dktX0_tray_0 : List UInt8 := dkwX0_tray_0 ++ dktX0_tray_1
theorem dksX0_tray_0 : cX0_tray.data.toList.drop 0 = dktX0_tray_0 := by decide +kernel
theorem dksX0_tray_1 : cX0_tray.data.toList.drop 24 = dktX0_tray_1 := dk_seg dksX0_tray_0 24 rfl rfl
theorem dksX0_tray_2 : cX0_tray.data.toList.drop 47 = dktX0_tray_2 := dk_seg dksX0_tray_1 23 rfl rfl
theorem dksX0_tray_3 : cX0_tray.data.toList.drop 69 = dktX0_tray_3 := dk_seg dksX0_tray_2 22 rfl rfl
theorem dX0_tray_0 : decode cX0_tray 0 = .ok (.aload_n 0, 1) := dk_42 (dk_at dksX0_tray_0 0 rfl rfl)
theorem dX0_tray_1 : decode cX0_tray 1 = .ok (.iconst 0, 1) := dk_3 (dk_at dksX0_tray_0 1 rfl rfl)
theorem dX0_tray_2 : decode cX0_tray 2 = .ok (.putfield 85, 3) := dk_181 0 85 (dk_at dksX0_tray_0 2 rfl rfl)
theorem dX0_tray_5 : decode cX0_tray 5 = .ok (.aload_n 0, 1) := dk_42 (dk_at dksX0_tray_0 5 rfl rfl)
theorem dX0_tray_6 : decode cX0_tray 6 = .ok (.iload_n 1, 1) := dk_27 (dk_at dksX0_tray_0 6 rfl rfl)
theorem dX0_tray_7 : decode cX0_tray 7 = .ok (.ifCond .lt 27, 3) := dk_155 0 27 (dk_at dksX0_tray_0 7 rfl rfl)
theorem dX0_tray_10 : decode cX0_tray 10 = .ok (.iload_n 1, 1) := dk_27 (dk_at dksX0_tray_0 10 rfl rfl)
theorem dX0_tray_11 : decode cX0_tray 11 = .ok (.iconst 4, 1) := dk_7 (dk_at dksX0_tray_0 11 rfl rfl)
theorem dX0_tray_12 : decode cX0_tray 12 = .ok (.if_icmp .ge 22, 3) := dk_162 0 22 (dk_at dksX0_tray_0 12 rfl rfl)
theorem dX0_tray_15 : decode cX0_tray 15 = .ok (.iload_n 2, 1) := dk_28 (dk_at dksX0_tray_0 15 rfl rfl)
theorem dX0_tray_16 : decode cX0_tray 16 = .ok (.ifCond .lt 18, 3) := dk_155 0 18 (dk_at dksX0_tray_0 16 rfl rfl)
theorem dX0_tray_19 : decode cX0_tray 19 = .ok (.iload_n 2, 1) := dk_28 (dk_at dksX0_tray_0 19 rfl rfl)
theorem dX0_tray_20 : decode cX0_tray 20 = .ok (.iconst 3, 1) := dk_6 (dk_at dksX0_tray_0 20 rfl rfl)
theorem dX0_tray_21 : decode cX0_tray 21 = .ok (.if_icmp .gt 13, 3) := dk_163 0 13 (dk_at dksX0_tray_0 21 rfl rfl)
theorem dX0_tray_24 : decode cX0_tray 24 = .ok (.iload_n 3, 1) := dk_29 (dk_at dksX0_tray_1 0 rfl rfl)
theorem dX0_tray_25 : decode cX0_tray 25 = .ok (.bipush 60, 2) := dk_16 60 (dk_at dksX0_tray_1 1 rfl rfl)
theorem dX0_tray_27 : decode cX0_tray 27 = .ok (.if_icmp .gt 7, 3) := dk_163 0 7 (dk_at dksX0_tray_1 3 rfl rfl)
theorem dX0_tray_30 : decode cX0_tray 30 = .ok (.iconst 1, 1) := dk_4 (dk_at dksX0_tray_1 6 rfl rfl)
theorem dX0_tray_31 : decode cX0_tray 31 = .ok (.goto 4, 3) := dk_167 0 4 (dk_at dksX0_tray_1 7 rfl rfl)
theorem dX0_tray_34 : decode cX0_tray 34 = .ok (.iconst 0, 1) := dk_3 (dk_at dksX0_tray_1 10 rfl rfl)
theorem dX0_tray_35 : decode cX0_tray 35 = .ok (.iconst 1, 1) := dk_4 (dk_at dksX0_tray_1 11 rfl rfl)
theorem dX0_tray_36 : decode cX0_tray 36 = .ok (.invokevirtual 110, 3) := dk_182 0 110 (dk_at dksX0_tray_1 12 rfl rfl)
theorem dX0_tray_39 : decode cX0_tray 39 = .ok (.aload_n 0, 1) := dk_42 (dk_at dksX0_tray_1 15 rfl rfl)
theorem dX0_tray_40 : decode cX0_tray 40 = .ok (.getfield 20, 3) := dk_180 0 20 (dk_at dksX0_tray_1 16 rfl rfl)
theorem dX0_tray_43 : decode cX0_tray 43 = .ok (.iload_n 1, 1) := dk_27 (dk_at dksX0_tray_1 19 rfl rfl)
theorem dX0_tray_44 : decode cX0_tray 44 = .ok (.aaload, 1) := dk_50 (dk_at dksX0_tray_1 20 rfl rfl)
theorem dX0_tray_45 : decode cX0_tray 45 = .ok (.iload_n 2, 1) := dk_28 (dk_at dksX0_tray_1 21 rfl rfl)
theorem dX0_tray_46 : decode cX0_tray 46 = .ok (.iload_n 3, 1) := dk_29 (dk_at dksX0_tray_1 22 rfl rfl)
theorem dX0_tray_47 : decode cX0_tray 47 = .ok (.invokestatic 118, 3) := dk_184 0 118 (dk_at dksX0_tray_2 0 rfl rfl)
theorem dX0_tray_50 : decode cX0_tray 50 = .ok (.putfield 114, 3) := dk_181 0 114 (dk_at dksX0_tray_2 3 rfl rfl)
theorem dX0_tray_53 : decode cX0_tray 53 = .ok (.iconst 1, 1) := dk_4 (dk_at dksX0_tray_2 6 rfl rfl)
theorem dX0_tray_54 : decode cX0_tray 54 = .ok (.ireturn, 1) := dk_172 (dk_at dksX0_tray_2 7 rfl rfl)
theorem dX0_tray_55 : decode cX0_tray 55 = .ok (.astore 4, 2) := dk_58 4 (dk_at dksX0_tray_2 8 rfl rfl)
theorem dX0_tray_57 : decode cX0_tray 57 = .ok (.aload_n 0, 1) := dk_42 (dk_at dksX0_tray_2 10 rfl rfl)
theorem dX0_tray_58 : decode cX0_tray 58 = .ok (.iconst 1, 1) := dk_4 (dk_at dksX0_tray_2 11 rfl rfl)
theorem dX0_tray_59 : decode cX0_tray 59 = .ok (.putfield 85, 3) := dk_181 0 85 (dk_at dksX0_tray_2 12 rfl rfl)
theorem dX0_tray_62 : decode cX0_tray 62 = .ok (.iconst 0, 1) := dk_3 (dk_at dksX0_tray_2 15 rfl rfl)
theorem dX0_tray_63 : decode cX0_tray 63 = .ok (.ireturn, 1) := dk_172 (dk_at dksX0_tray_2 16 rfl rfl)
theorem dX0_tray_64 : decode cX0_tray 64 = .ok (.astore 4, 2) := dk_58 4 (dk_at dksX0_tray_2 17 rfl rfl)
theorem dX0_tray_66 : decode cX0_tray 66 = .ok (.aload_n 0, 1) := dk_42 (dk_at dksX0_tray_2 19 rfl rfl)
theorem dX0_tray_67 : decode cX0_tray 67 = .ok (.aload 4, 2) := dk_25 4 (dk_at dksX0_tray_2 20 rfl rfl)
theorem dX0_tray_69 : decode cX0_tray 69 = .ok (.invokevirtual 123, 3) := dk_182 0 123 (dk_at dksX0_tray_3 0 rfl rfl)
theorem dX0_tray_72 : decode cX0_tray 72 = .ok (.ireturn, 1) := dk_172 (dk_at dksX0_tray_3 3 rfl rfl)
abbrev cX0_want : ByteArray := prog_1_method_11_code
def yX0_want : MethodName := ⟨RX0, "want", "(ZI)V"⟩
def dkwX0_want_0 : List UInt8 := [27, 154, 0, 12, 42, 180, 0, 44, 28, 182, 0, 91, 191, 177]
abbrev dktX0_want_0 : List UInt8 := dkwX0_want_0 ++ []
theorem dksX0_want_0 : cX0_want.data.toList.drop 0 = dktX0_want_0 := by decide +kernel
theorem dX0_want_0 : decode cX0_want 0 = .ok (.iload_n 1, 1) := dk_27 (dk_at dksX0_want_0 0 rfl rfl)
theorem dX0_want_1 : decode cX0_want 1 = .ok (.ifCond .ne 12, 3) := dk_154 0 12 (dk_at dksX0_want_0 1 rfl rfl)
theorem dX0_want_4 : decode cX0_want 4 = .ok (.aload_n 0, 1) := dk_42 (dk_at dksX0_want_0 4 rfl rfl)
theorem dX0_want_5 : decode cX0_want 5 = .ok (.getfield 44, 3) := dk_180 0 44 (dk_at dksX0_want_0 5 rfl rfl)
theorem dX0_want_8 : decode cX0_want 8 = .ok (.iload_n 2, 1) := dk_28 (dk_at dksX0_want_0 8 rfl rfl)
theorem dX0_want_9 : decode cX0_want 9 = .ok (.invokevirtual 91, 3) := dk_182 0 91 (dk_at dksX0_want_0 9 rfl rfl)
theorem dX0_want_12 : decode cX0_want 12 = .ok (.athrow, 1) := dk_191 (dk_at dksX0_want_0 12 rfl rfl)
theorem dX0_want_13 : decode cX0_want 13 = .ok (.return_, 1) := dk_177 (dk_at dksX0_want_0 13 rfl rfl)
abbrev cX0_row : ByteArray := prog_1_method_1_code
def yX0_row : MethodName := ⟨RX0, "row", "(II)Ljava/lang/Object;"⟩
def dkwX0_row_1 : List UInt8 := [160, 0, 9, 27, 188, 10, 167, 0, 6, 27, 188, 11, 176]
abbrev dktX0_row_1 : List UInt8 := dkwX0_row_1 ++ []
def dkwX0_row_0 : List UInt8 := [26, 154, 0, 9, 27, 188, 8, 167, 0, 28, 26, 4, 160, 0, 9, 27, 188, 9, 167, 0, 17, 26, 5]
abbrev dktX0_row_0 : List UInt8 := dkwX0_row_0 ++ dktX0_row_1
theorem dksX0_row_0 : cX0_row.data.toList.drop 0 = dktX0_row_0 := by decide +kernel
theorem dksX0_row_1 : cX0_row.data.toList.drop 23 = dktX0_row_1 := dk_seg dksX0_row_0 23 rfl rfl
theorem dX0_row_0 : decode cX0_row 0 = .ok (.iload_n 0, 1) := dk_26 (dk_at dksX0_row_0 0 rfl rfl)
theorem dX0_row_1 : decode cX0_row 1 = .ok (.ifCond .ne 9, 3) := dk_154 0 9 (dk_at dksX0_row_0 1 rfl rfl)
theorem dX0_row_4 : decode cX0_row 4 = .ok (.iload_n 1, 1) := dk_27 (dk_at dksX0_row_0 4 rfl rfl)
theorem dX0_row_5 : decode cX0_row 5 = .ok (.newarray .byte, 2) := dk_188_8 (dk_at dksX0_row_0 5 rfl rfl)
theorem dX0_row_7 : decode cX0_row 7 = .ok (.goto 28, 3) := dk_167 0 28 (dk_at dksX0_row_0 7 rfl rfl)
theorem dX0_row_10 : decode cX0_row 10 = .ok (.iload_n 0, 1) := dk_26 (dk_at dksX0_row_0 10 rfl rfl)
theorem dX0_row_11 : decode cX0_row 11 = .ok (.iconst 1, 1) := dk_4 (dk_at dksX0_row_0 11 rfl rfl)
theorem dX0_row_12 : decode cX0_row 12 = .ok (.if_icmp .ne 9, 3) := dk_160 0 9 (dk_at dksX0_row_0 12 rfl rfl)
theorem dX0_row_15 : decode cX0_row 15 = .ok (.iload_n 1, 1) := dk_27 (dk_at dksX0_row_0 15 rfl rfl)
theorem dX0_row_16 : decode cX0_row 16 = .ok (.newarray .short, 2) := dk_188_9 (dk_at dksX0_row_0 16 rfl rfl)
theorem dX0_row_18 : decode cX0_row 18 = .ok (.goto 17, 3) := dk_167 0 17 (dk_at dksX0_row_0 18 rfl rfl)
theorem dX0_row_21 : decode cX0_row 21 = .ok (.iload_n 0, 1) := dk_26 (dk_at dksX0_row_0 21 rfl rfl)
theorem dX0_row_22 : decode cX0_row 22 = .ok (.iconst 2, 1) := dk_5 (dk_at dksX0_row_0 22 rfl rfl)
theorem dX0_row_23 : decode cX0_row 23 = .ok (.if_icmp .ne 9, 3) := dk_160 0 9 (dk_at dksX0_row_1 0 rfl rfl)
theorem dX0_row_26 : decode cX0_row 26 = .ok (.iload_n 1, 1) := dk_27 (dk_at dksX0_row_1 3 rfl rfl)
theorem dX0_row_27 : decode cX0_row 27 = .ok (.newarray .int, 2) := dk_188_10 (dk_at dksX0_row_1 4 rfl rfl)
theorem dX0_row_29 : decode cX0_row 29 = .ok (.goto 6, 3) := dk_167 0 6 (dk_at dksX0_row_1 6 rfl rfl)
theorem dX0_row_32 : decode cX0_row 32 = .ok (.iload_n 1, 1) := dk_27 (dk_at dksX0_row_1 9 rfl rfl)
theorem dX0_row_33 : decode cX0_row 33 = .ok (.newarray .long, 2) := dk_188_11 (dk_at dksX0_row_1 10 rfl rfl)
theorem dX0_row_35 : decode cX0_row 35 = .ok (.areturn, 1) := dk_176 (dk_at dksX0_row_1 12 rfl rfl)
abbrev cX0_no : ByteArray := prog_1_method_13_code
def yX0_no : MethodName := ⟨RX0, "no", "(LCargoFlag$Refused;)Z"⟩
def dkwX0_no_0 : List UInt8 := [42, 43, 180, 0, 95, 181, 0, 85, 3, 172]
abbrev dktX0_no_0 : List UInt8 := dkwX0_no_0 ++ []
theorem dksX0_no_0 : cX0_no.data.toList.drop 0 = dktX0_no_0 := by decide +kernel
theorem dX0_no_0 : decode cX0_no 0 = .ok (.aload_n 0, 1) := dk_42 (dk_at dksX0_no_0 0 rfl rfl)
theorem dX0_no_1 : decode cX0_no 1 = .ok (.aload_n 1, 1) := dk_43 (dk_at dksX0_no_0 1 rfl rfl)
theorem dX0_no_2 : decode cX0_no 2 = .ok (.getfield 95, 3) := dk_180 0 95 (dk_at dksX0_no_0 2 rfl rfl)
theorem dX0_no_5 : decode cX0_no 5 = .ok (.putfield 85, 3) := dk_181 0 85 (dk_at dksX0_no_0 5 rfl rfl)
theorem dX0_no_8 : decode cX0_no 8 = .ok (.iconst 0, 1) := dk_3 (dk_at dksX0_no_0 8 rfl rfl)
theorem dX0_no_9 : decode cX0_no 9 = .ok (.ireturn, 1) := dk_172 (dk_at dksX0_no_0 9 rfl rfl)
abbrev cX0_write : ByteArray := prog_1_method_17_code
def yX0_write : MethodName := ⟨RX0, "write", "(IIJ)Z"⟩
def dkwX0_write_1 : List UInt8 := [3, 172, 58, 5, 42, 25, 5, 182, 0, 123, 172]
abbrev dktX0_write_1 : List UInt8 := dkwX0_write_1 ++ []
def dkwX0_write_0 : List UInt8 := [42, 3, 181, 0, 85, 42, 27, 182, 0, 127, 28, 33, 184, 0, 131, 4, 172, 58, 5, 42, 6, 181, 0, 85]
abbrev dktX0_write_0 : List UInt8 := dkwX0_write_0 ++ dktX0_write_1
theorem dksX0_write_0 : cX0_write.data.toList.drop 0 = dktX0_write_0 := by decide +kernel
theorem dksX0_write_1 : cX0_write.data.toList.drop 24 = dktX0_write_1 := dk_seg dksX0_write_0 24 rfl rfl
theorem dX0_write_0 : decode cX0_write 0 = .ok (.aload_n 0, 1) := dk_42 (dk_at dksX0_write_0 0 rfl rfl)
theorem dX0_write_1 : decode cX0_write 1 = .ok (.iconst 0, 1) := dk_3 (dk_at dksX0_write_0 1 rfl rfl)
theorem dX0_write_2 : decode cX0_write 2 = .ok (.putfield 85, 3) := dk_181 0 85 (dk_at dksX0_write_0 2 rfl rfl)
theorem dX0_write_5 : decode cX0_write 5 = .ok (.aload_n 0, 1) := dk_42 (dk_at dksX0_write_0 5 rfl rfl)
theorem dX0_write_6 : decode cX0_write 6 = .ok (.iload_n 1, 1) := dk_27 (dk_at dksX0_write_0 6 rfl rfl)
theorem dX0_write_7 : decode cX0_write 7 = .ok (.invokevirtual 127, 3) := dk_182 0 127 (dk_at dksX0_write_0 7 rfl rfl)
theorem dX0_write_10 : decode cX0_write 10 = .ok (.iload_n 2, 1) := dk_28 (dk_at dksX0_write_0 10 rfl rfl)
theorem dX0_write_11 : decode cX0_write 11 = .ok (.lload_n 3, 1) := dk_33 (dk_at dksX0_write_0 11 rfl rfl)
theorem dX0_write_12 : decode cX0_write 12 = .ok (.invokestatic 131, 3) := dk_184 0 131 (dk_at dksX0_write_0 12 rfl rfl)
theorem dX0_write_15 : decode cX0_write 15 = .ok (.iconst 1, 1) := dk_4 (dk_at dksX0_write_0 15 rfl rfl)
theorem dX0_write_16 : decode cX0_write 16 = .ok (.ireturn, 1) := dk_172 (dk_at dksX0_write_0 16 rfl rfl)
theorem dX0_write_17 : decode cX0_write 17 = .ok (.astore 5, 2) := dk_58 5 (dk_at dksX0_write_0 17 rfl rfl)
theorem dX0_write_19 : decode cX0_write 19 = .ok (.aload_n 0, 1) := dk_42 (dk_at dksX0_write_0 19 rfl rfl)
theorem dX0_write_20 : decode cX0_write 20 = .ok (.iconst 3, 1) := dk_6 (dk_at dksX0_write_0 20 rfl rfl)
theorem dX0_write_21 : decode cX0_write 21 = .ok (.putfield 85, 3) := dk_181 0 85 (dk_at dksX0_write_0 21 rfl rfl)
theorem dX0_write_24 : decode cX0_write 24 = .ok (.iconst 0, 1) := dk_3 (dk_at dksX0_write_1 0 rfl rfl)
theorem dX0_write_25 : decode cX0_write 25 = .ok (.ireturn, 1) := dk_172 (dk_at dksX0_write_1 1 rfl rfl)
theorem dX0_write_26 : decode cX0_write 26 = .ok (.astore 5, 2) := dk_58 5 (dk_at dksX0_write_1 2 rfl rfl)
theorem dX0_write_28 : decode cX0_write 28 = .ok (.aload_n 0, 1) := dk_42 (dk_at dksX0_write_1 4 rfl rfl)
theorem dX0_write_29 : decode cX0_write 29 = .ok (.aload 5, 2) := dk_25 5 (dk_at dksX0_write_1 5 rfl rfl)
theorem dX0_write_31 : decode cX0_write 31 = .ok (.invokevirtual 123, 3) := dk_182 0 123 (dk_at dksX0_write_1 7 rfl rfl)
theorem dX0_write_34 : decode cX0_write 34 = .ok (.ireturn, 1) := dk_172 (dk_at dksX0_write_1 10 rfl rfl)
abbrev cX0_on : ByteArray := prog_1_method_15_code
def yX0_on : MethodName := ⟨RX0, "on", "(I)Ljava/lang/Object;"⟩
def dkwX0_on_2 : List UInt8 := [180, 0, 114, 176]
abbrev dktX0_on_2 : List UInt8 := dkwX0_on_2 ++ []
def dkwX0_on_1 : List UInt8 := [27, 50, 180, 0, 114, 198, 0, 7, 4, 167, 0, 4, 3, 5, 182, 0, 110, 42, 180, 0, 20, 27, 50]
abbrev dktX0_on_1 : List UInt8 := dkwX0_on_1 ++ dktX0_on_2
def dkwX0_on_0 : List UInt8 := [42, 27, 155, 0, 12, 27, 7, 162, 0, 7, 4, 167, 0, 4, 3, 4, 182, 0, 110, 42, 42, 180, 0, 20]
abbrev dktX0_on_0 : List UInt8 := dkwX0_on_0 ++ dktX0_on_1
theorem dksX0_on_0 : cX0_on.data.toList.drop 0 = dktX0_on_0 := by decide +kernel
theorem dksX0_on_1 : cX0_on.data.toList.drop 24 = dktX0_on_1 := dk_seg dksX0_on_0 24 rfl rfl
theorem dksX0_on_2 : cX0_on.data.toList.drop 47 = dktX0_on_2 := dk_seg dksX0_on_1 23 rfl rfl
theorem dX0_on_0 : decode cX0_on 0 = .ok (.aload_n 0, 1) := dk_42 (dk_at dksX0_on_0 0 rfl rfl)
theorem dX0_on_1 : decode cX0_on 1 = .ok (.iload_n 1, 1) := dk_27 (dk_at dksX0_on_0 1 rfl rfl)
theorem dX0_on_2 : decode cX0_on 2 = .ok (.ifCond .lt 12, 3) := dk_155 0 12 (dk_at dksX0_on_0 2 rfl rfl)
theorem dX0_on_5 : decode cX0_on 5 = .ok (.iload_n 1, 1) := dk_27 (dk_at dksX0_on_0 5 rfl rfl)
theorem dX0_on_6 : decode cX0_on 6 = .ok (.iconst 4, 1) := dk_7 (dk_at dksX0_on_0 6 rfl rfl)
theorem dX0_on_7 : decode cX0_on 7 = .ok (.if_icmp .ge 7, 3) := dk_162 0 7 (dk_at dksX0_on_0 7 rfl rfl)
theorem dX0_on_10 : decode cX0_on 10 = .ok (.iconst 1, 1) := dk_4 (dk_at dksX0_on_0 10 rfl rfl)
theorem dX0_on_11 : decode cX0_on 11 = .ok (.goto 4, 3) := dk_167 0 4 (dk_at dksX0_on_0 11 rfl rfl)
theorem dX0_on_14 : decode cX0_on 14 = .ok (.iconst 0, 1) := dk_3 (dk_at dksX0_on_0 14 rfl rfl)
theorem dX0_on_15 : decode cX0_on 15 = .ok (.iconst 1, 1) := dk_4 (dk_at dksX0_on_0 15 rfl rfl)
theorem dX0_on_16 : decode cX0_on 16 = .ok (.invokevirtual 110, 3) := dk_182 0 110 (dk_at dksX0_on_0 16 rfl rfl)
theorem dX0_on_19 : decode cX0_on 19 = .ok (.aload_n 0, 1) := dk_42 (dk_at dksX0_on_0 19 rfl rfl)
theorem dX0_on_20 : decode cX0_on 20 = .ok (.aload_n 0, 1) := dk_42 (dk_at dksX0_on_0 20 rfl rfl)
theorem dX0_on_21 : decode cX0_on 21 = .ok (.getfield 20, 3) := dk_180 0 20 (dk_at dksX0_on_0 21 rfl rfl)
theorem dX0_on_24 : decode cX0_on 24 = .ok (.iload_n 1, 1) := dk_27 (dk_at dksX0_on_1 0 rfl rfl)
theorem dX0_on_25 : decode cX0_on 25 = .ok (.aaload, 1) := dk_50 (dk_at dksX0_on_1 1 rfl rfl)
theorem dX0_on_26 : decode cX0_on 26 = .ok (.getfield 114, 3) := dk_180 0 114 (dk_at dksX0_on_1 2 rfl rfl)
theorem dX0_on_29 : decode cX0_on 29 = .ok (.ifnull 7, 3) := dk_198 0 7 (dk_at dksX0_on_1 5 rfl rfl)
theorem dX0_on_32 : decode cX0_on 32 = .ok (.iconst 1, 1) := dk_4 (dk_at dksX0_on_1 8 rfl rfl)
theorem dX0_on_33 : decode cX0_on 33 = .ok (.goto 4, 3) := dk_167 0 4 (dk_at dksX0_on_1 9 rfl rfl)
theorem dX0_on_36 : decode cX0_on 36 = .ok (.iconst 0, 1) := dk_3 (dk_at dksX0_on_1 12 rfl rfl)
theorem dX0_on_37 : decode cX0_on 37 = .ok (.iconst 2, 1) := dk_5 (dk_at dksX0_on_1 13 rfl rfl)
theorem dX0_on_38 : decode cX0_on 38 = .ok (.invokevirtual 110, 3) := dk_182 0 110 (dk_at dksX0_on_1 14 rfl rfl)
theorem dX0_on_41 : decode cX0_on 41 = .ok (.aload_n 0, 1) := dk_42 (dk_at dksX0_on_1 17 rfl rfl)
theorem dX0_on_42 : decode cX0_on 42 = .ok (.getfield 20, 3) := dk_180 0 20 (dk_at dksX0_on_1 18 rfl rfl)
theorem dX0_on_45 : decode cX0_on 45 = .ok (.iload_n 1, 1) := dk_27 (dk_at dksX0_on_1 21 rfl rfl)
theorem dX0_on_46 : decode cX0_on 46 = .ok (.aaload, 1) := dk_50 (dk_at dksX0_on_1 22 rfl rfl)
theorem dX0_on_47 : decode cX0_on 47 = .ok (.getfield 114, 3) := dk_180 0 114 (dk_at dksX0_on_2 0 rfl rfl)
theorem dX0_on_50 : decode cX0_on 50 = .ok (.areturn, 1) := dk_176 (dk_at dksX0_on_2 3 rfl rfl)
abbrev cX0_put : ByteArray := prog_1_method_5_code
def yX0_put : MethodName := ⟨RX0, "put", "(Ljava/lang/Object;IJ)V"⟩
def dkwX0_put_3 : List UInt8 := [192, 0, 9, 27, 32, 80, 177]
abbrev dktX0_put_3 : List UInt8 := dkwX0_put_3 ++ []
def dkwX0_put_2 : List UInt8 := [193, 0, 7, 153, 0, 18, 42, 192, 0, 7, 58, 6, 25, 6, 27, 32, 136, 79, 167, 0, 10, 42]
abbrev dktX0_put_2 : List UInt8 := dkwX0_put_2 ++ dktX0_put_3
def dkwX0_put_1 : List UInt8 := [193, 0, 5, 153, 0, 19, 42, 192, 0, 5, 58, 5, 25, 5, 27, 32, 136, 147, 86, 167, 0, 32, 42]
abbrev dktX0_put_1 : List UInt8 := dkwX0_put_1 ++ dktX0_put_2
def dkwX0_put_0 : List UInt8 := [42, 193, 0, 3, 153, 0, 19, 42, 192, 0, 3, 58, 4, 25, 4, 27, 32, 136, 145, 84, 167, 0, 55, 42]
abbrev dktX0_put_0 : List UInt8 := dkwX0_put_0 ++ dktX0_put_1
theorem dksX0_put_0 : cX0_put.data.toList.drop 0 = dktX0_put_0 := by decide +kernel
theorem dksX0_put_1 : cX0_put.data.toList.drop 24 = dktX0_put_1 := dk_seg dksX0_put_0 24 rfl rfl
theorem dksX0_put_2 : cX0_put.data.toList.drop 47 = dktX0_put_2 := dk_seg dksX0_put_1 23 rfl rfl
theorem dksX0_put_3 : cX0_put.data.toList.drop 69 = dktX0_put_3 := dk_seg dksX0_put_2 22 rfl rfl
theorem dX0_put_0 : decode cX0_put 0 = .ok (.aload_n 0, 1) := dk_42 (dk_at dksX0_put_0 0 rfl rfl)
theorem dX0_put_1 : decode cX0_put 1 = .ok (.instanceof 3, 3) := dk_193 0 3 (dk_at dksX0_put_0 1 rfl rfl)
theorem dX0_put_4 : decode cX0_put 4 = .ok (.ifCond .eq 19, 3) := dk_153 0 19 (dk_at dksX0_put_0 4 rfl rfl)
theorem dX0_put_7 : decode cX0_put 7 = .ok (.aload_n 0, 1) := dk_42 (dk_at dksX0_put_0 7 rfl rfl)
theorem dX0_put_8 : decode cX0_put 8 = .ok (.checkcast 3, 3) := dk_192 0 3 (dk_at dksX0_put_0 8 rfl rfl)
theorem dX0_put_11 : decode cX0_put 11 = .ok (.astore 4, 2) := dk_58 4 (dk_at dksX0_put_0 11 rfl rfl)
theorem dX0_put_13 : decode cX0_put 13 = .ok (.aload 4, 2) := dk_25 4 (dk_at dksX0_put_0 13 rfl rfl)
theorem dX0_put_15 : decode cX0_put 15 = .ok (.iload_n 1, 1) := dk_27 (dk_at dksX0_put_0 15 rfl rfl)
theorem dX0_put_16 : decode cX0_put 16 = .ok (.lload_n 2, 1) := dk_32 (dk_at dksX0_put_0 16 rfl rfl)
theorem dX0_put_17 : decode cX0_put 17 = .ok (.l2i, 1) := dk_136 (dk_at dksX0_put_0 17 rfl rfl)
theorem dX0_put_18 : decode cX0_put 18 = .ok (.i2b, 1) := dk_145 (dk_at dksX0_put_0 18 rfl rfl)
theorem dX0_put_19 : decode cX0_put 19 = .ok (.bastore, 1) := dk_84 (dk_at dksX0_put_0 19 rfl rfl)
theorem dX0_put_20 : decode cX0_put 20 = .ok (.goto 55, 3) := dk_167 0 55 (dk_at dksX0_put_0 20 rfl rfl)
theorem dX0_put_23 : decode cX0_put 23 = .ok (.aload_n 0, 1) := dk_42 (dk_at dksX0_put_0 23 rfl rfl)
theorem dX0_put_24 : decode cX0_put 24 = .ok (.instanceof 5, 3) := dk_193 0 5 (dk_at dksX0_put_1 0 rfl rfl)
theorem dX0_put_27 : decode cX0_put 27 = .ok (.ifCond .eq 19, 3) := dk_153 0 19 (dk_at dksX0_put_1 3 rfl rfl)
theorem dX0_put_30 : decode cX0_put 30 = .ok (.aload_n 0, 1) := dk_42 (dk_at dksX0_put_1 6 rfl rfl)
theorem dX0_put_31 : decode cX0_put 31 = .ok (.checkcast 5, 3) := dk_192 0 5 (dk_at dksX0_put_1 7 rfl rfl)
theorem dX0_put_34 : decode cX0_put 34 = .ok (.astore 5, 2) := dk_58 5 (dk_at dksX0_put_1 10 rfl rfl)
theorem dX0_put_36 : decode cX0_put 36 = .ok (.aload 5, 2) := dk_25 5 (dk_at dksX0_put_1 12 rfl rfl)
theorem dX0_put_38 : decode cX0_put 38 = .ok (.iload_n 1, 1) := dk_27 (dk_at dksX0_put_1 14 rfl rfl)
theorem dX0_put_39 : decode cX0_put 39 = .ok (.lload_n 2, 1) := dk_32 (dk_at dksX0_put_1 15 rfl rfl)
theorem dX0_put_40 : decode cX0_put 40 = .ok (.l2i, 1) := dk_136 (dk_at dksX0_put_1 16 rfl rfl)
theorem dX0_put_41 : decode cX0_put 41 = .ok (.i2s, 1) := dk_147 (dk_at dksX0_put_1 17 rfl rfl)
theorem dX0_put_42 : decode cX0_put 42 = .ok (.sastore, 1) := dk_86 (dk_at dksX0_put_1 18 rfl rfl)
theorem dX0_put_43 : decode cX0_put 43 = .ok (.goto 32, 3) := dk_167 0 32 (dk_at dksX0_put_1 19 rfl rfl)
theorem dX0_put_46 : decode cX0_put 46 = .ok (.aload_n 0, 1) := dk_42 (dk_at dksX0_put_1 22 rfl rfl)
theorem dX0_put_47 : decode cX0_put 47 = .ok (.instanceof 7, 3) := dk_193 0 7 (dk_at dksX0_put_2 0 rfl rfl)
theorem dX0_put_50 : decode cX0_put 50 = .ok (.ifCond .eq 18, 3) := dk_153 0 18 (dk_at dksX0_put_2 3 rfl rfl)
theorem dX0_put_53 : decode cX0_put 53 = .ok (.aload_n 0, 1) := dk_42 (dk_at dksX0_put_2 6 rfl rfl)
theorem dX0_put_54 : decode cX0_put 54 = .ok (.checkcast 7, 3) := dk_192 0 7 (dk_at dksX0_put_2 7 rfl rfl)
theorem dX0_put_57 : decode cX0_put 57 = .ok (.astore 6, 2) := dk_58 6 (dk_at dksX0_put_2 10 rfl rfl)
theorem dX0_put_59 : decode cX0_put 59 = .ok (.aload 6, 2) := dk_25 6 (dk_at dksX0_put_2 12 rfl rfl)
theorem dX0_put_61 : decode cX0_put 61 = .ok (.iload_n 1, 1) := dk_27 (dk_at dksX0_put_2 14 rfl rfl)
theorem dX0_put_62 : decode cX0_put 62 = .ok (.lload_n 2, 1) := dk_32 (dk_at dksX0_put_2 15 rfl rfl)
theorem dX0_put_63 : decode cX0_put 63 = .ok (.l2i, 1) := dk_136 (dk_at dksX0_put_2 16 rfl rfl)
theorem dX0_put_64 : decode cX0_put 64 = .ok (.iastore, 1) := dk_79 (dk_at dksX0_put_2 17 rfl rfl)
theorem dX0_put_65 : decode cX0_put 65 = .ok (.goto 10, 3) := dk_167 0 10 (dk_at dksX0_put_2 18 rfl rfl)
theorem dX0_put_68 : decode cX0_put 68 = .ok (.aload_n 0, 1) := dk_42 (dk_at dksX0_put_2 21 rfl rfl)
theorem dX0_put_69 : decode cX0_put 69 = .ok (.checkcast 9, 3) := dk_192 0 9 (dk_at dksX0_put_3 0 rfl rfl)
theorem dX0_put_72 : decode cX0_put 72 = .ok (.iload_n 1, 1) := dk_27 (dk_at dksX0_put_3 3 rfl rfl)
theorem dX0_put_73 : decode cX0_put 73 = .ok (.lload_n 2, 1) := dk_32 (dk_at dksX0_put_3 4 rfl rfl)
theorem dX0_put_74 : decode cX0_put 74 = .ok (.lastore, 1) := dk_80 (dk_at dksX0_put_3 5 rfl rfl)
theorem dX0_put_75 : decode cX0_put 75 = .ok (.return_, 1) := dk_177 (dk_at dksX0_put_3 6 rfl rfl)
abbrev cX0_read : ByteArray := prog_1_method_18_code
def yX0_read : MethodName := ⟨RX0, "read", "(II)J"⟩
def dkwX0_read_1 : List UInt8 := [173, 78, 42, 45, 182, 0, 143, 133, 173]
abbrev dktX0_read_1 : List UInt8 := dkwX0_read_1 ++ []
def dkwX0_read_0 : List UInt8 := [42, 3, 181, 0, 85, 42, 27, 182, 0, 127, 28, 184, 0, 137, 173, 78, 42, 6, 181, 0, 85, 20, 0, 141]
abbrev dktX0_read_0 : List UInt8 := dkwX0_read_0 ++ dktX0_read_1
theorem dksX0_read_0 : cX0_read.data.toList.drop 0 = dktX0_read_0 := by decide +kernel
theorem dksX0_read_1 : cX0_read.data.toList.drop 24 = dktX0_read_1 := dk_seg dksX0_read_0 24 rfl rfl
theorem dX0_read_0 : decode cX0_read 0 = .ok (.aload_n 0, 1) := dk_42 (dk_at dksX0_read_0 0 rfl rfl)
theorem dX0_read_1 : decode cX0_read 1 = .ok (.iconst 0, 1) := dk_3 (dk_at dksX0_read_0 1 rfl rfl)
theorem dX0_read_2 : decode cX0_read 2 = .ok (.putfield 85, 3) := dk_181 0 85 (dk_at dksX0_read_0 2 rfl rfl)
theorem dX0_read_5 : decode cX0_read 5 = .ok (.aload_n 0, 1) := dk_42 (dk_at dksX0_read_0 5 rfl rfl)
theorem dX0_read_6 : decode cX0_read 6 = .ok (.iload_n 1, 1) := dk_27 (dk_at dksX0_read_0 6 rfl rfl)
theorem dX0_read_7 : decode cX0_read 7 = .ok (.invokevirtual 127, 3) := dk_182 0 127 (dk_at dksX0_read_0 7 rfl rfl)
theorem dX0_read_10 : decode cX0_read 10 = .ok (.iload_n 2, 1) := dk_28 (dk_at dksX0_read_0 10 rfl rfl)
theorem dX0_read_11 : decode cX0_read 11 = .ok (.invokestatic 137, 3) := dk_184 0 137 (dk_at dksX0_read_0 11 rfl rfl)
theorem dX0_read_14 : decode cX0_read 14 = .ok (.lreturn, 1) := dk_173 (dk_at dksX0_read_0 14 rfl rfl)
theorem dX0_read_15 : decode cX0_read 15 = .ok (.astore_n 3, 1) := dk_78 (dk_at dksX0_read_0 15 rfl rfl)
theorem dX0_read_16 : decode cX0_read 16 = .ok (.aload_n 0, 1) := dk_42 (dk_at dksX0_read_0 16 rfl rfl)
theorem dX0_read_17 : decode cX0_read 17 = .ok (.iconst 3, 1) := dk_6 (dk_at dksX0_read_0 17 rfl rfl)
theorem dX0_read_18 : decode cX0_read 18 = .ok (.putfield 85, 3) := dk_181 0 85 (dk_at dksX0_read_0 18 rfl rfl)
theorem dX0_read_21 : decode cX0_read 21 = .ok (.ldc2_w 141, 3) := dk_20 0 141 (dk_at dksX0_read_0 21 rfl rfl)
theorem dX0_read_24 : decode cX0_read 24 = .ok (.lreturn, 1) := dk_173 (dk_at dksX0_read_1 0 rfl rfl)
theorem dX0_read_25 : decode cX0_read 25 = .ok (.astore_n 3, 1) := dk_78 (dk_at dksX0_read_1 1 rfl rfl)
theorem dX0_read_26 : decode cX0_read 26 = .ok (.aload_n 0, 1) := dk_42 (dk_at dksX0_read_1 2 rfl rfl)
theorem dX0_read_27 : decode cX0_read 27 = .ok (.aload_n 3, 1) := dk_45 (dk_at dksX0_read_1 3 rfl rfl)
theorem dX0_read_28 : decode cX0_read 28 = .ok (.invokevirtual 143, 3) := dk_182 0 143 (dk_at dksX0_read_1 4 rfl rfl)
theorem dX0_read_31 : decode cX0_read 31 = .ok (.i2l, 1) := dk_133 (dk_at dksX0_read_1 7 rfl rfl)
theorem dX0_read_32 : decode cX0_read 32 = .ok (.lreturn, 1) := dk_173 (dk_at dksX0_read_1 8 rfl rfl)
abbrev cX0_number : ByteArray := prog_1_method_4_code
def yX0_number : MethodName := ⟨RX0, "number", "(Ljava/lang/Object;I)J"⟩
def dkwX0_number_2 : List UInt8 := [46, 133, 167, 0, 9, 42, 192, 0, 9, 27, 47, 173]
abbrev dktX0_number_2 : List UInt8 := dkwX0_number_2 ++ []
def dkwX0_number_1 : List UInt8 := [42, 192, 0, 5, 77, 44, 27, 53, 133, 173, 42, 193, 0, 7, 153, 0, 15, 42, 192, 0, 7, 77, 44, 27]
abbrev dktX0_number_1 : List UInt8 := dkwX0_number_1 ++ dktX0_number_2
def dkwX0_number_0 : List UInt8 := [42, 193, 0, 3, 153, 0, 13, 42, 192, 0, 3, 77, 44, 27, 51, 133, 173, 42, 193, 0, 5, 153, 0, 13]
abbrev dktX0_number_0 : List UInt8 := dkwX0_number_0 ++ dktX0_number_1
theorem dksX0_number_0 : cX0_number.data.toList.drop 0 = dktX0_number_0 := by decide +kernel
theorem dksX0_number_1 : cX0_number.data.toList.drop 24 = dktX0_number_1 := dk_seg dksX0_number_0 24 rfl rfl
theorem dksX0_number_2 : cX0_number.data.toList.drop 48 = dktX0_number_2 := dk_seg dksX0_number_1 24 rfl rfl
theorem dX0_number_0 : decode cX0_number 0 = .ok (.aload_n 0, 1) := dk_42 (dk_at dksX0_number_0 0 rfl rfl)
theorem dX0_number_1 : decode cX0_number 1 = .ok (.instanceof 3, 3) := dk_193 0 3 (dk_at dksX0_number_0 1 rfl rfl)
theorem dX0_number_4 : decode cX0_number 4 = .ok (.ifCond .eq 13, 3) := dk_153 0 13 (dk_at dksX0_number_0 4 rfl rfl)
theorem dX0_number_7 : decode cX0_number 7 = .ok (.aload_n 0, 1) := dk_42 (dk_at dksX0_number_0 7 rfl rfl)
theorem dX0_number_8 : decode cX0_number 8 = .ok (.checkcast 3, 3) := dk_192 0 3 (dk_at dksX0_number_0 8 rfl rfl)
theorem dX0_number_11 : decode cX0_number 11 = .ok (.astore_n 2, 1) := dk_77 (dk_at dksX0_number_0 11 rfl rfl)
theorem dX0_number_12 : decode cX0_number 12 = .ok (.aload_n 2, 1) := dk_44 (dk_at dksX0_number_0 12 rfl rfl)
theorem dX0_number_13 : decode cX0_number 13 = .ok (.iload_n 1, 1) := dk_27 (dk_at dksX0_number_0 13 rfl rfl)
theorem dX0_number_14 : decode cX0_number 14 = .ok (.baload, 1) := dk_51 (dk_at dksX0_number_0 14 rfl rfl)
theorem dX0_number_15 : decode cX0_number 15 = .ok (.i2l, 1) := dk_133 (dk_at dksX0_number_0 15 rfl rfl)
theorem dX0_number_16 : decode cX0_number 16 = .ok (.lreturn, 1) := dk_173 (dk_at dksX0_number_0 16 rfl rfl)
theorem dX0_number_17 : decode cX0_number 17 = .ok (.aload_n 0, 1) := dk_42 (dk_at dksX0_number_0 17 rfl rfl)
theorem dX0_number_18 : decode cX0_number 18 = .ok (.instanceof 5, 3) := dk_193 0 5 (dk_at dksX0_number_0 18 rfl rfl)
theorem dX0_number_21 : decode cX0_number 21 = .ok (.ifCond .eq 13, 3) := dk_153 0 13 (dk_at dksX0_number_0 21 rfl rfl)
theorem dX0_number_24 : decode cX0_number 24 = .ok (.aload_n 0, 1) := dk_42 (dk_at dksX0_number_1 0 rfl rfl)
theorem dX0_number_25 : decode cX0_number 25 = .ok (.checkcast 5, 3) := dk_192 0 5 (dk_at dksX0_number_1 1 rfl rfl)
theorem dX0_number_28 : decode cX0_number 28 = .ok (.astore_n 2, 1) := dk_77 (dk_at dksX0_number_1 4 rfl rfl)
theorem dX0_number_29 : decode cX0_number 29 = .ok (.aload_n 2, 1) := dk_44 (dk_at dksX0_number_1 5 rfl rfl)
theorem dX0_number_30 : decode cX0_number 30 = .ok (.iload_n 1, 1) := dk_27 (dk_at dksX0_number_1 6 rfl rfl)
theorem dX0_number_31 : decode cX0_number 31 = .ok (.saload, 1) := dk_53 (dk_at dksX0_number_1 7 rfl rfl)
theorem dX0_number_32 : decode cX0_number 32 = .ok (.i2l, 1) := dk_133 (dk_at dksX0_number_1 8 rfl rfl)
theorem dX0_number_33 : decode cX0_number 33 = .ok (.lreturn, 1) := dk_173 (dk_at dksX0_number_1 9 rfl rfl)
theorem dX0_number_34 : decode cX0_number 34 = .ok (.aload_n 0, 1) := dk_42 (dk_at dksX0_number_1 10 rfl rfl)
theorem dX0_number_35 : decode cX0_number 35 = .ok (.instanceof 7, 3) := dk_193 0 7 (dk_at dksX0_number_1 11 rfl rfl)
theorem dX0_number_38 : decode cX0_number 38 = .ok (.ifCond .eq 15, 3) := dk_153 0 15 (dk_at dksX0_number_1 14 rfl rfl)
theorem dX0_number_41 : decode cX0_number 41 = .ok (.aload_n 0, 1) := dk_42 (dk_at dksX0_number_1 17 rfl rfl)
theorem dX0_number_42 : decode cX0_number 42 = .ok (.checkcast 7, 3) := dk_192 0 7 (dk_at dksX0_number_1 18 rfl rfl)
theorem dX0_number_45 : decode cX0_number 45 = .ok (.astore_n 2, 1) := dk_77 (dk_at dksX0_number_1 21 rfl rfl)
theorem dX0_number_46 : decode cX0_number 46 = .ok (.aload_n 2, 1) := dk_44 (dk_at dksX0_number_1 22 rfl rfl)
theorem dX0_number_47 : decode cX0_number 47 = .ok (.iload_n 1, 1) := dk_27 (dk_at dksX0_number_1 23 rfl rfl)
theorem dX0_number_48 : decode cX0_number 48 = .ok (.iaload, 1) := dk_46 (dk_at dksX0_number_2 0 rfl rfl)
theorem dX0_number_49 : decode cX0_number 49 = .ok (.i2l, 1) := dk_133 (dk_at dksX0_number_2 1 rfl rfl)
theorem dX0_number_50 : decode cX0_number 50 = .ok (.goto 9, 3) := dk_167 0 9 (dk_at dksX0_number_2 2 rfl rfl)
theorem dX0_number_53 : decode cX0_number 53 = .ok (.aload_n 0, 1) := dk_42 (dk_at dksX0_number_2 5 rfl rfl)
theorem dX0_number_54 : decode cX0_number 54 = .ok (.checkcast 9, 3) := dk_192 0 9 (dk_at dksX0_number_2 6 rfl rfl)
theorem dX0_number_57 : decode cX0_number 57 = .ok (.iload_n 1, 1) := dk_27 (dk_at dksX0_number_2 9 rfl rfl)
theorem dX0_number_58 : decode cX0_number 58 = .ok (.laload, 1) := dk_47 (dk_at dksX0_number_2 10 rfl rfl)
theorem dX0_number_59 : decode cX0_number 59 = .ok (.lreturn, 1) := dk_173 (dk_at dksX0_number_2 11 rfl rfl)
abbrev cX0_none : ByteArray := prog_1_method_12_code
def yX0_none : MethodName := ⟨RX0, "none", "(LCargoFlag$Refused;)I"⟩
def dkwX0_none_0 : List UInt8 := [42, 43, 180, 0, 95, 181, 0, 85, 2, 172]
abbrev dktX0_none_0 : List UInt8 := dkwX0_none_0 ++ []
theorem dksX0_none_0 : cX0_none.data.toList.drop 0 = dktX0_none_0 := by decide +kernel
theorem dX0_none_0 : decode cX0_none 0 = .ok (.aload_n 0, 1) := dk_42 (dk_at dksX0_none_0 0 rfl rfl)
theorem dX0_none_1 : decode cX0_none 1 = .ok (.aload_n 1, 1) := dk_43 (dk_at dksX0_none_0 1 rfl rfl)
theorem dX0_none_2 : decode cX0_none 2 = .ok (.getfield 95, 3) := dk_180 0 95 (dk_at dksX0_none_0 2 rfl rfl)
theorem dX0_none_5 : decode cX0_none 5 = .ok (.putfield 85, 3) := dk_181 0 85 (dk_at dksX0_none_0 5 rfl rfl)
theorem dX0_none_8 : decode cX0_none 8 = .ok (.iconst (-1), 1) := dk_2 (dk_at dksX0_none_0 8 rfl rfl)
theorem dX0_none_9 : decode cX0_none 9 = .ok (.ireturn, 1) := dk_172 (dk_at dksX0_none_0 9 rfl rfl)
abbrev cX0_pour : ByteArray := prog_1_method_19_code
def yX0_pour : MethodName := ⟨RX0, "pour", "(IIIII)Z"⟩
def dkwX0_pour_5 : List UInt8 := [182, 0, 123, 172]
abbrev dktX0_pour_5 : List UInt8 := dkwX0_pour_5 ++ []
def dkwX0_pour_4 : List UInt8 := [184, 0, 151, 167, 0, 14, 58, 8, 42, 180, 0, 44, 6, 182, 0, 91, 191, 4, 172, 58, 6, 42, 25, 6]
abbrev dktX0_pour_4 : List UInt8 := dkwX0_pour_4 ++ dktX0_pour_5
def dkwX0_pour_3 : List UInt8 := [160, 0, 7, 4, 167, 0, 4, 3, 16, 8, 182, 0, 110, 25, 6, 28, 25, 7, 21, 4, 21, 5]
abbrev dktX0_pour_3 : List UInt8 := dkwX0_pour_3 ++ dktX0_pour_4
def dkwX0_pour_2 : List UInt8 := [27, 182, 0, 127, 58, 6, 42, 29, 182, 0, 127, 58, 7, 42, 25, 6, 184, 0, 147, 25, 7, 184, 0, 147]
abbrev dktX0_pour_2 : List UInt8 := dkwX0_pour_2 ++ dktX0_pour_3
def dkwX0_pour_1 : List UInt8 := [28, 155, 0, 17, 21, 4, 155, 0, 12, 21, 5, 155, 0, 7, 4, 167, 0, 4, 3, 4, 182, 0, 110, 42]
abbrev dktX0_pour_1 : List UInt8 := dkwX0_pour_1 ++ dktX0_pour_2
def dkwX0_pour_0 : List UInt8 := [42, 3, 181, 0, 85, 42, 27, 155, 0, 35, 27, 7, 162, 0, 30, 29, 155, 0, 26, 29, 7, 162, 0, 21]
abbrev dktX0_pour_0 : List UInt8 := dkwX0_pour_0 ++ dktX0_pour_1
theorem dksX0_pour_0 : cX0_pour.data.toList.drop 0 = dktX0_pour_0 := by decide +kernel
theorem dksX0_pour_1 : cX0_pour.data.toList.drop 24 = dktX0_pour_1 := dk_seg dksX0_pour_0 24 rfl rfl
theorem dksX0_pour_2 : cX0_pour.data.toList.drop 48 = dktX0_pour_2 := dk_seg dksX0_pour_1 24 rfl rfl
theorem dksX0_pour_3 : cX0_pour.data.toList.drop 72 = dktX0_pour_3 := dk_seg dksX0_pour_2 24 rfl rfl
theorem dksX0_pour_4 : cX0_pour.data.toList.drop 94 = dktX0_pour_4 := dk_seg dksX0_pour_3 22 rfl rfl
theorem dksX0_pour_5 : cX0_pour.data.toList.drop 118 = dktX0_pour_5 := dk_seg dksX0_pour_4 24 rfl rfl
theorem dX0_pour_0 : decode cX0_pour 0 = .ok (.aload_n 0, 1) := dk_42 (dk_at dksX0_pour_0 0 rfl rfl)
theorem dX0_pour_1 : decode cX0_pour 1 = .ok (.iconst 0, 1) := dk_3 (dk_at dksX0_pour_0 1 rfl rfl)
theorem dX0_pour_2 : decode cX0_pour 2 = .ok (.putfield 85, 3) := dk_181 0 85 (dk_at dksX0_pour_0 2 rfl rfl)
theorem dX0_pour_5 : decode cX0_pour 5 = .ok (.aload_n 0, 1) := dk_42 (dk_at dksX0_pour_0 5 rfl rfl)
theorem dX0_pour_6 : decode cX0_pour 6 = .ok (.iload_n 1, 1) := dk_27 (dk_at dksX0_pour_0 6 rfl rfl)
theorem dX0_pour_7 : decode cX0_pour 7 = .ok (.ifCond .lt 35, 3) := dk_155 0 35 (dk_at dksX0_pour_0 7 rfl rfl)
theorem dX0_pour_10 : decode cX0_pour 10 = .ok (.iload_n 1, 1) := dk_27 (dk_at dksX0_pour_0 10 rfl rfl)
theorem dX0_pour_11 : decode cX0_pour 11 = .ok (.iconst 4, 1) := dk_7 (dk_at dksX0_pour_0 11 rfl rfl)
theorem dX0_pour_12 : decode cX0_pour 12 = .ok (.if_icmp .ge 30, 3) := dk_162 0 30 (dk_at dksX0_pour_0 12 rfl rfl)
theorem dX0_pour_15 : decode cX0_pour 15 = .ok (.iload_n 3, 1) := dk_29 (dk_at dksX0_pour_0 15 rfl rfl)
theorem dX0_pour_16 : decode cX0_pour 16 = .ok (.ifCond .lt 26, 3) := dk_155 0 26 (dk_at dksX0_pour_0 16 rfl rfl)
theorem dX0_pour_19 : decode cX0_pour 19 = .ok (.iload_n 3, 1) := dk_29 (dk_at dksX0_pour_0 19 rfl rfl)
theorem dX0_pour_20 : decode cX0_pour 20 = .ok (.iconst 4, 1) := dk_7 (dk_at dksX0_pour_0 20 rfl rfl)
theorem dX0_pour_21 : decode cX0_pour 21 = .ok (.if_icmp .ge 21, 3) := dk_162 0 21 (dk_at dksX0_pour_0 21 rfl rfl)
theorem dX0_pour_24 : decode cX0_pour 24 = .ok (.iload_n 2, 1) := dk_28 (dk_at dksX0_pour_1 0 rfl rfl)
theorem dX0_pour_25 : decode cX0_pour 25 = .ok (.ifCond .lt 17, 3) := dk_155 0 17 (dk_at dksX0_pour_1 1 rfl rfl)
theorem dX0_pour_28 : decode cX0_pour 28 = .ok (.iload 4, 2) := dk_21 4 (dk_at dksX0_pour_1 4 rfl rfl)
theorem dX0_pour_30 : decode cX0_pour 30 = .ok (.ifCond .lt 12, 3) := dk_155 0 12 (dk_at dksX0_pour_1 6 rfl rfl)
theorem dX0_pour_33 : decode cX0_pour 33 = .ok (.iload 5, 2) := dk_21 5 (dk_at dksX0_pour_1 9 rfl rfl)
theorem dX0_pour_35 : decode cX0_pour 35 = .ok (.ifCond .lt 7, 3) := dk_155 0 7 (dk_at dksX0_pour_1 11 rfl rfl)
theorem dX0_pour_38 : decode cX0_pour 38 = .ok (.iconst 1, 1) := dk_4 (dk_at dksX0_pour_1 14 rfl rfl)
theorem dX0_pour_39 : decode cX0_pour 39 = .ok (.goto 4, 3) := dk_167 0 4 (dk_at dksX0_pour_1 15 rfl rfl)
theorem dX0_pour_42 : decode cX0_pour 42 = .ok (.iconst 0, 1) := dk_3 (dk_at dksX0_pour_1 18 rfl rfl)
theorem dX0_pour_43 : decode cX0_pour 43 = .ok (.iconst 1, 1) := dk_4 (dk_at dksX0_pour_1 19 rfl rfl)
theorem dX0_pour_44 : decode cX0_pour 44 = .ok (.invokevirtual 110, 3) := dk_182 0 110 (dk_at dksX0_pour_1 20 rfl rfl)
theorem dX0_pour_47 : decode cX0_pour 47 = .ok (.aload_n 0, 1) := dk_42 (dk_at dksX0_pour_1 23 rfl rfl)
theorem dX0_pour_48 : decode cX0_pour 48 = .ok (.iload_n 1, 1) := dk_27 (dk_at dksX0_pour_2 0 rfl rfl)
theorem dX0_pour_49 : decode cX0_pour 49 = .ok (.invokevirtual 127, 3) := dk_182 0 127 (dk_at dksX0_pour_2 1 rfl rfl)
theorem dX0_pour_52 : decode cX0_pour 52 = .ok (.astore 6, 2) := dk_58 6 (dk_at dksX0_pour_2 4 rfl rfl)
theorem dX0_pour_54 : decode cX0_pour 54 = .ok (.aload_n 0, 1) := dk_42 (dk_at dksX0_pour_2 6 rfl rfl)
theorem dX0_pour_55 : decode cX0_pour 55 = .ok (.iload_n 3, 1) := dk_29 (dk_at dksX0_pour_2 7 rfl rfl)
theorem dX0_pour_56 : decode cX0_pour 56 = .ok (.invokevirtual 127, 3) := dk_182 0 127 (dk_at dksX0_pour_2 8 rfl rfl)
theorem dX0_pour_59 : decode cX0_pour 59 = .ok (.astore 7, 2) := dk_58 7 (dk_at dksX0_pour_2 11 rfl rfl)
theorem dX0_pour_61 : decode cX0_pour 61 = .ok (.aload_n 0, 1) := dk_42 (dk_at dksX0_pour_2 13 rfl rfl)
theorem dX0_pour_62 : decode cX0_pour 62 = .ok (.aload 6, 2) := dk_25 6 (dk_at dksX0_pour_2 14 rfl rfl)
theorem dX0_pour_64 : decode cX0_pour 64 = .ok (.invokestatic 147, 3) := dk_184 0 147 (dk_at dksX0_pour_2 16 rfl rfl)
theorem dX0_pour_67 : decode cX0_pour 67 = .ok (.aload 7, 2) := dk_25 7 (dk_at dksX0_pour_2 19 rfl rfl)
theorem dX0_pour_69 : decode cX0_pour 69 = .ok (.invokestatic 147, 3) := dk_184 0 147 (dk_at dksX0_pour_2 21 rfl rfl)
theorem dX0_pour_72 : decode cX0_pour 72 = .ok (.if_icmp .ne 7, 3) := dk_160 0 7 (dk_at dksX0_pour_3 0 rfl rfl)
theorem dX0_pour_75 : decode cX0_pour 75 = .ok (.iconst 1, 1) := dk_4 (dk_at dksX0_pour_3 3 rfl rfl)
theorem dX0_pour_76 : decode cX0_pour 76 = .ok (.goto 4, 3) := dk_167 0 4 (dk_at dksX0_pour_3 4 rfl rfl)
theorem dX0_pour_79 : decode cX0_pour 79 = .ok (.iconst 0, 1) := dk_3 (dk_at dksX0_pour_3 7 rfl rfl)
theorem dX0_pour_80 : decode cX0_pour 80 = .ok (.bipush 8, 2) := dk_16 8 (dk_at dksX0_pour_3 8 rfl rfl)
theorem dX0_pour_82 : decode cX0_pour 82 = .ok (.invokevirtual 110, 3) := dk_182 0 110 (dk_at dksX0_pour_3 10 rfl rfl)
theorem dX0_pour_85 : decode cX0_pour 85 = .ok (.aload 6, 2) := dk_25 6 (dk_at dksX0_pour_3 13 rfl rfl)
theorem dX0_pour_87 : decode cX0_pour 87 = .ok (.iload_n 2, 1) := dk_28 (dk_at dksX0_pour_3 15 rfl rfl)
theorem dX0_pour_88 : decode cX0_pour 88 = .ok (.aload 7, 2) := dk_25 7 (dk_at dksX0_pour_3 16 rfl rfl)
theorem dX0_pour_90 : decode cX0_pour 90 = .ok (.iload 4, 2) := dk_21 4 (dk_at dksX0_pour_3 18 rfl rfl)
theorem dX0_pour_92 : decode cX0_pour 92 = .ok (.iload 5, 2) := dk_21 5 (dk_at dksX0_pour_3 20 rfl rfl)
theorem dX0_pour_94 : decode cX0_pour 94 = .ok (.invokestatic 151, 3) := dk_184 0 151 (dk_at dksX0_pour_4 0 rfl rfl)
theorem dX0_pour_97 : decode cX0_pour 97 = .ok (.goto 14, 3) := dk_167 0 14 (dk_at dksX0_pour_4 3 rfl rfl)
theorem dX0_pour_100 : decode cX0_pour 100 = .ok (.astore 8, 2) := dk_58 8 (dk_at dksX0_pour_4 6 rfl rfl)
theorem dX0_pour_102 : decode cX0_pour 102 = .ok (.aload_n 0, 1) := dk_42 (dk_at dksX0_pour_4 8 rfl rfl)
theorem dX0_pour_103 : decode cX0_pour 103 = .ok (.getfield 44, 3) := dk_180 0 44 (dk_at dksX0_pour_4 9 rfl rfl)
theorem dX0_pour_106 : decode cX0_pour 106 = .ok (.iconst 3, 1) := dk_6 (dk_at dksX0_pour_4 12 rfl rfl)
theorem dX0_pour_107 : decode cX0_pour 107 = .ok (.invokevirtual 91, 3) := dk_182 0 91 (dk_at dksX0_pour_4 13 rfl rfl)
theorem dX0_pour_110 : decode cX0_pour 110 = .ok (.athrow, 1) := dk_191 (dk_at dksX0_pour_4 16 rfl rfl)
theorem dX0_pour_111 : decode cX0_pour 111 = .ok (.iconst 1, 1) := dk_4 (dk_at dksX0_pour_4 17 rfl rfl)
theorem dX0_pour_112 : decode cX0_pour 112 = .ok (.ireturn, 1) := dk_172 (dk_at dksX0_pour_4 18 rfl rfl)
theorem dX0_pour_113 : decode cX0_pour 113 = .ok (.astore 6, 2) := dk_58 6 (dk_at dksX0_pour_4 19 rfl rfl)
theorem dX0_pour_115 : decode cX0_pour 115 = .ok (.aload_n 0, 1) := dk_42 (dk_at dksX0_pour_4 21 rfl rfl)
theorem dX0_pour_116 : decode cX0_pour 116 = .ok (.aload 6, 2) := dk_25 6 (dk_at dksX0_pour_4 22 rfl rfl)
theorem dX0_pour_118 : decode cX0_pour 118 = .ok (.invokevirtual 123, 3) := dk_182 0 123 (dk_at dksX0_pour_5 0 rfl rfl)
theorem dX0_pour_121 : decode cX0_pour 121 = .ok (.ireturn, 1) := dk_172 (dk_at dksX0_pour_5 3 rfl rfl)
abbrev cX0_sortOf : ByteArray := prog_1_method_2_code
def yX0_sortOf : MethodName := ⟨RX0, "sortOf", "(Ljava/lang/Object;)I"⟩
def dkwX0_sortOf_1 : List UInt8 := [193, 0, 7, 153, 0, 7, 5, 167, 0, 4, 6, 172]
abbrev dktX0_sortOf_1 : List UInt8 := dkwX0_sortOf_1 ++ []
def dkwX0_sortOf_0 : List UInt8 := [42, 193, 0, 3, 153, 0, 7, 3, 167, 0, 26, 42, 193, 0, 5, 153, 0, 7, 4, 167, 0, 15, 42]
abbrev dktX0_sortOf_0 : List UInt8 := dkwX0_sortOf_0 ++ dktX0_sortOf_1
theorem dksX0_sortOf_0 : cX0_sortOf.data.toList.drop 0 = dktX0_sortOf_0 := by decide +kernel
theorem dksX0_sortOf_1 : cX0_sortOf.data.toList.drop 23 = dktX0_sortOf_1 := dk_seg dksX0_sortOf_0 23 rfl rfl
theorem dX0_sortOf_0 : decode cX0_sortOf 0 = .ok (.aload_n 0, 1) := dk_42 (dk_at dksX0_sortOf_0 0 rfl rfl)
theorem dX0_sortOf_1 : decode cX0_sortOf 1 = .ok (.instanceof 3, 3) := dk_193 0 3 (dk_at dksX0_sortOf_0 1 rfl rfl)
theorem dX0_sortOf_4 : decode cX0_sortOf 4 = .ok (.ifCond .eq 7, 3) := dk_153 0 7 (dk_at dksX0_sortOf_0 4 rfl rfl)
theorem dX0_sortOf_7 : decode cX0_sortOf 7 = .ok (.iconst 0, 1) := dk_3 (dk_at dksX0_sortOf_0 7 rfl rfl)
theorem dX0_sortOf_8 : decode cX0_sortOf 8 = .ok (.goto 26, 3) := dk_167 0 26 (dk_at dksX0_sortOf_0 8 rfl rfl)
theorem dX0_sortOf_11 : decode cX0_sortOf 11 = .ok (.aload_n 0, 1) := dk_42 (dk_at dksX0_sortOf_0 11 rfl rfl)
theorem dX0_sortOf_12 : decode cX0_sortOf 12 = .ok (.instanceof 5, 3) := dk_193 0 5 (dk_at dksX0_sortOf_0 12 rfl rfl)
theorem dX0_sortOf_15 : decode cX0_sortOf 15 = .ok (.ifCond .eq 7, 3) := dk_153 0 7 (dk_at dksX0_sortOf_0 15 rfl rfl)
theorem dX0_sortOf_18 : decode cX0_sortOf 18 = .ok (.iconst 1, 1) := dk_4 (dk_at dksX0_sortOf_0 18 rfl rfl)
theorem dX0_sortOf_19 : decode cX0_sortOf 19 = .ok (.goto 15, 3) := dk_167 0 15 (dk_at dksX0_sortOf_0 19 rfl rfl)
theorem dX0_sortOf_22 : decode cX0_sortOf 22 = .ok (.aload_n 0, 1) := dk_42 (dk_at dksX0_sortOf_0 22 rfl rfl)
theorem dX0_sortOf_23 : decode cX0_sortOf 23 = .ok (.instanceof 7, 3) := dk_193 0 7 (dk_at dksX0_sortOf_1 0 rfl rfl)
theorem dX0_sortOf_26 : decode cX0_sortOf 26 = .ok (.ifCond .eq 7, 3) := dk_153 0 7 (dk_at dksX0_sortOf_1 3 rfl rfl)
theorem dX0_sortOf_29 : decode cX0_sortOf 29 = .ok (.iconst 2, 1) := dk_5 (dk_at dksX0_sortOf_1 6 rfl rfl)
theorem dX0_sortOf_30 : decode cX0_sortOf 30 = .ok (.goto 4, 3) := dk_167 0 4 (dk_at dksX0_sortOf_1 7 rfl rfl)
theorem dX0_sortOf_33 : decode cX0_sortOf 33 = .ok (.iconst 3, 1) := dk_6 (dk_at dksX0_sortOf_1 10 rfl rfl)
theorem dX0_sortOf_34 : decode cX0_sortOf 34 = .ok (.ireturn, 1) := dk_172 (dk_at dksX0_sortOf_1 11 rfl rfl)
abbrev cX0_feed : ByteArray := prog_1_method_32_code
def yX0_feed : MethodName := ⟨RX0, "feed", "(IIIII)I"⟩
def dkwX0_feed_2 : List UInt8 := [172]
abbrev dktX0_feed_2 : List UInt8 := dkwX0_feed_2 ++ []
def dkwX0_feed_1 : List UInt8 := [182, 0, 201, 42, 29, 182, 0, 201, 42, 21, 4, 182, 0, 201, 42, 21, 5, 182, 0, 201, 42, 180, 0, 198]
abbrev dktX0_feed_1 : List UInt8 := dkwX0_feed_1 ++ dktX0_feed_2
def dkwX0_feed_0 : List UInt8 := [42, 180, 0, 198, 16, 20, 96, 17, 3, 132, 164, 0, 5, 2, 172, 42, 27, 182, 0, 201, 42, 28]
abbrev dktX0_feed_0 : List UInt8 := dkwX0_feed_0 ++ dktX0_feed_1
theorem dksX0_feed_0 : cX0_feed.data.toList.drop 0 = dktX0_feed_0 := by decide +kernel
theorem dksX0_feed_1 : cX0_feed.data.toList.drop 22 = dktX0_feed_1 := dk_seg dksX0_feed_0 22 rfl rfl
theorem dksX0_feed_2 : cX0_feed.data.toList.drop 46 = dktX0_feed_2 := dk_seg dksX0_feed_1 24 rfl rfl
theorem dX0_feed_0 : decode cX0_feed 0 = .ok (.aload_n 0, 1) := dk_42 (dk_at dksX0_feed_0 0 rfl rfl)
theorem dX0_feed_1 : decode cX0_feed 1 = .ok (.getfield 198, 3) := dk_180 0 198 (dk_at dksX0_feed_0 1 rfl rfl)
theorem dX0_feed_4 : decode cX0_feed 4 = .ok (.bipush 20, 2) := dk_16 20 (dk_at dksX0_feed_0 4 rfl rfl)
theorem dX0_feed_6 : decode cX0_feed 6 = .ok (.iadd, 1) := dk_96 (dk_at dksX0_feed_0 6 rfl rfl)
theorem dX0_feed_7 : decode cX0_feed 7 = .ok (.sipush 900, 3) := dk_17 3 132 (dk_at dksX0_feed_0 7 rfl rfl)
theorem dX0_feed_10 : decode cX0_feed 10 = .ok (.if_icmp .le 5, 3) := dk_164 0 5 (dk_at dksX0_feed_0 10 rfl rfl)
theorem dX0_feed_13 : decode cX0_feed 13 = .ok (.iconst (-1), 1) := dk_2 (dk_at dksX0_feed_0 13 rfl rfl)
theorem dX0_feed_14 : decode cX0_feed 14 = .ok (.ireturn, 1) := dk_172 (dk_at dksX0_feed_0 14 rfl rfl)
theorem dX0_feed_15 : decode cX0_feed 15 = .ok (.aload_n 0, 1) := dk_42 (dk_at dksX0_feed_0 15 rfl rfl)
theorem dX0_feed_16 : decode cX0_feed 16 = .ok (.iload_n 1, 1) := dk_27 (dk_at dksX0_feed_0 16 rfl rfl)
theorem dX0_feed_17 : decode cX0_feed 17 = .ok (.invokevirtual 201, 3) := dk_182 0 201 (dk_at dksX0_feed_0 17 rfl rfl)
theorem dX0_feed_20 : decode cX0_feed 20 = .ok (.aload_n 0, 1) := dk_42 (dk_at dksX0_feed_0 20 rfl rfl)
theorem dX0_feed_21 : decode cX0_feed 21 = .ok (.iload_n 2, 1) := dk_28 (dk_at dksX0_feed_0 21 rfl rfl)
theorem dX0_feed_22 : decode cX0_feed 22 = .ok (.invokevirtual 201, 3) := dk_182 0 201 (dk_at dksX0_feed_1 0 rfl rfl)
theorem dX0_feed_25 : decode cX0_feed 25 = .ok (.aload_n 0, 1) := dk_42 (dk_at dksX0_feed_1 3 rfl rfl)
theorem dX0_feed_26 : decode cX0_feed 26 = .ok (.iload_n 3, 1) := dk_29 (dk_at dksX0_feed_1 4 rfl rfl)
theorem dX0_feed_27 : decode cX0_feed 27 = .ok (.invokevirtual 201, 3) := dk_182 0 201 (dk_at dksX0_feed_1 5 rfl rfl)
theorem dX0_feed_30 : decode cX0_feed 30 = .ok (.aload_n 0, 1) := dk_42 (dk_at dksX0_feed_1 8 rfl rfl)
theorem dX0_feed_31 : decode cX0_feed 31 = .ok (.iload 4, 2) := dk_21 4 (dk_at dksX0_feed_1 9 rfl rfl)
theorem dX0_feed_33 : decode cX0_feed 33 = .ok (.invokevirtual 201, 3) := dk_182 0 201 (dk_at dksX0_feed_1 11 rfl rfl)
theorem dX0_feed_36 : decode cX0_feed 36 = .ok (.aload_n 0, 1) := dk_42 (dk_at dksX0_feed_1 14 rfl rfl)
theorem dX0_feed_37 : decode cX0_feed 37 = .ok (.iload 5, 2) := dk_21 5 (dk_at dksX0_feed_1 15 rfl rfl)
theorem dX0_feed_39 : decode cX0_feed 39 = .ok (.invokevirtual 201, 3) := dk_182 0 201 (dk_at dksX0_feed_1 17 rfl rfl)
theorem dX0_feed_42 : decode cX0_feed 42 = .ok (.aload_n 0, 1) := dk_42 (dk_at dksX0_feed_1 20 rfl rfl)
theorem dX0_feed_43 : decode cX0_feed 43 = .ok (.getfield 198, 3) := dk_180 0 198 (dk_at dksX0_feed_1 21 rfl rfl)
theorem dX0_feed_46 : decode cX0_feed 46 = .ok (.ireturn, 1) := dk_172 (dk_at dksX0_feed_2 0 rfl rfl)
abbrev cX0_lay : ByteArray := prog_1_method_33_code
def yX0_lay : MethodName := ⟨RX0, "lay", "(I)V"⟩
def dkwX0_lay_1 : List UInt8 := [180, 0, 198, 4, 96, 181, 0, 198, 132, 2, 248, 167, 255, 226, 177]
abbrev dktX0_lay_1 : List UInt8 := dkwX0_lay_1 ++ []
def dkwX0_lay_0 : List UInt8 := [16, 24, 61, 28, 155, 0, 32, 42, 180, 0, 24, 42, 180, 0, 198, 27, 28, 122, 145, 84, 42, 89]
abbrev dktX0_lay_0 : List UInt8 := dkwX0_lay_0 ++ dktX0_lay_1
theorem dksX0_lay_0 : cX0_lay.data.toList.drop 0 = dktX0_lay_0 := by decide +kernel
theorem dksX0_lay_1 : cX0_lay.data.toList.drop 22 = dktX0_lay_1 := dk_seg dksX0_lay_0 22 rfl rfl
theorem dX0_lay_0 : decode cX0_lay 0 = .ok (.bipush 24, 2) := dk_16 24 (dk_at dksX0_lay_0 0 rfl rfl)
theorem dX0_lay_2 : decode cX0_lay 2 = .ok (.istore_n 2, 1) := dk_61 (dk_at dksX0_lay_0 2 rfl rfl)
theorem dX0_lay_3 : decode cX0_lay 3 = .ok (.iload_n 2, 1) := dk_28 (dk_at dksX0_lay_0 3 rfl rfl)
theorem dX0_lay_4 : decode cX0_lay 4 = .ok (.ifCond .lt 32, 3) := dk_155 0 32 (dk_at dksX0_lay_0 4 rfl rfl)
theorem dX0_lay_7 : decode cX0_lay 7 = .ok (.aload_n 0, 1) := dk_42 (dk_at dksX0_lay_0 7 rfl rfl)
theorem dX0_lay_8 : decode cX0_lay 8 = .ok (.getfield 24, 3) := dk_180 0 24 (dk_at dksX0_lay_0 8 rfl rfl)
theorem dX0_lay_11 : decode cX0_lay 11 = .ok (.aload_n 0, 1) := dk_42 (dk_at dksX0_lay_0 11 rfl rfl)
theorem dX0_lay_12 : decode cX0_lay 12 = .ok (.getfield 198, 3) := dk_180 0 198 (dk_at dksX0_lay_0 12 rfl rfl)
theorem dX0_lay_15 : decode cX0_lay 15 = .ok (.iload_n 1, 1) := dk_27 (dk_at dksX0_lay_0 15 rfl rfl)
theorem dX0_lay_16 : decode cX0_lay 16 = .ok (.iload_n 2, 1) := dk_28 (dk_at dksX0_lay_0 16 rfl rfl)
theorem dX0_lay_17 : decode cX0_lay 17 = .ok (.ishr, 1) := dk_122 (dk_at dksX0_lay_0 17 rfl rfl)
theorem dX0_lay_18 : decode cX0_lay 18 = .ok (.i2b, 1) := dk_145 (dk_at dksX0_lay_0 18 rfl rfl)
theorem dX0_lay_19 : decode cX0_lay 19 = .ok (.bastore, 1) := dk_84 (dk_at dksX0_lay_0 19 rfl rfl)
theorem dX0_lay_20 : decode cX0_lay 20 = .ok (.aload_n 0, 1) := dk_42 (dk_at dksX0_lay_0 20 rfl rfl)
theorem dX0_lay_21 : decode cX0_lay 21 = .ok (.dup, 1) := dk_89 (dk_at dksX0_lay_0 21 rfl rfl)
theorem dX0_lay_22 : decode cX0_lay 22 = .ok (.getfield 198, 3) := dk_180 0 198 (dk_at dksX0_lay_1 0 rfl rfl)
theorem dX0_lay_25 : decode cX0_lay 25 = .ok (.iconst 1, 1) := dk_4 (dk_at dksX0_lay_1 3 rfl rfl)
theorem dX0_lay_26 : decode cX0_lay 26 = .ok (.iadd, 1) := dk_96 (dk_at dksX0_lay_1 4 rfl rfl)
theorem dX0_lay_27 : decode cX0_lay 27 = .ok (.putfield 198, 3) := dk_181 0 198 (dk_at dksX0_lay_1 5 rfl rfl)
theorem dX0_lay_30 : decode cX0_lay 30 = .ok (.iinc 2 (-8), 3) := dk_132 2 248 (dk_at dksX0_lay_1 8 rfl rfl)
theorem dX0_lay_33 : decode cX0_lay 33 = .ok (.goto (-30), 3) := dk_167 255 226 (dk_at dksX0_lay_1 11 rfl rfl)
theorem dX0_lay_36 : decode cX0_lay 36 = .ok (.return_, 1) := dk_177 (dk_at dksX0_lay_1 14 rfl rfl)
abbrev cX0_world : ByteArray := prog_1_method_36_code
def yX0_world : MethodName := ⟨RX0, "world", "(I)I"⟩
def dkwX0_world_2 : List UInt8 := [181, 0, 226, 44, 180, 0, 179, 172, 77, 42, 44, 182, 0, 230, 172]
abbrev dktX0_world_2 : List UInt8 := dkwX0_world_2 ++ []
def dkwX0_world_1 : List UInt8 := [89, 42, 27, 183, 0, 217, 44, 182, 0, 220, 42, 182, 0, 162, 44, 182, 0, 223, 42, 180, 0, 55, 1]
abbrev dktX0_world_1 : List UInt8 := dkwX0_world_1 ++ dktX0_world_2
def dkwX0_world_0 : List UInt8 := [42, 27, 17, 3, 132, 182, 0, 211, 154, 0, 5, 2, 172, 187, 0, 63, 89, 183, 0, 65, 77, 187, 0, 215]
abbrev dktX0_world_0 : List UInt8 := dkwX0_world_0 ++ dktX0_world_1
theorem dksX0_world_0 : cX0_world.data.toList.drop 0 = dktX0_world_0 := by decide +kernel
theorem dksX0_world_1 : cX0_world.data.toList.drop 24 = dktX0_world_1 := dk_seg dksX0_world_0 24 rfl rfl
theorem dksX0_world_2 : cX0_world.data.toList.drop 47 = dktX0_world_2 := dk_seg dksX0_world_1 23 rfl rfl
theorem dX0_world_0 : decode cX0_world 0 = .ok (.aload_n 0, 1) := dk_42 (dk_at dksX0_world_0 0 rfl rfl)
theorem dX0_world_1 : decode cX0_world 1 = .ok (.iload_n 1, 1) := dk_27 (dk_at dksX0_world_0 1 rfl rfl)
theorem dX0_world_2 : decode cX0_world 2 = .ok (.sipush 900, 3) := dk_17 3 132 (dk_at dksX0_world_0 2 rfl rfl)
theorem dX0_world_5 : decode cX0_world 5 = .ok (.invokevirtual 211, 3) := dk_182 0 211 (dk_at dksX0_world_0 5 rfl rfl)
theorem dX0_world_8 : decode cX0_world 8 = .ok (.ifCond .ne 5, 3) := dk_154 0 5 (dk_at dksX0_world_0 8 rfl rfl)
theorem dX0_world_11 : decode cX0_world 11 = .ok (.iconst (-1), 1) := dk_2 (dk_at dksX0_world_0 11 rfl rfl)
theorem dX0_world_12 : decode cX0_world 12 = .ok (.ireturn, 1) := dk_172 (dk_at dksX0_world_0 12 rfl rfl)
theorem dX0_world_13 : decode cX0_world 13 = .ok (.new 63, 3) := dk_187 0 63 (dk_at dksX0_world_0 13 rfl rfl)
theorem dX0_world_16 : decode cX0_world 16 = .ok (.dup, 1) := dk_89 (dk_at dksX0_world_0 16 rfl rfl)
theorem dX0_world_17 : decode cX0_world 17 = .ok (.invokespecial 65, 3) := dk_183 0 65 (dk_at dksX0_world_0 17 rfl rfl)
theorem dX0_world_20 : decode cX0_world 20 = .ok (.astore_n 2, 1) := dk_77 (dk_at dksX0_world_0 20 rfl rfl)
theorem dX0_world_21 : decode cX0_world 21 = .ok (.new 215, 3) := dk_187 0 215 (dk_at dksX0_world_0 21 rfl rfl)
theorem dX0_world_24 : decode cX0_world 24 = .ok (.dup, 1) := dk_89 (dk_at dksX0_world_1 0 rfl rfl)
theorem dX0_world_25 : decode cX0_world 25 = .ok (.aload_n 0, 1) := dk_42 (dk_at dksX0_world_1 1 rfl rfl)
theorem dX0_world_26 : decode cX0_world 26 = .ok (.iload_n 1, 1) := dk_27 (dk_at dksX0_world_1 2 rfl rfl)
theorem dX0_world_27 : decode cX0_world 27 = .ok (.invokespecial 217, 3) := dk_183 0 217 (dk_at dksX0_world_1 3 rfl rfl)
theorem dX0_world_30 : decode cX0_world 30 = .ok (.aload_n 2, 1) := dk_44 (dk_at dksX0_world_1 6 rfl rfl)
theorem dX0_world_31 : decode cX0_world 31 = .ok (.invokevirtual 220, 3) := dk_182 0 220 (dk_at dksX0_world_1 7 rfl rfl)
theorem dX0_world_34 : decode cX0_world 34 = .ok (.aload_n 0, 1) := dk_42 (dk_at dksX0_world_1 10 rfl rfl)
theorem dX0_world_35 : decode cX0_world 35 = .ok (.invokevirtual 162, 3) := dk_182 0 162 (dk_at dksX0_world_1 11 rfl rfl)
theorem dX0_world_38 : decode cX0_world 38 = .ok (.aload_n 2, 1) := dk_44 (dk_at dksX0_world_1 14 rfl rfl)
theorem dX0_world_39 : decode cX0_world 39 = .ok (.invokevirtual 223, 3) := dk_182 0 223 (dk_at dksX0_world_1 15 rfl rfl)
theorem dX0_world_42 : decode cX0_world 42 = .ok (.aload_n 0, 1) := dk_42 (dk_at dksX0_world_1 18 rfl rfl)
theorem dX0_world_43 : decode cX0_world 43 = .ok (.getfield 55, 3) := dk_180 0 55 (dk_at dksX0_world_1 19 rfl rfl)
theorem dX0_world_46 : decode cX0_world 46 = .ok (.aconst_null, 1) := dk_1 (dk_at dksX0_world_1 22 rfl rfl)
theorem dX0_world_47 : decode cX0_world 47 = .ok (.putfield 226, 3) := dk_181 0 226 (dk_at dksX0_world_2 0 rfl rfl)
theorem dX0_world_50 : decode cX0_world 50 = .ok (.aload_n 2, 1) := dk_44 (dk_at dksX0_world_2 3 rfl rfl)
theorem dX0_world_51 : decode cX0_world 51 = .ok (.getfield 179, 3) := dk_180 0 179 (dk_at dksX0_world_2 4 rfl rfl)
theorem dX0_world_54 : decode cX0_world 54 = .ok (.ireturn, 1) := dk_172 (dk_at dksX0_world_2 7 rfl rfl)
theorem dX0_world_55 : decode cX0_world 55 = .ok (.astore_n 2, 1) := dk_77 (dk_at dksX0_world_2 8 rfl rfl)
theorem dX0_world_56 : decode cX0_world 56 = .ok (.aload_n 0, 1) := dk_42 (dk_at dksX0_world_2 9 rfl rfl)
theorem dX0_world_57 : decode cX0_world 57 = .ok (.aload_n 2, 1) := dk_44 (dk_at dksX0_world_2 10 rfl rfl)
theorem dX0_world_58 : decode cX0_world 58 = .ok (.invokevirtual 230, 3) := dk_182 0 230 (dk_at dksX0_world_2 11 rfl rfl)
theorem dX0_world_61 : decode cX0_world 61 = .ok (.ireturn, 1) := dk_172 (dk_at dksX0_world_2 14 rfl rfl)
abbrev cX0_opens : ByteArray := prog_1_method_34_code
def yX0_opens : MethodName := ⟨RX0, "opens", "(II)Z"⟩
def dkwX0_opens_2 : List UInt8 := [181, 0, 31, 4, 172]
abbrev dktX0_opens_2 : List UInt8 := dkwX0_opens_2 ++ []
def dkwX0_opens_1 : List UInt8 := [181, 0, 85, 42, 180, 0, 85, 158, 0, 5, 3, 172, 42, 3, 181, 0, 198, 42, 3, 181, 0, 27, 42, 2]
abbrev dktX0_opens_1 : List UInt8 := dkwX0_opens_1 ++ dktX0_opens_2
def dkwX0_opens_0 : List UInt8 := [42, 27, 155, 0, 16, 27, 42, 180, 0, 198, 163, 0, 8, 27, 28, 164, 0, 7, 4, 167, 0, 4, 3]
abbrev dktX0_opens_0 : List UInt8 := dkwX0_opens_0 ++ dktX0_opens_1
theorem dksX0_opens_0 : cX0_opens.data.toList.drop 0 = dktX0_opens_0 := by decide +kernel
theorem dksX0_opens_1 : cX0_opens.data.toList.drop 23 = dktX0_opens_1 := dk_seg dksX0_opens_0 23 rfl rfl
theorem dksX0_opens_2 : cX0_opens.data.toList.drop 47 = dktX0_opens_2 := dk_seg dksX0_opens_1 24 rfl rfl
theorem dX0_opens_0 : decode cX0_opens 0 = .ok (.aload_n 0, 1) := dk_42 (dk_at dksX0_opens_0 0 rfl rfl)
theorem dX0_opens_1 : decode cX0_opens 1 = .ok (.iload_n 1, 1) := dk_27 (dk_at dksX0_opens_0 1 rfl rfl)
theorem dX0_opens_2 : decode cX0_opens 2 = .ok (.ifCond .lt 16, 3) := dk_155 0 16 (dk_at dksX0_opens_0 2 rfl rfl)
theorem dX0_opens_5 : decode cX0_opens 5 = .ok (.iload_n 1, 1) := dk_27 (dk_at dksX0_opens_0 5 rfl rfl)
theorem dX0_opens_6 : decode cX0_opens 6 = .ok (.aload_n 0, 1) := dk_42 (dk_at dksX0_opens_0 6 rfl rfl)
theorem dX0_opens_7 : decode cX0_opens 7 = .ok (.getfield 198, 3) := dk_180 0 198 (dk_at dksX0_opens_0 7 rfl rfl)
theorem dX0_opens_10 : decode cX0_opens 10 = .ok (.if_icmp .gt 8, 3) := dk_163 0 8 (dk_at dksX0_opens_0 10 rfl rfl)
theorem dX0_opens_13 : decode cX0_opens 13 = .ok (.iload_n 1, 1) := dk_27 (dk_at dksX0_opens_0 13 rfl rfl)
theorem dX0_opens_14 : decode cX0_opens 14 = .ok (.iload_n 2, 1) := dk_28 (dk_at dksX0_opens_0 14 rfl rfl)
theorem dX0_opens_15 : decode cX0_opens 15 = .ok (.if_icmp .le 7, 3) := dk_164 0 7 (dk_at dksX0_opens_0 15 rfl rfl)
theorem dX0_opens_18 : decode cX0_opens 18 = .ok (.iconst 1, 1) := dk_4 (dk_at dksX0_opens_0 18 rfl rfl)
theorem dX0_opens_19 : decode cX0_opens 19 = .ok (.goto 4, 3) := dk_167 0 4 (dk_at dksX0_opens_0 19 rfl rfl)
theorem dX0_opens_22 : decode cX0_opens 22 = .ok (.iconst 0, 1) := dk_3 (dk_at dksX0_opens_0 22 rfl rfl)
theorem dX0_opens_23 : decode cX0_opens 23 = .ok (.putfield 85, 3) := dk_181 0 85 (dk_at dksX0_opens_1 0 rfl rfl)
theorem dX0_opens_26 : decode cX0_opens 26 = .ok (.aload_n 0, 1) := dk_42 (dk_at dksX0_opens_1 3 rfl rfl)
theorem dX0_opens_27 : decode cX0_opens 27 = .ok (.getfield 85, 3) := dk_180 0 85 (dk_at dksX0_opens_1 4 rfl rfl)
theorem dX0_opens_30 : decode cX0_opens 30 = .ok (.ifCond .le 5, 3) := dk_158 0 5 (dk_at dksX0_opens_1 7 rfl rfl)
theorem dX0_opens_33 : decode cX0_opens 33 = .ok (.iconst 0, 1) := dk_3 (dk_at dksX0_opens_1 10 rfl rfl)
theorem dX0_opens_34 : decode cX0_opens 34 = .ok (.ireturn, 1) := dk_172 (dk_at dksX0_opens_1 11 rfl rfl)
theorem dX0_opens_35 : decode cX0_opens 35 = .ok (.aload_n 0, 1) := dk_42 (dk_at dksX0_opens_1 12 rfl rfl)
theorem dX0_opens_36 : decode cX0_opens 36 = .ok (.iconst 0, 1) := dk_3 (dk_at dksX0_opens_1 13 rfl rfl)
theorem dX0_opens_37 : decode cX0_opens 37 = .ok (.putfield 198, 3) := dk_181 0 198 (dk_at dksX0_opens_1 14 rfl rfl)
theorem dX0_opens_40 : decode cX0_opens 40 = .ok (.aload_n 0, 1) := dk_42 (dk_at dksX0_opens_1 17 rfl rfl)
theorem dX0_opens_41 : decode cX0_opens 41 = .ok (.iconst 0, 1) := dk_3 (dk_at dksX0_opens_1 18 rfl rfl)
theorem dX0_opens_42 : decode cX0_opens 42 = .ok (.putfield 27, 3) := dk_181 0 27 (dk_at dksX0_opens_1 19 rfl rfl)
theorem dX0_opens_45 : decode cX0_opens 45 = .ok (.aload_n 0, 1) := dk_42 (dk_at dksX0_opens_1 22 rfl rfl)
theorem dX0_opens_46 : decode cX0_opens 46 = .ok (.iconst (-1), 1) := dk_2 (dk_at dksX0_opens_1 23 rfl rfl)
theorem dX0_opens_47 : decode cX0_opens 47 = .ok (.putfield 31, 3) := dk_181 0 31 (dk_at dksX0_opens_2 0 rfl rfl)
theorem dX0_opens_50 : decode cX0_opens 50 = .ok (.iconst 1, 1) := dk_4 (dk_at dksX0_opens_2 3 rfl rfl)
theorem dX0_opens_51 : decode cX0_opens 51 = .ok (.ireturn, 1) := dk_172 (dk_at dksX0_opens_2 4 rfl rfl)
abbrev cX0_at : ByteArray := prog_1_method_21_code
def yX0_at : MethodName := ⟨RX0, "at", "()LCargoFlag$World;"⟩
def dkwX0_at_0 : List UInt8 := [42, 180, 0, 55, 180, 0, 159, 176]
abbrev dktX0_at_0 : List UInt8 := dkwX0_at_0 ++ []
theorem dksX0_at_0 : cX0_at.data.toList.drop 0 = dktX0_at_0 := by decide +kernel
theorem dX0_at_0 : decode cX0_at 0 = .ok (.aload_n 0, 1) := dk_42 (dk_at dksX0_at_0 0 rfl rfl)
theorem dX0_at_1 : decode cX0_at 1 = .ok (.getfield 55, 3) := dk_180 0 55 (dk_at dksX0_at_0 1 rfl rfl)
theorem dX0_at_4 : decode cX0_at 4 = .ok (.getfield 159, 3) := dk_180 0 159 (dk_at dksX0_at_0 4 rfl rfl)
theorem dX0_at_7 : decode cX0_at 7 = .ok (.areturn, 1) := dk_176 (dk_at dksX0_at_0 7 rfl rfl)
abbrev cX0_faulty : ByteArray := prog_1_method_35_code
def yX0_faulty : MethodName := ⟨RX0, "faulty", "(LCargoFlag$Bad;)I"⟩
def dkwX0_faulty_0 : List UInt8 := [42, 43, 180, 0, 205, 181, 0, 27, 42, 43, 180, 0, 208, 181, 0, 31, 42, 16, 9, 181, 0, 85, 2, 172]
abbrev dktX0_faulty_0 : List UInt8 := dkwX0_faulty_0 ++ []
theorem dksX0_faulty_0 : cX0_faulty.data.toList.drop 0 = dktX0_faulty_0 := by decide +kernel
theorem dX0_faulty_0 : decode cX0_faulty 0 = .ok (.aload_n 0, 1) := dk_42 (dk_at dksX0_faulty_0 0 rfl rfl)
theorem dX0_faulty_1 : decode cX0_faulty 1 = .ok (.aload_n 1, 1) := dk_43 (dk_at dksX0_faulty_0 1 rfl rfl)
theorem dX0_faulty_2 : decode cX0_faulty 2 = .ok (.getfield 205, 3) := dk_180 0 205 (dk_at dksX0_faulty_0 2 rfl rfl)
theorem dX0_faulty_5 : decode cX0_faulty 5 = .ok (.putfield 27, 3) := dk_181 0 27 (dk_at dksX0_faulty_0 5 rfl rfl)
theorem dX0_faulty_8 : decode cX0_faulty 8 = .ok (.aload_n 0, 1) := dk_42 (dk_at dksX0_faulty_0 8 rfl rfl)
theorem dX0_faulty_9 : decode cX0_faulty 9 = .ok (.aload_n 1, 1) := dk_43 (dk_at dksX0_faulty_0 9 rfl rfl)
theorem dX0_faulty_10 : decode cX0_faulty 10 = .ok (.getfield 208, 3) := dk_180 0 208 (dk_at dksX0_faulty_0 10 rfl rfl)
theorem dX0_faulty_13 : decode cX0_faulty 13 = .ok (.putfield 31, 3) := dk_181 0 31 (dk_at dksX0_faulty_0 13 rfl rfl)
theorem dX0_faulty_16 : decode cX0_faulty 16 = .ok (.aload_n 0, 1) := dk_42 (dk_at dksX0_faulty_0 16 rfl rfl)
theorem dX0_faulty_17 : decode cX0_faulty 17 = .ok (.bipush 9, 2) := dk_16 9 (dk_at dksX0_faulty_0 17 rfl rfl)
theorem dX0_faulty_19 : decode cX0_faulty 19 = .ok (.putfield 85, 3) := dk_181 0 85 (dk_at dksX0_faulty_0 19 rfl rfl)
theorem dX0_faulty_22 : decode cX0_faulty 22 = .ok (.iconst (-1), 1) := dk_2 (dk_at dksX0_faulty_0 22 rfl rfl)
theorem dX0_faulty_23 : decode cX0_faulty 23 = .ok (.ireturn, 1) := dk_172 (dk_at dksX0_faulty_0 23 rfl rfl)
abbrev cX0_voyages : ByteArray := prog_1_method_37_code
def yX0_voyages : MethodName := ⟨RX0, "voyages", "(I)I"⟩
def dkwX0_voyages_2 : List UInt8 := [181, 0, 226, 45, 180, 0, 241, 172, 77, 42, 44, 182, 0, 230, 172]
abbrev dktX0_voyages_2 : List UInt8 := dkwX0_voyages_2 ++ []
def dkwX0_voyages_1 : List UInt8 := [187, 0, 215, 89, 42, 27, 183, 0, 217, 78, 45, 42, 182, 0, 162, 44, 182, 0, 238, 42, 180, 0, 55, 44]
abbrev dktX0_voyages_1 : List UInt8 := dkwX0_voyages_1 ++ dktX0_voyages_2
def dkwX0_voyages_0 : List UInt8 := [42, 27, 17, 1, 44, 182, 0, 211, 154, 0, 5, 2, 172, 187, 0, 234, 89, 4, 183, 0, 236, 77]
abbrev dktX0_voyages_0 : List UInt8 := dkwX0_voyages_0 ++ dktX0_voyages_1
theorem dksX0_voyages_0 : cX0_voyages.data.toList.drop 0 = dktX0_voyages_0 := by decide +kernel
theorem dksX0_voyages_1 : cX0_voyages.data.toList.drop 22 = dktX0_voyages_1 := dk_seg dksX0_voyages_0 22 rfl rfl
theorem dksX0_voyages_2 : cX0_voyages.data.toList.drop 46 = dktX0_voyages_2 := dk_seg dksX0_voyages_1 24 rfl rfl
theorem dX0_voyages_0 : decode cX0_voyages 0 = .ok (.aload_n 0, 1) := dk_42 (dk_at dksX0_voyages_0 0 rfl rfl)
theorem dX0_voyages_1 : decode cX0_voyages 1 = .ok (.iload_n 1, 1) := dk_27 (dk_at dksX0_voyages_0 1 rfl rfl)
theorem dX0_voyages_2 : decode cX0_voyages 2 = .ok (.sipush 300, 3) := dk_17 1 44 (dk_at dksX0_voyages_0 2 rfl rfl)
theorem dX0_voyages_5 : decode cX0_voyages 5 = .ok (.invokevirtual 211, 3) := dk_182 0 211 (dk_at dksX0_voyages_0 5 rfl rfl)
theorem dX0_voyages_8 : decode cX0_voyages 8 = .ok (.ifCond .ne 5, 3) := dk_154 0 5 (dk_at dksX0_voyages_0 8 rfl rfl)
theorem dX0_voyages_11 : decode cX0_voyages 11 = .ok (.iconst (-1), 1) := dk_2 (dk_at dksX0_voyages_0 11 rfl rfl)
theorem dX0_voyages_12 : decode cX0_voyages 12 = .ok (.ireturn, 1) := dk_172 (dk_at dksX0_voyages_0 12 rfl rfl)
theorem dX0_voyages_13 : decode cX0_voyages 13 = .ok (.new 234, 3) := dk_187 0 234 (dk_at dksX0_voyages_0 13 rfl rfl)
theorem dX0_voyages_16 : decode cX0_voyages 16 = .ok (.dup, 1) := dk_89 (dk_at dksX0_voyages_0 16 rfl rfl)
theorem dX0_voyages_17 : decode cX0_voyages 17 = .ok (.iconst 1, 1) := dk_4 (dk_at dksX0_voyages_0 17 rfl rfl)
theorem dX0_voyages_18 : decode cX0_voyages 18 = .ok (.invokespecial 236, 3) := dk_183 0 236 (dk_at dksX0_voyages_0 18 rfl rfl)
theorem dX0_voyages_21 : decode cX0_voyages 21 = .ok (.astore_n 2, 1) := dk_77 (dk_at dksX0_voyages_0 21 rfl rfl)
theorem dX0_voyages_22 : decode cX0_voyages 22 = .ok (.new 215, 3) := dk_187 0 215 (dk_at dksX0_voyages_1 0 rfl rfl)
theorem dX0_voyages_25 : decode cX0_voyages 25 = .ok (.dup, 1) := dk_89 (dk_at dksX0_voyages_1 3 rfl rfl)
theorem dX0_voyages_26 : decode cX0_voyages 26 = .ok (.aload_n 0, 1) := dk_42 (dk_at dksX0_voyages_1 4 rfl rfl)
theorem dX0_voyages_27 : decode cX0_voyages 27 = .ok (.iload_n 1, 1) := dk_27 (dk_at dksX0_voyages_1 5 rfl rfl)
theorem dX0_voyages_28 : decode cX0_voyages 28 = .ok (.invokespecial 217, 3) := dk_183 0 217 (dk_at dksX0_voyages_1 6 rfl rfl)
theorem dX0_voyages_31 : decode cX0_voyages 31 = .ok (.astore_n 3, 1) := dk_78 (dk_at dksX0_voyages_1 9 rfl rfl)
theorem dX0_voyages_32 : decode cX0_voyages 32 = .ok (.aload_n 3, 1) := dk_45 (dk_at dksX0_voyages_1 10 rfl rfl)
theorem dX0_voyages_33 : decode cX0_voyages 33 = .ok (.aload_n 0, 1) := dk_42 (dk_at dksX0_voyages_1 11 rfl rfl)
theorem dX0_voyages_34 : decode cX0_voyages 34 = .ok (.invokevirtual 162, 3) := dk_182 0 162 (dk_at dksX0_voyages_1 12 rfl rfl)
theorem dX0_voyages_37 : decode cX0_voyages 37 = .ok (.aload_n 2, 1) := dk_44 (dk_at dksX0_voyages_1 15 rfl rfl)
theorem dX0_voyages_38 : decode cX0_voyages 38 = .ok (.invokevirtual 238, 3) := dk_182 0 238 (dk_at dksX0_voyages_1 16 rfl rfl)
theorem dX0_voyages_41 : decode cX0_voyages 41 = .ok (.aload_n 0, 1) := dk_42 (dk_at dksX0_voyages_1 19 rfl rfl)
theorem dX0_voyages_42 : decode cX0_voyages 42 = .ok (.getfield 55, 3) := dk_180 0 55 (dk_at dksX0_voyages_1 20 rfl rfl)
theorem dX0_voyages_45 : decode cX0_voyages 45 = .ok (.aload_n 2, 1) := dk_44 (dk_at dksX0_voyages_1 23 rfl rfl)
theorem dX0_voyages_46 : decode cX0_voyages 46 = .ok (.putfield 226, 3) := dk_181 0 226 (dk_at dksX0_voyages_2 0 rfl rfl)
theorem dX0_voyages_49 : decode cX0_voyages 49 = .ok (.aload_n 3, 1) := dk_45 (dk_at dksX0_voyages_2 3 rfl rfl)
theorem dX0_voyages_50 : decode cX0_voyages 50 = .ok (.getfield 241, 3) := dk_180 0 241 (dk_at dksX0_voyages_2 4 rfl rfl)
theorem dX0_voyages_53 : decode cX0_voyages 53 = .ok (.ireturn, 1) := dk_172 (dk_at dksX0_voyages_2 7 rfl rfl)
theorem dX0_voyages_54 : decode cX0_voyages 54 = .ok (.astore_n 2, 1) := dk_77 (dk_at dksX0_voyages_2 8 rfl rfl)
theorem dX0_voyages_55 : decode cX0_voyages 55 = .ok (.aload_n 0, 1) := dk_42 (dk_at dksX0_voyages_2 9 rfl rfl)
theorem dX0_voyages_56 : decode cX0_voyages 56 = .ok (.aload_n 2, 1) := dk_44 (dk_at dksX0_voyages_2 10 rfl rfl)
theorem dX0_voyages_57 : decode cX0_voyages 57 = .ok (.invokevirtual 230, 3) := dk_182 0 230 (dk_at dksX0_voyages_2 11 rfl rfl)
theorem dX0_voyages_60 : decode cX0_voyages 60 = .ok (.ireturn, 1) := dk_172 (dk_at dksX0_voyages_2 14 rfl rfl)
abbrev cX0_fault : ByteArray := prog_1_method_38_code
def yX0_fault : MethodName := ⟨RX0, "fault", "(I)I"⟩
def dkwX0_fault_1 : List UInt8 := [172]
abbrev dktX0_fault_1 : List UInt8 := dkwX0_fault_1 ++ []
def dkwX0_fault_0 : List UInt8 := [27, 154, 0, 10, 42, 180, 0, 27, 167, 0, 16, 27, 4, 160, 0, 10, 42, 180, 0, 31, 167, 0, 4, 2]
abbrev dktX0_fault_0 : List UInt8 := dkwX0_fault_0 ++ dktX0_fault_1
theorem dksX0_fault_0 : cX0_fault.data.toList.drop 0 = dktX0_fault_0 := by decide +kernel
theorem dksX0_fault_1 : cX0_fault.data.toList.drop 24 = dktX0_fault_1 := dk_seg dksX0_fault_0 24 rfl rfl
theorem dX0_fault_0 : decode cX0_fault 0 = .ok (.iload_n 1, 1) := dk_27 (dk_at dksX0_fault_0 0 rfl rfl)
theorem dX0_fault_1 : decode cX0_fault 1 = .ok (.ifCond .ne 10, 3) := dk_154 0 10 (dk_at dksX0_fault_0 1 rfl rfl)
theorem dX0_fault_4 : decode cX0_fault 4 = .ok (.aload_n 0, 1) := dk_42 (dk_at dksX0_fault_0 4 rfl rfl)
theorem dX0_fault_5 : decode cX0_fault 5 = .ok (.getfield 27, 3) := dk_180 0 27 (dk_at dksX0_fault_0 5 rfl rfl)
theorem dX0_fault_8 : decode cX0_fault 8 = .ok (.goto 16, 3) := dk_167 0 16 (dk_at dksX0_fault_0 8 rfl rfl)
theorem dX0_fault_11 : decode cX0_fault 11 = .ok (.iload_n 1, 1) := dk_27 (dk_at dksX0_fault_0 11 rfl rfl)
theorem dX0_fault_12 : decode cX0_fault 12 = .ok (.iconst 1, 1) := dk_4 (dk_at dksX0_fault_0 12 rfl rfl)
theorem dX0_fault_13 : decode cX0_fault 13 = .ok (.if_icmp .ne 10, 3) := dk_160 0 10 (dk_at dksX0_fault_0 13 rfl rfl)
theorem dX0_fault_16 : decode cX0_fault 16 = .ok (.aload_n 0, 1) := dk_42 (dk_at dksX0_fault_0 16 rfl rfl)
theorem dX0_fault_17 : decode cX0_fault 17 = .ok (.getfield 31, 3) := dk_180 0 31 (dk_at dksX0_fault_0 17 rfl rfl)
theorem dX0_fault_20 : decode cX0_fault 20 = .ok (.goto 4, 3) := dk_167 0 4 (dk_at dksX0_fault_0 20 rfl rfl)
theorem dX0_fault_23 : decode cX0_fault 23 = .ok (.iconst (-1), 1) := dk_2 (dk_at dksX0_fault_0 23 rfl rfl)
theorem dX0_fault_24 : decode cX0_fault 24 = .ok (.ireturn, 1) := dk_172 (dk_at dksX0_fault_1 0 rfl rfl)
abbrev cX0_told : ByteArray := prog_1_method_41_code
def yX0_told : MethodName := ⟨RX0, "told", "(I)I"⟩
def dkwX0_told_5 : List UInt8 := [172, 2, 172]
abbrev dktX0_told_5 : List UInt8 := dkwX0_told_5 ++ []
def dkwX0_told_4 : List UInt8 := [42, 3, 182, 1, 6, 172, 42, 4, 182, 1, 6, 172, 42, 182, 1, 9, 172, 42, 182, 0, 162, 182, 1, 13]
abbrev dktX0_told_4 : List UInt8 := dkwX0_told_4 ++ dktX0_told_5
def dkwX0_told_3 : List UInt8 := [42, 182, 0, 162, 180, 0, 179, 172, 42, 182, 0, 162, 180, 1, 0, 172, 42, 182, 0, 162, 180, 1, 3, 172]
abbrev dktX0_told_3 : List UInt8 := dkwX0_told_3 ++ dktX0_told_4
def dkwX0_told_2 : List UInt8 := [42, 182, 0, 162, 180, 0, 166, 172, 42, 182, 0, 162, 180, 0, 173, 172, 42, 182, 0, 162, 180, 0, 176, 172]
abbrev dktX0_told_2 : List UInt8 := dkwX0_told_2 ++ dktX0_told_3
def dkwX0_told_1 : List UInt8 := [170, 0, 0, 0, 0, 127, 0, 0, 0, 0, 0, 0, 0, 9, 0, 0, 0, 54, 0, 0, 0, 62, 0, 0, 0, 70, 0, 0, 0, 78, 0, 0, 0, 86, 0, 0, 0, 94, 0, 0, 0, 102, 0, 0, 0, 108, 0, 0, 0, 114, 0, 0, 0, 119]
abbrev dktX0_told_1 : List UInt8 := dkwX0_told_1 ++ dktX0_told_2
def dkwX0_told_0 : List UInt8 := [42, 27, 133, 9, 20, 0, 254, 184, 0, 169, 153, 0, 7, 3, 167, 0, 4, 4, 181, 0, 85, 27]
abbrev dktX0_told_0 : List UInt8 := dkwX0_told_0 ++ dktX0_told_1
theorem dksX0_told_0 : cX0_told.data.toList.drop 0 = dktX0_told_0 := by decide +kernel
theorem dksX0_told_1 : cX0_told.data.toList.drop 22 = dktX0_told_1 := dk_seg dksX0_told_0 22 rfl rfl
theorem dksX0_told_2 : cX0_told.data.toList.drop 76 = dktX0_told_2 := dk_seg dksX0_told_1 54 rfl rfl
theorem dksX0_told_3 : cX0_told.data.toList.drop 100 = dktX0_told_3 := dk_seg dksX0_told_2 24 rfl rfl
theorem dksX0_told_4 : cX0_told.data.toList.drop 124 = dktX0_told_4 := dk_seg dksX0_told_3 24 rfl rfl
theorem dksX0_told_5 : cX0_told.data.toList.drop 148 = dktX0_told_5 := dk_seg dksX0_told_4 24 rfl rfl
theorem dX0_told_0 : decode cX0_told 0 = .ok (.aload_n 0, 1) := dk_42 (dk_at dksX0_told_0 0 rfl rfl)
theorem dX0_told_1 : decode cX0_told 1 = .ok (.iload_n 1, 1) := dk_27 (dk_at dksX0_told_0 1 rfl rfl)
theorem dX0_told_2 : decode cX0_told 2 = .ok (.i2l, 1) := dk_133 (dk_at dksX0_told_0 2 rfl rfl)
theorem dX0_told_3 : decode cX0_told 3 = .ok (.lconst 0, 1) := dk_9 (dk_at dksX0_told_0 3 rfl rfl)
theorem dX0_told_4 : decode cX0_told 4 = .ok (.ldc2_w 254, 3) := dk_20 0 254 (dk_at dksX0_told_0 4 rfl rfl)
theorem dX0_told_7 : decode cX0_told 7 = .ok (.invokestatic 169, 3) := dk_184 0 169 (dk_at dksX0_told_0 7 rfl rfl)
theorem dX0_told_10 : decode cX0_told 10 = .ok (.ifCond .eq 7, 3) := dk_153 0 7 (dk_at dksX0_told_0 10 rfl rfl)
theorem dX0_told_13 : decode cX0_told 13 = .ok (.iconst 0, 1) := dk_3 (dk_at dksX0_told_0 13 rfl rfl)
theorem dX0_told_14 : decode cX0_told 14 = .ok (.goto 4, 3) := dk_167 0 4 (dk_at dksX0_told_0 14 rfl rfl)
theorem dX0_told_17 : decode cX0_told 17 = .ok (.iconst 1, 1) := dk_4 (dk_at dksX0_told_0 17 rfl rfl)
theorem dX0_told_18 : decode cX0_told 18 = .ok (.putfield 85, 3) := dk_181 0 85 (dk_at dksX0_told_0 18 rfl rfl)
theorem dX0_told_21 : decode cX0_told 21 = .ok (.iload_n 1, 1) := dk_27 (dk_at dksX0_told_0 21 rfl rfl)
theorem dX0_told_22 : decode cX0_told 22 = .ok (.tableswitch 127 0 9 #[54, 62, 70, 78, 86, 94, 102, 108, 114, 119], 54) := by decide +kernel
theorem dX0_told_76 : decode cX0_told 76 = .ok (.aload_n 0, 1) := dk_42 (dk_at dksX0_told_2 0 rfl rfl)
theorem dX0_told_77 : decode cX0_told 77 = .ok (.invokevirtual 162, 3) := dk_182 0 162 (dk_at dksX0_told_2 1 rfl rfl)
theorem dX0_told_80 : decode cX0_told 80 = .ok (.getfield 166, 3) := dk_180 0 166 (dk_at dksX0_told_2 4 rfl rfl)
theorem dX0_told_83 : decode cX0_told 83 = .ok (.ireturn, 1) := dk_172 (dk_at dksX0_told_2 7 rfl rfl)
theorem dX0_told_84 : decode cX0_told 84 = .ok (.aload_n 0, 1) := dk_42 (dk_at dksX0_told_2 8 rfl rfl)
theorem dX0_told_85 : decode cX0_told 85 = .ok (.invokevirtual 162, 3) := dk_182 0 162 (dk_at dksX0_told_2 9 rfl rfl)
theorem dX0_told_88 : decode cX0_told 88 = .ok (.getfield 173, 3) := dk_180 0 173 (dk_at dksX0_told_2 12 rfl rfl)
theorem dX0_told_91 : decode cX0_told 91 = .ok (.ireturn, 1) := dk_172 (dk_at dksX0_told_2 15 rfl rfl)
theorem dX0_told_92 : decode cX0_told 92 = .ok (.aload_n 0, 1) := dk_42 (dk_at dksX0_told_2 16 rfl rfl)
theorem dX0_told_93 : decode cX0_told 93 = .ok (.invokevirtual 162, 3) := dk_182 0 162 (dk_at dksX0_told_2 17 rfl rfl)
theorem dX0_told_96 : decode cX0_told 96 = .ok (.getfield 176, 3) := dk_180 0 176 (dk_at dksX0_told_2 20 rfl rfl)
theorem dX0_told_99 : decode cX0_told 99 = .ok (.ireturn, 1) := dk_172 (dk_at dksX0_told_2 23 rfl rfl)
theorem dX0_told_100 : decode cX0_told 100 = .ok (.aload_n 0, 1) := dk_42 (dk_at dksX0_told_3 0 rfl rfl)
theorem dX0_told_101 : decode cX0_told 101 = .ok (.invokevirtual 162, 3) := dk_182 0 162 (dk_at dksX0_told_3 1 rfl rfl)
theorem dX0_told_104 : decode cX0_told 104 = .ok (.getfield 179, 3) := dk_180 0 179 (dk_at dksX0_told_3 4 rfl rfl)
theorem dX0_told_107 : decode cX0_told 107 = .ok (.ireturn, 1) := dk_172 (dk_at dksX0_told_3 7 rfl rfl)
theorem dX0_told_108 : decode cX0_told 108 = .ok (.aload_n 0, 1) := dk_42 (dk_at dksX0_told_3 8 rfl rfl)
theorem dX0_told_109 : decode cX0_told 109 = .ok (.invokevirtual 162, 3) := dk_182 0 162 (dk_at dksX0_told_3 9 rfl rfl)
theorem dX0_told_112 : decode cX0_told 112 = .ok (.getfield 256, 3) := dk_180 1 0 (dk_at dksX0_told_3 12 rfl rfl)
theorem dX0_told_115 : decode cX0_told 115 = .ok (.ireturn, 1) := dk_172 (dk_at dksX0_told_3 15 rfl rfl)
theorem dX0_told_116 : decode cX0_told 116 = .ok (.aload_n 0, 1) := dk_42 (dk_at dksX0_told_3 16 rfl rfl)
theorem dX0_told_117 : decode cX0_told 117 = .ok (.invokevirtual 162, 3) := dk_182 0 162 (dk_at dksX0_told_3 17 rfl rfl)
theorem dX0_told_120 : decode cX0_told 120 = .ok (.getfield 259, 3) := dk_180 1 3 (dk_at dksX0_told_3 20 rfl rfl)
theorem dX0_told_123 : decode cX0_told 123 = .ok (.ireturn, 1) := dk_172 (dk_at dksX0_told_3 23 rfl rfl)
theorem dX0_told_124 : decode cX0_told 124 = .ok (.aload_n 0, 1) := dk_42 (dk_at dksX0_told_4 0 rfl rfl)
theorem dX0_told_125 : decode cX0_told 125 = .ok (.iconst 0, 1) := dk_3 (dk_at dksX0_told_4 1 rfl rfl)
theorem dX0_told_126 : decode cX0_told 126 = .ok (.invokevirtual 262, 3) := dk_182 1 6 (dk_at dksX0_told_4 2 rfl rfl)
theorem dX0_told_129 : decode cX0_told 129 = .ok (.ireturn, 1) := dk_172 (dk_at dksX0_told_4 5 rfl rfl)
theorem dX0_told_130 : decode cX0_told 130 = .ok (.aload_n 0, 1) := dk_42 (dk_at dksX0_told_4 6 rfl rfl)
theorem dX0_told_131 : decode cX0_told 131 = .ok (.iconst 1, 1) := dk_4 (dk_at dksX0_told_4 7 rfl rfl)
theorem dX0_told_132 : decode cX0_told 132 = .ok (.invokevirtual 262, 3) := dk_182 1 6 (dk_at dksX0_told_4 8 rfl rfl)
theorem dX0_told_135 : decode cX0_told 135 = .ok (.ireturn, 1) := dk_172 (dk_at dksX0_told_4 11 rfl rfl)
theorem dX0_told_136 : decode cX0_told 136 = .ok (.aload_n 0, 1) := dk_42 (dk_at dksX0_told_4 12 rfl rfl)
theorem dX0_told_137 : decode cX0_told 137 = .ok (.invokevirtual 265, 3) := dk_182 1 9 (dk_at dksX0_told_4 13 rfl rfl)
theorem dX0_told_140 : decode cX0_told 140 = .ok (.ireturn, 1) := dk_172 (dk_at dksX0_told_4 16 rfl rfl)
theorem dX0_told_141 : decode cX0_told 141 = .ok (.aload_n 0, 1) := dk_42 (dk_at dksX0_told_4 17 rfl rfl)
theorem dX0_told_142 : decode cX0_told 142 = .ok (.invokevirtual 162, 3) := dk_182 0 162 (dk_at dksX0_told_4 18 rfl rfl)
theorem dX0_told_145 : decode cX0_told 145 = .ok (.invokevirtual 269, 3) := dk_182 1 13 (dk_at dksX0_told_4 21 rfl rfl)
theorem dX0_told_148 : decode cX0_told 148 = .ok (.ireturn, 1) := dk_172 (dk_at dksX0_told_5 0 rfl rfl)
theorem dX0_told_149 : decode cX0_told 149 = .ok (.iconst (-1), 1) := dk_2 (dk_at dksX0_told_5 1 rfl rfl)
theorem dX0_told_150 : decode cX0_told 150 = .ok (.ireturn, 1) := dk_172 (dk_at dksX0_told_5 2 rfl rfl)
abbrev cX0_isIn : ByteArray := prog_1_method_20_code
def yX0_isIn : MethodName := ⟨RX0, "isIn", "(JJJ)Z"⟩
def dkwX0_isIn_0 : List UInt8 := [30, 32, 148, 155, 0, 14, 30, 22, 4, 148, 157, 0, 7, 4, 167, 0, 4, 3, 172]
abbrev dktX0_isIn_0 : List UInt8 := dkwX0_isIn_0 ++ []
theorem dksX0_isIn_0 : cX0_isIn.data.toList.drop 0 = dktX0_isIn_0 := by decide +kernel
theorem dX0_isIn_0 : decode cX0_isIn 0 = .ok (.lload_n 0, 1) := dk_30 (dk_at dksX0_isIn_0 0 rfl rfl)
theorem dX0_isIn_1 : decode cX0_isIn 1 = .ok (.lload_n 2, 1) := dk_32 (dk_at dksX0_isIn_0 1 rfl rfl)
theorem dX0_isIn_2 : decode cX0_isIn 2 = .ok (.lcmp, 1) := dk_148 (dk_at dksX0_isIn_0 2 rfl rfl)
theorem dX0_isIn_3 : decode cX0_isIn 3 = .ok (.ifCond .lt 14, 3) := dk_155 0 14 (dk_at dksX0_isIn_0 3 rfl rfl)
theorem dX0_isIn_6 : decode cX0_isIn 6 = .ok (.lload_n 0, 1) := dk_30 (dk_at dksX0_isIn_0 6 rfl rfl)
theorem dX0_isIn_7 : decode cX0_isIn 7 = .ok (.lload 4, 2) := dk_22 4 (dk_at dksX0_isIn_0 7 rfl rfl)
theorem dX0_isIn_9 : decode cX0_isIn 9 = .ok (.lcmp, 1) := dk_148 (dk_at dksX0_isIn_0 9 rfl rfl)
theorem dX0_isIn_10 : decode cX0_isIn 10 = .ok (.ifCond .gt 7, 3) := dk_157 0 7 (dk_at dksX0_isIn_0 10 rfl rfl)
theorem dX0_isIn_13 : decode cX0_isIn 13 = .ok (.iconst 1, 1) := dk_4 (dk_at dksX0_isIn_0 13 rfl rfl)
theorem dX0_isIn_14 : decode cX0_isIn 14 = .ok (.goto 4, 3) := dk_167 0 4 (dk_at dksX0_isIn_0 14 rfl rfl)
theorem dX0_isIn_17 : decode cX0_isIn 17 = .ok (.iconst 0, 1) := dk_3 (dk_at dksX0_isIn_0 17 rfl rfl)
theorem dX0_isIn_18 : decode cX0_isIn 18 = .ok (.ireturn, 1) := dk_172 (dk_at dksX0_isIn_0 18 rfl rfl)
abbrev cX0_shipsThat : ByteArray := prog_1_method_39_code
def yX0_shipsThat : MethodName := ⟨RX0, "shipsThat", "(I)I"⟩
def dkwX0_shipsThat_2 : List UInt8 := [167, 0, 4, 3, 128, 61, 132, 3, 1, 167, 255, 203, 28, 172]
abbrev dktX0_shipsThat_2 : List UInt8 := dkwX0_shipsThat_2 ++ []
def dkwX0_shipsThat_1 : List UInt8 := [29, 182, 0, 244, 153, 0, 23, 167, 0, 14, 42, 182, 0, 162, 29, 182, 0, 247, 156, 0, 9, 4, 29, 120]
abbrev dktX0_shipsThat_1 : List UInt8 := dkwX0_shipsThat_1 ++ dktX0_shipsThat_2
def dkwX0_shipsThat_0 : List UInt8 := [3, 61, 3, 62, 29, 42, 182, 0, 162, 180, 0, 179, 162, 0, 48, 28, 27, 154, 0, 17, 42, 182, 0, 162]
abbrev dktX0_shipsThat_0 : List UInt8 := dkwX0_shipsThat_0 ++ dktX0_shipsThat_1
theorem dksX0_shipsThat_0 : cX0_shipsThat.data.toList.drop 0 = dktX0_shipsThat_0 := by decide +kernel
theorem dksX0_shipsThat_1 : cX0_shipsThat.data.toList.drop 24 = dktX0_shipsThat_1 := dk_seg dksX0_shipsThat_0 24 rfl rfl
theorem dksX0_shipsThat_2 : cX0_shipsThat.data.toList.drop 48 = dktX0_shipsThat_2 := dk_seg dksX0_shipsThat_1 24 rfl rfl
theorem dX0_shipsThat_0 : decode cX0_shipsThat 0 = .ok (.iconst 0, 1) := dk_3 (dk_at dksX0_shipsThat_0 0 rfl rfl)
theorem dX0_shipsThat_1 : decode cX0_shipsThat 1 = .ok (.istore_n 2, 1) := dk_61 (dk_at dksX0_shipsThat_0 1 rfl rfl)
theorem dX0_shipsThat_2 : decode cX0_shipsThat 2 = .ok (.iconst 0, 1) := dk_3 (dk_at dksX0_shipsThat_0 2 rfl rfl)
theorem dX0_shipsThat_3 : decode cX0_shipsThat 3 = .ok (.istore_n 3, 1) := dk_62 (dk_at dksX0_shipsThat_0 3 rfl rfl)
theorem dX0_shipsThat_4 : decode cX0_shipsThat 4 = .ok (.iload_n 3, 1) := dk_29 (dk_at dksX0_shipsThat_0 4 rfl rfl)
theorem dX0_shipsThat_5 : decode cX0_shipsThat 5 = .ok (.aload_n 0, 1) := dk_42 (dk_at dksX0_shipsThat_0 5 rfl rfl)
theorem dX0_shipsThat_6 : decode cX0_shipsThat 6 = .ok (.invokevirtual 162, 3) := dk_182 0 162 (dk_at dksX0_shipsThat_0 6 rfl rfl)
theorem dX0_shipsThat_9 : decode cX0_shipsThat 9 = .ok (.getfield 179, 3) := dk_180 0 179 (dk_at dksX0_shipsThat_0 9 rfl rfl)
theorem dX0_shipsThat_12 : decode cX0_shipsThat 12 = .ok (.if_icmp .ge 48, 3) := dk_162 0 48 (dk_at dksX0_shipsThat_0 12 rfl rfl)
theorem dX0_shipsThat_15 : decode cX0_shipsThat 15 = .ok (.iload_n 2, 1) := dk_28 (dk_at dksX0_shipsThat_0 15 rfl rfl)
theorem dX0_shipsThat_16 : decode cX0_shipsThat 16 = .ok (.iload_n 1, 1) := dk_27 (dk_at dksX0_shipsThat_0 16 rfl rfl)
theorem dX0_shipsThat_17 : decode cX0_shipsThat 17 = .ok (.ifCond .ne 17, 3) := dk_154 0 17 (dk_at dksX0_shipsThat_0 17 rfl rfl)
theorem dX0_shipsThat_20 : decode cX0_shipsThat 20 = .ok (.aload_n 0, 1) := dk_42 (dk_at dksX0_shipsThat_0 20 rfl rfl)
theorem dX0_shipsThat_21 : decode cX0_shipsThat 21 = .ok (.invokevirtual 162, 3) := dk_182 0 162 (dk_at dksX0_shipsThat_0 21 rfl rfl)
theorem dX0_shipsThat_24 : decode cX0_shipsThat 24 = .ok (.iload_n 3, 1) := dk_29 (dk_at dksX0_shipsThat_1 0 rfl rfl)
theorem dX0_shipsThat_25 : decode cX0_shipsThat 25 = .ok (.invokevirtual 244, 3) := dk_182 0 244 (dk_at dksX0_shipsThat_1 1 rfl rfl)
theorem dX0_shipsThat_28 : decode cX0_shipsThat 28 = .ok (.ifCond .eq 23, 3) := dk_153 0 23 (dk_at dksX0_shipsThat_1 4 rfl rfl)
theorem dX0_shipsThat_31 : decode cX0_shipsThat 31 = .ok (.goto 14, 3) := dk_167 0 14 (dk_at dksX0_shipsThat_1 7 rfl rfl)
theorem dX0_shipsThat_34 : decode cX0_shipsThat 34 = .ok (.aload_n 0, 1) := dk_42 (dk_at dksX0_shipsThat_1 10 rfl rfl)
theorem dX0_shipsThat_35 : decode cX0_shipsThat 35 = .ok (.invokevirtual 162, 3) := dk_182 0 162 (dk_at dksX0_shipsThat_1 11 rfl rfl)
theorem dX0_shipsThat_38 : decode cX0_shipsThat 38 = .ok (.iload_n 3, 1) := dk_29 (dk_at dksX0_shipsThat_1 14 rfl rfl)
theorem dX0_shipsThat_39 : decode cX0_shipsThat 39 = .ok (.invokevirtual 247, 3) := dk_182 0 247 (dk_at dksX0_shipsThat_1 15 rfl rfl)
theorem dX0_shipsThat_42 : decode cX0_shipsThat 42 = .ok (.ifCond .ge 9, 3) := dk_156 0 9 (dk_at dksX0_shipsThat_1 18 rfl rfl)
theorem dX0_shipsThat_45 : decode cX0_shipsThat 45 = .ok (.iconst 1, 1) := dk_4 (dk_at dksX0_shipsThat_1 21 rfl rfl)
theorem dX0_shipsThat_46 : decode cX0_shipsThat 46 = .ok (.iload_n 3, 1) := dk_29 (dk_at dksX0_shipsThat_1 22 rfl rfl)
theorem dX0_shipsThat_47 : decode cX0_shipsThat 47 = .ok (.ishl, 1) := dk_120 (dk_at dksX0_shipsThat_1 23 rfl rfl)
theorem dX0_shipsThat_48 : decode cX0_shipsThat 48 = .ok (.goto 4, 3) := dk_167 0 4 (dk_at dksX0_shipsThat_2 0 rfl rfl)
theorem dX0_shipsThat_51 : decode cX0_shipsThat 51 = .ok (.iconst 0, 1) := dk_3 (dk_at dksX0_shipsThat_2 3 rfl rfl)
theorem dX0_shipsThat_52 : decode cX0_shipsThat 52 = .ok (.ior, 1) := dk_128 (dk_at dksX0_shipsThat_2 4 rfl rfl)
theorem dX0_shipsThat_53 : decode cX0_shipsThat 53 = .ok (.istore_n 2, 1) := dk_61 (dk_at dksX0_shipsThat_2 5 rfl rfl)
theorem dX0_shipsThat_54 : decode cX0_shipsThat 54 = .ok (.iinc 3 1, 3) := dk_132 3 1 (dk_at dksX0_shipsThat_2 6 rfl rfl)
theorem dX0_shipsThat_57 : decode cX0_shipsThat 57 = .ok (.goto (-53), 3) := dk_167 255 203 (dk_at dksX0_shipsThat_2 9 rfl rfl)
theorem dX0_shipsThat_60 : decode cX0_shipsThat 60 = .ok (.iload_n 2, 1) := dk_28 (dk_at dksX0_shipsThat_2 12 rfl rfl)
theorem dX0_shipsThat_61 : decode cX0_shipsThat 61 = .ok (.ireturn, 1) := dk_172 (dk_at dksX0_shipsThat_2 13 rfl rfl)
abbrev cX0_allTons : ByteArray := prog_1_method_40_code
def yX0_allTons : MethodName := ⟨RX0, "allTons", "()I"⟩
def dkwX0_allTons_1 : List UInt8 := [96, 60, 132, 2, 1, 167, 255, 231, 27, 172]
abbrev dktX0_allTons_1 : List UInt8 := dkwX0_allTons_1 ++ []
def dkwX0_allTons_0 : List UInt8 := [3, 60, 3, 61, 28, 42, 182, 0, 162, 180, 0, 179, 162, 0, 20, 27, 42, 182, 0, 162, 28, 182, 0, 251]
abbrev dktX0_allTons_0 : List UInt8 := dkwX0_allTons_0 ++ dktX0_allTons_1
theorem dksX0_allTons_0 : cX0_allTons.data.toList.drop 0 = dktX0_allTons_0 := by decide +kernel
theorem dksX0_allTons_1 : cX0_allTons.data.toList.drop 24 = dktX0_allTons_1 := dk_seg dksX0_allTons_0 24 rfl rfl
theorem dX0_allTons_0 : decode cX0_allTons 0 = .ok (.iconst 0, 1) := dk_3 (dk_at dksX0_allTons_0 0 rfl rfl)
theorem dX0_allTons_1 : decode cX0_allTons 1 = .ok (.istore_n 1, 1) := dk_60 (dk_at dksX0_allTons_0 1 rfl rfl)
theorem dX0_allTons_2 : decode cX0_allTons 2 = .ok (.iconst 0, 1) := dk_3 (dk_at dksX0_allTons_0 2 rfl rfl)
theorem dX0_allTons_3 : decode cX0_allTons 3 = .ok (.istore_n 2, 1) := dk_61 (dk_at dksX0_allTons_0 3 rfl rfl)
theorem dX0_allTons_4 : decode cX0_allTons 4 = .ok (.iload_n 2, 1) := dk_28 (dk_at dksX0_allTons_0 4 rfl rfl)
theorem dX0_allTons_5 : decode cX0_allTons 5 = .ok (.aload_n 0, 1) := dk_42 (dk_at dksX0_allTons_0 5 rfl rfl)
theorem dX0_allTons_6 : decode cX0_allTons 6 = .ok (.invokevirtual 162, 3) := dk_182 0 162 (dk_at dksX0_allTons_0 6 rfl rfl)
theorem dX0_allTons_9 : decode cX0_allTons 9 = .ok (.getfield 179, 3) := dk_180 0 179 (dk_at dksX0_allTons_0 9 rfl rfl)
theorem dX0_allTons_12 : decode cX0_allTons 12 = .ok (.if_icmp .ge 20, 3) := dk_162 0 20 (dk_at dksX0_allTons_0 12 rfl rfl)
theorem dX0_allTons_15 : decode cX0_allTons 15 = .ok (.iload_n 1, 1) := dk_27 (dk_at dksX0_allTons_0 15 rfl rfl)
theorem dX0_allTons_16 : decode cX0_allTons 16 = .ok (.aload_n 0, 1) := dk_42 (dk_at dksX0_allTons_0 16 rfl rfl)
theorem dX0_allTons_17 : decode cX0_allTons 17 = .ok (.invokevirtual 162, 3) := dk_182 0 162 (dk_at dksX0_allTons_0 17 rfl rfl)
theorem dX0_allTons_20 : decode cX0_allTons 20 = .ok (.iload_n 2, 1) := dk_28 (dk_at dksX0_allTons_0 20 rfl rfl)
theorem dX0_allTons_21 : decode cX0_allTons 21 = .ok (.invokevirtual 251, 3) := dk_182 0 251 (dk_at dksX0_allTons_0 21 rfl rfl)
theorem dX0_allTons_24 : decode cX0_allTons 24 = .ok (.iadd, 1) := dk_96 (dk_at dksX0_allTons_1 0 rfl rfl)
theorem dX0_allTons_25 : decode cX0_allTons 25 = .ok (.istore_n 1, 1) := dk_60 (dk_at dksX0_allTons_1 1 rfl rfl)
theorem dX0_allTons_26 : decode cX0_allTons 26 = .ok (.iinc 2 1, 3) := dk_132 2 1 (dk_at dksX0_allTons_1 2 rfl rfl)
theorem dX0_allTons_29 : decode cX0_allTons 29 = .ok (.goto (-25), 3) := dk_167 255 231 (dk_at dksX0_allTons_1 5 rfl rfl)
theorem dX0_allTons_32 : decode cX0_allTons 32 = .ok (.iload_n 1, 1) := dk_27 (dk_at dksX0_allTons_1 8 rfl rfl)
theorem dX0_allTons_33 : decode cX0_allTons 33 = .ok (.ireturn, 1) := dk_172 (dk_at dksX0_allTons_1 9 rfl rfl)
abbrev cX0_nation : ByteArray := prog_1_method_42_code
def yX0_nation : MethodName := ⟨RX0, "nation", "(II)I"⟩
def dkwX0_nation_4 : List UInt8 := [172]
abbrev dktX0_nation_4 : List UInt8 := dkwX0_nation_4 ++ []
def dkwX0_nation_3 : List UInt8 := [167, 0, 24, 28, 5, 160, 0, 10, 45, 180, 1, 33, 167, 0, 12, 42, 182, 0, 162, 180, 1, 36, 27, 46]
abbrev dktX0_nation_3 : List UInt8 := dkwX0_nation_3 ++ dktX0_nation_4
def dkwX0_nation_2 : List UInt8 := [50, 78, 28, 154, 0, 10, 45, 180, 1, 25, 167, 0, 36, 28, 4, 160, 0, 10, 45, 180, 1, 30]
abbrev dktX0_nation_2 : List UInt8 := dkwX0_nation_2 ++ dktX0_nation_3
def dkwX0_nation_1 : List UInt8 := [167, 0, 4, 4, 181, 0, 85, 42, 180, 0, 85, 158, 0, 5, 2, 172, 42, 182, 0, 162, 180, 1, 21, 27]
abbrev dktX0_nation_1 : List UInt8 := dkwX0_nation_1 ++ dktX0_nation_2
def dkwX0_nation_0 : List UInt8 := [42, 42, 27, 182, 1, 16, 153, 0, 19, 28, 133, 9, 20, 1, 19, 184, 0, 169, 153, 0, 7, 3]
abbrev dktX0_nation_0 : List UInt8 := dkwX0_nation_0 ++ dktX0_nation_1
theorem dksX0_nation_0 : cX0_nation.data.toList.drop 0 = dktX0_nation_0 := by decide +kernel
theorem dksX0_nation_1 : cX0_nation.data.toList.drop 22 = dktX0_nation_1 := dk_seg dksX0_nation_0 22 rfl rfl
theorem dksX0_nation_2 : cX0_nation.data.toList.drop 46 = dktX0_nation_2 := dk_seg dksX0_nation_1 24 rfl rfl
theorem dksX0_nation_3 : cX0_nation.data.toList.drop 68 = dktX0_nation_3 := dk_seg dksX0_nation_2 22 rfl rfl
theorem dksX0_nation_4 : cX0_nation.data.toList.drop 92 = dktX0_nation_4 := dk_seg dksX0_nation_3 24 rfl rfl
theorem dX0_nation_0 : decode cX0_nation 0 = .ok (.aload_n 0, 1) := dk_42 (dk_at dksX0_nation_0 0 rfl rfl)
theorem dX0_nation_1 : decode cX0_nation 1 = .ok (.aload_n 0, 1) := dk_42 (dk_at dksX0_nation_0 1 rfl rfl)
theorem dX0_nation_2 : decode cX0_nation 2 = .ok (.iload_n 1, 1) := dk_27 (dk_at dksX0_nation_0 2 rfl rfl)
theorem dX0_nation_3 : decode cX0_nation 3 = .ok (.invokevirtual 272, 3) := dk_182 1 16 (dk_at dksX0_nation_0 3 rfl rfl)
theorem dX0_nation_6 : decode cX0_nation 6 = .ok (.ifCond .eq 19, 3) := dk_153 0 19 (dk_at dksX0_nation_0 6 rfl rfl)
theorem dX0_nation_9 : decode cX0_nation 9 = .ok (.iload_n 2, 1) := dk_28 (dk_at dksX0_nation_0 9 rfl rfl)
theorem dX0_nation_10 : decode cX0_nation 10 = .ok (.i2l, 1) := dk_133 (dk_at dksX0_nation_0 10 rfl rfl)
theorem dX0_nation_11 : decode cX0_nation 11 = .ok (.lconst 0, 1) := dk_9 (dk_at dksX0_nation_0 11 rfl rfl)
theorem dX0_nation_12 : decode cX0_nation 12 = .ok (.ldc2_w 275, 3) := dk_20 1 19 (dk_at dksX0_nation_0 12 rfl rfl)
theorem dX0_nation_15 : decode cX0_nation 15 = .ok (.invokestatic 169, 3) := dk_184 0 169 (dk_at dksX0_nation_0 15 rfl rfl)
theorem dX0_nation_18 : decode cX0_nation 18 = .ok (.ifCond .eq 7, 3) := dk_153 0 7 (dk_at dksX0_nation_0 18 rfl rfl)
theorem dX0_nation_21 : decode cX0_nation 21 = .ok (.iconst 0, 1) := dk_3 (dk_at dksX0_nation_0 21 rfl rfl)
theorem dX0_nation_22 : decode cX0_nation 22 = .ok (.goto 4, 3) := dk_167 0 4 (dk_at dksX0_nation_1 0 rfl rfl)
theorem dX0_nation_25 : decode cX0_nation 25 = .ok (.iconst 1, 1) := dk_4 (dk_at dksX0_nation_1 3 rfl rfl)
theorem dX0_nation_26 : decode cX0_nation 26 = .ok (.putfield 85, 3) := dk_181 0 85 (dk_at dksX0_nation_1 4 rfl rfl)
theorem dX0_nation_29 : decode cX0_nation 29 = .ok (.aload_n 0, 1) := dk_42 (dk_at dksX0_nation_1 7 rfl rfl)
theorem dX0_nation_30 : decode cX0_nation 30 = .ok (.getfield 85, 3) := dk_180 0 85 (dk_at dksX0_nation_1 8 rfl rfl)
theorem dX0_nation_33 : decode cX0_nation 33 = .ok (.ifCond .le 5, 3) := dk_158 0 5 (dk_at dksX0_nation_1 11 rfl rfl)
theorem dX0_nation_36 : decode cX0_nation 36 = .ok (.iconst (-1), 1) := dk_2 (dk_at dksX0_nation_1 14 rfl rfl)
theorem dX0_nation_37 : decode cX0_nation 37 = .ok (.ireturn, 1) := dk_172 (dk_at dksX0_nation_1 15 rfl rfl)
theorem dX0_nation_38 : decode cX0_nation 38 = .ok (.aload_n 0, 1) := dk_42 (dk_at dksX0_nation_1 16 rfl rfl)
theorem dX0_nation_39 : decode cX0_nation 39 = .ok (.invokevirtual 162, 3) := dk_182 0 162 (dk_at dksX0_nation_1 17 rfl rfl)
theorem dX0_nation_42 : decode cX0_nation 42 = .ok (.getfield 277, 3) := dk_180 1 21 (dk_at dksX0_nation_1 20 rfl rfl)
theorem dX0_nation_45 : decode cX0_nation 45 = .ok (.iload_n 1, 1) := dk_27 (dk_at dksX0_nation_1 23 rfl rfl)
theorem dX0_nation_46 : decode cX0_nation 46 = .ok (.aaload, 1) := dk_50 (dk_at dksX0_nation_2 0 rfl rfl)
theorem dX0_nation_47 : decode cX0_nation 47 = .ok (.astore_n 3, 1) := dk_78 (dk_at dksX0_nation_2 1 rfl rfl)
theorem dX0_nation_48 : decode cX0_nation 48 = .ok (.iload_n 2, 1) := dk_28 (dk_at dksX0_nation_2 2 rfl rfl)
theorem dX0_nation_49 : decode cX0_nation 49 = .ok (.ifCond .ne 10, 3) := dk_154 0 10 (dk_at dksX0_nation_2 3 rfl rfl)
theorem dX0_nation_52 : decode cX0_nation 52 = .ok (.aload_n 3, 1) := dk_45 (dk_at dksX0_nation_2 6 rfl rfl)
theorem dX0_nation_53 : decode cX0_nation 53 = .ok (.getfield 281, 3) := dk_180 1 25 (dk_at dksX0_nation_2 7 rfl rfl)
theorem dX0_nation_56 : decode cX0_nation 56 = .ok (.goto 36, 3) := dk_167 0 36 (dk_at dksX0_nation_2 10 rfl rfl)
theorem dX0_nation_59 : decode cX0_nation 59 = .ok (.iload_n 2, 1) := dk_28 (dk_at dksX0_nation_2 13 rfl rfl)
theorem dX0_nation_60 : decode cX0_nation 60 = .ok (.iconst 1, 1) := dk_4 (dk_at dksX0_nation_2 14 rfl rfl)
theorem dX0_nation_61 : decode cX0_nation 61 = .ok (.if_icmp .ne 10, 3) := dk_160 0 10 (dk_at dksX0_nation_2 15 rfl rfl)
theorem dX0_nation_64 : decode cX0_nation 64 = .ok (.aload_n 3, 1) := dk_45 (dk_at dksX0_nation_2 18 rfl rfl)
theorem dX0_nation_65 : decode cX0_nation 65 = .ok (.getfield 286, 3) := dk_180 1 30 (dk_at dksX0_nation_2 19 rfl rfl)
theorem dX0_nation_68 : decode cX0_nation 68 = .ok (.goto 24, 3) := dk_167 0 24 (dk_at dksX0_nation_3 0 rfl rfl)
theorem dX0_nation_71 : decode cX0_nation 71 = .ok (.iload_n 2, 1) := dk_28 (dk_at dksX0_nation_3 3 rfl rfl)
theorem dX0_nation_72 : decode cX0_nation 72 = .ok (.iconst 2, 1) := dk_5 (dk_at dksX0_nation_3 4 rfl rfl)
theorem dX0_nation_73 : decode cX0_nation 73 = .ok (.if_icmp .ne 10, 3) := dk_160 0 10 (dk_at dksX0_nation_3 5 rfl rfl)
theorem dX0_nation_76 : decode cX0_nation 76 = .ok (.aload_n 3, 1) := dk_45 (dk_at dksX0_nation_3 8 rfl rfl)
theorem dX0_nation_77 : decode cX0_nation 77 = .ok (.getfield 289, 3) := dk_180 1 33 (dk_at dksX0_nation_3 9 rfl rfl)
theorem dX0_nation_80 : decode cX0_nation 80 = .ok (.goto 12, 3) := dk_167 0 12 (dk_at dksX0_nation_3 12 rfl rfl)
theorem dX0_nation_83 : decode cX0_nation 83 = .ok (.aload_n 0, 1) := dk_42 (dk_at dksX0_nation_3 15 rfl rfl)
theorem dX0_nation_84 : decode cX0_nation 84 = .ok (.invokevirtual 162, 3) := dk_182 0 162 (dk_at dksX0_nation_3 16 rfl rfl)
theorem dX0_nation_87 : decode cX0_nation 87 = .ok (.getfield 292, 3) := dk_180 1 36 (dk_at dksX0_nation_3 19 rfl rfl)
theorem dX0_nation_90 : decode cX0_nation 90 = .ok (.iload_n 1, 1) := dk_27 (dk_at dksX0_nation_3 22 rfl rfl)
theorem dX0_nation_91 : decode cX0_nation 91 = .ok (.iaload, 1) := dk_46 (dk_at dksX0_nation_3 23 rfl rfl)
theorem dX0_nation_92 : decode cX0_nation 92 = .ok (.ireturn, 1) := dk_172 (dk_at dksX0_nation_4 0 rfl rfl)
abbrev cX0_isNation : ByteArray := prog_1_method_22_code
def yX0_isNation : MethodName := ⟨RX0, "isNation", "(I)Z"⟩
def dkwX0_isNation_0 : List UInt8 := [27, 133, 9, 42, 182, 0, 162, 180, 0, 166, 4, 100, 133, 184, 0, 169, 172]
abbrev dktX0_isNation_0 : List UInt8 := dkwX0_isNation_0 ++ []
theorem dksX0_isNation_0 : cX0_isNation.data.toList.drop 0 = dktX0_isNation_0 := by decide +kernel
theorem dX0_isNation_0 : decode cX0_isNation 0 = .ok (.iload_n 1, 1) := dk_27 (dk_at dksX0_isNation_0 0 rfl rfl)
theorem dX0_isNation_1 : decode cX0_isNation 1 = .ok (.i2l, 1) := dk_133 (dk_at dksX0_isNation_0 1 rfl rfl)
theorem dX0_isNation_2 : decode cX0_isNation 2 = .ok (.lconst 0, 1) := dk_9 (dk_at dksX0_isNation_0 2 rfl rfl)
theorem dX0_isNation_3 : decode cX0_isNation 3 = .ok (.aload_n 0, 1) := dk_42 (dk_at dksX0_isNation_0 3 rfl rfl)
theorem dX0_isNation_4 : decode cX0_isNation 4 = .ok (.invokevirtual 162, 3) := dk_182 0 162 (dk_at dksX0_isNation_0 4 rfl rfl)
theorem dX0_isNation_7 : decode cX0_isNation 7 = .ok (.getfield 166, 3) := dk_180 0 166 (dk_at dksX0_isNation_0 7 rfl rfl)
theorem dX0_isNation_10 : decode cX0_isNation 10 = .ok (.iconst 1, 1) := dk_4 (dk_at dksX0_isNation_0 10 rfl rfl)
theorem dX0_isNation_11 : decode cX0_isNation 11 = .ok (.isub, 1) := dk_100 (dk_at dksX0_isNation_0 11 rfl rfl)
theorem dX0_isNation_12 : decode cX0_isNation 12 = .ok (.i2l, 1) := dk_133 (dk_at dksX0_isNation_0 12 rfl rfl)
theorem dX0_isNation_13 : decode cX0_isNation 13 = .ok (.invokestatic 169, 3) := dk_184 0 169 (dk_at dksX0_isNation_0 13 rfl rfl)
theorem dX0_isNation_16 : decode cX0_isNation 16 = .ok (.ireturn, 1) := dk_172 (dk_at dksX0_isNation_0 16 rfl rfl)
abbrev cX0_good : ByteArray := prog_1_method_43_code
def yX0_good : MethodName := ⟨RX0, "good", "(II)I"⟩
def dkwX0_good_3 : List UInt8 := [167, 0, 7, 45, 180, 1, 50, 172]
abbrev dktX0_good_3 : List UInt8 := dkwX0_good_3 ++ []
def dkwX0_good_2 : List UInt8 := [50, 78, 28, 154, 0, 10, 45, 180, 1, 43, 167, 0, 19, 28, 4, 160, 0, 10, 45, 180, 1, 47]
abbrev dktX0_good_2 : List UInt8 := dkwX0_good_2 ++ dktX0_good_3
def dkwX0_good_1 : List UInt8 := [167, 0, 4, 4, 181, 0, 85, 42, 180, 0, 85, 158, 0, 5, 2, 172, 42, 182, 0, 162, 180, 1, 39, 27]
abbrev dktX0_good_1 : List UInt8 := dkwX0_good_1 ++ dktX0_good_2
def dkwX0_good_0 : List UInt8 := [42, 42, 27, 182, 0, 193, 153, 0, 19, 28, 133, 9, 20, 0, 182, 184, 0, 169, 153, 0, 7, 3]
abbrev dktX0_good_0 : List UInt8 := dkwX0_good_0 ++ dktX0_good_1
theorem dksX0_good_0 : cX0_good.data.toList.drop 0 = dktX0_good_0 := by decide +kernel
theorem dksX0_good_1 : cX0_good.data.toList.drop 22 = dktX0_good_1 := dk_seg dksX0_good_0 22 rfl rfl
theorem dksX0_good_2 : cX0_good.data.toList.drop 46 = dktX0_good_2 := dk_seg dksX0_good_1 24 rfl rfl
theorem dksX0_good_3 : cX0_good.data.toList.drop 68 = dktX0_good_3 := dk_seg dksX0_good_2 22 rfl rfl
theorem dX0_good_0 : decode cX0_good 0 = .ok (.aload_n 0, 1) := dk_42 (dk_at dksX0_good_0 0 rfl rfl)
theorem dX0_good_1 : decode cX0_good 1 = .ok (.aload_n 0, 1) := dk_42 (dk_at dksX0_good_0 1 rfl rfl)
theorem dX0_good_2 : decode cX0_good 2 = .ok (.iload_n 1, 1) := dk_27 (dk_at dksX0_good_0 2 rfl rfl)
theorem dX0_good_3 : decode cX0_good 3 = .ok (.invokevirtual 193, 3) := dk_182 0 193 (dk_at dksX0_good_0 3 rfl rfl)
theorem dX0_good_6 : decode cX0_good 6 = .ok (.ifCond .eq 19, 3) := dk_153 0 19 (dk_at dksX0_good_0 6 rfl rfl)
theorem dX0_good_9 : decode cX0_good 9 = .ok (.iload_n 2, 1) := dk_28 (dk_at dksX0_good_0 9 rfl rfl)
theorem dX0_good_10 : decode cX0_good 10 = .ok (.i2l, 1) := dk_133 (dk_at dksX0_good_0 10 rfl rfl)
theorem dX0_good_11 : decode cX0_good 11 = .ok (.lconst 0, 1) := dk_9 (dk_at dksX0_good_0 11 rfl rfl)
theorem dX0_good_12 : decode cX0_good 12 = .ok (.ldc2_w 182, 3) := dk_20 0 182 (dk_at dksX0_good_0 12 rfl rfl)
theorem dX0_good_15 : decode cX0_good 15 = .ok (.invokestatic 169, 3) := dk_184 0 169 (dk_at dksX0_good_0 15 rfl rfl)
theorem dX0_good_18 : decode cX0_good 18 = .ok (.ifCond .eq 7, 3) := dk_153 0 7 (dk_at dksX0_good_0 18 rfl rfl)
theorem dX0_good_21 : decode cX0_good 21 = .ok (.iconst 0, 1) := dk_3 (dk_at dksX0_good_0 21 rfl rfl)
theorem dX0_good_22 : decode cX0_good 22 = .ok (.goto 4, 3) := dk_167 0 4 (dk_at dksX0_good_1 0 rfl rfl)
theorem dX0_good_25 : decode cX0_good 25 = .ok (.iconst 1, 1) := dk_4 (dk_at dksX0_good_1 3 rfl rfl)
theorem dX0_good_26 : decode cX0_good 26 = .ok (.putfield 85, 3) := dk_181 0 85 (dk_at dksX0_good_1 4 rfl rfl)
theorem dX0_good_29 : decode cX0_good 29 = .ok (.aload_n 0, 1) := dk_42 (dk_at dksX0_good_1 7 rfl rfl)
theorem dX0_good_30 : decode cX0_good 30 = .ok (.getfield 85, 3) := dk_180 0 85 (dk_at dksX0_good_1 8 rfl rfl)
theorem dX0_good_33 : decode cX0_good 33 = .ok (.ifCond .le 5, 3) := dk_158 0 5 (dk_at dksX0_good_1 11 rfl rfl)
theorem dX0_good_36 : decode cX0_good 36 = .ok (.iconst (-1), 1) := dk_2 (dk_at dksX0_good_1 14 rfl rfl)
theorem dX0_good_37 : decode cX0_good 37 = .ok (.ireturn, 1) := dk_172 (dk_at dksX0_good_1 15 rfl rfl)
theorem dX0_good_38 : decode cX0_good 38 = .ok (.aload_n 0, 1) := dk_42 (dk_at dksX0_good_1 16 rfl rfl)
theorem dX0_good_39 : decode cX0_good 39 = .ok (.invokevirtual 162, 3) := dk_182 0 162 (dk_at dksX0_good_1 17 rfl rfl)
theorem dX0_good_42 : decode cX0_good 42 = .ok (.getfield 295, 3) := dk_180 1 39 (dk_at dksX0_good_1 20 rfl rfl)
theorem dX0_good_45 : decode cX0_good 45 = .ok (.iload_n 1, 1) := dk_27 (dk_at dksX0_good_1 23 rfl rfl)
theorem dX0_good_46 : decode cX0_good 46 = .ok (.aaload, 1) := dk_50 (dk_at dksX0_good_2 0 rfl rfl)
theorem dX0_good_47 : decode cX0_good 47 = .ok (.astore_n 3, 1) := dk_78 (dk_at dksX0_good_2 1 rfl rfl)
theorem dX0_good_48 : decode cX0_good 48 = .ok (.iload_n 2, 1) := dk_28 (dk_at dksX0_good_2 2 rfl rfl)
theorem dX0_good_49 : decode cX0_good 49 = .ok (.ifCond .ne 10, 3) := dk_154 0 10 (dk_at dksX0_good_2 3 rfl rfl)
theorem dX0_good_52 : decode cX0_good 52 = .ok (.aload_n 3, 1) := dk_45 (dk_at dksX0_good_2 6 rfl rfl)
theorem dX0_good_53 : decode cX0_good 53 = .ok (.getfield 299, 3) := dk_180 1 43 (dk_at dksX0_good_2 7 rfl rfl)
theorem dX0_good_56 : decode cX0_good 56 = .ok (.goto 19, 3) := dk_167 0 19 (dk_at dksX0_good_2 10 rfl rfl)
theorem dX0_good_59 : decode cX0_good 59 = .ok (.iload_n 2, 1) := dk_28 (dk_at dksX0_good_2 13 rfl rfl)
theorem dX0_good_60 : decode cX0_good 60 = .ok (.iconst 1, 1) := dk_4 (dk_at dksX0_good_2 14 rfl rfl)
theorem dX0_good_61 : decode cX0_good 61 = .ok (.if_icmp .ne 10, 3) := dk_160 0 10 (dk_at dksX0_good_2 15 rfl rfl)
theorem dX0_good_64 : decode cX0_good 64 = .ok (.aload_n 3, 1) := dk_45 (dk_at dksX0_good_2 18 rfl rfl)
theorem dX0_good_65 : decode cX0_good 65 = .ok (.getfield 303, 3) := dk_180 1 47 (dk_at dksX0_good_2 19 rfl rfl)
theorem dX0_good_68 : decode cX0_good 68 = .ok (.goto 7, 3) := dk_167 0 7 (dk_at dksX0_good_3 0 rfl rfl)
theorem dX0_good_71 : decode cX0_good 71 = .ok (.aload_n 3, 1) := dk_45 (dk_at dksX0_good_3 3 rfl rfl)
theorem dX0_good_72 : decode cX0_good 72 = .ok (.getfield 306, 3) := dk_180 1 50 (dk_at dksX0_good_3 4 rfl rfl)
theorem dX0_good_75 : decode cX0_good 75 = .ok (.ireturn, 1) := dk_172 (dk_at dksX0_good_3 7 rfl rfl)
abbrev cX0_isGood : ByteArray := prog_1_method_23_code
def yX0_isGood : MethodName := ⟨RX0, "isGood", "(I)Z"⟩
def dkwX0_isGood_0 : List UInt8 := [27, 133, 9, 42, 182, 0, 162, 180, 0, 173, 4, 100, 133, 184, 0, 169, 172]
abbrev dktX0_isGood_0 : List UInt8 := dkwX0_isGood_0 ++ []
theorem dksX0_isGood_0 : cX0_isGood.data.toList.drop 0 = dktX0_isGood_0 := by decide +kernel
theorem dX0_isGood_0 : decode cX0_isGood 0 = .ok (.iload_n 1, 1) := dk_27 (dk_at dksX0_isGood_0 0 rfl rfl)
theorem dX0_isGood_1 : decode cX0_isGood 1 = .ok (.i2l, 1) := dk_133 (dk_at dksX0_isGood_0 1 rfl rfl)
theorem dX0_isGood_2 : decode cX0_isGood 2 = .ok (.lconst 0, 1) := dk_9 (dk_at dksX0_isGood_0 2 rfl rfl)
theorem dX0_isGood_3 : decode cX0_isGood 3 = .ok (.aload_n 0, 1) := dk_42 (dk_at dksX0_isGood_0 3 rfl rfl)
theorem dX0_isGood_4 : decode cX0_isGood 4 = .ok (.invokevirtual 162, 3) := dk_182 0 162 (dk_at dksX0_isGood_0 4 rfl rfl)
theorem dX0_isGood_7 : decode cX0_isGood 7 = .ok (.getfield 173, 3) := dk_180 0 173 (dk_at dksX0_isGood_0 7 rfl rfl)
theorem dX0_isGood_10 : decode cX0_isGood 10 = .ok (.iconst 1, 1) := dk_4 (dk_at dksX0_isGood_0 10 rfl rfl)
theorem dX0_isGood_11 : decode cX0_isGood 11 = .ok (.isub, 1) := dk_100 (dk_at dksX0_isGood_0 11 rfl rfl)
theorem dX0_isGood_12 : decode cX0_isGood 12 = .ok (.i2l, 1) := dk_133 (dk_at dksX0_isGood_0 12 rfl rfl)
theorem dX0_isGood_13 : decode cX0_isGood 13 = .ok (.invokestatic 169, 3) := dk_184 0 169 (dk_at dksX0_isGood_0 13 rfl rfl)
theorem dX0_isGood_16 : decode cX0_isGood 16 = .ok (.ireturn, 1) := dk_172 (dk_at dksX0_isGood_0 16 rfl rfl)
abbrev cX0_portOf : ByteArray := prog_1_method_44_code
def yX0_portOf : MethodName := ⟨RX0, "portOf", "(I)I"⟩
def dkwX0_portOf_1 : List UInt8 := [2, 167, 0, 19, 42, 42, 182, 0, 162, 180, 1, 53, 27, 50, 180, 1, 57, 182, 1, 60, 172]
abbrev dktX0_portOf_1 : List UInt8 := dkwX0_portOf_1 ++ []
def dkwX0_portOf_0 : List UInt8 := [42, 42, 27, 182, 0, 190, 153, 0, 7, 3, 167, 0, 4, 4, 181, 0, 85, 42, 180, 0, 85, 158, 0, 7]
abbrev dktX0_portOf_0 : List UInt8 := dkwX0_portOf_0 ++ dktX0_portOf_1
theorem dksX0_portOf_0 : cX0_portOf.data.toList.drop 0 = dktX0_portOf_0 := by decide +kernel
theorem dksX0_portOf_1 : cX0_portOf.data.toList.drop 24 = dktX0_portOf_1 := dk_seg dksX0_portOf_0 24 rfl rfl
theorem dX0_portOf_0 : decode cX0_portOf 0 = .ok (.aload_n 0, 1) := dk_42 (dk_at dksX0_portOf_0 0 rfl rfl)
theorem dX0_portOf_1 : decode cX0_portOf 1 = .ok (.aload_n 0, 1) := dk_42 (dk_at dksX0_portOf_0 1 rfl rfl)
theorem dX0_portOf_2 : decode cX0_portOf 2 = .ok (.iload_n 1, 1) := dk_27 (dk_at dksX0_portOf_0 2 rfl rfl)
theorem dX0_portOf_3 : decode cX0_portOf 3 = .ok (.invokevirtual 190, 3) := dk_182 0 190 (dk_at dksX0_portOf_0 3 rfl rfl)
theorem dX0_portOf_6 : decode cX0_portOf 6 = .ok (.ifCond .eq 7, 3) := dk_153 0 7 (dk_at dksX0_portOf_0 6 rfl rfl)
theorem dX0_portOf_9 : decode cX0_portOf 9 = .ok (.iconst 0, 1) := dk_3 (dk_at dksX0_portOf_0 9 rfl rfl)
theorem dX0_portOf_10 : decode cX0_portOf 10 = .ok (.goto 4, 3) := dk_167 0 4 (dk_at dksX0_portOf_0 10 rfl rfl)
theorem dX0_portOf_13 : decode cX0_portOf 13 = .ok (.iconst 1, 1) := dk_4 (dk_at dksX0_portOf_0 13 rfl rfl)
theorem dX0_portOf_14 : decode cX0_portOf 14 = .ok (.putfield 85, 3) := dk_181 0 85 (dk_at dksX0_portOf_0 14 rfl rfl)
theorem dX0_portOf_17 : decode cX0_portOf 17 = .ok (.aload_n 0, 1) := dk_42 (dk_at dksX0_portOf_0 17 rfl rfl)
theorem dX0_portOf_18 : decode cX0_portOf 18 = .ok (.getfield 85, 3) := dk_180 0 85 (dk_at dksX0_portOf_0 18 rfl rfl)
theorem dX0_portOf_21 : decode cX0_portOf 21 = .ok (.ifCond .le 7, 3) := dk_158 0 7 (dk_at dksX0_portOf_0 21 rfl rfl)
theorem dX0_portOf_24 : decode cX0_portOf 24 = .ok (.iconst (-1), 1) := dk_2 (dk_at dksX0_portOf_1 0 rfl rfl)
theorem dX0_portOf_25 : decode cX0_portOf 25 = .ok (.goto 19, 3) := dk_167 0 19 (dk_at dksX0_portOf_1 1 rfl rfl)
theorem dX0_portOf_28 : decode cX0_portOf 28 = .ok (.aload_n 0, 1) := dk_42 (dk_at dksX0_portOf_1 4 rfl rfl)
theorem dX0_portOf_29 : decode cX0_portOf 29 = .ok (.aload_n 0, 1) := dk_42 (dk_at dksX0_portOf_1 5 rfl rfl)
theorem dX0_portOf_30 : decode cX0_portOf 30 = .ok (.invokevirtual 162, 3) := dk_182 0 162 (dk_at dksX0_portOf_1 6 rfl rfl)
theorem dX0_portOf_33 : decode cX0_portOf 33 = .ok (.getfield 309, 3) := dk_180 1 53 (dk_at dksX0_portOf_1 9 rfl rfl)
theorem dX0_portOf_36 : decode cX0_portOf 36 = .ok (.iload_n 1, 1) := dk_27 (dk_at dksX0_portOf_1 12 rfl rfl)
theorem dX0_portOf_37 : decode cX0_portOf 37 = .ok (.aaload, 1) := dk_50 (dk_at dksX0_portOf_1 13 rfl rfl)
theorem dX0_portOf_38 : decode cX0_portOf 38 = .ok (.getfield 313, 3) := dk_180 1 57 (dk_at dksX0_portOf_1 14 rfl rfl)
theorem dX0_portOf_41 : decode cX0_portOf 41 = .ok (.invokevirtual 316, 3) := dk_182 1 60 (dk_at dksX0_portOf_1 17 rfl rfl)
theorem dX0_portOf_44 : decode cX0_portOf 44 = .ok (.ireturn, 1) := dk_172 (dk_at dksX0_portOf_1 20 rfl rfl)
abbrev cX0_isPort : ByteArray := prog_1_method_24_code
def yX0_isPort : MethodName := ⟨RX0, "isPort", "(I)Z"⟩
def dkwX0_isPort_0 : List UInt8 := [27, 133, 9, 42, 182, 0, 162, 180, 0, 176, 4, 100, 133, 184, 0, 169, 172]
abbrev dktX0_isPort_0 : List UInt8 := dkwX0_isPort_0 ++ []
theorem dksX0_isPort_0 : cX0_isPort.data.toList.drop 0 = dktX0_isPort_0 := by decide +kernel
theorem dX0_isPort_0 : decode cX0_isPort 0 = .ok (.iload_n 1, 1) := dk_27 (dk_at dksX0_isPort_0 0 rfl rfl)
theorem dX0_isPort_1 : decode cX0_isPort 1 = .ok (.i2l, 1) := dk_133 (dk_at dksX0_isPort_0 1 rfl rfl)
theorem dX0_isPort_2 : decode cX0_isPort 2 = .ok (.lconst 0, 1) := dk_9 (dk_at dksX0_isPort_0 2 rfl rfl)
theorem dX0_isPort_3 : decode cX0_isPort 3 = .ok (.aload_n 0, 1) := dk_42 (dk_at dksX0_isPort_0 3 rfl rfl)
theorem dX0_isPort_4 : decode cX0_isPort 4 = .ok (.invokevirtual 162, 3) := dk_182 0 162 (dk_at dksX0_isPort_0 4 rfl rfl)
theorem dX0_isPort_7 : decode cX0_isPort 7 = .ok (.getfield 176, 3) := dk_180 0 176 (dk_at dksX0_isPort_0 7 rfl rfl)
theorem dX0_isPort_10 : decode cX0_isPort 10 = .ok (.iconst 1, 1) := dk_4 (dk_at dksX0_isPort_0 10 rfl rfl)
theorem dX0_isPort_11 : decode cX0_isPort 11 = .ok (.isub, 1) := dk_100 (dk_at dksX0_isPort_0 11 rfl rfl)
theorem dX0_isPort_12 : decode cX0_isPort 12 = .ok (.i2l, 1) := dk_133 (dk_at dksX0_isPort_0 12 rfl rfl)
theorem dX0_isPort_13 : decode cX0_isPort 13 = .ok (.invokestatic 169, 3) := dk_184 0 169 (dk_at dksX0_isPort_0 13 rfl rfl)
theorem dX0_isPort_16 : decode cX0_isPort 16 = .ok (.ireturn, 1) := dk_172 (dk_at dksX0_isPort_0 16 rfl rfl)
abbrev cX0_answer : ByteArray := prog_1_method_31_code
def yX0_answer : MethodName := ⟨RX0, "answer", "(I)I"⟩
def dkwX0_answer_0 : List UInt8 := [42, 27, 156, 0, 8, 16, 6, 167, 0, 4, 3, 181, 0, 85, 27, 172]
abbrev dktX0_answer_0 : List UInt8 := dkwX0_answer_0 ++ []
theorem dksX0_answer_0 : cX0_answer.data.toList.drop 0 = dktX0_answer_0 := by decide +kernel
theorem dX0_answer_0 : decode cX0_answer 0 = .ok (.aload_n 0, 1) := dk_42 (dk_at dksX0_answer_0 0 rfl rfl)
theorem dX0_answer_1 : decode cX0_answer 1 = .ok (.iload_n 1, 1) := dk_27 (dk_at dksX0_answer_0 1 rfl rfl)
theorem dX0_answer_2 : decode cX0_answer 2 = .ok (.ifCond .ge 8, 3) := dk_156 0 8 (dk_at dksX0_answer_0 2 rfl rfl)
theorem dX0_answer_5 : decode cX0_answer 5 = .ok (.bipush 6, 2) := dk_16 6 (dk_at dksX0_answer_0 5 rfl rfl)
theorem dX0_answer_7 : decode cX0_answer 7 = .ok (.goto 4, 3) := dk_167 0 4 (dk_at dksX0_answer_0 7 rfl rfl)
theorem dX0_answer_10 : decode cX0_answer 10 = .ok (.iconst 0, 1) := dk_3 (dk_at dksX0_answer_0 10 rfl rfl)
theorem dX0_answer_11 : decode cX0_answer 11 = .ok (.putfield 85, 3) := dk_181 0 85 (dk_at dksX0_answer_0 11 rfl rfl)
theorem dX0_answer_14 : decode cX0_answer 14 = .ok (.iload_n 1, 1) := dk_27 (dk_at dksX0_answer_0 14 rfl rfl)
theorem dX0_answer_15 : decode cX0_answer 15 = .ok (.ireturn, 1) := dk_172 (dk_at dksX0_answer_0 15 rfl rfl)
abbrev cX0_price : ByteArray := prog_1_method_45_code
def yX0_price : MethodName := ⟨RX0, "price", "(II)I"⟩
def dkwX0_price_2 : List UInt8 := [96, 46, 62, 42, 29, 154, 0, 7, 2, 167, 0, 4, 29, 182, 1, 60, 172]
abbrev dktX0_price_2 : List UInt8 := dkwX0_price_2 ++ []
def dkwX0_price_1 : List UInt8 := [181, 0, 85, 42, 180, 0, 85, 158, 0, 5, 2, 172, 42, 182, 0, 162, 180, 1, 63, 16, 8, 27, 104, 28]
abbrev dktX0_price_1 : List UInt8 := dkwX0_price_1 ++ dktX0_price_2
def dkwX0_price_0 : List UInt8 := [42, 42, 27, 182, 0, 190, 153, 0, 15, 42, 28, 182, 0, 193, 153, 0, 7, 3, 167, 0, 4, 4]
abbrev dktX0_price_0 : List UInt8 := dkwX0_price_0 ++ dktX0_price_1
theorem dksX0_price_0 : cX0_price.data.toList.drop 0 = dktX0_price_0 := by decide +kernel
theorem dksX0_price_1 : cX0_price.data.toList.drop 22 = dktX0_price_1 := dk_seg dksX0_price_0 22 rfl rfl
theorem dksX0_price_2 : cX0_price.data.toList.drop 46 = dktX0_price_2 := dk_seg dksX0_price_1 24 rfl rfl
theorem dX0_price_0 : decode cX0_price 0 = .ok (.aload_n 0, 1) := dk_42 (dk_at dksX0_price_0 0 rfl rfl)
theorem dX0_price_1 : decode cX0_price 1 = .ok (.aload_n 0, 1) := dk_42 (dk_at dksX0_price_0 1 rfl rfl)
theorem dX0_price_2 : decode cX0_price 2 = .ok (.iload_n 1, 1) := dk_27 (dk_at dksX0_price_0 2 rfl rfl)
theorem dX0_price_3 : decode cX0_price 3 = .ok (.invokevirtual 190, 3) := dk_182 0 190 (dk_at dksX0_price_0 3 rfl rfl)
theorem dX0_price_6 : decode cX0_price 6 = .ok (.ifCond .eq 15, 3) := dk_153 0 15 (dk_at dksX0_price_0 6 rfl rfl)
theorem dX0_price_9 : decode cX0_price 9 = .ok (.aload_n 0, 1) := dk_42 (dk_at dksX0_price_0 9 rfl rfl)
theorem dX0_price_10 : decode cX0_price 10 = .ok (.iload_n 2, 1) := dk_28 (dk_at dksX0_price_0 10 rfl rfl)
theorem dX0_price_11 : decode cX0_price 11 = .ok (.invokevirtual 193, 3) := dk_182 0 193 (dk_at dksX0_price_0 11 rfl rfl)
theorem dX0_price_14 : decode cX0_price 14 = .ok (.ifCond .eq 7, 3) := dk_153 0 7 (dk_at dksX0_price_0 14 rfl rfl)
theorem dX0_price_17 : decode cX0_price 17 = .ok (.iconst 0, 1) := dk_3 (dk_at dksX0_price_0 17 rfl rfl)
theorem dX0_price_18 : decode cX0_price 18 = .ok (.goto 4, 3) := dk_167 0 4 (dk_at dksX0_price_0 18 rfl rfl)
theorem dX0_price_21 : decode cX0_price 21 = .ok (.iconst 1, 1) := dk_4 (dk_at dksX0_price_0 21 rfl rfl)
theorem dX0_price_22 : decode cX0_price 22 = .ok (.putfield 85, 3) := dk_181 0 85 (dk_at dksX0_price_1 0 rfl rfl)
theorem dX0_price_25 : decode cX0_price 25 = .ok (.aload_n 0, 1) := dk_42 (dk_at dksX0_price_1 3 rfl rfl)
theorem dX0_price_26 : decode cX0_price 26 = .ok (.getfield 85, 3) := dk_180 0 85 (dk_at dksX0_price_1 4 rfl rfl)
theorem dX0_price_29 : decode cX0_price 29 = .ok (.ifCond .le 5, 3) := dk_158 0 5 (dk_at dksX0_price_1 7 rfl rfl)
theorem dX0_price_32 : decode cX0_price 32 = .ok (.iconst (-1), 1) := dk_2 (dk_at dksX0_price_1 10 rfl rfl)
theorem dX0_price_33 : decode cX0_price 33 = .ok (.ireturn, 1) := dk_172 (dk_at dksX0_price_1 11 rfl rfl)
theorem dX0_price_34 : decode cX0_price 34 = .ok (.aload_n 0, 1) := dk_42 (dk_at dksX0_price_1 12 rfl rfl)
theorem dX0_price_35 : decode cX0_price 35 = .ok (.invokevirtual 162, 3) := dk_182 0 162 (dk_at dksX0_price_1 13 rfl rfl)
theorem dX0_price_38 : decode cX0_price 38 = .ok (.getfield 319, 3) := dk_180 1 63 (dk_at dksX0_price_1 16 rfl rfl)
theorem dX0_price_41 : decode cX0_price 41 = .ok (.bipush 8, 2) := dk_16 8 (dk_at dksX0_price_1 19 rfl rfl)
theorem dX0_price_43 : decode cX0_price 43 = .ok (.iload_n 1, 1) := dk_27 (dk_at dksX0_price_1 21 rfl rfl)
theorem dX0_price_44 : decode cX0_price 44 = .ok (.imul, 1) := dk_104 (dk_at dksX0_price_1 22 rfl rfl)
theorem dX0_price_45 : decode cX0_price 45 = .ok (.iload_n 2, 1) := dk_28 (dk_at dksX0_price_1 23 rfl rfl)
theorem dX0_price_46 : decode cX0_price 46 = .ok (.iadd, 1) := dk_96 (dk_at dksX0_price_2 0 rfl rfl)
theorem dX0_price_47 : decode cX0_price 47 = .ok (.iaload, 1) := dk_46 (dk_at dksX0_price_2 1 rfl rfl)
theorem dX0_price_48 : decode cX0_price 48 = .ok (.istore_n 3, 1) := dk_62 (dk_at dksX0_price_2 2 rfl rfl)
theorem dX0_price_49 : decode cX0_price 49 = .ok (.aload_n 0, 1) := dk_42 (dk_at dksX0_price_2 3 rfl rfl)
theorem dX0_price_50 : decode cX0_price 50 = .ok (.iload_n 3, 1) := dk_29 (dk_at dksX0_price_2 4 rfl rfl)
theorem dX0_price_51 : decode cX0_price 51 = .ok (.ifCond .ne 7, 3) := dk_154 0 7 (dk_at dksX0_price_2 5 rfl rfl)
theorem dX0_price_54 : decode cX0_price 54 = .ok (.iconst (-1), 1) := dk_2 (dk_at dksX0_price_2 8 rfl rfl)
theorem dX0_price_55 : decode cX0_price 55 = .ok (.goto 4, 3) := dk_167 0 4 (dk_at dksX0_price_2 9 rfl rfl)
theorem dX0_price_58 : decode cX0_price 58 = .ok (.iload_n 3, 1) := dk_29 (dk_at dksX0_price_2 12 rfl rfl)
theorem dX0_price_59 : decode cX0_price 59 = .ok (.invokevirtual 316, 3) := dk_182 1 60 (dk_at dksX0_price_2 13 rfl rfl)
theorem dX0_price_62 : decode cX0_price 62 = .ok (.ireturn, 1) := dk_172 (dk_at dksX0_price_2 16 rfl rfl)
abbrev cX0_way : ByteArray := prog_1_method_46_code
def yX0_way : MethodName := ⟨RX0, "way", "(II)I"⟩
def dkwX0_way_2 : List UInt8 := [154, 0, 7, 2, 167, 0, 4, 29, 182, 1, 60, 172]
abbrev dktX0_way_2 : List UInt8 := dkwX0_way_2 ++ []
def dkwX0_way_1 : List UInt8 := [158, 0, 5, 2, 172, 42, 182, 0, 162, 180, 1, 69, 16, 6, 27, 104, 28, 96, 46, 62, 42, 29]
abbrev dktX0_way_1 : List UInt8 := dkwX0_way_1 ++ dktX0_way_2
def dkwX0_way_0 : List UInt8 := [42, 42, 27, 28, 182, 1, 66, 153, 0, 7, 3, 167, 0, 4, 4, 181, 0, 85, 42, 180, 0, 85]
abbrev dktX0_way_0 : List UInt8 := dkwX0_way_0 ++ dktX0_way_1
theorem dksX0_way_0 : cX0_way.data.toList.drop 0 = dktX0_way_0 := by decide +kernel
theorem dksX0_way_1 : cX0_way.data.toList.drop 22 = dktX0_way_1 := dk_seg dksX0_way_0 22 rfl rfl
theorem dksX0_way_2 : cX0_way.data.toList.drop 44 = dktX0_way_2 := dk_seg dksX0_way_1 22 rfl rfl
theorem dX0_way_0 : decode cX0_way 0 = .ok (.aload_n 0, 1) := dk_42 (dk_at dksX0_way_0 0 rfl rfl)
theorem dX0_way_1 : decode cX0_way 1 = .ok (.aload_n 0, 1) := dk_42 (dk_at dksX0_way_0 1 rfl rfl)
theorem dX0_way_2 : decode cX0_way 2 = .ok (.iload_n 1, 1) := dk_27 (dk_at dksX0_way_0 2 rfl rfl)
theorem dX0_way_3 : decode cX0_way 3 = .ok (.iload_n 2, 1) := dk_28 (dk_at dksX0_way_0 3 rfl rfl)
theorem dX0_way_4 : decode cX0_way 4 = .ok (.invokevirtual 322, 3) := dk_182 1 66 (dk_at dksX0_way_0 4 rfl rfl)
theorem dX0_way_7 : decode cX0_way 7 = .ok (.ifCond .eq 7, 3) := dk_153 0 7 (dk_at dksX0_way_0 7 rfl rfl)
theorem dX0_way_10 : decode cX0_way 10 = .ok (.iconst 0, 1) := dk_3 (dk_at dksX0_way_0 10 rfl rfl)
theorem dX0_way_11 : decode cX0_way 11 = .ok (.goto 4, 3) := dk_167 0 4 (dk_at dksX0_way_0 11 rfl rfl)
theorem dX0_way_14 : decode cX0_way 14 = .ok (.iconst 1, 1) := dk_4 (dk_at dksX0_way_0 14 rfl rfl)
theorem dX0_way_15 : decode cX0_way 15 = .ok (.putfield 85, 3) := dk_181 0 85 (dk_at dksX0_way_0 15 rfl rfl)
theorem dX0_way_18 : decode cX0_way 18 = .ok (.aload_n 0, 1) := dk_42 (dk_at dksX0_way_0 18 rfl rfl)
theorem dX0_way_19 : decode cX0_way 19 = .ok (.getfield 85, 3) := dk_180 0 85 (dk_at dksX0_way_0 19 rfl rfl)
theorem dX0_way_22 : decode cX0_way 22 = .ok (.ifCond .le 5, 3) := dk_158 0 5 (dk_at dksX0_way_1 0 rfl rfl)
theorem dX0_way_25 : decode cX0_way 25 = .ok (.iconst (-1), 1) := dk_2 (dk_at dksX0_way_1 3 rfl rfl)
theorem dX0_way_26 : decode cX0_way 26 = .ok (.ireturn, 1) := dk_172 (dk_at dksX0_way_1 4 rfl rfl)
theorem dX0_way_27 : decode cX0_way 27 = .ok (.aload_n 0, 1) := dk_42 (dk_at dksX0_way_1 5 rfl rfl)
theorem dX0_way_28 : decode cX0_way 28 = .ok (.invokevirtual 162, 3) := dk_182 0 162 (dk_at dksX0_way_1 6 rfl rfl)
theorem dX0_way_31 : decode cX0_way 31 = .ok (.getfield 325, 3) := dk_180 1 69 (dk_at dksX0_way_1 9 rfl rfl)
theorem dX0_way_34 : decode cX0_way 34 = .ok (.bipush 6, 2) := dk_16 6 (dk_at dksX0_way_1 12 rfl rfl)
theorem dX0_way_36 : decode cX0_way 36 = .ok (.iload_n 1, 1) := dk_27 (dk_at dksX0_way_1 14 rfl rfl)
theorem dX0_way_37 : decode cX0_way 37 = .ok (.imul, 1) := dk_104 (dk_at dksX0_way_1 15 rfl rfl)
theorem dX0_way_38 : decode cX0_way 38 = .ok (.iload_n 2, 1) := dk_28 (dk_at dksX0_way_1 16 rfl rfl)
theorem dX0_way_39 : decode cX0_way 39 = .ok (.iadd, 1) := dk_96 (dk_at dksX0_way_1 17 rfl rfl)
theorem dX0_way_40 : decode cX0_way 40 = .ok (.iaload, 1) := dk_46 (dk_at dksX0_way_1 18 rfl rfl)
theorem dX0_way_41 : decode cX0_way 41 = .ok (.istore_n 3, 1) := dk_62 (dk_at dksX0_way_1 19 rfl rfl)
theorem dX0_way_42 : decode cX0_way 42 = .ok (.aload_n 0, 1) := dk_42 (dk_at dksX0_way_1 20 rfl rfl)
theorem dX0_way_43 : decode cX0_way 43 = .ok (.iload_n 3, 1) := dk_29 (dk_at dksX0_way_1 21 rfl rfl)
theorem dX0_way_44 : decode cX0_way 44 = .ok (.ifCond .ne 7, 3) := dk_154 0 7 (dk_at dksX0_way_2 0 rfl rfl)
theorem dX0_way_47 : decode cX0_way 47 = .ok (.iconst (-1), 1) := dk_2 (dk_at dksX0_way_2 3 rfl rfl)
theorem dX0_way_48 : decode cX0_way 48 = .ok (.goto 4, 3) := dk_167 0 4 (dk_at dksX0_way_2 4 rfl rfl)
theorem dX0_way_51 : decode cX0_way 51 = .ok (.iload_n 3, 1) := dk_29 (dk_at dksX0_way_2 7 rfl rfl)
theorem dX0_way_52 : decode cX0_way 52 = .ok (.invokevirtual 316, 3) := dk_182 1 60 (dk_at dksX0_way_2 8 rfl rfl)
theorem dX0_way_55 : decode cX0_way 55 = .ok (.ireturn, 1) := dk_172 (dk_at dksX0_way_2 11 rfl rfl)
abbrev cX0_arePorts : ByteArray := prog_1_method_29_code
def yX0_arePorts : MethodName := ⟨RX0, "arePorts", "(II)Z"⟩
def dkwX0_arePorts_1 : List UInt8 := [167, 0, 4, 3, 172]
abbrev dktX0_arePorts_1 : List UInt8 := dkwX0_arePorts_1 ++ []
def dkwX0_arePorts_0 : List UInt8 := [42, 27, 182, 0, 190, 153, 0, 20, 42, 28, 182, 0, 190, 153, 0, 12, 27, 28, 159, 0, 7, 4]
abbrev dktX0_arePorts_0 : List UInt8 := dkwX0_arePorts_0 ++ dktX0_arePorts_1
theorem dksX0_arePorts_0 : cX0_arePorts.data.toList.drop 0 = dktX0_arePorts_0 := by decide +kernel
theorem dksX0_arePorts_1 : cX0_arePorts.data.toList.drop 22 = dktX0_arePorts_1 := dk_seg dksX0_arePorts_0 22 rfl rfl
theorem dX0_arePorts_0 : decode cX0_arePorts 0 = .ok (.aload_n 0, 1) := dk_42 (dk_at dksX0_arePorts_0 0 rfl rfl)
theorem dX0_arePorts_1 : decode cX0_arePorts 1 = .ok (.iload_n 1, 1) := dk_27 (dk_at dksX0_arePorts_0 1 rfl rfl)
theorem dX0_arePorts_2 : decode cX0_arePorts 2 = .ok (.invokevirtual 190, 3) := dk_182 0 190 (dk_at dksX0_arePorts_0 2 rfl rfl)
theorem dX0_arePorts_5 : decode cX0_arePorts 5 = .ok (.ifCond .eq 20, 3) := dk_153 0 20 (dk_at dksX0_arePorts_0 5 rfl rfl)
theorem dX0_arePorts_8 : decode cX0_arePorts 8 = .ok (.aload_n 0, 1) := dk_42 (dk_at dksX0_arePorts_0 8 rfl rfl)
theorem dX0_arePorts_9 : decode cX0_arePorts 9 = .ok (.iload_n 2, 1) := dk_28 (dk_at dksX0_arePorts_0 9 rfl rfl)
theorem dX0_arePorts_10 : decode cX0_arePorts 10 = .ok (.invokevirtual 190, 3) := dk_182 0 190 (dk_at dksX0_arePorts_0 10 rfl rfl)
theorem dX0_arePorts_13 : decode cX0_arePorts 13 = .ok (.ifCond .eq 12, 3) := dk_153 0 12 (dk_at dksX0_arePorts_0 13 rfl rfl)
theorem dX0_arePorts_16 : decode cX0_arePorts 16 = .ok (.iload_n 1, 1) := dk_27 (dk_at dksX0_arePorts_0 16 rfl rfl)
theorem dX0_arePorts_17 : decode cX0_arePorts 17 = .ok (.iload_n 2, 1) := dk_28 (dk_at dksX0_arePorts_0 17 rfl rfl)
theorem dX0_arePorts_18 : decode cX0_arePorts 18 = .ok (.if_icmp .eq 7, 3) := dk_159 0 7 (dk_at dksX0_arePorts_0 18 rfl rfl)
theorem dX0_arePorts_21 : decode cX0_arePorts 21 = .ok (.iconst 1, 1) := dk_4 (dk_at dksX0_arePorts_0 21 rfl rfl)
theorem dX0_arePorts_22 : decode cX0_arePorts 22 = .ok (.goto 4, 3) := dk_167 0 4 (dk_at dksX0_arePorts_1 0 rfl rfl)
theorem dX0_arePorts_25 : decode cX0_arePorts 25 = .ok (.iconst 0, 1) := dk_3 (dk_at dksX0_arePorts_1 3 rfl rfl)
theorem dX0_arePorts_26 : decode cX0_arePorts 26 = .ok (.ireturn, 1) := dk_172 (dk_at dksX0_arePorts_1 4 rfl rfl)
abbrev cX0_ship : ByteArray := prog_1_method_47_code
def yX0_ship : MethodName := ⟨RX0, "ship", "(II)I"⟩
def dkwX0_ship_8 : List UInt8 := [172, 42, 182, 0, 162, 180, 1, 97, 27, 46, 172]
abbrev dktX0_ship_8 : List UInt8 := dkwX0_ship_8 ++ []
def dkwX0_ship_7 : List UInt8 := [180, 1, 91, 27, 46, 172, 42, 182, 0, 162, 27, 182, 0, 251, 172, 42, 182, 0, 162, 180, 1, 94, 27, 46]
abbrev dktX0_ship_7 : List UInt8 := dkwX0_ship_7 ++ dktX0_ship_8
def dkwX0_ship_6 : List UInt8 := [180, 1, 79, 27, 46, 172, 42, 182, 0, 162, 180, 1, 82, 27, 50, 180, 1, 86, 172, 42, 182, 0, 162]
abbrev dktX0_ship_6 : List UInt8 := dkwX0_ship_6 ++ dktX0_ship_7
def dkwX0_ship_5 : List UInt8 := [153, 0, 15, 42, 182, 0, 162, 180, 1, 76, 27, 46, 167, 0, 4, 2, 182, 1, 60, 172, 42, 182, 0, 162]
abbrev dktX0_ship_5 : List UInt8 := dkwX0_ship_5 ++ dktX0_ship_6
def dkwX0_ship_4 : List UInt8 := [42, 29, 153, 0, 7, 2, 167, 0, 12, 42, 182, 0, 162, 180, 1, 74, 27, 46, 182, 1, 60, 172, 42, 29]
abbrev dktX0_ship_4 : List UInt8 := dkwX0_ship_4 ++ dktX0_ship_5
def dkwX0_ship_3 : List UInt8 := [170, 0, 0, 0, 0, 0, 0, 140, 0, 0, 0, 0, 0, 0, 0, 6, 0, 0, 0, 44, 0, 0, 0, 66, 0, 0, 0, 88, 0, 0, 0, 98, 0, 0, 0, 111, 0, 0, 0, 121, 0, 0, 0, 130]
abbrev dktX0_ship_3 : List UInt8 := dkwX0_ship_3 ++ dktX0_ship_4
def dkwX0_ship_2 : List UInt8 := [62, 28]
abbrev dktX0_ship_2 : List UInt8 := dkwX0_ship_2 ++ dktX0_ship_3
def dkwX0_ship_1 : List UInt8 := [167, 0, 4, 4, 181, 0, 85, 42, 180, 0, 85, 158, 0, 5, 2, 172, 42, 182, 0, 162, 27, 182, 0, 244]
abbrev dktX0_ship_1 : List UInt8 := dkwX0_ship_1 ++ dktX0_ship_2
def dkwX0_ship_0 : List UInt8 := [42, 42, 27, 182, 0, 186, 153, 0, 19, 28, 133, 9, 20, 1, 72, 184, 0, 169, 153, 0, 7, 3]
abbrev dktX0_ship_0 : List UInt8 := dkwX0_ship_0 ++ dktX0_ship_1
theorem dksX0_ship_0 : cX0_ship.data.toList.drop 0 = dktX0_ship_0 := by decide +kernel
theorem dksX0_ship_1 : cX0_ship.data.toList.drop 22 = dktX0_ship_1 := dk_seg dksX0_ship_0 22 rfl rfl
theorem dksX0_ship_2 : cX0_ship.data.toList.drop 46 = dktX0_ship_2 := dk_seg dksX0_ship_1 24 rfl rfl
theorem dksX0_ship_3 : cX0_ship.data.toList.drop 48 = dktX0_ship_3 := dk_seg dksX0_ship_2 2 rfl rfl
theorem dksX0_ship_4 : cX0_ship.data.toList.drop 92 = dktX0_ship_4 := dk_seg dksX0_ship_3 44 rfl rfl
theorem dksX0_ship_5 : cX0_ship.data.toList.drop 116 = dktX0_ship_5 := dk_seg dksX0_ship_4 24 rfl rfl
theorem dksX0_ship_6 : cX0_ship.data.toList.drop 140 = dktX0_ship_6 := dk_seg dksX0_ship_5 24 rfl rfl
theorem dksX0_ship_7 : cX0_ship.data.toList.drop 163 = dktX0_ship_7 := dk_seg dksX0_ship_6 23 rfl rfl
theorem dksX0_ship_8 : cX0_ship.data.toList.drop 187 = dktX0_ship_8 := dk_seg dksX0_ship_7 24 rfl rfl
theorem dX0_ship_0 : decode cX0_ship 0 = .ok (.aload_n 0, 1) := dk_42 (dk_at dksX0_ship_0 0 rfl rfl)
theorem dX0_ship_1 : decode cX0_ship 1 = .ok (.aload_n 0, 1) := dk_42 (dk_at dksX0_ship_0 1 rfl rfl)
theorem dX0_ship_2 : decode cX0_ship 2 = .ok (.iload_n 1, 1) := dk_27 (dk_at dksX0_ship_0 2 rfl rfl)
theorem dX0_ship_3 : decode cX0_ship 3 = .ok (.invokevirtual 186, 3) := dk_182 0 186 (dk_at dksX0_ship_0 3 rfl rfl)
theorem dX0_ship_6 : decode cX0_ship 6 = .ok (.ifCond .eq 19, 3) := dk_153 0 19 (dk_at dksX0_ship_0 6 rfl rfl)
theorem dX0_ship_9 : decode cX0_ship 9 = .ok (.iload_n 2, 1) := dk_28 (dk_at dksX0_ship_0 9 rfl rfl)
theorem dX0_ship_10 : decode cX0_ship 10 = .ok (.i2l, 1) := dk_133 (dk_at dksX0_ship_0 10 rfl rfl)
theorem dX0_ship_11 : decode cX0_ship 11 = .ok (.lconst 0, 1) := dk_9 (dk_at dksX0_ship_0 11 rfl rfl)
theorem dX0_ship_12 : decode cX0_ship 12 = .ok (.ldc2_w 328, 3) := dk_20 1 72 (dk_at dksX0_ship_0 12 rfl rfl)
theorem dX0_ship_15 : decode cX0_ship 15 = .ok (.invokestatic 169, 3) := dk_184 0 169 (dk_at dksX0_ship_0 15 rfl rfl)
theorem dX0_ship_18 : decode cX0_ship 18 = .ok (.ifCond .eq 7, 3) := dk_153 0 7 (dk_at dksX0_ship_0 18 rfl rfl)
theorem dX0_ship_21 : decode cX0_ship 21 = .ok (.iconst 0, 1) := dk_3 (dk_at dksX0_ship_0 21 rfl rfl)
theorem dX0_ship_22 : decode cX0_ship 22 = .ok (.goto 4, 3) := dk_167 0 4 (dk_at dksX0_ship_1 0 rfl rfl)
theorem dX0_ship_25 : decode cX0_ship 25 = .ok (.iconst 1, 1) := dk_4 (dk_at dksX0_ship_1 3 rfl rfl)
theorem dX0_ship_26 : decode cX0_ship 26 = .ok (.putfield 85, 3) := dk_181 0 85 (dk_at dksX0_ship_1 4 rfl rfl)
theorem dX0_ship_29 : decode cX0_ship 29 = .ok (.aload_n 0, 1) := dk_42 (dk_at dksX0_ship_1 7 rfl rfl)
theorem dX0_ship_30 : decode cX0_ship 30 = .ok (.getfield 85, 3) := dk_180 0 85 (dk_at dksX0_ship_1 8 rfl rfl)
theorem dX0_ship_33 : decode cX0_ship 33 = .ok (.ifCond .le 5, 3) := dk_158 0 5 (dk_at dksX0_ship_1 11 rfl rfl)
theorem dX0_ship_36 : decode cX0_ship 36 = .ok (.iconst (-1), 1) := dk_2 (dk_at dksX0_ship_1 14 rfl rfl)
theorem dX0_ship_37 : decode cX0_ship 37 = .ok (.ireturn, 1) := dk_172 (dk_at dksX0_ship_1 15 rfl rfl)
theorem dX0_ship_38 : decode cX0_ship 38 = .ok (.aload_n 0, 1) := dk_42 (dk_at dksX0_ship_1 16 rfl rfl)
theorem dX0_ship_39 : decode cX0_ship 39 = .ok (.invokevirtual 162, 3) := dk_182 0 162 (dk_at dksX0_ship_1 17 rfl rfl)
theorem dX0_ship_42 : decode cX0_ship 42 = .ok (.iload_n 1, 1) := dk_27 (dk_at dksX0_ship_1 20 rfl rfl)
theorem dX0_ship_43 : decode cX0_ship 43 = .ok (.invokevirtual 244, 3) := dk_182 0 244 (dk_at dksX0_ship_1 21 rfl rfl)
theorem dX0_ship_46 : decode cX0_ship 46 = .ok (.istore_n 3, 1) := dk_62 (dk_at dksX0_ship_2 0 rfl rfl)
theorem dX0_ship_47 : decode cX0_ship 47 = .ok (.iload_n 2, 1) := dk_28 (dk_at dksX0_ship_2 1 rfl rfl)
theorem dX0_ship_48 : decode cX0_ship 48 = .ok (.tableswitch 140 0 6 #[44, 66, 88, 98, 111, 121, 130], 44) := by decide +kernel
theorem dX0_ship_92 : decode cX0_ship 92 = .ok (.aload_n 0, 1) := dk_42 (dk_at dksX0_ship_4 0 rfl rfl)
theorem dX0_ship_93 : decode cX0_ship 93 = .ok (.iload_n 3, 1) := dk_29 (dk_at dksX0_ship_4 1 rfl rfl)
theorem dX0_ship_94 : decode cX0_ship 94 = .ok (.ifCond .eq 7, 3) := dk_153 0 7 (dk_at dksX0_ship_4 2 rfl rfl)
theorem dX0_ship_97 : decode cX0_ship 97 = .ok (.iconst (-1), 1) := dk_2 (dk_at dksX0_ship_4 5 rfl rfl)
theorem dX0_ship_98 : decode cX0_ship 98 = .ok (.goto 12, 3) := dk_167 0 12 (dk_at dksX0_ship_4 6 rfl rfl)
theorem dX0_ship_101 : decode cX0_ship 101 = .ok (.aload_n 0, 1) := dk_42 (dk_at dksX0_ship_4 9 rfl rfl)
theorem dX0_ship_102 : decode cX0_ship 102 = .ok (.invokevirtual 162, 3) := dk_182 0 162 (dk_at dksX0_ship_4 10 rfl rfl)
theorem dX0_ship_105 : decode cX0_ship 105 = .ok (.getfield 330, 3) := dk_180 1 74 (dk_at dksX0_ship_4 13 rfl rfl)
theorem dX0_ship_108 : decode cX0_ship 108 = .ok (.iload_n 1, 1) := dk_27 (dk_at dksX0_ship_4 16 rfl rfl)
theorem dX0_ship_109 : decode cX0_ship 109 = .ok (.iaload, 1) := dk_46 (dk_at dksX0_ship_4 17 rfl rfl)
theorem dX0_ship_110 : decode cX0_ship 110 = .ok (.invokevirtual 316, 3) := dk_182 1 60 (dk_at dksX0_ship_4 18 rfl rfl)
theorem dX0_ship_113 : decode cX0_ship 113 = .ok (.ireturn, 1) := dk_172 (dk_at dksX0_ship_4 21 rfl rfl)
theorem dX0_ship_114 : decode cX0_ship 114 = .ok (.aload_n 0, 1) := dk_42 (dk_at dksX0_ship_4 22 rfl rfl)
theorem dX0_ship_115 : decode cX0_ship 115 = .ok (.iload_n 3, 1) := dk_29 (dk_at dksX0_ship_4 23 rfl rfl)
theorem dX0_ship_116 : decode cX0_ship 116 = .ok (.ifCond .eq 15, 3) := dk_153 0 15 (dk_at dksX0_ship_5 0 rfl rfl)
theorem dX0_ship_119 : decode cX0_ship 119 = .ok (.aload_n 0, 1) := dk_42 (dk_at dksX0_ship_5 3 rfl rfl)
theorem dX0_ship_120 : decode cX0_ship 120 = .ok (.invokevirtual 162, 3) := dk_182 0 162 (dk_at dksX0_ship_5 4 rfl rfl)
theorem dX0_ship_123 : decode cX0_ship 123 = .ok (.getfield 332, 3) := dk_180 1 76 (dk_at dksX0_ship_5 7 rfl rfl)
theorem dX0_ship_126 : decode cX0_ship 126 = .ok (.iload_n 1, 1) := dk_27 (dk_at dksX0_ship_5 10 rfl rfl)
theorem dX0_ship_127 : decode cX0_ship 127 = .ok (.iaload, 1) := dk_46 (dk_at dksX0_ship_5 11 rfl rfl)
theorem dX0_ship_128 : decode cX0_ship 128 = .ok (.goto 4, 3) := dk_167 0 4 (dk_at dksX0_ship_5 12 rfl rfl)
theorem dX0_ship_131 : decode cX0_ship 131 = .ok (.iconst (-1), 1) := dk_2 (dk_at dksX0_ship_5 15 rfl rfl)
theorem dX0_ship_132 : decode cX0_ship 132 = .ok (.invokevirtual 316, 3) := dk_182 1 60 (dk_at dksX0_ship_5 16 rfl rfl)
theorem dX0_ship_135 : decode cX0_ship 135 = .ok (.ireturn, 1) := dk_172 (dk_at dksX0_ship_5 19 rfl rfl)
theorem dX0_ship_136 : decode cX0_ship 136 = .ok (.aload_n 0, 1) := dk_42 (dk_at dksX0_ship_5 20 rfl rfl)
theorem dX0_ship_137 : decode cX0_ship 137 = .ok (.invokevirtual 162, 3) := dk_182 0 162 (dk_at dksX0_ship_5 21 rfl rfl)
theorem dX0_ship_140 : decode cX0_ship 140 = .ok (.getfield 335, 3) := dk_180 1 79 (dk_at dksX0_ship_6 0 rfl rfl)
theorem dX0_ship_143 : decode cX0_ship 143 = .ok (.iload_n 1, 1) := dk_27 (dk_at dksX0_ship_6 3 rfl rfl)
theorem dX0_ship_144 : decode cX0_ship 144 = .ok (.iaload, 1) := dk_46 (dk_at dksX0_ship_6 4 rfl rfl)
theorem dX0_ship_145 : decode cX0_ship 145 = .ok (.ireturn, 1) := dk_172 (dk_at dksX0_ship_6 5 rfl rfl)
theorem dX0_ship_146 : decode cX0_ship 146 = .ok (.aload_n 0, 1) := dk_42 (dk_at dksX0_ship_6 6 rfl rfl)
theorem dX0_ship_147 : decode cX0_ship 147 = .ok (.invokevirtual 162, 3) := dk_182 0 162 (dk_at dksX0_ship_6 7 rfl rfl)
theorem dX0_ship_150 : decode cX0_ship 150 = .ok (.getfield 338, 3) := dk_180 1 82 (dk_at dksX0_ship_6 10 rfl rfl)
theorem dX0_ship_153 : decode cX0_ship 153 = .ok (.iload_n 1, 1) := dk_27 (dk_at dksX0_ship_6 13 rfl rfl)
theorem dX0_ship_154 : decode cX0_ship 154 = .ok (.aaload, 1) := dk_50 (dk_at dksX0_ship_6 14 rfl rfl)
theorem dX0_ship_155 : decode cX0_ship 155 = .ok (.getfield 342, 3) := dk_180 1 86 (dk_at dksX0_ship_6 15 rfl rfl)
theorem dX0_ship_158 : decode cX0_ship 158 = .ok (.ireturn, 1) := dk_172 (dk_at dksX0_ship_6 18 rfl rfl)
theorem dX0_ship_159 : decode cX0_ship 159 = .ok (.aload_n 0, 1) := dk_42 (dk_at dksX0_ship_6 19 rfl rfl)
theorem dX0_ship_160 : decode cX0_ship 160 = .ok (.invokevirtual 162, 3) := dk_182 0 162 (dk_at dksX0_ship_6 20 rfl rfl)
theorem dX0_ship_163 : decode cX0_ship 163 = .ok (.getfield 347, 3) := dk_180 1 91 (dk_at dksX0_ship_7 0 rfl rfl)
theorem dX0_ship_166 : decode cX0_ship 166 = .ok (.iload_n 1, 1) := dk_27 (dk_at dksX0_ship_7 3 rfl rfl)
theorem dX0_ship_167 : decode cX0_ship 167 = .ok (.iaload, 1) := dk_46 (dk_at dksX0_ship_7 4 rfl rfl)
theorem dX0_ship_168 : decode cX0_ship 168 = .ok (.ireturn, 1) := dk_172 (dk_at dksX0_ship_7 5 rfl rfl)
theorem dX0_ship_169 : decode cX0_ship 169 = .ok (.aload_n 0, 1) := dk_42 (dk_at dksX0_ship_7 6 rfl rfl)
theorem dX0_ship_170 : decode cX0_ship 170 = .ok (.invokevirtual 162, 3) := dk_182 0 162 (dk_at dksX0_ship_7 7 rfl rfl)
theorem dX0_ship_173 : decode cX0_ship 173 = .ok (.iload_n 1, 1) := dk_27 (dk_at dksX0_ship_7 10 rfl rfl)
theorem dX0_ship_174 : decode cX0_ship 174 = .ok (.invokevirtual 251, 3) := dk_182 0 251 (dk_at dksX0_ship_7 11 rfl rfl)
theorem dX0_ship_177 : decode cX0_ship 177 = .ok (.ireturn, 1) := dk_172 (dk_at dksX0_ship_7 14 rfl rfl)
theorem dX0_ship_178 : decode cX0_ship 178 = .ok (.aload_n 0, 1) := dk_42 (dk_at dksX0_ship_7 15 rfl rfl)
theorem dX0_ship_179 : decode cX0_ship 179 = .ok (.invokevirtual 162, 3) := dk_182 0 162 (dk_at dksX0_ship_7 16 rfl rfl)
theorem dX0_ship_182 : decode cX0_ship 182 = .ok (.getfield 350, 3) := dk_180 1 94 (dk_at dksX0_ship_7 19 rfl rfl)
theorem dX0_ship_185 : decode cX0_ship 185 = .ok (.iload_n 1, 1) := dk_27 (dk_at dksX0_ship_7 22 rfl rfl)
theorem dX0_ship_186 : decode cX0_ship 186 = .ok (.iaload, 1) := dk_46 (dk_at dksX0_ship_7 23 rfl rfl)
theorem dX0_ship_187 : decode cX0_ship 187 = .ok (.ireturn, 1) := dk_172 (dk_at dksX0_ship_8 0 rfl rfl)
theorem dX0_ship_188 : decode cX0_ship 188 = .ok (.aload_n 0, 1) := dk_42 (dk_at dksX0_ship_8 1 rfl rfl)
theorem dX0_ship_189 : decode cX0_ship 189 = .ok (.invokevirtual 162, 3) := dk_182 0 162 (dk_at dksX0_ship_8 2 rfl rfl)
theorem dX0_ship_192 : decode cX0_ship 192 = .ok (.getfield 353, 3) := dk_180 1 97 (dk_at dksX0_ship_8 5 rfl rfl)
theorem dX0_ship_195 : decode cX0_ship 195 = .ok (.iload_n 1, 1) := dk_27 (dk_at dksX0_ship_8 8 rfl rfl)
theorem dX0_ship_196 : decode cX0_ship 196 = .ok (.iaload, 1) := dk_46 (dk_at dksX0_ship_8 9 rfl rfl)
theorem dX0_ship_197 : decode cX0_ship 197 = .ok (.ireturn, 1) := dk_172 (dk_at dksX0_ship_8 10 rfl rfl)
abbrev cX0_isShip : ByteArray := prog_1_method_25_code
def yX0_isShip : MethodName := ⟨RX0, "isShip", "(I)Z"⟩
def dkwX0_isShip_0 : List UInt8 := [27, 133, 9, 42, 182, 0, 162, 180, 0, 179, 4, 100, 133, 184, 0, 169, 172]
abbrev dktX0_isShip_0 : List UInt8 := dkwX0_isShip_0 ++ []
theorem dksX0_isShip_0 : cX0_isShip.data.toList.drop 0 = dktX0_isShip_0 := by decide +kernel
theorem dX0_isShip_0 : decode cX0_isShip 0 = .ok (.iload_n 1, 1) := dk_27 (dk_at dksX0_isShip_0 0 rfl rfl)
theorem dX0_isShip_1 : decode cX0_isShip 1 = .ok (.i2l, 1) := dk_133 (dk_at dksX0_isShip_0 1 rfl rfl)
theorem dX0_isShip_2 : decode cX0_isShip 2 = .ok (.lconst 0, 1) := dk_9 (dk_at dksX0_isShip_0 2 rfl rfl)
theorem dX0_isShip_3 : decode cX0_isShip 3 = .ok (.aload_n 0, 1) := dk_42 (dk_at dksX0_isShip_0 3 rfl rfl)
theorem dX0_isShip_4 : decode cX0_isShip 4 = .ok (.invokevirtual 162, 3) := dk_182 0 162 (dk_at dksX0_isShip_0 4 rfl rfl)
theorem dX0_isShip_7 : decode cX0_isShip 7 = .ok (.getfield 179, 3) := dk_180 0 179 (dk_at dksX0_isShip_0 7 rfl rfl)
theorem dX0_isShip_10 : decode cX0_isShip 10 = .ok (.iconst 1, 1) := dk_4 (dk_at dksX0_isShip_0 10 rfl rfl)
theorem dX0_isShip_11 : decode cX0_isShip 11 = .ok (.isub, 1) := dk_100 (dk_at dksX0_isShip_0 11 rfl rfl)
theorem dX0_isShip_12 : decode cX0_isShip 12 = .ok (.i2l, 1) := dk_133 (dk_at dksX0_isShip_0 12 rfl rfl)
theorem dX0_isShip_13 : decode cX0_isShip 13 = .ok (.invokestatic 169, 3) := dk_184 0 169 (dk_at dksX0_isShip_0 13 rfl rfl)
theorem dX0_isShip_16 : decode cX0_isShip 16 = .ok (.ireturn, 1) := dk_172 (dk_at dksX0_isShip_0 16 rfl rfl)
abbrev cX0_aboard : ByteArray := prog_1_method_48_code
def yX0_aboard : MethodName := ⟨RX0, "aboard", "(II)I"⟩
def dkwX0_aboard_2 : List UInt8 := [104, 28, 96, 46, 172]
abbrev dktX0_aboard_2 : List UInt8 := dkwX0_aboard_2 ++ []
def dkwX0_aboard_1 : List UInt8 := [181, 0, 85, 42, 180, 0, 85, 158, 0, 7, 2, 167, 0, 17, 42, 182, 0, 162, 180, 1, 100, 16, 8, 27]
abbrev dktX0_aboard_1 : List UInt8 := dkwX0_aboard_1 ++ dktX0_aboard_2
def dkwX0_aboard_0 : List UInt8 := [42, 42, 27, 182, 0, 186, 153, 0, 15, 42, 28, 182, 0, 193, 153, 0, 7, 3, 167, 0, 4, 4]
abbrev dktX0_aboard_0 : List UInt8 := dkwX0_aboard_0 ++ dktX0_aboard_1
theorem dksX0_aboard_0 : cX0_aboard.data.toList.drop 0 = dktX0_aboard_0 := by decide +kernel
theorem dksX0_aboard_1 : cX0_aboard.data.toList.drop 22 = dktX0_aboard_1 := dk_seg dksX0_aboard_0 22 rfl rfl
theorem dksX0_aboard_2 : cX0_aboard.data.toList.drop 46 = dktX0_aboard_2 := dk_seg dksX0_aboard_1 24 rfl rfl
theorem dX0_aboard_0 : decode cX0_aboard 0 = .ok (.aload_n 0, 1) := dk_42 (dk_at dksX0_aboard_0 0 rfl rfl)
theorem dX0_aboard_1 : decode cX0_aboard 1 = .ok (.aload_n 0, 1) := dk_42 (dk_at dksX0_aboard_0 1 rfl rfl)
theorem dX0_aboard_2 : decode cX0_aboard 2 = .ok (.iload_n 1, 1) := dk_27 (dk_at dksX0_aboard_0 2 rfl rfl)
theorem dX0_aboard_3 : decode cX0_aboard 3 = .ok (.invokevirtual 186, 3) := dk_182 0 186 (dk_at dksX0_aboard_0 3 rfl rfl)
theorem dX0_aboard_6 : decode cX0_aboard 6 = .ok (.ifCond .eq 15, 3) := dk_153 0 15 (dk_at dksX0_aboard_0 6 rfl rfl)
theorem dX0_aboard_9 : decode cX0_aboard 9 = .ok (.aload_n 0, 1) := dk_42 (dk_at dksX0_aboard_0 9 rfl rfl)
theorem dX0_aboard_10 : decode cX0_aboard 10 = .ok (.iload_n 2, 1) := dk_28 (dk_at dksX0_aboard_0 10 rfl rfl)
theorem dX0_aboard_11 : decode cX0_aboard 11 = .ok (.invokevirtual 193, 3) := dk_182 0 193 (dk_at dksX0_aboard_0 11 rfl rfl)
theorem dX0_aboard_14 : decode cX0_aboard 14 = .ok (.ifCond .eq 7, 3) := dk_153 0 7 (dk_at dksX0_aboard_0 14 rfl rfl)
theorem dX0_aboard_17 : decode cX0_aboard 17 = .ok (.iconst 0, 1) := dk_3 (dk_at dksX0_aboard_0 17 rfl rfl)
theorem dX0_aboard_18 : decode cX0_aboard 18 = .ok (.goto 4, 3) := dk_167 0 4 (dk_at dksX0_aboard_0 18 rfl rfl)
theorem dX0_aboard_21 : decode cX0_aboard 21 = .ok (.iconst 1, 1) := dk_4 (dk_at dksX0_aboard_0 21 rfl rfl)
theorem dX0_aboard_22 : decode cX0_aboard 22 = .ok (.putfield 85, 3) := dk_181 0 85 (dk_at dksX0_aboard_1 0 rfl rfl)
theorem dX0_aboard_25 : decode cX0_aboard 25 = .ok (.aload_n 0, 1) := dk_42 (dk_at dksX0_aboard_1 3 rfl rfl)
theorem dX0_aboard_26 : decode cX0_aboard 26 = .ok (.getfield 85, 3) := dk_180 0 85 (dk_at dksX0_aboard_1 4 rfl rfl)
theorem dX0_aboard_29 : decode cX0_aboard 29 = .ok (.ifCond .le 7, 3) := dk_158 0 7 (dk_at dksX0_aboard_1 7 rfl rfl)
theorem dX0_aboard_32 : decode cX0_aboard 32 = .ok (.iconst (-1), 1) := dk_2 (dk_at dksX0_aboard_1 10 rfl rfl)
theorem dX0_aboard_33 : decode cX0_aboard 33 = .ok (.goto 17, 3) := dk_167 0 17 (dk_at dksX0_aboard_1 11 rfl rfl)
theorem dX0_aboard_36 : decode cX0_aboard 36 = .ok (.aload_n 0, 1) := dk_42 (dk_at dksX0_aboard_1 14 rfl rfl)
theorem dX0_aboard_37 : decode cX0_aboard 37 = .ok (.invokevirtual 162, 3) := dk_182 0 162 (dk_at dksX0_aboard_1 15 rfl rfl)
theorem dX0_aboard_40 : decode cX0_aboard 40 = .ok (.getfield 356, 3) := dk_180 1 100 (dk_at dksX0_aboard_1 18 rfl rfl)
theorem dX0_aboard_43 : decode cX0_aboard 43 = .ok (.bipush 8, 2) := dk_16 8 (dk_at dksX0_aboard_1 21 rfl rfl)
theorem dX0_aboard_45 : decode cX0_aboard 45 = .ok (.iload_n 1, 1) := dk_27 (dk_at dksX0_aboard_1 23 rfl rfl)
theorem dX0_aboard_46 : decode cX0_aboard 46 = .ok (.imul, 1) := dk_104 (dk_at dksX0_aboard_2 0 rfl rfl)
theorem dX0_aboard_47 : decode cX0_aboard 47 = .ok (.iload_n 2, 1) := dk_28 (dk_at dksX0_aboard_2 1 rfl rfl)
theorem dX0_aboard_48 : decode cX0_aboard 48 = .ok (.iadd, 1) := dk_96 (dk_at dksX0_aboard_2 2 rfl rfl)
theorem dX0_aboard_49 : decode cX0_aboard 49 = .ok (.iaload, 1) := dk_46 (dk_at dksX0_aboard_2 3 rfl rfl)
theorem dX0_aboard_50 : decode cX0_aboard 50 = .ok (.ireturn, 1) := dk_172 (dk_at dksX0_aboard_2 4 rfl rfl)
abbrev cX0_weight : ByteArray := prog_1_method_49_code
def yX0_weight : MethodName := ⟨RX0, "weight", "(II)I"⟩
def dkwX0_weight_2 : List UInt8 := [180, 1, 0, 182, 1, 103, 172]
abbrev dktX0_weight_2 : List UInt8 := dkwX0_weight_2 ++ []
def dkwX0_weight_1 : List UInt8 := [181, 0, 85, 42, 180, 0, 85, 158, 0, 7, 2, 167, 0, 19, 42, 182, 0, 162, 27, 28, 42, 182, 0, 162]
abbrev dktX0_weight_1 : List UInt8 := dkwX0_weight_1 ++ dktX0_weight_2
def dkwX0_weight_0 : List UInt8 := [42, 42, 27, 182, 0, 186, 153, 0, 15, 42, 28, 182, 1, 16, 153, 0, 7, 3, 167, 0, 4, 4]
abbrev dktX0_weight_0 : List UInt8 := dkwX0_weight_0 ++ dktX0_weight_1
theorem dksX0_weight_0 : cX0_weight.data.toList.drop 0 = dktX0_weight_0 := by decide +kernel
theorem dksX0_weight_1 : cX0_weight.data.toList.drop 22 = dktX0_weight_1 := dk_seg dksX0_weight_0 22 rfl rfl
theorem dksX0_weight_2 : cX0_weight.data.toList.drop 46 = dktX0_weight_2 := dk_seg dksX0_weight_1 24 rfl rfl
theorem dX0_weight_0 : decode cX0_weight 0 = .ok (.aload_n 0, 1) := dk_42 (dk_at dksX0_weight_0 0 rfl rfl)
theorem dX0_weight_1 : decode cX0_weight 1 = .ok (.aload_n 0, 1) := dk_42 (dk_at dksX0_weight_0 1 rfl rfl)
theorem dX0_weight_2 : decode cX0_weight 2 = .ok (.iload_n 1, 1) := dk_27 (dk_at dksX0_weight_0 2 rfl rfl)
theorem dX0_weight_3 : decode cX0_weight 3 = .ok (.invokevirtual 186, 3) := dk_182 0 186 (dk_at dksX0_weight_0 3 rfl rfl)
theorem dX0_weight_6 : decode cX0_weight 6 = .ok (.ifCond .eq 15, 3) := dk_153 0 15 (dk_at dksX0_weight_0 6 rfl rfl)
theorem dX0_weight_9 : decode cX0_weight 9 = .ok (.aload_n 0, 1) := dk_42 (dk_at dksX0_weight_0 9 rfl rfl)
theorem dX0_weight_10 : decode cX0_weight 10 = .ok (.iload_n 2, 1) := dk_28 (dk_at dksX0_weight_0 10 rfl rfl)
theorem dX0_weight_11 : decode cX0_weight 11 = .ok (.invokevirtual 272, 3) := dk_182 1 16 (dk_at dksX0_weight_0 11 rfl rfl)
theorem dX0_weight_14 : decode cX0_weight 14 = .ok (.ifCond .eq 7, 3) := dk_153 0 7 (dk_at dksX0_weight_0 14 rfl rfl)
theorem dX0_weight_17 : decode cX0_weight 17 = .ok (.iconst 0, 1) := dk_3 (dk_at dksX0_weight_0 17 rfl rfl)
theorem dX0_weight_18 : decode cX0_weight 18 = .ok (.goto 4, 3) := dk_167 0 4 (dk_at dksX0_weight_0 18 rfl rfl)
theorem dX0_weight_21 : decode cX0_weight 21 = .ok (.iconst 1, 1) := dk_4 (dk_at dksX0_weight_0 21 rfl rfl)
theorem dX0_weight_22 : decode cX0_weight 22 = .ok (.putfield 85, 3) := dk_181 0 85 (dk_at dksX0_weight_1 0 rfl rfl)
theorem dX0_weight_25 : decode cX0_weight 25 = .ok (.aload_n 0, 1) := dk_42 (dk_at dksX0_weight_1 3 rfl rfl)
theorem dX0_weight_26 : decode cX0_weight 26 = .ok (.getfield 85, 3) := dk_180 0 85 (dk_at dksX0_weight_1 4 rfl rfl)
theorem dX0_weight_29 : decode cX0_weight 29 = .ok (.ifCond .le 7, 3) := dk_158 0 7 (dk_at dksX0_weight_1 7 rfl rfl)
theorem dX0_weight_32 : decode cX0_weight 32 = .ok (.iconst (-1), 1) := dk_2 (dk_at dksX0_weight_1 10 rfl rfl)
theorem dX0_weight_33 : decode cX0_weight 33 = .ok (.goto 19, 3) := dk_167 0 19 (dk_at dksX0_weight_1 11 rfl rfl)
theorem dX0_weight_36 : decode cX0_weight 36 = .ok (.aload_n 0, 1) := dk_42 (dk_at dksX0_weight_1 14 rfl rfl)
theorem dX0_weight_37 : decode cX0_weight 37 = .ok (.invokevirtual 162, 3) := dk_182 0 162 (dk_at dksX0_weight_1 15 rfl rfl)
theorem dX0_weight_40 : decode cX0_weight 40 = .ok (.iload_n 1, 1) := dk_27 (dk_at dksX0_weight_1 18 rfl rfl)
theorem dX0_weight_41 : decode cX0_weight 41 = .ok (.iload_n 2, 1) := dk_28 (dk_at dksX0_weight_1 19 rfl rfl)
theorem dX0_weight_42 : decode cX0_weight 42 = .ok (.aload_n 0, 1) := dk_42 (dk_at dksX0_weight_1 20 rfl rfl)
theorem dX0_weight_43 : decode cX0_weight 43 = .ok (.invokevirtual 162, 3) := dk_182 0 162 (dk_at dksX0_weight_1 21 rfl rfl)
theorem dX0_weight_46 : decode cX0_weight 46 = .ok (.getfield 256, 3) := dk_180 1 0 (dk_at dksX0_weight_2 0 rfl rfl)
theorem dX0_weight_49 : decode cX0_weight 49 = .ok (.invokevirtual 359, 3) := dk_182 1 103 (dk_at dksX0_weight_2 3 rfl rfl)
theorem dX0_weight_52 : decode cX0_weight 52 = .ok (.ireturn, 1) := dk_172 (dk_at dksX0_weight_2 6 rfl rfl)
abbrev cX0_weightBy : ByteArray := prog_1_method_50_code
def yX0_weightBy : MethodName := ⟨RX0, "weightBy", "(III)I"⟩
def dkwX0_weightBy_2 : List UInt8 := [28, 29, 182, 1, 103, 172]
abbrev dktX0_weightBy_2 : List UInt8 := dkwX0_weightBy_2 ++ []
def dkwX0_weightBy_1 : List UInt8 := [3, 167, 0, 4, 4, 181, 0, 85, 42, 180, 0, 85, 158, 0, 7, 2, 167, 0, 13, 42, 182, 0, 162, 27]
abbrev dktX0_weightBy_1 : List UInt8 := dkwX0_weightBy_1 ++ dktX0_weightBy_2
def dkwX0_weightBy_0 : List UInt8 := [42, 42, 27, 182, 0, 186, 153, 0, 22, 42, 28, 182, 1, 16, 153, 0, 14, 29, 184, 1, 107, 153, 0, 7]
abbrev dktX0_weightBy_0 : List UInt8 := dkwX0_weightBy_0 ++ dktX0_weightBy_1
theorem dksX0_weightBy_0 : cX0_weightBy.data.toList.drop 0 = dktX0_weightBy_0 := by decide +kernel
theorem dksX0_weightBy_1 : cX0_weightBy.data.toList.drop 24 = dktX0_weightBy_1 := dk_seg dksX0_weightBy_0 24 rfl rfl
theorem dksX0_weightBy_2 : cX0_weightBy.data.toList.drop 48 = dktX0_weightBy_2 := dk_seg dksX0_weightBy_1 24 rfl rfl
theorem dX0_weightBy_0 : decode cX0_weightBy 0 = .ok (.aload_n 0, 1) := dk_42 (dk_at dksX0_weightBy_0 0 rfl rfl)
theorem dX0_weightBy_1 : decode cX0_weightBy 1 = .ok (.aload_n 0, 1) := dk_42 (dk_at dksX0_weightBy_0 1 rfl rfl)
theorem dX0_weightBy_2 : decode cX0_weightBy 2 = .ok (.iload_n 1, 1) := dk_27 (dk_at dksX0_weightBy_0 2 rfl rfl)
theorem dX0_weightBy_3 : decode cX0_weightBy 3 = .ok (.invokevirtual 186, 3) := dk_182 0 186 (dk_at dksX0_weightBy_0 3 rfl rfl)
theorem dX0_weightBy_6 : decode cX0_weightBy 6 = .ok (.ifCond .eq 22, 3) := dk_153 0 22 (dk_at dksX0_weightBy_0 6 rfl rfl)
theorem dX0_weightBy_9 : decode cX0_weightBy 9 = .ok (.aload_n 0, 1) := dk_42 (dk_at dksX0_weightBy_0 9 rfl rfl)
theorem dX0_weightBy_10 : decode cX0_weightBy 10 = .ok (.iload_n 2, 1) := dk_28 (dk_at dksX0_weightBy_0 10 rfl rfl)
theorem dX0_weightBy_11 : decode cX0_weightBy 11 = .ok (.invokevirtual 272, 3) := dk_182 1 16 (dk_at dksX0_weightBy_0 11 rfl rfl)
theorem dX0_weightBy_14 : decode cX0_weightBy 14 = .ok (.ifCond .eq 14, 3) := dk_153 0 14 (dk_at dksX0_weightBy_0 14 rfl rfl)
theorem dX0_weightBy_17 : decode cX0_weightBy 17 = .ok (.iload_n 3, 1) := dk_29 (dk_at dksX0_weightBy_0 17 rfl rfl)
theorem dX0_weightBy_18 : decode cX0_weightBy 18 = .ok (.invokestatic 363, 3) := dk_184 1 107 (dk_at dksX0_weightBy_0 18 rfl rfl)
theorem dX0_weightBy_21 : decode cX0_weightBy 21 = .ok (.ifCond .eq 7, 3) := dk_153 0 7 (dk_at dksX0_weightBy_0 21 rfl rfl)
theorem dX0_weightBy_24 : decode cX0_weightBy 24 = .ok (.iconst 0, 1) := dk_3 (dk_at dksX0_weightBy_1 0 rfl rfl)
theorem dX0_weightBy_25 : decode cX0_weightBy 25 = .ok (.goto 4, 3) := dk_167 0 4 (dk_at dksX0_weightBy_1 1 rfl rfl)
theorem dX0_weightBy_28 : decode cX0_weightBy 28 = .ok (.iconst 1, 1) := dk_4 (dk_at dksX0_weightBy_1 4 rfl rfl)
theorem dX0_weightBy_29 : decode cX0_weightBy 29 = .ok (.putfield 85, 3) := dk_181 0 85 (dk_at dksX0_weightBy_1 5 rfl rfl)
theorem dX0_weightBy_32 : decode cX0_weightBy 32 = .ok (.aload_n 0, 1) := dk_42 (dk_at dksX0_weightBy_1 8 rfl rfl)
theorem dX0_weightBy_33 : decode cX0_weightBy 33 = .ok (.getfield 85, 3) := dk_180 0 85 (dk_at dksX0_weightBy_1 9 rfl rfl)
theorem dX0_weightBy_36 : decode cX0_weightBy 36 = .ok (.ifCond .le 7, 3) := dk_158 0 7 (dk_at dksX0_weightBy_1 12 rfl rfl)
theorem dX0_weightBy_39 : decode cX0_weightBy 39 = .ok (.iconst (-1), 1) := dk_2 (dk_at dksX0_weightBy_1 15 rfl rfl)
theorem dX0_weightBy_40 : decode cX0_weightBy 40 = .ok (.goto 13, 3) := dk_167 0 13 (dk_at dksX0_weightBy_1 16 rfl rfl)
theorem dX0_weightBy_43 : decode cX0_weightBy 43 = .ok (.aload_n 0, 1) := dk_42 (dk_at dksX0_weightBy_1 19 rfl rfl)
theorem dX0_weightBy_44 : decode cX0_weightBy 44 = .ok (.invokevirtual 162, 3) := dk_182 0 162 (dk_at dksX0_weightBy_1 20 rfl rfl)
theorem dX0_weightBy_47 : decode cX0_weightBy 47 = .ok (.iload_n 1, 1) := dk_27 (dk_at dksX0_weightBy_1 23 rfl rfl)
theorem dX0_weightBy_48 : decode cX0_weightBy 48 = .ok (.iload_n 2, 1) := dk_28 (dk_at dksX0_weightBy_2 0 rfl rfl)
theorem dX0_weightBy_49 : decode cX0_weightBy 49 = .ok (.iload_n 3, 1) := dk_29 (dk_at dksX0_weightBy_2 1 rfl rfl)
theorem dX0_weightBy_50 : decode cX0_weightBy 50 = .ok (.invokevirtual 359, 3) := dk_182 1 103 (dk_at dksX0_weightBy_2 2 rfl rfl)
theorem dX0_weightBy_53 : decode cX0_weightBy 53 = .ok (.ireturn, 1) := dk_172 (dk_at dksX0_weightBy_2 5 rfl rfl)
abbrev cX0_isRule : ByteArray := prog_1_method_26_code
def yX0_isRule : MethodName := ⟨RX0, "isRule", "(I)Z"⟩
def dkwX0_isRule_0 : List UInt8 := [26, 133, 9, 20, 0, 182, 184, 0, 169, 172]
abbrev dktX0_isRule_0 : List UInt8 := dkwX0_isRule_0 ++ []
theorem dksX0_isRule_0 : cX0_isRule.data.toList.drop 0 = dktX0_isRule_0 := by decide +kernel
theorem dX0_isRule_0 : decode cX0_isRule 0 = .ok (.iload_n 0, 1) := dk_26 (dk_at dksX0_isRule_0 0 rfl rfl)
theorem dX0_isRule_1 : decode cX0_isRule 1 = .ok (.i2l, 1) := dk_133 (dk_at dksX0_isRule_0 1 rfl rfl)
theorem dX0_isRule_2 : decode cX0_isRule 2 = .ok (.lconst 0, 1) := dk_9 (dk_at dksX0_isRule_0 2 rfl rfl)
theorem dX0_isRule_3 : decode cX0_isRule 3 = .ok (.ldc2_w 182, 3) := dk_20 0 182 (dk_at dksX0_isRule_0 3 rfl rfl)
theorem dX0_isRule_6 : decode cX0_isRule 6 = .ok (.invokestatic 169, 3) := dk_184 0 169 (dk_at dksX0_isRule_0 6 rfl rfl)
theorem dX0_isRule_9 : decode cX0_isRule 9 = .ok (.ireturn, 1) := dk_172 (dk_at dksX0_isRule_0 9 rfl rfl)
abbrev cX0_captains : ByteArray := prog_1_method_51_code
def yX0_captains : MethodName := ⟨RX0, "captains", "(I)I"⟩
def dkwX0_captains_1 : List UInt8 := [2, 167, 0, 11, 42, 182, 0, 162, 27, 182, 1, 110, 172]
abbrev dktX0_captains_1 : List UInt8 := dkwX0_captains_1 ++ []
def dkwX0_captains_0 : List UInt8 := [42, 42, 27, 182, 0, 186, 153, 0, 7, 3, 167, 0, 4, 4, 181, 0, 85, 42, 180, 0, 85, 158, 0, 7]
abbrev dktX0_captains_0 : List UInt8 := dkwX0_captains_0 ++ dktX0_captains_1
theorem dksX0_captains_0 : cX0_captains.data.toList.drop 0 = dktX0_captains_0 := by decide +kernel
theorem dksX0_captains_1 : cX0_captains.data.toList.drop 24 = dktX0_captains_1 := dk_seg dksX0_captains_0 24 rfl rfl
theorem dX0_captains_0 : decode cX0_captains 0 = .ok (.aload_n 0, 1) := dk_42 (dk_at dksX0_captains_0 0 rfl rfl)
theorem dX0_captains_1 : decode cX0_captains 1 = .ok (.aload_n 0, 1) := dk_42 (dk_at dksX0_captains_0 1 rfl rfl)
theorem dX0_captains_2 : decode cX0_captains 2 = .ok (.iload_n 1, 1) := dk_27 (dk_at dksX0_captains_0 2 rfl rfl)
theorem dX0_captains_3 : decode cX0_captains 3 = .ok (.invokevirtual 186, 3) := dk_182 0 186 (dk_at dksX0_captains_0 3 rfl rfl)
theorem dX0_captains_6 : decode cX0_captains 6 = .ok (.ifCond .eq 7, 3) := dk_153 0 7 (dk_at dksX0_captains_0 6 rfl rfl)
theorem dX0_captains_9 : decode cX0_captains 9 = .ok (.iconst 0, 1) := dk_3 (dk_at dksX0_captains_0 9 rfl rfl)
theorem dX0_captains_10 : decode cX0_captains 10 = .ok (.goto 4, 3) := dk_167 0 4 (dk_at dksX0_captains_0 10 rfl rfl)
theorem dX0_captains_13 : decode cX0_captains 13 = .ok (.iconst 1, 1) := dk_4 (dk_at dksX0_captains_0 13 rfl rfl)
theorem dX0_captains_14 : decode cX0_captains 14 = .ok (.putfield 85, 3) := dk_181 0 85 (dk_at dksX0_captains_0 14 rfl rfl)
theorem dX0_captains_17 : decode cX0_captains 17 = .ok (.aload_n 0, 1) := dk_42 (dk_at dksX0_captains_0 17 rfl rfl)
theorem dX0_captains_18 : decode cX0_captains 18 = .ok (.getfield 85, 3) := dk_180 0 85 (dk_at dksX0_captains_0 18 rfl rfl)
theorem dX0_captains_21 : decode cX0_captains 21 = .ok (.ifCond .le 7, 3) := dk_158 0 7 (dk_at dksX0_captains_0 21 rfl rfl)
theorem dX0_captains_24 : decode cX0_captains 24 = .ok (.iconst (-1), 1) := dk_2 (dk_at dksX0_captains_1 0 rfl rfl)
theorem dX0_captains_25 : decode cX0_captains 25 = .ok (.goto 11, 3) := dk_167 0 11 (dk_at dksX0_captains_1 1 rfl rfl)
theorem dX0_captains_28 : decode cX0_captains 28 = .ok (.aload_n 0, 1) := dk_42 (dk_at dksX0_captains_1 4 rfl rfl)
theorem dX0_captains_29 : decode cX0_captains 29 = .ok (.invokevirtual 162, 3) := dk_182 0 162 (dk_at dksX0_captains_1 5 rfl rfl)
theorem dX0_captains_32 : decode cX0_captains 32 = .ok (.iload_n 1, 1) := dk_27 (dk_at dksX0_captains_1 8 rfl rfl)
theorem dX0_captains_33 : decode cX0_captains 33 = .ok (.invokevirtual 366, 3) := dk_182 1 110 (dk_at dksX0_captains_1 9 rfl rfl)
theorem dX0_captains_36 : decode cX0_captains 36 = .ok (.ireturn, 1) := dk_172 (dk_at dksX0_captains_1 12 rfl rfl)
abbrev cX0_ruled : ByteArray := prog_1_method_52_code
def yX0_ruled : MethodName := ⟨RX0, "ruled", "(I)I"⟩
def dkwX0_ruled_1 : List UInt8 := [2, 167, 0, 15, 42, 42, 182, 0, 162, 27, 182, 0, 247, 182, 1, 60, 172]
abbrev dktX0_ruled_1 : List UInt8 := dkwX0_ruled_1 ++ []
def dkwX0_ruled_0 : List UInt8 := [42, 42, 27, 182, 0, 186, 153, 0, 7, 3, 167, 0, 4, 4, 181, 0, 85, 42, 180, 0, 85, 158, 0, 7]
abbrev dktX0_ruled_0 : List UInt8 := dkwX0_ruled_0 ++ dktX0_ruled_1
theorem dksX0_ruled_0 : cX0_ruled.data.toList.drop 0 = dktX0_ruled_0 := by decide +kernel
theorem dksX0_ruled_1 : cX0_ruled.data.toList.drop 24 = dktX0_ruled_1 := dk_seg dksX0_ruled_0 24 rfl rfl
theorem dX0_ruled_0 : decode cX0_ruled 0 = .ok (.aload_n 0, 1) := dk_42 (dk_at dksX0_ruled_0 0 rfl rfl)
theorem dX0_ruled_1 : decode cX0_ruled 1 = .ok (.aload_n 0, 1) := dk_42 (dk_at dksX0_ruled_0 1 rfl rfl)
theorem dX0_ruled_2 : decode cX0_ruled 2 = .ok (.iload_n 1, 1) := dk_27 (dk_at dksX0_ruled_0 2 rfl rfl)
theorem dX0_ruled_3 : decode cX0_ruled 3 = .ok (.invokevirtual 186, 3) := dk_182 0 186 (dk_at dksX0_ruled_0 3 rfl rfl)
theorem dX0_ruled_6 : decode cX0_ruled 6 = .ok (.ifCond .eq 7, 3) := dk_153 0 7 (dk_at dksX0_ruled_0 6 rfl rfl)
theorem dX0_ruled_9 : decode cX0_ruled 9 = .ok (.iconst 0, 1) := dk_3 (dk_at dksX0_ruled_0 9 rfl rfl)
theorem dX0_ruled_10 : decode cX0_ruled 10 = .ok (.goto 4, 3) := dk_167 0 4 (dk_at dksX0_ruled_0 10 rfl rfl)
theorem dX0_ruled_13 : decode cX0_ruled 13 = .ok (.iconst 1, 1) := dk_4 (dk_at dksX0_ruled_0 13 rfl rfl)
theorem dX0_ruled_14 : decode cX0_ruled 14 = .ok (.putfield 85, 3) := dk_181 0 85 (dk_at dksX0_ruled_0 14 rfl rfl)
theorem dX0_ruled_17 : decode cX0_ruled 17 = .ok (.aload_n 0, 1) := dk_42 (dk_at dksX0_ruled_0 17 rfl rfl)
theorem dX0_ruled_18 : decode cX0_ruled 18 = .ok (.getfield 85, 3) := dk_180 0 85 (dk_at dksX0_ruled_0 18 rfl rfl)
theorem dX0_ruled_21 : decode cX0_ruled 21 = .ok (.ifCond .le 7, 3) := dk_158 0 7 (dk_at dksX0_ruled_0 21 rfl rfl)
theorem dX0_ruled_24 : decode cX0_ruled 24 = .ok (.iconst (-1), 1) := dk_2 (dk_at dksX0_ruled_1 0 rfl rfl)
theorem dX0_ruled_25 : decode cX0_ruled 25 = .ok (.goto 15, 3) := dk_167 0 15 (dk_at dksX0_ruled_1 1 rfl rfl)
theorem dX0_ruled_28 : decode cX0_ruled 28 = .ok (.aload_n 0, 1) := dk_42 (dk_at dksX0_ruled_1 4 rfl rfl)
theorem dX0_ruled_29 : decode cX0_ruled 29 = .ok (.aload_n 0, 1) := dk_42 (dk_at dksX0_ruled_1 5 rfl rfl)
theorem dX0_ruled_30 : decode cX0_ruled 30 = .ok (.invokevirtual 162, 3) := dk_182 0 162 (dk_at dksX0_ruled_1 6 rfl rfl)
theorem dX0_ruled_33 : decode cX0_ruled 33 = .ok (.iload_n 1, 1) := dk_27 (dk_at dksX0_ruled_1 9 rfl rfl)
theorem dX0_ruled_34 : decode cX0_ruled 34 = .ok (.invokevirtual 247, 3) := dk_182 0 247 (dk_at dksX0_ruled_1 10 rfl rfl)
theorem dX0_ruled_37 : decode cX0_ruled 37 = .ok (.invokevirtual 316, 3) := dk_182 1 60 (dk_at dksX0_ruled_1 13 rfl rfl)
theorem dX0_ruled_40 : decode cX0_ruled 40 = .ok (.ireturn, 1) := dk_172 (dk_at dksX0_ruled_1 16 rfl rfl)
abbrev cX0_ruledBy : ByteArray := prog_1_method_53_code
def yX0_ruledBy : MethodName := ⟨RX0, "ruledBy", "(II)I"⟩
def dkwX0_ruledBy_2 : List UInt8 := [172]
abbrev dktX0_ruledBy_2 : List UInt8 := dkwX0_ruledBy_2 ++ []
def dkwX0_ruledBy_1 : List UInt8 := [42, 180, 0, 85, 158, 0, 7, 2, 167, 0, 16, 42, 42, 182, 0, 162, 27, 28, 182, 1, 113, 182, 1, 60]
abbrev dktX0_ruledBy_1 : List UInt8 := dkwX0_ruledBy_1 ++ dktX0_ruledBy_2
def dkwX0_ruledBy_0 : List UInt8 := [42, 42, 27, 182, 0, 186, 153, 0, 14, 28, 184, 1, 107, 153, 0, 7, 3, 167, 0, 4, 4, 181, 0, 85]
abbrev dktX0_ruledBy_0 : List UInt8 := dkwX0_ruledBy_0 ++ dktX0_ruledBy_1
theorem dksX0_ruledBy_0 : cX0_ruledBy.data.toList.drop 0 = dktX0_ruledBy_0 := by decide +kernel
theorem dksX0_ruledBy_1 : cX0_ruledBy.data.toList.drop 24 = dktX0_ruledBy_1 := dk_seg dksX0_ruledBy_0 24 rfl rfl
theorem dksX0_ruledBy_2 : cX0_ruledBy.data.toList.drop 48 = dktX0_ruledBy_2 := dk_seg dksX0_ruledBy_1 24 rfl rfl
theorem dX0_ruledBy_0 : decode cX0_ruledBy 0 = .ok (.aload_n 0, 1) := dk_42 (dk_at dksX0_ruledBy_0 0 rfl rfl)
theorem dX0_ruledBy_1 : decode cX0_ruledBy 1 = .ok (.aload_n 0, 1) := dk_42 (dk_at dksX0_ruledBy_0 1 rfl rfl)
theorem dX0_ruledBy_2 : decode cX0_ruledBy 2 = .ok (.iload_n 1, 1) := dk_27 (dk_at dksX0_ruledBy_0 2 rfl rfl)
theorem dX0_ruledBy_3 : decode cX0_ruledBy 3 = .ok (.invokevirtual 186, 3) := dk_182 0 186 (dk_at dksX0_ruledBy_0 3 rfl rfl)
theorem dX0_ruledBy_6 : decode cX0_ruledBy 6 = .ok (.ifCond .eq 14, 3) := dk_153 0 14 (dk_at dksX0_ruledBy_0 6 rfl rfl)
theorem dX0_ruledBy_9 : decode cX0_ruledBy 9 = .ok (.iload_n 2, 1) := dk_28 (dk_at dksX0_ruledBy_0 9 rfl rfl)
theorem dX0_ruledBy_10 : decode cX0_ruledBy 10 = .ok (.invokestatic 363, 3) := dk_184 1 107 (dk_at dksX0_ruledBy_0 10 rfl rfl)
theorem dX0_ruledBy_13 : decode cX0_ruledBy 13 = .ok (.ifCond .eq 7, 3) := dk_153 0 7 (dk_at dksX0_ruledBy_0 13 rfl rfl)
theorem dX0_ruledBy_16 : decode cX0_ruledBy 16 = .ok (.iconst 0, 1) := dk_3 (dk_at dksX0_ruledBy_0 16 rfl rfl)
theorem dX0_ruledBy_17 : decode cX0_ruledBy 17 = .ok (.goto 4, 3) := dk_167 0 4 (dk_at dksX0_ruledBy_0 17 rfl rfl)
theorem dX0_ruledBy_20 : decode cX0_ruledBy 20 = .ok (.iconst 1, 1) := dk_4 (dk_at dksX0_ruledBy_0 20 rfl rfl)
theorem dX0_ruledBy_21 : decode cX0_ruledBy 21 = .ok (.putfield 85, 3) := dk_181 0 85 (dk_at dksX0_ruledBy_0 21 rfl rfl)
theorem dX0_ruledBy_24 : decode cX0_ruledBy 24 = .ok (.aload_n 0, 1) := dk_42 (dk_at dksX0_ruledBy_1 0 rfl rfl)
theorem dX0_ruledBy_25 : decode cX0_ruledBy 25 = .ok (.getfield 85, 3) := dk_180 0 85 (dk_at dksX0_ruledBy_1 1 rfl rfl)
theorem dX0_ruledBy_28 : decode cX0_ruledBy 28 = .ok (.ifCond .le 7, 3) := dk_158 0 7 (dk_at dksX0_ruledBy_1 4 rfl rfl)
theorem dX0_ruledBy_31 : decode cX0_ruledBy 31 = .ok (.iconst (-1), 1) := dk_2 (dk_at dksX0_ruledBy_1 7 rfl rfl)
theorem dX0_ruledBy_32 : decode cX0_ruledBy 32 = .ok (.goto 16, 3) := dk_167 0 16 (dk_at dksX0_ruledBy_1 8 rfl rfl)
theorem dX0_ruledBy_35 : decode cX0_ruledBy 35 = .ok (.aload_n 0, 1) := dk_42 (dk_at dksX0_ruledBy_1 11 rfl rfl)
theorem dX0_ruledBy_36 : decode cX0_ruledBy 36 = .ok (.aload_n 0, 1) := dk_42 (dk_at dksX0_ruledBy_1 12 rfl rfl)
theorem dX0_ruledBy_37 : decode cX0_ruledBy 37 = .ok (.invokevirtual 162, 3) := dk_182 0 162 (dk_at dksX0_ruledBy_1 13 rfl rfl)
theorem dX0_ruledBy_40 : decode cX0_ruledBy 40 = .ok (.iload_n 1, 1) := dk_27 (dk_at dksX0_ruledBy_1 16 rfl rfl)
theorem dX0_ruledBy_41 : decode cX0_ruledBy 41 = .ok (.iload_n 2, 1) := dk_28 (dk_at dksX0_ruledBy_1 17 rfl rfl)
theorem dX0_ruledBy_42 : decode cX0_ruledBy 42 = .ok (.invokevirtual 369, 3) := dk_182 1 113 (dk_at dksX0_ruledBy_1 18 rfl rfl)
theorem dX0_ruledBy_45 : decode cX0_ruledBy 45 = .ok (.invokevirtual 316, 3) := dk_182 1 60 (dk_at dksX0_ruledBy_1 21 rfl rfl)
theorem dX0_ruledBy_48 : decode cX0_ruledBy 48 = .ok (.ireturn, 1) := dk_172 (dk_at dksX0_ruledBy_2 0 rfl rfl)
abbrev cX0_share : ByteArray := prog_1_method_54_code
def yX0_share : MethodName := ⟨RX0, "share", "(II)Z"⟩
def dkwX0_share_5 : List UInt8 := [29, 133, 182, 1, 116, 87, 42, 180, 0, 85, 154, 0, 7, 4, 167, 0, 4, 3, 172]
abbrev dktX0_share_5 : List UInt8 := dkwX0_share_5 ++ []
def dkwX0_share_4 : List UInt8 := [180, 0, 85, 154, 0, 27, 42, 42, 182, 0, 162, 27, 28, 42, 182, 0, 162, 180, 1, 0, 182, 1, 103, 133]
abbrev dktX0_share_4 : List UInt8 := dkwX0_share_4 ++ dktX0_share_5
def dkwX0_share_3 : List UInt8 := [96, 62, 132, 4, 1, 167, 255, 221, 42, 29, 154, 0, 8, 16, 6, 167, 0, 4, 3, 181, 0, 85, 42]
abbrev dktX0_share_3 : List UInt8 := dkwX0_share_3 ++ dktX0_share_4
def dkwX0_share_2 : List UInt8 := [180, 0, 166, 162, 0, 29, 29, 42, 182, 0, 162, 27, 21, 4, 42, 182, 0, 162, 180, 1, 0, 182, 1, 103]
abbrev dktX0_share_2 : List UInt8 := dkwX0_share_2 ++ dktX0_share_3
def dkwX0_share_1 : List UInt8 := [181, 0, 85, 42, 180, 0, 85, 158, 0, 5, 3, 172, 3, 62, 3, 54, 4, 21, 4, 42, 182, 0, 162]
abbrev dktX0_share_1 : List UInt8 := dkwX0_share_1 ++ dktX0_share_2
def dkwX0_share_0 : List UInt8 := [42, 42, 27, 182, 0, 186, 153, 0, 15, 42, 28, 182, 1, 16, 153, 0, 7, 3, 167, 0, 4, 4]
abbrev dktX0_share_0 : List UInt8 := dkwX0_share_0 ++ dktX0_share_1
theorem dksX0_share_0 : cX0_share.data.toList.drop 0 = dktX0_share_0 := by decide +kernel
theorem dksX0_share_1 : cX0_share.data.toList.drop 22 = dktX0_share_1 := dk_seg dksX0_share_0 22 rfl rfl
theorem dksX0_share_2 : cX0_share.data.toList.drop 45 = dktX0_share_2 := dk_seg dksX0_share_1 23 rfl rfl
theorem dksX0_share_3 : cX0_share.data.toList.drop 69 = dktX0_share_3 := dk_seg dksX0_share_2 24 rfl rfl
theorem dksX0_share_4 : cX0_share.data.toList.drop 92 = dktX0_share_4 := dk_seg dksX0_share_3 23 rfl rfl
theorem dksX0_share_5 : cX0_share.data.toList.drop 116 = dktX0_share_5 := dk_seg dksX0_share_4 24 rfl rfl
theorem dX0_share_0 : decode cX0_share 0 = .ok (.aload_n 0, 1) := dk_42 (dk_at dksX0_share_0 0 rfl rfl)
theorem dX0_share_1 : decode cX0_share 1 = .ok (.aload_n 0, 1) := dk_42 (dk_at dksX0_share_0 1 rfl rfl)
theorem dX0_share_2 : decode cX0_share 2 = .ok (.iload_n 1, 1) := dk_27 (dk_at dksX0_share_0 2 rfl rfl)
theorem dX0_share_3 : decode cX0_share 3 = .ok (.invokevirtual 186, 3) := dk_182 0 186 (dk_at dksX0_share_0 3 rfl rfl)
theorem dX0_share_6 : decode cX0_share 6 = .ok (.ifCond .eq 15, 3) := dk_153 0 15 (dk_at dksX0_share_0 6 rfl rfl)
theorem dX0_share_9 : decode cX0_share 9 = .ok (.aload_n 0, 1) := dk_42 (dk_at dksX0_share_0 9 rfl rfl)
theorem dX0_share_10 : decode cX0_share 10 = .ok (.iload_n 2, 1) := dk_28 (dk_at dksX0_share_0 10 rfl rfl)
theorem dX0_share_11 : decode cX0_share 11 = .ok (.invokevirtual 272, 3) := dk_182 1 16 (dk_at dksX0_share_0 11 rfl rfl)
theorem dX0_share_14 : decode cX0_share 14 = .ok (.ifCond .eq 7, 3) := dk_153 0 7 (dk_at dksX0_share_0 14 rfl rfl)
theorem dX0_share_17 : decode cX0_share 17 = .ok (.iconst 0, 1) := dk_3 (dk_at dksX0_share_0 17 rfl rfl)
theorem dX0_share_18 : decode cX0_share 18 = .ok (.goto 4, 3) := dk_167 0 4 (dk_at dksX0_share_0 18 rfl rfl)
theorem dX0_share_21 : decode cX0_share 21 = .ok (.iconst 1, 1) := dk_4 (dk_at dksX0_share_0 21 rfl rfl)
theorem dX0_share_22 : decode cX0_share 22 = .ok (.putfield 85, 3) := dk_181 0 85 (dk_at dksX0_share_1 0 rfl rfl)
theorem dX0_share_25 : decode cX0_share 25 = .ok (.aload_n 0, 1) := dk_42 (dk_at dksX0_share_1 3 rfl rfl)
theorem dX0_share_26 : decode cX0_share 26 = .ok (.getfield 85, 3) := dk_180 0 85 (dk_at dksX0_share_1 4 rfl rfl)
theorem dX0_share_29 : decode cX0_share 29 = .ok (.ifCond .le 5, 3) := dk_158 0 5 (dk_at dksX0_share_1 7 rfl rfl)
theorem dX0_share_32 : decode cX0_share 32 = .ok (.iconst 0, 1) := dk_3 (dk_at dksX0_share_1 10 rfl rfl)
theorem dX0_share_33 : decode cX0_share 33 = .ok (.ireturn, 1) := dk_172 (dk_at dksX0_share_1 11 rfl rfl)
theorem dX0_share_34 : decode cX0_share 34 = .ok (.iconst 0, 1) := dk_3 (dk_at dksX0_share_1 12 rfl rfl)
theorem dX0_share_35 : decode cX0_share 35 = .ok (.istore_n 3, 1) := dk_62 (dk_at dksX0_share_1 13 rfl rfl)
theorem dX0_share_36 : decode cX0_share 36 = .ok (.iconst 0, 1) := dk_3 (dk_at dksX0_share_1 14 rfl rfl)
theorem dX0_share_37 : decode cX0_share 37 = .ok (.istore 4, 2) := dk_54 4 (dk_at dksX0_share_1 15 rfl rfl)
theorem dX0_share_39 : decode cX0_share 39 = .ok (.iload 4, 2) := dk_21 4 (dk_at dksX0_share_1 17 rfl rfl)
theorem dX0_share_41 : decode cX0_share 41 = .ok (.aload_n 0, 1) := dk_42 (dk_at dksX0_share_1 19 rfl rfl)
theorem dX0_share_42 : decode cX0_share 42 = .ok (.invokevirtual 162, 3) := dk_182 0 162 (dk_at dksX0_share_1 20 rfl rfl)
theorem dX0_share_45 : decode cX0_share 45 = .ok (.getfield 166, 3) := dk_180 0 166 (dk_at dksX0_share_2 0 rfl rfl)
theorem dX0_share_48 : decode cX0_share 48 = .ok (.if_icmp .ge 29, 3) := dk_162 0 29 (dk_at dksX0_share_2 3 rfl rfl)
theorem dX0_share_51 : decode cX0_share 51 = .ok (.iload_n 3, 1) := dk_29 (dk_at dksX0_share_2 6 rfl rfl)
theorem dX0_share_52 : decode cX0_share 52 = .ok (.aload_n 0, 1) := dk_42 (dk_at dksX0_share_2 7 rfl rfl)
theorem dX0_share_53 : decode cX0_share 53 = .ok (.invokevirtual 162, 3) := dk_182 0 162 (dk_at dksX0_share_2 8 rfl rfl)
theorem dX0_share_56 : decode cX0_share 56 = .ok (.iload_n 1, 1) := dk_27 (dk_at dksX0_share_2 11 rfl rfl)
theorem dX0_share_57 : decode cX0_share 57 = .ok (.iload 4, 2) := dk_21 4 (dk_at dksX0_share_2 12 rfl rfl)
theorem dX0_share_59 : decode cX0_share 59 = .ok (.aload_n 0, 1) := dk_42 (dk_at dksX0_share_2 14 rfl rfl)
theorem dX0_share_60 : decode cX0_share 60 = .ok (.invokevirtual 162, 3) := dk_182 0 162 (dk_at dksX0_share_2 15 rfl rfl)
theorem dX0_share_63 : decode cX0_share 63 = .ok (.getfield 256, 3) := dk_180 1 0 (dk_at dksX0_share_2 18 rfl rfl)
theorem dX0_share_66 : decode cX0_share 66 = .ok (.invokevirtual 359, 3) := dk_182 1 103 (dk_at dksX0_share_2 21 rfl rfl)
theorem dX0_share_69 : decode cX0_share 69 = .ok (.iadd, 1) := dk_96 (dk_at dksX0_share_3 0 rfl rfl)
theorem dX0_share_70 : decode cX0_share 70 = .ok (.istore_n 3, 1) := dk_62 (dk_at dksX0_share_3 1 rfl rfl)
theorem dX0_share_71 : decode cX0_share 71 = .ok (.iinc 4 1, 3) := dk_132 4 1 (dk_at dksX0_share_3 2 rfl rfl)
theorem dX0_share_74 : decode cX0_share 74 = .ok (.goto (-35), 3) := dk_167 255 221 (dk_at dksX0_share_3 5 rfl rfl)
theorem dX0_share_77 : decode cX0_share 77 = .ok (.aload_n 0, 1) := dk_42 (dk_at dksX0_share_3 8 rfl rfl)
theorem dX0_share_78 : decode cX0_share 78 = .ok (.iload_n 3, 1) := dk_29 (dk_at dksX0_share_3 9 rfl rfl)
theorem dX0_share_79 : decode cX0_share 79 = .ok (.ifCond .ne 8, 3) := dk_154 0 8 (dk_at dksX0_share_3 10 rfl rfl)
theorem dX0_share_82 : decode cX0_share 82 = .ok (.bipush 6, 2) := dk_16 6 (dk_at dksX0_share_3 13 rfl rfl)
theorem dX0_share_84 : decode cX0_share 84 = .ok (.goto 4, 3) := dk_167 0 4 (dk_at dksX0_share_3 15 rfl rfl)
theorem dX0_share_87 : decode cX0_share 87 = .ok (.iconst 0, 1) := dk_3 (dk_at dksX0_share_3 18 rfl rfl)
theorem dX0_share_88 : decode cX0_share 88 = .ok (.putfield 85, 3) := dk_181 0 85 (dk_at dksX0_share_3 19 rfl rfl)
theorem dX0_share_91 : decode cX0_share 91 = .ok (.aload_n 0, 1) := dk_42 (dk_at dksX0_share_3 22 rfl rfl)
theorem dX0_share_92 : decode cX0_share 92 = .ok (.getfield 85, 3) := dk_180 0 85 (dk_at dksX0_share_4 0 rfl rfl)
theorem dX0_share_95 : decode cX0_share 95 = .ok (.ifCond .ne 27, 3) := dk_154 0 27 (dk_at dksX0_share_4 3 rfl rfl)
theorem dX0_share_98 : decode cX0_share 98 = .ok (.aload_n 0, 1) := dk_42 (dk_at dksX0_share_4 6 rfl rfl)
theorem dX0_share_99 : decode cX0_share 99 = .ok (.aload_n 0, 1) := dk_42 (dk_at dksX0_share_4 7 rfl rfl)
theorem dX0_share_100 : decode cX0_share 100 = .ok (.invokevirtual 162, 3) := dk_182 0 162 (dk_at dksX0_share_4 8 rfl rfl)
theorem dX0_share_103 : decode cX0_share 103 = .ok (.iload_n 1, 1) := dk_27 (dk_at dksX0_share_4 11 rfl rfl)
theorem dX0_share_104 : decode cX0_share 104 = .ok (.iload_n 2, 1) := dk_28 (dk_at dksX0_share_4 12 rfl rfl)
theorem dX0_share_105 : decode cX0_share 105 = .ok (.aload_n 0, 1) := dk_42 (dk_at dksX0_share_4 13 rfl rfl)
theorem dX0_share_106 : decode cX0_share 106 = .ok (.invokevirtual 162, 3) := dk_182 0 162 (dk_at dksX0_share_4 14 rfl rfl)
theorem dX0_share_109 : decode cX0_share 109 = .ok (.getfield 256, 3) := dk_180 1 0 (dk_at dksX0_share_4 17 rfl rfl)
theorem dX0_share_112 : decode cX0_share 112 = .ok (.invokevirtual 359, 3) := dk_182 1 103 (dk_at dksX0_share_4 20 rfl rfl)
theorem dX0_share_115 : decode cX0_share 115 = .ok (.i2l, 1) := dk_133 (dk_at dksX0_share_4 23 rfl rfl)
theorem dX0_share_116 : decode cX0_share 116 = .ok (.iload_n 3, 1) := dk_29 (dk_at dksX0_share_5 0 rfl rfl)
theorem dX0_share_117 : decode cX0_share 117 = .ok (.i2l, 1) := dk_133 (dk_at dksX0_share_5 1 rfl rfl)
theorem dX0_share_118 : decode cX0_share 118 = .ok (.invokevirtual 372, 3) := dk_182 1 116 (dk_at dksX0_share_5 2 rfl rfl)
theorem dX0_share_121 : decode cX0_share 121 = .ok (.pop, 1) := dk_87 (dk_at dksX0_share_5 5 rfl rfl)
theorem dX0_share_122 : decode cX0_share 122 = .ok (.aload_n 0, 1) := dk_42 (dk_at dksX0_share_5 6 rfl rfl)
theorem dX0_share_123 : decode cX0_share 123 = .ok (.getfield 85, 3) := dk_180 0 85 (dk_at dksX0_share_5 7 rfl rfl)
theorem dX0_share_126 : decode cX0_share 126 = .ok (.ifCond .ne 7, 3) := dk_154 0 7 (dk_at dksX0_share_5 10 rfl rfl)
theorem dX0_share_129 : decode cX0_share 129 = .ok (.iconst 1, 1) := dk_4 (dk_at dksX0_share_5 13 rfl rfl)
theorem dX0_share_130 : decode cX0_share 130 = .ok (.goto 4, 3) := dk_167 0 4 (dk_at dksX0_share_5 14 rfl rfl)
theorem dX0_share_133 : decode cX0_share 133 = .ok (.iconst 0, 1) := dk_3 (dk_at dksX0_share_5 17 rfl rfl)
theorem dX0_share_134 : decode cX0_share 134 = .ok (.ireturn, 1) := dk_172 (dk_at dksX0_share_5 18 rfl rfl)
abbrev cX0_fraction : ByteArray := prog_1_method_14_code
def yX0_fraction : MethodName := ⟨RX0, "fraction", "(JJ)I"⟩
def dkwX0_fraction_2 : List UInt8 := [181, 0, 48, 31, 184, 0, 104, 172]
abbrev dktX0_fraction_2 : List UInt8 := dkwX0_fraction_2 ++ []
def dkwX0_fraction_1 : List UInt8 := [22, 7, 55, 5, 22, 9, 55, 7, 167, 255, 234, 42, 31, 22, 5, 109, 181, 0, 88, 42, 33, 22, 5, 109]
abbrev dktX0_fraction_1 : List UInt8 := dkwX0_fraction_1 ++ dktX0_fraction_2
def dkwX0_fraction_0 : List UInt8 := [31, 184, 0, 98, 55, 5, 33, 55, 7, 22, 7, 9, 148, 153, 0, 21, 22, 5, 22, 7, 113, 55, 9]
abbrev dktX0_fraction_0 : List UInt8 := dkwX0_fraction_0 ++ dktX0_fraction_1
theorem dksX0_fraction_0 : cX0_fraction.data.toList.drop 0 = dktX0_fraction_0 := by decide +kernel
theorem dksX0_fraction_1 : cX0_fraction.data.toList.drop 23 = dktX0_fraction_1 := dk_seg dksX0_fraction_0 23 rfl rfl
theorem dksX0_fraction_2 : cX0_fraction.data.toList.drop 47 = dktX0_fraction_2 := dk_seg dksX0_fraction_1 24 rfl rfl
theorem dX0_fraction_0 : decode cX0_fraction 0 = .ok (.lload_n 1, 1) := dk_31 (dk_at dksX0_fraction_0 0 rfl rfl)
theorem dX0_fraction_1 : decode cX0_fraction 1 = .ok (.invokestatic 98, 3) := dk_184 0 98 (dk_at dksX0_fraction_0 1 rfl rfl)
theorem dX0_fraction_4 : decode cX0_fraction 4 = .ok (.lstore 5, 2) := dk_55 5 (dk_at dksX0_fraction_0 4 rfl rfl)
theorem dX0_fraction_6 : decode cX0_fraction 6 = .ok (.lload_n 3, 1) := dk_33 (dk_at dksX0_fraction_0 6 rfl rfl)
theorem dX0_fraction_7 : decode cX0_fraction 7 = .ok (.lstore 7, 2) := dk_55 7 (dk_at dksX0_fraction_0 7 rfl rfl)
theorem dX0_fraction_9 : decode cX0_fraction 9 = .ok (.lload 7, 2) := dk_22 7 (dk_at dksX0_fraction_0 9 rfl rfl)
theorem dX0_fraction_11 : decode cX0_fraction 11 = .ok (.lconst 0, 1) := dk_9 (dk_at dksX0_fraction_0 11 rfl rfl)
theorem dX0_fraction_12 : decode cX0_fraction 12 = .ok (.lcmp, 1) := dk_148 (dk_at dksX0_fraction_0 12 rfl rfl)
theorem dX0_fraction_13 : decode cX0_fraction 13 = .ok (.ifCond .eq 21, 3) := dk_153 0 21 (dk_at dksX0_fraction_0 13 rfl rfl)
theorem dX0_fraction_16 : decode cX0_fraction 16 = .ok (.lload 5, 2) := dk_22 5 (dk_at dksX0_fraction_0 16 rfl rfl)
theorem dX0_fraction_18 : decode cX0_fraction 18 = .ok (.lload 7, 2) := dk_22 7 (dk_at dksX0_fraction_0 18 rfl rfl)
theorem dX0_fraction_20 : decode cX0_fraction 20 = .ok (.lrem, 1) := dk_113 (dk_at dksX0_fraction_0 20 rfl rfl)
theorem dX0_fraction_21 : decode cX0_fraction 21 = .ok (.lstore 9, 2) := dk_55 9 (dk_at dksX0_fraction_0 21 rfl rfl)
theorem dX0_fraction_23 : decode cX0_fraction 23 = .ok (.lload 7, 2) := dk_22 7 (dk_at dksX0_fraction_1 0 rfl rfl)
theorem dX0_fraction_25 : decode cX0_fraction 25 = .ok (.lstore 5, 2) := dk_55 5 (dk_at dksX0_fraction_1 2 rfl rfl)
theorem dX0_fraction_27 : decode cX0_fraction 27 = .ok (.lload 9, 2) := dk_22 9 (dk_at dksX0_fraction_1 4 rfl rfl)
theorem dX0_fraction_29 : decode cX0_fraction 29 = .ok (.lstore 7, 2) := dk_55 7 (dk_at dksX0_fraction_1 6 rfl rfl)
theorem dX0_fraction_31 : decode cX0_fraction 31 = .ok (.goto (-22), 3) := dk_167 255 234 (dk_at dksX0_fraction_1 8 rfl rfl)
theorem dX0_fraction_34 : decode cX0_fraction 34 = .ok (.aload_n 0, 1) := dk_42 (dk_at dksX0_fraction_1 11 rfl rfl)
theorem dX0_fraction_35 : decode cX0_fraction 35 = .ok (.lload_n 1, 1) := dk_31 (dk_at dksX0_fraction_1 12 rfl rfl)
theorem dX0_fraction_36 : decode cX0_fraction 36 = .ok (.lload 5, 2) := dk_22 5 (dk_at dksX0_fraction_1 13 rfl rfl)
theorem dX0_fraction_38 : decode cX0_fraction 38 = .ok (.ldiv, 1) := dk_109 (dk_at dksX0_fraction_1 15 rfl rfl)
theorem dX0_fraction_39 : decode cX0_fraction 39 = .ok (.putfield 88, 3) := dk_181 0 88 (dk_at dksX0_fraction_1 16 rfl rfl)
theorem dX0_fraction_42 : decode cX0_fraction 42 = .ok (.aload_n 0, 1) := dk_42 (dk_at dksX0_fraction_1 19 rfl rfl)
theorem dX0_fraction_43 : decode cX0_fraction 43 = .ok (.lload_n 3, 1) := dk_33 (dk_at dksX0_fraction_1 20 rfl rfl)
theorem dX0_fraction_44 : decode cX0_fraction 44 = .ok (.lload 5, 2) := dk_22 5 (dk_at dksX0_fraction_1 21 rfl rfl)
theorem dX0_fraction_46 : decode cX0_fraction 46 = .ok (.ldiv, 1) := dk_109 (dk_at dksX0_fraction_1 23 rfl rfl)
theorem dX0_fraction_47 : decode cX0_fraction 47 = .ok (.putfield 48, 3) := dk_181 0 48 (dk_at dksX0_fraction_2 0 rfl rfl)
theorem dX0_fraction_50 : decode cX0_fraction 50 = .ok (.lload_n 1, 1) := dk_31 (dk_at dksX0_fraction_2 3 rfl rfl)
theorem dX0_fraction_51 : decode cX0_fraction 51 = .ok (.invokestatic 104, 3) := dk_184 0 104 (dk_at dksX0_fraction_2 4 rfl rfl)
theorem dX0_fraction_54 : decode cX0_fraction 54 = .ok (.ireturn, 1) := dk_172 (dk_at dksX0_fraction_2 7 rfl rfl)
abbrev cX0_lawful : ByteArray := prog_1_method_55_code
def yX0_lawful : MethodName := ⟨RX0, "lawful", "(II)I"⟩
def dkwX0_lawful_2 : List UInt8 := [182, 1, 120, 28, 122, 4, 126, 172]
abbrev dktX0_lawful_2 : List UInt8 := dkwX0_lawful_2 ++ []
def dkwX0_lawful_1 : List UInt8 := [167, 0, 4, 4, 181, 0, 85, 42, 180, 0, 85, 158, 0, 7, 2, 167, 0, 15, 42, 182, 0, 162, 27]
abbrev dktX0_lawful_1 : List UInt8 := dkwX0_lawful_1 ++ dktX0_lawful_2
def dkwX0_lawful_0 : List UInt8 := [42, 42, 27, 182, 0, 186, 153, 0, 19, 28, 133, 9, 20, 1, 72, 184, 0, 169, 153, 0, 7, 3]
abbrev dktX0_lawful_0 : List UInt8 := dkwX0_lawful_0 ++ dktX0_lawful_1
theorem dksX0_lawful_0 : cX0_lawful.data.toList.drop 0 = dktX0_lawful_0 := by decide +kernel
theorem dksX0_lawful_1 : cX0_lawful.data.toList.drop 22 = dktX0_lawful_1 := dk_seg dksX0_lawful_0 22 rfl rfl
theorem dksX0_lawful_2 : cX0_lawful.data.toList.drop 45 = dktX0_lawful_2 := dk_seg dksX0_lawful_1 23 rfl rfl
theorem dX0_lawful_0 : decode cX0_lawful 0 = .ok (.aload_n 0, 1) := dk_42 (dk_at dksX0_lawful_0 0 rfl rfl)
theorem dX0_lawful_1 : decode cX0_lawful 1 = .ok (.aload_n 0, 1) := dk_42 (dk_at dksX0_lawful_0 1 rfl rfl)
theorem dX0_lawful_2 : decode cX0_lawful 2 = .ok (.iload_n 1, 1) := dk_27 (dk_at dksX0_lawful_0 2 rfl rfl)
theorem dX0_lawful_3 : decode cX0_lawful 3 = .ok (.invokevirtual 186, 3) := dk_182 0 186 (dk_at dksX0_lawful_0 3 rfl rfl)
theorem dX0_lawful_6 : decode cX0_lawful 6 = .ok (.ifCond .eq 19, 3) := dk_153 0 19 (dk_at dksX0_lawful_0 6 rfl rfl)
theorem dX0_lawful_9 : decode cX0_lawful 9 = .ok (.iload_n 2, 1) := dk_28 (dk_at dksX0_lawful_0 9 rfl rfl)
theorem dX0_lawful_10 : decode cX0_lawful 10 = .ok (.i2l, 1) := dk_133 (dk_at dksX0_lawful_0 10 rfl rfl)
theorem dX0_lawful_11 : decode cX0_lawful 11 = .ok (.lconst 0, 1) := dk_9 (dk_at dksX0_lawful_0 11 rfl rfl)
theorem dX0_lawful_12 : decode cX0_lawful 12 = .ok (.ldc2_w 328, 3) := dk_20 1 72 (dk_at dksX0_lawful_0 12 rfl rfl)
theorem dX0_lawful_15 : decode cX0_lawful 15 = .ok (.invokestatic 169, 3) := dk_184 0 169 (dk_at dksX0_lawful_0 15 rfl rfl)
theorem dX0_lawful_18 : decode cX0_lawful 18 = .ok (.ifCond .eq 7, 3) := dk_153 0 7 (dk_at dksX0_lawful_0 18 rfl rfl)
theorem dX0_lawful_21 : decode cX0_lawful 21 = .ok (.iconst 0, 1) := dk_3 (dk_at dksX0_lawful_0 21 rfl rfl)
theorem dX0_lawful_22 : decode cX0_lawful 22 = .ok (.goto 4, 3) := dk_167 0 4 (dk_at dksX0_lawful_1 0 rfl rfl)
theorem dX0_lawful_25 : decode cX0_lawful 25 = .ok (.iconst 1, 1) := dk_4 (dk_at dksX0_lawful_1 3 rfl rfl)
theorem dX0_lawful_26 : decode cX0_lawful 26 = .ok (.putfield 85, 3) := dk_181 0 85 (dk_at dksX0_lawful_1 4 rfl rfl)
theorem dX0_lawful_29 : decode cX0_lawful 29 = .ok (.aload_n 0, 1) := dk_42 (dk_at dksX0_lawful_1 7 rfl rfl)
theorem dX0_lawful_30 : decode cX0_lawful 30 = .ok (.getfield 85, 3) := dk_180 0 85 (dk_at dksX0_lawful_1 8 rfl rfl)
theorem dX0_lawful_33 : decode cX0_lawful 33 = .ok (.ifCond .le 7, 3) := dk_158 0 7 (dk_at dksX0_lawful_1 11 rfl rfl)
theorem dX0_lawful_36 : decode cX0_lawful 36 = .ok (.iconst (-1), 1) := dk_2 (dk_at dksX0_lawful_1 14 rfl rfl)
theorem dX0_lawful_37 : decode cX0_lawful 37 = .ok (.goto 15, 3) := dk_167 0 15 (dk_at dksX0_lawful_1 15 rfl rfl)
theorem dX0_lawful_40 : decode cX0_lawful 40 = .ok (.aload_n 0, 1) := dk_42 (dk_at dksX0_lawful_1 18 rfl rfl)
theorem dX0_lawful_41 : decode cX0_lawful 41 = .ok (.invokevirtual 162, 3) := dk_182 0 162 (dk_at dksX0_lawful_1 19 rfl rfl)
theorem dX0_lawful_44 : decode cX0_lawful 44 = .ok (.iload_n 1, 1) := dk_27 (dk_at dksX0_lawful_1 22 rfl rfl)
theorem dX0_lawful_45 : decode cX0_lawful 45 = .ok (.invokevirtual 376, 3) := dk_182 1 120 (dk_at dksX0_lawful_2 0 rfl rfl)
theorem dX0_lawful_48 : decode cX0_lawful 48 = .ok (.iload_n 2, 1) := dk_28 (dk_at dksX0_lawful_2 3 rfl rfl)
theorem dX0_lawful_49 : decode cX0_lawful 49 = .ok (.ishr, 1) := dk_122 (dk_at dksX0_lawful_2 4 rfl rfl)
theorem dX0_lawful_50 : decode cX0_lawful 50 = .ok (.iconst 1, 1) := dk_4 (dk_at dksX0_lawful_2 5 rfl rfl)
theorem dX0_lawful_51 : decode cX0_lawful 51 = .ok (.iand, 1) := dk_126 (dk_at dksX0_lawful_2 6 rfl rfl)
theorem dX0_lawful_52 : decode cX0_lawful 52 = .ok (.ireturn, 1) := dk_172 (dk_at dksX0_lawful_2 7 rfl rfl)
abbrev cX0_has : ByteArray := prog_1_method_6_code
def yX0_has : MethodName := ⟨RX0, "has", "(II)Z"⟩
def dkwX0_has_0 : List UInt8 := [26, 27, 122, 4, 126, 4, 160, 0, 7, 4, 167, 0, 4, 3, 172]
abbrev dktX0_has_0 : List UInt8 := dkwX0_has_0 ++ []
theorem dksX0_has_0 : cX0_has.data.toList.drop 0 = dktX0_has_0 := by decide +kernel
theorem dX0_has_0 : decode cX0_has 0 = .ok (.iload_n 0, 1) := dk_26 (dk_at dksX0_has_0 0 rfl rfl)
theorem dX0_has_1 : decode cX0_has 1 = .ok (.iload_n 1, 1) := dk_27 (dk_at dksX0_has_0 1 rfl rfl)
theorem dX0_has_2 : decode cX0_has 2 = .ok (.ishr, 1) := dk_122 (dk_at dksX0_has_0 2 rfl rfl)
theorem dX0_has_3 : decode cX0_has 3 = .ok (.iconst 1, 1) := dk_4 (dk_at dksX0_has_0 3 rfl rfl)
theorem dX0_has_4 : decode cX0_has 4 = .ok (.iand, 1) := dk_126 (dk_at dksX0_has_0 4 rfl rfl)
theorem dX0_has_5 : decode cX0_has 5 = .ok (.iconst 1, 1) := dk_4 (dk_at dksX0_has_0 5 rfl rfl)
theorem dX0_has_6 : decode cX0_has 6 = .ok (.if_icmp .ne 7, 3) := dk_160 0 7 (dk_at dksX0_has_0 6 rfl rfl)
theorem dX0_has_9 : decode cX0_has 9 = .ok (.iconst 1, 1) := dk_4 (dk_at dksX0_has_0 9 rfl rfl)
theorem dX0_has_10 : decode cX0_has 10 = .ok (.goto 4, 3) := dk_167 0 4 (dk_at dksX0_has_0 10 rfl rfl)
theorem dX0_has_13 : decode cX0_has 13 = .ok (.iconst 0, 1) := dk_3 (dk_at dksX0_has_0 13 rfl rfl)
theorem dX0_has_14 : decode cX0_has 14 = .ok (.ireturn, 1) := dk_172 (dk_at dksX0_has_0 14 rfl rfl)
abbrev cX0_deeds : ByteArray := prog_1_method_56_code
def yX0_deeds : MethodName := ⟨RX0, "deeds", "(I)I"⟩
def dkwX0_deeds_1 : List UInt8 := [2, 167, 0, 11, 42, 182, 0, 162, 27, 182, 1, 120, 172]
abbrev dktX0_deeds_1 : List UInt8 := dkwX0_deeds_1 ++ []
def dkwX0_deeds_0 : List UInt8 := [42, 42, 27, 182, 0, 186, 153, 0, 7, 3, 167, 0, 4, 4, 181, 0, 85, 42, 180, 0, 85, 158, 0, 7]
abbrev dktX0_deeds_0 : List UInt8 := dkwX0_deeds_0 ++ dktX0_deeds_1
theorem dksX0_deeds_0 : cX0_deeds.data.toList.drop 0 = dktX0_deeds_0 := by decide +kernel
theorem dksX0_deeds_1 : cX0_deeds.data.toList.drop 24 = dktX0_deeds_1 := dk_seg dksX0_deeds_0 24 rfl rfl
theorem dX0_deeds_0 : decode cX0_deeds 0 = .ok (.aload_n 0, 1) := dk_42 (dk_at dksX0_deeds_0 0 rfl rfl)
theorem dX0_deeds_1 : decode cX0_deeds 1 = .ok (.aload_n 0, 1) := dk_42 (dk_at dksX0_deeds_0 1 rfl rfl)
theorem dX0_deeds_2 : decode cX0_deeds 2 = .ok (.iload_n 1, 1) := dk_27 (dk_at dksX0_deeds_0 2 rfl rfl)
theorem dX0_deeds_3 : decode cX0_deeds 3 = .ok (.invokevirtual 186, 3) := dk_182 0 186 (dk_at dksX0_deeds_0 3 rfl rfl)
theorem dX0_deeds_6 : decode cX0_deeds 6 = .ok (.ifCond .eq 7, 3) := dk_153 0 7 (dk_at dksX0_deeds_0 6 rfl rfl)
theorem dX0_deeds_9 : decode cX0_deeds 9 = .ok (.iconst 0, 1) := dk_3 (dk_at dksX0_deeds_0 9 rfl rfl)
theorem dX0_deeds_10 : decode cX0_deeds 10 = .ok (.goto 4, 3) := dk_167 0 4 (dk_at dksX0_deeds_0 10 rfl rfl)
theorem dX0_deeds_13 : decode cX0_deeds 13 = .ok (.iconst 1, 1) := dk_4 (dk_at dksX0_deeds_0 13 rfl rfl)
theorem dX0_deeds_14 : decode cX0_deeds 14 = .ok (.putfield 85, 3) := dk_181 0 85 (dk_at dksX0_deeds_0 14 rfl rfl)
theorem dX0_deeds_17 : decode cX0_deeds 17 = .ok (.aload_n 0, 1) := dk_42 (dk_at dksX0_deeds_0 17 rfl rfl)
theorem dX0_deeds_18 : decode cX0_deeds 18 = .ok (.getfield 85, 3) := dk_180 0 85 (dk_at dksX0_deeds_0 18 rfl rfl)
theorem dX0_deeds_21 : decode cX0_deeds 21 = .ok (.ifCond .le 7, 3) := dk_158 0 7 (dk_at dksX0_deeds_0 21 rfl rfl)
theorem dX0_deeds_24 : decode cX0_deeds 24 = .ok (.iconst (-1), 1) := dk_2 (dk_at dksX0_deeds_1 0 rfl rfl)
theorem dX0_deeds_25 : decode cX0_deeds 25 = .ok (.goto 11, 3) := dk_167 0 11 (dk_at dksX0_deeds_1 1 rfl rfl)
theorem dX0_deeds_28 : decode cX0_deeds 28 = .ok (.aload_n 0, 1) := dk_42 (dk_at dksX0_deeds_1 4 rfl rfl)
theorem dX0_deeds_29 : decode cX0_deeds 29 = .ok (.invokevirtual 162, 3) := dk_182 0 162 (dk_at dksX0_deeds_1 5 rfl rfl)
theorem dX0_deeds_32 : decode cX0_deeds 32 = .ok (.iload_n 1, 1) := dk_27 (dk_at dksX0_deeds_1 8 rfl rfl)
theorem dX0_deeds_33 : decode cX0_deeds 33 = .ok (.invokevirtual 376, 3) := dk_182 1 120 (dk_at dksX0_deeds_1 9 rfl rfl)
theorem dX0_deeds_36 : decode cX0_deeds 36 = .ok (.ireturn, 1) := dk_172 (dk_at dksX0_deeds_1 12 rfl rfl)
abbrev cX0_board : ByteArray := prog_1_method_57_code
def yX0_board : MethodName := ⟨RX0, "board", "(II)I"⟩
def dkwX0_board_2 : List UInt8 := [172]
abbrev dktX0_board_2 : List UInt8 := dkwX0_board_2 ++ []
def dkwX0_board_1 : List UInt8 := [158, 0, 7, 2, 167, 0, 20, 42, 182, 0, 162, 27, 28, 182, 1, 125, 153, 0, 7, 4, 167, 0, 4, 3]
abbrev dktX0_board_1 : List UInt8 := dkwX0_board_1 ++ dktX0_board_2
def dkwX0_board_0 : List UInt8 := [42, 42, 27, 28, 182, 1, 122, 153, 0, 7, 3, 167, 0, 4, 4, 181, 0, 85, 42, 180, 0, 85]
abbrev dktX0_board_0 : List UInt8 := dkwX0_board_0 ++ dktX0_board_1
theorem dksX0_board_0 : cX0_board.data.toList.drop 0 = dktX0_board_0 := by decide +kernel
theorem dksX0_board_1 : cX0_board.data.toList.drop 22 = dktX0_board_1 := dk_seg dksX0_board_0 22 rfl rfl
theorem dksX0_board_2 : cX0_board.data.toList.drop 46 = dktX0_board_2 := dk_seg dksX0_board_1 24 rfl rfl
theorem dX0_board_0 : decode cX0_board 0 = .ok (.aload_n 0, 1) := dk_42 (dk_at dksX0_board_0 0 rfl rfl)
theorem dX0_board_1 : decode cX0_board 1 = .ok (.aload_n 0, 1) := dk_42 (dk_at dksX0_board_0 1 rfl rfl)
theorem dX0_board_2 : decode cX0_board 2 = .ok (.iload_n 1, 1) := dk_27 (dk_at dksX0_board_0 2 rfl rfl)
theorem dX0_board_3 : decode cX0_board 3 = .ok (.iload_n 2, 1) := dk_28 (dk_at dksX0_board_0 3 rfl rfl)
theorem dX0_board_4 : decode cX0_board 4 = .ok (.invokevirtual 378, 3) := dk_182 1 122 (dk_at dksX0_board_0 4 rfl rfl)
theorem dX0_board_7 : decode cX0_board 7 = .ok (.ifCond .eq 7, 3) := dk_153 0 7 (dk_at dksX0_board_0 7 rfl rfl)
theorem dX0_board_10 : decode cX0_board 10 = .ok (.iconst 0, 1) := dk_3 (dk_at dksX0_board_0 10 rfl rfl)
theorem dX0_board_11 : decode cX0_board 11 = .ok (.goto 4, 3) := dk_167 0 4 (dk_at dksX0_board_0 11 rfl rfl)
theorem dX0_board_14 : decode cX0_board 14 = .ok (.iconst 1, 1) := dk_4 (dk_at dksX0_board_0 14 rfl rfl)
theorem dX0_board_15 : decode cX0_board 15 = .ok (.putfield 85, 3) := dk_181 0 85 (dk_at dksX0_board_0 15 rfl rfl)
theorem dX0_board_18 : decode cX0_board 18 = .ok (.aload_n 0, 1) := dk_42 (dk_at dksX0_board_0 18 rfl rfl)
theorem dX0_board_19 : decode cX0_board 19 = .ok (.getfield 85, 3) := dk_180 0 85 (dk_at dksX0_board_0 19 rfl rfl)
theorem dX0_board_22 : decode cX0_board 22 = .ok (.ifCond .le 7, 3) := dk_158 0 7 (dk_at dksX0_board_1 0 rfl rfl)
theorem dX0_board_25 : decode cX0_board 25 = .ok (.iconst (-1), 1) := dk_2 (dk_at dksX0_board_1 3 rfl rfl)
theorem dX0_board_26 : decode cX0_board 26 = .ok (.goto 20, 3) := dk_167 0 20 (dk_at dksX0_board_1 4 rfl rfl)
theorem dX0_board_29 : decode cX0_board 29 = .ok (.aload_n 0, 1) := dk_42 (dk_at dksX0_board_1 7 rfl rfl)
theorem dX0_board_30 : decode cX0_board 30 = .ok (.invokevirtual 162, 3) := dk_182 0 162 (dk_at dksX0_board_1 8 rfl rfl)
theorem dX0_board_33 : decode cX0_board 33 = .ok (.iload_n 1, 1) := dk_27 (dk_at dksX0_board_1 11 rfl rfl)
theorem dX0_board_34 : decode cX0_board 34 = .ok (.iload_n 2, 1) := dk_28 (dk_at dksX0_board_1 12 rfl rfl)
theorem dX0_board_35 : decode cX0_board 35 = .ok (.invokevirtual 381, 3) := dk_182 1 125 (dk_at dksX0_board_1 13 rfl rfl)
theorem dX0_board_38 : decode cX0_board 38 = .ok (.ifCond .eq 7, 3) := dk_153 0 7 (dk_at dksX0_board_1 16 rfl rfl)
theorem dX0_board_41 : decode cX0_board 41 = .ok (.iconst 1, 1) := dk_4 (dk_at dksX0_board_1 19 rfl rfl)
theorem dX0_board_42 : decode cX0_board 42 = .ok (.goto 4, 3) := dk_167 0 4 (dk_at dksX0_board_1 20 rfl rfl)
theorem dX0_board_45 : decode cX0_board 45 = .ok (.iconst 0, 1) := dk_3 (dk_at dksX0_board_1 23 rfl rfl)
theorem dX0_board_46 : decode cX0_board 46 = .ok (.ireturn, 1) := dk_172 (dk_at dksX0_board_2 0 rfl rfl)
abbrev cX0_areShips : ByteArray := prog_1_method_28_code
def yX0_areShips : MethodName := ⟨RX0, "areShips", "(II)Z"⟩
def dkwX0_areShips_1 : List UInt8 := [167, 0, 4, 3, 172]
abbrev dktX0_areShips_1 : List UInt8 := dkwX0_areShips_1 ++ []
def dkwX0_areShips_0 : List UInt8 := [42, 27, 182, 0, 186, 153, 0, 20, 42, 28, 182, 0, 186, 153, 0, 12, 27, 28, 159, 0, 7, 4]
abbrev dktX0_areShips_0 : List UInt8 := dkwX0_areShips_0 ++ dktX0_areShips_1
theorem dksX0_areShips_0 : cX0_areShips.data.toList.drop 0 = dktX0_areShips_0 := by decide +kernel
theorem dksX0_areShips_1 : cX0_areShips.data.toList.drop 22 = dktX0_areShips_1 := dk_seg dksX0_areShips_0 22 rfl rfl
theorem dX0_areShips_0 : decode cX0_areShips 0 = .ok (.aload_n 0, 1) := dk_42 (dk_at dksX0_areShips_0 0 rfl rfl)
theorem dX0_areShips_1 : decode cX0_areShips 1 = .ok (.iload_n 1, 1) := dk_27 (dk_at dksX0_areShips_0 1 rfl rfl)
theorem dX0_areShips_2 : decode cX0_areShips 2 = .ok (.invokevirtual 186, 3) := dk_182 0 186 (dk_at dksX0_areShips_0 2 rfl rfl)
theorem dX0_areShips_5 : decode cX0_areShips 5 = .ok (.ifCond .eq 20, 3) := dk_153 0 20 (dk_at dksX0_areShips_0 5 rfl rfl)
theorem dX0_areShips_8 : decode cX0_areShips 8 = .ok (.aload_n 0, 1) := dk_42 (dk_at dksX0_areShips_0 8 rfl rfl)
theorem dX0_areShips_9 : decode cX0_areShips 9 = .ok (.iload_n 2, 1) := dk_28 (dk_at dksX0_areShips_0 9 rfl rfl)
theorem dX0_areShips_10 : decode cX0_areShips 10 = .ok (.invokevirtual 186, 3) := dk_182 0 186 (dk_at dksX0_areShips_0 10 rfl rfl)
theorem dX0_areShips_13 : decode cX0_areShips 13 = .ok (.ifCond .eq 12, 3) := dk_153 0 12 (dk_at dksX0_areShips_0 13 rfl rfl)
theorem dX0_areShips_16 : decode cX0_areShips 16 = .ok (.iload_n 1, 1) := dk_27 (dk_at dksX0_areShips_0 16 rfl rfl)
theorem dX0_areShips_17 : decode cX0_areShips 17 = .ok (.iload_n 2, 1) := dk_28 (dk_at dksX0_areShips_0 17 rfl rfl)
theorem dX0_areShips_18 : decode cX0_areShips 18 = .ok (.if_icmp .eq 7, 3) := dk_159 0 7 (dk_at dksX0_areShips_0 18 rfl rfl)
theorem dX0_areShips_21 : decode cX0_areShips 21 = .ok (.iconst 1, 1) := dk_4 (dk_at dksX0_areShips_0 21 rfl rfl)
theorem dX0_areShips_22 : decode cX0_areShips 22 = .ok (.goto 4, 3) := dk_167 0 4 (dk_at dksX0_areShips_1 0 rfl rfl)
theorem dX0_areShips_25 : decode cX0_areShips 25 = .ok (.iconst 0, 1) := dk_3 (dk_at dksX0_areShips_1 3 rfl rfl)
theorem dX0_areShips_26 : decode cX0_areShips 26 = .ok (.ireturn, 1) := dk_172 (dk_at dksX0_areShips_1 4 rfl rfl)
abbrev cX0_boarders : ByteArray := prog_1_method_58_code
def yX0_boarders : MethodName := ⟨RX0, "boarders", "(I)I"⟩
def dkwX0_boarders_3 : List UInt8 := [167, 255, 215, 28, 172]
abbrev dktX0_boarders_3 : List UInt8 := dkwX0_boarders_3 ++ []
def dkwX0_boarders_2 : List UInt8 := [182, 0, 162, 29, 27, 182, 1, 125, 153, 0, 9, 4, 29, 120, 167, 0, 4, 3, 128, 61, 132, 3, 1]
abbrev dktX0_boarders_2 : List UInt8 := dkwX0_boarders_2 ++ dktX0_boarders_3
def dkwX0_boarders_1 : List UInt8 := [2, 172, 3, 61, 3, 62, 29, 42, 182, 0, 162, 180, 0, 179, 162, 0, 36, 28, 29, 27, 159, 0, 21, 42]
abbrev dktX0_boarders_1 : List UInt8 := dkwX0_boarders_1 ++ dktX0_boarders_2
def dkwX0_boarders_0 : List UInt8 := [42, 42, 27, 182, 0, 186, 153, 0, 7, 3, 167, 0, 4, 4, 181, 0, 85, 42, 180, 0, 85, 158, 0, 5]
abbrev dktX0_boarders_0 : List UInt8 := dkwX0_boarders_0 ++ dktX0_boarders_1
theorem dksX0_boarders_0 : cX0_boarders.data.toList.drop 0 = dktX0_boarders_0 := by decide +kernel
theorem dksX0_boarders_1 : cX0_boarders.data.toList.drop 24 = dktX0_boarders_1 := dk_seg dksX0_boarders_0 24 rfl rfl
theorem dksX0_boarders_2 : cX0_boarders.data.toList.drop 48 = dktX0_boarders_2 := dk_seg dksX0_boarders_1 24 rfl rfl
theorem dksX0_boarders_3 : cX0_boarders.data.toList.drop 71 = dktX0_boarders_3 := dk_seg dksX0_boarders_2 23 rfl rfl
theorem dX0_boarders_0 : decode cX0_boarders 0 = .ok (.aload_n 0, 1) := dk_42 (dk_at dksX0_boarders_0 0 rfl rfl)
theorem dX0_boarders_1 : decode cX0_boarders 1 = .ok (.aload_n 0, 1) := dk_42 (dk_at dksX0_boarders_0 1 rfl rfl)
theorem dX0_boarders_2 : decode cX0_boarders 2 = .ok (.iload_n 1, 1) := dk_27 (dk_at dksX0_boarders_0 2 rfl rfl)
theorem dX0_boarders_3 : decode cX0_boarders 3 = .ok (.invokevirtual 186, 3) := dk_182 0 186 (dk_at dksX0_boarders_0 3 rfl rfl)
theorem dX0_boarders_6 : decode cX0_boarders 6 = .ok (.ifCond .eq 7, 3) := dk_153 0 7 (dk_at dksX0_boarders_0 6 rfl rfl)
theorem dX0_boarders_9 : decode cX0_boarders 9 = .ok (.iconst 0, 1) := dk_3 (dk_at dksX0_boarders_0 9 rfl rfl)
theorem dX0_boarders_10 : decode cX0_boarders 10 = .ok (.goto 4, 3) := dk_167 0 4 (dk_at dksX0_boarders_0 10 rfl rfl)
theorem dX0_boarders_13 : decode cX0_boarders 13 = .ok (.iconst 1, 1) := dk_4 (dk_at dksX0_boarders_0 13 rfl rfl)
theorem dX0_boarders_14 : decode cX0_boarders 14 = .ok (.putfield 85, 3) := dk_181 0 85 (dk_at dksX0_boarders_0 14 rfl rfl)
theorem dX0_boarders_17 : decode cX0_boarders 17 = .ok (.aload_n 0, 1) := dk_42 (dk_at dksX0_boarders_0 17 rfl rfl)
theorem dX0_boarders_18 : decode cX0_boarders 18 = .ok (.getfield 85, 3) := dk_180 0 85 (dk_at dksX0_boarders_0 18 rfl rfl)
theorem dX0_boarders_21 : decode cX0_boarders 21 = .ok (.ifCond .le 5, 3) := dk_158 0 5 (dk_at dksX0_boarders_0 21 rfl rfl)
theorem dX0_boarders_24 : decode cX0_boarders 24 = .ok (.iconst (-1), 1) := dk_2 (dk_at dksX0_boarders_1 0 rfl rfl)
theorem dX0_boarders_25 : decode cX0_boarders 25 = .ok (.ireturn, 1) := dk_172 (dk_at dksX0_boarders_1 1 rfl rfl)
theorem dX0_boarders_26 : decode cX0_boarders 26 = .ok (.iconst 0, 1) := dk_3 (dk_at dksX0_boarders_1 2 rfl rfl)
theorem dX0_boarders_27 : decode cX0_boarders 27 = .ok (.istore_n 2, 1) := dk_61 (dk_at dksX0_boarders_1 3 rfl rfl)
theorem dX0_boarders_28 : decode cX0_boarders 28 = .ok (.iconst 0, 1) := dk_3 (dk_at dksX0_boarders_1 4 rfl rfl)
theorem dX0_boarders_29 : decode cX0_boarders 29 = .ok (.istore_n 3, 1) := dk_62 (dk_at dksX0_boarders_1 5 rfl rfl)
theorem dX0_boarders_30 : decode cX0_boarders 30 = .ok (.iload_n 3, 1) := dk_29 (dk_at dksX0_boarders_1 6 rfl rfl)
theorem dX0_boarders_31 : decode cX0_boarders 31 = .ok (.aload_n 0, 1) := dk_42 (dk_at dksX0_boarders_1 7 rfl rfl)
theorem dX0_boarders_32 : decode cX0_boarders 32 = .ok (.invokevirtual 162, 3) := dk_182 0 162 (dk_at dksX0_boarders_1 8 rfl rfl)
theorem dX0_boarders_35 : decode cX0_boarders 35 = .ok (.getfield 179, 3) := dk_180 0 179 (dk_at dksX0_boarders_1 11 rfl rfl)
theorem dX0_boarders_38 : decode cX0_boarders 38 = .ok (.if_icmp .ge 36, 3) := dk_162 0 36 (dk_at dksX0_boarders_1 14 rfl rfl)
theorem dX0_boarders_41 : decode cX0_boarders 41 = .ok (.iload_n 2, 1) := dk_28 (dk_at dksX0_boarders_1 17 rfl rfl)
theorem dX0_boarders_42 : decode cX0_boarders 42 = .ok (.iload_n 3, 1) := dk_29 (dk_at dksX0_boarders_1 18 rfl rfl)
theorem dX0_boarders_43 : decode cX0_boarders 43 = .ok (.iload_n 1, 1) := dk_27 (dk_at dksX0_boarders_1 19 rfl rfl)
theorem dX0_boarders_44 : decode cX0_boarders 44 = .ok (.if_icmp .eq 21, 3) := dk_159 0 21 (dk_at dksX0_boarders_1 20 rfl rfl)
theorem dX0_boarders_47 : decode cX0_boarders 47 = .ok (.aload_n 0, 1) := dk_42 (dk_at dksX0_boarders_1 23 rfl rfl)
theorem dX0_boarders_48 : decode cX0_boarders 48 = .ok (.invokevirtual 162, 3) := dk_182 0 162 (dk_at dksX0_boarders_2 0 rfl rfl)
theorem dX0_boarders_51 : decode cX0_boarders 51 = .ok (.iload_n 3, 1) := dk_29 (dk_at dksX0_boarders_2 3 rfl rfl)
theorem dX0_boarders_52 : decode cX0_boarders 52 = .ok (.iload_n 1, 1) := dk_27 (dk_at dksX0_boarders_2 4 rfl rfl)
theorem dX0_boarders_53 : decode cX0_boarders 53 = .ok (.invokevirtual 381, 3) := dk_182 1 125 (dk_at dksX0_boarders_2 5 rfl rfl)
theorem dX0_boarders_56 : decode cX0_boarders 56 = .ok (.ifCond .eq 9, 3) := dk_153 0 9 (dk_at dksX0_boarders_2 8 rfl rfl)
theorem dX0_boarders_59 : decode cX0_boarders 59 = .ok (.iconst 1, 1) := dk_4 (dk_at dksX0_boarders_2 11 rfl rfl)
theorem dX0_boarders_60 : decode cX0_boarders 60 = .ok (.iload_n 3, 1) := dk_29 (dk_at dksX0_boarders_2 12 rfl rfl)
theorem dX0_boarders_61 : decode cX0_boarders 61 = .ok (.ishl, 1) := dk_120 (dk_at dksX0_boarders_2 13 rfl rfl)
theorem dX0_boarders_62 : decode cX0_boarders 62 = .ok (.goto 4, 3) := dk_167 0 4 (dk_at dksX0_boarders_2 14 rfl rfl)
theorem dX0_boarders_65 : decode cX0_boarders 65 = .ok (.iconst 0, 1) := dk_3 (dk_at dksX0_boarders_2 17 rfl rfl)
theorem dX0_boarders_66 : decode cX0_boarders 66 = .ok (.ior, 1) := dk_128 (dk_at dksX0_boarders_2 18 rfl rfl)
theorem dX0_boarders_67 : decode cX0_boarders 67 = .ok (.istore_n 2, 1) := dk_61 (dk_at dksX0_boarders_2 19 rfl rfl)
theorem dX0_boarders_68 : decode cX0_boarders 68 = .ok (.iinc 3 1, 3) := dk_132 3 1 (dk_at dksX0_boarders_2 20 rfl rfl)
theorem dX0_boarders_71 : decode cX0_boarders 71 = .ok (.goto (-41), 3) := dk_167 255 215 (dk_at dksX0_boarders_3 0 rfl rfl)
theorem dX0_boarders_74 : decode cX0_boarders 74 = .ok (.iload_n 2, 1) := dk_28 (dk_at dksX0_boarders_3 3 rfl rfl)
theorem dX0_boarders_75 : decode cX0_boarders 75 = .ok (.ireturn, 1) := dk_172 (dk_at dksX0_boarders_3 4 rfl rfl)
abbrev cX0_greatest : ByteArray := prog_1_method_59_code
def yX0_greatest : MethodName := ⟨RX0, "greatest", "(I)I"⟩
def dkwX0_greatest_3 : List UInt8 := [3, 182, 1, 103, 62, 21, 4, 61, 132, 4, 1, 167, 255, 208, 42, 28, 182, 1, 60, 172]
abbrev dktX0_greatest_3 : List UInt8 := dkwX0_greatest_3 ++ []
def dkwX0_greatest_2 : List UInt8 := [182, 0, 162, 21, 4, 27, 3, 182, 1, 103, 29, 163, 0, 6, 167, 0, 18, 42, 182, 0, 162, 21, 4, 27]
abbrev dktX0_greatest_2 : List UInt8 := dkwX0_greatest_2 ++ dktX0_greatest_3
def dkwX0_greatest_1 : List UInt8 := [2, 172, 2, 61, 3, 62, 3, 54, 4, 21, 4, 42, 182, 0, 162, 180, 0, 179, 162, 0, 42, 42]
abbrev dktX0_greatest_1 : List UInt8 := dkwX0_greatest_1 ++ dktX0_greatest_2
def dkwX0_greatest_0 : List UInt8 := [42, 42, 27, 182, 1, 16, 153, 0, 7, 3, 167, 0, 4, 4, 181, 0, 85, 42, 180, 0, 85, 158, 0, 5]
abbrev dktX0_greatest_0 : List UInt8 := dkwX0_greatest_0 ++ dktX0_greatest_1
theorem dksX0_greatest_0 : cX0_greatest.data.toList.drop 0 = dktX0_greatest_0 := by decide +kernel
theorem dksX0_greatest_1 : cX0_greatest.data.toList.drop 24 = dktX0_greatest_1 := dk_seg dksX0_greatest_0 24 rfl rfl
theorem dksX0_greatest_2 : cX0_greatest.data.toList.drop 46 = dktX0_greatest_2 := dk_seg dksX0_greatest_1 22 rfl rfl
theorem dksX0_greatest_3 : cX0_greatest.data.toList.drop 70 = dktX0_greatest_3 := dk_seg dksX0_greatest_2 24 rfl rfl
theorem dX0_greatest_0 : decode cX0_greatest 0 = .ok (.aload_n 0, 1) := dk_42 (dk_at dksX0_greatest_0 0 rfl rfl)
theorem dX0_greatest_1 : decode cX0_greatest 1 = .ok (.aload_n 0, 1) := dk_42 (dk_at dksX0_greatest_0 1 rfl rfl)
theorem dX0_greatest_2 : decode cX0_greatest 2 = .ok (.iload_n 1, 1) := dk_27 (dk_at dksX0_greatest_0 2 rfl rfl)
theorem dX0_greatest_3 : decode cX0_greatest 3 = .ok (.invokevirtual 272, 3) := dk_182 1 16 (dk_at dksX0_greatest_0 3 rfl rfl)
theorem dX0_greatest_6 : decode cX0_greatest 6 = .ok (.ifCond .eq 7, 3) := dk_153 0 7 (dk_at dksX0_greatest_0 6 rfl rfl)
theorem dX0_greatest_9 : decode cX0_greatest 9 = .ok (.iconst 0, 1) := dk_3 (dk_at dksX0_greatest_0 9 rfl rfl)
theorem dX0_greatest_10 : decode cX0_greatest 10 = .ok (.goto 4, 3) := dk_167 0 4 (dk_at dksX0_greatest_0 10 rfl rfl)
theorem dX0_greatest_13 : decode cX0_greatest 13 = .ok (.iconst 1, 1) := dk_4 (dk_at dksX0_greatest_0 13 rfl rfl)
theorem dX0_greatest_14 : decode cX0_greatest 14 = .ok (.putfield 85, 3) := dk_181 0 85 (dk_at dksX0_greatest_0 14 rfl rfl)
theorem dX0_greatest_17 : decode cX0_greatest 17 = .ok (.aload_n 0, 1) := dk_42 (dk_at dksX0_greatest_0 17 rfl rfl)
theorem dX0_greatest_18 : decode cX0_greatest 18 = .ok (.getfield 85, 3) := dk_180 0 85 (dk_at dksX0_greatest_0 18 rfl rfl)
theorem dX0_greatest_21 : decode cX0_greatest 21 = .ok (.ifCond .le 5, 3) := dk_158 0 5 (dk_at dksX0_greatest_0 21 rfl rfl)
theorem dX0_greatest_24 : decode cX0_greatest 24 = .ok (.iconst (-1), 1) := dk_2 (dk_at dksX0_greatest_1 0 rfl rfl)
theorem dX0_greatest_25 : decode cX0_greatest 25 = .ok (.ireturn, 1) := dk_172 (dk_at dksX0_greatest_1 1 rfl rfl)
theorem dX0_greatest_26 : decode cX0_greatest 26 = .ok (.iconst (-1), 1) := dk_2 (dk_at dksX0_greatest_1 2 rfl rfl)
theorem dX0_greatest_27 : decode cX0_greatest 27 = .ok (.istore_n 2, 1) := dk_61 (dk_at dksX0_greatest_1 3 rfl rfl)
theorem dX0_greatest_28 : decode cX0_greatest 28 = .ok (.iconst 0, 1) := dk_3 (dk_at dksX0_greatest_1 4 rfl rfl)
theorem dX0_greatest_29 : decode cX0_greatest 29 = .ok (.istore_n 3, 1) := dk_62 (dk_at dksX0_greatest_1 5 rfl rfl)
theorem dX0_greatest_30 : decode cX0_greatest 30 = .ok (.iconst 0, 1) := dk_3 (dk_at dksX0_greatest_1 6 rfl rfl)
theorem dX0_greatest_31 : decode cX0_greatest 31 = .ok (.istore 4, 2) := dk_54 4 (dk_at dksX0_greatest_1 7 rfl rfl)
theorem dX0_greatest_33 : decode cX0_greatest 33 = .ok (.iload 4, 2) := dk_21 4 (dk_at dksX0_greatest_1 9 rfl rfl)
theorem dX0_greatest_35 : decode cX0_greatest 35 = .ok (.aload_n 0, 1) := dk_42 (dk_at dksX0_greatest_1 11 rfl rfl)
theorem dX0_greatest_36 : decode cX0_greatest 36 = .ok (.invokevirtual 162, 3) := dk_182 0 162 (dk_at dksX0_greatest_1 12 rfl rfl)
theorem dX0_greatest_39 : decode cX0_greatest 39 = .ok (.getfield 179, 3) := dk_180 0 179 (dk_at dksX0_greatest_1 15 rfl rfl)
theorem dX0_greatest_42 : decode cX0_greatest 42 = .ok (.if_icmp .ge 42, 3) := dk_162 0 42 (dk_at dksX0_greatest_1 18 rfl rfl)
theorem dX0_greatest_45 : decode cX0_greatest 45 = .ok (.aload_n 0, 1) := dk_42 (dk_at dksX0_greatest_1 21 rfl rfl)
theorem dX0_greatest_46 : decode cX0_greatest 46 = .ok (.invokevirtual 162, 3) := dk_182 0 162 (dk_at dksX0_greatest_2 0 rfl rfl)
theorem dX0_greatest_49 : decode cX0_greatest 49 = .ok (.iload 4, 2) := dk_21 4 (dk_at dksX0_greatest_2 3 rfl rfl)
theorem dX0_greatest_51 : decode cX0_greatest 51 = .ok (.iload_n 1, 1) := dk_27 (dk_at dksX0_greatest_2 5 rfl rfl)
theorem dX0_greatest_52 : decode cX0_greatest 52 = .ok (.iconst 0, 1) := dk_3 (dk_at dksX0_greatest_2 6 rfl rfl)
theorem dX0_greatest_53 : decode cX0_greatest 53 = .ok (.invokevirtual 359, 3) := dk_182 1 103 (dk_at dksX0_greatest_2 7 rfl rfl)
theorem dX0_greatest_56 : decode cX0_greatest 56 = .ok (.iload_n 3, 1) := dk_29 (dk_at dksX0_greatest_2 10 rfl rfl)
theorem dX0_greatest_57 : decode cX0_greatest 57 = .ok (.if_icmp .gt 6, 3) := dk_163 0 6 (dk_at dksX0_greatest_2 11 rfl rfl)
theorem dX0_greatest_60 : decode cX0_greatest 60 = .ok (.goto 18, 3) := dk_167 0 18 (dk_at dksX0_greatest_2 14 rfl rfl)
theorem dX0_greatest_63 : decode cX0_greatest 63 = .ok (.aload_n 0, 1) := dk_42 (dk_at dksX0_greatest_2 17 rfl rfl)
theorem dX0_greatest_64 : decode cX0_greatest 64 = .ok (.invokevirtual 162, 3) := dk_182 0 162 (dk_at dksX0_greatest_2 18 rfl rfl)
theorem dX0_greatest_67 : decode cX0_greatest 67 = .ok (.iload 4, 2) := dk_21 4 (dk_at dksX0_greatest_2 21 rfl rfl)
theorem dX0_greatest_69 : decode cX0_greatest 69 = .ok (.iload_n 1, 1) := dk_27 (dk_at dksX0_greatest_2 23 rfl rfl)
theorem dX0_greatest_70 : decode cX0_greatest 70 = .ok (.iconst 0, 1) := dk_3 (dk_at dksX0_greatest_3 0 rfl rfl)
theorem dX0_greatest_71 : decode cX0_greatest 71 = .ok (.invokevirtual 359, 3) := dk_182 1 103 (dk_at dksX0_greatest_3 1 rfl rfl)
theorem dX0_greatest_74 : decode cX0_greatest 74 = .ok (.istore_n 3, 1) := dk_62 (dk_at dksX0_greatest_3 4 rfl rfl)
theorem dX0_greatest_75 : decode cX0_greatest 75 = .ok (.iload 4, 2) := dk_21 4 (dk_at dksX0_greatest_3 5 rfl rfl)
theorem dX0_greatest_77 : decode cX0_greatest 77 = .ok (.istore_n 2, 1) := dk_61 (dk_at dksX0_greatest_3 7 rfl rfl)
theorem dX0_greatest_78 : decode cX0_greatest 78 = .ok (.iinc 4 1, 3) := dk_132 4 1 (dk_at dksX0_greatest_3 8 rfl rfl)
theorem dX0_greatest_81 : decode cX0_greatest 81 = .ok (.goto (-48), 3) := dk_167 255 208 (dk_at dksX0_greatest_3 11 rfl rfl)
theorem dX0_greatest_84 : decode cX0_greatest 84 = .ok (.aload_n 0, 1) := dk_42 (dk_at dksX0_greatest_3 14 rfl rfl)
theorem dX0_greatest_85 : decode cX0_greatest 85 = .ok (.iload_n 2, 1) := dk_28 (dk_at dksX0_greatest_3 15 rfl rfl)
theorem dX0_greatest_86 : decode cX0_greatest 86 = .ok (.invokevirtual 316, 3) := dk_182 1 60 (dk_at dksX0_greatest_3 16 rfl rfl)
theorem dX0_greatest_89 : decode cX0_greatest 89 = .ok (.ireturn, 1) := dk_172 (dk_at dksX0_greatest_3 19 rfl rfl)
abbrev cX0_buy : ByteArray := prog_1_method_60_code
def yX0_buy : MethodName := ⟨RX0, "buy", "(III)I"⟩
def dkwX0_buy_2 : List UInt8 := [167, 0, 17, 42, 182, 0, 162, 180, 1, 100, 16, 8, 27, 104, 28, 96, 46, 172]
abbrev dktX0_buy_2 : List UInt8 := dkwX0_buy_2 ++ []
def dkwX0_buy_1 : List UInt8 := [182, 1, 132, 153, 0, 7, 3, 167, 0, 5, 16, 7, 181, 0, 85, 42, 180, 0, 85, 158, 0, 7, 2]
abbrev dktX0_buy_1 : List UInt8 := dkwX0_buy_1 ++ dktX0_buy_2
def dkwX0_buy_0 : List UInt8 := [42, 42, 27, 28, 29, 182, 1, 128, 154, 0, 7, 4, 167, 0, 22, 42, 182, 0, 162, 27, 28, 29]
abbrev dktX0_buy_0 : List UInt8 := dkwX0_buy_0 ++ dktX0_buy_1
theorem dksX0_buy_0 : cX0_buy.data.toList.drop 0 = dktX0_buy_0 := by decide +kernel
theorem dksX0_buy_1 : cX0_buy.data.toList.drop 22 = dktX0_buy_1 := dk_seg dksX0_buy_0 22 rfl rfl
theorem dksX0_buy_2 : cX0_buy.data.toList.drop 45 = dktX0_buy_2 := dk_seg dksX0_buy_1 23 rfl rfl
theorem dX0_buy_0 : decode cX0_buy 0 = .ok (.aload_n 0, 1) := dk_42 (dk_at dksX0_buy_0 0 rfl rfl)
theorem dX0_buy_1 : decode cX0_buy 1 = .ok (.aload_n 0, 1) := dk_42 (dk_at dksX0_buy_0 1 rfl rfl)
theorem dX0_buy_2 : decode cX0_buy 2 = .ok (.iload_n 1, 1) := dk_27 (dk_at dksX0_buy_0 2 rfl rfl)
theorem dX0_buy_3 : decode cX0_buy 3 = .ok (.iload_n 2, 1) := dk_28 (dk_at dksX0_buy_0 3 rfl rfl)
theorem dX0_buy_4 : decode cX0_buy 4 = .ok (.iload_n 3, 1) := dk_29 (dk_at dksX0_buy_0 4 rfl rfl)
theorem dX0_buy_5 : decode cX0_buy 5 = .ok (.invokevirtual 384, 3) := dk_182 1 128 (dk_at dksX0_buy_0 5 rfl rfl)
theorem dX0_buy_8 : decode cX0_buy 8 = .ok (.ifCond .ne 7, 3) := dk_154 0 7 (dk_at dksX0_buy_0 8 rfl rfl)
theorem dX0_buy_11 : decode cX0_buy 11 = .ok (.iconst 1, 1) := dk_4 (dk_at dksX0_buy_0 11 rfl rfl)
theorem dX0_buy_12 : decode cX0_buy 12 = .ok (.goto 22, 3) := dk_167 0 22 (dk_at dksX0_buy_0 12 rfl rfl)
theorem dX0_buy_15 : decode cX0_buy 15 = .ok (.aload_n 0, 1) := dk_42 (dk_at dksX0_buy_0 15 rfl rfl)
theorem dX0_buy_16 : decode cX0_buy 16 = .ok (.invokevirtual 162, 3) := dk_182 0 162 (dk_at dksX0_buy_0 16 rfl rfl)
theorem dX0_buy_19 : decode cX0_buy 19 = .ok (.iload_n 1, 1) := dk_27 (dk_at dksX0_buy_0 19 rfl rfl)
theorem dX0_buy_20 : decode cX0_buy 20 = .ok (.iload_n 2, 1) := dk_28 (dk_at dksX0_buy_0 20 rfl rfl)
theorem dX0_buy_21 : decode cX0_buy 21 = .ok (.iload_n 3, 1) := dk_29 (dk_at dksX0_buy_0 21 rfl rfl)
theorem dX0_buy_22 : decode cX0_buy 22 = .ok (.invokevirtual 388, 3) := dk_182 1 132 (dk_at dksX0_buy_1 0 rfl rfl)
theorem dX0_buy_25 : decode cX0_buy 25 = .ok (.ifCond .eq 7, 3) := dk_153 0 7 (dk_at dksX0_buy_1 3 rfl rfl)
theorem dX0_buy_28 : decode cX0_buy 28 = .ok (.iconst 0, 1) := dk_3 (dk_at dksX0_buy_1 6 rfl rfl)
theorem dX0_buy_29 : decode cX0_buy 29 = .ok (.goto 5, 3) := dk_167 0 5 (dk_at dksX0_buy_1 7 rfl rfl)
theorem dX0_buy_32 : decode cX0_buy 32 = .ok (.bipush 7, 2) := dk_16 7 (dk_at dksX0_buy_1 10 rfl rfl)
theorem dX0_buy_34 : decode cX0_buy 34 = .ok (.putfield 85, 3) := dk_181 0 85 (dk_at dksX0_buy_1 12 rfl rfl)
theorem dX0_buy_37 : decode cX0_buy 37 = .ok (.aload_n 0, 1) := dk_42 (dk_at dksX0_buy_1 15 rfl rfl)
theorem dX0_buy_38 : decode cX0_buy 38 = .ok (.getfield 85, 3) := dk_180 0 85 (dk_at dksX0_buy_1 16 rfl rfl)
theorem dX0_buy_41 : decode cX0_buy 41 = .ok (.ifCond .le 7, 3) := dk_158 0 7 (dk_at dksX0_buy_1 19 rfl rfl)
theorem dX0_buy_44 : decode cX0_buy 44 = .ok (.iconst (-1), 1) := dk_2 (dk_at dksX0_buy_1 22 rfl rfl)
theorem dX0_buy_45 : decode cX0_buy 45 = .ok (.goto 17, 3) := dk_167 0 17 (dk_at dksX0_buy_2 0 rfl rfl)
theorem dX0_buy_48 : decode cX0_buy 48 = .ok (.aload_n 0, 1) := dk_42 (dk_at dksX0_buy_2 3 rfl rfl)
theorem dX0_buy_49 : decode cX0_buy 49 = .ok (.invokevirtual 162, 3) := dk_182 0 162 (dk_at dksX0_buy_2 4 rfl rfl)
theorem dX0_buy_52 : decode cX0_buy 52 = .ok (.getfield 356, 3) := dk_180 1 100 (dk_at dksX0_buy_2 7 rfl rfl)
theorem dX0_buy_55 : decode cX0_buy 55 = .ok (.bipush 8, 2) := dk_16 8 (dk_at dksX0_buy_2 10 rfl rfl)
theorem dX0_buy_57 : decode cX0_buy 57 = .ok (.iload_n 1, 1) := dk_27 (dk_at dksX0_buy_2 12 rfl rfl)
theorem dX0_buy_58 : decode cX0_buy 58 = .ok (.imul, 1) := dk_104 (dk_at dksX0_buy_2 13 rfl rfl)
theorem dX0_buy_59 : decode cX0_buy 59 = .ok (.iload_n 2, 1) := dk_28 (dk_at dksX0_buy_2 14 rfl rfl)
theorem dX0_buy_60 : decode cX0_buy 60 = .ok (.iadd, 1) := dk_96 (dk_at dksX0_buy_2 15 rfl rfl)
theorem dX0_buy_61 : decode cX0_buy 61 = .ok (.iaload, 1) := dk_46 (dk_at dksX0_buy_2 16 rfl rfl)
theorem dX0_buy_62 : decode cX0_buy 62 = .ok (.ireturn, 1) := dk_172 (dk_at dksX0_buy_2 17 rfl rfl)
abbrev cX0_isLoad : ByteArray := prog_1_method_30_code
def yX0_isLoad : MethodName := ⟨RX0, "isLoad", "(III)Z"⟩
def dkwX0_isLoad_1 : List UInt8 := [184, 0, 169, 153, 0, 7, 4, 167, 0, 4, 3, 172]
abbrev dktX0_isLoad_1 : List UInt8 := dkwX0_isLoad_1 ++ []
def dkwX0_isLoad_0 : List UInt8 := [42, 27, 182, 0, 186, 153, 0, 27, 42, 28, 182, 0, 193, 153, 0, 19, 29, 133, 10, 20, 0, 196]
abbrev dktX0_isLoad_0 : List UInt8 := dkwX0_isLoad_0 ++ dktX0_isLoad_1
theorem dksX0_isLoad_0 : cX0_isLoad.data.toList.drop 0 = dktX0_isLoad_0 := by decide +kernel
theorem dksX0_isLoad_1 : cX0_isLoad.data.toList.drop 22 = dktX0_isLoad_1 := dk_seg dksX0_isLoad_0 22 rfl rfl
theorem dX0_isLoad_0 : decode cX0_isLoad 0 = .ok (.aload_n 0, 1) := dk_42 (dk_at dksX0_isLoad_0 0 rfl rfl)
theorem dX0_isLoad_1 : decode cX0_isLoad 1 = .ok (.iload_n 1, 1) := dk_27 (dk_at dksX0_isLoad_0 1 rfl rfl)
theorem dX0_isLoad_2 : decode cX0_isLoad 2 = .ok (.invokevirtual 186, 3) := dk_182 0 186 (dk_at dksX0_isLoad_0 2 rfl rfl)
theorem dX0_isLoad_5 : decode cX0_isLoad 5 = .ok (.ifCond .eq 27, 3) := dk_153 0 27 (dk_at dksX0_isLoad_0 5 rfl rfl)
theorem dX0_isLoad_8 : decode cX0_isLoad 8 = .ok (.aload_n 0, 1) := dk_42 (dk_at dksX0_isLoad_0 8 rfl rfl)
theorem dX0_isLoad_9 : decode cX0_isLoad 9 = .ok (.iload_n 2, 1) := dk_28 (dk_at dksX0_isLoad_0 9 rfl rfl)
theorem dX0_isLoad_10 : decode cX0_isLoad 10 = .ok (.invokevirtual 193, 3) := dk_182 0 193 (dk_at dksX0_isLoad_0 10 rfl rfl)
theorem dX0_isLoad_13 : decode cX0_isLoad 13 = .ok (.ifCond .eq 19, 3) := dk_153 0 19 (dk_at dksX0_isLoad_0 13 rfl rfl)
theorem dX0_isLoad_16 : decode cX0_isLoad 16 = .ok (.iload_n 3, 1) := dk_29 (dk_at dksX0_isLoad_0 16 rfl rfl)
theorem dX0_isLoad_17 : decode cX0_isLoad 17 = .ok (.i2l, 1) := dk_133 (dk_at dksX0_isLoad_0 17 rfl rfl)
theorem dX0_isLoad_18 : decode cX0_isLoad 18 = .ok (.lconst 1, 1) := dk_10 (dk_at dksX0_isLoad_0 18 rfl rfl)
theorem dX0_isLoad_19 : decode cX0_isLoad 19 = .ok (.ldc2_w 196, 3) := dk_20 0 196 (dk_at dksX0_isLoad_0 19 rfl rfl)
theorem dX0_isLoad_22 : decode cX0_isLoad 22 = .ok (.invokestatic 169, 3) := dk_184 0 169 (dk_at dksX0_isLoad_1 0 rfl rfl)
theorem dX0_isLoad_25 : decode cX0_isLoad 25 = .ok (.ifCond .eq 7, 3) := dk_153 0 7 (dk_at dksX0_isLoad_1 3 rfl rfl)
theorem dX0_isLoad_28 : decode cX0_isLoad 28 = .ok (.iconst 1, 1) := dk_4 (dk_at dksX0_isLoad_1 6 rfl rfl)
theorem dX0_isLoad_29 : decode cX0_isLoad 29 = .ok (.goto 4, 3) := dk_167 0 4 (dk_at dksX0_isLoad_1 7 rfl rfl)
theorem dX0_isLoad_32 : decode cX0_isLoad 32 = .ok (.iconst 0, 1) := dk_3 (dk_at dksX0_isLoad_1 10 rfl rfl)
theorem dX0_isLoad_33 : decode cX0_isLoad 33 = .ok (.ireturn, 1) := dk_172 (dk_at dksX0_isLoad_1 11 rfl rfl)
abbrev cX0_sell : ByteArray := prog_1_method_61_code
def yX0_sell : MethodName := ⟨RX0, "sell", "(III)I"⟩
def dkwX0_sell_2 : List UInt8 := [167, 0, 17, 42, 182, 0, 162, 180, 1, 100, 16, 8, 27, 104, 28, 96, 46, 172]
abbrev dktX0_sell_2 : List UInt8 := dkwX0_sell_2 ++ []
def dkwX0_sell_1 : List UInt8 := [182, 1, 135, 153, 0, 7, 3, 167, 0, 5, 16, 7, 181, 0, 85, 42, 180, 0, 85, 158, 0, 7, 2]
abbrev dktX0_sell_1 : List UInt8 := dkwX0_sell_1 ++ dktX0_sell_2
def dkwX0_sell_0 : List UInt8 := [42, 42, 27, 28, 29, 182, 1, 128, 154, 0, 7, 4, 167, 0, 22, 42, 182, 0, 162, 27, 28, 29]
abbrev dktX0_sell_0 : List UInt8 := dkwX0_sell_0 ++ dktX0_sell_1
theorem dksX0_sell_0 : cX0_sell.data.toList.drop 0 = dktX0_sell_0 := by decide +kernel
theorem dksX0_sell_1 : cX0_sell.data.toList.drop 22 = dktX0_sell_1 := dk_seg dksX0_sell_0 22 rfl rfl
theorem dksX0_sell_2 : cX0_sell.data.toList.drop 45 = dktX0_sell_2 := dk_seg dksX0_sell_1 23 rfl rfl
theorem dX0_sell_0 : decode cX0_sell 0 = .ok (.aload_n 0, 1) := dk_42 (dk_at dksX0_sell_0 0 rfl rfl)
theorem dX0_sell_1 : decode cX0_sell 1 = .ok (.aload_n 0, 1) := dk_42 (dk_at dksX0_sell_0 1 rfl rfl)
theorem dX0_sell_2 : decode cX0_sell 2 = .ok (.iload_n 1, 1) := dk_27 (dk_at dksX0_sell_0 2 rfl rfl)
theorem dX0_sell_3 : decode cX0_sell 3 = .ok (.iload_n 2, 1) := dk_28 (dk_at dksX0_sell_0 3 rfl rfl)
theorem dX0_sell_4 : decode cX0_sell 4 = .ok (.iload_n 3, 1) := dk_29 (dk_at dksX0_sell_0 4 rfl rfl)
theorem dX0_sell_5 : decode cX0_sell 5 = .ok (.invokevirtual 384, 3) := dk_182 1 128 (dk_at dksX0_sell_0 5 rfl rfl)
theorem dX0_sell_8 : decode cX0_sell 8 = .ok (.ifCond .ne 7, 3) := dk_154 0 7 (dk_at dksX0_sell_0 8 rfl rfl)
theorem dX0_sell_11 : decode cX0_sell 11 = .ok (.iconst 1, 1) := dk_4 (dk_at dksX0_sell_0 11 rfl rfl)
theorem dX0_sell_12 : decode cX0_sell 12 = .ok (.goto 22, 3) := dk_167 0 22 (dk_at dksX0_sell_0 12 rfl rfl)
theorem dX0_sell_15 : decode cX0_sell 15 = .ok (.aload_n 0, 1) := dk_42 (dk_at dksX0_sell_0 15 rfl rfl)
theorem dX0_sell_16 : decode cX0_sell 16 = .ok (.invokevirtual 162, 3) := dk_182 0 162 (dk_at dksX0_sell_0 16 rfl rfl)
theorem dX0_sell_19 : decode cX0_sell 19 = .ok (.iload_n 1, 1) := dk_27 (dk_at dksX0_sell_0 19 rfl rfl)
theorem dX0_sell_20 : decode cX0_sell 20 = .ok (.iload_n 2, 1) := dk_28 (dk_at dksX0_sell_0 20 rfl rfl)
theorem dX0_sell_21 : decode cX0_sell 21 = .ok (.iload_n 3, 1) := dk_29 (dk_at dksX0_sell_0 21 rfl rfl)
theorem dX0_sell_22 : decode cX0_sell 22 = .ok (.invokevirtual 391, 3) := dk_182 1 135 (dk_at dksX0_sell_1 0 rfl rfl)
theorem dX0_sell_25 : decode cX0_sell 25 = .ok (.ifCond .eq 7, 3) := dk_153 0 7 (dk_at dksX0_sell_1 3 rfl rfl)
theorem dX0_sell_28 : decode cX0_sell 28 = .ok (.iconst 0, 1) := dk_3 (dk_at dksX0_sell_1 6 rfl rfl)
theorem dX0_sell_29 : decode cX0_sell 29 = .ok (.goto 5, 3) := dk_167 0 5 (dk_at dksX0_sell_1 7 rfl rfl)
theorem dX0_sell_32 : decode cX0_sell 32 = .ok (.bipush 7, 2) := dk_16 7 (dk_at dksX0_sell_1 10 rfl rfl)
theorem dX0_sell_34 : decode cX0_sell 34 = .ok (.putfield 85, 3) := dk_181 0 85 (dk_at dksX0_sell_1 12 rfl rfl)
theorem dX0_sell_37 : decode cX0_sell 37 = .ok (.aload_n 0, 1) := dk_42 (dk_at dksX0_sell_1 15 rfl rfl)
theorem dX0_sell_38 : decode cX0_sell 38 = .ok (.getfield 85, 3) := dk_180 0 85 (dk_at dksX0_sell_1 16 rfl rfl)
theorem dX0_sell_41 : decode cX0_sell 41 = .ok (.ifCond .le 7, 3) := dk_158 0 7 (dk_at dksX0_sell_1 19 rfl rfl)
theorem dX0_sell_44 : decode cX0_sell 44 = .ok (.iconst (-1), 1) := dk_2 (dk_at dksX0_sell_1 22 rfl rfl)
theorem dX0_sell_45 : decode cX0_sell 45 = .ok (.goto 17, 3) := dk_167 0 17 (dk_at dksX0_sell_2 0 rfl rfl)
theorem dX0_sell_48 : decode cX0_sell 48 = .ok (.aload_n 0, 1) := dk_42 (dk_at dksX0_sell_2 3 rfl rfl)
theorem dX0_sell_49 : decode cX0_sell 49 = .ok (.invokevirtual 162, 3) := dk_182 0 162 (dk_at dksX0_sell_2 4 rfl rfl)
theorem dX0_sell_52 : decode cX0_sell 52 = .ok (.getfield 356, 3) := dk_180 1 100 (dk_at dksX0_sell_2 7 rfl rfl)
theorem dX0_sell_55 : decode cX0_sell 55 = .ok (.bipush 8, 2) := dk_16 8 (dk_at dksX0_sell_2 10 rfl rfl)
theorem dX0_sell_57 : decode cX0_sell 57 = .ok (.iload_n 1, 1) := dk_27 (dk_at dksX0_sell_2 12 rfl rfl)
theorem dX0_sell_58 : decode cX0_sell 58 = .ok (.imul, 1) := dk_104 (dk_at dksX0_sell_2 13 rfl rfl)
theorem dX0_sell_59 : decode cX0_sell 59 = .ok (.iload_n 2, 1) := dk_28 (dk_at dksX0_sell_2 14 rfl rfl)
theorem dX0_sell_60 : decode cX0_sell 60 = .ok (.iadd, 1) := dk_96 (dk_at dksX0_sell_2 15 rfl rfl)
theorem dX0_sell_61 : decode cX0_sell 61 = .ok (.iaload, 1) := dk_46 (dk_at dksX0_sell_2 16 rfl rfl)
theorem dX0_sell_62 : decode cX0_sell 62 = .ok (.ireturn, 1) := dk_172 (dk_at dksX0_sell_2 17 rfl rfl)
abbrev cX0_dump : ByteArray := prog_1_method_62_code
def yX0_dump : MethodName := ⟨RX0, "dump", "(III)I"⟩
def dkwX0_dump_2 : List UInt8 := [167, 0, 17, 42, 182, 0, 162, 180, 1, 100, 16, 8, 27, 104, 28, 96, 46, 172]
abbrev dktX0_dump_2 : List UInt8 := dkwX0_dump_2 ++ []
def dkwX0_dump_1 : List UInt8 := [182, 1, 138, 153, 0, 7, 3, 167, 0, 5, 16, 7, 181, 0, 85, 42, 180, 0, 85, 158, 0, 7, 2]
abbrev dktX0_dump_1 : List UInt8 := dkwX0_dump_1 ++ dktX0_dump_2
def dkwX0_dump_0 : List UInt8 := [42, 42, 27, 28, 29, 182, 1, 128, 154, 0, 7, 4, 167, 0, 22, 42, 182, 0, 162, 27, 28, 29]
abbrev dktX0_dump_0 : List UInt8 := dkwX0_dump_0 ++ dktX0_dump_1
theorem dksX0_dump_0 : cX0_dump.data.toList.drop 0 = dktX0_dump_0 := by decide +kernel
theorem dksX0_dump_1 : cX0_dump.data.toList.drop 22 = dktX0_dump_1 := dk_seg dksX0_dump_0 22 rfl rfl
theorem dksX0_dump_2 : cX0_dump.data.toList.drop 45 = dktX0_dump_2 := dk_seg dksX0_dump_1 23 rfl rfl
theorem dX0_dump_0 : decode cX0_dump 0 = .ok (.aload_n 0, 1) := dk_42 (dk_at dksX0_dump_0 0 rfl rfl)
theorem dX0_dump_1 : decode cX0_dump 1 = .ok (.aload_n 0, 1) := dk_42 (dk_at dksX0_dump_0 1 rfl rfl)
theorem dX0_dump_2 : decode cX0_dump 2 = .ok (.iload_n 1, 1) := dk_27 (dk_at dksX0_dump_0 2 rfl rfl)
theorem dX0_dump_3 : decode cX0_dump 3 = .ok (.iload_n 2, 1) := dk_28 (dk_at dksX0_dump_0 3 rfl rfl)
theorem dX0_dump_4 : decode cX0_dump 4 = .ok (.iload_n 3, 1) := dk_29 (dk_at dksX0_dump_0 4 rfl rfl)
theorem dX0_dump_5 : decode cX0_dump 5 = .ok (.invokevirtual 384, 3) := dk_182 1 128 (dk_at dksX0_dump_0 5 rfl rfl)
theorem dX0_dump_8 : decode cX0_dump 8 = .ok (.ifCond .ne 7, 3) := dk_154 0 7 (dk_at dksX0_dump_0 8 rfl rfl)
theorem dX0_dump_11 : decode cX0_dump 11 = .ok (.iconst 1, 1) := dk_4 (dk_at dksX0_dump_0 11 rfl rfl)
theorem dX0_dump_12 : decode cX0_dump 12 = .ok (.goto 22, 3) := dk_167 0 22 (dk_at dksX0_dump_0 12 rfl rfl)
theorem dX0_dump_15 : decode cX0_dump 15 = .ok (.aload_n 0, 1) := dk_42 (dk_at dksX0_dump_0 15 rfl rfl)
theorem dX0_dump_16 : decode cX0_dump 16 = .ok (.invokevirtual 162, 3) := dk_182 0 162 (dk_at dksX0_dump_0 16 rfl rfl)
theorem dX0_dump_19 : decode cX0_dump 19 = .ok (.iload_n 1, 1) := dk_27 (dk_at dksX0_dump_0 19 rfl rfl)
theorem dX0_dump_20 : decode cX0_dump 20 = .ok (.iload_n 2, 1) := dk_28 (dk_at dksX0_dump_0 20 rfl rfl)
theorem dX0_dump_21 : decode cX0_dump 21 = .ok (.iload_n 3, 1) := dk_29 (dk_at dksX0_dump_0 21 rfl rfl)
theorem dX0_dump_22 : decode cX0_dump 22 = .ok (.invokevirtual 394, 3) := dk_182 1 138 (dk_at dksX0_dump_1 0 rfl rfl)
theorem dX0_dump_25 : decode cX0_dump 25 = .ok (.ifCond .eq 7, 3) := dk_153 0 7 (dk_at dksX0_dump_1 3 rfl rfl)
theorem dX0_dump_28 : decode cX0_dump 28 = .ok (.iconst 0, 1) := dk_3 (dk_at dksX0_dump_1 6 rfl rfl)
theorem dX0_dump_29 : decode cX0_dump 29 = .ok (.goto 5, 3) := dk_167 0 5 (dk_at dksX0_dump_1 7 rfl rfl)
theorem dX0_dump_32 : decode cX0_dump 32 = .ok (.bipush 7, 2) := dk_16 7 (dk_at dksX0_dump_1 10 rfl rfl)
theorem dX0_dump_34 : decode cX0_dump 34 = .ok (.putfield 85, 3) := dk_181 0 85 (dk_at dksX0_dump_1 12 rfl rfl)
theorem dX0_dump_37 : decode cX0_dump 37 = .ok (.aload_n 0, 1) := dk_42 (dk_at dksX0_dump_1 15 rfl rfl)
theorem dX0_dump_38 : decode cX0_dump 38 = .ok (.getfield 85, 3) := dk_180 0 85 (dk_at dksX0_dump_1 16 rfl rfl)
theorem dX0_dump_41 : decode cX0_dump 41 = .ok (.ifCond .le 7, 3) := dk_158 0 7 (dk_at dksX0_dump_1 19 rfl rfl)
theorem dX0_dump_44 : decode cX0_dump 44 = .ok (.iconst (-1), 1) := dk_2 (dk_at dksX0_dump_1 22 rfl rfl)
theorem dX0_dump_45 : decode cX0_dump 45 = .ok (.goto 17, 3) := dk_167 0 17 (dk_at dksX0_dump_2 0 rfl rfl)
theorem dX0_dump_48 : decode cX0_dump 48 = .ok (.aload_n 0, 1) := dk_42 (dk_at dksX0_dump_2 3 rfl rfl)
theorem dX0_dump_49 : decode cX0_dump 49 = .ok (.invokevirtual 162, 3) := dk_182 0 162 (dk_at dksX0_dump_2 4 rfl rfl)
theorem dX0_dump_52 : decode cX0_dump 52 = .ok (.getfield 356, 3) := dk_180 1 100 (dk_at dksX0_dump_2 7 rfl rfl)
theorem dX0_dump_55 : decode cX0_dump 55 = .ok (.bipush 8, 2) := dk_16 8 (dk_at dksX0_dump_2 10 rfl rfl)
theorem dX0_dump_57 : decode cX0_dump 57 = .ok (.iload_n 1, 1) := dk_27 (dk_at dksX0_dump_2 12 rfl rfl)
theorem dX0_dump_58 : decode cX0_dump 58 = .ok (.imul, 1) := dk_104 (dk_at dksX0_dump_2 13 rfl rfl)
theorem dX0_dump_59 : decode cX0_dump 59 = .ok (.iload_n 2, 1) := dk_28 (dk_at dksX0_dump_2 14 rfl rfl)
theorem dX0_dump_60 : decode cX0_dump 60 = .ok (.iadd, 1) := dk_96 (dk_at dksX0_dump_2 15 rfl rfl)
theorem dX0_dump_61 : decode cX0_dump 61 = .ok (.iaload, 1) := dk_46 (dk_at dksX0_dump_2 16 rfl rfl)
theorem dX0_dump_62 : decode cX0_dump 62 = .ok (.ireturn, 1) := dk_172 (dk_at dksX0_dump_2 17 rfl rfl)
abbrev cX0_sail : ByteArray := prog_1_method_63_code
def yX0_sail : MethodName := ⟨RX0, "sail", "(II)I"⟩
def dkwX0_sail_2 : List UInt8 := [158, 0, 7, 2, 167, 0, 12, 42, 182, 0, 162, 180, 1, 79, 27, 46, 172]
abbrev dktX0_sail_2 : List UInt8 := dkwX0_sail_2 ++ []
def dkwX0_sail_1 : List UInt8 := [182, 0, 162, 27, 28, 182, 1, 141, 153, 0, 7, 3, 167, 0, 5, 16, 7, 181, 0, 85, 42, 180, 0, 85]
abbrev dktX0_sail_1 : List UInt8 := dkwX0_sail_1 ++ dktX0_sail_2
def dkwX0_sail_0 : List UInt8 := [42, 42, 27, 182, 0, 186, 153, 0, 11, 42, 28, 182, 0, 190, 154, 0, 7, 4, 167, 0, 21, 42]
abbrev dktX0_sail_0 : List UInt8 := dkwX0_sail_0 ++ dktX0_sail_1
theorem dksX0_sail_0 : cX0_sail.data.toList.drop 0 = dktX0_sail_0 := by decide +kernel
theorem dksX0_sail_1 : cX0_sail.data.toList.drop 22 = dktX0_sail_1 := dk_seg dksX0_sail_0 22 rfl rfl
theorem dksX0_sail_2 : cX0_sail.data.toList.drop 46 = dktX0_sail_2 := dk_seg dksX0_sail_1 24 rfl rfl
theorem dX0_sail_0 : decode cX0_sail 0 = .ok (.aload_n 0, 1) := dk_42 (dk_at dksX0_sail_0 0 rfl rfl)
theorem dX0_sail_1 : decode cX0_sail 1 = .ok (.aload_n 0, 1) := dk_42 (dk_at dksX0_sail_0 1 rfl rfl)
theorem dX0_sail_2 : decode cX0_sail 2 = .ok (.iload_n 1, 1) := dk_27 (dk_at dksX0_sail_0 2 rfl rfl)
theorem dX0_sail_3 : decode cX0_sail 3 = .ok (.invokevirtual 186, 3) := dk_182 0 186 (dk_at dksX0_sail_0 3 rfl rfl)
theorem dX0_sail_6 : decode cX0_sail 6 = .ok (.ifCond .eq 11, 3) := dk_153 0 11 (dk_at dksX0_sail_0 6 rfl rfl)
theorem dX0_sail_9 : decode cX0_sail 9 = .ok (.aload_n 0, 1) := dk_42 (dk_at dksX0_sail_0 9 rfl rfl)
theorem dX0_sail_10 : decode cX0_sail 10 = .ok (.iload_n 2, 1) := dk_28 (dk_at dksX0_sail_0 10 rfl rfl)
theorem dX0_sail_11 : decode cX0_sail 11 = .ok (.invokevirtual 190, 3) := dk_182 0 190 (dk_at dksX0_sail_0 11 rfl rfl)
theorem dX0_sail_14 : decode cX0_sail 14 = .ok (.ifCond .ne 7, 3) := dk_154 0 7 (dk_at dksX0_sail_0 14 rfl rfl)
theorem dX0_sail_17 : decode cX0_sail 17 = .ok (.iconst 1, 1) := dk_4 (dk_at dksX0_sail_0 17 rfl rfl)
theorem dX0_sail_18 : decode cX0_sail 18 = .ok (.goto 21, 3) := dk_167 0 21 (dk_at dksX0_sail_0 18 rfl rfl)
theorem dX0_sail_21 : decode cX0_sail 21 = .ok (.aload_n 0, 1) := dk_42 (dk_at dksX0_sail_0 21 rfl rfl)
theorem dX0_sail_22 : decode cX0_sail 22 = .ok (.invokevirtual 162, 3) := dk_182 0 162 (dk_at dksX0_sail_1 0 rfl rfl)
theorem dX0_sail_25 : decode cX0_sail 25 = .ok (.iload_n 1, 1) := dk_27 (dk_at dksX0_sail_1 3 rfl rfl)
theorem dX0_sail_26 : decode cX0_sail 26 = .ok (.iload_n 2, 1) := dk_28 (dk_at dksX0_sail_1 4 rfl rfl)
theorem dX0_sail_27 : decode cX0_sail 27 = .ok (.invokevirtual 397, 3) := dk_182 1 141 (dk_at dksX0_sail_1 5 rfl rfl)
theorem dX0_sail_30 : decode cX0_sail 30 = .ok (.ifCond .eq 7, 3) := dk_153 0 7 (dk_at dksX0_sail_1 8 rfl rfl)
theorem dX0_sail_33 : decode cX0_sail 33 = .ok (.iconst 0, 1) := dk_3 (dk_at dksX0_sail_1 11 rfl rfl)
theorem dX0_sail_34 : decode cX0_sail 34 = .ok (.goto 5, 3) := dk_167 0 5 (dk_at dksX0_sail_1 12 rfl rfl)
theorem dX0_sail_37 : decode cX0_sail 37 = .ok (.bipush 7, 2) := dk_16 7 (dk_at dksX0_sail_1 15 rfl rfl)
theorem dX0_sail_39 : decode cX0_sail 39 = .ok (.putfield 85, 3) := dk_181 0 85 (dk_at dksX0_sail_1 17 rfl rfl)
theorem dX0_sail_42 : decode cX0_sail 42 = .ok (.aload_n 0, 1) := dk_42 (dk_at dksX0_sail_1 20 rfl rfl)
theorem dX0_sail_43 : decode cX0_sail 43 = .ok (.getfield 85, 3) := dk_180 0 85 (dk_at dksX0_sail_1 21 rfl rfl)
theorem dX0_sail_46 : decode cX0_sail 46 = .ok (.ifCond .le 7, 3) := dk_158 0 7 (dk_at dksX0_sail_2 0 rfl rfl)
theorem dX0_sail_49 : decode cX0_sail 49 = .ok (.iconst (-1), 1) := dk_2 (dk_at dksX0_sail_2 3 rfl rfl)
theorem dX0_sail_50 : decode cX0_sail 50 = .ok (.goto 12, 3) := dk_167 0 12 (dk_at dksX0_sail_2 4 rfl rfl)
theorem dX0_sail_53 : decode cX0_sail 53 = .ok (.aload_n 0, 1) := dk_42 (dk_at dksX0_sail_2 7 rfl rfl)
theorem dX0_sail_54 : decode cX0_sail 54 = .ok (.invokevirtual 162, 3) := dk_182 0 162 (dk_at dksX0_sail_2 8 rfl rfl)
theorem dX0_sail_57 : decode cX0_sail 57 = .ok (.getfield 335, 3) := dk_180 1 79 (dk_at dksX0_sail_2 11 rfl rfl)
theorem dX0_sail_60 : decode cX0_sail 60 = .ok (.iload_n 1, 1) := dk_27 (dk_at dksX0_sail_2 14 rfl rfl)
theorem dX0_sail_61 : decode cX0_sail 61 = .ok (.iaload, 1) := dk_46 (dk_at dksX0_sail_2 15 rfl rfl)
theorem dX0_sail_62 : decode cX0_sail 62 = .ok (.ireturn, 1) := dk_172 (dk_at dksX0_sail_2 16 rfl rfl)
abbrev cX0_day : ByteArray := prog_1_method_64_code
def yX0_day : MethodName := ⟨RX0, "day", "(I)I"⟩
def dkwX0_day_3 : List UInt8 := [167, 255, 238, 28, 172]
abbrev dktX0_day_3 : List UInt8 := dkwX0_day_3 ++ []
def dkwX0_day_2 : List UInt8 := [172, 3, 61, 3, 62, 29, 27, 162, 0, 19, 28, 42, 182, 0, 162, 182, 1, 144, 128, 61, 132, 3, 1]
abbrev dktX0_day_2 : List UInt8 := dkwX0_day_2 ++ dktX0_day_3
def dkwX0_day_1 : List UInt8 := [27, 96, 17, 39, 15, 164, 0, 7, 7, 167, 0, 4, 3, 181, 0, 85, 42, 180, 0, 85, 158, 0, 5, 2]
abbrev dktX0_day_1 : List UInt8 := dkwX0_day_1 ++ dktX0_day_2
def dkwX0_day_0 : List UInt8 := [42, 27, 133, 10, 20, 0, 184, 184, 0, 169, 154, 0, 7, 4, 167, 0, 23, 42, 182, 0, 162, 180, 1, 3]
abbrev dktX0_day_0 : List UInt8 := dkwX0_day_0 ++ dktX0_day_1
theorem dksX0_day_0 : cX0_day.data.toList.drop 0 = dktX0_day_0 := by decide +kernel
theorem dksX0_day_1 : cX0_day.data.toList.drop 24 = dktX0_day_1 := dk_seg dksX0_day_0 24 rfl rfl
theorem dksX0_day_2 : cX0_day.data.toList.drop 48 = dktX0_day_2 := dk_seg dksX0_day_1 24 rfl rfl
theorem dksX0_day_3 : cX0_day.data.toList.drop 71 = dktX0_day_3 := dk_seg dksX0_day_2 23 rfl rfl
theorem dX0_day_0 : decode cX0_day 0 = .ok (.aload_n 0, 1) := dk_42 (dk_at dksX0_day_0 0 rfl rfl)
theorem dX0_day_1 : decode cX0_day 1 = .ok (.iload_n 1, 1) := dk_27 (dk_at dksX0_day_0 1 rfl rfl)
theorem dX0_day_2 : decode cX0_day 2 = .ok (.i2l, 1) := dk_133 (dk_at dksX0_day_0 2 rfl rfl)
theorem dX0_day_3 : decode cX0_day 3 = .ok (.lconst 1, 1) := dk_10 (dk_at dksX0_day_0 3 rfl rfl)
theorem dX0_day_4 : decode cX0_day 4 = .ok (.ldc2_w 184, 3) := dk_20 0 184 (dk_at dksX0_day_0 4 rfl rfl)
theorem dX0_day_7 : decode cX0_day 7 = .ok (.invokestatic 169, 3) := dk_184 0 169 (dk_at dksX0_day_0 7 rfl rfl)
theorem dX0_day_10 : decode cX0_day 10 = .ok (.ifCond .ne 7, 3) := dk_154 0 7 (dk_at dksX0_day_0 10 rfl rfl)
theorem dX0_day_13 : decode cX0_day 13 = .ok (.iconst 1, 1) := dk_4 (dk_at dksX0_day_0 13 rfl rfl)
theorem dX0_day_14 : decode cX0_day 14 = .ok (.goto 23, 3) := dk_167 0 23 (dk_at dksX0_day_0 14 rfl rfl)
theorem dX0_day_17 : decode cX0_day 17 = .ok (.aload_n 0, 1) := dk_42 (dk_at dksX0_day_0 17 rfl rfl)
theorem dX0_day_18 : decode cX0_day 18 = .ok (.invokevirtual 162, 3) := dk_182 0 162 (dk_at dksX0_day_0 18 rfl rfl)
theorem dX0_day_21 : decode cX0_day 21 = .ok (.getfield 259, 3) := dk_180 1 3 (dk_at dksX0_day_0 21 rfl rfl)
theorem dX0_day_24 : decode cX0_day 24 = .ok (.iload_n 1, 1) := dk_27 (dk_at dksX0_day_1 0 rfl rfl)
theorem dX0_day_25 : decode cX0_day 25 = .ok (.iadd, 1) := dk_96 (dk_at dksX0_day_1 1 rfl rfl)
theorem dX0_day_26 : decode cX0_day 26 = .ok (.sipush 9999, 3) := dk_17 39 15 (dk_at dksX0_day_1 2 rfl rfl)
theorem dX0_day_29 : decode cX0_day 29 = .ok (.if_icmp .le 7, 3) := dk_164 0 7 (dk_at dksX0_day_1 5 rfl rfl)
theorem dX0_day_32 : decode cX0_day 32 = .ok (.iconst 4, 1) := dk_7 (dk_at dksX0_day_1 8 rfl rfl)
theorem dX0_day_33 : decode cX0_day 33 = .ok (.goto 4, 3) := dk_167 0 4 (dk_at dksX0_day_1 9 rfl rfl)
theorem dX0_day_36 : decode cX0_day 36 = .ok (.iconst 0, 1) := dk_3 (dk_at dksX0_day_1 12 rfl rfl)
theorem dX0_day_37 : decode cX0_day 37 = .ok (.putfield 85, 3) := dk_181 0 85 (dk_at dksX0_day_1 13 rfl rfl)
theorem dX0_day_40 : decode cX0_day 40 = .ok (.aload_n 0, 1) := dk_42 (dk_at dksX0_day_1 16 rfl rfl)
theorem dX0_day_41 : decode cX0_day 41 = .ok (.getfield 85, 3) := dk_180 0 85 (dk_at dksX0_day_1 17 rfl rfl)
theorem dX0_day_44 : decode cX0_day 44 = .ok (.ifCond .le 5, 3) := dk_158 0 5 (dk_at dksX0_day_1 20 rfl rfl)
theorem dX0_day_47 : decode cX0_day 47 = .ok (.iconst (-1), 1) := dk_2 (dk_at dksX0_day_1 23 rfl rfl)
theorem dX0_day_48 : decode cX0_day 48 = .ok (.ireturn, 1) := dk_172 (dk_at dksX0_day_2 0 rfl rfl)
theorem dX0_day_49 : decode cX0_day 49 = .ok (.iconst 0, 1) := dk_3 (dk_at dksX0_day_2 1 rfl rfl)
theorem dX0_day_50 : decode cX0_day 50 = .ok (.istore_n 2, 1) := dk_61 (dk_at dksX0_day_2 2 rfl rfl)
theorem dX0_day_51 : decode cX0_day 51 = .ok (.iconst 0, 1) := dk_3 (dk_at dksX0_day_2 3 rfl rfl)
theorem dX0_day_52 : decode cX0_day 52 = .ok (.istore_n 3, 1) := dk_62 (dk_at dksX0_day_2 4 rfl rfl)
theorem dX0_day_53 : decode cX0_day 53 = .ok (.iload_n 3, 1) := dk_29 (dk_at dksX0_day_2 5 rfl rfl)
theorem dX0_day_54 : decode cX0_day 54 = .ok (.iload_n 1, 1) := dk_27 (dk_at dksX0_day_2 6 rfl rfl)
theorem dX0_day_55 : decode cX0_day 55 = .ok (.if_icmp .ge 19, 3) := dk_162 0 19 (dk_at dksX0_day_2 7 rfl rfl)
theorem dX0_day_58 : decode cX0_day 58 = .ok (.iload_n 2, 1) := dk_28 (dk_at dksX0_day_2 10 rfl rfl)
theorem dX0_day_59 : decode cX0_day 59 = .ok (.aload_n 0, 1) := dk_42 (dk_at dksX0_day_2 11 rfl rfl)
theorem dX0_day_60 : decode cX0_day 60 = .ok (.invokevirtual 162, 3) := dk_182 0 162 (dk_at dksX0_day_2 12 rfl rfl)
theorem dX0_day_63 : decode cX0_day 63 = .ok (.invokevirtual 400, 3) := dk_182 1 144 (dk_at dksX0_day_2 15 rfl rfl)
theorem dX0_day_66 : decode cX0_day 66 = .ok (.ior, 1) := dk_128 (dk_at dksX0_day_2 18 rfl rfl)
theorem dX0_day_67 : decode cX0_day 67 = .ok (.istore_n 2, 1) := dk_61 (dk_at dksX0_day_2 19 rfl rfl)
theorem dX0_day_68 : decode cX0_day 68 = .ok (.iinc 3 1, 3) := dk_132 3 1 (dk_at dksX0_day_2 20 rfl rfl)
theorem dX0_day_71 : decode cX0_day 71 = .ok (.goto (-18), 3) := dk_167 255 238 (dk_at dksX0_day_3 0 rfl rfl)
theorem dX0_day_74 : decode cX0_day 74 = .ok (.iload_n 2, 1) := dk_28 (dk_at dksX0_day_3 3 rfl rfl)
theorem dX0_day_75 : decode cX0_day 75 = .ok (.ireturn, 1) := dk_172 (dk_at dksX0_day_3 4 rfl rfl)
abbrev cX0_pass : ByteArray := prog_1_method_65_code
def yX0_pass : MethodName := ⟨RX0, "pass", "(IIII)Z"⟩
def dkwX0_pass_7 : List UInt8 := [167, 0, 4, 3, 172]
abbrev dktX0_pass_7 : List UInt8 := dkwX0_pass_7 ++ []
def dkwX0_pass_6 : List UInt8 := [180, 1, 100, 16, 8, 28, 104, 29, 96, 92, 46, 21, 4, 96, 79, 42, 180, 0, 85, 154, 0, 7, 4]
abbrev dktX0_pass_6 : List UInt8 := dkwX0_pass_6 ++ dktX0_pass_7
def dkwX0_pass_5 : List UInt8 := [153, 0, 7, 3, 167, 0, 5, 16, 7, 181, 0, 85, 42, 180, 0, 85, 154, 0, 22, 42, 182, 0, 162]
abbrev dktX0_pass_5 : List UInt8 := dkwX0_pass_5 ++ dktX0_pass_6
def dkwX0_pass_4 : List UInt8 := [4, 167, 0, 4, 3, 54, 5, 42, 21, 5, 153, 0, 21, 42, 182, 0, 162, 27, 29, 21, 4, 182, 1, 138]
abbrev dktX0_pass_4 : List UInt8 := dkwX0_pass_4 ++ dktX0_pass_5
def dkwX0_pass_3 : List UInt8 := [182, 0, 162, 180, 1, 74, 28, 46, 160, 0, 20, 21, 4, 42, 182, 0, 162, 28, 182, 1, 147, 163, 0, 7]
abbrev dktX0_pass_3 : List UInt8 := dkwX0_pass_3 ++ dktX0_pass_4
def dkwX0_pass_2 : List UInt8 := [154, 0, 52, 42, 182, 0, 162, 28, 182, 0, 244, 154, 0, 41, 42, 182, 0, 162, 180, 1, 74, 27, 46, 42]
abbrev dktX0_pass_2 : List UInt8 := dkwX0_pass_2 ++ dktX0_pass_3
def dkwX0_pass_1 : List UInt8 := [167, 0, 4, 4, 181, 0, 85, 42, 180, 0, 85, 158, 0, 5, 3, 172, 42, 182, 0, 162, 27, 182, 0, 244]
abbrev dktX0_pass_1 : List UInt8 := dkwX0_pass_1 ++ dktX0_pass_2
def dkwX0_pass_0 : List UInt8 := [42, 42, 27, 28, 182, 1, 122, 153, 0, 18, 42, 27, 29, 21, 4, 182, 1, 128, 153, 0, 7, 3]
abbrev dktX0_pass_0 : List UInt8 := dkwX0_pass_0 ++ dktX0_pass_1
theorem dksX0_pass_0 : cX0_pass.data.toList.drop 0 = dktX0_pass_0 := by decide +kernel
theorem dksX0_pass_1 : cX0_pass.data.toList.drop 22 = dktX0_pass_1 := dk_seg dksX0_pass_0 22 rfl rfl
theorem dksX0_pass_2 : cX0_pass.data.toList.drop 46 = dktX0_pass_2 := dk_seg dksX0_pass_1 24 rfl rfl
theorem dksX0_pass_3 : cX0_pass.data.toList.drop 70 = dktX0_pass_3 := dk_seg dksX0_pass_2 24 rfl rfl
theorem dksX0_pass_4 : cX0_pass.data.toList.drop 94 = dktX0_pass_4 := dk_seg dksX0_pass_3 24 rfl rfl
theorem dksX0_pass_5 : cX0_pass.data.toList.drop 118 = dktX0_pass_5 := dk_seg dksX0_pass_4 24 rfl rfl
theorem dksX0_pass_6 : cX0_pass.data.toList.drop 141 = dktX0_pass_6 := dk_seg dksX0_pass_5 23 rfl rfl
theorem dksX0_pass_7 : cX0_pass.data.toList.drop 164 = dktX0_pass_7 := dk_seg dksX0_pass_6 23 rfl rfl
theorem dX0_pass_0 : decode cX0_pass 0 = .ok (.aload_n 0, 1) := dk_42 (dk_at dksX0_pass_0 0 rfl rfl)
theorem dX0_pass_1 : decode cX0_pass 1 = .ok (.aload_n 0, 1) := dk_42 (dk_at dksX0_pass_0 1 rfl rfl)
theorem dX0_pass_2 : decode cX0_pass 2 = .ok (.iload_n 1, 1) := dk_27 (dk_at dksX0_pass_0 2 rfl rfl)
theorem dX0_pass_3 : decode cX0_pass 3 = .ok (.iload_n 2, 1) := dk_28 (dk_at dksX0_pass_0 3 rfl rfl)
theorem dX0_pass_4 : decode cX0_pass 4 = .ok (.invokevirtual 378, 3) := dk_182 1 122 (dk_at dksX0_pass_0 4 rfl rfl)
theorem dX0_pass_7 : decode cX0_pass 7 = .ok (.ifCond .eq 18, 3) := dk_153 0 18 (dk_at dksX0_pass_0 7 rfl rfl)
theorem dX0_pass_10 : decode cX0_pass 10 = .ok (.aload_n 0, 1) := dk_42 (dk_at dksX0_pass_0 10 rfl rfl)
theorem dX0_pass_11 : decode cX0_pass 11 = .ok (.iload_n 1, 1) := dk_27 (dk_at dksX0_pass_0 11 rfl rfl)
theorem dX0_pass_12 : decode cX0_pass 12 = .ok (.iload_n 3, 1) := dk_29 (dk_at dksX0_pass_0 12 rfl rfl)
theorem dX0_pass_13 : decode cX0_pass 13 = .ok (.iload 4, 2) := dk_21 4 (dk_at dksX0_pass_0 13 rfl rfl)
theorem dX0_pass_15 : decode cX0_pass 15 = .ok (.invokevirtual 384, 3) := dk_182 1 128 (dk_at dksX0_pass_0 15 rfl rfl)
theorem dX0_pass_18 : decode cX0_pass 18 = .ok (.ifCond .eq 7, 3) := dk_153 0 7 (dk_at dksX0_pass_0 18 rfl rfl)
theorem dX0_pass_21 : decode cX0_pass 21 = .ok (.iconst 0, 1) := dk_3 (dk_at dksX0_pass_0 21 rfl rfl)
theorem dX0_pass_22 : decode cX0_pass 22 = .ok (.goto 4, 3) := dk_167 0 4 (dk_at dksX0_pass_1 0 rfl rfl)
theorem dX0_pass_25 : decode cX0_pass 25 = .ok (.iconst 1, 1) := dk_4 (dk_at dksX0_pass_1 3 rfl rfl)
theorem dX0_pass_26 : decode cX0_pass 26 = .ok (.putfield 85, 3) := dk_181 0 85 (dk_at dksX0_pass_1 4 rfl rfl)
theorem dX0_pass_29 : decode cX0_pass 29 = .ok (.aload_n 0, 1) := dk_42 (dk_at dksX0_pass_1 7 rfl rfl)
theorem dX0_pass_30 : decode cX0_pass 30 = .ok (.getfield 85, 3) := dk_180 0 85 (dk_at dksX0_pass_1 8 rfl rfl)
theorem dX0_pass_33 : decode cX0_pass 33 = .ok (.ifCond .le 5, 3) := dk_158 0 5 (dk_at dksX0_pass_1 11 rfl rfl)
theorem dX0_pass_36 : decode cX0_pass 36 = .ok (.iconst 0, 1) := dk_3 (dk_at dksX0_pass_1 14 rfl rfl)
theorem dX0_pass_37 : decode cX0_pass 37 = .ok (.ireturn, 1) := dk_172 (dk_at dksX0_pass_1 15 rfl rfl)
theorem dX0_pass_38 : decode cX0_pass 38 = .ok (.aload_n 0, 1) := dk_42 (dk_at dksX0_pass_1 16 rfl rfl)
theorem dX0_pass_39 : decode cX0_pass 39 = .ok (.invokevirtual 162, 3) := dk_182 0 162 (dk_at dksX0_pass_1 17 rfl rfl)
theorem dX0_pass_42 : decode cX0_pass 42 = .ok (.iload_n 1, 1) := dk_27 (dk_at dksX0_pass_1 20 rfl rfl)
theorem dX0_pass_43 : decode cX0_pass 43 = .ok (.invokevirtual 244, 3) := dk_182 0 244 (dk_at dksX0_pass_1 21 rfl rfl)
theorem dX0_pass_46 : decode cX0_pass 46 = .ok (.ifCond .ne 52, 3) := dk_154 0 52 (dk_at dksX0_pass_2 0 rfl rfl)
theorem dX0_pass_49 : decode cX0_pass 49 = .ok (.aload_n 0, 1) := dk_42 (dk_at dksX0_pass_2 3 rfl rfl)
theorem dX0_pass_50 : decode cX0_pass 50 = .ok (.invokevirtual 162, 3) := dk_182 0 162 (dk_at dksX0_pass_2 4 rfl rfl)
theorem dX0_pass_53 : decode cX0_pass 53 = .ok (.iload_n 2, 1) := dk_28 (dk_at dksX0_pass_2 7 rfl rfl)
theorem dX0_pass_54 : decode cX0_pass 54 = .ok (.invokevirtual 244, 3) := dk_182 0 244 (dk_at dksX0_pass_2 8 rfl rfl)
theorem dX0_pass_57 : decode cX0_pass 57 = .ok (.ifCond .ne 41, 3) := dk_154 0 41 (dk_at dksX0_pass_2 11 rfl rfl)
theorem dX0_pass_60 : decode cX0_pass 60 = .ok (.aload_n 0, 1) := dk_42 (dk_at dksX0_pass_2 14 rfl rfl)
theorem dX0_pass_61 : decode cX0_pass 61 = .ok (.invokevirtual 162, 3) := dk_182 0 162 (dk_at dksX0_pass_2 15 rfl rfl)
theorem dX0_pass_64 : decode cX0_pass 64 = .ok (.getfield 330, 3) := dk_180 1 74 (dk_at dksX0_pass_2 18 rfl rfl)
theorem dX0_pass_67 : decode cX0_pass 67 = .ok (.iload_n 1, 1) := dk_27 (dk_at dksX0_pass_2 21 rfl rfl)
theorem dX0_pass_68 : decode cX0_pass 68 = .ok (.iaload, 1) := dk_46 (dk_at dksX0_pass_2 22 rfl rfl)
theorem dX0_pass_69 : decode cX0_pass 69 = .ok (.aload_n 0, 1) := dk_42 (dk_at dksX0_pass_2 23 rfl rfl)
theorem dX0_pass_70 : decode cX0_pass 70 = .ok (.invokevirtual 162, 3) := dk_182 0 162 (dk_at dksX0_pass_3 0 rfl rfl)
theorem dX0_pass_73 : decode cX0_pass 73 = .ok (.getfield 330, 3) := dk_180 1 74 (dk_at dksX0_pass_3 3 rfl rfl)
theorem dX0_pass_76 : decode cX0_pass 76 = .ok (.iload_n 2, 1) := dk_28 (dk_at dksX0_pass_3 6 rfl rfl)
theorem dX0_pass_77 : decode cX0_pass 77 = .ok (.iaload, 1) := dk_46 (dk_at dksX0_pass_3 7 rfl rfl)
theorem dX0_pass_78 : decode cX0_pass 78 = .ok (.if_icmp .ne 20, 3) := dk_160 0 20 (dk_at dksX0_pass_3 8 rfl rfl)
theorem dX0_pass_81 : decode cX0_pass 81 = .ok (.iload 4, 2) := dk_21 4 (dk_at dksX0_pass_3 11 rfl rfl)
theorem dX0_pass_83 : decode cX0_pass 83 = .ok (.aload_n 0, 1) := dk_42 (dk_at dksX0_pass_3 13 rfl rfl)
theorem dX0_pass_84 : decode cX0_pass 84 = .ok (.invokevirtual 162, 3) := dk_182 0 162 (dk_at dksX0_pass_3 14 rfl rfl)
theorem dX0_pass_87 : decode cX0_pass 87 = .ok (.iload_n 2, 1) := dk_28 (dk_at dksX0_pass_3 17 rfl rfl)
theorem dX0_pass_88 : decode cX0_pass 88 = .ok (.invokevirtual 403, 3) := dk_182 1 147 (dk_at dksX0_pass_3 18 rfl rfl)
theorem dX0_pass_91 : decode cX0_pass 91 = .ok (.if_icmp .gt 7, 3) := dk_163 0 7 (dk_at dksX0_pass_3 21 rfl rfl)
theorem dX0_pass_94 : decode cX0_pass 94 = .ok (.iconst 1, 1) := dk_4 (dk_at dksX0_pass_4 0 rfl rfl)
theorem dX0_pass_95 : decode cX0_pass 95 = .ok (.goto 4, 3) := dk_167 0 4 (dk_at dksX0_pass_4 1 rfl rfl)
theorem dX0_pass_98 : decode cX0_pass 98 = .ok (.iconst 0, 1) := dk_3 (dk_at dksX0_pass_4 4 rfl rfl)
theorem dX0_pass_99 : decode cX0_pass 99 = .ok (.istore 5, 2) := dk_54 5 (dk_at dksX0_pass_4 5 rfl rfl)
theorem dX0_pass_101 : decode cX0_pass 101 = .ok (.aload_n 0, 1) := dk_42 (dk_at dksX0_pass_4 7 rfl rfl)
theorem dX0_pass_102 : decode cX0_pass 102 = .ok (.iload 5, 2) := dk_21 5 (dk_at dksX0_pass_4 8 rfl rfl)
theorem dX0_pass_104 : decode cX0_pass 104 = .ok (.ifCond .eq 21, 3) := dk_153 0 21 (dk_at dksX0_pass_4 10 rfl rfl)
theorem dX0_pass_107 : decode cX0_pass 107 = .ok (.aload_n 0, 1) := dk_42 (dk_at dksX0_pass_4 13 rfl rfl)
theorem dX0_pass_108 : decode cX0_pass 108 = .ok (.invokevirtual 162, 3) := dk_182 0 162 (dk_at dksX0_pass_4 14 rfl rfl)
theorem dX0_pass_111 : decode cX0_pass 111 = .ok (.iload_n 1, 1) := dk_27 (dk_at dksX0_pass_4 17 rfl rfl)
theorem dX0_pass_112 : decode cX0_pass 112 = .ok (.iload_n 3, 1) := dk_29 (dk_at dksX0_pass_4 18 rfl rfl)
theorem dX0_pass_113 : decode cX0_pass 113 = .ok (.iload 4, 2) := dk_21 4 (dk_at dksX0_pass_4 19 rfl rfl)
theorem dX0_pass_115 : decode cX0_pass 115 = .ok (.invokevirtual 394, 3) := dk_182 1 138 (dk_at dksX0_pass_4 21 rfl rfl)
theorem dX0_pass_118 : decode cX0_pass 118 = .ok (.ifCond .eq 7, 3) := dk_153 0 7 (dk_at dksX0_pass_5 0 rfl rfl)
theorem dX0_pass_121 : decode cX0_pass 121 = .ok (.iconst 0, 1) := dk_3 (dk_at dksX0_pass_5 3 rfl rfl)
theorem dX0_pass_122 : decode cX0_pass 122 = .ok (.goto 5, 3) := dk_167 0 5 (dk_at dksX0_pass_5 4 rfl rfl)
theorem dX0_pass_125 : decode cX0_pass 125 = .ok (.bipush 7, 2) := dk_16 7 (dk_at dksX0_pass_5 7 rfl rfl)
theorem dX0_pass_127 : decode cX0_pass 127 = .ok (.putfield 85, 3) := dk_181 0 85 (dk_at dksX0_pass_5 9 rfl rfl)
theorem dX0_pass_130 : decode cX0_pass 130 = .ok (.aload_n 0, 1) := dk_42 (dk_at dksX0_pass_5 12 rfl rfl)
theorem dX0_pass_131 : decode cX0_pass 131 = .ok (.getfield 85, 3) := dk_180 0 85 (dk_at dksX0_pass_5 13 rfl rfl)
theorem dX0_pass_134 : decode cX0_pass 134 = .ok (.ifCond .ne 22, 3) := dk_154 0 22 (dk_at dksX0_pass_5 16 rfl rfl)
theorem dX0_pass_137 : decode cX0_pass 137 = .ok (.aload_n 0, 1) := dk_42 (dk_at dksX0_pass_5 19 rfl rfl)
theorem dX0_pass_138 : decode cX0_pass 138 = .ok (.invokevirtual 162, 3) := dk_182 0 162 (dk_at dksX0_pass_5 20 rfl rfl)
theorem dX0_pass_141 : decode cX0_pass 141 = .ok (.getfield 356, 3) := dk_180 1 100 (dk_at dksX0_pass_6 0 rfl rfl)
theorem dX0_pass_144 : decode cX0_pass 144 = .ok (.bipush 8, 2) := dk_16 8 (dk_at dksX0_pass_6 3 rfl rfl)
theorem dX0_pass_146 : decode cX0_pass 146 = .ok (.iload_n 2, 1) := dk_28 (dk_at dksX0_pass_6 5 rfl rfl)
theorem dX0_pass_147 : decode cX0_pass 147 = .ok (.imul, 1) := dk_104 (dk_at dksX0_pass_6 6 rfl rfl)
theorem dX0_pass_148 : decode cX0_pass 148 = .ok (.iload_n 3, 1) := dk_29 (dk_at dksX0_pass_6 7 rfl rfl)
theorem dX0_pass_149 : decode cX0_pass 149 = .ok (.iadd, 1) := dk_96 (dk_at dksX0_pass_6 8 rfl rfl)
theorem dX0_pass_150 : decode cX0_pass 150 = .ok (.dup2, 1) := dk_92 (dk_at dksX0_pass_6 9 rfl rfl)
theorem dX0_pass_151 : decode cX0_pass 151 = .ok (.iaload, 1) := dk_46 (dk_at dksX0_pass_6 10 rfl rfl)
theorem dX0_pass_152 : decode cX0_pass 152 = .ok (.iload 4, 2) := dk_21 4 (dk_at dksX0_pass_6 11 rfl rfl)
theorem dX0_pass_154 : decode cX0_pass 154 = .ok (.iadd, 1) := dk_96 (dk_at dksX0_pass_6 13 rfl rfl)
theorem dX0_pass_155 : decode cX0_pass 155 = .ok (.iastore, 1) := dk_79 (dk_at dksX0_pass_6 14 rfl rfl)
theorem dX0_pass_156 : decode cX0_pass 156 = .ok (.aload_n 0, 1) := dk_42 (dk_at dksX0_pass_6 15 rfl rfl)
theorem dX0_pass_157 : decode cX0_pass 157 = .ok (.getfield 85, 3) := dk_180 0 85 (dk_at dksX0_pass_6 16 rfl rfl)
theorem dX0_pass_160 : decode cX0_pass 160 = .ok (.ifCond .ne 7, 3) := dk_154 0 7 (dk_at dksX0_pass_6 19 rfl rfl)
theorem dX0_pass_163 : decode cX0_pass 163 = .ok (.iconst 1, 1) := dk_4 (dk_at dksX0_pass_6 22 rfl rfl)
theorem dX0_pass_164 : decode cX0_pass 164 = .ok (.goto 4, 3) := dk_167 0 4 (dk_at dksX0_pass_7 0 rfl rfl)
theorem dX0_pass_167 : decode cX0_pass 167 = .ok (.iconst 0, 1) := dk_3 (dk_at dksX0_pass_7 3 rfl rfl)
theorem dX0_pass_168 : decode cX0_pass 168 = .ok (.ireturn, 1) := dk_172 (dk_at dksX0_pass_7 4 rfl rfl)
abbrev cX0_rule : ByteArray := prog_1_method_66_code
def yX0_rule : MethodName := ⟨RX0, "rule", "(I)Z"⟩
def dkwX0_rule_1 : List UInt8 := [182, 0, 162, 27, 181, 1, 0, 42, 180, 0, 85, 154, 0, 7, 4, 167, 0, 4, 3, 172]
abbrev dktX0_rule_1 : List UInt8 := dkwX0_rule_1 ++ []
def dkwX0_rule_0 : List UInt8 := [42, 27, 184, 1, 107, 153, 0, 7, 3, 167, 0, 4, 4, 181, 0, 85, 42, 180, 0, 85, 154, 0, 11, 42]
abbrev dktX0_rule_0 : List UInt8 := dkwX0_rule_0 ++ dktX0_rule_1
theorem dksX0_rule_0 : cX0_rule.data.toList.drop 0 = dktX0_rule_0 := by decide +kernel
theorem dksX0_rule_1 : cX0_rule.data.toList.drop 24 = dktX0_rule_1 := dk_seg dksX0_rule_0 24 rfl rfl
theorem dX0_rule_0 : decode cX0_rule 0 = .ok (.aload_n 0, 1) := dk_42 (dk_at dksX0_rule_0 0 rfl rfl)
theorem dX0_rule_1 : decode cX0_rule 1 = .ok (.iload_n 1, 1) := dk_27 (dk_at dksX0_rule_0 1 rfl rfl)
theorem dX0_rule_2 : decode cX0_rule 2 = .ok (.invokestatic 363, 3) := dk_184 1 107 (dk_at dksX0_rule_0 2 rfl rfl)
theorem dX0_rule_5 : decode cX0_rule 5 = .ok (.ifCond .eq 7, 3) := dk_153 0 7 (dk_at dksX0_rule_0 5 rfl rfl)
theorem dX0_rule_8 : decode cX0_rule 8 = .ok (.iconst 0, 1) := dk_3 (dk_at dksX0_rule_0 8 rfl rfl)
theorem dX0_rule_9 : decode cX0_rule 9 = .ok (.goto 4, 3) := dk_167 0 4 (dk_at dksX0_rule_0 9 rfl rfl)
theorem dX0_rule_12 : decode cX0_rule 12 = .ok (.iconst 1, 1) := dk_4 (dk_at dksX0_rule_0 12 rfl rfl)
theorem dX0_rule_13 : decode cX0_rule 13 = .ok (.putfield 85, 3) := dk_181 0 85 (dk_at dksX0_rule_0 13 rfl rfl)
theorem dX0_rule_16 : decode cX0_rule 16 = .ok (.aload_n 0, 1) := dk_42 (dk_at dksX0_rule_0 16 rfl rfl)
theorem dX0_rule_17 : decode cX0_rule 17 = .ok (.getfield 85, 3) := dk_180 0 85 (dk_at dksX0_rule_0 17 rfl rfl)
theorem dX0_rule_20 : decode cX0_rule 20 = .ok (.ifCond .ne 11, 3) := dk_154 0 11 (dk_at dksX0_rule_0 20 rfl rfl)
theorem dX0_rule_23 : decode cX0_rule 23 = .ok (.aload_n 0, 1) := dk_42 (dk_at dksX0_rule_0 23 rfl rfl)
theorem dX0_rule_24 : decode cX0_rule 24 = .ok (.invokevirtual 162, 3) := dk_182 0 162 (dk_at dksX0_rule_1 0 rfl rfl)
theorem dX0_rule_27 : decode cX0_rule 27 = .ok (.iload_n 1, 1) := dk_27 (dk_at dksX0_rule_1 3 rfl rfl)
theorem dX0_rule_28 : decode cX0_rule 28 = .ok (.putfield 256, 3) := dk_181 1 0 (dk_at dksX0_rule_1 4 rfl rfl)
theorem dX0_rule_31 : decode cX0_rule 31 = .ok (.aload_n 0, 1) := dk_42 (dk_at dksX0_rule_1 7 rfl rfl)
theorem dX0_rule_32 : decode cX0_rule 32 = .ok (.getfield 85, 3) := dk_180 0 85 (dk_at dksX0_rule_1 8 rfl rfl)
theorem dX0_rule_35 : decode cX0_rule 35 = .ok (.ifCond .ne 7, 3) := dk_154 0 7 (dk_at dksX0_rule_1 11 rfl rfl)
theorem dX0_rule_38 : decode cX0_rule 38 = .ok (.iconst 1, 1) := dk_4 (dk_at dksX0_rule_1 14 rfl rfl)
theorem dX0_rule_39 : decode cX0_rule 39 = .ok (.goto 4, 3) := dk_167 0 4 (dk_at dksX0_rule_1 15 rfl rfl)
theorem dX0_rule_42 : decode cX0_rule 42 = .ok (.iconst 0, 1) := dk_3 (dk_at dksX0_rule_1 18 rfl rfl)
theorem dX0_rule_43 : decode cX0_rule 43 = .ok (.ireturn, 1) := dk_172 (dk_at dksX0_rule_1 19 rfl rfl)
abbrev cX0_war : ByteArray := prog_1_method_67_code
def yX0_war : MethodName := ⟨RX0, "war", "(IIZ)Z"⟩
def dkwX0_war_3 : List UInt8 := [92, 46, 4, 28, 120, 130, 79, 42, 182, 0, 162, 180, 1, 36, 28, 92, 46, 4, 27, 120, 130, 79, 4, 172]
abbrev dktX0_war_3 : List UInt8 := dkwX0_war_3 ++ []
def dkwX0_war_2 : List UInt8 := [167, 0, 4, 3, 181, 0, 85, 42, 180, 0, 85, 158, 0, 5, 3, 172, 42, 182, 0, 162, 180, 1, 36, 27]
abbrev dktX0_war_2 : List UInt8 := dkwX0_war_2 ++ dktX0_war_3
def dkwX0_war_1 : List UInt8 := [167, 0, 26, 42, 182, 0, 162, 180, 1, 36, 27, 46, 28, 184, 1, 150, 29, 160, 0, 8, 16, 7]
abbrev dktX0_war_1 : List UInt8 := dkwX0_war_1 ++ dktX0_war_2
def dkwX0_war_0 : List UInt8 := [42, 42, 27, 182, 1, 16, 153, 0, 16, 42, 28, 182, 1, 16, 153, 0, 8, 27, 28, 160, 0, 7, 4]
abbrev dktX0_war_0 : List UInt8 := dkwX0_war_0 ++ dktX0_war_1
theorem dksX0_war_0 : cX0_war.data.toList.drop 0 = dktX0_war_0 := by decide +kernel
theorem dksX0_war_1 : cX0_war.data.toList.drop 23 = dktX0_war_1 := dk_seg dksX0_war_0 23 rfl rfl
theorem dksX0_war_2 : cX0_war.data.toList.drop 45 = dktX0_war_2 := dk_seg dksX0_war_1 22 rfl rfl
theorem dksX0_war_3 : cX0_war.data.toList.drop 69 = dktX0_war_3 := dk_seg dksX0_war_2 24 rfl rfl
theorem dX0_war_0 : decode cX0_war 0 = .ok (.aload_n 0, 1) := dk_42 (dk_at dksX0_war_0 0 rfl rfl)
theorem dX0_war_1 : decode cX0_war 1 = .ok (.aload_n 0, 1) := dk_42 (dk_at dksX0_war_0 1 rfl rfl)
theorem dX0_war_2 : decode cX0_war 2 = .ok (.iload_n 1, 1) := dk_27 (dk_at dksX0_war_0 2 rfl rfl)
theorem dX0_war_3 : decode cX0_war 3 = .ok (.invokevirtual 272, 3) := dk_182 1 16 (dk_at dksX0_war_0 3 rfl rfl)
theorem dX0_war_6 : decode cX0_war 6 = .ok (.ifCond .eq 16, 3) := dk_153 0 16 (dk_at dksX0_war_0 6 rfl rfl)
theorem dX0_war_9 : decode cX0_war 9 = .ok (.aload_n 0, 1) := dk_42 (dk_at dksX0_war_0 9 rfl rfl)
theorem dX0_war_10 : decode cX0_war 10 = .ok (.iload_n 2, 1) := dk_28 (dk_at dksX0_war_0 10 rfl rfl)
theorem dX0_war_11 : decode cX0_war 11 = .ok (.invokevirtual 272, 3) := dk_182 1 16 (dk_at dksX0_war_0 11 rfl rfl)
theorem dX0_war_14 : decode cX0_war 14 = .ok (.ifCond .eq 8, 3) := dk_153 0 8 (dk_at dksX0_war_0 14 rfl rfl)
theorem dX0_war_17 : decode cX0_war 17 = .ok (.iload_n 1, 1) := dk_27 (dk_at dksX0_war_0 17 rfl rfl)
theorem dX0_war_18 : decode cX0_war 18 = .ok (.iload_n 2, 1) := dk_28 (dk_at dksX0_war_0 18 rfl rfl)
theorem dX0_war_19 : decode cX0_war 19 = .ok (.if_icmp .ne 7, 3) := dk_160 0 7 (dk_at dksX0_war_0 19 rfl rfl)
theorem dX0_war_22 : decode cX0_war 22 = .ok (.iconst 1, 1) := dk_4 (dk_at dksX0_war_0 22 rfl rfl)
theorem dX0_war_23 : decode cX0_war 23 = .ok (.goto 26, 3) := dk_167 0 26 (dk_at dksX0_war_1 0 rfl rfl)
theorem dX0_war_26 : decode cX0_war 26 = .ok (.aload_n 0, 1) := dk_42 (dk_at dksX0_war_1 3 rfl rfl)
theorem dX0_war_27 : decode cX0_war 27 = .ok (.invokevirtual 162, 3) := dk_182 0 162 (dk_at dksX0_war_1 4 rfl rfl)
theorem dX0_war_30 : decode cX0_war 30 = .ok (.getfield 292, 3) := dk_180 1 36 (dk_at dksX0_war_1 7 rfl rfl)
theorem dX0_war_33 : decode cX0_war 33 = .ok (.iload_n 1, 1) := dk_27 (dk_at dksX0_war_1 10 rfl rfl)
theorem dX0_war_34 : decode cX0_war 34 = .ok (.iaload, 1) := dk_46 (dk_at dksX0_war_1 11 rfl rfl)
theorem dX0_war_35 : decode cX0_war 35 = .ok (.iload_n 2, 1) := dk_28 (dk_at dksX0_war_1 12 rfl rfl)
theorem dX0_war_36 : decode cX0_war 36 = .ok (.invokestatic 406, 3) := dk_184 1 150 (dk_at dksX0_war_1 13 rfl rfl)
theorem dX0_war_39 : decode cX0_war 39 = .ok (.iload_n 3, 1) := dk_29 (dk_at dksX0_war_1 16 rfl rfl)
theorem dX0_war_40 : decode cX0_war 40 = .ok (.if_icmp .ne 8, 3) := dk_160 0 8 (dk_at dksX0_war_1 17 rfl rfl)
theorem dX0_war_43 : decode cX0_war 43 = .ok (.bipush 7, 2) := dk_16 7 (dk_at dksX0_war_1 20 rfl rfl)
theorem dX0_war_45 : decode cX0_war 45 = .ok (.goto 4, 3) := dk_167 0 4 (dk_at dksX0_war_2 0 rfl rfl)
theorem dX0_war_48 : decode cX0_war 48 = .ok (.iconst 0, 1) := dk_3 (dk_at dksX0_war_2 3 rfl rfl)
theorem dX0_war_49 : decode cX0_war 49 = .ok (.putfield 85, 3) := dk_181 0 85 (dk_at dksX0_war_2 4 rfl rfl)
theorem dX0_war_52 : decode cX0_war 52 = .ok (.aload_n 0, 1) := dk_42 (dk_at dksX0_war_2 7 rfl rfl)
theorem dX0_war_53 : decode cX0_war 53 = .ok (.getfield 85, 3) := dk_180 0 85 (dk_at dksX0_war_2 8 rfl rfl)
theorem dX0_war_56 : decode cX0_war 56 = .ok (.ifCond .le 5, 3) := dk_158 0 5 (dk_at dksX0_war_2 11 rfl rfl)
theorem dX0_war_59 : decode cX0_war 59 = .ok (.iconst 0, 1) := dk_3 (dk_at dksX0_war_2 14 rfl rfl)
theorem dX0_war_60 : decode cX0_war 60 = .ok (.ireturn, 1) := dk_172 (dk_at dksX0_war_2 15 rfl rfl)
theorem dX0_war_61 : decode cX0_war 61 = .ok (.aload_n 0, 1) := dk_42 (dk_at dksX0_war_2 16 rfl rfl)
theorem dX0_war_62 : decode cX0_war 62 = .ok (.invokevirtual 162, 3) := dk_182 0 162 (dk_at dksX0_war_2 17 rfl rfl)
theorem dX0_war_65 : decode cX0_war 65 = .ok (.getfield 292, 3) := dk_180 1 36 (dk_at dksX0_war_2 20 rfl rfl)
theorem dX0_war_68 : decode cX0_war 68 = .ok (.iload_n 1, 1) := dk_27 (dk_at dksX0_war_2 23 rfl rfl)
theorem dX0_war_69 : decode cX0_war 69 = .ok (.dup2, 1) := dk_92 (dk_at dksX0_war_3 0 rfl rfl)
theorem dX0_war_70 : decode cX0_war 70 = .ok (.iaload, 1) := dk_46 (dk_at dksX0_war_3 1 rfl rfl)
theorem dX0_war_71 : decode cX0_war 71 = .ok (.iconst 1, 1) := dk_4 (dk_at dksX0_war_3 2 rfl rfl)
theorem dX0_war_72 : decode cX0_war 72 = .ok (.iload_n 2, 1) := dk_28 (dk_at dksX0_war_3 3 rfl rfl)
theorem dX0_war_73 : decode cX0_war 73 = .ok (.ishl, 1) := dk_120 (dk_at dksX0_war_3 4 rfl rfl)
theorem dX0_war_74 : decode cX0_war 74 = .ok (.ixor, 1) := dk_130 (dk_at dksX0_war_3 5 rfl rfl)
theorem dX0_war_75 : decode cX0_war 75 = .ok (.iastore, 1) := dk_79 (dk_at dksX0_war_3 6 rfl rfl)
theorem dX0_war_76 : decode cX0_war 76 = .ok (.aload_n 0, 1) := dk_42 (dk_at dksX0_war_3 7 rfl rfl)
theorem dX0_war_77 : decode cX0_war 77 = .ok (.invokevirtual 162, 3) := dk_182 0 162 (dk_at dksX0_war_3 8 rfl rfl)
theorem dX0_war_80 : decode cX0_war 80 = .ok (.getfield 292, 3) := dk_180 1 36 (dk_at dksX0_war_3 11 rfl rfl)
theorem dX0_war_83 : decode cX0_war 83 = .ok (.iload_n 2, 1) := dk_28 (dk_at dksX0_war_3 14 rfl rfl)
theorem dX0_war_84 : decode cX0_war 84 = .ok (.dup2, 1) := dk_92 (dk_at dksX0_war_3 15 rfl rfl)
theorem dX0_war_85 : decode cX0_war 85 = .ok (.iaload, 1) := dk_46 (dk_at dksX0_war_3 16 rfl rfl)
theorem dX0_war_86 : decode cX0_war 86 = .ok (.iconst 1, 1) := dk_4 (dk_at dksX0_war_3 17 rfl rfl)
theorem dX0_war_87 : decode cX0_war 87 = .ok (.iload_n 1, 1) := dk_27 (dk_at dksX0_war_3 18 rfl rfl)
theorem dX0_war_88 : decode cX0_war 88 = .ok (.ishl, 1) := dk_120 (dk_at dksX0_war_3 19 rfl rfl)
theorem dX0_war_89 : decode cX0_war 89 = .ok (.ixor, 1) := dk_130 (dk_at dksX0_war_3 20 rfl rfl)
theorem dX0_war_90 : decode cX0_war 90 = .ok (.iastore, 1) := dk_79 (dk_at dksX0_war_3 21 rfl rfl)
theorem dX0_war_91 : decode cX0_war 91 = .ok (.iconst 1, 1) := dk_4 (dk_at dksX0_war_3 22 rfl rfl)
theorem dX0_war_92 : decode cX0_war 92 = .ok (.ireturn, 1) := dk_172 (dk_at dksX0_war_3 23 rfl rfl)
abbrev cX0_trade : ByteArray := prog_1_method_68_code
def yX0_trade : MethodName := ⟨RX0, "trade", "(III)Z"⟩
def dkwX0_trade_3 : List UInt8 := [167, 0, 4, 3, 172]
abbrev dktX0_trade_3 : List UInt8 := dkwX0_trade_3 ++ []
def dkwX0_trade_2 : List UInt8 := [182, 0, 162, 180, 1, 63, 16, 8, 27, 104, 28, 96, 29, 79, 42, 180, 0, 85, 154, 0, 7, 4]
abbrev dktX0_trade_2 : List UInt8 := dkwX0_trade_2 ++ dktX0_trade_3
def dkwX0_trade_1 : List UInt8 := [184, 0, 169, 153, 0, 7, 3, 167, 0, 4, 4, 181, 0, 85, 42, 180, 0, 85, 154, 0, 18, 42]
abbrev dktX0_trade_1 : List UInt8 := dkwX0_trade_1 ++ dktX0_trade_2
def dkwX0_trade_0 : List UInt8 := [42, 42, 27, 182, 0, 190, 153, 0, 27, 42, 28, 182, 0, 193, 153, 0, 19, 29, 133, 9, 20, 0, 184]
abbrev dktX0_trade_0 : List UInt8 := dkwX0_trade_0 ++ dktX0_trade_1
theorem dksX0_trade_0 : cX0_trade.data.toList.drop 0 = dktX0_trade_0 := by decide +kernel
theorem dksX0_trade_1 : cX0_trade.data.toList.drop 23 = dktX0_trade_1 := dk_seg dksX0_trade_0 23 rfl rfl
theorem dksX0_trade_2 : cX0_trade.data.toList.drop 45 = dktX0_trade_2 := dk_seg dksX0_trade_1 22 rfl rfl
theorem dksX0_trade_3 : cX0_trade.data.toList.drop 67 = dktX0_trade_3 := dk_seg dksX0_trade_2 22 rfl rfl
theorem dX0_trade_0 : decode cX0_trade 0 = .ok (.aload_n 0, 1) := dk_42 (dk_at dksX0_trade_0 0 rfl rfl)
theorem dX0_trade_1 : decode cX0_trade 1 = .ok (.aload_n 0, 1) := dk_42 (dk_at dksX0_trade_0 1 rfl rfl)
theorem dX0_trade_2 : decode cX0_trade 2 = .ok (.iload_n 1, 1) := dk_27 (dk_at dksX0_trade_0 2 rfl rfl)
theorem dX0_trade_3 : decode cX0_trade 3 = .ok (.invokevirtual 190, 3) := dk_182 0 190 (dk_at dksX0_trade_0 3 rfl rfl)
theorem dX0_trade_6 : decode cX0_trade 6 = .ok (.ifCond .eq 27, 3) := dk_153 0 27 (dk_at dksX0_trade_0 6 rfl rfl)
theorem dX0_trade_9 : decode cX0_trade 9 = .ok (.aload_n 0, 1) := dk_42 (dk_at dksX0_trade_0 9 rfl rfl)
theorem dX0_trade_10 : decode cX0_trade 10 = .ok (.iload_n 2, 1) := dk_28 (dk_at dksX0_trade_0 10 rfl rfl)
theorem dX0_trade_11 : decode cX0_trade 11 = .ok (.invokevirtual 193, 3) := dk_182 0 193 (dk_at dksX0_trade_0 11 rfl rfl)
theorem dX0_trade_14 : decode cX0_trade 14 = .ok (.ifCond .eq 19, 3) := dk_153 0 19 (dk_at dksX0_trade_0 14 rfl rfl)
theorem dX0_trade_17 : decode cX0_trade 17 = .ok (.iload_n 3, 1) := dk_29 (dk_at dksX0_trade_0 17 rfl rfl)
theorem dX0_trade_18 : decode cX0_trade 18 = .ok (.i2l, 1) := dk_133 (dk_at dksX0_trade_0 18 rfl rfl)
theorem dX0_trade_19 : decode cX0_trade 19 = .ok (.lconst 0, 1) := dk_9 (dk_at dksX0_trade_0 19 rfl rfl)
theorem dX0_trade_20 : decode cX0_trade 20 = .ok (.ldc2_w 184, 3) := dk_20 0 184 (dk_at dksX0_trade_0 20 rfl rfl)
theorem dX0_trade_23 : decode cX0_trade 23 = .ok (.invokestatic 169, 3) := dk_184 0 169 (dk_at dksX0_trade_1 0 rfl rfl)
theorem dX0_trade_26 : decode cX0_trade 26 = .ok (.ifCond .eq 7, 3) := dk_153 0 7 (dk_at dksX0_trade_1 3 rfl rfl)
theorem dX0_trade_29 : decode cX0_trade 29 = .ok (.iconst 0, 1) := dk_3 (dk_at dksX0_trade_1 6 rfl rfl)
theorem dX0_trade_30 : decode cX0_trade 30 = .ok (.goto 4, 3) := dk_167 0 4 (dk_at dksX0_trade_1 7 rfl rfl)
theorem dX0_trade_33 : decode cX0_trade 33 = .ok (.iconst 1, 1) := dk_4 (dk_at dksX0_trade_1 10 rfl rfl)
theorem dX0_trade_34 : decode cX0_trade 34 = .ok (.putfield 85, 3) := dk_181 0 85 (dk_at dksX0_trade_1 11 rfl rfl)
theorem dX0_trade_37 : decode cX0_trade 37 = .ok (.aload_n 0, 1) := dk_42 (dk_at dksX0_trade_1 14 rfl rfl)
theorem dX0_trade_38 : decode cX0_trade 38 = .ok (.getfield 85, 3) := dk_180 0 85 (dk_at dksX0_trade_1 15 rfl rfl)
theorem dX0_trade_41 : decode cX0_trade 41 = .ok (.ifCond .ne 18, 3) := dk_154 0 18 (dk_at dksX0_trade_1 18 rfl rfl)
theorem dX0_trade_44 : decode cX0_trade 44 = .ok (.aload_n 0, 1) := dk_42 (dk_at dksX0_trade_1 21 rfl rfl)
theorem dX0_trade_45 : decode cX0_trade 45 = .ok (.invokevirtual 162, 3) := dk_182 0 162 (dk_at dksX0_trade_2 0 rfl rfl)
theorem dX0_trade_48 : decode cX0_trade 48 = .ok (.getfield 319, 3) := dk_180 1 63 (dk_at dksX0_trade_2 3 rfl rfl)
theorem dX0_trade_51 : decode cX0_trade 51 = .ok (.bipush 8, 2) := dk_16 8 (dk_at dksX0_trade_2 6 rfl rfl)
theorem dX0_trade_53 : decode cX0_trade 53 = .ok (.iload_n 1, 1) := dk_27 (dk_at dksX0_trade_2 8 rfl rfl)
theorem dX0_trade_54 : decode cX0_trade 54 = .ok (.imul, 1) := dk_104 (dk_at dksX0_trade_2 9 rfl rfl)
theorem dX0_trade_55 : decode cX0_trade 55 = .ok (.iload_n 2, 1) := dk_28 (dk_at dksX0_trade_2 10 rfl rfl)
theorem dX0_trade_56 : decode cX0_trade 56 = .ok (.iadd, 1) := dk_96 (dk_at dksX0_trade_2 11 rfl rfl)
theorem dX0_trade_57 : decode cX0_trade 57 = .ok (.iload_n 3, 1) := dk_29 (dk_at dksX0_trade_2 12 rfl rfl)
theorem dX0_trade_58 : decode cX0_trade 58 = .ok (.iastore, 1) := dk_79 (dk_at dksX0_trade_2 13 rfl rfl)
theorem dX0_trade_59 : decode cX0_trade 59 = .ok (.aload_n 0, 1) := dk_42 (dk_at dksX0_trade_2 14 rfl rfl)
theorem dX0_trade_60 : decode cX0_trade 60 = .ok (.getfield 85, 3) := dk_180 0 85 (dk_at dksX0_trade_2 15 rfl rfl)
theorem dX0_trade_63 : decode cX0_trade 63 = .ok (.ifCond .ne 7, 3) := dk_154 0 7 (dk_at dksX0_trade_2 18 rfl rfl)
theorem dX0_trade_66 : decode cX0_trade 66 = .ok (.iconst 1, 1) := dk_4 (dk_at dksX0_trade_2 21 rfl rfl)
theorem dX0_trade_67 : decode cX0_trade 67 = .ok (.goto 4, 3) := dk_167 0 4 (dk_at dksX0_trade_3 0 rfl rfl)
theorem dX0_trade_70 : decode cX0_trade 70 = .ok (.iconst 0, 1) := dk_3 (dk_at dksX0_trade_3 3 rfl rfl)
theorem dX0_trade_71 : decode cX0_trade 71 = .ok (.ireturn, 1) := dk_172 (dk_at dksX0_trade_3 4 rfl rfl)
abbrev cX0_pay : ByteArray := prog_1_method_69_code
def yX0_pay : MethodName := ⟨RX0, "pay", "(II)I"⟩
def dkwX0_pay_3 : List UInt8 := [182, 0, 162, 180, 1, 91, 27, 92, 46, 28, 96, 79, 42, 182, 0, 162, 180, 1, 91, 27, 46, 172]
abbrev dktX0_pay_3 : List UInt8 := dkwX0_pay_3 ++ []
def dkwX0_pay_2 : List UInt8 := [153, 0, 7, 3, 167, 0, 5, 16, 7, 181, 0, 85, 42, 180, 0, 85, 158, 0, 5, 2, 172, 42]
abbrev dktX0_pay_2 : List UInt8 := dkwX0_pay_2 ++ dktX0_pay_3
def dkwX0_pay_1 : List UInt8 := [167, 0, 31, 42, 182, 0, 162, 180, 1, 91, 27, 46, 28, 96, 133, 9, 20, 1, 155, 184, 0, 169]
abbrev dktX0_pay_1 : List UInt8 := dkwX0_pay_1 ++ dktX0_pay_2
def dkwX0_pay_0 : List UInt8 := [42, 42, 27, 182, 0, 186, 153, 0, 17, 28, 133, 20, 1, 153, 20, 1, 155, 184, 0, 169, 154, 0, 7, 4]
abbrev dktX0_pay_0 : List UInt8 := dkwX0_pay_0 ++ dktX0_pay_1
theorem dksX0_pay_0 : cX0_pay.data.toList.drop 0 = dktX0_pay_0 := by decide +kernel
theorem dksX0_pay_1 : cX0_pay.data.toList.drop 24 = dktX0_pay_1 := dk_seg dksX0_pay_0 24 rfl rfl
theorem dksX0_pay_2 : cX0_pay.data.toList.drop 46 = dktX0_pay_2 := dk_seg dksX0_pay_1 22 rfl rfl
theorem dksX0_pay_3 : cX0_pay.data.toList.drop 68 = dktX0_pay_3 := dk_seg dksX0_pay_2 22 rfl rfl
theorem dX0_pay_0 : decode cX0_pay 0 = .ok (.aload_n 0, 1) := dk_42 (dk_at dksX0_pay_0 0 rfl rfl)
theorem dX0_pay_1 : decode cX0_pay 1 = .ok (.aload_n 0, 1) := dk_42 (dk_at dksX0_pay_0 1 rfl rfl)
theorem dX0_pay_2 : decode cX0_pay 2 = .ok (.iload_n 1, 1) := dk_27 (dk_at dksX0_pay_0 2 rfl rfl)
theorem dX0_pay_3 : decode cX0_pay 3 = .ok (.invokevirtual 186, 3) := dk_182 0 186 (dk_at dksX0_pay_0 3 rfl rfl)
theorem dX0_pay_6 : decode cX0_pay 6 = .ok (.ifCond .eq 17, 3) := dk_153 0 17 (dk_at dksX0_pay_0 6 rfl rfl)
theorem dX0_pay_9 : decode cX0_pay 9 = .ok (.iload_n 2, 1) := dk_28 (dk_at dksX0_pay_0 9 rfl rfl)
theorem dX0_pay_10 : decode cX0_pay 10 = .ok (.i2l, 1) := dk_133 (dk_at dksX0_pay_0 10 rfl rfl)
theorem dX0_pay_11 : decode cX0_pay 11 = .ok (.ldc2_w 409, 3) := dk_20 1 153 (dk_at dksX0_pay_0 11 rfl rfl)
theorem dX0_pay_14 : decode cX0_pay 14 = .ok (.ldc2_w 411, 3) := dk_20 1 155 (dk_at dksX0_pay_0 14 rfl rfl)
theorem dX0_pay_17 : decode cX0_pay 17 = .ok (.invokestatic 169, 3) := dk_184 0 169 (dk_at dksX0_pay_0 17 rfl rfl)
theorem dX0_pay_20 : decode cX0_pay 20 = .ok (.ifCond .ne 7, 3) := dk_154 0 7 (dk_at dksX0_pay_0 20 rfl rfl)
theorem dX0_pay_23 : decode cX0_pay 23 = .ok (.iconst 1, 1) := dk_4 (dk_at dksX0_pay_0 23 rfl rfl)
theorem dX0_pay_24 : decode cX0_pay 24 = .ok (.goto 31, 3) := dk_167 0 31 (dk_at dksX0_pay_1 0 rfl rfl)
theorem dX0_pay_27 : decode cX0_pay 27 = .ok (.aload_n 0, 1) := dk_42 (dk_at dksX0_pay_1 3 rfl rfl)
theorem dX0_pay_28 : decode cX0_pay 28 = .ok (.invokevirtual 162, 3) := dk_182 0 162 (dk_at dksX0_pay_1 4 rfl rfl)
theorem dX0_pay_31 : decode cX0_pay 31 = .ok (.getfield 347, 3) := dk_180 1 91 (dk_at dksX0_pay_1 7 rfl rfl)
theorem dX0_pay_34 : decode cX0_pay 34 = .ok (.iload_n 1, 1) := dk_27 (dk_at dksX0_pay_1 10 rfl rfl)
theorem dX0_pay_35 : decode cX0_pay 35 = .ok (.iaload, 1) := dk_46 (dk_at dksX0_pay_1 11 rfl rfl)
theorem dX0_pay_36 : decode cX0_pay 36 = .ok (.iload_n 2, 1) := dk_28 (dk_at dksX0_pay_1 12 rfl rfl)
theorem dX0_pay_37 : decode cX0_pay 37 = .ok (.iadd, 1) := dk_96 (dk_at dksX0_pay_1 13 rfl rfl)
theorem dX0_pay_38 : decode cX0_pay 38 = .ok (.i2l, 1) := dk_133 (dk_at dksX0_pay_1 14 rfl rfl)
theorem dX0_pay_39 : decode cX0_pay 39 = .ok (.lconst 0, 1) := dk_9 (dk_at dksX0_pay_1 15 rfl rfl)
theorem dX0_pay_40 : decode cX0_pay 40 = .ok (.ldc2_w 411, 3) := dk_20 1 155 (dk_at dksX0_pay_1 16 rfl rfl)
theorem dX0_pay_43 : decode cX0_pay 43 = .ok (.invokestatic 169, 3) := dk_184 0 169 (dk_at dksX0_pay_1 19 rfl rfl)
theorem dX0_pay_46 : decode cX0_pay 46 = .ok (.ifCond .eq 7, 3) := dk_153 0 7 (dk_at dksX0_pay_2 0 rfl rfl)
theorem dX0_pay_49 : decode cX0_pay 49 = .ok (.iconst 0, 1) := dk_3 (dk_at dksX0_pay_2 3 rfl rfl)
theorem dX0_pay_50 : decode cX0_pay 50 = .ok (.goto 5, 3) := dk_167 0 5 (dk_at dksX0_pay_2 4 rfl rfl)
theorem dX0_pay_53 : decode cX0_pay 53 = .ok (.bipush 7, 2) := dk_16 7 (dk_at dksX0_pay_2 7 rfl rfl)
theorem dX0_pay_55 : decode cX0_pay 55 = .ok (.putfield 85, 3) := dk_181 0 85 (dk_at dksX0_pay_2 9 rfl rfl)
theorem dX0_pay_58 : decode cX0_pay 58 = .ok (.aload_n 0, 1) := dk_42 (dk_at dksX0_pay_2 12 rfl rfl)
theorem dX0_pay_59 : decode cX0_pay 59 = .ok (.getfield 85, 3) := dk_180 0 85 (dk_at dksX0_pay_2 13 rfl rfl)
theorem dX0_pay_62 : decode cX0_pay 62 = .ok (.ifCond .le 5, 3) := dk_158 0 5 (dk_at dksX0_pay_2 16 rfl rfl)
theorem dX0_pay_65 : decode cX0_pay 65 = .ok (.iconst (-1), 1) := dk_2 (dk_at dksX0_pay_2 19 rfl rfl)
theorem dX0_pay_66 : decode cX0_pay 66 = .ok (.ireturn, 1) := dk_172 (dk_at dksX0_pay_2 20 rfl rfl)
theorem dX0_pay_67 : decode cX0_pay 67 = .ok (.aload_n 0, 1) := dk_42 (dk_at dksX0_pay_2 21 rfl rfl)
theorem dX0_pay_68 : decode cX0_pay 68 = .ok (.invokevirtual 162, 3) := dk_182 0 162 (dk_at dksX0_pay_3 0 rfl rfl)
theorem dX0_pay_71 : decode cX0_pay 71 = .ok (.getfield 347, 3) := dk_180 1 91 (dk_at dksX0_pay_3 3 rfl rfl)
theorem dX0_pay_74 : decode cX0_pay 74 = .ok (.iload_n 1, 1) := dk_27 (dk_at dksX0_pay_3 6 rfl rfl)
theorem dX0_pay_75 : decode cX0_pay 75 = .ok (.dup2, 1) := dk_92 (dk_at dksX0_pay_3 7 rfl rfl)
theorem dX0_pay_76 : decode cX0_pay 76 = .ok (.iaload, 1) := dk_46 (dk_at dksX0_pay_3 8 rfl rfl)
theorem dX0_pay_77 : decode cX0_pay 77 = .ok (.iload_n 2, 1) := dk_28 (dk_at dksX0_pay_3 9 rfl rfl)
theorem dX0_pay_78 : decode cX0_pay 78 = .ok (.iadd, 1) := dk_96 (dk_at dksX0_pay_3 10 rfl rfl)
theorem dX0_pay_79 : decode cX0_pay 79 = .ok (.iastore, 1) := dk_79 (dk_at dksX0_pay_3 11 rfl rfl)
theorem dX0_pay_80 : decode cX0_pay 80 = .ok (.aload_n 0, 1) := dk_42 (dk_at dksX0_pay_3 12 rfl rfl)
theorem dX0_pay_81 : decode cX0_pay 81 = .ok (.invokevirtual 162, 3) := dk_182 0 162 (dk_at dksX0_pay_3 13 rfl rfl)
theorem dX0_pay_84 : decode cX0_pay 84 = .ok (.getfield 347, 3) := dk_180 1 91 (dk_at dksX0_pay_3 16 rfl rfl)
theorem dX0_pay_87 : decode cX0_pay 87 = .ok (.iload_n 1, 1) := dk_27 (dk_at dksX0_pay_3 19 rfl rfl)
theorem dX0_pay_88 : decode cX0_pay 88 = .ok (.iaload, 1) := dk_46 (dk_at dksX0_pay_3 20 rfl rfl)
theorem dX0_pay_89 : decode cX0_pay 89 = .ok (.ireturn, 1) := dk_172 (dk_at dksX0_pay_3 21 rfl rfl)
abbrev cX0_flagIn : ByteArray := prog_1_method_71_code
def yX0_flagIn : MethodName := ⟨RX0, "flagIn", "(II)I"⟩
def dkwX0_flagIn_2 : List UInt8 := [182, 1, 60, 172]
abbrev dktX0_flagIn_2 : List UInt8 := dkwX0_flagIn_2 ++ []
def dkwX0_flagIn_1 : List UInt8 := [42, 180, 0, 85, 158, 0, 5, 2, 172, 42, 27, 28, 182, 1, 162, 42, 42, 180, 0, 66, 27, 182, 0, 247]
abbrev dktX0_flagIn_1 : List UInt8 := dkwX0_flagIn_1 ++ dktX0_flagIn_2
def dkwX0_flagIn_0 : List UInt8 := [42, 42, 27, 182, 0, 186, 153, 0, 14, 28, 184, 1, 159, 153, 0, 7, 3, 167, 0, 4, 4, 181, 0, 85]
abbrev dktX0_flagIn_0 : List UInt8 := dkwX0_flagIn_0 ++ dktX0_flagIn_1
theorem dksX0_flagIn_0 : cX0_flagIn.data.toList.drop 0 = dktX0_flagIn_0 := by decide +kernel
theorem dksX0_flagIn_1 : cX0_flagIn.data.toList.drop 24 = dktX0_flagIn_1 := dk_seg dksX0_flagIn_0 24 rfl rfl
theorem dksX0_flagIn_2 : cX0_flagIn.data.toList.drop 48 = dktX0_flagIn_2 := dk_seg dksX0_flagIn_1 24 rfl rfl
theorem dX0_flagIn_0 : decode cX0_flagIn 0 = .ok (.aload_n 0, 1) := dk_42 (dk_at dksX0_flagIn_0 0 rfl rfl)
theorem dX0_flagIn_1 : decode cX0_flagIn 1 = .ok (.aload_n 0, 1) := dk_42 (dk_at dksX0_flagIn_0 1 rfl rfl)
theorem dX0_flagIn_2 : decode cX0_flagIn 2 = .ok (.iload_n 1, 1) := dk_27 (dk_at dksX0_flagIn_0 2 rfl rfl)
theorem dX0_flagIn_3 : decode cX0_flagIn 3 = .ok (.invokevirtual 186, 3) := dk_182 0 186 (dk_at dksX0_flagIn_0 3 rfl rfl)
theorem dX0_flagIn_6 : decode cX0_flagIn 6 = .ok (.ifCond .eq 14, 3) := dk_153 0 14 (dk_at dksX0_flagIn_0 6 rfl rfl)
theorem dX0_flagIn_9 : decode cX0_flagIn 9 = .ok (.iload_n 2, 1) := dk_28 (dk_at dksX0_flagIn_0 9 rfl rfl)
theorem dX0_flagIn_10 : decode cX0_flagIn 10 = .ok (.invokestatic 415, 3) := dk_184 1 159 (dk_at dksX0_flagIn_0 10 rfl rfl)
theorem dX0_flagIn_13 : decode cX0_flagIn 13 = .ok (.ifCond .eq 7, 3) := dk_153 0 7 (dk_at dksX0_flagIn_0 13 rfl rfl)
theorem dX0_flagIn_16 : decode cX0_flagIn 16 = .ok (.iconst 0, 1) := dk_3 (dk_at dksX0_flagIn_0 16 rfl rfl)
theorem dX0_flagIn_17 : decode cX0_flagIn 17 = .ok (.goto 4, 3) := dk_167 0 4 (dk_at dksX0_flagIn_0 17 rfl rfl)
theorem dX0_flagIn_20 : decode cX0_flagIn 20 = .ok (.iconst 1, 1) := dk_4 (dk_at dksX0_flagIn_0 20 rfl rfl)
theorem dX0_flagIn_21 : decode cX0_flagIn 21 = .ok (.putfield 85, 3) := dk_181 0 85 (dk_at dksX0_flagIn_0 21 rfl rfl)
theorem dX0_flagIn_24 : decode cX0_flagIn 24 = .ok (.aload_n 0, 1) := dk_42 (dk_at dksX0_flagIn_1 0 rfl rfl)
theorem dX0_flagIn_25 : decode cX0_flagIn 25 = .ok (.getfield 85, 3) := dk_180 0 85 (dk_at dksX0_flagIn_1 1 rfl rfl)
theorem dX0_flagIn_28 : decode cX0_flagIn 28 = .ok (.ifCond .le 5, 3) := dk_158 0 5 (dk_at dksX0_flagIn_1 4 rfl rfl)
theorem dX0_flagIn_31 : decode cX0_flagIn 31 = .ok (.iconst (-1), 1) := dk_2 (dk_at dksX0_flagIn_1 7 rfl rfl)
theorem dX0_flagIn_32 : decode cX0_flagIn 32 = .ok (.ireturn, 1) := dk_172 (dk_at dksX0_flagIn_1 8 rfl rfl)
theorem dX0_flagIn_33 : decode cX0_flagIn 33 = .ok (.aload_n 0, 1) := dk_42 (dk_at dksX0_flagIn_1 9 rfl rfl)
theorem dX0_flagIn_34 : decode cX0_flagIn 34 = .ok (.iload_n 1, 1) := dk_27 (dk_at dksX0_flagIn_1 10 rfl rfl)
theorem dX0_flagIn_35 : decode cX0_flagIn 35 = .ok (.iload_n 2, 1) := dk_28 (dk_at dksX0_flagIn_1 11 rfl rfl)
theorem dX0_flagIn_36 : decode cX0_flagIn 36 = .ok (.invokevirtual 418, 3) := dk_182 1 162 (dk_at dksX0_flagIn_1 12 rfl rfl)
theorem dX0_flagIn_39 : decode cX0_flagIn 39 = .ok (.aload_n 0, 1) := dk_42 (dk_at dksX0_flagIn_1 15 rfl rfl)
theorem dX0_flagIn_40 : decode cX0_flagIn 40 = .ok (.aload_n 0, 1) := dk_42 (dk_at dksX0_flagIn_1 16 rfl rfl)
theorem dX0_flagIn_41 : decode cX0_flagIn 41 = .ok (.getfield 66, 3) := dk_180 0 66 (dk_at dksX0_flagIn_1 17 rfl rfl)
theorem dX0_flagIn_44 : decode cX0_flagIn 44 = .ok (.iload_n 1, 1) := dk_27 (dk_at dksX0_flagIn_1 20 rfl rfl)
theorem dX0_flagIn_45 : decode cX0_flagIn 45 = .ok (.invokevirtual 247, 3) := dk_182 0 247 (dk_at dksX0_flagIn_1 21 rfl rfl)
theorem dX0_flagIn_48 : decode cX0_flagIn 48 = .ok (.invokevirtual 316, 3) := dk_182 1 60 (dk_at dksX0_flagIn_2 0 rfl rfl)
theorem dX0_flagIn_51 : decode cX0_flagIn 51 = .ok (.ireturn, 1) := dk_172 (dk_at dksX0_flagIn_2 3 rfl rfl)
abbrev cX0_areDays : ByteArray := prog_1_method_27_code
def yX0_areDays : MethodName := ⟨RX0, "areDays", "(I)Z"⟩
def dkwX0_areDays_0 : List UInt8 := [26, 133, 9, 20, 0, 184, 184, 0, 169, 172]
abbrev dktX0_areDays_0 : List UInt8 := dkwX0_areDays_0 ++ []
theorem dksX0_areDays_0 : cX0_areDays.data.toList.drop 0 = dktX0_areDays_0 := by decide +kernel
theorem dX0_areDays_0 : decode cX0_areDays 0 = .ok (.iload_n 0, 1) := dk_26 (dk_at dksX0_areDays_0 0 rfl rfl)
theorem dX0_areDays_1 : decode cX0_areDays 1 = .ok (.i2l, 1) := dk_133 (dk_at dksX0_areDays_0 1 rfl rfl)
theorem dX0_areDays_2 : decode cX0_areDays 2 = .ok (.lconst 0, 1) := dk_9 (dk_at dksX0_areDays_0 2 rfl rfl)
theorem dX0_areDays_3 : decode cX0_areDays 3 = .ok (.ldc2_w 184, 3) := dk_20 0 184 (dk_at dksX0_areDays_0 3 rfl rfl)
theorem dX0_areDays_6 : decode cX0_areDays 6 = .ok (.invokestatic 169, 3) := dk_184 0 169 (dk_at dksX0_areDays_0 6 rfl rfl)
theorem dX0_areDays_9 : decode cX0_areDays 9 = .ok (.ireturn, 1) := dk_172 (dk_at dksX0_areDays_0 9 rfl rfl)
abbrev cX0_leakAside : ByteArray := prog_1_method_70_code
def yX0_leakAside : MethodName := ⟨RX0, "leakAside", "(II)V"⟩
def dkwX0_leakAside_1 : List UInt8 := [182, 1, 157, 132, 3, 1, 167, 255, 240, 177]
abbrev dktX0_leakAside_1 : List UInt8 := dkwX0_leakAside_1 ++ []
def dkwX0_leakAside_0 : List UInt8 := [42, 180, 0, 66, 42, 182, 0, 162, 182, 0, 223, 3, 62, 29, 28, 162, 0, 17, 42, 180, 0, 66, 27]
abbrev dktX0_leakAside_0 : List UInt8 := dkwX0_leakAside_0 ++ dktX0_leakAside_1
theorem dksX0_leakAside_0 : cX0_leakAside.data.toList.drop 0 = dktX0_leakAside_0 := by decide +kernel
theorem dksX0_leakAside_1 : cX0_leakAside.data.toList.drop 23 = dktX0_leakAside_1 := dk_seg dksX0_leakAside_0 23 rfl rfl
theorem dX0_leakAside_0 : decode cX0_leakAside 0 = .ok (.aload_n 0, 1) := dk_42 (dk_at dksX0_leakAside_0 0 rfl rfl)
theorem dX0_leakAside_1 : decode cX0_leakAside 1 = .ok (.getfield 66, 3) := dk_180 0 66 (dk_at dksX0_leakAside_0 1 rfl rfl)
theorem dX0_leakAside_4 : decode cX0_leakAside 4 = .ok (.aload_n 0, 1) := dk_42 (dk_at dksX0_leakAside_0 4 rfl rfl)
theorem dX0_leakAside_5 : decode cX0_leakAside 5 = .ok (.invokevirtual 162, 3) := dk_182 0 162 (dk_at dksX0_leakAside_0 5 rfl rfl)
theorem dX0_leakAside_8 : decode cX0_leakAside 8 = .ok (.invokevirtual 223, 3) := dk_182 0 223 (dk_at dksX0_leakAside_0 8 rfl rfl)
theorem dX0_leakAside_11 : decode cX0_leakAside 11 = .ok (.iconst 0, 1) := dk_3 (dk_at dksX0_leakAside_0 11 rfl rfl)
theorem dX0_leakAside_12 : decode cX0_leakAside 12 = .ok (.istore_n 3, 1) := dk_62 (dk_at dksX0_leakAside_0 12 rfl rfl)
theorem dX0_leakAside_13 : decode cX0_leakAside 13 = .ok (.iload_n 3, 1) := dk_29 (dk_at dksX0_leakAside_0 13 rfl rfl)
theorem dX0_leakAside_14 : decode cX0_leakAside 14 = .ok (.iload_n 2, 1) := dk_28 (dk_at dksX0_leakAside_0 14 rfl rfl)
theorem dX0_leakAside_15 : decode cX0_leakAside 15 = .ok (.if_icmp .ge 17, 3) := dk_162 0 17 (dk_at dksX0_leakAside_0 15 rfl rfl)
theorem dX0_leakAside_18 : decode cX0_leakAside 18 = .ok (.aload_n 0, 1) := dk_42 (dk_at dksX0_leakAside_0 18 rfl rfl)
theorem dX0_leakAside_19 : decode cX0_leakAside 19 = .ok (.getfield 66, 3) := dk_180 0 66 (dk_at dksX0_leakAside_0 19 rfl rfl)
theorem dX0_leakAside_22 : decode cX0_leakAside 22 = .ok (.iload_n 1, 1) := dk_27 (dk_at dksX0_leakAside_0 22 rfl rfl)
theorem dX0_leakAside_23 : decode cX0_leakAside 23 = .ok (.invokevirtual 413, 3) := dk_182 1 157 (dk_at dksX0_leakAside_1 0 rfl rfl)
theorem dX0_leakAside_26 : decode cX0_leakAside 26 = .ok (.iinc 3 1, 3) := dk_132 3 1 (dk_at dksX0_leakAside_1 3 rfl rfl)
theorem dX0_leakAside_29 : decode cX0_leakAside 29 = .ok (.goto (-16), 3) := dk_167 255 240 (dk_at dksX0_leakAside_1 6 rfl rfl)
theorem dX0_leakAside_32 : decode cX0_leakAside 32 = .ok (.return_, 1) := dk_177 (dk_at dksX0_leakAside_1 9 rfl rfl)
abbrev cX0_tonsIn : ByteArray := prog_1_method_72_code
def yX0_tonsIn : MethodName := ⟨RX0, "tonsIn", "(II)I"⟩
def dkwX0_tonsIn_1 : List UInt8 := [42, 180, 0, 85, 158, 0, 5, 2, 172, 42, 27, 28, 182, 1, 162, 42, 180, 0, 66, 27, 182, 0, 251, 172]
abbrev dktX0_tonsIn_1 : List UInt8 := dkwX0_tonsIn_1 ++ []
def dkwX0_tonsIn_0 : List UInt8 := [42, 42, 27, 182, 0, 186, 153, 0, 14, 28, 184, 1, 159, 153, 0, 7, 3, 167, 0, 4, 4, 181, 0, 85]
abbrev dktX0_tonsIn_0 : List UInt8 := dkwX0_tonsIn_0 ++ dktX0_tonsIn_1
theorem dksX0_tonsIn_0 : cX0_tonsIn.data.toList.drop 0 = dktX0_tonsIn_0 := by decide +kernel
theorem dksX0_tonsIn_1 : cX0_tonsIn.data.toList.drop 24 = dktX0_tonsIn_1 := dk_seg dksX0_tonsIn_0 24 rfl rfl
theorem dX0_tonsIn_0 : decode cX0_tonsIn 0 = .ok (.aload_n 0, 1) := dk_42 (dk_at dksX0_tonsIn_0 0 rfl rfl)
theorem dX0_tonsIn_1 : decode cX0_tonsIn 1 = .ok (.aload_n 0, 1) := dk_42 (dk_at dksX0_tonsIn_0 1 rfl rfl)
theorem dX0_tonsIn_2 : decode cX0_tonsIn 2 = .ok (.iload_n 1, 1) := dk_27 (dk_at dksX0_tonsIn_0 2 rfl rfl)
theorem dX0_tonsIn_3 : decode cX0_tonsIn 3 = .ok (.invokevirtual 186, 3) := dk_182 0 186 (dk_at dksX0_tonsIn_0 3 rfl rfl)
theorem dX0_tonsIn_6 : decode cX0_tonsIn 6 = .ok (.ifCond .eq 14, 3) := dk_153 0 14 (dk_at dksX0_tonsIn_0 6 rfl rfl)
theorem dX0_tonsIn_9 : decode cX0_tonsIn 9 = .ok (.iload_n 2, 1) := dk_28 (dk_at dksX0_tonsIn_0 9 rfl rfl)
theorem dX0_tonsIn_10 : decode cX0_tonsIn 10 = .ok (.invokestatic 415, 3) := dk_184 1 159 (dk_at dksX0_tonsIn_0 10 rfl rfl)
theorem dX0_tonsIn_13 : decode cX0_tonsIn 13 = .ok (.ifCond .eq 7, 3) := dk_153 0 7 (dk_at dksX0_tonsIn_0 13 rfl rfl)
theorem dX0_tonsIn_16 : decode cX0_tonsIn 16 = .ok (.iconst 0, 1) := dk_3 (dk_at dksX0_tonsIn_0 16 rfl rfl)
theorem dX0_tonsIn_17 : decode cX0_tonsIn 17 = .ok (.goto 4, 3) := dk_167 0 4 (dk_at dksX0_tonsIn_0 17 rfl rfl)
theorem dX0_tonsIn_20 : decode cX0_tonsIn 20 = .ok (.iconst 1, 1) := dk_4 (dk_at dksX0_tonsIn_0 20 rfl rfl)
theorem dX0_tonsIn_21 : decode cX0_tonsIn 21 = .ok (.putfield 85, 3) := dk_181 0 85 (dk_at dksX0_tonsIn_0 21 rfl rfl)
theorem dX0_tonsIn_24 : decode cX0_tonsIn 24 = .ok (.aload_n 0, 1) := dk_42 (dk_at dksX0_tonsIn_1 0 rfl rfl)
theorem dX0_tonsIn_25 : decode cX0_tonsIn 25 = .ok (.getfield 85, 3) := dk_180 0 85 (dk_at dksX0_tonsIn_1 1 rfl rfl)
theorem dX0_tonsIn_28 : decode cX0_tonsIn 28 = .ok (.ifCond .le 5, 3) := dk_158 0 5 (dk_at dksX0_tonsIn_1 4 rfl rfl)
theorem dX0_tonsIn_31 : decode cX0_tonsIn 31 = .ok (.iconst (-1), 1) := dk_2 (dk_at dksX0_tonsIn_1 7 rfl rfl)
theorem dX0_tonsIn_32 : decode cX0_tonsIn 32 = .ok (.ireturn, 1) := dk_172 (dk_at dksX0_tonsIn_1 8 rfl rfl)
theorem dX0_tonsIn_33 : decode cX0_tonsIn 33 = .ok (.aload_n 0, 1) := dk_42 (dk_at dksX0_tonsIn_1 9 rfl rfl)
theorem dX0_tonsIn_34 : decode cX0_tonsIn 34 = .ok (.iload_n 1, 1) := dk_27 (dk_at dksX0_tonsIn_1 10 rfl rfl)
theorem dX0_tonsIn_35 : decode cX0_tonsIn 35 = .ok (.iload_n 2, 1) := dk_28 (dk_at dksX0_tonsIn_1 11 rfl rfl)
theorem dX0_tonsIn_36 : decode cX0_tonsIn 36 = .ok (.invokevirtual 418, 3) := dk_182 1 162 (dk_at dksX0_tonsIn_1 12 rfl rfl)
theorem dX0_tonsIn_39 : decode cX0_tonsIn 39 = .ok (.aload_n 0, 1) := dk_42 (dk_at dksX0_tonsIn_1 15 rfl rfl)
theorem dX0_tonsIn_40 : decode cX0_tonsIn 40 = .ok (.getfield 66, 3) := dk_180 0 66 (dk_at dksX0_tonsIn_1 16 rfl rfl)
theorem dX0_tonsIn_43 : decode cX0_tonsIn 43 = .ok (.iload_n 1, 1) := dk_27 (dk_at dksX0_tonsIn_1 19 rfl rfl)
theorem dX0_tonsIn_44 : decode cX0_tonsIn 44 = .ok (.invokevirtual 251, 3) := dk_182 0 251 (dk_at dksX0_tonsIn_1 20 rfl rfl)
theorem dX0_tonsIn_47 : decode cX0_tonsIn 47 = .ok (.ireturn, 1) := dk_172 (dk_at dksX0_tonsIn_1 23 rfl rfl)
abbrev cX0_turns : ByteArray := prog_1_method_73_code
def yX0_turns : MethodName := ⟨RX0, "turns", "(I)I"⟩
def dkwX0_turns_3 : List UInt8 := [159, 0, 5, 28, 172, 132, 2, 1, 167, 255, 218, 42, 2, 182, 1, 60, 172]
abbrev dktX0_turns_3 : List UInt8 := dkwX0_turns_3 ++ []
def dkwX0_turns_2 : List UInt8 := [180, 0, 66, 27, 182, 1, 157, 42, 180, 0, 66, 27, 182, 1, 110, 42, 182, 0, 162, 27, 182, 1, 110]
abbrev dktX0_turns_2 : List UInt8 := dkwX0_turns_2 ++ dktX0_turns_3
def dkwX0_turns_1 : List UInt8 := [2, 172, 42, 180, 0, 66, 42, 182, 0, 162, 182, 0, 223, 4, 61, 28, 16, 99, 163, 0, 38, 42]
abbrev dktX0_turns_1 : List UInt8 := dkwX0_turns_1 ++ dktX0_turns_2
def dkwX0_turns_0 : List UInt8 := [42, 42, 27, 182, 0, 186, 153, 0, 7, 3, 167, 0, 4, 4, 181, 0, 85, 42, 180, 0, 85, 158, 0, 5]
abbrev dktX0_turns_0 : List UInt8 := dkwX0_turns_0 ++ dktX0_turns_1
theorem dksX0_turns_0 : cX0_turns.data.toList.drop 0 = dktX0_turns_0 := by decide +kernel
theorem dksX0_turns_1 : cX0_turns.data.toList.drop 24 = dktX0_turns_1 := dk_seg dksX0_turns_0 24 rfl rfl
theorem dksX0_turns_2 : cX0_turns.data.toList.drop 46 = dktX0_turns_2 := dk_seg dksX0_turns_1 22 rfl rfl
theorem dksX0_turns_3 : cX0_turns.data.toList.drop 69 = dktX0_turns_3 := dk_seg dksX0_turns_2 23 rfl rfl
theorem dX0_turns_0 : decode cX0_turns 0 = .ok (.aload_n 0, 1) := dk_42 (dk_at dksX0_turns_0 0 rfl rfl)
theorem dX0_turns_1 : decode cX0_turns 1 = .ok (.aload_n 0, 1) := dk_42 (dk_at dksX0_turns_0 1 rfl rfl)
theorem dX0_turns_2 : decode cX0_turns 2 = .ok (.iload_n 1, 1) := dk_27 (dk_at dksX0_turns_0 2 rfl rfl)
theorem dX0_turns_3 : decode cX0_turns 3 = .ok (.invokevirtual 186, 3) := dk_182 0 186 (dk_at dksX0_turns_0 3 rfl rfl)
theorem dX0_turns_6 : decode cX0_turns 6 = .ok (.ifCond .eq 7, 3) := dk_153 0 7 (dk_at dksX0_turns_0 6 rfl rfl)
theorem dX0_turns_9 : decode cX0_turns 9 = .ok (.iconst 0, 1) := dk_3 (dk_at dksX0_turns_0 9 rfl rfl)
theorem dX0_turns_10 : decode cX0_turns 10 = .ok (.goto 4, 3) := dk_167 0 4 (dk_at dksX0_turns_0 10 rfl rfl)
theorem dX0_turns_13 : decode cX0_turns 13 = .ok (.iconst 1, 1) := dk_4 (dk_at dksX0_turns_0 13 rfl rfl)
theorem dX0_turns_14 : decode cX0_turns 14 = .ok (.putfield 85, 3) := dk_181 0 85 (dk_at dksX0_turns_0 14 rfl rfl)
theorem dX0_turns_17 : decode cX0_turns 17 = .ok (.aload_n 0, 1) := dk_42 (dk_at dksX0_turns_0 17 rfl rfl)
theorem dX0_turns_18 : decode cX0_turns 18 = .ok (.getfield 85, 3) := dk_180 0 85 (dk_at dksX0_turns_0 18 rfl rfl)
theorem dX0_turns_21 : decode cX0_turns 21 = .ok (.ifCond .le 5, 3) := dk_158 0 5 (dk_at dksX0_turns_0 21 rfl rfl)
theorem dX0_turns_24 : decode cX0_turns 24 = .ok (.iconst (-1), 1) := dk_2 (dk_at dksX0_turns_1 0 rfl rfl)
theorem dX0_turns_25 : decode cX0_turns 25 = .ok (.ireturn, 1) := dk_172 (dk_at dksX0_turns_1 1 rfl rfl)
theorem dX0_turns_26 : decode cX0_turns 26 = .ok (.aload_n 0, 1) := dk_42 (dk_at dksX0_turns_1 2 rfl rfl)
theorem dX0_turns_27 : decode cX0_turns 27 = .ok (.getfield 66, 3) := dk_180 0 66 (dk_at dksX0_turns_1 3 rfl rfl)
theorem dX0_turns_30 : decode cX0_turns 30 = .ok (.aload_n 0, 1) := dk_42 (dk_at dksX0_turns_1 6 rfl rfl)
theorem dX0_turns_31 : decode cX0_turns 31 = .ok (.invokevirtual 162, 3) := dk_182 0 162 (dk_at dksX0_turns_1 7 rfl rfl)
theorem dX0_turns_34 : decode cX0_turns 34 = .ok (.invokevirtual 223, 3) := dk_182 0 223 (dk_at dksX0_turns_1 10 rfl rfl)
theorem dX0_turns_37 : decode cX0_turns 37 = .ok (.iconst 1, 1) := dk_4 (dk_at dksX0_turns_1 13 rfl rfl)
theorem dX0_turns_38 : decode cX0_turns 38 = .ok (.istore_n 2, 1) := dk_61 (dk_at dksX0_turns_1 14 rfl rfl)
theorem dX0_turns_39 : decode cX0_turns 39 = .ok (.iload_n 2, 1) := dk_28 (dk_at dksX0_turns_1 15 rfl rfl)
theorem dX0_turns_40 : decode cX0_turns 40 = .ok (.bipush 99, 2) := dk_16 99 (dk_at dksX0_turns_1 16 rfl rfl)
theorem dX0_turns_42 : decode cX0_turns 42 = .ok (.if_icmp .gt 38, 3) := dk_163 0 38 (dk_at dksX0_turns_1 18 rfl rfl)
theorem dX0_turns_45 : decode cX0_turns 45 = .ok (.aload_n 0, 1) := dk_42 (dk_at dksX0_turns_1 21 rfl rfl)
theorem dX0_turns_46 : decode cX0_turns 46 = .ok (.getfield 66, 3) := dk_180 0 66 (dk_at dksX0_turns_2 0 rfl rfl)
theorem dX0_turns_49 : decode cX0_turns 49 = .ok (.iload_n 1, 1) := dk_27 (dk_at dksX0_turns_2 3 rfl rfl)
theorem dX0_turns_50 : decode cX0_turns 50 = .ok (.invokevirtual 413, 3) := dk_182 1 157 (dk_at dksX0_turns_2 4 rfl rfl)
theorem dX0_turns_53 : decode cX0_turns 53 = .ok (.aload_n 0, 1) := dk_42 (dk_at dksX0_turns_2 7 rfl rfl)
theorem dX0_turns_54 : decode cX0_turns 54 = .ok (.getfield 66, 3) := dk_180 0 66 (dk_at dksX0_turns_2 8 rfl rfl)
theorem dX0_turns_57 : decode cX0_turns 57 = .ok (.iload_n 1, 1) := dk_27 (dk_at dksX0_turns_2 11 rfl rfl)
theorem dX0_turns_58 : decode cX0_turns 58 = .ok (.invokevirtual 366, 3) := dk_182 1 110 (dk_at dksX0_turns_2 12 rfl rfl)
theorem dX0_turns_61 : decode cX0_turns 61 = .ok (.aload_n 0, 1) := dk_42 (dk_at dksX0_turns_2 15 rfl rfl)
theorem dX0_turns_62 : decode cX0_turns 62 = .ok (.invokevirtual 162, 3) := dk_182 0 162 (dk_at dksX0_turns_2 16 rfl rfl)
theorem dX0_turns_65 : decode cX0_turns 65 = .ok (.iload_n 1, 1) := dk_27 (dk_at dksX0_turns_2 19 rfl rfl)
theorem dX0_turns_66 : decode cX0_turns 66 = .ok (.invokevirtual 366, 3) := dk_182 1 110 (dk_at dksX0_turns_2 20 rfl rfl)
theorem dX0_turns_69 : decode cX0_turns 69 = .ok (.if_icmp .eq 5, 3) := dk_159 0 5 (dk_at dksX0_turns_3 0 rfl rfl)
theorem dX0_turns_72 : decode cX0_turns 72 = .ok (.iload_n 2, 1) := dk_28 (dk_at dksX0_turns_3 3 rfl rfl)
theorem dX0_turns_73 : decode cX0_turns 73 = .ok (.ireturn, 1) := dk_172 (dk_at dksX0_turns_3 4 rfl rfl)
theorem dX0_turns_74 : decode cX0_turns 74 = .ok (.iinc 2 1, 3) := dk_132 2 1 (dk_at dksX0_turns_3 5 rfl rfl)
theorem dX0_turns_77 : decode cX0_turns 77 = .ok (.goto (-38), 3) := dk_167 255 218 (dk_at dksX0_turns_3 8 rfl rfl)
theorem dX0_turns_80 : decode cX0_turns 80 = .ok (.aload_n 0, 1) := dk_42 (dk_at dksX0_turns_3 11 rfl rfl)
theorem dX0_turns_81 : decode cX0_turns 81 = .ok (.iconst (-1), 1) := dk_2 (dk_at dksX0_turns_3 12 rfl rfl)
theorem dX0_turns_82 : decode cX0_turns 82 = .ok (.invokevirtual 316, 3) := dk_182 1 60 (dk_at dksX0_turns_3 13 rfl rfl)
theorem dX0_turns_85 : decode cX0_turns 85 = .ok (.ireturn, 1) := dk_172 (dk_at dksX0_turns_3 16 rfl rfl)
abbrev cX0_flags : ByteArray := prog_1_method_74_code
def yX0_flags : MethodName := ⟨RX0, "flags", "(II)I"⟩
def dkwX0_flags_4 : List UInt8 := [180, 0, 66, 27, 182, 1, 157, 132, 5, 1, 167, 255, 205, 29, 172]
abbrev dktX0_flags_4 : List UInt8 := dkwX0_flags_4 ++ []
def dkwX0_flags_3 : List UInt8 := [155, 0, 14, 21, 6, 21, 4, 159, 0, 7, 4, 167, 0, 4, 3, 96, 62, 21, 6, 54, 4, 42]
abbrev dktX0_flags_3 : List UInt8 := dkwX0_flags_3 ++ dktX0_flags_4
def dkwX0_flags_2 : List UInt8 := [54, 4, 3, 54, 5, 21, 5, 28, 163, 0, 51, 42, 180, 0, 66, 27, 182, 0, 247, 54, 6, 29, 21, 6]
abbrev dktX0_flags_2 : List UInt8 := dkwX0_flags_2 ++ dktX0_flags_3
def dkwX0_flags_1 : List UInt8 := [42, 180, 0, 85, 158, 0, 5, 2, 172, 42, 180, 0, 66, 42, 182, 0, 162, 182, 0, 223, 3, 62, 2]
abbrev dktX0_flags_1 : List UInt8 := dkwX0_flags_1 ++ dktX0_flags_2
def dkwX0_flags_0 : List UInt8 := [42, 42, 27, 182, 0, 186, 153, 0, 14, 28, 184, 1, 159, 153, 0, 7, 3, 167, 0, 4, 4, 181, 0, 85]
abbrev dktX0_flags_0 : List UInt8 := dkwX0_flags_0 ++ dktX0_flags_1
theorem dksX0_flags_0 : cX0_flags.data.toList.drop 0 = dktX0_flags_0 := by decide +kernel
theorem dksX0_flags_1 : cX0_flags.data.toList.drop 24 = dktX0_flags_1 := dk_seg dksX0_flags_0 24 rfl rfl
theorem dksX0_flags_2 : cX0_flags.data.toList.drop 47 = dktX0_flags_2 := dk_seg dksX0_flags_1 23 rfl rfl
theorem dksX0_flags_3 : cX0_flags.data.toList.drop 71 = dktX0_flags_3 := dk_seg dksX0_flags_2 24 rfl rfl
theorem dksX0_flags_4 : cX0_flags.data.toList.drop 93 = dktX0_flags_4 := dk_seg dksX0_flags_3 22 rfl rfl
theorem dX0_flags_0 : decode cX0_flags 0 = .ok (.aload_n 0, 1) := dk_42 (dk_at dksX0_flags_0 0 rfl rfl)
theorem dX0_flags_1 : decode cX0_flags 1 = .ok (.aload_n 0, 1) := dk_42 (dk_at dksX0_flags_0 1 rfl rfl)
theorem dX0_flags_2 : decode cX0_flags 2 = .ok (.iload_n 1, 1) := dk_27 (dk_at dksX0_flags_0 2 rfl rfl)
theorem dX0_flags_3 : decode cX0_flags 3 = .ok (.invokevirtual 186, 3) := dk_182 0 186 (dk_at dksX0_flags_0 3 rfl rfl)
theorem dX0_flags_6 : decode cX0_flags 6 = .ok (.ifCond .eq 14, 3) := dk_153 0 14 (dk_at dksX0_flags_0 6 rfl rfl)
theorem dX0_flags_9 : decode cX0_flags 9 = .ok (.iload_n 2, 1) := dk_28 (dk_at dksX0_flags_0 9 rfl rfl)
theorem dX0_flags_10 : decode cX0_flags 10 = .ok (.invokestatic 415, 3) := dk_184 1 159 (dk_at dksX0_flags_0 10 rfl rfl)
theorem dX0_flags_13 : decode cX0_flags 13 = .ok (.ifCond .eq 7, 3) := dk_153 0 7 (dk_at dksX0_flags_0 13 rfl rfl)
theorem dX0_flags_16 : decode cX0_flags 16 = .ok (.iconst 0, 1) := dk_3 (dk_at dksX0_flags_0 16 rfl rfl)
theorem dX0_flags_17 : decode cX0_flags 17 = .ok (.goto 4, 3) := dk_167 0 4 (dk_at dksX0_flags_0 17 rfl rfl)
theorem dX0_flags_20 : decode cX0_flags 20 = .ok (.iconst 1, 1) := dk_4 (dk_at dksX0_flags_0 20 rfl rfl)
theorem dX0_flags_21 : decode cX0_flags 21 = .ok (.putfield 85, 3) := dk_181 0 85 (dk_at dksX0_flags_0 21 rfl rfl)
theorem dX0_flags_24 : decode cX0_flags 24 = .ok (.aload_n 0, 1) := dk_42 (dk_at dksX0_flags_1 0 rfl rfl)
theorem dX0_flags_25 : decode cX0_flags 25 = .ok (.getfield 85, 3) := dk_180 0 85 (dk_at dksX0_flags_1 1 rfl rfl)
theorem dX0_flags_28 : decode cX0_flags 28 = .ok (.ifCond .le 5, 3) := dk_158 0 5 (dk_at dksX0_flags_1 4 rfl rfl)
theorem dX0_flags_31 : decode cX0_flags 31 = .ok (.iconst (-1), 1) := dk_2 (dk_at dksX0_flags_1 7 rfl rfl)
theorem dX0_flags_32 : decode cX0_flags 32 = .ok (.ireturn, 1) := dk_172 (dk_at dksX0_flags_1 8 rfl rfl)
theorem dX0_flags_33 : decode cX0_flags 33 = .ok (.aload_n 0, 1) := dk_42 (dk_at dksX0_flags_1 9 rfl rfl)
theorem dX0_flags_34 : decode cX0_flags 34 = .ok (.getfield 66, 3) := dk_180 0 66 (dk_at dksX0_flags_1 10 rfl rfl)
theorem dX0_flags_37 : decode cX0_flags 37 = .ok (.aload_n 0, 1) := dk_42 (dk_at dksX0_flags_1 13 rfl rfl)
theorem dX0_flags_38 : decode cX0_flags 38 = .ok (.invokevirtual 162, 3) := dk_182 0 162 (dk_at dksX0_flags_1 14 rfl rfl)
theorem dX0_flags_41 : decode cX0_flags 41 = .ok (.invokevirtual 223, 3) := dk_182 0 223 (dk_at dksX0_flags_1 17 rfl rfl)
theorem dX0_flags_44 : decode cX0_flags 44 = .ok (.iconst 0, 1) := dk_3 (dk_at dksX0_flags_1 20 rfl rfl)
theorem dX0_flags_45 : decode cX0_flags 45 = .ok (.istore_n 3, 1) := dk_62 (dk_at dksX0_flags_1 21 rfl rfl)
theorem dX0_flags_46 : decode cX0_flags 46 = .ok (.iconst (-1), 1) := dk_2 (dk_at dksX0_flags_1 22 rfl rfl)
theorem dX0_flags_47 : decode cX0_flags 47 = .ok (.istore 4, 2) := dk_54 4 (dk_at dksX0_flags_2 0 rfl rfl)
theorem dX0_flags_49 : decode cX0_flags 49 = .ok (.iconst 0, 1) := dk_3 (dk_at dksX0_flags_2 2 rfl rfl)
theorem dX0_flags_50 : decode cX0_flags 50 = .ok (.istore 5, 2) := dk_54 5 (dk_at dksX0_flags_2 3 rfl rfl)
theorem dX0_flags_52 : decode cX0_flags 52 = .ok (.iload 5, 2) := dk_21 5 (dk_at dksX0_flags_2 5 rfl rfl)
theorem dX0_flags_54 : decode cX0_flags 54 = .ok (.iload_n 2, 1) := dk_28 (dk_at dksX0_flags_2 7 rfl rfl)
theorem dX0_flags_55 : decode cX0_flags 55 = .ok (.if_icmp .gt 51, 3) := dk_163 0 51 (dk_at dksX0_flags_2 8 rfl rfl)
theorem dX0_flags_58 : decode cX0_flags 58 = .ok (.aload_n 0, 1) := dk_42 (dk_at dksX0_flags_2 11 rfl rfl)
theorem dX0_flags_59 : decode cX0_flags 59 = .ok (.getfield 66, 3) := dk_180 0 66 (dk_at dksX0_flags_2 12 rfl rfl)
theorem dX0_flags_62 : decode cX0_flags 62 = .ok (.iload_n 1, 1) := dk_27 (dk_at dksX0_flags_2 15 rfl rfl)
theorem dX0_flags_63 : decode cX0_flags 63 = .ok (.invokevirtual 247, 3) := dk_182 0 247 (dk_at dksX0_flags_2 16 rfl rfl)
theorem dX0_flags_66 : decode cX0_flags 66 = .ok (.istore 6, 2) := dk_54 6 (dk_at dksX0_flags_2 19 rfl rfl)
theorem dX0_flags_68 : decode cX0_flags 68 = .ok (.iload_n 3, 1) := dk_29 (dk_at dksX0_flags_2 21 rfl rfl)
theorem dX0_flags_69 : decode cX0_flags 69 = .ok (.iload 6, 2) := dk_21 6 (dk_at dksX0_flags_2 22 rfl rfl)
theorem dX0_flags_71 : decode cX0_flags 71 = .ok (.ifCond .lt 14, 3) := dk_155 0 14 (dk_at dksX0_flags_3 0 rfl rfl)
theorem dX0_flags_74 : decode cX0_flags 74 = .ok (.iload 6, 2) := dk_21 6 (dk_at dksX0_flags_3 3 rfl rfl)
theorem dX0_flags_76 : decode cX0_flags 76 = .ok (.iload 4, 2) := dk_21 4 (dk_at dksX0_flags_3 5 rfl rfl)
theorem dX0_flags_78 : decode cX0_flags 78 = .ok (.if_icmp .eq 7, 3) := dk_159 0 7 (dk_at dksX0_flags_3 7 rfl rfl)
theorem dX0_flags_81 : decode cX0_flags 81 = .ok (.iconst 1, 1) := dk_4 (dk_at dksX0_flags_3 10 rfl rfl)
theorem dX0_flags_82 : decode cX0_flags 82 = .ok (.goto 4, 3) := dk_167 0 4 (dk_at dksX0_flags_3 11 rfl rfl)
theorem dX0_flags_85 : decode cX0_flags 85 = .ok (.iconst 0, 1) := dk_3 (dk_at dksX0_flags_3 14 rfl rfl)
theorem dX0_flags_86 : decode cX0_flags 86 = .ok (.iadd, 1) := dk_96 (dk_at dksX0_flags_3 15 rfl rfl)
theorem dX0_flags_87 : decode cX0_flags 87 = .ok (.istore_n 3, 1) := dk_62 (dk_at dksX0_flags_3 16 rfl rfl)
theorem dX0_flags_88 : decode cX0_flags 88 = .ok (.iload 6, 2) := dk_21 6 (dk_at dksX0_flags_3 17 rfl rfl)
theorem dX0_flags_90 : decode cX0_flags 90 = .ok (.istore 4, 2) := dk_54 4 (dk_at dksX0_flags_3 19 rfl rfl)
theorem dX0_flags_92 : decode cX0_flags 92 = .ok (.aload_n 0, 1) := dk_42 (dk_at dksX0_flags_3 21 rfl rfl)
theorem dX0_flags_93 : decode cX0_flags 93 = .ok (.getfield 66, 3) := dk_180 0 66 (dk_at dksX0_flags_4 0 rfl rfl)
theorem dX0_flags_96 : decode cX0_flags 96 = .ok (.iload_n 1, 1) := dk_27 (dk_at dksX0_flags_4 3 rfl rfl)
theorem dX0_flags_97 : decode cX0_flags 97 = .ok (.invokevirtual 413, 3) := dk_182 1 157 (dk_at dksX0_flags_4 4 rfl rfl)
theorem dX0_flags_100 : decode cX0_flags 100 = .ok (.iinc 5 1, 3) := dk_132 5 1 (dk_at dksX0_flags_4 7 rfl rfl)
theorem dX0_flags_103 : decode cX0_flags 103 = .ok (.goto (-51), 3) := dk_167 255 205 (dk_at dksX0_flags_4 10 rfl rfl)
theorem dX0_flags_106 : decode cX0_flags 106 = .ok (.iload_n 3, 1) := dk_29 (dk_at dksX0_flags_4 13 rfl rfl)
theorem dX0_flags_107 : decode cX0_flags 107 = .ok (.ireturn, 1) := dk_172 (dk_at dksX0_flags_4 14 rfl rfl)
abbrev cX0_wages : ByteArray := prog_1_method_75_code
def yX0_wages : MethodName := ⟨RX0, "wages", "(II)I"⟩
def dkwX0_wages_4 : List UInt8 := [182, 1, 157, 132, 4, 1, 167, 255, 204, 29, 172]
abbrev dktX0_wages_4 : List UInt8 := dkwX0_wages_4 ++ []
def dkwX0_wages_3 : List UInt8 := [3, 167, 0, 16, 42, 182, 0, 162, 180, 1, 21, 21, 5, 50, 180, 1, 25, 96, 62, 42, 180, 0, 66, 27]
abbrev dktX0_wages_3 : List UInt8 := dkwX0_wages_3 ++ dktX0_wages_4
def dkwX0_wages_2 : List UInt8 := [54, 4, 21, 4, 28, 162, 0, 52, 42, 180, 0, 66, 27, 182, 0, 247, 54, 5, 29, 21, 5, 156, 0, 7]
abbrev dktX0_wages_2 : List UInt8 := dkwX0_wages_2 ++ dktX0_wages_3
def dkwX0_wages_1 : List UInt8 := [42, 180, 0, 85, 158, 0, 5, 2, 172, 42, 180, 0, 66, 42, 182, 0, 162, 182, 0, 223, 3, 62, 3]
abbrev dktX0_wages_1 : List UInt8 := dkwX0_wages_1 ++ dktX0_wages_2
def dkwX0_wages_0 : List UInt8 := [42, 42, 27, 182, 0, 186, 153, 0, 14, 28, 184, 1, 159, 153, 0, 7, 3, 167, 0, 4, 4, 181, 0, 85]
abbrev dktX0_wages_0 : List UInt8 := dkwX0_wages_0 ++ dktX0_wages_1
theorem dksX0_wages_0 : cX0_wages.data.toList.drop 0 = dktX0_wages_0 := by decide +kernel
theorem dksX0_wages_1 : cX0_wages.data.toList.drop 24 = dktX0_wages_1 := dk_seg dksX0_wages_0 24 rfl rfl
theorem dksX0_wages_2 : cX0_wages.data.toList.drop 47 = dktX0_wages_2 := dk_seg dksX0_wages_1 23 rfl rfl
theorem dksX0_wages_3 : cX0_wages.data.toList.drop 71 = dktX0_wages_3 := dk_seg dksX0_wages_2 24 rfl rfl
theorem dksX0_wages_4 : cX0_wages.data.toList.drop 95 = dktX0_wages_4 := dk_seg dksX0_wages_3 24 rfl rfl
theorem dX0_wages_0 : decode cX0_wages 0 = .ok (.aload_n 0, 1) := dk_42 (dk_at dksX0_wages_0 0 rfl rfl)
theorem dX0_wages_1 : decode cX0_wages 1 = .ok (.aload_n 0, 1) := dk_42 (dk_at dksX0_wages_0 1 rfl rfl)
theorem dX0_wages_2 : decode cX0_wages 2 = .ok (.iload_n 1, 1) := dk_27 (dk_at dksX0_wages_0 2 rfl rfl)
theorem dX0_wages_3 : decode cX0_wages 3 = .ok (.invokevirtual 186, 3) := dk_182 0 186 (dk_at dksX0_wages_0 3 rfl rfl)
theorem dX0_wages_6 : decode cX0_wages 6 = .ok (.ifCond .eq 14, 3) := dk_153 0 14 (dk_at dksX0_wages_0 6 rfl rfl)
theorem dX0_wages_9 : decode cX0_wages 9 = .ok (.iload_n 2, 1) := dk_28 (dk_at dksX0_wages_0 9 rfl rfl)
theorem dX0_wages_10 : decode cX0_wages 10 = .ok (.invokestatic 415, 3) := dk_184 1 159 (dk_at dksX0_wages_0 10 rfl rfl)
theorem dX0_wages_13 : decode cX0_wages 13 = .ok (.ifCond .eq 7, 3) := dk_153 0 7 (dk_at dksX0_wages_0 13 rfl rfl)
theorem dX0_wages_16 : decode cX0_wages 16 = .ok (.iconst 0, 1) := dk_3 (dk_at dksX0_wages_0 16 rfl rfl)
theorem dX0_wages_17 : decode cX0_wages 17 = .ok (.goto 4, 3) := dk_167 0 4 (dk_at dksX0_wages_0 17 rfl rfl)
theorem dX0_wages_20 : decode cX0_wages 20 = .ok (.iconst 1, 1) := dk_4 (dk_at dksX0_wages_0 20 rfl rfl)
theorem dX0_wages_21 : decode cX0_wages 21 = .ok (.putfield 85, 3) := dk_181 0 85 (dk_at dksX0_wages_0 21 rfl rfl)
theorem dX0_wages_24 : decode cX0_wages 24 = .ok (.aload_n 0, 1) := dk_42 (dk_at dksX0_wages_1 0 rfl rfl)
theorem dX0_wages_25 : decode cX0_wages 25 = .ok (.getfield 85, 3) := dk_180 0 85 (dk_at dksX0_wages_1 1 rfl rfl)
theorem dX0_wages_28 : decode cX0_wages 28 = .ok (.ifCond .le 5, 3) := dk_158 0 5 (dk_at dksX0_wages_1 4 rfl rfl)
theorem dX0_wages_31 : decode cX0_wages 31 = .ok (.iconst (-1), 1) := dk_2 (dk_at dksX0_wages_1 7 rfl rfl)
theorem dX0_wages_32 : decode cX0_wages 32 = .ok (.ireturn, 1) := dk_172 (dk_at dksX0_wages_1 8 rfl rfl)
theorem dX0_wages_33 : decode cX0_wages 33 = .ok (.aload_n 0, 1) := dk_42 (dk_at dksX0_wages_1 9 rfl rfl)
theorem dX0_wages_34 : decode cX0_wages 34 = .ok (.getfield 66, 3) := dk_180 0 66 (dk_at dksX0_wages_1 10 rfl rfl)
theorem dX0_wages_37 : decode cX0_wages 37 = .ok (.aload_n 0, 1) := dk_42 (dk_at dksX0_wages_1 13 rfl rfl)
theorem dX0_wages_38 : decode cX0_wages 38 = .ok (.invokevirtual 162, 3) := dk_182 0 162 (dk_at dksX0_wages_1 14 rfl rfl)
theorem dX0_wages_41 : decode cX0_wages 41 = .ok (.invokevirtual 223, 3) := dk_182 0 223 (dk_at dksX0_wages_1 17 rfl rfl)
theorem dX0_wages_44 : decode cX0_wages 44 = .ok (.iconst 0, 1) := dk_3 (dk_at dksX0_wages_1 20 rfl rfl)
theorem dX0_wages_45 : decode cX0_wages 45 = .ok (.istore_n 3, 1) := dk_62 (dk_at dksX0_wages_1 21 rfl rfl)
theorem dX0_wages_46 : decode cX0_wages 46 = .ok (.iconst 0, 1) := dk_3 (dk_at dksX0_wages_1 22 rfl rfl)
theorem dX0_wages_47 : decode cX0_wages 47 = .ok (.istore 4, 2) := dk_54 4 (dk_at dksX0_wages_2 0 rfl rfl)
theorem dX0_wages_49 : decode cX0_wages 49 = .ok (.iload 4, 2) := dk_21 4 (dk_at dksX0_wages_2 2 rfl rfl)
theorem dX0_wages_51 : decode cX0_wages 51 = .ok (.iload_n 2, 1) := dk_28 (dk_at dksX0_wages_2 4 rfl rfl)
theorem dX0_wages_52 : decode cX0_wages 52 = .ok (.if_icmp .ge 52, 3) := dk_162 0 52 (dk_at dksX0_wages_2 5 rfl rfl)
theorem dX0_wages_55 : decode cX0_wages 55 = .ok (.aload_n 0, 1) := dk_42 (dk_at dksX0_wages_2 8 rfl rfl)
theorem dX0_wages_56 : decode cX0_wages 56 = .ok (.getfield 66, 3) := dk_180 0 66 (dk_at dksX0_wages_2 9 rfl rfl)
theorem dX0_wages_59 : decode cX0_wages 59 = .ok (.iload_n 1, 1) := dk_27 (dk_at dksX0_wages_2 12 rfl rfl)
theorem dX0_wages_60 : decode cX0_wages 60 = .ok (.invokevirtual 247, 3) := dk_182 0 247 (dk_at dksX0_wages_2 13 rfl rfl)
theorem dX0_wages_63 : decode cX0_wages 63 = .ok (.istore 5, 2) := dk_54 5 (dk_at dksX0_wages_2 16 rfl rfl)
theorem dX0_wages_65 : decode cX0_wages 65 = .ok (.iload_n 3, 1) := dk_29 (dk_at dksX0_wages_2 18 rfl rfl)
theorem dX0_wages_66 : decode cX0_wages 66 = .ok (.iload 5, 2) := dk_21 5 (dk_at dksX0_wages_2 19 rfl rfl)
theorem dX0_wages_68 : decode cX0_wages 68 = .ok (.ifCond .ge 7, 3) := dk_156 0 7 (dk_at dksX0_wages_2 21 rfl rfl)
theorem dX0_wages_71 : decode cX0_wages 71 = .ok (.iconst 0, 1) := dk_3 (dk_at dksX0_wages_3 0 rfl rfl)
theorem dX0_wages_72 : decode cX0_wages 72 = .ok (.goto 16, 3) := dk_167 0 16 (dk_at dksX0_wages_3 1 rfl rfl)
theorem dX0_wages_75 : decode cX0_wages 75 = .ok (.aload_n 0, 1) := dk_42 (dk_at dksX0_wages_3 4 rfl rfl)
theorem dX0_wages_76 : decode cX0_wages 76 = .ok (.invokevirtual 162, 3) := dk_182 0 162 (dk_at dksX0_wages_3 5 rfl rfl)
theorem dX0_wages_79 : decode cX0_wages 79 = .ok (.getfield 277, 3) := dk_180 1 21 (dk_at dksX0_wages_3 8 rfl rfl)
theorem dX0_wages_82 : decode cX0_wages 82 = .ok (.iload 5, 2) := dk_21 5 (dk_at dksX0_wages_3 11 rfl rfl)
theorem dX0_wages_84 : decode cX0_wages 84 = .ok (.aaload, 1) := dk_50 (dk_at dksX0_wages_3 13 rfl rfl)
theorem dX0_wages_85 : decode cX0_wages 85 = .ok (.getfield 281, 3) := dk_180 1 25 (dk_at dksX0_wages_3 14 rfl rfl)
theorem dX0_wages_88 : decode cX0_wages 88 = .ok (.iadd, 1) := dk_96 (dk_at dksX0_wages_3 17 rfl rfl)
theorem dX0_wages_89 : decode cX0_wages 89 = .ok (.istore_n 3, 1) := dk_62 (dk_at dksX0_wages_3 18 rfl rfl)
theorem dX0_wages_90 : decode cX0_wages 90 = .ok (.aload_n 0, 1) := dk_42 (dk_at dksX0_wages_3 19 rfl rfl)
theorem dX0_wages_91 : decode cX0_wages 91 = .ok (.getfield 66, 3) := dk_180 0 66 (dk_at dksX0_wages_3 20 rfl rfl)
theorem dX0_wages_94 : decode cX0_wages 94 = .ok (.iload_n 1, 1) := dk_27 (dk_at dksX0_wages_3 23 rfl rfl)
theorem dX0_wages_95 : decode cX0_wages 95 = .ok (.invokevirtual 413, 3) := dk_182 1 157 (dk_at dksX0_wages_4 0 rfl rfl)
theorem dX0_wages_98 : decode cX0_wages 98 = .ok (.iinc 4 1, 3) := dk_132 4 1 (dk_at dksX0_wages_4 3 rfl rfl)
theorem dX0_wages_101 : decode cX0_wages 101 = .ok (.goto (-52), 3) := dk_167 255 204 (dk_at dksX0_wages_4 6 rfl rfl)
theorem dX0_wages_104 : decode cX0_wages 104 = .ok (.iload_n 3, 1) := dk_29 (dk_at dksX0_wages_4 9 rfl rfl)
theorem dX0_wages_105 : decode cX0_wages 105 = .ok (.ireturn, 1) := dk_172 (dk_at dksX0_wages_4 10 rfl rfl)
abbrev cX0_stowaway : ByteArray := prog_1_method_78_code
def yX0_stowaway : MethodName := ⟨RX0, "stowaway", "(I)I"⟩
def dkwX0_stowaway_1 : List UInt8 := [2, 167, 0, 12, 42, 42, 27, 182, 1, 175, 182, 1, 60, 172]
abbrev dktX0_stowaway_1 : List UInt8 := dkwX0_stowaway_1 ++ []
def dkwX0_stowaway_0 : List UInt8 := [42, 42, 27, 182, 0, 186, 153, 0, 7, 3, 167, 0, 4, 4, 181, 0, 85, 42, 180, 0, 85, 158, 0, 7]
abbrev dktX0_stowaway_0 : List UInt8 := dkwX0_stowaway_0 ++ dktX0_stowaway_1
theorem dksX0_stowaway_0 : cX0_stowaway.data.toList.drop 0 = dktX0_stowaway_0 := by decide +kernel
theorem dksX0_stowaway_1 : cX0_stowaway.data.toList.drop 24 = dktX0_stowaway_1 := dk_seg dksX0_stowaway_0 24 rfl rfl
theorem dX0_stowaway_0 : decode cX0_stowaway 0 = .ok (.aload_n 0, 1) := dk_42 (dk_at dksX0_stowaway_0 0 rfl rfl)
theorem dX0_stowaway_1 : decode cX0_stowaway 1 = .ok (.aload_n 0, 1) := dk_42 (dk_at dksX0_stowaway_0 1 rfl rfl)
theorem dX0_stowaway_2 : decode cX0_stowaway 2 = .ok (.iload_n 1, 1) := dk_27 (dk_at dksX0_stowaway_0 2 rfl rfl)
theorem dX0_stowaway_3 : decode cX0_stowaway 3 = .ok (.invokevirtual 186, 3) := dk_182 0 186 (dk_at dksX0_stowaway_0 3 rfl rfl)
theorem dX0_stowaway_6 : decode cX0_stowaway 6 = .ok (.ifCond .eq 7, 3) := dk_153 0 7 (dk_at dksX0_stowaway_0 6 rfl rfl)
theorem dX0_stowaway_9 : decode cX0_stowaway 9 = .ok (.iconst 0, 1) := dk_3 (dk_at dksX0_stowaway_0 9 rfl rfl)
theorem dX0_stowaway_10 : decode cX0_stowaway 10 = .ok (.goto 4, 3) := dk_167 0 4 (dk_at dksX0_stowaway_0 10 rfl rfl)
theorem dX0_stowaway_13 : decode cX0_stowaway 13 = .ok (.iconst 1, 1) := dk_4 (dk_at dksX0_stowaway_0 13 rfl rfl)
theorem dX0_stowaway_14 : decode cX0_stowaway 14 = .ok (.putfield 85, 3) := dk_181 0 85 (dk_at dksX0_stowaway_0 14 rfl rfl)
theorem dX0_stowaway_17 : decode cX0_stowaway 17 = .ok (.aload_n 0, 1) := dk_42 (dk_at dksX0_stowaway_0 17 rfl rfl)
theorem dX0_stowaway_18 : decode cX0_stowaway 18 = .ok (.getfield 85, 3) := dk_180 0 85 (dk_at dksX0_stowaway_0 18 rfl rfl)
theorem dX0_stowaway_21 : decode cX0_stowaway 21 = .ok (.ifCond .le 7, 3) := dk_158 0 7 (dk_at dksX0_stowaway_0 21 rfl rfl)
theorem dX0_stowaway_24 : decode cX0_stowaway 24 = .ok (.iconst (-1), 1) := dk_2 (dk_at dksX0_stowaway_1 0 rfl rfl)
theorem dX0_stowaway_25 : decode cX0_stowaway 25 = .ok (.goto 12, 3) := dk_167 0 12 (dk_at dksX0_stowaway_1 1 rfl rfl)
theorem dX0_stowaway_28 : decode cX0_stowaway 28 = .ok (.aload_n 0, 1) := dk_42 (dk_at dksX0_stowaway_1 4 rfl rfl)
theorem dX0_stowaway_29 : decode cX0_stowaway 29 = .ok (.aload_n 0, 1) := dk_42 (dk_at dksX0_stowaway_1 5 rfl rfl)
theorem dX0_stowaway_30 : decode cX0_stowaway 30 = .ok (.iload_n 1, 1) := dk_27 (dk_at dksX0_stowaway_1 6 rfl rfl)
theorem dX0_stowaway_31 : decode cX0_stowaway 31 = .ok (.invokevirtual 431, 3) := dk_182 1 175 (dk_at dksX0_stowaway_1 7 rfl rfl)
theorem dX0_stowaway_34 : decode cX0_stowaway 34 = .ok (.invokevirtual 316, 3) := dk_182 1 60 (dk_at dksX0_stowaway_1 10 rfl rfl)
theorem dX0_stowaway_37 : decode cX0_stowaway 37 = .ok (.ireturn, 1) := dk_172 (dk_at dksX0_stowaway_1 13 rfl rfl)
abbrev cX0_turning : ByteArray := prog_1_method_77_code
def yX0_turning : MethodName := ⟨RX0, "turning", "(I)I"⟩
def dkwX0_turning_2 : List UInt8 := [42, 21, 4, 181, 1, 172, 29, 172, 132, 4, 1, 167, 255, 218, 132, 3, 1, 167, 255, 203, 2, 172]
abbrev dktX0_turning_2 : List UInt8 := dkwX0_turning_2 ++ []
def dkwX0_turning_1 : List UInt8 := [182, 0, 162, 180, 0, 173, 162, 0, 32, 42, 27, 21, 4, 29, 182, 1, 169, 28, 160, 0, 6, 167, 0, 11]
abbrev dktX0_turning_1 : List UInt8 := dkwX0_turning_1 ++ dktX0_turning_2
def dkwX0_turning_0 : List UInt8 := [42, 182, 0, 162, 27, 182, 1, 110, 61, 4, 62, 29, 16, 60, 163, 0, 53, 3, 54, 4, 21, 4, 42]
abbrev dktX0_turning_0 : List UInt8 := dkwX0_turning_0 ++ dktX0_turning_1
theorem dksX0_turning_0 : cX0_turning.data.toList.drop 0 = dktX0_turning_0 := by decide +kernel
theorem dksX0_turning_1 : cX0_turning.data.toList.drop 23 = dktX0_turning_1 := dk_seg dksX0_turning_0 23 rfl rfl
theorem dksX0_turning_2 : cX0_turning.data.toList.drop 47 = dktX0_turning_2 := dk_seg dksX0_turning_1 24 rfl rfl
theorem dX0_turning_0 : decode cX0_turning 0 = .ok (.aload_n 0, 1) := dk_42 (dk_at dksX0_turning_0 0 rfl rfl)
theorem dX0_turning_1 : decode cX0_turning 1 = .ok (.invokevirtual 162, 3) := dk_182 0 162 (dk_at dksX0_turning_0 1 rfl rfl)
theorem dX0_turning_4 : decode cX0_turning 4 = .ok (.iload_n 1, 1) := dk_27 (dk_at dksX0_turning_0 4 rfl rfl)
theorem dX0_turning_5 : decode cX0_turning 5 = .ok (.invokevirtual 366, 3) := dk_182 1 110 (dk_at dksX0_turning_0 5 rfl rfl)
theorem dX0_turning_8 : decode cX0_turning 8 = .ok (.istore_n 2, 1) := dk_61 (dk_at dksX0_turning_0 8 rfl rfl)
theorem dX0_turning_9 : decode cX0_turning 9 = .ok (.iconst 1, 1) := dk_4 (dk_at dksX0_turning_0 9 rfl rfl)
theorem dX0_turning_10 : decode cX0_turning 10 = .ok (.istore_n 3, 1) := dk_62 (dk_at dksX0_turning_0 10 rfl rfl)
theorem dX0_turning_11 : decode cX0_turning 11 = .ok (.iload_n 3, 1) := dk_29 (dk_at dksX0_turning_0 11 rfl rfl)
theorem dX0_turning_12 : decode cX0_turning 12 = .ok (.bipush 60, 2) := dk_16 60 (dk_at dksX0_turning_0 12 rfl rfl)
theorem dX0_turning_14 : decode cX0_turning 14 = .ok (.if_icmp .gt 53, 3) := dk_163 0 53 (dk_at dksX0_turning_0 14 rfl rfl)
theorem dX0_turning_17 : decode cX0_turning 17 = .ok (.iconst 0, 1) := dk_3 (dk_at dksX0_turning_0 17 rfl rfl)
theorem dX0_turning_18 : decode cX0_turning 18 = .ok (.istore 4, 2) := dk_54 4 (dk_at dksX0_turning_0 18 rfl rfl)
theorem dX0_turning_20 : decode cX0_turning 20 = .ok (.iload 4, 2) := dk_21 4 (dk_at dksX0_turning_0 20 rfl rfl)
theorem dX0_turning_22 : decode cX0_turning 22 = .ok (.aload_n 0, 1) := dk_42 (dk_at dksX0_turning_0 22 rfl rfl)
theorem dX0_turning_23 : decode cX0_turning 23 = .ok (.invokevirtual 162, 3) := dk_182 0 162 (dk_at dksX0_turning_1 0 rfl rfl)
theorem dX0_turning_26 : decode cX0_turning 26 = .ok (.getfield 173, 3) := dk_180 0 173 (dk_at dksX0_turning_1 3 rfl rfl)
theorem dX0_turning_29 : decode cX0_turning 29 = .ok (.if_icmp .ge 32, 3) := dk_162 0 32 (dk_at dksX0_turning_1 6 rfl rfl)
theorem dX0_turning_32 : decode cX0_turning 32 = .ok (.aload_n 0, 1) := dk_42 (dk_at dksX0_turning_1 9 rfl rfl)
theorem dX0_turning_33 : decode cX0_turning 33 = .ok (.iload_n 1, 1) := dk_27 (dk_at dksX0_turning_1 10 rfl rfl)
theorem dX0_turning_34 : decode cX0_turning 34 = .ok (.iload 4, 2) := dk_21 4 (dk_at dksX0_turning_1 11 rfl rfl)
theorem dX0_turning_36 : decode cX0_turning 36 = .ok (.iload_n 3, 1) := dk_29 (dk_at dksX0_turning_1 13 rfl rfl)
theorem dX0_turning_37 : decode cX0_turning 37 = .ok (.invokevirtual 425, 3) := dk_182 1 169 (dk_at dksX0_turning_1 14 rfl rfl)
theorem dX0_turning_40 : decode cX0_turning 40 = .ok (.iload_n 2, 1) := dk_28 (dk_at dksX0_turning_1 17 rfl rfl)
theorem dX0_turning_41 : decode cX0_turning 41 = .ok (.if_icmp .ne 6, 3) := dk_160 0 6 (dk_at dksX0_turning_1 18 rfl rfl)
theorem dX0_turning_44 : decode cX0_turning 44 = .ok (.goto 11, 3) := dk_167 0 11 (dk_at dksX0_turning_1 21 rfl rfl)
theorem dX0_turning_47 : decode cX0_turning 47 = .ok (.aload_n 0, 1) := dk_42 (dk_at dksX0_turning_2 0 rfl rfl)
theorem dX0_turning_48 : decode cX0_turning 48 = .ok (.iload 4, 2) := dk_21 4 (dk_at dksX0_turning_2 1 rfl rfl)
theorem dX0_turning_50 : decode cX0_turning 50 = .ok (.putfield 428, 3) := dk_181 1 172 (dk_at dksX0_turning_2 3 rfl rfl)
theorem dX0_turning_53 : decode cX0_turning 53 = .ok (.iload_n 3, 1) := dk_29 (dk_at dksX0_turning_2 6 rfl rfl)
theorem dX0_turning_54 : decode cX0_turning 54 = .ok (.ireturn, 1) := dk_172 (dk_at dksX0_turning_2 7 rfl rfl)
theorem dX0_turning_55 : decode cX0_turning 55 = .ok (.iinc 4 1, 3) := dk_132 4 1 (dk_at dksX0_turning_2 8 rfl rfl)
theorem dX0_turning_58 : decode cX0_turning 58 = .ok (.goto (-38), 3) := dk_167 255 218 (dk_at dksX0_turning_2 11 rfl rfl)
theorem dX0_turning_61 : decode cX0_turning 61 = .ok (.iinc 3 1, 3) := dk_132 3 1 (dk_at dksX0_turning_2 14 rfl rfl)
theorem dX0_turning_64 : decode cX0_turning 64 = .ok (.goto (-53), 3) := dk_167 255 203 (dk_at dksX0_turning_2 17 rfl rfl)
theorem dX0_turning_67 : decode cX0_turning 67 = .ok (.iconst (-1), 1) := dk_2 (dk_at dksX0_turning_2 20 rfl rfl)
theorem dX0_turning_68 : decode cX0_turning 68 = .ok (.ireturn, 1) := dk_172 (dk_at dksX0_turning_2 21 rfl rfl)
abbrev cX0_captainsWith : ByteArray := prog_1_method_76_code
def yX0_captainsWith : MethodName := ⟨RX0, "captainsWith", "(III)I"⟩
def dkwX0_captainsWith_2 : List UInt8 := [42, 182, 0, 162, 180, 1, 100, 21, 4, 21, 5, 79, 21, 6, 172]
abbrev dktX0_captainsWith_2 : List UInt8 := dkwX0_captainsWith_2 ++ []
def dkwX0_captainsWith_1 : List UInt8 := [180, 1, 100, 21, 4, 3, 21, 5, 29, 96, 184, 1, 166, 79, 42, 182, 0, 162, 27, 182, 1, 110, 54, 6]
abbrev dktX0_captainsWith_1 : List UInt8 := dkwX0_captainsWith_1 ++ dktX0_captainsWith_2
def dkwX0_captainsWith_0 : List UInt8 := [16, 8, 27, 104, 28, 96, 54, 4, 42, 182, 0, 162, 180, 1, 100, 21, 4, 46, 54, 5, 42, 182, 0, 162]
abbrev dktX0_captainsWith_0 : List UInt8 := dkwX0_captainsWith_0 ++ dktX0_captainsWith_1
theorem dksX0_captainsWith_0 : cX0_captainsWith.data.toList.drop 0 = dktX0_captainsWith_0 := by decide +kernel
theorem dksX0_captainsWith_1 : cX0_captainsWith.data.toList.drop 24 = dktX0_captainsWith_1 := dk_seg dksX0_captainsWith_0 24 rfl rfl
theorem dksX0_captainsWith_2 : cX0_captainsWith.data.toList.drop 48 = dktX0_captainsWith_2 := dk_seg dksX0_captainsWith_1 24 rfl rfl
theorem dX0_captainsWith_0 : decode cX0_captainsWith 0 = .ok (.bipush 8, 2) := dk_16 8 (dk_at dksX0_captainsWith_0 0 rfl rfl)
theorem dX0_captainsWith_2 : decode cX0_captainsWith 2 = .ok (.iload_n 1, 1) := dk_27 (dk_at dksX0_captainsWith_0 2 rfl rfl)
theorem dX0_captainsWith_3 : decode cX0_captainsWith 3 = .ok (.imul, 1) := dk_104 (dk_at dksX0_captainsWith_0 3 rfl rfl)
theorem dX0_captainsWith_4 : decode cX0_captainsWith 4 = .ok (.iload_n 2, 1) := dk_28 (dk_at dksX0_captainsWith_0 4 rfl rfl)
theorem dX0_captainsWith_5 : decode cX0_captainsWith 5 = .ok (.iadd, 1) := dk_96 (dk_at dksX0_captainsWith_0 5 rfl rfl)
theorem dX0_captainsWith_6 : decode cX0_captainsWith 6 = .ok (.istore 4, 2) := dk_54 4 (dk_at dksX0_captainsWith_0 6 rfl rfl)
theorem dX0_captainsWith_8 : decode cX0_captainsWith 8 = .ok (.aload_n 0, 1) := dk_42 (dk_at dksX0_captainsWith_0 8 rfl rfl)
theorem dX0_captainsWith_9 : decode cX0_captainsWith 9 = .ok (.invokevirtual 162, 3) := dk_182 0 162 (dk_at dksX0_captainsWith_0 9 rfl rfl)
theorem dX0_captainsWith_12 : decode cX0_captainsWith 12 = .ok (.getfield 356, 3) := dk_180 1 100 (dk_at dksX0_captainsWith_0 12 rfl rfl)
theorem dX0_captainsWith_15 : decode cX0_captainsWith 15 = .ok (.iload 4, 2) := dk_21 4 (dk_at dksX0_captainsWith_0 15 rfl rfl)
theorem dX0_captainsWith_17 : decode cX0_captainsWith 17 = .ok (.iaload, 1) := dk_46 (dk_at dksX0_captainsWith_0 17 rfl rfl)
theorem dX0_captainsWith_18 : decode cX0_captainsWith 18 = .ok (.istore 5, 2) := dk_54 5 (dk_at dksX0_captainsWith_0 18 rfl rfl)
theorem dX0_captainsWith_20 : decode cX0_captainsWith 20 = .ok (.aload_n 0, 1) := dk_42 (dk_at dksX0_captainsWith_0 20 rfl rfl)
theorem dX0_captainsWith_21 : decode cX0_captainsWith 21 = .ok (.invokevirtual 162, 3) := dk_182 0 162 (dk_at dksX0_captainsWith_0 21 rfl rfl)
theorem dX0_captainsWith_24 : decode cX0_captainsWith 24 = .ok (.getfield 356, 3) := dk_180 1 100 (dk_at dksX0_captainsWith_1 0 rfl rfl)
theorem dX0_captainsWith_27 : decode cX0_captainsWith 27 = .ok (.iload 4, 2) := dk_21 4 (dk_at dksX0_captainsWith_1 3 rfl rfl)
theorem dX0_captainsWith_29 : decode cX0_captainsWith 29 = .ok (.iconst 0, 1) := dk_3 (dk_at dksX0_captainsWith_1 5 rfl rfl)
theorem dX0_captainsWith_30 : decode cX0_captainsWith 30 = .ok (.iload 5, 2) := dk_21 5 (dk_at dksX0_captainsWith_1 6 rfl rfl)
theorem dX0_captainsWith_32 : decode cX0_captainsWith 32 = .ok (.iload_n 3, 1) := dk_29 (dk_at dksX0_captainsWith_1 8 rfl rfl)
theorem dX0_captainsWith_33 : decode cX0_captainsWith 33 = .ok (.iadd, 1) := dk_96 (dk_at dksX0_captainsWith_1 9 rfl rfl)
theorem dX0_captainsWith_34 : decode cX0_captainsWith 34 = .ok (.invokestatic 422, 3) := dk_184 1 166 (dk_at dksX0_captainsWith_1 10 rfl rfl)
theorem dX0_captainsWith_37 : decode cX0_captainsWith 37 = .ok (.iastore, 1) := dk_79 (dk_at dksX0_captainsWith_1 13 rfl rfl)
theorem dX0_captainsWith_38 : decode cX0_captainsWith 38 = .ok (.aload_n 0, 1) := dk_42 (dk_at dksX0_captainsWith_1 14 rfl rfl)
theorem dX0_captainsWith_39 : decode cX0_captainsWith 39 = .ok (.invokevirtual 162, 3) := dk_182 0 162 (dk_at dksX0_captainsWith_1 15 rfl rfl)
theorem dX0_captainsWith_42 : decode cX0_captainsWith 42 = .ok (.iload_n 1, 1) := dk_27 (dk_at dksX0_captainsWith_1 18 rfl rfl)
theorem dX0_captainsWith_43 : decode cX0_captainsWith 43 = .ok (.invokevirtual 366, 3) := dk_182 1 110 (dk_at dksX0_captainsWith_1 19 rfl rfl)
theorem dX0_captainsWith_46 : decode cX0_captainsWith 46 = .ok (.istore 6, 2) := dk_54 6 (dk_at dksX0_captainsWith_1 22 rfl rfl)
theorem dX0_captainsWith_48 : decode cX0_captainsWith 48 = .ok (.aload_n 0, 1) := dk_42 (dk_at dksX0_captainsWith_2 0 rfl rfl)
theorem dX0_captainsWith_49 : decode cX0_captainsWith 49 = .ok (.invokevirtual 162, 3) := dk_182 0 162 (dk_at dksX0_captainsWith_2 1 rfl rfl)
theorem dX0_captainsWith_52 : decode cX0_captainsWith 52 = .ok (.getfield 356, 3) := dk_180 1 100 (dk_at dksX0_captainsWith_2 4 rfl rfl)
theorem dX0_captainsWith_55 : decode cX0_captainsWith 55 = .ok (.iload 4, 2) := dk_21 4 (dk_at dksX0_captainsWith_2 7 rfl rfl)
theorem dX0_captainsWith_57 : decode cX0_captainsWith 57 = .ok (.iload 5, 2) := dk_21 5 (dk_at dksX0_captainsWith_2 9 rfl rfl)
theorem dX0_captainsWith_59 : decode cX0_captainsWith 59 = .ok (.iastore, 1) := dk_79 (dk_at dksX0_captainsWith_2 11 rfl rfl)
theorem dX0_captainsWith_60 : decode cX0_captainsWith 60 = .ok (.iload 6, 2) := dk_21 6 (dk_at dksX0_captainsWith_2 12 rfl rfl)
theorem dX0_captainsWith_62 : decode cX0_captainsWith 62 = .ok (.ireturn, 1) := dk_172 (dk_at dksX0_captainsWith_2 14 rfl rfl)
abbrev cX0_stowawayGood : ByteArray := prog_1_method_79_code
def yX0_stowawayGood : MethodName := ⟨RX0, "stowawayGood", "(I)I"⟩
def dkwX0_stowawayGood_2 : List UInt8 := [172]
abbrev dktX0_stowawayGood_2 : List UInt8 := dkwX0_stowawayGood_2 ++ []
def dkwX0_stowawayGood_1 : List UInt8 := [2, 167, 0, 23, 42, 42, 27, 182, 1, 175, 156, 0, 7, 2, 167, 0, 7, 42, 180, 1, 172, 182, 1, 60]
abbrev dktX0_stowawayGood_1 : List UInt8 := dkwX0_stowawayGood_1 ++ dktX0_stowawayGood_2
def dkwX0_stowawayGood_0 : List UInt8 := [42, 42, 27, 182, 0, 186, 153, 0, 7, 3, 167, 0, 4, 4, 181, 0, 85, 42, 180, 0, 85, 158, 0, 7]
abbrev dktX0_stowawayGood_0 : List UInt8 := dkwX0_stowawayGood_0 ++ dktX0_stowawayGood_1
theorem dksX0_stowawayGood_0 : cX0_stowawayGood.data.toList.drop 0 = dktX0_stowawayGood_0 := by decide +kernel
theorem dksX0_stowawayGood_1 : cX0_stowawayGood.data.toList.drop 24 = dktX0_stowawayGood_1 := dk_seg dksX0_stowawayGood_0 24 rfl rfl
theorem dksX0_stowawayGood_2 : cX0_stowawayGood.data.toList.drop 48 = dktX0_stowawayGood_2 := dk_seg dksX0_stowawayGood_1 24 rfl rfl
theorem dX0_stowawayGood_0 : decode cX0_stowawayGood 0 = .ok (.aload_n 0, 1) := dk_42 (dk_at dksX0_stowawayGood_0 0 rfl rfl)
theorem dX0_stowawayGood_1 : decode cX0_stowawayGood 1 = .ok (.aload_n 0, 1) := dk_42 (dk_at dksX0_stowawayGood_0 1 rfl rfl)
theorem dX0_stowawayGood_2 : decode cX0_stowawayGood 2 = .ok (.iload_n 1, 1) := dk_27 (dk_at dksX0_stowawayGood_0 2 rfl rfl)
theorem dX0_stowawayGood_3 : decode cX0_stowawayGood 3 = .ok (.invokevirtual 186, 3) := dk_182 0 186 (dk_at dksX0_stowawayGood_0 3 rfl rfl)
theorem dX0_stowawayGood_6 : decode cX0_stowawayGood 6 = .ok (.ifCond .eq 7, 3) := dk_153 0 7 (dk_at dksX0_stowawayGood_0 6 rfl rfl)
theorem dX0_stowawayGood_9 : decode cX0_stowawayGood 9 = .ok (.iconst 0, 1) := dk_3 (dk_at dksX0_stowawayGood_0 9 rfl rfl)
theorem dX0_stowawayGood_10 : decode cX0_stowawayGood 10 = .ok (.goto 4, 3) := dk_167 0 4 (dk_at dksX0_stowawayGood_0 10 rfl rfl)
theorem dX0_stowawayGood_13 : decode cX0_stowawayGood 13 = .ok (.iconst 1, 1) := dk_4 (dk_at dksX0_stowawayGood_0 13 rfl rfl)
theorem dX0_stowawayGood_14 : decode cX0_stowawayGood 14 = .ok (.putfield 85, 3) := dk_181 0 85 (dk_at dksX0_stowawayGood_0 14 rfl rfl)
theorem dX0_stowawayGood_17 : decode cX0_stowawayGood 17 = .ok (.aload_n 0, 1) := dk_42 (dk_at dksX0_stowawayGood_0 17 rfl rfl)
theorem dX0_stowawayGood_18 : decode cX0_stowawayGood 18 = .ok (.getfield 85, 3) := dk_180 0 85 (dk_at dksX0_stowawayGood_0 18 rfl rfl)
theorem dX0_stowawayGood_21 : decode cX0_stowawayGood 21 = .ok (.ifCond .le 7, 3) := dk_158 0 7 (dk_at dksX0_stowawayGood_0 21 rfl rfl)
theorem dX0_stowawayGood_24 : decode cX0_stowawayGood 24 = .ok (.iconst (-1), 1) := dk_2 (dk_at dksX0_stowawayGood_1 0 rfl rfl)
theorem dX0_stowawayGood_25 : decode cX0_stowawayGood 25 = .ok (.goto 23, 3) := dk_167 0 23 (dk_at dksX0_stowawayGood_1 1 rfl rfl)
theorem dX0_stowawayGood_28 : decode cX0_stowawayGood 28 = .ok (.aload_n 0, 1) := dk_42 (dk_at dksX0_stowawayGood_1 4 rfl rfl)
theorem dX0_stowawayGood_29 : decode cX0_stowawayGood 29 = .ok (.aload_n 0, 1) := dk_42 (dk_at dksX0_stowawayGood_1 5 rfl rfl)
theorem dX0_stowawayGood_30 : decode cX0_stowawayGood 30 = .ok (.iload_n 1, 1) := dk_27 (dk_at dksX0_stowawayGood_1 6 rfl rfl)
theorem dX0_stowawayGood_31 : decode cX0_stowawayGood 31 = .ok (.invokevirtual 431, 3) := dk_182 1 175 (dk_at dksX0_stowawayGood_1 7 rfl rfl)
theorem dX0_stowawayGood_34 : decode cX0_stowawayGood 34 = .ok (.ifCond .ge 7, 3) := dk_156 0 7 (dk_at dksX0_stowawayGood_1 10 rfl rfl)
theorem dX0_stowawayGood_37 : decode cX0_stowawayGood 37 = .ok (.iconst (-1), 1) := dk_2 (dk_at dksX0_stowawayGood_1 13 rfl rfl)
theorem dX0_stowawayGood_38 : decode cX0_stowawayGood 38 = .ok (.goto 7, 3) := dk_167 0 7 (dk_at dksX0_stowawayGood_1 14 rfl rfl)
theorem dX0_stowawayGood_41 : decode cX0_stowawayGood 41 = .ok (.aload_n 0, 1) := dk_42 (dk_at dksX0_stowawayGood_1 17 rfl rfl)
theorem dX0_stowawayGood_42 : decode cX0_stowawayGood 42 = .ok (.getfield 428, 3) := dk_180 1 172 (dk_at dksX0_stowawayGood_1 18 rfl rfl)
theorem dX0_stowawayGood_45 : decode cX0_stowawayGood 45 = .ok (.invokevirtual 316, 3) := dk_182 1 60 (dk_at dksX0_stowawayGood_1 21 rfl rfl)
theorem dX0_stowawayGood_48 : decode cX0_stowawayGood 48 = .ok (.ireturn, 1) := dk_172 (dk_at dksX0_stowawayGood_2 0 rfl rfl)
abbrev cX0_guard : ByteArray := prog_1_method_80_code
def yX0_guard : MethodName := ⟨RX0, "guard", "(II)I"⟩
def dkwX0_guard_4 : List UInt8 := [167, 255, 214, 4, 172]
abbrev dktX0_guard_4 : List UInt8 := dkwX0_guard_4 ++ []
def dkwX0_guard_3 : List UInt8 := [29, 160, 0, 16, 42, 27, 21, 4, 28, 116, 182, 1, 169, 29, 159, 0, 5, 3, 172, 132, 4, 1]
abbrev dktX0_guard_3 : List UInt8 := dkwX0_guard_3 ++ dktX0_guard_4
def dkwX0_guard_2 : List UInt8 := [62, 3, 54, 4, 21, 4, 42, 182, 0, 162, 180, 0, 173, 162, 0, 36, 42, 27, 21, 4, 28, 182, 1, 169]
abbrev dktX0_guard_2 : List UInt8 := dkwX0_guard_2 ++ dktX0_guard_3
def dkwX0_guard_1 : List UInt8 := [167, 0, 4, 4, 181, 0, 85, 42, 180, 0, 85, 158, 0, 5, 2, 172, 42, 182, 0, 162, 27, 182, 1, 110]
abbrev dktX0_guard_1 : List UInt8 := dkwX0_guard_1 ++ dktX0_guard_2
def dkwX0_guard_0 : List UInt8 := [42, 42, 27, 182, 0, 186, 153, 0, 19, 28, 133, 10, 20, 0, 196, 184, 0, 169, 153, 0, 7, 3]
abbrev dktX0_guard_0 : List UInt8 := dkwX0_guard_0 ++ dktX0_guard_1
theorem dksX0_guard_0 : cX0_guard.data.toList.drop 0 = dktX0_guard_0 := by decide +kernel
theorem dksX0_guard_1 : cX0_guard.data.toList.drop 22 = dktX0_guard_1 := dk_seg dksX0_guard_0 22 rfl rfl
theorem dksX0_guard_2 : cX0_guard.data.toList.drop 46 = dktX0_guard_2 := dk_seg dksX0_guard_1 24 rfl rfl
theorem dksX0_guard_3 : cX0_guard.data.toList.drop 70 = dktX0_guard_3 := dk_seg dksX0_guard_2 24 rfl rfl
theorem dksX0_guard_4 : cX0_guard.data.toList.drop 92 = dktX0_guard_4 := dk_seg dksX0_guard_3 22 rfl rfl
theorem dX0_guard_0 : decode cX0_guard 0 = .ok (.aload_n 0, 1) := dk_42 (dk_at dksX0_guard_0 0 rfl rfl)
theorem dX0_guard_1 : decode cX0_guard 1 = .ok (.aload_n 0, 1) := dk_42 (dk_at dksX0_guard_0 1 rfl rfl)
theorem dX0_guard_2 : decode cX0_guard 2 = .ok (.iload_n 1, 1) := dk_27 (dk_at dksX0_guard_0 2 rfl rfl)
theorem dX0_guard_3 : decode cX0_guard 3 = .ok (.invokevirtual 186, 3) := dk_182 0 186 (dk_at dksX0_guard_0 3 rfl rfl)
theorem dX0_guard_6 : decode cX0_guard 6 = .ok (.ifCond .eq 19, 3) := dk_153 0 19 (dk_at dksX0_guard_0 6 rfl rfl)
theorem dX0_guard_9 : decode cX0_guard 9 = .ok (.iload_n 2, 1) := dk_28 (dk_at dksX0_guard_0 9 rfl rfl)
theorem dX0_guard_10 : decode cX0_guard 10 = .ok (.i2l, 1) := dk_133 (dk_at dksX0_guard_0 10 rfl rfl)
theorem dX0_guard_11 : decode cX0_guard 11 = .ok (.lconst 1, 1) := dk_10 (dk_at dksX0_guard_0 11 rfl rfl)
theorem dX0_guard_12 : decode cX0_guard 12 = .ok (.ldc2_w 196, 3) := dk_20 0 196 (dk_at dksX0_guard_0 12 rfl rfl)
theorem dX0_guard_15 : decode cX0_guard 15 = .ok (.invokestatic 169, 3) := dk_184 0 169 (dk_at dksX0_guard_0 15 rfl rfl)
theorem dX0_guard_18 : decode cX0_guard 18 = .ok (.ifCond .eq 7, 3) := dk_153 0 7 (dk_at dksX0_guard_0 18 rfl rfl)
theorem dX0_guard_21 : decode cX0_guard 21 = .ok (.iconst 0, 1) := dk_3 (dk_at dksX0_guard_0 21 rfl rfl)
theorem dX0_guard_22 : decode cX0_guard 22 = .ok (.goto 4, 3) := dk_167 0 4 (dk_at dksX0_guard_1 0 rfl rfl)
theorem dX0_guard_25 : decode cX0_guard 25 = .ok (.iconst 1, 1) := dk_4 (dk_at dksX0_guard_1 3 rfl rfl)
theorem dX0_guard_26 : decode cX0_guard 26 = .ok (.putfield 85, 3) := dk_181 0 85 (dk_at dksX0_guard_1 4 rfl rfl)
theorem dX0_guard_29 : decode cX0_guard 29 = .ok (.aload_n 0, 1) := dk_42 (dk_at dksX0_guard_1 7 rfl rfl)
theorem dX0_guard_30 : decode cX0_guard 30 = .ok (.getfield 85, 3) := dk_180 0 85 (dk_at dksX0_guard_1 8 rfl rfl)
theorem dX0_guard_33 : decode cX0_guard 33 = .ok (.ifCond .le 5, 3) := dk_158 0 5 (dk_at dksX0_guard_1 11 rfl rfl)
theorem dX0_guard_36 : decode cX0_guard 36 = .ok (.iconst (-1), 1) := dk_2 (dk_at dksX0_guard_1 14 rfl rfl)
theorem dX0_guard_37 : decode cX0_guard 37 = .ok (.ireturn, 1) := dk_172 (dk_at dksX0_guard_1 15 rfl rfl)
theorem dX0_guard_38 : decode cX0_guard 38 = .ok (.aload_n 0, 1) := dk_42 (dk_at dksX0_guard_1 16 rfl rfl)
theorem dX0_guard_39 : decode cX0_guard 39 = .ok (.invokevirtual 162, 3) := dk_182 0 162 (dk_at dksX0_guard_1 17 rfl rfl)
theorem dX0_guard_42 : decode cX0_guard 42 = .ok (.iload_n 1, 1) := dk_27 (dk_at dksX0_guard_1 20 rfl rfl)
theorem dX0_guard_43 : decode cX0_guard 43 = .ok (.invokevirtual 366, 3) := dk_182 1 110 (dk_at dksX0_guard_1 21 rfl rfl)
theorem dX0_guard_46 : decode cX0_guard 46 = .ok (.istore_n 3, 1) := dk_62 (dk_at dksX0_guard_2 0 rfl rfl)
theorem dX0_guard_47 : decode cX0_guard 47 = .ok (.iconst 0, 1) := dk_3 (dk_at dksX0_guard_2 1 rfl rfl)
theorem dX0_guard_48 : decode cX0_guard 48 = .ok (.istore 4, 2) := dk_54 4 (dk_at dksX0_guard_2 2 rfl rfl)
theorem dX0_guard_50 : decode cX0_guard 50 = .ok (.iload 4, 2) := dk_21 4 (dk_at dksX0_guard_2 4 rfl rfl)
theorem dX0_guard_52 : decode cX0_guard 52 = .ok (.aload_n 0, 1) := dk_42 (dk_at dksX0_guard_2 6 rfl rfl)
theorem dX0_guard_53 : decode cX0_guard 53 = .ok (.invokevirtual 162, 3) := dk_182 0 162 (dk_at dksX0_guard_2 7 rfl rfl)
theorem dX0_guard_56 : decode cX0_guard 56 = .ok (.getfield 173, 3) := dk_180 0 173 (dk_at dksX0_guard_2 10 rfl rfl)
theorem dX0_guard_59 : decode cX0_guard 59 = .ok (.if_icmp .ge 36, 3) := dk_162 0 36 (dk_at dksX0_guard_2 13 rfl rfl)
theorem dX0_guard_62 : decode cX0_guard 62 = .ok (.aload_n 0, 1) := dk_42 (dk_at dksX0_guard_2 16 rfl rfl)
theorem dX0_guard_63 : decode cX0_guard 63 = .ok (.iload_n 1, 1) := dk_27 (dk_at dksX0_guard_2 17 rfl rfl)
theorem dX0_guard_64 : decode cX0_guard 64 = .ok (.iload 4, 2) := dk_21 4 (dk_at dksX0_guard_2 18 rfl rfl)
theorem dX0_guard_66 : decode cX0_guard 66 = .ok (.iload_n 2, 1) := dk_28 (dk_at dksX0_guard_2 20 rfl rfl)
theorem dX0_guard_67 : decode cX0_guard 67 = .ok (.invokevirtual 425, 3) := dk_182 1 169 (dk_at dksX0_guard_2 21 rfl rfl)
theorem dX0_guard_70 : decode cX0_guard 70 = .ok (.iload_n 3, 1) := dk_29 (dk_at dksX0_guard_3 0 rfl rfl)
theorem dX0_guard_71 : decode cX0_guard 71 = .ok (.if_icmp .ne 16, 3) := dk_160 0 16 (dk_at dksX0_guard_3 1 rfl rfl)
theorem dX0_guard_74 : decode cX0_guard 74 = .ok (.aload_n 0, 1) := dk_42 (dk_at dksX0_guard_3 4 rfl rfl)
theorem dX0_guard_75 : decode cX0_guard 75 = .ok (.iload_n 1, 1) := dk_27 (dk_at dksX0_guard_3 5 rfl rfl)
theorem dX0_guard_76 : decode cX0_guard 76 = .ok (.iload 4, 2) := dk_21 4 (dk_at dksX0_guard_3 6 rfl rfl)
theorem dX0_guard_78 : decode cX0_guard 78 = .ok (.iload_n 2, 1) := dk_28 (dk_at dksX0_guard_3 8 rfl rfl)
theorem dX0_guard_79 : decode cX0_guard 79 = .ok (.ineg, 1) := dk_116 (dk_at dksX0_guard_3 9 rfl rfl)
theorem dX0_guard_80 : decode cX0_guard 80 = .ok (.invokevirtual 425, 3) := dk_182 1 169 (dk_at dksX0_guard_3 10 rfl rfl)
theorem dX0_guard_83 : decode cX0_guard 83 = .ok (.iload_n 3, 1) := dk_29 (dk_at dksX0_guard_3 13 rfl rfl)
theorem dX0_guard_84 : decode cX0_guard 84 = .ok (.if_icmp .eq 5, 3) := dk_159 0 5 (dk_at dksX0_guard_3 14 rfl rfl)
theorem dX0_guard_87 : decode cX0_guard 87 = .ok (.iconst 0, 1) := dk_3 (dk_at dksX0_guard_3 17 rfl rfl)
theorem dX0_guard_88 : decode cX0_guard 88 = .ok (.ireturn, 1) := dk_172 (dk_at dksX0_guard_3 18 rfl rfl)
theorem dX0_guard_89 : decode cX0_guard 89 = .ok (.iinc 4 1, 3) := dk_132 4 1 (dk_at dksX0_guard_3 19 rfl rfl)
theorem dX0_guard_92 : decode cX0_guard 92 = .ok (.goto (-42), 3) := dk_167 255 214 (dk_at dksX0_guard_4 0 rfl rfl)
theorem dX0_guard_95 : decode cX0_guard 95 = .ok (.iconst 1, 1) := dk_4 (dk_at dksX0_guard_4 3 rfl rfl)
theorem dX0_guard_96 : decode cX0_guard 96 = .ok (.ireturn, 1) := dk_172 (dk_at dksX0_guard_4 4 rfl rfl)
abbrev cX0_passFor : ByteArray := prog_1_method_82_code
def yX0_passFor : MethodName := ⟨RX0, "passFor", "(II)I"⟩
def dkwX0_passFor_2 : List UInt8 := [172]
abbrev dktX0_passFor_2 : List UInt8 := dkwX0_passFor_2 ++ []
def dkwX0_passFor_1 : List UInt8 := [181, 0, 85, 42, 180, 0, 85, 158, 0, 7, 2, 167, 0, 13, 42, 42, 27, 28, 182, 1, 181, 182, 1, 60]
abbrev dktX0_passFor_1 : List UInt8 := dkwX0_passFor_1 ++ dktX0_passFor_2
def dkwX0_passFor_0 : List UInt8 := [42, 42, 27, 182, 0, 186, 153, 0, 15, 42, 28, 182, 1, 16, 153, 0, 7, 3, 167, 0, 4, 4]
abbrev dktX0_passFor_0 : List UInt8 := dkwX0_passFor_0 ++ dktX0_passFor_1
theorem dksX0_passFor_0 : cX0_passFor.data.toList.drop 0 = dktX0_passFor_0 := by decide +kernel
theorem dksX0_passFor_1 : cX0_passFor.data.toList.drop 22 = dktX0_passFor_1 := dk_seg dksX0_passFor_0 22 rfl rfl
theorem dksX0_passFor_2 : cX0_passFor.data.toList.drop 46 = dktX0_passFor_2 := dk_seg dksX0_passFor_1 24 rfl rfl
theorem dX0_passFor_0 : decode cX0_passFor 0 = .ok (.aload_n 0, 1) := dk_42 (dk_at dksX0_passFor_0 0 rfl rfl)
theorem dX0_passFor_1 : decode cX0_passFor 1 = .ok (.aload_n 0, 1) := dk_42 (dk_at dksX0_passFor_0 1 rfl rfl)
theorem dX0_passFor_2 : decode cX0_passFor 2 = .ok (.iload_n 1, 1) := dk_27 (dk_at dksX0_passFor_0 2 rfl rfl)
theorem dX0_passFor_3 : decode cX0_passFor 3 = .ok (.invokevirtual 186, 3) := dk_182 0 186 (dk_at dksX0_passFor_0 3 rfl rfl)
theorem dX0_passFor_6 : decode cX0_passFor 6 = .ok (.ifCond .eq 15, 3) := dk_153 0 15 (dk_at dksX0_passFor_0 6 rfl rfl)
theorem dX0_passFor_9 : decode cX0_passFor 9 = .ok (.aload_n 0, 1) := dk_42 (dk_at dksX0_passFor_0 9 rfl rfl)
theorem dX0_passFor_10 : decode cX0_passFor 10 = .ok (.iload_n 2, 1) := dk_28 (dk_at dksX0_passFor_0 10 rfl rfl)
theorem dX0_passFor_11 : decode cX0_passFor 11 = .ok (.invokevirtual 272, 3) := dk_182 1 16 (dk_at dksX0_passFor_0 11 rfl rfl)
theorem dX0_passFor_14 : decode cX0_passFor 14 = .ok (.ifCond .eq 7, 3) := dk_153 0 7 (dk_at dksX0_passFor_0 14 rfl rfl)
theorem dX0_passFor_17 : decode cX0_passFor 17 = .ok (.iconst 0, 1) := dk_3 (dk_at dksX0_passFor_0 17 rfl rfl)
theorem dX0_passFor_18 : decode cX0_passFor 18 = .ok (.goto 4, 3) := dk_167 0 4 (dk_at dksX0_passFor_0 18 rfl rfl)
theorem dX0_passFor_21 : decode cX0_passFor 21 = .ok (.iconst 1, 1) := dk_4 (dk_at dksX0_passFor_0 21 rfl rfl)
theorem dX0_passFor_22 : decode cX0_passFor 22 = .ok (.putfield 85, 3) := dk_181 0 85 (dk_at dksX0_passFor_1 0 rfl rfl)
theorem dX0_passFor_25 : decode cX0_passFor 25 = .ok (.aload_n 0, 1) := dk_42 (dk_at dksX0_passFor_1 3 rfl rfl)
theorem dX0_passFor_26 : decode cX0_passFor 26 = .ok (.getfield 85, 3) := dk_180 0 85 (dk_at dksX0_passFor_1 4 rfl rfl)
theorem dX0_passFor_29 : decode cX0_passFor 29 = .ok (.ifCond .le 7, 3) := dk_158 0 7 (dk_at dksX0_passFor_1 7 rfl rfl)
theorem dX0_passFor_32 : decode cX0_passFor 32 = .ok (.iconst (-1), 1) := dk_2 (dk_at dksX0_passFor_1 10 rfl rfl)
theorem dX0_passFor_33 : decode cX0_passFor 33 = .ok (.goto 13, 3) := dk_167 0 13 (dk_at dksX0_passFor_1 11 rfl rfl)
theorem dX0_passFor_36 : decode cX0_passFor 36 = .ok (.aload_n 0, 1) := dk_42 (dk_at dksX0_passFor_1 14 rfl rfl)
theorem dX0_passFor_37 : decode cX0_passFor 37 = .ok (.aload_n 0, 1) := dk_42 (dk_at dksX0_passFor_1 15 rfl rfl)
theorem dX0_passFor_38 : decode cX0_passFor 38 = .ok (.iload_n 1, 1) := dk_27 (dk_at dksX0_passFor_1 16 rfl rfl)
theorem dX0_passFor_39 : decode cX0_passFor 39 = .ok (.iload_n 2, 1) := dk_28 (dk_at dksX0_passFor_1 17 rfl rfl)
theorem dX0_passFor_40 : decode cX0_passFor 40 = .ok (.invokevirtual 437, 3) := dk_182 1 181 (dk_at dksX0_passFor_1 18 rfl rfl)
theorem dX0_passFor_43 : decode cX0_passFor 43 = .ok (.invokevirtual 316, 3) := dk_182 1 60 (dk_at dksX0_passFor_1 21 rfl rfl)
theorem dX0_passFor_46 : decode cX0_passFor 46 = .ok (.ireturn, 1) := dk_172 (dk_at dksX0_passFor_2 0 rfl rfl)
abbrev cX0_passing : ByteArray := prog_1_method_81_code
def yX0_passing : MethodName := ⟨RX0, "passing", "(II)I"⟩
def dkwX0_passing_3 : List UInt8 := [42, 21, 5, 181, 1, 178, 21, 4, 172, 132, 5, 1, 167, 255, 214, 132, 4, 1, 167, 255, 199, 2, 172]
abbrev dktX0_passing_3 : List UInt8 := dkwX0_passing_3 ++ []
def dkwX0_passing_2 : List UInt8 := [180, 0, 173, 162, 0, 36, 42, 27, 21, 5, 21, 4, 182, 1, 169, 4, 28, 120, 159, 0, 6, 167, 0, 12]
abbrev dktX0_passing_2 : List UInt8 := dkwX0_passing_2 ++ dktX0_passing_3
def dkwX0_passing_1 : List UInt8 := [182, 1, 147, 62, 4, 54, 4, 21, 4, 29, 163, 0, 57, 3, 54, 5, 21, 5, 42, 182, 0, 162]
abbrev dktX0_passing_1 : List UInt8 := dkwX0_passing_1 ++ dktX0_passing_2
def dkwX0_passing_0 : List UInt8 := [42, 2, 181, 1, 178, 42, 182, 0, 162, 27, 182, 0, 247, 28, 160, 0, 5, 3, 172, 42, 182, 0, 162, 27]
abbrev dktX0_passing_0 : List UInt8 := dkwX0_passing_0 ++ dktX0_passing_1
theorem dksX0_passing_0 : cX0_passing.data.toList.drop 0 = dktX0_passing_0 := by decide +kernel
theorem dksX0_passing_1 : cX0_passing.data.toList.drop 24 = dktX0_passing_1 := dk_seg dksX0_passing_0 24 rfl rfl
theorem dksX0_passing_2 : cX0_passing.data.toList.drop 46 = dktX0_passing_2 := dk_seg dksX0_passing_1 22 rfl rfl
theorem dksX0_passing_3 : cX0_passing.data.toList.drop 70 = dktX0_passing_3 := dk_seg dksX0_passing_2 24 rfl rfl
theorem dX0_passing_0 : decode cX0_passing 0 = .ok (.aload_n 0, 1) := dk_42 (dk_at dksX0_passing_0 0 rfl rfl)
theorem dX0_passing_1 : decode cX0_passing 1 = .ok (.iconst (-1), 1) := dk_2 (dk_at dksX0_passing_0 1 rfl rfl)
theorem dX0_passing_2 : decode cX0_passing 2 = .ok (.putfield 434, 3) := dk_181 1 178 (dk_at dksX0_passing_0 2 rfl rfl)
theorem dX0_passing_5 : decode cX0_passing 5 = .ok (.aload_n 0, 1) := dk_42 (dk_at dksX0_passing_0 5 rfl rfl)
theorem dX0_passing_6 : decode cX0_passing 6 = .ok (.invokevirtual 162, 3) := dk_182 0 162 (dk_at dksX0_passing_0 6 rfl rfl)
theorem dX0_passing_9 : decode cX0_passing 9 = .ok (.iload_n 1, 1) := dk_27 (dk_at dksX0_passing_0 9 rfl rfl)
theorem dX0_passing_10 : decode cX0_passing 10 = .ok (.invokevirtual 247, 3) := dk_182 0 247 (dk_at dksX0_passing_0 10 rfl rfl)
theorem dX0_passing_13 : decode cX0_passing 13 = .ok (.iload_n 2, 1) := dk_28 (dk_at dksX0_passing_0 13 rfl rfl)
theorem dX0_passing_14 : decode cX0_passing 14 = .ok (.if_icmp .ne 5, 3) := dk_160 0 5 (dk_at dksX0_passing_0 14 rfl rfl)
theorem dX0_passing_17 : decode cX0_passing 17 = .ok (.iconst 0, 1) := dk_3 (dk_at dksX0_passing_0 17 rfl rfl)
theorem dX0_passing_18 : decode cX0_passing 18 = .ok (.ireturn, 1) := dk_172 (dk_at dksX0_passing_0 18 rfl rfl)
theorem dX0_passing_19 : decode cX0_passing 19 = .ok (.aload_n 0, 1) := dk_42 (dk_at dksX0_passing_0 19 rfl rfl)
theorem dX0_passing_20 : decode cX0_passing 20 = .ok (.invokevirtual 162, 3) := dk_182 0 162 (dk_at dksX0_passing_0 20 rfl rfl)
theorem dX0_passing_23 : decode cX0_passing 23 = .ok (.iload_n 1, 1) := dk_27 (dk_at dksX0_passing_0 23 rfl rfl)
theorem dX0_passing_24 : decode cX0_passing 24 = .ok (.invokevirtual 403, 3) := dk_182 1 147 (dk_at dksX0_passing_1 0 rfl rfl)
theorem dX0_passing_27 : decode cX0_passing 27 = .ok (.istore_n 3, 1) := dk_62 (dk_at dksX0_passing_1 3 rfl rfl)
theorem dX0_passing_28 : decode cX0_passing 28 = .ok (.iconst 1, 1) := dk_4 (dk_at dksX0_passing_1 4 rfl rfl)
theorem dX0_passing_29 : decode cX0_passing 29 = .ok (.istore 4, 2) := dk_54 4 (dk_at dksX0_passing_1 5 rfl rfl)
theorem dX0_passing_31 : decode cX0_passing 31 = .ok (.iload 4, 2) := dk_21 4 (dk_at dksX0_passing_1 7 rfl rfl)
theorem dX0_passing_33 : decode cX0_passing 33 = .ok (.iload_n 3, 1) := dk_29 (dk_at dksX0_passing_1 9 rfl rfl)
theorem dX0_passing_34 : decode cX0_passing 34 = .ok (.if_icmp .gt 57, 3) := dk_163 0 57 (dk_at dksX0_passing_1 10 rfl rfl)
theorem dX0_passing_37 : decode cX0_passing 37 = .ok (.iconst 0, 1) := dk_3 (dk_at dksX0_passing_1 13 rfl rfl)
theorem dX0_passing_38 : decode cX0_passing 38 = .ok (.istore 5, 2) := dk_54 5 (dk_at dksX0_passing_1 14 rfl rfl)
theorem dX0_passing_40 : decode cX0_passing 40 = .ok (.iload 5, 2) := dk_21 5 (dk_at dksX0_passing_1 16 rfl rfl)
theorem dX0_passing_42 : decode cX0_passing 42 = .ok (.aload_n 0, 1) := dk_42 (dk_at dksX0_passing_1 18 rfl rfl)
theorem dX0_passing_43 : decode cX0_passing 43 = .ok (.invokevirtual 162, 3) := dk_182 0 162 (dk_at dksX0_passing_1 19 rfl rfl)
theorem dX0_passing_46 : decode cX0_passing 46 = .ok (.getfield 173, 3) := dk_180 0 173 (dk_at dksX0_passing_2 0 rfl rfl)
theorem dX0_passing_49 : decode cX0_passing 49 = .ok (.if_icmp .ge 36, 3) := dk_162 0 36 (dk_at dksX0_passing_2 3 rfl rfl)
theorem dX0_passing_52 : decode cX0_passing 52 = .ok (.aload_n 0, 1) := dk_42 (dk_at dksX0_passing_2 6 rfl rfl)
theorem dX0_passing_53 : decode cX0_passing 53 = .ok (.iload_n 1, 1) := dk_27 (dk_at dksX0_passing_2 7 rfl rfl)
theorem dX0_passing_54 : decode cX0_passing 54 = .ok (.iload 5, 2) := dk_21 5 (dk_at dksX0_passing_2 8 rfl rfl)
theorem dX0_passing_56 : decode cX0_passing 56 = .ok (.iload 4, 2) := dk_21 4 (dk_at dksX0_passing_2 10 rfl rfl)
theorem dX0_passing_58 : decode cX0_passing 58 = .ok (.invokevirtual 425, 3) := dk_182 1 169 (dk_at dksX0_passing_2 12 rfl rfl)
theorem dX0_passing_61 : decode cX0_passing 61 = .ok (.iconst 1, 1) := dk_4 (dk_at dksX0_passing_2 15 rfl rfl)
theorem dX0_passing_62 : decode cX0_passing 62 = .ok (.iload_n 2, 1) := dk_28 (dk_at dksX0_passing_2 16 rfl rfl)
theorem dX0_passing_63 : decode cX0_passing 63 = .ok (.ishl, 1) := dk_120 (dk_at dksX0_passing_2 17 rfl rfl)
theorem dX0_passing_64 : decode cX0_passing 64 = .ok (.if_icmp .eq 6, 3) := dk_159 0 6 (dk_at dksX0_passing_2 18 rfl rfl)
theorem dX0_passing_67 : decode cX0_passing 67 = .ok (.goto 12, 3) := dk_167 0 12 (dk_at dksX0_passing_2 21 rfl rfl)
theorem dX0_passing_70 : decode cX0_passing 70 = .ok (.aload_n 0, 1) := dk_42 (dk_at dksX0_passing_3 0 rfl rfl)
theorem dX0_passing_71 : decode cX0_passing 71 = .ok (.iload 5, 2) := dk_21 5 (dk_at dksX0_passing_3 1 rfl rfl)
theorem dX0_passing_73 : decode cX0_passing 73 = .ok (.putfield 434, 3) := dk_181 1 178 (dk_at dksX0_passing_3 3 rfl rfl)
theorem dX0_passing_76 : decode cX0_passing 76 = .ok (.iload 4, 2) := dk_21 4 (dk_at dksX0_passing_3 6 rfl rfl)
theorem dX0_passing_78 : decode cX0_passing 78 = .ok (.ireturn, 1) := dk_172 (dk_at dksX0_passing_3 8 rfl rfl)
theorem dX0_passing_79 : decode cX0_passing 79 = .ok (.iinc 5 1, 3) := dk_132 5 1 (dk_at dksX0_passing_3 9 rfl rfl)
theorem dX0_passing_82 : decode cX0_passing 82 = .ok (.goto (-42), 3) := dk_167 255 214 (dk_at dksX0_passing_3 12 rfl rfl)
theorem dX0_passing_85 : decode cX0_passing 85 = .ok (.iinc 4 1, 3) := dk_132 4 1 (dk_at dksX0_passing_3 15 rfl rfl)
theorem dX0_passing_88 : decode cX0_passing 88 = .ok (.goto (-57), 3) := dk_167 255 199 (dk_at dksX0_passing_3 18 rfl rfl)
theorem dX0_passing_91 : decode cX0_passing 91 = .ok (.iconst (-1), 1) := dk_2 (dk_at dksX0_passing_3 21 rfl rfl)
theorem dX0_passing_92 : decode cX0_passing 92 = .ok (.ireturn, 1) := dk_172 (dk_at dksX0_passing_3 22 rfl rfl)
abbrev cX0_passGood : ByteArray := prog_1_method_83_code
def yX0_passGood : MethodName := ⟨RX0, "passGood", "(II)I"⟩
def dkwX0_passGood_2 : List UInt8 := [182, 1, 60, 172]
abbrev dktX0_passGood_2 : List UInt8 := dkwX0_passGood_2 ++ []
def dkwX0_passGood_1 : List UInt8 := [181, 0, 85, 42, 180, 0, 85, 158, 0, 5, 2, 172, 42, 27, 28, 182, 1, 181, 87, 42, 42, 180, 1, 178]
abbrev dktX0_passGood_1 : List UInt8 := dkwX0_passGood_1 ++ dktX0_passGood_2
def dkwX0_passGood_0 : List UInt8 := [42, 42, 27, 182, 0, 186, 153, 0, 15, 42, 28, 182, 1, 16, 153, 0, 7, 3, 167, 0, 4, 4]
abbrev dktX0_passGood_0 : List UInt8 := dkwX0_passGood_0 ++ dktX0_passGood_1
theorem dksX0_passGood_0 : cX0_passGood.data.toList.drop 0 = dktX0_passGood_0 := by decide +kernel
theorem dksX0_passGood_1 : cX0_passGood.data.toList.drop 22 = dktX0_passGood_1 := dk_seg dksX0_passGood_0 22 rfl rfl
theorem dksX0_passGood_2 : cX0_passGood.data.toList.drop 46 = dktX0_passGood_2 := dk_seg dksX0_passGood_1 24 rfl rfl
theorem dX0_passGood_0 : decode cX0_passGood 0 = .ok (.aload_n 0, 1) := dk_42 (dk_at dksX0_passGood_0 0 rfl rfl)
theorem dX0_passGood_1 : decode cX0_passGood 1 = .ok (.aload_n 0, 1) := dk_42 (dk_at dksX0_passGood_0 1 rfl rfl)
theorem dX0_passGood_2 : decode cX0_passGood 2 = .ok (.iload_n 1, 1) := dk_27 (dk_at dksX0_passGood_0 2 rfl rfl)
theorem dX0_passGood_3 : decode cX0_passGood 3 = .ok (.invokevirtual 186, 3) := dk_182 0 186 (dk_at dksX0_passGood_0 3 rfl rfl)
theorem dX0_passGood_6 : decode cX0_passGood 6 = .ok (.ifCond .eq 15, 3) := dk_153 0 15 (dk_at dksX0_passGood_0 6 rfl rfl)
theorem dX0_passGood_9 : decode cX0_passGood 9 = .ok (.aload_n 0, 1) := dk_42 (dk_at dksX0_passGood_0 9 rfl rfl)
theorem dX0_passGood_10 : decode cX0_passGood 10 = .ok (.iload_n 2, 1) := dk_28 (dk_at dksX0_passGood_0 10 rfl rfl)
theorem dX0_passGood_11 : decode cX0_passGood 11 = .ok (.invokevirtual 272, 3) := dk_182 1 16 (dk_at dksX0_passGood_0 11 rfl rfl)
theorem dX0_passGood_14 : decode cX0_passGood 14 = .ok (.ifCond .eq 7, 3) := dk_153 0 7 (dk_at dksX0_passGood_0 14 rfl rfl)
theorem dX0_passGood_17 : decode cX0_passGood 17 = .ok (.iconst 0, 1) := dk_3 (dk_at dksX0_passGood_0 17 rfl rfl)
theorem dX0_passGood_18 : decode cX0_passGood 18 = .ok (.goto 4, 3) := dk_167 0 4 (dk_at dksX0_passGood_0 18 rfl rfl)
theorem dX0_passGood_21 : decode cX0_passGood 21 = .ok (.iconst 1, 1) := dk_4 (dk_at dksX0_passGood_0 21 rfl rfl)
theorem dX0_passGood_22 : decode cX0_passGood 22 = .ok (.putfield 85, 3) := dk_181 0 85 (dk_at dksX0_passGood_1 0 rfl rfl)
theorem dX0_passGood_25 : decode cX0_passGood 25 = .ok (.aload_n 0, 1) := dk_42 (dk_at dksX0_passGood_1 3 rfl rfl)
theorem dX0_passGood_26 : decode cX0_passGood 26 = .ok (.getfield 85, 3) := dk_180 0 85 (dk_at dksX0_passGood_1 4 rfl rfl)
theorem dX0_passGood_29 : decode cX0_passGood 29 = .ok (.ifCond .le 5, 3) := dk_158 0 5 (dk_at dksX0_passGood_1 7 rfl rfl)
theorem dX0_passGood_32 : decode cX0_passGood 32 = .ok (.iconst (-1), 1) := dk_2 (dk_at dksX0_passGood_1 10 rfl rfl)
theorem dX0_passGood_33 : decode cX0_passGood 33 = .ok (.ireturn, 1) := dk_172 (dk_at dksX0_passGood_1 11 rfl rfl)
theorem dX0_passGood_34 : decode cX0_passGood 34 = .ok (.aload_n 0, 1) := dk_42 (dk_at dksX0_passGood_1 12 rfl rfl)
theorem dX0_passGood_35 : decode cX0_passGood 35 = .ok (.iload_n 1, 1) := dk_27 (dk_at dksX0_passGood_1 13 rfl rfl)
theorem dX0_passGood_36 : decode cX0_passGood 36 = .ok (.iload_n 2, 1) := dk_28 (dk_at dksX0_passGood_1 14 rfl rfl)
theorem dX0_passGood_37 : decode cX0_passGood 37 = .ok (.invokevirtual 437, 3) := dk_182 1 181 (dk_at dksX0_passGood_1 15 rfl rfl)
theorem dX0_passGood_40 : decode cX0_passGood 40 = .ok (.pop, 1) := dk_87 (dk_at dksX0_passGood_1 18 rfl rfl)
theorem dX0_passGood_41 : decode cX0_passGood 41 = .ok (.aload_n 0, 1) := dk_42 (dk_at dksX0_passGood_1 19 rfl rfl)
theorem dX0_passGood_42 : decode cX0_passGood 42 = .ok (.aload_n 0, 1) := dk_42 (dk_at dksX0_passGood_1 20 rfl rfl)
theorem dX0_passGood_43 : decode cX0_passGood 43 = .ok (.getfield 434, 3) := dk_180 1 178 (dk_at dksX0_passGood_1 21 rfl rfl)
theorem dX0_passGood_46 : decode cX0_passGood 46 = .ok (.invokevirtual 316, 3) := dk_182 1 60 (dk_at dksX0_passGood_2 0 rfl rfl)
theorem dX0_passGood_49 : decode cX0_passGood 49 = .ok (.ireturn, 1) := dk_172 (dk_at dksX0_passGood_2 3 rfl rfl)
abbrev cX0_peace : ByteArray := prog_1_method_85_code
def yX0_peace : MethodName := ⟨RX0, "peace", "(I)I"⟩
def dkwX0_peace_2 : List UInt8 := [182, 1, 190, 182, 1, 60, 172]
abbrev dktX0_peace_2 : List UInt8 := dkwX0_peace_2 ++ []
def dkwX0_peace_1 : List UInt8 := [16, 7, 167, 0, 4, 3, 181, 0, 85, 42, 180, 0, 85, 158, 0, 7, 2, 167, 0, 12, 42, 42, 27]
abbrev dktX0_peace_1 : List UInt8 := dkwX0_peace_1 ++ dktX0_peace_2
def dkwX0_peace_0 : List UInt8 := [42, 42, 27, 182, 0, 186, 154, 0, 7, 4, 167, 0, 20, 42, 182, 0, 162, 27, 182, 0, 244, 153, 0, 8]
abbrev dktX0_peace_0 : List UInt8 := dkwX0_peace_0 ++ dktX0_peace_1
theorem dksX0_peace_0 : cX0_peace.data.toList.drop 0 = dktX0_peace_0 := by decide +kernel
theorem dksX0_peace_1 : cX0_peace.data.toList.drop 24 = dktX0_peace_1 := dk_seg dksX0_peace_0 24 rfl rfl
theorem dksX0_peace_2 : cX0_peace.data.toList.drop 47 = dktX0_peace_2 := dk_seg dksX0_peace_1 23 rfl rfl
theorem dX0_peace_0 : decode cX0_peace 0 = .ok (.aload_n 0, 1) := dk_42 (dk_at dksX0_peace_0 0 rfl rfl)
theorem dX0_peace_1 : decode cX0_peace 1 = .ok (.aload_n 0, 1) := dk_42 (dk_at dksX0_peace_0 1 rfl rfl)
theorem dX0_peace_2 : decode cX0_peace 2 = .ok (.iload_n 1, 1) := dk_27 (dk_at dksX0_peace_0 2 rfl rfl)
theorem dX0_peace_3 : decode cX0_peace 3 = .ok (.invokevirtual 186, 3) := dk_182 0 186 (dk_at dksX0_peace_0 3 rfl rfl)
theorem dX0_peace_6 : decode cX0_peace 6 = .ok (.ifCond .ne 7, 3) := dk_154 0 7 (dk_at dksX0_peace_0 6 rfl rfl)
theorem dX0_peace_9 : decode cX0_peace 9 = .ok (.iconst 1, 1) := dk_4 (dk_at dksX0_peace_0 9 rfl rfl)
theorem dX0_peace_10 : decode cX0_peace 10 = .ok (.goto 20, 3) := dk_167 0 20 (dk_at dksX0_peace_0 10 rfl rfl)
theorem dX0_peace_13 : decode cX0_peace 13 = .ok (.aload_n 0, 1) := dk_42 (dk_at dksX0_peace_0 13 rfl rfl)
theorem dX0_peace_14 : decode cX0_peace 14 = .ok (.invokevirtual 162, 3) := dk_182 0 162 (dk_at dksX0_peace_0 14 rfl rfl)
theorem dX0_peace_17 : decode cX0_peace 17 = .ok (.iload_n 1, 1) := dk_27 (dk_at dksX0_peace_0 17 rfl rfl)
theorem dX0_peace_18 : decode cX0_peace 18 = .ok (.invokevirtual 244, 3) := dk_182 0 244 (dk_at dksX0_peace_0 18 rfl rfl)
theorem dX0_peace_21 : decode cX0_peace 21 = .ok (.ifCond .eq 8, 3) := dk_153 0 8 (dk_at dksX0_peace_0 21 rfl rfl)
theorem dX0_peace_24 : decode cX0_peace 24 = .ok (.bipush 7, 2) := dk_16 7 (dk_at dksX0_peace_1 0 rfl rfl)
theorem dX0_peace_26 : decode cX0_peace 26 = .ok (.goto 4, 3) := dk_167 0 4 (dk_at dksX0_peace_1 2 rfl rfl)
theorem dX0_peace_29 : decode cX0_peace 29 = .ok (.iconst 0, 1) := dk_3 (dk_at dksX0_peace_1 5 rfl rfl)
theorem dX0_peace_30 : decode cX0_peace 30 = .ok (.putfield 85, 3) := dk_181 0 85 (dk_at dksX0_peace_1 6 rfl rfl)
theorem dX0_peace_33 : decode cX0_peace 33 = .ok (.aload_n 0, 1) := dk_42 (dk_at dksX0_peace_1 9 rfl rfl)
theorem dX0_peace_34 : decode cX0_peace 34 = .ok (.getfield 85, 3) := dk_180 0 85 (dk_at dksX0_peace_1 10 rfl rfl)
theorem dX0_peace_37 : decode cX0_peace 37 = .ok (.ifCond .le 7, 3) := dk_158 0 7 (dk_at dksX0_peace_1 13 rfl rfl)
theorem dX0_peace_40 : decode cX0_peace 40 = .ok (.iconst (-1), 1) := dk_2 (dk_at dksX0_peace_1 16 rfl rfl)
theorem dX0_peace_41 : decode cX0_peace 41 = .ok (.goto 12, 3) := dk_167 0 12 (dk_at dksX0_peace_1 17 rfl rfl)
theorem dX0_peace_44 : decode cX0_peace 44 = .ok (.aload_n 0, 1) := dk_42 (dk_at dksX0_peace_1 20 rfl rfl)
theorem dX0_peace_45 : decode cX0_peace 45 = .ok (.aload_n 0, 1) := dk_42 (dk_at dksX0_peace_1 21 rfl rfl)
theorem dX0_peace_46 : decode cX0_peace 46 = .ok (.iload_n 1, 1) := dk_27 (dk_at dksX0_peace_1 22 rfl rfl)
theorem dX0_peace_47 : decode cX0_peace 47 = .ok (.invokevirtual 446, 3) := dk_182 1 190 (dk_at dksX0_peace_2 0 rfl rfl)
theorem dX0_peace_50 : decode cX0_peace 50 = .ok (.invokevirtual 316, 3) := dk_182 1 60 (dk_at dksX0_peace_2 3 rfl rfl)
theorem dX0_peace_53 : decode cX0_peace 53 = .ok (.ireturn, 1) := dk_172 (dk_at dksX0_peace_2 6 rfl rfl)
abbrev cX0_peaceful : ByteArray := prog_1_method_84_code
def yX0_peaceful : MethodName := ⟨RX0, "peaceful", "(I)I"⟩
def dkwX0_peaceful_6 : List UInt8 := [167, 255, 129, 29, 172]
abbrev dktX0_peaceful_6 : List UInt8 := dkwX0_peaceful_6 ++ []
def dkwX0_peaceful_5 : List UInt8 := [180, 1, 36, 21, 6, 46, 153, 0, 6, 167, 0, 12, 21, 4, 62, 42, 21, 5, 181, 1, 184, 132, 4, 1]
abbrev dktX0_peaceful_5 : List UInt8 := dkwX0_peaceful_5 ++ dktX0_peaceful_6
def dkwX0_peaceful_4 : List UInt8 := [42, 27, 21, 4, 28, 182, 1, 169, 184, 1, 187, 54, 6, 21, 6, 155, 0, 19, 42, 182, 0, 162]
abbrev dktX0_peaceful_4 : List UInt8 := dkwX0_peaceful_4 ++ dktX0_peaceful_5
def dkwX0_peaceful_3 : List UInt8 := [104, 21, 4, 96, 46, 153, 0, 62, 29, 155, 0, 15, 21, 5, 42, 180, 1, 184, 161, 0, 6, 167, 0, 46]
abbrev dktX0_peaceful_3 : List UInt8 := dkwX0_peaceful_3 ++ dktX0_peaceful_4
def dkwX0_peaceful_2 : List UInt8 := [96, 46, 28, 104, 54, 5, 42, 182, 0, 162, 180, 1, 63, 16, 8, 42, 182, 0, 162, 180, 1, 74, 27, 46]
abbrev dktX0_peaceful_2 : List UInt8 := dkwX0_peaceful_2 ++ dktX0_peaceful_3
def dkwX0_peaceful_1 : List UInt8 := [162, 0, 121, 42, 182, 0, 162, 180, 1, 63, 16, 8, 42, 182, 0, 162, 180, 1, 74, 27, 46, 104, 21, 4]
abbrev dktX0_peaceful_1 : List UInt8 := dkwX0_peaceful_1 ++ dktX0_peaceful_2
def dkwX0_peaceful_0 : List UInt8 := [42, 182, 0, 162, 27, 182, 1, 147, 61, 2, 62, 3, 54, 4, 21, 4, 42, 182, 0, 162, 180, 0, 173]
abbrev dktX0_peaceful_0 : List UInt8 := dkwX0_peaceful_0 ++ dktX0_peaceful_1
theorem dksX0_peaceful_0 : cX0_peaceful.data.toList.drop 0 = dktX0_peaceful_0 := by decide +kernel
theorem dksX0_peaceful_1 : cX0_peaceful.data.toList.drop 23 = dktX0_peaceful_1 := dk_seg dksX0_peaceful_0 23 rfl rfl
theorem dksX0_peaceful_2 : cX0_peaceful.data.toList.drop 47 = dktX0_peaceful_2 := dk_seg dksX0_peaceful_1 24 rfl rfl
theorem dksX0_peaceful_3 : cX0_peaceful.data.toList.drop 71 = dktX0_peaceful_3 := dk_seg dksX0_peaceful_2 24 rfl rfl
theorem dksX0_peaceful_4 : cX0_peaceful.data.toList.drop 95 = dktX0_peaceful_4 := dk_seg dksX0_peaceful_3 24 rfl rfl
theorem dksX0_peaceful_5 : cX0_peaceful.data.toList.drop 117 = dktX0_peaceful_5 := dk_seg dksX0_peaceful_4 22 rfl rfl
theorem dksX0_peaceful_6 : cX0_peaceful.data.toList.drop 141 = dktX0_peaceful_6 := dk_seg dksX0_peaceful_5 24 rfl rfl
theorem dX0_peaceful_0 : decode cX0_peaceful 0 = .ok (.aload_n 0, 1) := dk_42 (dk_at dksX0_peaceful_0 0 rfl rfl)
theorem dX0_peaceful_1 : decode cX0_peaceful 1 = .ok (.invokevirtual 162, 3) := dk_182 0 162 (dk_at dksX0_peaceful_0 1 rfl rfl)
theorem dX0_peaceful_4 : decode cX0_peaceful 4 = .ok (.iload_n 1, 1) := dk_27 (dk_at dksX0_peaceful_0 4 rfl rfl)
theorem dX0_peaceful_5 : decode cX0_peaceful 5 = .ok (.invokevirtual 403, 3) := dk_182 1 147 (dk_at dksX0_peaceful_0 5 rfl rfl)
theorem dX0_peaceful_8 : decode cX0_peaceful 8 = .ok (.istore_n 2, 1) := dk_61 (dk_at dksX0_peaceful_0 8 rfl rfl)
theorem dX0_peaceful_9 : decode cX0_peaceful 9 = .ok (.iconst (-1), 1) := dk_2 (dk_at dksX0_peaceful_0 9 rfl rfl)
theorem dX0_peaceful_10 : decode cX0_peaceful 10 = .ok (.istore_n 3, 1) := dk_62 (dk_at dksX0_peaceful_0 10 rfl rfl)
theorem dX0_peaceful_11 : decode cX0_peaceful 11 = .ok (.iconst 0, 1) := dk_3 (dk_at dksX0_peaceful_0 11 rfl rfl)
theorem dX0_peaceful_12 : decode cX0_peaceful 12 = .ok (.istore 4, 2) := dk_54 4 (dk_at dksX0_peaceful_0 12 rfl rfl)
theorem dX0_peaceful_14 : decode cX0_peaceful 14 = .ok (.iload 4, 2) := dk_21 4 (dk_at dksX0_peaceful_0 14 rfl rfl)
theorem dX0_peaceful_16 : decode cX0_peaceful 16 = .ok (.aload_n 0, 1) := dk_42 (dk_at dksX0_peaceful_0 16 rfl rfl)
theorem dX0_peaceful_17 : decode cX0_peaceful 17 = .ok (.invokevirtual 162, 3) := dk_182 0 162 (dk_at dksX0_peaceful_0 17 rfl rfl)
theorem dX0_peaceful_20 : decode cX0_peaceful 20 = .ok (.getfield 173, 3) := dk_180 0 173 (dk_at dksX0_peaceful_0 20 rfl rfl)
theorem dX0_peaceful_23 : decode cX0_peaceful 23 = .ok (.if_icmp .ge 121, 3) := dk_162 0 121 (dk_at dksX0_peaceful_1 0 rfl rfl)
theorem dX0_peaceful_26 : decode cX0_peaceful 26 = .ok (.aload_n 0, 1) := dk_42 (dk_at dksX0_peaceful_1 3 rfl rfl)
theorem dX0_peaceful_27 : decode cX0_peaceful 27 = .ok (.invokevirtual 162, 3) := dk_182 0 162 (dk_at dksX0_peaceful_1 4 rfl rfl)
theorem dX0_peaceful_30 : decode cX0_peaceful 30 = .ok (.getfield 319, 3) := dk_180 1 63 (dk_at dksX0_peaceful_1 7 rfl rfl)
theorem dX0_peaceful_33 : decode cX0_peaceful 33 = .ok (.bipush 8, 2) := dk_16 8 (dk_at dksX0_peaceful_1 10 rfl rfl)
theorem dX0_peaceful_35 : decode cX0_peaceful 35 = .ok (.aload_n 0, 1) := dk_42 (dk_at dksX0_peaceful_1 12 rfl rfl)
theorem dX0_peaceful_36 : decode cX0_peaceful 36 = .ok (.invokevirtual 162, 3) := dk_182 0 162 (dk_at dksX0_peaceful_1 13 rfl rfl)
theorem dX0_peaceful_39 : decode cX0_peaceful 39 = .ok (.getfield 330, 3) := dk_180 1 74 (dk_at dksX0_peaceful_1 16 rfl rfl)
theorem dX0_peaceful_42 : decode cX0_peaceful 42 = .ok (.iload_n 1, 1) := dk_27 (dk_at dksX0_peaceful_1 19 rfl rfl)
theorem dX0_peaceful_43 : decode cX0_peaceful 43 = .ok (.iaload, 1) := dk_46 (dk_at dksX0_peaceful_1 20 rfl rfl)
theorem dX0_peaceful_44 : decode cX0_peaceful 44 = .ok (.imul, 1) := dk_104 (dk_at dksX0_peaceful_1 21 rfl rfl)
theorem dX0_peaceful_45 : decode cX0_peaceful 45 = .ok (.iload 4, 2) := dk_21 4 (dk_at dksX0_peaceful_1 22 rfl rfl)
theorem dX0_peaceful_47 : decode cX0_peaceful 47 = .ok (.iadd, 1) := dk_96 (dk_at dksX0_peaceful_2 0 rfl rfl)
theorem dX0_peaceful_48 : decode cX0_peaceful 48 = .ok (.iaload, 1) := dk_46 (dk_at dksX0_peaceful_2 1 rfl rfl)
theorem dX0_peaceful_49 : decode cX0_peaceful 49 = .ok (.iload_n 2, 1) := dk_28 (dk_at dksX0_peaceful_2 2 rfl rfl)
theorem dX0_peaceful_50 : decode cX0_peaceful 50 = .ok (.imul, 1) := dk_104 (dk_at dksX0_peaceful_2 3 rfl rfl)
theorem dX0_peaceful_51 : decode cX0_peaceful 51 = .ok (.istore 5, 2) := dk_54 5 (dk_at dksX0_peaceful_2 4 rfl rfl)
theorem dX0_peaceful_53 : decode cX0_peaceful 53 = .ok (.aload_n 0, 1) := dk_42 (dk_at dksX0_peaceful_2 6 rfl rfl)
theorem dX0_peaceful_54 : decode cX0_peaceful 54 = .ok (.invokevirtual 162, 3) := dk_182 0 162 (dk_at dksX0_peaceful_2 7 rfl rfl)
theorem dX0_peaceful_57 : decode cX0_peaceful 57 = .ok (.getfield 319, 3) := dk_180 1 63 (dk_at dksX0_peaceful_2 10 rfl rfl)
theorem dX0_peaceful_60 : decode cX0_peaceful 60 = .ok (.bipush 8, 2) := dk_16 8 (dk_at dksX0_peaceful_2 13 rfl rfl)
theorem dX0_peaceful_62 : decode cX0_peaceful 62 = .ok (.aload_n 0, 1) := dk_42 (dk_at dksX0_peaceful_2 15 rfl rfl)
theorem dX0_peaceful_63 : decode cX0_peaceful 63 = .ok (.invokevirtual 162, 3) := dk_182 0 162 (dk_at dksX0_peaceful_2 16 rfl rfl)
theorem dX0_peaceful_66 : decode cX0_peaceful 66 = .ok (.getfield 330, 3) := dk_180 1 74 (dk_at dksX0_peaceful_2 19 rfl rfl)
theorem dX0_peaceful_69 : decode cX0_peaceful 69 = .ok (.iload_n 1, 1) := dk_27 (dk_at dksX0_peaceful_2 22 rfl rfl)
theorem dX0_peaceful_70 : decode cX0_peaceful 70 = .ok (.iaload, 1) := dk_46 (dk_at dksX0_peaceful_2 23 rfl rfl)
theorem dX0_peaceful_71 : decode cX0_peaceful 71 = .ok (.imul, 1) := dk_104 (dk_at dksX0_peaceful_3 0 rfl rfl)
theorem dX0_peaceful_72 : decode cX0_peaceful 72 = .ok (.iload 4, 2) := dk_21 4 (dk_at dksX0_peaceful_3 1 rfl rfl)
theorem dX0_peaceful_74 : decode cX0_peaceful 74 = .ok (.iadd, 1) := dk_96 (dk_at dksX0_peaceful_3 3 rfl rfl)
theorem dX0_peaceful_75 : decode cX0_peaceful 75 = .ok (.iaload, 1) := dk_46 (dk_at dksX0_peaceful_3 4 rfl rfl)
theorem dX0_peaceful_76 : decode cX0_peaceful 76 = .ok (.ifCond .eq 62, 3) := dk_153 0 62 (dk_at dksX0_peaceful_3 5 rfl rfl)
theorem dX0_peaceful_79 : decode cX0_peaceful 79 = .ok (.iload_n 3, 1) := dk_29 (dk_at dksX0_peaceful_3 8 rfl rfl)
theorem dX0_peaceful_80 : decode cX0_peaceful 80 = .ok (.ifCond .lt 15, 3) := dk_155 0 15 (dk_at dksX0_peaceful_3 9 rfl rfl)
theorem dX0_peaceful_83 : decode cX0_peaceful 83 = .ok (.iload 5, 2) := dk_21 5 (dk_at dksX0_peaceful_3 12 rfl rfl)
theorem dX0_peaceful_85 : decode cX0_peaceful 85 = .ok (.aload_n 0, 1) := dk_42 (dk_at dksX0_peaceful_3 14 rfl rfl)
theorem dX0_peaceful_86 : decode cX0_peaceful 86 = .ok (.getfield 440, 3) := dk_180 1 184 (dk_at dksX0_peaceful_3 15 rfl rfl)
theorem dX0_peaceful_89 : decode cX0_peaceful 89 = .ok (.if_icmp .lt 6, 3) := dk_161 0 6 (dk_at dksX0_peaceful_3 18 rfl rfl)
theorem dX0_peaceful_92 : decode cX0_peaceful 92 = .ok (.goto 46, 3) := dk_167 0 46 (dk_at dksX0_peaceful_3 21 rfl rfl)
theorem dX0_peaceful_95 : decode cX0_peaceful 95 = .ok (.aload_n 0, 1) := dk_42 (dk_at dksX0_peaceful_4 0 rfl rfl)
theorem dX0_peaceful_96 : decode cX0_peaceful 96 = .ok (.iload_n 1, 1) := dk_27 (dk_at dksX0_peaceful_4 1 rfl rfl)
theorem dX0_peaceful_97 : decode cX0_peaceful 97 = .ok (.iload 4, 2) := dk_21 4 (dk_at dksX0_peaceful_4 2 rfl rfl)
theorem dX0_peaceful_99 : decode cX0_peaceful 99 = .ok (.iload_n 2, 1) := dk_28 (dk_at dksX0_peaceful_4 4 rfl rfl)
theorem dX0_peaceful_100 : decode cX0_peaceful 100 = .ok (.invokevirtual 425, 3) := dk_182 1 169 (dk_at dksX0_peaceful_4 5 rfl rfl)
theorem dX0_peaceful_103 : decode cX0_peaceful 103 = .ok (.invokestatic 443, 3) := dk_184 1 187 (dk_at dksX0_peaceful_4 8 rfl rfl)
theorem dX0_peaceful_106 : decode cX0_peaceful 106 = .ok (.istore 6, 2) := dk_54 6 (dk_at dksX0_peaceful_4 11 rfl rfl)
theorem dX0_peaceful_108 : decode cX0_peaceful 108 = .ok (.iload 6, 2) := dk_21 6 (dk_at dksX0_peaceful_4 13 rfl rfl)
theorem dX0_peaceful_110 : decode cX0_peaceful 110 = .ok (.ifCond .lt 19, 3) := dk_155 0 19 (dk_at dksX0_peaceful_4 15 rfl rfl)
theorem dX0_peaceful_113 : decode cX0_peaceful 113 = .ok (.aload_n 0, 1) := dk_42 (dk_at dksX0_peaceful_4 18 rfl rfl)
theorem dX0_peaceful_114 : decode cX0_peaceful 114 = .ok (.invokevirtual 162, 3) := dk_182 0 162 (dk_at dksX0_peaceful_4 19 rfl rfl)
theorem dX0_peaceful_117 : decode cX0_peaceful 117 = .ok (.getfield 292, 3) := dk_180 1 36 (dk_at dksX0_peaceful_5 0 rfl rfl)
theorem dX0_peaceful_120 : decode cX0_peaceful 120 = .ok (.iload 6, 2) := dk_21 6 (dk_at dksX0_peaceful_5 3 rfl rfl)
theorem dX0_peaceful_122 : decode cX0_peaceful 122 = .ok (.iaload, 1) := dk_46 (dk_at dksX0_peaceful_5 5 rfl rfl)
theorem dX0_peaceful_123 : decode cX0_peaceful 123 = .ok (.ifCond .eq 6, 3) := dk_153 0 6 (dk_at dksX0_peaceful_5 6 rfl rfl)
theorem dX0_peaceful_126 : decode cX0_peaceful 126 = .ok (.goto 12, 3) := dk_167 0 12 (dk_at dksX0_peaceful_5 9 rfl rfl)
theorem dX0_peaceful_129 : decode cX0_peaceful 129 = .ok (.iload 4, 2) := dk_21 4 (dk_at dksX0_peaceful_5 12 rfl rfl)
theorem dX0_peaceful_131 : decode cX0_peaceful 131 = .ok (.istore_n 3, 1) := dk_62 (dk_at dksX0_peaceful_5 14 rfl rfl)
theorem dX0_peaceful_132 : decode cX0_peaceful 132 = .ok (.aload_n 0, 1) := dk_42 (dk_at dksX0_peaceful_5 15 rfl rfl)
theorem dX0_peaceful_133 : decode cX0_peaceful 133 = .ok (.iload 5, 2) := dk_21 5 (dk_at dksX0_peaceful_5 16 rfl rfl)
theorem dX0_peaceful_135 : decode cX0_peaceful 135 = .ok (.putfield 440, 3) := dk_181 1 184 (dk_at dksX0_peaceful_5 18 rfl rfl)
theorem dX0_peaceful_138 : decode cX0_peaceful 138 = .ok (.iinc 4 1, 3) := dk_132 4 1 (dk_at dksX0_peaceful_5 21 rfl rfl)
theorem dX0_peaceful_141 : decode cX0_peaceful 141 = .ok (.goto (-127), 3) := dk_167 255 129 (dk_at dksX0_peaceful_6 0 rfl rfl)
theorem dX0_peaceful_144 : decode cX0_peaceful 144 = .ok (.iload_n 3, 1) := dk_29 (dk_at dksX0_peaceful_6 3 rfl rfl)
theorem dX0_peaceful_145 : decode cX0_peaceful 145 = .ok (.ireturn, 1) := dk_172 (dk_at dksX0_peaceful_6 4 rfl rfl)
abbrev cX0_peaceCost : ByteArray := prog_1_method_86_code
def yX0_peaceCost : MethodName := ⟨RX0, "peaceCost", "(I)I"⟩
def dkwX0_peaceCost_2 : List UInt8 := [182, 1, 190, 156, 0, 7, 2, 167, 0, 7, 42, 180, 1, 184, 182, 1, 60, 172]
abbrev dktX0_peaceCost_2 : List UInt8 := dkwX0_peaceCost_2 ++ []
def dkwX0_peaceCost_1 : List UInt8 := [16, 7, 167, 0, 4, 3, 181, 0, 85, 42, 180, 0, 85, 158, 0, 7, 2, 167, 0, 23, 42, 42, 27]
abbrev dktX0_peaceCost_1 : List UInt8 := dkwX0_peaceCost_1 ++ dktX0_peaceCost_2
def dkwX0_peaceCost_0 : List UInt8 := [42, 42, 27, 182, 0, 186, 154, 0, 7, 4, 167, 0, 20, 42, 182, 0, 162, 27, 182, 0, 244, 153, 0, 8]
abbrev dktX0_peaceCost_0 : List UInt8 := dkwX0_peaceCost_0 ++ dktX0_peaceCost_1
theorem dksX0_peaceCost_0 : cX0_peaceCost.data.toList.drop 0 = dktX0_peaceCost_0 := by decide +kernel
theorem dksX0_peaceCost_1 : cX0_peaceCost.data.toList.drop 24 = dktX0_peaceCost_1 := dk_seg dksX0_peaceCost_0 24 rfl rfl
theorem dksX0_peaceCost_2 : cX0_peaceCost.data.toList.drop 47 = dktX0_peaceCost_2 := dk_seg dksX0_peaceCost_1 23 rfl rfl
theorem dX0_peaceCost_0 : decode cX0_peaceCost 0 = .ok (.aload_n 0, 1) := dk_42 (dk_at dksX0_peaceCost_0 0 rfl rfl)
theorem dX0_peaceCost_1 : decode cX0_peaceCost 1 = .ok (.aload_n 0, 1) := dk_42 (dk_at dksX0_peaceCost_0 1 rfl rfl)
theorem dX0_peaceCost_2 : decode cX0_peaceCost 2 = .ok (.iload_n 1, 1) := dk_27 (dk_at dksX0_peaceCost_0 2 rfl rfl)
theorem dX0_peaceCost_3 : decode cX0_peaceCost 3 = .ok (.invokevirtual 186, 3) := dk_182 0 186 (dk_at dksX0_peaceCost_0 3 rfl rfl)
theorem dX0_peaceCost_6 : decode cX0_peaceCost 6 = .ok (.ifCond .ne 7, 3) := dk_154 0 7 (dk_at dksX0_peaceCost_0 6 rfl rfl)
theorem dX0_peaceCost_9 : decode cX0_peaceCost 9 = .ok (.iconst 1, 1) := dk_4 (dk_at dksX0_peaceCost_0 9 rfl rfl)
theorem dX0_peaceCost_10 : decode cX0_peaceCost 10 = .ok (.goto 20, 3) := dk_167 0 20 (dk_at dksX0_peaceCost_0 10 rfl rfl)
theorem dX0_peaceCost_13 : decode cX0_peaceCost 13 = .ok (.aload_n 0, 1) := dk_42 (dk_at dksX0_peaceCost_0 13 rfl rfl)
theorem dX0_peaceCost_14 : decode cX0_peaceCost 14 = .ok (.invokevirtual 162, 3) := dk_182 0 162 (dk_at dksX0_peaceCost_0 14 rfl rfl)
theorem dX0_peaceCost_17 : decode cX0_peaceCost 17 = .ok (.iload_n 1, 1) := dk_27 (dk_at dksX0_peaceCost_0 17 rfl rfl)
theorem dX0_peaceCost_18 : decode cX0_peaceCost 18 = .ok (.invokevirtual 244, 3) := dk_182 0 244 (dk_at dksX0_peaceCost_0 18 rfl rfl)
theorem dX0_peaceCost_21 : decode cX0_peaceCost 21 = .ok (.ifCond .eq 8, 3) := dk_153 0 8 (dk_at dksX0_peaceCost_0 21 rfl rfl)
theorem dX0_peaceCost_24 : decode cX0_peaceCost 24 = .ok (.bipush 7, 2) := dk_16 7 (dk_at dksX0_peaceCost_1 0 rfl rfl)
theorem dX0_peaceCost_26 : decode cX0_peaceCost 26 = .ok (.goto 4, 3) := dk_167 0 4 (dk_at dksX0_peaceCost_1 2 rfl rfl)
theorem dX0_peaceCost_29 : decode cX0_peaceCost 29 = .ok (.iconst 0, 1) := dk_3 (dk_at dksX0_peaceCost_1 5 rfl rfl)
theorem dX0_peaceCost_30 : decode cX0_peaceCost 30 = .ok (.putfield 85, 3) := dk_181 0 85 (dk_at dksX0_peaceCost_1 6 rfl rfl)
theorem dX0_peaceCost_33 : decode cX0_peaceCost 33 = .ok (.aload_n 0, 1) := dk_42 (dk_at dksX0_peaceCost_1 9 rfl rfl)
theorem dX0_peaceCost_34 : decode cX0_peaceCost 34 = .ok (.getfield 85, 3) := dk_180 0 85 (dk_at dksX0_peaceCost_1 10 rfl rfl)
theorem dX0_peaceCost_37 : decode cX0_peaceCost 37 = .ok (.ifCond .le 7, 3) := dk_158 0 7 (dk_at dksX0_peaceCost_1 13 rfl rfl)
theorem dX0_peaceCost_40 : decode cX0_peaceCost 40 = .ok (.iconst (-1), 1) := dk_2 (dk_at dksX0_peaceCost_1 16 rfl rfl)
theorem dX0_peaceCost_41 : decode cX0_peaceCost 41 = .ok (.goto 23, 3) := dk_167 0 23 (dk_at dksX0_peaceCost_1 17 rfl rfl)
theorem dX0_peaceCost_44 : decode cX0_peaceCost 44 = .ok (.aload_n 0, 1) := dk_42 (dk_at dksX0_peaceCost_1 20 rfl rfl)
theorem dX0_peaceCost_45 : decode cX0_peaceCost 45 = .ok (.aload_n 0, 1) := dk_42 (dk_at dksX0_peaceCost_1 21 rfl rfl)
theorem dX0_peaceCost_46 : decode cX0_peaceCost 46 = .ok (.iload_n 1, 1) := dk_27 (dk_at dksX0_peaceCost_1 22 rfl rfl)
theorem dX0_peaceCost_47 : decode cX0_peaceCost 47 = .ok (.invokevirtual 446, 3) := dk_182 1 190 (dk_at dksX0_peaceCost_2 0 rfl rfl)
theorem dX0_peaceCost_50 : decode cX0_peaceCost 50 = .ok (.ifCond .ge 7, 3) := dk_156 0 7 (dk_at dksX0_peaceCost_2 3 rfl rfl)
theorem dX0_peaceCost_53 : decode cX0_peaceCost 53 = .ok (.iconst (-1), 1) := dk_2 (dk_at dksX0_peaceCost_2 6 rfl rfl)
theorem dX0_peaceCost_54 : decode cX0_peaceCost 54 = .ok (.goto 7, 3) := dk_167 0 7 (dk_at dksX0_peaceCost_2 7 rfl rfl)
theorem dX0_peaceCost_57 : decode cX0_peaceCost 57 = .ok (.aload_n 0, 1) := dk_42 (dk_at dksX0_peaceCost_2 10 rfl rfl)
theorem dX0_peaceCost_58 : decode cX0_peaceCost 58 = .ok (.getfield 440, 3) := dk_180 1 184 (dk_at dksX0_peaceCost_2 11 rfl rfl)
theorem dX0_peaceCost_61 : decode cX0_peaceCost 61 = .ok (.invokevirtual 316, 3) := dk_182 1 60 (dk_at dksX0_peaceCost_2 14 rfl rfl)
theorem dX0_peaceCost_64 : decode cX0_peaceCost 64 = .ok (.ireturn, 1) := dk_172 (dk_at dksX0_peaceCost_2 17 rfl rfl)
abbrev cX0_voyage : ByteArray := prog_1_method_93_code
def yX0_voyage : MethodName := ⟨RX0, "voyage", "(II)I"⟩
def dkwX0_voyage_1 : List UInt8 := [180, 1, 196, 172]
abbrev dktX0_voyage_1 : List UInt8 := dkwX0_voyage_1 ++ []
def dkwX0_voyage_0 : List UInt8 := [42, 42, 27, 28, 182, 1, 217, 181, 0, 85, 42, 180, 0, 85, 158, 0, 7, 2, 167, 0, 7, 42]
abbrev dktX0_voyage_0 : List UInt8 := dkwX0_voyage_0 ++ dktX0_voyage_1
theorem dksX0_voyage_0 : cX0_voyage.data.toList.drop 0 = dktX0_voyage_0 := by decide +kernel
theorem dksX0_voyage_1 : cX0_voyage.data.toList.drop 22 = dktX0_voyage_1 := dk_seg dksX0_voyage_0 22 rfl rfl
theorem dX0_voyage_0 : decode cX0_voyage 0 = .ok (.aload_n 0, 1) := dk_42 (dk_at dksX0_voyage_0 0 rfl rfl)
theorem dX0_voyage_1 : decode cX0_voyage 1 = .ok (.aload_n 0, 1) := dk_42 (dk_at dksX0_voyage_0 1 rfl rfl)
theorem dX0_voyage_2 : decode cX0_voyage 2 = .ok (.iload_n 1, 1) := dk_27 (dk_at dksX0_voyage_0 2 rfl rfl)
theorem dX0_voyage_3 : decode cX0_voyage 3 = .ok (.iload_n 2, 1) := dk_28 (dk_at dksX0_voyage_0 3 rfl rfl)
theorem dX0_voyage_4 : decode cX0_voyage 4 = .ok (.invokevirtual 473, 3) := dk_182 1 217 (dk_at dksX0_voyage_0 4 rfl rfl)
theorem dX0_voyage_7 : decode cX0_voyage 7 = .ok (.putfield 85, 3) := dk_181 0 85 (dk_at dksX0_voyage_0 7 rfl rfl)
theorem dX0_voyage_10 : decode cX0_voyage 10 = .ok (.aload_n 0, 1) := dk_42 (dk_at dksX0_voyage_0 10 rfl rfl)
theorem dX0_voyage_11 : decode cX0_voyage 11 = .ok (.getfield 85, 3) := dk_180 0 85 (dk_at dksX0_voyage_0 11 rfl rfl)
theorem dX0_voyage_14 : decode cX0_voyage 14 = .ok (.ifCond .le 7, 3) := dk_158 0 7 (dk_at dksX0_voyage_0 14 rfl rfl)
theorem dX0_voyage_17 : decode cX0_voyage 17 = .ok (.iconst (-1), 1) := dk_2 (dk_at dksX0_voyage_0 17 rfl rfl)
theorem dX0_voyage_18 : decode cX0_voyage 18 = .ok (.goto 7, 3) := dk_167 0 7 (dk_at dksX0_voyage_0 18 rfl rfl)
theorem dX0_voyage_21 : decode cX0_voyage 21 = .ok (.aload_n 0, 1) := dk_42 (dk_at dksX0_voyage_0 21 rfl rfl)
theorem dX0_voyage_22 : decode cX0_voyage 22 = .ok (.getfield 452, 3) := dk_180 1 196 (dk_at dksX0_voyage_1 0 rfl rfl)
theorem dX0_voyage_25 : decode cX0_voyage 25 = .ok (.ireturn, 1) := dk_172 (dk_at dksX0_voyage_1 3 rfl rfl)
abbrev cX0_whyNoVoyage : ByteArray := prog_1_method_92_code
def yX0_whyNoVoyage : MethodName := ⟨RX0, "whyNoVoyage", "(II)I"⟩
def dkwX0_whyNoVoyage_3 : List UInt8 := [3, 172]
abbrev dktX0_whyNoVoyage_3 : List UInt8 := dkwX0_whyNoVoyage_3 ++ []
def dkwX0_whyNoVoyage_2 : List UInt8 := [42, 2, 181, 1, 196, 42, 27, 3, 28, 182, 1, 210, 42, 180, 1, 196, 156, 0, 8, 16, 6, 167, 0, 4]
abbrev dktX0_whyNoVoyage_2 : List UInt8 := dkwX0_whyNoVoyage_2 ++ dktX0_whyNoVoyage_3
def dkwX0_whyNoVoyage_1 : List UInt8 := [182, 0, 162, 27, 182, 0, 244, 153, 0, 6, 16, 7, 172, 42, 180, 0, 66, 42, 182, 0, 162, 182, 0, 223]
abbrev dktX0_whyNoVoyage_1 : List UInt8 := dkwX0_whyNoVoyage_1 ++ dktX0_whyNoVoyage_2
def dkwX0_whyNoVoyage_0 : List UInt8 := [42, 27, 182, 0, 186, 153, 0, 15, 28, 133, 10, 20, 1, 19, 184, 0, 169, 154, 0, 5, 4, 172, 42]
abbrev dktX0_whyNoVoyage_0 : List UInt8 := dkwX0_whyNoVoyage_0 ++ dktX0_whyNoVoyage_1
theorem dksX0_whyNoVoyage_0 : cX0_whyNoVoyage.data.toList.drop 0 = dktX0_whyNoVoyage_0 := by decide +kernel
theorem dksX0_whyNoVoyage_1 : cX0_whyNoVoyage.data.toList.drop 23 = dktX0_whyNoVoyage_1 := dk_seg dksX0_whyNoVoyage_0 23 rfl rfl
theorem dksX0_whyNoVoyage_2 : cX0_whyNoVoyage.data.toList.drop 47 = dktX0_whyNoVoyage_2 := dk_seg dksX0_whyNoVoyage_1 24 rfl rfl
theorem dksX0_whyNoVoyage_3 : cX0_whyNoVoyage.data.toList.drop 71 = dktX0_whyNoVoyage_3 := dk_seg dksX0_whyNoVoyage_2 24 rfl rfl
theorem dX0_whyNoVoyage_0 : decode cX0_whyNoVoyage 0 = .ok (.aload_n 0, 1) := dk_42 (dk_at dksX0_whyNoVoyage_0 0 rfl rfl)
theorem dX0_whyNoVoyage_1 : decode cX0_whyNoVoyage 1 = .ok (.iload_n 1, 1) := dk_27 (dk_at dksX0_whyNoVoyage_0 1 rfl rfl)
theorem dX0_whyNoVoyage_2 : decode cX0_whyNoVoyage 2 = .ok (.invokevirtual 186, 3) := dk_182 0 186 (dk_at dksX0_whyNoVoyage_0 2 rfl rfl)
theorem dX0_whyNoVoyage_5 : decode cX0_whyNoVoyage 5 = .ok (.ifCond .eq 15, 3) := dk_153 0 15 (dk_at dksX0_whyNoVoyage_0 5 rfl rfl)
theorem dX0_whyNoVoyage_8 : decode cX0_whyNoVoyage 8 = .ok (.iload_n 2, 1) := dk_28 (dk_at dksX0_whyNoVoyage_0 8 rfl rfl)
theorem dX0_whyNoVoyage_9 : decode cX0_whyNoVoyage 9 = .ok (.i2l, 1) := dk_133 (dk_at dksX0_whyNoVoyage_0 9 rfl rfl)
theorem dX0_whyNoVoyage_10 : decode cX0_whyNoVoyage 10 = .ok (.lconst 1, 1) := dk_10 (dk_at dksX0_whyNoVoyage_0 10 rfl rfl)
theorem dX0_whyNoVoyage_11 : decode cX0_whyNoVoyage 11 = .ok (.ldc2_w 275, 3) := dk_20 1 19 (dk_at dksX0_whyNoVoyage_0 11 rfl rfl)
theorem dX0_whyNoVoyage_14 : decode cX0_whyNoVoyage 14 = .ok (.invokestatic 169, 3) := dk_184 0 169 (dk_at dksX0_whyNoVoyage_0 14 rfl rfl)
theorem dX0_whyNoVoyage_17 : decode cX0_whyNoVoyage 17 = .ok (.ifCond .ne 5, 3) := dk_154 0 5 (dk_at dksX0_whyNoVoyage_0 17 rfl rfl)
theorem dX0_whyNoVoyage_20 : decode cX0_whyNoVoyage 20 = .ok (.iconst 1, 1) := dk_4 (dk_at dksX0_whyNoVoyage_0 20 rfl rfl)
theorem dX0_whyNoVoyage_21 : decode cX0_whyNoVoyage 21 = .ok (.ireturn, 1) := dk_172 (dk_at dksX0_whyNoVoyage_0 21 rfl rfl)
theorem dX0_whyNoVoyage_22 : decode cX0_whyNoVoyage 22 = .ok (.aload_n 0, 1) := dk_42 (dk_at dksX0_whyNoVoyage_0 22 rfl rfl)
theorem dX0_whyNoVoyage_23 : decode cX0_whyNoVoyage 23 = .ok (.invokevirtual 162, 3) := dk_182 0 162 (dk_at dksX0_whyNoVoyage_1 0 rfl rfl)
theorem dX0_whyNoVoyage_26 : decode cX0_whyNoVoyage 26 = .ok (.iload_n 1, 1) := dk_27 (dk_at dksX0_whyNoVoyage_1 3 rfl rfl)
theorem dX0_whyNoVoyage_27 : decode cX0_whyNoVoyage 27 = .ok (.invokevirtual 244, 3) := dk_182 0 244 (dk_at dksX0_whyNoVoyage_1 4 rfl rfl)
theorem dX0_whyNoVoyage_30 : decode cX0_whyNoVoyage 30 = .ok (.ifCond .eq 6, 3) := dk_153 0 6 (dk_at dksX0_whyNoVoyage_1 7 rfl rfl)
theorem dX0_whyNoVoyage_33 : decode cX0_whyNoVoyage 33 = .ok (.bipush 7, 2) := dk_16 7 (dk_at dksX0_whyNoVoyage_1 10 rfl rfl)
theorem dX0_whyNoVoyage_35 : decode cX0_whyNoVoyage 35 = .ok (.ireturn, 1) := dk_172 (dk_at dksX0_whyNoVoyage_1 12 rfl rfl)
theorem dX0_whyNoVoyage_36 : decode cX0_whyNoVoyage 36 = .ok (.aload_n 0, 1) := dk_42 (dk_at dksX0_whyNoVoyage_1 13 rfl rfl)
theorem dX0_whyNoVoyage_37 : decode cX0_whyNoVoyage 37 = .ok (.getfield 66, 3) := dk_180 0 66 (dk_at dksX0_whyNoVoyage_1 14 rfl rfl)
theorem dX0_whyNoVoyage_40 : decode cX0_whyNoVoyage 40 = .ok (.aload_n 0, 1) := dk_42 (dk_at dksX0_whyNoVoyage_1 17 rfl rfl)
theorem dX0_whyNoVoyage_41 : decode cX0_whyNoVoyage 41 = .ok (.invokevirtual 162, 3) := dk_182 0 162 (dk_at dksX0_whyNoVoyage_1 18 rfl rfl)
theorem dX0_whyNoVoyage_44 : decode cX0_whyNoVoyage 44 = .ok (.invokevirtual 223, 3) := dk_182 0 223 (dk_at dksX0_whyNoVoyage_1 21 rfl rfl)
theorem dX0_whyNoVoyage_47 : decode cX0_whyNoVoyage 47 = .ok (.aload_n 0, 1) := dk_42 (dk_at dksX0_whyNoVoyage_2 0 rfl rfl)
theorem dX0_whyNoVoyage_48 : decode cX0_whyNoVoyage 48 = .ok (.iconst (-1), 1) := dk_2 (dk_at dksX0_whyNoVoyage_2 1 rfl rfl)
theorem dX0_whyNoVoyage_49 : decode cX0_whyNoVoyage 49 = .ok (.putfield 452, 3) := dk_181 1 196 (dk_at dksX0_whyNoVoyage_2 2 rfl rfl)
theorem dX0_whyNoVoyage_52 : decode cX0_whyNoVoyage 52 = .ok (.aload_n 0, 1) := dk_42 (dk_at dksX0_whyNoVoyage_2 5 rfl rfl)
theorem dX0_whyNoVoyage_53 : decode cX0_whyNoVoyage 53 = .ok (.iload_n 1, 1) := dk_27 (dk_at dksX0_whyNoVoyage_2 6 rfl rfl)
theorem dX0_whyNoVoyage_54 : decode cX0_whyNoVoyage 54 = .ok (.iconst 0, 1) := dk_3 (dk_at dksX0_whyNoVoyage_2 7 rfl rfl)
theorem dX0_whyNoVoyage_55 : decode cX0_whyNoVoyage 55 = .ok (.iload_n 2, 1) := dk_28 (dk_at dksX0_whyNoVoyage_2 8 rfl rfl)
theorem dX0_whyNoVoyage_56 : decode cX0_whyNoVoyage 56 = .ok (.invokevirtual 466, 3) := dk_182 1 210 (dk_at dksX0_whyNoVoyage_2 9 rfl rfl)
theorem dX0_whyNoVoyage_59 : decode cX0_whyNoVoyage 59 = .ok (.aload_n 0, 1) := dk_42 (dk_at dksX0_whyNoVoyage_2 12 rfl rfl)
theorem dX0_whyNoVoyage_60 : decode cX0_whyNoVoyage 60 = .ok (.getfield 452, 3) := dk_180 1 196 (dk_at dksX0_whyNoVoyage_2 13 rfl rfl)
theorem dX0_whyNoVoyage_63 : decode cX0_whyNoVoyage 63 = .ok (.ifCond .ge 8, 3) := dk_156 0 8 (dk_at dksX0_whyNoVoyage_2 16 rfl rfl)
theorem dX0_whyNoVoyage_66 : decode cX0_whyNoVoyage 66 = .ok (.bipush 6, 2) := dk_16 6 (dk_at dksX0_whyNoVoyage_2 19 rfl rfl)
theorem dX0_whyNoVoyage_68 : decode cX0_whyNoVoyage 68 = .ok (.goto 4, 3) := dk_167 0 4 (dk_at dksX0_whyNoVoyage_2 21 rfl rfl)
theorem dX0_whyNoVoyage_71 : decode cX0_whyNoVoyage 71 = .ok (.iconst 0, 1) := dk_3 (dk_at dksX0_whyNoVoyage_3 0 rfl rfl)
theorem dX0_whyNoVoyage_72 : decode cX0_whyNoVoyage 72 = .ok (.ireturn, 1) := dk_172 (dk_at dksX0_whyNoVoyage_3 1 rfl rfl)
abbrev cX0_triesLegs : ByteArray := prog_1_method_90_code
def yX0_triesLegs : MethodName := ⟨RX0, "triesLegs", "(III)V"⟩
def dkwX0_triesLegs_11 : List UInt8 := [132, 5, 1, 167, 255, 88, 177]
abbrev dktX0_triesLegs_11 : List UInt8 := dkwX0_triesLegs_11 ++ []
def dkwX0_triesLegs_10 : List UInt8 := [182, 1, 208, 87, 167, 255, 236, 42, 27, 28, 4, 96, 29, 182, 1, 210, 132, 6, 1, 167, 255, 131]
abbrev dktX0_triesLegs_10 : List UInt8 := dkwX0_triesLegs_10 ++ dktX0_triesLegs_11
def dkwX0_triesLegs_9 : List UInt8 := [21, 5, 182, 1, 141, 87, 42, 180, 0, 66, 27, 182, 0, 244, 153, 0, 15, 42, 180, 0, 66, 27]
abbrev dktX0_triesLegs_9 : List UInt8 := dkwX0_triesLegs_9 ++ dktX0_triesLegs_10
def dkwX0_triesLegs_8 : List UInt8 := [21, 6, 42, 180, 0, 66, 180, 0, 173, 160, 0, 7, 2, 167, 0, 5, 21, 6, 79, 42, 180, 0, 66, 27]
abbrev dktX0_triesLegs_8 : List UInt8 := dkwX0_triesLegs_8 ++ dktX0_triesLegs_9
def dkwX0_triesLegs_7 : List UInt8 := [154, 0, 6, 167, 0, 82, 28, 154, 0, 35, 42, 180, 0, 73, 3, 21, 5, 79, 42, 180, 0, 73, 4]
abbrev dktX0_triesLegs_7 : List UInt8 := dkwX0_triesLegs_7 ++ dktX0_triesLegs_8
def dkwX0_triesLegs_6 : List UInt8 := [182, 1, 202, 21, 6, 42, 180, 0, 66, 180, 0, 173, 162, 0, 16, 42, 27, 21, 6, 182, 1, 205]
abbrev dktX0_triesLegs_6 : List UInt8 := dkwX0_triesLegs_6 ++ dktX0_triesLegs_7
def dkwX0_triesLegs_5 : List UInt8 := [154, 0, 6, 167, 0, 134, 3, 54, 6, 21, 6, 42, 180, 0, 66, 180, 0, 173, 163, 0, 119, 42, 27, 28]
abbrev dktX0_triesLegs_5 : List UInt8 := dkwX0_triesLegs_5 ++ dktX0_triesLegs_6
def dkwX0_triesLegs_4 : List UInt8 := [180, 0, 176, 162, 0, 162, 42, 180, 0, 66, 180, 1, 69, 16, 6, 21, 4, 104, 21, 5, 96, 46]
abbrev dktX0_triesLegs_4 : List UInt8 := dkwX0_triesLegs_4 ++ dktX0_triesLegs_5
def dkwX0_triesLegs_3 : List UInt8 := [182, 1, 199, 42, 180, 0, 66, 180, 1, 74, 27, 46, 54, 4, 3, 54, 5, 21, 5, 42, 180, 0, 66]
abbrev dktX0_triesLegs_3 : List UInt8 := dkwX0_triesLegs_3 ++ dktX0_triesLegs_4
def dkwX0_triesLegs_2 : List UInt8 := [180, 0, 73, 3, 46, 79, 42, 180, 0, 76, 4, 42, 180, 0, 73, 4, 46, 79, 177, 42, 27, 28]
abbrev dktX0_triesLegs_2 : List UInt8 := dkwX0_triesLegs_2 ++ dktX0_triesLegs_3
def dkwX0_triesLegs_1 : List UInt8 := [163, 0, 4, 177, 42, 42, 180, 0, 66, 180, 1, 91, 27, 46, 181, 1, 196, 42, 180, 0, 76, 3, 42]
abbrev dktX0_triesLegs_1 : List UInt8 := dkwX0_triesLegs_1 ++ dktX0_triesLegs_2
def dkwX0_triesLegs_0 : List UInt8 := [42, 27, 182, 1, 193, 28, 29, 160, 0, 58, 42, 180, 0, 66, 180, 1, 91, 27, 46, 42, 180, 1, 196]
abbrev dktX0_triesLegs_0 : List UInt8 := dkwX0_triesLegs_0 ++ dktX0_triesLegs_1
theorem dksX0_triesLegs_0 : cX0_triesLegs.data.toList.drop 0 = dktX0_triesLegs_0 := by decide +kernel
theorem dksX0_triesLegs_1 : cX0_triesLegs.data.toList.drop 23 = dktX0_triesLegs_1 := dk_seg dksX0_triesLegs_0 23 rfl rfl
theorem dksX0_triesLegs_2 : cX0_triesLegs.data.toList.drop 46 = dktX0_triesLegs_2 := dk_seg dksX0_triesLegs_1 23 rfl rfl
theorem dksX0_triesLegs_3 : cX0_triesLegs.data.toList.drop 68 = dktX0_triesLegs_3 := dk_seg dksX0_triesLegs_2 22 rfl rfl
theorem dksX0_triesLegs_4 : cX0_triesLegs.data.toList.drop 91 = dktX0_triesLegs_4 := dk_seg dksX0_triesLegs_3 23 rfl rfl
theorem dksX0_triesLegs_5 : cX0_triesLegs.data.toList.drop 113 = dktX0_triesLegs_5 := dk_seg dksX0_triesLegs_4 22 rfl rfl
theorem dksX0_triesLegs_6 : cX0_triesLegs.data.toList.drop 137 = dktX0_triesLegs_6 := dk_seg dksX0_triesLegs_5 24 rfl rfl
theorem dksX0_triesLegs_7 : cX0_triesLegs.data.toList.drop 159 = dktX0_triesLegs_7 := dk_seg dksX0_triesLegs_6 22 rfl rfl
theorem dksX0_triesLegs_8 : cX0_triesLegs.data.toList.drop 182 = dktX0_triesLegs_8 := dk_seg dksX0_triesLegs_7 23 rfl rfl
theorem dksX0_triesLegs_9 : cX0_triesLegs.data.toList.drop 206 = dktX0_triesLegs_9 := dk_seg dksX0_triesLegs_8 24 rfl rfl
theorem dksX0_triesLegs_10 : cX0_triesLegs.data.toList.drop 228 = dktX0_triesLegs_10 := dk_seg dksX0_triesLegs_9 22 rfl rfl
theorem dksX0_triesLegs_11 : cX0_triesLegs.data.toList.drop 250 = dktX0_triesLegs_11 := dk_seg dksX0_triesLegs_10 22 rfl rfl
theorem dX0_triesLegs_0 : decode cX0_triesLegs 0 = .ok (.aload_n 0, 1) := dk_42 (dk_at dksX0_triesLegs_0 0 rfl rfl)
theorem dX0_triesLegs_1 : decode cX0_triesLegs 1 = .ok (.iload_n 1, 1) := dk_27 (dk_at dksX0_triesLegs_0 1 rfl rfl)
theorem dX0_triesLegs_2 : decode cX0_triesLegs 2 = .ok (.invokevirtual 449, 3) := dk_182 1 193 (dk_at dksX0_triesLegs_0 2 rfl rfl)
theorem dX0_triesLegs_5 : decode cX0_triesLegs 5 = .ok (.iload_n 2, 1) := dk_28 (dk_at dksX0_triesLegs_0 5 rfl rfl)
theorem dX0_triesLegs_6 : decode cX0_triesLegs 6 = .ok (.iload_n 3, 1) := dk_29 (dk_at dksX0_triesLegs_0 6 rfl rfl)
theorem dX0_triesLegs_7 : decode cX0_triesLegs 7 = .ok (.if_icmp .ne 58, 3) := dk_160 0 58 (dk_at dksX0_triesLegs_0 7 rfl rfl)
theorem dX0_triesLegs_10 : decode cX0_triesLegs 10 = .ok (.aload_n 0, 1) := dk_42 (dk_at dksX0_triesLegs_0 10 rfl rfl)
theorem dX0_triesLegs_11 : decode cX0_triesLegs 11 = .ok (.getfield 66, 3) := dk_180 0 66 (dk_at dksX0_triesLegs_0 11 rfl rfl)
theorem dX0_triesLegs_14 : decode cX0_triesLegs 14 = .ok (.getfield 347, 3) := dk_180 1 91 (dk_at dksX0_triesLegs_0 14 rfl rfl)
theorem dX0_triesLegs_17 : decode cX0_triesLegs 17 = .ok (.iload_n 1, 1) := dk_27 (dk_at dksX0_triesLegs_0 17 rfl rfl)
theorem dX0_triesLegs_18 : decode cX0_triesLegs 18 = .ok (.iaload, 1) := dk_46 (dk_at dksX0_triesLegs_0 18 rfl rfl)
theorem dX0_triesLegs_19 : decode cX0_triesLegs 19 = .ok (.aload_n 0, 1) := dk_42 (dk_at dksX0_triesLegs_0 19 rfl rfl)
theorem dX0_triesLegs_20 : decode cX0_triesLegs 20 = .ok (.getfield 452, 3) := dk_180 1 196 (dk_at dksX0_triesLegs_0 20 rfl rfl)
theorem dX0_triesLegs_23 : decode cX0_triesLegs 23 = .ok (.if_icmp .gt 4, 3) := dk_163 0 4 (dk_at dksX0_triesLegs_1 0 rfl rfl)
theorem dX0_triesLegs_26 : decode cX0_triesLegs 26 = .ok (.return_, 1) := dk_177 (dk_at dksX0_triesLegs_1 3 rfl rfl)
theorem dX0_triesLegs_27 : decode cX0_triesLegs 27 = .ok (.aload_n 0, 1) := dk_42 (dk_at dksX0_triesLegs_1 4 rfl rfl)
theorem dX0_triesLegs_28 : decode cX0_triesLegs 28 = .ok (.aload_n 0, 1) := dk_42 (dk_at dksX0_triesLegs_1 5 rfl rfl)
theorem dX0_triesLegs_29 : decode cX0_triesLegs 29 = .ok (.getfield 66, 3) := dk_180 0 66 (dk_at dksX0_triesLegs_1 6 rfl rfl)
theorem dX0_triesLegs_32 : decode cX0_triesLegs 32 = .ok (.getfield 347, 3) := dk_180 1 91 (dk_at dksX0_triesLegs_1 9 rfl rfl)
theorem dX0_triesLegs_35 : decode cX0_triesLegs 35 = .ok (.iload_n 1, 1) := dk_27 (dk_at dksX0_triesLegs_1 12 rfl rfl)
theorem dX0_triesLegs_36 : decode cX0_triesLegs 36 = .ok (.iaload, 1) := dk_46 (dk_at dksX0_triesLegs_1 13 rfl rfl)
theorem dX0_triesLegs_37 : decode cX0_triesLegs 37 = .ok (.putfield 452, 3) := dk_181 1 196 (dk_at dksX0_triesLegs_1 14 rfl rfl)
theorem dX0_triesLegs_40 : decode cX0_triesLegs 40 = .ok (.aload_n 0, 1) := dk_42 (dk_at dksX0_triesLegs_1 17 rfl rfl)
theorem dX0_triesLegs_41 : decode cX0_triesLegs 41 = .ok (.getfield 76, 3) := dk_180 0 76 (dk_at dksX0_triesLegs_1 18 rfl rfl)
theorem dX0_triesLegs_44 : decode cX0_triesLegs 44 = .ok (.iconst 0, 1) := dk_3 (dk_at dksX0_triesLegs_1 21 rfl rfl)
theorem dX0_triesLegs_45 : decode cX0_triesLegs 45 = .ok (.aload_n 0, 1) := dk_42 (dk_at dksX0_triesLegs_1 22 rfl rfl)
theorem dX0_triesLegs_46 : decode cX0_triesLegs 46 = .ok (.getfield 73, 3) := dk_180 0 73 (dk_at dksX0_triesLegs_2 0 rfl rfl)
theorem dX0_triesLegs_49 : decode cX0_triesLegs 49 = .ok (.iconst 0, 1) := dk_3 (dk_at dksX0_triesLegs_2 3 rfl rfl)
theorem dX0_triesLegs_50 : decode cX0_triesLegs 50 = .ok (.iaload, 1) := dk_46 (dk_at dksX0_triesLegs_2 4 rfl rfl)
theorem dX0_triesLegs_51 : decode cX0_triesLegs 51 = .ok (.iastore, 1) := dk_79 (dk_at dksX0_triesLegs_2 5 rfl rfl)
theorem dX0_triesLegs_52 : decode cX0_triesLegs 52 = .ok (.aload_n 0, 1) := dk_42 (dk_at dksX0_triesLegs_2 6 rfl rfl)
theorem dX0_triesLegs_53 : decode cX0_triesLegs 53 = .ok (.getfield 76, 3) := dk_180 0 76 (dk_at dksX0_triesLegs_2 7 rfl rfl)
theorem dX0_triesLegs_56 : decode cX0_triesLegs 56 = .ok (.iconst 1, 1) := dk_4 (dk_at dksX0_triesLegs_2 10 rfl rfl)
theorem dX0_triesLegs_57 : decode cX0_triesLegs 57 = .ok (.aload_n 0, 1) := dk_42 (dk_at dksX0_triesLegs_2 11 rfl rfl)
theorem dX0_triesLegs_58 : decode cX0_triesLegs 58 = .ok (.getfield 73, 3) := dk_180 0 73 (dk_at dksX0_triesLegs_2 12 rfl rfl)
theorem dX0_triesLegs_61 : decode cX0_triesLegs 61 = .ok (.iconst 1, 1) := dk_4 (dk_at dksX0_triesLegs_2 15 rfl rfl)
theorem dX0_triesLegs_62 : decode cX0_triesLegs 62 = .ok (.iaload, 1) := dk_46 (dk_at dksX0_triesLegs_2 16 rfl rfl)
theorem dX0_triesLegs_63 : decode cX0_triesLegs 63 = .ok (.iastore, 1) := dk_79 (dk_at dksX0_triesLegs_2 17 rfl rfl)
theorem dX0_triesLegs_64 : decode cX0_triesLegs 64 = .ok (.return_, 1) := dk_177 (dk_at dksX0_triesLegs_2 18 rfl rfl)
theorem dX0_triesLegs_65 : decode cX0_triesLegs 65 = .ok (.aload_n 0, 1) := dk_42 (dk_at dksX0_triesLegs_2 19 rfl rfl)
theorem dX0_triesLegs_66 : decode cX0_triesLegs 66 = .ok (.iload_n 1, 1) := dk_27 (dk_at dksX0_triesLegs_2 20 rfl rfl)
theorem dX0_triesLegs_67 : decode cX0_triesLegs 67 = .ok (.iload_n 2, 1) := dk_28 (dk_at dksX0_triesLegs_2 21 rfl rfl)
theorem dX0_triesLegs_68 : decode cX0_triesLegs 68 = .ok (.invokevirtual 455, 3) := dk_182 1 199 (dk_at dksX0_triesLegs_3 0 rfl rfl)
theorem dX0_triesLegs_71 : decode cX0_triesLegs 71 = .ok (.aload_n 0, 1) := dk_42 (dk_at dksX0_triesLegs_3 3 rfl rfl)
theorem dX0_triesLegs_72 : decode cX0_triesLegs 72 = .ok (.getfield 66, 3) := dk_180 0 66 (dk_at dksX0_triesLegs_3 4 rfl rfl)
theorem dX0_triesLegs_75 : decode cX0_triesLegs 75 = .ok (.getfield 330, 3) := dk_180 1 74 (dk_at dksX0_triesLegs_3 7 rfl rfl)
theorem dX0_triesLegs_78 : decode cX0_triesLegs 78 = .ok (.iload_n 1, 1) := dk_27 (dk_at dksX0_triesLegs_3 10 rfl rfl)
theorem dX0_triesLegs_79 : decode cX0_triesLegs 79 = .ok (.iaload, 1) := dk_46 (dk_at dksX0_triesLegs_3 11 rfl rfl)
theorem dX0_triesLegs_80 : decode cX0_triesLegs 80 = .ok (.istore 4, 2) := dk_54 4 (dk_at dksX0_triesLegs_3 12 rfl rfl)
theorem dX0_triesLegs_82 : decode cX0_triesLegs 82 = .ok (.iconst 0, 1) := dk_3 (dk_at dksX0_triesLegs_3 14 rfl rfl)
theorem dX0_triesLegs_83 : decode cX0_triesLegs 83 = .ok (.istore 5, 2) := dk_54 5 (dk_at dksX0_triesLegs_3 15 rfl rfl)
theorem dX0_triesLegs_85 : decode cX0_triesLegs 85 = .ok (.iload 5, 2) := dk_21 5 (dk_at dksX0_triesLegs_3 17 rfl rfl)
theorem dX0_triesLegs_87 : decode cX0_triesLegs 87 = .ok (.aload_n 0, 1) := dk_42 (dk_at dksX0_triesLegs_3 19 rfl rfl)
theorem dX0_triesLegs_88 : decode cX0_triesLegs 88 = .ok (.getfield 66, 3) := dk_180 0 66 (dk_at dksX0_triesLegs_3 20 rfl rfl)
theorem dX0_triesLegs_91 : decode cX0_triesLegs 91 = .ok (.getfield 176, 3) := dk_180 0 176 (dk_at dksX0_triesLegs_4 0 rfl rfl)
theorem dX0_triesLegs_94 : decode cX0_triesLegs 94 = .ok (.if_icmp .ge 162, 3) := dk_162 0 162 (dk_at dksX0_triesLegs_4 3 rfl rfl)
theorem dX0_triesLegs_97 : decode cX0_triesLegs 97 = .ok (.aload_n 0, 1) := dk_42 (dk_at dksX0_triesLegs_4 6 rfl rfl)
theorem dX0_triesLegs_98 : decode cX0_triesLegs 98 = .ok (.getfield 66, 3) := dk_180 0 66 (dk_at dksX0_triesLegs_4 7 rfl rfl)
theorem dX0_triesLegs_101 : decode cX0_triesLegs 101 = .ok (.getfield 325, 3) := dk_180 1 69 (dk_at dksX0_triesLegs_4 10 rfl rfl)
theorem dX0_triesLegs_104 : decode cX0_triesLegs 104 = .ok (.bipush 6, 2) := dk_16 6 (dk_at dksX0_triesLegs_4 13 rfl rfl)
theorem dX0_triesLegs_106 : decode cX0_triesLegs 106 = .ok (.iload 4, 2) := dk_21 4 (dk_at dksX0_triesLegs_4 15 rfl rfl)
theorem dX0_triesLegs_108 : decode cX0_triesLegs 108 = .ok (.imul, 1) := dk_104 (dk_at dksX0_triesLegs_4 17 rfl rfl)
theorem dX0_triesLegs_109 : decode cX0_triesLegs 109 = .ok (.iload 5, 2) := dk_21 5 (dk_at dksX0_triesLegs_4 18 rfl rfl)
theorem dX0_triesLegs_111 : decode cX0_triesLegs 111 = .ok (.iadd, 1) := dk_96 (dk_at dksX0_triesLegs_4 20 rfl rfl)
theorem dX0_triesLegs_112 : decode cX0_triesLegs 112 = .ok (.iaload, 1) := dk_46 (dk_at dksX0_triesLegs_4 21 rfl rfl)
theorem dX0_triesLegs_113 : decode cX0_triesLegs 113 = .ok (.ifCond .ne 6, 3) := dk_154 0 6 (dk_at dksX0_triesLegs_5 0 rfl rfl)
theorem dX0_triesLegs_116 : decode cX0_triesLegs 116 = .ok (.goto 134, 3) := dk_167 0 134 (dk_at dksX0_triesLegs_5 3 rfl rfl)
theorem dX0_triesLegs_119 : decode cX0_triesLegs 119 = .ok (.iconst 0, 1) := dk_3 (dk_at dksX0_triesLegs_5 6 rfl rfl)
theorem dX0_triesLegs_120 : decode cX0_triesLegs 120 = .ok (.istore 6, 2) := dk_54 6 (dk_at dksX0_triesLegs_5 7 rfl rfl)
theorem dX0_triesLegs_122 : decode cX0_triesLegs 122 = .ok (.iload 6, 2) := dk_21 6 (dk_at dksX0_triesLegs_5 9 rfl rfl)
theorem dX0_triesLegs_124 : decode cX0_triesLegs 124 = .ok (.aload_n 0, 1) := dk_42 (dk_at dksX0_triesLegs_5 11 rfl rfl)
theorem dX0_triesLegs_125 : decode cX0_triesLegs 125 = .ok (.getfield 66, 3) := dk_180 0 66 (dk_at dksX0_triesLegs_5 12 rfl rfl)
theorem dX0_triesLegs_128 : decode cX0_triesLegs 128 = .ok (.getfield 173, 3) := dk_180 0 173 (dk_at dksX0_triesLegs_5 15 rfl rfl)
theorem dX0_triesLegs_131 : decode cX0_triesLegs 131 = .ok (.if_icmp .gt 119, 3) := dk_163 0 119 (dk_at dksX0_triesLegs_5 18 rfl rfl)
theorem dX0_triesLegs_134 : decode cX0_triesLegs 134 = .ok (.aload_n 0, 1) := dk_42 (dk_at dksX0_triesLegs_5 21 rfl rfl)
theorem dX0_triesLegs_135 : decode cX0_triesLegs 135 = .ok (.iload_n 1, 1) := dk_27 (dk_at dksX0_triesLegs_5 22 rfl rfl)
theorem dX0_triesLegs_136 : decode cX0_triesLegs 136 = .ok (.iload_n 2, 1) := dk_28 (dk_at dksX0_triesLegs_5 23 rfl rfl)
theorem dX0_triesLegs_137 : decode cX0_triesLegs 137 = .ok (.invokevirtual 458, 3) := dk_182 1 202 (dk_at dksX0_triesLegs_6 0 rfl rfl)
theorem dX0_triesLegs_140 : decode cX0_triesLegs 140 = .ok (.iload 6, 2) := dk_21 6 (dk_at dksX0_triesLegs_6 3 rfl rfl)
theorem dX0_triesLegs_142 : decode cX0_triesLegs 142 = .ok (.aload_n 0, 1) := dk_42 (dk_at dksX0_triesLegs_6 5 rfl rfl)
theorem dX0_triesLegs_143 : decode cX0_triesLegs 143 = .ok (.getfield 66, 3) := dk_180 0 66 (dk_at dksX0_triesLegs_6 6 rfl rfl)
theorem dX0_triesLegs_146 : decode cX0_triesLegs 146 = .ok (.getfield 173, 3) := dk_180 0 173 (dk_at dksX0_triesLegs_6 9 rfl rfl)
theorem dX0_triesLegs_149 : decode cX0_triesLegs 149 = .ok (.if_icmp .ge 16, 3) := dk_162 0 16 (dk_at dksX0_triesLegs_6 12 rfl rfl)
theorem dX0_triesLegs_152 : decode cX0_triesLegs 152 = .ok (.aload_n 0, 1) := dk_42 (dk_at dksX0_triesLegs_6 15 rfl rfl)
theorem dX0_triesLegs_153 : decode cX0_triesLegs 153 = .ok (.iload_n 1, 1) := dk_27 (dk_at dksX0_triesLegs_6 16 rfl rfl)
theorem dX0_triesLegs_154 : decode cX0_triesLegs 154 = .ok (.iload 6, 2) := dk_21 6 (dk_at dksX0_triesLegs_6 17 rfl rfl)
theorem dX0_triesLegs_156 : decode cX0_triesLegs 156 = .ok (.invokevirtual 461, 3) := dk_182 1 205 (dk_at dksX0_triesLegs_6 19 rfl rfl)
theorem dX0_triesLegs_159 : decode cX0_triesLegs 159 = .ok (.ifCond .ne 6, 3) := dk_154 0 6 (dk_at dksX0_triesLegs_7 0 rfl rfl)
theorem dX0_triesLegs_162 : decode cX0_triesLegs 162 = .ok (.goto 82, 3) := dk_167 0 82 (dk_at dksX0_triesLegs_7 3 rfl rfl)
theorem dX0_triesLegs_165 : decode cX0_triesLegs 165 = .ok (.iload_n 2, 1) := dk_28 (dk_at dksX0_triesLegs_7 6 rfl rfl)
theorem dX0_triesLegs_166 : decode cX0_triesLegs 166 = .ok (.ifCond .ne 35, 3) := dk_154 0 35 (dk_at dksX0_triesLegs_7 7 rfl rfl)
theorem dX0_triesLegs_169 : decode cX0_triesLegs 169 = .ok (.aload_n 0, 1) := dk_42 (dk_at dksX0_triesLegs_7 10 rfl rfl)
theorem dX0_triesLegs_170 : decode cX0_triesLegs 170 = .ok (.getfield 73, 3) := dk_180 0 73 (dk_at dksX0_triesLegs_7 11 rfl rfl)
theorem dX0_triesLegs_173 : decode cX0_triesLegs 173 = .ok (.iconst 0, 1) := dk_3 (dk_at dksX0_triesLegs_7 14 rfl rfl)
theorem dX0_triesLegs_174 : decode cX0_triesLegs 174 = .ok (.iload 5, 2) := dk_21 5 (dk_at dksX0_triesLegs_7 15 rfl rfl)
theorem dX0_triesLegs_176 : decode cX0_triesLegs 176 = .ok (.iastore, 1) := dk_79 (dk_at dksX0_triesLegs_7 17 rfl rfl)
theorem dX0_triesLegs_177 : decode cX0_triesLegs 177 = .ok (.aload_n 0, 1) := dk_42 (dk_at dksX0_triesLegs_7 18 rfl rfl)
theorem dX0_triesLegs_178 : decode cX0_triesLegs 178 = .ok (.getfield 73, 3) := dk_180 0 73 (dk_at dksX0_triesLegs_7 19 rfl rfl)
theorem dX0_triesLegs_181 : decode cX0_triesLegs 181 = .ok (.iconst 1, 1) := dk_4 (dk_at dksX0_triesLegs_7 22 rfl rfl)
theorem dX0_triesLegs_182 : decode cX0_triesLegs 182 = .ok (.iload 6, 2) := dk_21 6 (dk_at dksX0_triesLegs_8 0 rfl rfl)
theorem dX0_triesLegs_184 : decode cX0_triesLegs 184 = .ok (.aload_n 0, 1) := dk_42 (dk_at dksX0_triesLegs_8 2 rfl rfl)
theorem dX0_triesLegs_185 : decode cX0_triesLegs 185 = .ok (.getfield 66, 3) := dk_180 0 66 (dk_at dksX0_triesLegs_8 3 rfl rfl)
theorem dX0_triesLegs_188 : decode cX0_triesLegs 188 = .ok (.getfield 173, 3) := dk_180 0 173 (dk_at dksX0_triesLegs_8 6 rfl rfl)
theorem dX0_triesLegs_191 : decode cX0_triesLegs 191 = .ok (.if_icmp .ne 7, 3) := dk_160 0 7 (dk_at dksX0_triesLegs_8 9 rfl rfl)
theorem dX0_triesLegs_194 : decode cX0_triesLegs 194 = .ok (.iconst (-1), 1) := dk_2 (dk_at dksX0_triesLegs_8 12 rfl rfl)
theorem dX0_triesLegs_195 : decode cX0_triesLegs 195 = .ok (.goto 5, 3) := dk_167 0 5 (dk_at dksX0_triesLegs_8 13 rfl rfl)
theorem dX0_triesLegs_198 : decode cX0_triesLegs 198 = .ok (.iload 6, 2) := dk_21 6 (dk_at dksX0_triesLegs_8 16 rfl rfl)
theorem dX0_triesLegs_200 : decode cX0_triesLegs 200 = .ok (.iastore, 1) := dk_79 (dk_at dksX0_triesLegs_8 18 rfl rfl)
theorem dX0_triesLegs_201 : decode cX0_triesLegs 201 = .ok (.aload_n 0, 1) := dk_42 (dk_at dksX0_triesLegs_8 19 rfl rfl)
theorem dX0_triesLegs_202 : decode cX0_triesLegs 202 = .ok (.getfield 66, 3) := dk_180 0 66 (dk_at dksX0_triesLegs_8 20 rfl rfl)
theorem dX0_triesLegs_205 : decode cX0_triesLegs 205 = .ok (.iload_n 1, 1) := dk_27 (dk_at dksX0_triesLegs_8 23 rfl rfl)
theorem dX0_triesLegs_206 : decode cX0_triesLegs 206 = .ok (.iload 5, 2) := dk_21 5 (dk_at dksX0_triesLegs_9 0 rfl rfl)
theorem dX0_triesLegs_208 : decode cX0_triesLegs 208 = .ok (.invokevirtual 397, 3) := dk_182 1 141 (dk_at dksX0_triesLegs_9 2 rfl rfl)
theorem dX0_triesLegs_211 : decode cX0_triesLegs 211 = .ok (.pop, 1) := dk_87 (dk_at dksX0_triesLegs_9 5 rfl rfl)
theorem dX0_triesLegs_212 : decode cX0_triesLegs 212 = .ok (.aload_n 0, 1) := dk_42 (dk_at dksX0_triesLegs_9 6 rfl rfl)
theorem dX0_triesLegs_213 : decode cX0_triesLegs 213 = .ok (.getfield 66, 3) := dk_180 0 66 (dk_at dksX0_triesLegs_9 7 rfl rfl)
theorem dX0_triesLegs_216 : decode cX0_triesLegs 216 = .ok (.iload_n 1, 1) := dk_27 (dk_at dksX0_triesLegs_9 10 rfl rfl)
theorem dX0_triesLegs_217 : decode cX0_triesLegs 217 = .ok (.invokevirtual 244, 3) := dk_182 0 244 (dk_at dksX0_triesLegs_9 11 rfl rfl)
theorem dX0_triesLegs_220 : decode cX0_triesLegs 220 = .ok (.ifCond .eq 15, 3) := dk_153 0 15 (dk_at dksX0_triesLegs_9 14 rfl rfl)
theorem dX0_triesLegs_223 : decode cX0_triesLegs 223 = .ok (.aload_n 0, 1) := dk_42 (dk_at dksX0_triesLegs_9 17 rfl rfl)
theorem dX0_triesLegs_224 : decode cX0_triesLegs 224 = .ok (.getfield 66, 3) := dk_180 0 66 (dk_at dksX0_triesLegs_9 18 rfl rfl)
theorem dX0_triesLegs_227 : decode cX0_triesLegs 227 = .ok (.iload_n 1, 1) := dk_27 (dk_at dksX0_triesLegs_9 21 rfl rfl)
theorem dX0_triesLegs_228 : decode cX0_triesLegs 228 = .ok (.invokevirtual 464, 3) := dk_182 1 208 (dk_at dksX0_triesLegs_10 0 rfl rfl)
theorem dX0_triesLegs_231 : decode cX0_triesLegs 231 = .ok (.pop, 1) := dk_87 (dk_at dksX0_triesLegs_10 3 rfl rfl)
theorem dX0_triesLegs_232 : decode cX0_triesLegs 232 = .ok (.goto (-20), 3) := dk_167 255 236 (dk_at dksX0_triesLegs_10 4 rfl rfl)
theorem dX0_triesLegs_235 : decode cX0_triesLegs 235 = .ok (.aload_n 0, 1) := dk_42 (dk_at dksX0_triesLegs_10 7 rfl rfl)
theorem dX0_triesLegs_236 : decode cX0_triesLegs 236 = .ok (.iload_n 1, 1) := dk_27 (dk_at dksX0_triesLegs_10 8 rfl rfl)
theorem dX0_triesLegs_237 : decode cX0_triesLegs 237 = .ok (.iload_n 2, 1) := dk_28 (dk_at dksX0_triesLegs_10 9 rfl rfl)
theorem dX0_triesLegs_238 : decode cX0_triesLegs 238 = .ok (.iconst 1, 1) := dk_4 (dk_at dksX0_triesLegs_10 10 rfl rfl)
theorem dX0_triesLegs_239 : decode cX0_triesLegs 239 = .ok (.iadd, 1) := dk_96 (dk_at dksX0_triesLegs_10 11 rfl rfl)
theorem dX0_triesLegs_240 : decode cX0_triesLegs 240 = .ok (.iload_n 3, 1) := dk_29 (dk_at dksX0_triesLegs_10 12 rfl rfl)
theorem dX0_triesLegs_241 : decode cX0_triesLegs 241 = .ok (.invokevirtual 466, 3) := dk_182 1 210 (dk_at dksX0_triesLegs_10 13 rfl rfl)
theorem dX0_triesLegs_244 : decode cX0_triesLegs 244 = .ok (.iinc 6 1, 3) := dk_132 6 1 (dk_at dksX0_triesLegs_10 16 rfl rfl)
theorem dX0_triesLegs_247 : decode cX0_triesLegs 247 = .ok (.goto (-125), 3) := dk_167 255 131 (dk_at dksX0_triesLegs_10 19 rfl rfl)
theorem dX0_triesLegs_250 : decode cX0_triesLegs 250 = .ok (.iinc 5 1, 3) := dk_132 5 1 (dk_at dksX0_triesLegs_11 0 rfl rfl)
theorem dX0_triesLegs_253 : decode cX0_triesLegs 253 = .ok (.goto (-168), 3) := dk_167 255 88 (dk_at dksX0_triesLegs_11 3 rfl rfl)
theorem dX0_triesLegs_256 : decode cX0_triesLegs 256 = .ok (.return_, 1) := dk_177 (dk_at dksX0_triesLegs_11 6 rfl rfl)
abbrev cX0_sellsAll : ByteArray := prog_1_method_89_code
def yX0_sellsAll : MethodName := ⟨RX0, "sellsAll", "(I)V"⟩
def dkwX0_sellsAll_2 : List UInt8 := [167, 255, 212, 177]
abbrev dktX0_sellsAll_2 : List UInt8 := dkwX0_sellsAll_2 ++ []
def dkwX0_sellsAll_1 : List UInt8 := [28, 96, 46, 62, 29, 158, 0, 14, 42, 180, 0, 66, 27, 28, 29, 182, 1, 135, 87, 132, 2, 1]
abbrev dktX0_sellsAll_1 : List UInt8 := dkwX0_sellsAll_1 ++ dktX0_sellsAll_2
def dkwX0_sellsAll_0 : List UInt8 := [3, 61, 28, 42, 180, 0, 66, 180, 0, 173, 162, 0, 39, 42, 180, 0, 66, 180, 1, 100, 16, 8, 27, 104]
abbrev dktX0_sellsAll_0 : List UInt8 := dkwX0_sellsAll_0 ++ dktX0_sellsAll_1
theorem dksX0_sellsAll_0 : cX0_sellsAll.data.toList.drop 0 = dktX0_sellsAll_0 := by decide +kernel
theorem dksX0_sellsAll_1 : cX0_sellsAll.data.toList.drop 24 = dktX0_sellsAll_1 := dk_seg dksX0_sellsAll_0 24 rfl rfl
theorem dksX0_sellsAll_2 : cX0_sellsAll.data.toList.drop 46 = dktX0_sellsAll_2 := dk_seg dksX0_sellsAll_1 22 rfl rfl
theorem dX0_sellsAll_0 : decode cX0_sellsAll 0 = .ok (.iconst 0, 1) := dk_3 (dk_at dksX0_sellsAll_0 0 rfl rfl)
theorem dX0_sellsAll_1 : decode cX0_sellsAll 1 = .ok (.istore_n 2, 1) := dk_61 (dk_at dksX0_sellsAll_0 1 rfl rfl)
theorem dX0_sellsAll_2 : decode cX0_sellsAll 2 = .ok (.iload_n 2, 1) := dk_28 (dk_at dksX0_sellsAll_0 2 rfl rfl)
theorem dX0_sellsAll_3 : decode cX0_sellsAll 3 = .ok (.aload_n 0, 1) := dk_42 (dk_at dksX0_sellsAll_0 3 rfl rfl)
theorem dX0_sellsAll_4 : decode cX0_sellsAll 4 = .ok (.getfield 66, 3) := dk_180 0 66 (dk_at dksX0_sellsAll_0 4 rfl rfl)
theorem dX0_sellsAll_7 : decode cX0_sellsAll 7 = .ok (.getfield 173, 3) := dk_180 0 173 (dk_at dksX0_sellsAll_0 7 rfl rfl)
theorem dX0_sellsAll_10 : decode cX0_sellsAll 10 = .ok (.if_icmp .ge 39, 3) := dk_162 0 39 (dk_at dksX0_sellsAll_0 10 rfl rfl)
theorem dX0_sellsAll_13 : decode cX0_sellsAll 13 = .ok (.aload_n 0, 1) := dk_42 (dk_at dksX0_sellsAll_0 13 rfl rfl)
theorem dX0_sellsAll_14 : decode cX0_sellsAll 14 = .ok (.getfield 66, 3) := dk_180 0 66 (dk_at dksX0_sellsAll_0 14 rfl rfl)
theorem dX0_sellsAll_17 : decode cX0_sellsAll 17 = .ok (.getfield 356, 3) := dk_180 1 100 (dk_at dksX0_sellsAll_0 17 rfl rfl)
theorem dX0_sellsAll_20 : decode cX0_sellsAll 20 = .ok (.bipush 8, 2) := dk_16 8 (dk_at dksX0_sellsAll_0 20 rfl rfl)
theorem dX0_sellsAll_22 : decode cX0_sellsAll 22 = .ok (.iload_n 1, 1) := dk_27 (dk_at dksX0_sellsAll_0 22 rfl rfl)
theorem dX0_sellsAll_23 : decode cX0_sellsAll 23 = .ok (.imul, 1) := dk_104 (dk_at dksX0_sellsAll_0 23 rfl rfl)
theorem dX0_sellsAll_24 : decode cX0_sellsAll 24 = .ok (.iload_n 2, 1) := dk_28 (dk_at dksX0_sellsAll_1 0 rfl rfl)
theorem dX0_sellsAll_25 : decode cX0_sellsAll 25 = .ok (.iadd, 1) := dk_96 (dk_at dksX0_sellsAll_1 1 rfl rfl)
theorem dX0_sellsAll_26 : decode cX0_sellsAll 26 = .ok (.iaload, 1) := dk_46 (dk_at dksX0_sellsAll_1 2 rfl rfl)
theorem dX0_sellsAll_27 : decode cX0_sellsAll 27 = .ok (.istore_n 3, 1) := dk_62 (dk_at dksX0_sellsAll_1 3 rfl rfl)
theorem dX0_sellsAll_28 : decode cX0_sellsAll 28 = .ok (.iload_n 3, 1) := dk_29 (dk_at dksX0_sellsAll_1 4 rfl rfl)
theorem dX0_sellsAll_29 : decode cX0_sellsAll 29 = .ok (.ifCond .le 14, 3) := dk_158 0 14 (dk_at dksX0_sellsAll_1 5 rfl rfl)
theorem dX0_sellsAll_32 : decode cX0_sellsAll 32 = .ok (.aload_n 0, 1) := dk_42 (dk_at dksX0_sellsAll_1 8 rfl rfl)
theorem dX0_sellsAll_33 : decode cX0_sellsAll 33 = .ok (.getfield 66, 3) := dk_180 0 66 (dk_at dksX0_sellsAll_1 9 rfl rfl)
theorem dX0_sellsAll_36 : decode cX0_sellsAll 36 = .ok (.iload_n 1, 1) := dk_27 (dk_at dksX0_sellsAll_1 12 rfl rfl)
theorem dX0_sellsAll_37 : decode cX0_sellsAll 37 = .ok (.iload_n 2, 1) := dk_28 (dk_at dksX0_sellsAll_1 13 rfl rfl)
theorem dX0_sellsAll_38 : decode cX0_sellsAll 38 = .ok (.iload_n 3, 1) := dk_29 (dk_at dksX0_sellsAll_1 14 rfl rfl)
theorem dX0_sellsAll_39 : decode cX0_sellsAll 39 = .ok (.invokevirtual 391, 3) := dk_182 1 135 (dk_at dksX0_sellsAll_1 15 rfl rfl)
theorem dX0_sellsAll_42 : decode cX0_sellsAll 42 = .ok (.pop, 1) := dk_87 (dk_at dksX0_sellsAll_1 18 rfl rfl)
theorem dX0_sellsAll_43 : decode cX0_sellsAll 43 = .ok (.iinc 2 1, 3) := dk_132 2 1 (dk_at dksX0_sellsAll_1 19 rfl rfl)
theorem dX0_sellsAll_46 : decode cX0_sellsAll 46 = .ok (.goto (-44), 3) := dk_167 255 212 (dk_at dksX0_sellsAll_2 0 rfl rfl)
theorem dX0_sellsAll_49 : decode cX0_sellsAll 49 = .ok (.return_, 1) := dk_177 (dk_at dksX0_sellsAll_2 3 rfl rfl)
abbrev cX0_laysLeg : ByteArray := prog_1_method_87_code
def yX0_laysLeg : MethodName := ⟨RX0, "laysLeg", "(II)V"⟩
def dkwX0_laysLeg_3 : List UInt8 := [96, 4, 96, 42, 180, 0, 66, 180, 1, 74, 27, 46, 79, 177]
abbrev dktX0_laysLeg_3 : List UInt8 := dkwX0_laysLeg_3 ++ []
def dkwX0_laysLeg_2 : List UInt8 := [104, 16, 8, 96, 42, 180, 0, 66, 180, 1, 91, 27, 46, 79, 42, 180, 0, 70, 16, 10, 28, 104, 16, 8]
abbrev dktX0_laysLeg_2 : List UInt8 := dkwX0_laysLeg_2 ++ dktX0_laysLeg_3
def dkwX0_laysLeg_1 : List UInt8 := [180, 1, 100, 16, 8, 27, 104, 29, 96, 46, 79, 132, 3, 1, 167, 255, 222, 42, 180, 0, 70, 16, 10, 28]
abbrev dktX0_laysLeg_1 : List UInt8 := dkwX0_laysLeg_1 ++ dktX0_laysLeg_2
def dkwX0_laysLeg_0 : List UInt8 := [3, 62, 29, 16, 8, 162, 0, 34, 42, 180, 0, 70, 16, 10, 28, 104, 29, 96, 42, 180, 0, 66]
abbrev dktX0_laysLeg_0 : List UInt8 := dkwX0_laysLeg_0 ++ dktX0_laysLeg_1
theorem dksX0_laysLeg_0 : cX0_laysLeg.data.toList.drop 0 = dktX0_laysLeg_0 := by decide +kernel
theorem dksX0_laysLeg_1 : cX0_laysLeg.data.toList.drop 22 = dktX0_laysLeg_1 := dk_seg dksX0_laysLeg_0 22 rfl rfl
theorem dksX0_laysLeg_2 : cX0_laysLeg.data.toList.drop 46 = dktX0_laysLeg_2 := dk_seg dksX0_laysLeg_1 24 rfl rfl
theorem dksX0_laysLeg_3 : cX0_laysLeg.data.toList.drop 70 = dktX0_laysLeg_3 := dk_seg dksX0_laysLeg_2 24 rfl rfl
theorem dX0_laysLeg_0 : decode cX0_laysLeg 0 = .ok (.iconst 0, 1) := dk_3 (dk_at dksX0_laysLeg_0 0 rfl rfl)
theorem dX0_laysLeg_1 : decode cX0_laysLeg 1 = .ok (.istore_n 3, 1) := dk_62 (dk_at dksX0_laysLeg_0 1 rfl rfl)
theorem dX0_laysLeg_2 : decode cX0_laysLeg 2 = .ok (.iload_n 3, 1) := dk_29 (dk_at dksX0_laysLeg_0 2 rfl rfl)
theorem dX0_laysLeg_3 : decode cX0_laysLeg 3 = .ok (.bipush 8, 2) := dk_16 8 (dk_at dksX0_laysLeg_0 3 rfl rfl)
theorem dX0_laysLeg_5 : decode cX0_laysLeg 5 = .ok (.if_icmp .ge 34, 3) := dk_162 0 34 (dk_at dksX0_laysLeg_0 5 rfl rfl)
theorem dX0_laysLeg_8 : decode cX0_laysLeg 8 = .ok (.aload_n 0, 1) := dk_42 (dk_at dksX0_laysLeg_0 8 rfl rfl)
theorem dX0_laysLeg_9 : decode cX0_laysLeg 9 = .ok (.getfield 70, 3) := dk_180 0 70 (dk_at dksX0_laysLeg_0 9 rfl rfl)
theorem dX0_laysLeg_12 : decode cX0_laysLeg 12 = .ok (.bipush 10, 2) := dk_16 10 (dk_at dksX0_laysLeg_0 12 rfl rfl)
theorem dX0_laysLeg_14 : decode cX0_laysLeg 14 = .ok (.iload_n 2, 1) := dk_28 (dk_at dksX0_laysLeg_0 14 rfl rfl)
theorem dX0_laysLeg_15 : decode cX0_laysLeg 15 = .ok (.imul, 1) := dk_104 (dk_at dksX0_laysLeg_0 15 rfl rfl)
theorem dX0_laysLeg_16 : decode cX0_laysLeg 16 = .ok (.iload_n 3, 1) := dk_29 (dk_at dksX0_laysLeg_0 16 rfl rfl)
theorem dX0_laysLeg_17 : decode cX0_laysLeg 17 = .ok (.iadd, 1) := dk_96 (dk_at dksX0_laysLeg_0 17 rfl rfl)
theorem dX0_laysLeg_18 : decode cX0_laysLeg 18 = .ok (.aload_n 0, 1) := dk_42 (dk_at dksX0_laysLeg_0 18 rfl rfl)
theorem dX0_laysLeg_19 : decode cX0_laysLeg 19 = .ok (.getfield 66, 3) := dk_180 0 66 (dk_at dksX0_laysLeg_0 19 rfl rfl)
theorem dX0_laysLeg_22 : decode cX0_laysLeg 22 = .ok (.getfield 356, 3) := dk_180 1 100 (dk_at dksX0_laysLeg_1 0 rfl rfl)
theorem dX0_laysLeg_25 : decode cX0_laysLeg 25 = .ok (.bipush 8, 2) := dk_16 8 (dk_at dksX0_laysLeg_1 3 rfl rfl)
theorem dX0_laysLeg_27 : decode cX0_laysLeg 27 = .ok (.iload_n 1, 1) := dk_27 (dk_at dksX0_laysLeg_1 5 rfl rfl)
theorem dX0_laysLeg_28 : decode cX0_laysLeg 28 = .ok (.imul, 1) := dk_104 (dk_at dksX0_laysLeg_1 6 rfl rfl)
theorem dX0_laysLeg_29 : decode cX0_laysLeg 29 = .ok (.iload_n 3, 1) := dk_29 (dk_at dksX0_laysLeg_1 7 rfl rfl)
theorem dX0_laysLeg_30 : decode cX0_laysLeg 30 = .ok (.iadd, 1) := dk_96 (dk_at dksX0_laysLeg_1 8 rfl rfl)
theorem dX0_laysLeg_31 : decode cX0_laysLeg 31 = .ok (.iaload, 1) := dk_46 (dk_at dksX0_laysLeg_1 9 rfl rfl)
theorem dX0_laysLeg_32 : decode cX0_laysLeg 32 = .ok (.iastore, 1) := dk_79 (dk_at dksX0_laysLeg_1 10 rfl rfl)
theorem dX0_laysLeg_33 : decode cX0_laysLeg 33 = .ok (.iinc 3 1, 3) := dk_132 3 1 (dk_at dksX0_laysLeg_1 11 rfl rfl)
theorem dX0_laysLeg_36 : decode cX0_laysLeg 36 = .ok (.goto (-34), 3) := dk_167 255 222 (dk_at dksX0_laysLeg_1 14 rfl rfl)
theorem dX0_laysLeg_39 : decode cX0_laysLeg 39 = .ok (.aload_n 0, 1) := dk_42 (dk_at dksX0_laysLeg_1 17 rfl rfl)
theorem dX0_laysLeg_40 : decode cX0_laysLeg 40 = .ok (.getfield 70, 3) := dk_180 0 70 (dk_at dksX0_laysLeg_1 18 rfl rfl)
theorem dX0_laysLeg_43 : decode cX0_laysLeg 43 = .ok (.bipush 10, 2) := dk_16 10 (dk_at dksX0_laysLeg_1 21 rfl rfl)
theorem dX0_laysLeg_45 : decode cX0_laysLeg 45 = .ok (.iload_n 2, 1) := dk_28 (dk_at dksX0_laysLeg_1 23 rfl rfl)
theorem dX0_laysLeg_46 : decode cX0_laysLeg 46 = .ok (.imul, 1) := dk_104 (dk_at dksX0_laysLeg_2 0 rfl rfl)
theorem dX0_laysLeg_47 : decode cX0_laysLeg 47 = .ok (.bipush 8, 2) := dk_16 8 (dk_at dksX0_laysLeg_2 1 rfl rfl)
theorem dX0_laysLeg_49 : decode cX0_laysLeg 49 = .ok (.iadd, 1) := dk_96 (dk_at dksX0_laysLeg_2 3 rfl rfl)
theorem dX0_laysLeg_50 : decode cX0_laysLeg 50 = .ok (.aload_n 0, 1) := dk_42 (dk_at dksX0_laysLeg_2 4 rfl rfl)
theorem dX0_laysLeg_51 : decode cX0_laysLeg 51 = .ok (.getfield 66, 3) := dk_180 0 66 (dk_at dksX0_laysLeg_2 5 rfl rfl)
theorem dX0_laysLeg_54 : decode cX0_laysLeg 54 = .ok (.getfield 347, 3) := dk_180 1 91 (dk_at dksX0_laysLeg_2 8 rfl rfl)
theorem dX0_laysLeg_57 : decode cX0_laysLeg 57 = .ok (.iload_n 1, 1) := dk_27 (dk_at dksX0_laysLeg_2 11 rfl rfl)
theorem dX0_laysLeg_58 : decode cX0_laysLeg 58 = .ok (.iaload, 1) := dk_46 (dk_at dksX0_laysLeg_2 12 rfl rfl)
theorem dX0_laysLeg_59 : decode cX0_laysLeg 59 = .ok (.iastore, 1) := dk_79 (dk_at dksX0_laysLeg_2 13 rfl rfl)
theorem dX0_laysLeg_60 : decode cX0_laysLeg 60 = .ok (.aload_n 0, 1) := dk_42 (dk_at dksX0_laysLeg_2 14 rfl rfl)
theorem dX0_laysLeg_61 : decode cX0_laysLeg 61 = .ok (.getfield 70, 3) := dk_180 0 70 (dk_at dksX0_laysLeg_2 15 rfl rfl)
theorem dX0_laysLeg_64 : decode cX0_laysLeg 64 = .ok (.bipush 10, 2) := dk_16 10 (dk_at dksX0_laysLeg_2 18 rfl rfl)
theorem dX0_laysLeg_66 : decode cX0_laysLeg 66 = .ok (.iload_n 2, 1) := dk_28 (dk_at dksX0_laysLeg_2 20 rfl rfl)
theorem dX0_laysLeg_67 : decode cX0_laysLeg 67 = .ok (.imul, 1) := dk_104 (dk_at dksX0_laysLeg_2 21 rfl rfl)
theorem dX0_laysLeg_68 : decode cX0_laysLeg 68 = .ok (.bipush 8, 2) := dk_16 8 (dk_at dksX0_laysLeg_2 22 rfl rfl)
theorem dX0_laysLeg_70 : decode cX0_laysLeg 70 = .ok (.iadd, 1) := dk_96 (dk_at dksX0_laysLeg_3 0 rfl rfl)
theorem dX0_laysLeg_71 : decode cX0_laysLeg 71 = .ok (.iconst 1, 1) := dk_4 (dk_at dksX0_laysLeg_3 1 rfl rfl)
theorem dX0_laysLeg_72 : decode cX0_laysLeg 72 = .ok (.iadd, 1) := dk_96 (dk_at dksX0_laysLeg_3 2 rfl rfl)
theorem dX0_laysLeg_73 : decode cX0_laysLeg 73 = .ok (.aload_n 0, 1) := dk_42 (dk_at dksX0_laysLeg_3 3 rfl rfl)
theorem dX0_laysLeg_74 : decode cX0_laysLeg 74 = .ok (.getfield 66, 3) := dk_180 0 66 (dk_at dksX0_laysLeg_3 4 rfl rfl)
theorem dX0_laysLeg_77 : decode cX0_laysLeg 77 = .ok (.getfield 330, 3) := dk_180 1 74 (dk_at dksX0_laysLeg_3 7 rfl rfl)
theorem dX0_laysLeg_80 : decode cX0_laysLeg 80 = .ok (.iload_n 1, 1) := dk_27 (dk_at dksX0_laysLeg_3 10 rfl rfl)
theorem dX0_laysLeg_81 : decode cX0_laysLeg 81 = .ok (.iaload, 1) := dk_46 (dk_at dksX0_laysLeg_3 11 rfl rfl)
theorem dX0_laysLeg_82 : decode cX0_laysLeg 82 = .ok (.iastore, 1) := dk_79 (dk_at dksX0_laysLeg_3 12 rfl rfl)
theorem dX0_laysLeg_83 : decode cX0_laysLeg 83 = .ok (.return_, 1) := dk_177 (dk_at dksX0_laysLeg_3 13 rfl rfl)
abbrev cX0_takesLeg : ByteArray := prog_1_method_88_code
def yX0_takesLeg : MethodName := ⟨RX0, "takesLeg", "(II)V"⟩
def dkwX0_takesLeg_4 : List UInt8 := [177]
abbrev dktX0_takesLeg_4 : List UInt8 := dkwX0_takesLeg_4 ++ []
def dkwX0_takesLeg_3 : List UInt8 := [180, 0, 70, 16, 10, 28, 104, 16, 8, 96, 4, 96, 46, 79, 42, 180, 0, 66, 180, 1, 79, 27, 3, 79]
abbrev dktX0_takesLeg_3 : List UInt8 := dkwX0_takesLeg_3 ++ dktX0_takesLeg_4
def dkwX0_takesLeg_2 : List UInt8 := [27, 42, 180, 0, 70, 16, 10, 28, 104, 16, 8, 96, 46, 79, 42, 180, 0, 66, 180, 1, 74, 27, 42]
abbrev dktX0_takesLeg_2 : List UInt8 := dkwX0_takesLeg_2 ++ dktX0_takesLeg_3
def dkwX0_takesLeg_1 : List UInt8 := [180, 0, 70, 16, 10, 28, 104, 29, 96, 46, 79, 132, 3, 1, 167, 255, 222, 42, 180, 0, 66, 180, 1, 91]
abbrev dktX0_takesLeg_1 : List UInt8 := dkwX0_takesLeg_1 ++ dktX0_takesLeg_2
def dkwX0_takesLeg_0 : List UInt8 := [3, 62, 29, 16, 8, 162, 0, 34, 42, 180, 0, 66, 180, 1, 100, 16, 8, 27, 104, 29, 96, 42]
abbrev dktX0_takesLeg_0 : List UInt8 := dkwX0_takesLeg_0 ++ dktX0_takesLeg_1
theorem dksX0_takesLeg_0 : cX0_takesLeg.data.toList.drop 0 = dktX0_takesLeg_0 := by decide +kernel
theorem dksX0_takesLeg_1 : cX0_takesLeg.data.toList.drop 22 = dktX0_takesLeg_1 := dk_seg dksX0_takesLeg_0 22 rfl rfl
theorem dksX0_takesLeg_2 : cX0_takesLeg.data.toList.drop 46 = dktX0_takesLeg_2 := dk_seg dksX0_takesLeg_1 24 rfl rfl
theorem dksX0_takesLeg_3 : cX0_takesLeg.data.toList.drop 69 = dktX0_takesLeg_3 := dk_seg dksX0_takesLeg_2 23 rfl rfl
theorem dksX0_takesLeg_4 : cX0_takesLeg.data.toList.drop 93 = dktX0_takesLeg_4 := dk_seg dksX0_takesLeg_3 24 rfl rfl
theorem dX0_takesLeg_0 : decode cX0_takesLeg 0 = .ok (.iconst 0, 1) := dk_3 (dk_at dksX0_takesLeg_0 0 rfl rfl)
theorem dX0_takesLeg_1 : decode cX0_takesLeg 1 = .ok (.istore_n 3, 1) := dk_62 (dk_at dksX0_takesLeg_0 1 rfl rfl)
theorem dX0_takesLeg_2 : decode cX0_takesLeg 2 = .ok (.iload_n 3, 1) := dk_29 (dk_at dksX0_takesLeg_0 2 rfl rfl)
theorem dX0_takesLeg_3 : decode cX0_takesLeg 3 = .ok (.bipush 8, 2) := dk_16 8 (dk_at dksX0_takesLeg_0 3 rfl rfl)
theorem dX0_takesLeg_5 : decode cX0_takesLeg 5 = .ok (.if_icmp .ge 34, 3) := dk_162 0 34 (dk_at dksX0_takesLeg_0 5 rfl rfl)
theorem dX0_takesLeg_8 : decode cX0_takesLeg 8 = .ok (.aload_n 0, 1) := dk_42 (dk_at dksX0_takesLeg_0 8 rfl rfl)
theorem dX0_takesLeg_9 : decode cX0_takesLeg 9 = .ok (.getfield 66, 3) := dk_180 0 66 (dk_at dksX0_takesLeg_0 9 rfl rfl)
theorem dX0_takesLeg_12 : decode cX0_takesLeg 12 = .ok (.getfield 356, 3) := dk_180 1 100 (dk_at dksX0_takesLeg_0 12 rfl rfl)
theorem dX0_takesLeg_15 : decode cX0_takesLeg 15 = .ok (.bipush 8, 2) := dk_16 8 (dk_at dksX0_takesLeg_0 15 rfl rfl)
theorem dX0_takesLeg_17 : decode cX0_takesLeg 17 = .ok (.iload_n 1, 1) := dk_27 (dk_at dksX0_takesLeg_0 17 rfl rfl)
theorem dX0_takesLeg_18 : decode cX0_takesLeg 18 = .ok (.imul, 1) := dk_104 (dk_at dksX0_takesLeg_0 18 rfl rfl)
theorem dX0_takesLeg_19 : decode cX0_takesLeg 19 = .ok (.iload_n 3, 1) := dk_29 (dk_at dksX0_takesLeg_0 19 rfl rfl)
theorem dX0_takesLeg_20 : decode cX0_takesLeg 20 = .ok (.iadd, 1) := dk_96 (dk_at dksX0_takesLeg_0 20 rfl rfl)
theorem dX0_takesLeg_21 : decode cX0_takesLeg 21 = .ok (.aload_n 0, 1) := dk_42 (dk_at dksX0_takesLeg_0 21 rfl rfl)
theorem dX0_takesLeg_22 : decode cX0_takesLeg 22 = .ok (.getfield 70, 3) := dk_180 0 70 (dk_at dksX0_takesLeg_1 0 rfl rfl)
theorem dX0_takesLeg_25 : decode cX0_takesLeg 25 = .ok (.bipush 10, 2) := dk_16 10 (dk_at dksX0_takesLeg_1 3 rfl rfl)
theorem dX0_takesLeg_27 : decode cX0_takesLeg 27 = .ok (.iload_n 2, 1) := dk_28 (dk_at dksX0_takesLeg_1 5 rfl rfl)
theorem dX0_takesLeg_28 : decode cX0_takesLeg 28 = .ok (.imul, 1) := dk_104 (dk_at dksX0_takesLeg_1 6 rfl rfl)
theorem dX0_takesLeg_29 : decode cX0_takesLeg 29 = .ok (.iload_n 3, 1) := dk_29 (dk_at dksX0_takesLeg_1 7 rfl rfl)
theorem dX0_takesLeg_30 : decode cX0_takesLeg 30 = .ok (.iadd, 1) := dk_96 (dk_at dksX0_takesLeg_1 8 rfl rfl)
theorem dX0_takesLeg_31 : decode cX0_takesLeg 31 = .ok (.iaload, 1) := dk_46 (dk_at dksX0_takesLeg_1 9 rfl rfl)
theorem dX0_takesLeg_32 : decode cX0_takesLeg 32 = .ok (.iastore, 1) := dk_79 (dk_at dksX0_takesLeg_1 10 rfl rfl)
theorem dX0_takesLeg_33 : decode cX0_takesLeg 33 = .ok (.iinc 3 1, 3) := dk_132 3 1 (dk_at dksX0_takesLeg_1 11 rfl rfl)
theorem dX0_takesLeg_36 : decode cX0_takesLeg 36 = .ok (.goto (-34), 3) := dk_167 255 222 (dk_at dksX0_takesLeg_1 14 rfl rfl)
theorem dX0_takesLeg_39 : decode cX0_takesLeg 39 = .ok (.aload_n 0, 1) := dk_42 (dk_at dksX0_takesLeg_1 17 rfl rfl)
theorem dX0_takesLeg_40 : decode cX0_takesLeg 40 = .ok (.getfield 66, 3) := dk_180 0 66 (dk_at dksX0_takesLeg_1 18 rfl rfl)
theorem dX0_takesLeg_43 : decode cX0_takesLeg 43 = .ok (.getfield 347, 3) := dk_180 1 91 (dk_at dksX0_takesLeg_1 21 rfl rfl)
theorem dX0_takesLeg_46 : decode cX0_takesLeg 46 = .ok (.iload_n 1, 1) := dk_27 (dk_at dksX0_takesLeg_2 0 rfl rfl)
theorem dX0_takesLeg_47 : decode cX0_takesLeg 47 = .ok (.aload_n 0, 1) := dk_42 (dk_at dksX0_takesLeg_2 1 rfl rfl)
theorem dX0_takesLeg_48 : decode cX0_takesLeg 48 = .ok (.getfield 70, 3) := dk_180 0 70 (dk_at dksX0_takesLeg_2 2 rfl rfl)
theorem dX0_takesLeg_51 : decode cX0_takesLeg 51 = .ok (.bipush 10, 2) := dk_16 10 (dk_at dksX0_takesLeg_2 5 rfl rfl)
theorem dX0_takesLeg_53 : decode cX0_takesLeg 53 = .ok (.iload_n 2, 1) := dk_28 (dk_at dksX0_takesLeg_2 7 rfl rfl)
theorem dX0_takesLeg_54 : decode cX0_takesLeg 54 = .ok (.imul, 1) := dk_104 (dk_at dksX0_takesLeg_2 8 rfl rfl)
theorem dX0_takesLeg_55 : decode cX0_takesLeg 55 = .ok (.bipush 8, 2) := dk_16 8 (dk_at dksX0_takesLeg_2 9 rfl rfl)
theorem dX0_takesLeg_57 : decode cX0_takesLeg 57 = .ok (.iadd, 1) := dk_96 (dk_at dksX0_takesLeg_2 11 rfl rfl)
theorem dX0_takesLeg_58 : decode cX0_takesLeg 58 = .ok (.iaload, 1) := dk_46 (dk_at dksX0_takesLeg_2 12 rfl rfl)
theorem dX0_takesLeg_59 : decode cX0_takesLeg 59 = .ok (.iastore, 1) := dk_79 (dk_at dksX0_takesLeg_2 13 rfl rfl)
theorem dX0_takesLeg_60 : decode cX0_takesLeg 60 = .ok (.aload_n 0, 1) := dk_42 (dk_at dksX0_takesLeg_2 14 rfl rfl)
theorem dX0_takesLeg_61 : decode cX0_takesLeg 61 = .ok (.getfield 66, 3) := dk_180 0 66 (dk_at dksX0_takesLeg_2 15 rfl rfl)
theorem dX0_takesLeg_64 : decode cX0_takesLeg 64 = .ok (.getfield 330, 3) := dk_180 1 74 (dk_at dksX0_takesLeg_2 18 rfl rfl)
theorem dX0_takesLeg_67 : decode cX0_takesLeg 67 = .ok (.iload_n 1, 1) := dk_27 (dk_at dksX0_takesLeg_2 21 rfl rfl)
theorem dX0_takesLeg_68 : decode cX0_takesLeg 68 = .ok (.aload_n 0, 1) := dk_42 (dk_at dksX0_takesLeg_2 22 rfl rfl)
theorem dX0_takesLeg_69 : decode cX0_takesLeg 69 = .ok (.getfield 70, 3) := dk_180 0 70 (dk_at dksX0_takesLeg_3 0 rfl rfl)
theorem dX0_takesLeg_72 : decode cX0_takesLeg 72 = .ok (.bipush 10, 2) := dk_16 10 (dk_at dksX0_takesLeg_3 3 rfl rfl)
theorem dX0_takesLeg_74 : decode cX0_takesLeg 74 = .ok (.iload_n 2, 1) := dk_28 (dk_at dksX0_takesLeg_3 5 rfl rfl)
theorem dX0_takesLeg_75 : decode cX0_takesLeg 75 = .ok (.imul, 1) := dk_104 (dk_at dksX0_takesLeg_3 6 rfl rfl)
theorem dX0_takesLeg_76 : decode cX0_takesLeg 76 = .ok (.bipush 8, 2) := dk_16 8 (dk_at dksX0_takesLeg_3 7 rfl rfl)
theorem dX0_takesLeg_78 : decode cX0_takesLeg 78 = .ok (.iadd, 1) := dk_96 (dk_at dksX0_takesLeg_3 9 rfl rfl)
theorem dX0_takesLeg_79 : decode cX0_takesLeg 79 = .ok (.iconst 1, 1) := dk_4 (dk_at dksX0_takesLeg_3 10 rfl rfl)
theorem dX0_takesLeg_80 : decode cX0_takesLeg 80 = .ok (.iadd, 1) := dk_96 (dk_at dksX0_takesLeg_3 11 rfl rfl)
theorem dX0_takesLeg_81 : decode cX0_takesLeg 81 = .ok (.iaload, 1) := dk_46 (dk_at dksX0_takesLeg_3 12 rfl rfl)
theorem dX0_takesLeg_82 : decode cX0_takesLeg 82 = .ok (.iastore, 1) := dk_79 (dk_at dksX0_takesLeg_3 13 rfl rfl)
theorem dX0_takesLeg_83 : decode cX0_takesLeg 83 = .ok (.aload_n 0, 1) := dk_42 (dk_at dksX0_takesLeg_3 14 rfl rfl)
theorem dX0_takesLeg_84 : decode cX0_takesLeg 84 = .ok (.getfield 66, 3) := dk_180 0 66 (dk_at dksX0_takesLeg_3 15 rfl rfl)
theorem dX0_takesLeg_87 : decode cX0_takesLeg 87 = .ok (.getfield 335, 3) := dk_180 1 79 (dk_at dksX0_takesLeg_3 18 rfl rfl)
theorem dX0_takesLeg_90 : decode cX0_takesLeg 90 = .ok (.iload_n 1, 1) := dk_27 (dk_at dksX0_takesLeg_3 21 rfl rfl)
theorem dX0_takesLeg_91 : decode cX0_takesLeg 91 = .ok (.iconst 0, 1) := dk_3 (dk_at dksX0_takesLeg_3 22 rfl rfl)
theorem dX0_takesLeg_92 : decode cX0_takesLeg 92 = .ok (.iastore, 1) := dk_79 (dk_at dksX0_takesLeg_3 23 rfl rfl)
theorem dX0_takesLeg_93 : decode cX0_takesLeg 93 = .ok (.return_, 1) := dk_177 (dk_at dksX0_takesLeg_4 0 rfl rfl)
abbrev cX0_buysAll : ByteArray := prog_1_method_91_code
def yX0_buysAll : MethodName := ⟨RX0, "buysAll", "(II)Z"⟩
def dkwX0_buysAll_3 : List UInt8 := [4, 167, 0, 4, 3, 172]
abbrev dktX0_buysAll_3 : List UInt8 := dkwX0_buysAll_3 ++ []
def dkwX0_buysAll_2 : List UInt8 := [184, 1, 214, 54, 4, 21, 4, 158, 0, 21, 42, 180, 0, 66, 27, 28, 21, 4, 182, 1, 132, 153, 0, 7]
abbrev dktX0_buysAll_2 : List UInt8 := dkwX0_buysAll_2 ++ dktX0_buysAll_3
def dkwX0_buysAll_1 : List UInt8 := [154, 0, 5, 3, 172, 42, 180, 0, 66, 27, 182, 1, 147, 42, 180, 0, 66, 180, 1, 91, 27, 46, 29, 108]
abbrev dktX0_buysAll_1 : List UInt8 := dkwX0_buysAll_1 ++ dktX0_buysAll_2
def dkwX0_buysAll_0 : List UInt8 := [42, 180, 0, 66, 180, 1, 63, 16, 8, 42, 180, 0, 66, 180, 1, 74, 27, 46, 104, 28, 96, 46, 62, 29]
abbrev dktX0_buysAll_0 : List UInt8 := dkwX0_buysAll_0 ++ dktX0_buysAll_1
theorem dksX0_buysAll_0 : cX0_buysAll.data.toList.drop 0 = dktX0_buysAll_0 := by decide +kernel
theorem dksX0_buysAll_1 : cX0_buysAll.data.toList.drop 24 = dktX0_buysAll_1 := dk_seg dksX0_buysAll_0 24 rfl rfl
theorem dksX0_buysAll_2 : cX0_buysAll.data.toList.drop 48 = dktX0_buysAll_2 := dk_seg dksX0_buysAll_1 24 rfl rfl
theorem dksX0_buysAll_3 : cX0_buysAll.data.toList.drop 72 = dktX0_buysAll_3 := dk_seg dksX0_buysAll_2 24 rfl rfl
theorem dX0_buysAll_0 : decode cX0_buysAll 0 = .ok (.aload_n 0, 1) := dk_42 (dk_at dksX0_buysAll_0 0 rfl rfl)
theorem dX0_buysAll_1 : decode cX0_buysAll 1 = .ok (.getfield 66, 3) := dk_180 0 66 (dk_at dksX0_buysAll_0 1 rfl rfl)
theorem dX0_buysAll_4 : decode cX0_buysAll 4 = .ok (.getfield 319, 3) := dk_180 1 63 (dk_at dksX0_buysAll_0 4 rfl rfl)
theorem dX0_buysAll_7 : decode cX0_buysAll 7 = .ok (.bipush 8, 2) := dk_16 8 (dk_at dksX0_buysAll_0 7 rfl rfl)
theorem dX0_buysAll_9 : decode cX0_buysAll 9 = .ok (.aload_n 0, 1) := dk_42 (dk_at dksX0_buysAll_0 9 rfl rfl)
theorem dX0_buysAll_10 : decode cX0_buysAll 10 = .ok (.getfield 66, 3) := dk_180 0 66 (dk_at dksX0_buysAll_0 10 rfl rfl)
theorem dX0_buysAll_13 : decode cX0_buysAll 13 = .ok (.getfield 330, 3) := dk_180 1 74 (dk_at dksX0_buysAll_0 13 rfl rfl)
theorem dX0_buysAll_16 : decode cX0_buysAll 16 = .ok (.iload_n 1, 1) := dk_27 (dk_at dksX0_buysAll_0 16 rfl rfl)
theorem dX0_buysAll_17 : decode cX0_buysAll 17 = .ok (.iaload, 1) := dk_46 (dk_at dksX0_buysAll_0 17 rfl rfl)
theorem dX0_buysAll_18 : decode cX0_buysAll 18 = .ok (.imul, 1) := dk_104 (dk_at dksX0_buysAll_0 18 rfl rfl)
theorem dX0_buysAll_19 : decode cX0_buysAll 19 = .ok (.iload_n 2, 1) := dk_28 (dk_at dksX0_buysAll_0 19 rfl rfl)
theorem dX0_buysAll_20 : decode cX0_buysAll 20 = .ok (.iadd, 1) := dk_96 (dk_at dksX0_buysAll_0 20 rfl rfl)
theorem dX0_buysAll_21 : decode cX0_buysAll 21 = .ok (.iaload, 1) := dk_46 (dk_at dksX0_buysAll_0 21 rfl rfl)
theorem dX0_buysAll_22 : decode cX0_buysAll 22 = .ok (.istore_n 3, 1) := dk_62 (dk_at dksX0_buysAll_0 22 rfl rfl)
theorem dX0_buysAll_23 : decode cX0_buysAll 23 = .ok (.iload_n 3, 1) := dk_29 (dk_at dksX0_buysAll_0 23 rfl rfl)
theorem dX0_buysAll_24 : decode cX0_buysAll 24 = .ok (.ifCond .ne 5, 3) := dk_154 0 5 (dk_at dksX0_buysAll_1 0 rfl rfl)
theorem dX0_buysAll_27 : decode cX0_buysAll 27 = .ok (.iconst 0, 1) := dk_3 (dk_at dksX0_buysAll_1 3 rfl rfl)
theorem dX0_buysAll_28 : decode cX0_buysAll 28 = .ok (.ireturn, 1) := dk_172 (dk_at dksX0_buysAll_1 4 rfl rfl)
theorem dX0_buysAll_29 : decode cX0_buysAll 29 = .ok (.aload_n 0, 1) := dk_42 (dk_at dksX0_buysAll_1 5 rfl rfl)
theorem dX0_buysAll_30 : decode cX0_buysAll 30 = .ok (.getfield 66, 3) := dk_180 0 66 (dk_at dksX0_buysAll_1 6 rfl rfl)
theorem dX0_buysAll_33 : decode cX0_buysAll 33 = .ok (.iload_n 1, 1) := dk_27 (dk_at dksX0_buysAll_1 9 rfl rfl)
theorem dX0_buysAll_34 : decode cX0_buysAll 34 = .ok (.invokevirtual 403, 3) := dk_182 1 147 (dk_at dksX0_buysAll_1 10 rfl rfl)
theorem dX0_buysAll_37 : decode cX0_buysAll 37 = .ok (.aload_n 0, 1) := dk_42 (dk_at dksX0_buysAll_1 13 rfl rfl)
theorem dX0_buysAll_38 : decode cX0_buysAll 38 = .ok (.getfield 66, 3) := dk_180 0 66 (dk_at dksX0_buysAll_1 14 rfl rfl)
theorem dX0_buysAll_41 : decode cX0_buysAll 41 = .ok (.getfield 347, 3) := dk_180 1 91 (dk_at dksX0_buysAll_1 17 rfl rfl)
theorem dX0_buysAll_44 : decode cX0_buysAll 44 = .ok (.iload_n 1, 1) := dk_27 (dk_at dksX0_buysAll_1 20 rfl rfl)
theorem dX0_buysAll_45 : decode cX0_buysAll 45 = .ok (.iaload, 1) := dk_46 (dk_at dksX0_buysAll_1 21 rfl rfl)
theorem dX0_buysAll_46 : decode cX0_buysAll 46 = .ok (.iload_n 3, 1) := dk_29 (dk_at dksX0_buysAll_1 22 rfl rfl)
theorem dX0_buysAll_47 : decode cX0_buysAll 47 = .ok (.idiv, 1) := dk_108 (dk_at dksX0_buysAll_1 23 rfl rfl)
theorem dX0_buysAll_48 : decode cX0_buysAll 48 = .ok (.invokestatic 470, 3) := dk_184 1 214 (dk_at dksX0_buysAll_2 0 rfl rfl)
theorem dX0_buysAll_51 : decode cX0_buysAll 51 = .ok (.istore 4, 2) := dk_54 4 (dk_at dksX0_buysAll_2 3 rfl rfl)
theorem dX0_buysAll_53 : decode cX0_buysAll 53 = .ok (.iload 4, 2) := dk_21 4 (dk_at dksX0_buysAll_2 5 rfl rfl)
theorem dX0_buysAll_55 : decode cX0_buysAll 55 = .ok (.ifCond .le 21, 3) := dk_158 0 21 (dk_at dksX0_buysAll_2 7 rfl rfl)
theorem dX0_buysAll_58 : decode cX0_buysAll 58 = .ok (.aload_n 0, 1) := dk_42 (dk_at dksX0_buysAll_2 10 rfl rfl)
theorem dX0_buysAll_59 : decode cX0_buysAll 59 = .ok (.getfield 66, 3) := dk_180 0 66 (dk_at dksX0_buysAll_2 11 rfl rfl)
theorem dX0_buysAll_62 : decode cX0_buysAll 62 = .ok (.iload_n 1, 1) := dk_27 (dk_at dksX0_buysAll_2 14 rfl rfl)
theorem dX0_buysAll_63 : decode cX0_buysAll 63 = .ok (.iload_n 2, 1) := dk_28 (dk_at dksX0_buysAll_2 15 rfl rfl)
theorem dX0_buysAll_64 : decode cX0_buysAll 64 = .ok (.iload 4, 2) := dk_21 4 (dk_at dksX0_buysAll_2 16 rfl rfl)
theorem dX0_buysAll_66 : decode cX0_buysAll 66 = .ok (.invokevirtual 388, 3) := dk_182 1 132 (dk_at dksX0_buysAll_2 18 rfl rfl)
theorem dX0_buysAll_69 : decode cX0_buysAll 69 = .ok (.ifCond .eq 7, 3) := dk_153 0 7 (dk_at dksX0_buysAll_2 21 rfl rfl)
theorem dX0_buysAll_72 : decode cX0_buysAll 72 = .ok (.iconst 1, 1) := dk_4 (dk_at dksX0_buysAll_3 0 rfl rfl)
theorem dX0_buysAll_73 : decode cX0_buysAll 73 = .ok (.goto 4, 3) := dk_167 0 4 (dk_at dksX0_buysAll_3 1 rfl rfl)
theorem dX0_buysAll_76 : decode cX0_buysAll 76 = .ok (.iconst 0, 1) := dk_3 (dk_at dksX0_buysAll_3 4 rfl rfl)
theorem dX0_buysAll_77 : decode cX0_buysAll 77 = .ok (.ireturn, 1) := dk_172 (dk_at dksX0_buysAll_3 5 rfl rfl)
abbrev cX0_voyageAt : ByteArray := prog_1_method_94_code
def yX0_voyageAt : MethodName := ⟨RX0, "voyageAt", "(III)I"⟩
def dkwX0_voyageAt_1 : List UInt8 := [42, 180, 0, 85, 158, 0, 7, 2, 167, 0, 9, 42, 180, 0, 76, 29, 46, 172]
abbrev dktX0_voyageAt_1 : List UInt8 := dkwX0_voyageAt_1 ++ []
def dkwX0_voyageAt_0 : List UInt8 := [42, 29, 133, 9, 10, 184, 0, 169, 153, 0, 12, 42, 27, 28, 182, 1, 217, 167, 0, 4, 4, 181, 0, 85]
abbrev dktX0_voyageAt_0 : List UInt8 := dkwX0_voyageAt_0 ++ dktX0_voyageAt_1
theorem dksX0_voyageAt_0 : cX0_voyageAt.data.toList.drop 0 = dktX0_voyageAt_0 := by decide +kernel
theorem dksX0_voyageAt_1 : cX0_voyageAt.data.toList.drop 24 = dktX0_voyageAt_1 := dk_seg dksX0_voyageAt_0 24 rfl rfl
theorem dX0_voyageAt_0 : decode cX0_voyageAt 0 = .ok (.aload_n 0, 1) := dk_42 (dk_at dksX0_voyageAt_0 0 rfl rfl)
theorem dX0_voyageAt_1 : decode cX0_voyageAt 1 = .ok (.iload_n 3, 1) := dk_29 (dk_at dksX0_voyageAt_0 1 rfl rfl)
theorem dX0_voyageAt_2 : decode cX0_voyageAt 2 = .ok (.i2l, 1) := dk_133 (dk_at dksX0_voyageAt_0 2 rfl rfl)
theorem dX0_voyageAt_3 : decode cX0_voyageAt 3 = .ok (.lconst 0, 1) := dk_9 (dk_at dksX0_voyageAt_0 3 rfl rfl)
theorem dX0_voyageAt_4 : decode cX0_voyageAt 4 = .ok (.lconst 1, 1) := dk_10 (dk_at dksX0_voyageAt_0 4 rfl rfl)
theorem dX0_voyageAt_5 : decode cX0_voyageAt 5 = .ok (.invokestatic 169, 3) := dk_184 0 169 (dk_at dksX0_voyageAt_0 5 rfl rfl)
theorem dX0_voyageAt_8 : decode cX0_voyageAt 8 = .ok (.ifCond .eq 12, 3) := dk_153 0 12 (dk_at dksX0_voyageAt_0 8 rfl rfl)
theorem dX0_voyageAt_11 : decode cX0_voyageAt 11 = .ok (.aload_n 0, 1) := dk_42 (dk_at dksX0_voyageAt_0 11 rfl rfl)
theorem dX0_voyageAt_12 : decode cX0_voyageAt 12 = .ok (.iload_n 1, 1) := dk_27 (dk_at dksX0_voyageAt_0 12 rfl rfl)
theorem dX0_voyageAt_13 : decode cX0_voyageAt 13 = .ok (.iload_n 2, 1) := dk_28 (dk_at dksX0_voyageAt_0 13 rfl rfl)
theorem dX0_voyageAt_14 : decode cX0_voyageAt 14 = .ok (.invokevirtual 473, 3) := dk_182 1 217 (dk_at dksX0_voyageAt_0 14 rfl rfl)
theorem dX0_voyageAt_17 : decode cX0_voyageAt 17 = .ok (.goto 4, 3) := dk_167 0 4 (dk_at dksX0_voyageAt_0 17 rfl rfl)
theorem dX0_voyageAt_20 : decode cX0_voyageAt 20 = .ok (.iconst 1, 1) := dk_4 (dk_at dksX0_voyageAt_0 20 rfl rfl)
theorem dX0_voyageAt_21 : decode cX0_voyageAt 21 = .ok (.putfield 85, 3) := dk_181 0 85 (dk_at dksX0_voyageAt_0 21 rfl rfl)
theorem dX0_voyageAt_24 : decode cX0_voyageAt 24 = .ok (.aload_n 0, 1) := dk_42 (dk_at dksX0_voyageAt_1 0 rfl rfl)
theorem dX0_voyageAt_25 : decode cX0_voyageAt 25 = .ok (.getfield 85, 3) := dk_180 0 85 (dk_at dksX0_voyageAt_1 1 rfl rfl)
theorem dX0_voyageAt_28 : decode cX0_voyageAt 28 = .ok (.ifCond .le 7, 3) := dk_158 0 7 (dk_at dksX0_voyageAt_1 4 rfl rfl)
theorem dX0_voyageAt_31 : decode cX0_voyageAt 31 = .ok (.iconst (-1), 1) := dk_2 (dk_at dksX0_voyageAt_1 7 rfl rfl)
theorem dX0_voyageAt_32 : decode cX0_voyageAt 32 = .ok (.goto 9, 3) := dk_167 0 9 (dk_at dksX0_voyageAt_1 8 rfl rfl)
theorem dX0_voyageAt_35 : decode cX0_voyageAt 35 = .ok (.aload_n 0, 1) := dk_42 (dk_at dksX0_voyageAt_1 11 rfl rfl)
theorem dX0_voyageAt_36 : decode cX0_voyageAt 36 = .ok (.getfield 76, 3) := dk_180 0 76 (dk_at dksX0_voyageAt_1 12 rfl rfl)
theorem dX0_voyageAt_39 : decode cX0_voyageAt 39 = .ok (.iload_n 3, 1) := dk_29 (dk_at dksX0_voyageAt_1 15 rfl rfl)
theorem dX0_voyageAt_40 : decode cX0_voyageAt 40 = .ok (.iaload, 1) := dk_46 (dk_at dksX0_voyageAt_1 16 rfl rfl)
theorem dX0_voyageAt_41 : decode cX0_voyageAt 41 = .ok (.ireturn, 1) := dk_172 (dk_at dksX0_voyageAt_1 17 rfl rfl)
abbrev cX0_soonest : ByteArray := prog_1_method_96_code
def yX0_soonest : MethodName := ⟨RX0, "soonest", "(II)I"⟩
def dkwX0_soonest_2 : List UInt8 := [182, 1, 60, 172]
abbrev dktX0_soonest_2 : List UInt8 := dkwX0_soonest_2 ++ []
def dkwX0_soonest_1 : List UInt8 := [181, 0, 85, 42, 180, 0, 85, 158, 0, 5, 2, 172, 42, 27, 182, 1, 220, 42, 42, 180, 0, 79, 28, 46]
abbrev dktX0_soonest_1 : List UInt8 := dkwX0_soonest_1 ++ dktX0_soonest_2
def dkwX0_soonest_0 : List UInt8 := [42, 42, 27, 182, 0, 190, 153, 0, 15, 42, 28, 182, 0, 190, 153, 0, 7, 3, 167, 0, 4, 4]
abbrev dktX0_soonest_0 : List UInt8 := dkwX0_soonest_0 ++ dktX0_soonest_1
theorem dksX0_soonest_0 : cX0_soonest.data.toList.drop 0 = dktX0_soonest_0 := by decide +kernel
theorem dksX0_soonest_1 : cX0_soonest.data.toList.drop 22 = dktX0_soonest_1 := dk_seg dksX0_soonest_0 22 rfl rfl
theorem dksX0_soonest_2 : cX0_soonest.data.toList.drop 46 = dktX0_soonest_2 := dk_seg dksX0_soonest_1 24 rfl rfl
theorem dX0_soonest_0 : decode cX0_soonest 0 = .ok (.aload_n 0, 1) := dk_42 (dk_at dksX0_soonest_0 0 rfl rfl)
theorem dX0_soonest_1 : decode cX0_soonest 1 = .ok (.aload_n 0, 1) := dk_42 (dk_at dksX0_soonest_0 1 rfl rfl)
theorem dX0_soonest_2 : decode cX0_soonest 2 = .ok (.iload_n 1, 1) := dk_27 (dk_at dksX0_soonest_0 2 rfl rfl)
theorem dX0_soonest_3 : decode cX0_soonest 3 = .ok (.invokevirtual 190, 3) := dk_182 0 190 (dk_at dksX0_soonest_0 3 rfl rfl)
theorem dX0_soonest_6 : decode cX0_soonest 6 = .ok (.ifCond .eq 15, 3) := dk_153 0 15 (dk_at dksX0_soonest_0 6 rfl rfl)
theorem dX0_soonest_9 : decode cX0_soonest 9 = .ok (.aload_n 0, 1) := dk_42 (dk_at dksX0_soonest_0 9 rfl rfl)
theorem dX0_soonest_10 : decode cX0_soonest 10 = .ok (.iload_n 2, 1) := dk_28 (dk_at dksX0_soonest_0 10 rfl rfl)
theorem dX0_soonest_11 : decode cX0_soonest 11 = .ok (.invokevirtual 190, 3) := dk_182 0 190 (dk_at dksX0_soonest_0 11 rfl rfl)
theorem dX0_soonest_14 : decode cX0_soonest 14 = .ok (.ifCond .eq 7, 3) := dk_153 0 7 (dk_at dksX0_soonest_0 14 rfl rfl)
theorem dX0_soonest_17 : decode cX0_soonest 17 = .ok (.iconst 0, 1) := dk_3 (dk_at dksX0_soonest_0 17 rfl rfl)
theorem dX0_soonest_18 : decode cX0_soonest 18 = .ok (.goto 4, 3) := dk_167 0 4 (dk_at dksX0_soonest_0 18 rfl rfl)
theorem dX0_soonest_21 : decode cX0_soonest 21 = .ok (.iconst 1, 1) := dk_4 (dk_at dksX0_soonest_0 21 rfl rfl)
theorem dX0_soonest_22 : decode cX0_soonest 22 = .ok (.putfield 85, 3) := dk_181 0 85 (dk_at dksX0_soonest_1 0 rfl rfl)
theorem dX0_soonest_25 : decode cX0_soonest 25 = .ok (.aload_n 0, 1) := dk_42 (dk_at dksX0_soonest_1 3 rfl rfl)
theorem dX0_soonest_26 : decode cX0_soonest 26 = .ok (.getfield 85, 3) := dk_180 0 85 (dk_at dksX0_soonest_1 4 rfl rfl)
theorem dX0_soonest_29 : decode cX0_soonest 29 = .ok (.ifCond .le 5, 3) := dk_158 0 5 (dk_at dksX0_soonest_1 7 rfl rfl)
theorem dX0_soonest_32 : decode cX0_soonest 32 = .ok (.iconst (-1), 1) := dk_2 (dk_at dksX0_soonest_1 10 rfl rfl)
theorem dX0_soonest_33 : decode cX0_soonest 33 = .ok (.ireturn, 1) := dk_172 (dk_at dksX0_soonest_1 11 rfl rfl)
theorem dX0_soonest_34 : decode cX0_soonest 34 = .ok (.aload_n 0, 1) := dk_42 (dk_at dksX0_soonest_1 12 rfl rfl)
theorem dX0_soonest_35 : decode cX0_soonest 35 = .ok (.iload_n 1, 1) := dk_27 (dk_at dksX0_soonest_1 13 rfl rfl)
theorem dX0_soonest_36 : decode cX0_soonest 36 = .ok (.invokevirtual 476, 3) := dk_182 1 220 (dk_at dksX0_soonest_1 14 rfl rfl)
theorem dX0_soonest_39 : decode cX0_soonest 39 = .ok (.aload_n 0, 1) := dk_42 (dk_at dksX0_soonest_1 17 rfl rfl)
theorem dX0_soonest_40 : decode cX0_soonest 40 = .ok (.aload_n 0, 1) := dk_42 (dk_at dksX0_soonest_1 18 rfl rfl)
theorem dX0_soonest_41 : decode cX0_soonest 41 = .ok (.getfield 79, 3) := dk_180 0 79 (dk_at dksX0_soonest_1 19 rfl rfl)
theorem dX0_soonest_44 : decode cX0_soonest 44 = .ok (.iload_n 2, 1) := dk_28 (dk_at dksX0_soonest_1 22 rfl rfl)
theorem dX0_soonest_45 : decode cX0_soonest 45 = .ok (.iaload, 1) := dk_46 (dk_at dksX0_soonest_1 23 rfl rfl)
theorem dX0_soonest_46 : decode cX0_soonest 46 = .ok (.invokevirtual 316, 3) := dk_182 1 60 (dk_at dksX0_soonest_2 0 rfl rfl)
theorem dX0_soonest_49 : decode cX0_soonest 49 = .ok (.ireturn, 1) := dk_172 (dk_at dksX0_soonest_2 3 rfl rfl)
abbrev cX0_laysWays : ByteArray := prog_1_method_95_code
def yX0_laysWays : MethodName := ⟨RX0, "laysWays", "(I)V"⟩
def dkwX0_laysWays_6 : List UInt8 := [79, 132, 4, 1, 167, 255, 165, 132, 3, 1, 167, 255, 145, 132, 2, 1, 167, 255, 131, 177]
abbrev dktX0_laysWays_6 : List UInt8 := dkwX0_laysWays_6 ++ []
def dkwX0_laysWays_5 : List UInt8 := [180, 0, 79, 21, 4, 46, 162, 0, 19, 42, 180, 0, 79, 21, 4, 42, 180, 0, 79, 29, 46, 21, 5, 96]
abbrev dktX0_laysWays_5 : List UInt8 := dkwX0_laysWays_5 ++ dktX0_laysWays_6
def dkwX0_laysWays_4 : List UInt8 := [158, 0, 48, 42, 180, 0, 79, 21, 4, 46, 155, 0, 22, 42, 180, 0, 79, 29, 46, 21, 5, 96, 42]
abbrev dktX0_laysWays_4 : List UInt8 := dkwX0_laysWays_4 ++ dktX0_laysWays_5
def dkwX0_laysWays_3 : List UInt8 := [180, 1, 69, 16, 6, 29, 104, 21, 4, 96, 46, 54, 5, 42, 180, 0, 79, 29, 46, 155, 0, 53, 21, 5]
abbrev dktX0_laysWays_3 : List UInt8 := dkwX0_laysWays_3 ++ dktX0_laysWays_4
def dkwX0_laysWays_2 : List UInt8 := [162, 0, 106, 3, 54, 4, 21, 4, 42, 182, 0, 162, 180, 0, 176, 162, 0, 85, 42, 182, 0, 162]
abbrev dktX0_laysWays_2 : List UInt8 := dkwX0_laysWays_2 ++ dktX0_laysWays_3
def dkwX0_laysWays_1 : List UInt8 := [132, 2, 1, 167, 255, 231, 3, 61, 28, 16, 6, 162, 0, 125, 3, 62, 29, 42, 182, 0, 162, 180, 0, 176]
abbrev dktX0_laysWays_1 : List UInt8 := dkwX0_laysWays_1 ++ dktX0_laysWays_2
def dkwX0_laysWays_0 : List UInt8 := [3, 61, 28, 16, 6, 162, 0, 25, 42, 180, 0, 79, 28, 28, 27, 160, 0, 7, 3, 167, 0, 4, 2, 79]
abbrev dktX0_laysWays_0 : List UInt8 := dkwX0_laysWays_0 ++ dktX0_laysWays_1
theorem dksX0_laysWays_0 : cX0_laysWays.data.toList.drop 0 = dktX0_laysWays_0 := by decide +kernel
theorem dksX0_laysWays_1 : cX0_laysWays.data.toList.drop 24 = dktX0_laysWays_1 := dk_seg dksX0_laysWays_0 24 rfl rfl
theorem dksX0_laysWays_2 : cX0_laysWays.data.toList.drop 48 = dktX0_laysWays_2 := dk_seg dksX0_laysWays_1 24 rfl rfl
theorem dksX0_laysWays_3 : cX0_laysWays.data.toList.drop 70 = dktX0_laysWays_3 := dk_seg dksX0_laysWays_2 22 rfl rfl
theorem dksX0_laysWays_4 : cX0_laysWays.data.toList.drop 94 = dktX0_laysWays_4 := dk_seg dksX0_laysWays_3 24 rfl rfl
theorem dksX0_laysWays_5 : cX0_laysWays.data.toList.drop 117 = dktX0_laysWays_5 := dk_seg dksX0_laysWays_4 23 rfl rfl
theorem dksX0_laysWays_6 : cX0_laysWays.data.toList.drop 141 = dktX0_laysWays_6 := dk_seg dksX0_laysWays_5 24 rfl rfl
theorem dX0_laysWays_0 : decode cX0_laysWays 0 = .ok (.iconst 0, 1) := dk_3 (dk_at dksX0_laysWays_0 0 rfl rfl)
theorem dX0_laysWays_1 : decode cX0_laysWays 1 = .ok (.istore_n 2, 1) := dk_61 (dk_at dksX0_laysWays_0 1 rfl rfl)
theorem dX0_laysWays_2 : decode cX0_laysWays 2 = .ok (.iload_n 2, 1) := dk_28 (dk_at dksX0_laysWays_0 2 rfl rfl)
theorem dX0_laysWays_3 : decode cX0_laysWays 3 = .ok (.bipush 6, 2) := dk_16 6 (dk_at dksX0_laysWays_0 3 rfl rfl)
theorem dX0_laysWays_5 : decode cX0_laysWays 5 = .ok (.if_icmp .ge 25, 3) := dk_162 0 25 (dk_at dksX0_laysWays_0 5 rfl rfl)
theorem dX0_laysWays_8 : decode cX0_laysWays 8 = .ok (.aload_n 0, 1) := dk_42 (dk_at dksX0_laysWays_0 8 rfl rfl)
theorem dX0_laysWays_9 : decode cX0_laysWays 9 = .ok (.getfield 79, 3) := dk_180 0 79 (dk_at dksX0_laysWays_0 9 rfl rfl)
theorem dX0_laysWays_12 : decode cX0_laysWays 12 = .ok (.iload_n 2, 1) := dk_28 (dk_at dksX0_laysWays_0 12 rfl rfl)
theorem dX0_laysWays_13 : decode cX0_laysWays 13 = .ok (.iload_n 2, 1) := dk_28 (dk_at dksX0_laysWays_0 13 rfl rfl)
theorem dX0_laysWays_14 : decode cX0_laysWays 14 = .ok (.iload_n 1, 1) := dk_27 (dk_at dksX0_laysWays_0 14 rfl rfl)
theorem dX0_laysWays_15 : decode cX0_laysWays 15 = .ok (.if_icmp .ne 7, 3) := dk_160 0 7 (dk_at dksX0_laysWays_0 15 rfl rfl)
theorem dX0_laysWays_18 : decode cX0_laysWays 18 = .ok (.iconst 0, 1) := dk_3 (dk_at dksX0_laysWays_0 18 rfl rfl)
theorem dX0_laysWays_19 : decode cX0_laysWays 19 = .ok (.goto 4, 3) := dk_167 0 4 (dk_at dksX0_laysWays_0 19 rfl rfl)
theorem dX0_laysWays_22 : decode cX0_laysWays 22 = .ok (.iconst (-1), 1) := dk_2 (dk_at dksX0_laysWays_0 22 rfl rfl)
theorem dX0_laysWays_23 : decode cX0_laysWays 23 = .ok (.iastore, 1) := dk_79 (dk_at dksX0_laysWays_0 23 rfl rfl)
theorem dX0_laysWays_24 : decode cX0_laysWays 24 = .ok (.iinc 2 1, 3) := dk_132 2 1 (dk_at dksX0_laysWays_1 0 rfl rfl)
theorem dX0_laysWays_27 : decode cX0_laysWays 27 = .ok (.goto (-25), 3) := dk_167 255 231 (dk_at dksX0_laysWays_1 3 rfl rfl)
theorem dX0_laysWays_30 : decode cX0_laysWays 30 = .ok (.iconst 0, 1) := dk_3 (dk_at dksX0_laysWays_1 6 rfl rfl)
theorem dX0_laysWays_31 : decode cX0_laysWays 31 = .ok (.istore_n 2, 1) := dk_61 (dk_at dksX0_laysWays_1 7 rfl rfl)
theorem dX0_laysWays_32 : decode cX0_laysWays 32 = .ok (.iload_n 2, 1) := dk_28 (dk_at dksX0_laysWays_1 8 rfl rfl)
theorem dX0_laysWays_33 : decode cX0_laysWays 33 = .ok (.bipush 6, 2) := dk_16 6 (dk_at dksX0_laysWays_1 9 rfl rfl)
theorem dX0_laysWays_35 : decode cX0_laysWays 35 = .ok (.if_icmp .ge 125, 3) := dk_162 0 125 (dk_at dksX0_laysWays_1 11 rfl rfl)
theorem dX0_laysWays_38 : decode cX0_laysWays 38 = .ok (.iconst 0, 1) := dk_3 (dk_at dksX0_laysWays_1 14 rfl rfl)
theorem dX0_laysWays_39 : decode cX0_laysWays 39 = .ok (.istore_n 3, 1) := dk_62 (dk_at dksX0_laysWays_1 15 rfl rfl)
theorem dX0_laysWays_40 : decode cX0_laysWays 40 = .ok (.iload_n 3, 1) := dk_29 (dk_at dksX0_laysWays_1 16 rfl rfl)
theorem dX0_laysWays_41 : decode cX0_laysWays 41 = .ok (.aload_n 0, 1) := dk_42 (dk_at dksX0_laysWays_1 17 rfl rfl)
theorem dX0_laysWays_42 : decode cX0_laysWays 42 = .ok (.invokevirtual 162, 3) := dk_182 0 162 (dk_at dksX0_laysWays_1 18 rfl rfl)
theorem dX0_laysWays_45 : decode cX0_laysWays 45 = .ok (.getfield 176, 3) := dk_180 0 176 (dk_at dksX0_laysWays_1 21 rfl rfl)
theorem dX0_laysWays_48 : decode cX0_laysWays 48 = .ok (.if_icmp .ge 106, 3) := dk_162 0 106 (dk_at dksX0_laysWays_2 0 rfl rfl)
theorem dX0_laysWays_51 : decode cX0_laysWays 51 = .ok (.iconst 0, 1) := dk_3 (dk_at dksX0_laysWays_2 3 rfl rfl)
theorem dX0_laysWays_52 : decode cX0_laysWays 52 = .ok (.istore 4, 2) := dk_54 4 (dk_at dksX0_laysWays_2 4 rfl rfl)
theorem dX0_laysWays_54 : decode cX0_laysWays 54 = .ok (.iload 4, 2) := dk_21 4 (dk_at dksX0_laysWays_2 6 rfl rfl)
theorem dX0_laysWays_56 : decode cX0_laysWays 56 = .ok (.aload_n 0, 1) := dk_42 (dk_at dksX0_laysWays_2 8 rfl rfl)
theorem dX0_laysWays_57 : decode cX0_laysWays 57 = .ok (.invokevirtual 162, 3) := dk_182 0 162 (dk_at dksX0_laysWays_2 9 rfl rfl)
theorem dX0_laysWays_60 : decode cX0_laysWays 60 = .ok (.getfield 176, 3) := dk_180 0 176 (dk_at dksX0_laysWays_2 12 rfl rfl)
theorem dX0_laysWays_63 : decode cX0_laysWays 63 = .ok (.if_icmp .ge 85, 3) := dk_162 0 85 (dk_at dksX0_laysWays_2 15 rfl rfl)
theorem dX0_laysWays_66 : decode cX0_laysWays 66 = .ok (.aload_n 0, 1) := dk_42 (dk_at dksX0_laysWays_2 18 rfl rfl)
theorem dX0_laysWays_67 : decode cX0_laysWays 67 = .ok (.invokevirtual 162, 3) := dk_182 0 162 (dk_at dksX0_laysWays_2 19 rfl rfl)
theorem dX0_laysWays_70 : decode cX0_laysWays 70 = .ok (.getfield 325, 3) := dk_180 1 69 (dk_at dksX0_laysWays_3 0 rfl rfl)
theorem dX0_laysWays_73 : decode cX0_laysWays 73 = .ok (.bipush 6, 2) := dk_16 6 (dk_at dksX0_laysWays_3 3 rfl rfl)
theorem dX0_laysWays_75 : decode cX0_laysWays 75 = .ok (.iload_n 3, 1) := dk_29 (dk_at dksX0_laysWays_3 5 rfl rfl)
theorem dX0_laysWays_76 : decode cX0_laysWays 76 = .ok (.imul, 1) := dk_104 (dk_at dksX0_laysWays_3 6 rfl rfl)
theorem dX0_laysWays_77 : decode cX0_laysWays 77 = .ok (.iload 4, 2) := dk_21 4 (dk_at dksX0_laysWays_3 7 rfl rfl)
theorem dX0_laysWays_79 : decode cX0_laysWays 79 = .ok (.iadd, 1) := dk_96 (dk_at dksX0_laysWays_3 9 rfl rfl)
theorem dX0_laysWays_80 : decode cX0_laysWays 80 = .ok (.iaload, 1) := dk_46 (dk_at dksX0_laysWays_3 10 rfl rfl)
theorem dX0_laysWays_81 : decode cX0_laysWays 81 = .ok (.istore 5, 2) := dk_54 5 (dk_at dksX0_laysWays_3 11 rfl rfl)
theorem dX0_laysWays_83 : decode cX0_laysWays 83 = .ok (.aload_n 0, 1) := dk_42 (dk_at dksX0_laysWays_3 13 rfl rfl)
theorem dX0_laysWays_84 : decode cX0_laysWays 84 = .ok (.getfield 79, 3) := dk_180 0 79 (dk_at dksX0_laysWays_3 14 rfl rfl)
theorem dX0_laysWays_87 : decode cX0_laysWays 87 = .ok (.iload_n 3, 1) := dk_29 (dk_at dksX0_laysWays_3 17 rfl rfl)
theorem dX0_laysWays_88 : decode cX0_laysWays 88 = .ok (.iaload, 1) := dk_46 (dk_at dksX0_laysWays_3 18 rfl rfl)
theorem dX0_laysWays_89 : decode cX0_laysWays 89 = .ok (.ifCond .lt 53, 3) := dk_155 0 53 (dk_at dksX0_laysWays_3 19 rfl rfl)
theorem dX0_laysWays_92 : decode cX0_laysWays 92 = .ok (.iload 5, 2) := dk_21 5 (dk_at dksX0_laysWays_3 22 rfl rfl)
theorem dX0_laysWays_94 : decode cX0_laysWays 94 = .ok (.ifCond .le 48, 3) := dk_158 0 48 (dk_at dksX0_laysWays_4 0 rfl rfl)
theorem dX0_laysWays_97 : decode cX0_laysWays 97 = .ok (.aload_n 0, 1) := dk_42 (dk_at dksX0_laysWays_4 3 rfl rfl)
theorem dX0_laysWays_98 : decode cX0_laysWays 98 = .ok (.getfield 79, 3) := dk_180 0 79 (dk_at dksX0_laysWays_4 4 rfl rfl)
theorem dX0_laysWays_101 : decode cX0_laysWays 101 = .ok (.iload 4, 2) := dk_21 4 (dk_at dksX0_laysWays_4 7 rfl rfl)
theorem dX0_laysWays_103 : decode cX0_laysWays 103 = .ok (.iaload, 1) := dk_46 (dk_at dksX0_laysWays_4 9 rfl rfl)
theorem dX0_laysWays_104 : decode cX0_laysWays 104 = .ok (.ifCond .lt 22, 3) := dk_155 0 22 (dk_at dksX0_laysWays_4 10 rfl rfl)
theorem dX0_laysWays_107 : decode cX0_laysWays 107 = .ok (.aload_n 0, 1) := dk_42 (dk_at dksX0_laysWays_4 13 rfl rfl)
theorem dX0_laysWays_108 : decode cX0_laysWays 108 = .ok (.getfield 79, 3) := dk_180 0 79 (dk_at dksX0_laysWays_4 14 rfl rfl)
theorem dX0_laysWays_111 : decode cX0_laysWays 111 = .ok (.iload_n 3, 1) := dk_29 (dk_at dksX0_laysWays_4 17 rfl rfl)
theorem dX0_laysWays_112 : decode cX0_laysWays 112 = .ok (.iaload, 1) := dk_46 (dk_at dksX0_laysWays_4 18 rfl rfl)
theorem dX0_laysWays_113 : decode cX0_laysWays 113 = .ok (.iload 5, 2) := dk_21 5 (dk_at dksX0_laysWays_4 19 rfl rfl)
theorem dX0_laysWays_115 : decode cX0_laysWays 115 = .ok (.iadd, 1) := dk_96 (dk_at dksX0_laysWays_4 21 rfl rfl)
theorem dX0_laysWays_116 : decode cX0_laysWays 116 = .ok (.aload_n 0, 1) := dk_42 (dk_at dksX0_laysWays_4 22 rfl rfl)
theorem dX0_laysWays_117 : decode cX0_laysWays 117 = .ok (.getfield 79, 3) := dk_180 0 79 (dk_at dksX0_laysWays_5 0 rfl rfl)
theorem dX0_laysWays_120 : decode cX0_laysWays 120 = .ok (.iload 4, 2) := dk_21 4 (dk_at dksX0_laysWays_5 3 rfl rfl)
theorem dX0_laysWays_122 : decode cX0_laysWays 122 = .ok (.iaload, 1) := dk_46 (dk_at dksX0_laysWays_5 5 rfl rfl)
theorem dX0_laysWays_123 : decode cX0_laysWays 123 = .ok (.if_icmp .ge 19, 3) := dk_162 0 19 (dk_at dksX0_laysWays_5 6 rfl rfl)
theorem dX0_laysWays_126 : decode cX0_laysWays 126 = .ok (.aload_n 0, 1) := dk_42 (dk_at dksX0_laysWays_5 9 rfl rfl)
theorem dX0_laysWays_127 : decode cX0_laysWays 127 = .ok (.getfield 79, 3) := dk_180 0 79 (dk_at dksX0_laysWays_5 10 rfl rfl)
theorem dX0_laysWays_130 : decode cX0_laysWays 130 = .ok (.iload 4, 2) := dk_21 4 (dk_at dksX0_laysWays_5 13 rfl rfl)
theorem dX0_laysWays_132 : decode cX0_laysWays 132 = .ok (.aload_n 0, 1) := dk_42 (dk_at dksX0_laysWays_5 15 rfl rfl)
theorem dX0_laysWays_133 : decode cX0_laysWays 133 = .ok (.getfield 79, 3) := dk_180 0 79 (dk_at dksX0_laysWays_5 16 rfl rfl)
theorem dX0_laysWays_136 : decode cX0_laysWays 136 = .ok (.iload_n 3, 1) := dk_29 (dk_at dksX0_laysWays_5 19 rfl rfl)
theorem dX0_laysWays_137 : decode cX0_laysWays 137 = .ok (.iaload, 1) := dk_46 (dk_at dksX0_laysWays_5 20 rfl rfl)
theorem dX0_laysWays_138 : decode cX0_laysWays 138 = .ok (.iload 5, 2) := dk_21 5 (dk_at dksX0_laysWays_5 21 rfl rfl)
theorem dX0_laysWays_140 : decode cX0_laysWays 140 = .ok (.iadd, 1) := dk_96 (dk_at dksX0_laysWays_5 23 rfl rfl)
theorem dX0_laysWays_141 : decode cX0_laysWays 141 = .ok (.iastore, 1) := dk_79 (dk_at dksX0_laysWays_6 0 rfl rfl)
theorem dX0_laysWays_142 : decode cX0_laysWays 142 = .ok (.iinc 4 1, 3) := dk_132 4 1 (dk_at dksX0_laysWays_6 1 rfl rfl)
theorem dX0_laysWays_145 : decode cX0_laysWays 145 = .ok (.goto (-91), 3) := dk_167 255 165 (dk_at dksX0_laysWays_6 4 rfl rfl)
theorem dX0_laysWays_148 : decode cX0_laysWays 148 = .ok (.iinc 3 1, 3) := dk_132 3 1 (dk_at dksX0_laysWays_6 7 rfl rfl)
theorem dX0_laysWays_151 : decode cX0_laysWays 151 = .ok (.goto (-111), 3) := dk_167 255 145 (dk_at dksX0_laysWays_6 10 rfl rfl)
theorem dX0_laysWays_154 : decode cX0_laysWays 154 = .ok (.iinc 2 1, 3) := dk_132 2 1 (dk_at dksX0_laysWays_6 13 rfl rfl)
theorem dX0_laysWays_157 : decode cX0_laysWays 157 = .ok (.goto (-125), 3) := dk_167 255 131 (dk_at dksX0_laysWays_6 16 rfl rfl)
theorem dX0_laysWays_160 : decode cX0_laysWays 160 = .ok (.return_, 1) := dk_177 (dk_at dksX0_laysWays_6 19 rfl rfl)
abbrev cX0_next : ByteArray := prog_1_method_97_code
def yX0_next : MethodName := ⟨RX0, "next", "(II)I"⟩
def dkwX0_next_4 : List UInt8 := [172, 132, 3, 1, 167, 255, 192, 42, 2, 182, 1, 60, 172]
abbrev dktX0_next_4 : List UInt8 := dkwX0_next_4 ++ []
def dkwX0_next_3 : List UInt8 := [29, 46, 155, 0, 23, 42, 180, 0, 79, 29, 46, 21, 4, 96, 42, 180, 0, 79, 27, 46, 160, 0, 5, 29]
abbrev dktX0_next_3 : List UInt8 := dkwX0_next_3 ++ dktX0_next_4
def dkwX0_next_2 : List UInt8 := [182, 0, 162, 180, 1, 69, 16, 6, 27, 104, 29, 96, 46, 54, 4, 21, 4, 158, 0, 32, 42, 180, 0, 79]
abbrev dktX0_next_2 : List UInt8 := dkwX0_next_2 ++ dktX0_next_3
def dkwX0_next_1 : List UInt8 := [158, 0, 5, 2, 172, 42, 28, 182, 1, 220, 3, 62, 29, 42, 182, 0, 162, 180, 0, 176, 162, 0, 59, 42]
abbrev dktX0_next_1 : List UInt8 := dkwX0_next_1 ++ dktX0_next_2
def dkwX0_next_0 : List UInt8 := [42, 42, 27, 28, 182, 1, 66, 153, 0, 7, 3, 167, 0, 4, 4, 181, 0, 85, 42, 180, 0, 85]
abbrev dktX0_next_0 : List UInt8 := dkwX0_next_0 ++ dktX0_next_1
theorem dksX0_next_0 : cX0_next.data.toList.drop 0 = dktX0_next_0 := by decide +kernel
theorem dksX0_next_1 : cX0_next.data.toList.drop 22 = dktX0_next_1 := dk_seg dksX0_next_0 22 rfl rfl
theorem dksX0_next_2 : cX0_next.data.toList.drop 46 = dktX0_next_2 := dk_seg dksX0_next_1 24 rfl rfl
theorem dksX0_next_3 : cX0_next.data.toList.drop 70 = dktX0_next_3 := dk_seg dksX0_next_2 24 rfl rfl
theorem dksX0_next_4 : cX0_next.data.toList.drop 94 = dktX0_next_4 := dk_seg dksX0_next_3 24 rfl rfl
theorem dX0_next_0 : decode cX0_next 0 = .ok (.aload_n 0, 1) := dk_42 (dk_at dksX0_next_0 0 rfl rfl)
theorem dX0_next_1 : decode cX0_next 1 = .ok (.aload_n 0, 1) := dk_42 (dk_at dksX0_next_0 1 rfl rfl)
theorem dX0_next_2 : decode cX0_next 2 = .ok (.iload_n 1, 1) := dk_27 (dk_at dksX0_next_0 2 rfl rfl)
theorem dX0_next_3 : decode cX0_next 3 = .ok (.iload_n 2, 1) := dk_28 (dk_at dksX0_next_0 3 rfl rfl)
theorem dX0_next_4 : decode cX0_next 4 = .ok (.invokevirtual 322, 3) := dk_182 1 66 (dk_at dksX0_next_0 4 rfl rfl)
theorem dX0_next_7 : decode cX0_next 7 = .ok (.ifCond .eq 7, 3) := dk_153 0 7 (dk_at dksX0_next_0 7 rfl rfl)
theorem dX0_next_10 : decode cX0_next 10 = .ok (.iconst 0, 1) := dk_3 (dk_at dksX0_next_0 10 rfl rfl)
theorem dX0_next_11 : decode cX0_next 11 = .ok (.goto 4, 3) := dk_167 0 4 (dk_at dksX0_next_0 11 rfl rfl)
theorem dX0_next_14 : decode cX0_next 14 = .ok (.iconst 1, 1) := dk_4 (dk_at dksX0_next_0 14 rfl rfl)
theorem dX0_next_15 : decode cX0_next 15 = .ok (.putfield 85, 3) := dk_181 0 85 (dk_at dksX0_next_0 15 rfl rfl)
theorem dX0_next_18 : decode cX0_next 18 = .ok (.aload_n 0, 1) := dk_42 (dk_at dksX0_next_0 18 rfl rfl)
theorem dX0_next_19 : decode cX0_next 19 = .ok (.getfield 85, 3) := dk_180 0 85 (dk_at dksX0_next_0 19 rfl rfl)
theorem dX0_next_22 : decode cX0_next 22 = .ok (.ifCond .le 5, 3) := dk_158 0 5 (dk_at dksX0_next_1 0 rfl rfl)
theorem dX0_next_25 : decode cX0_next 25 = .ok (.iconst (-1), 1) := dk_2 (dk_at dksX0_next_1 3 rfl rfl)
theorem dX0_next_26 : decode cX0_next 26 = .ok (.ireturn, 1) := dk_172 (dk_at dksX0_next_1 4 rfl rfl)
theorem dX0_next_27 : decode cX0_next 27 = .ok (.aload_n 0, 1) := dk_42 (dk_at dksX0_next_1 5 rfl rfl)
theorem dX0_next_28 : decode cX0_next 28 = .ok (.iload_n 2, 1) := dk_28 (dk_at dksX0_next_1 6 rfl rfl)
theorem dX0_next_29 : decode cX0_next 29 = .ok (.invokevirtual 476, 3) := dk_182 1 220 (dk_at dksX0_next_1 7 rfl rfl)
theorem dX0_next_32 : decode cX0_next 32 = .ok (.iconst 0, 1) := dk_3 (dk_at dksX0_next_1 10 rfl rfl)
theorem dX0_next_33 : decode cX0_next 33 = .ok (.istore_n 3, 1) := dk_62 (dk_at dksX0_next_1 11 rfl rfl)
theorem dX0_next_34 : decode cX0_next 34 = .ok (.iload_n 3, 1) := dk_29 (dk_at dksX0_next_1 12 rfl rfl)
theorem dX0_next_35 : decode cX0_next 35 = .ok (.aload_n 0, 1) := dk_42 (dk_at dksX0_next_1 13 rfl rfl)
theorem dX0_next_36 : decode cX0_next 36 = .ok (.invokevirtual 162, 3) := dk_182 0 162 (dk_at dksX0_next_1 14 rfl rfl)
theorem dX0_next_39 : decode cX0_next 39 = .ok (.getfield 176, 3) := dk_180 0 176 (dk_at dksX0_next_1 17 rfl rfl)
theorem dX0_next_42 : decode cX0_next 42 = .ok (.if_icmp .ge 59, 3) := dk_162 0 59 (dk_at dksX0_next_1 20 rfl rfl)
theorem dX0_next_45 : decode cX0_next 45 = .ok (.aload_n 0, 1) := dk_42 (dk_at dksX0_next_1 23 rfl rfl)
theorem dX0_next_46 : decode cX0_next 46 = .ok (.invokevirtual 162, 3) := dk_182 0 162 (dk_at dksX0_next_2 0 rfl rfl)
theorem dX0_next_49 : decode cX0_next 49 = .ok (.getfield 325, 3) := dk_180 1 69 (dk_at dksX0_next_2 3 rfl rfl)
theorem dX0_next_52 : decode cX0_next 52 = .ok (.bipush 6, 2) := dk_16 6 (dk_at dksX0_next_2 6 rfl rfl)
theorem dX0_next_54 : decode cX0_next 54 = .ok (.iload_n 1, 1) := dk_27 (dk_at dksX0_next_2 8 rfl rfl)
theorem dX0_next_55 : decode cX0_next 55 = .ok (.imul, 1) := dk_104 (dk_at dksX0_next_2 9 rfl rfl)
theorem dX0_next_56 : decode cX0_next 56 = .ok (.iload_n 3, 1) := dk_29 (dk_at dksX0_next_2 10 rfl rfl)
theorem dX0_next_57 : decode cX0_next 57 = .ok (.iadd, 1) := dk_96 (dk_at dksX0_next_2 11 rfl rfl)
theorem dX0_next_58 : decode cX0_next 58 = .ok (.iaload, 1) := dk_46 (dk_at dksX0_next_2 12 rfl rfl)
theorem dX0_next_59 : decode cX0_next 59 = .ok (.istore 4, 2) := dk_54 4 (dk_at dksX0_next_2 13 rfl rfl)
theorem dX0_next_61 : decode cX0_next 61 = .ok (.iload 4, 2) := dk_21 4 (dk_at dksX0_next_2 15 rfl rfl)
theorem dX0_next_63 : decode cX0_next 63 = .ok (.ifCond .le 32, 3) := dk_158 0 32 (dk_at dksX0_next_2 17 rfl rfl)
theorem dX0_next_66 : decode cX0_next 66 = .ok (.aload_n 0, 1) := dk_42 (dk_at dksX0_next_2 20 rfl rfl)
theorem dX0_next_67 : decode cX0_next 67 = .ok (.getfield 79, 3) := dk_180 0 79 (dk_at dksX0_next_2 21 rfl rfl)
theorem dX0_next_70 : decode cX0_next 70 = .ok (.iload_n 3, 1) := dk_29 (dk_at dksX0_next_3 0 rfl rfl)
theorem dX0_next_71 : decode cX0_next 71 = .ok (.iaload, 1) := dk_46 (dk_at dksX0_next_3 1 rfl rfl)
theorem dX0_next_72 : decode cX0_next 72 = .ok (.ifCond .lt 23, 3) := dk_155 0 23 (dk_at dksX0_next_3 2 rfl rfl)
theorem dX0_next_75 : decode cX0_next 75 = .ok (.aload_n 0, 1) := dk_42 (dk_at dksX0_next_3 5 rfl rfl)
theorem dX0_next_76 : decode cX0_next 76 = .ok (.getfield 79, 3) := dk_180 0 79 (dk_at dksX0_next_3 6 rfl rfl)
theorem dX0_next_79 : decode cX0_next 79 = .ok (.iload_n 3, 1) := dk_29 (dk_at dksX0_next_3 9 rfl rfl)
theorem dX0_next_80 : decode cX0_next 80 = .ok (.iaload, 1) := dk_46 (dk_at dksX0_next_3 10 rfl rfl)
theorem dX0_next_81 : decode cX0_next 81 = .ok (.iload 4, 2) := dk_21 4 (dk_at dksX0_next_3 11 rfl rfl)
theorem dX0_next_83 : decode cX0_next 83 = .ok (.iadd, 1) := dk_96 (dk_at dksX0_next_3 13 rfl rfl)
theorem dX0_next_84 : decode cX0_next 84 = .ok (.aload_n 0, 1) := dk_42 (dk_at dksX0_next_3 14 rfl rfl)
theorem dX0_next_85 : decode cX0_next 85 = .ok (.getfield 79, 3) := dk_180 0 79 (dk_at dksX0_next_3 15 rfl rfl)
theorem dX0_next_88 : decode cX0_next 88 = .ok (.iload_n 1, 1) := dk_27 (dk_at dksX0_next_3 18 rfl rfl)
theorem dX0_next_89 : decode cX0_next 89 = .ok (.iaload, 1) := dk_46 (dk_at dksX0_next_3 19 rfl rfl)
theorem dX0_next_90 : decode cX0_next 90 = .ok (.if_icmp .ne 5, 3) := dk_160 0 5 (dk_at dksX0_next_3 20 rfl rfl)
theorem dX0_next_93 : decode cX0_next 93 = .ok (.iload_n 3, 1) := dk_29 (dk_at dksX0_next_3 23 rfl rfl)
theorem dX0_next_94 : decode cX0_next 94 = .ok (.ireturn, 1) := dk_172 (dk_at dksX0_next_4 0 rfl rfl)
theorem dX0_next_95 : decode cX0_next 95 = .ok (.iinc 3 1, 3) := dk_132 3 1 (dk_at dksX0_next_4 1 rfl rfl)
theorem dX0_next_98 : decode cX0_next 98 = .ok (.goto (-64), 3) := dk_167 255 192 (dk_at dksX0_next_4 4 rfl rfl)
theorem dX0_next_101 : decode cX0_next 101 = .ok (.aload_n 0, 1) := dk_42 (dk_at dksX0_next_4 7 rfl rfl)
theorem dX0_next_102 : decode cX0_next 102 = .ok (.iconst (-1), 1) := dk_2 (dk_at dksX0_next_4 8 rfl rfl)
theorem dX0_next_103 : decode cX0_next 103 = .ok (.invokevirtual 316, 3) := dk_182 1 60 (dk_at dksX0_next_4 9 rfl rfl)
theorem dX0_next_106 : decode cX0_next 106 = .ok (.ireturn, 1) := dk_172 (dk_at dksX0_next_4 12 rfl rfl)
abbrev cX0_reach : ByteArray := prog_1_method_98_code
def yX0_reach : MethodName := ⟨RX0, "reach", "(I)I"⟩
def dkwX0_reach_3 : List UInt8 := [172]
abbrev dktX0_reach_3 : List UInt8 := dkwX0_reach_3 ++ []
def dkwX0_reach_2 : List UInt8 := [180, 0, 79, 29, 46, 155, 0, 9, 4, 29, 120, 167, 0, 4, 3, 128, 61, 132, 3, 1, 167, 255, 223, 28]
abbrev dktX0_reach_2 : List UInt8 := dkwX0_reach_2 ++ dktX0_reach_3
def dkwX0_reach_1 : List UInt8 := [2, 172, 42, 27, 182, 1, 220, 3, 61, 3, 62, 29, 42, 182, 0, 162, 180, 0, 176, 162, 0, 28, 28, 42]
abbrev dktX0_reach_1 : List UInt8 := dkwX0_reach_1 ++ dktX0_reach_2
def dkwX0_reach_0 : List UInt8 := [42, 42, 27, 182, 0, 190, 153, 0, 7, 3, 167, 0, 4, 4, 181, 0, 85, 42, 180, 0, 85, 158, 0, 5]
abbrev dktX0_reach_0 : List UInt8 := dkwX0_reach_0 ++ dktX0_reach_1
theorem dksX0_reach_0 : cX0_reach.data.toList.drop 0 = dktX0_reach_0 := by decide +kernel
theorem dksX0_reach_1 : cX0_reach.data.toList.drop 24 = dktX0_reach_1 := dk_seg dksX0_reach_0 24 rfl rfl
theorem dksX0_reach_2 : cX0_reach.data.toList.drop 48 = dktX0_reach_2 := dk_seg dksX0_reach_1 24 rfl rfl
theorem dksX0_reach_3 : cX0_reach.data.toList.drop 72 = dktX0_reach_3 := dk_seg dksX0_reach_2 24 rfl rfl
theorem dX0_reach_0 : decode cX0_reach 0 = .ok (.aload_n 0, 1) := dk_42 (dk_at dksX0_reach_0 0 rfl rfl)
theorem dX0_reach_1 : decode cX0_reach 1 = .ok (.aload_n 0, 1) := dk_42 (dk_at dksX0_reach_0 1 rfl rfl)
theorem dX0_reach_2 : decode cX0_reach 2 = .ok (.iload_n 1, 1) := dk_27 (dk_at dksX0_reach_0 2 rfl rfl)
theorem dX0_reach_3 : decode cX0_reach 3 = .ok (.invokevirtual 190, 3) := dk_182 0 190 (dk_at dksX0_reach_0 3 rfl rfl)
theorem dX0_reach_6 : decode cX0_reach 6 = .ok (.ifCond .eq 7, 3) := dk_153 0 7 (dk_at dksX0_reach_0 6 rfl rfl)
theorem dX0_reach_9 : decode cX0_reach 9 = .ok (.iconst 0, 1) := dk_3 (dk_at dksX0_reach_0 9 rfl rfl)
theorem dX0_reach_10 : decode cX0_reach 10 = .ok (.goto 4, 3) := dk_167 0 4 (dk_at dksX0_reach_0 10 rfl rfl)
theorem dX0_reach_13 : decode cX0_reach 13 = .ok (.iconst 1, 1) := dk_4 (dk_at dksX0_reach_0 13 rfl rfl)
theorem dX0_reach_14 : decode cX0_reach 14 = .ok (.putfield 85, 3) := dk_181 0 85 (dk_at dksX0_reach_0 14 rfl rfl)
theorem dX0_reach_17 : decode cX0_reach 17 = .ok (.aload_n 0, 1) := dk_42 (dk_at dksX0_reach_0 17 rfl rfl)
theorem dX0_reach_18 : decode cX0_reach 18 = .ok (.getfield 85, 3) := dk_180 0 85 (dk_at dksX0_reach_0 18 rfl rfl)
theorem dX0_reach_21 : decode cX0_reach 21 = .ok (.ifCond .le 5, 3) := dk_158 0 5 (dk_at dksX0_reach_0 21 rfl rfl)
theorem dX0_reach_24 : decode cX0_reach 24 = .ok (.iconst (-1), 1) := dk_2 (dk_at dksX0_reach_1 0 rfl rfl)
theorem dX0_reach_25 : decode cX0_reach 25 = .ok (.ireturn, 1) := dk_172 (dk_at dksX0_reach_1 1 rfl rfl)
theorem dX0_reach_26 : decode cX0_reach 26 = .ok (.aload_n 0, 1) := dk_42 (dk_at dksX0_reach_1 2 rfl rfl)
theorem dX0_reach_27 : decode cX0_reach 27 = .ok (.iload_n 1, 1) := dk_27 (dk_at dksX0_reach_1 3 rfl rfl)
theorem dX0_reach_28 : decode cX0_reach 28 = .ok (.invokevirtual 476, 3) := dk_182 1 220 (dk_at dksX0_reach_1 4 rfl rfl)
theorem dX0_reach_31 : decode cX0_reach 31 = .ok (.iconst 0, 1) := dk_3 (dk_at dksX0_reach_1 7 rfl rfl)
theorem dX0_reach_32 : decode cX0_reach 32 = .ok (.istore_n 2, 1) := dk_61 (dk_at dksX0_reach_1 8 rfl rfl)
theorem dX0_reach_33 : decode cX0_reach 33 = .ok (.iconst 0, 1) := dk_3 (dk_at dksX0_reach_1 9 rfl rfl)
theorem dX0_reach_34 : decode cX0_reach 34 = .ok (.istore_n 3, 1) := dk_62 (dk_at dksX0_reach_1 10 rfl rfl)
theorem dX0_reach_35 : decode cX0_reach 35 = .ok (.iload_n 3, 1) := dk_29 (dk_at dksX0_reach_1 11 rfl rfl)
theorem dX0_reach_36 : decode cX0_reach 36 = .ok (.aload_n 0, 1) := dk_42 (dk_at dksX0_reach_1 12 rfl rfl)
theorem dX0_reach_37 : decode cX0_reach 37 = .ok (.invokevirtual 162, 3) := dk_182 0 162 (dk_at dksX0_reach_1 13 rfl rfl)
theorem dX0_reach_40 : decode cX0_reach 40 = .ok (.getfield 176, 3) := dk_180 0 176 (dk_at dksX0_reach_1 16 rfl rfl)
theorem dX0_reach_43 : decode cX0_reach 43 = .ok (.if_icmp .ge 28, 3) := dk_162 0 28 (dk_at dksX0_reach_1 19 rfl rfl)
theorem dX0_reach_46 : decode cX0_reach 46 = .ok (.iload_n 2, 1) := dk_28 (dk_at dksX0_reach_1 22 rfl rfl)
theorem dX0_reach_47 : decode cX0_reach 47 = .ok (.aload_n 0, 1) := dk_42 (dk_at dksX0_reach_1 23 rfl rfl)
theorem dX0_reach_48 : decode cX0_reach 48 = .ok (.getfield 79, 3) := dk_180 0 79 (dk_at dksX0_reach_2 0 rfl rfl)
theorem dX0_reach_51 : decode cX0_reach 51 = .ok (.iload_n 3, 1) := dk_29 (dk_at dksX0_reach_2 3 rfl rfl)
theorem dX0_reach_52 : decode cX0_reach 52 = .ok (.iaload, 1) := dk_46 (dk_at dksX0_reach_2 4 rfl rfl)
theorem dX0_reach_53 : decode cX0_reach 53 = .ok (.ifCond .lt 9, 3) := dk_155 0 9 (dk_at dksX0_reach_2 5 rfl rfl)
theorem dX0_reach_56 : decode cX0_reach 56 = .ok (.iconst 1, 1) := dk_4 (dk_at dksX0_reach_2 8 rfl rfl)
theorem dX0_reach_57 : decode cX0_reach 57 = .ok (.iload_n 3, 1) := dk_29 (dk_at dksX0_reach_2 9 rfl rfl)
theorem dX0_reach_58 : decode cX0_reach 58 = .ok (.ishl, 1) := dk_120 (dk_at dksX0_reach_2 10 rfl rfl)
theorem dX0_reach_59 : decode cX0_reach 59 = .ok (.goto 4, 3) := dk_167 0 4 (dk_at dksX0_reach_2 11 rfl rfl)
theorem dX0_reach_62 : decode cX0_reach 62 = .ok (.iconst 0, 1) := dk_3 (dk_at dksX0_reach_2 14 rfl rfl)
theorem dX0_reach_63 : decode cX0_reach 63 = .ok (.ior, 1) := dk_128 (dk_at dksX0_reach_2 15 rfl rfl)
theorem dX0_reach_64 : decode cX0_reach 64 = .ok (.istore_n 2, 1) := dk_61 (dk_at dksX0_reach_2 16 rfl rfl)
theorem dX0_reach_65 : decode cX0_reach 65 = .ok (.iinc 3 1, 3) := dk_132 3 1 (dk_at dksX0_reach_2 17 rfl rfl)
theorem dX0_reach_68 : decode cX0_reach 68 = .ok (.goto (-33), 3) := dk_167 255 223 (dk_at dksX0_reach_2 20 rfl rfl)
theorem dX0_reach_71 : decode cX0_reach 71 = .ok (.iload_n 2, 1) := dk_28 (dk_at dksX0_reach_2 23 rfl rfl)
theorem dX0_reach_72 : decode cX0_reach 72 = .ok (.ireturn, 1) := dk_172 (dk_at dksX0_reach_3 0 rfl rfl)
abbrev cX0_best : ByteArray := prog_1_method_99_code
def yX0_best : MethodName := ⟨RX0, "best", "(II)I"⟩
def dkwX0_best_5 : List UInt8 := [182, 1, 60, 172]
abbrev dktX0_best_5 : List UInt8 := dkwX0_best_5 ++ []
def dkwX0_best_4 : List UInt8 := [21, 4, 163, 0, 6, 167, 0, 10, 21, 5, 62, 21, 7, 54, 4, 132, 5, 1, 167, 255, 182, 42, 29]
abbrev dktX0_best_4 : List UInt8 := dkwX0_best_4 ++ dktX0_best_5
def dkwX0_best_3 : List UInt8 := [180, 1, 63, 16, 8, 28, 104, 21, 5, 96, 46, 21, 6, 100, 54, 7, 21, 6, 153, 0, 20, 21, 7]
abbrev dktX0_best_3 : List UInt8 := dkwX0_best_3 ++ dktX0_best_4
def dkwX0_best_2 : List UInt8 := [162, 0, 68, 42, 182, 0, 162, 180, 1, 63, 16, 8, 27, 104, 21, 5, 96, 46, 54, 6, 42, 182, 0, 162]
abbrev dktX0_best_2 : List UInt8 := dkwX0_best_2 ++ dktX0_best_3
def dkwX0_best_1 : List UInt8 := [158, 0, 5, 2, 172, 2, 62, 3, 54, 4, 3, 54, 5, 21, 5, 42, 182, 0, 162, 180, 0, 173]
abbrev dktX0_best_1 : List UInt8 := dkwX0_best_1 ++ dktX0_best_2
def dkwX0_best_0 : List UInt8 := [42, 42, 27, 28, 182, 1, 66, 153, 0, 7, 3, 167, 0, 4, 4, 181, 0, 85, 42, 180, 0, 85]
abbrev dktX0_best_0 : List UInt8 := dkwX0_best_0 ++ dktX0_best_1
theorem dksX0_best_0 : cX0_best.data.toList.drop 0 = dktX0_best_0 := by decide +kernel
theorem dksX0_best_1 : cX0_best.data.toList.drop 22 = dktX0_best_1 := dk_seg dksX0_best_0 22 rfl rfl
theorem dksX0_best_2 : cX0_best.data.toList.drop 44 = dktX0_best_2 := dk_seg dksX0_best_1 22 rfl rfl
theorem dksX0_best_3 : cX0_best.data.toList.drop 68 = dktX0_best_3 := dk_seg dksX0_best_2 24 rfl rfl
theorem dksX0_best_4 : cX0_best.data.toList.drop 91 = dktX0_best_4 := dk_seg dksX0_best_3 23 rfl rfl
theorem dksX0_best_5 : cX0_best.data.toList.drop 114 = dktX0_best_5 := dk_seg dksX0_best_4 23 rfl rfl
theorem dX0_best_0 : decode cX0_best 0 = .ok (.aload_n 0, 1) := dk_42 (dk_at dksX0_best_0 0 rfl rfl)
theorem dX0_best_1 : decode cX0_best 1 = .ok (.aload_n 0, 1) := dk_42 (dk_at dksX0_best_0 1 rfl rfl)
theorem dX0_best_2 : decode cX0_best 2 = .ok (.iload_n 1, 1) := dk_27 (dk_at dksX0_best_0 2 rfl rfl)
theorem dX0_best_3 : decode cX0_best 3 = .ok (.iload_n 2, 1) := dk_28 (dk_at dksX0_best_0 3 rfl rfl)
theorem dX0_best_4 : decode cX0_best 4 = .ok (.invokevirtual 322, 3) := dk_182 1 66 (dk_at dksX0_best_0 4 rfl rfl)
theorem dX0_best_7 : decode cX0_best 7 = .ok (.ifCond .eq 7, 3) := dk_153 0 7 (dk_at dksX0_best_0 7 rfl rfl)
theorem dX0_best_10 : decode cX0_best 10 = .ok (.iconst 0, 1) := dk_3 (dk_at dksX0_best_0 10 rfl rfl)
theorem dX0_best_11 : decode cX0_best 11 = .ok (.goto 4, 3) := dk_167 0 4 (dk_at dksX0_best_0 11 rfl rfl)
theorem dX0_best_14 : decode cX0_best 14 = .ok (.iconst 1, 1) := dk_4 (dk_at dksX0_best_0 14 rfl rfl)
theorem dX0_best_15 : decode cX0_best 15 = .ok (.putfield 85, 3) := dk_181 0 85 (dk_at dksX0_best_0 15 rfl rfl)
theorem dX0_best_18 : decode cX0_best 18 = .ok (.aload_n 0, 1) := dk_42 (dk_at dksX0_best_0 18 rfl rfl)
theorem dX0_best_19 : decode cX0_best 19 = .ok (.getfield 85, 3) := dk_180 0 85 (dk_at dksX0_best_0 19 rfl rfl)
theorem dX0_best_22 : decode cX0_best 22 = .ok (.ifCond .le 5, 3) := dk_158 0 5 (dk_at dksX0_best_1 0 rfl rfl)
theorem dX0_best_25 : decode cX0_best 25 = .ok (.iconst (-1), 1) := dk_2 (dk_at dksX0_best_1 3 rfl rfl)
theorem dX0_best_26 : decode cX0_best 26 = .ok (.ireturn, 1) := dk_172 (dk_at dksX0_best_1 4 rfl rfl)
theorem dX0_best_27 : decode cX0_best 27 = .ok (.iconst (-1), 1) := dk_2 (dk_at dksX0_best_1 5 rfl rfl)
theorem dX0_best_28 : decode cX0_best 28 = .ok (.istore_n 3, 1) := dk_62 (dk_at dksX0_best_1 6 rfl rfl)
theorem dX0_best_29 : decode cX0_best 29 = .ok (.iconst 0, 1) := dk_3 (dk_at dksX0_best_1 7 rfl rfl)
theorem dX0_best_30 : decode cX0_best 30 = .ok (.istore 4, 2) := dk_54 4 (dk_at dksX0_best_1 8 rfl rfl)
theorem dX0_best_32 : decode cX0_best 32 = .ok (.iconst 0, 1) := dk_3 (dk_at dksX0_best_1 10 rfl rfl)
theorem dX0_best_33 : decode cX0_best 33 = .ok (.istore 5, 2) := dk_54 5 (dk_at dksX0_best_1 11 rfl rfl)
theorem dX0_best_35 : decode cX0_best 35 = .ok (.iload 5, 2) := dk_21 5 (dk_at dksX0_best_1 13 rfl rfl)
theorem dX0_best_37 : decode cX0_best 37 = .ok (.aload_n 0, 1) := dk_42 (dk_at dksX0_best_1 15 rfl rfl)
theorem dX0_best_38 : decode cX0_best 38 = .ok (.invokevirtual 162, 3) := dk_182 0 162 (dk_at dksX0_best_1 16 rfl rfl)
theorem dX0_best_41 : decode cX0_best 41 = .ok (.getfield 173, 3) := dk_180 0 173 (dk_at dksX0_best_1 19 rfl rfl)
theorem dX0_best_44 : decode cX0_best 44 = .ok (.if_icmp .ge 68, 3) := dk_162 0 68 (dk_at dksX0_best_2 0 rfl rfl)
theorem dX0_best_47 : decode cX0_best 47 = .ok (.aload_n 0, 1) := dk_42 (dk_at dksX0_best_2 3 rfl rfl)
theorem dX0_best_48 : decode cX0_best 48 = .ok (.invokevirtual 162, 3) := dk_182 0 162 (dk_at dksX0_best_2 4 rfl rfl)
theorem dX0_best_51 : decode cX0_best 51 = .ok (.getfield 319, 3) := dk_180 1 63 (dk_at dksX0_best_2 7 rfl rfl)
theorem dX0_best_54 : decode cX0_best 54 = .ok (.bipush 8, 2) := dk_16 8 (dk_at dksX0_best_2 10 rfl rfl)
theorem dX0_best_56 : decode cX0_best 56 = .ok (.iload_n 1, 1) := dk_27 (dk_at dksX0_best_2 12 rfl rfl)
theorem dX0_best_57 : decode cX0_best 57 = .ok (.imul, 1) := dk_104 (dk_at dksX0_best_2 13 rfl rfl)
theorem dX0_best_58 : decode cX0_best 58 = .ok (.iload 5, 2) := dk_21 5 (dk_at dksX0_best_2 14 rfl rfl)
theorem dX0_best_60 : decode cX0_best 60 = .ok (.iadd, 1) := dk_96 (dk_at dksX0_best_2 16 rfl rfl)
theorem dX0_best_61 : decode cX0_best 61 = .ok (.iaload, 1) := dk_46 (dk_at dksX0_best_2 17 rfl rfl)
theorem dX0_best_62 : decode cX0_best 62 = .ok (.istore 6, 2) := dk_54 6 (dk_at dksX0_best_2 18 rfl rfl)
theorem dX0_best_64 : decode cX0_best 64 = .ok (.aload_n 0, 1) := dk_42 (dk_at dksX0_best_2 20 rfl rfl)
theorem dX0_best_65 : decode cX0_best 65 = .ok (.invokevirtual 162, 3) := dk_182 0 162 (dk_at dksX0_best_2 21 rfl rfl)
theorem dX0_best_68 : decode cX0_best 68 = .ok (.getfield 319, 3) := dk_180 1 63 (dk_at dksX0_best_3 0 rfl rfl)
theorem dX0_best_71 : decode cX0_best 71 = .ok (.bipush 8, 2) := dk_16 8 (dk_at dksX0_best_3 3 rfl rfl)
theorem dX0_best_73 : decode cX0_best 73 = .ok (.iload_n 2, 1) := dk_28 (dk_at dksX0_best_3 5 rfl rfl)
theorem dX0_best_74 : decode cX0_best 74 = .ok (.imul, 1) := dk_104 (dk_at dksX0_best_3 6 rfl rfl)
theorem dX0_best_75 : decode cX0_best 75 = .ok (.iload 5, 2) := dk_21 5 (dk_at dksX0_best_3 7 rfl rfl)
theorem dX0_best_77 : decode cX0_best 77 = .ok (.iadd, 1) := dk_96 (dk_at dksX0_best_3 9 rfl rfl)
theorem dX0_best_78 : decode cX0_best 78 = .ok (.iaload, 1) := dk_46 (dk_at dksX0_best_3 10 rfl rfl)
theorem dX0_best_79 : decode cX0_best 79 = .ok (.iload 6, 2) := dk_21 6 (dk_at dksX0_best_3 11 rfl rfl)
theorem dX0_best_81 : decode cX0_best 81 = .ok (.isub, 1) := dk_100 (dk_at dksX0_best_3 13 rfl rfl)
theorem dX0_best_82 : decode cX0_best 82 = .ok (.istore 7, 2) := dk_54 7 (dk_at dksX0_best_3 14 rfl rfl)
theorem dX0_best_84 : decode cX0_best 84 = .ok (.iload 6, 2) := dk_21 6 (dk_at dksX0_best_3 16 rfl rfl)
theorem dX0_best_86 : decode cX0_best 86 = .ok (.ifCond .eq 20, 3) := dk_153 0 20 (dk_at dksX0_best_3 18 rfl rfl)
theorem dX0_best_89 : decode cX0_best 89 = .ok (.iload 7, 2) := dk_21 7 (dk_at dksX0_best_3 21 rfl rfl)
theorem dX0_best_91 : decode cX0_best 91 = .ok (.iload 4, 2) := dk_21 4 (dk_at dksX0_best_4 0 rfl rfl)
theorem dX0_best_93 : decode cX0_best 93 = .ok (.if_icmp .gt 6, 3) := dk_163 0 6 (dk_at dksX0_best_4 2 rfl rfl)
theorem dX0_best_96 : decode cX0_best 96 = .ok (.goto 10, 3) := dk_167 0 10 (dk_at dksX0_best_4 5 rfl rfl)
theorem dX0_best_99 : decode cX0_best 99 = .ok (.iload 5, 2) := dk_21 5 (dk_at dksX0_best_4 8 rfl rfl)
theorem dX0_best_101 : decode cX0_best 101 = .ok (.istore_n 3, 1) := dk_62 (dk_at dksX0_best_4 10 rfl rfl)
theorem dX0_best_102 : decode cX0_best 102 = .ok (.iload 7, 2) := dk_21 7 (dk_at dksX0_best_4 11 rfl rfl)
theorem dX0_best_104 : decode cX0_best 104 = .ok (.istore 4, 2) := dk_54 4 (dk_at dksX0_best_4 13 rfl rfl)
theorem dX0_best_106 : decode cX0_best 106 = .ok (.iinc 5 1, 3) := dk_132 5 1 (dk_at dksX0_best_4 15 rfl rfl)
theorem dX0_best_109 : decode cX0_best 109 = .ok (.goto (-74), 3) := dk_167 255 182 (dk_at dksX0_best_4 18 rfl rfl)
theorem dX0_best_112 : decode cX0_best 112 = .ok (.aload_n 0, 1) := dk_42 (dk_at dksX0_best_4 21 rfl rfl)
theorem dX0_best_113 : decode cX0_best 113 = .ok (.iload_n 3, 1) := dk_29 (dk_at dksX0_best_4 22 rfl rfl)
theorem dX0_best_114 : decode cX0_best 114 = .ok (.invokevirtual 316, 3) := dk_182 1 60 (dk_at dksX0_best_5 0 rfl rfl)
theorem dX0_best_117 : decode cX0_best 117 = .ok (.ireturn, 1) := dk_172 (dk_at dksX0_best_5 3 rfl rfl)
abbrev cX0_log : ByteArray := prog_1_method_105_code
def yX0_log : MethodName := ⟨RX0, "log", "(III)I"⟩
def dkwX0_log_0 : List UInt8 := [42, 3, 181, 0, 85, 42, 27, 28, 29, 182, 1, 245, 172, 58, 4, 42, 25, 4, 182, 0, 143, 172]
abbrev dktX0_log_0 : List UInt8 := dkwX0_log_0 ++ []
theorem dksX0_log_0 : cX0_log.data.toList.drop 0 = dktX0_log_0 := by decide +kernel
theorem dX0_log_0 : decode cX0_log 0 = .ok (.aload_n 0, 1) := dk_42 (dk_at dksX0_log_0 0 rfl rfl)
theorem dX0_log_1 : decode cX0_log 1 = .ok (.iconst 0, 1) := dk_3 (dk_at dksX0_log_0 1 rfl rfl)
theorem dX0_log_2 : decode cX0_log 2 = .ok (.putfield 85, 3) := dk_181 0 85 (dk_at dksX0_log_0 2 rfl rfl)
theorem dX0_log_5 : decode cX0_log 5 = .ok (.aload_n 0, 1) := dk_42 (dk_at dksX0_log_0 5 rfl rfl)
theorem dX0_log_6 : decode cX0_log 6 = .ok (.iload_n 1, 1) := dk_27 (dk_at dksX0_log_0 6 rfl rfl)
theorem dX0_log_7 : decode cX0_log 7 = .ok (.iload_n 2, 1) := dk_28 (dk_at dksX0_log_0 7 rfl rfl)
theorem dX0_log_8 : decode cX0_log 8 = .ok (.iload_n 3, 1) := dk_29 (dk_at dksX0_log_0 8 rfl rfl)
theorem dX0_log_9 : decode cX0_log 9 = .ok (.invokevirtual 501, 3) := dk_182 1 245 (dk_at dksX0_log_0 9 rfl rfl)
theorem dX0_log_12 : decode cX0_log 12 = .ok (.ireturn, 1) := dk_172 (dk_at dksX0_log_0 12 rfl rfl)
theorem dX0_log_13 : decode cX0_log 13 = .ok (.astore 4, 2) := dk_58 4 (dk_at dksX0_log_0 13 rfl rfl)
theorem dX0_log_15 : decode cX0_log 15 = .ok (.aload_n 0, 1) := dk_42 (dk_at dksX0_log_0 15 rfl rfl)
theorem dX0_log_16 : decode cX0_log 16 = .ok (.aload 4, 2) := dk_25 4 (dk_at dksX0_log_0 16 rfl rfl)
theorem dX0_log_18 : decode cX0_log 18 = .ok (.invokevirtual 143, 3) := dk_182 0 143 (dk_at dksX0_log_0 18 rfl rfl)
theorem dX0_log_21 : decode cX0_log 21 = .ok (.ireturn, 1) := dk_172 (dk_at dksX0_log_0 21 rfl rfl)
abbrev cX0_ways : ByteArray := prog_1_method_104_code
def yX0_ways : MethodName := ⟨RX0, "ways", "(III)I"⟩
def dkwX0_ways_8 : List UInt8 := [132, 8, 1, 167, 255, 187, 132, 7, 1, 167, 255, 166, 132, 6, 1, 167, 255, 142, 21, 5, 172]
abbrev dktX0_ways_8 : List UInt8 := dkwX0_ways_8 ++ []
def dkwX0_ways_7 : List UInt8 := [180, 1, 238, 4, 21, 6, 120, 4, 21, 7, 120, 128, 126, 181, 1, 238, 132, 9, 1, 167, 255, 202]
abbrev dktX0_ways_7 : List UInt8 := dkwX0_ways_7 ++ dktX0_ways_8
def dkwX0_ways_6 : List UInt8 := [28, 21, 6, 21, 8, 21, 7, 21, 9, 182, 1, 241, 154, 0, 6, 167, 0, 24, 132, 5, 1, 42, 89]
abbrev dktX0_ways_6 : List UInt8 := dkwX0_ways_6 ++ dktX0_ways_7
def dkwX0_ways_5 : List UInt8 := [4, 54, 8, 21, 8, 29, 162, 0, 69, 4, 54, 9, 21, 8, 21, 9, 96, 29, 163, 0, 51, 42, 25, 4]
abbrev dktX0_ways_5 : List UInt8 := dkwX0_ways_5 ++ dktX0_ways_6
def dkwX0_ways_4 : List UInt8 := [180, 0, 173, 162, 0, 108, 21, 6, 4, 96, 54, 7, 21, 7, 42, 182, 0, 162, 180, 0, 173, 162, 0, 84]
abbrev dktX0_ways_4 : List UInt8 := dkwX0_ways_4 ++ dktX0_ways_5
def dkwX0_ways_3 : List UInt8 := [42, 182, 0, 162, 180, 0, 173, 120, 4, 100, 181, 1, 238, 3, 54, 6, 21, 6, 42, 182, 0, 162]
abbrev dktX0_ways_3 : List UInt8 := dkwX0_ways_3 ++ dktX0_ways_4
def dkwX0_ways_2 : List UInt8 := [180, 0, 166, 4, 100, 133, 184, 0, 169, 8, 182, 0, 110, 132, 5, 1, 167, 255, 219, 3, 54, 5, 42, 4]
abbrev dktX0_ways_2 : List UInt8 := dkwX0_ways_2 ++ dktX0_ways_3
def dkwX0_ways_1 : List UInt8 := [3, 54, 5, 21, 5, 28, 162, 0, 37, 42, 25, 4, 21, 5, 184, 0, 137, 20, 0, 141, 42, 182, 0, 162]
abbrev dktX0_ways_1 : List UInt8 := dkwX0_ways_1 ++ dktX0_ways_2
def dkwX0_ways_0 : List UInt8 := [42, 29, 133, 20, 0, 182, 20, 0, 196, 184, 0, 169, 4, 182, 0, 110, 42, 27, 28, 182, 1, 235, 58, 4]
abbrev dktX0_ways_0 : List UInt8 := dkwX0_ways_0 ++ dktX0_ways_1
theorem dksX0_ways_0 : cX0_ways.data.toList.drop 0 = dktX0_ways_0 := by decide +kernel
theorem dksX0_ways_1 : cX0_ways.data.toList.drop 24 = dktX0_ways_1 := dk_seg dksX0_ways_0 24 rfl rfl
theorem dksX0_ways_2 : cX0_ways.data.toList.drop 48 = dktX0_ways_2 := dk_seg dksX0_ways_1 24 rfl rfl
theorem dksX0_ways_3 : cX0_ways.data.toList.drop 72 = dktX0_ways_3 := dk_seg dksX0_ways_2 24 rfl rfl
theorem dksX0_ways_4 : cX0_ways.data.toList.drop 94 = dktX0_ways_4 := dk_seg dksX0_ways_3 22 rfl rfl
theorem dksX0_ways_5 : cX0_ways.data.toList.drop 118 = dktX0_ways_5 := dk_seg dksX0_ways_4 24 rfl rfl
theorem dksX0_ways_6 : cX0_ways.data.toList.drop 142 = dktX0_ways_6 := dk_seg dksX0_ways_5 24 rfl rfl
theorem dksX0_ways_7 : cX0_ways.data.toList.drop 165 = dktX0_ways_7 := dk_seg dksX0_ways_6 23 rfl rfl
theorem dksX0_ways_8 : cX0_ways.data.toList.drop 187 = dktX0_ways_8 := dk_seg dksX0_ways_7 22 rfl rfl
theorem dX0_ways_0 : decode cX0_ways 0 = .ok (.aload_n 0, 1) := dk_42 (dk_at dksX0_ways_0 0 rfl rfl)
theorem dX0_ways_1 : decode cX0_ways 1 = .ok (.iload_n 3, 1) := dk_29 (dk_at dksX0_ways_0 1 rfl rfl)
theorem dX0_ways_2 : decode cX0_ways 2 = .ok (.i2l, 1) := dk_133 (dk_at dksX0_ways_0 2 rfl rfl)
theorem dX0_ways_3 : decode cX0_ways 3 = .ok (.ldc2_w 182, 3) := dk_20 0 182 (dk_at dksX0_ways_0 3 rfl rfl)
theorem dX0_ways_6 : decode cX0_ways 6 = .ok (.ldc2_w 196, 3) := dk_20 0 196 (dk_at dksX0_ways_0 6 rfl rfl)
theorem dX0_ways_9 : decode cX0_ways 9 = .ok (.invokestatic 169, 3) := dk_184 0 169 (dk_at dksX0_ways_0 9 rfl rfl)
theorem dX0_ways_12 : decode cX0_ways 12 = .ok (.iconst 1, 1) := dk_4 (dk_at dksX0_ways_0 12 rfl rfl)
theorem dX0_ways_13 : decode cX0_ways 13 = .ok (.invokevirtual 110, 3) := dk_182 0 110 (dk_at dksX0_ways_0 13 rfl rfl)
theorem dX0_ways_16 : decode cX0_ways 16 = .ok (.aload_n 0, 1) := dk_42 (dk_at dksX0_ways_0 16 rfl rfl)
theorem dX0_ways_17 : decode cX0_ways 17 = .ok (.iload_n 1, 1) := dk_27 (dk_at dksX0_ways_0 17 rfl rfl)
theorem dX0_ways_18 : decode cX0_ways 18 = .ok (.iload_n 2, 1) := dk_28 (dk_at dksX0_ways_0 18 rfl rfl)
theorem dX0_ways_19 : decode cX0_ways 19 = .ok (.invokevirtual 491, 3) := dk_182 1 235 (dk_at dksX0_ways_0 19 rfl rfl)
theorem dX0_ways_22 : decode cX0_ways 22 = .ok (.astore 4, 2) := dk_58 4 (dk_at dksX0_ways_0 22 rfl rfl)
theorem dX0_ways_24 : decode cX0_ways 24 = .ok (.iconst 0, 1) := dk_3 (dk_at dksX0_ways_1 0 rfl rfl)
theorem dX0_ways_25 : decode cX0_ways 25 = .ok (.istore 5, 2) := dk_54 5 (dk_at dksX0_ways_1 1 rfl rfl)
theorem dX0_ways_27 : decode cX0_ways 27 = .ok (.iload 5, 2) := dk_21 5 (dk_at dksX0_ways_1 3 rfl rfl)
theorem dX0_ways_29 : decode cX0_ways 29 = .ok (.iload_n 2, 1) := dk_28 (dk_at dksX0_ways_1 5 rfl rfl)
theorem dX0_ways_30 : decode cX0_ways 30 = .ok (.if_icmp .ge 37, 3) := dk_162 0 37 (dk_at dksX0_ways_1 6 rfl rfl)
theorem dX0_ways_33 : decode cX0_ways 33 = .ok (.aload_n 0, 1) := dk_42 (dk_at dksX0_ways_1 9 rfl rfl)
theorem dX0_ways_34 : decode cX0_ways 34 = .ok (.aload 4, 2) := dk_25 4 (dk_at dksX0_ways_1 10 rfl rfl)
theorem dX0_ways_36 : decode cX0_ways 36 = .ok (.iload 5, 2) := dk_21 5 (dk_at dksX0_ways_1 12 rfl rfl)
theorem dX0_ways_38 : decode cX0_ways 38 = .ok (.invokestatic 137, 3) := dk_184 0 137 (dk_at dksX0_ways_1 14 rfl rfl)
theorem dX0_ways_41 : decode cX0_ways 41 = .ok (.ldc2_w 141, 3) := dk_20 0 141 (dk_at dksX0_ways_1 17 rfl rfl)
theorem dX0_ways_44 : decode cX0_ways 44 = .ok (.aload_n 0, 1) := dk_42 (dk_at dksX0_ways_1 20 rfl rfl)
theorem dX0_ways_45 : decode cX0_ways 45 = .ok (.invokevirtual 162, 3) := dk_182 0 162 (dk_at dksX0_ways_1 21 rfl rfl)
theorem dX0_ways_48 : decode cX0_ways 48 = .ok (.getfield 166, 3) := dk_180 0 166 (dk_at dksX0_ways_2 0 rfl rfl)
theorem dX0_ways_51 : decode cX0_ways 51 = .ok (.iconst 1, 1) := dk_4 (dk_at dksX0_ways_2 3 rfl rfl)
theorem dX0_ways_52 : decode cX0_ways 52 = .ok (.isub, 1) := dk_100 (dk_at dksX0_ways_2 4 rfl rfl)
theorem dX0_ways_53 : decode cX0_ways 53 = .ok (.i2l, 1) := dk_133 (dk_at dksX0_ways_2 5 rfl rfl)
theorem dX0_ways_54 : decode cX0_ways 54 = .ok (.invokestatic 169, 3) := dk_184 0 169 (dk_at dksX0_ways_2 6 rfl rfl)
theorem dX0_ways_57 : decode cX0_ways 57 = .ok (.iconst 5, 1) := dk_8 (dk_at dksX0_ways_2 9 rfl rfl)
theorem dX0_ways_58 : decode cX0_ways 58 = .ok (.invokevirtual 110, 3) := dk_182 0 110 (dk_at dksX0_ways_2 10 rfl rfl)
theorem dX0_ways_61 : decode cX0_ways 61 = .ok (.iinc 5 1, 3) := dk_132 5 1 (dk_at dksX0_ways_2 13 rfl rfl)
theorem dX0_ways_64 : decode cX0_ways 64 = .ok (.goto (-37), 3) := dk_167 255 219 (dk_at dksX0_ways_2 16 rfl rfl)
theorem dX0_ways_67 : decode cX0_ways 67 = .ok (.iconst 0, 1) := dk_3 (dk_at dksX0_ways_2 19 rfl rfl)
theorem dX0_ways_68 : decode cX0_ways 68 = .ok (.istore 5, 2) := dk_54 5 (dk_at dksX0_ways_2 20 rfl rfl)
theorem dX0_ways_70 : decode cX0_ways 70 = .ok (.aload_n 0, 1) := dk_42 (dk_at dksX0_ways_2 22 rfl rfl)
theorem dX0_ways_71 : decode cX0_ways 71 = .ok (.iconst 1, 1) := dk_4 (dk_at dksX0_ways_2 23 rfl rfl)
theorem dX0_ways_72 : decode cX0_ways 72 = .ok (.aload_n 0, 1) := dk_42 (dk_at dksX0_ways_3 0 rfl rfl)
theorem dX0_ways_73 : decode cX0_ways 73 = .ok (.invokevirtual 162, 3) := dk_182 0 162 (dk_at dksX0_ways_3 1 rfl rfl)
theorem dX0_ways_76 : decode cX0_ways 76 = .ok (.getfield 173, 3) := dk_180 0 173 (dk_at dksX0_ways_3 4 rfl rfl)
theorem dX0_ways_79 : decode cX0_ways 79 = .ok (.ishl, 1) := dk_120 (dk_at dksX0_ways_3 7 rfl rfl)
theorem dX0_ways_80 : decode cX0_ways 80 = .ok (.iconst 1, 1) := dk_4 (dk_at dksX0_ways_3 8 rfl rfl)
theorem dX0_ways_81 : decode cX0_ways 81 = .ok (.isub, 1) := dk_100 (dk_at dksX0_ways_3 9 rfl rfl)
theorem dX0_ways_82 : decode cX0_ways 82 = .ok (.putfield 494, 3) := dk_181 1 238 (dk_at dksX0_ways_3 10 rfl rfl)
theorem dX0_ways_85 : decode cX0_ways 85 = .ok (.iconst 0, 1) := dk_3 (dk_at dksX0_ways_3 13 rfl rfl)
theorem dX0_ways_86 : decode cX0_ways 86 = .ok (.istore 6, 2) := dk_54 6 (dk_at dksX0_ways_3 14 rfl rfl)
theorem dX0_ways_88 : decode cX0_ways 88 = .ok (.iload 6, 2) := dk_21 6 (dk_at dksX0_ways_3 16 rfl rfl)
theorem dX0_ways_90 : decode cX0_ways 90 = .ok (.aload_n 0, 1) := dk_42 (dk_at dksX0_ways_3 18 rfl rfl)
theorem dX0_ways_91 : decode cX0_ways 91 = .ok (.invokevirtual 162, 3) := dk_182 0 162 (dk_at dksX0_ways_3 19 rfl rfl)
theorem dX0_ways_94 : decode cX0_ways 94 = .ok (.getfield 173, 3) := dk_180 0 173 (dk_at dksX0_ways_4 0 rfl rfl)
theorem dX0_ways_97 : decode cX0_ways 97 = .ok (.if_icmp .ge 108, 3) := dk_162 0 108 (dk_at dksX0_ways_4 3 rfl rfl)
theorem dX0_ways_100 : decode cX0_ways 100 = .ok (.iload 6, 2) := dk_21 6 (dk_at dksX0_ways_4 6 rfl rfl)
theorem dX0_ways_102 : decode cX0_ways 102 = .ok (.iconst 1, 1) := dk_4 (dk_at dksX0_ways_4 8 rfl rfl)
theorem dX0_ways_103 : decode cX0_ways 103 = .ok (.iadd, 1) := dk_96 (dk_at dksX0_ways_4 9 rfl rfl)
theorem dX0_ways_104 : decode cX0_ways 104 = .ok (.istore 7, 2) := dk_54 7 (dk_at dksX0_ways_4 10 rfl rfl)
theorem dX0_ways_106 : decode cX0_ways 106 = .ok (.iload 7, 2) := dk_21 7 (dk_at dksX0_ways_4 12 rfl rfl)
theorem dX0_ways_108 : decode cX0_ways 108 = .ok (.aload_n 0, 1) := dk_42 (dk_at dksX0_ways_4 14 rfl rfl)
theorem dX0_ways_109 : decode cX0_ways 109 = .ok (.invokevirtual 162, 3) := dk_182 0 162 (dk_at dksX0_ways_4 15 rfl rfl)
theorem dX0_ways_112 : decode cX0_ways 112 = .ok (.getfield 173, 3) := dk_180 0 173 (dk_at dksX0_ways_4 18 rfl rfl)
theorem dX0_ways_115 : decode cX0_ways 115 = .ok (.if_icmp .ge 84, 3) := dk_162 0 84 (dk_at dksX0_ways_4 21 rfl rfl)
theorem dX0_ways_118 : decode cX0_ways 118 = .ok (.iconst 1, 1) := dk_4 (dk_at dksX0_ways_5 0 rfl rfl)
theorem dX0_ways_119 : decode cX0_ways 119 = .ok (.istore 8, 2) := dk_54 8 (dk_at dksX0_ways_5 1 rfl rfl)
theorem dX0_ways_121 : decode cX0_ways 121 = .ok (.iload 8, 2) := dk_21 8 (dk_at dksX0_ways_5 3 rfl rfl)
theorem dX0_ways_123 : decode cX0_ways 123 = .ok (.iload_n 3, 1) := dk_29 (dk_at dksX0_ways_5 5 rfl rfl)
theorem dX0_ways_124 : decode cX0_ways 124 = .ok (.if_icmp .ge 69, 3) := dk_162 0 69 (dk_at dksX0_ways_5 6 rfl rfl)
theorem dX0_ways_127 : decode cX0_ways 127 = .ok (.iconst 1, 1) := dk_4 (dk_at dksX0_ways_5 9 rfl rfl)
theorem dX0_ways_128 : decode cX0_ways 128 = .ok (.istore 9, 2) := dk_54 9 (dk_at dksX0_ways_5 10 rfl rfl)
theorem dX0_ways_130 : decode cX0_ways 130 = .ok (.iload 8, 2) := dk_21 8 (dk_at dksX0_ways_5 12 rfl rfl)
theorem dX0_ways_132 : decode cX0_ways 132 = .ok (.iload 9, 2) := dk_21 9 (dk_at dksX0_ways_5 14 rfl rfl)
theorem dX0_ways_134 : decode cX0_ways 134 = .ok (.iadd, 1) := dk_96 (dk_at dksX0_ways_5 16 rfl rfl)
theorem dX0_ways_135 : decode cX0_ways 135 = .ok (.iload_n 3, 1) := dk_29 (dk_at dksX0_ways_5 17 rfl rfl)
theorem dX0_ways_136 : decode cX0_ways 136 = .ok (.if_icmp .gt 51, 3) := dk_163 0 51 (dk_at dksX0_ways_5 18 rfl rfl)
theorem dX0_ways_139 : decode cX0_ways 139 = .ok (.aload_n 0, 1) := dk_42 (dk_at dksX0_ways_5 21 rfl rfl)
theorem dX0_ways_140 : decode cX0_ways 140 = .ok (.aload 4, 2) := dk_25 4 (dk_at dksX0_ways_5 22 rfl rfl)
theorem dX0_ways_142 : decode cX0_ways 142 = .ok (.iload_n 2, 1) := dk_28 (dk_at dksX0_ways_6 0 rfl rfl)
theorem dX0_ways_143 : decode cX0_ways 143 = .ok (.iload 6, 2) := dk_21 6 (dk_at dksX0_ways_6 1 rfl rfl)
theorem dX0_ways_145 : decode cX0_ways 145 = .ok (.iload 8, 2) := dk_21 8 (dk_at dksX0_ways_6 3 rfl rfl)
theorem dX0_ways_147 : decode cX0_ways 147 = .ok (.iload 7, 2) := dk_21 7 (dk_at dksX0_ways_6 5 rfl rfl)
theorem dX0_ways_149 : decode cX0_ways 149 = .ok (.iload 9, 2) := dk_21 9 (dk_at dksX0_ways_6 7 rfl rfl)
theorem dX0_ways_151 : decode cX0_ways 151 = .ok (.invokevirtual 497, 3) := dk_182 1 241 (dk_at dksX0_ways_6 9 rfl rfl)
theorem dX0_ways_154 : decode cX0_ways 154 = .ok (.ifCond .ne 6, 3) := dk_154 0 6 (dk_at dksX0_ways_6 12 rfl rfl)
theorem dX0_ways_157 : decode cX0_ways 157 = .ok (.goto 24, 3) := dk_167 0 24 (dk_at dksX0_ways_6 15 rfl rfl)
theorem dX0_ways_160 : decode cX0_ways 160 = .ok (.iinc 5 1, 3) := dk_132 5 1 (dk_at dksX0_ways_6 18 rfl rfl)
theorem dX0_ways_163 : decode cX0_ways 163 = .ok (.aload_n 0, 1) := dk_42 (dk_at dksX0_ways_6 21 rfl rfl)
theorem dX0_ways_164 : decode cX0_ways 164 = .ok (.dup, 1) := dk_89 (dk_at dksX0_ways_6 22 rfl rfl)
theorem dX0_ways_165 : decode cX0_ways 165 = .ok (.getfield 494, 3) := dk_180 1 238 (dk_at dksX0_ways_7 0 rfl rfl)
theorem dX0_ways_168 : decode cX0_ways 168 = .ok (.iconst 1, 1) := dk_4 (dk_at dksX0_ways_7 3 rfl rfl)
theorem dX0_ways_169 : decode cX0_ways 169 = .ok (.iload 6, 2) := dk_21 6 (dk_at dksX0_ways_7 4 rfl rfl)
theorem dX0_ways_171 : decode cX0_ways 171 = .ok (.ishl, 1) := dk_120 (dk_at dksX0_ways_7 6 rfl rfl)
theorem dX0_ways_172 : decode cX0_ways 172 = .ok (.iconst 1, 1) := dk_4 (dk_at dksX0_ways_7 7 rfl rfl)
theorem dX0_ways_173 : decode cX0_ways 173 = .ok (.iload 7, 2) := dk_21 7 (dk_at dksX0_ways_7 8 rfl rfl)
theorem dX0_ways_175 : decode cX0_ways 175 = .ok (.ishl, 1) := dk_120 (dk_at dksX0_ways_7 10 rfl rfl)
theorem dX0_ways_176 : decode cX0_ways 176 = .ok (.ior, 1) := dk_128 (dk_at dksX0_ways_7 11 rfl rfl)
theorem dX0_ways_177 : decode cX0_ways 177 = .ok (.iand, 1) := dk_126 (dk_at dksX0_ways_7 12 rfl rfl)
theorem dX0_ways_178 : decode cX0_ways 178 = .ok (.putfield 494, 3) := dk_181 1 238 (dk_at dksX0_ways_7 13 rfl rfl)
theorem dX0_ways_181 : decode cX0_ways 181 = .ok (.iinc 9 1, 3) := dk_132 9 1 (dk_at dksX0_ways_7 16 rfl rfl)
theorem dX0_ways_184 : decode cX0_ways 184 = .ok (.goto (-54), 3) := dk_167 255 202 (dk_at dksX0_ways_7 19 rfl rfl)
theorem dX0_ways_187 : decode cX0_ways 187 = .ok (.iinc 8 1, 3) := dk_132 8 1 (dk_at dksX0_ways_8 0 rfl rfl)
theorem dX0_ways_190 : decode cX0_ways 190 = .ok (.goto (-69), 3) := dk_167 255 187 (dk_at dksX0_ways_8 3 rfl rfl)
theorem dX0_ways_193 : decode cX0_ways 193 = .ok (.iinc 7 1, 3) := dk_132 7 1 (dk_at dksX0_ways_8 6 rfl rfl)
theorem dX0_ways_196 : decode cX0_ways 196 = .ok (.goto (-90), 3) := dk_167 255 166 (dk_at dksX0_ways_8 9 rfl rfl)
theorem dX0_ways_199 : decode cX0_ways 199 = .ok (.iinc 6 1, 3) := dk_132 6 1 (dk_at dksX0_ways_8 12 rfl rfl)
theorem dX0_ways_202 : decode cX0_ways 202 = .ok (.goto (-114), 3) := dk_167 255 142 (dk_at dksX0_ways_8 15 rfl rfl)
theorem dX0_ways_205 : decode cX0_ways 205 = .ok (.iload 5, 2) := dk_21 5 (dk_at dksX0_ways_8 18 rfl rfl)
theorem dX0_ways_207 : decode cX0_ways 207 = .ok (.ireturn, 1) := dk_172 (dk_at dksX0_ways_8 20 rfl rfl)
abbrev cX0_logOn : ByteArray := prog_1_method_100_code
def yX0_logOn : MethodName := ⟨RX0, "logOn", "(II)Ljava/lang/Object;"⟩
def dkwX0_logOn_2 : List UInt8 := [161, 0, 7, 4, 167, 0, 4, 3, 6, 182, 0, 110, 45, 176]
abbrev dktX0_logOn_2 : List UInt8 := dkwX0_logOn_2 ++ []
def dkwX0_logOn_1 : List UInt8 := [153, 0, 7, 4, 167, 0, 4, 3, 4, 182, 0, 110, 42, 27, 182, 0, 127, 78, 42, 45, 184, 1, 225, 28]
abbrev dktX0_logOn_1 : List UInt8 := dkwX0_logOn_1 ++ dktX0_logOn_2
def dkwX0_logOn_0 : List UInt8 := [42, 28, 133, 10, 20, 1, 223, 184, 0, 169, 153, 0, 19, 27, 133, 9, 20, 1, 19, 184, 0, 169]
abbrev dktX0_logOn_0 : List UInt8 := dkwX0_logOn_0 ++ dktX0_logOn_1
theorem dksX0_logOn_0 : cX0_logOn.data.toList.drop 0 = dktX0_logOn_0 := by decide +kernel
theorem dksX0_logOn_1 : cX0_logOn.data.toList.drop 22 = dktX0_logOn_1 := dk_seg dksX0_logOn_0 22 rfl rfl
theorem dksX0_logOn_2 : cX0_logOn.data.toList.drop 46 = dktX0_logOn_2 := dk_seg dksX0_logOn_1 24 rfl rfl
theorem dX0_logOn_0 : decode cX0_logOn 0 = .ok (.aload_n 0, 1) := dk_42 (dk_at dksX0_logOn_0 0 rfl rfl)
theorem dX0_logOn_1 : decode cX0_logOn 1 = .ok (.iload_n 2, 1) := dk_28 (dk_at dksX0_logOn_0 1 rfl rfl)
theorem dX0_logOn_2 : decode cX0_logOn 2 = .ok (.i2l, 1) := dk_133 (dk_at dksX0_logOn_0 2 rfl rfl)
theorem dX0_logOn_3 : decode cX0_logOn 3 = .ok (.lconst 1, 1) := dk_10 (dk_at dksX0_logOn_0 3 rfl rfl)
theorem dX0_logOn_4 : decode cX0_logOn 4 = .ok (.ldc2_w 479, 3) := dk_20 1 223 (dk_at dksX0_logOn_0 4 rfl rfl)
theorem dX0_logOn_7 : decode cX0_logOn 7 = .ok (.invokestatic 169, 3) := dk_184 0 169 (dk_at dksX0_logOn_0 7 rfl rfl)
theorem dX0_logOn_10 : decode cX0_logOn 10 = .ok (.ifCond .eq 19, 3) := dk_153 0 19 (dk_at dksX0_logOn_0 10 rfl rfl)
theorem dX0_logOn_13 : decode cX0_logOn 13 = .ok (.iload_n 1, 1) := dk_27 (dk_at dksX0_logOn_0 13 rfl rfl)
theorem dX0_logOn_14 : decode cX0_logOn 14 = .ok (.i2l, 1) := dk_133 (dk_at dksX0_logOn_0 14 rfl rfl)
theorem dX0_logOn_15 : decode cX0_logOn 15 = .ok (.lconst 0, 1) := dk_9 (dk_at dksX0_logOn_0 15 rfl rfl)
theorem dX0_logOn_16 : decode cX0_logOn 16 = .ok (.ldc2_w 275, 3) := dk_20 1 19 (dk_at dksX0_logOn_0 16 rfl rfl)
theorem dX0_logOn_19 : decode cX0_logOn 19 = .ok (.invokestatic 169, 3) := dk_184 0 169 (dk_at dksX0_logOn_0 19 rfl rfl)
theorem dX0_logOn_22 : decode cX0_logOn 22 = .ok (.ifCond .eq 7, 3) := dk_153 0 7 (dk_at dksX0_logOn_1 0 rfl rfl)
theorem dX0_logOn_25 : decode cX0_logOn 25 = .ok (.iconst 1, 1) := dk_4 (dk_at dksX0_logOn_1 3 rfl rfl)
theorem dX0_logOn_26 : decode cX0_logOn 26 = .ok (.goto 4, 3) := dk_167 0 4 (dk_at dksX0_logOn_1 4 rfl rfl)
theorem dX0_logOn_29 : decode cX0_logOn 29 = .ok (.iconst 0, 1) := dk_3 (dk_at dksX0_logOn_1 7 rfl rfl)
theorem dX0_logOn_30 : decode cX0_logOn 30 = .ok (.iconst 1, 1) := dk_4 (dk_at dksX0_logOn_1 8 rfl rfl)
theorem dX0_logOn_31 : decode cX0_logOn 31 = .ok (.invokevirtual 110, 3) := dk_182 0 110 (dk_at dksX0_logOn_1 9 rfl rfl)
theorem dX0_logOn_34 : decode cX0_logOn 34 = .ok (.aload_n 0, 1) := dk_42 (dk_at dksX0_logOn_1 12 rfl rfl)
theorem dX0_logOn_35 : decode cX0_logOn 35 = .ok (.iload_n 1, 1) := dk_27 (dk_at dksX0_logOn_1 13 rfl rfl)
theorem dX0_logOn_36 : decode cX0_logOn 36 = .ok (.invokevirtual 127, 3) := dk_182 0 127 (dk_at dksX0_logOn_1 14 rfl rfl)
theorem dX0_logOn_39 : decode cX0_logOn 39 = .ok (.astore_n 3, 1) := dk_78 (dk_at dksX0_logOn_1 17 rfl rfl)
theorem dX0_logOn_40 : decode cX0_logOn 40 = .ok (.aload_n 0, 1) := dk_42 (dk_at dksX0_logOn_1 18 rfl rfl)
theorem dX0_logOn_41 : decode cX0_logOn 41 = .ok (.aload_n 3, 1) := dk_45 (dk_at dksX0_logOn_1 19 rfl rfl)
theorem dX0_logOn_42 : decode cX0_logOn 42 = .ok (.invokestatic 481, 3) := dk_184 1 225 (dk_at dksX0_logOn_1 20 rfl rfl)
theorem dX0_logOn_45 : decode cX0_logOn 45 = .ok (.iload_n 2, 1) := dk_28 (dk_at dksX0_logOn_1 23 rfl rfl)
theorem dX0_logOn_46 : decode cX0_logOn 46 = .ok (.if_icmp .lt 7, 3) := dk_161 0 7 (dk_at dksX0_logOn_2 0 rfl rfl)
theorem dX0_logOn_49 : decode cX0_logOn 49 = .ok (.iconst 1, 1) := dk_4 (dk_at dksX0_logOn_2 3 rfl rfl)
theorem dX0_logOn_50 : decode cX0_logOn 50 = .ok (.goto 4, 3) := dk_167 0 4 (dk_at dksX0_logOn_2 4 rfl rfl)
theorem dX0_logOn_53 : decode cX0_logOn 53 = .ok (.iconst 0, 1) := dk_3 (dk_at dksX0_logOn_2 7 rfl rfl)
theorem dX0_logOn_54 : decode cX0_logOn 54 = .ok (.iconst 3, 1) := dk_6 (dk_at dksX0_logOn_2 8 rfl rfl)
theorem dX0_logOn_55 : decode cX0_logOn 55 = .ok (.invokevirtual 110, 3) := dk_182 0 110 (dk_at dksX0_logOn_2 9 rfl rfl)
theorem dX0_logOn_58 : decode cX0_logOn 58 = .ok (.aload_n 3, 1) := dk_45 (dk_at dksX0_logOn_2 12 rfl rfl)
theorem dX0_logOn_59 : decode cX0_logOn 59 = .ok (.areturn, 1) := dk_176 (dk_at dksX0_logOn_2 13 rfl rfl)
abbrev cX0_sizeOf : ByteArray := prog_1_method_3_code
def yX0_sizeOf : MethodName := ⟨RX0, "sizeOf", "(Ljava/lang/Object;)I"⟩
def dkwX0_sizeOf_2 : List UInt8 := [42, 192, 0, 9, 190, 172]
abbrev dktX0_sizeOf_2 : List UInt8 := dkwX0_sizeOf_2 ++ []
def dkwX0_sizeOf_1 : List UInt8 := [192, 0, 5, 76, 43, 190, 172, 42, 193, 0, 7, 153, 0, 13, 42, 192, 0, 7, 76, 43, 190, 167, 0, 8]
abbrev dktX0_sizeOf_1 : List UInt8 := dkwX0_sizeOf_1 ++ dktX0_sizeOf_2
def dkwX0_sizeOf_0 : List UInt8 := [42, 193, 0, 3, 153, 0, 11, 42, 192, 0, 3, 76, 43, 190, 172, 42, 193, 0, 5, 153, 0, 11, 42]
abbrev dktX0_sizeOf_0 : List UInt8 := dkwX0_sizeOf_0 ++ dktX0_sizeOf_1
theorem dksX0_sizeOf_0 : cX0_sizeOf.data.toList.drop 0 = dktX0_sizeOf_0 := by decide +kernel
theorem dksX0_sizeOf_1 : cX0_sizeOf.data.toList.drop 23 = dktX0_sizeOf_1 := dk_seg dksX0_sizeOf_0 23 rfl rfl
theorem dksX0_sizeOf_2 : cX0_sizeOf.data.toList.drop 47 = dktX0_sizeOf_2 := dk_seg dksX0_sizeOf_1 24 rfl rfl
theorem dX0_sizeOf_0 : decode cX0_sizeOf 0 = .ok (.aload_n 0, 1) := dk_42 (dk_at dksX0_sizeOf_0 0 rfl rfl)
theorem dX0_sizeOf_1 : decode cX0_sizeOf 1 = .ok (.instanceof 3, 3) := dk_193 0 3 (dk_at dksX0_sizeOf_0 1 rfl rfl)
theorem dX0_sizeOf_4 : decode cX0_sizeOf 4 = .ok (.ifCond .eq 11, 3) := dk_153 0 11 (dk_at dksX0_sizeOf_0 4 rfl rfl)
theorem dX0_sizeOf_7 : decode cX0_sizeOf 7 = .ok (.aload_n 0, 1) := dk_42 (dk_at dksX0_sizeOf_0 7 rfl rfl)
theorem dX0_sizeOf_8 : decode cX0_sizeOf 8 = .ok (.checkcast 3, 3) := dk_192 0 3 (dk_at dksX0_sizeOf_0 8 rfl rfl)
theorem dX0_sizeOf_11 : decode cX0_sizeOf 11 = .ok (.astore_n 1, 1) := dk_76 (dk_at dksX0_sizeOf_0 11 rfl rfl)
theorem dX0_sizeOf_12 : decode cX0_sizeOf 12 = .ok (.aload_n 1, 1) := dk_43 (dk_at dksX0_sizeOf_0 12 rfl rfl)
theorem dX0_sizeOf_13 : decode cX0_sizeOf 13 = .ok (.arraylength, 1) := dk_190 (dk_at dksX0_sizeOf_0 13 rfl rfl)
theorem dX0_sizeOf_14 : decode cX0_sizeOf 14 = .ok (.ireturn, 1) := dk_172 (dk_at dksX0_sizeOf_0 14 rfl rfl)
theorem dX0_sizeOf_15 : decode cX0_sizeOf 15 = .ok (.aload_n 0, 1) := dk_42 (dk_at dksX0_sizeOf_0 15 rfl rfl)
theorem dX0_sizeOf_16 : decode cX0_sizeOf 16 = .ok (.instanceof 5, 3) := dk_193 0 5 (dk_at dksX0_sizeOf_0 16 rfl rfl)
theorem dX0_sizeOf_19 : decode cX0_sizeOf 19 = .ok (.ifCond .eq 11, 3) := dk_153 0 11 (dk_at dksX0_sizeOf_0 19 rfl rfl)
theorem dX0_sizeOf_22 : decode cX0_sizeOf 22 = .ok (.aload_n 0, 1) := dk_42 (dk_at dksX0_sizeOf_0 22 rfl rfl)
theorem dX0_sizeOf_23 : decode cX0_sizeOf 23 = .ok (.checkcast 5, 3) := dk_192 0 5 (dk_at dksX0_sizeOf_1 0 rfl rfl)
theorem dX0_sizeOf_26 : decode cX0_sizeOf 26 = .ok (.astore_n 1, 1) := dk_76 (dk_at dksX0_sizeOf_1 3 rfl rfl)
theorem dX0_sizeOf_27 : decode cX0_sizeOf 27 = .ok (.aload_n 1, 1) := dk_43 (dk_at dksX0_sizeOf_1 4 rfl rfl)
theorem dX0_sizeOf_28 : decode cX0_sizeOf 28 = .ok (.arraylength, 1) := dk_190 (dk_at dksX0_sizeOf_1 5 rfl rfl)
theorem dX0_sizeOf_29 : decode cX0_sizeOf 29 = .ok (.ireturn, 1) := dk_172 (dk_at dksX0_sizeOf_1 6 rfl rfl)
theorem dX0_sizeOf_30 : decode cX0_sizeOf 30 = .ok (.aload_n 0, 1) := dk_42 (dk_at dksX0_sizeOf_1 7 rfl rfl)
theorem dX0_sizeOf_31 : decode cX0_sizeOf 31 = .ok (.instanceof 7, 3) := dk_193 0 7 (dk_at dksX0_sizeOf_1 8 rfl rfl)
theorem dX0_sizeOf_34 : decode cX0_sizeOf 34 = .ok (.ifCond .eq 13, 3) := dk_153 0 13 (dk_at dksX0_sizeOf_1 11 rfl rfl)
theorem dX0_sizeOf_37 : decode cX0_sizeOf 37 = .ok (.aload_n 0, 1) := dk_42 (dk_at dksX0_sizeOf_1 14 rfl rfl)
theorem dX0_sizeOf_38 : decode cX0_sizeOf 38 = .ok (.checkcast 7, 3) := dk_192 0 7 (dk_at dksX0_sizeOf_1 15 rfl rfl)
theorem dX0_sizeOf_41 : decode cX0_sizeOf 41 = .ok (.astore_n 1, 1) := dk_76 (dk_at dksX0_sizeOf_1 18 rfl rfl)
theorem dX0_sizeOf_42 : decode cX0_sizeOf 42 = .ok (.aload_n 1, 1) := dk_43 (dk_at dksX0_sizeOf_1 19 rfl rfl)
theorem dX0_sizeOf_43 : decode cX0_sizeOf 43 = .ok (.arraylength, 1) := dk_190 (dk_at dksX0_sizeOf_1 20 rfl rfl)
theorem dX0_sizeOf_44 : decode cX0_sizeOf 44 = .ok (.goto 8, 3) := dk_167 0 8 (dk_at dksX0_sizeOf_1 21 rfl rfl)
theorem dX0_sizeOf_47 : decode cX0_sizeOf 47 = .ok (.aload_n 0, 1) := dk_42 (dk_at dksX0_sizeOf_2 0 rfl rfl)
theorem dX0_sizeOf_48 : decode cX0_sizeOf 48 = .ok (.checkcast 9, 3) := dk_192 0 9 (dk_at dksX0_sizeOf_2 1 rfl rfl)
theorem dX0_sizeOf_51 : decode cX0_sizeOf 51 = .ok (.arraylength, 1) := dk_190 (dk_at dksX0_sizeOf_2 4 rfl rfl)
theorem dX0_sizeOf_52 : decode cX0_sizeOf 52 = .ok (.ireturn, 1) := dk_172 (dk_at dksX0_sizeOf_2 5 rfl rfl)
abbrev cX0_isLogged : ByteArray := prog_1_method_103_code
def yX0_isLogged : MethodName := ⟨RX0, "isLogged", "(Ljava/lang/Object;IIIII)Z"⟩
def dkwX0_isLogged_3 : List UInt8 := [4, 172]
abbrev dktX0_isLogged_3 : List UInt8 := dkwX0_isLogged_3 ++ []
def dkwX0_isLogged_2 : List UInt8 := [104, 100, 182, 1, 231, 133, 43, 21, 7, 184, 0, 137, 148, 153, 0, 5, 3, 172, 132, 7, 1, 167, 255, 190]
abbrev dktX0_isLogged_2 : List UInt8 := dkwX0_isLogged_2 ++ dktX0_isLogged_3
def dkwX0_isLogged_1 : List UInt8 := [180, 1, 50, 104, 100, 21, 5, 21, 6, 21, 7, 42, 182, 0, 162, 180, 1, 39, 21, 5, 50, 180, 1, 50]
abbrev dktX0_isLogged_1 : List UInt8 := dkwX0_isLogged_1 ++ dktX0_isLogged_2
def dkwX0_isLogged_0 : List UInt8 := [3, 54, 7, 21, 7, 28, 162, 0, 66, 42, 29, 21, 4, 21, 7, 42, 182, 0, 162, 180, 1, 39, 29, 50]
abbrev dktX0_isLogged_0 : List UInt8 := dkwX0_isLogged_0 ++ dktX0_isLogged_1
theorem dksX0_isLogged_0 : cX0_isLogged.data.toList.drop 0 = dktX0_isLogged_0 := by decide +kernel
theorem dksX0_isLogged_1 : cX0_isLogged.data.toList.drop 24 = dktX0_isLogged_1 := dk_seg dksX0_isLogged_0 24 rfl rfl
theorem dksX0_isLogged_2 : cX0_isLogged.data.toList.drop 48 = dktX0_isLogged_2 := dk_seg dksX0_isLogged_1 24 rfl rfl
theorem dksX0_isLogged_3 : cX0_isLogged.data.toList.drop 72 = dktX0_isLogged_3 := dk_seg dksX0_isLogged_2 24 rfl rfl
theorem dX0_isLogged_0 : decode cX0_isLogged 0 = .ok (.iconst 0, 1) := dk_3 (dk_at dksX0_isLogged_0 0 rfl rfl)
theorem dX0_isLogged_1 : decode cX0_isLogged 1 = .ok (.istore 7, 2) := dk_54 7 (dk_at dksX0_isLogged_0 1 rfl rfl)
theorem dX0_isLogged_3 : decode cX0_isLogged 3 = .ok (.iload 7, 2) := dk_21 7 (dk_at dksX0_isLogged_0 3 rfl rfl)
theorem dX0_isLogged_5 : decode cX0_isLogged 5 = .ok (.iload_n 2, 1) := dk_28 (dk_at dksX0_isLogged_0 5 rfl rfl)
theorem dX0_isLogged_6 : decode cX0_isLogged 6 = .ok (.if_icmp .ge 66, 3) := dk_162 0 66 (dk_at dksX0_isLogged_0 6 rfl rfl)
theorem dX0_isLogged_9 : decode cX0_isLogged 9 = .ok (.aload_n 0, 1) := dk_42 (dk_at dksX0_isLogged_0 9 rfl rfl)
theorem dX0_isLogged_10 : decode cX0_isLogged 10 = .ok (.iload_n 3, 1) := dk_29 (dk_at dksX0_isLogged_0 10 rfl rfl)
theorem dX0_isLogged_11 : decode cX0_isLogged 11 = .ok (.iload 4, 2) := dk_21 4 (dk_at dksX0_isLogged_0 11 rfl rfl)
theorem dX0_isLogged_13 : decode cX0_isLogged 13 = .ok (.iload 7, 2) := dk_21 7 (dk_at dksX0_isLogged_0 13 rfl rfl)
theorem dX0_isLogged_15 : decode cX0_isLogged 15 = .ok (.aload_n 0, 1) := dk_42 (dk_at dksX0_isLogged_0 15 rfl rfl)
theorem dX0_isLogged_16 : decode cX0_isLogged 16 = .ok (.invokevirtual 162, 3) := dk_182 0 162 (dk_at dksX0_isLogged_0 16 rfl rfl)
theorem dX0_isLogged_19 : decode cX0_isLogged 19 = .ok (.getfield 295, 3) := dk_180 1 39 (dk_at dksX0_isLogged_0 19 rfl rfl)
theorem dX0_isLogged_22 : decode cX0_isLogged 22 = .ok (.iload_n 3, 1) := dk_29 (dk_at dksX0_isLogged_0 22 rfl rfl)
theorem dX0_isLogged_23 : decode cX0_isLogged 23 = .ok (.aaload, 1) := dk_50 (dk_at dksX0_isLogged_0 23 rfl rfl)
theorem dX0_isLogged_24 : decode cX0_isLogged 24 = .ok (.getfield 306, 3) := dk_180 1 50 (dk_at dksX0_isLogged_1 0 rfl rfl)
theorem dX0_isLogged_27 : decode cX0_isLogged 27 = .ok (.imul, 1) := dk_104 (dk_at dksX0_isLogged_1 3 rfl rfl)
theorem dX0_isLogged_28 : decode cX0_isLogged 28 = .ok (.isub, 1) := dk_100 (dk_at dksX0_isLogged_1 4 rfl rfl)
theorem dX0_isLogged_29 : decode cX0_isLogged 29 = .ok (.iload 5, 2) := dk_21 5 (dk_at dksX0_isLogged_1 5 rfl rfl)
theorem dX0_isLogged_31 : decode cX0_isLogged 31 = .ok (.iload 6, 2) := dk_21 6 (dk_at dksX0_isLogged_1 7 rfl rfl)
theorem dX0_isLogged_33 : decode cX0_isLogged 33 = .ok (.iload 7, 2) := dk_21 7 (dk_at dksX0_isLogged_1 9 rfl rfl)
theorem dX0_isLogged_35 : decode cX0_isLogged 35 = .ok (.aload_n 0, 1) := dk_42 (dk_at dksX0_isLogged_1 11 rfl rfl)
theorem dX0_isLogged_36 : decode cX0_isLogged 36 = .ok (.invokevirtual 162, 3) := dk_182 0 162 (dk_at dksX0_isLogged_1 12 rfl rfl)
theorem dX0_isLogged_39 : decode cX0_isLogged 39 = .ok (.getfield 295, 3) := dk_180 1 39 (dk_at dksX0_isLogged_1 15 rfl rfl)
theorem dX0_isLogged_42 : decode cX0_isLogged 42 = .ok (.iload 5, 2) := dk_21 5 (dk_at dksX0_isLogged_1 18 rfl rfl)
theorem dX0_isLogged_44 : decode cX0_isLogged 44 = .ok (.aaload, 1) := dk_50 (dk_at dksX0_isLogged_1 20 rfl rfl)
theorem dX0_isLogged_45 : decode cX0_isLogged 45 = .ok (.getfield 306, 3) := dk_180 1 50 (dk_at dksX0_isLogged_1 21 rfl rfl)
theorem dX0_isLogged_48 : decode cX0_isLogged 48 = .ok (.imul, 1) := dk_104 (dk_at dksX0_isLogged_2 0 rfl rfl)
theorem dX0_isLogged_49 : decode cX0_isLogged 49 = .ok (.isub, 1) := dk_100 (dk_at dksX0_isLogged_2 1 rfl rfl)
theorem dX0_isLogged_50 : decode cX0_isLogged 50 = .ok (.invokevirtual 487, 3) := dk_182 1 231 (dk_at dksX0_isLogged_2 2 rfl rfl)
theorem dX0_isLogged_53 : decode cX0_isLogged 53 = .ok (.i2l, 1) := dk_133 (dk_at dksX0_isLogged_2 5 rfl rfl)
theorem dX0_isLogged_54 : decode cX0_isLogged 54 = .ok (.aload_n 1, 1) := dk_43 (dk_at dksX0_isLogged_2 6 rfl rfl)
theorem dX0_isLogged_55 : decode cX0_isLogged 55 = .ok (.iload 7, 2) := dk_21 7 (dk_at dksX0_isLogged_2 7 rfl rfl)
theorem dX0_isLogged_57 : decode cX0_isLogged 57 = .ok (.invokestatic 137, 3) := dk_184 0 137 (dk_at dksX0_isLogged_2 9 rfl rfl)
theorem dX0_isLogged_60 : decode cX0_isLogged 60 = .ok (.lcmp, 1) := dk_148 (dk_at dksX0_isLogged_2 12 rfl rfl)
theorem dX0_isLogged_61 : decode cX0_isLogged 61 = .ok (.ifCond .eq 5, 3) := dk_153 0 5 (dk_at dksX0_isLogged_2 13 rfl rfl)
theorem dX0_isLogged_64 : decode cX0_isLogged 64 = .ok (.iconst 0, 1) := dk_3 (dk_at dksX0_isLogged_2 16 rfl rfl)
theorem dX0_isLogged_65 : decode cX0_isLogged 65 = .ok (.ireturn, 1) := dk_172 (dk_at dksX0_isLogged_2 17 rfl rfl)
theorem dX0_isLogged_66 : decode cX0_isLogged 66 = .ok (.iinc 7 1, 3) := dk_132 7 1 (dk_at dksX0_isLogged_2 18 rfl rfl)
theorem dX0_isLogged_69 : decode cX0_isLogged 69 = .ok (.goto (-66), 3) := dk_167 255 190 (dk_at dksX0_isLogged_2 21 rfl rfl)
theorem dX0_isLogged_72 : decode cX0_isLogged 72 = .ok (.iconst 1, 1) := dk_4 (dk_at dksX0_isLogged_3 0 rfl rfl)
theorem dX0_isLogged_73 : decode cX0_isLogged 73 = .ok (.ireturn, 1) := dk_172 (dk_at dksX0_isLogged_3 1 rfl rfl)
abbrev cX0_ruledOf : ByteArray := prog_1_method_102_code
def yX0_ruledOf : MethodName := ⟨RX0, "ruledOf", "(IIII)I"⟩
def dkwX0_ruledOf_3 : List UInt8 := [164, 0, 8, 21, 7, 167, 0, 16, 21, 6, 21, 5, 164, 0, 8, 21, 8, 167, 0, 4, 2, 172]
abbrev dktX0_ruledOf_3 : List UInt8 := dkwX0_ruledOf_3 ++ []
def dkwX0_ruledOf_2 : List UInt8 := [21, 8, 160, 0, 18, 21, 5, 21, 6, 96, 158, 0, 8, 21, 7, 167, 0, 4, 2, 172, 21, 5, 21, 6]
abbrev dktX0_ruledOf_2 : List UInt8 := dkwX0_ruledOf_2 ++ dktX0_ruledOf_3
def dkwX0_ruledOf_1 : List UInt8 := [27, 50, 180, 1, 43, 54, 7, 42, 182, 0, 162, 180, 1, 39, 29, 50, 180, 1, 43, 54, 8, 21, 7]
abbrev dktX0_ruledOf_1 : List UInt8 := dkwX0_ruledOf_1 ++ dktX0_ruledOf_2
def dkwX0_ruledOf_0 : List UInt8 := [42, 27, 28, 182, 1, 228, 54, 5, 42, 29, 21, 4, 182, 1, 228, 54, 6, 42, 182, 0, 162, 180, 1, 39]
abbrev dktX0_ruledOf_0 : List UInt8 := dkwX0_ruledOf_0 ++ dktX0_ruledOf_1
theorem dksX0_ruledOf_0 : cX0_ruledOf.data.toList.drop 0 = dktX0_ruledOf_0 := by decide +kernel
theorem dksX0_ruledOf_1 : cX0_ruledOf.data.toList.drop 24 = dktX0_ruledOf_1 := dk_seg dksX0_ruledOf_0 24 rfl rfl
theorem dksX0_ruledOf_2 : cX0_ruledOf.data.toList.drop 47 = dktX0_ruledOf_2 := dk_seg dksX0_ruledOf_1 23 rfl rfl
theorem dksX0_ruledOf_3 : cX0_ruledOf.data.toList.drop 71 = dktX0_ruledOf_3 := dk_seg dksX0_ruledOf_2 24 rfl rfl
theorem dX0_ruledOf_0 : decode cX0_ruledOf 0 = .ok (.aload_n 0, 1) := dk_42 (dk_at dksX0_ruledOf_0 0 rfl rfl)
theorem dX0_ruledOf_1 : decode cX0_ruledOf 1 = .ok (.iload_n 1, 1) := dk_27 (dk_at dksX0_ruledOf_0 1 rfl rfl)
theorem dX0_ruledOf_2 : decode cX0_ruledOf 2 = .ok (.iload_n 2, 1) := dk_28 (dk_at dksX0_ruledOf_0 2 rfl rfl)
theorem dX0_ruledOf_3 : decode cX0_ruledOf 3 = .ok (.invokevirtual 484, 3) := dk_182 1 228 (dk_at dksX0_ruledOf_0 3 rfl rfl)
theorem dX0_ruledOf_6 : decode cX0_ruledOf 6 = .ok (.istore 5, 2) := dk_54 5 (dk_at dksX0_ruledOf_0 6 rfl rfl)
theorem dX0_ruledOf_8 : decode cX0_ruledOf 8 = .ok (.aload_n 0, 1) := dk_42 (dk_at dksX0_ruledOf_0 8 rfl rfl)
theorem dX0_ruledOf_9 : decode cX0_ruledOf 9 = .ok (.iload_n 3, 1) := dk_29 (dk_at dksX0_ruledOf_0 9 rfl rfl)
theorem dX0_ruledOf_10 : decode cX0_ruledOf 10 = .ok (.iload 4, 2) := dk_21 4 (dk_at dksX0_ruledOf_0 10 rfl rfl)
theorem dX0_ruledOf_12 : decode cX0_ruledOf 12 = .ok (.invokevirtual 484, 3) := dk_182 1 228 (dk_at dksX0_ruledOf_0 12 rfl rfl)
theorem dX0_ruledOf_15 : decode cX0_ruledOf 15 = .ok (.istore 6, 2) := dk_54 6 (dk_at dksX0_ruledOf_0 15 rfl rfl)
theorem dX0_ruledOf_17 : decode cX0_ruledOf 17 = .ok (.aload_n 0, 1) := dk_42 (dk_at dksX0_ruledOf_0 17 rfl rfl)
theorem dX0_ruledOf_18 : decode cX0_ruledOf 18 = .ok (.invokevirtual 162, 3) := dk_182 0 162 (dk_at dksX0_ruledOf_0 18 rfl rfl)
theorem dX0_ruledOf_21 : decode cX0_ruledOf 21 = .ok (.getfield 295, 3) := dk_180 1 39 (dk_at dksX0_ruledOf_0 21 rfl rfl)
theorem dX0_ruledOf_24 : decode cX0_ruledOf 24 = .ok (.iload_n 1, 1) := dk_27 (dk_at dksX0_ruledOf_1 0 rfl rfl)
theorem dX0_ruledOf_25 : decode cX0_ruledOf 25 = .ok (.aaload, 1) := dk_50 (dk_at dksX0_ruledOf_1 1 rfl rfl)
theorem dX0_ruledOf_26 : decode cX0_ruledOf 26 = .ok (.getfield 299, 3) := dk_180 1 43 (dk_at dksX0_ruledOf_1 2 rfl rfl)
theorem dX0_ruledOf_29 : decode cX0_ruledOf 29 = .ok (.istore 7, 2) := dk_54 7 (dk_at dksX0_ruledOf_1 5 rfl rfl)
theorem dX0_ruledOf_31 : decode cX0_ruledOf 31 = .ok (.aload_n 0, 1) := dk_42 (dk_at dksX0_ruledOf_1 7 rfl rfl)
theorem dX0_ruledOf_32 : decode cX0_ruledOf 32 = .ok (.invokevirtual 162, 3) := dk_182 0 162 (dk_at dksX0_ruledOf_1 8 rfl rfl)
theorem dX0_ruledOf_35 : decode cX0_ruledOf 35 = .ok (.getfield 295, 3) := dk_180 1 39 (dk_at dksX0_ruledOf_1 11 rfl rfl)
theorem dX0_ruledOf_38 : decode cX0_ruledOf 38 = .ok (.iload_n 3, 1) := dk_29 (dk_at dksX0_ruledOf_1 14 rfl rfl)
theorem dX0_ruledOf_39 : decode cX0_ruledOf 39 = .ok (.aaload, 1) := dk_50 (dk_at dksX0_ruledOf_1 15 rfl rfl)
theorem dX0_ruledOf_40 : decode cX0_ruledOf 40 = .ok (.getfield 299, 3) := dk_180 1 43 (dk_at dksX0_ruledOf_1 16 rfl rfl)
theorem dX0_ruledOf_43 : decode cX0_ruledOf 43 = .ok (.istore 8, 2) := dk_54 8 (dk_at dksX0_ruledOf_1 19 rfl rfl)
theorem dX0_ruledOf_45 : decode cX0_ruledOf 45 = .ok (.iload 7, 2) := dk_21 7 (dk_at dksX0_ruledOf_1 21 rfl rfl)
theorem dX0_ruledOf_47 : decode cX0_ruledOf 47 = .ok (.iload 8, 2) := dk_21 8 (dk_at dksX0_ruledOf_2 0 rfl rfl)
theorem dX0_ruledOf_49 : decode cX0_ruledOf 49 = .ok (.if_icmp .ne 18, 3) := dk_160 0 18 (dk_at dksX0_ruledOf_2 2 rfl rfl)
theorem dX0_ruledOf_52 : decode cX0_ruledOf 52 = .ok (.iload 5, 2) := dk_21 5 (dk_at dksX0_ruledOf_2 5 rfl rfl)
theorem dX0_ruledOf_54 : decode cX0_ruledOf 54 = .ok (.iload 6, 2) := dk_21 6 (dk_at dksX0_ruledOf_2 7 rfl rfl)
theorem dX0_ruledOf_56 : decode cX0_ruledOf 56 = .ok (.iadd, 1) := dk_96 (dk_at dksX0_ruledOf_2 9 rfl rfl)
theorem dX0_ruledOf_57 : decode cX0_ruledOf 57 = .ok (.ifCond .le 8, 3) := dk_158 0 8 (dk_at dksX0_ruledOf_2 10 rfl rfl)
theorem dX0_ruledOf_60 : decode cX0_ruledOf 60 = .ok (.iload 7, 2) := dk_21 7 (dk_at dksX0_ruledOf_2 13 rfl rfl)
theorem dX0_ruledOf_62 : decode cX0_ruledOf 62 = .ok (.goto 4, 3) := dk_167 0 4 (dk_at dksX0_ruledOf_2 15 rfl rfl)
theorem dX0_ruledOf_65 : decode cX0_ruledOf 65 = .ok (.iconst (-1), 1) := dk_2 (dk_at dksX0_ruledOf_2 18 rfl rfl)
theorem dX0_ruledOf_66 : decode cX0_ruledOf 66 = .ok (.ireturn, 1) := dk_172 (dk_at dksX0_ruledOf_2 19 rfl rfl)
theorem dX0_ruledOf_67 : decode cX0_ruledOf 67 = .ok (.iload 5, 2) := dk_21 5 (dk_at dksX0_ruledOf_2 20 rfl rfl)
theorem dX0_ruledOf_69 : decode cX0_ruledOf 69 = .ok (.iload 6, 2) := dk_21 6 (dk_at dksX0_ruledOf_2 22 rfl rfl)
theorem dX0_ruledOf_71 : decode cX0_ruledOf 71 = .ok (.if_icmp .le 8, 3) := dk_164 0 8 (dk_at dksX0_ruledOf_3 0 rfl rfl)
theorem dX0_ruledOf_74 : decode cX0_ruledOf 74 = .ok (.iload 7, 2) := dk_21 7 (dk_at dksX0_ruledOf_3 3 rfl rfl)
theorem dX0_ruledOf_76 : decode cX0_ruledOf 76 = .ok (.goto 16, 3) := dk_167 0 16 (dk_at dksX0_ruledOf_3 5 rfl rfl)
theorem dX0_ruledOf_79 : decode cX0_ruledOf 79 = .ok (.iload 6, 2) := dk_21 6 (dk_at dksX0_ruledOf_3 8 rfl rfl)
theorem dX0_ruledOf_81 : decode cX0_ruledOf 81 = .ok (.iload 5, 2) := dk_21 5 (dk_at dksX0_ruledOf_3 10 rfl rfl)
theorem dX0_ruledOf_83 : decode cX0_ruledOf 83 = .ok (.if_icmp .le 8, 3) := dk_164 0 8 (dk_at dksX0_ruledOf_3 12 rfl rfl)
theorem dX0_ruledOf_86 : decode cX0_ruledOf 86 = .ok (.iload 8, 2) := dk_21 8 (dk_at dksX0_ruledOf_3 15 rfl rfl)
theorem dX0_ruledOf_88 : decode cX0_ruledOf 88 = .ok (.goto 4, 3) := dk_167 0 4 (dk_at dksX0_ruledOf_3 17 rfl rfl)
theorem dX0_ruledOf_91 : decode cX0_ruledOf 91 = .ok (.iconst (-1), 1) := dk_2 (dk_at dksX0_ruledOf_3 20 rfl rfl)
theorem dX0_ruledOf_92 : decode cX0_ruledOf 92 = .ok (.ireturn, 1) := dk_172 (dk_at dksX0_ruledOf_3 21 rfl rfl)
abbrev cX0_weighs : ByteArray := prog_1_method_101_code
def yX0_weighs : MethodName := ⟨RX0, "weighs", "(II)I"⟩
def dkwX0_weighs_2 : List UInt8 := [180, 1, 47, 104, 172]
abbrev dktX0_weighs_2 : List UInt8 := dkwX0_weighs_2 ++ []
def dkwX0_weighs_1 : List UInt8 := [182, 0, 162, 180, 1, 0, 4, 160, 0, 7, 4, 167, 0, 17, 28, 42, 182, 0, 162, 180, 1, 39, 27, 50]
abbrev dktX0_weighs_1 : List UInt8 := dkwX0_weighs_1 ++ dktX0_weighs_2
def dkwX0_weighs_0 : List UInt8 := [28, 157, 0, 7, 3, 167, 0, 46, 42, 182, 0, 162, 180, 1, 0, 154, 0, 7, 28, 167, 0, 32, 42]
abbrev dktX0_weighs_0 : List UInt8 := dkwX0_weighs_0 ++ dktX0_weighs_1
theorem dksX0_weighs_0 : cX0_weighs.data.toList.drop 0 = dktX0_weighs_0 := by decide +kernel
theorem dksX0_weighs_1 : cX0_weighs.data.toList.drop 23 = dktX0_weighs_1 := dk_seg dksX0_weighs_0 23 rfl rfl
theorem dksX0_weighs_2 : cX0_weighs.data.toList.drop 47 = dktX0_weighs_2 := dk_seg dksX0_weighs_1 24 rfl rfl
theorem dX0_weighs_0 : decode cX0_weighs 0 = .ok (.iload_n 2, 1) := dk_28 (dk_at dksX0_weighs_0 0 rfl rfl)
theorem dX0_weighs_1 : decode cX0_weighs 1 = .ok (.ifCond .gt 7, 3) := dk_157 0 7 (dk_at dksX0_weighs_0 1 rfl rfl)
theorem dX0_weighs_4 : decode cX0_weighs 4 = .ok (.iconst 0, 1) := dk_3 (dk_at dksX0_weighs_0 4 rfl rfl)
theorem dX0_weighs_5 : decode cX0_weighs 5 = .ok (.goto 46, 3) := dk_167 0 46 (dk_at dksX0_weighs_0 5 rfl rfl)
theorem dX0_weighs_8 : decode cX0_weighs 8 = .ok (.aload_n 0, 1) := dk_42 (dk_at dksX0_weighs_0 8 rfl rfl)
theorem dX0_weighs_9 : decode cX0_weighs 9 = .ok (.invokevirtual 162, 3) := dk_182 0 162 (dk_at dksX0_weighs_0 9 rfl rfl)
theorem dX0_weighs_12 : decode cX0_weighs 12 = .ok (.getfield 256, 3) := dk_180 1 0 (dk_at dksX0_weighs_0 12 rfl rfl)
theorem dX0_weighs_15 : decode cX0_weighs 15 = .ok (.ifCond .ne 7, 3) := dk_154 0 7 (dk_at dksX0_weighs_0 15 rfl rfl)
theorem dX0_weighs_18 : decode cX0_weighs 18 = .ok (.iload_n 2, 1) := dk_28 (dk_at dksX0_weighs_0 18 rfl rfl)
theorem dX0_weighs_19 : decode cX0_weighs 19 = .ok (.goto 32, 3) := dk_167 0 32 (dk_at dksX0_weighs_0 19 rfl rfl)
theorem dX0_weighs_22 : decode cX0_weighs 22 = .ok (.aload_n 0, 1) := dk_42 (dk_at dksX0_weighs_0 22 rfl rfl)
theorem dX0_weighs_23 : decode cX0_weighs 23 = .ok (.invokevirtual 162, 3) := dk_182 0 162 (dk_at dksX0_weighs_1 0 rfl rfl)
theorem dX0_weighs_26 : decode cX0_weighs 26 = .ok (.getfield 256, 3) := dk_180 1 0 (dk_at dksX0_weighs_1 3 rfl rfl)
theorem dX0_weighs_29 : decode cX0_weighs 29 = .ok (.iconst 1, 1) := dk_4 (dk_at dksX0_weighs_1 6 rfl rfl)
theorem dX0_weighs_30 : decode cX0_weighs 30 = .ok (.if_icmp .ne 7, 3) := dk_160 0 7 (dk_at dksX0_weighs_1 7 rfl rfl)
theorem dX0_weighs_33 : decode cX0_weighs 33 = .ok (.iconst 1, 1) := dk_4 (dk_at dksX0_weighs_1 10 rfl rfl)
theorem dX0_weighs_34 : decode cX0_weighs 34 = .ok (.goto 17, 3) := dk_167 0 17 (dk_at dksX0_weighs_1 11 rfl rfl)
theorem dX0_weighs_37 : decode cX0_weighs 37 = .ok (.iload_n 2, 1) := dk_28 (dk_at dksX0_weighs_1 14 rfl rfl)
theorem dX0_weighs_38 : decode cX0_weighs 38 = .ok (.aload_n 0, 1) := dk_42 (dk_at dksX0_weighs_1 15 rfl rfl)
theorem dX0_weighs_39 : decode cX0_weighs 39 = .ok (.invokevirtual 162, 3) := dk_182 0 162 (dk_at dksX0_weighs_1 16 rfl rfl)
theorem dX0_weighs_42 : decode cX0_weighs 42 = .ok (.getfield 295, 3) := dk_180 1 39 (dk_at dksX0_weighs_1 19 rfl rfl)
theorem dX0_weighs_45 : decode cX0_weighs 45 = .ok (.iload_n 1, 1) := dk_27 (dk_at dksX0_weighs_1 22 rfl rfl)
theorem dX0_weighs_46 : decode cX0_weighs 46 = .ok (.aaload, 1) := dk_50 (dk_at dksX0_weighs_1 23 rfl rfl)
theorem dX0_weighs_47 : decode cX0_weighs 47 = .ok (.getfield 303, 3) := dk_180 1 47 (dk_at dksX0_weighs_2 0 rfl rfl)
theorem dX0_weighs_50 : decode cX0_weighs 50 = .ok (.imul, 1) := dk_104 (dk_at dksX0_weighs_2 3 rfl rfl)
theorem dX0_weighs_51 : decode cX0_weighs 51 = .ok (.ireturn, 1) := dk_172 (dk_at dksX0_weighs_2 4 rfl rfl)
abbrev cX0_sure : ByteArray := prog_1_method_106_code
def yX0_sure : MethodName := ⟨RX0, "sure", "(III)I"⟩
def dkwX0_sure_1 : List UInt8 := [182, 0, 110, 42, 180, 1, 238, 172, 58, 4, 42, 25, 4, 182, 0, 143, 172]
abbrev dktX0_sure_1 : List UInt8 := dkwX0_sure_1 ++ []
def dkwX0_sure_0 : List UInt8 := [42, 3, 181, 0, 85, 42, 42, 27, 28, 29, 182, 1, 245, 158, 0, 7, 4, 167, 0, 4, 3, 16, 6]
abbrev dktX0_sure_0 : List UInt8 := dkwX0_sure_0 ++ dktX0_sure_1
theorem dksX0_sure_0 : cX0_sure.data.toList.drop 0 = dktX0_sure_0 := by decide +kernel
theorem dksX0_sure_1 : cX0_sure.data.toList.drop 23 = dktX0_sure_1 := dk_seg dksX0_sure_0 23 rfl rfl
theorem dX0_sure_0 : decode cX0_sure 0 = .ok (.aload_n 0, 1) := dk_42 (dk_at dksX0_sure_0 0 rfl rfl)
theorem dX0_sure_1 : decode cX0_sure 1 = .ok (.iconst 0, 1) := dk_3 (dk_at dksX0_sure_0 1 rfl rfl)
theorem dX0_sure_2 : decode cX0_sure 2 = .ok (.putfield 85, 3) := dk_181 0 85 (dk_at dksX0_sure_0 2 rfl rfl)
theorem dX0_sure_5 : decode cX0_sure 5 = .ok (.aload_n 0, 1) := dk_42 (dk_at dksX0_sure_0 5 rfl rfl)
theorem dX0_sure_6 : decode cX0_sure 6 = .ok (.aload_n 0, 1) := dk_42 (dk_at dksX0_sure_0 6 rfl rfl)
theorem dX0_sure_7 : decode cX0_sure 7 = .ok (.iload_n 1, 1) := dk_27 (dk_at dksX0_sure_0 7 rfl rfl)
theorem dX0_sure_8 : decode cX0_sure 8 = .ok (.iload_n 2, 1) := dk_28 (dk_at dksX0_sure_0 8 rfl rfl)
theorem dX0_sure_9 : decode cX0_sure 9 = .ok (.iload_n 3, 1) := dk_29 (dk_at dksX0_sure_0 9 rfl rfl)
theorem dX0_sure_10 : decode cX0_sure 10 = .ok (.invokevirtual 501, 3) := dk_182 1 245 (dk_at dksX0_sure_0 10 rfl rfl)
theorem dX0_sure_13 : decode cX0_sure 13 = .ok (.ifCond .le 7, 3) := dk_158 0 7 (dk_at dksX0_sure_0 13 rfl rfl)
theorem dX0_sure_16 : decode cX0_sure 16 = .ok (.iconst 1, 1) := dk_4 (dk_at dksX0_sure_0 16 rfl rfl)
theorem dX0_sure_17 : decode cX0_sure 17 = .ok (.goto 4, 3) := dk_167 0 4 (dk_at dksX0_sure_0 17 rfl rfl)
theorem dX0_sure_20 : decode cX0_sure 20 = .ok (.iconst 0, 1) := dk_3 (dk_at dksX0_sure_0 20 rfl rfl)
theorem dX0_sure_21 : decode cX0_sure 21 = .ok (.bipush 6, 2) := dk_16 6 (dk_at dksX0_sure_0 21 rfl rfl)
theorem dX0_sure_23 : decode cX0_sure 23 = .ok (.invokevirtual 110, 3) := dk_182 0 110 (dk_at dksX0_sure_1 0 rfl rfl)
theorem dX0_sure_26 : decode cX0_sure 26 = .ok (.aload_n 0, 1) := dk_42 (dk_at dksX0_sure_1 3 rfl rfl)
theorem dX0_sure_27 : decode cX0_sure 27 = .ok (.getfield 494, 3) := dk_180 1 238 (dk_at dksX0_sure_1 4 rfl rfl)
theorem dX0_sure_30 : decode cX0_sure 30 = .ok (.ireturn, 1) := dk_172 (dk_at dksX0_sure_1 7 rfl rfl)
theorem dX0_sure_31 : decode cX0_sure 31 = .ok (.astore 4, 2) := dk_58 4 (dk_at dksX0_sure_1 8 rfl rfl)
theorem dX0_sure_33 : decode cX0_sure 33 = .ok (.aload_n 0, 1) := dk_42 (dk_at dksX0_sure_1 10 rfl rfl)
theorem dX0_sure_34 : decode cX0_sure 34 = .ok (.aload 4, 2) := dk_25 4 (dk_at dksX0_sure_1 11 rfl rfl)
theorem dX0_sure_36 : decode cX0_sure 36 = .ok (.invokevirtual 143, 3) := dk_182 0 143 (dk_at dksX0_sure_1 13 rfl rfl)
theorem dX0_sure_39 : decode cX0_sure 39 = .ok (.ireturn, 1) := dk_172 (dk_at dksX0_sure_1 16 rfl rfl)
abbrev cX0_copyLog : ByteArray := prog_1_method_107_code
def yX0_copyLog : MethodName := ⟨RX0, "copyLog", "(III)I"⟩
def dkwX0_copyLog_3 : List UInt8 := [87, 42, 180, 0, 66, 27, 182, 1, 157, 132, 4, 1, 167, 255, 222, 29, 172]
abbrev dktX0_copyLog_3 : List UInt8 := dkwX0_copyLog_3 ++ []
def dkwX0_copyLog_2 : List UInt8 := [54, 4, 21, 4, 29, 162, 0, 34, 42, 28, 21, 4, 42, 180, 0, 66, 27, 182, 0, 247, 133, 182, 1, 248]
abbrev dktX0_copyLog_2 : List UInt8 := dkwX0_copyLog_2 ++ dktX0_copyLog_3
def dkwX0_copyLog_1 : List UInt8 := [167, 0, 12, 58, 4, 42, 25, 4, 182, 0, 143, 172, 42, 180, 0, 66, 42, 182, 0, 162, 182, 0, 223, 3]
abbrev dktX0_copyLog_1 : List UInt8 := dkwX0_copyLog_1 ++ dktX0_copyLog_2
def dkwX0_copyLog_0 : List UInt8 := [42, 3, 181, 0, 85, 42, 42, 27, 182, 0, 186, 4, 182, 0, 110, 42, 28, 29, 182, 1, 235, 87]
abbrev dktX0_copyLog_0 : List UInt8 := dkwX0_copyLog_0 ++ dktX0_copyLog_1
theorem dksX0_copyLog_0 : cX0_copyLog.data.toList.drop 0 = dktX0_copyLog_0 := by decide +kernel
theorem dksX0_copyLog_1 : cX0_copyLog.data.toList.drop 22 = dktX0_copyLog_1 := dk_seg dksX0_copyLog_0 22 rfl rfl
theorem dksX0_copyLog_2 : cX0_copyLog.data.toList.drop 46 = dktX0_copyLog_2 := dk_seg dksX0_copyLog_1 24 rfl rfl
theorem dksX0_copyLog_3 : cX0_copyLog.data.toList.drop 70 = dktX0_copyLog_3 := dk_seg dksX0_copyLog_2 24 rfl rfl
theorem dX0_copyLog_0 : decode cX0_copyLog 0 = .ok (.aload_n 0, 1) := dk_42 (dk_at dksX0_copyLog_0 0 rfl rfl)
theorem dX0_copyLog_1 : decode cX0_copyLog 1 = .ok (.iconst 0, 1) := dk_3 (dk_at dksX0_copyLog_0 1 rfl rfl)
theorem dX0_copyLog_2 : decode cX0_copyLog 2 = .ok (.putfield 85, 3) := dk_181 0 85 (dk_at dksX0_copyLog_0 2 rfl rfl)
theorem dX0_copyLog_5 : decode cX0_copyLog 5 = .ok (.aload_n 0, 1) := dk_42 (dk_at dksX0_copyLog_0 5 rfl rfl)
theorem dX0_copyLog_6 : decode cX0_copyLog 6 = .ok (.aload_n 0, 1) := dk_42 (dk_at dksX0_copyLog_0 6 rfl rfl)
theorem dX0_copyLog_7 : decode cX0_copyLog 7 = .ok (.iload_n 1, 1) := dk_27 (dk_at dksX0_copyLog_0 7 rfl rfl)
theorem dX0_copyLog_8 : decode cX0_copyLog 8 = .ok (.invokevirtual 186, 3) := dk_182 0 186 (dk_at dksX0_copyLog_0 8 rfl rfl)
theorem dX0_copyLog_11 : decode cX0_copyLog 11 = .ok (.iconst 1, 1) := dk_4 (dk_at dksX0_copyLog_0 11 rfl rfl)
theorem dX0_copyLog_12 : decode cX0_copyLog 12 = .ok (.invokevirtual 110, 3) := dk_182 0 110 (dk_at dksX0_copyLog_0 12 rfl rfl)
theorem dX0_copyLog_15 : decode cX0_copyLog 15 = .ok (.aload_n 0, 1) := dk_42 (dk_at dksX0_copyLog_0 15 rfl rfl)
theorem dX0_copyLog_16 : decode cX0_copyLog 16 = .ok (.iload_n 2, 1) := dk_28 (dk_at dksX0_copyLog_0 16 rfl rfl)
theorem dX0_copyLog_17 : decode cX0_copyLog 17 = .ok (.iload_n 3, 1) := dk_29 (dk_at dksX0_copyLog_0 17 rfl rfl)
theorem dX0_copyLog_18 : decode cX0_copyLog 18 = .ok (.invokevirtual 491, 3) := dk_182 1 235 (dk_at dksX0_copyLog_0 18 rfl rfl)
theorem dX0_copyLog_21 : decode cX0_copyLog 21 = .ok (.pop, 1) := dk_87 (dk_at dksX0_copyLog_0 21 rfl rfl)
theorem dX0_copyLog_22 : decode cX0_copyLog 22 = .ok (.goto 12, 3) := dk_167 0 12 (dk_at dksX0_copyLog_1 0 rfl rfl)
theorem dX0_copyLog_25 : decode cX0_copyLog 25 = .ok (.astore 4, 2) := dk_58 4 (dk_at dksX0_copyLog_1 3 rfl rfl)
theorem dX0_copyLog_27 : decode cX0_copyLog 27 = .ok (.aload_n 0, 1) := dk_42 (dk_at dksX0_copyLog_1 5 rfl rfl)
theorem dX0_copyLog_28 : decode cX0_copyLog 28 = .ok (.aload 4, 2) := dk_25 4 (dk_at dksX0_copyLog_1 6 rfl rfl)
theorem dX0_copyLog_30 : decode cX0_copyLog 30 = .ok (.invokevirtual 143, 3) := dk_182 0 143 (dk_at dksX0_copyLog_1 8 rfl rfl)
theorem dX0_copyLog_33 : decode cX0_copyLog 33 = .ok (.ireturn, 1) := dk_172 (dk_at dksX0_copyLog_1 11 rfl rfl)
theorem dX0_copyLog_34 : decode cX0_copyLog 34 = .ok (.aload_n 0, 1) := dk_42 (dk_at dksX0_copyLog_1 12 rfl rfl)
theorem dX0_copyLog_35 : decode cX0_copyLog 35 = .ok (.getfield 66, 3) := dk_180 0 66 (dk_at dksX0_copyLog_1 13 rfl rfl)
theorem dX0_copyLog_38 : decode cX0_copyLog 38 = .ok (.aload_n 0, 1) := dk_42 (dk_at dksX0_copyLog_1 16 rfl rfl)
theorem dX0_copyLog_39 : decode cX0_copyLog 39 = .ok (.invokevirtual 162, 3) := dk_182 0 162 (dk_at dksX0_copyLog_1 17 rfl rfl)
theorem dX0_copyLog_42 : decode cX0_copyLog 42 = .ok (.invokevirtual 223, 3) := dk_182 0 223 (dk_at dksX0_copyLog_1 20 rfl rfl)
theorem dX0_copyLog_45 : decode cX0_copyLog 45 = .ok (.iconst 0, 1) := dk_3 (dk_at dksX0_copyLog_1 23 rfl rfl)
theorem dX0_copyLog_46 : decode cX0_copyLog 46 = .ok (.istore 4, 2) := dk_54 4 (dk_at dksX0_copyLog_2 0 rfl rfl)
theorem dX0_copyLog_48 : decode cX0_copyLog 48 = .ok (.iload 4, 2) := dk_21 4 (dk_at dksX0_copyLog_2 2 rfl rfl)
theorem dX0_copyLog_50 : decode cX0_copyLog 50 = .ok (.iload_n 3, 1) := dk_29 (dk_at dksX0_copyLog_2 4 rfl rfl)
theorem dX0_copyLog_51 : decode cX0_copyLog 51 = .ok (.if_icmp .ge 34, 3) := dk_162 0 34 (dk_at dksX0_copyLog_2 5 rfl rfl)
theorem dX0_copyLog_54 : decode cX0_copyLog 54 = .ok (.aload_n 0, 1) := dk_42 (dk_at dksX0_copyLog_2 8 rfl rfl)
theorem dX0_copyLog_55 : decode cX0_copyLog 55 = .ok (.iload_n 2, 1) := dk_28 (dk_at dksX0_copyLog_2 9 rfl rfl)
theorem dX0_copyLog_56 : decode cX0_copyLog 56 = .ok (.iload 4, 2) := dk_21 4 (dk_at dksX0_copyLog_2 10 rfl rfl)
theorem dX0_copyLog_58 : decode cX0_copyLog 58 = .ok (.aload_n 0, 1) := dk_42 (dk_at dksX0_copyLog_2 12 rfl rfl)
theorem dX0_copyLog_59 : decode cX0_copyLog 59 = .ok (.getfield 66, 3) := dk_180 0 66 (dk_at dksX0_copyLog_2 13 rfl rfl)
theorem dX0_copyLog_62 : decode cX0_copyLog 62 = .ok (.iload_n 1, 1) := dk_27 (dk_at dksX0_copyLog_2 16 rfl rfl)
theorem dX0_copyLog_63 : decode cX0_copyLog 63 = .ok (.invokevirtual 247, 3) := dk_182 0 247 (dk_at dksX0_copyLog_2 17 rfl rfl)
theorem dX0_copyLog_66 : decode cX0_copyLog 66 = .ok (.i2l, 1) := dk_133 (dk_at dksX0_copyLog_2 20 rfl rfl)
theorem dX0_copyLog_67 : decode cX0_copyLog 67 = .ok (.invokevirtual 504, 3) := dk_182 1 248 (dk_at dksX0_copyLog_2 21 rfl rfl)
theorem dX0_copyLog_70 : decode cX0_copyLog 70 = .ok (.pop, 1) := dk_87 (dk_at dksX0_copyLog_3 0 rfl rfl)
theorem dX0_copyLog_71 : decode cX0_copyLog 71 = .ok (.aload_n 0, 1) := dk_42 (dk_at dksX0_copyLog_3 1 rfl rfl)
theorem dX0_copyLog_72 : decode cX0_copyLog 72 = .ok (.getfield 66, 3) := dk_180 0 66 (dk_at dksX0_copyLog_3 2 rfl rfl)
theorem dX0_copyLog_75 : decode cX0_copyLog 75 = .ok (.iload_n 1, 1) := dk_27 (dk_at dksX0_copyLog_3 5 rfl rfl)
theorem dX0_copyLog_76 : decode cX0_copyLog 76 = .ok (.invokevirtual 413, 3) := dk_182 1 157 (dk_at dksX0_copyLog_3 6 rfl rfl)
theorem dX0_copyLog_79 : decode cX0_copyLog 79 = .ok (.iinc 4 1, 3) := dk_132 4 1 (dk_at dksX0_copyLog_3 9 rfl rfl)
theorem dX0_copyLog_82 : decode cX0_copyLog 82 = .ok (.goto (-34), 3) := dk_167 255 222 (dk_at dksX0_copyLog_3 12 rfl rfl)
theorem dX0_copyLog_85 : decode cX0_copyLog 85 = .ok (.iload_n 3, 1) := dk_29 (dk_at dksX0_copyLog_3 15 rfl rfl)
theorem dX0_copyLog_86 : decode cX0_copyLog 86 = .ok (.ireturn, 1) := dk_172 (dk_at dksX0_copyLog_3 16 rfl rfl)
abbrev cX0_live : ByteArray := prog_1_method_108_code
def yX0_live : MethodName := ⟨RX0, "live", "(I)I"⟩
def dkwX0_live_5 : List UInt8 := [153, 0, 7, 4, 167, 0, 4, 3, 79, 42, 4, 181, 2, 21, 44, 180, 2, 24, 172]
abbrev dktX0_live_5 : List UInt8 := dkwX0_live_5 ++ []
def dkwX0_live_4 : List UInt8 := [44, 180, 2, 11, 79, 42, 180, 0, 82, 6, 44, 180, 2, 14, 79, 42, 180, 0, 82, 7, 44, 180, 2, 17]
abbrev dktX0_live_4 : List UInt8 := dkwX0_live_4 ++ dktX0_live_5
def dkwX0_live_3 : List UInt8 := [180, 0, 82, 3, 44, 180, 2, 5, 79, 42, 180, 0, 82, 4, 44, 180, 2, 8, 79, 42, 180, 0, 82, 5]
abbrev dktX0_live_3 : List UInt8 := dkwX0_live_3 ++ dktX0_live_4
def dkwX0_live_2 : List UInt8 := [89, 42, 182, 0, 162, 27, 183, 1, 254, 77, 42, 180, 0, 55, 180, 0, 226, 44, 182, 2, 1, 42]
abbrev dktX0_live_2 : List UInt8 := dkwX0_live_2 ++ dktX0_live_3
def dkwX0_live_1 : List UInt8 := [199, 0, 8, 16, 6, 167, 0, 4, 3, 181, 0, 85, 42, 180, 0, 85, 158, 0, 5, 2, 172, 187, 1, 252]
abbrev dktX0_live_1 : List UInt8 := dkwX0_live_1 ++ dktX0_live_2
def dkwX0_live_0 : List UInt8 := [42, 27, 133, 9, 20, 1, 155, 184, 0, 169, 154, 0, 7, 4, 167, 0, 19, 42, 180, 0, 55, 180, 0, 226]
abbrev dktX0_live_0 : List UInt8 := dkwX0_live_0 ++ dktX0_live_1
theorem dksX0_live_0 : cX0_live.data.toList.drop 0 = dktX0_live_0 := by decide +kernel
theorem dksX0_live_1 : cX0_live.data.toList.drop 24 = dktX0_live_1 := dk_seg dksX0_live_0 24 rfl rfl
theorem dksX0_live_2 : cX0_live.data.toList.drop 48 = dktX0_live_2 := dk_seg dksX0_live_1 24 rfl rfl
theorem dksX0_live_3 : cX0_live.data.toList.drop 70 = dktX0_live_3 := dk_seg dksX0_live_2 22 rfl rfl
theorem dksX0_live_4 : cX0_live.data.toList.drop 94 = dktX0_live_4 := dk_seg dksX0_live_3 24 rfl rfl
theorem dksX0_live_5 : cX0_live.data.toList.drop 118 = dktX0_live_5 := dk_seg dksX0_live_4 24 rfl rfl
theorem dX0_live_0 : decode cX0_live 0 = .ok (.aload_n 0, 1) := dk_42 (dk_at dksX0_live_0 0 rfl rfl)
theorem dX0_live_1 : decode cX0_live 1 = .ok (.iload_n 1, 1) := dk_27 (dk_at dksX0_live_0 1 rfl rfl)
theorem dX0_live_2 : decode cX0_live 2 = .ok (.i2l, 1) := dk_133 (dk_at dksX0_live_0 2 rfl rfl)
theorem dX0_live_3 : decode cX0_live 3 = .ok (.lconst 0, 1) := dk_9 (dk_at dksX0_live_0 3 rfl rfl)
theorem dX0_live_4 : decode cX0_live 4 = .ok (.ldc2_w 411, 3) := dk_20 1 155 (dk_at dksX0_live_0 4 rfl rfl)
theorem dX0_live_7 : decode cX0_live 7 = .ok (.invokestatic 169, 3) := dk_184 0 169 (dk_at dksX0_live_0 7 rfl rfl)
theorem dX0_live_10 : decode cX0_live 10 = .ok (.ifCond .ne 7, 3) := dk_154 0 7 (dk_at dksX0_live_0 10 rfl rfl)
theorem dX0_live_13 : decode cX0_live 13 = .ok (.iconst 1, 1) := dk_4 (dk_at dksX0_live_0 13 rfl rfl)
theorem dX0_live_14 : decode cX0_live 14 = .ok (.goto 19, 3) := dk_167 0 19 (dk_at dksX0_live_0 14 rfl rfl)
theorem dX0_live_17 : decode cX0_live 17 = .ok (.aload_n 0, 1) := dk_42 (dk_at dksX0_live_0 17 rfl rfl)
theorem dX0_live_18 : decode cX0_live 18 = .ok (.getfield 55, 3) := dk_180 0 55 (dk_at dksX0_live_0 18 rfl rfl)
theorem dX0_live_21 : decode cX0_live 21 = .ok (.getfield 226, 3) := dk_180 0 226 (dk_at dksX0_live_0 21 rfl rfl)
theorem dX0_live_24 : decode cX0_live 24 = .ok (.ifnonnull 8, 3) := dk_199 0 8 (dk_at dksX0_live_1 0 rfl rfl)
theorem dX0_live_27 : decode cX0_live 27 = .ok (.bipush 6, 2) := dk_16 6 (dk_at dksX0_live_1 3 rfl rfl)
theorem dX0_live_29 : decode cX0_live 29 = .ok (.goto 4, 3) := dk_167 0 4 (dk_at dksX0_live_1 5 rfl rfl)
theorem dX0_live_32 : decode cX0_live 32 = .ok (.iconst 0, 1) := dk_3 (dk_at dksX0_live_1 8 rfl rfl)
theorem dX0_live_33 : decode cX0_live 33 = .ok (.putfield 85, 3) := dk_181 0 85 (dk_at dksX0_live_1 9 rfl rfl)
theorem dX0_live_36 : decode cX0_live 36 = .ok (.aload_n 0, 1) := dk_42 (dk_at dksX0_live_1 12 rfl rfl)
theorem dX0_live_37 : decode cX0_live 37 = .ok (.getfield 85, 3) := dk_180 0 85 (dk_at dksX0_live_1 13 rfl rfl)
theorem dX0_live_40 : decode cX0_live 40 = .ok (.ifCond .le 5, 3) := dk_158 0 5 (dk_at dksX0_live_1 16 rfl rfl)
theorem dX0_live_43 : decode cX0_live 43 = .ok (.iconst (-1), 1) := dk_2 (dk_at dksX0_live_1 19 rfl rfl)
theorem dX0_live_44 : decode cX0_live 44 = .ok (.ireturn, 1) := dk_172 (dk_at dksX0_live_1 20 rfl rfl)
theorem dX0_live_45 : decode cX0_live 45 = .ok (.new 508, 3) := dk_187 1 252 (dk_at dksX0_live_1 21 rfl rfl)
theorem dX0_live_48 : decode cX0_live 48 = .ok (.dup, 1) := dk_89 (dk_at dksX0_live_2 0 rfl rfl)
theorem dX0_live_49 : decode cX0_live 49 = .ok (.aload_n 0, 1) := dk_42 (dk_at dksX0_live_2 1 rfl rfl)
theorem dX0_live_50 : decode cX0_live 50 = .ok (.invokevirtual 162, 3) := dk_182 0 162 (dk_at dksX0_live_2 2 rfl rfl)
theorem dX0_live_53 : decode cX0_live 53 = .ok (.iload_n 1, 1) := dk_27 (dk_at dksX0_live_2 5 rfl rfl)
theorem dX0_live_54 : decode cX0_live 54 = .ok (.invokespecial 510, 3) := dk_183 1 254 (dk_at dksX0_live_2 6 rfl rfl)
theorem dX0_live_57 : decode cX0_live 57 = .ok (.astore_n 2, 1) := dk_77 (dk_at dksX0_live_2 9 rfl rfl)
theorem dX0_live_58 : decode cX0_live 58 = .ok (.aload_n 0, 1) := dk_42 (dk_at dksX0_live_2 10 rfl rfl)
theorem dX0_live_59 : decode cX0_live 59 = .ok (.getfield 55, 3) := dk_180 0 55 (dk_at dksX0_live_2 11 rfl rfl)
theorem dX0_live_62 : decode cX0_live 62 = .ok (.getfield 226, 3) := dk_180 0 226 (dk_at dksX0_live_2 14 rfl rfl)
theorem dX0_live_65 : decode cX0_live 65 = .ok (.aload_n 2, 1) := dk_44 (dk_at dksX0_live_2 17 rfl rfl)
theorem dX0_live_66 : decode cX0_live 66 = .ok (.invokevirtual 513, 3) := dk_182 2 1 (dk_at dksX0_live_2 18 rfl rfl)
theorem dX0_live_69 : decode cX0_live 69 = .ok (.aload_n 0, 1) := dk_42 (dk_at dksX0_live_2 21 rfl rfl)
theorem dX0_live_70 : decode cX0_live 70 = .ok (.getfield 82, 3) := dk_180 0 82 (dk_at dksX0_live_3 0 rfl rfl)
theorem dX0_live_73 : decode cX0_live 73 = .ok (.iconst 0, 1) := dk_3 (dk_at dksX0_live_3 3 rfl rfl)
theorem dX0_live_74 : decode cX0_live 74 = .ok (.aload_n 2, 1) := dk_44 (dk_at dksX0_live_3 4 rfl rfl)
theorem dX0_live_75 : decode cX0_live 75 = .ok (.getfield 517, 3) := dk_180 2 5 (dk_at dksX0_live_3 5 rfl rfl)
theorem dX0_live_78 : decode cX0_live 78 = .ok (.iastore, 1) := dk_79 (dk_at dksX0_live_3 8 rfl rfl)
theorem dX0_live_79 : decode cX0_live 79 = .ok (.aload_n 0, 1) := dk_42 (dk_at dksX0_live_3 9 rfl rfl)
theorem dX0_live_80 : decode cX0_live 80 = .ok (.getfield 82, 3) := dk_180 0 82 (dk_at dksX0_live_3 10 rfl rfl)
theorem dX0_live_83 : decode cX0_live 83 = .ok (.iconst 1, 1) := dk_4 (dk_at dksX0_live_3 13 rfl rfl)
theorem dX0_live_84 : decode cX0_live 84 = .ok (.aload_n 2, 1) := dk_44 (dk_at dksX0_live_3 14 rfl rfl)
theorem dX0_live_85 : decode cX0_live 85 = .ok (.getfield 520, 3) := dk_180 2 8 (dk_at dksX0_live_3 15 rfl rfl)
theorem dX0_live_88 : decode cX0_live 88 = .ok (.iastore, 1) := dk_79 (dk_at dksX0_live_3 18 rfl rfl)
theorem dX0_live_89 : decode cX0_live 89 = .ok (.aload_n 0, 1) := dk_42 (dk_at dksX0_live_3 19 rfl rfl)
theorem dX0_live_90 : decode cX0_live 90 = .ok (.getfield 82, 3) := dk_180 0 82 (dk_at dksX0_live_3 20 rfl rfl)
theorem dX0_live_93 : decode cX0_live 93 = .ok (.iconst 2, 1) := dk_5 (dk_at dksX0_live_3 23 rfl rfl)
theorem dX0_live_94 : decode cX0_live 94 = .ok (.aload_n 2, 1) := dk_44 (dk_at dksX0_live_4 0 rfl rfl)
theorem dX0_live_95 : decode cX0_live 95 = .ok (.getfield 523, 3) := dk_180 2 11 (dk_at dksX0_live_4 1 rfl rfl)
theorem dX0_live_98 : decode cX0_live 98 = .ok (.iastore, 1) := dk_79 (dk_at dksX0_live_4 4 rfl rfl)
theorem dX0_live_99 : decode cX0_live 99 = .ok (.aload_n 0, 1) := dk_42 (dk_at dksX0_live_4 5 rfl rfl)
theorem dX0_live_100 : decode cX0_live 100 = .ok (.getfield 82, 3) := dk_180 0 82 (dk_at dksX0_live_4 6 rfl rfl)
theorem dX0_live_103 : decode cX0_live 103 = .ok (.iconst 3, 1) := dk_6 (dk_at dksX0_live_4 9 rfl rfl)
theorem dX0_live_104 : decode cX0_live 104 = .ok (.aload_n 2, 1) := dk_44 (dk_at dksX0_live_4 10 rfl rfl)
theorem dX0_live_105 : decode cX0_live 105 = .ok (.getfield 526, 3) := dk_180 2 14 (dk_at dksX0_live_4 11 rfl rfl)
theorem dX0_live_108 : decode cX0_live 108 = .ok (.iastore, 1) := dk_79 (dk_at dksX0_live_4 14 rfl rfl)
theorem dX0_live_109 : decode cX0_live 109 = .ok (.aload_n 0, 1) := dk_42 (dk_at dksX0_live_4 15 rfl rfl)
theorem dX0_live_110 : decode cX0_live 110 = .ok (.getfield 82, 3) := dk_180 0 82 (dk_at dksX0_live_4 16 rfl rfl)
theorem dX0_live_113 : decode cX0_live 113 = .ok (.iconst 4, 1) := dk_7 (dk_at dksX0_live_4 19 rfl rfl)
theorem dX0_live_114 : decode cX0_live 114 = .ok (.aload_n 2, 1) := dk_44 (dk_at dksX0_live_4 20 rfl rfl)
theorem dX0_live_115 : decode cX0_live 115 = .ok (.getfield 529, 3) := dk_180 2 17 (dk_at dksX0_live_4 21 rfl rfl)
theorem dX0_live_118 : decode cX0_live 118 = .ok (.ifCond .eq 7, 3) := dk_153 0 7 (dk_at dksX0_live_5 0 rfl rfl)
theorem dX0_live_121 : decode cX0_live 121 = .ok (.iconst 1, 1) := dk_4 (dk_at dksX0_live_5 3 rfl rfl)
theorem dX0_live_122 : decode cX0_live 122 = .ok (.goto 4, 3) := dk_167 0 4 (dk_at dksX0_live_5 4 rfl rfl)
theorem dX0_live_125 : decode cX0_live 125 = .ok (.iconst 0, 1) := dk_3 (dk_at dksX0_live_5 7 rfl rfl)
theorem dX0_live_126 : decode cX0_live 126 = .ok (.iastore, 1) := dk_79 (dk_at dksX0_live_5 8 rfl rfl)
theorem dX0_live_127 : decode cX0_live 127 = .ok (.aload_n 0, 1) := dk_42 (dk_at dksX0_live_5 9 rfl rfl)
theorem dX0_live_128 : decode cX0_live 128 = .ok (.iconst 1, 1) := dk_4 (dk_at dksX0_live_5 10 rfl rfl)
theorem dX0_live_129 : decode cX0_live 129 = .ok (.putfield 533, 3) := dk_181 2 21 (dk_at dksX0_live_5 11 rfl rfl)
theorem dX0_live_132 : decode cX0_live 132 = .ok (.aload_n 2, 1) := dk_44 (dk_at dksX0_live_5 14 rfl rfl)
theorem dX0_live_133 : decode cX0_live 133 = .ok (.getfield 536, 3) := dk_180 2 24 (dk_at dksX0_live_5 15 rfl rfl)
theorem dX0_live_136 : decode cX0_live 136 = .ok (.ireturn, 1) := dk_172 (dk_at dksX0_live_5 18 rfl rfl)
abbrev cX0_lived : ByteArray := prog_1_method_109_code
def yX0_lived : MethodName := ⟨RX0, "lived", "(I)I"⟩
def dkwX0_lived_2 : List UInt8 := [27, 46, 172]
abbrev dktX0_lived_2 : List UInt8 := dkwX0_lived_2 ++ []
def dkwX0_lived_1 : List UInt8 := [3, 167, 0, 5, 16, 6, 181, 0, 85, 42, 180, 0, 85, 158, 0, 7, 2, 167, 0, 9, 42, 180, 0, 82]
abbrev dktX0_lived_1 : List UInt8 := dkwX0_lived_1 ++ dktX0_lived_2
def dkwX0_lived_0 : List UInt8 := [42, 27, 133, 9, 20, 2, 27, 184, 0, 169, 154, 0, 7, 4, 167, 0, 16, 42, 180, 2, 21, 153, 0, 7]
abbrev dktX0_lived_0 : List UInt8 := dkwX0_lived_0 ++ dktX0_lived_1
theorem dksX0_lived_0 : cX0_lived.data.toList.drop 0 = dktX0_lived_0 := by decide +kernel
theorem dksX0_lived_1 : cX0_lived.data.toList.drop 24 = dktX0_lived_1 := dk_seg dksX0_lived_0 24 rfl rfl
theorem dksX0_lived_2 : cX0_lived.data.toList.drop 48 = dktX0_lived_2 := dk_seg dksX0_lived_1 24 rfl rfl
theorem dX0_lived_0 : decode cX0_lived 0 = .ok (.aload_n 0, 1) := dk_42 (dk_at dksX0_lived_0 0 rfl rfl)
theorem dX0_lived_1 : decode cX0_lived 1 = .ok (.iload_n 1, 1) := dk_27 (dk_at dksX0_lived_0 1 rfl rfl)
theorem dX0_lived_2 : decode cX0_lived 2 = .ok (.i2l, 1) := dk_133 (dk_at dksX0_lived_0 2 rfl rfl)
theorem dX0_lived_3 : decode cX0_lived 3 = .ok (.lconst 0, 1) := dk_9 (dk_at dksX0_lived_0 3 rfl rfl)
theorem dX0_lived_4 : decode cX0_lived 4 = .ok (.ldc2_w 539, 3) := dk_20 2 27 (dk_at dksX0_lived_0 4 rfl rfl)
theorem dX0_lived_7 : decode cX0_lived 7 = .ok (.invokestatic 169, 3) := dk_184 0 169 (dk_at dksX0_lived_0 7 rfl rfl)
theorem dX0_lived_10 : decode cX0_lived 10 = .ok (.ifCond .ne 7, 3) := dk_154 0 7 (dk_at dksX0_lived_0 10 rfl rfl)
theorem dX0_lived_13 : decode cX0_lived 13 = .ok (.iconst 1, 1) := dk_4 (dk_at dksX0_lived_0 13 rfl rfl)
theorem dX0_lived_14 : decode cX0_lived 14 = .ok (.goto 16, 3) := dk_167 0 16 (dk_at dksX0_lived_0 14 rfl rfl)
theorem dX0_lived_17 : decode cX0_lived 17 = .ok (.aload_n 0, 1) := dk_42 (dk_at dksX0_lived_0 17 rfl rfl)
theorem dX0_lived_18 : decode cX0_lived 18 = .ok (.getfield 533, 3) := dk_180 2 21 (dk_at dksX0_lived_0 18 rfl rfl)
theorem dX0_lived_21 : decode cX0_lived 21 = .ok (.ifCond .eq 7, 3) := dk_153 0 7 (dk_at dksX0_lived_0 21 rfl rfl)
theorem dX0_lived_24 : decode cX0_lived 24 = .ok (.iconst 0, 1) := dk_3 (dk_at dksX0_lived_1 0 rfl rfl)
theorem dX0_lived_25 : decode cX0_lived 25 = .ok (.goto 5, 3) := dk_167 0 5 (dk_at dksX0_lived_1 1 rfl rfl)
theorem dX0_lived_28 : decode cX0_lived 28 = .ok (.bipush 6, 2) := dk_16 6 (dk_at dksX0_lived_1 4 rfl rfl)
theorem dX0_lived_30 : decode cX0_lived 30 = .ok (.putfield 85, 3) := dk_181 0 85 (dk_at dksX0_lived_1 6 rfl rfl)
theorem dX0_lived_33 : decode cX0_lived 33 = .ok (.aload_n 0, 1) := dk_42 (dk_at dksX0_lived_1 9 rfl rfl)
theorem dX0_lived_34 : decode cX0_lived 34 = .ok (.getfield 85, 3) := dk_180 0 85 (dk_at dksX0_lived_1 10 rfl rfl)
theorem dX0_lived_37 : decode cX0_lived 37 = .ok (.ifCond .le 7, 3) := dk_158 0 7 (dk_at dksX0_lived_1 13 rfl rfl)
theorem dX0_lived_40 : decode cX0_lived 40 = .ok (.iconst (-1), 1) := dk_2 (dk_at dksX0_lived_1 16 rfl rfl)
theorem dX0_lived_41 : decode cX0_lived 41 = .ok (.goto 9, 3) := dk_167 0 9 (dk_at dksX0_lived_1 17 rfl rfl)
theorem dX0_lived_44 : decode cX0_lived 44 = .ok (.aload_n 0, 1) := dk_42 (dk_at dksX0_lived_1 20 rfl rfl)
theorem dX0_lived_45 : decode cX0_lived 45 = .ok (.getfield 82, 3) := dk_180 0 82 (dk_at dksX0_lived_1 21 rfl rfl)
theorem dX0_lived_48 : decode cX0_lived 48 = .ok (.iload_n 1, 1) := dk_27 (dk_at dksX0_lived_2 0 rfl rfl)
theorem dX0_lived_49 : decode cX0_lived 49 = .ok (.iaload, 1) := dk_46 (dk_at dksX0_lived_2 1 rfl rfl)
theorem dX0_lived_50 : decode cX0_lived 50 = .ok (.ireturn, 1) := dk_172 (dk_at dksX0_lived_2 2 rfl rfl)
abbrev cX0_mean : ByteArray := prog_1_method_110_code
def yX0_mean : MethodName := ⟨RX0, "mean", "(II)Z"⟩
def dkwX0_mean_5 : List UInt8 := [97, 66, 132, 5, 1, 167, 255, 200, 42, 33, 28, 133, 182, 1, 116, 87, 4, 172]
abbrev dktX0_mean_5 : List UInt8 := dkwX0_mean_5 ++ []
def dkwX0_mean_4 : List UInt8 := [89, 42, 180, 0, 66, 27, 21, 5, 96, 183, 1, 254, 182, 2, 1, 33, 42, 180, 0, 66, 182, 1, 13, 133]
abbrev dktX0_mean_4 : List UInt8 := dkwX0_mean_4 ++ dktX0_mean_5
def dkwX0_mean_3 : List UInt8 := [162, 0, 56, 42, 180, 0, 66, 42, 182, 0, 162, 182, 0, 223, 42, 180, 0, 55, 180, 0, 226, 187, 1, 252]
abbrev dktX0_mean_3 : List UInt8 := dkwX0_mean_3 ++ dktX0_mean_4
def dkwX0_mean_2 : List UInt8 := [167, 0, 4, 3, 181, 0, 85, 42, 180, 0, 85, 158, 0, 5, 3, 172, 9, 66, 3, 54, 5, 21, 5, 28]
abbrev dktX0_mean_2 : List UInt8 := dkwX0_mean_2 ++ dktX0_mean_3
def dkwX0_mean_1 : List UInt8 := [184, 0, 169, 154, 0, 7, 4, 167, 0, 19, 42, 180, 0, 55, 180, 0, 226, 199, 0, 8, 16, 6]
abbrev dktX0_mean_1 : List UInt8 := dkwX0_mean_1 ++ dktX0_mean_2
def dkwX0_mean_0 : List UInt8 := [42, 28, 133, 10, 20, 1, 223, 184, 0, 169, 153, 0, 20, 27, 133, 9, 17, 39, 15, 28, 100, 4, 96, 133]
abbrev dktX0_mean_0 : List UInt8 := dkwX0_mean_0 ++ dktX0_mean_1
theorem dksX0_mean_0 : cX0_mean.data.toList.drop 0 = dktX0_mean_0 := by decide +kernel
theorem dksX0_mean_1 : cX0_mean.data.toList.drop 24 = dktX0_mean_1 := dk_seg dksX0_mean_0 24 rfl rfl
theorem dksX0_mean_2 : cX0_mean.data.toList.drop 46 = dktX0_mean_2 := dk_seg dksX0_mean_1 22 rfl rfl
theorem dksX0_mean_3 : cX0_mean.data.toList.drop 70 = dktX0_mean_3 := dk_seg dksX0_mean_2 24 rfl rfl
theorem dksX0_mean_4 : cX0_mean.data.toList.drop 94 = dktX0_mean_4 := dk_seg dksX0_mean_3 24 rfl rfl
theorem dksX0_mean_5 : cX0_mean.data.toList.drop 118 = dktX0_mean_5 := dk_seg dksX0_mean_4 24 rfl rfl
theorem dX0_mean_0 : decode cX0_mean 0 = .ok (.aload_n 0, 1) := dk_42 (dk_at dksX0_mean_0 0 rfl rfl)
theorem dX0_mean_1 : decode cX0_mean 1 = .ok (.iload_n 2, 1) := dk_28 (dk_at dksX0_mean_0 1 rfl rfl)
theorem dX0_mean_2 : decode cX0_mean 2 = .ok (.i2l, 1) := dk_133 (dk_at dksX0_mean_0 2 rfl rfl)
theorem dX0_mean_3 : decode cX0_mean 3 = .ok (.lconst 1, 1) := dk_10 (dk_at dksX0_mean_0 3 rfl rfl)
theorem dX0_mean_4 : decode cX0_mean 4 = .ok (.ldc2_w 479, 3) := dk_20 1 223 (dk_at dksX0_mean_0 4 rfl rfl)
theorem dX0_mean_7 : decode cX0_mean 7 = .ok (.invokestatic 169, 3) := dk_184 0 169 (dk_at dksX0_mean_0 7 rfl rfl)
theorem dX0_mean_10 : decode cX0_mean 10 = .ok (.ifCond .eq 20, 3) := dk_153 0 20 (dk_at dksX0_mean_0 10 rfl rfl)
theorem dX0_mean_13 : decode cX0_mean 13 = .ok (.iload_n 1, 1) := dk_27 (dk_at dksX0_mean_0 13 rfl rfl)
theorem dX0_mean_14 : decode cX0_mean 14 = .ok (.i2l, 1) := dk_133 (dk_at dksX0_mean_0 14 rfl rfl)
theorem dX0_mean_15 : decode cX0_mean 15 = .ok (.lconst 0, 1) := dk_9 (dk_at dksX0_mean_0 15 rfl rfl)
theorem dX0_mean_16 : decode cX0_mean 16 = .ok (.sipush 9999, 3) := dk_17 39 15 (dk_at dksX0_mean_0 16 rfl rfl)
theorem dX0_mean_19 : decode cX0_mean 19 = .ok (.iload_n 2, 1) := dk_28 (dk_at dksX0_mean_0 19 rfl rfl)
theorem dX0_mean_20 : decode cX0_mean 20 = .ok (.isub, 1) := dk_100 (dk_at dksX0_mean_0 20 rfl rfl)
theorem dX0_mean_21 : decode cX0_mean 21 = .ok (.iconst 1, 1) := dk_4 (dk_at dksX0_mean_0 21 rfl rfl)
theorem dX0_mean_22 : decode cX0_mean 22 = .ok (.iadd, 1) := dk_96 (dk_at dksX0_mean_0 22 rfl rfl)
theorem dX0_mean_23 : decode cX0_mean 23 = .ok (.i2l, 1) := dk_133 (dk_at dksX0_mean_0 23 rfl rfl)
theorem dX0_mean_24 : decode cX0_mean 24 = .ok (.invokestatic 169, 3) := dk_184 0 169 (dk_at dksX0_mean_1 0 rfl rfl)
theorem dX0_mean_27 : decode cX0_mean 27 = .ok (.ifCond .ne 7, 3) := dk_154 0 7 (dk_at dksX0_mean_1 3 rfl rfl)
theorem dX0_mean_30 : decode cX0_mean 30 = .ok (.iconst 1, 1) := dk_4 (dk_at dksX0_mean_1 6 rfl rfl)
theorem dX0_mean_31 : decode cX0_mean 31 = .ok (.goto 19, 3) := dk_167 0 19 (dk_at dksX0_mean_1 7 rfl rfl)
theorem dX0_mean_34 : decode cX0_mean 34 = .ok (.aload_n 0, 1) := dk_42 (dk_at dksX0_mean_1 10 rfl rfl)
theorem dX0_mean_35 : decode cX0_mean 35 = .ok (.getfield 55, 3) := dk_180 0 55 (dk_at dksX0_mean_1 11 rfl rfl)
theorem dX0_mean_38 : decode cX0_mean 38 = .ok (.getfield 226, 3) := dk_180 0 226 (dk_at dksX0_mean_1 14 rfl rfl)
theorem dX0_mean_41 : decode cX0_mean 41 = .ok (.ifnonnull 8, 3) := dk_199 0 8 (dk_at dksX0_mean_1 17 rfl rfl)
theorem dX0_mean_44 : decode cX0_mean 44 = .ok (.bipush 6, 2) := dk_16 6 (dk_at dksX0_mean_1 20 rfl rfl)
theorem dX0_mean_46 : decode cX0_mean 46 = .ok (.goto 4, 3) := dk_167 0 4 (dk_at dksX0_mean_2 0 rfl rfl)
theorem dX0_mean_49 : decode cX0_mean 49 = .ok (.iconst 0, 1) := dk_3 (dk_at dksX0_mean_2 3 rfl rfl)
theorem dX0_mean_50 : decode cX0_mean 50 = .ok (.putfield 85, 3) := dk_181 0 85 (dk_at dksX0_mean_2 4 rfl rfl)
theorem dX0_mean_53 : decode cX0_mean 53 = .ok (.aload_n 0, 1) := dk_42 (dk_at dksX0_mean_2 7 rfl rfl)
theorem dX0_mean_54 : decode cX0_mean 54 = .ok (.getfield 85, 3) := dk_180 0 85 (dk_at dksX0_mean_2 8 rfl rfl)
theorem dX0_mean_57 : decode cX0_mean 57 = .ok (.ifCond .le 5, 3) := dk_158 0 5 (dk_at dksX0_mean_2 11 rfl rfl)
theorem dX0_mean_60 : decode cX0_mean 60 = .ok (.iconst 0, 1) := dk_3 (dk_at dksX0_mean_2 14 rfl rfl)
theorem dX0_mean_61 : decode cX0_mean 61 = .ok (.ireturn, 1) := dk_172 (dk_at dksX0_mean_2 15 rfl rfl)
theorem dX0_mean_62 : decode cX0_mean 62 = .ok (.lconst 0, 1) := dk_9 (dk_at dksX0_mean_2 16 rfl rfl)
theorem dX0_mean_63 : decode cX0_mean 63 = .ok (.lstore_n 3, 1) := dk_66 (dk_at dksX0_mean_2 17 rfl rfl)
theorem dX0_mean_64 : decode cX0_mean 64 = .ok (.iconst 0, 1) := dk_3 (dk_at dksX0_mean_2 18 rfl rfl)
theorem dX0_mean_65 : decode cX0_mean 65 = .ok (.istore 5, 2) := dk_54 5 (dk_at dksX0_mean_2 19 rfl rfl)
theorem dX0_mean_67 : decode cX0_mean 67 = .ok (.iload 5, 2) := dk_21 5 (dk_at dksX0_mean_2 21 rfl rfl)
theorem dX0_mean_69 : decode cX0_mean 69 = .ok (.iload_n 2, 1) := dk_28 (dk_at dksX0_mean_2 23 rfl rfl)
theorem dX0_mean_70 : decode cX0_mean 70 = .ok (.if_icmp .ge 56, 3) := dk_162 0 56 (dk_at dksX0_mean_3 0 rfl rfl)
theorem dX0_mean_73 : decode cX0_mean 73 = .ok (.aload_n 0, 1) := dk_42 (dk_at dksX0_mean_3 3 rfl rfl)
theorem dX0_mean_74 : decode cX0_mean 74 = .ok (.getfield 66, 3) := dk_180 0 66 (dk_at dksX0_mean_3 4 rfl rfl)
theorem dX0_mean_77 : decode cX0_mean 77 = .ok (.aload_n 0, 1) := dk_42 (dk_at dksX0_mean_3 7 rfl rfl)
theorem dX0_mean_78 : decode cX0_mean 78 = .ok (.invokevirtual 162, 3) := dk_182 0 162 (dk_at dksX0_mean_3 8 rfl rfl)
theorem dX0_mean_81 : decode cX0_mean 81 = .ok (.invokevirtual 223, 3) := dk_182 0 223 (dk_at dksX0_mean_3 11 rfl rfl)
theorem dX0_mean_84 : decode cX0_mean 84 = .ok (.aload_n 0, 1) := dk_42 (dk_at dksX0_mean_3 14 rfl rfl)
theorem dX0_mean_85 : decode cX0_mean 85 = .ok (.getfield 55, 3) := dk_180 0 55 (dk_at dksX0_mean_3 15 rfl rfl)
theorem dX0_mean_88 : decode cX0_mean 88 = .ok (.getfield 226, 3) := dk_180 0 226 (dk_at dksX0_mean_3 18 rfl rfl)
theorem dX0_mean_91 : decode cX0_mean 91 = .ok (.new 508, 3) := dk_187 1 252 (dk_at dksX0_mean_3 21 rfl rfl)
theorem dX0_mean_94 : decode cX0_mean 94 = .ok (.dup, 1) := dk_89 (dk_at dksX0_mean_4 0 rfl rfl)
theorem dX0_mean_95 : decode cX0_mean 95 = .ok (.aload_n 0, 1) := dk_42 (dk_at dksX0_mean_4 1 rfl rfl)
theorem dX0_mean_96 : decode cX0_mean 96 = .ok (.getfield 66, 3) := dk_180 0 66 (dk_at dksX0_mean_4 2 rfl rfl)
theorem dX0_mean_99 : decode cX0_mean 99 = .ok (.iload_n 1, 1) := dk_27 (dk_at dksX0_mean_4 5 rfl rfl)
theorem dX0_mean_100 : decode cX0_mean 100 = .ok (.iload 5, 2) := dk_21 5 (dk_at dksX0_mean_4 6 rfl rfl)
theorem dX0_mean_102 : decode cX0_mean 102 = .ok (.iadd, 1) := dk_96 (dk_at dksX0_mean_4 8 rfl rfl)
theorem dX0_mean_103 : decode cX0_mean 103 = .ok (.invokespecial 510, 3) := dk_183 1 254 (dk_at dksX0_mean_4 9 rfl rfl)
theorem dX0_mean_106 : decode cX0_mean 106 = .ok (.invokevirtual 513, 3) := dk_182 2 1 (dk_at dksX0_mean_4 12 rfl rfl)
theorem dX0_mean_109 : decode cX0_mean 109 = .ok (.lload_n 3, 1) := dk_33 (dk_at dksX0_mean_4 15 rfl rfl)
theorem dX0_mean_110 : decode cX0_mean 110 = .ok (.aload_n 0, 1) := dk_42 (dk_at dksX0_mean_4 16 rfl rfl)
theorem dX0_mean_111 : decode cX0_mean 111 = .ok (.getfield 66, 3) := dk_180 0 66 (dk_at dksX0_mean_4 17 rfl rfl)
theorem dX0_mean_114 : decode cX0_mean 114 = .ok (.invokevirtual 269, 3) := dk_182 1 13 (dk_at dksX0_mean_4 20 rfl rfl)
theorem dX0_mean_117 : decode cX0_mean 117 = .ok (.i2l, 1) := dk_133 (dk_at dksX0_mean_4 23 rfl rfl)
theorem dX0_mean_118 : decode cX0_mean 118 = .ok (.ladd, 1) := dk_97 (dk_at dksX0_mean_5 0 rfl rfl)
theorem dX0_mean_119 : decode cX0_mean 119 = .ok (.lstore_n 3, 1) := dk_66 (dk_at dksX0_mean_5 1 rfl rfl)
theorem dX0_mean_120 : decode cX0_mean 120 = .ok (.iinc 5 1, 3) := dk_132 5 1 (dk_at dksX0_mean_5 2 rfl rfl)
theorem dX0_mean_123 : decode cX0_mean 123 = .ok (.goto (-56), 3) := dk_167 255 200 (dk_at dksX0_mean_5 5 rfl rfl)
theorem dX0_mean_126 : decode cX0_mean 126 = .ok (.aload_n 0, 1) := dk_42 (dk_at dksX0_mean_5 8 rfl rfl)
theorem dX0_mean_127 : decode cX0_mean 127 = .ok (.lload_n 3, 1) := dk_33 (dk_at dksX0_mean_5 9 rfl rfl)
theorem dX0_mean_128 : decode cX0_mean 128 = .ok (.iload_n 2, 1) := dk_28 (dk_at dksX0_mean_5 10 rfl rfl)
theorem dX0_mean_129 : decode cX0_mean 129 = .ok (.i2l, 1) := dk_133 (dk_at dksX0_mean_5 11 rfl rfl)
theorem dX0_mean_130 : decode cX0_mean 130 = .ok (.invokevirtual 372, 3) := dk_182 1 116 (dk_at dksX0_mean_5 12 rfl rfl)
theorem dX0_mean_133 : decode cX0_mean 133 = .ok (.pop, 1) := dk_87 (dk_at dksX0_mean_5 15 rfl rfl)
theorem dX0_mean_134 : decode cX0_mean 134 = .ok (.iconst 1, 1) := dk_4 (dk_at dksX0_mean_5 16 rfl rfl)
theorem dX0_mean_135 : decode cX0_mean 135 = .ok (.ireturn, 1) := dk_172 (dk_at dksX0_mean_5 17 rfl rfl)
abbrev cX0_mark : ByteArray := prog_1_method_111_code
def yX0_mark : MethodName := ⟨RX0, "mark", "()I"⟩
def dkwX0_mark_3 : List UInt8 := [42, 89, 180, 2, 29, 4, 96, 181, 2, 29, 42, 180, 2, 29, 172]
abbrev dktX0_mark_3 : List UInt8 := dkwX0_mark_3 ++ []
def dkwX0_mark_2 : List UInt8 := [187, 0, 52, 89, 183, 0, 54, 83, 42, 180, 0, 59, 42, 180, 2, 29, 50, 42, 180, 0, 55, 182, 2, 32]
abbrev dktX0_mark_2 : List UInt8 := dkwX0_mark_2 ++ dktX0_mark_3
def dkwX0_mark_1 : List UInt8 := [2, 172, 42, 180, 0, 59, 42, 180, 2, 29, 50, 199, 0, 19, 42, 180, 0, 59, 42, 180, 2, 29]
abbrev dktX0_mark_1 : List UInt8 := dkwX0_mark_1 ++ dktX0_mark_2
def dkwX0_mark_0 : List UInt8 := [42, 42, 180, 2, 29, 6, 160, 0, 7, 7, 167, 0, 4, 3, 181, 0, 85, 42, 180, 0, 85, 158, 0, 5]
abbrev dktX0_mark_0 : List UInt8 := dkwX0_mark_0 ++ dktX0_mark_1
theorem dksX0_mark_0 : cX0_mark.data.toList.drop 0 = dktX0_mark_0 := by decide +kernel
theorem dksX0_mark_1 : cX0_mark.data.toList.drop 24 = dktX0_mark_1 := dk_seg dksX0_mark_0 24 rfl rfl
theorem dksX0_mark_2 : cX0_mark.data.toList.drop 46 = dktX0_mark_2 := dk_seg dksX0_mark_1 22 rfl rfl
theorem dksX0_mark_3 : cX0_mark.data.toList.drop 70 = dktX0_mark_3 := dk_seg dksX0_mark_2 24 rfl rfl
theorem dX0_mark_0 : decode cX0_mark 0 = .ok (.aload_n 0, 1) := dk_42 (dk_at dksX0_mark_0 0 rfl rfl)
theorem dX0_mark_1 : decode cX0_mark 1 = .ok (.aload_n 0, 1) := dk_42 (dk_at dksX0_mark_0 1 rfl rfl)
theorem dX0_mark_2 : decode cX0_mark 2 = .ok (.getfield 541, 3) := dk_180 2 29 (dk_at dksX0_mark_0 2 rfl rfl)
theorem dX0_mark_5 : decode cX0_mark 5 = .ok (.iconst 3, 1) := dk_6 (dk_at dksX0_mark_0 5 rfl rfl)
theorem dX0_mark_6 : decode cX0_mark 6 = .ok (.if_icmp .ne 7, 3) := dk_160 0 7 (dk_at dksX0_mark_0 6 rfl rfl)
theorem dX0_mark_9 : decode cX0_mark 9 = .ok (.iconst 4, 1) := dk_7 (dk_at dksX0_mark_0 9 rfl rfl)
theorem dX0_mark_10 : decode cX0_mark 10 = .ok (.goto 4, 3) := dk_167 0 4 (dk_at dksX0_mark_0 10 rfl rfl)
theorem dX0_mark_13 : decode cX0_mark 13 = .ok (.iconst 0, 1) := dk_3 (dk_at dksX0_mark_0 13 rfl rfl)
theorem dX0_mark_14 : decode cX0_mark 14 = .ok (.putfield 85, 3) := dk_181 0 85 (dk_at dksX0_mark_0 14 rfl rfl)
theorem dX0_mark_17 : decode cX0_mark 17 = .ok (.aload_n 0, 1) := dk_42 (dk_at dksX0_mark_0 17 rfl rfl)
theorem dX0_mark_18 : decode cX0_mark 18 = .ok (.getfield 85, 3) := dk_180 0 85 (dk_at dksX0_mark_0 18 rfl rfl)
theorem dX0_mark_21 : decode cX0_mark 21 = .ok (.ifCond .le 5, 3) := dk_158 0 5 (dk_at dksX0_mark_0 21 rfl rfl)
theorem dX0_mark_24 : decode cX0_mark 24 = .ok (.iconst (-1), 1) := dk_2 (dk_at dksX0_mark_1 0 rfl rfl)
theorem dX0_mark_25 : decode cX0_mark 25 = .ok (.ireturn, 1) := dk_172 (dk_at dksX0_mark_1 1 rfl rfl)
theorem dX0_mark_26 : decode cX0_mark 26 = .ok (.aload_n 0, 1) := dk_42 (dk_at dksX0_mark_1 2 rfl rfl)
theorem dX0_mark_27 : decode cX0_mark 27 = .ok (.getfield 59, 3) := dk_180 0 59 (dk_at dksX0_mark_1 3 rfl rfl)
theorem dX0_mark_30 : decode cX0_mark 30 = .ok (.aload_n 0, 1) := dk_42 (dk_at dksX0_mark_1 6 rfl rfl)
theorem dX0_mark_31 : decode cX0_mark 31 = .ok (.getfield 541, 3) := dk_180 2 29 (dk_at dksX0_mark_1 7 rfl rfl)
theorem dX0_mark_34 : decode cX0_mark 34 = .ok (.aaload, 1) := dk_50 (dk_at dksX0_mark_1 10 rfl rfl)
theorem dX0_mark_35 : decode cX0_mark 35 = .ok (.ifnonnull 19, 3) := dk_199 0 19 (dk_at dksX0_mark_1 11 rfl rfl)
theorem dX0_mark_38 : decode cX0_mark 38 = .ok (.aload_n 0, 1) := dk_42 (dk_at dksX0_mark_1 14 rfl rfl)
theorem dX0_mark_39 : decode cX0_mark 39 = .ok (.getfield 59, 3) := dk_180 0 59 (dk_at dksX0_mark_1 15 rfl rfl)
theorem dX0_mark_42 : decode cX0_mark 42 = .ok (.aload_n 0, 1) := dk_42 (dk_at dksX0_mark_1 18 rfl rfl)
theorem dX0_mark_43 : decode cX0_mark 43 = .ok (.getfield 541, 3) := dk_180 2 29 (dk_at dksX0_mark_1 19 rfl rfl)
theorem dX0_mark_46 : decode cX0_mark 46 = .ok (.new 52, 3) := dk_187 0 52 (dk_at dksX0_mark_2 0 rfl rfl)
theorem dX0_mark_49 : decode cX0_mark 49 = .ok (.dup, 1) := dk_89 (dk_at dksX0_mark_2 3 rfl rfl)
theorem dX0_mark_50 : decode cX0_mark 50 = .ok (.invokespecial 54, 3) := dk_183 0 54 (dk_at dksX0_mark_2 4 rfl rfl)
theorem dX0_mark_53 : decode cX0_mark 53 = .ok (.aastore, 1) := dk_83 (dk_at dksX0_mark_2 7 rfl rfl)
theorem dX0_mark_54 : decode cX0_mark 54 = .ok (.aload_n 0, 1) := dk_42 (dk_at dksX0_mark_2 8 rfl rfl)
theorem dX0_mark_55 : decode cX0_mark 55 = .ok (.getfield 59, 3) := dk_180 0 59 (dk_at dksX0_mark_2 9 rfl rfl)
theorem dX0_mark_58 : decode cX0_mark 58 = .ok (.aload_n 0, 1) := dk_42 (dk_at dksX0_mark_2 12 rfl rfl)
theorem dX0_mark_59 : decode cX0_mark 59 = .ok (.getfield 541, 3) := dk_180 2 29 (dk_at dksX0_mark_2 13 rfl rfl)
theorem dX0_mark_62 : decode cX0_mark 62 = .ok (.aaload, 1) := dk_50 (dk_at dksX0_mark_2 16 rfl rfl)
theorem dX0_mark_63 : decode cX0_mark 63 = .ok (.aload_n 0, 1) := dk_42 (dk_at dksX0_mark_2 17 rfl rfl)
theorem dX0_mark_64 : decode cX0_mark 64 = .ok (.getfield 55, 3) := dk_180 0 55 (dk_at dksX0_mark_2 18 rfl rfl)
theorem dX0_mark_67 : decode cX0_mark 67 = .ok (.invokevirtual 544, 3) := dk_182 2 32 (dk_at dksX0_mark_2 21 rfl rfl)
theorem dX0_mark_70 : decode cX0_mark 70 = .ok (.aload_n 0, 1) := dk_42 (dk_at dksX0_mark_3 0 rfl rfl)
theorem dX0_mark_71 : decode cX0_mark 71 = .ok (.dup, 1) := dk_89 (dk_at dksX0_mark_3 1 rfl rfl)
theorem dX0_mark_72 : decode cX0_mark 72 = .ok (.getfield 541, 3) := dk_180 2 29 (dk_at dksX0_mark_3 2 rfl rfl)
theorem dX0_mark_75 : decode cX0_mark 75 = .ok (.iconst 1, 1) := dk_4 (dk_at dksX0_mark_3 5 rfl rfl)
theorem dX0_mark_76 : decode cX0_mark 76 = .ok (.iadd, 1) := dk_96 (dk_at dksX0_mark_3 6 rfl rfl)
theorem dX0_mark_77 : decode cX0_mark 77 = .ok (.putfield 541, 3) := dk_181 2 29 (dk_at dksX0_mark_3 7 rfl rfl)
theorem dX0_mark_80 : decode cX0_mark 80 = .ok (.aload_n 0, 1) := dk_42 (dk_at dksX0_mark_3 10 rfl rfl)
theorem dX0_mark_81 : decode cX0_mark 81 = .ok (.getfield 541, 3) := dk_180 2 29 (dk_at dksX0_mark_3 11 rfl rfl)
theorem dX0_mark_84 : decode cX0_mark 84 = .ok (.ireturn, 1) := dk_172 (dk_at dksX0_mark_3 14 rfl rfl)
abbrev cX0_undo : ByteArray := prog_1_method_112_code
def yX0_undo : MethodName := ⟨RX0, "undo", "()I"⟩
def dkwX0_undo_2 : List UInt8 := [50, 182, 2, 32, 42, 180, 2, 29, 172]
abbrev dktX0_undo_2 : List UInt8 := dkwX0_undo_2 ++ []
def dkwX0_undo_1 : List UInt8 := [2, 172, 42, 89, 180, 2, 29, 4, 100, 181, 2, 29, 42, 180, 0, 55, 42, 180, 0, 59, 42, 180, 2, 29]
abbrev dktX0_undo_1 : List UInt8 := dkwX0_undo_1 ++ dktX0_undo_2
def dkwX0_undo_0 : List UInt8 := [42, 42, 180, 2, 29, 154, 0, 8, 16, 6, 167, 0, 4, 3, 181, 0, 85, 42, 180, 0, 85, 158, 0, 5]
abbrev dktX0_undo_0 : List UInt8 := dkwX0_undo_0 ++ dktX0_undo_1
theorem dksX0_undo_0 : cX0_undo.data.toList.drop 0 = dktX0_undo_0 := by decide +kernel
theorem dksX0_undo_1 : cX0_undo.data.toList.drop 24 = dktX0_undo_1 := dk_seg dksX0_undo_0 24 rfl rfl
theorem dksX0_undo_2 : cX0_undo.data.toList.drop 48 = dktX0_undo_2 := dk_seg dksX0_undo_1 24 rfl rfl
theorem dX0_undo_0 : decode cX0_undo 0 = .ok (.aload_n 0, 1) := dk_42 (dk_at dksX0_undo_0 0 rfl rfl)
theorem dX0_undo_1 : decode cX0_undo 1 = .ok (.aload_n 0, 1) := dk_42 (dk_at dksX0_undo_0 1 rfl rfl)
theorem dX0_undo_2 : decode cX0_undo 2 = .ok (.getfield 541, 3) := dk_180 2 29 (dk_at dksX0_undo_0 2 rfl rfl)
theorem dX0_undo_5 : decode cX0_undo 5 = .ok (.ifCond .ne 8, 3) := dk_154 0 8 (dk_at dksX0_undo_0 5 rfl rfl)
theorem dX0_undo_8 : decode cX0_undo 8 = .ok (.bipush 6, 2) := dk_16 6 (dk_at dksX0_undo_0 8 rfl rfl)
theorem dX0_undo_10 : decode cX0_undo 10 = .ok (.goto 4, 3) := dk_167 0 4 (dk_at dksX0_undo_0 10 rfl rfl)
theorem dX0_undo_13 : decode cX0_undo 13 = .ok (.iconst 0, 1) := dk_3 (dk_at dksX0_undo_0 13 rfl rfl)
theorem dX0_undo_14 : decode cX0_undo 14 = .ok (.putfield 85, 3) := dk_181 0 85 (dk_at dksX0_undo_0 14 rfl rfl)
theorem dX0_undo_17 : decode cX0_undo 17 = .ok (.aload_n 0, 1) := dk_42 (dk_at dksX0_undo_0 17 rfl rfl)
theorem dX0_undo_18 : decode cX0_undo 18 = .ok (.getfield 85, 3) := dk_180 0 85 (dk_at dksX0_undo_0 18 rfl rfl)
theorem dX0_undo_21 : decode cX0_undo 21 = .ok (.ifCond .le 5, 3) := dk_158 0 5 (dk_at dksX0_undo_0 21 rfl rfl)
theorem dX0_undo_24 : decode cX0_undo 24 = .ok (.iconst (-1), 1) := dk_2 (dk_at dksX0_undo_1 0 rfl rfl)
theorem dX0_undo_25 : decode cX0_undo 25 = .ok (.ireturn, 1) := dk_172 (dk_at dksX0_undo_1 1 rfl rfl)
theorem dX0_undo_26 : decode cX0_undo 26 = .ok (.aload_n 0, 1) := dk_42 (dk_at dksX0_undo_1 2 rfl rfl)
theorem dX0_undo_27 : decode cX0_undo 27 = .ok (.dup, 1) := dk_89 (dk_at dksX0_undo_1 3 rfl rfl)
theorem dX0_undo_28 : decode cX0_undo 28 = .ok (.getfield 541, 3) := dk_180 2 29 (dk_at dksX0_undo_1 4 rfl rfl)
theorem dX0_undo_31 : decode cX0_undo 31 = .ok (.iconst 1, 1) := dk_4 (dk_at dksX0_undo_1 7 rfl rfl)
theorem dX0_undo_32 : decode cX0_undo 32 = .ok (.isub, 1) := dk_100 (dk_at dksX0_undo_1 8 rfl rfl)
theorem dX0_undo_33 : decode cX0_undo 33 = .ok (.putfield 541, 3) := dk_181 2 29 (dk_at dksX0_undo_1 9 rfl rfl)
theorem dX0_undo_36 : decode cX0_undo 36 = .ok (.aload_n 0, 1) := dk_42 (dk_at dksX0_undo_1 12 rfl rfl)
theorem dX0_undo_37 : decode cX0_undo 37 = .ok (.getfield 55, 3) := dk_180 0 55 (dk_at dksX0_undo_1 13 rfl rfl)
theorem dX0_undo_40 : decode cX0_undo 40 = .ok (.aload_n 0, 1) := dk_42 (dk_at dksX0_undo_1 16 rfl rfl)
theorem dX0_undo_41 : decode cX0_undo 41 = .ok (.getfield 59, 3) := dk_180 0 59 (dk_at dksX0_undo_1 17 rfl rfl)
theorem dX0_undo_44 : decode cX0_undo 44 = .ok (.aload_n 0, 1) := dk_42 (dk_at dksX0_undo_1 20 rfl rfl)
theorem dX0_undo_45 : decode cX0_undo 45 = .ok (.getfield 541, 3) := dk_180 2 29 (dk_at dksX0_undo_1 21 rfl rfl)
theorem dX0_undo_48 : decode cX0_undo 48 = .ok (.aaload, 1) := dk_50 (dk_at dksX0_undo_2 0 rfl rfl)
theorem dX0_undo_49 : decode cX0_undo 49 = .ok (.invokevirtual 544, 3) := dk_182 2 32 (dk_at dksX0_undo_2 1 rfl rfl)
theorem dX0_undo_52 : decode cX0_undo 52 = .ok (.aload_n 0, 1) := dk_42 (dk_at dksX0_undo_2 4 rfl rfl)
theorem dX0_undo_53 : decode cX0_undo 53 = .ok (.getfield 541, 3) := dk_180 2 29 (dk_at dksX0_undo_2 5 rfl rfl)
theorem dX0_undo_56 : decode cX0_undo 56 = .ok (.ireturn, 1) := dk_172 (dk_at dksX0_undo_2 8 rfl rfl)
theorem q176 : (Jvm.Cond.initialized "CargoFlag") ∈ lw_all := lw_g (lw_at lw_m1 1 rfl) rfl
theorem q210 : (Jvm.Cond.instantiable "CargoFlag" (25 : Nat)) ∈ lw_all := lw_g (lw_at lw_m1 35 rfl) rfl
theorem q212 : (Jvm.Cond.instanceMethod ({ cls := "CargoFlag", name := "<init>", desc := "()V" } : Jvm.MethodName)) ∈ lw_all := lw_g (lw_at lw_m1 37 rfl) rfl
theorem q213 : (Jvm.Cond.code ({ cls := "CargoFlag", name := "<init>", desc := "()V" } : Jvm.MethodName) prog_1_method_7_code (1 : Nat) (Option.none : Option Jvm.ClassFile.FieldType)) ∈ lw_all := lw_g (lw_at lw_m1 38 rfl) rfl
theorem q214 : (Jvm.Cond.methodLink "CargoFlag" (11 : Nat) ({ cls := "java/lang/Object", name := "<init>", desc := "()V" } : Jvm.MethodName)) ∈ lw_all := lw_g (lw_at lw_m1 39 rfl) rfl
theorem q217 : (Jvm.Cond.classLink "CargoFlag" (17 : Nat) "CargoFlag$Tray") ∈ lw_all := lw_g (lw_at lw_m1 42 rfl) rfl
theorem q220 : (Jvm.Cond.methodLinkNest "CargoFlag" (19 : Nat) ({ cls := "CargoFlag$Tray", name := "<init>", desc := "()V" } : Jvm.MethodName) "CargoFlag") ∈ lw_tbl := lw_at lw_m1 45 rfl
theorem q224 : (Jvm.Cond.fieldLinkNest "CargoFlag" (114 : Nat) "CargoFlag$Tray" "row" "Ljava/lang/Object;" "CargoFlag") ∈ lw_tbl := lw_at lw_m1 49 rfl
theorem q228 : (Jvm.Cond.classLink "CargoFlag" (34 : Nat) "CargoFlag$Bad") ∈ lw_all := lw_g (lw_at lw_m1 53 rfl) rfl
theorem q268 : (Jvm.Cond.methodLink "CargoFlag" (36 : Nat) ({ cls := "CargoFlag$Bad", name := "<init>", desc := "()V" } : Jvm.MethodName)) ∈ lw_all := lw_g (lw_at lw_m1 93 rfl) rfl
theorem q278 : (Jvm.Cond.fieldLinkNest "CargoFlag" (205 : Nat) "CargoFlag$Bad" "kind" "I" "CargoFlag") ∈ lw_tbl := lw_at lw_m1 103 rfl
theorem q280 : (Jvm.Cond.fieldLinkNest "CargoFlag" (208 : Nat) "CargoFlag$Bad" "place" "I" "CargoFlag") ∈ lw_tbl := lw_at lw_m1 105 rfl
theorem q299 : (Jvm.Cond.classLink "CargoFlag" (41 : Nat) "CargoFlag$Refused") ∈ lw_all := lw_g (lw_at lw_m1 124 rfl) rfl
theorem q308 : (Jvm.Cond.methodLink "CargoFlag" (43 : Nat) ({ cls := "CargoFlag$Refused", name := "<init>", desc := "()V" } : Jvm.MethodName)) ∈ lw_all := lw_g (lw_at lw_m1 133 rfl) rfl
theorem q313 : (Jvm.Cond.fieldLinkNest "CargoFlag" (95 : Nat) "CargoFlag$Refused" "why" "I" "CargoFlag") ∈ lw_tbl := lw_at lw_m1 138 rfl
theorem q318 : (Jvm.Cond.classLink "CargoFlag" (52 : Nat) "CargoFlag$House") ∈ lw_all := lw_g (lw_at lw_m1 143 rfl) rfl
theorem q320 : (Jvm.Cond.methodLinkNest "CargoFlag" (54 : Nat) ({ cls := "CargoFlag$House", name := "<init>", desc := "()V" } : Jvm.MethodName) "CargoFlag") ∈ lw_tbl := lw_at lw_m1 145 rfl
theorem q340 : (Jvm.Cond.fieldLinkNest "CargoFlag" (166 : Nat) "CargoFlag$World" "nations" "I" "CargoFlag") ∈ lw_tbl := lw_at lw_m1 165 rfl
theorem q343 : (Jvm.Cond.fieldLinkNest "CargoFlag" (173 : Nat) "CargoFlag$World" "goods" "I" "CargoFlag") ∈ lw_tbl := lw_at lw_m1 168 rfl
theorem q347 : (Jvm.Cond.fieldLinkNest "CargoFlag" (176 : Nat) "CargoFlag$World" "ports" "I" "CargoFlag") ∈ lw_tbl := lw_at lw_m1 172 rfl
theorem q350 : (Jvm.Cond.fieldLinkNest "CargoFlag" (179 : Nat) "CargoFlag$World" "ships" "I" "CargoFlag") ∈ lw_tbl := lw_at lw_m1 175 rfl
theorem q353 : (Jvm.Cond.fieldLinkNest "CargoFlag" (256 : Nat) "CargoFlag$World" "rule" "I" "CargoFlag") ∈ lw_tbl := lw_at lw_m1 178 rfl
theorem q356 : (Jvm.Cond.fieldLinkNest "CargoFlag" (259 : Nat) "CargoFlag$World" "day" "I" "CargoFlag") ∈ lw_tbl := lw_at lw_m1 181 rfl
theorem q359 : (Jvm.Cond.fieldLinkNest "CargoFlag" (277 : Nat) "CargoFlag$World" "nation" "[LCargoFlag$Nation;" "CargoFlag") ∈ lw_tbl := lw_at lw_m1 184 rfl
theorem q362 : (Jvm.Cond.fieldLinkNest "CargoFlag" (295 : Nat) "CargoFlag$World" "good" "[LCargoFlag$Good;" "CargoFlag") ∈ lw_tbl := lw_at lw_m1 187 rfl
theorem q365 : (Jvm.Cond.fieldLinkNest "CargoFlag" (309 : Nat) "CargoFlag$World" "port" "[LCargoFlag$Port;" "CargoFlag") ∈ lw_tbl := lw_at lw_m1 190 rfl
theorem q368 : (Jvm.Cond.fieldLinkNest "CargoFlag" (338 : Nat) "CargoFlag$World" "ship" "[LCargoFlag$Ship;" "CargoFlag") ∈ lw_tbl := lw_at lw_m1 193 rfl
theorem q371 : (Jvm.Cond.fieldLinkNest "CargoFlag" (292 : Nat) "CargoFlag$World" "wars" "[I" "CargoFlag") ∈ lw_tbl := lw_at lw_m1 196 rfl
theorem q374 : (Jvm.Cond.fieldLinkNest "CargoFlag" (319 : Nat) "CargoFlag$World" "price" "[I" "CargoFlag") ∈ lw_tbl := lw_at lw_m1 199 rfl
theorem q377 : (Jvm.Cond.fieldLinkNest "CargoFlag" (325 : Nat) "CargoFlag$World" "way" "[I" "CargoFlag") ∈ lw_tbl := lw_at lw_m1 202 rfl
theorem q381 : (Jvm.Cond.fieldLinkNest "CargoFlag" (330 : Nat) "CargoFlag$World" "at" "[I" "CargoFlag") ∈ lw_tbl := lw_at lw_m1 206 rfl
theorem q383 : (Jvm.Cond.fieldLinkNest "CargoFlag" (332 : Nat) "CargoFlag$World" "to" "[I" "CargoFlag") ∈ lw_tbl := lw_at lw_m1 208 rfl
theorem q385 : (Jvm.Cond.fieldLinkNest "CargoFlag" (335 : Nat) "CargoFlag$World" "left" "[I" "CargoFlag") ∈ lw_tbl := lw_at lw_m1 210 rfl
theorem q389 : (Jvm.Cond.fieldLinkNest "CargoFlag" (347 : Nat) "CargoFlag$World" "coins" "[I" "CargoFlag") ∈ lw_tbl := lw_at lw_m1 214 rfl
theorem q391 : (Jvm.Cond.fieldLinkNest "CargoFlag" (350 : Nat) "CargoFlag$World" "unpaid" "[I" "CargoFlag") ∈ lw_tbl := lw_at lw_m1 216 rfl
theorem q393 : (Jvm.Cond.fieldLinkNest "CargoFlag" (353 : Nat) "CargoFlag$World" "duties" "[I" "CargoFlag") ∈ lw_tbl := lw_at lw_m1 218 rfl
theorem q396 : (Jvm.Cond.fieldLinkNest "CargoFlag" (356 : Nat) "CargoFlag$World" "tons" "[I" "CargoFlag") ∈ lw_tbl := lw_at lw_m1 221 rfl
theorem q443 : (Jvm.Cond.fieldLinkNest "CargoFlag" (159 : Nat) "CargoFlag$House" "world" "LCargoFlag$World;" "CargoFlag") ∈ lw_tbl := lw_at lw_m2 28 rfl
theorem q445 : (Jvm.Cond.fieldLinkNest "CargoFlag" (226 : Nat) "CargoFlag$House" "voyages" "LCargoFlag$Loop;" "CargoFlag") ∈ lw_tbl := lw_at lw_m2 30 rfl
theorem q452 : (Jvm.Cond.classLink "CargoFlag" (63 : Nat) "CargoFlag$World") ∈ lw_all := lw_g (lw_at lw_m2 37 rfl) rfl
theorem q453 : (Jvm.Cond.methodLinkNest "CargoFlag" (65 : Nat) ({ cls := "CargoFlag$World", name := "<init>", desc := "()V" } : Jvm.MethodName) "CargoFlag") ∈ lw_tbl := lw_at lw_m2 38 rfl
theorem q454 : (Jvm.Cond.fieldLink "CargoFlag" (20 : Nat) "CargoFlag" "trays" "[LCargoFlag$Tray;") ∈ lw_all := lw_g (lw_at lw_m2 39 rfl) rfl
theorem q456 : (Jvm.Cond.fieldLink "CargoFlag" (24 : Nat) "CargoFlag" "tape" "[B") ∈ lw_all := lw_g (lw_at lw_m2 41 rfl) rfl
theorem q457 : (Jvm.Cond.fieldLink "CargoFlag" (198 : Nat) "CargoFlag" "taped" "I") ∈ lw_all := lw_g (lw_at lw_m2 42 rfl) rfl
theorem q458 : (Jvm.Cond.fieldLink "CargoFlag" (27 : Nat) "CargoFlag" "faultKind" "I") ∈ lw_all := lw_g (lw_at lw_m2 43 rfl) rfl
theorem q459 : (Jvm.Cond.fieldLink "CargoFlag" (31 : Nat) "CargoFlag" "faultAt" "I") ∈ lw_all := lw_g (lw_at lw_m2 44 rfl) rfl
theorem q461 : (Jvm.Cond.fieldLink "CargoFlag" (37 : Nat) "CargoFlag" "bad" "LCargoFlag$Bad;") ∈ lw_all := lw_g (lw_at lw_m2 46 rfl) rfl
theorem q462 : (Jvm.Cond.fieldLink "CargoFlag" (44 : Nat) "CargoFlag" "refused" "LCargoFlag$Refused;") ∈ lw_all := lw_g (lw_at lw_m2 47 rfl) rfl
theorem q463 : (Jvm.Cond.fieldLink "CargoFlag" (85 : Nat) "CargoFlag" "status" "I") ∈ lw_all := lw_g (lw_at lw_m2 48 rfl) rfl
theorem q464 : (Jvm.Cond.fieldLink "CargoFlag" (88 : Nat) "CargoFlag" "above" "J") ∈ lw_all := lw_g (lw_at lw_m2 49 rfl) rfl
theorem q465 : (Jvm.Cond.fieldLink "CargoFlag" (48 : Nat) "CargoFlag" "under" "J") ∈ lw_all := lw_g (lw_at lw_m2 50 rfl) rfl
theorem q466 : (Jvm.Cond.fieldLink "CargoFlag" (55 : Nat) "CargoFlag" "now" "LCargoFlag$House;") ∈ lw_all := lw_g (lw_at lw_m2 51 rfl) rfl
theorem q467 : (Jvm.Cond.fieldLink "CargoFlag" (59 : Nat) "CargoFlag" "marks" "[LCargoFlag$House;") ∈ lw_all := lw_g (lw_at lw_m2 52 rfl) rfl
theorem q468 : (Jvm.Cond.fieldLink "CargoFlag" (541 : Nat) "CargoFlag" "markMany" "I") ∈ lw_all := lw_g (lw_at lw_m2 53 rfl) rfl
theorem q469 : (Jvm.Cond.fieldLink "CargoFlag" (66 : Nat) "CargoFlag" "aside" "LCargoFlag$World;") ∈ lw_all := lw_g (lw_at lw_m2 54 rfl) rfl
theorem q470 : (Jvm.Cond.fieldLink "CargoFlag" (428 : Nat) "CargoFlag" "turningGood" "I") ∈ lw_all := lw_g (lw_at lw_m2 55 rfl) rfl
theorem q471 : (Jvm.Cond.fieldLink "CargoFlag" (434 : Nat) "CargoFlag" "passingGood" "I") ∈ lw_all := lw_g (lw_at lw_m2 56 rfl) rfl
theorem q472 : (Jvm.Cond.fieldLink "CargoFlag" (440 : Nat) "CargoFlag" "peacefulCost" "I") ∈ lw_all := lw_g (lw_at lw_m2 57 rfl) rfl
theorem q473 : (Jvm.Cond.fieldLink "CargoFlag" (70 : Nat) "CargoFlag" "legs" "[I") ∈ lw_all := lw_g (lw_at lw_m2 58 rfl) rfl
theorem q474 : (Jvm.Cond.fieldLink "CargoFlag" (73 : Nat) "CargoFlag" "firstLeg" "[I") ∈ lw_all := lw_g (lw_at lw_m2 59 rfl) rfl
theorem q475 : (Jvm.Cond.fieldLink "CargoFlag" (76 : Nat) "CargoFlag" "bestLeg" "[I") ∈ lw_all := lw_g (lw_at lw_m2 60 rfl) rfl
theorem q476 : (Jvm.Cond.fieldLink "CargoFlag" (452 : Nat) "CargoFlag" "bestCoins" "I") ∈ lw_all := lw_g (lw_at lw_m2 61 rfl) rfl
theorem q477 : (Jvm.Cond.fieldLink "CargoFlag" (79 : Nat) "CargoFlag" "far" "[I") ∈ lw_all := lw_g (lw_at lw_m2 62 rfl) rfl
theorem q478 : (Jvm.Cond.fieldLink "CargoFlag" (494 : Nat) "CargoFlag" "sureGoods" "I") ∈ lw_all := lw_g (lw_at lw_m2 63 rfl) rfl
theorem q479 : (Jvm.Cond.fieldLink "CargoFlag" (82 : Nat) "CargoFlag" "last" "[I") ∈ lw_all := lw_g (lw_at lw_m2 64 rfl) rfl
theorem q480 : (Jvm.Cond.fieldLink "CargoFlag" (533 : Nat) "CargoFlag" "hasLived" "Z") ∈ lw_all := lw_g (lw_at lw_m2 65 rfl) rfl
theorem q481 : (Jvm.Cond.laysFinal "CargoFlag" "CargoFlag" "trays" "[LCargoFlag$Tray;") ∈ lw_all := lw_g (lw_at lw_m2 66 rfl) rfl
theorem q482 : (Jvm.Cond.soleField "CargoFlag" "trays") ∈ lw_all := lw_g (lw_at lw_m2 67 rfl) rfl
theorem q483 : (Jvm.Cond.laysFinal "CargoFlag" "CargoFlag" "tape" "[B") ∈ lw_all := lw_g (lw_at lw_m2 68 rfl) rfl
theorem q484 : (Jvm.Cond.soleField "CargoFlag" "tape") ∈ lw_all := lw_g (lw_at lw_m2 69 rfl) rfl
theorem q485 : (Jvm.Cond.lays "CargoFlag" "CargoFlag" "taped" "I") ∈ lw_all := lw_g (lw_at lw_m2 70 rfl) rfl
theorem q486 : (Jvm.Cond.soleField "CargoFlag" "taped") ∈ lw_all := lw_g (lw_at lw_m2 71 rfl) rfl
theorem q487 : (Jvm.Cond.lays "CargoFlag" "CargoFlag" "faultKind" "I") ∈ lw_all := lw_g (lw_at lw_m2 72 rfl) rfl
theorem q488 : (Jvm.Cond.soleField "CargoFlag" "faultKind") ∈ lw_all := lw_g (lw_at lw_m2 73 rfl) rfl
theorem q489 : (Jvm.Cond.lays "CargoFlag" "CargoFlag" "faultAt" "I") ∈ lw_all := lw_g (lw_at lw_m2 74 rfl) rfl
theorem q490 : (Jvm.Cond.soleField "CargoFlag" "faultAt") ∈ lw_all := lw_g (lw_at lw_m2 75 rfl) rfl
theorem q491 : (Jvm.Cond.laysFinal "CargoFlag" "CargoFlag" "bad" "LCargoFlag$Bad;") ∈ lw_all := lw_g (lw_at lw_m2 76 rfl) rfl
theorem q492 : (Jvm.Cond.soleField "CargoFlag" "bad") ∈ lw_all := lw_g (lw_at lw_m2 77 rfl) rfl
theorem q493 : (Jvm.Cond.laysFinal "CargoFlag" "CargoFlag" "refused" "LCargoFlag$Refused;") ∈ lw_all := lw_g (lw_at lw_m2 78 rfl) rfl
theorem q494 : (Jvm.Cond.soleField "CargoFlag" "refused") ∈ lw_all := lw_g (lw_at lw_m2 79 rfl) rfl
theorem q495 : (Jvm.Cond.lays "CargoFlag" "CargoFlag" "status" "I") ∈ lw_all := lw_g (lw_at lw_m2 80 rfl) rfl
theorem q496 : (Jvm.Cond.soleField "CargoFlag" "status") ∈ lw_all := lw_g (lw_at lw_m2 81 rfl) rfl
theorem q497 : (Jvm.Cond.lays "CargoFlag" "CargoFlag" "above" "J") ∈ lw_all := lw_g (lw_at lw_m2 82 rfl) rfl
theorem q498 : (Jvm.Cond.soleField "CargoFlag" "above") ∈ lw_all := lw_g (lw_at lw_m2 83 rfl) rfl
theorem q499 : (Jvm.Cond.lays "CargoFlag" "CargoFlag" "under" "J") ∈ lw_all := lw_g (lw_at lw_m2 84 rfl) rfl
theorem q500 : (Jvm.Cond.soleField "CargoFlag" "under") ∈ lw_all := lw_g (lw_at lw_m2 85 rfl) rfl
theorem q501 : (Jvm.Cond.laysFinal "CargoFlag" "CargoFlag" "now" "LCargoFlag$House;") ∈ lw_all := lw_g (lw_at lw_m2 86 rfl) rfl
theorem q502 : (Jvm.Cond.soleField "CargoFlag" "now") ∈ lw_all := lw_g (lw_at lw_m2 87 rfl) rfl
theorem q503 : (Jvm.Cond.laysFinal "CargoFlag" "CargoFlag" "marks" "[LCargoFlag$House;") ∈ lw_all := lw_g (lw_at lw_m2 88 rfl) rfl
theorem q504 : (Jvm.Cond.soleField "CargoFlag" "marks") ∈ lw_all := lw_g (lw_at lw_m2 89 rfl) rfl
theorem q505 : (Jvm.Cond.lays "CargoFlag" "CargoFlag" "markMany" "I") ∈ lw_all := lw_g (lw_at lw_m2 90 rfl) rfl
theorem q506 : (Jvm.Cond.soleField "CargoFlag" "markMany") ∈ lw_all := lw_g (lw_at lw_m2 91 rfl) rfl
theorem q507 : (Jvm.Cond.laysFinal "CargoFlag" "CargoFlag" "aside" "LCargoFlag$World;") ∈ lw_all := lw_g (lw_at lw_m2 92 rfl) rfl
theorem q508 : (Jvm.Cond.soleField "CargoFlag" "aside") ∈ lw_all := lw_g (lw_at lw_m2 93 rfl) rfl
theorem q509 : (Jvm.Cond.lays "CargoFlag" "CargoFlag" "turningGood" "I") ∈ lw_all := lw_g (lw_at lw_m2 94 rfl) rfl
theorem q510 : (Jvm.Cond.soleField "CargoFlag" "turningGood") ∈ lw_all := lw_g (lw_at lw_m2 95 rfl) rfl
theorem q511 : (Jvm.Cond.lays "CargoFlag" "CargoFlag" "passingGood" "I") ∈ lw_all := lw_g (lw_at lw_m2 96 rfl) rfl
theorem q512 : (Jvm.Cond.soleField "CargoFlag" "passingGood") ∈ lw_all := lw_g (lw_at lw_m2 97 rfl) rfl
theorem q513 : (Jvm.Cond.lays "CargoFlag" "CargoFlag" "peacefulCost" "I") ∈ lw_all := lw_g (lw_at lw_m2 98 rfl) rfl
theorem q514 : (Jvm.Cond.soleField "CargoFlag" "peacefulCost") ∈ lw_all := lw_g (lw_at lw_m2 99 rfl) rfl
theorem q515 : (Jvm.Cond.laysFinal "CargoFlag" "CargoFlag" "legs" "[I") ∈ lw_all := lw_g (lw_at lw_m2 100 rfl) rfl
theorem q516 : (Jvm.Cond.soleField "CargoFlag" "legs") ∈ lw_all := lw_g (lw_at lw_m2 101 rfl) rfl
theorem q517 : (Jvm.Cond.laysFinal "CargoFlag" "CargoFlag" "firstLeg" "[I") ∈ lw_all := lw_g (lw_at lw_m2 102 rfl) rfl
theorem q518 : (Jvm.Cond.soleField "CargoFlag" "firstLeg") ∈ lw_all := lw_g (lw_at lw_m2 103 rfl) rfl
theorem q519 : (Jvm.Cond.laysFinal "CargoFlag" "CargoFlag" "bestLeg" "[I") ∈ lw_all := lw_g (lw_at lw_m2 104 rfl) rfl
theorem q520 : (Jvm.Cond.soleField "CargoFlag" "bestLeg") ∈ lw_all := lw_g (lw_at lw_m2 105 rfl) rfl
theorem q521 : (Jvm.Cond.lays "CargoFlag" "CargoFlag" "bestCoins" "I") ∈ lw_all := lw_g (lw_at lw_m2 106 rfl) rfl
theorem q522 : (Jvm.Cond.soleField "CargoFlag" "bestCoins") ∈ lw_all := lw_g (lw_at lw_m2 107 rfl) rfl
theorem q523 : (Jvm.Cond.laysFinal "CargoFlag" "CargoFlag" "far" "[I") ∈ lw_all := lw_g (lw_at lw_m2 108 rfl) rfl
theorem q524 : (Jvm.Cond.soleField "CargoFlag" "far") ∈ lw_all := lw_g (lw_at lw_m2 109 rfl) rfl
theorem q525 : (Jvm.Cond.lays "CargoFlag" "CargoFlag" "sureGoods" "I") ∈ lw_all := lw_g (lw_at lw_m2 110 rfl) rfl
theorem q526 : (Jvm.Cond.soleField "CargoFlag" "sureGoods") ∈ lw_all := lw_g (lw_at lw_m2 111 rfl) rfl
theorem q527 : (Jvm.Cond.laysFinal "CargoFlag" "CargoFlag" "last" "[I") ∈ lw_all := lw_g (lw_at lw_m2 112 rfl) rfl
theorem q528 : (Jvm.Cond.soleField "CargoFlag" "last") ∈ lw_all := lw_g (lw_at lw_m2 113 rfl) rfl
theorem q529 : (Jvm.Cond.lays "CargoFlag" "CargoFlag" "hasLived" "Z") ∈ lw_all := lw_g (lw_at lw_m2 114 rfl) rfl
theorem q530 : (Jvm.Cond.soleField "CargoFlag" "hasLived") ∈ lw_all := lw_g (lw_at lw_m2 115 rfl) rfl
theorem q531 : (Jvm.Cond.superclass "CargoFlag" "java/lang/Object") ∈ lw_all := lw_g (lw_at lw_m2 116 rfl) rfl
theorem q533 : (Jvm.Cond.instanceMethod ({ cls := "CargoFlag", name := "status", desc := "()I" } : Jvm.MethodName)) ∈ lw_all := lw_g (lw_at lw_m2 118 rfl) rfl
theorem q534 : (Jvm.Cond.selects "CargoFlag" ({ cls := "CargoFlag", name := "status", desc := "()I" } : Jvm.MethodName) ({ cls := "CargoFlag", name := "status", desc := "()I" } : Jvm.MethodName)) ∈ lw_all := lw_g (lw_at lw_m2 119 rfl) rfl
theorem q535 : (Jvm.Cond.code ({ cls := "CargoFlag", name := "status", desc := "()I" } : Jvm.MethodName) prog_1_method_8_code (1 : Nat) (Option.some Jvm.ClassFile.FieldType.int)) ∈ lw_all := lw_g (lw_at lw_m2 120 rfl) rfl
theorem q537 : (Jvm.Cond.instanceMethod ({ cls := "CargoFlag", name := "top", desc := "()J" } : Jvm.MethodName)) ∈ lw_all := lw_g (lw_at lw_m2 122 rfl) rfl
theorem q538 : (Jvm.Cond.selects "CargoFlag" ({ cls := "CargoFlag", name := "top", desc := "()J" } : Jvm.MethodName) ({ cls := "CargoFlag", name := "top", desc := "()J" } : Jvm.MethodName)) ∈ lw_all := lw_g (lw_at lw_m2 123 rfl) rfl
theorem q539 : (Jvm.Cond.code ({ cls := "CargoFlag", name := "top", desc := "()J" } : Jvm.MethodName) prog_1_method_9_code (1 : Nat) (Option.some Jvm.ClassFile.FieldType.long)) ∈ lw_all := lw_g (lw_at lw_m2 124 rfl) rfl
theorem q541 : (Jvm.Cond.instanceMethod ({ cls := "CargoFlag", name := "bottom", desc := "()J" } : Jvm.MethodName)) ∈ lw_all := lw_g (lw_at lw_m2 126 rfl) rfl
theorem q542 : (Jvm.Cond.selects "CargoFlag" ({ cls := "CargoFlag", name := "bottom", desc := "()J" } : Jvm.MethodName) ({ cls := "CargoFlag", name := "bottom", desc := "()J" } : Jvm.MethodName)) ∈ lw_all := lw_g (lw_at lw_m2 127 rfl) rfl
theorem q543 : (Jvm.Cond.code ({ cls := "CargoFlag", name := "bottom", desc := "()J" } : Jvm.MethodName) prog_1_method_10_code (1 : Nat) (Option.some Jvm.ClassFile.FieldType.long)) ∈ lw_all := lw_g (lw_at lw_m2 128 rfl) rfl
theorem q545 : (Jvm.Cond.instanceMethod ({ cls := "CargoFlag", name := "tray", desc := "(III)Z" } : Jvm.MethodName)) ∈ lw_all := lw_g (lw_at lw_m2 130 rfl) rfl
theorem q546 : (Jvm.Cond.selects "CargoFlag" ({ cls := "CargoFlag", name := "tray", desc := "(III)Z" } : Jvm.MethodName) ({ cls := "CargoFlag", name := "tray", desc := "(III)Z" } : Jvm.MethodName)) ∈ lw_all := lw_g (lw_at lw_m2 131 rfl) rfl
theorem q547 : (Jvm.Cond.codeWith ({ cls := "CargoFlag", name := "tray", desc := "(III)Z" } : Jvm.MethodName) prog_1_method_16_code (5 : Nat) (Option.some Jvm.ClassFile.FieldType.boolean) [((5 : Nat), (54 : Nat), (55 : Nat), (121 : Nat)), ((5 : Nat), (54 : Nat), (64 : Nat), (41 : Nat))]) ∈ lw_all := lw_g (lw_at lw_m2 132 rfl) rfl
theorem q548 : (Jvm.Cond.classLink "CargoFlag" (121 : Nat) "java/lang/NegativeArraySizeException") ∈ lw_all := lw_g (lw_at lw_m2 133 rfl) rfl
theorem q577 : (Jvm.Cond.methodLink "CargoFlag" (110 : Nat) ({ cls := "CargoFlag", name := "want", desc := "(ZI)V" } : Jvm.MethodName)) ∈ lw_all := lw_g (lw_at lw_m2 162 rfl) rfl
theorem q578 : (Jvm.Cond.privateMethod ({ cls := "CargoFlag", name := "want", desc := "(ZI)V" } : Jvm.MethodName)) ∈ lw_tbl := lw_at lw_m2 163 rfl
theorem q579 : (Jvm.Cond.instanceMethod ({ cls := "CargoFlag", name := "want", desc := "(ZI)V" } : Jvm.MethodName)) ∈ lw_all := lw_g (lw_at lw_m2 164 rfl) rfl
theorem q580 : (Jvm.Cond.code ({ cls := "CargoFlag", name := "want", desc := "(ZI)V" } : Jvm.MethodName) prog_1_method_11_code (3 : Nat) (Option.none : Option Jvm.ClassFile.FieldType)) ∈ lw_all := lw_g (lw_at lw_m2 165 rfl) rfl
theorem q581 : (Jvm.Cond.methodLink "CargoFlag" (91 : Nat) ({ cls := "CargoFlag$Refused", name := "by", desc := "(I)LCargoFlag$Refused;" } : Jvm.MethodName)) ∈ lw_all := lw_g (lw_at lw_m2 166 rfl) rfl
theorem q585 : (Jvm.Cond.methodLink "CargoFlag" (118 : Nat) ({ cls := "CargoFlag", name := "row", desc := "(II)Ljava/lang/Object;" } : Jvm.MethodName)) ∈ lw_all := lw_g (lw_at lw_m2 170 rfl) rfl
theorem q586 : (Jvm.Cond.static ({ cls := "CargoFlag", name := "row", desc := "(II)Ljava/lang/Object;" } : Jvm.MethodName)) ∈ lw_all := lw_g (lw_at lw_m2 171 rfl) rfl
theorem q587 : (Jvm.Cond.code ({ cls := "CargoFlag", name := "row", desc := "(II)Ljava/lang/Object;" } : Jvm.MethodName) prog_1_method_1_code (2 : Nat) (Option.some (Jvm.ClassFile.FieldType.object "java/lang/Object"))) ∈ lw_all := lw_g (lw_at lw_m2 172 rfl) rfl
theorem q588 : (Jvm.Cond.methodLink "CargoFlag" (123 : Nat) ({ cls := "CargoFlag", name := "no", desc := "(LCargoFlag$Refused;)Z" } : Jvm.MethodName)) ∈ lw_all := lw_g (lw_at lw_m2 173 rfl) rfl
theorem q589 : (Jvm.Cond.privateMethod ({ cls := "CargoFlag", name := "no", desc := "(LCargoFlag$Refused;)Z" } : Jvm.MethodName)) ∈ lw_tbl := lw_at lw_m2 174 rfl
theorem q590 : (Jvm.Cond.instanceMethod ({ cls := "CargoFlag", name := "no", desc := "(LCargoFlag$Refused;)Z" } : Jvm.MethodName)) ∈ lw_all := lw_g (lw_at lw_m2 175 rfl) rfl
theorem q591 : (Jvm.Cond.code ({ cls := "CargoFlag", name := "no", desc := "(LCargoFlag$Refused;)Z" } : Jvm.MethodName) prog_1_method_13_code (2 : Nat) (Option.some Jvm.ClassFile.FieldType.boolean)) ∈ lw_all := lw_g (lw_at lw_m2 176 rfl) rfl
theorem q595 : (Jvm.Cond.instanceMethod ({ cls := "CargoFlag", name := "write", desc := "(IIJ)Z" } : Jvm.MethodName)) ∈ lw_all := lw_g (lw_at lw_m2 180 rfl) rfl
theorem q596 : (Jvm.Cond.selects "CargoFlag" ({ cls := "CargoFlag", name := "write", desc := "(IIJ)Z" } : Jvm.MethodName) ({ cls := "CargoFlag", name := "write", desc := "(IIJ)Z" } : Jvm.MethodName)) ∈ lw_all := lw_g (lw_at lw_m2 181 rfl) rfl
theorem q597 : (Jvm.Cond.codeWith ({ cls := "CargoFlag", name := "write", desc := "(IIJ)Z" } : Jvm.MethodName) prog_1_method_17_code (6 : Nat) (Option.some Jvm.ClassFile.FieldType.boolean) [((5 : Nat), (16 : Nat), (17 : Nat), (135 : Nat)), ((5 : Nat), (16 : Nat), (26 : Nat), (41 : Nat))]) ∈ lw_all := lw_g (lw_at lw_m2 182 rfl) rfl
theorem q598 : (Jvm.Cond.classLink "CargoFlag" (135 : Nat) "java/lang/ArrayIndexOutOfBoundsException") ∈ lw_all := lw_g (lw_at lw_m2 183 rfl) rfl
theorem q617 : (Jvm.Cond.methodLink "CargoFlag" (127 : Nat) ({ cls := "CargoFlag", name := "on", desc := "(I)Ljava/lang/Object;" } : Jvm.MethodName)) ∈ lw_all := lw_g (lw_at lw_m2 202 rfl) rfl
theorem q618 : (Jvm.Cond.privateMethod ({ cls := "CargoFlag", name := "on", desc := "(I)Ljava/lang/Object;" } : Jvm.MethodName)) ∈ lw_tbl := lw_at lw_m2 203 rfl
theorem q619 : (Jvm.Cond.instanceMethod ({ cls := "CargoFlag", name := "on", desc := "(I)Ljava/lang/Object;" } : Jvm.MethodName)) ∈ lw_all := lw_g (lw_at lw_m2 204 rfl) rfl
theorem q620 : (Jvm.Cond.code ({ cls := "CargoFlag", name := "on", desc := "(I)Ljava/lang/Object;" } : Jvm.MethodName) prog_1_method_15_code (2 : Nat) (Option.some (Jvm.ClassFile.FieldType.object "java/lang/Object"))) ∈ lw_all := lw_g (lw_at lw_m2 205 rfl) rfl
theorem q621 : (Jvm.Cond.methodLink "CargoFlag" (131 : Nat) ({ cls := "CargoFlag", name := "put", desc := "(Ljava/lang/Object;IJ)V" } : Jvm.MethodName)) ∈ lw_all := lw_g (lw_at lw_m2 206 rfl) rfl
theorem q622 : (Jvm.Cond.static ({ cls := "CargoFlag", name := "put", desc := "(Ljava/lang/Object;IJ)V" } : Jvm.MethodName)) ∈ lw_all := lw_g (lw_at lw_m2 207 rfl) rfl
theorem q623 : (Jvm.Cond.code ({ cls := "CargoFlag", name := "put", desc := "(Ljava/lang/Object;IJ)V" } : Jvm.MethodName) prog_1_method_5_code (7 : Nat) (Option.none : Option Jvm.ClassFile.FieldType)) ∈ lw_all := lw_g (lw_at lw_m2 208 rfl) rfl
theorem q624 : (Jvm.Cond.classLink "CargoFlag" (3 : Nat) "[B") ∈ lw_all := lw_g (lw_at lw_m2 209 rfl) rfl
theorem q625 : (Jvm.Cond.classLink "CargoFlag" (5 : Nat) "[S") ∈ lw_all := lw_g (lw_at lw_m2 210 rfl) rfl
theorem q626 : (Jvm.Cond.classLink "CargoFlag" (7 : Nat) "[I") ∈ lw_all := lw_g (lw_at lw_m2 211 rfl) rfl
theorem q627 : (Jvm.Cond.classLink "CargoFlag" (9 : Nat) "[J") ∈ lw_all := lw_g (lw_at lw_m2 212 rfl) rfl
theorem q629 : (Jvm.Cond.instanceMethod ({ cls := "CargoFlag", name := "read", desc := "(II)J" } : Jvm.MethodName)) ∈ lw_all := lw_g (lw_at lw_m2 214 rfl) rfl
theorem q630 : (Jvm.Cond.selects "CargoFlag" ({ cls := "CargoFlag", name := "read", desc := "(II)J" } : Jvm.MethodName) ({ cls := "CargoFlag", name := "read", desc := "(II)J" } : Jvm.MethodName)) ∈ lw_all := lw_g (lw_at lw_m2 215 rfl) rfl
theorem q631 : (Jvm.Cond.codeWith ({ cls := "CargoFlag", name := "read", desc := "(II)J" } : Jvm.MethodName) prog_1_method_18_code (4 : Nat) (Option.some Jvm.ClassFile.FieldType.long) [((5 : Nat), (14 : Nat), (15 : Nat), (135 : Nat)), ((5 : Nat), (14 : Nat), (25 : Nat), (41 : Nat))]) ∈ lw_all := lw_g (lw_at lw_m2 216 rfl) rfl
theorem q632 : (Jvm.Cond.methodLink "CargoFlag" (137 : Nat) ({ cls := "CargoFlag", name := "number", desc := "(Ljava/lang/Object;I)J" } : Jvm.MethodName)) ∈ lw_all := lw_g (lw_at lw_m2 217 rfl) rfl
theorem q633 : (Jvm.Cond.static ({ cls := "CargoFlag", name := "number", desc := "(Ljava/lang/Object;I)J" } : Jvm.MethodName)) ∈ lw_all := lw_g (lw_at lw_m2 218 rfl) rfl
theorem q634 : (Jvm.Cond.code ({ cls := "CargoFlag", name := "number", desc := "(Ljava/lang/Object;I)J" } : Jvm.MethodName) prog_1_method_4_code (3 : Nat) (Option.some Jvm.ClassFile.FieldType.long)) ∈ lw_all := lw_g (lw_at lw_m2 219 rfl) rfl
theorem q635 : (Jvm.Cond.constantLong "CargoFlag" (141 : Nat) (-1 : Int64)) ∈ lw_all := lw_g (lw_at lw_m2 220 rfl) rfl
theorem q636 : (Jvm.Cond.methodLink "CargoFlag" (143 : Nat) ({ cls := "CargoFlag", name := "none", desc := "(LCargoFlag$Refused;)I" } : Jvm.MethodName)) ∈ lw_all := lw_g (lw_at lw_m2 221 rfl) rfl
theorem q637 : (Jvm.Cond.privateMethod ({ cls := "CargoFlag", name := "none", desc := "(LCargoFlag$Refused;)I" } : Jvm.MethodName)) ∈ lw_tbl := lw_at lw_m2 222 rfl
theorem q638 : (Jvm.Cond.instanceMethod ({ cls := "CargoFlag", name := "none", desc := "(LCargoFlag$Refused;)I" } : Jvm.MethodName)) ∈ lw_all := lw_g (lw_at lw_m2 223 rfl) rfl
theorem q639 : (Jvm.Cond.code ({ cls := "CargoFlag", name := "none", desc := "(LCargoFlag$Refused;)I" } : Jvm.MethodName) prog_1_method_12_code (2 : Nat) (Option.some Jvm.ClassFile.FieldType.int)) ∈ lw_all := lw_g (lw_at lw_m2 224 rfl) rfl
theorem q641 : (Jvm.Cond.instanceMethod ({ cls := "CargoFlag", name := "pour", desc := "(IIIII)Z" } : Jvm.MethodName)) ∈ lw_all := lw_g (lw_at lw_m2 226 rfl) rfl
theorem q642 : (Jvm.Cond.selects "CargoFlag" ({ cls := "CargoFlag", name := "pour", desc := "(IIIII)Z" } : Jvm.MethodName) ({ cls := "CargoFlag", name := "pour", desc := "(IIIII)Z" } : Jvm.MethodName)) ∈ lw_all := lw_g (lw_at lw_m2 227 rfl) rfl
theorem q643 : (Jvm.Cond.codeWith ({ cls := "CargoFlag", name := "pour", desc := "(IIIII)Z" } : Jvm.MethodName) prog_1_method_19_code (9 : Nat) (Option.some Jvm.ClassFile.FieldType.boolean) [((85 : Nat), (97 : Nat), (100 : Nat), (157 : Nat)), ((5 : Nat), (112 : Nat), (113 : Nat), (41 : Nat))]) ∈ lw_all := lw_g (lw_at lw_m2 228 rfl) rfl
theorem q644 : (Jvm.Cond.classLink "CargoFlag" (157 : Nat) "java/lang/IndexOutOfBoundsException") ∈ lw_all := lw_g (lw_at lw_m2 229 rfl) rfl
theorem q645 : (Jvm.Cond.methodLink "CargoFlag" (147 : Nat) ({ cls := "CargoFlag", name := "sortOf", desc := "(Ljava/lang/Object;)I" } : Jvm.MethodName)) ∈ lw_all := lw_g (lw_at lw_m2 230 rfl) rfl
theorem q646 : (Jvm.Cond.static ({ cls := "CargoFlag", name := "sortOf", desc := "(Ljava/lang/Object;)I" } : Jvm.MethodName)) ∈ lw_all := lw_g (lw_at lw_m2 231 rfl) rfl
theorem q647 : (Jvm.Cond.code ({ cls := "CargoFlag", name := "sortOf", desc := "(Ljava/lang/Object;)I" } : Jvm.MethodName) prog_1_method_2_code (1 : Nat) (Option.some Jvm.ClassFile.FieldType.int)) ∈ lw_all := lw_g (lw_at lw_m2 232 rfl) rfl
theorem q648 : (Jvm.Cond.methodLink "CargoFlag" (151 : Nat) ({ cls := "java/lang/System", name := "arraycopy", desc := "(Ljava/lang/Object;ILjava/lang/Object;II)V" } : Jvm.MethodName)) ∈ lw_all := lw_g (lw_at lw_m2 233 rfl) rfl
theorem q652 : (Jvm.Cond.instanceMethod ({ cls := "CargoFlag", name := "feed", desc := "(IIIII)I" } : Jvm.MethodName)) ∈ lw_all := lw_g (lw_at lw_m2 237 rfl) rfl
theorem q653 : (Jvm.Cond.selects "CargoFlag" ({ cls := "CargoFlag", name := "feed", desc := "(IIIII)I" } : Jvm.MethodName) ({ cls := "CargoFlag", name := "feed", desc := "(IIIII)I" } : Jvm.MethodName)) ∈ lw_all := lw_g (lw_at lw_m2 238 rfl) rfl
theorem q654 : (Jvm.Cond.code ({ cls := "CargoFlag", name := "feed", desc := "(IIIII)I" } : Jvm.MethodName) prog_1_method_32_code (6 : Nat) (Option.some Jvm.ClassFile.FieldType.int)) ∈ lw_all := lw_g (lw_at lw_m2 239 rfl) rfl
theorem q655 : (Jvm.Cond.methodLink "CargoFlag" (201 : Nat) ({ cls := "CargoFlag", name := "lay", desc := "(I)V" } : Jvm.MethodName)) ∈ lw_all := lw_g (lw_at lw_m3 0 rfl) rfl
theorem q656 : (Jvm.Cond.privateMethod ({ cls := "CargoFlag", name := "lay", desc := "(I)V" } : Jvm.MethodName)) ∈ lw_tbl := lw_at lw_m3 1 rfl
theorem q657 : (Jvm.Cond.instanceMethod ({ cls := "CargoFlag", name := "lay", desc := "(I)V" } : Jvm.MethodName)) ∈ lw_all := lw_g (lw_at lw_m3 2 rfl) rfl
theorem q658 : (Jvm.Cond.code ({ cls := "CargoFlag", name := "lay", desc := "(I)V" } : Jvm.MethodName) prog_1_method_33_code (3 : Nat) (Option.none : Option Jvm.ClassFile.FieldType)) ∈ lw_all := lw_g (lw_at lw_m3 3 rfl) rfl
theorem q660 : (Jvm.Cond.instanceMethod ({ cls := "CargoFlag", name := "world", desc := "(I)I" } : Jvm.MethodName)) ∈ lw_all := lw_g (lw_at lw_m3 5 rfl) rfl
theorem q661 : (Jvm.Cond.selects "CargoFlag" ({ cls := "CargoFlag", name := "world", desc := "(I)I" } : Jvm.MethodName) ({ cls := "CargoFlag", name := "world", desc := "(I)I" } : Jvm.MethodName)) ∈ lw_all := lw_g (lw_at lw_m3 6 rfl) rfl
theorem q662 : (Jvm.Cond.codeWith ({ cls := "CargoFlag", name := "world", desc := "(I)I" } : Jvm.MethodName) prog_1_method_36_code (3 : Nat) (Option.some Jvm.ClassFile.FieldType.int) [((13 : Nat), (54 : Nat), (55 : Nat), (34 : Nat))]) ∈ lw_all := lw_g (lw_at lw_m3 7 rfl) rfl
theorem q663 : (Jvm.Cond.methodLink "CargoFlag" (211 : Nat) ({ cls := "CargoFlag", name := "opens", desc := "(II)Z" } : Jvm.MethodName)) ∈ lw_all := lw_g (lw_at lw_m3 8 rfl) rfl
theorem q664 : (Jvm.Cond.privateMethod ({ cls := "CargoFlag", name := "opens", desc := "(II)Z" } : Jvm.MethodName)) ∈ lw_tbl := lw_at lw_m3 9 rfl
theorem q665 : (Jvm.Cond.instanceMethod ({ cls := "CargoFlag", name := "opens", desc := "(II)Z" } : Jvm.MethodName)) ∈ lw_all := lw_g (lw_at lw_m3 10 rfl) rfl
theorem q666 : (Jvm.Cond.code ({ cls := "CargoFlag", name := "opens", desc := "(II)Z" } : Jvm.MethodName) prog_1_method_34_code (3 : Nat) (Option.some Jvm.ClassFile.FieldType.boolean)) ∈ lw_all := lw_g (lw_at lw_m3 11 rfl) rfl
theorem q667 : (Jvm.Cond.classLink "CargoFlag" (215 : Nat) "CargoFlag$Reader") ∈ lw_all := lw_g (lw_at lw_m3 12 rfl) rfl
theorem q669 : (Jvm.Cond.methodLink "CargoFlag" (217 : Nat) ({ cls := "CargoFlag$Reader", name := "<init>", desc := "(LCargoFlag;I)V" } : Jvm.MethodName)) ∈ lw_all := lw_g (lw_at lw_m3 14 rfl) rfl
theorem q691 : (Jvm.Cond.fieldLinkNest "CargoFlag" (241 : Nat) "CargoFlag$Reader" "steps" "I" "CargoFlag") ∈ lw_tbl := lw_at lw_m3 36 rfl
theorem q711 : (Jvm.Cond.methodLink "CargoFlag" (220 : Nat) ({ cls := "CargoFlag$Reader", name := "world", desc := "(LCargoFlag$World;)V" } : Jvm.MethodName)) ∈ lw_all := lw_g (lw_at lw_m3 56 rfl) rfl
theorem q851 : (Jvm.Cond.fieldLinkNest "CargoFlag" (281 : Nat) "CargoFlag$Nation" "wage" "I" "CargoFlag") ∈ lw_tbl := lw_at lw_m3 196 rfl
theorem q854 : (Jvm.Cond.fieldLinkNest "CargoFlag" (286 : Nat) "CargoFlag$Nation" "duty" "I" "CargoFlag") ∈ lw_tbl := lw_at lw_m3 199 rfl
theorem q857 : (Jvm.Cond.fieldLinkNest "CargoFlag" (289 : Nat) "CargoFlag$Nation" "deeds" "I" "CargoFlag") ∈ lw_tbl := lw_at lw_m3 202 rfl
theorem q909 : (Jvm.Cond.fieldLinkNest "CargoFlag" (299 : Nat) "CargoFlag$Good" "nation" "I" "CargoFlag") ∈ lw_tbl := lw_at lw_m4 14 rfl
theorem q912 : (Jvm.Cond.fieldLinkNest "CargoFlag" (303 : Nat) "CargoFlag$Good" "worth" "I" "CargoFlag") ∈ lw_tbl := lw_at lw_m4 17 rfl
theorem q915 : (Jvm.Cond.fieldLinkNest "CargoFlag" (306 : Nat) "CargoFlag$Good" "leaks" "I" "CargoFlag") ∈ lw_tbl := lw_at lw_m4 20 rfl
theorem q937 : (Jvm.Cond.fieldLinkNest "CargoFlag" (313 : Nat) "CargoFlag$Port" "nation" "I" "CargoFlag") ∈ lw_tbl := lw_at lw_m4 42 rfl
theorem q970 : (Jvm.Cond.fieldLinkNest "CargoFlag" (342 : Nat) "CargoFlag$Ship" "hold" "I" "CargoFlag") ∈ lw_tbl := lw_at lw_m4 75 rfl
theorem q1003 : (Jvm.Cond.methodLink "CargoFlag" (162 : Nat) ({ cls := "CargoFlag", name := "at", desc := "()LCargoFlag$World;" } : Jvm.MethodName)) ∈ lw_all := lw_g (lw_at lw_m4 108 rfl) rfl
theorem q1004 : (Jvm.Cond.privateMethod ({ cls := "CargoFlag", name := "at", desc := "()LCargoFlag$World;" } : Jvm.MethodName)) ∈ lw_tbl := lw_at lw_m4 109 rfl
theorem q1005 : (Jvm.Cond.instanceMethod ({ cls := "CargoFlag", name := "at", desc := "()LCargoFlag$World;" } : Jvm.MethodName)) ∈ lw_all := lw_g (lw_at lw_m4 110 rfl) rfl
theorem q1006 : (Jvm.Cond.code ({ cls := "CargoFlag", name := "at", desc := "()LCargoFlag$World;" } : Jvm.MethodName) prog_1_method_21_code (1 : Nat) (Option.some (Jvm.ClassFile.FieldType.object "CargoFlag$World"))) ∈ lw_all := lw_g (lw_at lw_m4 111 rfl) rfl
theorem q1007 : (Jvm.Cond.methodLink "CargoFlag" (223 : Nat) ({ cls := "CargoFlag$World", name := "be", desc := "(LCargoFlag$World;)V" } : Jvm.MethodName)) ∈ lw_all := lw_g (lw_at lw_m4 112 rfl) rfl
theorem q1015 : (Jvm.Cond.methodLink "CargoFlag" (230 : Nat) ({ cls := "CargoFlag", name := "faulty", desc := "(LCargoFlag$Bad;)I" } : Jvm.MethodName)) ∈ lw_all := lw_g (lw_at lw_m4 120 rfl) rfl
theorem q1016 : (Jvm.Cond.privateMethod ({ cls := "CargoFlag", name := "faulty", desc := "(LCargoFlag$Bad;)I" } : Jvm.MethodName)) ∈ lw_tbl := lw_at lw_m4 121 rfl
theorem q1017 : (Jvm.Cond.instanceMethod ({ cls := "CargoFlag", name := "faulty", desc := "(LCargoFlag$Bad;)I" } : Jvm.MethodName)) ∈ lw_all := lw_g (lw_at lw_m4 122 rfl) rfl
theorem q1018 : (Jvm.Cond.code ({ cls := "CargoFlag", name := "faulty", desc := "(LCargoFlag$Bad;)I" } : Jvm.MethodName) prog_1_method_35_code (2 : Nat) (Option.some Jvm.ClassFile.FieldType.int)) ∈ lw_all := lw_g (lw_at lw_m4 123 rfl) rfl
theorem q1020 : (Jvm.Cond.instanceMethod ({ cls := "CargoFlag", name := "voyages", desc := "(I)I" } : Jvm.MethodName)) ∈ lw_all := lw_g (lw_at lw_m4 125 rfl) rfl
theorem q1021 : (Jvm.Cond.selects "CargoFlag" ({ cls := "CargoFlag", name := "voyages", desc := "(I)I" } : Jvm.MethodName) ({ cls := "CargoFlag", name := "voyages", desc := "(I)I" } : Jvm.MethodName)) ∈ lw_all := lw_g (lw_at lw_m4 126 rfl) rfl
theorem q1022 : (Jvm.Cond.codeWith ({ cls := "CargoFlag", name := "voyages", desc := "(I)I" } : Jvm.MethodName) prog_1_method_37_code (4 : Nat) (Option.some Jvm.ClassFile.FieldType.int) [((13 : Nat), (53 : Nat), (54 : Nat), (34 : Nat))]) ∈ lw_all := lw_g (lw_at lw_m4 127 rfl) rfl
theorem q1023 : (Jvm.Cond.classLink "CargoFlag" (234 : Nat) "CargoFlag$Loop") ∈ lw_all := lw_g (lw_at lw_m4 128 rfl) rfl
theorem q1025 : (Jvm.Cond.methodLink "CargoFlag" (236 : Nat) ({ cls := "CargoFlag$Loop", name := "<init>", desc := "(I)V" } : Jvm.MethodName)) ∈ lw_all := lw_g (lw_at lw_m4 130 rfl) rfl
theorem q1047 : (Jvm.Cond.methodLink "CargoFlag" (238 : Nat) ({ cls := "CargoFlag$Reader", name := "voyages", desc := "(LCargoFlag$World;LCargoFlag$Block;)V" } : Jvm.MethodName)) ∈ lw_all := lw_g (lw_at lw_m4 152 rfl) rfl
theorem q1120 : (Jvm.Cond.instanceMethod ({ cls := "CargoFlag", name := "fault", desc := "(I)I" } : Jvm.MethodName)) ∈ lw_all := lw_g (lw_at lw_m4 225 rfl) rfl
theorem q1121 : (Jvm.Cond.selects "CargoFlag" ({ cls := "CargoFlag", name := "fault", desc := "(I)I" } : Jvm.MethodName) ({ cls := "CargoFlag", name := "fault", desc := "(I)I" } : Jvm.MethodName)) ∈ lw_all := lw_g (lw_at lw_m4 226 rfl) rfl
theorem q1122 : (Jvm.Cond.code ({ cls := "CargoFlag", name := "fault", desc := "(I)I" } : Jvm.MethodName) prog_1_method_38_code (2 : Nat) (Option.some Jvm.ClassFile.FieldType.int)) ∈ lw_all := lw_g (lw_at lw_m4 227 rfl) rfl
theorem q1124 : (Jvm.Cond.instanceMethod ({ cls := "CargoFlag", name := "told", desc := "(I)I" } : Jvm.MethodName)) ∈ lw_all := lw_g (lw_at lw_m4 229 rfl) rfl
theorem q1125 : (Jvm.Cond.selects "CargoFlag" ({ cls := "CargoFlag", name := "told", desc := "(I)I" } : Jvm.MethodName) ({ cls := "CargoFlag", name := "told", desc := "(I)I" } : Jvm.MethodName)) ∈ lw_all := lw_g (lw_at lw_m4 230 rfl) rfl
theorem q1126 : (Jvm.Cond.code ({ cls := "CargoFlag", name := "told", desc := "(I)I" } : Jvm.MethodName) prog_1_method_41_code (2 : Nat) (Option.some Jvm.ClassFile.FieldType.int)) ∈ lw_all := lw_g (lw_at lw_m4 231 rfl) rfl
theorem q1127 : (Jvm.Cond.constantLong "CargoFlag" (254 : Nat) (9 : Int64)) ∈ lw_all := lw_g (lw_at lw_m4 232 rfl) rfl
theorem q1128 : (Jvm.Cond.methodLink "CargoFlag" (169 : Nat) ({ cls := "CargoFlag", name := "isIn", desc := "(JJJ)Z" } : Jvm.MethodName)) ∈ lw_all := lw_g (lw_at lw_m4 233 rfl) rfl
theorem q1129 : (Jvm.Cond.static ({ cls := "CargoFlag", name := "isIn", desc := "(JJJ)Z" } : Jvm.MethodName)) ∈ lw_all := lw_g (lw_at lw_m4 234 rfl) rfl
theorem q1130 : (Jvm.Cond.code ({ cls := "CargoFlag", name := "isIn", desc := "(JJJ)Z" } : Jvm.MethodName) prog_1_method_20_code (6 : Nat) (Option.some Jvm.ClassFile.FieldType.boolean)) ∈ lw_all := lw_g (lw_at lw_m4 235 rfl) rfl
theorem q1131 : (Jvm.Cond.methodLink "CargoFlag" (262 : Nat) ({ cls := "CargoFlag", name := "shipsThat", desc := "(I)I" } : Jvm.MethodName)) ∈ lw_all := lw_g (lw_at lw_m4 236 rfl) rfl
theorem q1132 : (Jvm.Cond.privateMethod ({ cls := "CargoFlag", name := "shipsThat", desc := "(I)I" } : Jvm.MethodName)) ∈ lw_tbl := lw_at lw_m4 237 rfl
theorem q1133 : (Jvm.Cond.instanceMethod ({ cls := "CargoFlag", name := "shipsThat", desc := "(I)I" } : Jvm.MethodName)) ∈ lw_all := lw_g (lw_at lw_m4 238 rfl) rfl
theorem q1134 : (Jvm.Cond.code ({ cls := "CargoFlag", name := "shipsThat", desc := "(I)I" } : Jvm.MethodName) prog_1_method_39_code (4 : Nat) (Option.some Jvm.ClassFile.FieldType.int)) ∈ lw_all := lw_g (lw_at lw_m4 239 rfl) rfl
theorem q1135 : (Jvm.Cond.methodLink "CargoFlag" (244 : Nat) ({ cls := "CargoFlag$World", name := "isAtSea", desc := "(I)Z" } : Jvm.MethodName)) ∈ lw_all := lw_g (lw_at lw_m5 0 rfl) rfl
theorem q1139 : (Jvm.Cond.methodLink "CargoFlag" (247 : Nat) ({ cls := "CargoFlag$World", name := "ruled", desc := "(I)I" } : Jvm.MethodName)) ∈ lw_all := lw_g (lw_at lw_m5 4 rfl) rfl
theorem q1164 : (Jvm.Cond.methodLink "CargoFlag" (265 : Nat) ({ cls := "CargoFlag", name := "allTons", desc := "()I" } : Jvm.MethodName)) ∈ lw_all := lw_g (lw_at lw_m5 29 rfl) rfl
theorem q1165 : (Jvm.Cond.privateMethod ({ cls := "CargoFlag", name := "allTons", desc := "()I" } : Jvm.MethodName)) ∈ lw_tbl := lw_at lw_m5 30 rfl
theorem q1166 : (Jvm.Cond.instanceMethod ({ cls := "CargoFlag", name := "allTons", desc := "()I" } : Jvm.MethodName)) ∈ lw_all := lw_g (lw_at lw_m5 31 rfl) rfl
theorem q1167 : (Jvm.Cond.code ({ cls := "CargoFlag", name := "allTons", desc := "()I" } : Jvm.MethodName) prog_1_method_40_code (3 : Nat) (Option.some Jvm.ClassFile.FieldType.int)) ∈ lw_all := lw_g (lw_at lw_m5 32 rfl) rfl
theorem q1168 : (Jvm.Cond.methodLink "CargoFlag" (251 : Nat) ({ cls := "CargoFlag$World", name := "aboard", desc := "(I)I" } : Jvm.MethodName)) ∈ lw_all := lw_g (lw_at lw_m5 33 rfl) rfl
theorem q1169 : (Jvm.Cond.methodLink "CargoFlag" (269 : Nat) ({ cls := "CargoFlag$World", name := "allCoins", desc := "()I" } : Jvm.MethodName)) ∈ lw_all := lw_g (lw_at lw_m5 34 rfl) rfl
theorem q1174 : (Jvm.Cond.instanceMethod ({ cls := "CargoFlag", name := "nation", desc := "(II)I" } : Jvm.MethodName)) ∈ lw_all := lw_g (lw_at lw_m5 39 rfl) rfl
theorem q1175 : (Jvm.Cond.selects "CargoFlag" ({ cls := "CargoFlag", name := "nation", desc := "(II)I" } : Jvm.MethodName) ({ cls := "CargoFlag", name := "nation", desc := "(II)I" } : Jvm.MethodName)) ∈ lw_all := lw_g (lw_at lw_m5 40 rfl) rfl
theorem q1176 : (Jvm.Cond.code ({ cls := "CargoFlag", name := "nation", desc := "(II)I" } : Jvm.MethodName) prog_1_method_42_code (4 : Nat) (Option.some Jvm.ClassFile.FieldType.int)) ∈ lw_all := lw_g (lw_at lw_m5 41 rfl) rfl
theorem q1177 : (Jvm.Cond.methodLink "CargoFlag" (272 : Nat) ({ cls := "CargoFlag", name := "isNation", desc := "(I)Z" } : Jvm.MethodName)) ∈ lw_all := lw_g (lw_at lw_m5 42 rfl) rfl
theorem q1178 : (Jvm.Cond.privateMethod ({ cls := "CargoFlag", name := "isNation", desc := "(I)Z" } : Jvm.MethodName)) ∈ lw_tbl := lw_at lw_m5 43 rfl
theorem q1179 : (Jvm.Cond.instanceMethod ({ cls := "CargoFlag", name := "isNation", desc := "(I)Z" } : Jvm.MethodName)) ∈ lw_all := lw_g (lw_at lw_m5 44 rfl) rfl
theorem q1180 : (Jvm.Cond.code ({ cls := "CargoFlag", name := "isNation", desc := "(I)Z" } : Jvm.MethodName) prog_1_method_22_code (2 : Nat) (Option.some Jvm.ClassFile.FieldType.boolean)) ∈ lw_all := lw_g (lw_at lw_m5 45 rfl) rfl
theorem q1181 : (Jvm.Cond.constantLong "CargoFlag" (275 : Nat) (3 : Int64)) ∈ lw_all := lw_g (lw_at lw_m5 46 rfl) rfl
theorem q1183 : (Jvm.Cond.instanceMethod ({ cls := "CargoFlag", name := "good", desc := "(II)I" } : Jvm.MethodName)) ∈ lw_all := lw_g (lw_at lw_m5 48 rfl) rfl
theorem q1184 : (Jvm.Cond.selects "CargoFlag" ({ cls := "CargoFlag", name := "good", desc := "(II)I" } : Jvm.MethodName) ({ cls := "CargoFlag", name := "good", desc := "(II)I" } : Jvm.MethodName)) ∈ lw_all := lw_g (lw_at lw_m5 49 rfl) rfl
theorem q1185 : (Jvm.Cond.code ({ cls := "CargoFlag", name := "good", desc := "(II)I" } : Jvm.MethodName) prog_1_method_43_code (4 : Nat) (Option.some Jvm.ClassFile.FieldType.int)) ∈ lw_all := lw_g (lw_at lw_m5 50 rfl) rfl
theorem q1186 : (Jvm.Cond.methodLink "CargoFlag" (193 : Nat) ({ cls := "CargoFlag", name := "isGood", desc := "(I)Z" } : Jvm.MethodName)) ∈ lw_all := lw_g (lw_at lw_m5 51 rfl) rfl
theorem q1187 : (Jvm.Cond.privateMethod ({ cls := "CargoFlag", name := "isGood", desc := "(I)Z" } : Jvm.MethodName)) ∈ lw_tbl := lw_at lw_m5 52 rfl
theorem q1188 : (Jvm.Cond.instanceMethod ({ cls := "CargoFlag", name := "isGood", desc := "(I)Z" } : Jvm.MethodName)) ∈ lw_all := lw_g (lw_at lw_m5 53 rfl) rfl
theorem q1189 : (Jvm.Cond.code ({ cls := "CargoFlag", name := "isGood", desc := "(I)Z" } : Jvm.MethodName) prog_1_method_23_code (2 : Nat) (Option.some Jvm.ClassFile.FieldType.boolean)) ∈ lw_all := lw_g (lw_at lw_m5 54 rfl) rfl
theorem q1190 : (Jvm.Cond.constantLong "CargoFlag" (182 : Nat) (2 : Int64)) ∈ lw_all := lw_g (lw_at lw_m5 55 rfl) rfl
theorem q1192 : (Jvm.Cond.instanceMethod ({ cls := "CargoFlag", name := "portOf", desc := "(I)I" } : Jvm.MethodName)) ∈ lw_all := lw_g (lw_at lw_m5 57 rfl) rfl
theorem q1193 : (Jvm.Cond.selects "CargoFlag" ({ cls := "CargoFlag", name := "portOf", desc := "(I)I" } : Jvm.MethodName) ({ cls := "CargoFlag", name := "portOf", desc := "(I)I" } : Jvm.MethodName)) ∈ lw_all := lw_g (lw_at lw_m5 58 rfl) rfl
theorem q1194 : (Jvm.Cond.code ({ cls := "CargoFlag", name := "portOf", desc := "(I)I" } : Jvm.MethodName) prog_1_method_44_code (2 : Nat) (Option.some Jvm.ClassFile.FieldType.int)) ∈ lw_all := lw_g (lw_at lw_m5 59 rfl) rfl
theorem q1195 : (Jvm.Cond.methodLink "CargoFlag" (190 : Nat) ({ cls := "CargoFlag", name := "isPort", desc := "(I)Z" } : Jvm.MethodName)) ∈ lw_all := lw_g (lw_at lw_m5 60 rfl) rfl
theorem q1196 : (Jvm.Cond.privateMethod ({ cls := "CargoFlag", name := "isPort", desc := "(I)Z" } : Jvm.MethodName)) ∈ lw_tbl := lw_at lw_m5 61 rfl
theorem q1197 : (Jvm.Cond.instanceMethod ({ cls := "CargoFlag", name := "isPort", desc := "(I)Z" } : Jvm.MethodName)) ∈ lw_all := lw_g (lw_at lw_m5 62 rfl) rfl
theorem q1198 : (Jvm.Cond.code ({ cls := "CargoFlag", name := "isPort", desc := "(I)Z" } : Jvm.MethodName) prog_1_method_24_code (2 : Nat) (Option.some Jvm.ClassFile.FieldType.boolean)) ∈ lw_all := lw_g (lw_at lw_m5 63 rfl) rfl
theorem q1199 : (Jvm.Cond.methodLink "CargoFlag" (316 : Nat) ({ cls := "CargoFlag", name := "answer", desc := "(I)I" } : Jvm.MethodName)) ∈ lw_all := lw_g (lw_at lw_m5 64 rfl) rfl
theorem q1200 : (Jvm.Cond.privateMethod ({ cls := "CargoFlag", name := "answer", desc := "(I)I" } : Jvm.MethodName)) ∈ lw_tbl := lw_at lw_m5 65 rfl
theorem q1201 : (Jvm.Cond.instanceMethod ({ cls := "CargoFlag", name := "answer", desc := "(I)I" } : Jvm.MethodName)) ∈ lw_all := lw_g (lw_at lw_m5 66 rfl) rfl
theorem q1202 : (Jvm.Cond.code ({ cls := "CargoFlag", name := "answer", desc := "(I)I" } : Jvm.MethodName) prog_1_method_31_code (2 : Nat) (Option.some Jvm.ClassFile.FieldType.int)) ∈ lw_all := lw_g (lw_at lw_m5 67 rfl) rfl
theorem q1204 : (Jvm.Cond.instanceMethod ({ cls := "CargoFlag", name := "price", desc := "(II)I" } : Jvm.MethodName)) ∈ lw_all := lw_g (lw_at lw_m5 69 rfl) rfl
theorem q1205 : (Jvm.Cond.selects "CargoFlag" ({ cls := "CargoFlag", name := "price", desc := "(II)I" } : Jvm.MethodName) ({ cls := "CargoFlag", name := "price", desc := "(II)I" } : Jvm.MethodName)) ∈ lw_all := lw_g (lw_at lw_m5 70 rfl) rfl
theorem q1206 : (Jvm.Cond.code ({ cls := "CargoFlag", name := "price", desc := "(II)I" } : Jvm.MethodName) prog_1_method_45_code (4 : Nat) (Option.some Jvm.ClassFile.FieldType.int)) ∈ lw_all := lw_g (lw_at lw_m5 71 rfl) rfl
theorem q1208 : (Jvm.Cond.instanceMethod ({ cls := "CargoFlag", name := "way", desc := "(II)I" } : Jvm.MethodName)) ∈ lw_all := lw_g (lw_at lw_m5 73 rfl) rfl
theorem q1209 : (Jvm.Cond.selects "CargoFlag" ({ cls := "CargoFlag", name := "way", desc := "(II)I" } : Jvm.MethodName) ({ cls := "CargoFlag", name := "way", desc := "(II)I" } : Jvm.MethodName)) ∈ lw_all := lw_g (lw_at lw_m5 74 rfl) rfl
theorem q1210 : (Jvm.Cond.code ({ cls := "CargoFlag", name := "way", desc := "(II)I" } : Jvm.MethodName) prog_1_method_46_code (4 : Nat) (Option.some Jvm.ClassFile.FieldType.int)) ∈ lw_all := lw_g (lw_at lw_m5 75 rfl) rfl
theorem q1211 : (Jvm.Cond.methodLink "CargoFlag" (322 : Nat) ({ cls := "CargoFlag", name := "arePorts", desc := "(II)Z" } : Jvm.MethodName)) ∈ lw_all := lw_g (lw_at lw_m5 76 rfl) rfl
theorem q1212 : (Jvm.Cond.privateMethod ({ cls := "CargoFlag", name := "arePorts", desc := "(II)Z" } : Jvm.MethodName)) ∈ lw_tbl := lw_at lw_m5 77 rfl
theorem q1213 : (Jvm.Cond.instanceMethod ({ cls := "CargoFlag", name := "arePorts", desc := "(II)Z" } : Jvm.MethodName)) ∈ lw_all := lw_g (lw_at lw_m5 78 rfl) rfl
theorem q1214 : (Jvm.Cond.code ({ cls := "CargoFlag", name := "arePorts", desc := "(II)Z" } : Jvm.MethodName) prog_1_method_29_code (3 : Nat) (Option.some Jvm.ClassFile.FieldType.boolean)) ∈ lw_all := lw_g (lw_at lw_m5 79 rfl) rfl
theorem q1216 : (Jvm.Cond.instanceMethod ({ cls := "CargoFlag", name := "ship", desc := "(II)I" } : Jvm.MethodName)) ∈ lw_all := lw_g (lw_at lw_m5 81 rfl) rfl
theorem q1217 : (Jvm.Cond.selects "CargoFlag" ({ cls := "CargoFlag", name := "ship", desc := "(II)I" } : Jvm.MethodName) ({ cls := "CargoFlag", name := "ship", desc := "(II)I" } : Jvm.MethodName)) ∈ lw_all := lw_g (lw_at lw_m5 82 rfl) rfl
theorem q1218 : (Jvm.Cond.code ({ cls := "CargoFlag", name := "ship", desc := "(II)I" } : Jvm.MethodName) prog_1_method_47_code (4 : Nat) (Option.some Jvm.ClassFile.FieldType.int)) ∈ lw_all := lw_g (lw_at lw_m5 83 rfl) rfl
theorem q1219 : (Jvm.Cond.methodLink "CargoFlag" (186 : Nat) ({ cls := "CargoFlag", name := "isShip", desc := "(I)Z" } : Jvm.MethodName)) ∈ lw_all := lw_g (lw_at lw_m5 84 rfl) rfl
theorem q1220 : (Jvm.Cond.privateMethod ({ cls := "CargoFlag", name := "isShip", desc := "(I)Z" } : Jvm.MethodName)) ∈ lw_tbl := lw_at lw_m5 85 rfl
theorem q1221 : (Jvm.Cond.instanceMethod ({ cls := "CargoFlag", name := "isShip", desc := "(I)Z" } : Jvm.MethodName)) ∈ lw_all := lw_g (lw_at lw_m5 86 rfl) rfl
theorem q1222 : (Jvm.Cond.code ({ cls := "CargoFlag", name := "isShip", desc := "(I)Z" } : Jvm.MethodName) prog_1_method_25_code (2 : Nat) (Option.some Jvm.ClassFile.FieldType.boolean)) ∈ lw_all := lw_g (lw_at lw_m5 87 rfl) rfl
theorem q1223 : (Jvm.Cond.constantLong "CargoFlag" (328 : Nat) (7 : Int64)) ∈ lw_all := lw_g (lw_at lw_m5 88 rfl) rfl
theorem q1225 : (Jvm.Cond.instanceMethod ({ cls := "CargoFlag", name := "aboard", desc := "(II)I" } : Jvm.MethodName)) ∈ lw_all := lw_g (lw_at lw_m5 90 rfl) rfl
theorem q1226 : (Jvm.Cond.selects "CargoFlag" ({ cls := "CargoFlag", name := "aboard", desc := "(II)I" } : Jvm.MethodName) ({ cls := "CargoFlag", name := "aboard", desc := "(II)I" } : Jvm.MethodName)) ∈ lw_all := lw_g (lw_at lw_m5 91 rfl) rfl
theorem q1227 : (Jvm.Cond.code ({ cls := "CargoFlag", name := "aboard", desc := "(II)I" } : Jvm.MethodName) prog_1_method_48_code (3 : Nat) (Option.some Jvm.ClassFile.FieldType.int)) ∈ lw_all := lw_g (lw_at lw_m5 92 rfl) rfl
theorem q1229 : (Jvm.Cond.instanceMethod ({ cls := "CargoFlag", name := "weight", desc := "(II)I" } : Jvm.MethodName)) ∈ lw_all := lw_g (lw_at lw_m5 94 rfl) rfl
theorem q1230 : (Jvm.Cond.selects "CargoFlag" ({ cls := "CargoFlag", name := "weight", desc := "(II)I" } : Jvm.MethodName) ({ cls := "CargoFlag", name := "weight", desc := "(II)I" } : Jvm.MethodName)) ∈ lw_all := lw_g (lw_at lw_m5 95 rfl) rfl
theorem q1231 : (Jvm.Cond.code ({ cls := "CargoFlag", name := "weight", desc := "(II)I" } : Jvm.MethodName) prog_1_method_49_code (3 : Nat) (Option.some Jvm.ClassFile.FieldType.int)) ∈ lw_all := lw_g (lw_at lw_m5 96 rfl) rfl
theorem q1232 : (Jvm.Cond.methodLink "CargoFlag" (359 : Nat) ({ cls := "CargoFlag$World", name := "weight", desc := "(III)I" } : Jvm.MethodName)) ∈ lw_all := lw_g (lw_at lw_m5 97 rfl) rfl
theorem q1237 : (Jvm.Cond.instanceMethod ({ cls := "CargoFlag", name := "weightBy", desc := "(III)I" } : Jvm.MethodName)) ∈ lw_all := lw_g (lw_at lw_m5 102 rfl) rfl
theorem q1238 : (Jvm.Cond.selects "CargoFlag" ({ cls := "CargoFlag", name := "weightBy", desc := "(III)I" } : Jvm.MethodName) ({ cls := "CargoFlag", name := "weightBy", desc := "(III)I" } : Jvm.MethodName)) ∈ lw_all := lw_g (lw_at lw_m5 103 rfl) rfl
theorem q1239 : (Jvm.Cond.code ({ cls := "CargoFlag", name := "weightBy", desc := "(III)I" } : Jvm.MethodName) prog_1_method_50_code (4 : Nat) (Option.some Jvm.ClassFile.FieldType.int)) ∈ lw_all := lw_g (lw_at lw_m5 104 rfl) rfl
theorem q1240 : (Jvm.Cond.methodLink "CargoFlag" (363 : Nat) ({ cls := "CargoFlag", name := "isRule", desc := "(I)Z" } : Jvm.MethodName)) ∈ lw_all := lw_g (lw_at lw_m5 105 rfl) rfl
theorem q1241 : (Jvm.Cond.static ({ cls := "CargoFlag", name := "isRule", desc := "(I)Z" } : Jvm.MethodName)) ∈ lw_all := lw_g (lw_at lw_m5 106 rfl) rfl
theorem q1242 : (Jvm.Cond.code ({ cls := "CargoFlag", name := "isRule", desc := "(I)Z" } : Jvm.MethodName) prog_1_method_26_code (1 : Nat) (Option.some Jvm.ClassFile.FieldType.boolean)) ∈ lw_all := lw_g (lw_at lw_m5 107 rfl) rfl
theorem q1244 : (Jvm.Cond.instanceMethod ({ cls := "CargoFlag", name := "captains", desc := "(I)I" } : Jvm.MethodName)) ∈ lw_all := lw_g (lw_at lw_m5 109 rfl) rfl
theorem q1245 : (Jvm.Cond.selects "CargoFlag" ({ cls := "CargoFlag", name := "captains", desc := "(I)I" } : Jvm.MethodName) ({ cls := "CargoFlag", name := "captains", desc := "(I)I" } : Jvm.MethodName)) ∈ lw_all := lw_g (lw_at lw_m5 110 rfl) rfl
theorem q1246 : (Jvm.Cond.code ({ cls := "CargoFlag", name := "captains", desc := "(I)I" } : Jvm.MethodName) prog_1_method_51_code (2 : Nat) (Option.some Jvm.ClassFile.FieldType.int)) ∈ lw_all := lw_g (lw_at lw_m5 111 rfl) rfl
theorem q1247 : (Jvm.Cond.methodLink "CargoFlag" (366 : Nat) ({ cls := "CargoFlag$World", name := "captains", desc := "(I)I" } : Jvm.MethodName)) ∈ lw_all := lw_g (lw_at lw_m5 112 rfl) rfl
theorem q1252 : (Jvm.Cond.instanceMethod ({ cls := "CargoFlag", name := "ruled", desc := "(I)I" } : Jvm.MethodName)) ∈ lw_all := lw_g (lw_at lw_m5 117 rfl) rfl
theorem q1253 : (Jvm.Cond.selects "CargoFlag" ({ cls := "CargoFlag", name := "ruled", desc := "(I)I" } : Jvm.MethodName) ({ cls := "CargoFlag", name := "ruled", desc := "(I)I" } : Jvm.MethodName)) ∈ lw_all := lw_g (lw_at lw_m5 118 rfl) rfl
theorem q1254 : (Jvm.Cond.code ({ cls := "CargoFlag", name := "ruled", desc := "(I)I" } : Jvm.MethodName) prog_1_method_52_code (2 : Nat) (Option.some Jvm.ClassFile.FieldType.int)) ∈ lw_all := lw_g (lw_at lw_m5 119 rfl) rfl
theorem q1256 : (Jvm.Cond.instanceMethod ({ cls := "CargoFlag", name := "ruledBy", desc := "(II)I" } : Jvm.MethodName)) ∈ lw_all := lw_g (lw_at lw_m5 121 rfl) rfl
theorem q1257 : (Jvm.Cond.selects "CargoFlag" ({ cls := "CargoFlag", name := "ruledBy", desc := "(II)I" } : Jvm.MethodName) ({ cls := "CargoFlag", name := "ruledBy", desc := "(II)I" } : Jvm.MethodName)) ∈ lw_all := lw_g (lw_at lw_m5 122 rfl) rfl
theorem q1258 : (Jvm.Cond.code ({ cls := "CargoFlag", name := "ruledBy", desc := "(II)I" } : Jvm.MethodName) prog_1_method_53_code (3 : Nat) (Option.some Jvm.ClassFile.FieldType.int)) ∈ lw_all := lw_g (lw_at lw_m5 123 rfl) rfl
theorem q1259 : (Jvm.Cond.methodLink "CargoFlag" (369 : Nat) ({ cls := "CargoFlag$World", name := "ruled", desc := "(II)I" } : Jvm.MethodName)) ∈ lw_all := lw_g (lw_at lw_m5 124 rfl) rfl
theorem q1261 : (Jvm.Cond.instanceMethod ({ cls := "CargoFlag", name := "share", desc := "(II)Z" } : Jvm.MethodName)) ∈ lw_all := lw_g (lw_at lw_m5 126 rfl) rfl
theorem q1262 : (Jvm.Cond.selects "CargoFlag" ({ cls := "CargoFlag", name := "share", desc := "(II)Z" } : Jvm.MethodName) ({ cls := "CargoFlag", name := "share", desc := "(II)Z" } : Jvm.MethodName)) ∈ lw_all := lw_g (lw_at lw_m5 127 rfl) rfl
theorem q1263 : (Jvm.Cond.code ({ cls := "CargoFlag", name := "share", desc := "(II)Z" } : Jvm.MethodName) prog_1_method_54_code (5 : Nat) (Option.some Jvm.ClassFile.FieldType.boolean)) ∈ lw_all := lw_g (lw_at lw_m5 128 rfl) rfl
theorem q1264 : (Jvm.Cond.methodLink "CargoFlag" (372 : Nat) ({ cls := "CargoFlag", name := "fraction", desc := "(JJ)I" } : Jvm.MethodName)) ∈ lw_all := lw_g (lw_at lw_m5 129 rfl) rfl
theorem q1265 : (Jvm.Cond.privateMethod ({ cls := "CargoFlag", name := "fraction", desc := "(JJ)I" } : Jvm.MethodName)) ∈ lw_tbl := lw_at lw_m5 130 rfl
theorem q1266 : (Jvm.Cond.instanceMethod ({ cls := "CargoFlag", name := "fraction", desc := "(JJ)I" } : Jvm.MethodName)) ∈ lw_all := lw_g (lw_at lw_m5 131 rfl) rfl
theorem q1267 : (Jvm.Cond.code ({ cls := "CargoFlag", name := "fraction", desc := "(JJ)I" } : Jvm.MethodName) prog_1_method_14_code (11 : Nat) (Option.some Jvm.ClassFile.FieldType.int)) ∈ lw_all := lw_g (lw_at lw_m5 132 rfl) rfl
theorem q1268 : (Jvm.Cond.methodLink "CargoFlag" (98 : Nat) ({ cls := "java/lang/Math", name := "abs", desc := "(J)J" } : Jvm.MethodName)) ∈ lw_all := lw_g (lw_at lw_m5 133 rfl) rfl
theorem q1271 : (Jvm.Cond.methodLink "CargoFlag" (104 : Nat) ({ cls := "java/lang/Long", name := "signum", desc := "(J)I" } : Jvm.MethodName)) ∈ lw_all := lw_g (lw_at lw_m5 136 rfl) rfl
theorem q1275 : (Jvm.Cond.instanceMethod ({ cls := "CargoFlag", name := "lawful", desc := "(II)I" } : Jvm.MethodName)) ∈ lw_all := lw_g (lw_at lw_m5 140 rfl) rfl
theorem q1276 : (Jvm.Cond.selects "CargoFlag" ({ cls := "CargoFlag", name := "lawful", desc := "(II)I" } : Jvm.MethodName) ({ cls := "CargoFlag", name := "lawful", desc := "(II)I" } : Jvm.MethodName)) ∈ lw_all := lw_g (lw_at lw_m5 141 rfl) rfl
theorem q1277 : (Jvm.Cond.code ({ cls := "CargoFlag", name := "lawful", desc := "(II)I" } : Jvm.MethodName) prog_1_method_55_code (3 : Nat) (Option.some Jvm.ClassFile.FieldType.int)) ∈ lw_all := lw_g (lw_at lw_m5 142 rfl) rfl
theorem q1278 : (Jvm.Cond.methodLink "CargoFlag" (376 : Nat) ({ cls := "CargoFlag$World", name := "deeds", desc := "(I)I" } : Jvm.MethodName)) ∈ lw_all := lw_g (lw_at lw_m5 143 rfl) rfl
theorem q1284 : (Jvm.Cond.static ({ cls := "CargoFlag", name := "has", desc := "(II)Z" } : Jvm.MethodName)) ∈ lw_all := lw_g (lw_at lw_m5 149 rfl) rfl
theorem q1285 : (Jvm.Cond.code ({ cls := "CargoFlag", name := "has", desc := "(II)Z" } : Jvm.MethodName) prog_1_method_6_code (2 : Nat) (Option.some Jvm.ClassFile.FieldType.boolean)) ∈ lw_all := lw_g (lw_at lw_m5 150 rfl) rfl
theorem q1287 : (Jvm.Cond.instanceMethod ({ cls := "CargoFlag", name := "deeds", desc := "(I)I" } : Jvm.MethodName)) ∈ lw_all := lw_g (lw_at lw_m5 152 rfl) rfl
theorem q1288 : (Jvm.Cond.selects "CargoFlag" ({ cls := "CargoFlag", name := "deeds", desc := "(I)I" } : Jvm.MethodName) ({ cls := "CargoFlag", name := "deeds", desc := "(I)I" } : Jvm.MethodName)) ∈ lw_all := lw_g (lw_at lw_m5 153 rfl) rfl
theorem q1289 : (Jvm.Cond.code ({ cls := "CargoFlag", name := "deeds", desc := "(I)I" } : Jvm.MethodName) prog_1_method_56_code (2 : Nat) (Option.some Jvm.ClassFile.FieldType.int)) ∈ lw_all := lw_g (lw_at lw_m5 154 rfl) rfl
theorem q1291 : (Jvm.Cond.instanceMethod ({ cls := "CargoFlag", name := "board", desc := "(II)I" } : Jvm.MethodName)) ∈ lw_all := lw_g (lw_at lw_m5 156 rfl) rfl
theorem q1292 : (Jvm.Cond.selects "CargoFlag" ({ cls := "CargoFlag", name := "board", desc := "(II)I" } : Jvm.MethodName) ({ cls := "CargoFlag", name := "board", desc := "(II)I" } : Jvm.MethodName)) ∈ lw_all := lw_g (lw_at lw_m5 157 rfl) rfl
theorem q1293 : (Jvm.Cond.code ({ cls := "CargoFlag", name := "board", desc := "(II)I" } : Jvm.MethodName) prog_1_method_57_code (3 : Nat) (Option.some Jvm.ClassFile.FieldType.int)) ∈ lw_all := lw_g (lw_at lw_m5 158 rfl) rfl
theorem q1294 : (Jvm.Cond.methodLink "CargoFlag" (378 : Nat) ({ cls := "CargoFlag", name := "areShips", desc := "(II)Z" } : Jvm.MethodName)) ∈ lw_all := lw_g (lw_at lw_m5 159 rfl) rfl
theorem q1295 : (Jvm.Cond.privateMethod ({ cls := "CargoFlag", name := "areShips", desc := "(II)Z" } : Jvm.MethodName)) ∈ lw_tbl := lw_at lw_m5 160 rfl
theorem q1296 : (Jvm.Cond.instanceMethod ({ cls := "CargoFlag", name := "areShips", desc := "(II)Z" } : Jvm.MethodName)) ∈ lw_all := lw_g (lw_at lw_m5 161 rfl) rfl
theorem q1297 : (Jvm.Cond.code ({ cls := "CargoFlag", name := "areShips", desc := "(II)Z" } : Jvm.MethodName) prog_1_method_28_code (3 : Nat) (Option.some Jvm.ClassFile.FieldType.boolean)) ∈ lw_all := lw_g (lw_at lw_m5 162 rfl) rfl
theorem q1298 : (Jvm.Cond.methodLink "CargoFlag" (381 : Nat) ({ cls := "CargoFlag$World", name := "boards", desc := "(II)Z" } : Jvm.MethodName)) ∈ lw_all := lw_g (lw_at lw_m5 163 rfl) rfl
theorem q1304 : (Jvm.Cond.instanceMethod ({ cls := "CargoFlag", name := "boarders", desc := "(I)I" } : Jvm.MethodName)) ∈ lw_all := lw_g (lw_at lw_m5 169 rfl) rfl
theorem q1305 : (Jvm.Cond.selects "CargoFlag" ({ cls := "CargoFlag", name := "boarders", desc := "(I)I" } : Jvm.MethodName) ({ cls := "CargoFlag", name := "boarders", desc := "(I)I" } : Jvm.MethodName)) ∈ lw_all := lw_g (lw_at lw_m5 170 rfl) rfl
theorem q1306 : (Jvm.Cond.code ({ cls := "CargoFlag", name := "boarders", desc := "(I)I" } : Jvm.MethodName) prog_1_method_58_code (4 : Nat) (Option.some Jvm.ClassFile.FieldType.int)) ∈ lw_all := lw_g (lw_at lw_m5 171 rfl) rfl
theorem q1308 : (Jvm.Cond.instanceMethod ({ cls := "CargoFlag", name := "greatest", desc := "(I)I" } : Jvm.MethodName)) ∈ lw_all := lw_g (lw_at lw_m5 173 rfl) rfl
theorem q1309 : (Jvm.Cond.selects "CargoFlag" ({ cls := "CargoFlag", name := "greatest", desc := "(I)I" } : Jvm.MethodName) ({ cls := "CargoFlag", name := "greatest", desc := "(I)I" } : Jvm.MethodName)) ∈ lw_all := lw_g (lw_at lw_m5 174 rfl) rfl
theorem q1310 : (Jvm.Cond.code ({ cls := "CargoFlag", name := "greatest", desc := "(I)I" } : Jvm.MethodName) prog_1_method_59_code (5 : Nat) (Option.some Jvm.ClassFile.FieldType.int)) ∈ lw_all := lw_g (lw_at lw_m5 175 rfl) rfl
theorem q1312 : (Jvm.Cond.instanceMethod ({ cls := "CargoFlag", name := "buy", desc := "(III)I" } : Jvm.MethodName)) ∈ lw_all := lw_g (lw_at lw_m5 177 rfl) rfl
theorem q1313 : (Jvm.Cond.selects "CargoFlag" ({ cls := "CargoFlag", name := "buy", desc := "(III)I" } : Jvm.MethodName) ({ cls := "CargoFlag", name := "buy", desc := "(III)I" } : Jvm.MethodName)) ∈ lw_all := lw_g (lw_at lw_m5 178 rfl) rfl
theorem q1314 : (Jvm.Cond.code ({ cls := "CargoFlag", name := "buy", desc := "(III)I" } : Jvm.MethodName) prog_1_method_60_code (4 : Nat) (Option.some Jvm.ClassFile.FieldType.int)) ∈ lw_all := lw_g (lw_at lw_m5 179 rfl) rfl
theorem q1315 : (Jvm.Cond.methodLink "CargoFlag" (384 : Nat) ({ cls := "CargoFlag", name := "isLoad", desc := "(III)Z" } : Jvm.MethodName)) ∈ lw_all := lw_g (lw_at lw_m5 180 rfl) rfl
theorem q1316 : (Jvm.Cond.privateMethod ({ cls := "CargoFlag", name := "isLoad", desc := "(III)Z" } : Jvm.MethodName)) ∈ lw_tbl := lw_at lw_m5 181 rfl
theorem q1317 : (Jvm.Cond.instanceMethod ({ cls := "CargoFlag", name := "isLoad", desc := "(III)Z" } : Jvm.MethodName)) ∈ lw_all := lw_g (lw_at lw_m5 182 rfl) rfl
theorem q1318 : (Jvm.Cond.code ({ cls := "CargoFlag", name := "isLoad", desc := "(III)Z" } : Jvm.MethodName) prog_1_method_30_code (4 : Nat) (Option.some Jvm.ClassFile.FieldType.boolean)) ∈ lw_all := lw_g (lw_at lw_m5 183 rfl) rfl
theorem q1319 : (Jvm.Cond.constantLong "CargoFlag" (196 : Nat) (60 : Int64)) ∈ lw_all := lw_g (lw_at lw_m5 184 rfl) rfl
theorem q1320 : (Jvm.Cond.methodLink "CargoFlag" (388 : Nat) ({ cls := "CargoFlag$World", name := "buys", desc := "(III)Z" } : Jvm.MethodName)) ∈ lw_all := lw_g (lw_at lw_m5 185 rfl) rfl
theorem q1327 : (Jvm.Cond.instanceMethod ({ cls := "CargoFlag", name := "sell", desc := "(III)I" } : Jvm.MethodName)) ∈ lw_all := lw_g (lw_at lw_m5 192 rfl) rfl
theorem q1328 : (Jvm.Cond.selects "CargoFlag" ({ cls := "CargoFlag", name := "sell", desc := "(III)I" } : Jvm.MethodName) ({ cls := "CargoFlag", name := "sell", desc := "(III)I" } : Jvm.MethodName)) ∈ lw_all := lw_g (lw_at lw_m5 193 rfl) rfl
theorem q1329 : (Jvm.Cond.code ({ cls := "CargoFlag", name := "sell", desc := "(III)I" } : Jvm.MethodName) prog_1_method_61_code (4 : Nat) (Option.some Jvm.ClassFile.FieldType.int)) ∈ lw_all := lw_g (lw_at lw_m5 194 rfl) rfl
theorem q1330 : (Jvm.Cond.methodLink "CargoFlag" (391 : Nat) ({ cls := "CargoFlag$World", name := "sells", desc := "(III)Z" } : Jvm.MethodName)) ∈ lw_all := lw_g (lw_at lw_m5 195 rfl) rfl
theorem q1338 : (Jvm.Cond.instanceMethod ({ cls := "CargoFlag", name := "dump", desc := "(III)I" } : Jvm.MethodName)) ∈ lw_all := lw_g (lw_at lw_m5 203 rfl) rfl
theorem q1339 : (Jvm.Cond.selects "CargoFlag" ({ cls := "CargoFlag", name := "dump", desc := "(III)I" } : Jvm.MethodName) ({ cls := "CargoFlag", name := "dump", desc := "(III)I" } : Jvm.MethodName)) ∈ lw_all := lw_g (lw_at lw_m5 204 rfl) rfl
theorem q1340 : (Jvm.Cond.code ({ cls := "CargoFlag", name := "dump", desc := "(III)I" } : Jvm.MethodName) prog_1_method_62_code (4 : Nat) (Option.some Jvm.ClassFile.FieldType.int)) ∈ lw_all := lw_g (lw_at lw_m5 205 rfl) rfl
theorem q1341 : (Jvm.Cond.methodLink "CargoFlag" (394 : Nat) ({ cls := "CargoFlag$World", name := "dumps", desc := "(III)Z" } : Jvm.MethodName)) ∈ lw_all := lw_g (lw_at lw_m5 206 rfl) rfl
theorem q1346 : (Jvm.Cond.instanceMethod ({ cls := "CargoFlag", name := "sail", desc := "(II)I" } : Jvm.MethodName)) ∈ lw_all := lw_g (lw_at lw_m5 211 rfl) rfl
theorem q1347 : (Jvm.Cond.selects "CargoFlag" ({ cls := "CargoFlag", name := "sail", desc := "(II)I" } : Jvm.MethodName) ({ cls := "CargoFlag", name := "sail", desc := "(II)I" } : Jvm.MethodName)) ∈ lw_all := lw_g (lw_at lw_m5 212 rfl) rfl
theorem q1348 : (Jvm.Cond.code ({ cls := "CargoFlag", name := "sail", desc := "(II)I" } : Jvm.MethodName) prog_1_method_63_code (3 : Nat) (Option.some Jvm.ClassFile.FieldType.int)) ∈ lw_all := lw_g (lw_at lw_m5 213 rfl) rfl
theorem q1349 : (Jvm.Cond.methodLink "CargoFlag" (397 : Nat) ({ cls := "CargoFlag$World", name := "sails", desc := "(II)Z" } : Jvm.MethodName)) ∈ lw_all := lw_g (lw_at lw_m5 214 rfl) rfl
theorem q1354 : (Jvm.Cond.instanceMethod ({ cls := "CargoFlag", name := "day", desc := "(I)I" } : Jvm.MethodName)) ∈ lw_all := lw_g (lw_at lw_m5 219 rfl) rfl
theorem q1355 : (Jvm.Cond.selects "CargoFlag" ({ cls := "CargoFlag", name := "day", desc := "(I)I" } : Jvm.MethodName) ({ cls := "CargoFlag", name := "day", desc := "(I)I" } : Jvm.MethodName)) ∈ lw_all := lw_g (lw_at lw_m5 220 rfl) rfl
theorem q1356 : (Jvm.Cond.code ({ cls := "CargoFlag", name := "day", desc := "(I)I" } : Jvm.MethodName) prog_1_method_64_code (4 : Nat) (Option.some Jvm.ClassFile.FieldType.int)) ∈ lw_all := lw_g (lw_at lw_m5 221 rfl) rfl
theorem q1357 : (Jvm.Cond.constantLong "CargoFlag" (184 : Nat) (99 : Int64)) ∈ lw_all := lw_g (lw_at lw_m5 222 rfl) rfl
theorem q1358 : (Jvm.Cond.methodLink "CargoFlag" (400 : Nat) ({ cls := "CargoFlag$World", name := "goes", desc := "()I" } : Jvm.MethodName)) ∈ lw_all := lw_g (lw_at lw_m5 223 rfl) rfl
theorem q1378 : (Jvm.Cond.instanceMethod ({ cls := "CargoFlag", name := "pass", desc := "(IIII)Z" } : Jvm.MethodName)) ∈ lw_all := lw_g (lw_at lw_m6 3 rfl) rfl
theorem q1379 : (Jvm.Cond.selects "CargoFlag" ({ cls := "CargoFlag", name := "pass", desc := "(IIII)Z" } : Jvm.MethodName) ({ cls := "CargoFlag", name := "pass", desc := "(IIII)Z" } : Jvm.MethodName)) ∈ lw_all := lw_g (lw_at lw_m6 4 rfl) rfl
theorem q1380 : (Jvm.Cond.code ({ cls := "CargoFlag", name := "pass", desc := "(IIII)Z" } : Jvm.MethodName) prog_1_method_65_code (6 : Nat) (Option.some Jvm.ClassFile.FieldType.boolean)) ∈ lw_all := lw_g (lw_at lw_m6 5 rfl) rfl
theorem q1381 : (Jvm.Cond.methodLink "CargoFlag" (403 : Nat) ({ cls := "CargoFlag$World", name := "room", desc := "(I)I" } : Jvm.MethodName)) ∈ lw_all := lw_g (lw_at lw_m6 6 rfl) rfl
theorem q1383 : (Jvm.Cond.instanceMethod ({ cls := "CargoFlag", name := "rule", desc := "(I)Z" } : Jvm.MethodName)) ∈ lw_all := lw_g (lw_at lw_m6 8 rfl) rfl
theorem q1384 : (Jvm.Cond.selects "CargoFlag" ({ cls := "CargoFlag", name := "rule", desc := "(I)Z" } : Jvm.MethodName) ({ cls := "CargoFlag", name := "rule", desc := "(I)Z" } : Jvm.MethodName)) ∈ lw_all := lw_g (lw_at lw_m6 9 rfl) rfl
theorem q1385 : (Jvm.Cond.code ({ cls := "CargoFlag", name := "rule", desc := "(I)Z" } : Jvm.MethodName) prog_1_method_66_code (2 : Nat) (Option.some Jvm.ClassFile.FieldType.boolean)) ∈ lw_all := lw_g (lw_at lw_m6 10 rfl) rfl
theorem q1387 : (Jvm.Cond.instanceMethod ({ cls := "CargoFlag", name := "war", desc := "(IIZ)Z" } : Jvm.MethodName)) ∈ lw_all := lw_g (lw_at lw_m6 12 rfl) rfl
theorem q1388 : (Jvm.Cond.selects "CargoFlag" ({ cls := "CargoFlag", name := "war", desc := "(IIZ)Z" } : Jvm.MethodName) ({ cls := "CargoFlag", name := "war", desc := "(IIZ)Z" } : Jvm.MethodName)) ∈ lw_all := lw_g (lw_at lw_m6 13 rfl) rfl
theorem q1389 : (Jvm.Cond.code ({ cls := "CargoFlag", name := "war", desc := "(IIZ)Z" } : Jvm.MethodName) prog_1_method_67_code (4 : Nat) (Option.some Jvm.ClassFile.FieldType.boolean)) ∈ lw_all := lw_g (lw_at lw_m6 14 rfl) rfl
theorem q1390 : (Jvm.Cond.methodLink "CargoFlag" (406 : Nat) ({ cls := "CargoFlag", name := "has", desc := "(II)Z" } : Jvm.MethodName)) ∈ lw_all := lw_g (lw_at lw_m6 15 rfl) rfl
theorem q1392 : (Jvm.Cond.instanceMethod ({ cls := "CargoFlag", name := "trade", desc := "(III)Z" } : Jvm.MethodName)) ∈ lw_all := lw_g (lw_at lw_m6 17 rfl) rfl
theorem q1393 : (Jvm.Cond.selects "CargoFlag" ({ cls := "CargoFlag", name := "trade", desc := "(III)Z" } : Jvm.MethodName) ({ cls := "CargoFlag", name := "trade", desc := "(III)Z" } : Jvm.MethodName)) ∈ lw_all := lw_g (lw_at lw_m6 18 rfl) rfl
theorem q1394 : (Jvm.Cond.code ({ cls := "CargoFlag", name := "trade", desc := "(III)Z" } : Jvm.MethodName) prog_1_method_68_code (4 : Nat) (Option.some Jvm.ClassFile.FieldType.boolean)) ∈ lw_all := lw_g (lw_at lw_m6 19 rfl) rfl
theorem q1396 : (Jvm.Cond.instanceMethod ({ cls := "CargoFlag", name := "pay", desc := "(II)I" } : Jvm.MethodName)) ∈ lw_all := lw_g (lw_at lw_m6 21 rfl) rfl
theorem q1397 : (Jvm.Cond.selects "CargoFlag" ({ cls := "CargoFlag", name := "pay", desc := "(II)I" } : Jvm.MethodName) ({ cls := "CargoFlag", name := "pay", desc := "(II)I" } : Jvm.MethodName)) ∈ lw_all := lw_g (lw_at lw_m6 22 rfl) rfl
theorem q1398 : (Jvm.Cond.code ({ cls := "CargoFlag", name := "pay", desc := "(II)I" } : Jvm.MethodName) prog_1_method_69_code (3 : Nat) (Option.some Jvm.ClassFile.FieldType.int)) ∈ lw_all := lw_g (lw_at lw_m6 23 rfl) rfl
theorem q1399 : (Jvm.Cond.constantLong "CargoFlag" (409 : Nat) (-9999 : Int64)) ∈ lw_all := lw_g (lw_at lw_m6 24 rfl) rfl
theorem q1400 : (Jvm.Cond.constantLong "CargoFlag" (411 : Nat) (9999 : Int64)) ∈ lw_all := lw_g (lw_at lw_m6 25 rfl) rfl
theorem q1402 : (Jvm.Cond.instanceMethod ({ cls := "CargoFlag", name := "flagIn", desc := "(II)I" } : Jvm.MethodName)) ∈ lw_all := lw_g (lw_at lw_m6 27 rfl) rfl
theorem q1403 : (Jvm.Cond.selects "CargoFlag" ({ cls := "CargoFlag", name := "flagIn", desc := "(II)I" } : Jvm.MethodName) ({ cls := "CargoFlag", name := "flagIn", desc := "(II)I" } : Jvm.MethodName)) ∈ lw_all := lw_g (lw_at lw_m6 28 rfl) rfl
theorem q1404 : (Jvm.Cond.code ({ cls := "CargoFlag", name := "flagIn", desc := "(II)I" } : Jvm.MethodName) prog_1_method_71_code (3 : Nat) (Option.some Jvm.ClassFile.FieldType.int)) ∈ lw_all := lw_g (lw_at lw_m6 29 rfl) rfl
theorem q1405 : (Jvm.Cond.methodLink "CargoFlag" (415 : Nat) ({ cls := "CargoFlag", name := "areDays", desc := "(I)Z" } : Jvm.MethodName)) ∈ lw_all := lw_g (lw_at lw_m6 30 rfl) rfl
theorem q1406 : (Jvm.Cond.static ({ cls := "CargoFlag", name := "areDays", desc := "(I)Z" } : Jvm.MethodName)) ∈ lw_all := lw_g (lw_at lw_m6 31 rfl) rfl
theorem q1407 : (Jvm.Cond.code ({ cls := "CargoFlag", name := "areDays", desc := "(I)Z" } : Jvm.MethodName) prog_1_method_27_code (1 : Nat) (Option.some Jvm.ClassFile.FieldType.boolean)) ∈ lw_all := lw_g (lw_at lw_m6 32 rfl) rfl
theorem q1408 : (Jvm.Cond.methodLink "CargoFlag" (418 : Nat) ({ cls := "CargoFlag", name := "leakAside", desc := "(II)V" } : Jvm.MethodName)) ∈ lw_all := lw_g (lw_at lw_m6 33 rfl) rfl
theorem q1409 : (Jvm.Cond.privateMethod ({ cls := "CargoFlag", name := "leakAside", desc := "(II)V" } : Jvm.MethodName)) ∈ lw_tbl := lw_at lw_m6 34 rfl
theorem q1410 : (Jvm.Cond.instanceMethod ({ cls := "CargoFlag", name := "leakAside", desc := "(II)V" } : Jvm.MethodName)) ∈ lw_all := lw_g (lw_at lw_m6 35 rfl) rfl
theorem q1411 : (Jvm.Cond.code ({ cls := "CargoFlag", name := "leakAside", desc := "(II)V" } : Jvm.MethodName) prog_1_method_70_code (4 : Nat) (Option.none : Option Jvm.ClassFile.FieldType)) ∈ lw_all := lw_g (lw_at lw_m6 36 rfl) rfl
theorem q1412 : (Jvm.Cond.methodLink "CargoFlag" (413 : Nat) ({ cls := "CargoFlag$World", name := "leaks", desc := "(I)V" } : Jvm.MethodName)) ∈ lw_all := lw_g (lw_at lw_m6 37 rfl) rfl
theorem q1414 : (Jvm.Cond.instanceMethod ({ cls := "CargoFlag", name := "tonsIn", desc := "(II)I" } : Jvm.MethodName)) ∈ lw_all := lw_g (lw_at lw_m6 39 rfl) rfl
theorem q1415 : (Jvm.Cond.selects "CargoFlag" ({ cls := "CargoFlag", name := "tonsIn", desc := "(II)I" } : Jvm.MethodName) ({ cls := "CargoFlag", name := "tonsIn", desc := "(II)I" } : Jvm.MethodName)) ∈ lw_all := lw_g (lw_at lw_m6 40 rfl) rfl
theorem q1416 : (Jvm.Cond.code ({ cls := "CargoFlag", name := "tonsIn", desc := "(II)I" } : Jvm.MethodName) prog_1_method_72_code (3 : Nat) (Option.some Jvm.ClassFile.FieldType.int)) ∈ lw_all := lw_g (lw_at lw_m6 41 rfl) rfl
theorem q1418 : (Jvm.Cond.instanceMethod ({ cls := "CargoFlag", name := "turns", desc := "(I)I" } : Jvm.MethodName)) ∈ lw_all := lw_g (lw_at lw_m6 43 rfl) rfl
theorem q1419 : (Jvm.Cond.selects "CargoFlag" ({ cls := "CargoFlag", name := "turns", desc := "(I)I" } : Jvm.MethodName) ({ cls := "CargoFlag", name := "turns", desc := "(I)I" } : Jvm.MethodName)) ∈ lw_all := lw_g (lw_at lw_m6 44 rfl) rfl
theorem q1420 : (Jvm.Cond.code ({ cls := "CargoFlag", name := "turns", desc := "(I)I" } : Jvm.MethodName) prog_1_method_73_code (3 : Nat) (Option.some Jvm.ClassFile.FieldType.int)) ∈ lw_all := lw_g (lw_at lw_m6 45 rfl) rfl
theorem q1422 : (Jvm.Cond.instanceMethod ({ cls := "CargoFlag", name := "flags", desc := "(II)I" } : Jvm.MethodName)) ∈ lw_all := lw_g (lw_at lw_m6 47 rfl) rfl
theorem q1423 : (Jvm.Cond.selects "CargoFlag" ({ cls := "CargoFlag", name := "flags", desc := "(II)I" } : Jvm.MethodName) ({ cls := "CargoFlag", name := "flags", desc := "(II)I" } : Jvm.MethodName)) ∈ lw_all := lw_g (lw_at lw_m6 48 rfl) rfl
theorem q1424 : (Jvm.Cond.code ({ cls := "CargoFlag", name := "flags", desc := "(II)I" } : Jvm.MethodName) prog_1_method_74_code (7 : Nat) (Option.some Jvm.ClassFile.FieldType.int)) ∈ lw_all := lw_g (lw_at lw_m6 49 rfl) rfl
theorem q1426 : (Jvm.Cond.instanceMethod ({ cls := "CargoFlag", name := "wages", desc := "(II)I" } : Jvm.MethodName)) ∈ lw_all := lw_g (lw_at lw_m6 51 rfl) rfl
theorem q1427 : (Jvm.Cond.selects "CargoFlag" ({ cls := "CargoFlag", name := "wages", desc := "(II)I" } : Jvm.MethodName) ({ cls := "CargoFlag", name := "wages", desc := "(II)I" } : Jvm.MethodName)) ∈ lw_all := lw_g (lw_at lw_m6 52 rfl) rfl
theorem q1428 : (Jvm.Cond.code ({ cls := "CargoFlag", name := "wages", desc := "(II)I" } : Jvm.MethodName) prog_1_method_75_code (6 : Nat) (Option.some Jvm.ClassFile.FieldType.int)) ∈ lw_all := lw_g (lw_at lw_m6 53 rfl) rfl
theorem q1430 : (Jvm.Cond.instanceMethod ({ cls := "CargoFlag", name := "stowaway", desc := "(I)I" } : Jvm.MethodName)) ∈ lw_all := lw_g (lw_at lw_m6 55 rfl) rfl
theorem q1431 : (Jvm.Cond.selects "CargoFlag" ({ cls := "CargoFlag", name := "stowaway", desc := "(I)I" } : Jvm.MethodName) ({ cls := "CargoFlag", name := "stowaway", desc := "(I)I" } : Jvm.MethodName)) ∈ lw_all := lw_g (lw_at lw_m6 56 rfl) rfl
theorem q1432 : (Jvm.Cond.code ({ cls := "CargoFlag", name := "stowaway", desc := "(I)I" } : Jvm.MethodName) prog_1_method_78_code (2 : Nat) (Option.some Jvm.ClassFile.FieldType.int)) ∈ lw_all := lw_g (lw_at lw_m6 57 rfl) rfl
theorem q1433 : (Jvm.Cond.methodLink "CargoFlag" (431 : Nat) ({ cls := "CargoFlag", name := "turning", desc := "(I)I" } : Jvm.MethodName)) ∈ lw_all := lw_g (lw_at lw_m6 58 rfl) rfl
theorem q1434 : (Jvm.Cond.privateMethod ({ cls := "CargoFlag", name := "turning", desc := "(I)I" } : Jvm.MethodName)) ∈ lw_tbl := lw_at lw_m6 59 rfl
theorem q1435 : (Jvm.Cond.instanceMethod ({ cls := "CargoFlag", name := "turning", desc := "(I)I" } : Jvm.MethodName)) ∈ lw_all := lw_g (lw_at lw_m6 60 rfl) rfl
theorem q1436 : (Jvm.Cond.code ({ cls := "CargoFlag", name := "turning", desc := "(I)I" } : Jvm.MethodName) prog_1_method_77_code (5 : Nat) (Option.some Jvm.ClassFile.FieldType.int)) ∈ lw_all := lw_g (lw_at lw_m6 61 rfl) rfl
theorem q1437 : (Jvm.Cond.methodLink "CargoFlag" (425 : Nat) ({ cls := "CargoFlag", name := "captainsWith", desc := "(III)I" } : Jvm.MethodName)) ∈ lw_all := lw_g (lw_at lw_m6 62 rfl) rfl
theorem q1438 : (Jvm.Cond.privateMethod ({ cls := "CargoFlag", name := "captainsWith", desc := "(III)I" } : Jvm.MethodName)) ∈ lw_tbl := lw_at lw_m6 63 rfl
theorem q1439 : (Jvm.Cond.instanceMethod ({ cls := "CargoFlag", name := "captainsWith", desc := "(III)I" } : Jvm.MethodName)) ∈ lw_all := lw_g (lw_at lw_m6 64 rfl) rfl
theorem q1440 : (Jvm.Cond.code ({ cls := "CargoFlag", name := "captainsWith", desc := "(III)I" } : Jvm.MethodName) prog_1_method_76_code (7 : Nat) (Option.some Jvm.ClassFile.FieldType.int)) ∈ lw_all := lw_g (lw_at lw_m6 65 rfl) rfl
theorem q1441 : (Jvm.Cond.methodLink "CargoFlag" (422 : Nat) ({ cls := "java/lang/Math", name := "max", desc := "(II)I" } : Jvm.MethodName)) ∈ lw_all := lw_g (lw_at lw_m6 66 rfl) rfl
theorem q1443 : (Jvm.Cond.instanceMethod ({ cls := "CargoFlag", name := "stowawayGood", desc := "(I)I" } : Jvm.MethodName)) ∈ lw_all := lw_g (lw_at lw_m6 68 rfl) rfl
theorem q1444 : (Jvm.Cond.selects "CargoFlag" ({ cls := "CargoFlag", name := "stowawayGood", desc := "(I)I" } : Jvm.MethodName) ({ cls := "CargoFlag", name := "stowawayGood", desc := "(I)I" } : Jvm.MethodName)) ∈ lw_all := lw_g (lw_at lw_m6 69 rfl) rfl
theorem q1445 : (Jvm.Cond.code ({ cls := "CargoFlag", name := "stowawayGood", desc := "(I)I" } : Jvm.MethodName) prog_1_method_79_code (2 : Nat) (Option.some Jvm.ClassFile.FieldType.int)) ∈ lw_all := lw_g (lw_at lw_m6 70 rfl) rfl
theorem q1447 : (Jvm.Cond.instanceMethod ({ cls := "CargoFlag", name := "guard", desc := "(II)I" } : Jvm.MethodName)) ∈ lw_all := lw_g (lw_at lw_m6 72 rfl) rfl
theorem q1448 : (Jvm.Cond.selects "CargoFlag" ({ cls := "CargoFlag", name := "guard", desc := "(II)I" } : Jvm.MethodName) ({ cls := "CargoFlag", name := "guard", desc := "(II)I" } : Jvm.MethodName)) ∈ lw_all := lw_g (lw_at lw_m6 73 rfl) rfl
theorem q1449 : (Jvm.Cond.code ({ cls := "CargoFlag", name := "guard", desc := "(II)I" } : Jvm.MethodName) prog_1_method_80_code (5 : Nat) (Option.some Jvm.ClassFile.FieldType.int)) ∈ lw_all := lw_g (lw_at lw_m6 74 rfl) rfl
theorem q1451 : (Jvm.Cond.instanceMethod ({ cls := "CargoFlag", name := "passFor", desc := "(II)I" } : Jvm.MethodName)) ∈ lw_all := lw_g (lw_at lw_m6 76 rfl) rfl
theorem q1452 : (Jvm.Cond.selects "CargoFlag" ({ cls := "CargoFlag", name := "passFor", desc := "(II)I" } : Jvm.MethodName) ({ cls := "CargoFlag", name := "passFor", desc := "(II)I" } : Jvm.MethodName)) ∈ lw_all := lw_g (lw_at lw_m6 77 rfl) rfl
theorem q1453 : (Jvm.Cond.code ({ cls := "CargoFlag", name := "passFor", desc := "(II)I" } : Jvm.MethodName) prog_1_method_82_code (3 : Nat) (Option.some Jvm.ClassFile.FieldType.int)) ∈ lw_all := lw_g (lw_at lw_m6 78 rfl) rfl
theorem q1454 : (Jvm.Cond.methodLink "CargoFlag" (437 : Nat) ({ cls := "CargoFlag", name := "passing", desc := "(II)I" } : Jvm.MethodName)) ∈ lw_all := lw_g (lw_at lw_m6 79 rfl) rfl
theorem q1455 : (Jvm.Cond.privateMethod ({ cls := "CargoFlag", name := "passing", desc := "(II)I" } : Jvm.MethodName)) ∈ lw_tbl := lw_at lw_m6 80 rfl
theorem q1456 : (Jvm.Cond.instanceMethod ({ cls := "CargoFlag", name := "passing", desc := "(II)I" } : Jvm.MethodName)) ∈ lw_all := lw_g (lw_at lw_m6 81 rfl) rfl
theorem q1457 : (Jvm.Cond.code ({ cls := "CargoFlag", name := "passing", desc := "(II)I" } : Jvm.MethodName) prog_1_method_81_code (6 : Nat) (Option.some Jvm.ClassFile.FieldType.int)) ∈ lw_all := lw_g (lw_at lw_m6 82 rfl) rfl
theorem q1459 : (Jvm.Cond.instanceMethod ({ cls := "CargoFlag", name := "passGood", desc := "(II)I" } : Jvm.MethodName)) ∈ lw_all := lw_g (lw_at lw_m6 84 rfl) rfl
theorem q1460 : (Jvm.Cond.selects "CargoFlag" ({ cls := "CargoFlag", name := "passGood", desc := "(II)I" } : Jvm.MethodName) ({ cls := "CargoFlag", name := "passGood", desc := "(II)I" } : Jvm.MethodName)) ∈ lw_all := lw_g (lw_at lw_m6 85 rfl) rfl
theorem q1461 : (Jvm.Cond.code ({ cls := "CargoFlag", name := "passGood", desc := "(II)I" } : Jvm.MethodName) prog_1_method_83_code (3 : Nat) (Option.some Jvm.ClassFile.FieldType.int)) ∈ lw_all := lw_g (lw_at lw_m6 86 rfl) rfl
theorem q1463 : (Jvm.Cond.instanceMethod ({ cls := "CargoFlag", name := "peace", desc := "(I)I" } : Jvm.MethodName)) ∈ lw_all := lw_g (lw_at lw_m6 88 rfl) rfl
theorem q1464 : (Jvm.Cond.selects "CargoFlag" ({ cls := "CargoFlag", name := "peace", desc := "(I)I" } : Jvm.MethodName) ({ cls := "CargoFlag", name := "peace", desc := "(I)I" } : Jvm.MethodName)) ∈ lw_all := lw_g (lw_at lw_m6 89 rfl) rfl
theorem q1465 : (Jvm.Cond.code ({ cls := "CargoFlag", name := "peace", desc := "(I)I" } : Jvm.MethodName) prog_1_method_85_code (2 : Nat) (Option.some Jvm.ClassFile.FieldType.int)) ∈ lw_all := lw_g (lw_at lw_m6 90 rfl) rfl
theorem q1466 : (Jvm.Cond.methodLink "CargoFlag" (446 : Nat) ({ cls := "CargoFlag", name := "peaceful", desc := "(I)I" } : Jvm.MethodName)) ∈ lw_all := lw_g (lw_at lw_m6 91 rfl) rfl
theorem q1467 : (Jvm.Cond.privateMethod ({ cls := "CargoFlag", name := "peaceful", desc := "(I)I" } : Jvm.MethodName)) ∈ lw_tbl := lw_at lw_m6 92 rfl
theorem q1468 : (Jvm.Cond.instanceMethod ({ cls := "CargoFlag", name := "peaceful", desc := "(I)I" } : Jvm.MethodName)) ∈ lw_all := lw_g (lw_at lw_m6 93 rfl) rfl
theorem q1469 : (Jvm.Cond.code ({ cls := "CargoFlag", name := "peaceful", desc := "(I)I" } : Jvm.MethodName) prog_1_method_84_code (7 : Nat) (Option.some Jvm.ClassFile.FieldType.int)) ∈ lw_all := lw_g (lw_at lw_m6 94 rfl) rfl
theorem q1470 : (Jvm.Cond.methodLinkNest "CargoFlag" (443 : Nat) ({ cls := "CargoFlag$World", name := "alone", desc := "(I)I" } : Jvm.MethodName) "CargoFlag") ∈ lw_tbl := lw_at lw_m6 95 rfl
theorem q1472 : (Jvm.Cond.instanceMethod ({ cls := "CargoFlag", name := "peaceCost", desc := "(I)I" } : Jvm.MethodName)) ∈ lw_all := lw_g (lw_at lw_m6 97 rfl) rfl
theorem q1473 : (Jvm.Cond.selects "CargoFlag" ({ cls := "CargoFlag", name := "peaceCost", desc := "(I)I" } : Jvm.MethodName) ({ cls := "CargoFlag", name := "peaceCost", desc := "(I)I" } : Jvm.MethodName)) ∈ lw_all := lw_g (lw_at lw_m6 98 rfl) rfl
theorem q1474 : (Jvm.Cond.code ({ cls := "CargoFlag", name := "peaceCost", desc := "(I)I" } : Jvm.MethodName) prog_1_method_86_code (2 : Nat) (Option.some Jvm.ClassFile.FieldType.int)) ∈ lw_all := lw_g (lw_at lw_m6 99 rfl) rfl
theorem q1476 : (Jvm.Cond.instanceMethod ({ cls := "CargoFlag", name := "voyage", desc := "(II)I" } : Jvm.MethodName)) ∈ lw_all := lw_g (lw_at lw_m6 101 rfl) rfl
theorem q1477 : (Jvm.Cond.selects "CargoFlag" ({ cls := "CargoFlag", name := "voyage", desc := "(II)I" } : Jvm.MethodName) ({ cls := "CargoFlag", name := "voyage", desc := "(II)I" } : Jvm.MethodName)) ∈ lw_all := lw_g (lw_at lw_m6 102 rfl) rfl
theorem q1478 : (Jvm.Cond.code ({ cls := "CargoFlag", name := "voyage", desc := "(II)I" } : Jvm.MethodName) prog_1_method_93_code (3 : Nat) (Option.some Jvm.ClassFile.FieldType.int)) ∈ lw_all := lw_g (lw_at lw_m6 103 rfl) rfl
theorem q1479 : (Jvm.Cond.methodLink "CargoFlag" (473 : Nat) ({ cls := "CargoFlag", name := "whyNoVoyage", desc := "(II)I" } : Jvm.MethodName)) ∈ lw_all := lw_g (lw_at lw_m6 104 rfl) rfl
theorem q1480 : (Jvm.Cond.privateMethod ({ cls := "CargoFlag", name := "whyNoVoyage", desc := "(II)I" } : Jvm.MethodName)) ∈ lw_tbl := lw_at lw_m6 105 rfl
theorem q1481 : (Jvm.Cond.instanceMethod ({ cls := "CargoFlag", name := "whyNoVoyage", desc := "(II)I" } : Jvm.MethodName)) ∈ lw_all := lw_g (lw_at lw_m6 106 rfl) rfl
theorem q1482 : (Jvm.Cond.code ({ cls := "CargoFlag", name := "whyNoVoyage", desc := "(II)I" } : Jvm.MethodName) prog_1_method_92_code (3 : Nat) (Option.some Jvm.ClassFile.FieldType.int)) ∈ lw_all := lw_g (lw_at lw_m6 107 rfl) rfl
theorem q1483 : (Jvm.Cond.methodLink "CargoFlag" (466 : Nat) ({ cls := "CargoFlag", name := "triesLegs", desc := "(III)V" } : Jvm.MethodName)) ∈ lw_all := lw_g (lw_at lw_m6 108 rfl) rfl
theorem q1484 : (Jvm.Cond.privateMethod ({ cls := "CargoFlag", name := "triesLegs", desc := "(III)V" } : Jvm.MethodName)) ∈ lw_tbl := lw_at lw_m6 109 rfl
theorem q1485 : (Jvm.Cond.instanceMethod ({ cls := "CargoFlag", name := "triesLegs", desc := "(III)V" } : Jvm.MethodName)) ∈ lw_all := lw_g (lw_at lw_m6 110 rfl) rfl
theorem q1486 : (Jvm.Cond.code ({ cls := "CargoFlag", name := "triesLegs", desc := "(III)V" } : Jvm.MethodName) prog_1_method_90_code (7 : Nat) (Option.none : Option Jvm.ClassFile.FieldType)) ∈ lw_all := lw_g (lw_at lw_m6 111 rfl) rfl
theorem q1487 : (Jvm.Cond.methodLink "CargoFlag" (449 : Nat) ({ cls := "CargoFlag", name := "sellsAll", desc := "(I)V" } : Jvm.MethodName)) ∈ lw_all := lw_g (lw_at lw_m6 112 rfl) rfl
theorem q1488 : (Jvm.Cond.privateMethod ({ cls := "CargoFlag", name := "sellsAll", desc := "(I)V" } : Jvm.MethodName)) ∈ lw_tbl := lw_at lw_m6 113 rfl
theorem q1489 : (Jvm.Cond.instanceMethod ({ cls := "CargoFlag", name := "sellsAll", desc := "(I)V" } : Jvm.MethodName)) ∈ lw_all := lw_g (lw_at lw_m6 114 rfl) rfl
theorem q1490 : (Jvm.Cond.code ({ cls := "CargoFlag", name := "sellsAll", desc := "(I)V" } : Jvm.MethodName) prog_1_method_89_code (4 : Nat) (Option.none : Option Jvm.ClassFile.FieldType)) ∈ lw_all := lw_g (lw_at lw_m6 115 rfl) rfl
theorem q1491 : (Jvm.Cond.methodLink "CargoFlag" (455 : Nat) ({ cls := "CargoFlag", name := "laysLeg", desc := "(II)V" } : Jvm.MethodName)) ∈ lw_all := lw_g (lw_at lw_m6 116 rfl) rfl
theorem q1492 : (Jvm.Cond.privateMethod ({ cls := "CargoFlag", name := "laysLeg", desc := "(II)V" } : Jvm.MethodName)) ∈ lw_tbl := lw_at lw_m6 117 rfl
theorem q1493 : (Jvm.Cond.instanceMethod ({ cls := "CargoFlag", name := "laysLeg", desc := "(II)V" } : Jvm.MethodName)) ∈ lw_all := lw_g (lw_at lw_m6 118 rfl) rfl
theorem q1494 : (Jvm.Cond.code ({ cls := "CargoFlag", name := "laysLeg", desc := "(II)V" } : Jvm.MethodName) prog_1_method_87_code (4 : Nat) (Option.none : Option Jvm.ClassFile.FieldType)) ∈ lw_all := lw_g (lw_at lw_m6 119 rfl) rfl
theorem q1495 : (Jvm.Cond.methodLink "CargoFlag" (458 : Nat) ({ cls := "CargoFlag", name := "takesLeg", desc := "(II)V" } : Jvm.MethodName)) ∈ lw_all := lw_g (lw_at lw_m6 120 rfl) rfl
theorem q1496 : (Jvm.Cond.privateMethod ({ cls := "CargoFlag", name := "takesLeg", desc := "(II)V" } : Jvm.MethodName)) ∈ lw_tbl := lw_at lw_m6 121 rfl
theorem q1497 : (Jvm.Cond.instanceMethod ({ cls := "CargoFlag", name := "takesLeg", desc := "(II)V" } : Jvm.MethodName)) ∈ lw_all := lw_g (lw_at lw_m6 122 rfl) rfl
theorem q1498 : (Jvm.Cond.code ({ cls := "CargoFlag", name := "takesLeg", desc := "(II)V" } : Jvm.MethodName) prog_1_method_88_code (4 : Nat) (Option.none : Option Jvm.ClassFile.FieldType)) ∈ lw_all := lw_g (lw_at lw_m6 123 rfl) rfl
theorem q1499 : (Jvm.Cond.methodLink "CargoFlag" (461 : Nat) ({ cls := "CargoFlag", name := "buysAll", desc := "(II)Z" } : Jvm.MethodName)) ∈ lw_all := lw_g (lw_at lw_m6 124 rfl) rfl
theorem q1500 : (Jvm.Cond.privateMethod ({ cls := "CargoFlag", name := "buysAll", desc := "(II)Z" } : Jvm.MethodName)) ∈ lw_tbl := lw_at lw_m6 125 rfl
theorem q1501 : (Jvm.Cond.instanceMethod ({ cls := "CargoFlag", name := "buysAll", desc := "(II)Z" } : Jvm.MethodName)) ∈ lw_all := lw_g (lw_at lw_m6 126 rfl) rfl
theorem q1502 : (Jvm.Cond.code ({ cls := "CargoFlag", name := "buysAll", desc := "(II)Z" } : Jvm.MethodName) prog_1_method_91_code (5 : Nat) (Option.some Jvm.ClassFile.FieldType.boolean)) ∈ lw_all := lw_g (lw_at lw_m6 127 rfl) rfl
theorem q1503 : (Jvm.Cond.methodLink "CargoFlag" (470 : Nat) ({ cls := "java/lang/Math", name := "min", desc := "(II)I" } : Jvm.MethodName)) ∈ lw_all := lw_g (lw_at lw_m6 128 rfl) rfl
theorem q1504 : (Jvm.Cond.methodLink "CargoFlag" (464 : Nat) ({ cls := "CargoFlag$World", name := "goes", desc := "(I)Z" } : Jvm.MethodName)) ∈ lw_all := lw_g (lw_at lw_m6 129 rfl) rfl
theorem q1506 : (Jvm.Cond.instanceMethod ({ cls := "CargoFlag", name := "voyageAt", desc := "(III)I" } : Jvm.MethodName)) ∈ lw_all := lw_g (lw_at lw_m6 131 rfl) rfl
theorem q1507 : (Jvm.Cond.selects "CargoFlag" ({ cls := "CargoFlag", name := "voyageAt", desc := "(III)I" } : Jvm.MethodName) ({ cls := "CargoFlag", name := "voyageAt", desc := "(III)I" } : Jvm.MethodName)) ∈ lw_all := lw_g (lw_at lw_m6 132 rfl) rfl
theorem q1508 : (Jvm.Cond.code ({ cls := "CargoFlag", name := "voyageAt", desc := "(III)I" } : Jvm.MethodName) prog_1_method_94_code (4 : Nat) (Option.some Jvm.ClassFile.FieldType.int)) ∈ lw_all := lw_g (lw_at lw_m6 133 rfl) rfl
theorem q1510 : (Jvm.Cond.instanceMethod ({ cls := "CargoFlag", name := "soonest", desc := "(II)I" } : Jvm.MethodName)) ∈ lw_all := lw_g (lw_at lw_m6 135 rfl) rfl
theorem q1511 : (Jvm.Cond.selects "CargoFlag" ({ cls := "CargoFlag", name := "soonest", desc := "(II)I" } : Jvm.MethodName) ({ cls := "CargoFlag", name := "soonest", desc := "(II)I" } : Jvm.MethodName)) ∈ lw_all := lw_g (lw_at lw_m6 136 rfl) rfl
theorem q1512 : (Jvm.Cond.code ({ cls := "CargoFlag", name := "soonest", desc := "(II)I" } : Jvm.MethodName) prog_1_method_96_code (3 : Nat) (Option.some Jvm.ClassFile.FieldType.int)) ∈ lw_all := lw_g (lw_at lw_m6 137 rfl) rfl
theorem q1513 : (Jvm.Cond.methodLink "CargoFlag" (476 : Nat) ({ cls := "CargoFlag", name := "laysWays", desc := "(I)V" } : Jvm.MethodName)) ∈ lw_all := lw_g (lw_at lw_m6 138 rfl) rfl
theorem q1514 : (Jvm.Cond.privateMethod ({ cls := "CargoFlag", name := "laysWays", desc := "(I)V" } : Jvm.MethodName)) ∈ lw_tbl := lw_at lw_m6 139 rfl
theorem q1515 : (Jvm.Cond.instanceMethod ({ cls := "CargoFlag", name := "laysWays", desc := "(I)V" } : Jvm.MethodName)) ∈ lw_all := lw_g (lw_at lw_m6 140 rfl) rfl
theorem q1516 : (Jvm.Cond.code ({ cls := "CargoFlag", name := "laysWays", desc := "(I)V" } : Jvm.MethodName) prog_1_method_95_code (6 : Nat) (Option.none : Option Jvm.ClassFile.FieldType)) ∈ lw_all := lw_g (lw_at lw_m6 141 rfl) rfl
theorem q1518 : (Jvm.Cond.instanceMethod ({ cls := "CargoFlag", name := "next", desc := "(II)I" } : Jvm.MethodName)) ∈ lw_all := lw_g (lw_at lw_m6 143 rfl) rfl
theorem q1519 : (Jvm.Cond.selects "CargoFlag" ({ cls := "CargoFlag", name := "next", desc := "(II)I" } : Jvm.MethodName) ({ cls := "CargoFlag", name := "next", desc := "(II)I" } : Jvm.MethodName)) ∈ lw_all := lw_g (lw_at lw_m6 144 rfl) rfl
theorem q1520 : (Jvm.Cond.code ({ cls := "CargoFlag", name := "next", desc := "(II)I" } : Jvm.MethodName) prog_1_method_97_code (5 : Nat) (Option.some Jvm.ClassFile.FieldType.int)) ∈ lw_all := lw_g (lw_at lw_m6 145 rfl) rfl
theorem q1522 : (Jvm.Cond.instanceMethod ({ cls := "CargoFlag", name := "reach", desc := "(I)I" } : Jvm.MethodName)) ∈ lw_all := lw_g (lw_at lw_m6 147 rfl) rfl
theorem q1523 : (Jvm.Cond.selects "CargoFlag" ({ cls := "CargoFlag", name := "reach", desc := "(I)I" } : Jvm.MethodName) ({ cls := "CargoFlag", name := "reach", desc := "(I)I" } : Jvm.MethodName)) ∈ lw_all := lw_g (lw_at lw_m6 148 rfl) rfl
theorem q1524 : (Jvm.Cond.code ({ cls := "CargoFlag", name := "reach", desc := "(I)I" } : Jvm.MethodName) prog_1_method_98_code (4 : Nat) (Option.some Jvm.ClassFile.FieldType.int)) ∈ lw_all := lw_g (lw_at lw_m6 149 rfl) rfl
theorem q1526 : (Jvm.Cond.instanceMethod ({ cls := "CargoFlag", name := "best", desc := "(II)I" } : Jvm.MethodName)) ∈ lw_all := lw_g (lw_at lw_m6 151 rfl) rfl
theorem q1527 : (Jvm.Cond.selects "CargoFlag" ({ cls := "CargoFlag", name := "best", desc := "(II)I" } : Jvm.MethodName) ({ cls := "CargoFlag", name := "best", desc := "(II)I" } : Jvm.MethodName)) ∈ lw_all := lw_g (lw_at lw_m6 152 rfl) rfl
theorem q1528 : (Jvm.Cond.code ({ cls := "CargoFlag", name := "best", desc := "(II)I" } : Jvm.MethodName) prog_1_method_99_code (8 : Nat) (Option.some Jvm.ClassFile.FieldType.int)) ∈ lw_all := lw_g (lw_at lw_m6 153 rfl) rfl
theorem q1530 : (Jvm.Cond.instanceMethod ({ cls := "CargoFlag", name := "log", desc := "(III)I" } : Jvm.MethodName)) ∈ lw_all := lw_g (lw_at lw_m6 155 rfl) rfl
theorem q1531 : (Jvm.Cond.selects "CargoFlag" ({ cls := "CargoFlag", name := "log", desc := "(III)I" } : Jvm.MethodName) ({ cls := "CargoFlag", name := "log", desc := "(III)I" } : Jvm.MethodName)) ∈ lw_all := lw_g (lw_at lw_m6 156 rfl) rfl
theorem q1532 : (Jvm.Cond.codeWith ({ cls := "CargoFlag", name := "log", desc := "(III)I" } : Jvm.MethodName) prog_1_method_105_code (5 : Nat) (Option.some Jvm.ClassFile.FieldType.int) [((5 : Nat), (12 : Nat), (13 : Nat), (41 : Nat))]) ∈ lw_all := lw_g (lw_at lw_m6 157 rfl) rfl
theorem q1533 : (Jvm.Cond.methodLink "CargoFlag" (501 : Nat) ({ cls := "CargoFlag", name := "ways", desc := "(III)I" } : Jvm.MethodName)) ∈ lw_all := lw_g (lw_at lw_m6 158 rfl) rfl
theorem q1534 : (Jvm.Cond.privateMethod ({ cls := "CargoFlag", name := "ways", desc := "(III)I" } : Jvm.MethodName)) ∈ lw_tbl := lw_at lw_m6 159 rfl
theorem q1535 : (Jvm.Cond.instanceMethod ({ cls := "CargoFlag", name := "ways", desc := "(III)I" } : Jvm.MethodName)) ∈ lw_all := lw_g (lw_at lw_m6 160 rfl) rfl
theorem q1536 : (Jvm.Cond.code ({ cls := "CargoFlag", name := "ways", desc := "(III)I" } : Jvm.MethodName) prog_1_method_104_code (10 : Nat) (Option.some Jvm.ClassFile.FieldType.int)) ∈ lw_all := lw_g (lw_at lw_m6 161 rfl) rfl
theorem q1537 : (Jvm.Cond.methodLink "CargoFlag" (491 : Nat) ({ cls := "CargoFlag", name := "logOn", desc := "(II)Ljava/lang/Object;" } : Jvm.MethodName)) ∈ lw_all := lw_g (lw_at lw_m6 162 rfl) rfl
theorem q1538 : (Jvm.Cond.privateMethod ({ cls := "CargoFlag", name := "logOn", desc := "(II)Ljava/lang/Object;" } : Jvm.MethodName)) ∈ lw_tbl := lw_at lw_m6 163 rfl
theorem q1539 : (Jvm.Cond.instanceMethod ({ cls := "CargoFlag", name := "logOn", desc := "(II)Ljava/lang/Object;" } : Jvm.MethodName)) ∈ lw_all := lw_g (lw_at lw_m6 164 rfl) rfl
theorem q1540 : (Jvm.Cond.code ({ cls := "CargoFlag", name := "logOn", desc := "(II)Ljava/lang/Object;" } : Jvm.MethodName) prog_1_method_100_code (4 : Nat) (Option.some (Jvm.ClassFile.FieldType.object "java/lang/Object"))) ∈ lw_all := lw_g (lw_at lw_m6 165 rfl) rfl
theorem q1541 : (Jvm.Cond.constantLong "CargoFlag" (479 : Nat) (20 : Int64)) ∈ lw_all := lw_g (lw_at lw_m6 166 rfl) rfl
theorem q1542 : (Jvm.Cond.methodLink "CargoFlag" (481 : Nat) ({ cls := "CargoFlag", name := "sizeOf", desc := "(Ljava/lang/Object;)I" } : Jvm.MethodName)) ∈ lw_all := lw_g (lw_at lw_m6 167 rfl) rfl
theorem q1543 : (Jvm.Cond.static ({ cls := "CargoFlag", name := "sizeOf", desc := "(Ljava/lang/Object;)I" } : Jvm.MethodName)) ∈ lw_all := lw_g (lw_at lw_m6 168 rfl) rfl
theorem q1544 : (Jvm.Cond.code ({ cls := "CargoFlag", name := "sizeOf", desc := "(Ljava/lang/Object;)I" } : Jvm.MethodName) prog_1_method_3_code (2 : Nat) (Option.some Jvm.ClassFile.FieldType.int)) ∈ lw_all := lw_g (lw_at lw_m6 169 rfl) rfl
theorem q1545 : (Jvm.Cond.methodLink "CargoFlag" (497 : Nat) ({ cls := "CargoFlag", name := "isLogged", desc := "(Ljava/lang/Object;IIIII)Z" } : Jvm.MethodName)) ∈ lw_all := lw_g (lw_at lw_m6 170 rfl) rfl
theorem q1546 : (Jvm.Cond.privateMethod ({ cls := "CargoFlag", name := "isLogged", desc := "(Ljava/lang/Object;IIIII)Z" } : Jvm.MethodName)) ∈ lw_tbl := lw_at lw_m6 171 rfl
theorem q1547 : (Jvm.Cond.instanceMethod ({ cls := "CargoFlag", name := "isLogged", desc := "(Ljava/lang/Object;IIIII)Z" } : Jvm.MethodName)) ∈ lw_all := lw_g (lw_at lw_m6 172 rfl) rfl
theorem q1548 : (Jvm.Cond.code ({ cls := "CargoFlag", name := "isLogged", desc := "(Ljava/lang/Object;IIIII)Z" } : Jvm.MethodName) prog_1_method_103_code (8 : Nat) (Option.some Jvm.ClassFile.FieldType.boolean)) ∈ lw_all := lw_g (lw_at lw_m6 173 rfl) rfl
theorem q1549 : (Jvm.Cond.methodLink "CargoFlag" (487 : Nat) ({ cls := "CargoFlag", name := "ruledOf", desc := "(IIII)I" } : Jvm.MethodName)) ∈ lw_all := lw_g (lw_at lw_m6 174 rfl) rfl
theorem q1550 : (Jvm.Cond.privateMethod ({ cls := "CargoFlag", name := "ruledOf", desc := "(IIII)I" } : Jvm.MethodName)) ∈ lw_tbl := lw_at lw_m6 175 rfl
theorem q1551 : (Jvm.Cond.instanceMethod ({ cls := "CargoFlag", name := "ruledOf", desc := "(IIII)I" } : Jvm.MethodName)) ∈ lw_all := lw_g (lw_at lw_m6 176 rfl) rfl
theorem q1552 : (Jvm.Cond.code ({ cls := "CargoFlag", name := "ruledOf", desc := "(IIII)I" } : Jvm.MethodName) prog_1_method_102_code (9 : Nat) (Option.some Jvm.ClassFile.FieldType.int)) ∈ lw_all := lw_g (lw_at lw_m6 177 rfl) rfl
theorem q1553 : (Jvm.Cond.methodLink "CargoFlag" (484 : Nat) ({ cls := "CargoFlag", name := "weighs", desc := "(II)I" } : Jvm.MethodName)) ∈ lw_all := lw_g (lw_at lw_m6 178 rfl) rfl
theorem q1554 : (Jvm.Cond.privateMethod ({ cls := "CargoFlag", name := "weighs", desc := "(II)I" } : Jvm.MethodName)) ∈ lw_tbl := lw_at lw_m6 179 rfl
theorem q1555 : (Jvm.Cond.instanceMethod ({ cls := "CargoFlag", name := "weighs", desc := "(II)I" } : Jvm.MethodName)) ∈ lw_all := lw_g (lw_at lw_m6 180 rfl) rfl
theorem q1556 : (Jvm.Cond.code ({ cls := "CargoFlag", name := "weighs", desc := "(II)I" } : Jvm.MethodName) prog_1_method_101_code (3 : Nat) (Option.some Jvm.ClassFile.FieldType.int)) ∈ lw_all := lw_g (lw_at lw_m6 181 rfl) rfl
theorem q1558 : (Jvm.Cond.instanceMethod ({ cls := "CargoFlag", name := "sure", desc := "(III)I" } : Jvm.MethodName)) ∈ lw_all := lw_g (lw_at lw_m6 183 rfl) rfl
theorem q1559 : (Jvm.Cond.selects "CargoFlag" ({ cls := "CargoFlag", name := "sure", desc := "(III)I" } : Jvm.MethodName) ({ cls := "CargoFlag", name := "sure", desc := "(III)I" } : Jvm.MethodName)) ∈ lw_all := lw_g (lw_at lw_m6 184 rfl) rfl
theorem q1560 : (Jvm.Cond.codeWith ({ cls := "CargoFlag", name := "sure", desc := "(III)I" } : Jvm.MethodName) prog_1_method_106_code (5 : Nat) (Option.some Jvm.ClassFile.FieldType.int) [((5 : Nat), (30 : Nat), (31 : Nat), (41 : Nat))]) ∈ lw_all := lw_g (lw_at lw_m6 185 rfl) rfl
theorem q1562 : (Jvm.Cond.instanceMethod ({ cls := "CargoFlag", name := "copyLog", desc := "(III)I" } : Jvm.MethodName)) ∈ lw_all := lw_g (lw_at lw_m6 187 rfl) rfl
theorem q1563 : (Jvm.Cond.selects "CargoFlag" ({ cls := "CargoFlag", name := "copyLog", desc := "(III)I" } : Jvm.MethodName) ({ cls := "CargoFlag", name := "copyLog", desc := "(III)I" } : Jvm.MethodName)) ∈ lw_all := lw_g (lw_at lw_m6 188 rfl) rfl
theorem q1564 : (Jvm.Cond.codeWith ({ cls := "CargoFlag", name := "copyLog", desc := "(III)I" } : Jvm.MethodName) prog_1_method_107_code (5 : Nat) (Option.some Jvm.ClassFile.FieldType.int) [((5 : Nat), (22 : Nat), (25 : Nat), (41 : Nat))]) ∈ lw_all := lw_g (lw_at lw_m6 189 rfl) rfl
theorem q1565 : (Jvm.Cond.methodLink "CargoFlag" (504 : Nat) ({ cls := "CargoFlag", name := "write", desc := "(IIJ)Z" } : Jvm.MethodName)) ∈ lw_all := lw_g (lw_at lw_m6 190 rfl) rfl
theorem q1567 : (Jvm.Cond.instanceMethod ({ cls := "CargoFlag", name := "live", desc := "(I)I" } : Jvm.MethodName)) ∈ lw_all := lw_g (lw_at lw_m6 192 rfl) rfl
theorem q1568 : (Jvm.Cond.selects "CargoFlag" ({ cls := "CargoFlag", name := "live", desc := "(I)I" } : Jvm.MethodName) ({ cls := "CargoFlag", name := "live", desc := "(I)I" } : Jvm.MethodName)) ∈ lw_all := lw_g (lw_at lw_m6 193 rfl) rfl
theorem q1569 : (Jvm.Cond.code ({ cls := "CargoFlag", name := "live", desc := "(I)I" } : Jvm.MethodName) prog_1_method_108_code (3 : Nat) (Option.some Jvm.ClassFile.FieldType.int)) ∈ lw_all := lw_g (lw_at lw_m6 194 rfl) rfl
theorem q1570 : (Jvm.Cond.classLink "CargoFlag" (508 : Nat) "CargoFlag$Living") ∈ lw_all := lw_g (lw_at lw_m6 195 rfl) rfl
theorem q1572 : (Jvm.Cond.methodLink "CargoFlag" (510 : Nat) ({ cls := "CargoFlag$Living", name := "<init>", desc := "(LCargoFlag$World;I)V" } : Jvm.MethodName)) ∈ lw_all := lw_g (lw_at lw_m6 197 rfl) rfl
theorem q1581 : (Jvm.Cond.fieldLinkNest "CargoFlag" (536 : Nat) "CargoFlag$Living" "done" "I" "CargoFlag") ∈ lw_tbl := lw_at lw_m6 206 rfl
theorem q1583 : (Jvm.Cond.fieldLinkNest "CargoFlag" (517 : Nat) "CargoFlag$Living" "missed" "I" "CargoFlag") ∈ lw_tbl := lw_at lw_m6 208 rfl
theorem q1585 : (Jvm.Cond.fieldLinkNest "CargoFlag" (520 : Nat) "CargoFlag$Living" "days" "I" "CargoFlag") ∈ lw_tbl := lw_at lw_m6 210 rfl
theorem q1587 : (Jvm.Cond.fieldLinkNest "CargoFlag" (523 : Nat) "CargoFlag$Living" "bought" "I" "CargoFlag") ∈ lw_tbl := lw_at lw_m6 212 rfl
theorem q1589 : (Jvm.Cond.fieldLinkNest "CargoFlag" (526 : Nat) "CargoFlag$Living" "came" "I" "CargoFlag") ∈ lw_tbl := lw_at lw_m6 214 rfl
theorem q1595 : (Jvm.Cond.fieldLinkNest "CargoFlag" (529 : Nat) "CargoFlag$Living" "isLeft" "Z" "CargoFlag") ∈ lw_tbl := lw_at lw_m6 220 rfl
theorem q1615 : (Jvm.Cond.methodLink "CargoFlag" (513 : Nat) ({ cls := "CargoFlag$Loop", name := "all", desc := "(LCargoFlag$Living;)V" } : Jvm.MethodName)) ∈ lw_all := lw_g (lw_at lw_m7 0 rfl) rfl
theorem q1674 : (Jvm.Cond.instanceMethod ({ cls := "CargoFlag", name := "lived", desc := "(I)I" } : Jvm.MethodName)) ∈ lw_all := lw_g (lw_at lw_m7 59 rfl) rfl
theorem q1675 : (Jvm.Cond.selects "CargoFlag" ({ cls := "CargoFlag", name := "lived", desc := "(I)I" } : Jvm.MethodName) ({ cls := "CargoFlag", name := "lived", desc := "(I)I" } : Jvm.MethodName)) ∈ lw_all := lw_g (lw_at lw_m7 60 rfl) rfl
theorem q1676 : (Jvm.Cond.code ({ cls := "CargoFlag", name := "lived", desc := "(I)I" } : Jvm.MethodName) prog_1_method_109_code (2 : Nat) (Option.some Jvm.ClassFile.FieldType.int)) ∈ lw_all := lw_g (lw_at lw_m7 61 rfl) rfl
theorem q1677 : (Jvm.Cond.constantLong "CargoFlag" (539 : Nat) (4 : Int64)) ∈ lw_all := lw_g (lw_at lw_m7 62 rfl) rfl
theorem q1679 : (Jvm.Cond.instanceMethod ({ cls := "CargoFlag", name := "mean", desc := "(II)Z" } : Jvm.MethodName)) ∈ lw_all := lw_g (lw_at lw_m7 64 rfl) rfl
theorem q1680 : (Jvm.Cond.selects "CargoFlag" ({ cls := "CargoFlag", name := "mean", desc := "(II)Z" } : Jvm.MethodName) ({ cls := "CargoFlag", name := "mean", desc := "(II)Z" } : Jvm.MethodName)) ∈ lw_all := lw_g (lw_at lw_m7 65 rfl) rfl
theorem q1681 : (Jvm.Cond.code ({ cls := "CargoFlag", name := "mean", desc := "(II)Z" } : Jvm.MethodName) prog_1_method_110_code (6 : Nat) (Option.some Jvm.ClassFile.FieldType.boolean)) ∈ lw_all := lw_g (lw_at lw_m7 66 rfl) rfl
theorem q1683 : (Jvm.Cond.instanceMethod ({ cls := "CargoFlag", name := "mark", desc := "()I" } : Jvm.MethodName)) ∈ lw_all := lw_g (lw_at lw_m7 68 rfl) rfl
theorem q1684 : (Jvm.Cond.selects "CargoFlag" ({ cls := "CargoFlag", name := "mark", desc := "()I" } : Jvm.MethodName) ({ cls := "CargoFlag", name := "mark", desc := "()I" } : Jvm.MethodName)) ∈ lw_all := lw_g (lw_at lw_m7 69 rfl) rfl
theorem q1685 : (Jvm.Cond.code ({ cls := "CargoFlag", name := "mark", desc := "()I" } : Jvm.MethodName) prog_1_method_111_code (1 : Nat) (Option.some Jvm.ClassFile.FieldType.int)) ∈ lw_all := lw_g (lw_at lw_m7 70 rfl) rfl
theorem q1686 : (Jvm.Cond.methodLink "CargoFlag" (544 : Nat) ({ cls := "CargoFlag$House", name := "be", desc := "(LCargoFlag$House;)V" } : Jvm.MethodName)) ∈ lw_all := lw_g (lw_at lw_m7 71 rfl) rfl
theorem q1692 : (Jvm.Cond.instanceMethod ({ cls := "CargoFlag", name := "undo", desc := "()I" } : Jvm.MethodName)) ∈ lw_all := lw_g (lw_at lw_m7 77 rfl) rfl
theorem q1693 : (Jvm.Cond.selects "CargoFlag" ({ cls := "CargoFlag", name := "undo", desc := "()I" } : Jvm.MethodName) ({ cls := "CargoFlag", name := "undo", desc := "()I" } : Jvm.MethodName)) ∈ lw_all := lw_g (lw_at lw_m7 78 rfl) rfl
theorem q1694 : (Jvm.Cond.code ({ cls := "CargoFlag", name := "undo", desc := "()I" } : Jvm.MethodName) prog_1_method_112_code (1 : Nat) (Option.some Jvm.ClassFile.FieldType.int)) ∈ lw_all := lw_g (lw_at lw_m7 79 rfl) rfl
theorem in_X0 : ∀ w ∈ wsX00, w ∈ lw_all := lw_in wsX00 [481, 483, 485, 487, 489, 491, 493, 495, 497, 499, 501, 503, 505, 507, 509, 511, 513, 515, 517, 519, 521, 523, 525, 527, 529] (by decide +kernel) (by decide +kernel)
