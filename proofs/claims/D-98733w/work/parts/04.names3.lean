/-! CargoFlag$World -/
set_option maxRecDepth 100000
def RX5 : String := "CargoFlag$World"
def TX5 : u_T := fun k => match k with
  | 0 => ("CargoFlag$World", "nations", "I", false)
  | 1 => ("CargoFlag$World", "goods", "I", false)
  | 2 => ("CargoFlag$World", "ports", "I", false)
  | 3 => ("CargoFlag$World", "ships", "I", false)
  | 4 => ("CargoFlag$World", "rule", "I", false)
  | 5 => ("CargoFlag$World", "day", "I", false)
  | 6 => ("CargoFlag$World", "nation", "[LCargoFlag$Nation;", false)
  | 7 => ("CargoFlag$World", "good", "[LCargoFlag$Good;", false)
  | 8 => ("CargoFlag$World", "port", "[LCargoFlag$Port;", false)
  | 9 => ("CargoFlag$World", "ship", "[LCargoFlag$Ship;", false)
  | 10 => ("CargoFlag$World", "wars", "[I", true)
  | 11 => ("CargoFlag$World", "price", "[I", true)
  | 12 => ("CargoFlag$World", "way", "[I", true)
  | 13 => ("CargoFlag$World", "at", "[I", true)
  | 14 => ("CargoFlag$World", "to", "[I", true)
  | 15 => ("CargoFlag$World", "left", "[I", true)
  | 16 => ("CargoFlag$World", "coins", "[I", true)
  | 17 => ("CargoFlag$World", "unpaid", "[I", true)
  | 18 => ("CargoFlag$World", "duties", "[I", true)
  | 19 => ("CargoFlag$World", "tons", "[I", true)
  | _ => ("CargoFlag$World", "weight", "[I", true)
def tyX5 : Nat → FieldType := fun k => match k with
  | 0 => .int
  | 1 => .int
  | 2 => .int
  | 3 => .int
  | 4 => .int
  | 5 => .int
  | 6 => .array (.object "CargoFlag$Nation")
  | 7 => .array (.object "CargoFlag$Good")
  | 8 => .array (.object "CargoFlag$Port")
  | 9 => .array (.object "CargoFlag$Ship")
  | 10 => .array .int
  | 11 => .array .int
  | 12 => .array .int
  | 13 => .array .int
  | 14 => .array .int
  | 15 => .array .int
  | 16 => .array .int
  | 17 => .array .int
  | 18 => .array .int
  | 19 => .array .int
  | _ => .array .int
abbrev wsX50 : List Cond := u_ws RX5 TX5 21
set_option maxRecDepth 100000 in
theorem nmX5 : ∀ a, a < 21 → ∀ b, b < 21 → a ≠ b → (TX5 a).2.1 ≠ (TX5 b).2.1 := by decide +kernel
set_option maxRecDepth 100000 in
theorem tyX5_ok : ∀ k, k < 21 → parseFieldDescriptor (TX5 k).2.2.1 = some (tyX5 k) := by decide +kernel
abbrev cX5_init : ByteArray := prog_18_method_1_code
def yX5_init : MethodName := ⟨RX5, "<init>", "()V"⟩
def dkwX5_init_5 : List UInt8 := [181, 0, 66, 177]
abbrev dktX5_init_5 : List UInt8 := dkwX5_init_5 ++ []
def dkwX5_init_4 : List UInt8 := [181, 0, 57, 42, 7, 188, 10, 181, 0, 60, 42, 16, 32, 188, 10, 181, 0, 63, 42, 16, 6, 188, 10]
abbrev dktX5_init_4 : List UInt8 := dkwX5_init_4 ++ dktX5_init_5
def dkwX5_init_3 : List UInt8 := [7, 188, 10, 181, 0, 48, 42, 7, 188, 10, 181, 0, 51, 42, 7, 188, 10, 181, 0, 54, 42, 7, 188, 10]
abbrev dktX5_init_3 : List UInt8 := dkwX5_init_3 ++ dktX5_init_4
def dkwX5_init_2 : List UInt8 := [42, 16, 48, 188, 10, 181, 0, 39, 42, 16, 36, 188, 10, 181, 0, 42, 42, 7, 188, 10, 181, 0, 45, 42]
abbrev dktX5_init_2 : List UInt8 := dkwX5_init_2 ++ dktX5_init_3
def dkwX5_init_1 : List UInt8 := [16, 6, 189, 0, 23, 181, 0, 25, 42, 7, 189, 0, 29, 181, 0, 31, 42, 16, 6, 188, 10, 181, 0, 35]
abbrev dktX5_init_1 : List UInt8 := dkwX5_init_1 ++ dktX5_init_2
def dkwX5_init_0 : List UInt8 := [42, 183, 0, 3, 42, 16, 6, 189, 0, 9, 181, 0, 11, 42, 16, 8, 189, 0, 17, 181, 0, 19, 42]
abbrev dktX5_init_0 : List UInt8 := dkwX5_init_0 ++ dktX5_init_1
theorem dksX5_init_0 : cX5_init.data.toList.drop 0 = dktX5_init_0 := by decide +kernel
theorem dksX5_init_1 : cX5_init.data.toList.drop 23 = dktX5_init_1 := dk_seg dksX5_init_0 23 rfl rfl
theorem dksX5_init_2 : cX5_init.data.toList.drop 47 = dktX5_init_2 := dk_seg dksX5_init_1 24 rfl rfl
theorem dksX5_init_3 : cX5_init.data.toList.drop 71 = dktX5_init_3 := dk_seg dksX5_init_2 24 rfl rfl
theorem dksX5_init_4 : cX5_init.data.toList.drop 95 = dktX5_init_4 := dk_seg dksX5_init_3 24 rfl rfl
theorem dksX5_init_5 : cX5_init.data.toList.drop 118 = dktX5_init_5 := dk_seg dksX5_init_4 23 rfl rfl
theorem dX5_init_0 : decode cX5_init 0 = .ok (.aload_n 0, 1) := dk_42 (dk_at dksX5_init_0 0 rfl rfl)
theorem dX5_init_1 : decode cX5_init 1 = .ok (.invokespecial 3, 3) := dk_183 0 3 (dk_at dksX5_init_0 1 rfl rfl)
theorem dX5_init_4 : decode cX5_init 4 = .ok (.aload_n 0, 1) := dk_42 (dk_at dksX5_init_0 4 rfl rfl)
theorem dX5_init_5 : decode cX5_init 5 = .ok (.bipush 6, 2) := dk_16 6 (dk_at dksX5_init_0 5 rfl rfl)
theorem dX5_init_7 : decode cX5_init 7 = .ok (.anewarray 9, 3) := dk_189 0 9 (dk_at dksX5_init_0 7 rfl rfl)
theorem dX5_init_10 : decode cX5_init 10 = .ok (.putfield 11, 3) := dk_181 0 11 (dk_at dksX5_init_0 10 rfl rfl)
theorem dX5_init_13 : decode cX5_init 13 = .ok (.aload_n 0, 1) := dk_42 (dk_at dksX5_init_0 13 rfl rfl)
theorem dX5_init_14 : decode cX5_init 14 = .ok (.bipush 8, 2) := dk_16 8 (dk_at dksX5_init_0 14 rfl rfl)
theorem dX5_init_16 : decode cX5_init 16 = .ok (.anewarray 17, 3) := dk_189 0 17 (dk_at dksX5_init_0 16 rfl rfl)
theorem dX5_init_19 : decode cX5_init 19 = .ok (.putfield 19, 3) := dk_181 0 19 (dk_at dksX5_init_0 19 rfl rfl)
theorem dX5_init_22 : decode cX5_init 22 = .ok (.aload_n 0, 1) := dk_42 (dk_at dksX5_init_0 22 rfl rfl)
theorem dX5_init_23 : decode cX5_init 23 = .ok (.bipush 6, 2) := dk_16 6 (dk_at dksX5_init_1 0 rfl rfl)
theorem dX5_init_25 : decode cX5_init 25 = .ok (.anewarray 23, 3) := dk_189 0 23 (dk_at dksX5_init_1 2 rfl rfl)
theorem dX5_init_28 : decode cX5_init 28 = .ok (.putfield 25, 3) := dk_181 0 25 (dk_at dksX5_init_1 5 rfl rfl)
theorem dX5_init_31 : decode cX5_init 31 = .ok (.aload_n 0, 1) := dk_42 (dk_at dksX5_init_1 8 rfl rfl)
theorem dX5_init_32 : decode cX5_init 32 = .ok (.iconst 4, 1) := dk_7 (dk_at dksX5_init_1 9 rfl rfl)
theorem dX5_init_33 : decode cX5_init 33 = .ok (.anewarray 29, 3) := dk_189 0 29 (dk_at dksX5_init_1 10 rfl rfl)
theorem dX5_init_36 : decode cX5_init 36 = .ok (.putfield 31, 3) := dk_181 0 31 (dk_at dksX5_init_1 13 rfl rfl)
theorem dX5_init_39 : decode cX5_init 39 = .ok (.aload_n 0, 1) := dk_42 (dk_at dksX5_init_1 16 rfl rfl)
theorem dX5_init_40 : decode cX5_init 40 = .ok (.bipush 6, 2) := dk_16 6 (dk_at dksX5_init_1 17 rfl rfl)
theorem dX5_init_42 : decode cX5_init 42 = .ok (.newarray .int, 2) := dk_188_10 (dk_at dksX5_init_1 19 rfl rfl)
theorem dX5_init_44 : decode cX5_init 44 = .ok (.putfield 35, 3) := dk_181 0 35 (dk_at dksX5_init_1 21 rfl rfl)
theorem dX5_init_47 : decode cX5_init 47 = .ok (.aload_n 0, 1) := dk_42 (dk_at dksX5_init_2 0 rfl rfl)
theorem dX5_init_48 : decode cX5_init 48 = .ok (.bipush 48, 2) := dk_16 48 (dk_at dksX5_init_2 1 rfl rfl)
theorem dX5_init_50 : decode cX5_init 50 = .ok (.newarray .int, 2) := dk_188_10 (dk_at dksX5_init_2 3 rfl rfl)
theorem dX5_init_52 : decode cX5_init 52 = .ok (.putfield 39, 3) := dk_181 0 39 (dk_at dksX5_init_2 5 rfl rfl)
theorem dX5_init_55 : decode cX5_init 55 = .ok (.aload_n 0, 1) := dk_42 (dk_at dksX5_init_2 8 rfl rfl)
theorem dX5_init_56 : decode cX5_init 56 = .ok (.bipush 36, 2) := dk_16 36 (dk_at dksX5_init_2 9 rfl rfl)
theorem dX5_init_58 : decode cX5_init 58 = .ok (.newarray .int, 2) := dk_188_10 (dk_at dksX5_init_2 11 rfl rfl)
theorem dX5_init_60 : decode cX5_init 60 = .ok (.putfield 42, 3) := dk_181 0 42 (dk_at dksX5_init_2 13 rfl rfl)
theorem dX5_init_63 : decode cX5_init 63 = .ok (.aload_n 0, 1) := dk_42 (dk_at dksX5_init_2 16 rfl rfl)
theorem dX5_init_64 : decode cX5_init 64 = .ok (.iconst 4, 1) := dk_7 (dk_at dksX5_init_2 17 rfl rfl)
theorem dX5_init_65 : decode cX5_init 65 = .ok (.newarray .int, 2) := dk_188_10 (dk_at dksX5_init_2 18 rfl rfl)
theorem dX5_init_67 : decode cX5_init 67 = .ok (.putfield 45, 3) := dk_181 0 45 (dk_at dksX5_init_2 20 rfl rfl)
theorem dX5_init_70 : decode cX5_init 70 = .ok (.aload_n 0, 1) := dk_42 (dk_at dksX5_init_2 23 rfl rfl)
theorem dX5_init_71 : decode cX5_init 71 = .ok (.iconst 4, 1) := dk_7 (dk_at dksX5_init_3 0 rfl rfl)
theorem dX5_init_72 : decode cX5_init 72 = .ok (.newarray .int, 2) := dk_188_10 (dk_at dksX5_init_3 1 rfl rfl)
theorem dX5_init_74 : decode cX5_init 74 = .ok (.putfield 48, 3) := dk_181 0 48 (dk_at dksX5_init_3 3 rfl rfl)
theorem dX5_init_77 : decode cX5_init 77 = .ok (.aload_n 0, 1) := dk_42 (dk_at dksX5_init_3 6 rfl rfl)
theorem dX5_init_78 : decode cX5_init 78 = .ok (.iconst 4, 1) := dk_7 (dk_at dksX5_init_3 7 rfl rfl)
theorem dX5_init_79 : decode cX5_init 79 = .ok (.newarray .int, 2) := dk_188_10 (dk_at dksX5_init_3 8 rfl rfl)
theorem dX5_init_81 : decode cX5_init 81 = .ok (.putfield 51, 3) := dk_181 0 51 (dk_at dksX5_init_3 10 rfl rfl)
theorem dX5_init_84 : decode cX5_init 84 = .ok (.aload_n 0, 1) := dk_42 (dk_at dksX5_init_3 13 rfl rfl)
theorem dX5_init_85 : decode cX5_init 85 = .ok (.iconst 4, 1) := dk_7 (dk_at dksX5_init_3 14 rfl rfl)
theorem dX5_init_86 : decode cX5_init 86 = .ok (.newarray .int, 2) := dk_188_10 (dk_at dksX5_init_3 15 rfl rfl)
theorem dX5_init_88 : decode cX5_init 88 = .ok (.putfield 54, 3) := dk_181 0 54 (dk_at dksX5_init_3 17 rfl rfl)
theorem dX5_init_91 : decode cX5_init 91 = .ok (.aload_n 0, 1) := dk_42 (dk_at dksX5_init_3 20 rfl rfl)
theorem dX5_init_92 : decode cX5_init 92 = .ok (.iconst 4, 1) := dk_7 (dk_at dksX5_init_3 21 rfl rfl)
theorem dX5_init_93 : decode cX5_init 93 = .ok (.newarray .int, 2) := dk_188_10 (dk_at dksX5_init_3 22 rfl rfl)
theorem dX5_init_95 : decode cX5_init 95 = .ok (.putfield 57, 3) := dk_181 0 57 (dk_at dksX5_init_4 0 rfl rfl)
theorem dX5_init_98 : decode cX5_init 98 = .ok (.aload_n 0, 1) := dk_42 (dk_at dksX5_init_4 3 rfl rfl)
theorem dX5_init_99 : decode cX5_init 99 = .ok (.iconst 4, 1) := dk_7 (dk_at dksX5_init_4 4 rfl rfl)
theorem dX5_init_100 : decode cX5_init 100 = .ok (.newarray .int, 2) := dk_188_10 (dk_at dksX5_init_4 5 rfl rfl)
theorem dX5_init_102 : decode cX5_init 102 = .ok (.putfield 60, 3) := dk_181 0 60 (dk_at dksX5_init_4 7 rfl rfl)
theorem dX5_init_105 : decode cX5_init 105 = .ok (.aload_n 0, 1) := dk_42 (dk_at dksX5_init_4 10 rfl rfl)
theorem dX5_init_106 : decode cX5_init 106 = .ok (.bipush 32, 2) := dk_16 32 (dk_at dksX5_init_4 11 rfl rfl)
theorem dX5_init_108 : decode cX5_init 108 = .ok (.newarray .int, 2) := dk_188_10 (dk_at dksX5_init_4 13 rfl rfl)
theorem dX5_init_110 : decode cX5_init 110 = .ok (.putfield 63, 3) := dk_181 0 63 (dk_at dksX5_init_4 15 rfl rfl)
theorem dX5_init_113 : decode cX5_init 113 = .ok (.aload_n 0, 1) := dk_42 (dk_at dksX5_init_4 18 rfl rfl)
theorem dX5_init_114 : decode cX5_init 114 = .ok (.bipush 6, 2) := dk_16 6 (dk_at dksX5_init_4 19 rfl rfl)
theorem dX5_init_116 : decode cX5_init 116 = .ok (.newarray .int, 2) := dk_188_10 (dk_at dksX5_init_4 21 rfl rfl)
theorem dX5_init_118 : decode cX5_init 118 = .ok (.putfield 66, 3) := dk_181 0 66 (dk_at dksX5_init_5 0 rfl rfl)
theorem dX5_init_121 : decode cX5_init 121 = .ok (.return_, 1) := dk_177 (dk_at dksX5_init_5 3 rfl rfl)
abbrev cX5_isTaken : ByteArray := prog_18_method_4_code
def yX5_isTaken : MethodName := ⟨RX5, "isTaken", "(J)Z"⟩
def dkwX5_isTaken_2 : List UInt8 := [180, 0, 31, 42, 180, 0, 79, 31, 184, 0, 98, 155, 0, 7, 4, 167, 0, 4, 3, 172]
abbrev dktX5_isTaken_2 : List UInt8 := dkwX5_isTaken_2 ++ []
def dkwX5_isTaken_1 : List UInt8 := [184, 0, 98, 156, 0, 33, 42, 180, 0, 25, 42, 180, 0, 76, 31, 184, 0, 98, 156, 0, 18, 42]
abbrev dktX5_isTaken_1 : List UInt8 := dkwX5_isTaken_1 ++ dktX5_isTaken_2
def dkwX5_isTaken_0 : List UInt8 := [42, 180, 0, 11, 42, 180, 0, 69, 31, 184, 0, 98, 156, 0, 48, 42, 180, 0, 19, 42, 180, 0, 73, 31]
abbrev dktX5_isTaken_0 : List UInt8 := dkwX5_isTaken_0 ++ dktX5_isTaken_1
theorem dksX5_isTaken_0 : cX5_isTaken.data.toList.drop 0 = dktX5_isTaken_0 := by decide +kernel
theorem dksX5_isTaken_1 : cX5_isTaken.data.toList.drop 24 = dktX5_isTaken_1 := dk_seg dksX5_isTaken_0 24 rfl rfl
theorem dksX5_isTaken_2 : cX5_isTaken.data.toList.drop 46 = dktX5_isTaken_2 := dk_seg dksX5_isTaken_1 22 rfl rfl
theorem dX5_isTaken_0 : decode cX5_isTaken 0 = .ok (.aload_n 0, 1) := dk_42 (dk_at dksX5_isTaken_0 0 rfl rfl)
theorem dX5_isTaken_1 : decode cX5_isTaken 1 = .ok (.getfield 11, 3) := dk_180 0 11 (dk_at dksX5_isTaken_0 1 rfl rfl)
theorem dX5_isTaken_4 : decode cX5_isTaken 4 = .ok (.aload_n 0, 1) := dk_42 (dk_at dksX5_isTaken_0 4 rfl rfl)
theorem dX5_isTaken_5 : decode cX5_isTaken 5 = .ok (.getfield 69, 3) := dk_180 0 69 (dk_at dksX5_isTaken_0 5 rfl rfl)
theorem dX5_isTaken_8 : decode cX5_isTaken 8 = .ok (.lload_n 1, 1) := dk_31 (dk_at dksX5_isTaken_0 8 rfl rfl)
theorem dX5_isTaken_9 : decode cX5_isTaken 9 = .ok (.invokestatic 98, 3) := dk_184 0 98 (dk_at dksX5_isTaken_0 9 rfl rfl)
theorem dX5_isTaken_12 : decode cX5_isTaken 12 = .ok (.ifCond .ge 48, 3) := dk_156 0 48 (dk_at dksX5_isTaken_0 12 rfl rfl)
theorem dX5_isTaken_15 : decode cX5_isTaken 15 = .ok (.aload_n 0, 1) := dk_42 (dk_at dksX5_isTaken_0 15 rfl rfl)
theorem dX5_isTaken_16 : decode cX5_isTaken 16 = .ok (.getfield 19, 3) := dk_180 0 19 (dk_at dksX5_isTaken_0 16 rfl rfl)
theorem dX5_isTaken_19 : decode cX5_isTaken 19 = .ok (.aload_n 0, 1) := dk_42 (dk_at dksX5_isTaken_0 19 rfl rfl)
theorem dX5_isTaken_20 : decode cX5_isTaken 20 = .ok (.getfield 73, 3) := dk_180 0 73 (dk_at dksX5_isTaken_0 20 rfl rfl)
theorem dX5_isTaken_23 : decode cX5_isTaken 23 = .ok (.lload_n 1, 1) := dk_31 (dk_at dksX5_isTaken_0 23 rfl rfl)
theorem dX5_isTaken_24 : decode cX5_isTaken 24 = .ok (.invokestatic 98, 3) := dk_184 0 98 (dk_at dksX5_isTaken_1 0 rfl rfl)
theorem dX5_isTaken_27 : decode cX5_isTaken 27 = .ok (.ifCond .ge 33, 3) := dk_156 0 33 (dk_at dksX5_isTaken_1 3 rfl rfl)
theorem dX5_isTaken_30 : decode cX5_isTaken 30 = .ok (.aload_n 0, 1) := dk_42 (dk_at dksX5_isTaken_1 6 rfl rfl)
theorem dX5_isTaken_31 : decode cX5_isTaken 31 = .ok (.getfield 25, 3) := dk_180 0 25 (dk_at dksX5_isTaken_1 7 rfl rfl)
theorem dX5_isTaken_34 : decode cX5_isTaken 34 = .ok (.aload_n 0, 1) := dk_42 (dk_at dksX5_isTaken_1 10 rfl rfl)
theorem dX5_isTaken_35 : decode cX5_isTaken 35 = .ok (.getfield 76, 3) := dk_180 0 76 (dk_at dksX5_isTaken_1 11 rfl rfl)
theorem dX5_isTaken_38 : decode cX5_isTaken 38 = .ok (.lload_n 1, 1) := dk_31 (dk_at dksX5_isTaken_1 14 rfl rfl)
theorem dX5_isTaken_39 : decode cX5_isTaken 39 = .ok (.invokestatic 98, 3) := dk_184 0 98 (dk_at dksX5_isTaken_1 15 rfl rfl)
theorem dX5_isTaken_42 : decode cX5_isTaken 42 = .ok (.ifCond .ge 18, 3) := dk_156 0 18 (dk_at dksX5_isTaken_1 18 rfl rfl)
theorem dX5_isTaken_45 : decode cX5_isTaken 45 = .ok (.aload_n 0, 1) := dk_42 (dk_at dksX5_isTaken_1 21 rfl rfl)
theorem dX5_isTaken_46 : decode cX5_isTaken 46 = .ok (.getfield 31, 3) := dk_180 0 31 (dk_at dksX5_isTaken_2 0 rfl rfl)
theorem dX5_isTaken_49 : decode cX5_isTaken 49 = .ok (.aload_n 0, 1) := dk_42 (dk_at dksX5_isTaken_2 3 rfl rfl)
theorem dX5_isTaken_50 : decode cX5_isTaken 50 = .ok (.getfield 79, 3) := dk_180 0 79 (dk_at dksX5_isTaken_2 4 rfl rfl)
theorem dX5_isTaken_53 : decode cX5_isTaken 53 = .ok (.lload_n 1, 1) := dk_31 (dk_at dksX5_isTaken_2 7 rfl rfl)
theorem dX5_isTaken_54 : decode cX5_isTaken 54 = .ok (.invokestatic 98, 3) := dk_184 0 98 (dk_at dksX5_isTaken_2 8 rfl rfl)
theorem dX5_isTaken_57 : decode cX5_isTaken 57 = .ok (.ifCond .lt 7, 3) := dk_155 0 7 (dk_at dksX5_isTaken_2 11 rfl rfl)
theorem dX5_isTaken_60 : decode cX5_isTaken 60 = .ok (.iconst 1, 1) := dk_4 (dk_at dksX5_isTaken_2 14 rfl rfl)
theorem dX5_isTaken_61 : decode cX5_isTaken 61 = .ok (.goto 4, 3) := dk_167 0 4 (dk_at dksX5_isTaken_2 15 rfl rfl)
theorem dX5_isTaken_64 : decode cX5_isTaken 64 = .ok (.iconst 0, 1) := dk_3 (dk_at dksX5_isTaken_2 18 rfl rfl)
theorem dX5_isTaken_65 : decode cX5_isTaken 65 = .ok (.ireturn, 1) := dk_172 (dk_at dksX5_isTaken_2 19 rfl rfl)
abbrev cX5_room : ByteArray := prog_18_method_6_code
def yX5_room : MethodName := ⟨RX5, "room", "(I)I"⟩
def dkwX5_room_0 : List UInt8 := [42, 180, 0, 31, 27, 50, 180, 0, 104, 42, 27, 182, 0, 107, 100, 172]
abbrev dktX5_room_0 : List UInt8 := dkwX5_room_0 ++ []
theorem dksX5_room_0 : cX5_room.data.toList.drop 0 = dktX5_room_0 := by decide +kernel
theorem dX5_room_0 : decode cX5_room 0 = .ok (.aload_n 0, 1) := dk_42 (dk_at dksX5_room_0 0 rfl rfl)
theorem dX5_room_1 : decode cX5_room 1 = .ok (.getfield 31, 3) := dk_180 0 31 (dk_at dksX5_room_0 1 rfl rfl)
theorem dX5_room_4 : decode cX5_room 4 = .ok (.iload_n 1, 1) := dk_27 (dk_at dksX5_room_0 4 rfl rfl)
theorem dX5_room_5 : decode cX5_room 5 = .ok (.aaload, 1) := dk_50 (dk_at dksX5_room_0 5 rfl rfl)
theorem dX5_room_6 : decode cX5_room 6 = .ok (.getfield 104, 3) := dk_180 0 104 (dk_at dksX5_room_0 6 rfl rfl)
theorem dX5_room_9 : decode cX5_room 9 = .ok (.aload_n 0, 1) := dk_42 (dk_at dksX5_room_0 9 rfl rfl)
theorem dX5_room_10 : decode cX5_room 10 = .ok (.iload_n 1, 1) := dk_27 (dk_at dksX5_room_0 10 rfl rfl)
theorem dX5_room_11 : decode cX5_room 11 = .ok (.invokevirtual 107, 3) := dk_182 0 107 (dk_at dksX5_room_0 11 rfl rfl)
theorem dX5_room_14 : decode cX5_room 14 = .ok (.isub, 1) := dk_100 (dk_at dksX5_room_0 14 rfl rfl)
theorem dX5_room_15 : decode cX5_room 15 = .ok (.ireturn, 1) := dk_172 (dk_at dksX5_room_0 15 rfl rfl)
abbrev cX5_aboard : ByteArray := prog_18_method_5_code
def yX5_aboard : MethodName := ⟨RX5, "aboard", "(I)I"⟩
def dkwX5_aboard_1 : List UInt8 := [96, 61, 132, 3, 1, 167, 255, 231, 28, 172]
abbrev dktX5_aboard_1 : List UInt8 := dkwX5_aboard_1 ++ []
def dkwX5_aboard_0 : List UInt8 := [3, 61, 3, 62, 29, 42, 180, 0, 73, 162, 0, 23, 28, 42, 180, 0, 63, 16, 8, 27, 104, 29, 96, 46]
abbrev dktX5_aboard_0 : List UInt8 := dkwX5_aboard_0 ++ dktX5_aboard_1
theorem dksX5_aboard_0 : cX5_aboard.data.toList.drop 0 = dktX5_aboard_0 := by decide +kernel
theorem dksX5_aboard_1 : cX5_aboard.data.toList.drop 24 = dktX5_aboard_1 := dk_seg dksX5_aboard_0 24 rfl rfl
theorem dX5_aboard_0 : decode cX5_aboard 0 = .ok (.iconst 0, 1) := dk_3 (dk_at dksX5_aboard_0 0 rfl rfl)
theorem dX5_aboard_1 : decode cX5_aboard 1 = .ok (.istore_n 2, 1) := dk_61 (dk_at dksX5_aboard_0 1 rfl rfl)
theorem dX5_aboard_2 : decode cX5_aboard 2 = .ok (.iconst 0, 1) := dk_3 (dk_at dksX5_aboard_0 2 rfl rfl)
theorem dX5_aboard_3 : decode cX5_aboard 3 = .ok (.istore_n 3, 1) := dk_62 (dk_at dksX5_aboard_0 3 rfl rfl)
theorem dX5_aboard_4 : decode cX5_aboard 4 = .ok (.iload_n 3, 1) := dk_29 (dk_at dksX5_aboard_0 4 rfl rfl)
theorem dX5_aboard_5 : decode cX5_aboard 5 = .ok (.aload_n 0, 1) := dk_42 (dk_at dksX5_aboard_0 5 rfl rfl)
theorem dX5_aboard_6 : decode cX5_aboard 6 = .ok (.getfield 73, 3) := dk_180 0 73 (dk_at dksX5_aboard_0 6 rfl rfl)
theorem dX5_aboard_9 : decode cX5_aboard 9 = .ok (.if_icmp .ge 23, 3) := dk_162 0 23 (dk_at dksX5_aboard_0 9 rfl rfl)
theorem dX5_aboard_12 : decode cX5_aboard 12 = .ok (.iload_n 2, 1) := dk_28 (dk_at dksX5_aboard_0 12 rfl rfl)
theorem dX5_aboard_13 : decode cX5_aboard 13 = .ok (.aload_n 0, 1) := dk_42 (dk_at dksX5_aboard_0 13 rfl rfl)
theorem dX5_aboard_14 : decode cX5_aboard 14 = .ok (.getfield 63, 3) := dk_180 0 63 (dk_at dksX5_aboard_0 14 rfl rfl)
theorem dX5_aboard_17 : decode cX5_aboard 17 = .ok (.bipush 8, 2) := dk_16 8 (dk_at dksX5_aboard_0 17 rfl rfl)
theorem dX5_aboard_19 : decode cX5_aboard 19 = .ok (.iload_n 1, 1) := dk_27 (dk_at dksX5_aboard_0 19 rfl rfl)
theorem dX5_aboard_20 : decode cX5_aboard 20 = .ok (.imul, 1) := dk_104 (dk_at dksX5_aboard_0 20 rfl rfl)
theorem dX5_aboard_21 : decode cX5_aboard 21 = .ok (.iload_n 3, 1) := dk_29 (dk_at dksX5_aboard_0 21 rfl rfl)
theorem dX5_aboard_22 : decode cX5_aboard 22 = .ok (.iadd, 1) := dk_96 (dk_at dksX5_aboard_0 22 rfl rfl)
theorem dX5_aboard_23 : decode cX5_aboard 23 = .ok (.iaload, 1) := dk_46 (dk_at dksX5_aboard_0 23 rfl rfl)
theorem dX5_aboard_24 : decode cX5_aboard 24 = .ok (.iadd, 1) := dk_96 (dk_at dksX5_aboard_1 0 rfl rfl)
theorem dX5_aboard_25 : decode cX5_aboard 25 = .ok (.istore_n 2, 1) := dk_61 (dk_at dksX5_aboard_1 1 rfl rfl)
theorem dX5_aboard_26 : decode cX5_aboard 26 = .ok (.iinc 3 1, 3) := dk_132 3 1 (dk_at dksX5_aboard_1 2 rfl rfl)
theorem dX5_aboard_29 : decode cX5_aboard 29 = .ok (.goto (-25), 3) := dk_167 255 231 (dk_at dksX5_aboard_1 5 rfl rfl)
theorem dX5_aboard_32 : decode cX5_aboard 32 = .ok (.iload_n 2, 1) := dk_28 (dk_at dksX5_aboard_1 8 rfl rfl)
theorem dX5_aboard_33 : decode cX5_aboard 33 = .ok (.ireturn, 1) := dk_172 (dk_at dksX5_aboard_1 9 rfl rfl)
abbrev cX5_be : ByteArray := prog_18_method_2_code
def yX5_be : MethodName := ⟨RX5, "be", "(LCargoFlag$World;)V"⟩
def dkwX5_be_8 : List UInt8 := [180, 0, 63, 184, 0, 88, 177]
abbrev dktX5_be_8 : List UInt8 := dkwX5_be_8 ++ []
def dkwX5_be_7 : List UInt8 := [180, 0, 57, 184, 0, 88, 43, 180, 0, 60, 42, 180, 0, 60, 184, 0, 88, 43, 180, 0, 63, 42]
abbrev dktX5_be_7 : List UInt8 := dkwX5_be_7 ++ dktX5_be_8
def dkwX5_be_6 : List UInt8 := [180, 0, 51, 184, 0, 88, 43, 180, 0, 54, 42, 180, 0, 54, 184, 0, 88, 43, 180, 0, 57, 42]
abbrev dktX5_be_6 : List UInt8 := dkwX5_be_6 ++ dktX5_be_7
def dkwX5_be_5 : List UInt8 := [180, 0, 45, 184, 0, 88, 43, 180, 0, 48, 42, 180, 0, 48, 184, 0, 88, 43, 180, 0, 51, 42]
abbrev dktX5_be_5 : List UInt8 := dkwX5_be_5 ++ dktX5_be_6
def dkwX5_be_4 : List UInt8 := [180, 0, 39, 184, 0, 88, 43, 180, 0, 42, 42, 180, 0, 42, 184, 0, 88, 43, 180, 0, 45, 42]
abbrev dktX5_be_4 : List UInt8 := dkwX5_be_4 ++ dktX5_be_5
def dkwX5_be_3 : List UInt8 := [42, 43, 180, 0, 31, 181, 0, 31, 43, 180, 0, 35, 42, 180, 0, 35, 184, 0, 88, 43, 180, 0, 39, 42]
abbrev dktX5_be_3 : List UInt8 := dkwX5_be_3 ++ dktX5_be_4
def dkwX5_be_2 : List UInt8 := [42, 43, 180, 0, 11, 181, 0, 11, 42, 43, 180, 0, 19, 181, 0, 19, 42, 43, 180, 0, 25, 181, 0, 25]
abbrev dktX5_be_2 : List UInt8 := dkwX5_be_2 ++ dktX5_be_3
def dkwX5_be_1 : List UInt8 := [42, 43, 180, 0, 79, 181, 0, 79, 42, 43, 180, 0, 82, 181, 0, 82, 42, 43, 180, 0, 85, 181, 0, 85]
abbrev dktX5_be_1 : List UInt8 := dkwX5_be_1 ++ dktX5_be_2
def dkwX5_be_0 : List UInt8 := [42, 43, 180, 0, 69, 181, 0, 69, 42, 43, 180, 0, 73, 181, 0, 73, 42, 43, 180, 0, 76, 181, 0, 76]
abbrev dktX5_be_0 : List UInt8 := dkwX5_be_0 ++ dktX5_be_1
theorem dksX5_be_0 : cX5_be.data.toList.drop 0 = dktX5_be_0 := by decide +kernel
theorem dksX5_be_1 : cX5_be.data.toList.drop 24 = dktX5_be_1 := dk_seg dksX5_be_0 24 rfl rfl
theorem dksX5_be_2 : cX5_be.data.toList.drop 48 = dktX5_be_2 := dk_seg dksX5_be_1 24 rfl rfl
theorem dksX5_be_3 : cX5_be.data.toList.drop 72 = dktX5_be_3 := dk_seg dksX5_be_2 24 rfl rfl
theorem dksX5_be_4 : cX5_be.data.toList.drop 96 = dktX5_be_4 := dk_seg dksX5_be_3 24 rfl rfl
theorem dksX5_be_5 : cX5_be.data.toList.drop 118 = dktX5_be_5 := dk_seg dksX5_be_4 22 rfl rfl
theorem dksX5_be_6 : cX5_be.data.toList.drop 140 = dktX5_be_6 := dk_seg dksX5_be_5 22 rfl rfl
theorem dksX5_be_7 : cX5_be.data.toList.drop 162 = dktX5_be_7 := dk_seg dksX5_be_6 22 rfl rfl
theorem dksX5_be_8 : cX5_be.data.toList.drop 184 = dktX5_be_8 := dk_seg dksX5_be_7 22 rfl rfl
theorem dX5_be_0 : decode cX5_be 0 = .ok (.aload_n 0, 1) := dk_42 (dk_at dksX5_be_0 0 rfl rfl)
theorem dX5_be_1 : decode cX5_be 1 = .ok (.aload_n 1, 1) := dk_43 (dk_at dksX5_be_0 1 rfl rfl)
theorem dX5_be_2 : decode cX5_be 2 = .ok (.getfield 69, 3) := dk_180 0 69 (dk_at dksX5_be_0 2 rfl rfl)
theorem dX5_be_5 : decode cX5_be 5 = .ok (.putfield 69, 3) := dk_181 0 69 (dk_at dksX5_be_0 5 rfl rfl)
theorem dX5_be_8 : decode cX5_be 8 = .ok (.aload_n 0, 1) := dk_42 (dk_at dksX5_be_0 8 rfl rfl)
theorem dX5_be_9 : decode cX5_be 9 = .ok (.aload_n 1, 1) := dk_43 (dk_at dksX5_be_0 9 rfl rfl)
theorem dX5_be_10 : decode cX5_be 10 = .ok (.getfield 73, 3) := dk_180 0 73 (dk_at dksX5_be_0 10 rfl rfl)
theorem dX5_be_13 : decode cX5_be 13 = .ok (.putfield 73, 3) := dk_181 0 73 (dk_at dksX5_be_0 13 rfl rfl)
theorem dX5_be_16 : decode cX5_be 16 = .ok (.aload_n 0, 1) := dk_42 (dk_at dksX5_be_0 16 rfl rfl)
theorem dX5_be_17 : decode cX5_be 17 = .ok (.aload_n 1, 1) := dk_43 (dk_at dksX5_be_0 17 rfl rfl)
theorem dX5_be_18 : decode cX5_be 18 = .ok (.getfield 76, 3) := dk_180 0 76 (dk_at dksX5_be_0 18 rfl rfl)
theorem dX5_be_21 : decode cX5_be 21 = .ok (.putfield 76, 3) := dk_181 0 76 (dk_at dksX5_be_0 21 rfl rfl)
theorem dX5_be_24 : decode cX5_be 24 = .ok (.aload_n 0, 1) := dk_42 (dk_at dksX5_be_1 0 rfl rfl)
theorem dX5_be_25 : decode cX5_be 25 = .ok (.aload_n 1, 1) := dk_43 (dk_at dksX5_be_1 1 rfl rfl)
theorem dX5_be_26 : decode cX5_be 26 = .ok (.getfield 79, 3) := dk_180 0 79 (dk_at dksX5_be_1 2 rfl rfl)
theorem dX5_be_29 : decode cX5_be 29 = .ok (.putfield 79, 3) := dk_181 0 79 (dk_at dksX5_be_1 5 rfl rfl)
theorem dX5_be_32 : decode cX5_be 32 = .ok (.aload_n 0, 1) := dk_42 (dk_at dksX5_be_1 8 rfl rfl)
theorem dX5_be_33 : decode cX5_be 33 = .ok (.aload_n 1, 1) := dk_43 (dk_at dksX5_be_1 9 rfl rfl)
theorem dX5_be_34 : decode cX5_be 34 = .ok (.getfield 82, 3) := dk_180 0 82 (dk_at dksX5_be_1 10 rfl rfl)
theorem dX5_be_37 : decode cX5_be 37 = .ok (.putfield 82, 3) := dk_181 0 82 (dk_at dksX5_be_1 13 rfl rfl)
theorem dX5_be_40 : decode cX5_be 40 = .ok (.aload_n 0, 1) := dk_42 (dk_at dksX5_be_1 16 rfl rfl)
theorem dX5_be_41 : decode cX5_be 41 = .ok (.aload_n 1, 1) := dk_43 (dk_at dksX5_be_1 17 rfl rfl)
theorem dX5_be_42 : decode cX5_be 42 = .ok (.getfield 85, 3) := dk_180 0 85 (dk_at dksX5_be_1 18 rfl rfl)
theorem dX5_be_45 : decode cX5_be 45 = .ok (.putfield 85, 3) := dk_181 0 85 (dk_at dksX5_be_1 21 rfl rfl)
theorem dX5_be_48 : decode cX5_be 48 = .ok (.aload_n 0, 1) := dk_42 (dk_at dksX5_be_2 0 rfl rfl)
theorem dX5_be_49 : decode cX5_be 49 = .ok (.aload_n 1, 1) := dk_43 (dk_at dksX5_be_2 1 rfl rfl)
theorem dX5_be_50 : decode cX5_be 50 = .ok (.getfield 11, 3) := dk_180 0 11 (dk_at dksX5_be_2 2 rfl rfl)
theorem dX5_be_53 : decode cX5_be 53 = .ok (.putfield 11, 3) := dk_181 0 11 (dk_at dksX5_be_2 5 rfl rfl)
theorem dX5_be_56 : decode cX5_be 56 = .ok (.aload_n 0, 1) := dk_42 (dk_at dksX5_be_2 8 rfl rfl)
theorem dX5_be_57 : decode cX5_be 57 = .ok (.aload_n 1, 1) := dk_43 (dk_at dksX5_be_2 9 rfl rfl)
theorem dX5_be_58 : decode cX5_be 58 = .ok (.getfield 19, 3) := dk_180 0 19 (dk_at dksX5_be_2 10 rfl rfl)
theorem dX5_be_61 : decode cX5_be 61 = .ok (.putfield 19, 3) := dk_181 0 19 (dk_at dksX5_be_2 13 rfl rfl)
theorem dX5_be_64 : decode cX5_be 64 = .ok (.aload_n 0, 1) := dk_42 (dk_at dksX5_be_2 16 rfl rfl)
theorem dX5_be_65 : decode cX5_be 65 = .ok (.aload_n 1, 1) := dk_43 (dk_at dksX5_be_2 17 rfl rfl)
theorem dX5_be_66 : decode cX5_be 66 = .ok (.getfield 25, 3) := dk_180 0 25 (dk_at dksX5_be_2 18 rfl rfl)
theorem dX5_be_69 : decode cX5_be 69 = .ok (.putfield 25, 3) := dk_181 0 25 (dk_at dksX5_be_2 21 rfl rfl)
theorem dX5_be_72 : decode cX5_be 72 = .ok (.aload_n 0, 1) := dk_42 (dk_at dksX5_be_3 0 rfl rfl)
theorem dX5_be_73 : decode cX5_be 73 = .ok (.aload_n 1, 1) := dk_43 (dk_at dksX5_be_3 1 rfl rfl)
theorem dX5_be_74 : decode cX5_be 74 = .ok (.getfield 31, 3) := dk_180 0 31 (dk_at dksX5_be_3 2 rfl rfl)
theorem dX5_be_77 : decode cX5_be 77 = .ok (.putfield 31, 3) := dk_181 0 31 (dk_at dksX5_be_3 5 rfl rfl)
theorem dX5_be_80 : decode cX5_be 80 = .ok (.aload_n 1, 1) := dk_43 (dk_at dksX5_be_3 8 rfl rfl)
theorem dX5_be_81 : decode cX5_be 81 = .ok (.getfield 35, 3) := dk_180 0 35 (dk_at dksX5_be_3 9 rfl rfl)
theorem dX5_be_84 : decode cX5_be 84 = .ok (.aload_n 0, 1) := dk_42 (dk_at dksX5_be_3 12 rfl rfl)
theorem dX5_be_85 : decode cX5_be 85 = .ok (.getfield 35, 3) := dk_180 0 35 (dk_at dksX5_be_3 13 rfl rfl)
theorem dX5_be_88 : decode cX5_be 88 = .ok (.invokestatic 88, 3) := dk_184 0 88 (dk_at dksX5_be_3 16 rfl rfl)
theorem dX5_be_91 : decode cX5_be 91 = .ok (.aload_n 1, 1) := dk_43 (dk_at dksX5_be_3 19 rfl rfl)
theorem dX5_be_92 : decode cX5_be 92 = .ok (.getfield 39, 3) := dk_180 0 39 (dk_at dksX5_be_3 20 rfl rfl)
theorem dX5_be_95 : decode cX5_be 95 = .ok (.aload_n 0, 1) := dk_42 (dk_at dksX5_be_3 23 rfl rfl)
theorem dX5_be_96 : decode cX5_be 96 = .ok (.getfield 39, 3) := dk_180 0 39 (dk_at dksX5_be_4 0 rfl rfl)
theorem dX5_be_99 : decode cX5_be 99 = .ok (.invokestatic 88, 3) := dk_184 0 88 (dk_at dksX5_be_4 3 rfl rfl)
theorem dX5_be_102 : decode cX5_be 102 = .ok (.aload_n 1, 1) := dk_43 (dk_at dksX5_be_4 6 rfl rfl)
theorem dX5_be_103 : decode cX5_be 103 = .ok (.getfield 42, 3) := dk_180 0 42 (dk_at dksX5_be_4 7 rfl rfl)
theorem dX5_be_106 : decode cX5_be 106 = .ok (.aload_n 0, 1) := dk_42 (dk_at dksX5_be_4 10 rfl rfl)
theorem dX5_be_107 : decode cX5_be 107 = .ok (.getfield 42, 3) := dk_180 0 42 (dk_at dksX5_be_4 11 rfl rfl)
theorem dX5_be_110 : decode cX5_be 110 = .ok (.invokestatic 88, 3) := dk_184 0 88 (dk_at dksX5_be_4 14 rfl rfl)
theorem dX5_be_113 : decode cX5_be 113 = .ok (.aload_n 1, 1) := dk_43 (dk_at dksX5_be_4 17 rfl rfl)
theorem dX5_be_114 : decode cX5_be 114 = .ok (.getfield 45, 3) := dk_180 0 45 (dk_at dksX5_be_4 18 rfl rfl)
theorem dX5_be_117 : decode cX5_be 117 = .ok (.aload_n 0, 1) := dk_42 (dk_at dksX5_be_4 21 rfl rfl)
theorem dX5_be_118 : decode cX5_be 118 = .ok (.getfield 45, 3) := dk_180 0 45 (dk_at dksX5_be_5 0 rfl rfl)
theorem dX5_be_121 : decode cX5_be 121 = .ok (.invokestatic 88, 3) := dk_184 0 88 (dk_at dksX5_be_5 3 rfl rfl)
theorem dX5_be_124 : decode cX5_be 124 = .ok (.aload_n 1, 1) := dk_43 (dk_at dksX5_be_5 6 rfl rfl)
theorem dX5_be_125 : decode cX5_be 125 = .ok (.getfield 48, 3) := dk_180 0 48 (dk_at dksX5_be_5 7 rfl rfl)
theorem dX5_be_128 : decode cX5_be 128 = .ok (.aload_n 0, 1) := dk_42 (dk_at dksX5_be_5 10 rfl rfl)
theorem dX5_be_129 : decode cX5_be 129 = .ok (.getfield 48, 3) := dk_180 0 48 (dk_at dksX5_be_5 11 rfl rfl)
theorem dX5_be_132 : decode cX5_be 132 = .ok (.invokestatic 88, 3) := dk_184 0 88 (dk_at dksX5_be_5 14 rfl rfl)
theorem dX5_be_135 : decode cX5_be 135 = .ok (.aload_n 1, 1) := dk_43 (dk_at dksX5_be_5 17 rfl rfl)
theorem dX5_be_136 : decode cX5_be 136 = .ok (.getfield 51, 3) := dk_180 0 51 (dk_at dksX5_be_5 18 rfl rfl)
theorem dX5_be_139 : decode cX5_be 139 = .ok (.aload_n 0, 1) := dk_42 (dk_at dksX5_be_5 21 rfl rfl)
theorem dX5_be_140 : decode cX5_be 140 = .ok (.getfield 51, 3) := dk_180 0 51 (dk_at dksX5_be_6 0 rfl rfl)
theorem dX5_be_143 : decode cX5_be 143 = .ok (.invokestatic 88, 3) := dk_184 0 88 (dk_at dksX5_be_6 3 rfl rfl)
theorem dX5_be_146 : decode cX5_be 146 = .ok (.aload_n 1, 1) := dk_43 (dk_at dksX5_be_6 6 rfl rfl)
theorem dX5_be_147 : decode cX5_be 147 = .ok (.getfield 54, 3) := dk_180 0 54 (dk_at dksX5_be_6 7 rfl rfl)
theorem dX5_be_150 : decode cX5_be 150 = .ok (.aload_n 0, 1) := dk_42 (dk_at dksX5_be_6 10 rfl rfl)
theorem dX5_be_151 : decode cX5_be 151 = .ok (.getfield 54, 3) := dk_180 0 54 (dk_at dksX5_be_6 11 rfl rfl)
theorem dX5_be_154 : decode cX5_be 154 = .ok (.invokestatic 88, 3) := dk_184 0 88 (dk_at dksX5_be_6 14 rfl rfl)
theorem dX5_be_157 : decode cX5_be 157 = .ok (.aload_n 1, 1) := dk_43 (dk_at dksX5_be_6 17 rfl rfl)
theorem dX5_be_158 : decode cX5_be 158 = .ok (.getfield 57, 3) := dk_180 0 57 (dk_at dksX5_be_6 18 rfl rfl)
theorem dX5_be_161 : decode cX5_be 161 = .ok (.aload_n 0, 1) := dk_42 (dk_at dksX5_be_6 21 rfl rfl)
theorem dX5_be_162 : decode cX5_be 162 = .ok (.getfield 57, 3) := dk_180 0 57 (dk_at dksX5_be_7 0 rfl rfl)
theorem dX5_be_165 : decode cX5_be 165 = .ok (.invokestatic 88, 3) := dk_184 0 88 (dk_at dksX5_be_7 3 rfl rfl)
theorem dX5_be_168 : decode cX5_be 168 = .ok (.aload_n 1, 1) := dk_43 (dk_at dksX5_be_7 6 rfl rfl)
theorem dX5_be_169 : decode cX5_be 169 = .ok (.getfield 60, 3) := dk_180 0 60 (dk_at dksX5_be_7 7 rfl rfl)
theorem dX5_be_172 : decode cX5_be 172 = .ok (.aload_n 0, 1) := dk_42 (dk_at dksX5_be_7 10 rfl rfl)
theorem dX5_be_173 : decode cX5_be 173 = .ok (.getfield 60, 3) := dk_180 0 60 (dk_at dksX5_be_7 11 rfl rfl)
theorem dX5_be_176 : decode cX5_be 176 = .ok (.invokestatic 88, 3) := dk_184 0 88 (dk_at dksX5_be_7 14 rfl rfl)
theorem dX5_be_179 : decode cX5_be 179 = .ok (.aload_n 1, 1) := dk_43 (dk_at dksX5_be_7 17 rfl rfl)
theorem dX5_be_180 : decode cX5_be 180 = .ok (.getfield 63, 3) := dk_180 0 63 (dk_at dksX5_be_7 18 rfl rfl)
theorem dX5_be_183 : decode cX5_be 183 = .ok (.aload_n 0, 1) := dk_42 (dk_at dksX5_be_7 21 rfl rfl)
theorem dX5_be_184 : decode cX5_be 184 = .ok (.getfield 63, 3) := dk_180 0 63 (dk_at dksX5_be_8 0 rfl rfl)
theorem dX5_be_187 : decode cX5_be 187 = .ok (.invokestatic 88, 3) := dk_184 0 88 (dk_at dksX5_be_8 3 rfl rfl)
theorem dX5_be_190 : decode cX5_be 190 = .ok (.return_, 1) := dk_177 (dk_at dksX5_be_8 6 rfl rfl)
abbrev cX5_copy : ByteArray := prog_18_method_3_code
def yX5_copy : MethodName := ⟨RX5, "copy", "([I[I)V"⟩
def dkwX5_copy_0 : List UInt8 := [42, 3, 43, 3, 42, 190, 184, 0, 92, 177]
abbrev dktX5_copy_0 : List UInt8 := dkwX5_copy_0 ++ []
theorem dksX5_copy_0 : cX5_copy.data.toList.drop 0 = dktX5_copy_0 := by decide +kernel
theorem dX5_copy_0 : decode cX5_copy 0 = .ok (.aload_n 0, 1) := dk_42 (dk_at dksX5_copy_0 0 rfl rfl)
theorem dX5_copy_1 : decode cX5_copy 1 = .ok (.iconst 0, 1) := dk_3 (dk_at dksX5_copy_0 1 rfl rfl)
theorem dX5_copy_2 : decode cX5_copy 2 = .ok (.aload_n 1, 1) := dk_43 (dk_at dksX5_copy_0 2 rfl rfl)
theorem dX5_copy_3 : decode cX5_copy 3 = .ok (.iconst 0, 1) := dk_3 (dk_at dksX5_copy_0 3 rfl rfl)
theorem dX5_copy_4 : decode cX5_copy 4 = .ok (.aload_n 0, 1) := dk_42 (dk_at dksX5_copy_0 4 rfl rfl)
theorem dX5_copy_5 : decode cX5_copy 5 = .ok (.arraylength, 1) := dk_190 (dk_at dksX5_copy_0 5 rfl rfl)
theorem dX5_copy_6 : decode cX5_copy 6 = .ok (.invokestatic 92, 3) := dk_184 0 92 (dk_at dksX5_copy_0 6 rfl rfl)
theorem dX5_copy_9 : decode cX5_copy 9 = .ok (.return_, 1) := dk_177 (dk_at dksX5_copy_0 9 rfl rfl)
abbrev cX5_isAtSea : ByteArray := prog_18_method_15_code
def yX5_isAtSea : MethodName := ⟨RX5, "isAtSea", "(I)Z"⟩
def dkwX5_isAtSea_0 : List UInt8 := [42, 180, 0, 51, 27, 46, 158, 0, 7, 4, 167, 0, 4, 3, 172]
abbrev dktX5_isAtSea_0 : List UInt8 := dkwX5_isAtSea_0 ++ []
theorem dksX5_isAtSea_0 : cX5_isAtSea.data.toList.drop 0 = dktX5_isAtSea_0 := by decide +kernel
theorem dX5_isAtSea_0 : decode cX5_isAtSea 0 = .ok (.aload_n 0, 1) := dk_42 (dk_at dksX5_isAtSea_0 0 rfl rfl)
theorem dX5_isAtSea_1 : decode cX5_isAtSea 1 = .ok (.getfield 51, 3) := dk_180 0 51 (dk_at dksX5_isAtSea_0 1 rfl rfl)
theorem dX5_isAtSea_4 : decode cX5_isAtSea 4 = .ok (.iload_n 1, 1) := dk_27 (dk_at dksX5_isAtSea_0 4 rfl rfl)
theorem dX5_isAtSea_5 : decode cX5_isAtSea 5 = .ok (.iaload, 1) := dk_46 (dk_at dksX5_isAtSea_0 5 rfl rfl)
theorem dX5_isAtSea_6 : decode cX5_isAtSea 6 = .ok (.ifCond .le 7, 3) := dk_158 0 7 (dk_at dksX5_isAtSea_0 6 rfl rfl)
theorem dX5_isAtSea_9 : decode cX5_isAtSea 9 = .ok (.iconst 1, 1) := dk_4 (dk_at dksX5_isAtSea_0 9 rfl rfl)
theorem dX5_isAtSea_10 : decode cX5_isAtSea 10 = .ok (.goto 4, 3) := dk_167 0 4 (dk_at dksX5_isAtSea_0 10 rfl rfl)
theorem dX5_isAtSea_13 : decode cX5_isAtSea 13 = .ok (.iconst 0, 1) := dk_3 (dk_at dksX5_isAtSea_0 13 rfl rfl)
theorem dX5_isAtSea_14 : decode cX5_isAtSea 14 = .ok (.ireturn, 1) := dk_172 (dk_at dksX5_isAtSea_0 14 rfl rfl)
abbrev cX5_ruled : ByteArray := prog_18_method_12_code
def yX5_ruled : MethodName := ⟨RX5, "ruled", "(I)I"⟩
def dkwX5_ruled_0 : List UInt8 := [42, 27, 42, 180, 0, 82, 182, 0, 131, 172]
abbrev dktX5_ruled_0 : List UInt8 := dkwX5_ruled_0 ++ []
theorem dksX5_ruled_0 : cX5_ruled.data.toList.drop 0 = dktX5_ruled_0 := by decide +kernel
theorem dX5_ruled_0 : decode cX5_ruled 0 = .ok (.aload_n 0, 1) := dk_42 (dk_at dksX5_ruled_0 0 rfl rfl)
theorem dX5_ruled_1 : decode cX5_ruled 1 = .ok (.iload_n 1, 1) := dk_27 (dk_at dksX5_ruled_0 1 rfl rfl)
theorem dX5_ruled_2 : decode cX5_ruled 2 = .ok (.aload_n 0, 1) := dk_42 (dk_at dksX5_ruled_0 2 rfl rfl)
theorem dX5_ruled_3 : decode cX5_ruled 3 = .ok (.getfield 82, 3) := dk_180 0 82 (dk_at dksX5_ruled_0 3 rfl rfl)
theorem dX5_ruled_6 : decode cX5_ruled 6 = .ok (.invokevirtual 131, 3) := dk_182 0 131 (dk_at dksX5_ruled_0 6 rfl rfl)
theorem dX5_ruled_9 : decode cX5_ruled 9 = .ok (.ireturn, 1) := dk_172 (dk_at dksX5_ruled_0 9 rfl rfl)
abbrev cX5_ruled_2 : ByteArray := prog_18_method_11_code
def yX5_ruled_2 : MethodName := ⟨RX5, "ruled", "(II)I"⟩
def dkwX5_ruled_2_0 : List UInt8 := [42, 27, 28, 182, 0, 116, 184, 0, 128, 172]
abbrev dktX5_ruled_2_0 : List UInt8 := dkwX5_ruled_2_0 ++ []
theorem dksX5_ruled_2_0 : cX5_ruled_2.data.toList.drop 0 = dktX5_ruled_2_0 := by decide +kernel
theorem dX5_ruled_2_0 : decode cX5_ruled_2 0 = .ok (.aload_n 0, 1) := dk_42 (dk_at dksX5_ruled_2_0 0 rfl rfl)
theorem dX5_ruled_2_1 : decode cX5_ruled_2 1 = .ok (.iload_n 1, 1) := dk_27 (dk_at dksX5_ruled_2_0 1 rfl rfl)
theorem dX5_ruled_2_2 : decode cX5_ruled_2 2 = .ok (.iload_n 2, 1) := dk_28 (dk_at dksX5_ruled_2_0 2 rfl rfl)
theorem dX5_ruled_2_3 : decode cX5_ruled_2 3 = .ok (.invokevirtual 116, 3) := dk_182 0 116 (dk_at dksX5_ruled_2_0 3 rfl rfl)
theorem dX5_ruled_2_6 : decode cX5_ruled_2 6 = .ok (.invokestatic 128, 3) := dk_184 0 128 (dk_at dksX5_ruled_2_0 6 rfl rfl)
theorem dX5_ruled_2_9 : decode cX5_ruled_2 9 = .ok (.ireturn, 1) := dk_172 (dk_at dksX5_ruled_2_0 9 rfl rfl)
abbrev cX5_captains : ByteArray := prog_18_method_8_code
def yX5_captains : MethodName := ⟨RX5, "captains", "(II)I"⟩
def dkwX5_captains_8 : List UInt8 := [54, 4, 132, 5, 1, 167, 255, 184, 29, 172]
abbrev dktX5_captains_8 : List UInt8 := dkwX5_captains_8 ++ []
def dkwX5_captains_7 : List UInt8 := [164, 0, 10, 4, 21, 5, 120, 167, 0, 9, 29, 4, 21, 5, 120, 128, 62, 42, 180, 0, 66, 21, 5, 46]
abbrev dktX5_captains_7 : List UInt8 := dkwX5_captains_7 ++ dktX5_captains_8
def dkwX5_captains_6 : List UInt8 := [180, 0, 66, 21, 5, 46, 21, 4, 162, 0, 6, 167, 0, 38, 42, 180, 0, 66, 21, 5, 46, 21, 4]
abbrev dktX5_captains_6 : List UInt8 := dkwX5_captains_6 ++ dktX5_captains_7
def dkwX5_captains_5 : List UInt8 := [3, 54, 5, 21, 5, 42, 180, 0, 69, 162, 0, 69, 42, 180, 0, 66, 21, 5, 46, 153, 0, 53, 42]
abbrev dktX5_captains_5 : List UInt8 := dkwX5_captains_5 ++ dktX5_captains_6
def dkwX5_captains_4 : List UInt8 := [167, 0, 16, 21, 6, 42, 180, 0, 19, 21, 5, 50, 180, 0, 113, 104, 96, 79, 132, 5, 1, 167, 255, 176]
abbrev dktX5_captains_4 : List UInt8 := dkwX5_captains_4 ++ dktX5_captains_5
def dkwX5_captains_3 : List UInt8 := [21, 5, 50, 180, 0, 111, 92, 46, 28, 154, 0, 8, 21, 6, 167, 0, 25, 28, 4, 160, 0, 7, 4]
abbrev dktX5_captains_3 : List UInt8 := dkwX5_captains_3 ++ dktX5_captains_4
def dkwX5_captains_2 : List UInt8 := [16, 8, 27, 104, 21, 5, 96, 46, 54, 6, 21, 6, 158, 0, 52, 42, 180, 0, 66, 42, 180, 0, 19]
abbrev dktX5_captains_2 : List UInt8 := dkwX5_captains_2 ++ dktX5_captains_3
def dkwX5_captains_1 : List UInt8 := [79, 132, 5, 1, 167, 255, 236, 3, 54, 5, 21, 5, 42, 180, 0, 73, 162, 0, 77, 42, 180, 0, 63]
abbrev dktX5_captains_1 : List UInt8 := dkwX5_captains_1 ++ dktX5_captains_2
def dkwX5_captains_0 : List UInt8 := [3, 62, 3, 54, 4, 3, 54, 5, 21, 5, 42, 180, 0, 69, 162, 0, 17, 42, 180, 0, 66, 21, 5, 3]
abbrev dktX5_captains_0 : List UInt8 := dkwX5_captains_0 ++ dktX5_captains_1
theorem dksX5_captains_0 : cX5_captains.data.toList.drop 0 = dktX5_captains_0 := by decide +kernel
theorem dksX5_captains_1 : cX5_captains.data.toList.drop 24 = dktX5_captains_1 := dk_seg dksX5_captains_0 24 rfl rfl
theorem dksX5_captains_2 : cX5_captains.data.toList.drop 47 = dktX5_captains_2 := dk_seg dksX5_captains_1 23 rfl rfl
theorem dksX5_captains_3 : cX5_captains.data.toList.drop 70 = dktX5_captains_3 := dk_seg dksX5_captains_2 23 rfl rfl
theorem dksX5_captains_4 : cX5_captains.data.toList.drop 93 = dktX5_captains_4 := dk_seg dksX5_captains_3 23 rfl rfl
theorem dksX5_captains_5 : cX5_captains.data.toList.drop 117 = dktX5_captains_5 := dk_seg dksX5_captains_4 24 rfl rfl
theorem dksX5_captains_6 : cX5_captains.data.toList.drop 140 = dktX5_captains_6 := dk_seg dksX5_captains_5 23 rfl rfl
theorem dksX5_captains_7 : cX5_captains.data.toList.drop 163 = dktX5_captains_7 := dk_seg dksX5_captains_6 23 rfl rfl
theorem dksX5_captains_8 : cX5_captains.data.toList.drop 187 = dktX5_captains_8 := dk_seg dksX5_captains_7 24 rfl rfl
theorem dX5_captains_0 : decode cX5_captains 0 = .ok (.iconst 0, 1) := dk_3 (dk_at dksX5_captains_0 0 rfl rfl)
theorem dX5_captains_1 : decode cX5_captains 1 = .ok (.istore_n 3, 1) := dk_62 (dk_at dksX5_captains_0 1 rfl rfl)
theorem dX5_captains_2 : decode cX5_captains 2 = .ok (.iconst 0, 1) := dk_3 (dk_at dksX5_captains_0 2 rfl rfl)
theorem dX5_captains_3 : decode cX5_captains 3 = .ok (.istore 4, 2) := dk_54 4 (dk_at dksX5_captains_0 3 rfl rfl)
theorem dX5_captains_5 : decode cX5_captains 5 = .ok (.iconst 0, 1) := dk_3 (dk_at dksX5_captains_0 5 rfl rfl)
theorem dX5_captains_6 : decode cX5_captains 6 = .ok (.istore 5, 2) := dk_54 5 (dk_at dksX5_captains_0 6 rfl rfl)
theorem dX5_captains_8 : decode cX5_captains 8 = .ok (.iload 5, 2) := dk_21 5 (dk_at dksX5_captains_0 8 rfl rfl)
theorem dX5_captains_10 : decode cX5_captains 10 = .ok (.aload_n 0, 1) := dk_42 (dk_at dksX5_captains_0 10 rfl rfl)
theorem dX5_captains_11 : decode cX5_captains 11 = .ok (.getfield 69, 3) := dk_180 0 69 (dk_at dksX5_captains_0 11 rfl rfl)
theorem dX5_captains_14 : decode cX5_captains 14 = .ok (.if_icmp .ge 17, 3) := dk_162 0 17 (dk_at dksX5_captains_0 14 rfl rfl)
theorem dX5_captains_17 : decode cX5_captains 17 = .ok (.aload_n 0, 1) := dk_42 (dk_at dksX5_captains_0 17 rfl rfl)
theorem dX5_captains_18 : decode cX5_captains 18 = .ok (.getfield 66, 3) := dk_180 0 66 (dk_at dksX5_captains_0 18 rfl rfl)
theorem dX5_captains_21 : decode cX5_captains 21 = .ok (.iload 5, 2) := dk_21 5 (dk_at dksX5_captains_0 21 rfl rfl)
theorem dX5_captains_23 : decode cX5_captains 23 = .ok (.iconst 0, 1) := dk_3 (dk_at dksX5_captains_0 23 rfl rfl)
theorem dX5_captains_24 : decode cX5_captains 24 = .ok (.iastore, 1) := dk_79 (dk_at dksX5_captains_1 0 rfl rfl)
theorem dX5_captains_25 : decode cX5_captains 25 = .ok (.iinc 5 1, 3) := dk_132 5 1 (dk_at dksX5_captains_1 1 rfl rfl)
theorem dX5_captains_28 : decode cX5_captains 28 = .ok (.goto (-20), 3) := dk_167 255 236 (dk_at dksX5_captains_1 4 rfl rfl)
theorem dX5_captains_31 : decode cX5_captains 31 = .ok (.iconst 0, 1) := dk_3 (dk_at dksX5_captains_1 7 rfl rfl)
theorem dX5_captains_32 : decode cX5_captains 32 = .ok (.istore 5, 2) := dk_54 5 (dk_at dksX5_captains_1 8 rfl rfl)
theorem dX5_captains_34 : decode cX5_captains 34 = .ok (.iload 5, 2) := dk_21 5 (dk_at dksX5_captains_1 10 rfl rfl)
theorem dX5_captains_36 : decode cX5_captains 36 = .ok (.aload_n 0, 1) := dk_42 (dk_at dksX5_captains_1 12 rfl rfl)
theorem dX5_captains_37 : decode cX5_captains 37 = .ok (.getfield 73, 3) := dk_180 0 73 (dk_at dksX5_captains_1 13 rfl rfl)
theorem dX5_captains_40 : decode cX5_captains 40 = .ok (.if_icmp .ge 77, 3) := dk_162 0 77 (dk_at dksX5_captains_1 16 rfl rfl)
theorem dX5_captains_43 : decode cX5_captains 43 = .ok (.aload_n 0, 1) := dk_42 (dk_at dksX5_captains_1 19 rfl rfl)
theorem dX5_captains_44 : decode cX5_captains 44 = .ok (.getfield 63, 3) := dk_180 0 63 (dk_at dksX5_captains_1 20 rfl rfl)
theorem dX5_captains_47 : decode cX5_captains 47 = .ok (.bipush 8, 2) := dk_16 8 (dk_at dksX5_captains_2 0 rfl rfl)
theorem dX5_captains_49 : decode cX5_captains 49 = .ok (.iload_n 1, 1) := dk_27 (dk_at dksX5_captains_2 2 rfl rfl)
theorem dX5_captains_50 : decode cX5_captains 50 = .ok (.imul, 1) := dk_104 (dk_at dksX5_captains_2 3 rfl rfl)
theorem dX5_captains_51 : decode cX5_captains 51 = .ok (.iload 5, 2) := dk_21 5 (dk_at dksX5_captains_2 4 rfl rfl)
theorem dX5_captains_53 : decode cX5_captains 53 = .ok (.iadd, 1) := dk_96 (dk_at dksX5_captains_2 6 rfl rfl)
theorem dX5_captains_54 : decode cX5_captains 54 = .ok (.iaload, 1) := dk_46 (dk_at dksX5_captains_2 7 rfl rfl)
theorem dX5_captains_55 : decode cX5_captains 55 = .ok (.istore 6, 2) := dk_54 6 (dk_at dksX5_captains_2 8 rfl rfl)
theorem dX5_captains_57 : decode cX5_captains 57 = .ok (.iload 6, 2) := dk_21 6 (dk_at dksX5_captains_2 10 rfl rfl)
theorem dX5_captains_59 : decode cX5_captains 59 = .ok (.ifCond .le 52, 3) := dk_158 0 52 (dk_at dksX5_captains_2 12 rfl rfl)
theorem dX5_captains_62 : decode cX5_captains 62 = .ok (.aload_n 0, 1) := dk_42 (dk_at dksX5_captains_2 15 rfl rfl)
theorem dX5_captains_63 : decode cX5_captains 63 = .ok (.getfield 66, 3) := dk_180 0 66 (dk_at dksX5_captains_2 16 rfl rfl)
theorem dX5_captains_66 : decode cX5_captains 66 = .ok (.aload_n 0, 1) := dk_42 (dk_at dksX5_captains_2 19 rfl rfl)
theorem dX5_captains_67 : decode cX5_captains 67 = .ok (.getfield 19, 3) := dk_180 0 19 (dk_at dksX5_captains_2 20 rfl rfl)
theorem dX5_captains_70 : decode cX5_captains 70 = .ok (.iload 5, 2) := dk_21 5 (dk_at dksX5_captains_3 0 rfl rfl)
theorem dX5_captains_72 : decode cX5_captains 72 = .ok (.aaload, 1) := dk_50 (dk_at dksX5_captains_3 2 rfl rfl)
theorem dX5_captains_73 : decode cX5_captains 73 = .ok (.getfield 111, 3) := dk_180 0 111 (dk_at dksX5_captains_3 3 rfl rfl)
theorem dX5_captains_76 : decode cX5_captains 76 = .ok (.dup2, 1) := dk_92 (dk_at dksX5_captains_3 6 rfl rfl)
theorem dX5_captains_77 : decode cX5_captains 77 = .ok (.iaload, 1) := dk_46 (dk_at dksX5_captains_3 7 rfl rfl)
theorem dX5_captains_78 : decode cX5_captains 78 = .ok (.iload_n 2, 1) := dk_28 (dk_at dksX5_captains_3 8 rfl rfl)
theorem dX5_captains_79 : decode cX5_captains 79 = .ok (.ifCond .ne 8, 3) := dk_154 0 8 (dk_at dksX5_captains_3 9 rfl rfl)
theorem dX5_captains_82 : decode cX5_captains 82 = .ok (.iload 6, 2) := dk_21 6 (dk_at dksX5_captains_3 12 rfl rfl)
theorem dX5_captains_84 : decode cX5_captains 84 = .ok (.goto 25, 3) := dk_167 0 25 (dk_at dksX5_captains_3 14 rfl rfl)
theorem dX5_captains_87 : decode cX5_captains 87 = .ok (.iload_n 2, 1) := dk_28 (dk_at dksX5_captains_3 17 rfl rfl)
theorem dX5_captains_88 : decode cX5_captains 88 = .ok (.iconst 1, 1) := dk_4 (dk_at dksX5_captains_3 18 rfl rfl)
theorem dX5_captains_89 : decode cX5_captains 89 = .ok (.if_icmp .ne 7, 3) := dk_160 0 7 (dk_at dksX5_captains_3 19 rfl rfl)
theorem dX5_captains_92 : decode cX5_captains 92 = .ok (.iconst 1, 1) := dk_4 (dk_at dksX5_captains_3 22 rfl rfl)
theorem dX5_captains_93 : decode cX5_captains 93 = .ok (.goto 16, 3) := dk_167 0 16 (dk_at dksX5_captains_4 0 rfl rfl)
theorem dX5_captains_96 : decode cX5_captains 96 = .ok (.iload 6, 2) := dk_21 6 (dk_at dksX5_captains_4 3 rfl rfl)
theorem dX5_captains_98 : decode cX5_captains 98 = .ok (.aload_n 0, 1) := dk_42 (dk_at dksX5_captains_4 5 rfl rfl)
theorem dX5_captains_99 : decode cX5_captains 99 = .ok (.getfield 19, 3) := dk_180 0 19 (dk_at dksX5_captains_4 6 rfl rfl)
theorem dX5_captains_102 : decode cX5_captains 102 = .ok (.iload 5, 2) := dk_21 5 (dk_at dksX5_captains_4 9 rfl rfl)
theorem dX5_captains_104 : decode cX5_captains 104 = .ok (.aaload, 1) := dk_50 (dk_at dksX5_captains_4 11 rfl rfl)
theorem dX5_captains_105 : decode cX5_captains 105 = .ok (.getfield 113, 3) := dk_180 0 113 (dk_at dksX5_captains_4 12 rfl rfl)
theorem dX5_captains_108 : decode cX5_captains 108 = .ok (.imul, 1) := dk_104 (dk_at dksX5_captains_4 15 rfl rfl)
theorem dX5_captains_109 : decode cX5_captains 109 = .ok (.iadd, 1) := dk_96 (dk_at dksX5_captains_4 16 rfl rfl)
theorem dX5_captains_110 : decode cX5_captains 110 = .ok (.iastore, 1) := dk_79 (dk_at dksX5_captains_4 17 rfl rfl)
theorem dX5_captains_111 : decode cX5_captains 111 = .ok (.iinc 5 1, 3) := dk_132 5 1 (dk_at dksX5_captains_4 18 rfl rfl)
theorem dX5_captains_114 : decode cX5_captains 114 = .ok (.goto (-80), 3) := dk_167 255 176 (dk_at dksX5_captains_4 21 rfl rfl)
theorem dX5_captains_117 : decode cX5_captains 117 = .ok (.iconst 0, 1) := dk_3 (dk_at dksX5_captains_5 0 rfl rfl)
theorem dX5_captains_118 : decode cX5_captains 118 = .ok (.istore 5, 2) := dk_54 5 (dk_at dksX5_captains_5 1 rfl rfl)
theorem dX5_captains_120 : decode cX5_captains 120 = .ok (.iload 5, 2) := dk_21 5 (dk_at dksX5_captains_5 3 rfl rfl)
theorem dX5_captains_122 : decode cX5_captains 122 = .ok (.aload_n 0, 1) := dk_42 (dk_at dksX5_captains_5 5 rfl rfl)
theorem dX5_captains_123 : decode cX5_captains 123 = .ok (.getfield 69, 3) := dk_180 0 69 (dk_at dksX5_captains_5 6 rfl rfl)
theorem dX5_captains_126 : decode cX5_captains 126 = .ok (.if_icmp .ge 69, 3) := dk_162 0 69 (dk_at dksX5_captains_5 9 rfl rfl)
theorem dX5_captains_129 : decode cX5_captains 129 = .ok (.aload_n 0, 1) := dk_42 (dk_at dksX5_captains_5 12 rfl rfl)
theorem dX5_captains_130 : decode cX5_captains 130 = .ok (.getfield 66, 3) := dk_180 0 66 (dk_at dksX5_captains_5 13 rfl rfl)
theorem dX5_captains_133 : decode cX5_captains 133 = .ok (.iload 5, 2) := dk_21 5 (dk_at dksX5_captains_5 16 rfl rfl)
theorem dX5_captains_135 : decode cX5_captains 135 = .ok (.iaload, 1) := dk_46 (dk_at dksX5_captains_5 18 rfl rfl)
theorem dX5_captains_136 : decode cX5_captains 136 = .ok (.ifCond .eq 53, 3) := dk_153 0 53 (dk_at dksX5_captains_5 19 rfl rfl)
theorem dX5_captains_139 : decode cX5_captains 139 = .ok (.aload_n 0, 1) := dk_42 (dk_at dksX5_captains_5 22 rfl rfl)
theorem dX5_captains_140 : decode cX5_captains 140 = .ok (.getfield 66, 3) := dk_180 0 66 (dk_at dksX5_captains_6 0 rfl rfl)
theorem dX5_captains_143 : decode cX5_captains 143 = .ok (.iload 5, 2) := dk_21 5 (dk_at dksX5_captains_6 3 rfl rfl)
theorem dX5_captains_145 : decode cX5_captains 145 = .ok (.iaload, 1) := dk_46 (dk_at dksX5_captains_6 5 rfl rfl)
theorem dX5_captains_146 : decode cX5_captains 146 = .ok (.iload 4, 2) := dk_21 4 (dk_at dksX5_captains_6 6 rfl rfl)
theorem dX5_captains_148 : decode cX5_captains 148 = .ok (.if_icmp .ge 6, 3) := dk_162 0 6 (dk_at dksX5_captains_6 8 rfl rfl)
theorem dX5_captains_151 : decode cX5_captains 151 = .ok (.goto 38, 3) := dk_167 0 38 (dk_at dksX5_captains_6 11 rfl rfl)
theorem dX5_captains_154 : decode cX5_captains 154 = .ok (.aload_n 0, 1) := dk_42 (dk_at dksX5_captains_6 14 rfl rfl)
theorem dX5_captains_155 : decode cX5_captains 155 = .ok (.getfield 66, 3) := dk_180 0 66 (dk_at dksX5_captains_6 15 rfl rfl)
theorem dX5_captains_158 : decode cX5_captains 158 = .ok (.iload 5, 2) := dk_21 5 (dk_at dksX5_captains_6 18 rfl rfl)
theorem dX5_captains_160 : decode cX5_captains 160 = .ok (.iaload, 1) := dk_46 (dk_at dksX5_captains_6 20 rfl rfl)
theorem dX5_captains_161 : decode cX5_captains 161 = .ok (.iload 4, 2) := dk_21 4 (dk_at dksX5_captains_6 21 rfl rfl)
theorem dX5_captains_163 : decode cX5_captains 163 = .ok (.if_icmp .le 10, 3) := dk_164 0 10 (dk_at dksX5_captains_7 0 rfl rfl)
theorem dX5_captains_166 : decode cX5_captains 166 = .ok (.iconst 1, 1) := dk_4 (dk_at dksX5_captains_7 3 rfl rfl)
theorem dX5_captains_167 : decode cX5_captains 167 = .ok (.iload 5, 2) := dk_21 5 (dk_at dksX5_captains_7 4 rfl rfl)
theorem dX5_captains_169 : decode cX5_captains 169 = .ok (.ishl, 1) := dk_120 (dk_at dksX5_captains_7 6 rfl rfl)
theorem dX5_captains_170 : decode cX5_captains 170 = .ok (.goto 9, 3) := dk_167 0 9 (dk_at dksX5_captains_7 7 rfl rfl)
theorem dX5_captains_173 : decode cX5_captains 173 = .ok (.iload_n 3, 1) := dk_29 (dk_at dksX5_captains_7 10 rfl rfl)
theorem dX5_captains_174 : decode cX5_captains 174 = .ok (.iconst 1, 1) := dk_4 (dk_at dksX5_captains_7 11 rfl rfl)
theorem dX5_captains_175 : decode cX5_captains 175 = .ok (.iload 5, 2) := dk_21 5 (dk_at dksX5_captains_7 12 rfl rfl)
theorem dX5_captains_177 : decode cX5_captains 177 = .ok (.ishl, 1) := dk_120 (dk_at dksX5_captains_7 14 rfl rfl)
theorem dX5_captains_178 : decode cX5_captains 178 = .ok (.ior, 1) := dk_128 (dk_at dksX5_captains_7 15 rfl rfl)
theorem dX5_captains_179 : decode cX5_captains 179 = .ok (.istore_n 3, 1) := dk_62 (dk_at dksX5_captains_7 16 rfl rfl)
theorem dX5_captains_180 : decode cX5_captains 180 = .ok (.aload_n 0, 1) := dk_42 (dk_at dksX5_captains_7 17 rfl rfl)
theorem dX5_captains_181 : decode cX5_captains 181 = .ok (.getfield 66, 3) := dk_180 0 66 (dk_at dksX5_captains_7 18 rfl rfl)
theorem dX5_captains_184 : decode cX5_captains 184 = .ok (.iload 5, 2) := dk_21 5 (dk_at dksX5_captains_7 21 rfl rfl)
theorem dX5_captains_186 : decode cX5_captains 186 = .ok (.iaload, 1) := dk_46 (dk_at dksX5_captains_7 23 rfl rfl)
theorem dX5_captains_187 : decode cX5_captains 187 = .ok (.istore 4, 2) := dk_54 4 (dk_at dksX5_captains_8 0 rfl rfl)
theorem dX5_captains_189 : decode cX5_captains 189 = .ok (.iinc 5 1, 3) := dk_132 5 1 (dk_at dksX5_captains_8 2 rfl rfl)
theorem dX5_captains_192 : decode cX5_captains 192 = .ok (.goto (-72), 3) := dk_167 255 184 (dk_at dksX5_captains_8 5 rfl rfl)
theorem dX5_captains_195 : decode cX5_captains 195 = .ok (.iload_n 3, 1) := dk_29 (dk_at dksX5_captains_8 8 rfl rfl)
theorem dX5_captains_196 : decode cX5_captains 196 = .ok (.ireturn, 1) := dk_172 (dk_at dksX5_captains_8 9 rfl rfl)
abbrev cX5_alone : ByteArray := prog_18_method_10_code
def yX5_alone : MethodName := ⟨RX5, "alone", "(I)I"⟩
def dkwX5_alone_0 : List UInt8 := [26, 184, 0, 120, 4, 160, 0, 10, 26, 184, 0, 125, 167, 0, 4, 2, 172]
abbrev dktX5_alone_0 : List UInt8 := dkwX5_alone_0 ++ []
theorem dksX5_alone_0 : cX5_alone.data.toList.drop 0 = dktX5_alone_0 := by decide +kernel
theorem dX5_alone_0 : decode cX5_alone 0 = .ok (.iload_n 0, 1) := dk_26 (dk_at dksX5_alone_0 0 rfl rfl)
theorem dX5_alone_1 : decode cX5_alone 1 = .ok (.invokestatic 120, 3) := dk_184 0 120 (dk_at dksX5_alone_0 1 rfl rfl)
theorem dX5_alone_4 : decode cX5_alone 4 = .ok (.iconst 1, 1) := dk_4 (dk_at dksX5_alone_0 4 rfl rfl)
theorem dX5_alone_5 : decode cX5_alone 5 = .ok (.if_icmp .ne 10, 3) := dk_160 0 10 (dk_at dksX5_alone_0 5 rfl rfl)
theorem dX5_alone_8 : decode cX5_alone 8 = .ok (.iload_n 0, 1) := dk_26 (dk_at dksX5_alone_0 8 rfl rfl)
theorem dX5_alone_9 : decode cX5_alone 9 = .ok (.invokestatic 125, 3) := dk_184 0 125 (dk_at dksX5_alone_0 9 rfl rfl)
theorem dX5_alone_12 : decode cX5_alone 12 = .ok (.goto 4, 3) := dk_167 0 4 (dk_at dksX5_alone_0 12 rfl rfl)
theorem dX5_alone_15 : decode cX5_alone 15 = .ok (.iconst (-1), 1) := dk_2 (dk_at dksX5_alone_0 15 rfl rfl)
theorem dX5_alone_16 : decode cX5_alone 16 = .ok (.ireturn, 1) := dk_172 (dk_at dksX5_alone_0 16 rfl rfl)
abbrev cX5_allCoins : ByteArray := prog_18_method_24_code
def yX5_allCoins : MethodName := ⟨RX5, "allCoins", "()I"⟩
def dkwX5_allCoins_1 : List UInt8 := [167, 255, 236, 27, 172]
abbrev dktX5_allCoins_1 : List UInt8 := dkwX5_allCoins_1 ++ []
def dkwX5_allCoins_0 : List UInt8 := [3, 60, 3, 61, 28, 42, 180, 0, 79, 162, 0, 18, 27, 42, 180, 0, 54, 28, 46, 96, 60, 132, 2, 1]
abbrev dktX5_allCoins_0 : List UInt8 := dkwX5_allCoins_0 ++ dktX5_allCoins_1
theorem dksX5_allCoins_0 : cX5_allCoins.data.toList.drop 0 = dktX5_allCoins_0 := by decide +kernel
theorem dksX5_allCoins_1 : cX5_allCoins.data.toList.drop 24 = dktX5_allCoins_1 := dk_seg dksX5_allCoins_0 24 rfl rfl
theorem dX5_allCoins_0 : decode cX5_allCoins 0 = .ok (.iconst 0, 1) := dk_3 (dk_at dksX5_allCoins_0 0 rfl rfl)
theorem dX5_allCoins_1 : decode cX5_allCoins 1 = .ok (.istore_n 1, 1) := dk_60 (dk_at dksX5_allCoins_0 1 rfl rfl)
theorem dX5_allCoins_2 : decode cX5_allCoins 2 = .ok (.iconst 0, 1) := dk_3 (dk_at dksX5_allCoins_0 2 rfl rfl)
theorem dX5_allCoins_3 : decode cX5_allCoins 3 = .ok (.istore_n 2, 1) := dk_61 (dk_at dksX5_allCoins_0 3 rfl rfl)
theorem dX5_allCoins_4 : decode cX5_allCoins 4 = .ok (.iload_n 2, 1) := dk_28 (dk_at dksX5_allCoins_0 4 rfl rfl)
theorem dX5_allCoins_5 : decode cX5_allCoins 5 = .ok (.aload_n 0, 1) := dk_42 (dk_at dksX5_allCoins_0 5 rfl rfl)
theorem dX5_allCoins_6 : decode cX5_allCoins 6 = .ok (.getfield 79, 3) := dk_180 0 79 (dk_at dksX5_allCoins_0 6 rfl rfl)
theorem dX5_allCoins_9 : decode cX5_allCoins 9 = .ok (.if_icmp .ge 18, 3) := dk_162 0 18 (dk_at dksX5_allCoins_0 9 rfl rfl)
theorem dX5_allCoins_12 : decode cX5_allCoins 12 = .ok (.iload_n 1, 1) := dk_27 (dk_at dksX5_allCoins_0 12 rfl rfl)
theorem dX5_allCoins_13 : decode cX5_allCoins 13 = .ok (.aload_n 0, 1) := dk_42 (dk_at dksX5_allCoins_0 13 rfl rfl)
theorem dX5_allCoins_14 : decode cX5_allCoins 14 = .ok (.getfield 54, 3) := dk_180 0 54 (dk_at dksX5_allCoins_0 14 rfl rfl)
theorem dX5_allCoins_17 : decode cX5_allCoins 17 = .ok (.iload_n 2, 1) := dk_28 (dk_at dksX5_allCoins_0 17 rfl rfl)
theorem dX5_allCoins_18 : decode cX5_allCoins 18 = .ok (.iaload, 1) := dk_46 (dk_at dksX5_allCoins_0 18 rfl rfl)
theorem dX5_allCoins_19 : decode cX5_allCoins 19 = .ok (.iadd, 1) := dk_96 (dk_at dksX5_allCoins_0 19 rfl rfl)
theorem dX5_allCoins_20 : decode cX5_allCoins 20 = .ok (.istore_n 1, 1) := dk_60 (dk_at dksX5_allCoins_0 20 rfl rfl)
theorem dX5_allCoins_21 : decode cX5_allCoins 21 = .ok (.iinc 2 1, 3) := dk_132 2 1 (dk_at dksX5_allCoins_0 21 rfl rfl)
theorem dX5_allCoins_24 : decode cX5_allCoins 24 = .ok (.goto (-20), 3) := dk_167 255 236 (dk_at dksX5_allCoins_1 0 rfl rfl)
theorem dX5_allCoins_27 : decode cX5_allCoins 27 = .ok (.iload_n 1, 1) := dk_27 (dk_at dksX5_allCoins_1 3 rfl rfl)
theorem dX5_allCoins_28 : decode cX5_allCoins 28 = .ok (.ireturn, 1) := dk_172 (dk_at dksX5_allCoins_1 4 rfl rfl)
abbrev cX5_weight : ByteArray := prog_18_method_7_code
def yX5_weight : MethodName := ⟨RX5, "weight", "(III)I"⟩
def dkwX5_weight_4 : List UInt8 := [172]
abbrev dktX5_weight_4 : List UInt8 := dkwX5_weight_4 ++ []
def dkwX5_weight_3 : List UInt8 := [21, 6, 42, 180, 0, 19, 21, 5, 50, 180, 0, 113, 104, 96, 54, 4, 132, 5, 1, 167, 255, 175, 21, 4]
abbrev dktX5_weight_3 : List UInt8 := dkwX5_weight_3 ++ dktX5_weight_4
def dkwX5_weight_2 : List UInt8 := [158, 0, 39, 21, 4, 29, 154, 0, 8, 21, 6, 167, 0, 25, 29, 4, 160, 0, 7, 4, 167, 0, 16]
abbrev dktX5_weight_2 : List UInt8 := dkwX5_weight_2 ++ dktX5_weight_3
def dkwX5_weight_1 : List UInt8 := [21, 5, 96, 46, 54, 6, 42, 180, 0, 19, 21, 5, 50, 180, 0, 111, 28, 160, 0, 44, 21, 6]
abbrev dktX5_weight_1 : List UInt8 := dkwX5_weight_1 ++ dktX5_weight_2
def dkwX5_weight_0 : List UInt8 := [3, 54, 4, 3, 54, 5, 21, 5, 42, 180, 0, 73, 162, 0, 78, 42, 180, 0, 63, 16, 8, 27, 104]
abbrev dktX5_weight_0 : List UInt8 := dkwX5_weight_0 ++ dktX5_weight_1
theorem dksX5_weight_0 : cX5_weight.data.toList.drop 0 = dktX5_weight_0 := by decide +kernel
theorem dksX5_weight_1 : cX5_weight.data.toList.drop 23 = dktX5_weight_1 := dk_seg dksX5_weight_0 23 rfl rfl
theorem dksX5_weight_2 : cX5_weight.data.toList.drop 45 = dktX5_weight_2 := dk_seg dksX5_weight_1 22 rfl rfl
theorem dksX5_weight_3 : cX5_weight.data.toList.drop 68 = dktX5_weight_3 := dk_seg dksX5_weight_2 23 rfl rfl
theorem dksX5_weight_4 : cX5_weight.data.toList.drop 92 = dktX5_weight_4 := dk_seg dksX5_weight_3 24 rfl rfl
theorem dX5_weight_0 : decode cX5_weight 0 = .ok (.iconst 0, 1) := dk_3 (dk_at dksX5_weight_0 0 rfl rfl)
theorem dX5_weight_1 : decode cX5_weight 1 = .ok (.istore 4, 2) := dk_54 4 (dk_at dksX5_weight_0 1 rfl rfl)
theorem dX5_weight_3 : decode cX5_weight 3 = .ok (.iconst 0, 1) := dk_3 (dk_at dksX5_weight_0 3 rfl rfl)
theorem dX5_weight_4 : decode cX5_weight 4 = .ok (.istore 5, 2) := dk_54 5 (dk_at dksX5_weight_0 4 rfl rfl)
theorem dX5_weight_6 : decode cX5_weight 6 = .ok (.iload 5, 2) := dk_21 5 (dk_at dksX5_weight_0 6 rfl rfl)
theorem dX5_weight_8 : decode cX5_weight 8 = .ok (.aload_n 0, 1) := dk_42 (dk_at dksX5_weight_0 8 rfl rfl)
theorem dX5_weight_9 : decode cX5_weight 9 = .ok (.getfield 73, 3) := dk_180 0 73 (dk_at dksX5_weight_0 9 rfl rfl)
theorem dX5_weight_12 : decode cX5_weight 12 = .ok (.if_icmp .ge 78, 3) := dk_162 0 78 (dk_at dksX5_weight_0 12 rfl rfl)
theorem dX5_weight_15 : decode cX5_weight 15 = .ok (.aload_n 0, 1) := dk_42 (dk_at dksX5_weight_0 15 rfl rfl)
theorem dX5_weight_16 : decode cX5_weight 16 = .ok (.getfield 63, 3) := dk_180 0 63 (dk_at dksX5_weight_0 16 rfl rfl)
theorem dX5_weight_19 : decode cX5_weight 19 = .ok (.bipush 8, 2) := dk_16 8 (dk_at dksX5_weight_0 19 rfl rfl)
theorem dX5_weight_21 : decode cX5_weight 21 = .ok (.iload_n 1, 1) := dk_27 (dk_at dksX5_weight_0 21 rfl rfl)
theorem dX5_weight_22 : decode cX5_weight 22 = .ok (.imul, 1) := dk_104 (dk_at dksX5_weight_0 22 rfl rfl)
theorem dX5_weight_23 : decode cX5_weight 23 = .ok (.iload 5, 2) := dk_21 5 (dk_at dksX5_weight_1 0 rfl rfl)
theorem dX5_weight_25 : decode cX5_weight 25 = .ok (.iadd, 1) := dk_96 (dk_at dksX5_weight_1 2 rfl rfl)
theorem dX5_weight_26 : decode cX5_weight 26 = .ok (.iaload, 1) := dk_46 (dk_at dksX5_weight_1 3 rfl rfl)
theorem dX5_weight_27 : decode cX5_weight 27 = .ok (.istore 6, 2) := dk_54 6 (dk_at dksX5_weight_1 4 rfl rfl)
theorem dX5_weight_29 : decode cX5_weight 29 = .ok (.aload_n 0, 1) := dk_42 (dk_at dksX5_weight_1 6 rfl rfl)
theorem dX5_weight_30 : decode cX5_weight 30 = .ok (.getfield 19, 3) := dk_180 0 19 (dk_at dksX5_weight_1 7 rfl rfl)
theorem dX5_weight_33 : decode cX5_weight 33 = .ok (.iload 5, 2) := dk_21 5 (dk_at dksX5_weight_1 10 rfl rfl)
theorem dX5_weight_35 : decode cX5_weight 35 = .ok (.aaload, 1) := dk_50 (dk_at dksX5_weight_1 12 rfl rfl)
theorem dX5_weight_36 : decode cX5_weight 36 = .ok (.getfield 111, 3) := dk_180 0 111 (dk_at dksX5_weight_1 13 rfl rfl)
theorem dX5_weight_39 : decode cX5_weight 39 = .ok (.iload_n 2, 1) := dk_28 (dk_at dksX5_weight_1 16 rfl rfl)
theorem dX5_weight_40 : decode cX5_weight 40 = .ok (.if_icmp .ne 44, 3) := dk_160 0 44 (dk_at dksX5_weight_1 17 rfl rfl)
theorem dX5_weight_43 : decode cX5_weight 43 = .ok (.iload 6, 2) := dk_21 6 (dk_at dksX5_weight_1 20 rfl rfl)
theorem dX5_weight_45 : decode cX5_weight 45 = .ok (.ifCond .le 39, 3) := dk_158 0 39 (dk_at dksX5_weight_2 0 rfl rfl)
theorem dX5_weight_48 : decode cX5_weight 48 = .ok (.iload 4, 2) := dk_21 4 (dk_at dksX5_weight_2 3 rfl rfl)
theorem dX5_weight_50 : decode cX5_weight 50 = .ok (.iload_n 3, 1) := dk_29 (dk_at dksX5_weight_2 5 rfl rfl)
theorem dX5_weight_51 : decode cX5_weight 51 = .ok (.ifCond .ne 8, 3) := dk_154 0 8 (dk_at dksX5_weight_2 6 rfl rfl)
theorem dX5_weight_54 : decode cX5_weight 54 = .ok (.iload 6, 2) := dk_21 6 (dk_at dksX5_weight_2 9 rfl rfl)
theorem dX5_weight_56 : decode cX5_weight 56 = .ok (.goto 25, 3) := dk_167 0 25 (dk_at dksX5_weight_2 11 rfl rfl)
theorem dX5_weight_59 : decode cX5_weight 59 = .ok (.iload_n 3, 1) := dk_29 (dk_at dksX5_weight_2 14 rfl rfl)
theorem dX5_weight_60 : decode cX5_weight 60 = .ok (.iconst 1, 1) := dk_4 (dk_at dksX5_weight_2 15 rfl rfl)
theorem dX5_weight_61 : decode cX5_weight 61 = .ok (.if_icmp .ne 7, 3) := dk_160 0 7 (dk_at dksX5_weight_2 16 rfl rfl)
theorem dX5_weight_64 : decode cX5_weight 64 = .ok (.iconst 1, 1) := dk_4 (dk_at dksX5_weight_2 19 rfl rfl)
theorem dX5_weight_65 : decode cX5_weight 65 = .ok (.goto 16, 3) := dk_167 0 16 (dk_at dksX5_weight_2 20 rfl rfl)
theorem dX5_weight_68 : decode cX5_weight 68 = .ok (.iload 6, 2) := dk_21 6 (dk_at dksX5_weight_3 0 rfl rfl)
theorem dX5_weight_70 : decode cX5_weight 70 = .ok (.aload_n 0, 1) := dk_42 (dk_at dksX5_weight_3 2 rfl rfl)
theorem dX5_weight_71 : decode cX5_weight 71 = .ok (.getfield 19, 3) := dk_180 0 19 (dk_at dksX5_weight_3 3 rfl rfl)
theorem dX5_weight_74 : decode cX5_weight 74 = .ok (.iload 5, 2) := dk_21 5 (dk_at dksX5_weight_3 6 rfl rfl)
theorem dX5_weight_76 : decode cX5_weight 76 = .ok (.aaload, 1) := dk_50 (dk_at dksX5_weight_3 8 rfl rfl)
theorem dX5_weight_77 : decode cX5_weight 77 = .ok (.getfield 113, 3) := dk_180 0 113 (dk_at dksX5_weight_3 9 rfl rfl)
theorem dX5_weight_80 : decode cX5_weight 80 = .ok (.imul, 1) := dk_104 (dk_at dksX5_weight_3 12 rfl rfl)
theorem dX5_weight_81 : decode cX5_weight 81 = .ok (.iadd, 1) := dk_96 (dk_at dksX5_weight_3 13 rfl rfl)
theorem dX5_weight_82 : decode cX5_weight 82 = .ok (.istore 4, 2) := dk_54 4 (dk_at dksX5_weight_3 14 rfl rfl)
theorem dX5_weight_84 : decode cX5_weight 84 = .ok (.iinc 5 1, 3) := dk_132 5 1 (dk_at dksX5_weight_3 16 rfl rfl)
theorem dX5_weight_87 : decode cX5_weight 87 = .ok (.goto (-81), 3) := dk_167 255 175 (dk_at dksX5_weight_3 19 rfl rfl)
theorem dX5_weight_90 : decode cX5_weight 90 = .ok (.iload 4, 2) := dk_21 4 (dk_at dksX5_weight_3 22 rfl rfl)
theorem dX5_weight_92 : decode cX5_weight 92 = .ok (.ireturn, 1) := dk_172 (dk_at dksX5_weight_4 0 rfl rfl)
abbrev cX5_captains_2 : ByteArray := prog_18_method_9_code
def yX5_captains_2 : MethodName := ⟨RX5, "captains", "(I)I"⟩
def dkwX5_captains_2_0 : List UInt8 := [42, 27, 42, 180, 0, 82, 182, 0, 116, 172]
abbrev dktX5_captains_2_0 : List UInt8 := dkwX5_captains_2_0 ++ []
theorem dksX5_captains_2_0 : cX5_captains_2.data.toList.drop 0 = dktX5_captains_2_0 := by decide +kernel
theorem dX5_captains_2_0 : decode cX5_captains_2 0 = .ok (.aload_n 0, 1) := dk_42 (dk_at dksX5_captains_2_0 0 rfl rfl)
theorem dX5_captains_2_1 : decode cX5_captains_2 1 = .ok (.iload_n 1, 1) := dk_27 (dk_at dksX5_captains_2_0 1 rfl rfl)
theorem dX5_captains_2_2 : decode cX5_captains_2 2 = .ok (.aload_n 0, 1) := dk_42 (dk_at dksX5_captains_2_0 2 rfl rfl)
theorem dX5_captains_2_3 : decode cX5_captains_2 3 = .ok (.getfield 82, 3) := dk_180 0 82 (dk_at dksX5_captains_2_0 3 rfl rfl)
theorem dX5_captains_2_6 : decode cX5_captains_2 6 = .ok (.invokevirtual 116, 3) := dk_182 0 116 (dk_at dksX5_captains_2_0 6 rfl rfl)
theorem dX5_captains_2_9 : decode cX5_captains_2 9 = .ok (.ireturn, 1) := dk_172 (dk_at dksX5_captains_2_0 9 rfl rfl)
abbrev cX5_deeds : ByteArray := prog_18_method_13_code
def yX5_deeds : MethodName := ⟨RX5, "deeds", "(I)I"⟩
def dkwX5_deeds_4 : List UInt8 := [126, 172]
abbrev dktX5_deeds_4 : List UInt8 := dkwX5_deeds_4 ++ []
def dkwX5_deeds_3 : List UInt8 := [167, 255, 204, 28, 184, 0, 120, 4, 160, 0, 7, 29, 167, 0, 13, 29, 21, 4, 2, 130, 128, 17, 0, 255]
abbrev dktX5_deeds_3 : List UInt8 := dkwX5_deeds_3 ++ dktX5_deeds_4
def dkwX5_deeds_2 : List UInt8 := [180, 0, 140, 126, 62, 21, 4, 42, 180, 0, 11, 21, 5, 50, 180, 0, 140, 128, 54, 4, 132, 5, 1]
abbrev dktX5_deeds_2 : List UInt8 := dkwX5_deeds_2 ++ dktX5_deeds_3
def dkwX5_deeds_1 : List UInt8 := [162, 0, 49, 28, 21, 5, 184, 0, 136, 154, 0, 6, 167, 0, 31, 29, 42, 180, 0, 11, 21, 5, 50]
abbrev dktX5_deeds_1 : List UInt8 := dkwX5_deeds_1 ++ dktX5_deeds_2
def dkwX5_deeds_0 : List UInt8 := [42, 27, 182, 0, 134, 61, 17, 0, 255, 62, 3, 54, 4, 3, 54, 5, 21, 5, 42, 180, 0, 69]
abbrev dktX5_deeds_0 : List UInt8 := dkwX5_deeds_0 ++ dktX5_deeds_1
theorem dksX5_deeds_0 : cX5_deeds.data.toList.drop 0 = dktX5_deeds_0 := by decide +kernel
theorem dksX5_deeds_1 : cX5_deeds.data.toList.drop 22 = dktX5_deeds_1 := dk_seg dksX5_deeds_0 22 rfl rfl
theorem dksX5_deeds_2 : cX5_deeds.data.toList.drop 45 = dktX5_deeds_2 := dk_seg dksX5_deeds_1 23 rfl rfl
theorem dksX5_deeds_3 : cX5_deeds.data.toList.drop 68 = dktX5_deeds_3 := dk_seg dksX5_deeds_2 23 rfl rfl
theorem dksX5_deeds_4 : cX5_deeds.data.toList.drop 92 = dktX5_deeds_4 := dk_seg dksX5_deeds_3 24 rfl rfl
theorem dX5_deeds_0 : decode cX5_deeds 0 = .ok (.aload_n 0, 1) := dk_42 (dk_at dksX5_deeds_0 0 rfl rfl)
theorem dX5_deeds_1 : decode cX5_deeds 1 = .ok (.iload_n 1, 1) := dk_27 (dk_at dksX5_deeds_0 1 rfl rfl)
theorem dX5_deeds_2 : decode cX5_deeds 2 = .ok (.invokevirtual 134, 3) := dk_182 0 134 (dk_at dksX5_deeds_0 2 rfl rfl)
theorem dX5_deeds_5 : decode cX5_deeds 5 = .ok (.istore_n 2, 1) := dk_61 (dk_at dksX5_deeds_0 5 rfl rfl)
theorem dX5_deeds_6 : decode cX5_deeds 6 = .ok (.sipush 255, 3) := dk_17 0 255 (dk_at dksX5_deeds_0 6 rfl rfl)
theorem dX5_deeds_9 : decode cX5_deeds 9 = .ok (.istore_n 3, 1) := dk_62 (dk_at dksX5_deeds_0 9 rfl rfl)
theorem dX5_deeds_10 : decode cX5_deeds 10 = .ok (.iconst 0, 1) := dk_3 (dk_at dksX5_deeds_0 10 rfl rfl)
theorem dX5_deeds_11 : decode cX5_deeds 11 = .ok (.istore 4, 2) := dk_54 4 (dk_at dksX5_deeds_0 11 rfl rfl)
theorem dX5_deeds_13 : decode cX5_deeds 13 = .ok (.iconst 0, 1) := dk_3 (dk_at dksX5_deeds_0 13 rfl rfl)
theorem dX5_deeds_14 : decode cX5_deeds 14 = .ok (.istore 5, 2) := dk_54 5 (dk_at dksX5_deeds_0 14 rfl rfl)
theorem dX5_deeds_16 : decode cX5_deeds 16 = .ok (.iload 5, 2) := dk_21 5 (dk_at dksX5_deeds_0 16 rfl rfl)
theorem dX5_deeds_18 : decode cX5_deeds 18 = .ok (.aload_n 0, 1) := dk_42 (dk_at dksX5_deeds_0 18 rfl rfl)
theorem dX5_deeds_19 : decode cX5_deeds 19 = .ok (.getfield 69, 3) := dk_180 0 69 (dk_at dksX5_deeds_0 19 rfl rfl)
theorem dX5_deeds_22 : decode cX5_deeds 22 = .ok (.if_icmp .ge 49, 3) := dk_162 0 49 (dk_at dksX5_deeds_1 0 rfl rfl)
theorem dX5_deeds_25 : decode cX5_deeds 25 = .ok (.iload_n 2, 1) := dk_28 (dk_at dksX5_deeds_1 3 rfl rfl)
theorem dX5_deeds_26 : decode cX5_deeds 26 = .ok (.iload 5, 2) := dk_21 5 (dk_at dksX5_deeds_1 4 rfl rfl)
theorem dX5_deeds_28 : decode cX5_deeds 28 = .ok (.invokestatic 136, 3) := dk_184 0 136 (dk_at dksX5_deeds_1 6 rfl rfl)
theorem dX5_deeds_31 : decode cX5_deeds 31 = .ok (.ifCond .ne 6, 3) := dk_154 0 6 (dk_at dksX5_deeds_1 9 rfl rfl)
theorem dX5_deeds_34 : decode cX5_deeds 34 = .ok (.goto 31, 3) := dk_167 0 31 (dk_at dksX5_deeds_1 12 rfl rfl)
theorem dX5_deeds_37 : decode cX5_deeds 37 = .ok (.iload_n 3, 1) := dk_29 (dk_at dksX5_deeds_1 15 rfl rfl)
theorem dX5_deeds_38 : decode cX5_deeds 38 = .ok (.aload_n 0, 1) := dk_42 (dk_at dksX5_deeds_1 16 rfl rfl)
theorem dX5_deeds_39 : decode cX5_deeds 39 = .ok (.getfield 11, 3) := dk_180 0 11 (dk_at dksX5_deeds_1 17 rfl rfl)
theorem dX5_deeds_42 : decode cX5_deeds 42 = .ok (.iload 5, 2) := dk_21 5 (dk_at dksX5_deeds_1 20 rfl rfl)
theorem dX5_deeds_44 : decode cX5_deeds 44 = .ok (.aaload, 1) := dk_50 (dk_at dksX5_deeds_1 22 rfl rfl)
theorem dX5_deeds_45 : decode cX5_deeds 45 = .ok (.getfield 140, 3) := dk_180 0 140 (dk_at dksX5_deeds_2 0 rfl rfl)
theorem dX5_deeds_48 : decode cX5_deeds 48 = .ok (.iand, 1) := dk_126 (dk_at dksX5_deeds_2 3 rfl rfl)
theorem dX5_deeds_49 : decode cX5_deeds 49 = .ok (.istore_n 3, 1) := dk_62 (dk_at dksX5_deeds_2 4 rfl rfl)
theorem dX5_deeds_50 : decode cX5_deeds 50 = .ok (.iload 4, 2) := dk_21 4 (dk_at dksX5_deeds_2 5 rfl rfl)
theorem dX5_deeds_52 : decode cX5_deeds 52 = .ok (.aload_n 0, 1) := dk_42 (dk_at dksX5_deeds_2 7 rfl rfl)
theorem dX5_deeds_53 : decode cX5_deeds 53 = .ok (.getfield 11, 3) := dk_180 0 11 (dk_at dksX5_deeds_2 8 rfl rfl)
theorem dX5_deeds_56 : decode cX5_deeds 56 = .ok (.iload 5, 2) := dk_21 5 (dk_at dksX5_deeds_2 11 rfl rfl)
theorem dX5_deeds_58 : decode cX5_deeds 58 = .ok (.aaload, 1) := dk_50 (dk_at dksX5_deeds_2 13 rfl rfl)
theorem dX5_deeds_59 : decode cX5_deeds 59 = .ok (.getfield 140, 3) := dk_180 0 140 (dk_at dksX5_deeds_2 14 rfl rfl)
theorem dX5_deeds_62 : decode cX5_deeds 62 = .ok (.ior, 1) := dk_128 (dk_at dksX5_deeds_2 17 rfl rfl)
theorem dX5_deeds_63 : decode cX5_deeds 63 = .ok (.istore 4, 2) := dk_54 4 (dk_at dksX5_deeds_2 18 rfl rfl)
theorem dX5_deeds_65 : decode cX5_deeds 65 = .ok (.iinc 5 1, 3) := dk_132 5 1 (dk_at dksX5_deeds_2 20 rfl rfl)
theorem dX5_deeds_68 : decode cX5_deeds 68 = .ok (.goto (-52), 3) := dk_167 255 204 (dk_at dksX5_deeds_3 0 rfl rfl)
theorem dX5_deeds_71 : decode cX5_deeds 71 = .ok (.iload_n 2, 1) := dk_28 (dk_at dksX5_deeds_3 3 rfl rfl)
theorem dX5_deeds_72 : decode cX5_deeds 72 = .ok (.invokestatic 120, 3) := dk_184 0 120 (dk_at dksX5_deeds_3 4 rfl rfl)
theorem dX5_deeds_75 : decode cX5_deeds 75 = .ok (.iconst 1, 1) := dk_4 (dk_at dksX5_deeds_3 7 rfl rfl)
theorem dX5_deeds_76 : decode cX5_deeds 76 = .ok (.if_icmp .ne 7, 3) := dk_160 0 7 (dk_at dksX5_deeds_3 8 rfl rfl)
theorem dX5_deeds_79 : decode cX5_deeds 79 = .ok (.iload_n 3, 1) := dk_29 (dk_at dksX5_deeds_3 11 rfl rfl)
theorem dX5_deeds_80 : decode cX5_deeds 80 = .ok (.goto 13, 3) := dk_167 0 13 (dk_at dksX5_deeds_3 12 rfl rfl)
theorem dX5_deeds_83 : decode cX5_deeds 83 = .ok (.iload_n 3, 1) := dk_29 (dk_at dksX5_deeds_3 15 rfl rfl)
theorem dX5_deeds_84 : decode cX5_deeds 84 = .ok (.iload 4, 2) := dk_21 4 (dk_at dksX5_deeds_3 16 rfl rfl)
theorem dX5_deeds_86 : decode cX5_deeds 86 = .ok (.iconst (-1), 1) := dk_2 (dk_at dksX5_deeds_3 18 rfl rfl)
theorem dX5_deeds_87 : decode cX5_deeds 87 = .ok (.ixor, 1) := dk_130 (dk_at dksX5_deeds_3 19 rfl rfl)
theorem dX5_deeds_88 : decode cX5_deeds 88 = .ok (.ior, 1) := dk_128 (dk_at dksX5_deeds_3 20 rfl rfl)
theorem dX5_deeds_89 : decode cX5_deeds 89 = .ok (.sipush 255, 3) := dk_17 0 255 (dk_at dksX5_deeds_3 21 rfl rfl)
theorem dX5_deeds_92 : decode cX5_deeds 92 = .ok (.iand, 1) := dk_126 (dk_at dksX5_deeds_4 0 rfl rfl)
theorem dX5_deeds_93 : decode cX5_deeds 93 = .ok (.ireturn, 1) := dk_172 (dk_at dksX5_deeds_4 1 rfl rfl)
abbrev cX5_boards : ByteArray := prog_18_method_14_code
def yX5_boards : MethodName := ⟨RX5, "boards", "(II)Z"⟩
def dkwX5_boards_1 : List UInt8 := [180, 0, 35, 29, 46, 21, 4, 184, 0, 136, 153, 0, 7, 4, 167, 0, 4, 3, 172]
abbrev dktX5_boards_1 : List UInt8 := dkwX5_boards_1 ++ []
def dkwX5_boards_0 : List UInt8 := [42, 27, 182, 0, 143, 62, 42, 28, 182, 0, 143, 54, 4, 29, 155, 0, 26, 21, 4, 155, 0, 21, 42]
abbrev dktX5_boards_0 : List UInt8 := dkwX5_boards_0 ++ dktX5_boards_1
theorem dksX5_boards_0 : cX5_boards.data.toList.drop 0 = dktX5_boards_0 := by decide +kernel
theorem dksX5_boards_1 : cX5_boards.data.toList.drop 23 = dktX5_boards_1 := dk_seg dksX5_boards_0 23 rfl rfl
theorem dX5_boards_0 : decode cX5_boards 0 = .ok (.aload_n 0, 1) := dk_42 (dk_at dksX5_boards_0 0 rfl rfl)
theorem dX5_boards_1 : decode cX5_boards 1 = .ok (.iload_n 1, 1) := dk_27 (dk_at dksX5_boards_0 1 rfl rfl)
theorem dX5_boards_2 : decode cX5_boards 2 = .ok (.invokevirtual 143, 3) := dk_182 0 143 (dk_at dksX5_boards_0 2 rfl rfl)
theorem dX5_boards_5 : decode cX5_boards 5 = .ok (.istore_n 3, 1) := dk_62 (dk_at dksX5_boards_0 5 rfl rfl)
theorem dX5_boards_6 : decode cX5_boards 6 = .ok (.aload_n 0, 1) := dk_42 (dk_at dksX5_boards_0 6 rfl rfl)
theorem dX5_boards_7 : decode cX5_boards 7 = .ok (.iload_n 2, 1) := dk_28 (dk_at dksX5_boards_0 7 rfl rfl)
theorem dX5_boards_8 : decode cX5_boards 8 = .ok (.invokevirtual 143, 3) := dk_182 0 143 (dk_at dksX5_boards_0 8 rfl rfl)
theorem dX5_boards_11 : decode cX5_boards 11 = .ok (.istore 4, 2) := dk_54 4 (dk_at dksX5_boards_0 11 rfl rfl)
theorem dX5_boards_13 : decode cX5_boards 13 = .ok (.iload_n 3, 1) := dk_29 (dk_at dksX5_boards_0 13 rfl rfl)
theorem dX5_boards_14 : decode cX5_boards 14 = .ok (.ifCond .lt 26, 3) := dk_155 0 26 (dk_at dksX5_boards_0 14 rfl rfl)
theorem dX5_boards_17 : decode cX5_boards 17 = .ok (.iload 4, 2) := dk_21 4 (dk_at dksX5_boards_0 17 rfl rfl)
theorem dX5_boards_19 : decode cX5_boards 19 = .ok (.ifCond .lt 21, 3) := dk_155 0 21 (dk_at dksX5_boards_0 19 rfl rfl)
theorem dX5_boards_22 : decode cX5_boards 22 = .ok (.aload_n 0, 1) := dk_42 (dk_at dksX5_boards_0 22 rfl rfl)
theorem dX5_boards_23 : decode cX5_boards 23 = .ok (.getfield 35, 3) := dk_180 0 35 (dk_at dksX5_boards_1 0 rfl rfl)
theorem dX5_boards_26 : decode cX5_boards 26 = .ok (.iload_n 3, 1) := dk_29 (dk_at dksX5_boards_1 3 rfl rfl)
theorem dX5_boards_27 : decode cX5_boards 27 = .ok (.iaload, 1) := dk_46 (dk_at dksX5_boards_1 4 rfl rfl)
theorem dX5_boards_28 : decode cX5_boards 28 = .ok (.iload 4, 2) := dk_21 4 (dk_at dksX5_boards_1 5 rfl rfl)
theorem dX5_boards_30 : decode cX5_boards 30 = .ok (.invokestatic 136, 3) := dk_184 0 136 (dk_at dksX5_boards_1 7 rfl rfl)
theorem dX5_boards_33 : decode cX5_boards 33 = .ok (.ifCond .eq 7, 3) := dk_153 0 7 (dk_at dksX5_boards_1 10 rfl rfl)
theorem dX5_boards_36 : decode cX5_boards 36 = .ok (.iconst 1, 1) := dk_4 (dk_at dksX5_boards_1 13 rfl rfl)
theorem dX5_boards_37 : decode cX5_boards 37 = .ok (.goto 4, 3) := dk_167 0 4 (dk_at dksX5_boards_1 14 rfl rfl)
theorem dX5_boards_40 : decode cX5_boards 40 = .ok (.iconst 0, 1) := dk_3 (dk_at dksX5_boards_1 17 rfl rfl)
theorem dX5_boards_41 : decode cX5_boards 41 = .ok (.ireturn, 1) := dk_172 (dk_at dksX5_boards_1 18 rfl rfl)
abbrev cX5_buys : ByteArray := prog_18_method_16_code
def yX5_buys : MethodName := ⟨RX5, "buys", "(III)Z"⟩
def dkwX5_buys_3 : List UInt8 := [180, 0, 63, 16, 8, 27, 104, 28, 96, 92, 46, 29, 96, 79, 4, 172]
abbrev dktX5_buys_3 : List UInt8 := dkwX5_buys_3 ++ []
def dkwX5_buys_2 : List UInt8 := [42, 180, 0, 54, 27, 46, 164, 0, 5, 3, 172, 42, 180, 0, 54, 27, 92, 46, 21, 4, 100, 79, 42]
abbrev dktX5_buys_2 : List UInt8 := dkwX5_buys_2 ++ dktX5_buys_3
def dkwX5_buys_1 : List UInt8 := [104, 28, 96, 46, 29, 104, 54, 4, 21, 4, 153, 0, 23, 29, 42, 27, 182, 0, 149, 163, 0, 14, 21, 4]
abbrev dktX5_buys_1 : List UInt8 := dkwX5_buys_1 ++ dktX5_buys_2
def dkwX5_buys_0 : List UInt8 := [42, 27, 182, 0, 145, 153, 0, 7, 3, 167, 0, 21, 42, 180, 0, 39, 16, 8, 42, 180, 0, 45, 27, 46]
abbrev dktX5_buys_0 : List UInt8 := dkwX5_buys_0 ++ dktX5_buys_1
theorem dksX5_buys_0 : cX5_buys.data.toList.drop 0 = dktX5_buys_0 := by decide +kernel
theorem dksX5_buys_1 : cX5_buys.data.toList.drop 24 = dktX5_buys_1 := dk_seg dksX5_buys_0 24 rfl rfl
theorem dksX5_buys_2 : cX5_buys.data.toList.drop 48 = dktX5_buys_2 := dk_seg dksX5_buys_1 24 rfl rfl
theorem dksX5_buys_3 : cX5_buys.data.toList.drop 71 = dktX5_buys_3 := dk_seg dksX5_buys_2 23 rfl rfl
theorem dX5_buys_0 : decode cX5_buys 0 = .ok (.aload_n 0, 1) := dk_42 (dk_at dksX5_buys_0 0 rfl rfl)
theorem dX5_buys_1 : decode cX5_buys 1 = .ok (.iload_n 1, 1) := dk_27 (dk_at dksX5_buys_0 1 rfl rfl)
theorem dX5_buys_2 : decode cX5_buys 2 = .ok (.invokevirtual 145, 3) := dk_182 0 145 (dk_at dksX5_buys_0 2 rfl rfl)
theorem dX5_buys_5 : decode cX5_buys 5 = .ok (.ifCond .eq 7, 3) := dk_153 0 7 (dk_at dksX5_buys_0 5 rfl rfl)
theorem dX5_buys_8 : decode cX5_buys 8 = .ok (.iconst 0, 1) := dk_3 (dk_at dksX5_buys_0 8 rfl rfl)
theorem dX5_buys_9 : decode cX5_buys 9 = .ok (.goto 21, 3) := dk_167 0 21 (dk_at dksX5_buys_0 9 rfl rfl)
theorem dX5_buys_12 : decode cX5_buys 12 = .ok (.aload_n 0, 1) := dk_42 (dk_at dksX5_buys_0 12 rfl rfl)
theorem dX5_buys_13 : decode cX5_buys 13 = .ok (.getfield 39, 3) := dk_180 0 39 (dk_at dksX5_buys_0 13 rfl rfl)
theorem dX5_buys_16 : decode cX5_buys 16 = .ok (.bipush 8, 2) := dk_16 8 (dk_at dksX5_buys_0 16 rfl rfl)
theorem dX5_buys_18 : decode cX5_buys 18 = .ok (.aload_n 0, 1) := dk_42 (dk_at dksX5_buys_0 18 rfl rfl)
theorem dX5_buys_19 : decode cX5_buys 19 = .ok (.getfield 45, 3) := dk_180 0 45 (dk_at dksX5_buys_0 19 rfl rfl)
theorem dX5_buys_22 : decode cX5_buys 22 = .ok (.iload_n 1, 1) := dk_27 (dk_at dksX5_buys_0 22 rfl rfl)
theorem dX5_buys_23 : decode cX5_buys 23 = .ok (.iaload, 1) := dk_46 (dk_at dksX5_buys_0 23 rfl rfl)
theorem dX5_buys_24 : decode cX5_buys 24 = .ok (.imul, 1) := dk_104 (dk_at dksX5_buys_1 0 rfl rfl)
theorem dX5_buys_25 : decode cX5_buys 25 = .ok (.iload_n 2, 1) := dk_28 (dk_at dksX5_buys_1 1 rfl rfl)
theorem dX5_buys_26 : decode cX5_buys 26 = .ok (.iadd, 1) := dk_96 (dk_at dksX5_buys_1 2 rfl rfl)
theorem dX5_buys_27 : decode cX5_buys 27 = .ok (.iaload, 1) := dk_46 (dk_at dksX5_buys_1 3 rfl rfl)
theorem dX5_buys_28 : decode cX5_buys 28 = .ok (.iload_n 3, 1) := dk_29 (dk_at dksX5_buys_1 4 rfl rfl)
theorem dX5_buys_29 : decode cX5_buys 29 = .ok (.imul, 1) := dk_104 (dk_at dksX5_buys_1 5 rfl rfl)
theorem dX5_buys_30 : decode cX5_buys 30 = .ok (.istore 4, 2) := dk_54 4 (dk_at dksX5_buys_1 6 rfl rfl)
theorem dX5_buys_32 : decode cX5_buys 32 = .ok (.iload 4, 2) := dk_21 4 (dk_at dksX5_buys_1 8 rfl rfl)
theorem dX5_buys_34 : decode cX5_buys 34 = .ok (.ifCond .eq 23, 3) := dk_153 0 23 (dk_at dksX5_buys_1 10 rfl rfl)
theorem dX5_buys_37 : decode cX5_buys 37 = .ok (.iload_n 3, 1) := dk_29 (dk_at dksX5_buys_1 13 rfl rfl)
theorem dX5_buys_38 : decode cX5_buys 38 = .ok (.aload_n 0, 1) := dk_42 (dk_at dksX5_buys_1 14 rfl rfl)
theorem dX5_buys_39 : decode cX5_buys 39 = .ok (.iload_n 1, 1) := dk_27 (dk_at dksX5_buys_1 15 rfl rfl)
theorem dX5_buys_40 : decode cX5_buys 40 = .ok (.invokevirtual 149, 3) := dk_182 0 149 (dk_at dksX5_buys_1 16 rfl rfl)
theorem dX5_buys_43 : decode cX5_buys 43 = .ok (.if_icmp .gt 14, 3) := dk_163 0 14 (dk_at dksX5_buys_1 19 rfl rfl)
theorem dX5_buys_46 : decode cX5_buys 46 = .ok (.iload 4, 2) := dk_21 4 (dk_at dksX5_buys_1 22 rfl rfl)
theorem dX5_buys_48 : decode cX5_buys 48 = .ok (.aload_n 0, 1) := dk_42 (dk_at dksX5_buys_2 0 rfl rfl)
theorem dX5_buys_49 : decode cX5_buys 49 = .ok (.getfield 54, 3) := dk_180 0 54 (dk_at dksX5_buys_2 1 rfl rfl)
theorem dX5_buys_52 : decode cX5_buys 52 = .ok (.iload_n 1, 1) := dk_27 (dk_at dksX5_buys_2 4 rfl rfl)
theorem dX5_buys_53 : decode cX5_buys 53 = .ok (.iaload, 1) := dk_46 (dk_at dksX5_buys_2 5 rfl rfl)
theorem dX5_buys_54 : decode cX5_buys 54 = .ok (.if_icmp .le 5, 3) := dk_164 0 5 (dk_at dksX5_buys_2 6 rfl rfl)
theorem dX5_buys_57 : decode cX5_buys 57 = .ok (.iconst 0, 1) := dk_3 (dk_at dksX5_buys_2 9 rfl rfl)
theorem dX5_buys_58 : decode cX5_buys 58 = .ok (.ireturn, 1) := dk_172 (dk_at dksX5_buys_2 10 rfl rfl)
theorem dX5_buys_59 : decode cX5_buys 59 = .ok (.aload_n 0, 1) := dk_42 (dk_at dksX5_buys_2 11 rfl rfl)
theorem dX5_buys_60 : decode cX5_buys 60 = .ok (.getfield 54, 3) := dk_180 0 54 (dk_at dksX5_buys_2 12 rfl rfl)
theorem dX5_buys_63 : decode cX5_buys 63 = .ok (.iload_n 1, 1) := dk_27 (dk_at dksX5_buys_2 15 rfl rfl)
theorem dX5_buys_64 : decode cX5_buys 64 = .ok (.dup2, 1) := dk_92 (dk_at dksX5_buys_2 16 rfl rfl)
theorem dX5_buys_65 : decode cX5_buys 65 = .ok (.iaload, 1) := dk_46 (dk_at dksX5_buys_2 17 rfl rfl)
theorem dX5_buys_66 : decode cX5_buys 66 = .ok (.iload 4, 2) := dk_21 4 (dk_at dksX5_buys_2 18 rfl rfl)
theorem dX5_buys_68 : decode cX5_buys 68 = .ok (.isub, 1) := dk_100 (dk_at dksX5_buys_2 20 rfl rfl)
theorem dX5_buys_69 : decode cX5_buys 69 = .ok (.iastore, 1) := dk_79 (dk_at dksX5_buys_2 21 rfl rfl)
theorem dX5_buys_70 : decode cX5_buys 70 = .ok (.aload_n 0, 1) := dk_42 (dk_at dksX5_buys_2 22 rfl rfl)
theorem dX5_buys_71 : decode cX5_buys 71 = .ok (.getfield 63, 3) := dk_180 0 63 (dk_at dksX5_buys_3 0 rfl rfl)
theorem dX5_buys_74 : decode cX5_buys 74 = .ok (.bipush 8, 2) := dk_16 8 (dk_at dksX5_buys_3 3 rfl rfl)
theorem dX5_buys_76 : decode cX5_buys 76 = .ok (.iload_n 1, 1) := dk_27 (dk_at dksX5_buys_3 5 rfl rfl)
theorem dX5_buys_77 : decode cX5_buys 77 = .ok (.imul, 1) := dk_104 (dk_at dksX5_buys_3 6 rfl rfl)
theorem dX5_buys_78 : decode cX5_buys 78 = .ok (.iload_n 2, 1) := dk_28 (dk_at dksX5_buys_3 7 rfl rfl)
theorem dX5_buys_79 : decode cX5_buys 79 = .ok (.iadd, 1) := dk_96 (dk_at dksX5_buys_3 8 rfl rfl)
theorem dX5_buys_80 : decode cX5_buys 80 = .ok (.dup2, 1) := dk_92 (dk_at dksX5_buys_3 9 rfl rfl)
theorem dX5_buys_81 : decode cX5_buys 81 = .ok (.iaload, 1) := dk_46 (dk_at dksX5_buys_3 10 rfl rfl)
theorem dX5_buys_82 : decode cX5_buys 82 = .ok (.iload_n 3, 1) := dk_29 (dk_at dksX5_buys_3 11 rfl rfl)
theorem dX5_buys_83 : decode cX5_buys 83 = .ok (.iadd, 1) := dk_96 (dk_at dksX5_buys_3 12 rfl rfl)
theorem dX5_buys_84 : decode cX5_buys 84 = .ok (.iastore, 1) := dk_79 (dk_at dksX5_buys_3 13 rfl rfl)
theorem dX5_buys_85 : decode cX5_buys 85 = .ok (.iconst 1, 1) := dk_4 (dk_at dksX5_buys_3 14 rfl rfl)
theorem dX5_buys_86 : decode cX5_buys 86 = .ok (.ireturn, 1) := dk_172 (dk_at dksX5_buys_3 15 rfl rfl)
abbrev cX5_sells : ByteArray := prog_18_method_17_code
def yX5_sells : MethodName := ⟨RX5, "sells", "(III)Z"⟩
def dkwX5_sells_3 : List UInt8 := [184, 0, 152, 79, 42, 180, 0, 63, 16, 8, 27, 104, 28, 96, 92, 46, 29, 100, 79, 4, 172]
abbrev dktX5_sells_3 : List UInt8 := dkwX5_sells_3 ++ []
def dkwX5_sells_2 : List UInt8 := [46, 164, 0, 5, 3, 172, 42, 180, 0, 54, 27, 17, 39, 15, 42, 180, 0, 54, 27, 46, 21, 4, 96]
abbrev dktX5_sells_2 : List UInt8 := dkwX5_sells_2 ++ dktX5_sells_3
def dkwX5_sells_1 : List UInt8 := [104, 28, 96, 46, 29, 104, 54, 4, 21, 4, 153, 0, 18, 29, 42, 180, 0, 63, 16, 8, 27, 104, 28, 96]
abbrev dktX5_sells_1 : List UInt8 := dkwX5_sells_1 ++ dktX5_sells_2
def dkwX5_sells_0 : List UInt8 := [42, 27, 182, 0, 145, 153, 0, 7, 3, 167, 0, 21, 42, 180, 0, 39, 16, 8, 42, 180, 0, 45, 27, 46]
abbrev dktX5_sells_0 : List UInt8 := dkwX5_sells_0 ++ dktX5_sells_1
theorem dksX5_sells_0 : cX5_sells.data.toList.drop 0 = dktX5_sells_0 := by decide +kernel
theorem dksX5_sells_1 : cX5_sells.data.toList.drop 24 = dktX5_sells_1 := dk_seg dksX5_sells_0 24 rfl rfl
theorem dksX5_sells_2 : cX5_sells.data.toList.drop 48 = dktX5_sells_2 := dk_seg dksX5_sells_1 24 rfl rfl
theorem dksX5_sells_3 : cX5_sells.data.toList.drop 71 = dktX5_sells_3 := dk_seg dksX5_sells_2 23 rfl rfl
theorem dX5_sells_0 : decode cX5_sells 0 = .ok (.aload_n 0, 1) := dk_42 (dk_at dksX5_sells_0 0 rfl rfl)
theorem dX5_sells_1 : decode cX5_sells 1 = .ok (.iload_n 1, 1) := dk_27 (dk_at dksX5_sells_0 1 rfl rfl)
theorem dX5_sells_2 : decode cX5_sells 2 = .ok (.invokevirtual 145, 3) := dk_182 0 145 (dk_at dksX5_sells_0 2 rfl rfl)
theorem dX5_sells_5 : decode cX5_sells 5 = .ok (.ifCond .eq 7, 3) := dk_153 0 7 (dk_at dksX5_sells_0 5 rfl rfl)
theorem dX5_sells_8 : decode cX5_sells 8 = .ok (.iconst 0, 1) := dk_3 (dk_at dksX5_sells_0 8 rfl rfl)
theorem dX5_sells_9 : decode cX5_sells 9 = .ok (.goto 21, 3) := dk_167 0 21 (dk_at dksX5_sells_0 9 rfl rfl)
theorem dX5_sells_12 : decode cX5_sells 12 = .ok (.aload_n 0, 1) := dk_42 (dk_at dksX5_sells_0 12 rfl rfl)
theorem dX5_sells_13 : decode cX5_sells 13 = .ok (.getfield 39, 3) := dk_180 0 39 (dk_at dksX5_sells_0 13 rfl rfl)
theorem dX5_sells_16 : decode cX5_sells 16 = .ok (.bipush 8, 2) := dk_16 8 (dk_at dksX5_sells_0 16 rfl rfl)
theorem dX5_sells_18 : decode cX5_sells 18 = .ok (.aload_n 0, 1) := dk_42 (dk_at dksX5_sells_0 18 rfl rfl)
theorem dX5_sells_19 : decode cX5_sells 19 = .ok (.getfield 45, 3) := dk_180 0 45 (dk_at dksX5_sells_0 19 rfl rfl)
theorem dX5_sells_22 : decode cX5_sells 22 = .ok (.iload_n 1, 1) := dk_27 (dk_at dksX5_sells_0 22 rfl rfl)
theorem dX5_sells_23 : decode cX5_sells 23 = .ok (.iaload, 1) := dk_46 (dk_at dksX5_sells_0 23 rfl rfl)
theorem dX5_sells_24 : decode cX5_sells 24 = .ok (.imul, 1) := dk_104 (dk_at dksX5_sells_1 0 rfl rfl)
theorem dX5_sells_25 : decode cX5_sells 25 = .ok (.iload_n 2, 1) := dk_28 (dk_at dksX5_sells_1 1 rfl rfl)
theorem dX5_sells_26 : decode cX5_sells 26 = .ok (.iadd, 1) := dk_96 (dk_at dksX5_sells_1 2 rfl rfl)
theorem dX5_sells_27 : decode cX5_sells 27 = .ok (.iaload, 1) := dk_46 (dk_at dksX5_sells_1 3 rfl rfl)
theorem dX5_sells_28 : decode cX5_sells 28 = .ok (.iload_n 3, 1) := dk_29 (dk_at dksX5_sells_1 4 rfl rfl)
theorem dX5_sells_29 : decode cX5_sells 29 = .ok (.imul, 1) := dk_104 (dk_at dksX5_sells_1 5 rfl rfl)
theorem dX5_sells_30 : decode cX5_sells 30 = .ok (.istore 4, 2) := dk_54 4 (dk_at dksX5_sells_1 6 rfl rfl)
theorem dX5_sells_32 : decode cX5_sells 32 = .ok (.iload 4, 2) := dk_21 4 (dk_at dksX5_sells_1 8 rfl rfl)
theorem dX5_sells_34 : decode cX5_sells 34 = .ok (.ifCond .eq 18, 3) := dk_153 0 18 (dk_at dksX5_sells_1 10 rfl rfl)
theorem dX5_sells_37 : decode cX5_sells 37 = .ok (.iload_n 3, 1) := dk_29 (dk_at dksX5_sells_1 13 rfl rfl)
theorem dX5_sells_38 : decode cX5_sells 38 = .ok (.aload_n 0, 1) := dk_42 (dk_at dksX5_sells_1 14 rfl rfl)
theorem dX5_sells_39 : decode cX5_sells 39 = .ok (.getfield 63, 3) := dk_180 0 63 (dk_at dksX5_sells_1 15 rfl rfl)
theorem dX5_sells_42 : decode cX5_sells 42 = .ok (.bipush 8, 2) := dk_16 8 (dk_at dksX5_sells_1 18 rfl rfl)
theorem dX5_sells_44 : decode cX5_sells 44 = .ok (.iload_n 1, 1) := dk_27 (dk_at dksX5_sells_1 20 rfl rfl)
theorem dX5_sells_45 : decode cX5_sells 45 = .ok (.imul, 1) := dk_104 (dk_at dksX5_sells_1 21 rfl rfl)
theorem dX5_sells_46 : decode cX5_sells 46 = .ok (.iload_n 2, 1) := dk_28 (dk_at dksX5_sells_1 22 rfl rfl)
theorem dX5_sells_47 : decode cX5_sells 47 = .ok (.iadd, 1) := dk_96 (dk_at dksX5_sells_1 23 rfl rfl)
theorem dX5_sells_48 : decode cX5_sells 48 = .ok (.iaload, 1) := dk_46 (dk_at dksX5_sells_2 0 rfl rfl)
theorem dX5_sells_49 : decode cX5_sells 49 = .ok (.if_icmp .le 5, 3) := dk_164 0 5 (dk_at dksX5_sells_2 1 rfl rfl)
theorem dX5_sells_52 : decode cX5_sells 52 = .ok (.iconst 0, 1) := dk_3 (dk_at dksX5_sells_2 4 rfl rfl)
theorem dX5_sells_53 : decode cX5_sells 53 = .ok (.ireturn, 1) := dk_172 (dk_at dksX5_sells_2 5 rfl rfl)
theorem dX5_sells_54 : decode cX5_sells 54 = .ok (.aload_n 0, 1) := dk_42 (dk_at dksX5_sells_2 6 rfl rfl)
theorem dX5_sells_55 : decode cX5_sells 55 = .ok (.getfield 54, 3) := dk_180 0 54 (dk_at dksX5_sells_2 7 rfl rfl)
theorem dX5_sells_58 : decode cX5_sells 58 = .ok (.iload_n 1, 1) := dk_27 (dk_at dksX5_sells_2 10 rfl rfl)
theorem dX5_sells_59 : decode cX5_sells 59 = .ok (.sipush 9999, 3) := dk_17 39 15 (dk_at dksX5_sells_2 11 rfl rfl)
theorem dX5_sells_62 : decode cX5_sells 62 = .ok (.aload_n 0, 1) := dk_42 (dk_at dksX5_sells_2 14 rfl rfl)
theorem dX5_sells_63 : decode cX5_sells 63 = .ok (.getfield 54, 3) := dk_180 0 54 (dk_at dksX5_sells_2 15 rfl rfl)
theorem dX5_sells_66 : decode cX5_sells 66 = .ok (.iload_n 1, 1) := dk_27 (dk_at dksX5_sells_2 18 rfl rfl)
theorem dX5_sells_67 : decode cX5_sells 67 = .ok (.iaload, 1) := dk_46 (dk_at dksX5_sells_2 19 rfl rfl)
theorem dX5_sells_68 : decode cX5_sells 68 = .ok (.iload 4, 2) := dk_21 4 (dk_at dksX5_sells_2 20 rfl rfl)
theorem dX5_sells_70 : decode cX5_sells 70 = .ok (.iadd, 1) := dk_96 (dk_at dksX5_sells_2 22 rfl rfl)
theorem dX5_sells_71 : decode cX5_sells 71 = .ok (.invokestatic 152, 3) := dk_184 0 152 (dk_at dksX5_sells_3 0 rfl rfl)
theorem dX5_sells_74 : decode cX5_sells 74 = .ok (.iastore, 1) := dk_79 (dk_at dksX5_sells_3 3 rfl rfl)
theorem dX5_sells_75 : decode cX5_sells 75 = .ok (.aload_n 0, 1) := dk_42 (dk_at dksX5_sells_3 4 rfl rfl)
theorem dX5_sells_76 : decode cX5_sells 76 = .ok (.getfield 63, 3) := dk_180 0 63 (dk_at dksX5_sells_3 5 rfl rfl)
theorem dX5_sells_79 : decode cX5_sells 79 = .ok (.bipush 8, 2) := dk_16 8 (dk_at dksX5_sells_3 8 rfl rfl)
theorem dX5_sells_81 : decode cX5_sells 81 = .ok (.iload_n 1, 1) := dk_27 (dk_at dksX5_sells_3 10 rfl rfl)
theorem dX5_sells_82 : decode cX5_sells 82 = .ok (.imul, 1) := dk_104 (dk_at dksX5_sells_3 11 rfl rfl)
theorem dX5_sells_83 : decode cX5_sells 83 = .ok (.iload_n 2, 1) := dk_28 (dk_at dksX5_sells_3 12 rfl rfl)
theorem dX5_sells_84 : decode cX5_sells 84 = .ok (.iadd, 1) := dk_96 (dk_at dksX5_sells_3 13 rfl rfl)
theorem dX5_sells_85 : decode cX5_sells 85 = .ok (.dup2, 1) := dk_92 (dk_at dksX5_sells_3 14 rfl rfl)
theorem dX5_sells_86 : decode cX5_sells 86 = .ok (.iaload, 1) := dk_46 (dk_at dksX5_sells_3 15 rfl rfl)
theorem dX5_sells_87 : decode cX5_sells 87 = .ok (.iload_n 3, 1) := dk_29 (dk_at dksX5_sells_3 16 rfl rfl)
theorem dX5_sells_88 : decode cX5_sells 88 = .ok (.isub, 1) := dk_100 (dk_at dksX5_sells_3 17 rfl rfl)
theorem dX5_sells_89 : decode cX5_sells 89 = .ok (.iastore, 1) := dk_79 (dk_at dksX5_sells_3 18 rfl rfl)
theorem dX5_sells_90 : decode cX5_sells 90 = .ok (.iconst 1, 1) := dk_4 (dk_at dksX5_sells_3 19 rfl rfl)
theorem dX5_sells_91 : decode cX5_sells 91 = .ok (.ireturn, 1) := dk_172 (dk_at dksX5_sells_3 20 rfl rfl)
abbrev cX5_dumps : ByteArray := prog_18_method_18_code
def yX5_dumps : MethodName := ⟨RX5, "dumps", "(III)Z"⟩
def dkwX5_dumps_1 : List UInt8 := [104, 28, 96, 92, 46, 29, 100, 79, 4, 172]
abbrev dktX5_dumps_1 : List UInt8 := dkwX5_dumps_1 ++ []
def dkwX5_dumps_0 : List UInt8 := [29, 42, 180, 0, 63, 16, 8, 27, 104, 28, 96, 46, 164, 0, 5, 3, 172, 42, 180, 0, 63, 16, 8, 27]
abbrev dktX5_dumps_0 : List UInt8 := dkwX5_dumps_0 ++ dktX5_dumps_1
theorem dksX5_dumps_0 : cX5_dumps.data.toList.drop 0 = dktX5_dumps_0 := by decide +kernel
theorem dksX5_dumps_1 : cX5_dumps.data.toList.drop 24 = dktX5_dumps_1 := dk_seg dksX5_dumps_0 24 rfl rfl
theorem dX5_dumps_0 : decode cX5_dumps 0 = .ok (.iload_n 3, 1) := dk_29 (dk_at dksX5_dumps_0 0 rfl rfl)
theorem dX5_dumps_1 : decode cX5_dumps 1 = .ok (.aload_n 0, 1) := dk_42 (dk_at dksX5_dumps_0 1 rfl rfl)
theorem dX5_dumps_2 : decode cX5_dumps 2 = .ok (.getfield 63, 3) := dk_180 0 63 (dk_at dksX5_dumps_0 2 rfl rfl)
theorem dX5_dumps_5 : decode cX5_dumps 5 = .ok (.bipush 8, 2) := dk_16 8 (dk_at dksX5_dumps_0 5 rfl rfl)
theorem dX5_dumps_7 : decode cX5_dumps 7 = .ok (.iload_n 1, 1) := dk_27 (dk_at dksX5_dumps_0 7 rfl rfl)
theorem dX5_dumps_8 : decode cX5_dumps 8 = .ok (.imul, 1) := dk_104 (dk_at dksX5_dumps_0 8 rfl rfl)
theorem dX5_dumps_9 : decode cX5_dumps 9 = .ok (.iload_n 2, 1) := dk_28 (dk_at dksX5_dumps_0 9 rfl rfl)
theorem dX5_dumps_10 : decode cX5_dumps 10 = .ok (.iadd, 1) := dk_96 (dk_at dksX5_dumps_0 10 rfl rfl)
theorem dX5_dumps_11 : decode cX5_dumps 11 = .ok (.iaload, 1) := dk_46 (dk_at dksX5_dumps_0 11 rfl rfl)
theorem dX5_dumps_12 : decode cX5_dumps 12 = .ok (.if_icmp .le 5, 3) := dk_164 0 5 (dk_at dksX5_dumps_0 12 rfl rfl)
theorem dX5_dumps_15 : decode cX5_dumps 15 = .ok (.iconst 0, 1) := dk_3 (dk_at dksX5_dumps_0 15 rfl rfl)
theorem dX5_dumps_16 : decode cX5_dumps 16 = .ok (.ireturn, 1) := dk_172 (dk_at dksX5_dumps_0 16 rfl rfl)
theorem dX5_dumps_17 : decode cX5_dumps 17 = .ok (.aload_n 0, 1) := dk_42 (dk_at dksX5_dumps_0 17 rfl rfl)
theorem dX5_dumps_18 : decode cX5_dumps 18 = .ok (.getfield 63, 3) := dk_180 0 63 (dk_at dksX5_dumps_0 18 rfl rfl)
theorem dX5_dumps_21 : decode cX5_dumps 21 = .ok (.bipush 8, 2) := dk_16 8 (dk_at dksX5_dumps_0 21 rfl rfl)
theorem dX5_dumps_23 : decode cX5_dumps 23 = .ok (.iload_n 1, 1) := dk_27 (dk_at dksX5_dumps_0 23 rfl rfl)
theorem dX5_dumps_24 : decode cX5_dumps 24 = .ok (.imul, 1) := dk_104 (dk_at dksX5_dumps_1 0 rfl rfl)
theorem dX5_dumps_25 : decode cX5_dumps 25 = .ok (.iload_n 2, 1) := dk_28 (dk_at dksX5_dumps_1 1 rfl rfl)
theorem dX5_dumps_26 : decode cX5_dumps 26 = .ok (.iadd, 1) := dk_96 (dk_at dksX5_dumps_1 2 rfl rfl)
theorem dX5_dumps_27 : decode cX5_dumps 27 = .ok (.dup2, 1) := dk_92 (dk_at dksX5_dumps_1 3 rfl rfl)
theorem dX5_dumps_28 : decode cX5_dumps 28 = .ok (.iaload, 1) := dk_46 (dk_at dksX5_dumps_1 4 rfl rfl)
theorem dX5_dumps_29 : decode cX5_dumps 29 = .ok (.iload_n 3, 1) := dk_29 (dk_at dksX5_dumps_1 5 rfl rfl)
theorem dX5_dumps_30 : decode cX5_dumps 30 = .ok (.isub, 1) := dk_100 (dk_at dksX5_dumps_1 6 rfl rfl)
theorem dX5_dumps_31 : decode cX5_dumps 31 = .ok (.iastore, 1) := dk_79 (dk_at dksX5_dumps_1 7 rfl rfl)
theorem dX5_dumps_32 : decode cX5_dumps 32 = .ok (.iconst 1, 1) := dk_4 (dk_at dksX5_dumps_1 8 rfl rfl)
theorem dX5_dumps_33 : decode cX5_dumps 33 = .ok (.ireturn, 1) := dk_172 (dk_at dksX5_dumps_1 9 rfl rfl)
abbrev cX5_sails : ByteArray := prog_18_method_19_code
def yX5_sails : MethodName := ⟨RX5, "sails", "(II)Z"⟩
def dkwX5_sails_2 : List UInt8 := [16, 6, 42, 180, 0, 45, 27, 46, 104, 28, 96, 46, 79, 42, 180, 0, 48, 27, 28, 79, 4, 172]
abbrev dktX5_sails_2 : List UInt8 := dkwX5_sails_2 ++ []
def dkwX5_sails_1 : List UInt8 := [42, 180, 0, 45, 27, 46, 104, 28, 96, 46, 154, 0, 5, 3, 172, 42, 180, 0, 51, 27, 42, 180, 0, 42]
abbrev dktX5_sails_1 : List UInt8 := dkwX5_sails_1 ++ dktX5_sails_2
def dkwX5_sails_0 : List UInt8 := [42, 27, 182, 0, 145, 154, 0, 32, 28, 42, 180, 0, 45, 27, 46, 159, 0, 22, 42, 180, 0, 42, 16, 6]
abbrev dktX5_sails_0 : List UInt8 := dkwX5_sails_0 ++ dktX5_sails_1
theorem dksX5_sails_0 : cX5_sails.data.toList.drop 0 = dktX5_sails_0 := by decide +kernel
theorem dksX5_sails_1 : cX5_sails.data.toList.drop 24 = dktX5_sails_1 := dk_seg dksX5_sails_0 24 rfl rfl
theorem dksX5_sails_2 : cX5_sails.data.toList.drop 48 = dktX5_sails_2 := dk_seg dksX5_sails_1 24 rfl rfl
theorem dX5_sails_0 : decode cX5_sails 0 = .ok (.aload_n 0, 1) := dk_42 (dk_at dksX5_sails_0 0 rfl rfl)
theorem dX5_sails_1 : decode cX5_sails 1 = .ok (.iload_n 1, 1) := dk_27 (dk_at dksX5_sails_0 1 rfl rfl)
theorem dX5_sails_2 : decode cX5_sails 2 = .ok (.invokevirtual 145, 3) := dk_182 0 145 (dk_at dksX5_sails_0 2 rfl rfl)
theorem dX5_sails_5 : decode cX5_sails 5 = .ok (.ifCond .ne 32, 3) := dk_154 0 32 (dk_at dksX5_sails_0 5 rfl rfl)
theorem dX5_sails_8 : decode cX5_sails 8 = .ok (.iload_n 2, 1) := dk_28 (dk_at dksX5_sails_0 8 rfl rfl)
theorem dX5_sails_9 : decode cX5_sails 9 = .ok (.aload_n 0, 1) := dk_42 (dk_at dksX5_sails_0 9 rfl rfl)
theorem dX5_sails_10 : decode cX5_sails 10 = .ok (.getfield 45, 3) := dk_180 0 45 (dk_at dksX5_sails_0 10 rfl rfl)
theorem dX5_sails_13 : decode cX5_sails 13 = .ok (.iload_n 1, 1) := dk_27 (dk_at dksX5_sails_0 13 rfl rfl)
theorem dX5_sails_14 : decode cX5_sails 14 = .ok (.iaload, 1) := dk_46 (dk_at dksX5_sails_0 14 rfl rfl)
theorem dX5_sails_15 : decode cX5_sails 15 = .ok (.if_icmp .eq 22, 3) := dk_159 0 22 (dk_at dksX5_sails_0 15 rfl rfl)
theorem dX5_sails_18 : decode cX5_sails 18 = .ok (.aload_n 0, 1) := dk_42 (dk_at dksX5_sails_0 18 rfl rfl)
theorem dX5_sails_19 : decode cX5_sails 19 = .ok (.getfield 42, 3) := dk_180 0 42 (dk_at dksX5_sails_0 19 rfl rfl)
theorem dX5_sails_22 : decode cX5_sails 22 = .ok (.bipush 6, 2) := dk_16 6 (dk_at dksX5_sails_0 22 rfl rfl)
theorem dX5_sails_24 : decode cX5_sails 24 = .ok (.aload_n 0, 1) := dk_42 (dk_at dksX5_sails_1 0 rfl rfl)
theorem dX5_sails_25 : decode cX5_sails 25 = .ok (.getfield 45, 3) := dk_180 0 45 (dk_at dksX5_sails_1 1 rfl rfl)
theorem dX5_sails_28 : decode cX5_sails 28 = .ok (.iload_n 1, 1) := dk_27 (dk_at dksX5_sails_1 4 rfl rfl)
theorem dX5_sails_29 : decode cX5_sails 29 = .ok (.iaload, 1) := dk_46 (dk_at dksX5_sails_1 5 rfl rfl)
theorem dX5_sails_30 : decode cX5_sails 30 = .ok (.imul, 1) := dk_104 (dk_at dksX5_sails_1 6 rfl rfl)
theorem dX5_sails_31 : decode cX5_sails 31 = .ok (.iload_n 2, 1) := dk_28 (dk_at dksX5_sails_1 7 rfl rfl)
theorem dX5_sails_32 : decode cX5_sails 32 = .ok (.iadd, 1) := dk_96 (dk_at dksX5_sails_1 8 rfl rfl)
theorem dX5_sails_33 : decode cX5_sails 33 = .ok (.iaload, 1) := dk_46 (dk_at dksX5_sails_1 9 rfl rfl)
theorem dX5_sails_34 : decode cX5_sails 34 = .ok (.ifCond .ne 5, 3) := dk_154 0 5 (dk_at dksX5_sails_1 10 rfl rfl)
theorem dX5_sails_37 : decode cX5_sails 37 = .ok (.iconst 0, 1) := dk_3 (dk_at dksX5_sails_1 13 rfl rfl)
theorem dX5_sails_38 : decode cX5_sails 38 = .ok (.ireturn, 1) := dk_172 (dk_at dksX5_sails_1 14 rfl rfl)
theorem dX5_sails_39 : decode cX5_sails 39 = .ok (.aload_n 0, 1) := dk_42 (dk_at dksX5_sails_1 15 rfl rfl)
theorem dX5_sails_40 : decode cX5_sails 40 = .ok (.getfield 51, 3) := dk_180 0 51 (dk_at dksX5_sails_1 16 rfl rfl)
theorem dX5_sails_43 : decode cX5_sails 43 = .ok (.iload_n 1, 1) := dk_27 (dk_at dksX5_sails_1 19 rfl rfl)
theorem dX5_sails_44 : decode cX5_sails 44 = .ok (.aload_n 0, 1) := dk_42 (dk_at dksX5_sails_1 20 rfl rfl)
theorem dX5_sails_45 : decode cX5_sails 45 = .ok (.getfield 42, 3) := dk_180 0 42 (dk_at dksX5_sails_1 21 rfl rfl)
theorem dX5_sails_48 : decode cX5_sails 48 = .ok (.bipush 6, 2) := dk_16 6 (dk_at dksX5_sails_2 0 rfl rfl)
theorem dX5_sails_50 : decode cX5_sails 50 = .ok (.aload_n 0, 1) := dk_42 (dk_at dksX5_sails_2 2 rfl rfl)
theorem dX5_sails_51 : decode cX5_sails 51 = .ok (.getfield 45, 3) := dk_180 0 45 (dk_at dksX5_sails_2 3 rfl rfl)
theorem dX5_sails_54 : decode cX5_sails 54 = .ok (.iload_n 1, 1) := dk_27 (dk_at dksX5_sails_2 6 rfl rfl)
theorem dX5_sails_55 : decode cX5_sails 55 = .ok (.iaload, 1) := dk_46 (dk_at dksX5_sails_2 7 rfl rfl)
theorem dX5_sails_56 : decode cX5_sails 56 = .ok (.imul, 1) := dk_104 (dk_at dksX5_sails_2 8 rfl rfl)
theorem dX5_sails_57 : decode cX5_sails 57 = .ok (.iload_n 2, 1) := dk_28 (dk_at dksX5_sails_2 9 rfl rfl)
theorem dX5_sails_58 : decode cX5_sails 58 = .ok (.iadd, 1) := dk_96 (dk_at dksX5_sails_2 10 rfl rfl)
theorem dX5_sails_59 : decode cX5_sails 59 = .ok (.iaload, 1) := dk_46 (dk_at dksX5_sails_2 11 rfl rfl)
theorem dX5_sails_60 : decode cX5_sails 60 = .ok (.iastore, 1) := dk_79 (dk_at dksX5_sails_2 12 rfl rfl)
theorem dX5_sails_61 : decode cX5_sails 61 = .ok (.aload_n 0, 1) := dk_42 (dk_at dksX5_sails_2 13 rfl rfl)
theorem dX5_sails_62 : decode cX5_sails 62 = .ok (.getfield 48, 3) := dk_180 0 48 (dk_at dksX5_sails_2 14 rfl rfl)
theorem dX5_sails_65 : decode cX5_sails 65 = .ok (.iload_n 1, 1) := dk_27 (dk_at dksX5_sails_2 17 rfl rfl)
theorem dX5_sails_66 : decode cX5_sails 66 = .ok (.iload_n 2, 1) := dk_28 (dk_at dksX5_sails_2 18 rfl rfl)
theorem dX5_sails_67 : decode cX5_sails 67 = .ok (.iastore, 1) := dk_79 (dk_at dksX5_sails_2 19 rfl rfl)
theorem dX5_sails_68 : decode cX5_sails 68 = .ok (.iconst 1, 1) := dk_4 (dk_at dksX5_sails_2 20 rfl rfl)
theorem dX5_sails_69 : decode cX5_sails 69 = .ok (.ireturn, 1) := dk_172 (dk_at dksX5_sails_2 21 rfl rfl)
abbrev cX5_goes : ByteArray := prog_18_method_23_code
def yX5_goes : MethodName := ⟨RX5, "goes", "()I"⟩
def dkwX5_goes_1 : List UInt8 := [167, 0, 4, 3, 128, 60, 132, 2, 1, 167, 255, 227, 42, 89, 180, 0, 85, 4, 96, 181, 0, 85, 27, 172]
abbrev dktX5_goes_1 : List UInt8 := dkwX5_goes_1 ++ []
def dkwX5_goes_0 : List UInt8 := [3, 60, 3, 61, 28, 42, 180, 0, 79, 162, 0, 27, 27, 42, 28, 182, 0, 176, 153, 0, 9, 4, 28, 120]
abbrev dktX5_goes_0 : List UInt8 := dkwX5_goes_0 ++ dktX5_goes_1
theorem dksX5_goes_0 : cX5_goes.data.toList.drop 0 = dktX5_goes_0 := by decide +kernel
theorem dksX5_goes_1 : cX5_goes.data.toList.drop 24 = dktX5_goes_1 := dk_seg dksX5_goes_0 24 rfl rfl
theorem dX5_goes_0 : decode cX5_goes 0 = .ok (.iconst 0, 1) := dk_3 (dk_at dksX5_goes_0 0 rfl rfl)
theorem dX5_goes_1 : decode cX5_goes 1 = .ok (.istore_n 1, 1) := dk_60 (dk_at dksX5_goes_0 1 rfl rfl)
theorem dX5_goes_2 : decode cX5_goes 2 = .ok (.iconst 0, 1) := dk_3 (dk_at dksX5_goes_0 2 rfl rfl)
theorem dX5_goes_3 : decode cX5_goes 3 = .ok (.istore_n 2, 1) := dk_61 (dk_at dksX5_goes_0 3 rfl rfl)
theorem dX5_goes_4 : decode cX5_goes 4 = .ok (.iload_n 2, 1) := dk_28 (dk_at dksX5_goes_0 4 rfl rfl)
theorem dX5_goes_5 : decode cX5_goes 5 = .ok (.aload_n 0, 1) := dk_42 (dk_at dksX5_goes_0 5 rfl rfl)
theorem dX5_goes_6 : decode cX5_goes 6 = .ok (.getfield 79, 3) := dk_180 0 79 (dk_at dksX5_goes_0 6 rfl rfl)
theorem dX5_goes_9 : decode cX5_goes 9 = .ok (.if_icmp .ge 27, 3) := dk_162 0 27 (dk_at dksX5_goes_0 9 rfl rfl)
theorem dX5_goes_12 : decode cX5_goes 12 = .ok (.iload_n 1, 1) := dk_27 (dk_at dksX5_goes_0 12 rfl rfl)
theorem dX5_goes_13 : decode cX5_goes 13 = .ok (.aload_n 0, 1) := dk_42 (dk_at dksX5_goes_0 13 rfl rfl)
theorem dX5_goes_14 : decode cX5_goes 14 = .ok (.iload_n 2, 1) := dk_28 (dk_at dksX5_goes_0 14 rfl rfl)
theorem dX5_goes_15 : decode cX5_goes 15 = .ok (.invokevirtual 176, 3) := dk_182 0 176 (dk_at dksX5_goes_0 15 rfl rfl)
theorem dX5_goes_18 : decode cX5_goes 18 = .ok (.ifCond .eq 9, 3) := dk_153 0 9 (dk_at dksX5_goes_0 18 rfl rfl)
theorem dX5_goes_21 : decode cX5_goes 21 = .ok (.iconst 1, 1) := dk_4 (dk_at dksX5_goes_0 21 rfl rfl)
theorem dX5_goes_22 : decode cX5_goes 22 = .ok (.iload_n 2, 1) := dk_28 (dk_at dksX5_goes_0 22 rfl rfl)
theorem dX5_goes_23 : decode cX5_goes 23 = .ok (.ishl, 1) := dk_120 (dk_at dksX5_goes_0 23 rfl rfl)
theorem dX5_goes_24 : decode cX5_goes 24 = .ok (.goto 4, 3) := dk_167 0 4 (dk_at dksX5_goes_1 0 rfl rfl)
theorem dX5_goes_27 : decode cX5_goes 27 = .ok (.iconst 0, 1) := dk_3 (dk_at dksX5_goes_1 3 rfl rfl)
theorem dX5_goes_28 : decode cX5_goes 28 = .ok (.ior, 1) := dk_128 (dk_at dksX5_goes_1 4 rfl rfl)
theorem dX5_goes_29 : decode cX5_goes 29 = .ok (.istore_n 1, 1) := dk_60 (dk_at dksX5_goes_1 5 rfl rfl)
theorem dX5_goes_30 : decode cX5_goes 30 = .ok (.iinc 2 1, 3) := dk_132 2 1 (dk_at dksX5_goes_1 6 rfl rfl)
theorem dX5_goes_33 : decode cX5_goes 33 = .ok (.goto (-29), 3) := dk_167 255 227 (dk_at dksX5_goes_1 9 rfl rfl)
theorem dX5_goes_36 : decode cX5_goes 36 = .ok (.aload_n 0, 1) := dk_42 (dk_at dksX5_goes_1 12 rfl rfl)
theorem dX5_goes_37 : decode cX5_goes 37 = .ok (.dup, 1) := dk_89 (dk_at dksX5_goes_1 13 rfl rfl)
theorem dX5_goes_38 : decode cX5_goes 38 = .ok (.getfield 85, 3) := dk_180 0 85 (dk_at dksX5_goes_1 14 rfl rfl)
theorem dX5_goes_41 : decode cX5_goes 41 = .ok (.iconst 1, 1) := dk_4 (dk_at dksX5_goes_1 17 rfl rfl)
theorem dX5_goes_42 : decode cX5_goes 42 = .ok (.iadd, 1) := dk_96 (dk_at dksX5_goes_1 18 rfl rfl)
theorem dX5_goes_43 : decode cX5_goes 43 = .ok (.putfield 85, 3) := dk_181 0 85 (dk_at dksX5_goes_1 19 rfl rfl)
theorem dX5_goes_46 : decode cX5_goes 46 = .ok (.iload_n 1, 1) := dk_27 (dk_at dksX5_goes_1 22 rfl rfl)
theorem dX5_goes_47 : decode cX5_goes 47 = .ok (.ireturn, 1) := dk_172 (dk_at dksX5_goes_1 23 rfl rfl)
abbrev cX5_goes_2 : ByteArray := prog_18_method_21_code
def yX5_goes_2 : MethodName := ⟨RX5, "goes", "(I)Z"⟩
def dkwX5_goes_2_5 : List UInt8 := [180, 0, 54, 27, 92, 46, 29, 100, 79, 42, 180, 0, 60, 27, 92, 46, 29, 96, 79, 4, 172]
abbrev dktX5_goes_2_5 : List UInt8 := dkwX5_goes_2_5 ++ []
def dkwX5_goes_2_4 : List UInt8 := [27, 46, 42, 180, 0, 11, 28, 50, 180, 0, 170, 42, 27, 182, 0, 107, 104, 184, 0, 152, 62, 42]
abbrev dktX5_goes_2_4 : List UInt8 := dkwX5_goes_2_4 ++ dktX5_goes_2_5
def dkwX5_goes_2_3 : List UInt8 := [50, 180, 0, 169, 61, 28, 155, 0, 12, 42, 27, 182, 0, 143, 28, 160, 0, 5, 4, 172, 42, 180, 0, 54]
abbrev dktX5_goes_2_3 : List UInt8 := dkwX5_goes_2_3 ++ dktX5_goes_2_4
def dkwX5_goes_2_2 : List UInt8 := [3, 172, 42, 180, 0, 45, 27, 42, 180, 0, 48, 27, 46, 79, 42, 180, 0, 25, 42, 180, 0, 45, 27, 46]
abbrev dktX5_goes_2_2 : List UInt8 := dkwX5_goes_2_2 ++ dktX5_goes_2_3
def dkwX5_goes_2_1 : List UInt8 := [154, 0, 5, 3, 172, 42, 180, 0, 51, 27, 92, 46, 4, 100, 79, 42, 180, 0, 51, 27, 46, 158, 0, 5]
abbrev dktX5_goes_2_1 : List UInt8 := dkwX5_goes_2_1 ++ dktX5_goes_2_2
def dkwX5_goes_2_0 : List UInt8 := [42, 27, 182, 0, 145, 153, 0, 8, 42, 27, 182, 0, 163, 42, 27, 182, 0, 167, 42, 27, 182, 0, 145]
abbrev dktX5_goes_2_0 : List UInt8 := dkwX5_goes_2_0 ++ dktX5_goes_2_1
theorem dksX5_goes_2_0 : cX5_goes_2.data.toList.drop 0 = dktX5_goes_2_0 := by decide +kernel
theorem dksX5_goes_2_1 : cX5_goes_2.data.toList.drop 23 = dktX5_goes_2_1 := dk_seg dksX5_goes_2_0 23 rfl rfl
theorem dksX5_goes_2_2 : cX5_goes_2.data.toList.drop 47 = dktX5_goes_2_2 := dk_seg dksX5_goes_2_1 24 rfl rfl
theorem dksX5_goes_2_3 : cX5_goes_2.data.toList.drop 71 = dktX5_goes_2_3 := dk_seg dksX5_goes_2_2 24 rfl rfl
theorem dksX5_goes_2_4 : cX5_goes_2.data.toList.drop 95 = dktX5_goes_2_4 := dk_seg dksX5_goes_2_3 24 rfl rfl
theorem dksX5_goes_2_5 : cX5_goes_2.data.toList.drop 117 = dktX5_goes_2_5 := dk_seg dksX5_goes_2_4 22 rfl rfl
theorem dX5_goes_2_0 : decode cX5_goes_2 0 = .ok (.aload_n 0, 1) := dk_42 (dk_at dksX5_goes_2_0 0 rfl rfl)
theorem dX5_goes_2_1 : decode cX5_goes_2 1 = .ok (.iload_n 1, 1) := dk_27 (dk_at dksX5_goes_2_0 1 rfl rfl)
theorem dX5_goes_2_2 : decode cX5_goes_2 2 = .ok (.invokevirtual 145, 3) := dk_182 0 145 (dk_at dksX5_goes_2_0 2 rfl rfl)
theorem dX5_goes_2_5 : decode cX5_goes_2 5 = .ok (.ifCond .eq 8, 3) := dk_153 0 8 (dk_at dksX5_goes_2_0 5 rfl rfl)
theorem dX5_goes_2_8 : decode cX5_goes_2 8 = .ok (.aload_n 0, 1) := dk_42 (dk_at dksX5_goes_2_0 8 rfl rfl)
theorem dX5_goes_2_9 : decode cX5_goes_2 9 = .ok (.iload_n 1, 1) := dk_27 (dk_at dksX5_goes_2_0 9 rfl rfl)
theorem dX5_goes_2_10 : decode cX5_goes_2 10 = .ok (.invokevirtual 163, 3) := dk_182 0 163 (dk_at dksX5_goes_2_0 10 rfl rfl)
theorem dX5_goes_2_13 : decode cX5_goes_2 13 = .ok (.aload_n 0, 1) := dk_42 (dk_at dksX5_goes_2_0 13 rfl rfl)
theorem dX5_goes_2_14 : decode cX5_goes_2 14 = .ok (.iload_n 1, 1) := dk_27 (dk_at dksX5_goes_2_0 14 rfl rfl)
theorem dX5_goes_2_15 : decode cX5_goes_2 15 = .ok (.invokevirtual 167, 3) := dk_182 0 167 (dk_at dksX5_goes_2_0 15 rfl rfl)
theorem dX5_goes_2_18 : decode cX5_goes_2 18 = .ok (.aload_n 0, 1) := dk_42 (dk_at dksX5_goes_2_0 18 rfl rfl)
theorem dX5_goes_2_19 : decode cX5_goes_2 19 = .ok (.iload_n 1, 1) := dk_27 (dk_at dksX5_goes_2_0 19 rfl rfl)
theorem dX5_goes_2_20 : decode cX5_goes_2 20 = .ok (.invokevirtual 145, 3) := dk_182 0 145 (dk_at dksX5_goes_2_0 20 rfl rfl)
theorem dX5_goes_2_23 : decode cX5_goes_2 23 = .ok (.ifCond .ne 5, 3) := dk_154 0 5 (dk_at dksX5_goes_2_1 0 rfl rfl)
theorem dX5_goes_2_26 : decode cX5_goes_2 26 = .ok (.iconst 0, 1) := dk_3 (dk_at dksX5_goes_2_1 3 rfl rfl)
theorem dX5_goes_2_27 : decode cX5_goes_2 27 = .ok (.ireturn, 1) := dk_172 (dk_at dksX5_goes_2_1 4 rfl rfl)
theorem dX5_goes_2_28 : decode cX5_goes_2 28 = .ok (.aload_n 0, 1) := dk_42 (dk_at dksX5_goes_2_1 5 rfl rfl)
theorem dX5_goes_2_29 : decode cX5_goes_2 29 = .ok (.getfield 51, 3) := dk_180 0 51 (dk_at dksX5_goes_2_1 6 rfl rfl)
theorem dX5_goes_2_32 : decode cX5_goes_2 32 = .ok (.iload_n 1, 1) := dk_27 (dk_at dksX5_goes_2_1 9 rfl rfl)
theorem dX5_goes_2_33 : decode cX5_goes_2 33 = .ok (.dup2, 1) := dk_92 (dk_at dksX5_goes_2_1 10 rfl rfl)
theorem dX5_goes_2_34 : decode cX5_goes_2 34 = .ok (.iaload, 1) := dk_46 (dk_at dksX5_goes_2_1 11 rfl rfl)
theorem dX5_goes_2_35 : decode cX5_goes_2 35 = .ok (.iconst 1, 1) := dk_4 (dk_at dksX5_goes_2_1 12 rfl rfl)
theorem dX5_goes_2_36 : decode cX5_goes_2 36 = .ok (.isub, 1) := dk_100 (dk_at dksX5_goes_2_1 13 rfl rfl)
theorem dX5_goes_2_37 : decode cX5_goes_2 37 = .ok (.iastore, 1) := dk_79 (dk_at dksX5_goes_2_1 14 rfl rfl)
theorem dX5_goes_2_38 : decode cX5_goes_2 38 = .ok (.aload_n 0, 1) := dk_42 (dk_at dksX5_goes_2_1 15 rfl rfl)
theorem dX5_goes_2_39 : decode cX5_goes_2 39 = .ok (.getfield 51, 3) := dk_180 0 51 (dk_at dksX5_goes_2_1 16 rfl rfl)
theorem dX5_goes_2_42 : decode cX5_goes_2 42 = .ok (.iload_n 1, 1) := dk_27 (dk_at dksX5_goes_2_1 19 rfl rfl)
theorem dX5_goes_2_43 : decode cX5_goes_2 43 = .ok (.iaload, 1) := dk_46 (dk_at dksX5_goes_2_1 20 rfl rfl)
theorem dX5_goes_2_44 : decode cX5_goes_2 44 = .ok (.ifCond .le 5, 3) := dk_158 0 5 (dk_at dksX5_goes_2_1 21 rfl rfl)
theorem dX5_goes_2_47 : decode cX5_goes_2 47 = .ok (.iconst 0, 1) := dk_3 (dk_at dksX5_goes_2_2 0 rfl rfl)
theorem dX5_goes_2_48 : decode cX5_goes_2 48 = .ok (.ireturn, 1) := dk_172 (dk_at dksX5_goes_2_2 1 rfl rfl)
theorem dX5_goes_2_49 : decode cX5_goes_2 49 = .ok (.aload_n 0, 1) := dk_42 (dk_at dksX5_goes_2_2 2 rfl rfl)
theorem dX5_goes_2_50 : decode cX5_goes_2 50 = .ok (.getfield 45, 3) := dk_180 0 45 (dk_at dksX5_goes_2_2 3 rfl rfl)
theorem dX5_goes_2_53 : decode cX5_goes_2 53 = .ok (.iload_n 1, 1) := dk_27 (dk_at dksX5_goes_2_2 6 rfl rfl)
theorem dX5_goes_2_54 : decode cX5_goes_2 54 = .ok (.aload_n 0, 1) := dk_42 (dk_at dksX5_goes_2_2 7 rfl rfl)
theorem dX5_goes_2_55 : decode cX5_goes_2 55 = .ok (.getfield 48, 3) := dk_180 0 48 (dk_at dksX5_goes_2_2 8 rfl rfl)
theorem dX5_goes_2_58 : decode cX5_goes_2 58 = .ok (.iload_n 1, 1) := dk_27 (dk_at dksX5_goes_2_2 11 rfl rfl)
theorem dX5_goes_2_59 : decode cX5_goes_2 59 = .ok (.iaload, 1) := dk_46 (dk_at dksX5_goes_2_2 12 rfl rfl)
theorem dX5_goes_2_60 : decode cX5_goes_2 60 = .ok (.iastore, 1) := dk_79 (dk_at dksX5_goes_2_2 13 rfl rfl)
theorem dX5_goes_2_61 : decode cX5_goes_2 61 = .ok (.aload_n 0, 1) := dk_42 (dk_at dksX5_goes_2_2 14 rfl rfl)
theorem dX5_goes_2_62 : decode cX5_goes_2 62 = .ok (.getfield 25, 3) := dk_180 0 25 (dk_at dksX5_goes_2_2 15 rfl rfl)
theorem dX5_goes_2_65 : decode cX5_goes_2 65 = .ok (.aload_n 0, 1) := dk_42 (dk_at dksX5_goes_2_2 18 rfl rfl)
theorem dX5_goes_2_66 : decode cX5_goes_2 66 = .ok (.getfield 45, 3) := dk_180 0 45 (dk_at dksX5_goes_2_2 19 rfl rfl)
theorem dX5_goes_2_69 : decode cX5_goes_2 69 = .ok (.iload_n 1, 1) := dk_27 (dk_at dksX5_goes_2_2 22 rfl rfl)
theorem dX5_goes_2_70 : decode cX5_goes_2 70 = .ok (.iaload, 1) := dk_46 (dk_at dksX5_goes_2_2 23 rfl rfl)
theorem dX5_goes_2_71 : decode cX5_goes_2 71 = .ok (.aaload, 1) := dk_50 (dk_at dksX5_goes_2_3 0 rfl rfl)
theorem dX5_goes_2_72 : decode cX5_goes_2 72 = .ok (.getfield 169, 3) := dk_180 0 169 (dk_at dksX5_goes_2_3 1 rfl rfl)
theorem dX5_goes_2_75 : decode cX5_goes_2 75 = .ok (.istore_n 2, 1) := dk_61 (dk_at dksX5_goes_2_3 4 rfl rfl)
theorem dX5_goes_2_76 : decode cX5_goes_2 76 = .ok (.iload_n 2, 1) := dk_28 (dk_at dksX5_goes_2_3 5 rfl rfl)
theorem dX5_goes_2_77 : decode cX5_goes_2 77 = .ok (.ifCond .lt 12, 3) := dk_155 0 12 (dk_at dksX5_goes_2_3 6 rfl rfl)
theorem dX5_goes_2_80 : decode cX5_goes_2 80 = .ok (.aload_n 0, 1) := dk_42 (dk_at dksX5_goes_2_3 9 rfl rfl)
theorem dX5_goes_2_81 : decode cX5_goes_2 81 = .ok (.iload_n 1, 1) := dk_27 (dk_at dksX5_goes_2_3 10 rfl rfl)
theorem dX5_goes_2_82 : decode cX5_goes_2 82 = .ok (.invokevirtual 143, 3) := dk_182 0 143 (dk_at dksX5_goes_2_3 11 rfl rfl)
theorem dX5_goes_2_85 : decode cX5_goes_2 85 = .ok (.iload_n 2, 1) := dk_28 (dk_at dksX5_goes_2_3 14 rfl rfl)
theorem dX5_goes_2_86 : decode cX5_goes_2 86 = .ok (.if_icmp .ne 5, 3) := dk_160 0 5 (dk_at dksX5_goes_2_3 15 rfl rfl)
theorem dX5_goes_2_89 : decode cX5_goes_2 89 = .ok (.iconst 1, 1) := dk_4 (dk_at dksX5_goes_2_3 18 rfl rfl)
theorem dX5_goes_2_90 : decode cX5_goes_2 90 = .ok (.ireturn, 1) := dk_172 (dk_at dksX5_goes_2_3 19 rfl rfl)
theorem dX5_goes_2_91 : decode cX5_goes_2 91 = .ok (.aload_n 0, 1) := dk_42 (dk_at dksX5_goes_2_3 20 rfl rfl)
theorem dX5_goes_2_92 : decode cX5_goes_2 92 = .ok (.getfield 54, 3) := dk_180 0 54 (dk_at dksX5_goes_2_3 21 rfl rfl)
theorem dX5_goes_2_95 : decode cX5_goes_2 95 = .ok (.iload_n 1, 1) := dk_27 (dk_at dksX5_goes_2_4 0 rfl rfl)
theorem dX5_goes_2_96 : decode cX5_goes_2 96 = .ok (.iaload, 1) := dk_46 (dk_at dksX5_goes_2_4 1 rfl rfl)
theorem dX5_goes_2_97 : decode cX5_goes_2 97 = .ok (.aload_n 0, 1) := dk_42 (dk_at dksX5_goes_2_4 2 rfl rfl)
theorem dX5_goes_2_98 : decode cX5_goes_2 98 = .ok (.getfield 11, 3) := dk_180 0 11 (dk_at dksX5_goes_2_4 3 rfl rfl)
theorem dX5_goes_2_101 : decode cX5_goes_2 101 = .ok (.iload_n 2, 1) := dk_28 (dk_at dksX5_goes_2_4 6 rfl rfl)
theorem dX5_goes_2_102 : decode cX5_goes_2 102 = .ok (.aaload, 1) := dk_50 (dk_at dksX5_goes_2_4 7 rfl rfl)
theorem dX5_goes_2_103 : decode cX5_goes_2 103 = .ok (.getfield 170, 3) := dk_180 0 170 (dk_at dksX5_goes_2_4 8 rfl rfl)
theorem dX5_goes_2_106 : decode cX5_goes_2 106 = .ok (.aload_n 0, 1) := dk_42 (dk_at dksX5_goes_2_4 11 rfl rfl)
theorem dX5_goes_2_107 : decode cX5_goes_2 107 = .ok (.iload_n 1, 1) := dk_27 (dk_at dksX5_goes_2_4 12 rfl rfl)
theorem dX5_goes_2_108 : decode cX5_goes_2 108 = .ok (.invokevirtual 107, 3) := dk_182 0 107 (dk_at dksX5_goes_2_4 13 rfl rfl)
theorem dX5_goes_2_111 : decode cX5_goes_2 111 = .ok (.imul, 1) := dk_104 (dk_at dksX5_goes_2_4 16 rfl rfl)
theorem dX5_goes_2_112 : decode cX5_goes_2 112 = .ok (.invokestatic 152, 3) := dk_184 0 152 (dk_at dksX5_goes_2_4 17 rfl rfl)
theorem dX5_goes_2_115 : decode cX5_goes_2 115 = .ok (.istore_n 3, 1) := dk_62 (dk_at dksX5_goes_2_4 20 rfl rfl)
theorem dX5_goes_2_116 : decode cX5_goes_2 116 = .ok (.aload_n 0, 1) := dk_42 (dk_at dksX5_goes_2_4 21 rfl rfl)
theorem dX5_goes_2_117 : decode cX5_goes_2 117 = .ok (.getfield 54, 3) := dk_180 0 54 (dk_at dksX5_goes_2_5 0 rfl rfl)
theorem dX5_goes_2_120 : decode cX5_goes_2 120 = .ok (.iload_n 1, 1) := dk_27 (dk_at dksX5_goes_2_5 3 rfl rfl)
theorem dX5_goes_2_121 : decode cX5_goes_2 121 = .ok (.dup2, 1) := dk_92 (dk_at dksX5_goes_2_5 4 rfl rfl)
theorem dX5_goes_2_122 : decode cX5_goes_2 122 = .ok (.iaload, 1) := dk_46 (dk_at dksX5_goes_2_5 5 rfl rfl)
theorem dX5_goes_2_123 : decode cX5_goes_2 123 = .ok (.iload_n 3, 1) := dk_29 (dk_at dksX5_goes_2_5 6 rfl rfl)
theorem dX5_goes_2_124 : decode cX5_goes_2 124 = .ok (.isub, 1) := dk_100 (dk_at dksX5_goes_2_5 7 rfl rfl)
theorem dX5_goes_2_125 : decode cX5_goes_2 125 = .ok (.iastore, 1) := dk_79 (dk_at dksX5_goes_2_5 8 rfl rfl)
theorem dX5_goes_2_126 : decode cX5_goes_2 126 = .ok (.aload_n 0, 1) := dk_42 (dk_at dksX5_goes_2_5 9 rfl rfl)
theorem dX5_goes_2_127 : decode cX5_goes_2 127 = .ok (.getfield 60, 3) := dk_180 0 60 (dk_at dksX5_goes_2_5 10 rfl rfl)
theorem dX5_goes_2_130 : decode cX5_goes_2 130 = .ok (.iload_n 1, 1) := dk_27 (dk_at dksX5_goes_2_5 13 rfl rfl)
theorem dX5_goes_2_131 : decode cX5_goes_2 131 = .ok (.dup2, 1) := dk_92 (dk_at dksX5_goes_2_5 14 rfl rfl)
theorem dX5_goes_2_132 : decode cX5_goes_2 132 = .ok (.iaload, 1) := dk_46 (dk_at dksX5_goes_2_5 15 rfl rfl)
theorem dX5_goes_2_133 : decode cX5_goes_2 133 = .ok (.iload_n 3, 1) := dk_29 (dk_at dksX5_goes_2_5 16 rfl rfl)
theorem dX5_goes_2_134 : decode cX5_goes_2 134 = .ok (.iadd, 1) := dk_96 (dk_at dksX5_goes_2_5 17 rfl rfl)
theorem dX5_goes_2_135 : decode cX5_goes_2 135 = .ok (.iastore, 1) := dk_79 (dk_at dksX5_goes_2_5 18 rfl rfl)
theorem dX5_goes_2_136 : decode cX5_goes_2 136 = .ok (.iconst 1, 1) := dk_4 (dk_at dksX5_goes_2_5 19 rfl rfl)
theorem dX5_goes_2_137 : decode cX5_goes_2 137 = .ok (.ireturn, 1) := dk_172 (dk_at dksX5_goes_2_5 20 rfl rfl)
abbrev cX5_pays : ByteArray := prog_18_method_22_code
def yX5_pays : MethodName := ⟨RX5, "pays", "(I)V"⟩
def dkwX5_pays_2 : List UInt8 := [180, 0, 54, 27, 92, 46, 29, 100, 79, 177]
abbrev dktX5_pays_2 : List UInt8 := dkwX5_pays_2 ++ []
def dkwX5_pays_1 : List UInt8 := [29, 42, 180, 0, 54, 27, 46, 164, 0, 16, 42, 180, 0, 57, 27, 92, 46, 4, 96, 79, 167, 0, 13, 42]
abbrev dktX5_pays_1 : List UInt8 := dkwX5_pays_1 ++ dktX5_pays_2
def dkwX5_pays_0 : List UInt8 := [42, 27, 182, 0, 143, 61, 28, 156, 0, 7, 3, 167, 0, 12, 42, 180, 0, 11, 28, 50, 180, 0, 173, 62]
abbrev dktX5_pays_0 : List UInt8 := dkwX5_pays_0 ++ dktX5_pays_1
theorem dksX5_pays_0 : cX5_pays.data.toList.drop 0 = dktX5_pays_0 := by decide +kernel
theorem dksX5_pays_1 : cX5_pays.data.toList.drop 24 = dktX5_pays_1 := dk_seg dksX5_pays_0 24 rfl rfl
theorem dksX5_pays_2 : cX5_pays.data.toList.drop 48 = dktX5_pays_2 := dk_seg dksX5_pays_1 24 rfl rfl
theorem dX5_pays_0 : decode cX5_pays 0 = .ok (.aload_n 0, 1) := dk_42 (dk_at dksX5_pays_0 0 rfl rfl)
theorem dX5_pays_1 : decode cX5_pays 1 = .ok (.iload_n 1, 1) := dk_27 (dk_at dksX5_pays_0 1 rfl rfl)
theorem dX5_pays_2 : decode cX5_pays 2 = .ok (.invokevirtual 143, 3) := dk_182 0 143 (dk_at dksX5_pays_0 2 rfl rfl)
theorem dX5_pays_5 : decode cX5_pays 5 = .ok (.istore_n 2, 1) := dk_61 (dk_at dksX5_pays_0 5 rfl rfl)
theorem dX5_pays_6 : decode cX5_pays 6 = .ok (.iload_n 2, 1) := dk_28 (dk_at dksX5_pays_0 6 rfl rfl)
theorem dX5_pays_7 : decode cX5_pays 7 = .ok (.ifCond .ge 7, 3) := dk_156 0 7 (dk_at dksX5_pays_0 7 rfl rfl)
theorem dX5_pays_10 : decode cX5_pays 10 = .ok (.iconst 0, 1) := dk_3 (dk_at dksX5_pays_0 10 rfl rfl)
theorem dX5_pays_11 : decode cX5_pays 11 = .ok (.goto 12, 3) := dk_167 0 12 (dk_at dksX5_pays_0 11 rfl rfl)
theorem dX5_pays_14 : decode cX5_pays 14 = .ok (.aload_n 0, 1) := dk_42 (dk_at dksX5_pays_0 14 rfl rfl)
theorem dX5_pays_15 : decode cX5_pays 15 = .ok (.getfield 11, 3) := dk_180 0 11 (dk_at dksX5_pays_0 15 rfl rfl)
theorem dX5_pays_18 : decode cX5_pays 18 = .ok (.iload_n 2, 1) := dk_28 (dk_at dksX5_pays_0 18 rfl rfl)
theorem dX5_pays_19 : decode cX5_pays 19 = .ok (.aaload, 1) := dk_50 (dk_at dksX5_pays_0 19 rfl rfl)
theorem dX5_pays_20 : decode cX5_pays 20 = .ok (.getfield 173, 3) := dk_180 0 173 (dk_at dksX5_pays_0 20 rfl rfl)
theorem dX5_pays_23 : decode cX5_pays 23 = .ok (.istore_n 3, 1) := dk_62 (dk_at dksX5_pays_0 23 rfl rfl)
theorem dX5_pays_24 : decode cX5_pays 24 = .ok (.iload_n 3, 1) := dk_29 (dk_at dksX5_pays_1 0 rfl rfl)
theorem dX5_pays_25 : decode cX5_pays 25 = .ok (.aload_n 0, 1) := dk_42 (dk_at dksX5_pays_1 1 rfl rfl)
theorem dX5_pays_26 : decode cX5_pays 26 = .ok (.getfield 54, 3) := dk_180 0 54 (dk_at dksX5_pays_1 2 rfl rfl)
theorem dX5_pays_29 : decode cX5_pays 29 = .ok (.iload_n 1, 1) := dk_27 (dk_at dksX5_pays_1 5 rfl rfl)
theorem dX5_pays_30 : decode cX5_pays 30 = .ok (.iaload, 1) := dk_46 (dk_at dksX5_pays_1 6 rfl rfl)
theorem dX5_pays_31 : decode cX5_pays 31 = .ok (.if_icmp .le 16, 3) := dk_164 0 16 (dk_at dksX5_pays_1 7 rfl rfl)
theorem dX5_pays_34 : decode cX5_pays 34 = .ok (.aload_n 0, 1) := dk_42 (dk_at dksX5_pays_1 10 rfl rfl)
theorem dX5_pays_35 : decode cX5_pays 35 = .ok (.getfield 57, 3) := dk_180 0 57 (dk_at dksX5_pays_1 11 rfl rfl)
theorem dX5_pays_38 : decode cX5_pays 38 = .ok (.iload_n 1, 1) := dk_27 (dk_at dksX5_pays_1 14 rfl rfl)
theorem dX5_pays_39 : decode cX5_pays 39 = .ok (.dup2, 1) := dk_92 (dk_at dksX5_pays_1 15 rfl rfl)
theorem dX5_pays_40 : decode cX5_pays 40 = .ok (.iaload, 1) := dk_46 (dk_at dksX5_pays_1 16 rfl rfl)
theorem dX5_pays_41 : decode cX5_pays 41 = .ok (.iconst 1, 1) := dk_4 (dk_at dksX5_pays_1 17 rfl rfl)
theorem dX5_pays_42 : decode cX5_pays 42 = .ok (.iadd, 1) := dk_96 (dk_at dksX5_pays_1 18 rfl rfl)
theorem dX5_pays_43 : decode cX5_pays 43 = .ok (.iastore, 1) := dk_79 (dk_at dksX5_pays_1 19 rfl rfl)
theorem dX5_pays_44 : decode cX5_pays 44 = .ok (.goto 13, 3) := dk_167 0 13 (dk_at dksX5_pays_1 20 rfl rfl)
theorem dX5_pays_47 : decode cX5_pays 47 = .ok (.aload_n 0, 1) := dk_42 (dk_at dksX5_pays_1 23 rfl rfl)
theorem dX5_pays_48 : decode cX5_pays 48 = .ok (.getfield 54, 3) := dk_180 0 54 (dk_at dksX5_pays_2 0 rfl rfl)
theorem dX5_pays_51 : decode cX5_pays 51 = .ok (.iload_n 1, 1) := dk_27 (dk_at dksX5_pays_2 3 rfl rfl)
theorem dX5_pays_52 : decode cX5_pays 52 = .ok (.dup2, 1) := dk_92 (dk_at dksX5_pays_2 4 rfl rfl)
theorem dX5_pays_53 : decode cX5_pays 53 = .ok (.iaload, 1) := dk_46 (dk_at dksX5_pays_2 5 rfl rfl)
theorem dX5_pays_54 : decode cX5_pays 54 = .ok (.iload_n 3, 1) := dk_29 (dk_at dksX5_pays_2 6 rfl rfl)
theorem dX5_pays_55 : decode cX5_pays 55 = .ok (.isub, 1) := dk_100 (dk_at dksX5_pays_2 7 rfl rfl)
theorem dX5_pays_56 : decode cX5_pays 56 = .ok (.iastore, 1) := dk_79 (dk_at dksX5_pays_2 8 rfl rfl)
theorem dX5_pays_57 : decode cX5_pays 57 = .ok (.return_, 1) := dk_177 (dk_at dksX5_pays_2 9 rfl rfl)
abbrev cX5_leaks : ByteArray := prog_18_method_20_code
def yX5_leaks : MethodName := ⟨RX5, "leaks", "(I)V"⟩
def dkwX5_leaks_2 : List UInt8 := [132, 2, 1, 167, 255, 209, 177]
abbrev dktX5_leaks_2 : List UInt8 := dkwX5_leaks_2 ++ []
def dkwX5_leaks_1 : List UInt8 := [180, 0, 63, 16, 8, 27, 104, 28, 96, 46, 42, 180, 0, 19, 28, 50, 180, 0, 157, 100, 184, 0, 160, 79]
abbrev dktX5_leaks_1 : List UInt8 := dkwX5_leaks_1 ++ dktX5_leaks_2
def dkwX5_leaks_0 : List UInt8 := [3, 61, 28, 42, 180, 0, 73, 162, 0, 45, 42, 180, 0, 63, 16, 8, 27, 104, 28, 96, 3, 42]
abbrev dktX5_leaks_0 : List UInt8 := dkwX5_leaks_0 ++ dktX5_leaks_1
theorem dksX5_leaks_0 : cX5_leaks.data.toList.drop 0 = dktX5_leaks_0 := by decide +kernel
theorem dksX5_leaks_1 : cX5_leaks.data.toList.drop 22 = dktX5_leaks_1 := dk_seg dksX5_leaks_0 22 rfl rfl
theorem dksX5_leaks_2 : cX5_leaks.data.toList.drop 46 = dktX5_leaks_2 := dk_seg dksX5_leaks_1 24 rfl rfl
theorem dX5_leaks_0 : decode cX5_leaks 0 = .ok (.iconst 0, 1) := dk_3 (dk_at dksX5_leaks_0 0 rfl rfl)
theorem dX5_leaks_1 : decode cX5_leaks 1 = .ok (.istore_n 2, 1) := dk_61 (dk_at dksX5_leaks_0 1 rfl rfl)
theorem dX5_leaks_2 : decode cX5_leaks 2 = .ok (.iload_n 2, 1) := dk_28 (dk_at dksX5_leaks_0 2 rfl rfl)
theorem dX5_leaks_3 : decode cX5_leaks 3 = .ok (.aload_n 0, 1) := dk_42 (dk_at dksX5_leaks_0 3 rfl rfl)
theorem dX5_leaks_4 : decode cX5_leaks 4 = .ok (.getfield 73, 3) := dk_180 0 73 (dk_at dksX5_leaks_0 4 rfl rfl)
theorem dX5_leaks_7 : decode cX5_leaks 7 = .ok (.if_icmp .ge 45, 3) := dk_162 0 45 (dk_at dksX5_leaks_0 7 rfl rfl)
theorem dX5_leaks_10 : decode cX5_leaks 10 = .ok (.aload_n 0, 1) := dk_42 (dk_at dksX5_leaks_0 10 rfl rfl)
theorem dX5_leaks_11 : decode cX5_leaks 11 = .ok (.getfield 63, 3) := dk_180 0 63 (dk_at dksX5_leaks_0 11 rfl rfl)
theorem dX5_leaks_14 : decode cX5_leaks 14 = .ok (.bipush 8, 2) := dk_16 8 (dk_at dksX5_leaks_0 14 rfl rfl)
theorem dX5_leaks_16 : decode cX5_leaks 16 = .ok (.iload_n 1, 1) := dk_27 (dk_at dksX5_leaks_0 16 rfl rfl)
theorem dX5_leaks_17 : decode cX5_leaks 17 = .ok (.imul, 1) := dk_104 (dk_at dksX5_leaks_0 17 rfl rfl)
theorem dX5_leaks_18 : decode cX5_leaks 18 = .ok (.iload_n 2, 1) := dk_28 (dk_at dksX5_leaks_0 18 rfl rfl)
theorem dX5_leaks_19 : decode cX5_leaks 19 = .ok (.iadd, 1) := dk_96 (dk_at dksX5_leaks_0 19 rfl rfl)
theorem dX5_leaks_20 : decode cX5_leaks 20 = .ok (.iconst 0, 1) := dk_3 (dk_at dksX5_leaks_0 20 rfl rfl)
theorem dX5_leaks_21 : decode cX5_leaks 21 = .ok (.aload_n 0, 1) := dk_42 (dk_at dksX5_leaks_0 21 rfl rfl)
theorem dX5_leaks_22 : decode cX5_leaks 22 = .ok (.getfield 63, 3) := dk_180 0 63 (dk_at dksX5_leaks_1 0 rfl rfl)
theorem dX5_leaks_25 : decode cX5_leaks 25 = .ok (.bipush 8, 2) := dk_16 8 (dk_at dksX5_leaks_1 3 rfl rfl)
theorem dX5_leaks_27 : decode cX5_leaks 27 = .ok (.iload_n 1, 1) := dk_27 (dk_at dksX5_leaks_1 5 rfl rfl)
theorem dX5_leaks_28 : decode cX5_leaks 28 = .ok (.imul, 1) := dk_104 (dk_at dksX5_leaks_1 6 rfl rfl)
theorem dX5_leaks_29 : decode cX5_leaks 29 = .ok (.iload_n 2, 1) := dk_28 (dk_at dksX5_leaks_1 7 rfl rfl)
theorem dX5_leaks_30 : decode cX5_leaks 30 = .ok (.iadd, 1) := dk_96 (dk_at dksX5_leaks_1 8 rfl rfl)
theorem dX5_leaks_31 : decode cX5_leaks 31 = .ok (.iaload, 1) := dk_46 (dk_at dksX5_leaks_1 9 rfl rfl)
theorem dX5_leaks_32 : decode cX5_leaks 32 = .ok (.aload_n 0, 1) := dk_42 (dk_at dksX5_leaks_1 10 rfl rfl)
theorem dX5_leaks_33 : decode cX5_leaks 33 = .ok (.getfield 19, 3) := dk_180 0 19 (dk_at dksX5_leaks_1 11 rfl rfl)
theorem dX5_leaks_36 : decode cX5_leaks 36 = .ok (.iload_n 2, 1) := dk_28 (dk_at dksX5_leaks_1 14 rfl rfl)
theorem dX5_leaks_37 : decode cX5_leaks 37 = .ok (.aaload, 1) := dk_50 (dk_at dksX5_leaks_1 15 rfl rfl)
theorem dX5_leaks_38 : decode cX5_leaks 38 = .ok (.getfield 157, 3) := dk_180 0 157 (dk_at dksX5_leaks_1 16 rfl rfl)
theorem dX5_leaks_41 : decode cX5_leaks 41 = .ok (.isub, 1) := dk_100 (dk_at dksX5_leaks_1 19 rfl rfl)
theorem dX5_leaks_42 : decode cX5_leaks 42 = .ok (.invokestatic 160, 3) := dk_184 0 160 (dk_at dksX5_leaks_1 20 rfl rfl)
theorem dX5_leaks_45 : decode cX5_leaks 45 = .ok (.iastore, 1) := dk_79 (dk_at dksX5_leaks_1 23 rfl rfl)
theorem dX5_leaks_46 : decode cX5_leaks 46 = .ok (.iinc 2 1, 3) := dk_132 2 1 (dk_at dksX5_leaks_2 0 rfl rfl)
theorem dX5_leaks_49 : decode cX5_leaks 49 = .ok (.goto (-47), 3) := dk_167 255 209 (dk_at dksX5_leaks_2 3 rfl rfl)
theorem dX5_leaks_52 : decode cX5_leaks 52 = .ok (.return_, 1) := dk_177 (dk_at dksX5_leaks_2 6 rfl rfl)
theorem q183 : (Jvm.Cond.initialized "CargoFlag$World") ∈ lw_all := lw_g (lw_at lw_m1 8 rfl) rfl
theorem q325 : (Jvm.Cond.instantiable "CargoFlag$World" (21 : Nat)) ∈ lw_all := lw_g (lw_at lw_m1 150 rfl) rfl
theorem q327 : (Jvm.Cond.instanceMethod ({ cls := "CargoFlag$World", name := "<init>", desc := "()V" } : Jvm.MethodName)) ∈ lw_all := lw_g (lw_at lw_m1 152 rfl) rfl
theorem q328 : (Jvm.Cond.code ({ cls := "CargoFlag$World", name := "<init>", desc := "()V" } : Jvm.MethodName) prog_18_method_1_code (1 : Nat) (Option.none : Option Jvm.ClassFile.FieldType)) ∈ lw_all := lw_g (lw_at lw_m1 153 rfl) rfl
theorem q329 : (Jvm.Cond.methodLink "CargoFlag$World" (3 : Nat) ({ cls := "java/lang/Object", name := "<init>", desc := "()V" } : Jvm.MethodName)) ∈ lw_all := lw_g (lw_at lw_m1 154 rfl) rfl
theorem q330 : (Jvm.Cond.classLink "CargoFlag$World" (9 : Nat) "CargoFlag$Nation") ∈ lw_all := lw_g (lw_at lw_m1 155 rfl) rfl
theorem q332 : (Jvm.Cond.classLink "CargoFlag$World" (17 : Nat) "CargoFlag$Good") ∈ lw_all := lw_g (lw_at lw_m1 157 rfl) rfl
theorem q334 : (Jvm.Cond.classLink "CargoFlag$World" (23 : Nat) "CargoFlag$Port") ∈ lw_all := lw_g (lw_at lw_m1 159 rfl) rfl
theorem q336 : (Jvm.Cond.classLink "CargoFlag$World" (29 : Nat) "CargoFlag$Ship") ∈ lw_all := lw_g (lw_at lw_m1 161 rfl) rfl
theorem q338 : (Jvm.Cond.fieldLink "CargoFlag$World" (69 : Nat) "CargoFlag$World" "nations" "I") ∈ lw_all := lw_g (lw_at lw_m1 163 rfl) rfl
theorem q341 : (Jvm.Cond.fieldLink "CargoFlag$World" (73 : Nat) "CargoFlag$World" "goods" "I") ∈ lw_all := lw_g (lw_at lw_m1 166 rfl) rfl
theorem q344 : (Jvm.Cond.fieldLink "CargoFlag$World" (76 : Nat) "CargoFlag$World" "ports" "I") ∈ lw_all := lw_g (lw_at lw_m1 169 rfl) rfl
theorem q348 : (Jvm.Cond.fieldLink "CargoFlag$World" (79 : Nat) "CargoFlag$World" "ships" "I") ∈ lw_all := lw_g (lw_at lw_m1 173 rfl) rfl
theorem q351 : (Jvm.Cond.fieldLink "CargoFlag$World" (82 : Nat) "CargoFlag$World" "rule" "I") ∈ lw_all := lw_g (lw_at lw_m1 176 rfl) rfl
theorem q354 : (Jvm.Cond.fieldLink "CargoFlag$World" (85 : Nat) "CargoFlag$World" "day" "I") ∈ lw_all := lw_g (lw_at lw_m1 179 rfl) rfl
theorem q357 : (Jvm.Cond.fieldLink "CargoFlag$World" (11 : Nat) "CargoFlag$World" "nation" "[LCargoFlag$Nation;") ∈ lw_all := lw_g (lw_at lw_m1 182 rfl) rfl
theorem q360 : (Jvm.Cond.fieldLink "CargoFlag$World" (19 : Nat) "CargoFlag$World" "good" "[LCargoFlag$Good;") ∈ lw_all := lw_g (lw_at lw_m1 185 rfl) rfl
theorem q363 : (Jvm.Cond.fieldLink "CargoFlag$World" (25 : Nat) "CargoFlag$World" "port" "[LCargoFlag$Port;") ∈ lw_all := lw_g (lw_at lw_m1 188 rfl) rfl
theorem q366 : (Jvm.Cond.fieldLink "CargoFlag$World" (31 : Nat) "CargoFlag$World" "ship" "[LCargoFlag$Ship;") ∈ lw_all := lw_g (lw_at lw_m1 191 rfl) rfl
theorem q369 : (Jvm.Cond.fieldLink "CargoFlag$World" (35 : Nat) "CargoFlag$World" "wars" "[I") ∈ lw_all := lw_g (lw_at lw_m1 194 rfl) rfl
theorem q372 : (Jvm.Cond.fieldLink "CargoFlag$World" (39 : Nat) "CargoFlag$World" "price" "[I") ∈ lw_all := lw_g (lw_at lw_m1 197 rfl) rfl
theorem q375 : (Jvm.Cond.fieldLink "CargoFlag$World" (42 : Nat) "CargoFlag$World" "way" "[I") ∈ lw_all := lw_g (lw_at lw_m1 200 rfl) rfl
theorem q378 : (Jvm.Cond.fieldLink "CargoFlag$World" (45 : Nat) "CargoFlag$World" "at" "[I") ∈ lw_all := lw_g (lw_at lw_m1 203 rfl) rfl
theorem q382 : (Jvm.Cond.fieldLink "CargoFlag$World" (48 : Nat) "CargoFlag$World" "to" "[I") ∈ lw_all := lw_g (lw_at lw_m1 207 rfl) rfl
theorem q384 : (Jvm.Cond.fieldLink "CargoFlag$World" (51 : Nat) "CargoFlag$World" "left" "[I") ∈ lw_all := lw_g (lw_at lw_m1 209 rfl) rfl
theorem q386 : (Jvm.Cond.fieldLink "CargoFlag$World" (54 : Nat) "CargoFlag$World" "coins" "[I") ∈ lw_all := lw_g (lw_at lw_m1 211 rfl) rfl
theorem q390 : (Jvm.Cond.fieldLink "CargoFlag$World" (57 : Nat) "CargoFlag$World" "unpaid" "[I") ∈ lw_all := lw_g (lw_at lw_m1 215 rfl) rfl
theorem q392 : (Jvm.Cond.fieldLink "CargoFlag$World" (60 : Nat) "CargoFlag$World" "duties" "[I") ∈ lw_all := lw_g (lw_at lw_m1 217 rfl) rfl
theorem q394 : (Jvm.Cond.fieldLink "CargoFlag$World" (63 : Nat) "CargoFlag$World" "tons" "[I") ∈ lw_all := lw_g (lw_at lw_m1 219 rfl) rfl
theorem q397 : (Jvm.Cond.fieldLink "CargoFlag$World" (66 : Nat) "CargoFlag$World" "weight" "[I") ∈ lw_all := lw_g (lw_at lw_m1 222 rfl) rfl
theorem q398 : (Jvm.Cond.lays "CargoFlag$World" "CargoFlag$World" "nations" "I") ∈ lw_all := lw_g (lw_at lw_m1 223 rfl) rfl
theorem q399 : (Jvm.Cond.soleField "CargoFlag$World" "nations") ∈ lw_all := lw_g (lw_at lw_m1 224 rfl) rfl
theorem q400 : (Jvm.Cond.lays "CargoFlag$World" "CargoFlag$World" "goods" "I") ∈ lw_all := lw_g (lw_at lw_m1 225 rfl) rfl
theorem q401 : (Jvm.Cond.soleField "CargoFlag$World" "goods") ∈ lw_all := lw_g (lw_at lw_m1 226 rfl) rfl
theorem q402 : (Jvm.Cond.lays "CargoFlag$World" "CargoFlag$World" "ports" "I") ∈ lw_all := lw_g (lw_at lw_m1 227 rfl) rfl
theorem q403 : (Jvm.Cond.soleField "CargoFlag$World" "ports") ∈ lw_all := lw_g (lw_at lw_m1 228 rfl) rfl
theorem q404 : (Jvm.Cond.lays "CargoFlag$World" "CargoFlag$World" "ships" "I") ∈ lw_all := lw_g (lw_at lw_m1 229 rfl) rfl
theorem q405 : (Jvm.Cond.soleField "CargoFlag$World" "ships") ∈ lw_all := lw_g (lw_at lw_m1 230 rfl) rfl
theorem q406 : (Jvm.Cond.lays "CargoFlag$World" "CargoFlag$World" "rule" "I") ∈ lw_all := lw_g (lw_at lw_m1 231 rfl) rfl
theorem q407 : (Jvm.Cond.soleField "CargoFlag$World" "rule") ∈ lw_all := lw_g (lw_at lw_m1 232 rfl) rfl
theorem q408 : (Jvm.Cond.lays "CargoFlag$World" "CargoFlag$World" "day" "I") ∈ lw_all := lw_g (lw_at lw_m1 233 rfl) rfl
theorem q409 : (Jvm.Cond.soleField "CargoFlag$World" "day") ∈ lw_all := lw_g (lw_at lw_m1 234 rfl) rfl
theorem q410 : (Jvm.Cond.lays "CargoFlag$World" "CargoFlag$World" "nation" "[LCargoFlag$Nation;") ∈ lw_all := lw_g (lw_at lw_m1 235 rfl) rfl
theorem q411 : (Jvm.Cond.soleField "CargoFlag$World" "nation") ∈ lw_all := lw_g (lw_at lw_m1 236 rfl) rfl
theorem q412 : (Jvm.Cond.lays "CargoFlag$World" "CargoFlag$World" "good" "[LCargoFlag$Good;") ∈ lw_all := lw_g (lw_at lw_m1 237 rfl) rfl
theorem q413 : (Jvm.Cond.soleField "CargoFlag$World" "good") ∈ lw_all := lw_g (lw_at lw_m1 238 rfl) rfl
theorem q414 : (Jvm.Cond.lays "CargoFlag$World" "CargoFlag$World" "port" "[LCargoFlag$Port;") ∈ lw_all := lw_g (lw_at lw_m1 239 rfl) rfl
theorem q415 : (Jvm.Cond.soleField "CargoFlag$World" "port") ∈ lw_all := lw_g (lw_at lw_m2 0 rfl) rfl
theorem q416 : (Jvm.Cond.lays "CargoFlag$World" "CargoFlag$World" "ship" "[LCargoFlag$Ship;") ∈ lw_all := lw_g (lw_at lw_m2 1 rfl) rfl
theorem q417 : (Jvm.Cond.soleField "CargoFlag$World" "ship") ∈ lw_all := lw_g (lw_at lw_m2 2 rfl) rfl
theorem q418 : (Jvm.Cond.laysFinal "CargoFlag$World" "CargoFlag$World" "wars" "[I") ∈ lw_all := lw_g (lw_at lw_m2 3 rfl) rfl
theorem q419 : (Jvm.Cond.soleField "CargoFlag$World" "wars") ∈ lw_all := lw_g (lw_at lw_m2 4 rfl) rfl
theorem q420 : (Jvm.Cond.laysFinal "CargoFlag$World" "CargoFlag$World" "price" "[I") ∈ lw_all := lw_g (lw_at lw_m2 5 rfl) rfl
theorem q421 : (Jvm.Cond.soleField "CargoFlag$World" "price") ∈ lw_all := lw_g (lw_at lw_m2 6 rfl) rfl
theorem q422 : (Jvm.Cond.laysFinal "CargoFlag$World" "CargoFlag$World" "way" "[I") ∈ lw_all := lw_g (lw_at lw_m2 7 rfl) rfl
theorem q423 : (Jvm.Cond.soleField "CargoFlag$World" "way") ∈ lw_all := lw_g (lw_at lw_m2 8 rfl) rfl
theorem q424 : (Jvm.Cond.laysFinal "CargoFlag$World" "CargoFlag$World" "at" "[I") ∈ lw_all := lw_g (lw_at lw_m2 9 rfl) rfl
theorem q425 : (Jvm.Cond.soleField "CargoFlag$World" "at") ∈ lw_all := lw_g (lw_at lw_m2 10 rfl) rfl
theorem q426 : (Jvm.Cond.laysFinal "CargoFlag$World" "CargoFlag$World" "to" "[I") ∈ lw_all := lw_g (lw_at lw_m2 11 rfl) rfl
theorem q427 : (Jvm.Cond.soleField "CargoFlag$World" "to") ∈ lw_all := lw_g (lw_at lw_m2 12 rfl) rfl
theorem q428 : (Jvm.Cond.laysFinal "CargoFlag$World" "CargoFlag$World" "left" "[I") ∈ lw_all := lw_g (lw_at lw_m2 13 rfl) rfl
theorem q429 : (Jvm.Cond.soleField "CargoFlag$World" "left") ∈ lw_all := lw_g (lw_at lw_m2 14 rfl) rfl
theorem q430 : (Jvm.Cond.laysFinal "CargoFlag$World" "CargoFlag$World" "coins" "[I") ∈ lw_all := lw_g (lw_at lw_m2 15 rfl) rfl
theorem q431 : (Jvm.Cond.soleField "CargoFlag$World" "coins") ∈ lw_all := lw_g (lw_at lw_m2 16 rfl) rfl
theorem q432 : (Jvm.Cond.laysFinal "CargoFlag$World" "CargoFlag$World" "unpaid" "[I") ∈ lw_all := lw_g (lw_at lw_m2 17 rfl) rfl
theorem q433 : (Jvm.Cond.soleField "CargoFlag$World" "unpaid") ∈ lw_all := lw_g (lw_at lw_m2 18 rfl) rfl
theorem q434 : (Jvm.Cond.laysFinal "CargoFlag$World" "CargoFlag$World" "duties" "[I") ∈ lw_all := lw_g (lw_at lw_m2 19 rfl) rfl
theorem q435 : (Jvm.Cond.soleField "CargoFlag$World" "duties") ∈ lw_all := lw_g (lw_at lw_m2 20 rfl) rfl
theorem q436 : (Jvm.Cond.laysFinal "CargoFlag$World" "CargoFlag$World" "tons" "[I") ∈ lw_all := lw_g (lw_at lw_m2 21 rfl) rfl
theorem q437 : (Jvm.Cond.soleField "CargoFlag$World" "tons") ∈ lw_all := lw_g (lw_at lw_m2 22 rfl) rfl
theorem q438 : (Jvm.Cond.laysFinal "CargoFlag$World" "CargoFlag$World" "weight" "[I") ∈ lw_all := lw_g (lw_at lw_m2 23 rfl) rfl
theorem q439 : (Jvm.Cond.soleField "CargoFlag$World" "weight") ∈ lw_all := lw_g (lw_at lw_m2 24 rfl) rfl
theorem q440 : (Jvm.Cond.superclass "CargoFlag$World" "java/lang/Object") ∈ lw_all := lw_g (lw_at lw_m2 25 rfl) rfl
theorem q835 : (Jvm.Cond.instanceMethod ({ cls := "CargoFlag$World", name := "isTaken", desc := "(J)Z" } : Jvm.MethodName)) ∈ lw_all := lw_g (lw_at lw_m3 180 rfl) rfl
theorem q836 : (Jvm.Cond.selects "CargoFlag$World" ({ cls := "CargoFlag$World", name := "isTaken", desc := "(J)Z" } : Jvm.MethodName) ({ cls := "CargoFlag$World", name := "isTaken", desc := "(J)Z" } : Jvm.MethodName)) ∈ lw_all := lw_g (lw_at lw_m3 181 rfl) rfl
theorem q837 : (Jvm.Cond.code ({ cls := "CargoFlag$World", name := "isTaken", desc := "(J)Z" } : Jvm.MethodName) prog_18_method_4_code (3 : Nat) (Option.some Jvm.ClassFile.FieldType.boolean)) ∈ lw_all := lw_g (lw_at lw_m3 182 rfl) rfl
theorem q838 : (Jvm.Cond.methodLink "CargoFlag$World" (98 : Nat) ({ cls := "CargoFlag$Named", name := "find", desc := "([LCargoFlag$Named;IJ)I" } : Jvm.MethodName)) ∈ lw_all := lw_g (lw_at lw_m3 183 rfl) rfl
theorem q849 : (Jvm.Cond.fieldLinkNest "CargoFlag$World" (173 : Nat) "CargoFlag$Nation" "wage" "I" "CargoFlag") ∈ lw_tbl := lw_at lw_m3 194 rfl
theorem q852 : (Jvm.Cond.fieldLinkNest "CargoFlag$World" (170 : Nat) "CargoFlag$Nation" "duty" "I" "CargoFlag") ∈ lw_tbl := lw_at lw_m3 197 rfl
theorem q855 : (Jvm.Cond.fieldLinkNest "CargoFlag$World" (140 : Nat) "CargoFlag$Nation" "deeds" "I" "CargoFlag") ∈ lw_tbl := lw_at lw_m3 200 rfl
theorem q907 : (Jvm.Cond.fieldLinkNest "CargoFlag$World" (111 : Nat) "CargoFlag$Good" "nation" "I" "CargoFlag") ∈ lw_tbl := lw_at lw_m4 12 rfl
theorem q910 : (Jvm.Cond.fieldLinkNest "CargoFlag$World" (113 : Nat) "CargoFlag$Good" "worth" "I" "CargoFlag") ∈ lw_tbl := lw_at lw_m4 15 rfl
theorem q913 : (Jvm.Cond.fieldLinkNest "CargoFlag$World" (157 : Nat) "CargoFlag$Good" "leaks" "I" "CargoFlag") ∈ lw_tbl := lw_at lw_m4 18 rfl
theorem q935 : (Jvm.Cond.fieldLinkNest "CargoFlag$World" (169 : Nat) "CargoFlag$Port" "nation" "I" "CargoFlag") ∈ lw_tbl := lw_at lw_m4 40 rfl
theorem q968 : (Jvm.Cond.fieldLinkNest "CargoFlag$World" (104 : Nat) "CargoFlag$Ship" "hold" "I" "CargoFlag") ∈ lw_tbl := lw_at lw_m4 73 rfl
theorem q984 : (Jvm.Cond.instanceMethod ({ cls := "CargoFlag$World", name := "room", desc := "(I)I" } : Jvm.MethodName)) ∈ lw_all := lw_g (lw_at lw_m4 89 rfl) rfl
theorem q985 : (Jvm.Cond.selects "CargoFlag$World" ({ cls := "CargoFlag$World", name := "room", desc := "(I)I" } : Jvm.MethodName) ({ cls := "CargoFlag$World", name := "room", desc := "(I)I" } : Jvm.MethodName)) ∈ lw_all := lw_g (lw_at lw_m4 90 rfl) rfl
theorem q986 : (Jvm.Cond.code ({ cls := "CargoFlag$World", name := "room", desc := "(I)I" } : Jvm.MethodName) prog_18_method_6_code (2 : Nat) (Option.some Jvm.ClassFile.FieldType.int)) ∈ lw_all := lw_g (lw_at lw_m4 91 rfl) rfl
theorem q987 : (Jvm.Cond.methodLink "CargoFlag$World" (107 : Nat) ({ cls := "CargoFlag$World", name := "aboard", desc := "(I)I" } : Jvm.MethodName)) ∈ lw_all := lw_g (lw_at lw_m4 92 rfl) rfl
theorem q988 : (Jvm.Cond.instanceMethod ({ cls := "CargoFlag$World", name := "aboard", desc := "(I)I" } : Jvm.MethodName)) ∈ lw_all := lw_g (lw_at lw_m4 93 rfl) rfl
theorem q989 : (Jvm.Cond.selects "CargoFlag$World" ({ cls := "CargoFlag$World", name := "aboard", desc := "(I)I" } : Jvm.MethodName) ({ cls := "CargoFlag$World", name := "aboard", desc := "(I)I" } : Jvm.MethodName)) ∈ lw_all := lw_g (lw_at lw_m4 94 rfl) rfl
theorem q990 : (Jvm.Cond.code ({ cls := "CargoFlag$World", name := "aboard", desc := "(I)I" } : Jvm.MethodName) prog_18_method_5_code (4 : Nat) (Option.some Jvm.ClassFile.FieldType.int)) ∈ lw_all := lw_g (lw_at lw_m4 95 rfl) rfl
theorem q1008 : (Jvm.Cond.instanceMethod ({ cls := "CargoFlag$World", name := "be", desc := "(LCargoFlag$World;)V" } : Jvm.MethodName)) ∈ lw_all := lw_g (lw_at lw_m4 113 rfl) rfl
theorem q1009 : (Jvm.Cond.selects "CargoFlag$World" ({ cls := "CargoFlag$World", name := "be", desc := "(LCargoFlag$World;)V" } : Jvm.MethodName) ({ cls := "CargoFlag$World", name := "be", desc := "(LCargoFlag$World;)V" } : Jvm.MethodName)) ∈ lw_all := lw_g (lw_at lw_m4 114 rfl) rfl
theorem q1010 : (Jvm.Cond.code ({ cls := "CargoFlag$World", name := "be", desc := "(LCargoFlag$World;)V" } : Jvm.MethodName) prog_18_method_2_code (2 : Nat) (Option.none : Option Jvm.ClassFile.FieldType)) ∈ lw_all := lw_g (lw_at lw_m4 115 rfl) rfl
theorem q1011 : (Jvm.Cond.methodLink "CargoFlag$World" (88 : Nat) ({ cls := "CargoFlag$World", name := "copy", desc := "([I[I)V" } : Jvm.MethodName)) ∈ lw_all := lw_g (lw_at lw_m4 116 rfl) rfl
theorem q1012 : (Jvm.Cond.static ({ cls := "CargoFlag$World", name := "copy", desc := "([I[I)V" } : Jvm.MethodName)) ∈ lw_all := lw_g (lw_at lw_m4 117 rfl) rfl
theorem q1013 : (Jvm.Cond.code ({ cls := "CargoFlag$World", name := "copy", desc := "([I[I)V" } : Jvm.MethodName) prog_18_method_3_code (2 : Nat) (Option.none : Option Jvm.ClassFile.FieldType)) ∈ lw_all := lw_g (lw_at lw_m4 118 rfl) rfl
theorem q1014 : (Jvm.Cond.methodLink "CargoFlag$World" (92 : Nat) ({ cls := "java/lang/System", name := "arraycopy", desc := "(Ljava/lang/Object;ILjava/lang/Object;II)V" } : Jvm.MethodName)) ∈ lw_all := lw_g (lw_at lw_m4 119 rfl) rfl
theorem q1136 : (Jvm.Cond.instanceMethod ({ cls := "CargoFlag$World", name := "isAtSea", desc := "(I)Z" } : Jvm.MethodName)) ∈ lw_all := lw_g (lw_at lw_m5 1 rfl) rfl
theorem q1137 : (Jvm.Cond.selects "CargoFlag$World" ({ cls := "CargoFlag$World", name := "isAtSea", desc := "(I)Z" } : Jvm.MethodName) ({ cls := "CargoFlag$World", name := "isAtSea", desc := "(I)Z" } : Jvm.MethodName)) ∈ lw_all := lw_g (lw_at lw_m5 2 rfl) rfl
theorem q1138 : (Jvm.Cond.code ({ cls := "CargoFlag$World", name := "isAtSea", desc := "(I)Z" } : Jvm.MethodName) prog_18_method_15_code (2 : Nat) (Option.some Jvm.ClassFile.FieldType.boolean)) ∈ lw_all := lw_g (lw_at lw_m5 3 rfl) rfl
theorem q1140 : (Jvm.Cond.instanceMethod ({ cls := "CargoFlag$World", name := "ruled", desc := "(I)I" } : Jvm.MethodName)) ∈ lw_all := lw_g (lw_at lw_m5 5 rfl) rfl
theorem q1141 : (Jvm.Cond.selects "CargoFlag$World" ({ cls := "CargoFlag$World", name := "ruled", desc := "(I)I" } : Jvm.MethodName) ({ cls := "CargoFlag$World", name := "ruled", desc := "(I)I" } : Jvm.MethodName)) ∈ lw_all := lw_g (lw_at lw_m5 6 rfl) rfl
theorem q1142 : (Jvm.Cond.code ({ cls := "CargoFlag$World", name := "ruled", desc := "(I)I" } : Jvm.MethodName) prog_18_method_12_code (2 : Nat) (Option.some Jvm.ClassFile.FieldType.int)) ∈ lw_all := lw_g (lw_at lw_m5 7 rfl) rfl
theorem q1143 : (Jvm.Cond.methodLink "CargoFlag$World" (131 : Nat) ({ cls := "CargoFlag$World", name := "ruled", desc := "(II)I" } : Jvm.MethodName)) ∈ lw_all := lw_g (lw_at lw_m5 8 rfl) rfl
theorem q1144 : (Jvm.Cond.instanceMethod ({ cls := "CargoFlag$World", name := "ruled", desc := "(II)I" } : Jvm.MethodName)) ∈ lw_all := lw_g (lw_at lw_m5 9 rfl) rfl
theorem q1145 : (Jvm.Cond.selects "CargoFlag$World" ({ cls := "CargoFlag$World", name := "ruled", desc := "(II)I" } : Jvm.MethodName) ({ cls := "CargoFlag$World", name := "ruled", desc := "(II)I" } : Jvm.MethodName)) ∈ lw_all := lw_g (lw_at lw_m5 10 rfl) rfl
theorem q1146 : (Jvm.Cond.code ({ cls := "CargoFlag$World", name := "ruled", desc := "(II)I" } : Jvm.MethodName) prog_18_method_11_code (3 : Nat) (Option.some Jvm.ClassFile.FieldType.int)) ∈ lw_all := lw_g (lw_at lw_m5 11 rfl) rfl
theorem q1147 : (Jvm.Cond.methodLink "CargoFlag$World" (116 : Nat) ({ cls := "CargoFlag$World", name := "captains", desc := "(II)I" } : Jvm.MethodName)) ∈ lw_all := lw_g (lw_at lw_m5 12 rfl) rfl
theorem q1148 : (Jvm.Cond.instanceMethod ({ cls := "CargoFlag$World", name := "captains", desc := "(II)I" } : Jvm.MethodName)) ∈ lw_all := lw_g (lw_at lw_m5 13 rfl) rfl
theorem q1149 : (Jvm.Cond.selects "CargoFlag$World" ({ cls := "CargoFlag$World", name := "captains", desc := "(II)I" } : Jvm.MethodName) ({ cls := "CargoFlag$World", name := "captains", desc := "(II)I" } : Jvm.MethodName)) ∈ lw_all := lw_g (lw_at lw_m5 14 rfl) rfl
theorem q1150 : (Jvm.Cond.code ({ cls := "CargoFlag$World", name := "captains", desc := "(II)I" } : Jvm.MethodName) prog_18_method_8_code (7 : Nat) (Option.some Jvm.ClassFile.FieldType.int)) ∈ lw_all := lw_g (lw_at lw_m5 15 rfl) rfl
theorem q1151 : (Jvm.Cond.methodLink "CargoFlag$World" (128 : Nat) ({ cls := "CargoFlag$World", name := "alone", desc := "(I)I" } : Jvm.MethodName)) ∈ lw_all := lw_g (lw_at lw_m5 16 rfl) rfl
theorem q1152 : (Jvm.Cond.static ({ cls := "CargoFlag$World", name := "alone", desc := "(I)I" } : Jvm.MethodName)) ∈ lw_all := lw_g (lw_at lw_m5 17 rfl) rfl
theorem q1153 : (Jvm.Cond.code ({ cls := "CargoFlag$World", name := "alone", desc := "(I)I" } : Jvm.MethodName) prog_18_method_10_code (1 : Nat) (Option.some Jvm.ClassFile.FieldType.int)) ∈ lw_all := lw_g (lw_at lw_m5 18 rfl) rfl
theorem q1154 : (Jvm.Cond.methodLink "CargoFlag$World" (120 : Nat) ({ cls := "java/lang/Integer", name := "bitCount", desc := "(I)I" } : Jvm.MethodName)) ∈ lw_all := lw_g (lw_at lw_m5 19 rfl) rfl
theorem q1160 : (Jvm.Cond.methodLink "CargoFlag$World" (125 : Nat) ({ cls := "java/lang/Integer", name := "numberOfTrailingZeros", desc := "(I)I" } : Jvm.MethodName)) ∈ lw_all := lw_g (lw_at lw_m5 25 rfl) rfl
theorem q1170 : (Jvm.Cond.instanceMethod ({ cls := "CargoFlag$World", name := "allCoins", desc := "()I" } : Jvm.MethodName)) ∈ lw_all := lw_g (lw_at lw_m5 35 rfl) rfl
theorem q1171 : (Jvm.Cond.selects "CargoFlag$World" ({ cls := "CargoFlag$World", name := "allCoins", desc := "()I" } : Jvm.MethodName) ({ cls := "CargoFlag$World", name := "allCoins", desc := "()I" } : Jvm.MethodName)) ∈ lw_all := lw_g (lw_at lw_m5 36 rfl) rfl
theorem q1172 : (Jvm.Cond.code ({ cls := "CargoFlag$World", name := "allCoins", desc := "()I" } : Jvm.MethodName) prog_18_method_24_code (3 : Nat) (Option.some Jvm.ClassFile.FieldType.int)) ∈ lw_all := lw_g (lw_at lw_m5 37 rfl) rfl
theorem q1233 : (Jvm.Cond.instanceMethod ({ cls := "CargoFlag$World", name := "weight", desc := "(III)I" } : Jvm.MethodName)) ∈ lw_all := lw_g (lw_at lw_m5 98 rfl) rfl
theorem q1234 : (Jvm.Cond.selects "CargoFlag$World" ({ cls := "CargoFlag$World", name := "weight", desc := "(III)I" } : Jvm.MethodName) ({ cls := "CargoFlag$World", name := "weight", desc := "(III)I" } : Jvm.MethodName)) ∈ lw_all := lw_g (lw_at lw_m5 99 rfl) rfl
theorem q1235 : (Jvm.Cond.code ({ cls := "CargoFlag$World", name := "weight", desc := "(III)I" } : Jvm.MethodName) prog_18_method_7_code (7 : Nat) (Option.some Jvm.ClassFile.FieldType.int)) ∈ lw_all := lw_g (lw_at lw_m5 100 rfl) rfl
theorem q1248 : (Jvm.Cond.instanceMethod ({ cls := "CargoFlag$World", name := "captains", desc := "(I)I" } : Jvm.MethodName)) ∈ lw_all := lw_g (lw_at lw_m5 113 rfl) rfl
theorem q1249 : (Jvm.Cond.selects "CargoFlag$World" ({ cls := "CargoFlag$World", name := "captains", desc := "(I)I" } : Jvm.MethodName) ({ cls := "CargoFlag$World", name := "captains", desc := "(I)I" } : Jvm.MethodName)) ∈ lw_all := lw_g (lw_at lw_m5 114 rfl) rfl
theorem q1250 : (Jvm.Cond.code ({ cls := "CargoFlag$World", name := "captains", desc := "(I)I" } : Jvm.MethodName) prog_18_method_9_code (2 : Nat) (Option.some Jvm.ClassFile.FieldType.int)) ∈ lw_all := lw_g (lw_at lw_m5 115 rfl) rfl
theorem q1279 : (Jvm.Cond.instanceMethod ({ cls := "CargoFlag$World", name := "deeds", desc := "(I)I" } : Jvm.MethodName)) ∈ lw_all := lw_g (lw_at lw_m5 144 rfl) rfl
theorem q1280 : (Jvm.Cond.selects "CargoFlag$World" ({ cls := "CargoFlag$World", name := "deeds", desc := "(I)I" } : Jvm.MethodName) ({ cls := "CargoFlag$World", name := "deeds", desc := "(I)I" } : Jvm.MethodName)) ∈ lw_all := lw_g (lw_at lw_m5 145 rfl) rfl
theorem q1281 : (Jvm.Cond.code ({ cls := "CargoFlag$World", name := "deeds", desc := "(I)I" } : Jvm.MethodName) prog_18_method_13_code (6 : Nat) (Option.some Jvm.ClassFile.FieldType.int)) ∈ lw_all := lw_g (lw_at lw_m5 146 rfl) rfl
theorem q1282 : (Jvm.Cond.methodLink "CargoFlag$World" (134 : Nat) ({ cls := "CargoFlag$World", name := "captains", desc := "(I)I" } : Jvm.MethodName)) ∈ lw_all := lw_g (lw_at lw_m5 147 rfl) rfl
theorem q1283 : (Jvm.Cond.methodLinkNest "CargoFlag$World" (136 : Nat) ({ cls := "CargoFlag", name := "has", desc := "(II)Z" } : Jvm.MethodName) "CargoFlag") ∈ lw_tbl := lw_at lw_m5 148 rfl
theorem q1299 : (Jvm.Cond.instanceMethod ({ cls := "CargoFlag$World", name := "boards", desc := "(II)Z" } : Jvm.MethodName)) ∈ lw_all := lw_g (lw_at lw_m5 164 rfl) rfl
theorem q1300 : (Jvm.Cond.selects "CargoFlag$World" ({ cls := "CargoFlag$World", name := "boards", desc := "(II)Z" } : Jvm.MethodName) ({ cls := "CargoFlag$World", name := "boards", desc := "(II)Z" } : Jvm.MethodName)) ∈ lw_all := lw_g (lw_at lw_m5 165 rfl) rfl
theorem q1301 : (Jvm.Cond.code ({ cls := "CargoFlag$World", name := "boards", desc := "(II)Z" } : Jvm.MethodName) prog_18_method_14_code (5 : Nat) (Option.some Jvm.ClassFile.FieldType.boolean)) ∈ lw_all := lw_g (lw_at lw_m5 166 rfl) rfl
theorem q1302 : (Jvm.Cond.methodLink "CargoFlag$World" (143 : Nat) ({ cls := "CargoFlag$World", name := "ruled", desc := "(I)I" } : Jvm.MethodName)) ∈ lw_all := lw_g (lw_at lw_m5 167 rfl) rfl
theorem q1321 : (Jvm.Cond.instanceMethod ({ cls := "CargoFlag$World", name := "buys", desc := "(III)Z" } : Jvm.MethodName)) ∈ lw_all := lw_g (lw_at lw_m5 186 rfl) rfl
theorem q1322 : (Jvm.Cond.selects "CargoFlag$World" ({ cls := "CargoFlag$World", name := "buys", desc := "(III)Z" } : Jvm.MethodName) ({ cls := "CargoFlag$World", name := "buys", desc := "(III)Z" } : Jvm.MethodName)) ∈ lw_all := lw_g (lw_at lw_m5 187 rfl) rfl
theorem q1323 : (Jvm.Cond.code ({ cls := "CargoFlag$World", name := "buys", desc := "(III)Z" } : Jvm.MethodName) prog_18_method_16_code (5 : Nat) (Option.some Jvm.ClassFile.FieldType.boolean)) ∈ lw_all := lw_g (lw_at lw_m5 188 rfl) rfl
theorem q1324 : (Jvm.Cond.methodLink "CargoFlag$World" (145 : Nat) ({ cls := "CargoFlag$World", name := "isAtSea", desc := "(I)Z" } : Jvm.MethodName)) ∈ lw_all := lw_g (lw_at lw_m5 189 rfl) rfl
theorem q1325 : (Jvm.Cond.methodLink "CargoFlag$World" (149 : Nat) ({ cls := "CargoFlag$World", name := "room", desc := "(I)I" } : Jvm.MethodName)) ∈ lw_all := lw_g (lw_at lw_m5 190 rfl) rfl
theorem q1331 : (Jvm.Cond.instanceMethod ({ cls := "CargoFlag$World", name := "sells", desc := "(III)Z" } : Jvm.MethodName)) ∈ lw_all := lw_g (lw_at lw_m5 196 rfl) rfl
theorem q1332 : (Jvm.Cond.selects "CargoFlag$World" ({ cls := "CargoFlag$World", name := "sells", desc := "(III)Z" } : Jvm.MethodName) ({ cls := "CargoFlag$World", name := "sells", desc := "(III)Z" } : Jvm.MethodName)) ∈ lw_all := lw_g (lw_at lw_m5 197 rfl) rfl
theorem q1333 : (Jvm.Cond.code ({ cls := "CargoFlag$World", name := "sells", desc := "(III)Z" } : Jvm.MethodName) prog_18_method_17_code (5 : Nat) (Option.some Jvm.ClassFile.FieldType.boolean)) ∈ lw_all := lw_g (lw_at lw_m5 198 rfl) rfl
theorem q1334 : (Jvm.Cond.methodLink "CargoFlag$World" (152 : Nat) ({ cls := "java/lang/Math", name := "min", desc := "(II)I" } : Jvm.MethodName)) ∈ lw_all := lw_g (lw_at lw_m5 199 rfl) rfl
theorem q1342 : (Jvm.Cond.instanceMethod ({ cls := "CargoFlag$World", name := "dumps", desc := "(III)Z" } : Jvm.MethodName)) ∈ lw_all := lw_g (lw_at lw_m5 207 rfl) rfl
theorem q1343 : (Jvm.Cond.selects "CargoFlag$World" ({ cls := "CargoFlag$World", name := "dumps", desc := "(III)Z" } : Jvm.MethodName) ({ cls := "CargoFlag$World", name := "dumps", desc := "(III)Z" } : Jvm.MethodName)) ∈ lw_all := lw_g (lw_at lw_m5 208 rfl) rfl
theorem q1344 : (Jvm.Cond.code ({ cls := "CargoFlag$World", name := "dumps", desc := "(III)Z" } : Jvm.MethodName) prog_18_method_18_code (4 : Nat) (Option.some Jvm.ClassFile.FieldType.boolean)) ∈ lw_all := lw_g (lw_at lw_m5 209 rfl) rfl
theorem q1350 : (Jvm.Cond.instanceMethod ({ cls := "CargoFlag$World", name := "sails", desc := "(II)Z" } : Jvm.MethodName)) ∈ lw_all := lw_g (lw_at lw_m5 215 rfl) rfl
theorem q1351 : (Jvm.Cond.selects "CargoFlag$World" ({ cls := "CargoFlag$World", name := "sails", desc := "(II)Z" } : Jvm.MethodName) ({ cls := "CargoFlag$World", name := "sails", desc := "(II)Z" } : Jvm.MethodName)) ∈ lw_all := lw_g (lw_at lw_m5 216 rfl) rfl
theorem q1352 : (Jvm.Cond.code ({ cls := "CargoFlag$World", name := "sails", desc := "(II)Z" } : Jvm.MethodName) prog_18_method_19_code (3 : Nat) (Option.some Jvm.ClassFile.FieldType.boolean)) ∈ lw_all := lw_g (lw_at lw_m5 217 rfl) rfl
theorem q1359 : (Jvm.Cond.instanceMethod ({ cls := "CargoFlag$World", name := "goes", desc := "()I" } : Jvm.MethodName)) ∈ lw_all := lw_g (lw_at lw_m5 224 rfl) rfl
theorem q1360 : (Jvm.Cond.selects "CargoFlag$World" ({ cls := "CargoFlag$World", name := "goes", desc := "()I" } : Jvm.MethodName) ({ cls := "CargoFlag$World", name := "goes", desc := "()I" } : Jvm.MethodName)) ∈ lw_all := lw_g (lw_at lw_m5 225 rfl) rfl
theorem q1361 : (Jvm.Cond.code ({ cls := "CargoFlag$World", name := "goes", desc := "()I" } : Jvm.MethodName) prog_18_method_23_code (3 : Nat) (Option.some Jvm.ClassFile.FieldType.int)) ∈ lw_all := lw_g (lw_at lw_m5 226 rfl) rfl
theorem q1362 : (Jvm.Cond.methodLink "CargoFlag$World" (176 : Nat) ({ cls := "CargoFlag$World", name := "goes", desc := "(I)Z" } : Jvm.MethodName)) ∈ lw_all := lw_g (lw_at lw_m5 227 rfl) rfl
theorem q1363 : (Jvm.Cond.instanceMethod ({ cls := "CargoFlag$World", name := "goes", desc := "(I)Z" } : Jvm.MethodName)) ∈ lw_all := lw_g (lw_at lw_m5 228 rfl) rfl
theorem q1364 : (Jvm.Cond.selects "CargoFlag$World" ({ cls := "CargoFlag$World", name := "goes", desc := "(I)Z" } : Jvm.MethodName) ({ cls := "CargoFlag$World", name := "goes", desc := "(I)Z" } : Jvm.MethodName)) ∈ lw_all := lw_g (lw_at lw_m5 229 rfl) rfl
theorem q1365 : (Jvm.Cond.code ({ cls := "CargoFlag$World", name := "goes", desc := "(I)Z" } : Jvm.MethodName) prog_18_method_21_code (4 : Nat) (Option.some Jvm.ClassFile.FieldType.boolean)) ∈ lw_all := lw_g (lw_at lw_m5 230 rfl) rfl
theorem q1366 : (Jvm.Cond.methodLink "CargoFlag$World" (163 : Nat) ({ cls := "CargoFlag$World", name := "pays", desc := "(I)V" } : Jvm.MethodName)) ∈ lw_all := lw_g (lw_at lw_m5 231 rfl) rfl
theorem q1367 : (Jvm.Cond.privateMethod ({ cls := "CargoFlag$World", name := "pays", desc := "(I)V" } : Jvm.MethodName)) ∈ lw_tbl := lw_at lw_m5 232 rfl
theorem q1368 : (Jvm.Cond.instanceMethod ({ cls := "CargoFlag$World", name := "pays", desc := "(I)V" } : Jvm.MethodName)) ∈ lw_all := lw_g (lw_at lw_m5 233 rfl) rfl
theorem q1369 : (Jvm.Cond.code ({ cls := "CargoFlag$World", name := "pays", desc := "(I)V" } : Jvm.MethodName) prog_18_method_22_code (4 : Nat) (Option.none : Option Jvm.ClassFile.FieldType)) ∈ lw_all := lw_g (lw_at lw_m5 234 rfl) rfl
theorem q1370 : (Jvm.Cond.methodLink "CargoFlag$World" (167 : Nat) ({ cls := "CargoFlag$World", name := "leaks", desc := "(I)V" } : Jvm.MethodName)) ∈ lw_all := lw_g (lw_at lw_m5 235 rfl) rfl
theorem q1371 : (Jvm.Cond.instanceMethod ({ cls := "CargoFlag$World", name := "leaks", desc := "(I)V" } : Jvm.MethodName)) ∈ lw_all := lw_g (lw_at lw_m5 236 rfl) rfl
theorem q1372 : (Jvm.Cond.selects "CargoFlag$World" ({ cls := "CargoFlag$World", name := "leaks", desc := "(I)V" } : Jvm.MethodName) ({ cls := "CargoFlag$World", name := "leaks", desc := "(I)V" } : Jvm.MethodName)) ∈ lw_all := lw_g (lw_at lw_m5 237 rfl) rfl
theorem q1373 : (Jvm.Cond.code ({ cls := "CargoFlag$World", name := "leaks", desc := "(I)V" } : Jvm.MethodName) prog_18_method_20_code (3 : Nat) (Option.none : Option Jvm.ClassFile.FieldType)) ∈ lw_all := lw_g (lw_at lw_m5 238 rfl) rfl
theorem q1374 : (Jvm.Cond.methodLink "CargoFlag$World" (160 : Nat) ({ cls := "java/lang/Math", name := "max", desc := "(II)I" } : Jvm.MethodName)) ∈ lw_all := lw_g (lw_at lw_m5 239 rfl) rfl
theorem in_X5 : ∀ w ∈ wsX50, w ∈ lw_all := lw_in wsX50 [398, 400, 402, 404, 406, 408, 410, 412, 414, 416, 418, 420, 422, 424, 426, 428, 430, 432, 434, 436, 438] (by decide +kernel) (by decide +kernel)

/-! CargoFlag$Reader -/
set_option maxRecDepth 100000
def RX7 : String := "CargoFlag$Reader"
def TX7 : u_T := fun k => match k with
  | 0 => ("CargoFlag$Reader", "size", "I", true)
  | 1 => ("CargoFlag$Reader", "at", "I", false)
  | 2 => ("CargoFlag$Reader", "behind", "I", false)
  | 3 => ("CargoFlag$Reader", "sort", "I", false)
  | 4 => ("CargoFlag$Reader", "number", "I", false)
  | 5 => ("CargoFlag$Reader", "steps", "I", false)
  | 6 => ("CargoFlag$Reader", "hasRule", "Z", false)
  | _ => ("CargoFlag$Reader", "this$0", "LCargoFlag;", true)
def tyX7 : Nat → FieldType := fun k => match k with
  | 0 => .int
  | 1 => .int
  | 2 => .int
  | 3 => .int
  | 4 => .int
  | 5 => .int
  | 6 => .boolean
  | _ => .object "CargoFlag"
abbrev wsX70 : List Cond := u_ws RX7 TX7 8
theorem nmX7 : ∀ a, a < 8 → ∀ b, b < 8 → a ≠ b → (TX7 a).2.1 ≠ (TX7 b).2.1 := by decide +kernel
theorem tyX7_ok : ∀ k, k < 8 → parseFieldDescriptor (TX7 k).2.2.1 = some (tyX7 k) := by decide +kernel
abbrev cX7_init : ByteArray := prog_12_method_1_code
def yX7_init : MethodName := ⟨RX7, "<init>", "(LCargoFlag;I)V"⟩
def dkwX7_init_0 : List UInt8 := [42, 43, 181, 0, 3, 42, 183, 0, 9, 42, 28, 181, 0, 15, 42, 182, 0, 19, 177]
abbrev dktX7_init_0 : List UInt8 := dkwX7_init_0 ++ []
theorem dksX7_init_0 : cX7_init.data.toList.drop 0 = dktX7_init_0 := by decide +kernel
theorem dX7_init_0 : decode cX7_init 0 = .ok (.aload_n 0, 1) := dk_42 (dk_at dksX7_init_0 0 rfl rfl)
theorem dX7_init_1 : decode cX7_init 1 = .ok (.aload_n 1, 1) := dk_43 (dk_at dksX7_init_0 1 rfl rfl)
theorem dX7_init_2 : decode cX7_init 2 = .ok (.putfield 3, 3) := dk_181 0 3 (dk_at dksX7_init_0 2 rfl rfl)
theorem dX7_init_5 : decode cX7_init 5 = .ok (.aload_n 0, 1) := dk_42 (dk_at dksX7_init_0 5 rfl rfl)
theorem dX7_init_6 : decode cX7_init 6 = .ok (.invokespecial 9, 3) := dk_183 0 9 (dk_at dksX7_init_0 6 rfl rfl)
theorem dX7_init_9 : decode cX7_init 9 = .ok (.aload_n 0, 1) := dk_42 (dk_at dksX7_init_0 9 rfl rfl)
theorem dX7_init_10 : decode cX7_init 10 = .ok (.iload_n 2, 1) := dk_28 (dk_at dksX7_init_0 10 rfl rfl)
theorem dX7_init_11 : decode cX7_init 11 = .ok (.putfield 15, 3) := dk_181 0 15 (dk_at dksX7_init_0 11 rfl rfl)
theorem dX7_init_14 : decode cX7_init 14 = .ok (.aload_n 0, 1) := dk_42 (dk_at dksX7_init_0 14 rfl rfl)
theorem dX7_init_15 : decode cX7_init 15 = .ok (.invokevirtual 19, 3) := dk_182 0 19 (dk_at dksX7_init_0 15 rfl rfl)
theorem dX7_init_18 : decode cX7_init 18 = .ok (.return_, 1) := dk_177 (dk_at dksX7_init_0 18 rfl rfl)
abbrev cX7_next : ByteArray := prog_12_method_4_code
def yX7_next : MethodName := ⟨RX7, "next", "()V"⟩
def dkwX7_next_13 : List UInt8 := [180, 0, 22, 42, 180, 0, 29, 51, 16, 61, 160, 0, 7, 6, 167, 0, 4, 7, 181, 0, 32, 177]
abbrev dktX7_next_13 : List UInt8 := dkwX7_next_13 ++ []
def dkwX7_next_12 : List UInt8 := [159, 0, 37, 42, 180, 0, 3, 180, 0, 22, 42, 180, 0, 29, 51, 16, 62, 159, 0, 20, 42, 180, 0, 3]
abbrev dktX7_next_12 : List UInt8 := dkwX7_next_12 ++ dktX7_next_13
def dkwX7_next_11 : List UInt8 := [180, 0, 29, 51, 16, 59, 159, 0, 54, 42, 180, 0, 3, 180, 0, 22, 42, 180, 0, 29, 51, 16, 60]
abbrev dktX7_next_11 : List UInt8 := dkwX7_next_11 ++ dktX7_next_12
def dkwX7_next_10 : List UInt8 := [167, 0, 90, 42, 42, 180, 0, 29, 4, 96, 181, 0, 26, 42, 42, 180, 0, 3, 180, 0, 22, 42]
abbrev dktX7_next_10 : List UInt8 := dkwX7_next_10 ++ dktX7_next_11
def dkwX7_next_9 : List UInt8 := [42, 42, 180, 0, 26, 42, 180, 0, 29, 100, 7, 164, 0, 7, 7, 167, 0, 4, 5, 181, 0, 32]
abbrev dktX7_next_9 : List UInt8 := dkwX7_next_9 ++ dktX7_next_10
def dkwX7_next_8 : List UInt8 := [180, 0, 26, 51, 96, 16, 48, 100, 181, 0, 42, 42, 89, 180, 0, 26, 4, 96, 181, 0, 26, 167, 255, 195]
abbrev dktX7_next_8 : List UInt8 := dkwX7_next_8 ++ dktX7_next_9
def dkwX7_next_7 : List UInt8 := [180, 0, 29, 100, 7, 162, 0, 30, 42, 16, 10, 42, 180, 0, 42, 104, 42, 180, 0, 3, 180, 0, 22, 42]
abbrev dktX7_next_7 : List UInt8 := dkwX7_next_7 ++ dktX7_next_8
def dkwX7_next_6 : List UInt8 := [153, 0, 97, 42, 3, 181, 0, 42, 42, 42, 180, 0, 26, 182, 0, 39, 153, 0, 56, 42, 180, 0, 26, 42]
abbrev dktX7_next_6 : List UInt8 := dkwX7_next_6 ++ dktX7_next_7
def dkwX7_next_5 : List UInt8 := [153, 0, 208, 42, 89, 180, 0, 26, 4, 96, 181, 0, 26, 167, 255, 235, 42, 42, 180, 0, 29, 182, 0, 39]
abbrev dktX7_next_5 : List UInt8 := dkwX7_next_5 ++ dktX7_next_6
def dkwX7_next_4 : List UInt8 := [180, 0, 29, 182, 0, 35, 153, 0, 32, 42, 4, 181, 0, 32, 42, 42, 180, 0, 26, 182, 0, 35]
abbrev dktX7_next_4 : List UInt8 := dkwX7_next_4 ++ dktX7_next_5
def dkwX7_next_3 : List UInt8 := [181, 0, 26, 42, 3, 181, 0, 32, 42, 180, 0, 29, 42, 180, 0, 15, 161, 0, 4, 177, 42, 42]
abbrev dktX7_next_3 : List UInt8 := dkwX7_next_3 ++ dktX7_next_4
def dkwX7_next_2 : List UInt8 := [51, 16, 32, 160, 0, 16, 42, 89, 180, 0, 29, 4, 96, 181, 0, 29, 167, 255, 201, 42, 42, 180, 0, 29]
abbrev dktX7_next_2 : List UInt8 := dkwX7_next_2 ++ dktX7_next_3
def dkwX7_next_1 : List UInt8 := [180, 0, 22, 42, 180, 0, 29, 51, 16, 10, 159, 0, 20, 42, 180, 0, 3, 180, 0, 22, 42, 180, 0, 29]
abbrev dktX7_next_1 : List UInt8 := dkwX7_next_1 ++ dktX7_next_2
def dkwX7_next_0 : List UInt8 := [42, 42, 180, 0, 26, 181, 0, 29, 42, 180, 0, 29, 42, 180, 0, 15, 162, 0, 50, 42, 180, 0, 3]
abbrev dktX7_next_0 : List UInt8 := dkwX7_next_0 ++ dktX7_next_1
theorem dksX7_next_0 : cX7_next.data.toList.drop 0 = dktX7_next_0 := by decide +kernel
theorem dksX7_next_1 : cX7_next.data.toList.drop 23 = dktX7_next_1 := dk_seg dksX7_next_0 23 rfl rfl
theorem dksX7_next_2 : cX7_next.data.toList.drop 47 = dktX7_next_2 := dk_seg dksX7_next_1 24 rfl rfl
theorem dksX7_next_3 : cX7_next.data.toList.drop 71 = dktX7_next_3 := dk_seg dksX7_next_2 24 rfl rfl
theorem dksX7_next_4 : cX7_next.data.toList.drop 93 = dktX7_next_4 := dk_seg dksX7_next_3 22 rfl rfl
theorem dksX7_next_5 : cX7_next.data.toList.drop 115 = dktX7_next_5 := dk_seg dksX7_next_4 22 rfl rfl
theorem dksX7_next_6 : cX7_next.data.toList.drop 139 = dktX7_next_6 := dk_seg dksX7_next_5 24 rfl rfl
theorem dksX7_next_7 : cX7_next.data.toList.drop 163 = dktX7_next_7 := dk_seg dksX7_next_6 24 rfl rfl
theorem dksX7_next_8 : cX7_next.data.toList.drop 187 = dktX7_next_8 := dk_seg dksX7_next_7 24 rfl rfl
theorem dksX7_next_9 : cX7_next.data.toList.drop 211 = dktX7_next_9 := dk_seg dksX7_next_8 24 rfl rfl
theorem dksX7_next_10 : cX7_next.data.toList.drop 233 = dktX7_next_10 := dk_seg dksX7_next_9 22 rfl rfl
theorem dksX7_next_11 : cX7_next.data.toList.drop 255 = dktX7_next_11 := dk_seg dksX7_next_10 22 rfl rfl
theorem dksX7_next_12 : cX7_next.data.toList.drop 278 = dktX7_next_12 := dk_seg dksX7_next_11 23 rfl rfl
theorem dksX7_next_13 : cX7_next.data.toList.drop 302 = dktX7_next_13 := dk_seg dksX7_next_12 24 rfl rfl
theorem dX7_next_0 : decode cX7_next 0 = .ok (.aload_n 0, 1) := dk_42 (dk_at dksX7_next_0 0 rfl rfl)
theorem dX7_next_1 : decode cX7_next 1 = .ok (.aload_n 0, 1) := dk_42 (dk_at dksX7_next_0 1 rfl rfl)
theorem dX7_next_2 : decode cX7_next 2 = .ok (.getfield 26, 3) := dk_180 0 26 (dk_at dksX7_next_0 2 rfl rfl)
theorem dX7_next_5 : decode cX7_next 5 = .ok (.putfield 29, 3) := dk_181 0 29 (dk_at dksX7_next_0 5 rfl rfl)
theorem dX7_next_8 : decode cX7_next 8 = .ok (.aload_n 0, 1) := dk_42 (dk_at dksX7_next_0 8 rfl rfl)
theorem dX7_next_9 : decode cX7_next 9 = .ok (.getfield 29, 3) := dk_180 0 29 (dk_at dksX7_next_0 9 rfl rfl)
theorem dX7_next_12 : decode cX7_next 12 = .ok (.aload_n 0, 1) := dk_42 (dk_at dksX7_next_0 12 rfl rfl)
theorem dX7_next_13 : decode cX7_next 13 = .ok (.getfield 15, 3) := dk_180 0 15 (dk_at dksX7_next_0 13 rfl rfl)
theorem dX7_next_16 : decode cX7_next 16 = .ok (.if_icmp .ge 50, 3) := dk_162 0 50 (dk_at dksX7_next_0 16 rfl rfl)
theorem dX7_next_19 : decode cX7_next 19 = .ok (.aload_n 0, 1) := dk_42 (dk_at dksX7_next_0 19 rfl rfl)
theorem dX7_next_20 : decode cX7_next 20 = .ok (.getfield 3, 3) := dk_180 0 3 (dk_at dksX7_next_0 20 rfl rfl)
theorem dX7_next_23 : decode cX7_next 23 = .ok (.getfield 22, 3) := dk_180 0 22 (dk_at dksX7_next_1 0 rfl rfl)
theorem dX7_next_26 : decode cX7_next 26 = .ok (.aload_n 0, 1) := dk_42 (dk_at dksX7_next_1 3 rfl rfl)
theorem dX7_next_27 : decode cX7_next 27 = .ok (.getfield 29, 3) := dk_180 0 29 (dk_at dksX7_next_1 4 rfl rfl)
theorem dX7_next_30 : decode cX7_next 30 = .ok (.baload, 1) := dk_51 (dk_at dksX7_next_1 7 rfl rfl)
theorem dX7_next_31 : decode cX7_next 31 = .ok (.bipush 10, 2) := dk_16 10 (dk_at dksX7_next_1 8 rfl rfl)
theorem dX7_next_33 : decode cX7_next 33 = .ok (.if_icmp .eq 20, 3) := dk_159 0 20 (dk_at dksX7_next_1 10 rfl rfl)
theorem dX7_next_36 : decode cX7_next 36 = .ok (.aload_n 0, 1) := dk_42 (dk_at dksX7_next_1 13 rfl rfl)
theorem dX7_next_37 : decode cX7_next 37 = .ok (.getfield 3, 3) := dk_180 0 3 (dk_at dksX7_next_1 14 rfl rfl)
theorem dX7_next_40 : decode cX7_next 40 = .ok (.getfield 22, 3) := dk_180 0 22 (dk_at dksX7_next_1 17 rfl rfl)
theorem dX7_next_43 : decode cX7_next 43 = .ok (.aload_n 0, 1) := dk_42 (dk_at dksX7_next_1 20 rfl rfl)
theorem dX7_next_44 : decode cX7_next 44 = .ok (.getfield 29, 3) := dk_180 0 29 (dk_at dksX7_next_1 21 rfl rfl)
theorem dX7_next_47 : decode cX7_next 47 = .ok (.baload, 1) := dk_51 (dk_at dksX7_next_2 0 rfl rfl)
theorem dX7_next_48 : decode cX7_next 48 = .ok (.bipush 32, 2) := dk_16 32 (dk_at dksX7_next_2 1 rfl rfl)
theorem dX7_next_50 : decode cX7_next 50 = .ok (.if_icmp .ne 16, 3) := dk_160 0 16 (dk_at dksX7_next_2 3 rfl rfl)
theorem dX7_next_53 : decode cX7_next 53 = .ok (.aload_n 0, 1) := dk_42 (dk_at dksX7_next_2 6 rfl rfl)
theorem dX7_next_54 : decode cX7_next 54 = .ok (.dup, 1) := dk_89 (dk_at dksX7_next_2 7 rfl rfl)
theorem dX7_next_55 : decode cX7_next 55 = .ok (.getfield 29, 3) := dk_180 0 29 (dk_at dksX7_next_2 8 rfl rfl)
theorem dX7_next_58 : decode cX7_next 58 = .ok (.iconst 1, 1) := dk_4 (dk_at dksX7_next_2 11 rfl rfl)
theorem dX7_next_59 : decode cX7_next 59 = .ok (.iadd, 1) := dk_96 (dk_at dksX7_next_2 12 rfl rfl)
theorem dX7_next_60 : decode cX7_next 60 = .ok (.putfield 29, 3) := dk_181 0 29 (dk_at dksX7_next_2 13 rfl rfl)
theorem dX7_next_63 : decode cX7_next 63 = .ok (.goto (-55), 3) := dk_167 255 201 (dk_at dksX7_next_2 16 rfl rfl)
theorem dX7_next_66 : decode cX7_next 66 = .ok (.aload_n 0, 1) := dk_42 (dk_at dksX7_next_2 19 rfl rfl)
theorem dX7_next_67 : decode cX7_next 67 = .ok (.aload_n 0, 1) := dk_42 (dk_at dksX7_next_2 20 rfl rfl)
theorem dX7_next_68 : decode cX7_next 68 = .ok (.getfield 29, 3) := dk_180 0 29 (dk_at dksX7_next_2 21 rfl rfl)
theorem dX7_next_71 : decode cX7_next 71 = .ok (.putfield 26, 3) := dk_181 0 26 (dk_at dksX7_next_3 0 rfl rfl)
theorem dX7_next_74 : decode cX7_next 74 = .ok (.aload_n 0, 1) := dk_42 (dk_at dksX7_next_3 3 rfl rfl)
theorem dX7_next_75 : decode cX7_next 75 = .ok (.iconst 0, 1) := dk_3 (dk_at dksX7_next_3 4 rfl rfl)
theorem dX7_next_76 : decode cX7_next 76 = .ok (.putfield 32, 3) := dk_181 0 32 (dk_at dksX7_next_3 5 rfl rfl)
theorem dX7_next_79 : decode cX7_next 79 = .ok (.aload_n 0, 1) := dk_42 (dk_at dksX7_next_3 8 rfl rfl)
theorem dX7_next_80 : decode cX7_next 80 = .ok (.getfield 29, 3) := dk_180 0 29 (dk_at dksX7_next_3 9 rfl rfl)
theorem dX7_next_83 : decode cX7_next 83 = .ok (.aload_n 0, 1) := dk_42 (dk_at dksX7_next_3 12 rfl rfl)
theorem dX7_next_84 : decode cX7_next 84 = .ok (.getfield 15, 3) := dk_180 0 15 (dk_at dksX7_next_3 13 rfl rfl)
theorem dX7_next_87 : decode cX7_next 87 = .ok (.if_icmp .lt 4, 3) := dk_161 0 4 (dk_at dksX7_next_3 16 rfl rfl)
theorem dX7_next_90 : decode cX7_next 90 = .ok (.return_, 1) := dk_177 (dk_at dksX7_next_3 19 rfl rfl)
theorem dX7_next_91 : decode cX7_next 91 = .ok (.aload_n 0, 1) := dk_42 (dk_at dksX7_next_3 20 rfl rfl)
theorem dX7_next_92 : decode cX7_next 92 = .ok (.aload_n 0, 1) := dk_42 (dk_at dksX7_next_3 21 rfl rfl)
theorem dX7_next_93 : decode cX7_next 93 = .ok (.getfield 29, 3) := dk_180 0 29 (dk_at dksX7_next_4 0 rfl rfl)
theorem dX7_next_96 : decode cX7_next 96 = .ok (.invokevirtual 35, 3) := dk_182 0 35 (dk_at dksX7_next_4 3 rfl rfl)
theorem dX7_next_99 : decode cX7_next 99 = .ok (.ifCond .eq 32, 3) := dk_153 0 32 (dk_at dksX7_next_4 6 rfl rfl)
theorem dX7_next_102 : decode cX7_next 102 = .ok (.aload_n 0, 1) := dk_42 (dk_at dksX7_next_4 9 rfl rfl)
theorem dX7_next_103 : decode cX7_next 103 = .ok (.iconst 1, 1) := dk_4 (dk_at dksX7_next_4 10 rfl rfl)
theorem dX7_next_104 : decode cX7_next 104 = .ok (.putfield 32, 3) := dk_181 0 32 (dk_at dksX7_next_4 11 rfl rfl)
theorem dX7_next_107 : decode cX7_next 107 = .ok (.aload_n 0, 1) := dk_42 (dk_at dksX7_next_4 14 rfl rfl)
theorem dX7_next_108 : decode cX7_next 108 = .ok (.aload_n 0, 1) := dk_42 (dk_at dksX7_next_4 15 rfl rfl)
theorem dX7_next_109 : decode cX7_next 109 = .ok (.getfield 26, 3) := dk_180 0 26 (dk_at dksX7_next_4 16 rfl rfl)
theorem dX7_next_112 : decode cX7_next 112 = .ok (.invokevirtual 35, 3) := dk_182 0 35 (dk_at dksX7_next_4 19 rfl rfl)
theorem dX7_next_115 : decode cX7_next 115 = .ok (.ifCond .eq 208, 3) := dk_153 0 208 (dk_at dksX7_next_5 0 rfl rfl)
theorem dX7_next_118 : decode cX7_next 118 = .ok (.aload_n 0, 1) := dk_42 (dk_at dksX7_next_5 3 rfl rfl)
theorem dX7_next_119 : decode cX7_next 119 = .ok (.dup, 1) := dk_89 (dk_at dksX7_next_5 4 rfl rfl)
theorem dX7_next_120 : decode cX7_next 120 = .ok (.getfield 26, 3) := dk_180 0 26 (dk_at dksX7_next_5 5 rfl rfl)
theorem dX7_next_123 : decode cX7_next 123 = .ok (.iconst 1, 1) := dk_4 (dk_at dksX7_next_5 8 rfl rfl)
theorem dX7_next_124 : decode cX7_next 124 = .ok (.iadd, 1) := dk_96 (dk_at dksX7_next_5 9 rfl rfl)
theorem dX7_next_125 : decode cX7_next 125 = .ok (.putfield 26, 3) := dk_181 0 26 (dk_at dksX7_next_5 10 rfl rfl)
theorem dX7_next_128 : decode cX7_next 128 = .ok (.goto (-21), 3) := dk_167 255 235 (dk_at dksX7_next_5 13 rfl rfl)
theorem dX7_next_131 : decode cX7_next 131 = .ok (.aload_n 0, 1) := dk_42 (dk_at dksX7_next_5 16 rfl rfl)
theorem dX7_next_132 : decode cX7_next 132 = .ok (.aload_n 0, 1) := dk_42 (dk_at dksX7_next_5 17 rfl rfl)
theorem dX7_next_133 : decode cX7_next 133 = .ok (.getfield 29, 3) := dk_180 0 29 (dk_at dksX7_next_5 18 rfl rfl)
theorem dX7_next_136 : decode cX7_next 136 = .ok (.invokevirtual 39, 3) := dk_182 0 39 (dk_at dksX7_next_5 21 rfl rfl)
theorem dX7_next_139 : decode cX7_next 139 = .ok (.ifCond .eq 97, 3) := dk_153 0 97 (dk_at dksX7_next_6 0 rfl rfl)
theorem dX7_next_142 : decode cX7_next 142 = .ok (.aload_n 0, 1) := dk_42 (dk_at dksX7_next_6 3 rfl rfl)
theorem dX7_next_143 : decode cX7_next 143 = .ok (.iconst 0, 1) := dk_3 (dk_at dksX7_next_6 4 rfl rfl)
theorem dX7_next_144 : decode cX7_next 144 = .ok (.putfield 42, 3) := dk_181 0 42 (dk_at dksX7_next_6 5 rfl rfl)
theorem dX7_next_147 : decode cX7_next 147 = .ok (.aload_n 0, 1) := dk_42 (dk_at dksX7_next_6 8 rfl rfl)
theorem dX7_next_148 : decode cX7_next 148 = .ok (.aload_n 0, 1) := dk_42 (dk_at dksX7_next_6 9 rfl rfl)
theorem dX7_next_149 : decode cX7_next 149 = .ok (.getfield 26, 3) := dk_180 0 26 (dk_at dksX7_next_6 10 rfl rfl)
theorem dX7_next_152 : decode cX7_next 152 = .ok (.invokevirtual 39, 3) := dk_182 0 39 (dk_at dksX7_next_6 13 rfl rfl)
theorem dX7_next_155 : decode cX7_next 155 = .ok (.ifCond .eq 56, 3) := dk_153 0 56 (dk_at dksX7_next_6 16 rfl rfl)
theorem dX7_next_158 : decode cX7_next 158 = .ok (.aload_n 0, 1) := dk_42 (dk_at dksX7_next_6 19 rfl rfl)
theorem dX7_next_159 : decode cX7_next 159 = .ok (.getfield 26, 3) := dk_180 0 26 (dk_at dksX7_next_6 20 rfl rfl)
theorem dX7_next_162 : decode cX7_next 162 = .ok (.aload_n 0, 1) := dk_42 (dk_at dksX7_next_6 23 rfl rfl)
theorem dX7_next_163 : decode cX7_next 163 = .ok (.getfield 29, 3) := dk_180 0 29 (dk_at dksX7_next_7 0 rfl rfl)
theorem dX7_next_166 : decode cX7_next 166 = .ok (.isub, 1) := dk_100 (dk_at dksX7_next_7 3 rfl rfl)
theorem dX7_next_167 : decode cX7_next 167 = .ok (.iconst 4, 1) := dk_7 (dk_at dksX7_next_7 4 rfl rfl)
theorem dX7_next_168 : decode cX7_next 168 = .ok (.if_icmp .ge 30, 3) := dk_162 0 30 (dk_at dksX7_next_7 5 rfl rfl)
theorem dX7_next_171 : decode cX7_next 171 = .ok (.aload_n 0, 1) := dk_42 (dk_at dksX7_next_7 8 rfl rfl)
theorem dX7_next_172 : decode cX7_next 172 = .ok (.bipush 10, 2) := dk_16 10 (dk_at dksX7_next_7 9 rfl rfl)
theorem dX7_next_174 : decode cX7_next 174 = .ok (.aload_n 0, 1) := dk_42 (dk_at dksX7_next_7 11 rfl rfl)
theorem dX7_next_175 : decode cX7_next 175 = .ok (.getfield 42, 3) := dk_180 0 42 (dk_at dksX7_next_7 12 rfl rfl)
theorem dX7_next_178 : decode cX7_next 178 = .ok (.imul, 1) := dk_104 (dk_at dksX7_next_7 15 rfl rfl)
theorem dX7_next_179 : decode cX7_next 179 = .ok (.aload_n 0, 1) := dk_42 (dk_at dksX7_next_7 16 rfl rfl)
theorem dX7_next_180 : decode cX7_next 180 = .ok (.getfield 3, 3) := dk_180 0 3 (dk_at dksX7_next_7 17 rfl rfl)
theorem dX7_next_183 : decode cX7_next 183 = .ok (.getfield 22, 3) := dk_180 0 22 (dk_at dksX7_next_7 20 rfl rfl)
theorem dX7_next_186 : decode cX7_next 186 = .ok (.aload_n 0, 1) := dk_42 (dk_at dksX7_next_7 23 rfl rfl)
theorem dX7_next_187 : decode cX7_next 187 = .ok (.getfield 26, 3) := dk_180 0 26 (dk_at dksX7_next_8 0 rfl rfl)
theorem dX7_next_190 : decode cX7_next 190 = .ok (.baload, 1) := dk_51 (dk_at dksX7_next_8 3 rfl rfl)
theorem dX7_next_191 : decode cX7_next 191 = .ok (.iadd, 1) := dk_96 (dk_at dksX7_next_8 4 rfl rfl)
theorem dX7_next_192 : decode cX7_next 192 = .ok (.bipush 48, 2) := dk_16 48 (dk_at dksX7_next_8 5 rfl rfl)
theorem dX7_next_194 : decode cX7_next 194 = .ok (.isub, 1) := dk_100 (dk_at dksX7_next_8 7 rfl rfl)
theorem dX7_next_195 : decode cX7_next 195 = .ok (.putfield 42, 3) := dk_181 0 42 (dk_at dksX7_next_8 8 rfl rfl)
theorem dX7_next_198 : decode cX7_next 198 = .ok (.aload_n 0, 1) := dk_42 (dk_at dksX7_next_8 11 rfl rfl)
theorem dX7_next_199 : decode cX7_next 199 = .ok (.dup, 1) := dk_89 (dk_at dksX7_next_8 12 rfl rfl)
theorem dX7_next_200 : decode cX7_next 200 = .ok (.getfield 26, 3) := dk_180 0 26 (dk_at dksX7_next_8 13 rfl rfl)
theorem dX7_next_203 : decode cX7_next 203 = .ok (.iconst 1, 1) := dk_4 (dk_at dksX7_next_8 16 rfl rfl)
theorem dX7_next_204 : decode cX7_next 204 = .ok (.iadd, 1) := dk_96 (dk_at dksX7_next_8 17 rfl rfl)
theorem dX7_next_205 : decode cX7_next 205 = .ok (.putfield 26, 3) := dk_181 0 26 (dk_at dksX7_next_8 18 rfl rfl)
theorem dX7_next_208 : decode cX7_next 208 = .ok (.goto (-61), 3) := dk_167 255 195 (dk_at dksX7_next_8 21 rfl rfl)
theorem dX7_next_211 : decode cX7_next 211 = .ok (.aload_n 0, 1) := dk_42 (dk_at dksX7_next_9 0 rfl rfl)
theorem dX7_next_212 : decode cX7_next 212 = .ok (.aload_n 0, 1) := dk_42 (dk_at dksX7_next_9 1 rfl rfl)
theorem dX7_next_213 : decode cX7_next 213 = .ok (.getfield 26, 3) := dk_180 0 26 (dk_at dksX7_next_9 2 rfl rfl)
theorem dX7_next_216 : decode cX7_next 216 = .ok (.aload_n 0, 1) := dk_42 (dk_at dksX7_next_9 5 rfl rfl)
theorem dX7_next_217 : decode cX7_next 217 = .ok (.getfield 29, 3) := dk_180 0 29 (dk_at dksX7_next_9 6 rfl rfl)
theorem dX7_next_220 : decode cX7_next 220 = .ok (.isub, 1) := dk_100 (dk_at dksX7_next_9 9 rfl rfl)
theorem dX7_next_221 : decode cX7_next 221 = .ok (.iconst 4, 1) := dk_7 (dk_at dksX7_next_9 10 rfl rfl)
theorem dX7_next_222 : decode cX7_next 222 = .ok (.if_icmp .le 7, 3) := dk_164 0 7 (dk_at dksX7_next_9 11 rfl rfl)
theorem dX7_next_225 : decode cX7_next 225 = .ok (.iconst 4, 1) := dk_7 (dk_at dksX7_next_9 14 rfl rfl)
theorem dX7_next_226 : decode cX7_next 226 = .ok (.goto 4, 3) := dk_167 0 4 (dk_at dksX7_next_9 15 rfl rfl)
theorem dX7_next_229 : decode cX7_next 229 = .ok (.iconst 2, 1) := dk_5 (dk_at dksX7_next_9 18 rfl rfl)
theorem dX7_next_230 : decode cX7_next 230 = .ok (.putfield 32, 3) := dk_181 0 32 (dk_at dksX7_next_9 19 rfl rfl)
theorem dX7_next_233 : decode cX7_next 233 = .ok (.goto 90, 3) := dk_167 0 90 (dk_at dksX7_next_10 0 rfl rfl)
theorem dX7_next_236 : decode cX7_next 236 = .ok (.aload_n 0, 1) := dk_42 (dk_at dksX7_next_10 3 rfl rfl)
theorem dX7_next_237 : decode cX7_next 237 = .ok (.aload_n 0, 1) := dk_42 (dk_at dksX7_next_10 4 rfl rfl)
theorem dX7_next_238 : decode cX7_next 238 = .ok (.getfield 29, 3) := dk_180 0 29 (dk_at dksX7_next_10 5 rfl rfl)
theorem dX7_next_241 : decode cX7_next 241 = .ok (.iconst 1, 1) := dk_4 (dk_at dksX7_next_10 8 rfl rfl)
theorem dX7_next_242 : decode cX7_next 242 = .ok (.iadd, 1) := dk_96 (dk_at dksX7_next_10 9 rfl rfl)
theorem dX7_next_243 : decode cX7_next 243 = .ok (.putfield 26, 3) := dk_181 0 26 (dk_at dksX7_next_10 10 rfl rfl)
theorem dX7_next_246 : decode cX7_next 246 = .ok (.aload_n 0, 1) := dk_42 (dk_at dksX7_next_10 13 rfl rfl)
theorem dX7_next_247 : decode cX7_next 247 = .ok (.aload_n 0, 1) := dk_42 (dk_at dksX7_next_10 14 rfl rfl)
theorem dX7_next_248 : decode cX7_next 248 = .ok (.getfield 3, 3) := dk_180 0 3 (dk_at dksX7_next_10 15 rfl rfl)
theorem dX7_next_251 : decode cX7_next 251 = .ok (.getfield 22, 3) := dk_180 0 22 (dk_at dksX7_next_10 18 rfl rfl)
theorem dX7_next_254 : decode cX7_next 254 = .ok (.aload_n 0, 1) := dk_42 (dk_at dksX7_next_10 21 rfl rfl)
theorem dX7_next_255 : decode cX7_next 255 = .ok (.getfield 29, 3) := dk_180 0 29 (dk_at dksX7_next_11 0 rfl rfl)
theorem dX7_next_258 : decode cX7_next 258 = .ok (.baload, 1) := dk_51 (dk_at dksX7_next_11 3 rfl rfl)
theorem dX7_next_259 : decode cX7_next 259 = .ok (.bipush 59, 2) := dk_16 59 (dk_at dksX7_next_11 4 rfl rfl)
theorem dX7_next_261 : decode cX7_next 261 = .ok (.if_icmp .eq 54, 3) := dk_159 0 54 (dk_at dksX7_next_11 6 rfl rfl)
theorem dX7_next_264 : decode cX7_next 264 = .ok (.aload_n 0, 1) := dk_42 (dk_at dksX7_next_11 9 rfl rfl)
theorem dX7_next_265 : decode cX7_next 265 = .ok (.getfield 3, 3) := dk_180 0 3 (dk_at dksX7_next_11 10 rfl rfl)
theorem dX7_next_268 : decode cX7_next 268 = .ok (.getfield 22, 3) := dk_180 0 22 (dk_at dksX7_next_11 13 rfl rfl)
theorem dX7_next_271 : decode cX7_next 271 = .ok (.aload_n 0, 1) := dk_42 (dk_at dksX7_next_11 16 rfl rfl)
theorem dX7_next_272 : decode cX7_next 272 = .ok (.getfield 29, 3) := dk_180 0 29 (dk_at dksX7_next_11 17 rfl rfl)
theorem dX7_next_275 : decode cX7_next 275 = .ok (.baload, 1) := dk_51 (dk_at dksX7_next_11 20 rfl rfl)
theorem dX7_next_276 : decode cX7_next 276 = .ok (.bipush 60, 2) := dk_16 60 (dk_at dksX7_next_11 21 rfl rfl)
theorem dX7_next_278 : decode cX7_next 278 = .ok (.if_icmp .eq 37, 3) := dk_159 0 37 (dk_at dksX7_next_12 0 rfl rfl)
theorem dX7_next_281 : decode cX7_next 281 = .ok (.aload_n 0, 1) := dk_42 (dk_at dksX7_next_12 3 rfl rfl)
theorem dX7_next_282 : decode cX7_next 282 = .ok (.getfield 3, 3) := dk_180 0 3 (dk_at dksX7_next_12 4 rfl rfl)
theorem dX7_next_285 : decode cX7_next 285 = .ok (.getfield 22, 3) := dk_180 0 22 (dk_at dksX7_next_12 7 rfl rfl)
theorem dX7_next_288 : decode cX7_next 288 = .ok (.aload_n 0, 1) := dk_42 (dk_at dksX7_next_12 10 rfl rfl)
theorem dX7_next_289 : decode cX7_next 289 = .ok (.getfield 29, 3) := dk_180 0 29 (dk_at dksX7_next_12 11 rfl rfl)
theorem dX7_next_292 : decode cX7_next 292 = .ok (.baload, 1) := dk_51 (dk_at dksX7_next_12 14 rfl rfl)
theorem dX7_next_293 : decode cX7_next 293 = .ok (.bipush 62, 2) := dk_16 62 (dk_at dksX7_next_12 15 rfl rfl)
theorem dX7_next_295 : decode cX7_next 295 = .ok (.if_icmp .eq 20, 3) := dk_159 0 20 (dk_at dksX7_next_12 17 rfl rfl)
theorem dX7_next_298 : decode cX7_next 298 = .ok (.aload_n 0, 1) := dk_42 (dk_at dksX7_next_12 20 rfl rfl)
theorem dX7_next_299 : decode cX7_next 299 = .ok (.getfield 3, 3) := dk_180 0 3 (dk_at dksX7_next_12 21 rfl rfl)
theorem dX7_next_302 : decode cX7_next 302 = .ok (.getfield 22, 3) := dk_180 0 22 (dk_at dksX7_next_13 0 rfl rfl)
theorem dX7_next_305 : decode cX7_next 305 = .ok (.aload_n 0, 1) := dk_42 (dk_at dksX7_next_13 3 rfl rfl)
theorem dX7_next_306 : decode cX7_next 306 = .ok (.getfield 29, 3) := dk_180 0 29 (dk_at dksX7_next_13 4 rfl rfl)
theorem dX7_next_309 : decode cX7_next 309 = .ok (.baload, 1) := dk_51 (dk_at dksX7_next_13 7 rfl rfl)
theorem dX7_next_310 : decode cX7_next 310 = .ok (.bipush 61, 2) := dk_16 61 (dk_at dksX7_next_13 8 rfl rfl)
theorem dX7_next_312 : decode cX7_next 312 = .ok (.if_icmp .ne 7, 3) := dk_160 0 7 (dk_at dksX7_next_13 10 rfl rfl)
theorem dX7_next_315 : decode cX7_next 315 = .ok (.iconst 3, 1) := dk_6 (dk_at dksX7_next_13 13 rfl rfl)
theorem dX7_next_316 : decode cX7_next 316 = .ok (.goto 4, 3) := dk_167 0 4 (dk_at dksX7_next_13 14 rfl rfl)
theorem dX7_next_319 : decode cX7_next 319 = .ok (.iconst 4, 1) := dk_7 (dk_at dksX7_next_13 17 rfl rfl)
theorem dX7_next_320 : decode cX7_next 320 = .ok (.putfield 32, 3) := dk_181 0 32 (dk_at dksX7_next_13 18 rfl rfl)
theorem dX7_next_323 : decode cX7_next 323 = .ok (.return_, 1) := dk_177 (dk_at dksX7_next_13 21 rfl rfl)
abbrev cX7_isLetter : ByteArray := prog_12_method_2_code
def yX7_isLetter : MethodName := ⟨RX7, "isLetter", "(I)Z"⟩
def dkwX7_isLetter_1 : List UInt8 := [180, 0, 3, 180, 0, 22, 27, 51, 16, 122, 163, 0, 7, 4, 167, 0, 4, 3, 172]
abbrev dktX7_isLetter_1 : List UInt8 := dkwX7_isLetter_1 ++ []
def dkwX7_isLetter_0 : List UInt8 := [27, 42, 180, 0, 15, 162, 0, 35, 42, 180, 0, 3, 180, 0, 22, 27, 51, 16, 97, 161, 0, 21, 42]
abbrev dktX7_isLetter_0 : List UInt8 := dkwX7_isLetter_0 ++ dktX7_isLetter_1
theorem dksX7_isLetter_0 : cX7_isLetter.data.toList.drop 0 = dktX7_isLetter_0 := by decide +kernel
theorem dksX7_isLetter_1 : cX7_isLetter.data.toList.drop 23 = dktX7_isLetter_1 := dk_seg dksX7_isLetter_0 23 rfl rfl
theorem dX7_isLetter_0 : decode cX7_isLetter 0 = .ok (.iload_n 1, 1) := dk_27 (dk_at dksX7_isLetter_0 0 rfl rfl)
theorem dX7_isLetter_1 : decode cX7_isLetter 1 = .ok (.aload_n 0, 1) := dk_42 (dk_at dksX7_isLetter_0 1 rfl rfl)
theorem dX7_isLetter_2 : decode cX7_isLetter 2 = .ok (.getfield 15, 3) := dk_180 0 15 (dk_at dksX7_isLetter_0 2 rfl rfl)
theorem dX7_isLetter_5 : decode cX7_isLetter 5 = .ok (.if_icmp .ge 35, 3) := dk_162 0 35 (dk_at dksX7_isLetter_0 5 rfl rfl)
theorem dX7_isLetter_8 : decode cX7_isLetter 8 = .ok (.aload_n 0, 1) := dk_42 (dk_at dksX7_isLetter_0 8 rfl rfl)
theorem dX7_isLetter_9 : decode cX7_isLetter 9 = .ok (.getfield 3, 3) := dk_180 0 3 (dk_at dksX7_isLetter_0 9 rfl rfl)
theorem dX7_isLetter_12 : decode cX7_isLetter 12 = .ok (.getfield 22, 3) := dk_180 0 22 (dk_at dksX7_isLetter_0 12 rfl rfl)
theorem dX7_isLetter_15 : decode cX7_isLetter 15 = .ok (.iload_n 1, 1) := dk_27 (dk_at dksX7_isLetter_0 15 rfl rfl)
theorem dX7_isLetter_16 : decode cX7_isLetter 16 = .ok (.baload, 1) := dk_51 (dk_at dksX7_isLetter_0 16 rfl rfl)
theorem dX7_isLetter_17 : decode cX7_isLetter 17 = .ok (.bipush 97, 2) := dk_16 97 (dk_at dksX7_isLetter_0 17 rfl rfl)
theorem dX7_isLetter_19 : decode cX7_isLetter 19 = .ok (.if_icmp .lt 21, 3) := dk_161 0 21 (dk_at dksX7_isLetter_0 19 rfl rfl)
theorem dX7_isLetter_22 : decode cX7_isLetter 22 = .ok (.aload_n 0, 1) := dk_42 (dk_at dksX7_isLetter_0 22 rfl rfl)
theorem dX7_isLetter_23 : decode cX7_isLetter 23 = .ok (.getfield 3, 3) := dk_180 0 3 (dk_at dksX7_isLetter_1 0 rfl rfl)
theorem dX7_isLetter_26 : decode cX7_isLetter 26 = .ok (.getfield 22, 3) := dk_180 0 22 (dk_at dksX7_isLetter_1 3 rfl rfl)
theorem dX7_isLetter_29 : decode cX7_isLetter 29 = .ok (.iload_n 1, 1) := dk_27 (dk_at dksX7_isLetter_1 6 rfl rfl)
theorem dX7_isLetter_30 : decode cX7_isLetter 30 = .ok (.baload, 1) := dk_51 (dk_at dksX7_isLetter_1 7 rfl rfl)
theorem dX7_isLetter_31 : decode cX7_isLetter 31 = .ok (.bipush 122, 2) := dk_16 122 (dk_at dksX7_isLetter_1 8 rfl rfl)
theorem dX7_isLetter_33 : decode cX7_isLetter 33 = .ok (.if_icmp .gt 7, 3) := dk_163 0 7 (dk_at dksX7_isLetter_1 10 rfl rfl)
theorem dX7_isLetter_36 : decode cX7_isLetter 36 = .ok (.iconst 1, 1) := dk_4 (dk_at dksX7_isLetter_1 13 rfl rfl)
theorem dX7_isLetter_37 : decode cX7_isLetter 37 = .ok (.goto 4, 3) := dk_167 0 4 (dk_at dksX7_isLetter_1 14 rfl rfl)
theorem dX7_isLetter_40 : decode cX7_isLetter 40 = .ok (.iconst 0, 1) := dk_3 (dk_at dksX7_isLetter_1 17 rfl rfl)
theorem dX7_isLetter_41 : decode cX7_isLetter 41 = .ok (.ireturn, 1) := dk_172 (dk_at dksX7_isLetter_1 18 rfl rfl)
abbrev cX7_isDigit : ByteArray := prog_12_method_3_code
def yX7_isDigit : MethodName := ⟨RX7, "isDigit", "(I)Z"⟩
def dkwX7_isDigit_1 : List UInt8 := [180, 0, 3, 180, 0, 22, 27, 51, 16, 57, 163, 0, 7, 4, 167, 0, 4, 3, 172]
abbrev dktX7_isDigit_1 : List UInt8 := dkwX7_isDigit_1 ++ []
def dkwX7_isDigit_0 : List UInt8 := [27, 42, 180, 0, 15, 162, 0, 35, 42, 180, 0, 3, 180, 0, 22, 27, 51, 16, 48, 161, 0, 21, 42]
abbrev dktX7_isDigit_0 : List UInt8 := dkwX7_isDigit_0 ++ dktX7_isDigit_1
theorem dksX7_isDigit_0 : cX7_isDigit.data.toList.drop 0 = dktX7_isDigit_0 := by decide +kernel
theorem dksX7_isDigit_1 : cX7_isDigit.data.toList.drop 23 = dktX7_isDigit_1 := dk_seg dksX7_isDigit_0 23 rfl rfl
theorem dX7_isDigit_0 : decode cX7_isDigit 0 = .ok (.iload_n 1, 1) := dk_27 (dk_at dksX7_isDigit_0 0 rfl rfl)
theorem dX7_isDigit_1 : decode cX7_isDigit 1 = .ok (.aload_n 0, 1) := dk_42 (dk_at dksX7_isDigit_0 1 rfl rfl)
theorem dX7_isDigit_2 : decode cX7_isDigit 2 = .ok (.getfield 15, 3) := dk_180 0 15 (dk_at dksX7_isDigit_0 2 rfl rfl)
theorem dX7_isDigit_5 : decode cX7_isDigit 5 = .ok (.if_icmp .ge 35, 3) := dk_162 0 35 (dk_at dksX7_isDigit_0 5 rfl rfl)
theorem dX7_isDigit_8 : decode cX7_isDigit 8 = .ok (.aload_n 0, 1) := dk_42 (dk_at dksX7_isDigit_0 8 rfl rfl)
theorem dX7_isDigit_9 : decode cX7_isDigit 9 = .ok (.getfield 3, 3) := dk_180 0 3 (dk_at dksX7_isDigit_0 9 rfl rfl)
theorem dX7_isDigit_12 : decode cX7_isDigit 12 = .ok (.getfield 22, 3) := dk_180 0 22 (dk_at dksX7_isDigit_0 12 rfl rfl)
theorem dX7_isDigit_15 : decode cX7_isDigit 15 = .ok (.iload_n 1, 1) := dk_27 (dk_at dksX7_isDigit_0 15 rfl rfl)
theorem dX7_isDigit_16 : decode cX7_isDigit 16 = .ok (.baload, 1) := dk_51 (dk_at dksX7_isDigit_0 16 rfl rfl)
theorem dX7_isDigit_17 : decode cX7_isDigit 17 = .ok (.bipush 48, 2) := dk_16 48 (dk_at dksX7_isDigit_0 17 rfl rfl)
theorem dX7_isDigit_19 : decode cX7_isDigit 19 = .ok (.if_icmp .lt 21, 3) := dk_161 0 21 (dk_at dksX7_isDigit_0 19 rfl rfl)
theorem dX7_isDigit_22 : decode cX7_isDigit 22 = .ok (.aload_n 0, 1) := dk_42 (dk_at dksX7_isDigit_0 22 rfl rfl)
theorem dX7_isDigit_23 : decode cX7_isDigit 23 = .ok (.getfield 3, 3) := dk_180 0 3 (dk_at dksX7_isDigit_1 0 rfl rfl)
theorem dX7_isDigit_26 : decode cX7_isDigit 26 = .ok (.getfield 22, 3) := dk_180 0 22 (dk_at dksX7_isDigit_1 3 rfl rfl)
theorem dX7_isDigit_29 : decode cX7_isDigit 29 = .ok (.iload_n 1, 1) := dk_27 (dk_at dksX7_isDigit_1 6 rfl rfl)
theorem dX7_isDigit_30 : decode cX7_isDigit 30 = .ok (.baload, 1) := dk_51 (dk_at dksX7_isDigit_1 7 rfl rfl)
theorem dX7_isDigit_31 : decode cX7_isDigit 31 = .ok (.bipush 57, 2) := dk_16 57 (dk_at dksX7_isDigit_1 8 rfl rfl)
theorem dX7_isDigit_33 : decode cX7_isDigit 33 = .ok (.if_icmp .gt 7, 3) := dk_163 0 7 (dk_at dksX7_isDigit_1 10 rfl rfl)
theorem dX7_isDigit_36 : decode cX7_isDigit 36 = .ok (.iconst 1, 1) := dk_4 (dk_at dksX7_isDigit_1 13 rfl rfl)
theorem dX7_isDigit_37 : decode cX7_isDigit 37 = .ok (.goto 4, 3) := dk_167 0 4 (dk_at dksX7_isDigit_1 14 rfl rfl)
theorem dX7_isDigit_40 : decode cX7_isDigit 40 = .ok (.iconst 0, 1) := dk_3 (dk_at dksX7_isDigit_1 17 rfl rfl)
theorem dX7_isDigit_41 : decode cX7_isDigit 41 = .ok (.ireturn, 1) := dk_172 (dk_at dksX7_isDigit_1 18 rfl rfl)
abbrev cX7_world : ByteArray := prog_12_method_23_code
def yX7_world : MethodName := ⟨RX7, "world", "(LCargoFlag$World;)V"⟩
def dkwX7_world_7 : List UInt8 := [182, 0, 68, 191, 42, 182, 0, 228, 167, 255, 87, 177]
abbrev dktX7_world_7 : List UInt8 := dkwX7_world_7 ++ []
def dkwX7_world_6 : List UInt8 := [182, 0, 224, 167, 0, 25, 42, 18, 139, 182, 0, 72, 153, 0, 11, 42, 43, 182, 0, 226, 167, 0, 8, 42]
abbrev dktX7_world_6 : List UInt8 := dkwX7_world_6 ++ dktX7_world_7
def dkwX7_world_5 : List UInt8 := [153, 0, 11, 42, 43, 182, 0, 221, 167, 0, 42, 42, 18, 137, 182, 0, 72, 153, 0, 11, 42, 43]
abbrev dktX7_world_5 : List UInt8 := dkwX7_world_5 ++ dktX7_world_6
def dkwX7_world_4 : List UInt8 := [18, 128, 182, 0, 72, 153, 0, 11, 42, 43, 182, 0, 219, 167, 0, 59, 42, 18, 132, 182, 0, 72]
abbrev dktX7_world_4 : List UInt8 := dkwX7_world_4 ++ dktX7_world_5
def dkwX7_world_3 : List UInt8 := [182, 0, 214, 167, 0, 93, 42, 18, 126, 182, 0, 72, 153, 0, 11, 42, 43, 182, 0, 217, 167, 0, 76, 42]
abbrev dktX7_world_3 : List UInt8 := dkwX7_world_3 ++ dktX7_world_4
def dkwX7_world_2 : List UInt8 := [153, 0, 11, 42, 43, 182, 0, 211, 167, 0, 110, 42, 18, 124, 182, 0, 72, 153, 0, 11, 42, 43]
abbrev dktX7_world_2 : List UInt8 := dkwX7_world_2 ++ dktX7_world_3
def dkwX7_world_1 : List UInt8 := [42, 18, 114, 182, 0, 72, 153, 0, 11, 42, 43, 182, 0, 209, 167, 0, 127, 42, 18, 116, 182, 0, 72]
abbrev dktX7_world_1 : List UInt8 := dkwX7_world_1 ++ dktX7_world_2
def dkwX7_world_0 : List UInt8 := [42, 180, 0, 32, 153, 0, 168, 42, 18, 106, 182, 0, 72, 153, 0, 11, 42, 43, 182, 0, 205, 167, 0, 144]
abbrev dktX7_world_0 : List UInt8 := dkwX7_world_0 ++ dktX7_world_1
theorem dksX7_world_0 : cX7_world.data.toList.drop 0 = dktX7_world_0 := by decide +kernel
theorem dksX7_world_1 : cX7_world.data.toList.drop 24 = dktX7_world_1 := dk_seg dksX7_world_0 24 rfl rfl
theorem dksX7_world_2 : cX7_world.data.toList.drop 47 = dktX7_world_2 := dk_seg dksX7_world_1 23 rfl rfl
theorem dksX7_world_3 : cX7_world.data.toList.drop 69 = dktX7_world_3 := dk_seg dksX7_world_2 22 rfl rfl
theorem dksX7_world_4 : cX7_world.data.toList.drop 93 = dktX7_world_4 := dk_seg dksX7_world_3 24 rfl rfl
theorem dksX7_world_5 : cX7_world.data.toList.drop 115 = dktX7_world_5 := dk_seg dksX7_world_4 22 rfl rfl
theorem dksX7_world_6 : cX7_world.data.toList.drop 137 = dktX7_world_6 := dk_seg dksX7_world_5 22 rfl rfl
theorem dksX7_world_7 : cX7_world.data.toList.drop 161 = dktX7_world_7 := dk_seg dksX7_world_6 24 rfl rfl
theorem dX7_world_0 : decode cX7_world 0 = .ok (.aload_n 0, 1) := dk_42 (dk_at dksX7_world_0 0 rfl rfl)
theorem dX7_world_1 : decode cX7_world 1 = .ok (.getfield 32, 3) := dk_180 0 32 (dk_at dksX7_world_0 1 rfl rfl)
theorem dX7_world_4 : decode cX7_world 4 = .ok (.ifCond .eq 168, 3) := dk_153 0 168 (dk_at dksX7_world_0 4 rfl rfl)
theorem dX7_world_7 : decode cX7_world 7 = .ok (.aload_n 0, 1) := dk_42 (dk_at dksX7_world_0 7 rfl rfl)
theorem dX7_world_8 : decode cX7_world 8 = .ok (.ldc 106, 2) := dk_18 106 (dk_at dksX7_world_0 8 rfl rfl)
theorem dX7_world_10 : decode cX7_world 10 = .ok (.invokevirtual 72, 3) := dk_182 0 72 (dk_at dksX7_world_0 10 rfl rfl)
theorem dX7_world_13 : decode cX7_world 13 = .ok (.ifCond .eq 11, 3) := dk_153 0 11 (dk_at dksX7_world_0 13 rfl rfl)
theorem dX7_world_16 : decode cX7_world 16 = .ok (.aload_n 0, 1) := dk_42 (dk_at dksX7_world_0 16 rfl rfl)
theorem dX7_world_17 : decode cX7_world 17 = .ok (.aload_n 1, 1) := dk_43 (dk_at dksX7_world_0 17 rfl rfl)
theorem dX7_world_18 : decode cX7_world 18 = .ok (.invokevirtual 205, 3) := dk_182 0 205 (dk_at dksX7_world_0 18 rfl rfl)
theorem dX7_world_21 : decode cX7_world 21 = .ok (.goto 144, 3) := dk_167 0 144 (dk_at dksX7_world_0 21 rfl rfl)
theorem dX7_world_24 : decode cX7_world 24 = .ok (.aload_n 0, 1) := dk_42 (dk_at dksX7_world_1 0 rfl rfl)
theorem dX7_world_25 : decode cX7_world 25 = .ok (.ldc 114, 2) := dk_18 114 (dk_at dksX7_world_1 1 rfl rfl)
theorem dX7_world_27 : decode cX7_world 27 = .ok (.invokevirtual 72, 3) := dk_182 0 72 (dk_at dksX7_world_1 3 rfl rfl)
theorem dX7_world_30 : decode cX7_world 30 = .ok (.ifCond .eq 11, 3) := dk_153 0 11 (dk_at dksX7_world_1 6 rfl rfl)
theorem dX7_world_33 : decode cX7_world 33 = .ok (.aload_n 0, 1) := dk_42 (dk_at dksX7_world_1 9 rfl rfl)
theorem dX7_world_34 : decode cX7_world 34 = .ok (.aload_n 1, 1) := dk_43 (dk_at dksX7_world_1 10 rfl rfl)
theorem dX7_world_35 : decode cX7_world 35 = .ok (.invokevirtual 209, 3) := dk_182 0 209 (dk_at dksX7_world_1 11 rfl rfl)
theorem dX7_world_38 : decode cX7_world 38 = .ok (.goto 127, 3) := dk_167 0 127 (dk_at dksX7_world_1 14 rfl rfl)
theorem dX7_world_41 : decode cX7_world 41 = .ok (.aload_n 0, 1) := dk_42 (dk_at dksX7_world_1 17 rfl rfl)
theorem dX7_world_42 : decode cX7_world 42 = .ok (.ldc 116, 2) := dk_18 116 (dk_at dksX7_world_1 18 rfl rfl)
theorem dX7_world_44 : decode cX7_world 44 = .ok (.invokevirtual 72, 3) := dk_182 0 72 (dk_at dksX7_world_1 20 rfl rfl)
theorem dX7_world_47 : decode cX7_world 47 = .ok (.ifCond .eq 11, 3) := dk_153 0 11 (dk_at dksX7_world_2 0 rfl rfl)
theorem dX7_world_50 : decode cX7_world 50 = .ok (.aload_n 0, 1) := dk_42 (dk_at dksX7_world_2 3 rfl rfl)
theorem dX7_world_51 : decode cX7_world 51 = .ok (.aload_n 1, 1) := dk_43 (dk_at dksX7_world_2 4 rfl rfl)
theorem dX7_world_52 : decode cX7_world 52 = .ok (.invokevirtual 211, 3) := dk_182 0 211 (dk_at dksX7_world_2 5 rfl rfl)
theorem dX7_world_55 : decode cX7_world 55 = .ok (.goto 110, 3) := dk_167 0 110 (dk_at dksX7_world_2 8 rfl rfl)
theorem dX7_world_58 : decode cX7_world 58 = .ok (.aload_n 0, 1) := dk_42 (dk_at dksX7_world_2 11 rfl rfl)
theorem dX7_world_59 : decode cX7_world 59 = .ok (.ldc 124, 2) := dk_18 124 (dk_at dksX7_world_2 12 rfl rfl)
theorem dX7_world_61 : decode cX7_world 61 = .ok (.invokevirtual 72, 3) := dk_182 0 72 (dk_at dksX7_world_2 14 rfl rfl)
theorem dX7_world_64 : decode cX7_world 64 = .ok (.ifCond .eq 11, 3) := dk_153 0 11 (dk_at dksX7_world_2 17 rfl rfl)
theorem dX7_world_67 : decode cX7_world 67 = .ok (.aload_n 0, 1) := dk_42 (dk_at dksX7_world_2 20 rfl rfl)
theorem dX7_world_68 : decode cX7_world 68 = .ok (.aload_n 1, 1) := dk_43 (dk_at dksX7_world_2 21 rfl rfl)
theorem dX7_world_69 : decode cX7_world 69 = .ok (.invokevirtual 214, 3) := dk_182 0 214 (dk_at dksX7_world_3 0 rfl rfl)
theorem dX7_world_72 : decode cX7_world 72 = .ok (.goto 93, 3) := dk_167 0 93 (dk_at dksX7_world_3 3 rfl rfl)
theorem dX7_world_75 : decode cX7_world 75 = .ok (.aload_n 0, 1) := dk_42 (dk_at dksX7_world_3 6 rfl rfl)
theorem dX7_world_76 : decode cX7_world 76 = .ok (.ldc 126, 2) := dk_18 126 (dk_at dksX7_world_3 7 rfl rfl)
theorem dX7_world_78 : decode cX7_world 78 = .ok (.invokevirtual 72, 3) := dk_182 0 72 (dk_at dksX7_world_3 9 rfl rfl)
theorem dX7_world_81 : decode cX7_world 81 = .ok (.ifCond .eq 11, 3) := dk_153 0 11 (dk_at dksX7_world_3 12 rfl rfl)
theorem dX7_world_84 : decode cX7_world 84 = .ok (.aload_n 0, 1) := dk_42 (dk_at dksX7_world_3 15 rfl rfl)
theorem dX7_world_85 : decode cX7_world 85 = .ok (.aload_n 1, 1) := dk_43 (dk_at dksX7_world_3 16 rfl rfl)
theorem dX7_world_86 : decode cX7_world 86 = .ok (.invokevirtual 217, 3) := dk_182 0 217 (dk_at dksX7_world_3 17 rfl rfl)
theorem dX7_world_89 : decode cX7_world 89 = .ok (.goto 76, 3) := dk_167 0 76 (dk_at dksX7_world_3 20 rfl rfl)
theorem dX7_world_92 : decode cX7_world 92 = .ok (.aload_n 0, 1) := dk_42 (dk_at dksX7_world_3 23 rfl rfl)
theorem dX7_world_93 : decode cX7_world 93 = .ok (.ldc 128, 2) := dk_18 128 (dk_at dksX7_world_4 0 rfl rfl)
theorem dX7_world_95 : decode cX7_world 95 = .ok (.invokevirtual 72, 3) := dk_182 0 72 (dk_at dksX7_world_4 2 rfl rfl)
theorem dX7_world_98 : decode cX7_world 98 = .ok (.ifCond .eq 11, 3) := dk_153 0 11 (dk_at dksX7_world_4 5 rfl rfl)
theorem dX7_world_101 : decode cX7_world 101 = .ok (.aload_n 0, 1) := dk_42 (dk_at dksX7_world_4 8 rfl rfl)
theorem dX7_world_102 : decode cX7_world 102 = .ok (.aload_n 1, 1) := dk_43 (dk_at dksX7_world_4 9 rfl rfl)
theorem dX7_world_103 : decode cX7_world 103 = .ok (.invokevirtual 219, 3) := dk_182 0 219 (dk_at dksX7_world_4 10 rfl rfl)
theorem dX7_world_106 : decode cX7_world 106 = .ok (.goto 59, 3) := dk_167 0 59 (dk_at dksX7_world_4 13 rfl rfl)
theorem dX7_world_109 : decode cX7_world 109 = .ok (.aload_n 0, 1) := dk_42 (dk_at dksX7_world_4 16 rfl rfl)
theorem dX7_world_110 : decode cX7_world 110 = .ok (.ldc 132, 2) := dk_18 132 (dk_at dksX7_world_4 17 rfl rfl)
theorem dX7_world_112 : decode cX7_world 112 = .ok (.invokevirtual 72, 3) := dk_182 0 72 (dk_at dksX7_world_4 19 rfl rfl)
theorem dX7_world_115 : decode cX7_world 115 = .ok (.ifCond .eq 11, 3) := dk_153 0 11 (dk_at dksX7_world_5 0 rfl rfl)
theorem dX7_world_118 : decode cX7_world 118 = .ok (.aload_n 0, 1) := dk_42 (dk_at dksX7_world_5 3 rfl rfl)
theorem dX7_world_119 : decode cX7_world 119 = .ok (.aload_n 1, 1) := dk_43 (dk_at dksX7_world_5 4 rfl rfl)
theorem dX7_world_120 : decode cX7_world 120 = .ok (.invokevirtual 221, 3) := dk_182 0 221 (dk_at dksX7_world_5 5 rfl rfl)
theorem dX7_world_123 : decode cX7_world 123 = .ok (.goto 42, 3) := dk_167 0 42 (dk_at dksX7_world_5 8 rfl rfl)
theorem dX7_world_126 : decode cX7_world 126 = .ok (.aload_n 0, 1) := dk_42 (dk_at dksX7_world_5 11 rfl rfl)
theorem dX7_world_127 : decode cX7_world 127 = .ok (.ldc 137, 2) := dk_18 137 (dk_at dksX7_world_5 12 rfl rfl)
theorem dX7_world_129 : decode cX7_world 129 = .ok (.invokevirtual 72, 3) := dk_182 0 72 (dk_at dksX7_world_5 14 rfl rfl)
theorem dX7_world_132 : decode cX7_world 132 = .ok (.ifCond .eq 11, 3) := dk_153 0 11 (dk_at dksX7_world_5 17 rfl rfl)
theorem dX7_world_135 : decode cX7_world 135 = .ok (.aload_n 0, 1) := dk_42 (dk_at dksX7_world_5 20 rfl rfl)
theorem dX7_world_136 : decode cX7_world 136 = .ok (.aload_n 1, 1) := dk_43 (dk_at dksX7_world_5 21 rfl rfl)
theorem dX7_world_137 : decode cX7_world 137 = .ok (.invokevirtual 224, 3) := dk_182 0 224 (dk_at dksX7_world_6 0 rfl rfl)
theorem dX7_world_140 : decode cX7_world 140 = .ok (.goto 25, 3) := dk_167 0 25 (dk_at dksX7_world_6 3 rfl rfl)
theorem dX7_world_143 : decode cX7_world 143 = .ok (.aload_n 0, 1) := dk_42 (dk_at dksX7_world_6 6 rfl rfl)
theorem dX7_world_144 : decode cX7_world 144 = .ok (.ldc 139, 2) := dk_18 139 (dk_at dksX7_world_6 7 rfl rfl)
theorem dX7_world_146 : decode cX7_world 146 = .ok (.invokevirtual 72, 3) := dk_182 0 72 (dk_at dksX7_world_6 9 rfl rfl)
theorem dX7_world_149 : decode cX7_world 149 = .ok (.ifCond .eq 11, 3) := dk_153 0 11 (dk_at dksX7_world_6 12 rfl rfl)
theorem dX7_world_152 : decode cX7_world 152 = .ok (.aload_n 0, 1) := dk_42 (dk_at dksX7_world_6 15 rfl rfl)
theorem dX7_world_153 : decode cX7_world 153 = .ok (.aload_n 1, 1) := dk_43 (dk_at dksX7_world_6 16 rfl rfl)
theorem dX7_world_154 : decode cX7_world 154 = .ok (.invokevirtual 226, 3) := dk_182 0 226 (dk_at dksX7_world_6 17 rfl rfl)
theorem dX7_world_157 : decode cX7_world 157 = .ok (.goto 8, 3) := dk_167 0 8 (dk_at dksX7_world_6 20 rfl rfl)
theorem dX7_world_160 : decode cX7_world 160 = .ok (.aload_n 0, 1) := dk_42 (dk_at dksX7_world_6 23 rfl rfl)
theorem dX7_world_161 : decode cX7_world 161 = .ok (.invokevirtual 68, 3) := dk_182 0 68 (dk_at dksX7_world_7 0 rfl rfl)
theorem dX7_world_164 : decode cX7_world 164 = .ok (.athrow, 1) := dk_191 (dk_at dksX7_world_7 3 rfl rfl)
theorem dX7_world_165 : decode cX7_world 165 = .ok (.aload_n 0, 1) := dk_42 (dk_at dksX7_world_7 4 rfl rfl)
theorem dX7_world_166 : decode cX7_world 166 = .ok (.invokevirtual 228, 3) := dk_182 0 228 (dk_at dksX7_world_7 5 rfl rfl)
theorem dX7_world_169 : decode cX7_world 169 = .ok (.goto (-169), 3) := dk_167 255 87 (dk_at dksX7_world_7 8 rfl rfl)
theorem dX7_world_172 : decode cX7_world 172 = .ok (.return_, 1) := dk_177 (dk_at dksX7_world_7 11 rfl rfl)
abbrev cX7_isWord : ByteArray := prog_12_method_5_code
def yX7_isWord : MethodName := ⟨RX7, "isWord", "(Ljava/lang/String;)Z"⟩
def dkwX7_isWord_2 : List UInt8 := [96, 51, 43, 28, 182, 0, 51, 159, 0, 5, 3, 172, 132, 2, 1, 167, 255, 221, 4, 172]
abbrev dktX7_isWord_2 : List UInt8 := dkwX7_isWord_2 ++ []
def dkwX7_isWord_1 : List UInt8 := [3, 172, 3, 61, 28, 43, 182, 0, 45, 162, 0, 33, 42, 180, 0, 3, 180, 0, 22, 42, 180, 0, 29, 28]
abbrev dktX7_isWord_1 : List UInt8 := dkwX7_isWord_1 ++ dktX7_isWord_2
def dkwX7_isWord_0 : List UInt8 := [42, 180, 0, 32, 4, 160, 0, 19, 42, 180, 0, 26, 42, 180, 0, 29, 100, 43, 182, 0, 45, 159, 0, 5]
abbrev dktX7_isWord_0 : List UInt8 := dkwX7_isWord_0 ++ dktX7_isWord_1
theorem dksX7_isWord_0 : cX7_isWord.data.toList.drop 0 = dktX7_isWord_0 := by decide +kernel
theorem dksX7_isWord_1 : cX7_isWord.data.toList.drop 24 = dktX7_isWord_1 := dk_seg dksX7_isWord_0 24 rfl rfl
theorem dksX7_isWord_2 : cX7_isWord.data.toList.drop 48 = dktX7_isWord_2 := dk_seg dksX7_isWord_1 24 rfl rfl
theorem dX7_isWord_0 : decode cX7_isWord 0 = .ok (.aload_n 0, 1) := dk_42 (dk_at dksX7_isWord_0 0 rfl rfl)
theorem dX7_isWord_1 : decode cX7_isWord 1 = .ok (.getfield 32, 3) := dk_180 0 32 (dk_at dksX7_isWord_0 1 rfl rfl)
theorem dX7_isWord_4 : decode cX7_isWord 4 = .ok (.iconst 1, 1) := dk_4 (dk_at dksX7_isWord_0 4 rfl rfl)
theorem dX7_isWord_5 : decode cX7_isWord 5 = .ok (.if_icmp .ne 19, 3) := dk_160 0 19 (dk_at dksX7_isWord_0 5 rfl rfl)
theorem dX7_isWord_8 : decode cX7_isWord 8 = .ok (.aload_n 0, 1) := dk_42 (dk_at dksX7_isWord_0 8 rfl rfl)
theorem dX7_isWord_9 : decode cX7_isWord 9 = .ok (.getfield 26, 3) := dk_180 0 26 (dk_at dksX7_isWord_0 9 rfl rfl)
theorem dX7_isWord_12 : decode cX7_isWord 12 = .ok (.aload_n 0, 1) := dk_42 (dk_at dksX7_isWord_0 12 rfl rfl)
theorem dX7_isWord_13 : decode cX7_isWord 13 = .ok (.getfield 29, 3) := dk_180 0 29 (dk_at dksX7_isWord_0 13 rfl rfl)
theorem dX7_isWord_16 : decode cX7_isWord 16 = .ok (.isub, 1) := dk_100 (dk_at dksX7_isWord_0 16 rfl rfl)
theorem dX7_isWord_17 : decode cX7_isWord 17 = .ok (.aload_n 1, 1) := dk_43 (dk_at dksX7_isWord_0 17 rfl rfl)
theorem dX7_isWord_18 : decode cX7_isWord 18 = .ok (.invokevirtual 45, 3) := dk_182 0 45 (dk_at dksX7_isWord_0 18 rfl rfl)
theorem dX7_isWord_21 : decode cX7_isWord 21 = .ok (.if_icmp .eq 5, 3) := dk_159 0 5 (dk_at dksX7_isWord_0 21 rfl rfl)
theorem dX7_isWord_24 : decode cX7_isWord 24 = .ok (.iconst 0, 1) := dk_3 (dk_at dksX7_isWord_1 0 rfl rfl)
theorem dX7_isWord_25 : decode cX7_isWord 25 = .ok (.ireturn, 1) := dk_172 (dk_at dksX7_isWord_1 1 rfl rfl)
theorem dX7_isWord_26 : decode cX7_isWord 26 = .ok (.iconst 0, 1) := dk_3 (dk_at dksX7_isWord_1 2 rfl rfl)
theorem dX7_isWord_27 : decode cX7_isWord 27 = .ok (.istore_n 2, 1) := dk_61 (dk_at dksX7_isWord_1 3 rfl rfl)
theorem dX7_isWord_28 : decode cX7_isWord 28 = .ok (.iload_n 2, 1) := dk_28 (dk_at dksX7_isWord_1 4 rfl rfl)
theorem dX7_isWord_29 : decode cX7_isWord 29 = .ok (.aload_n 1, 1) := dk_43 (dk_at dksX7_isWord_1 5 rfl rfl)
theorem dX7_isWord_30 : decode cX7_isWord 30 = .ok (.invokevirtual 45, 3) := dk_182 0 45 (dk_at dksX7_isWord_1 6 rfl rfl)
theorem dX7_isWord_33 : decode cX7_isWord 33 = .ok (.if_icmp .ge 33, 3) := dk_162 0 33 (dk_at dksX7_isWord_1 9 rfl rfl)
theorem dX7_isWord_36 : decode cX7_isWord 36 = .ok (.aload_n 0, 1) := dk_42 (dk_at dksX7_isWord_1 12 rfl rfl)
theorem dX7_isWord_37 : decode cX7_isWord 37 = .ok (.getfield 3, 3) := dk_180 0 3 (dk_at dksX7_isWord_1 13 rfl rfl)
theorem dX7_isWord_40 : decode cX7_isWord 40 = .ok (.getfield 22, 3) := dk_180 0 22 (dk_at dksX7_isWord_1 16 rfl rfl)
theorem dX7_isWord_43 : decode cX7_isWord 43 = .ok (.aload_n 0, 1) := dk_42 (dk_at dksX7_isWord_1 19 rfl rfl)
theorem dX7_isWord_44 : decode cX7_isWord 44 = .ok (.getfield 29, 3) := dk_180 0 29 (dk_at dksX7_isWord_1 20 rfl rfl)
theorem dX7_isWord_47 : decode cX7_isWord 47 = .ok (.iload_n 2, 1) := dk_28 (dk_at dksX7_isWord_1 23 rfl rfl)
theorem dX7_isWord_48 : decode cX7_isWord 48 = .ok (.iadd, 1) := dk_96 (dk_at dksX7_isWord_2 0 rfl rfl)
theorem dX7_isWord_49 : decode cX7_isWord 49 = .ok (.baload, 1) := dk_51 (dk_at dksX7_isWord_2 1 rfl rfl)
theorem dX7_isWord_50 : decode cX7_isWord 50 = .ok (.aload_n 1, 1) := dk_43 (dk_at dksX7_isWord_2 2 rfl rfl)
theorem dX7_isWord_51 : decode cX7_isWord 51 = .ok (.iload_n 2, 1) := dk_28 (dk_at dksX7_isWord_2 3 rfl rfl)
theorem dX7_isWord_52 : decode cX7_isWord 52 = .ok (.invokevirtual 51, 3) := dk_182 0 51 (dk_at dksX7_isWord_2 4 rfl rfl)
theorem dX7_isWord_55 : decode cX7_isWord 55 = .ok (.if_icmp .eq 5, 3) := dk_159 0 5 (dk_at dksX7_isWord_2 7 rfl rfl)
theorem dX7_isWord_58 : decode cX7_isWord 58 = .ok (.iconst 0, 1) := dk_3 (dk_at dksX7_isWord_2 10 rfl rfl)
theorem dX7_isWord_59 : decode cX7_isWord 59 = .ok (.ireturn, 1) := dk_172 (dk_at dksX7_isWord_2 11 rfl rfl)
theorem dX7_isWord_60 : decode cX7_isWord 60 = .ok (.iinc 2 1, 3) := dk_132 2 1 (dk_at dksX7_isWord_2 12 rfl rfl)
theorem dX7_isWord_63 : decode cX7_isWord 63 = .ok (.goto (-35), 3) := dk_167 255 221 (dk_at dksX7_isWord_2 15 rfl rfl)
theorem dX7_isWord_66 : decode cX7_isWord 66 = .ok (.iconst 1, 1) := dk_4 (dk_at dksX7_isWord_2 18 rfl rfl)
theorem dX7_isWord_67 : decode cX7_isWord 67 = .ok (.ireturn, 1) := dk_172 (dk_at dksX7_isWord_2 19 rfl rfl)
abbrev cX7_newNation : ByteArray := prog_12_method_24_code
def yX7_newNation : MethodName := ⟨RX7, "newNation", "(LCargoFlag$World;)V"⟩
def dkwX7_newNation_3 : List UInt8 := [43, 180, 0, 177, 43, 180, 0, 180, 44, 83, 43, 89, 180, 0, 180, 4, 96, 181, 0, 180, 177]
abbrev dktX7_newNation_3 : List UInt8 := dkwX7_newNation_3 ++ []
def dkwX7_newNation_2 : List UInt8 := [16, 9, 3, 182, 0, 240, 181, 0, 246, 44, 42, 18, 112, 3, 17, 0, 255, 3, 182, 0, 240, 181, 0, 248]
abbrev dktX7_newNation_2 : List UInt8 := dkwX7_newNation_2 ++ dktX7_newNation_3
def dkwX7_newNation_1 : List UInt8 := [183, 0, 237, 77, 44, 42, 18, 108, 3, 16, 20, 4, 182, 0, 240, 181, 0, 244, 44, 42, 18, 110, 3]
abbrev dktX7_newNation_1 : List UInt8 := dkwX7_newNation_1 ++ dktX7_newNation_2
def dkwX7_newNation_0 : List UInt8 := [187, 0, 231, 89, 42, 43, 43, 180, 0, 180, 16, 6, 162, 0, 7, 4, 167, 0, 4, 3, 182, 0, 233]
abbrev dktX7_newNation_0 : List UInt8 := dkwX7_newNation_0 ++ dktX7_newNation_1
theorem dksX7_newNation_0 : cX7_newNation.data.toList.drop 0 = dktX7_newNation_0 := by decide +kernel
theorem dksX7_newNation_1 : cX7_newNation.data.toList.drop 23 = dktX7_newNation_1 := dk_seg dksX7_newNation_0 23 rfl rfl
theorem dksX7_newNation_2 : cX7_newNation.data.toList.drop 46 = dktX7_newNation_2 := dk_seg dksX7_newNation_1 23 rfl rfl
theorem dksX7_newNation_3 : cX7_newNation.data.toList.drop 70 = dktX7_newNation_3 := dk_seg dksX7_newNation_2 24 rfl rfl
theorem dX7_newNation_0 : decode cX7_newNation 0 = .ok (.new 231, 3) := dk_187 0 231 (dk_at dksX7_newNation_0 0 rfl rfl)
theorem dX7_newNation_3 : decode cX7_newNation 3 = .ok (.dup, 1) := dk_89 (dk_at dksX7_newNation_0 3 rfl rfl)
theorem dX7_newNation_4 : decode cX7_newNation 4 = .ok (.aload_n 0, 1) := dk_42 (dk_at dksX7_newNation_0 4 rfl rfl)
theorem dX7_newNation_5 : decode cX7_newNation 5 = .ok (.aload_n 1, 1) := dk_43 (dk_at dksX7_newNation_0 5 rfl rfl)
theorem dX7_newNation_6 : decode cX7_newNation 6 = .ok (.aload_n 1, 1) := dk_43 (dk_at dksX7_newNation_0 6 rfl rfl)
theorem dX7_newNation_7 : decode cX7_newNation 7 = .ok (.getfield 180, 3) := dk_180 0 180 (dk_at dksX7_newNation_0 7 rfl rfl)
theorem dX7_newNation_10 : decode cX7_newNation 10 = .ok (.bipush 6, 2) := dk_16 6 (dk_at dksX7_newNation_0 10 rfl rfl)
theorem dX7_newNation_12 : decode cX7_newNation 12 = .ok (.if_icmp .ge 7, 3) := dk_162 0 7 (dk_at dksX7_newNation_0 12 rfl rfl)
theorem dX7_newNation_15 : decode cX7_newNation 15 = .ok (.iconst 1, 1) := dk_4 (dk_at dksX7_newNation_0 15 rfl rfl)
theorem dX7_newNation_16 : decode cX7_newNation 16 = .ok (.goto 4, 3) := dk_167 0 4 (dk_at dksX7_newNation_0 16 rfl rfl)
theorem dX7_newNation_19 : decode cX7_newNation 19 = .ok (.iconst 0, 1) := dk_3 (dk_at dksX7_newNation_0 19 rfl rfl)
theorem dX7_newNation_20 : decode cX7_newNation 20 = .ok (.invokevirtual 233, 3) := dk_182 0 233 (dk_at dksX7_newNation_0 20 rfl rfl)
theorem dX7_newNation_23 : decode cX7_newNation 23 = .ok (.invokespecial 237, 3) := dk_183 0 237 (dk_at dksX7_newNation_1 0 rfl rfl)
theorem dX7_newNation_26 : decode cX7_newNation 26 = .ok (.astore_n 2, 1) := dk_77 (dk_at dksX7_newNation_1 3 rfl rfl)
theorem dX7_newNation_27 : decode cX7_newNation 27 = .ok (.aload_n 2, 1) := dk_44 (dk_at dksX7_newNation_1 4 rfl rfl)
theorem dX7_newNation_28 : decode cX7_newNation 28 = .ok (.aload_n 0, 1) := dk_42 (dk_at dksX7_newNation_1 5 rfl rfl)
theorem dX7_newNation_29 : decode cX7_newNation 29 = .ok (.ldc 108, 2) := dk_18 108 (dk_at dksX7_newNation_1 6 rfl rfl)
theorem dX7_newNation_31 : decode cX7_newNation 31 = .ok (.iconst 0, 1) := dk_3 (dk_at dksX7_newNation_1 8 rfl rfl)
theorem dX7_newNation_32 : decode cX7_newNation 32 = .ok (.bipush 20, 2) := dk_16 20 (dk_at dksX7_newNation_1 9 rfl rfl)
theorem dX7_newNation_34 : decode cX7_newNation 34 = .ok (.iconst 1, 1) := dk_4 (dk_at dksX7_newNation_1 11 rfl rfl)
theorem dX7_newNation_35 : decode cX7_newNation 35 = .ok (.invokevirtual 240, 3) := dk_182 0 240 (dk_at dksX7_newNation_1 12 rfl rfl)
theorem dX7_newNation_38 : decode cX7_newNation 38 = .ok (.putfield 244, 3) := dk_181 0 244 (dk_at dksX7_newNation_1 15 rfl rfl)
theorem dX7_newNation_41 : decode cX7_newNation 41 = .ok (.aload_n 2, 1) := dk_44 (dk_at dksX7_newNation_1 18 rfl rfl)
theorem dX7_newNation_42 : decode cX7_newNation 42 = .ok (.aload_n 0, 1) := dk_42 (dk_at dksX7_newNation_1 19 rfl rfl)
theorem dX7_newNation_43 : decode cX7_newNation 43 = .ok (.ldc 110, 2) := dk_18 110 (dk_at dksX7_newNation_1 20 rfl rfl)
theorem dX7_newNation_45 : decode cX7_newNation 45 = .ok (.iconst 0, 1) := dk_3 (dk_at dksX7_newNation_1 22 rfl rfl)
theorem dX7_newNation_46 : decode cX7_newNation 46 = .ok (.bipush 9, 2) := dk_16 9 (dk_at dksX7_newNation_2 0 rfl rfl)
theorem dX7_newNation_48 : decode cX7_newNation 48 = .ok (.iconst 0, 1) := dk_3 (dk_at dksX7_newNation_2 2 rfl rfl)
theorem dX7_newNation_49 : decode cX7_newNation 49 = .ok (.invokevirtual 240, 3) := dk_182 0 240 (dk_at dksX7_newNation_2 3 rfl rfl)
theorem dX7_newNation_52 : decode cX7_newNation 52 = .ok (.putfield 246, 3) := dk_181 0 246 (dk_at dksX7_newNation_2 6 rfl rfl)
theorem dX7_newNation_55 : decode cX7_newNation 55 = .ok (.aload_n 2, 1) := dk_44 (dk_at dksX7_newNation_2 9 rfl rfl)
theorem dX7_newNation_56 : decode cX7_newNation 56 = .ok (.aload_n 0, 1) := dk_42 (dk_at dksX7_newNation_2 10 rfl rfl)
theorem dX7_newNation_57 : decode cX7_newNation 57 = .ok (.ldc 112, 2) := dk_18 112 (dk_at dksX7_newNation_2 11 rfl rfl)
theorem dX7_newNation_59 : decode cX7_newNation 59 = .ok (.iconst 0, 1) := dk_3 (dk_at dksX7_newNation_2 13 rfl rfl)
theorem dX7_newNation_60 : decode cX7_newNation 60 = .ok (.sipush 255, 3) := dk_17 0 255 (dk_at dksX7_newNation_2 14 rfl rfl)
theorem dX7_newNation_63 : decode cX7_newNation 63 = .ok (.iconst 0, 1) := dk_3 (dk_at dksX7_newNation_2 17 rfl rfl)
theorem dX7_newNation_64 : decode cX7_newNation 64 = .ok (.invokevirtual 240, 3) := dk_182 0 240 (dk_at dksX7_newNation_2 18 rfl rfl)
theorem dX7_newNation_67 : decode cX7_newNation 67 = .ok (.putfield 248, 3) := dk_181 0 248 (dk_at dksX7_newNation_2 21 rfl rfl)
theorem dX7_newNation_70 : decode cX7_newNation 70 = .ok (.aload_n 1, 1) := dk_43 (dk_at dksX7_newNation_3 0 rfl rfl)
theorem dX7_newNation_71 : decode cX7_newNation 71 = .ok (.getfield 177, 3) := dk_180 0 177 (dk_at dksX7_newNation_3 1 rfl rfl)
theorem dX7_newNation_74 : decode cX7_newNation 74 = .ok (.aload_n 1, 1) := dk_43 (dk_at dksX7_newNation_3 4 rfl rfl)
theorem dX7_newNation_75 : decode cX7_newNation 75 = .ok (.getfield 180, 3) := dk_180 0 180 (dk_at dksX7_newNation_3 5 rfl rfl)
theorem dX7_newNation_78 : decode cX7_newNation 78 = .ok (.aload_n 2, 1) := dk_44 (dk_at dksX7_newNation_3 8 rfl rfl)
theorem dX7_newNation_79 : decode cX7_newNation 79 = .ok (.aastore, 1) := dk_83 (dk_at dksX7_newNation_3 9 rfl rfl)
theorem dX7_newNation_80 : decode cX7_newNation 80 = .ok (.aload_n 1, 1) := dk_43 (dk_at dksX7_newNation_3 10 rfl rfl)
theorem dX7_newNation_81 : decode cX7_newNation 81 = .ok (.dup, 1) := dk_89 (dk_at dksX7_newNation_3 11 rfl rfl)
theorem dX7_newNation_82 : decode cX7_newNation 82 = .ok (.getfield 180, 3) := dk_180 0 180 (dk_at dksX7_newNation_3 12 rfl rfl)
theorem dX7_newNation_85 : decode cX7_newNation 85 = .ok (.iconst 1, 1) := dk_4 (dk_at dksX7_newNation_3 15 rfl rfl)
theorem dX7_newNation_86 : decode cX7_newNation 86 = .ok (.iadd, 1) := dk_96 (dk_at dksX7_newNation_3 16 rfl rfl)
theorem dX7_newNation_87 : decode cX7_newNation 87 = .ok (.putfield 180, 3) := dk_181 0 180 (dk_at dksX7_newNation_3 17 rfl rfl)
theorem dX7_newNation_90 : decode cX7_newNation 90 = .ok (.return_, 1) := dk_177 (dk_at dksX7_newNation_3 20 rfl rfl)
abbrev cX7_fresh : ByteArray := prog_12_method_17_code
def yX7_fresh : MethodName := ⟨RX7, "fresh", "(LCargoFlag$World;Z)J"⟩
def dkwX7_fresh_2 : List UInt8 := [42, 180, 0, 29, 182, 0, 59, 191, 42, 182, 0, 19, 33, 173]
abbrev dktX7_fresh_2 : List UInt8 := dkwX7_fresh_2 ++ []
def dkwX7_fresh_1 : List UInt8 := [182, 0, 19, 42, 182, 0, 161, 66, 43, 33, 182, 0, 165, 153, 0, 19, 42, 180, 0, 3, 180, 0, 55, 6]
abbrev dktX7_fresh_1 : List UInt8 := dkwX7_fresh_1 ++ dktX7_fresh_2
def dkwX7_fresh_0 : List UInt8 := [28, 154, 0, 20, 42, 180, 0, 3, 180, 0, 55, 16, 6, 42, 180, 0, 29, 182, 0, 59, 191, 42]
abbrev dktX7_fresh_0 : List UInt8 := dkwX7_fresh_0 ++ dktX7_fresh_1
theorem dksX7_fresh_0 : cX7_fresh.data.toList.drop 0 = dktX7_fresh_0 := by decide +kernel
theorem dksX7_fresh_1 : cX7_fresh.data.toList.drop 22 = dktX7_fresh_1 := dk_seg dksX7_fresh_0 22 rfl rfl
theorem dksX7_fresh_2 : cX7_fresh.data.toList.drop 46 = dktX7_fresh_2 := dk_seg dksX7_fresh_1 24 rfl rfl
theorem dX7_fresh_0 : decode cX7_fresh 0 = .ok (.iload_n 2, 1) := dk_28 (dk_at dksX7_fresh_0 0 rfl rfl)
theorem dX7_fresh_1 : decode cX7_fresh 1 = .ok (.ifCond .ne 20, 3) := dk_154 0 20 (dk_at dksX7_fresh_0 1 rfl rfl)
theorem dX7_fresh_4 : decode cX7_fresh 4 = .ok (.aload_n 0, 1) := dk_42 (dk_at dksX7_fresh_0 4 rfl rfl)
theorem dX7_fresh_5 : decode cX7_fresh 5 = .ok (.getfield 3, 3) := dk_180 0 3 (dk_at dksX7_fresh_0 5 rfl rfl)
theorem dX7_fresh_8 : decode cX7_fresh 8 = .ok (.getfield 55, 3) := dk_180 0 55 (dk_at dksX7_fresh_0 8 rfl rfl)
theorem dX7_fresh_11 : decode cX7_fresh 11 = .ok (.bipush 6, 2) := dk_16 6 (dk_at dksX7_fresh_0 11 rfl rfl)
theorem dX7_fresh_13 : decode cX7_fresh 13 = .ok (.aload_n 0, 1) := dk_42 (dk_at dksX7_fresh_0 13 rfl rfl)
theorem dX7_fresh_14 : decode cX7_fresh 14 = .ok (.getfield 29, 3) := dk_180 0 29 (dk_at dksX7_fresh_0 14 rfl rfl)
theorem dX7_fresh_17 : decode cX7_fresh 17 = .ok (.invokevirtual 59, 3) := dk_182 0 59 (dk_at dksX7_fresh_0 17 rfl rfl)
theorem dX7_fresh_20 : decode cX7_fresh 20 = .ok (.athrow, 1) := dk_191 (dk_at dksX7_fresh_0 20 rfl rfl)
theorem dX7_fresh_21 : decode cX7_fresh 21 = .ok (.aload_n 0, 1) := dk_42 (dk_at dksX7_fresh_0 21 rfl rfl)
theorem dX7_fresh_22 : decode cX7_fresh 22 = .ok (.invokevirtual 19, 3) := dk_182 0 19 (dk_at dksX7_fresh_1 0 rfl rfl)
theorem dX7_fresh_25 : decode cX7_fresh 25 = .ok (.aload_n 0, 1) := dk_42 (dk_at dksX7_fresh_1 3 rfl rfl)
theorem dX7_fresh_26 : decode cX7_fresh 26 = .ok (.invokevirtual 161, 3) := dk_182 0 161 (dk_at dksX7_fresh_1 4 rfl rfl)
theorem dX7_fresh_29 : decode cX7_fresh 29 = .ok (.lstore_n 3, 1) := dk_66 (dk_at dksX7_fresh_1 7 rfl rfl)
theorem dX7_fresh_30 : decode cX7_fresh 30 = .ok (.aload_n 1, 1) := dk_43 (dk_at dksX7_fresh_1 8 rfl rfl)
theorem dX7_fresh_31 : decode cX7_fresh 31 = .ok (.lload_n 3, 1) := dk_33 (dk_at dksX7_fresh_1 9 rfl rfl)
theorem dX7_fresh_32 : decode cX7_fresh 32 = .ok (.invokevirtual 165, 3) := dk_182 0 165 (dk_at dksX7_fresh_1 10 rfl rfl)
theorem dX7_fresh_35 : decode cX7_fresh 35 = .ok (.ifCond .eq 19, 3) := dk_153 0 19 (dk_at dksX7_fresh_1 13 rfl rfl)
theorem dX7_fresh_38 : decode cX7_fresh 38 = .ok (.aload_n 0, 1) := dk_42 (dk_at dksX7_fresh_1 16 rfl rfl)
theorem dX7_fresh_39 : decode cX7_fresh 39 = .ok (.getfield 3, 3) := dk_180 0 3 (dk_at dksX7_fresh_1 17 rfl rfl)
theorem dX7_fresh_42 : decode cX7_fresh 42 = .ok (.getfield 55, 3) := dk_180 0 55 (dk_at dksX7_fresh_1 20 rfl rfl)
theorem dX7_fresh_45 : decode cX7_fresh 45 = .ok (.iconst 3, 1) := dk_6 (dk_at dksX7_fresh_1 23 rfl rfl)
theorem dX7_fresh_46 : decode cX7_fresh 46 = .ok (.aload_n 0, 1) := dk_42 (dk_at dksX7_fresh_2 0 rfl rfl)
theorem dX7_fresh_47 : decode cX7_fresh 47 = .ok (.getfield 29, 3) := dk_180 0 29 (dk_at dksX7_fresh_2 1 rfl rfl)
theorem dX7_fresh_50 : decode cX7_fresh 50 = .ok (.invokevirtual 59, 3) := dk_182 0 59 (dk_at dksX7_fresh_2 4 rfl rfl)
theorem dX7_fresh_53 : decode cX7_fresh 53 = .ok (.athrow, 1) := dk_191 (dk_at dksX7_fresh_2 7 rfl rfl)
theorem dX7_fresh_54 : decode cX7_fresh 54 = .ok (.aload_n 0, 1) := dk_42 (dk_at dksX7_fresh_2 8 rfl rfl)
theorem dX7_fresh_55 : decode cX7_fresh 55 = .ok (.invokevirtual 19, 3) := dk_182 0 19 (dk_at dksX7_fresh_2 9 rfl rfl)
theorem dX7_fresh_58 : decode cX7_fresh 58 = .ok (.lload_n 3, 1) := dk_33 (dk_at dksX7_fresh_2 12 rfl rfl)
theorem dX7_fresh_59 : decode cX7_fresh 59 = .ok (.lreturn, 1) := dk_173 (dk_at dksX7_fresh_2 13 rfl rfl)
abbrev cX7_name : ByteArray := prog_12_method_16_code
def yX7_name : MethodName := ⟨RX7, "name", "()J"⟩
def dkwX7_name_3 : List UInt8 := [132, 3, 1, 167, 255, 224, 31, 173]
abbrev dktX7_name_3 : List UInt8 := dkwX7_name_3 ++ []
def dkwX7_name_2 : List UInt8 := [162, 0, 30, 31, 20, 0, 157, 105, 42, 180, 0, 3, 180, 0, 22, 29, 51, 133, 97, 20, 0, 159, 101, 64]
abbrev dktX7_name_2 : List UInt8 := dkwX7_name_2 ++ dktX7_name_3
def dkwX7_name_1 : List UInt8 := [182, 0, 153, 153, 0, 8, 42, 182, 0, 68, 191, 9, 64, 42, 180, 0, 29, 62, 29, 42, 180, 0, 26]
abbrev dktX7_name_1 : List UInt8 := dkwX7_name_1 ++ dktX7_name_2
def dkwX7_name_0 : List UInt8 := [42, 180, 0, 32, 4, 160, 0, 24, 42, 180, 0, 26, 42, 180, 0, 29, 100, 16, 8, 163, 0, 10, 42]
abbrev dktX7_name_0 : List UInt8 := dkwX7_name_0 ++ dktX7_name_1
theorem dksX7_name_0 : cX7_name.data.toList.drop 0 = dktX7_name_0 := by decide +kernel
theorem dksX7_name_1 : cX7_name.data.toList.drop 23 = dktX7_name_1 := dk_seg dksX7_name_0 23 rfl rfl
theorem dksX7_name_2 : cX7_name.data.toList.drop 46 = dktX7_name_2 := dk_seg dksX7_name_1 23 rfl rfl
theorem dksX7_name_3 : cX7_name.data.toList.drop 70 = dktX7_name_3 := dk_seg dksX7_name_2 24 rfl rfl
theorem dX7_name_0 : decode cX7_name 0 = .ok (.aload_n 0, 1) := dk_42 (dk_at dksX7_name_0 0 rfl rfl)
theorem dX7_name_1 : decode cX7_name 1 = .ok (.getfield 32, 3) := dk_180 0 32 (dk_at dksX7_name_0 1 rfl rfl)
theorem dX7_name_4 : decode cX7_name 4 = .ok (.iconst 1, 1) := dk_4 (dk_at dksX7_name_0 4 rfl rfl)
theorem dX7_name_5 : decode cX7_name 5 = .ok (.if_icmp .ne 24, 3) := dk_160 0 24 (dk_at dksX7_name_0 5 rfl rfl)
theorem dX7_name_8 : decode cX7_name 8 = .ok (.aload_n 0, 1) := dk_42 (dk_at dksX7_name_0 8 rfl rfl)
theorem dX7_name_9 : decode cX7_name 9 = .ok (.getfield 26, 3) := dk_180 0 26 (dk_at dksX7_name_0 9 rfl rfl)
theorem dX7_name_12 : decode cX7_name 12 = .ok (.aload_n 0, 1) := dk_42 (dk_at dksX7_name_0 12 rfl rfl)
theorem dX7_name_13 : decode cX7_name 13 = .ok (.getfield 29, 3) := dk_180 0 29 (dk_at dksX7_name_0 13 rfl rfl)
theorem dX7_name_16 : decode cX7_name 16 = .ok (.isub, 1) := dk_100 (dk_at dksX7_name_0 16 rfl rfl)
theorem dX7_name_17 : decode cX7_name 17 = .ok (.bipush 8, 2) := dk_16 8 (dk_at dksX7_name_0 17 rfl rfl)
theorem dX7_name_19 : decode cX7_name 19 = .ok (.if_icmp .gt 10, 3) := dk_163 0 10 (dk_at dksX7_name_0 19 rfl rfl)
theorem dX7_name_22 : decode cX7_name 22 = .ok (.aload_n 0, 1) := dk_42 (dk_at dksX7_name_0 22 rfl rfl)
theorem dX7_name_23 : decode cX7_name 23 = .ok (.invokevirtual 153, 3) := dk_182 0 153 (dk_at dksX7_name_1 0 rfl rfl)
theorem dX7_name_26 : decode cX7_name 26 = .ok (.ifCond .eq 8, 3) := dk_153 0 8 (dk_at dksX7_name_1 3 rfl rfl)
theorem dX7_name_29 : decode cX7_name 29 = .ok (.aload_n 0, 1) := dk_42 (dk_at dksX7_name_1 6 rfl rfl)
theorem dX7_name_30 : decode cX7_name 30 = .ok (.invokevirtual 68, 3) := dk_182 0 68 (dk_at dksX7_name_1 7 rfl rfl)
theorem dX7_name_33 : decode cX7_name 33 = .ok (.athrow, 1) := dk_191 (dk_at dksX7_name_1 10 rfl rfl)
theorem dX7_name_34 : decode cX7_name 34 = .ok (.lconst 0, 1) := dk_9 (dk_at dksX7_name_1 11 rfl rfl)
theorem dX7_name_35 : decode cX7_name 35 = .ok (.lstore_n 1, 1) := dk_64 (dk_at dksX7_name_1 12 rfl rfl)
theorem dX7_name_36 : decode cX7_name 36 = .ok (.aload_n 0, 1) := dk_42 (dk_at dksX7_name_1 13 rfl rfl)
theorem dX7_name_37 : decode cX7_name 37 = .ok (.getfield 29, 3) := dk_180 0 29 (dk_at dksX7_name_1 14 rfl rfl)
theorem dX7_name_40 : decode cX7_name 40 = .ok (.istore_n 3, 1) := dk_62 (dk_at dksX7_name_1 17 rfl rfl)
theorem dX7_name_41 : decode cX7_name 41 = .ok (.iload_n 3, 1) := dk_29 (dk_at dksX7_name_1 18 rfl rfl)
theorem dX7_name_42 : decode cX7_name 42 = .ok (.aload_n 0, 1) := dk_42 (dk_at dksX7_name_1 19 rfl rfl)
theorem dX7_name_43 : decode cX7_name 43 = .ok (.getfield 26, 3) := dk_180 0 26 (dk_at dksX7_name_1 20 rfl rfl)
theorem dX7_name_46 : decode cX7_name 46 = .ok (.if_icmp .ge 30, 3) := dk_162 0 30 (dk_at dksX7_name_2 0 rfl rfl)
theorem dX7_name_49 : decode cX7_name 49 = .ok (.lload_n 1, 1) := dk_31 (dk_at dksX7_name_2 3 rfl rfl)
theorem dX7_name_50 : decode cX7_name 50 = .ok (.ldc2_w 157, 3) := dk_20 0 157 (dk_at dksX7_name_2 4 rfl rfl)
theorem dX7_name_53 : decode cX7_name 53 = .ok (.lmul, 1) := dk_105 (dk_at dksX7_name_2 7 rfl rfl)
theorem dX7_name_54 : decode cX7_name 54 = .ok (.aload_n 0, 1) := dk_42 (dk_at dksX7_name_2 8 rfl rfl)
theorem dX7_name_55 : decode cX7_name 55 = .ok (.getfield 3, 3) := dk_180 0 3 (dk_at dksX7_name_2 9 rfl rfl)
theorem dX7_name_58 : decode cX7_name 58 = .ok (.getfield 22, 3) := dk_180 0 22 (dk_at dksX7_name_2 12 rfl rfl)
theorem dX7_name_61 : decode cX7_name 61 = .ok (.iload_n 3, 1) := dk_29 (dk_at dksX7_name_2 15 rfl rfl)
theorem dX7_name_62 : decode cX7_name 62 = .ok (.baload, 1) := dk_51 (dk_at dksX7_name_2 16 rfl rfl)
theorem dX7_name_63 : decode cX7_name 63 = .ok (.i2l, 1) := dk_133 (dk_at dksX7_name_2 17 rfl rfl)
theorem dX7_name_64 : decode cX7_name 64 = .ok (.ladd, 1) := dk_97 (dk_at dksX7_name_2 18 rfl rfl)
theorem dX7_name_65 : decode cX7_name 65 = .ok (.ldc2_w 159, 3) := dk_20 0 159 (dk_at dksX7_name_2 19 rfl rfl)
theorem dX7_name_68 : decode cX7_name 68 = .ok (.lsub, 1) := dk_101 (dk_at dksX7_name_2 22 rfl rfl)
theorem dX7_name_69 : decode cX7_name 69 = .ok (.lstore_n 1, 1) := dk_64 (dk_at dksX7_name_2 23 rfl rfl)
theorem dX7_name_70 : decode cX7_name 70 = .ok (.iinc 3 1, 3) := dk_132 3 1 (dk_at dksX7_name_3 0 rfl rfl)
theorem dX7_name_73 : decode cX7_name 73 = .ok (.goto (-32), 3) := dk_167 255 224 (dk_at dksX7_name_3 3 rfl rfl)
theorem dX7_name_76 : decode cX7_name 76 = .ok (.lload_n 1, 1) := dk_31 (dk_at dksX7_name_3 6 rfl rfl)
theorem dX7_name_77 : decode cX7_name 77 = .ok (.lreturn, 1) := dk_173 (dk_at dksX7_name_3 7 rfl rfl)
abbrev cX7_isKept : ByteArray := prog_12_method_15_code
def yX7_isKept : MethodName := ⟨RX7, "isKept", "()Z"⟩
def dkwX7_isKept_9 : List UInt8 := [42, 18, 151, 182, 0, 72, 153, 0, 7, 4, 167, 0, 4, 3, 172]
abbrev dktX7_isKept_9 : List UInt8 := dkwX7_isKept_9 ++ []
def dkwX7_isKept_8 : List UInt8 := [182, 0, 144, 156, 0, 30, 42, 18, 147, 182, 0, 72, 154, 0, 21, 42, 18, 149, 182, 0, 72, 154, 0, 12]
abbrev dktX7_isKept_8 : List UInt8 := dkwX7_isKept_8 ++ dktX7_isKept_9
def dkwX7_isKept_7 : List UInt8 := [4, 167, 0, 4, 3, 61, 27, 154, 0, 48, 28, 154, 0, 44, 42, 182, 0, 141, 156, 0, 37, 42]
abbrev dktX7_isKept_7 : List UInt8 := dkwX7_isKept_7 ++ dktX7_isKept_8
def dkwX7_isKept_6 : List UInt8 := [182, 0, 72, 154, 0, 21, 42, 18, 137, 182, 0, 72, 154, 0, 12, 42, 18, 139, 182, 0, 72, 153, 0, 7]
abbrev dktX7_isKept_6 : List UInt8 := dkwX7_isKept_6 ++ dktX7_isKept_7
def dkwX7_isKept_5 : List UInt8 := [154, 0, 48, 42, 18, 132, 182, 0, 72, 154, 0, 39, 42, 18, 134, 182, 0, 72, 154, 0, 30, 42, 18, 135]
abbrev dktX7_isKept_5 : List UInt8 := dkwX7_isKept_5 ++ dktX7_isKept_6
def dkwX7_isKept_4 : List UInt8 := [42, 18, 126, 182, 0, 72, 154, 0, 66, 42, 18, 128, 182, 0, 72, 154, 0, 57, 42, 18, 130, 182, 0, 72]
abbrev dktX7_isKept_4 : List UInt8 := dkwX7_isKept_4 ++ dktX7_isKept_5
def dkwX7_isKept_3 : List UInt8 := [42, 18, 122, 182, 0, 72, 153, 0, 7, 4, 167, 0, 4, 3, 60, 42, 18, 124, 182, 0, 72, 154, 0, 75]
abbrev dktX7_isKept_3 : List UInt8 := dkwX7_isKept_3 ++ dktX7_isKept_4
def dkwX7_isKept_2 : List UInt8 := [182, 0, 72, 154, 0, 30, 42, 18, 118, 182, 0, 72, 154, 0, 21, 42, 18, 120, 182, 0, 72, 154, 0, 12]
abbrev dktX7_isKept_2 : List UInt8 := dkwX7_isKept_2 ++ dktX7_isKept_3
def dkwX7_isKept_1 : List UInt8 := [154, 0, 57, 42, 18, 112, 182, 0, 72, 154, 0, 48, 42, 18, 114, 182, 0, 72, 154, 0, 39, 42, 18, 116]
abbrev dktX7_isKept_1 : List UInt8 := dkwX7_isKept_1 ++ dktX7_isKept_2
def dkwX7_isKept_0 : List UInt8 := [42, 18, 106, 182, 0, 72, 154, 0, 75, 42, 18, 108, 182, 0, 72, 154, 0, 66, 42, 18, 110, 182, 0, 72]
abbrev dktX7_isKept_0 : List UInt8 := dkwX7_isKept_0 ++ dktX7_isKept_1
theorem dksX7_isKept_0 : cX7_isKept.data.toList.drop 0 = dktX7_isKept_0 := by decide +kernel
theorem dksX7_isKept_1 : cX7_isKept.data.toList.drop 24 = dktX7_isKept_1 := dk_seg dksX7_isKept_0 24 rfl rfl
theorem dksX7_isKept_2 : cX7_isKept.data.toList.drop 48 = dktX7_isKept_2 := dk_seg dksX7_isKept_1 24 rfl rfl
theorem dksX7_isKept_3 : cX7_isKept.data.toList.drop 72 = dktX7_isKept_3 := dk_seg dksX7_isKept_2 24 rfl rfl
theorem dksX7_isKept_4 : cX7_isKept.data.toList.drop 96 = dktX7_isKept_4 := dk_seg dksX7_isKept_3 24 rfl rfl
theorem dksX7_isKept_5 : cX7_isKept.data.toList.drop 120 = dktX7_isKept_5 := dk_seg dksX7_isKept_4 24 rfl rfl
theorem dksX7_isKept_6 : cX7_isKept.data.toList.drop 144 = dktX7_isKept_6 := dk_seg dksX7_isKept_5 24 rfl rfl
theorem dksX7_isKept_7 : cX7_isKept.data.toList.drop 168 = dktX7_isKept_7 := dk_seg dksX7_isKept_6 24 rfl rfl
theorem dksX7_isKept_8 : cX7_isKept.data.toList.drop 190 = dktX7_isKept_8 := dk_seg dksX7_isKept_7 22 rfl rfl
theorem dksX7_isKept_9 : cX7_isKept.data.toList.drop 214 = dktX7_isKept_9 := dk_seg dksX7_isKept_8 24 rfl rfl
theorem dX7_isKept_0 : decode cX7_isKept 0 = .ok (.aload_n 0, 1) := dk_42 (dk_at dksX7_isKept_0 0 rfl rfl)
theorem dX7_isKept_1 : decode cX7_isKept 1 = .ok (.ldc 106, 2) := dk_18 106 (dk_at dksX7_isKept_0 1 rfl rfl)
theorem dX7_isKept_3 : decode cX7_isKept 3 = .ok (.invokevirtual 72, 3) := dk_182 0 72 (dk_at dksX7_isKept_0 3 rfl rfl)
theorem dX7_isKept_6 : decode cX7_isKept 6 = .ok (.ifCond .ne 75, 3) := dk_154 0 75 (dk_at dksX7_isKept_0 6 rfl rfl)
theorem dX7_isKept_9 : decode cX7_isKept 9 = .ok (.aload_n 0, 1) := dk_42 (dk_at dksX7_isKept_0 9 rfl rfl)
theorem dX7_isKept_10 : decode cX7_isKept 10 = .ok (.ldc 108, 2) := dk_18 108 (dk_at dksX7_isKept_0 10 rfl rfl)
theorem dX7_isKept_12 : decode cX7_isKept 12 = .ok (.invokevirtual 72, 3) := dk_182 0 72 (dk_at dksX7_isKept_0 12 rfl rfl)
theorem dX7_isKept_15 : decode cX7_isKept 15 = .ok (.ifCond .ne 66, 3) := dk_154 0 66 (dk_at dksX7_isKept_0 15 rfl rfl)
theorem dX7_isKept_18 : decode cX7_isKept 18 = .ok (.aload_n 0, 1) := dk_42 (dk_at dksX7_isKept_0 18 rfl rfl)
theorem dX7_isKept_19 : decode cX7_isKept 19 = .ok (.ldc 110, 2) := dk_18 110 (dk_at dksX7_isKept_0 19 rfl rfl)
theorem dX7_isKept_21 : decode cX7_isKept 21 = .ok (.invokevirtual 72, 3) := dk_182 0 72 (dk_at dksX7_isKept_0 21 rfl rfl)
theorem dX7_isKept_24 : decode cX7_isKept 24 = .ok (.ifCond .ne 57, 3) := dk_154 0 57 (dk_at dksX7_isKept_1 0 rfl rfl)
theorem dX7_isKept_27 : decode cX7_isKept 27 = .ok (.aload_n 0, 1) := dk_42 (dk_at dksX7_isKept_1 3 rfl rfl)
theorem dX7_isKept_28 : decode cX7_isKept 28 = .ok (.ldc 112, 2) := dk_18 112 (dk_at dksX7_isKept_1 4 rfl rfl)
theorem dX7_isKept_30 : decode cX7_isKept 30 = .ok (.invokevirtual 72, 3) := dk_182 0 72 (dk_at dksX7_isKept_1 6 rfl rfl)
theorem dX7_isKept_33 : decode cX7_isKept 33 = .ok (.ifCond .ne 48, 3) := dk_154 0 48 (dk_at dksX7_isKept_1 9 rfl rfl)
theorem dX7_isKept_36 : decode cX7_isKept 36 = .ok (.aload_n 0, 1) := dk_42 (dk_at dksX7_isKept_1 12 rfl rfl)
theorem dX7_isKept_37 : decode cX7_isKept 37 = .ok (.ldc 114, 2) := dk_18 114 (dk_at dksX7_isKept_1 13 rfl rfl)
theorem dX7_isKept_39 : decode cX7_isKept 39 = .ok (.invokevirtual 72, 3) := dk_182 0 72 (dk_at dksX7_isKept_1 15 rfl rfl)
theorem dX7_isKept_42 : decode cX7_isKept 42 = .ok (.ifCond .ne 39, 3) := dk_154 0 39 (dk_at dksX7_isKept_1 18 rfl rfl)
theorem dX7_isKept_45 : decode cX7_isKept 45 = .ok (.aload_n 0, 1) := dk_42 (dk_at dksX7_isKept_1 21 rfl rfl)
theorem dX7_isKept_46 : decode cX7_isKept 46 = .ok (.ldc 116, 2) := dk_18 116 (dk_at dksX7_isKept_1 22 rfl rfl)
theorem dX7_isKept_48 : decode cX7_isKept 48 = .ok (.invokevirtual 72, 3) := dk_182 0 72 (dk_at dksX7_isKept_2 0 rfl rfl)
theorem dX7_isKept_51 : decode cX7_isKept 51 = .ok (.ifCond .ne 30, 3) := dk_154 0 30 (dk_at dksX7_isKept_2 3 rfl rfl)
theorem dX7_isKept_54 : decode cX7_isKept 54 = .ok (.aload_n 0, 1) := dk_42 (dk_at dksX7_isKept_2 6 rfl rfl)
theorem dX7_isKept_55 : decode cX7_isKept 55 = .ok (.ldc 118, 2) := dk_18 118 (dk_at dksX7_isKept_2 7 rfl rfl)
theorem dX7_isKept_57 : decode cX7_isKept 57 = .ok (.invokevirtual 72, 3) := dk_182 0 72 (dk_at dksX7_isKept_2 9 rfl rfl)
theorem dX7_isKept_60 : decode cX7_isKept 60 = .ok (.ifCond .ne 21, 3) := dk_154 0 21 (dk_at dksX7_isKept_2 12 rfl rfl)
theorem dX7_isKept_63 : decode cX7_isKept 63 = .ok (.aload_n 0, 1) := dk_42 (dk_at dksX7_isKept_2 15 rfl rfl)
theorem dX7_isKept_64 : decode cX7_isKept 64 = .ok (.ldc 120, 2) := dk_18 120 (dk_at dksX7_isKept_2 16 rfl rfl)
theorem dX7_isKept_66 : decode cX7_isKept 66 = .ok (.invokevirtual 72, 3) := dk_182 0 72 (dk_at dksX7_isKept_2 18 rfl rfl)
theorem dX7_isKept_69 : decode cX7_isKept 69 = .ok (.ifCond .ne 12, 3) := dk_154 0 12 (dk_at dksX7_isKept_2 21 rfl rfl)
theorem dX7_isKept_72 : decode cX7_isKept 72 = .ok (.aload_n 0, 1) := dk_42 (dk_at dksX7_isKept_3 0 rfl rfl)
theorem dX7_isKept_73 : decode cX7_isKept 73 = .ok (.ldc 122, 2) := dk_18 122 (dk_at dksX7_isKept_3 1 rfl rfl)
theorem dX7_isKept_75 : decode cX7_isKept 75 = .ok (.invokevirtual 72, 3) := dk_182 0 72 (dk_at dksX7_isKept_3 3 rfl rfl)
theorem dX7_isKept_78 : decode cX7_isKept 78 = .ok (.ifCond .eq 7, 3) := dk_153 0 7 (dk_at dksX7_isKept_3 6 rfl rfl)
theorem dX7_isKept_81 : decode cX7_isKept 81 = .ok (.iconst 1, 1) := dk_4 (dk_at dksX7_isKept_3 9 rfl rfl)
theorem dX7_isKept_82 : decode cX7_isKept 82 = .ok (.goto 4, 3) := dk_167 0 4 (dk_at dksX7_isKept_3 10 rfl rfl)
theorem dX7_isKept_85 : decode cX7_isKept 85 = .ok (.iconst 0, 1) := dk_3 (dk_at dksX7_isKept_3 13 rfl rfl)
theorem dX7_isKept_86 : decode cX7_isKept 86 = .ok (.istore_n 1, 1) := dk_60 (dk_at dksX7_isKept_3 14 rfl rfl)
theorem dX7_isKept_87 : decode cX7_isKept 87 = .ok (.aload_n 0, 1) := dk_42 (dk_at dksX7_isKept_3 15 rfl rfl)
theorem dX7_isKept_88 : decode cX7_isKept 88 = .ok (.ldc 124, 2) := dk_18 124 (dk_at dksX7_isKept_3 16 rfl rfl)
theorem dX7_isKept_90 : decode cX7_isKept 90 = .ok (.invokevirtual 72, 3) := dk_182 0 72 (dk_at dksX7_isKept_3 18 rfl rfl)
theorem dX7_isKept_93 : decode cX7_isKept 93 = .ok (.ifCond .ne 75, 3) := dk_154 0 75 (dk_at dksX7_isKept_3 21 rfl rfl)
theorem dX7_isKept_96 : decode cX7_isKept 96 = .ok (.aload_n 0, 1) := dk_42 (dk_at dksX7_isKept_4 0 rfl rfl)
theorem dX7_isKept_97 : decode cX7_isKept 97 = .ok (.ldc 126, 2) := dk_18 126 (dk_at dksX7_isKept_4 1 rfl rfl)
theorem dX7_isKept_99 : decode cX7_isKept 99 = .ok (.invokevirtual 72, 3) := dk_182 0 72 (dk_at dksX7_isKept_4 3 rfl rfl)
theorem dX7_isKept_102 : decode cX7_isKept 102 = .ok (.ifCond .ne 66, 3) := dk_154 0 66 (dk_at dksX7_isKept_4 6 rfl rfl)
theorem dX7_isKept_105 : decode cX7_isKept 105 = .ok (.aload_n 0, 1) := dk_42 (dk_at dksX7_isKept_4 9 rfl rfl)
theorem dX7_isKept_106 : decode cX7_isKept 106 = .ok (.ldc 128, 2) := dk_18 128 (dk_at dksX7_isKept_4 10 rfl rfl)
theorem dX7_isKept_108 : decode cX7_isKept 108 = .ok (.invokevirtual 72, 3) := dk_182 0 72 (dk_at dksX7_isKept_4 12 rfl rfl)
theorem dX7_isKept_111 : decode cX7_isKept 111 = .ok (.ifCond .ne 57, 3) := dk_154 0 57 (dk_at dksX7_isKept_4 15 rfl rfl)
theorem dX7_isKept_114 : decode cX7_isKept 114 = .ok (.aload_n 0, 1) := dk_42 (dk_at dksX7_isKept_4 18 rfl rfl)
theorem dX7_isKept_115 : decode cX7_isKept 115 = .ok (.ldc 130, 2) := dk_18 130 (dk_at dksX7_isKept_4 19 rfl rfl)
theorem dX7_isKept_117 : decode cX7_isKept 117 = .ok (.invokevirtual 72, 3) := dk_182 0 72 (dk_at dksX7_isKept_4 21 rfl rfl)
theorem dX7_isKept_120 : decode cX7_isKept 120 = .ok (.ifCond .ne 48, 3) := dk_154 0 48 (dk_at dksX7_isKept_5 0 rfl rfl)
theorem dX7_isKept_123 : decode cX7_isKept 123 = .ok (.aload_n 0, 1) := dk_42 (dk_at dksX7_isKept_5 3 rfl rfl)
theorem dX7_isKept_124 : decode cX7_isKept 124 = .ok (.ldc 132, 2) := dk_18 132 (dk_at dksX7_isKept_5 4 rfl rfl)
theorem dX7_isKept_126 : decode cX7_isKept 126 = .ok (.invokevirtual 72, 3) := dk_182 0 72 (dk_at dksX7_isKept_5 6 rfl rfl)
theorem dX7_isKept_129 : decode cX7_isKept 129 = .ok (.ifCond .ne 39, 3) := dk_154 0 39 (dk_at dksX7_isKept_5 9 rfl rfl)
theorem dX7_isKept_132 : decode cX7_isKept 132 = .ok (.aload_n 0, 1) := dk_42 (dk_at dksX7_isKept_5 12 rfl rfl)
theorem dX7_isKept_133 : decode cX7_isKept 133 = .ok (.ldc 134, 2) := dk_18 134 (dk_at dksX7_isKept_5 13 rfl rfl)
theorem dX7_isKept_135 : decode cX7_isKept 135 = .ok (.invokevirtual 72, 3) := dk_182 0 72 (dk_at dksX7_isKept_5 15 rfl rfl)
theorem dX7_isKept_138 : decode cX7_isKept 138 = .ok (.ifCond .ne 30, 3) := dk_154 0 30 (dk_at dksX7_isKept_5 18 rfl rfl)
theorem dX7_isKept_141 : decode cX7_isKept 141 = .ok (.aload_n 0, 1) := dk_42 (dk_at dksX7_isKept_5 21 rfl rfl)
theorem dX7_isKept_142 : decode cX7_isKept 142 = .ok (.ldc 135, 2) := dk_18 135 (dk_at dksX7_isKept_5 22 rfl rfl)
theorem dX7_isKept_144 : decode cX7_isKept 144 = .ok (.invokevirtual 72, 3) := dk_182 0 72 (dk_at dksX7_isKept_6 0 rfl rfl)
theorem dX7_isKept_147 : decode cX7_isKept 147 = .ok (.ifCond .ne 21, 3) := dk_154 0 21 (dk_at dksX7_isKept_6 3 rfl rfl)
theorem dX7_isKept_150 : decode cX7_isKept 150 = .ok (.aload_n 0, 1) := dk_42 (dk_at dksX7_isKept_6 6 rfl rfl)
theorem dX7_isKept_151 : decode cX7_isKept 151 = .ok (.ldc 137, 2) := dk_18 137 (dk_at dksX7_isKept_6 7 rfl rfl)
theorem dX7_isKept_153 : decode cX7_isKept 153 = .ok (.invokevirtual 72, 3) := dk_182 0 72 (dk_at dksX7_isKept_6 9 rfl rfl)
theorem dX7_isKept_156 : decode cX7_isKept 156 = .ok (.ifCond .ne 12, 3) := dk_154 0 12 (dk_at dksX7_isKept_6 12 rfl rfl)
theorem dX7_isKept_159 : decode cX7_isKept 159 = .ok (.aload_n 0, 1) := dk_42 (dk_at dksX7_isKept_6 15 rfl rfl)
theorem dX7_isKept_160 : decode cX7_isKept 160 = .ok (.ldc 139, 2) := dk_18 139 (dk_at dksX7_isKept_6 16 rfl rfl)
theorem dX7_isKept_162 : decode cX7_isKept 162 = .ok (.invokevirtual 72, 3) := dk_182 0 72 (dk_at dksX7_isKept_6 18 rfl rfl)
theorem dX7_isKept_165 : decode cX7_isKept 165 = .ok (.ifCond .eq 7, 3) := dk_153 0 7 (dk_at dksX7_isKept_6 21 rfl rfl)
theorem dX7_isKept_168 : decode cX7_isKept 168 = .ok (.iconst 1, 1) := dk_4 (dk_at dksX7_isKept_7 0 rfl rfl)
theorem dX7_isKept_169 : decode cX7_isKept 169 = .ok (.goto 4, 3) := dk_167 0 4 (dk_at dksX7_isKept_7 1 rfl rfl)
theorem dX7_isKept_172 : decode cX7_isKept 172 = .ok (.iconst 0, 1) := dk_3 (dk_at dksX7_isKept_7 4 rfl rfl)
theorem dX7_isKept_173 : decode cX7_isKept 173 = .ok (.istore_n 2, 1) := dk_61 (dk_at dksX7_isKept_7 5 rfl rfl)
theorem dX7_isKept_174 : decode cX7_isKept 174 = .ok (.iload_n 1, 1) := dk_27 (dk_at dksX7_isKept_7 6 rfl rfl)
theorem dX7_isKept_175 : decode cX7_isKept 175 = .ok (.ifCond .ne 48, 3) := dk_154 0 48 (dk_at dksX7_isKept_7 7 rfl rfl)
theorem dX7_isKept_178 : decode cX7_isKept 178 = .ok (.iload_n 2, 1) := dk_28 (dk_at dksX7_isKept_7 10 rfl rfl)
theorem dX7_isKept_179 : decode cX7_isKept 179 = .ok (.ifCond .ne 44, 3) := dk_154 0 44 (dk_at dksX7_isKept_7 11 rfl rfl)
theorem dX7_isKept_182 : decode cX7_isKept 182 = .ok (.aload_n 0, 1) := dk_42 (dk_at dksX7_isKept_7 14 rfl rfl)
theorem dX7_isKept_183 : decode cX7_isKept 183 = .ok (.invokevirtual 141, 3) := dk_182 0 141 (dk_at dksX7_isKept_7 15 rfl rfl)
theorem dX7_isKept_186 : decode cX7_isKept 186 = .ok (.ifCond .ge 37, 3) := dk_156 0 37 (dk_at dksX7_isKept_7 18 rfl rfl)
theorem dX7_isKept_189 : decode cX7_isKept 189 = .ok (.aload_n 0, 1) := dk_42 (dk_at dksX7_isKept_7 21 rfl rfl)
theorem dX7_isKept_190 : decode cX7_isKept 190 = .ok (.invokevirtual 144, 3) := dk_182 0 144 (dk_at dksX7_isKept_8 0 rfl rfl)
theorem dX7_isKept_193 : decode cX7_isKept 193 = .ok (.ifCond .ge 30, 3) := dk_156 0 30 (dk_at dksX7_isKept_8 3 rfl rfl)
theorem dX7_isKept_196 : decode cX7_isKept 196 = .ok (.aload_n 0, 1) := dk_42 (dk_at dksX7_isKept_8 6 rfl rfl)
theorem dX7_isKept_197 : decode cX7_isKept 197 = .ok (.ldc 147, 2) := dk_18 147 (dk_at dksX7_isKept_8 7 rfl rfl)
theorem dX7_isKept_199 : decode cX7_isKept 199 = .ok (.invokevirtual 72, 3) := dk_182 0 72 (dk_at dksX7_isKept_8 9 rfl rfl)
theorem dX7_isKept_202 : decode cX7_isKept 202 = .ok (.ifCond .ne 21, 3) := dk_154 0 21 (dk_at dksX7_isKept_8 12 rfl rfl)
theorem dX7_isKept_205 : decode cX7_isKept 205 = .ok (.aload_n 0, 1) := dk_42 (dk_at dksX7_isKept_8 15 rfl rfl)
theorem dX7_isKept_206 : decode cX7_isKept 206 = .ok (.ldc 149, 2) := dk_18 149 (dk_at dksX7_isKept_8 16 rfl rfl)
theorem dX7_isKept_208 : decode cX7_isKept 208 = .ok (.invokevirtual 72, 3) := dk_182 0 72 (dk_at dksX7_isKept_8 18 rfl rfl)
theorem dX7_isKept_211 : decode cX7_isKept 211 = .ok (.ifCond .ne 12, 3) := dk_154 0 12 (dk_at dksX7_isKept_8 21 rfl rfl)
theorem dX7_isKept_214 : decode cX7_isKept 214 = .ok (.aload_n 0, 1) := dk_42 (dk_at dksX7_isKept_9 0 rfl rfl)
theorem dX7_isKept_215 : decode cX7_isKept 215 = .ok (.ldc 151, 2) := dk_18 151 (dk_at dksX7_isKept_9 1 rfl rfl)
theorem dX7_isKept_217 : decode cX7_isKept 217 = .ok (.invokevirtual 72, 3) := dk_182 0 72 (dk_at dksX7_isKept_9 3 rfl rfl)
theorem dX7_isKept_220 : decode cX7_isKept 220 = .ok (.ifCond .eq 7, 3) := dk_153 0 7 (dk_at dksX7_isKept_9 6 rfl rfl)
theorem dX7_isKept_223 : decode cX7_isKept 223 = .ok (.iconst 1, 1) := dk_4 (dk_at dksX7_isKept_9 9 rfl rfl)
theorem dX7_isKept_224 : decode cX7_isKept 224 = .ok (.goto 4, 3) := dk_167 0 4 (dk_at dksX7_isKept_9 10 rfl rfl)
theorem dX7_isKept_227 : decode cX7_isKept 227 = .ok (.iconst 0, 1) := dk_3 (dk_at dksX7_isKept_9 13 rfl rfl)
theorem dX7_isKept_228 : decode cX7_isKept 228 = .ok (.ireturn, 1) := dk_172 (dk_at dksX7_isKept_9 14 rfl rfl)
abbrev cX7_acts : ByteArray := prog_12_method_13_code
def yX7_acts : MethodName := ⟨RX7, "acts", "()I"⟩
def dkwX7_acts_3 : List UInt8 := [182, 0, 72, 153, 0, 8, 16, 6, 167, 0, 4, 2, 172]
abbrev dktX7_acts_3 : List UInt8 := dkwX7_acts_3 ++ []
def dkwX7_acts_2 : List UInt8 := [182, 0, 72, 153, 0, 5, 7, 172, 42, 18, 96, 182, 0, 72, 153, 0, 5, 8, 172, 42, 18, 98]
abbrev dktX7_acts_2 : List UInt8 := dkwX7_acts_2 ++ dktX7_acts_3
def dkwX7_acts_1 : List UInt8 := [18, 90, 182, 0, 72, 153, 0, 5, 5, 172, 42, 18, 92, 182, 0, 72, 153, 0, 5, 6, 172, 42, 18, 94]
abbrev dktX7_acts_1 : List UInt8 := dkwX7_acts_1 ++ dktX7_acts_2
def dkwX7_acts_0 : List UInt8 := [42, 18, 86, 182, 0, 72, 153, 0, 5, 3, 172, 42, 18, 88, 182, 0, 72, 153, 0, 5, 4, 172, 42]
abbrev dktX7_acts_0 : List UInt8 := dkwX7_acts_0 ++ dktX7_acts_1
theorem dksX7_acts_0 : cX7_acts.data.toList.drop 0 = dktX7_acts_0 := by decide +kernel
theorem dksX7_acts_1 : cX7_acts.data.toList.drop 23 = dktX7_acts_1 := dk_seg dksX7_acts_0 23 rfl rfl
theorem dksX7_acts_2 : cX7_acts.data.toList.drop 47 = dktX7_acts_2 := dk_seg dksX7_acts_1 24 rfl rfl
theorem dksX7_acts_3 : cX7_acts.data.toList.drop 69 = dktX7_acts_3 := dk_seg dksX7_acts_2 22 rfl rfl
theorem dX7_acts_0 : decode cX7_acts 0 = .ok (.aload_n 0, 1) := dk_42 (dk_at dksX7_acts_0 0 rfl rfl)
theorem dX7_acts_1 : decode cX7_acts 1 = .ok (.ldc 86, 2) := dk_18 86 (dk_at dksX7_acts_0 1 rfl rfl)
theorem dX7_acts_3 : decode cX7_acts 3 = .ok (.invokevirtual 72, 3) := dk_182 0 72 (dk_at dksX7_acts_0 3 rfl rfl)
theorem dX7_acts_6 : decode cX7_acts 6 = .ok (.ifCond .eq 5, 3) := dk_153 0 5 (dk_at dksX7_acts_0 6 rfl rfl)
theorem dX7_acts_9 : decode cX7_acts 9 = .ok (.iconst 0, 1) := dk_3 (dk_at dksX7_acts_0 9 rfl rfl)
theorem dX7_acts_10 : decode cX7_acts 10 = .ok (.ireturn, 1) := dk_172 (dk_at dksX7_acts_0 10 rfl rfl)
theorem dX7_acts_11 : decode cX7_acts 11 = .ok (.aload_n 0, 1) := dk_42 (dk_at dksX7_acts_0 11 rfl rfl)
theorem dX7_acts_12 : decode cX7_acts 12 = .ok (.ldc 88, 2) := dk_18 88 (dk_at dksX7_acts_0 12 rfl rfl)
theorem dX7_acts_14 : decode cX7_acts 14 = .ok (.invokevirtual 72, 3) := dk_182 0 72 (dk_at dksX7_acts_0 14 rfl rfl)
theorem dX7_acts_17 : decode cX7_acts 17 = .ok (.ifCond .eq 5, 3) := dk_153 0 5 (dk_at dksX7_acts_0 17 rfl rfl)
theorem dX7_acts_20 : decode cX7_acts 20 = .ok (.iconst 1, 1) := dk_4 (dk_at dksX7_acts_0 20 rfl rfl)
theorem dX7_acts_21 : decode cX7_acts 21 = .ok (.ireturn, 1) := dk_172 (dk_at dksX7_acts_0 21 rfl rfl)
theorem dX7_acts_22 : decode cX7_acts 22 = .ok (.aload_n 0, 1) := dk_42 (dk_at dksX7_acts_0 22 rfl rfl)
theorem dX7_acts_23 : decode cX7_acts 23 = .ok (.ldc 90, 2) := dk_18 90 (dk_at dksX7_acts_1 0 rfl rfl)
theorem dX7_acts_25 : decode cX7_acts 25 = .ok (.invokevirtual 72, 3) := dk_182 0 72 (dk_at dksX7_acts_1 2 rfl rfl)
theorem dX7_acts_28 : decode cX7_acts 28 = .ok (.ifCond .eq 5, 3) := dk_153 0 5 (dk_at dksX7_acts_1 5 rfl rfl)
theorem dX7_acts_31 : decode cX7_acts 31 = .ok (.iconst 2, 1) := dk_5 (dk_at dksX7_acts_1 8 rfl rfl)
theorem dX7_acts_32 : decode cX7_acts 32 = .ok (.ireturn, 1) := dk_172 (dk_at dksX7_acts_1 9 rfl rfl)
theorem dX7_acts_33 : decode cX7_acts 33 = .ok (.aload_n 0, 1) := dk_42 (dk_at dksX7_acts_1 10 rfl rfl)
theorem dX7_acts_34 : decode cX7_acts 34 = .ok (.ldc 92, 2) := dk_18 92 (dk_at dksX7_acts_1 11 rfl rfl)
theorem dX7_acts_36 : decode cX7_acts 36 = .ok (.invokevirtual 72, 3) := dk_182 0 72 (dk_at dksX7_acts_1 13 rfl rfl)
theorem dX7_acts_39 : decode cX7_acts 39 = .ok (.ifCond .eq 5, 3) := dk_153 0 5 (dk_at dksX7_acts_1 16 rfl rfl)
theorem dX7_acts_42 : decode cX7_acts 42 = .ok (.iconst 3, 1) := dk_6 (dk_at dksX7_acts_1 19 rfl rfl)
theorem dX7_acts_43 : decode cX7_acts 43 = .ok (.ireturn, 1) := dk_172 (dk_at dksX7_acts_1 20 rfl rfl)
theorem dX7_acts_44 : decode cX7_acts 44 = .ok (.aload_n 0, 1) := dk_42 (dk_at dksX7_acts_1 21 rfl rfl)
theorem dX7_acts_45 : decode cX7_acts 45 = .ok (.ldc 94, 2) := dk_18 94 (dk_at dksX7_acts_1 22 rfl rfl)
theorem dX7_acts_47 : decode cX7_acts 47 = .ok (.invokevirtual 72, 3) := dk_182 0 72 (dk_at dksX7_acts_2 0 rfl rfl)
theorem dX7_acts_50 : decode cX7_acts 50 = .ok (.ifCond .eq 5, 3) := dk_153 0 5 (dk_at dksX7_acts_2 3 rfl rfl)
theorem dX7_acts_53 : decode cX7_acts 53 = .ok (.iconst 4, 1) := dk_7 (dk_at dksX7_acts_2 6 rfl rfl)
theorem dX7_acts_54 : decode cX7_acts 54 = .ok (.ireturn, 1) := dk_172 (dk_at dksX7_acts_2 7 rfl rfl)
theorem dX7_acts_55 : decode cX7_acts 55 = .ok (.aload_n 0, 1) := dk_42 (dk_at dksX7_acts_2 8 rfl rfl)
theorem dX7_acts_56 : decode cX7_acts 56 = .ok (.ldc 96, 2) := dk_18 96 (dk_at dksX7_acts_2 9 rfl rfl)
theorem dX7_acts_58 : decode cX7_acts 58 = .ok (.invokevirtual 72, 3) := dk_182 0 72 (dk_at dksX7_acts_2 11 rfl rfl)
theorem dX7_acts_61 : decode cX7_acts 61 = .ok (.ifCond .eq 5, 3) := dk_153 0 5 (dk_at dksX7_acts_2 14 rfl rfl)
theorem dX7_acts_64 : decode cX7_acts 64 = .ok (.iconst 5, 1) := dk_8 (dk_at dksX7_acts_2 17 rfl rfl)
theorem dX7_acts_65 : decode cX7_acts 65 = .ok (.ireturn, 1) := dk_172 (dk_at dksX7_acts_2 18 rfl rfl)
theorem dX7_acts_66 : decode cX7_acts 66 = .ok (.aload_n 0, 1) := dk_42 (dk_at dksX7_acts_2 19 rfl rfl)
theorem dX7_acts_67 : decode cX7_acts 67 = .ok (.ldc 98, 2) := dk_18 98 (dk_at dksX7_acts_2 20 rfl rfl)
theorem dX7_acts_69 : decode cX7_acts 69 = .ok (.invokevirtual 72, 3) := dk_182 0 72 (dk_at dksX7_acts_3 0 rfl rfl)
theorem dX7_acts_72 : decode cX7_acts 72 = .ok (.ifCond .eq 8, 3) := dk_153 0 8 (dk_at dksX7_acts_3 3 rfl rfl)
theorem dX7_acts_75 : decode cX7_acts 75 = .ok (.bipush 6, 2) := dk_16 6 (dk_at dksX7_acts_3 6 rfl rfl)
theorem dX7_acts_77 : decode cX7_acts 77 = .ok (.goto 4, 3) := dk_167 0 4 (dk_at dksX7_acts_3 8 rfl rfl)
theorem dX7_acts_80 : decode cX7_acts 80 = .ok (.iconst (-1), 1) := dk_2 (dk_at dksX7_acts_3 11 rfl rfl)
theorem dX7_acts_81 : decode cX7_acts 81 = .ok (.ireturn, 1) := dk_172 (dk_at dksX7_acts_3 12 rfl rfl)
abbrev cX7_tests : ByteArray := prog_12_method_14_code
def yX7_tests : MethodName := ⟨RX7, "tests", "()I"⟩
def dkwX7_tests_1 : List UInt8 := [167, 0, 17, 42, 18, 104, 182, 0, 72, 153, 0, 7, 5, 167, 0, 4, 2, 172]
abbrev dktX7_tests_1 : List UInt8 := dkwX7_tests_1 ++ []
def dkwX7_tests_0 : List UInt8 := [42, 18, 100, 182, 0, 72, 153, 0, 7, 3, 167, 0, 30, 42, 18, 102, 182, 0, 72, 153, 0, 7, 4]
abbrev dktX7_tests_0 : List UInt8 := dkwX7_tests_0 ++ dktX7_tests_1
theorem dksX7_tests_0 : cX7_tests.data.toList.drop 0 = dktX7_tests_0 := by decide +kernel
theorem dksX7_tests_1 : cX7_tests.data.toList.drop 23 = dktX7_tests_1 := dk_seg dksX7_tests_0 23 rfl rfl
theorem dX7_tests_0 : decode cX7_tests 0 = .ok (.aload_n 0, 1) := dk_42 (dk_at dksX7_tests_0 0 rfl rfl)
theorem dX7_tests_1 : decode cX7_tests 1 = .ok (.ldc 100, 2) := dk_18 100 (dk_at dksX7_tests_0 1 rfl rfl)
theorem dX7_tests_3 : decode cX7_tests 3 = .ok (.invokevirtual 72, 3) := dk_182 0 72 (dk_at dksX7_tests_0 3 rfl rfl)
theorem dX7_tests_6 : decode cX7_tests 6 = .ok (.ifCond .eq 7, 3) := dk_153 0 7 (dk_at dksX7_tests_0 6 rfl rfl)
theorem dX7_tests_9 : decode cX7_tests 9 = .ok (.iconst 0, 1) := dk_3 (dk_at dksX7_tests_0 9 rfl rfl)
theorem dX7_tests_10 : decode cX7_tests 10 = .ok (.goto 30, 3) := dk_167 0 30 (dk_at dksX7_tests_0 10 rfl rfl)
theorem dX7_tests_13 : decode cX7_tests 13 = .ok (.aload_n 0, 1) := dk_42 (dk_at dksX7_tests_0 13 rfl rfl)
theorem dX7_tests_14 : decode cX7_tests 14 = .ok (.ldc 102, 2) := dk_18 102 (dk_at dksX7_tests_0 14 rfl rfl)
theorem dX7_tests_16 : decode cX7_tests 16 = .ok (.invokevirtual 72, 3) := dk_182 0 72 (dk_at dksX7_tests_0 16 rfl rfl)
theorem dX7_tests_19 : decode cX7_tests 19 = .ok (.ifCond .eq 7, 3) := dk_153 0 7 (dk_at dksX7_tests_0 19 rfl rfl)
theorem dX7_tests_22 : decode cX7_tests 22 = .ok (.iconst 1, 1) := dk_4 (dk_at dksX7_tests_0 22 rfl rfl)
theorem dX7_tests_23 : decode cX7_tests 23 = .ok (.goto 17, 3) := dk_167 0 17 (dk_at dksX7_tests_1 0 rfl rfl)
theorem dX7_tests_26 : decode cX7_tests 26 = .ok (.aload_n 0, 1) := dk_42 (dk_at dksX7_tests_1 3 rfl rfl)
theorem dX7_tests_27 : decode cX7_tests 27 = .ok (.ldc 104, 2) := dk_18 104 (dk_at dksX7_tests_1 4 rfl rfl)
theorem dX7_tests_29 : decode cX7_tests 29 = .ok (.invokevirtual 72, 3) := dk_182 0 72 (dk_at dksX7_tests_1 6 rfl rfl)
theorem dX7_tests_32 : decode cX7_tests 32 = .ok (.ifCond .eq 7, 3) := dk_153 0 7 (dk_at dksX7_tests_1 9 rfl rfl)
theorem dX7_tests_35 : decode cX7_tests 35 = .ok (.iconst 2, 1) := dk_5 (dk_at dksX7_tests_1 12 rfl rfl)
theorem dX7_tests_36 : decode cX7_tests 36 = .ok (.goto 4, 3) := dk_167 0 4 (dk_at dksX7_tests_1 13 rfl rfl)
theorem dX7_tests_39 : decode cX7_tests 39 = .ok (.iconst (-1), 1) := dk_2 (dk_at dksX7_tests_1 16 rfl rfl)
theorem dX7_tests_40 : decode cX7_tests 40 = .ok (.ireturn, 1) := dk_172 (dk_at dksX7_tests_1 17 rfl rfl)
abbrev cX7_wrong : ByteArray := prog_12_method_7_code
def yX7_wrong : MethodName := ⟨RX7, "wrong", "()LCargoFlag$Bad;"⟩
def dkwX7_wrong_1 : List UInt8 := [182, 0, 59, 176]
abbrev dktX7_wrong_1 : List UInt8 := dkwX7_wrong_1 ++ []
def dkwX7_wrong_0 : List UInt8 := [42, 180, 0, 3, 180, 0, 55, 42, 180, 0, 32, 7, 160, 0, 7, 4, 167, 0, 4, 5, 42, 180, 0, 29]
abbrev dktX7_wrong_0 : List UInt8 := dkwX7_wrong_0 ++ dktX7_wrong_1
theorem dksX7_wrong_0 : cX7_wrong.data.toList.drop 0 = dktX7_wrong_0 := by decide +kernel
theorem dksX7_wrong_1 : cX7_wrong.data.toList.drop 24 = dktX7_wrong_1 := dk_seg dksX7_wrong_0 24 rfl rfl
theorem dX7_wrong_0 : decode cX7_wrong 0 = .ok (.aload_n 0, 1) := dk_42 (dk_at dksX7_wrong_0 0 rfl rfl)
theorem dX7_wrong_1 : decode cX7_wrong 1 = .ok (.getfield 3, 3) := dk_180 0 3 (dk_at dksX7_wrong_0 1 rfl rfl)
theorem dX7_wrong_4 : decode cX7_wrong 4 = .ok (.getfield 55, 3) := dk_180 0 55 (dk_at dksX7_wrong_0 4 rfl rfl)
theorem dX7_wrong_7 : decode cX7_wrong 7 = .ok (.aload_n 0, 1) := dk_42 (dk_at dksX7_wrong_0 7 rfl rfl)
theorem dX7_wrong_8 : decode cX7_wrong 8 = .ok (.getfield 32, 3) := dk_180 0 32 (dk_at dksX7_wrong_0 8 rfl rfl)
theorem dX7_wrong_11 : decode cX7_wrong 11 = .ok (.iconst 4, 1) := dk_7 (dk_at dksX7_wrong_0 11 rfl rfl)
theorem dX7_wrong_12 : decode cX7_wrong 12 = .ok (.if_icmp .ne 7, 3) := dk_160 0 7 (dk_at dksX7_wrong_0 12 rfl rfl)
theorem dX7_wrong_15 : decode cX7_wrong 15 = .ok (.iconst 1, 1) := dk_4 (dk_at dksX7_wrong_0 15 rfl rfl)
theorem dX7_wrong_16 : decode cX7_wrong 16 = .ok (.goto 4, 3) := dk_167 0 4 (dk_at dksX7_wrong_0 16 rfl rfl)
theorem dX7_wrong_19 : decode cX7_wrong 19 = .ok (.iconst 2, 1) := dk_5 (dk_at dksX7_wrong_0 19 rfl rfl)
theorem dX7_wrong_20 : decode cX7_wrong 20 = .ok (.aload_n 0, 1) := dk_42 (dk_at dksX7_wrong_0 20 rfl rfl)
theorem dX7_wrong_21 : decode cX7_wrong 21 = .ok (.getfield 29, 3) := dk_180 0 29 (dk_at dksX7_wrong_0 21 rfl rfl)
theorem dX7_wrong_24 : decode cX7_wrong 24 = .ok (.invokevirtual 59, 3) := dk_182 0 59 (dk_at dksX7_wrong_1 0 rfl rfl)
theorem dX7_wrong_27 : decode cX7_wrong 27 = .ok (.areturn, 1) := dk_176 (dk_at dksX7_wrong_1 3 rfl rfl)
abbrev cX7_perhaps : ByteArray := prog_12_method_12_code
def yX7_perhaps : MethodName := ⟨RX7, "perhaps", "(Ljava/lang/String;III)I"⟩
def dkwX7_perhaps_0 : List UInt8 := [42, 43, 182, 0, 72, 153, 0, 13, 42, 43, 28, 29, 182, 0, 83, 167, 0, 5, 21, 4, 172]
abbrev dktX7_perhaps_0 : List UInt8 := dkwX7_perhaps_0 ++ []
theorem dksX7_perhaps_0 : cX7_perhaps.data.toList.drop 0 = dktX7_perhaps_0 := by decide +kernel
theorem dX7_perhaps_0 : decode cX7_perhaps 0 = .ok (.aload_n 0, 1) := dk_42 (dk_at dksX7_perhaps_0 0 rfl rfl)
theorem dX7_perhaps_1 : decode cX7_perhaps 1 = .ok (.aload_n 1, 1) := dk_43 (dk_at dksX7_perhaps_0 1 rfl rfl)
theorem dX7_perhaps_2 : decode cX7_perhaps 2 = .ok (.invokevirtual 72, 3) := dk_182 0 72 (dk_at dksX7_perhaps_0 2 rfl rfl)
theorem dX7_perhaps_5 : decode cX7_perhaps 5 = .ok (.ifCond .eq 13, 3) := dk_153 0 13 (dk_at dksX7_perhaps_0 5 rfl rfl)
theorem dX7_perhaps_8 : decode cX7_perhaps 8 = .ok (.aload_n 0, 1) := dk_42 (dk_at dksX7_perhaps_0 8 rfl rfl)
theorem dX7_perhaps_9 : decode cX7_perhaps 9 = .ok (.aload_n 1, 1) := dk_43 (dk_at dksX7_perhaps_0 9 rfl rfl)
theorem dX7_perhaps_10 : decode cX7_perhaps 10 = .ok (.iload_n 2, 1) := dk_28 (dk_at dksX7_perhaps_0 10 rfl rfl)
theorem dX7_perhaps_11 : decode cX7_perhaps 11 = .ok (.iload_n 3, 1) := dk_29 (dk_at dksX7_perhaps_0 11 rfl rfl)
theorem dX7_perhaps_12 : decode cX7_perhaps 12 = .ok (.invokevirtual 83, 3) := dk_182 0 83 (dk_at dksX7_perhaps_0 12 rfl rfl)
theorem dX7_perhaps_15 : decode cX7_perhaps 15 = .ok (.goto 5, 3) := dk_167 0 5 (dk_at dksX7_perhaps_0 15 rfl rfl)
theorem dX7_perhaps_18 : decode cX7_perhaps 18 = .ok (.iload 4, 2) := dk_21 4 (dk_at dksX7_perhaps_0 18 rfl rfl)
theorem dX7_perhaps_20 : decode cX7_perhaps 20 = .ok (.ireturn, 1) := dk_172 (dk_at dksX7_perhaps_0 20 rfl rfl)
abbrev cX7_behind : ByteArray := prog_12_method_11_code
def yX7_behind : MethodName := ⟨RX7, "behind", "(Ljava/lang/String;II)I"⟩
def dkwX7_behind_0 : List UInt8 := [42, 43, 182, 0, 76, 42, 28, 29, 182, 0, 80, 172]
abbrev dktX7_behind_0 : List UInt8 := dkwX7_behind_0 ++ []
theorem dksX7_behind_0 : cX7_behind.data.toList.drop 0 = dktX7_behind_0 := by decide +kernel
theorem dX7_behind_0 : decode cX7_behind 0 = .ok (.aload_n 0, 1) := dk_42 (dk_at dksX7_behind_0 0 rfl rfl)
theorem dX7_behind_1 : decode cX7_behind 1 = .ok (.aload_n 1, 1) := dk_43 (dk_at dksX7_behind_0 1 rfl rfl)
theorem dX7_behind_2 : decode cX7_behind 2 = .ok (.invokevirtual 76, 3) := dk_182 0 76 (dk_at dksX7_behind_0 2 rfl rfl)
theorem dX7_behind_5 : decode cX7_behind 5 = .ok (.aload_n 0, 1) := dk_42 (dk_at dksX7_behind_0 5 rfl rfl)
theorem dX7_behind_6 : decode cX7_behind 6 = .ok (.iload_n 2, 1) := dk_28 (dk_at dksX7_behind_0 6 rfl rfl)
theorem dX7_behind_7 : decode cX7_behind 7 = .ok (.iload_n 3, 1) := dk_29 (dk_at dksX7_behind_0 7 rfl rfl)
theorem dX7_behind_8 : decode cX7_behind 8 = .ok (.invokevirtual 80, 3) := dk_182 0 80 (dk_at dksX7_behind_0 8 rfl rfl)
theorem dX7_behind_11 : decode cX7_behind 11 = .ok (.ireturn, 1) := dk_172 (dk_at dksX7_behind_0 11 rfl rfl)
abbrev cX7_word : ByteArray := prog_12_method_9_code
def yX7_word : MethodName := ⟨RX7, "word", "(Ljava/lang/String;)V"⟩
def dkwX7_word_0 : List UInt8 := [42, 43, 182, 0, 72, 154, 0, 8, 42, 182, 0, 68, 191, 42, 182, 0, 19, 177]
abbrev dktX7_word_0 : List UInt8 := dkwX7_word_0 ++ []
theorem dksX7_word_0 : cX7_word.data.toList.drop 0 = dktX7_word_0 := by decide +kernel
theorem dX7_word_0 : decode cX7_word 0 = .ok (.aload_n 0, 1) := dk_42 (dk_at dksX7_word_0 0 rfl rfl)
theorem dX7_word_1 : decode cX7_word 1 = .ok (.aload_n 1, 1) := dk_43 (dk_at dksX7_word_0 1 rfl rfl)
theorem dX7_word_2 : decode cX7_word 2 = .ok (.invokevirtual 72, 3) := dk_182 0 72 (dk_at dksX7_word_0 2 rfl rfl)
theorem dX7_word_5 : decode cX7_word 5 = .ok (.ifCond .ne 8, 3) := dk_154 0 8 (dk_at dksX7_word_0 5 rfl rfl)
theorem dX7_word_8 : decode cX7_word 8 = .ok (.aload_n 0, 1) := dk_42 (dk_at dksX7_word_0 8 rfl rfl)
theorem dX7_word_9 : decode cX7_word 9 = .ok (.invokevirtual 68, 3) := dk_182 0 68 (dk_at dksX7_word_0 9 rfl rfl)
theorem dX7_word_12 : decode cX7_word 12 = .ok (.athrow, 1) := dk_191 (dk_at dksX7_word_0 12 rfl rfl)
theorem dX7_word_13 : decode cX7_word 13 = .ok (.aload_n 0, 1) := dk_42 (dk_at dksX7_word_0 13 rfl rfl)
theorem dX7_word_14 : decode cX7_word 14 = .ok (.invokevirtual 19, 3) := dk_182 0 19 (dk_at dksX7_word_0 14 rfl rfl)
theorem dX7_word_17 : decode cX7_word 17 = .ok (.return_, 1) := dk_177 (dk_at dksX7_word_0 17 rfl rfl)
abbrev cX7_number : ByteArray := prog_12_method_10_code
def yX7_number : MethodName := ⟨RX7, "number", "(II)I"⟩
def dkwX7_number_2 : List UInt8 := [180, 0, 42, 62, 42, 182, 0, 19, 29, 172]
abbrev dktX7_number_2 : List UInt8 := dkwX7_number_2 ++ []
def dkwX7_number_1 : List UInt8 := [180, 0, 42, 28, 164, 0, 19, 42, 180, 0, 3, 180, 0, 55, 7, 42, 180, 0, 29, 182, 0, 59, 191, 42]
abbrev dktX7_number_1 : List UInt8 := dkwX7_number_1 ++ dktX7_number_2
def dkwX7_number_0 : List UInt8 := [42, 180, 0, 32, 5, 159, 0, 8, 42, 182, 0, 68, 191, 42, 180, 0, 42, 27, 161, 0, 11, 42]
abbrev dktX7_number_0 : List UInt8 := dkwX7_number_0 ++ dktX7_number_1
theorem dksX7_number_0 : cX7_number.data.toList.drop 0 = dktX7_number_0 := by decide +kernel
theorem dksX7_number_1 : cX7_number.data.toList.drop 22 = dktX7_number_1 := dk_seg dksX7_number_0 22 rfl rfl
theorem dksX7_number_2 : cX7_number.data.toList.drop 46 = dktX7_number_2 := dk_seg dksX7_number_1 24 rfl rfl
theorem dX7_number_0 : decode cX7_number 0 = .ok (.aload_n 0, 1) := dk_42 (dk_at dksX7_number_0 0 rfl rfl)
theorem dX7_number_1 : decode cX7_number 1 = .ok (.getfield 32, 3) := dk_180 0 32 (dk_at dksX7_number_0 1 rfl rfl)
theorem dX7_number_4 : decode cX7_number 4 = .ok (.iconst 2, 1) := dk_5 (dk_at dksX7_number_0 4 rfl rfl)
theorem dX7_number_5 : decode cX7_number 5 = .ok (.if_icmp .eq 8, 3) := dk_159 0 8 (dk_at dksX7_number_0 5 rfl rfl)
theorem dX7_number_8 : decode cX7_number 8 = .ok (.aload_n 0, 1) := dk_42 (dk_at dksX7_number_0 8 rfl rfl)
theorem dX7_number_9 : decode cX7_number 9 = .ok (.invokevirtual 68, 3) := dk_182 0 68 (dk_at dksX7_number_0 9 rfl rfl)
theorem dX7_number_12 : decode cX7_number 12 = .ok (.athrow, 1) := dk_191 (dk_at dksX7_number_0 12 rfl rfl)
theorem dX7_number_13 : decode cX7_number 13 = .ok (.aload_n 0, 1) := dk_42 (dk_at dksX7_number_0 13 rfl rfl)
theorem dX7_number_14 : decode cX7_number 14 = .ok (.getfield 42, 3) := dk_180 0 42 (dk_at dksX7_number_0 14 rfl rfl)
theorem dX7_number_17 : decode cX7_number 17 = .ok (.iload_n 1, 1) := dk_27 (dk_at dksX7_number_0 17 rfl rfl)
theorem dX7_number_18 : decode cX7_number 18 = .ok (.if_icmp .lt 11, 3) := dk_161 0 11 (dk_at dksX7_number_0 18 rfl rfl)
theorem dX7_number_21 : decode cX7_number 21 = .ok (.aload_n 0, 1) := dk_42 (dk_at dksX7_number_0 21 rfl rfl)
theorem dX7_number_22 : decode cX7_number 22 = .ok (.getfield 42, 3) := dk_180 0 42 (dk_at dksX7_number_1 0 rfl rfl)
theorem dX7_number_25 : decode cX7_number 25 = .ok (.iload_n 2, 1) := dk_28 (dk_at dksX7_number_1 3 rfl rfl)
theorem dX7_number_26 : decode cX7_number 26 = .ok (.if_icmp .le 19, 3) := dk_164 0 19 (dk_at dksX7_number_1 4 rfl rfl)
theorem dX7_number_29 : decode cX7_number 29 = .ok (.aload_n 0, 1) := dk_42 (dk_at dksX7_number_1 7 rfl rfl)
theorem dX7_number_30 : decode cX7_number 30 = .ok (.getfield 3, 3) := dk_180 0 3 (dk_at dksX7_number_1 8 rfl rfl)
theorem dX7_number_33 : decode cX7_number 33 = .ok (.getfield 55, 3) := dk_180 0 55 (dk_at dksX7_number_1 11 rfl rfl)
theorem dX7_number_36 : decode cX7_number 36 = .ok (.iconst 4, 1) := dk_7 (dk_at dksX7_number_1 14 rfl rfl)
theorem dX7_number_37 : decode cX7_number 37 = .ok (.aload_n 0, 1) := dk_42 (dk_at dksX7_number_1 15 rfl rfl)
theorem dX7_number_38 : decode cX7_number 38 = .ok (.getfield 29, 3) := dk_180 0 29 (dk_at dksX7_number_1 16 rfl rfl)
theorem dX7_number_41 : decode cX7_number 41 = .ok (.invokevirtual 59, 3) := dk_182 0 59 (dk_at dksX7_number_1 19 rfl rfl)
theorem dX7_number_44 : decode cX7_number 44 = .ok (.athrow, 1) := dk_191 (dk_at dksX7_number_1 22 rfl rfl)
theorem dX7_number_45 : decode cX7_number 45 = .ok (.aload_n 0, 1) := dk_42 (dk_at dksX7_number_1 23 rfl rfl)
theorem dX7_number_46 : decode cX7_number 46 = .ok (.getfield 42, 3) := dk_180 0 42 (dk_at dksX7_number_2 0 rfl rfl)
theorem dX7_number_49 : decode cX7_number 49 = .ok (.istore_n 3, 1) := dk_62 (dk_at dksX7_number_2 3 rfl rfl)
theorem dX7_number_50 : decode cX7_number 50 = .ok (.aload_n 0, 1) := dk_42 (dk_at dksX7_number_2 4 rfl rfl)
theorem dX7_number_51 : decode cX7_number 51 = .ok (.invokevirtual 19, 3) := dk_182 0 19 (dk_at dksX7_number_2 5 rfl rfl)
theorem dX7_number_54 : decode cX7_number 54 = .ok (.iload_n 3, 1) := dk_29 (dk_at dksX7_number_2 8 rfl rfl)
theorem dX7_number_55 : decode cX7_number 55 = .ok (.ireturn, 1) := dk_172 (dk_at dksX7_number_2 9 rfl rfl)
abbrev cX7_war : ByteArray := prog_12_method_25_code
def yX7_war : MethodName := ⟨RX7, "war", "(LCargoFlag$World;)V"⟩
def dkwX7_war_1 : List UInt8 := [46, 4, 29, 120, 128, 79, 43, 180, 0, 253, 29, 92, 46, 4, 28, 120, 128, 79, 177]
abbrev dktX7_war_1 : List UInt8 := dkwX7_war_1 ++ []
def dkwX7_war_0 : List UInt8 := [42, 182, 0, 19, 42, 43, 2, 182, 0, 250, 61, 42, 43, 28, 182, 0, 250, 62, 43, 180, 0, 253, 28, 92]
abbrev dktX7_war_0 : List UInt8 := dkwX7_war_0 ++ dktX7_war_1
theorem dksX7_war_0 : cX7_war.data.toList.drop 0 = dktX7_war_0 := by decide +kernel
theorem dksX7_war_1 : cX7_war.data.toList.drop 24 = dktX7_war_1 := dk_seg dksX7_war_0 24 rfl rfl
theorem dX7_war_0 : decode cX7_war 0 = .ok (.aload_n 0, 1) := dk_42 (dk_at dksX7_war_0 0 rfl rfl)
theorem dX7_war_1 : decode cX7_war 1 = .ok (.invokevirtual 19, 3) := dk_182 0 19 (dk_at dksX7_war_0 1 rfl rfl)
theorem dX7_war_4 : decode cX7_war 4 = .ok (.aload_n 0, 1) := dk_42 (dk_at dksX7_war_0 4 rfl rfl)
theorem dX7_war_5 : decode cX7_war 5 = .ok (.aload_n 1, 1) := dk_43 (dk_at dksX7_war_0 5 rfl rfl)
theorem dX7_war_6 : decode cX7_war 6 = .ok (.iconst (-1), 1) := dk_2 (dk_at dksX7_war_0 6 rfl rfl)
theorem dX7_war_7 : decode cX7_war 7 = .ok (.invokevirtual 250, 3) := dk_182 0 250 (dk_at dksX7_war_0 7 rfl rfl)
theorem dX7_war_10 : decode cX7_war 10 = .ok (.istore_n 2, 1) := dk_61 (dk_at dksX7_war_0 10 rfl rfl)
theorem dX7_war_11 : decode cX7_war 11 = .ok (.aload_n 0, 1) := dk_42 (dk_at dksX7_war_0 11 rfl rfl)
theorem dX7_war_12 : decode cX7_war 12 = .ok (.aload_n 1, 1) := dk_43 (dk_at dksX7_war_0 12 rfl rfl)
theorem dX7_war_13 : decode cX7_war 13 = .ok (.iload_n 2, 1) := dk_28 (dk_at dksX7_war_0 13 rfl rfl)
theorem dX7_war_14 : decode cX7_war 14 = .ok (.invokevirtual 250, 3) := dk_182 0 250 (dk_at dksX7_war_0 14 rfl rfl)
theorem dX7_war_17 : decode cX7_war 17 = .ok (.istore_n 3, 1) := dk_62 (dk_at dksX7_war_0 17 rfl rfl)
theorem dX7_war_18 : decode cX7_war 18 = .ok (.aload_n 1, 1) := dk_43 (dk_at dksX7_war_0 18 rfl rfl)
theorem dX7_war_19 : decode cX7_war 19 = .ok (.getfield 253, 3) := dk_180 0 253 (dk_at dksX7_war_0 19 rfl rfl)
theorem dX7_war_22 : decode cX7_war 22 = .ok (.iload_n 2, 1) := dk_28 (dk_at dksX7_war_0 22 rfl rfl)
theorem dX7_war_23 : decode cX7_war 23 = .ok (.dup2, 1) := dk_92 (dk_at dksX7_war_0 23 rfl rfl)
theorem dX7_war_24 : decode cX7_war 24 = .ok (.iaload, 1) := dk_46 (dk_at dksX7_war_1 0 rfl rfl)
theorem dX7_war_25 : decode cX7_war 25 = .ok (.iconst 1, 1) := dk_4 (dk_at dksX7_war_1 1 rfl rfl)
theorem dX7_war_26 : decode cX7_war 26 = .ok (.iload_n 3, 1) := dk_29 (dk_at dksX7_war_1 2 rfl rfl)
theorem dX7_war_27 : decode cX7_war 27 = .ok (.ishl, 1) := dk_120 (dk_at dksX7_war_1 3 rfl rfl)
theorem dX7_war_28 : decode cX7_war 28 = .ok (.ior, 1) := dk_128 (dk_at dksX7_war_1 4 rfl rfl)
theorem dX7_war_29 : decode cX7_war 29 = .ok (.iastore, 1) := dk_79 (dk_at dksX7_war_1 5 rfl rfl)
theorem dX7_war_30 : decode cX7_war 30 = .ok (.aload_n 1, 1) := dk_43 (dk_at dksX7_war_1 6 rfl rfl)
theorem dX7_war_31 : decode cX7_war 31 = .ok (.getfield 253, 3) := dk_180 0 253 (dk_at dksX7_war_1 7 rfl rfl)
theorem dX7_war_34 : decode cX7_war 34 = .ok (.iload_n 3, 1) := dk_29 (dk_at dksX7_war_1 10 rfl rfl)
theorem dX7_war_35 : decode cX7_war 35 = .ok (.dup2, 1) := dk_92 (dk_at dksX7_war_1 11 rfl rfl)
theorem dX7_war_36 : decode cX7_war 36 = .ok (.iaload, 1) := dk_46 (dk_at dksX7_war_1 12 rfl rfl)
theorem dX7_war_37 : decode cX7_war 37 = .ok (.iconst 1, 1) := dk_4 (dk_at dksX7_war_1 13 rfl rfl)
theorem dX7_war_38 : decode cX7_war 38 = .ok (.iload_n 2, 1) := dk_28 (dk_at dksX7_war_1 14 rfl rfl)
theorem dX7_war_39 : decode cX7_war 39 = .ok (.ishl, 1) := dk_120 (dk_at dksX7_war_1 15 rfl rfl)
theorem dX7_war_40 : decode cX7_war 40 = .ok (.ior, 1) := dk_128 (dk_at dksX7_war_1 16 rfl rfl)
theorem dX7_war_41 : decode cX7_war 41 = .ok (.iastore, 1) := dk_79 (dk_at dksX7_war_1 17 rfl rfl)
theorem dX7_war_42 : decode cX7_war 42 = .ok (.return_, 1) := dk_177 (dk_at dksX7_war_1 18 rfl rfl)
abbrev cX7_nation : ByteArray := prog_12_method_19_code
def yX7_nation : MethodName := ⟨RX7, "nation", "(LCargoFlag$World;I)I"⟩
def dkwX7_nation_0 : List UInt8 := [42, 43, 180, 0, 177, 43, 180, 0, 180, 28, 182, 0, 183, 172]
abbrev dktX7_nation_0 : List UInt8 := dkwX7_nation_0 ++ []
theorem dksX7_nation_0 : cX7_nation.data.toList.drop 0 = dktX7_nation_0 := by decide +kernel
theorem dX7_nation_0 : decode cX7_nation 0 = .ok (.aload_n 0, 1) := dk_42 (dk_at dksX7_nation_0 0 rfl rfl)
theorem dX7_nation_1 : decode cX7_nation 1 = .ok (.aload_n 1, 1) := dk_43 (dk_at dksX7_nation_0 1 rfl rfl)
theorem dX7_nation_2 : decode cX7_nation 2 = .ok (.getfield 177, 3) := dk_180 0 177 (dk_at dksX7_nation_0 2 rfl rfl)
theorem dX7_nation_5 : decode cX7_nation 5 = .ok (.aload_n 1, 1) := dk_43 (dk_at dksX7_nation_0 5 rfl rfl)
theorem dX7_nation_6 : decode cX7_nation 6 = .ok (.getfield 180, 3) := dk_180 0 180 (dk_at dksX7_nation_0 6 rfl rfl)
theorem dX7_nation_9 : decode cX7_nation 9 = .ok (.iload_n 2, 1) := dk_28 (dk_at dksX7_nation_0 9 rfl rfl)
theorem dX7_nation_10 : decode cX7_nation 10 = .ok (.invokevirtual 183, 3) := dk_182 0 183 (dk_at dksX7_nation_0 10 rfl rfl)
theorem dX7_nation_13 : decode cX7_nation 13 = .ok (.ireturn, 1) := dk_172 (dk_at dksX7_nation_0 13 rfl rfl)
abbrev cX7_told : ByteArray := prog_12_method_18_code
def yX7_told : MethodName := ⟨RX7, "told", "([LCargoFlag$Named;II)I"⟩
def dkwX7_told_2 : List UInt8 := [180, 0, 29, 182, 0, 59, 191, 42, 182, 0, 19, 21, 4, 172]
abbrev dktX7_told_2 : List UInt8 := dkwX7_told_2 ++ []
def dkwX7_told_1 : List UInt8 := [42, 180, 0, 29, 182, 0, 59, 191, 21, 4, 29, 160, 0, 19, 42, 180, 0, 3, 180, 0, 55, 8, 42]
abbrev dktX7_told_1 : List UInt8 := dkwX7_told_1 ++ dktX7_told_2
def dkwX7_told_0 : List UInt8 := [43, 28, 42, 182, 0, 161, 184, 0, 171, 54, 4, 21, 4, 156, 0, 19, 42, 180, 0, 3, 180, 0, 55, 6]
abbrev dktX7_told_0 : List UInt8 := dkwX7_told_0 ++ dktX7_told_1
theorem dksX7_told_0 : cX7_told.data.toList.drop 0 = dktX7_told_0 := by decide +kernel
theorem dksX7_told_1 : cX7_told.data.toList.drop 24 = dktX7_told_1 := dk_seg dksX7_told_0 24 rfl rfl
theorem dksX7_told_2 : cX7_told.data.toList.drop 47 = dktX7_told_2 := dk_seg dksX7_told_1 23 rfl rfl
theorem dX7_told_0 : decode cX7_told 0 = .ok (.aload_n 1, 1) := dk_43 (dk_at dksX7_told_0 0 rfl rfl)
theorem dX7_told_1 : decode cX7_told 1 = .ok (.iload_n 2, 1) := dk_28 (dk_at dksX7_told_0 1 rfl rfl)
theorem dX7_told_2 : decode cX7_told 2 = .ok (.aload_n 0, 1) := dk_42 (dk_at dksX7_told_0 2 rfl rfl)
theorem dX7_told_3 : decode cX7_told 3 = .ok (.invokevirtual 161, 3) := dk_182 0 161 (dk_at dksX7_told_0 3 rfl rfl)
theorem dX7_told_6 : decode cX7_told 6 = .ok (.invokestatic 171, 3) := dk_184 0 171 (dk_at dksX7_told_0 6 rfl rfl)
theorem dX7_told_9 : decode cX7_told 9 = .ok (.istore 4, 2) := dk_54 4 (dk_at dksX7_told_0 9 rfl rfl)
theorem dX7_told_11 : decode cX7_told 11 = .ok (.iload 4, 2) := dk_21 4 (dk_at dksX7_told_0 11 rfl rfl)
theorem dX7_told_13 : decode cX7_told 13 = .ok (.ifCond .ge 19, 3) := dk_156 0 19 (dk_at dksX7_told_0 13 rfl rfl)
theorem dX7_told_16 : decode cX7_told 16 = .ok (.aload_n 0, 1) := dk_42 (dk_at dksX7_told_0 16 rfl rfl)
theorem dX7_told_17 : decode cX7_told 17 = .ok (.getfield 3, 3) := dk_180 0 3 (dk_at dksX7_told_0 17 rfl rfl)
theorem dX7_told_20 : decode cX7_told 20 = .ok (.getfield 55, 3) := dk_180 0 55 (dk_at dksX7_told_0 20 rfl rfl)
theorem dX7_told_23 : decode cX7_told 23 = .ok (.iconst 3, 1) := dk_6 (dk_at dksX7_told_0 23 rfl rfl)
theorem dX7_told_24 : decode cX7_told 24 = .ok (.aload_n 0, 1) := dk_42 (dk_at dksX7_told_1 0 rfl rfl)
theorem dX7_told_25 : decode cX7_told 25 = .ok (.getfield 29, 3) := dk_180 0 29 (dk_at dksX7_told_1 1 rfl rfl)
theorem dX7_told_28 : decode cX7_told 28 = .ok (.invokevirtual 59, 3) := dk_182 0 59 (dk_at dksX7_told_1 4 rfl rfl)
theorem dX7_told_31 : decode cX7_told 31 = .ok (.athrow, 1) := dk_191 (dk_at dksX7_told_1 7 rfl rfl)
theorem dX7_told_32 : decode cX7_told 32 = .ok (.iload 4, 2) := dk_21 4 (dk_at dksX7_told_1 8 rfl rfl)
theorem dX7_told_34 : decode cX7_told 34 = .ok (.iload_n 3, 1) := dk_29 (dk_at dksX7_told_1 10 rfl rfl)
theorem dX7_told_35 : decode cX7_told 35 = .ok (.if_icmp .ne 19, 3) := dk_160 0 19 (dk_at dksX7_told_1 11 rfl rfl)
theorem dX7_told_38 : decode cX7_told 38 = .ok (.aload_n 0, 1) := dk_42 (dk_at dksX7_told_1 14 rfl rfl)
theorem dX7_told_39 : decode cX7_told 39 = .ok (.getfield 3, 3) := dk_180 0 3 (dk_at dksX7_told_1 15 rfl rfl)
theorem dX7_told_42 : decode cX7_told 42 = .ok (.getfield 55, 3) := dk_180 0 55 (dk_at dksX7_told_1 18 rfl rfl)
theorem dX7_told_45 : decode cX7_told 45 = .ok (.iconst 5, 1) := dk_8 (dk_at dksX7_told_1 21 rfl rfl)
theorem dX7_told_46 : decode cX7_told 46 = .ok (.aload_n 0, 1) := dk_42 (dk_at dksX7_told_1 22 rfl rfl)
theorem dX7_told_47 : decode cX7_told 47 = .ok (.getfield 29, 3) := dk_180 0 29 (dk_at dksX7_told_2 0 rfl rfl)
theorem dX7_told_50 : decode cX7_told 50 = .ok (.invokevirtual 59, 3) := dk_182 0 59 (dk_at dksX7_told_2 3 rfl rfl)
theorem dX7_told_53 : decode cX7_told 53 = .ok (.athrow, 1) := dk_191 (dk_at dksX7_told_2 6 rfl rfl)
theorem dX7_told_54 : decode cX7_told 54 = .ok (.aload_n 0, 1) := dk_42 (dk_at dksX7_told_2 7 rfl rfl)
theorem dX7_told_55 : decode cX7_told 55 = .ok (.invokevirtual 19, 3) := dk_182 0 19 (dk_at dksX7_told_2 8 rfl rfl)
theorem dX7_told_58 : decode cX7_told 58 = .ok (.iload 4, 2) := dk_21 4 (dk_at dksX7_told_2 11 rfl rfl)
theorem dX7_told_60 : decode cX7_told 60 = .ok (.ireturn, 1) := dk_172 (dk_at dksX7_told_2 13 rfl rfl)
abbrev cX7_newGood : ByteArray := prog_12_method_26_code
def yX7_newGood : MethodName := ⟨RX7, "newGood", "(LCargoFlag$World;)V"⟩
def dkwX7_newGood_3 : List UInt8 := [180, 0, 187, 43, 180, 0, 190, 44, 83, 43, 89, 180, 0, 190, 4, 96, 181, 0, 190, 177]
abbrev dktX7_newGood_3 : List UInt8 := dkwX7_newGood_3 ++ []
def dkwX7_newGood_2 : List UInt8 := [4, 16, 99, 182, 0, 83, 181, 1, 6, 44, 42, 18, 122, 3, 16, 9, 3, 182, 0, 240, 181, 1, 8, 43]
abbrev dktX7_newGood_2 : List UInt8 := dkwX7_newGood_2 ++ dktX7_newGood_3
def dkwX7_newGood_1 : List UInt8 := [183, 1, 3, 77, 42, 18, 118, 182, 0, 76, 44, 42, 43, 2, 182, 0, 250, 181, 1, 4, 44, 42, 18, 120]
abbrev dktX7_newGood_1 : List UInt8 := dkwX7_newGood_1 ++ dktX7_newGood_2
def dkwX7_newGood_0 : List UInt8 := [187, 1, 1, 89, 42, 43, 43, 180, 0, 190, 16, 8, 162, 0, 7, 4, 167, 0, 4, 3, 182, 0, 233]
abbrev dktX7_newGood_0 : List UInt8 := dkwX7_newGood_0 ++ dktX7_newGood_1
theorem dksX7_newGood_0 : cX7_newGood.data.toList.drop 0 = dktX7_newGood_0 := by decide +kernel
theorem dksX7_newGood_1 : cX7_newGood.data.toList.drop 23 = dktX7_newGood_1 := dk_seg dksX7_newGood_0 23 rfl rfl
theorem dksX7_newGood_2 : cX7_newGood.data.toList.drop 47 = dktX7_newGood_2 := dk_seg dksX7_newGood_1 24 rfl rfl
theorem dksX7_newGood_3 : cX7_newGood.data.toList.drop 71 = dktX7_newGood_3 := dk_seg dksX7_newGood_2 24 rfl rfl
theorem dX7_newGood_0 : decode cX7_newGood 0 = .ok (.new 257, 3) := dk_187 1 1 (dk_at dksX7_newGood_0 0 rfl rfl)
theorem dX7_newGood_3 : decode cX7_newGood 3 = .ok (.dup, 1) := dk_89 (dk_at dksX7_newGood_0 3 rfl rfl)
theorem dX7_newGood_4 : decode cX7_newGood 4 = .ok (.aload_n 0, 1) := dk_42 (dk_at dksX7_newGood_0 4 rfl rfl)
theorem dX7_newGood_5 : decode cX7_newGood 5 = .ok (.aload_n 1, 1) := dk_43 (dk_at dksX7_newGood_0 5 rfl rfl)
theorem dX7_newGood_6 : decode cX7_newGood 6 = .ok (.aload_n 1, 1) := dk_43 (dk_at dksX7_newGood_0 6 rfl rfl)
theorem dX7_newGood_7 : decode cX7_newGood 7 = .ok (.getfield 190, 3) := dk_180 0 190 (dk_at dksX7_newGood_0 7 rfl rfl)
theorem dX7_newGood_10 : decode cX7_newGood 10 = .ok (.bipush 8, 2) := dk_16 8 (dk_at dksX7_newGood_0 10 rfl rfl)
theorem dX7_newGood_12 : decode cX7_newGood 12 = .ok (.if_icmp .ge 7, 3) := dk_162 0 7 (dk_at dksX7_newGood_0 12 rfl rfl)
theorem dX7_newGood_15 : decode cX7_newGood 15 = .ok (.iconst 1, 1) := dk_4 (dk_at dksX7_newGood_0 15 rfl rfl)
theorem dX7_newGood_16 : decode cX7_newGood 16 = .ok (.goto 4, 3) := dk_167 0 4 (dk_at dksX7_newGood_0 16 rfl rfl)
theorem dX7_newGood_19 : decode cX7_newGood 19 = .ok (.iconst 0, 1) := dk_3 (dk_at dksX7_newGood_0 19 rfl rfl)
theorem dX7_newGood_20 : decode cX7_newGood 20 = .ok (.invokevirtual 233, 3) := dk_182 0 233 (dk_at dksX7_newGood_0 20 rfl rfl)
theorem dX7_newGood_23 : decode cX7_newGood 23 = .ok (.invokespecial 259, 3) := dk_183 1 3 (dk_at dksX7_newGood_1 0 rfl rfl)
theorem dX7_newGood_26 : decode cX7_newGood 26 = .ok (.astore_n 2, 1) := dk_77 (dk_at dksX7_newGood_1 3 rfl rfl)
theorem dX7_newGood_27 : decode cX7_newGood 27 = .ok (.aload_n 0, 1) := dk_42 (dk_at dksX7_newGood_1 4 rfl rfl)
theorem dX7_newGood_28 : decode cX7_newGood 28 = .ok (.ldc 118, 2) := dk_18 118 (dk_at dksX7_newGood_1 5 rfl rfl)
theorem dX7_newGood_30 : decode cX7_newGood 30 = .ok (.invokevirtual 76, 3) := dk_182 0 76 (dk_at dksX7_newGood_1 7 rfl rfl)
theorem dX7_newGood_33 : decode cX7_newGood 33 = .ok (.aload_n 2, 1) := dk_44 (dk_at dksX7_newGood_1 10 rfl rfl)
theorem dX7_newGood_34 : decode cX7_newGood 34 = .ok (.aload_n 0, 1) := dk_42 (dk_at dksX7_newGood_1 11 rfl rfl)
theorem dX7_newGood_35 : decode cX7_newGood 35 = .ok (.aload_n 1, 1) := dk_43 (dk_at dksX7_newGood_1 12 rfl rfl)
theorem dX7_newGood_36 : decode cX7_newGood 36 = .ok (.iconst (-1), 1) := dk_2 (dk_at dksX7_newGood_1 13 rfl rfl)
theorem dX7_newGood_37 : decode cX7_newGood 37 = .ok (.invokevirtual 250, 3) := dk_182 0 250 (dk_at dksX7_newGood_1 14 rfl rfl)
theorem dX7_newGood_40 : decode cX7_newGood 40 = .ok (.putfield 260, 3) := dk_181 1 4 (dk_at dksX7_newGood_1 17 rfl rfl)
theorem dX7_newGood_43 : decode cX7_newGood 43 = .ok (.aload_n 2, 1) := dk_44 (dk_at dksX7_newGood_1 20 rfl rfl)
theorem dX7_newGood_44 : decode cX7_newGood 44 = .ok (.aload_n 0, 1) := dk_42 (dk_at dksX7_newGood_1 21 rfl rfl)
theorem dX7_newGood_45 : decode cX7_newGood 45 = .ok (.ldc 120, 2) := dk_18 120 (dk_at dksX7_newGood_1 22 rfl rfl)
theorem dX7_newGood_47 : decode cX7_newGood 47 = .ok (.iconst 1, 1) := dk_4 (dk_at dksX7_newGood_2 0 rfl rfl)
theorem dX7_newGood_48 : decode cX7_newGood 48 = .ok (.bipush 99, 2) := dk_16 99 (dk_at dksX7_newGood_2 1 rfl rfl)
theorem dX7_newGood_50 : decode cX7_newGood 50 = .ok (.invokevirtual 83, 3) := dk_182 0 83 (dk_at dksX7_newGood_2 3 rfl rfl)
theorem dX7_newGood_53 : decode cX7_newGood 53 = .ok (.putfield 262, 3) := dk_181 1 6 (dk_at dksX7_newGood_2 6 rfl rfl)
theorem dX7_newGood_56 : decode cX7_newGood 56 = .ok (.aload_n 2, 1) := dk_44 (dk_at dksX7_newGood_2 9 rfl rfl)
theorem dX7_newGood_57 : decode cX7_newGood 57 = .ok (.aload_n 0, 1) := dk_42 (dk_at dksX7_newGood_2 10 rfl rfl)
theorem dX7_newGood_58 : decode cX7_newGood 58 = .ok (.ldc 122, 2) := dk_18 122 (dk_at dksX7_newGood_2 11 rfl rfl)
theorem dX7_newGood_60 : decode cX7_newGood 60 = .ok (.iconst 0, 1) := dk_3 (dk_at dksX7_newGood_2 13 rfl rfl)
theorem dX7_newGood_61 : decode cX7_newGood 61 = .ok (.bipush 9, 2) := dk_16 9 (dk_at dksX7_newGood_2 14 rfl rfl)
theorem dX7_newGood_63 : decode cX7_newGood 63 = .ok (.iconst 0, 1) := dk_3 (dk_at dksX7_newGood_2 16 rfl rfl)
theorem dX7_newGood_64 : decode cX7_newGood 64 = .ok (.invokevirtual 240, 3) := dk_182 0 240 (dk_at dksX7_newGood_2 17 rfl rfl)
theorem dX7_newGood_67 : decode cX7_newGood 67 = .ok (.putfield 264, 3) := dk_181 1 8 (dk_at dksX7_newGood_2 20 rfl rfl)
theorem dX7_newGood_70 : decode cX7_newGood 70 = .ok (.aload_n 1, 1) := dk_43 (dk_at dksX7_newGood_2 23 rfl rfl)
theorem dX7_newGood_71 : decode cX7_newGood 71 = .ok (.getfield 187, 3) := dk_180 0 187 (dk_at dksX7_newGood_3 0 rfl rfl)
theorem dX7_newGood_74 : decode cX7_newGood 74 = .ok (.aload_n 1, 1) := dk_43 (dk_at dksX7_newGood_3 3 rfl rfl)
theorem dX7_newGood_75 : decode cX7_newGood 75 = .ok (.getfield 190, 3) := dk_180 0 190 (dk_at dksX7_newGood_3 4 rfl rfl)
theorem dX7_newGood_78 : decode cX7_newGood 78 = .ok (.aload_n 2, 1) := dk_44 (dk_at dksX7_newGood_3 7 rfl rfl)
theorem dX7_newGood_79 : decode cX7_newGood 79 = .ok (.aastore, 1) := dk_83 (dk_at dksX7_newGood_3 8 rfl rfl)
theorem dX7_newGood_80 : decode cX7_newGood 80 = .ok (.aload_n 1, 1) := dk_43 (dk_at dksX7_newGood_3 9 rfl rfl)
theorem dX7_newGood_81 : decode cX7_newGood 81 = .ok (.dup, 1) := dk_89 (dk_at dksX7_newGood_3 10 rfl rfl)
theorem dX7_newGood_82 : decode cX7_newGood 82 = .ok (.getfield 190, 3) := dk_180 0 190 (dk_at dksX7_newGood_3 11 rfl rfl)
theorem dX7_newGood_85 : decode cX7_newGood 85 = .ok (.iconst 1, 1) := dk_4 (dk_at dksX7_newGood_3 14 rfl rfl)
theorem dX7_newGood_86 : decode cX7_newGood 86 = .ok (.iadd, 1) := dk_96 (dk_at dksX7_newGood_3 15 rfl rfl)
theorem dX7_newGood_87 : decode cX7_newGood 87 = .ok (.putfield 190, 3) := dk_181 0 190 (dk_at dksX7_newGood_3 16 rfl rfl)
theorem dX7_newGood_90 : decode cX7_newGood 90 = .ok (.return_, 1) := dk_177 (dk_at dksX7_newGood_3 19 rfl rfl)
abbrev cX7_newPort : ByteArray := prog_12_method_27_code
def yX7_newPort : MethodName := ⟨RX7, "newPort", "(LCargoFlag$World;)V"⟩
def dkwX7_newPort_2 : List UInt8 := [181, 1, 13, 43, 180, 0, 193, 43, 180, 0, 196, 44, 83, 43, 89, 180, 0, 196, 4, 96, 181, 0, 196, 177]
abbrev dktX7_newPort_2 : List UInt8 := dkwX7_newPort_2 ++ []
def dkwX7_newPort_1 : List UInt8 := [183, 1, 12, 77, 42, 18, 118, 182, 0, 72, 153, 0, 17, 42, 182, 0, 19, 44, 42, 43, 2, 182, 0, 250]
abbrev dktX7_newPort_1 : List UInt8 := dkwX7_newPort_1 ++ dktX7_newPort_2
def dkwX7_newPort_0 : List UInt8 := [187, 1, 10, 89, 42, 43, 43, 180, 0, 196, 16, 6, 162, 0, 7, 4, 167, 0, 4, 3, 182, 0, 233]
abbrev dktX7_newPort_0 : List UInt8 := dkwX7_newPort_0 ++ dktX7_newPort_1
theorem dksX7_newPort_0 : cX7_newPort.data.toList.drop 0 = dktX7_newPort_0 := by decide +kernel
theorem dksX7_newPort_1 : cX7_newPort.data.toList.drop 23 = dktX7_newPort_1 := dk_seg dksX7_newPort_0 23 rfl rfl
theorem dksX7_newPort_2 : cX7_newPort.data.toList.drop 47 = dktX7_newPort_2 := dk_seg dksX7_newPort_1 24 rfl rfl
theorem dX7_newPort_0 : decode cX7_newPort 0 = .ok (.new 266, 3) := dk_187 1 10 (dk_at dksX7_newPort_0 0 rfl rfl)
theorem dX7_newPort_3 : decode cX7_newPort 3 = .ok (.dup, 1) := dk_89 (dk_at dksX7_newPort_0 3 rfl rfl)
theorem dX7_newPort_4 : decode cX7_newPort 4 = .ok (.aload_n 0, 1) := dk_42 (dk_at dksX7_newPort_0 4 rfl rfl)
theorem dX7_newPort_5 : decode cX7_newPort 5 = .ok (.aload_n 1, 1) := dk_43 (dk_at dksX7_newPort_0 5 rfl rfl)
theorem dX7_newPort_6 : decode cX7_newPort 6 = .ok (.aload_n 1, 1) := dk_43 (dk_at dksX7_newPort_0 6 rfl rfl)
theorem dX7_newPort_7 : decode cX7_newPort 7 = .ok (.getfield 196, 3) := dk_180 0 196 (dk_at dksX7_newPort_0 7 rfl rfl)
theorem dX7_newPort_10 : decode cX7_newPort 10 = .ok (.bipush 6, 2) := dk_16 6 (dk_at dksX7_newPort_0 10 rfl rfl)
theorem dX7_newPort_12 : decode cX7_newPort 12 = .ok (.if_icmp .ge 7, 3) := dk_162 0 7 (dk_at dksX7_newPort_0 12 rfl rfl)
theorem dX7_newPort_15 : decode cX7_newPort 15 = .ok (.iconst 1, 1) := dk_4 (dk_at dksX7_newPort_0 15 rfl rfl)
theorem dX7_newPort_16 : decode cX7_newPort 16 = .ok (.goto 4, 3) := dk_167 0 4 (dk_at dksX7_newPort_0 16 rfl rfl)
theorem dX7_newPort_19 : decode cX7_newPort 19 = .ok (.iconst 0, 1) := dk_3 (dk_at dksX7_newPort_0 19 rfl rfl)
theorem dX7_newPort_20 : decode cX7_newPort 20 = .ok (.invokevirtual 233, 3) := dk_182 0 233 (dk_at dksX7_newPort_0 20 rfl rfl)
theorem dX7_newPort_23 : decode cX7_newPort 23 = .ok (.invokespecial 268, 3) := dk_183 1 12 (dk_at dksX7_newPort_1 0 rfl rfl)
theorem dX7_newPort_26 : decode cX7_newPort 26 = .ok (.astore_n 2, 1) := dk_77 (dk_at dksX7_newPort_1 3 rfl rfl)
theorem dX7_newPort_27 : decode cX7_newPort 27 = .ok (.aload_n 0, 1) := dk_42 (dk_at dksX7_newPort_1 4 rfl rfl)
theorem dX7_newPort_28 : decode cX7_newPort 28 = .ok (.ldc 118, 2) := dk_18 118 (dk_at dksX7_newPort_1 5 rfl rfl)
theorem dX7_newPort_30 : decode cX7_newPort 30 = .ok (.invokevirtual 72, 3) := dk_182 0 72 (dk_at dksX7_newPort_1 7 rfl rfl)
theorem dX7_newPort_33 : decode cX7_newPort 33 = .ok (.ifCond .eq 17, 3) := dk_153 0 17 (dk_at dksX7_newPort_1 10 rfl rfl)
theorem dX7_newPort_36 : decode cX7_newPort 36 = .ok (.aload_n 0, 1) := dk_42 (dk_at dksX7_newPort_1 13 rfl rfl)
theorem dX7_newPort_37 : decode cX7_newPort 37 = .ok (.invokevirtual 19, 3) := dk_182 0 19 (dk_at dksX7_newPort_1 14 rfl rfl)
theorem dX7_newPort_40 : decode cX7_newPort 40 = .ok (.aload_n 2, 1) := dk_44 (dk_at dksX7_newPort_1 17 rfl rfl)
theorem dX7_newPort_41 : decode cX7_newPort 41 = .ok (.aload_n 0, 1) := dk_42 (dk_at dksX7_newPort_1 18 rfl rfl)
theorem dX7_newPort_42 : decode cX7_newPort 42 = .ok (.aload_n 1, 1) := dk_43 (dk_at dksX7_newPort_1 19 rfl rfl)
theorem dX7_newPort_43 : decode cX7_newPort 43 = .ok (.iconst (-1), 1) := dk_2 (dk_at dksX7_newPort_1 20 rfl rfl)
theorem dX7_newPort_44 : decode cX7_newPort 44 = .ok (.invokevirtual 250, 3) := dk_182 0 250 (dk_at dksX7_newPort_1 21 rfl rfl)
theorem dX7_newPort_47 : decode cX7_newPort 47 = .ok (.putfield 269, 3) := dk_181 1 13 (dk_at dksX7_newPort_2 0 rfl rfl)
theorem dX7_newPort_50 : decode cX7_newPort 50 = .ok (.aload_n 1, 1) := dk_43 (dk_at dksX7_newPort_2 3 rfl rfl)
theorem dX7_newPort_51 : decode cX7_newPort 51 = .ok (.getfield 193, 3) := dk_180 0 193 (dk_at dksX7_newPort_2 4 rfl rfl)
theorem dX7_newPort_54 : decode cX7_newPort 54 = .ok (.aload_n 1, 1) := dk_43 (dk_at dksX7_newPort_2 7 rfl rfl)
theorem dX7_newPort_55 : decode cX7_newPort 55 = .ok (.getfield 196, 3) := dk_180 0 196 (dk_at dksX7_newPort_2 8 rfl rfl)
theorem dX7_newPort_58 : decode cX7_newPort 58 = .ok (.aload_n 2, 1) := dk_44 (dk_at dksX7_newPort_2 11 rfl rfl)
theorem dX7_newPort_59 : decode cX7_newPort 59 = .ok (.aastore, 1) := dk_83 (dk_at dksX7_newPort_2 12 rfl rfl)
theorem dX7_newPort_60 : decode cX7_newPort 60 = .ok (.aload_n 1, 1) := dk_43 (dk_at dksX7_newPort_2 13 rfl rfl)
theorem dX7_newPort_61 : decode cX7_newPort 61 = .ok (.dup, 1) := dk_89 (dk_at dksX7_newPort_2 14 rfl rfl)
theorem dX7_newPort_62 : decode cX7_newPort 62 = .ok (.getfield 196, 3) := dk_180 0 196 (dk_at dksX7_newPort_2 15 rfl rfl)
theorem dX7_newPort_65 : decode cX7_newPort 65 = .ok (.iconst 1, 1) := dk_4 (dk_at dksX7_newPort_2 18 rfl rfl)
theorem dX7_newPort_66 : decode cX7_newPort 66 = .ok (.iadd, 1) := dk_96 (dk_at dksX7_newPort_2 19 rfl rfl)
theorem dX7_newPort_67 : decode cX7_newPort 67 = .ok (.putfield 196, 3) := dk_181 0 196 (dk_at dksX7_newPort_2 20 rfl rfl)
theorem dX7_newPort_70 : decode cX7_newPort 70 = .ok (.return_, 1) := dk_177 (dk_at dksX7_newPort_2 23 rfl rfl)
abbrev cX7_price : ByteArray := prog_12_method_28_code
def yX7_price : MethodName := ⟨RX7, "price", "(LCargoFlag$World;)V"⟩
def dkwX7_price_1 : List UInt8 := [104, 29, 96, 42, 4, 16, 99, 182, 0, 80, 79, 177]
abbrev dktX7_price_1 : List UInt8 := dkwX7_price_1 ++ []
def dkwX7_price_0 : List UInt8 := [42, 182, 0, 19, 42, 43, 2, 182, 1, 14, 61, 42, 43, 182, 1, 16, 62, 43, 180, 1, 19, 16, 8, 28]
abbrev dktX7_price_0 : List UInt8 := dkwX7_price_0 ++ dktX7_price_1
theorem dksX7_price_0 : cX7_price.data.toList.drop 0 = dktX7_price_0 := by decide +kernel
theorem dksX7_price_1 : cX7_price.data.toList.drop 24 = dktX7_price_1 := dk_seg dksX7_price_0 24 rfl rfl
theorem dX7_price_0 : decode cX7_price 0 = .ok (.aload_n 0, 1) := dk_42 (dk_at dksX7_price_0 0 rfl rfl)
theorem dX7_price_1 : decode cX7_price 1 = .ok (.invokevirtual 19, 3) := dk_182 0 19 (dk_at dksX7_price_0 1 rfl rfl)
theorem dX7_price_4 : decode cX7_price 4 = .ok (.aload_n 0, 1) := dk_42 (dk_at dksX7_price_0 4 rfl rfl)
theorem dX7_price_5 : decode cX7_price 5 = .ok (.aload_n 1, 1) := dk_43 (dk_at dksX7_price_0 5 rfl rfl)
theorem dX7_price_6 : decode cX7_price 6 = .ok (.iconst (-1), 1) := dk_2 (dk_at dksX7_price_0 6 rfl rfl)
theorem dX7_price_7 : decode cX7_price 7 = .ok (.invokevirtual 270, 3) := dk_182 1 14 (dk_at dksX7_price_0 7 rfl rfl)
theorem dX7_price_10 : decode cX7_price 10 = .ok (.istore_n 2, 1) := dk_61 (dk_at dksX7_price_0 10 rfl rfl)
theorem dX7_price_11 : decode cX7_price 11 = .ok (.aload_n 0, 1) := dk_42 (dk_at dksX7_price_0 11 rfl rfl)
theorem dX7_price_12 : decode cX7_price 12 = .ok (.aload_n 1, 1) := dk_43 (dk_at dksX7_price_0 12 rfl rfl)
theorem dX7_price_13 : decode cX7_price 13 = .ok (.invokevirtual 272, 3) := dk_182 1 16 (dk_at dksX7_price_0 13 rfl rfl)
theorem dX7_price_16 : decode cX7_price 16 = .ok (.istore_n 3, 1) := dk_62 (dk_at dksX7_price_0 16 rfl rfl)
theorem dX7_price_17 : decode cX7_price 17 = .ok (.aload_n 1, 1) := dk_43 (dk_at dksX7_price_0 17 rfl rfl)
theorem dX7_price_18 : decode cX7_price 18 = .ok (.getfield 275, 3) := dk_180 1 19 (dk_at dksX7_price_0 18 rfl rfl)
theorem dX7_price_21 : decode cX7_price 21 = .ok (.bipush 8, 2) := dk_16 8 (dk_at dksX7_price_0 21 rfl rfl)
theorem dX7_price_23 : decode cX7_price 23 = .ok (.iload_n 2, 1) := dk_28 (dk_at dksX7_price_0 23 rfl rfl)
theorem dX7_price_24 : decode cX7_price 24 = .ok (.imul, 1) := dk_104 (dk_at dksX7_price_1 0 rfl rfl)
theorem dX7_price_25 : decode cX7_price 25 = .ok (.iload_n 3, 1) := dk_29 (dk_at dksX7_price_1 1 rfl rfl)
theorem dX7_price_26 : decode cX7_price 26 = .ok (.iadd, 1) := dk_96 (dk_at dksX7_price_1 2 rfl rfl)
theorem dX7_price_27 : decode cX7_price 27 = .ok (.aload_n 0, 1) := dk_42 (dk_at dksX7_price_1 3 rfl rfl)
theorem dX7_price_28 : decode cX7_price 28 = .ok (.iconst 1, 1) := dk_4 (dk_at dksX7_price_1 4 rfl rfl)
theorem dX7_price_29 : decode cX7_price 29 = .ok (.bipush 99, 2) := dk_16 99 (dk_at dksX7_price_1 5 rfl rfl)
theorem dX7_price_31 : decode cX7_price 31 = .ok (.invokevirtual 80, 3) := dk_182 0 80 (dk_at dksX7_price_1 7 rfl rfl)
theorem dX7_price_34 : decode cX7_price 34 = .ok (.iastore, 1) := dk_79 (dk_at dksX7_price_1 10 rfl rfl)
theorem dX7_price_35 : decode cX7_price 35 = .ok (.return_, 1) := dk_177 (dk_at dksX7_price_1 11 rfl rfl)
abbrev cX7_port : ByteArray := prog_12_method_21_code
def yX7_port : MethodName := ⟨RX7, "port", "(LCargoFlag$World;I)I"⟩
def dkwX7_port_0 : List UInt8 := [42, 43, 180, 0, 193, 43, 180, 0, 196, 28, 182, 0, 183, 172]
abbrev dktX7_port_0 : List UInt8 := dkwX7_port_0 ++ []
theorem dksX7_port_0 : cX7_port.data.toList.drop 0 = dktX7_port_0 := by decide +kernel
theorem dX7_port_0 : decode cX7_port 0 = .ok (.aload_n 0, 1) := dk_42 (dk_at dksX7_port_0 0 rfl rfl)
theorem dX7_port_1 : decode cX7_port 1 = .ok (.aload_n 1, 1) := dk_43 (dk_at dksX7_port_0 1 rfl rfl)
theorem dX7_port_2 : decode cX7_port 2 = .ok (.getfield 193, 3) := dk_180 0 193 (dk_at dksX7_port_0 2 rfl rfl)
theorem dX7_port_5 : decode cX7_port 5 = .ok (.aload_n 1, 1) := dk_43 (dk_at dksX7_port_0 5 rfl rfl)
theorem dX7_port_6 : decode cX7_port 6 = .ok (.getfield 196, 3) := dk_180 0 196 (dk_at dksX7_port_0 6 rfl rfl)
theorem dX7_port_9 : decode cX7_port 9 = .ok (.iload_n 2, 1) := dk_28 (dk_at dksX7_port_0 9 rfl rfl)
theorem dX7_port_10 : decode cX7_port 10 = .ok (.invokevirtual 183, 3) := dk_182 0 183 (dk_at dksX7_port_0 10 rfl rfl)
theorem dX7_port_13 : decode cX7_port 13 = .ok (.ireturn, 1) := dk_172 (dk_at dksX7_port_0 13 rfl rfl)
abbrev cX7_good : ByteArray := prog_12_method_20_code
def yX7_good : MethodName := ⟨RX7, "good", "(LCargoFlag$World;)I"⟩
def dkwX7_good_0 : List UInt8 := [42, 43, 180, 0, 187, 43, 180, 0, 190, 2, 182, 0, 183, 172]
abbrev dktX7_good_0 : List UInt8 := dkwX7_good_0 ++ []
theorem dksX7_good_0 : cX7_good.data.toList.drop 0 = dktX7_good_0 := by decide +kernel
theorem dX7_good_0 : decode cX7_good 0 = .ok (.aload_n 0, 1) := dk_42 (dk_at dksX7_good_0 0 rfl rfl)
theorem dX7_good_1 : decode cX7_good 1 = .ok (.aload_n 1, 1) := dk_43 (dk_at dksX7_good_0 1 rfl rfl)
theorem dX7_good_2 : decode cX7_good 2 = .ok (.getfield 187, 3) := dk_180 0 187 (dk_at dksX7_good_0 2 rfl rfl)
theorem dX7_good_5 : decode cX7_good 5 = .ok (.aload_n 1, 1) := dk_43 (dk_at dksX7_good_0 5 rfl rfl)
theorem dX7_good_6 : decode cX7_good 6 = .ok (.getfield 190, 3) := dk_180 0 190 (dk_at dksX7_good_0 6 rfl rfl)
theorem dX7_good_9 : decode cX7_good 9 = .ok (.iconst (-1), 1) := dk_2 (dk_at dksX7_good_0 9 rfl rfl)
theorem dX7_good_10 : decode cX7_good 10 = .ok (.invokevirtual 183, 3) := dk_182 0 183 (dk_at dksX7_good_0 10 rfl rfl)
theorem dX7_good_13 : decode cX7_good 13 = .ok (.ireturn, 1) := dk_172 (dk_at dksX7_good_0 13 rfl rfl)
abbrev cX7_way : ByteArray := prog_12_method_29_code
def yX7_way : MethodName := ⟨RX7, "way", "(LCargoFlag$World;)V"⟩
def dkwX7_way_2 : List UInt8 := [43, 180, 1, 21, 16, 6, 28, 104, 29, 96, 46, 79, 177]
abbrev dktX7_way_2 : List UInt8 := dkwX7_way_2 ++ []
def dkwX7_way_1 : List UInt8 := [28, 104, 29, 96, 42, 18, 130, 4, 16, 20, 182, 0, 83, 79, 43, 180, 1, 21, 16, 6, 29, 104, 28, 96]
abbrev dktX7_way_1 : List UInt8 := dkwX7_way_1 ++ dktX7_way_2
def dkwX7_way_0 : List UInt8 := [42, 182, 0, 19, 42, 43, 2, 182, 1, 14, 61, 42, 43, 28, 182, 1, 14, 62, 43, 180, 1, 21, 16, 6]
abbrev dktX7_way_0 : List UInt8 := dkwX7_way_0 ++ dktX7_way_1
theorem dksX7_way_0 : cX7_way.data.toList.drop 0 = dktX7_way_0 := by decide +kernel
theorem dksX7_way_1 : cX7_way.data.toList.drop 24 = dktX7_way_1 := dk_seg dksX7_way_0 24 rfl rfl
theorem dksX7_way_2 : cX7_way.data.toList.drop 48 = dktX7_way_2 := dk_seg dksX7_way_1 24 rfl rfl
theorem dX7_way_0 : decode cX7_way 0 = .ok (.aload_n 0, 1) := dk_42 (dk_at dksX7_way_0 0 rfl rfl)
theorem dX7_way_1 : decode cX7_way 1 = .ok (.invokevirtual 19, 3) := dk_182 0 19 (dk_at dksX7_way_0 1 rfl rfl)
theorem dX7_way_4 : decode cX7_way 4 = .ok (.aload_n 0, 1) := dk_42 (dk_at dksX7_way_0 4 rfl rfl)
theorem dX7_way_5 : decode cX7_way 5 = .ok (.aload_n 1, 1) := dk_43 (dk_at dksX7_way_0 5 rfl rfl)
theorem dX7_way_6 : decode cX7_way 6 = .ok (.iconst (-1), 1) := dk_2 (dk_at dksX7_way_0 6 rfl rfl)
theorem dX7_way_7 : decode cX7_way 7 = .ok (.invokevirtual 270, 3) := dk_182 1 14 (dk_at dksX7_way_0 7 rfl rfl)
theorem dX7_way_10 : decode cX7_way 10 = .ok (.istore_n 2, 1) := dk_61 (dk_at dksX7_way_0 10 rfl rfl)
theorem dX7_way_11 : decode cX7_way 11 = .ok (.aload_n 0, 1) := dk_42 (dk_at dksX7_way_0 11 rfl rfl)
theorem dX7_way_12 : decode cX7_way 12 = .ok (.aload_n 1, 1) := dk_43 (dk_at dksX7_way_0 12 rfl rfl)
theorem dX7_way_13 : decode cX7_way 13 = .ok (.iload_n 2, 1) := dk_28 (dk_at dksX7_way_0 13 rfl rfl)
theorem dX7_way_14 : decode cX7_way 14 = .ok (.invokevirtual 270, 3) := dk_182 1 14 (dk_at dksX7_way_0 14 rfl rfl)
theorem dX7_way_17 : decode cX7_way 17 = .ok (.istore_n 3, 1) := dk_62 (dk_at dksX7_way_0 17 rfl rfl)
theorem dX7_way_18 : decode cX7_way 18 = .ok (.aload_n 1, 1) := dk_43 (dk_at dksX7_way_0 18 rfl rfl)
theorem dX7_way_19 : decode cX7_way 19 = .ok (.getfield 277, 3) := dk_180 1 21 (dk_at dksX7_way_0 19 rfl rfl)
theorem dX7_way_22 : decode cX7_way 22 = .ok (.bipush 6, 2) := dk_16 6 (dk_at dksX7_way_0 22 rfl rfl)
theorem dX7_way_24 : decode cX7_way 24 = .ok (.iload_n 2, 1) := dk_28 (dk_at dksX7_way_1 0 rfl rfl)
theorem dX7_way_25 : decode cX7_way 25 = .ok (.imul, 1) := dk_104 (dk_at dksX7_way_1 1 rfl rfl)
theorem dX7_way_26 : decode cX7_way 26 = .ok (.iload_n 3, 1) := dk_29 (dk_at dksX7_way_1 2 rfl rfl)
theorem dX7_way_27 : decode cX7_way 27 = .ok (.iadd, 1) := dk_96 (dk_at dksX7_way_1 3 rfl rfl)
theorem dX7_way_28 : decode cX7_way 28 = .ok (.aload_n 0, 1) := dk_42 (dk_at dksX7_way_1 4 rfl rfl)
theorem dX7_way_29 : decode cX7_way 29 = .ok (.ldc 130, 2) := dk_18 130 (dk_at dksX7_way_1 5 rfl rfl)
theorem dX7_way_31 : decode cX7_way 31 = .ok (.iconst 1, 1) := dk_4 (dk_at dksX7_way_1 7 rfl rfl)
theorem dX7_way_32 : decode cX7_way 32 = .ok (.bipush 20, 2) := dk_16 20 (dk_at dksX7_way_1 8 rfl rfl)
theorem dX7_way_34 : decode cX7_way 34 = .ok (.invokevirtual 83, 3) := dk_182 0 83 (dk_at dksX7_way_1 10 rfl rfl)
theorem dX7_way_37 : decode cX7_way 37 = .ok (.iastore, 1) := dk_79 (dk_at dksX7_way_1 13 rfl rfl)
theorem dX7_way_38 : decode cX7_way 38 = .ok (.aload_n 1, 1) := dk_43 (dk_at dksX7_way_1 14 rfl rfl)
theorem dX7_way_39 : decode cX7_way 39 = .ok (.getfield 277, 3) := dk_180 1 21 (dk_at dksX7_way_1 15 rfl rfl)
theorem dX7_way_42 : decode cX7_way 42 = .ok (.bipush 6, 2) := dk_16 6 (dk_at dksX7_way_1 18 rfl rfl)
theorem dX7_way_44 : decode cX7_way 44 = .ok (.iload_n 3, 1) := dk_29 (dk_at dksX7_way_1 20 rfl rfl)
theorem dX7_way_45 : decode cX7_way 45 = .ok (.imul, 1) := dk_104 (dk_at dksX7_way_1 21 rfl rfl)
theorem dX7_way_46 : decode cX7_way 46 = .ok (.iload_n 2, 1) := dk_28 (dk_at dksX7_way_1 22 rfl rfl)
theorem dX7_way_47 : decode cX7_way 47 = .ok (.iadd, 1) := dk_96 (dk_at dksX7_way_1 23 rfl rfl)
theorem dX7_way_48 : decode cX7_way 48 = .ok (.aload_n 1, 1) := dk_43 (dk_at dksX7_way_2 0 rfl rfl)
theorem dX7_way_49 : decode cX7_way 49 = .ok (.getfield 277, 3) := dk_180 1 21 (dk_at dksX7_way_2 1 rfl rfl)
theorem dX7_way_52 : decode cX7_way 52 = .ok (.bipush 6, 2) := dk_16 6 (dk_at dksX7_way_2 4 rfl rfl)
theorem dX7_way_54 : decode cX7_way 54 = .ok (.iload_n 2, 1) := dk_28 (dk_at dksX7_way_2 6 rfl rfl)
theorem dX7_way_55 : decode cX7_way 55 = .ok (.imul, 1) := dk_104 (dk_at dksX7_way_2 7 rfl rfl)
theorem dX7_way_56 : decode cX7_way 56 = .ok (.iload_n 3, 1) := dk_29 (dk_at dksX7_way_2 8 rfl rfl)
theorem dX7_way_57 : decode cX7_way 57 = .ok (.iadd, 1) := dk_96 (dk_at dksX7_way_2 9 rfl rfl)
theorem dX7_way_58 : decode cX7_way 58 = .ok (.iaload, 1) := dk_46 (dk_at dksX7_way_2 10 rfl rfl)
theorem dX7_way_59 : decode cX7_way 59 = .ok (.iastore, 1) := dk_79 (dk_at dksX7_way_2 11 rfl rfl)
theorem dX7_way_60 : decode cX7_way 60 = .ok (.return_, 1) := dk_177 (dk_at dksX7_way_2 12 rfl rfl)
abbrev cX7_newShip : ByteArray := prog_12_method_30_code
def yX7_newShip : MethodName := ⟨RX7, "newShip", "(LCargoFlag$World;)V"⟩
def dkwX7_newShip_3 : List UInt8 := [16, 100, 182, 0, 240, 79, 43, 180, 0, 199, 28, 45, 83, 43, 89, 180, 0, 202, 4, 96, 181, 0, 202, 177]
abbrev dktX7_newShip_3 : List UInt8 := dkwX7_newShip_3 ++ []
def dkwX7_newShip_2 : List UInt8 := [18, 135, 4, 16, 60, 182, 0, 83, 181, 1, 28, 43, 180, 1, 30, 28, 42, 18, 104, 3, 17, 39, 15]
abbrev dktX7_newShip_2 : List UInt8 := dkwX7_newShip_2 ++ dktX7_newShip_3
def dkwX7_newShip_1 : List UInt8 := [183, 1, 25, 78, 42, 18, 134, 182, 0, 76, 43, 180, 1, 26, 28, 42, 43, 2, 182, 1, 14, 79, 45, 42]
abbrev dktX7_newShip_1 : List UInt8 := dkwX7_newShip_1 ++ dktX7_newShip_2
def dkwX7_newShip_0 : List UInt8 := [43, 180, 0, 202, 61, 187, 1, 23, 89, 42, 43, 28, 7, 162, 0, 7, 4, 167, 0, 4, 3, 182, 0, 233]
abbrev dktX7_newShip_0 : List UInt8 := dkwX7_newShip_0 ++ dktX7_newShip_1
theorem dksX7_newShip_0 : cX7_newShip.data.toList.drop 0 = dktX7_newShip_0 := by decide +kernel
theorem dksX7_newShip_1 : cX7_newShip.data.toList.drop 24 = dktX7_newShip_1 := dk_seg dksX7_newShip_0 24 rfl rfl
theorem dksX7_newShip_2 : cX7_newShip.data.toList.drop 48 = dktX7_newShip_2 := dk_seg dksX7_newShip_1 24 rfl rfl
theorem dksX7_newShip_3 : cX7_newShip.data.toList.drop 71 = dktX7_newShip_3 := dk_seg dksX7_newShip_2 23 rfl rfl
theorem dX7_newShip_0 : decode cX7_newShip 0 = .ok (.aload_n 1, 1) := dk_43 (dk_at dksX7_newShip_0 0 rfl rfl)
theorem dX7_newShip_1 : decode cX7_newShip 1 = .ok (.getfield 202, 3) := dk_180 0 202 (dk_at dksX7_newShip_0 1 rfl rfl)
theorem dX7_newShip_4 : decode cX7_newShip 4 = .ok (.istore_n 2, 1) := dk_61 (dk_at dksX7_newShip_0 4 rfl rfl)
theorem dX7_newShip_5 : decode cX7_newShip 5 = .ok (.new 279, 3) := dk_187 1 23 (dk_at dksX7_newShip_0 5 rfl rfl)
theorem dX7_newShip_8 : decode cX7_newShip 8 = .ok (.dup, 1) := dk_89 (dk_at dksX7_newShip_0 8 rfl rfl)
theorem dX7_newShip_9 : decode cX7_newShip 9 = .ok (.aload_n 0, 1) := dk_42 (dk_at dksX7_newShip_0 9 rfl rfl)
theorem dX7_newShip_10 : decode cX7_newShip 10 = .ok (.aload_n 1, 1) := dk_43 (dk_at dksX7_newShip_0 10 rfl rfl)
theorem dX7_newShip_11 : decode cX7_newShip 11 = .ok (.iload_n 2, 1) := dk_28 (dk_at dksX7_newShip_0 11 rfl rfl)
theorem dX7_newShip_12 : decode cX7_newShip 12 = .ok (.iconst 4, 1) := dk_7 (dk_at dksX7_newShip_0 12 rfl rfl)
theorem dX7_newShip_13 : decode cX7_newShip 13 = .ok (.if_icmp .ge 7, 3) := dk_162 0 7 (dk_at dksX7_newShip_0 13 rfl rfl)
theorem dX7_newShip_16 : decode cX7_newShip 16 = .ok (.iconst 1, 1) := dk_4 (dk_at dksX7_newShip_0 16 rfl rfl)
theorem dX7_newShip_17 : decode cX7_newShip 17 = .ok (.goto 4, 3) := dk_167 0 4 (dk_at dksX7_newShip_0 17 rfl rfl)
theorem dX7_newShip_20 : decode cX7_newShip 20 = .ok (.iconst 0, 1) := dk_3 (dk_at dksX7_newShip_0 20 rfl rfl)
theorem dX7_newShip_21 : decode cX7_newShip 21 = .ok (.invokevirtual 233, 3) := dk_182 0 233 (dk_at dksX7_newShip_0 21 rfl rfl)
theorem dX7_newShip_24 : decode cX7_newShip 24 = .ok (.invokespecial 281, 3) := dk_183 1 25 (dk_at dksX7_newShip_1 0 rfl rfl)
theorem dX7_newShip_27 : decode cX7_newShip 27 = .ok (.astore_n 3, 1) := dk_78 (dk_at dksX7_newShip_1 3 rfl rfl)
theorem dX7_newShip_28 : decode cX7_newShip 28 = .ok (.aload_n 0, 1) := dk_42 (dk_at dksX7_newShip_1 4 rfl rfl)
theorem dX7_newShip_29 : decode cX7_newShip 29 = .ok (.ldc 134, 2) := dk_18 134 (dk_at dksX7_newShip_1 5 rfl rfl)
theorem dX7_newShip_31 : decode cX7_newShip 31 = .ok (.invokevirtual 76, 3) := dk_182 0 76 (dk_at dksX7_newShip_1 7 rfl rfl)
theorem dX7_newShip_34 : decode cX7_newShip 34 = .ok (.aload_n 1, 1) := dk_43 (dk_at dksX7_newShip_1 10 rfl rfl)
theorem dX7_newShip_35 : decode cX7_newShip 35 = .ok (.getfield 282, 3) := dk_180 1 26 (dk_at dksX7_newShip_1 11 rfl rfl)
theorem dX7_newShip_38 : decode cX7_newShip 38 = .ok (.iload_n 2, 1) := dk_28 (dk_at dksX7_newShip_1 14 rfl rfl)
theorem dX7_newShip_39 : decode cX7_newShip 39 = .ok (.aload_n 0, 1) := dk_42 (dk_at dksX7_newShip_1 15 rfl rfl)
theorem dX7_newShip_40 : decode cX7_newShip 40 = .ok (.aload_n 1, 1) := dk_43 (dk_at dksX7_newShip_1 16 rfl rfl)
theorem dX7_newShip_41 : decode cX7_newShip 41 = .ok (.iconst (-1), 1) := dk_2 (dk_at dksX7_newShip_1 17 rfl rfl)
theorem dX7_newShip_42 : decode cX7_newShip 42 = .ok (.invokevirtual 270, 3) := dk_182 1 14 (dk_at dksX7_newShip_1 18 rfl rfl)
theorem dX7_newShip_45 : decode cX7_newShip 45 = .ok (.iastore, 1) := dk_79 (dk_at dksX7_newShip_1 21 rfl rfl)
theorem dX7_newShip_46 : decode cX7_newShip 46 = .ok (.aload_n 3, 1) := dk_45 (dk_at dksX7_newShip_1 22 rfl rfl)
theorem dX7_newShip_47 : decode cX7_newShip 47 = .ok (.aload_n 0, 1) := dk_42 (dk_at dksX7_newShip_1 23 rfl rfl)
theorem dX7_newShip_48 : decode cX7_newShip 48 = .ok (.ldc 135, 2) := dk_18 135 (dk_at dksX7_newShip_2 0 rfl rfl)
theorem dX7_newShip_50 : decode cX7_newShip 50 = .ok (.iconst 1, 1) := dk_4 (dk_at dksX7_newShip_2 2 rfl rfl)
theorem dX7_newShip_51 : decode cX7_newShip 51 = .ok (.bipush 60, 2) := dk_16 60 (dk_at dksX7_newShip_2 3 rfl rfl)
theorem dX7_newShip_53 : decode cX7_newShip 53 = .ok (.invokevirtual 83, 3) := dk_182 0 83 (dk_at dksX7_newShip_2 5 rfl rfl)
theorem dX7_newShip_56 : decode cX7_newShip 56 = .ok (.putfield 284, 3) := dk_181 1 28 (dk_at dksX7_newShip_2 8 rfl rfl)
theorem dX7_newShip_59 : decode cX7_newShip 59 = .ok (.aload_n 1, 1) := dk_43 (dk_at dksX7_newShip_2 11 rfl rfl)
theorem dX7_newShip_60 : decode cX7_newShip 60 = .ok (.getfield 286, 3) := dk_180 1 30 (dk_at dksX7_newShip_2 12 rfl rfl)
theorem dX7_newShip_63 : decode cX7_newShip 63 = .ok (.iload_n 2, 1) := dk_28 (dk_at dksX7_newShip_2 15 rfl rfl)
theorem dX7_newShip_64 : decode cX7_newShip 64 = .ok (.aload_n 0, 1) := dk_42 (dk_at dksX7_newShip_2 16 rfl rfl)
theorem dX7_newShip_65 : decode cX7_newShip 65 = .ok (.ldc 104, 2) := dk_18 104 (dk_at dksX7_newShip_2 17 rfl rfl)
theorem dX7_newShip_67 : decode cX7_newShip 67 = .ok (.iconst 0, 1) := dk_3 (dk_at dksX7_newShip_2 19 rfl rfl)
theorem dX7_newShip_68 : decode cX7_newShip 68 = .ok (.sipush 9999, 3) := dk_17 39 15 (dk_at dksX7_newShip_2 20 rfl rfl)
theorem dX7_newShip_71 : decode cX7_newShip 71 = .ok (.bipush 100, 2) := dk_16 100 (dk_at dksX7_newShip_3 0 rfl rfl)
theorem dX7_newShip_73 : decode cX7_newShip 73 = .ok (.invokevirtual 240, 3) := dk_182 0 240 (dk_at dksX7_newShip_3 2 rfl rfl)
theorem dX7_newShip_76 : decode cX7_newShip 76 = .ok (.iastore, 1) := dk_79 (dk_at dksX7_newShip_3 5 rfl rfl)
theorem dX7_newShip_77 : decode cX7_newShip 77 = .ok (.aload_n 1, 1) := dk_43 (dk_at dksX7_newShip_3 6 rfl rfl)
theorem dX7_newShip_78 : decode cX7_newShip 78 = .ok (.getfield 199, 3) := dk_180 0 199 (dk_at dksX7_newShip_3 7 rfl rfl)
theorem dX7_newShip_81 : decode cX7_newShip 81 = .ok (.iload_n 2, 1) := dk_28 (dk_at dksX7_newShip_3 10 rfl rfl)
theorem dX7_newShip_82 : decode cX7_newShip 82 = .ok (.aload_n 3, 1) := dk_45 (dk_at dksX7_newShip_3 11 rfl rfl)
theorem dX7_newShip_83 : decode cX7_newShip 83 = .ok (.aastore, 1) := dk_83 (dk_at dksX7_newShip_3 12 rfl rfl)
theorem dX7_newShip_84 : decode cX7_newShip 84 = .ok (.aload_n 1, 1) := dk_43 (dk_at dksX7_newShip_3 13 rfl rfl)
theorem dX7_newShip_85 : decode cX7_newShip 85 = .ok (.dup, 1) := dk_89 (dk_at dksX7_newShip_3 14 rfl rfl)
theorem dX7_newShip_86 : decode cX7_newShip 86 = .ok (.getfield 202, 3) := dk_180 0 202 (dk_at dksX7_newShip_3 15 rfl rfl)
theorem dX7_newShip_89 : decode cX7_newShip 89 = .ok (.iconst 1, 1) := dk_4 (dk_at dksX7_newShip_3 18 rfl rfl)
theorem dX7_newShip_90 : decode cX7_newShip 90 = .ok (.iadd, 1) := dk_96 (dk_at dksX7_newShip_3 19 rfl rfl)
theorem dX7_newShip_91 : decode cX7_newShip 91 = .ok (.putfield 202, 3) := dk_181 0 202 (dk_at dksX7_newShip_3 20 rfl rfl)
theorem dX7_newShip_94 : decode cX7_newShip 94 = .ok (.return_, 1) := dk_177 (dk_at dksX7_newShip_3 23 rfl rfl)
abbrev cX7_aboard : ByteArray := prog_12_method_31_code
def yX7_aboard : MethodName := ⟨RX7, "aboard", "(LCargoFlag$World;)V"⟩
def dkwX7_aboard_1 : List UInt8 := [29, 96, 92, 46, 42, 4, 43, 28, 182, 1, 37, 182, 0, 80, 96, 79, 177]
abbrev dktX7_aboard_1 : List UInt8 := dkwX7_aboard_1 ++ []
def dkwX7_aboard_0 : List UInt8 := [42, 182, 0, 19, 42, 43, 182, 1, 32, 61, 42, 43, 182, 1, 16, 62, 43, 180, 1, 34, 16, 8, 28, 104]
abbrev dktX7_aboard_0 : List UInt8 := dkwX7_aboard_0 ++ dktX7_aboard_1
theorem dksX7_aboard_0 : cX7_aboard.data.toList.drop 0 = dktX7_aboard_0 := by decide +kernel
theorem dksX7_aboard_1 : cX7_aboard.data.toList.drop 24 = dktX7_aboard_1 := dk_seg dksX7_aboard_0 24 rfl rfl
theorem dX7_aboard_0 : decode cX7_aboard 0 = .ok (.aload_n 0, 1) := dk_42 (dk_at dksX7_aboard_0 0 rfl rfl)
theorem dX7_aboard_1 : decode cX7_aboard 1 = .ok (.invokevirtual 19, 3) := dk_182 0 19 (dk_at dksX7_aboard_0 1 rfl rfl)
theorem dX7_aboard_4 : decode cX7_aboard 4 = .ok (.aload_n 0, 1) := dk_42 (dk_at dksX7_aboard_0 4 rfl rfl)
theorem dX7_aboard_5 : decode cX7_aboard 5 = .ok (.aload_n 1, 1) := dk_43 (dk_at dksX7_aboard_0 5 rfl rfl)
theorem dX7_aboard_6 : decode cX7_aboard 6 = .ok (.invokevirtual 288, 3) := dk_182 1 32 (dk_at dksX7_aboard_0 6 rfl rfl)
theorem dX7_aboard_9 : decode cX7_aboard 9 = .ok (.istore_n 2, 1) := dk_61 (dk_at dksX7_aboard_0 9 rfl rfl)
theorem dX7_aboard_10 : decode cX7_aboard 10 = .ok (.aload_n 0, 1) := dk_42 (dk_at dksX7_aboard_0 10 rfl rfl)
theorem dX7_aboard_11 : decode cX7_aboard 11 = .ok (.aload_n 1, 1) := dk_43 (dk_at dksX7_aboard_0 11 rfl rfl)
theorem dX7_aboard_12 : decode cX7_aboard 12 = .ok (.invokevirtual 272, 3) := dk_182 1 16 (dk_at dksX7_aboard_0 12 rfl rfl)
theorem dX7_aboard_15 : decode cX7_aboard 15 = .ok (.istore_n 3, 1) := dk_62 (dk_at dksX7_aboard_0 15 rfl rfl)
theorem dX7_aboard_16 : decode cX7_aboard 16 = .ok (.aload_n 1, 1) := dk_43 (dk_at dksX7_aboard_0 16 rfl rfl)
theorem dX7_aboard_17 : decode cX7_aboard 17 = .ok (.getfield 290, 3) := dk_180 1 34 (dk_at dksX7_aboard_0 17 rfl rfl)
theorem dX7_aboard_20 : decode cX7_aboard 20 = .ok (.bipush 8, 2) := dk_16 8 (dk_at dksX7_aboard_0 20 rfl rfl)
theorem dX7_aboard_22 : decode cX7_aboard 22 = .ok (.iload_n 2, 1) := dk_28 (dk_at dksX7_aboard_0 22 rfl rfl)
theorem dX7_aboard_23 : decode cX7_aboard 23 = .ok (.imul, 1) := dk_104 (dk_at dksX7_aboard_0 23 rfl rfl)
theorem dX7_aboard_24 : decode cX7_aboard 24 = .ok (.iload_n 3, 1) := dk_29 (dk_at dksX7_aboard_1 0 rfl rfl)
theorem dX7_aboard_25 : decode cX7_aboard 25 = .ok (.iadd, 1) := dk_96 (dk_at dksX7_aboard_1 1 rfl rfl)
theorem dX7_aboard_26 : decode cX7_aboard 26 = .ok (.dup2, 1) := dk_92 (dk_at dksX7_aboard_1 2 rfl rfl)
theorem dX7_aboard_27 : decode cX7_aboard 27 = .ok (.iaload, 1) := dk_46 (dk_at dksX7_aboard_1 3 rfl rfl)
theorem dX7_aboard_28 : decode cX7_aboard 28 = .ok (.aload_n 0, 1) := dk_42 (dk_at dksX7_aboard_1 4 rfl rfl)
theorem dX7_aboard_29 : decode cX7_aboard 29 = .ok (.iconst 1, 1) := dk_4 (dk_at dksX7_aboard_1 5 rfl rfl)
theorem dX7_aboard_30 : decode cX7_aboard 30 = .ok (.aload_n 1, 1) := dk_43 (dk_at dksX7_aboard_1 6 rfl rfl)
theorem dX7_aboard_31 : decode cX7_aboard 31 = .ok (.iload_n 2, 1) := dk_28 (dk_at dksX7_aboard_1 7 rfl rfl)
theorem dX7_aboard_32 : decode cX7_aboard 32 = .ok (.invokevirtual 293, 3) := dk_182 1 37 (dk_at dksX7_aboard_1 8 rfl rfl)
theorem dX7_aboard_35 : decode cX7_aboard 35 = .ok (.invokevirtual 80, 3) := dk_182 0 80 (dk_at dksX7_aboard_1 11 rfl rfl)
theorem dX7_aboard_38 : decode cX7_aboard 38 = .ok (.iadd, 1) := dk_96 (dk_at dksX7_aboard_1 14 rfl rfl)
theorem dX7_aboard_39 : decode cX7_aboard 39 = .ok (.iastore, 1) := dk_79 (dk_at dksX7_aboard_1 15 rfl rfl)
theorem dX7_aboard_40 : decode cX7_aboard 40 = .ok (.return_, 1) := dk_177 (dk_at dksX7_aboard_1 16 rfl rfl)
abbrev cX7_ship : ByteArray := prog_12_method_22_code
def yX7_ship : MethodName := ⟨RX7, "ship", "(LCargoFlag$World;)I"⟩
def dkwX7_ship_0 : List UInt8 := [42, 43, 180, 0, 199, 43, 180, 0, 202, 2, 182, 0, 183, 172]
abbrev dktX7_ship_0 : List UInt8 := dkwX7_ship_0 ++ []
theorem dksX7_ship_0 : cX7_ship.data.toList.drop 0 = dktX7_ship_0 := by decide +kernel
theorem dX7_ship_0 : decode cX7_ship 0 = .ok (.aload_n 0, 1) := dk_42 (dk_at dksX7_ship_0 0 rfl rfl)
theorem dX7_ship_1 : decode cX7_ship 1 = .ok (.aload_n 1, 1) := dk_43 (dk_at dksX7_ship_0 1 rfl rfl)
theorem dX7_ship_2 : decode cX7_ship 2 = .ok (.getfield 199, 3) := dk_180 0 199 (dk_at dksX7_ship_0 2 rfl rfl)
theorem dX7_ship_5 : decode cX7_ship 5 = .ok (.aload_n 1, 1) := dk_43 (dk_at dksX7_ship_0 5 rfl rfl)
theorem dX7_ship_6 : decode cX7_ship 6 = .ok (.getfield 202, 3) := dk_180 0 202 (dk_at dksX7_ship_0 6 rfl rfl)
theorem dX7_ship_9 : decode cX7_ship 9 = .ok (.iconst (-1), 1) := dk_2 (dk_at dksX7_ship_0 9 rfl rfl)
theorem dX7_ship_10 : decode cX7_ship 10 = .ok (.invokevirtual 183, 3) := dk_182 0 183 (dk_at dksX7_ship_0 10 rfl rfl)
theorem dX7_ship_13 : decode cX7_ship 13 = .ok (.ireturn, 1) := dk_172 (dk_at dksX7_ship_0 13 rfl rfl)
abbrev cX7_rule : ByteArray := prog_12_method_32_code
def yX7_rule : MethodName := ⟨RX7, "rule", "(LCargoFlag$World;)V"⟩
def dkwX7_rule_1 : List UInt8 := [4, 181, 1, 41, 42, 182, 0, 19, 43, 42, 3, 5, 182, 0, 80, 181, 1, 45, 177]
abbrev dktX7_rule_1 : List UInt8 := dkwX7_rule_1 ++ []
def dkwX7_rule_0 : List UInt8 := [42, 180, 1, 41, 153, 0, 19, 42, 180, 0, 3, 180, 0, 55, 8, 42, 180, 0, 29, 182, 0, 59, 191, 42]
abbrev dktX7_rule_0 : List UInt8 := dkwX7_rule_0 ++ dktX7_rule_1
theorem dksX7_rule_0 : cX7_rule.data.toList.drop 0 = dktX7_rule_0 := by decide +kernel
theorem dksX7_rule_1 : cX7_rule.data.toList.drop 24 = dktX7_rule_1 := dk_seg dksX7_rule_0 24 rfl rfl
theorem dX7_rule_0 : decode cX7_rule 0 = .ok (.aload_n 0, 1) := dk_42 (dk_at dksX7_rule_0 0 rfl rfl)
theorem dX7_rule_1 : decode cX7_rule 1 = .ok (.getfield 297, 3) := dk_180 1 41 (dk_at dksX7_rule_0 1 rfl rfl)
theorem dX7_rule_4 : decode cX7_rule 4 = .ok (.ifCond .eq 19, 3) := dk_153 0 19 (dk_at dksX7_rule_0 4 rfl rfl)
theorem dX7_rule_7 : decode cX7_rule 7 = .ok (.aload_n 0, 1) := dk_42 (dk_at dksX7_rule_0 7 rfl rfl)
theorem dX7_rule_8 : decode cX7_rule 8 = .ok (.getfield 3, 3) := dk_180 0 3 (dk_at dksX7_rule_0 8 rfl rfl)
theorem dX7_rule_11 : decode cX7_rule 11 = .ok (.getfield 55, 3) := dk_180 0 55 (dk_at dksX7_rule_0 11 rfl rfl)
theorem dX7_rule_14 : decode cX7_rule 14 = .ok (.iconst 5, 1) := dk_8 (dk_at dksX7_rule_0 14 rfl rfl)
theorem dX7_rule_15 : decode cX7_rule 15 = .ok (.aload_n 0, 1) := dk_42 (dk_at dksX7_rule_0 15 rfl rfl)
theorem dX7_rule_16 : decode cX7_rule 16 = .ok (.getfield 29, 3) := dk_180 0 29 (dk_at dksX7_rule_0 16 rfl rfl)
theorem dX7_rule_19 : decode cX7_rule 19 = .ok (.invokevirtual 59, 3) := dk_182 0 59 (dk_at dksX7_rule_0 19 rfl rfl)
theorem dX7_rule_22 : decode cX7_rule 22 = .ok (.athrow, 1) := dk_191 (dk_at dksX7_rule_0 22 rfl rfl)
theorem dX7_rule_23 : decode cX7_rule 23 = .ok (.aload_n 0, 1) := dk_42 (dk_at dksX7_rule_0 23 rfl rfl)
theorem dX7_rule_24 : decode cX7_rule 24 = .ok (.iconst 1, 1) := dk_4 (dk_at dksX7_rule_1 0 rfl rfl)
theorem dX7_rule_25 : decode cX7_rule 25 = .ok (.putfield 297, 3) := dk_181 1 41 (dk_at dksX7_rule_1 1 rfl rfl)
theorem dX7_rule_28 : decode cX7_rule 28 = .ok (.aload_n 0, 1) := dk_42 (dk_at dksX7_rule_1 4 rfl rfl)
theorem dX7_rule_29 : decode cX7_rule 29 = .ok (.invokevirtual 19, 3) := dk_182 0 19 (dk_at dksX7_rule_1 5 rfl rfl)
theorem dX7_rule_32 : decode cX7_rule 32 = .ok (.aload_n 1, 1) := dk_43 (dk_at dksX7_rule_1 8 rfl rfl)
theorem dX7_rule_33 : decode cX7_rule 33 = .ok (.aload_n 0, 1) := dk_42 (dk_at dksX7_rule_1 9 rfl rfl)
theorem dX7_rule_34 : decode cX7_rule 34 = .ok (.iconst 0, 1) := dk_3 (dk_at dksX7_rule_1 10 rfl rfl)
theorem dX7_rule_35 : decode cX7_rule 35 = .ok (.iconst 2, 1) := dk_5 (dk_at dksX7_rule_1 11 rfl rfl)
theorem dX7_rule_36 : decode cX7_rule 36 = .ok (.invokevirtual 80, 3) := dk_182 0 80 (dk_at dksX7_rule_1 12 rfl rfl)
theorem dX7_rule_39 : decode cX7_rule 39 = .ok (.putfield 301, 3) := dk_181 1 45 (dk_at dksX7_rule_1 15 rfl rfl)
theorem dX7_rule_42 : decode cX7_rule 42 = .ok (.return_, 1) := dk_177 (dk_at dksX7_rule_1 18 rfl rfl)
abbrev cX7_close : ByteArray := prog_12_method_8_code
def yX7_close : MethodName := ⟨RX7, "close", "()V"⟩
def dkwX7_close_0 : List UInt8 := [42, 16, 59, 182, 0, 64, 154, 0, 8, 42, 182, 0, 68, 191, 42, 182, 0, 19, 177]
abbrev dktX7_close_0 : List UInt8 := dkwX7_close_0 ++ []
theorem dksX7_close_0 : cX7_close.data.toList.drop 0 = dktX7_close_0 := by decide +kernel
theorem dX7_close_0 : decode cX7_close 0 = .ok (.aload_n 0, 1) := dk_42 (dk_at dksX7_close_0 0 rfl rfl)
theorem dX7_close_1 : decode cX7_close 1 = .ok (.bipush 59, 2) := dk_16 59 (dk_at dksX7_close_0 1 rfl rfl)
theorem dX7_close_3 : decode cX7_close 3 = .ok (.invokevirtual 64, 3) := dk_182 0 64 (dk_at dksX7_close_0 3 rfl rfl)
theorem dX7_close_6 : decode cX7_close 6 = .ok (.ifCond .ne 8, 3) := dk_154 0 8 (dk_at dksX7_close_0 6 rfl rfl)
theorem dX7_close_9 : decode cX7_close 9 = .ok (.aload_n 0, 1) := dk_42 (dk_at dksX7_close_0 9 rfl rfl)
theorem dX7_close_10 : decode cX7_close 10 = .ok (.invokevirtual 68, 3) := dk_182 0 68 (dk_at dksX7_close_0 10 rfl rfl)
theorem dX7_close_13 : decode cX7_close 13 = .ok (.athrow, 1) := dk_191 (dk_at dksX7_close_0 13 rfl rfl)
theorem dX7_close_14 : decode cX7_close 14 = .ok (.aload_n 0, 1) := dk_42 (dk_at dksX7_close_0 14 rfl rfl)
theorem dX7_close_15 : decode cX7_close 15 = .ok (.invokevirtual 19, 3) := dk_182 0 19 (dk_at dksX7_close_0 15 rfl rfl)
theorem dX7_close_18 : decode cX7_close 18 = .ok (.return_, 1) := dk_177 (dk_at dksX7_close_0 18 rfl rfl)
abbrev cX7_isSign : ByteArray := prog_12_method_6_code
def yX7_isSign : MethodName := ⟨RX7, "isSign", "(C)Z"⟩
def dkwX7_isSign_1 : List UInt8 := [4, 167, 0, 4, 3, 172]
abbrev dktX7_isSign_1 : List UInt8 := dkwX7_isSign_1 ++ []
def dkwX7_isSign_0 : List UInt8 := [42, 180, 0, 32, 6, 160, 0, 23, 42, 180, 0, 3, 180, 0, 22, 42, 180, 0, 29, 51, 27, 160, 0, 7]
abbrev dktX7_isSign_0 : List UInt8 := dkwX7_isSign_0 ++ dktX7_isSign_1
theorem dksX7_isSign_0 : cX7_isSign.data.toList.drop 0 = dktX7_isSign_0 := by decide +kernel
theorem dksX7_isSign_1 : cX7_isSign.data.toList.drop 24 = dktX7_isSign_1 := dk_seg dksX7_isSign_0 24 rfl rfl
theorem dX7_isSign_0 : decode cX7_isSign 0 = .ok (.aload_n 0, 1) := dk_42 (dk_at dksX7_isSign_0 0 rfl rfl)
theorem dX7_isSign_1 : decode cX7_isSign 1 = .ok (.getfield 32, 3) := dk_180 0 32 (dk_at dksX7_isSign_0 1 rfl rfl)
theorem dX7_isSign_4 : decode cX7_isSign 4 = .ok (.iconst 3, 1) := dk_6 (dk_at dksX7_isSign_0 4 rfl rfl)
theorem dX7_isSign_5 : decode cX7_isSign 5 = .ok (.if_icmp .ne 23, 3) := dk_160 0 23 (dk_at dksX7_isSign_0 5 rfl rfl)
theorem dX7_isSign_8 : decode cX7_isSign 8 = .ok (.aload_n 0, 1) := dk_42 (dk_at dksX7_isSign_0 8 rfl rfl)
theorem dX7_isSign_9 : decode cX7_isSign 9 = .ok (.getfield 3, 3) := dk_180 0 3 (dk_at dksX7_isSign_0 9 rfl rfl)
theorem dX7_isSign_12 : decode cX7_isSign 12 = .ok (.getfield 22, 3) := dk_180 0 22 (dk_at dksX7_isSign_0 12 rfl rfl)
theorem dX7_isSign_15 : decode cX7_isSign 15 = .ok (.aload_n 0, 1) := dk_42 (dk_at dksX7_isSign_0 15 rfl rfl)
theorem dX7_isSign_16 : decode cX7_isSign 16 = .ok (.getfield 29, 3) := dk_180 0 29 (dk_at dksX7_isSign_0 16 rfl rfl)
theorem dX7_isSign_19 : decode cX7_isSign 19 = .ok (.baload, 1) := dk_51 (dk_at dksX7_isSign_0 19 rfl rfl)
theorem dX7_isSign_20 : decode cX7_isSign 20 = .ok (.iload_n 1, 1) := dk_27 (dk_at dksX7_isSign_0 20 rfl rfl)
theorem dX7_isSign_21 : decode cX7_isSign 21 = .ok (.if_icmp .ne 7, 3) := dk_160 0 7 (dk_at dksX7_isSign_0 21 rfl rfl)
theorem dX7_isSign_24 : decode cX7_isSign 24 = .ok (.iconst 1, 1) := dk_4 (dk_at dksX7_isSign_1 0 rfl rfl)
theorem dX7_isSign_25 : decode cX7_isSign 25 = .ok (.goto 4, 3) := dk_167 0 4 (dk_at dksX7_isSign_1 1 rfl rfl)
theorem dX7_isSign_28 : decode cX7_isSign 28 = .ok (.iconst 0, 1) := dk_3 (dk_at dksX7_isSign_1 4 rfl rfl)
theorem dX7_isSign_29 : decode cX7_isSign 29 = .ok (.ireturn, 1) := dk_172 (dk_at dksX7_isSign_1 5 rfl rfl)
abbrev cX7_voyages : ByteArray := prog_12_method_33_code
def yX7_voyages : MethodName := ⟨RX7, "voyages", "(LCargoFlag$World;LCargoFlag$Block;)V"⟩
def dkwX7_voyages_0 : List UInt8 := [42, 180, 0, 32, 153, 0, 13, 42, 43, 44, 3, 182, 1, 47, 167, 255, 242, 177]
abbrev dktX7_voyages_0 : List UInt8 := dkwX7_voyages_0 ++ []
theorem dksX7_voyages_0 : cX7_voyages.data.toList.drop 0 = dktX7_voyages_0 := by decide +kernel
theorem dX7_voyages_0 : decode cX7_voyages 0 = .ok (.aload_n 0, 1) := dk_42 (dk_at dksX7_voyages_0 0 rfl rfl)
theorem dX7_voyages_1 : decode cX7_voyages 1 = .ok (.getfield 32, 3) := dk_180 0 32 (dk_at dksX7_voyages_0 1 rfl rfl)
theorem dX7_voyages_4 : decode cX7_voyages 4 = .ok (.ifCond .eq 13, 3) := dk_153 0 13 (dk_at dksX7_voyages_0 4 rfl rfl)
theorem dX7_voyages_7 : decode cX7_voyages 7 = .ok (.aload_n 0, 1) := dk_42 (dk_at dksX7_voyages_0 7 rfl rfl)
theorem dX7_voyages_8 : decode cX7_voyages 8 = .ok (.aload_n 1, 1) := dk_43 (dk_at dksX7_voyages_0 8 rfl rfl)
theorem dX7_voyages_9 : decode cX7_voyages 9 = .ok (.aload_n 2, 1) := dk_44 (dk_at dksX7_voyages_0 9 rfl rfl)
theorem dX7_voyages_10 : decode cX7_voyages 10 = .ok (.iconst 0, 1) := dk_3 (dk_at dksX7_voyages_0 10 rfl rfl)
theorem dX7_voyages_11 : decode cX7_voyages 11 = .ok (.invokevirtual 303, 3) := dk_182 1 47 (dk_at dksX7_voyages_0 11 rfl rfl)
theorem dX7_voyages_14 : decode cX7_voyages 14 = .ok (.goto (-14), 3) := dk_167 255 242 (dk_at dksX7_voyages_0 14 rfl rfl)
theorem dX7_voyages_17 : decode cX7_voyages 17 = .ok (.return_, 1) := dk_177 (dk_at dksX7_voyages_0 17 rfl rfl)
abbrev cX7_step : ByteArray := prog_12_method_34_code
def yX7_step : MethodName := ⟨RX7, "step", "(LCargoFlag$World;LCargoFlag$Block;I)V"⟩
def dkwX7_step_5 : List UInt8 := [182, 1, 54, 167, 0, 8, 42, 43, 182, 1, 58, 58, 6, 42, 182, 0, 228, 44, 25, 6, 182, 1, 62, 177]
abbrev dktX7_step_5 : List UInt8 := dkwX7_step_5 ++ []
def dkwX7_step_4 : List UInt8 := [182, 0, 59, 191, 42, 89, 180, 1, 51, 4, 96, 181, 1, 51, 21, 5, 153, 0, 14, 42, 43, 21, 4, 29]
abbrev dktX7_step_4 : List UInt8 := dkwX7_step_4 ++ dktX7_step_5
def dkwX7_step_3 : List UInt8 := [191, 21, 5, 153, 0, 25, 29, 6, 160, 0, 20, 42, 180, 0, 3, 180, 0, 55, 16, 7, 42, 180, 0, 29]
abbrev dktX7_step_3 : List UInt8 := dkwX7_step_3 ++ dktX7_step_4
def dkwX7_step_2 : List UInt8 := [180, 1, 51, 16, 30, 160, 0, 20, 42, 180, 0, 3, 180, 0, 55, 16, 6, 42, 180, 0, 29, 182, 0, 59]
abbrev dktX7_step_2 : List UInt8 := dkwX7_step_2 ++ dktX7_step_3
def dkwX7_step_1 : List UInt8 := [167, 0, 4, 3, 54, 5, 42, 182, 0, 141, 156, 0, 13, 21, 5, 154, 0, 8, 42, 182, 0, 68, 191, 42]
abbrev dktX7_step_1 : List UInt8 := dkwX7_step_1 ++ dktX7_step_2
def dkwX7_step_0 : List UInt8 := [42, 18, 147, 182, 0, 72, 54, 4, 21, 4, 154, 0, 12, 42, 18, 149, 182, 0, 72, 153, 0, 7, 4]
abbrev dktX7_step_0 : List UInt8 := dkwX7_step_0 ++ dktX7_step_1
theorem dksX7_step_0 : cX7_step.data.toList.drop 0 = dktX7_step_0 := by decide +kernel
theorem dksX7_step_1 : cX7_step.data.toList.drop 23 = dktX7_step_1 := dk_seg dksX7_step_0 23 rfl rfl
theorem dksX7_step_2 : cX7_step.data.toList.drop 47 = dktX7_step_2 := dk_seg dksX7_step_1 24 rfl rfl
theorem dksX7_step_3 : cX7_step.data.toList.drop 71 = dktX7_step_3 := dk_seg dksX7_step_2 24 rfl rfl
theorem dksX7_step_4 : cX7_step.data.toList.drop 95 = dktX7_step_4 := dk_seg dksX7_step_3 24 rfl rfl
theorem dksX7_step_5 : cX7_step.data.toList.drop 119 = dktX7_step_5 := dk_seg dksX7_step_4 24 rfl rfl
theorem dX7_step_0 : decode cX7_step 0 = .ok (.aload_n 0, 1) := dk_42 (dk_at dksX7_step_0 0 rfl rfl)
theorem dX7_step_1 : decode cX7_step 1 = .ok (.ldc 147, 2) := dk_18 147 (dk_at dksX7_step_0 1 rfl rfl)
theorem dX7_step_3 : decode cX7_step 3 = .ok (.invokevirtual 72, 3) := dk_182 0 72 (dk_at dksX7_step_0 3 rfl rfl)
theorem dX7_step_6 : decode cX7_step 6 = .ok (.istore 4, 2) := dk_54 4 (dk_at dksX7_step_0 6 rfl rfl)
theorem dX7_step_8 : decode cX7_step 8 = .ok (.iload 4, 2) := dk_21 4 (dk_at dksX7_step_0 8 rfl rfl)
theorem dX7_step_10 : decode cX7_step 10 = .ok (.ifCond .ne 12, 3) := dk_154 0 12 (dk_at dksX7_step_0 10 rfl rfl)
theorem dX7_step_13 : decode cX7_step 13 = .ok (.aload_n 0, 1) := dk_42 (dk_at dksX7_step_0 13 rfl rfl)
theorem dX7_step_14 : decode cX7_step 14 = .ok (.ldc 149, 2) := dk_18 149 (dk_at dksX7_step_0 14 rfl rfl)
theorem dX7_step_16 : decode cX7_step 16 = .ok (.invokevirtual 72, 3) := dk_182 0 72 (dk_at dksX7_step_0 16 rfl rfl)
theorem dX7_step_19 : decode cX7_step 19 = .ok (.ifCond .eq 7, 3) := dk_153 0 7 (dk_at dksX7_step_0 19 rfl rfl)
theorem dX7_step_22 : decode cX7_step 22 = .ok (.iconst 1, 1) := dk_4 (dk_at dksX7_step_0 22 rfl rfl)
theorem dX7_step_23 : decode cX7_step 23 = .ok (.goto 4, 3) := dk_167 0 4 (dk_at dksX7_step_1 0 rfl rfl)
theorem dX7_step_26 : decode cX7_step 26 = .ok (.iconst 0, 1) := dk_3 (dk_at dksX7_step_1 3 rfl rfl)
theorem dX7_step_27 : decode cX7_step 27 = .ok (.istore 5, 2) := dk_54 5 (dk_at dksX7_step_1 4 rfl rfl)
theorem dX7_step_29 : decode cX7_step 29 = .ok (.aload_n 0, 1) := dk_42 (dk_at dksX7_step_1 6 rfl rfl)
theorem dX7_step_30 : decode cX7_step 30 = .ok (.invokevirtual 141, 3) := dk_182 0 141 (dk_at dksX7_step_1 7 rfl rfl)
theorem dX7_step_33 : decode cX7_step 33 = .ok (.ifCond .ge 13, 3) := dk_156 0 13 (dk_at dksX7_step_1 10 rfl rfl)
theorem dX7_step_36 : decode cX7_step 36 = .ok (.iload 5, 2) := dk_21 5 (dk_at dksX7_step_1 13 rfl rfl)
theorem dX7_step_38 : decode cX7_step 38 = .ok (.ifCond .ne 8, 3) := dk_154 0 8 (dk_at dksX7_step_1 15 rfl rfl)
theorem dX7_step_41 : decode cX7_step 41 = .ok (.aload_n 0, 1) := dk_42 (dk_at dksX7_step_1 18 rfl rfl)
theorem dX7_step_42 : decode cX7_step 42 = .ok (.invokevirtual 68, 3) := dk_182 0 68 (dk_at dksX7_step_1 19 rfl rfl)
theorem dX7_step_45 : decode cX7_step 45 = .ok (.athrow, 1) := dk_191 (dk_at dksX7_step_1 22 rfl rfl)
theorem dX7_step_46 : decode cX7_step 46 = .ok (.aload_n 0, 1) := dk_42 (dk_at dksX7_step_1 23 rfl rfl)
theorem dX7_step_47 : decode cX7_step 47 = .ok (.getfield 307, 3) := dk_180 1 51 (dk_at dksX7_step_2 0 rfl rfl)
theorem dX7_step_50 : decode cX7_step 50 = .ok (.bipush 30, 2) := dk_16 30 (dk_at dksX7_step_2 3 rfl rfl)
theorem dX7_step_52 : decode cX7_step 52 = .ok (.if_icmp .ne 20, 3) := dk_160 0 20 (dk_at dksX7_step_2 5 rfl rfl)
theorem dX7_step_55 : decode cX7_step 55 = .ok (.aload_n 0, 1) := dk_42 (dk_at dksX7_step_2 8 rfl rfl)
theorem dX7_step_56 : decode cX7_step 56 = .ok (.getfield 3, 3) := dk_180 0 3 (dk_at dksX7_step_2 9 rfl rfl)
theorem dX7_step_59 : decode cX7_step 59 = .ok (.getfield 55, 3) := dk_180 0 55 (dk_at dksX7_step_2 12 rfl rfl)
theorem dX7_step_62 : decode cX7_step 62 = .ok (.bipush 6, 2) := dk_16 6 (dk_at dksX7_step_2 15 rfl rfl)
theorem dX7_step_64 : decode cX7_step 64 = .ok (.aload_n 0, 1) := dk_42 (dk_at dksX7_step_2 17 rfl rfl)
theorem dX7_step_65 : decode cX7_step 65 = .ok (.getfield 29, 3) := dk_180 0 29 (dk_at dksX7_step_2 18 rfl rfl)
theorem dX7_step_68 : decode cX7_step 68 = .ok (.invokevirtual 59, 3) := dk_182 0 59 (dk_at dksX7_step_2 21 rfl rfl)
theorem dX7_step_71 : decode cX7_step 71 = .ok (.athrow, 1) := dk_191 (dk_at dksX7_step_3 0 rfl rfl)
theorem dX7_step_72 : decode cX7_step 72 = .ok (.iload 5, 2) := dk_21 5 (dk_at dksX7_step_3 1 rfl rfl)
theorem dX7_step_74 : decode cX7_step 74 = .ok (.ifCond .eq 25, 3) := dk_153 0 25 (dk_at dksX7_step_3 3 rfl rfl)
theorem dX7_step_77 : decode cX7_step 77 = .ok (.iload_n 3, 1) := dk_29 (dk_at dksX7_step_3 6 rfl rfl)
theorem dX7_step_78 : decode cX7_step 78 = .ok (.iconst 3, 1) := dk_6 (dk_at dksX7_step_3 7 rfl rfl)
theorem dX7_step_79 : decode cX7_step 79 = .ok (.if_icmp .ne 20, 3) := dk_160 0 20 (dk_at dksX7_step_3 8 rfl rfl)
theorem dX7_step_82 : decode cX7_step 82 = .ok (.aload_n 0, 1) := dk_42 (dk_at dksX7_step_3 11 rfl rfl)
theorem dX7_step_83 : decode cX7_step 83 = .ok (.getfield 3, 3) := dk_180 0 3 (dk_at dksX7_step_3 12 rfl rfl)
theorem dX7_step_86 : decode cX7_step 86 = .ok (.getfield 55, 3) := dk_180 0 55 (dk_at dksX7_step_3 15 rfl rfl)
theorem dX7_step_89 : decode cX7_step 89 = .ok (.bipush 7, 2) := dk_16 7 (dk_at dksX7_step_3 18 rfl rfl)
theorem dX7_step_91 : decode cX7_step 91 = .ok (.aload_n 0, 1) := dk_42 (dk_at dksX7_step_3 20 rfl rfl)
theorem dX7_step_92 : decode cX7_step 92 = .ok (.getfield 29, 3) := dk_180 0 29 (dk_at dksX7_step_3 21 rfl rfl)
theorem dX7_step_95 : decode cX7_step 95 = .ok (.invokevirtual 59, 3) := dk_182 0 59 (dk_at dksX7_step_4 0 rfl rfl)
theorem dX7_step_98 : decode cX7_step 98 = .ok (.athrow, 1) := dk_191 (dk_at dksX7_step_4 3 rfl rfl)
theorem dX7_step_99 : decode cX7_step 99 = .ok (.aload_n 0, 1) := dk_42 (dk_at dksX7_step_4 4 rfl rfl)
theorem dX7_step_100 : decode cX7_step 100 = .ok (.dup, 1) := dk_89 (dk_at dksX7_step_4 5 rfl rfl)
theorem dX7_step_101 : decode cX7_step 101 = .ok (.getfield 307, 3) := dk_180 1 51 (dk_at dksX7_step_4 6 rfl rfl)
theorem dX7_step_104 : decode cX7_step 104 = .ok (.iconst 1, 1) := dk_4 (dk_at dksX7_step_4 9 rfl rfl)
theorem dX7_step_105 : decode cX7_step 105 = .ok (.iadd, 1) := dk_96 (dk_at dksX7_step_4 10 rfl rfl)
theorem dX7_step_106 : decode cX7_step 106 = .ok (.putfield 307, 3) := dk_181 1 51 (dk_at dksX7_step_4 11 rfl rfl)
theorem dX7_step_109 : decode cX7_step 109 = .ok (.iload 5, 2) := dk_21 5 (dk_at dksX7_step_4 14 rfl rfl)
theorem dX7_step_111 : decode cX7_step 111 = .ok (.ifCond .eq 14, 3) := dk_153 0 14 (dk_at dksX7_step_4 16 rfl rfl)
theorem dX7_step_114 : decode cX7_step 114 = .ok (.aload_n 0, 1) := dk_42 (dk_at dksX7_step_4 19 rfl rfl)
theorem dX7_step_115 : decode cX7_step 115 = .ok (.aload_n 1, 1) := dk_43 (dk_at dksX7_step_4 20 rfl rfl)
theorem dX7_step_116 : decode cX7_step 116 = .ok (.iload 4, 2) := dk_21 4 (dk_at dksX7_step_4 21 rfl rfl)
theorem dX7_step_118 : decode cX7_step 118 = .ok (.iload_n 3, 1) := dk_29 (dk_at dksX7_step_4 23 rfl rfl)
theorem dX7_step_119 : decode cX7_step 119 = .ok (.invokevirtual 310, 3) := dk_182 1 54 (dk_at dksX7_step_5 0 rfl rfl)
theorem dX7_step_122 : decode cX7_step 122 = .ok (.goto 8, 3) := dk_167 0 8 (dk_at dksX7_step_5 3 rfl rfl)
theorem dX7_step_125 : decode cX7_step 125 = .ok (.aload_n 0, 1) := dk_42 (dk_at dksX7_step_5 6 rfl rfl)
theorem dX7_step_126 : decode cX7_step 126 = .ok (.aload_n 1, 1) := dk_43 (dk_at dksX7_step_5 7 rfl rfl)
theorem dX7_step_127 : decode cX7_step 127 = .ok (.invokevirtual 314, 3) := dk_182 1 58 (dk_at dksX7_step_5 8 rfl rfl)
theorem dX7_step_130 : decode cX7_step 130 = .ok (.astore 6, 2) := dk_58 6 (dk_at dksX7_step_5 11 rfl rfl)
theorem dX7_step_132 : decode cX7_step 132 = .ok (.aload_n 0, 1) := dk_42 (dk_at dksX7_step_5 13 rfl rfl)
theorem dX7_step_133 : decode cX7_step 133 = .ok (.invokevirtual 228, 3) := dk_182 0 228 (dk_at dksX7_step_5 14 rfl rfl)
theorem dX7_step_136 : decode cX7_step 136 = .ok (.aload_n 2, 1) := dk_44 (dk_at dksX7_step_5 17 rfl rfl)
theorem dX7_step_137 : decode cX7_step 137 = .ok (.aload 6, 2) := dk_25 6 (dk_at dksX7_step_5 18 rfl rfl)
theorem dX7_step_139 : decode cX7_step 139 = .ok (.invokevirtual 318, 3) := dk_182 1 62 (dk_at dksX7_step_5 20 rfl rfl)
theorem dX7_step_142 : decode cX7_step 142 = .ok (.return_, 1) := dk_177 (dk_at dksX7_step_5 23 rfl rfl)
abbrev cX7_block : ByteArray := prog_12_method_36_code
def yX7_block : MethodName := ⟨RX7, "block", "(LCargoFlag$World;ZI)LCargoFlag$Block;"⟩
def dkwX7_block_2 : List UInt8 := [25, 4, 29, 4, 96, 182, 1, 47, 167, 255, 237, 42, 182, 0, 19, 25, 4, 176]
abbrev dktX7_block_2 : List UInt8 := dkwX7_block_2 ++ []
def dkwX7_block_1 : List UInt8 := [182, 0, 80, 183, 1, 78, 58, 4, 42, 182, 0, 228, 42, 18, 151, 182, 0, 72, 154, 0, 16, 42, 43]
abbrev dktX7_block_1 : List UInt8 := dkwX7_block_1 ++ dktX7_block_2
def dkwX7_block_0 : List UInt8 := [42, 182, 0, 19, 28, 153, 0, 11, 42, 43, 182, 1, 73, 167, 0, 17, 187, 1, 76, 89, 42, 4, 16, 99]
abbrev dktX7_block_0 : List UInt8 := dkwX7_block_0 ++ dktX7_block_1
theorem dksX7_block_0 : cX7_block.data.toList.drop 0 = dktX7_block_0 := by decide +kernel
theorem dksX7_block_1 : cX7_block.data.toList.drop 24 = dktX7_block_1 := dk_seg dksX7_block_0 24 rfl rfl
theorem dksX7_block_2 : cX7_block.data.toList.drop 47 = dktX7_block_2 := dk_seg dksX7_block_1 23 rfl rfl
theorem dX7_block_0 : decode cX7_block 0 = .ok (.aload_n 0, 1) := dk_42 (dk_at dksX7_block_0 0 rfl rfl)
theorem dX7_block_1 : decode cX7_block 1 = .ok (.invokevirtual 19, 3) := dk_182 0 19 (dk_at dksX7_block_0 1 rfl rfl)
theorem dX7_block_4 : decode cX7_block 4 = .ok (.iload_n 2, 1) := dk_28 (dk_at dksX7_block_0 4 rfl rfl)
theorem dX7_block_5 : decode cX7_block 5 = .ok (.ifCond .eq 11, 3) := dk_153 0 11 (dk_at dksX7_block_0 5 rfl rfl)
theorem dX7_block_8 : decode cX7_block 8 = .ok (.aload_n 0, 1) := dk_42 (dk_at dksX7_block_0 8 rfl rfl)
theorem dX7_block_9 : decode cX7_block 9 = .ok (.aload_n 1, 1) := dk_43 (dk_at dksX7_block_0 9 rfl rfl)
theorem dX7_block_10 : decode cX7_block 10 = .ok (.invokevirtual 329, 3) := dk_182 1 73 (dk_at dksX7_block_0 10 rfl rfl)
theorem dX7_block_13 : decode cX7_block 13 = .ok (.goto 17, 3) := dk_167 0 17 (dk_at dksX7_block_0 13 rfl rfl)
theorem dX7_block_16 : decode cX7_block 16 = .ok (.new 332, 3) := dk_187 1 76 (dk_at dksX7_block_0 16 rfl rfl)
theorem dX7_block_19 : decode cX7_block 19 = .ok (.dup, 1) := dk_89 (dk_at dksX7_block_0 19 rfl rfl)
theorem dX7_block_20 : decode cX7_block 20 = .ok (.aload_n 0, 1) := dk_42 (dk_at dksX7_block_0 20 rfl rfl)
theorem dX7_block_21 : decode cX7_block 21 = .ok (.iconst 1, 1) := dk_4 (dk_at dksX7_block_0 21 rfl rfl)
theorem dX7_block_22 : decode cX7_block 22 = .ok (.bipush 99, 2) := dk_16 99 (dk_at dksX7_block_0 22 rfl rfl)
theorem dX7_block_24 : decode cX7_block 24 = .ok (.invokevirtual 80, 3) := dk_182 0 80 (dk_at dksX7_block_1 0 rfl rfl)
theorem dX7_block_27 : decode cX7_block 27 = .ok (.invokespecial 334, 3) := dk_183 1 78 (dk_at dksX7_block_1 3 rfl rfl)
theorem dX7_block_30 : decode cX7_block 30 = .ok (.astore 4, 2) := dk_58 4 (dk_at dksX7_block_1 6 rfl rfl)
theorem dX7_block_32 : decode cX7_block 32 = .ok (.aload_n 0, 1) := dk_42 (dk_at dksX7_block_1 8 rfl rfl)
theorem dX7_block_33 : decode cX7_block 33 = .ok (.invokevirtual 228, 3) := dk_182 0 228 (dk_at dksX7_block_1 9 rfl rfl)
theorem dX7_block_36 : decode cX7_block 36 = .ok (.aload_n 0, 1) := dk_42 (dk_at dksX7_block_1 12 rfl rfl)
theorem dX7_block_37 : decode cX7_block 37 = .ok (.ldc 151, 2) := dk_18 151 (dk_at dksX7_block_1 13 rfl rfl)
theorem dX7_block_39 : decode cX7_block 39 = .ok (.invokevirtual 72, 3) := dk_182 0 72 (dk_at dksX7_block_1 15 rfl rfl)
theorem dX7_block_42 : decode cX7_block 42 = .ok (.ifCond .ne 16, 3) := dk_154 0 16 (dk_at dksX7_block_1 18 rfl rfl)
theorem dX7_block_45 : decode cX7_block 45 = .ok (.aload_n 0, 1) := dk_42 (dk_at dksX7_block_1 21 rfl rfl)
theorem dX7_block_46 : decode cX7_block 46 = .ok (.aload_n 1, 1) := dk_43 (dk_at dksX7_block_1 22 rfl rfl)
theorem dX7_block_47 : decode cX7_block 47 = .ok (.aload 4, 2) := dk_25 4 (dk_at dksX7_block_2 0 rfl rfl)
theorem dX7_block_49 : decode cX7_block 49 = .ok (.iload_n 3, 1) := dk_29 (dk_at dksX7_block_2 2 rfl rfl)
theorem dX7_block_50 : decode cX7_block 50 = .ok (.iconst 1, 1) := dk_4 (dk_at dksX7_block_2 3 rfl rfl)
theorem dX7_block_51 : decode cX7_block 51 = .ok (.iadd, 1) := dk_96 (dk_at dksX7_block_2 4 rfl rfl)
theorem dX7_block_52 : decode cX7_block 52 = .ok (.invokevirtual 303, 3) := dk_182 1 47 (dk_at dksX7_block_2 5 rfl rfl)
theorem dX7_block_55 : decode cX7_block 55 = .ok (.goto (-19), 3) := dk_167 255 237 (dk_at dksX7_block_2 8 rfl rfl)
theorem dX7_block_58 : decode cX7_block 58 = .ok (.aload_n 0, 1) := dk_42 (dk_at dksX7_block_2 11 rfl rfl)
theorem dX7_block_59 : decode cX7_block 59 = .ok (.invokevirtual 19, 3) := dk_182 0 19 (dk_at dksX7_block_2 12 rfl rfl)
theorem dX7_block_62 : decode cX7_block 62 = .ok (.aload 4, 2) := dk_25 4 (dk_at dksX7_block_2 15 rfl rfl)
theorem dX7_block_64 : decode cX7_block 64 = .ok (.areturn, 1) := dk_176 (dk_at dksX7_block_2 17 rfl rfl)
abbrev cX7_when : ByteArray := prog_12_method_37_code
def yX7_when : MethodName := ⟨RX7, "when", "(LCargoFlag$World;)LCargoFlag$When;"⟩
def dkwX7_when_5 : List UInt8 := [182, 0, 19, 187, 1, 81, 89, 28, 29, 2, 21, 4, 42, 3, 17, 39, 15, 182, 0, 80, 183, 1, 83, 176]
abbrev dktX7_when_5 : List UInt8 := dkwX7_when_5 ++ []
def dkwX7_when_4 : List UInt8 := [167, 0, 5, 16, 61, 54, 4, 42, 21, 4, 146, 182, 0, 64, 154, 0, 8, 42, 182, 0, 68, 191, 42]
abbrev dktX7_when_4 : List UInt8 := dkwX7_when_4 ++ dktX7_when_5
def dkwX7_when_3 : List UInt8 := [182, 0, 64, 153, 0, 8, 16, 60, 167, 0, 19, 42, 16, 62, 182, 0, 64, 153, 0, 8, 16, 62]
abbrev dktX7_when_3 : List UInt8 := dkwX7_when_3 ++ dktX7_when_4
def dkwX7_when_2 : List UInt8 := [160, 0, 21, 187, 1, 81, 89, 28, 29, 42, 43, 2, 182, 1, 14, 3, 3, 183, 1, 83, 176, 42, 16, 60]
abbrev dktX7_when_2 : List UInt8 := dkwX7_when_2 ++ dktX7_when_3
def dkwX7_when_1 : List UInt8 := [28, 154, 0, 21, 187, 1, 81, 89, 28, 29, 42, 43, 2, 182, 0, 250, 3, 3, 183, 1, 83, 176, 28, 4]
abbrev dktX7_when_1 : List UInt8 := dkwX7_when_1 ++ dktX7_when_2
def dkwX7_when_0 : List UInt8 := [42, 182, 0, 144, 61, 28, 156, 0, 8, 42, 182, 0, 68, 191, 42, 182, 0, 19, 42, 43, 182, 1, 32, 62]
abbrev dktX7_when_0 : List UInt8 := dkwX7_when_0 ++ dktX7_when_1
theorem dksX7_when_0 : cX7_when.data.toList.drop 0 = dktX7_when_0 := by decide +kernel
theorem dksX7_when_1 : cX7_when.data.toList.drop 24 = dktX7_when_1 := dk_seg dksX7_when_0 24 rfl rfl
theorem dksX7_when_2 : cX7_when.data.toList.drop 48 = dktX7_when_2 := dk_seg dksX7_when_1 24 rfl rfl
theorem dksX7_when_3 : cX7_when.data.toList.drop 72 = dktX7_when_3 := dk_seg dksX7_when_2 24 rfl rfl
theorem dksX7_when_4 : cX7_when.data.toList.drop 94 = dktX7_when_4 := dk_seg dksX7_when_3 22 rfl rfl
theorem dksX7_when_5 : cX7_when.data.toList.drop 117 = dktX7_when_5 := dk_seg dksX7_when_4 23 rfl rfl
theorem dX7_when_0 : decode cX7_when 0 = .ok (.aload_n 0, 1) := dk_42 (dk_at dksX7_when_0 0 rfl rfl)
theorem dX7_when_1 : decode cX7_when 1 = .ok (.invokevirtual 144, 3) := dk_182 0 144 (dk_at dksX7_when_0 1 rfl rfl)
theorem dX7_when_4 : decode cX7_when 4 = .ok (.istore_n 2, 1) := dk_61 (dk_at dksX7_when_0 4 rfl rfl)
theorem dX7_when_5 : decode cX7_when 5 = .ok (.iload_n 2, 1) := dk_28 (dk_at dksX7_when_0 5 rfl rfl)
theorem dX7_when_6 : decode cX7_when 6 = .ok (.ifCond .ge 8, 3) := dk_156 0 8 (dk_at dksX7_when_0 6 rfl rfl)
theorem dX7_when_9 : decode cX7_when 9 = .ok (.aload_n 0, 1) := dk_42 (dk_at dksX7_when_0 9 rfl rfl)
theorem dX7_when_10 : decode cX7_when 10 = .ok (.invokevirtual 68, 3) := dk_182 0 68 (dk_at dksX7_when_0 10 rfl rfl)
theorem dX7_when_13 : decode cX7_when 13 = .ok (.athrow, 1) := dk_191 (dk_at dksX7_when_0 13 rfl rfl)
theorem dX7_when_14 : decode cX7_when 14 = .ok (.aload_n 0, 1) := dk_42 (dk_at dksX7_when_0 14 rfl rfl)
theorem dX7_when_15 : decode cX7_when 15 = .ok (.invokevirtual 19, 3) := dk_182 0 19 (dk_at dksX7_when_0 15 rfl rfl)
theorem dX7_when_18 : decode cX7_when 18 = .ok (.aload_n 0, 1) := dk_42 (dk_at dksX7_when_0 18 rfl rfl)
theorem dX7_when_19 : decode cX7_when 19 = .ok (.aload_n 1, 1) := dk_43 (dk_at dksX7_when_0 19 rfl rfl)
theorem dX7_when_20 : decode cX7_when 20 = .ok (.invokevirtual 288, 3) := dk_182 1 32 (dk_at dksX7_when_0 20 rfl rfl)
theorem dX7_when_23 : decode cX7_when 23 = .ok (.istore_n 3, 1) := dk_62 (dk_at dksX7_when_0 23 rfl rfl)
theorem dX7_when_24 : decode cX7_when 24 = .ok (.iload_n 2, 1) := dk_28 (dk_at dksX7_when_1 0 rfl rfl)
theorem dX7_when_25 : decode cX7_when 25 = .ok (.ifCond .ne 21, 3) := dk_154 0 21 (dk_at dksX7_when_1 1 rfl rfl)
theorem dX7_when_28 : decode cX7_when 28 = .ok (.new 337, 3) := dk_187 1 81 (dk_at dksX7_when_1 4 rfl rfl)
theorem dX7_when_31 : decode cX7_when 31 = .ok (.dup, 1) := dk_89 (dk_at dksX7_when_1 7 rfl rfl)
theorem dX7_when_32 : decode cX7_when 32 = .ok (.iload_n 2, 1) := dk_28 (dk_at dksX7_when_1 8 rfl rfl)
theorem dX7_when_33 : decode cX7_when 33 = .ok (.iload_n 3, 1) := dk_29 (dk_at dksX7_when_1 9 rfl rfl)
theorem dX7_when_34 : decode cX7_when 34 = .ok (.aload_n 0, 1) := dk_42 (dk_at dksX7_when_1 10 rfl rfl)
theorem dX7_when_35 : decode cX7_when 35 = .ok (.aload_n 1, 1) := dk_43 (dk_at dksX7_when_1 11 rfl rfl)
theorem dX7_when_36 : decode cX7_when 36 = .ok (.iconst (-1), 1) := dk_2 (dk_at dksX7_when_1 12 rfl rfl)
theorem dX7_when_37 : decode cX7_when 37 = .ok (.invokevirtual 250, 3) := dk_182 0 250 (dk_at dksX7_when_1 13 rfl rfl)
theorem dX7_when_40 : decode cX7_when 40 = .ok (.iconst 0, 1) := dk_3 (dk_at dksX7_when_1 16 rfl rfl)
theorem dX7_when_41 : decode cX7_when 41 = .ok (.iconst 0, 1) := dk_3 (dk_at dksX7_when_1 17 rfl rfl)
theorem dX7_when_42 : decode cX7_when 42 = .ok (.invokespecial 339, 3) := dk_183 1 83 (dk_at dksX7_when_1 18 rfl rfl)
theorem dX7_when_45 : decode cX7_when 45 = .ok (.areturn, 1) := dk_176 (dk_at dksX7_when_1 21 rfl rfl)
theorem dX7_when_46 : decode cX7_when 46 = .ok (.iload_n 2, 1) := dk_28 (dk_at dksX7_when_1 22 rfl rfl)
theorem dX7_when_47 : decode cX7_when 47 = .ok (.iconst 1, 1) := dk_4 (dk_at dksX7_when_1 23 rfl rfl)
theorem dX7_when_48 : decode cX7_when 48 = .ok (.if_icmp .ne 21, 3) := dk_160 0 21 (dk_at dksX7_when_2 0 rfl rfl)
theorem dX7_when_51 : decode cX7_when 51 = .ok (.new 337, 3) := dk_187 1 81 (dk_at dksX7_when_2 3 rfl rfl)
theorem dX7_when_54 : decode cX7_when 54 = .ok (.dup, 1) := dk_89 (dk_at dksX7_when_2 6 rfl rfl)
theorem dX7_when_55 : decode cX7_when 55 = .ok (.iload_n 2, 1) := dk_28 (dk_at dksX7_when_2 7 rfl rfl)
theorem dX7_when_56 : decode cX7_when 56 = .ok (.iload_n 3, 1) := dk_29 (dk_at dksX7_when_2 8 rfl rfl)
theorem dX7_when_57 : decode cX7_when 57 = .ok (.aload_n 0, 1) := dk_42 (dk_at dksX7_when_2 9 rfl rfl)
theorem dX7_when_58 : decode cX7_when 58 = .ok (.aload_n 1, 1) := dk_43 (dk_at dksX7_when_2 10 rfl rfl)
theorem dX7_when_59 : decode cX7_when 59 = .ok (.iconst (-1), 1) := dk_2 (dk_at dksX7_when_2 11 rfl rfl)
theorem dX7_when_60 : decode cX7_when 60 = .ok (.invokevirtual 270, 3) := dk_182 1 14 (dk_at dksX7_when_2 12 rfl rfl)
theorem dX7_when_63 : decode cX7_when 63 = .ok (.iconst 0, 1) := dk_3 (dk_at dksX7_when_2 15 rfl rfl)
theorem dX7_when_64 : decode cX7_when 64 = .ok (.iconst 0, 1) := dk_3 (dk_at dksX7_when_2 16 rfl rfl)
theorem dX7_when_65 : decode cX7_when 65 = .ok (.invokespecial 339, 3) := dk_183 1 83 (dk_at dksX7_when_2 17 rfl rfl)
theorem dX7_when_68 : decode cX7_when 68 = .ok (.areturn, 1) := dk_176 (dk_at dksX7_when_2 20 rfl rfl)
theorem dX7_when_69 : decode cX7_when 69 = .ok (.aload_n 0, 1) := dk_42 (dk_at dksX7_when_2 21 rfl rfl)
theorem dX7_when_70 : decode cX7_when 70 = .ok (.bipush 60, 2) := dk_16 60 (dk_at dksX7_when_2 22 rfl rfl)
theorem dX7_when_72 : decode cX7_when 72 = .ok (.invokevirtual 64, 3) := dk_182 0 64 (dk_at dksX7_when_3 0 rfl rfl)
theorem dX7_when_75 : decode cX7_when 75 = .ok (.ifCond .eq 8, 3) := dk_153 0 8 (dk_at dksX7_when_3 3 rfl rfl)
theorem dX7_when_78 : decode cX7_when 78 = .ok (.bipush 60, 2) := dk_16 60 (dk_at dksX7_when_3 6 rfl rfl)
theorem dX7_when_80 : decode cX7_when 80 = .ok (.goto 19, 3) := dk_167 0 19 (dk_at dksX7_when_3 8 rfl rfl)
theorem dX7_when_83 : decode cX7_when 83 = .ok (.aload_n 0, 1) := dk_42 (dk_at dksX7_when_3 11 rfl rfl)
theorem dX7_when_84 : decode cX7_when 84 = .ok (.bipush 62, 2) := dk_16 62 (dk_at dksX7_when_3 12 rfl rfl)
theorem dX7_when_86 : decode cX7_when 86 = .ok (.invokevirtual 64, 3) := dk_182 0 64 (dk_at dksX7_when_3 14 rfl rfl)
theorem dX7_when_89 : decode cX7_when 89 = .ok (.ifCond .eq 8, 3) := dk_153 0 8 (dk_at dksX7_when_3 17 rfl rfl)
theorem dX7_when_92 : decode cX7_when 92 = .ok (.bipush 62, 2) := dk_16 62 (dk_at dksX7_when_3 20 rfl rfl)
theorem dX7_when_94 : decode cX7_when 94 = .ok (.goto 5, 3) := dk_167 0 5 (dk_at dksX7_when_4 0 rfl rfl)
theorem dX7_when_97 : decode cX7_when 97 = .ok (.bipush 61, 2) := dk_16 61 (dk_at dksX7_when_4 3 rfl rfl)
theorem dX7_when_99 : decode cX7_when 99 = .ok (.istore 4, 2) := dk_54 4 (dk_at dksX7_when_4 5 rfl rfl)
theorem dX7_when_101 : decode cX7_when 101 = .ok (.aload_n 0, 1) := dk_42 (dk_at dksX7_when_4 7 rfl rfl)
theorem dX7_when_102 : decode cX7_when 102 = .ok (.iload 4, 2) := dk_21 4 (dk_at dksX7_when_4 8 rfl rfl)
theorem dX7_when_104 : decode cX7_when 104 = .ok (.i2c, 1) := dk_146 (dk_at dksX7_when_4 10 rfl rfl)
theorem dX7_when_105 : decode cX7_when 105 = .ok (.invokevirtual 64, 3) := dk_182 0 64 (dk_at dksX7_when_4 11 rfl rfl)
theorem dX7_when_108 : decode cX7_when 108 = .ok (.ifCond .ne 8, 3) := dk_154 0 8 (dk_at dksX7_when_4 14 rfl rfl)
theorem dX7_when_111 : decode cX7_when 111 = .ok (.aload_n 0, 1) := dk_42 (dk_at dksX7_when_4 17 rfl rfl)
theorem dX7_when_112 : decode cX7_when 112 = .ok (.invokevirtual 68, 3) := dk_182 0 68 (dk_at dksX7_when_4 18 rfl rfl)
theorem dX7_when_115 : decode cX7_when 115 = .ok (.athrow, 1) := dk_191 (dk_at dksX7_when_4 21 rfl rfl)
theorem dX7_when_116 : decode cX7_when 116 = .ok (.aload_n 0, 1) := dk_42 (dk_at dksX7_when_4 22 rfl rfl)
theorem dX7_when_117 : decode cX7_when 117 = .ok (.invokevirtual 19, 3) := dk_182 0 19 (dk_at dksX7_when_5 0 rfl rfl)
theorem dX7_when_120 : decode cX7_when 120 = .ok (.new 337, 3) := dk_187 1 81 (dk_at dksX7_when_5 3 rfl rfl)
theorem dX7_when_123 : decode cX7_when 123 = .ok (.dup, 1) := dk_89 (dk_at dksX7_when_5 6 rfl rfl)
theorem dX7_when_124 : decode cX7_when 124 = .ok (.iload_n 2, 1) := dk_28 (dk_at dksX7_when_5 7 rfl rfl)
theorem dX7_when_125 : decode cX7_when 125 = .ok (.iload_n 3, 1) := dk_29 (dk_at dksX7_when_5 8 rfl rfl)
theorem dX7_when_126 : decode cX7_when 126 = .ok (.iconst (-1), 1) := dk_2 (dk_at dksX7_when_5 9 rfl rfl)
theorem dX7_when_127 : decode cX7_when 127 = .ok (.iload 4, 2) := dk_21 4 (dk_at dksX7_when_5 10 rfl rfl)
theorem dX7_when_129 : decode cX7_when 129 = .ok (.aload_n 0, 1) := dk_42 (dk_at dksX7_when_5 12 rfl rfl)
theorem dX7_when_130 : decode cX7_when 130 = .ok (.iconst 0, 1) := dk_3 (dk_at dksX7_when_5 13 rfl rfl)
theorem dX7_when_131 : decode cX7_when 131 = .ok (.sipush 9999, 3) := dk_17 39 15 (dk_at dksX7_when_5 14 rfl rfl)
theorem dX7_when_134 : decode cX7_when 134 = .ok (.invokevirtual 80, 3) := dk_182 0 80 (dk_at dksX7_when_5 17 rfl rfl)
theorem dX7_when_137 : decode cX7_when 137 = .ok (.invokespecial 339, 3) := dk_183 1 83 (dk_at dksX7_when_5 20 rfl rfl)
theorem dX7_when_140 : decode cX7_when 140 = .ok (.areturn, 1) := dk_176 (dk_at dksX7_when_5 23 rfl rfl)
abbrev cX7_plain : ByteArray := prog_12_method_35_code
def yX7_plain : MethodName := ⟨RX7, "plain", "(LCargoFlag$World;)LCargoFlag$Step;"⟩
def dkwX7_plain_5 : List UInt8 := [182, 0, 80, 183, 1, 70, 176]
abbrev dktX7_plain_5 : List UInt8 := dkwX7_plain_5 ++ []
def dkwX7_plain_4 : List UInt8 := [183, 1, 70, 176, 42, 43, 182, 1, 16, 54, 4, 187, 1, 68, 89, 28, 29, 21, 4, 42, 4, 16, 60]
abbrev dktX7_plain_4 : List UInt8 := dkwX7_plain_4 ++ dktX7_plain_5
def dkwX7_plain_3 : List UInt8 := [183, 1, 70, 176, 28, 7, 160, 0, 20, 187, 1, 68, 89, 28, 29, 42, 43, 2, 182, 1, 14, 3]
abbrev dktX7_plain_3 : List UInt8 := dkwX7_plain_3 ++ dktX7_plain_4
def dkwX7_plain_2 : List UInt8 := [183, 1, 70, 176, 42, 43, 182, 1, 32, 62, 28, 8, 160, 0, 15, 187, 1, 68, 89, 28, 29, 2, 3]
abbrev dktX7_plain_2 : List UInt8 := dkwX7_plain_2 ++ dktX7_plain_3
def dkwX7_plain_1 : List UInt8 := [183, 1, 70, 176, 28, 154, 0, 21, 187, 1, 68, 89, 28, 2, 2, 42, 4, 16, 20, 182, 0, 80]
abbrev dktX7_plain_1 : List UInt8 := dkwX7_plain_1 ++ dktX7_plain_2
def dkwX7_plain_0 : List UInt8 := [42, 182, 0, 141, 61, 42, 182, 0, 19, 28, 16, 6, 160, 0, 15, 187, 1, 68, 89, 28, 2, 2, 3]
abbrev dktX7_plain_0 : List UInt8 := dkwX7_plain_0 ++ dktX7_plain_1
theorem dksX7_plain_0 : cX7_plain.data.toList.drop 0 = dktX7_plain_0 := by decide +kernel
theorem dksX7_plain_1 : cX7_plain.data.toList.drop 23 = dktX7_plain_1 := dk_seg dksX7_plain_0 23 rfl rfl
theorem dksX7_plain_2 : cX7_plain.data.toList.drop 45 = dktX7_plain_2 := dk_seg dksX7_plain_1 22 rfl rfl
theorem dksX7_plain_3 : cX7_plain.data.toList.drop 68 = dktX7_plain_3 := dk_seg dksX7_plain_2 23 rfl rfl
theorem dksX7_plain_4 : cX7_plain.data.toList.drop 90 = dktX7_plain_4 := dk_seg dksX7_plain_3 22 rfl rfl
theorem dksX7_plain_5 : cX7_plain.data.toList.drop 113 = dktX7_plain_5 := dk_seg dksX7_plain_4 23 rfl rfl
theorem dX7_plain_0 : decode cX7_plain 0 = .ok (.aload_n 0, 1) := dk_42 (dk_at dksX7_plain_0 0 rfl rfl)
theorem dX7_plain_1 : decode cX7_plain 1 = .ok (.invokevirtual 141, 3) := dk_182 0 141 (dk_at dksX7_plain_0 1 rfl rfl)
theorem dX7_plain_4 : decode cX7_plain 4 = .ok (.istore_n 2, 1) := dk_61 (dk_at dksX7_plain_0 4 rfl rfl)
theorem dX7_plain_5 : decode cX7_plain 5 = .ok (.aload_n 0, 1) := dk_42 (dk_at dksX7_plain_0 5 rfl rfl)
theorem dX7_plain_6 : decode cX7_plain 6 = .ok (.invokevirtual 19, 3) := dk_182 0 19 (dk_at dksX7_plain_0 6 rfl rfl)
theorem dX7_plain_9 : decode cX7_plain 9 = .ok (.iload_n 2, 1) := dk_28 (dk_at dksX7_plain_0 9 rfl rfl)
theorem dX7_plain_10 : decode cX7_plain 10 = .ok (.bipush 6, 2) := dk_16 6 (dk_at dksX7_plain_0 10 rfl rfl)
theorem dX7_plain_12 : decode cX7_plain 12 = .ok (.if_icmp .ne 15, 3) := dk_160 0 15 (dk_at dksX7_plain_0 12 rfl rfl)
theorem dX7_plain_15 : decode cX7_plain 15 = .ok (.new 324, 3) := dk_187 1 68 (dk_at dksX7_plain_0 15 rfl rfl)
theorem dX7_plain_18 : decode cX7_plain 18 = .ok (.dup, 1) := dk_89 (dk_at dksX7_plain_0 18 rfl rfl)
theorem dX7_plain_19 : decode cX7_plain 19 = .ok (.iload_n 2, 1) := dk_28 (dk_at dksX7_plain_0 19 rfl rfl)
theorem dX7_plain_20 : decode cX7_plain 20 = .ok (.iconst (-1), 1) := dk_2 (dk_at dksX7_plain_0 20 rfl rfl)
theorem dX7_plain_21 : decode cX7_plain 21 = .ok (.iconst (-1), 1) := dk_2 (dk_at dksX7_plain_0 21 rfl rfl)
theorem dX7_plain_22 : decode cX7_plain 22 = .ok (.iconst 0, 1) := dk_3 (dk_at dksX7_plain_0 22 rfl rfl)
theorem dX7_plain_23 : decode cX7_plain 23 = .ok (.invokespecial 326, 3) := dk_183 1 70 (dk_at dksX7_plain_1 0 rfl rfl)
theorem dX7_plain_26 : decode cX7_plain 26 = .ok (.areturn, 1) := dk_176 (dk_at dksX7_plain_1 3 rfl rfl)
theorem dX7_plain_27 : decode cX7_plain 27 = .ok (.iload_n 2, 1) := dk_28 (dk_at dksX7_plain_1 4 rfl rfl)
theorem dX7_plain_28 : decode cX7_plain 28 = .ok (.ifCond .ne 21, 3) := dk_154 0 21 (dk_at dksX7_plain_1 5 rfl rfl)
theorem dX7_plain_31 : decode cX7_plain 31 = .ok (.new 324, 3) := dk_187 1 68 (dk_at dksX7_plain_1 8 rfl rfl)
theorem dX7_plain_34 : decode cX7_plain 34 = .ok (.dup, 1) := dk_89 (dk_at dksX7_plain_1 11 rfl rfl)
theorem dX7_plain_35 : decode cX7_plain 35 = .ok (.iload_n 2, 1) := dk_28 (dk_at dksX7_plain_1 12 rfl rfl)
theorem dX7_plain_36 : decode cX7_plain 36 = .ok (.iconst (-1), 1) := dk_2 (dk_at dksX7_plain_1 13 rfl rfl)
theorem dX7_plain_37 : decode cX7_plain 37 = .ok (.iconst (-1), 1) := dk_2 (dk_at dksX7_plain_1 14 rfl rfl)
theorem dX7_plain_38 : decode cX7_plain 38 = .ok (.aload_n 0, 1) := dk_42 (dk_at dksX7_plain_1 15 rfl rfl)
theorem dX7_plain_39 : decode cX7_plain 39 = .ok (.iconst 1, 1) := dk_4 (dk_at dksX7_plain_1 16 rfl rfl)
theorem dX7_plain_40 : decode cX7_plain 40 = .ok (.bipush 20, 2) := dk_16 20 (dk_at dksX7_plain_1 17 rfl rfl)
theorem dX7_plain_42 : decode cX7_plain 42 = .ok (.invokevirtual 80, 3) := dk_182 0 80 (dk_at dksX7_plain_1 19 rfl rfl)
theorem dX7_plain_45 : decode cX7_plain 45 = .ok (.invokespecial 326, 3) := dk_183 1 70 (dk_at dksX7_plain_2 0 rfl rfl)
theorem dX7_plain_48 : decode cX7_plain 48 = .ok (.areturn, 1) := dk_176 (dk_at dksX7_plain_2 3 rfl rfl)
theorem dX7_plain_49 : decode cX7_plain 49 = .ok (.aload_n 0, 1) := dk_42 (dk_at dksX7_plain_2 4 rfl rfl)
theorem dX7_plain_50 : decode cX7_plain 50 = .ok (.aload_n 1, 1) := dk_43 (dk_at dksX7_plain_2 5 rfl rfl)
theorem dX7_plain_51 : decode cX7_plain 51 = .ok (.invokevirtual 288, 3) := dk_182 1 32 (dk_at dksX7_plain_2 6 rfl rfl)
theorem dX7_plain_54 : decode cX7_plain 54 = .ok (.istore_n 3, 1) := dk_62 (dk_at dksX7_plain_2 9 rfl rfl)
theorem dX7_plain_55 : decode cX7_plain 55 = .ok (.iload_n 2, 1) := dk_28 (dk_at dksX7_plain_2 10 rfl rfl)
theorem dX7_plain_56 : decode cX7_plain 56 = .ok (.iconst 5, 1) := dk_8 (dk_at dksX7_plain_2 11 rfl rfl)
theorem dX7_plain_57 : decode cX7_plain 57 = .ok (.if_icmp .ne 15, 3) := dk_160 0 15 (dk_at dksX7_plain_2 12 rfl rfl)
theorem dX7_plain_60 : decode cX7_plain 60 = .ok (.new 324, 3) := dk_187 1 68 (dk_at dksX7_plain_2 15 rfl rfl)
theorem dX7_plain_63 : decode cX7_plain 63 = .ok (.dup, 1) := dk_89 (dk_at dksX7_plain_2 18 rfl rfl)
theorem dX7_plain_64 : decode cX7_plain 64 = .ok (.iload_n 2, 1) := dk_28 (dk_at dksX7_plain_2 19 rfl rfl)
theorem dX7_plain_65 : decode cX7_plain 65 = .ok (.iload_n 3, 1) := dk_29 (dk_at dksX7_plain_2 20 rfl rfl)
theorem dX7_plain_66 : decode cX7_plain 66 = .ok (.iconst (-1), 1) := dk_2 (dk_at dksX7_plain_2 21 rfl rfl)
theorem dX7_plain_67 : decode cX7_plain 67 = .ok (.iconst 0, 1) := dk_3 (dk_at dksX7_plain_2 22 rfl rfl)
theorem dX7_plain_68 : decode cX7_plain 68 = .ok (.invokespecial 326, 3) := dk_183 1 70 (dk_at dksX7_plain_3 0 rfl rfl)
theorem dX7_plain_71 : decode cX7_plain 71 = .ok (.areturn, 1) := dk_176 (dk_at dksX7_plain_3 3 rfl rfl)
theorem dX7_plain_72 : decode cX7_plain 72 = .ok (.iload_n 2, 1) := dk_28 (dk_at dksX7_plain_3 4 rfl rfl)
theorem dX7_plain_73 : decode cX7_plain 73 = .ok (.iconst 4, 1) := dk_7 (dk_at dksX7_plain_3 5 rfl rfl)
theorem dX7_plain_74 : decode cX7_plain 74 = .ok (.if_icmp .ne 20, 3) := dk_160 0 20 (dk_at dksX7_plain_3 6 rfl rfl)
theorem dX7_plain_77 : decode cX7_plain 77 = .ok (.new 324, 3) := dk_187 1 68 (dk_at dksX7_plain_3 9 rfl rfl)
theorem dX7_plain_80 : decode cX7_plain 80 = .ok (.dup, 1) := dk_89 (dk_at dksX7_plain_3 12 rfl rfl)
theorem dX7_plain_81 : decode cX7_plain 81 = .ok (.iload_n 2, 1) := dk_28 (dk_at dksX7_plain_3 13 rfl rfl)
theorem dX7_plain_82 : decode cX7_plain 82 = .ok (.iload_n 3, 1) := dk_29 (dk_at dksX7_plain_3 14 rfl rfl)
theorem dX7_plain_83 : decode cX7_plain 83 = .ok (.aload_n 0, 1) := dk_42 (dk_at dksX7_plain_3 15 rfl rfl)
theorem dX7_plain_84 : decode cX7_plain 84 = .ok (.aload_n 1, 1) := dk_43 (dk_at dksX7_plain_3 16 rfl rfl)
theorem dX7_plain_85 : decode cX7_plain 85 = .ok (.iconst (-1), 1) := dk_2 (dk_at dksX7_plain_3 17 rfl rfl)
theorem dX7_plain_86 : decode cX7_plain 86 = .ok (.invokevirtual 270, 3) := dk_182 1 14 (dk_at dksX7_plain_3 18 rfl rfl)
theorem dX7_plain_89 : decode cX7_plain 89 = .ok (.iconst 0, 1) := dk_3 (dk_at dksX7_plain_3 21 rfl rfl)
theorem dX7_plain_90 : decode cX7_plain 90 = .ok (.invokespecial 326, 3) := dk_183 1 70 (dk_at dksX7_plain_4 0 rfl rfl)
theorem dX7_plain_93 : decode cX7_plain 93 = .ok (.areturn, 1) := dk_176 (dk_at dksX7_plain_4 3 rfl rfl)
theorem dX7_plain_94 : decode cX7_plain 94 = .ok (.aload_n 0, 1) := dk_42 (dk_at dksX7_plain_4 4 rfl rfl)
theorem dX7_plain_95 : decode cX7_plain 95 = .ok (.aload_n 1, 1) := dk_43 (dk_at dksX7_plain_4 5 rfl rfl)
theorem dX7_plain_96 : decode cX7_plain 96 = .ok (.invokevirtual 272, 3) := dk_182 1 16 (dk_at dksX7_plain_4 6 rfl rfl)
theorem dX7_plain_99 : decode cX7_plain 99 = .ok (.istore 4, 2) := dk_54 4 (dk_at dksX7_plain_4 9 rfl rfl)
theorem dX7_plain_101 : decode cX7_plain 101 = .ok (.new 324, 3) := dk_187 1 68 (dk_at dksX7_plain_4 11 rfl rfl)
theorem dX7_plain_104 : decode cX7_plain 104 = .ok (.dup, 1) := dk_89 (dk_at dksX7_plain_4 14 rfl rfl)
theorem dX7_plain_105 : decode cX7_plain 105 = .ok (.iload_n 2, 1) := dk_28 (dk_at dksX7_plain_4 15 rfl rfl)
theorem dX7_plain_106 : decode cX7_plain 106 = .ok (.iload_n 3, 1) := dk_29 (dk_at dksX7_plain_4 16 rfl rfl)
theorem dX7_plain_107 : decode cX7_plain 107 = .ok (.iload 4, 2) := dk_21 4 (dk_at dksX7_plain_4 17 rfl rfl)
theorem dX7_plain_109 : decode cX7_plain 109 = .ok (.aload_n 0, 1) := dk_42 (dk_at dksX7_plain_4 19 rfl rfl)
theorem dX7_plain_110 : decode cX7_plain 110 = .ok (.iconst 1, 1) := dk_4 (dk_at dksX7_plain_4 20 rfl rfl)
theorem dX7_plain_111 : decode cX7_plain 111 = .ok (.bipush 60, 2) := dk_16 60 (dk_at dksX7_plain_4 21 rfl rfl)
theorem dX7_plain_113 : decode cX7_plain 113 = .ok (.invokevirtual 80, 3) := dk_182 0 80 (dk_at dksX7_plain_5 0 rfl rfl)
theorem dX7_plain_116 : decode cX7_plain 116 = .ok (.invokespecial 326, 3) := dk_183 1 70 (dk_at dksX7_plain_5 3 rfl rfl)
theorem dX7_plain_119 : decode cX7_plain 119 = .ok (.areturn, 1) := dk_176 (dk_at dksX7_plain_5 6 rfl rfl)
theorem q191 : (Jvm.Cond.initialized "CargoFlag$Reader") ∈ lw_all := lw_g (lw_at lw_m1 16 rfl) rfl
theorem q339 : (Jvm.Cond.fieldLinkNest "CargoFlag$Reader" (180 : Nat) "CargoFlag$World" "nations" "I" "CargoFlag") ∈ lw_tbl := lw_at lw_m1 164 rfl
theorem q342 : (Jvm.Cond.fieldLinkNest "CargoFlag$Reader" (190 : Nat) "CargoFlag$World" "goods" "I" "CargoFlag") ∈ lw_tbl := lw_at lw_m1 167 rfl
theorem q346 : (Jvm.Cond.fieldLinkNest "CargoFlag$Reader" (196 : Nat) "CargoFlag$World" "ports" "I" "CargoFlag") ∈ lw_tbl := lw_at lw_m1 171 rfl
theorem q349 : (Jvm.Cond.fieldLinkNest "CargoFlag$Reader" (202 : Nat) "CargoFlag$World" "ships" "I" "CargoFlag") ∈ lw_tbl := lw_at lw_m1 174 rfl
theorem q352 : (Jvm.Cond.fieldLinkNest "CargoFlag$Reader" (301 : Nat) "CargoFlag$World" "rule" "I" "CargoFlag") ∈ lw_tbl := lw_at lw_m1 177 rfl
theorem q358 : (Jvm.Cond.fieldLinkNest "CargoFlag$Reader" (177 : Nat) "CargoFlag$World" "nation" "[LCargoFlag$Nation;" "CargoFlag") ∈ lw_tbl := lw_at lw_m1 183 rfl
theorem q361 : (Jvm.Cond.fieldLinkNest "CargoFlag$Reader" (187 : Nat) "CargoFlag$World" "good" "[LCargoFlag$Good;" "CargoFlag") ∈ lw_tbl := lw_at lw_m1 186 rfl
theorem q364 : (Jvm.Cond.fieldLinkNest "CargoFlag$Reader" (193 : Nat) "CargoFlag$World" "port" "[LCargoFlag$Port;" "CargoFlag") ∈ lw_tbl := lw_at lw_m1 189 rfl
theorem q367 : (Jvm.Cond.fieldLinkNest "CargoFlag$Reader" (199 : Nat) "CargoFlag$World" "ship" "[LCargoFlag$Ship;" "CargoFlag") ∈ lw_tbl := lw_at lw_m1 192 rfl
theorem q370 : (Jvm.Cond.fieldLinkNest "CargoFlag$Reader" (253 : Nat) "CargoFlag$World" "wars" "[I" "CargoFlag") ∈ lw_tbl := lw_at lw_m1 195 rfl
theorem q373 : (Jvm.Cond.fieldLinkNest "CargoFlag$Reader" (275 : Nat) "CargoFlag$World" "price" "[I" "CargoFlag") ∈ lw_tbl := lw_at lw_m1 198 rfl
theorem q376 : (Jvm.Cond.fieldLinkNest "CargoFlag$Reader" (277 : Nat) "CargoFlag$World" "way" "[I" "CargoFlag") ∈ lw_tbl := lw_at lw_m1 201 rfl
theorem q380 : (Jvm.Cond.fieldLinkNest "CargoFlag$Reader" (282 : Nat) "CargoFlag$World" "at" "[I" "CargoFlag") ∈ lw_tbl := lw_at lw_m1 205 rfl
theorem q388 : (Jvm.Cond.fieldLinkNest "CargoFlag$Reader" (286 : Nat) "CargoFlag$World" "coins" "[I" "CargoFlag") ∈ lw_tbl := lw_at lw_m1 213 rfl
theorem q395 : (Jvm.Cond.fieldLinkNest "CargoFlag$Reader" (290 : Nat) "CargoFlag$World" "tons" "[I" "CargoFlag") ∈ lw_tbl := lw_at lw_m1 220 rfl
theorem q455 : (Jvm.Cond.fieldLinkNest "CargoFlag$Reader" (22 : Nat) "CargoFlag" "tape" "[B" "CargoFlag") ∈ lw_tbl := lw_at lw_m2 40 rfl
theorem q460 : (Jvm.Cond.fieldLinkNest "CargoFlag$Reader" (55 : Nat) "CargoFlag" "bad" "LCargoFlag$Bad;" "CargoFlag") ∈ lw_tbl := lw_at lw_m2 45 rfl
theorem q668 : (Jvm.Cond.instantiable "CargoFlag$Reader" (8 : Nat)) ∈ lw_all := lw_g (lw_at lw_m3 13 rfl) rfl
theorem q670 : (Jvm.Cond.instanceMethod ({ cls := "CargoFlag$Reader", name := "<init>", desc := "(LCargoFlag;I)V" } : Jvm.MethodName)) ∈ lw_all := lw_g (lw_at lw_m3 15 rfl) rfl
theorem q671 : (Jvm.Cond.code ({ cls := "CargoFlag$Reader", name := "<init>", desc := "(LCargoFlag;I)V" } : Jvm.MethodName) prog_12_method_1_code (3 : Nat) (Option.none : Option Jvm.ClassFile.FieldType)) ∈ lw_all := lw_g (lw_at lw_m3 16 rfl) rfl
theorem q672 : (Jvm.Cond.methodLink "CargoFlag$Reader" (9 : Nat) ({ cls := "java/lang/Object", name := "<init>", desc := "()V" } : Jvm.MethodName)) ∈ lw_all := lw_g (lw_at lw_m3 17 rfl) rfl
theorem q673 : (Jvm.Cond.methodLink "CargoFlag$Reader" (19 : Nat) ({ cls := "CargoFlag$Reader", name := "next", desc := "()V" } : Jvm.MethodName)) ∈ lw_all := lw_g (lw_at lw_m3 18 rfl) rfl
theorem q674 : (Jvm.Cond.privateMethod ({ cls := "CargoFlag$Reader", name := "next", desc := "()V" } : Jvm.MethodName)) ∈ lw_tbl := lw_at lw_m3 19 rfl
theorem q675 : (Jvm.Cond.instanceMethod ({ cls := "CargoFlag$Reader", name := "next", desc := "()V" } : Jvm.MethodName)) ∈ lw_all := lw_g (lw_at lw_m3 20 rfl) rfl
theorem q676 : (Jvm.Cond.code ({ cls := "CargoFlag$Reader", name := "next", desc := "()V" } : Jvm.MethodName) prog_12_method_4_code (1 : Nat) (Option.none : Option Jvm.ClassFile.FieldType)) ∈ lw_all := lw_g (lw_at lw_m3 21 rfl) rfl
theorem q677 : (Jvm.Cond.methodLink "CargoFlag$Reader" (35 : Nat) ({ cls := "CargoFlag$Reader", name := "isLetter", desc := "(I)Z" } : Jvm.MethodName)) ∈ lw_all := lw_g (lw_at lw_m3 22 rfl) rfl
theorem q678 : (Jvm.Cond.privateMethod ({ cls := "CargoFlag$Reader", name := "isLetter", desc := "(I)Z" } : Jvm.MethodName)) ∈ lw_tbl := lw_at lw_m3 23 rfl
theorem q679 : (Jvm.Cond.instanceMethod ({ cls := "CargoFlag$Reader", name := "isLetter", desc := "(I)Z" } : Jvm.MethodName)) ∈ lw_all := lw_g (lw_at lw_m3 24 rfl) rfl
theorem q680 : (Jvm.Cond.code ({ cls := "CargoFlag$Reader", name := "isLetter", desc := "(I)Z" } : Jvm.MethodName) prog_12_method_2_code (2 : Nat) (Option.some Jvm.ClassFile.FieldType.boolean)) ∈ lw_all := lw_g (lw_at lw_m3 25 rfl) rfl
theorem q681 : (Jvm.Cond.methodLink "CargoFlag$Reader" (39 : Nat) ({ cls := "CargoFlag$Reader", name := "isDigit", desc := "(I)Z" } : Jvm.MethodName)) ∈ lw_all := lw_g (lw_at lw_m3 26 rfl) rfl
theorem q682 : (Jvm.Cond.privateMethod ({ cls := "CargoFlag$Reader", name := "isDigit", desc := "(I)Z" } : Jvm.MethodName)) ∈ lw_tbl := lw_at lw_m3 27 rfl
theorem q683 : (Jvm.Cond.instanceMethod ({ cls := "CargoFlag$Reader", name := "isDigit", desc := "(I)Z" } : Jvm.MethodName)) ∈ lw_all := lw_g (lw_at lw_m3 28 rfl) rfl
theorem q684 : (Jvm.Cond.code ({ cls := "CargoFlag$Reader", name := "isDigit", desc := "(I)Z" } : Jvm.MethodName) prog_12_method_3_code (2 : Nat) (Option.some Jvm.ClassFile.FieldType.boolean)) ∈ lw_all := lw_g (lw_at lw_m3 29 rfl) rfl
theorem q685 : (Jvm.Cond.fieldLink "CargoFlag$Reader" (15 : Nat) "CargoFlag$Reader" "size" "I") ∈ lw_all := lw_g (lw_at lw_m3 30 rfl) rfl
theorem q686 : (Jvm.Cond.fieldLink "CargoFlag$Reader" (29 : Nat) "CargoFlag$Reader" "at" "I") ∈ lw_all := lw_g (lw_at lw_m3 31 rfl) rfl
theorem q687 : (Jvm.Cond.fieldLink "CargoFlag$Reader" (26 : Nat) "CargoFlag$Reader" "behind" "I") ∈ lw_all := lw_g (lw_at lw_m3 32 rfl) rfl
theorem q688 : (Jvm.Cond.fieldLink "CargoFlag$Reader" (32 : Nat) "CargoFlag$Reader" "sort" "I") ∈ lw_all := lw_g (lw_at lw_m3 33 rfl) rfl
theorem q689 : (Jvm.Cond.fieldLink "CargoFlag$Reader" (42 : Nat) "CargoFlag$Reader" "number" "I") ∈ lw_all := lw_g (lw_at lw_m3 34 rfl) rfl
theorem q690 : (Jvm.Cond.fieldLink "CargoFlag$Reader" (307 : Nat) "CargoFlag$Reader" "steps" "I") ∈ lw_all := lw_g (lw_at lw_m3 35 rfl) rfl
theorem q692 : (Jvm.Cond.fieldLink "CargoFlag$Reader" (297 : Nat) "CargoFlag$Reader" "hasRule" "Z") ∈ lw_all := lw_g (lw_at lw_m3 37 rfl) rfl
theorem q693 : (Jvm.Cond.fieldLink "CargoFlag$Reader" (3 : Nat) "CargoFlag$Reader" "this$0" "LCargoFlag;") ∈ lw_all := lw_g (lw_at lw_m3 38 rfl) rfl
theorem q694 : (Jvm.Cond.laysFinal "CargoFlag$Reader" "CargoFlag$Reader" "size" "I") ∈ lw_all := lw_g (lw_at lw_m3 39 rfl) rfl
theorem q695 : (Jvm.Cond.soleField "CargoFlag$Reader" "size") ∈ lw_all := lw_g (lw_at lw_m3 40 rfl) rfl
theorem q696 : (Jvm.Cond.lays "CargoFlag$Reader" "CargoFlag$Reader" "at" "I") ∈ lw_all := lw_g (lw_at lw_m3 41 rfl) rfl
theorem q697 : (Jvm.Cond.soleField "CargoFlag$Reader" "at") ∈ lw_all := lw_g (lw_at lw_m3 42 rfl) rfl
theorem q698 : (Jvm.Cond.lays "CargoFlag$Reader" "CargoFlag$Reader" "behind" "I") ∈ lw_all := lw_g (lw_at lw_m3 43 rfl) rfl
theorem q699 : (Jvm.Cond.soleField "CargoFlag$Reader" "behind") ∈ lw_all := lw_g (lw_at lw_m3 44 rfl) rfl
theorem q700 : (Jvm.Cond.lays "CargoFlag$Reader" "CargoFlag$Reader" "sort" "I") ∈ lw_all := lw_g (lw_at lw_m3 45 rfl) rfl
theorem q701 : (Jvm.Cond.soleField "CargoFlag$Reader" "sort") ∈ lw_all := lw_g (lw_at lw_m3 46 rfl) rfl
theorem q702 : (Jvm.Cond.lays "CargoFlag$Reader" "CargoFlag$Reader" "number" "I") ∈ lw_all := lw_g (lw_at lw_m3 47 rfl) rfl
theorem q703 : (Jvm.Cond.soleField "CargoFlag$Reader" "number") ∈ lw_all := lw_g (lw_at lw_m3 48 rfl) rfl
theorem q704 : (Jvm.Cond.lays "CargoFlag$Reader" "CargoFlag$Reader" "steps" "I") ∈ lw_all := lw_g (lw_at lw_m3 49 rfl) rfl
theorem q705 : (Jvm.Cond.soleField "CargoFlag$Reader" "steps") ∈ lw_all := lw_g (lw_at lw_m3 50 rfl) rfl
theorem q706 : (Jvm.Cond.lays "CargoFlag$Reader" "CargoFlag$Reader" "hasRule" "Z") ∈ lw_all := lw_g (lw_at lw_m3 51 rfl) rfl
theorem q707 : (Jvm.Cond.soleField "CargoFlag$Reader" "hasRule") ∈ lw_all := lw_g (lw_at lw_m3 52 rfl) rfl
theorem q708 : (Jvm.Cond.laysFinal "CargoFlag$Reader" "CargoFlag$Reader" "this$0" "LCargoFlag;") ∈ lw_all := lw_g (lw_at lw_m3 53 rfl) rfl
theorem q709 : (Jvm.Cond.soleField "CargoFlag$Reader" "this$0") ∈ lw_all := lw_g (lw_at lw_m3 54 rfl) rfl
theorem q710 : (Jvm.Cond.superclass "CargoFlag$Reader" "java/lang/Object") ∈ lw_all := lw_g (lw_at lw_m3 55 rfl) rfl
theorem q712 : (Jvm.Cond.instanceMethod ({ cls := "CargoFlag$Reader", name := "world", desc := "(LCargoFlag$World;)V" } : Jvm.MethodName)) ∈ lw_all := lw_g (lw_at lw_m3 57 rfl) rfl
theorem q713 : (Jvm.Cond.selects "CargoFlag$Reader" ({ cls := "CargoFlag$Reader", name := "world", desc := "(LCargoFlag$World;)V" } : Jvm.MethodName) ({ cls := "CargoFlag$Reader", name := "world", desc := "(LCargoFlag$World;)V" } : Jvm.MethodName)) ∈ lw_all := lw_g (lw_at lw_m3 58 rfl) rfl
theorem q714 : (Jvm.Cond.code ({ cls := "CargoFlag$Reader", name := "world", desc := "(LCargoFlag$World;)V" } : Jvm.MethodName) prog_12_method_23_code (2 : Nat) (Option.none : Option Jvm.ClassFile.FieldType)) ∈ lw_all := lw_g (lw_at lw_m3 59 rfl) rfl
theorem q715 : (Jvm.Cond.stringRef "CargoFlag$Reader" (106 : Nat) "nation") ∈ lw_tbl := lw_at lw_m3 60 rfl
theorem q716 : (Jvm.Cond.methodLink "CargoFlag$Reader" (72 : Nat) ({ cls := "CargoFlag$Reader", name := "isWord", desc := "(Ljava/lang/String;)Z" } : Jvm.MethodName)) ∈ lw_all := lw_g (lw_at lw_m3 61 rfl) rfl
theorem q717 : (Jvm.Cond.privateMethod ({ cls := "CargoFlag$Reader", name := "isWord", desc := "(Ljava/lang/String;)Z" } : Jvm.MethodName)) ∈ lw_tbl := lw_at lw_m3 62 rfl
theorem q718 : (Jvm.Cond.instanceMethod ({ cls := "CargoFlag$Reader", name := "isWord", desc := "(Ljava/lang/String;)Z" } : Jvm.MethodName)) ∈ lw_all := lw_g (lw_at lw_m3 63 rfl) rfl
theorem q719 : (Jvm.Cond.code ({ cls := "CargoFlag$Reader", name := "isWord", desc := "(Ljava/lang/String;)Z" } : Jvm.MethodName) prog_12_method_5_code (3 : Nat) (Option.some Jvm.ClassFile.FieldType.boolean)) ∈ lw_all := lw_g (lw_at lw_m3 64 rfl) rfl
theorem q720 : (Jvm.Cond.methodLink "CargoFlag$Reader" (45 : Nat) ({ cls := "java/lang/String", name := "length", desc := "()I" } : Jvm.MethodName)) ∈ lw_all := lw_g (lw_at lw_m3 65 rfl) rfl
theorem q730 : (Jvm.Cond.methodLink "CargoFlag$Reader" (51 : Nat) ({ cls := "java/lang/String", name := "charAt", desc := "(I)C" } : Jvm.MethodName)) ∈ lw_all := lw_g (lw_at lw_m3 75 rfl) rfl
theorem q768 : (Jvm.Cond.methodLink "CargoFlag$Reader" (205 : Nat) ({ cls := "CargoFlag$Reader", name := "newNation", desc := "(LCargoFlag$World;)V" } : Jvm.MethodName)) ∈ lw_all := lw_g (lw_at lw_m3 113 rfl) rfl
theorem q769 : (Jvm.Cond.privateMethod ({ cls := "CargoFlag$Reader", name := "newNation", desc := "(LCargoFlag$World;)V" } : Jvm.MethodName)) ∈ lw_tbl := lw_at lw_m3 114 rfl
theorem q770 : (Jvm.Cond.instanceMethod ({ cls := "CargoFlag$Reader", name := "newNation", desc := "(LCargoFlag$World;)V" } : Jvm.MethodName)) ∈ lw_all := lw_g (lw_at lw_m3 115 rfl) rfl
theorem q771 : (Jvm.Cond.code ({ cls := "CargoFlag$Reader", name := "newNation", desc := "(LCargoFlag$World;)V" } : Jvm.MethodName) prog_12_method_24_code (3 : Nat) (Option.none : Option Jvm.ClassFile.FieldType)) ∈ lw_all := lw_g (lw_at lw_m3 116 rfl) rfl
theorem q772 : (Jvm.Cond.classLink "CargoFlag$Reader" (231 : Nat) "CargoFlag$Nation") ∈ lw_all := lw_g (lw_at lw_m3 117 rfl) rfl
theorem q774 : (Jvm.Cond.methodLink "CargoFlag$Reader" (233 : Nat) ({ cls := "CargoFlag$Reader", name := "fresh", desc := "(LCargoFlag$World;Z)J" } : Jvm.MethodName)) ∈ lw_all := lw_g (lw_at lw_m3 119 rfl) rfl
theorem q775 : (Jvm.Cond.privateMethod ({ cls := "CargoFlag$Reader", name := "fresh", desc := "(LCargoFlag$World;Z)J" } : Jvm.MethodName)) ∈ lw_tbl := lw_at lw_m3 120 rfl
theorem q776 : (Jvm.Cond.instanceMethod ({ cls := "CargoFlag$Reader", name := "fresh", desc := "(LCargoFlag$World;Z)J" } : Jvm.MethodName)) ∈ lw_all := lw_g (lw_at lw_m3 121 rfl) rfl
theorem q777 : (Jvm.Cond.code ({ cls := "CargoFlag$Reader", name := "fresh", desc := "(LCargoFlag$World;Z)J" } : Jvm.MethodName) prog_12_method_17_code (5 : Nat) (Option.some Jvm.ClassFile.FieldType.long)) ∈ lw_all := lw_g (lw_at lw_m3 122 rfl) rfl
theorem q778 : (Jvm.Cond.methodLink "CargoFlag$Reader" (59 : Nat) ({ cls := "CargoFlag$Bad", name := "at", desc := "(II)LCargoFlag$Bad;" } : Jvm.MethodName)) ∈ lw_all := lw_g (lw_at lw_m3 123 rfl) rfl
theorem q782 : (Jvm.Cond.methodLink "CargoFlag$Reader" (161 : Nat) ({ cls := "CargoFlag$Reader", name := "name", desc := "()J" } : Jvm.MethodName)) ∈ lw_all := lw_g (lw_at lw_m3 127 rfl) rfl
theorem q783 : (Jvm.Cond.privateMethod ({ cls := "CargoFlag$Reader", name := "name", desc := "()J" } : Jvm.MethodName)) ∈ lw_tbl := lw_at lw_m3 128 rfl
theorem q784 : (Jvm.Cond.instanceMethod ({ cls := "CargoFlag$Reader", name := "name", desc := "()J" } : Jvm.MethodName)) ∈ lw_all := lw_g (lw_at lw_m3 129 rfl) rfl
theorem q785 : (Jvm.Cond.code ({ cls := "CargoFlag$Reader", name := "name", desc := "()J" } : Jvm.MethodName) prog_12_method_16_code (4 : Nat) (Option.some Jvm.ClassFile.FieldType.long)) ∈ lw_all := lw_g (lw_at lw_m3 130 rfl) rfl
theorem q786 : (Jvm.Cond.methodLink "CargoFlag$Reader" (153 : Nat) ({ cls := "CargoFlag$Reader", name := "isKept", desc := "()Z" } : Jvm.MethodName)) ∈ lw_all := lw_g (lw_at lw_m3 131 rfl) rfl
theorem q787 : (Jvm.Cond.privateMethod ({ cls := "CargoFlag$Reader", name := "isKept", desc := "()Z" } : Jvm.MethodName)) ∈ lw_tbl := lw_at lw_m3 132 rfl
theorem q788 : (Jvm.Cond.instanceMethod ({ cls := "CargoFlag$Reader", name := "isKept", desc := "()Z" } : Jvm.MethodName)) ∈ lw_all := lw_g (lw_at lw_m3 133 rfl) rfl
theorem q789 : (Jvm.Cond.code ({ cls := "CargoFlag$Reader", name := "isKept", desc := "()Z" } : Jvm.MethodName) prog_12_method_15_code (3 : Nat) (Option.some Jvm.ClassFile.FieldType.boolean)) ∈ lw_all := lw_g (lw_at lw_m3 134 rfl) rfl
theorem q790 : (Jvm.Cond.stringRef "CargoFlag$Reader" (108 : Nat) "wage") ∈ lw_tbl := lw_at lw_m3 135 rfl
theorem q791 : (Jvm.Cond.stringRef "CargoFlag$Reader" (110 : Nat) "duty") ∈ lw_tbl := lw_at lw_m3 136 rfl
theorem q792 : (Jvm.Cond.stringRef "CargoFlag$Reader" (112 : Nat) "deeds") ∈ lw_tbl := lw_at lw_m3 137 rfl
theorem q793 : (Jvm.Cond.stringRef "CargoFlag$Reader" (114 : Nat) "war") ∈ lw_tbl := lw_at lw_m3 138 rfl
theorem q794 : (Jvm.Cond.stringRef "CargoFlag$Reader" (116 : Nat) "good") ∈ lw_tbl := lw_at lw_m3 139 rfl
theorem q795 : (Jvm.Cond.stringRef "CargoFlag$Reader" (118 : Nat) "of") ∈ lw_tbl := lw_at lw_m3 140 rfl
theorem q796 : (Jvm.Cond.stringRef "CargoFlag$Reader" (120 : Nat) "worth") ∈ lw_tbl := lw_at lw_m3 141 rfl
theorem q797 : (Jvm.Cond.stringRef "CargoFlag$Reader" (122 : Nat) "leaks") ∈ lw_tbl := lw_at lw_m3 142 rfl
theorem q798 : (Jvm.Cond.stringRef "CargoFlag$Reader" (124 : Nat) "port") ∈ lw_tbl := lw_at lw_m3 143 rfl
theorem q799 : (Jvm.Cond.stringRef "CargoFlag$Reader" (126 : Nat) "price") ∈ lw_tbl := lw_at lw_m3 144 rfl
theorem q800 : (Jvm.Cond.stringRef "CargoFlag$Reader" (128 : Nat) "way") ∈ lw_tbl := lw_at lw_m3 145 rfl
theorem q801 : (Jvm.Cond.stringRef "CargoFlag$Reader" (130 : Nat) "days") ∈ lw_tbl := lw_at lw_m3 146 rfl
theorem q802 : (Jvm.Cond.stringRef "CargoFlag$Reader" (132 : Nat) "ship") ∈ lw_tbl := lw_at lw_m3 147 rfl
theorem q803 : (Jvm.Cond.stringRef "CargoFlag$Reader" (134 : Nat) "at") ∈ lw_tbl := lw_at lw_m3 148 rfl
theorem q804 : (Jvm.Cond.stringRef "CargoFlag$Reader" (135 : Nat) "hold") ∈ lw_tbl := lw_at lw_m3 149 rfl
theorem q805 : (Jvm.Cond.stringRef "CargoFlag$Reader" (137 : Nat) "aboard") ∈ lw_tbl := lw_at lw_m3 150 rfl
theorem q806 : (Jvm.Cond.stringRef "CargoFlag$Reader" (139 : Nat) "rule") ∈ lw_tbl := lw_at lw_m3 151 rfl
theorem q807 : (Jvm.Cond.methodLink "CargoFlag$Reader" (141 : Nat) ({ cls := "CargoFlag$Reader", name := "acts", desc := "()I" } : Jvm.MethodName)) ∈ lw_all := lw_g (lw_at lw_m3 152 rfl) rfl
theorem q808 : (Jvm.Cond.privateMethod ({ cls := "CargoFlag$Reader", name := "acts", desc := "()I" } : Jvm.MethodName)) ∈ lw_tbl := lw_at lw_m3 153 rfl
theorem q809 : (Jvm.Cond.instanceMethod ({ cls := "CargoFlag$Reader", name := "acts", desc := "()I" } : Jvm.MethodName)) ∈ lw_all := lw_g (lw_at lw_m3 154 rfl) rfl
theorem q810 : (Jvm.Cond.code ({ cls := "CargoFlag$Reader", name := "acts", desc := "()I" } : Jvm.MethodName) prog_12_method_13_code (1 : Nat) (Option.some Jvm.ClassFile.FieldType.int)) ∈ lw_all := lw_g (lw_at lw_m3 155 rfl) rfl
theorem q811 : (Jvm.Cond.stringRef "CargoFlag$Reader" (86 : Nat) "day") ∈ lw_tbl := lw_at lw_m3 156 rfl
theorem q812 : (Jvm.Cond.stringRef "CargoFlag$Reader" (88 : Nat) "buy") ∈ lw_tbl := lw_at lw_m3 157 rfl
theorem q813 : (Jvm.Cond.stringRef "CargoFlag$Reader" (90 : Nat) "sell") ∈ lw_tbl := lw_at lw_m3 158 rfl
theorem q814 : (Jvm.Cond.stringRef "CargoFlag$Reader" (92 : Nat) "dump") ∈ lw_tbl := lw_at lw_m3 159 rfl
theorem q815 : (Jvm.Cond.stringRef "CargoFlag$Reader" (94 : Nat) "sail") ∈ lw_tbl := lw_at lw_m3 160 rfl
theorem q816 : (Jvm.Cond.stringRef "CargoFlag$Reader" (96 : Nat) "any") ∈ lw_tbl := lw_at lw_m3 161 rfl
theorem q817 : (Jvm.Cond.stringRef "CargoFlag$Reader" (98 : Nat) "stop") ∈ lw_tbl := lw_at lw_m3 162 rfl
theorem q818 : (Jvm.Cond.methodLink "CargoFlag$Reader" (144 : Nat) ({ cls := "CargoFlag$Reader", name := "tests", desc := "()I" } : Jvm.MethodName)) ∈ lw_all := lw_g (lw_at lw_m3 163 rfl) rfl
theorem q819 : (Jvm.Cond.privateMethod ({ cls := "CargoFlag$Reader", name := "tests", desc := "()I" } : Jvm.MethodName)) ∈ lw_tbl := lw_at lw_m3 164 rfl
theorem q820 : (Jvm.Cond.instanceMethod ({ cls := "CargoFlag$Reader", name := "tests", desc := "()I" } : Jvm.MethodName)) ∈ lw_all := lw_g (lw_at lw_m3 165 rfl) rfl
theorem q821 : (Jvm.Cond.code ({ cls := "CargoFlag$Reader", name := "tests", desc := "()I" } : Jvm.MethodName) prog_12_method_14_code (1 : Nat) (Option.some Jvm.ClassFile.FieldType.int)) ∈ lw_all := lw_g (lw_at lw_m3 166 rfl) rfl
theorem q822 : (Jvm.Cond.stringRef "CargoFlag$Reader" (100 : Nat) "ruled") ∈ lw_tbl := lw_at lw_m3 167 rfl
theorem q823 : (Jvm.Cond.stringRef "CargoFlag$Reader" (102 : Nat) "in") ∈ lw_tbl := lw_at lw_m3 168 rfl
theorem q824 : (Jvm.Cond.stringRef "CargoFlag$Reader" (104 : Nat) "coins") ∈ lw_tbl := lw_at lw_m3 169 rfl
theorem q825 : (Jvm.Cond.stringRef "CargoFlag$Reader" (147 : Nat) "when") ∈ lw_tbl := lw_at lw_m3 170 rfl
theorem q826 : (Jvm.Cond.stringRef "CargoFlag$Reader" (149 : Nat) "loop") ∈ lw_tbl := lw_at lw_m3 171 rfl
theorem q827 : (Jvm.Cond.stringRef "CargoFlag$Reader" (151 : Nat) "end") ∈ lw_tbl := lw_at lw_m3 172 rfl
theorem q828 : (Jvm.Cond.methodLink "CargoFlag$Reader" (68 : Nat) ({ cls := "CargoFlag$Reader", name := "wrong", desc := "()LCargoFlag$Bad;" } : Jvm.MethodName)) ∈ lw_all := lw_g (lw_at lw_m3 173 rfl) rfl
theorem q829 : (Jvm.Cond.privateMethod ({ cls := "CargoFlag$Reader", name := "wrong", desc := "()LCargoFlag$Bad;" } : Jvm.MethodName)) ∈ lw_tbl := lw_at lw_m3 174 rfl
theorem q830 : (Jvm.Cond.instanceMethod ({ cls := "CargoFlag$Reader", name := "wrong", desc := "()LCargoFlag$Bad;" } : Jvm.MethodName)) ∈ lw_all := lw_g (lw_at lw_m3 175 rfl) rfl
theorem q831 : (Jvm.Cond.code ({ cls := "CargoFlag$Reader", name := "wrong", desc := "()LCargoFlag$Bad;" } : Jvm.MethodName) prog_12_method_7_code (1 : Nat) (Option.some (Jvm.ClassFile.FieldType.object "CargoFlag$Bad"))) ∈ lw_all := lw_g (lw_at lw_m3 176 rfl) rfl
theorem q832 : (Jvm.Cond.constantLong "CargoFlag$Reader" (157 : Nat) (32 : Int64)) ∈ lw_all := lw_g (lw_at lw_m3 177 rfl) rfl
theorem q833 : (Jvm.Cond.constantLong "CargoFlag$Reader" (159 : Nat) (96 : Int64)) ∈ lw_all := lw_g (lw_at lw_m3 178 rfl) rfl
theorem q834 : (Jvm.Cond.methodLink "CargoFlag$Reader" (165 : Nat) ({ cls := "CargoFlag$World", name := "isTaken", desc := "(J)Z" } : Jvm.MethodName)) ∈ lw_all := lw_g (lw_at lw_m3 179 rfl) rfl
theorem q841 : (Jvm.Cond.methodLink "CargoFlag$Reader" (237 : Nat) ({ cls := "CargoFlag$Nation", name := "<init>", desc := "(J)V" } : Jvm.MethodName)) ∈ lw_all := lw_g (lw_at lw_m3 186 rfl) rfl
theorem q850 : (Jvm.Cond.fieldLinkNest "CargoFlag$Reader" (244 : Nat) "CargoFlag$Nation" "wage" "I" "CargoFlag") ∈ lw_tbl := lw_at lw_m3 195 rfl
theorem q853 : (Jvm.Cond.fieldLinkNest "CargoFlag$Reader" (246 : Nat) "CargoFlag$Nation" "duty" "I" "CargoFlag") ∈ lw_tbl := lw_at lw_m3 198 rfl
theorem q856 : (Jvm.Cond.fieldLinkNest "CargoFlag$Reader" (248 : Nat) "CargoFlag$Nation" "deeds" "I" "CargoFlag") ∈ lw_tbl := lw_at lw_m3 201 rfl
theorem q868 : (Jvm.Cond.methodLink "CargoFlag$Reader" (240 : Nat) ({ cls := "CargoFlag$Reader", name := "perhaps", desc := "(Ljava/lang/String;III)I" } : Jvm.MethodName)) ∈ lw_all := lw_g (lw_at lw_m3 213 rfl) rfl
theorem q869 : (Jvm.Cond.privateMethod ({ cls := "CargoFlag$Reader", name := "perhaps", desc := "(Ljava/lang/String;III)I" } : Jvm.MethodName)) ∈ lw_tbl := lw_at lw_m3 214 rfl
theorem q870 : (Jvm.Cond.instanceMethod ({ cls := "CargoFlag$Reader", name := "perhaps", desc := "(Ljava/lang/String;III)I" } : Jvm.MethodName)) ∈ lw_all := lw_g (lw_at lw_m3 215 rfl) rfl
theorem q871 : (Jvm.Cond.code ({ cls := "CargoFlag$Reader", name := "perhaps", desc := "(Ljava/lang/String;III)I" } : Jvm.MethodName) prog_12_method_12_code (5 : Nat) (Option.some Jvm.ClassFile.FieldType.int)) ∈ lw_all := lw_g (lw_at lw_m3 216 rfl) rfl
theorem q872 : (Jvm.Cond.methodLink "CargoFlag$Reader" (83 : Nat) ({ cls := "CargoFlag$Reader", name := "behind", desc := "(Ljava/lang/String;II)I" } : Jvm.MethodName)) ∈ lw_all := lw_g (lw_at lw_m3 217 rfl) rfl
theorem q873 : (Jvm.Cond.privateMethod ({ cls := "CargoFlag$Reader", name := "behind", desc := "(Ljava/lang/String;II)I" } : Jvm.MethodName)) ∈ lw_tbl := lw_at lw_m3 218 rfl
theorem q874 : (Jvm.Cond.instanceMethod ({ cls := "CargoFlag$Reader", name := "behind", desc := "(Ljava/lang/String;II)I" } : Jvm.MethodName)) ∈ lw_all := lw_g (lw_at lw_m3 219 rfl) rfl
theorem q875 : (Jvm.Cond.code ({ cls := "CargoFlag$Reader", name := "behind", desc := "(Ljava/lang/String;II)I" } : Jvm.MethodName) prog_12_method_11_code (4 : Nat) (Option.some Jvm.ClassFile.FieldType.int)) ∈ lw_all := lw_g (lw_at lw_m3 220 rfl) rfl
theorem q876 : (Jvm.Cond.methodLink "CargoFlag$Reader" (76 : Nat) ({ cls := "CargoFlag$Reader", name := "word", desc := "(Ljava/lang/String;)V" } : Jvm.MethodName)) ∈ lw_all := lw_g (lw_at lw_m3 221 rfl) rfl
theorem q877 : (Jvm.Cond.privateMethod ({ cls := "CargoFlag$Reader", name := "word", desc := "(Ljava/lang/String;)V" } : Jvm.MethodName)) ∈ lw_tbl := lw_at lw_m3 222 rfl
theorem q878 : (Jvm.Cond.instanceMethod ({ cls := "CargoFlag$Reader", name := "word", desc := "(Ljava/lang/String;)V" } : Jvm.MethodName)) ∈ lw_all := lw_g (lw_at lw_m3 223 rfl) rfl
theorem q879 : (Jvm.Cond.code ({ cls := "CargoFlag$Reader", name := "word", desc := "(Ljava/lang/String;)V" } : Jvm.MethodName) prog_12_method_9_code (2 : Nat) (Option.none : Option Jvm.ClassFile.FieldType)) ∈ lw_all := lw_g (lw_at lw_m3 224 rfl) rfl
theorem q880 : (Jvm.Cond.methodLink "CargoFlag$Reader" (80 : Nat) ({ cls := "CargoFlag$Reader", name := "number", desc := "(II)I" } : Jvm.MethodName)) ∈ lw_all := lw_g (lw_at lw_m3 225 rfl) rfl
theorem q881 : (Jvm.Cond.privateMethod ({ cls := "CargoFlag$Reader", name := "number", desc := "(II)I" } : Jvm.MethodName)) ∈ lw_tbl := lw_at lw_m3 226 rfl
theorem q882 : (Jvm.Cond.instanceMethod ({ cls := "CargoFlag$Reader", name := "number", desc := "(II)I" } : Jvm.MethodName)) ∈ lw_all := lw_g (lw_at lw_m3 227 rfl) rfl
theorem q883 : (Jvm.Cond.code ({ cls := "CargoFlag$Reader", name := "number", desc := "(II)I" } : Jvm.MethodName) prog_12_method_10_code (4 : Nat) (Option.some Jvm.ClassFile.FieldType.int)) ∈ lw_all := lw_g (lw_at lw_m3 228 rfl) rfl
theorem q884 : (Jvm.Cond.methodLink "CargoFlag$Reader" (209 : Nat) ({ cls := "CargoFlag$Reader", name := "war", desc := "(LCargoFlag$World;)V" } : Jvm.MethodName)) ∈ lw_all := lw_g (lw_at lw_m3 229 rfl) rfl
theorem q885 : (Jvm.Cond.privateMethod ({ cls := "CargoFlag$Reader", name := "war", desc := "(LCargoFlag$World;)V" } : Jvm.MethodName)) ∈ lw_tbl := lw_at lw_m3 230 rfl
theorem q886 : (Jvm.Cond.instanceMethod ({ cls := "CargoFlag$Reader", name := "war", desc := "(LCargoFlag$World;)V" } : Jvm.MethodName)) ∈ lw_all := lw_g (lw_at lw_m3 231 rfl) rfl
theorem q887 : (Jvm.Cond.code ({ cls := "CargoFlag$Reader", name := "war", desc := "(LCargoFlag$World;)V" } : Jvm.MethodName) prog_12_method_25_code (4 : Nat) (Option.none : Option Jvm.ClassFile.FieldType)) ∈ lw_all := lw_g (lw_at lw_m3 232 rfl) rfl
theorem q888 : (Jvm.Cond.methodLink "CargoFlag$Reader" (250 : Nat) ({ cls := "CargoFlag$Reader", name := "nation", desc := "(LCargoFlag$World;I)I" } : Jvm.MethodName)) ∈ lw_all := lw_g (lw_at lw_m3 233 rfl) rfl
theorem q889 : (Jvm.Cond.privateMethod ({ cls := "CargoFlag$Reader", name := "nation", desc := "(LCargoFlag$World;I)I" } : Jvm.MethodName)) ∈ lw_tbl := lw_at lw_m3 234 rfl
theorem q890 : (Jvm.Cond.instanceMethod ({ cls := "CargoFlag$Reader", name := "nation", desc := "(LCargoFlag$World;I)I" } : Jvm.MethodName)) ∈ lw_all := lw_g (lw_at lw_m3 235 rfl) rfl
theorem q891 : (Jvm.Cond.code ({ cls := "CargoFlag$Reader", name := "nation", desc := "(LCargoFlag$World;I)I" } : Jvm.MethodName) prog_12_method_19_code (3 : Nat) (Option.some Jvm.ClassFile.FieldType.int)) ∈ lw_all := lw_g (lw_at lw_m3 236 rfl) rfl
theorem q892 : (Jvm.Cond.methodLink "CargoFlag$Reader" (183 : Nat) ({ cls := "CargoFlag$Reader", name := "told", desc := "([LCargoFlag$Named;II)I" } : Jvm.MethodName)) ∈ lw_all := lw_g (lw_at lw_m3 237 rfl) rfl
theorem q893 : (Jvm.Cond.privateMethod ({ cls := "CargoFlag$Reader", name := "told", desc := "([LCargoFlag$Named;II)I" } : Jvm.MethodName)) ∈ lw_tbl := lw_at lw_m3 238 rfl
theorem q894 : (Jvm.Cond.instanceMethod ({ cls := "CargoFlag$Reader", name := "told", desc := "([LCargoFlag$Named;II)I" } : Jvm.MethodName)) ∈ lw_all := lw_g (lw_at lw_m3 239 rfl) rfl
theorem q895 : (Jvm.Cond.code ({ cls := "CargoFlag$Reader", name := "told", desc := "([LCargoFlag$Named;II)I" } : Jvm.MethodName) prog_12_method_18_code (5 : Nat) (Option.some Jvm.ClassFile.FieldType.int)) ∈ lw_all := lw_g (lw_at lw_m4 0 rfl) rfl
theorem q896 : (Jvm.Cond.methodLink "CargoFlag$Reader" (171 : Nat) ({ cls := "CargoFlag$Named", name := "find", desc := "([LCargoFlag$Named;IJ)I" } : Jvm.MethodName)) ∈ lw_all := lw_g (lw_at lw_m4 1 rfl) rfl
theorem q897 : (Jvm.Cond.methodLink "CargoFlag$Reader" (211 : Nat) ({ cls := "CargoFlag$Reader", name := "newGood", desc := "(LCargoFlag$World;)V" } : Jvm.MethodName)) ∈ lw_all := lw_g (lw_at lw_m4 2 rfl) rfl
theorem q898 : (Jvm.Cond.privateMethod ({ cls := "CargoFlag$Reader", name := "newGood", desc := "(LCargoFlag$World;)V" } : Jvm.MethodName)) ∈ lw_tbl := lw_at lw_m4 3 rfl
theorem q899 : (Jvm.Cond.instanceMethod ({ cls := "CargoFlag$Reader", name := "newGood", desc := "(LCargoFlag$World;)V" } : Jvm.MethodName)) ∈ lw_all := lw_g (lw_at lw_m4 4 rfl) rfl
theorem q900 : (Jvm.Cond.code ({ cls := "CargoFlag$Reader", name := "newGood", desc := "(LCargoFlag$World;)V" } : Jvm.MethodName) prog_12_method_26_code (3 : Nat) (Option.none : Option Jvm.ClassFile.FieldType)) ∈ lw_all := lw_g (lw_at lw_m4 5 rfl) rfl
theorem q901 : (Jvm.Cond.classLink "CargoFlag$Reader" (257 : Nat) "CargoFlag$Good") ∈ lw_all := lw_g (lw_at lw_m4 6 rfl) rfl
theorem q903 : (Jvm.Cond.methodLink "CargoFlag$Reader" (259 : Nat) ({ cls := "CargoFlag$Good", name := "<init>", desc := "(J)V" } : Jvm.MethodName)) ∈ lw_all := lw_g (lw_at lw_m4 8 rfl) rfl
theorem q908 : (Jvm.Cond.fieldLinkNest "CargoFlag$Reader" (260 : Nat) "CargoFlag$Good" "nation" "I" "CargoFlag") ∈ lw_tbl := lw_at lw_m4 13 rfl
theorem q911 : (Jvm.Cond.fieldLinkNest "CargoFlag$Reader" (262 : Nat) "CargoFlag$Good" "worth" "I" "CargoFlag") ∈ lw_tbl := lw_at lw_m4 16 rfl
theorem q914 : (Jvm.Cond.fieldLinkNest "CargoFlag$Reader" (264 : Nat) "CargoFlag$Good" "leaks" "I" "CargoFlag") ∈ lw_tbl := lw_at lw_m4 19 rfl
theorem q924 : (Jvm.Cond.methodLink "CargoFlag$Reader" (214 : Nat) ({ cls := "CargoFlag$Reader", name := "newPort", desc := "(LCargoFlag$World;)V" } : Jvm.MethodName)) ∈ lw_all := lw_g (lw_at lw_m4 29 rfl) rfl
theorem q925 : (Jvm.Cond.privateMethod ({ cls := "CargoFlag$Reader", name := "newPort", desc := "(LCargoFlag$World;)V" } : Jvm.MethodName)) ∈ lw_tbl := lw_at lw_m4 30 rfl
theorem q926 : (Jvm.Cond.instanceMethod ({ cls := "CargoFlag$Reader", name := "newPort", desc := "(LCargoFlag$World;)V" } : Jvm.MethodName)) ∈ lw_all := lw_g (lw_at lw_m4 31 rfl) rfl
theorem q927 : (Jvm.Cond.code ({ cls := "CargoFlag$Reader", name := "newPort", desc := "(LCargoFlag$World;)V" } : Jvm.MethodName) prog_12_method_27_code (3 : Nat) (Option.none : Option Jvm.ClassFile.FieldType)) ∈ lw_all := lw_g (lw_at lw_m4 32 rfl) rfl
theorem q928 : (Jvm.Cond.classLink "CargoFlag$Reader" (266 : Nat) "CargoFlag$Port") ∈ lw_all := lw_g (lw_at lw_m4 33 rfl) rfl
theorem q930 : (Jvm.Cond.methodLink "CargoFlag$Reader" (268 : Nat) ({ cls := "CargoFlag$Port", name := "<init>", desc := "(J)V" } : Jvm.MethodName)) ∈ lw_all := lw_g (lw_at lw_m4 35 rfl) rfl
theorem q936 : (Jvm.Cond.fieldLinkNest "CargoFlag$Reader" (269 : Nat) "CargoFlag$Port" "nation" "I" "CargoFlag") ∈ lw_tbl := lw_at lw_m4 41 rfl
theorem q942 : (Jvm.Cond.methodLink "CargoFlag$Reader" (217 : Nat) ({ cls := "CargoFlag$Reader", name := "price", desc := "(LCargoFlag$World;)V" } : Jvm.MethodName)) ∈ lw_all := lw_g (lw_at lw_m4 47 rfl) rfl
theorem q943 : (Jvm.Cond.privateMethod ({ cls := "CargoFlag$Reader", name := "price", desc := "(LCargoFlag$World;)V" } : Jvm.MethodName)) ∈ lw_tbl := lw_at lw_m4 48 rfl
theorem q944 : (Jvm.Cond.instanceMethod ({ cls := "CargoFlag$Reader", name := "price", desc := "(LCargoFlag$World;)V" } : Jvm.MethodName)) ∈ lw_all := lw_g (lw_at lw_m4 49 rfl) rfl
theorem q945 : (Jvm.Cond.code ({ cls := "CargoFlag$Reader", name := "price", desc := "(LCargoFlag$World;)V" } : Jvm.MethodName) prog_12_method_28_code (4 : Nat) (Option.none : Option Jvm.ClassFile.FieldType)) ∈ lw_all := lw_g (lw_at lw_m4 50 rfl) rfl
theorem q946 : (Jvm.Cond.methodLink "CargoFlag$Reader" (270 : Nat) ({ cls := "CargoFlag$Reader", name := "port", desc := "(LCargoFlag$World;I)I" } : Jvm.MethodName)) ∈ lw_all := lw_g (lw_at lw_m4 51 rfl) rfl
theorem q947 : (Jvm.Cond.privateMethod ({ cls := "CargoFlag$Reader", name := "port", desc := "(LCargoFlag$World;I)I" } : Jvm.MethodName)) ∈ lw_tbl := lw_at lw_m4 52 rfl
theorem q948 : (Jvm.Cond.instanceMethod ({ cls := "CargoFlag$Reader", name := "port", desc := "(LCargoFlag$World;I)I" } : Jvm.MethodName)) ∈ lw_all := lw_g (lw_at lw_m4 53 rfl) rfl
theorem q949 : (Jvm.Cond.code ({ cls := "CargoFlag$Reader", name := "port", desc := "(LCargoFlag$World;I)I" } : Jvm.MethodName) prog_12_method_21_code (3 : Nat) (Option.some Jvm.ClassFile.FieldType.int)) ∈ lw_all := lw_g (lw_at lw_m4 54 rfl) rfl
theorem q950 : (Jvm.Cond.methodLink "CargoFlag$Reader" (272 : Nat) ({ cls := "CargoFlag$Reader", name := "good", desc := "(LCargoFlag$World;)I" } : Jvm.MethodName)) ∈ lw_all := lw_g (lw_at lw_m4 55 rfl) rfl
theorem q951 : (Jvm.Cond.privateMethod ({ cls := "CargoFlag$Reader", name := "good", desc := "(LCargoFlag$World;)I" } : Jvm.MethodName)) ∈ lw_tbl := lw_at lw_m4 56 rfl
theorem q952 : (Jvm.Cond.instanceMethod ({ cls := "CargoFlag$Reader", name := "good", desc := "(LCargoFlag$World;)I" } : Jvm.MethodName)) ∈ lw_all := lw_g (lw_at lw_m4 57 rfl) rfl
theorem q953 : (Jvm.Cond.code ({ cls := "CargoFlag$Reader", name := "good", desc := "(LCargoFlag$World;)I" } : Jvm.MethodName) prog_12_method_20_code (2 : Nat) (Option.some Jvm.ClassFile.FieldType.int)) ∈ lw_all := lw_g (lw_at lw_m4 58 rfl) rfl
theorem q954 : (Jvm.Cond.methodLink "CargoFlag$Reader" (219 : Nat) ({ cls := "CargoFlag$Reader", name := "way", desc := "(LCargoFlag$World;)V" } : Jvm.MethodName)) ∈ lw_all := lw_g (lw_at lw_m4 59 rfl) rfl
theorem q955 : (Jvm.Cond.privateMethod ({ cls := "CargoFlag$Reader", name := "way", desc := "(LCargoFlag$World;)V" } : Jvm.MethodName)) ∈ lw_tbl := lw_at lw_m4 60 rfl
theorem q956 : (Jvm.Cond.instanceMethod ({ cls := "CargoFlag$Reader", name := "way", desc := "(LCargoFlag$World;)V" } : Jvm.MethodName)) ∈ lw_all := lw_g (lw_at lw_m4 61 rfl) rfl
theorem q957 : (Jvm.Cond.code ({ cls := "CargoFlag$Reader", name := "way", desc := "(LCargoFlag$World;)V" } : Jvm.MethodName) prog_12_method_29_code (4 : Nat) (Option.none : Option Jvm.ClassFile.FieldType)) ∈ lw_all := lw_g (lw_at lw_m4 62 rfl) rfl
theorem q958 : (Jvm.Cond.methodLink "CargoFlag$Reader" (221 : Nat) ({ cls := "CargoFlag$Reader", name := "newShip", desc := "(LCargoFlag$World;)V" } : Jvm.MethodName)) ∈ lw_all := lw_g (lw_at lw_m4 63 rfl) rfl
theorem q959 : (Jvm.Cond.privateMethod ({ cls := "CargoFlag$Reader", name := "newShip", desc := "(LCargoFlag$World;)V" } : Jvm.MethodName)) ∈ lw_tbl := lw_at lw_m4 64 rfl
theorem q960 : (Jvm.Cond.instanceMethod ({ cls := "CargoFlag$Reader", name := "newShip", desc := "(LCargoFlag$World;)V" } : Jvm.MethodName)) ∈ lw_all := lw_g (lw_at lw_m4 65 rfl) rfl
theorem q961 : (Jvm.Cond.code ({ cls := "CargoFlag$Reader", name := "newShip", desc := "(LCargoFlag$World;)V" } : Jvm.MethodName) prog_12_method_30_code (4 : Nat) (Option.none : Option Jvm.ClassFile.FieldType)) ∈ lw_all := lw_g (lw_at lw_m4 66 rfl) rfl
theorem q962 : (Jvm.Cond.classLink "CargoFlag$Reader" (279 : Nat) "CargoFlag$Ship") ∈ lw_all := lw_g (lw_at lw_m4 67 rfl) rfl
theorem q964 : (Jvm.Cond.methodLink "CargoFlag$Reader" (281 : Nat) ({ cls := "CargoFlag$Ship", name := "<init>", desc := "(J)V" } : Jvm.MethodName)) ∈ lw_all := lw_g (lw_at lw_m4 69 rfl) rfl
theorem q969 : (Jvm.Cond.fieldLinkNest "CargoFlag$Reader" (284 : Nat) "CargoFlag$Ship" "hold" "I" "CargoFlag") ∈ lw_tbl := lw_at lw_m4 74 rfl
theorem q975 : (Jvm.Cond.methodLink "CargoFlag$Reader" (224 : Nat) ({ cls := "CargoFlag$Reader", name := "aboard", desc := "(LCargoFlag$World;)V" } : Jvm.MethodName)) ∈ lw_all := lw_g (lw_at lw_m4 80 rfl) rfl
theorem q976 : (Jvm.Cond.privateMethod ({ cls := "CargoFlag$Reader", name := "aboard", desc := "(LCargoFlag$World;)V" } : Jvm.MethodName)) ∈ lw_tbl := lw_at lw_m4 81 rfl
theorem q977 : (Jvm.Cond.instanceMethod ({ cls := "CargoFlag$Reader", name := "aboard", desc := "(LCargoFlag$World;)V" } : Jvm.MethodName)) ∈ lw_all := lw_g (lw_at lw_m4 82 rfl) rfl
theorem q978 : (Jvm.Cond.code ({ cls := "CargoFlag$Reader", name := "aboard", desc := "(LCargoFlag$World;)V" } : Jvm.MethodName) prog_12_method_31_code (4 : Nat) (Option.none : Option Jvm.ClassFile.FieldType)) ∈ lw_all := lw_g (lw_at lw_m4 83 rfl) rfl
theorem q979 : (Jvm.Cond.methodLink "CargoFlag$Reader" (288 : Nat) ({ cls := "CargoFlag$Reader", name := "ship", desc := "(LCargoFlag$World;)I" } : Jvm.MethodName)) ∈ lw_all := lw_g (lw_at lw_m4 84 rfl) rfl
theorem q980 : (Jvm.Cond.privateMethod ({ cls := "CargoFlag$Reader", name := "ship", desc := "(LCargoFlag$World;)I" } : Jvm.MethodName)) ∈ lw_tbl := lw_at lw_m4 85 rfl
theorem q981 : (Jvm.Cond.instanceMethod ({ cls := "CargoFlag$Reader", name := "ship", desc := "(LCargoFlag$World;)I" } : Jvm.MethodName)) ∈ lw_all := lw_g (lw_at lw_m4 86 rfl) rfl
theorem q982 : (Jvm.Cond.code ({ cls := "CargoFlag$Reader", name := "ship", desc := "(LCargoFlag$World;)I" } : Jvm.MethodName) prog_12_method_22_code (2 : Nat) (Option.some Jvm.ClassFile.FieldType.int)) ∈ lw_all := lw_g (lw_at lw_m4 87 rfl) rfl
theorem q983 : (Jvm.Cond.methodLink "CargoFlag$Reader" (293 : Nat) ({ cls := "CargoFlag$World", name := "room", desc := "(I)I" } : Jvm.MethodName)) ∈ lw_all := lw_g (lw_at lw_m4 88 rfl) rfl
theorem q991 : (Jvm.Cond.methodLink "CargoFlag$Reader" (226 : Nat) ({ cls := "CargoFlag$Reader", name := "rule", desc := "(LCargoFlag$World;)V" } : Jvm.MethodName)) ∈ lw_all := lw_g (lw_at lw_m4 96 rfl) rfl
theorem q992 : (Jvm.Cond.privateMethod ({ cls := "CargoFlag$Reader", name := "rule", desc := "(LCargoFlag$World;)V" } : Jvm.MethodName)) ∈ lw_tbl := lw_at lw_m4 97 rfl
theorem q993 : (Jvm.Cond.instanceMethod ({ cls := "CargoFlag$Reader", name := "rule", desc := "(LCargoFlag$World;)V" } : Jvm.MethodName)) ∈ lw_all := lw_g (lw_at lw_m4 98 rfl) rfl
theorem q994 : (Jvm.Cond.code ({ cls := "CargoFlag$Reader", name := "rule", desc := "(LCargoFlag$World;)V" } : Jvm.MethodName) prog_12_method_32_code (2 : Nat) (Option.none : Option Jvm.ClassFile.FieldType)) ∈ lw_all := lw_g (lw_at lw_m4 99 rfl) rfl
theorem q995 : (Jvm.Cond.methodLink "CargoFlag$Reader" (228 : Nat) ({ cls := "CargoFlag$Reader", name := "close", desc := "()V" } : Jvm.MethodName)) ∈ lw_all := lw_g (lw_at lw_m4 100 rfl) rfl
theorem q996 : (Jvm.Cond.privateMethod ({ cls := "CargoFlag$Reader", name := "close", desc := "()V" } : Jvm.MethodName)) ∈ lw_tbl := lw_at lw_m4 101 rfl
theorem q997 : (Jvm.Cond.instanceMethod ({ cls := "CargoFlag$Reader", name := "close", desc := "()V" } : Jvm.MethodName)) ∈ lw_all := lw_g (lw_at lw_m4 102 rfl) rfl
theorem q998 : (Jvm.Cond.code ({ cls := "CargoFlag$Reader", name := "close", desc := "()V" } : Jvm.MethodName) prog_12_method_8_code (1 : Nat) (Option.none : Option Jvm.ClassFile.FieldType)) ∈ lw_all := lw_g (lw_at lw_m4 103 rfl) rfl
theorem q999 : (Jvm.Cond.methodLink "CargoFlag$Reader" (64 : Nat) ({ cls := "CargoFlag$Reader", name := "isSign", desc := "(C)Z" } : Jvm.MethodName)) ∈ lw_all := lw_g (lw_at lw_m4 104 rfl) rfl
theorem q1000 : (Jvm.Cond.privateMethod ({ cls := "CargoFlag$Reader", name := "isSign", desc := "(C)Z" } : Jvm.MethodName)) ∈ lw_tbl := lw_at lw_m4 105 rfl
theorem q1001 : (Jvm.Cond.instanceMethod ({ cls := "CargoFlag$Reader", name := "isSign", desc := "(C)Z" } : Jvm.MethodName)) ∈ lw_all := lw_g (lw_at lw_m4 106 rfl) rfl
theorem q1002 : (Jvm.Cond.code ({ cls := "CargoFlag$Reader", name := "isSign", desc := "(C)Z" } : Jvm.MethodName) prog_12_method_6_code (2 : Nat) (Option.some Jvm.ClassFile.FieldType.boolean)) ∈ lw_all := lw_g (lw_at lw_m4 107 rfl) rfl
theorem q1048 : (Jvm.Cond.instanceMethod ({ cls := "CargoFlag$Reader", name := "voyages", desc := "(LCargoFlag$World;LCargoFlag$Block;)V" } : Jvm.MethodName)) ∈ lw_all := lw_g (lw_at lw_m4 153 rfl) rfl
theorem q1049 : (Jvm.Cond.selects "CargoFlag$Reader" ({ cls := "CargoFlag$Reader", name := "voyages", desc := "(LCargoFlag$World;LCargoFlag$Block;)V" } : Jvm.MethodName) ({ cls := "CargoFlag$Reader", name := "voyages", desc := "(LCargoFlag$World;LCargoFlag$Block;)V" } : Jvm.MethodName)) ∈ lw_all := lw_g (lw_at lw_m4 154 rfl) rfl
theorem q1050 : (Jvm.Cond.code ({ cls := "CargoFlag$Reader", name := "voyages", desc := "(LCargoFlag$World;LCargoFlag$Block;)V" } : Jvm.MethodName) prog_12_method_33_code (3 : Nat) (Option.none : Option Jvm.ClassFile.FieldType)) ∈ lw_all := lw_g (lw_at lw_m4 155 rfl) rfl
theorem q1051 : (Jvm.Cond.methodLink "CargoFlag$Reader" (303 : Nat) ({ cls := "CargoFlag$Reader", name := "step", desc := "(LCargoFlag$World;LCargoFlag$Block;I)V" } : Jvm.MethodName)) ∈ lw_all := lw_g (lw_at lw_m4 156 rfl) rfl
theorem q1052 : (Jvm.Cond.privateMethod ({ cls := "CargoFlag$Reader", name := "step", desc := "(LCargoFlag$World;LCargoFlag$Block;I)V" } : Jvm.MethodName)) ∈ lw_tbl := lw_at lw_m4 157 rfl
theorem q1053 : (Jvm.Cond.instanceMethod ({ cls := "CargoFlag$Reader", name := "step", desc := "(LCargoFlag$World;LCargoFlag$Block;I)V" } : Jvm.MethodName)) ∈ lw_all := lw_g (lw_at lw_m4 158 rfl) rfl
theorem q1054 : (Jvm.Cond.code ({ cls := "CargoFlag$Reader", name := "step", desc := "(LCargoFlag$World;LCargoFlag$Block;I)V" } : Jvm.MethodName) prog_12_method_34_code (7 : Nat) (Option.none : Option Jvm.ClassFile.FieldType)) ∈ lw_all := lw_g (lw_at lw_m4 159 rfl) rfl
theorem q1055 : (Jvm.Cond.methodLink "CargoFlag$Reader" (310 : Nat) ({ cls := "CargoFlag$Reader", name := "block", desc := "(LCargoFlag$World;ZI)LCargoFlag$Block;" } : Jvm.MethodName)) ∈ lw_all := lw_g (lw_at lw_m4 160 rfl) rfl
theorem q1056 : (Jvm.Cond.privateMethod ({ cls := "CargoFlag$Reader", name := "block", desc := "(LCargoFlag$World;ZI)LCargoFlag$Block;" } : Jvm.MethodName)) ∈ lw_tbl := lw_at lw_m4 161 rfl
theorem q1057 : (Jvm.Cond.instanceMethod ({ cls := "CargoFlag$Reader", name := "block", desc := "(LCargoFlag$World;ZI)LCargoFlag$Block;" } : Jvm.MethodName)) ∈ lw_all := lw_g (lw_at lw_m4 162 rfl) rfl
theorem q1058 : (Jvm.Cond.code ({ cls := "CargoFlag$Reader", name := "block", desc := "(LCargoFlag$World;ZI)LCargoFlag$Block;" } : Jvm.MethodName) prog_12_method_36_code (5 : Nat) (Option.some (Jvm.ClassFile.FieldType.object "CargoFlag$Block"))) ∈ lw_all := lw_g (lw_at lw_m4 163 rfl) rfl
theorem q1059 : (Jvm.Cond.methodLink "CargoFlag$Reader" (329 : Nat) ({ cls := "CargoFlag$Reader", name := "when", desc := "(LCargoFlag$World;)LCargoFlag$When;" } : Jvm.MethodName)) ∈ lw_all := lw_g (lw_at lw_m4 164 rfl) rfl
theorem q1060 : (Jvm.Cond.privateMethod ({ cls := "CargoFlag$Reader", name := "when", desc := "(LCargoFlag$World;)LCargoFlag$When;" } : Jvm.MethodName)) ∈ lw_tbl := lw_at lw_m4 165 rfl
theorem q1061 : (Jvm.Cond.instanceMethod ({ cls := "CargoFlag$Reader", name := "when", desc := "(LCargoFlag$World;)LCargoFlag$When;" } : Jvm.MethodName)) ∈ lw_all := lw_g (lw_at lw_m4 166 rfl) rfl
theorem q1062 : (Jvm.Cond.code ({ cls := "CargoFlag$Reader", name := "when", desc := "(LCargoFlag$World;)LCargoFlag$When;" } : Jvm.MethodName) prog_12_method_37_code (5 : Nat) (Option.some (Jvm.ClassFile.FieldType.object "CargoFlag$When"))) ∈ lw_all := lw_g (lw_at lw_m4 167 rfl) rfl
theorem q1063 : (Jvm.Cond.classLink "CargoFlag$Reader" (337 : Nat) "CargoFlag$When") ∈ lw_all := lw_g (lw_at lw_m4 168 rfl) rfl
theorem q1065 : (Jvm.Cond.methodLink "CargoFlag$Reader" (339 : Nat) ({ cls := "CargoFlag$When", name := "<init>", desc := "(IIIII)V" } : Jvm.MethodName)) ∈ lw_all := lw_g (lw_at lw_m4 170 rfl) rfl
theorem q1087 : (Jvm.Cond.classLink "CargoFlag$Reader" (332 : Nat) "CargoFlag$Loop") ∈ lw_all := lw_g (lw_at lw_m4 192 rfl) rfl
theorem q1088 : (Jvm.Cond.methodLink "CargoFlag$Reader" (334 : Nat) ({ cls := "CargoFlag$Loop", name := "<init>", desc := "(I)V" } : Jvm.MethodName)) ∈ lw_all := lw_g (lw_at lw_m4 193 rfl) rfl
theorem q1089 : (Jvm.Cond.methodLink "CargoFlag$Reader" (314 : Nat) ({ cls := "CargoFlag$Reader", name := "plain", desc := "(LCargoFlag$World;)LCargoFlag$Step;" } : Jvm.MethodName)) ∈ lw_all := lw_g (lw_at lw_m4 194 rfl) rfl
theorem q1090 : (Jvm.Cond.privateMethod ({ cls := "CargoFlag$Reader", name := "plain", desc := "(LCargoFlag$World;)LCargoFlag$Step;" } : Jvm.MethodName)) ∈ lw_tbl := lw_at lw_m4 195 rfl
theorem q1091 : (Jvm.Cond.instanceMethod ({ cls := "CargoFlag$Reader", name := "plain", desc := "(LCargoFlag$World;)LCargoFlag$Step;" } : Jvm.MethodName)) ∈ lw_all := lw_g (lw_at lw_m4 196 rfl) rfl
theorem q1092 : (Jvm.Cond.code ({ cls := "CargoFlag$Reader", name := "plain", desc := "(LCargoFlag$World;)LCargoFlag$Step;" } : Jvm.MethodName) prog_12_method_35_code (5 : Nat) (Option.some (Jvm.ClassFile.FieldType.object "CargoFlag$Step"))) ∈ lw_all := lw_g (lw_at lw_m4 197 rfl) rfl
theorem q1093 : (Jvm.Cond.classLink "CargoFlag$Reader" (324 : Nat) "CargoFlag$Act") ∈ lw_all := lw_g (lw_at lw_m4 198 rfl) rfl
theorem q1095 : (Jvm.Cond.methodLink "CargoFlag$Reader" (326 : Nat) ({ cls := "CargoFlag$Act", name := "<init>", desc := "(IIII)V" } : Jvm.MethodName)) ∈ lw_all := lw_g (lw_at lw_m4 200 rfl) rfl
theorem q1112 : (Jvm.Cond.methodLink "CargoFlag$Reader" (318 : Nat) ({ cls := "CargoFlag$Block", name := "add", desc := "(LCargoFlag$Step;)V" } : Jvm.MethodName)) ∈ lw_all := lw_g (lw_at lw_m4 217 rfl) rfl
theorem in_X7 : ∀ w ∈ wsX70, w ∈ lw_all := lw_in wsX70 [694, 696, 698, 700, 702, 704, 706, 708] (by decide +kernel) (by decide +kernel)

/-! the law's own entry -/
set_option maxRecDepth 100000
abbrev cL_law : ByteArray := code
def dkwL_law_93 : List UInt8 := [4, 172]
abbrev dktL_law_93 : List UInt8 := dkwL_law_93 ++ []
def dkwL_law_92 : List UInt8 := [159, 0, 18, 3, 172, 43, 182, 1, 33, 44, 182, 1, 36, 159, 0, 5, 3, 172, 132, 3, 6, 167, 246, 136]
abbrev dktL_law_92 : List UInt8 := dkwL_law_92 ++ dktL_law_93
def dkwL_law_91 : List UInt8 := [46, 42, 29, 5, 96, 46, 182, 1, 28, 159, 0, 31, 3, 172, 43, 182, 1, 29, 44, 182, 1, 32]
abbrev dktL_law_91 : List UInt8 := dkwL_law_91 ++ dktL_law_92
def dkwL_law_90 : List UInt8 := [159, 0, 64, 3, 172, 43, 42, 29, 4, 96, 46, 42, 29, 5, 96, 46, 182, 1, 25, 44, 42, 29, 4, 96]
abbrev dktL_law_90 : List UInt8 := dkwL_law_90 ++ dktL_law_91
def dkwL_law_89 : List UInt8 := [159, 0, 87, 3, 172, 43, 42, 29, 4, 96, 46, 182, 1, 21, 44, 42, 29, 4, 96, 46, 182, 1, 24]
abbrev dktL_law_89 : List UInt8 := dkwL_law_89 ++ dktL_law_90
def dkwL_law_88 : List UInt8 := [159, 0, 110, 3, 172, 43, 42, 29, 4, 96, 46, 182, 1, 17, 44, 42, 29, 4, 96, 46, 182, 1, 20]
abbrev dktL_law_88 : List UInt8 := dkwL_law_88 ++ dktL_law_89
def dkwL_law_87 : List UInt8 := [46, 182, 1, 13, 44, 42, 29, 4, 96, 46, 42, 29, 5, 96, 46, 42, 29, 6, 96, 46, 182, 1, 16]
abbrev dktL_law_87 : List UInt8 := dkwL_law_87 ++ dktL_law_88
def dkwL_law_86 : List UInt8 := [46, 182, 1, 12, 159, 0, 153, 3, 172, 43, 42, 29, 4, 96, 46, 42, 29, 5, 96, 46, 42, 29, 6, 96]
abbrev dktL_law_86 : List UInt8 := dkwL_law_86 ++ dktL_law_87
def dkwL_law_85 : List UInt8 := [46, 42, 29, 6, 96, 46, 182, 1, 9, 44, 42, 29, 4, 96, 46, 42, 29, 5, 96, 46, 42, 29, 6, 96]
abbrev dktL_law_85 : List UInt8 := dkwL_law_85 ++ dktL_law_86
def dkwL_law_84 : List UInt8 := [46, 42, 29, 6, 96, 46, 182, 1, 8, 159, 0, 196, 3, 172, 43, 42, 29, 4, 96, 46, 42, 29, 5, 96]
abbrev dktL_law_84 : List UInt8 := dkwL_law_84 ++ dktL_law_85
def dkwL_law_83 : List UInt8 := [46, 42, 29, 5, 96, 46, 42, 29, 6, 96, 46, 182, 1, 5, 44, 42, 29, 4, 96, 46, 42, 29, 5, 96]
abbrev dktL_law_83 : List UInt8 := dkwL_law_83 ++ dktL_law_84
def dkwL_law_82 : List UInt8 := [44, 42, 29, 4, 96, 46, 42, 29, 5, 96, 46, 182, 1, 4, 159, 0, 239, 3, 172, 43, 42, 29, 4, 96]
abbrev dktL_law_82 : List UInt8 := dkwL_law_82 ++ dktL_law_83
def dkwL_law_81 : List UInt8 := [96, 46, 182, 1, 0, 159, 1, 16, 3, 172, 43, 42, 29, 4, 96, 46, 42, 29, 5, 96, 46, 182, 1, 1]
abbrev dktL_law_81 : List UInt8 := dkwL_law_81 ++ dktL_law_82
def dkwL_law_80 : List UInt8 := [5, 96, 46, 182, 0, 252, 159, 1, 39, 3, 172, 43, 42, 29, 4, 96, 46, 182, 0, 253, 44, 42, 29, 4]
abbrev dktL_law_80 : List UInt8 := dkwL_law_80 ++ dktL_law_81
def dkwL_law_79 : List UInt8 := [3, 172, 43, 42, 29, 4, 96, 46, 42, 29, 5, 96, 46, 182, 0, 249, 44, 42, 29, 4, 96, 46, 42, 29]
abbrev dktL_law_79 : List UInt8 := dkwL_law_79 ++ dktL_law_80
def dkwL_law_78 : List UInt8 := [29, 5, 96, 46, 182, 0, 245, 44, 42, 29, 4, 96, 46, 42, 29, 5, 96, 46, 182, 0, 248, 159, 1, 72]
abbrev dktL_law_78 : List UInt8 := dkwL_law_78 ++ dktL_law_79
def dkwL_law_77 : List UInt8 := [29, 5, 96, 46, 42, 29, 6, 96, 46, 182, 0, 244, 159, 1, 105, 3, 172, 43, 42, 29, 4, 96, 46, 42]
abbrev dktL_law_77 : List UInt8 := dkwL_law_77 ++ dktL_law_78
def dkwL_law_76 : List UInt8 := [29, 4, 96, 46, 42, 29, 5, 96, 46, 42, 29, 6, 96, 46, 182, 0, 241, 44, 42, 29, 4, 96, 46, 42]
abbrev dktL_law_76 : List UInt8 := dkwL_law_76 ++ dktL_law_77
def dkwL_law_75 : List UInt8 := [182, 0, 237, 44, 42, 29, 4, 96, 46, 42, 29, 5, 96, 46, 182, 0, 240, 159, 1, 148, 3, 172, 43, 42]
abbrev dktL_law_75 : List UInt8 := dkwL_law_75 ++ dktL_law_76
def dkwL_law_74 : List UInt8 := [29, 4, 96, 46, 182, 0, 236, 159, 1, 181, 3, 172, 43, 42, 29, 4, 96, 46, 42, 29, 5, 96, 46]
abbrev dktL_law_74 : List UInt8 := dkwL_law_74 ++ dktL_law_75
def dkwL_law_73 : List UInt8 := [42, 29, 4, 96, 46, 182, 0, 232, 159, 1, 204, 3, 172, 43, 42, 29, 4, 96, 46, 182, 0, 233, 44, 42]
abbrev dktL_law_73 : List UInt8 := dkwL_law_73 ++ dktL_law_74
def dkwL_law_72 : List UInt8 := [46, 42, 29, 5, 96, 46, 182, 0, 228, 159, 1, 227, 3, 172, 43, 42, 29, 4, 96, 46, 182, 0, 229, 44]
abbrev dktL_law_72 : List UInt8 := dkwL_law_72 ++ dktL_law_73
def dkwL_law_71 : List UInt8 := [159, 2, 4, 3, 172, 43, 42, 29, 4, 96, 46, 42, 29, 5, 96, 46, 182, 0, 225, 44, 42, 29, 4, 96]
abbrev dktL_law_71 : List UInt8 := dkwL_law_71 ++ dktL_law_72
def dkwL_law_70 : List UInt8 := [42, 29, 5, 96, 46, 182, 0, 221, 44, 42, 29, 4, 96, 46, 42, 29, 5, 96, 46, 182, 0, 224]
abbrev dktL_law_70 : List UInt8 := dkwL_law_70 ++ dktL_law_71
def dkwL_law_69 : List UInt8 := [42, 29, 4, 96, 46, 42, 29, 5, 96, 46, 182, 0, 220, 159, 2, 37, 3, 172, 43, 42, 29, 4, 96, 46]
abbrev dktL_law_69 : List UInt8 := dkwL_law_69 ++ dktL_law_70
def dkwL_law_68 : List UInt8 := [46, 182, 0, 216, 159, 2, 70, 3, 172, 43, 42, 29, 4, 96, 46, 42, 29, 5, 96, 46, 182, 0, 217, 44]
abbrev dktL_law_68 : List UInt8 := dkwL_law_68 ++ dktL_law_69
def dkwL_law_67 : List UInt8 := [96, 46, 182, 0, 212, 159, 2, 93, 3, 172, 43, 42, 29, 4, 96, 46, 182, 0, 213, 44, 42, 29, 4, 96]
abbrev dktL_law_67 : List UInt8 := dkwL_law_67 ++ dktL_law_68
def dkwL_law_66 : List UInt8 := [5, 96, 46, 182, 0, 208, 159, 2, 116, 3, 172, 43, 42, 29, 4, 96, 46, 182, 0, 209, 44, 42, 29, 4]
abbrev dktL_law_66 : List UInt8 := dkwL_law_66 ++ dktL_law_67
def dkwL_law_65 : List UInt8 := [3, 172, 43, 42, 29, 4, 96, 46, 42, 29, 5, 96, 46, 182, 0, 205, 44, 42, 29, 4, 96, 46, 42, 29]
abbrev dktL_law_65 : List UInt8 := dkwL_law_65 ++ dktL_law_66
def dkwL_law_64 : List UInt8 := [29, 5, 96, 46, 182, 0, 201, 44, 42, 29, 4, 96, 46, 42, 29, 5, 96, 46, 182, 0, 204, 159, 2, 149]
abbrev dktL_law_64 : List UInt8 := dkwL_law_64 ++ dktL_law_65
def dkwL_law_63 : List UInt8 := [182, 0, 197, 44, 42, 29, 4, 96, 46, 182, 0, 200, 159, 2, 182, 3, 172, 43, 42, 29, 4, 96, 46, 42]
abbrev dktL_law_63 : List UInt8 := dkwL_law_63 ++ dktL_law_64
def dkwL_law_62 : List UInt8 := [42, 29, 4, 96, 46, 42, 29, 5, 96, 46, 182, 0, 196, 159, 2, 205, 3, 172, 43, 42, 29, 4, 96, 46]
abbrev dktL_law_62 : List UInt8 := dkwL_law_62 ++ dktL_law_63
def dkwL_law_61 : List UInt8 := [46, 182, 0, 192, 159, 2, 238, 3, 172, 43, 42, 29, 4, 96, 46, 42, 29, 5, 96, 46, 182, 0, 193, 44]
abbrev dktL_law_61 : List UInt8 := dkwL_law_61 ++ dktL_law_62
def dkwL_law_60 : List UInt8 := [43, 42, 29, 4, 96, 46, 42, 29, 5, 96, 46, 182, 0, 189, 44, 42, 29, 4, 96, 46, 42, 29, 5, 96]
abbrev dktL_law_60 : List UInt8 := dkwL_law_60 ++ dktL_law_61
def dkwL_law_59 : List UInt8 := [96, 46, 182, 0, 185, 44, 42, 29, 4, 96, 46, 42, 29, 5, 96, 46, 182, 0, 188, 159, 3, 15, 3, 172]
abbrev dktL_law_59 : List UInt8 := dkwL_law_59 ++ dktL_law_60
def dkwL_law_58 : List UInt8 := [96, 46, 42, 29, 6, 96, 46, 182, 0, 184, 159, 3, 48, 3, 172, 43, 42, 29, 4, 96, 46, 42, 29, 5]
abbrev dktL_law_58 : List UInt8 := dkwL_law_58 ++ dktL_law_59
def dkwL_law_57 : List UInt8 := [96, 46, 42, 29, 5, 96, 46, 42, 29, 6, 96, 46, 182, 0, 181, 44, 42, 29, 4, 96, 46, 42, 29, 5]
abbrev dktL_law_57 : List UInt8 := dkwL_law_57 ++ dktL_law_58
def dkwL_law_56 : List UInt8 := [29, 6, 96, 46, 153, 0, 7, 4, 167, 0, 4, 3, 182, 0, 180, 159, 3, 91, 3, 172, 43, 42, 29, 4]
abbrev dktL_law_56 : List UInt8 := dkwL_law_56 ++ dktL_law_57
def dkwL_law_55 : List UInt8 := [46, 153, 0, 7, 4, 167, 0, 4, 3, 182, 0, 176, 44, 42, 29, 4, 96, 46, 42, 29, 5, 96, 46, 42]
abbrev dktL_law_55 : List UInt8 := dkwL_law_55 ++ dktL_law_56
def dkwL_law_54 : List UInt8 := [46, 182, 0, 175, 159, 3, 150, 3, 172, 43, 42, 29, 4, 96, 46, 42, 29, 5, 96, 46, 42, 29, 6, 96]
abbrev dktL_law_54 : List UInt8 := dkwL_law_54 ++ dktL_law_55
def dkwL_law_53 : List UInt8 := [96, 46, 182, 0, 170, 159, 3, 173, 3, 172, 43, 42, 29, 4, 96, 46, 182, 0, 171, 44, 42, 29, 4, 96]
abbrev dktL_law_53 : List UInt8 := dkwL_law_53 ++ dktL_law_54
def dkwL_law_52 : List UInt8 := [96, 46, 182, 0, 166, 44, 42, 29, 4, 96, 46, 42, 29, 5, 96, 46, 42, 29, 6, 96, 46, 42, 29, 7]
abbrev dktL_law_52 : List UInt8 := dkwL_law_52 ++ dktL_law_53
def dkwL_law_51 : List UInt8 := [159, 3, 226, 3, 172, 43, 42, 29, 4, 96, 46, 42, 29, 5, 96, 46, 42, 29, 6, 96, 46, 42, 29, 7]
abbrev dktL_law_51 : List UInt8 := dkwL_law_51 ++ dktL_law_52
def dkwL_law_50 : List UInt8 := [159, 3, 249, 3, 172, 43, 42, 29, 4, 96, 46, 182, 0, 162, 44, 42, 29, 4, 96, 46, 182, 0, 165]
abbrev dktL_law_50 : List UInt8 := dkwL_law_50 ++ dktL_law_51
def dkwL_law_49 : List UInt8 := [46, 42, 29, 5, 96, 46, 182, 0, 158, 44, 42, 29, 4, 96, 46, 42, 29, 5, 96, 46, 182, 0, 161]
abbrev dktL_law_49 : List UInt8 := dkwL_law_49 ++ dktL_law_50
def dkwL_law_48 : List UInt8 := [46, 42, 29, 5, 96, 46, 42, 29, 6, 96, 46, 182, 0, 157, 159, 4, 26, 3, 172, 43, 42, 29, 4, 96]
abbrev dktL_law_48 : List UInt8 := dkwL_law_48 ++ dktL_law_49
def dkwL_law_47 : List UInt8 := [43, 42, 29, 4, 96, 46, 42, 29, 5, 96, 46, 42, 29, 6, 96, 46, 182, 0, 154, 44, 42, 29, 4, 96]
abbrev dktL_law_47 : List UInt8 := dkwL_law_47 ++ dktL_law_48
def dkwL_law_46 : List UInt8 := [44, 42, 29, 4, 96, 46, 42, 29, 5, 96, 46, 42, 29, 6, 96, 46, 182, 0, 153, 159, 4, 69, 3, 172]
abbrev dktL_law_46 : List UInt8 := dkwL_law_46 ++ dktL_law_47
def dkwL_law_45 : List UInt8 := [159, 4, 112, 3, 172, 43, 42, 29, 4, 96, 46, 42, 29, 5, 96, 46, 42, 29, 6, 96, 46, 182, 0, 150]
abbrev dktL_law_45 : List UInt8 := dkwL_law_45 ++ dktL_law_46
def dkwL_law_44 : List UInt8 := [182, 0, 146, 44, 42, 29, 4, 96, 46, 42, 29, 5, 96, 46, 42, 29, 6, 96, 46, 182, 0, 149]
abbrev dktL_law_44 : List UInt8 := dkwL_law_44 ++ dktL_law_45
def dkwL_law_43 : List UInt8 := [182, 0, 145, 159, 4, 155, 3, 172, 43, 42, 29, 4, 96, 46, 42, 29, 5, 96, 46, 42, 29, 6, 96, 46]
abbrev dktL_law_43 : List UInt8 := dkwL_law_43 ++ dktL_law_44
def dkwL_law_42 : List UInt8 := [182, 0, 141, 159, 4, 178, 3, 172, 43, 42, 29, 4, 96, 46, 182, 0, 142, 44, 42, 29, 4, 96, 46]
abbrev dktL_law_42 : List UInt8 := dkwL_law_42 ++ dktL_law_43
def dkwL_law_41 : List UInt8 := [182, 0, 137, 159, 4, 201, 3, 172, 43, 42, 29, 4, 96, 46, 182, 0, 138, 44, 42, 29, 4, 96, 46]
abbrev dktL_law_41 : List UInt8 := dkwL_law_41 ++ dktL_law_42
def dkwL_law_40 : List UInt8 := [4, 96, 46, 42, 29, 5, 96, 46, 182, 0, 134, 44, 42, 29, 4, 96, 46, 42, 29, 5, 96, 46]
abbrev dktL_law_40 : List UInt8 := dkwL_law_40 ++ dktL_law_41
def dkwL_law_39 : List UInt8 := [29, 4, 96, 46, 182, 0, 130, 44, 42, 29, 4, 96, 46, 182, 0, 133, 159, 4, 234, 3, 172, 43, 42, 29]
abbrev dktL_law_39 : List UInt8 := dkwL_law_39 ++ dktL_law_40
def dkwL_law_38 : List UInt8 := [182, 0, 126, 44, 42, 29, 4, 96, 46, 42, 29, 5, 96, 46, 182, 0, 129, 159, 5, 1, 3, 172, 43, 42]
abbrev dktL_law_38 : List UInt8 := dkwL_law_38 ++ dktL_law_39
def dkwL_law_37 : List UInt8 := [5, 96, 46, 182, 0, 125, 159, 5, 34, 3, 172, 43, 42, 29, 4, 96, 46, 42, 29, 5, 96, 46]
abbrev dktL_law_37 : List UInt8 := dkwL_law_37 ++ dktL_law_38
def dkwL_law_36 : List UInt8 := [3, 172, 43, 42, 29, 4, 96, 46, 42, 29, 5, 96, 46, 182, 0, 121, 44, 42, 29, 4, 96, 46, 42, 29]
abbrev dktL_law_36 : List UInt8 := dkwL_law_36 ++ dktL_law_37
def dkwL_law_35 : List UInt8 := [29, 5, 96, 46, 182, 0, 117, 44, 42, 29, 4, 96, 46, 42, 29, 5, 96, 46, 182, 0, 120, 159, 5, 67]
abbrev dktL_law_35 : List UInt8 := dkwL_law_35 ++ dktL_law_36
def dkwL_law_34 : List UInt8 := [182, 0, 113, 44, 42, 29, 4, 96, 46, 182, 0, 116, 159, 5, 100, 3, 172, 43, 42, 29, 4, 96, 46, 42]
abbrev dktL_law_34 : List UInt8 := dkwL_law_34 ++ dktL_law_35
def dkwL_law_33 : List UInt8 := [182, 0, 109, 44, 42, 29, 4, 96, 46, 182, 0, 112, 159, 5, 123, 3, 172, 43, 42, 29, 4, 96, 46]
abbrev dktL_law_33 : List UInt8 := dkwL_law_33 ++ dktL_law_34
def dkwL_law_32 : List UInt8 := [42, 29, 5, 96, 46, 42, 29, 6, 96, 46, 182, 0, 108, 159, 5, 146, 3, 172, 43, 42, 29, 4, 96, 46]
abbrev dktL_law_32 : List UInt8 := dkwL_law_32 ++ dktL_law_33
def dkwL_law_31 : List UInt8 := [42, 29, 4, 96, 46, 42, 29, 5, 96, 46, 42, 29, 6, 96, 46, 182, 0, 104, 44, 42, 29, 4, 96, 46]
abbrev dktL_law_31 : List UInt8 := dkwL_law_31 ++ dktL_law_32
def dkwL_law_30 : List UInt8 := [46, 182, 0, 100, 44, 42, 29, 4, 96, 46, 42, 29, 5, 96, 46, 182, 0, 103, 159, 5, 189, 3, 172, 43]
abbrev dktL_law_30 : List UInt8 := dkwL_law_30 ++ dktL_law_31
def dkwL_law_29 : List UInt8 := [46, 42, 29, 5, 96, 46, 182, 0, 99, 159, 5, 222, 3, 172, 43, 42, 29, 4, 96, 46, 42, 29, 5, 96]
abbrev dktL_law_29 : List UInt8 := dkwL_law_29 ++ dktL_law_30
def dkwL_law_28 : List UInt8 := [159, 5, 255, 3, 172, 43, 42, 29, 4, 96, 46, 42, 29, 5, 96, 46, 182, 0, 96, 44, 42, 29, 4, 96]
abbrev dktL_law_28 : List UInt8 := dkwL_law_28 ++ dktL_law_29
def dkwL_law_27 : List UInt8 := [46, 42, 29, 5, 96, 46, 182, 0, 92, 44, 42, 29, 4, 96, 46, 42, 29, 5, 96, 46, 182, 0, 95]
abbrev dktL_law_27 : List UInt8 := dkwL_law_27 ++ dktL_law_28
def dkwL_law_26 : List UInt8 := [44, 42, 29, 4, 96, 46, 42, 29, 5, 96, 46, 182, 0, 91, 159, 6, 32, 3, 172, 43, 42, 29, 4, 96]
abbrev dktL_law_26 : List UInt8 := dkwL_law_26 ++ dktL_law_27
def dkwL_law_25 : List UInt8 := [96, 46, 182, 0, 87, 159, 6, 65, 3, 172, 43, 42, 29, 4, 96, 46, 42, 29, 5, 96, 46, 182, 0, 88]
abbrev dktL_law_25 : List UInt8 := dkwL_law_25 ++ dktL_law_26
def dkwL_law_24 : List UInt8 := [172, 43, 42, 29, 4, 96, 46, 42, 29, 5, 96, 46, 182, 0, 84, 44, 42, 29, 4, 96, 46, 42, 29, 5]
abbrev dktL_law_24 : List UInt8 := dkwL_law_24 ++ dktL_law_25
def dkwL_law_23 : List UInt8 := [3, 172, 43, 42, 29, 4, 96, 46, 182, 0, 80, 44, 42, 29, 4, 96, 46, 182, 0, 83, 159, 6, 98, 3]
abbrev dktL_law_23 : List UInt8 := dkwL_law_23 ++ dktL_law_24
def dkwL_law_22 : List UInt8 := [29, 5, 96, 46, 182, 0, 76, 44, 42, 29, 4, 96, 46, 42, 29, 5, 96, 46, 182, 0, 79, 159, 6, 121]
abbrev dktL_law_22 : List UInt8 := dkwL_law_22 ++ dktL_law_23
def dkwL_law_21 : List UInt8 := [29, 4, 96, 46, 42, 29, 5, 96, 46, 182, 0, 75, 159, 6, 154, 3, 172, 43, 42, 29, 4, 96, 46, 42]
abbrev dktL_law_21 : List UInt8 := dkwL_law_21 ++ dktL_law_22
def dkwL_law_20 : List UInt8 := [182, 0, 70, 159, 6, 187, 3, 172, 43, 42, 29, 4, 96, 46, 42, 29, 5, 96, 46, 182, 0, 71, 44, 42]
abbrev dktL_law_20 : List UInt8 := dkwL_law_20 ++ dktL_law_21
def dkwL_law_19 : List UInt8 := [182, 0, 66, 159, 6, 210, 3, 172, 43, 42, 29, 4, 96, 46, 182, 0, 67, 44, 42, 29, 4, 96, 46]
abbrev dktL_law_19 : List UInt8 := dkwL_law_19 ++ dktL_law_20
def dkwL_law_18 : List UInt8 := [182, 0, 62, 159, 6, 233, 3, 172, 43, 42, 29, 4, 96, 46, 182, 0, 63, 44, 42, 29, 4, 96, 46]
abbrev dktL_law_18 : List UInt8 := dkwL_law_18 ++ dktL_law_19
def dkwL_law_17 : List UInt8 := [182, 0, 58, 159, 7, 0, 3, 172, 43, 42, 29, 4, 96, 46, 182, 0, 59, 44, 42, 29, 4, 96, 46]
abbrev dktL_law_17 : List UInt8 := dkwL_law_17 ++ dktL_law_18
def dkwL_law_16 : List UInt8 := [182, 0, 53, 159, 7, 23, 3, 172, 43, 42, 29, 4, 96, 46, 182, 0, 54, 44, 42, 29, 4, 96, 46]
abbrev dktL_law_16 : List UInt8 := dkwL_law_16 ++ dktL_law_17
def dkwL_law_15 : List UInt8 := [4, 96, 46, 42, 29, 5, 96, 46, 42, 29, 6, 96, 46, 42, 29, 7, 96, 46, 42, 29, 8, 96, 46]
abbrev dktL_law_15 : List UInt8 := dkwL_law_15 ++ dktL_law_16
def dkwL_law_14 : List UInt8 := [5, 96, 46, 42, 29, 6, 96, 46, 42, 29, 7, 96, 46, 42, 29, 8, 96, 46, 182, 0, 49, 44, 42, 29]
abbrev dktL_law_14 : List UInt8 := dkwL_law_14 ++ dktL_law_15
def dkwL_law_13 : List UInt8 := [7, 96, 46, 42, 29, 8, 96, 46, 182, 0, 48, 159, 7, 86, 3, 172, 43, 42, 29, 4, 96, 46, 42, 29]
abbrev dktL_law_13 : List UInt8 := dkwL_law_13 ++ dktL_law_14
def dkwL_law_12 : List UInt8 := [8, 96, 46, 182, 0, 44, 44, 42, 29, 4, 96, 46, 42, 29, 5, 96, 46, 42, 29, 6, 96, 46, 42, 29]
abbrev dktL_law_12 : List UInt8 := dkwL_law_12 ++ dktL_law_13
def dkwL_law_11 : List UInt8 := [172, 43, 42, 29, 4, 96, 46, 42, 29, 5, 96, 46, 42, 29, 6, 96, 46, 42, 29, 7, 96, 46, 42, 29]
abbrev dktL_law_11 : List UInt8 := dkwL_law_11 ++ dktL_law_12
def dkwL_law_10 : List UInt8 := [96, 46, 182, 0, 39, 44, 42, 29, 4, 96, 46, 42, 29, 5, 96, 46, 182, 0, 43, 148, 153, 7, 149, 3]
abbrev dktL_law_10 : List UInt8 := dkwL_law_10 ++ dktL_law_11
def dkwL_law_9 : List UInt8 := [46, 133, 20, 0, 32, 127, 129, 182, 0, 38, 159, 7, 183, 3, 172, 43, 42, 29, 4, 96, 46, 42, 29, 5]
abbrev dktL_law_9 : List UInt8 := dkwL_law_9 ++ dktL_law_10
def dkwL_law_8 : List UInt8 := [44, 42, 29, 4, 96, 46, 42, 29, 5, 96, 46, 42, 29, 6, 96, 46, 133, 16, 32, 121, 42, 29, 7, 96]
abbrev dktL_law_8 : List UInt8 := dkwL_law_8 ++ dktL_law_9
def dkwL_law_7 : List UInt8 := [46, 42, 29, 6, 96, 46, 133, 16, 32, 121, 42, 29, 7, 96, 46, 133, 20, 0, 32, 127, 129, 182, 0, 34]
abbrev dktL_law_7 : List UInt8 := dkwL_law_7 ++ dktL_law_8
def dkwL_law_6 : List UInt8 := [46, 42, 29, 6, 96, 46, 182, 0, 31, 159, 8, 0, 3, 172, 43, 42, 29, 4, 96, 46, 42, 29, 5, 96]
abbrev dktL_law_6 : List UInt8 := dkwL_law_6 ++ dktL_law_7
def dkwL_law_5 : List UInt8 := [46, 42, 29, 5, 96, 46, 42, 29, 6, 96, 46, 182, 0, 27, 44, 42, 29, 4, 96, 46, 42, 29, 5, 96]
abbrev dktL_law_5 : List UInt8 := dkwL_law_5 ++ dktL_law_6
def dkwL_law_4 : List UInt8 := [153, 8, 57, 3, 172, 43, 182, 0, 23, 44, 182, 0, 26, 148, 153, 8, 43, 3, 172, 43, 42, 29, 4, 96]
abbrev dktL_law_4 : List UInt8 := dkwL_law_4 ++ dktL_law_5
def dkwL_law_3 : List UInt8 := [43, 182, 0, 13, 44, 182, 0, 17, 159, 8, 71, 3, 172, 43, 182, 0, 18, 44, 182, 0, 22, 148]
abbrev dktL_law_3 : List UInt8 := dkwL_law_3 ++ dktL_law_4
def dkwL_law_2 : List UInt8 := [170, 0, 0, 0, 0, 9, 102, 0, 0, 0, 0, 0, 0, 0, 65, 0, 0, 1, 23, 0, 0, 1, 36, 0, 0, 1, 50, 0, 0, 1, 64, 0, 0, 1, 107, 0, 0, 1, 180, 0, 0, 1, 214, 0, 0, 2, 21, 0, 0, 2, 84, 0, 0, 2, 107, 0, 0, 2, 130, 0, 0, 2, 153, 0, 0, 2, 176, 0, 0, 2, 209, 0, 0, 2, 242, 0, 0, 3, 9, 0, 0, 3, 42, 0, 0, 3, 75, 0, 0, 3, 108, 0, 0, 3, 141, 0, 0, 3, 174, 0, 0, 3, 217, 0, 0, 3, 240, 0, 0, 4, 7, 0, 0, 4, 40, 0, 0, 4, 73, 0, 0, 4, 106, 0, 0, 4, 129, 0, 0, 4, 162, 0, 0, 4, 185, 0, 0, 4, 208, 0, 0, 4, 251, 0, 0, 5, 38, 0, 0, 5, 81, 0, 0, 5, 114, 0, 0, 5, 137, 0, 0, 5, 190, 0, 0, 5, 213, 0, 0, 6, 16, 0, 0, 6, 59, 0, 0, 6, 92, 0, 0, 6, 125, 0, 0, 6, 158, 0, 0, 6, 181, 0, 0, 6, 214, 0, 0, 6, 247, 0, 0, 7, 14, 0, 0, 7, 37, 0, 0, 7, 70, 0, 0, 7, 103, 0, 0, 7, 136, 0, 0, 7, 159, 0, 0, 7, 182, 0, 0, 7, 215, 0, 0, 8, 2, 0, 0, 8, 35, 0, 0, 8, 68, 0, 0, 8, 91, 0, 0, 8, 124, 0, 0, 8, 167, 0, 0, 8, 210, 0, 0, 8, 253, 0, 0, 9, 20, 0, 0, 9, 43, 0, 0, 9, 76, 0, 0, 9, 89]
abbrev dktL_law_2 : List UInt8 := dkwL_law_2 ++ dktL_law_3
def dkwL_law_1 : List UInt8 := [163, 9, 117, 42, 29, 46, 16, 127, 126]
abbrev dktL_law_1 : List UInt8 := dkwL_law_1 ++ dktL_law_2
def dkwL_law_0 : List UInt8 := [187, 0, 7, 89, 183, 0, 9, 76, 187, 0, 10, 89, 183, 0, 12, 77, 3, 62, 29, 42, 190, 16, 6, 100]
abbrev dktL_law_0 : List UInt8 := dkwL_law_0 ++ dktL_law_1
theorem dksL_law_0 : cL_law.data.toList.drop 0 = dktL_law_0 := by decide +kernel
theorem dksL_law_1 : cL_law.data.toList.drop 24 = dktL_law_1 := dk_seg dksL_law_0 24 rfl rfl
theorem dksL_law_2 : cL_law.data.toList.drop 33 = dktL_law_2 := dk_seg dksL_law_1 9 rfl rfl
theorem dksL_law_3 : cL_law.data.toList.drop 312 = dktL_law_3 := dk_seg dksL_law_2 279 rfl rfl
theorem dksL_law_4 : cL_law.data.toList.drop 334 = dktL_law_4 := dk_seg dksL_law_3 22 rfl rfl
theorem dksL_law_5 : cL_law.data.toList.drop 358 = dktL_law_5 := dk_seg dksL_law_4 24 rfl rfl
theorem dksL_law_6 : cL_law.data.toList.drop 382 = dktL_law_6 := dk_seg dksL_law_5 24 rfl rfl
theorem dksL_law_7 : cL_law.data.toList.drop 406 = dktL_law_7 := dk_seg dksL_law_6 24 rfl rfl
theorem dksL_law_8 : cL_law.data.toList.drop 430 = dktL_law_8 := dk_seg dksL_law_7 24 rfl rfl
theorem dksL_law_9 : cL_law.data.toList.drop 454 = dktL_law_9 := dk_seg dksL_law_8 24 rfl rfl
theorem dksL_law_10 : cL_law.data.toList.drop 478 = dktL_law_10 := dk_seg dksL_law_9 24 rfl rfl
theorem dksL_law_11 : cL_law.data.toList.drop 502 = dktL_law_11 := dk_seg dksL_law_10 24 rfl rfl
theorem dksL_law_12 : cL_law.data.toList.drop 526 = dktL_law_12 := dk_seg dksL_law_11 24 rfl rfl
theorem dksL_law_13 : cL_law.data.toList.drop 550 = dktL_law_13 := dk_seg dksL_law_12 24 rfl rfl
theorem dksL_law_14 : cL_law.data.toList.drop 574 = dktL_law_14 := dk_seg dksL_law_13 24 rfl rfl
theorem dksL_law_15 : cL_law.data.toList.drop 598 = dktL_law_15 := dk_seg dksL_law_14 24 rfl rfl
theorem dksL_law_16 : cL_law.data.toList.drop 621 = dktL_law_16 := dk_seg dksL_law_15 23 rfl rfl
theorem dksL_law_17 : cL_law.data.toList.drop 644 = dktL_law_17 := dk_seg dksL_law_16 23 rfl rfl
theorem dksL_law_18 : cL_law.data.toList.drop 667 = dktL_law_18 := dk_seg dksL_law_17 23 rfl rfl
theorem dksL_law_19 : cL_law.data.toList.drop 690 = dktL_law_19 := dk_seg dksL_law_18 23 rfl rfl
theorem dksL_law_20 : cL_law.data.toList.drop 713 = dktL_law_20 := dk_seg dksL_law_19 23 rfl rfl
theorem dksL_law_21 : cL_law.data.toList.drop 737 = dktL_law_21 := dk_seg dksL_law_20 24 rfl rfl
theorem dksL_law_22 : cL_law.data.toList.drop 761 = dktL_law_22 := dk_seg dksL_law_21 24 rfl rfl
theorem dksL_law_23 : cL_law.data.toList.drop 785 = dktL_law_23 := dk_seg dksL_law_22 24 rfl rfl
theorem dksL_law_24 : cL_law.data.toList.drop 809 = dktL_law_24 := dk_seg dksL_law_23 24 rfl rfl
theorem dksL_law_25 : cL_law.data.toList.drop 833 = dktL_law_25 := dk_seg dksL_law_24 24 rfl rfl
theorem dksL_law_26 : cL_law.data.toList.drop 857 = dktL_law_26 := dk_seg dksL_law_25 24 rfl rfl
theorem dksL_law_27 : cL_law.data.toList.drop 881 = dktL_law_27 := dk_seg dksL_law_26 24 rfl rfl
theorem dksL_law_28 : cL_law.data.toList.drop 904 = dktL_law_28 := dk_seg dksL_law_27 23 rfl rfl
theorem dksL_law_29 : cL_law.data.toList.drop 928 = dktL_law_29 := dk_seg dksL_law_28 24 rfl rfl
theorem dksL_law_30 : cL_law.data.toList.drop 952 = dktL_law_30 := dk_seg dksL_law_29 24 rfl rfl
theorem dksL_law_31 : cL_law.data.toList.drop 976 = dktL_law_31 := dk_seg dksL_law_30 24 rfl rfl
theorem dksL_law_32 : cL_law.data.toList.drop 1000 = dktL_law_32 := dk_seg dksL_law_31 24 rfl rfl
theorem dksL_law_33 : cL_law.data.toList.drop 1024 = dktL_law_33 := dk_seg dksL_law_32 24 rfl rfl
theorem dksL_law_34 : cL_law.data.toList.drop 1047 = dktL_law_34 := dk_seg dksL_law_33 23 rfl rfl
theorem dksL_law_35 : cL_law.data.toList.drop 1071 = dktL_law_35 := dk_seg dksL_law_34 24 rfl rfl
theorem dksL_law_36 : cL_law.data.toList.drop 1095 = dktL_law_36 := dk_seg dksL_law_35 24 rfl rfl
theorem dksL_law_37 : cL_law.data.toList.drop 1119 = dktL_law_37 := dk_seg dksL_law_36 24 rfl rfl
theorem dksL_law_38 : cL_law.data.toList.drop 1141 = dktL_law_38 := dk_seg dksL_law_37 22 rfl rfl
theorem dksL_law_39 : cL_law.data.toList.drop 1165 = dktL_law_39 := dk_seg dksL_law_38 24 rfl rfl
theorem dksL_law_40 : cL_law.data.toList.drop 1189 = dktL_law_40 := dk_seg dksL_law_39 24 rfl rfl
theorem dksL_law_41 : cL_law.data.toList.drop 1211 = dktL_law_41 := dk_seg dksL_law_40 22 rfl rfl
theorem dksL_law_42 : cL_law.data.toList.drop 1234 = dktL_law_42 := dk_seg dksL_law_41 23 rfl rfl
theorem dksL_law_43 : cL_law.data.toList.drop 1257 = dktL_law_43 := dk_seg dksL_law_42 23 rfl rfl
theorem dksL_law_44 : cL_law.data.toList.drop 1281 = dktL_law_44 := dk_seg dksL_law_43 24 rfl rfl
theorem dksL_law_45 : cL_law.data.toList.drop 1303 = dktL_law_45 := dk_seg dksL_law_44 22 rfl rfl
theorem dksL_law_46 : cL_law.data.toList.drop 1327 = dktL_law_46 := dk_seg dksL_law_45 24 rfl rfl
theorem dksL_law_47 : cL_law.data.toList.drop 1351 = dktL_law_47 := dk_seg dksL_law_46 24 rfl rfl
theorem dksL_law_48 : cL_law.data.toList.drop 1375 = dktL_law_48 := dk_seg dksL_law_47 24 rfl rfl
theorem dksL_law_49 : cL_law.data.toList.drop 1399 = dktL_law_49 := dk_seg dksL_law_48 24 rfl rfl
theorem dksL_law_50 : cL_law.data.toList.drop 1422 = dktL_law_50 := dk_seg dksL_law_49 23 rfl rfl
theorem dksL_law_51 : cL_law.data.toList.drop 1445 = dktL_law_51 := dk_seg dksL_law_50 23 rfl rfl
theorem dksL_law_52 : cL_law.data.toList.drop 1469 = dktL_law_52 := dk_seg dksL_law_51 24 rfl rfl
theorem dksL_law_53 : cL_law.data.toList.drop 1493 = dktL_law_53 := dk_seg dksL_law_52 24 rfl rfl
theorem dksL_law_54 : cL_law.data.toList.drop 1517 = dktL_law_54 := dk_seg dksL_law_53 24 rfl rfl
theorem dksL_law_55 : cL_law.data.toList.drop 1541 = dktL_law_55 := dk_seg dksL_law_54 24 rfl rfl
theorem dksL_law_56 : cL_law.data.toList.drop 1565 = dktL_law_56 := dk_seg dksL_law_55 24 rfl rfl
theorem dksL_law_57 : cL_law.data.toList.drop 1589 = dktL_law_57 := dk_seg dksL_law_56 24 rfl rfl
theorem dksL_law_58 : cL_law.data.toList.drop 1613 = dktL_law_58 := dk_seg dksL_law_57 24 rfl rfl
theorem dksL_law_59 : cL_law.data.toList.drop 1637 = dktL_law_59 := dk_seg dksL_law_58 24 rfl rfl
theorem dksL_law_60 : cL_law.data.toList.drop 1661 = dktL_law_60 := dk_seg dksL_law_59 24 rfl rfl
theorem dksL_law_61 : cL_law.data.toList.drop 1685 = dktL_law_61 := dk_seg dksL_law_60 24 rfl rfl
theorem dksL_law_62 : cL_law.data.toList.drop 1709 = dktL_law_62 := dk_seg dksL_law_61 24 rfl rfl
theorem dksL_law_63 : cL_law.data.toList.drop 1733 = dktL_law_63 := dk_seg dksL_law_62 24 rfl rfl
theorem dksL_law_64 : cL_law.data.toList.drop 1757 = dktL_law_64 := dk_seg dksL_law_63 24 rfl rfl
theorem dksL_law_65 : cL_law.data.toList.drop 1781 = dktL_law_65 := dk_seg dksL_law_64 24 rfl rfl
theorem dksL_law_66 : cL_law.data.toList.drop 1805 = dktL_law_66 := dk_seg dksL_law_65 24 rfl rfl
theorem dksL_law_67 : cL_law.data.toList.drop 1829 = dktL_law_67 := dk_seg dksL_law_66 24 rfl rfl
theorem dksL_law_68 : cL_law.data.toList.drop 1853 = dktL_law_68 := dk_seg dksL_law_67 24 rfl rfl
theorem dksL_law_69 : cL_law.data.toList.drop 1877 = dktL_law_69 := dk_seg dksL_law_68 24 rfl rfl
theorem dksL_law_70 : cL_law.data.toList.drop 1901 = dktL_law_70 := dk_seg dksL_law_69 24 rfl rfl
theorem dksL_law_71 : cL_law.data.toList.drop 1923 = dktL_law_71 := dk_seg dksL_law_70 22 rfl rfl
theorem dksL_law_72 : cL_law.data.toList.drop 1947 = dktL_law_72 := dk_seg dksL_law_71 24 rfl rfl
theorem dksL_law_73 : cL_law.data.toList.drop 1971 = dktL_law_73 := dk_seg dksL_law_72 24 rfl rfl
theorem dksL_law_74 : cL_law.data.toList.drop 1995 = dktL_law_74 := dk_seg dksL_law_73 24 rfl rfl
theorem dksL_law_75 : cL_law.data.toList.drop 2018 = dktL_law_75 := dk_seg dksL_law_74 23 rfl rfl
theorem dksL_law_76 : cL_law.data.toList.drop 2042 = dktL_law_76 := dk_seg dksL_law_75 24 rfl rfl
theorem dksL_law_77 : cL_law.data.toList.drop 2066 = dktL_law_77 := dk_seg dksL_law_76 24 rfl rfl
theorem dksL_law_78 : cL_law.data.toList.drop 2090 = dktL_law_78 := dk_seg dksL_law_77 24 rfl rfl
theorem dksL_law_79 : cL_law.data.toList.drop 2114 = dktL_law_79 := dk_seg dksL_law_78 24 rfl rfl
theorem dksL_law_80 : cL_law.data.toList.drop 2138 = dktL_law_80 := dk_seg dksL_law_79 24 rfl rfl
theorem dksL_law_81 : cL_law.data.toList.drop 2162 = dktL_law_81 := dk_seg dksL_law_80 24 rfl rfl
theorem dksL_law_82 : cL_law.data.toList.drop 2186 = dktL_law_82 := dk_seg dksL_law_81 24 rfl rfl
theorem dksL_law_83 : cL_law.data.toList.drop 2210 = dktL_law_83 := dk_seg dksL_law_82 24 rfl rfl
theorem dksL_law_84 : cL_law.data.toList.drop 2234 = dktL_law_84 := dk_seg dksL_law_83 24 rfl rfl
theorem dksL_law_85 : cL_law.data.toList.drop 2258 = dktL_law_85 := dk_seg dksL_law_84 24 rfl rfl
theorem dksL_law_86 : cL_law.data.toList.drop 2282 = dktL_law_86 := dk_seg dksL_law_85 24 rfl rfl
theorem dksL_law_87 : cL_law.data.toList.drop 2306 = dktL_law_87 := dk_seg dksL_law_86 24 rfl rfl
theorem dksL_law_88 : cL_law.data.toList.drop 2329 = dktL_law_88 := dk_seg dksL_law_87 23 rfl rfl
theorem dksL_law_89 : cL_law.data.toList.drop 2352 = dktL_law_89 := dk_seg dksL_law_88 23 rfl rfl
theorem dksL_law_90 : cL_law.data.toList.drop 2375 = dktL_law_90 := dk_seg dksL_law_89 23 rfl rfl
theorem dksL_law_91 : cL_law.data.toList.drop 2399 = dktL_law_91 := dk_seg dksL_law_90 24 rfl rfl
theorem dksL_law_92 : cL_law.data.toList.drop 2421 = dktL_law_92 := dk_seg dksL_law_91 22 rfl rfl
theorem dksL_law_93 : cL_law.data.toList.drop 2445 = dktL_law_93 := dk_seg dksL_law_92 24 rfl rfl
theorem dL_law_0 : decode cL_law 0 = .ok (.new 7, 3) := dk_187 0 7 (dk_at dksL_law_0 0 rfl rfl)
theorem dL_law_3 : decode cL_law 3 = .ok (.dup, 1) := dk_89 (dk_at dksL_law_0 3 rfl rfl)
theorem dL_law_4 : decode cL_law 4 = .ok (.invokespecial 9, 3) := dk_183 0 9 (dk_at dksL_law_0 4 rfl rfl)
theorem dL_law_7 : decode cL_law 7 = .ok (.astore_n 1, 1) := dk_76 (dk_at dksL_law_0 7 rfl rfl)
theorem dL_law_8 : decode cL_law 8 = .ok (.new 10, 3) := dk_187 0 10 (dk_at dksL_law_0 8 rfl rfl)
theorem dL_law_11 : decode cL_law 11 = .ok (.dup, 1) := dk_89 (dk_at dksL_law_0 11 rfl rfl)
theorem dL_law_12 : decode cL_law 12 = .ok (.invokespecial 12, 3) := dk_183 0 12 (dk_at dksL_law_0 12 rfl rfl)
theorem dL_law_15 : decode cL_law 15 = .ok (.astore_n 2, 1) := dk_77 (dk_at dksL_law_0 15 rfl rfl)
theorem dL_law_16 : decode cL_law 16 = .ok (.iconst 0, 1) := dk_3 (dk_at dksL_law_0 16 rfl rfl)
theorem dL_law_17 : decode cL_law 17 = .ok (.istore_n 3, 1) := dk_62 (dk_at dksL_law_0 17 rfl rfl)
theorem dL_law_18 : decode cL_law 18 = .ok (.iload_n 3, 1) := dk_29 (dk_at dksL_law_0 18 rfl rfl)
theorem dL_law_19 : decode cL_law 19 = .ok (.aload_n 0, 1) := dk_42 (dk_at dksL_law_0 19 rfl rfl)
theorem dL_law_20 : decode cL_law 20 = .ok (.arraylength, 1) := dk_190 (dk_at dksL_law_0 20 rfl rfl)
theorem dL_law_21 : decode cL_law 21 = .ok (.bipush 6, 2) := dk_16 6 (dk_at dksL_law_0 21 rfl rfl)
theorem dL_law_23 : decode cL_law 23 = .ok (.isub, 1) := dk_100 (dk_at dksL_law_0 23 rfl rfl)
theorem dL_law_24 : decode cL_law 24 = .ok (.if_icmp .gt 2421, 3) := dk_163 9 117 (dk_at dksL_law_1 0 rfl rfl)
theorem dL_law_27 : decode cL_law 27 = .ok (.aload_n 0, 1) := dk_42 (dk_at dksL_law_1 3 rfl rfl)
theorem dL_law_28 : decode cL_law 28 = .ok (.iload_n 3, 1) := dk_29 (dk_at dksL_law_1 4 rfl rfl)
theorem dL_law_29 : decode cL_law 29 = .ok (.iaload, 1) := dk_46 (dk_at dksL_law_1 5 rfl rfl)
theorem dL_law_30 : decode cL_law 30 = .ok (.bipush 127, 2) := dk_16 127 (dk_at dksL_law_1 6 rfl rfl)
theorem dL_law_32 : decode cL_law 32 = .ok (.iand, 1) := dk_126 (dk_at dksL_law_1 8 rfl rfl)
theorem dL_law_33 : decode cL_law 33 = .ok (.tableswitch 2406 0 65 #[279, 292, 306, 320, 363, 436, 470, 533, 596, 619, 642, 665, 688, 721, 754, 777, 810, 843, 876, 909, 942, 985, 1008, 1031, 1064, 1097, 1130, 1153, 1186, 1209, 1232, 1275, 1318, 1361, 1394, 1417, 1470, 1493, 1552, 1595, 1628, 1661, 1694, 1717, 1750, 1783, 1806, 1829, 1862, 1895, 1928, 1951, 1974, 2007, 2050, 2083, 2116, 2139, 2172, 2215, 2258, 2301, 2324, 2347, 2380, 2393], 279) := by decide +kernel
theorem dL_law_312 : decode cL_law 312 = .ok (.aload_n 1, 1) := dk_43 (dk_at dksL_law_3 0 rfl rfl)
theorem dL_law_313 : decode cL_law 313 = .ok (.invokevirtual 13, 3) := dk_182 0 13 (dk_at dksL_law_3 1 rfl rfl)
theorem dL_law_316 : decode cL_law 316 = .ok (.aload_n 2, 1) := dk_44 (dk_at dksL_law_3 4 rfl rfl)
theorem dL_law_317 : decode cL_law 317 = .ok (.invokevirtual 17, 3) := dk_182 0 17 (dk_at dksL_law_3 5 rfl rfl)
theorem dL_law_320 : decode cL_law 320 = .ok (.if_icmp .eq 2119, 3) := dk_159 8 71 (dk_at dksL_law_3 8 rfl rfl)
theorem dL_law_323 : decode cL_law 323 = .ok (.iconst 0, 1) := dk_3 (dk_at dksL_law_3 11 rfl rfl)
theorem dL_law_324 : decode cL_law 324 = .ok (.ireturn, 1) := dk_172 (dk_at dksL_law_3 12 rfl rfl)
theorem dL_law_325 : decode cL_law 325 = .ok (.aload_n 1, 1) := dk_43 (dk_at dksL_law_3 13 rfl rfl)
theorem dL_law_326 : decode cL_law 326 = .ok (.invokevirtual 18, 3) := dk_182 0 18 (dk_at dksL_law_3 14 rfl rfl)
theorem dL_law_329 : decode cL_law 329 = .ok (.aload_n 2, 1) := dk_44 (dk_at dksL_law_3 17 rfl rfl)
theorem dL_law_330 : decode cL_law 330 = .ok (.invokevirtual 22, 3) := dk_182 0 22 (dk_at dksL_law_3 18 rfl rfl)
theorem dL_law_333 : decode cL_law 333 = .ok (.lcmp, 1) := dk_148 (dk_at dksL_law_3 21 rfl rfl)
theorem dL_law_334 : decode cL_law 334 = .ok (.ifCond .eq 2105, 3) := dk_153 8 57 (dk_at dksL_law_4 0 rfl rfl)
theorem dL_law_337 : decode cL_law 337 = .ok (.iconst 0, 1) := dk_3 (dk_at dksL_law_4 3 rfl rfl)
theorem dL_law_338 : decode cL_law 338 = .ok (.ireturn, 1) := dk_172 (dk_at dksL_law_4 4 rfl rfl)
theorem dL_law_339 : decode cL_law 339 = .ok (.aload_n 1, 1) := dk_43 (dk_at dksL_law_4 5 rfl rfl)
theorem dL_law_340 : decode cL_law 340 = .ok (.invokevirtual 23, 3) := dk_182 0 23 (dk_at dksL_law_4 6 rfl rfl)
theorem dL_law_343 : decode cL_law 343 = .ok (.aload_n 2, 1) := dk_44 (dk_at dksL_law_4 9 rfl rfl)
theorem dL_law_344 : decode cL_law 344 = .ok (.invokevirtual 26, 3) := dk_182 0 26 (dk_at dksL_law_4 10 rfl rfl)
theorem dL_law_347 : decode cL_law 347 = .ok (.lcmp, 1) := dk_148 (dk_at dksL_law_4 13 rfl rfl)
theorem dL_law_348 : decode cL_law 348 = .ok (.ifCond .eq 2091, 3) := dk_153 8 43 (dk_at dksL_law_4 14 rfl rfl)
theorem dL_law_351 : decode cL_law 351 = .ok (.iconst 0, 1) := dk_3 (dk_at dksL_law_4 17 rfl rfl)
theorem dL_law_352 : decode cL_law 352 = .ok (.ireturn, 1) := dk_172 (dk_at dksL_law_4 18 rfl rfl)
theorem dL_law_353 : decode cL_law 353 = .ok (.aload_n 1, 1) := dk_43 (dk_at dksL_law_4 19 rfl rfl)
theorem dL_law_354 : decode cL_law 354 = .ok (.aload_n 0, 1) := dk_42 (dk_at dksL_law_4 20 rfl rfl)
theorem dL_law_355 : decode cL_law 355 = .ok (.iload_n 3, 1) := dk_29 (dk_at dksL_law_4 21 rfl rfl)
theorem dL_law_356 : decode cL_law 356 = .ok (.iconst 1, 1) := dk_4 (dk_at dksL_law_4 22 rfl rfl)
theorem dL_law_357 : decode cL_law 357 = .ok (.iadd, 1) := dk_96 (dk_at dksL_law_4 23 rfl rfl)
theorem dL_law_358 : decode cL_law 358 = .ok (.iaload, 1) := dk_46 (dk_at dksL_law_5 0 rfl rfl)
theorem dL_law_359 : decode cL_law 359 = .ok (.aload_n 0, 1) := dk_42 (dk_at dksL_law_5 1 rfl rfl)
theorem dL_law_360 : decode cL_law 360 = .ok (.iload_n 3, 1) := dk_29 (dk_at dksL_law_5 2 rfl rfl)
theorem dL_law_361 : decode cL_law 361 = .ok (.iconst 2, 1) := dk_5 (dk_at dksL_law_5 3 rfl rfl)
theorem dL_law_362 : decode cL_law 362 = .ok (.iadd, 1) := dk_96 (dk_at dksL_law_5 4 rfl rfl)
theorem dL_law_363 : decode cL_law 363 = .ok (.iaload, 1) := dk_46 (dk_at dksL_law_5 5 rfl rfl)
theorem dL_law_364 : decode cL_law 364 = .ok (.aload_n 0, 1) := dk_42 (dk_at dksL_law_5 6 rfl rfl)
theorem dL_law_365 : decode cL_law 365 = .ok (.iload_n 3, 1) := dk_29 (dk_at dksL_law_5 7 rfl rfl)
theorem dL_law_366 : decode cL_law 366 = .ok (.iconst 3, 1) := dk_6 (dk_at dksL_law_5 8 rfl rfl)
theorem dL_law_367 : decode cL_law 367 = .ok (.iadd, 1) := dk_96 (dk_at dksL_law_5 9 rfl rfl)
theorem dL_law_368 : decode cL_law 368 = .ok (.iaload, 1) := dk_46 (dk_at dksL_law_5 10 rfl rfl)
theorem dL_law_369 : decode cL_law 369 = .ok (.invokevirtual 27, 3) := dk_182 0 27 (dk_at dksL_law_5 11 rfl rfl)
theorem dL_law_372 : decode cL_law 372 = .ok (.aload_n 2, 1) := dk_44 (dk_at dksL_law_5 14 rfl rfl)
theorem dL_law_373 : decode cL_law 373 = .ok (.aload_n 0, 1) := dk_42 (dk_at dksL_law_5 15 rfl rfl)
theorem dL_law_374 : decode cL_law 374 = .ok (.iload_n 3, 1) := dk_29 (dk_at dksL_law_5 16 rfl rfl)
theorem dL_law_375 : decode cL_law 375 = .ok (.iconst 1, 1) := dk_4 (dk_at dksL_law_5 17 rfl rfl)
theorem dL_law_376 : decode cL_law 376 = .ok (.iadd, 1) := dk_96 (dk_at dksL_law_5 18 rfl rfl)
theorem dL_law_377 : decode cL_law 377 = .ok (.iaload, 1) := dk_46 (dk_at dksL_law_5 19 rfl rfl)
theorem dL_law_378 : decode cL_law 378 = .ok (.aload_n 0, 1) := dk_42 (dk_at dksL_law_5 20 rfl rfl)
theorem dL_law_379 : decode cL_law 379 = .ok (.iload_n 3, 1) := dk_29 (dk_at dksL_law_5 21 rfl rfl)
theorem dL_law_380 : decode cL_law 380 = .ok (.iconst 2, 1) := dk_5 (dk_at dksL_law_5 22 rfl rfl)
theorem dL_law_381 : decode cL_law 381 = .ok (.iadd, 1) := dk_96 (dk_at dksL_law_5 23 rfl rfl)
theorem dL_law_382 : decode cL_law 382 = .ok (.iaload, 1) := dk_46 (dk_at dksL_law_6 0 rfl rfl)
theorem dL_law_383 : decode cL_law 383 = .ok (.aload_n 0, 1) := dk_42 (dk_at dksL_law_6 1 rfl rfl)
theorem dL_law_384 : decode cL_law 384 = .ok (.iload_n 3, 1) := dk_29 (dk_at dksL_law_6 2 rfl rfl)
theorem dL_law_385 : decode cL_law 385 = .ok (.iconst 3, 1) := dk_6 (dk_at dksL_law_6 3 rfl rfl)
theorem dL_law_386 : decode cL_law 386 = .ok (.iadd, 1) := dk_96 (dk_at dksL_law_6 4 rfl rfl)
theorem dL_law_387 : decode cL_law 387 = .ok (.iaload, 1) := dk_46 (dk_at dksL_law_6 5 rfl rfl)
theorem dL_law_388 : decode cL_law 388 = .ok (.invokevirtual 31, 3) := dk_182 0 31 (dk_at dksL_law_6 6 rfl rfl)
theorem dL_law_391 : decode cL_law 391 = .ok (.if_icmp .eq 2048, 3) := dk_159 8 0 (dk_at dksL_law_6 9 rfl rfl)
theorem dL_law_394 : decode cL_law 394 = .ok (.iconst 0, 1) := dk_3 (dk_at dksL_law_6 12 rfl rfl)
theorem dL_law_395 : decode cL_law 395 = .ok (.ireturn, 1) := dk_172 (dk_at dksL_law_6 13 rfl rfl)
theorem dL_law_396 : decode cL_law 396 = .ok (.aload_n 1, 1) := dk_43 (dk_at dksL_law_6 14 rfl rfl)
theorem dL_law_397 : decode cL_law 397 = .ok (.aload_n 0, 1) := dk_42 (dk_at dksL_law_6 15 rfl rfl)
theorem dL_law_398 : decode cL_law 398 = .ok (.iload_n 3, 1) := dk_29 (dk_at dksL_law_6 16 rfl rfl)
theorem dL_law_399 : decode cL_law 399 = .ok (.iconst 1, 1) := dk_4 (dk_at dksL_law_6 17 rfl rfl)
theorem dL_law_400 : decode cL_law 400 = .ok (.iadd, 1) := dk_96 (dk_at dksL_law_6 18 rfl rfl)
theorem dL_law_401 : decode cL_law 401 = .ok (.iaload, 1) := dk_46 (dk_at dksL_law_6 19 rfl rfl)
theorem dL_law_402 : decode cL_law 402 = .ok (.aload_n 0, 1) := dk_42 (dk_at dksL_law_6 20 rfl rfl)
theorem dL_law_403 : decode cL_law 403 = .ok (.iload_n 3, 1) := dk_29 (dk_at dksL_law_6 21 rfl rfl)
theorem dL_law_404 : decode cL_law 404 = .ok (.iconst 2, 1) := dk_5 (dk_at dksL_law_6 22 rfl rfl)
theorem dL_law_405 : decode cL_law 405 = .ok (.iadd, 1) := dk_96 (dk_at dksL_law_6 23 rfl rfl)
theorem dL_law_406 : decode cL_law 406 = .ok (.iaload, 1) := dk_46 (dk_at dksL_law_7 0 rfl rfl)
theorem dL_law_407 : decode cL_law 407 = .ok (.aload_n 0, 1) := dk_42 (dk_at dksL_law_7 1 rfl rfl)
theorem dL_law_408 : decode cL_law 408 = .ok (.iload_n 3, 1) := dk_29 (dk_at dksL_law_7 2 rfl rfl)
theorem dL_law_409 : decode cL_law 409 = .ok (.iconst 3, 1) := dk_6 (dk_at dksL_law_7 3 rfl rfl)
theorem dL_law_410 : decode cL_law 410 = .ok (.iadd, 1) := dk_96 (dk_at dksL_law_7 4 rfl rfl)
theorem dL_law_411 : decode cL_law 411 = .ok (.iaload, 1) := dk_46 (dk_at dksL_law_7 5 rfl rfl)
theorem dL_law_412 : decode cL_law 412 = .ok (.i2l, 1) := dk_133 (dk_at dksL_law_7 6 rfl rfl)
theorem dL_law_413 : decode cL_law 413 = .ok (.bipush 32, 2) := dk_16 32 (dk_at dksL_law_7 7 rfl rfl)
theorem dL_law_415 : decode cL_law 415 = .ok (.lshl, 1) := dk_121 (dk_at dksL_law_7 9 rfl rfl)
theorem dL_law_416 : decode cL_law 416 = .ok (.aload_n 0, 1) := dk_42 (dk_at dksL_law_7 10 rfl rfl)
theorem dL_law_417 : decode cL_law 417 = .ok (.iload_n 3, 1) := dk_29 (dk_at dksL_law_7 11 rfl rfl)
theorem dL_law_418 : decode cL_law 418 = .ok (.iconst 4, 1) := dk_7 (dk_at dksL_law_7 12 rfl rfl)
theorem dL_law_419 : decode cL_law 419 = .ok (.iadd, 1) := dk_96 (dk_at dksL_law_7 13 rfl rfl)
theorem dL_law_420 : decode cL_law 420 = .ok (.iaload, 1) := dk_46 (dk_at dksL_law_7 14 rfl rfl)
theorem dL_law_421 : decode cL_law 421 = .ok (.i2l, 1) := dk_133 (dk_at dksL_law_7 15 rfl rfl)
theorem dL_law_422 : decode cL_law 422 = .ok (.ldc2_w 32, 3) := dk_20 0 32 (dk_at dksL_law_7 16 rfl rfl)
theorem dL_law_425 : decode cL_law 425 = .ok (.land, 1) := dk_127 (dk_at dksL_law_7 19 rfl rfl)
theorem dL_law_426 : decode cL_law 426 = .ok (.lor, 1) := dk_129 (dk_at dksL_law_7 20 rfl rfl)
theorem dL_law_427 : decode cL_law 427 = .ok (.invokevirtual 34, 3) := dk_182 0 34 (dk_at dksL_law_7 21 rfl rfl)
theorem dL_law_430 : decode cL_law 430 = .ok (.aload_n 2, 1) := dk_44 (dk_at dksL_law_8 0 rfl rfl)
theorem dL_law_431 : decode cL_law 431 = .ok (.aload_n 0, 1) := dk_42 (dk_at dksL_law_8 1 rfl rfl)
theorem dL_law_432 : decode cL_law 432 = .ok (.iload_n 3, 1) := dk_29 (dk_at dksL_law_8 2 rfl rfl)
theorem dL_law_433 : decode cL_law 433 = .ok (.iconst 1, 1) := dk_4 (dk_at dksL_law_8 3 rfl rfl)
theorem dL_law_434 : decode cL_law 434 = .ok (.iadd, 1) := dk_96 (dk_at dksL_law_8 4 rfl rfl)
theorem dL_law_435 : decode cL_law 435 = .ok (.iaload, 1) := dk_46 (dk_at dksL_law_8 5 rfl rfl)
theorem dL_law_436 : decode cL_law 436 = .ok (.aload_n 0, 1) := dk_42 (dk_at dksL_law_8 6 rfl rfl)
theorem dL_law_437 : decode cL_law 437 = .ok (.iload_n 3, 1) := dk_29 (dk_at dksL_law_8 7 rfl rfl)
theorem dL_law_438 : decode cL_law 438 = .ok (.iconst 2, 1) := dk_5 (dk_at dksL_law_8 8 rfl rfl)
theorem dL_law_439 : decode cL_law 439 = .ok (.iadd, 1) := dk_96 (dk_at dksL_law_8 9 rfl rfl)
theorem dL_law_440 : decode cL_law 440 = .ok (.iaload, 1) := dk_46 (dk_at dksL_law_8 10 rfl rfl)
theorem dL_law_441 : decode cL_law 441 = .ok (.aload_n 0, 1) := dk_42 (dk_at dksL_law_8 11 rfl rfl)
theorem dL_law_442 : decode cL_law 442 = .ok (.iload_n 3, 1) := dk_29 (dk_at dksL_law_8 12 rfl rfl)
theorem dL_law_443 : decode cL_law 443 = .ok (.iconst 3, 1) := dk_6 (dk_at dksL_law_8 13 rfl rfl)
theorem dL_law_444 : decode cL_law 444 = .ok (.iadd, 1) := dk_96 (dk_at dksL_law_8 14 rfl rfl)
theorem dL_law_445 : decode cL_law 445 = .ok (.iaload, 1) := dk_46 (dk_at dksL_law_8 15 rfl rfl)
theorem dL_law_446 : decode cL_law 446 = .ok (.i2l, 1) := dk_133 (dk_at dksL_law_8 16 rfl rfl)
theorem dL_law_447 : decode cL_law 447 = .ok (.bipush 32, 2) := dk_16 32 (dk_at dksL_law_8 17 rfl rfl)
theorem dL_law_449 : decode cL_law 449 = .ok (.lshl, 1) := dk_121 (dk_at dksL_law_8 19 rfl rfl)
theorem dL_law_450 : decode cL_law 450 = .ok (.aload_n 0, 1) := dk_42 (dk_at dksL_law_8 20 rfl rfl)
theorem dL_law_451 : decode cL_law 451 = .ok (.iload_n 3, 1) := dk_29 (dk_at dksL_law_8 21 rfl rfl)
theorem dL_law_452 : decode cL_law 452 = .ok (.iconst 4, 1) := dk_7 (dk_at dksL_law_8 22 rfl rfl)
theorem dL_law_453 : decode cL_law 453 = .ok (.iadd, 1) := dk_96 (dk_at dksL_law_8 23 rfl rfl)
theorem dL_law_454 : decode cL_law 454 = .ok (.iaload, 1) := dk_46 (dk_at dksL_law_9 0 rfl rfl)
theorem dL_law_455 : decode cL_law 455 = .ok (.i2l, 1) := dk_133 (dk_at dksL_law_9 1 rfl rfl)
theorem dL_law_456 : decode cL_law 456 = .ok (.ldc2_w 32, 3) := dk_20 0 32 (dk_at dksL_law_9 2 rfl rfl)
theorem dL_law_459 : decode cL_law 459 = .ok (.land, 1) := dk_127 (dk_at dksL_law_9 5 rfl rfl)
theorem dL_law_460 : decode cL_law 460 = .ok (.lor, 1) := dk_129 (dk_at dksL_law_9 6 rfl rfl)
theorem dL_law_461 : decode cL_law 461 = .ok (.invokevirtual 38, 3) := dk_182 0 38 (dk_at dksL_law_9 7 rfl rfl)
theorem dL_law_464 : decode cL_law 464 = .ok (.if_icmp .eq 1975, 3) := dk_159 7 183 (dk_at dksL_law_9 10 rfl rfl)
theorem dL_law_467 : decode cL_law 467 = .ok (.iconst 0, 1) := dk_3 (dk_at dksL_law_9 13 rfl rfl)
theorem dL_law_468 : decode cL_law 468 = .ok (.ireturn, 1) := dk_172 (dk_at dksL_law_9 14 rfl rfl)
theorem dL_law_469 : decode cL_law 469 = .ok (.aload_n 1, 1) := dk_43 (dk_at dksL_law_9 15 rfl rfl)
theorem dL_law_470 : decode cL_law 470 = .ok (.aload_n 0, 1) := dk_42 (dk_at dksL_law_9 16 rfl rfl)
theorem dL_law_471 : decode cL_law 471 = .ok (.iload_n 3, 1) := dk_29 (dk_at dksL_law_9 17 rfl rfl)
theorem dL_law_472 : decode cL_law 472 = .ok (.iconst 1, 1) := dk_4 (dk_at dksL_law_9 18 rfl rfl)
theorem dL_law_473 : decode cL_law 473 = .ok (.iadd, 1) := dk_96 (dk_at dksL_law_9 19 rfl rfl)
theorem dL_law_474 : decode cL_law 474 = .ok (.iaload, 1) := dk_46 (dk_at dksL_law_9 20 rfl rfl)
theorem dL_law_475 : decode cL_law 475 = .ok (.aload_n 0, 1) := dk_42 (dk_at dksL_law_9 21 rfl rfl)
theorem dL_law_476 : decode cL_law 476 = .ok (.iload_n 3, 1) := dk_29 (dk_at dksL_law_9 22 rfl rfl)
theorem dL_law_477 : decode cL_law 477 = .ok (.iconst 2, 1) := dk_5 (dk_at dksL_law_9 23 rfl rfl)
theorem dL_law_478 : decode cL_law 478 = .ok (.iadd, 1) := dk_96 (dk_at dksL_law_10 0 rfl rfl)
theorem dL_law_479 : decode cL_law 479 = .ok (.iaload, 1) := dk_46 (dk_at dksL_law_10 1 rfl rfl)
theorem dL_law_480 : decode cL_law 480 = .ok (.invokevirtual 39, 3) := dk_182 0 39 (dk_at dksL_law_10 2 rfl rfl)
theorem dL_law_483 : decode cL_law 483 = .ok (.aload_n 2, 1) := dk_44 (dk_at dksL_law_10 5 rfl rfl)
theorem dL_law_484 : decode cL_law 484 = .ok (.aload_n 0, 1) := dk_42 (dk_at dksL_law_10 6 rfl rfl)
theorem dL_law_485 : decode cL_law 485 = .ok (.iload_n 3, 1) := dk_29 (dk_at dksL_law_10 7 rfl rfl)
theorem dL_law_486 : decode cL_law 486 = .ok (.iconst 1, 1) := dk_4 (dk_at dksL_law_10 8 rfl rfl)
theorem dL_law_487 : decode cL_law 487 = .ok (.iadd, 1) := dk_96 (dk_at dksL_law_10 9 rfl rfl)
theorem dL_law_488 : decode cL_law 488 = .ok (.iaload, 1) := dk_46 (dk_at dksL_law_10 10 rfl rfl)
theorem dL_law_489 : decode cL_law 489 = .ok (.aload_n 0, 1) := dk_42 (dk_at dksL_law_10 11 rfl rfl)
theorem dL_law_490 : decode cL_law 490 = .ok (.iload_n 3, 1) := dk_29 (dk_at dksL_law_10 12 rfl rfl)
theorem dL_law_491 : decode cL_law 491 = .ok (.iconst 2, 1) := dk_5 (dk_at dksL_law_10 13 rfl rfl)
theorem dL_law_492 : decode cL_law 492 = .ok (.iadd, 1) := dk_96 (dk_at dksL_law_10 14 rfl rfl)
theorem dL_law_493 : decode cL_law 493 = .ok (.iaload, 1) := dk_46 (dk_at dksL_law_10 15 rfl rfl)
theorem dL_law_494 : decode cL_law 494 = .ok (.invokevirtual 43, 3) := dk_182 0 43 (dk_at dksL_law_10 16 rfl rfl)
theorem dL_law_497 : decode cL_law 497 = .ok (.lcmp, 1) := dk_148 (dk_at dksL_law_10 19 rfl rfl)
theorem dL_law_498 : decode cL_law 498 = .ok (.ifCond .eq 1941, 3) := dk_153 7 149 (dk_at dksL_law_10 20 rfl rfl)
theorem dL_law_501 : decode cL_law 501 = .ok (.iconst 0, 1) := dk_3 (dk_at dksL_law_10 23 rfl rfl)
theorem dL_law_502 : decode cL_law 502 = .ok (.ireturn, 1) := dk_172 (dk_at dksL_law_11 0 rfl rfl)
theorem dL_law_503 : decode cL_law 503 = .ok (.aload_n 1, 1) := dk_43 (dk_at dksL_law_11 1 rfl rfl)
theorem dL_law_504 : decode cL_law 504 = .ok (.aload_n 0, 1) := dk_42 (dk_at dksL_law_11 2 rfl rfl)
theorem dL_law_505 : decode cL_law 505 = .ok (.iload_n 3, 1) := dk_29 (dk_at dksL_law_11 3 rfl rfl)
theorem dL_law_506 : decode cL_law 506 = .ok (.iconst 1, 1) := dk_4 (dk_at dksL_law_11 4 rfl rfl)
theorem dL_law_507 : decode cL_law 507 = .ok (.iadd, 1) := dk_96 (dk_at dksL_law_11 5 rfl rfl)
theorem dL_law_508 : decode cL_law 508 = .ok (.iaload, 1) := dk_46 (dk_at dksL_law_11 6 rfl rfl)
theorem dL_law_509 : decode cL_law 509 = .ok (.aload_n 0, 1) := dk_42 (dk_at dksL_law_11 7 rfl rfl)
theorem dL_law_510 : decode cL_law 510 = .ok (.iload_n 3, 1) := dk_29 (dk_at dksL_law_11 8 rfl rfl)
theorem dL_law_511 : decode cL_law 511 = .ok (.iconst 2, 1) := dk_5 (dk_at dksL_law_11 9 rfl rfl)
theorem dL_law_512 : decode cL_law 512 = .ok (.iadd, 1) := dk_96 (dk_at dksL_law_11 10 rfl rfl)
theorem dL_law_513 : decode cL_law 513 = .ok (.iaload, 1) := dk_46 (dk_at dksL_law_11 11 rfl rfl)
theorem dL_law_514 : decode cL_law 514 = .ok (.aload_n 0, 1) := dk_42 (dk_at dksL_law_11 12 rfl rfl)
theorem dL_law_515 : decode cL_law 515 = .ok (.iload_n 3, 1) := dk_29 (dk_at dksL_law_11 13 rfl rfl)
theorem dL_law_516 : decode cL_law 516 = .ok (.iconst 3, 1) := dk_6 (dk_at dksL_law_11 14 rfl rfl)
theorem dL_law_517 : decode cL_law 517 = .ok (.iadd, 1) := dk_96 (dk_at dksL_law_11 15 rfl rfl)
theorem dL_law_518 : decode cL_law 518 = .ok (.iaload, 1) := dk_46 (dk_at dksL_law_11 16 rfl rfl)
theorem dL_law_519 : decode cL_law 519 = .ok (.aload_n 0, 1) := dk_42 (dk_at dksL_law_11 17 rfl rfl)
theorem dL_law_520 : decode cL_law 520 = .ok (.iload_n 3, 1) := dk_29 (dk_at dksL_law_11 18 rfl rfl)
theorem dL_law_521 : decode cL_law 521 = .ok (.iconst 4, 1) := dk_7 (dk_at dksL_law_11 19 rfl rfl)
theorem dL_law_522 : decode cL_law 522 = .ok (.iadd, 1) := dk_96 (dk_at dksL_law_11 20 rfl rfl)
theorem dL_law_523 : decode cL_law 523 = .ok (.iaload, 1) := dk_46 (dk_at dksL_law_11 21 rfl rfl)
theorem dL_law_524 : decode cL_law 524 = .ok (.aload_n 0, 1) := dk_42 (dk_at dksL_law_11 22 rfl rfl)
theorem dL_law_525 : decode cL_law 525 = .ok (.iload_n 3, 1) := dk_29 (dk_at dksL_law_11 23 rfl rfl)
theorem dL_law_526 : decode cL_law 526 = .ok (.iconst 5, 1) := dk_8 (dk_at dksL_law_12 0 rfl rfl)
theorem dL_law_527 : decode cL_law 527 = .ok (.iadd, 1) := dk_96 (dk_at dksL_law_12 1 rfl rfl)
theorem dL_law_528 : decode cL_law 528 = .ok (.iaload, 1) := dk_46 (dk_at dksL_law_12 2 rfl rfl)
theorem dL_law_529 : decode cL_law 529 = .ok (.invokevirtual 44, 3) := dk_182 0 44 (dk_at dksL_law_12 3 rfl rfl)
theorem dL_law_532 : decode cL_law 532 = .ok (.aload_n 2, 1) := dk_44 (dk_at dksL_law_12 6 rfl rfl)
theorem dL_law_533 : decode cL_law 533 = .ok (.aload_n 0, 1) := dk_42 (dk_at dksL_law_12 7 rfl rfl)
theorem dL_law_534 : decode cL_law 534 = .ok (.iload_n 3, 1) := dk_29 (dk_at dksL_law_12 8 rfl rfl)
theorem dL_law_535 : decode cL_law 535 = .ok (.iconst 1, 1) := dk_4 (dk_at dksL_law_12 9 rfl rfl)
theorem dL_law_536 : decode cL_law 536 = .ok (.iadd, 1) := dk_96 (dk_at dksL_law_12 10 rfl rfl)
theorem dL_law_537 : decode cL_law 537 = .ok (.iaload, 1) := dk_46 (dk_at dksL_law_12 11 rfl rfl)
theorem dL_law_538 : decode cL_law 538 = .ok (.aload_n 0, 1) := dk_42 (dk_at dksL_law_12 12 rfl rfl)
theorem dL_law_539 : decode cL_law 539 = .ok (.iload_n 3, 1) := dk_29 (dk_at dksL_law_12 13 rfl rfl)
theorem dL_law_540 : decode cL_law 540 = .ok (.iconst 2, 1) := dk_5 (dk_at dksL_law_12 14 rfl rfl)
theorem dL_law_541 : decode cL_law 541 = .ok (.iadd, 1) := dk_96 (dk_at dksL_law_12 15 rfl rfl)
theorem dL_law_542 : decode cL_law 542 = .ok (.iaload, 1) := dk_46 (dk_at dksL_law_12 16 rfl rfl)
theorem dL_law_543 : decode cL_law 543 = .ok (.aload_n 0, 1) := dk_42 (dk_at dksL_law_12 17 rfl rfl)
theorem dL_law_544 : decode cL_law 544 = .ok (.iload_n 3, 1) := dk_29 (dk_at dksL_law_12 18 rfl rfl)
theorem dL_law_545 : decode cL_law 545 = .ok (.iconst 3, 1) := dk_6 (dk_at dksL_law_12 19 rfl rfl)
theorem dL_law_546 : decode cL_law 546 = .ok (.iadd, 1) := dk_96 (dk_at dksL_law_12 20 rfl rfl)
theorem dL_law_547 : decode cL_law 547 = .ok (.iaload, 1) := dk_46 (dk_at dksL_law_12 21 rfl rfl)
theorem dL_law_548 : decode cL_law 548 = .ok (.aload_n 0, 1) := dk_42 (dk_at dksL_law_12 22 rfl rfl)
theorem dL_law_549 : decode cL_law 549 = .ok (.iload_n 3, 1) := dk_29 (dk_at dksL_law_12 23 rfl rfl)
theorem dL_law_550 : decode cL_law 550 = .ok (.iconst 4, 1) := dk_7 (dk_at dksL_law_13 0 rfl rfl)
theorem dL_law_551 : decode cL_law 551 = .ok (.iadd, 1) := dk_96 (dk_at dksL_law_13 1 rfl rfl)
theorem dL_law_552 : decode cL_law 552 = .ok (.iaload, 1) := dk_46 (dk_at dksL_law_13 2 rfl rfl)
theorem dL_law_553 : decode cL_law 553 = .ok (.aload_n 0, 1) := dk_42 (dk_at dksL_law_13 3 rfl rfl)
theorem dL_law_554 : decode cL_law 554 = .ok (.iload_n 3, 1) := dk_29 (dk_at dksL_law_13 4 rfl rfl)
theorem dL_law_555 : decode cL_law 555 = .ok (.iconst 5, 1) := dk_8 (dk_at dksL_law_13 5 rfl rfl)
theorem dL_law_556 : decode cL_law 556 = .ok (.iadd, 1) := dk_96 (dk_at dksL_law_13 6 rfl rfl)
theorem dL_law_557 : decode cL_law 557 = .ok (.iaload, 1) := dk_46 (dk_at dksL_law_13 7 rfl rfl)
theorem dL_law_558 : decode cL_law 558 = .ok (.invokevirtual 48, 3) := dk_182 0 48 (dk_at dksL_law_13 8 rfl rfl)
theorem dL_law_561 : decode cL_law 561 = .ok (.if_icmp .eq 1878, 3) := dk_159 7 86 (dk_at dksL_law_13 11 rfl rfl)
theorem dL_law_564 : decode cL_law 564 = .ok (.iconst 0, 1) := dk_3 (dk_at dksL_law_13 14 rfl rfl)
theorem dL_law_565 : decode cL_law 565 = .ok (.ireturn, 1) := dk_172 (dk_at dksL_law_13 15 rfl rfl)
theorem dL_law_566 : decode cL_law 566 = .ok (.aload_n 1, 1) := dk_43 (dk_at dksL_law_13 16 rfl rfl)
theorem dL_law_567 : decode cL_law 567 = .ok (.aload_n 0, 1) := dk_42 (dk_at dksL_law_13 17 rfl rfl)
theorem dL_law_568 : decode cL_law 568 = .ok (.iload_n 3, 1) := dk_29 (dk_at dksL_law_13 18 rfl rfl)
theorem dL_law_569 : decode cL_law 569 = .ok (.iconst 1, 1) := dk_4 (dk_at dksL_law_13 19 rfl rfl)
theorem dL_law_570 : decode cL_law 570 = .ok (.iadd, 1) := dk_96 (dk_at dksL_law_13 20 rfl rfl)
theorem dL_law_571 : decode cL_law 571 = .ok (.iaload, 1) := dk_46 (dk_at dksL_law_13 21 rfl rfl)
theorem dL_law_572 : decode cL_law 572 = .ok (.aload_n 0, 1) := dk_42 (dk_at dksL_law_13 22 rfl rfl)
theorem dL_law_573 : decode cL_law 573 = .ok (.iload_n 3, 1) := dk_29 (dk_at dksL_law_13 23 rfl rfl)
theorem dL_law_574 : decode cL_law 574 = .ok (.iconst 2, 1) := dk_5 (dk_at dksL_law_14 0 rfl rfl)
theorem dL_law_575 : decode cL_law 575 = .ok (.iadd, 1) := dk_96 (dk_at dksL_law_14 1 rfl rfl)
theorem dL_law_576 : decode cL_law 576 = .ok (.iaload, 1) := dk_46 (dk_at dksL_law_14 2 rfl rfl)
theorem dL_law_577 : decode cL_law 577 = .ok (.aload_n 0, 1) := dk_42 (dk_at dksL_law_14 3 rfl rfl)
theorem dL_law_578 : decode cL_law 578 = .ok (.iload_n 3, 1) := dk_29 (dk_at dksL_law_14 4 rfl rfl)
theorem dL_law_579 : decode cL_law 579 = .ok (.iconst 3, 1) := dk_6 (dk_at dksL_law_14 5 rfl rfl)
theorem dL_law_580 : decode cL_law 580 = .ok (.iadd, 1) := dk_96 (dk_at dksL_law_14 6 rfl rfl)
theorem dL_law_581 : decode cL_law 581 = .ok (.iaload, 1) := dk_46 (dk_at dksL_law_14 7 rfl rfl)
theorem dL_law_582 : decode cL_law 582 = .ok (.aload_n 0, 1) := dk_42 (dk_at dksL_law_14 8 rfl rfl)
theorem dL_law_583 : decode cL_law 583 = .ok (.iload_n 3, 1) := dk_29 (dk_at dksL_law_14 9 rfl rfl)
theorem dL_law_584 : decode cL_law 584 = .ok (.iconst 4, 1) := dk_7 (dk_at dksL_law_14 10 rfl rfl)
theorem dL_law_585 : decode cL_law 585 = .ok (.iadd, 1) := dk_96 (dk_at dksL_law_14 11 rfl rfl)
theorem dL_law_586 : decode cL_law 586 = .ok (.iaload, 1) := dk_46 (dk_at dksL_law_14 12 rfl rfl)
theorem dL_law_587 : decode cL_law 587 = .ok (.aload_n 0, 1) := dk_42 (dk_at dksL_law_14 13 rfl rfl)
theorem dL_law_588 : decode cL_law 588 = .ok (.iload_n 3, 1) := dk_29 (dk_at dksL_law_14 14 rfl rfl)
theorem dL_law_589 : decode cL_law 589 = .ok (.iconst 5, 1) := dk_8 (dk_at dksL_law_14 15 rfl rfl)
theorem dL_law_590 : decode cL_law 590 = .ok (.iadd, 1) := dk_96 (dk_at dksL_law_14 16 rfl rfl)
theorem dL_law_591 : decode cL_law 591 = .ok (.iaload, 1) := dk_46 (dk_at dksL_law_14 17 rfl rfl)
theorem dL_law_592 : decode cL_law 592 = .ok (.invokevirtual 49, 3) := dk_182 0 49 (dk_at dksL_law_14 18 rfl rfl)
theorem dL_law_595 : decode cL_law 595 = .ok (.aload_n 2, 1) := dk_44 (dk_at dksL_law_14 21 rfl rfl)
theorem dL_law_596 : decode cL_law 596 = .ok (.aload_n 0, 1) := dk_42 (dk_at dksL_law_14 22 rfl rfl)
theorem dL_law_597 : decode cL_law 597 = .ok (.iload_n 3, 1) := dk_29 (dk_at dksL_law_14 23 rfl rfl)
theorem dL_law_598 : decode cL_law 598 = .ok (.iconst 1, 1) := dk_4 (dk_at dksL_law_15 0 rfl rfl)
theorem dL_law_599 : decode cL_law 599 = .ok (.iadd, 1) := dk_96 (dk_at dksL_law_15 1 rfl rfl)
theorem dL_law_600 : decode cL_law 600 = .ok (.iaload, 1) := dk_46 (dk_at dksL_law_15 2 rfl rfl)
theorem dL_law_601 : decode cL_law 601 = .ok (.aload_n 0, 1) := dk_42 (dk_at dksL_law_15 3 rfl rfl)
theorem dL_law_602 : decode cL_law 602 = .ok (.iload_n 3, 1) := dk_29 (dk_at dksL_law_15 4 rfl rfl)
theorem dL_law_603 : decode cL_law 603 = .ok (.iconst 2, 1) := dk_5 (dk_at dksL_law_15 5 rfl rfl)
theorem dL_law_604 : decode cL_law 604 = .ok (.iadd, 1) := dk_96 (dk_at dksL_law_15 6 rfl rfl)
theorem dL_law_605 : decode cL_law 605 = .ok (.iaload, 1) := dk_46 (dk_at dksL_law_15 7 rfl rfl)
theorem dL_law_606 : decode cL_law 606 = .ok (.aload_n 0, 1) := dk_42 (dk_at dksL_law_15 8 rfl rfl)
theorem dL_law_607 : decode cL_law 607 = .ok (.iload_n 3, 1) := dk_29 (dk_at dksL_law_15 9 rfl rfl)
theorem dL_law_608 : decode cL_law 608 = .ok (.iconst 3, 1) := dk_6 (dk_at dksL_law_15 10 rfl rfl)
theorem dL_law_609 : decode cL_law 609 = .ok (.iadd, 1) := dk_96 (dk_at dksL_law_15 11 rfl rfl)
theorem dL_law_610 : decode cL_law 610 = .ok (.iaload, 1) := dk_46 (dk_at dksL_law_15 12 rfl rfl)
theorem dL_law_611 : decode cL_law 611 = .ok (.aload_n 0, 1) := dk_42 (dk_at dksL_law_15 13 rfl rfl)
theorem dL_law_612 : decode cL_law 612 = .ok (.iload_n 3, 1) := dk_29 (dk_at dksL_law_15 14 rfl rfl)
theorem dL_law_613 : decode cL_law 613 = .ok (.iconst 4, 1) := dk_7 (dk_at dksL_law_15 15 rfl rfl)
theorem dL_law_614 : decode cL_law 614 = .ok (.iadd, 1) := dk_96 (dk_at dksL_law_15 16 rfl rfl)
theorem dL_law_615 : decode cL_law 615 = .ok (.iaload, 1) := dk_46 (dk_at dksL_law_15 17 rfl rfl)
theorem dL_law_616 : decode cL_law 616 = .ok (.aload_n 0, 1) := dk_42 (dk_at dksL_law_15 18 rfl rfl)
theorem dL_law_617 : decode cL_law 617 = .ok (.iload_n 3, 1) := dk_29 (dk_at dksL_law_15 19 rfl rfl)
theorem dL_law_618 : decode cL_law 618 = .ok (.iconst 5, 1) := dk_8 (dk_at dksL_law_15 20 rfl rfl)
theorem dL_law_619 : decode cL_law 619 = .ok (.iadd, 1) := dk_96 (dk_at dksL_law_15 21 rfl rfl)
theorem dL_law_620 : decode cL_law 620 = .ok (.iaload, 1) := dk_46 (dk_at dksL_law_15 22 rfl rfl)
theorem dL_law_621 : decode cL_law 621 = .ok (.invokevirtual 53, 3) := dk_182 0 53 (dk_at dksL_law_16 0 rfl rfl)
theorem dL_law_624 : decode cL_law 624 = .ok (.if_icmp .eq 1815, 3) := dk_159 7 23 (dk_at dksL_law_16 3 rfl rfl)
theorem dL_law_627 : decode cL_law 627 = .ok (.iconst 0, 1) := dk_3 (dk_at dksL_law_16 6 rfl rfl)
theorem dL_law_628 : decode cL_law 628 = .ok (.ireturn, 1) := dk_172 (dk_at dksL_law_16 7 rfl rfl)
theorem dL_law_629 : decode cL_law 629 = .ok (.aload_n 1, 1) := dk_43 (dk_at dksL_law_16 8 rfl rfl)
theorem dL_law_630 : decode cL_law 630 = .ok (.aload_n 0, 1) := dk_42 (dk_at dksL_law_16 9 rfl rfl)
theorem dL_law_631 : decode cL_law 631 = .ok (.iload_n 3, 1) := dk_29 (dk_at dksL_law_16 10 rfl rfl)
theorem dL_law_632 : decode cL_law 632 = .ok (.iconst 1, 1) := dk_4 (dk_at dksL_law_16 11 rfl rfl)
theorem dL_law_633 : decode cL_law 633 = .ok (.iadd, 1) := dk_96 (dk_at dksL_law_16 12 rfl rfl)
theorem dL_law_634 : decode cL_law 634 = .ok (.iaload, 1) := dk_46 (dk_at dksL_law_16 13 rfl rfl)
theorem dL_law_635 : decode cL_law 635 = .ok (.invokevirtual 54, 3) := dk_182 0 54 (dk_at dksL_law_16 14 rfl rfl)
theorem dL_law_638 : decode cL_law 638 = .ok (.aload_n 2, 1) := dk_44 (dk_at dksL_law_16 17 rfl rfl)
theorem dL_law_639 : decode cL_law 639 = .ok (.aload_n 0, 1) := dk_42 (dk_at dksL_law_16 18 rfl rfl)
theorem dL_law_640 : decode cL_law 640 = .ok (.iload_n 3, 1) := dk_29 (dk_at dksL_law_16 19 rfl rfl)
theorem dL_law_641 : decode cL_law 641 = .ok (.iconst 1, 1) := dk_4 (dk_at dksL_law_16 20 rfl rfl)
theorem dL_law_642 : decode cL_law 642 = .ok (.iadd, 1) := dk_96 (dk_at dksL_law_16 21 rfl rfl)
theorem dL_law_643 : decode cL_law 643 = .ok (.iaload, 1) := dk_46 (dk_at dksL_law_16 22 rfl rfl)
theorem dL_law_644 : decode cL_law 644 = .ok (.invokevirtual 58, 3) := dk_182 0 58 (dk_at dksL_law_17 0 rfl rfl)
theorem dL_law_647 : decode cL_law 647 = .ok (.if_icmp .eq 1792, 3) := dk_159 7 0 (dk_at dksL_law_17 3 rfl rfl)
theorem dL_law_650 : decode cL_law 650 = .ok (.iconst 0, 1) := dk_3 (dk_at dksL_law_17 6 rfl rfl)
theorem dL_law_651 : decode cL_law 651 = .ok (.ireturn, 1) := dk_172 (dk_at dksL_law_17 7 rfl rfl)
theorem dL_law_652 : decode cL_law 652 = .ok (.aload_n 1, 1) := dk_43 (dk_at dksL_law_17 8 rfl rfl)
theorem dL_law_653 : decode cL_law 653 = .ok (.aload_n 0, 1) := dk_42 (dk_at dksL_law_17 9 rfl rfl)
theorem dL_law_654 : decode cL_law 654 = .ok (.iload_n 3, 1) := dk_29 (dk_at dksL_law_17 10 rfl rfl)
theorem dL_law_655 : decode cL_law 655 = .ok (.iconst 1, 1) := dk_4 (dk_at dksL_law_17 11 rfl rfl)
theorem dL_law_656 : decode cL_law 656 = .ok (.iadd, 1) := dk_96 (dk_at dksL_law_17 12 rfl rfl)
theorem dL_law_657 : decode cL_law 657 = .ok (.iaload, 1) := dk_46 (dk_at dksL_law_17 13 rfl rfl)
theorem dL_law_658 : decode cL_law 658 = .ok (.invokevirtual 59, 3) := dk_182 0 59 (dk_at dksL_law_17 14 rfl rfl)
theorem dL_law_661 : decode cL_law 661 = .ok (.aload_n 2, 1) := dk_44 (dk_at dksL_law_17 17 rfl rfl)
theorem dL_law_662 : decode cL_law 662 = .ok (.aload_n 0, 1) := dk_42 (dk_at dksL_law_17 18 rfl rfl)
theorem dL_law_663 : decode cL_law 663 = .ok (.iload_n 3, 1) := dk_29 (dk_at dksL_law_17 19 rfl rfl)
theorem dL_law_664 : decode cL_law 664 = .ok (.iconst 1, 1) := dk_4 (dk_at dksL_law_17 20 rfl rfl)
theorem dL_law_665 : decode cL_law 665 = .ok (.iadd, 1) := dk_96 (dk_at dksL_law_17 21 rfl rfl)
theorem dL_law_666 : decode cL_law 666 = .ok (.iaload, 1) := dk_46 (dk_at dksL_law_17 22 rfl rfl)
theorem dL_law_667 : decode cL_law 667 = .ok (.invokevirtual 62, 3) := dk_182 0 62 (dk_at dksL_law_18 0 rfl rfl)
theorem dL_law_670 : decode cL_law 670 = .ok (.if_icmp .eq 1769, 3) := dk_159 6 233 (dk_at dksL_law_18 3 rfl rfl)
theorem dL_law_673 : decode cL_law 673 = .ok (.iconst 0, 1) := dk_3 (dk_at dksL_law_18 6 rfl rfl)
theorem dL_law_674 : decode cL_law 674 = .ok (.ireturn, 1) := dk_172 (dk_at dksL_law_18 7 rfl rfl)
theorem dL_law_675 : decode cL_law 675 = .ok (.aload_n 1, 1) := dk_43 (dk_at dksL_law_18 8 rfl rfl)
theorem dL_law_676 : decode cL_law 676 = .ok (.aload_n 0, 1) := dk_42 (dk_at dksL_law_18 9 rfl rfl)
theorem dL_law_677 : decode cL_law 677 = .ok (.iload_n 3, 1) := dk_29 (dk_at dksL_law_18 10 rfl rfl)
theorem dL_law_678 : decode cL_law 678 = .ok (.iconst 1, 1) := dk_4 (dk_at dksL_law_18 11 rfl rfl)
theorem dL_law_679 : decode cL_law 679 = .ok (.iadd, 1) := dk_96 (dk_at dksL_law_18 12 rfl rfl)
theorem dL_law_680 : decode cL_law 680 = .ok (.iaload, 1) := dk_46 (dk_at dksL_law_18 13 rfl rfl)
theorem dL_law_681 : decode cL_law 681 = .ok (.invokevirtual 63, 3) := dk_182 0 63 (dk_at dksL_law_18 14 rfl rfl)
theorem dL_law_684 : decode cL_law 684 = .ok (.aload_n 2, 1) := dk_44 (dk_at dksL_law_18 17 rfl rfl)
theorem dL_law_685 : decode cL_law 685 = .ok (.aload_n 0, 1) := dk_42 (dk_at dksL_law_18 18 rfl rfl)
theorem dL_law_686 : decode cL_law 686 = .ok (.iload_n 3, 1) := dk_29 (dk_at dksL_law_18 19 rfl rfl)
theorem dL_law_687 : decode cL_law 687 = .ok (.iconst 1, 1) := dk_4 (dk_at dksL_law_18 20 rfl rfl)
theorem dL_law_688 : decode cL_law 688 = .ok (.iadd, 1) := dk_96 (dk_at dksL_law_18 21 rfl rfl)
theorem dL_law_689 : decode cL_law 689 = .ok (.iaload, 1) := dk_46 (dk_at dksL_law_18 22 rfl rfl)
theorem dL_law_690 : decode cL_law 690 = .ok (.invokevirtual 66, 3) := dk_182 0 66 (dk_at dksL_law_19 0 rfl rfl)
theorem dL_law_693 : decode cL_law 693 = .ok (.if_icmp .eq 1746, 3) := dk_159 6 210 (dk_at dksL_law_19 3 rfl rfl)
theorem dL_law_696 : decode cL_law 696 = .ok (.iconst 0, 1) := dk_3 (dk_at dksL_law_19 6 rfl rfl)
theorem dL_law_697 : decode cL_law 697 = .ok (.ireturn, 1) := dk_172 (dk_at dksL_law_19 7 rfl rfl)
theorem dL_law_698 : decode cL_law 698 = .ok (.aload_n 1, 1) := dk_43 (dk_at dksL_law_19 8 rfl rfl)
theorem dL_law_699 : decode cL_law 699 = .ok (.aload_n 0, 1) := dk_42 (dk_at dksL_law_19 9 rfl rfl)
theorem dL_law_700 : decode cL_law 700 = .ok (.iload_n 3, 1) := dk_29 (dk_at dksL_law_19 10 rfl rfl)
theorem dL_law_701 : decode cL_law 701 = .ok (.iconst 1, 1) := dk_4 (dk_at dksL_law_19 11 rfl rfl)
theorem dL_law_702 : decode cL_law 702 = .ok (.iadd, 1) := dk_96 (dk_at dksL_law_19 12 rfl rfl)
theorem dL_law_703 : decode cL_law 703 = .ok (.iaload, 1) := dk_46 (dk_at dksL_law_19 13 rfl rfl)
theorem dL_law_704 : decode cL_law 704 = .ok (.invokevirtual 67, 3) := dk_182 0 67 (dk_at dksL_law_19 14 rfl rfl)
theorem dL_law_707 : decode cL_law 707 = .ok (.aload_n 2, 1) := dk_44 (dk_at dksL_law_19 17 rfl rfl)
theorem dL_law_708 : decode cL_law 708 = .ok (.aload_n 0, 1) := dk_42 (dk_at dksL_law_19 18 rfl rfl)
theorem dL_law_709 : decode cL_law 709 = .ok (.iload_n 3, 1) := dk_29 (dk_at dksL_law_19 19 rfl rfl)
theorem dL_law_710 : decode cL_law 710 = .ok (.iconst 1, 1) := dk_4 (dk_at dksL_law_19 20 rfl rfl)
theorem dL_law_711 : decode cL_law 711 = .ok (.iadd, 1) := dk_96 (dk_at dksL_law_19 21 rfl rfl)
theorem dL_law_712 : decode cL_law 712 = .ok (.iaload, 1) := dk_46 (dk_at dksL_law_19 22 rfl rfl)
theorem dL_law_713 : decode cL_law 713 = .ok (.invokevirtual 70, 3) := dk_182 0 70 (dk_at dksL_law_20 0 rfl rfl)
theorem dL_law_716 : decode cL_law 716 = .ok (.if_icmp .eq 1723, 3) := dk_159 6 187 (dk_at dksL_law_20 3 rfl rfl)
theorem dL_law_719 : decode cL_law 719 = .ok (.iconst 0, 1) := dk_3 (dk_at dksL_law_20 6 rfl rfl)
theorem dL_law_720 : decode cL_law 720 = .ok (.ireturn, 1) := dk_172 (dk_at dksL_law_20 7 rfl rfl)
theorem dL_law_721 : decode cL_law 721 = .ok (.aload_n 1, 1) := dk_43 (dk_at dksL_law_20 8 rfl rfl)
theorem dL_law_722 : decode cL_law 722 = .ok (.aload_n 0, 1) := dk_42 (dk_at dksL_law_20 9 rfl rfl)
theorem dL_law_723 : decode cL_law 723 = .ok (.iload_n 3, 1) := dk_29 (dk_at dksL_law_20 10 rfl rfl)
theorem dL_law_724 : decode cL_law 724 = .ok (.iconst 1, 1) := dk_4 (dk_at dksL_law_20 11 rfl rfl)
theorem dL_law_725 : decode cL_law 725 = .ok (.iadd, 1) := dk_96 (dk_at dksL_law_20 12 rfl rfl)
theorem dL_law_726 : decode cL_law 726 = .ok (.iaload, 1) := dk_46 (dk_at dksL_law_20 13 rfl rfl)
theorem dL_law_727 : decode cL_law 727 = .ok (.aload_n 0, 1) := dk_42 (dk_at dksL_law_20 14 rfl rfl)
theorem dL_law_728 : decode cL_law 728 = .ok (.iload_n 3, 1) := dk_29 (dk_at dksL_law_20 15 rfl rfl)
theorem dL_law_729 : decode cL_law 729 = .ok (.iconst 2, 1) := dk_5 (dk_at dksL_law_20 16 rfl rfl)
theorem dL_law_730 : decode cL_law 730 = .ok (.iadd, 1) := dk_96 (dk_at dksL_law_20 17 rfl rfl)
theorem dL_law_731 : decode cL_law 731 = .ok (.iaload, 1) := dk_46 (dk_at dksL_law_20 18 rfl rfl)
theorem dL_law_732 : decode cL_law 732 = .ok (.invokevirtual 71, 3) := dk_182 0 71 (dk_at dksL_law_20 19 rfl rfl)
theorem dL_law_735 : decode cL_law 735 = .ok (.aload_n 2, 1) := dk_44 (dk_at dksL_law_20 22 rfl rfl)
theorem dL_law_736 : decode cL_law 736 = .ok (.aload_n 0, 1) := dk_42 (dk_at dksL_law_20 23 rfl rfl)
theorem dL_law_737 : decode cL_law 737 = .ok (.iload_n 3, 1) := dk_29 (dk_at dksL_law_21 0 rfl rfl)
theorem dL_law_738 : decode cL_law 738 = .ok (.iconst 1, 1) := dk_4 (dk_at dksL_law_21 1 rfl rfl)
theorem dL_law_739 : decode cL_law 739 = .ok (.iadd, 1) := dk_96 (dk_at dksL_law_21 2 rfl rfl)
theorem dL_law_740 : decode cL_law 740 = .ok (.iaload, 1) := dk_46 (dk_at dksL_law_21 3 rfl rfl)
theorem dL_law_741 : decode cL_law 741 = .ok (.aload_n 0, 1) := dk_42 (dk_at dksL_law_21 4 rfl rfl)
theorem dL_law_742 : decode cL_law 742 = .ok (.iload_n 3, 1) := dk_29 (dk_at dksL_law_21 5 rfl rfl)
theorem dL_law_743 : decode cL_law 743 = .ok (.iconst 2, 1) := dk_5 (dk_at dksL_law_21 6 rfl rfl)
theorem dL_law_744 : decode cL_law 744 = .ok (.iadd, 1) := dk_96 (dk_at dksL_law_21 7 rfl rfl)
theorem dL_law_745 : decode cL_law 745 = .ok (.iaload, 1) := dk_46 (dk_at dksL_law_21 8 rfl rfl)
theorem dL_law_746 : decode cL_law 746 = .ok (.invokevirtual 75, 3) := dk_182 0 75 (dk_at dksL_law_21 9 rfl rfl)
theorem dL_law_749 : decode cL_law 749 = .ok (.if_icmp .eq 1690, 3) := dk_159 6 154 (dk_at dksL_law_21 12 rfl rfl)
theorem dL_law_752 : decode cL_law 752 = .ok (.iconst 0, 1) := dk_3 (dk_at dksL_law_21 15 rfl rfl)
theorem dL_law_753 : decode cL_law 753 = .ok (.ireturn, 1) := dk_172 (dk_at dksL_law_21 16 rfl rfl)
theorem dL_law_754 : decode cL_law 754 = .ok (.aload_n 1, 1) := dk_43 (dk_at dksL_law_21 17 rfl rfl)
theorem dL_law_755 : decode cL_law 755 = .ok (.aload_n 0, 1) := dk_42 (dk_at dksL_law_21 18 rfl rfl)
theorem dL_law_756 : decode cL_law 756 = .ok (.iload_n 3, 1) := dk_29 (dk_at dksL_law_21 19 rfl rfl)
theorem dL_law_757 : decode cL_law 757 = .ok (.iconst 1, 1) := dk_4 (dk_at dksL_law_21 20 rfl rfl)
theorem dL_law_758 : decode cL_law 758 = .ok (.iadd, 1) := dk_96 (dk_at dksL_law_21 21 rfl rfl)
theorem dL_law_759 : decode cL_law 759 = .ok (.iaload, 1) := dk_46 (dk_at dksL_law_21 22 rfl rfl)
theorem dL_law_760 : decode cL_law 760 = .ok (.aload_n 0, 1) := dk_42 (dk_at dksL_law_21 23 rfl rfl)
theorem dL_law_761 : decode cL_law 761 = .ok (.iload_n 3, 1) := dk_29 (dk_at dksL_law_22 0 rfl rfl)
theorem dL_law_762 : decode cL_law 762 = .ok (.iconst 2, 1) := dk_5 (dk_at dksL_law_22 1 rfl rfl)
theorem dL_law_763 : decode cL_law 763 = .ok (.iadd, 1) := dk_96 (dk_at dksL_law_22 2 rfl rfl)
theorem dL_law_764 : decode cL_law 764 = .ok (.iaload, 1) := dk_46 (dk_at dksL_law_22 3 rfl rfl)
theorem dL_law_765 : decode cL_law 765 = .ok (.invokevirtual 76, 3) := dk_182 0 76 (dk_at dksL_law_22 4 rfl rfl)
theorem dL_law_768 : decode cL_law 768 = .ok (.aload_n 2, 1) := dk_44 (dk_at dksL_law_22 7 rfl rfl)
theorem dL_law_769 : decode cL_law 769 = .ok (.aload_n 0, 1) := dk_42 (dk_at dksL_law_22 8 rfl rfl)
theorem dL_law_770 : decode cL_law 770 = .ok (.iload_n 3, 1) := dk_29 (dk_at dksL_law_22 9 rfl rfl)
theorem dL_law_771 : decode cL_law 771 = .ok (.iconst 1, 1) := dk_4 (dk_at dksL_law_22 10 rfl rfl)
theorem dL_law_772 : decode cL_law 772 = .ok (.iadd, 1) := dk_96 (dk_at dksL_law_22 11 rfl rfl)
theorem dL_law_773 : decode cL_law 773 = .ok (.iaload, 1) := dk_46 (dk_at dksL_law_22 12 rfl rfl)
theorem dL_law_774 : decode cL_law 774 = .ok (.aload_n 0, 1) := dk_42 (dk_at dksL_law_22 13 rfl rfl)
theorem dL_law_775 : decode cL_law 775 = .ok (.iload_n 3, 1) := dk_29 (dk_at dksL_law_22 14 rfl rfl)
theorem dL_law_776 : decode cL_law 776 = .ok (.iconst 2, 1) := dk_5 (dk_at dksL_law_22 15 rfl rfl)
theorem dL_law_777 : decode cL_law 777 = .ok (.iadd, 1) := dk_96 (dk_at dksL_law_22 16 rfl rfl)
theorem dL_law_778 : decode cL_law 778 = .ok (.iaload, 1) := dk_46 (dk_at dksL_law_22 17 rfl rfl)
theorem dL_law_779 : decode cL_law 779 = .ok (.invokevirtual 79, 3) := dk_182 0 79 (dk_at dksL_law_22 18 rfl rfl)
theorem dL_law_782 : decode cL_law 782 = .ok (.if_icmp .eq 1657, 3) := dk_159 6 121 (dk_at dksL_law_22 21 rfl rfl)
theorem dL_law_785 : decode cL_law 785 = .ok (.iconst 0, 1) := dk_3 (dk_at dksL_law_23 0 rfl rfl)
theorem dL_law_786 : decode cL_law 786 = .ok (.ireturn, 1) := dk_172 (dk_at dksL_law_23 1 rfl rfl)
theorem dL_law_787 : decode cL_law 787 = .ok (.aload_n 1, 1) := dk_43 (dk_at dksL_law_23 2 rfl rfl)
theorem dL_law_788 : decode cL_law 788 = .ok (.aload_n 0, 1) := dk_42 (dk_at dksL_law_23 3 rfl rfl)
theorem dL_law_789 : decode cL_law 789 = .ok (.iload_n 3, 1) := dk_29 (dk_at dksL_law_23 4 rfl rfl)
theorem dL_law_790 : decode cL_law 790 = .ok (.iconst 1, 1) := dk_4 (dk_at dksL_law_23 5 rfl rfl)
theorem dL_law_791 : decode cL_law 791 = .ok (.iadd, 1) := dk_96 (dk_at dksL_law_23 6 rfl rfl)
theorem dL_law_792 : decode cL_law 792 = .ok (.iaload, 1) := dk_46 (dk_at dksL_law_23 7 rfl rfl)
theorem dL_law_793 : decode cL_law 793 = .ok (.invokevirtual 80, 3) := dk_182 0 80 (dk_at dksL_law_23 8 rfl rfl)
theorem dL_law_796 : decode cL_law 796 = .ok (.aload_n 2, 1) := dk_44 (dk_at dksL_law_23 11 rfl rfl)
theorem dL_law_797 : decode cL_law 797 = .ok (.aload_n 0, 1) := dk_42 (dk_at dksL_law_23 12 rfl rfl)
theorem dL_law_798 : decode cL_law 798 = .ok (.iload_n 3, 1) := dk_29 (dk_at dksL_law_23 13 rfl rfl)
theorem dL_law_799 : decode cL_law 799 = .ok (.iconst 1, 1) := dk_4 (dk_at dksL_law_23 14 rfl rfl)
theorem dL_law_800 : decode cL_law 800 = .ok (.iadd, 1) := dk_96 (dk_at dksL_law_23 15 rfl rfl)
theorem dL_law_801 : decode cL_law 801 = .ok (.iaload, 1) := dk_46 (dk_at dksL_law_23 16 rfl rfl)
theorem dL_law_802 : decode cL_law 802 = .ok (.invokevirtual 83, 3) := dk_182 0 83 (dk_at dksL_law_23 17 rfl rfl)
theorem dL_law_805 : decode cL_law 805 = .ok (.if_icmp .eq 1634, 3) := dk_159 6 98 (dk_at dksL_law_23 20 rfl rfl)
theorem dL_law_808 : decode cL_law 808 = .ok (.iconst 0, 1) := dk_3 (dk_at dksL_law_23 23 rfl rfl)
theorem dL_law_809 : decode cL_law 809 = .ok (.ireturn, 1) := dk_172 (dk_at dksL_law_24 0 rfl rfl)
theorem dL_law_810 : decode cL_law 810 = .ok (.aload_n 1, 1) := dk_43 (dk_at dksL_law_24 1 rfl rfl)
theorem dL_law_811 : decode cL_law 811 = .ok (.aload_n 0, 1) := dk_42 (dk_at dksL_law_24 2 rfl rfl)
theorem dL_law_812 : decode cL_law 812 = .ok (.iload_n 3, 1) := dk_29 (dk_at dksL_law_24 3 rfl rfl)
theorem dL_law_813 : decode cL_law 813 = .ok (.iconst 1, 1) := dk_4 (dk_at dksL_law_24 4 rfl rfl)
theorem dL_law_814 : decode cL_law 814 = .ok (.iadd, 1) := dk_96 (dk_at dksL_law_24 5 rfl rfl)
theorem dL_law_815 : decode cL_law 815 = .ok (.iaload, 1) := dk_46 (dk_at dksL_law_24 6 rfl rfl)
theorem dL_law_816 : decode cL_law 816 = .ok (.aload_n 0, 1) := dk_42 (dk_at dksL_law_24 7 rfl rfl)
theorem dL_law_817 : decode cL_law 817 = .ok (.iload_n 3, 1) := dk_29 (dk_at dksL_law_24 8 rfl rfl)
theorem dL_law_818 : decode cL_law 818 = .ok (.iconst 2, 1) := dk_5 (dk_at dksL_law_24 9 rfl rfl)
theorem dL_law_819 : decode cL_law 819 = .ok (.iadd, 1) := dk_96 (dk_at dksL_law_24 10 rfl rfl)
theorem dL_law_820 : decode cL_law 820 = .ok (.iaload, 1) := dk_46 (dk_at dksL_law_24 11 rfl rfl)
theorem dL_law_821 : decode cL_law 821 = .ok (.invokevirtual 84, 3) := dk_182 0 84 (dk_at dksL_law_24 12 rfl rfl)
theorem dL_law_824 : decode cL_law 824 = .ok (.aload_n 2, 1) := dk_44 (dk_at dksL_law_24 15 rfl rfl)
theorem dL_law_825 : decode cL_law 825 = .ok (.aload_n 0, 1) := dk_42 (dk_at dksL_law_24 16 rfl rfl)
theorem dL_law_826 : decode cL_law 826 = .ok (.iload_n 3, 1) := dk_29 (dk_at dksL_law_24 17 rfl rfl)
theorem dL_law_827 : decode cL_law 827 = .ok (.iconst 1, 1) := dk_4 (dk_at dksL_law_24 18 rfl rfl)
theorem dL_law_828 : decode cL_law 828 = .ok (.iadd, 1) := dk_96 (dk_at dksL_law_24 19 rfl rfl)
theorem dL_law_829 : decode cL_law 829 = .ok (.iaload, 1) := dk_46 (dk_at dksL_law_24 20 rfl rfl)
theorem dL_law_830 : decode cL_law 830 = .ok (.aload_n 0, 1) := dk_42 (dk_at dksL_law_24 21 rfl rfl)
theorem dL_law_831 : decode cL_law 831 = .ok (.iload_n 3, 1) := dk_29 (dk_at dksL_law_24 22 rfl rfl)
theorem dL_law_832 : decode cL_law 832 = .ok (.iconst 2, 1) := dk_5 (dk_at dksL_law_24 23 rfl rfl)
theorem dL_law_833 : decode cL_law 833 = .ok (.iadd, 1) := dk_96 (dk_at dksL_law_25 0 rfl rfl)
theorem dL_law_834 : decode cL_law 834 = .ok (.iaload, 1) := dk_46 (dk_at dksL_law_25 1 rfl rfl)
theorem dL_law_835 : decode cL_law 835 = .ok (.invokevirtual 87, 3) := dk_182 0 87 (dk_at dksL_law_25 2 rfl rfl)
theorem dL_law_838 : decode cL_law 838 = .ok (.if_icmp .eq 1601, 3) := dk_159 6 65 (dk_at dksL_law_25 5 rfl rfl)
theorem dL_law_841 : decode cL_law 841 = .ok (.iconst 0, 1) := dk_3 (dk_at dksL_law_25 8 rfl rfl)
theorem dL_law_842 : decode cL_law 842 = .ok (.ireturn, 1) := dk_172 (dk_at dksL_law_25 9 rfl rfl)
theorem dL_law_843 : decode cL_law 843 = .ok (.aload_n 1, 1) := dk_43 (dk_at dksL_law_25 10 rfl rfl)
theorem dL_law_844 : decode cL_law 844 = .ok (.aload_n 0, 1) := dk_42 (dk_at dksL_law_25 11 rfl rfl)
theorem dL_law_845 : decode cL_law 845 = .ok (.iload_n 3, 1) := dk_29 (dk_at dksL_law_25 12 rfl rfl)
theorem dL_law_846 : decode cL_law 846 = .ok (.iconst 1, 1) := dk_4 (dk_at dksL_law_25 13 rfl rfl)
theorem dL_law_847 : decode cL_law 847 = .ok (.iadd, 1) := dk_96 (dk_at dksL_law_25 14 rfl rfl)
theorem dL_law_848 : decode cL_law 848 = .ok (.iaload, 1) := dk_46 (dk_at dksL_law_25 15 rfl rfl)
theorem dL_law_849 : decode cL_law 849 = .ok (.aload_n 0, 1) := dk_42 (dk_at dksL_law_25 16 rfl rfl)
theorem dL_law_850 : decode cL_law 850 = .ok (.iload_n 3, 1) := dk_29 (dk_at dksL_law_25 17 rfl rfl)
theorem dL_law_851 : decode cL_law 851 = .ok (.iconst 2, 1) := dk_5 (dk_at dksL_law_25 18 rfl rfl)
theorem dL_law_852 : decode cL_law 852 = .ok (.iadd, 1) := dk_96 (dk_at dksL_law_25 19 rfl rfl)
theorem dL_law_853 : decode cL_law 853 = .ok (.iaload, 1) := dk_46 (dk_at dksL_law_25 20 rfl rfl)
theorem dL_law_854 : decode cL_law 854 = .ok (.invokevirtual 88, 3) := dk_182 0 88 (dk_at dksL_law_25 21 rfl rfl)
theorem dL_law_857 : decode cL_law 857 = .ok (.aload_n 2, 1) := dk_44 (dk_at dksL_law_26 0 rfl rfl)
theorem dL_law_858 : decode cL_law 858 = .ok (.aload_n 0, 1) := dk_42 (dk_at dksL_law_26 1 rfl rfl)
theorem dL_law_859 : decode cL_law 859 = .ok (.iload_n 3, 1) := dk_29 (dk_at dksL_law_26 2 rfl rfl)
theorem dL_law_860 : decode cL_law 860 = .ok (.iconst 1, 1) := dk_4 (dk_at dksL_law_26 3 rfl rfl)
theorem dL_law_861 : decode cL_law 861 = .ok (.iadd, 1) := dk_96 (dk_at dksL_law_26 4 rfl rfl)
theorem dL_law_862 : decode cL_law 862 = .ok (.iaload, 1) := dk_46 (dk_at dksL_law_26 5 rfl rfl)
theorem dL_law_863 : decode cL_law 863 = .ok (.aload_n 0, 1) := dk_42 (dk_at dksL_law_26 6 rfl rfl)
theorem dL_law_864 : decode cL_law 864 = .ok (.iload_n 3, 1) := dk_29 (dk_at dksL_law_26 7 rfl rfl)
theorem dL_law_865 : decode cL_law 865 = .ok (.iconst 2, 1) := dk_5 (dk_at dksL_law_26 8 rfl rfl)
theorem dL_law_866 : decode cL_law 866 = .ok (.iadd, 1) := dk_96 (dk_at dksL_law_26 9 rfl rfl)
theorem dL_law_867 : decode cL_law 867 = .ok (.iaload, 1) := dk_46 (dk_at dksL_law_26 10 rfl rfl)
theorem dL_law_868 : decode cL_law 868 = .ok (.invokevirtual 91, 3) := dk_182 0 91 (dk_at dksL_law_26 11 rfl rfl)
theorem dL_law_871 : decode cL_law 871 = .ok (.if_icmp .eq 1568, 3) := dk_159 6 32 (dk_at dksL_law_26 14 rfl rfl)
theorem dL_law_874 : decode cL_law 874 = .ok (.iconst 0, 1) := dk_3 (dk_at dksL_law_26 17 rfl rfl)
theorem dL_law_875 : decode cL_law 875 = .ok (.ireturn, 1) := dk_172 (dk_at dksL_law_26 18 rfl rfl)
theorem dL_law_876 : decode cL_law 876 = .ok (.aload_n 1, 1) := dk_43 (dk_at dksL_law_26 19 rfl rfl)
theorem dL_law_877 : decode cL_law 877 = .ok (.aload_n 0, 1) := dk_42 (dk_at dksL_law_26 20 rfl rfl)
theorem dL_law_878 : decode cL_law 878 = .ok (.iload_n 3, 1) := dk_29 (dk_at dksL_law_26 21 rfl rfl)
theorem dL_law_879 : decode cL_law 879 = .ok (.iconst 1, 1) := dk_4 (dk_at dksL_law_26 22 rfl rfl)
theorem dL_law_880 : decode cL_law 880 = .ok (.iadd, 1) := dk_96 (dk_at dksL_law_26 23 rfl rfl)
theorem dL_law_881 : decode cL_law 881 = .ok (.iaload, 1) := dk_46 (dk_at dksL_law_27 0 rfl rfl)
theorem dL_law_882 : decode cL_law 882 = .ok (.aload_n 0, 1) := dk_42 (dk_at dksL_law_27 1 rfl rfl)
theorem dL_law_883 : decode cL_law 883 = .ok (.iload_n 3, 1) := dk_29 (dk_at dksL_law_27 2 rfl rfl)
theorem dL_law_884 : decode cL_law 884 = .ok (.iconst 2, 1) := dk_5 (dk_at dksL_law_27 3 rfl rfl)
theorem dL_law_885 : decode cL_law 885 = .ok (.iadd, 1) := dk_96 (dk_at dksL_law_27 4 rfl rfl)
theorem dL_law_886 : decode cL_law 886 = .ok (.iaload, 1) := dk_46 (dk_at dksL_law_27 5 rfl rfl)
theorem dL_law_887 : decode cL_law 887 = .ok (.invokevirtual 92, 3) := dk_182 0 92 (dk_at dksL_law_27 6 rfl rfl)
theorem dL_law_890 : decode cL_law 890 = .ok (.aload_n 2, 1) := dk_44 (dk_at dksL_law_27 9 rfl rfl)
theorem dL_law_891 : decode cL_law 891 = .ok (.aload_n 0, 1) := dk_42 (dk_at dksL_law_27 10 rfl rfl)
theorem dL_law_892 : decode cL_law 892 = .ok (.iload_n 3, 1) := dk_29 (dk_at dksL_law_27 11 rfl rfl)
theorem dL_law_893 : decode cL_law 893 = .ok (.iconst 1, 1) := dk_4 (dk_at dksL_law_27 12 rfl rfl)
theorem dL_law_894 : decode cL_law 894 = .ok (.iadd, 1) := dk_96 (dk_at dksL_law_27 13 rfl rfl)
theorem dL_law_895 : decode cL_law 895 = .ok (.iaload, 1) := dk_46 (dk_at dksL_law_27 14 rfl rfl)
theorem dL_law_896 : decode cL_law 896 = .ok (.aload_n 0, 1) := dk_42 (dk_at dksL_law_27 15 rfl rfl)
theorem dL_law_897 : decode cL_law 897 = .ok (.iload_n 3, 1) := dk_29 (dk_at dksL_law_27 16 rfl rfl)
theorem dL_law_898 : decode cL_law 898 = .ok (.iconst 2, 1) := dk_5 (dk_at dksL_law_27 17 rfl rfl)
theorem dL_law_899 : decode cL_law 899 = .ok (.iadd, 1) := dk_96 (dk_at dksL_law_27 18 rfl rfl)
theorem dL_law_900 : decode cL_law 900 = .ok (.iaload, 1) := dk_46 (dk_at dksL_law_27 19 rfl rfl)
theorem dL_law_901 : decode cL_law 901 = .ok (.invokevirtual 95, 3) := dk_182 0 95 (dk_at dksL_law_27 20 rfl rfl)
theorem dL_law_904 : decode cL_law 904 = .ok (.if_icmp .eq 1535, 3) := dk_159 5 255 (dk_at dksL_law_28 0 rfl rfl)
theorem dL_law_907 : decode cL_law 907 = .ok (.iconst 0, 1) := dk_3 (dk_at dksL_law_28 3 rfl rfl)
theorem dL_law_908 : decode cL_law 908 = .ok (.ireturn, 1) := dk_172 (dk_at dksL_law_28 4 rfl rfl)
theorem dL_law_909 : decode cL_law 909 = .ok (.aload_n 1, 1) := dk_43 (dk_at dksL_law_28 5 rfl rfl)
theorem dL_law_910 : decode cL_law 910 = .ok (.aload_n 0, 1) := dk_42 (dk_at dksL_law_28 6 rfl rfl)
theorem dL_law_911 : decode cL_law 911 = .ok (.iload_n 3, 1) := dk_29 (dk_at dksL_law_28 7 rfl rfl)
theorem dL_law_912 : decode cL_law 912 = .ok (.iconst 1, 1) := dk_4 (dk_at dksL_law_28 8 rfl rfl)
theorem dL_law_913 : decode cL_law 913 = .ok (.iadd, 1) := dk_96 (dk_at dksL_law_28 9 rfl rfl)
theorem dL_law_914 : decode cL_law 914 = .ok (.iaload, 1) := dk_46 (dk_at dksL_law_28 10 rfl rfl)
theorem dL_law_915 : decode cL_law 915 = .ok (.aload_n 0, 1) := dk_42 (dk_at dksL_law_28 11 rfl rfl)
theorem dL_law_916 : decode cL_law 916 = .ok (.iload_n 3, 1) := dk_29 (dk_at dksL_law_28 12 rfl rfl)
theorem dL_law_917 : decode cL_law 917 = .ok (.iconst 2, 1) := dk_5 (dk_at dksL_law_28 13 rfl rfl)
theorem dL_law_918 : decode cL_law 918 = .ok (.iadd, 1) := dk_96 (dk_at dksL_law_28 14 rfl rfl)
theorem dL_law_919 : decode cL_law 919 = .ok (.iaload, 1) := dk_46 (dk_at dksL_law_28 15 rfl rfl)
theorem dL_law_920 : decode cL_law 920 = .ok (.invokevirtual 96, 3) := dk_182 0 96 (dk_at dksL_law_28 16 rfl rfl)
theorem dL_law_923 : decode cL_law 923 = .ok (.aload_n 2, 1) := dk_44 (dk_at dksL_law_28 19 rfl rfl)
theorem dL_law_924 : decode cL_law 924 = .ok (.aload_n 0, 1) := dk_42 (dk_at dksL_law_28 20 rfl rfl)
theorem dL_law_925 : decode cL_law 925 = .ok (.iload_n 3, 1) := dk_29 (dk_at dksL_law_28 21 rfl rfl)
theorem dL_law_926 : decode cL_law 926 = .ok (.iconst 1, 1) := dk_4 (dk_at dksL_law_28 22 rfl rfl)
theorem dL_law_927 : decode cL_law 927 = .ok (.iadd, 1) := dk_96 (dk_at dksL_law_28 23 rfl rfl)
theorem dL_law_928 : decode cL_law 928 = .ok (.iaload, 1) := dk_46 (dk_at dksL_law_29 0 rfl rfl)
theorem dL_law_929 : decode cL_law 929 = .ok (.aload_n 0, 1) := dk_42 (dk_at dksL_law_29 1 rfl rfl)
theorem dL_law_930 : decode cL_law 930 = .ok (.iload_n 3, 1) := dk_29 (dk_at dksL_law_29 2 rfl rfl)
theorem dL_law_931 : decode cL_law 931 = .ok (.iconst 2, 1) := dk_5 (dk_at dksL_law_29 3 rfl rfl)
theorem dL_law_932 : decode cL_law 932 = .ok (.iadd, 1) := dk_96 (dk_at dksL_law_29 4 rfl rfl)
theorem dL_law_933 : decode cL_law 933 = .ok (.iaload, 1) := dk_46 (dk_at dksL_law_29 5 rfl rfl)
theorem dL_law_934 : decode cL_law 934 = .ok (.invokevirtual 99, 3) := dk_182 0 99 (dk_at dksL_law_29 6 rfl rfl)
theorem dL_law_937 : decode cL_law 937 = .ok (.if_icmp .eq 1502, 3) := dk_159 5 222 (dk_at dksL_law_29 9 rfl rfl)
theorem dL_law_940 : decode cL_law 940 = .ok (.iconst 0, 1) := dk_3 (dk_at dksL_law_29 12 rfl rfl)
theorem dL_law_941 : decode cL_law 941 = .ok (.ireturn, 1) := dk_172 (dk_at dksL_law_29 13 rfl rfl)
theorem dL_law_942 : decode cL_law 942 = .ok (.aload_n 1, 1) := dk_43 (dk_at dksL_law_29 14 rfl rfl)
theorem dL_law_943 : decode cL_law 943 = .ok (.aload_n 0, 1) := dk_42 (dk_at dksL_law_29 15 rfl rfl)
theorem dL_law_944 : decode cL_law 944 = .ok (.iload_n 3, 1) := dk_29 (dk_at dksL_law_29 16 rfl rfl)
theorem dL_law_945 : decode cL_law 945 = .ok (.iconst 1, 1) := dk_4 (dk_at dksL_law_29 17 rfl rfl)
theorem dL_law_946 : decode cL_law 946 = .ok (.iadd, 1) := dk_96 (dk_at dksL_law_29 18 rfl rfl)
theorem dL_law_947 : decode cL_law 947 = .ok (.iaload, 1) := dk_46 (dk_at dksL_law_29 19 rfl rfl)
theorem dL_law_948 : decode cL_law 948 = .ok (.aload_n 0, 1) := dk_42 (dk_at dksL_law_29 20 rfl rfl)
theorem dL_law_949 : decode cL_law 949 = .ok (.iload_n 3, 1) := dk_29 (dk_at dksL_law_29 21 rfl rfl)
theorem dL_law_950 : decode cL_law 950 = .ok (.iconst 2, 1) := dk_5 (dk_at dksL_law_29 22 rfl rfl)
theorem dL_law_951 : decode cL_law 951 = .ok (.iadd, 1) := dk_96 (dk_at dksL_law_29 23 rfl rfl)
theorem dL_law_952 : decode cL_law 952 = .ok (.iaload, 1) := dk_46 (dk_at dksL_law_30 0 rfl rfl)
theorem dL_law_953 : decode cL_law 953 = .ok (.invokevirtual 100, 3) := dk_182 0 100 (dk_at dksL_law_30 1 rfl rfl)
theorem dL_law_956 : decode cL_law 956 = .ok (.aload_n 2, 1) := dk_44 (dk_at dksL_law_30 4 rfl rfl)
theorem dL_law_957 : decode cL_law 957 = .ok (.aload_n 0, 1) := dk_42 (dk_at dksL_law_30 5 rfl rfl)
theorem dL_law_958 : decode cL_law 958 = .ok (.iload_n 3, 1) := dk_29 (dk_at dksL_law_30 6 rfl rfl)
theorem dL_law_959 : decode cL_law 959 = .ok (.iconst 1, 1) := dk_4 (dk_at dksL_law_30 7 rfl rfl)
theorem dL_law_960 : decode cL_law 960 = .ok (.iadd, 1) := dk_96 (dk_at dksL_law_30 8 rfl rfl)
theorem dL_law_961 : decode cL_law 961 = .ok (.iaload, 1) := dk_46 (dk_at dksL_law_30 9 rfl rfl)
theorem dL_law_962 : decode cL_law 962 = .ok (.aload_n 0, 1) := dk_42 (dk_at dksL_law_30 10 rfl rfl)
theorem dL_law_963 : decode cL_law 963 = .ok (.iload_n 3, 1) := dk_29 (dk_at dksL_law_30 11 rfl rfl)
theorem dL_law_964 : decode cL_law 964 = .ok (.iconst 2, 1) := dk_5 (dk_at dksL_law_30 12 rfl rfl)
theorem dL_law_965 : decode cL_law 965 = .ok (.iadd, 1) := dk_96 (dk_at dksL_law_30 13 rfl rfl)
theorem dL_law_966 : decode cL_law 966 = .ok (.iaload, 1) := dk_46 (dk_at dksL_law_30 14 rfl rfl)
theorem dL_law_967 : decode cL_law 967 = .ok (.invokevirtual 103, 3) := dk_182 0 103 (dk_at dksL_law_30 15 rfl rfl)
theorem dL_law_970 : decode cL_law 970 = .ok (.if_icmp .eq 1469, 3) := dk_159 5 189 (dk_at dksL_law_30 18 rfl rfl)
theorem dL_law_973 : decode cL_law 973 = .ok (.iconst 0, 1) := dk_3 (dk_at dksL_law_30 21 rfl rfl)
theorem dL_law_974 : decode cL_law 974 = .ok (.ireturn, 1) := dk_172 (dk_at dksL_law_30 22 rfl rfl)
theorem dL_law_975 : decode cL_law 975 = .ok (.aload_n 1, 1) := dk_43 (dk_at dksL_law_30 23 rfl rfl)
theorem dL_law_976 : decode cL_law 976 = .ok (.aload_n 0, 1) := dk_42 (dk_at dksL_law_31 0 rfl rfl)
theorem dL_law_977 : decode cL_law 977 = .ok (.iload_n 3, 1) := dk_29 (dk_at dksL_law_31 1 rfl rfl)
theorem dL_law_978 : decode cL_law 978 = .ok (.iconst 1, 1) := dk_4 (dk_at dksL_law_31 2 rfl rfl)
theorem dL_law_979 : decode cL_law 979 = .ok (.iadd, 1) := dk_96 (dk_at dksL_law_31 3 rfl rfl)
theorem dL_law_980 : decode cL_law 980 = .ok (.iaload, 1) := dk_46 (dk_at dksL_law_31 4 rfl rfl)
theorem dL_law_981 : decode cL_law 981 = .ok (.aload_n 0, 1) := dk_42 (dk_at dksL_law_31 5 rfl rfl)
theorem dL_law_982 : decode cL_law 982 = .ok (.iload_n 3, 1) := dk_29 (dk_at dksL_law_31 6 rfl rfl)
theorem dL_law_983 : decode cL_law 983 = .ok (.iconst 2, 1) := dk_5 (dk_at dksL_law_31 7 rfl rfl)
theorem dL_law_984 : decode cL_law 984 = .ok (.iadd, 1) := dk_96 (dk_at dksL_law_31 8 rfl rfl)
theorem dL_law_985 : decode cL_law 985 = .ok (.iaload, 1) := dk_46 (dk_at dksL_law_31 9 rfl rfl)
theorem dL_law_986 : decode cL_law 986 = .ok (.aload_n 0, 1) := dk_42 (dk_at dksL_law_31 10 rfl rfl)
theorem dL_law_987 : decode cL_law 987 = .ok (.iload_n 3, 1) := dk_29 (dk_at dksL_law_31 11 rfl rfl)
theorem dL_law_988 : decode cL_law 988 = .ok (.iconst 3, 1) := dk_6 (dk_at dksL_law_31 12 rfl rfl)
theorem dL_law_989 : decode cL_law 989 = .ok (.iadd, 1) := dk_96 (dk_at dksL_law_31 13 rfl rfl)
theorem dL_law_990 : decode cL_law 990 = .ok (.iaload, 1) := dk_46 (dk_at dksL_law_31 14 rfl rfl)
theorem dL_law_991 : decode cL_law 991 = .ok (.invokevirtual 104, 3) := dk_182 0 104 (dk_at dksL_law_31 15 rfl rfl)
theorem dL_law_994 : decode cL_law 994 = .ok (.aload_n 2, 1) := dk_44 (dk_at dksL_law_31 18 rfl rfl)
theorem dL_law_995 : decode cL_law 995 = .ok (.aload_n 0, 1) := dk_42 (dk_at dksL_law_31 19 rfl rfl)
theorem dL_law_996 : decode cL_law 996 = .ok (.iload_n 3, 1) := dk_29 (dk_at dksL_law_31 20 rfl rfl)
theorem dL_law_997 : decode cL_law 997 = .ok (.iconst 1, 1) := dk_4 (dk_at dksL_law_31 21 rfl rfl)
theorem dL_law_998 : decode cL_law 998 = .ok (.iadd, 1) := dk_96 (dk_at dksL_law_31 22 rfl rfl)
theorem dL_law_999 : decode cL_law 999 = .ok (.iaload, 1) := dk_46 (dk_at dksL_law_31 23 rfl rfl)
theorem dL_law_1000 : decode cL_law 1000 = .ok (.aload_n 0, 1) := dk_42 (dk_at dksL_law_32 0 rfl rfl)
theorem dL_law_1001 : decode cL_law 1001 = .ok (.iload_n 3, 1) := dk_29 (dk_at dksL_law_32 1 rfl rfl)
theorem dL_law_1002 : decode cL_law 1002 = .ok (.iconst 2, 1) := dk_5 (dk_at dksL_law_32 2 rfl rfl)
theorem dL_law_1003 : decode cL_law 1003 = .ok (.iadd, 1) := dk_96 (dk_at dksL_law_32 3 rfl rfl)
theorem dL_law_1004 : decode cL_law 1004 = .ok (.iaload, 1) := dk_46 (dk_at dksL_law_32 4 rfl rfl)
theorem dL_law_1005 : decode cL_law 1005 = .ok (.aload_n 0, 1) := dk_42 (dk_at dksL_law_32 5 rfl rfl)
theorem dL_law_1006 : decode cL_law 1006 = .ok (.iload_n 3, 1) := dk_29 (dk_at dksL_law_32 6 rfl rfl)
theorem dL_law_1007 : decode cL_law 1007 = .ok (.iconst 3, 1) := dk_6 (dk_at dksL_law_32 7 rfl rfl)
theorem dL_law_1008 : decode cL_law 1008 = .ok (.iadd, 1) := dk_96 (dk_at dksL_law_32 8 rfl rfl)
theorem dL_law_1009 : decode cL_law 1009 = .ok (.iaload, 1) := dk_46 (dk_at dksL_law_32 9 rfl rfl)
theorem dL_law_1010 : decode cL_law 1010 = .ok (.invokevirtual 108, 3) := dk_182 0 108 (dk_at dksL_law_32 10 rfl rfl)
theorem dL_law_1013 : decode cL_law 1013 = .ok (.if_icmp .eq 1426, 3) := dk_159 5 146 (dk_at dksL_law_32 13 rfl rfl)
theorem dL_law_1016 : decode cL_law 1016 = .ok (.iconst 0, 1) := dk_3 (dk_at dksL_law_32 16 rfl rfl)
theorem dL_law_1017 : decode cL_law 1017 = .ok (.ireturn, 1) := dk_172 (dk_at dksL_law_32 17 rfl rfl)
theorem dL_law_1018 : decode cL_law 1018 = .ok (.aload_n 1, 1) := dk_43 (dk_at dksL_law_32 18 rfl rfl)
theorem dL_law_1019 : decode cL_law 1019 = .ok (.aload_n 0, 1) := dk_42 (dk_at dksL_law_32 19 rfl rfl)
theorem dL_law_1020 : decode cL_law 1020 = .ok (.iload_n 3, 1) := dk_29 (dk_at dksL_law_32 20 rfl rfl)
theorem dL_law_1021 : decode cL_law 1021 = .ok (.iconst 1, 1) := dk_4 (dk_at dksL_law_32 21 rfl rfl)
theorem dL_law_1022 : decode cL_law 1022 = .ok (.iadd, 1) := dk_96 (dk_at dksL_law_32 22 rfl rfl)
theorem dL_law_1023 : decode cL_law 1023 = .ok (.iaload, 1) := dk_46 (dk_at dksL_law_32 23 rfl rfl)
theorem dL_law_1024 : decode cL_law 1024 = .ok (.invokevirtual 109, 3) := dk_182 0 109 (dk_at dksL_law_33 0 rfl rfl)
theorem dL_law_1027 : decode cL_law 1027 = .ok (.aload_n 2, 1) := dk_44 (dk_at dksL_law_33 3 rfl rfl)
theorem dL_law_1028 : decode cL_law 1028 = .ok (.aload_n 0, 1) := dk_42 (dk_at dksL_law_33 4 rfl rfl)
theorem dL_law_1029 : decode cL_law 1029 = .ok (.iload_n 3, 1) := dk_29 (dk_at dksL_law_33 5 rfl rfl)
theorem dL_law_1030 : decode cL_law 1030 = .ok (.iconst 1, 1) := dk_4 (dk_at dksL_law_33 6 rfl rfl)
theorem dL_law_1031 : decode cL_law 1031 = .ok (.iadd, 1) := dk_96 (dk_at dksL_law_33 7 rfl rfl)
theorem dL_law_1032 : decode cL_law 1032 = .ok (.iaload, 1) := dk_46 (dk_at dksL_law_33 8 rfl rfl)
theorem dL_law_1033 : decode cL_law 1033 = .ok (.invokevirtual 112, 3) := dk_182 0 112 (dk_at dksL_law_33 9 rfl rfl)
theorem dL_law_1036 : decode cL_law 1036 = .ok (.if_icmp .eq 1403, 3) := dk_159 5 123 (dk_at dksL_law_33 12 rfl rfl)
theorem dL_law_1039 : decode cL_law 1039 = .ok (.iconst 0, 1) := dk_3 (dk_at dksL_law_33 15 rfl rfl)
theorem dL_law_1040 : decode cL_law 1040 = .ok (.ireturn, 1) := dk_172 (dk_at dksL_law_33 16 rfl rfl)
theorem dL_law_1041 : decode cL_law 1041 = .ok (.aload_n 1, 1) := dk_43 (dk_at dksL_law_33 17 rfl rfl)
theorem dL_law_1042 : decode cL_law 1042 = .ok (.aload_n 0, 1) := dk_42 (dk_at dksL_law_33 18 rfl rfl)
theorem dL_law_1043 : decode cL_law 1043 = .ok (.iload_n 3, 1) := dk_29 (dk_at dksL_law_33 19 rfl rfl)
theorem dL_law_1044 : decode cL_law 1044 = .ok (.iconst 1, 1) := dk_4 (dk_at dksL_law_33 20 rfl rfl)
theorem dL_law_1045 : decode cL_law 1045 = .ok (.iadd, 1) := dk_96 (dk_at dksL_law_33 21 rfl rfl)
theorem dL_law_1046 : decode cL_law 1046 = .ok (.iaload, 1) := dk_46 (dk_at dksL_law_33 22 rfl rfl)
theorem dL_law_1047 : decode cL_law 1047 = .ok (.invokevirtual 113, 3) := dk_182 0 113 (dk_at dksL_law_34 0 rfl rfl)
theorem dL_law_1050 : decode cL_law 1050 = .ok (.aload_n 2, 1) := dk_44 (dk_at dksL_law_34 3 rfl rfl)
theorem dL_law_1051 : decode cL_law 1051 = .ok (.aload_n 0, 1) := dk_42 (dk_at dksL_law_34 4 rfl rfl)
theorem dL_law_1052 : decode cL_law 1052 = .ok (.iload_n 3, 1) := dk_29 (dk_at dksL_law_34 5 rfl rfl)
theorem dL_law_1053 : decode cL_law 1053 = .ok (.iconst 1, 1) := dk_4 (dk_at dksL_law_34 6 rfl rfl)
theorem dL_law_1054 : decode cL_law 1054 = .ok (.iadd, 1) := dk_96 (dk_at dksL_law_34 7 rfl rfl)
theorem dL_law_1055 : decode cL_law 1055 = .ok (.iaload, 1) := dk_46 (dk_at dksL_law_34 8 rfl rfl)
theorem dL_law_1056 : decode cL_law 1056 = .ok (.invokevirtual 116, 3) := dk_182 0 116 (dk_at dksL_law_34 9 rfl rfl)
theorem dL_law_1059 : decode cL_law 1059 = .ok (.if_icmp .eq 1380, 3) := dk_159 5 100 (dk_at dksL_law_34 12 rfl rfl)
theorem dL_law_1062 : decode cL_law 1062 = .ok (.iconst 0, 1) := dk_3 (dk_at dksL_law_34 15 rfl rfl)
theorem dL_law_1063 : decode cL_law 1063 = .ok (.ireturn, 1) := dk_172 (dk_at dksL_law_34 16 rfl rfl)
theorem dL_law_1064 : decode cL_law 1064 = .ok (.aload_n 1, 1) := dk_43 (dk_at dksL_law_34 17 rfl rfl)
theorem dL_law_1065 : decode cL_law 1065 = .ok (.aload_n 0, 1) := dk_42 (dk_at dksL_law_34 18 rfl rfl)
theorem dL_law_1066 : decode cL_law 1066 = .ok (.iload_n 3, 1) := dk_29 (dk_at dksL_law_34 19 rfl rfl)
theorem dL_law_1067 : decode cL_law 1067 = .ok (.iconst 1, 1) := dk_4 (dk_at dksL_law_34 20 rfl rfl)
theorem dL_law_1068 : decode cL_law 1068 = .ok (.iadd, 1) := dk_96 (dk_at dksL_law_34 21 rfl rfl)
theorem dL_law_1069 : decode cL_law 1069 = .ok (.iaload, 1) := dk_46 (dk_at dksL_law_34 22 rfl rfl)
theorem dL_law_1070 : decode cL_law 1070 = .ok (.aload_n 0, 1) := dk_42 (dk_at dksL_law_34 23 rfl rfl)
theorem dL_law_1071 : decode cL_law 1071 = .ok (.iload_n 3, 1) := dk_29 (dk_at dksL_law_35 0 rfl rfl)
theorem dL_law_1072 : decode cL_law 1072 = .ok (.iconst 2, 1) := dk_5 (dk_at dksL_law_35 1 rfl rfl)
theorem dL_law_1073 : decode cL_law 1073 = .ok (.iadd, 1) := dk_96 (dk_at dksL_law_35 2 rfl rfl)
theorem dL_law_1074 : decode cL_law 1074 = .ok (.iaload, 1) := dk_46 (dk_at dksL_law_35 3 rfl rfl)
theorem dL_law_1075 : decode cL_law 1075 = .ok (.invokevirtual 117, 3) := dk_182 0 117 (dk_at dksL_law_35 4 rfl rfl)
theorem dL_law_1078 : decode cL_law 1078 = .ok (.aload_n 2, 1) := dk_44 (dk_at dksL_law_35 7 rfl rfl)
theorem dL_law_1079 : decode cL_law 1079 = .ok (.aload_n 0, 1) := dk_42 (dk_at dksL_law_35 8 rfl rfl)
theorem dL_law_1080 : decode cL_law 1080 = .ok (.iload_n 3, 1) := dk_29 (dk_at dksL_law_35 9 rfl rfl)
theorem dL_law_1081 : decode cL_law 1081 = .ok (.iconst 1, 1) := dk_4 (dk_at dksL_law_35 10 rfl rfl)
theorem dL_law_1082 : decode cL_law 1082 = .ok (.iadd, 1) := dk_96 (dk_at dksL_law_35 11 rfl rfl)
theorem dL_law_1083 : decode cL_law 1083 = .ok (.iaload, 1) := dk_46 (dk_at dksL_law_35 12 rfl rfl)
theorem dL_law_1084 : decode cL_law 1084 = .ok (.aload_n 0, 1) := dk_42 (dk_at dksL_law_35 13 rfl rfl)
theorem dL_law_1085 : decode cL_law 1085 = .ok (.iload_n 3, 1) := dk_29 (dk_at dksL_law_35 14 rfl rfl)
theorem dL_law_1086 : decode cL_law 1086 = .ok (.iconst 2, 1) := dk_5 (dk_at dksL_law_35 15 rfl rfl)
theorem dL_law_1087 : decode cL_law 1087 = .ok (.iadd, 1) := dk_96 (dk_at dksL_law_35 16 rfl rfl)
theorem dL_law_1088 : decode cL_law 1088 = .ok (.iaload, 1) := dk_46 (dk_at dksL_law_35 17 rfl rfl)
theorem dL_law_1089 : decode cL_law 1089 = .ok (.invokevirtual 120, 3) := dk_182 0 120 (dk_at dksL_law_35 18 rfl rfl)
theorem dL_law_1092 : decode cL_law 1092 = .ok (.if_icmp .eq 1347, 3) := dk_159 5 67 (dk_at dksL_law_35 21 rfl rfl)
theorem dL_law_1095 : decode cL_law 1095 = .ok (.iconst 0, 1) := dk_3 (dk_at dksL_law_36 0 rfl rfl)
theorem dL_law_1096 : decode cL_law 1096 = .ok (.ireturn, 1) := dk_172 (dk_at dksL_law_36 1 rfl rfl)
theorem dL_law_1097 : decode cL_law 1097 = .ok (.aload_n 1, 1) := dk_43 (dk_at dksL_law_36 2 rfl rfl)
theorem dL_law_1098 : decode cL_law 1098 = .ok (.aload_n 0, 1) := dk_42 (dk_at dksL_law_36 3 rfl rfl)
theorem dL_law_1099 : decode cL_law 1099 = .ok (.iload_n 3, 1) := dk_29 (dk_at dksL_law_36 4 rfl rfl)
theorem dL_law_1100 : decode cL_law 1100 = .ok (.iconst 1, 1) := dk_4 (dk_at dksL_law_36 5 rfl rfl)
theorem dL_law_1101 : decode cL_law 1101 = .ok (.iadd, 1) := dk_96 (dk_at dksL_law_36 6 rfl rfl)
theorem dL_law_1102 : decode cL_law 1102 = .ok (.iaload, 1) := dk_46 (dk_at dksL_law_36 7 rfl rfl)
theorem dL_law_1103 : decode cL_law 1103 = .ok (.aload_n 0, 1) := dk_42 (dk_at dksL_law_36 8 rfl rfl)
theorem dL_law_1104 : decode cL_law 1104 = .ok (.iload_n 3, 1) := dk_29 (dk_at dksL_law_36 9 rfl rfl)
theorem dL_law_1105 : decode cL_law 1105 = .ok (.iconst 2, 1) := dk_5 (dk_at dksL_law_36 10 rfl rfl)
theorem dL_law_1106 : decode cL_law 1106 = .ok (.iadd, 1) := dk_96 (dk_at dksL_law_36 11 rfl rfl)
theorem dL_law_1107 : decode cL_law 1107 = .ok (.iaload, 1) := dk_46 (dk_at dksL_law_36 12 rfl rfl)
theorem dL_law_1108 : decode cL_law 1108 = .ok (.invokevirtual 121, 3) := dk_182 0 121 (dk_at dksL_law_36 13 rfl rfl)
theorem dL_law_1111 : decode cL_law 1111 = .ok (.aload_n 2, 1) := dk_44 (dk_at dksL_law_36 16 rfl rfl)
theorem dL_law_1112 : decode cL_law 1112 = .ok (.aload_n 0, 1) := dk_42 (dk_at dksL_law_36 17 rfl rfl)
theorem dL_law_1113 : decode cL_law 1113 = .ok (.iload_n 3, 1) := dk_29 (dk_at dksL_law_36 18 rfl rfl)
theorem dL_law_1114 : decode cL_law 1114 = .ok (.iconst 1, 1) := dk_4 (dk_at dksL_law_36 19 rfl rfl)
theorem dL_law_1115 : decode cL_law 1115 = .ok (.iadd, 1) := dk_96 (dk_at dksL_law_36 20 rfl rfl)
theorem dL_law_1116 : decode cL_law 1116 = .ok (.iaload, 1) := dk_46 (dk_at dksL_law_36 21 rfl rfl)
theorem dL_law_1117 : decode cL_law 1117 = .ok (.aload_n 0, 1) := dk_42 (dk_at dksL_law_36 22 rfl rfl)
theorem dL_law_1118 : decode cL_law 1118 = .ok (.iload_n 3, 1) := dk_29 (dk_at dksL_law_36 23 rfl rfl)
theorem dL_law_1119 : decode cL_law 1119 = .ok (.iconst 2, 1) := dk_5 (dk_at dksL_law_37 0 rfl rfl)
theorem dL_law_1120 : decode cL_law 1120 = .ok (.iadd, 1) := dk_96 (dk_at dksL_law_37 1 rfl rfl)
theorem dL_law_1121 : decode cL_law 1121 = .ok (.iaload, 1) := dk_46 (dk_at dksL_law_37 2 rfl rfl)
theorem dL_law_1122 : decode cL_law 1122 = .ok (.invokevirtual 125, 3) := dk_182 0 125 (dk_at dksL_law_37 3 rfl rfl)
theorem dL_law_1125 : decode cL_law 1125 = .ok (.if_icmp .eq 1314, 3) := dk_159 5 34 (dk_at dksL_law_37 6 rfl rfl)
theorem dL_law_1128 : decode cL_law 1128 = .ok (.iconst 0, 1) := dk_3 (dk_at dksL_law_37 9 rfl rfl)
theorem dL_law_1129 : decode cL_law 1129 = .ok (.ireturn, 1) := dk_172 (dk_at dksL_law_37 10 rfl rfl)
theorem dL_law_1130 : decode cL_law 1130 = .ok (.aload_n 1, 1) := dk_43 (dk_at dksL_law_37 11 rfl rfl)
theorem dL_law_1131 : decode cL_law 1131 = .ok (.aload_n 0, 1) := dk_42 (dk_at dksL_law_37 12 rfl rfl)
theorem dL_law_1132 : decode cL_law 1132 = .ok (.iload_n 3, 1) := dk_29 (dk_at dksL_law_37 13 rfl rfl)
theorem dL_law_1133 : decode cL_law 1133 = .ok (.iconst 1, 1) := dk_4 (dk_at dksL_law_37 14 rfl rfl)
theorem dL_law_1134 : decode cL_law 1134 = .ok (.iadd, 1) := dk_96 (dk_at dksL_law_37 15 rfl rfl)
theorem dL_law_1135 : decode cL_law 1135 = .ok (.iaload, 1) := dk_46 (dk_at dksL_law_37 16 rfl rfl)
theorem dL_law_1136 : decode cL_law 1136 = .ok (.aload_n 0, 1) := dk_42 (dk_at dksL_law_37 17 rfl rfl)
theorem dL_law_1137 : decode cL_law 1137 = .ok (.iload_n 3, 1) := dk_29 (dk_at dksL_law_37 18 rfl rfl)
theorem dL_law_1138 : decode cL_law 1138 = .ok (.iconst 2, 1) := dk_5 (dk_at dksL_law_37 19 rfl rfl)
theorem dL_law_1139 : decode cL_law 1139 = .ok (.iadd, 1) := dk_96 (dk_at dksL_law_37 20 rfl rfl)
theorem dL_law_1140 : decode cL_law 1140 = .ok (.iaload, 1) := dk_46 (dk_at dksL_law_37 21 rfl rfl)
theorem dL_law_1141 : decode cL_law 1141 = .ok (.invokevirtual 126, 3) := dk_182 0 126 (dk_at dksL_law_38 0 rfl rfl)
theorem dL_law_1144 : decode cL_law 1144 = .ok (.aload_n 2, 1) := dk_44 (dk_at dksL_law_38 3 rfl rfl)
theorem dL_law_1145 : decode cL_law 1145 = .ok (.aload_n 0, 1) := dk_42 (dk_at dksL_law_38 4 rfl rfl)
theorem dL_law_1146 : decode cL_law 1146 = .ok (.iload_n 3, 1) := dk_29 (dk_at dksL_law_38 5 rfl rfl)
theorem dL_law_1147 : decode cL_law 1147 = .ok (.iconst 1, 1) := dk_4 (dk_at dksL_law_38 6 rfl rfl)
theorem dL_law_1148 : decode cL_law 1148 = .ok (.iadd, 1) := dk_96 (dk_at dksL_law_38 7 rfl rfl)
theorem dL_law_1149 : decode cL_law 1149 = .ok (.iaload, 1) := dk_46 (dk_at dksL_law_38 8 rfl rfl)
theorem dL_law_1150 : decode cL_law 1150 = .ok (.aload_n 0, 1) := dk_42 (dk_at dksL_law_38 9 rfl rfl)
theorem dL_law_1151 : decode cL_law 1151 = .ok (.iload_n 3, 1) := dk_29 (dk_at dksL_law_38 10 rfl rfl)
theorem dL_law_1152 : decode cL_law 1152 = .ok (.iconst 2, 1) := dk_5 (dk_at dksL_law_38 11 rfl rfl)
theorem dL_law_1153 : decode cL_law 1153 = .ok (.iadd, 1) := dk_96 (dk_at dksL_law_38 12 rfl rfl)
theorem dL_law_1154 : decode cL_law 1154 = .ok (.iaload, 1) := dk_46 (dk_at dksL_law_38 13 rfl rfl)
theorem dL_law_1155 : decode cL_law 1155 = .ok (.invokevirtual 129, 3) := dk_182 0 129 (dk_at dksL_law_38 14 rfl rfl)
theorem dL_law_1158 : decode cL_law 1158 = .ok (.if_icmp .eq 1281, 3) := dk_159 5 1 (dk_at dksL_law_38 17 rfl rfl)
theorem dL_law_1161 : decode cL_law 1161 = .ok (.iconst 0, 1) := dk_3 (dk_at dksL_law_38 20 rfl rfl)
theorem dL_law_1162 : decode cL_law 1162 = .ok (.ireturn, 1) := dk_172 (dk_at dksL_law_38 21 rfl rfl)
theorem dL_law_1163 : decode cL_law 1163 = .ok (.aload_n 1, 1) := dk_43 (dk_at dksL_law_38 22 rfl rfl)
theorem dL_law_1164 : decode cL_law 1164 = .ok (.aload_n 0, 1) := dk_42 (dk_at dksL_law_38 23 rfl rfl)
theorem dL_law_1165 : decode cL_law 1165 = .ok (.iload_n 3, 1) := dk_29 (dk_at dksL_law_39 0 rfl rfl)
theorem dL_law_1166 : decode cL_law 1166 = .ok (.iconst 1, 1) := dk_4 (dk_at dksL_law_39 1 rfl rfl)
theorem dL_law_1167 : decode cL_law 1167 = .ok (.iadd, 1) := dk_96 (dk_at dksL_law_39 2 rfl rfl)
theorem dL_law_1168 : decode cL_law 1168 = .ok (.iaload, 1) := dk_46 (dk_at dksL_law_39 3 rfl rfl)
theorem dL_law_1169 : decode cL_law 1169 = .ok (.invokevirtual 130, 3) := dk_182 0 130 (dk_at dksL_law_39 4 rfl rfl)
theorem dL_law_1172 : decode cL_law 1172 = .ok (.aload_n 2, 1) := dk_44 (dk_at dksL_law_39 7 rfl rfl)
theorem dL_law_1173 : decode cL_law 1173 = .ok (.aload_n 0, 1) := dk_42 (dk_at dksL_law_39 8 rfl rfl)
theorem dL_law_1174 : decode cL_law 1174 = .ok (.iload_n 3, 1) := dk_29 (dk_at dksL_law_39 9 rfl rfl)
theorem dL_law_1175 : decode cL_law 1175 = .ok (.iconst 1, 1) := dk_4 (dk_at dksL_law_39 10 rfl rfl)
theorem dL_law_1176 : decode cL_law 1176 = .ok (.iadd, 1) := dk_96 (dk_at dksL_law_39 11 rfl rfl)
theorem dL_law_1177 : decode cL_law 1177 = .ok (.iaload, 1) := dk_46 (dk_at dksL_law_39 12 rfl rfl)
theorem dL_law_1178 : decode cL_law 1178 = .ok (.invokevirtual 133, 3) := dk_182 0 133 (dk_at dksL_law_39 13 rfl rfl)
theorem dL_law_1181 : decode cL_law 1181 = .ok (.if_icmp .eq 1258, 3) := dk_159 4 234 (dk_at dksL_law_39 16 rfl rfl)
theorem dL_law_1184 : decode cL_law 1184 = .ok (.iconst 0, 1) := dk_3 (dk_at dksL_law_39 19 rfl rfl)
theorem dL_law_1185 : decode cL_law 1185 = .ok (.ireturn, 1) := dk_172 (dk_at dksL_law_39 20 rfl rfl)
theorem dL_law_1186 : decode cL_law 1186 = .ok (.aload_n 1, 1) := dk_43 (dk_at dksL_law_39 21 rfl rfl)
theorem dL_law_1187 : decode cL_law 1187 = .ok (.aload_n 0, 1) := dk_42 (dk_at dksL_law_39 22 rfl rfl)
theorem dL_law_1188 : decode cL_law 1188 = .ok (.iload_n 3, 1) := dk_29 (dk_at dksL_law_39 23 rfl rfl)
theorem dL_law_1189 : decode cL_law 1189 = .ok (.iconst 1, 1) := dk_4 (dk_at dksL_law_40 0 rfl rfl)
theorem dL_law_1190 : decode cL_law 1190 = .ok (.iadd, 1) := dk_96 (dk_at dksL_law_40 1 rfl rfl)
theorem dL_law_1191 : decode cL_law 1191 = .ok (.iaload, 1) := dk_46 (dk_at dksL_law_40 2 rfl rfl)
theorem dL_law_1192 : decode cL_law 1192 = .ok (.aload_n 0, 1) := dk_42 (dk_at dksL_law_40 3 rfl rfl)
theorem dL_law_1193 : decode cL_law 1193 = .ok (.iload_n 3, 1) := dk_29 (dk_at dksL_law_40 4 rfl rfl)
theorem dL_law_1194 : decode cL_law 1194 = .ok (.iconst 2, 1) := dk_5 (dk_at dksL_law_40 5 rfl rfl)
theorem dL_law_1195 : decode cL_law 1195 = .ok (.iadd, 1) := dk_96 (dk_at dksL_law_40 6 rfl rfl)
theorem dL_law_1196 : decode cL_law 1196 = .ok (.iaload, 1) := dk_46 (dk_at dksL_law_40 7 rfl rfl)
theorem dL_law_1197 : decode cL_law 1197 = .ok (.invokevirtual 134, 3) := dk_182 0 134 (dk_at dksL_law_40 8 rfl rfl)
theorem dL_law_1200 : decode cL_law 1200 = .ok (.aload_n 2, 1) := dk_44 (dk_at dksL_law_40 11 rfl rfl)
theorem dL_law_1201 : decode cL_law 1201 = .ok (.aload_n 0, 1) := dk_42 (dk_at dksL_law_40 12 rfl rfl)
theorem dL_law_1202 : decode cL_law 1202 = .ok (.iload_n 3, 1) := dk_29 (dk_at dksL_law_40 13 rfl rfl)
theorem dL_law_1203 : decode cL_law 1203 = .ok (.iconst 1, 1) := dk_4 (dk_at dksL_law_40 14 rfl rfl)
theorem dL_law_1204 : decode cL_law 1204 = .ok (.iadd, 1) := dk_96 (dk_at dksL_law_40 15 rfl rfl)
theorem dL_law_1205 : decode cL_law 1205 = .ok (.iaload, 1) := dk_46 (dk_at dksL_law_40 16 rfl rfl)
theorem dL_law_1206 : decode cL_law 1206 = .ok (.aload_n 0, 1) := dk_42 (dk_at dksL_law_40 17 rfl rfl)
theorem dL_law_1207 : decode cL_law 1207 = .ok (.iload_n 3, 1) := dk_29 (dk_at dksL_law_40 18 rfl rfl)
theorem dL_law_1208 : decode cL_law 1208 = .ok (.iconst 2, 1) := dk_5 (dk_at dksL_law_40 19 rfl rfl)
theorem dL_law_1209 : decode cL_law 1209 = .ok (.iadd, 1) := dk_96 (dk_at dksL_law_40 20 rfl rfl)
theorem dL_law_1210 : decode cL_law 1210 = .ok (.iaload, 1) := dk_46 (dk_at dksL_law_40 21 rfl rfl)
theorem dL_law_1211 : decode cL_law 1211 = .ok (.invokevirtual 137, 3) := dk_182 0 137 (dk_at dksL_law_41 0 rfl rfl)
theorem dL_law_1214 : decode cL_law 1214 = .ok (.if_icmp .eq 1225, 3) := dk_159 4 201 (dk_at dksL_law_41 3 rfl rfl)
theorem dL_law_1217 : decode cL_law 1217 = .ok (.iconst 0, 1) := dk_3 (dk_at dksL_law_41 6 rfl rfl)
theorem dL_law_1218 : decode cL_law 1218 = .ok (.ireturn, 1) := dk_172 (dk_at dksL_law_41 7 rfl rfl)
theorem dL_law_1219 : decode cL_law 1219 = .ok (.aload_n 1, 1) := dk_43 (dk_at dksL_law_41 8 rfl rfl)
theorem dL_law_1220 : decode cL_law 1220 = .ok (.aload_n 0, 1) := dk_42 (dk_at dksL_law_41 9 rfl rfl)
theorem dL_law_1221 : decode cL_law 1221 = .ok (.iload_n 3, 1) := dk_29 (dk_at dksL_law_41 10 rfl rfl)
theorem dL_law_1222 : decode cL_law 1222 = .ok (.iconst 1, 1) := dk_4 (dk_at dksL_law_41 11 rfl rfl)
theorem dL_law_1223 : decode cL_law 1223 = .ok (.iadd, 1) := dk_96 (dk_at dksL_law_41 12 rfl rfl)
theorem dL_law_1224 : decode cL_law 1224 = .ok (.iaload, 1) := dk_46 (dk_at dksL_law_41 13 rfl rfl)
theorem dL_law_1225 : decode cL_law 1225 = .ok (.invokevirtual 138, 3) := dk_182 0 138 (dk_at dksL_law_41 14 rfl rfl)
theorem dL_law_1228 : decode cL_law 1228 = .ok (.aload_n 2, 1) := dk_44 (dk_at dksL_law_41 17 rfl rfl)
theorem dL_law_1229 : decode cL_law 1229 = .ok (.aload_n 0, 1) := dk_42 (dk_at dksL_law_41 18 rfl rfl)
theorem dL_law_1230 : decode cL_law 1230 = .ok (.iload_n 3, 1) := dk_29 (dk_at dksL_law_41 19 rfl rfl)
theorem dL_law_1231 : decode cL_law 1231 = .ok (.iconst 1, 1) := dk_4 (dk_at dksL_law_41 20 rfl rfl)
theorem dL_law_1232 : decode cL_law 1232 = .ok (.iadd, 1) := dk_96 (dk_at dksL_law_41 21 rfl rfl)
theorem dL_law_1233 : decode cL_law 1233 = .ok (.iaload, 1) := dk_46 (dk_at dksL_law_41 22 rfl rfl)
theorem dL_law_1234 : decode cL_law 1234 = .ok (.invokevirtual 141, 3) := dk_182 0 141 (dk_at dksL_law_42 0 rfl rfl)
theorem dL_law_1237 : decode cL_law 1237 = .ok (.if_icmp .eq 1202, 3) := dk_159 4 178 (dk_at dksL_law_42 3 rfl rfl)
theorem dL_law_1240 : decode cL_law 1240 = .ok (.iconst 0, 1) := dk_3 (dk_at dksL_law_42 6 rfl rfl)
theorem dL_law_1241 : decode cL_law 1241 = .ok (.ireturn, 1) := dk_172 (dk_at dksL_law_42 7 rfl rfl)
theorem dL_law_1242 : decode cL_law 1242 = .ok (.aload_n 1, 1) := dk_43 (dk_at dksL_law_42 8 rfl rfl)
theorem dL_law_1243 : decode cL_law 1243 = .ok (.aload_n 0, 1) := dk_42 (dk_at dksL_law_42 9 rfl rfl)
theorem dL_law_1244 : decode cL_law 1244 = .ok (.iload_n 3, 1) := dk_29 (dk_at dksL_law_42 10 rfl rfl)
theorem dL_law_1245 : decode cL_law 1245 = .ok (.iconst 1, 1) := dk_4 (dk_at dksL_law_42 11 rfl rfl)
theorem dL_law_1246 : decode cL_law 1246 = .ok (.iadd, 1) := dk_96 (dk_at dksL_law_42 12 rfl rfl)
theorem dL_law_1247 : decode cL_law 1247 = .ok (.iaload, 1) := dk_46 (dk_at dksL_law_42 13 rfl rfl)
theorem dL_law_1248 : decode cL_law 1248 = .ok (.invokevirtual 142, 3) := dk_182 0 142 (dk_at dksL_law_42 14 rfl rfl)
theorem dL_law_1251 : decode cL_law 1251 = .ok (.aload_n 2, 1) := dk_44 (dk_at dksL_law_42 17 rfl rfl)
theorem dL_law_1252 : decode cL_law 1252 = .ok (.aload_n 0, 1) := dk_42 (dk_at dksL_law_42 18 rfl rfl)
theorem dL_law_1253 : decode cL_law 1253 = .ok (.iload_n 3, 1) := dk_29 (dk_at dksL_law_42 19 rfl rfl)
theorem dL_law_1254 : decode cL_law 1254 = .ok (.iconst 1, 1) := dk_4 (dk_at dksL_law_42 20 rfl rfl)
theorem dL_law_1255 : decode cL_law 1255 = .ok (.iadd, 1) := dk_96 (dk_at dksL_law_42 21 rfl rfl)
theorem dL_law_1256 : decode cL_law 1256 = .ok (.iaload, 1) := dk_46 (dk_at dksL_law_42 22 rfl rfl)
theorem dL_law_1257 : decode cL_law 1257 = .ok (.invokevirtual 145, 3) := dk_182 0 145 (dk_at dksL_law_43 0 rfl rfl)
theorem dL_law_1260 : decode cL_law 1260 = .ok (.if_icmp .eq 1179, 3) := dk_159 4 155 (dk_at dksL_law_43 3 rfl rfl)
theorem dL_law_1263 : decode cL_law 1263 = .ok (.iconst 0, 1) := dk_3 (dk_at dksL_law_43 6 rfl rfl)
theorem dL_law_1264 : decode cL_law 1264 = .ok (.ireturn, 1) := dk_172 (dk_at dksL_law_43 7 rfl rfl)
theorem dL_law_1265 : decode cL_law 1265 = .ok (.aload_n 1, 1) := dk_43 (dk_at dksL_law_43 8 rfl rfl)
theorem dL_law_1266 : decode cL_law 1266 = .ok (.aload_n 0, 1) := dk_42 (dk_at dksL_law_43 9 rfl rfl)
theorem dL_law_1267 : decode cL_law 1267 = .ok (.iload_n 3, 1) := dk_29 (dk_at dksL_law_43 10 rfl rfl)
theorem dL_law_1268 : decode cL_law 1268 = .ok (.iconst 1, 1) := dk_4 (dk_at dksL_law_43 11 rfl rfl)
theorem dL_law_1269 : decode cL_law 1269 = .ok (.iadd, 1) := dk_96 (dk_at dksL_law_43 12 rfl rfl)
theorem dL_law_1270 : decode cL_law 1270 = .ok (.iaload, 1) := dk_46 (dk_at dksL_law_43 13 rfl rfl)
theorem dL_law_1271 : decode cL_law 1271 = .ok (.aload_n 0, 1) := dk_42 (dk_at dksL_law_43 14 rfl rfl)
theorem dL_law_1272 : decode cL_law 1272 = .ok (.iload_n 3, 1) := dk_29 (dk_at dksL_law_43 15 rfl rfl)
theorem dL_law_1273 : decode cL_law 1273 = .ok (.iconst 2, 1) := dk_5 (dk_at dksL_law_43 16 rfl rfl)
theorem dL_law_1274 : decode cL_law 1274 = .ok (.iadd, 1) := dk_96 (dk_at dksL_law_43 17 rfl rfl)
theorem dL_law_1275 : decode cL_law 1275 = .ok (.iaload, 1) := dk_46 (dk_at dksL_law_43 18 rfl rfl)
theorem dL_law_1276 : decode cL_law 1276 = .ok (.aload_n 0, 1) := dk_42 (dk_at dksL_law_43 19 rfl rfl)
theorem dL_law_1277 : decode cL_law 1277 = .ok (.iload_n 3, 1) := dk_29 (dk_at dksL_law_43 20 rfl rfl)
theorem dL_law_1278 : decode cL_law 1278 = .ok (.iconst 3, 1) := dk_6 (dk_at dksL_law_43 21 rfl rfl)
theorem dL_law_1279 : decode cL_law 1279 = .ok (.iadd, 1) := dk_96 (dk_at dksL_law_43 22 rfl rfl)
theorem dL_law_1280 : decode cL_law 1280 = .ok (.iaload, 1) := dk_46 (dk_at dksL_law_43 23 rfl rfl)
theorem dL_law_1281 : decode cL_law 1281 = .ok (.invokevirtual 146, 3) := dk_182 0 146 (dk_at dksL_law_44 0 rfl rfl)
theorem dL_law_1284 : decode cL_law 1284 = .ok (.aload_n 2, 1) := dk_44 (dk_at dksL_law_44 3 rfl rfl)
theorem dL_law_1285 : decode cL_law 1285 = .ok (.aload_n 0, 1) := dk_42 (dk_at dksL_law_44 4 rfl rfl)
theorem dL_law_1286 : decode cL_law 1286 = .ok (.iload_n 3, 1) := dk_29 (dk_at dksL_law_44 5 rfl rfl)
theorem dL_law_1287 : decode cL_law 1287 = .ok (.iconst 1, 1) := dk_4 (dk_at dksL_law_44 6 rfl rfl)
theorem dL_law_1288 : decode cL_law 1288 = .ok (.iadd, 1) := dk_96 (dk_at dksL_law_44 7 rfl rfl)
theorem dL_law_1289 : decode cL_law 1289 = .ok (.iaload, 1) := dk_46 (dk_at dksL_law_44 8 rfl rfl)
theorem dL_law_1290 : decode cL_law 1290 = .ok (.aload_n 0, 1) := dk_42 (dk_at dksL_law_44 9 rfl rfl)
theorem dL_law_1291 : decode cL_law 1291 = .ok (.iload_n 3, 1) := dk_29 (dk_at dksL_law_44 10 rfl rfl)
theorem dL_law_1292 : decode cL_law 1292 = .ok (.iconst 2, 1) := dk_5 (dk_at dksL_law_44 11 rfl rfl)
theorem dL_law_1293 : decode cL_law 1293 = .ok (.iadd, 1) := dk_96 (dk_at dksL_law_44 12 rfl rfl)
theorem dL_law_1294 : decode cL_law 1294 = .ok (.iaload, 1) := dk_46 (dk_at dksL_law_44 13 rfl rfl)
theorem dL_law_1295 : decode cL_law 1295 = .ok (.aload_n 0, 1) := dk_42 (dk_at dksL_law_44 14 rfl rfl)
theorem dL_law_1296 : decode cL_law 1296 = .ok (.iload_n 3, 1) := dk_29 (dk_at dksL_law_44 15 rfl rfl)
theorem dL_law_1297 : decode cL_law 1297 = .ok (.iconst 3, 1) := dk_6 (dk_at dksL_law_44 16 rfl rfl)
theorem dL_law_1298 : decode cL_law 1298 = .ok (.iadd, 1) := dk_96 (dk_at dksL_law_44 17 rfl rfl)
theorem dL_law_1299 : decode cL_law 1299 = .ok (.iaload, 1) := dk_46 (dk_at dksL_law_44 18 rfl rfl)
theorem dL_law_1300 : decode cL_law 1300 = .ok (.invokevirtual 149, 3) := dk_182 0 149 (dk_at dksL_law_44 19 rfl rfl)
theorem dL_law_1303 : decode cL_law 1303 = .ok (.if_icmp .eq 1136, 3) := dk_159 4 112 (dk_at dksL_law_45 0 rfl rfl)
theorem dL_law_1306 : decode cL_law 1306 = .ok (.iconst 0, 1) := dk_3 (dk_at dksL_law_45 3 rfl rfl)
theorem dL_law_1307 : decode cL_law 1307 = .ok (.ireturn, 1) := dk_172 (dk_at dksL_law_45 4 rfl rfl)
theorem dL_law_1308 : decode cL_law 1308 = .ok (.aload_n 1, 1) := dk_43 (dk_at dksL_law_45 5 rfl rfl)
theorem dL_law_1309 : decode cL_law 1309 = .ok (.aload_n 0, 1) := dk_42 (dk_at dksL_law_45 6 rfl rfl)
theorem dL_law_1310 : decode cL_law 1310 = .ok (.iload_n 3, 1) := dk_29 (dk_at dksL_law_45 7 rfl rfl)
theorem dL_law_1311 : decode cL_law 1311 = .ok (.iconst 1, 1) := dk_4 (dk_at dksL_law_45 8 rfl rfl)
theorem dL_law_1312 : decode cL_law 1312 = .ok (.iadd, 1) := dk_96 (dk_at dksL_law_45 9 rfl rfl)
theorem dL_law_1313 : decode cL_law 1313 = .ok (.iaload, 1) := dk_46 (dk_at dksL_law_45 10 rfl rfl)
theorem dL_law_1314 : decode cL_law 1314 = .ok (.aload_n 0, 1) := dk_42 (dk_at dksL_law_45 11 rfl rfl)
theorem dL_law_1315 : decode cL_law 1315 = .ok (.iload_n 3, 1) := dk_29 (dk_at dksL_law_45 12 rfl rfl)
theorem dL_law_1316 : decode cL_law 1316 = .ok (.iconst 2, 1) := dk_5 (dk_at dksL_law_45 13 rfl rfl)
theorem dL_law_1317 : decode cL_law 1317 = .ok (.iadd, 1) := dk_96 (dk_at dksL_law_45 14 rfl rfl)
theorem dL_law_1318 : decode cL_law 1318 = .ok (.iaload, 1) := dk_46 (dk_at dksL_law_45 15 rfl rfl)
theorem dL_law_1319 : decode cL_law 1319 = .ok (.aload_n 0, 1) := dk_42 (dk_at dksL_law_45 16 rfl rfl)
theorem dL_law_1320 : decode cL_law 1320 = .ok (.iload_n 3, 1) := dk_29 (dk_at dksL_law_45 17 rfl rfl)
theorem dL_law_1321 : decode cL_law 1321 = .ok (.iconst 3, 1) := dk_6 (dk_at dksL_law_45 18 rfl rfl)
theorem dL_law_1322 : decode cL_law 1322 = .ok (.iadd, 1) := dk_96 (dk_at dksL_law_45 19 rfl rfl)
theorem dL_law_1323 : decode cL_law 1323 = .ok (.iaload, 1) := dk_46 (dk_at dksL_law_45 20 rfl rfl)
theorem dL_law_1324 : decode cL_law 1324 = .ok (.invokevirtual 150, 3) := dk_182 0 150 (dk_at dksL_law_45 21 rfl rfl)
theorem dL_law_1327 : decode cL_law 1327 = .ok (.aload_n 2, 1) := dk_44 (dk_at dksL_law_46 0 rfl rfl)
theorem dL_law_1328 : decode cL_law 1328 = .ok (.aload_n 0, 1) := dk_42 (dk_at dksL_law_46 1 rfl rfl)
theorem dL_law_1329 : decode cL_law 1329 = .ok (.iload_n 3, 1) := dk_29 (dk_at dksL_law_46 2 rfl rfl)
theorem dL_law_1330 : decode cL_law 1330 = .ok (.iconst 1, 1) := dk_4 (dk_at dksL_law_46 3 rfl rfl)
theorem dL_law_1331 : decode cL_law 1331 = .ok (.iadd, 1) := dk_96 (dk_at dksL_law_46 4 rfl rfl)
theorem dL_law_1332 : decode cL_law 1332 = .ok (.iaload, 1) := dk_46 (dk_at dksL_law_46 5 rfl rfl)
theorem dL_law_1333 : decode cL_law 1333 = .ok (.aload_n 0, 1) := dk_42 (dk_at dksL_law_46 6 rfl rfl)
theorem dL_law_1334 : decode cL_law 1334 = .ok (.iload_n 3, 1) := dk_29 (dk_at dksL_law_46 7 rfl rfl)
theorem dL_law_1335 : decode cL_law 1335 = .ok (.iconst 2, 1) := dk_5 (dk_at dksL_law_46 8 rfl rfl)
theorem dL_law_1336 : decode cL_law 1336 = .ok (.iadd, 1) := dk_96 (dk_at dksL_law_46 9 rfl rfl)
theorem dL_law_1337 : decode cL_law 1337 = .ok (.iaload, 1) := dk_46 (dk_at dksL_law_46 10 rfl rfl)
theorem dL_law_1338 : decode cL_law 1338 = .ok (.aload_n 0, 1) := dk_42 (dk_at dksL_law_46 11 rfl rfl)
theorem dL_law_1339 : decode cL_law 1339 = .ok (.iload_n 3, 1) := dk_29 (dk_at dksL_law_46 12 rfl rfl)
theorem dL_law_1340 : decode cL_law 1340 = .ok (.iconst 3, 1) := dk_6 (dk_at dksL_law_46 13 rfl rfl)
theorem dL_law_1341 : decode cL_law 1341 = .ok (.iadd, 1) := dk_96 (dk_at dksL_law_46 14 rfl rfl)
theorem dL_law_1342 : decode cL_law 1342 = .ok (.iaload, 1) := dk_46 (dk_at dksL_law_46 15 rfl rfl)
theorem dL_law_1343 : decode cL_law 1343 = .ok (.invokevirtual 153, 3) := dk_182 0 153 (dk_at dksL_law_46 16 rfl rfl)
theorem dL_law_1346 : decode cL_law 1346 = .ok (.if_icmp .eq 1093, 3) := dk_159 4 69 (dk_at dksL_law_46 19 rfl rfl)
theorem dL_law_1349 : decode cL_law 1349 = .ok (.iconst 0, 1) := dk_3 (dk_at dksL_law_46 22 rfl rfl)
theorem dL_law_1350 : decode cL_law 1350 = .ok (.ireturn, 1) := dk_172 (dk_at dksL_law_46 23 rfl rfl)
theorem dL_law_1351 : decode cL_law 1351 = .ok (.aload_n 1, 1) := dk_43 (dk_at dksL_law_47 0 rfl rfl)
theorem dL_law_1352 : decode cL_law 1352 = .ok (.aload_n 0, 1) := dk_42 (dk_at dksL_law_47 1 rfl rfl)
theorem dL_law_1353 : decode cL_law 1353 = .ok (.iload_n 3, 1) := dk_29 (dk_at dksL_law_47 2 rfl rfl)
theorem dL_law_1354 : decode cL_law 1354 = .ok (.iconst 1, 1) := dk_4 (dk_at dksL_law_47 3 rfl rfl)
theorem dL_law_1355 : decode cL_law 1355 = .ok (.iadd, 1) := dk_96 (dk_at dksL_law_47 4 rfl rfl)
theorem dL_law_1356 : decode cL_law 1356 = .ok (.iaload, 1) := dk_46 (dk_at dksL_law_47 5 rfl rfl)
theorem dL_law_1357 : decode cL_law 1357 = .ok (.aload_n 0, 1) := dk_42 (dk_at dksL_law_47 6 rfl rfl)
theorem dL_law_1358 : decode cL_law 1358 = .ok (.iload_n 3, 1) := dk_29 (dk_at dksL_law_47 7 rfl rfl)
theorem dL_law_1359 : decode cL_law 1359 = .ok (.iconst 2, 1) := dk_5 (dk_at dksL_law_47 8 rfl rfl)
theorem dL_law_1360 : decode cL_law 1360 = .ok (.iadd, 1) := dk_96 (dk_at dksL_law_47 9 rfl rfl)
theorem dL_law_1361 : decode cL_law 1361 = .ok (.iaload, 1) := dk_46 (dk_at dksL_law_47 10 rfl rfl)
theorem dL_law_1362 : decode cL_law 1362 = .ok (.aload_n 0, 1) := dk_42 (dk_at dksL_law_47 11 rfl rfl)
theorem dL_law_1363 : decode cL_law 1363 = .ok (.iload_n 3, 1) := dk_29 (dk_at dksL_law_47 12 rfl rfl)
theorem dL_law_1364 : decode cL_law 1364 = .ok (.iconst 3, 1) := dk_6 (dk_at dksL_law_47 13 rfl rfl)
theorem dL_law_1365 : decode cL_law 1365 = .ok (.iadd, 1) := dk_96 (dk_at dksL_law_47 14 rfl rfl)
theorem dL_law_1366 : decode cL_law 1366 = .ok (.iaload, 1) := dk_46 (dk_at dksL_law_47 15 rfl rfl)
theorem dL_law_1367 : decode cL_law 1367 = .ok (.invokevirtual 154, 3) := dk_182 0 154 (dk_at dksL_law_47 16 rfl rfl)
theorem dL_law_1370 : decode cL_law 1370 = .ok (.aload_n 2, 1) := dk_44 (dk_at dksL_law_47 19 rfl rfl)
theorem dL_law_1371 : decode cL_law 1371 = .ok (.aload_n 0, 1) := dk_42 (dk_at dksL_law_47 20 rfl rfl)
theorem dL_law_1372 : decode cL_law 1372 = .ok (.iload_n 3, 1) := dk_29 (dk_at dksL_law_47 21 rfl rfl)
theorem dL_law_1373 : decode cL_law 1373 = .ok (.iconst 1, 1) := dk_4 (dk_at dksL_law_47 22 rfl rfl)
theorem dL_law_1374 : decode cL_law 1374 = .ok (.iadd, 1) := dk_96 (dk_at dksL_law_47 23 rfl rfl)
theorem dL_law_1375 : decode cL_law 1375 = .ok (.iaload, 1) := dk_46 (dk_at dksL_law_48 0 rfl rfl)
theorem dL_law_1376 : decode cL_law 1376 = .ok (.aload_n 0, 1) := dk_42 (dk_at dksL_law_48 1 rfl rfl)
theorem dL_law_1377 : decode cL_law 1377 = .ok (.iload_n 3, 1) := dk_29 (dk_at dksL_law_48 2 rfl rfl)
theorem dL_law_1378 : decode cL_law 1378 = .ok (.iconst 2, 1) := dk_5 (dk_at dksL_law_48 3 rfl rfl)
theorem dL_law_1379 : decode cL_law 1379 = .ok (.iadd, 1) := dk_96 (dk_at dksL_law_48 4 rfl rfl)
theorem dL_law_1380 : decode cL_law 1380 = .ok (.iaload, 1) := dk_46 (dk_at dksL_law_48 5 rfl rfl)
theorem dL_law_1381 : decode cL_law 1381 = .ok (.aload_n 0, 1) := dk_42 (dk_at dksL_law_48 6 rfl rfl)
theorem dL_law_1382 : decode cL_law 1382 = .ok (.iload_n 3, 1) := dk_29 (dk_at dksL_law_48 7 rfl rfl)
theorem dL_law_1383 : decode cL_law 1383 = .ok (.iconst 3, 1) := dk_6 (dk_at dksL_law_48 8 rfl rfl)
theorem dL_law_1384 : decode cL_law 1384 = .ok (.iadd, 1) := dk_96 (dk_at dksL_law_48 9 rfl rfl)
theorem dL_law_1385 : decode cL_law 1385 = .ok (.iaload, 1) := dk_46 (dk_at dksL_law_48 10 rfl rfl)
theorem dL_law_1386 : decode cL_law 1386 = .ok (.invokevirtual 157, 3) := dk_182 0 157 (dk_at dksL_law_48 11 rfl rfl)
theorem dL_law_1389 : decode cL_law 1389 = .ok (.if_icmp .eq 1050, 3) := dk_159 4 26 (dk_at dksL_law_48 14 rfl rfl)
theorem dL_law_1392 : decode cL_law 1392 = .ok (.iconst 0, 1) := dk_3 (dk_at dksL_law_48 17 rfl rfl)
theorem dL_law_1393 : decode cL_law 1393 = .ok (.ireturn, 1) := dk_172 (dk_at dksL_law_48 18 rfl rfl)
theorem dL_law_1394 : decode cL_law 1394 = .ok (.aload_n 1, 1) := dk_43 (dk_at dksL_law_48 19 rfl rfl)
theorem dL_law_1395 : decode cL_law 1395 = .ok (.aload_n 0, 1) := dk_42 (dk_at dksL_law_48 20 rfl rfl)
theorem dL_law_1396 : decode cL_law 1396 = .ok (.iload_n 3, 1) := dk_29 (dk_at dksL_law_48 21 rfl rfl)
theorem dL_law_1397 : decode cL_law 1397 = .ok (.iconst 1, 1) := dk_4 (dk_at dksL_law_48 22 rfl rfl)
theorem dL_law_1398 : decode cL_law 1398 = .ok (.iadd, 1) := dk_96 (dk_at dksL_law_48 23 rfl rfl)
theorem dL_law_1399 : decode cL_law 1399 = .ok (.iaload, 1) := dk_46 (dk_at dksL_law_49 0 rfl rfl)
theorem dL_law_1400 : decode cL_law 1400 = .ok (.aload_n 0, 1) := dk_42 (dk_at dksL_law_49 1 rfl rfl)
theorem dL_law_1401 : decode cL_law 1401 = .ok (.iload_n 3, 1) := dk_29 (dk_at dksL_law_49 2 rfl rfl)
theorem dL_law_1402 : decode cL_law 1402 = .ok (.iconst 2, 1) := dk_5 (dk_at dksL_law_49 3 rfl rfl)
theorem dL_law_1403 : decode cL_law 1403 = .ok (.iadd, 1) := dk_96 (dk_at dksL_law_49 4 rfl rfl)
theorem dL_law_1404 : decode cL_law 1404 = .ok (.iaload, 1) := dk_46 (dk_at dksL_law_49 5 rfl rfl)
theorem dL_law_1405 : decode cL_law 1405 = .ok (.invokevirtual 158, 3) := dk_182 0 158 (dk_at dksL_law_49 6 rfl rfl)
theorem dL_law_1408 : decode cL_law 1408 = .ok (.aload_n 2, 1) := dk_44 (dk_at dksL_law_49 9 rfl rfl)
theorem dL_law_1409 : decode cL_law 1409 = .ok (.aload_n 0, 1) := dk_42 (dk_at dksL_law_49 10 rfl rfl)
theorem dL_law_1410 : decode cL_law 1410 = .ok (.iload_n 3, 1) := dk_29 (dk_at dksL_law_49 11 rfl rfl)
theorem dL_law_1411 : decode cL_law 1411 = .ok (.iconst 1, 1) := dk_4 (dk_at dksL_law_49 12 rfl rfl)
theorem dL_law_1412 : decode cL_law 1412 = .ok (.iadd, 1) := dk_96 (dk_at dksL_law_49 13 rfl rfl)
theorem dL_law_1413 : decode cL_law 1413 = .ok (.iaload, 1) := dk_46 (dk_at dksL_law_49 14 rfl rfl)
theorem dL_law_1414 : decode cL_law 1414 = .ok (.aload_n 0, 1) := dk_42 (dk_at dksL_law_49 15 rfl rfl)
theorem dL_law_1415 : decode cL_law 1415 = .ok (.iload_n 3, 1) := dk_29 (dk_at dksL_law_49 16 rfl rfl)
theorem dL_law_1416 : decode cL_law 1416 = .ok (.iconst 2, 1) := dk_5 (dk_at dksL_law_49 17 rfl rfl)
theorem dL_law_1417 : decode cL_law 1417 = .ok (.iadd, 1) := dk_96 (dk_at dksL_law_49 18 rfl rfl)
theorem dL_law_1418 : decode cL_law 1418 = .ok (.iaload, 1) := dk_46 (dk_at dksL_law_49 19 rfl rfl)
theorem dL_law_1419 : decode cL_law 1419 = .ok (.invokevirtual 161, 3) := dk_182 0 161 (dk_at dksL_law_49 20 rfl rfl)
theorem dL_law_1422 : decode cL_law 1422 = .ok (.if_icmp .eq 1017, 3) := dk_159 3 249 (dk_at dksL_law_50 0 rfl rfl)
theorem dL_law_1425 : decode cL_law 1425 = .ok (.iconst 0, 1) := dk_3 (dk_at dksL_law_50 3 rfl rfl)
theorem dL_law_1426 : decode cL_law 1426 = .ok (.ireturn, 1) := dk_172 (dk_at dksL_law_50 4 rfl rfl)
theorem dL_law_1427 : decode cL_law 1427 = .ok (.aload_n 1, 1) := dk_43 (dk_at dksL_law_50 5 rfl rfl)
theorem dL_law_1428 : decode cL_law 1428 = .ok (.aload_n 0, 1) := dk_42 (dk_at dksL_law_50 6 rfl rfl)
theorem dL_law_1429 : decode cL_law 1429 = .ok (.iload_n 3, 1) := dk_29 (dk_at dksL_law_50 7 rfl rfl)
theorem dL_law_1430 : decode cL_law 1430 = .ok (.iconst 1, 1) := dk_4 (dk_at dksL_law_50 8 rfl rfl)
theorem dL_law_1431 : decode cL_law 1431 = .ok (.iadd, 1) := dk_96 (dk_at dksL_law_50 9 rfl rfl)
theorem dL_law_1432 : decode cL_law 1432 = .ok (.iaload, 1) := dk_46 (dk_at dksL_law_50 10 rfl rfl)
theorem dL_law_1433 : decode cL_law 1433 = .ok (.invokevirtual 162, 3) := dk_182 0 162 (dk_at dksL_law_50 11 rfl rfl)
theorem dL_law_1436 : decode cL_law 1436 = .ok (.aload_n 2, 1) := dk_44 (dk_at dksL_law_50 14 rfl rfl)
theorem dL_law_1437 : decode cL_law 1437 = .ok (.aload_n 0, 1) := dk_42 (dk_at dksL_law_50 15 rfl rfl)
theorem dL_law_1438 : decode cL_law 1438 = .ok (.iload_n 3, 1) := dk_29 (dk_at dksL_law_50 16 rfl rfl)
theorem dL_law_1439 : decode cL_law 1439 = .ok (.iconst 1, 1) := dk_4 (dk_at dksL_law_50 17 rfl rfl)
theorem dL_law_1440 : decode cL_law 1440 = .ok (.iadd, 1) := dk_96 (dk_at dksL_law_50 18 rfl rfl)
theorem dL_law_1441 : decode cL_law 1441 = .ok (.iaload, 1) := dk_46 (dk_at dksL_law_50 19 rfl rfl)
theorem dL_law_1442 : decode cL_law 1442 = .ok (.invokevirtual 165, 3) := dk_182 0 165 (dk_at dksL_law_50 20 rfl rfl)
theorem dL_law_1445 : decode cL_law 1445 = .ok (.if_icmp .eq 994, 3) := dk_159 3 226 (dk_at dksL_law_51 0 rfl rfl)
theorem dL_law_1448 : decode cL_law 1448 = .ok (.iconst 0, 1) := dk_3 (dk_at dksL_law_51 3 rfl rfl)
theorem dL_law_1449 : decode cL_law 1449 = .ok (.ireturn, 1) := dk_172 (dk_at dksL_law_51 4 rfl rfl)
theorem dL_law_1450 : decode cL_law 1450 = .ok (.aload_n 1, 1) := dk_43 (dk_at dksL_law_51 5 rfl rfl)
theorem dL_law_1451 : decode cL_law 1451 = .ok (.aload_n 0, 1) := dk_42 (dk_at dksL_law_51 6 rfl rfl)
theorem dL_law_1452 : decode cL_law 1452 = .ok (.iload_n 3, 1) := dk_29 (dk_at dksL_law_51 7 rfl rfl)
theorem dL_law_1453 : decode cL_law 1453 = .ok (.iconst 1, 1) := dk_4 (dk_at dksL_law_51 8 rfl rfl)
theorem dL_law_1454 : decode cL_law 1454 = .ok (.iadd, 1) := dk_96 (dk_at dksL_law_51 9 rfl rfl)
theorem dL_law_1455 : decode cL_law 1455 = .ok (.iaload, 1) := dk_46 (dk_at dksL_law_51 10 rfl rfl)
theorem dL_law_1456 : decode cL_law 1456 = .ok (.aload_n 0, 1) := dk_42 (dk_at dksL_law_51 11 rfl rfl)
theorem dL_law_1457 : decode cL_law 1457 = .ok (.iload_n 3, 1) := dk_29 (dk_at dksL_law_51 12 rfl rfl)
theorem dL_law_1458 : decode cL_law 1458 = .ok (.iconst 2, 1) := dk_5 (dk_at dksL_law_51 13 rfl rfl)
theorem dL_law_1459 : decode cL_law 1459 = .ok (.iadd, 1) := dk_96 (dk_at dksL_law_51 14 rfl rfl)
theorem dL_law_1460 : decode cL_law 1460 = .ok (.iaload, 1) := dk_46 (dk_at dksL_law_51 15 rfl rfl)
theorem dL_law_1461 : decode cL_law 1461 = .ok (.aload_n 0, 1) := dk_42 (dk_at dksL_law_51 16 rfl rfl)
theorem dL_law_1462 : decode cL_law 1462 = .ok (.iload_n 3, 1) := dk_29 (dk_at dksL_law_51 17 rfl rfl)
theorem dL_law_1463 : decode cL_law 1463 = .ok (.iconst 3, 1) := dk_6 (dk_at dksL_law_51 18 rfl rfl)
theorem dL_law_1464 : decode cL_law 1464 = .ok (.iadd, 1) := dk_96 (dk_at dksL_law_51 19 rfl rfl)
theorem dL_law_1465 : decode cL_law 1465 = .ok (.iaload, 1) := dk_46 (dk_at dksL_law_51 20 rfl rfl)
theorem dL_law_1466 : decode cL_law 1466 = .ok (.aload_n 0, 1) := dk_42 (dk_at dksL_law_51 21 rfl rfl)
theorem dL_law_1467 : decode cL_law 1467 = .ok (.iload_n 3, 1) := dk_29 (dk_at dksL_law_51 22 rfl rfl)
theorem dL_law_1468 : decode cL_law 1468 = .ok (.iconst 4, 1) := dk_7 (dk_at dksL_law_51 23 rfl rfl)
theorem dL_law_1469 : decode cL_law 1469 = .ok (.iadd, 1) := dk_96 (dk_at dksL_law_52 0 rfl rfl)
theorem dL_law_1470 : decode cL_law 1470 = .ok (.iaload, 1) := dk_46 (dk_at dksL_law_52 1 rfl rfl)
theorem dL_law_1471 : decode cL_law 1471 = .ok (.invokevirtual 166, 3) := dk_182 0 166 (dk_at dksL_law_52 2 rfl rfl)
theorem dL_law_1474 : decode cL_law 1474 = .ok (.aload_n 2, 1) := dk_44 (dk_at dksL_law_52 5 rfl rfl)
theorem dL_law_1475 : decode cL_law 1475 = .ok (.aload_n 0, 1) := dk_42 (dk_at dksL_law_52 6 rfl rfl)
theorem dL_law_1476 : decode cL_law 1476 = .ok (.iload_n 3, 1) := dk_29 (dk_at dksL_law_52 7 rfl rfl)
theorem dL_law_1477 : decode cL_law 1477 = .ok (.iconst 1, 1) := dk_4 (dk_at dksL_law_52 8 rfl rfl)
theorem dL_law_1478 : decode cL_law 1478 = .ok (.iadd, 1) := dk_96 (dk_at dksL_law_52 9 rfl rfl)
theorem dL_law_1479 : decode cL_law 1479 = .ok (.iaload, 1) := dk_46 (dk_at dksL_law_52 10 rfl rfl)
theorem dL_law_1480 : decode cL_law 1480 = .ok (.aload_n 0, 1) := dk_42 (dk_at dksL_law_52 11 rfl rfl)
theorem dL_law_1481 : decode cL_law 1481 = .ok (.iload_n 3, 1) := dk_29 (dk_at dksL_law_52 12 rfl rfl)
theorem dL_law_1482 : decode cL_law 1482 = .ok (.iconst 2, 1) := dk_5 (dk_at dksL_law_52 13 rfl rfl)
theorem dL_law_1483 : decode cL_law 1483 = .ok (.iadd, 1) := dk_96 (dk_at dksL_law_52 14 rfl rfl)
theorem dL_law_1484 : decode cL_law 1484 = .ok (.iaload, 1) := dk_46 (dk_at dksL_law_52 15 rfl rfl)
theorem dL_law_1485 : decode cL_law 1485 = .ok (.aload_n 0, 1) := dk_42 (dk_at dksL_law_52 16 rfl rfl)
theorem dL_law_1486 : decode cL_law 1486 = .ok (.iload_n 3, 1) := dk_29 (dk_at dksL_law_52 17 rfl rfl)
theorem dL_law_1487 : decode cL_law 1487 = .ok (.iconst 3, 1) := dk_6 (dk_at dksL_law_52 18 rfl rfl)
theorem dL_law_1488 : decode cL_law 1488 = .ok (.iadd, 1) := dk_96 (dk_at dksL_law_52 19 rfl rfl)
theorem dL_law_1489 : decode cL_law 1489 = .ok (.iaload, 1) := dk_46 (dk_at dksL_law_52 20 rfl rfl)
theorem dL_law_1490 : decode cL_law 1490 = .ok (.aload_n 0, 1) := dk_42 (dk_at dksL_law_52 21 rfl rfl)
theorem dL_law_1491 : decode cL_law 1491 = .ok (.iload_n 3, 1) := dk_29 (dk_at dksL_law_52 22 rfl rfl)
theorem dL_law_1492 : decode cL_law 1492 = .ok (.iconst 4, 1) := dk_7 (dk_at dksL_law_52 23 rfl rfl)
theorem dL_law_1493 : decode cL_law 1493 = .ok (.iadd, 1) := dk_96 (dk_at dksL_law_53 0 rfl rfl)
theorem dL_law_1494 : decode cL_law 1494 = .ok (.iaload, 1) := dk_46 (dk_at dksL_law_53 1 rfl rfl)
theorem dL_law_1495 : decode cL_law 1495 = .ok (.invokevirtual 170, 3) := dk_182 0 170 (dk_at dksL_law_53 2 rfl rfl)
theorem dL_law_1498 : decode cL_law 1498 = .ok (.if_icmp .eq 941, 3) := dk_159 3 173 (dk_at dksL_law_53 5 rfl rfl)
theorem dL_law_1501 : decode cL_law 1501 = .ok (.iconst 0, 1) := dk_3 (dk_at dksL_law_53 8 rfl rfl)
theorem dL_law_1502 : decode cL_law 1502 = .ok (.ireturn, 1) := dk_172 (dk_at dksL_law_53 9 rfl rfl)
theorem dL_law_1503 : decode cL_law 1503 = .ok (.aload_n 1, 1) := dk_43 (dk_at dksL_law_53 10 rfl rfl)
theorem dL_law_1504 : decode cL_law 1504 = .ok (.aload_n 0, 1) := dk_42 (dk_at dksL_law_53 11 rfl rfl)
theorem dL_law_1505 : decode cL_law 1505 = .ok (.iload_n 3, 1) := dk_29 (dk_at dksL_law_53 12 rfl rfl)
theorem dL_law_1506 : decode cL_law 1506 = .ok (.iconst 1, 1) := dk_4 (dk_at dksL_law_53 13 rfl rfl)
theorem dL_law_1507 : decode cL_law 1507 = .ok (.iadd, 1) := dk_96 (dk_at dksL_law_53 14 rfl rfl)
theorem dL_law_1508 : decode cL_law 1508 = .ok (.iaload, 1) := dk_46 (dk_at dksL_law_53 15 rfl rfl)
theorem dL_law_1509 : decode cL_law 1509 = .ok (.invokevirtual 171, 3) := dk_182 0 171 (dk_at dksL_law_53 16 rfl rfl)
theorem dL_law_1512 : decode cL_law 1512 = .ok (.aload_n 2, 1) := dk_44 (dk_at dksL_law_53 19 rfl rfl)
theorem dL_law_1513 : decode cL_law 1513 = .ok (.aload_n 0, 1) := dk_42 (dk_at dksL_law_53 20 rfl rfl)
theorem dL_law_1514 : decode cL_law 1514 = .ok (.iload_n 3, 1) := dk_29 (dk_at dksL_law_53 21 rfl rfl)
theorem dL_law_1515 : decode cL_law 1515 = .ok (.iconst 1, 1) := dk_4 (dk_at dksL_law_53 22 rfl rfl)
theorem dL_law_1516 : decode cL_law 1516 = .ok (.iadd, 1) := dk_96 (dk_at dksL_law_53 23 rfl rfl)
theorem dL_law_1517 : decode cL_law 1517 = .ok (.iaload, 1) := dk_46 (dk_at dksL_law_54 0 rfl rfl)
theorem dL_law_1518 : decode cL_law 1518 = .ok (.invokevirtual 175, 3) := dk_182 0 175 (dk_at dksL_law_54 1 rfl rfl)
theorem dL_law_1521 : decode cL_law 1521 = .ok (.if_icmp .eq 918, 3) := dk_159 3 150 (dk_at dksL_law_54 4 rfl rfl)
theorem dL_law_1524 : decode cL_law 1524 = .ok (.iconst 0, 1) := dk_3 (dk_at dksL_law_54 7 rfl rfl)
theorem dL_law_1525 : decode cL_law 1525 = .ok (.ireturn, 1) := dk_172 (dk_at dksL_law_54 8 rfl rfl)
theorem dL_law_1526 : decode cL_law 1526 = .ok (.aload_n 1, 1) := dk_43 (dk_at dksL_law_54 9 rfl rfl)
theorem dL_law_1527 : decode cL_law 1527 = .ok (.aload_n 0, 1) := dk_42 (dk_at dksL_law_54 10 rfl rfl)
theorem dL_law_1528 : decode cL_law 1528 = .ok (.iload_n 3, 1) := dk_29 (dk_at dksL_law_54 11 rfl rfl)
theorem dL_law_1529 : decode cL_law 1529 = .ok (.iconst 1, 1) := dk_4 (dk_at dksL_law_54 12 rfl rfl)
theorem dL_law_1530 : decode cL_law 1530 = .ok (.iadd, 1) := dk_96 (dk_at dksL_law_54 13 rfl rfl)
theorem dL_law_1531 : decode cL_law 1531 = .ok (.iaload, 1) := dk_46 (dk_at dksL_law_54 14 rfl rfl)
theorem dL_law_1532 : decode cL_law 1532 = .ok (.aload_n 0, 1) := dk_42 (dk_at dksL_law_54 15 rfl rfl)
theorem dL_law_1533 : decode cL_law 1533 = .ok (.iload_n 3, 1) := dk_29 (dk_at dksL_law_54 16 rfl rfl)
theorem dL_law_1534 : decode cL_law 1534 = .ok (.iconst 2, 1) := dk_5 (dk_at dksL_law_54 17 rfl rfl)
theorem dL_law_1535 : decode cL_law 1535 = .ok (.iadd, 1) := dk_96 (dk_at dksL_law_54 18 rfl rfl)
theorem dL_law_1536 : decode cL_law 1536 = .ok (.iaload, 1) := dk_46 (dk_at dksL_law_54 19 rfl rfl)
theorem dL_law_1537 : decode cL_law 1537 = .ok (.aload_n 0, 1) := dk_42 (dk_at dksL_law_54 20 rfl rfl)
theorem dL_law_1538 : decode cL_law 1538 = .ok (.iload_n 3, 1) := dk_29 (dk_at dksL_law_54 21 rfl rfl)
theorem dL_law_1539 : decode cL_law 1539 = .ok (.iconst 3, 1) := dk_6 (dk_at dksL_law_54 22 rfl rfl)
theorem dL_law_1540 : decode cL_law 1540 = .ok (.iadd, 1) := dk_96 (dk_at dksL_law_54 23 rfl rfl)
theorem dL_law_1541 : decode cL_law 1541 = .ok (.iaload, 1) := dk_46 (dk_at dksL_law_55 0 rfl rfl)
theorem dL_law_1542 : decode cL_law 1542 = .ok (.ifCond .eq 7, 3) := dk_153 0 7 (dk_at dksL_law_55 1 rfl rfl)
theorem dL_law_1545 : decode cL_law 1545 = .ok (.iconst 1, 1) := dk_4 (dk_at dksL_law_55 4 rfl rfl)
theorem dL_law_1546 : decode cL_law 1546 = .ok (.goto 4, 3) := dk_167 0 4 (dk_at dksL_law_55 5 rfl rfl)
theorem dL_law_1549 : decode cL_law 1549 = .ok (.iconst 0, 1) := dk_3 (dk_at dksL_law_55 8 rfl rfl)
theorem dL_law_1550 : decode cL_law 1550 = .ok (.invokevirtual 176, 3) := dk_182 0 176 (dk_at dksL_law_55 9 rfl rfl)
theorem dL_law_1553 : decode cL_law 1553 = .ok (.aload_n 2, 1) := dk_44 (dk_at dksL_law_55 12 rfl rfl)
theorem dL_law_1554 : decode cL_law 1554 = .ok (.aload_n 0, 1) := dk_42 (dk_at dksL_law_55 13 rfl rfl)
theorem dL_law_1555 : decode cL_law 1555 = .ok (.iload_n 3, 1) := dk_29 (dk_at dksL_law_55 14 rfl rfl)
theorem dL_law_1556 : decode cL_law 1556 = .ok (.iconst 1, 1) := dk_4 (dk_at dksL_law_55 15 rfl rfl)
theorem dL_law_1557 : decode cL_law 1557 = .ok (.iadd, 1) := dk_96 (dk_at dksL_law_55 16 rfl rfl)
theorem dL_law_1558 : decode cL_law 1558 = .ok (.iaload, 1) := dk_46 (dk_at dksL_law_55 17 rfl rfl)
theorem dL_law_1559 : decode cL_law 1559 = .ok (.aload_n 0, 1) := dk_42 (dk_at dksL_law_55 18 rfl rfl)
theorem dL_law_1560 : decode cL_law 1560 = .ok (.iload_n 3, 1) := dk_29 (dk_at dksL_law_55 19 rfl rfl)
theorem dL_law_1561 : decode cL_law 1561 = .ok (.iconst 2, 1) := dk_5 (dk_at dksL_law_55 20 rfl rfl)
theorem dL_law_1562 : decode cL_law 1562 = .ok (.iadd, 1) := dk_96 (dk_at dksL_law_55 21 rfl rfl)
theorem dL_law_1563 : decode cL_law 1563 = .ok (.iaload, 1) := dk_46 (dk_at dksL_law_55 22 rfl rfl)
theorem dL_law_1564 : decode cL_law 1564 = .ok (.aload_n 0, 1) := dk_42 (dk_at dksL_law_55 23 rfl rfl)
theorem dL_law_1565 : decode cL_law 1565 = .ok (.iload_n 3, 1) := dk_29 (dk_at dksL_law_56 0 rfl rfl)
theorem dL_law_1566 : decode cL_law 1566 = .ok (.iconst 3, 1) := dk_6 (dk_at dksL_law_56 1 rfl rfl)
theorem dL_law_1567 : decode cL_law 1567 = .ok (.iadd, 1) := dk_96 (dk_at dksL_law_56 2 rfl rfl)
theorem dL_law_1568 : decode cL_law 1568 = .ok (.iaload, 1) := dk_46 (dk_at dksL_law_56 3 rfl rfl)
theorem dL_law_1569 : decode cL_law 1569 = .ok (.ifCond .eq 7, 3) := dk_153 0 7 (dk_at dksL_law_56 4 rfl rfl)
theorem dL_law_1572 : decode cL_law 1572 = .ok (.iconst 1, 1) := dk_4 (dk_at dksL_law_56 7 rfl rfl)
theorem dL_law_1573 : decode cL_law 1573 = .ok (.goto 4, 3) := dk_167 0 4 (dk_at dksL_law_56 8 rfl rfl)
theorem dL_law_1576 : decode cL_law 1576 = .ok (.iconst 0, 1) := dk_3 (dk_at dksL_law_56 11 rfl rfl)
theorem dL_law_1577 : decode cL_law 1577 = .ok (.invokevirtual 180, 3) := dk_182 0 180 (dk_at dksL_law_56 12 rfl rfl)
theorem dL_law_1580 : decode cL_law 1580 = .ok (.if_icmp .eq 859, 3) := dk_159 3 91 (dk_at dksL_law_56 15 rfl rfl)
theorem dL_law_1583 : decode cL_law 1583 = .ok (.iconst 0, 1) := dk_3 (dk_at dksL_law_56 18 rfl rfl)
theorem dL_law_1584 : decode cL_law 1584 = .ok (.ireturn, 1) := dk_172 (dk_at dksL_law_56 19 rfl rfl)
theorem dL_law_1585 : decode cL_law 1585 = .ok (.aload_n 1, 1) := dk_43 (dk_at dksL_law_56 20 rfl rfl)
theorem dL_law_1586 : decode cL_law 1586 = .ok (.aload_n 0, 1) := dk_42 (dk_at dksL_law_56 21 rfl rfl)
theorem dL_law_1587 : decode cL_law 1587 = .ok (.iload_n 3, 1) := dk_29 (dk_at dksL_law_56 22 rfl rfl)
theorem dL_law_1588 : decode cL_law 1588 = .ok (.iconst 1, 1) := dk_4 (dk_at dksL_law_56 23 rfl rfl)
theorem dL_law_1589 : decode cL_law 1589 = .ok (.iadd, 1) := dk_96 (dk_at dksL_law_57 0 rfl rfl)
theorem dL_law_1590 : decode cL_law 1590 = .ok (.iaload, 1) := dk_46 (dk_at dksL_law_57 1 rfl rfl)
theorem dL_law_1591 : decode cL_law 1591 = .ok (.aload_n 0, 1) := dk_42 (dk_at dksL_law_57 2 rfl rfl)
theorem dL_law_1592 : decode cL_law 1592 = .ok (.iload_n 3, 1) := dk_29 (dk_at dksL_law_57 3 rfl rfl)
theorem dL_law_1593 : decode cL_law 1593 = .ok (.iconst 2, 1) := dk_5 (dk_at dksL_law_57 4 rfl rfl)
theorem dL_law_1594 : decode cL_law 1594 = .ok (.iadd, 1) := dk_96 (dk_at dksL_law_57 5 rfl rfl)
theorem dL_law_1595 : decode cL_law 1595 = .ok (.iaload, 1) := dk_46 (dk_at dksL_law_57 6 rfl rfl)
theorem dL_law_1596 : decode cL_law 1596 = .ok (.aload_n 0, 1) := dk_42 (dk_at dksL_law_57 7 rfl rfl)
theorem dL_law_1597 : decode cL_law 1597 = .ok (.iload_n 3, 1) := dk_29 (dk_at dksL_law_57 8 rfl rfl)
theorem dL_law_1598 : decode cL_law 1598 = .ok (.iconst 3, 1) := dk_6 (dk_at dksL_law_57 9 rfl rfl)
theorem dL_law_1599 : decode cL_law 1599 = .ok (.iadd, 1) := dk_96 (dk_at dksL_law_57 10 rfl rfl)
theorem dL_law_1600 : decode cL_law 1600 = .ok (.iaload, 1) := dk_46 (dk_at dksL_law_57 11 rfl rfl)
theorem dL_law_1601 : decode cL_law 1601 = .ok (.invokevirtual 181, 3) := dk_182 0 181 (dk_at dksL_law_57 12 rfl rfl)
theorem dL_law_1604 : decode cL_law 1604 = .ok (.aload_n 2, 1) := dk_44 (dk_at dksL_law_57 15 rfl rfl)
theorem dL_law_1605 : decode cL_law 1605 = .ok (.aload_n 0, 1) := dk_42 (dk_at dksL_law_57 16 rfl rfl)
theorem dL_law_1606 : decode cL_law 1606 = .ok (.iload_n 3, 1) := dk_29 (dk_at dksL_law_57 17 rfl rfl)
theorem dL_law_1607 : decode cL_law 1607 = .ok (.iconst 1, 1) := dk_4 (dk_at dksL_law_57 18 rfl rfl)
theorem dL_law_1608 : decode cL_law 1608 = .ok (.iadd, 1) := dk_96 (dk_at dksL_law_57 19 rfl rfl)
theorem dL_law_1609 : decode cL_law 1609 = .ok (.iaload, 1) := dk_46 (dk_at dksL_law_57 20 rfl rfl)
theorem dL_law_1610 : decode cL_law 1610 = .ok (.aload_n 0, 1) := dk_42 (dk_at dksL_law_57 21 rfl rfl)
theorem dL_law_1611 : decode cL_law 1611 = .ok (.iload_n 3, 1) := dk_29 (dk_at dksL_law_57 22 rfl rfl)
theorem dL_law_1612 : decode cL_law 1612 = .ok (.iconst 2, 1) := dk_5 (dk_at dksL_law_57 23 rfl rfl)
theorem dL_law_1613 : decode cL_law 1613 = .ok (.iadd, 1) := dk_96 (dk_at dksL_law_58 0 rfl rfl)
theorem dL_law_1614 : decode cL_law 1614 = .ok (.iaload, 1) := dk_46 (dk_at dksL_law_58 1 rfl rfl)
theorem dL_law_1615 : decode cL_law 1615 = .ok (.aload_n 0, 1) := dk_42 (dk_at dksL_law_58 2 rfl rfl)
theorem dL_law_1616 : decode cL_law 1616 = .ok (.iload_n 3, 1) := dk_29 (dk_at dksL_law_58 3 rfl rfl)
theorem dL_law_1617 : decode cL_law 1617 = .ok (.iconst 3, 1) := dk_6 (dk_at dksL_law_58 4 rfl rfl)
theorem dL_law_1618 : decode cL_law 1618 = .ok (.iadd, 1) := dk_96 (dk_at dksL_law_58 5 rfl rfl)
theorem dL_law_1619 : decode cL_law 1619 = .ok (.iaload, 1) := dk_46 (dk_at dksL_law_58 6 rfl rfl)
theorem dL_law_1620 : decode cL_law 1620 = .ok (.invokevirtual 184, 3) := dk_182 0 184 (dk_at dksL_law_58 7 rfl rfl)
theorem dL_law_1623 : decode cL_law 1623 = .ok (.if_icmp .eq 816, 3) := dk_159 3 48 (dk_at dksL_law_58 10 rfl rfl)
theorem dL_law_1626 : decode cL_law 1626 = .ok (.iconst 0, 1) := dk_3 (dk_at dksL_law_58 13 rfl rfl)
theorem dL_law_1627 : decode cL_law 1627 = .ok (.ireturn, 1) := dk_172 (dk_at dksL_law_58 14 rfl rfl)
theorem dL_law_1628 : decode cL_law 1628 = .ok (.aload_n 1, 1) := dk_43 (dk_at dksL_law_58 15 rfl rfl)
theorem dL_law_1629 : decode cL_law 1629 = .ok (.aload_n 0, 1) := dk_42 (dk_at dksL_law_58 16 rfl rfl)
theorem dL_law_1630 : decode cL_law 1630 = .ok (.iload_n 3, 1) := dk_29 (dk_at dksL_law_58 17 rfl rfl)
theorem dL_law_1631 : decode cL_law 1631 = .ok (.iconst 1, 1) := dk_4 (dk_at dksL_law_58 18 rfl rfl)
theorem dL_law_1632 : decode cL_law 1632 = .ok (.iadd, 1) := dk_96 (dk_at dksL_law_58 19 rfl rfl)
theorem dL_law_1633 : decode cL_law 1633 = .ok (.iaload, 1) := dk_46 (dk_at dksL_law_58 20 rfl rfl)
theorem dL_law_1634 : decode cL_law 1634 = .ok (.aload_n 0, 1) := dk_42 (dk_at dksL_law_58 21 rfl rfl)
theorem dL_law_1635 : decode cL_law 1635 = .ok (.iload_n 3, 1) := dk_29 (dk_at dksL_law_58 22 rfl rfl)
theorem dL_law_1636 : decode cL_law 1636 = .ok (.iconst 2, 1) := dk_5 (dk_at dksL_law_58 23 rfl rfl)
theorem dL_law_1637 : decode cL_law 1637 = .ok (.iadd, 1) := dk_96 (dk_at dksL_law_59 0 rfl rfl)
theorem dL_law_1638 : decode cL_law 1638 = .ok (.iaload, 1) := dk_46 (dk_at dksL_law_59 1 rfl rfl)
theorem dL_law_1639 : decode cL_law 1639 = .ok (.invokevirtual 185, 3) := dk_182 0 185 (dk_at dksL_law_59 2 rfl rfl)
theorem dL_law_1642 : decode cL_law 1642 = .ok (.aload_n 2, 1) := dk_44 (dk_at dksL_law_59 5 rfl rfl)
theorem dL_law_1643 : decode cL_law 1643 = .ok (.aload_n 0, 1) := dk_42 (dk_at dksL_law_59 6 rfl rfl)
theorem dL_law_1644 : decode cL_law 1644 = .ok (.iload_n 3, 1) := dk_29 (dk_at dksL_law_59 7 rfl rfl)
theorem dL_law_1645 : decode cL_law 1645 = .ok (.iconst 1, 1) := dk_4 (dk_at dksL_law_59 8 rfl rfl)
theorem dL_law_1646 : decode cL_law 1646 = .ok (.iadd, 1) := dk_96 (dk_at dksL_law_59 9 rfl rfl)
theorem dL_law_1647 : decode cL_law 1647 = .ok (.iaload, 1) := dk_46 (dk_at dksL_law_59 10 rfl rfl)
theorem dL_law_1648 : decode cL_law 1648 = .ok (.aload_n 0, 1) := dk_42 (dk_at dksL_law_59 11 rfl rfl)
theorem dL_law_1649 : decode cL_law 1649 = .ok (.iload_n 3, 1) := dk_29 (dk_at dksL_law_59 12 rfl rfl)
theorem dL_law_1650 : decode cL_law 1650 = .ok (.iconst 2, 1) := dk_5 (dk_at dksL_law_59 13 rfl rfl)
theorem dL_law_1651 : decode cL_law 1651 = .ok (.iadd, 1) := dk_96 (dk_at dksL_law_59 14 rfl rfl)
theorem dL_law_1652 : decode cL_law 1652 = .ok (.iaload, 1) := dk_46 (dk_at dksL_law_59 15 rfl rfl)
theorem dL_law_1653 : decode cL_law 1653 = .ok (.invokevirtual 188, 3) := dk_182 0 188 (dk_at dksL_law_59 16 rfl rfl)
theorem dL_law_1656 : decode cL_law 1656 = .ok (.if_icmp .eq 783, 3) := dk_159 3 15 (dk_at dksL_law_59 19 rfl rfl)
theorem dL_law_1659 : decode cL_law 1659 = .ok (.iconst 0, 1) := dk_3 (dk_at dksL_law_59 22 rfl rfl)
theorem dL_law_1660 : decode cL_law 1660 = .ok (.ireturn, 1) := dk_172 (dk_at dksL_law_59 23 rfl rfl)
theorem dL_law_1661 : decode cL_law 1661 = .ok (.aload_n 1, 1) := dk_43 (dk_at dksL_law_60 0 rfl rfl)
theorem dL_law_1662 : decode cL_law 1662 = .ok (.aload_n 0, 1) := dk_42 (dk_at dksL_law_60 1 rfl rfl)
theorem dL_law_1663 : decode cL_law 1663 = .ok (.iload_n 3, 1) := dk_29 (dk_at dksL_law_60 2 rfl rfl)
theorem dL_law_1664 : decode cL_law 1664 = .ok (.iconst 1, 1) := dk_4 (dk_at dksL_law_60 3 rfl rfl)
theorem dL_law_1665 : decode cL_law 1665 = .ok (.iadd, 1) := dk_96 (dk_at dksL_law_60 4 rfl rfl)
theorem dL_law_1666 : decode cL_law 1666 = .ok (.iaload, 1) := dk_46 (dk_at dksL_law_60 5 rfl rfl)
theorem dL_law_1667 : decode cL_law 1667 = .ok (.aload_n 0, 1) := dk_42 (dk_at dksL_law_60 6 rfl rfl)
theorem dL_law_1668 : decode cL_law 1668 = .ok (.iload_n 3, 1) := dk_29 (dk_at dksL_law_60 7 rfl rfl)
theorem dL_law_1669 : decode cL_law 1669 = .ok (.iconst 2, 1) := dk_5 (dk_at dksL_law_60 8 rfl rfl)
theorem dL_law_1670 : decode cL_law 1670 = .ok (.iadd, 1) := dk_96 (dk_at dksL_law_60 9 rfl rfl)
theorem dL_law_1671 : decode cL_law 1671 = .ok (.iaload, 1) := dk_46 (dk_at dksL_law_60 10 rfl rfl)
theorem dL_law_1672 : decode cL_law 1672 = .ok (.invokevirtual 189, 3) := dk_182 0 189 (dk_at dksL_law_60 11 rfl rfl)
theorem dL_law_1675 : decode cL_law 1675 = .ok (.aload_n 2, 1) := dk_44 (dk_at dksL_law_60 14 rfl rfl)
theorem dL_law_1676 : decode cL_law 1676 = .ok (.aload_n 0, 1) := dk_42 (dk_at dksL_law_60 15 rfl rfl)
theorem dL_law_1677 : decode cL_law 1677 = .ok (.iload_n 3, 1) := dk_29 (dk_at dksL_law_60 16 rfl rfl)
theorem dL_law_1678 : decode cL_law 1678 = .ok (.iconst 1, 1) := dk_4 (dk_at dksL_law_60 17 rfl rfl)
theorem dL_law_1679 : decode cL_law 1679 = .ok (.iadd, 1) := dk_96 (dk_at dksL_law_60 18 rfl rfl)
theorem dL_law_1680 : decode cL_law 1680 = .ok (.iaload, 1) := dk_46 (dk_at dksL_law_60 19 rfl rfl)
theorem dL_law_1681 : decode cL_law 1681 = .ok (.aload_n 0, 1) := dk_42 (dk_at dksL_law_60 20 rfl rfl)
theorem dL_law_1682 : decode cL_law 1682 = .ok (.iload_n 3, 1) := dk_29 (dk_at dksL_law_60 21 rfl rfl)
theorem dL_law_1683 : decode cL_law 1683 = .ok (.iconst 2, 1) := dk_5 (dk_at dksL_law_60 22 rfl rfl)
theorem dL_law_1684 : decode cL_law 1684 = .ok (.iadd, 1) := dk_96 (dk_at dksL_law_60 23 rfl rfl)
theorem dL_law_1685 : decode cL_law 1685 = .ok (.iaload, 1) := dk_46 (dk_at dksL_law_61 0 rfl rfl)
theorem dL_law_1686 : decode cL_law 1686 = .ok (.invokevirtual 192, 3) := dk_182 0 192 (dk_at dksL_law_61 1 rfl rfl)
theorem dL_law_1689 : decode cL_law 1689 = .ok (.if_icmp .eq 750, 3) := dk_159 2 238 (dk_at dksL_law_61 4 rfl rfl)
theorem dL_law_1692 : decode cL_law 1692 = .ok (.iconst 0, 1) := dk_3 (dk_at dksL_law_61 7 rfl rfl)
theorem dL_law_1693 : decode cL_law 1693 = .ok (.ireturn, 1) := dk_172 (dk_at dksL_law_61 8 rfl rfl)
theorem dL_law_1694 : decode cL_law 1694 = .ok (.aload_n 1, 1) := dk_43 (dk_at dksL_law_61 9 rfl rfl)
theorem dL_law_1695 : decode cL_law 1695 = .ok (.aload_n 0, 1) := dk_42 (dk_at dksL_law_61 10 rfl rfl)
theorem dL_law_1696 : decode cL_law 1696 = .ok (.iload_n 3, 1) := dk_29 (dk_at dksL_law_61 11 rfl rfl)
theorem dL_law_1697 : decode cL_law 1697 = .ok (.iconst 1, 1) := dk_4 (dk_at dksL_law_61 12 rfl rfl)
theorem dL_law_1698 : decode cL_law 1698 = .ok (.iadd, 1) := dk_96 (dk_at dksL_law_61 13 rfl rfl)
theorem dL_law_1699 : decode cL_law 1699 = .ok (.iaload, 1) := dk_46 (dk_at dksL_law_61 14 rfl rfl)
theorem dL_law_1700 : decode cL_law 1700 = .ok (.aload_n 0, 1) := dk_42 (dk_at dksL_law_61 15 rfl rfl)
theorem dL_law_1701 : decode cL_law 1701 = .ok (.iload_n 3, 1) := dk_29 (dk_at dksL_law_61 16 rfl rfl)
theorem dL_law_1702 : decode cL_law 1702 = .ok (.iconst 2, 1) := dk_5 (dk_at dksL_law_61 17 rfl rfl)
theorem dL_law_1703 : decode cL_law 1703 = .ok (.iadd, 1) := dk_96 (dk_at dksL_law_61 18 rfl rfl)
theorem dL_law_1704 : decode cL_law 1704 = .ok (.iaload, 1) := dk_46 (dk_at dksL_law_61 19 rfl rfl)
theorem dL_law_1705 : decode cL_law 1705 = .ok (.invokevirtual 193, 3) := dk_182 0 193 (dk_at dksL_law_61 20 rfl rfl)
theorem dL_law_1708 : decode cL_law 1708 = .ok (.aload_n 2, 1) := dk_44 (dk_at dksL_law_61 23 rfl rfl)
theorem dL_law_1709 : decode cL_law 1709 = .ok (.aload_n 0, 1) := dk_42 (dk_at dksL_law_62 0 rfl rfl)
theorem dL_law_1710 : decode cL_law 1710 = .ok (.iload_n 3, 1) := dk_29 (dk_at dksL_law_62 1 rfl rfl)
theorem dL_law_1711 : decode cL_law 1711 = .ok (.iconst 1, 1) := dk_4 (dk_at dksL_law_62 2 rfl rfl)
theorem dL_law_1712 : decode cL_law 1712 = .ok (.iadd, 1) := dk_96 (dk_at dksL_law_62 3 rfl rfl)
theorem dL_law_1713 : decode cL_law 1713 = .ok (.iaload, 1) := dk_46 (dk_at dksL_law_62 4 rfl rfl)
theorem dL_law_1714 : decode cL_law 1714 = .ok (.aload_n 0, 1) := dk_42 (dk_at dksL_law_62 5 rfl rfl)
theorem dL_law_1715 : decode cL_law 1715 = .ok (.iload_n 3, 1) := dk_29 (dk_at dksL_law_62 6 rfl rfl)
theorem dL_law_1716 : decode cL_law 1716 = .ok (.iconst 2, 1) := dk_5 (dk_at dksL_law_62 7 rfl rfl)
theorem dL_law_1717 : decode cL_law 1717 = .ok (.iadd, 1) := dk_96 (dk_at dksL_law_62 8 rfl rfl)
theorem dL_law_1718 : decode cL_law 1718 = .ok (.iaload, 1) := dk_46 (dk_at dksL_law_62 9 rfl rfl)
theorem dL_law_1719 : decode cL_law 1719 = .ok (.invokevirtual 196, 3) := dk_182 0 196 (dk_at dksL_law_62 10 rfl rfl)
theorem dL_law_1722 : decode cL_law 1722 = .ok (.if_icmp .eq 717, 3) := dk_159 2 205 (dk_at dksL_law_62 13 rfl rfl)
theorem dL_law_1725 : decode cL_law 1725 = .ok (.iconst 0, 1) := dk_3 (dk_at dksL_law_62 16 rfl rfl)
theorem dL_law_1726 : decode cL_law 1726 = .ok (.ireturn, 1) := dk_172 (dk_at dksL_law_62 17 rfl rfl)
theorem dL_law_1727 : decode cL_law 1727 = .ok (.aload_n 1, 1) := dk_43 (dk_at dksL_law_62 18 rfl rfl)
theorem dL_law_1728 : decode cL_law 1728 = .ok (.aload_n 0, 1) := dk_42 (dk_at dksL_law_62 19 rfl rfl)
theorem dL_law_1729 : decode cL_law 1729 = .ok (.iload_n 3, 1) := dk_29 (dk_at dksL_law_62 20 rfl rfl)
theorem dL_law_1730 : decode cL_law 1730 = .ok (.iconst 1, 1) := dk_4 (dk_at dksL_law_62 21 rfl rfl)
theorem dL_law_1731 : decode cL_law 1731 = .ok (.iadd, 1) := dk_96 (dk_at dksL_law_62 22 rfl rfl)
theorem dL_law_1732 : decode cL_law 1732 = .ok (.iaload, 1) := dk_46 (dk_at dksL_law_62 23 rfl rfl)
theorem dL_law_1733 : decode cL_law 1733 = .ok (.invokevirtual 197, 3) := dk_182 0 197 (dk_at dksL_law_63 0 rfl rfl)
theorem dL_law_1736 : decode cL_law 1736 = .ok (.aload_n 2, 1) := dk_44 (dk_at dksL_law_63 3 rfl rfl)
theorem dL_law_1737 : decode cL_law 1737 = .ok (.aload_n 0, 1) := dk_42 (dk_at dksL_law_63 4 rfl rfl)
theorem dL_law_1738 : decode cL_law 1738 = .ok (.iload_n 3, 1) := dk_29 (dk_at dksL_law_63 5 rfl rfl)
theorem dL_law_1739 : decode cL_law 1739 = .ok (.iconst 1, 1) := dk_4 (dk_at dksL_law_63 6 rfl rfl)
theorem dL_law_1740 : decode cL_law 1740 = .ok (.iadd, 1) := dk_96 (dk_at dksL_law_63 7 rfl rfl)
theorem dL_law_1741 : decode cL_law 1741 = .ok (.iaload, 1) := dk_46 (dk_at dksL_law_63 8 rfl rfl)
theorem dL_law_1742 : decode cL_law 1742 = .ok (.invokevirtual 200, 3) := dk_182 0 200 (dk_at dksL_law_63 9 rfl rfl)
theorem dL_law_1745 : decode cL_law 1745 = .ok (.if_icmp .eq 694, 3) := dk_159 2 182 (dk_at dksL_law_63 12 rfl rfl)
theorem dL_law_1748 : decode cL_law 1748 = .ok (.iconst 0, 1) := dk_3 (dk_at dksL_law_63 15 rfl rfl)
theorem dL_law_1749 : decode cL_law 1749 = .ok (.ireturn, 1) := dk_172 (dk_at dksL_law_63 16 rfl rfl)
theorem dL_law_1750 : decode cL_law 1750 = .ok (.aload_n 1, 1) := dk_43 (dk_at dksL_law_63 17 rfl rfl)
theorem dL_law_1751 : decode cL_law 1751 = .ok (.aload_n 0, 1) := dk_42 (dk_at dksL_law_63 18 rfl rfl)
theorem dL_law_1752 : decode cL_law 1752 = .ok (.iload_n 3, 1) := dk_29 (dk_at dksL_law_63 19 rfl rfl)
theorem dL_law_1753 : decode cL_law 1753 = .ok (.iconst 1, 1) := dk_4 (dk_at dksL_law_63 20 rfl rfl)
theorem dL_law_1754 : decode cL_law 1754 = .ok (.iadd, 1) := dk_96 (dk_at dksL_law_63 21 rfl rfl)
theorem dL_law_1755 : decode cL_law 1755 = .ok (.iaload, 1) := dk_46 (dk_at dksL_law_63 22 rfl rfl)
theorem dL_law_1756 : decode cL_law 1756 = .ok (.aload_n 0, 1) := dk_42 (dk_at dksL_law_63 23 rfl rfl)
theorem dL_law_1757 : decode cL_law 1757 = .ok (.iload_n 3, 1) := dk_29 (dk_at dksL_law_64 0 rfl rfl)
theorem dL_law_1758 : decode cL_law 1758 = .ok (.iconst 2, 1) := dk_5 (dk_at dksL_law_64 1 rfl rfl)
theorem dL_law_1759 : decode cL_law 1759 = .ok (.iadd, 1) := dk_96 (dk_at dksL_law_64 2 rfl rfl)
theorem dL_law_1760 : decode cL_law 1760 = .ok (.iaload, 1) := dk_46 (dk_at dksL_law_64 3 rfl rfl)
theorem dL_law_1761 : decode cL_law 1761 = .ok (.invokevirtual 201, 3) := dk_182 0 201 (dk_at dksL_law_64 4 rfl rfl)
theorem dL_law_1764 : decode cL_law 1764 = .ok (.aload_n 2, 1) := dk_44 (dk_at dksL_law_64 7 rfl rfl)
theorem dL_law_1765 : decode cL_law 1765 = .ok (.aload_n 0, 1) := dk_42 (dk_at dksL_law_64 8 rfl rfl)
theorem dL_law_1766 : decode cL_law 1766 = .ok (.iload_n 3, 1) := dk_29 (dk_at dksL_law_64 9 rfl rfl)
theorem dL_law_1767 : decode cL_law 1767 = .ok (.iconst 1, 1) := dk_4 (dk_at dksL_law_64 10 rfl rfl)
theorem dL_law_1768 : decode cL_law 1768 = .ok (.iadd, 1) := dk_96 (dk_at dksL_law_64 11 rfl rfl)
theorem dL_law_1769 : decode cL_law 1769 = .ok (.iaload, 1) := dk_46 (dk_at dksL_law_64 12 rfl rfl)
theorem dL_law_1770 : decode cL_law 1770 = .ok (.aload_n 0, 1) := dk_42 (dk_at dksL_law_64 13 rfl rfl)
theorem dL_law_1771 : decode cL_law 1771 = .ok (.iload_n 3, 1) := dk_29 (dk_at dksL_law_64 14 rfl rfl)
theorem dL_law_1772 : decode cL_law 1772 = .ok (.iconst 2, 1) := dk_5 (dk_at dksL_law_64 15 rfl rfl)
theorem dL_law_1773 : decode cL_law 1773 = .ok (.iadd, 1) := dk_96 (dk_at dksL_law_64 16 rfl rfl)
theorem dL_law_1774 : decode cL_law 1774 = .ok (.iaload, 1) := dk_46 (dk_at dksL_law_64 17 rfl rfl)
theorem dL_law_1775 : decode cL_law 1775 = .ok (.invokevirtual 204, 3) := dk_182 0 204 (dk_at dksL_law_64 18 rfl rfl)
theorem dL_law_1778 : decode cL_law 1778 = .ok (.if_icmp .eq 661, 3) := dk_159 2 149 (dk_at dksL_law_64 21 rfl rfl)
theorem dL_law_1781 : decode cL_law 1781 = .ok (.iconst 0, 1) := dk_3 (dk_at dksL_law_65 0 rfl rfl)
theorem dL_law_1782 : decode cL_law 1782 = .ok (.ireturn, 1) := dk_172 (dk_at dksL_law_65 1 rfl rfl)
theorem dL_law_1783 : decode cL_law 1783 = .ok (.aload_n 1, 1) := dk_43 (dk_at dksL_law_65 2 rfl rfl)
theorem dL_law_1784 : decode cL_law 1784 = .ok (.aload_n 0, 1) := dk_42 (dk_at dksL_law_65 3 rfl rfl)
theorem dL_law_1785 : decode cL_law 1785 = .ok (.iload_n 3, 1) := dk_29 (dk_at dksL_law_65 4 rfl rfl)
theorem dL_law_1786 : decode cL_law 1786 = .ok (.iconst 1, 1) := dk_4 (dk_at dksL_law_65 5 rfl rfl)
theorem dL_law_1787 : decode cL_law 1787 = .ok (.iadd, 1) := dk_96 (dk_at dksL_law_65 6 rfl rfl)
theorem dL_law_1788 : decode cL_law 1788 = .ok (.iaload, 1) := dk_46 (dk_at dksL_law_65 7 rfl rfl)
theorem dL_law_1789 : decode cL_law 1789 = .ok (.aload_n 0, 1) := dk_42 (dk_at dksL_law_65 8 rfl rfl)
theorem dL_law_1790 : decode cL_law 1790 = .ok (.iload_n 3, 1) := dk_29 (dk_at dksL_law_65 9 rfl rfl)
theorem dL_law_1791 : decode cL_law 1791 = .ok (.iconst 2, 1) := dk_5 (dk_at dksL_law_65 10 rfl rfl)
theorem dL_law_1792 : decode cL_law 1792 = .ok (.iadd, 1) := dk_96 (dk_at dksL_law_65 11 rfl rfl)
theorem dL_law_1793 : decode cL_law 1793 = .ok (.iaload, 1) := dk_46 (dk_at dksL_law_65 12 rfl rfl)
theorem dL_law_1794 : decode cL_law 1794 = .ok (.invokevirtual 205, 3) := dk_182 0 205 (dk_at dksL_law_65 13 rfl rfl)
theorem dL_law_1797 : decode cL_law 1797 = .ok (.aload_n 2, 1) := dk_44 (dk_at dksL_law_65 16 rfl rfl)
theorem dL_law_1798 : decode cL_law 1798 = .ok (.aload_n 0, 1) := dk_42 (dk_at dksL_law_65 17 rfl rfl)
theorem dL_law_1799 : decode cL_law 1799 = .ok (.iload_n 3, 1) := dk_29 (dk_at dksL_law_65 18 rfl rfl)
theorem dL_law_1800 : decode cL_law 1800 = .ok (.iconst 1, 1) := dk_4 (dk_at dksL_law_65 19 rfl rfl)
theorem dL_law_1801 : decode cL_law 1801 = .ok (.iadd, 1) := dk_96 (dk_at dksL_law_65 20 rfl rfl)
theorem dL_law_1802 : decode cL_law 1802 = .ok (.iaload, 1) := dk_46 (dk_at dksL_law_65 21 rfl rfl)
theorem dL_law_1803 : decode cL_law 1803 = .ok (.aload_n 0, 1) := dk_42 (dk_at dksL_law_65 22 rfl rfl)
theorem dL_law_1804 : decode cL_law 1804 = .ok (.iload_n 3, 1) := dk_29 (dk_at dksL_law_65 23 rfl rfl)
theorem dL_law_1805 : decode cL_law 1805 = .ok (.iconst 2, 1) := dk_5 (dk_at dksL_law_66 0 rfl rfl)
theorem dL_law_1806 : decode cL_law 1806 = .ok (.iadd, 1) := dk_96 (dk_at dksL_law_66 1 rfl rfl)
theorem dL_law_1807 : decode cL_law 1807 = .ok (.iaload, 1) := dk_46 (dk_at dksL_law_66 2 rfl rfl)
theorem dL_law_1808 : decode cL_law 1808 = .ok (.invokevirtual 208, 3) := dk_182 0 208 (dk_at dksL_law_66 3 rfl rfl)
theorem dL_law_1811 : decode cL_law 1811 = .ok (.if_icmp .eq 628, 3) := dk_159 2 116 (dk_at dksL_law_66 6 rfl rfl)
theorem dL_law_1814 : decode cL_law 1814 = .ok (.iconst 0, 1) := dk_3 (dk_at dksL_law_66 9 rfl rfl)
theorem dL_law_1815 : decode cL_law 1815 = .ok (.ireturn, 1) := dk_172 (dk_at dksL_law_66 10 rfl rfl)
theorem dL_law_1816 : decode cL_law 1816 = .ok (.aload_n 1, 1) := dk_43 (dk_at dksL_law_66 11 rfl rfl)
theorem dL_law_1817 : decode cL_law 1817 = .ok (.aload_n 0, 1) := dk_42 (dk_at dksL_law_66 12 rfl rfl)
theorem dL_law_1818 : decode cL_law 1818 = .ok (.iload_n 3, 1) := dk_29 (dk_at dksL_law_66 13 rfl rfl)
theorem dL_law_1819 : decode cL_law 1819 = .ok (.iconst 1, 1) := dk_4 (dk_at dksL_law_66 14 rfl rfl)
theorem dL_law_1820 : decode cL_law 1820 = .ok (.iadd, 1) := dk_96 (dk_at dksL_law_66 15 rfl rfl)
theorem dL_law_1821 : decode cL_law 1821 = .ok (.iaload, 1) := dk_46 (dk_at dksL_law_66 16 rfl rfl)
theorem dL_law_1822 : decode cL_law 1822 = .ok (.invokevirtual 209, 3) := dk_182 0 209 (dk_at dksL_law_66 17 rfl rfl)
theorem dL_law_1825 : decode cL_law 1825 = .ok (.aload_n 2, 1) := dk_44 (dk_at dksL_law_66 20 rfl rfl)
theorem dL_law_1826 : decode cL_law 1826 = .ok (.aload_n 0, 1) := dk_42 (dk_at dksL_law_66 21 rfl rfl)
theorem dL_law_1827 : decode cL_law 1827 = .ok (.iload_n 3, 1) := dk_29 (dk_at dksL_law_66 22 rfl rfl)
theorem dL_law_1828 : decode cL_law 1828 = .ok (.iconst 1, 1) := dk_4 (dk_at dksL_law_66 23 rfl rfl)
theorem dL_law_1829 : decode cL_law 1829 = .ok (.iadd, 1) := dk_96 (dk_at dksL_law_67 0 rfl rfl)
theorem dL_law_1830 : decode cL_law 1830 = .ok (.iaload, 1) := dk_46 (dk_at dksL_law_67 1 rfl rfl)
theorem dL_law_1831 : decode cL_law 1831 = .ok (.invokevirtual 212, 3) := dk_182 0 212 (dk_at dksL_law_67 2 rfl rfl)
theorem dL_law_1834 : decode cL_law 1834 = .ok (.if_icmp .eq 605, 3) := dk_159 2 93 (dk_at dksL_law_67 5 rfl rfl)
theorem dL_law_1837 : decode cL_law 1837 = .ok (.iconst 0, 1) := dk_3 (dk_at dksL_law_67 8 rfl rfl)
theorem dL_law_1838 : decode cL_law 1838 = .ok (.ireturn, 1) := dk_172 (dk_at dksL_law_67 9 rfl rfl)
theorem dL_law_1839 : decode cL_law 1839 = .ok (.aload_n 1, 1) := dk_43 (dk_at dksL_law_67 10 rfl rfl)
theorem dL_law_1840 : decode cL_law 1840 = .ok (.aload_n 0, 1) := dk_42 (dk_at dksL_law_67 11 rfl rfl)
theorem dL_law_1841 : decode cL_law 1841 = .ok (.iload_n 3, 1) := dk_29 (dk_at dksL_law_67 12 rfl rfl)
theorem dL_law_1842 : decode cL_law 1842 = .ok (.iconst 1, 1) := dk_4 (dk_at dksL_law_67 13 rfl rfl)
theorem dL_law_1843 : decode cL_law 1843 = .ok (.iadd, 1) := dk_96 (dk_at dksL_law_67 14 rfl rfl)
theorem dL_law_1844 : decode cL_law 1844 = .ok (.iaload, 1) := dk_46 (dk_at dksL_law_67 15 rfl rfl)
theorem dL_law_1845 : decode cL_law 1845 = .ok (.invokevirtual 213, 3) := dk_182 0 213 (dk_at dksL_law_67 16 rfl rfl)
theorem dL_law_1848 : decode cL_law 1848 = .ok (.aload_n 2, 1) := dk_44 (dk_at dksL_law_67 19 rfl rfl)
theorem dL_law_1849 : decode cL_law 1849 = .ok (.aload_n 0, 1) := dk_42 (dk_at dksL_law_67 20 rfl rfl)
theorem dL_law_1850 : decode cL_law 1850 = .ok (.iload_n 3, 1) := dk_29 (dk_at dksL_law_67 21 rfl rfl)
theorem dL_law_1851 : decode cL_law 1851 = .ok (.iconst 1, 1) := dk_4 (dk_at dksL_law_67 22 rfl rfl)
theorem dL_law_1852 : decode cL_law 1852 = .ok (.iadd, 1) := dk_96 (dk_at dksL_law_67 23 rfl rfl)
theorem dL_law_1853 : decode cL_law 1853 = .ok (.iaload, 1) := dk_46 (dk_at dksL_law_68 0 rfl rfl)
theorem dL_law_1854 : decode cL_law 1854 = .ok (.invokevirtual 216, 3) := dk_182 0 216 (dk_at dksL_law_68 1 rfl rfl)
theorem dL_law_1857 : decode cL_law 1857 = .ok (.if_icmp .eq 582, 3) := dk_159 2 70 (dk_at dksL_law_68 4 rfl rfl)
theorem dL_law_1860 : decode cL_law 1860 = .ok (.iconst 0, 1) := dk_3 (dk_at dksL_law_68 7 rfl rfl)
theorem dL_law_1861 : decode cL_law 1861 = .ok (.ireturn, 1) := dk_172 (dk_at dksL_law_68 8 rfl rfl)
theorem dL_law_1862 : decode cL_law 1862 = .ok (.aload_n 1, 1) := dk_43 (dk_at dksL_law_68 9 rfl rfl)
theorem dL_law_1863 : decode cL_law 1863 = .ok (.aload_n 0, 1) := dk_42 (dk_at dksL_law_68 10 rfl rfl)
theorem dL_law_1864 : decode cL_law 1864 = .ok (.iload_n 3, 1) := dk_29 (dk_at dksL_law_68 11 rfl rfl)
theorem dL_law_1865 : decode cL_law 1865 = .ok (.iconst 1, 1) := dk_4 (dk_at dksL_law_68 12 rfl rfl)
theorem dL_law_1866 : decode cL_law 1866 = .ok (.iadd, 1) := dk_96 (dk_at dksL_law_68 13 rfl rfl)
theorem dL_law_1867 : decode cL_law 1867 = .ok (.iaload, 1) := dk_46 (dk_at dksL_law_68 14 rfl rfl)
theorem dL_law_1868 : decode cL_law 1868 = .ok (.aload_n 0, 1) := dk_42 (dk_at dksL_law_68 15 rfl rfl)
theorem dL_law_1869 : decode cL_law 1869 = .ok (.iload_n 3, 1) := dk_29 (dk_at dksL_law_68 16 rfl rfl)
theorem dL_law_1870 : decode cL_law 1870 = .ok (.iconst 2, 1) := dk_5 (dk_at dksL_law_68 17 rfl rfl)
theorem dL_law_1871 : decode cL_law 1871 = .ok (.iadd, 1) := dk_96 (dk_at dksL_law_68 18 rfl rfl)
theorem dL_law_1872 : decode cL_law 1872 = .ok (.iaload, 1) := dk_46 (dk_at dksL_law_68 19 rfl rfl)
theorem dL_law_1873 : decode cL_law 1873 = .ok (.invokevirtual 217, 3) := dk_182 0 217 (dk_at dksL_law_68 20 rfl rfl)
theorem dL_law_1876 : decode cL_law 1876 = .ok (.aload_n 2, 1) := dk_44 (dk_at dksL_law_68 23 rfl rfl)
theorem dL_law_1877 : decode cL_law 1877 = .ok (.aload_n 0, 1) := dk_42 (dk_at dksL_law_69 0 rfl rfl)
theorem dL_law_1878 : decode cL_law 1878 = .ok (.iload_n 3, 1) := dk_29 (dk_at dksL_law_69 1 rfl rfl)
theorem dL_law_1879 : decode cL_law 1879 = .ok (.iconst 1, 1) := dk_4 (dk_at dksL_law_69 2 rfl rfl)
theorem dL_law_1880 : decode cL_law 1880 = .ok (.iadd, 1) := dk_96 (dk_at dksL_law_69 3 rfl rfl)
theorem dL_law_1881 : decode cL_law 1881 = .ok (.iaload, 1) := dk_46 (dk_at dksL_law_69 4 rfl rfl)
theorem dL_law_1882 : decode cL_law 1882 = .ok (.aload_n 0, 1) := dk_42 (dk_at dksL_law_69 5 rfl rfl)
theorem dL_law_1883 : decode cL_law 1883 = .ok (.iload_n 3, 1) := dk_29 (dk_at dksL_law_69 6 rfl rfl)
theorem dL_law_1884 : decode cL_law 1884 = .ok (.iconst 2, 1) := dk_5 (dk_at dksL_law_69 7 rfl rfl)
theorem dL_law_1885 : decode cL_law 1885 = .ok (.iadd, 1) := dk_96 (dk_at dksL_law_69 8 rfl rfl)
theorem dL_law_1886 : decode cL_law 1886 = .ok (.iaload, 1) := dk_46 (dk_at dksL_law_69 9 rfl rfl)
theorem dL_law_1887 : decode cL_law 1887 = .ok (.invokevirtual 220, 3) := dk_182 0 220 (dk_at dksL_law_69 10 rfl rfl)
theorem dL_law_1890 : decode cL_law 1890 = .ok (.if_icmp .eq 549, 3) := dk_159 2 37 (dk_at dksL_law_69 13 rfl rfl)
theorem dL_law_1893 : decode cL_law 1893 = .ok (.iconst 0, 1) := dk_3 (dk_at dksL_law_69 16 rfl rfl)
theorem dL_law_1894 : decode cL_law 1894 = .ok (.ireturn, 1) := dk_172 (dk_at dksL_law_69 17 rfl rfl)
theorem dL_law_1895 : decode cL_law 1895 = .ok (.aload_n 1, 1) := dk_43 (dk_at dksL_law_69 18 rfl rfl)
theorem dL_law_1896 : decode cL_law 1896 = .ok (.aload_n 0, 1) := dk_42 (dk_at dksL_law_69 19 rfl rfl)
theorem dL_law_1897 : decode cL_law 1897 = .ok (.iload_n 3, 1) := dk_29 (dk_at dksL_law_69 20 rfl rfl)
theorem dL_law_1898 : decode cL_law 1898 = .ok (.iconst 1, 1) := dk_4 (dk_at dksL_law_69 21 rfl rfl)
theorem dL_law_1899 : decode cL_law 1899 = .ok (.iadd, 1) := dk_96 (dk_at dksL_law_69 22 rfl rfl)
theorem dL_law_1900 : decode cL_law 1900 = .ok (.iaload, 1) := dk_46 (dk_at dksL_law_69 23 rfl rfl)
theorem dL_law_1901 : decode cL_law 1901 = .ok (.aload_n 0, 1) := dk_42 (dk_at dksL_law_70 0 rfl rfl)
theorem dL_law_1902 : decode cL_law 1902 = .ok (.iload_n 3, 1) := dk_29 (dk_at dksL_law_70 1 rfl rfl)
theorem dL_law_1903 : decode cL_law 1903 = .ok (.iconst 2, 1) := dk_5 (dk_at dksL_law_70 2 rfl rfl)
theorem dL_law_1904 : decode cL_law 1904 = .ok (.iadd, 1) := dk_96 (dk_at dksL_law_70 3 rfl rfl)
theorem dL_law_1905 : decode cL_law 1905 = .ok (.iaload, 1) := dk_46 (dk_at dksL_law_70 4 rfl rfl)
theorem dL_law_1906 : decode cL_law 1906 = .ok (.invokevirtual 221, 3) := dk_182 0 221 (dk_at dksL_law_70 5 rfl rfl)
theorem dL_law_1909 : decode cL_law 1909 = .ok (.aload_n 2, 1) := dk_44 (dk_at dksL_law_70 8 rfl rfl)
theorem dL_law_1910 : decode cL_law 1910 = .ok (.aload_n 0, 1) := dk_42 (dk_at dksL_law_70 9 rfl rfl)
theorem dL_law_1911 : decode cL_law 1911 = .ok (.iload_n 3, 1) := dk_29 (dk_at dksL_law_70 10 rfl rfl)
theorem dL_law_1912 : decode cL_law 1912 = .ok (.iconst 1, 1) := dk_4 (dk_at dksL_law_70 11 rfl rfl)
theorem dL_law_1913 : decode cL_law 1913 = .ok (.iadd, 1) := dk_96 (dk_at dksL_law_70 12 rfl rfl)
theorem dL_law_1914 : decode cL_law 1914 = .ok (.iaload, 1) := dk_46 (dk_at dksL_law_70 13 rfl rfl)
theorem dL_law_1915 : decode cL_law 1915 = .ok (.aload_n 0, 1) := dk_42 (dk_at dksL_law_70 14 rfl rfl)
theorem dL_law_1916 : decode cL_law 1916 = .ok (.iload_n 3, 1) := dk_29 (dk_at dksL_law_70 15 rfl rfl)
theorem dL_law_1917 : decode cL_law 1917 = .ok (.iconst 2, 1) := dk_5 (dk_at dksL_law_70 16 rfl rfl)
theorem dL_law_1918 : decode cL_law 1918 = .ok (.iadd, 1) := dk_96 (dk_at dksL_law_70 17 rfl rfl)
theorem dL_law_1919 : decode cL_law 1919 = .ok (.iaload, 1) := dk_46 (dk_at dksL_law_70 18 rfl rfl)
theorem dL_law_1920 : decode cL_law 1920 = .ok (.invokevirtual 224, 3) := dk_182 0 224 (dk_at dksL_law_70 19 rfl rfl)
theorem dL_law_1923 : decode cL_law 1923 = .ok (.if_icmp .eq 516, 3) := dk_159 2 4 (dk_at dksL_law_71 0 rfl rfl)
theorem dL_law_1926 : decode cL_law 1926 = .ok (.iconst 0, 1) := dk_3 (dk_at dksL_law_71 3 rfl rfl)
theorem dL_law_1927 : decode cL_law 1927 = .ok (.ireturn, 1) := dk_172 (dk_at dksL_law_71 4 rfl rfl)
theorem dL_law_1928 : decode cL_law 1928 = .ok (.aload_n 1, 1) := dk_43 (dk_at dksL_law_71 5 rfl rfl)
theorem dL_law_1929 : decode cL_law 1929 = .ok (.aload_n 0, 1) := dk_42 (dk_at dksL_law_71 6 rfl rfl)
theorem dL_law_1930 : decode cL_law 1930 = .ok (.iload_n 3, 1) := dk_29 (dk_at dksL_law_71 7 rfl rfl)
theorem dL_law_1931 : decode cL_law 1931 = .ok (.iconst 1, 1) := dk_4 (dk_at dksL_law_71 8 rfl rfl)
theorem dL_law_1932 : decode cL_law 1932 = .ok (.iadd, 1) := dk_96 (dk_at dksL_law_71 9 rfl rfl)
theorem dL_law_1933 : decode cL_law 1933 = .ok (.iaload, 1) := dk_46 (dk_at dksL_law_71 10 rfl rfl)
theorem dL_law_1934 : decode cL_law 1934 = .ok (.aload_n 0, 1) := dk_42 (dk_at dksL_law_71 11 rfl rfl)
theorem dL_law_1935 : decode cL_law 1935 = .ok (.iload_n 3, 1) := dk_29 (dk_at dksL_law_71 12 rfl rfl)
theorem dL_law_1936 : decode cL_law 1936 = .ok (.iconst 2, 1) := dk_5 (dk_at dksL_law_71 13 rfl rfl)
theorem dL_law_1937 : decode cL_law 1937 = .ok (.iadd, 1) := dk_96 (dk_at dksL_law_71 14 rfl rfl)
theorem dL_law_1938 : decode cL_law 1938 = .ok (.iaload, 1) := dk_46 (dk_at dksL_law_71 15 rfl rfl)
theorem dL_law_1939 : decode cL_law 1939 = .ok (.invokevirtual 225, 3) := dk_182 0 225 (dk_at dksL_law_71 16 rfl rfl)
theorem dL_law_1942 : decode cL_law 1942 = .ok (.aload_n 2, 1) := dk_44 (dk_at dksL_law_71 19 rfl rfl)
theorem dL_law_1943 : decode cL_law 1943 = .ok (.aload_n 0, 1) := dk_42 (dk_at dksL_law_71 20 rfl rfl)
theorem dL_law_1944 : decode cL_law 1944 = .ok (.iload_n 3, 1) := dk_29 (dk_at dksL_law_71 21 rfl rfl)
theorem dL_law_1945 : decode cL_law 1945 = .ok (.iconst 1, 1) := dk_4 (dk_at dksL_law_71 22 rfl rfl)
theorem dL_law_1946 : decode cL_law 1946 = .ok (.iadd, 1) := dk_96 (dk_at dksL_law_71 23 rfl rfl)
theorem dL_law_1947 : decode cL_law 1947 = .ok (.iaload, 1) := dk_46 (dk_at dksL_law_72 0 rfl rfl)
theorem dL_law_1948 : decode cL_law 1948 = .ok (.aload_n 0, 1) := dk_42 (dk_at dksL_law_72 1 rfl rfl)
theorem dL_law_1949 : decode cL_law 1949 = .ok (.iload_n 3, 1) := dk_29 (dk_at dksL_law_72 2 rfl rfl)
theorem dL_law_1950 : decode cL_law 1950 = .ok (.iconst 2, 1) := dk_5 (dk_at dksL_law_72 3 rfl rfl)
theorem dL_law_1951 : decode cL_law 1951 = .ok (.iadd, 1) := dk_96 (dk_at dksL_law_72 4 rfl rfl)
theorem dL_law_1952 : decode cL_law 1952 = .ok (.iaload, 1) := dk_46 (dk_at dksL_law_72 5 rfl rfl)
theorem dL_law_1953 : decode cL_law 1953 = .ok (.invokevirtual 228, 3) := dk_182 0 228 (dk_at dksL_law_72 6 rfl rfl)
theorem dL_law_1956 : decode cL_law 1956 = .ok (.if_icmp .eq 483, 3) := dk_159 1 227 (dk_at dksL_law_72 9 rfl rfl)
theorem dL_law_1959 : decode cL_law 1959 = .ok (.iconst 0, 1) := dk_3 (dk_at dksL_law_72 12 rfl rfl)
theorem dL_law_1960 : decode cL_law 1960 = .ok (.ireturn, 1) := dk_172 (dk_at dksL_law_72 13 rfl rfl)
theorem dL_law_1961 : decode cL_law 1961 = .ok (.aload_n 1, 1) := dk_43 (dk_at dksL_law_72 14 rfl rfl)
theorem dL_law_1962 : decode cL_law 1962 = .ok (.aload_n 0, 1) := dk_42 (dk_at dksL_law_72 15 rfl rfl)
theorem dL_law_1963 : decode cL_law 1963 = .ok (.iload_n 3, 1) := dk_29 (dk_at dksL_law_72 16 rfl rfl)
theorem dL_law_1964 : decode cL_law 1964 = .ok (.iconst 1, 1) := dk_4 (dk_at dksL_law_72 17 rfl rfl)
theorem dL_law_1965 : decode cL_law 1965 = .ok (.iadd, 1) := dk_96 (dk_at dksL_law_72 18 rfl rfl)
theorem dL_law_1966 : decode cL_law 1966 = .ok (.iaload, 1) := dk_46 (dk_at dksL_law_72 19 rfl rfl)
theorem dL_law_1967 : decode cL_law 1967 = .ok (.invokevirtual 229, 3) := dk_182 0 229 (dk_at dksL_law_72 20 rfl rfl)
theorem dL_law_1970 : decode cL_law 1970 = .ok (.aload_n 2, 1) := dk_44 (dk_at dksL_law_72 23 rfl rfl)
theorem dL_law_1971 : decode cL_law 1971 = .ok (.aload_n 0, 1) := dk_42 (dk_at dksL_law_73 0 rfl rfl)
theorem dL_law_1972 : decode cL_law 1972 = .ok (.iload_n 3, 1) := dk_29 (dk_at dksL_law_73 1 rfl rfl)
theorem dL_law_1973 : decode cL_law 1973 = .ok (.iconst 1, 1) := dk_4 (dk_at dksL_law_73 2 rfl rfl)
theorem dL_law_1974 : decode cL_law 1974 = .ok (.iadd, 1) := dk_96 (dk_at dksL_law_73 3 rfl rfl)
theorem dL_law_1975 : decode cL_law 1975 = .ok (.iaload, 1) := dk_46 (dk_at dksL_law_73 4 rfl rfl)
theorem dL_law_1976 : decode cL_law 1976 = .ok (.invokevirtual 232, 3) := dk_182 0 232 (dk_at dksL_law_73 5 rfl rfl)
theorem dL_law_1979 : decode cL_law 1979 = .ok (.if_icmp .eq 460, 3) := dk_159 1 204 (dk_at dksL_law_73 8 rfl rfl)
theorem dL_law_1982 : decode cL_law 1982 = .ok (.iconst 0, 1) := dk_3 (dk_at dksL_law_73 11 rfl rfl)
theorem dL_law_1983 : decode cL_law 1983 = .ok (.ireturn, 1) := dk_172 (dk_at dksL_law_73 12 rfl rfl)
theorem dL_law_1984 : decode cL_law 1984 = .ok (.aload_n 1, 1) := dk_43 (dk_at dksL_law_73 13 rfl rfl)
theorem dL_law_1985 : decode cL_law 1985 = .ok (.aload_n 0, 1) := dk_42 (dk_at dksL_law_73 14 rfl rfl)
theorem dL_law_1986 : decode cL_law 1986 = .ok (.iload_n 3, 1) := dk_29 (dk_at dksL_law_73 15 rfl rfl)
theorem dL_law_1987 : decode cL_law 1987 = .ok (.iconst 1, 1) := dk_4 (dk_at dksL_law_73 16 rfl rfl)
theorem dL_law_1988 : decode cL_law 1988 = .ok (.iadd, 1) := dk_96 (dk_at dksL_law_73 17 rfl rfl)
theorem dL_law_1989 : decode cL_law 1989 = .ok (.iaload, 1) := dk_46 (dk_at dksL_law_73 18 rfl rfl)
theorem dL_law_1990 : decode cL_law 1990 = .ok (.invokevirtual 233, 3) := dk_182 0 233 (dk_at dksL_law_73 19 rfl rfl)
theorem dL_law_1993 : decode cL_law 1993 = .ok (.aload_n 2, 1) := dk_44 (dk_at dksL_law_73 22 rfl rfl)
theorem dL_law_1994 : decode cL_law 1994 = .ok (.aload_n 0, 1) := dk_42 (dk_at dksL_law_73 23 rfl rfl)
theorem dL_law_1995 : decode cL_law 1995 = .ok (.iload_n 3, 1) := dk_29 (dk_at dksL_law_74 0 rfl rfl)
theorem dL_law_1996 : decode cL_law 1996 = .ok (.iconst 1, 1) := dk_4 (dk_at dksL_law_74 1 rfl rfl)
theorem dL_law_1997 : decode cL_law 1997 = .ok (.iadd, 1) := dk_96 (dk_at dksL_law_74 2 rfl rfl)
theorem dL_law_1998 : decode cL_law 1998 = .ok (.iaload, 1) := dk_46 (dk_at dksL_law_74 3 rfl rfl)
theorem dL_law_1999 : decode cL_law 1999 = .ok (.invokevirtual 236, 3) := dk_182 0 236 (dk_at dksL_law_74 4 rfl rfl)
theorem dL_law_2002 : decode cL_law 2002 = .ok (.if_icmp .eq 437, 3) := dk_159 1 181 (dk_at dksL_law_74 7 rfl rfl)
theorem dL_law_2005 : decode cL_law 2005 = .ok (.iconst 0, 1) := dk_3 (dk_at dksL_law_74 10 rfl rfl)
theorem dL_law_2006 : decode cL_law 2006 = .ok (.ireturn, 1) := dk_172 (dk_at dksL_law_74 11 rfl rfl)
theorem dL_law_2007 : decode cL_law 2007 = .ok (.aload_n 1, 1) := dk_43 (dk_at dksL_law_74 12 rfl rfl)
theorem dL_law_2008 : decode cL_law 2008 = .ok (.aload_n 0, 1) := dk_42 (dk_at dksL_law_74 13 rfl rfl)
theorem dL_law_2009 : decode cL_law 2009 = .ok (.iload_n 3, 1) := dk_29 (dk_at dksL_law_74 14 rfl rfl)
theorem dL_law_2010 : decode cL_law 2010 = .ok (.iconst 1, 1) := dk_4 (dk_at dksL_law_74 15 rfl rfl)
theorem dL_law_2011 : decode cL_law 2011 = .ok (.iadd, 1) := dk_96 (dk_at dksL_law_74 16 rfl rfl)
theorem dL_law_2012 : decode cL_law 2012 = .ok (.iaload, 1) := dk_46 (dk_at dksL_law_74 17 rfl rfl)
theorem dL_law_2013 : decode cL_law 2013 = .ok (.aload_n 0, 1) := dk_42 (dk_at dksL_law_74 18 rfl rfl)
theorem dL_law_2014 : decode cL_law 2014 = .ok (.iload_n 3, 1) := dk_29 (dk_at dksL_law_74 19 rfl rfl)
theorem dL_law_2015 : decode cL_law 2015 = .ok (.iconst 2, 1) := dk_5 (dk_at dksL_law_74 20 rfl rfl)
theorem dL_law_2016 : decode cL_law 2016 = .ok (.iadd, 1) := dk_96 (dk_at dksL_law_74 21 rfl rfl)
theorem dL_law_2017 : decode cL_law 2017 = .ok (.iaload, 1) := dk_46 (dk_at dksL_law_74 22 rfl rfl)
theorem dL_law_2018 : decode cL_law 2018 = .ok (.invokevirtual 237, 3) := dk_182 0 237 (dk_at dksL_law_75 0 rfl rfl)
theorem dL_law_2021 : decode cL_law 2021 = .ok (.aload_n 2, 1) := dk_44 (dk_at dksL_law_75 3 rfl rfl)
theorem dL_law_2022 : decode cL_law 2022 = .ok (.aload_n 0, 1) := dk_42 (dk_at dksL_law_75 4 rfl rfl)
theorem dL_law_2023 : decode cL_law 2023 = .ok (.iload_n 3, 1) := dk_29 (dk_at dksL_law_75 5 rfl rfl)
theorem dL_law_2024 : decode cL_law 2024 = .ok (.iconst 1, 1) := dk_4 (dk_at dksL_law_75 6 rfl rfl)
theorem dL_law_2025 : decode cL_law 2025 = .ok (.iadd, 1) := dk_96 (dk_at dksL_law_75 7 rfl rfl)
theorem dL_law_2026 : decode cL_law 2026 = .ok (.iaload, 1) := dk_46 (dk_at dksL_law_75 8 rfl rfl)
theorem dL_law_2027 : decode cL_law 2027 = .ok (.aload_n 0, 1) := dk_42 (dk_at dksL_law_75 9 rfl rfl)
theorem dL_law_2028 : decode cL_law 2028 = .ok (.iload_n 3, 1) := dk_29 (dk_at dksL_law_75 10 rfl rfl)
theorem dL_law_2029 : decode cL_law 2029 = .ok (.iconst 2, 1) := dk_5 (dk_at dksL_law_75 11 rfl rfl)
theorem dL_law_2030 : decode cL_law 2030 = .ok (.iadd, 1) := dk_96 (dk_at dksL_law_75 12 rfl rfl)
theorem dL_law_2031 : decode cL_law 2031 = .ok (.iaload, 1) := dk_46 (dk_at dksL_law_75 13 rfl rfl)
theorem dL_law_2032 : decode cL_law 2032 = .ok (.invokevirtual 240, 3) := dk_182 0 240 (dk_at dksL_law_75 14 rfl rfl)
theorem dL_law_2035 : decode cL_law 2035 = .ok (.if_icmp .eq 404, 3) := dk_159 1 148 (dk_at dksL_law_75 17 rfl rfl)
theorem dL_law_2038 : decode cL_law 2038 = .ok (.iconst 0, 1) := dk_3 (dk_at dksL_law_75 20 rfl rfl)
theorem dL_law_2039 : decode cL_law 2039 = .ok (.ireturn, 1) := dk_172 (dk_at dksL_law_75 21 rfl rfl)
theorem dL_law_2040 : decode cL_law 2040 = .ok (.aload_n 1, 1) := dk_43 (dk_at dksL_law_75 22 rfl rfl)
theorem dL_law_2041 : decode cL_law 2041 = .ok (.aload_n 0, 1) := dk_42 (dk_at dksL_law_75 23 rfl rfl)
theorem dL_law_2042 : decode cL_law 2042 = .ok (.iload_n 3, 1) := dk_29 (dk_at dksL_law_76 0 rfl rfl)
theorem dL_law_2043 : decode cL_law 2043 = .ok (.iconst 1, 1) := dk_4 (dk_at dksL_law_76 1 rfl rfl)
theorem dL_law_2044 : decode cL_law 2044 = .ok (.iadd, 1) := dk_96 (dk_at dksL_law_76 2 rfl rfl)
theorem dL_law_2045 : decode cL_law 2045 = .ok (.iaload, 1) := dk_46 (dk_at dksL_law_76 3 rfl rfl)
theorem dL_law_2046 : decode cL_law 2046 = .ok (.aload_n 0, 1) := dk_42 (dk_at dksL_law_76 4 rfl rfl)
theorem dL_law_2047 : decode cL_law 2047 = .ok (.iload_n 3, 1) := dk_29 (dk_at dksL_law_76 5 rfl rfl)
theorem dL_law_2048 : decode cL_law 2048 = .ok (.iconst 2, 1) := dk_5 (dk_at dksL_law_76 6 rfl rfl)
theorem dL_law_2049 : decode cL_law 2049 = .ok (.iadd, 1) := dk_96 (dk_at dksL_law_76 7 rfl rfl)
theorem dL_law_2050 : decode cL_law 2050 = .ok (.iaload, 1) := dk_46 (dk_at dksL_law_76 8 rfl rfl)
theorem dL_law_2051 : decode cL_law 2051 = .ok (.aload_n 0, 1) := dk_42 (dk_at dksL_law_76 9 rfl rfl)
theorem dL_law_2052 : decode cL_law 2052 = .ok (.iload_n 3, 1) := dk_29 (dk_at dksL_law_76 10 rfl rfl)
theorem dL_law_2053 : decode cL_law 2053 = .ok (.iconst 3, 1) := dk_6 (dk_at dksL_law_76 11 rfl rfl)
theorem dL_law_2054 : decode cL_law 2054 = .ok (.iadd, 1) := dk_96 (dk_at dksL_law_76 12 rfl rfl)
theorem dL_law_2055 : decode cL_law 2055 = .ok (.iaload, 1) := dk_46 (dk_at dksL_law_76 13 rfl rfl)
theorem dL_law_2056 : decode cL_law 2056 = .ok (.invokevirtual 241, 3) := dk_182 0 241 (dk_at dksL_law_76 14 rfl rfl)
theorem dL_law_2059 : decode cL_law 2059 = .ok (.aload_n 2, 1) := dk_44 (dk_at dksL_law_76 17 rfl rfl)
theorem dL_law_2060 : decode cL_law 2060 = .ok (.aload_n 0, 1) := dk_42 (dk_at dksL_law_76 18 rfl rfl)
theorem dL_law_2061 : decode cL_law 2061 = .ok (.iload_n 3, 1) := dk_29 (dk_at dksL_law_76 19 rfl rfl)
theorem dL_law_2062 : decode cL_law 2062 = .ok (.iconst 1, 1) := dk_4 (dk_at dksL_law_76 20 rfl rfl)
theorem dL_law_2063 : decode cL_law 2063 = .ok (.iadd, 1) := dk_96 (dk_at dksL_law_76 21 rfl rfl)
theorem dL_law_2064 : decode cL_law 2064 = .ok (.iaload, 1) := dk_46 (dk_at dksL_law_76 22 rfl rfl)
theorem dL_law_2065 : decode cL_law 2065 = .ok (.aload_n 0, 1) := dk_42 (dk_at dksL_law_76 23 rfl rfl)
theorem dL_law_2066 : decode cL_law 2066 = .ok (.iload_n 3, 1) := dk_29 (dk_at dksL_law_77 0 rfl rfl)
theorem dL_law_2067 : decode cL_law 2067 = .ok (.iconst 2, 1) := dk_5 (dk_at dksL_law_77 1 rfl rfl)
theorem dL_law_2068 : decode cL_law 2068 = .ok (.iadd, 1) := dk_96 (dk_at dksL_law_77 2 rfl rfl)
theorem dL_law_2069 : decode cL_law 2069 = .ok (.iaload, 1) := dk_46 (dk_at dksL_law_77 3 rfl rfl)
theorem dL_law_2070 : decode cL_law 2070 = .ok (.aload_n 0, 1) := dk_42 (dk_at dksL_law_77 4 rfl rfl)
theorem dL_law_2071 : decode cL_law 2071 = .ok (.iload_n 3, 1) := dk_29 (dk_at dksL_law_77 5 rfl rfl)
theorem dL_law_2072 : decode cL_law 2072 = .ok (.iconst 3, 1) := dk_6 (dk_at dksL_law_77 6 rfl rfl)
theorem dL_law_2073 : decode cL_law 2073 = .ok (.iadd, 1) := dk_96 (dk_at dksL_law_77 7 rfl rfl)
theorem dL_law_2074 : decode cL_law 2074 = .ok (.iaload, 1) := dk_46 (dk_at dksL_law_77 8 rfl rfl)
theorem dL_law_2075 : decode cL_law 2075 = .ok (.invokevirtual 244, 3) := dk_182 0 244 (dk_at dksL_law_77 9 rfl rfl)
theorem dL_law_2078 : decode cL_law 2078 = .ok (.if_icmp .eq 361, 3) := dk_159 1 105 (dk_at dksL_law_77 12 rfl rfl)
theorem dL_law_2081 : decode cL_law 2081 = .ok (.iconst 0, 1) := dk_3 (dk_at dksL_law_77 15 rfl rfl)
theorem dL_law_2082 : decode cL_law 2082 = .ok (.ireturn, 1) := dk_172 (dk_at dksL_law_77 16 rfl rfl)
theorem dL_law_2083 : decode cL_law 2083 = .ok (.aload_n 1, 1) := dk_43 (dk_at dksL_law_77 17 rfl rfl)
theorem dL_law_2084 : decode cL_law 2084 = .ok (.aload_n 0, 1) := dk_42 (dk_at dksL_law_77 18 rfl rfl)
theorem dL_law_2085 : decode cL_law 2085 = .ok (.iload_n 3, 1) := dk_29 (dk_at dksL_law_77 19 rfl rfl)
theorem dL_law_2086 : decode cL_law 2086 = .ok (.iconst 1, 1) := dk_4 (dk_at dksL_law_77 20 rfl rfl)
theorem dL_law_2087 : decode cL_law 2087 = .ok (.iadd, 1) := dk_96 (dk_at dksL_law_77 21 rfl rfl)
theorem dL_law_2088 : decode cL_law 2088 = .ok (.iaload, 1) := dk_46 (dk_at dksL_law_77 22 rfl rfl)
theorem dL_law_2089 : decode cL_law 2089 = .ok (.aload_n 0, 1) := dk_42 (dk_at dksL_law_77 23 rfl rfl)
theorem dL_law_2090 : decode cL_law 2090 = .ok (.iload_n 3, 1) := dk_29 (dk_at dksL_law_78 0 rfl rfl)
theorem dL_law_2091 : decode cL_law 2091 = .ok (.iconst 2, 1) := dk_5 (dk_at dksL_law_78 1 rfl rfl)
theorem dL_law_2092 : decode cL_law 2092 = .ok (.iadd, 1) := dk_96 (dk_at dksL_law_78 2 rfl rfl)
theorem dL_law_2093 : decode cL_law 2093 = .ok (.iaload, 1) := dk_46 (dk_at dksL_law_78 3 rfl rfl)
theorem dL_law_2094 : decode cL_law 2094 = .ok (.invokevirtual 245, 3) := dk_182 0 245 (dk_at dksL_law_78 4 rfl rfl)
theorem dL_law_2097 : decode cL_law 2097 = .ok (.aload_n 2, 1) := dk_44 (dk_at dksL_law_78 7 rfl rfl)
theorem dL_law_2098 : decode cL_law 2098 = .ok (.aload_n 0, 1) := dk_42 (dk_at dksL_law_78 8 rfl rfl)
theorem dL_law_2099 : decode cL_law 2099 = .ok (.iload_n 3, 1) := dk_29 (dk_at dksL_law_78 9 rfl rfl)
theorem dL_law_2100 : decode cL_law 2100 = .ok (.iconst 1, 1) := dk_4 (dk_at dksL_law_78 10 rfl rfl)
theorem dL_law_2101 : decode cL_law 2101 = .ok (.iadd, 1) := dk_96 (dk_at dksL_law_78 11 rfl rfl)
theorem dL_law_2102 : decode cL_law 2102 = .ok (.iaload, 1) := dk_46 (dk_at dksL_law_78 12 rfl rfl)
theorem dL_law_2103 : decode cL_law 2103 = .ok (.aload_n 0, 1) := dk_42 (dk_at dksL_law_78 13 rfl rfl)
theorem dL_law_2104 : decode cL_law 2104 = .ok (.iload_n 3, 1) := dk_29 (dk_at dksL_law_78 14 rfl rfl)
theorem dL_law_2105 : decode cL_law 2105 = .ok (.iconst 2, 1) := dk_5 (dk_at dksL_law_78 15 rfl rfl)
theorem dL_law_2106 : decode cL_law 2106 = .ok (.iadd, 1) := dk_96 (dk_at dksL_law_78 16 rfl rfl)
theorem dL_law_2107 : decode cL_law 2107 = .ok (.iaload, 1) := dk_46 (dk_at dksL_law_78 17 rfl rfl)
theorem dL_law_2108 : decode cL_law 2108 = .ok (.invokevirtual 248, 3) := dk_182 0 248 (dk_at dksL_law_78 18 rfl rfl)
theorem dL_law_2111 : decode cL_law 2111 = .ok (.if_icmp .eq 328, 3) := dk_159 1 72 (dk_at dksL_law_78 21 rfl rfl)
theorem dL_law_2114 : decode cL_law 2114 = .ok (.iconst 0, 1) := dk_3 (dk_at dksL_law_79 0 rfl rfl)
theorem dL_law_2115 : decode cL_law 2115 = .ok (.ireturn, 1) := dk_172 (dk_at dksL_law_79 1 rfl rfl)
theorem dL_law_2116 : decode cL_law 2116 = .ok (.aload_n 1, 1) := dk_43 (dk_at dksL_law_79 2 rfl rfl)
theorem dL_law_2117 : decode cL_law 2117 = .ok (.aload_n 0, 1) := dk_42 (dk_at dksL_law_79 3 rfl rfl)
theorem dL_law_2118 : decode cL_law 2118 = .ok (.iload_n 3, 1) := dk_29 (dk_at dksL_law_79 4 rfl rfl)
theorem dL_law_2119 : decode cL_law 2119 = .ok (.iconst 1, 1) := dk_4 (dk_at dksL_law_79 5 rfl rfl)
theorem dL_law_2120 : decode cL_law 2120 = .ok (.iadd, 1) := dk_96 (dk_at dksL_law_79 6 rfl rfl)
theorem dL_law_2121 : decode cL_law 2121 = .ok (.iaload, 1) := dk_46 (dk_at dksL_law_79 7 rfl rfl)
theorem dL_law_2122 : decode cL_law 2122 = .ok (.aload_n 0, 1) := dk_42 (dk_at dksL_law_79 8 rfl rfl)
theorem dL_law_2123 : decode cL_law 2123 = .ok (.iload_n 3, 1) := dk_29 (dk_at dksL_law_79 9 rfl rfl)
theorem dL_law_2124 : decode cL_law 2124 = .ok (.iconst 2, 1) := dk_5 (dk_at dksL_law_79 10 rfl rfl)
theorem dL_law_2125 : decode cL_law 2125 = .ok (.iadd, 1) := dk_96 (dk_at dksL_law_79 11 rfl rfl)
theorem dL_law_2126 : decode cL_law 2126 = .ok (.iaload, 1) := dk_46 (dk_at dksL_law_79 12 rfl rfl)
theorem dL_law_2127 : decode cL_law 2127 = .ok (.invokevirtual 249, 3) := dk_182 0 249 (dk_at dksL_law_79 13 rfl rfl)
theorem dL_law_2130 : decode cL_law 2130 = .ok (.aload_n 2, 1) := dk_44 (dk_at dksL_law_79 16 rfl rfl)
theorem dL_law_2131 : decode cL_law 2131 = .ok (.aload_n 0, 1) := dk_42 (dk_at dksL_law_79 17 rfl rfl)
theorem dL_law_2132 : decode cL_law 2132 = .ok (.iload_n 3, 1) := dk_29 (dk_at dksL_law_79 18 rfl rfl)
theorem dL_law_2133 : decode cL_law 2133 = .ok (.iconst 1, 1) := dk_4 (dk_at dksL_law_79 19 rfl rfl)
theorem dL_law_2134 : decode cL_law 2134 = .ok (.iadd, 1) := dk_96 (dk_at dksL_law_79 20 rfl rfl)
theorem dL_law_2135 : decode cL_law 2135 = .ok (.iaload, 1) := dk_46 (dk_at dksL_law_79 21 rfl rfl)
theorem dL_law_2136 : decode cL_law 2136 = .ok (.aload_n 0, 1) := dk_42 (dk_at dksL_law_79 22 rfl rfl)
theorem dL_law_2137 : decode cL_law 2137 = .ok (.iload_n 3, 1) := dk_29 (dk_at dksL_law_79 23 rfl rfl)
theorem dL_law_2138 : decode cL_law 2138 = .ok (.iconst 2, 1) := dk_5 (dk_at dksL_law_80 0 rfl rfl)
theorem dL_law_2139 : decode cL_law 2139 = .ok (.iadd, 1) := dk_96 (dk_at dksL_law_80 1 rfl rfl)
theorem dL_law_2140 : decode cL_law 2140 = .ok (.iaload, 1) := dk_46 (dk_at dksL_law_80 2 rfl rfl)
theorem dL_law_2141 : decode cL_law 2141 = .ok (.invokevirtual 252, 3) := dk_182 0 252 (dk_at dksL_law_80 3 rfl rfl)
theorem dL_law_2144 : decode cL_law 2144 = .ok (.if_icmp .eq 295, 3) := dk_159 1 39 (dk_at dksL_law_80 6 rfl rfl)
theorem dL_law_2147 : decode cL_law 2147 = .ok (.iconst 0, 1) := dk_3 (dk_at dksL_law_80 9 rfl rfl)
theorem dL_law_2148 : decode cL_law 2148 = .ok (.ireturn, 1) := dk_172 (dk_at dksL_law_80 10 rfl rfl)
theorem dL_law_2149 : decode cL_law 2149 = .ok (.aload_n 1, 1) := dk_43 (dk_at dksL_law_80 11 rfl rfl)
theorem dL_law_2150 : decode cL_law 2150 = .ok (.aload_n 0, 1) := dk_42 (dk_at dksL_law_80 12 rfl rfl)
theorem dL_law_2151 : decode cL_law 2151 = .ok (.iload_n 3, 1) := dk_29 (dk_at dksL_law_80 13 rfl rfl)
theorem dL_law_2152 : decode cL_law 2152 = .ok (.iconst 1, 1) := dk_4 (dk_at dksL_law_80 14 rfl rfl)
theorem dL_law_2153 : decode cL_law 2153 = .ok (.iadd, 1) := dk_96 (dk_at dksL_law_80 15 rfl rfl)
theorem dL_law_2154 : decode cL_law 2154 = .ok (.iaload, 1) := dk_46 (dk_at dksL_law_80 16 rfl rfl)
theorem dL_law_2155 : decode cL_law 2155 = .ok (.invokevirtual 253, 3) := dk_182 0 253 (dk_at dksL_law_80 17 rfl rfl)
theorem dL_law_2158 : decode cL_law 2158 = .ok (.aload_n 2, 1) := dk_44 (dk_at dksL_law_80 20 rfl rfl)
theorem dL_law_2159 : decode cL_law 2159 = .ok (.aload_n 0, 1) := dk_42 (dk_at dksL_law_80 21 rfl rfl)
theorem dL_law_2160 : decode cL_law 2160 = .ok (.iload_n 3, 1) := dk_29 (dk_at dksL_law_80 22 rfl rfl)
theorem dL_law_2161 : decode cL_law 2161 = .ok (.iconst 1, 1) := dk_4 (dk_at dksL_law_80 23 rfl rfl)
theorem dL_law_2162 : decode cL_law 2162 = .ok (.iadd, 1) := dk_96 (dk_at dksL_law_81 0 rfl rfl)
theorem dL_law_2163 : decode cL_law 2163 = .ok (.iaload, 1) := dk_46 (dk_at dksL_law_81 1 rfl rfl)
theorem dL_law_2164 : decode cL_law 2164 = .ok (.invokevirtual 256, 3) := dk_182 1 0 (dk_at dksL_law_81 2 rfl rfl)
theorem dL_law_2167 : decode cL_law 2167 = .ok (.if_icmp .eq 272, 3) := dk_159 1 16 (dk_at dksL_law_81 5 rfl rfl)
theorem dL_law_2170 : decode cL_law 2170 = .ok (.iconst 0, 1) := dk_3 (dk_at dksL_law_81 8 rfl rfl)
theorem dL_law_2171 : decode cL_law 2171 = .ok (.ireturn, 1) := dk_172 (dk_at dksL_law_81 9 rfl rfl)
theorem dL_law_2172 : decode cL_law 2172 = .ok (.aload_n 1, 1) := dk_43 (dk_at dksL_law_81 10 rfl rfl)
theorem dL_law_2173 : decode cL_law 2173 = .ok (.aload_n 0, 1) := dk_42 (dk_at dksL_law_81 11 rfl rfl)
theorem dL_law_2174 : decode cL_law 2174 = .ok (.iload_n 3, 1) := dk_29 (dk_at dksL_law_81 12 rfl rfl)
theorem dL_law_2175 : decode cL_law 2175 = .ok (.iconst 1, 1) := dk_4 (dk_at dksL_law_81 13 rfl rfl)
theorem dL_law_2176 : decode cL_law 2176 = .ok (.iadd, 1) := dk_96 (dk_at dksL_law_81 14 rfl rfl)
theorem dL_law_2177 : decode cL_law 2177 = .ok (.iaload, 1) := dk_46 (dk_at dksL_law_81 15 rfl rfl)
theorem dL_law_2178 : decode cL_law 2178 = .ok (.aload_n 0, 1) := dk_42 (dk_at dksL_law_81 16 rfl rfl)
theorem dL_law_2179 : decode cL_law 2179 = .ok (.iload_n 3, 1) := dk_29 (dk_at dksL_law_81 17 rfl rfl)
theorem dL_law_2180 : decode cL_law 2180 = .ok (.iconst 2, 1) := dk_5 (dk_at dksL_law_81 18 rfl rfl)
theorem dL_law_2181 : decode cL_law 2181 = .ok (.iadd, 1) := dk_96 (dk_at dksL_law_81 19 rfl rfl)
theorem dL_law_2182 : decode cL_law 2182 = .ok (.iaload, 1) := dk_46 (dk_at dksL_law_81 20 rfl rfl)
theorem dL_law_2183 : decode cL_law 2183 = .ok (.invokevirtual 257, 3) := dk_182 1 1 (dk_at dksL_law_81 21 rfl rfl)
theorem dL_law_2186 : decode cL_law 2186 = .ok (.aload_n 2, 1) := dk_44 (dk_at dksL_law_82 0 rfl rfl)
theorem dL_law_2187 : decode cL_law 2187 = .ok (.aload_n 0, 1) := dk_42 (dk_at dksL_law_82 1 rfl rfl)
theorem dL_law_2188 : decode cL_law 2188 = .ok (.iload_n 3, 1) := dk_29 (dk_at dksL_law_82 2 rfl rfl)
theorem dL_law_2189 : decode cL_law 2189 = .ok (.iconst 1, 1) := dk_4 (dk_at dksL_law_82 3 rfl rfl)
theorem dL_law_2190 : decode cL_law 2190 = .ok (.iadd, 1) := dk_96 (dk_at dksL_law_82 4 rfl rfl)
theorem dL_law_2191 : decode cL_law 2191 = .ok (.iaload, 1) := dk_46 (dk_at dksL_law_82 5 rfl rfl)
theorem dL_law_2192 : decode cL_law 2192 = .ok (.aload_n 0, 1) := dk_42 (dk_at dksL_law_82 6 rfl rfl)
theorem dL_law_2193 : decode cL_law 2193 = .ok (.iload_n 3, 1) := dk_29 (dk_at dksL_law_82 7 rfl rfl)
theorem dL_law_2194 : decode cL_law 2194 = .ok (.iconst 2, 1) := dk_5 (dk_at dksL_law_82 8 rfl rfl)
theorem dL_law_2195 : decode cL_law 2195 = .ok (.iadd, 1) := dk_96 (dk_at dksL_law_82 9 rfl rfl)
theorem dL_law_2196 : decode cL_law 2196 = .ok (.iaload, 1) := dk_46 (dk_at dksL_law_82 10 rfl rfl)
theorem dL_law_2197 : decode cL_law 2197 = .ok (.invokevirtual 260, 3) := dk_182 1 4 (dk_at dksL_law_82 11 rfl rfl)
theorem dL_law_2200 : decode cL_law 2200 = .ok (.if_icmp .eq 239, 3) := dk_159 0 239 (dk_at dksL_law_82 14 rfl rfl)
theorem dL_law_2203 : decode cL_law 2203 = .ok (.iconst 0, 1) := dk_3 (dk_at dksL_law_82 17 rfl rfl)
theorem dL_law_2204 : decode cL_law 2204 = .ok (.ireturn, 1) := dk_172 (dk_at dksL_law_82 18 rfl rfl)
theorem dL_law_2205 : decode cL_law 2205 = .ok (.aload_n 1, 1) := dk_43 (dk_at dksL_law_82 19 rfl rfl)
theorem dL_law_2206 : decode cL_law 2206 = .ok (.aload_n 0, 1) := dk_42 (dk_at dksL_law_82 20 rfl rfl)
theorem dL_law_2207 : decode cL_law 2207 = .ok (.iload_n 3, 1) := dk_29 (dk_at dksL_law_82 21 rfl rfl)
theorem dL_law_2208 : decode cL_law 2208 = .ok (.iconst 1, 1) := dk_4 (dk_at dksL_law_82 22 rfl rfl)
theorem dL_law_2209 : decode cL_law 2209 = .ok (.iadd, 1) := dk_96 (dk_at dksL_law_82 23 rfl rfl)
theorem dL_law_2210 : decode cL_law 2210 = .ok (.iaload, 1) := dk_46 (dk_at dksL_law_83 0 rfl rfl)
theorem dL_law_2211 : decode cL_law 2211 = .ok (.aload_n 0, 1) := dk_42 (dk_at dksL_law_83 1 rfl rfl)
theorem dL_law_2212 : decode cL_law 2212 = .ok (.iload_n 3, 1) := dk_29 (dk_at dksL_law_83 2 rfl rfl)
theorem dL_law_2213 : decode cL_law 2213 = .ok (.iconst 2, 1) := dk_5 (dk_at dksL_law_83 3 rfl rfl)
theorem dL_law_2214 : decode cL_law 2214 = .ok (.iadd, 1) := dk_96 (dk_at dksL_law_83 4 rfl rfl)
theorem dL_law_2215 : decode cL_law 2215 = .ok (.iaload, 1) := dk_46 (dk_at dksL_law_83 5 rfl rfl)
theorem dL_law_2216 : decode cL_law 2216 = .ok (.aload_n 0, 1) := dk_42 (dk_at dksL_law_83 6 rfl rfl)
theorem dL_law_2217 : decode cL_law 2217 = .ok (.iload_n 3, 1) := dk_29 (dk_at dksL_law_83 7 rfl rfl)
theorem dL_law_2218 : decode cL_law 2218 = .ok (.iconst 3, 1) := dk_6 (dk_at dksL_law_83 8 rfl rfl)
theorem dL_law_2219 : decode cL_law 2219 = .ok (.iadd, 1) := dk_96 (dk_at dksL_law_83 9 rfl rfl)
theorem dL_law_2220 : decode cL_law 2220 = .ok (.iaload, 1) := dk_46 (dk_at dksL_law_83 10 rfl rfl)
theorem dL_law_2221 : decode cL_law 2221 = .ok (.invokevirtual 261, 3) := dk_182 1 5 (dk_at dksL_law_83 11 rfl rfl)
theorem dL_law_2224 : decode cL_law 2224 = .ok (.aload_n 2, 1) := dk_44 (dk_at dksL_law_83 14 rfl rfl)
theorem dL_law_2225 : decode cL_law 2225 = .ok (.aload_n 0, 1) := dk_42 (dk_at dksL_law_83 15 rfl rfl)
theorem dL_law_2226 : decode cL_law 2226 = .ok (.iload_n 3, 1) := dk_29 (dk_at dksL_law_83 16 rfl rfl)
theorem dL_law_2227 : decode cL_law 2227 = .ok (.iconst 1, 1) := dk_4 (dk_at dksL_law_83 17 rfl rfl)
theorem dL_law_2228 : decode cL_law 2228 = .ok (.iadd, 1) := dk_96 (dk_at dksL_law_83 18 rfl rfl)
theorem dL_law_2229 : decode cL_law 2229 = .ok (.iaload, 1) := dk_46 (dk_at dksL_law_83 19 rfl rfl)
theorem dL_law_2230 : decode cL_law 2230 = .ok (.aload_n 0, 1) := dk_42 (dk_at dksL_law_83 20 rfl rfl)
theorem dL_law_2231 : decode cL_law 2231 = .ok (.iload_n 3, 1) := dk_29 (dk_at dksL_law_83 21 rfl rfl)
theorem dL_law_2232 : decode cL_law 2232 = .ok (.iconst 2, 1) := dk_5 (dk_at dksL_law_83 22 rfl rfl)
theorem dL_law_2233 : decode cL_law 2233 = .ok (.iadd, 1) := dk_96 (dk_at dksL_law_83 23 rfl rfl)
theorem dL_law_2234 : decode cL_law 2234 = .ok (.iaload, 1) := dk_46 (dk_at dksL_law_84 0 rfl rfl)
theorem dL_law_2235 : decode cL_law 2235 = .ok (.aload_n 0, 1) := dk_42 (dk_at dksL_law_84 1 rfl rfl)
theorem dL_law_2236 : decode cL_law 2236 = .ok (.iload_n 3, 1) := dk_29 (dk_at dksL_law_84 2 rfl rfl)
theorem dL_law_2237 : decode cL_law 2237 = .ok (.iconst 3, 1) := dk_6 (dk_at dksL_law_84 3 rfl rfl)
theorem dL_law_2238 : decode cL_law 2238 = .ok (.iadd, 1) := dk_96 (dk_at dksL_law_84 4 rfl rfl)
theorem dL_law_2239 : decode cL_law 2239 = .ok (.iaload, 1) := dk_46 (dk_at dksL_law_84 5 rfl rfl)
theorem dL_law_2240 : decode cL_law 2240 = .ok (.invokevirtual 264, 3) := dk_182 1 8 (dk_at dksL_law_84 6 rfl rfl)
theorem dL_law_2243 : decode cL_law 2243 = .ok (.if_icmp .eq 196, 3) := dk_159 0 196 (dk_at dksL_law_84 9 rfl rfl)
theorem dL_law_2246 : decode cL_law 2246 = .ok (.iconst 0, 1) := dk_3 (dk_at dksL_law_84 12 rfl rfl)
theorem dL_law_2247 : decode cL_law 2247 = .ok (.ireturn, 1) := dk_172 (dk_at dksL_law_84 13 rfl rfl)
theorem dL_law_2248 : decode cL_law 2248 = .ok (.aload_n 1, 1) := dk_43 (dk_at dksL_law_84 14 rfl rfl)
theorem dL_law_2249 : decode cL_law 2249 = .ok (.aload_n 0, 1) := dk_42 (dk_at dksL_law_84 15 rfl rfl)
theorem dL_law_2250 : decode cL_law 2250 = .ok (.iload_n 3, 1) := dk_29 (dk_at dksL_law_84 16 rfl rfl)
theorem dL_law_2251 : decode cL_law 2251 = .ok (.iconst 1, 1) := dk_4 (dk_at dksL_law_84 17 rfl rfl)
theorem dL_law_2252 : decode cL_law 2252 = .ok (.iadd, 1) := dk_96 (dk_at dksL_law_84 18 rfl rfl)
theorem dL_law_2253 : decode cL_law 2253 = .ok (.iaload, 1) := dk_46 (dk_at dksL_law_84 19 rfl rfl)
theorem dL_law_2254 : decode cL_law 2254 = .ok (.aload_n 0, 1) := dk_42 (dk_at dksL_law_84 20 rfl rfl)
theorem dL_law_2255 : decode cL_law 2255 = .ok (.iload_n 3, 1) := dk_29 (dk_at dksL_law_84 21 rfl rfl)
theorem dL_law_2256 : decode cL_law 2256 = .ok (.iconst 2, 1) := dk_5 (dk_at dksL_law_84 22 rfl rfl)
theorem dL_law_2257 : decode cL_law 2257 = .ok (.iadd, 1) := dk_96 (dk_at dksL_law_84 23 rfl rfl)
theorem dL_law_2258 : decode cL_law 2258 = .ok (.iaload, 1) := dk_46 (dk_at dksL_law_85 0 rfl rfl)
theorem dL_law_2259 : decode cL_law 2259 = .ok (.aload_n 0, 1) := dk_42 (dk_at dksL_law_85 1 rfl rfl)
theorem dL_law_2260 : decode cL_law 2260 = .ok (.iload_n 3, 1) := dk_29 (dk_at dksL_law_85 2 rfl rfl)
theorem dL_law_2261 : decode cL_law 2261 = .ok (.iconst 3, 1) := dk_6 (dk_at dksL_law_85 3 rfl rfl)
theorem dL_law_2262 : decode cL_law 2262 = .ok (.iadd, 1) := dk_96 (dk_at dksL_law_85 4 rfl rfl)
theorem dL_law_2263 : decode cL_law 2263 = .ok (.iaload, 1) := dk_46 (dk_at dksL_law_85 5 rfl rfl)
theorem dL_law_2264 : decode cL_law 2264 = .ok (.invokevirtual 265, 3) := dk_182 1 9 (dk_at dksL_law_85 6 rfl rfl)
theorem dL_law_2267 : decode cL_law 2267 = .ok (.aload_n 2, 1) := dk_44 (dk_at dksL_law_85 9 rfl rfl)
theorem dL_law_2268 : decode cL_law 2268 = .ok (.aload_n 0, 1) := dk_42 (dk_at dksL_law_85 10 rfl rfl)
theorem dL_law_2269 : decode cL_law 2269 = .ok (.iload_n 3, 1) := dk_29 (dk_at dksL_law_85 11 rfl rfl)
theorem dL_law_2270 : decode cL_law 2270 = .ok (.iconst 1, 1) := dk_4 (dk_at dksL_law_85 12 rfl rfl)
theorem dL_law_2271 : decode cL_law 2271 = .ok (.iadd, 1) := dk_96 (dk_at dksL_law_85 13 rfl rfl)
theorem dL_law_2272 : decode cL_law 2272 = .ok (.iaload, 1) := dk_46 (dk_at dksL_law_85 14 rfl rfl)
theorem dL_law_2273 : decode cL_law 2273 = .ok (.aload_n 0, 1) := dk_42 (dk_at dksL_law_85 15 rfl rfl)
theorem dL_law_2274 : decode cL_law 2274 = .ok (.iload_n 3, 1) := dk_29 (dk_at dksL_law_85 16 rfl rfl)
theorem dL_law_2275 : decode cL_law 2275 = .ok (.iconst 2, 1) := dk_5 (dk_at dksL_law_85 17 rfl rfl)
theorem dL_law_2276 : decode cL_law 2276 = .ok (.iadd, 1) := dk_96 (dk_at dksL_law_85 18 rfl rfl)
theorem dL_law_2277 : decode cL_law 2277 = .ok (.iaload, 1) := dk_46 (dk_at dksL_law_85 19 rfl rfl)
theorem dL_law_2278 : decode cL_law 2278 = .ok (.aload_n 0, 1) := dk_42 (dk_at dksL_law_85 20 rfl rfl)
theorem dL_law_2279 : decode cL_law 2279 = .ok (.iload_n 3, 1) := dk_29 (dk_at dksL_law_85 21 rfl rfl)
theorem dL_law_2280 : decode cL_law 2280 = .ok (.iconst 3, 1) := dk_6 (dk_at dksL_law_85 22 rfl rfl)
theorem dL_law_2281 : decode cL_law 2281 = .ok (.iadd, 1) := dk_96 (dk_at dksL_law_85 23 rfl rfl)
theorem dL_law_2282 : decode cL_law 2282 = .ok (.iaload, 1) := dk_46 (dk_at dksL_law_86 0 rfl rfl)
theorem dL_law_2283 : decode cL_law 2283 = .ok (.invokevirtual 268, 3) := dk_182 1 12 (dk_at dksL_law_86 1 rfl rfl)
theorem dL_law_2286 : decode cL_law 2286 = .ok (.if_icmp .eq 153, 3) := dk_159 0 153 (dk_at dksL_law_86 4 rfl rfl)
theorem dL_law_2289 : decode cL_law 2289 = .ok (.iconst 0, 1) := dk_3 (dk_at dksL_law_86 7 rfl rfl)
theorem dL_law_2290 : decode cL_law 2290 = .ok (.ireturn, 1) := dk_172 (dk_at dksL_law_86 8 rfl rfl)
theorem dL_law_2291 : decode cL_law 2291 = .ok (.aload_n 1, 1) := dk_43 (dk_at dksL_law_86 9 rfl rfl)
theorem dL_law_2292 : decode cL_law 2292 = .ok (.aload_n 0, 1) := dk_42 (dk_at dksL_law_86 10 rfl rfl)
theorem dL_law_2293 : decode cL_law 2293 = .ok (.iload_n 3, 1) := dk_29 (dk_at dksL_law_86 11 rfl rfl)
theorem dL_law_2294 : decode cL_law 2294 = .ok (.iconst 1, 1) := dk_4 (dk_at dksL_law_86 12 rfl rfl)
theorem dL_law_2295 : decode cL_law 2295 = .ok (.iadd, 1) := dk_96 (dk_at dksL_law_86 13 rfl rfl)
theorem dL_law_2296 : decode cL_law 2296 = .ok (.iaload, 1) := dk_46 (dk_at dksL_law_86 14 rfl rfl)
theorem dL_law_2297 : decode cL_law 2297 = .ok (.aload_n 0, 1) := dk_42 (dk_at dksL_law_86 15 rfl rfl)
theorem dL_law_2298 : decode cL_law 2298 = .ok (.iload_n 3, 1) := dk_29 (dk_at dksL_law_86 16 rfl rfl)
theorem dL_law_2299 : decode cL_law 2299 = .ok (.iconst 2, 1) := dk_5 (dk_at dksL_law_86 17 rfl rfl)
theorem dL_law_2300 : decode cL_law 2300 = .ok (.iadd, 1) := dk_96 (dk_at dksL_law_86 18 rfl rfl)
theorem dL_law_2301 : decode cL_law 2301 = .ok (.iaload, 1) := dk_46 (dk_at dksL_law_86 19 rfl rfl)
theorem dL_law_2302 : decode cL_law 2302 = .ok (.aload_n 0, 1) := dk_42 (dk_at dksL_law_86 20 rfl rfl)
theorem dL_law_2303 : decode cL_law 2303 = .ok (.iload_n 3, 1) := dk_29 (dk_at dksL_law_86 21 rfl rfl)
theorem dL_law_2304 : decode cL_law 2304 = .ok (.iconst 3, 1) := dk_6 (dk_at dksL_law_86 22 rfl rfl)
theorem dL_law_2305 : decode cL_law 2305 = .ok (.iadd, 1) := dk_96 (dk_at dksL_law_86 23 rfl rfl)
theorem dL_law_2306 : decode cL_law 2306 = .ok (.iaload, 1) := dk_46 (dk_at dksL_law_87 0 rfl rfl)
theorem dL_law_2307 : decode cL_law 2307 = .ok (.invokevirtual 269, 3) := dk_182 1 13 (dk_at dksL_law_87 1 rfl rfl)
theorem dL_law_2310 : decode cL_law 2310 = .ok (.aload_n 2, 1) := dk_44 (dk_at dksL_law_87 4 rfl rfl)
theorem dL_law_2311 : decode cL_law 2311 = .ok (.aload_n 0, 1) := dk_42 (dk_at dksL_law_87 5 rfl rfl)
theorem dL_law_2312 : decode cL_law 2312 = .ok (.iload_n 3, 1) := dk_29 (dk_at dksL_law_87 6 rfl rfl)
theorem dL_law_2313 : decode cL_law 2313 = .ok (.iconst 1, 1) := dk_4 (dk_at dksL_law_87 7 rfl rfl)
theorem dL_law_2314 : decode cL_law 2314 = .ok (.iadd, 1) := dk_96 (dk_at dksL_law_87 8 rfl rfl)
theorem dL_law_2315 : decode cL_law 2315 = .ok (.iaload, 1) := dk_46 (dk_at dksL_law_87 9 rfl rfl)
theorem dL_law_2316 : decode cL_law 2316 = .ok (.aload_n 0, 1) := dk_42 (dk_at dksL_law_87 10 rfl rfl)
theorem dL_law_2317 : decode cL_law 2317 = .ok (.iload_n 3, 1) := dk_29 (dk_at dksL_law_87 11 rfl rfl)
theorem dL_law_2318 : decode cL_law 2318 = .ok (.iconst 2, 1) := dk_5 (dk_at dksL_law_87 12 rfl rfl)
theorem dL_law_2319 : decode cL_law 2319 = .ok (.iadd, 1) := dk_96 (dk_at dksL_law_87 13 rfl rfl)
theorem dL_law_2320 : decode cL_law 2320 = .ok (.iaload, 1) := dk_46 (dk_at dksL_law_87 14 rfl rfl)
theorem dL_law_2321 : decode cL_law 2321 = .ok (.aload_n 0, 1) := dk_42 (dk_at dksL_law_87 15 rfl rfl)
theorem dL_law_2322 : decode cL_law 2322 = .ok (.iload_n 3, 1) := dk_29 (dk_at dksL_law_87 16 rfl rfl)
theorem dL_law_2323 : decode cL_law 2323 = .ok (.iconst 3, 1) := dk_6 (dk_at dksL_law_87 17 rfl rfl)
theorem dL_law_2324 : decode cL_law 2324 = .ok (.iadd, 1) := dk_96 (dk_at dksL_law_87 18 rfl rfl)
theorem dL_law_2325 : decode cL_law 2325 = .ok (.iaload, 1) := dk_46 (dk_at dksL_law_87 19 rfl rfl)
theorem dL_law_2326 : decode cL_law 2326 = .ok (.invokevirtual 272, 3) := dk_182 1 16 (dk_at dksL_law_87 20 rfl rfl)
theorem dL_law_2329 : decode cL_law 2329 = .ok (.if_icmp .eq 110, 3) := dk_159 0 110 (dk_at dksL_law_88 0 rfl rfl)
theorem dL_law_2332 : decode cL_law 2332 = .ok (.iconst 0, 1) := dk_3 (dk_at dksL_law_88 3 rfl rfl)
theorem dL_law_2333 : decode cL_law 2333 = .ok (.ireturn, 1) := dk_172 (dk_at dksL_law_88 4 rfl rfl)
theorem dL_law_2334 : decode cL_law 2334 = .ok (.aload_n 1, 1) := dk_43 (dk_at dksL_law_88 5 rfl rfl)
theorem dL_law_2335 : decode cL_law 2335 = .ok (.aload_n 0, 1) := dk_42 (dk_at dksL_law_88 6 rfl rfl)
theorem dL_law_2336 : decode cL_law 2336 = .ok (.iload_n 3, 1) := dk_29 (dk_at dksL_law_88 7 rfl rfl)
theorem dL_law_2337 : decode cL_law 2337 = .ok (.iconst 1, 1) := dk_4 (dk_at dksL_law_88 8 rfl rfl)
theorem dL_law_2338 : decode cL_law 2338 = .ok (.iadd, 1) := dk_96 (dk_at dksL_law_88 9 rfl rfl)
theorem dL_law_2339 : decode cL_law 2339 = .ok (.iaload, 1) := dk_46 (dk_at dksL_law_88 10 rfl rfl)
theorem dL_law_2340 : decode cL_law 2340 = .ok (.invokevirtual 273, 3) := dk_182 1 17 (dk_at dksL_law_88 11 rfl rfl)
theorem dL_law_2343 : decode cL_law 2343 = .ok (.aload_n 2, 1) := dk_44 (dk_at dksL_law_88 14 rfl rfl)
theorem dL_law_2344 : decode cL_law 2344 = .ok (.aload_n 0, 1) := dk_42 (dk_at dksL_law_88 15 rfl rfl)
theorem dL_law_2345 : decode cL_law 2345 = .ok (.iload_n 3, 1) := dk_29 (dk_at dksL_law_88 16 rfl rfl)
theorem dL_law_2346 : decode cL_law 2346 = .ok (.iconst 1, 1) := dk_4 (dk_at dksL_law_88 17 rfl rfl)
theorem dL_law_2347 : decode cL_law 2347 = .ok (.iadd, 1) := dk_96 (dk_at dksL_law_88 18 rfl rfl)
theorem dL_law_2348 : decode cL_law 2348 = .ok (.iaload, 1) := dk_46 (dk_at dksL_law_88 19 rfl rfl)
theorem dL_law_2349 : decode cL_law 2349 = .ok (.invokevirtual 276, 3) := dk_182 1 20 (dk_at dksL_law_88 20 rfl rfl)
theorem dL_law_2352 : decode cL_law 2352 = .ok (.if_icmp .eq 87, 3) := dk_159 0 87 (dk_at dksL_law_89 0 rfl rfl)
theorem dL_law_2355 : decode cL_law 2355 = .ok (.iconst 0, 1) := dk_3 (dk_at dksL_law_89 3 rfl rfl)
theorem dL_law_2356 : decode cL_law 2356 = .ok (.ireturn, 1) := dk_172 (dk_at dksL_law_89 4 rfl rfl)
theorem dL_law_2357 : decode cL_law 2357 = .ok (.aload_n 1, 1) := dk_43 (dk_at dksL_law_89 5 rfl rfl)
theorem dL_law_2358 : decode cL_law 2358 = .ok (.aload_n 0, 1) := dk_42 (dk_at dksL_law_89 6 rfl rfl)
theorem dL_law_2359 : decode cL_law 2359 = .ok (.iload_n 3, 1) := dk_29 (dk_at dksL_law_89 7 rfl rfl)
theorem dL_law_2360 : decode cL_law 2360 = .ok (.iconst 1, 1) := dk_4 (dk_at dksL_law_89 8 rfl rfl)
theorem dL_law_2361 : decode cL_law 2361 = .ok (.iadd, 1) := dk_96 (dk_at dksL_law_89 9 rfl rfl)
theorem dL_law_2362 : decode cL_law 2362 = .ok (.iaload, 1) := dk_46 (dk_at dksL_law_89 10 rfl rfl)
theorem dL_law_2363 : decode cL_law 2363 = .ok (.invokevirtual 277, 3) := dk_182 1 21 (dk_at dksL_law_89 11 rfl rfl)
theorem dL_law_2366 : decode cL_law 2366 = .ok (.aload_n 2, 1) := dk_44 (dk_at dksL_law_89 14 rfl rfl)
theorem dL_law_2367 : decode cL_law 2367 = .ok (.aload_n 0, 1) := dk_42 (dk_at dksL_law_89 15 rfl rfl)
theorem dL_law_2368 : decode cL_law 2368 = .ok (.iload_n 3, 1) := dk_29 (dk_at dksL_law_89 16 rfl rfl)
theorem dL_law_2369 : decode cL_law 2369 = .ok (.iconst 1, 1) := dk_4 (dk_at dksL_law_89 17 rfl rfl)
theorem dL_law_2370 : decode cL_law 2370 = .ok (.iadd, 1) := dk_96 (dk_at dksL_law_89 18 rfl rfl)
theorem dL_law_2371 : decode cL_law 2371 = .ok (.iaload, 1) := dk_46 (dk_at dksL_law_89 19 rfl rfl)
theorem dL_law_2372 : decode cL_law 2372 = .ok (.invokevirtual 280, 3) := dk_182 1 24 (dk_at dksL_law_89 20 rfl rfl)
theorem dL_law_2375 : decode cL_law 2375 = .ok (.if_icmp .eq 64, 3) := dk_159 0 64 (dk_at dksL_law_90 0 rfl rfl)
theorem dL_law_2378 : decode cL_law 2378 = .ok (.iconst 0, 1) := dk_3 (dk_at dksL_law_90 3 rfl rfl)
theorem dL_law_2379 : decode cL_law 2379 = .ok (.ireturn, 1) := dk_172 (dk_at dksL_law_90 4 rfl rfl)
theorem dL_law_2380 : decode cL_law 2380 = .ok (.aload_n 1, 1) := dk_43 (dk_at dksL_law_90 5 rfl rfl)
theorem dL_law_2381 : decode cL_law 2381 = .ok (.aload_n 0, 1) := dk_42 (dk_at dksL_law_90 6 rfl rfl)
theorem dL_law_2382 : decode cL_law 2382 = .ok (.iload_n 3, 1) := dk_29 (dk_at dksL_law_90 7 rfl rfl)
theorem dL_law_2383 : decode cL_law 2383 = .ok (.iconst 1, 1) := dk_4 (dk_at dksL_law_90 8 rfl rfl)
theorem dL_law_2384 : decode cL_law 2384 = .ok (.iadd, 1) := dk_96 (dk_at dksL_law_90 9 rfl rfl)
theorem dL_law_2385 : decode cL_law 2385 = .ok (.iaload, 1) := dk_46 (dk_at dksL_law_90 10 rfl rfl)
theorem dL_law_2386 : decode cL_law 2386 = .ok (.aload_n 0, 1) := dk_42 (dk_at dksL_law_90 11 rfl rfl)
theorem dL_law_2387 : decode cL_law 2387 = .ok (.iload_n 3, 1) := dk_29 (dk_at dksL_law_90 12 rfl rfl)
theorem dL_law_2388 : decode cL_law 2388 = .ok (.iconst 2, 1) := dk_5 (dk_at dksL_law_90 13 rfl rfl)
theorem dL_law_2389 : decode cL_law 2389 = .ok (.iadd, 1) := dk_96 (dk_at dksL_law_90 14 rfl rfl)
theorem dL_law_2390 : decode cL_law 2390 = .ok (.iaload, 1) := dk_46 (dk_at dksL_law_90 15 rfl rfl)
theorem dL_law_2391 : decode cL_law 2391 = .ok (.invokevirtual 281, 3) := dk_182 1 25 (dk_at dksL_law_90 16 rfl rfl)
theorem dL_law_2394 : decode cL_law 2394 = .ok (.aload_n 2, 1) := dk_44 (dk_at dksL_law_90 19 rfl rfl)
theorem dL_law_2395 : decode cL_law 2395 = .ok (.aload_n 0, 1) := dk_42 (dk_at dksL_law_90 20 rfl rfl)
theorem dL_law_2396 : decode cL_law 2396 = .ok (.iload_n 3, 1) := dk_29 (dk_at dksL_law_90 21 rfl rfl)
theorem dL_law_2397 : decode cL_law 2397 = .ok (.iconst 1, 1) := dk_4 (dk_at dksL_law_90 22 rfl rfl)
theorem dL_law_2398 : decode cL_law 2398 = .ok (.iadd, 1) := dk_96 (dk_at dksL_law_90 23 rfl rfl)
theorem dL_law_2399 : decode cL_law 2399 = .ok (.iaload, 1) := dk_46 (dk_at dksL_law_91 0 rfl rfl)
theorem dL_law_2400 : decode cL_law 2400 = .ok (.aload_n 0, 1) := dk_42 (dk_at dksL_law_91 1 rfl rfl)
theorem dL_law_2401 : decode cL_law 2401 = .ok (.iload_n 3, 1) := dk_29 (dk_at dksL_law_91 2 rfl rfl)
theorem dL_law_2402 : decode cL_law 2402 = .ok (.iconst 2, 1) := dk_5 (dk_at dksL_law_91 3 rfl rfl)
theorem dL_law_2403 : decode cL_law 2403 = .ok (.iadd, 1) := dk_96 (dk_at dksL_law_91 4 rfl rfl)
theorem dL_law_2404 : decode cL_law 2404 = .ok (.iaload, 1) := dk_46 (dk_at dksL_law_91 5 rfl rfl)
theorem dL_law_2405 : decode cL_law 2405 = .ok (.invokevirtual 284, 3) := dk_182 1 28 (dk_at dksL_law_91 6 rfl rfl)
theorem dL_law_2408 : decode cL_law 2408 = .ok (.if_icmp .eq 31, 3) := dk_159 0 31 (dk_at dksL_law_91 9 rfl rfl)
theorem dL_law_2411 : decode cL_law 2411 = .ok (.iconst 0, 1) := dk_3 (dk_at dksL_law_91 12 rfl rfl)
theorem dL_law_2412 : decode cL_law 2412 = .ok (.ireturn, 1) := dk_172 (dk_at dksL_law_91 13 rfl rfl)
theorem dL_law_2413 : decode cL_law 2413 = .ok (.aload_n 1, 1) := dk_43 (dk_at dksL_law_91 14 rfl rfl)
theorem dL_law_2414 : decode cL_law 2414 = .ok (.invokevirtual 285, 3) := dk_182 1 29 (dk_at dksL_law_91 15 rfl rfl)
theorem dL_law_2417 : decode cL_law 2417 = .ok (.aload_n 2, 1) := dk_44 (dk_at dksL_law_91 18 rfl rfl)
theorem dL_law_2418 : decode cL_law 2418 = .ok (.invokevirtual 288, 3) := dk_182 1 32 (dk_at dksL_law_91 19 rfl rfl)
theorem dL_law_2421 : decode cL_law 2421 = .ok (.if_icmp .eq 18, 3) := dk_159 0 18 (dk_at dksL_law_92 0 rfl rfl)
theorem dL_law_2424 : decode cL_law 2424 = .ok (.iconst 0, 1) := dk_3 (dk_at dksL_law_92 3 rfl rfl)
theorem dL_law_2425 : decode cL_law 2425 = .ok (.ireturn, 1) := dk_172 (dk_at dksL_law_92 4 rfl rfl)
theorem dL_law_2426 : decode cL_law 2426 = .ok (.aload_n 1, 1) := dk_43 (dk_at dksL_law_92 5 rfl rfl)
theorem dL_law_2427 : decode cL_law 2427 = .ok (.invokevirtual 289, 3) := dk_182 1 33 (dk_at dksL_law_92 6 rfl rfl)
theorem dL_law_2430 : decode cL_law 2430 = .ok (.aload_n 2, 1) := dk_44 (dk_at dksL_law_92 9 rfl rfl)
theorem dL_law_2431 : decode cL_law 2431 = .ok (.invokevirtual 292, 3) := dk_182 1 36 (dk_at dksL_law_92 10 rfl rfl)
theorem dL_law_2434 : decode cL_law 2434 = .ok (.if_icmp .eq 5, 3) := dk_159 0 5 (dk_at dksL_law_92 13 rfl rfl)
theorem dL_law_2437 : decode cL_law 2437 = .ok (.iconst 0, 1) := dk_3 (dk_at dksL_law_92 16 rfl rfl)
theorem dL_law_2438 : decode cL_law 2438 = .ok (.ireturn, 1) := dk_172 (dk_at dksL_law_92 17 rfl rfl)
theorem dL_law_2439 : decode cL_law 2439 = .ok (.iinc 3 6, 3) := dk_132 3 6 (dk_at dksL_law_92 18 rfl rfl)
theorem dL_law_2442 : decode cL_law 2442 = .ok (.goto (-2424), 3) := dk_167 246 136 (dk_at dksL_law_92 21 rfl rfl)
theorem dL_law_2445 : decode cL_law 2445 = .ok (.iconst 1, 1) := dk_4 (dk_at dksL_law_93 0 rfl rfl)
theorem dL_law_2446 : decode cL_law 2446 = .ok (.ireturn, 1) := dk_172 (dk_at dksL_law_93 1 rfl rfl)
