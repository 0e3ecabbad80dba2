/-! WheelLand -/
set_option maxRecDepth 100000
def RX0 : String := "WheelLand"
def TX0 : u_T := fun k => match k with
  | 0 => ("WheelLand", "villages", "[LWheelLand$Village;", true)
  | 1 => ("WheelLand", "houses", "[LWheelLand$House;", true)
  | 2 => ("WheelLand", "lots", "[LWheelLand$Lot;", true)
  | 3 => ("WheelLand", "cloths", "[LWheelLand$Cloth;", true)
  | 4 => ("WheelLand", "sheets", "[LWheelLand$Sheet;", true)
  | 5 => ("WheelLand", "forcedSheet", "[I", true)
  | 6 => ("WheelLand", "forcedFrom", "[I", true)
  | 7 => ("WheelLand", "roads", "[I", true)
  | 8 => ("WheelLand", "far", "[I", true)
  | 9 => ("WheelLand", "names", "[I", true)
  | 10 => ("WheelLand", "heap", "[I", true)
  | 11 => ("WheelLand", "told", "[I", true)
  | 12 => ("WheelLand", "text", "[B", true)
  | 13 => ("WheelLand", "reader", "LWheelLand$Reader;", true)
  | 14 => ("WheelLand", "now", "I", false)
  | 15 => ("WheelLand", "villageMany", "I", false)
  | 16 => ("WheelLand", "houseMany", "I", false)
  | 17 => ("WheelLand", "lotMany", "I", false)
  | 18 => ("WheelLand", "clothMany", "I", false)
  | 19 => ("WheelLand", "sheetMany", "I", false)
  | 20 => ("WheelLand", "forced", "I", false)
  | 21 => ("WheelLand", "size", "I", false)
  | 22 => ("WheelLand", "crown", "I", false)
  | 23 => ("WheelLand", "paidAll", "I", false)
  | 24 => ("WheelLand", "wovenAll", "I", false)
  | 25 => ("WheelLand", "spunAll", "I", false)
  | 26 => ("WheelLand", "spunNow", "I", false)
  | 27 => ("WheelLand", "hands", "LWheelLand$Hands;", true)
  | 28 => ("WheelLand", "giftPrice", "[I", true)
  | 29 => ("WheelLand", "giftHouse", "[I", true)
  | 30 => ("WheelLand", "giftKind", "[I", true)
  | 31 => ("WheelLand", "wheelsWith", "[I", true)
  | 32 => ("WheelLand", "skillWith", "[I", true)
  | 33 => ("WheelLand", "cottonWith", "[I", true)
  | _ => ("WheelLand", "gifts", "I", false)
def tyX0 : Nat → FieldType := fun k => match k with
  | 0 => .array (.object "WheelLand$Village")
  | 1 => .array (.object "WheelLand$House")
  | 2 => .array (.object "WheelLand$Lot")
  | 3 => .array (.object "WheelLand$Cloth")
  | 4 => .array (.object "WheelLand$Sheet")
  | 5 => .array .int
  | 6 => .array .int
  | 7 => .array .int
  | 8 => .array .int
  | 9 => .array .int
  | 10 => .array .int
  | 11 => .array .int
  | 12 => .array .byte
  | 13 => .object "WheelLand$Reader"
  | 14 => .int
  | 15 => .int
  | 16 => .int
  | 17 => .int
  | 18 => .int
  | 19 => .int
  | 20 => .int
  | 21 => .int
  | 22 => .int
  | 23 => .int
  | 24 => .int
  | 25 => .int
  | 26 => .int
  | 27 => .object "WheelLand$Hands"
  | 28 => .array .int
  | 29 => .array .int
  | 30 => .array .int
  | 31 => .array .int
  | 32 => .array .int
  | 33 => .array .int
  | _ => .int
abbrev wsX00 : List Cond := u_ws RX0 TX0 35
set_option maxRecDepth 100000 in
theorem nmX0 : ∀ a, a < 35 → ∀ b, b < 35 → a ≠ b → (TX0 a).2.1 ≠ (TX0 b).2.1 := by decide +kernel
set_option maxRecDepth 100000 in
theorem tyX0_ok : ∀ k, k < 35 → parseFieldDescriptor (TX0 k).2.2.1 = some (tyX0 k) := by decide +kernel
abbrev cX0_init : ByteArray := prog_1_method_5_code
def yX0_init : MethodName := ⟨RX0, "<init>", "()V"⟩
def dkwX0_init_8 : List UInt8 := [181, 0, 109, 177]
abbrev dktX0_init_8 : List UInt8 := dkwX0_init_8 ++ []
def dkwX0_init_7 : List UInt8 := [181, 0, 100, 42, 16, 20, 188, 10, 181, 0, 103, 42, 16, 20, 188, 10, 181, 0, 106, 42, 16, 8, 188, 10]
abbrev dktX0_init_7 : List UInt8 := dkwX0_init_7 ++ dktX0_init_8
def dkwX0_init_6 : List UInt8 := [181, 0, 90, 42, 16, 8, 188, 10, 181, 0, 94, 42, 16, 8, 188, 10, 181, 0, 97, 42, 16, 8, 188, 10]
abbrev dktX0_init_6 : List UInt8 := dkwX0_init_6 ++ dktX0_init_7
def dkwX0_init_5 : List UInt8 := [181, 0, 74, 42, 187, 0, 78, 89, 183, 0, 80, 181, 0, 81, 42, 187, 0, 85, 89, 42, 183, 0, 87]
abbrev dktX0_init_5 : List UInt8 := dkwX0_init_5 ++ dktX0_init_6
def dkwX0_init_4 : List UInt8 := [17, 1, 144, 188, 10, 181, 0, 68, 42, 17, 3, 168, 188, 10, 181, 0, 71, 42, 17, 1, 144, 188, 8]
abbrev dktX0_init_4 : List UInt8 := dkwX0_init_4 ++ dktX0_init_5
def dkwX0_init_3 : List UInt8 := [16, 64, 188, 10, 181, 0, 59, 42, 16, 64, 188, 10, 181, 0, 62, 42, 16, 13, 188, 10, 181, 0, 65, 42]
abbrev dktX0_init_3 : List UInt8 := dkwX0_init_3 ++ dktX0_init_4
def dkwX0_init_2 : List UInt8 := [189, 0, 46, 181, 0, 48, 42, 16, 12, 188, 10, 181, 0, 52, 42, 16, 12, 188, 10, 181, 0, 56, 42]
abbrev dktX0_init_2 : List UInt8 := dkwX0_init_2 ++ dktX0_init_3
def dkwX0_init_1 : List UInt8 := [17, 1, 44, 189, 0, 34, 181, 0, 36, 42, 17, 0, 200, 189, 0, 40, 181, 0, 42, 42, 16, 8]
abbrev dktX0_init_1 : List UInt8 := dkwX0_init_1 ++ dktX0_init_2
def dkwX0_init_0 : List UInt8 := [42, 183, 0, 16, 42, 16, 8, 189, 0, 22, 181, 0, 24, 42, 16, 20, 189, 0, 28, 181, 0, 30, 42]
abbrev dktX0_init_0 : List UInt8 := dkwX0_init_0 ++ dktX0_init_1
theorem dksX0_init_0 : cX0_init.data.toList.drop 0 = dktX0_init_0 := by decide +kernel
theorem dksX0_init_1 : cX0_init.data.toList.drop 23 = dktX0_init_1 := dk_seg dksX0_init_0 23 rfl rfl
theorem dksX0_init_2 : cX0_init.data.toList.drop 45 = dktX0_init_2 := dk_seg dksX0_init_1 22 rfl rfl
theorem dksX0_init_3 : cX0_init.data.toList.drop 68 = dktX0_init_3 := dk_seg dksX0_init_2 23 rfl rfl
theorem dksX0_init_4 : cX0_init.data.toList.drop 92 = dktX0_init_4 := dk_seg dksX0_init_3 24 rfl rfl
theorem dksX0_init_5 : cX0_init.data.toList.drop 115 = dktX0_init_5 := dk_seg dksX0_init_4 23 rfl rfl
theorem dksX0_init_6 : cX0_init.data.toList.drop 138 = dktX0_init_6 := dk_seg dksX0_init_5 23 rfl rfl
theorem dksX0_init_7 : cX0_init.data.toList.drop 162 = dktX0_init_7 := dk_seg dksX0_init_6 24 rfl rfl
theorem dksX0_init_8 : cX0_init.data.toList.drop 186 = dktX0_init_8 := dk_seg dksX0_init_7 24 rfl rfl
theorem dX0_init_0 : decode cX0_init 0 = .ok (.aload_n 0, 1) := dk_42 (dk_at dksX0_init_0 0 rfl rfl)
theorem dX0_init_1 : decode cX0_init 1 = .ok (.invokespecial 16, 3) := dk_183 0 16 (dk_at dksX0_init_0 1 rfl rfl)
theorem dX0_init_4 : decode cX0_init 4 = .ok (.aload_n 0, 1) := dk_42 (dk_at dksX0_init_0 4 rfl rfl)
theorem dX0_init_5 : decode cX0_init 5 = .ok (.bipush 8, 2) := dk_16 8 (dk_at dksX0_init_0 5 rfl rfl)
theorem dX0_init_7 : decode cX0_init 7 = .ok (.anewarray 22, 3) := dk_189 0 22 (dk_at dksX0_init_0 7 rfl rfl)
theorem dX0_init_10 : decode cX0_init 10 = .ok (.putfield 24, 3) := dk_181 0 24 (dk_at dksX0_init_0 10 rfl rfl)
theorem dX0_init_13 : decode cX0_init 13 = .ok (.aload_n 0, 1) := dk_42 (dk_at dksX0_init_0 13 rfl rfl)
theorem dX0_init_14 : decode cX0_init 14 = .ok (.bipush 20, 2) := dk_16 20 (dk_at dksX0_init_0 14 rfl rfl)
theorem dX0_init_16 : decode cX0_init 16 = .ok (.anewarray 28, 3) := dk_189 0 28 (dk_at dksX0_init_0 16 rfl rfl)
theorem dX0_init_19 : decode cX0_init 19 = .ok (.putfield 30, 3) := dk_181 0 30 (dk_at dksX0_init_0 19 rfl rfl)
theorem dX0_init_22 : decode cX0_init 22 = .ok (.aload_n 0, 1) := dk_42 (dk_at dksX0_init_0 22 rfl rfl)
theorem dX0_init_23 : decode cX0_init 23 = .ok (.sipush 300, 3) := dk_17 1 44 (dk_at dksX0_init_1 0 rfl rfl)
theorem dX0_init_26 : decode cX0_init 26 = .ok (.anewarray 34, 3) := dk_189 0 34 (dk_at dksX0_init_1 3 rfl rfl)
theorem dX0_init_29 : decode cX0_init 29 = .ok (.putfield 36, 3) := dk_181 0 36 (dk_at dksX0_init_1 6 rfl rfl)
theorem dX0_init_32 : decode cX0_init 32 = .ok (.aload_n 0, 1) := dk_42 (dk_at dksX0_init_1 9 rfl rfl)
theorem dX0_init_33 : decode cX0_init 33 = .ok (.sipush 200, 3) := dk_17 0 200 (dk_at dksX0_init_1 10 rfl rfl)
theorem dX0_init_36 : decode cX0_init 36 = .ok (.anewarray 40, 3) := dk_189 0 40 (dk_at dksX0_init_1 13 rfl rfl)
theorem dX0_init_39 : decode cX0_init 39 = .ok (.putfield 42, 3) := dk_181 0 42 (dk_at dksX0_init_1 16 rfl rfl)
theorem dX0_init_42 : decode cX0_init 42 = .ok (.aload_n 0, 1) := dk_42 (dk_at dksX0_init_1 19 rfl rfl)
theorem dX0_init_43 : decode cX0_init 43 = .ok (.bipush 8, 2) := dk_16 8 (dk_at dksX0_init_1 20 rfl rfl)
theorem dX0_init_45 : decode cX0_init 45 = .ok (.anewarray 46, 3) := dk_189 0 46 (dk_at dksX0_init_2 0 rfl rfl)
theorem dX0_init_48 : decode cX0_init 48 = .ok (.putfield 48, 3) := dk_181 0 48 (dk_at dksX0_init_2 3 rfl rfl)
theorem dX0_init_51 : decode cX0_init 51 = .ok (.aload_n 0, 1) := dk_42 (dk_at dksX0_init_2 6 rfl rfl)
theorem dX0_init_52 : decode cX0_init 52 = .ok (.bipush 12, 2) := dk_16 12 (dk_at dksX0_init_2 7 rfl rfl)
theorem dX0_init_54 : decode cX0_init 54 = .ok (.newarray .int, 2) := dk_188_10 (dk_at dksX0_init_2 9 rfl rfl)
theorem dX0_init_56 : decode cX0_init 56 = .ok (.putfield 52, 3) := dk_181 0 52 (dk_at dksX0_init_2 11 rfl rfl)
theorem dX0_init_59 : decode cX0_init 59 = .ok (.aload_n 0, 1) := dk_42 (dk_at dksX0_init_2 14 rfl rfl)
theorem dX0_init_60 : decode cX0_init 60 = .ok (.bipush 12, 2) := dk_16 12 (dk_at dksX0_init_2 15 rfl rfl)
theorem dX0_init_62 : decode cX0_init 62 = .ok (.newarray .int, 2) := dk_188_10 (dk_at dksX0_init_2 17 rfl rfl)
theorem dX0_init_64 : decode cX0_init 64 = .ok (.putfield 56, 3) := dk_181 0 56 (dk_at dksX0_init_2 19 rfl rfl)
theorem dX0_init_67 : decode cX0_init 67 = .ok (.aload_n 0, 1) := dk_42 (dk_at dksX0_init_2 22 rfl rfl)
theorem dX0_init_68 : decode cX0_init 68 = .ok (.bipush 64, 2) := dk_16 64 (dk_at dksX0_init_3 0 rfl rfl)
theorem dX0_init_70 : decode cX0_init 70 = .ok (.newarray .int, 2) := dk_188_10 (dk_at dksX0_init_3 2 rfl rfl)
theorem dX0_init_72 : decode cX0_init 72 = .ok (.putfield 59, 3) := dk_181 0 59 (dk_at dksX0_init_3 4 rfl rfl)
theorem dX0_init_75 : decode cX0_init 75 = .ok (.aload_n 0, 1) := dk_42 (dk_at dksX0_init_3 7 rfl rfl)
theorem dX0_init_76 : decode cX0_init 76 = .ok (.bipush 64, 2) := dk_16 64 (dk_at dksX0_init_3 8 rfl rfl)
theorem dX0_init_78 : decode cX0_init 78 = .ok (.newarray .int, 2) := dk_188_10 (dk_at dksX0_init_3 10 rfl rfl)
theorem dX0_init_80 : decode cX0_init 80 = .ok (.putfield 62, 3) := dk_181 0 62 (dk_at dksX0_init_3 12 rfl rfl)
theorem dX0_init_83 : decode cX0_init 83 = .ok (.aload_n 0, 1) := dk_42 (dk_at dksX0_init_3 15 rfl rfl)
theorem dX0_init_84 : decode cX0_init 84 = .ok (.bipush 13, 2) := dk_16 13 (dk_at dksX0_init_3 16 rfl rfl)
theorem dX0_init_86 : decode cX0_init 86 = .ok (.newarray .int, 2) := dk_188_10 (dk_at dksX0_init_3 18 rfl rfl)
theorem dX0_init_88 : decode cX0_init 88 = .ok (.putfield 65, 3) := dk_181 0 65 (dk_at dksX0_init_3 20 rfl rfl)
theorem dX0_init_91 : decode cX0_init 91 = .ok (.aload_n 0, 1) := dk_42 (dk_at dksX0_init_3 23 rfl rfl)
theorem dX0_init_92 : decode cX0_init 92 = .ok (.sipush 400, 3) := dk_17 1 144 (dk_at dksX0_init_4 0 rfl rfl)
theorem dX0_init_95 : decode cX0_init 95 = .ok (.newarray .int, 2) := dk_188_10 (dk_at dksX0_init_4 3 rfl rfl)
theorem dX0_init_97 : decode cX0_init 97 = .ok (.putfield 68, 3) := dk_181 0 68 (dk_at dksX0_init_4 5 rfl rfl)
theorem dX0_init_100 : decode cX0_init 100 = .ok (.aload_n 0, 1) := dk_42 (dk_at dksX0_init_4 8 rfl rfl)
theorem dX0_init_101 : decode cX0_init 101 = .ok (.sipush 936, 3) := dk_17 3 168 (dk_at dksX0_init_4 9 rfl rfl)
theorem dX0_init_104 : decode cX0_init 104 = .ok (.newarray .int, 2) := dk_188_10 (dk_at dksX0_init_4 12 rfl rfl)
theorem dX0_init_106 : decode cX0_init 106 = .ok (.putfield 71, 3) := dk_181 0 71 (dk_at dksX0_init_4 14 rfl rfl)
theorem dX0_init_109 : decode cX0_init 109 = .ok (.aload_n 0, 1) := dk_42 (dk_at dksX0_init_4 17 rfl rfl)
theorem dX0_init_110 : decode cX0_init 110 = .ok (.sipush 400, 3) := dk_17 1 144 (dk_at dksX0_init_4 18 rfl rfl)
theorem dX0_init_113 : decode cX0_init 113 = .ok (.newarray .byte, 2) := dk_188_8 (dk_at dksX0_init_4 21 rfl rfl)
theorem dX0_init_115 : decode cX0_init 115 = .ok (.putfield 74, 3) := dk_181 0 74 (dk_at dksX0_init_5 0 rfl rfl)
theorem dX0_init_118 : decode cX0_init 118 = .ok (.aload_n 0, 1) := dk_42 (dk_at dksX0_init_5 3 rfl rfl)
theorem dX0_init_119 : decode cX0_init 119 = .ok (.new 78, 3) := dk_187 0 78 (dk_at dksX0_init_5 4 rfl rfl)
theorem dX0_init_122 : decode cX0_init 122 = .ok (.dup, 1) := dk_89 (dk_at dksX0_init_5 7 rfl rfl)
theorem dX0_init_123 : decode cX0_init 123 = .ok (.invokespecial 80, 3) := dk_183 0 80 (dk_at dksX0_init_5 8 rfl rfl)
theorem dX0_init_126 : decode cX0_init 126 = .ok (.putfield 81, 3) := dk_181 0 81 (dk_at dksX0_init_5 11 rfl rfl)
theorem dX0_init_129 : decode cX0_init 129 = .ok (.aload_n 0, 1) := dk_42 (dk_at dksX0_init_5 14 rfl rfl)
theorem dX0_init_130 : decode cX0_init 130 = .ok (.new 85, 3) := dk_187 0 85 (dk_at dksX0_init_5 15 rfl rfl)
theorem dX0_init_133 : decode cX0_init 133 = .ok (.dup, 1) := dk_89 (dk_at dksX0_init_5 18 rfl rfl)
theorem dX0_init_134 : decode cX0_init 134 = .ok (.aload_n 0, 1) := dk_42 (dk_at dksX0_init_5 19 rfl rfl)
theorem dX0_init_135 : decode cX0_init 135 = .ok (.invokespecial 87, 3) := dk_183 0 87 (dk_at dksX0_init_5 20 rfl rfl)
theorem dX0_init_138 : decode cX0_init 138 = .ok (.putfield 90, 3) := dk_181 0 90 (dk_at dksX0_init_6 0 rfl rfl)
theorem dX0_init_141 : decode cX0_init 141 = .ok (.aload_n 0, 1) := dk_42 (dk_at dksX0_init_6 3 rfl rfl)
theorem dX0_init_142 : decode cX0_init 142 = .ok (.bipush 8, 2) := dk_16 8 (dk_at dksX0_init_6 4 rfl rfl)
theorem dX0_init_144 : decode cX0_init 144 = .ok (.newarray .int, 2) := dk_188_10 (dk_at dksX0_init_6 6 rfl rfl)
theorem dX0_init_146 : decode cX0_init 146 = .ok (.putfield 94, 3) := dk_181 0 94 (dk_at dksX0_init_6 8 rfl rfl)
theorem dX0_init_149 : decode cX0_init 149 = .ok (.aload_n 0, 1) := dk_42 (dk_at dksX0_init_6 11 rfl rfl)
theorem dX0_init_150 : decode cX0_init 150 = .ok (.bipush 8, 2) := dk_16 8 (dk_at dksX0_init_6 12 rfl rfl)
theorem dX0_init_152 : decode cX0_init 152 = .ok (.newarray .int, 2) := dk_188_10 (dk_at dksX0_init_6 14 rfl rfl)
theorem dX0_init_154 : decode cX0_init 154 = .ok (.putfield 97, 3) := dk_181 0 97 (dk_at dksX0_init_6 16 rfl rfl)
theorem dX0_init_157 : decode cX0_init 157 = .ok (.aload_n 0, 1) := dk_42 (dk_at dksX0_init_6 19 rfl rfl)
theorem dX0_init_158 : decode cX0_init 158 = .ok (.bipush 8, 2) := dk_16 8 (dk_at dksX0_init_6 20 rfl rfl)
theorem dX0_init_160 : decode cX0_init 160 = .ok (.newarray .int, 2) := dk_188_10 (dk_at dksX0_init_6 22 rfl rfl)
theorem dX0_init_162 : decode cX0_init 162 = .ok (.putfield 100, 3) := dk_181 0 100 (dk_at dksX0_init_7 0 rfl rfl)
theorem dX0_init_165 : decode cX0_init 165 = .ok (.aload_n 0, 1) := dk_42 (dk_at dksX0_init_7 3 rfl rfl)
theorem dX0_init_166 : decode cX0_init 166 = .ok (.bipush 20, 2) := dk_16 20 (dk_at dksX0_init_7 4 rfl rfl)
theorem dX0_init_168 : decode cX0_init 168 = .ok (.newarray .int, 2) := dk_188_10 (dk_at dksX0_init_7 6 rfl rfl)
theorem dX0_init_170 : decode cX0_init 170 = .ok (.putfield 103, 3) := dk_181 0 103 (dk_at dksX0_init_7 8 rfl rfl)
theorem dX0_init_173 : decode cX0_init 173 = .ok (.aload_n 0, 1) := dk_42 (dk_at dksX0_init_7 11 rfl rfl)
theorem dX0_init_174 : decode cX0_init 174 = .ok (.bipush 20, 2) := dk_16 20 (dk_at dksX0_init_7 12 rfl rfl)
theorem dX0_init_176 : decode cX0_init 176 = .ok (.newarray .int, 2) := dk_188_10 (dk_at dksX0_init_7 14 rfl rfl)
theorem dX0_init_178 : decode cX0_init 178 = .ok (.putfield 106, 3) := dk_181 0 106 (dk_at dksX0_init_7 16 rfl rfl)
theorem dX0_init_181 : decode cX0_init 181 = .ok (.aload_n 0, 1) := dk_42 (dk_at dksX0_init_7 19 rfl rfl)
theorem dX0_init_182 : decode cX0_init 182 = .ok (.bipush 8, 2) := dk_16 8 (dk_at dksX0_init_7 20 rfl rfl)
theorem dX0_init_184 : decode cX0_init 184 = .ok (.newarray .int, 2) := dk_188_10 (dk_at dksX0_init_7 22 rfl rfl)
theorem dX0_init_186 : decode cX0_init 186 = .ok (.putfield 109, 3) := dk_181 0 109 (dk_at dksX0_init_8 0 rfl rfl)
theorem dX0_init_189 : decode cX0_init 189 = .ok (.return_, 1) := dk_177 (dk_at dksX0_init_8 3 rfl rfl)
abbrev cX0_village : ByteArray := prog_1_method_10_code
def yX0_village : MethodName := ⟨RX0, "village", "(III)I"⟩
def dkwX0_village_5 : List UInt8 := [172]
abbrev dktX0_village_5 : List UInt8 := dkwX0_village_5 ++ []
def dkwX0_village_4 : List UInt8 := [183, 0, 130, 83, 42, 89, 180, 0, 112, 4, 96, 181, 0, 112, 42, 182, 0, 133, 42, 180, 0, 112, 4, 100]
abbrev dktX0_village_4 : List UInt8 := dkwX0_village_4 ++ dktX0_village_5
def dkwX0_village_3 : List UInt8 := [167, 255, 232, 42, 180, 0, 24, 42, 180, 0, 112, 187, 0, 22, 89, 42, 180, 0, 112, 27, 28, 29]
abbrev dktX0_village_3 : List UInt8 := dkwX0_village_3 ++ dktX0_village_4
def dkwX0_village_2 : List UInt8 := [21, 4, 158, 0, 25, 21, 4, 16, 100, 112, 16, 40, 164, 0, 5, 2, 172, 21, 4, 16, 100, 108, 54, 4]
abbrev dktX0_village_2 : List UInt8 := dkwX0_village_2 ++ dktX0_village_3
def dkwX0_village_1 : List UInt8 := [17, 39, 15, 184, 0, 116, 153, 0, 12, 42, 180, 0, 112, 16, 8, 160, 0, 5, 2, 172, 27, 54, 4]
abbrev dktX0_village_1 : List UInt8 := dkwX0_village_1 ++ dktX0_village_2
def dkwX0_village_0 : List UInt8 := [27, 155, 0, 39, 27, 18, 129, 163, 0, 33, 28, 4, 16, 9, 184, 0, 116, 153, 0, 23, 29, 3]
abbrev dktX0_village_0 : List UInt8 := dkwX0_village_0 ++ dktX0_village_1
theorem dksX0_village_0 : cX0_village.data.toList.drop 0 = dktX0_village_0 := by decide +kernel
theorem dksX0_village_1 : cX0_village.data.toList.drop 22 = dktX0_village_1 := dk_seg dksX0_village_0 22 rfl rfl
theorem dksX0_village_2 : cX0_village.data.toList.drop 45 = dktX0_village_2 := dk_seg dksX0_village_1 23 rfl rfl
theorem dksX0_village_3 : cX0_village.data.toList.drop 69 = dktX0_village_3 := dk_seg dksX0_village_2 24 rfl rfl
theorem dksX0_village_4 : cX0_village.data.toList.drop 91 = dktX0_village_4 := dk_seg dksX0_village_3 22 rfl rfl
theorem dksX0_village_5 : cX0_village.data.toList.drop 115 = dktX0_village_5 := dk_seg dksX0_village_4 24 rfl rfl
theorem dX0_village_0 : decode cX0_village 0 = .ok (.iload_n 1, 1) := dk_27 (dk_at dksX0_village_0 0 rfl rfl)
theorem dX0_village_1 : decode cX0_village 1 = .ok (.ifCond .lt 39, 3) := dk_155 0 39 (dk_at dksX0_village_0 1 rfl rfl)
theorem dX0_village_4 : decode cX0_village 4 = .ok (.iload_n 1, 1) := dk_27 (dk_at dksX0_village_0 4 rfl rfl)
theorem dX0_village_5 : decode cX0_village 5 = .ok (.ldc 129, 2) := dk_18 129 (dk_at dksX0_village_0 5 rfl rfl)
theorem dX0_village_7 : decode cX0_village 7 = .ok (.if_icmp .gt 33, 3) := dk_163 0 33 (dk_at dksX0_village_0 7 rfl rfl)
theorem dX0_village_10 : decode cX0_village 10 = .ok (.iload_n 2, 1) := dk_28 (dk_at dksX0_village_0 10 rfl rfl)
theorem dX0_village_11 : decode cX0_village 11 = .ok (.iconst 1, 1) := dk_4 (dk_at dksX0_village_0 11 rfl rfl)
theorem dX0_village_12 : decode cX0_village 12 = .ok (.bipush 9, 2) := dk_16 9 (dk_at dksX0_village_0 12 rfl rfl)
theorem dX0_village_14 : decode cX0_village 14 = .ok (.invokestatic 116, 3) := dk_184 0 116 (dk_at dksX0_village_0 14 rfl rfl)
theorem dX0_village_17 : decode cX0_village 17 = .ok (.ifCond .eq 23, 3) := dk_153 0 23 (dk_at dksX0_village_0 17 rfl rfl)
theorem dX0_village_20 : decode cX0_village 20 = .ok (.iload_n 3, 1) := dk_29 (dk_at dksX0_village_0 20 rfl rfl)
theorem dX0_village_21 : decode cX0_village 21 = .ok (.iconst 0, 1) := dk_3 (dk_at dksX0_village_0 21 rfl rfl)
theorem dX0_village_22 : decode cX0_village 22 = .ok (.sipush 9999, 3) := dk_17 39 15 (dk_at dksX0_village_1 0 rfl rfl)
theorem dX0_village_25 : decode cX0_village 25 = .ok (.invokestatic 116, 3) := dk_184 0 116 (dk_at dksX0_village_1 3 rfl rfl)
theorem dX0_village_28 : decode cX0_village 28 = .ok (.ifCond .eq 12, 3) := dk_153 0 12 (dk_at dksX0_village_1 6 rfl rfl)
theorem dX0_village_31 : decode cX0_village 31 = .ok (.aload_n 0, 1) := dk_42 (dk_at dksX0_village_1 9 rfl rfl)
theorem dX0_village_32 : decode cX0_village 32 = .ok (.getfield 112, 3) := dk_180 0 112 (dk_at dksX0_village_1 10 rfl rfl)
theorem dX0_village_35 : decode cX0_village 35 = .ok (.bipush 8, 2) := dk_16 8 (dk_at dksX0_village_1 13 rfl rfl)
theorem dX0_village_37 : decode cX0_village 37 = .ok (.if_icmp .ne 5, 3) := dk_160 0 5 (dk_at dksX0_village_1 15 rfl rfl)
theorem dX0_village_40 : decode cX0_village 40 = .ok (.iconst (-1), 1) := dk_2 (dk_at dksX0_village_1 18 rfl rfl)
theorem dX0_village_41 : decode cX0_village 41 = .ok (.ireturn, 1) := dk_172 (dk_at dksX0_village_1 19 rfl rfl)
theorem dX0_village_42 : decode cX0_village 42 = .ok (.iload_n 1, 1) := dk_27 (dk_at dksX0_village_1 20 rfl rfl)
theorem dX0_village_43 : decode cX0_village 43 = .ok (.istore 4, 2) := dk_54 4 (dk_at dksX0_village_1 21 rfl rfl)
theorem dX0_village_45 : decode cX0_village 45 = .ok (.iload 4, 2) := dk_21 4 (dk_at dksX0_village_2 0 rfl rfl)
theorem dX0_village_47 : decode cX0_village 47 = .ok (.ifCond .le 25, 3) := dk_158 0 25 (dk_at dksX0_village_2 2 rfl rfl)
theorem dX0_village_50 : decode cX0_village 50 = .ok (.iload 4, 2) := dk_21 4 (dk_at dksX0_village_2 5 rfl rfl)
theorem dX0_village_52 : decode cX0_village 52 = .ok (.bipush 100, 2) := dk_16 100 (dk_at dksX0_village_2 7 rfl rfl)
theorem dX0_village_54 : decode cX0_village 54 = .ok (.irem, 1) := dk_112 (dk_at dksX0_village_2 9 rfl rfl)
theorem dX0_village_55 : decode cX0_village 55 = .ok (.bipush 40, 2) := dk_16 40 (dk_at dksX0_village_2 10 rfl rfl)
theorem dX0_village_57 : decode cX0_village 57 = .ok (.if_icmp .le 5, 3) := dk_164 0 5 (dk_at dksX0_village_2 12 rfl rfl)
theorem dX0_village_60 : decode cX0_village 60 = .ok (.iconst (-1), 1) := dk_2 (dk_at dksX0_village_2 15 rfl rfl)
theorem dX0_village_61 : decode cX0_village 61 = .ok (.ireturn, 1) := dk_172 (dk_at dksX0_village_2 16 rfl rfl)
theorem dX0_village_62 : decode cX0_village 62 = .ok (.iload 4, 2) := dk_21 4 (dk_at dksX0_village_2 17 rfl rfl)
theorem dX0_village_64 : decode cX0_village 64 = .ok (.bipush 100, 2) := dk_16 100 (dk_at dksX0_village_2 19 rfl rfl)
theorem dX0_village_66 : decode cX0_village 66 = .ok (.idiv, 1) := dk_108 (dk_at dksX0_village_2 21 rfl rfl)
theorem dX0_village_67 : decode cX0_village 67 = .ok (.istore 4, 2) := dk_54 4 (dk_at dksX0_village_2 22 rfl rfl)
theorem dX0_village_69 : decode cX0_village 69 = .ok (.goto (-24), 3) := dk_167 255 232 (dk_at dksX0_village_3 0 rfl rfl)
theorem dX0_village_72 : decode cX0_village 72 = .ok (.aload_n 0, 1) := dk_42 (dk_at dksX0_village_3 3 rfl rfl)
theorem dX0_village_73 : decode cX0_village 73 = .ok (.getfield 24, 3) := dk_180 0 24 (dk_at dksX0_village_3 4 rfl rfl)
theorem dX0_village_76 : decode cX0_village 76 = .ok (.aload_n 0, 1) := dk_42 (dk_at dksX0_village_3 7 rfl rfl)
theorem dX0_village_77 : decode cX0_village 77 = .ok (.getfield 112, 3) := dk_180 0 112 (dk_at dksX0_village_3 8 rfl rfl)
theorem dX0_village_80 : decode cX0_village 80 = .ok (.new 22, 3) := dk_187 0 22 (dk_at dksX0_village_3 11 rfl rfl)
theorem dX0_village_83 : decode cX0_village 83 = .ok (.dup, 1) := dk_89 (dk_at dksX0_village_3 14 rfl rfl)
theorem dX0_village_84 : decode cX0_village 84 = .ok (.aload_n 0, 1) := dk_42 (dk_at dksX0_village_3 15 rfl rfl)
theorem dX0_village_85 : decode cX0_village 85 = .ok (.getfield 112, 3) := dk_180 0 112 (dk_at dksX0_village_3 16 rfl rfl)
theorem dX0_village_88 : decode cX0_village 88 = .ok (.iload_n 1, 1) := dk_27 (dk_at dksX0_village_3 19 rfl rfl)
theorem dX0_village_89 : decode cX0_village 89 = .ok (.iload_n 2, 1) := dk_28 (dk_at dksX0_village_3 20 rfl rfl)
theorem dX0_village_90 : decode cX0_village 90 = .ok (.iload_n 3, 1) := dk_29 (dk_at dksX0_village_3 21 rfl rfl)
theorem dX0_village_91 : decode cX0_village 91 = .ok (.invokespecial 130, 3) := dk_183 0 130 (dk_at dksX0_village_4 0 rfl rfl)
theorem dX0_village_94 : decode cX0_village 94 = .ok (.aastore, 1) := dk_83 (dk_at dksX0_village_4 3 rfl rfl)
theorem dX0_village_95 : decode cX0_village 95 = .ok (.aload_n 0, 1) := dk_42 (dk_at dksX0_village_4 4 rfl rfl)
theorem dX0_village_96 : decode cX0_village 96 = .ok (.dup, 1) := dk_89 (dk_at dksX0_village_4 5 rfl rfl)
theorem dX0_village_97 : decode cX0_village 97 = .ok (.getfield 112, 3) := dk_180 0 112 (dk_at dksX0_village_4 6 rfl rfl)
theorem dX0_village_100 : decode cX0_village 100 = .ok (.iconst 1, 1) := dk_4 (dk_at dksX0_village_4 9 rfl rfl)
theorem dX0_village_101 : decode cX0_village 101 = .ok (.iadd, 1) := dk_96 (dk_at dksX0_village_4 10 rfl rfl)
theorem dX0_village_102 : decode cX0_village 102 = .ok (.putfield 112, 3) := dk_181 0 112 (dk_at dksX0_village_4 11 rfl rfl)
theorem dX0_village_105 : decode cX0_village 105 = .ok (.aload_n 0, 1) := dk_42 (dk_at dksX0_village_4 14 rfl rfl)
theorem dX0_village_106 : decode cX0_village 106 = .ok (.invokevirtual 133, 3) := dk_182 0 133 (dk_at dksX0_village_4 15 rfl rfl)
theorem dX0_village_109 : decode cX0_village 109 = .ok (.aload_n 0, 1) := dk_42 (dk_at dksX0_village_4 18 rfl rfl)
theorem dX0_village_110 : decode cX0_village 110 = .ok (.getfield 112, 3) := dk_180 0 112 (dk_at dksX0_village_4 19 rfl rfl)
theorem dX0_village_113 : decode cX0_village 113 = .ok (.iconst 1, 1) := dk_4 (dk_at dksX0_village_4 22 rfl rfl)
theorem dX0_village_114 : decode cX0_village 114 = .ok (.isub, 1) := dk_100 (dk_at dksX0_village_4 23 rfl rfl)
theorem dX0_village_115 : decode cX0_village 115 = .ok (.ireturn, 1) := dk_172 (dk_at dksX0_village_5 0 rfl rfl)
abbrev cX0_in : ByteArray := prog_1_method_1_code
def yX0_in : MethodName := ⟨RX0, "in", "(III)Z"⟩
def dkwX0_in_0 : List UInt8 := [26, 27, 161, 0, 12, 26, 28, 163, 0, 7, 4, 167, 0, 4, 3, 172]
abbrev dktX0_in_0 : List UInt8 := dkwX0_in_0 ++ []
theorem dksX0_in_0 : cX0_in.data.toList.drop 0 = dktX0_in_0 := by decide +kernel
theorem dX0_in_0 : decode cX0_in 0 = .ok (.iload_n 0, 1) := dk_26 (dk_at dksX0_in_0 0 rfl rfl)
theorem dX0_in_1 : decode cX0_in 1 = .ok (.iload_n 1, 1) := dk_27 (dk_at dksX0_in_0 1 rfl rfl)
theorem dX0_in_2 : decode cX0_in 2 = .ok (.if_icmp .lt 12, 3) := dk_161 0 12 (dk_at dksX0_in_0 2 rfl rfl)
theorem dX0_in_5 : decode cX0_in 5 = .ok (.iload_n 0, 1) := dk_26 (dk_at dksX0_in_0 5 rfl rfl)
theorem dX0_in_6 : decode cX0_in 6 = .ok (.iload_n 2, 1) := dk_28 (dk_at dksX0_in_0 6 rfl rfl)
theorem dX0_in_7 : decode cX0_in 7 = .ok (.if_icmp .gt 7, 3) := dk_163 0 7 (dk_at dksX0_in_0 7 rfl rfl)
theorem dX0_in_10 : decode cX0_in 10 = .ok (.iconst 1, 1) := dk_4 (dk_at dksX0_in_0 10 rfl rfl)
theorem dX0_in_11 : decode cX0_in 11 = .ok (.goto 4, 3) := dk_167 0 4 (dk_at dksX0_in_0 11 rfl rfl)
theorem dX0_in_14 : decode cX0_in 14 = .ok (.iconst 0, 1) := dk_3 (dk_at dksX0_in_0 14 rfl rfl)
theorem dX0_in_15 : decode cX0_in 15 = .ok (.ireturn, 1) := dk_172 (dk_at dksX0_in_0 15 rfl rfl)
abbrev cX0_ways : ByteArray := prog_1_method_12_code
def yX0_ways : MethodName := ⟨RX0, "ways", "()V"⟩
def dkwX0_ways_4 : List UInt8 := [29, 182, 0, 140, 132, 3, 1, 167, 255, 240, 132, 2, 1, 167, 255, 226, 132, 1, 1, 167, 255, 212, 177]
abbrev dktX0_ways_4 : List UInt8 := dkwX0_ways_4 ++ []
def dkwX0_ways_3 : List UInt8 := [16, 8, 162, 0, 44, 3, 61, 28, 16, 8, 162, 0, 30, 3, 62, 29, 16, 8, 162, 0, 16, 42, 28, 27]
abbrev dktX0_ways_3 : List UInt8 := dkwX0_ways_3 ++ dktX0_ways_4
def dkwX0_ways_2 : List UInt8 := [158, 0, 7, 29, 167, 0, 4, 2, 79, 132, 2, 1, 167, 255, 206, 132, 1, 1, 167, 255, 192, 3, 60, 27]
abbrev dktX0_ways_2 : List UInt8 := dkwX0_ways_2 ++ dktX0_ways_3
def dkwX0_ways_1 : List UInt8 := [28, 96, 46, 62, 42, 180, 0, 62, 16, 8, 27, 104, 28, 96, 27, 28, 160, 0, 7, 3, 167, 0, 12, 29]
abbrev dktX0_ways_1 : List UInt8 := dkwX0_ways_1 ++ dktX0_ways_2
def dkwX0_ways_0 : List UInt8 := [3, 60, 27, 16, 8, 162, 0, 64, 3, 61, 28, 16, 8, 162, 0, 50, 42, 180, 0, 59, 16, 8, 27, 104]
abbrev dktX0_ways_0 : List UInt8 := dkwX0_ways_0 ++ dktX0_ways_1
theorem dksX0_ways_0 : cX0_ways.data.toList.drop 0 = dktX0_ways_0 := by decide +kernel
theorem dksX0_ways_1 : cX0_ways.data.toList.drop 24 = dktX0_ways_1 := dk_seg dksX0_ways_0 24 rfl rfl
theorem dksX0_ways_2 : cX0_ways.data.toList.drop 48 = dktX0_ways_2 := dk_seg dksX0_ways_1 24 rfl rfl
theorem dksX0_ways_3 : cX0_ways.data.toList.drop 72 = dktX0_ways_3 := dk_seg dksX0_ways_2 24 rfl rfl
theorem dksX0_ways_4 : cX0_ways.data.toList.drop 96 = dktX0_ways_4 := dk_seg dksX0_ways_3 24 rfl rfl
theorem dX0_ways_0 : decode cX0_ways 0 = .ok (.iconst 0, 1) := dk_3 (dk_at dksX0_ways_0 0 rfl rfl)
theorem dX0_ways_1 : decode cX0_ways 1 = .ok (.istore_n 1, 1) := dk_60 (dk_at dksX0_ways_0 1 rfl rfl)
theorem dX0_ways_2 : decode cX0_ways 2 = .ok (.iload_n 1, 1) := dk_27 (dk_at dksX0_ways_0 2 rfl rfl)
theorem dX0_ways_3 : decode cX0_ways 3 = .ok (.bipush 8, 2) := dk_16 8 (dk_at dksX0_ways_0 3 rfl rfl)
theorem dX0_ways_5 : decode cX0_ways 5 = .ok (.if_icmp .ge 64, 3) := dk_162 0 64 (dk_at dksX0_ways_0 5 rfl rfl)
theorem dX0_ways_8 : decode cX0_ways 8 = .ok (.iconst 0, 1) := dk_3 (dk_at dksX0_ways_0 8 rfl rfl)
theorem dX0_ways_9 : decode cX0_ways 9 = .ok (.istore_n 2, 1) := dk_61 (dk_at dksX0_ways_0 9 rfl rfl)
theorem dX0_ways_10 : decode cX0_ways 10 = .ok (.iload_n 2, 1) := dk_28 (dk_at dksX0_ways_0 10 rfl rfl)
theorem dX0_ways_11 : decode cX0_ways 11 = .ok (.bipush 8, 2) := dk_16 8 (dk_at dksX0_ways_0 11 rfl rfl)
theorem dX0_ways_13 : decode cX0_ways 13 = .ok (.if_icmp .ge 50, 3) := dk_162 0 50 (dk_at dksX0_ways_0 13 rfl rfl)
theorem dX0_ways_16 : decode cX0_ways 16 = .ok (.aload_n 0, 1) := dk_42 (dk_at dksX0_ways_0 16 rfl rfl)
theorem dX0_ways_17 : decode cX0_ways 17 = .ok (.getfield 59, 3) := dk_180 0 59 (dk_at dksX0_ways_0 17 rfl rfl)
theorem dX0_ways_20 : decode cX0_ways 20 = .ok (.bipush 8, 2) := dk_16 8 (dk_at dksX0_ways_0 20 rfl rfl)
theorem dX0_ways_22 : decode cX0_ways 22 = .ok (.iload_n 1, 1) := dk_27 (dk_at dksX0_ways_0 22 rfl rfl)
theorem dX0_ways_23 : decode cX0_ways 23 = .ok (.imul, 1) := dk_104 (dk_at dksX0_ways_0 23 rfl rfl)
theorem dX0_ways_24 : decode cX0_ways 24 = .ok (.iload_n 2, 1) := dk_28 (dk_at dksX0_ways_1 0 rfl rfl)
theorem dX0_ways_25 : decode cX0_ways 25 = .ok (.iadd, 1) := dk_96 (dk_at dksX0_ways_1 1 rfl rfl)
theorem dX0_ways_26 : decode cX0_ways 26 = .ok (.iaload, 1) := dk_46 (dk_at dksX0_ways_1 2 rfl rfl)
theorem dX0_ways_27 : decode cX0_ways 27 = .ok (.istore_n 3, 1) := dk_62 (dk_at dksX0_ways_1 3 rfl rfl)
theorem dX0_ways_28 : decode cX0_ways 28 = .ok (.aload_n 0, 1) := dk_42 (dk_at dksX0_ways_1 4 rfl rfl)
theorem dX0_ways_29 : decode cX0_ways 29 = .ok (.getfield 62, 3) := dk_180 0 62 (dk_at dksX0_ways_1 5 rfl rfl)
theorem dX0_ways_32 : decode cX0_ways 32 = .ok (.bipush 8, 2) := dk_16 8 (dk_at dksX0_ways_1 8 rfl rfl)
theorem dX0_ways_34 : decode cX0_ways 34 = .ok (.iload_n 1, 1) := dk_27 (dk_at dksX0_ways_1 10 rfl rfl)
theorem dX0_ways_35 : decode cX0_ways 35 = .ok (.imul, 1) := dk_104 (dk_at dksX0_ways_1 11 rfl rfl)
theorem dX0_ways_36 : decode cX0_ways 36 = .ok (.iload_n 2, 1) := dk_28 (dk_at dksX0_ways_1 12 rfl rfl)
theorem dX0_ways_37 : decode cX0_ways 37 = .ok (.iadd, 1) := dk_96 (dk_at dksX0_ways_1 13 rfl rfl)
theorem dX0_ways_38 : decode cX0_ways 38 = .ok (.iload_n 1, 1) := dk_27 (dk_at dksX0_ways_1 14 rfl rfl)
theorem dX0_ways_39 : decode cX0_ways 39 = .ok (.iload_n 2, 1) := dk_28 (dk_at dksX0_ways_1 15 rfl rfl)
theorem dX0_ways_40 : decode cX0_ways 40 = .ok (.if_icmp .ne 7, 3) := dk_160 0 7 (dk_at dksX0_ways_1 16 rfl rfl)
theorem dX0_ways_43 : decode cX0_ways 43 = .ok (.iconst 0, 1) := dk_3 (dk_at dksX0_ways_1 19 rfl rfl)
theorem dX0_ways_44 : decode cX0_ways 44 = .ok (.goto 12, 3) := dk_167 0 12 (dk_at dksX0_ways_1 20 rfl rfl)
theorem dX0_ways_47 : decode cX0_ways 47 = .ok (.iload_n 3, 1) := dk_29 (dk_at dksX0_ways_1 23 rfl rfl)
theorem dX0_ways_48 : decode cX0_ways 48 = .ok (.ifCond .le 7, 3) := dk_158 0 7 (dk_at dksX0_ways_2 0 rfl rfl)
theorem dX0_ways_51 : decode cX0_ways 51 = .ok (.iload_n 3, 1) := dk_29 (dk_at dksX0_ways_2 3 rfl rfl)
theorem dX0_ways_52 : decode cX0_ways 52 = .ok (.goto 4, 3) := dk_167 0 4 (dk_at dksX0_ways_2 4 rfl rfl)
theorem dX0_ways_55 : decode cX0_ways 55 = .ok (.iconst (-1), 1) := dk_2 (dk_at dksX0_ways_2 7 rfl rfl)
theorem dX0_ways_56 : decode cX0_ways 56 = .ok (.iastore, 1) := dk_79 (dk_at dksX0_ways_2 8 rfl rfl)
theorem dX0_ways_57 : decode cX0_ways 57 = .ok (.iinc 2 1, 3) := dk_132 2 1 (dk_at dksX0_ways_2 9 rfl rfl)
theorem dX0_ways_60 : decode cX0_ways 60 = .ok (.goto (-50), 3) := dk_167 255 206 (dk_at dksX0_ways_2 12 rfl rfl)
theorem dX0_ways_63 : decode cX0_ways 63 = .ok (.iinc 1 1, 3) := dk_132 1 1 (dk_at dksX0_ways_2 15 rfl rfl)
theorem dX0_ways_66 : decode cX0_ways 66 = .ok (.goto (-64), 3) := dk_167 255 192 (dk_at dksX0_ways_2 18 rfl rfl)
theorem dX0_ways_69 : decode cX0_ways 69 = .ok (.iconst 0, 1) := dk_3 (dk_at dksX0_ways_2 21 rfl rfl)
theorem dX0_ways_70 : decode cX0_ways 70 = .ok (.istore_n 1, 1) := dk_60 (dk_at dksX0_ways_2 22 rfl rfl)
theorem dX0_ways_71 : decode cX0_ways 71 = .ok (.iload_n 1, 1) := dk_27 (dk_at dksX0_ways_2 23 rfl rfl)
theorem dX0_ways_72 : decode cX0_ways 72 = .ok (.bipush 8, 2) := dk_16 8 (dk_at dksX0_ways_3 0 rfl rfl)
theorem dX0_ways_74 : decode cX0_ways 74 = .ok (.if_icmp .ge 44, 3) := dk_162 0 44 (dk_at dksX0_ways_3 2 rfl rfl)
theorem dX0_ways_77 : decode cX0_ways 77 = .ok (.iconst 0, 1) := dk_3 (dk_at dksX0_ways_3 5 rfl rfl)
theorem dX0_ways_78 : decode cX0_ways 78 = .ok (.istore_n 2, 1) := dk_61 (dk_at dksX0_ways_3 6 rfl rfl)
theorem dX0_ways_79 : decode cX0_ways 79 = .ok (.iload_n 2, 1) := dk_28 (dk_at dksX0_ways_3 7 rfl rfl)
theorem dX0_ways_80 : decode cX0_ways 80 = .ok (.bipush 8, 2) := dk_16 8 (dk_at dksX0_ways_3 8 rfl rfl)
theorem dX0_ways_82 : decode cX0_ways 82 = .ok (.if_icmp .ge 30, 3) := dk_162 0 30 (dk_at dksX0_ways_3 10 rfl rfl)
theorem dX0_ways_85 : decode cX0_ways 85 = .ok (.iconst 0, 1) := dk_3 (dk_at dksX0_ways_3 13 rfl rfl)
theorem dX0_ways_86 : decode cX0_ways 86 = .ok (.istore_n 3, 1) := dk_62 (dk_at dksX0_ways_3 14 rfl rfl)
theorem dX0_ways_87 : decode cX0_ways 87 = .ok (.iload_n 3, 1) := dk_29 (dk_at dksX0_ways_3 15 rfl rfl)
theorem dX0_ways_88 : decode cX0_ways 88 = .ok (.bipush 8, 2) := dk_16 8 (dk_at dksX0_ways_3 16 rfl rfl)
theorem dX0_ways_90 : decode cX0_ways 90 = .ok (.if_icmp .ge 16, 3) := dk_162 0 16 (dk_at dksX0_ways_3 18 rfl rfl)
theorem dX0_ways_93 : decode cX0_ways 93 = .ok (.aload_n 0, 1) := dk_42 (dk_at dksX0_ways_3 21 rfl rfl)
theorem dX0_ways_94 : decode cX0_ways 94 = .ok (.iload_n 2, 1) := dk_28 (dk_at dksX0_ways_3 22 rfl rfl)
theorem dX0_ways_95 : decode cX0_ways 95 = .ok (.iload_n 1, 1) := dk_27 (dk_at dksX0_ways_3 23 rfl rfl)
theorem dX0_ways_96 : decode cX0_ways 96 = .ok (.iload_n 3, 1) := dk_29 (dk_at dksX0_ways_4 0 rfl rfl)
theorem dX0_ways_97 : decode cX0_ways 97 = .ok (.invokevirtual 140, 3) := dk_182 0 140 (dk_at dksX0_ways_4 1 rfl rfl)
theorem dX0_ways_100 : decode cX0_ways 100 = .ok (.iinc 3 1, 3) := dk_132 3 1 (dk_at dksX0_ways_4 4 rfl rfl)
theorem dX0_ways_103 : decode cX0_ways 103 = .ok (.goto (-16), 3) := dk_167 255 240 (dk_at dksX0_ways_4 7 rfl rfl)
theorem dX0_ways_106 : decode cX0_ways 106 = .ok (.iinc 2 1, 3) := dk_132 2 1 (dk_at dksX0_ways_4 10 rfl rfl)
theorem dX0_ways_109 : decode cX0_ways 109 = .ok (.goto (-30), 3) := dk_167 255 226 (dk_at dksX0_ways_4 13 rfl rfl)
theorem dX0_ways_112 : decode cX0_ways 112 = .ok (.iinc 1 1, 3) := dk_132 1 1 (dk_at dksX0_ways_4 16 rfl rfl)
theorem dX0_ways_115 : decode cX0_ways 115 = .ok (.goto (-44), 3) := dk_167 255 212 (dk_at dksX0_ways_4 19 rfl rfl)
theorem dX0_ways_118 : decode cX0_ways 118 = .ok (.return_, 1) := dk_177 (dk_at dksX0_ways_4 22 rfl rfl)
abbrev cX0_leads : ByteArray := prog_1_method_13_code
def yX0_leads : MethodName := ⟨RX0, "leads", "(III)V"⟩
def dkwX0_leads_3 : List UInt8 := [16, 8, 27, 104, 29, 96, 21, 4, 21, 5, 96, 79, 177]
abbrev dktX0_leads_3 : List UInt8 := dkwX0_leads_3 ++ []
def dkwX0_leads_2 : List UInt8 := [159, 0, 35, 21, 6, 2, 159, 0, 13, 21, 4, 21, 5, 96, 21, 6, 162, 0, 19, 42, 180, 0, 62]
abbrev dktX0_leads_2 : List UInt8 := dkwX0_leads_2 ++ dktX0_leads_3
def dkwX0_leads_1 : List UInt8 := [54, 5, 42, 180, 0, 62, 16, 8, 27, 104, 29, 96, 46, 54, 6, 21, 4, 2, 159, 0, 41, 21, 5, 2]
abbrev dktX0_leads_1 : List UInt8 := dkwX0_leads_1 ++ dktX0_leads_2
def dkwX0_leads_0 : List UInt8 := [42, 180, 0, 62, 16, 8, 27, 104, 28, 96, 46, 54, 4, 42, 180, 0, 62, 16, 8, 28, 104, 29, 96, 46]
abbrev dktX0_leads_0 : List UInt8 := dkwX0_leads_0 ++ dktX0_leads_1
theorem dksX0_leads_0 : cX0_leads.data.toList.drop 0 = dktX0_leads_0 := by decide +kernel
theorem dksX0_leads_1 : cX0_leads.data.toList.drop 24 = dktX0_leads_1 := dk_seg dksX0_leads_0 24 rfl rfl
theorem dksX0_leads_2 : cX0_leads.data.toList.drop 48 = dktX0_leads_2 := dk_seg dksX0_leads_1 24 rfl rfl
theorem dksX0_leads_3 : cX0_leads.data.toList.drop 71 = dktX0_leads_3 := dk_seg dksX0_leads_2 23 rfl rfl
theorem dX0_leads_0 : decode cX0_leads 0 = .ok (.aload_n 0, 1) := dk_42 (dk_at dksX0_leads_0 0 rfl rfl)
theorem dX0_leads_1 : decode cX0_leads 1 = .ok (.getfield 62, 3) := dk_180 0 62 (dk_at dksX0_leads_0 1 rfl rfl)
theorem dX0_leads_4 : decode cX0_leads 4 = .ok (.bipush 8, 2) := dk_16 8 (dk_at dksX0_leads_0 4 rfl rfl)
theorem dX0_leads_6 : decode cX0_leads 6 = .ok (.iload_n 1, 1) := dk_27 (dk_at dksX0_leads_0 6 rfl rfl)
theorem dX0_leads_7 : decode cX0_leads 7 = .ok (.imul, 1) := dk_104 (dk_at dksX0_leads_0 7 rfl rfl)
theorem dX0_leads_8 : decode cX0_leads 8 = .ok (.iload_n 2, 1) := dk_28 (dk_at dksX0_leads_0 8 rfl rfl)
theorem dX0_leads_9 : decode cX0_leads 9 = .ok (.iadd, 1) := dk_96 (dk_at dksX0_leads_0 9 rfl rfl)
theorem dX0_leads_10 : decode cX0_leads 10 = .ok (.iaload, 1) := dk_46 (dk_at dksX0_leads_0 10 rfl rfl)
theorem dX0_leads_11 : decode cX0_leads 11 = .ok (.istore 4, 2) := dk_54 4 (dk_at dksX0_leads_0 11 rfl rfl)
theorem dX0_leads_13 : decode cX0_leads 13 = .ok (.aload_n 0, 1) := dk_42 (dk_at dksX0_leads_0 13 rfl rfl)
theorem dX0_leads_14 : decode cX0_leads 14 = .ok (.getfield 62, 3) := dk_180 0 62 (dk_at dksX0_leads_0 14 rfl rfl)
theorem dX0_leads_17 : decode cX0_leads 17 = .ok (.bipush 8, 2) := dk_16 8 (dk_at dksX0_leads_0 17 rfl rfl)
theorem dX0_leads_19 : decode cX0_leads 19 = .ok (.iload_n 2, 1) := dk_28 (dk_at dksX0_leads_0 19 rfl rfl)
theorem dX0_leads_20 : decode cX0_leads 20 = .ok (.imul, 1) := dk_104 (dk_at dksX0_leads_0 20 rfl rfl)
theorem dX0_leads_21 : decode cX0_leads 21 = .ok (.iload_n 3, 1) := dk_29 (dk_at dksX0_leads_0 21 rfl rfl)
theorem dX0_leads_22 : decode cX0_leads 22 = .ok (.iadd, 1) := dk_96 (dk_at dksX0_leads_0 22 rfl rfl)
theorem dX0_leads_23 : decode cX0_leads 23 = .ok (.iaload, 1) := dk_46 (dk_at dksX0_leads_0 23 rfl rfl)
theorem dX0_leads_24 : decode cX0_leads 24 = .ok (.istore 5, 2) := dk_54 5 (dk_at dksX0_leads_1 0 rfl rfl)
theorem dX0_leads_26 : decode cX0_leads 26 = .ok (.aload_n 0, 1) := dk_42 (dk_at dksX0_leads_1 2 rfl rfl)
theorem dX0_leads_27 : decode cX0_leads 27 = .ok (.getfield 62, 3) := dk_180 0 62 (dk_at dksX0_leads_1 3 rfl rfl)
theorem dX0_leads_30 : decode cX0_leads 30 = .ok (.bipush 8, 2) := dk_16 8 (dk_at dksX0_leads_1 6 rfl rfl)
theorem dX0_leads_32 : decode cX0_leads 32 = .ok (.iload_n 1, 1) := dk_27 (dk_at dksX0_leads_1 8 rfl rfl)
theorem dX0_leads_33 : decode cX0_leads 33 = .ok (.imul, 1) := dk_104 (dk_at dksX0_leads_1 9 rfl rfl)
theorem dX0_leads_34 : decode cX0_leads 34 = .ok (.iload_n 3, 1) := dk_29 (dk_at dksX0_leads_1 10 rfl rfl)
theorem dX0_leads_35 : decode cX0_leads 35 = .ok (.iadd, 1) := dk_96 (dk_at dksX0_leads_1 11 rfl rfl)
theorem dX0_leads_36 : decode cX0_leads 36 = .ok (.iaload, 1) := dk_46 (dk_at dksX0_leads_1 12 rfl rfl)
theorem dX0_leads_37 : decode cX0_leads 37 = .ok (.istore 6, 2) := dk_54 6 (dk_at dksX0_leads_1 13 rfl rfl)
theorem dX0_leads_39 : decode cX0_leads 39 = .ok (.iload 4, 2) := dk_21 4 (dk_at dksX0_leads_1 15 rfl rfl)
theorem dX0_leads_41 : decode cX0_leads 41 = .ok (.iconst (-1), 1) := dk_2 (dk_at dksX0_leads_1 17 rfl rfl)
theorem dX0_leads_42 : decode cX0_leads 42 = .ok (.if_icmp .eq 41, 3) := dk_159 0 41 (dk_at dksX0_leads_1 18 rfl rfl)
theorem dX0_leads_45 : decode cX0_leads 45 = .ok (.iload 5, 2) := dk_21 5 (dk_at dksX0_leads_1 21 rfl rfl)
theorem dX0_leads_47 : decode cX0_leads 47 = .ok (.iconst (-1), 1) := dk_2 (dk_at dksX0_leads_1 23 rfl rfl)
theorem dX0_leads_48 : decode cX0_leads 48 = .ok (.if_icmp .eq 35, 3) := dk_159 0 35 (dk_at dksX0_leads_2 0 rfl rfl)
theorem dX0_leads_51 : decode cX0_leads 51 = .ok (.iload 6, 2) := dk_21 6 (dk_at dksX0_leads_2 3 rfl rfl)
theorem dX0_leads_53 : decode cX0_leads 53 = .ok (.iconst (-1), 1) := dk_2 (dk_at dksX0_leads_2 5 rfl rfl)
theorem dX0_leads_54 : decode cX0_leads 54 = .ok (.if_icmp .eq 13, 3) := dk_159 0 13 (dk_at dksX0_leads_2 6 rfl rfl)
theorem dX0_leads_57 : decode cX0_leads 57 = .ok (.iload 4, 2) := dk_21 4 (dk_at dksX0_leads_2 9 rfl rfl)
theorem dX0_leads_59 : decode cX0_leads 59 = .ok (.iload 5, 2) := dk_21 5 (dk_at dksX0_leads_2 11 rfl rfl)
theorem dX0_leads_61 : decode cX0_leads 61 = .ok (.iadd, 1) := dk_96 (dk_at dksX0_leads_2 13 rfl rfl)
theorem dX0_leads_62 : decode cX0_leads 62 = .ok (.iload 6, 2) := dk_21 6 (dk_at dksX0_leads_2 14 rfl rfl)
theorem dX0_leads_64 : decode cX0_leads 64 = .ok (.if_icmp .ge 19, 3) := dk_162 0 19 (dk_at dksX0_leads_2 16 rfl rfl)
theorem dX0_leads_67 : decode cX0_leads 67 = .ok (.aload_n 0, 1) := dk_42 (dk_at dksX0_leads_2 19 rfl rfl)
theorem dX0_leads_68 : decode cX0_leads 68 = .ok (.getfield 62, 3) := dk_180 0 62 (dk_at dksX0_leads_2 20 rfl rfl)
theorem dX0_leads_71 : decode cX0_leads 71 = .ok (.bipush 8, 2) := dk_16 8 (dk_at dksX0_leads_3 0 rfl rfl)
theorem dX0_leads_73 : decode cX0_leads 73 = .ok (.iload_n 1, 1) := dk_27 (dk_at dksX0_leads_3 2 rfl rfl)
theorem dX0_leads_74 : decode cX0_leads 74 = .ok (.imul, 1) := dk_104 (dk_at dksX0_leads_3 3 rfl rfl)
theorem dX0_leads_75 : decode cX0_leads 75 = .ok (.iload_n 3, 1) := dk_29 (dk_at dksX0_leads_3 4 rfl rfl)
theorem dX0_leads_76 : decode cX0_leads 76 = .ok (.iadd, 1) := dk_96 (dk_at dksX0_leads_3 5 rfl rfl)
theorem dX0_leads_77 : decode cX0_leads 77 = .ok (.iload 4, 2) := dk_21 4 (dk_at dksX0_leads_3 6 rfl rfl)
theorem dX0_leads_79 : decode cX0_leads 79 = .ok (.iload 5, 2) := dk_21 5 (dk_at dksX0_leads_3 8 rfl rfl)
theorem dX0_leads_81 : decode cX0_leads 81 = .ok (.iadd, 1) := dk_96 (dk_at dksX0_leads_3 10 rfl rfl)
theorem dX0_leads_82 : decode cX0_leads 82 = .ok (.iastore, 1) := dk_79 (dk_at dksX0_leads_3 11 rfl rfl)
theorem dX0_leads_83 : decode cX0_leads 83 = .ok (.return_, 1) := dk_177 (dk_at dksX0_leads_3 12 rfl rfl)
abbrev cX0_road : ByteArray := prog_1_method_11_code
def yX0_road : MethodName := ⟨RX0, "road", "(III)Z"⟩
def dkwX0_road_2 : List UInt8 := [180, 0, 59, 16, 8, 28, 104, 27, 96, 29, 79, 42, 182, 0, 133, 4, 172]
abbrev dktX0_road_2 : List UInt8 := dkwX0_road_2 ++ []
def dkwX0_road_1 : List UInt8 := [16, 9, 184, 0, 116, 154, 0, 5, 3, 172, 42, 180, 0, 59, 16, 8, 27, 104, 28, 96, 29, 79, 42]
abbrev dktX0_road_1 : List UInt8 := dkwX0_road_1 ++ dktX0_road_2
def dkwX0_road_0 : List UInt8 := [42, 27, 182, 0, 136, 198, 0, 26, 42, 28, 182, 0, 136, 198, 0, 18, 27, 28, 159, 0, 13, 29, 4]
abbrev dktX0_road_0 : List UInt8 := dkwX0_road_0 ++ dktX0_road_1
theorem dksX0_road_0 : cX0_road.data.toList.drop 0 = dktX0_road_0 := by decide +kernel
theorem dksX0_road_1 : cX0_road.data.toList.drop 23 = dktX0_road_1 := dk_seg dksX0_road_0 23 rfl rfl
theorem dksX0_road_2 : cX0_road.data.toList.drop 46 = dktX0_road_2 := dk_seg dksX0_road_1 23 rfl rfl
theorem dX0_road_0 : decode cX0_road 0 = .ok (.aload_n 0, 1) := dk_42 (dk_at dksX0_road_0 0 rfl rfl)
theorem dX0_road_1 : decode cX0_road 1 = .ok (.iload_n 1, 1) := dk_27 (dk_at dksX0_road_0 1 rfl rfl)
theorem dX0_road_2 : decode cX0_road 2 = .ok (.invokevirtual 136, 3) := dk_182 0 136 (dk_at dksX0_road_0 2 rfl rfl)
theorem dX0_road_5 : decode cX0_road 5 = .ok (.ifnull 26, 3) := dk_198 0 26 (dk_at dksX0_road_0 5 rfl rfl)
theorem dX0_road_8 : decode cX0_road 8 = .ok (.aload_n 0, 1) := dk_42 (dk_at dksX0_road_0 8 rfl rfl)
theorem dX0_road_9 : decode cX0_road 9 = .ok (.iload_n 2, 1) := dk_28 (dk_at dksX0_road_0 9 rfl rfl)
theorem dX0_road_10 : decode cX0_road 10 = .ok (.invokevirtual 136, 3) := dk_182 0 136 (dk_at dksX0_road_0 10 rfl rfl)
theorem dX0_road_13 : decode cX0_road 13 = .ok (.ifnull 18, 3) := dk_198 0 18 (dk_at dksX0_road_0 13 rfl rfl)
theorem dX0_road_16 : decode cX0_road 16 = .ok (.iload_n 1, 1) := dk_27 (dk_at dksX0_road_0 16 rfl rfl)
theorem dX0_road_17 : decode cX0_road 17 = .ok (.iload_n 2, 1) := dk_28 (dk_at dksX0_road_0 17 rfl rfl)
theorem dX0_road_18 : decode cX0_road 18 = .ok (.if_icmp .eq 13, 3) := dk_159 0 13 (dk_at dksX0_road_0 18 rfl rfl)
theorem dX0_road_21 : decode cX0_road 21 = .ok (.iload_n 3, 1) := dk_29 (dk_at dksX0_road_0 21 rfl rfl)
theorem dX0_road_22 : decode cX0_road 22 = .ok (.iconst 1, 1) := dk_4 (dk_at dksX0_road_0 22 rfl rfl)
theorem dX0_road_23 : decode cX0_road 23 = .ok (.bipush 9, 2) := dk_16 9 (dk_at dksX0_road_1 0 rfl rfl)
theorem dX0_road_25 : decode cX0_road 25 = .ok (.invokestatic 116, 3) := dk_184 0 116 (dk_at dksX0_road_1 2 rfl rfl)
theorem dX0_road_28 : decode cX0_road 28 = .ok (.ifCond .ne 5, 3) := dk_154 0 5 (dk_at dksX0_road_1 5 rfl rfl)
theorem dX0_road_31 : decode cX0_road 31 = .ok (.iconst 0, 1) := dk_3 (dk_at dksX0_road_1 8 rfl rfl)
theorem dX0_road_32 : decode cX0_road 32 = .ok (.ireturn, 1) := dk_172 (dk_at dksX0_road_1 9 rfl rfl)
theorem dX0_road_33 : decode cX0_road 33 = .ok (.aload_n 0, 1) := dk_42 (dk_at dksX0_road_1 10 rfl rfl)
theorem dX0_road_34 : decode cX0_road 34 = .ok (.getfield 59, 3) := dk_180 0 59 (dk_at dksX0_road_1 11 rfl rfl)
theorem dX0_road_37 : decode cX0_road 37 = .ok (.bipush 8, 2) := dk_16 8 (dk_at dksX0_road_1 14 rfl rfl)
theorem dX0_road_39 : decode cX0_road 39 = .ok (.iload_n 1, 1) := dk_27 (dk_at dksX0_road_1 16 rfl rfl)
theorem dX0_road_40 : decode cX0_road 40 = .ok (.imul, 1) := dk_104 (dk_at dksX0_road_1 17 rfl rfl)
theorem dX0_road_41 : decode cX0_road 41 = .ok (.iload_n 2, 1) := dk_28 (dk_at dksX0_road_1 18 rfl rfl)
theorem dX0_road_42 : decode cX0_road 42 = .ok (.iadd, 1) := dk_96 (dk_at dksX0_road_1 19 rfl rfl)
theorem dX0_road_43 : decode cX0_road 43 = .ok (.iload_n 3, 1) := dk_29 (dk_at dksX0_road_1 20 rfl rfl)
theorem dX0_road_44 : decode cX0_road 44 = .ok (.iastore, 1) := dk_79 (dk_at dksX0_road_1 21 rfl rfl)
theorem dX0_road_45 : decode cX0_road 45 = .ok (.aload_n 0, 1) := dk_42 (dk_at dksX0_road_1 22 rfl rfl)
theorem dX0_road_46 : decode cX0_road 46 = .ok (.getfield 59, 3) := dk_180 0 59 (dk_at dksX0_road_2 0 rfl rfl)
theorem dX0_road_49 : decode cX0_road 49 = .ok (.bipush 8, 2) := dk_16 8 (dk_at dksX0_road_2 3 rfl rfl)
theorem dX0_road_51 : decode cX0_road 51 = .ok (.iload_n 2, 1) := dk_28 (dk_at dksX0_road_2 5 rfl rfl)
theorem dX0_road_52 : decode cX0_road 52 = .ok (.imul, 1) := dk_104 (dk_at dksX0_road_2 6 rfl rfl)
theorem dX0_road_53 : decode cX0_road 53 = .ok (.iload_n 1, 1) := dk_27 (dk_at dksX0_road_2 7 rfl rfl)
theorem dX0_road_54 : decode cX0_road 54 = .ok (.iadd, 1) := dk_96 (dk_at dksX0_road_2 8 rfl rfl)
theorem dX0_road_55 : decode cX0_road 55 = .ok (.iload_n 3, 1) := dk_29 (dk_at dksX0_road_2 9 rfl rfl)
theorem dX0_road_56 : decode cX0_road 56 = .ok (.iastore, 1) := dk_79 (dk_at dksX0_road_2 10 rfl rfl)
theorem dX0_road_57 : decode cX0_road 57 = .ok (.aload_n 0, 1) := dk_42 (dk_at dksX0_road_2 11 rfl rfl)
theorem dX0_road_58 : decode cX0_road 58 = .ok (.invokevirtual 133, 3) := dk_182 0 133 (dk_at dksX0_road_2 12 rfl rfl)
theorem dX0_road_61 : decode cX0_road 61 = .ok (.iconst 1, 1) := dk_4 (dk_at dksX0_road_2 15 rfl rfl)
theorem dX0_road_62 : decode cX0_road 62 = .ok (.ireturn, 1) := dk_172 (dk_at dksX0_road_2 16 rfl rfl)
abbrev cX0_findVillage : ByteArray := prog_1_method_6_code
def yX0_findVillage : MethodName := ⟨RX0, "findVillage", "(I)LWheelLand$Village;"⟩
def dkwX0_findVillage_1 : List UInt8 := [176]
abbrev dktX0_findVillage_1 : List UInt8 := dkwX0_findVillage_1 ++ []
def dkwX0_findVillage_0 : List UInt8 := [27, 3, 42, 180, 0, 112, 4, 100, 184, 0, 116, 153, 0, 12, 42, 180, 0, 24, 27, 50, 167, 0, 4, 1]
abbrev dktX0_findVillage_0 : List UInt8 := dkwX0_findVillage_0 ++ dktX0_findVillage_1
theorem dksX0_findVillage_0 : cX0_findVillage.data.toList.drop 0 = dktX0_findVillage_0 := by decide +kernel
theorem dksX0_findVillage_1 : cX0_findVillage.data.toList.drop 24 = dktX0_findVillage_1 := dk_seg dksX0_findVillage_0 24 rfl rfl
theorem dX0_findVillage_0 : decode cX0_findVillage 0 = .ok (.iload_n 1, 1) := dk_27 (dk_at dksX0_findVillage_0 0 rfl rfl)
theorem dX0_findVillage_1 : decode cX0_findVillage 1 = .ok (.iconst 0, 1) := dk_3 (dk_at dksX0_findVillage_0 1 rfl rfl)
theorem dX0_findVillage_2 : decode cX0_findVillage 2 = .ok (.aload_n 0, 1) := dk_42 (dk_at dksX0_findVillage_0 2 rfl rfl)
theorem dX0_findVillage_3 : decode cX0_findVillage 3 = .ok (.getfield 112, 3) := dk_180 0 112 (dk_at dksX0_findVillage_0 3 rfl rfl)
theorem dX0_findVillage_6 : decode cX0_findVillage 6 = .ok (.iconst 1, 1) := dk_4 (dk_at dksX0_findVillage_0 6 rfl rfl)
theorem dX0_findVillage_7 : decode cX0_findVillage 7 = .ok (.isub, 1) := dk_100 (dk_at dksX0_findVillage_0 7 rfl rfl)
theorem dX0_findVillage_8 : decode cX0_findVillage 8 = .ok (.invokestatic 116, 3) := dk_184 0 116 (dk_at dksX0_findVillage_0 8 rfl rfl)
theorem dX0_findVillage_11 : decode cX0_findVillage 11 = .ok (.ifCond .eq 12, 3) := dk_153 0 12 (dk_at dksX0_findVillage_0 11 rfl rfl)
theorem dX0_findVillage_14 : decode cX0_findVillage 14 = .ok (.aload_n 0, 1) := dk_42 (dk_at dksX0_findVillage_0 14 rfl rfl)
theorem dX0_findVillage_15 : decode cX0_findVillage 15 = .ok (.getfield 24, 3) := dk_180 0 24 (dk_at dksX0_findVillage_0 15 rfl rfl)
theorem dX0_findVillage_18 : decode cX0_findVillage 18 = .ok (.iload_n 1, 1) := dk_27 (dk_at dksX0_findVillage_0 18 rfl rfl)
theorem dX0_findVillage_19 : decode cX0_findVillage 19 = .ok (.aaload, 1) := dk_50 (dk_at dksX0_findVillage_0 19 rfl rfl)
theorem dX0_findVillage_20 : decode cX0_findVillage 20 = .ok (.goto 4, 3) := dk_167 0 4 (dk_at dksX0_findVillage_0 20 rfl rfl)
theorem dX0_findVillage_23 : decode cX0_findVillage 23 = .ok (.aconst_null, 1) := dk_1 (dk_at dksX0_findVillage_0 23 rfl rfl)
theorem dX0_findVillage_24 : decode cX0_findVillage 24 = .ok (.areturn, 1) := dk_176 (dk_at dksX0_findVillage_1 0 rfl rfl)
abbrev cX0_far : ByteArray := prog_1_method_15_code
def yX0_far : MethodName := ⟨RX0, "far", "(II)I"⟩
def dkwX0_far_1 : List UInt8 := [167, 0, 10, 42, 45, 25, 4, 182, 0, 147, 172]
abbrev dktX0_far_1 : List UInt8 := dkwX0_far_1 ++ []
def dkwX0_far_0 : List UInt8 := [42, 27, 182, 0, 136, 78, 42, 28, 182, 0, 136, 58, 4, 45, 198, 0, 8, 25, 4, 199, 0, 7, 2]
abbrev dktX0_far_0 : List UInt8 := dkwX0_far_0 ++ dktX0_far_1
theorem dksX0_far_0 : cX0_far.data.toList.drop 0 = dktX0_far_0 := by decide +kernel
theorem dksX0_far_1 : cX0_far.data.toList.drop 23 = dktX0_far_1 := dk_seg dksX0_far_0 23 rfl rfl
theorem dX0_far_0 : decode cX0_far 0 = .ok (.aload_n 0, 1) := dk_42 (dk_at dksX0_far_0 0 rfl rfl)
theorem dX0_far_1 : decode cX0_far 1 = .ok (.iload_n 1, 1) := dk_27 (dk_at dksX0_far_0 1 rfl rfl)
theorem dX0_far_2 : decode cX0_far 2 = .ok (.invokevirtual 136, 3) := dk_182 0 136 (dk_at dksX0_far_0 2 rfl rfl)
theorem dX0_far_5 : decode cX0_far 5 = .ok (.astore_n 3, 1) := dk_78 (dk_at dksX0_far_0 5 rfl rfl)
theorem dX0_far_6 : decode cX0_far 6 = .ok (.aload_n 0, 1) := dk_42 (dk_at dksX0_far_0 6 rfl rfl)
theorem dX0_far_7 : decode cX0_far 7 = .ok (.iload_n 2, 1) := dk_28 (dk_at dksX0_far_0 7 rfl rfl)
theorem dX0_far_8 : decode cX0_far 8 = .ok (.invokevirtual 136, 3) := dk_182 0 136 (dk_at dksX0_far_0 8 rfl rfl)
theorem dX0_far_11 : decode cX0_far 11 = .ok (.astore 4, 2) := dk_58 4 (dk_at dksX0_far_0 11 rfl rfl)
theorem dX0_far_13 : decode cX0_far 13 = .ok (.aload_n 3, 1) := dk_45 (dk_at dksX0_far_0 13 rfl rfl)
theorem dX0_far_14 : decode cX0_far 14 = .ok (.ifnull 8, 3) := dk_198 0 8 (dk_at dksX0_far_0 14 rfl rfl)
theorem dX0_far_17 : decode cX0_far 17 = .ok (.aload 4, 2) := dk_25 4 (dk_at dksX0_far_0 17 rfl rfl)
theorem dX0_far_19 : decode cX0_far 19 = .ok (.ifnonnull 7, 3) := dk_199 0 7 (dk_at dksX0_far_0 19 rfl rfl)
theorem dX0_far_22 : decode cX0_far 22 = .ok (.iconst (-1), 1) := dk_2 (dk_at dksX0_far_0 22 rfl rfl)
theorem dX0_far_23 : decode cX0_far 23 = .ok (.goto 10, 3) := dk_167 0 10 (dk_at dksX0_far_1 0 rfl rfl)
theorem dX0_far_26 : decode cX0_far 26 = .ok (.aload_n 0, 1) := dk_42 (dk_at dksX0_far_1 3 rfl rfl)
theorem dX0_far_27 : decode cX0_far 27 = .ok (.aload_n 3, 1) := dk_45 (dk_at dksX0_far_1 4 rfl rfl)
theorem dX0_far_28 : decode cX0_far 28 = .ok (.aload 4, 2) := dk_25 4 (dk_at dksX0_far_1 5 rfl rfl)
theorem dX0_far_30 : decode cX0_far 30 = .ok (.invokevirtual 147, 3) := dk_182 0 147 (dk_at dksX0_far_1 7 rfl rfl)
theorem dX0_far_33 : decode cX0_far 33 = .ok (.ireturn, 1) := dk_172 (dk_at dksX0_far_1 10 rfl rfl)
abbrev cX0_farOf : ByteArray := prog_1_method_14_code
def yX0_farOf : MethodName := ⟨RX0, "farOf", "(LWheelLand$Village;LWheelLand$Village;)I"⟩
def dkwX0_farOf_0 : List UInt8 := [42, 180, 0, 62, 16, 8, 43, 180, 0, 144, 104, 44, 180, 0, 144, 96, 46, 172]
abbrev dktX0_farOf_0 : List UInt8 := dkwX0_farOf_0 ++ []
theorem dksX0_farOf_0 : cX0_farOf.data.toList.drop 0 = dktX0_farOf_0 := by decide +kernel
theorem dX0_farOf_0 : decode cX0_farOf 0 = .ok (.aload_n 0, 1) := dk_42 (dk_at dksX0_farOf_0 0 rfl rfl)
theorem dX0_farOf_1 : decode cX0_farOf 1 = .ok (.getfield 62, 3) := dk_180 0 62 (dk_at dksX0_farOf_0 1 rfl rfl)
theorem dX0_farOf_4 : decode cX0_farOf 4 = .ok (.bipush 8, 2) := dk_16 8 (dk_at dksX0_farOf_0 4 rfl rfl)
theorem dX0_farOf_6 : decode cX0_farOf 6 = .ok (.aload_n 1, 1) := dk_43 (dk_at dksX0_farOf_0 6 rfl rfl)
theorem dX0_farOf_7 : decode cX0_farOf 7 = .ok (.getfield 144, 3) := dk_180 0 144 (dk_at dksX0_farOf_0 7 rfl rfl)
theorem dX0_farOf_10 : decode cX0_farOf 10 = .ok (.imul, 1) := dk_104 (dk_at dksX0_farOf_0 10 rfl rfl)
theorem dX0_farOf_11 : decode cX0_farOf 11 = .ok (.aload_n 2, 1) := dk_44 (dk_at dksX0_farOf_0 11 rfl rfl)
theorem dX0_farOf_12 : decode cX0_farOf 12 = .ok (.getfield 144, 3) := dk_180 0 144 (dk_at dksX0_farOf_0 12 rfl rfl)
theorem dX0_farOf_15 : decode cX0_farOf 15 = .ok (.iadd, 1) := dk_96 (dk_at dksX0_farOf_0 15 rfl rfl)
theorem dX0_farOf_16 : decode cX0_farOf 16 = .ok (.iaload, 1) := dk_46 (dk_at dksX0_farOf_0 16 rfl rfl)
theorem dX0_farOf_17 : decode cX0_farOf 17 = .ok (.ireturn, 1) := dk_172 (dk_at dksX0_farOf_0 17 rfl rfl)
abbrev cX0_house : ByteArray := prog_1_method_16_code
def yX0_house : MethodName := ⟨RX0, "house", "(II)I"⟩
def dkwX0_house_4 : List UInt8 := [180, 0, 120, 4, 96, 181, 0, 120, 42, 180, 0, 120, 4, 100, 172]
abbrev dktX0_house_4 : List UInt8 := dkwX0_house_4 ++ []
def dkwX0_house_3 : List UInt8 := [42, 180, 0, 30, 42, 180, 0, 120, 187, 0, 28, 89, 42, 180, 0, 120, 45, 28, 183, 0, 154, 83, 42, 89]
abbrev dktX0_house_3 : List UInt8 := dkwX0_house_3 ++ dktX0_house_4
def dkwX0_house_2 : List UInt8 := [153, 0, 22, 42, 180, 0, 120, 16, 20, 159, 0, 13, 42, 180, 0, 151, 17, 0, 156, 160, 0, 5, 2, 172]
abbrev dktX0_house_2 : List UInt8 := dkwX0_house_2 ++ dktX0_house_3
def dkwX0_house_1 : List UInt8 := [16, 100, 108, 16, 10, 112, 153, 0, 40, 28, 16, 10, 108, 16, 10, 112, 8, 163, 0, 29, 28, 16, 10, 112]
abbrev dktX0_house_1 : List UInt8 := dkwX0_house_1 ++ dktX0_house_2
def dkwX0_house_0 : List UInt8 := [42, 27, 182, 0, 136, 78, 45, 198, 0, 63, 28, 155, 0, 59, 28, 17, 3, 232, 108, 8, 163, 0, 50, 28]
abbrev dktX0_house_0 : List UInt8 := dkwX0_house_0 ++ dktX0_house_1
theorem dksX0_house_0 : cX0_house.data.toList.drop 0 = dktX0_house_0 := by decide +kernel
theorem dksX0_house_1 : cX0_house.data.toList.drop 24 = dktX0_house_1 := dk_seg dksX0_house_0 24 rfl rfl
theorem dksX0_house_2 : cX0_house.data.toList.drop 48 = dktX0_house_2 := dk_seg dksX0_house_1 24 rfl rfl
theorem dksX0_house_3 : cX0_house.data.toList.drop 72 = dktX0_house_3 := dk_seg dksX0_house_2 24 rfl rfl
theorem dksX0_house_4 : cX0_house.data.toList.drop 96 = dktX0_house_4 := dk_seg dksX0_house_3 24 rfl rfl
theorem dX0_house_0 : decode cX0_house 0 = .ok (.aload_n 0, 1) := dk_42 (dk_at dksX0_house_0 0 rfl rfl)
theorem dX0_house_1 : decode cX0_house 1 = .ok (.iload_n 1, 1) := dk_27 (dk_at dksX0_house_0 1 rfl rfl)
theorem dX0_house_2 : decode cX0_house 2 = .ok (.invokevirtual 136, 3) := dk_182 0 136 (dk_at dksX0_house_0 2 rfl rfl)
theorem dX0_house_5 : decode cX0_house 5 = .ok (.astore_n 3, 1) := dk_78 (dk_at dksX0_house_0 5 rfl rfl)
theorem dX0_house_6 : decode cX0_house 6 = .ok (.aload_n 3, 1) := dk_45 (dk_at dksX0_house_0 6 rfl rfl)
theorem dX0_house_7 : decode cX0_house 7 = .ok (.ifnull 63, 3) := dk_198 0 63 (dk_at dksX0_house_0 7 rfl rfl)
theorem dX0_house_10 : decode cX0_house 10 = .ok (.iload_n 2, 1) := dk_28 (dk_at dksX0_house_0 10 rfl rfl)
theorem dX0_house_11 : decode cX0_house 11 = .ok (.ifCond .lt 59, 3) := dk_155 0 59 (dk_at dksX0_house_0 11 rfl rfl)
theorem dX0_house_14 : decode cX0_house 14 = .ok (.iload_n 2, 1) := dk_28 (dk_at dksX0_house_0 14 rfl rfl)
theorem dX0_house_15 : decode cX0_house 15 = .ok (.sipush 1000, 3) := dk_17 3 232 (dk_at dksX0_house_0 15 rfl rfl)
theorem dX0_house_18 : decode cX0_house 18 = .ok (.idiv, 1) := dk_108 (dk_at dksX0_house_0 18 rfl rfl)
theorem dX0_house_19 : decode cX0_house 19 = .ok (.iconst 5, 1) := dk_8 (dk_at dksX0_house_0 19 rfl rfl)
theorem dX0_house_20 : decode cX0_house 20 = .ok (.if_icmp .gt 50, 3) := dk_163 0 50 (dk_at dksX0_house_0 20 rfl rfl)
theorem dX0_house_23 : decode cX0_house 23 = .ok (.iload_n 2, 1) := dk_28 (dk_at dksX0_house_0 23 rfl rfl)
theorem dX0_house_24 : decode cX0_house 24 = .ok (.bipush 100, 2) := dk_16 100 (dk_at dksX0_house_1 0 rfl rfl)
theorem dX0_house_26 : decode cX0_house 26 = .ok (.idiv, 1) := dk_108 (dk_at dksX0_house_1 2 rfl rfl)
theorem dX0_house_27 : decode cX0_house 27 = .ok (.bipush 10, 2) := dk_16 10 (dk_at dksX0_house_1 3 rfl rfl)
theorem dX0_house_29 : decode cX0_house 29 = .ok (.irem, 1) := dk_112 (dk_at dksX0_house_1 5 rfl rfl)
theorem dX0_house_30 : decode cX0_house 30 = .ok (.ifCond .eq 40, 3) := dk_153 0 40 (dk_at dksX0_house_1 6 rfl rfl)
theorem dX0_house_33 : decode cX0_house 33 = .ok (.iload_n 2, 1) := dk_28 (dk_at dksX0_house_1 9 rfl rfl)
theorem dX0_house_34 : decode cX0_house 34 = .ok (.bipush 10, 2) := dk_16 10 (dk_at dksX0_house_1 10 rfl rfl)
theorem dX0_house_36 : decode cX0_house 36 = .ok (.idiv, 1) := dk_108 (dk_at dksX0_house_1 12 rfl rfl)
theorem dX0_house_37 : decode cX0_house 37 = .ok (.bipush 10, 2) := dk_16 10 (dk_at dksX0_house_1 13 rfl rfl)
theorem dX0_house_39 : decode cX0_house 39 = .ok (.irem, 1) := dk_112 (dk_at dksX0_house_1 15 rfl rfl)
theorem dX0_house_40 : decode cX0_house 40 = .ok (.iconst 5, 1) := dk_8 (dk_at dksX0_house_1 16 rfl rfl)
theorem dX0_house_41 : decode cX0_house 41 = .ok (.if_icmp .gt 29, 3) := dk_163 0 29 (dk_at dksX0_house_1 17 rfl rfl)
theorem dX0_house_44 : decode cX0_house 44 = .ok (.iload_n 2, 1) := dk_28 (dk_at dksX0_house_1 20 rfl rfl)
theorem dX0_house_45 : decode cX0_house 45 = .ok (.bipush 10, 2) := dk_16 10 (dk_at dksX0_house_1 21 rfl rfl)
theorem dX0_house_47 : decode cX0_house 47 = .ok (.irem, 1) := dk_112 (dk_at dksX0_house_1 23 rfl rfl)
theorem dX0_house_48 : decode cX0_house 48 = .ok (.ifCond .eq 22, 3) := dk_153 0 22 (dk_at dksX0_house_2 0 rfl rfl)
theorem dX0_house_51 : decode cX0_house 51 = .ok (.aload_n 0, 1) := dk_42 (dk_at dksX0_house_2 3 rfl rfl)
theorem dX0_house_52 : decode cX0_house 52 = .ok (.getfield 120, 3) := dk_180 0 120 (dk_at dksX0_house_2 4 rfl rfl)
theorem dX0_house_55 : decode cX0_house 55 = .ok (.bipush 20, 2) := dk_16 20 (dk_at dksX0_house_2 7 rfl rfl)
theorem dX0_house_57 : decode cX0_house 57 = .ok (.if_icmp .eq 13, 3) := dk_159 0 13 (dk_at dksX0_house_2 9 rfl rfl)
theorem dX0_house_60 : decode cX0_house 60 = .ok (.aload_n 0, 1) := dk_42 (dk_at dksX0_house_2 12 rfl rfl)
theorem dX0_house_61 : decode cX0_house 61 = .ok (.getfield 151, 3) := dk_180 0 151 (dk_at dksX0_house_2 13 rfl rfl)
theorem dX0_house_64 : decode cX0_house 64 = .ok (.sipush 156, 3) := dk_17 0 156 (dk_at dksX0_house_2 16 rfl rfl)
theorem dX0_house_67 : decode cX0_house 67 = .ok (.if_icmp .ne 5, 3) := dk_160 0 5 (dk_at dksX0_house_2 19 rfl rfl)
theorem dX0_house_70 : decode cX0_house 70 = .ok (.iconst (-1), 1) := dk_2 (dk_at dksX0_house_2 22 rfl rfl)
theorem dX0_house_71 : decode cX0_house 71 = .ok (.ireturn, 1) := dk_172 (dk_at dksX0_house_2 23 rfl rfl)
theorem dX0_house_72 : decode cX0_house 72 = .ok (.aload_n 0, 1) := dk_42 (dk_at dksX0_house_3 0 rfl rfl)
theorem dX0_house_73 : decode cX0_house 73 = .ok (.getfield 30, 3) := dk_180 0 30 (dk_at dksX0_house_3 1 rfl rfl)
theorem dX0_house_76 : decode cX0_house 76 = .ok (.aload_n 0, 1) := dk_42 (dk_at dksX0_house_3 4 rfl rfl)
theorem dX0_house_77 : decode cX0_house 77 = .ok (.getfield 120, 3) := dk_180 0 120 (dk_at dksX0_house_3 5 rfl rfl)
theorem dX0_house_80 : decode cX0_house 80 = .ok (.new 28, 3) := dk_187 0 28 (dk_at dksX0_house_3 8 rfl rfl)
theorem dX0_house_83 : decode cX0_house 83 = .ok (.dup, 1) := dk_89 (dk_at dksX0_house_3 11 rfl rfl)
theorem dX0_house_84 : decode cX0_house 84 = .ok (.aload_n 0, 1) := dk_42 (dk_at dksX0_house_3 12 rfl rfl)
theorem dX0_house_85 : decode cX0_house 85 = .ok (.getfield 120, 3) := dk_180 0 120 (dk_at dksX0_house_3 13 rfl rfl)
theorem dX0_house_88 : decode cX0_house 88 = .ok (.aload_n 3, 1) := dk_45 (dk_at dksX0_house_3 16 rfl rfl)
theorem dX0_house_89 : decode cX0_house 89 = .ok (.iload_n 2, 1) := dk_28 (dk_at dksX0_house_3 17 rfl rfl)
theorem dX0_house_90 : decode cX0_house 90 = .ok (.invokespecial 154, 3) := dk_183 0 154 (dk_at dksX0_house_3 18 rfl rfl)
theorem dX0_house_93 : decode cX0_house 93 = .ok (.aastore, 1) := dk_83 (dk_at dksX0_house_3 21 rfl rfl)
theorem dX0_house_94 : decode cX0_house 94 = .ok (.aload_n 0, 1) := dk_42 (dk_at dksX0_house_3 22 rfl rfl)
theorem dX0_house_95 : decode cX0_house 95 = .ok (.dup, 1) := dk_89 (dk_at dksX0_house_3 23 rfl rfl)
theorem dX0_house_96 : decode cX0_house 96 = .ok (.getfield 120, 3) := dk_180 0 120 (dk_at dksX0_house_4 0 rfl rfl)
theorem dX0_house_99 : decode cX0_house 99 = .ok (.iconst 1, 1) := dk_4 (dk_at dksX0_house_4 3 rfl rfl)
theorem dX0_house_100 : decode cX0_house 100 = .ok (.iadd, 1) := dk_96 (dk_at dksX0_house_4 4 rfl rfl)
theorem dX0_house_101 : decode cX0_house 101 = .ok (.putfield 120, 3) := dk_181 0 120 (dk_at dksX0_house_4 5 rfl rfl)
theorem dX0_house_104 : decode cX0_house 104 = .ok (.aload_n 0, 1) := dk_42 (dk_at dksX0_house_4 8 rfl rfl)
theorem dX0_house_105 : decode cX0_house 105 = .ok (.getfield 120, 3) := dk_180 0 120 (dk_at dksX0_house_4 9 rfl rfl)
theorem dX0_house_108 : decode cX0_house 108 = .ok (.iconst 1, 1) := dk_4 (dk_at dksX0_house_4 12 rfl rfl)
theorem dX0_house_109 : decode cX0_house 109 = .ok (.isub, 1) := dk_100 (dk_at dksX0_house_4 13 rfl rfl)
theorem dX0_house_110 : decode cX0_house 110 = .ok (.ireturn, 1) := dk_172 (dk_at dksX0_house_4 14 rfl rfl)
abbrev cX0_loom : ByteArray := prog_1_method_18_code
def yX0_loom : MethodName := ⟨RX0, "loom", "(III)Z"⟩
def dkwX0_loom_3 : List UInt8 := [89, 28, 16, 100, 108, 28, 16, 100, 112, 29, 183, 0, 171, 181, 0, 161, 4, 172]
abbrev dktX0_loom_3 : List UInt8 := dkwX0_loom_3 ++ []
def dkwX0_loom_2 : List UInt8 := [28, 16, 100, 112, 163, 0, 13, 29, 4, 16, 40, 184, 0, 116, 154, 0, 5, 3, 172, 25, 4, 187, 0, 169]
abbrev dktX0_loom_2 : List UInt8 := dkwX0_loom_2 ++ dktX0_loom_3
def dkwX0_loom_1 : List UInt8 := [28, 16, 100, 108, 184, 0, 165, 153, 0, 34, 28, 16, 100, 112, 184, 0, 165, 153, 0, 24, 28, 16, 100, 108]
abbrev dktX0_loom_1 : List UInt8 := dkwX0_loom_1 ++ dktX0_loom_2
def dkwX0_loom_0 : List UInt8 := [42, 27, 182, 0, 157, 58, 4, 25, 4, 198, 0, 56, 25, 4, 180, 0, 161, 199, 0, 48, 28, 155, 0, 44]
abbrev dktX0_loom_0 : List UInt8 := dkwX0_loom_0 ++ dktX0_loom_1
theorem dksX0_loom_0 : cX0_loom.data.toList.drop 0 = dktX0_loom_0 := by decide +kernel
theorem dksX0_loom_1 : cX0_loom.data.toList.drop 24 = dktX0_loom_1 := dk_seg dksX0_loom_0 24 rfl rfl
theorem dksX0_loom_2 : cX0_loom.data.toList.drop 48 = dktX0_loom_2 := dk_seg dksX0_loom_1 24 rfl rfl
theorem dksX0_loom_3 : cX0_loom.data.toList.drop 72 = dktX0_loom_3 := dk_seg dksX0_loom_2 24 rfl rfl
theorem dX0_loom_0 : decode cX0_loom 0 = .ok (.aload_n 0, 1) := dk_42 (dk_at dksX0_loom_0 0 rfl rfl)
theorem dX0_loom_1 : decode cX0_loom 1 = .ok (.iload_n 1, 1) := dk_27 (dk_at dksX0_loom_0 1 rfl rfl)
theorem dX0_loom_2 : decode cX0_loom 2 = .ok (.invokevirtual 157, 3) := dk_182 0 157 (dk_at dksX0_loom_0 2 rfl rfl)
theorem dX0_loom_5 : decode cX0_loom 5 = .ok (.astore 4, 2) := dk_58 4 (dk_at dksX0_loom_0 5 rfl rfl)
theorem dX0_loom_7 : decode cX0_loom 7 = .ok (.aload 4, 2) := dk_25 4 (dk_at dksX0_loom_0 7 rfl rfl)
theorem dX0_loom_9 : decode cX0_loom 9 = .ok (.ifnull 56, 3) := dk_198 0 56 (dk_at dksX0_loom_0 9 rfl rfl)
theorem dX0_loom_12 : decode cX0_loom 12 = .ok (.aload 4, 2) := dk_25 4 (dk_at dksX0_loom_0 12 rfl rfl)
theorem dX0_loom_14 : decode cX0_loom 14 = .ok (.getfield 161, 3) := dk_180 0 161 (dk_at dksX0_loom_0 14 rfl rfl)
theorem dX0_loom_17 : decode cX0_loom 17 = .ok (.ifnonnull 48, 3) := dk_199 0 48 (dk_at dksX0_loom_0 17 rfl rfl)
theorem dX0_loom_20 : decode cX0_loom 20 = .ok (.iload_n 2, 1) := dk_28 (dk_at dksX0_loom_0 20 rfl rfl)
theorem dX0_loom_21 : decode cX0_loom 21 = .ok (.ifCond .lt 44, 3) := dk_155 0 44 (dk_at dksX0_loom_0 21 rfl rfl)
theorem dX0_loom_24 : decode cX0_loom 24 = .ok (.iload_n 2, 1) := dk_28 (dk_at dksX0_loom_1 0 rfl rfl)
theorem dX0_loom_25 : decode cX0_loom 25 = .ok (.bipush 100, 2) := dk_16 100 (dk_at dksX0_loom_1 1 rfl rfl)
theorem dX0_loom_27 : decode cX0_loom 27 = .ok (.idiv, 1) := dk_108 (dk_at dksX0_loom_1 3 rfl rfl)
theorem dX0_loom_28 : decode cX0_loom 28 = .ok (.invokestatic 165, 3) := dk_184 0 165 (dk_at dksX0_loom_1 4 rfl rfl)
theorem dX0_loom_31 : decode cX0_loom 31 = .ok (.ifCond .eq 34, 3) := dk_153 0 34 (dk_at dksX0_loom_1 7 rfl rfl)
theorem dX0_loom_34 : decode cX0_loom 34 = .ok (.iload_n 2, 1) := dk_28 (dk_at dksX0_loom_1 10 rfl rfl)
theorem dX0_loom_35 : decode cX0_loom 35 = .ok (.bipush 100, 2) := dk_16 100 (dk_at dksX0_loom_1 11 rfl rfl)
theorem dX0_loom_37 : decode cX0_loom 37 = .ok (.irem, 1) := dk_112 (dk_at dksX0_loom_1 13 rfl rfl)
theorem dX0_loom_38 : decode cX0_loom 38 = .ok (.invokestatic 165, 3) := dk_184 0 165 (dk_at dksX0_loom_1 14 rfl rfl)
theorem dX0_loom_41 : decode cX0_loom 41 = .ok (.ifCond .eq 24, 3) := dk_153 0 24 (dk_at dksX0_loom_1 17 rfl rfl)
theorem dX0_loom_44 : decode cX0_loom 44 = .ok (.iload_n 2, 1) := dk_28 (dk_at dksX0_loom_1 20 rfl rfl)
theorem dX0_loom_45 : decode cX0_loom 45 = .ok (.bipush 100, 2) := dk_16 100 (dk_at dksX0_loom_1 21 rfl rfl)
theorem dX0_loom_47 : decode cX0_loom 47 = .ok (.idiv, 1) := dk_108 (dk_at dksX0_loom_1 23 rfl rfl)
theorem dX0_loom_48 : decode cX0_loom 48 = .ok (.iload_n 2, 1) := dk_28 (dk_at dksX0_loom_2 0 rfl rfl)
theorem dX0_loom_49 : decode cX0_loom 49 = .ok (.bipush 100, 2) := dk_16 100 (dk_at dksX0_loom_2 1 rfl rfl)
theorem dX0_loom_51 : decode cX0_loom 51 = .ok (.irem, 1) := dk_112 (dk_at dksX0_loom_2 3 rfl rfl)
theorem dX0_loom_52 : decode cX0_loom 52 = .ok (.if_icmp .gt 13, 3) := dk_163 0 13 (dk_at dksX0_loom_2 4 rfl rfl)
theorem dX0_loom_55 : decode cX0_loom 55 = .ok (.iload_n 3, 1) := dk_29 (dk_at dksX0_loom_2 7 rfl rfl)
theorem dX0_loom_56 : decode cX0_loom 56 = .ok (.iconst 1, 1) := dk_4 (dk_at dksX0_loom_2 8 rfl rfl)
theorem dX0_loom_57 : decode cX0_loom 57 = .ok (.bipush 40, 2) := dk_16 40 (dk_at dksX0_loom_2 9 rfl rfl)
theorem dX0_loom_59 : decode cX0_loom 59 = .ok (.invokestatic 116, 3) := dk_184 0 116 (dk_at dksX0_loom_2 11 rfl rfl)
theorem dX0_loom_62 : decode cX0_loom 62 = .ok (.ifCond .ne 5, 3) := dk_154 0 5 (dk_at dksX0_loom_2 14 rfl rfl)
theorem dX0_loom_65 : decode cX0_loom 65 = .ok (.iconst 0, 1) := dk_3 (dk_at dksX0_loom_2 17 rfl rfl)
theorem dX0_loom_66 : decode cX0_loom 66 = .ok (.ireturn, 1) := dk_172 (dk_at dksX0_loom_2 18 rfl rfl)
theorem dX0_loom_67 : decode cX0_loom 67 = .ok (.aload 4, 2) := dk_25 4 (dk_at dksX0_loom_2 19 rfl rfl)
theorem dX0_loom_69 : decode cX0_loom 69 = .ok (.new 169, 3) := dk_187 0 169 (dk_at dksX0_loom_2 21 rfl rfl)
theorem dX0_loom_72 : decode cX0_loom 72 = .ok (.dup, 1) := dk_89 (dk_at dksX0_loom_3 0 rfl rfl)
theorem dX0_loom_73 : decode cX0_loom 73 = .ok (.iload_n 2, 1) := dk_28 (dk_at dksX0_loom_3 1 rfl rfl)
theorem dX0_loom_74 : decode cX0_loom 74 = .ok (.bipush 100, 2) := dk_16 100 (dk_at dksX0_loom_3 2 rfl rfl)
theorem dX0_loom_76 : decode cX0_loom 76 = .ok (.idiv, 1) := dk_108 (dk_at dksX0_loom_3 4 rfl rfl)
theorem dX0_loom_77 : decode cX0_loom 77 = .ok (.iload_n 2, 1) := dk_28 (dk_at dksX0_loom_3 5 rfl rfl)
theorem dX0_loom_78 : decode cX0_loom 78 = .ok (.bipush 100, 2) := dk_16 100 (dk_at dksX0_loom_3 6 rfl rfl)
theorem dX0_loom_80 : decode cX0_loom 80 = .ok (.irem, 1) := dk_112 (dk_at dksX0_loom_3 8 rfl rfl)
theorem dX0_loom_81 : decode cX0_loom 81 = .ok (.iload_n 3, 1) := dk_29 (dk_at dksX0_loom_3 9 rfl rfl)
theorem dX0_loom_82 : decode cX0_loom 82 = .ok (.invokespecial 171, 3) := dk_183 0 171 (dk_at dksX0_loom_3 10 rfl rfl)
theorem dX0_loom_85 : decode cX0_loom 85 = .ok (.putfield 161, 3) := dk_181 0 161 (dk_at dksX0_loom_3 13 rfl rfl)
theorem dX0_loom_88 : decode cX0_loom 88 = .ok (.iconst 1, 1) := dk_4 (dk_at dksX0_loom_3 16 rfl rfl)
theorem dX0_loom_89 : decode cX0_loom 89 = .ok (.ireturn, 1) := dk_172 (dk_at dksX0_loom_3 17 rfl rfl)
abbrev cX0_findHouse : ByteArray := prog_1_method_7_code
def yX0_findHouse : MethodName := ⟨RX0, "findHouse", "(I)LWheelLand$House;"⟩
def dkwX0_findHouse_1 : List UInt8 := [176]
abbrev dktX0_findHouse_1 : List UInt8 := dkwX0_findHouse_1 ++ []
def dkwX0_findHouse_0 : List UInt8 := [27, 3, 42, 180, 0, 120, 4, 100, 184, 0, 116, 153, 0, 12, 42, 180, 0, 30, 27, 50, 167, 0, 4, 1]
abbrev dktX0_findHouse_0 : List UInt8 := dkwX0_findHouse_0 ++ dktX0_findHouse_1
theorem dksX0_findHouse_0 : cX0_findHouse.data.toList.drop 0 = dktX0_findHouse_0 := by decide +kernel
theorem dksX0_findHouse_1 : cX0_findHouse.data.toList.drop 24 = dktX0_findHouse_1 := dk_seg dksX0_findHouse_0 24 rfl rfl
theorem dX0_findHouse_0 : decode cX0_findHouse 0 = .ok (.iload_n 1, 1) := dk_27 (dk_at dksX0_findHouse_0 0 rfl rfl)
theorem dX0_findHouse_1 : decode cX0_findHouse 1 = .ok (.iconst 0, 1) := dk_3 (dk_at dksX0_findHouse_0 1 rfl rfl)
theorem dX0_findHouse_2 : decode cX0_findHouse 2 = .ok (.aload_n 0, 1) := dk_42 (dk_at dksX0_findHouse_0 2 rfl rfl)
theorem dX0_findHouse_3 : decode cX0_findHouse 3 = .ok (.getfield 120, 3) := dk_180 0 120 (dk_at dksX0_findHouse_0 3 rfl rfl)
theorem dX0_findHouse_6 : decode cX0_findHouse 6 = .ok (.iconst 1, 1) := dk_4 (dk_at dksX0_findHouse_0 6 rfl rfl)
theorem dX0_findHouse_7 : decode cX0_findHouse 7 = .ok (.isub, 1) := dk_100 (dk_at dksX0_findHouse_0 7 rfl rfl)
theorem dX0_findHouse_8 : decode cX0_findHouse 8 = .ok (.invokestatic 116, 3) := dk_184 0 116 (dk_at dksX0_findHouse_0 8 rfl rfl)
theorem dX0_findHouse_11 : decode cX0_findHouse 11 = .ok (.ifCond .eq 12, 3) := dk_153 0 12 (dk_at dksX0_findHouse_0 11 rfl rfl)
theorem dX0_findHouse_14 : decode cX0_findHouse 14 = .ok (.aload_n 0, 1) := dk_42 (dk_at dksX0_findHouse_0 14 rfl rfl)
theorem dX0_findHouse_15 : decode cX0_findHouse 15 = .ok (.getfield 30, 3) := dk_180 0 30 (dk_at dksX0_findHouse_0 15 rfl rfl)
theorem dX0_findHouse_18 : decode cX0_findHouse 18 = .ok (.iload_n 1, 1) := dk_27 (dk_at dksX0_findHouse_0 18 rfl rfl)
theorem dX0_findHouse_19 : decode cX0_findHouse 19 = .ok (.aaload, 1) := dk_50 (dk_at dksX0_findHouse_0 19 rfl rfl)
theorem dX0_findHouse_20 : decode cX0_findHouse 20 = .ok (.goto 4, 3) := dk_167 0 4 (dk_at dksX0_findHouse_0 20 rfl rfl)
theorem dX0_findHouse_23 : decode cX0_findHouse 23 = .ok (.aconst_null, 1) := dk_1 (dk_at dksX0_findHouse_0 23 rfl rfl)
theorem dX0_findHouse_24 : decode cX0_findHouse 24 = .ok (.areturn, 1) := dk_176 (dk_at dksX0_findHouse_1 0 rfl rfl)
abbrev cX0_isCount : ByteArray := prog_1_method_17_code
def yX0_isCount : MethodName := ⟨RX0, "isCount", "(I)Z"⟩
def dkwX0_isCount_0 : List UInt8 := [26, 7, 16, 60, 184, 0, 116, 172]
abbrev dktX0_isCount_0 : List UInt8 := dkwX0_isCount_0 ++ []
theorem dksX0_isCount_0 : cX0_isCount.data.toList.drop 0 = dktX0_isCount_0 := by decide +kernel
theorem dX0_isCount_0 : decode cX0_isCount 0 = .ok (.iload_n 0, 1) := dk_26 (dk_at dksX0_isCount_0 0 rfl rfl)
theorem dX0_isCount_1 : decode cX0_isCount 1 = .ok (.iconst 4, 1) := dk_7 (dk_at dksX0_isCount_0 1 rfl rfl)
theorem dX0_isCount_2 : decode cX0_isCount 2 = .ok (.bipush 60, 2) := dk_16 60 (dk_at dksX0_isCount_0 2 rfl rfl)
theorem dX0_isCount_4 : decode cX0_isCount 4 = .ok (.invokestatic 116, 3) := dk_184 0 116 (dk_at dksX0_isCount_0 4 rfl rfl)
theorem dX0_isCount_7 : decode cX0_isCount 7 = .ok (.ireturn, 1) := dk_172 (dk_at dksX0_isCount_0 7 rfl rfl)
abbrev cX0_aim : ByteArray := prog_1_method_19_code
def yX0_aim : MethodName := ⟨RX0, "aim", "(II)Z"⟩
def dkwX0_aim_1 : List UInt8 := [4, 172]
abbrev dktX0_aim_1 : List UInt8 := dkwX0_aim_1 ++ []
def dkwX0_aim_0 : List UInt8 := [42, 27, 182, 0, 157, 78, 45, 198, 0, 10, 28, 184, 0, 165, 154, 0, 5, 3, 172, 45, 28, 181, 0, 173]
abbrev dktX0_aim_0 : List UInt8 := dkwX0_aim_0 ++ dktX0_aim_1
theorem dksX0_aim_0 : cX0_aim.data.toList.drop 0 = dktX0_aim_0 := by decide +kernel
theorem dksX0_aim_1 : cX0_aim.data.toList.drop 24 = dktX0_aim_1 := dk_seg dksX0_aim_0 24 rfl rfl
theorem dX0_aim_0 : decode cX0_aim 0 = .ok (.aload_n 0, 1) := dk_42 (dk_at dksX0_aim_0 0 rfl rfl)
theorem dX0_aim_1 : decode cX0_aim 1 = .ok (.iload_n 1, 1) := dk_27 (dk_at dksX0_aim_0 1 rfl rfl)
theorem dX0_aim_2 : decode cX0_aim 2 = .ok (.invokevirtual 157, 3) := dk_182 0 157 (dk_at dksX0_aim_0 2 rfl rfl)
theorem dX0_aim_5 : decode cX0_aim 5 = .ok (.astore_n 3, 1) := dk_78 (dk_at dksX0_aim_0 5 rfl rfl)
theorem dX0_aim_6 : decode cX0_aim 6 = .ok (.aload_n 3, 1) := dk_45 (dk_at dksX0_aim_0 6 rfl rfl)
theorem dX0_aim_7 : decode cX0_aim 7 = .ok (.ifnull 10, 3) := dk_198 0 10 (dk_at dksX0_aim_0 7 rfl rfl)
theorem dX0_aim_10 : decode cX0_aim 10 = .ok (.iload_n 2, 1) := dk_28 (dk_at dksX0_aim_0 10 rfl rfl)
theorem dX0_aim_11 : decode cX0_aim 11 = .ok (.invokestatic 165, 3) := dk_184 0 165 (dk_at dksX0_aim_0 11 rfl rfl)
theorem dX0_aim_14 : decode cX0_aim 14 = .ok (.ifCond .ne 5, 3) := dk_154 0 5 (dk_at dksX0_aim_0 14 rfl rfl)
theorem dX0_aim_17 : decode cX0_aim 17 = .ok (.iconst 0, 1) := dk_3 (dk_at dksX0_aim_0 17 rfl rfl)
theorem dX0_aim_18 : decode cX0_aim 18 = .ok (.ireturn, 1) := dk_172 (dk_at dksX0_aim_0 18 rfl rfl)
theorem dX0_aim_19 : decode cX0_aim 19 = .ok (.aload_n 3, 1) := dk_45 (dk_at dksX0_aim_0 19 rfl rfl)
theorem dX0_aim_20 : decode cX0_aim 20 = .ok (.iload_n 2, 1) := dk_28 (dk_at dksX0_aim_0 20 rfl rfl)
theorem dX0_aim_21 : decode cX0_aim 21 = .ok (.putfield 173, 3) := dk_181 0 173 (dk_at dksX0_aim_0 21 rfl rfl)
theorem dX0_aim_24 : decode cX0_aim 24 = .ok (.iconst 1, 1) := dk_4 (dk_at dksX0_aim_1 0 rfl rfl)
theorem dX0_aim_25 : decode cX0_aim 25 = .ok (.ireturn, 1) := dk_172 (dk_at dksX0_aim_1 1 rfl rfl)
abbrev cX0_coins : ByteArray := prog_1_method_20_code
def yX0_coins : MethodName := ⟨RX0, "coins", "(II)I"⟩
def dkwX0_coins_1 : List UInt8 := [18, 176, 172, 45, 89, 180, 0, 177, 28, 96, 181, 0, 177, 45, 180, 0, 177, 172]
abbrev dktX0_coins_1 : List UInt8 := dkwX0_coins_1 ++ []
def dkwX0_coins_0 : List UInt8 := [42, 27, 182, 0, 157, 78, 45, 198, 0, 16, 28, 17, 216, 241, 17, 39, 15, 184, 0, 116, 154, 0, 6]
abbrev dktX0_coins_0 : List UInt8 := dkwX0_coins_0 ++ dktX0_coins_1
theorem dksX0_coins_0 : cX0_coins.data.toList.drop 0 = dktX0_coins_0 := by decide +kernel
theorem dksX0_coins_1 : cX0_coins.data.toList.drop 23 = dktX0_coins_1 := dk_seg dksX0_coins_0 23 rfl rfl
theorem dX0_coins_0 : decode cX0_coins 0 = .ok (.aload_n 0, 1) := dk_42 (dk_at dksX0_coins_0 0 rfl rfl)
theorem dX0_coins_1 : decode cX0_coins 1 = .ok (.iload_n 1, 1) := dk_27 (dk_at dksX0_coins_0 1 rfl rfl)
theorem dX0_coins_2 : decode cX0_coins 2 = .ok (.invokevirtual 157, 3) := dk_182 0 157 (dk_at dksX0_coins_0 2 rfl rfl)
theorem dX0_coins_5 : decode cX0_coins 5 = .ok (.astore_n 3, 1) := dk_78 (dk_at dksX0_coins_0 5 rfl rfl)
theorem dX0_coins_6 : decode cX0_coins 6 = .ok (.aload_n 3, 1) := dk_45 (dk_at dksX0_coins_0 6 rfl rfl)
theorem dX0_coins_7 : decode cX0_coins 7 = .ok (.ifnull 16, 3) := dk_198 0 16 (dk_at dksX0_coins_0 7 rfl rfl)
theorem dX0_coins_10 : decode cX0_coins 10 = .ok (.iload_n 2, 1) := dk_28 (dk_at dksX0_coins_0 10 rfl rfl)
theorem dX0_coins_11 : decode cX0_coins 11 = .ok (.sipush (-9999), 3) := dk_17 216 241 (dk_at dksX0_coins_0 11 rfl rfl)
theorem dX0_coins_14 : decode cX0_coins 14 = .ok (.sipush 9999, 3) := dk_17 39 15 (dk_at dksX0_coins_0 14 rfl rfl)
theorem dX0_coins_17 : decode cX0_coins 17 = .ok (.invokestatic 116, 3) := dk_184 0 116 (dk_at dksX0_coins_0 17 rfl rfl)
theorem dX0_coins_20 : decode cX0_coins 20 = .ok (.ifCond .ne 6, 3) := dk_154 0 6 (dk_at dksX0_coins_0 20 rfl rfl)
theorem dX0_coins_23 : decode cX0_coins 23 = .ok (.ldc 176, 2) := dk_18 176 (dk_at dksX0_coins_1 0 rfl rfl)
theorem dX0_coins_25 : decode cX0_coins 25 = .ok (.ireturn, 1) := dk_172 (dk_at dksX0_coins_1 2 rfl rfl)
theorem dX0_coins_26 : decode cX0_coins 26 = .ok (.aload_n 3, 1) := dk_45 (dk_at dksX0_coins_1 3 rfl rfl)
theorem dX0_coins_27 : decode cX0_coins 27 = .ok (.dup, 1) := dk_89 (dk_at dksX0_coins_1 4 rfl rfl)
theorem dX0_coins_28 : decode cX0_coins 28 = .ok (.getfield 177, 3) := dk_180 0 177 (dk_at dksX0_coins_1 5 rfl rfl)
theorem dX0_coins_31 : decode cX0_coins 31 = .ok (.iload_n 2, 1) := dk_28 (dk_at dksX0_coins_1 8 rfl rfl)
theorem dX0_coins_32 : decode cX0_coins 32 = .ok (.iadd, 1) := dk_96 (dk_at dksX0_coins_1 9 rfl rfl)
theorem dX0_coins_33 : decode cX0_coins 33 = .ok (.putfield 177, 3) := dk_181 0 177 (dk_at dksX0_coins_1 10 rfl rfl)
theorem dX0_coins_36 : decode cX0_coins 36 = .ok (.aload_n 3, 1) := dk_45 (dk_at dksX0_coins_1 13 rfl rfl)
theorem dX0_coins_37 : decode cX0_coins 37 = .ok (.getfield 177, 3) := dk_180 0 177 (dk_at dksX0_coins_1 14 rfl rfl)
theorem dX0_coins_40 : decode cX0_coins 40 = .ok (.ireturn, 1) := dk_172 (dk_at dksX0_coins_1 17 rfl rfl)
abbrev cX0_cotton : ByteArray := prog_1_method_21_code
def yX0_cotton : MethodName := ⟨RX0, "cotton", "(II)I"⟩
def dkwX0_cotton_2 : List UInt8 := [180, 0, 180, 172]
abbrev dktX0_cotton_2 : List UInt8 := dkwX0_cotton_2 ++ []
def dkwX0_cotton_1 : List UInt8 := [180, 0, 180, 28, 96, 17, 39, 15, 164, 0, 5, 2, 172, 45, 89, 180, 0, 180, 28, 96, 181, 0, 180, 45]
abbrev dktX0_cotton_1 : List UInt8 := dkwX0_cotton_1 ++ dktX0_cotton_2
def dkwX0_cotton_0 : List UInt8 := [42, 27, 182, 0, 136, 78, 45, 198, 0, 26, 28, 4, 17, 3, 231, 184, 0, 116, 153, 0, 15, 45]
abbrev dktX0_cotton_0 : List UInt8 := dkwX0_cotton_0 ++ dktX0_cotton_1
theorem dksX0_cotton_0 : cX0_cotton.data.toList.drop 0 = dktX0_cotton_0 := by decide +kernel
theorem dksX0_cotton_1 : cX0_cotton.data.toList.drop 22 = dktX0_cotton_1 := dk_seg dksX0_cotton_0 22 rfl rfl
theorem dksX0_cotton_2 : cX0_cotton.data.toList.drop 46 = dktX0_cotton_2 := dk_seg dksX0_cotton_1 24 rfl rfl
theorem dX0_cotton_0 : decode cX0_cotton 0 = .ok (.aload_n 0, 1) := dk_42 (dk_at dksX0_cotton_0 0 rfl rfl)
theorem dX0_cotton_1 : decode cX0_cotton 1 = .ok (.iload_n 1, 1) := dk_27 (dk_at dksX0_cotton_0 1 rfl rfl)
theorem dX0_cotton_2 : decode cX0_cotton 2 = .ok (.invokevirtual 136, 3) := dk_182 0 136 (dk_at dksX0_cotton_0 2 rfl rfl)
theorem dX0_cotton_5 : decode cX0_cotton 5 = .ok (.astore_n 3, 1) := dk_78 (dk_at dksX0_cotton_0 5 rfl rfl)
theorem dX0_cotton_6 : decode cX0_cotton 6 = .ok (.aload_n 3, 1) := dk_45 (dk_at dksX0_cotton_0 6 rfl rfl)
theorem dX0_cotton_7 : decode cX0_cotton 7 = .ok (.ifnull 26, 3) := dk_198 0 26 (dk_at dksX0_cotton_0 7 rfl rfl)
theorem dX0_cotton_10 : decode cX0_cotton 10 = .ok (.iload_n 2, 1) := dk_28 (dk_at dksX0_cotton_0 10 rfl rfl)
theorem dX0_cotton_11 : decode cX0_cotton 11 = .ok (.iconst 1, 1) := dk_4 (dk_at dksX0_cotton_0 11 rfl rfl)
theorem dX0_cotton_12 : decode cX0_cotton 12 = .ok (.sipush 999, 3) := dk_17 3 231 (dk_at dksX0_cotton_0 12 rfl rfl)
theorem dX0_cotton_15 : decode cX0_cotton 15 = .ok (.invokestatic 116, 3) := dk_184 0 116 (dk_at dksX0_cotton_0 15 rfl rfl)
theorem dX0_cotton_18 : decode cX0_cotton 18 = .ok (.ifCond .eq 15, 3) := dk_153 0 15 (dk_at dksX0_cotton_0 18 rfl rfl)
theorem dX0_cotton_21 : decode cX0_cotton 21 = .ok (.aload_n 3, 1) := dk_45 (dk_at dksX0_cotton_0 21 rfl rfl)
theorem dX0_cotton_22 : decode cX0_cotton 22 = .ok (.getfield 180, 3) := dk_180 0 180 (dk_at dksX0_cotton_1 0 rfl rfl)
theorem dX0_cotton_25 : decode cX0_cotton 25 = .ok (.iload_n 2, 1) := dk_28 (dk_at dksX0_cotton_1 3 rfl rfl)
theorem dX0_cotton_26 : decode cX0_cotton 26 = .ok (.iadd, 1) := dk_96 (dk_at dksX0_cotton_1 4 rfl rfl)
theorem dX0_cotton_27 : decode cX0_cotton 27 = .ok (.sipush 9999, 3) := dk_17 39 15 (dk_at dksX0_cotton_1 5 rfl rfl)
theorem dX0_cotton_30 : decode cX0_cotton 30 = .ok (.if_icmp .le 5, 3) := dk_164 0 5 (dk_at dksX0_cotton_1 8 rfl rfl)
theorem dX0_cotton_33 : decode cX0_cotton 33 = .ok (.iconst (-1), 1) := dk_2 (dk_at dksX0_cotton_1 11 rfl rfl)
theorem dX0_cotton_34 : decode cX0_cotton 34 = .ok (.ireturn, 1) := dk_172 (dk_at dksX0_cotton_1 12 rfl rfl)
theorem dX0_cotton_35 : decode cX0_cotton 35 = .ok (.aload_n 3, 1) := dk_45 (dk_at dksX0_cotton_1 13 rfl rfl)
theorem dX0_cotton_36 : decode cX0_cotton 36 = .ok (.dup, 1) := dk_89 (dk_at dksX0_cotton_1 14 rfl rfl)
theorem dX0_cotton_37 : decode cX0_cotton 37 = .ok (.getfield 180, 3) := dk_180 0 180 (dk_at dksX0_cotton_1 15 rfl rfl)
theorem dX0_cotton_40 : decode cX0_cotton 40 = .ok (.iload_n 2, 1) := dk_28 (dk_at dksX0_cotton_1 18 rfl rfl)
theorem dX0_cotton_41 : decode cX0_cotton 41 = .ok (.iadd, 1) := dk_96 (dk_at dksX0_cotton_1 19 rfl rfl)
theorem dX0_cotton_42 : decode cX0_cotton 42 = .ok (.putfield 180, 3) := dk_181 0 180 (dk_at dksX0_cotton_1 20 rfl rfl)
theorem dX0_cotton_45 : decode cX0_cotton 45 = .ok (.aload_n 3, 1) := dk_45 (dk_at dksX0_cotton_1 23 rfl rfl)
theorem dX0_cotton_46 : decode cX0_cotton 46 = .ok (.getfield 180, 3) := dk_180 0 180 (dk_at dksX0_cotton_2 0 rfl rfl)
theorem dX0_cotton_49 : decode cX0_cotton 49 = .ok (.ireturn, 1) := dk_172 (dk_at dksX0_cotton_2 3 rfl rfl)
abbrev cX0_go : ByteArray := prog_1_method_22_code
def yX0_go : MethodName := ⟨RX0, "go", "(I)I"⟩
def dkwX0_go_1 : List UInt8 := [17, 0, 156, 162, 0, 13, 42, 182, 0, 183, 132, 2, 1, 167, 255, 234, 42, 180, 0, 151, 172]
abbrev dktX0_go_1 : List UInt8 := dkwX0_go_1 ++ []
def dkwX0_go_0 : List UInt8 := [27, 3, 16, 26, 184, 0, 116, 154, 0, 5, 2, 172, 3, 61, 28, 27, 162, 0, 23, 42, 180, 0, 151]
abbrev dktX0_go_0 : List UInt8 := dkwX0_go_0 ++ dktX0_go_1
theorem dksX0_go_0 : cX0_go.data.toList.drop 0 = dktX0_go_0 := by decide +kernel
theorem dksX0_go_1 : cX0_go.data.toList.drop 23 = dktX0_go_1 := dk_seg dksX0_go_0 23 rfl rfl
theorem dX0_go_0 : decode cX0_go 0 = .ok (.iload_n 1, 1) := dk_27 (dk_at dksX0_go_0 0 rfl rfl)
theorem dX0_go_1 : decode cX0_go 1 = .ok (.iconst 0, 1) := dk_3 (dk_at dksX0_go_0 1 rfl rfl)
theorem dX0_go_2 : decode cX0_go 2 = .ok (.bipush 26, 2) := dk_16 26 (dk_at dksX0_go_0 2 rfl rfl)
theorem dX0_go_4 : decode cX0_go 4 = .ok (.invokestatic 116, 3) := dk_184 0 116 (dk_at dksX0_go_0 4 rfl rfl)
theorem dX0_go_7 : decode cX0_go 7 = .ok (.ifCond .ne 5, 3) := dk_154 0 5 (dk_at dksX0_go_0 7 rfl rfl)
theorem dX0_go_10 : decode cX0_go 10 = .ok (.iconst (-1), 1) := dk_2 (dk_at dksX0_go_0 10 rfl rfl)
theorem dX0_go_11 : decode cX0_go 11 = .ok (.ireturn, 1) := dk_172 (dk_at dksX0_go_0 11 rfl rfl)
theorem dX0_go_12 : decode cX0_go 12 = .ok (.iconst 0, 1) := dk_3 (dk_at dksX0_go_0 12 rfl rfl)
theorem dX0_go_13 : decode cX0_go 13 = .ok (.istore_n 2, 1) := dk_61 (dk_at dksX0_go_0 13 rfl rfl)
theorem dX0_go_14 : decode cX0_go 14 = .ok (.iload_n 2, 1) := dk_28 (dk_at dksX0_go_0 14 rfl rfl)
theorem dX0_go_15 : decode cX0_go 15 = .ok (.iload_n 1, 1) := dk_27 (dk_at dksX0_go_0 15 rfl rfl)
theorem dX0_go_16 : decode cX0_go 16 = .ok (.if_icmp .ge 23, 3) := dk_162 0 23 (dk_at dksX0_go_0 16 rfl rfl)
theorem dX0_go_19 : decode cX0_go 19 = .ok (.aload_n 0, 1) := dk_42 (dk_at dksX0_go_0 19 rfl rfl)
theorem dX0_go_20 : decode cX0_go 20 = .ok (.getfield 151, 3) := dk_180 0 151 (dk_at dksX0_go_0 20 rfl rfl)
theorem dX0_go_23 : decode cX0_go 23 = .ok (.sipush 156, 3) := dk_17 0 156 (dk_at dksX0_go_1 0 rfl rfl)
theorem dX0_go_26 : decode cX0_go 26 = .ok (.if_icmp .ge 13, 3) := dk_162 0 13 (dk_at dksX0_go_1 3 rfl rfl)
theorem dX0_go_29 : decode cX0_go 29 = .ok (.aload_n 0, 1) := dk_42 (dk_at dksX0_go_1 6 rfl rfl)
theorem dX0_go_30 : decode cX0_go 30 = .ok (.invokevirtual 183, 3) := dk_182 0 183 (dk_at dksX0_go_1 7 rfl rfl)
theorem dX0_go_33 : decode cX0_go 33 = .ok (.iinc 2 1, 3) := dk_132 2 1 (dk_at dksX0_go_1 10 rfl rfl)
theorem dX0_go_36 : decode cX0_go 36 = .ok (.goto (-22), 3) := dk_167 255 234 (dk_at dksX0_go_1 13 rfl rfl)
theorem dX0_go_39 : decode cX0_go 39 = .ok (.aload_n 0, 1) := dk_42 (dk_at dksX0_go_1 16 rfl rfl)
theorem dX0_go_40 : decode cX0_go 40 = .ok (.getfield 151, 3) := dk_180 0 151 (dk_at dksX0_go_1 17 rfl rfl)
theorem dX0_go_43 : decode cX0_go 43 = .ok (.ireturn, 1) := dk_172 (dk_at dksX0_go_1 20 rfl rfl)
abbrev cX0_ends : ByteArray := prog_1_method_23_code
def yX0_ends : MethodName := ⟨RX0, "ends", "()V"⟩
def dkwX0_ends_11 : List UInt8 := [180, 0, 30, 27, 50, 180, 0, 161, 3, 181, 0, 227, 132, 1, 1, 167, 255, 220, 177]
abbrev dktX0_ends_11 : List UInt8 := dkwX0_ends_11 ++ []
def dkwX0_ends_10 : List UInt8 := [60, 27, 42, 180, 0, 120, 162, 0, 34, 42, 180, 0, 30, 27, 50, 180, 0, 161, 198, 0, 16, 42]
abbrev dktX0_ends_10 : List UInt8 := dkwX0_ends_10 ++ dktX0_ends_11
def dkwX0_ends_9 : List UInt8 := [180, 0, 221, 42, 180, 0, 151, 42, 180, 0, 24, 27, 50, 180, 0, 224, 79, 132, 1, 1, 167, 255, 215, 3]
abbrev dktX0_ends_9 : List UInt8 := dkwX0_ends_9 ++ dktX0_ends_10
def dkwX0_ends_8 : List UInt8 := [60, 27, 16, 8, 162, 0, 41, 42, 180, 0, 24, 27, 50, 198, 0, 26, 42, 180, 0, 24, 27, 50]
abbrev dktX0_ends_8 : List UInt8 := dkwX0_ends_8 ++ dktX0_ends_9
def dkwX0_ends_7 : List UInt8 := [182, 0, 215, 132, 1, 1, 167, 255, 236, 42, 182, 0, 218, 42, 89, 180, 0, 151, 4, 96, 181, 0, 151, 3]
abbrev dktX0_ends_7 : List UInt8 := dkwX0_ends_7 ++ dktX0_ends_8
def dkwX0_ends_6 : List UInt8 := [132, 1, 1, 167, 255, 204, 3, 60, 27, 42, 180, 0, 112, 162, 0, 18, 42, 180, 0, 24, 27, 50]
abbrev dktX0_ends_6 : List UInt8 := dkwX0_ends_6 ++ dktX0_ends_7
def dkwX0_ends_5 : List UInt8 := [89, 180, 0, 205, 3, 42, 3, 42, 180, 0, 30, 27, 50, 182, 0, 208, 184, 0, 212, 96, 181, 0, 205]
abbrev dktX0_ends_5 : List UInt8 := dkwX0_ends_5 ++ dktX0_ends_6
def dkwX0_ends_4 : List UInt8 := [180, 0, 120, 162, 0, 50, 42, 180, 0, 30, 27, 50, 180, 0, 202, 158, 0, 32, 42, 180, 0, 30, 27, 50]
abbrev dktX0_ends_4 : List UInt8 := dkwX0_ends_4 ++ dktX0_ends_5
def dkwX0_ends_3 : List UInt8 := [167, 255, 219, 42, 182, 0, 199, 42, 180, 0, 151, 16, 13, 112, 16, 12, 160, 0, 85, 3, 60, 27, 42]
abbrev dktX0_ends_3 : List UInt8 := dkwX0_ends_3 ++ dktX0_ends_4
def dkwX0_ends_2 : List UInt8 := [50, 42, 180, 0, 151, 182, 0, 193, 153, 0, 13, 42, 42, 180, 0, 30, 27, 50, 182, 0, 196, 132, 1, 1]
abbrev dktX0_ends_2 : List UInt8 := dkwX0_ends_2 ++ dktX0_ends_3
def dkwX0_ends_1 : List UInt8 := [182, 0, 189, 132, 1, 1, 167, 255, 235, 3, 60, 27, 42, 180, 0, 120, 162, 0, 35, 42, 180, 0, 30, 27]
abbrev dktX0_ends_1 : List UInt8 := dkwX0_ends_1 ++ dktX0_ends_2
def dkwX0_ends_0 : List UInt8 := [42, 3, 181, 0, 186, 3, 60, 27, 42, 180, 0, 120, 162, 0, 19, 42, 42, 180, 0, 30, 27, 50]
abbrev dktX0_ends_0 : List UInt8 := dkwX0_ends_0 ++ dktX0_ends_1
theorem dksX0_ends_0 : cX0_ends.data.toList.drop 0 = dktX0_ends_0 := by decide +kernel
theorem dksX0_ends_1 : cX0_ends.data.toList.drop 22 = dktX0_ends_1 := dk_seg dksX0_ends_0 22 rfl rfl
theorem dksX0_ends_2 : cX0_ends.data.toList.drop 46 = dktX0_ends_2 := dk_seg dksX0_ends_1 24 rfl rfl
theorem dksX0_ends_3 : cX0_ends.data.toList.drop 70 = dktX0_ends_3 := dk_seg dksX0_ends_2 24 rfl rfl
theorem dksX0_ends_4 : cX0_ends.data.toList.drop 93 = dktX0_ends_4 := dk_seg dksX0_ends_3 23 rfl rfl
theorem dksX0_ends_5 : cX0_ends.data.toList.drop 117 = dktX0_ends_5 := dk_seg dksX0_ends_4 24 rfl rfl
theorem dksX0_ends_6 : cX0_ends.data.toList.drop 140 = dktX0_ends_6 := dk_seg dksX0_ends_5 23 rfl rfl
theorem dksX0_ends_7 : cX0_ends.data.toList.drop 162 = dktX0_ends_7 := dk_seg dksX0_ends_6 22 rfl rfl
theorem dksX0_ends_8 : cX0_ends.data.toList.drop 186 = dktX0_ends_8 := dk_seg dksX0_ends_7 24 rfl rfl
theorem dksX0_ends_9 : cX0_ends.data.toList.drop 208 = dktX0_ends_9 := dk_seg dksX0_ends_8 22 rfl rfl
theorem dksX0_ends_10 : cX0_ends.data.toList.drop 232 = dktX0_ends_10 := dk_seg dksX0_ends_9 24 rfl rfl
theorem dksX0_ends_11 : cX0_ends.data.toList.drop 254 = dktX0_ends_11 := dk_seg dksX0_ends_10 22 rfl rfl
theorem dX0_ends_0 : decode cX0_ends 0 = .ok (.aload_n 0, 1) := dk_42 (dk_at dksX0_ends_0 0 rfl rfl)
theorem dX0_ends_1 : decode cX0_ends 1 = .ok (.iconst 0, 1) := dk_3 (dk_at dksX0_ends_0 1 rfl rfl)
theorem dX0_ends_2 : decode cX0_ends 2 = .ok (.putfield 186, 3) := dk_181 0 186 (dk_at dksX0_ends_0 2 rfl rfl)
theorem dX0_ends_5 : decode cX0_ends 5 = .ok (.iconst 0, 1) := dk_3 (dk_at dksX0_ends_0 5 rfl rfl)
theorem dX0_ends_6 : decode cX0_ends 6 = .ok (.istore_n 1, 1) := dk_60 (dk_at dksX0_ends_0 6 rfl rfl)
theorem dX0_ends_7 : decode cX0_ends 7 = .ok (.iload_n 1, 1) := dk_27 (dk_at dksX0_ends_0 7 rfl rfl)
theorem dX0_ends_8 : decode cX0_ends 8 = .ok (.aload_n 0, 1) := dk_42 (dk_at dksX0_ends_0 8 rfl rfl)
theorem dX0_ends_9 : decode cX0_ends 9 = .ok (.getfield 120, 3) := dk_180 0 120 (dk_at dksX0_ends_0 9 rfl rfl)
theorem dX0_ends_12 : decode cX0_ends 12 = .ok (.if_icmp .ge 19, 3) := dk_162 0 19 (dk_at dksX0_ends_0 12 rfl rfl)
theorem dX0_ends_15 : decode cX0_ends 15 = .ok (.aload_n 0, 1) := dk_42 (dk_at dksX0_ends_0 15 rfl rfl)
theorem dX0_ends_16 : decode cX0_ends 16 = .ok (.aload_n 0, 1) := dk_42 (dk_at dksX0_ends_0 16 rfl rfl)
theorem dX0_ends_17 : decode cX0_ends 17 = .ok (.getfield 30, 3) := dk_180 0 30 (dk_at dksX0_ends_0 17 rfl rfl)
theorem dX0_ends_20 : decode cX0_ends 20 = .ok (.iload_n 1, 1) := dk_27 (dk_at dksX0_ends_0 20 rfl rfl)
theorem dX0_ends_21 : decode cX0_ends 21 = .ok (.aaload, 1) := dk_50 (dk_at dksX0_ends_0 21 rfl rfl)
theorem dX0_ends_22 : decode cX0_ends 22 = .ok (.invokevirtual 189, 3) := dk_182 0 189 (dk_at dksX0_ends_1 0 rfl rfl)
theorem dX0_ends_25 : decode cX0_ends 25 = .ok (.iinc 1 1, 3) := dk_132 1 1 (dk_at dksX0_ends_1 3 rfl rfl)
theorem dX0_ends_28 : decode cX0_ends 28 = .ok (.goto (-21), 3) := dk_167 255 235 (dk_at dksX0_ends_1 6 rfl rfl)
theorem dX0_ends_31 : decode cX0_ends 31 = .ok (.iconst 0, 1) := dk_3 (dk_at dksX0_ends_1 9 rfl rfl)
theorem dX0_ends_32 : decode cX0_ends 32 = .ok (.istore_n 1, 1) := dk_60 (dk_at dksX0_ends_1 10 rfl rfl)
theorem dX0_ends_33 : decode cX0_ends 33 = .ok (.iload_n 1, 1) := dk_27 (dk_at dksX0_ends_1 11 rfl rfl)
theorem dX0_ends_34 : decode cX0_ends 34 = .ok (.aload_n 0, 1) := dk_42 (dk_at dksX0_ends_1 12 rfl rfl)
theorem dX0_ends_35 : decode cX0_ends 35 = .ok (.getfield 120, 3) := dk_180 0 120 (dk_at dksX0_ends_1 13 rfl rfl)
theorem dX0_ends_38 : decode cX0_ends 38 = .ok (.if_icmp .ge 35, 3) := dk_162 0 35 (dk_at dksX0_ends_1 16 rfl rfl)
theorem dX0_ends_41 : decode cX0_ends 41 = .ok (.aload_n 0, 1) := dk_42 (dk_at dksX0_ends_1 19 rfl rfl)
theorem dX0_ends_42 : decode cX0_ends 42 = .ok (.getfield 30, 3) := dk_180 0 30 (dk_at dksX0_ends_1 20 rfl rfl)
theorem dX0_ends_45 : decode cX0_ends 45 = .ok (.iload_n 1, 1) := dk_27 (dk_at dksX0_ends_1 23 rfl rfl)
theorem dX0_ends_46 : decode cX0_ends 46 = .ok (.aaload, 1) := dk_50 (dk_at dksX0_ends_2 0 rfl rfl)
theorem dX0_ends_47 : decode cX0_ends 47 = .ok (.aload_n 0, 1) := dk_42 (dk_at dksX0_ends_2 1 rfl rfl)
theorem dX0_ends_48 : decode cX0_ends 48 = .ok (.getfield 151, 3) := dk_180 0 151 (dk_at dksX0_ends_2 2 rfl rfl)
theorem dX0_ends_51 : decode cX0_ends 51 = .ok (.invokevirtual 193, 3) := dk_182 0 193 (dk_at dksX0_ends_2 5 rfl rfl)
theorem dX0_ends_54 : decode cX0_ends 54 = .ok (.ifCond .eq 13, 3) := dk_153 0 13 (dk_at dksX0_ends_2 8 rfl rfl)
theorem dX0_ends_57 : decode cX0_ends 57 = .ok (.aload_n 0, 1) := dk_42 (dk_at dksX0_ends_2 11 rfl rfl)
theorem dX0_ends_58 : decode cX0_ends 58 = .ok (.aload_n 0, 1) := dk_42 (dk_at dksX0_ends_2 12 rfl rfl)
theorem dX0_ends_59 : decode cX0_ends 59 = .ok (.getfield 30, 3) := dk_180 0 30 (dk_at dksX0_ends_2 13 rfl rfl)
theorem dX0_ends_62 : decode cX0_ends 62 = .ok (.iload_n 1, 1) := dk_27 (dk_at dksX0_ends_2 16 rfl rfl)
theorem dX0_ends_63 : decode cX0_ends 63 = .ok (.aaload, 1) := dk_50 (dk_at dksX0_ends_2 17 rfl rfl)
theorem dX0_ends_64 : decode cX0_ends 64 = .ok (.invokevirtual 196, 3) := dk_182 0 196 (dk_at dksX0_ends_2 18 rfl rfl)
theorem dX0_ends_67 : decode cX0_ends 67 = .ok (.iinc 1 1, 3) := dk_132 1 1 (dk_at dksX0_ends_2 21 rfl rfl)
theorem dX0_ends_70 : decode cX0_ends 70 = .ok (.goto (-37), 3) := dk_167 255 219 (dk_at dksX0_ends_3 0 rfl rfl)
theorem dX0_ends_73 : decode cX0_ends 73 = .ok (.aload_n 0, 1) := dk_42 (dk_at dksX0_ends_3 3 rfl rfl)
theorem dX0_ends_74 : decode cX0_ends 74 = .ok (.invokevirtual 199, 3) := dk_182 0 199 (dk_at dksX0_ends_3 4 rfl rfl)
theorem dX0_ends_77 : decode cX0_ends 77 = .ok (.aload_n 0, 1) := dk_42 (dk_at dksX0_ends_3 7 rfl rfl)
theorem dX0_ends_78 : decode cX0_ends 78 = .ok (.getfield 151, 3) := dk_180 0 151 (dk_at dksX0_ends_3 8 rfl rfl)
theorem dX0_ends_81 : decode cX0_ends 81 = .ok (.bipush 13, 2) := dk_16 13 (dk_at dksX0_ends_3 11 rfl rfl)
theorem dX0_ends_83 : decode cX0_ends 83 = .ok (.irem, 1) := dk_112 (dk_at dksX0_ends_3 13 rfl rfl)
theorem dX0_ends_84 : decode cX0_ends 84 = .ok (.bipush 12, 2) := dk_16 12 (dk_at dksX0_ends_3 14 rfl rfl)
theorem dX0_ends_86 : decode cX0_ends 86 = .ok (.if_icmp .ne 85, 3) := dk_160 0 85 (dk_at dksX0_ends_3 16 rfl rfl)
theorem dX0_ends_89 : decode cX0_ends 89 = .ok (.iconst 0, 1) := dk_3 (dk_at dksX0_ends_3 19 rfl rfl)
theorem dX0_ends_90 : decode cX0_ends 90 = .ok (.istore_n 1, 1) := dk_60 (dk_at dksX0_ends_3 20 rfl rfl)
theorem dX0_ends_91 : decode cX0_ends 91 = .ok (.iload_n 1, 1) := dk_27 (dk_at dksX0_ends_3 21 rfl rfl)
theorem dX0_ends_92 : decode cX0_ends 92 = .ok (.aload_n 0, 1) := dk_42 (dk_at dksX0_ends_3 22 rfl rfl)
theorem dX0_ends_93 : decode cX0_ends 93 = .ok (.getfield 120, 3) := dk_180 0 120 (dk_at dksX0_ends_4 0 rfl rfl)
theorem dX0_ends_96 : decode cX0_ends 96 = .ok (.if_icmp .ge 50, 3) := dk_162 0 50 (dk_at dksX0_ends_4 3 rfl rfl)
theorem dX0_ends_99 : decode cX0_ends 99 = .ok (.aload_n 0, 1) := dk_42 (dk_at dksX0_ends_4 6 rfl rfl)
theorem dX0_ends_100 : decode cX0_ends 100 = .ok (.getfield 30, 3) := dk_180 0 30 (dk_at dksX0_ends_4 7 rfl rfl)
theorem dX0_ends_103 : decode cX0_ends 103 = .ok (.iload_n 1, 1) := dk_27 (dk_at dksX0_ends_4 10 rfl rfl)
theorem dX0_ends_104 : decode cX0_ends 104 = .ok (.aaload, 1) := dk_50 (dk_at dksX0_ends_4 11 rfl rfl)
theorem dX0_ends_105 : decode cX0_ends 105 = .ok (.getfield 202, 3) := dk_180 0 202 (dk_at dksX0_ends_4 12 rfl rfl)
theorem dX0_ends_108 : decode cX0_ends 108 = .ok (.ifCond .le 32, 3) := dk_158 0 32 (dk_at dksX0_ends_4 15 rfl rfl)
theorem dX0_ends_111 : decode cX0_ends 111 = .ok (.aload_n 0, 1) := dk_42 (dk_at dksX0_ends_4 18 rfl rfl)
theorem dX0_ends_112 : decode cX0_ends 112 = .ok (.getfield 30, 3) := dk_180 0 30 (dk_at dksX0_ends_4 19 rfl rfl)
theorem dX0_ends_115 : decode cX0_ends 115 = .ok (.iload_n 1, 1) := dk_27 (dk_at dksX0_ends_4 22 rfl rfl)
theorem dX0_ends_116 : decode cX0_ends 116 = .ok (.aaload, 1) := dk_50 (dk_at dksX0_ends_4 23 rfl rfl)
theorem dX0_ends_117 : decode cX0_ends 117 = .ok (.dup, 1) := dk_89 (dk_at dksX0_ends_5 0 rfl rfl)
theorem dX0_ends_118 : decode cX0_ends 118 = .ok (.getfield 205, 3) := dk_180 0 205 (dk_at dksX0_ends_5 1 rfl rfl)
theorem dX0_ends_121 : decode cX0_ends 121 = .ok (.iconst 0, 1) := dk_3 (dk_at dksX0_ends_5 4 rfl rfl)
theorem dX0_ends_122 : decode cX0_ends 122 = .ok (.aload_n 0, 1) := dk_42 (dk_at dksX0_ends_5 5 rfl rfl)
theorem dX0_ends_123 : decode cX0_ends 123 = .ok (.iconst 0, 1) := dk_3 (dk_at dksX0_ends_5 6 rfl rfl)
theorem dX0_ends_124 : decode cX0_ends 124 = .ok (.aload_n 0, 1) := dk_42 (dk_at dksX0_ends_5 7 rfl rfl)
theorem dX0_ends_125 : decode cX0_ends 125 = .ok (.getfield 30, 3) := dk_180 0 30 (dk_at dksX0_ends_5 8 rfl rfl)
theorem dX0_ends_128 : decode cX0_ends 128 = .ok (.iload_n 1, 1) := dk_27 (dk_at dksX0_ends_5 11 rfl rfl)
theorem dX0_ends_129 : decode cX0_ends 129 = .ok (.aaload, 1) := dk_50 (dk_at dksX0_ends_5 12 rfl rfl)
theorem dX0_ends_130 : decode cX0_ends 130 = .ok (.invokevirtual 208, 3) := dk_182 0 208 (dk_at dksX0_ends_5 13 rfl rfl)
theorem dX0_ends_133 : decode cX0_ends 133 = .ok (.invokestatic 212, 3) := dk_184 0 212 (dk_at dksX0_ends_5 16 rfl rfl)
theorem dX0_ends_136 : decode cX0_ends 136 = .ok (.iadd, 1) := dk_96 (dk_at dksX0_ends_5 19 rfl rfl)
theorem dX0_ends_137 : decode cX0_ends 137 = .ok (.putfield 205, 3) := dk_181 0 205 (dk_at dksX0_ends_5 20 rfl rfl)
theorem dX0_ends_140 : decode cX0_ends 140 = .ok (.iinc 1 1, 3) := dk_132 1 1 (dk_at dksX0_ends_6 0 rfl rfl)
theorem dX0_ends_143 : decode cX0_ends 143 = .ok (.goto (-52), 3) := dk_167 255 204 (dk_at dksX0_ends_6 3 rfl rfl)
theorem dX0_ends_146 : decode cX0_ends 146 = .ok (.iconst 0, 1) := dk_3 (dk_at dksX0_ends_6 6 rfl rfl)
theorem dX0_ends_147 : decode cX0_ends 147 = .ok (.istore_n 1, 1) := dk_60 (dk_at dksX0_ends_6 7 rfl rfl)
theorem dX0_ends_148 : decode cX0_ends 148 = .ok (.iload_n 1, 1) := dk_27 (dk_at dksX0_ends_6 8 rfl rfl)
theorem dX0_ends_149 : decode cX0_ends 149 = .ok (.aload_n 0, 1) := dk_42 (dk_at dksX0_ends_6 9 rfl rfl)
theorem dX0_ends_150 : decode cX0_ends 150 = .ok (.getfield 112, 3) := dk_180 0 112 (dk_at dksX0_ends_6 10 rfl rfl)
theorem dX0_ends_153 : decode cX0_ends 153 = .ok (.if_icmp .ge 18, 3) := dk_162 0 18 (dk_at dksX0_ends_6 13 rfl rfl)
theorem dX0_ends_156 : decode cX0_ends 156 = .ok (.aload_n 0, 1) := dk_42 (dk_at dksX0_ends_6 16 rfl rfl)
theorem dX0_ends_157 : decode cX0_ends 157 = .ok (.getfield 24, 3) := dk_180 0 24 (dk_at dksX0_ends_6 17 rfl rfl)
theorem dX0_ends_160 : decode cX0_ends 160 = .ok (.iload_n 1, 1) := dk_27 (dk_at dksX0_ends_6 20 rfl rfl)
theorem dX0_ends_161 : decode cX0_ends 161 = .ok (.aaload, 1) := dk_50 (dk_at dksX0_ends_6 21 rfl rfl)
theorem dX0_ends_162 : decode cX0_ends 162 = .ok (.invokevirtual 215, 3) := dk_182 0 215 (dk_at dksX0_ends_7 0 rfl rfl)
theorem dX0_ends_165 : decode cX0_ends 165 = .ok (.iinc 1 1, 3) := dk_132 1 1 (dk_at dksX0_ends_7 3 rfl rfl)
theorem dX0_ends_168 : decode cX0_ends 168 = .ok (.goto (-20), 3) := dk_167 255 236 (dk_at dksX0_ends_7 6 rfl rfl)
theorem dX0_ends_171 : decode cX0_ends 171 = .ok (.aload_n 0, 1) := dk_42 (dk_at dksX0_ends_7 9 rfl rfl)
theorem dX0_ends_172 : decode cX0_ends 172 = .ok (.invokevirtual 218, 3) := dk_182 0 218 (dk_at dksX0_ends_7 10 rfl rfl)
theorem dX0_ends_175 : decode cX0_ends 175 = .ok (.aload_n 0, 1) := dk_42 (dk_at dksX0_ends_7 13 rfl rfl)
theorem dX0_ends_176 : decode cX0_ends 176 = .ok (.dup, 1) := dk_89 (dk_at dksX0_ends_7 14 rfl rfl)
theorem dX0_ends_177 : decode cX0_ends 177 = .ok (.getfield 151, 3) := dk_180 0 151 (dk_at dksX0_ends_7 15 rfl rfl)
theorem dX0_ends_180 : decode cX0_ends 180 = .ok (.iconst 1, 1) := dk_4 (dk_at dksX0_ends_7 18 rfl rfl)
theorem dX0_ends_181 : decode cX0_ends 181 = .ok (.iadd, 1) := dk_96 (dk_at dksX0_ends_7 19 rfl rfl)
theorem dX0_ends_182 : decode cX0_ends 182 = .ok (.putfield 151, 3) := dk_181 0 151 (dk_at dksX0_ends_7 20 rfl rfl)
theorem dX0_ends_185 : decode cX0_ends 185 = .ok (.iconst 0, 1) := dk_3 (dk_at dksX0_ends_7 23 rfl rfl)
theorem dX0_ends_186 : decode cX0_ends 186 = .ok (.istore_n 1, 1) := dk_60 (dk_at dksX0_ends_8 0 rfl rfl)
theorem dX0_ends_187 : decode cX0_ends 187 = .ok (.iload_n 1, 1) := dk_27 (dk_at dksX0_ends_8 1 rfl rfl)
theorem dX0_ends_188 : decode cX0_ends 188 = .ok (.bipush 8, 2) := dk_16 8 (dk_at dksX0_ends_8 2 rfl rfl)
theorem dX0_ends_190 : decode cX0_ends 190 = .ok (.if_icmp .ge 41, 3) := dk_162 0 41 (dk_at dksX0_ends_8 4 rfl rfl)
theorem dX0_ends_193 : decode cX0_ends 193 = .ok (.aload_n 0, 1) := dk_42 (dk_at dksX0_ends_8 7 rfl rfl)
theorem dX0_ends_194 : decode cX0_ends 194 = .ok (.getfield 24, 3) := dk_180 0 24 (dk_at dksX0_ends_8 8 rfl rfl)
theorem dX0_ends_197 : decode cX0_ends 197 = .ok (.iload_n 1, 1) := dk_27 (dk_at dksX0_ends_8 11 rfl rfl)
theorem dX0_ends_198 : decode cX0_ends 198 = .ok (.aaload, 1) := dk_50 (dk_at dksX0_ends_8 12 rfl rfl)
theorem dX0_ends_199 : decode cX0_ends 199 = .ok (.ifnull 26, 3) := dk_198 0 26 (dk_at dksX0_ends_8 13 rfl rfl)
theorem dX0_ends_202 : decode cX0_ends 202 = .ok (.aload_n 0, 1) := dk_42 (dk_at dksX0_ends_8 16 rfl rfl)
theorem dX0_ends_203 : decode cX0_ends 203 = .ok (.getfield 24, 3) := dk_180 0 24 (dk_at dksX0_ends_8 17 rfl rfl)
theorem dX0_ends_206 : decode cX0_ends 206 = .ok (.iload_n 1, 1) := dk_27 (dk_at dksX0_ends_8 20 rfl rfl)
theorem dX0_ends_207 : decode cX0_ends 207 = .ok (.aaload, 1) := dk_50 (dk_at dksX0_ends_8 21 rfl rfl)
theorem dX0_ends_208 : decode cX0_ends 208 = .ok (.getfield 221, 3) := dk_180 0 221 (dk_at dksX0_ends_9 0 rfl rfl)
theorem dX0_ends_211 : decode cX0_ends 211 = .ok (.aload_n 0, 1) := dk_42 (dk_at dksX0_ends_9 3 rfl rfl)
theorem dX0_ends_212 : decode cX0_ends 212 = .ok (.getfield 151, 3) := dk_180 0 151 (dk_at dksX0_ends_9 4 rfl rfl)
theorem dX0_ends_215 : decode cX0_ends 215 = .ok (.aload_n 0, 1) := dk_42 (dk_at dksX0_ends_9 7 rfl rfl)
theorem dX0_ends_216 : decode cX0_ends 216 = .ok (.getfield 24, 3) := dk_180 0 24 (dk_at dksX0_ends_9 8 rfl rfl)
theorem dX0_ends_219 : decode cX0_ends 219 = .ok (.iload_n 1, 1) := dk_27 (dk_at dksX0_ends_9 11 rfl rfl)
theorem dX0_ends_220 : decode cX0_ends 220 = .ok (.aaload, 1) := dk_50 (dk_at dksX0_ends_9 12 rfl rfl)
theorem dX0_ends_221 : decode cX0_ends 221 = .ok (.getfield 224, 3) := dk_180 0 224 (dk_at dksX0_ends_9 13 rfl rfl)
theorem dX0_ends_224 : decode cX0_ends 224 = .ok (.iastore, 1) := dk_79 (dk_at dksX0_ends_9 16 rfl rfl)
theorem dX0_ends_225 : decode cX0_ends 225 = .ok (.iinc 1 1, 3) := dk_132 1 1 (dk_at dksX0_ends_9 17 rfl rfl)
theorem dX0_ends_228 : decode cX0_ends 228 = .ok (.goto (-41), 3) := dk_167 255 215 (dk_at dksX0_ends_9 20 rfl rfl)
theorem dX0_ends_231 : decode cX0_ends 231 = .ok (.iconst 0, 1) := dk_3 (dk_at dksX0_ends_9 23 rfl rfl)
theorem dX0_ends_232 : decode cX0_ends 232 = .ok (.istore_n 1, 1) := dk_60 (dk_at dksX0_ends_10 0 rfl rfl)
theorem dX0_ends_233 : decode cX0_ends 233 = .ok (.iload_n 1, 1) := dk_27 (dk_at dksX0_ends_10 1 rfl rfl)
theorem dX0_ends_234 : decode cX0_ends 234 = .ok (.aload_n 0, 1) := dk_42 (dk_at dksX0_ends_10 2 rfl rfl)
theorem dX0_ends_235 : decode cX0_ends 235 = .ok (.getfield 120, 3) := dk_180 0 120 (dk_at dksX0_ends_10 3 rfl rfl)
theorem dX0_ends_238 : decode cX0_ends 238 = .ok (.if_icmp .ge 34, 3) := dk_162 0 34 (dk_at dksX0_ends_10 6 rfl rfl)
theorem dX0_ends_241 : decode cX0_ends 241 = .ok (.aload_n 0, 1) := dk_42 (dk_at dksX0_ends_10 9 rfl rfl)
theorem dX0_ends_242 : decode cX0_ends 242 = .ok (.getfield 30, 3) := dk_180 0 30 (dk_at dksX0_ends_10 10 rfl rfl)
theorem dX0_ends_245 : decode cX0_ends 245 = .ok (.iload_n 1, 1) := dk_27 (dk_at dksX0_ends_10 13 rfl rfl)
theorem dX0_ends_246 : decode cX0_ends 246 = .ok (.aaload, 1) := dk_50 (dk_at dksX0_ends_10 14 rfl rfl)
theorem dX0_ends_247 : decode cX0_ends 247 = .ok (.getfield 161, 3) := dk_180 0 161 (dk_at dksX0_ends_10 15 rfl rfl)
theorem dX0_ends_250 : decode cX0_ends 250 = .ok (.ifnull 16, 3) := dk_198 0 16 (dk_at dksX0_ends_10 18 rfl rfl)
theorem dX0_ends_253 : decode cX0_ends 253 = .ok (.aload_n 0, 1) := dk_42 (dk_at dksX0_ends_10 21 rfl rfl)
theorem dX0_ends_254 : decode cX0_ends 254 = .ok (.getfield 30, 3) := dk_180 0 30 (dk_at dksX0_ends_11 0 rfl rfl)
theorem dX0_ends_257 : decode cX0_ends 257 = .ok (.iload_n 1, 1) := dk_27 (dk_at dksX0_ends_11 3 rfl rfl)
theorem dX0_ends_258 : decode cX0_ends 258 = .ok (.aaload, 1) := dk_50 (dk_at dksX0_ends_11 4 rfl rfl)
theorem dX0_ends_259 : decode cX0_ends 259 = .ok (.getfield 161, 3) := dk_180 0 161 (dk_at dksX0_ends_11 5 rfl rfl)
theorem dX0_ends_262 : decode cX0_ends 262 = .ok (.iconst 0, 1) := dk_3 (dk_at dksX0_ends_11 8 rfl rfl)
theorem dX0_ends_263 : decode cX0_ends 263 = .ok (.putfield 227, 3) := dk_181 0 227 (dk_at dksX0_ends_11 9 rfl rfl)
theorem dX0_ends_266 : decode cX0_ends 266 = .ok (.iinc 1 1, 3) := dk_132 1 1 (dk_at dksX0_ends_11 12 rfl rfl)
theorem dX0_ends_269 : decode cX0_ends 269 = .ok (.goto (-36), 3) := dk_167 255 220 (dk_at dksX0_ends_11 15 rfl rfl)
theorem dX0_ends_272 : decode cX0_ends 272 = .ok (.return_, 1) := dk_177 (dk_at dksX0_ends_11 18 rfl rfl)
abbrev cX0_spins : ByteArray := prog_1_method_24_code
def yX0_spins : MethodName := ⟨RX0, "spins", "(LWheelLand$House;)V"⟩
def dkwX0_spins_6 : List UInt8 := [177]
abbrev dktX0_spins_6 : List UInt8 := dkwX0_spins_6 ++ []
def dkwX0_spins_5 : List UInt8 := [100, 181, 0, 180, 42, 89, 180, 0, 186, 29, 96, 181, 0, 186, 42, 89, 180, 0, 254, 29, 96, 181, 0, 254]
abbrev dktX0_spins_5 : List UInt8 := dkwX0_spins_5 ++ dktX0_spins_6
def dkwX0_spins_4 : List UInt8 := [180, 0, 123, 4, 96, 181, 0, 123, 43, 180, 0, 240, 89, 180, 0, 180, 29, 43, 180, 0, 173, 184, 0, 251]
abbrev dktX0_spins_4 : List UInt8 := dkwX0_spins_4 ++ dktX0_spins_5
def dkwX0_spins_3 : List UInt8 := [180, 0, 123, 187, 0, 34, 89, 42, 180, 0, 123, 43, 42, 180, 0, 151, 29, 183, 0, 248, 83, 42, 89]
abbrev dktX0_spins_3 : List UInt8 := dkwX0_spins_3 ++ dktX0_spins_4
def dkwX0_spins_2 : List UInt8 := [184, 0, 244, 62, 29, 153, 0, 13, 42, 180, 0, 123, 17, 1, 44, 160, 0, 4, 177, 42, 180, 0, 36, 42]
abbrev dktX0_spins_2 : List UInt8 := dkwX0_spins_2 ++ dktX0_spins_3
def dkwX0_spins_1 : List UInt8 := [16, 24, 108, 96, 181, 0, 234, 28, 43, 180, 0, 237, 43, 180, 0, 173, 43, 180, 0, 240, 180, 0, 180]
abbrev dktX0_spins_1 : List UInt8 := dkwX0_spins_1 ++ dktX0_spins_2
def dkwX0_spins_0 : List UInt8 := [43, 42, 180, 0, 151, 182, 0, 230, 61, 43, 89, 180, 0, 234, 28, 16, 10, 43, 180, 0, 237, 96, 104]
abbrev dktX0_spins_0 : List UInt8 := dkwX0_spins_0 ++ dktX0_spins_1
theorem dksX0_spins_0 : cX0_spins.data.toList.drop 0 = dktX0_spins_0 := by decide +kernel
theorem dksX0_spins_1 : cX0_spins.data.toList.drop 23 = dktX0_spins_1 := dk_seg dksX0_spins_0 23 rfl rfl
theorem dksX0_spins_2 : cX0_spins.data.toList.drop 46 = dktX0_spins_2 := dk_seg dksX0_spins_1 23 rfl rfl
theorem dksX0_spins_3 : cX0_spins.data.toList.drop 70 = dktX0_spins_3 := dk_seg dksX0_spins_2 24 rfl rfl
theorem dksX0_spins_4 : cX0_spins.data.toList.drop 93 = dktX0_spins_4 := dk_seg dksX0_spins_3 23 rfl rfl
theorem dksX0_spins_5 : cX0_spins.data.toList.drop 117 = dktX0_spins_5 := dk_seg dksX0_spins_4 24 rfl rfl
theorem dksX0_spins_6 : cX0_spins.data.toList.drop 141 = dktX0_spins_6 := dk_seg dksX0_spins_5 24 rfl rfl
theorem dX0_spins_0 : decode cX0_spins 0 = .ok (.aload_n 1, 1) := dk_43 (dk_at dksX0_spins_0 0 rfl rfl)
theorem dX0_spins_1 : decode cX0_spins 1 = .ok (.aload_n 0, 1) := dk_42 (dk_at dksX0_spins_0 1 rfl rfl)
theorem dX0_spins_2 : decode cX0_spins 2 = .ok (.getfield 151, 3) := dk_180 0 151 (dk_at dksX0_spins_0 2 rfl rfl)
theorem dX0_spins_5 : decode cX0_spins 5 = .ok (.invokevirtual 230, 3) := dk_182 0 230 (dk_at dksX0_spins_0 5 rfl rfl)
theorem dX0_spins_8 : decode cX0_spins 8 = .ok (.istore_n 2, 1) := dk_61 (dk_at dksX0_spins_0 8 rfl rfl)
theorem dX0_spins_9 : decode cX0_spins 9 = .ok (.aload_n 1, 1) := dk_43 (dk_at dksX0_spins_0 9 rfl rfl)
theorem dX0_spins_10 : decode cX0_spins 10 = .ok (.dup, 1) := dk_89 (dk_at dksX0_spins_0 10 rfl rfl)
theorem dX0_spins_11 : decode cX0_spins 11 = .ok (.getfield 234, 3) := dk_180 0 234 (dk_at dksX0_spins_0 11 rfl rfl)
theorem dX0_spins_14 : decode cX0_spins 14 = .ok (.iload_n 2, 1) := dk_28 (dk_at dksX0_spins_0 14 rfl rfl)
theorem dX0_spins_15 : decode cX0_spins 15 = .ok (.bipush 10, 2) := dk_16 10 (dk_at dksX0_spins_0 15 rfl rfl)
theorem dX0_spins_17 : decode cX0_spins 17 = .ok (.aload_n 1, 1) := dk_43 (dk_at dksX0_spins_0 17 rfl rfl)
theorem dX0_spins_18 : decode cX0_spins 18 = .ok (.getfield 237, 3) := dk_180 0 237 (dk_at dksX0_spins_0 18 rfl rfl)
theorem dX0_spins_21 : decode cX0_spins 21 = .ok (.iadd, 1) := dk_96 (dk_at dksX0_spins_0 21 rfl rfl)
theorem dX0_spins_22 : decode cX0_spins 22 = .ok (.imul, 1) := dk_104 (dk_at dksX0_spins_0 22 rfl rfl)
theorem dX0_spins_23 : decode cX0_spins 23 = .ok (.bipush 24, 2) := dk_16 24 (dk_at dksX0_spins_1 0 rfl rfl)
theorem dX0_spins_25 : decode cX0_spins 25 = .ok (.idiv, 1) := dk_108 (dk_at dksX0_spins_1 2 rfl rfl)
theorem dX0_spins_26 : decode cX0_spins 26 = .ok (.iadd, 1) := dk_96 (dk_at dksX0_spins_1 3 rfl rfl)
theorem dX0_spins_27 : decode cX0_spins 27 = .ok (.putfield 234, 3) := dk_181 0 234 (dk_at dksX0_spins_1 4 rfl rfl)
theorem dX0_spins_30 : decode cX0_spins 30 = .ok (.iload_n 2, 1) := dk_28 (dk_at dksX0_spins_1 7 rfl rfl)
theorem dX0_spins_31 : decode cX0_spins 31 = .ok (.aload_n 1, 1) := dk_43 (dk_at dksX0_spins_1 8 rfl rfl)
theorem dX0_spins_32 : decode cX0_spins 32 = .ok (.getfield 237, 3) := dk_180 0 237 (dk_at dksX0_spins_1 9 rfl rfl)
theorem dX0_spins_35 : decode cX0_spins 35 = .ok (.aload_n 1, 1) := dk_43 (dk_at dksX0_spins_1 12 rfl rfl)
theorem dX0_spins_36 : decode cX0_spins 36 = .ok (.getfield 173, 3) := dk_180 0 173 (dk_at dksX0_spins_1 13 rfl rfl)
theorem dX0_spins_39 : decode cX0_spins 39 = .ok (.aload_n 1, 1) := dk_43 (dk_at dksX0_spins_1 16 rfl rfl)
theorem dX0_spins_40 : decode cX0_spins 40 = .ok (.getfield 240, 3) := dk_180 0 240 (dk_at dksX0_spins_1 17 rfl rfl)
theorem dX0_spins_43 : decode cX0_spins 43 = .ok (.getfield 180, 3) := dk_180 0 180 (dk_at dksX0_spins_1 20 rfl rfl)
theorem dX0_spins_46 : decode cX0_spins 46 = .ok (.invokestatic 244, 3) := dk_184 0 244 (dk_at dksX0_spins_2 0 rfl rfl)
theorem dX0_spins_49 : decode cX0_spins 49 = .ok (.istore_n 3, 1) := dk_62 (dk_at dksX0_spins_2 3 rfl rfl)
theorem dX0_spins_50 : decode cX0_spins 50 = .ok (.iload_n 3, 1) := dk_29 (dk_at dksX0_spins_2 4 rfl rfl)
theorem dX0_spins_51 : decode cX0_spins 51 = .ok (.ifCond .eq 13, 3) := dk_153 0 13 (dk_at dksX0_spins_2 5 rfl rfl)
theorem dX0_spins_54 : decode cX0_spins 54 = .ok (.aload_n 0, 1) := dk_42 (dk_at dksX0_spins_2 8 rfl rfl)
theorem dX0_spins_55 : decode cX0_spins 55 = .ok (.getfield 123, 3) := dk_180 0 123 (dk_at dksX0_spins_2 9 rfl rfl)
theorem dX0_spins_58 : decode cX0_spins 58 = .ok (.sipush 300, 3) := dk_17 1 44 (dk_at dksX0_spins_2 12 rfl rfl)
theorem dX0_spins_61 : decode cX0_spins 61 = .ok (.if_icmp .ne 4, 3) := dk_160 0 4 (dk_at dksX0_spins_2 15 rfl rfl)
theorem dX0_spins_64 : decode cX0_spins 64 = .ok (.return_, 1) := dk_177 (dk_at dksX0_spins_2 18 rfl rfl)
theorem dX0_spins_65 : decode cX0_spins 65 = .ok (.aload_n 0, 1) := dk_42 (dk_at dksX0_spins_2 19 rfl rfl)
theorem dX0_spins_66 : decode cX0_spins 66 = .ok (.getfield 36, 3) := dk_180 0 36 (dk_at dksX0_spins_2 20 rfl rfl)
theorem dX0_spins_69 : decode cX0_spins 69 = .ok (.aload_n 0, 1) := dk_42 (dk_at dksX0_spins_2 23 rfl rfl)
theorem dX0_spins_70 : decode cX0_spins 70 = .ok (.getfield 123, 3) := dk_180 0 123 (dk_at dksX0_spins_3 0 rfl rfl)
theorem dX0_spins_73 : decode cX0_spins 73 = .ok (.new 34, 3) := dk_187 0 34 (dk_at dksX0_spins_3 3 rfl rfl)
theorem dX0_spins_76 : decode cX0_spins 76 = .ok (.dup, 1) := dk_89 (dk_at dksX0_spins_3 6 rfl rfl)
theorem dX0_spins_77 : decode cX0_spins 77 = .ok (.aload_n 0, 1) := dk_42 (dk_at dksX0_spins_3 7 rfl rfl)
theorem dX0_spins_78 : decode cX0_spins 78 = .ok (.getfield 123, 3) := dk_180 0 123 (dk_at dksX0_spins_3 8 rfl rfl)
theorem dX0_spins_81 : decode cX0_spins 81 = .ok (.aload_n 1, 1) := dk_43 (dk_at dksX0_spins_3 11 rfl rfl)
theorem dX0_spins_82 : decode cX0_spins 82 = .ok (.aload_n 0, 1) := dk_42 (dk_at dksX0_spins_3 12 rfl rfl)
theorem dX0_spins_83 : decode cX0_spins 83 = .ok (.getfield 151, 3) := dk_180 0 151 (dk_at dksX0_spins_3 13 rfl rfl)
theorem dX0_spins_86 : decode cX0_spins 86 = .ok (.iload_n 3, 1) := dk_29 (dk_at dksX0_spins_3 16 rfl rfl)
theorem dX0_spins_87 : decode cX0_spins 87 = .ok (.invokespecial 248, 3) := dk_183 0 248 (dk_at dksX0_spins_3 17 rfl rfl)
theorem dX0_spins_90 : decode cX0_spins 90 = .ok (.aastore, 1) := dk_83 (dk_at dksX0_spins_3 20 rfl rfl)
theorem dX0_spins_91 : decode cX0_spins 91 = .ok (.aload_n 0, 1) := dk_42 (dk_at dksX0_spins_3 21 rfl rfl)
theorem dX0_spins_92 : decode cX0_spins 92 = .ok (.dup, 1) := dk_89 (dk_at dksX0_spins_3 22 rfl rfl)
theorem dX0_spins_93 : decode cX0_spins 93 = .ok (.getfield 123, 3) := dk_180 0 123 (dk_at dksX0_spins_4 0 rfl rfl)
theorem dX0_spins_96 : decode cX0_spins 96 = .ok (.iconst 1, 1) := dk_4 (dk_at dksX0_spins_4 3 rfl rfl)
theorem dX0_spins_97 : decode cX0_spins 97 = .ok (.iadd, 1) := dk_96 (dk_at dksX0_spins_4 4 rfl rfl)
theorem dX0_spins_98 : decode cX0_spins 98 = .ok (.putfield 123, 3) := dk_181 0 123 (dk_at dksX0_spins_4 5 rfl rfl)
theorem dX0_spins_101 : decode cX0_spins 101 = .ok (.aload_n 1, 1) := dk_43 (dk_at dksX0_spins_4 8 rfl rfl)
theorem dX0_spins_102 : decode cX0_spins 102 = .ok (.getfield 240, 3) := dk_180 0 240 (dk_at dksX0_spins_4 9 rfl rfl)
theorem dX0_spins_105 : decode cX0_spins 105 = .ok (.dup, 1) := dk_89 (dk_at dksX0_spins_4 12 rfl rfl)
theorem dX0_spins_106 : decode cX0_spins 106 = .ok (.getfield 180, 3) := dk_180 0 180 (dk_at dksX0_spins_4 13 rfl rfl)
theorem dX0_spins_109 : decode cX0_spins 109 = .ok (.iload_n 3, 1) := dk_29 (dk_at dksX0_spins_4 16 rfl rfl)
theorem dX0_spins_110 : decode cX0_spins 110 = .ok (.aload_n 1, 1) := dk_43 (dk_at dksX0_spins_4 17 rfl rfl)
theorem dX0_spins_111 : decode cX0_spins 111 = .ok (.getfield 173, 3) := dk_180 0 173 (dk_at dksX0_spins_4 18 rfl rfl)
theorem dX0_spins_114 : decode cX0_spins 114 = .ok (.invokestatic 251, 3) := dk_184 0 251 (dk_at dksX0_spins_4 21 rfl rfl)
theorem dX0_spins_117 : decode cX0_spins 117 = .ok (.isub, 1) := dk_100 (dk_at dksX0_spins_5 0 rfl rfl)
theorem dX0_spins_118 : decode cX0_spins 118 = .ok (.putfield 180, 3) := dk_181 0 180 (dk_at dksX0_spins_5 1 rfl rfl)
theorem dX0_spins_121 : decode cX0_spins 121 = .ok (.aload_n 0, 1) := dk_42 (dk_at dksX0_spins_5 4 rfl rfl)
theorem dX0_spins_122 : decode cX0_spins 122 = .ok (.dup, 1) := dk_89 (dk_at dksX0_spins_5 5 rfl rfl)
theorem dX0_spins_123 : decode cX0_spins 123 = .ok (.getfield 186, 3) := dk_180 0 186 (dk_at dksX0_spins_5 6 rfl rfl)
theorem dX0_spins_126 : decode cX0_spins 126 = .ok (.iload_n 3, 1) := dk_29 (dk_at dksX0_spins_5 9 rfl rfl)
theorem dX0_spins_127 : decode cX0_spins 127 = .ok (.iadd, 1) := dk_96 (dk_at dksX0_spins_5 10 rfl rfl)
theorem dX0_spins_128 : decode cX0_spins 128 = .ok (.putfield 186, 3) := dk_181 0 186 (dk_at dksX0_spins_5 11 rfl rfl)
theorem dX0_spins_131 : decode cX0_spins 131 = .ok (.aload_n 0, 1) := dk_42 (dk_at dksX0_spins_5 14 rfl rfl)
theorem dX0_spins_132 : decode cX0_spins 132 = .ok (.dup, 1) := dk_89 (dk_at dksX0_spins_5 15 rfl rfl)
theorem dX0_spins_133 : decode cX0_spins 133 = .ok (.getfield 254, 3) := dk_180 0 254 (dk_at dksX0_spins_5 16 rfl rfl)
theorem dX0_spins_136 : decode cX0_spins 136 = .ok (.iload_n 3, 1) := dk_29 (dk_at dksX0_spins_5 19 rfl rfl)
theorem dX0_spins_137 : decode cX0_spins 137 = .ok (.iadd, 1) := dk_96 (dk_at dksX0_spins_5 20 rfl rfl)
theorem dX0_spins_138 : decode cX0_spins 138 = .ok (.putfield 254, 3) := dk_181 0 254 (dk_at dksX0_spins_5 21 rfl rfl)
theorem dX0_spins_141 : decode cX0_spins 141 = .ok (.return_, 1) := dk_177 (dk_at dksX0_spins_6 0 rfl rfl)
abbrev cX0_seasonOf : ByteArray := prog_1_method_4_code
def yX0_seasonOf : MethodName := ⟨RX0, "seasonOf", "(I)I"⟩
def dkwX0_seasonOf_0 : List UInt8 := [26, 16, 13, 108, 7, 112, 172]
abbrev dktX0_seasonOf_0 : List UInt8 := dkwX0_seasonOf_0 ++ []
theorem dksX0_seasonOf_0 : cX0_seasonOf.data.toList.drop 0 = dktX0_seasonOf_0 := by decide +kernel
theorem dX0_seasonOf_0 : decode cX0_seasonOf 0 = .ok (.iload_n 0, 1) := dk_26 (dk_at dksX0_seasonOf_0 0 rfl rfl)
theorem dX0_seasonOf_1 : decode cX0_seasonOf 1 = .ok (.bipush 13, 2) := dk_16 13 (dk_at dksX0_seasonOf_0 1 rfl rfl)
theorem dX0_seasonOf_3 : decode cX0_seasonOf 3 = .ok (.idiv, 1) := dk_108 (dk_at dksX0_seasonOf_0 3 rfl rfl)
theorem dX0_seasonOf_4 : decode cX0_seasonOf 4 = .ok (.iconst 4, 1) := dk_7 (dk_at dksX0_seasonOf_0 4 rfl rfl)
theorem dX0_seasonOf_5 : decode cX0_seasonOf 5 = .ok (.irem, 1) := dk_112 (dk_at dksX0_seasonOf_0 5 rfl rfl)
theorem dX0_seasonOf_6 : decode cX0_seasonOf 6 = .ok (.ireturn, 1) := dk_172 (dk_at dksX0_seasonOf_0 6 rfl rfl)
abbrev cX0_hanksOf : ByteArray := prog_1_method_25_code
def yX0_hanksOf : MethodName := ⟨RX0, "hanksOf", "(IIII)I"⟩
def dkwX0_hanksOf_0 : List UInt8 := [26, 16, 10, 27, 96, 104, 28, 16, 20, 96, 108, 29, 28, 104, 184, 1, 1, 172]
abbrev dktX0_hanksOf_0 : List UInt8 := dkwX0_hanksOf_0 ++ []
theorem dksX0_hanksOf_0 : cX0_hanksOf.data.toList.drop 0 = dktX0_hanksOf_0 := by decide +kernel
theorem dX0_hanksOf_0 : decode cX0_hanksOf 0 = .ok (.iload_n 0, 1) := dk_26 (dk_at dksX0_hanksOf_0 0 rfl rfl)
theorem dX0_hanksOf_1 : decode cX0_hanksOf 1 = .ok (.bipush 10, 2) := dk_16 10 (dk_at dksX0_hanksOf_0 1 rfl rfl)
theorem dX0_hanksOf_3 : decode cX0_hanksOf 3 = .ok (.iload_n 1, 1) := dk_27 (dk_at dksX0_hanksOf_0 3 rfl rfl)
theorem dX0_hanksOf_4 : decode cX0_hanksOf 4 = .ok (.iadd, 1) := dk_96 (dk_at dksX0_hanksOf_0 4 rfl rfl)
theorem dX0_hanksOf_5 : decode cX0_hanksOf 5 = .ok (.imul, 1) := dk_104 (dk_at dksX0_hanksOf_0 5 rfl rfl)
theorem dX0_hanksOf_6 : decode cX0_hanksOf 6 = .ok (.iload_n 2, 1) := dk_28 (dk_at dksX0_hanksOf_0 6 rfl rfl)
theorem dX0_hanksOf_7 : decode cX0_hanksOf 7 = .ok (.bipush 20, 2) := dk_16 20 (dk_at dksX0_hanksOf_0 7 rfl rfl)
theorem dX0_hanksOf_9 : decode cX0_hanksOf 9 = .ok (.iadd, 1) := dk_96 (dk_at dksX0_hanksOf_0 9 rfl rfl)
theorem dX0_hanksOf_10 : decode cX0_hanksOf 10 = .ok (.idiv, 1) := dk_108 (dk_at dksX0_hanksOf_0 10 rfl rfl)
theorem dX0_hanksOf_11 : decode cX0_hanksOf 11 = .ok (.iload_n 3, 1) := dk_29 (dk_at dksX0_hanksOf_0 11 rfl rfl)
theorem dX0_hanksOf_12 : decode cX0_hanksOf 12 = .ok (.iload_n 2, 1) := dk_28 (dk_at dksX0_hanksOf_0 12 rfl rfl)
theorem dX0_hanksOf_13 : decode cX0_hanksOf 13 = .ok (.imul, 1) := dk_104 (dk_at dksX0_hanksOf_0 13 rfl rfl)
theorem dX0_hanksOf_14 : decode cX0_hanksOf 14 = .ok (.invokestatic 257, 3) := dk_184 1 1 (dk_at dksX0_hanksOf_0 14 rfl rfl)
theorem dX0_hanksOf_17 : decode cX0_hanksOf 17 = .ok (.ireturn, 1) := dk_172 (dk_at dksX0_hanksOf_0 17 rfl rfl)
abbrev cX0_begun : ByteArray := prog_1_method_3_code
def yX0_begun : MethodName := ⟨RX0, "begun", "(II)I"⟩
def dkwX0_begun_0 : List UInt8 := [26, 27, 96, 4, 100, 27, 108, 172]
abbrev dktX0_begun_0 : List UInt8 := dkwX0_begun_0 ++ []
theorem dksX0_begun_0 : cX0_begun.data.toList.drop 0 = dktX0_begun_0 := by decide +kernel
theorem dX0_begun_0 : decode cX0_begun 0 = .ok (.iload_n 0, 1) := dk_26 (dk_at dksX0_begun_0 0 rfl rfl)
theorem dX0_begun_1 : decode cX0_begun 1 = .ok (.iload_n 1, 1) := dk_27 (dk_at dksX0_begun_0 1 rfl rfl)
theorem dX0_begun_2 : decode cX0_begun 2 = .ok (.iadd, 1) := dk_96 (dk_at dksX0_begun_0 2 rfl rfl)
theorem dX0_begun_3 : decode cX0_begun 3 = .ok (.iconst 1, 1) := dk_4 (dk_at dksX0_begun_0 3 rfl rfl)
theorem dX0_begun_4 : decode cX0_begun 4 = .ok (.isub, 1) := dk_100 (dk_at dksX0_begun_0 4 rfl rfl)
theorem dX0_begun_5 : decode cX0_begun 5 = .ok (.iload_n 1, 1) := dk_27 (dk_at dksX0_begun_0 5 rfl rfl)
theorem dX0_begun_6 : decode cX0_begun 6 = .ok (.idiv, 1) := dk_108 (dk_at dksX0_begun_0 6 rfl rfl)
theorem dX0_begun_7 : decode cX0_begun 7 = .ok (.ireturn, 1) := dk_172 (dk_at dksX0_begun_0 7 rfl rfl)
abbrev cX0_buys : ByteArray := prog_1_method_28_code
def yX0_buys : MethodName := ⟨RX0, "buys", "(LWheelLand$House;)V"⟩
def dkwX0_buys_4 : List UInt8 := [181, 1, 40, 43, 89, 180, 1, 43, 4, 96, 181, 1, 43, 44, 182, 1, 46, 177]
abbrev dktX0_buys_4 : List UInt8 := dkwX0_buys_4 ++ []
def dkwX0_buys_3 : List UInt8 := [89, 180, 0, 177, 44, 180, 0, 224, 21, 4, 96, 100, 181, 0, 177, 42, 89, 180, 1, 40, 21, 4, 96]
abbrev dktX0_buys_3 : List UInt8 := dkwX0_buys_3 ++ dktX0_buys_4
def dkwX0_buys_2 : List UInt8 := [89, 180, 1, 34, 4, 96, 181, 1, 34, 44, 182, 1, 37, 167, 0, 51, 42, 44, 182, 1, 10, 54, 4, 43]
abbrev dktX0_buys_2 : List UInt8 := dkwX0_buys_2 ++ dktX0_buys_3
def dkwX0_buys_1 : List UInt8 := [181, 1, 31, 167, 0, 85, 29, 154, 0, 33, 43, 89, 180, 0, 177, 44, 180, 1, 18, 100, 181, 0, 177, 43]
abbrev dktX0_buys_1 : List UInt8 := dkwX0_buys_1 ++ dktX0_buys_2
def dkwX0_buys_0 : List UInt8 := [43, 180, 0, 240, 77, 42, 43, 182, 1, 27, 62, 29, 2, 160, 0, 16, 43, 89, 180, 1, 31, 4, 96]
abbrev dktX0_buys_0 : List UInt8 := dkwX0_buys_0 ++ dktX0_buys_1
theorem dksX0_buys_0 : cX0_buys.data.toList.drop 0 = dktX0_buys_0 := by decide +kernel
theorem dksX0_buys_1 : cX0_buys.data.toList.drop 23 = dktX0_buys_1 := dk_seg dksX0_buys_0 23 rfl rfl
theorem dksX0_buys_2 : cX0_buys.data.toList.drop 47 = dktX0_buys_2 := dk_seg dksX0_buys_1 24 rfl rfl
theorem dksX0_buys_3 : cX0_buys.data.toList.drop 71 = dktX0_buys_3 := dk_seg dksX0_buys_2 24 rfl rfl
theorem dksX0_buys_4 : cX0_buys.data.toList.drop 94 = dktX0_buys_4 := dk_seg dksX0_buys_3 23 rfl rfl
theorem dX0_buys_0 : decode cX0_buys 0 = .ok (.aload_n 1, 1) := dk_43 (dk_at dksX0_buys_0 0 rfl rfl)
theorem dX0_buys_1 : decode cX0_buys 1 = .ok (.getfield 240, 3) := dk_180 0 240 (dk_at dksX0_buys_0 1 rfl rfl)
theorem dX0_buys_4 : decode cX0_buys 4 = .ok (.astore_n 2, 1) := dk_77 (dk_at dksX0_buys_0 4 rfl rfl)
theorem dX0_buys_5 : decode cX0_buys 5 = .ok (.aload_n 0, 1) := dk_42 (dk_at dksX0_buys_0 5 rfl rfl)
theorem dX0_buys_6 : decode cX0_buys 6 = .ok (.aload_n 1, 1) := dk_43 (dk_at dksX0_buys_0 6 rfl rfl)
theorem dX0_buys_7 : decode cX0_buys 7 = .ok (.invokevirtual 283, 3) := dk_182 1 27 (dk_at dksX0_buys_0 7 rfl rfl)
theorem dX0_buys_10 : decode cX0_buys 10 = .ok (.istore_n 3, 1) := dk_62 (dk_at dksX0_buys_0 10 rfl rfl)
theorem dX0_buys_11 : decode cX0_buys 11 = .ok (.iload_n 3, 1) := dk_29 (dk_at dksX0_buys_0 11 rfl rfl)
theorem dX0_buys_12 : decode cX0_buys 12 = .ok (.iconst (-1), 1) := dk_2 (dk_at dksX0_buys_0 12 rfl rfl)
theorem dX0_buys_13 : decode cX0_buys 13 = .ok (.if_icmp .ne 16, 3) := dk_160 0 16 (dk_at dksX0_buys_0 13 rfl rfl)
theorem dX0_buys_16 : decode cX0_buys 16 = .ok (.aload_n 1, 1) := dk_43 (dk_at dksX0_buys_0 16 rfl rfl)
theorem dX0_buys_17 : decode cX0_buys 17 = .ok (.dup, 1) := dk_89 (dk_at dksX0_buys_0 17 rfl rfl)
theorem dX0_buys_18 : decode cX0_buys 18 = .ok (.getfield 287, 3) := dk_180 1 31 (dk_at dksX0_buys_0 18 rfl rfl)
theorem dX0_buys_21 : decode cX0_buys 21 = .ok (.iconst 1, 1) := dk_4 (dk_at dksX0_buys_0 21 rfl rfl)
theorem dX0_buys_22 : decode cX0_buys 22 = .ok (.iadd, 1) := dk_96 (dk_at dksX0_buys_0 22 rfl rfl)
theorem dX0_buys_23 : decode cX0_buys 23 = .ok (.putfield 287, 3) := dk_181 1 31 (dk_at dksX0_buys_1 0 rfl rfl)
theorem dX0_buys_26 : decode cX0_buys 26 = .ok (.goto 85, 3) := dk_167 0 85 (dk_at dksX0_buys_1 3 rfl rfl)
theorem dX0_buys_29 : decode cX0_buys 29 = .ok (.iload_n 3, 1) := dk_29 (dk_at dksX0_buys_1 6 rfl rfl)
theorem dX0_buys_30 : decode cX0_buys 30 = .ok (.ifCond .ne 33, 3) := dk_154 0 33 (dk_at dksX0_buys_1 7 rfl rfl)
theorem dX0_buys_33 : decode cX0_buys 33 = .ok (.aload_n 1, 1) := dk_43 (dk_at dksX0_buys_1 10 rfl rfl)
theorem dX0_buys_34 : decode cX0_buys 34 = .ok (.dup, 1) := dk_89 (dk_at dksX0_buys_1 11 rfl rfl)
theorem dX0_buys_35 : decode cX0_buys 35 = .ok (.getfield 177, 3) := dk_180 0 177 (dk_at dksX0_buys_1 12 rfl rfl)
theorem dX0_buys_38 : decode cX0_buys 38 = .ok (.aload_n 2, 1) := dk_44 (dk_at dksX0_buys_1 15 rfl rfl)
theorem dX0_buys_39 : decode cX0_buys 39 = .ok (.getfield 274, 3) := dk_180 1 18 (dk_at dksX0_buys_1 16 rfl rfl)
theorem dX0_buys_42 : decode cX0_buys 42 = .ok (.isub, 1) := dk_100 (dk_at dksX0_buys_1 19 rfl rfl)
theorem dX0_buys_43 : decode cX0_buys 43 = .ok (.putfield 177, 3) := dk_181 0 177 (dk_at dksX0_buys_1 20 rfl rfl)
theorem dX0_buys_46 : decode cX0_buys 46 = .ok (.aload_n 1, 1) := dk_43 (dk_at dksX0_buys_1 23 rfl rfl)
theorem dX0_buys_47 : decode cX0_buys 47 = .ok (.dup, 1) := dk_89 (dk_at dksX0_buys_2 0 rfl rfl)
theorem dX0_buys_48 : decode cX0_buys 48 = .ok (.getfield 290, 3) := dk_180 1 34 (dk_at dksX0_buys_2 1 rfl rfl)
theorem dX0_buys_51 : decode cX0_buys 51 = .ok (.iconst 1, 1) := dk_4 (dk_at dksX0_buys_2 4 rfl rfl)
theorem dX0_buys_52 : decode cX0_buys 52 = .ok (.iadd, 1) := dk_96 (dk_at dksX0_buys_2 5 rfl rfl)
theorem dX0_buys_53 : decode cX0_buys 53 = .ok (.putfield 290, 3) := dk_181 1 34 (dk_at dksX0_buys_2 6 rfl rfl)
theorem dX0_buys_56 : decode cX0_buys 56 = .ok (.aload_n 2, 1) := dk_44 (dk_at dksX0_buys_2 9 rfl rfl)
theorem dX0_buys_57 : decode cX0_buys 57 = .ok (.invokevirtual 293, 3) := dk_182 1 37 (dk_at dksX0_buys_2 10 rfl rfl)
theorem dX0_buys_60 : decode cX0_buys 60 = .ok (.goto 51, 3) := dk_167 0 51 (dk_at dksX0_buys_2 13 rfl rfl)
theorem dX0_buys_63 : decode cX0_buys 63 = .ok (.aload_n 0, 1) := dk_42 (dk_at dksX0_buys_2 16 rfl rfl)
theorem dX0_buys_64 : decode cX0_buys 64 = .ok (.aload_n 2, 1) := dk_44 (dk_at dksX0_buys_2 17 rfl rfl)
theorem dX0_buys_65 : decode cX0_buys 65 = .ok (.invokevirtual 266, 3) := dk_182 1 10 (dk_at dksX0_buys_2 18 rfl rfl)
theorem dX0_buys_68 : decode cX0_buys 68 = .ok (.istore 4, 2) := dk_54 4 (dk_at dksX0_buys_2 21 rfl rfl)
theorem dX0_buys_70 : decode cX0_buys 70 = .ok (.aload_n 1, 1) := dk_43 (dk_at dksX0_buys_2 23 rfl rfl)
theorem dX0_buys_71 : decode cX0_buys 71 = .ok (.dup, 1) := dk_89 (dk_at dksX0_buys_3 0 rfl rfl)
theorem dX0_buys_72 : decode cX0_buys 72 = .ok (.getfield 177, 3) := dk_180 0 177 (dk_at dksX0_buys_3 1 rfl rfl)
theorem dX0_buys_75 : decode cX0_buys 75 = .ok (.aload_n 2, 1) := dk_44 (dk_at dksX0_buys_3 4 rfl rfl)
theorem dX0_buys_76 : decode cX0_buys 76 = .ok (.getfield 224, 3) := dk_180 0 224 (dk_at dksX0_buys_3 5 rfl rfl)
theorem dX0_buys_79 : decode cX0_buys 79 = .ok (.iload 4, 2) := dk_21 4 (dk_at dksX0_buys_3 8 rfl rfl)
theorem dX0_buys_81 : decode cX0_buys 81 = .ok (.iadd, 1) := dk_96 (dk_at dksX0_buys_3 10 rfl rfl)
theorem dX0_buys_82 : decode cX0_buys 82 = .ok (.isub, 1) := dk_100 (dk_at dksX0_buys_3 11 rfl rfl)
theorem dX0_buys_83 : decode cX0_buys 83 = .ok (.putfield 177, 3) := dk_181 0 177 (dk_at dksX0_buys_3 12 rfl rfl)
theorem dX0_buys_86 : decode cX0_buys 86 = .ok (.aload_n 0, 1) := dk_42 (dk_at dksX0_buys_3 15 rfl rfl)
theorem dX0_buys_87 : decode cX0_buys 87 = .ok (.dup, 1) := dk_89 (dk_at dksX0_buys_3 16 rfl rfl)
theorem dX0_buys_88 : decode cX0_buys 88 = .ok (.getfield 296, 3) := dk_180 1 40 (dk_at dksX0_buys_3 17 rfl rfl)
theorem dX0_buys_91 : decode cX0_buys 91 = .ok (.iload 4, 2) := dk_21 4 (dk_at dksX0_buys_3 20 rfl rfl)
theorem dX0_buys_93 : decode cX0_buys 93 = .ok (.iadd, 1) := dk_96 (dk_at dksX0_buys_3 22 rfl rfl)
theorem dX0_buys_94 : decode cX0_buys 94 = .ok (.putfield 296, 3) := dk_181 1 40 (dk_at dksX0_buys_4 0 rfl rfl)
theorem dX0_buys_97 : decode cX0_buys 97 = .ok (.aload_n 1, 1) := dk_43 (dk_at dksX0_buys_4 3 rfl rfl)
theorem dX0_buys_98 : decode cX0_buys 98 = .ok (.dup, 1) := dk_89 (dk_at dksX0_buys_4 4 rfl rfl)
theorem dX0_buys_99 : decode cX0_buys 99 = .ok (.getfield 299, 3) := dk_180 1 43 (dk_at dksX0_buys_4 5 rfl rfl)
theorem dX0_buys_102 : decode cX0_buys 102 = .ok (.iconst 1, 1) := dk_4 (dk_at dksX0_buys_4 8 rfl rfl)
theorem dX0_buys_103 : decode cX0_buys 103 = .ok (.iadd, 1) := dk_96 (dk_at dksX0_buys_4 9 rfl rfl)
theorem dX0_buys_104 : decode cX0_buys 104 = .ok (.putfield 299, 3) := dk_181 1 43 (dk_at dksX0_buys_4 10 rfl rfl)
theorem dX0_buys_107 : decode cX0_buys 107 = .ok (.aload_n 2, 1) := dk_44 (dk_at dksX0_buys_4 13 rfl rfl)
theorem dX0_buys_108 : decode cX0_buys 108 = .ok (.invokevirtual 302, 3) := dk_182 1 46 (dk_at dksX0_buys_4 14 rfl rfl)
theorem dX0_buys_111 : decode cX0_buys 111 = .ok (.return_, 1) := dk_177 (dk_at dksX0_buys_4 17 rfl rfl)
abbrev cX0_choice : ByteArray := prog_1_method_27_code
def yX0_choice : MethodName := ⟨RX0, "choice", "(LWheelLand$House;)I"⟩
def dkwX0_choice_4 : List UInt8 := [154, 0, 8, 21, 5, 154, 0, 7, 3, 167, 0, 13, 21, 5, 153, 0, 7, 4, 167, 0, 4, 2, 172]
abbrev dktX0_choice_4 : List UInt8 := dkwX0_choice_4 ++ []
def dkwX0_choice_3 : List UInt8 := [29, 96, 44, 180, 1, 24, 96, 163, 0, 7, 4, 167, 0, 4, 3, 54, 6, 21, 4, 153, 0, 17, 21, 6]
abbrev dktX0_choice_3 : List UInt8 := dkwX0_choice_3 ++ dktX0_choice_4
def dkwX0_choice_2 : List UInt8 := [44, 180, 0, 224, 29, 96, 161, 0, 7, 4, 167, 0, 4, 3, 54, 5, 44, 180, 1, 18, 44, 180, 0, 224]
abbrev dktX0_choice_2 : List UInt8 := dkwX0_choice_2 ++ dktX0_choice_3
def dkwX0_choice_1 : List UInt8 := [180, 1, 18, 161, 0, 7, 4, 167, 0, 4, 3, 54, 4, 44, 180, 1, 21, 158, 0, 20, 43, 180, 0, 177]
abbrev dktX0_choice_1 : List UInt8 := dkwX0_choice_1 ++ dktX0_choice_2
def dkwX0_choice_0 : List UInt8 := [43, 180, 0, 240, 77, 42, 44, 182, 1, 10, 62, 44, 182, 1, 14, 153, 0, 18, 43, 180, 0, 177, 44]
abbrev dktX0_choice_0 : List UInt8 := dkwX0_choice_0 ++ dktX0_choice_1
theorem dksX0_choice_0 : cX0_choice.data.toList.drop 0 = dktX0_choice_0 := by decide +kernel
theorem dksX0_choice_1 : cX0_choice.data.toList.drop 23 = dktX0_choice_1 := dk_seg dksX0_choice_0 23 rfl rfl
theorem dksX0_choice_2 : cX0_choice.data.toList.drop 47 = dktX0_choice_2 := dk_seg dksX0_choice_1 24 rfl rfl
theorem dksX0_choice_3 : cX0_choice.data.toList.drop 71 = dktX0_choice_3 := dk_seg dksX0_choice_2 24 rfl rfl
theorem dksX0_choice_4 : cX0_choice.data.toList.drop 95 = dktX0_choice_4 := dk_seg dksX0_choice_3 24 rfl rfl
theorem dX0_choice_0 : decode cX0_choice 0 = .ok (.aload_n 1, 1) := dk_43 (dk_at dksX0_choice_0 0 rfl rfl)
theorem dX0_choice_1 : decode cX0_choice 1 = .ok (.getfield 240, 3) := dk_180 0 240 (dk_at dksX0_choice_0 1 rfl rfl)
theorem dX0_choice_4 : decode cX0_choice 4 = .ok (.astore_n 2, 1) := dk_77 (dk_at dksX0_choice_0 4 rfl rfl)
theorem dX0_choice_5 : decode cX0_choice 5 = .ok (.aload_n 0, 1) := dk_42 (dk_at dksX0_choice_0 5 rfl rfl)
theorem dX0_choice_6 : decode cX0_choice 6 = .ok (.aload_n 2, 1) := dk_44 (dk_at dksX0_choice_0 6 rfl rfl)
theorem dX0_choice_7 : decode cX0_choice 7 = .ok (.invokevirtual 266, 3) := dk_182 1 10 (dk_at dksX0_choice_0 7 rfl rfl)
theorem dX0_choice_10 : decode cX0_choice 10 = .ok (.istore_n 3, 1) := dk_62 (dk_at dksX0_choice_0 10 rfl rfl)
theorem dX0_choice_11 : decode cX0_choice 11 = .ok (.aload_n 2, 1) := dk_44 (dk_at dksX0_choice_0 11 rfl rfl)
theorem dX0_choice_12 : decode cX0_choice 12 = .ok (.invokevirtual 270, 3) := dk_182 1 14 (dk_at dksX0_choice_0 12 rfl rfl)
theorem dX0_choice_15 : decode cX0_choice 15 = .ok (.ifCond .eq 18, 3) := dk_153 0 18 (dk_at dksX0_choice_0 15 rfl rfl)
theorem dX0_choice_18 : decode cX0_choice 18 = .ok (.aload_n 1, 1) := dk_43 (dk_at dksX0_choice_0 18 rfl rfl)
theorem dX0_choice_19 : decode cX0_choice 19 = .ok (.getfield 177, 3) := dk_180 0 177 (dk_at dksX0_choice_0 19 rfl rfl)
theorem dX0_choice_22 : decode cX0_choice 22 = .ok (.aload_n 2, 1) := dk_44 (dk_at dksX0_choice_0 22 rfl rfl)
theorem dX0_choice_23 : decode cX0_choice 23 = .ok (.getfield 274, 3) := dk_180 1 18 (dk_at dksX0_choice_1 0 rfl rfl)
theorem dX0_choice_26 : decode cX0_choice 26 = .ok (.if_icmp .lt 7, 3) := dk_161 0 7 (dk_at dksX0_choice_1 3 rfl rfl)
theorem dX0_choice_29 : decode cX0_choice 29 = .ok (.iconst 1, 1) := dk_4 (dk_at dksX0_choice_1 6 rfl rfl)
theorem dX0_choice_30 : decode cX0_choice 30 = .ok (.goto 4, 3) := dk_167 0 4 (dk_at dksX0_choice_1 7 rfl rfl)
theorem dX0_choice_33 : decode cX0_choice 33 = .ok (.iconst 0, 1) := dk_3 (dk_at dksX0_choice_1 10 rfl rfl)
theorem dX0_choice_34 : decode cX0_choice 34 = .ok (.istore 4, 2) := dk_54 4 (dk_at dksX0_choice_1 11 rfl rfl)
theorem dX0_choice_36 : decode cX0_choice 36 = .ok (.aload_n 2, 1) := dk_44 (dk_at dksX0_choice_1 13 rfl rfl)
theorem dX0_choice_37 : decode cX0_choice 37 = .ok (.getfield 277, 3) := dk_180 1 21 (dk_at dksX0_choice_1 14 rfl rfl)
theorem dX0_choice_40 : decode cX0_choice 40 = .ok (.ifCond .le 20, 3) := dk_158 0 20 (dk_at dksX0_choice_1 17 rfl rfl)
theorem dX0_choice_43 : decode cX0_choice 43 = .ok (.aload_n 1, 1) := dk_43 (dk_at dksX0_choice_1 20 rfl rfl)
theorem dX0_choice_44 : decode cX0_choice 44 = .ok (.getfield 177, 3) := dk_180 0 177 (dk_at dksX0_choice_1 21 rfl rfl)
theorem dX0_choice_47 : decode cX0_choice 47 = .ok (.aload_n 2, 1) := dk_44 (dk_at dksX0_choice_2 0 rfl rfl)
theorem dX0_choice_48 : decode cX0_choice 48 = .ok (.getfield 224, 3) := dk_180 0 224 (dk_at dksX0_choice_2 1 rfl rfl)
theorem dX0_choice_51 : decode cX0_choice 51 = .ok (.iload_n 3, 1) := dk_29 (dk_at dksX0_choice_2 4 rfl rfl)
theorem dX0_choice_52 : decode cX0_choice 52 = .ok (.iadd, 1) := dk_96 (dk_at dksX0_choice_2 5 rfl rfl)
theorem dX0_choice_53 : decode cX0_choice 53 = .ok (.if_icmp .lt 7, 3) := dk_161 0 7 (dk_at dksX0_choice_2 6 rfl rfl)
theorem dX0_choice_56 : decode cX0_choice 56 = .ok (.iconst 1, 1) := dk_4 (dk_at dksX0_choice_2 9 rfl rfl)
theorem dX0_choice_57 : decode cX0_choice 57 = .ok (.goto 4, 3) := dk_167 0 4 (dk_at dksX0_choice_2 10 rfl rfl)
theorem dX0_choice_60 : decode cX0_choice 60 = .ok (.iconst 0, 1) := dk_3 (dk_at dksX0_choice_2 13 rfl rfl)
theorem dX0_choice_61 : decode cX0_choice 61 = .ok (.istore 5, 2) := dk_54 5 (dk_at dksX0_choice_2 14 rfl rfl)
theorem dX0_choice_63 : decode cX0_choice 63 = .ok (.aload_n 2, 1) := dk_44 (dk_at dksX0_choice_2 16 rfl rfl)
theorem dX0_choice_64 : decode cX0_choice 64 = .ok (.getfield 274, 3) := dk_180 1 18 (dk_at dksX0_choice_2 17 rfl rfl)
theorem dX0_choice_67 : decode cX0_choice 67 = .ok (.aload_n 2, 1) := dk_44 (dk_at dksX0_choice_2 20 rfl rfl)
theorem dX0_choice_68 : decode cX0_choice 68 = .ok (.getfield 224, 3) := dk_180 0 224 (dk_at dksX0_choice_2 21 rfl rfl)
theorem dX0_choice_71 : decode cX0_choice 71 = .ok (.iload_n 3, 1) := dk_29 (dk_at dksX0_choice_3 0 rfl rfl)
theorem dX0_choice_72 : decode cX0_choice 72 = .ok (.iadd, 1) := dk_96 (dk_at dksX0_choice_3 1 rfl rfl)
theorem dX0_choice_73 : decode cX0_choice 73 = .ok (.aload_n 2, 1) := dk_44 (dk_at dksX0_choice_3 2 rfl rfl)
theorem dX0_choice_74 : decode cX0_choice 74 = .ok (.getfield 280, 3) := dk_180 1 24 (dk_at dksX0_choice_3 3 rfl rfl)
theorem dX0_choice_77 : decode cX0_choice 77 = .ok (.iadd, 1) := dk_96 (dk_at dksX0_choice_3 6 rfl rfl)
theorem dX0_choice_78 : decode cX0_choice 78 = .ok (.if_icmp .gt 7, 3) := dk_163 0 7 (dk_at dksX0_choice_3 7 rfl rfl)
theorem dX0_choice_81 : decode cX0_choice 81 = .ok (.iconst 1, 1) := dk_4 (dk_at dksX0_choice_3 10 rfl rfl)
theorem dX0_choice_82 : decode cX0_choice 82 = .ok (.goto 4, 3) := dk_167 0 4 (dk_at dksX0_choice_3 11 rfl rfl)
theorem dX0_choice_85 : decode cX0_choice 85 = .ok (.iconst 0, 1) := dk_3 (dk_at dksX0_choice_3 14 rfl rfl)
theorem dX0_choice_86 : decode cX0_choice 86 = .ok (.istore 6, 2) := dk_54 6 (dk_at dksX0_choice_3 15 rfl rfl)
theorem dX0_choice_88 : decode cX0_choice 88 = .ok (.iload 4, 2) := dk_21 4 (dk_at dksX0_choice_3 17 rfl rfl)
theorem dX0_choice_90 : decode cX0_choice 90 = .ok (.ifCond .eq 17, 3) := dk_153 0 17 (dk_at dksX0_choice_3 19 rfl rfl)
theorem dX0_choice_93 : decode cX0_choice 93 = .ok (.iload 6, 2) := dk_21 6 (dk_at dksX0_choice_3 22 rfl rfl)
theorem dX0_choice_95 : decode cX0_choice 95 = .ok (.ifCond .ne 8, 3) := dk_154 0 8 (dk_at dksX0_choice_4 0 rfl rfl)
theorem dX0_choice_98 : decode cX0_choice 98 = .ok (.iload 5, 2) := dk_21 5 (dk_at dksX0_choice_4 3 rfl rfl)
theorem dX0_choice_100 : decode cX0_choice 100 = .ok (.ifCond .ne 7, 3) := dk_154 0 7 (dk_at dksX0_choice_4 5 rfl rfl)
theorem dX0_choice_103 : decode cX0_choice 103 = .ok (.iconst 0, 1) := dk_3 (dk_at dksX0_choice_4 8 rfl rfl)
theorem dX0_choice_104 : decode cX0_choice 104 = .ok (.goto 13, 3) := dk_167 0 13 (dk_at dksX0_choice_4 9 rfl rfl)
theorem dX0_choice_107 : decode cX0_choice 107 = .ok (.iload 5, 2) := dk_21 5 (dk_at dksX0_choice_4 12 rfl rfl)
theorem dX0_choice_109 : decode cX0_choice 109 = .ok (.ifCond .eq 7, 3) := dk_153 0 7 (dk_at dksX0_choice_4 14 rfl rfl)
theorem dX0_choice_112 : decode cX0_choice 112 = .ok (.iconst 1, 1) := dk_4 (dk_at dksX0_choice_4 17 rfl rfl)
theorem dX0_choice_113 : decode cX0_choice 113 = .ok (.goto 4, 3) := dk_167 0 4 (dk_at dksX0_choice_4 18 rfl rfl)
theorem dX0_choice_116 : decode cX0_choice 116 = .ok (.iconst (-1), 1) := dk_2 (dk_at dksX0_choice_4 21 rfl rfl)
theorem dX0_choice_117 : decode cX0_choice 117 = .ok (.ireturn, 1) := dk_172 (dk_at dksX0_choice_4 22 rfl rfl)
abbrev cX0_dutyAt : ByteArray := prog_1_method_26_code
def yX0_dutyAt : MethodName := ⟨RX0, "dutyAt", "(LWheelLand$Village;)I"⟩
def dkwX0_dutyAt_1 : List UInt8 := [182, 1, 7, 184, 0, 212, 172]
abbrev dktX0_dutyAt_1 : List UInt8 := dkwX0_dutyAt_1 ++ []
def dkwX0_dutyAt_0 : List UInt8 := [42, 42, 180, 0, 151, 182, 1, 3, 42, 180, 0, 65, 16, 12, 43, 180, 0, 224, 79, 3, 42, 5]
abbrev dktX0_dutyAt_0 : List UInt8 := dkwX0_dutyAt_0 ++ dktX0_dutyAt_1
theorem dksX0_dutyAt_0 : cX0_dutyAt.data.toList.drop 0 = dktX0_dutyAt_0 := by decide +kernel
theorem dksX0_dutyAt_1 : cX0_dutyAt.data.toList.drop 22 = dktX0_dutyAt_1 := dk_seg dksX0_dutyAt_0 22 rfl rfl
theorem dX0_dutyAt_0 : decode cX0_dutyAt 0 = .ok (.aload_n 0, 1) := dk_42 (dk_at dksX0_dutyAt_0 0 rfl rfl)
theorem dX0_dutyAt_1 : decode cX0_dutyAt 1 = .ok (.aload_n 0, 1) := dk_42 (dk_at dksX0_dutyAt_0 1 rfl rfl)
theorem dX0_dutyAt_2 : decode cX0_dutyAt 2 = .ok (.getfield 151, 3) := dk_180 0 151 (dk_at dksX0_dutyAt_0 2 rfl rfl)
theorem dX0_dutyAt_5 : decode cX0_dutyAt 5 = .ok (.invokevirtual 259, 3) := dk_182 1 3 (dk_at dksX0_dutyAt_0 5 rfl rfl)
theorem dX0_dutyAt_8 : decode cX0_dutyAt 8 = .ok (.aload_n 0, 1) := dk_42 (dk_at dksX0_dutyAt_0 8 rfl rfl)
theorem dX0_dutyAt_9 : decode cX0_dutyAt 9 = .ok (.getfield 65, 3) := dk_180 0 65 (dk_at dksX0_dutyAt_0 9 rfl rfl)
theorem dX0_dutyAt_12 : decode cX0_dutyAt 12 = .ok (.bipush 12, 2) := dk_16 12 (dk_at dksX0_dutyAt_0 12 rfl rfl)
theorem dX0_dutyAt_14 : decode cX0_dutyAt 14 = .ok (.aload_n 1, 1) := dk_43 (dk_at dksX0_dutyAt_0 14 rfl rfl)
theorem dX0_dutyAt_15 : decode cX0_dutyAt 15 = .ok (.getfield 224, 3) := dk_180 0 224 (dk_at dksX0_dutyAt_0 15 rfl rfl)
theorem dX0_dutyAt_18 : decode cX0_dutyAt 18 = .ok (.iastore, 1) := dk_79 (dk_at dksX0_dutyAt_0 18 rfl rfl)
theorem dX0_dutyAt_19 : decode cX0_dutyAt 19 = .ok (.iconst 0, 1) := dk_3 (dk_at dksX0_dutyAt_0 19 rfl rfl)
theorem dX0_dutyAt_20 : decode cX0_dutyAt 20 = .ok (.aload_n 0, 1) := dk_42 (dk_at dksX0_dutyAt_0 20 rfl rfl)
theorem dX0_dutyAt_21 : decode cX0_dutyAt 21 = .ok (.iconst 2, 1) := dk_5 (dk_at dksX0_dutyAt_0 21 rfl rfl)
theorem dX0_dutyAt_22 : decode cX0_dutyAt 22 = .ok (.invokevirtual 263, 3) := dk_182 1 7 (dk_at dksX0_dutyAt_1 0 rfl rfl)
theorem dX0_dutyAt_25 : decode cX0_dutyAt 25 = .ok (.invokestatic 212, 3) := dk_184 0 212 (dk_at dksX0_dutyAt_1 3 rfl rfl)
theorem dX0_dutyAt_28 : decode cX0_dutyAt 28 = .ok (.ireturn, 1) := dk_172 (dk_at dksX0_dutyAt_1 6 rfl rfl)
abbrev cX0_clears : ByteArray := prog_1_method_40_code
def yX0_clears : MethodName := ⟨RX0, "clears", "(I)V"⟩
def dkwX0_clears_1 : List UInt8 := [42, 180, 0, 65, 3, 27, 79, 42, 180, 0, 65, 4, 27, 184, 1, 110, 79, 177]
abbrev dktX0_clears_1 : List UInt8 := dkwX0_clears_1 ++ []
def dkwX0_clears_0 : List UInt8 := [3, 61, 28, 42, 180, 0, 65, 190, 162, 0, 16, 42, 180, 0, 65, 28, 3, 79, 132, 2, 1, 167, 255, 237]
abbrev dktX0_clears_0 : List UInt8 := dkwX0_clears_0 ++ dktX0_clears_1
theorem dksX0_clears_0 : cX0_clears.data.toList.drop 0 = dktX0_clears_0 := by decide +kernel
theorem dksX0_clears_1 : cX0_clears.data.toList.drop 24 = dktX0_clears_1 := dk_seg dksX0_clears_0 24 rfl rfl
theorem dX0_clears_0 : decode cX0_clears 0 = .ok (.iconst 0, 1) := dk_3 (dk_at dksX0_clears_0 0 rfl rfl)
theorem dX0_clears_1 : decode cX0_clears 1 = .ok (.istore_n 2, 1) := dk_61 (dk_at dksX0_clears_0 1 rfl rfl)
theorem dX0_clears_2 : decode cX0_clears 2 = .ok (.iload_n 2, 1) := dk_28 (dk_at dksX0_clears_0 2 rfl rfl)
theorem dX0_clears_3 : decode cX0_clears 3 = .ok (.aload_n 0, 1) := dk_42 (dk_at dksX0_clears_0 3 rfl rfl)
theorem dX0_clears_4 : decode cX0_clears 4 = .ok (.getfield 65, 3) := dk_180 0 65 (dk_at dksX0_clears_0 4 rfl rfl)
theorem dX0_clears_7 : decode cX0_clears 7 = .ok (.arraylength, 1) := dk_190 (dk_at dksX0_clears_0 7 rfl rfl)
theorem dX0_clears_8 : decode cX0_clears 8 = .ok (.if_icmp .ge 16, 3) := dk_162 0 16 (dk_at dksX0_clears_0 8 rfl rfl)
theorem dX0_clears_11 : decode cX0_clears 11 = .ok (.aload_n 0, 1) := dk_42 (dk_at dksX0_clears_0 11 rfl rfl)
theorem dX0_clears_12 : decode cX0_clears 12 = .ok (.getfield 65, 3) := dk_180 0 65 (dk_at dksX0_clears_0 12 rfl rfl)
theorem dX0_clears_15 : decode cX0_clears 15 = .ok (.iload_n 2, 1) := dk_28 (dk_at dksX0_clears_0 15 rfl rfl)
theorem dX0_clears_16 : decode cX0_clears 16 = .ok (.iconst 0, 1) := dk_3 (dk_at dksX0_clears_0 16 rfl rfl)
theorem dX0_clears_17 : decode cX0_clears 17 = .ok (.iastore, 1) := dk_79 (dk_at dksX0_clears_0 17 rfl rfl)
theorem dX0_clears_18 : decode cX0_clears 18 = .ok (.iinc 2 1, 3) := dk_132 2 1 (dk_at dksX0_clears_0 18 rfl rfl)
theorem dX0_clears_21 : decode cX0_clears 21 = .ok (.goto (-19), 3) := dk_167 255 237 (dk_at dksX0_clears_0 21 rfl rfl)
theorem dX0_clears_24 : decode cX0_clears 24 = .ok (.aload_n 0, 1) := dk_42 (dk_at dksX0_clears_1 0 rfl rfl)
theorem dX0_clears_25 : decode cX0_clears 25 = .ok (.getfield 65, 3) := dk_180 0 65 (dk_at dksX0_clears_1 1 rfl rfl)
theorem dX0_clears_28 : decode cX0_clears 28 = .ok (.iconst 0, 1) := dk_3 (dk_at dksX0_clears_1 4 rfl rfl)
theorem dX0_clears_29 : decode cX0_clears 29 = .ok (.iload_n 1, 1) := dk_27 (dk_at dksX0_clears_1 5 rfl rfl)
theorem dX0_clears_30 : decode cX0_clears 30 = .ok (.iastore, 1) := dk_79 (dk_at dksX0_clears_1 6 rfl rfl)
theorem dX0_clears_31 : decode cX0_clears 31 = .ok (.aload_n 0, 1) := dk_42 (dk_at dksX0_clears_1 7 rfl rfl)
theorem dX0_clears_32 : decode cX0_clears 32 = .ok (.getfield 65, 3) := dk_180 0 65 (dk_at dksX0_clears_1 8 rfl rfl)
theorem dX0_clears_35 : decode cX0_clears 35 = .ok (.iconst 1, 1) := dk_4 (dk_at dksX0_clears_1 11 rfl rfl)
theorem dX0_clears_36 : decode cX0_clears 36 = .ok (.iload_n 1, 1) := dk_27 (dk_at dksX0_clears_1 12 rfl rfl)
theorem dX0_clears_37 : decode cX0_clears 37 = .ok (.invokestatic 366, 3) := dk_184 1 110 (dk_at dksX0_clears_1 13 rfl rfl)
theorem dX0_clears_40 : decode cX0_clears 40 = .ok (.iastore, 1) := dk_79 (dk_at dksX0_clears_1 16 rfl rfl)
theorem dX0_clears_41 : decode cX0_clears 41 = .ok (.return_, 1) := dk_177 (dk_at dksX0_clears_1 17 rfl rfl)
abbrev cX0_value : ByteArray := prog_1_method_41_code
def yX0_value : MethodName := ⟨RX0, "value", "(I)I"⟩
def dkwX0_value_2 : List UInt8 := [180, 0, 68, 182, 1, 113, 172]
abbrev dktX0_value_2 : List UInt8 := dkwX0_value_2 ++ []
def dkwX0_value_1 : List UInt8 := [3, 167, 0, 29, 4, 167, 0, 25, 42, 180, 0, 48, 28, 50, 180, 1, 103, 27, 50, 42, 180, 0, 65, 42]
abbrev dktX0_value_1 : List UInt8 := dkwX0_value_1 ++ dktX0_value_2
def dkwX0_value_0 : List UInt8 := [42, 27, 42, 180, 0, 151, 182, 1, 107, 61, 28, 2, 160, 0, 20, 27, 153, 0, 8, 27, 5, 160, 0, 7]
abbrev dktX0_value_0 : List UInt8 := dkwX0_value_0 ++ dktX0_value_1
theorem dksX0_value_0 : cX0_value.data.toList.drop 0 = dktX0_value_0 := by decide +kernel
theorem dksX0_value_1 : cX0_value.data.toList.drop 24 = dktX0_value_1 := dk_seg dksX0_value_0 24 rfl rfl
theorem dksX0_value_2 : cX0_value.data.toList.drop 48 = dktX0_value_2 := dk_seg dksX0_value_1 24 rfl rfl
theorem dX0_value_0 : decode cX0_value 0 = .ok (.aload_n 0, 1) := dk_42 (dk_at dksX0_value_0 0 rfl rfl)
theorem dX0_value_1 : decode cX0_value 1 = .ok (.iload_n 1, 1) := dk_27 (dk_at dksX0_value_0 1 rfl rfl)
theorem dX0_value_2 : decode cX0_value 2 = .ok (.aload_n 0, 1) := dk_42 (dk_at dksX0_value_0 2 rfl rfl)
theorem dX0_value_3 : decode cX0_value 3 = .ok (.getfield 151, 3) := dk_180 0 151 (dk_at dksX0_value_0 3 rfl rfl)
theorem dX0_value_6 : decode cX0_value 6 = .ok (.invokevirtual 363, 3) := dk_182 1 107 (dk_at dksX0_value_0 6 rfl rfl)
theorem dX0_value_9 : decode cX0_value 9 = .ok (.istore_n 2, 1) := dk_61 (dk_at dksX0_value_0 9 rfl rfl)
theorem dX0_value_10 : decode cX0_value 10 = .ok (.iload_n 2, 1) := dk_28 (dk_at dksX0_value_0 10 rfl rfl)
theorem dX0_value_11 : decode cX0_value 11 = .ok (.iconst (-1), 1) := dk_2 (dk_at dksX0_value_0 11 rfl rfl)
theorem dX0_value_12 : decode cX0_value 12 = .ok (.if_icmp .ne 20, 3) := dk_160 0 20 (dk_at dksX0_value_0 12 rfl rfl)
theorem dX0_value_15 : decode cX0_value 15 = .ok (.iload_n 1, 1) := dk_27 (dk_at dksX0_value_0 15 rfl rfl)
theorem dX0_value_16 : decode cX0_value 16 = .ok (.ifCond .eq 8, 3) := dk_153 0 8 (dk_at dksX0_value_0 16 rfl rfl)
theorem dX0_value_19 : decode cX0_value 19 = .ok (.iload_n 1, 1) := dk_27 (dk_at dksX0_value_0 19 rfl rfl)
theorem dX0_value_20 : decode cX0_value 20 = .ok (.iconst 2, 1) := dk_5 (dk_at dksX0_value_0 20 rfl rfl)
theorem dX0_value_21 : decode cX0_value 21 = .ok (.if_icmp .ne 7, 3) := dk_160 0 7 (dk_at dksX0_value_0 21 rfl rfl)
theorem dX0_value_24 : decode cX0_value 24 = .ok (.iconst 0, 1) := dk_3 (dk_at dksX0_value_1 0 rfl rfl)
theorem dX0_value_25 : decode cX0_value 25 = .ok (.goto 29, 3) := dk_167 0 29 (dk_at dksX0_value_1 1 rfl rfl)
theorem dX0_value_28 : decode cX0_value 28 = .ok (.iconst 1, 1) := dk_4 (dk_at dksX0_value_1 4 rfl rfl)
theorem dX0_value_29 : decode cX0_value 29 = .ok (.goto 25, 3) := dk_167 0 25 (dk_at dksX0_value_1 5 rfl rfl)
theorem dX0_value_32 : decode cX0_value 32 = .ok (.aload_n 0, 1) := dk_42 (dk_at dksX0_value_1 8 rfl rfl)
theorem dX0_value_33 : decode cX0_value 33 = .ok (.getfield 48, 3) := dk_180 0 48 (dk_at dksX0_value_1 9 rfl rfl)
theorem dX0_value_36 : decode cX0_value 36 = .ok (.iload_n 2, 1) := dk_28 (dk_at dksX0_value_1 12 rfl rfl)
theorem dX0_value_37 : decode cX0_value 37 = .ok (.aaload, 1) := dk_50 (dk_at dksX0_value_1 13 rfl rfl)
theorem dX0_value_38 : decode cX0_value 38 = .ok (.getfield 359, 3) := dk_180 1 103 (dk_at dksX0_value_1 14 rfl rfl)
theorem dX0_value_41 : decode cX0_value 41 = .ok (.iload_n 1, 1) := dk_27 (dk_at dksX0_value_1 17 rfl rfl)
theorem dX0_value_42 : decode cX0_value 42 = .ok (.aaload, 1) := dk_50 (dk_at dksX0_value_1 18 rfl rfl)
theorem dX0_value_43 : decode cX0_value 43 = .ok (.aload_n 0, 1) := dk_42 (dk_at dksX0_value_1 19 rfl rfl)
theorem dX0_value_44 : decode cX0_value 44 = .ok (.getfield 65, 3) := dk_180 0 65 (dk_at dksX0_value_1 20 rfl rfl)
theorem dX0_value_47 : decode cX0_value 47 = .ok (.aload_n 0, 1) := dk_42 (dk_at dksX0_value_1 23 rfl rfl)
theorem dX0_value_48 : decode cX0_value 48 = .ok (.getfield 68, 3) := dk_180 0 68 (dk_at dksX0_value_2 0 rfl rfl)
theorem dX0_value_51 : decode cX0_value 51 = .ok (.invokevirtual 369, 3) := dk_182 1 113 (dk_at dksX0_value_2 3 rfl rfl)
theorem dX0_value_54 : decode cX0_value 54 = .ok (.ireturn, 1) := dk_172 (dk_at dksX0_value_2 6 rfl rfl)
abbrev cX0_inForce : ByteArray := prog_1_method_38_code
def yX0_inForce : MethodName := ⟨RX0, "inForce", "(II)I"⟩
def dkwX0_inForce_3 : List UInt8 := [180, 0, 56, 21, 5, 46, 54, 4, 132, 5, 1, 167, 255, 181, 29, 172]
abbrev dktX0_inForce_3 : List UInt8 := dkwX0_inForce_3 ++ []
def dkwX0_inForce_2 : List UInt8 := [21, 5, 46, 50, 180, 1, 103, 27, 50, 199, 0, 6, 167, 0, 20, 42, 180, 0, 52, 21, 5, 46, 62, 42]
abbrev dktX0_inForce_2 : List UInt8 := dkwX0_inForce_2 ++ dktX0_inForce_3
def dkwX0_inForce_1 : List UInt8 := [28, 163, 0, 55, 42, 180, 0, 56, 21, 5, 46, 21, 4, 161, 0, 43, 42, 180, 0, 48, 42, 180, 0, 52]
abbrev dktX0_inForce_1 : List UInt8 := dkwX0_inForce_1 ++ dktX0_inForce_2
def dkwX0_inForce_0 : List UInt8 := [2, 62, 2, 54, 4, 3, 54, 5, 21, 5, 42, 180, 1, 100, 162, 0, 72, 42, 180, 0, 56, 21, 5, 46]
abbrev dktX0_inForce_0 : List UInt8 := dkwX0_inForce_0 ++ dktX0_inForce_1
theorem dksX0_inForce_0 : cX0_inForce.data.toList.drop 0 = dktX0_inForce_0 := by decide +kernel
theorem dksX0_inForce_1 : cX0_inForce.data.toList.drop 24 = dktX0_inForce_1 := dk_seg dksX0_inForce_0 24 rfl rfl
theorem dksX0_inForce_2 : cX0_inForce.data.toList.drop 48 = dktX0_inForce_2 := dk_seg dksX0_inForce_1 24 rfl rfl
theorem dksX0_inForce_3 : cX0_inForce.data.toList.drop 72 = dktX0_inForce_3 := dk_seg dksX0_inForce_2 24 rfl rfl
theorem dX0_inForce_0 : decode cX0_inForce 0 = .ok (.iconst (-1), 1) := dk_2 (dk_at dksX0_inForce_0 0 rfl rfl)
theorem dX0_inForce_1 : decode cX0_inForce 1 = .ok (.istore_n 3, 1) := dk_62 (dk_at dksX0_inForce_0 1 rfl rfl)
theorem dX0_inForce_2 : decode cX0_inForce 2 = .ok (.iconst (-1), 1) := dk_2 (dk_at dksX0_inForce_0 2 rfl rfl)
theorem dX0_inForce_3 : decode cX0_inForce 3 = .ok (.istore 4, 2) := dk_54 4 (dk_at dksX0_inForce_0 3 rfl rfl)
theorem dX0_inForce_5 : decode cX0_inForce 5 = .ok (.iconst 0, 1) := dk_3 (dk_at dksX0_inForce_0 5 rfl rfl)
theorem dX0_inForce_6 : decode cX0_inForce 6 = .ok (.istore 5, 2) := dk_54 5 (dk_at dksX0_inForce_0 6 rfl rfl)
theorem dX0_inForce_8 : decode cX0_inForce 8 = .ok (.iload 5, 2) := dk_21 5 (dk_at dksX0_inForce_0 8 rfl rfl)
theorem dX0_inForce_10 : decode cX0_inForce 10 = .ok (.aload_n 0, 1) := dk_42 (dk_at dksX0_inForce_0 10 rfl rfl)
theorem dX0_inForce_11 : decode cX0_inForce 11 = .ok (.getfield 356, 3) := dk_180 1 100 (dk_at dksX0_inForce_0 11 rfl rfl)
theorem dX0_inForce_14 : decode cX0_inForce 14 = .ok (.if_icmp .ge 72, 3) := dk_162 0 72 (dk_at dksX0_inForce_0 14 rfl rfl)
theorem dX0_inForce_17 : decode cX0_inForce 17 = .ok (.aload_n 0, 1) := dk_42 (dk_at dksX0_inForce_0 17 rfl rfl)
theorem dX0_inForce_18 : decode cX0_inForce 18 = .ok (.getfield 56, 3) := dk_180 0 56 (dk_at dksX0_inForce_0 18 rfl rfl)
theorem dX0_inForce_21 : decode cX0_inForce 21 = .ok (.iload 5, 2) := dk_21 5 (dk_at dksX0_inForce_0 21 rfl rfl)
theorem dX0_inForce_23 : decode cX0_inForce 23 = .ok (.iaload, 1) := dk_46 (dk_at dksX0_inForce_0 23 rfl rfl)
theorem dX0_inForce_24 : decode cX0_inForce 24 = .ok (.iload_n 2, 1) := dk_28 (dk_at dksX0_inForce_1 0 rfl rfl)
theorem dX0_inForce_25 : decode cX0_inForce 25 = .ok (.if_icmp .gt 55, 3) := dk_163 0 55 (dk_at dksX0_inForce_1 1 rfl rfl)
theorem dX0_inForce_28 : decode cX0_inForce 28 = .ok (.aload_n 0, 1) := dk_42 (dk_at dksX0_inForce_1 4 rfl rfl)
theorem dX0_inForce_29 : decode cX0_inForce 29 = .ok (.getfield 56, 3) := dk_180 0 56 (dk_at dksX0_inForce_1 5 rfl rfl)
theorem dX0_inForce_32 : decode cX0_inForce 32 = .ok (.iload 5, 2) := dk_21 5 (dk_at dksX0_inForce_1 8 rfl rfl)
theorem dX0_inForce_34 : decode cX0_inForce 34 = .ok (.iaload, 1) := dk_46 (dk_at dksX0_inForce_1 10 rfl rfl)
theorem dX0_inForce_35 : decode cX0_inForce 35 = .ok (.iload 4, 2) := dk_21 4 (dk_at dksX0_inForce_1 11 rfl rfl)
theorem dX0_inForce_37 : decode cX0_inForce 37 = .ok (.if_icmp .lt 43, 3) := dk_161 0 43 (dk_at dksX0_inForce_1 13 rfl rfl)
theorem dX0_inForce_40 : decode cX0_inForce 40 = .ok (.aload_n 0, 1) := dk_42 (dk_at dksX0_inForce_1 16 rfl rfl)
theorem dX0_inForce_41 : decode cX0_inForce 41 = .ok (.getfield 48, 3) := dk_180 0 48 (dk_at dksX0_inForce_1 17 rfl rfl)
theorem dX0_inForce_44 : decode cX0_inForce 44 = .ok (.aload_n 0, 1) := dk_42 (dk_at dksX0_inForce_1 20 rfl rfl)
theorem dX0_inForce_45 : decode cX0_inForce 45 = .ok (.getfield 52, 3) := dk_180 0 52 (dk_at dksX0_inForce_1 21 rfl rfl)
theorem dX0_inForce_48 : decode cX0_inForce 48 = .ok (.iload 5, 2) := dk_21 5 (dk_at dksX0_inForce_2 0 rfl rfl)
theorem dX0_inForce_50 : decode cX0_inForce 50 = .ok (.iaload, 1) := dk_46 (dk_at dksX0_inForce_2 2 rfl rfl)
theorem dX0_inForce_51 : decode cX0_inForce 51 = .ok (.aaload, 1) := dk_50 (dk_at dksX0_inForce_2 3 rfl rfl)
theorem dX0_inForce_52 : decode cX0_inForce 52 = .ok (.getfield 359, 3) := dk_180 1 103 (dk_at dksX0_inForce_2 4 rfl rfl)
theorem dX0_inForce_55 : decode cX0_inForce 55 = .ok (.iload_n 1, 1) := dk_27 (dk_at dksX0_inForce_2 7 rfl rfl)
theorem dX0_inForce_56 : decode cX0_inForce 56 = .ok (.aaload, 1) := dk_50 (dk_at dksX0_inForce_2 8 rfl rfl)
theorem dX0_inForce_57 : decode cX0_inForce 57 = .ok (.ifnonnull 6, 3) := dk_199 0 6 (dk_at dksX0_inForce_2 9 rfl rfl)
theorem dX0_inForce_60 : decode cX0_inForce 60 = .ok (.goto 20, 3) := dk_167 0 20 (dk_at dksX0_inForce_2 12 rfl rfl)
theorem dX0_inForce_63 : decode cX0_inForce 63 = .ok (.aload_n 0, 1) := dk_42 (dk_at dksX0_inForce_2 15 rfl rfl)
theorem dX0_inForce_64 : decode cX0_inForce 64 = .ok (.getfield 52, 3) := dk_180 0 52 (dk_at dksX0_inForce_2 16 rfl rfl)
theorem dX0_inForce_67 : decode cX0_inForce 67 = .ok (.iload 5, 2) := dk_21 5 (dk_at dksX0_inForce_2 19 rfl rfl)
theorem dX0_inForce_69 : decode cX0_inForce 69 = .ok (.iaload, 1) := dk_46 (dk_at dksX0_inForce_2 21 rfl rfl)
theorem dX0_inForce_70 : decode cX0_inForce 70 = .ok (.istore_n 3, 1) := dk_62 (dk_at dksX0_inForce_2 22 rfl rfl)
theorem dX0_inForce_71 : decode cX0_inForce 71 = .ok (.aload_n 0, 1) := dk_42 (dk_at dksX0_inForce_2 23 rfl rfl)
theorem dX0_inForce_72 : decode cX0_inForce 72 = .ok (.getfield 56, 3) := dk_180 0 56 (dk_at dksX0_inForce_3 0 rfl rfl)
theorem dX0_inForce_75 : decode cX0_inForce 75 = .ok (.iload 5, 2) := dk_21 5 (dk_at dksX0_inForce_3 3 rfl rfl)
theorem dX0_inForce_77 : decode cX0_inForce 77 = .ok (.iaload, 1) := dk_46 (dk_at dksX0_inForce_3 5 rfl rfl)
theorem dX0_inForce_78 : decode cX0_inForce 78 = .ok (.istore 4, 2) := dk_54 4 (dk_at dksX0_inForce_3 6 rfl rfl)
theorem dX0_inForce_80 : decode cX0_inForce 80 = .ok (.iinc 5 1, 3) := dk_132 5 1 (dk_at dksX0_inForce_3 8 rfl rfl)
theorem dX0_inForce_83 : decode cX0_inForce 83 = .ok (.goto (-75), 3) := dk_167 255 181 (dk_at dksX0_inForce_3 11 rfl rfl)
theorem dX0_inForce_86 : decode cX0_inForce 86 = .ok (.iload_n 3, 1) := dk_29 (dk_at dksX0_inForce_3 14 rfl rfl)
theorem dX0_inForce_87 : decode cX0_inForce 87 = .ok (.ireturn, 1) := dk_172 (dk_at dksX0_inForce_3 15 rfl rfl)
abbrev cX0_near : ByteArray := prog_1_method_2_code
def yX0_near : MethodName := ⟨RX0, "near", "(J)I"⟩
def dkwX0_near_0 : List UInt8 := [20, 0, 3, 20, 0, 5, 30, 184, 0, 7, 184, 0, 13, 136, 172]
abbrev dktX0_near_0 : List UInt8 := dkwX0_near_0 ++ []
theorem dksX0_near_0 : cX0_near.data.toList.drop 0 = dktX0_near_0 := by decide +kernel
theorem dX0_near_0 : decode cX0_near 0 = .ok (.ldc2_w 3, 3) := dk_20 0 3 (dk_at dksX0_near_0 0 rfl rfl)
theorem dX0_near_3 : decode cX0_near 3 = .ok (.ldc2_w 5, 3) := dk_20 0 5 (dk_at dksX0_near_0 3 rfl rfl)
theorem dX0_near_6 : decode cX0_near 6 = .ok (.lload_n 0, 1) := dk_30 (dk_at dksX0_near_0 6 rfl rfl)
theorem dX0_near_7 : decode cX0_near 7 = .ok (.invokestatic 7, 3) := dk_184 0 7 (dk_at dksX0_near_0 7 rfl rfl)
theorem dX0_near_10 : decode cX0_near 10 = .ok (.invokestatic 13, 3) := dk_184 0 13 (dk_at dksX0_near_0 10 rfl rfl)
theorem dX0_near_13 : decode cX0_near 13 = .ok (.l2i, 1) := dk_136 (dk_at dksX0_near_0 13 rfl rfl)
theorem dX0_near_14 : decode cX0_near 14 = .ok (.ireturn, 1) := dk_172 (dk_at dksX0_near_0 14 rfl rfl)
abbrev cX0_words : ByteArray := prog_1_method_29_code
def yX0_words : MethodName := ⟨RX0, "words", "()V"⟩
def dkwX0_words_5 : List UInt8 := [132, 1, 1, 167, 255, 227, 177]
abbrev dktX0_words_5 : List UInt8 := dkwX0_words_5 ++ []
def dkwX0_words_4 : List UInt8 := [180, 0, 112, 162, 0, 27, 42, 180, 0, 24, 27, 50, 42, 180, 0, 24, 27, 50, 180, 1, 49, 181, 1, 24]
abbrev dktX0_words_4 : List UInt8 := dkwX0_words_4 ++ dktX0_words_5
def dkwX0_words_3 : List UInt8 := [167, 255, 215, 42, 180, 0, 24, 27, 50, 28, 181, 1, 49, 132, 1, 1, 167, 255, 173, 3, 60, 27, 42]
abbrev dktX0_words_3 : List UInt8 := dkwX0_words_3 ++ dktX0_words_4
def dkwX0_words_2 : List UInt8 := [46, 158, 0, 19, 28, 42, 180, 0, 24, 29, 50, 180, 1, 24, 5, 100, 184, 0, 212, 61, 132, 3, 1]
abbrev dktX0_words_2 : List UInt8 := dkwX0_words_2 ++ dktX0_words_3
def dkwX0_words_1 : List UInt8 := [184, 0, 212, 61, 3, 62, 29, 42, 180, 0, 112, 162, 0, 39, 42, 180, 0, 59, 16, 8, 27, 104, 29, 96]
abbrev dktX0_words_1 : List UInt8 := dkwX0_words_1 ++ dktX0_words_2
def dkwX0_words_0 : List UInt8 := [3, 60, 27, 42, 180, 0, 112, 162, 0, 81, 3, 42, 180, 0, 24, 27, 50, 180, 1, 24, 4, 100]
abbrev dktX0_words_0 : List UInt8 := dkwX0_words_0 ++ dktX0_words_1
theorem dksX0_words_0 : cX0_words.data.toList.drop 0 = dktX0_words_0 := by decide +kernel
theorem dksX0_words_1 : cX0_words.data.toList.drop 22 = dktX0_words_1 := dk_seg dksX0_words_0 22 rfl rfl
theorem dksX0_words_2 : cX0_words.data.toList.drop 46 = dktX0_words_2 := dk_seg dksX0_words_1 24 rfl rfl
theorem dksX0_words_3 : cX0_words.data.toList.drop 69 = dktX0_words_3 := dk_seg dksX0_words_2 23 rfl rfl
theorem dksX0_words_4 : cX0_words.data.toList.drop 92 = dktX0_words_4 := dk_seg dksX0_words_3 23 rfl rfl
theorem dksX0_words_5 : cX0_words.data.toList.drop 116 = dktX0_words_5 := dk_seg dksX0_words_4 24 rfl rfl
theorem dX0_words_0 : decode cX0_words 0 = .ok (.iconst 0, 1) := dk_3 (dk_at dksX0_words_0 0 rfl rfl)
theorem dX0_words_1 : decode cX0_words 1 = .ok (.istore_n 1, 1) := dk_60 (dk_at dksX0_words_0 1 rfl rfl)
theorem dX0_words_2 : decode cX0_words 2 = .ok (.iload_n 1, 1) := dk_27 (dk_at dksX0_words_0 2 rfl rfl)
theorem dX0_words_3 : decode cX0_words 3 = .ok (.aload_n 0, 1) := dk_42 (dk_at dksX0_words_0 3 rfl rfl)
theorem dX0_words_4 : decode cX0_words 4 = .ok (.getfield 112, 3) := dk_180 0 112 (dk_at dksX0_words_0 4 rfl rfl)
theorem dX0_words_7 : decode cX0_words 7 = .ok (.if_icmp .ge 81, 3) := dk_162 0 81 (dk_at dksX0_words_0 7 rfl rfl)
theorem dX0_words_10 : decode cX0_words 10 = .ok (.iconst 0, 1) := dk_3 (dk_at dksX0_words_0 10 rfl rfl)
theorem dX0_words_11 : decode cX0_words 11 = .ok (.aload_n 0, 1) := dk_42 (dk_at dksX0_words_0 11 rfl rfl)
theorem dX0_words_12 : decode cX0_words 12 = .ok (.getfield 24, 3) := dk_180 0 24 (dk_at dksX0_words_0 12 rfl rfl)
theorem dX0_words_15 : decode cX0_words 15 = .ok (.iload_n 1, 1) := dk_27 (dk_at dksX0_words_0 15 rfl rfl)
theorem dX0_words_16 : decode cX0_words 16 = .ok (.aaload, 1) := dk_50 (dk_at dksX0_words_0 16 rfl rfl)
theorem dX0_words_17 : decode cX0_words 17 = .ok (.getfield 280, 3) := dk_180 1 24 (dk_at dksX0_words_0 17 rfl rfl)
theorem dX0_words_20 : decode cX0_words 20 = .ok (.iconst 1, 1) := dk_4 (dk_at dksX0_words_0 20 rfl rfl)
theorem dX0_words_21 : decode cX0_words 21 = .ok (.isub, 1) := dk_100 (dk_at dksX0_words_0 21 rfl rfl)
theorem dX0_words_22 : decode cX0_words 22 = .ok (.invokestatic 212, 3) := dk_184 0 212 (dk_at dksX0_words_1 0 rfl rfl)
theorem dX0_words_25 : decode cX0_words 25 = .ok (.istore_n 2, 1) := dk_61 (dk_at dksX0_words_1 3 rfl rfl)
theorem dX0_words_26 : decode cX0_words 26 = .ok (.iconst 0, 1) := dk_3 (dk_at dksX0_words_1 4 rfl rfl)
theorem dX0_words_27 : decode cX0_words 27 = .ok (.istore_n 3, 1) := dk_62 (dk_at dksX0_words_1 5 rfl rfl)
theorem dX0_words_28 : decode cX0_words 28 = .ok (.iload_n 3, 1) := dk_29 (dk_at dksX0_words_1 6 rfl rfl)
theorem dX0_words_29 : decode cX0_words 29 = .ok (.aload_n 0, 1) := dk_42 (dk_at dksX0_words_1 7 rfl rfl)
theorem dX0_words_30 : decode cX0_words 30 = .ok (.getfield 112, 3) := dk_180 0 112 (dk_at dksX0_words_1 8 rfl rfl)
theorem dX0_words_33 : decode cX0_words 33 = .ok (.if_icmp .ge 39, 3) := dk_162 0 39 (dk_at dksX0_words_1 11 rfl rfl)
theorem dX0_words_36 : decode cX0_words 36 = .ok (.aload_n 0, 1) := dk_42 (dk_at dksX0_words_1 14 rfl rfl)
theorem dX0_words_37 : decode cX0_words 37 = .ok (.getfield 59, 3) := dk_180 0 59 (dk_at dksX0_words_1 15 rfl rfl)
theorem dX0_words_40 : decode cX0_words 40 = .ok (.bipush 8, 2) := dk_16 8 (dk_at dksX0_words_1 18 rfl rfl)
theorem dX0_words_42 : decode cX0_words 42 = .ok (.iload_n 1, 1) := dk_27 (dk_at dksX0_words_1 20 rfl rfl)
theorem dX0_words_43 : decode cX0_words 43 = .ok (.imul, 1) := dk_104 (dk_at dksX0_words_1 21 rfl rfl)
theorem dX0_words_44 : decode cX0_words 44 = .ok (.iload_n 3, 1) := dk_29 (dk_at dksX0_words_1 22 rfl rfl)
theorem dX0_words_45 : decode cX0_words 45 = .ok (.iadd, 1) := dk_96 (dk_at dksX0_words_1 23 rfl rfl)
theorem dX0_words_46 : decode cX0_words 46 = .ok (.iaload, 1) := dk_46 (dk_at dksX0_words_2 0 rfl rfl)
theorem dX0_words_47 : decode cX0_words 47 = .ok (.ifCond .le 19, 3) := dk_158 0 19 (dk_at dksX0_words_2 1 rfl rfl)
theorem dX0_words_50 : decode cX0_words 50 = .ok (.iload_n 2, 1) := dk_28 (dk_at dksX0_words_2 4 rfl rfl)
theorem dX0_words_51 : decode cX0_words 51 = .ok (.aload_n 0, 1) := dk_42 (dk_at dksX0_words_2 5 rfl rfl)
theorem dX0_words_52 : decode cX0_words 52 = .ok (.getfield 24, 3) := dk_180 0 24 (dk_at dksX0_words_2 6 rfl rfl)
theorem dX0_words_55 : decode cX0_words 55 = .ok (.iload_n 3, 1) := dk_29 (dk_at dksX0_words_2 9 rfl rfl)
theorem dX0_words_56 : decode cX0_words 56 = .ok (.aaload, 1) := dk_50 (dk_at dksX0_words_2 10 rfl rfl)
theorem dX0_words_57 : decode cX0_words 57 = .ok (.getfield 280, 3) := dk_180 1 24 (dk_at dksX0_words_2 11 rfl rfl)
theorem dX0_words_60 : decode cX0_words 60 = .ok (.iconst 2, 1) := dk_5 (dk_at dksX0_words_2 14 rfl rfl)
theorem dX0_words_61 : decode cX0_words 61 = .ok (.isub, 1) := dk_100 (dk_at dksX0_words_2 15 rfl rfl)
theorem dX0_words_62 : decode cX0_words 62 = .ok (.invokestatic 212, 3) := dk_184 0 212 (dk_at dksX0_words_2 16 rfl rfl)
theorem dX0_words_65 : decode cX0_words 65 = .ok (.istore_n 2, 1) := dk_61 (dk_at dksX0_words_2 19 rfl rfl)
theorem dX0_words_66 : decode cX0_words 66 = .ok (.iinc 3 1, 3) := dk_132 3 1 (dk_at dksX0_words_2 20 rfl rfl)
theorem dX0_words_69 : decode cX0_words 69 = .ok (.goto (-41), 3) := dk_167 255 215 (dk_at dksX0_words_3 0 rfl rfl)
theorem dX0_words_72 : decode cX0_words 72 = .ok (.aload_n 0, 1) := dk_42 (dk_at dksX0_words_3 3 rfl rfl)
theorem dX0_words_73 : decode cX0_words 73 = .ok (.getfield 24, 3) := dk_180 0 24 (dk_at dksX0_words_3 4 rfl rfl)
theorem dX0_words_76 : decode cX0_words 76 = .ok (.iload_n 1, 1) := dk_27 (dk_at dksX0_words_3 7 rfl rfl)
theorem dX0_words_77 : decode cX0_words 77 = .ok (.aaload, 1) := dk_50 (dk_at dksX0_words_3 8 rfl rfl)
theorem dX0_words_78 : decode cX0_words 78 = .ok (.iload_n 2, 1) := dk_28 (dk_at dksX0_words_3 9 rfl rfl)
theorem dX0_words_79 : decode cX0_words 79 = .ok (.putfield 305, 3) := dk_181 1 49 (dk_at dksX0_words_3 10 rfl rfl)
theorem dX0_words_82 : decode cX0_words 82 = .ok (.iinc 1 1, 3) := dk_132 1 1 (dk_at dksX0_words_3 13 rfl rfl)
theorem dX0_words_85 : decode cX0_words 85 = .ok (.goto (-83), 3) := dk_167 255 173 (dk_at dksX0_words_3 16 rfl rfl)
theorem dX0_words_88 : decode cX0_words 88 = .ok (.iconst 0, 1) := dk_3 (dk_at dksX0_words_3 19 rfl rfl)
theorem dX0_words_89 : decode cX0_words 89 = .ok (.istore_n 1, 1) := dk_60 (dk_at dksX0_words_3 20 rfl rfl)
theorem dX0_words_90 : decode cX0_words 90 = .ok (.iload_n 1, 1) := dk_27 (dk_at dksX0_words_3 21 rfl rfl)
theorem dX0_words_91 : decode cX0_words 91 = .ok (.aload_n 0, 1) := dk_42 (dk_at dksX0_words_3 22 rfl rfl)
theorem dX0_words_92 : decode cX0_words 92 = .ok (.getfield 112, 3) := dk_180 0 112 (dk_at dksX0_words_4 0 rfl rfl)
theorem dX0_words_95 : decode cX0_words 95 = .ok (.if_icmp .ge 27, 3) := dk_162 0 27 (dk_at dksX0_words_4 3 rfl rfl)
theorem dX0_words_98 : decode cX0_words 98 = .ok (.aload_n 0, 1) := dk_42 (dk_at dksX0_words_4 6 rfl rfl)
theorem dX0_words_99 : decode cX0_words 99 = .ok (.getfield 24, 3) := dk_180 0 24 (dk_at dksX0_words_4 7 rfl rfl)
theorem dX0_words_102 : decode cX0_words 102 = .ok (.iload_n 1, 1) := dk_27 (dk_at dksX0_words_4 10 rfl rfl)
theorem dX0_words_103 : decode cX0_words 103 = .ok (.aaload, 1) := dk_50 (dk_at dksX0_words_4 11 rfl rfl)
theorem dX0_words_104 : decode cX0_words 104 = .ok (.aload_n 0, 1) := dk_42 (dk_at dksX0_words_4 12 rfl rfl)
theorem dX0_words_105 : decode cX0_words 105 = .ok (.getfield 24, 3) := dk_180 0 24 (dk_at dksX0_words_4 13 rfl rfl)
theorem dX0_words_108 : decode cX0_words 108 = .ok (.iload_n 1, 1) := dk_27 (dk_at dksX0_words_4 16 rfl rfl)
theorem dX0_words_109 : decode cX0_words 109 = .ok (.aaload, 1) := dk_50 (dk_at dksX0_words_4 17 rfl rfl)
theorem dX0_words_110 : decode cX0_words 110 = .ok (.getfield 305, 3) := dk_180 1 49 (dk_at dksX0_words_4 18 rfl rfl)
theorem dX0_words_113 : decode cX0_words 113 = .ok (.putfield 280, 3) := dk_181 1 24 (dk_at dksX0_words_4 21 rfl rfl)
theorem dX0_words_116 : decode cX0_words 116 = .ok (.iinc 1 1, 3) := dk_132 1 1 (dk_at dksX0_words_5 0 rfl rfl)
theorem dX0_words_119 : decode cX0_words 119 = .ok (.goto (-29), 3) := dk_167 255 227 (dk_at dksX0_words_5 3 rfl rfl)
theorem dX0_words_122 : decode cX0_words 122 = .ok (.return_, 1) := dk_177 (dk_at dksX0_words_5 6 rfl rfl)
abbrev cX0_asksHouse : ByteArray := prog_1_method_43_code
def yX0_asksHouse : MethodName := ⟨RX0, "asksHouse", "(ILWheelLand$House;)I"⟩
def dkwX0_asksHouse_0 : List UInt8 := [42, 44, 182, 1, 127, 42, 27, 182, 1, 7, 172]
abbrev dktX0_asksHouse_0 : List UInt8 := dkwX0_asksHouse_0 ++ []
theorem dksX0_asksHouse_0 : cX0_asksHouse.data.toList.drop 0 = dktX0_asksHouse_0 := by decide +kernel
theorem dX0_asksHouse_0 : decode cX0_asksHouse 0 = .ok (.aload_n 0, 1) := dk_42 (dk_at dksX0_asksHouse_0 0 rfl rfl)
theorem dX0_asksHouse_1 : decode cX0_asksHouse 1 = .ok (.aload_n 2, 1) := dk_44 (dk_at dksX0_asksHouse_0 1 rfl rfl)
theorem dX0_asksHouse_2 : decode cX0_asksHouse 2 = .ok (.invokevirtual 383, 3) := dk_182 1 127 (dk_at dksX0_asksHouse_0 2 rfl rfl)
theorem dX0_asksHouse_5 : decode cX0_asksHouse 5 = .ok (.aload_n 0, 1) := dk_42 (dk_at dksX0_asksHouse_0 5 rfl rfl)
theorem dX0_asksHouse_6 : decode cX0_asksHouse 6 = .ok (.iload_n 1, 1) := dk_27 (dk_at dksX0_asksHouse_0 6 rfl rfl)
theorem dX0_asksHouse_7 : decode cX0_asksHouse 7 = .ok (.invokevirtual 263, 3) := dk_182 1 7 (dk_at dksX0_asksHouse_0 7 rfl rfl)
theorem dX0_asksHouse_10 : decode cX0_asksHouse 10 = .ok (.ireturn, 1) := dk_172 (dk_at dksX0_asksHouse_0 10 rfl rfl)
abbrev cX0_ofHouse : ByteArray := prog_1_method_42_code
def yX0_ofHouse : MethodName := ⟨RX0, "ofHouse", "(LWheelLand$House;)V"⟩
def dkwX0_ofHouse_2 : List UInt8 := [42, 180, 0, 65, 16, 10, 43, 180, 0, 240, 180, 1, 124, 42, 180, 0, 151, 184, 1, 110, 46, 79, 177]
abbrev dktX0_ofHouse_2 : List UInt8 := dkwX0_ofHouse_2 ++ []
def dkwX0_ofHouse_1 : List UInt8 := [180, 0, 202, 79, 42, 180, 0, 65, 7, 43, 180, 0, 237, 79, 42, 180, 0, 65, 8, 43, 180, 1, 121, 79]
abbrev dktX0_ofHouse_1 : List UInt8 := dkwX0_ofHouse_1 ++ dktX0_ofHouse_2
def dkwX0_ofHouse_0 : List UInt8 := [42, 42, 180, 0, 151, 182, 1, 3, 42, 180, 0, 65, 5, 43, 180, 1, 118, 79, 42, 180, 0, 65, 6, 43]
abbrev dktX0_ofHouse_0 : List UInt8 := dkwX0_ofHouse_0 ++ dktX0_ofHouse_1
theorem dksX0_ofHouse_0 : cX0_ofHouse.data.toList.drop 0 = dktX0_ofHouse_0 := by decide +kernel
theorem dksX0_ofHouse_1 : cX0_ofHouse.data.toList.drop 24 = dktX0_ofHouse_1 := dk_seg dksX0_ofHouse_0 24 rfl rfl
theorem dksX0_ofHouse_2 : cX0_ofHouse.data.toList.drop 48 = dktX0_ofHouse_2 := dk_seg dksX0_ofHouse_1 24 rfl rfl
theorem dX0_ofHouse_0 : decode cX0_ofHouse 0 = .ok (.aload_n 0, 1) := dk_42 (dk_at dksX0_ofHouse_0 0 rfl rfl)
theorem dX0_ofHouse_1 : decode cX0_ofHouse 1 = .ok (.aload_n 0, 1) := dk_42 (dk_at dksX0_ofHouse_0 1 rfl rfl)
theorem dX0_ofHouse_2 : decode cX0_ofHouse 2 = .ok (.getfield 151, 3) := dk_180 0 151 (dk_at dksX0_ofHouse_0 2 rfl rfl)
theorem dX0_ofHouse_5 : decode cX0_ofHouse 5 = .ok (.invokevirtual 259, 3) := dk_182 1 3 (dk_at dksX0_ofHouse_0 5 rfl rfl)
theorem dX0_ofHouse_8 : decode cX0_ofHouse 8 = .ok (.aload_n 0, 1) := dk_42 (dk_at dksX0_ofHouse_0 8 rfl rfl)
theorem dX0_ofHouse_9 : decode cX0_ofHouse 9 = .ok (.getfield 65, 3) := dk_180 0 65 (dk_at dksX0_ofHouse_0 9 rfl rfl)
theorem dX0_ofHouse_12 : decode cX0_ofHouse 12 = .ok (.iconst 2, 1) := dk_5 (dk_at dksX0_ofHouse_0 12 rfl rfl)
theorem dX0_ofHouse_13 : decode cX0_ofHouse 13 = .ok (.aload_n 1, 1) := dk_43 (dk_at dksX0_ofHouse_0 13 rfl rfl)
theorem dX0_ofHouse_14 : decode cX0_ofHouse 14 = .ok (.getfield 374, 3) := dk_180 1 118 (dk_at dksX0_ofHouse_0 14 rfl rfl)
theorem dX0_ofHouse_17 : decode cX0_ofHouse 17 = .ok (.iastore, 1) := dk_79 (dk_at dksX0_ofHouse_0 17 rfl rfl)
theorem dX0_ofHouse_18 : decode cX0_ofHouse 18 = .ok (.aload_n 0, 1) := dk_42 (dk_at dksX0_ofHouse_0 18 rfl rfl)
theorem dX0_ofHouse_19 : decode cX0_ofHouse 19 = .ok (.getfield 65, 3) := dk_180 0 65 (dk_at dksX0_ofHouse_0 19 rfl rfl)
theorem dX0_ofHouse_22 : decode cX0_ofHouse 22 = .ok (.iconst 3, 1) := dk_6 (dk_at dksX0_ofHouse_0 22 rfl rfl)
theorem dX0_ofHouse_23 : decode cX0_ofHouse 23 = .ok (.aload_n 1, 1) := dk_43 (dk_at dksX0_ofHouse_0 23 rfl rfl)
theorem dX0_ofHouse_24 : decode cX0_ofHouse 24 = .ok (.getfield 202, 3) := dk_180 0 202 (dk_at dksX0_ofHouse_1 0 rfl rfl)
theorem dX0_ofHouse_27 : decode cX0_ofHouse 27 = .ok (.iastore, 1) := dk_79 (dk_at dksX0_ofHouse_1 3 rfl rfl)
theorem dX0_ofHouse_28 : decode cX0_ofHouse 28 = .ok (.aload_n 0, 1) := dk_42 (dk_at dksX0_ofHouse_1 4 rfl rfl)
theorem dX0_ofHouse_29 : decode cX0_ofHouse 29 = .ok (.getfield 65, 3) := dk_180 0 65 (dk_at dksX0_ofHouse_1 5 rfl rfl)
theorem dX0_ofHouse_32 : decode cX0_ofHouse 32 = .ok (.iconst 4, 1) := dk_7 (dk_at dksX0_ofHouse_1 8 rfl rfl)
theorem dX0_ofHouse_33 : decode cX0_ofHouse 33 = .ok (.aload_n 1, 1) := dk_43 (dk_at dksX0_ofHouse_1 9 rfl rfl)
theorem dX0_ofHouse_34 : decode cX0_ofHouse 34 = .ok (.getfield 237, 3) := dk_180 0 237 (dk_at dksX0_ofHouse_1 10 rfl rfl)
theorem dX0_ofHouse_37 : decode cX0_ofHouse 37 = .ok (.iastore, 1) := dk_79 (dk_at dksX0_ofHouse_1 13 rfl rfl)
theorem dX0_ofHouse_38 : decode cX0_ofHouse 38 = .ok (.aload_n 0, 1) := dk_42 (dk_at dksX0_ofHouse_1 14 rfl rfl)
theorem dX0_ofHouse_39 : decode cX0_ofHouse 39 = .ok (.getfield 65, 3) := dk_180 0 65 (dk_at dksX0_ofHouse_1 15 rfl rfl)
theorem dX0_ofHouse_42 : decode cX0_ofHouse 42 = .ok (.iconst 5, 1) := dk_8 (dk_at dksX0_ofHouse_1 18 rfl rfl)
theorem dX0_ofHouse_43 : decode cX0_ofHouse 43 = .ok (.aload_n 1, 1) := dk_43 (dk_at dksX0_ofHouse_1 19 rfl rfl)
theorem dX0_ofHouse_44 : decode cX0_ofHouse 44 = .ok (.getfield 377, 3) := dk_180 1 121 (dk_at dksX0_ofHouse_1 20 rfl rfl)
theorem dX0_ofHouse_47 : decode cX0_ofHouse 47 = .ok (.iastore, 1) := dk_79 (dk_at dksX0_ofHouse_1 23 rfl rfl)
theorem dX0_ofHouse_48 : decode cX0_ofHouse 48 = .ok (.aload_n 0, 1) := dk_42 (dk_at dksX0_ofHouse_2 0 rfl rfl)
theorem dX0_ofHouse_49 : decode cX0_ofHouse 49 = .ok (.getfield 65, 3) := dk_180 0 65 (dk_at dksX0_ofHouse_2 1 rfl rfl)
theorem dX0_ofHouse_52 : decode cX0_ofHouse 52 = .ok (.bipush 10, 2) := dk_16 10 (dk_at dksX0_ofHouse_2 4 rfl rfl)
theorem dX0_ofHouse_54 : decode cX0_ofHouse 54 = .ok (.aload_n 1, 1) := dk_43 (dk_at dksX0_ofHouse_2 6 rfl rfl)
theorem dX0_ofHouse_55 : decode cX0_ofHouse 55 = .ok (.getfield 240, 3) := dk_180 0 240 (dk_at dksX0_ofHouse_2 7 rfl rfl)
theorem dX0_ofHouse_58 : decode cX0_ofHouse 58 = .ok (.getfield 380, 3) := dk_180 1 124 (dk_at dksX0_ofHouse_2 10 rfl rfl)
theorem dX0_ofHouse_61 : decode cX0_ofHouse 61 = .ok (.aload_n 0, 1) := dk_42 (dk_at dksX0_ofHouse_2 13 rfl rfl)
theorem dX0_ofHouse_62 : decode cX0_ofHouse 62 = .ok (.getfield 151, 3) := dk_180 0 151 (dk_at dksX0_ofHouse_2 14 rfl rfl)
theorem dX0_ofHouse_65 : decode cX0_ofHouse 65 = .ok (.invokestatic 366, 3) := dk_184 1 110 (dk_at dksX0_ofHouse_2 17 rfl rfl)
theorem dX0_ofHouse_68 : decode cX0_ofHouse 68 = .ok (.iaload, 1) := dk_46 (dk_at dksX0_ofHouse_2 20 rfl rfl)
theorem dX0_ofHouse_69 : decode cX0_ofHouse 69 = .ok (.iastore, 1) := dk_79 (dk_at dksX0_ofHouse_2 21 rfl rfl)
theorem dX0_ofHouse_70 : decode cX0_ofHouse 70 = .ok (.return_, 1) := dk_177 (dk_at dksX0_ofHouse_2 22 rfl rfl)
abbrev cX0_tells : ByteArray := prog_1_method_30_code
def yX0_tells : MethodName := ⟨RX0, "tells", "()V"⟩
def dkwX0_tells_5 : List UInt8 := [96, 42, 180, 0, 254, 79, 177]
abbrev dktX0_tells_5 : List UInt8 := dkwX0_tells_5 ++ []
def dkwX0_tells_4 : List UInt8 := [96, 42, 180, 1, 55, 79, 42, 180, 0, 71, 27, 7, 96, 42, 180, 1, 58, 79, 42, 180, 0, 71, 27, 8]
abbrev dktX0_tells_4 : List UInt8 := dkwX0_tells_4 ++ dktX0_tells_5
def dkwX0_tells_3 : List UInt8 := [46, 42, 180, 0, 36, 28, 50, 180, 1, 52, 96, 79, 132, 2, 1, 167, 255, 225, 42, 180, 0, 71, 27, 6]
abbrev dktX0_tells_3 : List UInt8 := dkwX0_tells_3 ++ dktX0_tells_4
def dkwX0_tells_2 : List UInt8 := [96, 42, 180, 0, 186, 79, 3, 61, 28, 42, 180, 0, 123, 162, 0, 29, 42, 180, 0, 71, 27, 5, 96, 92]
abbrev dktX0_tells_2 : List UInt8 := dkwX0_tells_2 ++ dktX0_tells_3
def dkwX0_tells_1 : List UInt8 := [46, 42, 180, 0, 24, 28, 50, 180, 0, 180, 96, 79, 132, 2, 1, 167, 255, 227, 42, 180, 0, 71, 27, 4]
abbrev dktX0_tells_1 : List UInt8 := dkwX0_tells_1 ++ dktX0_tells_2
def dkwX0_tells_0 : List UInt8 := [16, 6, 42, 180, 0, 151, 104, 60, 3, 61, 28, 42, 180, 0, 112, 162, 0, 27, 42, 180, 0, 71, 27, 92]
abbrev dktX0_tells_0 : List UInt8 := dkwX0_tells_0 ++ dktX0_tells_1
theorem dksX0_tells_0 : cX0_tells.data.toList.drop 0 = dktX0_tells_0 := by decide +kernel
theorem dksX0_tells_1 : cX0_tells.data.toList.drop 24 = dktX0_tells_1 := dk_seg dksX0_tells_0 24 rfl rfl
theorem dksX0_tells_2 : cX0_tells.data.toList.drop 48 = dktX0_tells_2 := dk_seg dksX0_tells_1 24 rfl rfl
theorem dksX0_tells_3 : cX0_tells.data.toList.drop 72 = dktX0_tells_3 := dk_seg dksX0_tells_2 24 rfl rfl
theorem dksX0_tells_4 : cX0_tells.data.toList.drop 96 = dktX0_tells_4 := dk_seg dksX0_tells_3 24 rfl rfl
theorem dksX0_tells_5 : cX0_tells.data.toList.drop 120 = dktX0_tells_5 := dk_seg dksX0_tells_4 24 rfl rfl
theorem dX0_tells_0 : decode cX0_tells 0 = .ok (.bipush 6, 2) := dk_16 6 (dk_at dksX0_tells_0 0 rfl rfl)
theorem dX0_tells_2 : decode cX0_tells 2 = .ok (.aload_n 0, 1) := dk_42 (dk_at dksX0_tells_0 2 rfl rfl)
theorem dX0_tells_3 : decode cX0_tells 3 = .ok (.getfield 151, 3) := dk_180 0 151 (dk_at dksX0_tells_0 3 rfl rfl)
theorem dX0_tells_6 : decode cX0_tells 6 = .ok (.imul, 1) := dk_104 (dk_at dksX0_tells_0 6 rfl rfl)
theorem dX0_tells_7 : decode cX0_tells 7 = .ok (.istore_n 1, 1) := dk_60 (dk_at dksX0_tells_0 7 rfl rfl)
theorem dX0_tells_8 : decode cX0_tells 8 = .ok (.iconst 0, 1) := dk_3 (dk_at dksX0_tells_0 8 rfl rfl)
theorem dX0_tells_9 : decode cX0_tells 9 = .ok (.istore_n 2, 1) := dk_61 (dk_at dksX0_tells_0 9 rfl rfl)
theorem dX0_tells_10 : decode cX0_tells 10 = .ok (.iload_n 2, 1) := dk_28 (dk_at dksX0_tells_0 10 rfl rfl)
theorem dX0_tells_11 : decode cX0_tells 11 = .ok (.aload_n 0, 1) := dk_42 (dk_at dksX0_tells_0 11 rfl rfl)
theorem dX0_tells_12 : decode cX0_tells 12 = .ok (.getfield 112, 3) := dk_180 0 112 (dk_at dksX0_tells_0 12 rfl rfl)
theorem dX0_tells_15 : decode cX0_tells 15 = .ok (.if_icmp .ge 27, 3) := dk_162 0 27 (dk_at dksX0_tells_0 15 rfl rfl)
theorem dX0_tells_18 : decode cX0_tells 18 = .ok (.aload_n 0, 1) := dk_42 (dk_at dksX0_tells_0 18 rfl rfl)
theorem dX0_tells_19 : decode cX0_tells 19 = .ok (.getfield 71, 3) := dk_180 0 71 (dk_at dksX0_tells_0 19 rfl rfl)
theorem dX0_tells_22 : decode cX0_tells 22 = .ok (.iload_n 1, 1) := dk_27 (dk_at dksX0_tells_0 22 rfl rfl)
theorem dX0_tells_23 : decode cX0_tells 23 = .ok (.dup2, 1) := dk_92 (dk_at dksX0_tells_0 23 rfl rfl)
theorem dX0_tells_24 : decode cX0_tells 24 = .ok (.iaload, 1) := dk_46 (dk_at dksX0_tells_1 0 rfl rfl)
theorem dX0_tells_25 : decode cX0_tells 25 = .ok (.aload_n 0, 1) := dk_42 (dk_at dksX0_tells_1 1 rfl rfl)
theorem dX0_tells_26 : decode cX0_tells 26 = .ok (.getfield 24, 3) := dk_180 0 24 (dk_at dksX0_tells_1 2 rfl rfl)
theorem dX0_tells_29 : decode cX0_tells 29 = .ok (.iload_n 2, 1) := dk_28 (dk_at dksX0_tells_1 5 rfl rfl)
theorem dX0_tells_30 : decode cX0_tells 30 = .ok (.aaload, 1) := dk_50 (dk_at dksX0_tells_1 6 rfl rfl)
theorem dX0_tells_31 : decode cX0_tells 31 = .ok (.getfield 180, 3) := dk_180 0 180 (dk_at dksX0_tells_1 7 rfl rfl)
theorem dX0_tells_34 : decode cX0_tells 34 = .ok (.iadd, 1) := dk_96 (dk_at dksX0_tells_1 10 rfl rfl)
theorem dX0_tells_35 : decode cX0_tells 35 = .ok (.iastore, 1) := dk_79 (dk_at dksX0_tells_1 11 rfl rfl)
theorem dX0_tells_36 : decode cX0_tells 36 = .ok (.iinc 2 1, 3) := dk_132 2 1 (dk_at dksX0_tells_1 12 rfl rfl)
theorem dX0_tells_39 : decode cX0_tells 39 = .ok (.goto (-29), 3) := dk_167 255 227 (dk_at dksX0_tells_1 15 rfl rfl)
theorem dX0_tells_42 : decode cX0_tells 42 = .ok (.aload_n 0, 1) := dk_42 (dk_at dksX0_tells_1 18 rfl rfl)
theorem dX0_tells_43 : decode cX0_tells 43 = .ok (.getfield 71, 3) := dk_180 0 71 (dk_at dksX0_tells_1 19 rfl rfl)
theorem dX0_tells_46 : decode cX0_tells 46 = .ok (.iload_n 1, 1) := dk_27 (dk_at dksX0_tells_1 22 rfl rfl)
theorem dX0_tells_47 : decode cX0_tells 47 = .ok (.iconst 1, 1) := dk_4 (dk_at dksX0_tells_1 23 rfl rfl)
theorem dX0_tells_48 : decode cX0_tells 48 = .ok (.iadd, 1) := dk_96 (dk_at dksX0_tells_2 0 rfl rfl)
theorem dX0_tells_49 : decode cX0_tells 49 = .ok (.aload_n 0, 1) := dk_42 (dk_at dksX0_tells_2 1 rfl rfl)
theorem dX0_tells_50 : decode cX0_tells 50 = .ok (.getfield 186, 3) := dk_180 0 186 (dk_at dksX0_tells_2 2 rfl rfl)
theorem dX0_tells_53 : decode cX0_tells 53 = .ok (.iastore, 1) := dk_79 (dk_at dksX0_tells_2 5 rfl rfl)
theorem dX0_tells_54 : decode cX0_tells 54 = .ok (.iconst 0, 1) := dk_3 (dk_at dksX0_tells_2 6 rfl rfl)
theorem dX0_tells_55 : decode cX0_tells 55 = .ok (.istore_n 2, 1) := dk_61 (dk_at dksX0_tells_2 7 rfl rfl)
theorem dX0_tells_56 : decode cX0_tells 56 = .ok (.iload_n 2, 1) := dk_28 (dk_at dksX0_tells_2 8 rfl rfl)
theorem dX0_tells_57 : decode cX0_tells 57 = .ok (.aload_n 0, 1) := dk_42 (dk_at dksX0_tells_2 9 rfl rfl)
theorem dX0_tells_58 : decode cX0_tells 58 = .ok (.getfield 123, 3) := dk_180 0 123 (dk_at dksX0_tells_2 10 rfl rfl)
theorem dX0_tells_61 : decode cX0_tells 61 = .ok (.if_icmp .ge 29, 3) := dk_162 0 29 (dk_at dksX0_tells_2 13 rfl rfl)
theorem dX0_tells_64 : decode cX0_tells 64 = .ok (.aload_n 0, 1) := dk_42 (dk_at dksX0_tells_2 16 rfl rfl)
theorem dX0_tells_65 : decode cX0_tells 65 = .ok (.getfield 71, 3) := dk_180 0 71 (dk_at dksX0_tells_2 17 rfl rfl)
theorem dX0_tells_68 : decode cX0_tells 68 = .ok (.iload_n 1, 1) := dk_27 (dk_at dksX0_tells_2 20 rfl rfl)
theorem dX0_tells_69 : decode cX0_tells 69 = .ok (.iconst 2, 1) := dk_5 (dk_at dksX0_tells_2 21 rfl rfl)
theorem dX0_tells_70 : decode cX0_tells 70 = .ok (.iadd, 1) := dk_96 (dk_at dksX0_tells_2 22 rfl rfl)
theorem dX0_tells_71 : decode cX0_tells 71 = .ok (.dup2, 1) := dk_92 (dk_at dksX0_tells_2 23 rfl rfl)
theorem dX0_tells_72 : decode cX0_tells 72 = .ok (.iaload, 1) := dk_46 (dk_at dksX0_tells_3 0 rfl rfl)
theorem dX0_tells_73 : decode cX0_tells 73 = .ok (.aload_n 0, 1) := dk_42 (dk_at dksX0_tells_3 1 rfl rfl)
theorem dX0_tells_74 : decode cX0_tells 74 = .ok (.getfield 36, 3) := dk_180 0 36 (dk_at dksX0_tells_3 2 rfl rfl)
theorem dX0_tells_77 : decode cX0_tells 77 = .ok (.iload_n 2, 1) := dk_28 (dk_at dksX0_tells_3 5 rfl rfl)
theorem dX0_tells_78 : decode cX0_tells 78 = .ok (.aaload, 1) := dk_50 (dk_at dksX0_tells_3 6 rfl rfl)
theorem dX0_tells_79 : decode cX0_tells 79 = .ok (.getfield 308, 3) := dk_180 1 52 (dk_at dksX0_tells_3 7 rfl rfl)
theorem dX0_tells_82 : decode cX0_tells 82 = .ok (.iadd, 1) := dk_96 (dk_at dksX0_tells_3 10 rfl rfl)
theorem dX0_tells_83 : decode cX0_tells 83 = .ok (.iastore, 1) := dk_79 (dk_at dksX0_tells_3 11 rfl rfl)
theorem dX0_tells_84 : decode cX0_tells 84 = .ok (.iinc 2 1, 3) := dk_132 2 1 (dk_at dksX0_tells_3 12 rfl rfl)
theorem dX0_tells_87 : decode cX0_tells 87 = .ok (.goto (-31), 3) := dk_167 255 225 (dk_at dksX0_tells_3 15 rfl rfl)
theorem dX0_tells_90 : decode cX0_tells 90 = .ok (.aload_n 0, 1) := dk_42 (dk_at dksX0_tells_3 18 rfl rfl)
theorem dX0_tells_91 : decode cX0_tells 91 = .ok (.getfield 71, 3) := dk_180 0 71 (dk_at dksX0_tells_3 19 rfl rfl)
theorem dX0_tells_94 : decode cX0_tells 94 = .ok (.iload_n 1, 1) := dk_27 (dk_at dksX0_tells_3 22 rfl rfl)
theorem dX0_tells_95 : decode cX0_tells 95 = .ok (.iconst 3, 1) := dk_6 (dk_at dksX0_tells_3 23 rfl rfl)
theorem dX0_tells_96 : decode cX0_tells 96 = .ok (.iadd, 1) := dk_96 (dk_at dksX0_tells_4 0 rfl rfl)
theorem dX0_tells_97 : decode cX0_tells 97 = .ok (.aload_n 0, 1) := dk_42 (dk_at dksX0_tells_4 1 rfl rfl)
theorem dX0_tells_98 : decode cX0_tells 98 = .ok (.getfield 311, 3) := dk_180 1 55 (dk_at dksX0_tells_4 2 rfl rfl)
theorem dX0_tells_101 : decode cX0_tells 101 = .ok (.iastore, 1) := dk_79 (dk_at dksX0_tells_4 5 rfl rfl)
theorem dX0_tells_102 : decode cX0_tells 102 = .ok (.aload_n 0, 1) := dk_42 (dk_at dksX0_tells_4 6 rfl rfl)
theorem dX0_tells_103 : decode cX0_tells 103 = .ok (.getfield 71, 3) := dk_180 0 71 (dk_at dksX0_tells_4 7 rfl rfl)
theorem dX0_tells_106 : decode cX0_tells 106 = .ok (.iload_n 1, 1) := dk_27 (dk_at dksX0_tells_4 10 rfl rfl)
theorem dX0_tells_107 : decode cX0_tells 107 = .ok (.iconst 4, 1) := dk_7 (dk_at dksX0_tells_4 11 rfl rfl)
theorem dX0_tells_108 : decode cX0_tells 108 = .ok (.iadd, 1) := dk_96 (dk_at dksX0_tells_4 12 rfl rfl)
theorem dX0_tells_109 : decode cX0_tells 109 = .ok (.aload_n 0, 1) := dk_42 (dk_at dksX0_tells_4 13 rfl rfl)
theorem dX0_tells_110 : decode cX0_tells 110 = .ok (.getfield 314, 3) := dk_180 1 58 (dk_at dksX0_tells_4 14 rfl rfl)
theorem dX0_tells_113 : decode cX0_tells 113 = .ok (.iastore, 1) := dk_79 (dk_at dksX0_tells_4 17 rfl rfl)
theorem dX0_tells_114 : decode cX0_tells 114 = .ok (.aload_n 0, 1) := dk_42 (dk_at dksX0_tells_4 18 rfl rfl)
theorem dX0_tells_115 : decode cX0_tells 115 = .ok (.getfield 71, 3) := dk_180 0 71 (dk_at dksX0_tells_4 19 rfl rfl)
theorem dX0_tells_118 : decode cX0_tells 118 = .ok (.iload_n 1, 1) := dk_27 (dk_at dksX0_tells_4 22 rfl rfl)
theorem dX0_tells_119 : decode cX0_tells 119 = .ok (.iconst 5, 1) := dk_8 (dk_at dksX0_tells_4 23 rfl rfl)
theorem dX0_tells_120 : decode cX0_tells 120 = .ok (.iadd, 1) := dk_96 (dk_at dksX0_tells_5 0 rfl rfl)
theorem dX0_tells_121 : decode cX0_tells 121 = .ok (.aload_n 0, 1) := dk_42 (dk_at dksX0_tells_5 1 rfl rfl)
theorem dX0_tells_122 : decode cX0_tells 122 = .ok (.getfield 254, 3) := dk_180 0 254 (dk_at dksX0_tells_5 2 rfl rfl)
theorem dX0_tells_125 : decode cX0_tells 125 = .ok (.iastore, 1) := dk_79 (dk_at dksX0_tells_5 5 rfl rfl)
theorem dX0_tells_126 : decode cX0_tells 126 = .ok (.return_, 1) := dk_177 (dk_at dksX0_tells_5 6 rfl rfl)
abbrev cX0_lot : ByteArray := prog_1_method_31_code
def yX0_lot : MethodName := ⟨RX0, "lot", "(II)I"⟩
def dkwX0_lot_3 : List UInt8 := [180, 1, 79, 172, 45, 180, 1, 52, 172, 2, 172]
abbrev dktX0_lot_3 : List UInt8 := dkwX0_lot_3 ++ []
def dkwX0_lot_2 : List UInt8 := [45, 180, 1, 65, 180, 1, 69, 172, 45, 180, 1, 70, 172, 45, 180, 1, 73, 172, 45, 180, 1, 76, 172, 45]
abbrev dktX0_lot_2 : List UInt8 := dkwX0_lot_2 ++ dktX0_lot_3
def dkwX0_lot_1 : List UInt8 := [170, 0, 0, 0, 0, 0, 72, 0, 0, 0, 0, 0, 0, 0, 5, 0, 0, 0, 39, 0, 0, 0, 47, 0, 0, 0, 52, 0, 0, 0, 57, 0, 0, 0, 62, 0, 0, 0, 67]
abbrev dktX0_lot_1 : List UInt8 := dkwX0_lot_1 ++ dktX0_lot_2
def dkwX0_lot_0 : List UInt8 := [42, 27, 182, 1, 61, 78, 45, 199, 0, 5, 2, 172, 28]
abbrev dktX0_lot_0 : List UInt8 := dkwX0_lot_0 ++ dktX0_lot_1
theorem dksX0_lot_0 : cX0_lot.data.toList.drop 0 = dktX0_lot_0 := by decide +kernel
theorem dksX0_lot_1 : cX0_lot.data.toList.drop 13 = dktX0_lot_1 := dk_seg dksX0_lot_0 13 rfl rfl
theorem dksX0_lot_2 : cX0_lot.data.toList.drop 52 = dktX0_lot_2 := dk_seg dksX0_lot_1 39 rfl rfl
theorem dksX0_lot_3 : cX0_lot.data.toList.drop 76 = dktX0_lot_3 := dk_seg dksX0_lot_2 24 rfl rfl
theorem dX0_lot_0 : decode cX0_lot 0 = .ok (.aload_n 0, 1) := dk_42 (dk_at dksX0_lot_0 0 rfl rfl)
theorem dX0_lot_1 : decode cX0_lot 1 = .ok (.iload_n 1, 1) := dk_27 (dk_at dksX0_lot_0 1 rfl rfl)
theorem dX0_lot_2 : decode cX0_lot 2 = .ok (.invokevirtual 317, 3) := dk_182 1 61 (dk_at dksX0_lot_0 2 rfl rfl)
theorem dX0_lot_5 : decode cX0_lot 5 = .ok (.astore_n 3, 1) := dk_78 (dk_at dksX0_lot_0 5 rfl rfl)
theorem dX0_lot_6 : decode cX0_lot 6 = .ok (.aload_n 3, 1) := dk_45 (dk_at dksX0_lot_0 6 rfl rfl)
theorem dX0_lot_7 : decode cX0_lot 7 = .ok (.ifnonnull 5, 3) := dk_199 0 5 (dk_at dksX0_lot_0 7 rfl rfl)
theorem dX0_lot_10 : decode cX0_lot 10 = .ok (.iconst (-1), 1) := dk_2 (dk_at dksX0_lot_0 10 rfl rfl)
theorem dX0_lot_11 : decode cX0_lot 11 = .ok (.ireturn, 1) := dk_172 (dk_at dksX0_lot_0 11 rfl rfl)
theorem dX0_lot_12 : decode cX0_lot 12 = .ok (.iload_n 2, 1) := dk_28 (dk_at dksX0_lot_0 12 rfl rfl)
theorem dX0_lot_13 : decode cX0_lot 13 = .ok (.tableswitch 72 0 5 #[39, 47, 52, 57, 62, 67], 39) := by decide +kernel
theorem dX0_lot_52 : decode cX0_lot 52 = .ok (.aload_n 3, 1) := dk_45 (dk_at dksX0_lot_2 0 rfl rfl)
theorem dX0_lot_53 : decode cX0_lot 53 = .ok (.getfield 321, 3) := dk_180 1 65 (dk_at dksX0_lot_2 1 rfl rfl)
theorem dX0_lot_56 : decode cX0_lot 56 = .ok (.getfield 325, 3) := dk_180 1 69 (dk_at dksX0_lot_2 4 rfl rfl)
theorem dX0_lot_59 : decode cX0_lot 59 = .ok (.ireturn, 1) := dk_172 (dk_at dksX0_lot_2 7 rfl rfl)
theorem dX0_lot_60 : decode cX0_lot 60 = .ok (.aload_n 3, 1) := dk_45 (dk_at dksX0_lot_2 8 rfl rfl)
theorem dX0_lot_61 : decode cX0_lot 61 = .ok (.getfield 326, 3) := dk_180 1 70 (dk_at dksX0_lot_2 9 rfl rfl)
theorem dX0_lot_64 : decode cX0_lot 64 = .ok (.ireturn, 1) := dk_172 (dk_at dksX0_lot_2 12 rfl rfl)
theorem dX0_lot_65 : decode cX0_lot 65 = .ok (.aload_n 3, 1) := dk_45 (dk_at dksX0_lot_2 13 rfl rfl)
theorem dX0_lot_66 : decode cX0_lot 66 = .ok (.getfield 329, 3) := dk_180 1 73 (dk_at dksX0_lot_2 14 rfl rfl)
theorem dX0_lot_69 : decode cX0_lot 69 = .ok (.ireturn, 1) := dk_172 (dk_at dksX0_lot_2 17 rfl rfl)
theorem dX0_lot_70 : decode cX0_lot 70 = .ok (.aload_n 3, 1) := dk_45 (dk_at dksX0_lot_2 18 rfl rfl)
theorem dX0_lot_71 : decode cX0_lot 71 = .ok (.getfield 332, 3) := dk_180 1 76 (dk_at dksX0_lot_2 19 rfl rfl)
theorem dX0_lot_74 : decode cX0_lot 74 = .ok (.ireturn, 1) := dk_172 (dk_at dksX0_lot_2 22 rfl rfl)
theorem dX0_lot_75 : decode cX0_lot 75 = .ok (.aload_n 3, 1) := dk_45 (dk_at dksX0_lot_2 23 rfl rfl)
theorem dX0_lot_76 : decode cX0_lot 76 = .ok (.getfield 335, 3) := dk_180 1 79 (dk_at dksX0_lot_3 0 rfl rfl)
theorem dX0_lot_79 : decode cX0_lot 79 = .ok (.ireturn, 1) := dk_172 (dk_at dksX0_lot_3 3 rfl rfl)
theorem dX0_lot_80 : decode cX0_lot 80 = .ok (.aload_n 3, 1) := dk_45 (dk_at dksX0_lot_3 4 rfl rfl)
theorem dX0_lot_81 : decode cX0_lot 81 = .ok (.getfield 308, 3) := dk_180 1 52 (dk_at dksX0_lot_3 5 rfl rfl)
theorem dX0_lot_84 : decode cX0_lot 84 = .ok (.ireturn, 1) := dk_172 (dk_at dksX0_lot_3 8 rfl rfl)
theorem dX0_lot_85 : decode cX0_lot 85 = .ok (.iconst (-1), 1) := dk_2 (dk_at dksX0_lot_3 9 rfl rfl)
theorem dX0_lot_86 : decode cX0_lot 86 = .ok (.ireturn, 1) := dk_172 (dk_at dksX0_lot_3 10 rfl rfl)
abbrev cX0_findLot : ByteArray := prog_1_method_8_code
def yX0_findLot : MethodName := ⟨RX0, "findLot", "(I)LWheelLand$Lot;"⟩
def dkwX0_findLot_1 : List UInt8 := [176]
abbrev dktX0_findLot_1 : List UInt8 := dkwX0_findLot_1 ++ []
def dkwX0_findLot_0 : List UInt8 := [27, 3, 42, 180, 0, 123, 4, 100, 184, 0, 116, 153, 0, 12, 42, 180, 0, 36, 27, 50, 167, 0, 4, 1]
abbrev dktX0_findLot_0 : List UInt8 := dkwX0_findLot_0 ++ dktX0_findLot_1
theorem dksX0_findLot_0 : cX0_findLot.data.toList.drop 0 = dktX0_findLot_0 := by decide +kernel
theorem dksX0_findLot_1 : cX0_findLot.data.toList.drop 24 = dktX0_findLot_1 := dk_seg dksX0_findLot_0 24 rfl rfl
theorem dX0_findLot_0 : decode cX0_findLot 0 = .ok (.iload_n 1, 1) := dk_27 (dk_at dksX0_findLot_0 0 rfl rfl)
theorem dX0_findLot_1 : decode cX0_findLot 1 = .ok (.iconst 0, 1) := dk_3 (dk_at dksX0_findLot_0 1 rfl rfl)
theorem dX0_findLot_2 : decode cX0_findLot 2 = .ok (.aload_n 0, 1) := dk_42 (dk_at dksX0_findLot_0 2 rfl rfl)
theorem dX0_findLot_3 : decode cX0_findLot 3 = .ok (.getfield 123, 3) := dk_180 0 123 (dk_at dksX0_findLot_0 3 rfl rfl)
theorem dX0_findLot_6 : decode cX0_findLot 6 = .ok (.iconst 1, 1) := dk_4 (dk_at dksX0_findLot_0 6 rfl rfl)
theorem dX0_findLot_7 : decode cX0_findLot 7 = .ok (.isub, 1) := dk_100 (dk_at dksX0_findLot_0 7 rfl rfl)
theorem dX0_findLot_8 : decode cX0_findLot 8 = .ok (.invokestatic 116, 3) := dk_184 0 116 (dk_at dksX0_findLot_0 8 rfl rfl)
theorem dX0_findLot_11 : decode cX0_findLot 11 = .ok (.ifCond .eq 12, 3) := dk_153 0 12 (dk_at dksX0_findLot_0 11 rfl rfl)
theorem dX0_findLot_14 : decode cX0_findLot 14 = .ok (.aload_n 0, 1) := dk_42 (dk_at dksX0_findLot_0 14 rfl rfl)
theorem dX0_findLot_15 : decode cX0_findLot 15 = .ok (.getfield 36, 3) := dk_180 0 36 (dk_at dksX0_findLot_0 15 rfl rfl)
theorem dX0_findLot_18 : decode cX0_findLot 18 = .ok (.iload_n 1, 1) := dk_27 (dk_at dksX0_findLot_0 18 rfl rfl)
theorem dX0_findLot_19 : decode cX0_findLot 19 = .ok (.aaload, 1) := dk_50 (dk_at dksX0_findLot_0 19 rfl rfl)
theorem dX0_findLot_20 : decode cX0_findLot 20 = .ok (.goto 4, 3) := dk_167 0 4 (dk_at dksX0_findLot_0 20 rfl rfl)
theorem dX0_findLot_23 : decode cX0_findLot 23 = .ok (.aconst_null, 1) := dk_1 (dk_at dksX0_findLot_0 23 rfl rfl)
theorem dX0_findLot_24 : decode cX0_findLot 24 = .ok (.areturn, 1) := dk_176 (dk_at dksX0_findLot_1 0 rfl rfl)
abbrev cX0_feed : ByteArray := prog_1_method_32_code
def yX0_feed : MethodName := ⟨RX0, "feed", "(IIIII)I"⟩
def dkwX0_feed_2 : List UInt8 := [172]
abbrev dktX0_feed_2 : List UInt8 := dkwX0_feed_2 ++ []
def dkwX0_feed_1 : List UInt8 := [182, 1, 85, 42, 29, 182, 1, 85, 42, 21, 4, 182, 1, 85, 42, 21, 5, 182, 1, 85, 42, 180, 1, 82]
abbrev dktX0_feed_1 : List UInt8 := dkwX0_feed_1 ++ dktX0_feed_2
def dkwX0_feed_0 : List UInt8 := [42, 180, 1, 82, 16, 20, 96, 17, 1, 144, 164, 0, 5, 2, 172, 42, 27, 182, 1, 85, 42, 28]
abbrev dktX0_feed_0 : List UInt8 := dkwX0_feed_0 ++ dktX0_feed_1
theorem dksX0_feed_0 : cX0_feed.data.toList.drop 0 = dktX0_feed_0 := by decide +kernel
theorem dksX0_feed_1 : cX0_feed.data.toList.drop 22 = dktX0_feed_1 := dk_seg dksX0_feed_0 22 rfl rfl
theorem dksX0_feed_2 : cX0_feed.data.toList.drop 46 = dktX0_feed_2 := dk_seg dksX0_feed_1 24 rfl rfl
theorem dX0_feed_0 : decode cX0_feed 0 = .ok (.aload_n 0, 1) := dk_42 (dk_at dksX0_feed_0 0 rfl rfl)
theorem dX0_feed_1 : decode cX0_feed 1 = .ok (.getfield 338, 3) := dk_180 1 82 (dk_at dksX0_feed_0 1 rfl rfl)
theorem dX0_feed_4 : decode cX0_feed 4 = .ok (.bipush 20, 2) := dk_16 20 (dk_at dksX0_feed_0 4 rfl rfl)
theorem dX0_feed_6 : decode cX0_feed 6 = .ok (.iadd, 1) := dk_96 (dk_at dksX0_feed_0 6 rfl rfl)
theorem dX0_feed_7 : decode cX0_feed 7 = .ok (.sipush 400, 3) := dk_17 1 144 (dk_at dksX0_feed_0 7 rfl rfl)
theorem dX0_feed_10 : decode cX0_feed 10 = .ok (.if_icmp .le 5, 3) := dk_164 0 5 (dk_at dksX0_feed_0 10 rfl rfl)
theorem dX0_feed_13 : decode cX0_feed 13 = .ok (.iconst (-1), 1) := dk_2 (dk_at dksX0_feed_0 13 rfl rfl)
theorem dX0_feed_14 : decode cX0_feed 14 = .ok (.ireturn, 1) := dk_172 (dk_at dksX0_feed_0 14 rfl rfl)
theorem dX0_feed_15 : decode cX0_feed 15 = .ok (.aload_n 0, 1) := dk_42 (dk_at dksX0_feed_0 15 rfl rfl)
theorem dX0_feed_16 : decode cX0_feed 16 = .ok (.iload_n 1, 1) := dk_27 (dk_at dksX0_feed_0 16 rfl rfl)
theorem dX0_feed_17 : decode cX0_feed 17 = .ok (.invokevirtual 341, 3) := dk_182 1 85 (dk_at dksX0_feed_0 17 rfl rfl)
theorem dX0_feed_20 : decode cX0_feed 20 = .ok (.aload_n 0, 1) := dk_42 (dk_at dksX0_feed_0 20 rfl rfl)
theorem dX0_feed_21 : decode cX0_feed 21 = .ok (.iload_n 2, 1) := dk_28 (dk_at dksX0_feed_0 21 rfl rfl)
theorem dX0_feed_22 : decode cX0_feed 22 = .ok (.invokevirtual 341, 3) := dk_182 1 85 (dk_at dksX0_feed_1 0 rfl rfl)
theorem dX0_feed_25 : decode cX0_feed 25 = .ok (.aload_n 0, 1) := dk_42 (dk_at dksX0_feed_1 3 rfl rfl)
theorem dX0_feed_26 : decode cX0_feed 26 = .ok (.iload_n 3, 1) := dk_29 (dk_at dksX0_feed_1 4 rfl rfl)
theorem dX0_feed_27 : decode cX0_feed 27 = .ok (.invokevirtual 341, 3) := dk_182 1 85 (dk_at dksX0_feed_1 5 rfl rfl)
theorem dX0_feed_30 : decode cX0_feed 30 = .ok (.aload_n 0, 1) := dk_42 (dk_at dksX0_feed_1 8 rfl rfl)
theorem dX0_feed_31 : decode cX0_feed 31 = .ok (.iload 4, 2) := dk_21 4 (dk_at dksX0_feed_1 9 rfl rfl)
theorem dX0_feed_33 : decode cX0_feed 33 = .ok (.invokevirtual 341, 3) := dk_182 1 85 (dk_at dksX0_feed_1 11 rfl rfl)
theorem dX0_feed_36 : decode cX0_feed 36 = .ok (.aload_n 0, 1) := dk_42 (dk_at dksX0_feed_1 14 rfl rfl)
theorem dX0_feed_37 : decode cX0_feed 37 = .ok (.iload 5, 2) := dk_21 5 (dk_at dksX0_feed_1 15 rfl rfl)
theorem dX0_feed_39 : decode cX0_feed 39 = .ok (.invokevirtual 341, 3) := dk_182 1 85 (dk_at dksX0_feed_1 17 rfl rfl)
theorem dX0_feed_42 : decode cX0_feed 42 = .ok (.aload_n 0, 1) := dk_42 (dk_at dksX0_feed_1 20 rfl rfl)
theorem dX0_feed_43 : decode cX0_feed 43 = .ok (.getfield 338, 3) := dk_180 1 82 (dk_at dksX0_feed_1 21 rfl rfl)
theorem dX0_feed_46 : decode cX0_feed 46 = .ok (.ireturn, 1) := dk_172 (dk_at dksX0_feed_2 0 rfl rfl)
abbrev cX0_feeds : ByteArray := prog_1_method_33_code
def yX0_feeds : MethodName := ⟨RX0, "feeds", "(I)V"⟩
def dkwX0_feeds_1 : List UInt8 := [180, 1, 82, 4, 96, 181, 1, 82, 132, 2, 248, 167, 255, 226, 177]
abbrev dktX0_feeds_1 : List UInt8 := dkwX0_feeds_1 ++ []
def dkwX0_feeds_0 : List UInt8 := [16, 24, 61, 28, 155, 0, 32, 42, 180, 0, 74, 42, 180, 1, 82, 27, 28, 122, 145, 84, 42, 89]
abbrev dktX0_feeds_0 : List UInt8 := dkwX0_feeds_0 ++ dktX0_feeds_1
theorem dksX0_feeds_0 : cX0_feeds.data.toList.drop 0 = dktX0_feeds_0 := by decide +kernel
theorem dksX0_feeds_1 : cX0_feeds.data.toList.drop 22 = dktX0_feeds_1 := dk_seg dksX0_feeds_0 22 rfl rfl
theorem dX0_feeds_0 : decode cX0_feeds 0 = .ok (.bipush 24, 2) := dk_16 24 (dk_at dksX0_feeds_0 0 rfl rfl)
theorem dX0_feeds_2 : decode cX0_feeds 2 = .ok (.istore_n 2, 1) := dk_61 (dk_at dksX0_feeds_0 2 rfl rfl)
theorem dX0_feeds_3 : decode cX0_feeds 3 = .ok (.iload_n 2, 1) := dk_28 (dk_at dksX0_feeds_0 3 rfl rfl)
theorem dX0_feeds_4 : decode cX0_feeds 4 = .ok (.ifCond .lt 32, 3) := dk_155 0 32 (dk_at dksX0_feeds_0 4 rfl rfl)
theorem dX0_feeds_7 : decode cX0_feeds 7 = .ok (.aload_n 0, 1) := dk_42 (dk_at dksX0_feeds_0 7 rfl rfl)
theorem dX0_feeds_8 : decode cX0_feeds 8 = .ok (.getfield 74, 3) := dk_180 0 74 (dk_at dksX0_feeds_0 8 rfl rfl)
theorem dX0_feeds_11 : decode cX0_feeds 11 = .ok (.aload_n 0, 1) := dk_42 (dk_at dksX0_feeds_0 11 rfl rfl)
theorem dX0_feeds_12 : decode cX0_feeds 12 = .ok (.getfield 338, 3) := dk_180 1 82 (dk_at dksX0_feeds_0 12 rfl rfl)
theorem dX0_feeds_15 : decode cX0_feeds 15 = .ok (.iload_n 1, 1) := dk_27 (dk_at dksX0_feeds_0 15 rfl rfl)
theorem dX0_feeds_16 : decode cX0_feeds 16 = .ok (.iload_n 2, 1) := dk_28 (dk_at dksX0_feeds_0 16 rfl rfl)
theorem dX0_feeds_17 : decode cX0_feeds 17 = .ok (.ishr, 1) := dk_122 (dk_at dksX0_feeds_0 17 rfl rfl)
theorem dX0_feeds_18 : decode cX0_feeds 18 = .ok (.i2b, 1) := dk_145 (dk_at dksX0_feeds_0 18 rfl rfl)
theorem dX0_feeds_19 : decode cX0_feeds 19 = .ok (.bastore, 1) := dk_84 (dk_at dksX0_feeds_0 19 rfl rfl)
theorem dX0_feeds_20 : decode cX0_feeds 20 = .ok (.aload_n 0, 1) := dk_42 (dk_at dksX0_feeds_0 20 rfl rfl)
theorem dX0_feeds_21 : decode cX0_feeds 21 = .ok (.dup, 1) := dk_89 (dk_at dksX0_feeds_0 21 rfl rfl)
theorem dX0_feeds_22 : decode cX0_feeds 22 = .ok (.getfield 338, 3) := dk_180 1 82 (dk_at dksX0_feeds_1 0 rfl rfl)
theorem dX0_feeds_25 : decode cX0_feeds 25 = .ok (.iconst 1, 1) := dk_4 (dk_at dksX0_feeds_1 3 rfl rfl)
theorem dX0_feeds_26 : decode cX0_feeds 26 = .ok (.iadd, 1) := dk_96 (dk_at dksX0_feeds_1 4 rfl rfl)
theorem dX0_feeds_27 : decode cX0_feeds 27 = .ok (.putfield 338, 3) := dk_181 1 82 (dk_at dksX0_feeds_1 5 rfl rfl)
theorem dX0_feeds_30 : decode cX0_feeds 30 = .ok (.iinc 2 (-8), 3) := dk_132 2 248 (dk_at dksX0_feeds_1 8 rfl rfl)
theorem dX0_feeds_33 : decode cX0_feeds 33 = .ok (.goto (-30), 3) := dk_167 255 226 (dk_at dksX0_feeds_1 11 rfl rfl)
theorem dX0_feeds_36 : decode cX0_feeds 36 = .ok (.return_, 1) := dk_177 (dk_at dksX0_feeds_1 14 rfl rfl)
abbrev cX0_end : ByteArray := prog_1_method_34_code
def yX0_end : MethodName := ⟨RX0, "end", "(I)Z"⟩
def dkwX0_end_0 : List UInt8 := [27, 3, 42, 180, 1, 82, 184, 0, 116, 154, 0, 5, 3, 172, 42, 27, 181, 1, 82, 4, 172]
abbrev dktX0_end_0 : List UInt8 := dkwX0_end_0 ++ []
theorem dksX0_end_0 : cX0_end.data.toList.drop 0 = dktX0_end_0 := by decide +kernel
theorem dX0_end_0 : decode cX0_end 0 = .ok (.iload_n 1, 1) := dk_27 (dk_at dksX0_end_0 0 rfl rfl)
theorem dX0_end_1 : decode cX0_end 1 = .ok (.iconst 0, 1) := dk_3 (dk_at dksX0_end_0 1 rfl rfl)
theorem dX0_end_2 : decode cX0_end 2 = .ok (.aload_n 0, 1) := dk_42 (dk_at dksX0_end_0 2 rfl rfl)
theorem dX0_end_3 : decode cX0_end 3 = .ok (.getfield 338, 3) := dk_180 1 82 (dk_at dksX0_end_0 3 rfl rfl)
theorem dX0_end_6 : decode cX0_end 6 = .ok (.invokestatic 116, 3) := dk_184 0 116 (dk_at dksX0_end_0 6 rfl rfl)
theorem dX0_end_9 : decode cX0_end 9 = .ok (.ifCond .ne 5, 3) := dk_154 0 5 (dk_at dksX0_end_0 9 rfl rfl)
theorem dX0_end_12 : decode cX0_end 12 = .ok (.iconst 0, 1) := dk_3 (dk_at dksX0_end_0 12 rfl rfl)
theorem dX0_end_13 : decode cX0_end 13 = .ok (.ireturn, 1) := dk_172 (dk_at dksX0_end_0 13 rfl rfl)
theorem dX0_end_14 : decode cX0_end 14 = .ok (.aload_n 0, 1) := dk_42 (dk_at dksX0_end_0 14 rfl rfl)
theorem dX0_end_15 : decode cX0_end 15 = .ok (.iload_n 1, 1) := dk_27 (dk_at dksX0_end_0 15 rfl rfl)
theorem dX0_end_16 : decode cX0_end 16 = .ok (.putfield 338, 3) := dk_181 1 82 (dk_at dksX0_end_0 16 rfl rfl)
theorem dX0_end_19 : decode cX0_end 19 = .ok (.iconst 1, 1) := dk_4 (dk_at dksX0_end_0 19 rfl rfl)
theorem dX0_end_20 : decode cX0_end 20 = .ok (.ireturn, 1) := dk_172 (dk_at dksX0_end_0 20 rfl rfl)
abbrev cX0_fault : ByteArray := prog_1_method_35_code
def yX0_fault : MethodName := ⟨RX0, "fault", "()I"⟩
def dkwX0_fault_0 : List UInt8 := [42, 180, 0, 81, 42, 180, 0, 74, 42, 180, 1, 82, 182, 1, 88, 87, 2, 172, 76, 43, 180, 1, 94, 172]
abbrev dktX0_fault_0 : List UInt8 := dkwX0_fault_0 ++ []
theorem dksX0_fault_0 : cX0_fault.data.toList.drop 0 = dktX0_fault_0 := by decide +kernel
theorem dX0_fault_0 : decode cX0_fault 0 = .ok (.aload_n 0, 1) := dk_42 (dk_at dksX0_fault_0 0 rfl rfl)
theorem dX0_fault_1 : decode cX0_fault 1 = .ok (.getfield 81, 3) := dk_180 0 81 (dk_at dksX0_fault_0 1 rfl rfl)
theorem dX0_fault_4 : decode cX0_fault 4 = .ok (.aload_n 0, 1) := dk_42 (dk_at dksX0_fault_0 4 rfl rfl)
theorem dX0_fault_5 : decode cX0_fault 5 = .ok (.getfield 74, 3) := dk_180 0 74 (dk_at dksX0_fault_0 5 rfl rfl)
theorem dX0_fault_8 : decode cX0_fault 8 = .ok (.aload_n 0, 1) := dk_42 (dk_at dksX0_fault_0 8 rfl rfl)
theorem dX0_fault_9 : decode cX0_fault 9 = .ok (.getfield 338, 3) := dk_180 1 82 (dk_at dksX0_fault_0 9 rfl rfl)
theorem dX0_fault_12 : decode cX0_fault 12 = .ok (.invokevirtual 344, 3) := dk_182 1 88 (dk_at dksX0_fault_0 12 rfl rfl)
theorem dX0_fault_15 : decode cX0_fault 15 = .ok (.pop, 1) := dk_87 (dk_at dksX0_fault_0 15 rfl rfl)
theorem dX0_fault_16 : decode cX0_fault 16 = .ok (.iconst (-1), 1) := dk_2 (dk_at dksX0_fault_0 16 rfl rfl)
theorem dX0_fault_17 : decode cX0_fault 17 = .ok (.ireturn, 1) := dk_172 (dk_at dksX0_fault_0 17 rfl rfl)
theorem dX0_fault_18 : decode cX0_fault 18 = .ok (.astore_n 1, 1) := dk_76 (dk_at dksX0_fault_0 18 rfl rfl)
theorem dX0_fault_19 : decode cX0_fault 19 = .ok (.aload_n 1, 1) := dk_43 (dk_at dksX0_fault_0 19 rfl rfl)
theorem dX0_fault_20 : decode cX0_fault 20 = .ok (.getfield 350, 3) := dk_180 1 94 (dk_at dksX0_fault_0 20 rfl rfl)
theorem dX0_fault_23 : decode cX0_fault 23 = .ok (.ireturn, 1) := dk_172 (dk_at dksX0_fault_0 23 rfl rfl)
abbrev cX0_sheet : ByteArray := prog_1_method_36_code
def yX0_sheet : MethodName := ⟨RX0, "sheet", "()I"⟩
def dkwX0_sheet_2 : List UInt8 := [181, 1, 97, 42, 3, 181, 1, 82, 42, 180, 1, 97, 4, 100, 172]
abbrev dktX0_sheet_2 : List UInt8 := dkwX0_sheet_2 ++ []
def dkwX0_sheet_1 : List UInt8 := [180, 0, 74, 42, 180, 1, 82, 182, 1, 88, 83, 167, 0, 6, 76, 2, 172, 42, 89, 180, 1, 97, 4, 96]
abbrev dktX0_sheet_1 : List UInt8 := dkwX0_sheet_1 ++ dktX0_sheet_2
def dkwX0_sheet_0 : List UInt8 := [42, 180, 1, 97, 16, 8, 160, 0, 5, 2, 172, 42, 180, 0, 48, 42, 180, 1, 97, 42, 180, 0, 81, 42]
abbrev dktX0_sheet_0 : List UInt8 := dkwX0_sheet_0 ++ dktX0_sheet_1
theorem dksX0_sheet_0 : cX0_sheet.data.toList.drop 0 = dktX0_sheet_0 := by decide +kernel
theorem dksX0_sheet_1 : cX0_sheet.data.toList.drop 24 = dktX0_sheet_1 := dk_seg dksX0_sheet_0 24 rfl rfl
theorem dksX0_sheet_2 : cX0_sheet.data.toList.drop 48 = dktX0_sheet_2 := dk_seg dksX0_sheet_1 24 rfl rfl
theorem dX0_sheet_0 : decode cX0_sheet 0 = .ok (.aload_n 0, 1) := dk_42 (dk_at dksX0_sheet_0 0 rfl rfl)
theorem dX0_sheet_1 : decode cX0_sheet 1 = .ok (.getfield 353, 3) := dk_180 1 97 (dk_at dksX0_sheet_0 1 rfl rfl)
theorem dX0_sheet_4 : decode cX0_sheet 4 = .ok (.bipush 8, 2) := dk_16 8 (dk_at dksX0_sheet_0 4 rfl rfl)
theorem dX0_sheet_6 : decode cX0_sheet 6 = .ok (.if_icmp .ne 5, 3) := dk_160 0 5 (dk_at dksX0_sheet_0 6 rfl rfl)
theorem dX0_sheet_9 : decode cX0_sheet 9 = .ok (.iconst (-1), 1) := dk_2 (dk_at dksX0_sheet_0 9 rfl rfl)
theorem dX0_sheet_10 : decode cX0_sheet 10 = .ok (.ireturn, 1) := dk_172 (dk_at dksX0_sheet_0 10 rfl rfl)
theorem dX0_sheet_11 : decode cX0_sheet 11 = .ok (.aload_n 0, 1) := dk_42 (dk_at dksX0_sheet_0 11 rfl rfl)
theorem dX0_sheet_12 : decode cX0_sheet 12 = .ok (.getfield 48, 3) := dk_180 0 48 (dk_at dksX0_sheet_0 12 rfl rfl)
theorem dX0_sheet_15 : decode cX0_sheet 15 = .ok (.aload_n 0, 1) := dk_42 (dk_at dksX0_sheet_0 15 rfl rfl)
theorem dX0_sheet_16 : decode cX0_sheet 16 = .ok (.getfield 353, 3) := dk_180 1 97 (dk_at dksX0_sheet_0 16 rfl rfl)
theorem dX0_sheet_19 : decode cX0_sheet 19 = .ok (.aload_n 0, 1) := dk_42 (dk_at dksX0_sheet_0 19 rfl rfl)
theorem dX0_sheet_20 : decode cX0_sheet 20 = .ok (.getfield 81, 3) := dk_180 0 81 (dk_at dksX0_sheet_0 20 rfl rfl)
theorem dX0_sheet_23 : decode cX0_sheet 23 = .ok (.aload_n 0, 1) := dk_42 (dk_at dksX0_sheet_0 23 rfl rfl)
theorem dX0_sheet_24 : decode cX0_sheet 24 = .ok (.getfield 74, 3) := dk_180 0 74 (dk_at dksX0_sheet_1 0 rfl rfl)
theorem dX0_sheet_27 : decode cX0_sheet 27 = .ok (.aload_n 0, 1) := dk_42 (dk_at dksX0_sheet_1 3 rfl rfl)
theorem dX0_sheet_28 : decode cX0_sheet 28 = .ok (.getfield 338, 3) := dk_180 1 82 (dk_at dksX0_sheet_1 4 rfl rfl)
theorem dX0_sheet_31 : decode cX0_sheet 31 = .ok (.invokevirtual 344, 3) := dk_182 1 88 (dk_at dksX0_sheet_1 7 rfl rfl)
theorem dX0_sheet_34 : decode cX0_sheet 34 = .ok (.aastore, 1) := dk_83 (dk_at dksX0_sheet_1 10 rfl rfl)
theorem dX0_sheet_35 : decode cX0_sheet 35 = .ok (.goto 6, 3) := dk_167 0 6 (dk_at dksX0_sheet_1 11 rfl rfl)
theorem dX0_sheet_38 : decode cX0_sheet 38 = .ok (.astore_n 1, 1) := dk_76 (dk_at dksX0_sheet_1 14 rfl rfl)
theorem dX0_sheet_39 : decode cX0_sheet 39 = .ok (.iconst (-1), 1) := dk_2 (dk_at dksX0_sheet_1 15 rfl rfl)
theorem dX0_sheet_40 : decode cX0_sheet 40 = .ok (.ireturn, 1) := dk_172 (dk_at dksX0_sheet_1 16 rfl rfl)
theorem dX0_sheet_41 : decode cX0_sheet 41 = .ok (.aload_n 0, 1) := dk_42 (dk_at dksX0_sheet_1 17 rfl rfl)
theorem dX0_sheet_42 : decode cX0_sheet 42 = .ok (.dup, 1) := dk_89 (dk_at dksX0_sheet_1 18 rfl rfl)
theorem dX0_sheet_43 : decode cX0_sheet 43 = .ok (.getfield 353, 3) := dk_180 1 97 (dk_at dksX0_sheet_1 19 rfl rfl)
theorem dX0_sheet_46 : decode cX0_sheet 46 = .ok (.iconst 1, 1) := dk_4 (dk_at dksX0_sheet_1 22 rfl rfl)
theorem dX0_sheet_47 : decode cX0_sheet 47 = .ok (.iadd, 1) := dk_96 (dk_at dksX0_sheet_1 23 rfl rfl)
theorem dX0_sheet_48 : decode cX0_sheet 48 = .ok (.putfield 353, 3) := dk_181 1 97 (dk_at dksX0_sheet_2 0 rfl rfl)
theorem dX0_sheet_51 : decode cX0_sheet 51 = .ok (.aload_n 0, 1) := dk_42 (dk_at dksX0_sheet_2 3 rfl rfl)
theorem dX0_sheet_52 : decode cX0_sheet 52 = .ok (.iconst 0, 1) := dk_3 (dk_at dksX0_sheet_2 4 rfl rfl)
theorem dX0_sheet_53 : decode cX0_sheet 53 = .ok (.putfield 338, 3) := dk_181 1 82 (dk_at dksX0_sheet_2 5 rfl rfl)
theorem dX0_sheet_56 : decode cX0_sheet 56 = .ok (.aload_n 0, 1) := dk_42 (dk_at dksX0_sheet_2 8 rfl rfl)
theorem dX0_sheet_57 : decode cX0_sheet 57 = .ok (.getfield 353, 3) := dk_180 1 97 (dk_at dksX0_sheet_2 9 rfl rfl)
theorem dX0_sheet_60 : decode cX0_sheet 60 = .ok (.iconst 1, 1) := dk_4 (dk_at dksX0_sheet_2 12 rfl rfl)
theorem dX0_sheet_61 : decode cX0_sheet 61 = .ok (.isub, 1) := dk_100 (dk_at dksX0_sheet_2 13 rfl rfl)
theorem dX0_sheet_62 : decode cX0_sheet 62 = .ok (.ireturn, 1) := dk_172 (dk_at dksX0_sheet_2 14 rfl rfl)
abbrev cX0_force : ByteArray := prog_1_method_37_code
def yX0_force : MethodName := ⟨RX0, "force", "(II)I"⟩
def dkwX0_force_3 : List UInt8 := [181, 1, 100, 42, 180, 1, 100, 172]
abbrev dktX0_force_3 : List UInt8 := dkwX0_force_3 ++ []
def dkwX0_force_2 : List UInt8 := [180, 1, 100, 27, 79, 42, 180, 0, 56, 42, 180, 1, 100, 28, 79, 42, 89, 180, 1, 100, 4, 96]
abbrev dktX0_force_2 : List UInt8 := dkwX0_force_2 ++ dktX0_force_3
def dkwX0_force_1 : List UInt8 := [184, 0, 116, 153, 0, 12, 42, 180, 1, 100, 16, 12, 160, 0, 5, 2, 172, 42, 180, 0, 52, 42]
abbrev dktX0_force_1 : List UInt8 := dkwX0_force_1 ++ dktX0_force_2
def dkwX0_force_0 : List UInt8 := [27, 3, 42, 180, 1, 97, 4, 100, 184, 0, 116, 153, 0, 26, 28, 42, 180, 0, 151, 17, 0, 155]
abbrev dktX0_force_0 : List UInt8 := dkwX0_force_0 ++ dktX0_force_1
theorem dksX0_force_0 : cX0_force.data.toList.drop 0 = dktX0_force_0 := by decide +kernel
theorem dksX0_force_1 : cX0_force.data.toList.drop 22 = dktX0_force_1 := dk_seg dksX0_force_0 22 rfl rfl
theorem dksX0_force_2 : cX0_force.data.toList.drop 44 = dktX0_force_2 := dk_seg dksX0_force_1 22 rfl rfl
theorem dksX0_force_3 : cX0_force.data.toList.drop 66 = dktX0_force_3 := dk_seg dksX0_force_2 22 rfl rfl
theorem dX0_force_0 : decode cX0_force 0 = .ok (.iload_n 1, 1) := dk_27 (dk_at dksX0_force_0 0 rfl rfl)
theorem dX0_force_1 : decode cX0_force 1 = .ok (.iconst 0, 1) := dk_3 (dk_at dksX0_force_0 1 rfl rfl)
theorem dX0_force_2 : decode cX0_force 2 = .ok (.aload_n 0, 1) := dk_42 (dk_at dksX0_force_0 2 rfl rfl)
theorem dX0_force_3 : decode cX0_force 3 = .ok (.getfield 353, 3) := dk_180 1 97 (dk_at dksX0_force_0 3 rfl rfl)
theorem dX0_force_6 : decode cX0_force 6 = .ok (.iconst 1, 1) := dk_4 (dk_at dksX0_force_0 6 rfl rfl)
theorem dX0_force_7 : decode cX0_force 7 = .ok (.isub, 1) := dk_100 (dk_at dksX0_force_0 7 rfl rfl)
theorem dX0_force_8 : decode cX0_force 8 = .ok (.invokestatic 116, 3) := dk_184 0 116 (dk_at dksX0_force_0 8 rfl rfl)
theorem dX0_force_11 : decode cX0_force 11 = .ok (.ifCond .eq 26, 3) := dk_153 0 26 (dk_at dksX0_force_0 11 rfl rfl)
theorem dX0_force_14 : decode cX0_force 14 = .ok (.iload_n 2, 1) := dk_28 (dk_at dksX0_force_0 14 rfl rfl)
theorem dX0_force_15 : decode cX0_force 15 = .ok (.aload_n 0, 1) := dk_42 (dk_at dksX0_force_0 15 rfl rfl)
theorem dX0_force_16 : decode cX0_force 16 = .ok (.getfield 151, 3) := dk_180 0 151 (dk_at dksX0_force_0 16 rfl rfl)
theorem dX0_force_19 : decode cX0_force 19 = .ok (.sipush 155, 3) := dk_17 0 155 (dk_at dksX0_force_0 19 rfl rfl)
theorem dX0_force_22 : decode cX0_force 22 = .ok (.invokestatic 116, 3) := dk_184 0 116 (dk_at dksX0_force_1 0 rfl rfl)
theorem dX0_force_25 : decode cX0_force 25 = .ok (.ifCond .eq 12, 3) := dk_153 0 12 (dk_at dksX0_force_1 3 rfl rfl)
theorem dX0_force_28 : decode cX0_force 28 = .ok (.aload_n 0, 1) := dk_42 (dk_at dksX0_force_1 6 rfl rfl)
theorem dX0_force_29 : decode cX0_force 29 = .ok (.getfield 356, 3) := dk_180 1 100 (dk_at dksX0_force_1 7 rfl rfl)
theorem dX0_force_32 : decode cX0_force 32 = .ok (.bipush 12, 2) := dk_16 12 (dk_at dksX0_force_1 10 rfl rfl)
theorem dX0_force_34 : decode cX0_force 34 = .ok (.if_icmp .ne 5, 3) := dk_160 0 5 (dk_at dksX0_force_1 12 rfl rfl)
theorem dX0_force_37 : decode cX0_force 37 = .ok (.iconst (-1), 1) := dk_2 (dk_at dksX0_force_1 15 rfl rfl)
theorem dX0_force_38 : decode cX0_force 38 = .ok (.ireturn, 1) := dk_172 (dk_at dksX0_force_1 16 rfl rfl)
theorem dX0_force_39 : decode cX0_force 39 = .ok (.aload_n 0, 1) := dk_42 (dk_at dksX0_force_1 17 rfl rfl)
theorem dX0_force_40 : decode cX0_force 40 = .ok (.getfield 52, 3) := dk_180 0 52 (dk_at dksX0_force_1 18 rfl rfl)
theorem dX0_force_43 : decode cX0_force 43 = .ok (.aload_n 0, 1) := dk_42 (dk_at dksX0_force_1 21 rfl rfl)
theorem dX0_force_44 : decode cX0_force 44 = .ok (.getfield 356, 3) := dk_180 1 100 (dk_at dksX0_force_2 0 rfl rfl)
theorem dX0_force_47 : decode cX0_force 47 = .ok (.iload_n 1, 1) := dk_27 (dk_at dksX0_force_2 3 rfl rfl)
theorem dX0_force_48 : decode cX0_force 48 = .ok (.iastore, 1) := dk_79 (dk_at dksX0_force_2 4 rfl rfl)
theorem dX0_force_49 : decode cX0_force 49 = .ok (.aload_n 0, 1) := dk_42 (dk_at dksX0_force_2 5 rfl rfl)
theorem dX0_force_50 : decode cX0_force 50 = .ok (.getfield 56, 3) := dk_180 0 56 (dk_at dksX0_force_2 6 rfl rfl)
theorem dX0_force_53 : decode cX0_force 53 = .ok (.aload_n 0, 1) := dk_42 (dk_at dksX0_force_2 9 rfl rfl)
theorem dX0_force_54 : decode cX0_force 54 = .ok (.getfield 356, 3) := dk_180 1 100 (dk_at dksX0_force_2 10 rfl rfl)
theorem dX0_force_57 : decode cX0_force 57 = .ok (.iload_n 2, 1) := dk_28 (dk_at dksX0_force_2 13 rfl rfl)
theorem dX0_force_58 : decode cX0_force 58 = .ok (.iastore, 1) := dk_79 (dk_at dksX0_force_2 14 rfl rfl)
theorem dX0_force_59 : decode cX0_force 59 = .ok (.aload_n 0, 1) := dk_42 (dk_at dksX0_force_2 15 rfl rfl)
theorem dX0_force_60 : decode cX0_force 60 = .ok (.dup, 1) := dk_89 (dk_at dksX0_force_2 16 rfl rfl)
theorem dX0_force_61 : decode cX0_force 61 = .ok (.getfield 356, 3) := dk_180 1 100 (dk_at dksX0_force_2 17 rfl rfl)
theorem dX0_force_64 : decode cX0_force 64 = .ok (.iconst 1, 1) := dk_4 (dk_at dksX0_force_2 20 rfl rfl)
theorem dX0_force_65 : decode cX0_force 65 = .ok (.iadd, 1) := dk_96 (dk_at dksX0_force_2 21 rfl rfl)
theorem dX0_force_66 : decode cX0_force 66 = .ok (.putfield 356, 3) := dk_181 1 100 (dk_at dksX0_force_3 0 rfl rfl)
theorem dX0_force_69 : decode cX0_force 69 = .ok (.aload_n 0, 1) := dk_42 (dk_at dksX0_force_3 3 rfl rfl)
theorem dX0_force_70 : decode cX0_force 70 = .ok (.getfield 356, 3) := dk_180 1 100 (dk_at dksX0_force_3 4 rfl rfl)
theorem dX0_force_73 : decode cX0_force 73 = .ok (.ireturn, 1) := dk_172 (dk_at dksX0_force_3 7 rfl rfl)
abbrev cX0_why : ByteArray := prog_1_method_39_code
def yX0_why : MethodName := ⟨RX0, "why", "(II)I"⟩
def dkwX0_why_1 : List UInt8 := [182, 1, 107, 167, 0, 4, 2, 172]
abbrev dktX0_why_1 : List UInt8 := dkwX0_why_1 ++ []
def dkwX0_why_0 : List UInt8 := [27, 3, 7, 184, 0, 116, 153, 0, 23, 28, 3, 17, 0, 155, 184, 0, 116, 153, 0, 12, 42, 27, 28]
abbrev dktX0_why_0 : List UInt8 := dkwX0_why_0 ++ dktX0_why_1
theorem dksX0_why_0 : cX0_why.data.toList.drop 0 = dktX0_why_0 := by decide +kernel
theorem dksX0_why_1 : cX0_why.data.toList.drop 23 = dktX0_why_1 := dk_seg dksX0_why_0 23 rfl rfl
theorem dX0_why_0 : decode cX0_why 0 = .ok (.iload_n 1, 1) := dk_27 (dk_at dksX0_why_0 0 rfl rfl)
theorem dX0_why_1 : decode cX0_why 1 = .ok (.iconst 0, 1) := dk_3 (dk_at dksX0_why_0 1 rfl rfl)
theorem dX0_why_2 : decode cX0_why 2 = .ok (.iconst 4, 1) := dk_7 (dk_at dksX0_why_0 2 rfl rfl)
theorem dX0_why_3 : decode cX0_why 3 = .ok (.invokestatic 116, 3) := dk_184 0 116 (dk_at dksX0_why_0 3 rfl rfl)
theorem dX0_why_6 : decode cX0_why 6 = .ok (.ifCond .eq 23, 3) := dk_153 0 23 (dk_at dksX0_why_0 6 rfl rfl)
theorem dX0_why_9 : decode cX0_why 9 = .ok (.iload_n 2, 1) := dk_28 (dk_at dksX0_why_0 9 rfl rfl)
theorem dX0_why_10 : decode cX0_why 10 = .ok (.iconst 0, 1) := dk_3 (dk_at dksX0_why_0 10 rfl rfl)
theorem dX0_why_11 : decode cX0_why 11 = .ok (.sipush 155, 3) := dk_17 0 155 (dk_at dksX0_why_0 11 rfl rfl)
theorem dX0_why_14 : decode cX0_why 14 = .ok (.invokestatic 116, 3) := dk_184 0 116 (dk_at dksX0_why_0 14 rfl rfl)
theorem dX0_why_17 : decode cX0_why 17 = .ok (.ifCond .eq 12, 3) := dk_153 0 12 (dk_at dksX0_why_0 17 rfl rfl)
theorem dX0_why_20 : decode cX0_why 20 = .ok (.aload_n 0, 1) := dk_42 (dk_at dksX0_why_0 20 rfl rfl)
theorem dX0_why_21 : decode cX0_why 21 = .ok (.iload_n 1, 1) := dk_27 (dk_at dksX0_why_0 21 rfl rfl)
theorem dX0_why_22 : decode cX0_why 22 = .ok (.iload_n 2, 1) := dk_28 (dk_at dksX0_why_0 22 rfl rfl)
theorem dX0_why_23 : decode cX0_why 23 = .ok (.invokevirtual 363, 3) := dk_182 1 107 (dk_at dksX0_why_1 0 rfl rfl)
theorem dX0_why_26 : decode cX0_why 26 = .ok (.goto 4, 3) := dk_167 0 4 (dk_at dksX0_why_1 3 rfl rfl)
theorem dX0_why_29 : decode cX0_why 29 = .ok (.iconst (-1), 1) := dk_2 (dk_at dksX0_why_1 6 rfl rfl)
theorem dX0_why_30 : decode cX0_why 30 = .ok (.ireturn, 1) := dk_172 (dk_at dksX0_why_1 7 rfl rfl)
abbrev cX0_pay : ByteArray := prog_1_method_46_code
def yX0_pay : MethodName := ⟨RX0, "pay", "(III)I"⟩
def dkwX0_pay_4 : List UInt8 := [180, 0, 205, 25, 4, 180, 1, 134, 100, 172]
abbrev dktX0_pay_4 : List UInt8 := dkwX0_pay_4 ++ []
def dkwX0_pay_3 : List UInt8 := [25, 5, 180, 1, 65, 25, 4, 165, 0, 14, 25, 4, 89, 180, 1, 137, 29, 96, 181, 1, 137, 25, 4]
abbrev dktX0_pay_3 : List UInt8 := dkwX0_pay_3 ++ dktX0_pay_4
def dkwX0_pay_2 : List UInt8 := [181, 1, 52, 25, 4, 89, 180, 1, 134, 29, 96, 181, 1, 134, 42, 89, 180, 1, 55, 29, 96, 181, 1, 55]
abbrev dktX0_pay_2 : List UInt8 := dkwX0_pay_2 ++ dktX0_pay_3
def dkwX0_pay_1 : List UInt8 := [29, 4, 25, 5, 180, 1, 52, 184, 0, 116, 154, 0, 6, 18, 176, 172, 25, 5, 89, 180, 1, 52, 29, 100]
abbrev dktX0_pay_1 : List UInt8 := dkwX0_pay_1 ++ dktX0_pay_2
def dkwX0_pay_0 : List UInt8 := [42, 27, 182, 0, 157, 58, 4, 42, 28, 182, 1, 61, 58, 5, 25, 4, 198, 0, 21, 25, 5, 198, 0, 16]
abbrev dktX0_pay_0 : List UInt8 := dkwX0_pay_0 ++ dktX0_pay_1
theorem dksX0_pay_0 : cX0_pay.data.toList.drop 0 = dktX0_pay_0 := by decide +kernel
theorem dksX0_pay_1 : cX0_pay.data.toList.drop 24 = dktX0_pay_1 := dk_seg dksX0_pay_0 24 rfl rfl
theorem dksX0_pay_2 : cX0_pay.data.toList.drop 48 = dktX0_pay_2 := dk_seg dksX0_pay_1 24 rfl rfl
theorem dksX0_pay_3 : cX0_pay.data.toList.drop 72 = dktX0_pay_3 := dk_seg dksX0_pay_2 24 rfl rfl
theorem dksX0_pay_4 : cX0_pay.data.toList.drop 95 = dktX0_pay_4 := dk_seg dksX0_pay_3 23 rfl rfl
theorem dX0_pay_0 : decode cX0_pay 0 = .ok (.aload_n 0, 1) := dk_42 (dk_at dksX0_pay_0 0 rfl rfl)
theorem dX0_pay_1 : decode cX0_pay 1 = .ok (.iload_n 1, 1) := dk_27 (dk_at dksX0_pay_0 1 rfl rfl)
theorem dX0_pay_2 : decode cX0_pay 2 = .ok (.invokevirtual 157, 3) := dk_182 0 157 (dk_at dksX0_pay_0 2 rfl rfl)
theorem dX0_pay_5 : decode cX0_pay 5 = .ok (.astore 4, 2) := dk_58 4 (dk_at dksX0_pay_0 5 rfl rfl)
theorem dX0_pay_7 : decode cX0_pay 7 = .ok (.aload_n 0, 1) := dk_42 (dk_at dksX0_pay_0 7 rfl rfl)
theorem dX0_pay_8 : decode cX0_pay 8 = .ok (.iload_n 2, 1) := dk_28 (dk_at dksX0_pay_0 8 rfl rfl)
theorem dX0_pay_9 : decode cX0_pay 9 = .ok (.invokevirtual 317, 3) := dk_182 1 61 (dk_at dksX0_pay_0 9 rfl rfl)
theorem dX0_pay_12 : decode cX0_pay 12 = .ok (.astore 5, 2) := dk_58 5 (dk_at dksX0_pay_0 12 rfl rfl)
theorem dX0_pay_14 : decode cX0_pay 14 = .ok (.aload 4, 2) := dk_25 4 (dk_at dksX0_pay_0 14 rfl rfl)
theorem dX0_pay_16 : decode cX0_pay 16 = .ok (.ifnull 21, 3) := dk_198 0 21 (dk_at dksX0_pay_0 16 rfl rfl)
theorem dX0_pay_19 : decode cX0_pay 19 = .ok (.aload 5, 2) := dk_25 5 (dk_at dksX0_pay_0 19 rfl rfl)
theorem dX0_pay_21 : decode cX0_pay 21 = .ok (.ifnull 16, 3) := dk_198 0 16 (dk_at dksX0_pay_0 21 rfl rfl)
theorem dX0_pay_24 : decode cX0_pay 24 = .ok (.iload_n 3, 1) := dk_29 (dk_at dksX0_pay_1 0 rfl rfl)
theorem dX0_pay_25 : decode cX0_pay 25 = .ok (.iconst 1, 1) := dk_4 (dk_at dksX0_pay_1 1 rfl rfl)
theorem dX0_pay_26 : decode cX0_pay 26 = .ok (.aload 5, 2) := dk_25 5 (dk_at dksX0_pay_1 2 rfl rfl)
theorem dX0_pay_28 : decode cX0_pay 28 = .ok (.getfield 308, 3) := dk_180 1 52 (dk_at dksX0_pay_1 4 rfl rfl)
theorem dX0_pay_31 : decode cX0_pay 31 = .ok (.invokestatic 116, 3) := dk_184 0 116 (dk_at dksX0_pay_1 7 rfl rfl)
theorem dX0_pay_34 : decode cX0_pay 34 = .ok (.ifCond .ne 6, 3) := dk_154 0 6 (dk_at dksX0_pay_1 10 rfl rfl)
theorem dX0_pay_37 : decode cX0_pay 37 = .ok (.ldc 176, 2) := dk_18 176 (dk_at dksX0_pay_1 13 rfl rfl)
theorem dX0_pay_39 : decode cX0_pay 39 = .ok (.ireturn, 1) := dk_172 (dk_at dksX0_pay_1 15 rfl rfl)
theorem dX0_pay_40 : decode cX0_pay 40 = .ok (.aload 5, 2) := dk_25 5 (dk_at dksX0_pay_1 16 rfl rfl)
theorem dX0_pay_42 : decode cX0_pay 42 = .ok (.dup, 1) := dk_89 (dk_at dksX0_pay_1 18 rfl rfl)
theorem dX0_pay_43 : decode cX0_pay 43 = .ok (.getfield 308, 3) := dk_180 1 52 (dk_at dksX0_pay_1 19 rfl rfl)
theorem dX0_pay_46 : decode cX0_pay 46 = .ok (.iload_n 3, 1) := dk_29 (dk_at dksX0_pay_1 22 rfl rfl)
theorem dX0_pay_47 : decode cX0_pay 47 = .ok (.isub, 1) := dk_100 (dk_at dksX0_pay_1 23 rfl rfl)
theorem dX0_pay_48 : decode cX0_pay 48 = .ok (.putfield 308, 3) := dk_181 1 52 (dk_at dksX0_pay_2 0 rfl rfl)
theorem dX0_pay_51 : decode cX0_pay 51 = .ok (.aload 4, 2) := dk_25 4 (dk_at dksX0_pay_2 3 rfl rfl)
theorem dX0_pay_53 : decode cX0_pay 53 = .ok (.dup, 1) := dk_89 (dk_at dksX0_pay_2 5 rfl rfl)
theorem dX0_pay_54 : decode cX0_pay 54 = .ok (.getfield 390, 3) := dk_180 1 134 (dk_at dksX0_pay_2 6 rfl rfl)
theorem dX0_pay_57 : decode cX0_pay 57 = .ok (.iload_n 3, 1) := dk_29 (dk_at dksX0_pay_2 9 rfl rfl)
theorem dX0_pay_58 : decode cX0_pay 58 = .ok (.iadd, 1) := dk_96 (dk_at dksX0_pay_2 10 rfl rfl)
theorem dX0_pay_59 : decode cX0_pay 59 = .ok (.putfield 390, 3) := dk_181 1 134 (dk_at dksX0_pay_2 11 rfl rfl)
theorem dX0_pay_62 : decode cX0_pay 62 = .ok (.aload_n 0, 1) := dk_42 (dk_at dksX0_pay_2 14 rfl rfl)
theorem dX0_pay_63 : decode cX0_pay 63 = .ok (.dup, 1) := dk_89 (dk_at dksX0_pay_2 15 rfl rfl)
theorem dX0_pay_64 : decode cX0_pay 64 = .ok (.getfield 311, 3) := dk_180 1 55 (dk_at dksX0_pay_2 16 rfl rfl)
theorem dX0_pay_67 : decode cX0_pay 67 = .ok (.iload_n 3, 1) := dk_29 (dk_at dksX0_pay_2 19 rfl rfl)
theorem dX0_pay_68 : decode cX0_pay 68 = .ok (.iadd, 1) := dk_96 (dk_at dksX0_pay_2 20 rfl rfl)
theorem dX0_pay_69 : decode cX0_pay 69 = .ok (.putfield 311, 3) := dk_181 1 55 (dk_at dksX0_pay_2 21 rfl rfl)
theorem dX0_pay_72 : decode cX0_pay 72 = .ok (.aload 5, 2) := dk_25 5 (dk_at dksX0_pay_3 0 rfl rfl)
theorem dX0_pay_74 : decode cX0_pay 74 = .ok (.getfield 321, 3) := dk_180 1 65 (dk_at dksX0_pay_3 2 rfl rfl)
theorem dX0_pay_77 : decode cX0_pay 77 = .ok (.aload 4, 2) := dk_25 4 (dk_at dksX0_pay_3 5 rfl rfl)
theorem dX0_pay_79 : decode cX0_pay 79 = .ok (.if_acmp .eq 14, 3) := dk_165 0 14 (dk_at dksX0_pay_3 7 rfl rfl)
theorem dX0_pay_82 : decode cX0_pay 82 = .ok (.aload 4, 2) := dk_25 4 (dk_at dksX0_pay_3 10 rfl rfl)
theorem dX0_pay_84 : decode cX0_pay 84 = .ok (.dup, 1) := dk_89 (dk_at dksX0_pay_3 12 rfl rfl)
theorem dX0_pay_85 : decode cX0_pay 85 = .ok (.getfield 393, 3) := dk_180 1 137 (dk_at dksX0_pay_3 13 rfl rfl)
theorem dX0_pay_88 : decode cX0_pay 88 = .ok (.iload_n 3, 1) := dk_29 (dk_at dksX0_pay_3 16 rfl rfl)
theorem dX0_pay_89 : decode cX0_pay 89 = .ok (.iadd, 1) := dk_96 (dk_at dksX0_pay_3 17 rfl rfl)
theorem dX0_pay_90 : decode cX0_pay 90 = .ok (.putfield 393, 3) := dk_181 1 137 (dk_at dksX0_pay_3 18 rfl rfl)
theorem dX0_pay_93 : decode cX0_pay 93 = .ok (.aload 4, 2) := dk_25 4 (dk_at dksX0_pay_3 21 rfl rfl)
theorem dX0_pay_95 : decode cX0_pay 95 = .ok (.getfield 205, 3) := dk_180 0 205 (dk_at dksX0_pay_4 0 rfl rfl)
theorem dX0_pay_98 : decode cX0_pay 98 = .ok (.aload 4, 2) := dk_25 4 (dk_at dksX0_pay_4 3 rfl rfl)
theorem dX0_pay_100 : decode cX0_pay 100 = .ok (.getfield 390, 3) := dk_180 1 134 (dk_at dksX0_pay_4 5 rfl rfl)
theorem dX0_pay_103 : decode cX0_pay 103 = .ok (.isub, 1) := dk_100 (dk_at dksX0_pay_4 8 rfl rfl)
theorem dX0_pay_104 : decode cX0_pay 104 = .ok (.ireturn, 1) := dk_172 (dk_at dksX0_pay_4 9 rfl rfl)
abbrev cX0_due : ByteArray := prog_1_method_47_code
def yX0_due : MethodName := ⟨RX0, "due", "(II)I"⟩
def dkwX0_due_3 : List UInt8 := [180, 1, 134, 45, 180, 0, 234, 100, 184, 0, 212, 172, 45, 180, 1, 137, 172, 18, 176, 172]
abbrev dktX0_due_3 : List UInt8 := dkwX0_due_3 ++ []
def dkwX0_due_2 : List UInt8 := [45, 180, 0, 205, 45, 180, 1, 134, 100, 172, 45, 180, 1, 134, 172, 45, 180, 0, 234, 172, 3, 45]
abbrev dktX0_due_2 : List UInt8 := dkwX0_due_2 ++ dktX0_due_3
def dkwX0_due_1 : List UInt8 := [170, 0, 0, 0, 0, 73, 0, 0, 0, 0, 0, 0, 0, 4, 0, 0, 0, 34, 0, 0, 0, 44, 0, 0, 0, 49, 0, 0, 0, 54, 0, 0, 0, 68]
abbrev dktX0_due_1 : List UInt8 := dkwX0_due_1 ++ dktX0_due_2
def dkwX0_due_0 : List UInt8 := [42, 27, 182, 0, 157, 78, 45, 199, 0, 6, 18, 176, 172, 28]
abbrev dktX0_due_0 : List UInt8 := dkwX0_due_0 ++ dktX0_due_1
theorem dksX0_due_0 : cX0_due.data.toList.drop 0 = dktX0_due_0 := by decide +kernel
theorem dksX0_due_1 : cX0_due.data.toList.drop 14 = dktX0_due_1 := dk_seg dksX0_due_0 14 rfl rfl
theorem dksX0_due_2 : cX0_due.data.toList.drop 48 = dktX0_due_2 := dk_seg dksX0_due_1 34 rfl rfl
theorem dksX0_due_3 : cX0_due.data.toList.drop 70 = dktX0_due_3 := dk_seg dksX0_due_2 22 rfl rfl
theorem dX0_due_0 : decode cX0_due 0 = .ok (.aload_n 0, 1) := dk_42 (dk_at dksX0_due_0 0 rfl rfl)
theorem dX0_due_1 : decode cX0_due 1 = .ok (.iload_n 1, 1) := dk_27 (dk_at dksX0_due_0 1 rfl rfl)
theorem dX0_due_2 : decode cX0_due 2 = .ok (.invokevirtual 157, 3) := dk_182 0 157 (dk_at dksX0_due_0 2 rfl rfl)
theorem dX0_due_5 : decode cX0_due 5 = .ok (.astore_n 3, 1) := dk_78 (dk_at dksX0_due_0 5 rfl rfl)
theorem dX0_due_6 : decode cX0_due 6 = .ok (.aload_n 3, 1) := dk_45 (dk_at dksX0_due_0 6 rfl rfl)
theorem dX0_due_7 : decode cX0_due 7 = .ok (.ifnonnull 6, 3) := dk_199 0 6 (dk_at dksX0_due_0 7 rfl rfl)
theorem dX0_due_10 : decode cX0_due 10 = .ok (.ldc 176, 2) := dk_18 176 (dk_at dksX0_due_0 10 rfl rfl)
theorem dX0_due_12 : decode cX0_due 12 = .ok (.ireturn, 1) := dk_172 (dk_at dksX0_due_0 12 rfl rfl)
theorem dX0_due_13 : decode cX0_due 13 = .ok (.iload_n 2, 1) := dk_28 (dk_at dksX0_due_0 13 rfl rfl)
theorem dX0_due_14 : decode cX0_due 14 = .ok (.tableswitch 73 0 4 #[34, 44, 49, 54, 68], 34) := by decide +kernel
theorem dX0_due_48 : decode cX0_due 48 = .ok (.aload_n 3, 1) := dk_45 (dk_at dksX0_due_2 0 rfl rfl)
theorem dX0_due_49 : decode cX0_due 49 = .ok (.getfield 205, 3) := dk_180 0 205 (dk_at dksX0_due_2 1 rfl rfl)
theorem dX0_due_52 : decode cX0_due 52 = .ok (.aload_n 3, 1) := dk_45 (dk_at dksX0_due_2 4 rfl rfl)
theorem dX0_due_53 : decode cX0_due 53 = .ok (.getfield 390, 3) := dk_180 1 134 (dk_at dksX0_due_2 5 rfl rfl)
theorem dX0_due_56 : decode cX0_due 56 = .ok (.isub, 1) := dk_100 (dk_at dksX0_due_2 8 rfl rfl)
theorem dX0_due_57 : decode cX0_due 57 = .ok (.ireturn, 1) := dk_172 (dk_at dksX0_due_2 9 rfl rfl)
theorem dX0_due_58 : decode cX0_due 58 = .ok (.aload_n 3, 1) := dk_45 (dk_at dksX0_due_2 10 rfl rfl)
theorem dX0_due_59 : decode cX0_due 59 = .ok (.getfield 390, 3) := dk_180 1 134 (dk_at dksX0_due_2 11 rfl rfl)
theorem dX0_due_62 : decode cX0_due 62 = .ok (.ireturn, 1) := dk_172 (dk_at dksX0_due_2 14 rfl rfl)
theorem dX0_due_63 : decode cX0_due 63 = .ok (.aload_n 3, 1) := dk_45 (dk_at dksX0_due_2 15 rfl rfl)
theorem dX0_due_64 : decode cX0_due 64 = .ok (.getfield 234, 3) := dk_180 0 234 (dk_at dksX0_due_2 16 rfl rfl)
theorem dX0_due_67 : decode cX0_due 67 = .ok (.ireturn, 1) := dk_172 (dk_at dksX0_due_2 19 rfl rfl)
theorem dX0_due_68 : decode cX0_due 68 = .ok (.iconst 0, 1) := dk_3 (dk_at dksX0_due_2 20 rfl rfl)
theorem dX0_due_69 : decode cX0_due 69 = .ok (.aload_n 3, 1) := dk_45 (dk_at dksX0_due_2 21 rfl rfl)
theorem dX0_due_70 : decode cX0_due 70 = .ok (.getfield 390, 3) := dk_180 1 134 (dk_at dksX0_due_3 0 rfl rfl)
theorem dX0_due_73 : decode cX0_due 73 = .ok (.aload_n 3, 1) := dk_45 (dk_at dksX0_due_3 3 rfl rfl)
theorem dX0_due_74 : decode cX0_due 74 = .ok (.getfield 234, 3) := dk_180 0 234 (dk_at dksX0_due_3 4 rfl rfl)
theorem dX0_due_77 : decode cX0_due 77 = .ok (.isub, 1) := dk_100 (dk_at dksX0_due_3 7 rfl rfl)
theorem dX0_due_78 : decode cX0_due 78 = .ok (.invokestatic 212, 3) := dk_184 0 212 (dk_at dksX0_due_3 8 rfl rfl)
theorem dX0_due_81 : decode cX0_due 81 = .ok (.ireturn, 1) := dk_172 (dk_at dksX0_due_3 11 rfl rfl)
theorem dX0_due_82 : decode cX0_due 82 = .ok (.aload_n 3, 1) := dk_45 (dk_at dksX0_due_3 12 rfl rfl)
theorem dX0_due_83 : decode cX0_due 83 = .ok (.getfield 393, 3) := dk_180 1 137 (dk_at dksX0_due_3 13 rfl rfl)
theorem dX0_due_86 : decode cX0_due 86 = .ok (.ireturn, 1) := dk_172 (dk_at dksX0_due_3 16 rfl rfl)
theorem dX0_due_87 : decode cX0_due 87 = .ok (.ldc 176, 2) := dk_18 176 (dk_at dksX0_due_3 17 rfl rfl)
theorem dX0_due_89 : decode cX0_due 89 = .ok (.ireturn, 1) := dk_172 (dk_at dksX0_due_3 19 rfl rfl)
abbrev cX0_bar : ByteArray := prog_1_method_51_code
def yX0_bar : MethodName := ⟨RX0, "bar", "(III)I"⟩
def dkwX0_bar_1 : List UInt8 := [29, 184, 1, 155, 154, 0, 7, 2, 167, 0, 12, 42, 25, 4, 25, 5, 29, 182, 1, 158, 172]
abbrev dktX0_bar_1 : List UInt8 := dkwX0_bar_1 ++ []
def dkwX0_bar_0 : List UInt8 := [42, 27, 182, 0, 157, 58, 4, 42, 28, 182, 1, 61, 58, 5, 25, 4, 198, 0, 15, 25, 5, 198, 0, 10]
abbrev dktX0_bar_0 : List UInt8 := dkwX0_bar_0 ++ dktX0_bar_1
theorem dksX0_bar_0 : cX0_bar.data.toList.drop 0 = dktX0_bar_0 := by decide +kernel
theorem dksX0_bar_1 : cX0_bar.data.toList.drop 24 = dktX0_bar_1 := dk_seg dksX0_bar_0 24 rfl rfl
theorem dX0_bar_0 : decode cX0_bar 0 = .ok (.aload_n 0, 1) := dk_42 (dk_at dksX0_bar_0 0 rfl rfl)
theorem dX0_bar_1 : decode cX0_bar 1 = .ok (.iload_n 1, 1) := dk_27 (dk_at dksX0_bar_0 1 rfl rfl)
theorem dX0_bar_2 : decode cX0_bar 2 = .ok (.invokevirtual 157, 3) := dk_182 0 157 (dk_at dksX0_bar_0 2 rfl rfl)
theorem dX0_bar_5 : decode cX0_bar 5 = .ok (.astore 4, 2) := dk_58 4 (dk_at dksX0_bar_0 5 rfl rfl)
theorem dX0_bar_7 : decode cX0_bar 7 = .ok (.aload_n 0, 1) := dk_42 (dk_at dksX0_bar_0 7 rfl rfl)
theorem dX0_bar_8 : decode cX0_bar 8 = .ok (.iload_n 2, 1) := dk_28 (dk_at dksX0_bar_0 8 rfl rfl)
theorem dX0_bar_9 : decode cX0_bar 9 = .ok (.invokevirtual 317, 3) := dk_182 1 61 (dk_at dksX0_bar_0 9 rfl rfl)
theorem dX0_bar_12 : decode cX0_bar 12 = .ok (.astore 5, 2) := dk_58 5 (dk_at dksX0_bar_0 12 rfl rfl)
theorem dX0_bar_14 : decode cX0_bar 14 = .ok (.aload 4, 2) := dk_25 4 (dk_at dksX0_bar_0 14 rfl rfl)
theorem dX0_bar_16 : decode cX0_bar 16 = .ok (.ifnull 15, 3) := dk_198 0 15 (dk_at dksX0_bar_0 16 rfl rfl)
theorem dX0_bar_19 : decode cX0_bar 19 = .ok (.aload 5, 2) := dk_25 5 (dk_at dksX0_bar_0 19 rfl rfl)
theorem dX0_bar_21 : decode cX0_bar 21 = .ok (.ifnull 10, 3) := dk_198 0 10 (dk_at dksX0_bar_0 21 rfl rfl)
theorem dX0_bar_24 : decode cX0_bar 24 = .ok (.iload_n 3, 1) := dk_29 (dk_at dksX0_bar_1 0 rfl rfl)
theorem dX0_bar_25 : decode cX0_bar 25 = .ok (.invokestatic 411, 3) := dk_184 1 155 (dk_at dksX0_bar_1 1 rfl rfl)
theorem dX0_bar_28 : decode cX0_bar 28 = .ok (.ifCond .ne 7, 3) := dk_154 0 7 (dk_at dksX0_bar_1 4 rfl rfl)
theorem dX0_bar_31 : decode cX0_bar 31 = .ok (.iconst (-1), 1) := dk_2 (dk_at dksX0_bar_1 7 rfl rfl)
theorem dX0_bar_32 : decode cX0_bar 32 = .ok (.goto 12, 3) := dk_167 0 12 (dk_at dksX0_bar_1 8 rfl rfl)
theorem dX0_bar_35 : decode cX0_bar 35 = .ok (.aload_n 0, 1) := dk_42 (dk_at dksX0_bar_1 11 rfl rfl)
theorem dX0_bar_36 : decode cX0_bar 36 = .ok (.aload 4, 2) := dk_25 4 (dk_at dksX0_bar_1 12 rfl rfl)
theorem dX0_bar_38 : decode cX0_bar 38 = .ok (.aload 5, 2) := dk_25 5 (dk_at dksX0_bar_1 14 rfl rfl)
theorem dX0_bar_40 : decode cX0_bar 40 = .ok (.iload_n 3, 1) := dk_29 (dk_at dksX0_bar_1 16 rfl rfl)
theorem dX0_bar_41 : decode cX0_bar 41 = .ok (.invokevirtual 414, 3) := dk_182 1 158 (dk_at dksX0_bar_1 17 rfl rfl)
theorem dX0_bar_44 : decode cX0_bar 44 = .ok (.ireturn, 1) := dk_172 (dk_at dksX0_bar_1 20 rfl rfl)
abbrev cX0_canBeWoven : ByteArray := prog_1_method_49_code
def yX0_canBeWoven : MethodName := ⟨RX0, "canBeWoven", "(I)Z"⟩
def dkwX0_canBeWoven_0 : List UInt8 := [26, 5, 16, 100, 184, 0, 116, 153, 0, 13, 26, 5, 112, 154, 0, 7, 4, 167, 0, 4, 3, 172]
abbrev dktX0_canBeWoven_0 : List UInt8 := dkwX0_canBeWoven_0 ++ []
theorem dksX0_canBeWoven_0 : cX0_canBeWoven.data.toList.drop 0 = dktX0_canBeWoven_0 := by decide +kernel
theorem dX0_canBeWoven_0 : decode cX0_canBeWoven 0 = .ok (.iload_n 0, 1) := dk_26 (dk_at dksX0_canBeWoven_0 0 rfl rfl)
theorem dX0_canBeWoven_1 : decode cX0_canBeWoven 1 = .ok (.iconst 2, 1) := dk_5 (dk_at dksX0_canBeWoven_0 1 rfl rfl)
theorem dX0_canBeWoven_2 : decode cX0_canBeWoven 2 = .ok (.bipush 100, 2) := dk_16 100 (dk_at dksX0_canBeWoven_0 2 rfl rfl)
theorem dX0_canBeWoven_4 : decode cX0_canBeWoven 4 = .ok (.invokestatic 116, 3) := dk_184 0 116 (dk_at dksX0_canBeWoven_0 4 rfl rfl)
theorem dX0_canBeWoven_7 : decode cX0_canBeWoven 7 = .ok (.ifCond .eq 13, 3) := dk_153 0 13 (dk_at dksX0_canBeWoven_0 7 rfl rfl)
theorem dX0_canBeWoven_10 : decode cX0_canBeWoven 10 = .ok (.iload_n 0, 1) := dk_26 (dk_at dksX0_canBeWoven_0 10 rfl rfl)
theorem dX0_canBeWoven_11 : decode cX0_canBeWoven 11 = .ok (.iconst 2, 1) := dk_5 (dk_at dksX0_canBeWoven_0 11 rfl rfl)
theorem dX0_canBeWoven_12 : decode cX0_canBeWoven 12 = .ok (.irem, 1) := dk_112 (dk_at dksX0_canBeWoven_0 12 rfl rfl)
theorem dX0_canBeWoven_13 : decode cX0_canBeWoven 13 = .ok (.ifCond .ne 7, 3) := dk_154 0 7 (dk_at dksX0_canBeWoven_0 13 rfl rfl)
theorem dX0_canBeWoven_16 : decode cX0_canBeWoven 16 = .ok (.iconst 1, 1) := dk_4 (dk_at dksX0_canBeWoven_0 16 rfl rfl)
theorem dX0_canBeWoven_17 : decode cX0_canBeWoven 17 = .ok (.goto 4, 3) := dk_167 0 4 (dk_at dksX0_canBeWoven_0 17 rfl rfl)
theorem dX0_canBeWoven_20 : decode cX0_canBeWoven 20 = .ok (.iconst 0, 1) := dk_3 (dk_at dksX0_canBeWoven_0 20 rfl rfl)
theorem dX0_canBeWoven_21 : decode cX0_canBeWoven 21 = .ok (.ireturn, 1) := dk_172 (dk_at dksX0_canBeWoven_0 21 rfl rfl)
abbrev cX0_barAll : ByteArray := prog_1_method_50_code
def yX0_barAll : MethodName := ⟨RX0, "barAll", "(LWheelLand$House;LWheelLand$Lot;I)I"⟩
def dkwX0_barAll_2 : List UInt8 := [164, 0, 8, 16, 7, 167, 0, 4, 3, 172]
abbrev dktX0_barAll_2 : List UInt8 := dkwX0_barAll_2 ++ []
def dkwX0_barAll_1 : List UInt8 := [164, 0, 8, 16, 6, 167, 0, 28, 29, 43, 180, 0, 161, 180, 1, 154, 43, 180, 0, 161, 180, 0, 227, 100]
abbrev dktX0_barAll_1 : List UInt8 := dkwX0_barAll_1 ++ dktX0_barAll_2
def dkwX0_barAll_0 : List UInt8 := [42, 43, 44, 29, 182, 1, 150, 54, 4, 21, 4, 158, 0, 8, 21, 4, 167, 0, 41, 29, 44, 180, 1, 52]
abbrev dktX0_barAll_0 : List UInt8 := dkwX0_barAll_0 ++ dktX0_barAll_1
theorem dksX0_barAll_0 : cX0_barAll.data.toList.drop 0 = dktX0_barAll_0 := by decide +kernel
theorem dksX0_barAll_1 : cX0_barAll.data.toList.drop 24 = dktX0_barAll_1 := dk_seg dksX0_barAll_0 24 rfl rfl
theorem dksX0_barAll_2 : cX0_barAll.data.toList.drop 48 = dktX0_barAll_2 := dk_seg dksX0_barAll_1 24 rfl rfl
theorem dX0_barAll_0 : decode cX0_barAll 0 = .ok (.aload_n 0, 1) := dk_42 (dk_at dksX0_barAll_0 0 rfl rfl)
theorem dX0_barAll_1 : decode cX0_barAll 1 = .ok (.aload_n 1, 1) := dk_43 (dk_at dksX0_barAll_0 1 rfl rfl)
theorem dX0_barAll_2 : decode cX0_barAll 2 = .ok (.aload_n 2, 1) := dk_44 (dk_at dksX0_barAll_0 2 rfl rfl)
theorem dX0_barAll_3 : decode cX0_barAll 3 = .ok (.iload_n 3, 1) := dk_29 (dk_at dksX0_barAll_0 3 rfl rfl)
theorem dX0_barAll_4 : decode cX0_barAll 4 = .ok (.invokevirtual 406, 3) := dk_182 1 150 (dk_at dksX0_barAll_0 4 rfl rfl)
theorem dX0_barAll_7 : decode cX0_barAll 7 = .ok (.istore 4, 2) := dk_54 4 (dk_at dksX0_barAll_0 7 rfl rfl)
theorem dX0_barAll_9 : decode cX0_barAll 9 = .ok (.iload 4, 2) := dk_21 4 (dk_at dksX0_barAll_0 9 rfl rfl)
theorem dX0_barAll_11 : decode cX0_barAll 11 = .ok (.ifCond .le 8, 3) := dk_158 0 8 (dk_at dksX0_barAll_0 11 rfl rfl)
theorem dX0_barAll_14 : decode cX0_barAll 14 = .ok (.iload 4, 2) := dk_21 4 (dk_at dksX0_barAll_0 14 rfl rfl)
theorem dX0_barAll_16 : decode cX0_barAll 16 = .ok (.goto 41, 3) := dk_167 0 41 (dk_at dksX0_barAll_0 16 rfl rfl)
theorem dX0_barAll_19 : decode cX0_barAll 19 = .ok (.iload_n 3, 1) := dk_29 (dk_at dksX0_barAll_0 19 rfl rfl)
theorem dX0_barAll_20 : decode cX0_barAll 20 = .ok (.aload_n 2, 1) := dk_44 (dk_at dksX0_barAll_0 20 rfl rfl)
theorem dX0_barAll_21 : decode cX0_barAll 21 = .ok (.getfield 308, 3) := dk_180 1 52 (dk_at dksX0_barAll_0 21 rfl rfl)
theorem dX0_barAll_24 : decode cX0_barAll 24 = .ok (.if_icmp .le 8, 3) := dk_164 0 8 (dk_at dksX0_barAll_1 0 rfl rfl)
theorem dX0_barAll_27 : decode cX0_barAll 27 = .ok (.bipush 6, 2) := dk_16 6 (dk_at dksX0_barAll_1 3 rfl rfl)
theorem dX0_barAll_29 : decode cX0_barAll 29 = .ok (.goto 28, 3) := dk_167 0 28 (dk_at dksX0_barAll_1 5 rfl rfl)
theorem dX0_barAll_32 : decode cX0_barAll 32 = .ok (.iload_n 3, 1) := dk_29 (dk_at dksX0_barAll_1 8 rfl rfl)
theorem dX0_barAll_33 : decode cX0_barAll 33 = .ok (.aload_n 1, 1) := dk_43 (dk_at dksX0_barAll_1 9 rfl rfl)
theorem dX0_barAll_34 : decode cX0_barAll 34 = .ok (.getfield 161, 3) := dk_180 0 161 (dk_at dksX0_barAll_1 10 rfl rfl)
theorem dX0_barAll_37 : decode cX0_barAll 37 = .ok (.getfield 410, 3) := dk_180 1 154 (dk_at dksX0_barAll_1 13 rfl rfl)
theorem dX0_barAll_40 : decode cX0_barAll 40 = .ok (.aload_n 1, 1) := dk_43 (dk_at dksX0_barAll_1 16 rfl rfl)
theorem dX0_barAll_41 : decode cX0_barAll 41 = .ok (.getfield 161, 3) := dk_180 0 161 (dk_at dksX0_barAll_1 17 rfl rfl)
theorem dX0_barAll_44 : decode cX0_barAll 44 = .ok (.getfield 227, 3) := dk_180 0 227 (dk_at dksX0_barAll_1 20 rfl rfl)
theorem dX0_barAll_47 : decode cX0_barAll 47 = .ok (.isub, 1) := dk_100 (dk_at dksX0_barAll_1 23 rfl rfl)
theorem dX0_barAll_48 : decode cX0_barAll 48 = .ok (.if_icmp .le 8, 3) := dk_164 0 8 (dk_at dksX0_barAll_2 0 rfl rfl)
theorem dX0_barAll_51 : decode cX0_barAll 51 = .ok (.bipush 7, 2) := dk_16 7 (dk_at dksX0_barAll_2 3 rfl rfl)
theorem dX0_barAll_53 : decode cX0_barAll 53 = .ok (.goto 4, 3) := dk_167 0 4 (dk_at dksX0_barAll_2 5 rfl rfl)
theorem dX0_barAll_56 : decode cX0_barAll 56 = .ok (.iconst 0, 1) := dk_3 (dk_at dksX0_barAll_2 8 rfl rfl)
theorem dX0_barAll_57 : decode cX0_barAll 57 = .ok (.ireturn, 1) := dk_172 (dk_at dksX0_barAll_2 9 rfl rfl)
abbrev cX0_barOf : ByteArray := prog_1_method_48_code
def yX0_barOf : MethodName := ⟨RX0, "barOf", "(LWheelLand$House;LWheelLand$Lot;I)I"⟩
def dkwX0_barOf_3 : List UInt8 := [7, 172, 42, 6, 44, 43, 29, 182, 1, 146, 154, 0, 7, 8, 167, 0, 4, 3, 172]
abbrev dktX0_barOf_3 : List UInt8 := dkwX0_barOf_3 ++ []
def dkwX0_barOf_2 : List UInt8 := [162, 0, 5, 6, 172, 42, 44, 180, 1, 65, 180, 0, 240, 43, 180, 0, 240, 182, 0, 147, 2, 160, 0, 5]
abbrev dktX0_barOf_2 : List UInt8 := dkwX0_barOf_2 ++ dktX0_barOf_3
def dkwX0_barOf_1 : List UInt8 := [180, 1, 143, 184, 0, 116, 154, 0, 5, 5, 172, 44, 180, 1, 76, 44, 180, 1, 73, 16, 30, 96]
abbrev dktX0_barOf_1 : List UInt8 := dkwX0_barOf_1 ++ dktX0_barOf_2
def dkwX0_barOf_0 : List UInt8 := [43, 180, 0, 161, 199, 0, 5, 4, 172, 44, 180, 1, 73, 43, 180, 0, 161, 180, 1, 140, 43, 180, 0, 161]
abbrev dktX0_barOf_0 : List UInt8 := dkwX0_barOf_0 ++ dktX0_barOf_1
theorem dksX0_barOf_0 : cX0_barOf.data.toList.drop 0 = dktX0_barOf_0 := by decide +kernel
theorem dksX0_barOf_1 : cX0_barOf.data.toList.drop 24 = dktX0_barOf_1 := dk_seg dksX0_barOf_0 24 rfl rfl
theorem dksX0_barOf_2 : cX0_barOf.data.toList.drop 46 = dktX0_barOf_2 := dk_seg dksX0_barOf_1 22 rfl rfl
theorem dksX0_barOf_3 : cX0_barOf.data.toList.drop 70 = dktX0_barOf_3 := dk_seg dksX0_barOf_2 24 rfl rfl
theorem dX0_barOf_0 : decode cX0_barOf 0 = .ok (.aload_n 1, 1) := dk_43 (dk_at dksX0_barOf_0 0 rfl rfl)
theorem dX0_barOf_1 : decode cX0_barOf 1 = .ok (.getfield 161, 3) := dk_180 0 161 (dk_at dksX0_barOf_0 1 rfl rfl)
theorem dX0_barOf_4 : decode cX0_barOf 4 = .ok (.ifnonnull 5, 3) := dk_199 0 5 (dk_at dksX0_barOf_0 4 rfl rfl)
theorem dX0_barOf_7 : decode cX0_barOf 7 = .ok (.iconst 1, 1) := dk_4 (dk_at dksX0_barOf_0 7 rfl rfl)
theorem dX0_barOf_8 : decode cX0_barOf 8 = .ok (.ireturn, 1) := dk_172 (dk_at dksX0_barOf_0 8 rfl rfl)
theorem dX0_barOf_9 : decode cX0_barOf 9 = .ok (.aload_n 2, 1) := dk_44 (dk_at dksX0_barOf_0 9 rfl rfl)
theorem dX0_barOf_10 : decode cX0_barOf 10 = .ok (.getfield 329, 3) := dk_180 1 73 (dk_at dksX0_barOf_0 10 rfl rfl)
theorem dX0_barOf_13 : decode cX0_barOf 13 = .ok (.aload_n 1, 1) := dk_43 (dk_at dksX0_barOf_0 13 rfl rfl)
theorem dX0_barOf_14 : decode cX0_barOf 14 = .ok (.getfield 161, 3) := dk_180 0 161 (dk_at dksX0_barOf_0 14 rfl rfl)
theorem dX0_barOf_17 : decode cX0_barOf 17 = .ok (.getfield 396, 3) := dk_180 1 140 (dk_at dksX0_barOf_0 17 rfl rfl)
theorem dX0_barOf_20 : decode cX0_barOf 20 = .ok (.aload_n 1, 1) := dk_43 (dk_at dksX0_barOf_0 20 rfl rfl)
theorem dX0_barOf_21 : decode cX0_barOf 21 = .ok (.getfield 161, 3) := dk_180 0 161 (dk_at dksX0_barOf_0 21 rfl rfl)
theorem dX0_barOf_24 : decode cX0_barOf 24 = .ok (.getfield 399, 3) := dk_180 1 143 (dk_at dksX0_barOf_1 0 rfl rfl)
theorem dX0_barOf_27 : decode cX0_barOf 27 = .ok (.invokestatic 116, 3) := dk_184 0 116 (dk_at dksX0_barOf_1 3 rfl rfl)
theorem dX0_barOf_30 : decode cX0_barOf 30 = .ok (.ifCond .ne 5, 3) := dk_154 0 5 (dk_at dksX0_barOf_1 6 rfl rfl)
theorem dX0_barOf_33 : decode cX0_barOf 33 = .ok (.iconst 2, 1) := dk_5 (dk_at dksX0_barOf_1 9 rfl rfl)
theorem dX0_barOf_34 : decode cX0_barOf 34 = .ok (.ireturn, 1) := dk_172 (dk_at dksX0_barOf_1 10 rfl rfl)
theorem dX0_barOf_35 : decode cX0_barOf 35 = .ok (.aload_n 2, 1) := dk_44 (dk_at dksX0_barOf_1 11 rfl rfl)
theorem dX0_barOf_36 : decode cX0_barOf 36 = .ok (.getfield 332, 3) := dk_180 1 76 (dk_at dksX0_barOf_1 12 rfl rfl)
theorem dX0_barOf_39 : decode cX0_barOf 39 = .ok (.aload_n 2, 1) := dk_44 (dk_at dksX0_barOf_1 15 rfl rfl)
theorem dX0_barOf_40 : decode cX0_barOf 40 = .ok (.getfield 329, 3) := dk_180 1 73 (dk_at dksX0_barOf_1 16 rfl rfl)
theorem dX0_barOf_43 : decode cX0_barOf 43 = .ok (.bipush 30, 2) := dk_16 30 (dk_at dksX0_barOf_1 19 rfl rfl)
theorem dX0_barOf_45 : decode cX0_barOf 45 = .ok (.iadd, 1) := dk_96 (dk_at dksX0_barOf_1 21 rfl rfl)
theorem dX0_barOf_46 : decode cX0_barOf 46 = .ok (.if_icmp .ge 5, 3) := dk_162 0 5 (dk_at dksX0_barOf_2 0 rfl rfl)
theorem dX0_barOf_49 : decode cX0_barOf 49 = .ok (.iconst 3, 1) := dk_6 (dk_at dksX0_barOf_2 3 rfl rfl)
theorem dX0_barOf_50 : decode cX0_barOf 50 = .ok (.ireturn, 1) := dk_172 (dk_at dksX0_barOf_2 4 rfl rfl)
theorem dX0_barOf_51 : decode cX0_barOf 51 = .ok (.aload_n 0, 1) := dk_42 (dk_at dksX0_barOf_2 5 rfl rfl)
theorem dX0_barOf_52 : decode cX0_barOf 52 = .ok (.aload_n 2, 1) := dk_44 (dk_at dksX0_barOf_2 6 rfl rfl)
theorem dX0_barOf_53 : decode cX0_barOf 53 = .ok (.getfield 321, 3) := dk_180 1 65 (dk_at dksX0_barOf_2 7 rfl rfl)
theorem dX0_barOf_56 : decode cX0_barOf 56 = .ok (.getfield 240, 3) := dk_180 0 240 (dk_at dksX0_barOf_2 10 rfl rfl)
theorem dX0_barOf_59 : decode cX0_barOf 59 = .ok (.aload_n 1, 1) := dk_43 (dk_at dksX0_barOf_2 13 rfl rfl)
theorem dX0_barOf_60 : decode cX0_barOf 60 = .ok (.getfield 240, 3) := dk_180 0 240 (dk_at dksX0_barOf_2 14 rfl rfl)
theorem dX0_barOf_63 : decode cX0_barOf 63 = .ok (.invokevirtual 147, 3) := dk_182 0 147 (dk_at dksX0_barOf_2 17 rfl rfl)
theorem dX0_barOf_66 : decode cX0_barOf 66 = .ok (.iconst (-1), 1) := dk_2 (dk_at dksX0_barOf_2 20 rfl rfl)
theorem dX0_barOf_67 : decode cX0_barOf 67 = .ok (.if_icmp .ne 5, 3) := dk_160 0 5 (dk_at dksX0_barOf_2 21 rfl rfl)
theorem dX0_barOf_70 : decode cX0_barOf 70 = .ok (.iconst 4, 1) := dk_7 (dk_at dksX0_barOf_3 0 rfl rfl)
theorem dX0_barOf_71 : decode cX0_barOf 71 = .ok (.ireturn, 1) := dk_172 (dk_at dksX0_barOf_3 1 rfl rfl)
theorem dX0_barOf_72 : decode cX0_barOf 72 = .ok (.aload_n 0, 1) := dk_42 (dk_at dksX0_barOf_3 2 rfl rfl)
theorem dX0_barOf_73 : decode cX0_barOf 73 = .ok (.iconst 3, 1) := dk_6 (dk_at dksX0_barOf_3 3 rfl rfl)
theorem dX0_barOf_74 : decode cX0_barOf 74 = .ok (.aload_n 2, 1) := dk_44 (dk_at dksX0_barOf_3 4 rfl rfl)
theorem dX0_barOf_75 : decode cX0_barOf 75 = .ok (.aload_n 1, 1) := dk_43 (dk_at dksX0_barOf_3 5 rfl rfl)
theorem dX0_barOf_76 : decode cX0_barOf 76 = .ok (.iload_n 3, 1) := dk_29 (dk_at dksX0_barOf_3 6 rfl rfl)
theorem dX0_barOf_77 : decode cX0_barOf 77 = .ok (.invokevirtual 402, 3) := dk_182 1 146 (dk_at dksX0_barOf_3 7 rfl rfl)
theorem dX0_barOf_80 : decode cX0_barOf 80 = .ok (.ifCond .ne 7, 3) := dk_154 0 7 (dk_at dksX0_barOf_3 10 rfl rfl)
theorem dX0_barOf_83 : decode cX0_barOf 83 = .ok (.iconst 5, 1) := dk_8 (dk_at dksX0_barOf_3 13 rfl rfl)
theorem dX0_barOf_84 : decode cX0_barOf 84 = .ok (.goto 4, 3) := dk_167 0 4 (dk_at dksX0_barOf_3 14 rfl rfl)
theorem dX0_barOf_87 : decode cX0_barOf 87 = .ok (.iconst 0, 1) := dk_3 (dk_at dksX0_barOf_3 17 rfl rfl)
theorem dX0_barOf_88 : decode cX0_barOf 88 = .ok (.ireturn, 1) := dk_172 (dk_at dksX0_barOf_3 18 rfl rfl)
abbrev cX0_asksLot : ByteArray := prog_1_method_45_code
def yX0_asksLot : MethodName := ⟨RX0, "asksLot", "(ILWheelLand$Lot;LWheelLand$House;I)I"⟩
def dkwX0_asksLot_1 : List UInt8 := [180, 1, 65, 180, 0, 240, 45, 180, 0, 240, 182, 0, 147, 182, 1, 130, 172]
abbrev dktX0_asksLot_1 : List UInt8 := dkwX0_asksLot_1 ++ []
def dkwX0_asksLot_0 : List UInt8 := [42, 27, 44, 180, 1, 65, 45, 180, 1, 121, 44, 180, 1, 73, 44, 180, 1, 76, 21, 4, 42, 44]
abbrev dktX0_asksLot_0 : List UInt8 := dkwX0_asksLot_0 ++ dktX0_asksLot_1
theorem dksX0_asksLot_0 : cX0_asksLot.data.toList.drop 0 = dktX0_asksLot_0 := by decide +kernel
theorem dksX0_asksLot_1 : cX0_asksLot.data.toList.drop 22 = dktX0_asksLot_1 := dk_seg dksX0_asksLot_0 22 rfl rfl
theorem dX0_asksLot_0 : decode cX0_asksLot 0 = .ok (.aload_n 0, 1) := dk_42 (dk_at dksX0_asksLot_0 0 rfl rfl)
theorem dX0_asksLot_1 : decode cX0_asksLot 1 = .ok (.iload_n 1, 1) := dk_27 (dk_at dksX0_asksLot_0 1 rfl rfl)
theorem dX0_asksLot_2 : decode cX0_asksLot 2 = .ok (.aload_n 2, 1) := dk_44 (dk_at dksX0_asksLot_0 2 rfl rfl)
theorem dX0_asksLot_3 : decode cX0_asksLot 3 = .ok (.getfield 321, 3) := dk_180 1 65 (dk_at dksX0_asksLot_0 3 rfl rfl)
theorem dX0_asksLot_6 : decode cX0_asksLot 6 = .ok (.aload_n 3, 1) := dk_45 (dk_at dksX0_asksLot_0 6 rfl rfl)
theorem dX0_asksLot_7 : decode cX0_asksLot 7 = .ok (.getfield 377, 3) := dk_180 1 121 (dk_at dksX0_asksLot_0 7 rfl rfl)
theorem dX0_asksLot_10 : decode cX0_asksLot 10 = .ok (.aload_n 2, 1) := dk_44 (dk_at dksX0_asksLot_0 10 rfl rfl)
theorem dX0_asksLot_11 : decode cX0_asksLot 11 = .ok (.getfield 329, 3) := dk_180 1 73 (dk_at dksX0_asksLot_0 11 rfl rfl)
theorem dX0_asksLot_14 : decode cX0_asksLot 14 = .ok (.aload_n 2, 1) := dk_44 (dk_at dksX0_asksLot_0 14 rfl rfl)
theorem dX0_asksLot_15 : decode cX0_asksLot 15 = .ok (.getfield 332, 3) := dk_180 1 76 (dk_at dksX0_asksLot_0 15 rfl rfl)
theorem dX0_asksLot_18 : decode cX0_asksLot 18 = .ok (.iload 4, 2) := dk_21 4 (dk_at dksX0_asksLot_0 18 rfl rfl)
theorem dX0_asksLot_20 : decode cX0_asksLot 20 = .ok (.aload_n 0, 1) := dk_42 (dk_at dksX0_asksLot_0 20 rfl rfl)
theorem dX0_asksLot_21 : decode cX0_asksLot 21 = .ok (.aload_n 2, 1) := dk_44 (dk_at dksX0_asksLot_0 21 rfl rfl)
theorem dX0_asksLot_22 : decode cX0_asksLot 22 = .ok (.getfield 321, 3) := dk_180 1 65 (dk_at dksX0_asksLot_1 0 rfl rfl)
theorem dX0_asksLot_25 : decode cX0_asksLot 25 = .ok (.getfield 240, 3) := dk_180 0 240 (dk_at dksX0_asksLot_1 3 rfl rfl)
theorem dX0_asksLot_28 : decode cX0_asksLot 28 = .ok (.aload_n 3, 1) := dk_45 (dk_at dksX0_asksLot_1 6 rfl rfl)
theorem dX0_asksLot_29 : decode cX0_asksLot 29 = .ok (.getfield 240, 3) := dk_180 0 240 (dk_at dksX0_asksLot_1 7 rfl rfl)
theorem dX0_asksLot_32 : decode cX0_asksLot 32 = .ok (.invokevirtual 147, 3) := dk_182 0 147 (dk_at dksX0_asksLot_1 10 rfl rfl)
theorem dX0_asksLot_35 : decode cX0_asksLot 35 = .ok (.invokevirtual 386, 3) := dk_182 1 130 (dk_at dksX0_asksLot_1 13 rfl rfl)
theorem dX0_asksLot_38 : decode cX0_asksLot 38 = .ok (.ireturn, 1) := dk_172 (dk_at dksX0_asksLot_1 16 rfl rfl)
abbrev cX0_asks : ByteArray := prog_1_method_44_code
def yX0_asks : MethodName := ⟨RX0, "asks", "(ILWheelLand$House;IIIII)I"⟩
def dkwX0_asks_2 : List UInt8 := [21, 7, 79, 42, 27, 182, 1, 7, 172]
abbrev dktX0_asks_2 : List UInt8 := dkwX0_asks_2 ++ []
def dkwX0_asks_1 : List UInt8 := [180, 0, 65, 16, 8, 21, 5, 79, 42, 180, 0, 65, 16, 9, 21, 6, 79, 42, 180, 0, 65, 16, 11]
abbrev dktX0_asks_1 : List UInt8 := dkwX0_asks_1 ++ dktX0_asks_2
def dkwX0_asks_0 : List UInt8 := [42, 44, 182, 1, 127, 42, 180, 0, 65, 16, 6, 29, 79, 42, 180, 0, 65, 16, 7, 21, 4, 79, 42]
abbrev dktX0_asks_0 : List UInt8 := dkwX0_asks_0 ++ dktX0_asks_1
theorem dksX0_asks_0 : cX0_asks.data.toList.drop 0 = dktX0_asks_0 := by decide +kernel
theorem dksX0_asks_1 : cX0_asks.data.toList.drop 23 = dktX0_asks_1 := dk_seg dksX0_asks_0 23 rfl rfl
theorem dksX0_asks_2 : cX0_asks.data.toList.drop 46 = dktX0_asks_2 := dk_seg dksX0_asks_1 23 rfl rfl
theorem dX0_asks_0 : decode cX0_asks 0 = .ok (.aload_n 0, 1) := dk_42 (dk_at dksX0_asks_0 0 rfl rfl)
theorem dX0_asks_1 : decode cX0_asks 1 = .ok (.aload_n 2, 1) := dk_44 (dk_at dksX0_asks_0 1 rfl rfl)
theorem dX0_asks_2 : decode cX0_asks 2 = .ok (.invokevirtual 383, 3) := dk_182 1 127 (dk_at dksX0_asks_0 2 rfl rfl)
theorem dX0_asks_5 : decode cX0_asks 5 = .ok (.aload_n 0, 1) := dk_42 (dk_at dksX0_asks_0 5 rfl rfl)
theorem dX0_asks_6 : decode cX0_asks 6 = .ok (.getfield 65, 3) := dk_180 0 65 (dk_at dksX0_asks_0 6 rfl rfl)
theorem dX0_asks_9 : decode cX0_asks 9 = .ok (.bipush 6, 2) := dk_16 6 (dk_at dksX0_asks_0 9 rfl rfl)
theorem dX0_asks_11 : decode cX0_asks 11 = .ok (.iload_n 3, 1) := dk_29 (dk_at dksX0_asks_0 11 rfl rfl)
theorem dX0_asks_12 : decode cX0_asks 12 = .ok (.iastore, 1) := dk_79 (dk_at dksX0_asks_0 12 rfl rfl)
theorem dX0_asks_13 : decode cX0_asks 13 = .ok (.aload_n 0, 1) := dk_42 (dk_at dksX0_asks_0 13 rfl rfl)
theorem dX0_asks_14 : decode cX0_asks 14 = .ok (.getfield 65, 3) := dk_180 0 65 (dk_at dksX0_asks_0 14 rfl rfl)
theorem dX0_asks_17 : decode cX0_asks 17 = .ok (.bipush 7, 2) := dk_16 7 (dk_at dksX0_asks_0 17 rfl rfl)
theorem dX0_asks_19 : decode cX0_asks 19 = .ok (.iload 4, 2) := dk_21 4 (dk_at dksX0_asks_0 19 rfl rfl)
theorem dX0_asks_21 : decode cX0_asks 21 = .ok (.iastore, 1) := dk_79 (dk_at dksX0_asks_0 21 rfl rfl)
theorem dX0_asks_22 : decode cX0_asks 22 = .ok (.aload_n 0, 1) := dk_42 (dk_at dksX0_asks_0 22 rfl rfl)
theorem dX0_asks_23 : decode cX0_asks 23 = .ok (.getfield 65, 3) := dk_180 0 65 (dk_at dksX0_asks_1 0 rfl rfl)
theorem dX0_asks_26 : decode cX0_asks 26 = .ok (.bipush 8, 2) := dk_16 8 (dk_at dksX0_asks_1 3 rfl rfl)
theorem dX0_asks_28 : decode cX0_asks 28 = .ok (.iload 5, 2) := dk_21 5 (dk_at dksX0_asks_1 5 rfl rfl)
theorem dX0_asks_30 : decode cX0_asks 30 = .ok (.iastore, 1) := dk_79 (dk_at dksX0_asks_1 7 rfl rfl)
theorem dX0_asks_31 : decode cX0_asks 31 = .ok (.aload_n 0, 1) := dk_42 (dk_at dksX0_asks_1 8 rfl rfl)
theorem dX0_asks_32 : decode cX0_asks 32 = .ok (.getfield 65, 3) := dk_180 0 65 (dk_at dksX0_asks_1 9 rfl rfl)
theorem dX0_asks_35 : decode cX0_asks 35 = .ok (.bipush 9, 2) := dk_16 9 (dk_at dksX0_asks_1 12 rfl rfl)
theorem dX0_asks_37 : decode cX0_asks 37 = .ok (.iload 6, 2) := dk_21 6 (dk_at dksX0_asks_1 14 rfl rfl)
theorem dX0_asks_39 : decode cX0_asks 39 = .ok (.iastore, 1) := dk_79 (dk_at dksX0_asks_1 16 rfl rfl)
theorem dX0_asks_40 : decode cX0_asks 40 = .ok (.aload_n 0, 1) := dk_42 (dk_at dksX0_asks_1 17 rfl rfl)
theorem dX0_asks_41 : decode cX0_asks 41 = .ok (.getfield 65, 3) := dk_180 0 65 (dk_at dksX0_asks_1 18 rfl rfl)
theorem dX0_asks_44 : decode cX0_asks 44 = .ok (.bipush 11, 2) := dk_16 11 (dk_at dksX0_asks_1 21 rfl rfl)
theorem dX0_asks_46 : decode cX0_asks 46 = .ok (.iload 7, 2) := dk_21 7 (dk_at dksX0_asks_2 0 rfl rfl)
theorem dX0_asks_48 : decode cX0_asks 48 = .ok (.iastore, 1) := dk_79 (dk_at dksX0_asks_2 2 rfl rfl)
theorem dX0_asks_49 : decode cX0_asks 49 = .ok (.aload_n 0, 1) := dk_42 (dk_at dksX0_asks_2 3 rfl rfl)
theorem dX0_asks_50 : decode cX0_asks 50 = .ok (.iload_n 1, 1) := dk_27 (dk_at dksX0_asks_2 4 rfl rfl)
theorem dX0_asks_51 : decode cX0_asks 51 = .ok (.invokevirtual 263, 3) := dk_182 1 7 (dk_at dksX0_asks_2 5 rfl rfl)
theorem dX0_asks_54 : decode cX0_asks 54 = .ok (.ireturn, 1) := dk_172 (dk_at dksX0_asks_2 8 rfl rfl)
abbrev cX0_weave : ByteArray := prog_1_method_52_code
def yX0_weave : MethodName := ⟨RX0, "weave", "(III)I"⟩
def dkwX0_weave_7 : List UInt8 := [21, 6, 183, 1, 165, 83, 42, 89, 180, 0, 126, 4, 96, 181, 0, 126, 42, 180, 0, 126, 4, 100, 172]
abbrev dktX0_weave_7 : List UInt8 := dkwX0_weave_7 ++ []
def dkwX0_weave_6 : List UInt8 := [181, 1, 58, 42, 180, 0, 42, 42, 180, 0, 126, 187, 0, 40, 89, 25, 5, 25, 4, 42, 180, 0, 151, 29]
abbrev dktX0_weave_6 : List UInt8 := dkwX0_weave_6 ++ dktX0_weave_7
def dkwX0_weave_5 : List UInt8 := [181, 1, 52, 25, 4, 180, 0, 161, 89, 180, 0, 227, 29, 96, 181, 0, 227, 42, 89, 180, 1, 58, 29, 96]
abbrev dktX0_weave_5 : List UInt8 := dkwX0_weave_5 ++ dktX0_weave_6
def dkwX0_weave_4 : List UInt8 := [100, 181, 0, 177, 25, 4, 89, 180, 0, 177, 21, 7, 96, 181, 0, 177, 25, 5, 89, 180, 1, 52, 29, 100]
abbrev dktX0_weave_4 : List UInt8 := dkwX0_weave_4 ++ dktX0_weave_5
def dkwX0_weave_3 : List UInt8 := [25, 5, 25, 4, 29, 182, 1, 146, 184, 0, 212, 54, 7, 25, 5, 180, 1, 65, 89, 180, 0, 177, 21, 7]
abbrev dktX0_weave_3 : List UInt8 := dkwX0_weave_3 ++ dktX0_weave_4
def dkwX0_weave_2 : List UInt8 := [42, 7, 25, 5, 25, 4, 29, 182, 1, 146, 153, 0, 7, 4, 167, 0, 4, 3, 54, 6, 3, 42, 4]
abbrev dktX0_weave_2 : List UInt8 := dkwX0_weave_2 ++ dktX0_weave_3
def dkwX0_weave_1 : List UInt8 := [17, 0, 156, 160, 0, 5, 2, 172, 42, 180, 0, 30, 27, 50, 58, 4, 42, 180, 0, 36, 28, 50, 58, 5]
abbrev dktX0_weave_1 : List UInt8 := dkwX0_weave_1 ++ dktX0_weave_2
def dkwX0_weave_0 : List UInt8 := [42, 27, 28, 29, 182, 1, 161, 154, 0, 23, 42, 180, 0, 126, 17, 0, 200, 159, 0, 13, 42, 180, 0, 151]
abbrev dktX0_weave_0 : List UInt8 := dkwX0_weave_0 ++ dktX0_weave_1
theorem dksX0_weave_0 : cX0_weave.data.toList.drop 0 = dktX0_weave_0 := by decide +kernel
theorem dksX0_weave_1 : cX0_weave.data.toList.drop 24 = dktX0_weave_1 := dk_seg dksX0_weave_0 24 rfl rfl
theorem dksX0_weave_2 : cX0_weave.data.toList.drop 48 = dktX0_weave_2 := dk_seg dksX0_weave_1 24 rfl rfl
theorem dksX0_weave_3 : cX0_weave.data.toList.drop 71 = dktX0_weave_3 := dk_seg dksX0_weave_2 23 rfl rfl
theorem dksX0_weave_4 : cX0_weave.data.toList.drop 95 = dktX0_weave_4 := dk_seg dksX0_weave_3 24 rfl rfl
theorem dksX0_weave_5 : cX0_weave.data.toList.drop 119 = dktX0_weave_5 := dk_seg dksX0_weave_4 24 rfl rfl
theorem dksX0_weave_6 : cX0_weave.data.toList.drop 143 = dktX0_weave_6 := dk_seg dksX0_weave_5 24 rfl rfl
theorem dksX0_weave_7 : cX0_weave.data.toList.drop 167 = dktX0_weave_7 := dk_seg dksX0_weave_6 24 rfl rfl
theorem dX0_weave_0 : decode cX0_weave 0 = .ok (.aload_n 0, 1) := dk_42 (dk_at dksX0_weave_0 0 rfl rfl)
theorem dX0_weave_1 : decode cX0_weave 1 = .ok (.iload_n 1, 1) := dk_27 (dk_at dksX0_weave_0 1 rfl rfl)
theorem dX0_weave_2 : decode cX0_weave 2 = .ok (.iload_n 2, 1) := dk_28 (dk_at dksX0_weave_0 2 rfl rfl)
theorem dX0_weave_3 : decode cX0_weave 3 = .ok (.iload_n 3, 1) := dk_29 (dk_at dksX0_weave_0 3 rfl rfl)
theorem dX0_weave_4 : decode cX0_weave 4 = .ok (.invokevirtual 417, 3) := dk_182 1 161 (dk_at dksX0_weave_0 4 rfl rfl)
theorem dX0_weave_7 : decode cX0_weave 7 = .ok (.ifCond .ne 23, 3) := dk_154 0 23 (dk_at dksX0_weave_0 7 rfl rfl)
theorem dX0_weave_10 : decode cX0_weave 10 = .ok (.aload_n 0, 1) := dk_42 (dk_at dksX0_weave_0 10 rfl rfl)
theorem dX0_weave_11 : decode cX0_weave 11 = .ok (.getfield 126, 3) := dk_180 0 126 (dk_at dksX0_weave_0 11 rfl rfl)
theorem dX0_weave_14 : decode cX0_weave 14 = .ok (.sipush 200, 3) := dk_17 0 200 (dk_at dksX0_weave_0 14 rfl rfl)
theorem dX0_weave_17 : decode cX0_weave 17 = .ok (.if_icmp .eq 13, 3) := dk_159 0 13 (dk_at dksX0_weave_0 17 rfl rfl)
theorem dX0_weave_20 : decode cX0_weave 20 = .ok (.aload_n 0, 1) := dk_42 (dk_at dksX0_weave_0 20 rfl rfl)
theorem dX0_weave_21 : decode cX0_weave 21 = .ok (.getfield 151, 3) := dk_180 0 151 (dk_at dksX0_weave_0 21 rfl rfl)
theorem dX0_weave_24 : decode cX0_weave 24 = .ok (.sipush 156, 3) := dk_17 0 156 (dk_at dksX0_weave_1 0 rfl rfl)
theorem dX0_weave_27 : decode cX0_weave 27 = .ok (.if_icmp .ne 5, 3) := dk_160 0 5 (dk_at dksX0_weave_1 3 rfl rfl)
theorem dX0_weave_30 : decode cX0_weave 30 = .ok (.iconst (-1), 1) := dk_2 (dk_at dksX0_weave_1 6 rfl rfl)
theorem dX0_weave_31 : decode cX0_weave 31 = .ok (.ireturn, 1) := dk_172 (dk_at dksX0_weave_1 7 rfl rfl)
theorem dX0_weave_32 : decode cX0_weave 32 = .ok (.aload_n 0, 1) := dk_42 (dk_at dksX0_weave_1 8 rfl rfl)
theorem dX0_weave_33 : decode cX0_weave 33 = .ok (.getfield 30, 3) := dk_180 0 30 (dk_at dksX0_weave_1 9 rfl rfl)
theorem dX0_weave_36 : decode cX0_weave 36 = .ok (.iload_n 1, 1) := dk_27 (dk_at dksX0_weave_1 12 rfl rfl)
theorem dX0_weave_37 : decode cX0_weave 37 = .ok (.aaload, 1) := dk_50 (dk_at dksX0_weave_1 13 rfl rfl)
theorem dX0_weave_38 : decode cX0_weave 38 = .ok (.astore 4, 2) := dk_58 4 (dk_at dksX0_weave_1 14 rfl rfl)
theorem dX0_weave_40 : decode cX0_weave 40 = .ok (.aload_n 0, 1) := dk_42 (dk_at dksX0_weave_1 16 rfl rfl)
theorem dX0_weave_41 : decode cX0_weave 41 = .ok (.getfield 36, 3) := dk_180 0 36 (dk_at dksX0_weave_1 17 rfl rfl)
theorem dX0_weave_44 : decode cX0_weave 44 = .ok (.iload_n 2, 1) := dk_28 (dk_at dksX0_weave_1 20 rfl rfl)
theorem dX0_weave_45 : decode cX0_weave 45 = .ok (.aaload, 1) := dk_50 (dk_at dksX0_weave_1 21 rfl rfl)
theorem dX0_weave_46 : decode cX0_weave 46 = .ok (.astore 5, 2) := dk_58 5 (dk_at dksX0_weave_1 22 rfl rfl)
theorem dX0_weave_48 : decode cX0_weave 48 = .ok (.aload_n 0, 1) := dk_42 (dk_at dksX0_weave_2 0 rfl rfl)
theorem dX0_weave_49 : decode cX0_weave 49 = .ok (.iconst 4, 1) := dk_7 (dk_at dksX0_weave_2 1 rfl rfl)
theorem dX0_weave_50 : decode cX0_weave 50 = .ok (.aload 5, 2) := dk_25 5 (dk_at dksX0_weave_2 2 rfl rfl)
theorem dX0_weave_52 : decode cX0_weave 52 = .ok (.aload 4, 2) := dk_25 4 (dk_at dksX0_weave_2 4 rfl rfl)
theorem dX0_weave_54 : decode cX0_weave 54 = .ok (.iload_n 3, 1) := dk_29 (dk_at dksX0_weave_2 6 rfl rfl)
theorem dX0_weave_55 : decode cX0_weave 55 = .ok (.invokevirtual 402, 3) := dk_182 1 146 (dk_at dksX0_weave_2 7 rfl rfl)
theorem dX0_weave_58 : decode cX0_weave 58 = .ok (.ifCond .eq 7, 3) := dk_153 0 7 (dk_at dksX0_weave_2 10 rfl rfl)
theorem dX0_weave_61 : decode cX0_weave 61 = .ok (.iconst 1, 1) := dk_4 (dk_at dksX0_weave_2 13 rfl rfl)
theorem dX0_weave_62 : decode cX0_weave 62 = .ok (.goto 4, 3) := dk_167 0 4 (dk_at dksX0_weave_2 14 rfl rfl)
theorem dX0_weave_65 : decode cX0_weave 65 = .ok (.iconst 0, 1) := dk_3 (dk_at dksX0_weave_2 17 rfl rfl)
theorem dX0_weave_66 : decode cX0_weave 66 = .ok (.istore 6, 2) := dk_54 6 (dk_at dksX0_weave_2 18 rfl rfl)
theorem dX0_weave_68 : decode cX0_weave 68 = .ok (.iconst 0, 1) := dk_3 (dk_at dksX0_weave_2 20 rfl rfl)
theorem dX0_weave_69 : decode cX0_weave 69 = .ok (.aload_n 0, 1) := dk_42 (dk_at dksX0_weave_2 21 rfl rfl)
theorem dX0_weave_70 : decode cX0_weave 70 = .ok (.iconst 1, 1) := dk_4 (dk_at dksX0_weave_2 22 rfl rfl)
theorem dX0_weave_71 : decode cX0_weave 71 = .ok (.aload 5, 2) := dk_25 5 (dk_at dksX0_weave_3 0 rfl rfl)
theorem dX0_weave_73 : decode cX0_weave 73 = .ok (.aload 4, 2) := dk_25 4 (dk_at dksX0_weave_3 2 rfl rfl)
theorem dX0_weave_75 : decode cX0_weave 75 = .ok (.iload_n 3, 1) := dk_29 (dk_at dksX0_weave_3 4 rfl rfl)
theorem dX0_weave_76 : decode cX0_weave 76 = .ok (.invokevirtual 402, 3) := dk_182 1 146 (dk_at dksX0_weave_3 5 rfl rfl)
theorem dX0_weave_79 : decode cX0_weave 79 = .ok (.invokestatic 212, 3) := dk_184 0 212 (dk_at dksX0_weave_3 8 rfl rfl)
theorem dX0_weave_82 : decode cX0_weave 82 = .ok (.istore 7, 2) := dk_54 7 (dk_at dksX0_weave_3 11 rfl rfl)
theorem dX0_weave_84 : decode cX0_weave 84 = .ok (.aload 5, 2) := dk_25 5 (dk_at dksX0_weave_3 13 rfl rfl)
theorem dX0_weave_86 : decode cX0_weave 86 = .ok (.getfield 321, 3) := dk_180 1 65 (dk_at dksX0_weave_3 15 rfl rfl)
theorem dX0_weave_89 : decode cX0_weave 89 = .ok (.dup, 1) := dk_89 (dk_at dksX0_weave_3 18 rfl rfl)
theorem dX0_weave_90 : decode cX0_weave 90 = .ok (.getfield 177, 3) := dk_180 0 177 (dk_at dksX0_weave_3 19 rfl rfl)
theorem dX0_weave_93 : decode cX0_weave 93 = .ok (.iload 7, 2) := dk_21 7 (dk_at dksX0_weave_3 22 rfl rfl)
theorem dX0_weave_95 : decode cX0_weave 95 = .ok (.isub, 1) := dk_100 (dk_at dksX0_weave_4 0 rfl rfl)
theorem dX0_weave_96 : decode cX0_weave 96 = .ok (.putfield 177, 3) := dk_181 0 177 (dk_at dksX0_weave_4 1 rfl rfl)
theorem dX0_weave_99 : decode cX0_weave 99 = .ok (.aload 4, 2) := dk_25 4 (dk_at dksX0_weave_4 4 rfl rfl)
theorem dX0_weave_101 : decode cX0_weave 101 = .ok (.dup, 1) := dk_89 (dk_at dksX0_weave_4 6 rfl rfl)
theorem dX0_weave_102 : decode cX0_weave 102 = .ok (.getfield 177, 3) := dk_180 0 177 (dk_at dksX0_weave_4 7 rfl rfl)
theorem dX0_weave_105 : decode cX0_weave 105 = .ok (.iload 7, 2) := dk_21 7 (dk_at dksX0_weave_4 10 rfl rfl)
theorem dX0_weave_107 : decode cX0_weave 107 = .ok (.iadd, 1) := dk_96 (dk_at dksX0_weave_4 12 rfl rfl)
theorem dX0_weave_108 : decode cX0_weave 108 = .ok (.putfield 177, 3) := dk_181 0 177 (dk_at dksX0_weave_4 13 rfl rfl)
theorem dX0_weave_111 : decode cX0_weave 111 = .ok (.aload 5, 2) := dk_25 5 (dk_at dksX0_weave_4 16 rfl rfl)
theorem dX0_weave_113 : decode cX0_weave 113 = .ok (.dup, 1) := dk_89 (dk_at dksX0_weave_4 18 rfl rfl)
theorem dX0_weave_114 : decode cX0_weave 114 = .ok (.getfield 308, 3) := dk_180 1 52 (dk_at dksX0_weave_4 19 rfl rfl)
theorem dX0_weave_117 : decode cX0_weave 117 = .ok (.iload_n 3, 1) := dk_29 (dk_at dksX0_weave_4 22 rfl rfl)
theorem dX0_weave_118 : decode cX0_weave 118 = .ok (.isub, 1) := dk_100 (dk_at dksX0_weave_4 23 rfl rfl)
theorem dX0_weave_119 : decode cX0_weave 119 = .ok (.putfield 308, 3) := dk_181 1 52 (dk_at dksX0_weave_5 0 rfl rfl)
theorem dX0_weave_122 : decode cX0_weave 122 = .ok (.aload 4, 2) := dk_25 4 (dk_at dksX0_weave_5 3 rfl rfl)
theorem dX0_weave_124 : decode cX0_weave 124 = .ok (.getfield 161, 3) := dk_180 0 161 (dk_at dksX0_weave_5 5 rfl rfl)
theorem dX0_weave_127 : decode cX0_weave 127 = .ok (.dup, 1) := dk_89 (dk_at dksX0_weave_5 8 rfl rfl)
theorem dX0_weave_128 : decode cX0_weave 128 = .ok (.getfield 227, 3) := dk_180 0 227 (dk_at dksX0_weave_5 9 rfl rfl)
theorem dX0_weave_131 : decode cX0_weave 131 = .ok (.iload_n 3, 1) := dk_29 (dk_at dksX0_weave_5 12 rfl rfl)
theorem dX0_weave_132 : decode cX0_weave 132 = .ok (.iadd, 1) := dk_96 (dk_at dksX0_weave_5 13 rfl rfl)
theorem dX0_weave_133 : decode cX0_weave 133 = .ok (.putfield 227, 3) := dk_181 0 227 (dk_at dksX0_weave_5 14 rfl rfl)
theorem dX0_weave_136 : decode cX0_weave 136 = .ok (.aload_n 0, 1) := dk_42 (dk_at dksX0_weave_5 17 rfl rfl)
theorem dX0_weave_137 : decode cX0_weave 137 = .ok (.dup, 1) := dk_89 (dk_at dksX0_weave_5 18 rfl rfl)
theorem dX0_weave_138 : decode cX0_weave 138 = .ok (.getfield 314, 3) := dk_180 1 58 (dk_at dksX0_weave_5 19 rfl rfl)
theorem dX0_weave_141 : decode cX0_weave 141 = .ok (.iload_n 3, 1) := dk_29 (dk_at dksX0_weave_5 22 rfl rfl)
theorem dX0_weave_142 : decode cX0_weave 142 = .ok (.iadd, 1) := dk_96 (dk_at dksX0_weave_5 23 rfl rfl)
theorem dX0_weave_143 : decode cX0_weave 143 = .ok (.putfield 314, 3) := dk_181 1 58 (dk_at dksX0_weave_6 0 rfl rfl)
theorem dX0_weave_146 : decode cX0_weave 146 = .ok (.aload_n 0, 1) := dk_42 (dk_at dksX0_weave_6 3 rfl rfl)
theorem dX0_weave_147 : decode cX0_weave 147 = .ok (.getfield 42, 3) := dk_180 0 42 (dk_at dksX0_weave_6 4 rfl rfl)
theorem dX0_weave_150 : decode cX0_weave 150 = .ok (.aload_n 0, 1) := dk_42 (dk_at dksX0_weave_6 7 rfl rfl)
theorem dX0_weave_151 : decode cX0_weave 151 = .ok (.getfield 126, 3) := dk_180 0 126 (dk_at dksX0_weave_6 8 rfl rfl)
theorem dX0_weave_154 : decode cX0_weave 154 = .ok (.new 40, 3) := dk_187 0 40 (dk_at dksX0_weave_6 11 rfl rfl)
theorem dX0_weave_157 : decode cX0_weave 157 = .ok (.dup, 1) := dk_89 (dk_at dksX0_weave_6 14 rfl rfl)
theorem dX0_weave_158 : decode cX0_weave 158 = .ok (.aload 5, 2) := dk_25 5 (dk_at dksX0_weave_6 15 rfl rfl)
theorem dX0_weave_160 : decode cX0_weave 160 = .ok (.aload 4, 2) := dk_25 4 (dk_at dksX0_weave_6 17 rfl rfl)
theorem dX0_weave_162 : decode cX0_weave 162 = .ok (.aload_n 0, 1) := dk_42 (dk_at dksX0_weave_6 19 rfl rfl)
theorem dX0_weave_163 : decode cX0_weave 163 = .ok (.getfield 151, 3) := dk_180 0 151 (dk_at dksX0_weave_6 20 rfl rfl)
theorem dX0_weave_166 : decode cX0_weave 166 = .ok (.iload_n 3, 1) := dk_29 (dk_at dksX0_weave_6 23 rfl rfl)
theorem dX0_weave_167 : decode cX0_weave 167 = .ok (.iload 6, 2) := dk_21 6 (dk_at dksX0_weave_7 0 rfl rfl)
theorem dX0_weave_169 : decode cX0_weave 169 = .ok (.invokespecial 421, 3) := dk_183 1 165 (dk_at dksX0_weave_7 2 rfl rfl)
theorem dX0_weave_172 : decode cX0_weave 172 = .ok (.aastore, 1) := dk_83 (dk_at dksX0_weave_7 5 rfl rfl)
theorem dX0_weave_173 : decode cX0_weave 173 = .ok (.aload_n 0, 1) := dk_42 (dk_at dksX0_weave_7 6 rfl rfl)
theorem dX0_weave_174 : decode cX0_weave 174 = .ok (.dup, 1) := dk_89 (dk_at dksX0_weave_7 7 rfl rfl)
theorem dX0_weave_175 : decode cX0_weave 175 = .ok (.getfield 126, 3) := dk_180 0 126 (dk_at dksX0_weave_7 8 rfl rfl)
theorem dX0_weave_178 : decode cX0_weave 178 = .ok (.iconst 1, 1) := dk_4 (dk_at dksX0_weave_7 11 rfl rfl)
theorem dX0_weave_179 : decode cX0_weave 179 = .ok (.iadd, 1) := dk_96 (dk_at dksX0_weave_7 12 rfl rfl)
theorem dX0_weave_180 : decode cX0_weave 180 = .ok (.putfield 126, 3) := dk_181 0 126 (dk_at dksX0_weave_7 13 rfl rfl)
theorem dX0_weave_183 : decode cX0_weave 183 = .ok (.aload_n 0, 1) := dk_42 (dk_at dksX0_weave_7 16 rfl rfl)
theorem dX0_weave_184 : decode cX0_weave 184 = .ok (.getfield 126, 3) := dk_180 0 126 (dk_at dksX0_weave_7 17 rfl rfl)
theorem dX0_weave_187 : decode cX0_weave 187 = .ok (.iconst 1, 1) := dk_4 (dk_at dksX0_weave_7 20 rfl rfl)
theorem dX0_weave_188 : decode cX0_weave 188 = .ok (.isub, 1) := dk_100 (dk_at dksX0_weave_7 21 rfl rfl)
theorem dX0_weave_189 : decode cX0_weave 189 = .ok (.ireturn, 1) := dk_172 (dk_at dksX0_weave_7 22 rfl rfl)
abbrev cX0_cloth : ByteArray := prog_1_method_53_code
def yX0_cloth : MethodName := ⟨RX0, "cloth", "(II)I"⟩
def dkwX0_cloth_5 : List UInt8 := [180, 1, 186, 180, 0, 144, 172, 2, 172]
abbrev dktX0_cloth_5 : List UInt8 := dkwX0_cloth_5 ++ []
def dkwX0_cloth_4 : List UInt8 := [180, 1, 69, 172, 45, 180, 1, 172, 180, 1, 70, 172, 45, 180, 1, 186, 199, 0, 7, 2, 167, 0, 10, 45]
abbrev dktX0_cloth_4 : List UInt8 := dkwX0_cloth_4 ++ dktX0_cloth_5
def dkwX0_cloth_3 : List UInt8 := [180, 1, 179, 172, 45, 180, 1, 182, 153, 0, 7, 4, 167, 0, 4, 3, 172, 45, 180, 1, 172, 180, 1, 65]
abbrev dktX0_cloth_3 : List UInt8 := dkwX0_cloth_3 ++ dktX0_cloth_4
def dkwX0_cloth_2 : List UInt8 := [45, 180, 1, 172, 180, 1, 176, 172, 45, 180, 1, 177, 180, 1, 69, 172, 45, 180, 1, 178, 172, 45]
abbrev dktX0_cloth_2 : List UInt8 := dkwX0_cloth_2 ++ dktX0_cloth_3
def dkwX0_cloth_1 : List UInt8 := [170, 0, 0, 0, 0, 0, 124, 0, 0, 0, 0, 0, 0, 0, 7, 0, 0, 0, 47, 0, 0, 0, 55, 0, 0, 0, 63, 0, 0, 0, 68, 0, 0, 0, 73, 0, 0, 0, 86, 0, 0, 0, 97, 0, 0, 0, 105]
abbrev dktX0_cloth_1 : List UInt8 := dkwX0_cloth_1 ++ dktX0_cloth_2
def dkwX0_cloth_0 : List UInt8 := [42, 27, 182, 1, 168, 78, 45, 199, 0, 5, 2, 172, 28]
abbrev dktX0_cloth_0 : List UInt8 := dkwX0_cloth_0 ++ dktX0_cloth_1
theorem dksX0_cloth_0 : cX0_cloth.data.toList.drop 0 = dktX0_cloth_0 := by decide +kernel
theorem dksX0_cloth_1 : cX0_cloth.data.toList.drop 13 = dktX0_cloth_1 := dk_seg dksX0_cloth_0 13 rfl rfl
theorem dksX0_cloth_2 : cX0_cloth.data.toList.drop 60 = dktX0_cloth_2 := dk_seg dksX0_cloth_1 47 rfl rfl
theorem dksX0_cloth_3 : cX0_cloth.data.toList.drop 82 = dktX0_cloth_3 := dk_seg dksX0_cloth_2 22 rfl rfl
theorem dksX0_cloth_4 : cX0_cloth.data.toList.drop 106 = dktX0_cloth_4 := dk_seg dksX0_cloth_3 24 rfl rfl
theorem dksX0_cloth_5 : cX0_cloth.data.toList.drop 130 = dktX0_cloth_5 := dk_seg dksX0_cloth_4 24 rfl rfl
theorem dX0_cloth_0 : decode cX0_cloth 0 = .ok (.aload_n 0, 1) := dk_42 (dk_at dksX0_cloth_0 0 rfl rfl)
theorem dX0_cloth_1 : decode cX0_cloth 1 = .ok (.iload_n 1, 1) := dk_27 (dk_at dksX0_cloth_0 1 rfl rfl)
theorem dX0_cloth_2 : decode cX0_cloth 2 = .ok (.invokevirtual 424, 3) := dk_182 1 168 (dk_at dksX0_cloth_0 2 rfl rfl)
theorem dX0_cloth_5 : decode cX0_cloth 5 = .ok (.astore_n 3, 1) := dk_78 (dk_at dksX0_cloth_0 5 rfl rfl)
theorem dX0_cloth_6 : decode cX0_cloth 6 = .ok (.aload_n 3, 1) := dk_45 (dk_at dksX0_cloth_0 6 rfl rfl)
theorem dX0_cloth_7 : decode cX0_cloth 7 = .ok (.ifnonnull 5, 3) := dk_199 0 5 (dk_at dksX0_cloth_0 7 rfl rfl)
theorem dX0_cloth_10 : decode cX0_cloth 10 = .ok (.iconst (-1), 1) := dk_2 (dk_at dksX0_cloth_0 10 rfl rfl)
theorem dX0_cloth_11 : decode cX0_cloth 11 = .ok (.ireturn, 1) := dk_172 (dk_at dksX0_cloth_0 11 rfl rfl)
theorem dX0_cloth_12 : decode cX0_cloth 12 = .ok (.iload_n 2, 1) := dk_28 (dk_at dksX0_cloth_0 12 rfl rfl)
theorem dX0_cloth_13 : decode cX0_cloth 13 = .ok (.tableswitch 124 0 7 #[47, 55, 63, 68, 73, 86, 97, 105], 47) := by decide +kernel
theorem dX0_cloth_60 : decode cX0_cloth 60 = .ok (.aload_n 3, 1) := dk_45 (dk_at dksX0_cloth_2 0 rfl rfl)
theorem dX0_cloth_61 : decode cX0_cloth 61 = .ok (.getfield 428, 3) := dk_180 1 172 (dk_at dksX0_cloth_2 1 rfl rfl)
theorem dX0_cloth_64 : decode cX0_cloth 64 = .ok (.getfield 432, 3) := dk_180 1 176 (dk_at dksX0_cloth_2 4 rfl rfl)
theorem dX0_cloth_67 : decode cX0_cloth 67 = .ok (.ireturn, 1) := dk_172 (dk_at dksX0_cloth_2 7 rfl rfl)
theorem dX0_cloth_68 : decode cX0_cloth 68 = .ok (.aload_n 3, 1) := dk_45 (dk_at dksX0_cloth_2 8 rfl rfl)
theorem dX0_cloth_69 : decode cX0_cloth 69 = .ok (.getfield 433, 3) := dk_180 1 177 (dk_at dksX0_cloth_2 9 rfl rfl)
theorem dX0_cloth_72 : decode cX0_cloth 72 = .ok (.getfield 325, 3) := dk_180 1 69 (dk_at dksX0_cloth_2 12 rfl rfl)
theorem dX0_cloth_75 : decode cX0_cloth 75 = .ok (.ireturn, 1) := dk_172 (dk_at dksX0_cloth_2 15 rfl rfl)
theorem dX0_cloth_76 : decode cX0_cloth 76 = .ok (.aload_n 3, 1) := dk_45 (dk_at dksX0_cloth_2 16 rfl rfl)
theorem dX0_cloth_77 : decode cX0_cloth 77 = .ok (.getfield 434, 3) := dk_180 1 178 (dk_at dksX0_cloth_2 17 rfl rfl)
theorem dX0_cloth_80 : decode cX0_cloth 80 = .ok (.ireturn, 1) := dk_172 (dk_at dksX0_cloth_2 20 rfl rfl)
theorem dX0_cloth_81 : decode cX0_cloth 81 = .ok (.aload_n 3, 1) := dk_45 (dk_at dksX0_cloth_2 21 rfl rfl)
theorem dX0_cloth_82 : decode cX0_cloth 82 = .ok (.getfield 435, 3) := dk_180 1 179 (dk_at dksX0_cloth_3 0 rfl rfl)
theorem dX0_cloth_85 : decode cX0_cloth 85 = .ok (.ireturn, 1) := dk_172 (dk_at dksX0_cloth_3 3 rfl rfl)
theorem dX0_cloth_86 : decode cX0_cloth 86 = .ok (.aload_n 3, 1) := dk_45 (dk_at dksX0_cloth_3 4 rfl rfl)
theorem dX0_cloth_87 : decode cX0_cloth 87 = .ok (.getfield 438, 3) := dk_180 1 182 (dk_at dksX0_cloth_3 5 rfl rfl)
theorem dX0_cloth_90 : decode cX0_cloth 90 = .ok (.ifCond .eq 7, 3) := dk_153 0 7 (dk_at dksX0_cloth_3 8 rfl rfl)
theorem dX0_cloth_93 : decode cX0_cloth 93 = .ok (.iconst 1, 1) := dk_4 (dk_at dksX0_cloth_3 11 rfl rfl)
theorem dX0_cloth_94 : decode cX0_cloth 94 = .ok (.goto 4, 3) := dk_167 0 4 (dk_at dksX0_cloth_3 12 rfl rfl)
theorem dX0_cloth_97 : decode cX0_cloth 97 = .ok (.iconst 0, 1) := dk_3 (dk_at dksX0_cloth_3 15 rfl rfl)
theorem dX0_cloth_98 : decode cX0_cloth 98 = .ok (.ireturn, 1) := dk_172 (dk_at dksX0_cloth_3 16 rfl rfl)
theorem dX0_cloth_99 : decode cX0_cloth 99 = .ok (.aload_n 3, 1) := dk_45 (dk_at dksX0_cloth_3 17 rfl rfl)
theorem dX0_cloth_100 : decode cX0_cloth 100 = .ok (.getfield 428, 3) := dk_180 1 172 (dk_at dksX0_cloth_3 18 rfl rfl)
theorem dX0_cloth_103 : decode cX0_cloth 103 = .ok (.getfield 321, 3) := dk_180 1 65 (dk_at dksX0_cloth_3 21 rfl rfl)
theorem dX0_cloth_106 : decode cX0_cloth 106 = .ok (.getfield 325, 3) := dk_180 1 69 (dk_at dksX0_cloth_4 0 rfl rfl)
theorem dX0_cloth_109 : decode cX0_cloth 109 = .ok (.ireturn, 1) := dk_172 (dk_at dksX0_cloth_4 3 rfl rfl)
theorem dX0_cloth_110 : decode cX0_cloth 110 = .ok (.aload_n 3, 1) := dk_45 (dk_at dksX0_cloth_4 4 rfl rfl)
theorem dX0_cloth_111 : decode cX0_cloth 111 = .ok (.getfield 428, 3) := dk_180 1 172 (dk_at dksX0_cloth_4 5 rfl rfl)
theorem dX0_cloth_114 : decode cX0_cloth 114 = .ok (.getfield 326, 3) := dk_180 1 70 (dk_at dksX0_cloth_4 8 rfl rfl)
theorem dX0_cloth_117 : decode cX0_cloth 117 = .ok (.ireturn, 1) := dk_172 (dk_at dksX0_cloth_4 11 rfl rfl)
theorem dX0_cloth_118 : decode cX0_cloth 118 = .ok (.aload_n 3, 1) := dk_45 (dk_at dksX0_cloth_4 12 rfl rfl)
theorem dX0_cloth_119 : decode cX0_cloth 119 = .ok (.getfield 442, 3) := dk_180 1 186 (dk_at dksX0_cloth_4 13 rfl rfl)
theorem dX0_cloth_122 : decode cX0_cloth 122 = .ok (.ifnonnull 7, 3) := dk_199 0 7 (dk_at dksX0_cloth_4 16 rfl rfl)
theorem dX0_cloth_125 : decode cX0_cloth 125 = .ok (.iconst (-1), 1) := dk_2 (dk_at dksX0_cloth_4 19 rfl rfl)
theorem dX0_cloth_126 : decode cX0_cloth 126 = .ok (.goto 10, 3) := dk_167 0 10 (dk_at dksX0_cloth_4 20 rfl rfl)
theorem dX0_cloth_129 : decode cX0_cloth 129 = .ok (.aload_n 3, 1) := dk_45 (dk_at dksX0_cloth_4 23 rfl rfl)
theorem dX0_cloth_130 : decode cX0_cloth 130 = .ok (.getfield 442, 3) := dk_180 1 186 (dk_at dksX0_cloth_5 0 rfl rfl)
theorem dX0_cloth_133 : decode cX0_cloth 133 = .ok (.getfield 144, 3) := dk_180 0 144 (dk_at dksX0_cloth_5 3 rfl rfl)
theorem dX0_cloth_136 : decode cX0_cloth 136 = .ok (.ireturn, 1) := dk_172 (dk_at dksX0_cloth_5 6 rfl rfl)
theorem dX0_cloth_137 : decode cX0_cloth 137 = .ok (.iconst (-1), 1) := dk_2 (dk_at dksX0_cloth_5 7 rfl rfl)
theorem dX0_cloth_138 : decode cX0_cloth 138 = .ok (.ireturn, 1) := dk_172 (dk_at dksX0_cloth_5 8 rfl rfl)
abbrev cX0_findCloth : ByteArray := prog_1_method_9_code
def yX0_findCloth : MethodName := ⟨RX0, "findCloth", "(I)LWheelLand$Cloth;"⟩
def dkwX0_findCloth_1 : List UInt8 := [176]
abbrev dktX0_findCloth_1 : List UInt8 := dkwX0_findCloth_1 ++ []
def dkwX0_findCloth_0 : List UInt8 := [27, 3, 42, 180, 0, 126, 4, 100, 184, 0, 116, 153, 0, 12, 42, 180, 0, 42, 27, 50, 167, 0, 4, 1]
abbrev dktX0_findCloth_0 : List UInt8 := dkwX0_findCloth_0 ++ dktX0_findCloth_1
theorem dksX0_findCloth_0 : cX0_findCloth.data.toList.drop 0 = dktX0_findCloth_0 := by decide +kernel
theorem dksX0_findCloth_1 : cX0_findCloth.data.toList.drop 24 = dktX0_findCloth_1 := dk_seg dksX0_findCloth_0 24 rfl rfl
theorem dX0_findCloth_0 : decode cX0_findCloth 0 = .ok (.iload_n 1, 1) := dk_27 (dk_at dksX0_findCloth_0 0 rfl rfl)
theorem dX0_findCloth_1 : decode cX0_findCloth 1 = .ok (.iconst 0, 1) := dk_3 (dk_at dksX0_findCloth_0 1 rfl rfl)
theorem dX0_findCloth_2 : decode cX0_findCloth 2 = .ok (.aload_n 0, 1) := dk_42 (dk_at dksX0_findCloth_0 2 rfl rfl)
theorem dX0_findCloth_3 : decode cX0_findCloth 3 = .ok (.getfield 126, 3) := dk_180 0 126 (dk_at dksX0_findCloth_0 3 rfl rfl)
theorem dX0_findCloth_6 : decode cX0_findCloth 6 = .ok (.iconst 1, 1) := dk_4 (dk_at dksX0_findCloth_0 6 rfl rfl)
theorem dX0_findCloth_7 : decode cX0_findCloth 7 = .ok (.isub, 1) := dk_100 (dk_at dksX0_findCloth_0 7 rfl rfl)
theorem dX0_findCloth_8 : decode cX0_findCloth 8 = .ok (.invokestatic 116, 3) := dk_184 0 116 (dk_at dksX0_findCloth_0 8 rfl rfl)
theorem dX0_findCloth_11 : decode cX0_findCloth 11 = .ok (.ifCond .eq 12, 3) := dk_153 0 12 (dk_at dksX0_findCloth_0 11 rfl rfl)
theorem dX0_findCloth_14 : decode cX0_findCloth 14 = .ok (.aload_n 0, 1) := dk_42 (dk_at dksX0_findCloth_0 14 rfl rfl)
theorem dX0_findCloth_15 : decode cX0_findCloth 15 = .ok (.getfield 42, 3) := dk_180 0 42 (dk_at dksX0_findCloth_0 15 rfl rfl)
theorem dX0_findCloth_18 : decode cX0_findCloth 18 = .ok (.iload_n 1, 1) := dk_27 (dk_at dksX0_findCloth_0 18 rfl rfl)
theorem dX0_findCloth_19 : decode cX0_findCloth 19 = .ok (.aaload, 1) := dk_50 (dk_at dksX0_findCloth_0 19 rfl rfl)
theorem dX0_findCloth_20 : decode cX0_findCloth 20 = .ok (.goto 4, 3) := dk_167 0 4 (dk_at dksX0_findCloth_0 20 rfl rfl)
theorem dX0_findCloth_23 : decode cX0_findCloth 23 = .ok (.aconst_null, 1) := dk_1 (dk_at dksX0_findCloth_0 23 rfl rfl)
theorem dX0_findCloth_24 : decode cX0_findCloth 24 = .ok (.areturn, 1) := dk_176 (dk_at dksX0_findCloth_1 0 rfl rfl)
abbrev cX0_ask : ByteArray := prog_1_method_54_code
def yX0_ask : MethodName := ⟨RX0, "ask", "(I)I"⟩
def dkwX0_ask_4 : List UInt8 := [180, 1, 189, 172]
abbrev dktX0_ask_4 : List UInt8 := dkwX0_ask_4 ++ []
def dkwX0_ask_3 : List UInt8 := [180, 1, 189, 44, 83, 42, 180, 0, 90, 89, 180, 1, 189, 4, 96, 181, 1, 189, 42, 180, 0, 90]
abbrev dktX0_ask_3 : List UInt8 := dkwX0_ask_3 ++ dktX0_ask_4
def dkwX0_ask_2 : List UInt8 := [166, 0, 5, 2, 172, 132, 3, 1, 167, 255, 227, 42, 180, 0, 90, 180, 1, 192, 42, 180, 0, 90]
abbrev dktX0_ask_2 : List UInt8 := dkwX0_ask_2 ++ dktX0_ask_3
def dkwX0_ask_1 : List UInt8 := [3, 62, 29, 42, 180, 0, 90, 180, 1, 189, 162, 0, 24, 42, 180, 0, 90, 180, 1, 192, 29, 50, 44]
abbrev dktX0_ask_1 : List UInt8 := dkwX0_ask_1 ++ dktX0_ask_2
def dkwX0_ask_0 : List UInt8 := [42, 27, 182, 1, 61, 77, 44, 198, 0, 15, 42, 180, 0, 90, 180, 1, 189, 16, 6, 160, 0, 5, 2, 172]
abbrev dktX0_ask_0 : List UInt8 := dkwX0_ask_0 ++ dktX0_ask_1
theorem dksX0_ask_0 : cX0_ask.data.toList.drop 0 = dktX0_ask_0 := by decide +kernel
theorem dksX0_ask_1 : cX0_ask.data.toList.drop 24 = dktX0_ask_1 := dk_seg dksX0_ask_0 24 rfl rfl
theorem dksX0_ask_2 : cX0_ask.data.toList.drop 47 = dktX0_ask_2 := dk_seg dksX0_ask_1 23 rfl rfl
theorem dksX0_ask_3 : cX0_ask.data.toList.drop 69 = dktX0_ask_3 := dk_seg dksX0_ask_2 22 rfl rfl
theorem dksX0_ask_4 : cX0_ask.data.toList.drop 91 = dktX0_ask_4 := dk_seg dksX0_ask_3 22 rfl rfl
theorem dX0_ask_0 : decode cX0_ask 0 = .ok (.aload_n 0, 1) := dk_42 (dk_at dksX0_ask_0 0 rfl rfl)
theorem dX0_ask_1 : decode cX0_ask 1 = .ok (.iload_n 1, 1) := dk_27 (dk_at dksX0_ask_0 1 rfl rfl)
theorem dX0_ask_2 : decode cX0_ask 2 = .ok (.invokevirtual 317, 3) := dk_182 1 61 (dk_at dksX0_ask_0 2 rfl rfl)
theorem dX0_ask_5 : decode cX0_ask 5 = .ok (.astore_n 2, 1) := dk_77 (dk_at dksX0_ask_0 5 rfl rfl)
theorem dX0_ask_6 : decode cX0_ask 6 = .ok (.aload_n 2, 1) := dk_44 (dk_at dksX0_ask_0 6 rfl rfl)
theorem dX0_ask_7 : decode cX0_ask 7 = .ok (.ifnull 15, 3) := dk_198 0 15 (dk_at dksX0_ask_0 7 rfl rfl)
theorem dX0_ask_10 : decode cX0_ask 10 = .ok (.aload_n 0, 1) := dk_42 (dk_at dksX0_ask_0 10 rfl rfl)
theorem dX0_ask_11 : decode cX0_ask 11 = .ok (.getfield 90, 3) := dk_180 0 90 (dk_at dksX0_ask_0 11 rfl rfl)
theorem dX0_ask_14 : decode cX0_ask 14 = .ok (.getfield 445, 3) := dk_180 1 189 (dk_at dksX0_ask_0 14 rfl rfl)
theorem dX0_ask_17 : decode cX0_ask 17 = .ok (.bipush 6, 2) := dk_16 6 (dk_at dksX0_ask_0 17 rfl rfl)
theorem dX0_ask_19 : decode cX0_ask 19 = .ok (.if_icmp .ne 5, 3) := dk_160 0 5 (dk_at dksX0_ask_0 19 rfl rfl)
theorem dX0_ask_22 : decode cX0_ask 22 = .ok (.iconst (-1), 1) := dk_2 (dk_at dksX0_ask_0 22 rfl rfl)
theorem dX0_ask_23 : decode cX0_ask 23 = .ok (.ireturn, 1) := dk_172 (dk_at dksX0_ask_0 23 rfl rfl)
theorem dX0_ask_24 : decode cX0_ask 24 = .ok (.iconst 0, 1) := dk_3 (dk_at dksX0_ask_1 0 rfl rfl)
theorem dX0_ask_25 : decode cX0_ask 25 = .ok (.istore_n 3, 1) := dk_62 (dk_at dksX0_ask_1 1 rfl rfl)
theorem dX0_ask_26 : decode cX0_ask 26 = .ok (.iload_n 3, 1) := dk_29 (dk_at dksX0_ask_1 2 rfl rfl)
theorem dX0_ask_27 : decode cX0_ask 27 = .ok (.aload_n 0, 1) := dk_42 (dk_at dksX0_ask_1 3 rfl rfl)
theorem dX0_ask_28 : decode cX0_ask 28 = .ok (.getfield 90, 3) := dk_180 0 90 (dk_at dksX0_ask_1 4 rfl rfl)
theorem dX0_ask_31 : decode cX0_ask 31 = .ok (.getfield 445, 3) := dk_180 1 189 (dk_at dksX0_ask_1 7 rfl rfl)
theorem dX0_ask_34 : decode cX0_ask 34 = .ok (.if_icmp .ge 24, 3) := dk_162 0 24 (dk_at dksX0_ask_1 10 rfl rfl)
theorem dX0_ask_37 : decode cX0_ask 37 = .ok (.aload_n 0, 1) := dk_42 (dk_at dksX0_ask_1 13 rfl rfl)
theorem dX0_ask_38 : decode cX0_ask 38 = .ok (.getfield 90, 3) := dk_180 0 90 (dk_at dksX0_ask_1 14 rfl rfl)
theorem dX0_ask_41 : decode cX0_ask 41 = .ok (.getfield 448, 3) := dk_180 1 192 (dk_at dksX0_ask_1 17 rfl rfl)
theorem dX0_ask_44 : decode cX0_ask 44 = .ok (.iload_n 3, 1) := dk_29 (dk_at dksX0_ask_1 20 rfl rfl)
theorem dX0_ask_45 : decode cX0_ask 45 = .ok (.aaload, 1) := dk_50 (dk_at dksX0_ask_1 21 rfl rfl)
theorem dX0_ask_46 : decode cX0_ask 46 = .ok (.aload_n 2, 1) := dk_44 (dk_at dksX0_ask_1 22 rfl rfl)
theorem dX0_ask_47 : decode cX0_ask 47 = .ok (.if_acmp .ne 5, 3) := dk_166 0 5 (dk_at dksX0_ask_2 0 rfl rfl)
theorem dX0_ask_50 : decode cX0_ask 50 = .ok (.iconst (-1), 1) := dk_2 (dk_at dksX0_ask_2 3 rfl rfl)
theorem dX0_ask_51 : decode cX0_ask 51 = .ok (.ireturn, 1) := dk_172 (dk_at dksX0_ask_2 4 rfl rfl)
theorem dX0_ask_52 : decode cX0_ask 52 = .ok (.iinc 3 1, 3) := dk_132 3 1 (dk_at dksX0_ask_2 5 rfl rfl)
theorem dX0_ask_55 : decode cX0_ask 55 = .ok (.goto (-29), 3) := dk_167 255 227 (dk_at dksX0_ask_2 8 rfl rfl)
theorem dX0_ask_58 : decode cX0_ask 58 = .ok (.aload_n 0, 1) := dk_42 (dk_at dksX0_ask_2 11 rfl rfl)
theorem dX0_ask_59 : decode cX0_ask 59 = .ok (.getfield 90, 3) := dk_180 0 90 (dk_at dksX0_ask_2 12 rfl rfl)
theorem dX0_ask_62 : decode cX0_ask 62 = .ok (.getfield 448, 3) := dk_180 1 192 (dk_at dksX0_ask_2 15 rfl rfl)
theorem dX0_ask_65 : decode cX0_ask 65 = .ok (.aload_n 0, 1) := dk_42 (dk_at dksX0_ask_2 18 rfl rfl)
theorem dX0_ask_66 : decode cX0_ask 66 = .ok (.getfield 90, 3) := dk_180 0 90 (dk_at dksX0_ask_2 19 rfl rfl)
theorem dX0_ask_69 : decode cX0_ask 69 = .ok (.getfield 445, 3) := dk_180 1 189 (dk_at dksX0_ask_3 0 rfl rfl)
theorem dX0_ask_72 : decode cX0_ask 72 = .ok (.aload_n 2, 1) := dk_44 (dk_at dksX0_ask_3 3 rfl rfl)
theorem dX0_ask_73 : decode cX0_ask 73 = .ok (.aastore, 1) := dk_83 (dk_at dksX0_ask_3 4 rfl rfl)
theorem dX0_ask_74 : decode cX0_ask 74 = .ok (.aload_n 0, 1) := dk_42 (dk_at dksX0_ask_3 5 rfl rfl)
theorem dX0_ask_75 : decode cX0_ask 75 = .ok (.getfield 90, 3) := dk_180 0 90 (dk_at dksX0_ask_3 6 rfl rfl)
theorem dX0_ask_78 : decode cX0_ask 78 = .ok (.dup, 1) := dk_89 (dk_at dksX0_ask_3 9 rfl rfl)
theorem dX0_ask_79 : decode cX0_ask 79 = .ok (.getfield 445, 3) := dk_180 1 189 (dk_at dksX0_ask_3 10 rfl rfl)
theorem dX0_ask_82 : decode cX0_ask 82 = .ok (.iconst 1, 1) := dk_4 (dk_at dksX0_ask_3 13 rfl rfl)
theorem dX0_ask_83 : decode cX0_ask 83 = .ok (.iadd, 1) := dk_96 (dk_at dksX0_ask_3 14 rfl rfl)
theorem dX0_ask_84 : decode cX0_ask 84 = .ok (.putfield 445, 3) := dk_181 1 189 (dk_at dksX0_ask_3 15 rfl rfl)
theorem dX0_ask_87 : decode cX0_ask 87 = .ok (.aload_n 0, 1) := dk_42 (dk_at dksX0_ask_3 18 rfl rfl)
theorem dX0_ask_88 : decode cX0_ask 88 = .ok (.getfield 90, 3) := dk_180 0 90 (dk_at dksX0_ask_3 19 rfl rfl)
theorem dX0_ask_91 : decode cX0_ask 91 = .ok (.getfield 445, 3) := dk_180 1 189 (dk_at dksX0_ask_4 0 rfl rfl)
theorem dX0_ask_94 : decode cX0_ask 94 = .ok (.ireturn, 1) := dk_172 (dk_at dksX0_ask_4 3 rfl rfl)
abbrev cX0_clear : ByteArray := prog_1_method_55_code
def yX0_clear : MethodName := ⟨RX0, "clear", "()I"⟩
def dkwX0_clear_0 : List UInt8 := [42, 180, 0, 90, 180, 1, 189, 60, 42, 180, 0, 90, 3, 181, 1, 189, 27, 172]
abbrev dktX0_clear_0 : List UInt8 := dkwX0_clear_0 ++ []
theorem dksX0_clear_0 : cX0_clear.data.toList.drop 0 = dktX0_clear_0 := by decide +kernel
theorem dX0_clear_0 : decode cX0_clear 0 = .ok (.aload_n 0, 1) := dk_42 (dk_at dksX0_clear_0 0 rfl rfl)
theorem dX0_clear_1 : decode cX0_clear 1 = .ok (.getfield 90, 3) := dk_180 0 90 (dk_at dksX0_clear_0 1 rfl rfl)
theorem dX0_clear_4 : decode cX0_clear 4 = .ok (.getfield 445, 3) := dk_180 1 189 (dk_at dksX0_clear_0 4 rfl rfl)
theorem dX0_clear_7 : decode cX0_clear 7 = .ok (.istore_n 1, 1) := dk_60 (dk_at dksX0_clear_0 7 rfl rfl)
theorem dX0_clear_8 : decode cX0_clear 8 = .ok (.aload_n 0, 1) := dk_42 (dk_at dksX0_clear_0 8 rfl rfl)
theorem dX0_clear_9 : decode cX0_clear 9 = .ok (.getfield 90, 3) := dk_180 0 90 (dk_at dksX0_clear_0 9 rfl rfl)
theorem dX0_clear_12 : decode cX0_clear 12 = .ok (.iconst 0, 1) := dk_3 (dk_at dksX0_clear_0 12 rfl rfl)
theorem dX0_clear_13 : decode cX0_clear 13 = .ok (.putfield 445, 3) := dk_181 1 189 (dk_at dksX0_clear_0 13 rfl rfl)
theorem dX0_clear_16 : decode cX0_clear 16 = .ok (.iload_n 1, 1) := dk_27 (dk_at dksX0_clear_0 16 rfl rfl)
theorem dX0_clear_17 : decode cX0_clear 17 = .ok (.ireturn, 1) := dk_172 (dk_at dksX0_clear_0 17 rfl rfl)
abbrev cX0_hands : ByteArray := prog_1_method_56_code
def yX0_hands : MethodName := ⟨RX0, "hands", "(II)I"⟩
def dkwX0_hands_6 : List UInt8 := [2, 172]
abbrev dktX0_hands_6 : List UInt8 := dkwX0_hands_6 ++ []
def dkwX0_hands_5 : List UInt8 := [42, 180, 0, 90, 180, 1, 203, 172, 42, 180, 0, 90, 180, 1, 206, 172, 42, 180, 0, 90, 180, 1, 209, 172]
abbrev dktX0_hands_5 : List UInt8 := dkwX0_hands_5 ++ dktX0_hands_6
def dkwX0_hands_4 : List UInt8 := [170, 0, 0, 0, 0, 0, 51, 0, 0, 0, 0, 0, 0, 0, 2, 0, 0, 0, 27, 0, 0, 0, 35, 0, 0, 0, 43]
abbrev dktX0_hands_4 : List UInt8 := dkwX0_hands_4 ++ dktX0_hands_5
def dkwX0_hands_3 : List UInt8 := [100, 46, 50, 180, 1, 69, 172, 28]
abbrev dktX0_hands_3 : List UInt8 := dkwX0_hands_3 ++ dktX0_hands_4
def dkwX0_hands_2 : List UInt8 := [160, 0, 7, 2, 167, 0, 26, 42, 180, 0, 90, 180, 1, 200, 42, 180, 0, 90, 180, 1, 197, 28, 16, 10]
abbrev dktX0_hands_2 : List UInt8 := dkwX0_hands_2 ++ dktX0_hands_3
def dkwX0_hands_1 : List UInt8 := [180, 1, 189, 96, 184, 0, 116, 153, 0, 47, 42, 180, 0, 90, 180, 1, 197, 28, 16, 10, 100, 46, 2]
abbrev dktX0_hands_1 : List UInt8 := dkwX0_hands_1 ++ dktX0_hands_2
def dkwX0_hands_0 : List UInt8 := [42, 180, 0, 90, 27, 182, 1, 195, 154, 0, 5, 2, 172, 28, 16, 10, 16, 9, 42, 180, 0, 90]
abbrev dktX0_hands_0 : List UInt8 := dkwX0_hands_0 ++ dktX0_hands_1
theorem dksX0_hands_0 : cX0_hands.data.toList.drop 0 = dktX0_hands_0 := by decide +kernel
theorem dksX0_hands_1 : cX0_hands.data.toList.drop 22 = dktX0_hands_1 := dk_seg dksX0_hands_0 22 rfl rfl
theorem dksX0_hands_2 : cX0_hands.data.toList.drop 45 = dktX0_hands_2 := dk_seg dksX0_hands_1 23 rfl rfl
theorem dksX0_hands_3 : cX0_hands.data.toList.drop 69 = dktX0_hands_3 := dk_seg dksX0_hands_2 24 rfl rfl
theorem dksX0_hands_4 : cX0_hands.data.toList.drop 77 = dktX0_hands_4 := dk_seg dksX0_hands_3 8 rfl rfl
theorem dksX0_hands_5 : cX0_hands.data.toList.drop 104 = dktX0_hands_5 := dk_seg dksX0_hands_4 27 rfl rfl
theorem dksX0_hands_6 : cX0_hands.data.toList.drop 128 = dktX0_hands_6 := dk_seg dksX0_hands_5 24 rfl rfl
theorem dX0_hands_0 : decode cX0_hands 0 = .ok (.aload_n 0, 1) := dk_42 (dk_at dksX0_hands_0 0 rfl rfl)
theorem dX0_hands_1 : decode cX0_hands 1 = .ok (.getfield 90, 3) := dk_180 0 90 (dk_at dksX0_hands_0 1 rfl rfl)
theorem dX0_hands_4 : decode cX0_hands 4 = .ok (.iload_n 1, 1) := dk_27 (dk_at dksX0_hands_0 4 rfl rfl)
theorem dX0_hands_5 : decode cX0_hands 5 = .ok (.invokevirtual 451, 3) := dk_182 1 195 (dk_at dksX0_hands_0 5 rfl rfl)
theorem dX0_hands_8 : decode cX0_hands 8 = .ok (.ifCond .ne 5, 3) := dk_154 0 5 (dk_at dksX0_hands_0 8 rfl rfl)
theorem dX0_hands_11 : decode cX0_hands 11 = .ok (.iconst (-1), 1) := dk_2 (dk_at dksX0_hands_0 11 rfl rfl)
theorem dX0_hands_12 : decode cX0_hands 12 = .ok (.ireturn, 1) := dk_172 (dk_at dksX0_hands_0 12 rfl rfl)
theorem dX0_hands_13 : decode cX0_hands 13 = .ok (.iload_n 2, 1) := dk_28 (dk_at dksX0_hands_0 13 rfl rfl)
theorem dX0_hands_14 : decode cX0_hands 14 = .ok (.bipush 10, 2) := dk_16 10 (dk_at dksX0_hands_0 14 rfl rfl)
theorem dX0_hands_16 : decode cX0_hands 16 = .ok (.bipush 9, 2) := dk_16 9 (dk_at dksX0_hands_0 16 rfl rfl)
theorem dX0_hands_18 : decode cX0_hands 18 = .ok (.aload_n 0, 1) := dk_42 (dk_at dksX0_hands_0 18 rfl rfl)
theorem dX0_hands_19 : decode cX0_hands 19 = .ok (.getfield 90, 3) := dk_180 0 90 (dk_at dksX0_hands_0 19 rfl rfl)
theorem dX0_hands_22 : decode cX0_hands 22 = .ok (.getfield 445, 3) := dk_180 1 189 (dk_at dksX0_hands_1 0 rfl rfl)
theorem dX0_hands_25 : decode cX0_hands 25 = .ok (.iadd, 1) := dk_96 (dk_at dksX0_hands_1 3 rfl rfl)
theorem dX0_hands_26 : decode cX0_hands 26 = .ok (.invokestatic 116, 3) := dk_184 0 116 (dk_at dksX0_hands_1 4 rfl rfl)
theorem dX0_hands_29 : decode cX0_hands 29 = .ok (.ifCond .eq 47, 3) := dk_153 0 47 (dk_at dksX0_hands_1 7 rfl rfl)
theorem dX0_hands_32 : decode cX0_hands 32 = .ok (.aload_n 0, 1) := dk_42 (dk_at dksX0_hands_1 10 rfl rfl)
theorem dX0_hands_33 : decode cX0_hands 33 = .ok (.getfield 90, 3) := dk_180 0 90 (dk_at dksX0_hands_1 11 rfl rfl)
theorem dX0_hands_36 : decode cX0_hands 36 = .ok (.getfield 453, 3) := dk_180 1 197 (dk_at dksX0_hands_1 14 rfl rfl)
theorem dX0_hands_39 : decode cX0_hands 39 = .ok (.iload_n 2, 1) := dk_28 (dk_at dksX0_hands_1 17 rfl rfl)
theorem dX0_hands_40 : decode cX0_hands 40 = .ok (.bipush 10, 2) := dk_16 10 (dk_at dksX0_hands_1 18 rfl rfl)
theorem dX0_hands_42 : decode cX0_hands 42 = .ok (.isub, 1) := dk_100 (dk_at dksX0_hands_1 20 rfl rfl)
theorem dX0_hands_43 : decode cX0_hands 43 = .ok (.iaload, 1) := dk_46 (dk_at dksX0_hands_1 21 rfl rfl)
theorem dX0_hands_44 : decode cX0_hands 44 = .ok (.iconst (-1), 1) := dk_2 (dk_at dksX0_hands_1 22 rfl rfl)
theorem dX0_hands_45 : decode cX0_hands 45 = .ok (.if_icmp .ne 7, 3) := dk_160 0 7 (dk_at dksX0_hands_2 0 rfl rfl)
theorem dX0_hands_48 : decode cX0_hands 48 = .ok (.iconst (-1), 1) := dk_2 (dk_at dksX0_hands_2 3 rfl rfl)
theorem dX0_hands_49 : decode cX0_hands 49 = .ok (.goto 26, 3) := dk_167 0 26 (dk_at dksX0_hands_2 4 rfl rfl)
theorem dX0_hands_52 : decode cX0_hands 52 = .ok (.aload_n 0, 1) := dk_42 (dk_at dksX0_hands_2 7 rfl rfl)
theorem dX0_hands_53 : decode cX0_hands 53 = .ok (.getfield 90, 3) := dk_180 0 90 (dk_at dksX0_hands_2 8 rfl rfl)
theorem dX0_hands_56 : decode cX0_hands 56 = .ok (.getfield 456, 3) := dk_180 1 200 (dk_at dksX0_hands_2 11 rfl rfl)
theorem dX0_hands_59 : decode cX0_hands 59 = .ok (.aload_n 0, 1) := dk_42 (dk_at dksX0_hands_2 14 rfl rfl)
theorem dX0_hands_60 : decode cX0_hands 60 = .ok (.getfield 90, 3) := dk_180 0 90 (dk_at dksX0_hands_2 15 rfl rfl)
theorem dX0_hands_63 : decode cX0_hands 63 = .ok (.getfield 453, 3) := dk_180 1 197 (dk_at dksX0_hands_2 18 rfl rfl)
theorem dX0_hands_66 : decode cX0_hands 66 = .ok (.iload_n 2, 1) := dk_28 (dk_at dksX0_hands_2 21 rfl rfl)
theorem dX0_hands_67 : decode cX0_hands 67 = .ok (.bipush 10, 2) := dk_16 10 (dk_at dksX0_hands_2 22 rfl rfl)
theorem dX0_hands_69 : decode cX0_hands 69 = .ok (.isub, 1) := dk_100 (dk_at dksX0_hands_3 0 rfl rfl)
theorem dX0_hands_70 : decode cX0_hands 70 = .ok (.iaload, 1) := dk_46 (dk_at dksX0_hands_3 1 rfl rfl)
theorem dX0_hands_71 : decode cX0_hands 71 = .ok (.aaload, 1) := dk_50 (dk_at dksX0_hands_3 2 rfl rfl)
theorem dX0_hands_72 : decode cX0_hands 72 = .ok (.getfield 325, 3) := dk_180 1 69 (dk_at dksX0_hands_3 3 rfl rfl)
theorem dX0_hands_75 : decode cX0_hands 75 = .ok (.ireturn, 1) := dk_172 (dk_at dksX0_hands_3 6 rfl rfl)
theorem dX0_hands_76 : decode cX0_hands 76 = .ok (.iload_n 2, 1) := dk_28 (dk_at dksX0_hands_3 7 rfl rfl)
theorem dX0_hands_77 : decode cX0_hands 77 = .ok (.tableswitch 51 0 2 #[27, 35, 43], 27) := by decide +kernel
theorem dX0_hands_104 : decode cX0_hands 104 = .ok (.aload_n 0, 1) := dk_42 (dk_at dksX0_hands_5 0 rfl rfl)
theorem dX0_hands_105 : decode cX0_hands 105 = .ok (.getfield 90, 3) := dk_180 0 90 (dk_at dksX0_hands_5 1 rfl rfl)
theorem dX0_hands_108 : decode cX0_hands 108 = .ok (.getfield 459, 3) := dk_180 1 203 (dk_at dksX0_hands_5 4 rfl rfl)
theorem dX0_hands_111 : decode cX0_hands 111 = .ok (.ireturn, 1) := dk_172 (dk_at dksX0_hands_5 7 rfl rfl)
theorem dX0_hands_112 : decode cX0_hands 112 = .ok (.aload_n 0, 1) := dk_42 (dk_at dksX0_hands_5 8 rfl rfl)
theorem dX0_hands_113 : decode cX0_hands 113 = .ok (.getfield 90, 3) := dk_180 0 90 (dk_at dksX0_hands_5 9 rfl rfl)
theorem dX0_hands_116 : decode cX0_hands 116 = .ok (.getfield 462, 3) := dk_180 1 206 (dk_at dksX0_hands_5 12 rfl rfl)
theorem dX0_hands_119 : decode cX0_hands 119 = .ok (.ireturn, 1) := dk_172 (dk_at dksX0_hands_5 15 rfl rfl)
theorem dX0_hands_120 : decode cX0_hands 120 = .ok (.aload_n 0, 1) := dk_42 (dk_at dksX0_hands_5 16 rfl rfl)
theorem dX0_hands_121 : decode cX0_hands 121 = .ok (.getfield 90, 3) := dk_180 0 90 (dk_at dksX0_hands_5 17 rfl rfl)
theorem dX0_hands_124 : decode cX0_hands 124 = .ok (.getfield 465, 3) := dk_180 1 209 (dk_at dksX0_hands_5 20 rfl rfl)
theorem dX0_hands_127 : decode cX0_hands 127 = .ok (.ireturn, 1) := dk_172 (dk_at dksX0_hands_5 23 rfl rfl)
theorem dX0_hands_128 : decode cX0_hands 128 = .ok (.iconst (-1), 1) := dk_2 (dk_at dksX0_hands_6 0 rfl rfl)
theorem dX0_hands_129 : decode cX0_hands 129 = .ok (.ireturn, 1) := dk_172 (dk_at dksX0_hands_6 1 rfl rfl)
abbrev cX0_bring : ByteArray := prog_1_method_57_code
def yX0_bring : MethodName := ⟨RX0, "bring", "(II)I"⟩
def dkwX0_bring_5 : List UInt8 := [180, 1, 215, 45, 180, 1, 179, 96, 181, 1, 215, 25, 4, 180, 1, 212, 25, 4, 180, 1, 215, 96, 172]
abbrev dktX0_bring_5 : List UInt8 := dkwX0_bring_5 ++ []
def dkwX0_bring_4 : List UInt8 := [181, 1, 212, 25, 4, 89, 180, 1, 218, 45, 180, 1, 179, 96, 181, 1, 218, 167, 0, 17, 25, 4, 89]
abbrev dktX0_bring_4 : List UInt8 := dkwX0_bring_4 ++ dktX0_bring_5
def dkwX0_bring_3 : List UInt8 := [45, 25, 4, 181, 1, 186, 45, 180, 1, 182, 153, 0, 34, 25, 4, 89, 180, 1, 212, 45, 180, 1, 179, 96]
abbrev dktX0_bring_3 : List UInt8 := dkwX0_bring_3 ++ dktX0_bring_4
def dkwX0_bring_2 : List UInt8 := [25, 4, 180, 1, 212, 25, 4, 180, 1, 215, 96, 45, 180, 1, 179, 96, 17, 39, 15, 164, 0, 5, 2, 172]
abbrev dktX0_bring_2 : List UInt8 := dkwX0_bring_2 ++ dktX0_bring_3
def dkwX0_bring_1 : List UInt8 := [180, 1, 186, 199, 0, 42, 42, 45, 180, 1, 177, 180, 0, 240, 25, 4, 182, 0, 147, 2, 159, 0, 25]
abbrev dktX0_bring_1 : List UInt8 := dkwX0_bring_1 ++ dktX0_bring_2
def dkwX0_bring_0 : List UInt8 := [42, 27, 182, 1, 168, 78, 42, 28, 182, 0, 136, 58, 4, 45, 198, 0, 54, 25, 4, 198, 0, 49, 45]
abbrev dktX0_bring_0 : List UInt8 := dkwX0_bring_0 ++ dktX0_bring_1
theorem dksX0_bring_0 : cX0_bring.data.toList.drop 0 = dktX0_bring_0 := by decide +kernel
theorem dksX0_bring_1 : cX0_bring.data.toList.drop 23 = dktX0_bring_1 := dk_seg dksX0_bring_0 23 rfl rfl
theorem dksX0_bring_2 : cX0_bring.data.toList.drop 46 = dktX0_bring_2 := dk_seg dksX0_bring_1 23 rfl rfl
theorem dksX0_bring_3 : cX0_bring.data.toList.drop 70 = dktX0_bring_3 := dk_seg dksX0_bring_2 24 rfl rfl
theorem dksX0_bring_4 : cX0_bring.data.toList.drop 94 = dktX0_bring_4 := dk_seg dksX0_bring_3 24 rfl rfl
theorem dksX0_bring_5 : cX0_bring.data.toList.drop 117 = dktX0_bring_5 := dk_seg dksX0_bring_4 23 rfl rfl
theorem dX0_bring_0 : decode cX0_bring 0 = .ok (.aload_n 0, 1) := dk_42 (dk_at dksX0_bring_0 0 rfl rfl)
theorem dX0_bring_1 : decode cX0_bring 1 = .ok (.iload_n 1, 1) := dk_27 (dk_at dksX0_bring_0 1 rfl rfl)
theorem dX0_bring_2 : decode cX0_bring 2 = .ok (.invokevirtual 424, 3) := dk_182 1 168 (dk_at dksX0_bring_0 2 rfl rfl)
theorem dX0_bring_5 : decode cX0_bring 5 = .ok (.astore_n 3, 1) := dk_78 (dk_at dksX0_bring_0 5 rfl rfl)
theorem dX0_bring_6 : decode cX0_bring 6 = .ok (.aload_n 0, 1) := dk_42 (dk_at dksX0_bring_0 6 rfl rfl)
theorem dX0_bring_7 : decode cX0_bring 7 = .ok (.iload_n 2, 1) := dk_28 (dk_at dksX0_bring_0 7 rfl rfl)
theorem dX0_bring_8 : decode cX0_bring 8 = .ok (.invokevirtual 136, 3) := dk_182 0 136 (dk_at dksX0_bring_0 8 rfl rfl)
theorem dX0_bring_11 : decode cX0_bring 11 = .ok (.astore 4, 2) := dk_58 4 (dk_at dksX0_bring_0 11 rfl rfl)
theorem dX0_bring_13 : decode cX0_bring 13 = .ok (.aload_n 3, 1) := dk_45 (dk_at dksX0_bring_0 13 rfl rfl)
theorem dX0_bring_14 : decode cX0_bring 14 = .ok (.ifnull 54, 3) := dk_198 0 54 (dk_at dksX0_bring_0 14 rfl rfl)
theorem dX0_bring_17 : decode cX0_bring 17 = .ok (.aload 4, 2) := dk_25 4 (dk_at dksX0_bring_0 17 rfl rfl)
theorem dX0_bring_19 : decode cX0_bring 19 = .ok (.ifnull 49, 3) := dk_198 0 49 (dk_at dksX0_bring_0 19 rfl rfl)
theorem dX0_bring_22 : decode cX0_bring 22 = .ok (.aload_n 3, 1) := dk_45 (dk_at dksX0_bring_0 22 rfl rfl)
theorem dX0_bring_23 : decode cX0_bring 23 = .ok (.getfield 442, 3) := dk_180 1 186 (dk_at dksX0_bring_1 0 rfl rfl)
theorem dX0_bring_26 : decode cX0_bring 26 = .ok (.ifnonnull 42, 3) := dk_199 0 42 (dk_at dksX0_bring_1 3 rfl rfl)
theorem dX0_bring_29 : decode cX0_bring 29 = .ok (.aload_n 0, 1) := dk_42 (dk_at dksX0_bring_1 6 rfl rfl)
theorem dX0_bring_30 : decode cX0_bring 30 = .ok (.aload_n 3, 1) := dk_45 (dk_at dksX0_bring_1 7 rfl rfl)
theorem dX0_bring_31 : decode cX0_bring 31 = .ok (.getfield 433, 3) := dk_180 1 177 (dk_at dksX0_bring_1 8 rfl rfl)
theorem dX0_bring_34 : decode cX0_bring 34 = .ok (.getfield 240, 3) := dk_180 0 240 (dk_at dksX0_bring_1 11 rfl rfl)
theorem dX0_bring_37 : decode cX0_bring 37 = .ok (.aload 4, 2) := dk_25 4 (dk_at dksX0_bring_1 14 rfl rfl)
theorem dX0_bring_39 : decode cX0_bring 39 = .ok (.invokevirtual 147, 3) := dk_182 0 147 (dk_at dksX0_bring_1 16 rfl rfl)
theorem dX0_bring_42 : decode cX0_bring 42 = .ok (.iconst (-1), 1) := dk_2 (dk_at dksX0_bring_1 19 rfl rfl)
theorem dX0_bring_43 : decode cX0_bring 43 = .ok (.if_icmp .eq 25, 3) := dk_159 0 25 (dk_at dksX0_bring_1 20 rfl rfl)
theorem dX0_bring_46 : decode cX0_bring 46 = .ok (.aload 4, 2) := dk_25 4 (dk_at dksX0_bring_2 0 rfl rfl)
theorem dX0_bring_48 : decode cX0_bring 48 = .ok (.getfield 468, 3) := dk_180 1 212 (dk_at dksX0_bring_2 2 rfl rfl)
theorem dX0_bring_51 : decode cX0_bring 51 = .ok (.aload 4, 2) := dk_25 4 (dk_at dksX0_bring_2 5 rfl rfl)
theorem dX0_bring_53 : decode cX0_bring 53 = .ok (.getfield 471, 3) := dk_180 1 215 (dk_at dksX0_bring_2 7 rfl rfl)
theorem dX0_bring_56 : decode cX0_bring 56 = .ok (.iadd, 1) := dk_96 (dk_at dksX0_bring_2 10 rfl rfl)
theorem dX0_bring_57 : decode cX0_bring 57 = .ok (.aload_n 3, 1) := dk_45 (dk_at dksX0_bring_2 11 rfl rfl)
theorem dX0_bring_58 : decode cX0_bring 58 = .ok (.getfield 435, 3) := dk_180 1 179 (dk_at dksX0_bring_2 12 rfl rfl)
theorem dX0_bring_61 : decode cX0_bring 61 = .ok (.iadd, 1) := dk_96 (dk_at dksX0_bring_2 15 rfl rfl)
theorem dX0_bring_62 : decode cX0_bring 62 = .ok (.sipush 9999, 3) := dk_17 39 15 (dk_at dksX0_bring_2 16 rfl rfl)
theorem dX0_bring_65 : decode cX0_bring 65 = .ok (.if_icmp .le 5, 3) := dk_164 0 5 (dk_at dksX0_bring_2 19 rfl rfl)
theorem dX0_bring_68 : decode cX0_bring 68 = .ok (.iconst (-1), 1) := dk_2 (dk_at dksX0_bring_2 22 rfl rfl)
theorem dX0_bring_69 : decode cX0_bring 69 = .ok (.ireturn, 1) := dk_172 (dk_at dksX0_bring_2 23 rfl rfl)
theorem dX0_bring_70 : decode cX0_bring 70 = .ok (.aload_n 3, 1) := dk_45 (dk_at dksX0_bring_3 0 rfl rfl)
theorem dX0_bring_71 : decode cX0_bring 71 = .ok (.aload 4, 2) := dk_25 4 (dk_at dksX0_bring_3 1 rfl rfl)
theorem dX0_bring_73 : decode cX0_bring 73 = .ok (.putfield 442, 3) := dk_181 1 186 (dk_at dksX0_bring_3 3 rfl rfl)
theorem dX0_bring_76 : decode cX0_bring 76 = .ok (.aload_n 3, 1) := dk_45 (dk_at dksX0_bring_3 6 rfl rfl)
theorem dX0_bring_77 : decode cX0_bring 77 = .ok (.getfield 438, 3) := dk_180 1 182 (dk_at dksX0_bring_3 7 rfl rfl)
theorem dX0_bring_80 : decode cX0_bring 80 = .ok (.ifCond .eq 34, 3) := dk_153 0 34 (dk_at dksX0_bring_3 10 rfl rfl)
theorem dX0_bring_83 : decode cX0_bring 83 = .ok (.aload 4, 2) := dk_25 4 (dk_at dksX0_bring_3 13 rfl rfl)
theorem dX0_bring_85 : decode cX0_bring 85 = .ok (.dup, 1) := dk_89 (dk_at dksX0_bring_3 15 rfl rfl)
theorem dX0_bring_86 : decode cX0_bring 86 = .ok (.getfield 468, 3) := dk_180 1 212 (dk_at dksX0_bring_3 16 rfl rfl)
theorem dX0_bring_89 : decode cX0_bring 89 = .ok (.aload_n 3, 1) := dk_45 (dk_at dksX0_bring_3 19 rfl rfl)
theorem dX0_bring_90 : decode cX0_bring 90 = .ok (.getfield 435, 3) := dk_180 1 179 (dk_at dksX0_bring_3 20 rfl rfl)
theorem dX0_bring_93 : decode cX0_bring 93 = .ok (.iadd, 1) := dk_96 (dk_at dksX0_bring_3 23 rfl rfl)
theorem dX0_bring_94 : decode cX0_bring 94 = .ok (.putfield 468, 3) := dk_181 1 212 (dk_at dksX0_bring_4 0 rfl rfl)
theorem dX0_bring_97 : decode cX0_bring 97 = .ok (.aload 4, 2) := dk_25 4 (dk_at dksX0_bring_4 3 rfl rfl)
theorem dX0_bring_99 : decode cX0_bring 99 = .ok (.dup, 1) := dk_89 (dk_at dksX0_bring_4 5 rfl rfl)
theorem dX0_bring_100 : decode cX0_bring 100 = .ok (.getfield 474, 3) := dk_180 1 218 (dk_at dksX0_bring_4 6 rfl rfl)
theorem dX0_bring_103 : decode cX0_bring 103 = .ok (.aload_n 3, 1) := dk_45 (dk_at dksX0_bring_4 9 rfl rfl)
theorem dX0_bring_104 : decode cX0_bring 104 = .ok (.getfield 435, 3) := dk_180 1 179 (dk_at dksX0_bring_4 10 rfl rfl)
theorem dX0_bring_107 : decode cX0_bring 107 = .ok (.iadd, 1) := dk_96 (dk_at dksX0_bring_4 13 rfl rfl)
theorem dX0_bring_108 : decode cX0_bring 108 = .ok (.putfield 474, 3) := dk_181 1 218 (dk_at dksX0_bring_4 14 rfl rfl)
theorem dX0_bring_111 : decode cX0_bring 111 = .ok (.goto 17, 3) := dk_167 0 17 (dk_at dksX0_bring_4 17 rfl rfl)
theorem dX0_bring_114 : decode cX0_bring 114 = .ok (.aload 4, 2) := dk_25 4 (dk_at dksX0_bring_4 20 rfl rfl)
theorem dX0_bring_116 : decode cX0_bring 116 = .ok (.dup, 1) := dk_89 (dk_at dksX0_bring_4 22 rfl rfl)
theorem dX0_bring_117 : decode cX0_bring 117 = .ok (.getfield 471, 3) := dk_180 1 215 (dk_at dksX0_bring_5 0 rfl rfl)
theorem dX0_bring_120 : decode cX0_bring 120 = .ok (.aload_n 3, 1) := dk_45 (dk_at dksX0_bring_5 3 rfl rfl)
theorem dX0_bring_121 : decode cX0_bring 121 = .ok (.getfield 435, 3) := dk_180 1 179 (dk_at dksX0_bring_5 4 rfl rfl)
theorem dX0_bring_124 : decode cX0_bring 124 = .ok (.iadd, 1) := dk_96 (dk_at dksX0_bring_5 7 rfl rfl)
theorem dX0_bring_125 : decode cX0_bring 125 = .ok (.putfield 471, 3) := dk_181 1 215 (dk_at dksX0_bring_5 8 rfl rfl)
theorem dX0_bring_128 : decode cX0_bring 128 = .ok (.aload 4, 2) := dk_25 4 (dk_at dksX0_bring_5 11 rfl rfl)
theorem dX0_bring_130 : decode cX0_bring 130 = .ok (.getfield 468, 3) := dk_180 1 212 (dk_at dksX0_bring_5 13 rfl rfl)
theorem dX0_bring_133 : decode cX0_bring 133 = .ok (.aload 4, 2) := dk_25 4 (dk_at dksX0_bring_5 16 rfl rfl)
theorem dX0_bring_135 : decode cX0_bring 135 = .ok (.getfield 471, 3) := dk_180 1 215 (dk_at dksX0_bring_5 18 rfl rfl)
theorem dX0_bring_138 : decode cX0_bring 138 = .ok (.iadd, 1) := dk_96 (dk_at dksX0_bring_5 21 rfl rfl)
theorem dX0_bring_139 : decode cX0_bring 139 = .ok (.ireturn, 1) := dk_172 (dk_at dksX0_bring_5 22 rfl rfl)
abbrev cX0_mill : ByteArray := prog_1_method_58_code
def yX0_mill : MethodName := ⟨RX0, "mill", "(II)I"⟩
def dkwX0_mill_2 : List UInt8 := [180, 1, 21, 172]
abbrev dktX0_mill_2 : List UInt8 := dkwX0_mill_2 ++ []
def dkwX0_mill_1 : List UInt8 := [180, 1, 21, 28, 96, 17, 39, 15, 164, 0, 5, 2, 172, 45, 89, 180, 1, 21, 28, 96, 181, 1, 21, 45]
abbrev dktX0_mill_1 : List UInt8 := dkwX0_mill_1 ++ dktX0_mill_2
def dkwX0_mill_0 : List UInt8 := [42, 27, 182, 0, 136, 78, 45, 198, 0, 26, 28, 4, 17, 3, 231, 184, 0, 116, 153, 0, 15, 45]
abbrev dktX0_mill_0 : List UInt8 := dkwX0_mill_0 ++ dktX0_mill_1
theorem dksX0_mill_0 : cX0_mill.data.toList.drop 0 = dktX0_mill_0 := by decide +kernel
theorem dksX0_mill_1 : cX0_mill.data.toList.drop 22 = dktX0_mill_1 := dk_seg dksX0_mill_0 22 rfl rfl
theorem dksX0_mill_2 : cX0_mill.data.toList.drop 46 = dktX0_mill_2 := dk_seg dksX0_mill_1 24 rfl rfl
theorem dX0_mill_0 : decode cX0_mill 0 = .ok (.aload_n 0, 1) := dk_42 (dk_at dksX0_mill_0 0 rfl rfl)
theorem dX0_mill_1 : decode cX0_mill 1 = .ok (.iload_n 1, 1) := dk_27 (dk_at dksX0_mill_0 1 rfl rfl)
theorem dX0_mill_2 : decode cX0_mill 2 = .ok (.invokevirtual 136, 3) := dk_182 0 136 (dk_at dksX0_mill_0 2 rfl rfl)
theorem dX0_mill_5 : decode cX0_mill 5 = .ok (.astore_n 3, 1) := dk_78 (dk_at dksX0_mill_0 5 rfl rfl)
theorem dX0_mill_6 : decode cX0_mill 6 = .ok (.aload_n 3, 1) := dk_45 (dk_at dksX0_mill_0 6 rfl rfl)
theorem dX0_mill_7 : decode cX0_mill 7 = .ok (.ifnull 26, 3) := dk_198 0 26 (dk_at dksX0_mill_0 7 rfl rfl)
theorem dX0_mill_10 : decode cX0_mill 10 = .ok (.iload_n 2, 1) := dk_28 (dk_at dksX0_mill_0 10 rfl rfl)
theorem dX0_mill_11 : decode cX0_mill 11 = .ok (.iconst 1, 1) := dk_4 (dk_at dksX0_mill_0 11 rfl rfl)
theorem dX0_mill_12 : decode cX0_mill 12 = .ok (.sipush 999, 3) := dk_17 3 231 (dk_at dksX0_mill_0 12 rfl rfl)
theorem dX0_mill_15 : decode cX0_mill 15 = .ok (.invokestatic 116, 3) := dk_184 0 116 (dk_at dksX0_mill_0 15 rfl rfl)
theorem dX0_mill_18 : decode cX0_mill 18 = .ok (.ifCond .eq 15, 3) := dk_153 0 15 (dk_at dksX0_mill_0 18 rfl rfl)
theorem dX0_mill_21 : decode cX0_mill 21 = .ok (.aload_n 3, 1) := dk_45 (dk_at dksX0_mill_0 21 rfl rfl)
theorem dX0_mill_22 : decode cX0_mill 22 = .ok (.getfield 277, 3) := dk_180 1 21 (dk_at dksX0_mill_1 0 rfl rfl)
theorem dX0_mill_25 : decode cX0_mill 25 = .ok (.iload_n 2, 1) := dk_28 (dk_at dksX0_mill_1 3 rfl rfl)
theorem dX0_mill_26 : decode cX0_mill 26 = .ok (.iadd, 1) := dk_96 (dk_at dksX0_mill_1 4 rfl rfl)
theorem dX0_mill_27 : decode cX0_mill 27 = .ok (.sipush 9999, 3) := dk_17 39 15 (dk_at dksX0_mill_1 5 rfl rfl)
theorem dX0_mill_30 : decode cX0_mill 30 = .ok (.if_icmp .le 5, 3) := dk_164 0 5 (dk_at dksX0_mill_1 8 rfl rfl)
theorem dX0_mill_33 : decode cX0_mill 33 = .ok (.iconst (-1), 1) := dk_2 (dk_at dksX0_mill_1 11 rfl rfl)
theorem dX0_mill_34 : decode cX0_mill 34 = .ok (.ireturn, 1) := dk_172 (dk_at dksX0_mill_1 12 rfl rfl)
theorem dX0_mill_35 : decode cX0_mill 35 = .ok (.aload_n 3, 1) := dk_45 (dk_at dksX0_mill_1 13 rfl rfl)
theorem dX0_mill_36 : decode cX0_mill 36 = .ok (.dup, 1) := dk_89 (dk_at dksX0_mill_1 14 rfl rfl)
theorem dX0_mill_37 : decode cX0_mill 37 = .ok (.getfield 277, 3) := dk_180 1 21 (dk_at dksX0_mill_1 15 rfl rfl)
theorem dX0_mill_40 : decode cX0_mill 40 = .ok (.iload_n 2, 1) := dk_28 (dk_at dksX0_mill_1 18 rfl rfl)
theorem dX0_mill_41 : decode cX0_mill 41 = .ok (.iadd, 1) := dk_96 (dk_at dksX0_mill_1 19 rfl rfl)
theorem dX0_mill_42 : decode cX0_mill 42 = .ok (.putfield 277, 3) := dk_181 1 21 (dk_at dksX0_mill_1 20 rfl rfl)
theorem dX0_mill_45 : decode cX0_mill 45 = .ok (.aload_n 3, 1) := dk_45 (dk_at dksX0_mill_1 23 rfl rfl)
theorem dX0_mill_46 : decode cX0_mill 46 = .ok (.getfield 277, 3) := dk_180 1 21 (dk_at dksX0_mill_2 0 rfl rfl)
theorem dX0_mill_49 : decode cX0_mill 49 = .ok (.ireturn, 1) := dk_172 (dk_at dksX0_mill_2 3 rfl rfl)
abbrev cX0_price : ByteArray := prog_1_method_59_code
def yX0_price : MethodName := ⟨RX0, "price", "(II)Z"⟩
def dkwX0_price_2 : List UInt8 := [112, 181, 0, 224, 4, 172]
abbrev dktX0_price_2 : List UInt8 := dkwX0_price_2 ++ []
def dkwX0_price_1 : List UInt8 := [153, 0, 10, 28, 16, 100, 112, 154, 0, 5, 3, 172, 45, 28, 16, 100, 108, 181, 1, 18, 45, 28, 16, 100]
abbrev dktX0_price_1 : List UInt8 := dkwX0_price_1 ++ dktX0_price_2
def dkwX0_price_0 : List UInt8 := [42, 27, 182, 0, 136, 78, 45, 198, 0, 27, 28, 155, 0, 23, 28, 16, 100, 108, 4, 16, 99, 184, 0, 116]
abbrev dktX0_price_0 : List UInt8 := dkwX0_price_0 ++ dktX0_price_1
theorem dksX0_price_0 : cX0_price.data.toList.drop 0 = dktX0_price_0 := by decide +kernel
theorem dksX0_price_1 : cX0_price.data.toList.drop 24 = dktX0_price_1 := dk_seg dksX0_price_0 24 rfl rfl
theorem dksX0_price_2 : cX0_price.data.toList.drop 48 = dktX0_price_2 := dk_seg dksX0_price_1 24 rfl rfl
theorem dX0_price_0 : decode cX0_price 0 = .ok (.aload_n 0, 1) := dk_42 (dk_at dksX0_price_0 0 rfl rfl)
theorem dX0_price_1 : decode cX0_price 1 = .ok (.iload_n 1, 1) := dk_27 (dk_at dksX0_price_0 1 rfl rfl)
theorem dX0_price_2 : decode cX0_price 2 = .ok (.invokevirtual 136, 3) := dk_182 0 136 (dk_at dksX0_price_0 2 rfl rfl)
theorem dX0_price_5 : decode cX0_price 5 = .ok (.astore_n 3, 1) := dk_78 (dk_at dksX0_price_0 5 rfl rfl)
theorem dX0_price_6 : decode cX0_price 6 = .ok (.aload_n 3, 1) := dk_45 (dk_at dksX0_price_0 6 rfl rfl)
theorem dX0_price_7 : decode cX0_price 7 = .ok (.ifnull 27, 3) := dk_198 0 27 (dk_at dksX0_price_0 7 rfl rfl)
theorem dX0_price_10 : decode cX0_price 10 = .ok (.iload_n 2, 1) := dk_28 (dk_at dksX0_price_0 10 rfl rfl)
theorem dX0_price_11 : decode cX0_price 11 = .ok (.ifCond .lt 23, 3) := dk_155 0 23 (dk_at dksX0_price_0 11 rfl rfl)
theorem dX0_price_14 : decode cX0_price 14 = .ok (.iload_n 2, 1) := dk_28 (dk_at dksX0_price_0 14 rfl rfl)
theorem dX0_price_15 : decode cX0_price 15 = .ok (.bipush 100, 2) := dk_16 100 (dk_at dksX0_price_0 15 rfl rfl)
theorem dX0_price_17 : decode cX0_price 17 = .ok (.idiv, 1) := dk_108 (dk_at dksX0_price_0 17 rfl rfl)
theorem dX0_price_18 : decode cX0_price 18 = .ok (.iconst 1, 1) := dk_4 (dk_at dksX0_price_0 18 rfl rfl)
theorem dX0_price_19 : decode cX0_price 19 = .ok (.bipush 99, 2) := dk_16 99 (dk_at dksX0_price_0 19 rfl rfl)
theorem dX0_price_21 : decode cX0_price 21 = .ok (.invokestatic 116, 3) := dk_184 0 116 (dk_at dksX0_price_0 21 rfl rfl)
theorem dX0_price_24 : decode cX0_price 24 = .ok (.ifCond .eq 10, 3) := dk_153 0 10 (dk_at dksX0_price_1 0 rfl rfl)
theorem dX0_price_27 : decode cX0_price 27 = .ok (.iload_n 2, 1) := dk_28 (dk_at dksX0_price_1 3 rfl rfl)
theorem dX0_price_28 : decode cX0_price 28 = .ok (.bipush 100, 2) := dk_16 100 (dk_at dksX0_price_1 4 rfl rfl)
theorem dX0_price_30 : decode cX0_price 30 = .ok (.irem, 1) := dk_112 (dk_at dksX0_price_1 6 rfl rfl)
theorem dX0_price_31 : decode cX0_price 31 = .ok (.ifCond .ne 5, 3) := dk_154 0 5 (dk_at dksX0_price_1 7 rfl rfl)
theorem dX0_price_34 : decode cX0_price 34 = .ok (.iconst 0, 1) := dk_3 (dk_at dksX0_price_1 10 rfl rfl)
theorem dX0_price_35 : decode cX0_price 35 = .ok (.ireturn, 1) := dk_172 (dk_at dksX0_price_1 11 rfl rfl)
theorem dX0_price_36 : decode cX0_price 36 = .ok (.aload_n 3, 1) := dk_45 (dk_at dksX0_price_1 12 rfl rfl)
theorem dX0_price_37 : decode cX0_price 37 = .ok (.iload_n 2, 1) := dk_28 (dk_at dksX0_price_1 13 rfl rfl)
theorem dX0_price_38 : decode cX0_price 38 = .ok (.bipush 100, 2) := dk_16 100 (dk_at dksX0_price_1 14 rfl rfl)
theorem dX0_price_40 : decode cX0_price 40 = .ok (.idiv, 1) := dk_108 (dk_at dksX0_price_1 16 rfl rfl)
theorem dX0_price_41 : decode cX0_price 41 = .ok (.putfield 274, 3) := dk_181 1 18 (dk_at dksX0_price_1 17 rfl rfl)
theorem dX0_price_44 : decode cX0_price 44 = .ok (.aload_n 3, 1) := dk_45 (dk_at dksX0_price_1 20 rfl rfl)
theorem dX0_price_45 : decode cX0_price 45 = .ok (.iload_n 2, 1) := dk_28 (dk_at dksX0_price_1 21 rfl rfl)
theorem dX0_price_46 : decode cX0_price 46 = .ok (.bipush 100, 2) := dk_16 100 (dk_at dksX0_price_1 22 rfl rfl)
theorem dX0_price_48 : decode cX0_price 48 = .ok (.irem, 1) := dk_112 (dk_at dksX0_price_2 0 rfl rfl)
theorem dX0_price_49 : decode cX0_price 49 = .ok (.putfield 224, 3) := dk_181 0 224 (dk_at dksX0_price_2 1 rfl rfl)
theorem dX0_price_52 : decode cX0_price 52 = .ok (.iconst 1, 1) := dk_4 (dk_at dksX0_price_2 4 rfl rfl)
theorem dX0_price_53 : decode cX0_price 53 = .ok (.ireturn, 1) := dk_172 (dk_at dksX0_price_2 5 rfl rfl)
abbrev cX0_talk : ByteArray := prog_1_method_60_code
def yX0_talk : MethodName := ⟨RX0, "talk", "(II)I"⟩
def dkwX0_talk_1 : List UInt8 := [181, 1, 24, 28, 172]
abbrev dktX0_talk_1 : List UInt8 := dkwX0_talk_1 ++ []
def dkwX0_talk_0 : List UInt8 := [42, 27, 182, 0, 136, 78, 45, 198, 0, 13, 28, 3, 16, 20, 184, 0, 116, 154, 0, 5, 2, 172, 45, 28]
abbrev dktX0_talk_0 : List UInt8 := dkwX0_talk_0 ++ dktX0_talk_1
theorem dksX0_talk_0 : cX0_talk.data.toList.drop 0 = dktX0_talk_0 := by decide +kernel
theorem dksX0_talk_1 : cX0_talk.data.toList.drop 24 = dktX0_talk_1 := dk_seg dksX0_talk_0 24 rfl rfl
theorem dX0_talk_0 : decode cX0_talk 0 = .ok (.aload_n 0, 1) := dk_42 (dk_at dksX0_talk_0 0 rfl rfl)
theorem dX0_talk_1 : decode cX0_talk 1 = .ok (.iload_n 1, 1) := dk_27 (dk_at dksX0_talk_0 1 rfl rfl)
theorem dX0_talk_2 : decode cX0_talk 2 = .ok (.invokevirtual 136, 3) := dk_182 0 136 (dk_at dksX0_talk_0 2 rfl rfl)
theorem dX0_talk_5 : decode cX0_talk 5 = .ok (.astore_n 3, 1) := dk_78 (dk_at dksX0_talk_0 5 rfl rfl)
theorem dX0_talk_6 : decode cX0_talk 6 = .ok (.aload_n 3, 1) := dk_45 (dk_at dksX0_talk_0 6 rfl rfl)
theorem dX0_talk_7 : decode cX0_talk 7 = .ok (.ifnull 13, 3) := dk_198 0 13 (dk_at dksX0_talk_0 7 rfl rfl)
theorem dX0_talk_10 : decode cX0_talk 10 = .ok (.iload_n 2, 1) := dk_28 (dk_at dksX0_talk_0 10 rfl rfl)
theorem dX0_talk_11 : decode cX0_talk 11 = .ok (.iconst 0, 1) := dk_3 (dk_at dksX0_talk_0 11 rfl rfl)
theorem dX0_talk_12 : decode cX0_talk 12 = .ok (.bipush 20, 2) := dk_16 20 (dk_at dksX0_talk_0 12 rfl rfl)
theorem dX0_talk_14 : decode cX0_talk 14 = .ok (.invokestatic 116, 3) := dk_184 0 116 (dk_at dksX0_talk_0 14 rfl rfl)
theorem dX0_talk_17 : decode cX0_talk 17 = .ok (.ifCond .ne 5, 3) := dk_154 0 5 (dk_at dksX0_talk_0 17 rfl rfl)
theorem dX0_talk_20 : decode cX0_talk 20 = .ok (.iconst (-1), 1) := dk_2 (dk_at dksX0_talk_0 20 rfl rfl)
theorem dX0_talk_21 : decode cX0_talk 21 = .ok (.ireturn, 1) := dk_172 (dk_at dksX0_talk_0 21 rfl rfl)
theorem dX0_talk_22 : decode cX0_talk 22 = .ok (.aload_n 3, 1) := dk_45 (dk_at dksX0_talk_0 22 rfl rfl)
theorem dX0_talk_23 : decode cX0_talk 23 = .ok (.iload_n 2, 1) := dk_28 (dk_at dksX0_talk_0 23 rfl rfl)
theorem dX0_talk_24 : decode cX0_talk 24 = .ok (.putfield 280, 3) := dk_181 1 24 (dk_at dksX0_talk_1 0 rfl rfl)
theorem dX0_talk_27 : decode cX0_talk 27 = .ok (.iload_n 2, 1) := dk_28 (dk_at dksX0_talk_1 3 rfl rfl)
theorem dX0_talk_28 : decode cX0_talk 28 = .ok (.ireturn, 1) := dk_172 (dk_at dksX0_talk_1 4 rfl rfl)
abbrev cX0_heard : ByteArray := prog_1_method_61_code
def yX0_heard : MethodName := ⟨RX0, "heard", "(II)I"⟩
def dkwX0_heard_3 : List UInt8 := [46, 172]
abbrev dktX0_heard_3 : List UInt8 := dkwX0_heard_3 ++ []
def dkwX0_heard_2 : List UInt8 := [180, 0, 221, 3, 42, 180, 0, 151, 42, 45, 25, 4, 182, 0, 147, 16, 7, 184, 0, 251, 100, 184, 0, 212]
abbrev dktX0_heard_2 : List UInt8 := dkwX0_heard_2 ++ dktX0_heard_3
def dkwX0_heard_1 : List UInt8 := [25, 4, 182, 0, 147, 2, 159, 0, 13, 42, 180, 0, 151, 17, 0, 156, 160, 0, 5, 2, 172, 25, 4]
abbrev dktX0_heard_1 : List UInt8 := dkwX0_heard_1 ++ dktX0_heard_2
def dkwX0_heard_0 : List UInt8 := [42, 27, 182, 0, 136, 78, 42, 28, 182, 0, 136, 58, 4, 45, 198, 0, 29, 25, 4, 198, 0, 24, 42, 45]
abbrev dktX0_heard_0 : List UInt8 := dkwX0_heard_0 ++ dktX0_heard_1
theorem dksX0_heard_0 : cX0_heard.data.toList.drop 0 = dktX0_heard_0 := by decide +kernel
theorem dksX0_heard_1 : cX0_heard.data.toList.drop 24 = dktX0_heard_1 := dk_seg dksX0_heard_0 24 rfl rfl
theorem dksX0_heard_2 : cX0_heard.data.toList.drop 47 = dktX0_heard_2 := dk_seg dksX0_heard_1 23 rfl rfl
theorem dksX0_heard_3 : cX0_heard.data.toList.drop 71 = dktX0_heard_3 := dk_seg dksX0_heard_2 24 rfl rfl
theorem dX0_heard_0 : decode cX0_heard 0 = .ok (.aload_n 0, 1) := dk_42 (dk_at dksX0_heard_0 0 rfl rfl)
theorem dX0_heard_1 : decode cX0_heard 1 = .ok (.iload_n 1, 1) := dk_27 (dk_at dksX0_heard_0 1 rfl rfl)
theorem dX0_heard_2 : decode cX0_heard 2 = .ok (.invokevirtual 136, 3) := dk_182 0 136 (dk_at dksX0_heard_0 2 rfl rfl)
theorem dX0_heard_5 : decode cX0_heard 5 = .ok (.astore_n 3, 1) := dk_78 (dk_at dksX0_heard_0 5 rfl rfl)
theorem dX0_heard_6 : decode cX0_heard 6 = .ok (.aload_n 0, 1) := dk_42 (dk_at dksX0_heard_0 6 rfl rfl)
theorem dX0_heard_7 : decode cX0_heard 7 = .ok (.iload_n 2, 1) := dk_28 (dk_at dksX0_heard_0 7 rfl rfl)
theorem dX0_heard_8 : decode cX0_heard 8 = .ok (.invokevirtual 136, 3) := dk_182 0 136 (dk_at dksX0_heard_0 8 rfl rfl)
theorem dX0_heard_11 : decode cX0_heard 11 = .ok (.astore 4, 2) := dk_58 4 (dk_at dksX0_heard_0 11 rfl rfl)
theorem dX0_heard_13 : decode cX0_heard 13 = .ok (.aload_n 3, 1) := dk_45 (dk_at dksX0_heard_0 13 rfl rfl)
theorem dX0_heard_14 : decode cX0_heard 14 = .ok (.ifnull 29, 3) := dk_198 0 29 (dk_at dksX0_heard_0 14 rfl rfl)
theorem dX0_heard_17 : decode cX0_heard 17 = .ok (.aload 4, 2) := dk_25 4 (dk_at dksX0_heard_0 17 rfl rfl)
theorem dX0_heard_19 : decode cX0_heard 19 = .ok (.ifnull 24, 3) := dk_198 0 24 (dk_at dksX0_heard_0 19 rfl rfl)
theorem dX0_heard_22 : decode cX0_heard 22 = .ok (.aload_n 0, 1) := dk_42 (dk_at dksX0_heard_0 22 rfl rfl)
theorem dX0_heard_23 : decode cX0_heard 23 = .ok (.aload_n 3, 1) := dk_45 (dk_at dksX0_heard_0 23 rfl rfl)
theorem dX0_heard_24 : decode cX0_heard 24 = .ok (.aload 4, 2) := dk_25 4 (dk_at dksX0_heard_1 0 rfl rfl)
theorem dX0_heard_26 : decode cX0_heard 26 = .ok (.invokevirtual 147, 3) := dk_182 0 147 (dk_at dksX0_heard_1 2 rfl rfl)
theorem dX0_heard_29 : decode cX0_heard 29 = .ok (.iconst (-1), 1) := dk_2 (dk_at dksX0_heard_1 5 rfl rfl)
theorem dX0_heard_30 : decode cX0_heard 30 = .ok (.if_icmp .eq 13, 3) := dk_159 0 13 (dk_at dksX0_heard_1 6 rfl rfl)
theorem dX0_heard_33 : decode cX0_heard 33 = .ok (.aload_n 0, 1) := dk_42 (dk_at dksX0_heard_1 9 rfl rfl)
theorem dX0_heard_34 : decode cX0_heard 34 = .ok (.getfield 151, 3) := dk_180 0 151 (dk_at dksX0_heard_1 10 rfl rfl)
theorem dX0_heard_37 : decode cX0_heard 37 = .ok (.sipush 156, 3) := dk_17 0 156 (dk_at dksX0_heard_1 13 rfl rfl)
theorem dX0_heard_40 : decode cX0_heard 40 = .ok (.if_icmp .ne 5, 3) := dk_160 0 5 (dk_at dksX0_heard_1 16 rfl rfl)
theorem dX0_heard_43 : decode cX0_heard 43 = .ok (.iconst (-1), 1) := dk_2 (dk_at dksX0_heard_1 19 rfl rfl)
theorem dX0_heard_44 : decode cX0_heard 44 = .ok (.ireturn, 1) := dk_172 (dk_at dksX0_heard_1 20 rfl rfl)
theorem dX0_heard_45 : decode cX0_heard 45 = .ok (.aload 4, 2) := dk_25 4 (dk_at dksX0_heard_1 21 rfl rfl)
theorem dX0_heard_47 : decode cX0_heard 47 = .ok (.getfield 221, 3) := dk_180 0 221 (dk_at dksX0_heard_2 0 rfl rfl)
theorem dX0_heard_50 : decode cX0_heard 50 = .ok (.iconst 0, 1) := dk_3 (dk_at dksX0_heard_2 3 rfl rfl)
theorem dX0_heard_51 : decode cX0_heard 51 = .ok (.aload_n 0, 1) := dk_42 (dk_at dksX0_heard_2 4 rfl rfl)
theorem dX0_heard_52 : decode cX0_heard 52 = .ok (.getfield 151, 3) := dk_180 0 151 (dk_at dksX0_heard_2 5 rfl rfl)
theorem dX0_heard_55 : decode cX0_heard 55 = .ok (.aload_n 0, 1) := dk_42 (dk_at dksX0_heard_2 8 rfl rfl)
theorem dX0_heard_56 : decode cX0_heard 56 = .ok (.aload_n 3, 1) := dk_45 (dk_at dksX0_heard_2 9 rfl rfl)
theorem dX0_heard_57 : decode cX0_heard 57 = .ok (.aload 4, 2) := dk_25 4 (dk_at dksX0_heard_2 10 rfl rfl)
theorem dX0_heard_59 : decode cX0_heard 59 = .ok (.invokevirtual 147, 3) := dk_182 0 147 (dk_at dksX0_heard_2 12 rfl rfl)
theorem dX0_heard_62 : decode cX0_heard 62 = .ok (.bipush 7, 2) := dk_16 7 (dk_at dksX0_heard_2 15 rfl rfl)
theorem dX0_heard_64 : decode cX0_heard 64 = .ok (.invokestatic 251, 3) := dk_184 0 251 (dk_at dksX0_heard_2 17 rfl rfl)
theorem dX0_heard_67 : decode cX0_heard 67 = .ok (.isub, 1) := dk_100 (dk_at dksX0_heard_2 20 rfl rfl)
theorem dX0_heard_68 : decode cX0_heard 68 = .ok (.invokestatic 212, 3) := dk_184 0 212 (dk_at dksX0_heard_2 21 rfl rfl)
theorem dX0_heard_71 : decode cX0_heard 71 = .ok (.iaload, 1) := dk_46 (dk_at dksX0_heard_3 0 rfl rfl)
theorem dX0_heard_72 : decode cX0_heard 72 = .ok (.ireturn, 1) := dk_172 (dk_at dksX0_heard_3 1 rfl rfl)
abbrev cX0_likes : ByteArray := prog_1_method_62_code
def yX0_likes : MethodName := ⟨RX0, "likes", "(I)I"⟩
def dkwX0_likes_0 : List UInt8 := [42, 27, 182, 0, 157, 77, 44, 199, 0, 7, 2, 167, 0, 8, 42, 44, 182, 1, 27, 172]
abbrev dktX0_likes_0 : List UInt8 := dkwX0_likes_0 ++ []
theorem dksX0_likes_0 : cX0_likes.data.toList.drop 0 = dktX0_likes_0 := by decide +kernel
theorem dX0_likes_0 : decode cX0_likes 0 = .ok (.aload_n 0, 1) := dk_42 (dk_at dksX0_likes_0 0 rfl rfl)
theorem dX0_likes_1 : decode cX0_likes 1 = .ok (.iload_n 1, 1) := dk_27 (dk_at dksX0_likes_0 1 rfl rfl)
theorem dX0_likes_2 : decode cX0_likes 2 = .ok (.invokevirtual 157, 3) := dk_182 0 157 (dk_at dksX0_likes_0 2 rfl rfl)
theorem dX0_likes_5 : decode cX0_likes 5 = .ok (.astore_n 2, 1) := dk_77 (dk_at dksX0_likes_0 5 rfl rfl)
theorem dX0_likes_6 : decode cX0_likes 6 = .ok (.aload_n 2, 1) := dk_44 (dk_at dksX0_likes_0 6 rfl rfl)
theorem dX0_likes_7 : decode cX0_likes 7 = .ok (.ifnonnull 7, 3) := dk_199 0 7 (dk_at dksX0_likes_0 7 rfl rfl)
theorem dX0_likes_10 : decode cX0_likes 10 = .ok (.iconst (-1), 1) := dk_2 (dk_at dksX0_likes_0 10 rfl rfl)
theorem dX0_likes_11 : decode cX0_likes 11 = .ok (.goto 8, 3) := dk_167 0 8 (dk_at dksX0_likes_0 11 rfl rfl)
theorem dX0_likes_14 : decode cX0_likes 14 = .ok (.aload_n 0, 1) := dk_42 (dk_at dksX0_likes_0 14 rfl rfl)
theorem dX0_likes_15 : decode cX0_likes 15 = .ok (.aload_n 2, 1) := dk_44 (dk_at dksX0_likes_0 15 rfl rfl)
theorem dX0_likes_16 : decode cX0_likes 16 = .ok (.invokevirtual 283, 3) := dk_182 1 27 (dk_at dksX0_likes_0 16 rfl rfl)
theorem dX0_likes_19 : decode cX0_likes 19 = .ok (.ireturn, 1) := dk_172 (dk_at dksX0_likes_0 19 rfl rfl)
abbrev cX0_sold : ByteArray := prog_1_method_63_code
def yX0_sold : MethodName := ⟨RX0, "sold", "(II)I"⟩
def dkwX0_sold_2 : List UInt8 := [180, 1, 221, 172]
abbrev dktX0_sold_2 : List UInt8 := dkwX0_sold_2 ++ []
def dkwX0_sold_1 : List UInt8 := [180, 1, 221, 28, 96, 17, 39, 15, 164, 0, 5, 2, 172, 45, 89, 180, 1, 221, 28, 96, 181, 1, 221, 45]
abbrev dktX0_sold_1 : List UInt8 := dkwX0_sold_1 ++ dktX0_sold_2
def dkwX0_sold_0 : List UInt8 := [42, 27, 182, 0, 136, 78, 45, 198, 0, 26, 28, 4, 17, 3, 231, 184, 0, 116, 153, 0, 15, 45]
abbrev dktX0_sold_0 : List UInt8 := dkwX0_sold_0 ++ dktX0_sold_1
theorem dksX0_sold_0 : cX0_sold.data.toList.drop 0 = dktX0_sold_0 := by decide +kernel
theorem dksX0_sold_1 : cX0_sold.data.toList.drop 22 = dktX0_sold_1 := dk_seg dksX0_sold_0 22 rfl rfl
theorem dksX0_sold_2 : cX0_sold.data.toList.drop 46 = dktX0_sold_2 := dk_seg dksX0_sold_1 24 rfl rfl
theorem dX0_sold_0 : decode cX0_sold 0 = .ok (.aload_n 0, 1) := dk_42 (dk_at dksX0_sold_0 0 rfl rfl)
theorem dX0_sold_1 : decode cX0_sold 1 = .ok (.iload_n 1, 1) := dk_27 (dk_at dksX0_sold_0 1 rfl rfl)
theorem dX0_sold_2 : decode cX0_sold 2 = .ok (.invokevirtual 136, 3) := dk_182 0 136 (dk_at dksX0_sold_0 2 rfl rfl)
theorem dX0_sold_5 : decode cX0_sold 5 = .ok (.astore_n 3, 1) := dk_78 (dk_at dksX0_sold_0 5 rfl rfl)
theorem dX0_sold_6 : decode cX0_sold 6 = .ok (.aload_n 3, 1) := dk_45 (dk_at dksX0_sold_0 6 rfl rfl)
theorem dX0_sold_7 : decode cX0_sold 7 = .ok (.ifnull 26, 3) := dk_198 0 26 (dk_at dksX0_sold_0 7 rfl rfl)
theorem dX0_sold_10 : decode cX0_sold 10 = .ok (.iload_n 2, 1) := dk_28 (dk_at dksX0_sold_0 10 rfl rfl)
theorem dX0_sold_11 : decode cX0_sold 11 = .ok (.iconst 1, 1) := dk_4 (dk_at dksX0_sold_0 11 rfl rfl)
theorem dX0_sold_12 : decode cX0_sold 12 = .ok (.sipush 999, 3) := dk_17 3 231 (dk_at dksX0_sold_0 12 rfl rfl)
theorem dX0_sold_15 : decode cX0_sold 15 = .ok (.invokestatic 116, 3) := dk_184 0 116 (dk_at dksX0_sold_0 15 rfl rfl)
theorem dX0_sold_18 : decode cX0_sold 18 = .ok (.ifCond .eq 15, 3) := dk_153 0 15 (dk_at dksX0_sold_0 18 rfl rfl)
theorem dX0_sold_21 : decode cX0_sold 21 = .ok (.aload_n 3, 1) := dk_45 (dk_at dksX0_sold_0 21 rfl rfl)
theorem dX0_sold_22 : decode cX0_sold 22 = .ok (.getfield 477, 3) := dk_180 1 221 (dk_at dksX0_sold_1 0 rfl rfl)
theorem dX0_sold_25 : decode cX0_sold 25 = .ok (.iload_n 2, 1) := dk_28 (dk_at dksX0_sold_1 3 rfl rfl)
theorem dX0_sold_26 : decode cX0_sold 26 = .ok (.iadd, 1) := dk_96 (dk_at dksX0_sold_1 4 rfl rfl)
theorem dX0_sold_27 : decode cX0_sold 27 = .ok (.sipush 9999, 3) := dk_17 39 15 (dk_at dksX0_sold_1 5 rfl rfl)
theorem dX0_sold_30 : decode cX0_sold 30 = .ok (.if_icmp .le 5, 3) := dk_164 0 5 (dk_at dksX0_sold_1 8 rfl rfl)
theorem dX0_sold_33 : decode cX0_sold 33 = .ok (.iconst (-1), 1) := dk_2 (dk_at dksX0_sold_1 11 rfl rfl)
theorem dX0_sold_34 : decode cX0_sold 34 = .ok (.ireturn, 1) := dk_172 (dk_at dksX0_sold_1 12 rfl rfl)
theorem dX0_sold_35 : decode cX0_sold 35 = .ok (.aload_n 3, 1) := dk_45 (dk_at dksX0_sold_1 13 rfl rfl)
theorem dX0_sold_36 : decode cX0_sold 36 = .ok (.dup, 1) := dk_89 (dk_at dksX0_sold_1 14 rfl rfl)
theorem dX0_sold_37 : decode cX0_sold 37 = .ok (.getfield 477, 3) := dk_180 1 221 (dk_at dksX0_sold_1 15 rfl rfl)
theorem dX0_sold_40 : decode cX0_sold 40 = .ok (.iload_n 2, 1) := dk_28 (dk_at dksX0_sold_1 18 rfl rfl)
theorem dX0_sold_41 : decode cX0_sold 41 = .ok (.iadd, 1) := dk_96 (dk_at dksX0_sold_1 19 rfl rfl)
theorem dX0_sold_42 : decode cX0_sold 42 = .ok (.putfield 477, 3) := dk_181 1 221 (dk_at dksX0_sold_1 20 rfl rfl)
theorem dX0_sold_45 : decode cX0_sold 45 = .ok (.aload_n 3, 1) := dk_45 (dk_at dksX0_sold_1 23 rfl rfl)
theorem dX0_sold_46 : decode cX0_sold 46 = .ok (.getfield 477, 3) := dk_180 1 221 (dk_at dksX0_sold_2 0 rfl rfl)
theorem dX0_sold_49 : decode cX0_sold 49 = .ok (.ireturn, 1) := dk_172 (dk_at dksX0_sold_2 3 rfl rfl)
abbrev cX0_wrong : ByteArray := prog_1_method_65_code
def yX0_wrong : MethodName := ⟨RX0, "wrong", "(IZ)I"⟩
def dkwX0_wrong_0 : List UInt8 := [42, 27, 182, 0, 136, 78, 45, 199, 0, 7, 2, 167, 0, 8, 45, 28, 184, 1, 227, 172]
abbrev dktX0_wrong_0 : List UInt8 := dkwX0_wrong_0 ++ []
theorem dksX0_wrong_0 : cX0_wrong.data.toList.drop 0 = dktX0_wrong_0 := by decide +kernel
theorem dX0_wrong_0 : decode cX0_wrong 0 = .ok (.aload_n 0, 1) := dk_42 (dk_at dksX0_wrong_0 0 rfl rfl)
theorem dX0_wrong_1 : decode cX0_wrong 1 = .ok (.iload_n 1, 1) := dk_27 (dk_at dksX0_wrong_0 1 rfl rfl)
theorem dX0_wrong_2 : decode cX0_wrong 2 = .ok (.invokevirtual 136, 3) := dk_182 0 136 (dk_at dksX0_wrong_0 2 rfl rfl)
theorem dX0_wrong_5 : decode cX0_wrong 5 = .ok (.astore_n 3, 1) := dk_78 (dk_at dksX0_wrong_0 5 rfl rfl)
theorem dX0_wrong_6 : decode cX0_wrong 6 = .ok (.aload_n 3, 1) := dk_45 (dk_at dksX0_wrong_0 6 rfl rfl)
theorem dX0_wrong_7 : decode cX0_wrong 7 = .ok (.ifnonnull 7, 3) := dk_199 0 7 (dk_at dksX0_wrong_0 7 rfl rfl)
theorem dX0_wrong_10 : decode cX0_wrong 10 = .ok (.iconst (-1), 1) := dk_2 (dk_at dksX0_wrong_0 10 rfl rfl)
theorem dX0_wrong_11 : decode cX0_wrong 11 = .ok (.goto 8, 3) := dk_167 0 8 (dk_at dksX0_wrong_0 11 rfl rfl)
theorem dX0_wrong_14 : decode cX0_wrong 14 = .ok (.aload_n 3, 1) := dk_45 (dk_at dksX0_wrong_0 14 rfl rfl)
theorem dX0_wrong_15 : decode cX0_wrong 15 = .ok (.iload_n 2, 1) := dk_28 (dk_at dksX0_wrong_0 15 rfl rfl)
theorem dX0_wrong_16 : decode cX0_wrong 16 = .ok (.invokestatic 483, 3) := dk_184 1 227 (dk_at dksX0_wrong_0 16 rfl rfl)
theorem dX0_wrong_19 : decode cX0_wrong 19 = .ok (.ireturn, 1) := dk_172 (dk_at dksX0_wrong_0 19 rfl rfl)
abbrev cX0_wrongAt : ByteArray := prog_1_method_64_code
def yX0_wrongAt : MethodName := ⟨RX0, "wrongAt", "(LWheelLand$Village;Z)I"⟩
def dkwX0_wrongAt_1 : List UInt8 := [172]
abbrev dktX0_wrongAt_1 : List UInt8 := dkwX0_wrongAt_1 ++ []
def dkwX0_wrongAt_0 : List UInt8 := [3, 42, 180, 1, 221, 27, 153, 0, 10, 42, 180, 1, 224, 167, 0, 7, 42, 180, 1, 218, 100, 184, 0, 212]
abbrev dktX0_wrongAt_0 : List UInt8 := dkwX0_wrongAt_0 ++ dktX0_wrongAt_1
theorem dksX0_wrongAt_0 : cX0_wrongAt.data.toList.drop 0 = dktX0_wrongAt_0 := by decide +kernel
theorem dksX0_wrongAt_1 : cX0_wrongAt.data.toList.drop 24 = dktX0_wrongAt_1 := dk_seg dksX0_wrongAt_0 24 rfl rfl
theorem dX0_wrongAt_0 : decode cX0_wrongAt 0 = .ok (.iconst 0, 1) := dk_3 (dk_at dksX0_wrongAt_0 0 rfl rfl)
theorem dX0_wrongAt_1 : decode cX0_wrongAt 1 = .ok (.aload_n 0, 1) := dk_42 (dk_at dksX0_wrongAt_0 1 rfl rfl)
theorem dX0_wrongAt_2 : decode cX0_wrongAt 2 = .ok (.getfield 477, 3) := dk_180 1 221 (dk_at dksX0_wrongAt_0 2 rfl rfl)
theorem dX0_wrongAt_5 : decode cX0_wrongAt 5 = .ok (.iload_n 1, 1) := dk_27 (dk_at dksX0_wrongAt_0 5 rfl rfl)
theorem dX0_wrongAt_6 : decode cX0_wrongAt 6 = .ok (.ifCond .eq 10, 3) := dk_153 0 10 (dk_at dksX0_wrongAt_0 6 rfl rfl)
theorem dX0_wrongAt_9 : decode cX0_wrongAt 9 = .ok (.aload_n 0, 1) := dk_42 (dk_at dksX0_wrongAt_0 9 rfl rfl)
theorem dX0_wrongAt_10 : decode cX0_wrongAt 10 = .ok (.getfield 480, 3) := dk_180 1 224 (dk_at dksX0_wrongAt_0 10 rfl rfl)
theorem dX0_wrongAt_13 : decode cX0_wrongAt 13 = .ok (.goto 7, 3) := dk_167 0 7 (dk_at dksX0_wrongAt_0 13 rfl rfl)
theorem dX0_wrongAt_16 : decode cX0_wrongAt 16 = .ok (.aload_n 0, 1) := dk_42 (dk_at dksX0_wrongAt_0 16 rfl rfl)
theorem dX0_wrongAt_17 : decode cX0_wrongAt 17 = .ok (.getfield 474, 3) := dk_180 1 218 (dk_at dksX0_wrongAt_0 17 rfl rfl)
theorem dX0_wrongAt_20 : decode cX0_wrongAt 20 = .ok (.isub, 1) := dk_100 (dk_at dksX0_wrongAt_0 20 rfl rfl)
theorem dX0_wrongAt_21 : decode cX0_wrongAt 21 = .ok (.invokestatic 212, 3) := dk_184 0 212 (dk_at dksX0_wrongAt_0 21 rfl rfl)
theorem dX0_wrongAt_24 : decode cX0_wrongAt 24 = .ok (.ireturn, 1) := dk_172 (dk_at dksX0_wrongAt_1 0 rfl rfl)
abbrev cX0_look : ByteArray := prog_1_method_66_code
def yX0_look : MethodName := ⟨RX0, "look", "()I"⟩
def dkwX0_look_2 : List UInt8 := [61, 29, 60, 132, 3, 1, 167, 255, 208, 27, 172]
abbrev dktX0_look_2 : List UInt8 := dkwX0_look_2 ++ []
def dkwX0_look_1 : List UInt8 := [42, 180, 0, 24, 29, 50, 3, 184, 1, 227, 100, 54, 4, 21, 4, 28, 163, 0, 6, 167, 0, 8, 21, 4]
abbrev dktX0_look_1 : List UInt8 := dkwX0_look_1 ++ dktX0_look_2
def dkwX0_look_0 : List UInt8 := [2, 60, 3, 61, 3, 62, 29, 42, 180, 0, 112, 162, 0, 46, 42, 180, 0, 24, 29, 50, 4, 184, 1, 227]
abbrev dktX0_look_0 : List UInt8 := dkwX0_look_0 ++ dktX0_look_1
theorem dksX0_look_0 : cX0_look.data.toList.drop 0 = dktX0_look_0 := by decide +kernel
theorem dksX0_look_1 : cX0_look.data.toList.drop 24 = dktX0_look_1 := dk_seg dksX0_look_0 24 rfl rfl
theorem dksX0_look_2 : cX0_look.data.toList.drop 48 = dktX0_look_2 := dk_seg dksX0_look_1 24 rfl rfl
theorem dX0_look_0 : decode cX0_look 0 = .ok (.iconst (-1), 1) := dk_2 (dk_at dksX0_look_0 0 rfl rfl)
theorem dX0_look_1 : decode cX0_look 1 = .ok (.istore_n 1, 1) := dk_60 (dk_at dksX0_look_0 1 rfl rfl)
theorem dX0_look_2 : decode cX0_look 2 = .ok (.iconst 0, 1) := dk_3 (dk_at dksX0_look_0 2 rfl rfl)
theorem dX0_look_3 : decode cX0_look 3 = .ok (.istore_n 2, 1) := dk_61 (dk_at dksX0_look_0 3 rfl rfl)
theorem dX0_look_4 : decode cX0_look 4 = .ok (.iconst 0, 1) := dk_3 (dk_at dksX0_look_0 4 rfl rfl)
theorem dX0_look_5 : decode cX0_look 5 = .ok (.istore_n 3, 1) := dk_62 (dk_at dksX0_look_0 5 rfl rfl)
theorem dX0_look_6 : decode cX0_look 6 = .ok (.iload_n 3, 1) := dk_29 (dk_at dksX0_look_0 6 rfl rfl)
theorem dX0_look_7 : decode cX0_look 7 = .ok (.aload_n 0, 1) := dk_42 (dk_at dksX0_look_0 7 rfl rfl)
theorem dX0_look_8 : decode cX0_look 8 = .ok (.getfield 112, 3) := dk_180 0 112 (dk_at dksX0_look_0 8 rfl rfl)
theorem dX0_look_11 : decode cX0_look 11 = .ok (.if_icmp .ge 46, 3) := dk_162 0 46 (dk_at dksX0_look_0 11 rfl rfl)
theorem dX0_look_14 : decode cX0_look 14 = .ok (.aload_n 0, 1) := dk_42 (dk_at dksX0_look_0 14 rfl rfl)
theorem dX0_look_15 : decode cX0_look 15 = .ok (.getfield 24, 3) := dk_180 0 24 (dk_at dksX0_look_0 15 rfl rfl)
theorem dX0_look_18 : decode cX0_look 18 = .ok (.iload_n 3, 1) := dk_29 (dk_at dksX0_look_0 18 rfl rfl)
theorem dX0_look_19 : decode cX0_look 19 = .ok (.aaload, 1) := dk_50 (dk_at dksX0_look_0 19 rfl rfl)
theorem dX0_look_20 : decode cX0_look 20 = .ok (.iconst 1, 1) := dk_4 (dk_at dksX0_look_0 20 rfl rfl)
theorem dX0_look_21 : decode cX0_look 21 = .ok (.invokestatic 483, 3) := dk_184 1 227 (dk_at dksX0_look_0 21 rfl rfl)
theorem dX0_look_24 : decode cX0_look 24 = .ok (.aload_n 0, 1) := dk_42 (dk_at dksX0_look_1 0 rfl rfl)
theorem dX0_look_25 : decode cX0_look 25 = .ok (.getfield 24, 3) := dk_180 0 24 (dk_at dksX0_look_1 1 rfl rfl)
theorem dX0_look_28 : decode cX0_look 28 = .ok (.iload_n 3, 1) := dk_29 (dk_at dksX0_look_1 4 rfl rfl)
theorem dX0_look_29 : decode cX0_look 29 = .ok (.aaload, 1) := dk_50 (dk_at dksX0_look_1 5 rfl rfl)
theorem dX0_look_30 : decode cX0_look 30 = .ok (.iconst 0, 1) := dk_3 (dk_at dksX0_look_1 6 rfl rfl)
theorem dX0_look_31 : decode cX0_look 31 = .ok (.invokestatic 483, 3) := dk_184 1 227 (dk_at dksX0_look_1 7 rfl rfl)
theorem dX0_look_34 : decode cX0_look 34 = .ok (.isub, 1) := dk_100 (dk_at dksX0_look_1 10 rfl rfl)
theorem dX0_look_35 : decode cX0_look 35 = .ok (.istore 4, 2) := dk_54 4 (dk_at dksX0_look_1 11 rfl rfl)
theorem dX0_look_37 : decode cX0_look 37 = .ok (.iload 4, 2) := dk_21 4 (dk_at dksX0_look_1 13 rfl rfl)
theorem dX0_look_39 : decode cX0_look 39 = .ok (.iload_n 2, 1) := dk_28 (dk_at dksX0_look_1 15 rfl rfl)
theorem dX0_look_40 : decode cX0_look 40 = .ok (.if_icmp .gt 6, 3) := dk_163 0 6 (dk_at dksX0_look_1 16 rfl rfl)
theorem dX0_look_43 : decode cX0_look 43 = .ok (.goto 8, 3) := dk_167 0 8 (dk_at dksX0_look_1 19 rfl rfl)
theorem dX0_look_46 : decode cX0_look 46 = .ok (.iload 4, 2) := dk_21 4 (dk_at dksX0_look_1 22 rfl rfl)
theorem dX0_look_48 : decode cX0_look 48 = .ok (.istore_n 2, 1) := dk_61 (dk_at dksX0_look_2 0 rfl rfl)
theorem dX0_look_49 : decode cX0_look 49 = .ok (.iload_n 3, 1) := dk_29 (dk_at dksX0_look_2 1 rfl rfl)
theorem dX0_look_50 : decode cX0_look 50 = .ok (.istore_n 1, 1) := dk_60 (dk_at dksX0_look_2 2 rfl rfl)
theorem dX0_look_51 : decode cX0_look 51 = .ok (.iinc 3 1, 3) := dk_132 3 1 (dk_at dksX0_look_2 3 rfl rfl)
theorem dX0_look_54 : decode cX0_look 54 = .ok (.goto (-48), 3) := dk_167 255 208 (dk_at dksX0_look_2 6 rfl rfl)
theorem dX0_look_57 : decode cX0_look 57 = .ok (.iload_n 1, 1) := dk_27 (dk_at dksX0_look_2 9 rfl rfl)
theorem dX0_look_58 : decode cX0_look 58 = .ok (.ireturn, 1) := dk_172 (dk_at dksX0_look_2 10 rfl rfl)
abbrev cX0_gift : ByteArray := prog_1_method_67_code
def yX0_gift : MethodName := ⟨RX0, "gift", "(III)I"⟩
def dkwX0_gift_3 : List UInt8 := [180, 1, 231, 4, 96, 181, 1, 231, 42, 180, 1, 231, 4, 100, 172]
abbrev dktX0_gift_3 : List UInt8 := dkwX0_gift_3 ++ []
def dkwX0_gift_2 : List UInt8 := [42, 180, 0, 97, 42, 180, 1, 231, 28, 79, 42, 180, 0, 100, 42, 180, 1, 231, 29, 79, 42, 89]
abbrev dktX0_gift_2 : List UInt8 := dkwX0_gift_2 ++ dktX0_gift_3
def dkwX0_gift_1 : List UInt8 := [153, 0, 12, 42, 180, 1, 231, 16, 8, 160, 0, 5, 2, 172, 42, 180, 0, 94, 42, 180, 1, 231, 27, 79]
abbrev dktX0_gift_1 : List UInt8 := dkwX0_gift_1 ++ dktX0_gift_2
def dkwX0_gift_0 : List UInt8 := [27, 4, 16, 99, 184, 0, 116, 153, 0, 29, 42, 28, 182, 0, 157, 198, 0, 21, 29, 3, 5, 184, 0, 116]
abbrev dktX0_gift_0 : List UInt8 := dkwX0_gift_0 ++ dktX0_gift_1
theorem dksX0_gift_0 : cX0_gift.data.toList.drop 0 = dktX0_gift_0 := by decide +kernel
theorem dksX0_gift_1 : cX0_gift.data.toList.drop 24 = dktX0_gift_1 := dk_seg dksX0_gift_0 24 rfl rfl
theorem dksX0_gift_2 : cX0_gift.data.toList.drop 48 = dktX0_gift_2 := dk_seg dksX0_gift_1 24 rfl rfl
theorem dksX0_gift_3 : cX0_gift.data.toList.drop 70 = dktX0_gift_3 := dk_seg dksX0_gift_2 22 rfl rfl
theorem dX0_gift_0 : decode cX0_gift 0 = .ok (.iload_n 1, 1) := dk_27 (dk_at dksX0_gift_0 0 rfl rfl)
theorem dX0_gift_1 : decode cX0_gift 1 = .ok (.iconst 1, 1) := dk_4 (dk_at dksX0_gift_0 1 rfl rfl)
theorem dX0_gift_2 : decode cX0_gift 2 = .ok (.bipush 99, 2) := dk_16 99 (dk_at dksX0_gift_0 2 rfl rfl)
theorem dX0_gift_4 : decode cX0_gift 4 = .ok (.invokestatic 116, 3) := dk_184 0 116 (dk_at dksX0_gift_0 4 rfl rfl)
theorem dX0_gift_7 : decode cX0_gift 7 = .ok (.ifCond .eq 29, 3) := dk_153 0 29 (dk_at dksX0_gift_0 7 rfl rfl)
theorem dX0_gift_10 : decode cX0_gift 10 = .ok (.aload_n 0, 1) := dk_42 (dk_at dksX0_gift_0 10 rfl rfl)
theorem dX0_gift_11 : decode cX0_gift 11 = .ok (.iload_n 2, 1) := dk_28 (dk_at dksX0_gift_0 11 rfl rfl)
theorem dX0_gift_12 : decode cX0_gift 12 = .ok (.invokevirtual 157, 3) := dk_182 0 157 (dk_at dksX0_gift_0 12 rfl rfl)
theorem dX0_gift_15 : decode cX0_gift 15 = .ok (.ifnull 21, 3) := dk_198 0 21 (dk_at dksX0_gift_0 15 rfl rfl)
theorem dX0_gift_18 : decode cX0_gift 18 = .ok (.iload_n 3, 1) := dk_29 (dk_at dksX0_gift_0 18 rfl rfl)
theorem dX0_gift_19 : decode cX0_gift 19 = .ok (.iconst 0, 1) := dk_3 (dk_at dksX0_gift_0 19 rfl rfl)
theorem dX0_gift_20 : decode cX0_gift 20 = .ok (.iconst 2, 1) := dk_5 (dk_at dksX0_gift_0 20 rfl rfl)
theorem dX0_gift_21 : decode cX0_gift 21 = .ok (.invokestatic 116, 3) := dk_184 0 116 (dk_at dksX0_gift_0 21 rfl rfl)
theorem dX0_gift_24 : decode cX0_gift 24 = .ok (.ifCond .eq 12, 3) := dk_153 0 12 (dk_at dksX0_gift_1 0 rfl rfl)
theorem dX0_gift_27 : decode cX0_gift 27 = .ok (.aload_n 0, 1) := dk_42 (dk_at dksX0_gift_1 3 rfl rfl)
theorem dX0_gift_28 : decode cX0_gift 28 = .ok (.getfield 487, 3) := dk_180 1 231 (dk_at dksX0_gift_1 4 rfl rfl)
theorem dX0_gift_31 : decode cX0_gift 31 = .ok (.bipush 8, 2) := dk_16 8 (dk_at dksX0_gift_1 7 rfl rfl)
theorem dX0_gift_33 : decode cX0_gift 33 = .ok (.if_icmp .ne 5, 3) := dk_160 0 5 (dk_at dksX0_gift_1 9 rfl rfl)
theorem dX0_gift_36 : decode cX0_gift 36 = .ok (.iconst (-1), 1) := dk_2 (dk_at dksX0_gift_1 12 rfl rfl)
theorem dX0_gift_37 : decode cX0_gift 37 = .ok (.ireturn, 1) := dk_172 (dk_at dksX0_gift_1 13 rfl rfl)
theorem dX0_gift_38 : decode cX0_gift 38 = .ok (.aload_n 0, 1) := dk_42 (dk_at dksX0_gift_1 14 rfl rfl)
theorem dX0_gift_39 : decode cX0_gift 39 = .ok (.getfield 94, 3) := dk_180 0 94 (dk_at dksX0_gift_1 15 rfl rfl)
theorem dX0_gift_42 : decode cX0_gift 42 = .ok (.aload_n 0, 1) := dk_42 (dk_at dksX0_gift_1 18 rfl rfl)
theorem dX0_gift_43 : decode cX0_gift 43 = .ok (.getfield 487, 3) := dk_180 1 231 (dk_at dksX0_gift_1 19 rfl rfl)
theorem dX0_gift_46 : decode cX0_gift 46 = .ok (.iload_n 1, 1) := dk_27 (dk_at dksX0_gift_1 22 rfl rfl)
theorem dX0_gift_47 : decode cX0_gift 47 = .ok (.iastore, 1) := dk_79 (dk_at dksX0_gift_1 23 rfl rfl)
theorem dX0_gift_48 : decode cX0_gift 48 = .ok (.aload_n 0, 1) := dk_42 (dk_at dksX0_gift_2 0 rfl rfl)
theorem dX0_gift_49 : decode cX0_gift 49 = .ok (.getfield 97, 3) := dk_180 0 97 (dk_at dksX0_gift_2 1 rfl rfl)
theorem dX0_gift_52 : decode cX0_gift 52 = .ok (.aload_n 0, 1) := dk_42 (dk_at dksX0_gift_2 4 rfl rfl)
theorem dX0_gift_53 : decode cX0_gift 53 = .ok (.getfield 487, 3) := dk_180 1 231 (dk_at dksX0_gift_2 5 rfl rfl)
theorem dX0_gift_56 : decode cX0_gift 56 = .ok (.iload_n 2, 1) := dk_28 (dk_at dksX0_gift_2 8 rfl rfl)
theorem dX0_gift_57 : decode cX0_gift 57 = .ok (.iastore, 1) := dk_79 (dk_at dksX0_gift_2 9 rfl rfl)
theorem dX0_gift_58 : decode cX0_gift 58 = .ok (.aload_n 0, 1) := dk_42 (dk_at dksX0_gift_2 10 rfl rfl)
theorem dX0_gift_59 : decode cX0_gift 59 = .ok (.getfield 100, 3) := dk_180 0 100 (dk_at dksX0_gift_2 11 rfl rfl)
theorem dX0_gift_62 : decode cX0_gift 62 = .ok (.aload_n 0, 1) := dk_42 (dk_at dksX0_gift_2 14 rfl rfl)
theorem dX0_gift_63 : decode cX0_gift 63 = .ok (.getfield 487, 3) := dk_180 1 231 (dk_at dksX0_gift_2 15 rfl rfl)
theorem dX0_gift_66 : decode cX0_gift 66 = .ok (.iload_n 3, 1) := dk_29 (dk_at dksX0_gift_2 18 rfl rfl)
theorem dX0_gift_67 : decode cX0_gift 67 = .ok (.iastore, 1) := dk_79 (dk_at dksX0_gift_2 19 rfl rfl)
theorem dX0_gift_68 : decode cX0_gift 68 = .ok (.aload_n 0, 1) := dk_42 (dk_at dksX0_gift_2 20 rfl rfl)
theorem dX0_gift_69 : decode cX0_gift 69 = .ok (.dup, 1) := dk_89 (dk_at dksX0_gift_2 21 rfl rfl)
theorem dX0_gift_70 : decode cX0_gift 70 = .ok (.getfield 487, 3) := dk_180 1 231 (dk_at dksX0_gift_3 0 rfl rfl)
theorem dX0_gift_73 : decode cX0_gift 73 = .ok (.iconst 1, 1) := dk_4 (dk_at dksX0_gift_3 3 rfl rfl)
theorem dX0_gift_74 : decode cX0_gift 74 = .ok (.iadd, 1) := dk_96 (dk_at dksX0_gift_3 4 rfl rfl)
theorem dX0_gift_75 : decode cX0_gift 75 = .ok (.putfield 487, 3) := dk_181 1 231 (dk_at dksX0_gift_3 5 rfl rfl)
theorem dX0_gift_78 : decode cX0_gift 78 = .ok (.aload_n 0, 1) := dk_42 (dk_at dksX0_gift_3 8 rfl rfl)
theorem dX0_gift_79 : decode cX0_gift 79 = .ok (.getfield 487, 3) := dk_180 1 231 (dk_at dksX0_gift_3 9 rfl rfl)
theorem dX0_gift_82 : decode cX0_gift 82 = .ok (.iconst 1, 1) := dk_4 (dk_at dksX0_gift_3 12 rfl rfl)
theorem dX0_gift_83 : decode cX0_gift 83 = .ok (.isub, 1) := dk_100 (dk_at dksX0_gift_3 13 rfl rfl)
theorem dX0_gift_84 : decode cX0_gift 84 = .ok (.ireturn, 1) := dk_172 (dk_at dksX0_gift_3 14 rfl rfl)
abbrev cX0_forget : ByteArray := prog_1_method_68_code
def yX0_forget : MethodName := ⟨RX0, "forget", "()I"⟩
def dkwX0_forget_0 : List UInt8 := [42, 180, 1, 231, 60, 42, 3, 181, 1, 231, 27, 172]
abbrev dktX0_forget_0 : List UInt8 := dkwX0_forget_0 ++ []
theorem dksX0_forget_0 : cX0_forget.data.toList.drop 0 = dktX0_forget_0 := by decide +kernel
theorem dX0_forget_0 : decode cX0_forget 0 = .ok (.aload_n 0, 1) := dk_42 (dk_at dksX0_forget_0 0 rfl rfl)
theorem dX0_forget_1 : decode cX0_forget 1 = .ok (.getfield 487, 3) := dk_180 1 231 (dk_at dksX0_forget_0 1 rfl rfl)
theorem dX0_forget_4 : decode cX0_forget 4 = .ok (.istore_n 1, 1) := dk_60 (dk_at dksX0_forget_0 4 rfl rfl)
theorem dX0_forget_5 : decode cX0_forget 5 = .ok (.aload_n 0, 1) := dk_42 (dk_at dksX0_forget_0 5 rfl rfl)
theorem dX0_forget_6 : decode cX0_forget 6 = .ok (.iconst 0, 1) := dk_3 (dk_at dksX0_forget_0 6 rfl rfl)
theorem dX0_forget_7 : decode cX0_forget 7 = .ok (.putfield 487, 3) := dk_181 1 231 (dk_at dksX0_forget_0 7 rfl rfl)
theorem dX0_forget_10 : decode cX0_forget 10 = .ok (.iload_n 1, 1) := dk_27 (dk_at dksX0_forget_0 10 rfl rfl)
theorem dX0_forget_11 : decode cX0_forget 11 = .ok (.ireturn, 1) := dk_172 (dk_at dksX0_forget_0 11 rfl rfl)
abbrev cX0_best : ByteArray := prog_1_method_70_code
def yX0_best : MethodName := ⟨RX0, "best", "(II)I"⟩
def dkwX0_best_7 : List UInt8 := [21, 5, 172]
abbrev dktX0_best_7 : List UInt8 := dkwX0_best_7 ++ []
def dkwX0_best_6 : List UInt8 := [132, 6, 1, 167, 255, 149, 28, 154, 0, 7, 29, 167, 0, 15, 28, 4, 160, 0, 8, 21, 4, 167, 0, 5]
abbrev dktX0_best_6 : List UInt8 := dkwX0_best_6 ++ dktX0_best_7
def dkwX0_best_5 : List UInt8 := [160, 0, 13, 21, 7, 21, 5, 161, 0, 6, 167, 0, 14, 21, 6, 62, 21, 8, 54, 4, 21, 7, 54, 5]
abbrev dktX0_best_5 : List UInt8 := dkwX0_best_5 ++ dktX0_best_6
def dkwX0_best_4 : List UInt8 := [167, 0, 46, 42, 21, 6, 182, 1, 234, 54, 8, 21, 8, 21, 4, 161, 0, 31, 21, 8, 21, 4]
abbrev dktX0_best_4 : List UInt8 := dkwX0_best_4 ++ dktX0_best_5
def dkwX0_best_3 : List UInt8 := [180, 0, 94, 21, 8, 46, 104, 96, 54, 7, 132, 8, 1, 167, 255, 224, 21, 7, 27, 164, 0, 6]
abbrev dktX0_best_3 : List UInt8 := dkwX0_best_3 ++ dktX0_best_4
def dkwX0_best_2 : List UInt8 := [54, 7, 3, 54, 8, 21, 8, 42, 180, 1, 231, 162, 0, 29, 21, 7, 21, 6, 21, 8, 122, 4, 126, 42]
abbrev dktX0_best_2 : List UInt8 := dkwX0_best_2 ++ dktX0_best_3
def dkwX0_best_1 : List UInt8 := [172, 3, 62, 2, 54, 4, 3, 54, 5, 3, 54, 6, 21, 6, 4, 42, 180, 1, 231, 120, 162, 0, 102, 3]
abbrev dktX0_best_1 : List UInt8 := dkwX0_best_1 ++ dktX0_best_2
def dkwX0_best_0 : List UInt8 := [27, 155, 0, 22, 28, 3, 5, 184, 0, 116, 153, 0, 13, 42, 180, 0, 151, 17, 0, 156, 160, 0, 5, 2]
abbrev dktX0_best_0 : List UInt8 := dkwX0_best_0 ++ dktX0_best_1
theorem dksX0_best_0 : cX0_best.data.toList.drop 0 = dktX0_best_0 := by decide +kernel
theorem dksX0_best_1 : cX0_best.data.toList.drop 24 = dktX0_best_1 := dk_seg dksX0_best_0 24 rfl rfl
theorem dksX0_best_2 : cX0_best.data.toList.drop 48 = dktX0_best_2 := dk_seg dksX0_best_1 24 rfl rfl
theorem dksX0_best_3 : cX0_best.data.toList.drop 72 = dktX0_best_3 := dk_seg dksX0_best_2 24 rfl rfl
theorem dksX0_best_4 : cX0_best.data.toList.drop 94 = dktX0_best_4 := dk_seg dksX0_best_3 22 rfl rfl
theorem dksX0_best_5 : cX0_best.data.toList.drop 116 = dktX0_best_5 := dk_seg dksX0_best_4 22 rfl rfl
theorem dksX0_best_6 : cX0_best.data.toList.drop 140 = dktX0_best_6 := dk_seg dksX0_best_5 24 rfl rfl
theorem dksX0_best_7 : cX0_best.data.toList.drop 164 = dktX0_best_7 := dk_seg dksX0_best_6 24 rfl rfl
theorem dX0_best_0 : decode cX0_best 0 = .ok (.iload_n 1, 1) := dk_27 (dk_at dksX0_best_0 0 rfl rfl)
theorem dX0_best_1 : decode cX0_best 1 = .ok (.ifCond .lt 22, 3) := dk_155 0 22 (dk_at dksX0_best_0 1 rfl rfl)
theorem dX0_best_4 : decode cX0_best 4 = .ok (.iload_n 2, 1) := dk_28 (dk_at dksX0_best_0 4 rfl rfl)
theorem dX0_best_5 : decode cX0_best 5 = .ok (.iconst 0, 1) := dk_3 (dk_at dksX0_best_0 5 rfl rfl)
theorem dX0_best_6 : decode cX0_best 6 = .ok (.iconst 2, 1) := dk_5 (dk_at dksX0_best_0 6 rfl rfl)
theorem dX0_best_7 : decode cX0_best 7 = .ok (.invokestatic 116, 3) := dk_184 0 116 (dk_at dksX0_best_0 7 rfl rfl)
theorem dX0_best_10 : decode cX0_best 10 = .ok (.ifCond .eq 13, 3) := dk_153 0 13 (dk_at dksX0_best_0 10 rfl rfl)
theorem dX0_best_13 : decode cX0_best 13 = .ok (.aload_n 0, 1) := dk_42 (dk_at dksX0_best_0 13 rfl rfl)
theorem dX0_best_14 : decode cX0_best 14 = .ok (.getfield 151, 3) := dk_180 0 151 (dk_at dksX0_best_0 14 rfl rfl)
theorem dX0_best_17 : decode cX0_best 17 = .ok (.sipush 156, 3) := dk_17 0 156 (dk_at dksX0_best_0 17 rfl rfl)
theorem dX0_best_20 : decode cX0_best 20 = .ok (.if_icmp .ne 5, 3) := dk_160 0 5 (dk_at dksX0_best_0 20 rfl rfl)
theorem dX0_best_23 : decode cX0_best 23 = .ok (.iconst (-1), 1) := dk_2 (dk_at dksX0_best_0 23 rfl rfl)
theorem dX0_best_24 : decode cX0_best 24 = .ok (.ireturn, 1) := dk_172 (dk_at dksX0_best_1 0 rfl rfl)
theorem dX0_best_25 : decode cX0_best 25 = .ok (.iconst 0, 1) := dk_3 (dk_at dksX0_best_1 1 rfl rfl)
theorem dX0_best_26 : decode cX0_best 26 = .ok (.istore_n 3, 1) := dk_62 (dk_at dksX0_best_1 2 rfl rfl)
theorem dX0_best_27 : decode cX0_best 27 = .ok (.iconst (-1), 1) := dk_2 (dk_at dksX0_best_1 3 rfl rfl)
theorem dX0_best_28 : decode cX0_best 28 = .ok (.istore 4, 2) := dk_54 4 (dk_at dksX0_best_1 4 rfl rfl)
theorem dX0_best_30 : decode cX0_best 30 = .ok (.iconst 0, 1) := dk_3 (dk_at dksX0_best_1 6 rfl rfl)
theorem dX0_best_31 : decode cX0_best 31 = .ok (.istore 5, 2) := dk_54 5 (dk_at dksX0_best_1 7 rfl rfl)
theorem dX0_best_33 : decode cX0_best 33 = .ok (.iconst 0, 1) := dk_3 (dk_at dksX0_best_1 9 rfl rfl)
theorem dX0_best_34 : decode cX0_best 34 = .ok (.istore 6, 2) := dk_54 6 (dk_at dksX0_best_1 10 rfl rfl)
theorem dX0_best_36 : decode cX0_best 36 = .ok (.iload 6, 2) := dk_21 6 (dk_at dksX0_best_1 12 rfl rfl)
theorem dX0_best_38 : decode cX0_best 38 = .ok (.iconst 1, 1) := dk_4 (dk_at dksX0_best_1 14 rfl rfl)
theorem dX0_best_39 : decode cX0_best 39 = .ok (.aload_n 0, 1) := dk_42 (dk_at dksX0_best_1 15 rfl rfl)
theorem dX0_best_40 : decode cX0_best 40 = .ok (.getfield 487, 3) := dk_180 1 231 (dk_at dksX0_best_1 16 rfl rfl)
theorem dX0_best_43 : decode cX0_best 43 = .ok (.ishl, 1) := dk_120 (dk_at dksX0_best_1 19 rfl rfl)
theorem dX0_best_44 : decode cX0_best 44 = .ok (.if_icmp .ge 102, 3) := dk_162 0 102 (dk_at dksX0_best_1 20 rfl rfl)
theorem dX0_best_47 : decode cX0_best 47 = .ok (.iconst 0, 1) := dk_3 (dk_at dksX0_best_1 23 rfl rfl)
theorem dX0_best_48 : decode cX0_best 48 = .ok (.istore 7, 2) := dk_54 7 (dk_at dksX0_best_2 0 rfl rfl)
theorem dX0_best_50 : decode cX0_best 50 = .ok (.iconst 0, 1) := dk_3 (dk_at dksX0_best_2 2 rfl rfl)
theorem dX0_best_51 : decode cX0_best 51 = .ok (.istore 8, 2) := dk_54 8 (dk_at dksX0_best_2 3 rfl rfl)
theorem dX0_best_53 : decode cX0_best 53 = .ok (.iload 8, 2) := dk_21 8 (dk_at dksX0_best_2 5 rfl rfl)
theorem dX0_best_55 : decode cX0_best 55 = .ok (.aload_n 0, 1) := dk_42 (dk_at dksX0_best_2 7 rfl rfl)
theorem dX0_best_56 : decode cX0_best 56 = .ok (.getfield 487, 3) := dk_180 1 231 (dk_at dksX0_best_2 8 rfl rfl)
theorem dX0_best_59 : decode cX0_best 59 = .ok (.if_icmp .ge 29, 3) := dk_162 0 29 (dk_at dksX0_best_2 11 rfl rfl)
theorem dX0_best_62 : decode cX0_best 62 = .ok (.iload 7, 2) := dk_21 7 (dk_at dksX0_best_2 14 rfl rfl)
theorem dX0_best_64 : decode cX0_best 64 = .ok (.iload 6, 2) := dk_21 6 (dk_at dksX0_best_2 16 rfl rfl)
theorem dX0_best_66 : decode cX0_best 66 = .ok (.iload 8, 2) := dk_21 8 (dk_at dksX0_best_2 18 rfl rfl)
theorem dX0_best_68 : decode cX0_best 68 = .ok (.ishr, 1) := dk_122 (dk_at dksX0_best_2 20 rfl rfl)
theorem dX0_best_69 : decode cX0_best 69 = .ok (.iconst 1, 1) := dk_4 (dk_at dksX0_best_2 21 rfl rfl)
theorem dX0_best_70 : decode cX0_best 70 = .ok (.iand, 1) := dk_126 (dk_at dksX0_best_2 22 rfl rfl)
theorem dX0_best_71 : decode cX0_best 71 = .ok (.aload_n 0, 1) := dk_42 (dk_at dksX0_best_2 23 rfl rfl)
theorem dX0_best_72 : decode cX0_best 72 = .ok (.getfield 94, 3) := dk_180 0 94 (dk_at dksX0_best_3 0 rfl rfl)
theorem dX0_best_75 : decode cX0_best 75 = .ok (.iload 8, 2) := dk_21 8 (dk_at dksX0_best_3 3 rfl rfl)
theorem dX0_best_77 : decode cX0_best 77 = .ok (.iaload, 1) := dk_46 (dk_at dksX0_best_3 5 rfl rfl)
theorem dX0_best_78 : decode cX0_best 78 = .ok (.imul, 1) := dk_104 (dk_at dksX0_best_3 6 rfl rfl)
theorem dX0_best_79 : decode cX0_best 79 = .ok (.iadd, 1) := dk_96 (dk_at dksX0_best_3 7 rfl rfl)
theorem dX0_best_80 : decode cX0_best 80 = .ok (.istore 7, 2) := dk_54 7 (dk_at dksX0_best_3 8 rfl rfl)
theorem dX0_best_82 : decode cX0_best 82 = .ok (.iinc 8 1, 3) := dk_132 8 1 (dk_at dksX0_best_3 10 rfl rfl)
theorem dX0_best_85 : decode cX0_best 85 = .ok (.goto (-32), 3) := dk_167 255 224 (dk_at dksX0_best_3 13 rfl rfl)
theorem dX0_best_88 : decode cX0_best 88 = .ok (.iload 7, 2) := dk_21 7 (dk_at dksX0_best_3 16 rfl rfl)
theorem dX0_best_90 : decode cX0_best 90 = .ok (.iload_n 1, 1) := dk_27 (dk_at dksX0_best_3 18 rfl rfl)
theorem dX0_best_91 : decode cX0_best 91 = .ok (.if_icmp .le 6, 3) := dk_164 0 6 (dk_at dksX0_best_3 19 rfl rfl)
theorem dX0_best_94 : decode cX0_best 94 = .ok (.goto 46, 3) := dk_167 0 46 (dk_at dksX0_best_4 0 rfl rfl)
theorem dX0_best_97 : decode cX0_best 97 = .ok (.aload_n 0, 1) := dk_42 (dk_at dksX0_best_4 3 rfl rfl)
theorem dX0_best_98 : decode cX0_best 98 = .ok (.iload 6, 2) := dk_21 6 (dk_at dksX0_best_4 4 rfl rfl)
theorem dX0_best_100 : decode cX0_best 100 = .ok (.invokevirtual 490, 3) := dk_182 1 234 (dk_at dksX0_best_4 6 rfl rfl)
theorem dX0_best_103 : decode cX0_best 103 = .ok (.istore 8, 2) := dk_54 8 (dk_at dksX0_best_4 9 rfl rfl)
theorem dX0_best_105 : decode cX0_best 105 = .ok (.iload 8, 2) := dk_21 8 (dk_at dksX0_best_4 11 rfl rfl)
theorem dX0_best_107 : decode cX0_best 107 = .ok (.iload 4, 2) := dk_21 4 (dk_at dksX0_best_4 13 rfl rfl)
theorem dX0_best_109 : decode cX0_best 109 = .ok (.if_icmp .lt 31, 3) := dk_161 0 31 (dk_at dksX0_best_4 15 rfl rfl)
theorem dX0_best_112 : decode cX0_best 112 = .ok (.iload 8, 2) := dk_21 8 (dk_at dksX0_best_4 18 rfl rfl)
theorem dX0_best_114 : decode cX0_best 114 = .ok (.iload 4, 2) := dk_21 4 (dk_at dksX0_best_4 20 rfl rfl)
theorem dX0_best_116 : decode cX0_best 116 = .ok (.if_icmp .ne 13, 3) := dk_160 0 13 (dk_at dksX0_best_5 0 rfl rfl)
theorem dX0_best_119 : decode cX0_best 119 = .ok (.iload 7, 2) := dk_21 7 (dk_at dksX0_best_5 3 rfl rfl)
theorem dX0_best_121 : decode cX0_best 121 = .ok (.iload 5, 2) := dk_21 5 (dk_at dksX0_best_5 5 rfl rfl)
theorem dX0_best_123 : decode cX0_best 123 = .ok (.if_icmp .lt 6, 3) := dk_161 0 6 (dk_at dksX0_best_5 7 rfl rfl)
theorem dX0_best_126 : decode cX0_best 126 = .ok (.goto 14, 3) := dk_167 0 14 (dk_at dksX0_best_5 10 rfl rfl)
theorem dX0_best_129 : decode cX0_best 129 = .ok (.iload 6, 2) := dk_21 6 (dk_at dksX0_best_5 13 rfl rfl)
theorem dX0_best_131 : decode cX0_best 131 = .ok (.istore_n 3, 1) := dk_62 (dk_at dksX0_best_5 15 rfl rfl)
theorem dX0_best_132 : decode cX0_best 132 = .ok (.iload 8, 2) := dk_21 8 (dk_at dksX0_best_5 16 rfl rfl)
theorem dX0_best_134 : decode cX0_best 134 = .ok (.istore 4, 2) := dk_54 4 (dk_at dksX0_best_5 18 rfl rfl)
theorem dX0_best_136 : decode cX0_best 136 = .ok (.iload 7, 2) := dk_21 7 (dk_at dksX0_best_5 20 rfl rfl)
theorem dX0_best_138 : decode cX0_best 138 = .ok (.istore 5, 2) := dk_54 5 (dk_at dksX0_best_5 22 rfl rfl)
theorem dX0_best_140 : decode cX0_best 140 = .ok (.iinc 6 1, 3) := dk_132 6 1 (dk_at dksX0_best_6 0 rfl rfl)
theorem dX0_best_143 : decode cX0_best 143 = .ok (.goto (-107), 3) := dk_167 255 149 (dk_at dksX0_best_6 3 rfl rfl)
theorem dX0_best_146 : decode cX0_best 146 = .ok (.iload_n 2, 1) := dk_28 (dk_at dksX0_best_6 6 rfl rfl)
theorem dX0_best_147 : decode cX0_best 147 = .ok (.ifCond .ne 7, 3) := dk_154 0 7 (dk_at dksX0_best_6 7 rfl rfl)
theorem dX0_best_150 : decode cX0_best 150 = .ok (.iload_n 3, 1) := dk_29 (dk_at dksX0_best_6 10 rfl rfl)
theorem dX0_best_151 : decode cX0_best 151 = .ok (.goto 15, 3) := dk_167 0 15 (dk_at dksX0_best_6 11 rfl rfl)
theorem dX0_best_154 : decode cX0_best 154 = .ok (.iload_n 2, 1) := dk_28 (dk_at dksX0_best_6 14 rfl rfl)
theorem dX0_best_155 : decode cX0_best 155 = .ok (.iconst 1, 1) := dk_4 (dk_at dksX0_best_6 15 rfl rfl)
theorem dX0_best_156 : decode cX0_best 156 = .ok (.if_icmp .ne 8, 3) := dk_160 0 8 (dk_at dksX0_best_6 16 rfl rfl)
theorem dX0_best_159 : decode cX0_best 159 = .ok (.iload 4, 2) := dk_21 4 (dk_at dksX0_best_6 19 rfl rfl)
theorem dX0_best_161 : decode cX0_best 161 = .ok (.goto 5, 3) := dk_167 0 5 (dk_at dksX0_best_6 21 rfl rfl)
theorem dX0_best_164 : decode cX0_best 164 = .ok (.iload 5, 2) := dk_21 5 (dk_at dksX0_best_7 0 rfl rfl)
theorem dX0_best_166 : decode cX0_best 166 = .ok (.ireturn, 1) := dk_172 (dk_at dksX0_best_7 2 rfl rfl)
abbrev cX0_spunWith : ByteArray := prog_1_method_69_code
def yX0_spunWith : MethodName := ⟨RX0, "spunWith", "(I)I"⟩
def dkwX0_spunWith_14 : List UInt8 := [180, 0, 173, 184, 0, 251, 100, 79, 132, 4, 1, 167, 255, 134, 28, 172]
abbrev dktX0_spunWith_14 : List UInt8 := dkwX0_spunWith_14 ++ []
def dkwX0_spunWith_13 : List UInt8 := [167, 0, 31, 132, 3, 1, 28, 21, 7, 96, 61, 42, 180, 0, 109, 21, 6, 92, 46, 21, 7, 25, 5]
abbrev dktX0_spunWith_13 : List UInt8 := dkwX0_spunWith_13 ++ dktX0_spunWith_14
def dkwX0_spunWith_12 : List UInt8 := [46, 25, 5, 180, 0, 173, 42, 180, 0, 109, 21, 6, 46, 184, 0, 244, 54, 7, 21, 7, 154, 0, 6]
abbrev dktX0_spunWith_12 : List UInt8 := dkwX0_spunWith_12 ++ dktX0_spunWith_13
def dkwX0_spunWith_11 : List UInt8 := [46, 25, 5, 180, 0, 240, 180, 1, 124, 42, 180, 0, 151, 184, 1, 110, 46, 104, 42, 180, 0, 106, 21, 4]
abbrev dktX0_spunWith_11 : List UInt8 := dkwX0_spunWith_11 ++ dktX0_spunWith_12
def dkwX0_spunWith_10 : List UInt8 := [180, 0, 30, 21, 4, 50, 58, 5, 25, 5, 180, 0, 240, 180, 0, 144, 54, 6, 42, 180, 0, 103, 21, 4]
abbrev dktX0_spunWith_10 : List UInt8 := dkwX0_spunWith_10 ++ dktX0_spunWith_11
def dkwX0_spunWith_9 : List UInt8 := [180, 0, 123, 62, 3, 54, 4, 21, 4, 42, 180, 0, 120, 162, 0, 119, 29, 17, 1, 44, 162, 0, 112, 42]
abbrev dktX0_spunWith_9 : List UInt8 := dkwX0_spunWith_9 ++ dktX0_spunWith_10
def dkwX0_spunWith_8 : List UInt8 := [42, 180, 0, 109, 21, 4, 46, 8, 96, 184, 1, 1, 79, 132, 2, 1, 167, 255, 129, 3, 61, 42]
abbrev dktX0_spunWith_8 : List UInt8 := dkwX0_spunWith_8 ++ dktX0_spunWith_9
def dkwX0_spunWith_7 : List UInt8 := [42, 180, 0, 106, 29, 46, 4, 96, 184, 1, 1, 79, 167, 0, 25, 42, 180, 0, 109, 21, 4, 17, 39, 15]
abbrev dktX0_spunWith_7 : List UInt8 := dkwX0_spunWith_7 ++ dktX0_spunWith_8
def dkwX0_spunWith_6 : List UInt8 := [184, 1, 1, 79, 167, 0, 57, 42, 180, 0, 100, 28, 46, 4, 160, 0, 25, 42, 180, 0, 106, 29, 16, 9]
abbrev dktX0_spunWith_6 : List UInt8 := dkwX0_spunWith_6 ++ dktX0_spunWith_7
def dkwX0_spunWith_5 : List UInt8 := [42, 180, 0, 100, 28, 46, 154, 0, 24, 42, 180, 0, 103, 29, 8, 42, 180, 0, 103, 29, 46, 4, 96]
abbrev dktX0_spunWith_5 : List UInt8 := dkwX0_spunWith_5 ++ dktX0_spunWith_6
def dkwX0_spunWith_4 : List UInt8 := [167, 0, 108, 42, 180, 0, 97, 28, 46, 62, 42, 180, 0, 30, 29, 50, 180, 0, 240, 180, 0, 144, 54, 4]
abbrev dktX0_spunWith_4 : List UInt8 := dkwX0_spunWith_4 ++ dktX0_spunWith_5
def dkwX0_spunWith_3 : List UInt8 := [132, 2, 1, 167, 255, 230, 3, 61, 28, 42, 180, 1, 231, 162, 0, 125, 27, 28, 122, 4, 126, 154, 0, 6]
abbrev dktX0_spunWith_3 : List UInt8 := dkwX0_spunWith_3 ++ dktX0_spunWith_4
def dkwX0_spunWith_2 : List UInt8 := [28, 42, 180, 0, 112, 162, 0, 24, 42, 180, 0, 109, 28, 42, 180, 0, 24, 28, 50, 180, 0, 180, 79]
abbrev dktX0_spunWith_2 : List UInt8 := dkwX0_spunWith_2 ++ dktX0_spunWith_3
def dkwX0_spunWith_1 : List UInt8 := [79, 42, 180, 0, 106, 28, 42, 180, 0, 30, 28, 50, 180, 0, 237, 79, 132, 2, 1, 167, 255, 215, 3, 61]
abbrev dktX0_spunWith_1 : List UInt8 := dkwX0_spunWith_1 ++ dktX0_spunWith_2
def dkwX0_spunWith_0 : List UInt8 := [3, 61, 28, 42, 180, 0, 120, 162, 0, 39, 42, 180, 0, 103, 28, 42, 180, 0, 30, 28, 50, 180, 0, 202]
abbrev dktX0_spunWith_0 : List UInt8 := dkwX0_spunWith_0 ++ dktX0_spunWith_1
theorem dksX0_spunWith_0 : cX0_spunWith.data.toList.drop 0 = dktX0_spunWith_0 := by decide +kernel
theorem dksX0_spunWith_1 : cX0_spunWith.data.toList.drop 24 = dktX0_spunWith_1 := dk_seg dksX0_spunWith_0 24 rfl rfl
theorem dksX0_spunWith_2 : cX0_spunWith.data.toList.drop 48 = dktX0_spunWith_2 := dk_seg dksX0_spunWith_1 24 rfl rfl
theorem dksX0_spunWith_3 : cX0_spunWith.data.toList.drop 71 = dktX0_spunWith_3 := dk_seg dksX0_spunWith_2 23 rfl rfl
theorem dksX0_spunWith_4 : cX0_spunWith.data.toList.drop 95 = dktX0_spunWith_4 := dk_seg dksX0_spunWith_3 24 rfl rfl
theorem dksX0_spunWith_5 : cX0_spunWith.data.toList.drop 119 = dktX0_spunWith_5 := dk_seg dksX0_spunWith_4 24 rfl rfl
theorem dksX0_spunWith_6 : cX0_spunWith.data.toList.drop 142 = dktX0_spunWith_6 := dk_seg dksX0_spunWith_5 23 rfl rfl
theorem dksX0_spunWith_7 : cX0_spunWith.data.toList.drop 166 = dktX0_spunWith_7 := dk_seg dksX0_spunWith_6 24 rfl rfl
theorem dksX0_spunWith_8 : cX0_spunWith.data.toList.drop 190 = dktX0_spunWith_8 := dk_seg dksX0_spunWith_7 24 rfl rfl
theorem dksX0_spunWith_9 : cX0_spunWith.data.toList.drop 212 = dktX0_spunWith_9 := dk_seg dksX0_spunWith_8 22 rfl rfl
theorem dksX0_spunWith_10 : cX0_spunWith.data.toList.drop 236 = dktX0_spunWith_10 := dk_seg dksX0_spunWith_9 24 rfl rfl
theorem dksX0_spunWith_11 : cX0_spunWith.data.toList.drop 260 = dktX0_spunWith_11 := dk_seg dksX0_spunWith_10 24 rfl rfl
theorem dksX0_spunWith_12 : cX0_spunWith.data.toList.drop 284 = dktX0_spunWith_12 := dk_seg dksX0_spunWith_11 24 rfl rfl
theorem dksX0_spunWith_13 : cX0_spunWith.data.toList.drop 307 = dktX0_spunWith_13 := dk_seg dksX0_spunWith_12 23 rfl rfl
theorem dksX0_spunWith_14 : cX0_spunWith.data.toList.drop 330 = dktX0_spunWith_14 := dk_seg dksX0_spunWith_13 23 rfl rfl
theorem dX0_spunWith_0 : decode cX0_spunWith 0 = .ok (.iconst 0, 1) := dk_3 (dk_at dksX0_spunWith_0 0 rfl rfl)
theorem dX0_spunWith_1 : decode cX0_spunWith 1 = .ok (.istore_n 2, 1) := dk_61 (dk_at dksX0_spunWith_0 1 rfl rfl)
theorem dX0_spunWith_2 : decode cX0_spunWith 2 = .ok (.iload_n 2, 1) := dk_28 (dk_at dksX0_spunWith_0 2 rfl rfl)
theorem dX0_spunWith_3 : decode cX0_spunWith 3 = .ok (.aload_n 0, 1) := dk_42 (dk_at dksX0_spunWith_0 3 rfl rfl)
theorem dX0_spunWith_4 : decode cX0_spunWith 4 = .ok (.getfield 120, 3) := dk_180 0 120 (dk_at dksX0_spunWith_0 4 rfl rfl)
theorem dX0_spunWith_7 : decode cX0_spunWith 7 = .ok (.if_icmp .ge 39, 3) := dk_162 0 39 (dk_at dksX0_spunWith_0 7 rfl rfl)
theorem dX0_spunWith_10 : decode cX0_spunWith 10 = .ok (.aload_n 0, 1) := dk_42 (dk_at dksX0_spunWith_0 10 rfl rfl)
theorem dX0_spunWith_11 : decode cX0_spunWith 11 = .ok (.getfield 103, 3) := dk_180 0 103 (dk_at dksX0_spunWith_0 11 rfl rfl)
theorem dX0_spunWith_14 : decode cX0_spunWith 14 = .ok (.iload_n 2, 1) := dk_28 (dk_at dksX0_spunWith_0 14 rfl rfl)
theorem dX0_spunWith_15 : decode cX0_spunWith 15 = .ok (.aload_n 0, 1) := dk_42 (dk_at dksX0_spunWith_0 15 rfl rfl)
theorem dX0_spunWith_16 : decode cX0_spunWith 16 = .ok (.getfield 30, 3) := dk_180 0 30 (dk_at dksX0_spunWith_0 16 rfl rfl)
theorem dX0_spunWith_19 : decode cX0_spunWith 19 = .ok (.iload_n 2, 1) := dk_28 (dk_at dksX0_spunWith_0 19 rfl rfl)
theorem dX0_spunWith_20 : decode cX0_spunWith 20 = .ok (.aaload, 1) := dk_50 (dk_at dksX0_spunWith_0 20 rfl rfl)
theorem dX0_spunWith_21 : decode cX0_spunWith 21 = .ok (.getfield 202, 3) := dk_180 0 202 (dk_at dksX0_spunWith_0 21 rfl rfl)
theorem dX0_spunWith_24 : decode cX0_spunWith 24 = .ok (.iastore, 1) := dk_79 (dk_at dksX0_spunWith_1 0 rfl rfl)
theorem dX0_spunWith_25 : decode cX0_spunWith 25 = .ok (.aload_n 0, 1) := dk_42 (dk_at dksX0_spunWith_1 1 rfl rfl)
theorem dX0_spunWith_26 : decode cX0_spunWith 26 = .ok (.getfield 106, 3) := dk_180 0 106 (dk_at dksX0_spunWith_1 2 rfl rfl)
theorem dX0_spunWith_29 : decode cX0_spunWith 29 = .ok (.iload_n 2, 1) := dk_28 (dk_at dksX0_spunWith_1 5 rfl rfl)
theorem dX0_spunWith_30 : decode cX0_spunWith 30 = .ok (.aload_n 0, 1) := dk_42 (dk_at dksX0_spunWith_1 6 rfl rfl)
theorem dX0_spunWith_31 : decode cX0_spunWith 31 = .ok (.getfield 30, 3) := dk_180 0 30 (dk_at dksX0_spunWith_1 7 rfl rfl)
theorem dX0_spunWith_34 : decode cX0_spunWith 34 = .ok (.iload_n 2, 1) := dk_28 (dk_at dksX0_spunWith_1 10 rfl rfl)
theorem dX0_spunWith_35 : decode cX0_spunWith 35 = .ok (.aaload, 1) := dk_50 (dk_at dksX0_spunWith_1 11 rfl rfl)
theorem dX0_spunWith_36 : decode cX0_spunWith 36 = .ok (.getfield 237, 3) := dk_180 0 237 (dk_at dksX0_spunWith_1 12 rfl rfl)
theorem dX0_spunWith_39 : decode cX0_spunWith 39 = .ok (.iastore, 1) := dk_79 (dk_at dksX0_spunWith_1 15 rfl rfl)
theorem dX0_spunWith_40 : decode cX0_spunWith 40 = .ok (.iinc 2 1, 3) := dk_132 2 1 (dk_at dksX0_spunWith_1 16 rfl rfl)
theorem dX0_spunWith_43 : decode cX0_spunWith 43 = .ok (.goto (-41), 3) := dk_167 255 215 (dk_at dksX0_spunWith_1 19 rfl rfl)
theorem dX0_spunWith_46 : decode cX0_spunWith 46 = .ok (.iconst 0, 1) := dk_3 (dk_at dksX0_spunWith_1 22 rfl rfl)
theorem dX0_spunWith_47 : decode cX0_spunWith 47 = .ok (.istore_n 2, 1) := dk_61 (dk_at dksX0_spunWith_1 23 rfl rfl)
theorem dX0_spunWith_48 : decode cX0_spunWith 48 = .ok (.iload_n 2, 1) := dk_28 (dk_at dksX0_spunWith_2 0 rfl rfl)
theorem dX0_spunWith_49 : decode cX0_spunWith 49 = .ok (.aload_n 0, 1) := dk_42 (dk_at dksX0_spunWith_2 1 rfl rfl)
theorem dX0_spunWith_50 : decode cX0_spunWith 50 = .ok (.getfield 112, 3) := dk_180 0 112 (dk_at dksX0_spunWith_2 2 rfl rfl)
theorem dX0_spunWith_53 : decode cX0_spunWith 53 = .ok (.if_icmp .ge 24, 3) := dk_162 0 24 (dk_at dksX0_spunWith_2 5 rfl rfl)
theorem dX0_spunWith_56 : decode cX0_spunWith 56 = .ok (.aload_n 0, 1) := dk_42 (dk_at dksX0_spunWith_2 8 rfl rfl)
theorem dX0_spunWith_57 : decode cX0_spunWith 57 = .ok (.getfield 109, 3) := dk_180 0 109 (dk_at dksX0_spunWith_2 9 rfl rfl)
theorem dX0_spunWith_60 : decode cX0_spunWith 60 = .ok (.iload_n 2, 1) := dk_28 (dk_at dksX0_spunWith_2 12 rfl rfl)
theorem dX0_spunWith_61 : decode cX0_spunWith 61 = .ok (.aload_n 0, 1) := dk_42 (dk_at dksX0_spunWith_2 13 rfl rfl)
theorem dX0_spunWith_62 : decode cX0_spunWith 62 = .ok (.getfield 24, 3) := dk_180 0 24 (dk_at dksX0_spunWith_2 14 rfl rfl)
theorem dX0_spunWith_65 : decode cX0_spunWith 65 = .ok (.iload_n 2, 1) := dk_28 (dk_at dksX0_spunWith_2 17 rfl rfl)
theorem dX0_spunWith_66 : decode cX0_spunWith 66 = .ok (.aaload, 1) := dk_50 (dk_at dksX0_spunWith_2 18 rfl rfl)
theorem dX0_spunWith_67 : decode cX0_spunWith 67 = .ok (.getfield 180, 3) := dk_180 0 180 (dk_at dksX0_spunWith_2 19 rfl rfl)
theorem dX0_spunWith_70 : decode cX0_spunWith 70 = .ok (.iastore, 1) := dk_79 (dk_at dksX0_spunWith_2 22 rfl rfl)
theorem dX0_spunWith_71 : decode cX0_spunWith 71 = .ok (.iinc 2 1, 3) := dk_132 2 1 (dk_at dksX0_spunWith_3 0 rfl rfl)
theorem dX0_spunWith_74 : decode cX0_spunWith 74 = .ok (.goto (-26), 3) := dk_167 255 230 (dk_at dksX0_spunWith_3 3 rfl rfl)
theorem dX0_spunWith_77 : decode cX0_spunWith 77 = .ok (.iconst 0, 1) := dk_3 (dk_at dksX0_spunWith_3 6 rfl rfl)
theorem dX0_spunWith_78 : decode cX0_spunWith 78 = .ok (.istore_n 2, 1) := dk_61 (dk_at dksX0_spunWith_3 7 rfl rfl)
theorem dX0_spunWith_79 : decode cX0_spunWith 79 = .ok (.iload_n 2, 1) := dk_28 (dk_at dksX0_spunWith_3 8 rfl rfl)
theorem dX0_spunWith_80 : decode cX0_spunWith 80 = .ok (.aload_n 0, 1) := dk_42 (dk_at dksX0_spunWith_3 9 rfl rfl)
theorem dX0_spunWith_81 : decode cX0_spunWith 81 = .ok (.getfield 487, 3) := dk_180 1 231 (dk_at dksX0_spunWith_3 10 rfl rfl)
theorem dX0_spunWith_84 : decode cX0_spunWith 84 = .ok (.if_icmp .ge 125, 3) := dk_162 0 125 (dk_at dksX0_spunWith_3 13 rfl rfl)
theorem dX0_spunWith_87 : decode cX0_spunWith 87 = .ok (.iload_n 1, 1) := dk_27 (dk_at dksX0_spunWith_3 16 rfl rfl)
theorem dX0_spunWith_88 : decode cX0_spunWith 88 = .ok (.iload_n 2, 1) := dk_28 (dk_at dksX0_spunWith_3 17 rfl rfl)
theorem dX0_spunWith_89 : decode cX0_spunWith 89 = .ok (.ishr, 1) := dk_122 (dk_at dksX0_spunWith_3 18 rfl rfl)
theorem dX0_spunWith_90 : decode cX0_spunWith 90 = .ok (.iconst 1, 1) := dk_4 (dk_at dksX0_spunWith_3 19 rfl rfl)
theorem dX0_spunWith_91 : decode cX0_spunWith 91 = .ok (.iand, 1) := dk_126 (dk_at dksX0_spunWith_3 20 rfl rfl)
theorem dX0_spunWith_92 : decode cX0_spunWith 92 = .ok (.ifCond .ne 6, 3) := dk_154 0 6 (dk_at dksX0_spunWith_3 21 rfl rfl)
theorem dX0_spunWith_95 : decode cX0_spunWith 95 = .ok (.goto 108, 3) := dk_167 0 108 (dk_at dksX0_spunWith_4 0 rfl rfl)
theorem dX0_spunWith_98 : decode cX0_spunWith 98 = .ok (.aload_n 0, 1) := dk_42 (dk_at dksX0_spunWith_4 3 rfl rfl)
theorem dX0_spunWith_99 : decode cX0_spunWith 99 = .ok (.getfield 97, 3) := dk_180 0 97 (dk_at dksX0_spunWith_4 4 rfl rfl)
theorem dX0_spunWith_102 : decode cX0_spunWith 102 = .ok (.iload_n 2, 1) := dk_28 (dk_at dksX0_spunWith_4 7 rfl rfl)
theorem dX0_spunWith_103 : decode cX0_spunWith 103 = .ok (.iaload, 1) := dk_46 (dk_at dksX0_spunWith_4 8 rfl rfl)
theorem dX0_spunWith_104 : decode cX0_spunWith 104 = .ok (.istore_n 3, 1) := dk_62 (dk_at dksX0_spunWith_4 9 rfl rfl)
theorem dX0_spunWith_105 : decode cX0_spunWith 105 = .ok (.aload_n 0, 1) := dk_42 (dk_at dksX0_spunWith_4 10 rfl rfl)
theorem dX0_spunWith_106 : decode cX0_spunWith 106 = .ok (.getfield 30, 3) := dk_180 0 30 (dk_at dksX0_spunWith_4 11 rfl rfl)
theorem dX0_spunWith_109 : decode cX0_spunWith 109 = .ok (.iload_n 3, 1) := dk_29 (dk_at dksX0_spunWith_4 14 rfl rfl)
theorem dX0_spunWith_110 : decode cX0_spunWith 110 = .ok (.aaload, 1) := dk_50 (dk_at dksX0_spunWith_4 15 rfl rfl)
theorem dX0_spunWith_111 : decode cX0_spunWith 111 = .ok (.getfield 240, 3) := dk_180 0 240 (dk_at dksX0_spunWith_4 16 rfl rfl)
theorem dX0_spunWith_114 : decode cX0_spunWith 114 = .ok (.getfield 144, 3) := dk_180 0 144 (dk_at dksX0_spunWith_4 19 rfl rfl)
theorem dX0_spunWith_117 : decode cX0_spunWith 117 = .ok (.istore 4, 2) := dk_54 4 (dk_at dksX0_spunWith_4 22 rfl rfl)
theorem dX0_spunWith_119 : decode cX0_spunWith 119 = .ok (.aload_n 0, 1) := dk_42 (dk_at dksX0_spunWith_5 0 rfl rfl)
theorem dX0_spunWith_120 : decode cX0_spunWith 120 = .ok (.getfield 100, 3) := dk_180 0 100 (dk_at dksX0_spunWith_5 1 rfl rfl)
theorem dX0_spunWith_123 : decode cX0_spunWith 123 = .ok (.iload_n 2, 1) := dk_28 (dk_at dksX0_spunWith_5 4 rfl rfl)
theorem dX0_spunWith_124 : decode cX0_spunWith 124 = .ok (.iaload, 1) := dk_46 (dk_at dksX0_spunWith_5 5 rfl rfl)
theorem dX0_spunWith_125 : decode cX0_spunWith 125 = .ok (.ifCond .ne 24, 3) := dk_154 0 24 (dk_at dksX0_spunWith_5 6 rfl rfl)
theorem dX0_spunWith_128 : decode cX0_spunWith 128 = .ok (.aload_n 0, 1) := dk_42 (dk_at dksX0_spunWith_5 9 rfl rfl)
theorem dX0_spunWith_129 : decode cX0_spunWith 129 = .ok (.getfield 103, 3) := dk_180 0 103 (dk_at dksX0_spunWith_5 10 rfl rfl)
theorem dX0_spunWith_132 : decode cX0_spunWith 132 = .ok (.iload_n 3, 1) := dk_29 (dk_at dksX0_spunWith_5 13 rfl rfl)
theorem dX0_spunWith_133 : decode cX0_spunWith 133 = .ok (.iconst 5, 1) := dk_8 (dk_at dksX0_spunWith_5 14 rfl rfl)
theorem dX0_spunWith_134 : decode cX0_spunWith 134 = .ok (.aload_n 0, 1) := dk_42 (dk_at dksX0_spunWith_5 15 rfl rfl)
theorem dX0_spunWith_135 : decode cX0_spunWith 135 = .ok (.getfield 103, 3) := dk_180 0 103 (dk_at dksX0_spunWith_5 16 rfl rfl)
theorem dX0_spunWith_138 : decode cX0_spunWith 138 = .ok (.iload_n 3, 1) := dk_29 (dk_at dksX0_spunWith_5 19 rfl rfl)
theorem dX0_spunWith_139 : decode cX0_spunWith 139 = .ok (.iaload, 1) := dk_46 (dk_at dksX0_spunWith_5 20 rfl rfl)
theorem dX0_spunWith_140 : decode cX0_spunWith 140 = .ok (.iconst 1, 1) := dk_4 (dk_at dksX0_spunWith_5 21 rfl rfl)
theorem dX0_spunWith_141 : decode cX0_spunWith 141 = .ok (.iadd, 1) := dk_96 (dk_at dksX0_spunWith_5 22 rfl rfl)
theorem dX0_spunWith_142 : decode cX0_spunWith 142 = .ok (.invokestatic 257, 3) := dk_184 1 1 (dk_at dksX0_spunWith_6 0 rfl rfl)
theorem dX0_spunWith_145 : decode cX0_spunWith 145 = .ok (.iastore, 1) := dk_79 (dk_at dksX0_spunWith_6 3 rfl rfl)
theorem dX0_spunWith_146 : decode cX0_spunWith 146 = .ok (.goto 57, 3) := dk_167 0 57 (dk_at dksX0_spunWith_6 4 rfl rfl)
theorem dX0_spunWith_149 : decode cX0_spunWith 149 = .ok (.aload_n 0, 1) := dk_42 (dk_at dksX0_spunWith_6 7 rfl rfl)
theorem dX0_spunWith_150 : decode cX0_spunWith 150 = .ok (.getfield 100, 3) := dk_180 0 100 (dk_at dksX0_spunWith_6 8 rfl rfl)
theorem dX0_spunWith_153 : decode cX0_spunWith 153 = .ok (.iload_n 2, 1) := dk_28 (dk_at dksX0_spunWith_6 11 rfl rfl)
theorem dX0_spunWith_154 : decode cX0_spunWith 154 = .ok (.iaload, 1) := dk_46 (dk_at dksX0_spunWith_6 12 rfl rfl)
theorem dX0_spunWith_155 : decode cX0_spunWith 155 = .ok (.iconst 1, 1) := dk_4 (dk_at dksX0_spunWith_6 13 rfl rfl)
theorem dX0_spunWith_156 : decode cX0_spunWith 156 = .ok (.if_icmp .ne 25, 3) := dk_160 0 25 (dk_at dksX0_spunWith_6 14 rfl rfl)
theorem dX0_spunWith_159 : decode cX0_spunWith 159 = .ok (.aload_n 0, 1) := dk_42 (dk_at dksX0_spunWith_6 17 rfl rfl)
theorem dX0_spunWith_160 : decode cX0_spunWith 160 = .ok (.getfield 106, 3) := dk_180 0 106 (dk_at dksX0_spunWith_6 18 rfl rfl)
theorem dX0_spunWith_163 : decode cX0_spunWith 163 = .ok (.iload_n 3, 1) := dk_29 (dk_at dksX0_spunWith_6 21 rfl rfl)
theorem dX0_spunWith_164 : decode cX0_spunWith 164 = .ok (.bipush 9, 2) := dk_16 9 (dk_at dksX0_spunWith_6 22 rfl rfl)
theorem dX0_spunWith_166 : decode cX0_spunWith 166 = .ok (.aload_n 0, 1) := dk_42 (dk_at dksX0_spunWith_7 0 rfl rfl)
theorem dX0_spunWith_167 : decode cX0_spunWith 167 = .ok (.getfield 106, 3) := dk_180 0 106 (dk_at dksX0_spunWith_7 1 rfl rfl)
theorem dX0_spunWith_170 : decode cX0_spunWith 170 = .ok (.iload_n 3, 1) := dk_29 (dk_at dksX0_spunWith_7 4 rfl rfl)
theorem dX0_spunWith_171 : decode cX0_spunWith 171 = .ok (.iaload, 1) := dk_46 (dk_at dksX0_spunWith_7 5 rfl rfl)
theorem dX0_spunWith_172 : decode cX0_spunWith 172 = .ok (.iconst 1, 1) := dk_4 (dk_at dksX0_spunWith_7 6 rfl rfl)
theorem dX0_spunWith_173 : decode cX0_spunWith 173 = .ok (.iadd, 1) := dk_96 (dk_at dksX0_spunWith_7 7 rfl rfl)
theorem dX0_spunWith_174 : decode cX0_spunWith 174 = .ok (.invokestatic 257, 3) := dk_184 1 1 (dk_at dksX0_spunWith_7 8 rfl rfl)
theorem dX0_spunWith_177 : decode cX0_spunWith 177 = .ok (.iastore, 1) := dk_79 (dk_at dksX0_spunWith_7 11 rfl rfl)
theorem dX0_spunWith_178 : decode cX0_spunWith 178 = .ok (.goto 25, 3) := dk_167 0 25 (dk_at dksX0_spunWith_7 12 rfl rfl)
theorem dX0_spunWith_181 : decode cX0_spunWith 181 = .ok (.aload_n 0, 1) := dk_42 (dk_at dksX0_spunWith_7 15 rfl rfl)
theorem dX0_spunWith_182 : decode cX0_spunWith 182 = .ok (.getfield 109, 3) := dk_180 0 109 (dk_at dksX0_spunWith_7 16 rfl rfl)
theorem dX0_spunWith_185 : decode cX0_spunWith 185 = .ok (.iload 4, 2) := dk_21 4 (dk_at dksX0_spunWith_7 19 rfl rfl)
theorem dX0_spunWith_187 : decode cX0_spunWith 187 = .ok (.sipush 9999, 3) := dk_17 39 15 (dk_at dksX0_spunWith_7 21 rfl rfl)
theorem dX0_spunWith_190 : decode cX0_spunWith 190 = .ok (.aload_n 0, 1) := dk_42 (dk_at dksX0_spunWith_8 0 rfl rfl)
theorem dX0_spunWith_191 : decode cX0_spunWith 191 = .ok (.getfield 109, 3) := dk_180 0 109 (dk_at dksX0_spunWith_8 1 rfl rfl)
theorem dX0_spunWith_194 : decode cX0_spunWith 194 = .ok (.iload 4, 2) := dk_21 4 (dk_at dksX0_spunWith_8 4 rfl rfl)
theorem dX0_spunWith_196 : decode cX0_spunWith 196 = .ok (.iaload, 1) := dk_46 (dk_at dksX0_spunWith_8 6 rfl rfl)
theorem dX0_spunWith_197 : decode cX0_spunWith 197 = .ok (.iconst 5, 1) := dk_8 (dk_at dksX0_spunWith_8 7 rfl rfl)
theorem dX0_spunWith_198 : decode cX0_spunWith 198 = .ok (.iadd, 1) := dk_96 (dk_at dksX0_spunWith_8 8 rfl rfl)
theorem dX0_spunWith_199 : decode cX0_spunWith 199 = .ok (.invokestatic 257, 3) := dk_184 1 1 (dk_at dksX0_spunWith_8 9 rfl rfl)
theorem dX0_spunWith_202 : decode cX0_spunWith 202 = .ok (.iastore, 1) := dk_79 (dk_at dksX0_spunWith_8 12 rfl rfl)
theorem dX0_spunWith_203 : decode cX0_spunWith 203 = .ok (.iinc 2 1, 3) := dk_132 2 1 (dk_at dksX0_spunWith_8 13 rfl rfl)
theorem dX0_spunWith_206 : decode cX0_spunWith 206 = .ok (.goto (-127), 3) := dk_167 255 129 (dk_at dksX0_spunWith_8 16 rfl rfl)
theorem dX0_spunWith_209 : decode cX0_spunWith 209 = .ok (.iconst 0, 1) := dk_3 (dk_at dksX0_spunWith_8 19 rfl rfl)
theorem dX0_spunWith_210 : decode cX0_spunWith 210 = .ok (.istore_n 2, 1) := dk_61 (dk_at dksX0_spunWith_8 20 rfl rfl)
theorem dX0_spunWith_211 : decode cX0_spunWith 211 = .ok (.aload_n 0, 1) := dk_42 (dk_at dksX0_spunWith_8 21 rfl rfl)
theorem dX0_spunWith_212 : decode cX0_spunWith 212 = .ok (.getfield 123, 3) := dk_180 0 123 (dk_at dksX0_spunWith_9 0 rfl rfl)
theorem dX0_spunWith_215 : decode cX0_spunWith 215 = .ok (.istore_n 3, 1) := dk_62 (dk_at dksX0_spunWith_9 3 rfl rfl)
theorem dX0_spunWith_216 : decode cX0_spunWith 216 = .ok (.iconst 0, 1) := dk_3 (dk_at dksX0_spunWith_9 4 rfl rfl)
theorem dX0_spunWith_217 : decode cX0_spunWith 217 = .ok (.istore 4, 2) := dk_54 4 (dk_at dksX0_spunWith_9 5 rfl rfl)
theorem dX0_spunWith_219 : decode cX0_spunWith 219 = .ok (.iload 4, 2) := dk_21 4 (dk_at dksX0_spunWith_9 7 rfl rfl)
theorem dX0_spunWith_221 : decode cX0_spunWith 221 = .ok (.aload_n 0, 1) := dk_42 (dk_at dksX0_spunWith_9 9 rfl rfl)
theorem dX0_spunWith_222 : decode cX0_spunWith 222 = .ok (.getfield 120, 3) := dk_180 0 120 (dk_at dksX0_spunWith_9 10 rfl rfl)
theorem dX0_spunWith_225 : decode cX0_spunWith 225 = .ok (.if_icmp .ge 119, 3) := dk_162 0 119 (dk_at dksX0_spunWith_9 13 rfl rfl)
theorem dX0_spunWith_228 : decode cX0_spunWith 228 = .ok (.iload_n 3, 1) := dk_29 (dk_at dksX0_spunWith_9 16 rfl rfl)
theorem dX0_spunWith_229 : decode cX0_spunWith 229 = .ok (.sipush 300, 3) := dk_17 1 44 (dk_at dksX0_spunWith_9 17 rfl rfl)
theorem dX0_spunWith_232 : decode cX0_spunWith 232 = .ok (.if_icmp .ge 112, 3) := dk_162 0 112 (dk_at dksX0_spunWith_9 20 rfl rfl)
theorem dX0_spunWith_235 : decode cX0_spunWith 235 = .ok (.aload_n 0, 1) := dk_42 (dk_at dksX0_spunWith_9 23 rfl rfl)
theorem dX0_spunWith_236 : decode cX0_spunWith 236 = .ok (.getfield 30, 3) := dk_180 0 30 (dk_at dksX0_spunWith_10 0 rfl rfl)
theorem dX0_spunWith_239 : decode cX0_spunWith 239 = .ok (.iload 4, 2) := dk_21 4 (dk_at dksX0_spunWith_10 3 rfl rfl)
theorem dX0_spunWith_241 : decode cX0_spunWith 241 = .ok (.aaload, 1) := dk_50 (dk_at dksX0_spunWith_10 5 rfl rfl)
theorem dX0_spunWith_242 : decode cX0_spunWith 242 = .ok (.astore 5, 2) := dk_58 5 (dk_at dksX0_spunWith_10 6 rfl rfl)
theorem dX0_spunWith_244 : decode cX0_spunWith 244 = .ok (.aload 5, 2) := dk_25 5 (dk_at dksX0_spunWith_10 8 rfl rfl)
theorem dX0_spunWith_246 : decode cX0_spunWith 246 = .ok (.getfield 240, 3) := dk_180 0 240 (dk_at dksX0_spunWith_10 10 rfl rfl)
theorem dX0_spunWith_249 : decode cX0_spunWith 249 = .ok (.getfield 144, 3) := dk_180 0 144 (dk_at dksX0_spunWith_10 13 rfl rfl)
theorem dX0_spunWith_252 : decode cX0_spunWith 252 = .ok (.istore 6, 2) := dk_54 6 (dk_at dksX0_spunWith_10 16 rfl rfl)
theorem dX0_spunWith_254 : decode cX0_spunWith 254 = .ok (.aload_n 0, 1) := dk_42 (dk_at dksX0_spunWith_10 18 rfl rfl)
theorem dX0_spunWith_255 : decode cX0_spunWith 255 = .ok (.getfield 103, 3) := dk_180 0 103 (dk_at dksX0_spunWith_10 19 rfl rfl)
theorem dX0_spunWith_258 : decode cX0_spunWith 258 = .ok (.iload 4, 2) := dk_21 4 (dk_at dksX0_spunWith_10 22 rfl rfl)
theorem dX0_spunWith_260 : decode cX0_spunWith 260 = .ok (.iaload, 1) := dk_46 (dk_at dksX0_spunWith_11 0 rfl rfl)
theorem dX0_spunWith_261 : decode cX0_spunWith 261 = .ok (.aload 5, 2) := dk_25 5 (dk_at dksX0_spunWith_11 1 rfl rfl)
theorem dX0_spunWith_263 : decode cX0_spunWith 263 = .ok (.getfield 240, 3) := dk_180 0 240 (dk_at dksX0_spunWith_11 3 rfl rfl)
theorem dX0_spunWith_266 : decode cX0_spunWith 266 = .ok (.getfield 380, 3) := dk_180 1 124 (dk_at dksX0_spunWith_11 6 rfl rfl)
theorem dX0_spunWith_269 : decode cX0_spunWith 269 = .ok (.aload_n 0, 1) := dk_42 (dk_at dksX0_spunWith_11 9 rfl rfl)
theorem dX0_spunWith_270 : decode cX0_spunWith 270 = .ok (.getfield 151, 3) := dk_180 0 151 (dk_at dksX0_spunWith_11 10 rfl rfl)
theorem dX0_spunWith_273 : decode cX0_spunWith 273 = .ok (.invokestatic 366, 3) := dk_184 1 110 (dk_at dksX0_spunWith_11 13 rfl rfl)
theorem dX0_spunWith_276 : decode cX0_spunWith 276 = .ok (.iaload, 1) := dk_46 (dk_at dksX0_spunWith_11 16 rfl rfl)
theorem dX0_spunWith_277 : decode cX0_spunWith 277 = .ok (.imul, 1) := dk_104 (dk_at dksX0_spunWith_11 17 rfl rfl)
theorem dX0_spunWith_278 : decode cX0_spunWith 278 = .ok (.aload_n 0, 1) := dk_42 (dk_at dksX0_spunWith_11 18 rfl rfl)
theorem dX0_spunWith_279 : decode cX0_spunWith 279 = .ok (.getfield 106, 3) := dk_180 0 106 (dk_at dksX0_spunWith_11 19 rfl rfl)
theorem dX0_spunWith_282 : decode cX0_spunWith 282 = .ok (.iload 4, 2) := dk_21 4 (dk_at dksX0_spunWith_11 22 rfl rfl)
theorem dX0_spunWith_284 : decode cX0_spunWith 284 = .ok (.iaload, 1) := dk_46 (dk_at dksX0_spunWith_12 0 rfl rfl)
theorem dX0_spunWith_285 : decode cX0_spunWith 285 = .ok (.aload 5, 2) := dk_25 5 (dk_at dksX0_spunWith_12 1 rfl rfl)
theorem dX0_spunWith_287 : decode cX0_spunWith 287 = .ok (.getfield 173, 3) := dk_180 0 173 (dk_at dksX0_spunWith_12 3 rfl rfl)
theorem dX0_spunWith_290 : decode cX0_spunWith 290 = .ok (.aload_n 0, 1) := dk_42 (dk_at dksX0_spunWith_12 6 rfl rfl)
theorem dX0_spunWith_291 : decode cX0_spunWith 291 = .ok (.getfield 109, 3) := dk_180 0 109 (dk_at dksX0_spunWith_12 7 rfl rfl)
theorem dX0_spunWith_294 : decode cX0_spunWith 294 = .ok (.iload 6, 2) := dk_21 6 (dk_at dksX0_spunWith_12 10 rfl rfl)
theorem dX0_spunWith_296 : decode cX0_spunWith 296 = .ok (.iaload, 1) := dk_46 (dk_at dksX0_spunWith_12 12 rfl rfl)
theorem dX0_spunWith_297 : decode cX0_spunWith 297 = .ok (.invokestatic 244, 3) := dk_184 0 244 (dk_at dksX0_spunWith_12 13 rfl rfl)
theorem dX0_spunWith_300 : decode cX0_spunWith 300 = .ok (.istore 7, 2) := dk_54 7 (dk_at dksX0_spunWith_12 16 rfl rfl)
theorem dX0_spunWith_302 : decode cX0_spunWith 302 = .ok (.iload 7, 2) := dk_21 7 (dk_at dksX0_spunWith_12 18 rfl rfl)
theorem dX0_spunWith_304 : decode cX0_spunWith 304 = .ok (.ifCond .ne 6, 3) := dk_154 0 6 (dk_at dksX0_spunWith_12 20 rfl rfl)
theorem dX0_spunWith_307 : decode cX0_spunWith 307 = .ok (.goto 31, 3) := dk_167 0 31 (dk_at dksX0_spunWith_13 0 rfl rfl)
theorem dX0_spunWith_310 : decode cX0_spunWith 310 = .ok (.iinc 3 1, 3) := dk_132 3 1 (dk_at dksX0_spunWith_13 3 rfl rfl)
theorem dX0_spunWith_313 : decode cX0_spunWith 313 = .ok (.iload_n 2, 1) := dk_28 (dk_at dksX0_spunWith_13 6 rfl rfl)
theorem dX0_spunWith_314 : decode cX0_spunWith 314 = .ok (.iload 7, 2) := dk_21 7 (dk_at dksX0_spunWith_13 7 rfl rfl)
theorem dX0_spunWith_316 : decode cX0_spunWith 316 = .ok (.iadd, 1) := dk_96 (dk_at dksX0_spunWith_13 9 rfl rfl)
theorem dX0_spunWith_317 : decode cX0_spunWith 317 = .ok (.istore_n 2, 1) := dk_61 (dk_at dksX0_spunWith_13 10 rfl rfl)
theorem dX0_spunWith_318 : decode cX0_spunWith 318 = .ok (.aload_n 0, 1) := dk_42 (dk_at dksX0_spunWith_13 11 rfl rfl)
theorem dX0_spunWith_319 : decode cX0_spunWith 319 = .ok (.getfield 109, 3) := dk_180 0 109 (dk_at dksX0_spunWith_13 12 rfl rfl)
theorem dX0_spunWith_322 : decode cX0_spunWith 322 = .ok (.iload 6, 2) := dk_21 6 (dk_at dksX0_spunWith_13 15 rfl rfl)
theorem dX0_spunWith_324 : decode cX0_spunWith 324 = .ok (.dup2, 1) := dk_92 (dk_at dksX0_spunWith_13 17 rfl rfl)
theorem dX0_spunWith_325 : decode cX0_spunWith 325 = .ok (.iaload, 1) := dk_46 (dk_at dksX0_spunWith_13 18 rfl rfl)
theorem dX0_spunWith_326 : decode cX0_spunWith 326 = .ok (.iload 7, 2) := dk_21 7 (dk_at dksX0_spunWith_13 19 rfl rfl)
theorem dX0_spunWith_328 : decode cX0_spunWith 328 = .ok (.aload 5, 2) := dk_25 5 (dk_at dksX0_spunWith_13 21 rfl rfl)
theorem dX0_spunWith_330 : decode cX0_spunWith 330 = .ok (.getfield 173, 3) := dk_180 0 173 (dk_at dksX0_spunWith_14 0 rfl rfl)
theorem dX0_spunWith_333 : decode cX0_spunWith 333 = .ok (.invokestatic 251, 3) := dk_184 0 251 (dk_at dksX0_spunWith_14 3 rfl rfl)
theorem dX0_spunWith_336 : decode cX0_spunWith 336 = .ok (.isub, 1) := dk_100 (dk_at dksX0_spunWith_14 6 rfl rfl)
theorem dX0_spunWith_337 : decode cX0_spunWith 337 = .ok (.iastore, 1) := dk_79 (dk_at dksX0_spunWith_14 7 rfl rfl)
theorem dX0_spunWith_338 : decode cX0_spunWith 338 = .ok (.iinc 4 1, 3) := dk_132 4 1 (dk_at dksX0_spunWith_14 8 rfl rfl)
theorem dX0_spunWith_341 : decode cX0_spunWith 341 = .ok (.goto (-122), 3) := dk_167 255 134 (dk_at dksX0_spunWith_14 11 rfl rfl)
theorem dX0_spunWith_344 : decode cX0_spunWith 344 = .ok (.iload_n 2, 1) := dk_28 (dk_at dksX0_spunWith_14 14 rfl rfl)
theorem dX0_spunWith_345 : decode cX0_spunWith 345 = .ok (.ireturn, 1) := dk_172 (dk_at dksX0_spunWith_14 15 rfl rfl)
abbrev cX0_hungry : ByteArray := prog_1_method_71_code
def yX0_hungry : MethodName := ⟨RX0, "hungry", "(I)I"⟩
def dkwX0_hungry_2 : List UInt8 := [4, 29, 120, 167, 0, 4, 3, 128, 61, 132, 3, 1, 167, 255, 212, 28, 172]
abbrev dktX0_hungry_2 : List UInt8 := dkwX0_hungry_2 ++ []
def dkwX0_hungry_1 : List UInt8 := [28, 42, 180, 0, 30, 29, 50, 180, 0, 177, 42, 180, 0, 30, 29, 50, 180, 1, 118, 27, 104, 162, 0, 9]
abbrev dktX0_hungry_1 : List UInt8 := dkwX0_hungry_1 ++ dktX0_hungry_2
def dkwX0_hungry_0 : List UInt8 := [27, 4, 16, 99, 184, 0, 116, 154, 0, 5, 2, 172, 3, 61, 3, 62, 29, 42, 180, 0, 120, 162, 0, 42]
abbrev dktX0_hungry_0 : List UInt8 := dkwX0_hungry_0 ++ dktX0_hungry_1
theorem dksX0_hungry_0 : cX0_hungry.data.toList.drop 0 = dktX0_hungry_0 := by decide +kernel
theorem dksX0_hungry_1 : cX0_hungry.data.toList.drop 24 = dktX0_hungry_1 := dk_seg dksX0_hungry_0 24 rfl rfl
theorem dksX0_hungry_2 : cX0_hungry.data.toList.drop 48 = dktX0_hungry_2 := dk_seg dksX0_hungry_1 24 rfl rfl
theorem dX0_hungry_0 : decode cX0_hungry 0 = .ok (.iload_n 1, 1) := dk_27 (dk_at dksX0_hungry_0 0 rfl rfl)
theorem dX0_hungry_1 : decode cX0_hungry 1 = .ok (.iconst 1, 1) := dk_4 (dk_at dksX0_hungry_0 1 rfl rfl)
theorem dX0_hungry_2 : decode cX0_hungry 2 = .ok (.bipush 99, 2) := dk_16 99 (dk_at dksX0_hungry_0 2 rfl rfl)
theorem dX0_hungry_4 : decode cX0_hungry 4 = .ok (.invokestatic 116, 3) := dk_184 0 116 (dk_at dksX0_hungry_0 4 rfl rfl)
theorem dX0_hungry_7 : decode cX0_hungry 7 = .ok (.ifCond .ne 5, 3) := dk_154 0 5 (dk_at dksX0_hungry_0 7 rfl rfl)
theorem dX0_hungry_10 : decode cX0_hungry 10 = .ok (.iconst (-1), 1) := dk_2 (dk_at dksX0_hungry_0 10 rfl rfl)
theorem dX0_hungry_11 : decode cX0_hungry 11 = .ok (.ireturn, 1) := dk_172 (dk_at dksX0_hungry_0 11 rfl rfl)
theorem dX0_hungry_12 : decode cX0_hungry 12 = .ok (.iconst 0, 1) := dk_3 (dk_at dksX0_hungry_0 12 rfl rfl)
theorem dX0_hungry_13 : decode cX0_hungry 13 = .ok (.istore_n 2, 1) := dk_61 (dk_at dksX0_hungry_0 13 rfl rfl)
theorem dX0_hungry_14 : decode cX0_hungry 14 = .ok (.iconst 0, 1) := dk_3 (dk_at dksX0_hungry_0 14 rfl rfl)
theorem dX0_hungry_15 : decode cX0_hungry 15 = .ok (.istore_n 3, 1) := dk_62 (dk_at dksX0_hungry_0 15 rfl rfl)
theorem dX0_hungry_16 : decode cX0_hungry 16 = .ok (.iload_n 3, 1) := dk_29 (dk_at dksX0_hungry_0 16 rfl rfl)
theorem dX0_hungry_17 : decode cX0_hungry 17 = .ok (.aload_n 0, 1) := dk_42 (dk_at dksX0_hungry_0 17 rfl rfl)
theorem dX0_hungry_18 : decode cX0_hungry 18 = .ok (.getfield 120, 3) := dk_180 0 120 (dk_at dksX0_hungry_0 18 rfl rfl)
theorem dX0_hungry_21 : decode cX0_hungry 21 = .ok (.if_icmp .ge 42, 3) := dk_162 0 42 (dk_at dksX0_hungry_0 21 rfl rfl)
theorem dX0_hungry_24 : decode cX0_hungry 24 = .ok (.iload_n 2, 1) := dk_28 (dk_at dksX0_hungry_1 0 rfl rfl)
theorem dX0_hungry_25 : decode cX0_hungry 25 = .ok (.aload_n 0, 1) := dk_42 (dk_at dksX0_hungry_1 1 rfl rfl)
theorem dX0_hungry_26 : decode cX0_hungry 26 = .ok (.getfield 30, 3) := dk_180 0 30 (dk_at dksX0_hungry_1 2 rfl rfl)
theorem dX0_hungry_29 : decode cX0_hungry 29 = .ok (.iload_n 3, 1) := dk_29 (dk_at dksX0_hungry_1 5 rfl rfl)
theorem dX0_hungry_30 : decode cX0_hungry 30 = .ok (.aaload, 1) := dk_50 (dk_at dksX0_hungry_1 6 rfl rfl)
theorem dX0_hungry_31 : decode cX0_hungry 31 = .ok (.getfield 177, 3) := dk_180 0 177 (dk_at dksX0_hungry_1 7 rfl rfl)
theorem dX0_hungry_34 : decode cX0_hungry 34 = .ok (.aload_n 0, 1) := dk_42 (dk_at dksX0_hungry_1 10 rfl rfl)
theorem dX0_hungry_35 : decode cX0_hungry 35 = .ok (.getfield 30, 3) := dk_180 0 30 (dk_at dksX0_hungry_1 11 rfl rfl)
theorem dX0_hungry_38 : decode cX0_hungry 38 = .ok (.iload_n 3, 1) := dk_29 (dk_at dksX0_hungry_1 14 rfl rfl)
theorem dX0_hungry_39 : decode cX0_hungry 39 = .ok (.aaload, 1) := dk_50 (dk_at dksX0_hungry_1 15 rfl rfl)
theorem dX0_hungry_40 : decode cX0_hungry 40 = .ok (.getfield 374, 3) := dk_180 1 118 (dk_at dksX0_hungry_1 16 rfl rfl)
theorem dX0_hungry_43 : decode cX0_hungry 43 = .ok (.iload_n 1, 1) := dk_27 (dk_at dksX0_hungry_1 19 rfl rfl)
theorem dX0_hungry_44 : decode cX0_hungry 44 = .ok (.imul, 1) := dk_104 (dk_at dksX0_hungry_1 20 rfl rfl)
theorem dX0_hungry_45 : decode cX0_hungry 45 = .ok (.if_icmp .ge 9, 3) := dk_162 0 9 (dk_at dksX0_hungry_1 21 rfl rfl)
theorem dX0_hungry_48 : decode cX0_hungry 48 = .ok (.iconst 1, 1) := dk_4 (dk_at dksX0_hungry_2 0 rfl rfl)
theorem dX0_hungry_49 : decode cX0_hungry 49 = .ok (.iload_n 3, 1) := dk_29 (dk_at dksX0_hungry_2 1 rfl rfl)
theorem dX0_hungry_50 : decode cX0_hungry 50 = .ok (.ishl, 1) := dk_120 (dk_at dksX0_hungry_2 2 rfl rfl)
theorem dX0_hungry_51 : decode cX0_hungry 51 = .ok (.goto 4, 3) := dk_167 0 4 (dk_at dksX0_hungry_2 3 rfl rfl)
theorem dX0_hungry_54 : decode cX0_hungry 54 = .ok (.iconst 0, 1) := dk_3 (dk_at dksX0_hungry_2 6 rfl rfl)
theorem dX0_hungry_55 : decode cX0_hungry 55 = .ok (.ior, 1) := dk_128 (dk_at dksX0_hungry_2 7 rfl rfl)
theorem dX0_hungry_56 : decode cX0_hungry 56 = .ok (.istore_n 2, 1) := dk_61 (dk_at dksX0_hungry_2 8 rfl rfl)
theorem dX0_hungry_57 : decode cX0_hungry 57 = .ok (.iinc 3 1, 3) := dk_132 3 1 (dk_at dksX0_hungry_2 9 rfl rfl)
theorem dX0_hungry_60 : decode cX0_hungry 60 = .ok (.goto (-44), 3) := dk_167 255 212 (dk_at dksX0_hungry_2 12 rfl rfl)
theorem dX0_hungry_63 : decode cX0_hungry 63 = .ok (.iload_n 2, 1) := dk_28 (dk_at dksX0_hungry_2 15 rfl rfl)
theorem dX0_hungry_64 : decode cX0_hungry 64 = .ok (.ireturn, 1) := dk_172 (dk_at dksX0_hungry_2 16 rfl rfl)
abbrev cX0_keeps : ByteArray := prog_1_method_72_code
def yX0_keeps : MethodName := ⟨RX0, "keeps", "(II)I"⟩
def dkwX0_keeps_3 : List UInt8 := [45, 182, 1, 237, 21, 4, 3, 182, 1, 130, 184, 0, 212, 45, 180, 1, 118, 28, 104, 108, 172]
abbrev dktX0_keeps_3 : List UInt8 := dkwX0_keeps_3 ++ []
def dkwX0_keeps_2 : List UInt8 := [45, 180, 0, 240, 180, 0, 180, 184, 0, 244, 54, 4, 3, 42, 4, 45, 45, 180, 1, 121, 45, 180, 0, 173]
abbrev dktX0_keeps_2 : List UInt8 := dkwX0_keeps_2 ++ dktX0_keeps_3
def dkwX0_keeps_1 : List UInt8 := [17, 0, 156, 160, 0, 5, 2, 172, 45, 42, 180, 0, 151, 182, 0, 230, 45, 180, 0, 237, 45, 180, 0, 173]
abbrev dktX0_keeps_1 : List UInt8 := dkwX0_keeps_1 ++ dktX0_keeps_2
def dkwX0_keeps_0 : List UInt8 := [42, 27, 182, 0, 157, 78, 45, 198, 0, 23, 28, 4, 16, 99, 184, 0, 116, 153, 0, 13, 42, 180, 0, 151]
abbrev dktX0_keeps_0 : List UInt8 := dkwX0_keeps_0 ++ dktX0_keeps_1
theorem dksX0_keeps_0 : cX0_keeps.data.toList.drop 0 = dktX0_keeps_0 := by decide +kernel
theorem dksX0_keeps_1 : cX0_keeps.data.toList.drop 24 = dktX0_keeps_1 := dk_seg dksX0_keeps_0 24 rfl rfl
theorem dksX0_keeps_2 : cX0_keeps.data.toList.drop 48 = dktX0_keeps_2 := dk_seg dksX0_keeps_1 24 rfl rfl
theorem dksX0_keeps_3 : cX0_keeps.data.toList.drop 72 = dktX0_keeps_3 := dk_seg dksX0_keeps_2 24 rfl rfl
theorem dX0_keeps_0 : decode cX0_keeps 0 = .ok (.aload_n 0, 1) := dk_42 (dk_at dksX0_keeps_0 0 rfl rfl)
theorem dX0_keeps_1 : decode cX0_keeps 1 = .ok (.iload_n 1, 1) := dk_27 (dk_at dksX0_keeps_0 1 rfl rfl)
theorem dX0_keeps_2 : decode cX0_keeps 2 = .ok (.invokevirtual 157, 3) := dk_182 0 157 (dk_at dksX0_keeps_0 2 rfl rfl)
theorem dX0_keeps_5 : decode cX0_keeps 5 = .ok (.astore_n 3, 1) := dk_78 (dk_at dksX0_keeps_0 5 rfl rfl)
theorem dX0_keeps_6 : decode cX0_keeps 6 = .ok (.aload_n 3, 1) := dk_45 (dk_at dksX0_keeps_0 6 rfl rfl)
theorem dX0_keeps_7 : decode cX0_keeps 7 = .ok (.ifnull 23, 3) := dk_198 0 23 (dk_at dksX0_keeps_0 7 rfl rfl)
theorem dX0_keeps_10 : decode cX0_keeps 10 = .ok (.iload_n 2, 1) := dk_28 (dk_at dksX0_keeps_0 10 rfl rfl)
theorem dX0_keeps_11 : decode cX0_keeps 11 = .ok (.iconst 1, 1) := dk_4 (dk_at dksX0_keeps_0 11 rfl rfl)
theorem dX0_keeps_12 : decode cX0_keeps 12 = .ok (.bipush 99, 2) := dk_16 99 (dk_at dksX0_keeps_0 12 rfl rfl)
theorem dX0_keeps_14 : decode cX0_keeps 14 = .ok (.invokestatic 116, 3) := dk_184 0 116 (dk_at dksX0_keeps_0 14 rfl rfl)
theorem dX0_keeps_17 : decode cX0_keeps 17 = .ok (.ifCond .eq 13, 3) := dk_153 0 13 (dk_at dksX0_keeps_0 17 rfl rfl)
theorem dX0_keeps_20 : decode cX0_keeps 20 = .ok (.aload_n 0, 1) := dk_42 (dk_at dksX0_keeps_0 20 rfl rfl)
theorem dX0_keeps_21 : decode cX0_keeps 21 = .ok (.getfield 151, 3) := dk_180 0 151 (dk_at dksX0_keeps_0 21 rfl rfl)
theorem dX0_keeps_24 : decode cX0_keeps 24 = .ok (.sipush 156, 3) := dk_17 0 156 (dk_at dksX0_keeps_1 0 rfl rfl)
theorem dX0_keeps_27 : decode cX0_keeps 27 = .ok (.if_icmp .ne 5, 3) := dk_160 0 5 (dk_at dksX0_keeps_1 3 rfl rfl)
theorem dX0_keeps_30 : decode cX0_keeps 30 = .ok (.iconst (-1), 1) := dk_2 (dk_at dksX0_keeps_1 6 rfl rfl)
theorem dX0_keeps_31 : decode cX0_keeps 31 = .ok (.ireturn, 1) := dk_172 (dk_at dksX0_keeps_1 7 rfl rfl)
theorem dX0_keeps_32 : decode cX0_keeps 32 = .ok (.aload_n 3, 1) := dk_45 (dk_at dksX0_keeps_1 8 rfl rfl)
theorem dX0_keeps_33 : decode cX0_keeps 33 = .ok (.aload_n 0, 1) := dk_42 (dk_at dksX0_keeps_1 9 rfl rfl)
theorem dX0_keeps_34 : decode cX0_keeps 34 = .ok (.getfield 151, 3) := dk_180 0 151 (dk_at dksX0_keeps_1 10 rfl rfl)
theorem dX0_keeps_37 : decode cX0_keeps 37 = .ok (.invokevirtual 230, 3) := dk_182 0 230 (dk_at dksX0_keeps_1 13 rfl rfl)
theorem dX0_keeps_40 : decode cX0_keeps 40 = .ok (.aload_n 3, 1) := dk_45 (dk_at dksX0_keeps_1 16 rfl rfl)
theorem dX0_keeps_41 : decode cX0_keeps 41 = .ok (.getfield 237, 3) := dk_180 0 237 (dk_at dksX0_keeps_1 17 rfl rfl)
theorem dX0_keeps_44 : decode cX0_keeps 44 = .ok (.aload_n 3, 1) := dk_45 (dk_at dksX0_keeps_1 20 rfl rfl)
theorem dX0_keeps_45 : decode cX0_keeps 45 = .ok (.getfield 173, 3) := dk_180 0 173 (dk_at dksX0_keeps_1 21 rfl rfl)
theorem dX0_keeps_48 : decode cX0_keeps 48 = .ok (.aload_n 3, 1) := dk_45 (dk_at dksX0_keeps_2 0 rfl rfl)
theorem dX0_keeps_49 : decode cX0_keeps 49 = .ok (.getfield 240, 3) := dk_180 0 240 (dk_at dksX0_keeps_2 1 rfl rfl)
theorem dX0_keeps_52 : decode cX0_keeps 52 = .ok (.getfield 180, 3) := dk_180 0 180 (dk_at dksX0_keeps_2 4 rfl rfl)
theorem dX0_keeps_55 : decode cX0_keeps 55 = .ok (.invokestatic 244, 3) := dk_184 0 244 (dk_at dksX0_keeps_2 7 rfl rfl)
theorem dX0_keeps_58 : decode cX0_keeps 58 = .ok (.istore 4, 2) := dk_54 4 (dk_at dksX0_keeps_2 10 rfl rfl)
theorem dX0_keeps_60 : decode cX0_keeps 60 = .ok (.iconst 0, 1) := dk_3 (dk_at dksX0_keeps_2 12 rfl rfl)
theorem dX0_keeps_61 : decode cX0_keeps 61 = .ok (.aload_n 0, 1) := dk_42 (dk_at dksX0_keeps_2 13 rfl rfl)
theorem dX0_keeps_62 : decode cX0_keeps 62 = .ok (.iconst 1, 1) := dk_4 (dk_at dksX0_keeps_2 14 rfl rfl)
theorem dX0_keeps_63 : decode cX0_keeps 63 = .ok (.aload_n 3, 1) := dk_45 (dk_at dksX0_keeps_2 15 rfl rfl)
theorem dX0_keeps_64 : decode cX0_keeps 64 = .ok (.aload_n 3, 1) := dk_45 (dk_at dksX0_keeps_2 16 rfl rfl)
theorem dX0_keeps_65 : decode cX0_keeps 65 = .ok (.getfield 377, 3) := dk_180 1 121 (dk_at dksX0_keeps_2 17 rfl rfl)
theorem dX0_keeps_68 : decode cX0_keeps 68 = .ok (.aload_n 3, 1) := dk_45 (dk_at dksX0_keeps_2 20 rfl rfl)
theorem dX0_keeps_69 : decode cX0_keeps 69 = .ok (.getfield 173, 3) := dk_180 0 173 (dk_at dksX0_keeps_2 21 rfl rfl)
theorem dX0_keeps_72 : decode cX0_keeps 72 = .ok (.aload_n 3, 1) := dk_45 (dk_at dksX0_keeps_3 0 rfl rfl)
theorem dX0_keeps_73 : decode cX0_keeps 73 = .ok (.invokevirtual 493, 3) := dk_182 1 237 (dk_at dksX0_keeps_3 1 rfl rfl)
theorem dX0_keeps_76 : decode cX0_keeps 76 = .ok (.iload 4, 2) := dk_21 4 (dk_at dksX0_keeps_3 4 rfl rfl)
theorem dX0_keeps_78 : decode cX0_keeps 78 = .ok (.iconst 0, 1) := dk_3 (dk_at dksX0_keeps_3 6 rfl rfl)
theorem dX0_keeps_79 : decode cX0_keeps 79 = .ok (.invokevirtual 386, 3) := dk_182 1 130 (dk_at dksX0_keeps_3 7 rfl rfl)
theorem dX0_keeps_82 : decode cX0_keeps 82 = .ok (.invokestatic 212, 3) := dk_184 0 212 (dk_at dksX0_keeps_3 10 rfl rfl)
theorem dX0_keeps_85 : decode cX0_keeps 85 = .ok (.aload_n 3, 1) := dk_45 (dk_at dksX0_keeps_3 13 rfl rfl)
theorem dX0_keeps_86 : decode cX0_keeps 86 = .ok (.getfield 374, 3) := dk_180 1 118 (dk_at dksX0_keeps_3 14 rfl rfl)
theorem dX0_keeps_89 : decode cX0_keeps 89 = .ok (.iload_n 2, 1) := dk_28 (dk_at dksX0_keeps_3 17 rfl rfl)
theorem dX0_keeps_90 : decode cX0_keeps 90 = .ok (.imul, 1) := dk_104 (dk_at dksX0_keeps_3 18 rfl rfl)
theorem dX0_keeps_91 : decode cX0_keeps 91 = .ok (.idiv, 1) := dk_108 (dk_at dksX0_keeps_3 19 rfl rfl)
theorem dX0_keeps_92 : decode cX0_keeps 92 = .ok (.ireturn, 1) := dk_172 (dk_at dksX0_keeps_3 20 rfl rfl)
abbrev cX0_told : ByteArray := prog_1_method_73_code
def yX0_told : MethodName := ⟨RX0, "told", "(II)I"⟩
def dkwX0_told_1 : List UInt8 := [180, 0, 71, 16, 6, 27, 104, 28, 96, 46, 167, 0, 4, 2, 172]
abbrev dktX0_told_1 : List UInt8 := dkwX0_told_1 ++ []
def dkwX0_told_0 : List UInt8 := [27, 3, 42, 180, 0, 151, 4, 100, 184, 0, 116, 153, 0, 26, 28, 3, 8, 184, 0, 116, 153, 0, 17, 42]
abbrev dktX0_told_0 : List UInt8 := dkwX0_told_0 ++ dktX0_told_1
theorem dksX0_told_0 : cX0_told.data.toList.drop 0 = dktX0_told_0 := by decide +kernel
theorem dksX0_told_1 : cX0_told.data.toList.drop 24 = dktX0_told_1 := dk_seg dksX0_told_0 24 rfl rfl
theorem dX0_told_0 : decode cX0_told 0 = .ok (.iload_n 1, 1) := dk_27 (dk_at dksX0_told_0 0 rfl rfl)
theorem dX0_told_1 : decode cX0_told 1 = .ok (.iconst 0, 1) := dk_3 (dk_at dksX0_told_0 1 rfl rfl)
theorem dX0_told_2 : decode cX0_told 2 = .ok (.aload_n 0, 1) := dk_42 (dk_at dksX0_told_0 2 rfl rfl)
theorem dX0_told_3 : decode cX0_told 3 = .ok (.getfield 151, 3) := dk_180 0 151 (dk_at dksX0_told_0 3 rfl rfl)
theorem dX0_told_6 : decode cX0_told 6 = .ok (.iconst 1, 1) := dk_4 (dk_at dksX0_told_0 6 rfl rfl)
theorem dX0_told_7 : decode cX0_told 7 = .ok (.isub, 1) := dk_100 (dk_at dksX0_told_0 7 rfl rfl)
theorem dX0_told_8 : decode cX0_told 8 = .ok (.invokestatic 116, 3) := dk_184 0 116 (dk_at dksX0_told_0 8 rfl rfl)
theorem dX0_told_11 : decode cX0_told 11 = .ok (.ifCond .eq 26, 3) := dk_153 0 26 (dk_at dksX0_told_0 11 rfl rfl)
theorem dX0_told_14 : decode cX0_told 14 = .ok (.iload_n 2, 1) := dk_28 (dk_at dksX0_told_0 14 rfl rfl)
theorem dX0_told_15 : decode cX0_told 15 = .ok (.iconst 0, 1) := dk_3 (dk_at dksX0_told_0 15 rfl rfl)
theorem dX0_told_16 : decode cX0_told 16 = .ok (.iconst 5, 1) := dk_8 (dk_at dksX0_told_0 16 rfl rfl)
theorem dX0_told_17 : decode cX0_told 17 = .ok (.invokestatic 116, 3) := dk_184 0 116 (dk_at dksX0_told_0 17 rfl rfl)
theorem dX0_told_20 : decode cX0_told 20 = .ok (.ifCond .eq 17, 3) := dk_153 0 17 (dk_at dksX0_told_0 20 rfl rfl)
theorem dX0_told_23 : decode cX0_told 23 = .ok (.aload_n 0, 1) := dk_42 (dk_at dksX0_told_0 23 rfl rfl)
theorem dX0_told_24 : decode cX0_told 24 = .ok (.getfield 71, 3) := dk_180 0 71 (dk_at dksX0_told_1 0 rfl rfl)
theorem dX0_told_27 : decode cX0_told 27 = .ok (.bipush 6, 2) := dk_16 6 (dk_at dksX0_told_1 3 rfl rfl)
theorem dX0_told_29 : decode cX0_told 29 = .ok (.iload_n 1, 1) := dk_27 (dk_at dksX0_told_1 5 rfl rfl)
theorem dX0_told_30 : decode cX0_told 30 = .ok (.imul, 1) := dk_104 (dk_at dksX0_told_1 6 rfl rfl)
theorem dX0_told_31 : decode cX0_told 31 = .ok (.iload_n 2, 1) := dk_28 (dk_at dksX0_told_1 7 rfl rfl)
theorem dX0_told_32 : decode cX0_told 32 = .ok (.iadd, 1) := dk_96 (dk_at dksX0_told_1 8 rfl rfl)
theorem dX0_told_33 : decode cX0_told 33 = .ok (.iaload, 1) := dk_46 (dk_at dksX0_told_1 9 rfl rfl)
theorem dX0_told_34 : decode cX0_told 34 = .ok (.goto 4, 3) := dk_167 0 4 (dk_at dksX0_told_1 10 rfl rfl)
theorem dX0_told_37 : decode cX0_told 37 = .ok (.iconst (-1), 1) := dk_2 (dk_at dksX0_told_1 13 rfl rfl)
theorem dX0_told_38 : decode cX0_told 38 = .ok (.ireturn, 1) := dk_172 (dk_at dksX0_told_1 14 rfl rfl)
abbrev cX0_check : ByteArray := prog_1_method_74_code
def yX0_check : MethodName := ⟨RX0, "check", "(III)I"⟩
def dkwX0_check_5 : List UInt8 := [22, 8, 22, 4, 97, 22, 6, 148, 154, 0, 7, 3, 167, 0, 4, 5, 172]
abbrev dktX0_check_5 : List UInt8 := dkwX0_check_5 ++ []
def dkwX0_check_4 : List UInt8 := [154, 0, 7, 9, 167, 0, 17, 42, 180, 0, 71, 16, 6, 27, 4, 100, 104, 8, 96, 46, 133, 55, 8]
abbrev dktX0_check_4 : List UInt8 := dkwX0_check_4 ++ dktX0_check_5
def dkwX0_check_3 : List UInt8 := [182, 1, 242, 133, 97, 42, 27, 7, 28, 29, 182, 1, 242, 133, 97, 22, 6, 148, 153, 0, 5, 4, 172, 27]
abbrev dktX0_check_3 : List UInt8 := dkwX0_check_3 ++ dktX0_check_4
def dkwX0_check_2 : List UInt8 := [8, 28, 29, 182, 1, 242, 133, 55, 6, 42, 27, 5, 28, 29, 182, 1, 242, 133, 42, 27, 6, 28, 29]
abbrev dktX0_check_2 : List UInt8 := dkwX0_check_2 ++ dktX0_check_3
def dkwX0_check_1 : List UInt8 := [28, 3, 8, 184, 0, 116, 154, 0, 5, 2, 172, 42, 27, 4, 28, 29, 182, 1, 242, 133, 55, 4, 42, 27]
abbrev dktX0_check_1 : List UInt8 := dkwX0_check_1 ++ dktX0_check_2
def dkwX0_check_0 : List UInt8 := [42, 27, 28, 182, 1, 240, 2, 160, 0, 28, 27, 3, 42, 180, 0, 151, 4, 100, 184, 0, 116, 153, 0, 12]
abbrev dktX0_check_0 : List UInt8 := dkwX0_check_0 ++ dktX0_check_1
theorem dksX0_check_0 : cX0_check.data.toList.drop 0 = dktX0_check_0 := by decide +kernel
theorem dksX0_check_1 : cX0_check.data.toList.drop 24 = dktX0_check_1 := dk_seg dksX0_check_0 24 rfl rfl
theorem dksX0_check_2 : cX0_check.data.toList.drop 48 = dktX0_check_2 := dk_seg dksX0_check_1 24 rfl rfl
theorem dksX0_check_3 : cX0_check.data.toList.drop 71 = dktX0_check_3 := dk_seg dksX0_check_2 23 rfl rfl
theorem dksX0_check_4 : cX0_check.data.toList.drop 95 = dktX0_check_4 := dk_seg dksX0_check_3 24 rfl rfl
theorem dksX0_check_5 : cX0_check.data.toList.drop 118 = dktX0_check_5 := dk_seg dksX0_check_4 23 rfl rfl
theorem dX0_check_0 : decode cX0_check 0 = .ok (.aload_n 0, 1) := dk_42 (dk_at dksX0_check_0 0 rfl rfl)
theorem dX0_check_1 : decode cX0_check 1 = .ok (.iload_n 1, 1) := dk_27 (dk_at dksX0_check_0 1 rfl rfl)
theorem dX0_check_2 : decode cX0_check 2 = .ok (.iload_n 2, 1) := dk_28 (dk_at dksX0_check_0 2 rfl rfl)
theorem dX0_check_3 : decode cX0_check 3 = .ok (.invokevirtual 496, 3) := dk_182 1 240 (dk_at dksX0_check_0 3 rfl rfl)
theorem dX0_check_6 : decode cX0_check 6 = .ok (.iconst (-1), 1) := dk_2 (dk_at dksX0_check_0 6 rfl rfl)
theorem dX0_check_7 : decode cX0_check 7 = .ok (.if_icmp .ne 28, 3) := dk_160 0 28 (dk_at dksX0_check_0 7 rfl rfl)
theorem dX0_check_10 : decode cX0_check 10 = .ok (.iload_n 1, 1) := dk_27 (dk_at dksX0_check_0 10 rfl rfl)
theorem dX0_check_11 : decode cX0_check 11 = .ok (.iconst 0, 1) := dk_3 (dk_at dksX0_check_0 11 rfl rfl)
theorem dX0_check_12 : decode cX0_check 12 = .ok (.aload_n 0, 1) := dk_42 (dk_at dksX0_check_0 12 rfl rfl)
theorem dX0_check_13 : decode cX0_check 13 = .ok (.getfield 151, 3) := dk_180 0 151 (dk_at dksX0_check_0 13 rfl rfl)
theorem dX0_check_16 : decode cX0_check 16 = .ok (.iconst 1, 1) := dk_4 (dk_at dksX0_check_0 16 rfl rfl)
theorem dX0_check_17 : decode cX0_check 17 = .ok (.isub, 1) := dk_100 (dk_at dksX0_check_0 17 rfl rfl)
theorem dX0_check_18 : decode cX0_check 18 = .ok (.invokestatic 116, 3) := dk_184 0 116 (dk_at dksX0_check_0 18 rfl rfl)
theorem dX0_check_21 : decode cX0_check 21 = .ok (.ifCond .eq 12, 3) := dk_153 0 12 (dk_at dksX0_check_0 21 rfl rfl)
theorem dX0_check_24 : decode cX0_check 24 = .ok (.iload_n 2, 1) := dk_28 (dk_at dksX0_check_1 0 rfl rfl)
theorem dX0_check_25 : decode cX0_check 25 = .ok (.iconst 0, 1) := dk_3 (dk_at dksX0_check_1 1 rfl rfl)
theorem dX0_check_26 : decode cX0_check 26 = .ok (.iconst 5, 1) := dk_8 (dk_at dksX0_check_1 2 rfl rfl)
theorem dX0_check_27 : decode cX0_check 27 = .ok (.invokestatic 116, 3) := dk_184 0 116 (dk_at dksX0_check_1 3 rfl rfl)
theorem dX0_check_30 : decode cX0_check 30 = .ok (.ifCond .ne 5, 3) := dk_154 0 5 (dk_at dksX0_check_1 6 rfl rfl)
theorem dX0_check_33 : decode cX0_check 33 = .ok (.iconst (-1), 1) := dk_2 (dk_at dksX0_check_1 9 rfl rfl)
theorem dX0_check_34 : decode cX0_check 34 = .ok (.ireturn, 1) := dk_172 (dk_at dksX0_check_1 10 rfl rfl)
theorem dX0_check_35 : decode cX0_check 35 = .ok (.aload_n 0, 1) := dk_42 (dk_at dksX0_check_1 11 rfl rfl)
theorem dX0_check_36 : decode cX0_check 36 = .ok (.iload_n 1, 1) := dk_27 (dk_at dksX0_check_1 12 rfl rfl)
theorem dX0_check_37 : decode cX0_check 37 = .ok (.iconst 1, 1) := dk_4 (dk_at dksX0_check_1 13 rfl rfl)
theorem dX0_check_38 : decode cX0_check 38 = .ok (.iload_n 2, 1) := dk_28 (dk_at dksX0_check_1 14 rfl rfl)
theorem dX0_check_39 : decode cX0_check 39 = .ok (.iload_n 3, 1) := dk_29 (dk_at dksX0_check_1 15 rfl rfl)
theorem dX0_check_40 : decode cX0_check 40 = .ok (.invokevirtual 498, 3) := dk_182 1 242 (dk_at dksX0_check_1 16 rfl rfl)
theorem dX0_check_43 : decode cX0_check 43 = .ok (.i2l, 1) := dk_133 (dk_at dksX0_check_1 19 rfl rfl)
theorem dX0_check_44 : decode cX0_check 44 = .ok (.lstore 4, 2) := dk_55 4 (dk_at dksX0_check_1 20 rfl rfl)
theorem dX0_check_46 : decode cX0_check 46 = .ok (.aload_n 0, 1) := dk_42 (dk_at dksX0_check_1 22 rfl rfl)
theorem dX0_check_47 : decode cX0_check 47 = .ok (.iload_n 1, 1) := dk_27 (dk_at dksX0_check_1 23 rfl rfl)
theorem dX0_check_48 : decode cX0_check 48 = .ok (.iconst 5, 1) := dk_8 (dk_at dksX0_check_2 0 rfl rfl)
theorem dX0_check_49 : decode cX0_check 49 = .ok (.iload_n 2, 1) := dk_28 (dk_at dksX0_check_2 1 rfl rfl)
theorem dX0_check_50 : decode cX0_check 50 = .ok (.iload_n 3, 1) := dk_29 (dk_at dksX0_check_2 2 rfl rfl)
theorem dX0_check_51 : decode cX0_check 51 = .ok (.invokevirtual 498, 3) := dk_182 1 242 (dk_at dksX0_check_2 3 rfl rfl)
theorem dX0_check_54 : decode cX0_check 54 = .ok (.i2l, 1) := dk_133 (dk_at dksX0_check_2 6 rfl rfl)
theorem dX0_check_55 : decode cX0_check 55 = .ok (.lstore 6, 2) := dk_55 6 (dk_at dksX0_check_2 7 rfl rfl)
theorem dX0_check_57 : decode cX0_check 57 = .ok (.aload_n 0, 1) := dk_42 (dk_at dksX0_check_2 9 rfl rfl)
theorem dX0_check_58 : decode cX0_check 58 = .ok (.iload_n 1, 1) := dk_27 (dk_at dksX0_check_2 10 rfl rfl)
theorem dX0_check_59 : decode cX0_check 59 = .ok (.iconst 2, 1) := dk_5 (dk_at dksX0_check_2 11 rfl rfl)
theorem dX0_check_60 : decode cX0_check 60 = .ok (.iload_n 2, 1) := dk_28 (dk_at dksX0_check_2 12 rfl rfl)
theorem dX0_check_61 : decode cX0_check 61 = .ok (.iload_n 3, 1) := dk_29 (dk_at dksX0_check_2 13 rfl rfl)
theorem dX0_check_62 : decode cX0_check 62 = .ok (.invokevirtual 498, 3) := dk_182 1 242 (dk_at dksX0_check_2 14 rfl rfl)
theorem dX0_check_65 : decode cX0_check 65 = .ok (.i2l, 1) := dk_133 (dk_at dksX0_check_2 17 rfl rfl)
theorem dX0_check_66 : decode cX0_check 66 = .ok (.aload_n 0, 1) := dk_42 (dk_at dksX0_check_2 18 rfl rfl)
theorem dX0_check_67 : decode cX0_check 67 = .ok (.iload_n 1, 1) := dk_27 (dk_at dksX0_check_2 19 rfl rfl)
theorem dX0_check_68 : decode cX0_check 68 = .ok (.iconst 3, 1) := dk_6 (dk_at dksX0_check_2 20 rfl rfl)
theorem dX0_check_69 : decode cX0_check 69 = .ok (.iload_n 2, 1) := dk_28 (dk_at dksX0_check_2 21 rfl rfl)
theorem dX0_check_70 : decode cX0_check 70 = .ok (.iload_n 3, 1) := dk_29 (dk_at dksX0_check_2 22 rfl rfl)
theorem dX0_check_71 : decode cX0_check 71 = .ok (.invokevirtual 498, 3) := dk_182 1 242 (dk_at dksX0_check_3 0 rfl rfl)
theorem dX0_check_74 : decode cX0_check 74 = .ok (.i2l, 1) := dk_133 (dk_at dksX0_check_3 3 rfl rfl)
theorem dX0_check_75 : decode cX0_check 75 = .ok (.ladd, 1) := dk_97 (dk_at dksX0_check_3 4 rfl rfl)
theorem dX0_check_76 : decode cX0_check 76 = .ok (.aload_n 0, 1) := dk_42 (dk_at dksX0_check_3 5 rfl rfl)
theorem dX0_check_77 : decode cX0_check 77 = .ok (.iload_n 1, 1) := dk_27 (dk_at dksX0_check_3 6 rfl rfl)
theorem dX0_check_78 : decode cX0_check 78 = .ok (.iconst 4, 1) := dk_7 (dk_at dksX0_check_3 7 rfl rfl)
theorem dX0_check_79 : decode cX0_check 79 = .ok (.iload_n 2, 1) := dk_28 (dk_at dksX0_check_3 8 rfl rfl)
theorem dX0_check_80 : decode cX0_check 80 = .ok (.iload_n 3, 1) := dk_29 (dk_at dksX0_check_3 9 rfl rfl)
theorem dX0_check_81 : decode cX0_check 81 = .ok (.invokevirtual 498, 3) := dk_182 1 242 (dk_at dksX0_check_3 10 rfl rfl)
theorem dX0_check_84 : decode cX0_check 84 = .ok (.i2l, 1) := dk_133 (dk_at dksX0_check_3 13 rfl rfl)
theorem dX0_check_85 : decode cX0_check 85 = .ok (.ladd, 1) := dk_97 (dk_at dksX0_check_3 14 rfl rfl)
theorem dX0_check_86 : decode cX0_check 86 = .ok (.lload 6, 2) := dk_22 6 (dk_at dksX0_check_3 15 rfl rfl)
theorem dX0_check_88 : decode cX0_check 88 = .ok (.lcmp, 1) := dk_148 (dk_at dksX0_check_3 17 rfl rfl)
theorem dX0_check_89 : decode cX0_check 89 = .ok (.ifCond .eq 5, 3) := dk_153 0 5 (dk_at dksX0_check_3 18 rfl rfl)
theorem dX0_check_92 : decode cX0_check 92 = .ok (.iconst 1, 1) := dk_4 (dk_at dksX0_check_3 21 rfl rfl)
theorem dX0_check_93 : decode cX0_check 93 = .ok (.ireturn, 1) := dk_172 (dk_at dksX0_check_3 22 rfl rfl)
theorem dX0_check_94 : decode cX0_check 94 = .ok (.iload_n 1, 1) := dk_27 (dk_at dksX0_check_3 23 rfl rfl)
theorem dX0_check_95 : decode cX0_check 95 = .ok (.ifCond .ne 7, 3) := dk_154 0 7 (dk_at dksX0_check_4 0 rfl rfl)
theorem dX0_check_98 : decode cX0_check 98 = .ok (.lconst 0, 1) := dk_9 (dk_at dksX0_check_4 3 rfl rfl)
theorem dX0_check_99 : decode cX0_check 99 = .ok (.goto 17, 3) := dk_167 0 17 (dk_at dksX0_check_4 4 rfl rfl)
theorem dX0_check_102 : decode cX0_check 102 = .ok (.aload_n 0, 1) := dk_42 (dk_at dksX0_check_4 7 rfl rfl)
theorem dX0_check_103 : decode cX0_check 103 = .ok (.getfield 71, 3) := dk_180 0 71 (dk_at dksX0_check_4 8 rfl rfl)
theorem dX0_check_106 : decode cX0_check 106 = .ok (.bipush 6, 2) := dk_16 6 (dk_at dksX0_check_4 11 rfl rfl)
theorem dX0_check_108 : decode cX0_check 108 = .ok (.iload_n 1, 1) := dk_27 (dk_at dksX0_check_4 13 rfl rfl)
theorem dX0_check_109 : decode cX0_check 109 = .ok (.iconst 1, 1) := dk_4 (dk_at dksX0_check_4 14 rfl rfl)
theorem dX0_check_110 : decode cX0_check 110 = .ok (.isub, 1) := dk_100 (dk_at dksX0_check_4 15 rfl rfl)
theorem dX0_check_111 : decode cX0_check 111 = .ok (.imul, 1) := dk_104 (dk_at dksX0_check_4 16 rfl rfl)
theorem dX0_check_112 : decode cX0_check 112 = .ok (.iconst 5, 1) := dk_8 (dk_at dksX0_check_4 17 rfl rfl)
theorem dX0_check_113 : decode cX0_check 113 = .ok (.iadd, 1) := dk_96 (dk_at dksX0_check_4 18 rfl rfl)
theorem dX0_check_114 : decode cX0_check 114 = .ok (.iaload, 1) := dk_46 (dk_at dksX0_check_4 19 rfl rfl)
theorem dX0_check_115 : decode cX0_check 115 = .ok (.i2l, 1) := dk_133 (dk_at dksX0_check_4 20 rfl rfl)
theorem dX0_check_116 : decode cX0_check 116 = .ok (.lstore 8, 2) := dk_55 8 (dk_at dksX0_check_4 21 rfl rfl)
theorem dX0_check_118 : decode cX0_check 118 = .ok (.lload 8, 2) := dk_22 8 (dk_at dksX0_check_5 0 rfl rfl)
theorem dX0_check_120 : decode cX0_check 120 = .ok (.lload 4, 2) := dk_22 4 (dk_at dksX0_check_5 2 rfl rfl)
theorem dX0_check_122 : decode cX0_check 122 = .ok (.ladd, 1) := dk_97 (dk_at dksX0_check_5 4 rfl rfl)
theorem dX0_check_123 : decode cX0_check 123 = .ok (.lload 6, 2) := dk_22 6 (dk_at dksX0_check_5 5 rfl rfl)
theorem dX0_check_125 : decode cX0_check 125 = .ok (.lcmp, 1) := dk_148 (dk_at dksX0_check_5 7 rfl rfl)
theorem dX0_check_126 : decode cX0_check 126 = .ok (.ifCond .ne 7, 3) := dk_154 0 7 (dk_at dksX0_check_5 8 rfl rfl)
theorem dX0_check_129 : decode cX0_check 129 = .ok (.iconst 0, 1) := dk_3 (dk_at dksX0_check_5 11 rfl rfl)
theorem dX0_check_130 : decode cX0_check 130 = .ok (.goto 4, 3) := dk_167 0 4 (dk_at dksX0_check_5 12 rfl rfl)
theorem dX0_check_133 : decode cX0_check 133 = .ok (.iconst 2, 1) := dk_5 (dk_at dksX0_check_5 15 rfl rfl)
theorem dX0_check_134 : decode cX0_check 134 = .ok (.ireturn, 1) := dk_172 (dk_at dksX0_check_5 16 rfl rfl)
abbrev cX0_with : ByteArray := prog_1_method_75_code
def yX0_with : MethodName := ⟨RX0, "with", "(IIII)I"⟩
def dkwX0_with_1 : List UInt8 := [180, 0, 71, 16, 6, 27, 104, 28, 96, 46, 172]
abbrev dktX0_with_1 : List UInt8 := dkwX0_with_1 ++ []
def dkwX0_with_0 : List UInt8 := [28, 29, 160, 0, 20, 42, 180, 0, 71, 16, 6, 27, 104, 28, 96, 46, 21, 4, 130, 167, 0, 14, 42]
abbrev dktX0_with_0 : List UInt8 := dkwX0_with_0 ++ dktX0_with_1
theorem dksX0_with_0 : cX0_with.data.toList.drop 0 = dktX0_with_0 := by decide +kernel
theorem dksX0_with_1 : cX0_with.data.toList.drop 23 = dktX0_with_1 := dk_seg dksX0_with_0 23 rfl rfl
theorem dX0_with_0 : decode cX0_with 0 = .ok (.iload_n 2, 1) := dk_28 (dk_at dksX0_with_0 0 rfl rfl)
theorem dX0_with_1 : decode cX0_with 1 = .ok (.iload_n 3, 1) := dk_29 (dk_at dksX0_with_0 1 rfl rfl)
theorem dX0_with_2 : decode cX0_with 2 = .ok (.if_icmp .ne 20, 3) := dk_160 0 20 (dk_at dksX0_with_0 2 rfl rfl)
theorem dX0_with_5 : decode cX0_with 5 = .ok (.aload_n 0, 1) := dk_42 (dk_at dksX0_with_0 5 rfl rfl)
theorem dX0_with_6 : decode cX0_with 6 = .ok (.getfield 71, 3) := dk_180 0 71 (dk_at dksX0_with_0 6 rfl rfl)
theorem dX0_with_9 : decode cX0_with 9 = .ok (.bipush 6, 2) := dk_16 6 (dk_at dksX0_with_0 9 rfl rfl)
theorem dX0_with_11 : decode cX0_with 11 = .ok (.iload_n 1, 1) := dk_27 (dk_at dksX0_with_0 11 rfl rfl)
theorem dX0_with_12 : decode cX0_with 12 = .ok (.imul, 1) := dk_104 (dk_at dksX0_with_0 12 rfl rfl)
theorem dX0_with_13 : decode cX0_with 13 = .ok (.iload_n 2, 1) := dk_28 (dk_at dksX0_with_0 13 rfl rfl)
theorem dX0_with_14 : decode cX0_with 14 = .ok (.iadd, 1) := dk_96 (dk_at dksX0_with_0 14 rfl rfl)
theorem dX0_with_15 : decode cX0_with 15 = .ok (.iaload, 1) := dk_46 (dk_at dksX0_with_0 15 rfl rfl)
theorem dX0_with_16 : decode cX0_with 16 = .ok (.iload 4, 2) := dk_21 4 (dk_at dksX0_with_0 16 rfl rfl)
theorem dX0_with_18 : decode cX0_with 18 = .ok (.ixor, 1) := dk_130 (dk_at dksX0_with_0 18 rfl rfl)
theorem dX0_with_19 : decode cX0_with 19 = .ok (.goto 14, 3) := dk_167 0 14 (dk_at dksX0_with_0 19 rfl rfl)
theorem dX0_with_22 : decode cX0_with 22 = .ok (.aload_n 0, 1) := dk_42 (dk_at dksX0_with_0 22 rfl rfl)
theorem dX0_with_23 : decode cX0_with 23 = .ok (.getfield 71, 3) := dk_180 0 71 (dk_at dksX0_with_1 0 rfl rfl)
theorem dX0_with_26 : decode cX0_with 26 = .ok (.bipush 6, 2) := dk_16 6 (dk_at dksX0_with_1 3 rfl rfl)
theorem dX0_with_28 : decode cX0_with 28 = .ok (.iload_n 1, 1) := dk_27 (dk_at dksX0_with_1 5 rfl rfl)
theorem dX0_with_29 : decode cX0_with 29 = .ok (.imul, 1) := dk_104 (dk_at dksX0_with_1 6 rfl rfl)
theorem dX0_with_30 : decode cX0_with 30 = .ok (.iload_n 2, 1) := dk_28 (dk_at dksX0_with_1 7 rfl rfl)
theorem dX0_with_31 : decode cX0_with 31 = .ok (.iadd, 1) := dk_96 (dk_at dksX0_with_1 8 rfl rfl)
theorem dX0_with_32 : decode cX0_with 32 = .ok (.iaload, 1) := dk_46 (dk_at dksX0_with_1 9 rfl rfl)
theorem dX0_with_33 : decode cX0_with 33 = .ok (.ireturn, 1) := dk_172 (dk_at dksX0_with_1 10 rfl rfl)
abbrev cX0_is : ByteArray := prog_1_method_76_code
def yX0_is : MethodName := ⟨RX0, "is", "(II)I"⟩
def dkwX0_is_4 : List UInt8 := [180, 1, 224, 172, 45, 180, 1, 248, 172, 2, 172]
abbrev dktX0_is_4 : List UInt8 := dkwX0_is_4 ++ []
def dkwX0_is_3 : List UInt8 := [172, 45, 180, 0, 224, 172, 45, 180, 1, 24, 172, 45, 180, 1, 245, 172, 45, 180, 1, 221, 172, 45]
abbrev dktX0_is_3 : List UInt8 := dkwX0_is_3 ++ dktX0_is_4
def dkwX0_is_2 : List UInt8 := [45, 180, 0, 180, 172, 45, 180, 1, 212, 172, 45, 180, 1, 215, 172, 45, 180, 1, 21, 172, 45, 180, 1, 18]
abbrev dktX0_is_2 : List UInt8 := dkwX0_is_2 ++ dktX0_is_3
def dkwX0_is_1 : List UInt8 := [170, 0, 0, 0, 0, 0, 114, 0, 0, 0, 0, 0, 0, 0, 10, 0, 0, 0, 59, 0, 0, 0, 64, 0, 0, 0, 69, 0, 0, 0, 74, 0, 0, 0, 79, 0, 0, 0, 84, 0, 0, 0, 89, 0, 0, 0, 94, 0, 0, 0, 99, 0, 0, 0, 104, 0, 0, 0, 109]
abbrev dktX0_is_1 : List UInt8 := dkwX0_is_1 ++ dktX0_is_2
def dkwX0_is_0 : List UInt8 := [42, 27, 182, 0, 136, 78, 45, 199, 0, 5, 2, 172, 28]
abbrev dktX0_is_0 : List UInt8 := dkwX0_is_0 ++ dktX0_is_1
theorem dksX0_is_0 : cX0_is.data.toList.drop 0 = dktX0_is_0 := by decide +kernel
theorem dksX0_is_1 : cX0_is.data.toList.drop 13 = dktX0_is_1 := dk_seg dksX0_is_0 13 rfl rfl
theorem dksX0_is_2 : cX0_is.data.toList.drop 72 = dktX0_is_2 := dk_seg dksX0_is_1 59 rfl rfl
theorem dksX0_is_3 : cX0_is.data.toList.drop 96 = dktX0_is_3 := dk_seg dksX0_is_2 24 rfl rfl
theorem dksX0_is_4 : cX0_is.data.toList.drop 118 = dktX0_is_4 := dk_seg dksX0_is_3 22 rfl rfl
theorem dX0_is_0 : decode cX0_is 0 = .ok (.aload_n 0, 1) := dk_42 (dk_at dksX0_is_0 0 rfl rfl)
theorem dX0_is_1 : decode cX0_is 1 = .ok (.iload_n 1, 1) := dk_27 (dk_at dksX0_is_0 1 rfl rfl)
theorem dX0_is_2 : decode cX0_is 2 = .ok (.invokevirtual 136, 3) := dk_182 0 136 (dk_at dksX0_is_0 2 rfl rfl)
theorem dX0_is_5 : decode cX0_is 5 = .ok (.astore_n 3, 1) := dk_78 (dk_at dksX0_is_0 5 rfl rfl)
theorem dX0_is_6 : decode cX0_is 6 = .ok (.aload_n 3, 1) := dk_45 (dk_at dksX0_is_0 6 rfl rfl)
theorem dX0_is_7 : decode cX0_is 7 = .ok (.ifnonnull 5, 3) := dk_199 0 5 (dk_at dksX0_is_0 7 rfl rfl)
theorem dX0_is_10 : decode cX0_is 10 = .ok (.iconst (-1), 1) := dk_2 (dk_at dksX0_is_0 10 rfl rfl)
theorem dX0_is_11 : decode cX0_is 11 = .ok (.ireturn, 1) := dk_172 (dk_at dksX0_is_0 11 rfl rfl)
theorem dX0_is_12 : decode cX0_is 12 = .ok (.iload_n 2, 1) := dk_28 (dk_at dksX0_is_0 12 rfl rfl)
theorem dX0_is_13 : decode cX0_is 13 = .ok (.tableswitch 114 0 10 #[59, 64, 69, 74, 79, 84, 89, 94, 99, 104, 109], 59) := by decide +kernel
theorem dX0_is_72 : decode cX0_is 72 = .ok (.aload_n 3, 1) := dk_45 (dk_at dksX0_is_2 0 rfl rfl)
theorem dX0_is_73 : decode cX0_is 73 = .ok (.getfield 180, 3) := dk_180 0 180 (dk_at dksX0_is_2 1 rfl rfl)
theorem dX0_is_76 : decode cX0_is 76 = .ok (.ireturn, 1) := dk_172 (dk_at dksX0_is_2 4 rfl rfl)
theorem dX0_is_77 : decode cX0_is 77 = .ok (.aload_n 3, 1) := dk_45 (dk_at dksX0_is_2 5 rfl rfl)
theorem dX0_is_78 : decode cX0_is 78 = .ok (.getfield 468, 3) := dk_180 1 212 (dk_at dksX0_is_2 6 rfl rfl)
theorem dX0_is_81 : decode cX0_is 81 = .ok (.ireturn, 1) := dk_172 (dk_at dksX0_is_2 9 rfl rfl)
theorem dX0_is_82 : decode cX0_is 82 = .ok (.aload_n 3, 1) := dk_45 (dk_at dksX0_is_2 10 rfl rfl)
theorem dX0_is_83 : decode cX0_is 83 = .ok (.getfield 471, 3) := dk_180 1 215 (dk_at dksX0_is_2 11 rfl rfl)
theorem dX0_is_86 : decode cX0_is 86 = .ok (.ireturn, 1) := dk_172 (dk_at dksX0_is_2 14 rfl rfl)
theorem dX0_is_87 : decode cX0_is 87 = .ok (.aload_n 3, 1) := dk_45 (dk_at dksX0_is_2 15 rfl rfl)
theorem dX0_is_88 : decode cX0_is 88 = .ok (.getfield 277, 3) := dk_180 1 21 (dk_at dksX0_is_2 16 rfl rfl)
theorem dX0_is_91 : decode cX0_is 91 = .ok (.ireturn, 1) := dk_172 (dk_at dksX0_is_2 19 rfl rfl)
theorem dX0_is_92 : decode cX0_is 92 = .ok (.aload_n 3, 1) := dk_45 (dk_at dksX0_is_2 20 rfl rfl)
theorem dX0_is_93 : decode cX0_is 93 = .ok (.getfield 274, 3) := dk_180 1 18 (dk_at dksX0_is_2 21 rfl rfl)
theorem dX0_is_96 : decode cX0_is 96 = .ok (.ireturn, 1) := dk_172 (dk_at dksX0_is_3 0 rfl rfl)
theorem dX0_is_97 : decode cX0_is 97 = .ok (.aload_n 3, 1) := dk_45 (dk_at dksX0_is_3 1 rfl rfl)
theorem dX0_is_98 : decode cX0_is 98 = .ok (.getfield 224, 3) := dk_180 0 224 (dk_at dksX0_is_3 2 rfl rfl)
theorem dX0_is_101 : decode cX0_is 101 = .ok (.ireturn, 1) := dk_172 (dk_at dksX0_is_3 5 rfl rfl)
theorem dX0_is_102 : decode cX0_is 102 = .ok (.aload_n 3, 1) := dk_45 (dk_at dksX0_is_3 6 rfl rfl)
theorem dX0_is_103 : decode cX0_is 103 = .ok (.getfield 280, 3) := dk_180 1 24 (dk_at dksX0_is_3 7 rfl rfl)
theorem dX0_is_106 : decode cX0_is 106 = .ok (.ireturn, 1) := dk_172 (dk_at dksX0_is_3 10 rfl rfl)
theorem dX0_is_107 : decode cX0_is 107 = .ok (.aload_n 3, 1) := dk_45 (dk_at dksX0_is_3 11 rfl rfl)
theorem dX0_is_108 : decode cX0_is 108 = .ok (.getfield 501, 3) := dk_180 1 245 (dk_at dksX0_is_3 12 rfl rfl)
theorem dX0_is_111 : decode cX0_is 111 = .ok (.ireturn, 1) := dk_172 (dk_at dksX0_is_3 15 rfl rfl)
theorem dX0_is_112 : decode cX0_is 112 = .ok (.aload_n 3, 1) := dk_45 (dk_at dksX0_is_3 16 rfl rfl)
theorem dX0_is_113 : decode cX0_is 113 = .ok (.getfield 477, 3) := dk_180 1 221 (dk_at dksX0_is_3 17 rfl rfl)
theorem dX0_is_116 : decode cX0_is 116 = .ok (.ireturn, 1) := dk_172 (dk_at dksX0_is_3 20 rfl rfl)
theorem dX0_is_117 : decode cX0_is 117 = .ok (.aload_n 3, 1) := dk_45 (dk_at dksX0_is_3 21 rfl rfl)
theorem dX0_is_118 : decode cX0_is 118 = .ok (.getfield 480, 3) := dk_180 1 224 (dk_at dksX0_is_4 0 rfl rfl)
theorem dX0_is_121 : decode cX0_is 121 = .ok (.ireturn, 1) := dk_172 (dk_at dksX0_is_4 3 rfl rfl)
theorem dX0_is_122 : decode cX0_is 122 = .ok (.aload_n 3, 1) := dk_45 (dk_at dksX0_is_4 4 rfl rfl)
theorem dX0_is_123 : decode cX0_is 123 = .ok (.getfield 504, 3) := dk_180 1 248 (dk_at dksX0_is_4 5 rfl rfl)
theorem dX0_is_126 : decode cX0_is 126 = .ok (.ireturn, 1) := dk_172 (dk_at dksX0_is_4 8 rfl rfl)
theorem dX0_is_127 : decode cX0_is 127 = .ok (.iconst (-1), 1) := dk_2 (dk_at dksX0_is_4 9 rfl rfl)
theorem dX0_is_128 : decode cX0_is 128 = .ok (.ireturn, 1) := dk_172 (dk_at dksX0_is_4 10 rfl rfl)
abbrev cX0_has : ByteArray := prog_1_method_77_code
def yX0_has : MethodName := ⟨RX0, "has", "(II)I"⟩
def dkwX0_has_5 : List UInt8 := [18, 176, 172]
abbrev dktX0_has_5 : List UInt8 := dkwX0_has_5 ++ []
def dkwX0_has_4 : List UInt8 := [45, 180, 1, 43, 172, 45, 180, 0, 161, 199, 0, 7, 2, 167, 0, 10, 45, 180, 0, 161, 180, 0, 227, 172]
abbrev dktX0_has_4 : List UInt8 := dkwX0_has_4 ++ dktX0_has_5
def dkwX0_has_3 : List UInt8 := [180, 1, 118, 172, 45, 180, 0, 177, 172, 45, 180, 0, 173, 172, 45, 180, 1, 31, 172, 45, 180, 1, 34, 172]
abbrev dktX0_has_3 : List UInt8 := dkwX0_has_3 ++ dktX0_has_4
def dkwX0_has_2 : List UInt8 := [45, 180, 0, 240, 180, 0, 144, 172, 45, 180, 0, 202, 172, 45, 180, 0, 237, 172, 45, 180, 1, 121, 172, 45]
abbrev dktX0_has_2 : List UInt8 := dkwX0_has_2 ++ dktX0_has_3
def dkwX0_has_1 : List UInt8 := [170, 0, 0, 0, 0, 130, 0, 0, 0, 0, 0, 0, 0, 10, 0, 0, 0, 58, 0, 0, 0, 66, 0, 0, 0, 71, 0, 0, 0, 76, 0, 0, 0, 81, 0, 0, 0, 86, 0, 0, 0, 91, 0, 0, 0, 96, 0, 0, 0, 101, 0, 0, 0, 106, 0, 0, 0, 111]
abbrev dktX0_has_1 : List UInt8 := dkwX0_has_1 ++ dktX0_has_2
def dkwX0_has_0 : List UInt8 := [42, 27, 182, 0, 157, 78, 45, 199, 0, 6, 18, 176, 172, 28]
abbrev dktX0_has_0 : List UInt8 := dkwX0_has_0 ++ dktX0_has_1
theorem dksX0_has_0 : cX0_has.data.toList.drop 0 = dktX0_has_0 := by decide +kernel
theorem dksX0_has_1 : cX0_has.data.toList.drop 14 = dktX0_has_1 := dk_seg dksX0_has_0 14 rfl rfl
theorem dksX0_has_2 : cX0_has.data.toList.drop 72 = dktX0_has_2 := dk_seg dksX0_has_1 58 rfl rfl
theorem dksX0_has_3 : cX0_has.data.toList.drop 96 = dktX0_has_3 := dk_seg dksX0_has_2 24 rfl rfl
theorem dksX0_has_4 : cX0_has.data.toList.drop 120 = dktX0_has_4 := dk_seg dksX0_has_3 24 rfl rfl
theorem dksX0_has_5 : cX0_has.data.toList.drop 144 = dktX0_has_5 := dk_seg dksX0_has_4 24 rfl rfl
theorem dX0_has_0 : decode cX0_has 0 = .ok (.aload_n 0, 1) := dk_42 (dk_at dksX0_has_0 0 rfl rfl)
theorem dX0_has_1 : decode cX0_has 1 = .ok (.iload_n 1, 1) := dk_27 (dk_at dksX0_has_0 1 rfl rfl)
theorem dX0_has_2 : decode cX0_has 2 = .ok (.invokevirtual 157, 3) := dk_182 0 157 (dk_at dksX0_has_0 2 rfl rfl)
theorem dX0_has_5 : decode cX0_has 5 = .ok (.astore_n 3, 1) := dk_78 (dk_at dksX0_has_0 5 rfl rfl)
theorem dX0_has_6 : decode cX0_has 6 = .ok (.aload_n 3, 1) := dk_45 (dk_at dksX0_has_0 6 rfl rfl)
theorem dX0_has_7 : decode cX0_has 7 = .ok (.ifnonnull 6, 3) := dk_199 0 6 (dk_at dksX0_has_0 7 rfl rfl)
theorem dX0_has_10 : decode cX0_has 10 = .ok (.ldc 176, 2) := dk_18 176 (dk_at dksX0_has_0 10 rfl rfl)
theorem dX0_has_12 : decode cX0_has 12 = .ok (.ireturn, 1) := dk_172 (dk_at dksX0_has_0 12 rfl rfl)
theorem dX0_has_13 : decode cX0_has 13 = .ok (.iload_n 2, 1) := dk_28 (dk_at dksX0_has_0 13 rfl rfl)
theorem dX0_has_14 : decode cX0_has 14 = .ok (.tableswitch 130 0 10 #[58, 66, 71, 76, 81, 86, 91, 96, 101, 106, 111], 58) := by decide +kernel
theorem dX0_has_72 : decode cX0_has 72 = .ok (.aload_n 3, 1) := dk_45 (dk_at dksX0_has_2 0 rfl rfl)
theorem dX0_has_73 : decode cX0_has 73 = .ok (.getfield 240, 3) := dk_180 0 240 (dk_at dksX0_has_2 1 rfl rfl)
theorem dX0_has_76 : decode cX0_has 76 = .ok (.getfield 144, 3) := dk_180 0 144 (dk_at dksX0_has_2 4 rfl rfl)
theorem dX0_has_79 : decode cX0_has 79 = .ok (.ireturn, 1) := dk_172 (dk_at dksX0_has_2 7 rfl rfl)
theorem dX0_has_80 : decode cX0_has 80 = .ok (.aload_n 3, 1) := dk_45 (dk_at dksX0_has_2 8 rfl rfl)
theorem dX0_has_81 : decode cX0_has 81 = .ok (.getfield 202, 3) := dk_180 0 202 (dk_at dksX0_has_2 9 rfl rfl)
theorem dX0_has_84 : decode cX0_has 84 = .ok (.ireturn, 1) := dk_172 (dk_at dksX0_has_2 12 rfl rfl)
theorem dX0_has_85 : decode cX0_has 85 = .ok (.aload_n 3, 1) := dk_45 (dk_at dksX0_has_2 13 rfl rfl)
theorem dX0_has_86 : decode cX0_has 86 = .ok (.getfield 237, 3) := dk_180 0 237 (dk_at dksX0_has_2 14 rfl rfl)
theorem dX0_has_89 : decode cX0_has 89 = .ok (.ireturn, 1) := dk_172 (dk_at dksX0_has_2 17 rfl rfl)
theorem dX0_has_90 : decode cX0_has 90 = .ok (.aload_n 3, 1) := dk_45 (dk_at dksX0_has_2 18 rfl rfl)
theorem dX0_has_91 : decode cX0_has 91 = .ok (.getfield 377, 3) := dk_180 1 121 (dk_at dksX0_has_2 19 rfl rfl)
theorem dX0_has_94 : decode cX0_has 94 = .ok (.ireturn, 1) := dk_172 (dk_at dksX0_has_2 22 rfl rfl)
theorem dX0_has_95 : decode cX0_has 95 = .ok (.aload_n 3, 1) := dk_45 (dk_at dksX0_has_2 23 rfl rfl)
theorem dX0_has_96 : decode cX0_has 96 = .ok (.getfield 374, 3) := dk_180 1 118 (dk_at dksX0_has_3 0 rfl rfl)
theorem dX0_has_99 : decode cX0_has 99 = .ok (.ireturn, 1) := dk_172 (dk_at dksX0_has_3 3 rfl rfl)
theorem dX0_has_100 : decode cX0_has 100 = .ok (.aload_n 3, 1) := dk_45 (dk_at dksX0_has_3 4 rfl rfl)
theorem dX0_has_101 : decode cX0_has 101 = .ok (.getfield 177, 3) := dk_180 0 177 (dk_at dksX0_has_3 5 rfl rfl)
theorem dX0_has_104 : decode cX0_has 104 = .ok (.ireturn, 1) := dk_172 (dk_at dksX0_has_3 8 rfl rfl)
theorem dX0_has_105 : decode cX0_has 105 = .ok (.aload_n 3, 1) := dk_45 (dk_at dksX0_has_3 9 rfl rfl)
theorem dX0_has_106 : decode cX0_has 106 = .ok (.getfield 173, 3) := dk_180 0 173 (dk_at dksX0_has_3 10 rfl rfl)
theorem dX0_has_109 : decode cX0_has 109 = .ok (.ireturn, 1) := dk_172 (dk_at dksX0_has_3 13 rfl rfl)
theorem dX0_has_110 : decode cX0_has 110 = .ok (.aload_n 3, 1) := dk_45 (dk_at dksX0_has_3 14 rfl rfl)
theorem dX0_has_111 : decode cX0_has 111 = .ok (.getfield 287, 3) := dk_180 1 31 (dk_at dksX0_has_3 15 rfl rfl)
theorem dX0_has_114 : decode cX0_has 114 = .ok (.ireturn, 1) := dk_172 (dk_at dksX0_has_3 18 rfl rfl)
theorem dX0_has_115 : decode cX0_has 115 = .ok (.aload_n 3, 1) := dk_45 (dk_at dksX0_has_3 19 rfl rfl)
theorem dX0_has_116 : decode cX0_has 116 = .ok (.getfield 290, 3) := dk_180 1 34 (dk_at dksX0_has_3 20 rfl rfl)
theorem dX0_has_119 : decode cX0_has 119 = .ok (.ireturn, 1) := dk_172 (dk_at dksX0_has_3 23 rfl rfl)
theorem dX0_has_120 : decode cX0_has 120 = .ok (.aload_n 3, 1) := dk_45 (dk_at dksX0_has_4 0 rfl rfl)
theorem dX0_has_121 : decode cX0_has 121 = .ok (.getfield 299, 3) := dk_180 1 43 (dk_at dksX0_has_4 1 rfl rfl)
theorem dX0_has_124 : decode cX0_has 124 = .ok (.ireturn, 1) := dk_172 (dk_at dksX0_has_4 4 rfl rfl)
theorem dX0_has_125 : decode cX0_has 125 = .ok (.aload_n 3, 1) := dk_45 (dk_at dksX0_has_4 5 rfl rfl)
theorem dX0_has_126 : decode cX0_has 126 = .ok (.getfield 161, 3) := dk_180 0 161 (dk_at dksX0_has_4 6 rfl rfl)
theorem dX0_has_129 : decode cX0_has 129 = .ok (.ifnonnull 7, 3) := dk_199 0 7 (dk_at dksX0_has_4 9 rfl rfl)
theorem dX0_has_132 : decode cX0_has 132 = .ok (.iconst (-1), 1) := dk_2 (dk_at dksX0_has_4 12 rfl rfl)
theorem dX0_has_133 : decode cX0_has 133 = .ok (.goto 10, 3) := dk_167 0 10 (dk_at dksX0_has_4 13 rfl rfl)
theorem dX0_has_136 : decode cX0_has 136 = .ok (.aload_n 3, 1) := dk_45 (dk_at dksX0_has_4 16 rfl rfl)
theorem dX0_has_137 : decode cX0_has 137 = .ok (.getfield 161, 3) := dk_180 0 161 (dk_at dksX0_has_4 17 rfl rfl)
theorem dX0_has_140 : decode cX0_has 140 = .ok (.getfield 227, 3) := dk_180 0 227 (dk_at dksX0_has_4 20 rfl rfl)
theorem dX0_has_143 : decode cX0_has 143 = .ok (.ireturn, 1) := dk_172 (dk_at dksX0_has_4 23 rfl rfl)
theorem dX0_has_144 : decode cX0_has 144 = .ok (.ldc 176, 2) := dk_18 176 (dk_at dksX0_has_5 0 rfl rfl)
theorem dX0_has_146 : decode cX0_has 146 = .ok (.ireturn, 1) := dk_172 (dk_at dksX0_has_5 2 rfl rfl)
abbrev cX0_count : ByteArray := prog_1_method_78_code
def yX0_count : MethodName := ⟨RX0, "count", "(I)I"⟩
def dkwX0_count_4 : List UInt8 := [42, 180, 1, 40, 172, 2, 172]
abbrev dktX0_count_4 : List UInt8 := dkwX0_count_4 ++ []
def dkwX0_count_3 : List UInt8 := [172, 42, 180, 0, 126, 172, 42, 180, 1, 82, 172, 42, 180, 0, 90, 180, 1, 189, 172, 42, 180, 1, 231, 172]
abbrev dktX0_count_3 : List UInt8 := dkwX0_count_3 ++ dktX0_count_4
def dkwX0_count_2 : List UInt8 := [42, 180, 0, 151, 172, 42, 180, 0, 112, 172, 42, 180, 0, 120, 172, 42, 180, 0, 123, 172, 42, 180, 1, 97]
abbrev dktX0_count_2 : List UInt8 := dkwX0_count_2 ++ dktX0_count_3
def dkwX0_count_1 : List UInt8 := [170, 0, 0, 0, 0, 0, 108, 0, 0, 0, 0, 0, 0, 0, 9, 0, 0, 0, 55, 0, 0, 0, 60, 0, 0, 0, 65, 0, 0, 0, 70, 0, 0, 0, 75, 0, 0, 0, 80, 0, 0, 0, 85, 0, 0, 0, 90, 0, 0, 0, 98, 0, 0, 0, 103]
abbrev dktX0_count_1 : List UInt8 := dkwX0_count_1 ++ dktX0_count_2
def dkwX0_count_0 : List UInt8 := [27]
abbrev dktX0_count_0 : List UInt8 := dkwX0_count_0 ++ dktX0_count_1
theorem dksX0_count_0 : cX0_count.data.toList.drop 0 = dktX0_count_0 := by decide +kernel
theorem dksX0_count_1 : cX0_count.data.toList.drop 1 = dktX0_count_1 := dk_seg dksX0_count_0 1 rfl rfl
theorem dksX0_count_2 : cX0_count.data.toList.drop 56 = dktX0_count_2 := dk_seg dksX0_count_1 55 rfl rfl
theorem dksX0_count_3 : cX0_count.data.toList.drop 80 = dktX0_count_3 := dk_seg dksX0_count_2 24 rfl rfl
theorem dksX0_count_4 : cX0_count.data.toList.drop 104 = dktX0_count_4 := dk_seg dksX0_count_3 24 rfl rfl
theorem dX0_count_0 : decode cX0_count 0 = .ok (.iload_n 1, 1) := dk_27 (dk_at dksX0_count_0 0 rfl rfl)
theorem dX0_count_1 : decode cX0_count 1 = .ok (.tableswitch 108 0 9 #[55, 60, 65, 70, 75, 80, 85, 90, 98, 103], 55) := by decide +kernel
theorem dX0_count_56 : decode cX0_count 56 = .ok (.aload_n 0, 1) := dk_42 (dk_at dksX0_count_2 0 rfl rfl)
theorem dX0_count_57 : decode cX0_count 57 = .ok (.getfield 151, 3) := dk_180 0 151 (dk_at dksX0_count_2 1 rfl rfl)
theorem dX0_count_60 : decode cX0_count 60 = .ok (.ireturn, 1) := dk_172 (dk_at dksX0_count_2 4 rfl rfl)
theorem dX0_count_61 : decode cX0_count 61 = .ok (.aload_n 0, 1) := dk_42 (dk_at dksX0_count_2 5 rfl rfl)
theorem dX0_count_62 : decode cX0_count 62 = .ok (.getfield 112, 3) := dk_180 0 112 (dk_at dksX0_count_2 6 rfl rfl)
theorem dX0_count_65 : decode cX0_count 65 = .ok (.ireturn, 1) := dk_172 (dk_at dksX0_count_2 9 rfl rfl)
theorem dX0_count_66 : decode cX0_count 66 = .ok (.aload_n 0, 1) := dk_42 (dk_at dksX0_count_2 10 rfl rfl)
theorem dX0_count_67 : decode cX0_count 67 = .ok (.getfield 120, 3) := dk_180 0 120 (dk_at dksX0_count_2 11 rfl rfl)
theorem dX0_count_70 : decode cX0_count 70 = .ok (.ireturn, 1) := dk_172 (dk_at dksX0_count_2 14 rfl rfl)
theorem dX0_count_71 : decode cX0_count 71 = .ok (.aload_n 0, 1) := dk_42 (dk_at dksX0_count_2 15 rfl rfl)
theorem dX0_count_72 : decode cX0_count 72 = .ok (.getfield 123, 3) := dk_180 0 123 (dk_at dksX0_count_2 16 rfl rfl)
theorem dX0_count_75 : decode cX0_count 75 = .ok (.ireturn, 1) := dk_172 (dk_at dksX0_count_2 19 rfl rfl)
theorem dX0_count_76 : decode cX0_count 76 = .ok (.aload_n 0, 1) := dk_42 (dk_at dksX0_count_2 20 rfl rfl)
theorem dX0_count_77 : decode cX0_count 77 = .ok (.getfield 353, 3) := dk_180 1 97 (dk_at dksX0_count_2 21 rfl rfl)
theorem dX0_count_80 : decode cX0_count 80 = .ok (.ireturn, 1) := dk_172 (dk_at dksX0_count_3 0 rfl rfl)
theorem dX0_count_81 : decode cX0_count 81 = .ok (.aload_n 0, 1) := dk_42 (dk_at dksX0_count_3 1 rfl rfl)
theorem dX0_count_82 : decode cX0_count 82 = .ok (.getfield 126, 3) := dk_180 0 126 (dk_at dksX0_count_3 2 rfl rfl)
theorem dX0_count_85 : decode cX0_count 85 = .ok (.ireturn, 1) := dk_172 (dk_at dksX0_count_3 5 rfl rfl)
theorem dX0_count_86 : decode cX0_count 86 = .ok (.aload_n 0, 1) := dk_42 (dk_at dksX0_count_3 6 rfl rfl)
theorem dX0_count_87 : decode cX0_count 87 = .ok (.getfield 338, 3) := dk_180 1 82 (dk_at dksX0_count_3 7 rfl rfl)
theorem dX0_count_90 : decode cX0_count 90 = .ok (.ireturn, 1) := dk_172 (dk_at dksX0_count_3 10 rfl rfl)
theorem dX0_count_91 : decode cX0_count 91 = .ok (.aload_n 0, 1) := dk_42 (dk_at dksX0_count_3 11 rfl rfl)
theorem dX0_count_92 : decode cX0_count 92 = .ok (.getfield 90, 3) := dk_180 0 90 (dk_at dksX0_count_3 12 rfl rfl)
theorem dX0_count_95 : decode cX0_count 95 = .ok (.getfield 445, 3) := dk_180 1 189 (dk_at dksX0_count_3 15 rfl rfl)
theorem dX0_count_98 : decode cX0_count 98 = .ok (.ireturn, 1) := dk_172 (dk_at dksX0_count_3 18 rfl rfl)
theorem dX0_count_99 : decode cX0_count 99 = .ok (.aload_n 0, 1) := dk_42 (dk_at dksX0_count_3 19 rfl rfl)
theorem dX0_count_100 : decode cX0_count 100 = .ok (.getfield 487, 3) := dk_180 1 231 (dk_at dksX0_count_3 20 rfl rfl)
theorem dX0_count_103 : decode cX0_count 103 = .ok (.ireturn, 1) := dk_172 (dk_at dksX0_count_3 23 rfl rfl)
theorem dX0_count_104 : decode cX0_count 104 = .ok (.aload_n 0, 1) := dk_42 (dk_at dksX0_count_4 0 rfl rfl)
theorem dX0_count_105 : decode cX0_count 105 = .ok (.getfield 296, 3) := dk_180 1 40 (dk_at dksX0_count_4 1 rfl rfl)
theorem dX0_count_108 : decode cX0_count 108 = .ok (.ireturn, 1) := dk_172 (dk_at dksX0_count_4 4 rfl rfl)
theorem dX0_count_109 : decode cX0_count 109 = .ok (.iconst (-1), 1) := dk_2 (dk_at dksX0_count_4 5 rfl rfl)
theorem dX0_count_110 : decode cX0_count 110 = .ok (.ireturn, 1) := dk_172 (dk_at dksX0_count_4 6 rfl rfl)
theorem q95 : (Jvm.Cond.initialized "WheelLand") ∈ lw_all := lw_g (lw_at lw_m1 1 rfl) rfl
theorem q119 : (Jvm.Cond.instantiable "WheelLand" (35 : Nat)) ∈ lw_all := lw_g (lw_at lw_m1 25 rfl) rfl
theorem q121 : (Jvm.Cond.instanceMethod ({ cls := "WheelLand", name := "<init>", desc := "()V" } : Jvm.MethodName)) ∈ lw_all := lw_g (lw_at lw_m1 27 rfl) rfl
theorem q122 : (Jvm.Cond.code ({ cls := "WheelLand", name := "<init>", desc := "()V" } : Jvm.MethodName) prog_1_method_5_code (1 : Nat) (Option.none : Option Jvm.ClassFile.FieldType)) ∈ lw_all := lw_g (lw_at lw_m1 28 rfl) rfl
theorem q123 : (Jvm.Cond.methodLink "WheelLand" (16 : Nat) ({ cls := "java/lang/Object", name := "<init>", desc := "()V" } : Jvm.MethodName)) ∈ lw_all := lw_g (lw_at lw_m1 29 rfl) rfl
theorem q126 : (Jvm.Cond.classLink "WheelLand" (22 : Nat) "WheelLand$Village") ∈ lw_all := lw_g (lw_at lw_m1 32 rfl) rfl
theorem q128 : (Jvm.Cond.classLink "WheelLand" (28 : Nat) "WheelLand$House") ∈ lw_all := lw_g (lw_at lw_m1 34 rfl) rfl
theorem q130 : (Jvm.Cond.classLink "WheelLand" (34 : Nat) "WheelLand$Lot") ∈ lw_all := lw_g (lw_at lw_m1 36 rfl) rfl
theorem q132 : (Jvm.Cond.classLink "WheelLand" (40 : Nat) "WheelLand$Cloth") ∈ lw_all := lw_g (lw_at lw_m1 38 rfl) rfl
theorem q134 : (Jvm.Cond.classLink "WheelLand" (46 : Nat) "WheelLand$Sheet") ∈ lw_all := lw_g (lw_at lw_m1 40 rfl) rfl
theorem q136 : (Jvm.Cond.classLink "WheelLand" (78 : Nat) "WheelLand$Reader") ∈ lw_all := lw_g (lw_at lw_m1 42 rfl) rfl
theorem q138 : (Jvm.Cond.methodLinkNest "WheelLand" (80 : Nat) ({ cls := "WheelLand$Reader", name := "<init>", desc := "()V" } : Jvm.MethodName) "WheelLand") ∈ lw_tbl := lw_at lw_m1 44 rfl
theorem q169 : (Jvm.Cond.classLink "WheelLand" (85 : Nat) "WheelLand$Hands") ∈ lw_all := lw_g (lw_at lw_m1 75 rfl) rfl
theorem q171 : (Jvm.Cond.methodLinkNest "WheelLand" (87 : Nat) ({ cls := "WheelLand$Hands", name := "<init>", desc := "(LWheelLand;)V" } : Jvm.MethodName) "WheelLand") ∈ lw_tbl := lw_at lw_m1 77 rfl
theorem q178 : (Jvm.Cond.fieldLinkNest "WheelLand" (448 : Nat) "WheelLand$Hands" "asked" "[LWheelLand$Lot;" "WheelLand") ∈ lw_tbl := lw_at lw_m1 84 rfl
theorem q180 : (Jvm.Cond.fieldLinkNest "WheelLand" (456 : Nat) "WheelLand$Hands" "looms" "[LWheelLand$House;" "WheelLand") ∈ lw_tbl := lw_at lw_m1 86 rfl
theorem q183 : (Jvm.Cond.fieldLinkNest "WheelLand" (453 : Nat) "WheelLand$Hands" "best" "[I" "WheelLand") ∈ lw_tbl := lw_at lw_m1 89 rfl
theorem q186 : (Jvm.Cond.fieldLinkNest "WheelLand" (445 : Nat) "WheelLand$Hands" "lotsTold" "I" "WheelLand") ∈ lw_tbl := lw_at lw_m1 92 rfl
theorem q189 : (Jvm.Cond.fieldLinkNest "WheelLand" (459 : Nat) "WheelLand$Hands" "most" "I" "WheelLand") ∈ lw_tbl := lw_at lw_m1 95 rfl
theorem q191 : (Jvm.Cond.fieldLinkNest "WheelLand" (462 : Nat) "WheelLand$Hands" "days" "I" "WheelLand") ∈ lw_tbl := lw_at lw_m1 97 rfl
theorem q193 : (Jvm.Cond.fieldLinkNest "WheelLand" (465 : Nat) "WheelLand$Hands" "weeks" "I" "WheelLand") ∈ lw_tbl := lw_at lw_m1 99 rfl
theorem q218 : (Jvm.Cond.fieldLink "WheelLand" (24 : Nat) "WheelLand" "villages" "[LWheelLand$Village;") ∈ lw_all := lw_g (lw_at lw_m1 124 rfl) rfl
theorem q220 : (Jvm.Cond.fieldLink "WheelLand" (30 : Nat) "WheelLand" "houses" "[LWheelLand$House;") ∈ lw_all := lw_g (lw_at lw_m1 126 rfl) rfl
theorem q221 : (Jvm.Cond.fieldLink "WheelLand" (36 : Nat) "WheelLand" "lots" "[LWheelLand$Lot;") ∈ lw_all := lw_g (lw_at lw_m1 127 rfl) rfl
theorem q222 : (Jvm.Cond.fieldLink "WheelLand" (42 : Nat) "WheelLand" "cloths" "[LWheelLand$Cloth;") ∈ lw_all := lw_g (lw_at lw_m1 128 rfl) rfl
theorem q223 : (Jvm.Cond.fieldLink "WheelLand" (48 : Nat) "WheelLand" "sheets" "[LWheelLand$Sheet;") ∈ lw_all := lw_g (lw_at lw_m1 129 rfl) rfl
theorem q224 : (Jvm.Cond.fieldLink "WheelLand" (52 : Nat) "WheelLand" "forcedSheet" "[I") ∈ lw_all := lw_g (lw_at lw_m1 130 rfl) rfl
theorem q225 : (Jvm.Cond.fieldLink "WheelLand" (56 : Nat) "WheelLand" "forcedFrom" "[I") ∈ lw_all := lw_g (lw_at lw_m1 131 rfl) rfl
theorem q226 : (Jvm.Cond.fieldLink "WheelLand" (59 : Nat) "WheelLand" "roads" "[I") ∈ lw_all := lw_g (lw_at lw_m1 132 rfl) rfl
theorem q227 : (Jvm.Cond.fieldLink "WheelLand" (62 : Nat) "WheelLand" "far" "[I") ∈ lw_all := lw_g (lw_at lw_m1 133 rfl) rfl
theorem q228 : (Jvm.Cond.fieldLink "WheelLand" (65 : Nat) "WheelLand" "names" "[I") ∈ lw_all := lw_g (lw_at lw_m1 134 rfl) rfl
theorem q229 : (Jvm.Cond.fieldLink "WheelLand" (68 : Nat) "WheelLand" "heap" "[I") ∈ lw_all := lw_g (lw_at lw_m1 135 rfl) rfl
theorem q230 : (Jvm.Cond.fieldLink "WheelLand" (71 : Nat) "WheelLand" "told" "[I") ∈ lw_all := lw_g (lw_at lw_m1 136 rfl) rfl
theorem q231 : (Jvm.Cond.fieldLink "WheelLand" (74 : Nat) "WheelLand" "text" "[B") ∈ lw_all := lw_g (lw_at lw_m1 137 rfl) rfl
theorem q232 : (Jvm.Cond.fieldLink "WheelLand" (81 : Nat) "WheelLand" "reader" "LWheelLand$Reader;") ∈ lw_all := lw_g (lw_at lw_m1 138 rfl) rfl
theorem q233 : (Jvm.Cond.fieldLink "WheelLand" (151 : Nat) "WheelLand" "now" "I") ∈ lw_all := lw_g (lw_at lw_m1 139 rfl) rfl
theorem q234 : (Jvm.Cond.fieldLink "WheelLand" (112 : Nat) "WheelLand" "villageMany" "I") ∈ lw_all := lw_g (lw_at lw_m1 140 rfl) rfl
theorem q235 : (Jvm.Cond.fieldLink "WheelLand" (120 : Nat) "WheelLand" "houseMany" "I") ∈ lw_all := lw_g (lw_at lw_m1 141 rfl) rfl
theorem q236 : (Jvm.Cond.fieldLink "WheelLand" (123 : Nat) "WheelLand" "lotMany" "I") ∈ lw_all := lw_g (lw_at lw_m1 142 rfl) rfl
theorem q237 : (Jvm.Cond.fieldLink "WheelLand" (126 : Nat) "WheelLand" "clothMany" "I") ∈ lw_all := lw_g (lw_at lw_m1 143 rfl) rfl
theorem q238 : (Jvm.Cond.fieldLink "WheelLand" (353 : Nat) "WheelLand" "sheetMany" "I") ∈ lw_all := lw_g (lw_at lw_m1 144 rfl) rfl
theorem q239 : (Jvm.Cond.fieldLink "WheelLand" (356 : Nat) "WheelLand" "forced" "I") ∈ lw_all := lw_g (lw_at lw_m1 145 rfl) rfl
theorem q240 : (Jvm.Cond.fieldLink "WheelLand" (338 : Nat) "WheelLand" "size" "I") ∈ lw_all := lw_g (lw_at lw_m1 146 rfl) rfl
theorem q241 : (Jvm.Cond.fieldLink "WheelLand" (296 : Nat) "WheelLand" "crown" "I") ∈ lw_all := lw_g (lw_at lw_m1 147 rfl) rfl
theorem q242 : (Jvm.Cond.fieldLink "WheelLand" (311 : Nat) "WheelLand" "paidAll" "I") ∈ lw_all := lw_g (lw_at lw_m1 148 rfl) rfl
theorem q243 : (Jvm.Cond.fieldLink "WheelLand" (314 : Nat) "WheelLand" "wovenAll" "I") ∈ lw_all := lw_g (lw_at lw_m1 149 rfl) rfl
theorem q244 : (Jvm.Cond.fieldLink "WheelLand" (254 : Nat) "WheelLand" "spunAll" "I") ∈ lw_all := lw_g (lw_at lw_m1 150 rfl) rfl
theorem q245 : (Jvm.Cond.fieldLink "WheelLand" (186 : Nat) "WheelLand" "spunNow" "I") ∈ lw_all := lw_g (lw_at lw_m1 151 rfl) rfl
theorem q246 : (Jvm.Cond.fieldLink "WheelLand" (90 : Nat) "WheelLand" "hands" "LWheelLand$Hands;") ∈ lw_all := lw_g (lw_at lw_m1 152 rfl) rfl
theorem q247 : (Jvm.Cond.fieldLink "WheelLand" (94 : Nat) "WheelLand" "giftPrice" "[I") ∈ lw_all := lw_g (lw_at lw_m1 153 rfl) rfl
theorem q248 : (Jvm.Cond.fieldLink "WheelLand" (97 : Nat) "WheelLand" "giftHouse" "[I") ∈ lw_all := lw_g (lw_at lw_m1 154 rfl) rfl
theorem q249 : (Jvm.Cond.fieldLink "WheelLand" (100 : Nat) "WheelLand" "giftKind" "[I") ∈ lw_all := lw_g (lw_at lw_m1 155 rfl) rfl
theorem q250 : (Jvm.Cond.fieldLink "WheelLand" (103 : Nat) "WheelLand" "wheelsWith" "[I") ∈ lw_all := lw_g (lw_at lw_m1 156 rfl) rfl
theorem q251 : (Jvm.Cond.fieldLink "WheelLand" (106 : Nat) "WheelLand" "skillWith" "[I") ∈ lw_all := lw_g (lw_at lw_m1 157 rfl) rfl
theorem q252 : (Jvm.Cond.fieldLink "WheelLand" (109 : Nat) "WheelLand" "cottonWith" "[I") ∈ lw_all := lw_g (lw_at lw_m1 158 rfl) rfl
theorem q253 : (Jvm.Cond.fieldLink "WheelLand" (487 : Nat) "WheelLand" "gifts" "I") ∈ lw_all := lw_g (lw_at lw_m1 159 rfl) rfl
theorem q254 : (Jvm.Cond.laysFinal "WheelLand" "WheelLand" "villages" "[LWheelLand$Village;") ∈ lw_all := lw_g (lw_at lw_m1 160 rfl) rfl
theorem q255 : (Jvm.Cond.soleField "WheelLand" "villages") ∈ lw_all := lw_g (lw_at lw_m1 161 rfl) rfl
theorem q256 : (Jvm.Cond.laysFinal "WheelLand" "WheelLand" "houses" "[LWheelLand$House;") ∈ lw_all := lw_g (lw_at lw_m1 162 rfl) rfl
theorem q257 : (Jvm.Cond.soleField "WheelLand" "houses") ∈ lw_all := lw_g (lw_at lw_m1 163 rfl) rfl
theorem q258 : (Jvm.Cond.laysFinal "WheelLand" "WheelLand" "lots" "[LWheelLand$Lot;") ∈ lw_all := lw_g (lw_at lw_m1 164 rfl) rfl
theorem q259 : (Jvm.Cond.soleField "WheelLand" "lots") ∈ lw_all := lw_g (lw_at lw_m1 165 rfl) rfl
theorem q260 : (Jvm.Cond.laysFinal "WheelLand" "WheelLand" "cloths" "[LWheelLand$Cloth;") ∈ lw_all := lw_g (lw_at lw_m1 166 rfl) rfl
theorem q261 : (Jvm.Cond.soleField "WheelLand" "cloths") ∈ lw_all := lw_g (lw_at lw_m1 167 rfl) rfl
theorem q262 : (Jvm.Cond.laysFinal "WheelLand" "WheelLand" "sheets" "[LWheelLand$Sheet;") ∈ lw_all := lw_g (lw_at lw_m1 168 rfl) rfl
theorem q263 : (Jvm.Cond.soleField "WheelLand" "sheets") ∈ lw_all := lw_g (lw_at lw_m1 169 rfl) rfl
theorem q264 : (Jvm.Cond.laysFinal "WheelLand" "WheelLand" "forcedSheet" "[I") ∈ lw_all := lw_g (lw_at lw_m1 170 rfl) rfl
theorem q265 : (Jvm.Cond.soleField "WheelLand" "forcedSheet") ∈ lw_all := lw_g (lw_at lw_m1 171 rfl) rfl
theorem q266 : (Jvm.Cond.laysFinal "WheelLand" "WheelLand" "forcedFrom" "[I") ∈ lw_all := lw_g (lw_at lw_m1 172 rfl) rfl
theorem q267 : (Jvm.Cond.soleField "WheelLand" "forcedFrom") ∈ lw_all := lw_g (lw_at lw_m1 173 rfl) rfl
theorem q268 : (Jvm.Cond.laysFinal "WheelLand" "WheelLand" "roads" "[I") ∈ lw_all := lw_g (lw_at lw_m1 174 rfl) rfl
theorem q269 : (Jvm.Cond.soleField "WheelLand" "roads") ∈ lw_all := lw_g (lw_at lw_m1 175 rfl) rfl
theorem q270 : (Jvm.Cond.laysFinal "WheelLand" "WheelLand" "far" "[I") ∈ lw_all := lw_g (lw_at lw_m1 176 rfl) rfl
theorem q271 : (Jvm.Cond.soleField "WheelLand" "far") ∈ lw_all := lw_g (lw_at lw_m1 177 rfl) rfl
theorem q272 : (Jvm.Cond.laysFinal "WheelLand" "WheelLand" "names" "[I") ∈ lw_all := lw_g (lw_at lw_m1 178 rfl) rfl
theorem q273 : (Jvm.Cond.soleField "WheelLand" "names") ∈ lw_all := lw_g (lw_at lw_m1 179 rfl) rfl
theorem q274 : (Jvm.Cond.laysFinal "WheelLand" "WheelLand" "heap" "[I") ∈ lw_all := lw_g (lw_at lw_m1 180 rfl) rfl
theorem q275 : (Jvm.Cond.soleField "WheelLand" "heap") ∈ lw_all := lw_g (lw_at lw_m1 181 rfl) rfl
theorem q276 : (Jvm.Cond.laysFinal "WheelLand" "WheelLand" "told" "[I") ∈ lw_all := lw_g (lw_at lw_m1 182 rfl) rfl
theorem q277 : (Jvm.Cond.soleField "WheelLand" "told") ∈ lw_all := lw_g (lw_at lw_m1 183 rfl) rfl
theorem q278 : (Jvm.Cond.laysFinal "WheelLand" "WheelLand" "text" "[B") ∈ lw_all := lw_g (lw_at lw_m1 184 rfl) rfl
theorem q279 : (Jvm.Cond.soleField "WheelLand" "text") ∈ lw_all := lw_g (lw_at lw_m1 185 rfl) rfl
theorem q280 : (Jvm.Cond.laysFinal "WheelLand" "WheelLand" "reader" "LWheelLand$Reader;") ∈ lw_all := lw_g (lw_at lw_m1 186 rfl) rfl
theorem q281 : (Jvm.Cond.soleField "WheelLand" "reader") ∈ lw_all := lw_g (lw_at lw_m1 187 rfl) rfl
theorem q282 : (Jvm.Cond.lays "WheelLand" "WheelLand" "now" "I") ∈ lw_all := lw_g (lw_at lw_m1 188 rfl) rfl
theorem q283 : (Jvm.Cond.soleField "WheelLand" "now") ∈ lw_all := lw_g (lw_at lw_m1 189 rfl) rfl
theorem q284 : (Jvm.Cond.lays "WheelLand" "WheelLand" "villageMany" "I") ∈ lw_all := lw_g (lw_at lw_m1 190 rfl) rfl
theorem q285 : (Jvm.Cond.soleField "WheelLand" "villageMany") ∈ lw_all := lw_g (lw_at lw_m1 191 rfl) rfl
theorem q286 : (Jvm.Cond.lays "WheelLand" "WheelLand" "houseMany" "I") ∈ lw_all := lw_g (lw_at lw_m1 192 rfl) rfl
theorem q287 : (Jvm.Cond.soleField "WheelLand" "houseMany") ∈ lw_all := lw_g (lw_at lw_m1 193 rfl) rfl
theorem q288 : (Jvm.Cond.lays "WheelLand" "WheelLand" "lotMany" "I") ∈ lw_all := lw_g (lw_at lw_m1 194 rfl) rfl
theorem q289 : (Jvm.Cond.soleField "WheelLand" "lotMany") ∈ lw_all := lw_g (lw_at lw_m1 195 rfl) rfl
theorem q290 : (Jvm.Cond.lays "WheelLand" "WheelLand" "clothMany" "I") ∈ lw_all := lw_g (lw_at lw_m1 196 rfl) rfl
theorem q291 : (Jvm.Cond.soleField "WheelLand" "clothMany") ∈ lw_all := lw_g (lw_at lw_m1 197 rfl) rfl
theorem q292 : (Jvm.Cond.lays "WheelLand" "WheelLand" "sheetMany" "I") ∈ lw_all := lw_g (lw_at lw_m1 198 rfl) rfl
theorem q293 : (Jvm.Cond.soleField "WheelLand" "sheetMany") ∈ lw_all := lw_g (lw_at lw_m1 199 rfl) rfl
theorem q294 : (Jvm.Cond.lays "WheelLand" "WheelLand" "forced" "I") ∈ lw_all := lw_g (lw_at lw_m1 200 rfl) rfl
theorem q295 : (Jvm.Cond.soleField "WheelLand" "forced") ∈ lw_all := lw_g (lw_at lw_m1 201 rfl) rfl
theorem q296 : (Jvm.Cond.lays "WheelLand" "WheelLand" "size" "I") ∈ lw_all := lw_g (lw_at lw_m1 202 rfl) rfl
theorem q297 : (Jvm.Cond.soleField "WheelLand" "size") ∈ lw_all := lw_g (lw_at lw_m1 203 rfl) rfl
theorem q298 : (Jvm.Cond.lays "WheelLand" "WheelLand" "crown" "I") ∈ lw_all := lw_g (lw_at lw_m1 204 rfl) rfl
theorem q299 : (Jvm.Cond.soleField "WheelLand" "crown") ∈ lw_all := lw_g (lw_at lw_m1 205 rfl) rfl
theorem q300 : (Jvm.Cond.lays "WheelLand" "WheelLand" "paidAll" "I") ∈ lw_all := lw_g (lw_at lw_m1 206 rfl) rfl
theorem q301 : (Jvm.Cond.soleField "WheelLand" "paidAll") ∈ lw_all := lw_g (lw_at lw_m1 207 rfl) rfl
theorem q302 : (Jvm.Cond.lays "WheelLand" "WheelLand" "wovenAll" "I") ∈ lw_all := lw_g (lw_at lw_m1 208 rfl) rfl
theorem q303 : (Jvm.Cond.soleField "WheelLand" "wovenAll") ∈ lw_all := lw_g (lw_at lw_m1 209 rfl) rfl
theorem q304 : (Jvm.Cond.lays "WheelLand" "WheelLand" "spunAll" "I") ∈ lw_all := lw_g (lw_at lw_m1 210 rfl) rfl
theorem q305 : (Jvm.Cond.soleField "WheelLand" "spunAll") ∈ lw_all := lw_g (lw_at lw_m1 211 rfl) rfl
theorem q306 : (Jvm.Cond.lays "WheelLand" "WheelLand" "spunNow" "I") ∈ lw_all := lw_g (lw_at lw_m1 212 rfl) rfl
theorem q307 : (Jvm.Cond.soleField "WheelLand" "spunNow") ∈ lw_all := lw_g (lw_at lw_m1 213 rfl) rfl
theorem q308 : (Jvm.Cond.laysFinal "WheelLand" "WheelLand" "hands" "LWheelLand$Hands;") ∈ lw_all := lw_g (lw_at lw_m1 214 rfl) rfl
theorem q309 : (Jvm.Cond.soleField "WheelLand" "hands") ∈ lw_all := lw_g (lw_at lw_m1 215 rfl) rfl
theorem q310 : (Jvm.Cond.laysFinal "WheelLand" "WheelLand" "giftPrice" "[I") ∈ lw_all := lw_g (lw_at lw_m1 216 rfl) rfl
theorem q311 : (Jvm.Cond.soleField "WheelLand" "giftPrice") ∈ lw_all := lw_g (lw_at lw_m1 217 rfl) rfl
theorem q312 : (Jvm.Cond.laysFinal "WheelLand" "WheelLand" "giftHouse" "[I") ∈ lw_all := lw_g (lw_at lw_m1 218 rfl) rfl
theorem q313 : (Jvm.Cond.soleField "WheelLand" "giftHouse") ∈ lw_all := lw_g (lw_at lw_m1 219 rfl) rfl
theorem q314 : (Jvm.Cond.laysFinal "WheelLand" "WheelLand" "giftKind" "[I") ∈ lw_all := lw_g (lw_at lw_m1 220 rfl) rfl
theorem q315 : (Jvm.Cond.soleField "WheelLand" "giftKind") ∈ lw_all := lw_g (lw_at lw_m1 221 rfl) rfl
theorem q316 : (Jvm.Cond.laysFinal "WheelLand" "WheelLand" "wheelsWith" "[I") ∈ lw_all := lw_g (lw_at lw_m1 222 rfl) rfl
theorem q317 : (Jvm.Cond.soleField "WheelLand" "wheelsWith") ∈ lw_all := lw_g (lw_at lw_m1 223 rfl) rfl
theorem q318 : (Jvm.Cond.laysFinal "WheelLand" "WheelLand" "skillWith" "[I") ∈ lw_all := lw_g (lw_at lw_m1 224 rfl) rfl
theorem q319 : (Jvm.Cond.soleField "WheelLand" "skillWith") ∈ lw_all := lw_g (lw_at lw_m1 225 rfl) rfl
theorem q320 : (Jvm.Cond.laysFinal "WheelLand" "WheelLand" "cottonWith" "[I") ∈ lw_all := lw_g (lw_at lw_m1 226 rfl) rfl
theorem q321 : (Jvm.Cond.soleField "WheelLand" "cottonWith") ∈ lw_all := lw_g (lw_at lw_m1 227 rfl) rfl
theorem q322 : (Jvm.Cond.lays "WheelLand" "WheelLand" "gifts" "I") ∈ lw_all := lw_g (lw_at lw_m1 228 rfl) rfl
theorem q323 : (Jvm.Cond.soleField "WheelLand" "gifts") ∈ lw_all := lw_g (lw_at lw_m1 229 rfl) rfl
theorem q324 : (Jvm.Cond.superclass "WheelLand" "java/lang/Object") ∈ lw_all := lw_g (lw_at lw_m1 230 rfl) rfl
theorem q326 : (Jvm.Cond.instanceMethod ({ cls := "WheelLand", name := "village", desc := "(III)I" } : Jvm.MethodName)) ∈ lw_all := lw_g (lw_at lw_m1 232 rfl) rfl
theorem q327 : (Jvm.Cond.selects "WheelLand" ({ cls := "WheelLand", name := "village", desc := "(III)I" } : Jvm.MethodName) ({ cls := "WheelLand", name := "village", desc := "(III)I" } : Jvm.MethodName)) ∈ lw_all := lw_g (lw_at lw_m1 233 rfl) rfl
theorem q328 : (Jvm.Cond.code ({ cls := "WheelLand", name := "village", desc := "(III)I" } : Jvm.MethodName) prog_1_method_10_code (5 : Nat) (Option.some Jvm.ClassFile.FieldType.int)) ∈ lw_all := lw_g (lw_at lw_m1 234 rfl) rfl
theorem q329 : (Jvm.Cond.constant "WheelLand" (129 : Nat) (40404040 : Int32)) ∈ lw_all := lw_g (lw_at lw_m1 235 rfl) rfl
theorem q330 : (Jvm.Cond.methodLink "WheelLand" (116 : Nat) ({ cls := "WheelLand", name := "in", desc := "(III)Z" } : Jvm.MethodName)) ∈ lw_all := lw_g (lw_at lw_m1 236 rfl) rfl
theorem q331 : (Jvm.Cond.static ({ cls := "WheelLand", name := "in", desc := "(III)Z" } : Jvm.MethodName)) ∈ lw_all := lw_g (lw_at lw_m1 237 rfl) rfl
theorem q332 : (Jvm.Cond.code ({ cls := "WheelLand", name := "in", desc := "(III)Z" } : Jvm.MethodName) prog_1_method_1_code (3 : Nat) (Option.some Jvm.ClassFile.FieldType.boolean)) ∈ lw_all := lw_g (lw_at lw_m1 238 rfl) rfl
theorem q334 : (Jvm.Cond.methodLink "WheelLand" (130 : Nat) ({ cls := "WheelLand$Village", name := "<init>", desc := "(IIII)V" } : Jvm.MethodName)) ∈ lw_all := lw_g (lw_at lw_m2 0 rfl) rfl
theorem q339 : (Jvm.Cond.fieldLinkNest "WheelLand" (144 : Nat) "WheelLand$Village" "number" "I" "WheelLand") ∈ lw_tbl := lw_at lw_m2 5 rfl
theorem q344 : (Jvm.Cond.fieldLinkNest "WheelLand" (380 : Nat) "WheelLand$Village" "idle" "[I" "WheelLand") ∈ lw_tbl := lw_at lw_m2 10 rfl
theorem q346 : (Jvm.Cond.fieldLinkNest "WheelLand" (221 : Nat) "WheelLand$Village" "millAt" "[I" "WheelLand") ∈ lw_tbl := lw_at lw_m2 12 rfl
theorem q348 : (Jvm.Cond.fieldLinkNest "WheelLand" (180 : Nat) "WheelLand$Village" "cotton" "I" "WheelLand") ∈ lw_tbl := lw_at lw_m2 14 rfl
theorem q350 : (Jvm.Cond.fieldLinkNest "WheelLand" (468 : Nat) "WheelLand$Village" "stamped" "I" "WheelLand") ∈ lw_tbl := lw_at lw_m2 16 rfl
theorem q352 : (Jvm.Cond.fieldLinkNest "WheelLand" (471 : Nat) "WheelLand$Village" "plain" "I" "WheelLand") ∈ lw_tbl := lw_at lw_m2 18 rfl
theorem q354 : (Jvm.Cond.fieldLinkNest "WheelLand" (277 : Nat) "WheelLand$Village" "mill" "I" "WheelLand") ∈ lw_tbl := lw_at lw_m2 20 rfl
theorem q356 : (Jvm.Cond.fieldLinkNest "WheelLand" (274 : Nat) "WheelLand$Village" "hand" "I" "WheelLand") ∈ lw_tbl := lw_at lw_m2 22 rfl
theorem q358 : (Jvm.Cond.fieldLinkNest "WheelLand" (224 : Nat) "WheelLand$Village" "price" "I" "WheelLand") ∈ lw_tbl := lw_at lw_m2 24 rfl
theorem q359 : (Jvm.Cond.fieldLinkNest "WheelLand" (280 : Nat) "WheelLand$Village" "word" "I" "WheelLand") ∈ lw_tbl := lw_at lw_m2 25 rfl
theorem q360 : (Jvm.Cond.fieldLinkNest "WheelLand" (305 : Nat) "WheelLand$Village" "wordNext" "I" "WheelLand") ∈ lw_tbl := lw_at lw_m2 26 rfl
theorem q362 : (Jvm.Cond.fieldLinkNest "WheelLand" (501 : Nat) "WheelLand$Village" "takings" "I" "WheelLand") ∈ lw_tbl := lw_at lw_m2 28 rfl
theorem q363 : (Jvm.Cond.fieldLinkNest "WheelLand" (477 : Nat) "WheelLand$Village" "sold" "I" "WheelLand") ∈ lw_tbl := lw_at lw_m2 29 rfl
theorem q364 : (Jvm.Cond.fieldLinkNest "WheelLand" (474 : Nat) "WheelLand$Village" "stampedEver" "I" "WheelLand") ∈ lw_tbl := lw_at lw_m2 30 rfl
theorem q366 : (Jvm.Cond.fieldLinkNest "WheelLand" (480 : Nat) "WheelLand$Village" "stampedSold" "I" "WheelLand") ∈ lw_tbl := lw_at lw_m2 32 rfl
theorem q368 : (Jvm.Cond.fieldLinkNest "WheelLand" (504 : Nat) "WheelLand$Village" "millNow" "I" "WheelLand") ∈ lw_tbl := lw_at lw_m2 34 rfl
theorem q407 : (Jvm.Cond.methodLink "WheelLand" (133 : Nat) ({ cls := "WheelLand", name := "ways", desc := "()V" } : Jvm.MethodName)) ∈ lw_all := lw_g (lw_at lw_m2 73 rfl) rfl
theorem q408 : (Jvm.Cond.privateMethod ({ cls := "WheelLand", name := "ways", desc := "()V" } : Jvm.MethodName)) ∈ lw_tbl := lw_at lw_m2 74 rfl
theorem q409 : (Jvm.Cond.instanceMethod ({ cls := "WheelLand", name := "ways", desc := "()V" } : Jvm.MethodName)) ∈ lw_all := lw_g (lw_at lw_m2 75 rfl) rfl
theorem q410 : (Jvm.Cond.code ({ cls := "WheelLand", name := "ways", desc := "()V" } : Jvm.MethodName) prog_1_method_12_code (4 : Nat) (Option.none : Option Jvm.ClassFile.FieldType)) ∈ lw_all := lw_g (lw_at lw_m2 76 rfl) rfl
theorem q411 : (Jvm.Cond.methodLink "WheelLand" (140 : Nat) ({ cls := "WheelLand", name := "leads", desc := "(III)V" } : Jvm.MethodName)) ∈ lw_all := lw_g (lw_at lw_m2 77 rfl) rfl
theorem q412 : (Jvm.Cond.privateMethod ({ cls := "WheelLand", name := "leads", desc := "(III)V" } : Jvm.MethodName)) ∈ lw_tbl := lw_at lw_m2 78 rfl
theorem q413 : (Jvm.Cond.instanceMethod ({ cls := "WheelLand", name := "leads", desc := "(III)V" } : Jvm.MethodName)) ∈ lw_all := lw_g (lw_at lw_m2 79 rfl) rfl
theorem q414 : (Jvm.Cond.code ({ cls := "WheelLand", name := "leads", desc := "(III)V" } : Jvm.MethodName) prog_1_method_13_code (7 : Nat) (Option.none : Option Jvm.ClassFile.FieldType)) ∈ lw_all := lw_g (lw_at lw_m2 80 rfl) rfl
theorem q416 : (Jvm.Cond.instanceMethod ({ cls := "WheelLand", name := "road", desc := "(III)Z" } : Jvm.MethodName)) ∈ lw_all := lw_g (lw_at lw_m2 82 rfl) rfl
theorem q417 : (Jvm.Cond.selects "WheelLand" ({ cls := "WheelLand", name := "road", desc := "(III)Z" } : Jvm.MethodName) ({ cls := "WheelLand", name := "road", desc := "(III)Z" } : Jvm.MethodName)) ∈ lw_all := lw_g (lw_at lw_m2 83 rfl) rfl
theorem q418 : (Jvm.Cond.code ({ cls := "WheelLand", name := "road", desc := "(III)Z" } : Jvm.MethodName) prog_1_method_11_code (4 : Nat) (Option.some Jvm.ClassFile.FieldType.boolean)) ∈ lw_all := lw_g (lw_at lw_m2 84 rfl) rfl
theorem q419 : (Jvm.Cond.methodLink "WheelLand" (136 : Nat) ({ cls := "WheelLand", name := "findVillage", desc := "(I)LWheelLand$Village;" } : Jvm.MethodName)) ∈ lw_all := lw_g (lw_at lw_m2 85 rfl) rfl
theorem q420 : (Jvm.Cond.privateMethod ({ cls := "WheelLand", name := "findVillage", desc := "(I)LWheelLand$Village;" } : Jvm.MethodName)) ∈ lw_tbl := lw_at lw_m2 86 rfl
theorem q421 : (Jvm.Cond.instanceMethod ({ cls := "WheelLand", name := "findVillage", desc := "(I)LWheelLand$Village;" } : Jvm.MethodName)) ∈ lw_all := lw_g (lw_at lw_m2 87 rfl) rfl
theorem q422 : (Jvm.Cond.code ({ cls := "WheelLand", name := "findVillage", desc := "(I)LWheelLand$Village;" } : Jvm.MethodName) prog_1_method_6_code (2 : Nat) (Option.some (Jvm.ClassFile.FieldType.object "WheelLand$Village"))) ∈ lw_all := lw_g (lw_at lw_m2 88 rfl) rfl
theorem q424 : (Jvm.Cond.instanceMethod ({ cls := "WheelLand", name := "far", desc := "(II)I" } : Jvm.MethodName)) ∈ lw_all := lw_g (lw_at lw_m2 90 rfl) rfl
theorem q425 : (Jvm.Cond.selects "WheelLand" ({ cls := "WheelLand", name := "far", desc := "(II)I" } : Jvm.MethodName) ({ cls := "WheelLand", name := "far", desc := "(II)I" } : Jvm.MethodName)) ∈ lw_all := lw_g (lw_at lw_m2 91 rfl) rfl
theorem q426 : (Jvm.Cond.code ({ cls := "WheelLand", name := "far", desc := "(II)I" } : Jvm.MethodName) prog_1_method_15_code (5 : Nat) (Option.some Jvm.ClassFile.FieldType.int)) ∈ lw_all := lw_g (lw_at lw_m2 92 rfl) rfl
theorem q427 : (Jvm.Cond.methodLink "WheelLand" (147 : Nat) ({ cls := "WheelLand", name := "farOf", desc := "(LWheelLand$Village;LWheelLand$Village;)I" } : Jvm.MethodName)) ∈ lw_all := lw_g (lw_at lw_m2 93 rfl) rfl
theorem q428 : (Jvm.Cond.privateMethod ({ cls := "WheelLand", name := "farOf", desc := "(LWheelLand$Village;LWheelLand$Village;)I" } : Jvm.MethodName)) ∈ lw_tbl := lw_at lw_m2 94 rfl
theorem q429 : (Jvm.Cond.instanceMethod ({ cls := "WheelLand", name := "farOf", desc := "(LWheelLand$Village;LWheelLand$Village;)I" } : Jvm.MethodName)) ∈ lw_all := lw_g (lw_at lw_m2 95 rfl) rfl
theorem q430 : (Jvm.Cond.code ({ cls := "WheelLand", name := "farOf", desc := "(LWheelLand$Village;LWheelLand$Village;)I" } : Jvm.MethodName) prog_1_method_14_code (3 : Nat) (Option.some Jvm.ClassFile.FieldType.int)) ∈ lw_all := lw_g (lw_at lw_m2 96 rfl) rfl
theorem q432 : (Jvm.Cond.instanceMethod ({ cls := "WheelLand", name := "house", desc := "(II)I" } : Jvm.MethodName)) ∈ lw_all := lw_g (lw_at lw_m2 98 rfl) rfl
theorem q433 : (Jvm.Cond.selects "WheelLand" ({ cls := "WheelLand", name := "house", desc := "(II)I" } : Jvm.MethodName) ({ cls := "WheelLand", name := "house", desc := "(II)I" } : Jvm.MethodName)) ∈ lw_all := lw_g (lw_at lw_m2 99 rfl) rfl
theorem q434 : (Jvm.Cond.code ({ cls := "WheelLand", name := "house", desc := "(II)I" } : Jvm.MethodName) prog_1_method_16_code (4 : Nat) (Option.some Jvm.ClassFile.FieldType.int)) ∈ lw_all := lw_g (lw_at lw_m2 100 rfl) rfl
theorem q436 : (Jvm.Cond.methodLink "WheelLand" (154 : Nat) ({ cls := "WheelLand$House", name := "<init>", desc := "(ILWheelLand$Village;I)V" } : Jvm.MethodName)) ∈ lw_all := lw_g (lw_at lw_m2 102 rfl) rfl
theorem q441 : (Jvm.Cond.fieldLinkNest "WheelLand" (325 : Nat) "WheelLand$House" "number" "I" "WheelLand") ∈ lw_tbl := lw_at lw_m2 107 rfl
theorem q443 : (Jvm.Cond.fieldLinkNest "WheelLand" (377 : Nat) "WheelLand$House" "caste" "I" "WheelLand") ∈ lw_tbl := lw_at lw_m2 109 rfl
theorem q445 : (Jvm.Cond.fieldLinkNest "WheelLand" (374 : Nat) "WheelLand$House" "heads" "I" "WheelLand") ∈ lw_tbl := lw_at lw_m2 111 rfl
theorem q448 : (Jvm.Cond.fieldLinkNest "WheelLand" (240 : Nat) "WheelLand$House" "village" "LWheelLand$Village;" "WheelLand") ∈ lw_tbl := lw_at lw_m2 114 rfl
theorem q450 : (Jvm.Cond.fieldLinkNest "WheelLand" (202 : Nat) "WheelLand$House" "wheels" "I" "WheelLand") ∈ lw_tbl := lw_at lw_m2 116 rfl
theorem q452 : (Jvm.Cond.fieldLinkNest "WheelLand" (237 : Nat) "WheelLand$House" "skill" "I" "WheelLand") ∈ lw_tbl := lw_at lw_m2 118 rfl
theorem q453 : (Jvm.Cond.fieldLinkNest "WheelLand" (177 : Nat) "WheelLand$House" "purse" "I" "WheelLand") ∈ lw_tbl := lw_at lw_m2 119 rfl
theorem q456 : (Jvm.Cond.fieldLinkNest "WheelLand" (173 : Nat) "WheelLand$House" "aim" "I" "WheelLand") ∈ lw_tbl := lw_at lw_m2 122 rfl
theorem q457 : (Jvm.Cond.fieldLinkNest "WheelLand" (287 : Nat) "WheelLand$House" "bare" "I" "WheelLand") ∈ lw_tbl := lw_at lw_m2 123 rfl
theorem q458 : (Jvm.Cond.fieldLinkNest "WheelLand" (290 : Nat) "WheelLand$House" "ofHand" "I" "WheelLand") ∈ lw_tbl := lw_at lw_m2 124 rfl
theorem q459 : (Jvm.Cond.fieldLinkNest "WheelLand" (299 : Nat) "WheelLand$House" "ofMill" "I" "WheelLand") ∈ lw_tbl := lw_at lw_m2 125 rfl
theorem q460 : (Jvm.Cond.fieldLinkNest "WheelLand" (205 : Nat) "WheelLand$House" "owes" "I" "WheelLand") ∈ lw_tbl := lw_at lw_m2 126 rfl
theorem q461 : (Jvm.Cond.fieldLinkNest "WheelLand" (390 : Nat) "WheelLand$House" "paid" "I" "WheelLand") ∈ lw_tbl := lw_at lw_m2 127 rfl
theorem q462 : (Jvm.Cond.fieldLinkNest "WheelLand" (393 : Nat) "WheelLand$House" "other" "I" "WheelLand") ∈ lw_tbl := lw_at lw_m2 128 rfl
theorem q463 : (Jvm.Cond.fieldLinkNest "WheelLand" (234 : Nat) "WheelLand$House" "can" "I" "WheelLand") ∈ lw_tbl := lw_at lw_m2 129 rfl
theorem q465 : (Jvm.Cond.fieldLinkNest "WheelLand" (161 : Nat) "WheelLand$House" "loom" "LWheelLand$Loom;" "WheelLand") ∈ lw_tbl := lw_at lw_m2 131 rfl
theorem q500 : (Jvm.Cond.instanceMethod ({ cls := "WheelLand", name := "loom", desc := "(III)Z" } : Jvm.MethodName)) ∈ lw_all := lw_g (lw_at lw_m2 166 rfl) rfl
theorem q501 : (Jvm.Cond.selects "WheelLand" ({ cls := "WheelLand", name := "loom", desc := "(III)Z" } : Jvm.MethodName) ({ cls := "WheelLand", name := "loom", desc := "(III)Z" } : Jvm.MethodName)) ∈ lw_all := lw_g (lw_at lw_m2 167 rfl) rfl
theorem q502 : (Jvm.Cond.code ({ cls := "WheelLand", name := "loom", desc := "(III)Z" } : Jvm.MethodName) prog_1_method_18_code (5 : Nat) (Option.some Jvm.ClassFile.FieldType.boolean)) ∈ lw_all := lw_g (lw_at lw_m2 168 rfl) rfl
theorem q503 : (Jvm.Cond.methodLink "WheelLand" (157 : Nat) ({ cls := "WheelLand", name := "findHouse", desc := "(I)LWheelLand$House;" } : Jvm.MethodName)) ∈ lw_all := lw_g (lw_at lw_m2 169 rfl) rfl
theorem q504 : (Jvm.Cond.privateMethod ({ cls := "WheelLand", name := "findHouse", desc := "(I)LWheelLand$House;" } : Jvm.MethodName)) ∈ lw_tbl := lw_at lw_m2 170 rfl
theorem q505 : (Jvm.Cond.instanceMethod ({ cls := "WheelLand", name := "findHouse", desc := "(I)LWheelLand$House;" } : Jvm.MethodName)) ∈ lw_all := lw_g (lw_at lw_m2 171 rfl) rfl
theorem q506 : (Jvm.Cond.code ({ cls := "WheelLand", name := "findHouse", desc := "(I)LWheelLand$House;" } : Jvm.MethodName) prog_1_method_7_code (2 : Nat) (Option.some (Jvm.ClassFile.FieldType.object "WheelLand$House"))) ∈ lw_all := lw_g (lw_at lw_m2 172 rfl) rfl
theorem q507 : (Jvm.Cond.methodLink "WheelLand" (165 : Nat) ({ cls := "WheelLand", name := "isCount", desc := "(I)Z" } : Jvm.MethodName)) ∈ lw_all := lw_g (lw_at lw_m2 173 rfl) rfl
theorem q508 : (Jvm.Cond.static ({ cls := "WheelLand", name := "isCount", desc := "(I)Z" } : Jvm.MethodName)) ∈ lw_all := lw_g (lw_at lw_m2 174 rfl) rfl
theorem q509 : (Jvm.Cond.code ({ cls := "WheelLand", name := "isCount", desc := "(I)Z" } : Jvm.MethodName) prog_1_method_17_code (1 : Nat) (Option.some Jvm.ClassFile.FieldType.boolean)) ∈ lw_all := lw_g (lw_at lw_m2 175 rfl) rfl
theorem q510 : (Jvm.Cond.classLink "WheelLand" (169 : Nat) "WheelLand$Loom") ∈ lw_all := lw_g (lw_at lw_m2 176 rfl) rfl
theorem q512 : (Jvm.Cond.methodLink "WheelLand" (171 : Nat) ({ cls := "WheelLand$Loom", name := "<init>", desc := "(III)V" } : Jvm.MethodName)) ∈ lw_all := lw_g (lw_at lw_m2 178 rfl) rfl
theorem q517 : (Jvm.Cond.fieldLinkNest "WheelLand" (396 : Nat) "WheelLand$Loom" "from" "I" "WheelLand") ∈ lw_tbl := lw_at lw_m2 183 rfl
theorem q519 : (Jvm.Cond.fieldLinkNest "WheelLand" (399 : Nat) "WheelLand$Loom" "to" "I" "WheelLand") ∈ lw_tbl := lw_at lw_m2 185 rfl
theorem q522 : (Jvm.Cond.fieldLinkNest "WheelLand" (410 : Nat) "WheelLand$Loom" "hanks" "I" "WheelLand") ∈ lw_tbl := lw_at lw_m2 188 rfl
theorem q523 : (Jvm.Cond.fieldLinkNest "WheelLand" (227 : Nat) "WheelLand$Loom" "woven" "I" "WheelLand") ∈ lw_tbl := lw_at lw_m2 189 rfl
theorem q534 : (Jvm.Cond.instanceMethod ({ cls := "WheelLand", name := "aim", desc := "(II)Z" } : Jvm.MethodName)) ∈ lw_all := lw_g (lw_at lw_m2 200 rfl) rfl
theorem q535 : (Jvm.Cond.selects "WheelLand" ({ cls := "WheelLand", name := "aim", desc := "(II)Z" } : Jvm.MethodName) ({ cls := "WheelLand", name := "aim", desc := "(II)Z" } : Jvm.MethodName)) ∈ lw_all := lw_g (lw_at lw_m2 201 rfl) rfl
theorem q536 : (Jvm.Cond.code ({ cls := "WheelLand", name := "aim", desc := "(II)Z" } : Jvm.MethodName) prog_1_method_19_code (4 : Nat) (Option.some Jvm.ClassFile.FieldType.boolean)) ∈ lw_all := lw_g (lw_at lw_m2 202 rfl) rfl
theorem q538 : (Jvm.Cond.instanceMethod ({ cls := "WheelLand", name := "coins", desc := "(II)I" } : Jvm.MethodName)) ∈ lw_all := lw_g (lw_at lw_m2 204 rfl) rfl
theorem q539 : (Jvm.Cond.selects "WheelLand" ({ cls := "WheelLand", name := "coins", desc := "(II)I" } : Jvm.MethodName) ({ cls := "WheelLand", name := "coins", desc := "(II)I" } : Jvm.MethodName)) ∈ lw_all := lw_g (lw_at lw_m2 205 rfl) rfl
theorem q540 : (Jvm.Cond.code ({ cls := "WheelLand", name := "coins", desc := "(II)I" } : Jvm.MethodName) prog_1_method_20_code (4 : Nat) (Option.some Jvm.ClassFile.FieldType.int)) ∈ lw_all := lw_g (lw_at lw_m2 206 rfl) rfl
theorem q541 : (Jvm.Cond.constant "WheelLand" (176 : Nat) (-2147483648 : Int32)) ∈ lw_all := lw_g (lw_at lw_m2 207 rfl) rfl
theorem q543 : (Jvm.Cond.instanceMethod ({ cls := "WheelLand", name := "cotton", desc := "(II)I" } : Jvm.MethodName)) ∈ lw_all := lw_g (lw_at lw_m2 209 rfl) rfl
theorem q544 : (Jvm.Cond.selects "WheelLand" ({ cls := "WheelLand", name := "cotton", desc := "(II)I" } : Jvm.MethodName) ({ cls := "WheelLand", name := "cotton", desc := "(II)I" } : Jvm.MethodName)) ∈ lw_all := lw_g (lw_at lw_m2 210 rfl) rfl
theorem q545 : (Jvm.Cond.code ({ cls := "WheelLand", name := "cotton", desc := "(II)I" } : Jvm.MethodName) prog_1_method_21_code (4 : Nat) (Option.some Jvm.ClassFile.FieldType.int)) ∈ lw_all := lw_g (lw_at lw_m2 211 rfl) rfl
theorem q547 : (Jvm.Cond.instanceMethod ({ cls := "WheelLand", name := "go", desc := "(I)I" } : Jvm.MethodName)) ∈ lw_all := lw_g (lw_at lw_m2 213 rfl) rfl
theorem q548 : (Jvm.Cond.selects "WheelLand" ({ cls := "WheelLand", name := "go", desc := "(I)I" } : Jvm.MethodName) ({ cls := "WheelLand", name := "go", desc := "(I)I" } : Jvm.MethodName)) ∈ lw_all := lw_g (lw_at lw_m2 214 rfl) rfl
theorem q549 : (Jvm.Cond.code ({ cls := "WheelLand", name := "go", desc := "(I)I" } : Jvm.MethodName) prog_1_method_22_code (3 : Nat) (Option.some Jvm.ClassFile.FieldType.int)) ∈ lw_all := lw_g (lw_at lw_m2 215 rfl) rfl
theorem q550 : (Jvm.Cond.methodLink "WheelLand" (183 : Nat) ({ cls := "WheelLand", name := "ends", desc := "()V" } : Jvm.MethodName)) ∈ lw_all := lw_g (lw_at lw_m2 216 rfl) rfl
theorem q551 : (Jvm.Cond.privateMethod ({ cls := "WheelLand", name := "ends", desc := "()V" } : Jvm.MethodName)) ∈ lw_tbl := lw_at lw_m2 217 rfl
theorem q552 : (Jvm.Cond.instanceMethod ({ cls := "WheelLand", name := "ends", desc := "()V" } : Jvm.MethodName)) ∈ lw_all := lw_g (lw_at lw_m2 218 rfl) rfl
theorem q553 : (Jvm.Cond.code ({ cls := "WheelLand", name := "ends", desc := "()V" } : Jvm.MethodName) prog_1_method_23_code (2 : Nat) (Option.none : Option Jvm.ClassFile.FieldType)) ∈ lw_all := lw_g (lw_at lw_m2 219 rfl) rfl
theorem q554 : (Jvm.Cond.methodLink "WheelLand" (189 : Nat) ({ cls := "WheelLand", name := "spins", desc := "(LWheelLand$House;)V" } : Jvm.MethodName)) ∈ lw_all := lw_g (lw_at lw_m2 220 rfl) rfl
theorem q555 : (Jvm.Cond.privateMethod ({ cls := "WheelLand", name := "spins", desc := "(LWheelLand$House;)V" } : Jvm.MethodName)) ∈ lw_tbl := lw_at lw_m2 221 rfl
theorem q556 : (Jvm.Cond.instanceMethod ({ cls := "WheelLand", name := "spins", desc := "(LWheelLand$House;)V" } : Jvm.MethodName)) ∈ lw_all := lw_g (lw_at lw_m2 222 rfl) rfl
theorem q557 : (Jvm.Cond.code ({ cls := "WheelLand", name := "spins", desc := "(LWheelLand$House;)V" } : Jvm.MethodName) prog_1_method_24_code (4 : Nat) (Option.none : Option Jvm.ClassFile.FieldType)) ∈ lw_all := lw_g (lw_at lw_m2 223 rfl) rfl
theorem q558 : (Jvm.Cond.methodLink "WheelLand" (230 : Nat) ({ cls := "WheelLand$House", name := "hours", desc := "(I)I" } : Jvm.MethodName)) ∈ lw_all := lw_g (lw_at lw_m2 224 rfl) rfl
theorem q563 : (Jvm.Cond.static ({ cls := "WheelLand", name := "seasonOf", desc := "(I)I" } : Jvm.MethodName)) ∈ lw_all := lw_g (lw_at lw_m2 229 rfl) rfl
theorem q564 : (Jvm.Cond.code ({ cls := "WheelLand", name := "seasonOf", desc := "(I)I" } : Jvm.MethodName) prog_1_method_4_code (1 : Nat) (Option.some Jvm.ClassFile.FieldType.int)) ∈ lw_all := lw_g (lw_at lw_m2 230 rfl) rfl
theorem q565 : (Jvm.Cond.methodLink "WheelLand" (244 : Nat) ({ cls := "WheelLand", name := "hanksOf", desc := "(IIII)I" } : Jvm.MethodName)) ∈ lw_all := lw_g (lw_at lw_m2 231 rfl) rfl
theorem q566 : (Jvm.Cond.static ({ cls := "WheelLand", name := "hanksOf", desc := "(IIII)I" } : Jvm.MethodName)) ∈ lw_all := lw_g (lw_at lw_m2 232 rfl) rfl
theorem q567 : (Jvm.Cond.code ({ cls := "WheelLand", name := "hanksOf", desc := "(IIII)I" } : Jvm.MethodName) prog_1_method_25_code (4 : Nat) (Option.some Jvm.ClassFile.FieldType.int)) ∈ lw_all := lw_g (lw_at lw_m2 233 rfl) rfl
theorem q568 : (Jvm.Cond.methodLink "WheelLand" (257 : Nat) ({ cls := "java/lang/Math", name := "min", desc := "(II)I" } : Jvm.MethodName)) ∈ lw_all := lw_g (lw_at lw_m2 234 rfl) rfl
theorem q572 : (Jvm.Cond.methodLink "WheelLand" (248 : Nat) ({ cls := "WheelLand$Lot", name := "<init>", desc := "(ILWheelLand$House;II)V" } : Jvm.MethodName)) ∈ lw_all := lw_g (lw_at lw_m2 238 rfl) rfl
theorem q587 : (Jvm.Cond.fieldLinkNest "WheelLand" (432 : Nat) "WheelLand$Lot" "number" "I" "WheelLand") ∈ lw_tbl := lw_at lw_m3 13 rfl
theorem q589 : (Jvm.Cond.fieldLinkNest "WheelLand" (329 : Nat) "WheelLand$Lot" "count" "I" "WheelLand") ∈ lw_tbl := lw_at lw_m3 15 rfl
theorem q591 : (Jvm.Cond.fieldLinkNest "WheelLand" (332 : Nat) "WheelLand$Lot" "strength" "I" "WheelLand") ∈ lw_tbl := lw_at lw_m3 17 rfl
theorem q593 : (Jvm.Cond.fieldLinkNest "WheelLand" (335 : Nat) "WheelLand$Lot" "hanks" "I" "WheelLand") ∈ lw_tbl := lw_at lw_m3 19 rfl
theorem q595 : (Jvm.Cond.fieldLinkNest "WheelLand" (308 : Nat) "WheelLand$Lot" "left" "I" "WheelLand") ∈ lw_tbl := lw_at lw_m3 21 rfl
theorem q599 : (Jvm.Cond.fieldLink "WheelLand" (321 : Nat) "WheelLand$Lot" "house" "LWheelLand$House;") ∈ lw_all := lw_g (lw_at lw_m3 25 rfl) rfl
theorem q600 : (Jvm.Cond.fieldLink "WheelLand" (433 : Nat) "WheelLand$Cloth" "house" "LWheelLand$House;") ∈ lw_all := lw_g (lw_at lw_m3 26 rfl) rfl
theorem q603 : (Jvm.Cond.fieldLink "WheelLand" (326 : Nat) "WheelLand$Lot" "week" "I") ∈ lw_all := lw_g (lw_at lw_m3 29 rfl) rfl
theorem q605 : (Jvm.Cond.fieldLink "WheelLand" (434 : Nat) "WheelLand$Cloth" "week" "I") ∈ lw_all := lw_g (lw_at lw_m3 31 rfl) rfl
theorem q622 : (Jvm.Cond.methodLink "WheelLand" (251 : Nat) ({ cls := "WheelLand", name := "begun", desc := "(II)I" } : Jvm.MethodName)) ∈ lw_all := lw_g (lw_at lw_m3 48 rfl) rfl
theorem q623 : (Jvm.Cond.static ({ cls := "WheelLand", name := "begun", desc := "(II)I" } : Jvm.MethodName)) ∈ lw_all := lw_g (lw_at lw_m3 49 rfl) rfl
theorem q624 : (Jvm.Cond.code ({ cls := "WheelLand", name := "begun", desc := "(II)I" } : Jvm.MethodName) prog_1_method_3_code (2 : Nat) (Option.some Jvm.ClassFile.FieldType.int)) ∈ lw_all := lw_g (lw_at lw_m3 50 rfl) rfl
theorem q625 : (Jvm.Cond.methodLink "WheelLand" (193 : Nat) ({ cls := "WheelLand$House", name := "needs", desc := "(I)Z" } : Jvm.MethodName)) ∈ lw_all := lw_g (lw_at lw_m3 51 rfl) rfl
theorem q629 : (Jvm.Cond.methodLink "WheelLand" (196 : Nat) ({ cls := "WheelLand", name := "buys", desc := "(LWheelLand$House;)V" } : Jvm.MethodName)) ∈ lw_all := lw_g (lw_at lw_m3 55 rfl) rfl
theorem q630 : (Jvm.Cond.privateMethod ({ cls := "WheelLand", name := "buys", desc := "(LWheelLand$House;)V" } : Jvm.MethodName)) ∈ lw_tbl := lw_at lw_m3 56 rfl
theorem q631 : (Jvm.Cond.instanceMethod ({ cls := "WheelLand", name := "buys", desc := "(LWheelLand$House;)V" } : Jvm.MethodName)) ∈ lw_all := lw_g (lw_at lw_m3 57 rfl) rfl
theorem q632 : (Jvm.Cond.code ({ cls := "WheelLand", name := "buys", desc := "(LWheelLand$House;)V" } : Jvm.MethodName) prog_1_method_28_code (5 : Nat) (Option.none : Option Jvm.ClassFile.FieldType)) ∈ lw_all := lw_g (lw_at lw_m3 58 rfl) rfl
theorem q633 : (Jvm.Cond.methodLink "WheelLand" (283 : Nat) ({ cls := "WheelLand", name := "choice", desc := "(LWheelLand$House;)I" } : Jvm.MethodName)) ∈ lw_all := lw_g (lw_at lw_m3 59 rfl) rfl
theorem q634 : (Jvm.Cond.privateMethod ({ cls := "WheelLand", name := "choice", desc := "(LWheelLand$House;)I" } : Jvm.MethodName)) ∈ lw_tbl := lw_at lw_m3 60 rfl
theorem q635 : (Jvm.Cond.instanceMethod ({ cls := "WheelLand", name := "choice", desc := "(LWheelLand$House;)I" } : Jvm.MethodName)) ∈ lw_all := lw_g (lw_at lw_m3 61 rfl) rfl
theorem q636 : (Jvm.Cond.code ({ cls := "WheelLand", name := "choice", desc := "(LWheelLand$House;)I" } : Jvm.MethodName) prog_1_method_27_code (7 : Nat) (Option.some Jvm.ClassFile.FieldType.int)) ∈ lw_all := lw_g (lw_at lw_m3 62 rfl) rfl
theorem q637 : (Jvm.Cond.methodLink "WheelLand" (266 : Nat) ({ cls := "WheelLand", name := "dutyAt", desc := "(LWheelLand$Village;)I" } : Jvm.MethodName)) ∈ lw_all := lw_g (lw_at lw_m3 63 rfl) rfl
theorem q638 : (Jvm.Cond.privateMethod ({ cls := "WheelLand", name := "dutyAt", desc := "(LWheelLand$Village;)I" } : Jvm.MethodName)) ∈ lw_tbl := lw_at lw_m3 64 rfl
theorem q639 : (Jvm.Cond.instanceMethod ({ cls := "WheelLand", name := "dutyAt", desc := "(LWheelLand$Village;)I" } : Jvm.MethodName)) ∈ lw_all := lw_g (lw_at lw_m3 65 rfl) rfl
theorem q640 : (Jvm.Cond.code ({ cls := "WheelLand", name := "dutyAt", desc := "(LWheelLand$Village;)I" } : Jvm.MethodName) prog_1_method_26_code (2 : Nat) (Option.some Jvm.ClassFile.FieldType.int)) ∈ lw_all := lw_g (lw_at lw_m3 66 rfl) rfl
theorem q641 : (Jvm.Cond.methodLink "WheelLand" (259 : Nat) ({ cls := "WheelLand", name := "clears", desc := "(I)V" } : Jvm.MethodName)) ∈ lw_all := lw_g (lw_at lw_m3 67 rfl) rfl
theorem q642 : (Jvm.Cond.privateMethod ({ cls := "WheelLand", name := "clears", desc := "(I)V" } : Jvm.MethodName)) ∈ lw_tbl := lw_at lw_m3 68 rfl
theorem q643 : (Jvm.Cond.instanceMethod ({ cls := "WheelLand", name := "clears", desc := "(I)V" } : Jvm.MethodName)) ∈ lw_all := lw_g (lw_at lw_m3 69 rfl) rfl
theorem q644 : (Jvm.Cond.code ({ cls := "WheelLand", name := "clears", desc := "(I)V" } : Jvm.MethodName) prog_1_method_40_code (3 : Nat) (Option.none : Option Jvm.ClassFile.FieldType)) ∈ lw_all := lw_g (lw_at lw_m3 70 rfl) rfl
theorem q645 : (Jvm.Cond.methodLink "WheelLand" (366 : Nat) ({ cls := "WheelLand", name := "seasonOf", desc := "(I)I" } : Jvm.MethodName)) ∈ lw_all := lw_g (lw_at lw_m3 71 rfl) rfl
theorem q646 : (Jvm.Cond.methodLink "WheelLand" (263 : Nat) ({ cls := "WheelLand", name := "value", desc := "(I)I" } : Jvm.MethodName)) ∈ lw_all := lw_g (lw_at lw_m3 72 rfl) rfl
theorem q647 : (Jvm.Cond.privateMethod ({ cls := "WheelLand", name := "value", desc := "(I)I" } : Jvm.MethodName)) ∈ lw_tbl := lw_at lw_m3 73 rfl
theorem q648 : (Jvm.Cond.instanceMethod ({ cls := "WheelLand", name := "value", desc := "(I)I" } : Jvm.MethodName)) ∈ lw_all := lw_g (lw_at lw_m3 74 rfl) rfl
theorem q649 : (Jvm.Cond.code ({ cls := "WheelLand", name := "value", desc := "(I)I" } : Jvm.MethodName) prog_1_method_41_code (3 : Nat) (Option.some Jvm.ClassFile.FieldType.int)) ∈ lw_all := lw_g (lw_at lw_m3 75 rfl) rfl
theorem q650 : (Jvm.Cond.methodLink "WheelLand" (363 : Nat) ({ cls := "WheelLand", name := "inForce", desc := "(II)I" } : Jvm.MethodName)) ∈ lw_all := lw_g (lw_at lw_m3 76 rfl) rfl
theorem q651 : (Jvm.Cond.privateMethod ({ cls := "WheelLand", name := "inForce", desc := "(II)I" } : Jvm.MethodName)) ∈ lw_tbl := lw_at lw_m3 77 rfl
theorem q652 : (Jvm.Cond.instanceMethod ({ cls := "WheelLand", name := "inForce", desc := "(II)I" } : Jvm.MethodName)) ∈ lw_all := lw_g (lw_at lw_m3 78 rfl) rfl
theorem q653 : (Jvm.Cond.code ({ cls := "WheelLand", name := "inForce", desc := "(II)I" } : Jvm.MethodName) prog_1_method_38_code (6 : Nat) (Option.some Jvm.ClassFile.FieldType.int)) ∈ lw_all := lw_g (lw_at lw_m3 79 rfl) rfl
theorem q654 : (Jvm.Cond.methodLink "WheelLand" (369 : Nat) ({ cls := "WheelLand$Steps", name := "value", desc := "([I[I)I" } : Jvm.MethodName)) ∈ lw_all := lw_g (lw_at lw_m3 80 rfl) rfl
theorem q662 : (Jvm.Cond.static ({ cls := "WheelLand", name := "near", desc := "(J)I" } : Jvm.MethodName)) ∈ lw_all := lw_g (lw_at lw_m3 88 rfl) rfl
theorem q663 : (Jvm.Cond.code ({ cls := "WheelLand", name := "near", desc := "(J)I" } : Jvm.MethodName) prog_1_method_2_code (2 : Nat) (Option.some Jvm.ClassFile.FieldType.int)) ∈ lw_all := lw_g (lw_at lw_m3 89 rfl) rfl
theorem q664 : (Jvm.Cond.constantLong "WheelLand" (3 : Nat) (-1000000 : Int64)) ∈ lw_all := lw_g (lw_at lw_m3 90 rfl) rfl
theorem q665 : (Jvm.Cond.constantLong "WheelLand" (5 : Nat) (1000000 : Int64)) ∈ lw_all := lw_g (lw_at lw_m3 91 rfl) rfl
theorem q666 : (Jvm.Cond.methodLink "WheelLand" (7 : Nat) ({ cls := "java/lang/Math", name := "min", desc := "(JJ)J" } : Jvm.MethodName)) ∈ lw_all := lw_g (lw_at lw_m3 92 rfl) rfl
theorem q669 : (Jvm.Cond.methodLink "WheelLand" (13 : Nat) ({ cls := "java/lang/Math", name := "max", desc := "(JJ)J" } : Jvm.MethodName)) ∈ lw_all := lw_g (lw_at lw_m3 95 rfl) rfl
theorem q672 : (Jvm.Cond.methodLink "WheelLand" (212 : Nat) ({ cls := "java/lang/Math", name := "max", desc := "(II)I" } : Jvm.MethodName)) ∈ lw_all := lw_g (lw_at lw_m3 98 rfl) rfl
theorem q673 : (Jvm.Cond.methodLink "WheelLand" (270 : Nat) ({ cls := "WheelLand$Village", name := "hasHand", desc := "()Z" } : Jvm.MethodName)) ∈ lw_all := lw_g (lw_at lw_m3 99 rfl) rfl
theorem q677 : (Jvm.Cond.methodLink "WheelLand" (293 : Nat) ({ cls := "WheelLand$Village", name := "sellsHand", desc := "()V" } : Jvm.MethodName)) ∈ lw_all := lw_g (lw_at lw_m3 103 rfl) rfl
theorem q681 : (Jvm.Cond.methodLink "WheelLand" (302 : Nat) ({ cls := "WheelLand$Village", name := "sellsMill", desc := "()V" } : Jvm.MethodName)) ∈ lw_all := lw_g (lw_at lw_m3 107 rfl) rfl
theorem q685 : (Jvm.Cond.methodLink "WheelLand" (199 : Nat) ({ cls := "WheelLand", name := "words", desc := "()V" } : Jvm.MethodName)) ∈ lw_all := lw_g (lw_at lw_m3 111 rfl) rfl
theorem q686 : (Jvm.Cond.privateMethod ({ cls := "WheelLand", name := "words", desc := "()V" } : Jvm.MethodName)) ∈ lw_tbl := lw_at lw_m3 112 rfl
theorem q687 : (Jvm.Cond.instanceMethod ({ cls := "WheelLand", name := "words", desc := "()V" } : Jvm.MethodName)) ∈ lw_all := lw_g (lw_at lw_m3 113 rfl) rfl
theorem q688 : (Jvm.Cond.code ({ cls := "WheelLand", name := "words", desc := "()V" } : Jvm.MethodName) prog_1_method_29_code (4 : Nat) (Option.none : Option Jvm.ClassFile.FieldType)) ∈ lw_all := lw_g (lw_at lw_m3 114 rfl) rfl
theorem q689 : (Jvm.Cond.methodLink "WheelLand" (208 : Nat) ({ cls := "WheelLand", name := "asksHouse", desc := "(ILWheelLand$House;)I" } : Jvm.MethodName)) ∈ lw_all := lw_g (lw_at lw_m3 115 rfl) rfl
theorem q690 : (Jvm.Cond.privateMethod ({ cls := "WheelLand", name := "asksHouse", desc := "(ILWheelLand$House;)I" } : Jvm.MethodName)) ∈ lw_tbl := lw_at lw_m3 116 rfl
theorem q691 : (Jvm.Cond.instanceMethod ({ cls := "WheelLand", name := "asksHouse", desc := "(ILWheelLand$House;)I" } : Jvm.MethodName)) ∈ lw_all := lw_g (lw_at lw_m3 117 rfl) rfl
theorem q692 : (Jvm.Cond.code ({ cls := "WheelLand", name := "asksHouse", desc := "(ILWheelLand$House;)I" } : Jvm.MethodName) prog_1_method_43_code (3 : Nat) (Option.some Jvm.ClassFile.FieldType.int)) ∈ lw_all := lw_g (lw_at lw_m3 118 rfl) rfl
theorem q693 : (Jvm.Cond.methodLink "WheelLand" (383 : Nat) ({ cls := "WheelLand", name := "ofHouse", desc := "(LWheelLand$House;)V" } : Jvm.MethodName)) ∈ lw_all := lw_g (lw_at lw_m3 119 rfl) rfl
theorem q694 : (Jvm.Cond.privateMethod ({ cls := "WheelLand", name := "ofHouse", desc := "(LWheelLand$House;)V" } : Jvm.MethodName)) ∈ lw_tbl := lw_at lw_m3 120 rfl
theorem q695 : (Jvm.Cond.instanceMethod ({ cls := "WheelLand", name := "ofHouse", desc := "(LWheelLand$House;)V" } : Jvm.MethodName)) ∈ lw_all := lw_g (lw_at lw_m3 121 rfl) rfl
theorem q696 : (Jvm.Cond.code ({ cls := "WheelLand", name := "ofHouse", desc := "(LWheelLand$House;)V" } : Jvm.MethodName) prog_1_method_42_code (2 : Nat) (Option.none : Option Jvm.ClassFile.FieldType)) ∈ lw_all := lw_g (lw_at lw_m3 122 rfl) rfl
theorem q697 : (Jvm.Cond.methodLink "WheelLand" (215 : Nat) ({ cls := "WheelLand$Village", name := "answers", desc := "()V" } : Jvm.MethodName)) ∈ lw_all := lw_g (lw_at lw_m3 123 rfl) rfl
theorem q703 : (Jvm.Cond.methodLink "WheelLand" (218 : Nat) ({ cls := "WheelLand", name := "tells", desc := "()V" } : Jvm.MethodName)) ∈ lw_all := lw_g (lw_at lw_m3 129 rfl) rfl
theorem q704 : (Jvm.Cond.privateMethod ({ cls := "WheelLand", name := "tells", desc := "()V" } : Jvm.MethodName)) ∈ lw_tbl := lw_at lw_m3 130 rfl
theorem q705 : (Jvm.Cond.instanceMethod ({ cls := "WheelLand", name := "tells", desc := "()V" } : Jvm.MethodName)) ∈ lw_all := lw_g (lw_at lw_m3 131 rfl) rfl
theorem q706 : (Jvm.Cond.code ({ cls := "WheelLand", name := "tells", desc := "()V" } : Jvm.MethodName) prog_1_method_30_code (3 : Nat) (Option.none : Option Jvm.ClassFile.FieldType)) ∈ lw_all := lw_g (lw_at lw_m3 132 rfl) rfl
theorem q708 : (Jvm.Cond.instanceMethod ({ cls := "WheelLand", name := "lot", desc := "(II)I" } : Jvm.MethodName)) ∈ lw_all := lw_g (lw_at lw_m3 134 rfl) rfl
theorem q709 : (Jvm.Cond.selects "WheelLand" ({ cls := "WheelLand", name := "lot", desc := "(II)I" } : Jvm.MethodName) ({ cls := "WheelLand", name := "lot", desc := "(II)I" } : Jvm.MethodName)) ∈ lw_all := lw_g (lw_at lw_m3 135 rfl) rfl
theorem q710 : (Jvm.Cond.code ({ cls := "WheelLand", name := "lot", desc := "(II)I" } : Jvm.MethodName) prog_1_method_31_code (4 : Nat) (Option.some Jvm.ClassFile.FieldType.int)) ∈ lw_all := lw_g (lw_at lw_m3 136 rfl) rfl
theorem q711 : (Jvm.Cond.methodLink "WheelLand" (317 : Nat) ({ cls := "WheelLand", name := "findLot", desc := "(I)LWheelLand$Lot;" } : Jvm.MethodName)) ∈ lw_all := lw_g (lw_at lw_m3 137 rfl) rfl
theorem q712 : (Jvm.Cond.privateMethod ({ cls := "WheelLand", name := "findLot", desc := "(I)LWheelLand$Lot;" } : Jvm.MethodName)) ∈ lw_tbl := lw_at lw_m3 138 rfl
theorem q713 : (Jvm.Cond.instanceMethod ({ cls := "WheelLand", name := "findLot", desc := "(I)LWheelLand$Lot;" } : Jvm.MethodName)) ∈ lw_all := lw_g (lw_at lw_m3 139 rfl) rfl
theorem q714 : (Jvm.Cond.code ({ cls := "WheelLand", name := "findLot", desc := "(I)LWheelLand$Lot;" } : Jvm.MethodName) prog_1_method_8_code (2 : Nat) (Option.some (Jvm.ClassFile.FieldType.object "WheelLand$Lot"))) ∈ lw_all := lw_g (lw_at lw_m3 140 rfl) rfl
theorem q716 : (Jvm.Cond.instanceMethod ({ cls := "WheelLand", name := "feed", desc := "(IIIII)I" } : Jvm.MethodName)) ∈ lw_all := lw_g (lw_at lw_m3 142 rfl) rfl
theorem q717 : (Jvm.Cond.selects "WheelLand" ({ cls := "WheelLand", name := "feed", desc := "(IIIII)I" } : Jvm.MethodName) ({ cls := "WheelLand", name := "feed", desc := "(IIIII)I" } : Jvm.MethodName)) ∈ lw_all := lw_g (lw_at lw_m3 143 rfl) rfl
theorem q718 : (Jvm.Cond.code ({ cls := "WheelLand", name := "feed", desc := "(IIIII)I" } : Jvm.MethodName) prog_1_method_32_code (6 : Nat) (Option.some Jvm.ClassFile.FieldType.int)) ∈ lw_all := lw_g (lw_at lw_m3 144 rfl) rfl
theorem q719 : (Jvm.Cond.methodLink "WheelLand" (341 : Nat) ({ cls := "WheelLand", name := "feeds", desc := "(I)V" } : Jvm.MethodName)) ∈ lw_all := lw_g (lw_at lw_m3 145 rfl) rfl
theorem q720 : (Jvm.Cond.privateMethod ({ cls := "WheelLand", name := "feeds", desc := "(I)V" } : Jvm.MethodName)) ∈ lw_tbl := lw_at lw_m3 146 rfl
theorem q721 : (Jvm.Cond.instanceMethod ({ cls := "WheelLand", name := "feeds", desc := "(I)V" } : Jvm.MethodName)) ∈ lw_all := lw_g (lw_at lw_m3 147 rfl) rfl
theorem q722 : (Jvm.Cond.code ({ cls := "WheelLand", name := "feeds", desc := "(I)V" } : Jvm.MethodName) prog_1_method_33_code (3 : Nat) (Option.none : Option Jvm.ClassFile.FieldType)) ∈ lw_all := lw_g (lw_at lw_m3 148 rfl) rfl
theorem q724 : (Jvm.Cond.instanceMethod ({ cls := "WheelLand", name := "end", desc := "(I)Z" } : Jvm.MethodName)) ∈ lw_all := lw_g (lw_at lw_m3 150 rfl) rfl
theorem q725 : (Jvm.Cond.selects "WheelLand" ({ cls := "WheelLand", name := "end", desc := "(I)Z" } : Jvm.MethodName) ({ cls := "WheelLand", name := "end", desc := "(I)Z" } : Jvm.MethodName)) ∈ lw_all := lw_g (lw_at lw_m3 151 rfl) rfl
theorem q726 : (Jvm.Cond.code ({ cls := "WheelLand", name := "end", desc := "(I)Z" } : Jvm.MethodName) prog_1_method_34_code (2 : Nat) (Option.some Jvm.ClassFile.FieldType.boolean)) ∈ lw_all := lw_g (lw_at lw_m3 152 rfl) rfl
theorem q728 : (Jvm.Cond.instanceMethod ({ cls := "WheelLand", name := "fault", desc := "()I" } : Jvm.MethodName)) ∈ lw_all := lw_g (lw_at lw_m3 154 rfl) rfl
theorem q729 : (Jvm.Cond.selects "WheelLand" ({ cls := "WheelLand", name := "fault", desc := "()I" } : Jvm.MethodName) ({ cls := "WheelLand", name := "fault", desc := "()I" } : Jvm.MethodName)) ∈ lw_all := lw_g (lw_at lw_m3 155 rfl) rfl
theorem q730 : (Jvm.Cond.codeWith ({ cls := "WheelLand", name := "fault", desc := "()I" } : Jvm.MethodName) prog_1_method_35_code (2 : Nat) (Option.some Jvm.ClassFile.FieldType.int) [((0 : Nat), (17 : Nat), (18 : Nat), (348 : Nat))]) ∈ lw_all := lw_g (lw_at lw_m3 156 rfl) rfl
theorem q731 : (Jvm.Cond.classLink "WheelLand" (348 : Nat) "WheelLand$Fault") ∈ lw_all := lw_g (lw_at lw_m3 157 rfl) rfl
theorem q732 : (Jvm.Cond.methodLink "WheelLand" (344 : Nat) ({ cls := "WheelLand$Reader", name := "read", desc := "([BI)LWheelLand$Sheet;" } : Jvm.MethodName)) ∈ lw_all := lw_g (lw_at lw_m3 158 rfl) rfl
theorem q746 : (Jvm.Cond.fieldLinkNest "WheelLand" (359 : Nat) "WheelLand$Sheet" "clauses" "[LWheelLand$Steps;" "WheelLand") ∈ lw_tbl := lw_at lw_m3 172 rfl
theorem q899 : (Jvm.Cond.fieldLinkNest "WheelLand" (350 : Nat) "WheelLand$Fault" "place" "I" "WheelLand") ∈ lw_tbl := lw_at lw_m4 85 rfl
theorem q1015 : (Jvm.Cond.instanceMethod ({ cls := "WheelLand", name := "sheet", desc := "()I" } : Jvm.MethodName)) ∈ lw_all := lw_g (lw_at lw_m4 201 rfl) rfl
theorem q1016 : (Jvm.Cond.selects "WheelLand" ({ cls := "WheelLand", name := "sheet", desc := "()I" } : Jvm.MethodName) ({ cls := "WheelLand", name := "sheet", desc := "()I" } : Jvm.MethodName)) ∈ lw_all := lw_g (lw_at lw_m4 202 rfl) rfl
theorem q1017 : (Jvm.Cond.codeWith ({ cls := "WheelLand", name := "sheet", desc := "()I" } : Jvm.MethodName) prog_1_method_36_code (2 : Nat) (Option.some Jvm.ClassFile.FieldType.int) [((11 : Nat), (35 : Nat), (38 : Nat), (348 : Nat))]) ∈ lw_all := lw_g (lw_at lw_m4 203 rfl) rfl
theorem q1019 : (Jvm.Cond.instanceMethod ({ cls := "WheelLand", name := "force", desc := "(II)I" } : Jvm.MethodName)) ∈ lw_all := lw_g (lw_at lw_m4 205 rfl) rfl
theorem q1020 : (Jvm.Cond.selects "WheelLand" ({ cls := "WheelLand", name := "force", desc := "(II)I" } : Jvm.MethodName) ({ cls := "WheelLand", name := "force", desc := "(II)I" } : Jvm.MethodName)) ∈ lw_all := lw_g (lw_at lw_m4 206 rfl) rfl
theorem q1021 : (Jvm.Cond.code ({ cls := "WheelLand", name := "force", desc := "(II)I" } : Jvm.MethodName) prog_1_method_37_code (3 : Nat) (Option.some Jvm.ClassFile.FieldType.int)) ∈ lw_all := lw_g (lw_at lw_m4 207 rfl) rfl
theorem q1023 : (Jvm.Cond.instanceMethod ({ cls := "WheelLand", name := "why", desc := "(II)I" } : Jvm.MethodName)) ∈ lw_all := lw_g (lw_at lw_m4 209 rfl) rfl
theorem q1024 : (Jvm.Cond.selects "WheelLand" ({ cls := "WheelLand", name := "why", desc := "(II)I" } : Jvm.MethodName) ({ cls := "WheelLand", name := "why", desc := "(II)I" } : Jvm.MethodName)) ∈ lw_all := lw_g (lw_at lw_m4 210 rfl) rfl
theorem q1025 : (Jvm.Cond.code ({ cls := "WheelLand", name := "why", desc := "(II)I" } : Jvm.MethodName) prog_1_method_39_code (3 : Nat) (Option.some Jvm.ClassFile.FieldType.int)) ∈ lw_all := lw_g (lw_at lw_m4 211 rfl) rfl
theorem q1027 : (Jvm.Cond.instanceMethod ({ cls := "WheelLand", name := "pay", desc := "(III)I" } : Jvm.MethodName)) ∈ lw_all := lw_g (lw_at lw_m4 213 rfl) rfl
theorem q1028 : (Jvm.Cond.selects "WheelLand" ({ cls := "WheelLand", name := "pay", desc := "(III)I" } : Jvm.MethodName) ({ cls := "WheelLand", name := "pay", desc := "(III)I" } : Jvm.MethodName)) ∈ lw_all := lw_g (lw_at lw_m4 214 rfl) rfl
theorem q1029 : (Jvm.Cond.code ({ cls := "WheelLand", name := "pay", desc := "(III)I" } : Jvm.MethodName) prog_1_method_46_code (6 : Nat) (Option.some Jvm.ClassFile.FieldType.int)) ∈ lw_all := lw_g (lw_at lw_m4 215 rfl) rfl
theorem q1031 : (Jvm.Cond.instanceMethod ({ cls := "WheelLand", name := "due", desc := "(II)I" } : Jvm.MethodName)) ∈ lw_all := lw_g (lw_at lw_m4 217 rfl) rfl
theorem q1032 : (Jvm.Cond.selects "WheelLand" ({ cls := "WheelLand", name := "due", desc := "(II)I" } : Jvm.MethodName) ({ cls := "WheelLand", name := "due", desc := "(II)I" } : Jvm.MethodName)) ∈ lw_all := lw_g (lw_at lw_m4 218 rfl) rfl
theorem q1033 : (Jvm.Cond.code ({ cls := "WheelLand", name := "due", desc := "(II)I" } : Jvm.MethodName) prog_1_method_47_code (4 : Nat) (Option.some Jvm.ClassFile.FieldType.int)) ∈ lw_all := lw_g (lw_at lw_m4 219 rfl) rfl
theorem q1035 : (Jvm.Cond.instanceMethod ({ cls := "WheelLand", name := "bar", desc := "(III)I" } : Jvm.MethodName)) ∈ lw_all := lw_g (lw_at lw_m4 221 rfl) rfl
theorem q1036 : (Jvm.Cond.selects "WheelLand" ({ cls := "WheelLand", name := "bar", desc := "(III)I" } : Jvm.MethodName) ({ cls := "WheelLand", name := "bar", desc := "(III)I" } : Jvm.MethodName)) ∈ lw_all := lw_g (lw_at lw_m4 222 rfl) rfl
theorem q1037 : (Jvm.Cond.code ({ cls := "WheelLand", name := "bar", desc := "(III)I" } : Jvm.MethodName) prog_1_method_51_code (6 : Nat) (Option.some Jvm.ClassFile.FieldType.int)) ∈ lw_all := lw_g (lw_at lw_m4 223 rfl) rfl
theorem q1038 : (Jvm.Cond.methodLink "WheelLand" (411 : Nat) ({ cls := "WheelLand", name := "canBeWoven", desc := "(I)Z" } : Jvm.MethodName)) ∈ lw_all := lw_g (lw_at lw_m4 224 rfl) rfl
theorem q1039 : (Jvm.Cond.static ({ cls := "WheelLand", name := "canBeWoven", desc := "(I)Z" } : Jvm.MethodName)) ∈ lw_all := lw_g (lw_at lw_m4 225 rfl) rfl
theorem q1040 : (Jvm.Cond.code ({ cls := "WheelLand", name := "canBeWoven", desc := "(I)Z" } : Jvm.MethodName) prog_1_method_49_code (1 : Nat) (Option.some Jvm.ClassFile.FieldType.boolean)) ∈ lw_all := lw_g (lw_at lw_m4 226 rfl) rfl
theorem q1041 : (Jvm.Cond.methodLink "WheelLand" (414 : Nat) ({ cls := "WheelLand", name := "barAll", desc := "(LWheelLand$House;LWheelLand$Lot;I)I" } : Jvm.MethodName)) ∈ lw_all := lw_g (lw_at lw_m4 227 rfl) rfl
theorem q1042 : (Jvm.Cond.privateMethod ({ cls := "WheelLand", name := "barAll", desc := "(LWheelLand$House;LWheelLand$Lot;I)I" } : Jvm.MethodName)) ∈ lw_tbl := lw_at lw_m4 228 rfl
theorem q1043 : (Jvm.Cond.instanceMethod ({ cls := "WheelLand", name := "barAll", desc := "(LWheelLand$House;LWheelLand$Lot;I)I" } : Jvm.MethodName)) ∈ lw_all := lw_g (lw_at lw_m4 229 rfl) rfl
theorem q1044 : (Jvm.Cond.code ({ cls := "WheelLand", name := "barAll", desc := "(LWheelLand$House;LWheelLand$Lot;I)I" } : Jvm.MethodName) prog_1_method_50_code (5 : Nat) (Option.some Jvm.ClassFile.FieldType.int)) ∈ lw_all := lw_g (lw_at lw_m4 230 rfl) rfl
theorem q1045 : (Jvm.Cond.methodLink "WheelLand" (406 : Nat) ({ cls := "WheelLand", name := "barOf", desc := "(LWheelLand$House;LWheelLand$Lot;I)I" } : Jvm.MethodName)) ∈ lw_all := lw_g (lw_at lw_m4 231 rfl) rfl
theorem q1046 : (Jvm.Cond.privateMethod ({ cls := "WheelLand", name := "barOf", desc := "(LWheelLand$House;LWheelLand$Lot;I)I" } : Jvm.MethodName)) ∈ lw_tbl := lw_at lw_m4 232 rfl
theorem q1047 : (Jvm.Cond.instanceMethod ({ cls := "WheelLand", name := "barOf", desc := "(LWheelLand$House;LWheelLand$Lot;I)I" } : Jvm.MethodName)) ∈ lw_all := lw_g (lw_at lw_m4 233 rfl) rfl
theorem q1048 : (Jvm.Cond.code ({ cls := "WheelLand", name := "barOf", desc := "(LWheelLand$House;LWheelLand$Lot;I)I" } : Jvm.MethodName) prog_1_method_48_code (4 : Nat) (Option.some Jvm.ClassFile.FieldType.int)) ∈ lw_all := lw_g (lw_at lw_m4 234 rfl) rfl
theorem q1049 : (Jvm.Cond.methodLink "WheelLand" (402 : Nat) ({ cls := "WheelLand", name := "asksLot", desc := "(ILWheelLand$Lot;LWheelLand$House;I)I" } : Jvm.MethodName)) ∈ lw_all := lw_g (lw_at lw_m4 235 rfl) rfl
theorem q1050 : (Jvm.Cond.privateMethod ({ cls := "WheelLand", name := "asksLot", desc := "(ILWheelLand$Lot;LWheelLand$House;I)I" } : Jvm.MethodName)) ∈ lw_tbl := lw_at lw_m4 236 rfl
theorem q1051 : (Jvm.Cond.instanceMethod ({ cls := "WheelLand", name := "asksLot", desc := "(ILWheelLand$Lot;LWheelLand$House;I)I" } : Jvm.MethodName)) ∈ lw_all := lw_g (lw_at lw_m4 237 rfl) rfl
theorem q1052 : (Jvm.Cond.code ({ cls := "WheelLand", name := "asksLot", desc := "(ILWheelLand$Lot;LWheelLand$House;I)I" } : Jvm.MethodName) prog_1_method_45_code (5 : Nat) (Option.some Jvm.ClassFile.FieldType.int)) ∈ lw_all := lw_g (lw_at lw_m4 238 rfl) rfl
theorem q1053 : (Jvm.Cond.methodLink "WheelLand" (386 : Nat) ({ cls := "WheelLand", name := "asks", desc := "(ILWheelLand$House;IIIII)I" } : Jvm.MethodName)) ∈ lw_all := lw_g (lw_at lw_m4 239 rfl) rfl
theorem q1054 : (Jvm.Cond.privateMethod ({ cls := "WheelLand", name := "asks", desc := "(ILWheelLand$House;IIIII)I" } : Jvm.MethodName)) ∈ lw_tbl := lw_at lw_m5 0 rfl
theorem q1055 : (Jvm.Cond.instanceMethod ({ cls := "WheelLand", name := "asks", desc := "(ILWheelLand$House;IIIII)I" } : Jvm.MethodName)) ∈ lw_all := lw_g (lw_at lw_m5 1 rfl) rfl
theorem q1056 : (Jvm.Cond.code ({ cls := "WheelLand", name := "asks", desc := "(ILWheelLand$House;IIIII)I" } : Jvm.MethodName) prog_1_method_44_code (8 : Nat) (Option.some Jvm.ClassFile.FieldType.int)) ∈ lw_all := lw_g (lw_at lw_m5 2 rfl) rfl
theorem q1058 : (Jvm.Cond.instanceMethod ({ cls := "WheelLand", name := "weave", desc := "(III)I" } : Jvm.MethodName)) ∈ lw_all := lw_g (lw_at lw_m5 4 rfl) rfl
theorem q1059 : (Jvm.Cond.selects "WheelLand" ({ cls := "WheelLand", name := "weave", desc := "(III)I" } : Jvm.MethodName) ({ cls := "WheelLand", name := "weave", desc := "(III)I" } : Jvm.MethodName)) ∈ lw_all := lw_g (lw_at lw_m5 5 rfl) rfl
theorem q1060 : (Jvm.Cond.code ({ cls := "WheelLand", name := "weave", desc := "(III)I" } : Jvm.MethodName) prog_1_method_52_code (8 : Nat) (Option.some Jvm.ClassFile.FieldType.int)) ∈ lw_all := lw_g (lw_at lw_m5 6 rfl) rfl
theorem q1061 : (Jvm.Cond.methodLink "WheelLand" (417 : Nat) ({ cls := "WheelLand", name := "bar", desc := "(III)I" } : Jvm.MethodName)) ∈ lw_all := lw_g (lw_at lw_m5 7 rfl) rfl
theorem q1063 : (Jvm.Cond.methodLink "WheelLand" (421 : Nat) ({ cls := "WheelLand$Cloth", name := "<init>", desc := "(LWheelLand$Lot;LWheelLand$House;IIZ)V" } : Jvm.MethodName)) ∈ lw_all := lw_g (lw_at lw_m5 9 rfl) rfl
theorem q1068 : (Jvm.Cond.fieldLinkNest "WheelLand" (428 : Nat) "WheelLand$Cloth" "lot" "LWheelLand$Lot;" "WheelLand") ∈ lw_tbl := lw_at lw_m5 14 rfl
theorem q1070 : (Jvm.Cond.fieldLinkNest "WheelLand" (435 : Nat) "WheelLand$Cloth" "yards" "I" "WheelLand") ∈ lw_tbl := lw_at lw_m5 16 rfl
theorem q1072 : (Jvm.Cond.fieldLinkNest "WheelLand" (438 : Nat) "WheelLand$Cloth" "isStamped" "Z" "WheelLand") ∈ lw_tbl := lw_at lw_m5 18 rfl
theorem q1073 : (Jvm.Cond.fieldLinkNest "WheelLand" (442 : Nat) "WheelLand$Cloth" "store" "LWheelLand$Village;" "WheelLand") ∈ lw_tbl := lw_at lw_m5 19 rfl
theorem q1086 : (Jvm.Cond.instanceMethod ({ cls := "WheelLand", name := "cloth", desc := "(II)I" } : Jvm.MethodName)) ∈ lw_all := lw_g (lw_at lw_m5 32 rfl) rfl
theorem q1087 : (Jvm.Cond.selects "WheelLand" ({ cls := "WheelLand", name := "cloth", desc := "(II)I" } : Jvm.MethodName) ({ cls := "WheelLand", name := "cloth", desc := "(II)I" } : Jvm.MethodName)) ∈ lw_all := lw_g (lw_at lw_m5 33 rfl) rfl
theorem q1088 : (Jvm.Cond.code ({ cls := "WheelLand", name := "cloth", desc := "(II)I" } : Jvm.MethodName) prog_1_method_53_code (4 : Nat) (Option.some Jvm.ClassFile.FieldType.int)) ∈ lw_all := lw_g (lw_at lw_m5 34 rfl) rfl
theorem q1089 : (Jvm.Cond.methodLink "WheelLand" (424 : Nat) ({ cls := "WheelLand", name := "findCloth", desc := "(I)LWheelLand$Cloth;" } : Jvm.MethodName)) ∈ lw_all := lw_g (lw_at lw_m5 35 rfl) rfl
theorem q1090 : (Jvm.Cond.privateMethod ({ cls := "WheelLand", name := "findCloth", desc := "(I)LWheelLand$Cloth;" } : Jvm.MethodName)) ∈ lw_tbl := lw_at lw_m5 36 rfl
theorem q1091 : (Jvm.Cond.instanceMethod ({ cls := "WheelLand", name := "findCloth", desc := "(I)LWheelLand$Cloth;" } : Jvm.MethodName)) ∈ lw_all := lw_g (lw_at lw_m5 37 rfl) rfl
theorem q1092 : (Jvm.Cond.code ({ cls := "WheelLand", name := "findCloth", desc := "(I)LWheelLand$Cloth;" } : Jvm.MethodName) prog_1_method_9_code (2 : Nat) (Option.some (Jvm.ClassFile.FieldType.object "WheelLand$Cloth"))) ∈ lw_all := lw_g (lw_at lw_m5 38 rfl) rfl
theorem q1094 : (Jvm.Cond.instanceMethod ({ cls := "WheelLand", name := "ask", desc := "(I)I" } : Jvm.MethodName)) ∈ lw_all := lw_g (lw_at lw_m5 40 rfl) rfl
theorem q1095 : (Jvm.Cond.selects "WheelLand" ({ cls := "WheelLand", name := "ask", desc := "(I)I" } : Jvm.MethodName) ({ cls := "WheelLand", name := "ask", desc := "(I)I" } : Jvm.MethodName)) ∈ lw_all := lw_g (lw_at lw_m5 41 rfl) rfl
theorem q1096 : (Jvm.Cond.code ({ cls := "WheelLand", name := "ask", desc := "(I)I" } : Jvm.MethodName) prog_1_method_54_code (4 : Nat) (Option.some Jvm.ClassFile.FieldType.int)) ∈ lw_all := lw_g (lw_at lw_m5 42 rfl) rfl
theorem q1098 : (Jvm.Cond.instanceMethod ({ cls := "WheelLand", name := "clear", desc := "()I" } : Jvm.MethodName)) ∈ lw_all := lw_g (lw_at lw_m5 44 rfl) rfl
theorem q1099 : (Jvm.Cond.selects "WheelLand" ({ cls := "WheelLand", name := "clear", desc := "()I" } : Jvm.MethodName) ({ cls := "WheelLand", name := "clear", desc := "()I" } : Jvm.MethodName)) ∈ lw_all := lw_g (lw_at lw_m5 45 rfl) rfl
theorem q1100 : (Jvm.Cond.code ({ cls := "WheelLand", name := "clear", desc := "()I" } : Jvm.MethodName) prog_1_method_55_code (2 : Nat) (Option.some Jvm.ClassFile.FieldType.int)) ∈ lw_all := lw_g (lw_at lw_m5 46 rfl) rfl
theorem q1102 : (Jvm.Cond.instanceMethod ({ cls := "WheelLand", name := "hands", desc := "(II)I" } : Jvm.MethodName)) ∈ lw_all := lw_g (lw_at lw_m5 48 rfl) rfl
theorem q1103 : (Jvm.Cond.selects "WheelLand" ({ cls := "WheelLand", name := "hands", desc := "(II)I" } : Jvm.MethodName) ({ cls := "WheelLand", name := "hands", desc := "(II)I" } : Jvm.MethodName)) ∈ lw_all := lw_g (lw_at lw_m5 49 rfl) rfl
theorem q1104 : (Jvm.Cond.code ({ cls := "WheelLand", name := "hands", desc := "(II)I" } : Jvm.MethodName) prog_1_method_56_code (3 : Nat) (Option.some Jvm.ClassFile.FieldType.int)) ∈ lw_all := lw_g (lw_at lw_m5 50 rfl) rfl
theorem q1105 : (Jvm.Cond.methodLink "WheelLand" (451 : Nat) ({ cls := "WheelLand$Hands", name := "asks", desc := "(I)Z" } : Jvm.MethodName)) ∈ lw_all := lw_g (lw_at lw_m5 51 rfl) rfl
theorem q1127 : (Jvm.Cond.instanceMethod ({ cls := "WheelLand", name := "bring", desc := "(II)I" } : Jvm.MethodName)) ∈ lw_all := lw_g (lw_at lw_m5 73 rfl) rfl
theorem q1128 : (Jvm.Cond.selects "WheelLand" ({ cls := "WheelLand", name := "bring", desc := "(II)I" } : Jvm.MethodName) ({ cls := "WheelLand", name := "bring", desc := "(II)I" } : Jvm.MethodName)) ∈ lw_all := lw_g (lw_at lw_m5 74 rfl) rfl
theorem q1129 : (Jvm.Cond.code ({ cls := "WheelLand", name := "bring", desc := "(II)I" } : Jvm.MethodName) prog_1_method_57_code (5 : Nat) (Option.some Jvm.ClassFile.FieldType.int)) ∈ lw_all := lw_g (lw_at lw_m5 75 rfl) rfl
theorem q1131 : (Jvm.Cond.instanceMethod ({ cls := "WheelLand", name := "mill", desc := "(II)I" } : Jvm.MethodName)) ∈ lw_all := lw_g (lw_at lw_m5 77 rfl) rfl
theorem q1132 : (Jvm.Cond.selects "WheelLand" ({ cls := "WheelLand", name := "mill", desc := "(II)I" } : Jvm.MethodName) ({ cls := "WheelLand", name := "mill", desc := "(II)I" } : Jvm.MethodName)) ∈ lw_all := lw_g (lw_at lw_m5 78 rfl) rfl
theorem q1133 : (Jvm.Cond.code ({ cls := "WheelLand", name := "mill", desc := "(II)I" } : Jvm.MethodName) prog_1_method_58_code (4 : Nat) (Option.some Jvm.ClassFile.FieldType.int)) ∈ lw_all := lw_g (lw_at lw_m5 79 rfl) rfl
theorem q1135 : (Jvm.Cond.instanceMethod ({ cls := "WheelLand", name := "price", desc := "(II)Z" } : Jvm.MethodName)) ∈ lw_all := lw_g (lw_at lw_m5 81 rfl) rfl
theorem q1136 : (Jvm.Cond.selects "WheelLand" ({ cls := "WheelLand", name := "price", desc := "(II)Z" } : Jvm.MethodName) ({ cls := "WheelLand", name := "price", desc := "(II)Z" } : Jvm.MethodName)) ∈ lw_all := lw_g (lw_at lw_m5 82 rfl) rfl
theorem q1137 : (Jvm.Cond.code ({ cls := "WheelLand", name := "price", desc := "(II)Z" } : Jvm.MethodName) prog_1_method_59_code (4 : Nat) (Option.some Jvm.ClassFile.FieldType.boolean)) ∈ lw_all := lw_g (lw_at lw_m5 83 rfl) rfl
theorem q1139 : (Jvm.Cond.instanceMethod ({ cls := "WheelLand", name := "talk", desc := "(II)I" } : Jvm.MethodName)) ∈ lw_all := lw_g (lw_at lw_m5 85 rfl) rfl
theorem q1140 : (Jvm.Cond.selects "WheelLand" ({ cls := "WheelLand", name := "talk", desc := "(II)I" } : Jvm.MethodName) ({ cls := "WheelLand", name := "talk", desc := "(II)I" } : Jvm.MethodName)) ∈ lw_all := lw_g (lw_at lw_m5 86 rfl) rfl
theorem q1141 : (Jvm.Cond.code ({ cls := "WheelLand", name := "talk", desc := "(II)I" } : Jvm.MethodName) prog_1_method_60_code (4 : Nat) (Option.some Jvm.ClassFile.FieldType.int)) ∈ lw_all := lw_g (lw_at lw_m5 87 rfl) rfl
theorem q1143 : (Jvm.Cond.instanceMethod ({ cls := "WheelLand", name := "heard", desc := "(II)I" } : Jvm.MethodName)) ∈ lw_all := lw_g (lw_at lw_m5 89 rfl) rfl
theorem q1144 : (Jvm.Cond.selects "WheelLand" ({ cls := "WheelLand", name := "heard", desc := "(II)I" } : Jvm.MethodName) ({ cls := "WheelLand", name := "heard", desc := "(II)I" } : Jvm.MethodName)) ∈ lw_all := lw_g (lw_at lw_m5 90 rfl) rfl
theorem q1145 : (Jvm.Cond.code ({ cls := "WheelLand", name := "heard", desc := "(II)I" } : Jvm.MethodName) prog_1_method_61_code (5 : Nat) (Option.some Jvm.ClassFile.FieldType.int)) ∈ lw_all := lw_g (lw_at lw_m5 91 rfl) rfl
theorem q1147 : (Jvm.Cond.instanceMethod ({ cls := "WheelLand", name := "likes", desc := "(I)I" } : Jvm.MethodName)) ∈ lw_all := lw_g (lw_at lw_m5 93 rfl) rfl
theorem q1148 : (Jvm.Cond.selects "WheelLand" ({ cls := "WheelLand", name := "likes", desc := "(I)I" } : Jvm.MethodName) ({ cls := "WheelLand", name := "likes", desc := "(I)I" } : Jvm.MethodName)) ∈ lw_all := lw_g (lw_at lw_m5 94 rfl) rfl
theorem q1149 : (Jvm.Cond.code ({ cls := "WheelLand", name := "likes", desc := "(I)I" } : Jvm.MethodName) prog_1_method_62_code (3 : Nat) (Option.some Jvm.ClassFile.FieldType.int)) ∈ lw_all := lw_g (lw_at lw_m5 95 rfl) rfl
theorem q1151 : (Jvm.Cond.instanceMethod ({ cls := "WheelLand", name := "sold", desc := "(II)I" } : Jvm.MethodName)) ∈ lw_all := lw_g (lw_at lw_m5 97 rfl) rfl
theorem q1152 : (Jvm.Cond.selects "WheelLand" ({ cls := "WheelLand", name := "sold", desc := "(II)I" } : Jvm.MethodName) ({ cls := "WheelLand", name := "sold", desc := "(II)I" } : Jvm.MethodName)) ∈ lw_all := lw_g (lw_at lw_m5 98 rfl) rfl
theorem q1153 : (Jvm.Cond.code ({ cls := "WheelLand", name := "sold", desc := "(II)I" } : Jvm.MethodName) prog_1_method_63_code (4 : Nat) (Option.some Jvm.ClassFile.FieldType.int)) ∈ lw_all := lw_g (lw_at lw_m5 99 rfl) rfl
theorem q1155 : (Jvm.Cond.instanceMethod ({ cls := "WheelLand", name := "wrong", desc := "(IZ)I" } : Jvm.MethodName)) ∈ lw_all := lw_g (lw_at lw_m5 101 rfl) rfl
theorem q1156 : (Jvm.Cond.selects "WheelLand" ({ cls := "WheelLand", name := "wrong", desc := "(IZ)I" } : Jvm.MethodName) ({ cls := "WheelLand", name := "wrong", desc := "(IZ)I" } : Jvm.MethodName)) ∈ lw_all := lw_g (lw_at lw_m5 102 rfl) rfl
theorem q1157 : (Jvm.Cond.code ({ cls := "WheelLand", name := "wrong", desc := "(IZ)I" } : Jvm.MethodName) prog_1_method_65_code (4 : Nat) (Option.some Jvm.ClassFile.FieldType.int)) ∈ lw_all := lw_g (lw_at lw_m5 103 rfl) rfl
theorem q1158 : (Jvm.Cond.methodLink "WheelLand" (483 : Nat) ({ cls := "WheelLand", name := "wrongAt", desc := "(LWheelLand$Village;Z)I" } : Jvm.MethodName)) ∈ lw_all := lw_g (lw_at lw_m5 104 rfl) rfl
theorem q1159 : (Jvm.Cond.static ({ cls := "WheelLand", name := "wrongAt", desc := "(LWheelLand$Village;Z)I" } : Jvm.MethodName)) ∈ lw_all := lw_g (lw_at lw_m5 105 rfl) rfl
theorem q1160 : (Jvm.Cond.code ({ cls := "WheelLand", name := "wrongAt", desc := "(LWheelLand$Village;Z)I" } : Jvm.MethodName) prog_1_method_64_code (2 : Nat) (Option.some Jvm.ClassFile.FieldType.int)) ∈ lw_all := lw_g (lw_at lw_m5 106 rfl) rfl
theorem q1162 : (Jvm.Cond.instanceMethod ({ cls := "WheelLand", name := "look", desc := "()I" } : Jvm.MethodName)) ∈ lw_all := lw_g (lw_at lw_m5 108 rfl) rfl
theorem q1163 : (Jvm.Cond.selects "WheelLand" ({ cls := "WheelLand", name := "look", desc := "()I" } : Jvm.MethodName) ({ cls := "WheelLand", name := "look", desc := "()I" } : Jvm.MethodName)) ∈ lw_all := lw_g (lw_at lw_m5 109 rfl) rfl
theorem q1164 : (Jvm.Cond.code ({ cls := "WheelLand", name := "look", desc := "()I" } : Jvm.MethodName) prog_1_method_66_code (5 : Nat) (Option.some Jvm.ClassFile.FieldType.int)) ∈ lw_all := lw_g (lw_at lw_m5 110 rfl) rfl
theorem q1166 : (Jvm.Cond.instanceMethod ({ cls := "WheelLand", name := "gift", desc := "(III)I" } : Jvm.MethodName)) ∈ lw_all := lw_g (lw_at lw_m5 112 rfl) rfl
theorem q1167 : (Jvm.Cond.selects "WheelLand" ({ cls := "WheelLand", name := "gift", desc := "(III)I" } : Jvm.MethodName) ({ cls := "WheelLand", name := "gift", desc := "(III)I" } : Jvm.MethodName)) ∈ lw_all := lw_g (lw_at lw_m5 113 rfl) rfl
theorem q1168 : (Jvm.Cond.code ({ cls := "WheelLand", name := "gift", desc := "(III)I" } : Jvm.MethodName) prog_1_method_67_code (4 : Nat) (Option.some Jvm.ClassFile.FieldType.int)) ∈ lw_all := lw_g (lw_at lw_m5 114 rfl) rfl
theorem q1170 : (Jvm.Cond.instanceMethod ({ cls := "WheelLand", name := "forget", desc := "()I" } : Jvm.MethodName)) ∈ lw_all := lw_g (lw_at lw_m5 116 rfl) rfl
theorem q1171 : (Jvm.Cond.selects "WheelLand" ({ cls := "WheelLand", name := "forget", desc := "()I" } : Jvm.MethodName) ({ cls := "WheelLand", name := "forget", desc := "()I" } : Jvm.MethodName)) ∈ lw_all := lw_g (lw_at lw_m5 117 rfl) rfl
theorem q1172 : (Jvm.Cond.code ({ cls := "WheelLand", name := "forget", desc := "()I" } : Jvm.MethodName) prog_1_method_68_code (2 : Nat) (Option.some Jvm.ClassFile.FieldType.int)) ∈ lw_all := lw_g (lw_at lw_m5 118 rfl) rfl
theorem q1174 : (Jvm.Cond.instanceMethod ({ cls := "WheelLand", name := "best", desc := "(II)I" } : Jvm.MethodName)) ∈ lw_all := lw_g (lw_at lw_m5 120 rfl) rfl
theorem q1175 : (Jvm.Cond.selects "WheelLand" ({ cls := "WheelLand", name := "best", desc := "(II)I" } : Jvm.MethodName) ({ cls := "WheelLand", name := "best", desc := "(II)I" } : Jvm.MethodName)) ∈ lw_all := lw_g (lw_at lw_m5 121 rfl) rfl
theorem q1176 : (Jvm.Cond.code ({ cls := "WheelLand", name := "best", desc := "(II)I" } : Jvm.MethodName) prog_1_method_70_code (9 : Nat) (Option.some Jvm.ClassFile.FieldType.int)) ∈ lw_all := lw_g (lw_at lw_m5 122 rfl) rfl
theorem q1177 : (Jvm.Cond.methodLink "WheelLand" (490 : Nat) ({ cls := "WheelLand", name := "spunWith", desc := "(I)I" } : Jvm.MethodName)) ∈ lw_all := lw_g (lw_at lw_m5 123 rfl) rfl
theorem q1178 : (Jvm.Cond.privateMethod ({ cls := "WheelLand", name := "spunWith", desc := "(I)I" } : Jvm.MethodName)) ∈ lw_tbl := lw_at lw_m5 124 rfl
theorem q1179 : (Jvm.Cond.instanceMethod ({ cls := "WheelLand", name := "spunWith", desc := "(I)I" } : Jvm.MethodName)) ∈ lw_all := lw_g (lw_at lw_m5 125 rfl) rfl
theorem q1180 : (Jvm.Cond.code ({ cls := "WheelLand", name := "spunWith", desc := "(I)I" } : Jvm.MethodName) prog_1_method_69_code (8 : Nat) (Option.some Jvm.ClassFile.FieldType.int)) ∈ lw_all := lw_g (lw_at lw_m5 126 rfl) rfl
theorem q1182 : (Jvm.Cond.instanceMethod ({ cls := "WheelLand", name := "hungry", desc := "(I)I" } : Jvm.MethodName)) ∈ lw_all := lw_g (lw_at lw_m5 128 rfl) rfl
theorem q1183 : (Jvm.Cond.selects "WheelLand" ({ cls := "WheelLand", name := "hungry", desc := "(I)I" } : Jvm.MethodName) ({ cls := "WheelLand", name := "hungry", desc := "(I)I" } : Jvm.MethodName)) ∈ lw_all := lw_g (lw_at lw_m5 129 rfl) rfl
theorem q1184 : (Jvm.Cond.code ({ cls := "WheelLand", name := "hungry", desc := "(I)I" } : Jvm.MethodName) prog_1_method_71_code (4 : Nat) (Option.some Jvm.ClassFile.FieldType.int)) ∈ lw_all := lw_g (lw_at lw_m5 130 rfl) rfl
theorem q1186 : (Jvm.Cond.instanceMethod ({ cls := "WheelLand", name := "keeps", desc := "(II)I" } : Jvm.MethodName)) ∈ lw_all := lw_g (lw_at lw_m5 132 rfl) rfl
theorem q1187 : (Jvm.Cond.selects "WheelLand" ({ cls := "WheelLand", name := "keeps", desc := "(II)I" } : Jvm.MethodName) ({ cls := "WheelLand", name := "keeps", desc := "(II)I" } : Jvm.MethodName)) ∈ lw_all := lw_g (lw_at lw_m5 133 rfl) rfl
theorem q1188 : (Jvm.Cond.code ({ cls := "WheelLand", name := "keeps", desc := "(II)I" } : Jvm.MethodName) prog_1_method_72_code (5 : Nat) (Option.some Jvm.ClassFile.FieldType.int)) ∈ lw_all := lw_g (lw_at lw_m5 134 rfl) rfl
theorem q1189 : (Jvm.Cond.methodLink "WheelLand" (493 : Nat) ({ cls := "WheelLand$House", name := "strength", desc := "()I" } : Jvm.MethodName)) ∈ lw_all := lw_g (lw_at lw_m5 135 rfl) rfl
theorem q1191 : (Jvm.Cond.instanceMethod ({ cls := "WheelLand", name := "told", desc := "(II)I" } : Jvm.MethodName)) ∈ lw_all := lw_g (lw_at lw_m5 137 rfl) rfl
theorem q1192 : (Jvm.Cond.selects "WheelLand" ({ cls := "WheelLand", name := "told", desc := "(II)I" } : Jvm.MethodName) ({ cls := "WheelLand", name := "told", desc := "(II)I" } : Jvm.MethodName)) ∈ lw_all := lw_g (lw_at lw_m5 138 rfl) rfl
theorem q1193 : (Jvm.Cond.code ({ cls := "WheelLand", name := "told", desc := "(II)I" } : Jvm.MethodName) prog_1_method_73_code (3 : Nat) (Option.some Jvm.ClassFile.FieldType.int)) ∈ lw_all := lw_g (lw_at lw_m5 139 rfl) rfl
theorem q1195 : (Jvm.Cond.instanceMethod ({ cls := "WheelLand", name := "check", desc := "(III)I" } : Jvm.MethodName)) ∈ lw_all := lw_g (lw_at lw_m5 141 rfl) rfl
theorem q1196 : (Jvm.Cond.selects "WheelLand" ({ cls := "WheelLand", name := "check", desc := "(III)I" } : Jvm.MethodName) ({ cls := "WheelLand", name := "check", desc := "(III)I" } : Jvm.MethodName)) ∈ lw_all := lw_g (lw_at lw_m5 142 rfl) rfl
theorem q1197 : (Jvm.Cond.code ({ cls := "WheelLand", name := "check", desc := "(III)I" } : Jvm.MethodName) prog_1_method_74_code (10 : Nat) (Option.some Jvm.ClassFile.FieldType.int)) ∈ lw_all := lw_g (lw_at lw_m5 143 rfl) rfl
theorem q1198 : (Jvm.Cond.methodLink "WheelLand" (496 : Nat) ({ cls := "WheelLand", name := "told", desc := "(II)I" } : Jvm.MethodName)) ∈ lw_all := lw_g (lw_at lw_m5 144 rfl) rfl
theorem q1199 : (Jvm.Cond.methodLink "WheelLand" (498 : Nat) ({ cls := "WheelLand", name := "with", desc := "(IIII)I" } : Jvm.MethodName)) ∈ lw_all := lw_g (lw_at lw_m5 145 rfl) rfl
theorem q1200 : (Jvm.Cond.privateMethod ({ cls := "WheelLand", name := "with", desc := "(IIII)I" } : Jvm.MethodName)) ∈ lw_tbl := lw_at lw_m5 146 rfl
theorem q1201 : (Jvm.Cond.instanceMethod ({ cls := "WheelLand", name := "with", desc := "(IIII)I" } : Jvm.MethodName)) ∈ lw_all := lw_g (lw_at lw_m5 147 rfl) rfl
theorem q1202 : (Jvm.Cond.code ({ cls := "WheelLand", name := "with", desc := "(IIII)I" } : Jvm.MethodName) prog_1_method_75_code (5 : Nat) (Option.some Jvm.ClassFile.FieldType.int)) ∈ lw_all := lw_g (lw_at lw_m5 148 rfl) rfl
theorem q1204 : (Jvm.Cond.instanceMethod ({ cls := "WheelLand", name := "is", desc := "(II)I" } : Jvm.MethodName)) ∈ lw_all := lw_g (lw_at lw_m5 150 rfl) rfl
theorem q1205 : (Jvm.Cond.selects "WheelLand" ({ cls := "WheelLand", name := "is", desc := "(II)I" } : Jvm.MethodName) ({ cls := "WheelLand", name := "is", desc := "(II)I" } : Jvm.MethodName)) ∈ lw_all := lw_g (lw_at lw_m5 151 rfl) rfl
theorem q1206 : (Jvm.Cond.code ({ cls := "WheelLand", name := "is", desc := "(II)I" } : Jvm.MethodName) prog_1_method_76_code (4 : Nat) (Option.some Jvm.ClassFile.FieldType.int)) ∈ lw_all := lw_g (lw_at lw_m5 152 rfl) rfl
theorem q1208 : (Jvm.Cond.instanceMethod ({ cls := "WheelLand", name := "has", desc := "(II)I" } : Jvm.MethodName)) ∈ lw_all := lw_g (lw_at lw_m5 154 rfl) rfl
theorem q1209 : (Jvm.Cond.selects "WheelLand" ({ cls := "WheelLand", name := "has", desc := "(II)I" } : Jvm.MethodName) ({ cls := "WheelLand", name := "has", desc := "(II)I" } : Jvm.MethodName)) ∈ lw_all := lw_g (lw_at lw_m5 155 rfl) rfl
theorem q1210 : (Jvm.Cond.code ({ cls := "WheelLand", name := "has", desc := "(II)I" } : Jvm.MethodName) prog_1_method_77_code (4 : Nat) (Option.some Jvm.ClassFile.FieldType.int)) ∈ lw_all := lw_g (lw_at lw_m5 156 rfl) rfl
theorem q1212 : (Jvm.Cond.instanceMethod ({ cls := "WheelLand", name := "count", desc := "(I)I" } : Jvm.MethodName)) ∈ lw_all := lw_g (lw_at lw_m5 158 rfl) rfl
theorem q1213 : (Jvm.Cond.selects "WheelLand" ({ cls := "WheelLand", name := "count", desc := "(I)I" } : Jvm.MethodName) ({ cls := "WheelLand", name := "count", desc := "(I)I" } : Jvm.MethodName)) ∈ lw_all := lw_g (lw_at lw_m5 159 rfl) rfl
theorem q1214 : (Jvm.Cond.code ({ cls := "WheelLand", name := "count", desc := "(I)I" } : Jvm.MethodName) prog_1_method_78_code (2 : Nat) (Option.some Jvm.ClassFile.FieldType.int)) ∈ lw_all := lw_g (lw_at lw_m5 160 rfl) rfl
theorem in_X0 : ∀ w ∈ wsX00, w ∈ lw_all := lw_in wsX00 [254, 256, 258, 260, 262, 264, 266, 268, 270, 272, 274, 276, 278, 280, 282, 284, 286, 288, 290, 292, 294, 296, 298, 300, 302, 304, 306, 308, 310, 312, 314, 316, 318, 320, 322] (by decide +kernel) (by decide +kernel)
