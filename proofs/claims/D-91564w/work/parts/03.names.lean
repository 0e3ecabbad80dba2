/-! WheelLand$Reader -/
set_option maxRecDepth 100000
def RX1 : String := "WheelLand$Reader"
def TX1 : u_T := fun k => match k with
  | 0 => ("WheelLand$Reader", "what", "[B", true)
  | 1 => ("WheelLand$Reader", "with", "[I", true)
  | 2 => ("WheelLand$Reader", "text", "[B", false)
  | 3 => ("WheelLand$Reader", "size", "I", false)
  | 4 => ("WheelLand$Reader", "at", "I", false)
  | 5 => ("WheelLand$Reader", "begin", "I", false)
  | 6 => ("WheelLand$Reader", "deep", "I", false)
  | _ => ("WheelLand$Reader", "steps", "I", false)
def tyX1 : Nat → FieldType := fun k => match k with
  | 0 => .array .byte
  | 1 => .array .int
  | 2 => .array .byte
  | 3 => .int
  | 4 => .int
  | 5 => .int
  | 6 => .int
  | _ => .int
abbrev wsX10 : List Cond := u_ws RX1 TX1 8
theorem nmX1 : ∀ a, a < 8 → ∀ b, b < 8 → a ≠ b → (TX1 a).2.1 ≠ (TX1 b).2.1 := by decide +kernel
theorem tyX1_ok : ∀ k, k < 8 → parseFieldDescriptor (TX1 k).2.2.1 = some (tyX1 k) := by decide +kernel
abbrev cX1_init : ByteArray := prog_9_method_1_code
def yX1_init : MethodName := ⟨RX1, "<init>", "()V"⟩
def dkwX1_init_0 : List UInt8 := [42, 183, 0, 3, 42, 17, 1, 144, 188, 8, 181, 0, 9, 42, 17, 1, 144, 188, 10, 181, 0, 15, 177]
abbrev dktX1_init_0 : List UInt8 := dkwX1_init_0 ++ []
theorem dksX1_init_0 : cX1_init.data.toList.drop 0 = dktX1_init_0 := by decide +kernel
theorem dX1_init_0 : decode cX1_init 0 = .ok (.aload_n 0, 1) := dk_42 (dk_at dksX1_init_0 0 rfl rfl)
theorem dX1_init_1 : decode cX1_init 1 = .ok (.invokespecial 3, 3) := dk_183 0 3 (dk_at dksX1_init_0 1 rfl rfl)
theorem dX1_init_4 : decode cX1_init 4 = .ok (.aload_n 0, 1) := dk_42 (dk_at dksX1_init_0 4 rfl rfl)
theorem dX1_init_5 : decode cX1_init 5 = .ok (.sipush 400, 3) := dk_17 1 144 (dk_at dksX1_init_0 5 rfl rfl)
theorem dX1_init_8 : decode cX1_init 8 = .ok (.newarray .byte, 2) := dk_188_8 (dk_at dksX1_init_0 8 rfl rfl)
theorem dX1_init_10 : decode cX1_init 10 = .ok (.putfield 9, 3) := dk_181 0 9 (dk_at dksX1_init_0 10 rfl rfl)
theorem dX1_init_13 : decode cX1_init 13 = .ok (.aload_n 0, 1) := dk_42 (dk_at dksX1_init_0 13 rfl rfl)
theorem dX1_init_14 : decode cX1_init 14 = .ok (.sipush 400, 3) := dk_17 1 144 (dk_at dksX1_init_0 14 rfl rfl)
theorem dX1_init_17 : decode cX1_init 17 = .ok (.newarray .int, 2) := dk_188_10 (dk_at dksX1_init_0 17 rfl rfl)
theorem dX1_init_19 : decode cX1_init 19 = .ok (.putfield 15, 3) := dk_181 0 15 (dk_at dksX1_init_0 19 rfl rfl)
theorem dX1_init_22 : decode cX1_init 22 = .ok (.return_, 1) := dk_177 (dk_at dksX1_init_0 22 rfl rfl)
abbrev cX1_read : ByteArray := prog_9_method_12_code
def yX1_read : MethodName := ⟨RX1, "read", "([BI)LWheelLand$Sheet;"⟩
def dkwX1_read_6 : List UInt8 := [42, 180, 0, 80, 184, 0, 108, 45, 180, 0, 91, 21, 4, 25, 5, 83, 167, 255, 131, 45, 176]
abbrev dktX1_read_6 : List UInt8 := dkwX1_read_6 ++ []
def dkwX1_read_5 : List UInt8 := [25, 5, 180, 0, 107, 3, 42, 180, 0, 80, 184, 0, 108, 42, 180, 0, 15, 3, 25, 5, 180, 0, 114, 3]
abbrev dktX1_read_5 : List UInt8 := dkwX1_read_5 ++ dktX1_read_6
def dkwX1_read_4 : List UInt8 := [16, 59, 182, 0, 101, 187, 0, 104, 89, 42, 180, 0, 80, 183, 0, 106, 58, 5, 42, 180, 0, 9, 3]
abbrev dktX1_read_4 : List UInt8 := dkwX1_read_4 ++ dktX1_read_5
def dkwX1_read_3 : List UInt8 := [42, 3, 181, 0, 80, 21, 4, 6, 162, 0, 10, 42, 182, 0, 95, 167, 0, 7, 42, 182, 0, 98, 42]
abbrev dktX1_read_3 : List UInt8 := dkwX1_read_3 ++ dktX1_read_4
def dkwX1_read_2 : List UInt8 := [21, 4, 2, 159, 0, 13, 45, 180, 0, 91, 21, 4, 50, 198, 0, 7, 42, 182, 0, 47, 42, 182, 0, 77]
abbrev dktX1_read_2 : List UInt8 := dkwX1_read_2 ++ dktX1_read_3
def dkwX1_read_1 : List UInt8 := [183, 0, 88, 78, 42, 182, 0, 77, 42, 182, 0, 55, 154, 0, 124, 42, 18, 89, 182, 0, 70, 54, 4]
abbrev dktX1_read_1 : List UInt8 := dkwX1_read_1 ++ dktX1_read_2
def dkwX1_read_0 : List UInt8 := [42, 43, 181, 0, 26, 42, 28, 181, 0, 23, 42, 3, 181, 0, 19, 42, 3, 181, 0, 83, 187, 0, 86, 89]
abbrev dktX1_read_0 : List UInt8 := dkwX1_read_0 ++ dktX1_read_1
theorem dksX1_read_0 : cX1_read.data.toList.drop 0 = dktX1_read_0 := by decide +kernel
theorem dksX1_read_1 : cX1_read.data.toList.drop 24 = dktX1_read_1 := dk_seg dksX1_read_0 24 rfl rfl
theorem dksX1_read_2 : cX1_read.data.toList.drop 47 = dktX1_read_2 := dk_seg dksX1_read_1 23 rfl rfl
theorem dksX1_read_3 : cX1_read.data.toList.drop 71 = dktX1_read_3 := dk_seg dksX1_read_2 24 rfl rfl
theorem dksX1_read_4 : cX1_read.data.toList.drop 94 = dktX1_read_4 := dk_seg dksX1_read_3 23 rfl rfl
theorem dksX1_read_5 : cX1_read.data.toList.drop 117 = dktX1_read_5 := dk_seg dksX1_read_4 23 rfl rfl
theorem dksX1_read_6 : cX1_read.data.toList.drop 141 = dktX1_read_6 := dk_seg dksX1_read_5 24 rfl rfl
theorem dX1_read_0 : decode cX1_read 0 = .ok (.aload_n 0, 1) := dk_42 (dk_at dksX1_read_0 0 rfl rfl)
theorem dX1_read_1 : decode cX1_read 1 = .ok (.aload_n 1, 1) := dk_43 (dk_at dksX1_read_0 1 rfl rfl)
theorem dX1_read_2 : decode cX1_read 2 = .ok (.putfield 26, 3) := dk_181 0 26 (dk_at dksX1_read_0 2 rfl rfl)
theorem dX1_read_5 : decode cX1_read 5 = .ok (.aload_n 0, 1) := dk_42 (dk_at dksX1_read_0 5 rfl rfl)
theorem dX1_read_6 : decode cX1_read 6 = .ok (.iload_n 2, 1) := dk_28 (dk_at dksX1_read_0 6 rfl rfl)
theorem dX1_read_7 : decode cX1_read 7 = .ok (.putfield 23, 3) := dk_181 0 23 (dk_at dksX1_read_0 7 rfl rfl)
theorem dX1_read_10 : decode cX1_read 10 = .ok (.aload_n 0, 1) := dk_42 (dk_at dksX1_read_0 10 rfl rfl)
theorem dX1_read_11 : decode cX1_read 11 = .ok (.iconst 0, 1) := dk_3 (dk_at dksX1_read_0 11 rfl rfl)
theorem dX1_read_12 : decode cX1_read 12 = .ok (.putfield 19, 3) := dk_181 0 19 (dk_at dksX1_read_0 12 rfl rfl)
theorem dX1_read_15 : decode cX1_read 15 = .ok (.aload_n 0, 1) := dk_42 (dk_at dksX1_read_0 15 rfl rfl)
theorem dX1_read_16 : decode cX1_read 16 = .ok (.iconst 0, 1) := dk_3 (dk_at dksX1_read_0 16 rfl rfl)
theorem dX1_read_17 : decode cX1_read 17 = .ok (.putfield 83, 3) := dk_181 0 83 (dk_at dksX1_read_0 17 rfl rfl)
theorem dX1_read_20 : decode cX1_read 20 = .ok (.new 86, 3) := dk_187 0 86 (dk_at dksX1_read_0 20 rfl rfl)
theorem dX1_read_23 : decode cX1_read 23 = .ok (.dup, 1) := dk_89 (dk_at dksX1_read_0 23 rfl rfl)
theorem dX1_read_24 : decode cX1_read 24 = .ok (.invokespecial 88, 3) := dk_183 0 88 (dk_at dksX1_read_1 0 rfl rfl)
theorem dX1_read_27 : decode cX1_read 27 = .ok (.astore_n 3, 1) := dk_78 (dk_at dksX1_read_1 3 rfl rfl)
theorem dX1_read_28 : decode cX1_read 28 = .ok (.aload_n 0, 1) := dk_42 (dk_at dksX1_read_1 4 rfl rfl)
theorem dX1_read_29 : decode cX1_read 29 = .ok (.invokevirtual 77, 3) := dk_182 0 77 (dk_at dksX1_read_1 5 rfl rfl)
theorem dX1_read_32 : decode cX1_read 32 = .ok (.aload_n 0, 1) := dk_42 (dk_at dksX1_read_1 8 rfl rfl)
theorem dX1_read_33 : decode cX1_read 33 = .ok (.invokevirtual 55, 3) := dk_182 0 55 (dk_at dksX1_read_1 9 rfl rfl)
theorem dX1_read_36 : decode cX1_read 36 = .ok (.ifCond .ne 124, 3) := dk_154 0 124 (dk_at dksX1_read_1 12 rfl rfl)
theorem dX1_read_39 : decode cX1_read 39 = .ok (.aload_n 0, 1) := dk_42 (dk_at dksX1_read_1 15 rfl rfl)
theorem dX1_read_40 : decode cX1_read 40 = .ok (.ldc 89, 2) := dk_18 89 (dk_at dksX1_read_1 16 rfl rfl)
theorem dX1_read_42 : decode cX1_read 42 = .ok (.invokevirtual 70, 3) := dk_182 0 70 (dk_at dksX1_read_1 18 rfl rfl)
theorem dX1_read_45 : decode cX1_read 45 = .ok (.istore 4, 2) := dk_54 4 (dk_at dksX1_read_1 21 rfl rfl)
theorem dX1_read_47 : decode cX1_read 47 = .ok (.iload 4, 2) := dk_21 4 (dk_at dksX1_read_2 0 rfl rfl)
theorem dX1_read_49 : decode cX1_read 49 = .ok (.iconst (-1), 1) := dk_2 (dk_at dksX1_read_2 2 rfl rfl)
theorem dX1_read_50 : decode cX1_read 50 = .ok (.if_icmp .eq 13, 3) := dk_159 0 13 (dk_at dksX1_read_2 3 rfl rfl)
theorem dX1_read_53 : decode cX1_read 53 = .ok (.aload_n 3, 1) := dk_45 (dk_at dksX1_read_2 6 rfl rfl)
theorem dX1_read_54 : decode cX1_read 54 = .ok (.getfield 91, 3) := dk_180 0 91 (dk_at dksX1_read_2 7 rfl rfl)
theorem dX1_read_57 : decode cX1_read 57 = .ok (.iload 4, 2) := dk_21 4 (dk_at dksX1_read_2 10 rfl rfl)
theorem dX1_read_59 : decode cX1_read 59 = .ok (.aaload, 1) := dk_50 (dk_at dksX1_read_2 12 rfl rfl)
theorem dX1_read_60 : decode cX1_read 60 = .ok (.ifnull 7, 3) := dk_198 0 7 (dk_at dksX1_read_2 13 rfl rfl)
theorem dX1_read_63 : decode cX1_read 63 = .ok (.aload_n 0, 1) := dk_42 (dk_at dksX1_read_2 16 rfl rfl)
theorem dX1_read_64 : decode cX1_read 64 = .ok (.invokevirtual 47, 3) := dk_182 0 47 (dk_at dksX1_read_2 17 rfl rfl)
theorem dX1_read_67 : decode cX1_read 67 = .ok (.aload_n 0, 1) := dk_42 (dk_at dksX1_read_2 20 rfl rfl)
theorem dX1_read_68 : decode cX1_read 68 = .ok (.invokevirtual 77, 3) := dk_182 0 77 (dk_at dksX1_read_2 21 rfl rfl)
theorem dX1_read_71 : decode cX1_read 71 = .ok (.aload_n 0, 1) := dk_42 (dk_at dksX1_read_3 0 rfl rfl)
theorem dX1_read_72 : decode cX1_read 72 = .ok (.iconst 0, 1) := dk_3 (dk_at dksX1_read_3 1 rfl rfl)
theorem dX1_read_73 : decode cX1_read 73 = .ok (.putfield 80, 3) := dk_181 0 80 (dk_at dksX1_read_3 2 rfl rfl)
theorem dX1_read_76 : decode cX1_read 76 = .ok (.iload 4, 2) := dk_21 4 (dk_at dksX1_read_3 5 rfl rfl)
theorem dX1_read_78 : decode cX1_read 78 = .ok (.iconst 3, 1) := dk_6 (dk_at dksX1_read_3 7 rfl rfl)
theorem dX1_read_79 : decode cX1_read 79 = .ok (.if_icmp .ge 10, 3) := dk_162 0 10 (dk_at dksX1_read_3 8 rfl rfl)
theorem dX1_read_82 : decode cX1_read 82 = .ok (.aload_n 0, 1) := dk_42 (dk_at dksX1_read_3 11 rfl rfl)
theorem dX1_read_83 : decode cX1_read 83 = .ok (.invokevirtual 95, 3) := dk_182 0 95 (dk_at dksX1_read_3 12 rfl rfl)
theorem dX1_read_86 : decode cX1_read 86 = .ok (.goto 7, 3) := dk_167 0 7 (dk_at dksX1_read_3 15 rfl rfl)
theorem dX1_read_89 : decode cX1_read 89 = .ok (.aload_n 0, 1) := dk_42 (dk_at dksX1_read_3 18 rfl rfl)
theorem dX1_read_90 : decode cX1_read 90 = .ok (.invokevirtual 98, 3) := dk_182 0 98 (dk_at dksX1_read_3 19 rfl rfl)
theorem dX1_read_93 : decode cX1_read 93 = .ok (.aload_n 0, 1) := dk_42 (dk_at dksX1_read_3 22 rfl rfl)
theorem dX1_read_94 : decode cX1_read 94 = .ok (.bipush 59, 2) := dk_16 59 (dk_at dksX1_read_4 0 rfl rfl)
theorem dX1_read_96 : decode cX1_read 96 = .ok (.invokevirtual 101, 3) := dk_182 0 101 (dk_at dksX1_read_4 2 rfl rfl)
theorem dX1_read_99 : decode cX1_read 99 = .ok (.new 104, 3) := dk_187 0 104 (dk_at dksX1_read_4 5 rfl rfl)
theorem dX1_read_102 : decode cX1_read 102 = .ok (.dup, 1) := dk_89 (dk_at dksX1_read_4 8 rfl rfl)
theorem dX1_read_103 : decode cX1_read 103 = .ok (.aload_n 0, 1) := dk_42 (dk_at dksX1_read_4 9 rfl rfl)
theorem dX1_read_104 : decode cX1_read 104 = .ok (.getfield 80, 3) := dk_180 0 80 (dk_at dksX1_read_4 10 rfl rfl)
theorem dX1_read_107 : decode cX1_read 107 = .ok (.invokespecial 106, 3) := dk_183 0 106 (dk_at dksX1_read_4 13 rfl rfl)
theorem dX1_read_110 : decode cX1_read 110 = .ok (.astore 5, 2) := dk_58 5 (dk_at dksX1_read_4 16 rfl rfl)
theorem dX1_read_112 : decode cX1_read 112 = .ok (.aload_n 0, 1) := dk_42 (dk_at dksX1_read_4 18 rfl rfl)
theorem dX1_read_113 : decode cX1_read 113 = .ok (.getfield 9, 3) := dk_180 0 9 (dk_at dksX1_read_4 19 rfl rfl)
theorem dX1_read_116 : decode cX1_read 116 = .ok (.iconst 0, 1) := dk_3 (dk_at dksX1_read_4 22 rfl rfl)
theorem dX1_read_117 : decode cX1_read 117 = .ok (.aload 5, 2) := dk_25 5 (dk_at dksX1_read_5 0 rfl rfl)
theorem dX1_read_119 : decode cX1_read 119 = .ok (.getfield 107, 3) := dk_180 0 107 (dk_at dksX1_read_5 2 rfl rfl)
theorem dX1_read_122 : decode cX1_read 122 = .ok (.iconst 0, 1) := dk_3 (dk_at dksX1_read_5 5 rfl rfl)
theorem dX1_read_123 : decode cX1_read 123 = .ok (.aload_n 0, 1) := dk_42 (dk_at dksX1_read_5 6 rfl rfl)
theorem dX1_read_124 : decode cX1_read 124 = .ok (.getfield 80, 3) := dk_180 0 80 (dk_at dksX1_read_5 7 rfl rfl)
theorem dX1_read_127 : decode cX1_read 127 = .ok (.invokestatic 108, 3) := dk_184 0 108 (dk_at dksX1_read_5 10 rfl rfl)
theorem dX1_read_130 : decode cX1_read 130 = .ok (.aload_n 0, 1) := dk_42 (dk_at dksX1_read_5 13 rfl rfl)
theorem dX1_read_131 : decode cX1_read 131 = .ok (.getfield 15, 3) := dk_180 0 15 (dk_at dksX1_read_5 14 rfl rfl)
theorem dX1_read_134 : decode cX1_read 134 = .ok (.iconst 0, 1) := dk_3 (dk_at dksX1_read_5 17 rfl rfl)
theorem dX1_read_135 : decode cX1_read 135 = .ok (.aload 5, 2) := dk_25 5 (dk_at dksX1_read_5 18 rfl rfl)
theorem dX1_read_137 : decode cX1_read 137 = .ok (.getfield 114, 3) := dk_180 0 114 (dk_at dksX1_read_5 20 rfl rfl)
theorem dX1_read_140 : decode cX1_read 140 = .ok (.iconst 0, 1) := dk_3 (dk_at dksX1_read_5 23 rfl rfl)
theorem dX1_read_141 : decode cX1_read 141 = .ok (.aload_n 0, 1) := dk_42 (dk_at dksX1_read_6 0 rfl rfl)
theorem dX1_read_142 : decode cX1_read 142 = .ok (.getfield 80, 3) := dk_180 0 80 (dk_at dksX1_read_6 1 rfl rfl)
theorem dX1_read_145 : decode cX1_read 145 = .ok (.invokestatic 108, 3) := dk_184 0 108 (dk_at dksX1_read_6 4 rfl rfl)
theorem dX1_read_148 : decode cX1_read 148 = .ok (.aload_n 3, 1) := dk_45 (dk_at dksX1_read_6 7 rfl rfl)
theorem dX1_read_149 : decode cX1_read 149 = .ok (.getfield 91, 3) := dk_180 0 91 (dk_at dksX1_read_6 8 rfl rfl)
theorem dX1_read_152 : decode cX1_read 152 = .ok (.iload 4, 2) := dk_21 4 (dk_at dksX1_read_6 11 rfl rfl)
theorem dX1_read_154 : decode cX1_read 154 = .ok (.aload 5, 2) := dk_25 5 (dk_at dksX1_read_6 13 rfl rfl)
theorem dX1_read_156 : decode cX1_read 156 = .ok (.aastore, 1) := dk_83 (dk_at dksX1_read_6 15 rfl rfl)
theorem dX1_read_157 : decode cX1_read 157 = .ok (.goto (-125), 3) := dk_167 255 131 (dk_at dksX1_read_6 16 rfl rfl)
theorem dX1_read_160 : decode cX1_read 160 = .ok (.aload_n 3, 1) := dk_45 (dk_at dksX1_read_6 19 rfl rfl)
theorem dX1_read_161 : decode cX1_read 161 = .ok (.areturn, 1) := dk_176 (dk_at dksX1_read_6 20 rfl rfl)
abbrev cX1_next : ByteArray := prog_9_method_4_code
def yX1_next : MethodName := ⟨RX1, "next", "()V"⟩
def dkwX1_next_8 : List UInt8 := [18, 39, 27, 182, 0, 41, 156, 0, 7, 42, 182, 0, 47, 177]
abbrev dktX1_next_8 : List UInt8 := dkwX1_next_8 ++ []
def dkwX1_next_7 : List UInt8 := [180, 0, 19, 51, 184, 0, 36, 153, 0, 29, 42, 89, 180, 0, 19, 4, 96, 181, 0, 19, 167, 255, 220]
abbrev dktX1_next_7 : List UInt8 := dkwX1_next_7 ++ dktX1_next_8
def dkwX1_next_6 : List UInt8 := [184, 0, 36, 153, 0, 42, 42, 180, 0, 19, 42, 180, 0, 23, 162, 0, 44, 42, 180, 0, 26, 42]
abbrev dktX1_next_6 : List UInt8 := dkwX1_next_6 ++ dktX1_next_7
def dkwX1_next_5 : List UInt8 := [180, 0, 19, 51, 184, 0, 32, 153, 0, 75, 42, 89, 180, 0, 19, 4, 96, 181, 0, 19, 167, 255, 220, 27]
abbrev dktX1_next_5 : List UInt8 := dkwX1_next_5 ++ dktX1_next_6
def dkwX1_next_4 : List UInt8 := [27, 184, 0, 32, 153, 0, 42, 42, 180, 0, 19, 42, 180, 0, 23, 162, 0, 90, 42, 180, 0, 26, 42]
abbrev dktX1_next_4 : List UInt8 := dkwX1_next_4 ++ dktX1_next_5
def dkwX1_next_3 : List UInt8 := [160, 0, 4, 177, 42, 180, 0, 26, 42, 180, 0, 19, 51, 60, 42, 89, 180, 0, 19, 4, 96, 181, 0, 19]
abbrev dktX1_next_3 : List UInt8 := dkwX1_next_3 ++ dktX1_next_4
def dkwX1_next_2 : List UInt8 := [181, 0, 19, 167, 255, 207, 42, 42, 180, 0, 19, 181, 0, 29, 42, 180, 0, 19, 42, 180, 0, 23]
abbrev dktX1_next_2 : List UInt8 := dkwX1_next_2 ++ dktX1_next_3
def dkwX1_next_1 : List UInt8 := [159, 0, 17, 42, 180, 0, 26, 42, 180, 0, 19, 51, 16, 10, 160, 0, 16, 42, 89, 180, 0, 19, 4, 96]
abbrev dktX1_next_1 : List UInt8 := dkwX1_next_1 ++ dktX1_next_2
def dkwX1_next_0 : List UInt8 := [42, 180, 0, 19, 42, 180, 0, 23, 162, 0, 44, 42, 180, 0, 26, 42, 180, 0, 19, 51, 16, 32]
abbrev dktX1_next_0 : List UInt8 := dkwX1_next_0 ++ dktX1_next_1
theorem dksX1_next_0 : cX1_next.data.toList.drop 0 = dktX1_next_0 := by decide +kernel
theorem dksX1_next_1 : cX1_next.data.toList.drop 22 = dktX1_next_1 := dk_seg dksX1_next_0 22 rfl rfl
theorem dksX1_next_2 : cX1_next.data.toList.drop 46 = dktX1_next_2 := dk_seg dksX1_next_1 24 rfl rfl
theorem dksX1_next_3 : cX1_next.data.toList.drop 68 = dktX1_next_3 := dk_seg dksX1_next_2 22 rfl rfl
theorem dksX1_next_4 : cX1_next.data.toList.drop 92 = dktX1_next_4 := dk_seg dksX1_next_3 24 rfl rfl
theorem dksX1_next_5 : cX1_next.data.toList.drop 115 = dktX1_next_5 := dk_seg dksX1_next_4 23 rfl rfl
theorem dksX1_next_6 : cX1_next.data.toList.drop 139 = dktX1_next_6 := dk_seg dksX1_next_5 24 rfl rfl
theorem dksX1_next_7 : cX1_next.data.toList.drop 161 = dktX1_next_7 := dk_seg dksX1_next_6 22 rfl rfl
theorem dksX1_next_8 : cX1_next.data.toList.drop 184 = dktX1_next_8 := dk_seg dksX1_next_7 23 rfl rfl
theorem dX1_next_0 : decode cX1_next 0 = .ok (.aload_n 0, 1) := dk_42 (dk_at dksX1_next_0 0 rfl rfl)
theorem dX1_next_1 : decode cX1_next 1 = .ok (.getfield 19, 3) := dk_180 0 19 (dk_at dksX1_next_0 1 rfl rfl)
theorem dX1_next_4 : decode cX1_next 4 = .ok (.aload_n 0, 1) := dk_42 (dk_at dksX1_next_0 4 rfl rfl)
theorem dX1_next_5 : decode cX1_next 5 = .ok (.getfield 23, 3) := dk_180 0 23 (dk_at dksX1_next_0 5 rfl rfl)
theorem dX1_next_8 : decode cX1_next 8 = .ok (.if_icmp .ge 44, 3) := dk_162 0 44 (dk_at dksX1_next_0 8 rfl rfl)
theorem dX1_next_11 : decode cX1_next 11 = .ok (.aload_n 0, 1) := dk_42 (dk_at dksX1_next_0 11 rfl rfl)
theorem dX1_next_12 : decode cX1_next 12 = .ok (.getfield 26, 3) := dk_180 0 26 (dk_at dksX1_next_0 12 rfl rfl)
theorem dX1_next_15 : decode cX1_next 15 = .ok (.aload_n 0, 1) := dk_42 (dk_at dksX1_next_0 15 rfl rfl)
theorem dX1_next_16 : decode cX1_next 16 = .ok (.getfield 19, 3) := dk_180 0 19 (dk_at dksX1_next_0 16 rfl rfl)
theorem dX1_next_19 : decode cX1_next 19 = .ok (.baload, 1) := dk_51 (dk_at dksX1_next_0 19 rfl rfl)
theorem dX1_next_20 : decode cX1_next 20 = .ok (.bipush 32, 2) := dk_16 32 (dk_at dksX1_next_0 20 rfl rfl)
theorem dX1_next_22 : decode cX1_next 22 = .ok (.if_icmp .eq 17, 3) := dk_159 0 17 (dk_at dksX1_next_1 0 rfl rfl)
theorem dX1_next_25 : decode cX1_next 25 = .ok (.aload_n 0, 1) := dk_42 (dk_at dksX1_next_1 3 rfl rfl)
theorem dX1_next_26 : decode cX1_next 26 = .ok (.getfield 26, 3) := dk_180 0 26 (dk_at dksX1_next_1 4 rfl rfl)
theorem dX1_next_29 : decode cX1_next 29 = .ok (.aload_n 0, 1) := dk_42 (dk_at dksX1_next_1 7 rfl rfl)
theorem dX1_next_30 : decode cX1_next 30 = .ok (.getfield 19, 3) := dk_180 0 19 (dk_at dksX1_next_1 8 rfl rfl)
theorem dX1_next_33 : decode cX1_next 33 = .ok (.baload, 1) := dk_51 (dk_at dksX1_next_1 11 rfl rfl)
theorem dX1_next_34 : decode cX1_next 34 = .ok (.bipush 10, 2) := dk_16 10 (dk_at dksX1_next_1 12 rfl rfl)
theorem dX1_next_36 : decode cX1_next 36 = .ok (.if_icmp .ne 16, 3) := dk_160 0 16 (dk_at dksX1_next_1 14 rfl rfl)
theorem dX1_next_39 : decode cX1_next 39 = .ok (.aload_n 0, 1) := dk_42 (dk_at dksX1_next_1 17 rfl rfl)
theorem dX1_next_40 : decode cX1_next 40 = .ok (.dup, 1) := dk_89 (dk_at dksX1_next_1 18 rfl rfl)
theorem dX1_next_41 : decode cX1_next 41 = .ok (.getfield 19, 3) := dk_180 0 19 (dk_at dksX1_next_1 19 rfl rfl)
theorem dX1_next_44 : decode cX1_next 44 = .ok (.iconst 1, 1) := dk_4 (dk_at dksX1_next_1 22 rfl rfl)
theorem dX1_next_45 : decode cX1_next 45 = .ok (.iadd, 1) := dk_96 (dk_at dksX1_next_1 23 rfl rfl)
theorem dX1_next_46 : decode cX1_next 46 = .ok (.putfield 19, 3) := dk_181 0 19 (dk_at dksX1_next_2 0 rfl rfl)
theorem dX1_next_49 : decode cX1_next 49 = .ok (.goto (-49), 3) := dk_167 255 207 (dk_at dksX1_next_2 3 rfl rfl)
theorem dX1_next_52 : decode cX1_next 52 = .ok (.aload_n 0, 1) := dk_42 (dk_at dksX1_next_2 6 rfl rfl)
theorem dX1_next_53 : decode cX1_next 53 = .ok (.aload_n 0, 1) := dk_42 (dk_at dksX1_next_2 7 rfl rfl)
theorem dX1_next_54 : decode cX1_next 54 = .ok (.getfield 19, 3) := dk_180 0 19 (dk_at dksX1_next_2 8 rfl rfl)
theorem dX1_next_57 : decode cX1_next 57 = .ok (.putfield 29, 3) := dk_181 0 29 (dk_at dksX1_next_2 11 rfl rfl)
theorem dX1_next_60 : decode cX1_next 60 = .ok (.aload_n 0, 1) := dk_42 (dk_at dksX1_next_2 14 rfl rfl)
theorem dX1_next_61 : decode cX1_next 61 = .ok (.getfield 19, 3) := dk_180 0 19 (dk_at dksX1_next_2 15 rfl rfl)
theorem dX1_next_64 : decode cX1_next 64 = .ok (.aload_n 0, 1) := dk_42 (dk_at dksX1_next_2 18 rfl rfl)
theorem dX1_next_65 : decode cX1_next 65 = .ok (.getfield 23, 3) := dk_180 0 23 (dk_at dksX1_next_2 19 rfl rfl)
theorem dX1_next_68 : decode cX1_next 68 = .ok (.if_icmp .ne 4, 3) := dk_160 0 4 (dk_at dksX1_next_3 0 rfl rfl)
theorem dX1_next_71 : decode cX1_next 71 = .ok (.return_, 1) := dk_177 (dk_at dksX1_next_3 3 rfl rfl)
theorem dX1_next_72 : decode cX1_next 72 = .ok (.aload_n 0, 1) := dk_42 (dk_at dksX1_next_3 4 rfl rfl)
theorem dX1_next_73 : decode cX1_next 73 = .ok (.getfield 26, 3) := dk_180 0 26 (dk_at dksX1_next_3 5 rfl rfl)
theorem dX1_next_76 : decode cX1_next 76 = .ok (.aload_n 0, 1) := dk_42 (dk_at dksX1_next_3 8 rfl rfl)
theorem dX1_next_77 : decode cX1_next 77 = .ok (.getfield 19, 3) := dk_180 0 19 (dk_at dksX1_next_3 9 rfl rfl)
theorem dX1_next_80 : decode cX1_next 80 = .ok (.baload, 1) := dk_51 (dk_at dksX1_next_3 12 rfl rfl)
theorem dX1_next_81 : decode cX1_next 81 = .ok (.istore_n 1, 1) := dk_60 (dk_at dksX1_next_3 13 rfl rfl)
theorem dX1_next_82 : decode cX1_next 82 = .ok (.aload_n 0, 1) := dk_42 (dk_at dksX1_next_3 14 rfl rfl)
theorem dX1_next_83 : decode cX1_next 83 = .ok (.dup, 1) := dk_89 (dk_at dksX1_next_3 15 rfl rfl)
theorem dX1_next_84 : decode cX1_next 84 = .ok (.getfield 19, 3) := dk_180 0 19 (dk_at dksX1_next_3 16 rfl rfl)
theorem dX1_next_87 : decode cX1_next 87 = .ok (.iconst 1, 1) := dk_4 (dk_at dksX1_next_3 19 rfl rfl)
theorem dX1_next_88 : decode cX1_next 88 = .ok (.iadd, 1) := dk_96 (dk_at dksX1_next_3 20 rfl rfl)
theorem dX1_next_89 : decode cX1_next 89 = .ok (.putfield 19, 3) := dk_181 0 19 (dk_at dksX1_next_3 21 rfl rfl)
theorem dX1_next_92 : decode cX1_next 92 = .ok (.iload_n 1, 1) := dk_27 (dk_at dksX1_next_4 0 rfl rfl)
theorem dX1_next_93 : decode cX1_next 93 = .ok (.invokestatic 32, 3) := dk_184 0 32 (dk_at dksX1_next_4 1 rfl rfl)
theorem dX1_next_96 : decode cX1_next 96 = .ok (.ifCond .eq 42, 3) := dk_153 0 42 (dk_at dksX1_next_4 4 rfl rfl)
theorem dX1_next_99 : decode cX1_next 99 = .ok (.aload_n 0, 1) := dk_42 (dk_at dksX1_next_4 7 rfl rfl)
theorem dX1_next_100 : decode cX1_next 100 = .ok (.getfield 19, 3) := dk_180 0 19 (dk_at dksX1_next_4 8 rfl rfl)
theorem dX1_next_103 : decode cX1_next 103 = .ok (.aload_n 0, 1) := dk_42 (dk_at dksX1_next_4 11 rfl rfl)
theorem dX1_next_104 : decode cX1_next 104 = .ok (.getfield 23, 3) := dk_180 0 23 (dk_at dksX1_next_4 12 rfl rfl)
theorem dX1_next_107 : decode cX1_next 107 = .ok (.if_icmp .ge 90, 3) := dk_162 0 90 (dk_at dksX1_next_4 15 rfl rfl)
theorem dX1_next_110 : decode cX1_next 110 = .ok (.aload_n 0, 1) := dk_42 (dk_at dksX1_next_4 18 rfl rfl)
theorem dX1_next_111 : decode cX1_next 111 = .ok (.getfield 26, 3) := dk_180 0 26 (dk_at dksX1_next_4 19 rfl rfl)
theorem dX1_next_114 : decode cX1_next 114 = .ok (.aload_n 0, 1) := dk_42 (dk_at dksX1_next_4 22 rfl rfl)
theorem dX1_next_115 : decode cX1_next 115 = .ok (.getfield 19, 3) := dk_180 0 19 (dk_at dksX1_next_5 0 rfl rfl)
theorem dX1_next_118 : decode cX1_next 118 = .ok (.baload, 1) := dk_51 (dk_at dksX1_next_5 3 rfl rfl)
theorem dX1_next_119 : decode cX1_next 119 = .ok (.invokestatic 32, 3) := dk_184 0 32 (dk_at dksX1_next_5 4 rfl rfl)
theorem dX1_next_122 : decode cX1_next 122 = .ok (.ifCond .eq 75, 3) := dk_153 0 75 (dk_at dksX1_next_5 7 rfl rfl)
theorem dX1_next_125 : decode cX1_next 125 = .ok (.aload_n 0, 1) := dk_42 (dk_at dksX1_next_5 10 rfl rfl)
theorem dX1_next_126 : decode cX1_next 126 = .ok (.dup, 1) := dk_89 (dk_at dksX1_next_5 11 rfl rfl)
theorem dX1_next_127 : decode cX1_next 127 = .ok (.getfield 19, 3) := dk_180 0 19 (dk_at dksX1_next_5 12 rfl rfl)
theorem dX1_next_130 : decode cX1_next 130 = .ok (.iconst 1, 1) := dk_4 (dk_at dksX1_next_5 15 rfl rfl)
theorem dX1_next_131 : decode cX1_next 131 = .ok (.iadd, 1) := dk_96 (dk_at dksX1_next_5 16 rfl rfl)
theorem dX1_next_132 : decode cX1_next 132 = .ok (.putfield 19, 3) := dk_181 0 19 (dk_at dksX1_next_5 17 rfl rfl)
theorem dX1_next_135 : decode cX1_next 135 = .ok (.goto (-36), 3) := dk_167 255 220 (dk_at dksX1_next_5 20 rfl rfl)
theorem dX1_next_138 : decode cX1_next 138 = .ok (.iload_n 1, 1) := dk_27 (dk_at dksX1_next_5 23 rfl rfl)
theorem dX1_next_139 : decode cX1_next 139 = .ok (.invokestatic 36, 3) := dk_184 0 36 (dk_at dksX1_next_6 0 rfl rfl)
theorem dX1_next_142 : decode cX1_next 142 = .ok (.ifCond .eq 42, 3) := dk_153 0 42 (dk_at dksX1_next_6 3 rfl rfl)
theorem dX1_next_145 : decode cX1_next 145 = .ok (.aload_n 0, 1) := dk_42 (dk_at dksX1_next_6 6 rfl rfl)
theorem dX1_next_146 : decode cX1_next 146 = .ok (.getfield 19, 3) := dk_180 0 19 (dk_at dksX1_next_6 7 rfl rfl)
theorem dX1_next_149 : decode cX1_next 149 = .ok (.aload_n 0, 1) := dk_42 (dk_at dksX1_next_6 10 rfl rfl)
theorem dX1_next_150 : decode cX1_next 150 = .ok (.getfield 23, 3) := dk_180 0 23 (dk_at dksX1_next_6 11 rfl rfl)
theorem dX1_next_153 : decode cX1_next 153 = .ok (.if_icmp .ge 44, 3) := dk_162 0 44 (dk_at dksX1_next_6 14 rfl rfl)
theorem dX1_next_156 : decode cX1_next 156 = .ok (.aload_n 0, 1) := dk_42 (dk_at dksX1_next_6 17 rfl rfl)
theorem dX1_next_157 : decode cX1_next 157 = .ok (.getfield 26, 3) := dk_180 0 26 (dk_at dksX1_next_6 18 rfl rfl)
theorem dX1_next_160 : decode cX1_next 160 = .ok (.aload_n 0, 1) := dk_42 (dk_at dksX1_next_6 21 rfl rfl)
theorem dX1_next_161 : decode cX1_next 161 = .ok (.getfield 19, 3) := dk_180 0 19 (dk_at dksX1_next_7 0 rfl rfl)
theorem dX1_next_164 : decode cX1_next 164 = .ok (.baload, 1) := dk_51 (dk_at dksX1_next_7 3 rfl rfl)
theorem dX1_next_165 : decode cX1_next 165 = .ok (.invokestatic 36, 3) := dk_184 0 36 (dk_at dksX1_next_7 4 rfl rfl)
theorem dX1_next_168 : decode cX1_next 168 = .ok (.ifCond .eq 29, 3) := dk_153 0 29 (dk_at dksX1_next_7 7 rfl rfl)
theorem dX1_next_171 : decode cX1_next 171 = .ok (.aload_n 0, 1) := dk_42 (dk_at dksX1_next_7 10 rfl rfl)
theorem dX1_next_172 : decode cX1_next 172 = .ok (.dup, 1) := dk_89 (dk_at dksX1_next_7 11 rfl rfl)
theorem dX1_next_173 : decode cX1_next 173 = .ok (.getfield 19, 3) := dk_180 0 19 (dk_at dksX1_next_7 12 rfl rfl)
theorem dX1_next_176 : decode cX1_next 176 = .ok (.iconst 1, 1) := dk_4 (dk_at dksX1_next_7 15 rfl rfl)
theorem dX1_next_177 : decode cX1_next 177 = .ok (.iadd, 1) := dk_96 (dk_at dksX1_next_7 16 rfl rfl)
theorem dX1_next_178 : decode cX1_next 178 = .ok (.putfield 19, 3) := dk_181 0 19 (dk_at dksX1_next_7 17 rfl rfl)
theorem dX1_next_181 : decode cX1_next 181 = .ok (.goto (-36), 3) := dk_167 255 220 (dk_at dksX1_next_7 20 rfl rfl)
theorem dX1_next_184 : decode cX1_next 184 = .ok (.ldc 39, 2) := dk_18 39 (dk_at dksX1_next_8 0 rfl rfl)
theorem dX1_next_186 : decode cX1_next 186 = .ok (.iload_n 1, 1) := dk_27 (dk_at dksX1_next_8 2 rfl rfl)
theorem dX1_next_187 : decode cX1_next 187 = .ok (.invokevirtual 41, 3) := dk_182 0 41 (dk_at dksX1_next_8 3 rfl rfl)
theorem dX1_next_190 : decode cX1_next 190 = .ok (.ifCond .ge 7, 3) := dk_156 0 7 (dk_at dksX1_next_8 6 rfl rfl)
theorem dX1_next_193 : decode cX1_next 193 = .ok (.aload_n 0, 1) := dk_42 (dk_at dksX1_next_8 9 rfl rfl)
theorem dX1_next_194 : decode cX1_next 194 = .ok (.invokevirtual 47, 3) := dk_182 0 47 (dk_at dksX1_next_8 10 rfl rfl)
theorem dX1_next_197 : decode cX1_next 197 = .ok (.return_, 1) := dk_177 (dk_at dksX1_next_8 13 rfl rfl)
abbrev cX1_isLetter : ByteArray := prog_9_method_2_code
def yX1_isLetter : MethodName := ⟨RX1, "isLetter", "(I)Z"⟩
def dkwX1_isLetter_0 : List UInt8 := [26, 16, 97, 161, 0, 13, 26, 16, 122, 163, 0, 7, 4, 167, 0, 4, 3, 172]
abbrev dktX1_isLetter_0 : List UInt8 := dkwX1_isLetter_0 ++ []
theorem dksX1_isLetter_0 : cX1_isLetter.data.toList.drop 0 = dktX1_isLetter_0 := by decide +kernel
theorem dX1_isLetter_0 : decode cX1_isLetter 0 = .ok (.iload_n 0, 1) := dk_26 (dk_at dksX1_isLetter_0 0 rfl rfl)
theorem dX1_isLetter_1 : decode cX1_isLetter 1 = .ok (.bipush 97, 2) := dk_16 97 (dk_at dksX1_isLetter_0 1 rfl rfl)
theorem dX1_isLetter_3 : decode cX1_isLetter 3 = .ok (.if_icmp .lt 13, 3) := dk_161 0 13 (dk_at dksX1_isLetter_0 3 rfl rfl)
theorem dX1_isLetter_6 : decode cX1_isLetter 6 = .ok (.iload_n 0, 1) := dk_26 (dk_at dksX1_isLetter_0 6 rfl rfl)
theorem dX1_isLetter_7 : decode cX1_isLetter 7 = .ok (.bipush 122, 2) := dk_16 122 (dk_at dksX1_isLetter_0 7 rfl rfl)
theorem dX1_isLetter_9 : decode cX1_isLetter 9 = .ok (.if_icmp .gt 7, 3) := dk_163 0 7 (dk_at dksX1_isLetter_0 9 rfl rfl)
theorem dX1_isLetter_12 : decode cX1_isLetter 12 = .ok (.iconst 1, 1) := dk_4 (dk_at dksX1_isLetter_0 12 rfl rfl)
theorem dX1_isLetter_13 : decode cX1_isLetter 13 = .ok (.goto 4, 3) := dk_167 0 4 (dk_at dksX1_isLetter_0 13 rfl rfl)
theorem dX1_isLetter_16 : decode cX1_isLetter 16 = .ok (.iconst 0, 1) := dk_3 (dk_at dksX1_isLetter_0 16 rfl rfl)
theorem dX1_isLetter_17 : decode cX1_isLetter 17 = .ok (.ireturn, 1) := dk_172 (dk_at dksX1_isLetter_0 17 rfl rfl)
abbrev cX1_isDigit : ByteArray := prog_9_method_3_code
def yX1_isDigit : MethodName := ⟨RX1, "isDigit", "(I)Z"⟩
def dkwX1_isDigit_0 : List UInt8 := [26, 16, 48, 161, 0, 13, 26, 16, 57, 163, 0, 7, 4, 167, 0, 4, 3, 172]
abbrev dktX1_isDigit_0 : List UInt8 := dkwX1_isDigit_0 ++ []
theorem dksX1_isDigit_0 : cX1_isDigit.data.toList.drop 0 = dktX1_isDigit_0 := by decide +kernel
theorem dX1_isDigit_0 : decode cX1_isDigit 0 = .ok (.iload_n 0, 1) := dk_26 (dk_at dksX1_isDigit_0 0 rfl rfl)
theorem dX1_isDigit_1 : decode cX1_isDigit 1 = .ok (.bipush 48, 2) := dk_16 48 (dk_at dksX1_isDigit_0 1 rfl rfl)
theorem dX1_isDigit_3 : decode cX1_isDigit 3 = .ok (.if_icmp .lt 13, 3) := dk_161 0 13 (dk_at dksX1_isDigit_0 3 rfl rfl)
theorem dX1_isDigit_6 : decode cX1_isDigit 6 = .ok (.iload_n 0, 1) := dk_26 (dk_at dksX1_isDigit_0 6 rfl rfl)
theorem dX1_isDigit_7 : decode cX1_isDigit 7 = .ok (.bipush 57, 2) := dk_16 57 (dk_at dksX1_isDigit_0 7 rfl rfl)
theorem dX1_isDigit_9 : decode cX1_isDigit 9 = .ok (.if_icmp .gt 7, 3) := dk_163 0 7 (dk_at dksX1_isDigit_0 9 rfl rfl)
theorem dX1_isDigit_12 : decode cX1_isDigit 12 = .ok (.iconst 1, 1) := dk_4 (dk_at dksX1_isDigit_0 12 rfl rfl)
theorem dX1_isDigit_13 : decode cX1_isDigit 13 = .ok (.goto 4, 3) := dk_167 0 4 (dk_at dksX1_isDigit_0 13 rfl rfl)
theorem dX1_isDigit_16 : decode cX1_isDigit 16 = .ok (.iconst 0, 1) := dk_3 (dk_at dksX1_isDigit_0 16 rfl rfl)
theorem dX1_isDigit_17 : decode cX1_isDigit 17 = .ok (.ireturn, 1) := dk_172 (dk_at dksX1_isDigit_0 17 rfl rfl)
abbrev cX1_errs : ByteArray := prog_9_method_5_code
def yX1_errs : MethodName := ⟨RX1, "errs", "()V"⟩
def dkwX1_errs_0 : List UInt8 := [187, 0, 50, 89, 42, 180, 0, 29, 183, 0, 52, 191]
abbrev dktX1_errs_0 : List UInt8 := dkwX1_errs_0 ++ []
theorem dksX1_errs_0 : cX1_errs.data.toList.drop 0 = dktX1_errs_0 := by decide +kernel
theorem dX1_errs_0 : decode cX1_errs 0 = .ok (.new 50, 3) := dk_187 0 50 (dk_at dksX1_errs_0 0 rfl rfl)
theorem dX1_errs_3 : decode cX1_errs 3 = .ok (.dup, 1) := dk_89 (dk_at dksX1_errs_0 3 rfl rfl)
theorem dX1_errs_4 : decode cX1_errs 4 = .ok (.aload_n 0, 1) := dk_42 (dk_at dksX1_errs_0 4 rfl rfl)
theorem dX1_errs_5 : decode cX1_errs 5 = .ok (.getfield 29, 3) := dk_180 0 29 (dk_at dksX1_errs_0 5 rfl rfl)
theorem dX1_errs_8 : decode cX1_errs 8 = .ok (.invokespecial 52, 3) := dk_183 0 52 (dk_at dksX1_errs_0 8 rfl rfl)
theorem dX1_errs_11 : decode cX1_errs 11 = .ok (.athrow, 1) := dk_191 (dk_at dksX1_errs_0 11 rfl rfl)
abbrev cX1_isOver : ByteArray := prog_9_method_6_code
def yX1_isOver : MethodName := ⟨RX1, "isOver", "()Z"⟩
def dkwX1_isOver_0 : List UInt8 := [42, 180, 0, 29, 42, 180, 0, 23, 160, 0, 7, 4, 167, 0, 4, 3, 172]
abbrev dktX1_isOver_0 : List UInt8 := dkwX1_isOver_0 ++ []
theorem dksX1_isOver_0 : cX1_isOver.data.toList.drop 0 = dktX1_isOver_0 := by decide +kernel
theorem dX1_isOver_0 : decode cX1_isOver 0 = .ok (.aload_n 0, 1) := dk_42 (dk_at dksX1_isOver_0 0 rfl rfl)
theorem dX1_isOver_1 : decode cX1_isOver 1 = .ok (.getfield 29, 3) := dk_180 0 29 (dk_at dksX1_isOver_0 1 rfl rfl)
theorem dX1_isOver_4 : decode cX1_isOver 4 = .ok (.aload_n 0, 1) := dk_42 (dk_at dksX1_isOver_0 4 rfl rfl)
theorem dX1_isOver_5 : decode cX1_isOver 5 = .ok (.getfield 23, 3) := dk_180 0 23 (dk_at dksX1_isOver_0 5 rfl rfl)
theorem dX1_isOver_8 : decode cX1_isOver 8 = .ok (.if_icmp .ne 7, 3) := dk_160 0 7 (dk_at dksX1_isOver_0 8 rfl rfl)
theorem dX1_isOver_11 : decode cX1_isOver 11 = .ok (.iconst 1, 1) := dk_4 (dk_at dksX1_isOver_0 11 rfl rfl)
theorem dX1_isOver_12 : decode cX1_isOver 12 = .ok (.goto 4, 3) := dk_167 0 4 (dk_at dksX1_isOver_0 12 rfl rfl)
theorem dX1_isOver_15 : decode cX1_isOver 15 = .ok (.iconst 0, 1) := dk_3 (dk_at dksX1_isOver_0 15 rfl rfl)
theorem dX1_isOver_16 : decode cX1_isOver 16 = .ok (.ireturn, 1) := dk_172 (dk_at dksX1_isOver_0 16 rfl rfl)
abbrev cX1_word : ByteArray := prog_9_method_8_code
def yX1_word : MethodName := ⟨RX1, "word", "(Ljava/lang/String;)I"⟩
def dkwX1_word_4 : List UInt8 := [180, 0, 29, 100, 160, 0, 5, 28, 172, 21, 4, 4, 96, 62, 132, 2, 1, 167, 255, 151, 2, 172]
abbrev dktX1_word_4 : List UInt8 := dkwX1_word_4 ++ []
def dkwX1_word_3 : List UInt8 := [132, 5, 1, 167, 255, 207, 21, 5, 21, 4, 29, 100, 160, 0, 19, 21, 5, 42, 180, 0, 19, 42]
abbrev dktX1_word_3 : List UInt8 := dkwX1_word_3 ++ dktX1_word_4
def dkwX1_word_2 : List UInt8 := [180, 0, 26, 42, 180, 0, 29, 21, 5, 96, 51, 43, 29, 21, 5, 96, 182, 0, 66, 160, 0, 9]
abbrev dktX1_word_2 : List UInt8 := dkwX1_word_2 ++ dktX1_word_3
def dkwX1_word_1 : List UInt8 := [21, 5, 21, 4, 29, 100, 162, 0, 46, 42, 180, 0, 29, 21, 5, 96, 42, 180, 0, 19, 162, 0, 32, 42]
abbrev dktX1_word_1 : List UInt8 := dkwX1_word_1 ++ dktX1_word_2
def dkwX1_word_0 : List UInt8 := [3, 61, 3, 62, 29, 43, 182, 0, 59, 162, 0, 103, 43, 16, 32, 29, 182, 0, 63, 54, 4, 3, 54, 5]
abbrev dktX1_word_0 : List UInt8 := dkwX1_word_0 ++ dktX1_word_1
theorem dksX1_word_0 : cX1_word.data.toList.drop 0 = dktX1_word_0 := by decide +kernel
theorem dksX1_word_1 : cX1_word.data.toList.drop 24 = dktX1_word_1 := dk_seg dksX1_word_0 24 rfl rfl
theorem dksX1_word_2 : cX1_word.data.toList.drop 48 = dktX1_word_2 := dk_seg dksX1_word_1 24 rfl rfl
theorem dksX1_word_3 : cX1_word.data.toList.drop 70 = dktX1_word_3 := dk_seg dksX1_word_2 22 rfl rfl
theorem dksX1_word_4 : cX1_word.data.toList.drop 92 = dktX1_word_4 := dk_seg dksX1_word_3 22 rfl rfl
theorem dX1_word_0 : decode cX1_word 0 = .ok (.iconst 0, 1) := dk_3 (dk_at dksX1_word_0 0 rfl rfl)
theorem dX1_word_1 : decode cX1_word 1 = .ok (.istore_n 2, 1) := dk_61 (dk_at dksX1_word_0 1 rfl rfl)
theorem dX1_word_2 : decode cX1_word 2 = .ok (.iconst 0, 1) := dk_3 (dk_at dksX1_word_0 2 rfl rfl)
theorem dX1_word_3 : decode cX1_word 3 = .ok (.istore_n 3, 1) := dk_62 (dk_at dksX1_word_0 3 rfl rfl)
theorem dX1_word_4 : decode cX1_word 4 = .ok (.iload_n 3, 1) := dk_29 (dk_at dksX1_word_0 4 rfl rfl)
theorem dX1_word_5 : decode cX1_word 5 = .ok (.aload_n 1, 1) := dk_43 (dk_at dksX1_word_0 5 rfl rfl)
theorem dX1_word_6 : decode cX1_word 6 = .ok (.invokevirtual 59, 3) := dk_182 0 59 (dk_at dksX1_word_0 6 rfl rfl)
theorem dX1_word_9 : decode cX1_word 9 = .ok (.if_icmp .ge 103, 3) := dk_162 0 103 (dk_at dksX1_word_0 9 rfl rfl)
theorem dX1_word_12 : decode cX1_word 12 = .ok (.aload_n 1, 1) := dk_43 (dk_at dksX1_word_0 12 rfl rfl)
theorem dX1_word_13 : decode cX1_word 13 = .ok (.bipush 32, 2) := dk_16 32 (dk_at dksX1_word_0 13 rfl rfl)
theorem dX1_word_15 : decode cX1_word 15 = .ok (.iload_n 3, 1) := dk_29 (dk_at dksX1_word_0 15 rfl rfl)
theorem dX1_word_16 : decode cX1_word 16 = .ok (.invokevirtual 63, 3) := dk_182 0 63 (dk_at dksX1_word_0 16 rfl rfl)
theorem dX1_word_19 : decode cX1_word 19 = .ok (.istore 4, 2) := dk_54 4 (dk_at dksX1_word_0 19 rfl rfl)
theorem dX1_word_21 : decode cX1_word 21 = .ok (.iconst 0, 1) := dk_3 (dk_at dksX1_word_0 21 rfl rfl)
theorem dX1_word_22 : decode cX1_word 22 = .ok (.istore 5, 2) := dk_54 5 (dk_at dksX1_word_0 22 rfl rfl)
theorem dX1_word_24 : decode cX1_word 24 = .ok (.iload 5, 2) := dk_21 5 (dk_at dksX1_word_1 0 rfl rfl)
theorem dX1_word_26 : decode cX1_word 26 = .ok (.iload 4, 2) := dk_21 4 (dk_at dksX1_word_1 2 rfl rfl)
theorem dX1_word_28 : decode cX1_word 28 = .ok (.iload_n 3, 1) := dk_29 (dk_at dksX1_word_1 4 rfl rfl)
theorem dX1_word_29 : decode cX1_word 29 = .ok (.isub, 1) := dk_100 (dk_at dksX1_word_1 5 rfl rfl)
theorem dX1_word_30 : decode cX1_word 30 = .ok (.if_icmp .ge 46, 3) := dk_162 0 46 (dk_at dksX1_word_1 6 rfl rfl)
theorem dX1_word_33 : decode cX1_word 33 = .ok (.aload_n 0, 1) := dk_42 (dk_at dksX1_word_1 9 rfl rfl)
theorem dX1_word_34 : decode cX1_word 34 = .ok (.getfield 29, 3) := dk_180 0 29 (dk_at dksX1_word_1 10 rfl rfl)
theorem dX1_word_37 : decode cX1_word 37 = .ok (.iload 5, 2) := dk_21 5 (dk_at dksX1_word_1 13 rfl rfl)
theorem dX1_word_39 : decode cX1_word 39 = .ok (.iadd, 1) := dk_96 (dk_at dksX1_word_1 15 rfl rfl)
theorem dX1_word_40 : decode cX1_word 40 = .ok (.aload_n 0, 1) := dk_42 (dk_at dksX1_word_1 16 rfl rfl)
theorem dX1_word_41 : decode cX1_word 41 = .ok (.getfield 19, 3) := dk_180 0 19 (dk_at dksX1_word_1 17 rfl rfl)
theorem dX1_word_44 : decode cX1_word 44 = .ok (.if_icmp .ge 32, 3) := dk_162 0 32 (dk_at dksX1_word_1 20 rfl rfl)
theorem dX1_word_47 : decode cX1_word 47 = .ok (.aload_n 0, 1) := dk_42 (dk_at dksX1_word_1 23 rfl rfl)
theorem dX1_word_48 : decode cX1_word 48 = .ok (.getfield 26, 3) := dk_180 0 26 (dk_at dksX1_word_2 0 rfl rfl)
theorem dX1_word_51 : decode cX1_word 51 = .ok (.aload_n 0, 1) := dk_42 (dk_at dksX1_word_2 3 rfl rfl)
theorem dX1_word_52 : decode cX1_word 52 = .ok (.getfield 29, 3) := dk_180 0 29 (dk_at dksX1_word_2 4 rfl rfl)
theorem dX1_word_55 : decode cX1_word 55 = .ok (.iload 5, 2) := dk_21 5 (dk_at dksX1_word_2 7 rfl rfl)
theorem dX1_word_57 : decode cX1_word 57 = .ok (.iadd, 1) := dk_96 (dk_at dksX1_word_2 9 rfl rfl)
theorem dX1_word_58 : decode cX1_word 58 = .ok (.baload, 1) := dk_51 (dk_at dksX1_word_2 10 rfl rfl)
theorem dX1_word_59 : decode cX1_word 59 = .ok (.aload_n 1, 1) := dk_43 (dk_at dksX1_word_2 11 rfl rfl)
theorem dX1_word_60 : decode cX1_word 60 = .ok (.iload_n 3, 1) := dk_29 (dk_at dksX1_word_2 12 rfl rfl)
theorem dX1_word_61 : decode cX1_word 61 = .ok (.iload 5, 2) := dk_21 5 (dk_at dksX1_word_2 13 rfl rfl)
theorem dX1_word_63 : decode cX1_word 63 = .ok (.iadd, 1) := dk_96 (dk_at dksX1_word_2 15 rfl rfl)
theorem dX1_word_64 : decode cX1_word 64 = .ok (.invokevirtual 66, 3) := dk_182 0 66 (dk_at dksX1_word_2 16 rfl rfl)
theorem dX1_word_67 : decode cX1_word 67 = .ok (.if_icmp .ne 9, 3) := dk_160 0 9 (dk_at dksX1_word_2 19 rfl rfl)
theorem dX1_word_70 : decode cX1_word 70 = .ok (.iinc 5 1, 3) := dk_132 5 1 (dk_at dksX1_word_3 0 rfl rfl)
theorem dX1_word_73 : decode cX1_word 73 = .ok (.goto (-49), 3) := dk_167 255 207 (dk_at dksX1_word_3 3 rfl rfl)
theorem dX1_word_76 : decode cX1_word 76 = .ok (.iload 5, 2) := dk_21 5 (dk_at dksX1_word_3 6 rfl rfl)
theorem dX1_word_78 : decode cX1_word 78 = .ok (.iload 4, 2) := dk_21 4 (dk_at dksX1_word_3 8 rfl rfl)
theorem dX1_word_80 : decode cX1_word 80 = .ok (.iload_n 3, 1) := dk_29 (dk_at dksX1_word_3 10 rfl rfl)
theorem dX1_word_81 : decode cX1_word 81 = .ok (.isub, 1) := dk_100 (dk_at dksX1_word_3 11 rfl rfl)
theorem dX1_word_82 : decode cX1_word 82 = .ok (.if_icmp .ne 19, 3) := dk_160 0 19 (dk_at dksX1_word_3 12 rfl rfl)
theorem dX1_word_85 : decode cX1_word 85 = .ok (.iload 5, 2) := dk_21 5 (dk_at dksX1_word_3 15 rfl rfl)
theorem dX1_word_87 : decode cX1_word 87 = .ok (.aload_n 0, 1) := dk_42 (dk_at dksX1_word_3 17 rfl rfl)
theorem dX1_word_88 : decode cX1_word 88 = .ok (.getfield 19, 3) := dk_180 0 19 (dk_at dksX1_word_3 18 rfl rfl)
theorem dX1_word_91 : decode cX1_word 91 = .ok (.aload_n 0, 1) := dk_42 (dk_at dksX1_word_3 21 rfl rfl)
theorem dX1_word_92 : decode cX1_word 92 = .ok (.getfield 29, 3) := dk_180 0 29 (dk_at dksX1_word_4 0 rfl rfl)
theorem dX1_word_95 : decode cX1_word 95 = .ok (.isub, 1) := dk_100 (dk_at dksX1_word_4 3 rfl rfl)
theorem dX1_word_96 : decode cX1_word 96 = .ok (.if_icmp .ne 5, 3) := dk_160 0 5 (dk_at dksX1_word_4 4 rfl rfl)
theorem dX1_word_99 : decode cX1_word 99 = .ok (.iload_n 2, 1) := dk_28 (dk_at dksX1_word_4 7 rfl rfl)
theorem dX1_word_100 : decode cX1_word 100 = .ok (.ireturn, 1) := dk_172 (dk_at dksX1_word_4 8 rfl rfl)
theorem dX1_word_101 : decode cX1_word 101 = .ok (.iload 4, 2) := dk_21 4 (dk_at dksX1_word_4 9 rfl rfl)
theorem dX1_word_103 : decode cX1_word 103 = .ok (.iconst 1, 1) := dk_4 (dk_at dksX1_word_4 11 rfl rfl)
theorem dX1_word_104 : decode cX1_word 104 = .ok (.iadd, 1) := dk_96 (dk_at dksX1_word_4 12 rfl rfl)
theorem dX1_word_105 : decode cX1_word 105 = .ok (.istore_n 3, 1) := dk_62 (dk_at dksX1_word_4 13 rfl rfl)
theorem dX1_word_106 : decode cX1_word 106 = .ok (.iinc 2 1, 3) := dk_132 2 1 (dk_at dksX1_word_4 14 rfl rfl)
theorem dX1_word_109 : decode cX1_word 109 = .ok (.goto (-105), 3) := dk_167 255 151 (dk_at dksX1_word_4 17 rfl rfl)
theorem dX1_word_112 : decode cX1_word 112 = .ok (.iconst (-1), 1) := dk_2 (dk_at dksX1_word_4 20 rfl rfl)
theorem dX1_word_113 : decode cX1_word 113 = .ok (.ireturn, 1) := dk_172 (dk_at dksX1_word_4 21 rfl rfl)
abbrev cX1_sum : ByteArray := prog_9_method_13_code
def yX1_sum : MethodName := ⟨RX1, "sum", "()V"⟩
def dkwX1_sum_2 : List UInt8 := [167, 255, 214, 177]
abbrev dktX1_sum_2 : List UInt8 := dkwX1_sum_2 ++ []
def dkwX1_sum_1 : List UInt8 := [180, 0, 26, 42, 180, 0, 29, 51, 60, 42, 182, 0, 77, 42, 182, 0, 115, 42, 27, 3, 182, 0, 118]
abbrev dktX1_sum_1 : List UInt8 := dkwX1_sum_1 ++ dktX1_sum_2
def dkwX1_sum_0 : List UInt8 := [42, 182, 0, 115, 42, 16, 43, 182, 0, 74, 154, 0, 12, 42, 16, 45, 182, 0, 74, 153, 0, 30, 42]
abbrev dktX1_sum_0 : List UInt8 := dkwX1_sum_0 ++ dktX1_sum_1
theorem dksX1_sum_0 : cX1_sum.data.toList.drop 0 = dktX1_sum_0 := by decide +kernel
theorem dksX1_sum_1 : cX1_sum.data.toList.drop 23 = dktX1_sum_1 := dk_seg dksX1_sum_0 23 rfl rfl
theorem dksX1_sum_2 : cX1_sum.data.toList.drop 46 = dktX1_sum_2 := dk_seg dksX1_sum_1 23 rfl rfl
theorem dX1_sum_0 : decode cX1_sum 0 = .ok (.aload_n 0, 1) := dk_42 (dk_at dksX1_sum_0 0 rfl rfl)
theorem dX1_sum_1 : decode cX1_sum 1 = .ok (.invokevirtual 115, 3) := dk_182 0 115 (dk_at dksX1_sum_0 1 rfl rfl)
theorem dX1_sum_4 : decode cX1_sum 4 = .ok (.aload_n 0, 1) := dk_42 (dk_at dksX1_sum_0 4 rfl rfl)
theorem dX1_sum_5 : decode cX1_sum 5 = .ok (.bipush 43, 2) := dk_16 43 (dk_at dksX1_sum_0 5 rfl rfl)
theorem dX1_sum_7 : decode cX1_sum 7 = .ok (.invokevirtual 74, 3) := dk_182 0 74 (dk_at dksX1_sum_0 7 rfl rfl)
theorem dX1_sum_10 : decode cX1_sum 10 = .ok (.ifCond .ne 12, 3) := dk_154 0 12 (dk_at dksX1_sum_0 10 rfl rfl)
theorem dX1_sum_13 : decode cX1_sum 13 = .ok (.aload_n 0, 1) := dk_42 (dk_at dksX1_sum_0 13 rfl rfl)
theorem dX1_sum_14 : decode cX1_sum 14 = .ok (.bipush 45, 2) := dk_16 45 (dk_at dksX1_sum_0 14 rfl rfl)
theorem dX1_sum_16 : decode cX1_sum 16 = .ok (.invokevirtual 74, 3) := dk_182 0 74 (dk_at dksX1_sum_0 16 rfl rfl)
theorem dX1_sum_19 : decode cX1_sum 19 = .ok (.ifCond .eq 30, 3) := dk_153 0 30 (dk_at dksX1_sum_0 19 rfl rfl)
theorem dX1_sum_22 : decode cX1_sum 22 = .ok (.aload_n 0, 1) := dk_42 (dk_at dksX1_sum_0 22 rfl rfl)
theorem dX1_sum_23 : decode cX1_sum 23 = .ok (.getfield 26, 3) := dk_180 0 26 (dk_at dksX1_sum_1 0 rfl rfl)
theorem dX1_sum_26 : decode cX1_sum 26 = .ok (.aload_n 0, 1) := dk_42 (dk_at dksX1_sum_1 3 rfl rfl)
theorem dX1_sum_27 : decode cX1_sum 27 = .ok (.getfield 29, 3) := dk_180 0 29 (dk_at dksX1_sum_1 4 rfl rfl)
theorem dX1_sum_30 : decode cX1_sum 30 = .ok (.baload, 1) := dk_51 (dk_at dksX1_sum_1 7 rfl rfl)
theorem dX1_sum_31 : decode cX1_sum 31 = .ok (.istore_n 1, 1) := dk_60 (dk_at dksX1_sum_1 8 rfl rfl)
theorem dX1_sum_32 : decode cX1_sum 32 = .ok (.aload_n 0, 1) := dk_42 (dk_at dksX1_sum_1 9 rfl rfl)
theorem dX1_sum_33 : decode cX1_sum 33 = .ok (.invokevirtual 77, 3) := dk_182 0 77 (dk_at dksX1_sum_1 10 rfl rfl)
theorem dX1_sum_36 : decode cX1_sum 36 = .ok (.aload_n 0, 1) := dk_42 (dk_at dksX1_sum_1 13 rfl rfl)
theorem dX1_sum_37 : decode cX1_sum 37 = .ok (.invokevirtual 115, 3) := dk_182 0 115 (dk_at dksX1_sum_1 14 rfl rfl)
theorem dX1_sum_40 : decode cX1_sum 40 = .ok (.aload_n 0, 1) := dk_42 (dk_at dksX1_sum_1 17 rfl rfl)
theorem dX1_sum_41 : decode cX1_sum 41 = .ok (.iload_n 1, 1) := dk_27 (dk_at dksX1_sum_1 18 rfl rfl)
theorem dX1_sum_42 : decode cX1_sum 42 = .ok (.iconst 0, 1) := dk_3 (dk_at dksX1_sum_1 19 rfl rfl)
theorem dX1_sum_43 : decode cX1_sum 43 = .ok (.invokevirtual 118, 3) := dk_182 0 118 (dk_at dksX1_sum_1 20 rfl rfl)
theorem dX1_sum_46 : decode cX1_sum 46 = .ok (.goto (-42), 3) := dk_167 255 214 (dk_at dksX1_sum_2 0 rfl rfl)
theorem dX1_sum_49 : decode cX1_sum 49 = .ok (.return_, 1) := dk_177 (dk_at dksX1_sum_2 3 rfl rfl)
abbrev cX1_product : ByteArray := prog_9_method_14_code
def yX1_product : MethodName := ⟨RX1, "product", "()V"⟩
def dkwX1_product_2 : List UInt8 := [167, 255, 214, 177]
abbrev dktX1_product_2 : List UInt8 := dkwX1_product_2 ++ []
def dkwX1_product_1 : List UInt8 := [180, 0, 26, 42, 180, 0, 29, 51, 60, 42, 182, 0, 77, 42, 182, 0, 122, 42, 27, 3, 182, 0, 118]
abbrev dktX1_product_1 : List UInt8 := dkwX1_product_1 ++ dktX1_product_2
def dkwX1_product_0 : List UInt8 := [42, 182, 0, 122, 42, 16, 42, 182, 0, 74, 154, 0, 12, 42, 16, 47, 182, 0, 74, 153, 0, 30, 42]
abbrev dktX1_product_0 : List UInt8 := dkwX1_product_0 ++ dktX1_product_1
theorem dksX1_product_0 : cX1_product.data.toList.drop 0 = dktX1_product_0 := by decide +kernel
theorem dksX1_product_1 : cX1_product.data.toList.drop 23 = dktX1_product_1 := dk_seg dksX1_product_0 23 rfl rfl
theorem dksX1_product_2 : cX1_product.data.toList.drop 46 = dktX1_product_2 := dk_seg dksX1_product_1 23 rfl rfl
theorem dX1_product_0 : decode cX1_product 0 = .ok (.aload_n 0, 1) := dk_42 (dk_at dksX1_product_0 0 rfl rfl)
theorem dX1_product_1 : decode cX1_product 1 = .ok (.invokevirtual 122, 3) := dk_182 0 122 (dk_at dksX1_product_0 1 rfl rfl)
theorem dX1_product_4 : decode cX1_product 4 = .ok (.aload_n 0, 1) := dk_42 (dk_at dksX1_product_0 4 rfl rfl)
theorem dX1_product_5 : decode cX1_product 5 = .ok (.bipush 42, 2) := dk_16 42 (dk_at dksX1_product_0 5 rfl rfl)
theorem dX1_product_7 : decode cX1_product 7 = .ok (.invokevirtual 74, 3) := dk_182 0 74 (dk_at dksX1_product_0 7 rfl rfl)
theorem dX1_product_10 : decode cX1_product 10 = .ok (.ifCond .ne 12, 3) := dk_154 0 12 (dk_at dksX1_product_0 10 rfl rfl)
theorem dX1_product_13 : decode cX1_product 13 = .ok (.aload_n 0, 1) := dk_42 (dk_at dksX1_product_0 13 rfl rfl)
theorem dX1_product_14 : decode cX1_product 14 = .ok (.bipush 47, 2) := dk_16 47 (dk_at dksX1_product_0 14 rfl rfl)
theorem dX1_product_16 : decode cX1_product 16 = .ok (.invokevirtual 74, 3) := dk_182 0 74 (dk_at dksX1_product_0 16 rfl rfl)
theorem dX1_product_19 : decode cX1_product 19 = .ok (.ifCond .eq 30, 3) := dk_153 0 30 (dk_at dksX1_product_0 19 rfl rfl)
theorem dX1_product_22 : decode cX1_product 22 = .ok (.aload_n 0, 1) := dk_42 (dk_at dksX1_product_0 22 rfl rfl)
theorem dX1_product_23 : decode cX1_product 23 = .ok (.getfield 26, 3) := dk_180 0 26 (dk_at dksX1_product_1 0 rfl rfl)
theorem dX1_product_26 : decode cX1_product 26 = .ok (.aload_n 0, 1) := dk_42 (dk_at dksX1_product_1 3 rfl rfl)
theorem dX1_product_27 : decode cX1_product 27 = .ok (.getfield 29, 3) := dk_180 0 29 (dk_at dksX1_product_1 4 rfl rfl)
theorem dX1_product_30 : decode cX1_product 30 = .ok (.baload, 1) := dk_51 (dk_at dksX1_product_1 7 rfl rfl)
theorem dX1_product_31 : decode cX1_product 31 = .ok (.istore_n 1, 1) := dk_60 (dk_at dksX1_product_1 8 rfl rfl)
theorem dX1_product_32 : decode cX1_product 32 = .ok (.aload_n 0, 1) := dk_42 (dk_at dksX1_product_1 9 rfl rfl)
theorem dX1_product_33 : decode cX1_product 33 = .ok (.invokevirtual 77, 3) := dk_182 0 77 (dk_at dksX1_product_1 10 rfl rfl)
theorem dX1_product_36 : decode cX1_product 36 = .ok (.aload_n 0, 1) := dk_42 (dk_at dksX1_product_1 13 rfl rfl)
theorem dX1_product_37 : decode cX1_product 37 = .ok (.invokevirtual 122, 3) := dk_182 0 122 (dk_at dksX1_product_1 14 rfl rfl)
theorem dX1_product_40 : decode cX1_product 40 = .ok (.aload_n 0, 1) := dk_42 (dk_at dksX1_product_1 17 rfl rfl)
theorem dX1_product_41 : decode cX1_product 41 = .ok (.iload_n 1, 1) := dk_27 (dk_at dksX1_product_1 18 rfl rfl)
theorem dX1_product_42 : decode cX1_product 42 = .ok (.iconst 0, 1) := dk_3 (dk_at dksX1_product_1 19 rfl rfl)
theorem dX1_product_43 : decode cX1_product 43 = .ok (.invokevirtual 118, 3) := dk_182 0 118 (dk_at dksX1_product_1 20 rfl rfl)
theorem dX1_product_46 : decode cX1_product 46 = .ok (.goto (-42), 3) := dk_167 255 214 (dk_at dksX1_product_2 0 rfl rfl)
theorem dX1_product_49 : decode cX1_product 49 = .ok (.return_, 1) := dk_177 (dk_at dksX1_product_2 3 rfl rfl)
abbrev cX1_factor : ByteArray := prog_9_method_16_code
def yX1_factor : MethodName := ⟨RX1, "factor", "()V"⟩
def dkwX1_factor_6 : List UInt8 := [160, 0, 7, 42, 182, 0, 47, 42, 4, 27, 182, 0, 118, 42, 182, 0, 77, 177]
abbrev dktX1_factor_6 : List UInt8 := dkwX1_factor_6 ++ []
def dkwX1_factor_5 : List UInt8 := [167, 0, 36, 42, 182, 0, 55, 153, 0, 7, 2, 167, 0, 9, 42, 18, 134, 182, 0, 70, 60, 27, 2]
abbrev dktX1_factor_5 : List UInt8 := dkwX1_factor_5 ++ dktX1_factor_6
def dkwX1_factor_4 : List UInt8 := [132, 2, 1, 167, 255, 225, 27, 17, 39, 15, 164, 0, 7, 42, 182, 0, 47, 42, 3, 27, 182, 0, 118]
abbrev dktX1_factor_4 : List UInt8 := dkwX1_factor_4 ++ dktX1_factor_5
def dkwX1_factor_3 : List UInt8 := [162, 0, 29, 18, 128, 16, 10, 27, 104, 42, 180, 0, 26, 28, 51, 96, 16, 48, 100, 184, 0, 129, 60]
abbrev dktX1_factor_3 : List UInt8 := dkwX1_factor_3 ++ dktX1_factor_4
def dkwX1_factor_2 : List UInt8 := [180, 0, 29, 51, 184, 0, 36, 153, 0, 64, 3, 60, 42, 180, 0, 29, 61, 28, 42, 180, 0, 19]
abbrev dktX1_factor_2 : List UInt8 := dkwX1_factor_2 ++ dktX1_factor_3
def dkwX1_factor_1 : List UInt8 := [89, 180, 0, 83, 4, 100, 181, 0, 83, 177, 42, 182, 0, 55, 154, 0, 79, 42, 180, 0, 26, 42]
abbrev dktX1_factor_1 : List UInt8 := dkwX1_factor_1 ++ dktX1_factor_2
def dkwX1_factor_0 : List UInt8 := [42, 16, 40, 182, 0, 74, 153, 0, 28, 42, 182, 0, 125, 42, 182, 0, 95, 42, 16, 41, 182, 0, 101, 42]
abbrev dktX1_factor_0 : List UInt8 := dkwX1_factor_0 ++ dktX1_factor_1
theorem dksX1_factor_0 : cX1_factor.data.toList.drop 0 = dktX1_factor_0 := by decide +kernel
theorem dksX1_factor_1 : cX1_factor.data.toList.drop 24 = dktX1_factor_1 := dk_seg dksX1_factor_0 24 rfl rfl
theorem dksX1_factor_2 : cX1_factor.data.toList.drop 46 = dktX1_factor_2 := dk_seg dksX1_factor_1 22 rfl rfl
theorem dksX1_factor_3 : cX1_factor.data.toList.drop 68 = dktX1_factor_3 := dk_seg dksX1_factor_2 22 rfl rfl
theorem dksX1_factor_4 : cX1_factor.data.toList.drop 91 = dktX1_factor_4 := dk_seg dksX1_factor_3 23 rfl rfl
theorem dksX1_factor_5 : cX1_factor.data.toList.drop 114 = dktX1_factor_5 := dk_seg dksX1_factor_4 23 rfl rfl
theorem dksX1_factor_6 : cX1_factor.data.toList.drop 137 = dktX1_factor_6 := dk_seg dksX1_factor_5 23 rfl rfl
theorem dX1_factor_0 : decode cX1_factor 0 = .ok (.aload_n 0, 1) := dk_42 (dk_at dksX1_factor_0 0 rfl rfl)
theorem dX1_factor_1 : decode cX1_factor 1 = .ok (.bipush 40, 2) := dk_16 40 (dk_at dksX1_factor_0 1 rfl rfl)
theorem dX1_factor_3 : decode cX1_factor 3 = .ok (.invokevirtual 74, 3) := dk_182 0 74 (dk_at dksX1_factor_0 3 rfl rfl)
theorem dX1_factor_6 : decode cX1_factor 6 = .ok (.ifCond .eq 28, 3) := dk_153 0 28 (dk_at dksX1_factor_0 6 rfl rfl)
theorem dX1_factor_9 : decode cX1_factor 9 = .ok (.aload_n 0, 1) := dk_42 (dk_at dksX1_factor_0 9 rfl rfl)
theorem dX1_factor_10 : decode cX1_factor 10 = .ok (.invokevirtual 125, 3) := dk_182 0 125 (dk_at dksX1_factor_0 10 rfl rfl)
theorem dX1_factor_13 : decode cX1_factor 13 = .ok (.aload_n 0, 1) := dk_42 (dk_at dksX1_factor_0 13 rfl rfl)
theorem dX1_factor_14 : decode cX1_factor 14 = .ok (.invokevirtual 95, 3) := dk_182 0 95 (dk_at dksX1_factor_0 14 rfl rfl)
theorem dX1_factor_17 : decode cX1_factor 17 = .ok (.aload_n 0, 1) := dk_42 (dk_at dksX1_factor_0 17 rfl rfl)
theorem dX1_factor_18 : decode cX1_factor 18 = .ok (.bipush 41, 2) := dk_16 41 (dk_at dksX1_factor_0 18 rfl rfl)
theorem dX1_factor_20 : decode cX1_factor 20 = .ok (.invokevirtual 101, 3) := dk_182 0 101 (dk_at dksX1_factor_0 20 rfl rfl)
theorem dX1_factor_23 : decode cX1_factor 23 = .ok (.aload_n 0, 1) := dk_42 (dk_at dksX1_factor_0 23 rfl rfl)
theorem dX1_factor_24 : decode cX1_factor 24 = .ok (.dup, 1) := dk_89 (dk_at dksX1_factor_1 0 rfl rfl)
theorem dX1_factor_25 : decode cX1_factor 25 = .ok (.getfield 83, 3) := dk_180 0 83 (dk_at dksX1_factor_1 1 rfl rfl)
theorem dX1_factor_28 : decode cX1_factor 28 = .ok (.iconst 1, 1) := dk_4 (dk_at dksX1_factor_1 4 rfl rfl)
theorem dX1_factor_29 : decode cX1_factor 29 = .ok (.isub, 1) := dk_100 (dk_at dksX1_factor_1 5 rfl rfl)
theorem dX1_factor_30 : decode cX1_factor 30 = .ok (.putfield 83, 3) := dk_181 0 83 (dk_at dksX1_factor_1 6 rfl rfl)
theorem dX1_factor_33 : decode cX1_factor 33 = .ok (.return_, 1) := dk_177 (dk_at dksX1_factor_1 9 rfl rfl)
theorem dX1_factor_34 : decode cX1_factor 34 = .ok (.aload_n 0, 1) := dk_42 (dk_at dksX1_factor_1 10 rfl rfl)
theorem dX1_factor_35 : decode cX1_factor 35 = .ok (.invokevirtual 55, 3) := dk_182 0 55 (dk_at dksX1_factor_1 11 rfl rfl)
theorem dX1_factor_38 : decode cX1_factor 38 = .ok (.ifCond .ne 79, 3) := dk_154 0 79 (dk_at dksX1_factor_1 14 rfl rfl)
theorem dX1_factor_41 : decode cX1_factor 41 = .ok (.aload_n 0, 1) := dk_42 (dk_at dksX1_factor_1 17 rfl rfl)
theorem dX1_factor_42 : decode cX1_factor 42 = .ok (.getfield 26, 3) := dk_180 0 26 (dk_at dksX1_factor_1 18 rfl rfl)
theorem dX1_factor_45 : decode cX1_factor 45 = .ok (.aload_n 0, 1) := dk_42 (dk_at dksX1_factor_1 21 rfl rfl)
theorem dX1_factor_46 : decode cX1_factor 46 = .ok (.getfield 29, 3) := dk_180 0 29 (dk_at dksX1_factor_2 0 rfl rfl)
theorem dX1_factor_49 : decode cX1_factor 49 = .ok (.baload, 1) := dk_51 (dk_at dksX1_factor_2 3 rfl rfl)
theorem dX1_factor_50 : decode cX1_factor 50 = .ok (.invokestatic 36, 3) := dk_184 0 36 (dk_at dksX1_factor_2 4 rfl rfl)
theorem dX1_factor_53 : decode cX1_factor 53 = .ok (.ifCond .eq 64, 3) := dk_153 0 64 (dk_at dksX1_factor_2 7 rfl rfl)
theorem dX1_factor_56 : decode cX1_factor 56 = .ok (.iconst 0, 1) := dk_3 (dk_at dksX1_factor_2 10 rfl rfl)
theorem dX1_factor_57 : decode cX1_factor 57 = .ok (.istore_n 1, 1) := dk_60 (dk_at dksX1_factor_2 11 rfl rfl)
theorem dX1_factor_58 : decode cX1_factor 58 = .ok (.aload_n 0, 1) := dk_42 (dk_at dksX1_factor_2 12 rfl rfl)
theorem dX1_factor_59 : decode cX1_factor 59 = .ok (.getfield 29, 3) := dk_180 0 29 (dk_at dksX1_factor_2 13 rfl rfl)
theorem dX1_factor_62 : decode cX1_factor 62 = .ok (.istore_n 2, 1) := dk_61 (dk_at dksX1_factor_2 16 rfl rfl)
theorem dX1_factor_63 : decode cX1_factor 63 = .ok (.iload_n 2, 1) := dk_28 (dk_at dksX1_factor_2 17 rfl rfl)
theorem dX1_factor_64 : decode cX1_factor 64 = .ok (.aload_n 0, 1) := dk_42 (dk_at dksX1_factor_2 18 rfl rfl)
theorem dX1_factor_65 : decode cX1_factor 65 = .ok (.getfield 19, 3) := dk_180 0 19 (dk_at dksX1_factor_2 19 rfl rfl)
theorem dX1_factor_68 : decode cX1_factor 68 = .ok (.if_icmp .ge 29, 3) := dk_162 0 29 (dk_at dksX1_factor_3 0 rfl rfl)
theorem dX1_factor_71 : decode cX1_factor 71 = .ok (.ldc 128, 2) := dk_18 128 (dk_at dksX1_factor_3 3 rfl rfl)
theorem dX1_factor_73 : decode cX1_factor 73 = .ok (.bipush 10, 2) := dk_16 10 (dk_at dksX1_factor_3 5 rfl rfl)
theorem dX1_factor_75 : decode cX1_factor 75 = .ok (.iload_n 1, 1) := dk_27 (dk_at dksX1_factor_3 7 rfl rfl)
theorem dX1_factor_76 : decode cX1_factor 76 = .ok (.imul, 1) := dk_104 (dk_at dksX1_factor_3 8 rfl rfl)
theorem dX1_factor_77 : decode cX1_factor 77 = .ok (.aload_n 0, 1) := dk_42 (dk_at dksX1_factor_3 9 rfl rfl)
theorem dX1_factor_78 : decode cX1_factor 78 = .ok (.getfield 26, 3) := dk_180 0 26 (dk_at dksX1_factor_3 10 rfl rfl)
theorem dX1_factor_81 : decode cX1_factor 81 = .ok (.iload_n 2, 1) := dk_28 (dk_at dksX1_factor_3 13 rfl rfl)
theorem dX1_factor_82 : decode cX1_factor 82 = .ok (.baload, 1) := dk_51 (dk_at dksX1_factor_3 14 rfl rfl)
theorem dX1_factor_83 : decode cX1_factor 83 = .ok (.iadd, 1) := dk_96 (dk_at dksX1_factor_3 15 rfl rfl)
theorem dX1_factor_84 : decode cX1_factor 84 = .ok (.bipush 48, 2) := dk_16 48 (dk_at dksX1_factor_3 16 rfl rfl)
theorem dX1_factor_86 : decode cX1_factor 86 = .ok (.isub, 1) := dk_100 (dk_at dksX1_factor_3 18 rfl rfl)
theorem dX1_factor_87 : decode cX1_factor 87 = .ok (.invokestatic 129, 3) := dk_184 0 129 (dk_at dksX1_factor_3 19 rfl rfl)
theorem dX1_factor_90 : decode cX1_factor 90 = .ok (.istore_n 1, 1) := dk_60 (dk_at dksX1_factor_3 22 rfl rfl)
theorem dX1_factor_91 : decode cX1_factor 91 = .ok (.iinc 2 1, 3) := dk_132 2 1 (dk_at dksX1_factor_4 0 rfl rfl)
theorem dX1_factor_94 : decode cX1_factor 94 = .ok (.goto (-31), 3) := dk_167 255 225 (dk_at dksX1_factor_4 3 rfl rfl)
theorem dX1_factor_97 : decode cX1_factor 97 = .ok (.iload_n 1, 1) := dk_27 (dk_at dksX1_factor_4 6 rfl rfl)
theorem dX1_factor_98 : decode cX1_factor 98 = .ok (.sipush 9999, 3) := dk_17 39 15 (dk_at dksX1_factor_4 7 rfl rfl)
theorem dX1_factor_101 : decode cX1_factor 101 = .ok (.if_icmp .le 7, 3) := dk_164 0 7 (dk_at dksX1_factor_4 10 rfl rfl)
theorem dX1_factor_104 : decode cX1_factor 104 = .ok (.aload_n 0, 1) := dk_42 (dk_at dksX1_factor_4 13 rfl rfl)
theorem dX1_factor_105 : decode cX1_factor 105 = .ok (.invokevirtual 47, 3) := dk_182 0 47 (dk_at dksX1_factor_4 14 rfl rfl)
theorem dX1_factor_108 : decode cX1_factor 108 = .ok (.aload_n 0, 1) := dk_42 (dk_at dksX1_factor_4 17 rfl rfl)
theorem dX1_factor_109 : decode cX1_factor 109 = .ok (.iconst 0, 1) := dk_3 (dk_at dksX1_factor_4 18 rfl rfl)
theorem dX1_factor_110 : decode cX1_factor 110 = .ok (.iload_n 1, 1) := dk_27 (dk_at dksX1_factor_4 19 rfl rfl)
theorem dX1_factor_111 : decode cX1_factor 111 = .ok (.invokevirtual 118, 3) := dk_182 0 118 (dk_at dksX1_factor_4 20 rfl rfl)
theorem dX1_factor_114 : decode cX1_factor 114 = .ok (.goto 36, 3) := dk_167 0 36 (dk_at dksX1_factor_5 0 rfl rfl)
theorem dX1_factor_117 : decode cX1_factor 117 = .ok (.aload_n 0, 1) := dk_42 (dk_at dksX1_factor_5 3 rfl rfl)
theorem dX1_factor_118 : decode cX1_factor 118 = .ok (.invokevirtual 55, 3) := dk_182 0 55 (dk_at dksX1_factor_5 4 rfl rfl)
theorem dX1_factor_121 : decode cX1_factor 121 = .ok (.ifCond .eq 7, 3) := dk_153 0 7 (dk_at dksX1_factor_5 7 rfl rfl)
theorem dX1_factor_124 : decode cX1_factor 124 = .ok (.iconst (-1), 1) := dk_2 (dk_at dksX1_factor_5 10 rfl rfl)
theorem dX1_factor_125 : decode cX1_factor 125 = .ok (.goto 9, 3) := dk_167 0 9 (dk_at dksX1_factor_5 11 rfl rfl)
theorem dX1_factor_128 : decode cX1_factor 128 = .ok (.aload_n 0, 1) := dk_42 (dk_at dksX1_factor_5 14 rfl rfl)
theorem dX1_factor_129 : decode cX1_factor 129 = .ok (.ldc 134, 2) := dk_18 134 (dk_at dksX1_factor_5 15 rfl rfl)
theorem dX1_factor_131 : decode cX1_factor 131 = .ok (.invokevirtual 70, 3) := dk_182 0 70 (dk_at dksX1_factor_5 17 rfl rfl)
theorem dX1_factor_134 : decode cX1_factor 134 = .ok (.istore_n 1, 1) := dk_60 (dk_at dksX1_factor_5 20 rfl rfl)
theorem dX1_factor_135 : decode cX1_factor 135 = .ok (.iload_n 1, 1) := dk_27 (dk_at dksX1_factor_5 21 rfl rfl)
theorem dX1_factor_136 : decode cX1_factor 136 = .ok (.iconst (-1), 1) := dk_2 (dk_at dksX1_factor_5 22 rfl rfl)
theorem dX1_factor_137 : decode cX1_factor 137 = .ok (.if_icmp .ne 7, 3) := dk_160 0 7 (dk_at dksX1_factor_6 0 rfl rfl)
theorem dX1_factor_140 : decode cX1_factor 140 = .ok (.aload_n 0, 1) := dk_42 (dk_at dksX1_factor_6 3 rfl rfl)
theorem dX1_factor_141 : decode cX1_factor 141 = .ok (.invokevirtual 47, 3) := dk_182 0 47 (dk_at dksX1_factor_6 4 rfl rfl)
theorem dX1_factor_144 : decode cX1_factor 144 = .ok (.aload_n 0, 1) := dk_42 (dk_at dksX1_factor_6 7 rfl rfl)
theorem dX1_factor_145 : decode cX1_factor 145 = .ok (.iconst 1, 1) := dk_4 (dk_at dksX1_factor_6 8 rfl rfl)
theorem dX1_factor_146 : decode cX1_factor 146 = .ok (.iload_n 1, 1) := dk_27 (dk_at dksX1_factor_6 9 rfl rfl)
theorem dX1_factor_147 : decode cX1_factor 147 = .ok (.invokevirtual 118, 3) := dk_182 0 118 (dk_at dksX1_factor_6 10 rfl rfl)
theorem dX1_factor_150 : decode cX1_factor 150 = .ok (.aload_n 0, 1) := dk_42 (dk_at dksX1_factor_6 13 rfl rfl)
theorem dX1_factor_151 : decode cX1_factor 151 = .ok (.invokevirtual 77, 3) := dk_182 0 77 (dk_at dksX1_factor_6 14 rfl rfl)
theorem dX1_factor_154 : decode cX1_factor 154 = .ok (.return_, 1) := dk_177 (dk_at dksX1_factor_6 17 rfl rfl)
abbrev cX1_is : ByteArray := prog_9_method_7_code
def yX1_is : MethodName := ⟨RX1, "is", "(I)Z"⟩
def dkwX1_is_1 : List UInt8 := [3, 172]
abbrev dktX1_is_1 : List UInt8 := dkwX1_is_1 ++ []
def dkwX1_is_0 : List UInt8 := [42, 182, 0, 55, 154, 0, 20, 42, 180, 0, 26, 42, 180, 0, 29, 51, 27, 160, 0, 7, 4, 167, 0, 4]
abbrev dktX1_is_0 : List UInt8 := dkwX1_is_0 ++ dktX1_is_1
theorem dksX1_is_0 : cX1_is.data.toList.drop 0 = dktX1_is_0 := by decide +kernel
theorem dksX1_is_1 : cX1_is.data.toList.drop 24 = dktX1_is_1 := dk_seg dksX1_is_0 24 rfl rfl
theorem dX1_is_0 : decode cX1_is 0 = .ok (.aload_n 0, 1) := dk_42 (dk_at dksX1_is_0 0 rfl rfl)
theorem dX1_is_1 : decode cX1_is 1 = .ok (.invokevirtual 55, 3) := dk_182 0 55 (dk_at dksX1_is_0 1 rfl rfl)
theorem dX1_is_4 : decode cX1_is 4 = .ok (.ifCond .ne 20, 3) := dk_154 0 20 (dk_at dksX1_is_0 4 rfl rfl)
theorem dX1_is_7 : decode cX1_is 7 = .ok (.aload_n 0, 1) := dk_42 (dk_at dksX1_is_0 7 rfl rfl)
theorem dX1_is_8 : decode cX1_is 8 = .ok (.getfield 26, 3) := dk_180 0 26 (dk_at dksX1_is_0 8 rfl rfl)
theorem dX1_is_11 : decode cX1_is 11 = .ok (.aload_n 0, 1) := dk_42 (dk_at dksX1_is_0 11 rfl rfl)
theorem dX1_is_12 : decode cX1_is 12 = .ok (.getfield 29, 3) := dk_180 0 29 (dk_at dksX1_is_0 12 rfl rfl)
theorem dX1_is_15 : decode cX1_is 15 = .ok (.baload, 1) := dk_51 (dk_at dksX1_is_0 15 rfl rfl)
theorem dX1_is_16 : decode cX1_is 16 = .ok (.iload_n 1, 1) := dk_27 (dk_at dksX1_is_0 16 rfl rfl)
theorem dX1_is_17 : decode cX1_is 17 = .ok (.if_icmp .ne 7, 3) := dk_160 0 7 (dk_at dksX1_is_0 17 rfl rfl)
theorem dX1_is_20 : decode cX1_is 20 = .ok (.iconst 1, 1) := dk_4 (dk_at dksX1_is_0 20 rfl rfl)
theorem dX1_is_21 : decode cX1_is 21 = .ok (.goto 4, 3) := dk_167 0 4 (dk_at dksX1_is_0 21 rfl rfl)
theorem dX1_is_24 : decode cX1_is 24 = .ok (.iconst 0, 1) := dk_3 (dk_at dksX1_is_1 0 rfl rfl)
theorem dX1_is_25 : decode cX1_is 25 = .ok (.ireturn, 1) := dk_172 (dk_at dksX1_is_1 1 rfl rfl)
abbrev cX1_opens : ByteArray := prog_9_method_15_code
def yX1_opens : MethodName := ⟨RX1, "opens", "()V"⟩
def dkwX1_opens_1 : List UInt8 := [182, 0, 77, 177]
abbrev dktX1_opens_1 : List UInt8 := dkwX1_opens_1 ++ []
def dkwX1_opens_0 : List UInt8 := [42, 180, 0, 83, 16, 8, 160, 0, 7, 42, 182, 0, 47, 42, 89, 180, 0, 83, 4, 96, 181, 0, 83, 42]
abbrev dktX1_opens_0 : List UInt8 := dkwX1_opens_0 ++ dktX1_opens_1
theorem dksX1_opens_0 : cX1_opens.data.toList.drop 0 = dktX1_opens_0 := by decide +kernel
theorem dksX1_opens_1 : cX1_opens.data.toList.drop 24 = dktX1_opens_1 := dk_seg dksX1_opens_0 24 rfl rfl
theorem dX1_opens_0 : decode cX1_opens 0 = .ok (.aload_n 0, 1) := dk_42 (dk_at dksX1_opens_0 0 rfl rfl)
theorem dX1_opens_1 : decode cX1_opens 1 = .ok (.getfield 83, 3) := dk_180 0 83 (dk_at dksX1_opens_0 1 rfl rfl)
theorem dX1_opens_4 : decode cX1_opens 4 = .ok (.bipush 8, 2) := dk_16 8 (dk_at dksX1_opens_0 4 rfl rfl)
theorem dX1_opens_6 : decode cX1_opens 6 = .ok (.if_icmp .ne 7, 3) := dk_160 0 7 (dk_at dksX1_opens_0 6 rfl rfl)
theorem dX1_opens_9 : decode cX1_opens 9 = .ok (.aload_n 0, 1) := dk_42 (dk_at dksX1_opens_0 9 rfl rfl)
theorem dX1_opens_10 : decode cX1_opens 10 = .ok (.invokevirtual 47, 3) := dk_182 0 47 (dk_at dksX1_opens_0 10 rfl rfl)
theorem dX1_opens_13 : decode cX1_opens 13 = .ok (.aload_n 0, 1) := dk_42 (dk_at dksX1_opens_0 13 rfl rfl)
theorem dX1_opens_14 : decode cX1_opens 14 = .ok (.dup, 1) := dk_89 (dk_at dksX1_opens_0 14 rfl rfl)
theorem dX1_opens_15 : decode cX1_opens 15 = .ok (.getfield 83, 3) := dk_180 0 83 (dk_at dksX1_opens_0 15 rfl rfl)
theorem dX1_opens_18 : decode cX1_opens 18 = .ok (.iconst 1, 1) := dk_4 (dk_at dksX1_opens_0 18 rfl rfl)
theorem dX1_opens_19 : decode cX1_opens 19 = .ok (.iadd, 1) := dk_96 (dk_at dksX1_opens_0 19 rfl rfl)
theorem dX1_opens_20 : decode cX1_opens 20 = .ok (.putfield 83, 3) := dk_181 0 83 (dk_at dksX1_opens_0 20 rfl rfl)
theorem dX1_opens_23 : decode cX1_opens 23 = .ok (.aload_n 0, 1) := dk_42 (dk_at dksX1_opens_0 23 rfl rfl)
theorem dX1_opens_24 : decode cX1_opens 24 = .ok (.invokevirtual 77, 3) := dk_182 0 77 (dk_at dksX1_opens_1 0 rfl rfl)
theorem dX1_opens_27 : decode cX1_opens 27 = .ok (.return_, 1) := dk_177 (dk_at dksX1_opens_1 3 rfl rfl)
abbrev cX1_needs : ByteArray := prog_9_method_10_code
def yX1_needs : MethodName := ⟨RX1, "needs", "(I)V"⟩
def dkwX1_needs_0 : List UInt8 := [42, 27, 182, 0, 74, 154, 0, 7, 42, 182, 0, 47, 42, 182, 0, 77, 177]
abbrev dktX1_needs_0 : List UInt8 := dkwX1_needs_0 ++ []
theorem dksX1_needs_0 : cX1_needs.data.toList.drop 0 = dktX1_needs_0 := by decide +kernel
theorem dX1_needs_0 : decode cX1_needs 0 = .ok (.aload_n 0, 1) := dk_42 (dk_at dksX1_needs_0 0 rfl rfl)
theorem dX1_needs_1 : decode cX1_needs 1 = .ok (.iload_n 1, 1) := dk_27 (dk_at dksX1_needs_0 1 rfl rfl)
theorem dX1_needs_2 : decode cX1_needs 2 = .ok (.invokevirtual 74, 3) := dk_182 0 74 (dk_at dksX1_needs_0 2 rfl rfl)
theorem dX1_needs_5 : decode cX1_needs 5 = .ok (.ifCond .ne 7, 3) := dk_154 0 7 (dk_at dksX1_needs_0 5 rfl rfl)
theorem dX1_needs_8 : decode cX1_needs 8 = .ok (.aload_n 0, 1) := dk_42 (dk_at dksX1_needs_0 8 rfl rfl)
theorem dX1_needs_9 : decode cX1_needs 9 = .ok (.invokevirtual 47, 3) := dk_182 0 47 (dk_at dksX1_needs_0 9 rfl rfl)
theorem dX1_needs_12 : decode cX1_needs 12 = .ok (.aload_n 0, 1) := dk_42 (dk_at dksX1_needs_0 12 rfl rfl)
theorem dX1_needs_13 : decode cX1_needs 13 = .ok (.invokevirtual 77, 3) := dk_182 0 77 (dk_at dksX1_needs_0 13 rfl rfl)
theorem dX1_needs_16 : decode cX1_needs 16 = .ok (.return_, 1) := dk_177 (dk_at dksX1_needs_0 16 rfl rfl)
abbrev cX1_notes : ByteArray := prog_9_method_11_code
def yX1_notes : MethodName := ⟨RX1, "notes", "(II)V"⟩
def dkwX1_notes_1 : List UInt8 := [180, 0, 80, 4, 96, 181, 0, 80, 177]
abbrev dktX1_notes_1 : List UInt8 := dkwX1_notes_1 ++ []
def dkwX1_notes_0 : List UInt8 := [42, 180, 0, 9, 42, 180, 0, 80, 27, 145, 84, 42, 180, 0, 15, 42, 180, 0, 80, 28, 79, 42, 89]
abbrev dktX1_notes_0 : List UInt8 := dkwX1_notes_0 ++ dktX1_notes_1
theorem dksX1_notes_0 : cX1_notes.data.toList.drop 0 = dktX1_notes_0 := by decide +kernel
theorem dksX1_notes_1 : cX1_notes.data.toList.drop 23 = dktX1_notes_1 := dk_seg dksX1_notes_0 23 rfl rfl
theorem dX1_notes_0 : decode cX1_notes 0 = .ok (.aload_n 0, 1) := dk_42 (dk_at dksX1_notes_0 0 rfl rfl)
theorem dX1_notes_1 : decode cX1_notes 1 = .ok (.getfield 9, 3) := dk_180 0 9 (dk_at dksX1_notes_0 1 rfl rfl)
theorem dX1_notes_4 : decode cX1_notes 4 = .ok (.aload_n 0, 1) := dk_42 (dk_at dksX1_notes_0 4 rfl rfl)
theorem dX1_notes_5 : decode cX1_notes 5 = .ok (.getfield 80, 3) := dk_180 0 80 (dk_at dksX1_notes_0 5 rfl rfl)
theorem dX1_notes_8 : decode cX1_notes 8 = .ok (.iload_n 1, 1) := dk_27 (dk_at dksX1_notes_0 8 rfl rfl)
theorem dX1_notes_9 : decode cX1_notes 9 = .ok (.i2b, 1) := dk_145 (dk_at dksX1_notes_0 9 rfl rfl)
theorem dX1_notes_10 : decode cX1_notes 10 = .ok (.bastore, 1) := dk_84 (dk_at dksX1_notes_0 10 rfl rfl)
theorem dX1_notes_11 : decode cX1_notes 11 = .ok (.aload_n 0, 1) := dk_42 (dk_at dksX1_notes_0 11 rfl rfl)
theorem dX1_notes_12 : decode cX1_notes 12 = .ok (.getfield 15, 3) := dk_180 0 15 (dk_at dksX1_notes_0 12 rfl rfl)
theorem dX1_notes_15 : decode cX1_notes 15 = .ok (.aload_n 0, 1) := dk_42 (dk_at dksX1_notes_0 15 rfl rfl)
theorem dX1_notes_16 : decode cX1_notes 16 = .ok (.getfield 80, 3) := dk_180 0 80 (dk_at dksX1_notes_0 16 rfl rfl)
theorem dX1_notes_19 : decode cX1_notes 19 = .ok (.iload_n 2, 1) := dk_28 (dk_at dksX1_notes_0 19 rfl rfl)
theorem dX1_notes_20 : decode cX1_notes 20 = .ok (.iastore, 1) := dk_79 (dk_at dksX1_notes_0 20 rfl rfl)
theorem dX1_notes_21 : decode cX1_notes 21 = .ok (.aload_n 0, 1) := dk_42 (dk_at dksX1_notes_0 21 rfl rfl)
theorem dX1_notes_22 : decode cX1_notes 22 = .ok (.dup, 1) := dk_89 (dk_at dksX1_notes_0 22 rfl rfl)
theorem dX1_notes_23 : decode cX1_notes 23 = .ok (.getfield 80, 3) := dk_180 0 80 (dk_at dksX1_notes_1 0 rfl rfl)
theorem dX1_notes_26 : decode cX1_notes 26 = .ok (.iconst 1, 1) := dk_4 (dk_at dksX1_notes_1 3 rfl rfl)
theorem dX1_notes_27 : decode cX1_notes 27 = .ok (.iadd, 1) := dk_96 (dk_at dksX1_notes_1 4 rfl rfl)
theorem dX1_notes_28 : decode cX1_notes 28 = .ok (.putfield 80, 3) := dk_181 0 80 (dk_at dksX1_notes_1 5 rfl rfl)
theorem dX1_notes_31 : decode cX1_notes 31 = .ok (.return_, 1) := dk_177 (dk_at dksX1_notes_1 8 rfl rfl)
abbrev cX1_either : ByteArray := prog_9_method_17_code
def yX1_either : MethodName := ⟨RX1, "either", "()V"⟩
def dkwX1_either_1 : List UInt8 := [3, 182, 0, 118, 167, 255, 232, 177]
abbrev dktX1_either_1 : List UInt8 := dkwX1_either_1 ++ []
def dkwX1_either_0 : List UInt8 := [42, 182, 0, 136, 42, 18, 139, 182, 0, 141, 153, 0, 21, 42, 182, 0, 77, 42, 182, 0, 136, 42, 16, 124]
abbrev dktX1_either_0 : List UInt8 := dkwX1_either_0 ++ dktX1_either_1
theorem dksX1_either_0 : cX1_either.data.toList.drop 0 = dktX1_either_0 := by decide +kernel
theorem dksX1_either_1 : cX1_either.data.toList.drop 24 = dktX1_either_1 := dk_seg dksX1_either_0 24 rfl rfl
theorem dX1_either_0 : decode cX1_either 0 = .ok (.aload_n 0, 1) := dk_42 (dk_at dksX1_either_0 0 rfl rfl)
theorem dX1_either_1 : decode cX1_either 1 = .ok (.invokevirtual 136, 3) := dk_182 0 136 (dk_at dksX1_either_0 1 rfl rfl)
theorem dX1_either_4 : decode cX1_either 4 = .ok (.aload_n 0, 1) := dk_42 (dk_at dksX1_either_0 4 rfl rfl)
theorem dX1_either_5 : decode cX1_either 5 = .ok (.ldc 139, 2) := dk_18 139 (dk_at dksX1_either_0 5 rfl rfl)
theorem dX1_either_7 : decode cX1_either 7 = .ok (.invokevirtual 141, 3) := dk_182 0 141 (dk_at dksX1_either_0 7 rfl rfl)
theorem dX1_either_10 : decode cX1_either 10 = .ok (.ifCond .eq 21, 3) := dk_153 0 21 (dk_at dksX1_either_0 10 rfl rfl)
theorem dX1_either_13 : decode cX1_either 13 = .ok (.aload_n 0, 1) := dk_42 (dk_at dksX1_either_0 13 rfl rfl)
theorem dX1_either_14 : decode cX1_either 14 = .ok (.invokevirtual 77, 3) := dk_182 0 77 (dk_at dksX1_either_0 14 rfl rfl)
theorem dX1_either_17 : decode cX1_either 17 = .ok (.aload_n 0, 1) := dk_42 (dk_at dksX1_either_0 17 rfl rfl)
theorem dX1_either_18 : decode cX1_either 18 = .ok (.invokevirtual 136, 3) := dk_182 0 136 (dk_at dksX1_either_0 18 rfl rfl)
theorem dX1_either_21 : decode cX1_either 21 = .ok (.aload_n 0, 1) := dk_42 (dk_at dksX1_either_0 21 rfl rfl)
theorem dX1_either_22 : decode cX1_either 22 = .ok (.bipush 124, 2) := dk_16 124 (dk_at dksX1_either_0 22 rfl rfl)
theorem dX1_either_24 : decode cX1_either 24 = .ok (.iconst 0, 1) := dk_3 (dk_at dksX1_either_1 0 rfl rfl)
theorem dX1_either_25 : decode cX1_either 25 = .ok (.invokevirtual 118, 3) := dk_182 0 118 (dk_at dksX1_either_1 1 rfl rfl)
theorem dX1_either_28 : decode cX1_either 28 = .ok (.goto (-24), 3) := dk_167 255 232 (dk_at dksX1_either_1 4 rfl rfl)
theorem dX1_either_31 : decode cX1_either 31 = .ok (.return_, 1) := dk_177 (dk_at dksX1_either_1 7 rfl rfl)
abbrev cX1_both : ByteArray := prog_9_method_18_code
def yX1_both : MethodName := ⟨RX1, "both", "()V"⟩
def dkwX1_both_1 : List UInt8 := [3, 182, 0, 118, 167, 255, 232, 177]
abbrev dktX1_both_1 : List UInt8 := dkwX1_both_1 ++ []
def dkwX1_both_0 : List UInt8 := [42, 182, 0, 145, 42, 18, 148, 182, 0, 141, 153, 0, 21, 42, 182, 0, 77, 42, 182, 0, 145, 42, 16, 38]
abbrev dktX1_both_0 : List UInt8 := dkwX1_both_0 ++ dktX1_both_1
theorem dksX1_both_0 : cX1_both.data.toList.drop 0 = dktX1_both_0 := by decide +kernel
theorem dksX1_both_1 : cX1_both.data.toList.drop 24 = dktX1_both_1 := dk_seg dksX1_both_0 24 rfl rfl
theorem dX1_both_0 : decode cX1_both 0 = .ok (.aload_n 0, 1) := dk_42 (dk_at dksX1_both_0 0 rfl rfl)
theorem dX1_both_1 : decode cX1_both 1 = .ok (.invokevirtual 145, 3) := dk_182 0 145 (dk_at dksX1_both_0 1 rfl rfl)
theorem dX1_both_4 : decode cX1_both 4 = .ok (.aload_n 0, 1) := dk_42 (dk_at dksX1_both_0 4 rfl rfl)
theorem dX1_both_5 : decode cX1_both 5 = .ok (.ldc 148, 2) := dk_18 148 (dk_at dksX1_both_0 5 rfl rfl)
theorem dX1_both_7 : decode cX1_both 7 = .ok (.invokevirtual 141, 3) := dk_182 0 141 (dk_at dksX1_both_0 7 rfl rfl)
theorem dX1_both_10 : decode cX1_both 10 = .ok (.ifCond .eq 21, 3) := dk_153 0 21 (dk_at dksX1_both_0 10 rfl rfl)
theorem dX1_both_13 : decode cX1_both 13 = .ok (.aload_n 0, 1) := dk_42 (dk_at dksX1_both_0 13 rfl rfl)
theorem dX1_both_14 : decode cX1_both 14 = .ok (.invokevirtual 77, 3) := dk_182 0 77 (dk_at dksX1_both_0 14 rfl rfl)
theorem dX1_both_17 : decode cX1_both 17 = .ok (.aload_n 0, 1) := dk_42 (dk_at dksX1_both_0 17 rfl rfl)
theorem dX1_both_18 : decode cX1_both 18 = .ok (.invokevirtual 145, 3) := dk_182 0 145 (dk_at dksX1_both_0 18 rfl rfl)
theorem dX1_both_21 : decode cX1_both 21 = .ok (.aload_n 0, 1) := dk_42 (dk_at dksX1_both_0 21 rfl rfl)
theorem dX1_both_22 : decode cX1_both 22 = .ok (.bipush 38, 2) := dk_16 38 (dk_at dksX1_both_0 22 rfl rfl)
theorem dX1_both_24 : decode cX1_both 24 = .ok (.iconst 0, 1) := dk_3 (dk_at dksX1_both_1 0 rfl rfl)
theorem dX1_both_25 : decode cX1_both 25 = .ok (.invokevirtual 118, 3) := dk_182 0 118 (dk_at dksX1_both_1 1 rfl rfl)
theorem dX1_both_28 : decode cX1_both 28 = .ok (.goto (-24), 3) := dk_167 255 232 (dk_at dksX1_both_1 4 rfl rfl)
theorem dX1_both_31 : decode cX1_both 31 = .ok (.return_, 1) := dk_177 (dk_at dksX1_both_1 7 rfl rfl)
abbrev cX1_holds : ByteArray := prog_9_method_19_code
def yX1_holds : MethodName := ⟨RX1, "holds", "()V"⟩
def dkwX1_holds_5 : List UInt8 := [51, 60, 42, 182, 0, 77, 42, 182, 0, 95, 42, 27, 3, 182, 0, 118, 177]
abbrev dktX1_holds_5 : List UInt8 := dkwX1_holds_5 ++ []
def dkwX1_holds_4 : List UInt8 := [154, 0, 16, 42, 16, 61, 182, 0, 74, 154, 0, 7, 42, 182, 0, 47, 42, 180, 0, 26, 42, 180, 0, 29]
abbrev dktX1_holds_4 : List UInt8 := dkwX1_holds_4 ++ dktX1_holds_5
def dkwX1_holds_3 : List UInt8 := [167, 0, 62, 42, 182, 0, 95, 42, 16, 60, 182, 0, 74, 154, 0, 25, 42, 16, 62, 182, 0, 74]
abbrev dktX1_holds_3 : List UInt8 := dkwX1_holds_3 ++ dktX1_holds_4
def dkwX1_holds_2 : List UInt8 := [182, 0, 125, 42, 182, 0, 98, 42, 16, 93, 182, 0, 101, 42, 89, 180, 0, 83, 4, 100, 181, 0, 83]
abbrev dktX1_holds_2 : List UInt8 := dkwX1_holds_2 ++ dktX1_holds_3
def dkwX1_holds_1 : List UInt8 := [89, 180, 0, 83, 4, 100, 181, 0, 83, 167, 0, 98, 42, 16, 91, 182, 0, 74, 153, 0, 30, 42]
abbrev dktX1_holds_1 : List UInt8 := dkwX1_holds_1 ++ dktX1_holds_2
def dkwX1_holds_0 : List UInt8 := [42, 18, 150, 182, 0, 141, 153, 0, 30, 42, 182, 0, 125, 42, 182, 0, 145, 42, 5, 3, 182, 0, 118, 42]
abbrev dktX1_holds_0 : List UInt8 := dkwX1_holds_0 ++ dktX1_holds_1
theorem dksX1_holds_0 : cX1_holds.data.toList.drop 0 = dktX1_holds_0 := by decide +kernel
theorem dksX1_holds_1 : cX1_holds.data.toList.drop 24 = dktX1_holds_1 := dk_seg dksX1_holds_0 24 rfl rfl
theorem dksX1_holds_2 : cX1_holds.data.toList.drop 46 = dktX1_holds_2 := dk_seg dksX1_holds_1 22 rfl rfl
theorem dksX1_holds_3 : cX1_holds.data.toList.drop 69 = dktX1_holds_3 := dk_seg dksX1_holds_2 23 rfl rfl
theorem dksX1_holds_4 : cX1_holds.data.toList.drop 91 = dktX1_holds_4 := dk_seg dksX1_holds_3 22 rfl rfl
theorem dksX1_holds_5 : cX1_holds.data.toList.drop 115 = dktX1_holds_5 := dk_seg dksX1_holds_4 24 rfl rfl
theorem dX1_holds_0 : decode cX1_holds 0 = .ok (.aload_n 0, 1) := dk_42 (dk_at dksX1_holds_0 0 rfl rfl)
theorem dX1_holds_1 : decode cX1_holds 1 = .ok (.ldc 150, 2) := dk_18 150 (dk_at dksX1_holds_0 1 rfl rfl)
theorem dX1_holds_3 : decode cX1_holds 3 = .ok (.invokevirtual 141, 3) := dk_182 0 141 (dk_at dksX1_holds_0 3 rfl rfl)
theorem dX1_holds_6 : decode cX1_holds 6 = .ok (.ifCond .eq 30, 3) := dk_153 0 30 (dk_at dksX1_holds_0 6 rfl rfl)
theorem dX1_holds_9 : decode cX1_holds 9 = .ok (.aload_n 0, 1) := dk_42 (dk_at dksX1_holds_0 9 rfl rfl)
theorem dX1_holds_10 : decode cX1_holds 10 = .ok (.invokevirtual 125, 3) := dk_182 0 125 (dk_at dksX1_holds_0 10 rfl rfl)
theorem dX1_holds_13 : decode cX1_holds 13 = .ok (.aload_n 0, 1) := dk_42 (dk_at dksX1_holds_0 13 rfl rfl)
theorem dX1_holds_14 : decode cX1_holds 14 = .ok (.invokevirtual 145, 3) := dk_182 0 145 (dk_at dksX1_holds_0 14 rfl rfl)
theorem dX1_holds_17 : decode cX1_holds 17 = .ok (.aload_n 0, 1) := dk_42 (dk_at dksX1_holds_0 17 rfl rfl)
theorem dX1_holds_18 : decode cX1_holds 18 = .ok (.iconst 2, 1) := dk_5 (dk_at dksX1_holds_0 18 rfl rfl)
theorem dX1_holds_19 : decode cX1_holds 19 = .ok (.iconst 0, 1) := dk_3 (dk_at dksX1_holds_0 19 rfl rfl)
theorem dX1_holds_20 : decode cX1_holds 20 = .ok (.invokevirtual 118, 3) := dk_182 0 118 (dk_at dksX1_holds_0 20 rfl rfl)
theorem dX1_holds_23 : decode cX1_holds 23 = .ok (.aload_n 0, 1) := dk_42 (dk_at dksX1_holds_0 23 rfl rfl)
theorem dX1_holds_24 : decode cX1_holds 24 = .ok (.dup, 1) := dk_89 (dk_at dksX1_holds_1 0 rfl rfl)
theorem dX1_holds_25 : decode cX1_holds 25 = .ok (.getfield 83, 3) := dk_180 0 83 (dk_at dksX1_holds_1 1 rfl rfl)
theorem dX1_holds_28 : decode cX1_holds 28 = .ok (.iconst 1, 1) := dk_4 (dk_at dksX1_holds_1 4 rfl rfl)
theorem dX1_holds_29 : decode cX1_holds 29 = .ok (.isub, 1) := dk_100 (dk_at dksX1_holds_1 5 rfl rfl)
theorem dX1_holds_30 : decode cX1_holds 30 = .ok (.putfield 83, 3) := dk_181 0 83 (dk_at dksX1_holds_1 6 rfl rfl)
theorem dX1_holds_33 : decode cX1_holds 33 = .ok (.goto 98, 3) := dk_167 0 98 (dk_at dksX1_holds_1 9 rfl rfl)
theorem dX1_holds_36 : decode cX1_holds 36 = .ok (.aload_n 0, 1) := dk_42 (dk_at dksX1_holds_1 12 rfl rfl)
theorem dX1_holds_37 : decode cX1_holds 37 = .ok (.bipush 91, 2) := dk_16 91 (dk_at dksX1_holds_1 13 rfl rfl)
theorem dX1_holds_39 : decode cX1_holds 39 = .ok (.invokevirtual 74, 3) := dk_182 0 74 (dk_at dksX1_holds_1 15 rfl rfl)
theorem dX1_holds_42 : decode cX1_holds 42 = .ok (.ifCond .eq 30, 3) := dk_153 0 30 (dk_at dksX1_holds_1 18 rfl rfl)
theorem dX1_holds_45 : decode cX1_holds 45 = .ok (.aload_n 0, 1) := dk_42 (dk_at dksX1_holds_1 21 rfl rfl)
theorem dX1_holds_46 : decode cX1_holds 46 = .ok (.invokevirtual 125, 3) := dk_182 0 125 (dk_at dksX1_holds_2 0 rfl rfl)
theorem dX1_holds_49 : decode cX1_holds 49 = .ok (.aload_n 0, 1) := dk_42 (dk_at dksX1_holds_2 3 rfl rfl)
theorem dX1_holds_50 : decode cX1_holds 50 = .ok (.invokevirtual 98, 3) := dk_182 0 98 (dk_at dksX1_holds_2 4 rfl rfl)
theorem dX1_holds_53 : decode cX1_holds 53 = .ok (.aload_n 0, 1) := dk_42 (dk_at dksX1_holds_2 7 rfl rfl)
theorem dX1_holds_54 : decode cX1_holds 54 = .ok (.bipush 93, 2) := dk_16 93 (dk_at dksX1_holds_2 8 rfl rfl)
theorem dX1_holds_56 : decode cX1_holds 56 = .ok (.invokevirtual 101, 3) := dk_182 0 101 (dk_at dksX1_holds_2 10 rfl rfl)
theorem dX1_holds_59 : decode cX1_holds 59 = .ok (.aload_n 0, 1) := dk_42 (dk_at dksX1_holds_2 13 rfl rfl)
theorem dX1_holds_60 : decode cX1_holds 60 = .ok (.dup, 1) := dk_89 (dk_at dksX1_holds_2 14 rfl rfl)
theorem dX1_holds_61 : decode cX1_holds 61 = .ok (.getfield 83, 3) := dk_180 0 83 (dk_at dksX1_holds_2 15 rfl rfl)
theorem dX1_holds_64 : decode cX1_holds 64 = .ok (.iconst 1, 1) := dk_4 (dk_at dksX1_holds_2 18 rfl rfl)
theorem dX1_holds_65 : decode cX1_holds 65 = .ok (.isub, 1) := dk_100 (dk_at dksX1_holds_2 19 rfl rfl)
theorem dX1_holds_66 : decode cX1_holds 66 = .ok (.putfield 83, 3) := dk_181 0 83 (dk_at dksX1_holds_2 20 rfl rfl)
theorem dX1_holds_69 : decode cX1_holds 69 = .ok (.goto 62, 3) := dk_167 0 62 (dk_at dksX1_holds_3 0 rfl rfl)
theorem dX1_holds_72 : decode cX1_holds 72 = .ok (.aload_n 0, 1) := dk_42 (dk_at dksX1_holds_3 3 rfl rfl)
theorem dX1_holds_73 : decode cX1_holds 73 = .ok (.invokevirtual 95, 3) := dk_182 0 95 (dk_at dksX1_holds_3 4 rfl rfl)
theorem dX1_holds_76 : decode cX1_holds 76 = .ok (.aload_n 0, 1) := dk_42 (dk_at dksX1_holds_3 7 rfl rfl)
theorem dX1_holds_77 : decode cX1_holds 77 = .ok (.bipush 60, 2) := dk_16 60 (dk_at dksX1_holds_3 8 rfl rfl)
theorem dX1_holds_79 : decode cX1_holds 79 = .ok (.invokevirtual 74, 3) := dk_182 0 74 (dk_at dksX1_holds_3 10 rfl rfl)
theorem dX1_holds_82 : decode cX1_holds 82 = .ok (.ifCond .ne 25, 3) := dk_154 0 25 (dk_at dksX1_holds_3 13 rfl rfl)
theorem dX1_holds_85 : decode cX1_holds 85 = .ok (.aload_n 0, 1) := dk_42 (dk_at dksX1_holds_3 16 rfl rfl)
theorem dX1_holds_86 : decode cX1_holds 86 = .ok (.bipush 62, 2) := dk_16 62 (dk_at dksX1_holds_3 17 rfl rfl)
theorem dX1_holds_88 : decode cX1_holds 88 = .ok (.invokevirtual 74, 3) := dk_182 0 74 (dk_at dksX1_holds_3 19 rfl rfl)
theorem dX1_holds_91 : decode cX1_holds 91 = .ok (.ifCond .ne 16, 3) := dk_154 0 16 (dk_at dksX1_holds_4 0 rfl rfl)
theorem dX1_holds_94 : decode cX1_holds 94 = .ok (.aload_n 0, 1) := dk_42 (dk_at dksX1_holds_4 3 rfl rfl)
theorem dX1_holds_95 : decode cX1_holds 95 = .ok (.bipush 61, 2) := dk_16 61 (dk_at dksX1_holds_4 4 rfl rfl)
theorem dX1_holds_97 : decode cX1_holds 97 = .ok (.invokevirtual 74, 3) := dk_182 0 74 (dk_at dksX1_holds_4 6 rfl rfl)
theorem dX1_holds_100 : decode cX1_holds 100 = .ok (.ifCond .ne 7, 3) := dk_154 0 7 (dk_at dksX1_holds_4 9 rfl rfl)
theorem dX1_holds_103 : decode cX1_holds 103 = .ok (.aload_n 0, 1) := dk_42 (dk_at dksX1_holds_4 12 rfl rfl)
theorem dX1_holds_104 : decode cX1_holds 104 = .ok (.invokevirtual 47, 3) := dk_182 0 47 (dk_at dksX1_holds_4 13 rfl rfl)
theorem dX1_holds_107 : decode cX1_holds 107 = .ok (.aload_n 0, 1) := dk_42 (dk_at dksX1_holds_4 16 rfl rfl)
theorem dX1_holds_108 : decode cX1_holds 108 = .ok (.getfield 26, 3) := dk_180 0 26 (dk_at dksX1_holds_4 17 rfl rfl)
theorem dX1_holds_111 : decode cX1_holds 111 = .ok (.aload_n 0, 1) := dk_42 (dk_at dksX1_holds_4 20 rfl rfl)
theorem dX1_holds_112 : decode cX1_holds 112 = .ok (.getfield 29, 3) := dk_180 0 29 (dk_at dksX1_holds_4 21 rfl rfl)
theorem dX1_holds_115 : decode cX1_holds 115 = .ok (.baload, 1) := dk_51 (dk_at dksX1_holds_5 0 rfl rfl)
theorem dX1_holds_116 : decode cX1_holds 116 = .ok (.istore_n 1, 1) := dk_60 (dk_at dksX1_holds_5 1 rfl rfl)
theorem dX1_holds_117 : decode cX1_holds 117 = .ok (.aload_n 0, 1) := dk_42 (dk_at dksX1_holds_5 2 rfl rfl)
theorem dX1_holds_118 : decode cX1_holds 118 = .ok (.invokevirtual 77, 3) := dk_182 0 77 (dk_at dksX1_holds_5 3 rfl rfl)
theorem dX1_holds_121 : decode cX1_holds 121 = .ok (.aload_n 0, 1) := dk_42 (dk_at dksX1_holds_5 6 rfl rfl)
theorem dX1_holds_122 : decode cX1_holds 122 = .ok (.invokevirtual 95, 3) := dk_182 0 95 (dk_at dksX1_holds_5 7 rfl rfl)
theorem dX1_holds_125 : decode cX1_holds 125 = .ok (.aload_n 0, 1) := dk_42 (dk_at dksX1_holds_5 10 rfl rfl)
theorem dX1_holds_126 : decode cX1_holds 126 = .ok (.iload_n 1, 1) := dk_27 (dk_at dksX1_holds_5 11 rfl rfl)
theorem dX1_holds_127 : decode cX1_holds 127 = .ok (.iconst 0, 1) := dk_3 (dk_at dksX1_holds_5 12 rfl rfl)
theorem dX1_holds_128 : decode cX1_holds 128 = .ok (.invokevirtual 118, 3) := dk_182 0 118 (dk_at dksX1_holds_5 13 rfl rfl)
theorem dX1_holds_131 : decode cX1_holds 131 = .ok (.return_, 1) := dk_177 (dk_at dksX1_holds_5 16 rfl rfl)
abbrev cX1_isWord : ByteArray := prog_9_method_9_code
def yX1_isWord : MethodName := ⟨RX1, "isWord", "(Ljava/lang/String;)Z"⟩
def dkwX1_isWord_0 : List UInt8 := [42, 182, 0, 55, 154, 0, 15, 42, 43, 182, 0, 70, 154, 0, 7, 4, 167, 0, 4, 3, 172]
abbrev dktX1_isWord_0 : List UInt8 := dkwX1_isWord_0 ++ []
theorem dksX1_isWord_0 : cX1_isWord.data.toList.drop 0 = dktX1_isWord_0 := by decide +kernel
theorem dX1_isWord_0 : decode cX1_isWord 0 = .ok (.aload_n 0, 1) := dk_42 (dk_at dksX1_isWord_0 0 rfl rfl)
theorem dX1_isWord_1 : decode cX1_isWord 1 = .ok (.invokevirtual 55, 3) := dk_182 0 55 (dk_at dksX1_isWord_0 1 rfl rfl)
theorem dX1_isWord_4 : decode cX1_isWord 4 = .ok (.ifCond .ne 15, 3) := dk_154 0 15 (dk_at dksX1_isWord_0 4 rfl rfl)
theorem dX1_isWord_7 : decode cX1_isWord 7 = .ok (.aload_n 0, 1) := dk_42 (dk_at dksX1_isWord_0 7 rfl rfl)
theorem dX1_isWord_8 : decode cX1_isWord 8 = .ok (.aload_n 1, 1) := dk_43 (dk_at dksX1_isWord_0 8 rfl rfl)
theorem dX1_isWord_9 : decode cX1_isWord 9 = .ok (.invokevirtual 70, 3) := dk_182 0 70 (dk_at dksX1_isWord_0 9 rfl rfl)
theorem dX1_isWord_12 : decode cX1_isWord 12 = .ok (.ifCond .ne 7, 3) := dk_154 0 7 (dk_at dksX1_isWord_0 12 rfl rfl)
theorem dX1_isWord_15 : decode cX1_isWord 15 = .ok (.iconst 1, 1) := dk_4 (dk_at dksX1_isWord_0 15 rfl rfl)
theorem dX1_isWord_16 : decode cX1_isWord 16 = .ok (.goto 4, 3) := dk_167 0 4 (dk_at dksX1_isWord_0 16 rfl rfl)
theorem dX1_isWord_19 : decode cX1_isWord 19 = .ok (.iconst 0, 1) := dk_3 (dk_at dksX1_isWord_0 19 rfl rfl)
theorem dX1_isWord_20 : decode cX1_isWord 20 = .ok (.ireturn, 1) := dk_172 (dk_at dksX1_isWord_0 20 rfl rfl)
theorem q96 : (Jvm.Cond.initialized "WheelLand$Reader") ∈ lw_all := lw_g (lw_at lw_m1 2 rfl) rfl
theorem q137 : (Jvm.Cond.instantiable "WheelLand$Reader" (8 : Nat)) ∈ lw_all := lw_g (lw_at lw_m1 43 rfl) rfl
theorem q139 : (Jvm.Cond.instanceMethod ({ cls := "WheelLand$Reader", name := "<init>", desc := "()V" } : Jvm.MethodName)) ∈ lw_all := lw_g (lw_at lw_m1 45 rfl) rfl
theorem q140 : (Jvm.Cond.code ({ cls := "WheelLand$Reader", name := "<init>", desc := "()V" } : Jvm.MethodName) prog_9_method_1_code (1 : Nat) (Option.none : Option Jvm.ClassFile.FieldType)) ∈ lw_all := lw_g (lw_at lw_m1 46 rfl) rfl
theorem q141 : (Jvm.Cond.methodLink "WheelLand$Reader" (3 : Nat) ({ cls := "java/lang/Object", name := "<init>", desc := "()V" } : Jvm.MethodName)) ∈ lw_all := lw_g (lw_at lw_m1 47 rfl) rfl
theorem q142 : (Jvm.Cond.fieldLink "WheelLand$Reader" (9 : Nat) "WheelLand$Reader" "what" "[B") ∈ lw_all := lw_g (lw_at lw_m1 48 rfl) rfl
theorem q143 : (Jvm.Cond.fieldLink "WheelLand$Reader" (15 : Nat) "WheelLand$Reader" "with" "[I") ∈ lw_all := lw_g (lw_at lw_m1 49 rfl) rfl
theorem q144 : (Jvm.Cond.fieldLink "WheelLand$Reader" (26 : Nat) "WheelLand$Reader" "text" "[B") ∈ lw_all := lw_g (lw_at lw_m1 50 rfl) rfl
theorem q145 : (Jvm.Cond.fieldLink "WheelLand$Reader" (23 : Nat) "WheelLand$Reader" "size" "I") ∈ lw_all := lw_g (lw_at lw_m1 51 rfl) rfl
theorem q146 : (Jvm.Cond.fieldLink "WheelLand$Reader" (19 : Nat) "WheelLand$Reader" "at" "I") ∈ lw_all := lw_g (lw_at lw_m1 52 rfl) rfl
theorem q147 : (Jvm.Cond.fieldLink "WheelLand$Reader" (29 : Nat) "WheelLand$Reader" "begin" "I") ∈ lw_all := lw_g (lw_at lw_m1 53 rfl) rfl
theorem q148 : (Jvm.Cond.fieldLink "WheelLand$Reader" (83 : Nat) "WheelLand$Reader" "deep" "I") ∈ lw_all := lw_g (lw_at lw_m1 54 rfl) rfl
theorem q149 : (Jvm.Cond.fieldLink "WheelLand$Reader" (80 : Nat) "WheelLand$Reader" "steps" "I") ∈ lw_all := lw_g (lw_at lw_m1 55 rfl) rfl
theorem q150 : (Jvm.Cond.laysFinal "WheelLand$Reader" "WheelLand$Reader" "what" "[B") ∈ lw_all := lw_g (lw_at lw_m1 56 rfl) rfl
theorem q151 : (Jvm.Cond.soleField "WheelLand$Reader" "what") ∈ lw_all := lw_g (lw_at lw_m1 57 rfl) rfl
theorem q152 : (Jvm.Cond.laysFinal "WheelLand$Reader" "WheelLand$Reader" "with" "[I") ∈ lw_all := lw_g (lw_at lw_m1 58 rfl) rfl
theorem q153 : (Jvm.Cond.soleField "WheelLand$Reader" "with") ∈ lw_all := lw_g (lw_at lw_m1 59 rfl) rfl
theorem q154 : (Jvm.Cond.lays "WheelLand$Reader" "WheelLand$Reader" "text" "[B") ∈ lw_all := lw_g (lw_at lw_m1 60 rfl) rfl
theorem q155 : (Jvm.Cond.soleField "WheelLand$Reader" "text") ∈ lw_all := lw_g (lw_at lw_m1 61 rfl) rfl
theorem q156 : (Jvm.Cond.lays "WheelLand$Reader" "WheelLand$Reader" "size" "I") ∈ lw_all := lw_g (lw_at lw_m1 62 rfl) rfl
theorem q157 : (Jvm.Cond.soleField "WheelLand$Reader" "size") ∈ lw_all := lw_g (lw_at lw_m1 63 rfl) rfl
theorem q158 : (Jvm.Cond.lays "WheelLand$Reader" "WheelLand$Reader" "at" "I") ∈ lw_all := lw_g (lw_at lw_m1 64 rfl) rfl
theorem q159 : (Jvm.Cond.soleField "WheelLand$Reader" "at") ∈ lw_all := lw_g (lw_at lw_m1 65 rfl) rfl
theorem q160 : (Jvm.Cond.lays "WheelLand$Reader" "WheelLand$Reader" "begin" "I") ∈ lw_all := lw_g (lw_at lw_m1 66 rfl) rfl
theorem q161 : (Jvm.Cond.soleField "WheelLand$Reader" "begin") ∈ lw_all := lw_g (lw_at lw_m1 67 rfl) rfl
theorem q162 : (Jvm.Cond.lays "WheelLand$Reader" "WheelLand$Reader" "deep" "I") ∈ lw_all := lw_g (lw_at lw_m1 68 rfl) rfl
theorem q163 : (Jvm.Cond.soleField "WheelLand$Reader" "deep") ∈ lw_all := lw_g (lw_at lw_m1 69 rfl) rfl
theorem q164 : (Jvm.Cond.lays "WheelLand$Reader" "WheelLand$Reader" "steps" "I") ∈ lw_all := lw_g (lw_at lw_m1 70 rfl) rfl
theorem q165 : (Jvm.Cond.soleField "WheelLand$Reader" "steps") ∈ lw_all := lw_g (lw_at lw_m1 71 rfl) rfl
theorem q166 : (Jvm.Cond.superclass "WheelLand$Reader" "java/lang/Object") ∈ lw_all := lw_g (lw_at lw_m1 72 rfl) rfl
theorem q733 : (Jvm.Cond.instanceMethod ({ cls := "WheelLand$Reader", name := "read", desc := "([BI)LWheelLand$Sheet;" } : Jvm.MethodName)) ∈ lw_all := lw_g (lw_at lw_m3 159 rfl) rfl
theorem q734 : (Jvm.Cond.selects "WheelLand$Reader" ({ cls := "WheelLand$Reader", name := "read", desc := "([BI)LWheelLand$Sheet;" } : Jvm.MethodName) ({ cls := "WheelLand$Reader", name := "read", desc := "([BI)LWheelLand$Sheet;" } : Jvm.MethodName)) ∈ lw_all := lw_g (lw_at lw_m3 160 rfl) rfl
theorem q735 : (Jvm.Cond.code ({ cls := "WheelLand$Reader", name := "read", desc := "([BI)LWheelLand$Sheet;" } : Jvm.MethodName) prog_9_method_12_code (6 : Nat) (Option.some (Jvm.ClassFile.FieldType.object "WheelLand$Sheet"))) ∈ lw_all := lw_g (lw_at lw_m3 161 rfl) rfl
theorem q736 : (Jvm.Cond.classLink "WheelLand$Reader" (86 : Nat) "WheelLand$Sheet") ∈ lw_all := lw_g (lw_at lw_m3 162 rfl) rfl
theorem q738 : (Jvm.Cond.methodLinkNest "WheelLand$Reader" (88 : Nat) ({ cls := "WheelLand$Sheet", name := "<init>", desc := "()V" } : Jvm.MethodName) "WheelLand") ∈ lw_tbl := lw_at lw_m3 164 rfl
theorem q745 : (Jvm.Cond.fieldLinkNest "WheelLand$Reader" (91 : Nat) "WheelLand$Sheet" "clauses" "[LWheelLand$Steps;" "WheelLand") ∈ lw_tbl := lw_at lw_m3 171 rfl
theorem q750 : (Jvm.Cond.methodLink "WheelLand$Reader" (77 : Nat) ({ cls := "WheelLand$Reader", name := "next", desc := "()V" } : Jvm.MethodName)) ∈ lw_all := lw_g (lw_at lw_m3 176 rfl) rfl
theorem q751 : (Jvm.Cond.privateMethod ({ cls := "WheelLand$Reader", name := "next", desc := "()V" } : Jvm.MethodName)) ∈ lw_tbl := lw_at lw_m3 177 rfl
theorem q752 : (Jvm.Cond.instanceMethod ({ cls := "WheelLand$Reader", name := "next", desc := "()V" } : Jvm.MethodName)) ∈ lw_all := lw_g (lw_at lw_m3 178 rfl) rfl
theorem q753 : (Jvm.Cond.code ({ cls := "WheelLand$Reader", name := "next", desc := "()V" } : Jvm.MethodName) prog_9_method_4_code (2 : Nat) (Option.none : Option Jvm.ClassFile.FieldType)) ∈ lw_all := lw_g (lw_at lw_m3 179 rfl) rfl
theorem q754 : (Jvm.Cond.methodLink "WheelLand$Reader" (32 : Nat) ({ cls := "WheelLand$Reader", name := "isLetter", desc := "(I)Z" } : Jvm.MethodName)) ∈ lw_all := lw_g (lw_at lw_m3 180 rfl) rfl
theorem q755 : (Jvm.Cond.static ({ cls := "WheelLand$Reader", name := "isLetter", desc := "(I)Z" } : Jvm.MethodName)) ∈ lw_all := lw_g (lw_at lw_m3 181 rfl) rfl
theorem q756 : (Jvm.Cond.code ({ cls := "WheelLand$Reader", name := "isLetter", desc := "(I)Z" } : Jvm.MethodName) prog_9_method_2_code (1 : Nat) (Option.some Jvm.ClassFile.FieldType.boolean)) ∈ lw_all := lw_g (lw_at lw_m3 182 rfl) rfl
theorem q757 : (Jvm.Cond.methodLink "WheelLand$Reader" (36 : Nat) ({ cls := "WheelLand$Reader", name := "isDigit", desc := "(I)Z" } : Jvm.MethodName)) ∈ lw_all := lw_g (lw_at lw_m3 183 rfl) rfl
theorem q758 : (Jvm.Cond.static ({ cls := "WheelLand$Reader", name := "isDigit", desc := "(I)Z" } : Jvm.MethodName)) ∈ lw_all := lw_g (lw_at lw_m3 184 rfl) rfl
theorem q759 : (Jvm.Cond.code ({ cls := "WheelLand$Reader", name := "isDigit", desc := "(I)Z" } : Jvm.MethodName) prog_9_method_3_code (1 : Nat) (Option.some Jvm.ClassFile.FieldType.boolean)) ∈ lw_all := lw_g (lw_at lw_m3 185 rfl) rfl
theorem q760 : (Jvm.Cond.stringRef "WheelLand$Reader" (39 : Nat) "+-*/()[]<>=;") ∈ lw_tbl := lw_at lw_m3 186 rfl
theorem q761 : (Jvm.Cond.methodLink "WheelLand$Reader" (41 : Nat) ({ cls := "java/lang/String", name := "indexOf", desc := "(I)I" } : Jvm.MethodName)) ∈ lw_all := lw_g (lw_at lw_m3 187 rfl) rfl
theorem q843 : (Jvm.Cond.methodLink "WheelLand$Reader" (47 : Nat) ({ cls := "WheelLand$Reader", name := "errs", desc := "()V" } : Jvm.MethodName)) ∈ lw_all := lw_g (lw_at lw_m4 29 rfl) rfl
theorem q844 : (Jvm.Cond.privateMethod ({ cls := "WheelLand$Reader", name := "errs", desc := "()V" } : Jvm.MethodName)) ∈ lw_tbl := lw_at lw_m4 30 rfl
theorem q845 : (Jvm.Cond.instanceMethod ({ cls := "WheelLand$Reader", name := "errs", desc := "()V" } : Jvm.MethodName)) ∈ lw_all := lw_g (lw_at lw_m4 31 rfl) rfl
theorem q846 : (Jvm.Cond.code ({ cls := "WheelLand$Reader", name := "errs", desc := "()V" } : Jvm.MethodName) prog_9_method_5_code (1 : Nat) (Option.none : Option Jvm.ClassFile.FieldType)) ∈ lw_all := lw_g (lw_at lw_m4 32 rfl) rfl
theorem q847 : (Jvm.Cond.classLink "WheelLand$Reader" (50 : Nat) "WheelLand$Fault") ∈ lw_all := lw_g (lw_at lw_m4 33 rfl) rfl
theorem q886 : (Jvm.Cond.methodLink "WheelLand$Reader" (52 : Nat) ({ cls := "WheelLand$Fault", name := "<init>", desc := "(I)V" } : Jvm.MethodName)) ∈ lw_all := lw_g (lw_at lw_m4 72 rfl) rfl
theorem q915 : (Jvm.Cond.methodLink "WheelLand$Reader" (55 : Nat) ({ cls := "WheelLand$Reader", name := "isOver", desc := "()Z" } : Jvm.MethodName)) ∈ lw_all := lw_g (lw_at lw_m4 101 rfl) rfl
theorem q916 : (Jvm.Cond.privateMethod ({ cls := "WheelLand$Reader", name := "isOver", desc := "()Z" } : Jvm.MethodName)) ∈ lw_tbl := lw_at lw_m4 102 rfl
theorem q917 : (Jvm.Cond.instanceMethod ({ cls := "WheelLand$Reader", name := "isOver", desc := "()Z" } : Jvm.MethodName)) ∈ lw_all := lw_g (lw_at lw_m4 103 rfl) rfl
theorem q918 : (Jvm.Cond.code ({ cls := "WheelLand$Reader", name := "isOver", desc := "()Z" } : Jvm.MethodName) prog_9_method_6_code (1 : Nat) (Option.some Jvm.ClassFile.FieldType.boolean)) ∈ lw_all := lw_g (lw_at lw_m4 104 rfl) rfl
theorem q919 : (Jvm.Cond.stringRef "WheelLand$Reader" (89 : Nat) "owe wage duty may stamp ") ∈ lw_tbl := lw_at lw_m4 105 rfl
theorem q920 : (Jvm.Cond.methodLink "WheelLand$Reader" (70 : Nat) ({ cls := "WheelLand$Reader", name := "word", desc := "(Ljava/lang/String;)I" } : Jvm.MethodName)) ∈ lw_all := lw_g (lw_at lw_m4 106 rfl) rfl
theorem q921 : (Jvm.Cond.privateMethod ({ cls := "WheelLand$Reader", name := "word", desc := "(Ljava/lang/String;)I" } : Jvm.MethodName)) ∈ lw_tbl := lw_at lw_m4 107 rfl
theorem q922 : (Jvm.Cond.instanceMethod ({ cls := "WheelLand$Reader", name := "word", desc := "(Ljava/lang/String;)I" } : Jvm.MethodName)) ∈ lw_all := lw_g (lw_at lw_m4 108 rfl) rfl
theorem q923 : (Jvm.Cond.code ({ cls := "WheelLand$Reader", name := "word", desc := "(Ljava/lang/String;)I" } : Jvm.MethodName) prog_9_method_8_code (6 : Nat) (Option.some Jvm.ClassFile.FieldType.int)) ∈ lw_all := lw_g (lw_at lw_m4 109 rfl) rfl
theorem q924 : (Jvm.Cond.methodLink "WheelLand$Reader" (59 : Nat) ({ cls := "java/lang/String", name := "length", desc := "()I" } : Jvm.MethodName)) ∈ lw_all := lw_g (lw_at lw_m4 110 rfl) rfl
theorem q925 : (Jvm.Cond.methodLink "WheelLand$Reader" (63 : Nat) ({ cls := "java/lang/String", name := "indexOf", desc := "(II)I" } : Jvm.MethodName)) ∈ lw_all := lw_g (lw_at lw_m4 111 rfl) rfl
theorem q926 : (Jvm.Cond.methodLink "WheelLand$Reader" (66 : Nat) ({ cls := "java/lang/String", name := "charAt", desc := "(I)C" } : Jvm.MethodName)) ∈ lw_all := lw_g (lw_at lw_m4 112 rfl) rfl
theorem q946 : (Jvm.Cond.methodLink "WheelLand$Reader" (95 : Nat) ({ cls := "WheelLand$Reader", name := "sum", desc := "()V" } : Jvm.MethodName)) ∈ lw_all := lw_g (lw_at lw_m4 132 rfl) rfl
theorem q947 : (Jvm.Cond.privateMethod ({ cls := "WheelLand$Reader", name := "sum", desc := "()V" } : Jvm.MethodName)) ∈ lw_tbl := lw_at lw_m4 133 rfl
theorem q948 : (Jvm.Cond.instanceMethod ({ cls := "WheelLand$Reader", name := "sum", desc := "()V" } : Jvm.MethodName)) ∈ lw_all := lw_g (lw_at lw_m4 134 rfl) rfl
theorem q949 : (Jvm.Cond.code ({ cls := "WheelLand$Reader", name := "sum", desc := "()V" } : Jvm.MethodName) prog_9_method_13_code (2 : Nat) (Option.none : Option Jvm.ClassFile.FieldType)) ∈ lw_all := lw_g (lw_at lw_m4 135 rfl) rfl
theorem q950 : (Jvm.Cond.methodLink "WheelLand$Reader" (115 : Nat) ({ cls := "WheelLand$Reader", name := "product", desc := "()V" } : Jvm.MethodName)) ∈ lw_all := lw_g (lw_at lw_m4 136 rfl) rfl
theorem q951 : (Jvm.Cond.privateMethod ({ cls := "WheelLand$Reader", name := "product", desc := "()V" } : Jvm.MethodName)) ∈ lw_tbl := lw_at lw_m4 137 rfl
theorem q952 : (Jvm.Cond.instanceMethod ({ cls := "WheelLand$Reader", name := "product", desc := "()V" } : Jvm.MethodName)) ∈ lw_all := lw_g (lw_at lw_m4 138 rfl) rfl
theorem q953 : (Jvm.Cond.code ({ cls := "WheelLand$Reader", name := "product", desc := "()V" } : Jvm.MethodName) prog_9_method_14_code (2 : Nat) (Option.none : Option Jvm.ClassFile.FieldType)) ∈ lw_all := lw_g (lw_at lw_m4 139 rfl) rfl
theorem q954 : (Jvm.Cond.methodLink "WheelLand$Reader" (122 : Nat) ({ cls := "WheelLand$Reader", name := "factor", desc := "()V" } : Jvm.MethodName)) ∈ lw_all := lw_g (lw_at lw_m4 140 rfl) rfl
theorem q955 : (Jvm.Cond.privateMethod ({ cls := "WheelLand$Reader", name := "factor", desc := "()V" } : Jvm.MethodName)) ∈ lw_tbl := lw_at lw_m4 141 rfl
theorem q956 : (Jvm.Cond.instanceMethod ({ cls := "WheelLand$Reader", name := "factor", desc := "()V" } : Jvm.MethodName)) ∈ lw_all := lw_g (lw_at lw_m4 142 rfl) rfl
theorem q957 : (Jvm.Cond.code ({ cls := "WheelLand$Reader", name := "factor", desc := "()V" } : Jvm.MethodName) prog_9_method_16_code (3 : Nat) (Option.none : Option Jvm.ClassFile.FieldType)) ∈ lw_all := lw_g (lw_at lw_m4 143 rfl) rfl
theorem q958 : (Jvm.Cond.methodLink "WheelLand$Reader" (74 : Nat) ({ cls := "WheelLand$Reader", name := "is", desc := "(I)Z" } : Jvm.MethodName)) ∈ lw_all := lw_g (lw_at lw_m4 144 rfl) rfl
theorem q959 : (Jvm.Cond.privateMethod ({ cls := "WheelLand$Reader", name := "is", desc := "(I)Z" } : Jvm.MethodName)) ∈ lw_tbl := lw_at lw_m4 145 rfl
theorem q960 : (Jvm.Cond.instanceMethod ({ cls := "WheelLand$Reader", name := "is", desc := "(I)Z" } : Jvm.MethodName)) ∈ lw_all := lw_g (lw_at lw_m4 146 rfl) rfl
theorem q961 : (Jvm.Cond.code ({ cls := "WheelLand$Reader", name := "is", desc := "(I)Z" } : Jvm.MethodName) prog_9_method_7_code (2 : Nat) (Option.some Jvm.ClassFile.FieldType.boolean)) ∈ lw_all := lw_g (lw_at lw_m4 147 rfl) rfl
theorem q962 : (Jvm.Cond.methodLink "WheelLand$Reader" (125 : Nat) ({ cls := "WheelLand$Reader", name := "opens", desc := "()V" } : Jvm.MethodName)) ∈ lw_all := lw_g (lw_at lw_m4 148 rfl) rfl
theorem q963 : (Jvm.Cond.privateMethod ({ cls := "WheelLand$Reader", name := "opens", desc := "()V" } : Jvm.MethodName)) ∈ lw_tbl := lw_at lw_m4 149 rfl
theorem q964 : (Jvm.Cond.instanceMethod ({ cls := "WheelLand$Reader", name := "opens", desc := "()V" } : Jvm.MethodName)) ∈ lw_all := lw_g (lw_at lw_m4 150 rfl) rfl
theorem q965 : (Jvm.Cond.code ({ cls := "WheelLand$Reader", name := "opens", desc := "()V" } : Jvm.MethodName) prog_9_method_15_code (1 : Nat) (Option.none : Option Jvm.ClassFile.FieldType)) ∈ lw_all := lw_g (lw_at lw_m4 151 rfl) rfl
theorem q966 : (Jvm.Cond.methodLink "WheelLand$Reader" (101 : Nat) ({ cls := "WheelLand$Reader", name := "needs", desc := "(I)V" } : Jvm.MethodName)) ∈ lw_all := lw_g (lw_at lw_m4 152 rfl) rfl
theorem q967 : (Jvm.Cond.privateMethod ({ cls := "WheelLand$Reader", name := "needs", desc := "(I)V" } : Jvm.MethodName)) ∈ lw_tbl := lw_at lw_m4 153 rfl
theorem q968 : (Jvm.Cond.instanceMethod ({ cls := "WheelLand$Reader", name := "needs", desc := "(I)V" } : Jvm.MethodName)) ∈ lw_all := lw_g (lw_at lw_m4 154 rfl) rfl
theorem q969 : (Jvm.Cond.code ({ cls := "WheelLand$Reader", name := "needs", desc := "(I)V" } : Jvm.MethodName) prog_9_method_10_code (2 : Nat) (Option.none : Option Jvm.ClassFile.FieldType)) ∈ lw_all := lw_g (lw_at lw_m4 155 rfl) rfl
theorem q970 : (Jvm.Cond.constant "WheelLand$Reader" (128 : Nat) (1000000 : Int32)) ∈ lw_all := lw_g (lw_at lw_m4 156 rfl) rfl
theorem q971 : (Jvm.Cond.methodLink "WheelLand$Reader" (129 : Nat) ({ cls := "java/lang/Math", name := "min", desc := "(II)I" } : Jvm.MethodName)) ∈ lw_all := lw_g (lw_at lw_m4 157 rfl) rfl
theorem q972 : (Jvm.Cond.methodLink "WheelLand$Reader" (118 : Nat) ({ cls := "WheelLand$Reader", name := "notes", desc := "(II)V" } : Jvm.MethodName)) ∈ lw_all := lw_g (lw_at lw_m4 158 rfl) rfl
theorem q973 : (Jvm.Cond.privateMethod ({ cls := "WheelLand$Reader", name := "notes", desc := "(II)V" } : Jvm.MethodName)) ∈ lw_tbl := lw_at lw_m4 159 rfl
theorem q974 : (Jvm.Cond.instanceMethod ({ cls := "WheelLand$Reader", name := "notes", desc := "(II)V" } : Jvm.MethodName)) ∈ lw_all := lw_g (lw_at lw_m4 160 rfl) rfl
theorem q975 : (Jvm.Cond.code ({ cls := "WheelLand$Reader", name := "notes", desc := "(II)V" } : Jvm.MethodName) prog_9_method_11_code (3 : Nat) (Option.none : Option Jvm.ClassFile.FieldType)) ∈ lw_all := lw_g (lw_at lw_m4 161 rfl) rfl
theorem q976 : (Jvm.Cond.stringRef "WheelLand$Reader" (134 : Nat) "week season heads wheels skill caste other count strength hanks idle far price ") ∈ lw_tbl := lw_at lw_m4 162 rfl
theorem q977 : (Jvm.Cond.methodLink "WheelLand$Reader" (98 : Nat) ({ cls := "WheelLand$Reader", name := "either", desc := "()V" } : Jvm.MethodName)) ∈ lw_all := lw_g (lw_at lw_m4 163 rfl) rfl
theorem q978 : (Jvm.Cond.privateMethod ({ cls := "WheelLand$Reader", name := "either", desc := "()V" } : Jvm.MethodName)) ∈ lw_tbl := lw_at lw_m4 164 rfl
theorem q979 : (Jvm.Cond.instanceMethod ({ cls := "WheelLand$Reader", name := "either", desc := "()V" } : Jvm.MethodName)) ∈ lw_all := lw_g (lw_at lw_m4 165 rfl) rfl
theorem q980 : (Jvm.Cond.code ({ cls := "WheelLand$Reader", name := "either", desc := "()V" } : Jvm.MethodName) prog_9_method_17_code (1 : Nat) (Option.none : Option Jvm.ClassFile.FieldType)) ∈ lw_all := lw_g (lw_at lw_m4 166 rfl) rfl
theorem q981 : (Jvm.Cond.methodLink "WheelLand$Reader" (136 : Nat) ({ cls := "WheelLand$Reader", name := "both", desc := "()V" } : Jvm.MethodName)) ∈ lw_all := lw_g (lw_at lw_m4 167 rfl) rfl
theorem q982 : (Jvm.Cond.privateMethod ({ cls := "WheelLand$Reader", name := "both", desc := "()V" } : Jvm.MethodName)) ∈ lw_tbl := lw_at lw_m4 168 rfl
theorem q983 : (Jvm.Cond.instanceMethod ({ cls := "WheelLand$Reader", name := "both", desc := "()V" } : Jvm.MethodName)) ∈ lw_all := lw_g (lw_at lw_m4 169 rfl) rfl
theorem q984 : (Jvm.Cond.code ({ cls := "WheelLand$Reader", name := "both", desc := "()V" } : Jvm.MethodName) prog_9_method_18_code (1 : Nat) (Option.none : Option Jvm.ClassFile.FieldType)) ∈ lw_all := lw_g (lw_at lw_m4 170 rfl) rfl
theorem q985 : (Jvm.Cond.methodLink "WheelLand$Reader" (145 : Nat) ({ cls := "WheelLand$Reader", name := "holds", desc := "()V" } : Jvm.MethodName)) ∈ lw_all := lw_g (lw_at lw_m4 171 rfl) rfl
theorem q986 : (Jvm.Cond.privateMethod ({ cls := "WheelLand$Reader", name := "holds", desc := "()V" } : Jvm.MethodName)) ∈ lw_tbl := lw_at lw_m4 172 rfl
theorem q987 : (Jvm.Cond.instanceMethod ({ cls := "WheelLand$Reader", name := "holds", desc := "()V" } : Jvm.MethodName)) ∈ lw_all := lw_g (lw_at lw_m4 173 rfl) rfl
theorem q988 : (Jvm.Cond.code ({ cls := "WheelLand$Reader", name := "holds", desc := "()V" } : Jvm.MethodName) prog_9_method_19_code (2 : Nat) (Option.none : Option Jvm.ClassFile.FieldType)) ∈ lw_all := lw_g (lw_at lw_m4 174 rfl) rfl
theorem q989 : (Jvm.Cond.stringRef "WheelLand$Reader" (150 : Nat) "not ") ∈ lw_tbl := lw_at lw_m4 175 rfl
theorem q990 : (Jvm.Cond.methodLink "WheelLand$Reader" (141 : Nat) ({ cls := "WheelLand$Reader", name := "isWord", desc := "(Ljava/lang/String;)Z" } : Jvm.MethodName)) ∈ lw_all := lw_g (lw_at lw_m4 176 rfl) rfl
theorem q991 : (Jvm.Cond.privateMethod ({ cls := "WheelLand$Reader", name := "isWord", desc := "(Ljava/lang/String;)Z" } : Jvm.MethodName)) ∈ lw_tbl := lw_at lw_m4 177 rfl
theorem q992 : (Jvm.Cond.instanceMethod ({ cls := "WheelLand$Reader", name := "isWord", desc := "(Ljava/lang/String;)Z" } : Jvm.MethodName)) ∈ lw_all := lw_g (lw_at lw_m4 178 rfl) rfl
theorem q993 : (Jvm.Cond.code ({ cls := "WheelLand$Reader", name := "isWord", desc := "(Ljava/lang/String;)Z" } : Jvm.MethodName) prog_9_method_9_code (2 : Nat) (Option.some Jvm.ClassFile.FieldType.boolean)) ∈ lw_all := lw_g (lw_at lw_m4 179 rfl) rfl
theorem q994 : (Jvm.Cond.stringRef "WheelLand$Reader" (148 : Nat) "and ") ∈ lw_tbl := lw_at lw_m4 180 rfl
theorem q995 : (Jvm.Cond.stringRef "WheelLand$Reader" (139 : Nat) "or ") ∈ lw_tbl := lw_at lw_m4 181 rfl
theorem q996 : (Jvm.Cond.classLink "WheelLand$Reader" (104 : Nat) "WheelLand$Steps") ∈ lw_all := lw_g (lw_at lw_m4 182 rfl) rfl
theorem q998 : (Jvm.Cond.methodLink "WheelLand$Reader" (106 : Nat) ({ cls := "WheelLand$Steps", name := "<init>", desc := "(I)V" } : Jvm.MethodName)) ∈ lw_all := lw_g (lw_at lw_m4 184 rfl) rfl
theorem q1003 : (Jvm.Cond.fieldLinkNest "WheelLand$Reader" (107 : Nat) "WheelLand$Steps" "what" "[B" "WheelLand") ∈ lw_tbl := lw_at lw_m4 189 rfl
theorem q1005 : (Jvm.Cond.fieldLinkNest "WheelLand$Reader" (114 : Nat) "WheelLand$Steps" "with" "[I" "WheelLand") ∈ lw_tbl := lw_at lw_m4 191 rfl
theorem q1011 : (Jvm.Cond.methodLink "WheelLand$Reader" (108 : Nat) ({ cls := "java/lang/System", name := "arraycopy", desc := "(Ljava/lang/Object;ILjava/lang/Object;II)V" } : Jvm.MethodName)) ∈ lw_all := lw_g (lw_at lw_m4 197 rfl) rfl
theorem in_X1 : ∀ w ∈ wsX10, w ∈ lw_all := lw_in wsX10 [150, 152, 154, 156, 158, 160, 162, 164] (by decide +kernel) (by decide +kernel)
/-! WheelLand$Sheet -/
set_option maxRecDepth 100000
def RX10 : String := "WheelLand$Sheet"
def TX10 : u_T := fun k => match k with
  | _ => ("WheelLand$Sheet", "clauses", "[LWheelLand$Steps;", true)
def tyX10 : Nat → FieldType := fun k => match k with
  | _ => .array (.object "WheelLand$Steps")
abbrev wsX100 : List Cond := u_ws RX10 TX10 1
theorem nmX10 : ∀ a, a < 1 → ∀ b, b < 1 → a ≠ b → (TX10 a).2.1 ≠ (TX10 b).2.1 := by decide +kernel
theorem tyX10_ok : ∀ k, k < 1 → parseFieldDescriptor (TX10 k).2.2.1 = some (tyX10 k) := by decide +kernel
abbrev cX10_init : ByteArray := prog_10_method_1_code
def yX10_init : MethodName := ⟨RX10, "<init>", "()V"⟩
def dkwX10_init_0 : List UInt8 := [42, 183, 0, 3, 42, 8, 189, 0, 9, 181, 0, 11, 177]
abbrev dktX10_init_0 : List UInt8 := dkwX10_init_0 ++ []
theorem dksX10_init_0 : cX10_init.data.toList.drop 0 = dktX10_init_0 := by decide +kernel
theorem dX10_init_0 : decode cX10_init 0 = .ok (.aload_n 0, 1) := dk_42 (dk_at dksX10_init_0 0 rfl rfl)
theorem dX10_init_1 : decode cX10_init 1 = .ok (.invokespecial 3, 3) := dk_183 0 3 (dk_at dksX10_init_0 1 rfl rfl)
theorem dX10_init_4 : decode cX10_init 4 = .ok (.aload_n 0, 1) := dk_42 (dk_at dksX10_init_0 4 rfl rfl)
theorem dX10_init_5 : decode cX10_init 5 = .ok (.iconst 5, 1) := dk_8 (dk_at dksX10_init_0 5 rfl rfl)
theorem dX10_init_6 : decode cX10_init 6 = .ok (.anewarray 9, 3) := dk_189 0 9 (dk_at dksX10_init_0 6 rfl rfl)
theorem dX10_init_9 : decode cX10_init 9 = .ok (.putfield 11, 3) := dk_181 0 11 (dk_at dksX10_init_0 9 rfl rfl)
theorem dX10_init_12 : decode cX10_init 12 = .ok (.return_, 1) := dk_177 (dk_at dksX10_init_0 12 rfl rfl)
theorem q106 : (Jvm.Cond.initialized "WheelLand$Sheet") ∈ lw_all := lw_g (lw_at lw_m1 12 rfl) rfl
theorem q737 : (Jvm.Cond.instantiable "WheelLand$Sheet" (1 : Nat)) ∈ lw_all := lw_g (lw_at lw_m3 163 rfl) rfl
theorem q739 : (Jvm.Cond.instanceMethod ({ cls := "WheelLand$Sheet", name := "<init>", desc := "()V" } : Jvm.MethodName)) ∈ lw_all := lw_g (lw_at lw_m3 165 rfl) rfl
theorem q740 : (Jvm.Cond.code ({ cls := "WheelLand$Sheet", name := "<init>", desc := "()V" } : Jvm.MethodName) prog_10_method_1_code (1 : Nat) (Option.none : Option Jvm.ClassFile.FieldType)) ∈ lw_all := lw_g (lw_at lw_m3 166 rfl) rfl
theorem q741 : (Jvm.Cond.methodLink "WheelLand$Sheet" (3 : Nat) ({ cls := "java/lang/Object", name := "<init>", desc := "()V" } : Jvm.MethodName)) ∈ lw_all := lw_g (lw_at lw_m3 167 rfl) rfl
theorem q742 : (Jvm.Cond.classLink "WheelLand$Sheet" (9 : Nat) "WheelLand$Steps") ∈ lw_all := lw_g (lw_at lw_m3 168 rfl) rfl
theorem q744 : (Jvm.Cond.fieldLink "WheelLand$Sheet" (11 : Nat) "WheelLand$Sheet" "clauses" "[LWheelLand$Steps;") ∈ lw_all := lw_g (lw_at lw_m3 170 rfl) rfl
theorem q747 : (Jvm.Cond.laysFinal "WheelLand$Sheet" "WheelLand$Sheet" "clauses" "[LWheelLand$Steps;") ∈ lw_all := lw_g (lw_at lw_m3 173 rfl) rfl
theorem q748 : (Jvm.Cond.soleField "WheelLand$Sheet" "clauses") ∈ lw_all := lw_g (lw_at lw_m3 174 rfl) rfl
theorem q749 : (Jvm.Cond.superclass "WheelLand$Sheet" "java/lang/Object") ∈ lw_all := lw_g (lw_at lw_m3 175 rfl) rfl
theorem in_X10 : ∀ w ∈ wsX100, w ∈ lw_all := lw_in wsX100 [747] (by decide +kernel) (by decide +kernel)
/-! WheelLand$Fault -/
set_option maxRecDepth 100000
def RX11 : String := "WheelLand$Fault"
def TX11 : u_T := fun k => match k with
  | 0 => ("java/lang/Throwable", "cause", "Ljava/lang/Throwable;", false)
  | 1 => ("java/lang/Throwable", "stackTrace", "[Ljava/lang/StackTraceElement;", false)
  | 2 => ("java/lang/Throwable", "suppressedExceptions", "Ljava/util/List;", false)
  | 3 => ("java/lang/Throwable", "detailMessage", "Ljava/lang/String;", false)
  | 4 => ("java/lang/Throwable", "backtrace", "Ljava/lang/Object;", false)
  | 5 => ("java/lang/Throwable", "depth", "I", false)
  | _ => ("WheelLand$Fault", "place", "I", true)
def tyX11 : Nat → FieldType := fun k => match k with
  | 0 => .object "java/lang/Throwable"
  | 1 => .array (.object "java/lang/StackTraceElement")
  | 2 => .object "java/util/List"
  | 3 => .object "java/lang/String"
  | 4 => .object "java/lang/Object"
  | 5 => .int
  | _ => .int
abbrev wsX110 : List Cond := u_ws RX11 TX11 7
theorem nmX11 : ∀ a, a < 7 → ∀ b, b < 7 → a ≠ b → (TX11 a).2.1 ≠ (TX11 b).2.1 := by decide +kernel
theorem tyX11_ok : ∀ k, k < 7 → parseFieldDescriptor (TX11 k).2.2.1 = some (tyX11 k) := by decide +kernel
abbrev cX11_init : ByteArray := prog_3_method_1_code
def yX11_init : MethodName := ⟨RX11, "<init>", "(I)V"⟩
def dkwX11_init_0 : List UInt8 := [42, 1, 1, 3, 3, 183, 0, 1, 42, 27, 181, 0, 7, 177]
abbrev dktX11_init_0 : List UInt8 := dkwX11_init_0 ++ []
theorem dksX11_init_0 : cX11_init.data.toList.drop 0 = dktX11_init_0 := by decide +kernel
theorem dX11_init_0 : decode cX11_init 0 = .ok (.aload_n 0, 1) := dk_42 (dk_at dksX11_init_0 0 rfl rfl)
theorem dX11_init_1 : decode cX11_init 1 = .ok (.aconst_null, 1) := dk_1 (dk_at dksX11_init_0 1 rfl rfl)
theorem dX11_init_2 : decode cX11_init 2 = .ok (.aconst_null, 1) := dk_1 (dk_at dksX11_init_0 2 rfl rfl)
theorem dX11_init_3 : decode cX11_init 3 = .ok (.iconst 0, 1) := dk_3 (dk_at dksX11_init_0 3 rfl rfl)
theorem dX11_init_4 : decode cX11_init 4 = .ok (.iconst 0, 1) := dk_3 (dk_at dksX11_init_0 4 rfl rfl)
theorem dX11_init_5 : decode cX11_init 5 = .ok (.invokespecial 1, 3) := dk_183 0 1 (dk_at dksX11_init_0 5 rfl rfl)
theorem dX11_init_8 : decode cX11_init 8 = .ok (.aload_n 0, 1) := dk_42 (dk_at dksX11_init_0 8 rfl rfl)
theorem dX11_init_9 : decode cX11_init 9 = .ok (.iload_n 1, 1) := dk_27 (dk_at dksX11_init_0 9 rfl rfl)
theorem dX11_init_10 : decode cX11_init 10 = .ok (.putfield 7, 3) := dk_181 0 7 (dk_at dksX11_init_0 10 rfl rfl)
theorem dX11_init_13 : decode cX11_init 13 = .ok (.return_, 1) := dk_177 (dk_at dksX11_init_0 13 rfl rfl)
theorem q115 : (Jvm.Cond.initialized "WheelLand$Fault") ∈ lw_all := lw_g (lw_at lw_m1 21 rfl) rfl
theorem q848 : (Jvm.Cond.instantiable "WheelLand$Fault" (7 : Nat)) ∈ lw_all := lw_g (lw_at lw_m4 34 rfl) rfl
theorem q849 : (Jvm.Cond.castable "WheelLand$Fault" "WheelLand$Fault") ∈ lw_tbl := lw_at lw_m4 35 rfl
theorem q856 : (Jvm.Cond.selects "WheelLand$Fault" ({ cls := "java/lang/Throwable", name := "fillInStackTrace", desc := "(I)Ljava/lang/Throwable;" } : Jvm.MethodName) ({ cls := "java/lang/Throwable", name := "fillInStackTrace", desc := "(I)Ljava/lang/Throwable;" } : Jvm.MethodName)) ∈ lw_all := lw_g (lw_at lw_m4 42 rfl) rfl
theorem q857 : (Jvm.Cond.selects "WheelLand$Fault" ({ cls := "java/lang/Throwable", name := "fillInStackTrace", desc := "()Ljava/lang/Throwable;" } : Jvm.MethodName) ({ cls := "java/lang/Throwable", name := "fillInStackTrace", desc := "()Ljava/lang/Throwable;" } : Jvm.MethodName)) ∈ lw_all := lw_g (lw_at lw_m4 43 rfl) rfl
theorem q858 : (Jvm.Cond.lays "WheelLand$Fault" "java/lang/Throwable" "cause" "Ljava/lang/Throwable;") ∈ lw_all := lw_g (lw_at lw_m4 44 rfl) rfl
theorem q860 : (Jvm.Cond.lays "WheelLand$Fault" "java/lang/Throwable" "stackTrace" "[Ljava/lang/StackTraceElement;") ∈ lw_all := lw_g (lw_at lw_m4 46 rfl) rfl
theorem q862 : (Jvm.Cond.lays "WheelLand$Fault" "java/lang/Throwable" "suppressedExceptions" "Ljava/util/List;") ∈ lw_all := lw_g (lw_at lw_m4 48 rfl) rfl
theorem q864 : (Jvm.Cond.lays "WheelLand$Fault" "java/lang/Throwable" "detailMessage" "Ljava/lang/String;") ∈ lw_all := lw_g (lw_at lw_m4 50 rfl) rfl
theorem q866 : (Jvm.Cond.lays "WheelLand$Fault" "java/lang/Throwable" "backtrace" "Ljava/lang/Object;") ∈ lw_all := lw_g (lw_at lw_m4 52 rfl) rfl
theorem q887 : (Jvm.Cond.instanceMethod ({ cls := "WheelLand$Fault", name := "<init>", desc := "(I)V" } : Jvm.MethodName)) ∈ lw_all := lw_g (lw_at lw_m4 73 rfl) rfl
theorem q888 : (Jvm.Cond.code ({ cls := "WheelLand$Fault", name := "<init>", desc := "(I)V" } : Jvm.MethodName) prog_3_method_1_code (2 : Nat) (Option.none : Option Jvm.ClassFile.FieldType)) ∈ lw_all := lw_g (lw_at lw_m4 74 rfl) rfl
theorem q889 : (Jvm.Cond.methodLink "WheelLand$Fault" (1 : Nat) ({ cls := "java/lang/RuntimeException", name := "<init>", desc := "(Ljava/lang/String;Ljava/lang/Throwable;ZZ)V" } : Jvm.MethodName)) ∈ lw_all := lw_g (lw_at lw_m4 75 rfl) rfl
theorem q898 : (Jvm.Cond.fieldLink "WheelLand$Fault" (7 : Nat) "WheelLand$Fault" "place" "I") ∈ lw_all := lw_g (lw_at lw_m4 84 rfl) rfl
theorem q905 : (Jvm.Cond.laysFinal "WheelLand$Fault" "WheelLand$Fault" "place" "I") ∈ lw_all := lw_g (lw_at lw_m4 91 rfl) rfl
theorem q906 : (Jvm.Cond.soleField "WheelLand$Fault" "place") ∈ lw_all := lw_g (lw_at lw_m4 92 rfl) rfl
theorem q911 : (Jvm.Cond.lays "WheelLand$Fault" "java/lang/Throwable" "depth" "I") ∈ lw_all := lw_g (lw_at lw_m4 97 rfl) rfl
theorem q914 : (Jvm.Cond.superclass "WheelLand$Fault" "java/lang/RuntimeException") ∈ lw_all := lw_g (lw_at lw_m4 100 rfl) rfl
theorem in_X11 : ∀ w ∈ wsX110, w ∈ lw_all := lw_in wsX110 [858, 860, 862, 864, 866, 911, 905] (by decide +kernel) (by decide +kernel)
/-! WheelLand$Cloth -/
set_option maxRecDepth 100000
def RX12 : String := "WheelLand$Cloth"
def TX12 : u_T := fun k => match k with
  | 0 => ("WheelLand$Hanks", "house", "LWheelLand$House;", true)
  | 1 => ("WheelLand$Hanks", "week", "I", true)
  | 2 => ("WheelLand$Cloth", "lot", "LWheelLand$Lot;", true)
  | 3 => ("WheelLand$Cloth", "yards", "I", true)
  | 4 => ("WheelLand$Cloth", "isStamped", "Z", true)
  | _ => ("WheelLand$Cloth", "store", "LWheelLand$Village;", false)
def tyX12 : Nat → FieldType := fun k => match k with
  | 0 => .object "WheelLand$House"
  | 1 => .int
  | 2 => .object "WheelLand$Lot"
  | 3 => .int
  | 4 => .boolean
  | _ => .object "WheelLand$Village"
abbrev wsX120 : List Cond := u_ws RX12 TX12 6
theorem nmX12 : ∀ a, a < 6 → ∀ b, b < 6 → a ≠ b → (TX12 a).2.1 ≠ (TX12 b).2.1 := by decide +kernel
theorem tyX12_ok : ∀ k, k < 6 → parseFieldDescriptor (TX12 k).2.2.1 = some (tyX12 k) := by decide +kernel
abbrev cX12_init : ByteArray := prog_2_method_1_code
def yX12_init : MethodName := ⟨RX12, "<init>", "(LWheelLand$Lot;LWheelLand$House;IIZ)V"⟩
def dkwX12_init_1 : List UInt8 := [181, 0, 17, 177]
abbrev dktX12_init_1 : List UInt8 := dkwX12_init_1 ++ []
def dkwX12_init_0 : List UInt8 := [42, 44, 29, 183, 0, 1, 42, 43, 181, 0, 7, 42, 21, 5, 181, 0, 13, 42, 21, 4, 5, 108]
abbrev dktX12_init_0 : List UInt8 := dkwX12_init_0 ++ dktX12_init_1
theorem dksX12_init_0 : cX12_init.data.toList.drop 0 = dktX12_init_0 := by decide +kernel
theorem dksX12_init_1 : cX12_init.data.toList.drop 22 = dktX12_init_1 := dk_seg dksX12_init_0 22 rfl rfl
theorem dX12_init_0 : decode cX12_init 0 = .ok (.aload_n 0, 1) := dk_42 (dk_at dksX12_init_0 0 rfl rfl)
theorem dX12_init_1 : decode cX12_init 1 = .ok (.aload_n 2, 1) := dk_44 (dk_at dksX12_init_0 1 rfl rfl)
theorem dX12_init_2 : decode cX12_init 2 = .ok (.iload_n 3, 1) := dk_29 (dk_at dksX12_init_0 2 rfl rfl)
theorem dX12_init_3 : decode cX12_init 3 = .ok (.invokespecial 1, 3) := dk_183 0 1 (dk_at dksX12_init_0 3 rfl rfl)
theorem dX12_init_6 : decode cX12_init 6 = .ok (.aload_n 0, 1) := dk_42 (dk_at dksX12_init_0 6 rfl rfl)
theorem dX12_init_7 : decode cX12_init 7 = .ok (.aload_n 1, 1) := dk_43 (dk_at dksX12_init_0 7 rfl rfl)
theorem dX12_init_8 : decode cX12_init 8 = .ok (.putfield 7, 3) := dk_181 0 7 (dk_at dksX12_init_0 8 rfl rfl)
theorem dX12_init_11 : decode cX12_init 11 = .ok (.aload_n 0, 1) := dk_42 (dk_at dksX12_init_0 11 rfl rfl)
theorem dX12_init_12 : decode cX12_init 12 = .ok (.iload 5, 2) := dk_21 5 (dk_at dksX12_init_0 12 rfl rfl)
theorem dX12_init_14 : decode cX12_init 14 = .ok (.putfield 13, 3) := dk_181 0 13 (dk_at dksX12_init_0 14 rfl rfl)
theorem dX12_init_17 : decode cX12_init 17 = .ok (.aload_n 0, 1) := dk_42 (dk_at dksX12_init_0 17 rfl rfl)
theorem dX12_init_18 : decode cX12_init 18 = .ok (.iload 4, 2) := dk_21 4 (dk_at dksX12_init_0 18 rfl rfl)
theorem dX12_init_20 : decode cX12_init 20 = .ok (.iconst 2, 1) := dk_5 (dk_at dksX12_init_0 20 rfl rfl)
theorem dX12_init_21 : decode cX12_init 21 = .ok (.idiv, 1) := dk_108 (dk_at dksX12_init_0 21 rfl rfl)
theorem dX12_init_22 : decode cX12_init 22 = .ok (.putfield 17, 3) := dk_181 0 17 (dk_at dksX12_init_1 0 rfl rfl)
theorem dX12_init_25 : decode cX12_init 25 = .ok (.return_, 1) := dk_177 (dk_at dksX12_init_1 3 rfl rfl)
theorem q117 : (Jvm.Cond.initialized "WheelLand$Cloth") ∈ lw_all := lw_g (lw_at lw_m1 23 rfl) rfl
theorem q601 : (Jvm.Cond.sameField "WheelLand$Cloth" "WheelLand$Hanks" "house" "LWheelLand$House;") ∈ lw_all := lw_g (lw_at lw_m3 27 rfl) rfl
theorem q606 : (Jvm.Cond.sameField "WheelLand$Cloth" "WheelLand$Hanks" "week" "I") ∈ lw_all := lw_g (lw_at lw_m3 32 rfl) rfl
theorem q1062 : (Jvm.Cond.instantiable "WheelLand$Cloth" (6 : Nat)) ∈ lw_all := lw_g (lw_at lw_m5 8 rfl) rfl
theorem q1064 : (Jvm.Cond.instanceMethod ({ cls := "WheelLand$Cloth", name := "<init>", desc := "(LWheelLand$Lot;LWheelLand$House;IIZ)V" } : Jvm.MethodName)) ∈ lw_all := lw_g (lw_at lw_m5 10 rfl) rfl
theorem q1065 : (Jvm.Cond.code ({ cls := "WheelLand$Cloth", name := "<init>", desc := "(LWheelLand$Lot;LWheelLand$House;IIZ)V" } : Jvm.MethodName) prog_2_method_1_code (6 : Nat) (Option.none : Option Jvm.ClassFile.FieldType)) ∈ lw_all := lw_g (lw_at lw_m5 11 rfl) rfl
theorem q1066 : (Jvm.Cond.methodLink "WheelLand$Cloth" (1 : Nat) ({ cls := "WheelLand$Hanks", name := "<init>", desc := "(LWheelLand$House;I)V" } : Jvm.MethodName)) ∈ lw_all := lw_g (lw_at lw_m5 12 rfl) rfl
theorem q1067 : (Jvm.Cond.fieldLink "WheelLand$Cloth" (7 : Nat) "WheelLand$Cloth" "lot" "LWheelLand$Lot;") ∈ lw_all := lw_g (lw_at lw_m5 13 rfl) rfl
theorem q1069 : (Jvm.Cond.fieldLink "WheelLand$Cloth" (17 : Nat) "WheelLand$Cloth" "yards" "I") ∈ lw_all := lw_g (lw_at lw_m5 15 rfl) rfl
theorem q1071 : (Jvm.Cond.fieldLink "WheelLand$Cloth" (13 : Nat) "WheelLand$Cloth" "isStamped" "Z") ∈ lw_all := lw_g (lw_at lw_m5 17 rfl) rfl
theorem q1074 : (Jvm.Cond.laysFinal "WheelLand$Cloth" "WheelLand$Cloth" "lot" "LWheelLand$Lot;") ∈ lw_all := lw_g (lw_at lw_m5 20 rfl) rfl
theorem q1075 : (Jvm.Cond.soleField "WheelLand$Cloth" "lot") ∈ lw_all := lw_g (lw_at lw_m5 21 rfl) rfl
theorem q1076 : (Jvm.Cond.laysFinal "WheelLand$Cloth" "WheelLand$Cloth" "yards" "I") ∈ lw_all := lw_g (lw_at lw_m5 22 rfl) rfl
theorem q1077 : (Jvm.Cond.soleField "WheelLand$Cloth" "yards") ∈ lw_all := lw_g (lw_at lw_m5 23 rfl) rfl
theorem q1078 : (Jvm.Cond.laysFinal "WheelLand$Cloth" "WheelLand$Cloth" "isStamped" "Z") ∈ lw_all := lw_g (lw_at lw_m5 24 rfl) rfl
theorem q1079 : (Jvm.Cond.soleField "WheelLand$Cloth" "isStamped") ∈ lw_all := lw_g (lw_at lw_m5 25 rfl) rfl
theorem q1080 : (Jvm.Cond.lays "WheelLand$Cloth" "WheelLand$Cloth" "store" "LWheelLand$Village;") ∈ lw_all := lw_g (lw_at lw_m5 26 rfl) rfl
theorem q1081 : (Jvm.Cond.soleField "WheelLand$Cloth" "store") ∈ lw_all := lw_g (lw_at lw_m5 27 rfl) rfl
theorem q1082 : (Jvm.Cond.laysFinal "WheelLand$Cloth" "WheelLand$Hanks" "house" "LWheelLand$House;") ∈ lw_all := lw_g (lw_at lw_m5 28 rfl) rfl
theorem q1083 : (Jvm.Cond.laysFinal "WheelLand$Cloth" "WheelLand$Hanks" "week" "I") ∈ lw_all := lw_g (lw_at lw_m5 29 rfl) rfl
theorem q1084 : (Jvm.Cond.superclass "WheelLand$Cloth" "WheelLand$Hanks") ∈ lw_all := lw_g (lw_at lw_m5 30 rfl) rfl
theorem in_X12 : ∀ w ∈ wsX120, w ∈ lw_all := lw_in wsX120 [1082, 1083, 1074, 1076, 1078, 1080] (by decide +kernel) (by decide +kernel)
/-! WheelLand$Hands -/
set_option maxRecDepth 100000
def RX2 : String := "WheelLand$Hands"
def TX2 : u_T := fun k => match k with
  | 0 => ("WheelLand$Hands", "asked", "[LWheelLand$Lot;", true)
  | 1 => ("WheelLand$Hands", "looms", "[LWheelLand$House;", true)
  | 2 => ("WheelLand$Hands", "way", "[I", true)
  | 3 => ("WheelLand$Hands", "best", "[I", true)
  | 4 => ("WheelLand$Hands", "gets", "[I", true)
  | 5 => ("WheelLand$Hands", "lotsTold", "I", false)
  | 6 => ("WheelLand$Hands", "loomMany", "I", false)
  | 7 => ("WheelLand$Hands", "most", "I", false)
  | 8 => ("WheelLand$Hands", "days", "I", false)
  | 9 => ("WheelLand$Hands", "weeks", "I", false)
  | _ => ("WheelLand$Hands", "this$0", "LWheelLand;", true)
def tyX2 : Nat → FieldType := fun k => match k with
  | 0 => .array (.object "WheelLand$Lot")
  | 1 => .array (.object "WheelLand$House")
  | 2 => .array .int
  | 3 => .array .int
  | 4 => .array .int
  | 5 => .int
  | 6 => .int
  | 7 => .int
  | 8 => .int
  | 9 => .int
  | _ => .object "WheelLand"
abbrev wsX20 : List Cond := u_ws RX2 TX2 11
theorem nmX2 : ∀ a, a < 11 → ∀ b, b < 11 → a ≠ b → (TX2 a).2.1 ≠ (TX2 b).2.1 := by decide +kernel
theorem tyX2_ok : ∀ k, k < 11 → parseFieldDescriptor (TX2 k).2.2.1 = some (tyX2 k) := by decide +kernel
abbrev cX2_init : ByteArray := prog_4_method_1_code
def yX2_init : MethodName := ⟨RX2, "<init>", "(LWheelLand;)V"⟩
def dkwX2_init_2 : List UInt8 := [181, 0, 34, 177]
abbrev dktX2_init_2 : List UInt8 := dkwX2_init_2 ++ []
def dkwX2_init_1 : List UInt8 := [181, 0, 23, 42, 16, 6, 188, 10, 181, 0, 27, 42, 16, 6, 188, 10, 181, 0, 31, 42, 16, 6, 188, 10]
abbrev dktX2_init_1 : List UInt8 := dkwX2_init_1 ++ dktX2_init_2
def dkwX2_init_0 : List UInt8 := [42, 43, 181, 0, 3, 42, 183, 0, 9, 42, 16, 6, 189, 0, 15, 181, 0, 17, 42, 16, 6, 189, 0, 21]
abbrev dktX2_init_0 : List UInt8 := dkwX2_init_0 ++ dktX2_init_1
theorem dksX2_init_0 : cX2_init.data.toList.drop 0 = dktX2_init_0 := by decide +kernel
theorem dksX2_init_1 : cX2_init.data.toList.drop 24 = dktX2_init_1 := dk_seg dksX2_init_0 24 rfl rfl
theorem dksX2_init_2 : cX2_init.data.toList.drop 48 = dktX2_init_2 := dk_seg dksX2_init_1 24 rfl rfl
theorem dX2_init_0 : decode cX2_init 0 = .ok (.aload_n 0, 1) := dk_42 (dk_at dksX2_init_0 0 rfl rfl)
theorem dX2_init_1 : decode cX2_init 1 = .ok (.aload_n 1, 1) := dk_43 (dk_at dksX2_init_0 1 rfl rfl)
theorem dX2_init_2 : decode cX2_init 2 = .ok (.putfield 3, 3) := dk_181 0 3 (dk_at dksX2_init_0 2 rfl rfl)
theorem dX2_init_5 : decode cX2_init 5 = .ok (.aload_n 0, 1) := dk_42 (dk_at dksX2_init_0 5 rfl rfl)
theorem dX2_init_6 : decode cX2_init 6 = .ok (.invokespecial 9, 3) := dk_183 0 9 (dk_at dksX2_init_0 6 rfl rfl)
theorem dX2_init_9 : decode cX2_init 9 = .ok (.aload_n 0, 1) := dk_42 (dk_at dksX2_init_0 9 rfl rfl)
theorem dX2_init_10 : decode cX2_init 10 = .ok (.bipush 6, 2) := dk_16 6 (dk_at dksX2_init_0 10 rfl rfl)
theorem dX2_init_12 : decode cX2_init 12 = .ok (.anewarray 15, 3) := dk_189 0 15 (dk_at dksX2_init_0 12 rfl rfl)
theorem dX2_init_15 : decode cX2_init 15 = .ok (.putfield 17, 3) := dk_181 0 17 (dk_at dksX2_init_0 15 rfl rfl)
theorem dX2_init_18 : decode cX2_init 18 = .ok (.aload_n 0, 1) := dk_42 (dk_at dksX2_init_0 18 rfl rfl)
theorem dX2_init_19 : decode cX2_init 19 = .ok (.bipush 6, 2) := dk_16 6 (dk_at dksX2_init_0 19 rfl rfl)
theorem dX2_init_21 : decode cX2_init 21 = .ok (.anewarray 21, 3) := dk_189 0 21 (dk_at dksX2_init_0 21 rfl rfl)
theorem dX2_init_24 : decode cX2_init 24 = .ok (.putfield 23, 3) := dk_181 0 23 (dk_at dksX2_init_1 0 rfl rfl)
theorem dX2_init_27 : decode cX2_init 27 = .ok (.aload_n 0, 1) := dk_42 (dk_at dksX2_init_1 3 rfl rfl)
theorem dX2_init_28 : decode cX2_init 28 = .ok (.bipush 6, 2) := dk_16 6 (dk_at dksX2_init_1 4 rfl rfl)
theorem dX2_init_30 : decode cX2_init 30 = .ok (.newarray .int, 2) := dk_188_10 (dk_at dksX2_init_1 6 rfl rfl)
theorem dX2_init_32 : decode cX2_init 32 = .ok (.putfield 27, 3) := dk_181 0 27 (dk_at dksX2_init_1 8 rfl rfl)
theorem dX2_init_35 : decode cX2_init 35 = .ok (.aload_n 0, 1) := dk_42 (dk_at dksX2_init_1 11 rfl rfl)
theorem dX2_init_36 : decode cX2_init 36 = .ok (.bipush 6, 2) := dk_16 6 (dk_at dksX2_init_1 12 rfl rfl)
theorem dX2_init_38 : decode cX2_init 38 = .ok (.newarray .int, 2) := dk_188_10 (dk_at dksX2_init_1 14 rfl rfl)
theorem dX2_init_40 : decode cX2_init 40 = .ok (.putfield 31, 3) := dk_181 0 31 (dk_at dksX2_init_1 16 rfl rfl)
theorem dX2_init_43 : decode cX2_init 43 = .ok (.aload_n 0, 1) := dk_42 (dk_at dksX2_init_1 19 rfl rfl)
theorem dX2_init_44 : decode cX2_init 44 = .ok (.bipush 6, 2) := dk_16 6 (dk_at dksX2_init_1 20 rfl rfl)
theorem dX2_init_46 : decode cX2_init 46 = .ok (.newarray .int, 2) := dk_188_10 (dk_at dksX2_init_1 22 rfl rfl)
theorem dX2_init_48 : decode cX2_init 48 = .ok (.putfield 34, 3) := dk_181 0 34 (dk_at dksX2_init_2 0 rfl rfl)
theorem dX2_init_51 : decode cX2_init 51 = .ok (.return_, 1) := dk_177 (dk_at dksX2_init_2 3 rfl rfl)
abbrev cX2_asks : ByteArray := prog_4_method_2_code
def yX2_asks : MethodName := ⟨RX2, "asks", "(I)Z"⟩
def dkwX2_asks_5 : List UInt8 := [132, 2, 1, 167, 255, 240, 42, 3, 3, 3, 182, 0, 54, 4, 172]
abbrev dktX2_asks_5 : List UInt8 := dkwX2_asks_5 ++ []
def dkwX2_asks_4 : List UInt8 := [167, 255, 186, 42, 2, 181, 0, 51, 3, 61, 28, 16, 6, 162, 0, 16, 42, 180, 0, 34, 28, 3, 79]
abbrev dktX2_asks_4 : List UInt8 := dkwX2_asks_4 ++ dktX2_asks_5
def dkwX2_asks_3 : List UInt8 := [180, 0, 3, 180, 0, 48, 28, 50, 83, 42, 89, 180, 0, 37, 4, 96, 181, 0, 37, 132, 2, 1]
abbrev dktX2_asks_3 : List UInt8 := dkwX2_asks_3 ++ dktX2_asks_4
def dkwX2_asks_2 : List UInt8 := [198, 0, 12, 42, 180, 0, 37, 16, 6, 160, 0, 5, 3, 172, 42, 180, 0, 23, 42, 180, 0, 37, 42]
abbrev dktX2_asks_2 : List UInt8 := dkwX2_asks_2 ++ dktX2_asks_3
def dkwX2_asks_1 : List UInt8 := [162, 0, 70, 27, 28, 122, 4, 126, 154, 0, 6, 167, 0, 53, 42, 180, 0, 3, 28, 182, 0, 44]
abbrev dktX2_asks_1 : List UInt8 := dkwX2_asks_1 ++ dktX2_asks_2
def dkwX2_asks_0 : List UInt8 := [42, 3, 181, 0, 37, 27, 158, 0, 10, 42, 180, 0, 41, 154, 0, 5, 3, 172, 3, 61, 28, 16, 31]
abbrev dktX2_asks_0 : List UInt8 := dkwX2_asks_0 ++ dktX2_asks_1
theorem dksX2_asks_0 : cX2_asks.data.toList.drop 0 = dktX2_asks_0 := by decide +kernel
theorem dksX2_asks_1 : cX2_asks.data.toList.drop 23 = dktX2_asks_1 := dk_seg dksX2_asks_0 23 rfl rfl
theorem dksX2_asks_2 : cX2_asks.data.toList.drop 45 = dktX2_asks_2 := dk_seg dksX2_asks_1 22 rfl rfl
theorem dksX2_asks_3 : cX2_asks.data.toList.drop 68 = dktX2_asks_3 := dk_seg dksX2_asks_2 23 rfl rfl
theorem dksX2_asks_4 : cX2_asks.data.toList.drop 90 = dktX2_asks_4 := dk_seg dksX2_asks_3 22 rfl rfl
theorem dksX2_asks_5 : cX2_asks.data.toList.drop 113 = dktX2_asks_5 := dk_seg dksX2_asks_4 23 rfl rfl
theorem dX2_asks_0 : decode cX2_asks 0 = .ok (.aload_n 0, 1) := dk_42 (dk_at dksX2_asks_0 0 rfl rfl)
theorem dX2_asks_1 : decode cX2_asks 1 = .ok (.iconst 0, 1) := dk_3 (dk_at dksX2_asks_0 1 rfl rfl)
theorem dX2_asks_2 : decode cX2_asks 2 = .ok (.putfield 37, 3) := dk_181 0 37 (dk_at dksX2_asks_0 2 rfl rfl)
theorem dX2_asks_5 : decode cX2_asks 5 = .ok (.iload_n 1, 1) := dk_27 (dk_at dksX2_asks_0 5 rfl rfl)
theorem dX2_asks_6 : decode cX2_asks 6 = .ok (.ifCond .le 10, 3) := dk_158 0 10 (dk_at dksX2_asks_0 6 rfl rfl)
theorem dX2_asks_9 : decode cX2_asks 9 = .ok (.aload_n 0, 1) := dk_42 (dk_at dksX2_asks_0 9 rfl rfl)
theorem dX2_asks_10 : decode cX2_asks 10 = .ok (.getfield 41, 3) := dk_180 0 41 (dk_at dksX2_asks_0 10 rfl rfl)
theorem dX2_asks_13 : decode cX2_asks 13 = .ok (.ifCond .ne 5, 3) := dk_154 0 5 (dk_at dksX2_asks_0 13 rfl rfl)
theorem dX2_asks_16 : decode cX2_asks 16 = .ok (.iconst 0, 1) := dk_3 (dk_at dksX2_asks_0 16 rfl rfl)
theorem dX2_asks_17 : decode cX2_asks 17 = .ok (.ireturn, 1) := dk_172 (dk_at dksX2_asks_0 17 rfl rfl)
theorem dX2_asks_18 : decode cX2_asks 18 = .ok (.iconst 0, 1) := dk_3 (dk_at dksX2_asks_0 18 rfl rfl)
theorem dX2_asks_19 : decode cX2_asks 19 = .ok (.istore_n 2, 1) := dk_61 (dk_at dksX2_asks_0 19 rfl rfl)
theorem dX2_asks_20 : decode cX2_asks 20 = .ok (.iload_n 2, 1) := dk_28 (dk_at dksX2_asks_0 20 rfl rfl)
theorem dX2_asks_21 : decode cX2_asks 21 = .ok (.bipush 31, 2) := dk_16 31 (dk_at dksX2_asks_0 21 rfl rfl)
theorem dX2_asks_23 : decode cX2_asks 23 = .ok (.if_icmp .ge 70, 3) := dk_162 0 70 (dk_at dksX2_asks_1 0 rfl rfl)
theorem dX2_asks_26 : decode cX2_asks 26 = .ok (.iload_n 1, 1) := dk_27 (dk_at dksX2_asks_1 3 rfl rfl)
theorem dX2_asks_27 : decode cX2_asks 27 = .ok (.iload_n 2, 1) := dk_28 (dk_at dksX2_asks_1 4 rfl rfl)
theorem dX2_asks_28 : decode cX2_asks 28 = .ok (.ishr, 1) := dk_122 (dk_at dksX2_asks_1 5 rfl rfl)
theorem dX2_asks_29 : decode cX2_asks 29 = .ok (.iconst 1, 1) := dk_4 (dk_at dksX2_asks_1 6 rfl rfl)
theorem dX2_asks_30 : decode cX2_asks 30 = .ok (.iand, 1) := dk_126 (dk_at dksX2_asks_1 7 rfl rfl)
theorem dX2_asks_31 : decode cX2_asks 31 = .ok (.ifCond .ne 6, 3) := dk_154 0 6 (dk_at dksX2_asks_1 8 rfl rfl)
theorem dX2_asks_34 : decode cX2_asks 34 = .ok (.goto 53, 3) := dk_167 0 53 (dk_at dksX2_asks_1 11 rfl rfl)
theorem dX2_asks_37 : decode cX2_asks 37 = .ok (.aload_n 0, 1) := dk_42 (dk_at dksX2_asks_1 14 rfl rfl)
theorem dX2_asks_38 : decode cX2_asks 38 = .ok (.getfield 3, 3) := dk_180 0 3 (dk_at dksX2_asks_1 15 rfl rfl)
theorem dX2_asks_41 : decode cX2_asks 41 = .ok (.iload_n 2, 1) := dk_28 (dk_at dksX2_asks_1 18 rfl rfl)
theorem dX2_asks_42 : decode cX2_asks 42 = .ok (.invokevirtual 44, 3) := dk_182 0 44 (dk_at dksX2_asks_1 19 rfl rfl)
theorem dX2_asks_45 : decode cX2_asks 45 = .ok (.ifnull 12, 3) := dk_198 0 12 (dk_at dksX2_asks_2 0 rfl rfl)
theorem dX2_asks_48 : decode cX2_asks 48 = .ok (.aload_n 0, 1) := dk_42 (dk_at dksX2_asks_2 3 rfl rfl)
theorem dX2_asks_49 : decode cX2_asks 49 = .ok (.getfield 37, 3) := dk_180 0 37 (dk_at dksX2_asks_2 4 rfl rfl)
theorem dX2_asks_52 : decode cX2_asks 52 = .ok (.bipush 6, 2) := dk_16 6 (dk_at dksX2_asks_2 7 rfl rfl)
theorem dX2_asks_54 : decode cX2_asks 54 = .ok (.if_icmp .ne 5, 3) := dk_160 0 5 (dk_at dksX2_asks_2 9 rfl rfl)
theorem dX2_asks_57 : decode cX2_asks 57 = .ok (.iconst 0, 1) := dk_3 (dk_at dksX2_asks_2 12 rfl rfl)
theorem dX2_asks_58 : decode cX2_asks 58 = .ok (.ireturn, 1) := dk_172 (dk_at dksX2_asks_2 13 rfl rfl)
theorem dX2_asks_59 : decode cX2_asks 59 = .ok (.aload_n 0, 1) := dk_42 (dk_at dksX2_asks_2 14 rfl rfl)
theorem dX2_asks_60 : decode cX2_asks 60 = .ok (.getfield 23, 3) := dk_180 0 23 (dk_at dksX2_asks_2 15 rfl rfl)
theorem dX2_asks_63 : decode cX2_asks 63 = .ok (.aload_n 0, 1) := dk_42 (dk_at dksX2_asks_2 18 rfl rfl)
theorem dX2_asks_64 : decode cX2_asks 64 = .ok (.getfield 37, 3) := dk_180 0 37 (dk_at dksX2_asks_2 19 rfl rfl)
theorem dX2_asks_67 : decode cX2_asks 67 = .ok (.aload_n 0, 1) := dk_42 (dk_at dksX2_asks_2 22 rfl rfl)
theorem dX2_asks_68 : decode cX2_asks 68 = .ok (.getfield 3, 3) := dk_180 0 3 (dk_at dksX2_asks_3 0 rfl rfl)
theorem dX2_asks_71 : decode cX2_asks 71 = .ok (.getfield 48, 3) := dk_180 0 48 (dk_at dksX2_asks_3 3 rfl rfl)
theorem dX2_asks_74 : decode cX2_asks 74 = .ok (.iload_n 2, 1) := dk_28 (dk_at dksX2_asks_3 6 rfl rfl)
theorem dX2_asks_75 : decode cX2_asks 75 = .ok (.aaload, 1) := dk_50 (dk_at dksX2_asks_3 7 rfl rfl)
theorem dX2_asks_76 : decode cX2_asks 76 = .ok (.aastore, 1) := dk_83 (dk_at dksX2_asks_3 8 rfl rfl)
theorem dX2_asks_77 : decode cX2_asks 77 = .ok (.aload_n 0, 1) := dk_42 (dk_at dksX2_asks_3 9 rfl rfl)
theorem dX2_asks_78 : decode cX2_asks 78 = .ok (.dup, 1) := dk_89 (dk_at dksX2_asks_3 10 rfl rfl)
theorem dX2_asks_79 : decode cX2_asks 79 = .ok (.getfield 37, 3) := dk_180 0 37 (dk_at dksX2_asks_3 11 rfl rfl)
theorem dX2_asks_82 : decode cX2_asks 82 = .ok (.iconst 1, 1) := dk_4 (dk_at dksX2_asks_3 14 rfl rfl)
theorem dX2_asks_83 : decode cX2_asks 83 = .ok (.iadd, 1) := dk_96 (dk_at dksX2_asks_3 15 rfl rfl)
theorem dX2_asks_84 : decode cX2_asks 84 = .ok (.putfield 37, 3) := dk_181 0 37 (dk_at dksX2_asks_3 16 rfl rfl)
theorem dX2_asks_87 : decode cX2_asks 87 = .ok (.iinc 2 1, 3) := dk_132 2 1 (dk_at dksX2_asks_3 19 rfl rfl)
theorem dX2_asks_90 : decode cX2_asks 90 = .ok (.goto (-70), 3) := dk_167 255 186 (dk_at dksX2_asks_4 0 rfl rfl)
theorem dX2_asks_93 : decode cX2_asks 93 = .ok (.aload_n 0, 1) := dk_42 (dk_at dksX2_asks_4 3 rfl rfl)
theorem dX2_asks_94 : decode cX2_asks 94 = .ok (.iconst (-1), 1) := dk_2 (dk_at dksX2_asks_4 4 rfl rfl)
theorem dX2_asks_95 : decode cX2_asks 95 = .ok (.putfield 51, 3) := dk_181 0 51 (dk_at dksX2_asks_4 5 rfl rfl)
theorem dX2_asks_98 : decode cX2_asks 98 = .ok (.iconst 0, 1) := dk_3 (dk_at dksX2_asks_4 8 rfl rfl)
theorem dX2_asks_99 : decode cX2_asks 99 = .ok (.istore_n 2, 1) := dk_61 (dk_at dksX2_asks_4 9 rfl rfl)
theorem dX2_asks_100 : decode cX2_asks 100 = .ok (.iload_n 2, 1) := dk_28 (dk_at dksX2_asks_4 10 rfl rfl)
theorem dX2_asks_101 : decode cX2_asks 101 = .ok (.bipush 6, 2) := dk_16 6 (dk_at dksX2_asks_4 11 rfl rfl)
theorem dX2_asks_103 : decode cX2_asks 103 = .ok (.if_icmp .ge 16, 3) := dk_162 0 16 (dk_at dksX2_asks_4 13 rfl rfl)
theorem dX2_asks_106 : decode cX2_asks 106 = .ok (.aload_n 0, 1) := dk_42 (dk_at dksX2_asks_4 16 rfl rfl)
theorem dX2_asks_107 : decode cX2_asks 107 = .ok (.getfield 34, 3) := dk_180 0 34 (dk_at dksX2_asks_4 17 rfl rfl)
theorem dX2_asks_110 : decode cX2_asks 110 = .ok (.iload_n 2, 1) := dk_28 (dk_at dksX2_asks_4 20 rfl rfl)
theorem dX2_asks_111 : decode cX2_asks 111 = .ok (.iconst 0, 1) := dk_3 (dk_at dksX2_asks_4 21 rfl rfl)
theorem dX2_asks_112 : decode cX2_asks 112 = .ok (.iastore, 1) := dk_79 (dk_at dksX2_asks_4 22 rfl rfl)
theorem dX2_asks_113 : decode cX2_asks 113 = .ok (.iinc 2 1, 3) := dk_132 2 1 (dk_at dksX2_asks_5 0 rfl rfl)
theorem dX2_asks_116 : decode cX2_asks 116 = .ok (.goto (-16), 3) := dk_167 255 240 (dk_at dksX2_asks_5 3 rfl rfl)
theorem dX2_asks_119 : decode cX2_asks 119 = .ok (.aload_n 0, 1) := dk_42 (dk_at dksX2_asks_5 6 rfl rfl)
theorem dX2_asks_120 : decode cX2_asks 120 = .ok (.iconst 0, 1) := dk_3 (dk_at dksX2_asks_5 7 rfl rfl)
theorem dX2_asks_121 : decode cX2_asks 121 = .ok (.iconst 0, 1) := dk_3 (dk_at dksX2_asks_5 8 rfl rfl)
theorem dX2_asks_122 : decode cX2_asks 122 = .ok (.iconst 0, 1) := dk_3 (dk_at dksX2_asks_5 9 rfl rfl)
theorem dX2_asks_123 : decode cX2_asks 123 = .ok (.invokevirtual 54, 3) := dk_182 0 54 (dk_at dksX2_asks_5 10 rfl rfl)
theorem dX2_asks_126 : decode cX2_asks 126 = .ok (.iconst 1, 1) := dk_4 (dk_at dksX2_asks_5 13 rfl rfl)
theorem dX2_asks_127 : decode cX2_asks 127 = .ok (.ireturn, 1) := dk_172 (dk_at dksX2_asks_5 14 rfl rfl)
abbrev cX2_tries : ByteArray := prog_4_method_3_code
def yX2_tries : MethodName := ⟨RX2, "tries", "(III)V"⟩
def dkwX2_tries_6 : List UInt8 := [132, 6, 1, 167, 255, 145, 42, 180, 0, 27, 27, 2, 79, 42, 27, 4, 96, 28, 29, 182, 0, 54, 177]
abbrev dktX2_tries_6 : List UInt8 := dkwX2_tries_6 ++ []
def dkwX2_tries_5 : List UInt8 := [180, 0, 74, 182, 0, 78, 96, 182, 0, 54, 42, 180, 0, 34, 21, 6, 92, 46, 21, 5, 100, 79]
abbrev dktX2_tries_5 : List UInt8 := dkwX2_tries_5 ++ dktX2_tries_6
def dkwX2_tries_4 : List UInt8 := [28, 21, 5, 96, 29, 42, 180, 0, 3, 25, 4, 180, 0, 70, 180, 0, 74, 42, 180, 0, 23, 21, 6, 50]
abbrev dktX2_tries_4 : List UInt8 := dkwX2_tries_4 ++ dktX2_tries_5
def dkwX2_tries_3 : List UInt8 := [42, 180, 0, 27, 27, 21, 6, 79, 42, 180, 0, 34, 21, 6, 92, 46, 21, 5, 96, 79, 42, 27, 4, 96]
abbrev dktX2_tries_3 : List UInt8 := dkwX2_tries_3 ++ dktX2_tries_4
def dkwX2_tries_2 : List UInt8 := [42, 180, 0, 3, 42, 180, 0, 23, 21, 6, 50, 25, 4, 21, 5, 182, 0, 66, 153, 0, 6, 167, 0, 73]
abbrev dktX2_tries_2 : List UInt8 := dkwX2_tries_2 ++ dktX2_tries_3
def dkwX2_tries_1 : List UInt8 := [25, 4, 182, 0, 62, 54, 5, 3, 54, 6, 21, 6, 42, 180, 0, 37, 162, 0, 108, 21, 5, 158, 0, 103]
abbrev dktX2_tries_1 : List UInt8 := dkwX2_tries_1 ++ dktX2_tries_2
def dkwX2_tries_0 : List UInt8 := [27, 42, 180, 0, 41, 160, 0, 10, 42, 28, 29, 182, 0, 58, 177, 42, 180, 0, 17, 27, 50, 58, 4]
abbrev dktX2_tries_0 : List UInt8 := dkwX2_tries_0 ++ dktX2_tries_1
theorem dksX2_tries_0 : cX2_tries.data.toList.drop 0 = dktX2_tries_0 := by decide +kernel
theorem dksX2_tries_1 : cX2_tries.data.toList.drop 23 = dktX2_tries_1 := dk_seg dksX2_tries_0 23 rfl rfl
theorem dksX2_tries_2 : cX2_tries.data.toList.drop 47 = dktX2_tries_2 := dk_seg dksX2_tries_1 24 rfl rfl
theorem dksX2_tries_3 : cX2_tries.data.toList.drop 71 = dktX2_tries_3 := dk_seg dksX2_tries_2 24 rfl rfl
theorem dksX2_tries_4 : cX2_tries.data.toList.drop 95 = dktX2_tries_4 := dk_seg dksX2_tries_3 24 rfl rfl
theorem dksX2_tries_5 : cX2_tries.data.toList.drop 119 = dktX2_tries_5 := dk_seg dksX2_tries_4 24 rfl rfl
theorem dksX2_tries_6 : cX2_tries.data.toList.drop 141 = dktX2_tries_6 := dk_seg dksX2_tries_5 22 rfl rfl
theorem dX2_tries_0 : decode cX2_tries 0 = .ok (.iload_n 1, 1) := dk_27 (dk_at dksX2_tries_0 0 rfl rfl)
theorem dX2_tries_1 : decode cX2_tries 1 = .ok (.aload_n 0, 1) := dk_42 (dk_at dksX2_tries_0 1 rfl rfl)
theorem dX2_tries_2 : decode cX2_tries 2 = .ok (.getfield 41, 3) := dk_180 0 41 (dk_at dksX2_tries_0 2 rfl rfl)
theorem dX2_tries_5 : decode cX2_tries 5 = .ok (.if_icmp .ne 10, 3) := dk_160 0 10 (dk_at dksX2_tries_0 5 rfl rfl)
theorem dX2_tries_8 : decode cX2_tries 8 = .ok (.aload_n 0, 1) := dk_42 (dk_at dksX2_tries_0 8 rfl rfl)
theorem dX2_tries_9 : decode cX2_tries 9 = .ok (.iload_n 2, 1) := dk_28 (dk_at dksX2_tries_0 9 rfl rfl)
theorem dX2_tries_10 : decode cX2_tries 10 = .ok (.iload_n 3, 1) := dk_29 (dk_at dksX2_tries_0 10 rfl rfl)
theorem dX2_tries_11 : decode cX2_tries 11 = .ok (.invokevirtual 58, 3) := dk_182 0 58 (dk_at dksX2_tries_0 11 rfl rfl)
theorem dX2_tries_14 : decode cX2_tries 14 = .ok (.return_, 1) := dk_177 (dk_at dksX2_tries_0 14 rfl rfl)
theorem dX2_tries_15 : decode cX2_tries 15 = .ok (.aload_n 0, 1) := dk_42 (dk_at dksX2_tries_0 15 rfl rfl)
theorem dX2_tries_16 : decode cX2_tries 16 = .ok (.getfield 17, 3) := dk_180 0 17 (dk_at dksX2_tries_0 16 rfl rfl)
theorem dX2_tries_19 : decode cX2_tries 19 = .ok (.iload_n 1, 1) := dk_27 (dk_at dksX2_tries_0 19 rfl rfl)
theorem dX2_tries_20 : decode cX2_tries 20 = .ok (.aaload, 1) := dk_50 (dk_at dksX2_tries_0 20 rfl rfl)
theorem dX2_tries_21 : decode cX2_tries 21 = .ok (.astore 4, 2) := dk_58 4 (dk_at dksX2_tries_0 21 rfl rfl)
theorem dX2_tries_23 : decode cX2_tries 23 = .ok (.aload 4, 2) := dk_25 4 (dk_at dksX2_tries_1 0 rfl rfl)
theorem dX2_tries_25 : decode cX2_tries 25 = .ok (.invokevirtual 62, 3) := dk_182 0 62 (dk_at dksX2_tries_1 2 rfl rfl)
theorem dX2_tries_28 : decode cX2_tries 28 = .ok (.istore 5, 2) := dk_54 5 (dk_at dksX2_tries_1 5 rfl rfl)
theorem dX2_tries_30 : decode cX2_tries 30 = .ok (.iconst 0, 1) := dk_3 (dk_at dksX2_tries_1 7 rfl rfl)
theorem dX2_tries_31 : decode cX2_tries 31 = .ok (.istore 6, 2) := dk_54 6 (dk_at dksX2_tries_1 8 rfl rfl)
theorem dX2_tries_33 : decode cX2_tries 33 = .ok (.iload 6, 2) := dk_21 6 (dk_at dksX2_tries_1 10 rfl rfl)
theorem dX2_tries_35 : decode cX2_tries 35 = .ok (.aload_n 0, 1) := dk_42 (dk_at dksX2_tries_1 12 rfl rfl)
theorem dX2_tries_36 : decode cX2_tries 36 = .ok (.getfield 37, 3) := dk_180 0 37 (dk_at dksX2_tries_1 13 rfl rfl)
theorem dX2_tries_39 : decode cX2_tries 39 = .ok (.if_icmp .ge 108, 3) := dk_162 0 108 (dk_at dksX2_tries_1 16 rfl rfl)
theorem dX2_tries_42 : decode cX2_tries 42 = .ok (.iload 5, 2) := dk_21 5 (dk_at dksX2_tries_1 19 rfl rfl)
theorem dX2_tries_44 : decode cX2_tries 44 = .ok (.ifCond .le 103, 3) := dk_158 0 103 (dk_at dksX2_tries_1 21 rfl rfl)
theorem dX2_tries_47 : decode cX2_tries 47 = .ok (.aload_n 0, 1) := dk_42 (dk_at dksX2_tries_2 0 rfl rfl)
theorem dX2_tries_48 : decode cX2_tries 48 = .ok (.getfield 3, 3) := dk_180 0 3 (dk_at dksX2_tries_2 1 rfl rfl)
theorem dX2_tries_51 : decode cX2_tries 51 = .ok (.aload_n 0, 1) := dk_42 (dk_at dksX2_tries_2 4 rfl rfl)
theorem dX2_tries_52 : decode cX2_tries 52 = .ok (.getfield 23, 3) := dk_180 0 23 (dk_at dksX2_tries_2 5 rfl rfl)
theorem dX2_tries_55 : decode cX2_tries 55 = .ok (.iload 6, 2) := dk_21 6 (dk_at dksX2_tries_2 8 rfl rfl)
theorem dX2_tries_57 : decode cX2_tries 57 = .ok (.aaload, 1) := dk_50 (dk_at dksX2_tries_2 10 rfl rfl)
theorem dX2_tries_58 : decode cX2_tries 58 = .ok (.aload 4, 2) := dk_25 4 (dk_at dksX2_tries_2 11 rfl rfl)
theorem dX2_tries_60 : decode cX2_tries 60 = .ok (.iload 5, 2) := dk_21 5 (dk_at dksX2_tries_2 13 rfl rfl)
theorem dX2_tries_62 : decode cX2_tries 62 = .ok (.invokevirtual 66, 3) := dk_182 0 66 (dk_at dksX2_tries_2 15 rfl rfl)
theorem dX2_tries_65 : decode cX2_tries 65 = .ok (.ifCond .eq 6, 3) := dk_153 0 6 (dk_at dksX2_tries_2 18 rfl rfl)
theorem dX2_tries_68 : decode cX2_tries 68 = .ok (.goto 73, 3) := dk_167 0 73 (dk_at dksX2_tries_2 21 rfl rfl)
theorem dX2_tries_71 : decode cX2_tries 71 = .ok (.aload_n 0, 1) := dk_42 (dk_at dksX2_tries_3 0 rfl rfl)
theorem dX2_tries_72 : decode cX2_tries 72 = .ok (.getfield 27, 3) := dk_180 0 27 (dk_at dksX2_tries_3 1 rfl rfl)
theorem dX2_tries_75 : decode cX2_tries 75 = .ok (.iload_n 1, 1) := dk_27 (dk_at dksX2_tries_3 4 rfl rfl)
theorem dX2_tries_76 : decode cX2_tries 76 = .ok (.iload 6, 2) := dk_21 6 (dk_at dksX2_tries_3 5 rfl rfl)
theorem dX2_tries_78 : decode cX2_tries 78 = .ok (.iastore, 1) := dk_79 (dk_at dksX2_tries_3 7 rfl rfl)
theorem dX2_tries_79 : decode cX2_tries 79 = .ok (.aload_n 0, 1) := dk_42 (dk_at dksX2_tries_3 8 rfl rfl)
theorem dX2_tries_80 : decode cX2_tries 80 = .ok (.getfield 34, 3) := dk_180 0 34 (dk_at dksX2_tries_3 9 rfl rfl)
theorem dX2_tries_83 : decode cX2_tries 83 = .ok (.iload 6, 2) := dk_21 6 (dk_at dksX2_tries_3 12 rfl rfl)
theorem dX2_tries_85 : decode cX2_tries 85 = .ok (.dup2, 1) := dk_92 (dk_at dksX2_tries_3 14 rfl rfl)
theorem dX2_tries_86 : decode cX2_tries 86 = .ok (.iaload, 1) := dk_46 (dk_at dksX2_tries_3 15 rfl rfl)
theorem dX2_tries_87 : decode cX2_tries 87 = .ok (.iload 5, 2) := dk_21 5 (dk_at dksX2_tries_3 16 rfl rfl)
theorem dX2_tries_89 : decode cX2_tries 89 = .ok (.iadd, 1) := dk_96 (dk_at dksX2_tries_3 18 rfl rfl)
theorem dX2_tries_90 : decode cX2_tries 90 = .ok (.iastore, 1) := dk_79 (dk_at dksX2_tries_3 19 rfl rfl)
theorem dX2_tries_91 : decode cX2_tries 91 = .ok (.aload_n 0, 1) := dk_42 (dk_at dksX2_tries_3 20 rfl rfl)
theorem dX2_tries_92 : decode cX2_tries 92 = .ok (.iload_n 1, 1) := dk_27 (dk_at dksX2_tries_3 21 rfl rfl)
theorem dX2_tries_93 : decode cX2_tries 93 = .ok (.iconst 1, 1) := dk_4 (dk_at dksX2_tries_3 22 rfl rfl)
theorem dX2_tries_94 : decode cX2_tries 94 = .ok (.iadd, 1) := dk_96 (dk_at dksX2_tries_3 23 rfl rfl)
theorem dX2_tries_95 : decode cX2_tries 95 = .ok (.iload_n 2, 1) := dk_28 (dk_at dksX2_tries_4 0 rfl rfl)
theorem dX2_tries_96 : decode cX2_tries 96 = .ok (.iload 5, 2) := dk_21 5 (dk_at dksX2_tries_4 1 rfl rfl)
theorem dX2_tries_98 : decode cX2_tries 98 = .ok (.iadd, 1) := dk_96 (dk_at dksX2_tries_4 3 rfl rfl)
theorem dX2_tries_99 : decode cX2_tries 99 = .ok (.iload_n 3, 1) := dk_29 (dk_at dksX2_tries_4 4 rfl rfl)
theorem dX2_tries_100 : decode cX2_tries 100 = .ok (.aload_n 0, 1) := dk_42 (dk_at dksX2_tries_4 5 rfl rfl)
theorem dX2_tries_101 : decode cX2_tries 101 = .ok (.getfield 3, 3) := dk_180 0 3 (dk_at dksX2_tries_4 6 rfl rfl)
theorem dX2_tries_104 : decode cX2_tries 104 = .ok (.aload 4, 2) := dk_25 4 (dk_at dksX2_tries_4 9 rfl rfl)
theorem dX2_tries_106 : decode cX2_tries 106 = .ok (.getfield 70, 3) := dk_180 0 70 (dk_at dksX2_tries_4 11 rfl rfl)
theorem dX2_tries_109 : decode cX2_tries 109 = .ok (.getfield 74, 3) := dk_180 0 74 (dk_at dksX2_tries_4 14 rfl rfl)
theorem dX2_tries_112 : decode cX2_tries 112 = .ok (.aload_n 0, 1) := dk_42 (dk_at dksX2_tries_4 17 rfl rfl)
theorem dX2_tries_113 : decode cX2_tries 113 = .ok (.getfield 23, 3) := dk_180 0 23 (dk_at dksX2_tries_4 18 rfl rfl)
theorem dX2_tries_116 : decode cX2_tries 116 = .ok (.iload 6, 2) := dk_21 6 (dk_at dksX2_tries_4 21 rfl rfl)
theorem dX2_tries_118 : decode cX2_tries 118 = .ok (.aaload, 1) := dk_50 (dk_at dksX2_tries_4 23 rfl rfl)
theorem dX2_tries_119 : decode cX2_tries 119 = .ok (.getfield 74, 3) := dk_180 0 74 (dk_at dksX2_tries_5 0 rfl rfl)
theorem dX2_tries_122 : decode cX2_tries 122 = .ok (.invokevirtual 78, 3) := dk_182 0 78 (dk_at dksX2_tries_5 3 rfl rfl)
theorem dX2_tries_125 : decode cX2_tries 125 = .ok (.iadd, 1) := dk_96 (dk_at dksX2_tries_5 6 rfl rfl)
theorem dX2_tries_126 : decode cX2_tries 126 = .ok (.invokevirtual 54, 3) := dk_182 0 54 (dk_at dksX2_tries_5 7 rfl rfl)
theorem dX2_tries_129 : decode cX2_tries 129 = .ok (.aload_n 0, 1) := dk_42 (dk_at dksX2_tries_5 10 rfl rfl)
theorem dX2_tries_130 : decode cX2_tries 130 = .ok (.getfield 34, 3) := dk_180 0 34 (dk_at dksX2_tries_5 11 rfl rfl)
theorem dX2_tries_133 : decode cX2_tries 133 = .ok (.iload 6, 2) := dk_21 6 (dk_at dksX2_tries_5 14 rfl rfl)
theorem dX2_tries_135 : decode cX2_tries 135 = .ok (.dup2, 1) := dk_92 (dk_at dksX2_tries_5 16 rfl rfl)
theorem dX2_tries_136 : decode cX2_tries 136 = .ok (.iaload, 1) := dk_46 (dk_at dksX2_tries_5 17 rfl rfl)
theorem dX2_tries_137 : decode cX2_tries 137 = .ok (.iload 5, 2) := dk_21 5 (dk_at dksX2_tries_5 18 rfl rfl)
theorem dX2_tries_139 : decode cX2_tries 139 = .ok (.isub, 1) := dk_100 (dk_at dksX2_tries_5 20 rfl rfl)
theorem dX2_tries_140 : decode cX2_tries 140 = .ok (.iastore, 1) := dk_79 (dk_at dksX2_tries_5 21 rfl rfl)
theorem dX2_tries_141 : decode cX2_tries 141 = .ok (.iinc 6 1, 3) := dk_132 6 1 (dk_at dksX2_tries_6 0 rfl rfl)
theorem dX2_tries_144 : decode cX2_tries 144 = .ok (.goto (-111), 3) := dk_167 255 145 (dk_at dksX2_tries_6 3 rfl rfl)
theorem dX2_tries_147 : decode cX2_tries 147 = .ok (.aload_n 0, 1) := dk_42 (dk_at dksX2_tries_6 6 rfl rfl)
theorem dX2_tries_148 : decode cX2_tries 148 = .ok (.getfield 27, 3) := dk_180 0 27 (dk_at dksX2_tries_6 7 rfl rfl)
theorem dX2_tries_151 : decode cX2_tries 151 = .ok (.iload_n 1, 1) := dk_27 (dk_at dksX2_tries_6 10 rfl rfl)
theorem dX2_tries_152 : decode cX2_tries 152 = .ok (.iconst (-1), 1) := dk_2 (dk_at dksX2_tries_6 11 rfl rfl)
theorem dX2_tries_153 : decode cX2_tries 153 = .ok (.iastore, 1) := dk_79 (dk_at dksX2_tries_6 12 rfl rfl)
theorem dX2_tries_154 : decode cX2_tries 154 = .ok (.aload_n 0, 1) := dk_42 (dk_at dksX2_tries_6 13 rfl rfl)
theorem dX2_tries_155 : decode cX2_tries 155 = .ok (.iload_n 1, 1) := dk_27 (dk_at dksX2_tries_6 14 rfl rfl)
theorem dX2_tries_156 : decode cX2_tries 156 = .ok (.iconst 1, 1) := dk_4 (dk_at dksX2_tries_6 15 rfl rfl)
theorem dX2_tries_157 : decode cX2_tries 157 = .ok (.iadd, 1) := dk_96 (dk_at dksX2_tries_6 16 rfl rfl)
theorem dX2_tries_158 : decode cX2_tries 158 = .ok (.iload_n 2, 1) := dk_28 (dk_at dksX2_tries_6 17 rfl rfl)
theorem dX2_tries_159 : decode cX2_tries 159 = .ok (.iload_n 3, 1) := dk_29 (dk_at dksX2_tries_6 18 rfl rfl)
theorem dX2_tries_160 : decode cX2_tries 160 = .ok (.invokevirtual 54, 3) := dk_182 0 54 (dk_at dksX2_tries_6 19 rfl rfl)
theorem dX2_tries_163 : decode cX2_tries 163 = .ok (.return_, 1) := dk_177 (dk_at dksX2_tries_6 22 rfl rfl)
abbrev cX2_judges : ByteArray := prog_4_method_4_code
def yX2_judges : MethodName := ⟨RX2, "judges", "(II)V"⟩
def dkwX2_judges_6 : List UInt8 := [167, 255, 230, 177]
abbrev dktX2_judges_6 : List UInt8 := dkwX2_judges_6 ++ []
def dkwX2_judges_5 : List UInt8 := [42, 180, 0, 41, 162, 0, 23, 42, 180, 0, 31, 21, 4, 42, 180, 0, 27, 21, 4, 46, 79, 132, 4, 1]
abbrev dktX2_judges_5 : List UInt8 := dkwX2_judges_5 ++ dktX2_judges_6
def dkwX2_judges_4 : List UInt8 := [161, 0, 4, 177, 42, 27, 181, 0, 51, 42, 28, 181, 0, 100, 42, 29, 181, 0, 103, 3, 54, 4, 21, 4]
abbrev dktX2_judges_4 : List UInt8 := dkwX2_judges_4 ++ dktX2_judges_5
def dkwX2_judges_3 : List UInt8 := [160, 0, 28, 28, 42, 180, 0, 100, 163, 0, 19, 28, 42, 180, 0, 100, 160, 0, 12, 29, 42, 180, 0, 103]
abbrev dktX2_judges_3 : List UInt8 := dkwX2_judges_3 ++ dktX2_judges_4
def dkwX2_judges_2 : List UInt8 := [184, 0, 95, 62, 132, 4, 1, 167, 255, 206, 27, 42, 180, 0, 51, 161, 0, 35, 27, 42, 180, 0, 51]
abbrev dktX2_judges_2 : List UInt8 := dkwX2_judges_2 ++ dktX2_judges_3
def dkwX2_judges_1 : List UInt8 := [29, 42, 180, 0, 34, 21, 4, 46, 42, 180, 0, 23, 21, 4, 50, 180, 0, 82, 180, 0, 86, 184, 0, 91]
abbrev dktX2_judges_1 : List UInt8 := dkwX2_judges_1 ++ dktX2_judges_2
def dkwX2_judges_0 : List UInt8 := [3, 62, 3, 54, 4, 21, 4, 42, 180, 0, 37, 162, 0, 47, 42, 180, 0, 34, 21, 4, 46, 158, 0, 31]
abbrev dktX2_judges_0 : List UInt8 := dkwX2_judges_0 ++ dktX2_judges_1
theorem dksX2_judges_0 : cX2_judges.data.toList.drop 0 = dktX2_judges_0 := by decide +kernel
theorem dksX2_judges_1 : cX2_judges.data.toList.drop 24 = dktX2_judges_1 := dk_seg dksX2_judges_0 24 rfl rfl
theorem dksX2_judges_2 : cX2_judges.data.toList.drop 48 = dktX2_judges_2 := dk_seg dksX2_judges_1 24 rfl rfl
theorem dksX2_judges_3 : cX2_judges.data.toList.drop 71 = dktX2_judges_3 := dk_seg dksX2_judges_2 23 rfl rfl
theorem dksX2_judges_4 : cX2_judges.data.toList.drop 95 = dktX2_judges_4 := dk_seg dksX2_judges_3 24 rfl rfl
theorem dksX2_judges_5 : cX2_judges.data.toList.drop 119 = dktX2_judges_5 := dk_seg dksX2_judges_4 24 rfl rfl
theorem dksX2_judges_6 : cX2_judges.data.toList.drop 143 = dktX2_judges_6 := dk_seg dksX2_judges_5 24 rfl rfl
theorem dX2_judges_0 : decode cX2_judges 0 = .ok (.iconst 0, 1) := dk_3 (dk_at dksX2_judges_0 0 rfl rfl)
theorem dX2_judges_1 : decode cX2_judges 1 = .ok (.istore_n 3, 1) := dk_62 (dk_at dksX2_judges_0 1 rfl rfl)
theorem dX2_judges_2 : decode cX2_judges 2 = .ok (.iconst 0, 1) := dk_3 (dk_at dksX2_judges_0 2 rfl rfl)
theorem dX2_judges_3 : decode cX2_judges 3 = .ok (.istore 4, 2) := dk_54 4 (dk_at dksX2_judges_0 3 rfl rfl)
theorem dX2_judges_5 : decode cX2_judges 5 = .ok (.iload 4, 2) := dk_21 4 (dk_at dksX2_judges_0 5 rfl rfl)
theorem dX2_judges_7 : decode cX2_judges 7 = .ok (.aload_n 0, 1) := dk_42 (dk_at dksX2_judges_0 7 rfl rfl)
theorem dX2_judges_8 : decode cX2_judges 8 = .ok (.getfield 37, 3) := dk_180 0 37 (dk_at dksX2_judges_0 8 rfl rfl)
theorem dX2_judges_11 : decode cX2_judges 11 = .ok (.if_icmp .ge 47, 3) := dk_162 0 47 (dk_at dksX2_judges_0 11 rfl rfl)
theorem dX2_judges_14 : decode cX2_judges 14 = .ok (.aload_n 0, 1) := dk_42 (dk_at dksX2_judges_0 14 rfl rfl)
theorem dX2_judges_15 : decode cX2_judges 15 = .ok (.getfield 34, 3) := dk_180 0 34 (dk_at dksX2_judges_0 15 rfl rfl)
theorem dX2_judges_18 : decode cX2_judges 18 = .ok (.iload 4, 2) := dk_21 4 (dk_at dksX2_judges_0 18 rfl rfl)
theorem dX2_judges_20 : decode cX2_judges 20 = .ok (.iaload, 1) := dk_46 (dk_at dksX2_judges_0 20 rfl rfl)
theorem dX2_judges_21 : decode cX2_judges 21 = .ok (.ifCond .le 31, 3) := dk_158 0 31 (dk_at dksX2_judges_0 21 rfl rfl)
theorem dX2_judges_24 : decode cX2_judges 24 = .ok (.iload_n 3, 1) := dk_29 (dk_at dksX2_judges_1 0 rfl rfl)
theorem dX2_judges_25 : decode cX2_judges 25 = .ok (.aload_n 0, 1) := dk_42 (dk_at dksX2_judges_1 1 rfl rfl)
theorem dX2_judges_26 : decode cX2_judges 26 = .ok (.getfield 34, 3) := dk_180 0 34 (dk_at dksX2_judges_1 2 rfl rfl)
theorem dX2_judges_29 : decode cX2_judges 29 = .ok (.iload 4, 2) := dk_21 4 (dk_at dksX2_judges_1 5 rfl rfl)
theorem dX2_judges_31 : decode cX2_judges 31 = .ok (.iaload, 1) := dk_46 (dk_at dksX2_judges_1 7 rfl rfl)
theorem dX2_judges_32 : decode cX2_judges 32 = .ok (.aload_n 0, 1) := dk_42 (dk_at dksX2_judges_1 8 rfl rfl)
theorem dX2_judges_33 : decode cX2_judges 33 = .ok (.getfield 23, 3) := dk_180 0 23 (dk_at dksX2_judges_1 9 rfl rfl)
theorem dX2_judges_36 : decode cX2_judges 36 = .ok (.iload 4, 2) := dk_21 4 (dk_at dksX2_judges_1 12 rfl rfl)
theorem dX2_judges_38 : decode cX2_judges 38 = .ok (.aaload, 1) := dk_50 (dk_at dksX2_judges_1 14 rfl rfl)
theorem dX2_judges_39 : decode cX2_judges 39 = .ok (.getfield 82, 3) := dk_180 0 82 (dk_at dksX2_judges_1 15 rfl rfl)
theorem dX2_judges_42 : decode cX2_judges 42 = .ok (.getfield 86, 3) := dk_180 0 86 (dk_at dksX2_judges_1 18 rfl rfl)
theorem dX2_judges_45 : decode cX2_judges 45 = .ok (.invokestatic 91, 3) := dk_184 0 91 (dk_at dksX2_judges_1 21 rfl rfl)
theorem dX2_judges_48 : decode cX2_judges 48 = .ok (.invokestatic 95, 3) := dk_184 0 95 (dk_at dksX2_judges_2 0 rfl rfl)
theorem dX2_judges_51 : decode cX2_judges 51 = .ok (.istore_n 3, 1) := dk_62 (dk_at dksX2_judges_2 3 rfl rfl)
theorem dX2_judges_52 : decode cX2_judges 52 = .ok (.iinc 4 1, 3) := dk_132 4 1 (dk_at dksX2_judges_2 4 rfl rfl)
theorem dX2_judges_55 : decode cX2_judges 55 = .ok (.goto (-50), 3) := dk_167 255 206 (dk_at dksX2_judges_2 7 rfl rfl)
theorem dX2_judges_58 : decode cX2_judges 58 = .ok (.iload_n 1, 1) := dk_27 (dk_at dksX2_judges_2 10 rfl rfl)
theorem dX2_judges_59 : decode cX2_judges 59 = .ok (.aload_n 0, 1) := dk_42 (dk_at dksX2_judges_2 11 rfl rfl)
theorem dX2_judges_60 : decode cX2_judges 60 = .ok (.getfield 51, 3) := dk_180 0 51 (dk_at dksX2_judges_2 12 rfl rfl)
theorem dX2_judges_63 : decode cX2_judges 63 = .ok (.if_icmp .lt 35, 3) := dk_161 0 35 (dk_at dksX2_judges_2 15 rfl rfl)
theorem dX2_judges_66 : decode cX2_judges 66 = .ok (.iload_n 1, 1) := dk_27 (dk_at dksX2_judges_2 18 rfl rfl)
theorem dX2_judges_67 : decode cX2_judges 67 = .ok (.aload_n 0, 1) := dk_42 (dk_at dksX2_judges_2 19 rfl rfl)
theorem dX2_judges_68 : decode cX2_judges 68 = .ok (.getfield 51, 3) := dk_180 0 51 (dk_at dksX2_judges_2 20 rfl rfl)
theorem dX2_judges_71 : decode cX2_judges 71 = .ok (.if_icmp .ne 28, 3) := dk_160 0 28 (dk_at dksX2_judges_3 0 rfl rfl)
theorem dX2_judges_74 : decode cX2_judges 74 = .ok (.iload_n 2, 1) := dk_28 (dk_at dksX2_judges_3 3 rfl rfl)
theorem dX2_judges_75 : decode cX2_judges 75 = .ok (.aload_n 0, 1) := dk_42 (dk_at dksX2_judges_3 4 rfl rfl)
theorem dX2_judges_76 : decode cX2_judges 76 = .ok (.getfield 100, 3) := dk_180 0 100 (dk_at dksX2_judges_3 5 rfl rfl)
theorem dX2_judges_79 : decode cX2_judges 79 = .ok (.if_icmp .gt 19, 3) := dk_163 0 19 (dk_at dksX2_judges_3 8 rfl rfl)
theorem dX2_judges_82 : decode cX2_judges 82 = .ok (.iload_n 2, 1) := dk_28 (dk_at dksX2_judges_3 11 rfl rfl)
theorem dX2_judges_83 : decode cX2_judges 83 = .ok (.aload_n 0, 1) := dk_42 (dk_at dksX2_judges_3 12 rfl rfl)
theorem dX2_judges_84 : decode cX2_judges 84 = .ok (.getfield 100, 3) := dk_180 0 100 (dk_at dksX2_judges_3 13 rfl rfl)
theorem dX2_judges_87 : decode cX2_judges 87 = .ok (.if_icmp .ne 12, 3) := dk_160 0 12 (dk_at dksX2_judges_3 16 rfl rfl)
theorem dX2_judges_90 : decode cX2_judges 90 = .ok (.iload_n 3, 1) := dk_29 (dk_at dksX2_judges_3 19 rfl rfl)
theorem dX2_judges_91 : decode cX2_judges 91 = .ok (.aload_n 0, 1) := dk_42 (dk_at dksX2_judges_3 20 rfl rfl)
theorem dX2_judges_92 : decode cX2_judges 92 = .ok (.getfield 103, 3) := dk_180 0 103 (dk_at dksX2_judges_3 21 rfl rfl)
theorem dX2_judges_95 : decode cX2_judges 95 = .ok (.if_icmp .lt 4, 3) := dk_161 0 4 (dk_at dksX2_judges_4 0 rfl rfl)
theorem dX2_judges_98 : decode cX2_judges 98 = .ok (.return_, 1) := dk_177 (dk_at dksX2_judges_4 3 rfl rfl)
theorem dX2_judges_99 : decode cX2_judges 99 = .ok (.aload_n 0, 1) := dk_42 (dk_at dksX2_judges_4 4 rfl rfl)
theorem dX2_judges_100 : decode cX2_judges 100 = .ok (.iload_n 1, 1) := dk_27 (dk_at dksX2_judges_4 5 rfl rfl)
theorem dX2_judges_101 : decode cX2_judges 101 = .ok (.putfield 51, 3) := dk_181 0 51 (dk_at dksX2_judges_4 6 rfl rfl)
theorem dX2_judges_104 : decode cX2_judges 104 = .ok (.aload_n 0, 1) := dk_42 (dk_at dksX2_judges_4 9 rfl rfl)
theorem dX2_judges_105 : decode cX2_judges 105 = .ok (.iload_n 2, 1) := dk_28 (dk_at dksX2_judges_4 10 rfl rfl)
theorem dX2_judges_106 : decode cX2_judges 106 = .ok (.putfield 100, 3) := dk_181 0 100 (dk_at dksX2_judges_4 11 rfl rfl)
theorem dX2_judges_109 : decode cX2_judges 109 = .ok (.aload_n 0, 1) := dk_42 (dk_at dksX2_judges_4 14 rfl rfl)
theorem dX2_judges_110 : decode cX2_judges 110 = .ok (.iload_n 3, 1) := dk_29 (dk_at dksX2_judges_4 15 rfl rfl)
theorem dX2_judges_111 : decode cX2_judges 111 = .ok (.putfield 103, 3) := dk_181 0 103 (dk_at dksX2_judges_4 16 rfl rfl)
theorem dX2_judges_114 : decode cX2_judges 114 = .ok (.iconst 0, 1) := dk_3 (dk_at dksX2_judges_4 19 rfl rfl)
theorem dX2_judges_115 : decode cX2_judges 115 = .ok (.istore 4, 2) := dk_54 4 (dk_at dksX2_judges_4 20 rfl rfl)
theorem dX2_judges_117 : decode cX2_judges 117 = .ok (.iload 4, 2) := dk_21 4 (dk_at dksX2_judges_4 22 rfl rfl)
theorem dX2_judges_119 : decode cX2_judges 119 = .ok (.aload_n 0, 1) := dk_42 (dk_at dksX2_judges_5 0 rfl rfl)
theorem dX2_judges_120 : decode cX2_judges 120 = .ok (.getfield 41, 3) := dk_180 0 41 (dk_at dksX2_judges_5 1 rfl rfl)
theorem dX2_judges_123 : decode cX2_judges 123 = .ok (.if_icmp .ge 23, 3) := dk_162 0 23 (dk_at dksX2_judges_5 4 rfl rfl)
theorem dX2_judges_126 : decode cX2_judges 126 = .ok (.aload_n 0, 1) := dk_42 (dk_at dksX2_judges_5 7 rfl rfl)
theorem dX2_judges_127 : decode cX2_judges 127 = .ok (.getfield 31, 3) := dk_180 0 31 (dk_at dksX2_judges_5 8 rfl rfl)
theorem dX2_judges_130 : decode cX2_judges 130 = .ok (.iload 4, 2) := dk_21 4 (dk_at dksX2_judges_5 11 rfl rfl)
theorem dX2_judges_132 : decode cX2_judges 132 = .ok (.aload_n 0, 1) := dk_42 (dk_at dksX2_judges_5 13 rfl rfl)
theorem dX2_judges_133 : decode cX2_judges 133 = .ok (.getfield 27, 3) := dk_180 0 27 (dk_at dksX2_judges_5 14 rfl rfl)
theorem dX2_judges_136 : decode cX2_judges 136 = .ok (.iload 4, 2) := dk_21 4 (dk_at dksX2_judges_5 17 rfl rfl)
theorem dX2_judges_138 : decode cX2_judges 138 = .ok (.iaload, 1) := dk_46 (dk_at dksX2_judges_5 19 rfl rfl)
theorem dX2_judges_139 : decode cX2_judges 139 = .ok (.iastore, 1) := dk_79 (dk_at dksX2_judges_5 20 rfl rfl)
theorem dX2_judges_140 : decode cX2_judges 140 = .ok (.iinc 4 1, 3) := dk_132 4 1 (dk_at dksX2_judges_5 21 rfl rfl)
theorem dX2_judges_143 : decode cX2_judges 143 = .ok (.goto (-26), 3) := dk_167 255 230 (dk_at dksX2_judges_6 0 rfl rfl)
theorem dX2_judges_146 : decode cX2_judges 146 = .ok (.return_, 1) := dk_177 (dk_at dksX2_judges_6 3 rfl rfl)
theorem q97 : (Jvm.Cond.initialized "WheelLand$Hands") ∈ lw_all := lw_g (lw_at lw_m1 3 rfl) rfl
theorem q170 : (Jvm.Cond.instantiable "WheelLand$Hands" (11 : Nat)) ∈ lw_all := lw_g (lw_at lw_m1 76 rfl) rfl
theorem q172 : (Jvm.Cond.instanceMethod ({ cls := "WheelLand$Hands", name := "<init>", desc := "(LWheelLand;)V" } : Jvm.MethodName)) ∈ lw_all := lw_g (lw_at lw_m1 78 rfl) rfl
theorem q173 : (Jvm.Cond.code ({ cls := "WheelLand$Hands", name := "<init>", desc := "(LWheelLand;)V" } : Jvm.MethodName) prog_4_method_1_code (2 : Nat) (Option.none : Option Jvm.ClassFile.FieldType)) ∈ lw_all := lw_g (lw_at lw_m1 79 rfl) rfl
theorem q174 : (Jvm.Cond.methodLink "WheelLand$Hands" (9 : Nat) ({ cls := "java/lang/Object", name := "<init>", desc := "()V" } : Jvm.MethodName)) ∈ lw_all := lw_g (lw_at lw_m1 80 rfl) rfl
theorem q175 : (Jvm.Cond.classLink "WheelLand$Hands" (15 : Nat) "WheelLand$Lot") ∈ lw_all := lw_g (lw_at lw_m1 81 rfl) rfl
theorem q176 : (Jvm.Cond.classLink "WheelLand$Hands" (21 : Nat) "WheelLand$House") ∈ lw_all := lw_g (lw_at lw_m1 82 rfl) rfl
theorem q177 : (Jvm.Cond.fieldLink "WheelLand$Hands" (17 : Nat) "WheelLand$Hands" "asked" "[LWheelLand$Lot;") ∈ lw_all := lw_g (lw_at lw_m1 83 rfl) rfl
theorem q179 : (Jvm.Cond.fieldLink "WheelLand$Hands" (23 : Nat) "WheelLand$Hands" "looms" "[LWheelLand$House;") ∈ lw_all := lw_g (lw_at lw_m1 85 rfl) rfl
theorem q181 : (Jvm.Cond.fieldLink "WheelLand$Hands" (27 : Nat) "WheelLand$Hands" "way" "[I") ∈ lw_all := lw_g (lw_at lw_m1 87 rfl) rfl
theorem q182 : (Jvm.Cond.fieldLink "WheelLand$Hands" (31 : Nat) "WheelLand$Hands" "best" "[I") ∈ lw_all := lw_g (lw_at lw_m1 88 rfl) rfl
theorem q184 : (Jvm.Cond.fieldLink "WheelLand$Hands" (34 : Nat) "WheelLand$Hands" "gets" "[I") ∈ lw_all := lw_g (lw_at lw_m1 90 rfl) rfl
theorem q185 : (Jvm.Cond.fieldLink "WheelLand$Hands" (41 : Nat) "WheelLand$Hands" "lotsTold" "I") ∈ lw_all := lw_g (lw_at lw_m1 91 rfl) rfl
theorem q187 : (Jvm.Cond.fieldLink "WheelLand$Hands" (37 : Nat) "WheelLand$Hands" "loomMany" "I") ∈ lw_all := lw_g (lw_at lw_m1 93 rfl) rfl
theorem q188 : (Jvm.Cond.fieldLink "WheelLand$Hands" (51 : Nat) "WheelLand$Hands" "most" "I") ∈ lw_all := lw_g (lw_at lw_m1 94 rfl) rfl
theorem q190 : (Jvm.Cond.fieldLink "WheelLand$Hands" (100 : Nat) "WheelLand$Hands" "days" "I") ∈ lw_all := lw_g (lw_at lw_m1 96 rfl) rfl
theorem q192 : (Jvm.Cond.fieldLink "WheelLand$Hands" (103 : Nat) "WheelLand$Hands" "weeks" "I") ∈ lw_all := lw_g (lw_at lw_m1 98 rfl) rfl
theorem q194 : (Jvm.Cond.fieldLink "WheelLand$Hands" (3 : Nat) "WheelLand$Hands" "this$0" "LWheelLand;") ∈ lw_all := lw_g (lw_at lw_m1 100 rfl) rfl
theorem q195 : (Jvm.Cond.laysFinal "WheelLand$Hands" "WheelLand$Hands" "asked" "[LWheelLand$Lot;") ∈ lw_all := lw_g (lw_at lw_m1 101 rfl) rfl
theorem q196 : (Jvm.Cond.soleField "WheelLand$Hands" "asked") ∈ lw_all := lw_g (lw_at lw_m1 102 rfl) rfl
theorem q197 : (Jvm.Cond.laysFinal "WheelLand$Hands" "WheelLand$Hands" "looms" "[LWheelLand$House;") ∈ lw_all := lw_g (lw_at lw_m1 103 rfl) rfl
theorem q198 : (Jvm.Cond.soleField "WheelLand$Hands" "looms") ∈ lw_all := lw_g (lw_at lw_m1 104 rfl) rfl
theorem q199 : (Jvm.Cond.laysFinal "WheelLand$Hands" "WheelLand$Hands" "way" "[I") ∈ lw_all := lw_g (lw_at lw_m1 105 rfl) rfl
theorem q200 : (Jvm.Cond.soleField "WheelLand$Hands" "way") ∈ lw_all := lw_g (lw_at lw_m1 106 rfl) rfl
theorem q201 : (Jvm.Cond.laysFinal "WheelLand$Hands" "WheelLand$Hands" "best" "[I") ∈ lw_all := lw_g (lw_at lw_m1 107 rfl) rfl
theorem q202 : (Jvm.Cond.soleField "WheelLand$Hands" "best") ∈ lw_all := lw_g (lw_at lw_m1 108 rfl) rfl
theorem q203 : (Jvm.Cond.laysFinal "WheelLand$Hands" "WheelLand$Hands" "gets" "[I") ∈ lw_all := lw_g (lw_at lw_m1 109 rfl) rfl
theorem q204 : (Jvm.Cond.soleField "WheelLand$Hands" "gets") ∈ lw_all := lw_g (lw_at lw_m1 110 rfl) rfl
theorem q205 : (Jvm.Cond.lays "WheelLand$Hands" "WheelLand$Hands" "lotsTold" "I") ∈ lw_all := lw_g (lw_at lw_m1 111 rfl) rfl
theorem q206 : (Jvm.Cond.soleField "WheelLand$Hands" "lotsTold") ∈ lw_all := lw_g (lw_at lw_m1 112 rfl) rfl
theorem q207 : (Jvm.Cond.lays "WheelLand$Hands" "WheelLand$Hands" "loomMany" "I") ∈ lw_all := lw_g (lw_at lw_m1 113 rfl) rfl
theorem q208 : (Jvm.Cond.soleField "WheelLand$Hands" "loomMany") ∈ lw_all := lw_g (lw_at lw_m1 114 rfl) rfl
theorem q209 : (Jvm.Cond.lays "WheelLand$Hands" "WheelLand$Hands" "most" "I") ∈ lw_all := lw_g (lw_at lw_m1 115 rfl) rfl
theorem q210 : (Jvm.Cond.soleField "WheelLand$Hands" "most") ∈ lw_all := lw_g (lw_at lw_m1 116 rfl) rfl
theorem q211 : (Jvm.Cond.lays "WheelLand$Hands" "WheelLand$Hands" "days" "I") ∈ lw_all := lw_g (lw_at lw_m1 117 rfl) rfl
theorem q212 : (Jvm.Cond.soleField "WheelLand$Hands" "days") ∈ lw_all := lw_g (lw_at lw_m1 118 rfl) rfl
theorem q213 : (Jvm.Cond.lays "WheelLand$Hands" "WheelLand$Hands" "weeks" "I") ∈ lw_all := lw_g (lw_at lw_m1 119 rfl) rfl
theorem q214 : (Jvm.Cond.soleField "WheelLand$Hands" "weeks") ∈ lw_all := lw_g (lw_at lw_m1 120 rfl) rfl
theorem q215 : (Jvm.Cond.laysFinal "WheelLand$Hands" "WheelLand$Hands" "this$0" "LWheelLand;") ∈ lw_all := lw_g (lw_at lw_m1 121 rfl) rfl
theorem q216 : (Jvm.Cond.soleField "WheelLand$Hands" "this$0") ∈ lw_all := lw_g (lw_at lw_m1 122 rfl) rfl
theorem q217 : (Jvm.Cond.superclass "WheelLand$Hands" "java/lang/Object") ∈ lw_all := lw_g (lw_at lw_m1 123 rfl) rfl
theorem q219 : (Jvm.Cond.fieldLinkNest "WheelLand$Hands" (48 : Nat) "WheelLand" "houses" "[LWheelLand$House;" "WheelLand") ∈ lw_tbl := lw_at lw_m1 125 rfl
theorem q447 : (Jvm.Cond.fieldLinkNest "WheelLand$Hands" (74 : Nat) "WheelLand$House" "village" "LWheelLand$Village;" "WheelLand") ∈ lw_tbl := lw_at lw_m2 113 rfl
theorem q464 : (Jvm.Cond.fieldLinkNest "WheelLand$Hands" (82 : Nat) "WheelLand$House" "loom" "LWheelLand$Loom;" "WheelLand") ∈ lw_tbl := lw_at lw_m2 130 rfl
theorem q521 : (Jvm.Cond.fieldLinkNest "WheelLand$Hands" (86 : Nat) "WheelLand$Loom" "hanks" "I" "WheelLand") ∈ lw_tbl := lw_at lw_m2 187 rfl
theorem q597 : (Jvm.Cond.fieldLink "WheelLand$Hands" (70 : Nat) "WheelLand$Lot" "house" "LWheelLand$House;") ∈ lw_all := lw_g (lw_at lw_m3 23 rfl) rfl
theorem q1106 : (Jvm.Cond.instanceMethod ({ cls := "WheelLand$Hands", name := "asks", desc := "(I)Z" } : Jvm.MethodName)) ∈ lw_all := lw_g (lw_at lw_m5 52 rfl) rfl
theorem q1107 : (Jvm.Cond.selects "WheelLand$Hands" ({ cls := "WheelLand$Hands", name := "asks", desc := "(I)Z" } : Jvm.MethodName) ({ cls := "WheelLand$Hands", name := "asks", desc := "(I)Z" } : Jvm.MethodName)) ∈ lw_all := lw_g (lw_at lw_m5 53 rfl) rfl
theorem q1108 : (Jvm.Cond.code ({ cls := "WheelLand$Hands", name := "asks", desc := "(I)Z" } : Jvm.MethodName) prog_4_method_2_code (3 : Nat) (Option.some Jvm.ClassFile.FieldType.boolean)) ∈ lw_all := lw_g (lw_at lw_m5 54 rfl) rfl
theorem q1109 : (Jvm.Cond.methodLinkNest "WheelLand$Hands" (44 : Nat) ({ cls := "WheelLand", name := "findHouse", desc := "(I)LWheelLand$House;" } : Jvm.MethodName) "WheelLand") ∈ lw_tbl := lw_at lw_m5 55 rfl
theorem q1110 : (Jvm.Cond.methodLink "WheelLand$Hands" (54 : Nat) ({ cls := "WheelLand$Hands", name := "tries", desc := "(III)V" } : Jvm.MethodName)) ∈ lw_all := lw_g (lw_at lw_m5 56 rfl) rfl
theorem q1111 : (Jvm.Cond.privateMethod ({ cls := "WheelLand$Hands", name := "tries", desc := "(III)V" } : Jvm.MethodName)) ∈ lw_tbl := lw_at lw_m5 57 rfl
theorem q1112 : (Jvm.Cond.instanceMethod ({ cls := "WheelLand$Hands", name := "tries", desc := "(III)V" } : Jvm.MethodName)) ∈ lw_all := lw_g (lw_at lw_m5 58 rfl) rfl
theorem q1113 : (Jvm.Cond.code ({ cls := "WheelLand$Hands", name := "tries", desc := "(III)V" } : Jvm.MethodName) prog_4_method_3_code (7 : Nat) (Option.none : Option Jvm.ClassFile.FieldType)) ∈ lw_all := lw_g (lw_at lw_m5 59 rfl) rfl
theorem q1114 : (Jvm.Cond.methodLink "WheelLand$Hands" (58 : Nat) ({ cls := "WheelLand$Hands", name := "judges", desc := "(II)V" } : Jvm.MethodName)) ∈ lw_all := lw_g (lw_at lw_m5 60 rfl) rfl
theorem q1115 : (Jvm.Cond.privateMethod ({ cls := "WheelLand$Hands", name := "judges", desc := "(II)V" } : Jvm.MethodName)) ∈ lw_tbl := lw_at lw_m5 61 rfl
theorem q1116 : (Jvm.Cond.instanceMethod ({ cls := "WheelLand$Hands", name := "judges", desc := "(II)V" } : Jvm.MethodName)) ∈ lw_all := lw_g (lw_at lw_m5 62 rfl) rfl
theorem q1117 : (Jvm.Cond.code ({ cls := "WheelLand$Hands", name := "judges", desc := "(II)V" } : Jvm.MethodName) prog_4_method_4_code (5 : Nat) (Option.none : Option Jvm.ClassFile.FieldType)) ∈ lw_all := lw_g (lw_at lw_m5 63 rfl) rfl
theorem q1118 : (Jvm.Cond.methodLinkNest "WheelLand$Hands" (91 : Nat) ({ cls := "WheelLand", name := "begun", desc := "(II)I" } : Jvm.MethodName) "WheelLand") ∈ lw_tbl := lw_at lw_m5 64 rfl
theorem q1119 : (Jvm.Cond.methodLink "WheelLand$Hands" (95 : Nat) ({ cls := "java/lang/Math", name := "max", desc := "(II)I" } : Jvm.MethodName)) ∈ lw_all := lw_g (lw_at lw_m5 65 rfl) rfl
theorem q1120 : (Jvm.Cond.methodLink "WheelLand$Hands" (62 : Nat) ({ cls := "WheelLand$Lot", name := "even", desc := "()I" } : Jvm.MethodName)) ∈ lw_all := lw_g (lw_at lw_m5 66 rfl) rfl
theorem q1124 : (Jvm.Cond.methodLinkNest "WheelLand$Hands" (66 : Nat) ({ cls := "WheelLand", name := "barOf", desc := "(LWheelLand$House;LWheelLand$Lot;I)I" } : Jvm.MethodName) "WheelLand") ∈ lw_tbl := lw_at lw_m5 70 rfl
theorem q1125 : (Jvm.Cond.methodLinkNest "WheelLand$Hands" (78 : Nat) ({ cls := "WheelLand", name := "farOf", desc := "(LWheelLand$Village;LWheelLand$Village;)I" } : Jvm.MethodName) "WheelLand") ∈ lw_tbl := lw_at lw_m5 71 rfl
theorem in_X2 : ∀ w ∈ wsX20, w ∈ lw_all := lw_in wsX20 [195, 197, 199, 201, 203, 205, 207, 209, 211, 213, 215] (by decide +kernel) (by decide +kernel)
/-! WheelLand$Village -/
set_option maxRecDepth 100000
def RX4 : String := "WheelLand$Village"
def TX4 : u_T := fun k => match k with
  | 0 => ("WheelLand$Village", "number", "I", true)
  | 1 => ("WheelLand$Village", "staple", "I", true)
  | 2 => ("WheelLand$Village", "idle", "[I", true)
  | 3 => ("WheelLand$Village", "millAt", "[I", true)
  | 4 => ("WheelLand$Village", "cotton", "I", false)
  | 5 => ("WheelLand$Village", "stamped", "I", false)
  | 6 => ("WheelLand$Village", "plain", "I", false)
  | 7 => ("WheelLand$Village", "mill", "I", false)
  | 8 => ("WheelLand$Village", "hand", "I", false)
  | 9 => ("WheelLand$Village", "price", "I", false)
  | 10 => ("WheelLand$Village", "word", "I", false)
  | 11 => ("WheelLand$Village", "wordNext", "I", false)
  | 12 => ("WheelLand$Village", "takings", "I", false)
  | 13 => ("WheelLand$Village", "sold", "I", false)
  | 14 => ("WheelLand$Village", "stampedEver", "I", false)
  | 15 => ("WheelLand$Village", "stampedSold", "I", false)
  | 16 => ("WheelLand$Village", "millNow", "I", false)
  | _ => ("WheelLand$Village", "millBefore", "I", false)
def tyX4 : Nat → FieldType := fun k => match k with
  | 0 => .int
  | 1 => .int
  | 2 => .array .int
  | 3 => .array .int
  | 4 => .int
  | 5 => .int
  | 6 => .int
  | 7 => .int
  | 8 => .int
  | 9 => .int
  | 10 => .int
  | 11 => .int
  | 12 => .int
  | 13 => .int
  | 14 => .int
  | 15 => .int
  | 16 => .int
  | _ => .int
abbrev wsX40 : List Cond := u_ws RX4 TX4 18
set_option maxRecDepth 100000 in
theorem nmX4 : ∀ a, a < 18 → ∀ b, b < 18 → a ≠ b → (TX4 a).2.1 ≠ (TX4 b).2.1 := by decide +kernel
set_option maxRecDepth 100000 in
theorem tyX4_ok : ∀ k, k < 18 → parseFieldDescriptor (TX4 k).2.2.1 = some (tyX4 k) := by decide +kernel
abbrev cX4_init : ByteArray := prog_12_method_1_code
def yX4_init : MethodName := ⟨RX4, "<init>", "(IIII)V"⟩
def dkwX4_init_4 : List UInt8 := [163, 0, 18, 42, 180, 0, 15, 21, 6, 16, 10, 79, 132, 6, 1, 167, 255, 236, 177]
abbrev dktX4_init_4 : List UInt8 := dkwX4_init_4 ++ []
def dkwX4_init_3 : List UInt8 := [112, 79, 21, 5, 16, 100, 108, 54, 5, 132, 6, 255, 167, 255, 229, 3, 54, 6, 21, 6, 17, 0, 156]
abbrev dktX4_init_3 : List UInt8 := dkwX4_init_3 ++ dktX4_init_4
def dkwX4_init_2 : List UInt8 := [181, 0, 31, 28, 54, 5, 6, 54, 6, 21, 6, 155, 0, 28, 42, 180, 0, 9, 21, 6, 21, 5, 16, 100]
abbrev dktX4_init_2 : List UInt8 := dkwX4_init_2 ++ dktX4_init_3
def dkwX4_init_1 : List UInt8 := [181, 0, 18, 42, 16, 10, 181, 0, 22, 42, 27, 181, 0, 25, 42, 29, 181, 0, 28, 42, 21, 4]
abbrev dktX4_init_1 : List UInt8 := dkwX4_init_1 ++ dktX4_init_2
def dkwX4_init_0 : List UInt8 := [42, 183, 0, 3, 42, 7, 188, 10, 181, 0, 9, 42, 17, 0, 157, 188, 10, 181, 0, 15, 42, 16, 20]
abbrev dktX4_init_0 : List UInt8 := dkwX4_init_0 ++ dktX4_init_1
theorem dksX4_init_0 : cX4_init.data.toList.drop 0 = dktX4_init_0 := by decide +kernel
theorem dksX4_init_1 : cX4_init.data.toList.drop 23 = dktX4_init_1 := dk_seg dksX4_init_0 23 rfl rfl
theorem dksX4_init_2 : cX4_init.data.toList.drop 45 = dktX4_init_2 := dk_seg dksX4_init_1 22 rfl rfl
theorem dksX4_init_3 : cX4_init.data.toList.drop 69 = dktX4_init_3 := dk_seg dksX4_init_2 24 rfl rfl
theorem dksX4_init_4 : cX4_init.data.toList.drop 92 = dktX4_init_4 := dk_seg dksX4_init_3 23 rfl rfl
theorem dX4_init_0 : decode cX4_init 0 = .ok (.aload_n 0, 1) := dk_42 (dk_at dksX4_init_0 0 rfl rfl)
theorem dX4_init_1 : decode cX4_init 1 = .ok (.invokespecial 3, 3) := dk_183 0 3 (dk_at dksX4_init_0 1 rfl rfl)
theorem dX4_init_4 : decode cX4_init 4 = .ok (.aload_n 0, 1) := dk_42 (dk_at dksX4_init_0 4 rfl rfl)
theorem dX4_init_5 : decode cX4_init 5 = .ok (.iconst 4, 1) := dk_7 (dk_at dksX4_init_0 5 rfl rfl)
theorem dX4_init_6 : decode cX4_init 6 = .ok (.newarray .int, 2) := dk_188_10 (dk_at dksX4_init_0 6 rfl rfl)
theorem dX4_init_8 : decode cX4_init 8 = .ok (.putfield 9, 3) := dk_181 0 9 (dk_at dksX4_init_0 8 rfl rfl)
theorem dX4_init_11 : decode cX4_init 11 = .ok (.aload_n 0, 1) := dk_42 (dk_at dksX4_init_0 11 rfl rfl)
theorem dX4_init_12 : decode cX4_init 12 = .ok (.sipush 157, 3) := dk_17 0 157 (dk_at dksX4_init_0 12 rfl rfl)
theorem dX4_init_15 : decode cX4_init 15 = .ok (.newarray .int, 2) := dk_188_10 (dk_at dksX4_init_0 15 rfl rfl)
theorem dX4_init_17 : decode cX4_init 17 = .ok (.putfield 15, 3) := dk_181 0 15 (dk_at dksX4_init_0 17 rfl rfl)
theorem dX4_init_20 : decode cX4_init 20 = .ok (.aload_n 0, 1) := dk_42 (dk_at dksX4_init_0 20 rfl rfl)
theorem dX4_init_21 : decode cX4_init 21 = .ok (.bipush 20, 2) := dk_16 20 (dk_at dksX4_init_0 21 rfl rfl)
theorem dX4_init_23 : decode cX4_init 23 = .ok (.putfield 18, 3) := dk_181 0 18 (dk_at dksX4_init_1 0 rfl rfl)
theorem dX4_init_26 : decode cX4_init 26 = .ok (.aload_n 0, 1) := dk_42 (dk_at dksX4_init_1 3 rfl rfl)
theorem dX4_init_27 : decode cX4_init 27 = .ok (.bipush 10, 2) := dk_16 10 (dk_at dksX4_init_1 4 rfl rfl)
theorem dX4_init_29 : decode cX4_init 29 = .ok (.putfield 22, 3) := dk_181 0 22 (dk_at dksX4_init_1 6 rfl rfl)
theorem dX4_init_32 : decode cX4_init 32 = .ok (.aload_n 0, 1) := dk_42 (dk_at dksX4_init_1 9 rfl rfl)
theorem dX4_init_33 : decode cX4_init 33 = .ok (.iload_n 1, 1) := dk_27 (dk_at dksX4_init_1 10 rfl rfl)
theorem dX4_init_34 : decode cX4_init 34 = .ok (.putfield 25, 3) := dk_181 0 25 (dk_at dksX4_init_1 11 rfl rfl)
theorem dX4_init_37 : decode cX4_init 37 = .ok (.aload_n 0, 1) := dk_42 (dk_at dksX4_init_1 14 rfl rfl)
theorem dX4_init_38 : decode cX4_init 38 = .ok (.iload_n 3, 1) := dk_29 (dk_at dksX4_init_1 15 rfl rfl)
theorem dX4_init_39 : decode cX4_init 39 = .ok (.putfield 28, 3) := dk_181 0 28 (dk_at dksX4_init_1 16 rfl rfl)
theorem dX4_init_42 : decode cX4_init 42 = .ok (.aload_n 0, 1) := dk_42 (dk_at dksX4_init_1 19 rfl rfl)
theorem dX4_init_43 : decode cX4_init 43 = .ok (.iload 4, 2) := dk_21 4 (dk_at dksX4_init_1 20 rfl rfl)
theorem dX4_init_45 : decode cX4_init 45 = .ok (.putfield 31, 3) := dk_181 0 31 (dk_at dksX4_init_2 0 rfl rfl)
theorem dX4_init_48 : decode cX4_init 48 = .ok (.iload_n 2, 1) := dk_28 (dk_at dksX4_init_2 3 rfl rfl)
theorem dX4_init_49 : decode cX4_init 49 = .ok (.istore 5, 2) := dk_54 5 (dk_at dksX4_init_2 4 rfl rfl)
theorem dX4_init_51 : decode cX4_init 51 = .ok (.iconst 3, 1) := dk_6 (dk_at dksX4_init_2 6 rfl rfl)
theorem dX4_init_52 : decode cX4_init 52 = .ok (.istore 6, 2) := dk_54 6 (dk_at dksX4_init_2 7 rfl rfl)
theorem dX4_init_54 : decode cX4_init 54 = .ok (.iload 6, 2) := dk_21 6 (dk_at dksX4_init_2 9 rfl rfl)
theorem dX4_init_56 : decode cX4_init 56 = .ok (.ifCond .lt 28, 3) := dk_155 0 28 (dk_at dksX4_init_2 11 rfl rfl)
theorem dX4_init_59 : decode cX4_init 59 = .ok (.aload_n 0, 1) := dk_42 (dk_at dksX4_init_2 14 rfl rfl)
theorem dX4_init_60 : decode cX4_init 60 = .ok (.getfield 9, 3) := dk_180 0 9 (dk_at dksX4_init_2 15 rfl rfl)
theorem dX4_init_63 : decode cX4_init 63 = .ok (.iload 6, 2) := dk_21 6 (dk_at dksX4_init_2 18 rfl rfl)
theorem dX4_init_65 : decode cX4_init 65 = .ok (.iload 5, 2) := dk_21 5 (dk_at dksX4_init_2 20 rfl rfl)
theorem dX4_init_67 : decode cX4_init 67 = .ok (.bipush 100, 2) := dk_16 100 (dk_at dksX4_init_2 22 rfl rfl)
theorem dX4_init_69 : decode cX4_init 69 = .ok (.irem, 1) := dk_112 (dk_at dksX4_init_3 0 rfl rfl)
theorem dX4_init_70 : decode cX4_init 70 = .ok (.iastore, 1) := dk_79 (dk_at dksX4_init_3 1 rfl rfl)
theorem dX4_init_71 : decode cX4_init 71 = .ok (.iload 5, 2) := dk_21 5 (dk_at dksX4_init_3 2 rfl rfl)
theorem dX4_init_73 : decode cX4_init 73 = .ok (.bipush 100, 2) := dk_16 100 (dk_at dksX4_init_3 4 rfl rfl)
theorem dX4_init_75 : decode cX4_init 75 = .ok (.idiv, 1) := dk_108 (dk_at dksX4_init_3 6 rfl rfl)
theorem dX4_init_76 : decode cX4_init 76 = .ok (.istore 5, 2) := dk_54 5 (dk_at dksX4_init_3 7 rfl rfl)
theorem dX4_init_78 : decode cX4_init 78 = .ok (.iinc 6 (-1), 3) := dk_132 6 255 (dk_at dksX4_init_3 9 rfl rfl)
theorem dX4_init_81 : decode cX4_init 81 = .ok (.goto (-27), 3) := dk_167 255 229 (dk_at dksX4_init_3 12 rfl rfl)
theorem dX4_init_84 : decode cX4_init 84 = .ok (.iconst 0, 1) := dk_3 (dk_at dksX4_init_3 15 rfl rfl)
theorem dX4_init_85 : decode cX4_init 85 = .ok (.istore 6, 2) := dk_54 6 (dk_at dksX4_init_3 16 rfl rfl)
theorem dX4_init_87 : decode cX4_init 87 = .ok (.iload 6, 2) := dk_21 6 (dk_at dksX4_init_3 18 rfl rfl)
theorem dX4_init_89 : decode cX4_init 89 = .ok (.sipush 156, 3) := dk_17 0 156 (dk_at dksX4_init_3 20 rfl rfl)
theorem dX4_init_92 : decode cX4_init 92 = .ok (.if_icmp .gt 18, 3) := dk_163 0 18 (dk_at dksX4_init_4 0 rfl rfl)
theorem dX4_init_95 : decode cX4_init 95 = .ok (.aload_n 0, 1) := dk_42 (dk_at dksX4_init_4 3 rfl rfl)
theorem dX4_init_96 : decode cX4_init 96 = .ok (.getfield 15, 3) := dk_180 0 15 (dk_at dksX4_init_4 4 rfl rfl)
theorem dX4_init_99 : decode cX4_init 99 = .ok (.iload 6, 2) := dk_21 6 (dk_at dksX4_init_4 7 rfl rfl)
theorem dX4_init_101 : decode cX4_init 101 = .ok (.bipush 10, 2) := dk_16 10 (dk_at dksX4_init_4 9 rfl rfl)
theorem dX4_init_103 : decode cX4_init 103 = .ok (.iastore, 1) := dk_79 (dk_at dksX4_init_4 11 rfl rfl)
theorem dX4_init_104 : decode cX4_init 104 = .ok (.iinc 6 1, 3) := dk_132 6 1 (dk_at dksX4_init_4 12 rfl rfl)
theorem dX4_init_107 : decode cX4_init 107 = .ok (.goto (-20), 3) := dk_167 255 236 (dk_at dksX4_init_4 15 rfl rfl)
theorem dX4_init_110 : decode cX4_init 110 = .ok (.return_, 1) := dk_177 (dk_at dksX4_init_4 18 rfl rfl)
abbrev cX4_hasHand : ByteArray := prog_12_method_2_code
def yX4_hasHand : MethodName := ⟨RX4, "hasHand", "()Z"⟩
def dkwX4_hasHand_0 : List UInt8 := [42, 180, 0, 34, 42, 180, 0, 37, 96, 158, 0, 7, 4, 167, 0, 4, 3, 172]
abbrev dktX4_hasHand_0 : List UInt8 := dkwX4_hasHand_0 ++ []
theorem dksX4_hasHand_0 : cX4_hasHand.data.toList.drop 0 = dktX4_hasHand_0 := by decide +kernel
theorem dX4_hasHand_0 : decode cX4_hasHand 0 = .ok (.aload_n 0, 1) := dk_42 (dk_at dksX4_hasHand_0 0 rfl rfl)
theorem dX4_hasHand_1 : decode cX4_hasHand 1 = .ok (.getfield 34, 3) := dk_180 0 34 (dk_at dksX4_hasHand_0 1 rfl rfl)
theorem dX4_hasHand_4 : decode cX4_hasHand 4 = .ok (.aload_n 0, 1) := dk_42 (dk_at dksX4_hasHand_0 4 rfl rfl)
theorem dX4_hasHand_5 : decode cX4_hasHand 5 = .ok (.getfield 37, 3) := dk_180 0 37 (dk_at dksX4_hasHand_0 5 rfl rfl)
theorem dX4_hasHand_8 : decode cX4_hasHand 8 = .ok (.iadd, 1) := dk_96 (dk_at dksX4_hasHand_0 8 rfl rfl)
theorem dX4_hasHand_9 : decode cX4_hasHand 9 = .ok (.ifCond .le 7, 3) := dk_158 0 7 (dk_at dksX4_hasHand_0 9 rfl rfl)
theorem dX4_hasHand_12 : decode cX4_hasHand 12 = .ok (.iconst 1, 1) := dk_4 (dk_at dksX4_hasHand_0 12 rfl rfl)
theorem dX4_hasHand_13 : decode cX4_hasHand 13 = .ok (.goto 4, 3) := dk_167 0 4 (dk_at dksX4_hasHand_0 13 rfl rfl)
theorem dX4_hasHand_16 : decode cX4_hasHand 16 = .ok (.iconst 0, 1) := dk_3 (dk_at dksX4_hasHand_0 16 rfl rfl)
theorem dX4_hasHand_17 : decode cX4_hasHand 17 = .ok (.ireturn, 1) := dk_172 (dk_at dksX4_hasHand_0 17 rfl rfl)
abbrev cX4_sellsHand : ByteArray := prog_12_method_3_code
def yX4_sellsHand : MethodName := ⟨RX4, "sellsHand", "()V"⟩
def dkwX4_sellsHand_2 : List UInt8 := [180, 0, 18, 96, 181, 0, 43, 177]
abbrev dktX4_sellsHand_2 : List UInt8 := dkwX4_sellsHand_2 ++ []
def dkwX4_sellsHand_1 : List UInt8 := [181, 0, 40, 167, 0, 13, 42, 89, 180, 0, 37, 4, 100, 181, 0, 37, 42, 89, 180, 0, 43, 42]
abbrev dktX4_sellsHand_1 : List UInt8 := dkwX4_sellsHand_1 ++ dktX4_sellsHand_2
def dkwX4_sellsHand_0 : List UInt8 := [42, 180, 0, 34, 158, 0, 26, 42, 89, 180, 0, 34, 4, 100, 181, 0, 34, 42, 89, 180, 0, 40, 4, 96]
abbrev dktX4_sellsHand_0 : List UInt8 := dkwX4_sellsHand_0 ++ dktX4_sellsHand_1
theorem dksX4_sellsHand_0 : cX4_sellsHand.data.toList.drop 0 = dktX4_sellsHand_0 := by decide +kernel
theorem dksX4_sellsHand_1 : cX4_sellsHand.data.toList.drop 24 = dktX4_sellsHand_1 := dk_seg dksX4_sellsHand_0 24 rfl rfl
theorem dksX4_sellsHand_2 : cX4_sellsHand.data.toList.drop 46 = dktX4_sellsHand_2 := dk_seg dksX4_sellsHand_1 22 rfl rfl
theorem dX4_sellsHand_0 : decode cX4_sellsHand 0 = .ok (.aload_n 0, 1) := dk_42 (dk_at dksX4_sellsHand_0 0 rfl rfl)
theorem dX4_sellsHand_1 : decode cX4_sellsHand 1 = .ok (.getfield 34, 3) := dk_180 0 34 (dk_at dksX4_sellsHand_0 1 rfl rfl)
theorem dX4_sellsHand_4 : decode cX4_sellsHand 4 = .ok (.ifCond .le 26, 3) := dk_158 0 26 (dk_at dksX4_sellsHand_0 4 rfl rfl)
theorem dX4_sellsHand_7 : decode cX4_sellsHand 7 = .ok (.aload_n 0, 1) := dk_42 (dk_at dksX4_sellsHand_0 7 rfl rfl)
theorem dX4_sellsHand_8 : decode cX4_sellsHand 8 = .ok (.dup, 1) := dk_89 (dk_at dksX4_sellsHand_0 8 rfl rfl)
theorem dX4_sellsHand_9 : decode cX4_sellsHand 9 = .ok (.getfield 34, 3) := dk_180 0 34 (dk_at dksX4_sellsHand_0 9 rfl rfl)
theorem dX4_sellsHand_12 : decode cX4_sellsHand 12 = .ok (.iconst 1, 1) := dk_4 (dk_at dksX4_sellsHand_0 12 rfl rfl)
theorem dX4_sellsHand_13 : decode cX4_sellsHand 13 = .ok (.isub, 1) := dk_100 (dk_at dksX4_sellsHand_0 13 rfl rfl)
theorem dX4_sellsHand_14 : decode cX4_sellsHand 14 = .ok (.putfield 34, 3) := dk_181 0 34 (dk_at dksX4_sellsHand_0 14 rfl rfl)
theorem dX4_sellsHand_17 : decode cX4_sellsHand 17 = .ok (.aload_n 0, 1) := dk_42 (dk_at dksX4_sellsHand_0 17 rfl rfl)
theorem dX4_sellsHand_18 : decode cX4_sellsHand 18 = .ok (.dup, 1) := dk_89 (dk_at dksX4_sellsHand_0 18 rfl rfl)
theorem dX4_sellsHand_19 : decode cX4_sellsHand 19 = .ok (.getfield 40, 3) := dk_180 0 40 (dk_at dksX4_sellsHand_0 19 rfl rfl)
theorem dX4_sellsHand_22 : decode cX4_sellsHand 22 = .ok (.iconst 1, 1) := dk_4 (dk_at dksX4_sellsHand_0 22 rfl rfl)
theorem dX4_sellsHand_23 : decode cX4_sellsHand 23 = .ok (.iadd, 1) := dk_96 (dk_at dksX4_sellsHand_0 23 rfl rfl)
theorem dX4_sellsHand_24 : decode cX4_sellsHand 24 = .ok (.putfield 40, 3) := dk_181 0 40 (dk_at dksX4_sellsHand_1 0 rfl rfl)
theorem dX4_sellsHand_27 : decode cX4_sellsHand 27 = .ok (.goto 13, 3) := dk_167 0 13 (dk_at dksX4_sellsHand_1 3 rfl rfl)
theorem dX4_sellsHand_30 : decode cX4_sellsHand 30 = .ok (.aload_n 0, 1) := dk_42 (dk_at dksX4_sellsHand_1 6 rfl rfl)
theorem dX4_sellsHand_31 : decode cX4_sellsHand 31 = .ok (.dup, 1) := dk_89 (dk_at dksX4_sellsHand_1 7 rfl rfl)
theorem dX4_sellsHand_32 : decode cX4_sellsHand 32 = .ok (.getfield 37, 3) := dk_180 0 37 (dk_at dksX4_sellsHand_1 8 rfl rfl)
theorem dX4_sellsHand_35 : decode cX4_sellsHand 35 = .ok (.iconst 1, 1) := dk_4 (dk_at dksX4_sellsHand_1 11 rfl rfl)
theorem dX4_sellsHand_36 : decode cX4_sellsHand 36 = .ok (.isub, 1) := dk_100 (dk_at dksX4_sellsHand_1 12 rfl rfl)
theorem dX4_sellsHand_37 : decode cX4_sellsHand 37 = .ok (.putfield 37, 3) := dk_181 0 37 (dk_at dksX4_sellsHand_1 13 rfl rfl)
theorem dX4_sellsHand_40 : decode cX4_sellsHand 40 = .ok (.aload_n 0, 1) := dk_42 (dk_at dksX4_sellsHand_1 16 rfl rfl)
theorem dX4_sellsHand_41 : decode cX4_sellsHand 41 = .ok (.dup, 1) := dk_89 (dk_at dksX4_sellsHand_1 17 rfl rfl)
theorem dX4_sellsHand_42 : decode cX4_sellsHand 42 = .ok (.getfield 43, 3) := dk_180 0 43 (dk_at dksX4_sellsHand_1 18 rfl rfl)
theorem dX4_sellsHand_45 : decode cX4_sellsHand 45 = .ok (.aload_n 0, 1) := dk_42 (dk_at dksX4_sellsHand_1 21 rfl rfl)
theorem dX4_sellsHand_46 : decode cX4_sellsHand 46 = .ok (.getfield 18, 3) := dk_180 0 18 (dk_at dksX4_sellsHand_2 0 rfl rfl)
theorem dX4_sellsHand_49 : decode cX4_sellsHand 49 = .ok (.iadd, 1) := dk_96 (dk_at dksX4_sellsHand_2 3 rfl rfl)
theorem dX4_sellsHand_50 : decode cX4_sellsHand 50 = .ok (.putfield 43, 3) := dk_181 0 43 (dk_at dksX4_sellsHand_2 4 rfl rfl)
theorem dX4_sellsHand_53 : decode cX4_sellsHand 53 = .ok (.return_, 1) := dk_177 (dk_at dksX4_sellsHand_2 7 rfl rfl)
abbrev cX4_sellsMill : ByteArray := prog_12_method_4_code
def yX4_sellsMill : MethodName := ⟨RX4, "sellsMill", "()V"⟩
def dkwX4_sellsMill_1 : List UInt8 := [180, 0, 43, 42, 180, 0, 22, 96, 181, 0, 43, 177]
abbrev dktX4_sellsMill_1 : List UInt8 := dkwX4_sellsMill_1 ++ []
def dkwX4_sellsMill_0 : List UInt8 := [42, 89, 180, 0, 46, 4, 100, 181, 0, 46, 42, 89, 180, 0, 49, 4, 96, 181, 0, 49, 42, 89]
abbrev dktX4_sellsMill_0 : List UInt8 := dkwX4_sellsMill_0 ++ dktX4_sellsMill_1
theorem dksX4_sellsMill_0 : cX4_sellsMill.data.toList.drop 0 = dktX4_sellsMill_0 := by decide +kernel
theorem dksX4_sellsMill_1 : cX4_sellsMill.data.toList.drop 22 = dktX4_sellsMill_1 := dk_seg dksX4_sellsMill_0 22 rfl rfl
theorem dX4_sellsMill_0 : decode cX4_sellsMill 0 = .ok (.aload_n 0, 1) := dk_42 (dk_at dksX4_sellsMill_0 0 rfl rfl)
theorem dX4_sellsMill_1 : decode cX4_sellsMill 1 = .ok (.dup, 1) := dk_89 (dk_at dksX4_sellsMill_0 1 rfl rfl)
theorem dX4_sellsMill_2 : decode cX4_sellsMill 2 = .ok (.getfield 46, 3) := dk_180 0 46 (dk_at dksX4_sellsMill_0 2 rfl rfl)
theorem dX4_sellsMill_5 : decode cX4_sellsMill 5 = .ok (.iconst 1, 1) := dk_4 (dk_at dksX4_sellsMill_0 5 rfl rfl)
theorem dX4_sellsMill_6 : decode cX4_sellsMill 6 = .ok (.isub, 1) := dk_100 (dk_at dksX4_sellsMill_0 6 rfl rfl)
theorem dX4_sellsMill_7 : decode cX4_sellsMill 7 = .ok (.putfield 46, 3) := dk_181 0 46 (dk_at dksX4_sellsMill_0 7 rfl rfl)
theorem dX4_sellsMill_10 : decode cX4_sellsMill 10 = .ok (.aload_n 0, 1) := dk_42 (dk_at dksX4_sellsMill_0 10 rfl rfl)
theorem dX4_sellsMill_11 : decode cX4_sellsMill 11 = .ok (.dup, 1) := dk_89 (dk_at dksX4_sellsMill_0 11 rfl rfl)
theorem dX4_sellsMill_12 : decode cX4_sellsMill 12 = .ok (.getfield 49, 3) := dk_180 0 49 (dk_at dksX4_sellsMill_0 12 rfl rfl)
theorem dX4_sellsMill_15 : decode cX4_sellsMill 15 = .ok (.iconst 1, 1) := dk_4 (dk_at dksX4_sellsMill_0 15 rfl rfl)
theorem dX4_sellsMill_16 : decode cX4_sellsMill 16 = .ok (.iadd, 1) := dk_96 (dk_at dksX4_sellsMill_0 16 rfl rfl)
theorem dX4_sellsMill_17 : decode cX4_sellsMill 17 = .ok (.putfield 49, 3) := dk_181 0 49 (dk_at dksX4_sellsMill_0 17 rfl rfl)
theorem dX4_sellsMill_20 : decode cX4_sellsMill 20 = .ok (.aload_n 0, 1) := dk_42 (dk_at dksX4_sellsMill_0 20 rfl rfl)
theorem dX4_sellsMill_21 : decode cX4_sellsMill 21 = .ok (.dup, 1) := dk_89 (dk_at dksX4_sellsMill_0 21 rfl rfl)
theorem dX4_sellsMill_22 : decode cX4_sellsMill 22 = .ok (.getfield 43, 3) := dk_180 0 43 (dk_at dksX4_sellsMill_1 0 rfl rfl)
theorem dX4_sellsMill_25 : decode cX4_sellsMill 25 = .ok (.aload_n 0, 1) := dk_42 (dk_at dksX4_sellsMill_1 3 rfl rfl)
theorem dX4_sellsMill_26 : decode cX4_sellsMill 26 = .ok (.getfield 22, 3) := dk_180 0 22 (dk_at dksX4_sellsMill_1 4 rfl rfl)
theorem dX4_sellsMill_29 : decode cX4_sellsMill 29 = .ok (.iadd, 1) := dk_96 (dk_at dksX4_sellsMill_1 7 rfl rfl)
theorem dX4_sellsMill_30 : decode cX4_sellsMill 30 = .ok (.putfield 43, 3) := dk_181 0 43 (dk_at dksX4_sellsMill_1 8 rfl rfl)
theorem dX4_sellsMill_33 : decode cX4_sellsMill 33 = .ok (.return_, 1) := dk_177 (dk_at dksX4_sellsMill_1 11 rfl rfl)
abbrev cX4_answers : ByteArray := prog_12_method_5_code
def yX4_answers : MethodName := ⟨RX4, "answers", "()V"⟩
def dkwX4_answers_2 : List UInt8 := [181, 0, 52, 42, 3, 181, 0, 49, 177]
abbrev dktX4_answers_2 : List UInt8 := dkwX4_answers_2 ++ []
def dkwX4_answers_1 : List UInt8 := [167, 0, 14, 16, 99, 42, 180, 0, 22, 4, 96, 184, 0, 61, 181, 0, 22, 42, 42, 180, 0, 49]
abbrev dktX4_answers_1 : List UInt8 := dkwX4_answers_1 ++ dktX4_answers_2
def dkwX4_answers_0 : List UInt8 := [42, 42, 180, 0, 49, 42, 180, 0, 52, 162, 0, 16, 4, 42, 180, 0, 22, 4, 100, 184, 0, 55]
abbrev dktX4_answers_0 : List UInt8 := dkwX4_answers_0 ++ dktX4_answers_1
theorem dksX4_answers_0 : cX4_answers.data.toList.drop 0 = dktX4_answers_0 := by decide +kernel
theorem dksX4_answers_1 : cX4_answers.data.toList.drop 22 = dktX4_answers_1 := dk_seg dksX4_answers_0 22 rfl rfl
theorem dksX4_answers_2 : cX4_answers.data.toList.drop 44 = dktX4_answers_2 := dk_seg dksX4_answers_1 22 rfl rfl
theorem dX4_answers_0 : decode cX4_answers 0 = .ok (.aload_n 0, 1) := dk_42 (dk_at dksX4_answers_0 0 rfl rfl)
theorem dX4_answers_1 : decode cX4_answers 1 = .ok (.aload_n 0, 1) := dk_42 (dk_at dksX4_answers_0 1 rfl rfl)
theorem dX4_answers_2 : decode cX4_answers 2 = .ok (.getfield 49, 3) := dk_180 0 49 (dk_at dksX4_answers_0 2 rfl rfl)
theorem dX4_answers_5 : decode cX4_answers 5 = .ok (.aload_n 0, 1) := dk_42 (dk_at dksX4_answers_0 5 rfl rfl)
theorem dX4_answers_6 : decode cX4_answers 6 = .ok (.getfield 52, 3) := dk_180 0 52 (dk_at dksX4_answers_0 6 rfl rfl)
theorem dX4_answers_9 : decode cX4_answers 9 = .ok (.if_icmp .ge 16, 3) := dk_162 0 16 (dk_at dksX4_answers_0 9 rfl rfl)
theorem dX4_answers_12 : decode cX4_answers 12 = .ok (.iconst 1, 1) := dk_4 (dk_at dksX4_answers_0 12 rfl rfl)
theorem dX4_answers_13 : decode cX4_answers 13 = .ok (.aload_n 0, 1) := dk_42 (dk_at dksX4_answers_0 13 rfl rfl)
theorem dX4_answers_14 : decode cX4_answers 14 = .ok (.getfield 22, 3) := dk_180 0 22 (dk_at dksX4_answers_0 14 rfl rfl)
theorem dX4_answers_17 : decode cX4_answers 17 = .ok (.iconst 1, 1) := dk_4 (dk_at dksX4_answers_0 17 rfl rfl)
theorem dX4_answers_18 : decode cX4_answers 18 = .ok (.isub, 1) := dk_100 (dk_at dksX4_answers_0 18 rfl rfl)
theorem dX4_answers_19 : decode cX4_answers 19 = .ok (.invokestatic 55, 3) := dk_184 0 55 (dk_at dksX4_answers_0 19 rfl rfl)
theorem dX4_answers_22 : decode cX4_answers 22 = .ok (.goto 14, 3) := dk_167 0 14 (dk_at dksX4_answers_1 0 rfl rfl)
theorem dX4_answers_25 : decode cX4_answers 25 = .ok (.bipush 99, 2) := dk_16 99 (dk_at dksX4_answers_1 3 rfl rfl)
theorem dX4_answers_27 : decode cX4_answers 27 = .ok (.aload_n 0, 1) := dk_42 (dk_at dksX4_answers_1 5 rfl rfl)
theorem dX4_answers_28 : decode cX4_answers 28 = .ok (.getfield 22, 3) := dk_180 0 22 (dk_at dksX4_answers_1 6 rfl rfl)
theorem dX4_answers_31 : decode cX4_answers 31 = .ok (.iconst 1, 1) := dk_4 (dk_at dksX4_answers_1 9 rfl rfl)
theorem dX4_answers_32 : decode cX4_answers 32 = .ok (.iadd, 1) := dk_96 (dk_at dksX4_answers_1 10 rfl rfl)
theorem dX4_answers_33 : decode cX4_answers 33 = .ok (.invokestatic 61, 3) := dk_184 0 61 (dk_at dksX4_answers_1 11 rfl rfl)
theorem dX4_answers_36 : decode cX4_answers 36 = .ok (.putfield 22, 3) := dk_181 0 22 (dk_at dksX4_answers_1 14 rfl rfl)
theorem dX4_answers_39 : decode cX4_answers 39 = .ok (.aload_n 0, 1) := dk_42 (dk_at dksX4_answers_1 17 rfl rfl)
theorem dX4_answers_40 : decode cX4_answers 40 = .ok (.aload_n 0, 1) := dk_42 (dk_at dksX4_answers_1 18 rfl rfl)
theorem dX4_answers_41 : decode cX4_answers 41 = .ok (.getfield 49, 3) := dk_180 0 49 (dk_at dksX4_answers_1 19 rfl rfl)
theorem dX4_answers_44 : decode cX4_answers 44 = .ok (.putfield 52, 3) := dk_181 0 52 (dk_at dksX4_answers_2 0 rfl rfl)
theorem dX4_answers_47 : decode cX4_answers 47 = .ok (.aload_n 0, 1) := dk_42 (dk_at dksX4_answers_2 3 rfl rfl)
theorem dX4_answers_48 : decode cX4_answers 48 = .ok (.iconst 0, 1) := dk_3 (dk_at dksX4_answers_2 4 rfl rfl)
theorem dX4_answers_49 : decode cX4_answers 49 = .ok (.putfield 49, 3) := dk_181 0 49 (dk_at dksX4_answers_2 5 rfl rfl)
theorem dX4_answers_52 : decode cX4_answers 52 = .ok (.return_, 1) := dk_177 (dk_at dksX4_answers_2 8 rfl rfl)
theorem q99 : (Jvm.Cond.initialized "WheelLand$Village") ∈ lw_all := lw_g (lw_at lw_m1 5 rfl) rfl
theorem q333 : (Jvm.Cond.instantiable "WheelLand$Village" (18 : Nat)) ∈ lw_all := lw_g (lw_at lw_m1 239 rfl) rfl
theorem q335 : (Jvm.Cond.instanceMethod ({ cls := "WheelLand$Village", name := "<init>", desc := "(IIII)V" } : Jvm.MethodName)) ∈ lw_all := lw_g (lw_at lw_m2 1 rfl) rfl
theorem q336 : (Jvm.Cond.code ({ cls := "WheelLand$Village", name := "<init>", desc := "(IIII)V" } : Jvm.MethodName) prog_12_method_1_code (7 : Nat) (Option.none : Option Jvm.ClassFile.FieldType)) ∈ lw_all := lw_g (lw_at lw_m2 2 rfl) rfl
theorem q337 : (Jvm.Cond.methodLink "WheelLand$Village" (3 : Nat) ({ cls := "java/lang/Object", name := "<init>", desc := "()V" } : Jvm.MethodName)) ∈ lw_all := lw_g (lw_at lw_m2 3 rfl) rfl
theorem q338 : (Jvm.Cond.fieldLink "WheelLand$Village" (25 : Nat) "WheelLand$Village" "number" "I") ∈ lw_all := lw_g (lw_at lw_m2 4 rfl) rfl
theorem q340 : (Jvm.Cond.fieldLink "WheelLand$Village" (28 : Nat) "WheelLand$Village" "staple" "I") ∈ lw_all := lw_g (lw_at lw_m2 6 rfl) rfl
theorem q342 : (Jvm.Cond.fieldLink "WheelLand$Village" (9 : Nat) "WheelLand$Village" "idle" "[I") ∈ lw_all := lw_g (lw_at lw_m2 8 rfl) rfl
theorem q345 : (Jvm.Cond.fieldLink "WheelLand$Village" (15 : Nat) "WheelLand$Village" "millAt" "[I") ∈ lw_all := lw_g (lw_at lw_m2 11 rfl) rfl
theorem q347 : (Jvm.Cond.fieldLink "WheelLand$Village" (31 : Nat) "WheelLand$Village" "cotton" "I") ∈ lw_all := lw_g (lw_at lw_m2 13 rfl) rfl
theorem q349 : (Jvm.Cond.fieldLink "WheelLand$Village" (34 : Nat) "WheelLand$Village" "stamped" "I") ∈ lw_all := lw_g (lw_at lw_m2 15 rfl) rfl
theorem q351 : (Jvm.Cond.fieldLink "WheelLand$Village" (37 : Nat) "WheelLand$Village" "plain" "I") ∈ lw_all := lw_g (lw_at lw_m2 17 rfl) rfl
theorem q353 : (Jvm.Cond.fieldLink "WheelLand$Village" (46 : Nat) "WheelLand$Village" "mill" "I") ∈ lw_all := lw_g (lw_at lw_m2 19 rfl) rfl
theorem q355 : (Jvm.Cond.fieldLink "WheelLand$Village" (18 : Nat) "WheelLand$Village" "hand" "I") ∈ lw_all := lw_g (lw_at lw_m2 21 rfl) rfl
theorem q357 : (Jvm.Cond.fieldLink "WheelLand$Village" (22 : Nat) "WheelLand$Village" "price" "I") ∈ lw_all := lw_g (lw_at lw_m2 23 rfl) rfl
theorem q361 : (Jvm.Cond.fieldLink "WheelLand$Village" (43 : Nat) "WheelLand$Village" "takings" "I") ∈ lw_all := lw_g (lw_at lw_m2 27 rfl) rfl
theorem q365 : (Jvm.Cond.fieldLink "WheelLand$Village" (40 : Nat) "WheelLand$Village" "stampedSold" "I") ∈ lw_all := lw_g (lw_at lw_m2 31 rfl) rfl
theorem q367 : (Jvm.Cond.fieldLink "WheelLand$Village" (49 : Nat) "WheelLand$Village" "millNow" "I") ∈ lw_all := lw_g (lw_at lw_m2 33 rfl) rfl
theorem q369 : (Jvm.Cond.fieldLink "WheelLand$Village" (52 : Nat) "WheelLand$Village" "millBefore" "I") ∈ lw_all := lw_g (lw_at lw_m2 35 rfl) rfl
theorem q370 : (Jvm.Cond.laysFinal "WheelLand$Village" "WheelLand$Village" "number" "I") ∈ lw_all := lw_g (lw_at lw_m2 36 rfl) rfl
theorem q371 : (Jvm.Cond.soleField "WheelLand$Village" "number") ∈ lw_all := lw_g (lw_at lw_m2 37 rfl) rfl
theorem q372 : (Jvm.Cond.laysFinal "WheelLand$Village" "WheelLand$Village" "staple" "I") ∈ lw_all := lw_g (lw_at lw_m2 38 rfl) rfl
theorem q373 : (Jvm.Cond.soleField "WheelLand$Village" "staple") ∈ lw_all := lw_g (lw_at lw_m2 39 rfl) rfl
theorem q374 : (Jvm.Cond.laysFinal "WheelLand$Village" "WheelLand$Village" "idle" "[I") ∈ lw_all := lw_g (lw_at lw_m2 40 rfl) rfl
theorem q375 : (Jvm.Cond.soleField "WheelLand$Village" "idle") ∈ lw_all := lw_g (lw_at lw_m2 41 rfl) rfl
theorem q376 : (Jvm.Cond.laysFinal "WheelLand$Village" "WheelLand$Village" "millAt" "[I") ∈ lw_all := lw_g (lw_at lw_m2 42 rfl) rfl
theorem q377 : (Jvm.Cond.soleField "WheelLand$Village" "millAt") ∈ lw_all := lw_g (lw_at lw_m2 43 rfl) rfl
theorem q378 : (Jvm.Cond.lays "WheelLand$Village" "WheelLand$Village" "cotton" "I") ∈ lw_all := lw_g (lw_at lw_m2 44 rfl) rfl
theorem q379 : (Jvm.Cond.soleField "WheelLand$Village" "cotton") ∈ lw_all := lw_g (lw_at lw_m2 45 rfl) rfl
theorem q380 : (Jvm.Cond.lays "WheelLand$Village" "WheelLand$Village" "stamped" "I") ∈ lw_all := lw_g (lw_at lw_m2 46 rfl) rfl
theorem q381 : (Jvm.Cond.soleField "WheelLand$Village" "stamped") ∈ lw_all := lw_g (lw_at lw_m2 47 rfl) rfl
theorem q382 : (Jvm.Cond.lays "WheelLand$Village" "WheelLand$Village" "plain" "I") ∈ lw_all := lw_g (lw_at lw_m2 48 rfl) rfl
theorem q383 : (Jvm.Cond.soleField "WheelLand$Village" "plain") ∈ lw_all := lw_g (lw_at lw_m2 49 rfl) rfl
theorem q384 : (Jvm.Cond.lays "WheelLand$Village" "WheelLand$Village" "mill" "I") ∈ lw_all := lw_g (lw_at lw_m2 50 rfl) rfl
theorem q385 : (Jvm.Cond.soleField "WheelLand$Village" "mill") ∈ lw_all := lw_g (lw_at lw_m2 51 rfl) rfl
theorem q386 : (Jvm.Cond.lays "WheelLand$Village" "WheelLand$Village" "hand" "I") ∈ lw_all := lw_g (lw_at lw_m2 52 rfl) rfl
theorem q387 : (Jvm.Cond.soleField "WheelLand$Village" "hand") ∈ lw_all := lw_g (lw_at lw_m2 53 rfl) rfl
theorem q388 : (Jvm.Cond.lays "WheelLand$Village" "WheelLand$Village" "price" "I") ∈ lw_all := lw_g (lw_at lw_m2 54 rfl) rfl
theorem q389 : (Jvm.Cond.soleField "WheelLand$Village" "price") ∈ lw_all := lw_g (lw_at lw_m2 55 rfl) rfl
theorem q390 : (Jvm.Cond.lays "WheelLand$Village" "WheelLand$Village" "word" "I") ∈ lw_all := lw_g (lw_at lw_m2 56 rfl) rfl
theorem q391 : (Jvm.Cond.soleField "WheelLand$Village" "word") ∈ lw_all := lw_g (lw_at lw_m2 57 rfl) rfl
theorem q392 : (Jvm.Cond.lays "WheelLand$Village" "WheelLand$Village" "wordNext" "I") ∈ lw_all := lw_g (lw_at lw_m2 58 rfl) rfl
theorem q393 : (Jvm.Cond.soleField "WheelLand$Village" "wordNext") ∈ lw_all := lw_g (lw_at lw_m2 59 rfl) rfl
theorem q394 : (Jvm.Cond.lays "WheelLand$Village" "WheelLand$Village" "takings" "I") ∈ lw_all := lw_g (lw_at lw_m2 60 rfl) rfl
theorem q395 : (Jvm.Cond.soleField "WheelLand$Village" "takings") ∈ lw_all := lw_g (lw_at lw_m2 61 rfl) rfl
theorem q396 : (Jvm.Cond.lays "WheelLand$Village" "WheelLand$Village" "sold" "I") ∈ lw_all := lw_g (lw_at lw_m2 62 rfl) rfl
theorem q397 : (Jvm.Cond.soleField "WheelLand$Village" "sold") ∈ lw_all := lw_g (lw_at lw_m2 63 rfl) rfl
theorem q398 : (Jvm.Cond.lays "WheelLand$Village" "WheelLand$Village" "stampedEver" "I") ∈ lw_all := lw_g (lw_at lw_m2 64 rfl) rfl
theorem q399 : (Jvm.Cond.soleField "WheelLand$Village" "stampedEver") ∈ lw_all := lw_g (lw_at lw_m2 65 rfl) rfl
theorem q400 : (Jvm.Cond.lays "WheelLand$Village" "WheelLand$Village" "stampedSold" "I") ∈ lw_all := lw_g (lw_at lw_m2 66 rfl) rfl
theorem q401 : (Jvm.Cond.soleField "WheelLand$Village" "stampedSold") ∈ lw_all := lw_g (lw_at lw_m2 67 rfl) rfl
theorem q402 : (Jvm.Cond.lays "WheelLand$Village" "WheelLand$Village" "millNow" "I") ∈ lw_all := lw_g (lw_at lw_m2 68 rfl) rfl
theorem q403 : (Jvm.Cond.soleField "WheelLand$Village" "millNow") ∈ lw_all := lw_g (lw_at lw_m2 69 rfl) rfl
theorem q404 : (Jvm.Cond.lays "WheelLand$Village" "WheelLand$Village" "millBefore" "I") ∈ lw_all := lw_g (lw_at lw_m2 70 rfl) rfl
theorem q405 : (Jvm.Cond.soleField "WheelLand$Village" "millBefore") ∈ lw_all := lw_g (lw_at lw_m2 71 rfl) rfl
theorem q406 : (Jvm.Cond.superclass "WheelLand$Village" "java/lang/Object") ∈ lw_all := lw_g (lw_at lw_m2 72 rfl) rfl
theorem q674 : (Jvm.Cond.instanceMethod ({ cls := "WheelLand$Village", name := "hasHand", desc := "()Z" } : Jvm.MethodName)) ∈ lw_all := lw_g (lw_at lw_m3 100 rfl) rfl
theorem q675 : (Jvm.Cond.selects "WheelLand$Village" ({ cls := "WheelLand$Village", name := "hasHand", desc := "()Z" } : Jvm.MethodName) ({ cls := "WheelLand$Village", name := "hasHand", desc := "()Z" } : Jvm.MethodName)) ∈ lw_all := lw_g (lw_at lw_m3 101 rfl) rfl
theorem q676 : (Jvm.Cond.code ({ cls := "WheelLand$Village", name := "hasHand", desc := "()Z" } : Jvm.MethodName) prog_12_method_2_code (1 : Nat) (Option.some Jvm.ClassFile.FieldType.boolean)) ∈ lw_all := lw_g (lw_at lw_m3 102 rfl) rfl
theorem q678 : (Jvm.Cond.instanceMethod ({ cls := "WheelLand$Village", name := "sellsHand", desc := "()V" } : Jvm.MethodName)) ∈ lw_all := lw_g (lw_at lw_m3 104 rfl) rfl
theorem q679 : (Jvm.Cond.selects "WheelLand$Village" ({ cls := "WheelLand$Village", name := "sellsHand", desc := "()V" } : Jvm.MethodName) ({ cls := "WheelLand$Village", name := "sellsHand", desc := "()V" } : Jvm.MethodName)) ∈ lw_all := lw_g (lw_at lw_m3 105 rfl) rfl
theorem q680 : (Jvm.Cond.code ({ cls := "WheelLand$Village", name := "sellsHand", desc := "()V" } : Jvm.MethodName) prog_12_method_3_code (1 : Nat) (Option.none : Option Jvm.ClassFile.FieldType)) ∈ lw_all := lw_g (lw_at lw_m3 106 rfl) rfl
theorem q682 : (Jvm.Cond.instanceMethod ({ cls := "WheelLand$Village", name := "sellsMill", desc := "()V" } : Jvm.MethodName)) ∈ lw_all := lw_g (lw_at lw_m3 108 rfl) rfl
theorem q683 : (Jvm.Cond.selects "WheelLand$Village" ({ cls := "WheelLand$Village", name := "sellsMill", desc := "()V" } : Jvm.MethodName) ({ cls := "WheelLand$Village", name := "sellsMill", desc := "()V" } : Jvm.MethodName)) ∈ lw_all := lw_g (lw_at lw_m3 109 rfl) rfl
theorem q684 : (Jvm.Cond.code ({ cls := "WheelLand$Village", name := "sellsMill", desc := "()V" } : Jvm.MethodName) prog_12_method_4_code (1 : Nat) (Option.none : Option Jvm.ClassFile.FieldType)) ∈ lw_all := lw_g (lw_at lw_m3 110 rfl) rfl
theorem q698 : (Jvm.Cond.instanceMethod ({ cls := "WheelLand$Village", name := "answers", desc := "()V" } : Jvm.MethodName)) ∈ lw_all := lw_g (lw_at lw_m3 124 rfl) rfl
theorem q699 : (Jvm.Cond.selects "WheelLand$Village" ({ cls := "WheelLand$Village", name := "answers", desc := "()V" } : Jvm.MethodName) ({ cls := "WheelLand$Village", name := "answers", desc := "()V" } : Jvm.MethodName)) ∈ lw_all := lw_g (lw_at lw_m3 125 rfl) rfl
theorem q700 : (Jvm.Cond.code ({ cls := "WheelLand$Village", name := "answers", desc := "()V" } : Jvm.MethodName) prog_12_method_5_code (1 : Nat) (Option.none : Option Jvm.ClassFile.FieldType)) ∈ lw_all := lw_g (lw_at lw_m3 126 rfl) rfl
theorem q701 : (Jvm.Cond.methodLink "WheelLand$Village" (55 : Nat) ({ cls := "java/lang/Math", name := "max", desc := "(II)I" } : Jvm.MethodName)) ∈ lw_all := lw_g (lw_at lw_m3 127 rfl) rfl
theorem q702 : (Jvm.Cond.methodLink "WheelLand$Village" (61 : Nat) ({ cls := "java/lang/Math", name := "min", desc := "(II)I" } : Jvm.MethodName)) ∈ lw_all := lw_g (lw_at lw_m3 128 rfl) rfl
theorem in_X4 : ∀ w ∈ wsX40, w ∈ lw_all := lw_in wsX40 [370, 372, 374, 376, 378, 380, 382, 384, 386, 388, 390, 392, 394, 396, 398, 400, 402, 404] (by decide +kernel) (by decide +kernel)
/-! WheelLand$House -/
set_option maxRecDepth 100000
def RX5 : String := "WheelLand$House"
def TX5 : u_T := fun k => match k with
  | 0 => ("WheelLand$House", "number", "I", true)
  | 1 => ("WheelLand$House", "caste", "I", true)
  | 2 => ("WheelLand$House", "heads", "I", true)
  | 3 => ("WheelLand$House", "village", "LWheelLand$Village;", true)
  | 4 => ("WheelLand$House", "wheels", "I", false)
  | 5 => ("WheelLand$House", "skill", "I", false)
  | 6 => ("WheelLand$House", "purse", "I", false)
  | 7 => ("WheelLand$House", "aim", "I", false)
  | 8 => ("WheelLand$House", "bare", "I", false)
  | 9 => ("WheelLand$House", "ofHand", "I", false)
  | 10 => ("WheelLand$House", "ofMill", "I", false)
  | 11 => ("WheelLand$House", "owes", "I", false)
  | 12 => ("WheelLand$House", "paid", "I", false)
  | 13 => ("WheelLand$House", "other", "I", false)
  | 14 => ("WheelLand$House", "can", "I", false)
  | _ => ("WheelLand$House", "loom", "LWheelLand$Loom;", false)
def tyX5 : Nat → FieldType := fun k => match k with
  | 0 => .int
  | 1 => .int
  | 2 => .int
  | 3 => .object "WheelLand$Village"
  | 4 => .int
  | 5 => .int
  | 6 => .int
  | 7 => .int
  | 8 => .int
  | 9 => .int
  | 10 => .int
  | 11 => .int
  | 12 => .int
  | 13 => .int
  | 14 => .int
  | _ => .object "WheelLand$Loom"
abbrev wsX50 : List Cond := u_ws RX5 TX5 16
set_option maxRecDepth 100000 in
theorem nmX5 : ∀ a, a < 16 → ∀ b, b < 16 → a ≠ b → (TX5 a).2.1 ≠ (TX5 b).2.1 := by decide +kernel
set_option maxRecDepth 100000 in
theorem tyX5_ok : ∀ k, k < 16 → parseFieldDescriptor (TX5 k).2.2.1 = some (tyX5 k) := by decide +kernel
abbrev cX5_init : ByteArray := prog_6_method_1_code
def yX5_init : MethodName := ⟨RX5, "<init>", "(ILWheelLand$Village;I)V"⟩
def dkwX5_init_2 : List UInt8 := [16, 10, 112, 181, 0, 26, 42, 29, 16, 10, 112, 181, 0, 29, 177]
abbrev dktX5_init_2 : List UInt8 := dkwX5_init_2 ++ []
def dkwX5_init_1 : List UInt8 := [17, 3, 232, 108, 181, 0, 20, 42, 29, 16, 100, 108, 16, 10, 112, 181, 0, 23, 42, 29, 16, 10, 108]
abbrev dktX5_init_1 : List UInt8 := dkwX5_init_1 ++ dktX5_init_2
def dkwX5_init_0 : List UInt8 := [42, 183, 0, 1, 42, 16, 10, 181, 0, 7, 42, 27, 181, 0, 13, 42, 44, 181, 0, 16, 42, 29]
abbrev dktX5_init_0 : List UInt8 := dkwX5_init_0 ++ dktX5_init_1
theorem dksX5_init_0 : cX5_init.data.toList.drop 0 = dktX5_init_0 := by decide +kernel
theorem dksX5_init_1 : cX5_init.data.toList.drop 22 = dktX5_init_1 := dk_seg dksX5_init_0 22 rfl rfl
theorem dksX5_init_2 : cX5_init.data.toList.drop 45 = dktX5_init_2 := dk_seg dksX5_init_1 23 rfl rfl
theorem dX5_init_0 : decode cX5_init 0 = .ok (.aload_n 0, 1) := dk_42 (dk_at dksX5_init_0 0 rfl rfl)
theorem dX5_init_1 : decode cX5_init 1 = .ok (.invokespecial 1, 3) := dk_183 0 1 (dk_at dksX5_init_0 1 rfl rfl)
theorem dX5_init_4 : decode cX5_init 4 = .ok (.aload_n 0, 1) := dk_42 (dk_at dksX5_init_0 4 rfl rfl)
theorem dX5_init_5 : decode cX5_init 5 = .ok (.bipush 10, 2) := dk_16 10 (dk_at dksX5_init_0 5 rfl rfl)
theorem dX5_init_7 : decode cX5_init 7 = .ok (.putfield 7, 3) := dk_181 0 7 (dk_at dksX5_init_0 7 rfl rfl)
theorem dX5_init_10 : decode cX5_init 10 = .ok (.aload_n 0, 1) := dk_42 (dk_at dksX5_init_0 10 rfl rfl)
theorem dX5_init_11 : decode cX5_init 11 = .ok (.iload_n 1, 1) := dk_27 (dk_at dksX5_init_0 11 rfl rfl)
theorem dX5_init_12 : decode cX5_init 12 = .ok (.putfield 13, 3) := dk_181 0 13 (dk_at dksX5_init_0 12 rfl rfl)
theorem dX5_init_15 : decode cX5_init 15 = .ok (.aload_n 0, 1) := dk_42 (dk_at dksX5_init_0 15 rfl rfl)
theorem dX5_init_16 : decode cX5_init 16 = .ok (.aload_n 2, 1) := dk_44 (dk_at dksX5_init_0 16 rfl rfl)
theorem dX5_init_17 : decode cX5_init 17 = .ok (.putfield 16, 3) := dk_181 0 16 (dk_at dksX5_init_0 17 rfl rfl)
theorem dX5_init_20 : decode cX5_init 20 = .ok (.aload_n 0, 1) := dk_42 (dk_at dksX5_init_0 20 rfl rfl)
theorem dX5_init_21 : decode cX5_init 21 = .ok (.iload_n 3, 1) := dk_29 (dk_at dksX5_init_0 21 rfl rfl)
theorem dX5_init_22 : decode cX5_init 22 = .ok (.sipush 1000, 3) := dk_17 3 232 (dk_at dksX5_init_1 0 rfl rfl)
theorem dX5_init_25 : decode cX5_init 25 = .ok (.idiv, 1) := dk_108 (dk_at dksX5_init_1 3 rfl rfl)
theorem dX5_init_26 : decode cX5_init 26 = .ok (.putfield 20, 3) := dk_181 0 20 (dk_at dksX5_init_1 4 rfl rfl)
theorem dX5_init_29 : decode cX5_init 29 = .ok (.aload_n 0, 1) := dk_42 (dk_at dksX5_init_1 7 rfl rfl)
theorem dX5_init_30 : decode cX5_init 30 = .ok (.iload_n 3, 1) := dk_29 (dk_at dksX5_init_1 8 rfl rfl)
theorem dX5_init_31 : decode cX5_init 31 = .ok (.bipush 100, 2) := dk_16 100 (dk_at dksX5_init_1 9 rfl rfl)
theorem dX5_init_33 : decode cX5_init 33 = .ok (.idiv, 1) := dk_108 (dk_at dksX5_init_1 11 rfl rfl)
theorem dX5_init_34 : decode cX5_init 34 = .ok (.bipush 10, 2) := dk_16 10 (dk_at dksX5_init_1 12 rfl rfl)
theorem dX5_init_36 : decode cX5_init 36 = .ok (.irem, 1) := dk_112 (dk_at dksX5_init_1 14 rfl rfl)
theorem dX5_init_37 : decode cX5_init 37 = .ok (.putfield 23, 3) := dk_181 0 23 (dk_at dksX5_init_1 15 rfl rfl)
theorem dX5_init_40 : decode cX5_init 40 = .ok (.aload_n 0, 1) := dk_42 (dk_at dksX5_init_1 18 rfl rfl)
theorem dX5_init_41 : decode cX5_init 41 = .ok (.iload_n 3, 1) := dk_29 (dk_at dksX5_init_1 19 rfl rfl)
theorem dX5_init_42 : decode cX5_init 42 = .ok (.bipush 10, 2) := dk_16 10 (dk_at dksX5_init_1 20 rfl rfl)
theorem dX5_init_44 : decode cX5_init 44 = .ok (.idiv, 1) := dk_108 (dk_at dksX5_init_1 22 rfl rfl)
theorem dX5_init_45 : decode cX5_init 45 = .ok (.bipush 10, 2) := dk_16 10 (dk_at dksX5_init_2 0 rfl rfl)
theorem dX5_init_47 : decode cX5_init 47 = .ok (.irem, 1) := dk_112 (dk_at dksX5_init_2 2 rfl rfl)
theorem dX5_init_48 : decode cX5_init 48 = .ok (.putfield 26, 3) := dk_181 0 26 (dk_at dksX5_init_2 3 rfl rfl)
theorem dX5_init_51 : decode cX5_init 51 = .ok (.aload_n 0, 1) := dk_42 (dk_at dksX5_init_2 6 rfl rfl)
theorem dX5_init_52 : decode cX5_init 52 = .ok (.iload_n 3, 1) := dk_29 (dk_at dksX5_init_2 7 rfl rfl)
theorem dX5_init_53 : decode cX5_init 53 = .ok (.bipush 10, 2) := dk_16 10 (dk_at dksX5_init_2 8 rfl rfl)
theorem dX5_init_55 : decode cX5_init 55 = .ok (.irem, 1) := dk_112 (dk_at dksX5_init_2 10 rfl rfl)
theorem dX5_init_56 : decode cX5_init 56 = .ok (.putfield 29, 3) := dk_181 0 29 (dk_at dksX5_init_2 11 rfl rfl)
theorem dX5_init_59 : decode cX5_init 59 = .ok (.return_, 1) := dk_177 (dk_at dksX5_init_2 14 rfl rfl)
abbrev cX5_hours : ByteArray := prog_6_method_2_code
def yX5_hours : MethodName := ⟨RX5, "hours", "(I)I"⟩
def dkwX5_hours_0 : List UInt8 := [42, 180, 0, 20, 42, 180, 0, 16, 180, 0, 32, 27, 184, 0, 38, 46, 104, 172]
abbrev dktX5_hours_0 : List UInt8 := dkwX5_hours_0 ++ []
theorem dksX5_hours_0 : cX5_hours.data.toList.drop 0 = dktX5_hours_0 := by decide +kernel
theorem dX5_hours_0 : decode cX5_hours 0 = .ok (.aload_n 0, 1) := dk_42 (dk_at dksX5_hours_0 0 rfl rfl)
theorem dX5_hours_1 : decode cX5_hours 1 = .ok (.getfield 20, 3) := dk_180 0 20 (dk_at dksX5_hours_0 1 rfl rfl)
theorem dX5_hours_4 : decode cX5_hours 4 = .ok (.aload_n 0, 1) := dk_42 (dk_at dksX5_hours_0 4 rfl rfl)
theorem dX5_hours_5 : decode cX5_hours 5 = .ok (.getfield 16, 3) := dk_180 0 16 (dk_at dksX5_hours_0 5 rfl rfl)
theorem dX5_hours_8 : decode cX5_hours 8 = .ok (.getfield 32, 3) := dk_180 0 32 (dk_at dksX5_hours_0 8 rfl rfl)
theorem dX5_hours_11 : decode cX5_hours 11 = .ok (.iload_n 1, 1) := dk_27 (dk_at dksX5_hours_0 11 rfl rfl)
theorem dX5_hours_12 : decode cX5_hours 12 = .ok (.invokestatic 38, 3) := dk_184 0 38 (dk_at dksX5_hours_0 12 rfl rfl)
theorem dX5_hours_15 : decode cX5_hours 15 = .ok (.iaload, 1) := dk_46 (dk_at dksX5_hours_0 15 rfl rfl)
theorem dX5_hours_16 : decode cX5_hours 16 = .ok (.imul, 1) := dk_104 (dk_at dksX5_hours_0 16 rfl rfl)
theorem dX5_hours_17 : decode cX5_hours 17 = .ok (.ireturn, 1) := dk_172 (dk_at dksX5_hours_0 17 rfl rfl)
abbrev cX5_strength : ByteArray := prog_6_method_3_code
def yX5_strength : MethodName := ⟨RX5, "strength", "()I"⟩
def dkwX5_strength_1 : List UInt8 := [100, 184, 0, 47, 172]
abbrev dktX5_strength_1 : List UInt8 := dkwX5_strength_1 ++ []
def dkwX5_strength_0 : List UInt8 := [3, 16, 20, 42, 180, 0, 16, 180, 0, 44, 104, 6, 42, 180, 0, 23, 104, 96, 5, 42, 180, 0, 7, 104]
abbrev dktX5_strength_0 : List UInt8 := dkwX5_strength_0 ++ dktX5_strength_1
theorem dksX5_strength_0 : cX5_strength.data.toList.drop 0 = dktX5_strength_0 := by decide +kernel
theorem dksX5_strength_1 : cX5_strength.data.toList.drop 24 = dktX5_strength_1 := dk_seg dksX5_strength_0 24 rfl rfl
theorem dX5_strength_0 : decode cX5_strength 0 = .ok (.iconst 0, 1) := dk_3 (dk_at dksX5_strength_0 0 rfl rfl)
theorem dX5_strength_1 : decode cX5_strength 1 = .ok (.bipush 20, 2) := dk_16 20 (dk_at dksX5_strength_0 1 rfl rfl)
theorem dX5_strength_3 : decode cX5_strength 3 = .ok (.aload_n 0, 1) := dk_42 (dk_at dksX5_strength_0 3 rfl rfl)
theorem dX5_strength_4 : decode cX5_strength 4 = .ok (.getfield 16, 3) := dk_180 0 16 (dk_at dksX5_strength_0 4 rfl rfl)
theorem dX5_strength_7 : decode cX5_strength 7 = .ok (.getfield 44, 3) := dk_180 0 44 (dk_at dksX5_strength_0 7 rfl rfl)
theorem dX5_strength_10 : decode cX5_strength 10 = .ok (.imul, 1) := dk_104 (dk_at dksX5_strength_0 10 rfl rfl)
theorem dX5_strength_11 : decode cX5_strength 11 = .ok (.iconst 3, 1) := dk_6 (dk_at dksX5_strength_0 11 rfl rfl)
theorem dX5_strength_12 : decode cX5_strength 12 = .ok (.aload_n 0, 1) := dk_42 (dk_at dksX5_strength_0 12 rfl rfl)
theorem dX5_strength_13 : decode cX5_strength 13 = .ok (.getfield 23, 3) := dk_180 0 23 (dk_at dksX5_strength_0 13 rfl rfl)
theorem dX5_strength_16 : decode cX5_strength 16 = .ok (.imul, 1) := dk_104 (dk_at dksX5_strength_0 16 rfl rfl)
theorem dX5_strength_17 : decode cX5_strength 17 = .ok (.iadd, 1) := dk_96 (dk_at dksX5_strength_0 17 rfl rfl)
theorem dX5_strength_18 : decode cX5_strength 18 = .ok (.iconst 2, 1) := dk_5 (dk_at dksX5_strength_0 18 rfl rfl)
theorem dX5_strength_19 : decode cX5_strength 19 = .ok (.aload_n 0, 1) := dk_42 (dk_at dksX5_strength_0 19 rfl rfl)
theorem dX5_strength_20 : decode cX5_strength 20 = .ok (.getfield 7, 3) := dk_180 0 7 (dk_at dksX5_strength_0 20 rfl rfl)
theorem dX5_strength_23 : decode cX5_strength 23 = .ok (.imul, 1) := dk_104 (dk_at dksX5_strength_0 23 rfl rfl)
theorem dX5_strength_24 : decode cX5_strength 24 = .ok (.isub, 1) := dk_100 (dk_at dksX5_strength_1 0 rfl rfl)
theorem dX5_strength_25 : decode cX5_strength 25 = .ok (.invokestatic 47, 3) := dk_184 0 47 (dk_at dksX5_strength_1 1 rfl rfl)
theorem dX5_strength_28 : decode cX5_strength 28 = .ok (.ireturn, 1) := dk_172 (dk_at dksX5_strength_1 4 rfl rfl)
abbrev cX5_needs : ByteArray := prog_6_method_4_code
def yX5_needs : MethodName := ⟨RX5, "needs", "(I)Z"⟩
def dkwX5_needs_0 : List UInt8 := [27, 42, 180, 0, 29, 96, 7, 112, 154, 0, 7, 4, 167, 0, 4, 3, 172]
abbrev dktX5_needs_0 : List UInt8 := dkwX5_needs_0 ++ []
theorem dksX5_needs_0 : cX5_needs.data.toList.drop 0 = dktX5_needs_0 := by decide +kernel
theorem dX5_needs_0 : decode cX5_needs 0 = .ok (.iload_n 1, 1) := dk_27 (dk_at dksX5_needs_0 0 rfl rfl)
theorem dX5_needs_1 : decode cX5_needs 1 = .ok (.aload_n 0, 1) := dk_42 (dk_at dksX5_needs_0 1 rfl rfl)
theorem dX5_needs_2 : decode cX5_needs 2 = .ok (.getfield 29, 3) := dk_180 0 29 (dk_at dksX5_needs_0 2 rfl rfl)
theorem dX5_needs_5 : decode cX5_needs 5 = .ok (.iadd, 1) := dk_96 (dk_at dksX5_needs_0 5 rfl rfl)
theorem dX5_needs_6 : decode cX5_needs 6 = .ok (.iconst 4, 1) := dk_7 (dk_at dksX5_needs_0 6 rfl rfl)
theorem dX5_needs_7 : decode cX5_needs 7 = .ok (.irem, 1) := dk_112 (dk_at dksX5_needs_0 7 rfl rfl)
theorem dX5_needs_8 : decode cX5_needs 8 = .ok (.ifCond .ne 7, 3) := dk_154 0 7 (dk_at dksX5_needs_0 8 rfl rfl)
theorem dX5_needs_11 : decode cX5_needs 11 = .ok (.iconst 1, 1) := dk_4 (dk_at dksX5_needs_0 11 rfl rfl)
theorem dX5_needs_12 : decode cX5_needs 12 = .ok (.goto 4, 3) := dk_167 0 4 (dk_at dksX5_needs_0 12 rfl rfl)
theorem dX5_needs_15 : decode cX5_needs 15 = .ok (.iconst 0, 1) := dk_3 (dk_at dksX5_needs_0 15 rfl rfl)
theorem dX5_needs_16 : decode cX5_needs 16 = .ok (.ireturn, 1) := dk_172 (dk_at dksX5_needs_0 16 rfl rfl)
theorem q100 : (Jvm.Cond.initialized "WheelLand$House") ∈ lw_all := lw_g (lw_at lw_m1 6 rfl) rfl
theorem q341 : (Jvm.Cond.fieldLinkNest "WheelLand$House" (44 : Nat) "WheelLand$Village" "staple" "I" "WheelLand") ∈ lw_tbl := lw_at lw_m2 7 rfl
theorem q343 : (Jvm.Cond.fieldLinkNest "WheelLand$House" (32 : Nat) "WheelLand$Village" "idle" "[I" "WheelLand") ∈ lw_tbl := lw_at lw_m2 9 rfl
theorem q435 : (Jvm.Cond.instantiable "WheelLand$House" (16 : Nat)) ∈ lw_all := lw_g (lw_at lw_m2 101 rfl) rfl
theorem q437 : (Jvm.Cond.instanceMethod ({ cls := "WheelLand$House", name := "<init>", desc := "(ILWheelLand$Village;I)V" } : Jvm.MethodName)) ∈ lw_all := lw_g (lw_at lw_m2 103 rfl) rfl
theorem q438 : (Jvm.Cond.code ({ cls := "WheelLand$House", name := "<init>", desc := "(ILWheelLand$Village;I)V" } : Jvm.MethodName) prog_6_method_1_code (4 : Nat) (Option.none : Option Jvm.ClassFile.FieldType)) ∈ lw_all := lw_g (lw_at lw_m2 104 rfl) rfl
theorem q439 : (Jvm.Cond.methodLink "WheelLand$House" (1 : Nat) ({ cls := "java/lang/Object", name := "<init>", desc := "()V" } : Jvm.MethodName)) ∈ lw_all := lw_g (lw_at lw_m2 105 rfl) rfl
theorem q440 : (Jvm.Cond.fieldLink "WheelLand$House" (13 : Nat) "WheelLand$House" "number" "I") ∈ lw_all := lw_g (lw_at lw_m2 106 rfl) rfl
theorem q442 : (Jvm.Cond.fieldLink "WheelLand$House" (26 : Nat) "WheelLand$House" "caste" "I") ∈ lw_all := lw_g (lw_at lw_m2 108 rfl) rfl
theorem q444 : (Jvm.Cond.fieldLink "WheelLand$House" (29 : Nat) "WheelLand$House" "heads" "I") ∈ lw_all := lw_g (lw_at lw_m2 110 rfl) rfl
theorem q446 : (Jvm.Cond.fieldLink "WheelLand$House" (16 : Nat) "WheelLand$House" "village" "LWheelLand$Village;") ∈ lw_all := lw_g (lw_at lw_m2 112 rfl) rfl
theorem q449 : (Jvm.Cond.fieldLink "WheelLand$House" (20 : Nat) "WheelLand$House" "wheels" "I") ∈ lw_all := lw_g (lw_at lw_m2 115 rfl) rfl
theorem q451 : (Jvm.Cond.fieldLink "WheelLand$House" (23 : Nat) "WheelLand$House" "skill" "I") ∈ lw_all := lw_g (lw_at lw_m2 117 rfl) rfl
theorem q454 : (Jvm.Cond.fieldLink "WheelLand$House" (7 : Nat) "WheelLand$House" "aim" "I") ∈ lw_all := lw_g (lw_at lw_m2 120 rfl) rfl
theorem q466 : (Jvm.Cond.laysFinal "WheelLand$House" "WheelLand$House" "number" "I") ∈ lw_all := lw_g (lw_at lw_m2 132 rfl) rfl
theorem q467 : (Jvm.Cond.soleField "WheelLand$House" "number") ∈ lw_all := lw_g (lw_at lw_m2 133 rfl) rfl
theorem q468 : (Jvm.Cond.laysFinal "WheelLand$House" "WheelLand$House" "caste" "I") ∈ lw_all := lw_g (lw_at lw_m2 134 rfl) rfl
theorem q469 : (Jvm.Cond.soleField "WheelLand$House" "caste") ∈ lw_all := lw_g (lw_at lw_m2 135 rfl) rfl
theorem q470 : (Jvm.Cond.laysFinal "WheelLand$House" "WheelLand$House" "heads" "I") ∈ lw_all := lw_g (lw_at lw_m2 136 rfl) rfl
theorem q471 : (Jvm.Cond.soleField "WheelLand$House" "heads") ∈ lw_all := lw_g (lw_at lw_m2 137 rfl) rfl
theorem q472 : (Jvm.Cond.laysFinal "WheelLand$House" "WheelLand$House" "village" "LWheelLand$Village;") ∈ lw_all := lw_g (lw_at lw_m2 138 rfl) rfl
theorem q473 : (Jvm.Cond.soleField "WheelLand$House" "village") ∈ lw_all := lw_g (lw_at lw_m2 139 rfl) rfl
theorem q474 : (Jvm.Cond.lays "WheelLand$House" "WheelLand$House" "wheels" "I") ∈ lw_all := lw_g (lw_at lw_m2 140 rfl) rfl
theorem q475 : (Jvm.Cond.soleField "WheelLand$House" "wheels") ∈ lw_all := lw_g (lw_at lw_m2 141 rfl) rfl
theorem q476 : (Jvm.Cond.lays "WheelLand$House" "WheelLand$House" "skill" "I") ∈ lw_all := lw_g (lw_at lw_m2 142 rfl) rfl
theorem q477 : (Jvm.Cond.soleField "WheelLand$House" "skill") ∈ lw_all := lw_g (lw_at lw_m2 143 rfl) rfl
theorem q478 : (Jvm.Cond.lays "WheelLand$House" "WheelLand$House" "purse" "I") ∈ lw_all := lw_g (lw_at lw_m2 144 rfl) rfl
theorem q479 : (Jvm.Cond.soleField "WheelLand$House" "purse") ∈ lw_all := lw_g (lw_at lw_m2 145 rfl) rfl
theorem q480 : (Jvm.Cond.lays "WheelLand$House" "WheelLand$House" "aim" "I") ∈ lw_all := lw_g (lw_at lw_m2 146 rfl) rfl
theorem q481 : (Jvm.Cond.soleField "WheelLand$House" "aim") ∈ lw_all := lw_g (lw_at lw_m2 147 rfl) rfl
theorem q482 : (Jvm.Cond.lays "WheelLand$House" "WheelLand$House" "bare" "I") ∈ lw_all := lw_g (lw_at lw_m2 148 rfl) rfl
theorem q483 : (Jvm.Cond.soleField "WheelLand$House" "bare") ∈ lw_all := lw_g (lw_at lw_m2 149 rfl) rfl
theorem q484 : (Jvm.Cond.lays "WheelLand$House" "WheelLand$House" "ofHand" "I") ∈ lw_all := lw_g (lw_at lw_m2 150 rfl) rfl
theorem q485 : (Jvm.Cond.soleField "WheelLand$House" "ofHand") ∈ lw_all := lw_g (lw_at lw_m2 151 rfl) rfl
theorem q486 : (Jvm.Cond.lays "WheelLand$House" "WheelLand$House" "ofMill" "I") ∈ lw_all := lw_g (lw_at lw_m2 152 rfl) rfl
theorem q487 : (Jvm.Cond.soleField "WheelLand$House" "ofMill") ∈ lw_all := lw_g (lw_at lw_m2 153 rfl) rfl
theorem q488 : (Jvm.Cond.lays "WheelLand$House" "WheelLand$House" "owes" "I") ∈ lw_all := lw_g (lw_at lw_m2 154 rfl) rfl
theorem q489 : (Jvm.Cond.soleField "WheelLand$House" "owes") ∈ lw_all := lw_g (lw_at lw_m2 155 rfl) rfl
theorem q490 : (Jvm.Cond.lays "WheelLand$House" "WheelLand$House" "paid" "I") ∈ lw_all := lw_g (lw_at lw_m2 156 rfl) rfl
theorem q491 : (Jvm.Cond.soleField "WheelLand$House" "paid") ∈ lw_all := lw_g (lw_at lw_m2 157 rfl) rfl
theorem q492 : (Jvm.Cond.lays "WheelLand$House" "WheelLand$House" "other" "I") ∈ lw_all := lw_g (lw_at lw_m2 158 rfl) rfl
theorem q493 : (Jvm.Cond.soleField "WheelLand$House" "other") ∈ lw_all := lw_g (lw_at lw_m2 159 rfl) rfl
theorem q494 : (Jvm.Cond.lays "WheelLand$House" "WheelLand$House" "can" "I") ∈ lw_all := lw_g (lw_at lw_m2 160 rfl) rfl
theorem q495 : (Jvm.Cond.soleField "WheelLand$House" "can") ∈ lw_all := lw_g (lw_at lw_m2 161 rfl) rfl
theorem q496 : (Jvm.Cond.lays "WheelLand$House" "WheelLand$House" "loom" "LWheelLand$Loom;") ∈ lw_all := lw_g (lw_at lw_m2 162 rfl) rfl
theorem q497 : (Jvm.Cond.soleField "WheelLand$House" "loom") ∈ lw_all := lw_g (lw_at lw_m2 163 rfl) rfl
theorem q498 : (Jvm.Cond.superclass "WheelLand$House" "java/lang/Object") ∈ lw_all := lw_g (lw_at lw_m2 164 rfl) rfl
theorem q559 : (Jvm.Cond.instanceMethod ({ cls := "WheelLand$House", name := "hours", desc := "(I)I" } : Jvm.MethodName)) ∈ lw_all := lw_g (lw_at lw_m2 225 rfl) rfl
theorem q560 : (Jvm.Cond.selects "WheelLand$House" ({ cls := "WheelLand$House", name := "hours", desc := "(I)I" } : Jvm.MethodName) ({ cls := "WheelLand$House", name := "hours", desc := "(I)I" } : Jvm.MethodName)) ∈ lw_all := lw_g (lw_at lw_m2 226 rfl) rfl
theorem q561 : (Jvm.Cond.code ({ cls := "WheelLand$House", name := "hours", desc := "(I)I" } : Jvm.MethodName) prog_6_method_2_code (2 : Nat) (Option.some Jvm.ClassFile.FieldType.int)) ∈ lw_all := lw_g (lw_at lw_m2 227 rfl) rfl
theorem q562 : (Jvm.Cond.methodLinkNest "WheelLand$House" (38 : Nat) ({ cls := "WheelLand", name := "seasonOf", desc := "(I)I" } : Jvm.MethodName) "WheelLand") ∈ lw_tbl := lw_at lw_m2 228 rfl
theorem q580 : (Jvm.Cond.instanceMethod ({ cls := "WheelLand$House", name := "strength", desc := "()I" } : Jvm.MethodName)) ∈ lw_all := lw_g (lw_at lw_m3 6 rfl) rfl
theorem q581 : (Jvm.Cond.selects "WheelLand$House" ({ cls := "WheelLand$House", name := "strength", desc := "()I" } : Jvm.MethodName) ({ cls := "WheelLand$House", name := "strength", desc := "()I" } : Jvm.MethodName)) ∈ lw_all := lw_g (lw_at lw_m3 7 rfl) rfl
theorem q582 : (Jvm.Cond.code ({ cls := "WheelLand$House", name := "strength", desc := "()I" } : Jvm.MethodName) prog_6_method_3_code (1 : Nat) (Option.some Jvm.ClassFile.FieldType.int)) ∈ lw_all := lw_g (lw_at lw_m3 8 rfl) rfl
theorem q583 : (Jvm.Cond.methodLink "WheelLand$House" (47 : Nat) ({ cls := "java/lang/Math", name := "max", desc := "(II)I" } : Jvm.MethodName)) ∈ lw_all := lw_g (lw_at lw_m3 9 rfl) rfl
theorem q626 : (Jvm.Cond.instanceMethod ({ cls := "WheelLand$House", name := "needs", desc := "(I)Z" } : Jvm.MethodName)) ∈ lw_all := lw_g (lw_at lw_m3 52 rfl) rfl
theorem q627 : (Jvm.Cond.selects "WheelLand$House" ({ cls := "WheelLand$House", name := "needs", desc := "(I)Z" } : Jvm.MethodName) ({ cls := "WheelLand$House", name := "needs", desc := "(I)Z" } : Jvm.MethodName)) ∈ lw_all := lw_g (lw_at lw_m3 53 rfl) rfl
theorem q628 : (Jvm.Cond.code ({ cls := "WheelLand$House", name := "needs", desc := "(I)Z" } : Jvm.MethodName) prog_6_method_4_code (2 : Nat) (Option.some Jvm.ClassFile.FieldType.boolean)) ∈ lw_all := lw_g (lw_at lw_m3 54 rfl) rfl
theorem in_X5 : ∀ w ∈ wsX50, w ∈ lw_all := lw_in wsX50 [466, 468, 470, 472, 474, 476, 478, 480, 482, 484, 486, 488, 490, 492, 494, 496] (by decide +kernel) (by decide +kernel)
/-! WheelLand$Loom -/
set_option maxRecDepth 100000
def RX6 : String := "WheelLand$Loom"
def TX6 : u_T := fun k => match k with
  | 0 => ("WheelLand$Loom", "from", "I", true)
  | 1 => ("WheelLand$Loom", "to", "I", true)
  | 2 => ("WheelLand$Loom", "hanks", "I", true)
  | _ => ("WheelLand$Loom", "woven", "I", false)
def tyX6 : Nat → FieldType := fun k => match k with
  | 0 => .int
  | 1 => .int
  | 2 => .int
  | _ => .int
abbrev wsX60 : List Cond := u_ws RX6 TX6 4
theorem nmX6 : ∀ a, a < 4 → ∀ b, b < 4 → a ≠ b → (TX6 a).2.1 ≠ (TX6 b).2.1 := by decide +kernel
theorem tyX6_ok : ∀ k, k < 4 → parseFieldDescriptor (TX6 k).2.2.1 = some (tyX6 k) := by decide +kernel
abbrev cX6_init : ByteArray := prog_7_method_1_code
def yX6_init : MethodName := ⟨RX6, "<init>", "(III)V"⟩
def dkwX6_init_0 : List UInt8 := [42, 183, 0, 1, 42, 27, 181, 0, 7, 42, 28, 181, 0, 13, 42, 29, 181, 0, 16, 177]
abbrev dktX6_init_0 : List UInt8 := dkwX6_init_0 ++ []
theorem dksX6_init_0 : cX6_init.data.toList.drop 0 = dktX6_init_0 := by decide +kernel
theorem dX6_init_0 : decode cX6_init 0 = .ok (.aload_n 0, 1) := dk_42 (dk_at dksX6_init_0 0 rfl rfl)
theorem dX6_init_1 : decode cX6_init 1 = .ok (.invokespecial 1, 3) := dk_183 0 1 (dk_at dksX6_init_0 1 rfl rfl)
theorem dX6_init_4 : decode cX6_init 4 = .ok (.aload_n 0, 1) := dk_42 (dk_at dksX6_init_0 4 rfl rfl)
theorem dX6_init_5 : decode cX6_init 5 = .ok (.iload_n 1, 1) := dk_27 (dk_at dksX6_init_0 5 rfl rfl)
theorem dX6_init_6 : decode cX6_init 6 = .ok (.putfield 7, 3) := dk_181 0 7 (dk_at dksX6_init_0 6 rfl rfl)
theorem dX6_init_9 : decode cX6_init 9 = .ok (.aload_n 0, 1) := dk_42 (dk_at dksX6_init_0 9 rfl rfl)
theorem dX6_init_10 : decode cX6_init 10 = .ok (.iload_n 2, 1) := dk_28 (dk_at dksX6_init_0 10 rfl rfl)
theorem dX6_init_11 : decode cX6_init 11 = .ok (.putfield 13, 3) := dk_181 0 13 (dk_at dksX6_init_0 11 rfl rfl)
theorem dX6_init_14 : decode cX6_init 14 = .ok (.aload_n 0, 1) := dk_42 (dk_at dksX6_init_0 14 rfl rfl)
theorem dX6_init_15 : decode cX6_init 15 = .ok (.iload_n 3, 1) := dk_29 (dk_at dksX6_init_0 15 rfl rfl)
theorem dX6_init_16 : decode cX6_init 16 = .ok (.putfield 16, 3) := dk_181 0 16 (dk_at dksX6_init_0 16 rfl rfl)
theorem dX6_init_19 : decode cX6_init 19 = .ok (.return_, 1) := dk_177 (dk_at dksX6_init_0 19 rfl rfl)
theorem q101 : (Jvm.Cond.initialized "WheelLand$Loom") ∈ lw_all := lw_g (lw_at lw_m1 7 rfl) rfl
theorem q511 : (Jvm.Cond.instantiable "WheelLand$Loom" (4 : Nat)) ∈ lw_all := lw_g (lw_at lw_m2 177 rfl) rfl
theorem q513 : (Jvm.Cond.instanceMethod ({ cls := "WheelLand$Loom", name := "<init>", desc := "(III)V" } : Jvm.MethodName)) ∈ lw_all := lw_g (lw_at lw_m2 179 rfl) rfl
theorem q514 : (Jvm.Cond.code ({ cls := "WheelLand$Loom", name := "<init>", desc := "(III)V" } : Jvm.MethodName) prog_7_method_1_code (4 : Nat) (Option.none : Option Jvm.ClassFile.FieldType)) ∈ lw_all := lw_g (lw_at lw_m2 180 rfl) rfl
theorem q515 : (Jvm.Cond.methodLink "WheelLand$Loom" (1 : Nat) ({ cls := "java/lang/Object", name := "<init>", desc := "()V" } : Jvm.MethodName)) ∈ lw_all := lw_g (lw_at lw_m2 181 rfl) rfl
theorem q516 : (Jvm.Cond.fieldLink "WheelLand$Loom" (7 : Nat) "WheelLand$Loom" "from" "I") ∈ lw_all := lw_g (lw_at lw_m2 182 rfl) rfl
theorem q518 : (Jvm.Cond.fieldLink "WheelLand$Loom" (13 : Nat) "WheelLand$Loom" "to" "I") ∈ lw_all := lw_g (lw_at lw_m2 184 rfl) rfl
theorem q520 : (Jvm.Cond.fieldLink "WheelLand$Loom" (16 : Nat) "WheelLand$Loom" "hanks" "I") ∈ lw_all := lw_g (lw_at lw_m2 186 rfl) rfl
theorem q524 : (Jvm.Cond.laysFinal "WheelLand$Loom" "WheelLand$Loom" "from" "I") ∈ lw_all := lw_g (lw_at lw_m2 190 rfl) rfl
theorem q525 : (Jvm.Cond.soleField "WheelLand$Loom" "from") ∈ lw_all := lw_g (lw_at lw_m2 191 rfl) rfl
theorem q526 : (Jvm.Cond.laysFinal "WheelLand$Loom" "WheelLand$Loom" "to" "I") ∈ lw_all := lw_g (lw_at lw_m2 192 rfl) rfl
theorem q527 : (Jvm.Cond.soleField "WheelLand$Loom" "to") ∈ lw_all := lw_g (lw_at lw_m2 193 rfl) rfl
theorem q528 : (Jvm.Cond.laysFinal "WheelLand$Loom" "WheelLand$Loom" "hanks" "I") ∈ lw_all := lw_g (lw_at lw_m2 194 rfl) rfl
theorem q529 : (Jvm.Cond.soleField "WheelLand$Loom" "hanks") ∈ lw_all := lw_g (lw_at lw_m2 195 rfl) rfl
theorem q530 : (Jvm.Cond.lays "WheelLand$Loom" "WheelLand$Loom" "woven" "I") ∈ lw_all := lw_g (lw_at lw_m2 196 rfl) rfl
theorem q531 : (Jvm.Cond.soleField "WheelLand$Loom" "woven") ∈ lw_all := lw_g (lw_at lw_m2 197 rfl) rfl
theorem q532 : (Jvm.Cond.superclass "WheelLand$Loom" "java/lang/Object") ∈ lw_all := lw_g (lw_at lw_m2 198 rfl) rfl
theorem in_X6 : ∀ w ∈ wsX60, w ∈ lw_all := lw_in wsX60 [524, 526, 528, 530] (by decide +kernel) (by decide +kernel)
/-! WheelLand$Hanks -/
set_option maxRecDepth 100000
def RX7 : String := "WheelLand$Hanks"
abbrev cX7_init : ByteArray := prog_5_method_1_code
def yX7_init : MethodName := ⟨RX7, "<init>", "(LWheelLand$House;I)V"⟩
def dkwX7_init_0 : List UInt8 := [42, 183, 0, 1, 42, 43, 181, 0, 7, 42, 28, 181, 0, 13, 177]
abbrev dktX7_init_0 : List UInt8 := dkwX7_init_0 ++ []
theorem dksX7_init_0 : cX7_init.data.toList.drop 0 = dktX7_init_0 := by decide +kernel
theorem dX7_init_0 : decode cX7_init 0 = .ok (.aload_n 0, 1) := dk_42 (dk_at dksX7_init_0 0 rfl rfl)
theorem dX7_init_1 : decode cX7_init 1 = .ok (.invokespecial 1, 3) := dk_183 0 1 (dk_at dksX7_init_0 1 rfl rfl)
theorem dX7_init_4 : decode cX7_init 4 = .ok (.aload_n 0, 1) := dk_42 (dk_at dksX7_init_0 4 rfl rfl)
theorem dX7_init_5 : decode cX7_init 5 = .ok (.aload_n 1, 1) := dk_43 (dk_at dksX7_init_0 5 rfl rfl)
theorem dX7_init_6 : decode cX7_init 6 = .ok (.putfield 7, 3) := dk_181 0 7 (dk_at dksX7_init_0 6 rfl rfl)
theorem dX7_init_9 : decode cX7_init 9 = .ok (.aload_n 0, 1) := dk_42 (dk_at dksX7_init_0 9 rfl rfl)
theorem dX7_init_10 : decode cX7_init 10 = .ok (.iload_n 2, 1) := dk_28 (dk_at dksX7_init_0 10 rfl rfl)
theorem dX7_init_11 : decode cX7_init 11 = .ok (.putfield 13, 3) := dk_181 0 13 (dk_at dksX7_init_0 11 rfl rfl)
theorem dX7_init_14 : decode cX7_init 14 = .ok (.return_, 1) := dk_177 (dk_at dksX7_init_0 14 rfl rfl)
theorem q103 : (Jvm.Cond.initialized "WheelLand$Hanks") ∈ lw_all := lw_g (lw_at lw_m1 9 rfl) rfl
theorem q576 : (Jvm.Cond.instanceMethod ({ cls := "WheelLand$Hanks", name := "<init>", desc := "(LWheelLand$House;I)V" } : Jvm.MethodName)) ∈ lw_all := lw_g (lw_at lw_m3 2 rfl) rfl
theorem q577 : (Jvm.Cond.code ({ cls := "WheelLand$Hanks", name := "<init>", desc := "(LWheelLand$House;I)V" } : Jvm.MethodName) prog_5_method_1_code (3 : Nat) (Option.none : Option Jvm.ClassFile.FieldType)) ∈ lw_all := lw_g (lw_at lw_m3 3 rfl) rfl
theorem q578 : (Jvm.Cond.methodLink "WheelLand$Hanks" (1 : Nat) ({ cls := "java/lang/Object", name := "<init>", desc := "()V" } : Jvm.MethodName)) ∈ lw_all := lw_g (lw_at lw_m3 4 rfl) rfl
theorem q596 : (Jvm.Cond.fieldLink "WheelLand$Hanks" (7 : Nat) "WheelLand$Hanks" "house" "LWheelLand$House;") ∈ lw_all := lw_g (lw_at lw_m3 22 rfl) rfl
theorem q602 : (Jvm.Cond.fieldLink "WheelLand$Hanks" (13 : Nat) "WheelLand$Hanks" "week" "I") ∈ lw_all := lw_g (lw_at lw_m3 28 rfl) rfl
theorem q618 : (Jvm.Cond.soleField "WheelLand$Hanks" "house") ∈ lw_all := lw_g (lw_at lw_m3 44 rfl) rfl
theorem q620 : (Jvm.Cond.soleField "WheelLand$Hanks" "week") ∈ lw_all := lw_g (lw_at lw_m3 46 rfl) rfl
/-! WheelLand$Lot -/
set_option maxRecDepth 100000
def RX8 : String := "WheelLand$Lot"
def TX8 : u_T := fun k => match k with
  | 0 => ("WheelLand$Hanks", "house", "LWheelLand$House;", true)
  | 1 => ("WheelLand$Hanks", "week", "I", true)
  | 2 => ("WheelLand$Lot", "number", "I", true)
  | 3 => ("WheelLand$Lot", "count", "I", true)
  | 4 => ("WheelLand$Lot", "strength", "I", true)
  | 5 => ("WheelLand$Lot", "hanks", "I", true)
  | _ => ("WheelLand$Lot", "left", "I", false)
def tyX8 : Nat → FieldType := fun k => match k with
  | 0 => .object "WheelLand$House"
  | 1 => .int
  | 2 => .int
  | 3 => .int
  | 4 => .int
  | 5 => .int
  | _ => .int
abbrev wsX80 : List Cond := u_ws RX8 TX8 7
theorem nmX8 : ∀ a, a < 7 → ∀ b, b < 7 → a ≠ b → (TX8 a).2.1 ≠ (TX8 b).2.1 := by decide +kernel
theorem tyX8_ok : ∀ k, k < 7 → parseFieldDescriptor (TX8 k).2.2.1 = some (tyX8 k) := by decide +kernel
abbrev cX8_init : ByteArray := prog_8_method_1_code
def yX8_init : MethodName := ⟨RX8, "<init>", "(ILWheelLand$House;II)V"⟩
def dkwX8_init_1 : List UInt8 := [181, 0, 21, 42, 44, 182, 0, 24, 181, 0, 28, 42, 21, 4, 181, 0, 30, 177]
abbrev dktX8_init_1 : List UInt8 := dkwX8_init_1 ++ []
def dkwX8_init_0 : List UInt8 := [42, 44, 29, 183, 0, 1, 42, 27, 181, 0, 7, 42, 21, 4, 181, 0, 13, 42, 44, 180, 0, 16]
abbrev dktX8_init_0 : List UInt8 := dkwX8_init_0 ++ dktX8_init_1
theorem dksX8_init_0 : cX8_init.data.toList.drop 0 = dktX8_init_0 := by decide +kernel
theorem dksX8_init_1 : cX8_init.data.toList.drop 22 = dktX8_init_1 := dk_seg dksX8_init_0 22 rfl rfl
theorem dX8_init_0 : decode cX8_init 0 = .ok (.aload_n 0, 1) := dk_42 (dk_at dksX8_init_0 0 rfl rfl)
theorem dX8_init_1 : decode cX8_init 1 = .ok (.aload_n 2, 1) := dk_44 (dk_at dksX8_init_0 1 rfl rfl)
theorem dX8_init_2 : decode cX8_init 2 = .ok (.iload_n 3, 1) := dk_29 (dk_at dksX8_init_0 2 rfl rfl)
theorem dX8_init_3 : decode cX8_init 3 = .ok (.invokespecial 1, 3) := dk_183 0 1 (dk_at dksX8_init_0 3 rfl rfl)
theorem dX8_init_6 : decode cX8_init 6 = .ok (.aload_n 0, 1) := dk_42 (dk_at dksX8_init_0 6 rfl rfl)
theorem dX8_init_7 : decode cX8_init 7 = .ok (.iload_n 1, 1) := dk_27 (dk_at dksX8_init_0 7 rfl rfl)
theorem dX8_init_8 : decode cX8_init 8 = .ok (.putfield 7, 3) := dk_181 0 7 (dk_at dksX8_init_0 8 rfl rfl)
theorem dX8_init_11 : decode cX8_init 11 = .ok (.aload_n 0, 1) := dk_42 (dk_at dksX8_init_0 11 rfl rfl)
theorem dX8_init_12 : decode cX8_init 12 = .ok (.iload 4, 2) := dk_21 4 (dk_at dksX8_init_0 12 rfl rfl)
theorem dX8_init_14 : decode cX8_init 14 = .ok (.putfield 13, 3) := dk_181 0 13 (dk_at dksX8_init_0 14 rfl rfl)
theorem dX8_init_17 : decode cX8_init 17 = .ok (.aload_n 0, 1) := dk_42 (dk_at dksX8_init_0 17 rfl rfl)
theorem dX8_init_18 : decode cX8_init 18 = .ok (.aload_n 2, 1) := dk_44 (dk_at dksX8_init_0 18 rfl rfl)
theorem dX8_init_19 : decode cX8_init 19 = .ok (.getfield 16, 3) := dk_180 0 16 (dk_at dksX8_init_0 19 rfl rfl)
theorem dX8_init_22 : decode cX8_init 22 = .ok (.putfield 21, 3) := dk_181 0 21 (dk_at dksX8_init_1 0 rfl rfl)
theorem dX8_init_25 : decode cX8_init 25 = .ok (.aload_n 0, 1) := dk_42 (dk_at dksX8_init_1 3 rfl rfl)
theorem dX8_init_26 : decode cX8_init 26 = .ok (.aload_n 2, 1) := dk_44 (dk_at dksX8_init_1 4 rfl rfl)
theorem dX8_init_27 : decode cX8_init 27 = .ok (.invokevirtual 24, 3) := dk_182 0 24 (dk_at dksX8_init_1 5 rfl rfl)
theorem dX8_init_30 : decode cX8_init 30 = .ok (.putfield 28, 3) := dk_181 0 28 (dk_at dksX8_init_1 8 rfl rfl)
theorem dX8_init_33 : decode cX8_init 33 = .ok (.aload_n 0, 1) := dk_42 (dk_at dksX8_init_1 11 rfl rfl)
theorem dX8_init_34 : decode cX8_init 34 = .ok (.iload 4, 2) := dk_21 4 (dk_at dksX8_init_1 12 rfl rfl)
theorem dX8_init_36 : decode cX8_init 36 = .ok (.putfield 30, 3) := dk_181 0 30 (dk_at dksX8_init_1 14 rfl rfl)
theorem dX8_init_39 : decode cX8_init 39 = .ok (.return_, 1) := dk_177 (dk_at dksX8_init_1 17 rfl rfl)
abbrev cX8_even : ByteArray := prog_8_method_2_code
def yX8_even : MethodName := ⟨RX8, "even", "()I"⟩
def dkwX8_even_0 : List UInt8 := [42, 180, 0, 30, 42, 180, 0, 30, 5, 112, 100, 172]
abbrev dktX8_even_0 : List UInt8 := dkwX8_even_0 ++ []
theorem dksX8_even_0 : cX8_even.data.toList.drop 0 = dktX8_even_0 := by decide +kernel
theorem dX8_even_0 : decode cX8_even 0 = .ok (.aload_n 0, 1) := dk_42 (dk_at dksX8_even_0 0 rfl rfl)
theorem dX8_even_1 : decode cX8_even 1 = .ok (.getfield 30, 3) := dk_180 0 30 (dk_at dksX8_even_0 1 rfl rfl)
theorem dX8_even_4 : decode cX8_even 4 = .ok (.aload_n 0, 1) := dk_42 (dk_at dksX8_even_0 4 rfl rfl)
theorem dX8_even_5 : decode cX8_even 5 = .ok (.getfield 30, 3) := dk_180 0 30 (dk_at dksX8_even_0 5 rfl rfl)
theorem dX8_even_8 : decode cX8_even 8 = .ok (.iconst 2, 1) := dk_5 (dk_at dksX8_even_0 8 rfl rfl)
theorem dX8_even_9 : decode cX8_even 9 = .ok (.irem, 1) := dk_112 (dk_at dksX8_even_0 9 rfl rfl)
theorem dX8_even_10 : decode cX8_even 10 = .ok (.isub, 1) := dk_100 (dk_at dksX8_even_0 10 rfl rfl)
theorem dX8_even_11 : decode cX8_even 11 = .ok (.ireturn, 1) := dk_172 (dk_at dksX8_even_0 11 rfl rfl)
theorem q104 : (Jvm.Cond.initialized "WheelLand$Lot") ∈ lw_all := lw_g (lw_at lw_m1 10 rfl) rfl
theorem q455 : (Jvm.Cond.fieldLinkNest "WheelLand$Lot" (16 : Nat) "WheelLand$House" "aim" "I" "WheelLand") ∈ lw_tbl := lw_at lw_m2 121 rfl
theorem q571 : (Jvm.Cond.instantiable "WheelLand$Lot" (7 : Nat)) ∈ lw_all := lw_g (lw_at lw_m2 237 rfl) rfl
theorem q573 : (Jvm.Cond.instanceMethod ({ cls := "WheelLand$Lot", name := "<init>", desc := "(ILWheelLand$House;II)V" } : Jvm.MethodName)) ∈ lw_all := lw_g (lw_at lw_m2 239 rfl) rfl
theorem q574 : (Jvm.Cond.code ({ cls := "WheelLand$Lot", name := "<init>", desc := "(ILWheelLand$House;II)V" } : Jvm.MethodName) prog_8_method_1_code (5 : Nat) (Option.none : Option Jvm.ClassFile.FieldType)) ∈ lw_all := lw_g (lw_at lw_m3 0 rfl) rfl
theorem q575 : (Jvm.Cond.methodLink "WheelLand$Lot" (1 : Nat) ({ cls := "WheelLand$Hanks", name := "<init>", desc := "(LWheelLand$House;I)V" } : Jvm.MethodName)) ∈ lw_all := lw_g (lw_at lw_m3 1 rfl) rfl
theorem q579 : (Jvm.Cond.methodLink "WheelLand$Lot" (24 : Nat) ({ cls := "WheelLand$House", name := "strength", desc := "()I" } : Jvm.MethodName)) ∈ lw_all := lw_g (lw_at lw_m3 5 rfl) rfl
theorem q586 : (Jvm.Cond.fieldLink "WheelLand$Lot" (7 : Nat) "WheelLand$Lot" "number" "I") ∈ lw_all := lw_g (lw_at lw_m3 12 rfl) rfl
theorem q588 : (Jvm.Cond.fieldLink "WheelLand$Lot" (21 : Nat) "WheelLand$Lot" "count" "I") ∈ lw_all := lw_g (lw_at lw_m3 14 rfl) rfl
theorem q590 : (Jvm.Cond.fieldLink "WheelLand$Lot" (28 : Nat) "WheelLand$Lot" "strength" "I") ∈ lw_all := lw_g (lw_at lw_m3 16 rfl) rfl
theorem q592 : (Jvm.Cond.fieldLink "WheelLand$Lot" (13 : Nat) "WheelLand$Lot" "hanks" "I") ∈ lw_all := lw_g (lw_at lw_m3 18 rfl) rfl
theorem q594 : (Jvm.Cond.fieldLink "WheelLand$Lot" (30 : Nat) "WheelLand$Lot" "left" "I") ∈ lw_all := lw_g (lw_at lw_m3 20 rfl) rfl
theorem q598 : (Jvm.Cond.sameField "WheelLand$Lot" "WheelLand$Hanks" "house" "LWheelLand$House;") ∈ lw_all := lw_g (lw_at lw_m3 24 rfl) rfl
theorem q604 : (Jvm.Cond.sameField "WheelLand$Lot" "WheelLand$Hanks" "week" "I") ∈ lw_all := lw_g (lw_at lw_m3 30 rfl) rfl
theorem q607 : (Jvm.Cond.laysFinal "WheelLand$Lot" "WheelLand$Lot" "number" "I") ∈ lw_all := lw_g (lw_at lw_m3 33 rfl) rfl
theorem q608 : (Jvm.Cond.soleField "WheelLand$Lot" "number") ∈ lw_all := lw_g (lw_at lw_m3 34 rfl) rfl
theorem q609 : (Jvm.Cond.laysFinal "WheelLand$Lot" "WheelLand$Lot" "count" "I") ∈ lw_all := lw_g (lw_at lw_m3 35 rfl) rfl
theorem q610 : (Jvm.Cond.soleField "WheelLand$Lot" "count") ∈ lw_all := lw_g (lw_at lw_m3 36 rfl) rfl
theorem q611 : (Jvm.Cond.laysFinal "WheelLand$Lot" "WheelLand$Lot" "strength" "I") ∈ lw_all := lw_g (lw_at lw_m3 37 rfl) rfl
theorem q612 : (Jvm.Cond.soleField "WheelLand$Lot" "strength") ∈ lw_all := lw_g (lw_at lw_m3 38 rfl) rfl
theorem q613 : (Jvm.Cond.laysFinal "WheelLand$Lot" "WheelLand$Lot" "hanks" "I") ∈ lw_all := lw_g (lw_at lw_m3 39 rfl) rfl
theorem q614 : (Jvm.Cond.soleField "WheelLand$Lot" "hanks") ∈ lw_all := lw_g (lw_at lw_m3 40 rfl) rfl
theorem q615 : (Jvm.Cond.lays "WheelLand$Lot" "WheelLand$Lot" "left" "I") ∈ lw_all := lw_g (lw_at lw_m3 41 rfl) rfl
theorem q616 : (Jvm.Cond.soleField "WheelLand$Lot" "left") ∈ lw_all := lw_g (lw_at lw_m3 42 rfl) rfl
theorem q617 : (Jvm.Cond.laysFinal "WheelLand$Lot" "WheelLand$Hanks" "house" "LWheelLand$House;") ∈ lw_all := lw_g (lw_at lw_m3 43 rfl) rfl
theorem q619 : (Jvm.Cond.laysFinal "WheelLand$Lot" "WheelLand$Hanks" "week" "I") ∈ lw_all := lw_g (lw_at lw_m3 45 rfl) rfl
theorem q621 : (Jvm.Cond.superclass "WheelLand$Lot" "WheelLand$Hanks") ∈ lw_all := lw_g (lw_at lw_m3 47 rfl) rfl
theorem q1121 : (Jvm.Cond.instanceMethod ({ cls := "WheelLand$Lot", name := "even", desc := "()I" } : Jvm.MethodName)) ∈ lw_all := lw_g (lw_at lw_m5 67 rfl) rfl
theorem q1122 : (Jvm.Cond.selects "WheelLand$Lot" ({ cls := "WheelLand$Lot", name := "even", desc := "()I" } : Jvm.MethodName) ({ cls := "WheelLand$Lot", name := "even", desc := "()I" } : Jvm.MethodName)) ∈ lw_all := lw_g (lw_at lw_m5 68 rfl) rfl
theorem q1123 : (Jvm.Cond.code ({ cls := "WheelLand$Lot", name := "even", desc := "()I" } : Jvm.MethodName) prog_8_method_2_code (1 : Nat) (Option.some Jvm.ClassFile.FieldType.int)) ∈ lw_all := lw_g (lw_at lw_m5 69 rfl) rfl
theorem in_X8 : ∀ w ∈ wsX80, w ∈ lw_all := lw_in wsX80 [617, 619, 607, 609, 611, 613, 615] (by decide +kernel) (by decide +kernel)
/-! WheelLand$Steps -/
set_option maxRecDepth 100000
def RX9 : String := "WheelLand$Steps"
def TX9 : u_T := fun k => match k with
  | 0 => ("WheelLand$Steps", "what", "[B", true)
  | _ => ("WheelLand$Steps", "with", "[I", true)
def tyX9 : Nat → FieldType := fun k => match k with
  | 0 => .array .byte
  | _ => .array .int
abbrev wsX90 : List Cond := u_ws RX9 TX9 2
theorem nmX9 : ∀ a, a < 2 → ∀ b, b < 2 → a ≠ b → (TX9 a).2.1 ≠ (TX9 b).2.1 := by decide +kernel
theorem tyX9_ok : ∀ k, k < 2 → parseFieldDescriptor (TX9 k).2.2.1 = some (tyX9 k) := by decide +kernel
abbrev cX9_value : ByteArray := prog_11_method_2_code
def yX9_value : MethodName := ⟨RX9, "value", "([I[I)I"⟩
def dkwX9_value_5 : List UInt8 := [46, 184, 0, 17, 79, 132, 4, 1, 167, 255, 135, 44, 3, 46, 172]
abbrev dktX9_value_5 : List UInt8 := dkwX9_value_5 ++ []
def dkwX9_value_4 : List UInt8 := [167, 0, 29, 132, 3, 255, 44, 29, 4, 100, 42, 180, 0, 7, 21, 4, 51, 44, 29, 4, 100, 46, 44, 29]
abbrev dktX9_value_4 : List UInt8 := dkwX9_value_4 ++ dktX9_value_5
def dkwX9_value_3 : List UInt8 := [21, 4, 46, 46, 79, 132, 3, 1, 167, 0, 44, 44, 29, 4, 100, 4, 44, 29, 4, 100, 46, 100, 79]
abbrev dktX9_value_3 : List UInt8 := dkwX9_value_3 ++ dktX9_value_4
def dkwX9_value_2 : List UInt8 := [44, 29, 42, 180, 0, 13, 21, 4, 46, 79, 132, 3, 1, 167, 0, 62, 44, 29, 43, 42, 180, 0, 13]
abbrev dktX9_value_2 : List UInt8 := dkwX9_value_2 ++ dktX9_value_3
def dkwX9_value_1 : List UInt8 := [170, 0, 0, 0, 0, 75, 0, 0, 0, 0, 0, 0, 0, 2, 0, 0, 0, 26, 0, 0, 0, 42, 0, 0, 0, 60]
abbrev dktX9_value_1 : List UInt8 := dkwX9_value_1 ++ dktX9_value_2
def dkwX9_value_0 : List UInt8 := [3, 62, 3, 54, 4, 21, 4, 42, 180, 0, 7, 190, 162, 0, 117, 42, 180, 0, 7, 21, 4, 51]
abbrev dktX9_value_0 : List UInt8 := dkwX9_value_0 ++ dktX9_value_1
theorem dksX9_value_0 : cX9_value.data.toList.drop 0 = dktX9_value_0 := by decide +kernel
theorem dksX9_value_1 : cX9_value.data.toList.drop 22 = dktX9_value_1 := dk_seg dksX9_value_0 22 rfl rfl
theorem dksX9_value_2 : cX9_value.data.toList.drop 48 = dktX9_value_2 := dk_seg dksX9_value_1 26 rfl rfl
theorem dksX9_value_3 : cX9_value.data.toList.drop 71 = dktX9_value_3 := dk_seg dksX9_value_2 23 rfl rfl
theorem dksX9_value_4 : cX9_value.data.toList.drop 94 = dktX9_value_4 := dk_seg dksX9_value_3 23 rfl rfl
theorem dksX9_value_5 : cX9_value.data.toList.drop 118 = dktX9_value_5 := dk_seg dksX9_value_4 24 rfl rfl
theorem dX9_value_0 : decode cX9_value 0 = .ok (.iconst 0, 1) := dk_3 (dk_at dksX9_value_0 0 rfl rfl)
theorem dX9_value_1 : decode cX9_value 1 = .ok (.istore_n 3, 1) := dk_62 (dk_at dksX9_value_0 1 rfl rfl)
theorem dX9_value_2 : decode cX9_value 2 = .ok (.iconst 0, 1) := dk_3 (dk_at dksX9_value_0 2 rfl rfl)
theorem dX9_value_3 : decode cX9_value 3 = .ok (.istore 4, 2) := dk_54 4 (dk_at dksX9_value_0 3 rfl rfl)
theorem dX9_value_5 : decode cX9_value 5 = .ok (.iload 4, 2) := dk_21 4 (dk_at dksX9_value_0 5 rfl rfl)
theorem dX9_value_7 : decode cX9_value 7 = .ok (.aload_n 0, 1) := dk_42 (dk_at dksX9_value_0 7 rfl rfl)
theorem dX9_value_8 : decode cX9_value 8 = .ok (.getfield 7, 3) := dk_180 0 7 (dk_at dksX9_value_0 8 rfl rfl)
theorem dX9_value_11 : decode cX9_value 11 = .ok (.arraylength, 1) := dk_190 (dk_at dksX9_value_0 11 rfl rfl)
theorem dX9_value_12 : decode cX9_value 12 = .ok (.if_icmp .ge 117, 3) := dk_162 0 117 (dk_at dksX9_value_0 12 rfl rfl)
theorem dX9_value_15 : decode cX9_value 15 = .ok (.aload_n 0, 1) := dk_42 (dk_at dksX9_value_0 15 rfl rfl)
theorem dX9_value_16 : decode cX9_value 16 = .ok (.getfield 7, 3) := dk_180 0 7 (dk_at dksX9_value_0 16 rfl rfl)
theorem dX9_value_19 : decode cX9_value 19 = .ok (.iload 4, 2) := dk_21 4 (dk_at dksX9_value_0 19 rfl rfl)
theorem dX9_value_21 : decode cX9_value 21 = .ok (.baload, 1) := dk_51 (dk_at dksX9_value_0 21 rfl rfl)
theorem dX9_value_22 : decode cX9_value 22 = .ok (.tableswitch 75 0 2 #[26, 42, 60], 26) := by decide +kernel
theorem dX9_value_48 : decode cX9_value 48 = .ok (.aload_n 2, 1) := dk_44 (dk_at dksX9_value_2 0 rfl rfl)
theorem dX9_value_49 : decode cX9_value 49 = .ok (.iload_n 3, 1) := dk_29 (dk_at dksX9_value_2 1 rfl rfl)
theorem dX9_value_50 : decode cX9_value 50 = .ok (.aload_n 0, 1) := dk_42 (dk_at dksX9_value_2 2 rfl rfl)
theorem dX9_value_51 : decode cX9_value 51 = .ok (.getfield 13, 3) := dk_180 0 13 (dk_at dksX9_value_2 3 rfl rfl)
theorem dX9_value_54 : decode cX9_value 54 = .ok (.iload 4, 2) := dk_21 4 (dk_at dksX9_value_2 6 rfl rfl)
theorem dX9_value_56 : decode cX9_value 56 = .ok (.iaload, 1) := dk_46 (dk_at dksX9_value_2 8 rfl rfl)
theorem dX9_value_57 : decode cX9_value 57 = .ok (.iastore, 1) := dk_79 (dk_at dksX9_value_2 9 rfl rfl)
theorem dX9_value_58 : decode cX9_value 58 = .ok (.iinc 3 1, 3) := dk_132 3 1 (dk_at dksX9_value_2 10 rfl rfl)
theorem dX9_value_61 : decode cX9_value 61 = .ok (.goto 62, 3) := dk_167 0 62 (dk_at dksX9_value_2 13 rfl rfl)
theorem dX9_value_64 : decode cX9_value 64 = .ok (.aload_n 2, 1) := dk_44 (dk_at dksX9_value_2 16 rfl rfl)
theorem dX9_value_65 : decode cX9_value 65 = .ok (.iload_n 3, 1) := dk_29 (dk_at dksX9_value_2 17 rfl rfl)
theorem dX9_value_66 : decode cX9_value 66 = .ok (.aload_n 1, 1) := dk_43 (dk_at dksX9_value_2 18 rfl rfl)
theorem dX9_value_67 : decode cX9_value 67 = .ok (.aload_n 0, 1) := dk_42 (dk_at dksX9_value_2 19 rfl rfl)
theorem dX9_value_68 : decode cX9_value 68 = .ok (.getfield 13, 3) := dk_180 0 13 (dk_at dksX9_value_2 20 rfl rfl)
theorem dX9_value_71 : decode cX9_value 71 = .ok (.iload 4, 2) := dk_21 4 (dk_at dksX9_value_3 0 rfl rfl)
theorem dX9_value_73 : decode cX9_value 73 = .ok (.iaload, 1) := dk_46 (dk_at dksX9_value_3 2 rfl rfl)
theorem dX9_value_74 : decode cX9_value 74 = .ok (.iaload, 1) := dk_46 (dk_at dksX9_value_3 3 rfl rfl)
theorem dX9_value_75 : decode cX9_value 75 = .ok (.iastore, 1) := dk_79 (dk_at dksX9_value_3 4 rfl rfl)
theorem dX9_value_76 : decode cX9_value 76 = .ok (.iinc 3 1, 3) := dk_132 3 1 (dk_at dksX9_value_3 5 rfl rfl)
theorem dX9_value_79 : decode cX9_value 79 = .ok (.goto 44, 3) := dk_167 0 44 (dk_at dksX9_value_3 8 rfl rfl)
theorem dX9_value_82 : decode cX9_value 82 = .ok (.aload_n 2, 1) := dk_44 (dk_at dksX9_value_3 11 rfl rfl)
theorem dX9_value_83 : decode cX9_value 83 = .ok (.iload_n 3, 1) := dk_29 (dk_at dksX9_value_3 12 rfl rfl)
theorem dX9_value_84 : decode cX9_value 84 = .ok (.iconst 1, 1) := dk_4 (dk_at dksX9_value_3 13 rfl rfl)
theorem dX9_value_85 : decode cX9_value 85 = .ok (.isub, 1) := dk_100 (dk_at dksX9_value_3 14 rfl rfl)
theorem dX9_value_86 : decode cX9_value 86 = .ok (.iconst 1, 1) := dk_4 (dk_at dksX9_value_3 15 rfl rfl)
theorem dX9_value_87 : decode cX9_value 87 = .ok (.aload_n 2, 1) := dk_44 (dk_at dksX9_value_3 16 rfl rfl)
theorem dX9_value_88 : decode cX9_value 88 = .ok (.iload_n 3, 1) := dk_29 (dk_at dksX9_value_3 17 rfl rfl)
theorem dX9_value_89 : decode cX9_value 89 = .ok (.iconst 1, 1) := dk_4 (dk_at dksX9_value_3 18 rfl rfl)
theorem dX9_value_90 : decode cX9_value 90 = .ok (.isub, 1) := dk_100 (dk_at dksX9_value_3 19 rfl rfl)
theorem dX9_value_91 : decode cX9_value 91 = .ok (.iaload, 1) := dk_46 (dk_at dksX9_value_3 20 rfl rfl)
theorem dX9_value_92 : decode cX9_value 92 = .ok (.isub, 1) := dk_100 (dk_at dksX9_value_3 21 rfl rfl)
theorem dX9_value_93 : decode cX9_value 93 = .ok (.iastore, 1) := dk_79 (dk_at dksX9_value_3 22 rfl rfl)
theorem dX9_value_94 : decode cX9_value 94 = .ok (.goto 29, 3) := dk_167 0 29 (dk_at dksX9_value_4 0 rfl rfl)
theorem dX9_value_97 : decode cX9_value 97 = .ok (.iinc 3 (-1), 3) := dk_132 3 255 (dk_at dksX9_value_4 3 rfl rfl)
theorem dX9_value_100 : decode cX9_value 100 = .ok (.aload_n 2, 1) := dk_44 (dk_at dksX9_value_4 6 rfl rfl)
theorem dX9_value_101 : decode cX9_value 101 = .ok (.iload_n 3, 1) := dk_29 (dk_at dksX9_value_4 7 rfl rfl)
theorem dX9_value_102 : decode cX9_value 102 = .ok (.iconst 1, 1) := dk_4 (dk_at dksX9_value_4 8 rfl rfl)
theorem dX9_value_103 : decode cX9_value 103 = .ok (.isub, 1) := dk_100 (dk_at dksX9_value_4 9 rfl rfl)
theorem dX9_value_104 : decode cX9_value 104 = .ok (.aload_n 0, 1) := dk_42 (dk_at dksX9_value_4 10 rfl rfl)
theorem dX9_value_105 : decode cX9_value 105 = .ok (.getfield 7, 3) := dk_180 0 7 (dk_at dksX9_value_4 11 rfl rfl)
theorem dX9_value_108 : decode cX9_value 108 = .ok (.iload 4, 2) := dk_21 4 (dk_at dksX9_value_4 14 rfl rfl)
theorem dX9_value_110 : decode cX9_value 110 = .ok (.baload, 1) := dk_51 (dk_at dksX9_value_4 16 rfl rfl)
theorem dX9_value_111 : decode cX9_value 111 = .ok (.aload_n 2, 1) := dk_44 (dk_at dksX9_value_4 17 rfl rfl)
theorem dX9_value_112 : decode cX9_value 112 = .ok (.iload_n 3, 1) := dk_29 (dk_at dksX9_value_4 18 rfl rfl)
theorem dX9_value_113 : decode cX9_value 113 = .ok (.iconst 1, 1) := dk_4 (dk_at dksX9_value_4 19 rfl rfl)
theorem dX9_value_114 : decode cX9_value 114 = .ok (.isub, 1) := dk_100 (dk_at dksX9_value_4 20 rfl rfl)
theorem dX9_value_115 : decode cX9_value 115 = .ok (.iaload, 1) := dk_46 (dk_at dksX9_value_4 21 rfl rfl)
theorem dX9_value_116 : decode cX9_value 116 = .ok (.aload_n 2, 1) := dk_44 (dk_at dksX9_value_4 22 rfl rfl)
theorem dX9_value_117 : decode cX9_value 117 = .ok (.iload_n 3, 1) := dk_29 (dk_at dksX9_value_4 23 rfl rfl)
theorem dX9_value_118 : decode cX9_value 118 = .ok (.iaload, 1) := dk_46 (dk_at dksX9_value_5 0 rfl rfl)
theorem dX9_value_119 : decode cX9_value 119 = .ok (.invokestatic 17, 3) := dk_184 0 17 (dk_at dksX9_value_5 1 rfl rfl)
theorem dX9_value_122 : decode cX9_value 122 = .ok (.iastore, 1) := dk_79 (dk_at dksX9_value_5 4 rfl rfl)
theorem dX9_value_123 : decode cX9_value 123 = .ok (.iinc 4 1, 3) := dk_132 4 1 (dk_at dksX9_value_5 5 rfl rfl)
theorem dX9_value_126 : decode cX9_value 126 = .ok (.goto (-121), 3) := dk_167 255 135 (dk_at dksX9_value_5 8 rfl rfl)
theorem dX9_value_129 : decode cX9_value 129 = .ok (.aload_n 2, 1) := dk_44 (dk_at dksX9_value_5 11 rfl rfl)
theorem dX9_value_130 : decode cX9_value 130 = .ok (.iconst 0, 1) := dk_3 (dk_at dksX9_value_5 12 rfl rfl)
theorem dX9_value_131 : decode cX9_value 131 = .ok (.iaload, 1) := dk_46 (dk_at dksX9_value_5 13 rfl rfl)
theorem dX9_value_132 : decode cX9_value 132 = .ok (.ireturn, 1) := dk_172 (dk_at dksX9_value_5 14 rfl rfl)
abbrev cX9_joined : ByteArray := prog_11_method_3_code
def yX9_joined : MethodName := ⟨RX9, "joined", "(III)I"⟩
def dkwX9_joined_5 : List UInt8 := [167, 0, 4, 3, 172, 27, 28, 104, 172, 27, 28, 96, 158, 0, 7, 4, 167, 0, 4, 3, 172]
abbrev dktX9_joined_5 : List UInt8 := dkwX9_joined_5 ++ []
def dkwX9_joined_4 : List UInt8 := [167, 0, 4, 3, 172, 27, 28, 164, 0, 7, 4, 167, 0, 4, 3, 172, 27, 28, 160, 0, 7, 4]
abbrev dktX9_joined_4 : List UInt8 := dkwX9_joined_4 ++ dktX9_joined_5
def dkwX9_joined_3 : List UInt8 := [184, 0, 21, 172, 28, 154, 0, 7, 3, 167, 0, 6, 27, 28, 108, 172, 27, 28, 162, 0, 7, 4]
abbrev dktX9_joined_3 : List UInt8 := dkwX9_joined_3 ++ dktX9_joined_4
def dkwX9_joined_2 : List UInt8 := [27, 133, 28, 133, 97, 184, 0, 21, 172, 27, 133, 28, 133, 101, 184, 0, 21, 172, 27, 133, 28, 133, 105]
abbrev dktX9_joined_2 : List UInt8 := dkwX9_joined_2 ++ dktX9_joined_3
def dkwX9_joined_1 : List UInt8 := [170, 0, 0, 0, 0, 0, 191, 0, 0, 0, 38, 0, 0, 0, 62, 0, 0, 0, 187, 0, 0, 0, 191, 0, 0, 0, 191, 0, 0, 0, 191, 0, 0, 0, 133, 0, 0, 0, 115, 0, 0, 0, 191, 0, 0, 0, 124, 0, 0, 0, 191, 0, 0, 0, 142, 0, 0, 0, 191, 0, 0, 0, 191, 0, 0, 0, 191, 0, 0, 0, 191, 0, 0, 0, 191, 0, 0, 0, 191, 0, 0, 0, 191, 0, 0, 0, 191, 0, 0, 0, 191, 0, 0, 0, 191, 0, 0, 0, 191, 0, 0, 0, 191, 0, 0, 0, 154, 0, 0, 0, 176, 0, 0, 0, 165]
abbrev dktX9_joined_1 : List UInt8 := dkwX9_joined_1 ++ dktX9_joined_2
def dkwX9_joined_0 : List UInt8 := [26]
abbrev dktX9_joined_0 : List UInt8 := dkwX9_joined_0 ++ dktX9_joined_1
theorem dksX9_joined_0 : cX9_joined.data.toList.drop 0 = dktX9_joined_0 := by decide +kernel
theorem dksX9_joined_1 : cX9_joined.data.toList.drop 1 = dktX9_joined_1 := dk_seg dksX9_joined_0 1 rfl rfl
theorem dksX9_joined_2 : cX9_joined.data.toList.drop 116 = dktX9_joined_2 := dk_seg dksX9_joined_1 115 rfl rfl
theorem dksX9_joined_3 : cX9_joined.data.toList.drop 139 = dktX9_joined_3 := dk_seg dksX9_joined_2 23 rfl rfl
theorem dksX9_joined_4 : cX9_joined.data.toList.drop 161 = dktX9_joined_4 := dk_seg dksX9_joined_3 22 rfl rfl
theorem dksX9_joined_5 : cX9_joined.data.toList.drop 183 = dktX9_joined_5 := dk_seg dksX9_joined_4 22 rfl rfl
theorem dX9_joined_0 : decode cX9_joined 0 = .ok (.iload_n 0, 1) := dk_26 (dk_at dksX9_joined_0 0 rfl rfl)
theorem dX9_joined_1 : decode cX9_joined 1 = .ok (.tableswitch 191 38 62 #[187, 191, 191, 191, 133, 115, 191, 124, 191, 142, 191, 191, 191, 191, 191, 191, 191, 191, 191, 191, 191, 191, 154, 176, 165], 115) := by decide +kernel
theorem dX9_joined_116 : decode cX9_joined 116 = .ok (.iload_n 1, 1) := dk_27 (dk_at dksX9_joined_2 0 rfl rfl)
theorem dX9_joined_117 : decode cX9_joined 117 = .ok (.i2l, 1) := dk_133 (dk_at dksX9_joined_2 1 rfl rfl)
theorem dX9_joined_118 : decode cX9_joined 118 = .ok (.iload_n 2, 1) := dk_28 (dk_at dksX9_joined_2 2 rfl rfl)
theorem dX9_joined_119 : decode cX9_joined 119 = .ok (.i2l, 1) := dk_133 (dk_at dksX9_joined_2 3 rfl rfl)
theorem dX9_joined_120 : decode cX9_joined 120 = .ok (.ladd, 1) := dk_97 (dk_at dksX9_joined_2 4 rfl rfl)
theorem dX9_joined_121 : decode cX9_joined 121 = .ok (.invokestatic 21, 3) := dk_184 0 21 (dk_at dksX9_joined_2 5 rfl rfl)
theorem dX9_joined_124 : decode cX9_joined 124 = .ok (.ireturn, 1) := dk_172 (dk_at dksX9_joined_2 8 rfl rfl)
theorem dX9_joined_125 : decode cX9_joined 125 = .ok (.iload_n 1, 1) := dk_27 (dk_at dksX9_joined_2 9 rfl rfl)
theorem dX9_joined_126 : decode cX9_joined 126 = .ok (.i2l, 1) := dk_133 (dk_at dksX9_joined_2 10 rfl rfl)
theorem dX9_joined_127 : decode cX9_joined 127 = .ok (.iload_n 2, 1) := dk_28 (dk_at dksX9_joined_2 11 rfl rfl)
theorem dX9_joined_128 : decode cX9_joined 128 = .ok (.i2l, 1) := dk_133 (dk_at dksX9_joined_2 12 rfl rfl)
theorem dX9_joined_129 : decode cX9_joined 129 = .ok (.lsub, 1) := dk_101 (dk_at dksX9_joined_2 13 rfl rfl)
theorem dX9_joined_130 : decode cX9_joined 130 = .ok (.invokestatic 21, 3) := dk_184 0 21 (dk_at dksX9_joined_2 14 rfl rfl)
theorem dX9_joined_133 : decode cX9_joined 133 = .ok (.ireturn, 1) := dk_172 (dk_at dksX9_joined_2 17 rfl rfl)
theorem dX9_joined_134 : decode cX9_joined 134 = .ok (.iload_n 1, 1) := dk_27 (dk_at dksX9_joined_2 18 rfl rfl)
theorem dX9_joined_135 : decode cX9_joined 135 = .ok (.i2l, 1) := dk_133 (dk_at dksX9_joined_2 19 rfl rfl)
theorem dX9_joined_136 : decode cX9_joined 136 = .ok (.iload_n 2, 1) := dk_28 (dk_at dksX9_joined_2 20 rfl rfl)
theorem dX9_joined_137 : decode cX9_joined 137 = .ok (.i2l, 1) := dk_133 (dk_at dksX9_joined_2 21 rfl rfl)
theorem dX9_joined_138 : decode cX9_joined 138 = .ok (.lmul, 1) := dk_105 (dk_at dksX9_joined_2 22 rfl rfl)
theorem dX9_joined_139 : decode cX9_joined 139 = .ok (.invokestatic 21, 3) := dk_184 0 21 (dk_at dksX9_joined_3 0 rfl rfl)
theorem dX9_joined_142 : decode cX9_joined 142 = .ok (.ireturn, 1) := dk_172 (dk_at dksX9_joined_3 3 rfl rfl)
theorem dX9_joined_143 : decode cX9_joined 143 = .ok (.iload_n 2, 1) := dk_28 (dk_at dksX9_joined_3 4 rfl rfl)
theorem dX9_joined_144 : decode cX9_joined 144 = .ok (.ifCond .ne 7, 3) := dk_154 0 7 (dk_at dksX9_joined_3 5 rfl rfl)
theorem dX9_joined_147 : decode cX9_joined 147 = .ok (.iconst 0, 1) := dk_3 (dk_at dksX9_joined_3 8 rfl rfl)
theorem dX9_joined_148 : decode cX9_joined 148 = .ok (.goto 6, 3) := dk_167 0 6 (dk_at dksX9_joined_3 9 rfl rfl)
theorem dX9_joined_151 : decode cX9_joined 151 = .ok (.iload_n 1, 1) := dk_27 (dk_at dksX9_joined_3 12 rfl rfl)
theorem dX9_joined_152 : decode cX9_joined 152 = .ok (.iload_n 2, 1) := dk_28 (dk_at dksX9_joined_3 13 rfl rfl)
theorem dX9_joined_153 : decode cX9_joined 153 = .ok (.idiv, 1) := dk_108 (dk_at dksX9_joined_3 14 rfl rfl)
theorem dX9_joined_154 : decode cX9_joined 154 = .ok (.ireturn, 1) := dk_172 (dk_at dksX9_joined_3 15 rfl rfl)
theorem dX9_joined_155 : decode cX9_joined 155 = .ok (.iload_n 1, 1) := dk_27 (dk_at dksX9_joined_3 16 rfl rfl)
theorem dX9_joined_156 : decode cX9_joined 156 = .ok (.iload_n 2, 1) := dk_28 (dk_at dksX9_joined_3 17 rfl rfl)
theorem dX9_joined_157 : decode cX9_joined 157 = .ok (.if_icmp .ge 7, 3) := dk_162 0 7 (dk_at dksX9_joined_3 18 rfl rfl)
theorem dX9_joined_160 : decode cX9_joined 160 = .ok (.iconst 1, 1) := dk_4 (dk_at dksX9_joined_3 21 rfl rfl)
theorem dX9_joined_161 : decode cX9_joined 161 = .ok (.goto 4, 3) := dk_167 0 4 (dk_at dksX9_joined_4 0 rfl rfl)
theorem dX9_joined_164 : decode cX9_joined 164 = .ok (.iconst 0, 1) := dk_3 (dk_at dksX9_joined_4 3 rfl rfl)
theorem dX9_joined_165 : decode cX9_joined 165 = .ok (.ireturn, 1) := dk_172 (dk_at dksX9_joined_4 4 rfl rfl)
theorem dX9_joined_166 : decode cX9_joined 166 = .ok (.iload_n 1, 1) := dk_27 (dk_at dksX9_joined_4 5 rfl rfl)
theorem dX9_joined_167 : decode cX9_joined 167 = .ok (.iload_n 2, 1) := dk_28 (dk_at dksX9_joined_4 6 rfl rfl)
theorem dX9_joined_168 : decode cX9_joined 168 = .ok (.if_icmp .le 7, 3) := dk_164 0 7 (dk_at dksX9_joined_4 7 rfl rfl)
theorem dX9_joined_171 : decode cX9_joined 171 = .ok (.iconst 1, 1) := dk_4 (dk_at dksX9_joined_4 10 rfl rfl)
theorem dX9_joined_172 : decode cX9_joined 172 = .ok (.goto 4, 3) := dk_167 0 4 (dk_at dksX9_joined_4 11 rfl rfl)
theorem dX9_joined_175 : decode cX9_joined 175 = .ok (.iconst 0, 1) := dk_3 (dk_at dksX9_joined_4 14 rfl rfl)
theorem dX9_joined_176 : decode cX9_joined 176 = .ok (.ireturn, 1) := dk_172 (dk_at dksX9_joined_4 15 rfl rfl)
theorem dX9_joined_177 : decode cX9_joined 177 = .ok (.iload_n 1, 1) := dk_27 (dk_at dksX9_joined_4 16 rfl rfl)
theorem dX9_joined_178 : decode cX9_joined 178 = .ok (.iload_n 2, 1) := dk_28 (dk_at dksX9_joined_4 17 rfl rfl)
theorem dX9_joined_179 : decode cX9_joined 179 = .ok (.if_icmp .ne 7, 3) := dk_160 0 7 (dk_at dksX9_joined_4 18 rfl rfl)
theorem dX9_joined_182 : decode cX9_joined 182 = .ok (.iconst 1, 1) := dk_4 (dk_at dksX9_joined_4 21 rfl rfl)
theorem dX9_joined_183 : decode cX9_joined 183 = .ok (.goto 4, 3) := dk_167 0 4 (dk_at dksX9_joined_5 0 rfl rfl)
theorem dX9_joined_186 : decode cX9_joined 186 = .ok (.iconst 0, 1) := dk_3 (dk_at dksX9_joined_5 3 rfl rfl)
theorem dX9_joined_187 : decode cX9_joined 187 = .ok (.ireturn, 1) := dk_172 (dk_at dksX9_joined_5 4 rfl rfl)
theorem dX9_joined_188 : decode cX9_joined 188 = .ok (.iload_n 1, 1) := dk_27 (dk_at dksX9_joined_5 5 rfl rfl)
theorem dX9_joined_189 : decode cX9_joined 189 = .ok (.iload_n 2, 1) := dk_28 (dk_at dksX9_joined_5 6 rfl rfl)
theorem dX9_joined_190 : decode cX9_joined 190 = .ok (.imul, 1) := dk_104 (dk_at dksX9_joined_5 7 rfl rfl)
theorem dX9_joined_191 : decode cX9_joined 191 = .ok (.ireturn, 1) := dk_172 (dk_at dksX9_joined_5 8 rfl rfl)
theorem dX9_joined_192 : decode cX9_joined 192 = .ok (.iload_n 1, 1) := dk_27 (dk_at dksX9_joined_5 9 rfl rfl)
theorem dX9_joined_193 : decode cX9_joined 193 = .ok (.iload_n 2, 1) := dk_28 (dk_at dksX9_joined_5 10 rfl rfl)
theorem dX9_joined_194 : decode cX9_joined 194 = .ok (.iadd, 1) := dk_96 (dk_at dksX9_joined_5 11 rfl rfl)
theorem dX9_joined_195 : decode cX9_joined 195 = .ok (.ifCond .le 7, 3) := dk_158 0 7 (dk_at dksX9_joined_5 12 rfl rfl)
theorem dX9_joined_198 : decode cX9_joined 198 = .ok (.iconst 1, 1) := dk_4 (dk_at dksX9_joined_5 15 rfl rfl)
theorem dX9_joined_199 : decode cX9_joined 199 = .ok (.goto 4, 3) := dk_167 0 4 (dk_at dksX9_joined_5 16 rfl rfl)
theorem dX9_joined_202 : decode cX9_joined 202 = .ok (.iconst 0, 1) := dk_3 (dk_at dksX9_joined_5 19 rfl rfl)
theorem dX9_joined_203 : decode cX9_joined 203 = .ok (.ireturn, 1) := dk_172 (dk_at dksX9_joined_5 20 rfl rfl)
abbrev cX9_init : ByteArray := prog_11_method_1_code
def yX9_init : MethodName := ⟨RX9, "<init>", "(I)V"⟩
def dkwX9_init_0 : List UInt8 := [42, 183, 0, 1, 42, 27, 188, 8, 181, 0, 7, 42, 27, 188, 10, 181, 0, 13, 177]
abbrev dktX9_init_0 : List UInt8 := dkwX9_init_0 ++ []
theorem dksX9_init_0 : cX9_init.data.toList.drop 0 = dktX9_init_0 := by decide +kernel
theorem dX9_init_0 : decode cX9_init 0 = .ok (.aload_n 0, 1) := dk_42 (dk_at dksX9_init_0 0 rfl rfl)
theorem dX9_init_1 : decode cX9_init 1 = .ok (.invokespecial 1, 3) := dk_183 0 1 (dk_at dksX9_init_0 1 rfl rfl)
theorem dX9_init_4 : decode cX9_init 4 = .ok (.aload_n 0, 1) := dk_42 (dk_at dksX9_init_0 4 rfl rfl)
theorem dX9_init_5 : decode cX9_init 5 = .ok (.iload_n 1, 1) := dk_27 (dk_at dksX9_init_0 5 rfl rfl)
theorem dX9_init_6 : decode cX9_init 6 = .ok (.newarray .byte, 2) := dk_188_8 (dk_at dksX9_init_0 6 rfl rfl)
theorem dX9_init_8 : decode cX9_init 8 = .ok (.putfield 7, 3) := dk_181 0 7 (dk_at dksX9_init_0 8 rfl rfl)
theorem dX9_init_11 : decode cX9_init 11 = .ok (.aload_n 0, 1) := dk_42 (dk_at dksX9_init_0 11 rfl rfl)
theorem dX9_init_12 : decode cX9_init 12 = .ok (.iload_n 1, 1) := dk_27 (dk_at dksX9_init_0 12 rfl rfl)
theorem dX9_init_13 : decode cX9_init 13 = .ok (.newarray .int, 2) := dk_188_10 (dk_at dksX9_init_0 13 rfl rfl)
theorem dX9_init_15 : decode cX9_init 15 = .ok (.putfield 13, 3) := dk_181 0 13 (dk_at dksX9_init_0 15 rfl rfl)
theorem dX9_init_18 : decode cX9_init 18 = .ok (.return_, 1) := dk_177 (dk_at dksX9_init_0 18 rfl rfl)
theorem q105 : (Jvm.Cond.initialized "WheelLand$Steps") ∈ lw_all := lw_g (lw_at lw_m1 11 rfl) rfl
theorem q655 : (Jvm.Cond.instanceMethod ({ cls := "WheelLand$Steps", name := "value", desc := "([I[I)I" } : Jvm.MethodName)) ∈ lw_all := lw_g (lw_at lw_m3 81 rfl) rfl
theorem q656 : (Jvm.Cond.selects "WheelLand$Steps" ({ cls := "WheelLand$Steps", name := "value", desc := "([I[I)I" } : Jvm.MethodName) ({ cls := "WheelLand$Steps", name := "value", desc := "([I[I)I" } : Jvm.MethodName)) ∈ lw_all := lw_g (lw_at lw_m3 82 rfl) rfl
theorem q657 : (Jvm.Cond.code ({ cls := "WheelLand$Steps", name := "value", desc := "([I[I)I" } : Jvm.MethodName) prog_11_method_2_code (5 : Nat) (Option.some Jvm.ClassFile.FieldType.int)) ∈ lw_all := lw_g (lw_at lw_m3 83 rfl) rfl
theorem q658 : (Jvm.Cond.methodLink "WheelLand$Steps" (17 : Nat) ({ cls := "WheelLand$Steps", name := "joined", desc := "(III)I" } : Jvm.MethodName)) ∈ lw_all := lw_g (lw_at lw_m3 84 rfl) rfl
theorem q659 : (Jvm.Cond.static ({ cls := "WheelLand$Steps", name := "joined", desc := "(III)I" } : Jvm.MethodName)) ∈ lw_all := lw_g (lw_at lw_m3 85 rfl) rfl
theorem q660 : (Jvm.Cond.code ({ cls := "WheelLand$Steps", name := "joined", desc := "(III)I" } : Jvm.MethodName) prog_11_method_3_code (3 : Nat) (Option.some Jvm.ClassFile.FieldType.int)) ∈ lw_all := lw_g (lw_at lw_m3 86 rfl) rfl
theorem q661 : (Jvm.Cond.methodLinkNest "WheelLand$Steps" (21 : Nat) ({ cls := "WheelLand", name := "near", desc := "(J)I" } : Jvm.MethodName) "WheelLand") ∈ lw_tbl := lw_at lw_m3 87 rfl
theorem q997 : (Jvm.Cond.instantiable "WheelLand$Steps" (2 : Nat)) ∈ lw_all := lw_g (lw_at lw_m4 183 rfl) rfl
theorem q999 : (Jvm.Cond.instanceMethod ({ cls := "WheelLand$Steps", name := "<init>", desc := "(I)V" } : Jvm.MethodName)) ∈ lw_all := lw_g (lw_at lw_m4 185 rfl) rfl
theorem q1000 : (Jvm.Cond.code ({ cls := "WheelLand$Steps", name := "<init>", desc := "(I)V" } : Jvm.MethodName) prog_11_method_1_code (2 : Nat) (Option.none : Option Jvm.ClassFile.FieldType)) ∈ lw_all := lw_g (lw_at lw_m4 186 rfl) rfl
theorem q1001 : (Jvm.Cond.methodLink "WheelLand$Steps" (1 : Nat) ({ cls := "java/lang/Object", name := "<init>", desc := "()V" } : Jvm.MethodName)) ∈ lw_all := lw_g (lw_at lw_m4 187 rfl) rfl
theorem q1002 : (Jvm.Cond.fieldLink "WheelLand$Steps" (7 : Nat) "WheelLand$Steps" "what" "[B") ∈ lw_all := lw_g (lw_at lw_m4 188 rfl) rfl
theorem q1004 : (Jvm.Cond.fieldLink "WheelLand$Steps" (13 : Nat) "WheelLand$Steps" "with" "[I") ∈ lw_all := lw_g (lw_at lw_m4 190 rfl) rfl
theorem q1006 : (Jvm.Cond.laysFinal "WheelLand$Steps" "WheelLand$Steps" "what" "[B") ∈ lw_all := lw_g (lw_at lw_m4 192 rfl) rfl
theorem q1007 : (Jvm.Cond.soleField "WheelLand$Steps" "what") ∈ lw_all := lw_g (lw_at lw_m4 193 rfl) rfl
theorem q1008 : (Jvm.Cond.laysFinal "WheelLand$Steps" "WheelLand$Steps" "with" "[I") ∈ lw_all := lw_g (lw_at lw_m4 194 rfl) rfl
theorem q1009 : (Jvm.Cond.soleField "WheelLand$Steps" "with") ∈ lw_all := lw_g (lw_at lw_m4 195 rfl) rfl
theorem q1010 : (Jvm.Cond.superclass "WheelLand$Steps" "java/lang/Object") ∈ lw_all := lw_g (lw_at lw_m4 196 rfl) rfl
theorem in_X9 : ∀ w ∈ wsX90, w ∈ lw_all := lw_in wsX90 [1006, 1008] (by decide +kernel) (by decide +kernel)
/-! java/lang/Math -/
set_option maxRecDepth 100000
def RJ0 : String := "java/lang/Math"
abbrev cJ0_min : ByteArray := prog_17_method_69_code
def yJ0_min : MethodName := ⟨RJ0, "min", "(II)I"⟩
def dkwJ0_min_0 : List UInt8 := [26, 27, 163, 0, 7, 26, 167, 0, 4, 27, 172]
abbrev dktJ0_min_0 : List UInt8 := dkwJ0_min_0 ++ []
theorem dksJ0_min_0 : cJ0_min.data.toList.drop 0 = dktJ0_min_0 := by decide +kernel
theorem dJ0_min_0 : decode cJ0_min 0 = .ok (.iload_n 0, 1) := dk_26 (dk_at dksJ0_min_0 0 rfl rfl)
theorem dJ0_min_1 : decode cJ0_min 1 = .ok (.iload_n 1, 1) := dk_27 (dk_at dksJ0_min_0 1 rfl rfl)
theorem dJ0_min_2 : decode cJ0_min 2 = .ok (.if_icmp .gt 7, 3) := dk_163 0 7 (dk_at dksJ0_min_0 2 rfl rfl)
theorem dJ0_min_5 : decode cJ0_min 5 = .ok (.iload_n 0, 1) := dk_26 (dk_at dksJ0_min_0 5 rfl rfl)
theorem dJ0_min_6 : decode cJ0_min 6 = .ok (.goto 4, 3) := dk_167 0 4 (dk_at dksJ0_min_0 6 rfl rfl)
theorem dJ0_min_9 : decode cJ0_min 9 = .ok (.iload_n 1, 1) := dk_27 (dk_at dksJ0_min_0 9 rfl rfl)
theorem dJ0_min_10 : decode cJ0_min 10 = .ok (.ireturn, 1) := dk_172 (dk_at dksJ0_min_0 10 rfl rfl)
abbrev cJ0_max : ByteArray := prog_17_method_65_code
def yJ0_max : MethodName := ⟨RJ0, "max", "(II)I"⟩
def dkwJ0_max_0 : List UInt8 := [26, 27, 161, 0, 7, 26, 167, 0, 4, 27, 172]
abbrev dktJ0_max_0 : List UInt8 := dkwJ0_max_0 ++ []
theorem dksJ0_max_0 : cJ0_max.data.toList.drop 0 = dktJ0_max_0 := by decide +kernel
theorem dJ0_max_0 : decode cJ0_max 0 = .ok (.iload_n 0, 1) := dk_26 (dk_at dksJ0_max_0 0 rfl rfl)
theorem dJ0_max_1 : decode cJ0_max 1 = .ok (.iload_n 1, 1) := dk_27 (dk_at dksJ0_max_0 1 rfl rfl)
theorem dJ0_max_2 : decode cJ0_max 2 = .ok (.if_icmp .lt 7, 3) := dk_161 0 7 (dk_at dksJ0_max_0 2 rfl rfl)
theorem dJ0_max_5 : decode cJ0_max 5 = .ok (.iload_n 0, 1) := dk_26 (dk_at dksJ0_max_0 5 rfl rfl)
theorem dJ0_max_6 : decode cJ0_max 6 = .ok (.goto 4, 3) := dk_167 0 4 (dk_at dksJ0_max_0 6 rfl rfl)
theorem dJ0_max_9 : decode cJ0_max 9 = .ok (.iload_n 1, 1) := dk_27 (dk_at dksJ0_max_0 9 rfl rfl)
theorem dJ0_max_10 : decode cJ0_max 10 = .ok (.ireturn, 1) := dk_172 (dk_at dksJ0_max_0 10 rfl rfl)
abbrev cJ0_min_2 : ByteArray := prog_17_method_70_code
def yJ0_min_2 : MethodName := ⟨RJ0, "min", "(JJ)J"⟩
def dkwJ0_min_2_0 : List UInt8 := [30, 32, 148, 157, 0, 7, 30, 167, 0, 4, 32, 173]
abbrev dktJ0_min_2_0 : List UInt8 := dkwJ0_min_2_0 ++ []
theorem dksJ0_min_2_0 : cJ0_min_2.data.toList.drop 0 = dktJ0_min_2_0 := by decide +kernel
theorem dJ0_min_2_0 : decode cJ0_min_2 0 = .ok (.lload_n 0, 1) := dk_30 (dk_at dksJ0_min_2_0 0 rfl rfl)
theorem dJ0_min_2_1 : decode cJ0_min_2 1 = .ok (.lload_n 2, 1) := dk_32 (dk_at dksJ0_min_2_0 1 rfl rfl)
theorem dJ0_min_2_2 : decode cJ0_min_2 2 = .ok (.lcmp, 1) := dk_148 (dk_at dksJ0_min_2_0 2 rfl rfl)
theorem dJ0_min_2_3 : decode cJ0_min_2 3 = .ok (.ifCond .gt 7, 3) := dk_157 0 7 (dk_at dksJ0_min_2_0 3 rfl rfl)
theorem dJ0_min_2_6 : decode cJ0_min_2 6 = .ok (.lload_n 0, 1) := dk_30 (dk_at dksJ0_min_2_0 6 rfl rfl)
theorem dJ0_min_2_7 : decode cJ0_min_2 7 = .ok (.goto 4, 3) := dk_167 0 4 (dk_at dksJ0_min_2_0 7 rfl rfl)
theorem dJ0_min_2_10 : decode cJ0_min_2 10 = .ok (.lload_n 2, 1) := dk_32 (dk_at dksJ0_min_2_0 10 rfl rfl)
theorem dJ0_min_2_11 : decode cJ0_min_2 11 = .ok (.lreturn, 1) := dk_173 (dk_at dksJ0_min_2_0 11 rfl rfl)
abbrev cJ0_max_2 : ByteArray := prog_17_method_66_code
def yJ0_max_2 : MethodName := ⟨RJ0, "max", "(JJ)J"⟩
def dkwJ0_max_2_0 : List UInt8 := [30, 32, 148, 155, 0, 7, 30, 167, 0, 4, 32, 173]
abbrev dktJ0_max_2_0 : List UInt8 := dkwJ0_max_2_0 ++ []
theorem dksJ0_max_2_0 : cJ0_max_2.data.toList.drop 0 = dktJ0_max_2_0 := by decide +kernel
theorem dJ0_max_2_0 : decode cJ0_max_2 0 = .ok (.lload_n 0, 1) := dk_30 (dk_at dksJ0_max_2_0 0 rfl rfl)
theorem dJ0_max_2_1 : decode cJ0_max_2 1 = .ok (.lload_n 2, 1) := dk_32 (dk_at dksJ0_max_2_0 1 rfl rfl)
theorem dJ0_max_2_2 : decode cJ0_max_2 2 = .ok (.lcmp, 1) := dk_148 (dk_at dksJ0_max_2_0 2 rfl rfl)
theorem dJ0_max_2_3 : decode cJ0_max_2 3 = .ok (.ifCond .lt 7, 3) := dk_155 0 7 (dk_at dksJ0_max_2_0 3 rfl rfl)
theorem dJ0_max_2_6 : decode cJ0_max_2 6 = .ok (.lload_n 0, 1) := dk_30 (dk_at dksJ0_max_2_0 6 rfl rfl)
theorem dJ0_max_2_7 : decode cJ0_max_2 7 = .ok (.goto 4, 3) := dk_167 0 4 (dk_at dksJ0_max_2_0 7 rfl rfl)
theorem dJ0_max_2_10 : decode cJ0_max_2 10 = .ok (.lload_n 2, 1) := dk_32 (dk_at dksJ0_max_2_0 10 rfl rfl)
theorem dJ0_max_2_11 : decode cJ0_max_2 11 = .ok (.lreturn, 1) := dk_173 (dk_at dksJ0_max_2_0 11 rfl rfl)
theorem q102 : (Jvm.Cond.initialized "java/lang/Math") ∈ lw_all := lw_g (lw_at lw_m1 8 rfl) rfl
theorem q569 : (Jvm.Cond.static ({ cls := "java/lang/Math", name := "min", desc := "(II)I" } : Jvm.MethodName)) ∈ lw_all := lw_g (lw_at lw_m2 235 rfl) rfl
theorem q570 : (Jvm.Cond.code ({ cls := "java/lang/Math", name := "min", desc := "(II)I" } : Jvm.MethodName) prog_17_method_69_code (2 : Nat) (Option.some Jvm.ClassFile.FieldType.int)) ∈ lw_all := lw_g (lw_at lw_m2 236 rfl) rfl
theorem q584 : (Jvm.Cond.static ({ cls := "java/lang/Math", name := "max", desc := "(II)I" } : Jvm.MethodName)) ∈ lw_all := lw_g (lw_at lw_m3 10 rfl) rfl
theorem q585 : (Jvm.Cond.code ({ cls := "java/lang/Math", name := "max", desc := "(II)I" } : Jvm.MethodName) prog_17_method_65_code (2 : Nat) (Option.some Jvm.ClassFile.FieldType.int)) ∈ lw_all := lw_g (lw_at lw_m3 11 rfl) rfl
theorem q667 : (Jvm.Cond.static ({ cls := "java/lang/Math", name := "min", desc := "(JJ)J" } : Jvm.MethodName)) ∈ lw_all := lw_g (lw_at lw_m3 93 rfl) rfl
theorem q668 : (Jvm.Cond.code ({ cls := "java/lang/Math", name := "min", desc := "(JJ)J" } : Jvm.MethodName) prog_17_method_70_code (4 : Nat) (Option.some Jvm.ClassFile.FieldType.long)) ∈ lw_all := lw_g (lw_at lw_m3 94 rfl) rfl
theorem q670 : (Jvm.Cond.static ({ cls := "java/lang/Math", name := "max", desc := "(JJ)J" } : Jvm.MethodName)) ∈ lw_all := lw_g (lw_at lw_m3 96 rfl) rfl
theorem q671 : (Jvm.Cond.code ({ cls := "java/lang/Math", name := "max", desc := "(JJ)J" } : Jvm.MethodName) prog_17_method_66_code (4 : Nat) (Option.some Jvm.ClassFile.FieldType.long)) ∈ lw_all := lw_g (lw_at lw_m3 97 rfl) rfl
/-! java/lang/String -/
set_option maxRecDepth 100000
def RJ1 : String := "java/lang/String"
abbrev cJ1_indexOf : ByteArray := prog_19_method_79_code
def yJ1_indexOf : MethodName := ⟨RJ1, "indexOf", "(I)I"⟩
def dkwJ1_indexOf_0 : List UInt8 := [42, 27, 3, 182, 2, 121, 172]
abbrev dktJ1_indexOf_0 : List UInt8 := dkwJ1_indexOf_0 ++ []
theorem dksJ1_indexOf_0 : cJ1_indexOf.data.toList.drop 0 = dktJ1_indexOf_0 := by decide +kernel
theorem dJ1_indexOf_0 : decode cJ1_indexOf 0 = .ok (.aload_n 0, 1) := dk_42 (dk_at dksJ1_indexOf_0 0 rfl rfl)
theorem dJ1_indexOf_1 : decode cJ1_indexOf 1 = .ok (.iload_n 1, 1) := dk_27 (dk_at dksJ1_indexOf_0 1 rfl rfl)
theorem dJ1_indexOf_2 : decode cJ1_indexOf 2 = .ok (.iconst 0, 1) := dk_3 (dk_at dksJ1_indexOf_0 2 rfl rfl)
theorem dJ1_indexOf_3 : decode cJ1_indexOf 3 = .ok (.invokevirtual 633, 3) := dk_182 2 121 (dk_at dksJ1_indexOf_0 3 rfl rfl)
theorem dJ1_indexOf_6 : decode cJ1_indexOf 6 = .ok (.ireturn, 1) := dk_172 (dk_at dksJ1_indexOf_0 6 rfl rfl)
abbrev cJ1_indexOf_2 : ByteArray := prog_19_method_80_code
def yJ1_indexOf_2 : MethodName := ⟨RJ1, "indexOf", "(II)I"⟩
def dkwJ1_indexOf_2_1 : List UInt8 := [180, 0, 9, 27, 28, 42, 182, 1, 249, 184, 2, 128, 172]
abbrev dktJ1_indexOf_2_1 : List UInt8 := dkwJ1_indexOf_2_1 ++ []
def dkwJ1_indexOf_2_0 : List UInt8 := [42, 182, 1, 236, 153, 0, 19, 42, 180, 0, 9, 27, 28, 42, 182, 1, 249, 184, 2, 125, 167, 0, 16, 42]
abbrev dktJ1_indexOf_2_0 : List UInt8 := dkwJ1_indexOf_2_0 ++ dktJ1_indexOf_2_1
theorem dksJ1_indexOf_2_0 : cJ1_indexOf_2.data.toList.drop 0 = dktJ1_indexOf_2_0 := by decide +kernel
theorem dksJ1_indexOf_2_1 : cJ1_indexOf_2.data.toList.drop 24 = dktJ1_indexOf_2_1 := dk_seg dksJ1_indexOf_2_0 24 rfl rfl
theorem dJ1_indexOf_2_0 : decode cJ1_indexOf_2 0 = .ok (.aload_n 0, 1) := dk_42 (dk_at dksJ1_indexOf_2_0 0 rfl rfl)
theorem dJ1_indexOf_2_1 : decode cJ1_indexOf_2 1 = .ok (.invokevirtual 492, 3) := dk_182 1 236 (dk_at dksJ1_indexOf_2_0 1 rfl rfl)
theorem dJ1_indexOf_2_4 : decode cJ1_indexOf_2 4 = .ok (.ifCond .eq 19, 3) := dk_153 0 19 (dk_at dksJ1_indexOf_2_0 4 rfl rfl)
theorem dJ1_indexOf_2_7 : decode cJ1_indexOf_2 7 = .ok (.aload_n 0, 1) := dk_42 (dk_at dksJ1_indexOf_2_0 7 rfl rfl)
theorem dJ1_indexOf_2_8 : decode cJ1_indexOf_2 8 = .ok (.getfield 9, 3) := dk_180 0 9 (dk_at dksJ1_indexOf_2_0 8 rfl rfl)
theorem dJ1_indexOf_2_11 : decode cJ1_indexOf_2 11 = .ok (.iload_n 1, 1) := dk_27 (dk_at dksJ1_indexOf_2_0 11 rfl rfl)
theorem dJ1_indexOf_2_12 : decode cJ1_indexOf_2 12 = .ok (.iload_n 2, 1) := dk_28 (dk_at dksJ1_indexOf_2_0 12 rfl rfl)
theorem dJ1_indexOf_2_13 : decode cJ1_indexOf_2 13 = .ok (.aload_n 0, 1) := dk_42 (dk_at dksJ1_indexOf_2_0 13 rfl rfl)
theorem dJ1_indexOf_2_14 : decode cJ1_indexOf_2 14 = .ok (.invokevirtual 505, 3) := dk_182 1 249 (dk_at dksJ1_indexOf_2_0 14 rfl rfl)
theorem dJ1_indexOf_2_17 : decode cJ1_indexOf_2 17 = .ok (.invokestatic 637, 3) := dk_184 2 125 (dk_at dksJ1_indexOf_2_0 17 rfl rfl)
theorem dJ1_indexOf_2_20 : decode cJ1_indexOf_2 20 = .ok (.goto 16, 3) := dk_167 0 16 (dk_at dksJ1_indexOf_2_0 20 rfl rfl)
theorem dJ1_indexOf_2_23 : decode cJ1_indexOf_2 23 = .ok (.aload_n 0, 1) := dk_42 (dk_at dksJ1_indexOf_2_0 23 rfl rfl)
theorem dJ1_indexOf_2_24 : decode cJ1_indexOf_2 24 = .ok (.getfield 9, 3) := dk_180 0 9 (dk_at dksJ1_indexOf_2_1 0 rfl rfl)
theorem dJ1_indexOf_2_27 : decode cJ1_indexOf_2 27 = .ok (.iload_n 1, 1) := dk_27 (dk_at dksJ1_indexOf_2_1 3 rfl rfl)
theorem dJ1_indexOf_2_28 : decode cJ1_indexOf_2 28 = .ok (.iload_n 2, 1) := dk_28 (dk_at dksJ1_indexOf_2_1 4 rfl rfl)
theorem dJ1_indexOf_2_29 : decode cJ1_indexOf_2 29 = .ok (.aload_n 0, 1) := dk_42 (dk_at dksJ1_indexOf_2_1 5 rfl rfl)
theorem dJ1_indexOf_2_30 : decode cJ1_indexOf_2 30 = .ok (.invokevirtual 505, 3) := dk_182 1 249 (dk_at dksJ1_indexOf_2_1 6 rfl rfl)
theorem dJ1_indexOf_2_33 : decode cJ1_indexOf_2 33 = .ok (.invokestatic 640, 3) := dk_184 2 128 (dk_at dksJ1_indexOf_2_1 9 rfl rfl)
theorem dJ1_indexOf_2_36 : decode cJ1_indexOf_2 36 = .ok (.ireturn, 1) := dk_172 (dk_at dksJ1_indexOf_2_1 12 rfl rfl)
abbrev cJ1_isLatin1 : ByteArray := prog_19_method_154_code
def yJ1_isLatin1 : MethodName := ⟨RJ1, "isLatin1", "()Z"⟩
def dkwJ1_isLatin1_0 : List UInt8 := [178, 0, 38, 153, 0, 14, 42, 180, 0, 15, 154, 0, 7, 4, 167, 0, 4, 3, 172]
abbrev dktJ1_isLatin1_0 : List UInt8 := dkwJ1_isLatin1_0 ++ []
theorem dksJ1_isLatin1_0 : cJ1_isLatin1.data.toList.drop 0 = dktJ1_isLatin1_0 := by decide +kernel
theorem dJ1_isLatin1_0 : decode cJ1_isLatin1 0 = .ok (.getstatic 38, 3) := dk_178 0 38 (dk_at dksJ1_isLatin1_0 0 rfl rfl)
theorem dJ1_isLatin1_3 : decode cJ1_isLatin1 3 = .ok (.ifCond .eq 14, 3) := dk_153 0 14 (dk_at dksJ1_isLatin1_0 3 rfl rfl)
theorem dJ1_isLatin1_6 : decode cJ1_isLatin1 6 = .ok (.aload_n 0, 1) := dk_42 (dk_at dksJ1_isLatin1_0 6 rfl rfl)
theorem dJ1_isLatin1_7 : decode cJ1_isLatin1 7 = .ok (.getfield 15, 3) := dk_180 0 15 (dk_at dksJ1_isLatin1_0 7 rfl rfl)
theorem dJ1_isLatin1_10 : decode cJ1_isLatin1 10 = .ok (.ifCond .ne 7, 3) := dk_154 0 7 (dk_at dksJ1_isLatin1_0 10 rfl rfl)
theorem dJ1_isLatin1_13 : decode cJ1_isLatin1 13 = .ok (.iconst 1, 1) := dk_4 (dk_at dksJ1_isLatin1_0 13 rfl rfl)
theorem dJ1_isLatin1_14 : decode cJ1_isLatin1 14 = .ok (.goto 4, 3) := dk_167 0 4 (dk_at dksJ1_isLatin1_0 14 rfl rfl)
theorem dJ1_isLatin1_17 : decode cJ1_isLatin1 17 = .ok (.iconst 0, 1) := dk_3 (dk_at dksJ1_isLatin1_0 17 rfl rfl)
theorem dJ1_isLatin1_18 : decode cJ1_isLatin1 18 = .ok (.ireturn, 1) := dk_172 (dk_at dksJ1_isLatin1_0 18 rfl rfl)
abbrev cJ1_length : ByteArray := prog_19_method_54_code
def yJ1_length : MethodName := ⟨RJ1, "length", "()I"⟩
def dkwJ1_length_0 : List UInt8 := [42, 180, 0, 9, 190, 42, 182, 1, 79, 122, 172]
abbrev dktJ1_length_0 : List UInt8 := dkwJ1_length_0 ++ []
theorem dksJ1_length_0 : cJ1_length.data.toList.drop 0 = dktJ1_length_0 := by decide +kernel
theorem dJ1_length_0 : decode cJ1_length 0 = .ok (.aload_n 0, 1) := dk_42 (dk_at dksJ1_length_0 0 rfl rfl)
theorem dJ1_length_1 : decode cJ1_length 1 = .ok (.getfield 9, 3) := dk_180 0 9 (dk_at dksJ1_length_0 1 rfl rfl)
theorem dJ1_length_4 : decode cJ1_length 4 = .ok (.arraylength, 1) := dk_190 (dk_at dksJ1_length_0 4 rfl rfl)
theorem dJ1_length_5 : decode cJ1_length 5 = .ok (.aload_n 0, 1) := dk_42 (dk_at dksJ1_length_0 5 rfl rfl)
theorem dJ1_length_6 : decode cJ1_length 6 = .ok (.invokevirtual 335, 3) := dk_182 1 79 (dk_at dksJ1_length_0 6 rfl rfl)
theorem dJ1_length_9 : decode cJ1_length 9 = .ok (.ishr, 1) := dk_122 (dk_at dksJ1_length_0 9 rfl rfl)
theorem dJ1_length_10 : decode cJ1_length 10 = .ok (.ireturn, 1) := dk_172 (dk_at dksJ1_length_0 10 rfl rfl)
abbrev cJ1_coder : ByteArray := prog_19_method_152_code
def yJ1_coder : MethodName := ⟨RJ1, "coder", "()B"⟩
def dkwJ1_coder_0 : List UInt8 := [178, 0, 38, 153, 0, 10, 42, 180, 0, 15, 167, 0, 4, 4, 172]
abbrev dktJ1_coder_0 : List UInt8 := dkwJ1_coder_0 ++ []
theorem dksJ1_coder_0 : cJ1_coder.data.toList.drop 0 = dktJ1_coder_0 := by decide +kernel
theorem dJ1_coder_0 : decode cJ1_coder 0 = .ok (.getstatic 38, 3) := dk_178 0 38 (dk_at dksJ1_coder_0 0 rfl rfl)
theorem dJ1_coder_3 : decode cJ1_coder 3 = .ok (.ifCond .eq 10, 3) := dk_153 0 10 (dk_at dksJ1_coder_0 3 rfl rfl)
theorem dJ1_coder_6 : decode cJ1_coder 6 = .ok (.aload_n 0, 1) := dk_42 (dk_at dksJ1_coder_0 6 rfl rfl)
theorem dJ1_coder_7 : decode cJ1_coder 7 = .ok (.getfield 15, 3) := dk_180 0 15 (dk_at dksJ1_coder_0 7 rfl rfl)
theorem dJ1_coder_10 : decode cJ1_coder 10 = .ok (.goto 4, 3) := dk_167 0 4 (dk_at dksJ1_coder_0 10 rfl rfl)
theorem dJ1_coder_13 : decode cJ1_coder 13 = .ok (.iconst 1, 1) := dk_4 (dk_at dksJ1_coder_0 13 rfl rfl)
theorem dJ1_coder_14 : decode cJ1_coder 14 = .ok (.ireturn, 1) := dk_172 (dk_at dksJ1_coder_0 14 rfl rfl)
abbrev cJ1_checkBoundsBeginEnd : ByteArray := prog_19_method_158_code
def yJ1_checkBoundsBeginEnd : MethodName := ⟨RJ1, "checkBoundsBeginEnd", "(III)V"⟩
def dkwJ1_checkBoundsBeginEnd_0 : List UInt8 := [26, 27, 28, 178, 4, 29, 184, 4, 38, 87, 177]
abbrev dktJ1_checkBoundsBeginEnd_0 : List UInt8 := dkwJ1_checkBoundsBeginEnd_0 ++ []
theorem dksJ1_checkBoundsBeginEnd_0 : cJ1_checkBoundsBeginEnd.data.toList.drop 0 = dktJ1_checkBoundsBeginEnd_0 := by decide +kernel
theorem dJ1_checkBoundsBeginEnd_0 : decode cJ1_checkBoundsBeginEnd 0 = .ok (.iload_n 0, 1) := dk_26 (dk_at dksJ1_checkBoundsBeginEnd_0 0 rfl rfl)
theorem dJ1_checkBoundsBeginEnd_1 : decode cJ1_checkBoundsBeginEnd 1 = .ok (.iload_n 1, 1) := dk_27 (dk_at dksJ1_checkBoundsBeginEnd_0 1 rfl rfl)
theorem dJ1_checkBoundsBeginEnd_2 : decode cJ1_checkBoundsBeginEnd 2 = .ok (.iload_n 2, 1) := dk_28 (dk_at dksJ1_checkBoundsBeginEnd_0 2 rfl rfl)
theorem dJ1_checkBoundsBeginEnd_3 : decode cJ1_checkBoundsBeginEnd 3 = .ok (.getstatic 1053, 3) := dk_178 4 29 (dk_at dksJ1_checkBoundsBeginEnd_0 3 rfl rfl)
theorem dJ1_checkBoundsBeginEnd_6 : decode cJ1_checkBoundsBeginEnd 6 = .ok (.invokestatic 1062, 3) := dk_184 4 38 (dk_at dksJ1_checkBoundsBeginEnd_0 6 rfl rfl)
theorem dJ1_checkBoundsBeginEnd_9 : decode cJ1_checkBoundsBeginEnd 9 = .ok (.pop, 1) := dk_87 (dk_at dksJ1_checkBoundsBeginEnd_0 9 rfl rfl)
theorem dJ1_checkBoundsBeginEnd_10 : decode cJ1_checkBoundsBeginEnd 10 = .ok (.return_, 1) := dk_177 (dk_at dksJ1_checkBoundsBeginEnd_0 10 rfl rfl)
abbrev cJ1_charAt : ByteArray := prog_19_method_56_code
def yJ1_charAt : MethodName := ⟨RJ1, "charAt", "(I)C"⟩
def dkwJ1_charAt_1 : List UInt8 := [172]
abbrev dktJ1_charAt_1 : List UInt8 := dkwJ1_charAt_1 ++ []
def dkwJ1_charAt_0 : List UInt8 := [42, 182, 1, 236, 153, 0, 12, 42, 180, 0, 9, 27, 184, 1, 239, 172, 42, 180, 0, 9, 27, 184, 1, 242]
abbrev dktJ1_charAt_0 : List UInt8 := dkwJ1_charAt_0 ++ dktJ1_charAt_1
theorem dksJ1_charAt_0 : cJ1_charAt.data.toList.drop 0 = dktJ1_charAt_0 := by decide +kernel
theorem dksJ1_charAt_1 : cJ1_charAt.data.toList.drop 24 = dktJ1_charAt_1 := dk_seg dksJ1_charAt_0 24 rfl rfl
theorem dJ1_charAt_0 : decode cJ1_charAt 0 = .ok (.aload_n 0, 1) := dk_42 (dk_at dksJ1_charAt_0 0 rfl rfl)
theorem dJ1_charAt_1 : decode cJ1_charAt 1 = .ok (.invokevirtual 492, 3) := dk_182 1 236 (dk_at dksJ1_charAt_0 1 rfl rfl)
theorem dJ1_charAt_4 : decode cJ1_charAt 4 = .ok (.ifCond .eq 12, 3) := dk_153 0 12 (dk_at dksJ1_charAt_0 4 rfl rfl)
theorem dJ1_charAt_7 : decode cJ1_charAt 7 = .ok (.aload_n 0, 1) := dk_42 (dk_at dksJ1_charAt_0 7 rfl rfl)
theorem dJ1_charAt_8 : decode cJ1_charAt 8 = .ok (.getfield 9, 3) := dk_180 0 9 (dk_at dksJ1_charAt_0 8 rfl rfl)
theorem dJ1_charAt_11 : decode cJ1_charAt 11 = .ok (.iload_n 1, 1) := dk_27 (dk_at dksJ1_charAt_0 11 rfl rfl)
theorem dJ1_charAt_12 : decode cJ1_charAt 12 = .ok (.invokestatic 495, 3) := dk_184 1 239 (dk_at dksJ1_charAt_0 12 rfl rfl)
theorem dJ1_charAt_15 : decode cJ1_charAt 15 = .ok (.ireturn, 1) := dk_172 (dk_at dksJ1_charAt_0 15 rfl rfl)
theorem dJ1_charAt_16 : decode cJ1_charAt 16 = .ok (.aload_n 0, 1) := dk_42 (dk_at dksJ1_charAt_0 16 rfl rfl)
theorem dJ1_charAt_17 : decode cJ1_charAt 17 = .ok (.getfield 9, 3) := dk_180 0 9 (dk_at dksJ1_charAt_0 17 rfl rfl)
theorem dJ1_charAt_20 : decode cJ1_charAt 20 = .ok (.iload_n 1, 1) := dk_27 (dk_at dksJ1_charAt_0 20 rfl rfl)
theorem dJ1_charAt_21 : decode cJ1_charAt 21 = .ok (.invokestatic 498, 3) := dk_184 1 242 (dk_at dksJ1_charAt_0 21 rfl rfl)
theorem dJ1_charAt_24 : decode cJ1_charAt 24 = .ok (.ireturn, 1) := dk_172 (dk_at dksJ1_charAt_1 0 rfl rfl)
abbrev cJ1_checkIndex : ByteArray := prog_19_method_155_code
def yJ1_checkIndex : MethodName := ⟨RJ1, "checkIndex", "(II)V"⟩
def dkwJ1_checkIndex_0 : List UInt8 := [26, 27, 178, 4, 29, 184, 4, 35, 87, 177]
abbrev dktJ1_checkIndex_0 : List UInt8 := dkwJ1_checkIndex_0 ++ []
theorem dksJ1_checkIndex_0 : cJ1_checkIndex.data.toList.drop 0 = dktJ1_checkIndex_0 := by decide +kernel
theorem dJ1_checkIndex_0 : decode cJ1_checkIndex 0 = .ok (.iload_n 0, 1) := dk_26 (dk_at dksJ1_checkIndex_0 0 rfl rfl)
theorem dJ1_checkIndex_1 : decode cJ1_checkIndex 1 = .ok (.iload_n 1, 1) := dk_27 (dk_at dksJ1_checkIndex_0 1 rfl rfl)
theorem dJ1_checkIndex_2 : decode cJ1_checkIndex 2 = .ok (.getstatic 1053, 3) := dk_178 4 29 (dk_at dksJ1_checkIndex_0 2 rfl rfl)
theorem dJ1_checkIndex_5 : decode cJ1_checkIndex 5 = .ok (.invokestatic 1059, 3) := dk_184 4 35 (dk_at dksJ1_checkIndex_0 5 rfl rfl)
theorem dJ1_checkIndex_8 : decode cJ1_checkIndex 8 = .ok (.pop, 1) := dk_87 (dk_at dksJ1_checkIndex_0 8 rfl rfl)
theorem dJ1_checkIndex_9 : decode cJ1_checkIndex 9 = .ok (.return_, 1) := dk_177 (dk_at dksJ1_checkIndex_0 9 rfl rfl)
theorem q107 : (Jvm.Cond.initialized "java/lang/String") ∈ lw_all := lw_g (lw_at lw_m1 13 rfl) rfl
theorem q762 : (Jvm.Cond.instanceMethod ({ cls := "java/lang/String", name := "indexOf", desc := "(I)I" } : Jvm.MethodName)) ∈ lw_all := lw_g (lw_at lw_m3 188 rfl) rfl
theorem q763 : (Jvm.Cond.selects "java/lang/String" ({ cls := "java/lang/String", name := "indexOf", desc := "(I)I" } : Jvm.MethodName) ({ cls := "java/lang/String", name := "indexOf", desc := "(I)I" } : Jvm.MethodName)) ∈ lw_all := lw_g (lw_at lw_m3 189 rfl) rfl
theorem q764 : (Jvm.Cond.code ({ cls := "java/lang/String", name := "indexOf", desc := "(I)I" } : Jvm.MethodName) prog_19_method_79_code (2 : Nat) (Option.some Jvm.ClassFile.FieldType.int)) ∈ lw_all := lw_g (lw_at lw_m3 190 rfl) rfl
theorem q765 : (Jvm.Cond.methodLink "java/lang/String" (633 : Nat) ({ cls := "java/lang/String", name := "indexOf", desc := "(II)I" } : Jvm.MethodName)) ∈ lw_all := lw_g (lw_at lw_m3 191 rfl) rfl
theorem q766 : (Jvm.Cond.instanceMethod ({ cls := "java/lang/String", name := "indexOf", desc := "(II)I" } : Jvm.MethodName)) ∈ lw_all := lw_g (lw_at lw_m3 192 rfl) rfl
theorem q767 : (Jvm.Cond.selects "java/lang/String" ({ cls := "java/lang/String", name := "indexOf", desc := "(II)I" } : Jvm.MethodName) ({ cls := "java/lang/String", name := "indexOf", desc := "(II)I" } : Jvm.MethodName)) ∈ lw_all := lw_g (lw_at lw_m3 193 rfl) rfl
theorem q768 : (Jvm.Cond.code ({ cls := "java/lang/String", name := "indexOf", desc := "(II)I" } : Jvm.MethodName) prog_19_method_80_code (3 : Nat) (Option.some Jvm.ClassFile.FieldType.int)) ∈ lw_all := lw_g (lw_at lw_m3 194 rfl) rfl
theorem q769 : (Jvm.Cond.methodLink "java/lang/String" (492 : Nat) ({ cls := "java/lang/String", name := "isLatin1", desc := "()Z" } : Jvm.MethodName)) ∈ lw_all := lw_g (lw_at lw_m3 195 rfl) rfl
theorem q770 : (Jvm.Cond.instanceMethod ({ cls := "java/lang/String", name := "isLatin1", desc := "()Z" } : Jvm.MethodName)) ∈ lw_all := lw_g (lw_at lw_m3 196 rfl) rfl
theorem q771 : (Jvm.Cond.selects "java/lang/String" ({ cls := "java/lang/String", name := "isLatin1", desc := "()Z" } : Jvm.MethodName) ({ cls := "java/lang/String", name := "isLatin1", desc := "()Z" } : Jvm.MethodName)) ∈ lw_all := lw_g (lw_at lw_m3 197 rfl) rfl
theorem q772 : (Jvm.Cond.code ({ cls := "java/lang/String", name := "isLatin1", desc := "()Z" } : Jvm.MethodName) prog_19_method_154_code (1 : Nat) (Option.some Jvm.ClassFile.FieldType.boolean)) ∈ lw_all := lw_g (lw_at lw_m3 198 rfl) rfl
theorem q773 : (Jvm.Cond.fieldLink "java/lang/String" (38 : Nat) "java/lang/String" "COMPACT_STRINGS" "Z") ∈ lw_all := lw_g (lw_at lw_m3 199 rfl) rfl
theorem q774 : (Jvm.Cond.laysStatic "java/lang/String" "COMPACT_STRINGS" "Z") ∈ lw_tbl := lw_at lw_m3 200 rfl
theorem q775 : (Jvm.Cond.methodLink "java/lang/String" (505 : Nat) ({ cls := "java/lang/String", name := "length", desc := "()I" } : Jvm.MethodName)) ∈ lw_all := lw_g (lw_at lw_m3 201 rfl) rfl
theorem q776 : (Jvm.Cond.instanceMethod ({ cls := "java/lang/String", name := "length", desc := "()I" } : Jvm.MethodName)) ∈ lw_all := lw_g (lw_at lw_m3 202 rfl) rfl
theorem q777 : (Jvm.Cond.selects "java/lang/String" ({ cls := "java/lang/String", name := "length", desc := "()I" } : Jvm.MethodName) ({ cls := "java/lang/String", name := "length", desc := "()I" } : Jvm.MethodName)) ∈ lw_all := lw_g (lw_at lw_m3 203 rfl) rfl
theorem q778 : (Jvm.Cond.code ({ cls := "java/lang/String", name := "length", desc := "()I" } : Jvm.MethodName) prog_19_method_54_code (1 : Nat) (Option.some Jvm.ClassFile.FieldType.int)) ∈ lw_all := lw_g (lw_at lw_m3 204 rfl) rfl
theorem q779 : (Jvm.Cond.methodLink "java/lang/String" (335 : Nat) ({ cls := "java/lang/String", name := "coder", desc := "()B" } : Jvm.MethodName)) ∈ lw_all := lw_g (lw_at lw_m3 205 rfl) rfl
theorem q780 : (Jvm.Cond.instanceMethod ({ cls := "java/lang/String", name := "coder", desc := "()B" } : Jvm.MethodName)) ∈ lw_all := lw_g (lw_at lw_m3 206 rfl) rfl
theorem q781 : (Jvm.Cond.selects "java/lang/String" ({ cls := "java/lang/String", name := "coder", desc := "()B" } : Jvm.MethodName) ({ cls := "java/lang/String", name := "coder", desc := "()B" } : Jvm.MethodName)) ∈ lw_all := lw_g (lw_at lw_m3 207 rfl) rfl
theorem q782 : (Jvm.Cond.code ({ cls := "java/lang/String", name := "coder", desc := "()B" } : Jvm.MethodName) prog_19_method_152_code (1 : Nat) (Option.some Jvm.ClassFile.FieldType.byte)) ∈ lw_all := lw_g (lw_at lw_m3 208 rfl) rfl
theorem q783 : (Jvm.Cond.methodLink "java/lang/String" (637 : Nat) ({ cls := "java/lang/StringLatin1", name := "indexOf", desc := "([BIII)I" } : Jvm.MethodName)) ∈ lw_all := lw_g (lw_at lw_m3 209 rfl) rfl
theorem q794 : (Jvm.Cond.methodLink "java/lang/String" (640 : Nat) ({ cls := "java/lang/StringUTF16", name := "indexOf", desc := "([BIII)I" } : Jvm.MethodName)) ∈ lw_all := lw_g (lw_at lw_m3 220 rfl) rfl
theorem q810 : (Jvm.Cond.static ({ cls := "java/lang/String", name := "checkBoundsBeginEnd", desc := "(III)V" } : Jvm.MethodName)) ∈ lw_all := lw_g (lw_at lw_m3 236 rfl) rfl
theorem q811 : (Jvm.Cond.code ({ cls := "java/lang/String", name := "checkBoundsBeginEnd", desc := "(III)V" } : Jvm.MethodName) prog_19_method_158_code (3 : Nat) (Option.none : Option Jvm.ClassFile.FieldType)) ∈ lw_all := lw_g (lw_at lw_m3 237 rfl) rfl
theorem q812 : (Jvm.Cond.fieldLink "java/lang/String" (1053 : Nat) "jdk/internal/util/Preconditions" "SIOOBE_FORMATTER" "Ljava/util/function/BiFunction;") ∈ lw_all := lw_g (lw_at lw_m3 238 rfl) rfl
theorem q814 : (Jvm.Cond.methodLink "java/lang/String" (1062 : Nat) ({ cls := "jdk/internal/util/Preconditions", name := "checkFromToIndex", desc := "(IIILjava/util/function/BiFunction;)I" } : Jvm.MethodName)) ∈ lw_all := lw_g (lw_at lw_m4 0 rfl) rfl
theorem q927 : (Jvm.Cond.instanceMethod ({ cls := "java/lang/String", name := "charAt", desc := "(I)C" } : Jvm.MethodName)) ∈ lw_all := lw_g (lw_at lw_m4 113 rfl) rfl
theorem q928 : (Jvm.Cond.selects "java/lang/String" ({ cls := "java/lang/String", name := "charAt", desc := "(I)C" } : Jvm.MethodName) ({ cls := "java/lang/String", name := "charAt", desc := "(I)C" } : Jvm.MethodName)) ∈ lw_all := lw_g (lw_at lw_m4 114 rfl) rfl
theorem q929 : (Jvm.Cond.code ({ cls := "java/lang/String", name := "charAt", desc := "(I)C" } : Jvm.MethodName) prog_19_method_56_code (2 : Nat) (Option.some Jvm.ClassFile.FieldType.char)) ∈ lw_all := lw_g (lw_at lw_m4 115 rfl) rfl
theorem q930 : (Jvm.Cond.methodLink "java/lang/String" (495 : Nat) ({ cls := "java/lang/StringLatin1", name := "charAt", desc := "([BI)C" } : Jvm.MethodName)) ∈ lw_all := lw_g (lw_at lw_m4 116 rfl) rfl
theorem q934 : (Jvm.Cond.static ({ cls := "java/lang/String", name := "checkIndex", desc := "(II)V" } : Jvm.MethodName)) ∈ lw_all := lw_g (lw_at lw_m4 120 rfl) rfl
theorem q935 : (Jvm.Cond.code ({ cls := "java/lang/String", name := "checkIndex", desc := "(II)V" } : Jvm.MethodName) prog_19_method_155_code (2 : Nat) (Option.none : Option Jvm.ClassFile.FieldType)) ∈ lw_all := lw_g (lw_at lw_m4 121 rfl) rfl
theorem q936 : (Jvm.Cond.methodLink "java/lang/String" (1059 : Nat) ({ cls := "jdk/internal/util/Preconditions", name := "checkIndex", desc := "(IILjava/util/function/BiFunction;)I" } : Jvm.MethodName)) ∈ lw_all := lw_g (lw_at lw_m4 122 rfl) rfl
theorem q939 : (Jvm.Cond.methodLink "java/lang/String" (498 : Nat) ({ cls := "java/lang/StringUTF16", name := "charAt", desc := "([BI)C" } : Jvm.MethodName)) ∈ lw_all := lw_g (lw_at lw_m4 125 rfl) rfl
theorem q1962 : (Jvm.Cond.fieldLink "java/lang/String" (15 : Nat) "java/lang/String" "coder" "B") ∈ lw_all := lw_g (lw_at lw_m8 188 rfl) rfl
theorem q1963 : (Jvm.Cond.fieldLink "java/lang/String" (9 : Nat) "java/lang/String" "value" "[B") ∈ lw_all := lw_g (lw_at lw_m8 189 rfl) rfl
/-! java/lang/StringLatin1 -/
set_option maxRecDepth 100000
def RJ2 : String := "java/lang/StringLatin1"
abbrev cJ2_indexOf : ByteArray := prog_20_method_22_code
def yJ2_indexOf : MethodName := ⟨RJ2, "indexOf", "([BIII)I"⟩
def dkwJ2_indexOf_1 : List UInt8 := [161, 0, 5, 2, 172, 42, 27, 28, 29, 184, 0, 95, 172]
abbrev dktJ2_indexOf_1 : List UInt8 := dkwJ2_indexOf_1 ++ []
def dkwJ2_indexOf_0 : List UInt8 := [27, 184, 0, 88, 154, 0, 5, 2, 172, 28, 3, 184, 0, 92, 61, 29, 42, 190, 184, 0, 38, 62, 28, 29]
abbrev dktJ2_indexOf_0 : List UInt8 := dkwJ2_indexOf_0 ++ dktJ2_indexOf_1
theorem dksJ2_indexOf_0 : cJ2_indexOf.data.toList.drop 0 = dktJ2_indexOf_0 := by decide +kernel
theorem dksJ2_indexOf_1 : cJ2_indexOf.data.toList.drop 24 = dktJ2_indexOf_1 := dk_seg dksJ2_indexOf_0 24 rfl rfl
theorem dJ2_indexOf_0 : decode cJ2_indexOf 0 = .ok (.iload_n 1, 1) := dk_27 (dk_at dksJ2_indexOf_0 0 rfl rfl)
theorem dJ2_indexOf_1 : decode cJ2_indexOf 1 = .ok (.invokestatic 88, 3) := dk_184 0 88 (dk_at dksJ2_indexOf_0 1 rfl rfl)
theorem dJ2_indexOf_4 : decode cJ2_indexOf 4 = .ok (.ifCond .ne 5, 3) := dk_154 0 5 (dk_at dksJ2_indexOf_0 4 rfl rfl)
theorem dJ2_indexOf_7 : decode cJ2_indexOf 7 = .ok (.iconst (-1), 1) := dk_2 (dk_at dksJ2_indexOf_0 7 rfl rfl)
theorem dJ2_indexOf_8 : decode cJ2_indexOf 8 = .ok (.ireturn, 1) := dk_172 (dk_at dksJ2_indexOf_0 8 rfl rfl)
theorem dJ2_indexOf_9 : decode cJ2_indexOf 9 = .ok (.iload_n 2, 1) := dk_28 (dk_at dksJ2_indexOf_0 9 rfl rfl)
theorem dJ2_indexOf_10 : decode cJ2_indexOf 10 = .ok (.iconst 0, 1) := dk_3 (dk_at dksJ2_indexOf_0 10 rfl rfl)
theorem dJ2_indexOf_11 : decode cJ2_indexOf 11 = .ok (.invokestatic 92, 3) := dk_184 0 92 (dk_at dksJ2_indexOf_0 11 rfl rfl)
theorem dJ2_indexOf_14 : decode cJ2_indexOf 14 = .ok (.istore_n 2, 1) := dk_61 (dk_at dksJ2_indexOf_0 14 rfl rfl)
theorem dJ2_indexOf_15 : decode cJ2_indexOf 15 = .ok (.iload_n 3, 1) := dk_29 (dk_at dksJ2_indexOf_0 15 rfl rfl)
theorem dJ2_indexOf_16 : decode cJ2_indexOf 16 = .ok (.aload_n 0, 1) := dk_42 (dk_at dksJ2_indexOf_0 16 rfl rfl)
theorem dJ2_indexOf_17 : decode cJ2_indexOf 17 = .ok (.arraylength, 1) := dk_190 (dk_at dksJ2_indexOf_0 17 rfl rfl)
theorem dJ2_indexOf_18 : decode cJ2_indexOf 18 = .ok (.invokestatic 38, 3) := dk_184 0 38 (dk_at dksJ2_indexOf_0 18 rfl rfl)
theorem dJ2_indexOf_21 : decode cJ2_indexOf 21 = .ok (.istore_n 3, 1) := dk_62 (dk_at dksJ2_indexOf_0 21 rfl rfl)
theorem dJ2_indexOf_22 : decode cJ2_indexOf 22 = .ok (.iload_n 2, 1) := dk_28 (dk_at dksJ2_indexOf_0 22 rfl rfl)
theorem dJ2_indexOf_23 : decode cJ2_indexOf 23 = .ok (.iload_n 3, 1) := dk_29 (dk_at dksJ2_indexOf_0 23 rfl rfl)
theorem dJ2_indexOf_24 : decode cJ2_indexOf 24 = .ok (.if_icmp .lt 5, 3) := dk_161 0 5 (dk_at dksJ2_indexOf_1 0 rfl rfl)
theorem dJ2_indexOf_27 : decode cJ2_indexOf 27 = .ok (.iconst (-1), 1) := dk_2 (dk_at dksJ2_indexOf_1 3 rfl rfl)
theorem dJ2_indexOf_28 : decode cJ2_indexOf 28 = .ok (.ireturn, 1) := dk_172 (dk_at dksJ2_indexOf_1 4 rfl rfl)
theorem dJ2_indexOf_29 : decode cJ2_indexOf 29 = .ok (.aload_n 0, 1) := dk_42 (dk_at dksJ2_indexOf_1 5 rfl rfl)
theorem dJ2_indexOf_30 : decode cJ2_indexOf 30 = .ok (.iload_n 1, 1) := dk_27 (dk_at dksJ2_indexOf_1 6 rfl rfl)
theorem dJ2_indexOf_31 : decode cJ2_indexOf 31 = .ok (.iload_n 2, 1) := dk_28 (dk_at dksJ2_indexOf_1 7 rfl rfl)
theorem dJ2_indexOf_32 : decode cJ2_indexOf 32 = .ok (.iload_n 3, 1) := dk_29 (dk_at dksJ2_indexOf_1 8 rfl rfl)
theorem dJ2_indexOf_33 : decode cJ2_indexOf 33 = .ok (.invokestatic 95, 3) := dk_184 0 95 (dk_at dksJ2_indexOf_1 9 rfl rfl)
theorem dJ2_indexOf_36 : decode cJ2_indexOf 36 = .ok (.ireturn, 1) := dk_172 (dk_at dksJ2_indexOf_1 12 rfl rfl)
abbrev cJ2_canEncode : ByteArray := prog_20_method_4_code
def yJ2_canEncode : MethodName := ⟨RJ2, "canEncode", "(I)Z"⟩
def dkwJ2_canEncode_0 : List UInt8 := [26, 155, 0, 14, 26, 17, 0, 255, 163, 0, 7, 4, 167, 0, 4, 3, 172]
abbrev dktJ2_canEncode_0 : List UInt8 := dkwJ2_canEncode_0 ++ []
theorem dksJ2_canEncode_0 : cJ2_canEncode.data.toList.drop 0 = dktJ2_canEncode_0 := by decide +kernel
theorem dJ2_canEncode_0 : decode cJ2_canEncode 0 = .ok (.iload_n 0, 1) := dk_26 (dk_at dksJ2_canEncode_0 0 rfl rfl)
theorem dJ2_canEncode_1 : decode cJ2_canEncode 1 = .ok (.ifCond .lt 14, 3) := dk_155 0 14 (dk_at dksJ2_canEncode_0 1 rfl rfl)
theorem dJ2_canEncode_4 : decode cJ2_canEncode 4 = .ok (.iload_n 0, 1) := dk_26 (dk_at dksJ2_canEncode_0 4 rfl rfl)
theorem dJ2_canEncode_5 : decode cJ2_canEncode 5 = .ok (.sipush 255, 3) := dk_17 0 255 (dk_at dksJ2_canEncode_0 5 rfl rfl)
theorem dJ2_canEncode_8 : decode cJ2_canEncode 8 = .ok (.if_icmp .gt 7, 3) := dk_163 0 7 (dk_at dksJ2_canEncode_0 8 rfl rfl)
theorem dJ2_canEncode_11 : decode cJ2_canEncode 11 = .ok (.iconst 1, 1) := dk_4 (dk_at dksJ2_canEncode_0 11 rfl rfl)
theorem dJ2_canEncode_12 : decode cJ2_canEncode 12 = .ok (.goto 4, 3) := dk_167 0 4 (dk_at dksJ2_canEncode_0 12 rfl rfl)
theorem dJ2_canEncode_15 : decode cJ2_canEncode 15 = .ok (.iconst 0, 1) := dk_3 (dk_at dksJ2_canEncode_0 15 rfl rfl)
theorem dJ2_canEncode_16 : decode cJ2_canEncode 16 = .ok (.ireturn, 1) := dk_172 (dk_at dksJ2_canEncode_0 16 rfl rfl)
abbrev cJ2_indexOfChar : ByteArray := prog_20_method_23_code
def yJ2_indexOfChar : MethodName := ⟨RJ2, "indexOfChar", "([BIII)I"⟩
def dkwJ2_indexOfChar_1 : List UInt8 := [172, 132, 5, 1, 167, 255, 235, 2, 172]
abbrev dktJ2_indexOfChar_1 : List UInt8 := dkwJ2_indexOfChar_1 ++ []
def dkwJ2_indexOfChar_0 : List UInt8 := [27, 145, 54, 4, 28, 54, 5, 21, 5, 29, 162, 0, 21, 42, 21, 5, 51, 21, 4, 160, 0, 6, 21, 5]
abbrev dktJ2_indexOfChar_0 : List UInt8 := dkwJ2_indexOfChar_0 ++ dktJ2_indexOfChar_1
theorem dksJ2_indexOfChar_0 : cJ2_indexOfChar.data.toList.drop 0 = dktJ2_indexOfChar_0 := by decide +kernel
theorem dksJ2_indexOfChar_1 : cJ2_indexOfChar.data.toList.drop 24 = dktJ2_indexOfChar_1 := dk_seg dksJ2_indexOfChar_0 24 rfl rfl
theorem dJ2_indexOfChar_0 : decode cJ2_indexOfChar 0 = .ok (.iload_n 1, 1) := dk_27 (dk_at dksJ2_indexOfChar_0 0 rfl rfl)
theorem dJ2_indexOfChar_1 : decode cJ2_indexOfChar 1 = .ok (.i2b, 1) := dk_145 (dk_at dksJ2_indexOfChar_0 1 rfl rfl)
theorem dJ2_indexOfChar_2 : decode cJ2_indexOfChar 2 = .ok (.istore 4, 2) := dk_54 4 (dk_at dksJ2_indexOfChar_0 2 rfl rfl)
theorem dJ2_indexOfChar_4 : decode cJ2_indexOfChar 4 = .ok (.iload_n 2, 1) := dk_28 (dk_at dksJ2_indexOfChar_0 4 rfl rfl)
theorem dJ2_indexOfChar_5 : decode cJ2_indexOfChar 5 = .ok (.istore 5, 2) := dk_54 5 (dk_at dksJ2_indexOfChar_0 5 rfl rfl)
theorem dJ2_indexOfChar_7 : decode cJ2_indexOfChar 7 = .ok (.iload 5, 2) := dk_21 5 (dk_at dksJ2_indexOfChar_0 7 rfl rfl)
theorem dJ2_indexOfChar_9 : decode cJ2_indexOfChar 9 = .ok (.iload_n 3, 1) := dk_29 (dk_at dksJ2_indexOfChar_0 9 rfl rfl)
theorem dJ2_indexOfChar_10 : decode cJ2_indexOfChar 10 = .ok (.if_icmp .ge 21, 3) := dk_162 0 21 (dk_at dksJ2_indexOfChar_0 10 rfl rfl)
theorem dJ2_indexOfChar_13 : decode cJ2_indexOfChar 13 = .ok (.aload_n 0, 1) := dk_42 (dk_at dksJ2_indexOfChar_0 13 rfl rfl)
theorem dJ2_indexOfChar_14 : decode cJ2_indexOfChar 14 = .ok (.iload 5, 2) := dk_21 5 (dk_at dksJ2_indexOfChar_0 14 rfl rfl)
theorem dJ2_indexOfChar_16 : decode cJ2_indexOfChar 16 = .ok (.baload, 1) := dk_51 (dk_at dksJ2_indexOfChar_0 16 rfl rfl)
theorem dJ2_indexOfChar_17 : decode cJ2_indexOfChar 17 = .ok (.iload 4, 2) := dk_21 4 (dk_at dksJ2_indexOfChar_0 17 rfl rfl)
theorem dJ2_indexOfChar_19 : decode cJ2_indexOfChar 19 = .ok (.if_icmp .ne 6, 3) := dk_160 0 6 (dk_at dksJ2_indexOfChar_0 19 rfl rfl)
theorem dJ2_indexOfChar_22 : decode cJ2_indexOfChar 22 = .ok (.iload 5, 2) := dk_21 5 (dk_at dksJ2_indexOfChar_0 22 rfl rfl)
theorem dJ2_indexOfChar_24 : decode cJ2_indexOfChar 24 = .ok (.ireturn, 1) := dk_172 (dk_at dksJ2_indexOfChar_1 0 rfl rfl)
theorem dJ2_indexOfChar_25 : decode cJ2_indexOfChar 25 = .ok (.iinc 5 1, 3) := dk_132 5 1 (dk_at dksJ2_indexOfChar_1 1 rfl rfl)
theorem dJ2_indexOfChar_28 : decode cJ2_indexOfChar 28 = .ok (.goto (-21), 3) := dk_167 255 235 (dk_at dksJ2_indexOfChar_1 4 rfl rfl)
theorem dJ2_indexOfChar_31 : decode cJ2_indexOfChar 31 = .ok (.iconst (-1), 1) := dk_2 (dk_at dksJ2_indexOfChar_1 7 rfl rfl)
theorem dJ2_indexOfChar_32 : decode cJ2_indexOfChar 32 = .ok (.ireturn, 1) := dk_172 (dk_at dksJ2_indexOfChar_1 8 rfl rfl)
abbrev cJ2_charAt : ByteArray := prog_20_method_2_code
def yJ2_charAt : MethodName := ⟨RJ2, "charAt", "([BI)C"⟩
def dkwJ2_charAt_0 : List UInt8 := [27, 42, 190, 184, 0, 9, 42, 27, 51, 17, 0, 255, 126, 146, 172]
abbrev dktJ2_charAt_0 : List UInt8 := dkwJ2_charAt_0 ++ []
theorem dksJ2_charAt_0 : cJ2_charAt.data.toList.drop 0 = dktJ2_charAt_0 := by decide +kernel
theorem dJ2_charAt_0 : decode cJ2_charAt 0 = .ok (.iload_n 1, 1) := dk_27 (dk_at dksJ2_charAt_0 0 rfl rfl)
theorem dJ2_charAt_1 : decode cJ2_charAt 1 = .ok (.aload_n 0, 1) := dk_42 (dk_at dksJ2_charAt_0 1 rfl rfl)
theorem dJ2_charAt_2 : decode cJ2_charAt 2 = .ok (.arraylength, 1) := dk_190 (dk_at dksJ2_charAt_0 2 rfl rfl)
theorem dJ2_charAt_3 : decode cJ2_charAt 3 = .ok (.invokestatic 9, 3) := dk_184 0 9 (dk_at dksJ2_charAt_0 3 rfl rfl)
theorem dJ2_charAt_6 : decode cJ2_charAt 6 = .ok (.aload_n 0, 1) := dk_42 (dk_at dksJ2_charAt_0 6 rfl rfl)
theorem dJ2_charAt_7 : decode cJ2_charAt 7 = .ok (.iload_n 1, 1) := dk_27 (dk_at dksJ2_charAt_0 7 rfl rfl)
theorem dJ2_charAt_8 : decode cJ2_charAt 8 = .ok (.baload, 1) := dk_51 (dk_at dksJ2_charAt_0 8 rfl rfl)
theorem dJ2_charAt_9 : decode cJ2_charAt 9 = .ok (.sipush 255, 3) := dk_17 0 255 (dk_at dksJ2_charAt_0 9 rfl rfl)
theorem dJ2_charAt_12 : decode cJ2_charAt 12 = .ok (.iand, 1) := dk_126 (dk_at dksJ2_charAt_0 12 rfl rfl)
theorem dJ2_charAt_13 : decode cJ2_charAt 13 = .ok (.i2c, 1) := dk_146 (dk_at dksJ2_charAt_0 13 rfl rfl)
theorem dJ2_charAt_14 : decode cJ2_charAt 14 = .ok (.ireturn, 1) := dk_172 (dk_at dksJ2_charAt_0 14 rfl rfl)
theorem q108 : (Jvm.Cond.initialized "java/lang/StringLatin1") ∈ lw_all := lw_g (lw_at lw_m1 14 rfl) rfl
theorem q784 : (Jvm.Cond.static ({ cls := "java/lang/StringLatin1", name := "indexOf", desc := "([BIII)I" } : Jvm.MethodName)) ∈ lw_all := lw_g (lw_at lw_m3 210 rfl) rfl
theorem q785 : (Jvm.Cond.code ({ cls := "java/lang/StringLatin1", name := "indexOf", desc := "([BIII)I" } : Jvm.MethodName) prog_20_method_22_code (4 : Nat) (Option.some Jvm.ClassFile.FieldType.int)) ∈ lw_all := lw_g (lw_at lw_m3 211 rfl) rfl
theorem q786 : (Jvm.Cond.methodLink "java/lang/StringLatin1" (88 : Nat) ({ cls := "java/lang/StringLatin1", name := "canEncode", desc := "(I)Z" } : Jvm.MethodName)) ∈ lw_all := lw_g (lw_at lw_m3 212 rfl) rfl
theorem q787 : (Jvm.Cond.static ({ cls := "java/lang/StringLatin1", name := "canEncode", desc := "(I)Z" } : Jvm.MethodName)) ∈ lw_all := lw_g (lw_at lw_m3 213 rfl) rfl
theorem q788 : (Jvm.Cond.code ({ cls := "java/lang/StringLatin1", name := "canEncode", desc := "(I)Z" } : Jvm.MethodName) prog_20_method_4_code (1 : Nat) (Option.some Jvm.ClassFile.FieldType.boolean)) ∈ lw_all := lw_g (lw_at lw_m3 214 rfl) rfl
theorem q789 : (Jvm.Cond.methodLink "java/lang/StringLatin1" (92 : Nat) ({ cls := "java/lang/Math", name := "max", desc := "(II)I" } : Jvm.MethodName)) ∈ lw_all := lw_g (lw_at lw_m3 215 rfl) rfl
theorem q790 : (Jvm.Cond.methodLink "java/lang/StringLatin1" (38 : Nat) ({ cls := "java/lang/Math", name := "min", desc := "(II)I" } : Jvm.MethodName)) ∈ lw_all := lw_g (lw_at lw_m3 216 rfl) rfl
theorem q791 : (Jvm.Cond.methodLink "java/lang/StringLatin1" (95 : Nat) ({ cls := "java/lang/StringLatin1", name := "indexOfChar", desc := "([BIII)I" } : Jvm.MethodName)) ∈ lw_all := lw_g (lw_at lw_m3 217 rfl) rfl
theorem q792 : (Jvm.Cond.static ({ cls := "java/lang/StringLatin1", name := "indexOfChar", desc := "([BIII)I" } : Jvm.MethodName)) ∈ lw_all := lw_g (lw_at lw_m3 218 rfl) rfl
theorem q793 : (Jvm.Cond.code ({ cls := "java/lang/StringLatin1", name := "indexOfChar", desc := "([BIII)I" } : Jvm.MethodName) prog_20_method_23_code (6 : Nat) (Option.some Jvm.ClassFile.FieldType.int)) ∈ lw_all := lw_g (lw_at lw_m3 219 rfl) rfl
theorem q931 : (Jvm.Cond.static ({ cls := "java/lang/StringLatin1", name := "charAt", desc := "([BI)C" } : Jvm.MethodName)) ∈ lw_all := lw_g (lw_at lw_m4 117 rfl) rfl
theorem q932 : (Jvm.Cond.code ({ cls := "java/lang/StringLatin1", name := "charAt", desc := "([BI)C" } : Jvm.MethodName) prog_20_method_2_code (2 : Nat) (Option.some Jvm.ClassFile.FieldType.char)) ∈ lw_all := lw_g (lw_at lw_m4 118 rfl) rfl
theorem q933 : (Jvm.Cond.methodLink "java/lang/StringLatin1" (9 : Nat) ({ cls := "java/lang/String", name := "checkIndex", desc := "(II)V" } : Jvm.MethodName)) ∈ lw_all := lw_g (lw_at lw_m4 119 rfl) rfl
/-! jdk/internal/util/Preconditions -/
set_option maxRecDepth 100000
def RJ4 : String := "jdk/internal/util/Preconditions"
abbrev cJ4_checkFromToIndex : ByteArray := prog_24_method_12_code
def yJ4_checkFromToIndex : MethodName := ⟨RJ4, "checkFromToIndex", "(IIILjava/util/function/BiFunction;)I"⟩
def dkwJ4_checkFromToIndex_0 : List UInt8 := [26, 155, 0, 13, 26, 27, 163, 0, 8, 27, 28, 164, 0, 11, 45, 26, 27, 28, 184, 0, 99, 191, 26, 172]
abbrev dktJ4_checkFromToIndex_0 : List UInt8 := dkwJ4_checkFromToIndex_0 ++ []
theorem dksJ4_checkFromToIndex_0 : cJ4_checkFromToIndex.data.toList.drop 0 = dktJ4_checkFromToIndex_0 := by decide +kernel
theorem dJ4_checkFromToIndex_0 : decode cJ4_checkFromToIndex 0 = .ok (.iload_n 0, 1) := dk_26 (dk_at dksJ4_checkFromToIndex_0 0 rfl rfl)
theorem dJ4_checkFromToIndex_1 : decode cJ4_checkFromToIndex 1 = .ok (.ifCond .lt 13, 3) := dk_155 0 13 (dk_at dksJ4_checkFromToIndex_0 1 rfl rfl)
theorem dJ4_checkFromToIndex_4 : decode cJ4_checkFromToIndex 4 = .ok (.iload_n 0, 1) := dk_26 (dk_at dksJ4_checkFromToIndex_0 4 rfl rfl)
theorem dJ4_checkFromToIndex_5 : decode cJ4_checkFromToIndex 5 = .ok (.iload_n 1, 1) := dk_27 (dk_at dksJ4_checkFromToIndex_0 5 rfl rfl)
theorem dJ4_checkFromToIndex_6 : decode cJ4_checkFromToIndex 6 = .ok (.if_icmp .gt 8, 3) := dk_163 0 8 (dk_at dksJ4_checkFromToIndex_0 6 rfl rfl)
theorem dJ4_checkFromToIndex_9 : decode cJ4_checkFromToIndex 9 = .ok (.iload_n 1, 1) := dk_27 (dk_at dksJ4_checkFromToIndex_0 9 rfl rfl)
theorem dJ4_checkFromToIndex_10 : decode cJ4_checkFromToIndex 10 = .ok (.iload_n 2, 1) := dk_28 (dk_at dksJ4_checkFromToIndex_0 10 rfl rfl)
theorem dJ4_checkFromToIndex_11 : decode cJ4_checkFromToIndex 11 = .ok (.if_icmp .le 11, 3) := dk_164 0 11 (dk_at dksJ4_checkFromToIndex_0 11 rfl rfl)
theorem dJ4_checkFromToIndex_14 : decode cJ4_checkFromToIndex 14 = .ok (.aload_n 3, 1) := dk_45 (dk_at dksJ4_checkFromToIndex_0 14 rfl rfl)
theorem dJ4_checkFromToIndex_15 : decode cJ4_checkFromToIndex 15 = .ok (.iload_n 0, 1) := dk_26 (dk_at dksJ4_checkFromToIndex_0 15 rfl rfl)
theorem dJ4_checkFromToIndex_16 : decode cJ4_checkFromToIndex 16 = .ok (.iload_n 1, 1) := dk_27 (dk_at dksJ4_checkFromToIndex_0 16 rfl rfl)
theorem dJ4_checkFromToIndex_17 : decode cJ4_checkFromToIndex 17 = .ok (.iload_n 2, 1) := dk_28 (dk_at dksJ4_checkFromToIndex_0 17 rfl rfl)
theorem dJ4_checkFromToIndex_18 : decode cJ4_checkFromToIndex 18 = .ok (.invokestatic 99, 3) := dk_184 0 99 (dk_at dksJ4_checkFromToIndex_0 18 rfl rfl)
theorem dJ4_checkFromToIndex_21 : decode cJ4_checkFromToIndex 21 = .ok (.athrow, 1) := dk_191 (dk_at dksJ4_checkFromToIndex_0 21 rfl rfl)
theorem dJ4_checkFromToIndex_22 : decode cJ4_checkFromToIndex 22 = .ok (.iload_n 0, 1) := dk_26 (dk_at dksJ4_checkFromToIndex_0 22 rfl rfl)
theorem dJ4_checkFromToIndex_23 : decode cJ4_checkFromToIndex 23 = .ok (.ireturn, 1) := dk_172 (dk_at dksJ4_checkFromToIndex_0 23 rfl rfl)
abbrev cJ4_checkIndex : ByteArray := prog_24_method_11_code
def yJ4_checkIndex : MethodName := ⟨RJ4, "checkIndex", "(IILjava/util/function/BiFunction;)I"⟩
def dkwJ4_checkIndex_0 : List UInt8 := [26, 155, 0, 8, 26, 27, 161, 0, 10, 44, 26, 27, 184, 0, 95, 191, 26, 172]
abbrev dktJ4_checkIndex_0 : List UInt8 := dkwJ4_checkIndex_0 ++ []
theorem dksJ4_checkIndex_0 : cJ4_checkIndex.data.toList.drop 0 = dktJ4_checkIndex_0 := by decide +kernel
theorem dJ4_checkIndex_0 : decode cJ4_checkIndex 0 = .ok (.iload_n 0, 1) := dk_26 (dk_at dksJ4_checkIndex_0 0 rfl rfl)
theorem dJ4_checkIndex_1 : decode cJ4_checkIndex 1 = .ok (.ifCond .lt 8, 3) := dk_155 0 8 (dk_at dksJ4_checkIndex_0 1 rfl rfl)
theorem dJ4_checkIndex_4 : decode cJ4_checkIndex 4 = .ok (.iload_n 0, 1) := dk_26 (dk_at dksJ4_checkIndex_0 4 rfl rfl)
theorem dJ4_checkIndex_5 : decode cJ4_checkIndex 5 = .ok (.iload_n 1, 1) := dk_27 (dk_at dksJ4_checkIndex_0 5 rfl rfl)
theorem dJ4_checkIndex_6 : decode cJ4_checkIndex 6 = .ok (.if_icmp .lt 10, 3) := dk_161 0 10 (dk_at dksJ4_checkIndex_0 6 rfl rfl)
theorem dJ4_checkIndex_9 : decode cJ4_checkIndex 9 = .ok (.aload_n 2, 1) := dk_44 (dk_at dksJ4_checkIndex_0 9 rfl rfl)
theorem dJ4_checkIndex_10 : decode cJ4_checkIndex 10 = .ok (.iload_n 0, 1) := dk_26 (dk_at dksJ4_checkIndex_0 10 rfl rfl)
theorem dJ4_checkIndex_11 : decode cJ4_checkIndex 11 = .ok (.iload_n 1, 1) := dk_27 (dk_at dksJ4_checkIndex_0 11 rfl rfl)
theorem dJ4_checkIndex_12 : decode cJ4_checkIndex 12 = .ok (.invokestatic 95, 3) := dk_184 0 95 (dk_at dksJ4_checkIndex_0 12 rfl rfl)
theorem dJ4_checkIndex_15 : decode cJ4_checkIndex 15 = .ok (.athrow, 1) := dk_191 (dk_at dksJ4_checkIndex_0 15 rfl rfl)
theorem dJ4_checkIndex_16 : decode cJ4_checkIndex 16 = .ok (.iload_n 0, 1) := dk_26 (dk_at dksJ4_checkIndex_0 16 rfl rfl)
theorem dJ4_checkIndex_17 : decode cJ4_checkIndex 17 = .ok (.ireturn, 1) := dk_172 (dk_at dksJ4_checkIndex_0 17 rfl rfl)
theorem q110 : (Jvm.Cond.initialized "jdk/internal/util/Preconditions") ∈ lw_all := lw_g (lw_at lw_m1 16 rfl) rfl
theorem q813 : (Jvm.Cond.laysStatic "jdk/internal/util/Preconditions" "SIOOBE_FORMATTER" "Ljava/util/function/BiFunction;") ∈ lw_tbl := lw_at lw_m3 239 rfl
theorem q815 : (Jvm.Cond.static ({ cls := "jdk/internal/util/Preconditions", name := "checkFromToIndex", desc := "(IIILjava/util/function/BiFunction;)I" } : Jvm.MethodName)) ∈ lw_all := lw_g (lw_at lw_m4 1 rfl) rfl
theorem q816 : (Jvm.Cond.code ({ cls := "jdk/internal/util/Preconditions", name := "checkFromToIndex", desc := "(IIILjava/util/function/BiFunction;)I" } : Jvm.MethodName) prog_24_method_12_code (4 : Nat) (Option.some Jvm.ClassFile.FieldType.int)) ∈ lw_all := lw_g (lw_at lw_m4 2 rfl) rfl
theorem q937 : (Jvm.Cond.static ({ cls := "jdk/internal/util/Preconditions", name := "checkIndex", desc := "(IILjava/util/function/BiFunction;)I" } : Jvm.MethodName)) ∈ lw_all := lw_g (lw_at lw_m4 123 rfl) rfl
theorem q938 : (Jvm.Cond.code ({ cls := "jdk/internal/util/Preconditions", name := "checkIndex", desc := "(IILjava/util/function/BiFunction;)I" } : Jvm.MethodName) prog_24_method_11_code (3 : Nat) (Option.some Jvm.ClassFile.FieldType.int)) ∈ lw_all := lw_g (lw_at lw_m4 124 rfl) rfl
/-! java/lang/Throwable -/
set_option maxRecDepth 100000
def RJ6 : String := "java/lang/Throwable"
def TJ6 : u_T := fun k => match k with
  | 0 => ("java/lang/Throwable", "cause", "Ljava/lang/Throwable;", false)
  | 1 => ("java/lang/Throwable", "stackTrace", "[Ljava/lang/StackTraceElement;", false)
  | 2 => ("java/lang/Throwable", "suppressedExceptions", "Ljava/util/List;", false)
  | 3 => ("java/lang/Throwable", "detailMessage", "Ljava/lang/String;", false)
  | _ => ("java/lang/Throwable", "backtrace", "Ljava/lang/Object;", false)
def tyJ6 : Nat → FieldType := fun k => match k with
  | 0 => .object "java/lang/Throwable"
  | 1 => .array (.object "java/lang/StackTraceElement")
  | 2 => .object "java/util/List"
  | 3 => .object "java/lang/String"
  | _ => .object "java/lang/Object"
abbrev wsJ60 : List Cond := u_ws RJ6 TJ6 5
theorem nmJ6 : ∀ a, a < 5 → ∀ b, b < 5 → a ≠ b → (TJ6 a).2.1 ≠ (TJ6 b).2.1 := by decide +kernel
theorem tyJ6_ok : ∀ k, k < 5 → parseFieldDescriptor (TJ6 k).2.2.1 = some (tyJ6 k) := by decide +kernel
abbrev cJ6_init : ByteArray := prog_23_method_1_code
def yJ6_init : MethodName := ⟨RJ6, "<init>", "()V"⟩
def dkwJ6_init_1 : List UInt8 := [182, 0, 27, 87, 177]
abbrev dktJ6_init_1 : List UInt8 := dkwJ6_init_1 ++ []
def dkwJ6_init_0 : List UInt8 := [42, 183, 0, 1, 42, 42, 181, 0, 7, 42, 178, 0, 13, 181, 0, 17, 42, 178, 0, 20, 181, 0, 24, 42]
abbrev dktJ6_init_0 : List UInt8 := dkwJ6_init_0 ++ dktJ6_init_1
theorem dksJ6_init_0 : cJ6_init.data.toList.drop 0 = dktJ6_init_0 := by decide +kernel
theorem dksJ6_init_1 : cJ6_init.data.toList.drop 24 = dktJ6_init_1 := dk_seg dksJ6_init_0 24 rfl rfl
theorem dJ6_init_0 : decode cJ6_init 0 = .ok (.aload_n 0, 1) := dk_42 (dk_at dksJ6_init_0 0 rfl rfl)
theorem dJ6_init_1 : decode cJ6_init 1 = .ok (.invokespecial 1, 3) := dk_183 0 1 (dk_at dksJ6_init_0 1 rfl rfl)
theorem dJ6_init_4 : decode cJ6_init 4 = .ok (.aload_n 0, 1) := dk_42 (dk_at dksJ6_init_0 4 rfl rfl)
theorem dJ6_init_5 : decode cJ6_init 5 = .ok (.aload_n 0, 1) := dk_42 (dk_at dksJ6_init_0 5 rfl rfl)
theorem dJ6_init_6 : decode cJ6_init 6 = .ok (.putfield 7, 3) := dk_181 0 7 (dk_at dksJ6_init_0 6 rfl rfl)
theorem dJ6_init_9 : decode cJ6_init 9 = .ok (.aload_n 0, 1) := dk_42 (dk_at dksJ6_init_0 9 rfl rfl)
theorem dJ6_init_10 : decode cJ6_init 10 = .ok (.getstatic 13, 3) := dk_178 0 13 (dk_at dksJ6_init_0 10 rfl rfl)
theorem dJ6_init_13 : decode cJ6_init 13 = .ok (.putfield 17, 3) := dk_181 0 17 (dk_at dksJ6_init_0 13 rfl rfl)
theorem dJ6_init_16 : decode cJ6_init 16 = .ok (.aload_n 0, 1) := dk_42 (dk_at dksJ6_init_0 16 rfl rfl)
theorem dJ6_init_17 : decode cJ6_init 17 = .ok (.getstatic 20, 3) := dk_178 0 20 (dk_at dksJ6_init_0 17 rfl rfl)
theorem dJ6_init_20 : decode cJ6_init 20 = .ok (.putfield 24, 3) := dk_181 0 24 (dk_at dksJ6_init_0 20 rfl rfl)
theorem dJ6_init_23 : decode cJ6_init 23 = .ok (.aload_n 0, 1) := dk_42 (dk_at dksJ6_init_0 23 rfl rfl)
theorem dJ6_init_24 : decode cJ6_init 24 = .ok (.invokevirtual 27, 3) := dk_182 0 27 (dk_at dksJ6_init_1 0 rfl rfl)
theorem dJ6_init_27 : decode cJ6_init 27 = .ok (.pop, 1) := dk_87 (dk_at dksJ6_init_1 3 rfl rfl)
theorem dJ6_init_28 : decode cJ6_init 28 = .ok (.return_, 1) := dk_177 (dk_at dksJ6_init_1 4 rfl rfl)
abbrev cJ6_init_2 : ByteArray := prog_23_method_5_code
def yJ6_init_2 : MethodName := ⟨RJ6, "<init>", "(Ljava/lang/String;Ljava/lang/Throwable;ZZ)V"⟩
def dkwJ6_init_2_2 : List UInt8 := [44, 181, 0, 7, 29, 154, 0, 8, 42, 1, 181, 0, 24, 177]
abbrev dktJ6_init_2_2 : List UInt8 := dkwJ6_init_2_2 ++ []
def dkwJ6_init_2_1 : List UInt8 := [21, 4, 153, 0, 11, 42, 182, 0, 27, 87, 167, 0, 8, 42, 1, 181, 0, 17, 42, 43, 181, 0, 31, 42]
abbrev dktJ6_init_2_1 : List UInt8 := dkwJ6_init_2_1 ++ dktJ6_init_2_2
def dkwJ6_init_2_0 : List UInt8 := [42, 183, 0, 1, 42, 42, 181, 0, 7, 42, 178, 0, 13, 181, 0, 17, 42, 178, 0, 20, 181, 0, 24]
abbrev dktJ6_init_2_0 : List UInt8 := dkwJ6_init_2_0 ++ dktJ6_init_2_1
theorem dksJ6_init_2_0 : cJ6_init_2.data.toList.drop 0 = dktJ6_init_2_0 := by decide +kernel
theorem dksJ6_init_2_1 : cJ6_init_2.data.toList.drop 23 = dktJ6_init_2_1 := dk_seg dksJ6_init_2_0 23 rfl rfl
theorem dksJ6_init_2_2 : cJ6_init_2.data.toList.drop 47 = dktJ6_init_2_2 := dk_seg dksJ6_init_2_1 24 rfl rfl
theorem dJ6_init_2_0 : decode cJ6_init_2 0 = .ok (.aload_n 0, 1) := dk_42 (dk_at dksJ6_init_2_0 0 rfl rfl)
theorem dJ6_init_2_1 : decode cJ6_init_2 1 = .ok (.invokespecial 1, 3) := dk_183 0 1 (dk_at dksJ6_init_2_0 1 rfl rfl)
theorem dJ6_init_2_4 : decode cJ6_init_2 4 = .ok (.aload_n 0, 1) := dk_42 (dk_at dksJ6_init_2_0 4 rfl rfl)
theorem dJ6_init_2_5 : decode cJ6_init_2 5 = .ok (.aload_n 0, 1) := dk_42 (dk_at dksJ6_init_2_0 5 rfl rfl)
theorem dJ6_init_2_6 : decode cJ6_init_2 6 = .ok (.putfield 7, 3) := dk_181 0 7 (dk_at dksJ6_init_2_0 6 rfl rfl)
theorem dJ6_init_2_9 : decode cJ6_init_2 9 = .ok (.aload_n 0, 1) := dk_42 (dk_at dksJ6_init_2_0 9 rfl rfl)
theorem dJ6_init_2_10 : decode cJ6_init_2 10 = .ok (.getstatic 13, 3) := dk_178 0 13 (dk_at dksJ6_init_2_0 10 rfl rfl)
theorem dJ6_init_2_13 : decode cJ6_init_2 13 = .ok (.putfield 17, 3) := dk_181 0 17 (dk_at dksJ6_init_2_0 13 rfl rfl)
theorem dJ6_init_2_16 : decode cJ6_init_2 16 = .ok (.aload_n 0, 1) := dk_42 (dk_at dksJ6_init_2_0 16 rfl rfl)
theorem dJ6_init_2_17 : decode cJ6_init_2 17 = .ok (.getstatic 20, 3) := dk_178 0 20 (dk_at dksJ6_init_2_0 17 rfl rfl)
theorem dJ6_init_2_20 : decode cJ6_init_2 20 = .ok (.putfield 24, 3) := dk_181 0 24 (dk_at dksJ6_init_2_0 20 rfl rfl)
theorem dJ6_init_2_23 : decode cJ6_init_2 23 = .ok (.iload 4, 2) := dk_21 4 (dk_at dksJ6_init_2_1 0 rfl rfl)
theorem dJ6_init_2_25 : decode cJ6_init_2 25 = .ok (.ifCond .eq 11, 3) := dk_153 0 11 (dk_at dksJ6_init_2_1 2 rfl rfl)
theorem dJ6_init_2_28 : decode cJ6_init_2 28 = .ok (.aload_n 0, 1) := dk_42 (dk_at dksJ6_init_2_1 5 rfl rfl)
theorem dJ6_init_2_29 : decode cJ6_init_2 29 = .ok (.invokevirtual 27, 3) := dk_182 0 27 (dk_at dksJ6_init_2_1 6 rfl rfl)
theorem dJ6_init_2_32 : decode cJ6_init_2 32 = .ok (.pop, 1) := dk_87 (dk_at dksJ6_init_2_1 9 rfl rfl)
theorem dJ6_init_2_33 : decode cJ6_init_2 33 = .ok (.goto 8, 3) := dk_167 0 8 (dk_at dksJ6_init_2_1 10 rfl rfl)
theorem dJ6_init_2_36 : decode cJ6_init_2 36 = .ok (.aload_n 0, 1) := dk_42 (dk_at dksJ6_init_2_1 13 rfl rfl)
theorem dJ6_init_2_37 : decode cJ6_init_2 37 = .ok (.aconst_null, 1) := dk_1 (dk_at dksJ6_init_2_1 14 rfl rfl)
theorem dJ6_init_2_38 : decode cJ6_init_2 38 = .ok (.putfield 17, 3) := dk_181 0 17 (dk_at dksJ6_init_2_1 15 rfl rfl)
theorem dJ6_init_2_41 : decode cJ6_init_2 41 = .ok (.aload_n 0, 1) := dk_42 (dk_at dksJ6_init_2_1 18 rfl rfl)
theorem dJ6_init_2_42 : decode cJ6_init_2 42 = .ok (.aload_n 1, 1) := dk_43 (dk_at dksJ6_init_2_1 19 rfl rfl)
theorem dJ6_init_2_43 : decode cJ6_init_2 43 = .ok (.putfield 31, 3) := dk_181 0 31 (dk_at dksJ6_init_2_1 20 rfl rfl)
theorem dJ6_init_2_46 : decode cJ6_init_2 46 = .ok (.aload_n 0, 1) := dk_42 (dk_at dksJ6_init_2_1 23 rfl rfl)
theorem dJ6_init_2_47 : decode cJ6_init_2 47 = .ok (.aload_n 2, 1) := dk_44 (dk_at dksJ6_init_2_2 0 rfl rfl)
theorem dJ6_init_2_48 : decode cJ6_init_2 48 = .ok (.putfield 7, 3) := dk_181 0 7 (dk_at dksJ6_init_2_2 1 rfl rfl)
theorem dJ6_init_2_51 : decode cJ6_init_2 51 = .ok (.iload_n 3, 1) := dk_29 (dk_at dksJ6_init_2_2 4 rfl rfl)
theorem dJ6_init_2_52 : decode cJ6_init_2 52 = .ok (.ifCond .ne 8, 3) := dk_154 0 8 (dk_at dksJ6_init_2_2 5 rfl rfl)
theorem dJ6_init_2_55 : decode cJ6_init_2 55 = .ok (.aload_n 0, 1) := dk_42 (dk_at dksJ6_init_2_2 8 rfl rfl)
theorem dJ6_init_2_56 : decode cJ6_init_2 56 = .ok (.aconst_null, 1) := dk_1 (dk_at dksJ6_init_2_2 9 rfl rfl)
theorem dJ6_init_2_57 : decode cJ6_init_2 57 = .ok (.putfield 24, 3) := dk_181 0 24 (dk_at dksJ6_init_2_2 10 rfl rfl)
theorem dJ6_init_2_60 : decode cJ6_init_2 60 = .ok (.return_, 1) := dk_177 (dk_at dksJ6_init_2_2 13 rfl rfl)
theorem q112 : (Jvm.Cond.initialized "java/lang/Throwable") ∈ lw_all := lw_g (lw_at lw_m1 18 rfl) rfl
theorem q854 : (Jvm.Cond.declares ({ cls := "java/lang/Throwable", name := "<init>", desc := "()V" } : Jvm.MethodName)) ∈ lw_tbl := lw_at lw_m4 40 rfl
theorem q855 : (Jvm.Cond.declares ({ cls := "java/lang/Throwable", name := "<init>", desc := "(Ljava/lang/String;)V" } : Jvm.MethodName)) ∈ lw_tbl := lw_at lw_m4 41 rfl
theorem q859 : (Jvm.Cond.lays "java/lang/Throwable" "java/lang/Throwable" "cause" "Ljava/lang/Throwable;") ∈ lw_all := lw_g (lw_at lw_m4 45 rfl) rfl
theorem q861 : (Jvm.Cond.lays "java/lang/Throwable" "java/lang/Throwable" "stackTrace" "[Ljava/lang/StackTraceElement;") ∈ lw_all := lw_g (lw_at lw_m4 47 rfl) rfl
theorem q863 : (Jvm.Cond.lays "java/lang/Throwable" "java/lang/Throwable" "suppressedExceptions" "Ljava/util/List;") ∈ lw_all := lw_g (lw_at lw_m4 49 rfl) rfl
theorem q865 : (Jvm.Cond.lays "java/lang/Throwable" "java/lang/Throwable" "detailMessage" "Ljava/lang/String;") ∈ lw_all := lw_g (lw_at lw_m4 51 rfl) rfl
theorem q867 : (Jvm.Cond.lays "java/lang/Throwable" "java/lang/Throwable" "backtrace" "Ljava/lang/Object;") ∈ lw_all := lw_g (lw_at lw_m4 53 rfl) rfl
theorem q868 : (Jvm.Cond.fieldLink "java/lang/Throwable" (198 : Nat) "java/lang/Throwable" "backtrace" "Ljava/lang/Object;") ∈ lw_all := lw_g (lw_at lw_m4 54 rfl) rfl
theorem q869 : (Jvm.Cond.superclass "java/lang/Throwable" "java/lang/Object") ∈ lw_all := lw_g (lw_at lw_m4 55 rfl) rfl
theorem q870 : (Jvm.Cond.instanceMethod ({ cls := "java/lang/Throwable", name := "<init>", desc := "()V" } : Jvm.MethodName)) ∈ lw_all := lw_g (lw_at lw_m4 56 rfl) rfl
theorem q871 : (Jvm.Cond.code ({ cls := "java/lang/Throwable", name := "<init>", desc := "()V" } : Jvm.MethodName) prog_23_method_1_code (1 : Nat) (Option.none : Option Jvm.ClassFile.FieldType)) ∈ lw_all := lw_g (lw_at lw_m4 57 rfl) rfl
theorem q872 : (Jvm.Cond.methodLink "java/lang/Throwable" (1 : Nat) ({ cls := "java/lang/Object", name := "<init>", desc := "()V" } : Jvm.MethodName)) ∈ lw_all := lw_g (lw_at lw_m4 58 rfl) rfl
theorem q873 : (Jvm.Cond.fieldLink "java/lang/Throwable" (13 : Nat) "java/lang/Throwable" "UNASSIGNED_STACK" "[Ljava/lang/StackTraceElement;") ∈ lw_all := lw_g (lw_at lw_m4 59 rfl) rfl
theorem q874 : (Jvm.Cond.laysStatic "java/lang/Throwable" "UNASSIGNED_STACK" "[Ljava/lang/StackTraceElement;") ∈ lw_tbl := lw_at lw_m4 60 rfl
theorem q875 : (Jvm.Cond.fieldLink "java/lang/Throwable" (20 : Nat) "java/lang/Throwable" "SUPPRESSED_SENTINEL" "Ljava/util/List;") ∈ lw_all := lw_g (lw_at lw_m4 61 rfl) rfl
theorem q876 : (Jvm.Cond.laysStatic "java/lang/Throwable" "SUPPRESSED_SENTINEL" "Ljava/util/List;") ∈ lw_tbl := lw_at lw_m4 62 rfl
theorem q877 : (Jvm.Cond.methodLink "java/lang/Throwable" (27 : Nat) ({ cls := "java/lang/Throwable", name := "fillInStackTrace", desc := "()Ljava/lang/Throwable;" } : Jvm.MethodName)) ∈ lw_all := lw_g (lw_at lw_m4 63 rfl) rfl
theorem q878 : (Jvm.Cond.instanceMethod ({ cls := "java/lang/Throwable", name := "fillInStackTrace", desc := "()Ljava/lang/Throwable;" } : Jvm.MethodName)) ∈ lw_all := lw_g (lw_at lw_m4 64 rfl) rfl
theorem q879 : (Jvm.Cond.sameMethod "java/lang/Throwable" "java/lang/Throwable" "fillInStackTrace" "()Ljava/lang/Throwable;") ∈ lw_all := lw_g (lw_at lw_m4 65 rfl) rfl
theorem q880 : (Jvm.Cond.codeSync ({ cls := "java/lang/Throwable", name := "fillInStackTrace", desc := "()Ljava/lang/Throwable;" } : Jvm.MethodName) prog_23_method_18_code (1 : Nat) (Option.some (Jvm.ClassFile.FieldType.object "java/lang/Throwable"))) ∈ lw_all := lw_g (lw_at lw_m4 66 rfl) rfl
theorem q881 : (Jvm.Cond.methodLink "java/lang/Throwable" (202 : Nat) ({ cls := "java/lang/Throwable", name := "fillInStackTrace", desc := "(I)Ljava/lang/Throwable;" } : Jvm.MethodName)) ∈ lw_all := lw_g (lw_at lw_m4 67 rfl) rfl
theorem q882 : (Jvm.Cond.privateMethod ({ cls := "java/lang/Throwable", name := "fillInStackTrace", desc := "(I)Ljava/lang/Throwable;" } : Jvm.MethodName)) ∈ lw_tbl := lw_at lw_m4 68 rfl
theorem q883 : (Jvm.Cond.instanceMethod ({ cls := "java/lang/Throwable", name := "fillInStackTrace", desc := "(I)Ljava/lang/Throwable;" } : Jvm.MethodName)) ∈ lw_all := lw_g (lw_at lw_m4 69 rfl) rfl
theorem q884 : (Jvm.Cond.instantiable "java/lang/Throwable" (6 : Nat)) ∈ lw_all := lw_g (lw_at lw_m4 70 rfl) rfl
theorem q885 : (Jvm.Cond.native ({ cls := "java/lang/Throwable", name := "fillInStackTrace", desc := "(I)Ljava/lang/Throwable;" } : Jvm.MethodName)) ∈ lw_all := lw_g (lw_at lw_m4 71 rfl) rfl
theorem q896 : (Jvm.Cond.instanceMethod ({ cls := "java/lang/Throwable", name := "<init>", desc := "(Ljava/lang/String;Ljava/lang/Throwable;ZZ)V" } : Jvm.MethodName)) ∈ lw_all := lw_g (lw_at lw_m4 82 rfl) rfl
theorem q897 : (Jvm.Cond.code ({ cls := "java/lang/Throwable", name := "<init>", desc := "(Ljava/lang/String;Ljava/lang/Throwable;ZZ)V" } : Jvm.MethodName) prog_23_method_5_code (5 : Nat) (Option.none : Option Jvm.ClassFile.FieldType)) ∈ lw_all := lw_g (lw_at lw_m4 83 rfl) rfl
theorem q900 : (Jvm.Cond.fieldLink "java/lang/Throwable" (198 : Nat) "java/lang/Throwable" "backtrace" "Ljava/lang/Object;") ∈ lw_all := lw_g (lw_at lw_m4 86 rfl) rfl
theorem q901 : (Jvm.Cond.fieldLink "java/lang/Throwable" (31 : Nat) "java/lang/Throwable" "detailMessage" "Ljava/lang/String;") ∈ lw_all := lw_g (lw_at lw_m4 87 rfl) rfl
theorem q902 : (Jvm.Cond.fieldLink "java/lang/Throwable" (7 : Nat) "java/lang/Throwable" "cause" "Ljava/lang/Throwable;") ∈ lw_all := lw_g (lw_at lw_m4 88 rfl) rfl
theorem q903 : (Jvm.Cond.fieldLink "java/lang/Throwable" (17 : Nat) "java/lang/Throwable" "stackTrace" "[Ljava/lang/StackTraceElement;") ∈ lw_all := lw_g (lw_at lw_m4 89 rfl) rfl
theorem q904 : (Jvm.Cond.fieldLink "java/lang/Throwable" (24 : Nat) "java/lang/Throwable" "suppressedExceptions" "Ljava/util/List;") ∈ lw_all := lw_g (lw_at lw_m4 90 rfl) rfl
theorem q907 : (Jvm.Cond.soleField "java/lang/Throwable" "backtrace") ∈ lw_all := lw_g (lw_at lw_m4 93 rfl) rfl
theorem q908 : (Jvm.Cond.soleField "java/lang/Throwable" "detailMessage") ∈ lw_all := lw_g (lw_at lw_m4 94 rfl) rfl
theorem q909 : (Jvm.Cond.soleField "java/lang/Throwable" "cause") ∈ lw_all := lw_g (lw_at lw_m4 95 rfl) rfl
theorem q910 : (Jvm.Cond.soleField "java/lang/Throwable" "stackTrace") ∈ lw_all := lw_g (lw_at lw_m4 96 rfl) rfl
theorem q912 : (Jvm.Cond.soleField "java/lang/Throwable" "depth") ∈ lw_all := lw_g (lw_at lw_m4 98 rfl) rfl
theorem q913 : (Jvm.Cond.soleField "java/lang/Throwable" "suppressedExceptions") ∈ lw_all := lw_g (lw_at lw_m4 99 rfl) rfl
theorem q1961 : (Jvm.Cond.sameMethod "java/lang/Throwable" "java/lang/Throwable" "fillInStackTrace" "(I)Ljava/lang/Throwable;") ∈ lw_all := lw_g (lw_at lw_m8 187 rfl) rfl
theorem in_J6 : ∀ w ∈ wsJ60, w ∈ lw_all := lw_in wsJ60 [859, 861, 863, 865, 867] (by decide +kernel) (by decide +kernel)
/-! java/lang/Exception -/
set_option maxRecDepth 100000
def RJ7 : String := "java/lang/Exception"
abbrev cJ7_init : ByteArray := prog_16_method_5_code
def yJ7_init : MethodName := ⟨RJ7, "<init>", "(Ljava/lang/String;Ljava/lang/Throwable;ZZ)V"⟩
def dkwJ7_init_0 : List UInt8 := [42, 43, 44, 29, 21, 4, 183, 0, 16, 177]
abbrev dktJ7_init_0 : List UInt8 := dkwJ7_init_0 ++ []
theorem dksJ7_init_0 : cJ7_init.data.toList.drop 0 = dktJ7_init_0 := by decide +kernel
theorem dJ7_init_0 : decode cJ7_init 0 = .ok (.aload_n 0, 1) := dk_42 (dk_at dksJ7_init_0 0 rfl rfl)
theorem dJ7_init_1 : decode cJ7_init 1 = .ok (.aload_n 1, 1) := dk_43 (dk_at dksJ7_init_0 1 rfl rfl)
theorem dJ7_init_2 : decode cJ7_init 2 = .ok (.aload_n 2, 1) := dk_44 (dk_at dksJ7_init_0 2 rfl rfl)
theorem dJ7_init_3 : decode cJ7_init 3 = .ok (.iload_n 3, 1) := dk_29 (dk_at dksJ7_init_0 3 rfl rfl)
theorem dJ7_init_4 : decode cJ7_init 4 = .ok (.iload 4, 2) := dk_21 4 (dk_at dksJ7_init_0 4 rfl rfl)
theorem dJ7_init_6 : decode cJ7_init 6 = .ok (.invokespecial 16, 3) := dk_183 0 16 (dk_at dksJ7_init_0 6 rfl rfl)
theorem dJ7_init_9 : decode cJ7_init 9 = .ok (.return_, 1) := dk_177 (dk_at dksJ7_init_0 9 rfl rfl)
theorem q113 : (Jvm.Cond.initialized "java/lang/Exception") ∈ lw_all := lw_g (lw_at lw_m1 19 rfl) rfl
theorem q852 : (Jvm.Cond.declares ({ cls := "java/lang/Exception", name := "<init>", desc := "()V" } : Jvm.MethodName)) ∈ lw_tbl := lw_at lw_m4 38 rfl
theorem q853 : (Jvm.Cond.declares ({ cls := "java/lang/Exception", name := "<init>", desc := "(Ljava/lang/String;)V" } : Jvm.MethodName)) ∈ lw_tbl := lw_at lw_m4 39 rfl
theorem q893 : (Jvm.Cond.instanceMethod ({ cls := "java/lang/Exception", name := "<init>", desc := "(Ljava/lang/String;Ljava/lang/Throwable;ZZ)V" } : Jvm.MethodName)) ∈ lw_all := lw_g (lw_at lw_m4 79 rfl) rfl
theorem q894 : (Jvm.Cond.code ({ cls := "java/lang/Exception", name := "<init>", desc := "(Ljava/lang/String;Ljava/lang/Throwable;ZZ)V" } : Jvm.MethodName) prog_16_method_5_code (5 : Nat) (Option.none : Option Jvm.ClassFile.FieldType)) ∈ lw_all := lw_g (lw_at lw_m4 80 rfl) rfl
theorem q895 : (Jvm.Cond.methodLink "java/lang/Exception" (16 : Nat) ({ cls := "java/lang/Throwable", name := "<init>", desc := "(Ljava/lang/String;Ljava/lang/Throwable;ZZ)V" } : Jvm.MethodName)) ∈ lw_all := lw_g (lw_at lw_m4 81 rfl) rfl
/-! java/lang/RuntimeException -/
set_option maxRecDepth 100000
def RJ8 : String := "java/lang/RuntimeException"
abbrev cJ8_init : ByteArray := prog_18_method_5_code
def yJ8_init : MethodName := ⟨RJ8, "<init>", "(Ljava/lang/String;Ljava/lang/Throwable;ZZ)V"⟩
def dkwJ8_init_0 : List UInt8 := [42, 43, 44, 29, 21, 4, 183, 0, 16, 177]
abbrev dktJ8_init_0 : List UInt8 := dkwJ8_init_0 ++ []
theorem dksJ8_init_0 : cJ8_init.data.toList.drop 0 = dktJ8_init_0 := by decide +kernel
theorem dJ8_init_0 : decode cJ8_init 0 = .ok (.aload_n 0, 1) := dk_42 (dk_at dksJ8_init_0 0 rfl rfl)
theorem dJ8_init_1 : decode cJ8_init 1 = .ok (.aload_n 1, 1) := dk_43 (dk_at dksJ8_init_0 1 rfl rfl)
theorem dJ8_init_2 : decode cJ8_init 2 = .ok (.aload_n 2, 1) := dk_44 (dk_at dksJ8_init_0 2 rfl rfl)
theorem dJ8_init_3 : decode cJ8_init 3 = .ok (.iload_n 3, 1) := dk_29 (dk_at dksJ8_init_0 3 rfl rfl)
theorem dJ8_init_4 : decode cJ8_init 4 = .ok (.iload 4, 2) := dk_21 4 (dk_at dksJ8_init_0 4 rfl rfl)
theorem dJ8_init_6 : decode cJ8_init 6 = .ok (.invokespecial 16, 3) := dk_183 0 16 (dk_at dksJ8_init_0 6 rfl rfl)
theorem dJ8_init_9 : decode cJ8_init 9 = .ok (.return_, 1) := dk_177 (dk_at dksJ8_init_0 9 rfl rfl)
theorem q114 : (Jvm.Cond.initialized "java/lang/RuntimeException") ∈ lw_all := lw_g (lw_at lw_m1 20 rfl) rfl
theorem q850 : (Jvm.Cond.declares ({ cls := "java/lang/RuntimeException", name := "<init>", desc := "()V" } : Jvm.MethodName)) ∈ lw_tbl := lw_at lw_m4 36 rfl
theorem q851 : (Jvm.Cond.declares ({ cls := "java/lang/RuntimeException", name := "<init>", desc := "(Ljava/lang/String;)V" } : Jvm.MethodName)) ∈ lw_tbl := lw_at lw_m4 37 rfl
theorem q890 : (Jvm.Cond.instanceMethod ({ cls := "java/lang/RuntimeException", name := "<init>", desc := "(Ljava/lang/String;Ljava/lang/Throwable;ZZ)V" } : Jvm.MethodName)) ∈ lw_all := lw_g (lw_at lw_m4 76 rfl) rfl
theorem q891 : (Jvm.Cond.code ({ cls := "java/lang/RuntimeException", name := "<init>", desc := "(Ljava/lang/String;Ljava/lang/Throwable;ZZ)V" } : Jvm.MethodName) prog_18_method_5_code (5 : Nat) (Option.none : Option Jvm.ClassFile.FieldType)) ∈ lw_all := lw_g (lw_at lw_m4 77 rfl) rfl
theorem q892 : (Jvm.Cond.methodLink "java/lang/RuntimeException" (16 : Nat) ({ cls := "java/lang/Exception", name := "<init>", desc := "(Ljava/lang/String;Ljava/lang/Throwable;ZZ)V" } : Jvm.MethodName)) ∈ lw_all := lw_g (lw_at lw_m4 78 rfl) rfl
/-! java/lang/Object -/
set_option maxRecDepth 100000
def RJ9 : String := "java/lang/Object"
abbrev cJ9_init : ByteArray := object_method_1_code
def yJ9_init : MethodName := ⟨RJ9, "<init>", "()V"⟩
theorem dJ9_init_0 : decode cJ9_init 0 = .ok (.return_, 1) := by decide +kernel
theorem q124 : (Jvm.Cond.instanceMethod ({ cls := "java/lang/Object", name := "<init>", desc := "()V" } : Jvm.MethodName)) ∈ lw_all := lw_g (lw_at lw_m1 30 rfl) rfl
theorem q125 : (Jvm.Cond.code ({ cls := "java/lang/Object", name := "<init>", desc := "()V" } : Jvm.MethodName) object_method_1_code (1 : Nat) (Option.none : Option Jvm.ClassFile.FieldType)) ∈ lw_all := lw_g (lw_at lw_m1 31 rfl) rfl
theorem q94 : (Jvm.Cond.initialized "WheelLandLaw") ∈ lw_all := lw_g (lw_at lw_m1 0 rfl) rfl
set_option maxRecDepth 100000
theorem q118 : (Jvm.Cond.classLink "WheelLandLaw" (7 : Nat) "WheelLand") ∈ lw_all := lw_g (lw_at lw_m1 24 rfl) rfl
theorem q120 : (Jvm.Cond.methodLink "WheelLandLaw" (9 : Nat) ({ cls := "WheelLand", name := "<init>", desc := "()V" } : Jvm.MethodName)) ∈ lw_all := lw_g (lw_at lw_m1 26 rfl) rfl
theorem q325 : (Jvm.Cond.methodLink "WheelLandLaw" (13 : Nat) ({ cls := "WheelLand", name := "village", desc := "(III)I" } : Jvm.MethodName)) ∈ lw_all := lw_g (lw_at lw_m1 231 rfl) rfl
theorem q415 : (Jvm.Cond.methodLink "WheelLandLaw" (18 : Nat) ({ cls := "WheelLand", name := "road", desc := "(III)Z" } : Jvm.MethodName)) ∈ lw_all := lw_g (lw_at lw_m2 81 rfl) rfl
theorem q423 : (Jvm.Cond.methodLink "WheelLandLaw" (23 : Nat) ({ cls := "WheelLand", name := "far", desc := "(II)I" } : Jvm.MethodName)) ∈ lw_all := lw_g (lw_at lw_m2 89 rfl) rfl
theorem q431 : (Jvm.Cond.methodLink "WheelLandLaw" (28 : Nat) ({ cls := "WheelLand", name := "house", desc := "(II)I" } : Jvm.MethodName)) ∈ lw_all := lw_g (lw_at lw_m2 97 rfl) rfl
theorem q499 : (Jvm.Cond.methodLink "WheelLandLaw" (32 : Nat) ({ cls := "WheelLand", name := "loom", desc := "(III)Z" } : Jvm.MethodName)) ∈ lw_all := lw_g (lw_at lw_m2 165 rfl) rfl
theorem q533 : (Jvm.Cond.methodLink "WheelLandLaw" (36 : Nat) ({ cls := "WheelLand", name := "aim", desc := "(II)Z" } : Jvm.MethodName)) ∈ lw_all := lw_g (lw_at lw_m2 199 rfl) rfl
theorem q537 : (Jvm.Cond.methodLink "WheelLandLaw" (41 : Nat) ({ cls := "WheelLand", name := "coins", desc := "(II)I" } : Jvm.MethodName)) ∈ lw_all := lw_g (lw_at lw_m2 203 rfl) rfl
theorem q542 : (Jvm.Cond.methodLink "WheelLandLaw" (45 : Nat) ({ cls := "WheelLand", name := "cotton", desc := "(II)I" } : Jvm.MethodName)) ∈ lw_all := lw_g (lw_at lw_m2 208 rfl) rfl
theorem q546 : (Jvm.Cond.methodLink "WheelLandLaw" (49 : Nat) ({ cls := "WheelLand", name := "go", desc := "(I)I" } : Jvm.MethodName)) ∈ lw_all := lw_g (lw_at lw_m2 212 rfl) rfl
theorem q707 : (Jvm.Cond.methodLink "WheelLandLaw" (54 : Nat) ({ cls := "WheelLand", name := "lot", desc := "(II)I" } : Jvm.MethodName)) ∈ lw_all := lw_g (lw_at lw_m3 133 rfl) rfl
theorem q715 : (Jvm.Cond.methodLink "WheelLandLaw" (58 : Nat) ({ cls := "WheelLand", name := "feed", desc := "(IIIII)I" } : Jvm.MethodName)) ∈ lw_all := lw_g (lw_at lw_m3 141 rfl) rfl
theorem q723 : (Jvm.Cond.methodLink "WheelLandLaw" (63 : Nat) ({ cls := "WheelLand", name := "end", desc := "(I)Z" } : Jvm.MethodName)) ∈ lw_all := lw_g (lw_at lw_m3 149 rfl) rfl
theorem q727 : (Jvm.Cond.methodLink "WheelLandLaw" (68 : Nat) ({ cls := "WheelLand", name := "fault", desc := "()I" } : Jvm.MethodName)) ∈ lw_all := lw_g (lw_at lw_m3 153 rfl) rfl
theorem q1014 : (Jvm.Cond.methodLink "WheelLandLaw" (73 : Nat) ({ cls := "WheelLand", name := "sheet", desc := "()I" } : Jvm.MethodName)) ∈ lw_all := lw_g (lw_at lw_m4 200 rfl) rfl
theorem q1018 : (Jvm.Cond.methodLink "WheelLandLaw" (77 : Nat) ({ cls := "WheelLand", name := "force", desc := "(II)I" } : Jvm.MethodName)) ∈ lw_all := lw_g (lw_at lw_m4 204 rfl) rfl
theorem q1022 : (Jvm.Cond.methodLink "WheelLandLaw" (81 : Nat) ({ cls := "WheelLand", name := "why", desc := "(II)I" } : Jvm.MethodName)) ∈ lw_all := lw_g (lw_at lw_m4 208 rfl) rfl
theorem q1026 : (Jvm.Cond.methodLink "WheelLandLaw" (85 : Nat) ({ cls := "WheelLand", name := "pay", desc := "(III)I" } : Jvm.MethodName)) ∈ lw_all := lw_g (lw_at lw_m4 212 rfl) rfl
theorem q1030 : (Jvm.Cond.methodLink "WheelLandLaw" (89 : Nat) ({ cls := "WheelLand", name := "due", desc := "(II)I" } : Jvm.MethodName)) ∈ lw_all := lw_g (lw_at lw_m4 216 rfl) rfl
theorem q1034 : (Jvm.Cond.methodLink "WheelLandLaw" (93 : Nat) ({ cls := "WheelLand", name := "bar", desc := "(III)I" } : Jvm.MethodName)) ∈ lw_all := lw_g (lw_at lw_m4 220 rfl) rfl
theorem q1057 : (Jvm.Cond.methodLink "WheelLandLaw" (97 : Nat) ({ cls := "WheelLand", name := "weave", desc := "(III)I" } : Jvm.MethodName)) ∈ lw_all := lw_g (lw_at lw_m5 3 rfl) rfl
theorem q1085 : (Jvm.Cond.methodLink "WheelLandLaw" (101 : Nat) ({ cls := "WheelLand", name := "cloth", desc := "(II)I" } : Jvm.MethodName)) ∈ lw_all := lw_g (lw_at lw_m5 31 rfl) rfl
theorem q1093 : (Jvm.Cond.methodLink "WheelLandLaw" (105 : Nat) ({ cls := "WheelLand", name := "ask", desc := "(I)I" } : Jvm.MethodName)) ∈ lw_all := lw_g (lw_at lw_m5 39 rfl) rfl
theorem q1097 : (Jvm.Cond.methodLink "WheelLandLaw" (109 : Nat) ({ cls := "WheelLand", name := "clear", desc := "()I" } : Jvm.MethodName)) ∈ lw_all := lw_g (lw_at lw_m5 43 rfl) rfl
theorem q1101 : (Jvm.Cond.methodLink "WheelLandLaw" (113 : Nat) ({ cls := "WheelLand", name := "hands", desc := "(II)I" } : Jvm.MethodName)) ∈ lw_all := lw_g (lw_at lw_m5 47 rfl) rfl
theorem q1126 : (Jvm.Cond.methodLink "WheelLandLaw" (117 : Nat) ({ cls := "WheelLand", name := "bring", desc := "(II)I" } : Jvm.MethodName)) ∈ lw_all := lw_g (lw_at lw_m5 72 rfl) rfl
theorem q1130 : (Jvm.Cond.methodLink "WheelLandLaw" (121 : Nat) ({ cls := "WheelLand", name := "mill", desc := "(II)I" } : Jvm.MethodName)) ∈ lw_all := lw_g (lw_at lw_m5 76 rfl) rfl
theorem q1134 : (Jvm.Cond.methodLink "WheelLandLaw" (125 : Nat) ({ cls := "WheelLand", name := "price", desc := "(II)Z" } : Jvm.MethodName)) ∈ lw_all := lw_g (lw_at lw_m5 80 rfl) rfl
theorem q1138 : (Jvm.Cond.methodLink "WheelLandLaw" (129 : Nat) ({ cls := "WheelLand", name := "talk", desc := "(II)I" } : Jvm.MethodName)) ∈ lw_all := lw_g (lw_at lw_m5 84 rfl) rfl
theorem q1142 : (Jvm.Cond.methodLink "WheelLandLaw" (133 : Nat) ({ cls := "WheelLand", name := "heard", desc := "(II)I" } : Jvm.MethodName)) ∈ lw_all := lw_g (lw_at lw_m5 88 rfl) rfl
theorem q1146 : (Jvm.Cond.methodLink "WheelLandLaw" (137 : Nat) ({ cls := "WheelLand", name := "likes", desc := "(I)I" } : Jvm.MethodName)) ∈ lw_all := lw_g (lw_at lw_m5 92 rfl) rfl
theorem q1150 : (Jvm.Cond.methodLink "WheelLandLaw" (141 : Nat) ({ cls := "WheelLand", name := "sold", desc := "(II)I" } : Jvm.MethodName)) ∈ lw_all := lw_g (lw_at lw_m5 96 rfl) rfl
theorem q1154 : (Jvm.Cond.methodLink "WheelLandLaw" (145 : Nat) ({ cls := "WheelLand", name := "wrong", desc := "(IZ)I" } : Jvm.MethodName)) ∈ lw_all := lw_g (lw_at lw_m5 100 rfl) rfl
theorem q1161 : (Jvm.Cond.methodLink "WheelLandLaw" (150 : Nat) ({ cls := "WheelLand", name := "look", desc := "()I" } : Jvm.MethodName)) ∈ lw_all := lw_g (lw_at lw_m5 107 rfl) rfl
theorem q1165 : (Jvm.Cond.methodLink "WheelLandLaw" (154 : Nat) ({ cls := "WheelLand", name := "gift", desc := "(III)I" } : Jvm.MethodName)) ∈ lw_all := lw_g (lw_at lw_m5 111 rfl) rfl
theorem q1169 : (Jvm.Cond.methodLink "WheelLandLaw" (158 : Nat) ({ cls := "WheelLand", name := "forget", desc := "()I" } : Jvm.MethodName)) ∈ lw_all := lw_g (lw_at lw_m5 115 rfl) rfl
theorem q1173 : (Jvm.Cond.methodLink "WheelLandLaw" (162 : Nat) ({ cls := "WheelLand", name := "best", desc := "(II)I" } : Jvm.MethodName)) ∈ lw_all := lw_g (lw_at lw_m5 119 rfl) rfl
theorem q1181 : (Jvm.Cond.methodLink "WheelLandLaw" (166 : Nat) ({ cls := "WheelLand", name := "hungry", desc := "(I)I" } : Jvm.MethodName)) ∈ lw_all := lw_g (lw_at lw_m5 127 rfl) rfl
theorem q1185 : (Jvm.Cond.methodLink "WheelLandLaw" (170 : Nat) ({ cls := "WheelLand", name := "keeps", desc := "(II)I" } : Jvm.MethodName)) ∈ lw_all := lw_g (lw_at lw_m5 131 rfl) rfl
theorem q1190 : (Jvm.Cond.methodLink "WheelLandLaw" (174 : Nat) ({ cls := "WheelLand", name := "told", desc := "(II)I" } : Jvm.MethodName)) ∈ lw_all := lw_g (lw_at lw_m5 136 rfl) rfl
theorem q1194 : (Jvm.Cond.methodLink "WheelLandLaw" (178 : Nat) ({ cls := "WheelLand", name := "check", desc := "(III)I" } : Jvm.MethodName)) ∈ lw_all := lw_g (lw_at lw_m5 140 rfl) rfl
theorem q1203 : (Jvm.Cond.methodLink "WheelLandLaw" (182 : Nat) ({ cls := "WheelLand", name := "is", desc := "(II)I" } : Jvm.MethodName)) ∈ lw_all := lw_g (lw_at lw_m5 149 rfl) rfl
theorem q1207 : (Jvm.Cond.methodLink "WheelLandLaw" (186 : Nat) ({ cls := "WheelLand", name := "has", desc := "(II)I" } : Jvm.MethodName)) ∈ lw_all := lw_g (lw_at lw_m5 153 rfl) rfl
theorem q1211 : (Jvm.Cond.methodLink "WheelLandLaw" (190 : Nat) ({ cls := "WheelLand", name := "count", desc := "(I)I" } : Jvm.MethodName)) ∈ lw_all := lw_g (lw_at lw_m5 157 rfl) rfl
theorem q1215 : (Jvm.Cond.classLink "WheelLandLaw" (10 : Nat) "WheelLandModel") ∈ lw_all := lw_g (lw_at lw_m5 161 rfl) rfl
theorem q1217 : (Jvm.Cond.methodLink "WheelLandLaw" (12 : Nat) ({ cls := "WheelLandModel", name := "<init>", desc := "()V" } : Jvm.MethodName)) ∈ lw_all := lw_g (lw_at lw_m5 163 rfl) rfl
theorem q1541 : (Jvm.Cond.methodLink "WheelLandLaw" (17 : Nat) ({ cls := "WheelLandModel", name := "village", desc := "(III)I" } : Jvm.MethodName)) ∈ lw_all := lw_g (lw_at lw_m7 7 rfl) rfl
theorem q1551 : (Jvm.Cond.methodLink "WheelLandLaw" (22 : Nat) ({ cls := "WheelLandModel", name := "road", desc := "(III)Z" } : Jvm.MethodName)) ∈ lw_all := lw_g (lw_at lw_m7 17 rfl) rfl
theorem q1559 : (Jvm.Cond.methodLink "WheelLandLaw" (27 : Nat) ({ cls := "WheelLandModel", name := "far", desc := "(II)I" } : Jvm.MethodName)) ∈ lw_all := lw_g (lw_at lw_m7 25 rfl) rfl
theorem q1567 : (Jvm.Cond.methodLink "WheelLandLaw" (31 : Nat) ({ cls := "WheelLandModel", name := "house", desc := "(II)I" } : Jvm.MethodName)) ∈ lw_all := lw_g (lw_at lw_m7 33 rfl) rfl
theorem q1571 : (Jvm.Cond.methodLink "WheelLandLaw" (35 : Nat) ({ cls := "WheelLandModel", name := "loom", desc := "(III)Z" } : Jvm.MethodName)) ∈ lw_all := lw_g (lw_at lw_m7 37 rfl) rfl
theorem q1586 : (Jvm.Cond.methodLink "WheelLandLaw" (40 : Nat) ({ cls := "WheelLandModel", name := "aim", desc := "(II)Z" } : Jvm.MethodName)) ∈ lw_all := lw_g (lw_at lw_m7 52 rfl) rfl
theorem q1590 : (Jvm.Cond.methodLink "WheelLandLaw" (44 : Nat) ({ cls := "WheelLandModel", name := "coins", desc := "(II)I" } : Jvm.MethodName)) ∈ lw_all := lw_g (lw_at lw_m7 56 rfl) rfl
theorem q1596 : (Jvm.Cond.methodLink "WheelLandLaw" (48 : Nat) ({ cls := "WheelLandModel", name := "cotton", desc := "(II)I" } : Jvm.MethodName)) ∈ lw_all := lw_g (lw_at lw_m7 62 rfl) rfl
theorem q1601 : (Jvm.Cond.methodLink "WheelLandLaw" (62 : Nat) ({ cls := "WheelLandModel", name := "feed", desc := "(IIIII)I" } : Jvm.MethodName)) ∈ lw_all := lw_g (lw_at lw_m7 67 rfl) rfl
theorem q1609 : (Jvm.Cond.methodLink "WheelLandLaw" (67 : Nat) ({ cls := "WheelLandModel", name := "end", desc := "(I)Z" } : Jvm.MethodName)) ∈ lw_all := lw_g (lw_at lw_m7 75 rfl) rfl
theorem q1613 : (Jvm.Cond.methodLink "WheelLandLaw" (72 : Nat) ({ cls := "WheelLandModel", name := "fault", desc := "()I" } : Jvm.MethodName)) ∈ lw_all := lw_g (lw_at lw_m7 79 rfl) rfl
theorem q1694 : (Jvm.Cond.methodLink "WheelLandLaw" (76 : Nat) ({ cls := "WheelLandModel", name := "sheet", desc := "()I" } : Jvm.MethodName)) ∈ lw_all := lw_g (lw_at lw_m7 160 rfl) rfl
theorem q1698 : (Jvm.Cond.methodLink "WheelLandLaw" (80 : Nat) ({ cls := "WheelLandModel", name := "force", desc := "(II)I" } : Jvm.MethodName)) ∈ lw_all := lw_g (lw_at lw_m7 164 rfl) rfl
theorem q1703 : (Jvm.Cond.methodLink "WheelLandLaw" (84 : Nat) ({ cls := "WheelLandModel", name := "why", desc := "(II)I" } : Jvm.MethodName)) ∈ lw_all := lw_g (lw_at lw_m7 169 rfl) rfl
theorem q1711 : (Jvm.Cond.methodLink "WheelLandLaw" (57 : Nat) ({ cls := "WheelLandModel", name := "lot", desc := "(II)I" } : Jvm.MethodName)) ∈ lw_all := lw_g (lw_at lw_m7 177 rfl) rfl
theorem q1719 : (Jvm.Cond.methodLink "WheelLandLaw" (88 : Nat) ({ cls := "WheelLandModel", name := "pay", desc := "(III)I" } : Jvm.MethodName)) ∈ lw_all := lw_g (lw_at lw_m7 185 rfl) rfl
theorem q1727 : (Jvm.Cond.methodLink "WheelLandLaw" (92 : Nat) ({ cls := "WheelLandModel", name := "due", desc := "(II)I" } : Jvm.MethodName)) ∈ lw_all := lw_g (lw_at lw_m7 193 rfl) rfl
theorem q1734 : (Jvm.Cond.methodLink "WheelLandLaw" (96 : Nat) ({ cls := "WheelLandModel", name := "bar", desc := "(III)I" } : Jvm.MethodName)) ∈ lw_all := lw_g (lw_at lw_m7 200 rfl) rfl
theorem q1783 : (Jvm.Cond.methodLink "WheelLandLaw" (100 : Nat) ({ cls := "WheelLandModel", name := "weave", desc := "(III)I" } : Jvm.MethodName)) ∈ lw_all := lw_g (lw_at lw_m8 9 rfl) rfl
theorem q1787 : (Jvm.Cond.methodLink "WheelLandLaw" (104 : Nat) ({ cls := "WheelLandModel", name := "cloth", desc := "(II)I" } : Jvm.MethodName)) ∈ lw_all := lw_g (lw_at lw_m8 13 rfl) rfl
theorem q1795 : (Jvm.Cond.methodLink "WheelLandLaw" (108 : Nat) ({ cls := "WheelLandModel", name := "ask", desc := "(I)I" } : Jvm.MethodName)) ∈ lw_all := lw_g (lw_at lw_m8 21 rfl) rfl
theorem q1799 : (Jvm.Cond.methodLink "WheelLandLaw" (112 : Nat) ({ cls := "WheelLandModel", name := "clear", desc := "()I" } : Jvm.MethodName)) ∈ lw_all := lw_g (lw_at lw_m8 25 rfl) rfl
theorem q1803 : (Jvm.Cond.methodLink "WheelLandLaw" (116 : Nat) ({ cls := "WheelLandModel", name := "hands", desc := "(II)I" } : Jvm.MethodName)) ∈ lw_all := lw_g (lw_at lw_m8 29 rfl) rfl
theorem q1820 : (Jvm.Cond.methodLink "WheelLandLaw" (120 : Nat) ({ cls := "WheelLandModel", name := "bring", desc := "(II)I" } : Jvm.MethodName)) ∈ lw_all := lw_g (lw_at lw_m8 46 rfl) rfl
theorem q1824 : (Jvm.Cond.methodLink "WheelLandLaw" (124 : Nat) ({ cls := "WheelLandModel", name := "mill", desc := "(II)I" } : Jvm.MethodName)) ∈ lw_all := lw_g (lw_at lw_m8 50 rfl) rfl
theorem q1828 : (Jvm.Cond.methodLink "WheelLandLaw" (128 : Nat) ({ cls := "WheelLandModel", name := "price", desc := "(II)Z" } : Jvm.MethodName)) ∈ lw_all := lw_g (lw_at lw_m8 54 rfl) rfl
theorem q1833 : (Jvm.Cond.methodLink "WheelLandLaw" (132 : Nat) ({ cls := "WheelLandModel", name := "talk", desc := "(II)I" } : Jvm.MethodName)) ∈ lw_all := lw_g (lw_at lw_m8 59 rfl) rfl
theorem q1838 : (Jvm.Cond.methodLink "WheelLandLaw" (136 : Nat) ({ cls := "WheelLandModel", name := "heard", desc := "(II)I" } : Jvm.MethodName)) ∈ lw_all := lw_g (lw_at lw_m8 64 rfl) rfl
theorem q1842 : (Jvm.Cond.methodLink "WheelLandLaw" (140 : Nat) ({ cls := "WheelLandModel", name := "likes", desc := "(I)I" } : Jvm.MethodName)) ∈ lw_all := lw_g (lw_at lw_m8 68 rfl) rfl
theorem q1858 : (Jvm.Cond.methodLink "WheelLandLaw" (144 : Nat) ({ cls := "WheelLandModel", name := "sold", desc := "(II)I" } : Jvm.MethodName)) ∈ lw_all := lw_g (lw_at lw_m8 84 rfl) rfl
theorem q1862 : (Jvm.Cond.methodLink "WheelLandLaw" (149 : Nat) ({ cls := "WheelLandModel", name := "wrong", desc := "(IZ)I" } : Jvm.MethodName)) ∈ lw_all := lw_g (lw_at lw_m8 88 rfl) rfl
theorem q1870 : (Jvm.Cond.methodLink "WheelLandLaw" (153 : Nat) ({ cls := "WheelLandModel", name := "look", desc := "()I" } : Jvm.MethodName)) ∈ lw_all := lw_g (lw_at lw_m8 96 rfl) rfl
theorem q1874 : (Jvm.Cond.methodLink "WheelLandLaw" (53 : Nat) ({ cls := "WheelLandModel", name := "go", desc := "(I)I" } : Jvm.MethodName)) ∈ lw_all := lw_g (lw_at lw_m8 100 rfl) rfl
theorem q1912 : (Jvm.Cond.methodLink "WheelLandLaw" (157 : Nat) ({ cls := "WheelLandModel", name := "gift", desc := "(III)I" } : Jvm.MethodName)) ∈ lw_all := lw_g (lw_at lw_m8 138 rfl) rfl
theorem q1916 : (Jvm.Cond.methodLink "WheelLandLaw" (161 : Nat) ({ cls := "WheelLandModel", name := "forget", desc := "()I" } : Jvm.MethodName)) ∈ lw_all := lw_g (lw_at lw_m8 142 rfl) rfl
theorem q1920 : (Jvm.Cond.methodLink "WheelLandLaw" (165 : Nat) ({ cls := "WheelLandModel", name := "best", desc := "(II)I" } : Jvm.MethodName)) ∈ lw_all := lw_g (lw_at lw_m8 146 rfl) rfl
theorem q1932 : (Jvm.Cond.methodLink "WheelLandLaw" (169 : Nat) ({ cls := "WheelLandModel", name := "hungry", desc := "(I)I" } : Jvm.MethodName)) ∈ lw_all := lw_g (lw_at lw_m8 158 rfl) rfl
theorem q1936 : (Jvm.Cond.methodLink "WheelLandLaw" (173 : Nat) ({ cls := "WheelLandModel", name := "keeps", desc := "(II)I" } : Jvm.MethodName)) ∈ lw_all := lw_g (lw_at lw_m8 162 rfl) rfl
theorem q1940 : (Jvm.Cond.methodLink "WheelLandLaw" (177 : Nat) ({ cls := "WheelLandModel", name := "told", desc := "(II)I" } : Jvm.MethodName)) ∈ lw_all := lw_g (lw_at lw_m8 166 rfl) rfl
theorem q1945 : (Jvm.Cond.methodLink "WheelLandLaw" (181 : Nat) ({ cls := "WheelLandModel", name := "check", desc := "(III)I" } : Jvm.MethodName)) ∈ lw_all := lw_g (lw_at lw_m8 171 rfl) rfl
theorem q1949 : (Jvm.Cond.methodLink "WheelLandLaw" (185 : Nat) ({ cls := "WheelLandModel", name := "is", desc := "(II)I" } : Jvm.MethodName)) ∈ lw_all := lw_g (lw_at lw_m8 175 rfl) rfl
theorem q1953 : (Jvm.Cond.methodLink "WheelLandLaw" (189 : Nat) ({ cls := "WheelLandModel", name := "has", desc := "(II)I" } : Jvm.MethodName)) ∈ lw_all := lw_g (lw_at lw_m8 179 rfl) rfl
theorem q1957 : (Jvm.Cond.methodLink "WheelLandLaw" (193 : Nat) ({ cls := "WheelLandModel", name := "count", desc := "(I)I" } : Jvm.MethodName)) ∈ lw_all := lw_g (lw_at lw_m8 183 rfl) rfl
theorem q116 : (Jvm.Cond.initialized "java/lang/System") ∈ lw_all := lw_g (lw_at lw_m1 22 rfl) rfl
set_option maxRecDepth 100000
theorem q1012 : (Jvm.Cond.static ({ cls := "java/lang/System", name := "arraycopy", desc := "(Ljava/lang/Object;ILjava/lang/Object;II)V" } : Jvm.MethodName)) ∈ lw_all := lw_g (lw_at lw_m4 198 rfl) rfl
theorem q1013 : (Jvm.Cond.native ({ cls := "java/lang/System", name := "arraycopy", desc := "(Ljava/lang/Object;ILjava/lang/Object;II)V" } : Jvm.MethodName)) ∈ lw_all := lw_g (lw_at lw_m4 199 rfl) rfl
theorem q127 : (Jvm.Cond.arrayOver (Jvm.ClassFile.FieldType.object "WheelLand$Village")) ∈ lw_tbl := lw_at lw_m1 33 rfl
set_option maxRecDepth 100000
theorem q129 : (Jvm.Cond.arrayOver (Jvm.ClassFile.FieldType.object "WheelLand$House")) ∈ lw_tbl := lw_at lw_m1 35 rfl
theorem q131 : (Jvm.Cond.arrayOver (Jvm.ClassFile.FieldType.object "WheelLand$Lot")) ∈ lw_tbl := lw_at lw_m1 37 rfl
theorem q133 : (Jvm.Cond.arrayOver (Jvm.ClassFile.FieldType.object "WheelLand$Cloth")) ∈ lw_tbl := lw_at lw_m1 39 rfl
theorem q135 : (Jvm.Cond.arrayOver (Jvm.ClassFile.FieldType.object "WheelLand$Sheet")) ∈ lw_tbl := lw_at lw_m1 41 rfl
theorem q167 : (Jvm.Cond.arrayClass Jvm.ClassFile.FieldType.int) ∈ lw_all := lw_g (lw_at lw_m1 73 rfl) rfl
theorem q168 : (Jvm.Cond.arrayClass Jvm.ClassFile.FieldType.byte) ∈ lw_all := lw_g (lw_at lw_m1 74 rfl) rfl
theorem q743 : (Jvm.Cond.arrayOver (Jvm.ClassFile.FieldType.object "WheelLand$Steps")) ∈ lw_tbl := lw_at lw_m3 169 rfl
theorem q1222 : (Jvm.Cond.arrayOver (Jvm.ClassFile.FieldType.array Jvm.ClassFile.FieldType.int)) ∈ lw_tbl := lw_at lw_m5 168 rfl
theorem q1224 : (Jvm.Cond.arrayOver (Jvm.ClassFile.FieldType.array (Jvm.ClassFile.FieldType.array Jvm.ClassFile.FieldType.int))) ∈ lw_tbl := lw_at lw_m5 170 rfl
theorem q1226 : (Jvm.Cond.arrayOver (Jvm.ClassFile.FieldType.object "java/lang/String")) ∈ lw_tbl := lw_at lw_m5 172 rfl
theorem q1246 : (Jvm.Cond.arrayOver (Jvm.ClassFile.FieldType.array Jvm.ClassFile.FieldType.boolean)) ∈ lw_tbl := lw_at lw_m5 192 rfl
theorem q1539 : (Jvm.Cond.arrayClass Jvm.ClassFile.FieldType.long) ∈ lw_all := lw_g (lw_at lw_m7 5 rfl) rfl
theorem q1540 : (Jvm.Cond.arrayClass Jvm.ClassFile.FieldType.boolean) ∈ lw_all := lw_g (lw_at lw_m7 6 rfl) rfl
