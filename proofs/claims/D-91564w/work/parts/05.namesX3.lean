/-! WheelLandModel -/
set_option maxRecDepth 100000
def RX3 : String := "WheelLandModel"
def TX3 : u_T := fun k => match k with
  | 0 => ("WheelLandModel", "now", "I", false)
  | 1 => ("WheelLandModel", "villages", "I", false)
  | 2 => ("WheelLandModel", "houses", "I", false)
  | 3 => ("WheelLandModel", "idle", "[[I", true)
  | 4 => ("WheelLandModel", "days", "[[I", true)
  | 5 => ("WheelLandModel", "millAt", "[[I", true)
  | 6 => ("WheelLandModel", "staple", "[I", true)
  | 7 => ("WheelLandModel", "cotton", "[I", true)
  | 8 => ("WheelLandModel", "stamped", "[I", true)
  | 9 => ("WheelLandModel", "plain", "[I", true)
  | 10 => ("WheelLandModel", "milled", "[I", true)
  | 11 => ("WheelLandModel", "handPrice", "[I", true)
  | 12 => ("WheelLandModel", "millPrice", "[I", true)
  | 13 => ("WheelLandModel", "word", "[I", true)
  | 14 => ("WheelLandModel", "takings", "[I", true)
  | 15 => ("WheelLandModel", "said", "[I", true)
  | 16 => ("WheelLandModel", "everStamped", "[I", true)
  | 17 => ("WheelLandModel", "soldStamped", "[I", true)
  | 18 => ("WheelLandModel", "soldMill", "[I", true)
  | 19 => ("WheelLandModel", "soldAhead", "[I", true)
  | 20 => ("WheelLandModel", "villageOf", "[I", true)
  | 21 => ("WheelLandModel", "wheels", "[I", true)
  | 22 => ("WheelLandModel", "skill", "[I", true)
  | 23 => ("WheelLandModel", "caste", "[I", true)
  | 24 => ("WheelLandModel", "heads", "[I", true)
  | 25 => ("WheelLandModel", "purse", "[I", true)
  | 26 => ("WheelLandModel", "aim", "[I", true)
  | 27 => ("WheelLandModel", "bare", "[I", true)
  | 28 => ("WheelLandModel", "boughtHand", "[I", true)
  | 29 => ("WheelLandModel", "boughtMill", "[I", true)
  | 30 => ("WheelLandModel", "loomFrom", "[I", true)
  | 31 => ("WheelLandModel", "loomTo", "[I", true)
  | 32 => ("WheelLandModel", "loomCan", "[I", true)
  | 33 => ("WheelLandModel", "loomUsed", "[I", true)
  | 34 => ("WheelLandModel", "owes", "[J", true)
  | 35 => ("WheelLandModel", "paid", "[I", true)
  | 36 => ("WheelLandModel", "can", "[I", true)
  | 37 => ("WheelLandModel", "maybe", "[I", true)
  | 38 => ("WheelLandModel", "crown", "I", false)
  | 39 => ("WheelLandModel", "way", "[I", true)
  | 40 => ("WheelLandModel", "text", "[B", true)
  | 41 => ("WheelLandModel", "textMany", "I", false)
  | 42 => ("WheelLandModel", "at", "I", false)
  | 43 => ("WheelLandModel", "end0", "I", false)
  | 44 => ("WheelLandModel", "faultAt", "I", false)
  | 45 => ("WheelLandModel", "codeMany", "I", false)
  | 46 => ("WheelLandModel", "value0", "I", false)
  | 47 => ("WheelLandModel", "clause", "I", false)
  | 48 => ("WheelLandModel", "codes", "[[[I", true)
  | 49 => ("WheelLandModel", "codeLong", "[[I", true)
  | 50 => ("WheelLandModel", "forceSheet", "[I", true)
  | 51 => ("WheelLandModel", "forceFrom", "[I", true)
  | 52 => ("WheelLandModel", "sheets", "I", false)
  | 53 => ("WheelLandModel", "forces", "I", false)
  | 54 => ("WheelLandModel", "clauseWords", "[Ljava/lang/String;", true)
  | 55 => ("WheelLandModel", "nameWords", "[Ljava/lang/String;", true)
  | 56 => ("WheelLandModel", "names", "[I", true)
  | 57 => ("WheelLandModel", "stack", "[I", true)
  | 58 => ("WheelLandModel", "lotHouse", "[I", true)
  | 59 => ("WheelLandModel", "lotWeek", "[I", true)
  | 60 => ("WheelLandModel", "lotCount", "[I", true)
  | 61 => ("WheelLandModel", "lotStrength", "[I", true)
  | 62 => ("WheelLandModel", "lotHanks", "[I", true)
  | 63 => ("WheelLandModel", "lotLeft", "[I", true)
  | 64 => ("WheelLandModel", "lots", "I", false)
  | 65 => ("WheelLandModel", "spun", "[I", true)
  | 66 => ("WheelLandModel", "cottonLeft", "[I", true)
  | 67 => ("WheelLandModel", "wheelsNow", "[I", true)
  | 68 => ("WheelLandModel", "skillNow", "[I", true)
  | 69 => ("WheelLandModel", "paidAll", "I", false)
  | 70 => ("WheelLandModel", "wovenAll", "I", false)
  | 71 => ("WheelLandModel", "spunAll", "I", false)
  | 72 => ("WheelLandModel", "clothLot", "[I", true)
  | 73 => ("WheelLandModel", "clothBy", "[I", true)
  | 74 => ("WheelLandModel", "clothWeek", "[I", true)
  | 75 => ("WheelLandModel", "clothYards", "[I", true)
  | 76 => ("WheelLandModel", "clothTo", "[I", true)
  | 77 => ("WheelLandModel", "isStamped", "[Z", true)
  | 78 => ("WheelLandModel", "cloths", "I", false)
  | 79 => ("WheelLandModel", "asked", "[I", true)
  | 80 => ("WheelLandModel", "many", "[I", true)
  | 81 => ("WheelLandModel", "loomHouse", "[I", true)
  | 82 => ("WheelLandModel", "line", "[I", true)
  | 83 => ("WheelLandModel", "bestLine", "[I", true)
  | 84 => ("WheelLandModel", "may", "[[Z", true)
  | 85 => ("WheelLandModel", "far", "[[I", true)
  | 86 => ("WheelLandModel", "askedMany", "I", false)
  | 87 => ("WheelLandModel", "loomMany", "I", false)
  | 88 => ("WheelLandModel", "bestHanks", "I", false)
  | 89 => ("WheelLandModel", "bestDays", "I", false)
  | 90 => ("WheelLandModel", "bestWeeks", "I", false)
  | 91 => ("WheelLandModel", "numbers", "[[I", true)
  | 92 => ("WheelLandModel", "words", "[I", true)
  | 93 => ("WheelLandModel", "giftPrice", "[I", true)
  | 94 => ("WheelLandModel", "giftHouse", "[I", true)
  | 95 => ("WheelLandModel", "giftKind", "[I", true)
  | _ => ("WheelLandModel", "gifts", "I", false)
def tyX3 : Nat → FieldType := fun k => match k with
  | 0 => .int
  | 1 => .int
  | 2 => .int
  | 3 => .array (.array .int)
  | 4 => .array (.array .int)
  | 5 => .array (.array .int)
  | 6 => .array .int
  | 7 => .array .int
  | 8 => .array .int
  | 9 => .array .int
  | 10 => .array .int
  | 11 => .array .int
  | 12 => .array .int
  | 13 => .array .int
  | 14 => .array .int
  | 15 => .array .int
  | 16 => .array .int
  | 17 => .array .int
  | 18 => .array .int
  | 19 => .array .int
  | 20 => .array .int
  | 21 => .array .int
  | 22 => .array .int
  | 23 => .array .int
  | 24 => .array .int
  | 25 => .array .int
  | 26 => .array .int
  | 27 => .array .int
  | 28 => .array .int
  | 29 => .array .int
  | 30 => .array .int
  | 31 => .array .int
  | 32 => .array .int
  | 33 => .array .int
  | 34 => .array .long
  | 35 => .array .int
  | 36 => .array .int
  | 37 => .array .int
  | 38 => .int
  | 39 => .array .int
  | 40 => .array .byte
  | 41 => .int
  | 42 => .int
  | 43 => .int
  | 44 => .int
  | 45 => .int
  | 46 => .int
  | 47 => .int
  | 48 => .array (.array (.array .int))
  | 49 => .array (.array .int)
  | 50 => .array .int
  | 51 => .array .int
  | 52 => .int
  | 53 => .int
  | 54 => .array (.object "java/lang/String")
  | 55 => .array (.object "java/lang/String")
  | 56 => .array .int
  | 57 => .array .int
  | 58 => .array .int
  | 59 => .array .int
  | 60 => .array .int
  | 61 => .array .int
  | 62 => .array .int
  | 63 => .array .int
  | 64 => .int
  | 65 => .array .int
  | 66 => .array .int
  | 67 => .array .int
  | 68 => .array .int
  | 69 => .int
  | 70 => .int
  | 71 => .int
  | 72 => .array .int
  | 73 => .array .int
  | 74 => .array .int
  | 75 => .array .int
  | 76 => .array .int
  | 77 => .array .boolean
  | 78 => .int
  | 79 => .array .int
  | 80 => .array .int
  | 81 => .array .int
  | 82 => .array .int
  | 83 => .array .int
  | 84 => .array (.array .boolean)
  | 85 => .array (.array .int)
  | 86 => .int
  | 87 => .int
  | 88 => .int
  | 89 => .int
  | 90 => .int
  | 91 => .array (.array .int)
  | 92 => .array .int
  | 93 => .array .int
  | 94 => .array .int
  | 95 => .array .int
  | _ => .int
abbrev wsX30 : List Cond := u_ws RX3 TX3 97
set_option maxRecDepth 100000 in
theorem nmX3 : ∀ a, a < 97 → ∀ b, b < 97 → a ≠ b → (TX3 a).2.1 ≠ (TX3 b).2.1 := by decide +kernel
set_option maxRecDepth 100000 in
theorem tyX3_ok : ∀ k, k < 97 → parseFieldDescriptor (TX3 k).2.2.1 = some (tyX3 k) := by decide +kernel
abbrev cX3_init : ByteArray := prog_14_method_1_code
def yX3_init : MethodName := ⟨RX3, "<init>", "()V"⟩
def dkwX3_init_31 : List UInt8 := [188, 10, 181, 1, 11, 177]
abbrev dktX3_init_31 : List UInt8 := dkwX3_init_31 ++ []
def dkwX3_init_30 : List UInt8 := [188, 10, 181, 1, 2, 42, 16, 8, 188, 10, 181, 1, 5, 42, 16, 8, 188, 10, 181, 1, 8, 42, 16, 8]
abbrev dktX3_init_30 : List UInt8 := dkwX3_init_30 ++ dktX3_init_31
def dkwX3_init_29 : List UInt8 := [197, 0, 9, 2, 181, 0, 253, 42, 17, 0, 156, 16, 6, 197, 0, 9, 2, 181, 0, 255, 42, 16, 8]
abbrev dktX3_init_29 : List UInt8 := dkwX3_init_29 ++ dktX3_init_30
def dkwX3_init_28 : List UInt8 := [188, 10, 181, 0, 246, 42, 16, 6, 16, 6, 197, 0, 249, 2, 181, 0, 251, 42, 16, 6, 16, 6]
abbrev dktX3_init_28 : List UInt8 := dkwX3_init_28 ++ dktX3_init_29
def dkwX3_init_27 : List UInt8 := [188, 10, 181, 0, 237, 42, 16, 6, 188, 10, 181, 0, 240, 42, 16, 6, 188, 10, 181, 0, 243, 42, 16, 6]
abbrev dktX3_init_27 : List UInt8 := dkwX3_init_27 ++ dktX3_init_28
def dkwX3_init_26 : List UInt8 := [181, 0, 227, 42, 17, 0, 200, 188, 4, 181, 0, 230, 42, 16, 6, 188, 10, 181, 0, 234, 42, 16, 6]
abbrev dktX3_init_26 : List UInt8 := dkwX3_init_26 ++ dktX3_init_27
def dkwX3_init_25 : List UInt8 := [17, 0, 200, 188, 10, 181, 0, 221, 42, 17, 0, 200, 188, 10, 181, 0, 224, 42, 17, 0, 200, 188, 10]
abbrev dktX3_init_25 : List UInt8 := dkwX3_init_25 ++ dktX3_init_26
def dkwX3_init_24 : List UInt8 := [188, 10, 181, 0, 212, 42, 17, 0, 200, 188, 10, 181, 0, 215, 42, 17, 0, 200, 188, 10, 181, 0, 218, 42]
abbrev dktX3_init_24 : List UInt8 := dkwX3_init_24 ++ dktX3_init_25
def dkwX3_init_23 : List UInt8 := [188, 10, 181, 0, 203, 42, 16, 8, 188, 10, 181, 0, 206, 42, 16, 20, 188, 10, 181, 0, 209, 42, 16, 20]
abbrev dktX3_init_23 : List UInt8 := dkwX3_init_23 ++ dktX3_init_24
def dkwX3_init_22 : List UInt8 := [181, 0, 194, 42, 17, 1, 44, 188, 10, 181, 0, 197, 42, 17, 1, 44, 188, 10, 181, 0, 200, 42, 16, 20]
abbrev dktX3_init_22 : List UInt8 := dkwX3_init_22 ++ dktX3_init_23
def dkwX3_init_21 : List UInt8 := [17, 1, 44, 188, 10, 181, 0, 188, 42, 17, 1, 44, 188, 10, 181, 0, 191, 42, 17, 1, 44, 188, 10]
abbrev dktX3_init_21 : List UInt8 := dkwX3_init_21 ++ dktX3_init_22
def dkwX3_init_20 : List UInt8 := [181, 0, 179, 42, 17, 1, 164, 188, 10, 181, 0, 182, 42, 17, 1, 44, 188, 10, 181, 0, 185, 42]
abbrev dktX3_init_20 : List UInt8 := dkwX3_init_20 ++ dktX3_init_21
def dkwX3_init_19 : List UInt8 := [18, 171, 83, 89, 16, 11, 18, 172, 83, 89, 16, 12, 18, 174, 83, 181, 0, 176, 42, 16, 13, 188, 10]
abbrev dktX3_init_19 : List UInt8 := dkwX3_init_19 ++ dktX3_init_20
def dkwX3_init_18 : List UInt8 := [18, 163, 83, 89, 16, 7, 18, 165, 83, 89, 16, 8, 18, 167, 83, 89, 16, 9, 18, 169, 83, 89, 16, 10]
abbrev dktX3_init_18 : List UInt8 := dkwX3_init_18 ++ dktX3_init_19
def dkwX3_init_17 : List UInt8 := [89, 5, 18, 159, 83, 89, 6, 18, 160, 83, 89, 7, 18, 161, 83, 89, 8, 18, 162, 83, 89, 16, 6]
abbrev dktX3_init_17 : List UInt8 := dkwX3_init_17 ++ dktX3_init_18
def dkwX3_init_16 : List UInt8 := [89, 7, 18, 149, 83, 181, 0, 151, 42, 16, 13, 189, 0, 139, 89, 3, 18, 155, 83, 89, 4, 18, 157, 83]
abbrev dktX3_init_16 : List UInt8 := dkwX3_init_16 ++ dktX3_init_17
def dkwX3_init_15 : List UInt8 := [8, 189, 0, 139, 89, 3, 18, 141, 83, 89, 4, 18, 143, 83, 89, 5, 18, 145, 83, 89, 6, 18, 147, 83]
abbrev dktX3_init_15 : List UInt8 := dkwX3_init_15 ++ dktX3_init_16
def dkwX3_init_14 : List UInt8 := [197, 0, 9, 2, 181, 0, 130, 42, 16, 12, 188, 10, 181, 0, 133, 42, 16, 12, 188, 10, 181, 0, 136, 42]
abbrev dktX3_init_14 : List UInt8 := dkwX3_init_14 ++ dktX3_init_15
def dkwX3_init_13 : List UInt8 := [181, 0, 121, 42, 16, 9, 8, 17, 3, 72, 197, 0, 125, 3, 181, 0, 127, 42, 16, 9, 8]
abbrev dktX3_init_13 : List UInt8 := dkwX3_init_13 ++ dktX3_init_14
def dkwX3_init_12 : List UInt8 := [42, 16, 20, 188, 10, 181, 0, 115, 42, 16, 8, 188, 10, 181, 0, 118, 42, 17, 1, 144, 188, 8]
abbrev dktX3_init_12 : List UInt8 := dkwX3_init_12 ++ dktX3_init_13
def dkwX3_init_11 : List UInt8 := [42, 16, 20, 188, 11, 181, 0, 105, 42, 16, 20, 188, 10, 181, 0, 109, 42, 16, 20, 188, 10, 181, 0, 112]
abbrev dktX3_init_11 : List UInt8 := dkwX3_init_11 ++ dktX3_init_12
def dkwX3_init_10 : List UInt8 := [42, 16, 20, 188, 10, 181, 0, 96, 42, 16, 20, 188, 10, 181, 0, 99, 42, 16, 20, 188, 10, 181, 0, 102]
abbrev dktX3_init_10 : List UInt8 := dkwX3_init_10 ++ dktX3_init_11
def dkwX3_init_9 : List UInt8 := [42, 16, 20, 188, 10, 181, 0, 87, 42, 16, 20, 188, 10, 181, 0, 90, 42, 16, 20, 188, 10, 181, 0, 93]
abbrev dktX3_init_9 : List UInt8 := dkwX3_init_9 ++ dktX3_init_10
def dkwX3_init_8 : List UInt8 := [42, 16, 20, 188, 10, 181, 0, 78, 42, 16, 20, 188, 10, 181, 0, 81, 42, 16, 20, 188, 10, 181, 0, 84]
abbrev dktX3_init_8 : List UInt8 := dkwX3_init_8 ++ dktX3_init_9
def dkwX3_init_7 : List UInt8 := [42, 16, 20, 188, 10, 181, 0, 69, 42, 16, 20, 188, 10, 181, 0, 72, 42, 16, 20, 188, 10, 181, 0, 75]
abbrev dktX3_init_7 : List UInt8 := dkwX3_init_7 ++ dktX3_init_8
def dkwX3_init_6 : List UInt8 := [42, 16, 8, 188, 10, 181, 0, 60, 42, 16, 20, 188, 10, 181, 0, 63, 42, 16, 20, 188, 10, 181, 0, 66]
abbrev dktX3_init_6 : List UInt8 := dkwX3_init_6 ++ dktX3_init_7
def dkwX3_init_5 : List UInt8 := [42, 16, 8, 188, 10, 181, 0, 51, 42, 16, 8, 188, 10, 181, 0, 54, 42, 16, 8, 188, 10, 181, 0, 57]
abbrev dktX3_init_5 : List UInt8 := dkwX3_init_5 ++ dktX3_init_6
def dkwX3_init_4 : List UInt8 := [42, 16, 8, 188, 10, 181, 0, 42, 42, 16, 8, 188, 10, 181, 0, 45, 42, 16, 8, 188, 10, 181, 0, 48]
abbrev dktX3_init_4 : List UInt8 := dkwX3_init_4 ++ dktX3_init_5
def dkwX3_init_3 : List UInt8 := [42, 16, 8, 188, 10, 181, 0, 33, 42, 16, 8, 188, 10, 181, 0, 36, 42, 16, 8, 188, 10, 181, 0, 39]
abbrev dktX3_init_3 : List UInt8 := dkwX3_init_3 ++ dktX3_init_4
def dkwX3_init_2 : List UInt8 := [42, 16, 8, 188, 10, 181, 0, 24, 42, 16, 8, 188, 10, 181, 0, 27, 42, 16, 8, 188, 10, 181, 0, 30]
abbrev dktX3_init_2 : List UInt8 := dkwX3_init_2 ++ dktX3_init_3
def dkwX3_init_1 : List UInt8 := [181, 0, 14, 42, 16, 8, 17, 0, 157, 197, 0, 9, 2, 181, 0, 17, 42, 16, 8, 188, 10, 181, 0, 20]
abbrev dktX3_init_1 : List UInt8 := dkwX3_init_1 ++ dktX3_init_2
def dkwX3_init_0 : List UInt8 := [42, 183, 0, 1, 42, 16, 8, 7, 197, 0, 9, 2, 181, 0, 11, 42, 16, 8, 16, 8, 197, 0, 9, 2]
abbrev dktX3_init_0 : List UInt8 := dkwX3_init_0 ++ dktX3_init_1
theorem dksX3_init_0 : cX3_init.data.toList.drop 0 = dktX3_init_0 := by decide +kernel
theorem dksX3_init_1 : cX3_init.data.toList.drop 24 = dktX3_init_1 := dk_seg dksX3_init_0 24 rfl rfl
theorem dksX3_init_2 : cX3_init.data.toList.drop 48 = dktX3_init_2 := dk_seg dksX3_init_1 24 rfl rfl
theorem dksX3_init_3 : cX3_init.data.toList.drop 72 = dktX3_init_3 := dk_seg dksX3_init_2 24 rfl rfl
theorem dksX3_init_4 : cX3_init.data.toList.drop 96 = dktX3_init_4 := dk_seg dksX3_init_3 24 rfl rfl
theorem dksX3_init_5 : cX3_init.data.toList.drop 120 = dktX3_init_5 := dk_seg dksX3_init_4 24 rfl rfl
theorem dksX3_init_6 : cX3_init.data.toList.drop 144 = dktX3_init_6 := dk_seg dksX3_init_5 24 rfl rfl
theorem dksX3_init_7 : cX3_init.data.toList.drop 168 = dktX3_init_7 := dk_seg dksX3_init_6 24 rfl rfl
theorem dksX3_init_8 : cX3_init.data.toList.drop 192 = dktX3_init_8 := dk_seg dksX3_init_7 24 rfl rfl
theorem dksX3_init_9 : cX3_init.data.toList.drop 216 = dktX3_init_9 := dk_seg dksX3_init_8 24 rfl rfl
theorem dksX3_init_10 : cX3_init.data.toList.drop 240 = dktX3_init_10 := dk_seg dksX3_init_9 24 rfl rfl
theorem dksX3_init_11 : cX3_init.data.toList.drop 264 = dktX3_init_11 := dk_seg dksX3_init_10 24 rfl rfl
theorem dksX3_init_12 : cX3_init.data.toList.drop 288 = dktX3_init_12 := dk_seg dksX3_init_11 24 rfl rfl
theorem dksX3_init_13 : cX3_init.data.toList.drop 310 = dktX3_init_13 := dk_seg dksX3_init_12 22 rfl rfl
theorem dksX3_init_14 : cX3_init.data.toList.drop 331 = dktX3_init_14 := dk_seg dksX3_init_13 21 rfl rfl
theorem dksX3_init_15 : cX3_init.data.toList.drop 355 = dktX3_init_15 := dk_seg dksX3_init_14 24 rfl rfl
theorem dksX3_init_16 : cX3_init.data.toList.drop 379 = dktX3_init_16 := dk_seg dksX3_init_15 24 rfl rfl
theorem dksX3_init_17 : cX3_init.data.toList.drop 403 = dktX3_init_17 := dk_seg dksX3_init_16 24 rfl rfl
theorem dksX3_init_18 : cX3_init.data.toList.drop 426 = dktX3_init_18 := dk_seg dksX3_init_17 23 rfl rfl
theorem dksX3_init_19 : cX3_init.data.toList.drop 450 = dktX3_init_19 := dk_seg dksX3_init_18 24 rfl rfl
theorem dksX3_init_20 : cX3_init.data.toList.drop 473 = dktX3_init_20 := dk_seg dksX3_init_19 23 rfl rfl
theorem dksX3_init_21 : cX3_init.data.toList.drop 495 = dktX3_init_21 := dk_seg dksX3_init_20 22 rfl rfl
theorem dksX3_init_22 : cX3_init.data.toList.drop 518 = dktX3_init_22 := dk_seg dksX3_init_21 23 rfl rfl
theorem dksX3_init_23 : cX3_init.data.toList.drop 542 = dktX3_init_23 := dk_seg dksX3_init_22 24 rfl rfl
theorem dksX3_init_24 : cX3_init.data.toList.drop 566 = dktX3_init_24 := dk_seg dksX3_init_23 24 rfl rfl
theorem dksX3_init_25 : cX3_init.data.toList.drop 590 = dktX3_init_25 := dk_seg dksX3_init_24 24 rfl rfl
theorem dksX3_init_26 : cX3_init.data.toList.drop 613 = dktX3_init_26 := dk_seg dksX3_init_25 23 rfl rfl
theorem dksX3_init_27 : cX3_init.data.toList.drop 636 = dktX3_init_27 := dk_seg dksX3_init_26 23 rfl rfl
theorem dksX3_init_28 : cX3_init.data.toList.drop 660 = dktX3_init_28 := dk_seg dksX3_init_27 24 rfl rfl
theorem dksX3_init_29 : cX3_init.data.toList.drop 682 = dktX3_init_29 := dk_seg dksX3_init_28 22 rfl rfl
theorem dksX3_init_30 : cX3_init.data.toList.drop 705 = dktX3_init_30 := dk_seg dksX3_init_29 23 rfl rfl
theorem dksX3_init_31 : cX3_init.data.toList.drop 729 = dktX3_init_31 := dk_seg dksX3_init_30 24 rfl rfl
theorem dX3_init_0 : decode cX3_init 0 = .ok (.aload_n 0, 1) := dk_42 (dk_at dksX3_init_0 0 rfl rfl)
theorem dX3_init_1 : decode cX3_init 1 = .ok (.invokespecial 1, 3) := dk_183 0 1 (dk_at dksX3_init_0 1 rfl rfl)
theorem dX3_init_4 : decode cX3_init 4 = .ok (.aload_n 0, 1) := dk_42 (dk_at dksX3_init_0 4 rfl rfl)
theorem dX3_init_5 : decode cX3_init 5 = .ok (.bipush 8, 2) := dk_16 8 (dk_at dksX3_init_0 5 rfl rfl)
theorem dX3_init_7 : decode cX3_init 7 = .ok (.iconst 4, 1) := dk_7 (dk_at dksX3_init_0 7 rfl rfl)
theorem dX3_init_8 : decode cX3_init 8 = .ok (.multianewarray 9 2, 4) := by decide +kernel
theorem dX3_init_12 : decode cX3_init 12 = .ok (.putfield 11, 3) := dk_181 0 11 (dk_at dksX3_init_0 12 rfl rfl)
theorem dX3_init_15 : decode cX3_init 15 = .ok (.aload_n 0, 1) := dk_42 (dk_at dksX3_init_0 15 rfl rfl)
theorem dX3_init_16 : decode cX3_init 16 = .ok (.bipush 8, 2) := dk_16 8 (dk_at dksX3_init_0 16 rfl rfl)
theorem dX3_init_18 : decode cX3_init 18 = .ok (.bipush 8, 2) := dk_16 8 (dk_at dksX3_init_0 18 rfl rfl)
theorem dX3_init_20 : decode cX3_init 20 = .ok (.multianewarray 9 2, 4) := by decide +kernel
theorem dX3_init_24 : decode cX3_init 24 = .ok (.putfield 14, 3) := dk_181 0 14 (dk_at dksX3_init_1 0 rfl rfl)
theorem dX3_init_27 : decode cX3_init 27 = .ok (.aload_n 0, 1) := dk_42 (dk_at dksX3_init_1 3 rfl rfl)
theorem dX3_init_28 : decode cX3_init 28 = .ok (.bipush 8, 2) := dk_16 8 (dk_at dksX3_init_1 4 rfl rfl)
theorem dX3_init_30 : decode cX3_init 30 = .ok (.sipush 157, 3) := dk_17 0 157 (dk_at dksX3_init_1 6 rfl rfl)
theorem dX3_init_33 : decode cX3_init 33 = .ok (.multianewarray 9 2, 4) := by decide +kernel
theorem dX3_init_37 : decode cX3_init 37 = .ok (.putfield 17, 3) := dk_181 0 17 (dk_at dksX3_init_1 13 rfl rfl)
theorem dX3_init_40 : decode cX3_init 40 = .ok (.aload_n 0, 1) := dk_42 (dk_at dksX3_init_1 16 rfl rfl)
theorem dX3_init_41 : decode cX3_init 41 = .ok (.bipush 8, 2) := dk_16 8 (dk_at dksX3_init_1 17 rfl rfl)
theorem dX3_init_43 : decode cX3_init 43 = .ok (.newarray .int, 2) := dk_188_10 (dk_at dksX3_init_1 19 rfl rfl)
theorem dX3_init_45 : decode cX3_init 45 = .ok (.putfield 20, 3) := dk_181 0 20 (dk_at dksX3_init_1 21 rfl rfl)
theorem dX3_init_48 : decode cX3_init 48 = .ok (.aload_n 0, 1) := dk_42 (dk_at dksX3_init_2 0 rfl rfl)
theorem dX3_init_49 : decode cX3_init 49 = .ok (.bipush 8, 2) := dk_16 8 (dk_at dksX3_init_2 1 rfl rfl)
theorem dX3_init_51 : decode cX3_init 51 = .ok (.newarray .int, 2) := dk_188_10 (dk_at dksX3_init_2 3 rfl rfl)
theorem dX3_init_53 : decode cX3_init 53 = .ok (.putfield 24, 3) := dk_181 0 24 (dk_at dksX3_init_2 5 rfl rfl)
theorem dX3_init_56 : decode cX3_init 56 = .ok (.aload_n 0, 1) := dk_42 (dk_at dksX3_init_2 8 rfl rfl)
theorem dX3_init_57 : decode cX3_init 57 = .ok (.bipush 8, 2) := dk_16 8 (dk_at dksX3_init_2 9 rfl rfl)
theorem dX3_init_59 : decode cX3_init 59 = .ok (.newarray .int, 2) := dk_188_10 (dk_at dksX3_init_2 11 rfl rfl)
theorem dX3_init_61 : decode cX3_init 61 = .ok (.putfield 27, 3) := dk_181 0 27 (dk_at dksX3_init_2 13 rfl rfl)
theorem dX3_init_64 : decode cX3_init 64 = .ok (.aload_n 0, 1) := dk_42 (dk_at dksX3_init_2 16 rfl rfl)
theorem dX3_init_65 : decode cX3_init 65 = .ok (.bipush 8, 2) := dk_16 8 (dk_at dksX3_init_2 17 rfl rfl)
theorem dX3_init_67 : decode cX3_init 67 = .ok (.newarray .int, 2) := dk_188_10 (dk_at dksX3_init_2 19 rfl rfl)
theorem dX3_init_69 : decode cX3_init 69 = .ok (.putfield 30, 3) := dk_181 0 30 (dk_at dksX3_init_2 21 rfl rfl)
theorem dX3_init_72 : decode cX3_init 72 = .ok (.aload_n 0, 1) := dk_42 (dk_at dksX3_init_3 0 rfl rfl)
theorem dX3_init_73 : decode cX3_init 73 = .ok (.bipush 8, 2) := dk_16 8 (dk_at dksX3_init_3 1 rfl rfl)
theorem dX3_init_75 : decode cX3_init 75 = .ok (.newarray .int, 2) := dk_188_10 (dk_at dksX3_init_3 3 rfl rfl)
theorem dX3_init_77 : decode cX3_init 77 = .ok (.putfield 33, 3) := dk_181 0 33 (dk_at dksX3_init_3 5 rfl rfl)
theorem dX3_init_80 : decode cX3_init 80 = .ok (.aload_n 0, 1) := dk_42 (dk_at dksX3_init_3 8 rfl rfl)
theorem dX3_init_81 : decode cX3_init 81 = .ok (.bipush 8, 2) := dk_16 8 (dk_at dksX3_init_3 9 rfl rfl)
theorem dX3_init_83 : decode cX3_init 83 = .ok (.newarray .int, 2) := dk_188_10 (dk_at dksX3_init_3 11 rfl rfl)
theorem dX3_init_85 : decode cX3_init 85 = .ok (.putfield 36, 3) := dk_181 0 36 (dk_at dksX3_init_3 13 rfl rfl)
theorem dX3_init_88 : decode cX3_init 88 = .ok (.aload_n 0, 1) := dk_42 (dk_at dksX3_init_3 16 rfl rfl)
theorem dX3_init_89 : decode cX3_init 89 = .ok (.bipush 8, 2) := dk_16 8 (dk_at dksX3_init_3 17 rfl rfl)
theorem dX3_init_91 : decode cX3_init 91 = .ok (.newarray .int, 2) := dk_188_10 (dk_at dksX3_init_3 19 rfl rfl)
theorem dX3_init_93 : decode cX3_init 93 = .ok (.putfield 39, 3) := dk_181 0 39 (dk_at dksX3_init_3 21 rfl rfl)
theorem dX3_init_96 : decode cX3_init 96 = .ok (.aload_n 0, 1) := dk_42 (dk_at dksX3_init_4 0 rfl rfl)
theorem dX3_init_97 : decode cX3_init 97 = .ok (.bipush 8, 2) := dk_16 8 (dk_at dksX3_init_4 1 rfl rfl)
theorem dX3_init_99 : decode cX3_init 99 = .ok (.newarray .int, 2) := dk_188_10 (dk_at dksX3_init_4 3 rfl rfl)
theorem dX3_init_101 : decode cX3_init 101 = .ok (.putfield 42, 3) := dk_181 0 42 (dk_at dksX3_init_4 5 rfl rfl)
theorem dX3_init_104 : decode cX3_init 104 = .ok (.aload_n 0, 1) := dk_42 (dk_at dksX3_init_4 8 rfl rfl)
theorem dX3_init_105 : decode cX3_init 105 = .ok (.bipush 8, 2) := dk_16 8 (dk_at dksX3_init_4 9 rfl rfl)
theorem dX3_init_107 : decode cX3_init 107 = .ok (.newarray .int, 2) := dk_188_10 (dk_at dksX3_init_4 11 rfl rfl)
theorem dX3_init_109 : decode cX3_init 109 = .ok (.putfield 45, 3) := dk_181 0 45 (dk_at dksX3_init_4 13 rfl rfl)
theorem dX3_init_112 : decode cX3_init 112 = .ok (.aload_n 0, 1) := dk_42 (dk_at dksX3_init_4 16 rfl rfl)
theorem dX3_init_113 : decode cX3_init 113 = .ok (.bipush 8, 2) := dk_16 8 (dk_at dksX3_init_4 17 rfl rfl)
theorem dX3_init_115 : decode cX3_init 115 = .ok (.newarray .int, 2) := dk_188_10 (dk_at dksX3_init_4 19 rfl rfl)
theorem dX3_init_117 : decode cX3_init 117 = .ok (.putfield 48, 3) := dk_181 0 48 (dk_at dksX3_init_4 21 rfl rfl)
theorem dX3_init_120 : decode cX3_init 120 = .ok (.aload_n 0, 1) := dk_42 (dk_at dksX3_init_5 0 rfl rfl)
theorem dX3_init_121 : decode cX3_init 121 = .ok (.bipush 8, 2) := dk_16 8 (dk_at dksX3_init_5 1 rfl rfl)
theorem dX3_init_123 : decode cX3_init 123 = .ok (.newarray .int, 2) := dk_188_10 (dk_at dksX3_init_5 3 rfl rfl)
theorem dX3_init_125 : decode cX3_init 125 = .ok (.putfield 51, 3) := dk_181 0 51 (dk_at dksX3_init_5 5 rfl rfl)
theorem dX3_init_128 : decode cX3_init 128 = .ok (.aload_n 0, 1) := dk_42 (dk_at dksX3_init_5 8 rfl rfl)
theorem dX3_init_129 : decode cX3_init 129 = .ok (.bipush 8, 2) := dk_16 8 (dk_at dksX3_init_5 9 rfl rfl)
theorem dX3_init_131 : decode cX3_init 131 = .ok (.newarray .int, 2) := dk_188_10 (dk_at dksX3_init_5 11 rfl rfl)
theorem dX3_init_133 : decode cX3_init 133 = .ok (.putfield 54, 3) := dk_181 0 54 (dk_at dksX3_init_5 13 rfl rfl)
theorem dX3_init_136 : decode cX3_init 136 = .ok (.aload_n 0, 1) := dk_42 (dk_at dksX3_init_5 16 rfl rfl)
theorem dX3_init_137 : decode cX3_init 137 = .ok (.bipush 8, 2) := dk_16 8 (dk_at dksX3_init_5 17 rfl rfl)
theorem dX3_init_139 : decode cX3_init 139 = .ok (.newarray .int, 2) := dk_188_10 (dk_at dksX3_init_5 19 rfl rfl)
theorem dX3_init_141 : decode cX3_init 141 = .ok (.putfield 57, 3) := dk_181 0 57 (dk_at dksX3_init_5 21 rfl rfl)
theorem dX3_init_144 : decode cX3_init 144 = .ok (.aload_n 0, 1) := dk_42 (dk_at dksX3_init_6 0 rfl rfl)
theorem dX3_init_145 : decode cX3_init 145 = .ok (.bipush 8, 2) := dk_16 8 (dk_at dksX3_init_6 1 rfl rfl)
theorem dX3_init_147 : decode cX3_init 147 = .ok (.newarray .int, 2) := dk_188_10 (dk_at dksX3_init_6 3 rfl rfl)
theorem dX3_init_149 : decode cX3_init 149 = .ok (.putfield 60, 3) := dk_181 0 60 (dk_at dksX3_init_6 5 rfl rfl)
theorem dX3_init_152 : decode cX3_init 152 = .ok (.aload_n 0, 1) := dk_42 (dk_at dksX3_init_6 8 rfl rfl)
theorem dX3_init_153 : decode cX3_init 153 = .ok (.bipush 20, 2) := dk_16 20 (dk_at dksX3_init_6 9 rfl rfl)
theorem dX3_init_155 : decode cX3_init 155 = .ok (.newarray .int, 2) := dk_188_10 (dk_at dksX3_init_6 11 rfl rfl)
theorem dX3_init_157 : decode cX3_init 157 = .ok (.putfield 63, 3) := dk_181 0 63 (dk_at dksX3_init_6 13 rfl rfl)
theorem dX3_init_160 : decode cX3_init 160 = .ok (.aload_n 0, 1) := dk_42 (dk_at dksX3_init_6 16 rfl rfl)
theorem dX3_init_161 : decode cX3_init 161 = .ok (.bipush 20, 2) := dk_16 20 (dk_at dksX3_init_6 17 rfl rfl)
theorem dX3_init_163 : decode cX3_init 163 = .ok (.newarray .int, 2) := dk_188_10 (dk_at dksX3_init_6 19 rfl rfl)
theorem dX3_init_165 : decode cX3_init 165 = .ok (.putfield 66, 3) := dk_181 0 66 (dk_at dksX3_init_6 21 rfl rfl)
theorem dX3_init_168 : decode cX3_init 168 = .ok (.aload_n 0, 1) := dk_42 (dk_at dksX3_init_7 0 rfl rfl)
theorem dX3_init_169 : decode cX3_init 169 = .ok (.bipush 20, 2) := dk_16 20 (dk_at dksX3_init_7 1 rfl rfl)
theorem dX3_init_171 : decode cX3_init 171 = .ok (.newarray .int, 2) := dk_188_10 (dk_at dksX3_init_7 3 rfl rfl)
theorem dX3_init_173 : decode cX3_init 173 = .ok (.putfield 69, 3) := dk_181 0 69 (dk_at dksX3_init_7 5 rfl rfl)
theorem dX3_init_176 : decode cX3_init 176 = .ok (.aload_n 0, 1) := dk_42 (dk_at dksX3_init_7 8 rfl rfl)
theorem dX3_init_177 : decode cX3_init 177 = .ok (.bipush 20, 2) := dk_16 20 (dk_at dksX3_init_7 9 rfl rfl)
theorem dX3_init_179 : decode cX3_init 179 = .ok (.newarray .int, 2) := dk_188_10 (dk_at dksX3_init_7 11 rfl rfl)
theorem dX3_init_181 : decode cX3_init 181 = .ok (.putfield 72, 3) := dk_181 0 72 (dk_at dksX3_init_7 13 rfl rfl)
theorem dX3_init_184 : decode cX3_init 184 = .ok (.aload_n 0, 1) := dk_42 (dk_at dksX3_init_7 16 rfl rfl)
theorem dX3_init_185 : decode cX3_init 185 = .ok (.bipush 20, 2) := dk_16 20 (dk_at dksX3_init_7 17 rfl rfl)
theorem dX3_init_187 : decode cX3_init 187 = .ok (.newarray .int, 2) := dk_188_10 (dk_at dksX3_init_7 19 rfl rfl)
theorem dX3_init_189 : decode cX3_init 189 = .ok (.putfield 75, 3) := dk_181 0 75 (dk_at dksX3_init_7 21 rfl rfl)
theorem dX3_init_192 : decode cX3_init 192 = .ok (.aload_n 0, 1) := dk_42 (dk_at dksX3_init_8 0 rfl rfl)
theorem dX3_init_193 : decode cX3_init 193 = .ok (.bipush 20, 2) := dk_16 20 (dk_at dksX3_init_8 1 rfl rfl)
theorem dX3_init_195 : decode cX3_init 195 = .ok (.newarray .int, 2) := dk_188_10 (dk_at dksX3_init_8 3 rfl rfl)
theorem dX3_init_197 : decode cX3_init 197 = .ok (.putfield 78, 3) := dk_181 0 78 (dk_at dksX3_init_8 5 rfl rfl)
theorem dX3_init_200 : decode cX3_init 200 = .ok (.aload_n 0, 1) := dk_42 (dk_at dksX3_init_8 8 rfl rfl)
theorem dX3_init_201 : decode cX3_init 201 = .ok (.bipush 20, 2) := dk_16 20 (dk_at dksX3_init_8 9 rfl rfl)
theorem dX3_init_203 : decode cX3_init 203 = .ok (.newarray .int, 2) := dk_188_10 (dk_at dksX3_init_8 11 rfl rfl)
theorem dX3_init_205 : decode cX3_init 205 = .ok (.putfield 81, 3) := dk_181 0 81 (dk_at dksX3_init_8 13 rfl rfl)
theorem dX3_init_208 : decode cX3_init 208 = .ok (.aload_n 0, 1) := dk_42 (dk_at dksX3_init_8 16 rfl rfl)
theorem dX3_init_209 : decode cX3_init 209 = .ok (.bipush 20, 2) := dk_16 20 (dk_at dksX3_init_8 17 rfl rfl)
theorem dX3_init_211 : decode cX3_init 211 = .ok (.newarray .int, 2) := dk_188_10 (dk_at dksX3_init_8 19 rfl rfl)
theorem dX3_init_213 : decode cX3_init 213 = .ok (.putfield 84, 3) := dk_181 0 84 (dk_at dksX3_init_8 21 rfl rfl)
theorem dX3_init_216 : decode cX3_init 216 = .ok (.aload_n 0, 1) := dk_42 (dk_at dksX3_init_9 0 rfl rfl)
theorem dX3_init_217 : decode cX3_init 217 = .ok (.bipush 20, 2) := dk_16 20 (dk_at dksX3_init_9 1 rfl rfl)
theorem dX3_init_219 : decode cX3_init 219 = .ok (.newarray .int, 2) := dk_188_10 (dk_at dksX3_init_9 3 rfl rfl)
theorem dX3_init_221 : decode cX3_init 221 = .ok (.putfield 87, 3) := dk_181 0 87 (dk_at dksX3_init_9 5 rfl rfl)
theorem dX3_init_224 : decode cX3_init 224 = .ok (.aload_n 0, 1) := dk_42 (dk_at dksX3_init_9 8 rfl rfl)
theorem dX3_init_225 : decode cX3_init 225 = .ok (.bipush 20, 2) := dk_16 20 (dk_at dksX3_init_9 9 rfl rfl)
theorem dX3_init_227 : decode cX3_init 227 = .ok (.newarray .int, 2) := dk_188_10 (dk_at dksX3_init_9 11 rfl rfl)
theorem dX3_init_229 : decode cX3_init 229 = .ok (.putfield 90, 3) := dk_181 0 90 (dk_at dksX3_init_9 13 rfl rfl)
theorem dX3_init_232 : decode cX3_init 232 = .ok (.aload_n 0, 1) := dk_42 (dk_at dksX3_init_9 16 rfl rfl)
theorem dX3_init_233 : decode cX3_init 233 = .ok (.bipush 20, 2) := dk_16 20 (dk_at dksX3_init_9 17 rfl rfl)
theorem dX3_init_235 : decode cX3_init 235 = .ok (.newarray .int, 2) := dk_188_10 (dk_at dksX3_init_9 19 rfl rfl)
theorem dX3_init_237 : decode cX3_init 237 = .ok (.putfield 93, 3) := dk_181 0 93 (dk_at dksX3_init_9 21 rfl rfl)
theorem dX3_init_240 : decode cX3_init 240 = .ok (.aload_n 0, 1) := dk_42 (dk_at dksX3_init_10 0 rfl rfl)
theorem dX3_init_241 : decode cX3_init 241 = .ok (.bipush 20, 2) := dk_16 20 (dk_at dksX3_init_10 1 rfl rfl)
theorem dX3_init_243 : decode cX3_init 243 = .ok (.newarray .int, 2) := dk_188_10 (dk_at dksX3_init_10 3 rfl rfl)
theorem dX3_init_245 : decode cX3_init 245 = .ok (.putfield 96, 3) := dk_181 0 96 (dk_at dksX3_init_10 5 rfl rfl)
theorem dX3_init_248 : decode cX3_init 248 = .ok (.aload_n 0, 1) := dk_42 (dk_at dksX3_init_10 8 rfl rfl)
theorem dX3_init_249 : decode cX3_init 249 = .ok (.bipush 20, 2) := dk_16 20 (dk_at dksX3_init_10 9 rfl rfl)
theorem dX3_init_251 : decode cX3_init 251 = .ok (.newarray .int, 2) := dk_188_10 (dk_at dksX3_init_10 11 rfl rfl)
theorem dX3_init_253 : decode cX3_init 253 = .ok (.putfield 99, 3) := dk_181 0 99 (dk_at dksX3_init_10 13 rfl rfl)
theorem dX3_init_256 : decode cX3_init 256 = .ok (.aload_n 0, 1) := dk_42 (dk_at dksX3_init_10 16 rfl rfl)
theorem dX3_init_257 : decode cX3_init 257 = .ok (.bipush 20, 2) := dk_16 20 (dk_at dksX3_init_10 17 rfl rfl)
theorem dX3_init_259 : decode cX3_init 259 = .ok (.newarray .int, 2) := dk_188_10 (dk_at dksX3_init_10 19 rfl rfl)
theorem dX3_init_261 : decode cX3_init 261 = .ok (.putfield 102, 3) := dk_181 0 102 (dk_at dksX3_init_10 21 rfl rfl)
theorem dX3_init_264 : decode cX3_init 264 = .ok (.aload_n 0, 1) := dk_42 (dk_at dksX3_init_11 0 rfl rfl)
theorem dX3_init_265 : decode cX3_init 265 = .ok (.bipush 20, 2) := dk_16 20 (dk_at dksX3_init_11 1 rfl rfl)
theorem dX3_init_267 : decode cX3_init 267 = .ok (.newarray .long, 2) := dk_188_11 (dk_at dksX3_init_11 3 rfl rfl)
theorem dX3_init_269 : decode cX3_init 269 = .ok (.putfield 105, 3) := dk_181 0 105 (dk_at dksX3_init_11 5 rfl rfl)
theorem dX3_init_272 : decode cX3_init 272 = .ok (.aload_n 0, 1) := dk_42 (dk_at dksX3_init_11 8 rfl rfl)
theorem dX3_init_273 : decode cX3_init 273 = .ok (.bipush 20, 2) := dk_16 20 (dk_at dksX3_init_11 9 rfl rfl)
theorem dX3_init_275 : decode cX3_init 275 = .ok (.newarray .int, 2) := dk_188_10 (dk_at dksX3_init_11 11 rfl rfl)
theorem dX3_init_277 : decode cX3_init 277 = .ok (.putfield 109, 3) := dk_181 0 109 (dk_at dksX3_init_11 13 rfl rfl)
theorem dX3_init_280 : decode cX3_init 280 = .ok (.aload_n 0, 1) := dk_42 (dk_at dksX3_init_11 16 rfl rfl)
theorem dX3_init_281 : decode cX3_init 281 = .ok (.bipush 20, 2) := dk_16 20 (dk_at dksX3_init_11 17 rfl rfl)
theorem dX3_init_283 : decode cX3_init 283 = .ok (.newarray .int, 2) := dk_188_10 (dk_at dksX3_init_11 19 rfl rfl)
theorem dX3_init_285 : decode cX3_init 285 = .ok (.putfield 112, 3) := dk_181 0 112 (dk_at dksX3_init_11 21 rfl rfl)
theorem dX3_init_288 : decode cX3_init 288 = .ok (.aload_n 0, 1) := dk_42 (dk_at dksX3_init_12 0 rfl rfl)
theorem dX3_init_289 : decode cX3_init 289 = .ok (.bipush 20, 2) := dk_16 20 (dk_at dksX3_init_12 1 rfl rfl)
theorem dX3_init_291 : decode cX3_init 291 = .ok (.newarray .int, 2) := dk_188_10 (dk_at dksX3_init_12 3 rfl rfl)
theorem dX3_init_293 : decode cX3_init 293 = .ok (.putfield 115, 3) := dk_181 0 115 (dk_at dksX3_init_12 5 rfl rfl)
theorem dX3_init_296 : decode cX3_init 296 = .ok (.aload_n 0, 1) := dk_42 (dk_at dksX3_init_12 8 rfl rfl)
theorem dX3_init_297 : decode cX3_init 297 = .ok (.bipush 8, 2) := dk_16 8 (dk_at dksX3_init_12 9 rfl rfl)
theorem dX3_init_299 : decode cX3_init 299 = .ok (.newarray .int, 2) := dk_188_10 (dk_at dksX3_init_12 11 rfl rfl)
theorem dX3_init_301 : decode cX3_init 301 = .ok (.putfield 118, 3) := dk_181 0 118 (dk_at dksX3_init_12 13 rfl rfl)
theorem dX3_init_304 : decode cX3_init 304 = .ok (.aload_n 0, 1) := dk_42 (dk_at dksX3_init_12 16 rfl rfl)
theorem dX3_init_305 : decode cX3_init 305 = .ok (.sipush 400, 3) := dk_17 1 144 (dk_at dksX3_init_12 17 rfl rfl)
theorem dX3_init_308 : decode cX3_init 308 = .ok (.newarray .byte, 2) := dk_188_8 (dk_at dksX3_init_12 20 rfl rfl)
theorem dX3_init_310 : decode cX3_init 310 = .ok (.putfield 121, 3) := dk_181 0 121 (dk_at dksX3_init_13 0 rfl rfl)
theorem dX3_init_313 : decode cX3_init 313 = .ok (.aload_n 0, 1) := dk_42 (dk_at dksX3_init_13 3 rfl rfl)
theorem dX3_init_314 : decode cX3_init 314 = .ok (.bipush 9, 2) := dk_16 9 (dk_at dksX3_init_13 4 rfl rfl)
theorem dX3_init_316 : decode cX3_init 316 = .ok (.iconst 5, 1) := dk_8 (dk_at dksX3_init_13 6 rfl rfl)
theorem dX3_init_317 : decode cX3_init 317 = .ok (.sipush 840, 3) := dk_17 3 72 (dk_at dksX3_init_13 7 rfl rfl)
theorem dX3_init_320 : decode cX3_init 320 = .ok (.multianewarray 125 3, 4) := by decide +kernel
theorem dX3_init_324 : decode cX3_init 324 = .ok (.putfield 127, 3) := dk_181 0 127 (dk_at dksX3_init_13 14 rfl rfl)
theorem dX3_init_327 : decode cX3_init 327 = .ok (.aload_n 0, 1) := dk_42 (dk_at dksX3_init_13 17 rfl rfl)
theorem dX3_init_328 : decode cX3_init 328 = .ok (.bipush 9, 2) := dk_16 9 (dk_at dksX3_init_13 18 rfl rfl)
theorem dX3_init_330 : decode cX3_init 330 = .ok (.iconst 5, 1) := dk_8 (dk_at dksX3_init_13 20 rfl rfl)
theorem dX3_init_331 : decode cX3_init 331 = .ok (.multianewarray 9 2, 4) := by decide +kernel
theorem dX3_init_335 : decode cX3_init 335 = .ok (.putfield 130, 3) := dk_181 0 130 (dk_at dksX3_init_14 4 rfl rfl)
theorem dX3_init_338 : decode cX3_init 338 = .ok (.aload_n 0, 1) := dk_42 (dk_at dksX3_init_14 7 rfl rfl)
theorem dX3_init_339 : decode cX3_init 339 = .ok (.bipush 12, 2) := dk_16 12 (dk_at dksX3_init_14 8 rfl rfl)
theorem dX3_init_341 : decode cX3_init 341 = .ok (.newarray .int, 2) := dk_188_10 (dk_at dksX3_init_14 10 rfl rfl)
theorem dX3_init_343 : decode cX3_init 343 = .ok (.putfield 133, 3) := dk_181 0 133 (dk_at dksX3_init_14 12 rfl rfl)
theorem dX3_init_346 : decode cX3_init 346 = .ok (.aload_n 0, 1) := dk_42 (dk_at dksX3_init_14 15 rfl rfl)
theorem dX3_init_347 : decode cX3_init 347 = .ok (.bipush 12, 2) := dk_16 12 (dk_at dksX3_init_14 16 rfl rfl)
theorem dX3_init_349 : decode cX3_init 349 = .ok (.newarray .int, 2) := dk_188_10 (dk_at dksX3_init_14 18 rfl rfl)
theorem dX3_init_351 : decode cX3_init 351 = .ok (.putfield 136, 3) := dk_181 0 136 (dk_at dksX3_init_14 20 rfl rfl)
theorem dX3_init_354 : decode cX3_init 354 = .ok (.aload_n 0, 1) := dk_42 (dk_at dksX3_init_14 23 rfl rfl)
theorem dX3_init_355 : decode cX3_init 355 = .ok (.iconst 5, 1) := dk_8 (dk_at dksX3_init_15 0 rfl rfl)
theorem dX3_init_356 : decode cX3_init 356 = .ok (.anewarray 139, 3) := dk_189 0 139 (dk_at dksX3_init_15 1 rfl rfl)
theorem dX3_init_359 : decode cX3_init 359 = .ok (.dup, 1) := dk_89 (dk_at dksX3_init_15 4 rfl rfl)
theorem dX3_init_360 : decode cX3_init 360 = .ok (.iconst 0, 1) := dk_3 (dk_at dksX3_init_15 5 rfl rfl)
theorem dX3_init_361 : decode cX3_init 361 = .ok (.ldc 141, 2) := dk_18 141 (dk_at dksX3_init_15 6 rfl rfl)
theorem dX3_init_363 : decode cX3_init 363 = .ok (.aastore, 1) := dk_83 (dk_at dksX3_init_15 8 rfl rfl)
theorem dX3_init_364 : decode cX3_init 364 = .ok (.dup, 1) := dk_89 (dk_at dksX3_init_15 9 rfl rfl)
theorem dX3_init_365 : decode cX3_init 365 = .ok (.iconst 1, 1) := dk_4 (dk_at dksX3_init_15 10 rfl rfl)
theorem dX3_init_366 : decode cX3_init 366 = .ok (.ldc 143, 2) := dk_18 143 (dk_at dksX3_init_15 11 rfl rfl)
theorem dX3_init_368 : decode cX3_init 368 = .ok (.aastore, 1) := dk_83 (dk_at dksX3_init_15 13 rfl rfl)
theorem dX3_init_369 : decode cX3_init 369 = .ok (.dup, 1) := dk_89 (dk_at dksX3_init_15 14 rfl rfl)
theorem dX3_init_370 : decode cX3_init 370 = .ok (.iconst 2, 1) := dk_5 (dk_at dksX3_init_15 15 rfl rfl)
theorem dX3_init_371 : decode cX3_init 371 = .ok (.ldc 145, 2) := dk_18 145 (dk_at dksX3_init_15 16 rfl rfl)
theorem dX3_init_373 : decode cX3_init 373 = .ok (.aastore, 1) := dk_83 (dk_at dksX3_init_15 18 rfl rfl)
theorem dX3_init_374 : decode cX3_init 374 = .ok (.dup, 1) := dk_89 (dk_at dksX3_init_15 19 rfl rfl)
theorem dX3_init_375 : decode cX3_init 375 = .ok (.iconst 3, 1) := dk_6 (dk_at dksX3_init_15 20 rfl rfl)
theorem dX3_init_376 : decode cX3_init 376 = .ok (.ldc 147, 2) := dk_18 147 (dk_at dksX3_init_15 21 rfl rfl)
theorem dX3_init_378 : decode cX3_init 378 = .ok (.aastore, 1) := dk_83 (dk_at dksX3_init_15 23 rfl rfl)
theorem dX3_init_379 : decode cX3_init 379 = .ok (.dup, 1) := dk_89 (dk_at dksX3_init_16 0 rfl rfl)
theorem dX3_init_380 : decode cX3_init 380 = .ok (.iconst 4, 1) := dk_7 (dk_at dksX3_init_16 1 rfl rfl)
theorem dX3_init_381 : decode cX3_init 381 = .ok (.ldc 149, 2) := dk_18 149 (dk_at dksX3_init_16 2 rfl rfl)
theorem dX3_init_383 : decode cX3_init 383 = .ok (.aastore, 1) := dk_83 (dk_at dksX3_init_16 4 rfl rfl)
theorem dX3_init_384 : decode cX3_init 384 = .ok (.putfield 151, 3) := dk_181 0 151 (dk_at dksX3_init_16 5 rfl rfl)
theorem dX3_init_387 : decode cX3_init 387 = .ok (.aload_n 0, 1) := dk_42 (dk_at dksX3_init_16 8 rfl rfl)
theorem dX3_init_388 : decode cX3_init 388 = .ok (.bipush 13, 2) := dk_16 13 (dk_at dksX3_init_16 9 rfl rfl)
theorem dX3_init_390 : decode cX3_init 390 = .ok (.anewarray 139, 3) := dk_189 0 139 (dk_at dksX3_init_16 11 rfl rfl)
theorem dX3_init_393 : decode cX3_init 393 = .ok (.dup, 1) := dk_89 (dk_at dksX3_init_16 14 rfl rfl)
theorem dX3_init_394 : decode cX3_init 394 = .ok (.iconst 0, 1) := dk_3 (dk_at dksX3_init_16 15 rfl rfl)
theorem dX3_init_395 : decode cX3_init 395 = .ok (.ldc 155, 2) := dk_18 155 (dk_at dksX3_init_16 16 rfl rfl)
theorem dX3_init_397 : decode cX3_init 397 = .ok (.aastore, 1) := dk_83 (dk_at dksX3_init_16 18 rfl rfl)
theorem dX3_init_398 : decode cX3_init 398 = .ok (.dup, 1) := dk_89 (dk_at dksX3_init_16 19 rfl rfl)
theorem dX3_init_399 : decode cX3_init 399 = .ok (.iconst 1, 1) := dk_4 (dk_at dksX3_init_16 20 rfl rfl)
theorem dX3_init_400 : decode cX3_init 400 = .ok (.ldc 157, 2) := dk_18 157 (dk_at dksX3_init_16 21 rfl rfl)
theorem dX3_init_402 : decode cX3_init 402 = .ok (.aastore, 1) := dk_83 (dk_at dksX3_init_16 23 rfl rfl)
theorem dX3_init_403 : decode cX3_init 403 = .ok (.dup, 1) := dk_89 (dk_at dksX3_init_17 0 rfl rfl)
theorem dX3_init_404 : decode cX3_init 404 = .ok (.iconst 2, 1) := dk_5 (dk_at dksX3_init_17 1 rfl rfl)
theorem dX3_init_405 : decode cX3_init 405 = .ok (.ldc 159, 2) := dk_18 159 (dk_at dksX3_init_17 2 rfl rfl)
theorem dX3_init_407 : decode cX3_init 407 = .ok (.aastore, 1) := dk_83 (dk_at dksX3_init_17 4 rfl rfl)
theorem dX3_init_408 : decode cX3_init 408 = .ok (.dup, 1) := dk_89 (dk_at dksX3_init_17 5 rfl rfl)
theorem dX3_init_409 : decode cX3_init 409 = .ok (.iconst 3, 1) := dk_6 (dk_at dksX3_init_17 6 rfl rfl)
theorem dX3_init_410 : decode cX3_init 410 = .ok (.ldc 160, 2) := dk_18 160 (dk_at dksX3_init_17 7 rfl rfl)
theorem dX3_init_412 : decode cX3_init 412 = .ok (.aastore, 1) := dk_83 (dk_at dksX3_init_17 9 rfl rfl)
theorem dX3_init_413 : decode cX3_init 413 = .ok (.dup, 1) := dk_89 (dk_at dksX3_init_17 10 rfl rfl)
theorem dX3_init_414 : decode cX3_init 414 = .ok (.iconst 4, 1) := dk_7 (dk_at dksX3_init_17 11 rfl rfl)
theorem dX3_init_415 : decode cX3_init 415 = .ok (.ldc 161, 2) := dk_18 161 (dk_at dksX3_init_17 12 rfl rfl)
theorem dX3_init_417 : decode cX3_init 417 = .ok (.aastore, 1) := dk_83 (dk_at dksX3_init_17 14 rfl rfl)
theorem dX3_init_418 : decode cX3_init 418 = .ok (.dup, 1) := dk_89 (dk_at dksX3_init_17 15 rfl rfl)
theorem dX3_init_419 : decode cX3_init 419 = .ok (.iconst 5, 1) := dk_8 (dk_at dksX3_init_17 16 rfl rfl)
theorem dX3_init_420 : decode cX3_init 420 = .ok (.ldc 162, 2) := dk_18 162 (dk_at dksX3_init_17 17 rfl rfl)
theorem dX3_init_422 : decode cX3_init 422 = .ok (.aastore, 1) := dk_83 (dk_at dksX3_init_17 19 rfl rfl)
theorem dX3_init_423 : decode cX3_init 423 = .ok (.dup, 1) := dk_89 (dk_at dksX3_init_17 20 rfl rfl)
theorem dX3_init_424 : decode cX3_init 424 = .ok (.bipush 6, 2) := dk_16 6 (dk_at dksX3_init_17 21 rfl rfl)
theorem dX3_init_426 : decode cX3_init 426 = .ok (.ldc 163, 2) := dk_18 163 (dk_at dksX3_init_18 0 rfl rfl)
theorem dX3_init_428 : decode cX3_init 428 = .ok (.aastore, 1) := dk_83 (dk_at dksX3_init_18 2 rfl rfl)
theorem dX3_init_429 : decode cX3_init 429 = .ok (.dup, 1) := dk_89 (dk_at dksX3_init_18 3 rfl rfl)
theorem dX3_init_430 : decode cX3_init 430 = .ok (.bipush 7, 2) := dk_16 7 (dk_at dksX3_init_18 4 rfl rfl)
theorem dX3_init_432 : decode cX3_init 432 = .ok (.ldc 165, 2) := dk_18 165 (dk_at dksX3_init_18 6 rfl rfl)
theorem dX3_init_434 : decode cX3_init 434 = .ok (.aastore, 1) := dk_83 (dk_at dksX3_init_18 8 rfl rfl)
theorem dX3_init_435 : decode cX3_init 435 = .ok (.dup, 1) := dk_89 (dk_at dksX3_init_18 9 rfl rfl)
theorem dX3_init_436 : decode cX3_init 436 = .ok (.bipush 8, 2) := dk_16 8 (dk_at dksX3_init_18 10 rfl rfl)
theorem dX3_init_438 : decode cX3_init 438 = .ok (.ldc 167, 2) := dk_18 167 (dk_at dksX3_init_18 12 rfl rfl)
theorem dX3_init_440 : decode cX3_init 440 = .ok (.aastore, 1) := dk_83 (dk_at dksX3_init_18 14 rfl rfl)
theorem dX3_init_441 : decode cX3_init 441 = .ok (.dup, 1) := dk_89 (dk_at dksX3_init_18 15 rfl rfl)
theorem dX3_init_442 : decode cX3_init 442 = .ok (.bipush 9, 2) := dk_16 9 (dk_at dksX3_init_18 16 rfl rfl)
theorem dX3_init_444 : decode cX3_init 444 = .ok (.ldc 169, 2) := dk_18 169 (dk_at dksX3_init_18 18 rfl rfl)
theorem dX3_init_446 : decode cX3_init 446 = .ok (.aastore, 1) := dk_83 (dk_at dksX3_init_18 20 rfl rfl)
theorem dX3_init_447 : decode cX3_init 447 = .ok (.dup, 1) := dk_89 (dk_at dksX3_init_18 21 rfl rfl)
theorem dX3_init_448 : decode cX3_init 448 = .ok (.bipush 10, 2) := dk_16 10 (dk_at dksX3_init_18 22 rfl rfl)
theorem dX3_init_450 : decode cX3_init 450 = .ok (.ldc 171, 2) := dk_18 171 (dk_at dksX3_init_19 0 rfl rfl)
theorem dX3_init_452 : decode cX3_init 452 = .ok (.aastore, 1) := dk_83 (dk_at dksX3_init_19 2 rfl rfl)
theorem dX3_init_453 : decode cX3_init 453 = .ok (.dup, 1) := dk_89 (dk_at dksX3_init_19 3 rfl rfl)
theorem dX3_init_454 : decode cX3_init 454 = .ok (.bipush 11, 2) := dk_16 11 (dk_at dksX3_init_19 4 rfl rfl)
theorem dX3_init_456 : decode cX3_init 456 = .ok (.ldc 172, 2) := dk_18 172 (dk_at dksX3_init_19 6 rfl rfl)
theorem dX3_init_458 : decode cX3_init 458 = .ok (.aastore, 1) := dk_83 (dk_at dksX3_init_19 8 rfl rfl)
theorem dX3_init_459 : decode cX3_init 459 = .ok (.dup, 1) := dk_89 (dk_at dksX3_init_19 9 rfl rfl)
theorem dX3_init_460 : decode cX3_init 460 = .ok (.bipush 12, 2) := dk_16 12 (dk_at dksX3_init_19 10 rfl rfl)
theorem dX3_init_462 : decode cX3_init 462 = .ok (.ldc 174, 2) := dk_18 174 (dk_at dksX3_init_19 12 rfl rfl)
theorem dX3_init_464 : decode cX3_init 464 = .ok (.aastore, 1) := dk_83 (dk_at dksX3_init_19 14 rfl rfl)
theorem dX3_init_465 : decode cX3_init 465 = .ok (.putfield 176, 3) := dk_181 0 176 (dk_at dksX3_init_19 15 rfl rfl)
theorem dX3_init_468 : decode cX3_init 468 = .ok (.aload_n 0, 1) := dk_42 (dk_at dksX3_init_19 18 rfl rfl)
theorem dX3_init_469 : decode cX3_init 469 = .ok (.bipush 13, 2) := dk_16 13 (dk_at dksX3_init_19 19 rfl rfl)
theorem dX3_init_471 : decode cX3_init 471 = .ok (.newarray .int, 2) := dk_188_10 (dk_at dksX3_init_19 21 rfl rfl)
theorem dX3_init_473 : decode cX3_init 473 = .ok (.putfield 179, 3) := dk_181 0 179 (dk_at dksX3_init_20 0 rfl rfl)
theorem dX3_init_476 : decode cX3_init 476 = .ok (.aload_n 0, 1) := dk_42 (dk_at dksX3_init_20 3 rfl rfl)
theorem dX3_init_477 : decode cX3_init 477 = .ok (.sipush 420, 3) := dk_17 1 164 (dk_at dksX3_init_20 4 rfl rfl)
theorem dX3_init_480 : decode cX3_init 480 = .ok (.newarray .int, 2) := dk_188_10 (dk_at dksX3_init_20 7 rfl rfl)
theorem dX3_init_482 : decode cX3_init 482 = .ok (.putfield 182, 3) := dk_181 0 182 (dk_at dksX3_init_20 9 rfl rfl)
theorem dX3_init_485 : decode cX3_init 485 = .ok (.aload_n 0, 1) := dk_42 (dk_at dksX3_init_20 12 rfl rfl)
theorem dX3_init_486 : decode cX3_init 486 = .ok (.sipush 300, 3) := dk_17 1 44 (dk_at dksX3_init_20 13 rfl rfl)
theorem dX3_init_489 : decode cX3_init 489 = .ok (.newarray .int, 2) := dk_188_10 (dk_at dksX3_init_20 16 rfl rfl)
theorem dX3_init_491 : decode cX3_init 491 = .ok (.putfield 185, 3) := dk_181 0 185 (dk_at dksX3_init_20 18 rfl rfl)
theorem dX3_init_494 : decode cX3_init 494 = .ok (.aload_n 0, 1) := dk_42 (dk_at dksX3_init_20 21 rfl rfl)
theorem dX3_init_495 : decode cX3_init 495 = .ok (.sipush 300, 3) := dk_17 1 44 (dk_at dksX3_init_21 0 rfl rfl)
theorem dX3_init_498 : decode cX3_init 498 = .ok (.newarray .int, 2) := dk_188_10 (dk_at dksX3_init_21 3 rfl rfl)
theorem dX3_init_500 : decode cX3_init 500 = .ok (.putfield 188, 3) := dk_181 0 188 (dk_at dksX3_init_21 5 rfl rfl)
theorem dX3_init_503 : decode cX3_init 503 = .ok (.aload_n 0, 1) := dk_42 (dk_at dksX3_init_21 8 rfl rfl)
theorem dX3_init_504 : decode cX3_init 504 = .ok (.sipush 300, 3) := dk_17 1 44 (dk_at dksX3_init_21 9 rfl rfl)
theorem dX3_init_507 : decode cX3_init 507 = .ok (.newarray .int, 2) := dk_188_10 (dk_at dksX3_init_21 12 rfl rfl)
theorem dX3_init_509 : decode cX3_init 509 = .ok (.putfield 191, 3) := dk_181 0 191 (dk_at dksX3_init_21 14 rfl rfl)
theorem dX3_init_512 : decode cX3_init 512 = .ok (.aload_n 0, 1) := dk_42 (dk_at dksX3_init_21 17 rfl rfl)
theorem dX3_init_513 : decode cX3_init 513 = .ok (.sipush 300, 3) := dk_17 1 44 (dk_at dksX3_init_21 18 rfl rfl)
theorem dX3_init_516 : decode cX3_init 516 = .ok (.newarray .int, 2) := dk_188_10 (dk_at dksX3_init_21 21 rfl rfl)
theorem dX3_init_518 : decode cX3_init 518 = .ok (.putfield 194, 3) := dk_181 0 194 (dk_at dksX3_init_22 0 rfl rfl)
theorem dX3_init_521 : decode cX3_init 521 = .ok (.aload_n 0, 1) := dk_42 (dk_at dksX3_init_22 3 rfl rfl)
theorem dX3_init_522 : decode cX3_init 522 = .ok (.sipush 300, 3) := dk_17 1 44 (dk_at dksX3_init_22 4 rfl rfl)
theorem dX3_init_525 : decode cX3_init 525 = .ok (.newarray .int, 2) := dk_188_10 (dk_at dksX3_init_22 7 rfl rfl)
theorem dX3_init_527 : decode cX3_init 527 = .ok (.putfield 197, 3) := dk_181 0 197 (dk_at dksX3_init_22 9 rfl rfl)
theorem dX3_init_530 : decode cX3_init 530 = .ok (.aload_n 0, 1) := dk_42 (dk_at dksX3_init_22 12 rfl rfl)
theorem dX3_init_531 : decode cX3_init 531 = .ok (.sipush 300, 3) := dk_17 1 44 (dk_at dksX3_init_22 13 rfl rfl)
theorem dX3_init_534 : decode cX3_init 534 = .ok (.newarray .int, 2) := dk_188_10 (dk_at dksX3_init_22 16 rfl rfl)
theorem dX3_init_536 : decode cX3_init 536 = .ok (.putfield 200, 3) := dk_181 0 200 (dk_at dksX3_init_22 18 rfl rfl)
theorem dX3_init_539 : decode cX3_init 539 = .ok (.aload_n 0, 1) := dk_42 (dk_at dksX3_init_22 21 rfl rfl)
theorem dX3_init_540 : decode cX3_init 540 = .ok (.bipush 20, 2) := dk_16 20 (dk_at dksX3_init_22 22 rfl rfl)
theorem dX3_init_542 : decode cX3_init 542 = .ok (.newarray .int, 2) := dk_188_10 (dk_at dksX3_init_23 0 rfl rfl)
theorem dX3_init_544 : decode cX3_init 544 = .ok (.putfield 203, 3) := dk_181 0 203 (dk_at dksX3_init_23 2 rfl rfl)
theorem dX3_init_547 : decode cX3_init 547 = .ok (.aload_n 0, 1) := dk_42 (dk_at dksX3_init_23 5 rfl rfl)
theorem dX3_init_548 : decode cX3_init 548 = .ok (.bipush 8, 2) := dk_16 8 (dk_at dksX3_init_23 6 rfl rfl)
theorem dX3_init_550 : decode cX3_init 550 = .ok (.newarray .int, 2) := dk_188_10 (dk_at dksX3_init_23 8 rfl rfl)
theorem dX3_init_552 : decode cX3_init 552 = .ok (.putfield 206, 3) := dk_181 0 206 (dk_at dksX3_init_23 10 rfl rfl)
theorem dX3_init_555 : decode cX3_init 555 = .ok (.aload_n 0, 1) := dk_42 (dk_at dksX3_init_23 13 rfl rfl)
theorem dX3_init_556 : decode cX3_init 556 = .ok (.bipush 20, 2) := dk_16 20 (dk_at dksX3_init_23 14 rfl rfl)
theorem dX3_init_558 : decode cX3_init 558 = .ok (.newarray .int, 2) := dk_188_10 (dk_at dksX3_init_23 16 rfl rfl)
theorem dX3_init_560 : decode cX3_init 560 = .ok (.putfield 209, 3) := dk_181 0 209 (dk_at dksX3_init_23 18 rfl rfl)
theorem dX3_init_563 : decode cX3_init 563 = .ok (.aload_n 0, 1) := dk_42 (dk_at dksX3_init_23 21 rfl rfl)
theorem dX3_init_564 : decode cX3_init 564 = .ok (.bipush 20, 2) := dk_16 20 (dk_at dksX3_init_23 22 rfl rfl)
theorem dX3_init_566 : decode cX3_init 566 = .ok (.newarray .int, 2) := dk_188_10 (dk_at dksX3_init_24 0 rfl rfl)
theorem dX3_init_568 : decode cX3_init 568 = .ok (.putfield 212, 3) := dk_181 0 212 (dk_at dksX3_init_24 2 rfl rfl)
theorem dX3_init_571 : decode cX3_init 571 = .ok (.aload_n 0, 1) := dk_42 (dk_at dksX3_init_24 5 rfl rfl)
theorem dX3_init_572 : decode cX3_init 572 = .ok (.sipush 200, 3) := dk_17 0 200 (dk_at dksX3_init_24 6 rfl rfl)
theorem dX3_init_575 : decode cX3_init 575 = .ok (.newarray .int, 2) := dk_188_10 (dk_at dksX3_init_24 9 rfl rfl)
theorem dX3_init_577 : decode cX3_init 577 = .ok (.putfield 215, 3) := dk_181 0 215 (dk_at dksX3_init_24 11 rfl rfl)
theorem dX3_init_580 : decode cX3_init 580 = .ok (.aload_n 0, 1) := dk_42 (dk_at dksX3_init_24 14 rfl rfl)
theorem dX3_init_581 : decode cX3_init 581 = .ok (.sipush 200, 3) := dk_17 0 200 (dk_at dksX3_init_24 15 rfl rfl)
theorem dX3_init_584 : decode cX3_init 584 = .ok (.newarray .int, 2) := dk_188_10 (dk_at dksX3_init_24 18 rfl rfl)
theorem dX3_init_586 : decode cX3_init 586 = .ok (.putfield 218, 3) := dk_181 0 218 (dk_at dksX3_init_24 20 rfl rfl)
theorem dX3_init_589 : decode cX3_init 589 = .ok (.aload_n 0, 1) := dk_42 (dk_at dksX3_init_24 23 rfl rfl)
theorem dX3_init_590 : decode cX3_init 590 = .ok (.sipush 200, 3) := dk_17 0 200 (dk_at dksX3_init_25 0 rfl rfl)
theorem dX3_init_593 : decode cX3_init 593 = .ok (.newarray .int, 2) := dk_188_10 (dk_at dksX3_init_25 3 rfl rfl)
theorem dX3_init_595 : decode cX3_init 595 = .ok (.putfield 221, 3) := dk_181 0 221 (dk_at dksX3_init_25 5 rfl rfl)
theorem dX3_init_598 : decode cX3_init 598 = .ok (.aload_n 0, 1) := dk_42 (dk_at dksX3_init_25 8 rfl rfl)
theorem dX3_init_599 : decode cX3_init 599 = .ok (.sipush 200, 3) := dk_17 0 200 (dk_at dksX3_init_25 9 rfl rfl)
theorem dX3_init_602 : decode cX3_init 602 = .ok (.newarray .int, 2) := dk_188_10 (dk_at dksX3_init_25 12 rfl rfl)
theorem dX3_init_604 : decode cX3_init 604 = .ok (.putfield 224, 3) := dk_181 0 224 (dk_at dksX3_init_25 14 rfl rfl)
theorem dX3_init_607 : decode cX3_init 607 = .ok (.aload_n 0, 1) := dk_42 (dk_at dksX3_init_25 17 rfl rfl)
theorem dX3_init_608 : decode cX3_init 608 = .ok (.sipush 200, 3) := dk_17 0 200 (dk_at dksX3_init_25 18 rfl rfl)
theorem dX3_init_611 : decode cX3_init 611 = .ok (.newarray .int, 2) := dk_188_10 (dk_at dksX3_init_25 21 rfl rfl)
theorem dX3_init_613 : decode cX3_init 613 = .ok (.putfield 227, 3) := dk_181 0 227 (dk_at dksX3_init_26 0 rfl rfl)
theorem dX3_init_616 : decode cX3_init 616 = .ok (.aload_n 0, 1) := dk_42 (dk_at dksX3_init_26 3 rfl rfl)
theorem dX3_init_617 : decode cX3_init 617 = .ok (.sipush 200, 3) := dk_17 0 200 (dk_at dksX3_init_26 4 rfl rfl)
theorem dX3_init_620 : decode cX3_init 620 = .ok (.newarray .boolean, 2) := dk_188_4 (dk_at dksX3_init_26 7 rfl rfl)
theorem dX3_init_622 : decode cX3_init 622 = .ok (.putfield 230, 3) := dk_181 0 230 (dk_at dksX3_init_26 9 rfl rfl)
theorem dX3_init_625 : decode cX3_init 625 = .ok (.aload_n 0, 1) := dk_42 (dk_at dksX3_init_26 12 rfl rfl)
theorem dX3_init_626 : decode cX3_init 626 = .ok (.bipush 6, 2) := dk_16 6 (dk_at dksX3_init_26 13 rfl rfl)
theorem dX3_init_628 : decode cX3_init 628 = .ok (.newarray .int, 2) := dk_188_10 (dk_at dksX3_init_26 15 rfl rfl)
theorem dX3_init_630 : decode cX3_init 630 = .ok (.putfield 234, 3) := dk_181 0 234 (dk_at dksX3_init_26 17 rfl rfl)
theorem dX3_init_633 : decode cX3_init 633 = .ok (.aload_n 0, 1) := dk_42 (dk_at dksX3_init_26 20 rfl rfl)
theorem dX3_init_634 : decode cX3_init 634 = .ok (.bipush 6, 2) := dk_16 6 (dk_at dksX3_init_26 21 rfl rfl)
theorem dX3_init_636 : decode cX3_init 636 = .ok (.newarray .int, 2) := dk_188_10 (dk_at dksX3_init_27 0 rfl rfl)
theorem dX3_init_638 : decode cX3_init 638 = .ok (.putfield 237, 3) := dk_181 0 237 (dk_at dksX3_init_27 2 rfl rfl)
theorem dX3_init_641 : decode cX3_init 641 = .ok (.aload_n 0, 1) := dk_42 (dk_at dksX3_init_27 5 rfl rfl)
theorem dX3_init_642 : decode cX3_init 642 = .ok (.bipush 6, 2) := dk_16 6 (dk_at dksX3_init_27 6 rfl rfl)
theorem dX3_init_644 : decode cX3_init 644 = .ok (.newarray .int, 2) := dk_188_10 (dk_at dksX3_init_27 8 rfl rfl)
theorem dX3_init_646 : decode cX3_init 646 = .ok (.putfield 240, 3) := dk_181 0 240 (dk_at dksX3_init_27 10 rfl rfl)
theorem dX3_init_649 : decode cX3_init 649 = .ok (.aload_n 0, 1) := dk_42 (dk_at dksX3_init_27 13 rfl rfl)
theorem dX3_init_650 : decode cX3_init 650 = .ok (.bipush 6, 2) := dk_16 6 (dk_at dksX3_init_27 14 rfl rfl)
theorem dX3_init_652 : decode cX3_init 652 = .ok (.newarray .int, 2) := dk_188_10 (dk_at dksX3_init_27 16 rfl rfl)
theorem dX3_init_654 : decode cX3_init 654 = .ok (.putfield 243, 3) := dk_181 0 243 (dk_at dksX3_init_27 18 rfl rfl)
theorem dX3_init_657 : decode cX3_init 657 = .ok (.aload_n 0, 1) := dk_42 (dk_at dksX3_init_27 21 rfl rfl)
theorem dX3_init_658 : decode cX3_init 658 = .ok (.bipush 6, 2) := dk_16 6 (dk_at dksX3_init_27 22 rfl rfl)
theorem dX3_init_660 : decode cX3_init 660 = .ok (.newarray .int, 2) := dk_188_10 (dk_at dksX3_init_28 0 rfl rfl)
theorem dX3_init_662 : decode cX3_init 662 = .ok (.putfield 246, 3) := dk_181 0 246 (dk_at dksX3_init_28 2 rfl rfl)
theorem dX3_init_665 : decode cX3_init 665 = .ok (.aload_n 0, 1) := dk_42 (dk_at dksX3_init_28 5 rfl rfl)
theorem dX3_init_666 : decode cX3_init 666 = .ok (.bipush 6, 2) := dk_16 6 (dk_at dksX3_init_28 6 rfl rfl)
theorem dX3_init_668 : decode cX3_init 668 = .ok (.bipush 6, 2) := dk_16 6 (dk_at dksX3_init_28 8 rfl rfl)
theorem dX3_init_670 : decode cX3_init 670 = .ok (.multianewarray 249 2, 4) := by decide +kernel
theorem dX3_init_674 : decode cX3_init 674 = .ok (.putfield 251, 3) := dk_181 0 251 (dk_at dksX3_init_28 14 rfl rfl)
theorem dX3_init_677 : decode cX3_init 677 = .ok (.aload_n 0, 1) := dk_42 (dk_at dksX3_init_28 17 rfl rfl)
theorem dX3_init_678 : decode cX3_init 678 = .ok (.bipush 6, 2) := dk_16 6 (dk_at dksX3_init_28 18 rfl rfl)
theorem dX3_init_680 : decode cX3_init 680 = .ok (.bipush 6, 2) := dk_16 6 (dk_at dksX3_init_28 20 rfl rfl)
theorem dX3_init_682 : decode cX3_init 682 = .ok (.multianewarray 9 2, 4) := by decide +kernel
theorem dX3_init_686 : decode cX3_init 686 = .ok (.putfield 253, 3) := dk_181 0 253 (dk_at dksX3_init_29 4 rfl rfl)
theorem dX3_init_689 : decode cX3_init 689 = .ok (.aload_n 0, 1) := dk_42 (dk_at dksX3_init_29 7 rfl rfl)
theorem dX3_init_690 : decode cX3_init 690 = .ok (.sipush 156, 3) := dk_17 0 156 (dk_at dksX3_init_29 8 rfl rfl)
theorem dX3_init_693 : decode cX3_init 693 = .ok (.bipush 6, 2) := dk_16 6 (dk_at dksX3_init_29 11 rfl rfl)
theorem dX3_init_695 : decode cX3_init 695 = .ok (.multianewarray 9 2, 4) := by decide +kernel
theorem dX3_init_699 : decode cX3_init 699 = .ok (.putfield 255, 3) := dk_181 0 255 (dk_at dksX3_init_29 17 rfl rfl)
theorem dX3_init_702 : decode cX3_init 702 = .ok (.aload_n 0, 1) := dk_42 (dk_at dksX3_init_29 20 rfl rfl)
theorem dX3_init_703 : decode cX3_init 703 = .ok (.bipush 8, 2) := dk_16 8 (dk_at dksX3_init_29 21 rfl rfl)
theorem dX3_init_705 : decode cX3_init 705 = .ok (.newarray .int, 2) := dk_188_10 (dk_at dksX3_init_30 0 rfl rfl)
theorem dX3_init_707 : decode cX3_init 707 = .ok (.putfield 258, 3) := dk_181 1 2 (dk_at dksX3_init_30 2 rfl rfl)
theorem dX3_init_710 : decode cX3_init 710 = .ok (.aload_n 0, 1) := dk_42 (dk_at dksX3_init_30 5 rfl rfl)
theorem dX3_init_711 : decode cX3_init 711 = .ok (.bipush 8, 2) := dk_16 8 (dk_at dksX3_init_30 6 rfl rfl)
theorem dX3_init_713 : decode cX3_init 713 = .ok (.newarray .int, 2) := dk_188_10 (dk_at dksX3_init_30 8 rfl rfl)
theorem dX3_init_715 : decode cX3_init 715 = .ok (.putfield 261, 3) := dk_181 1 5 (dk_at dksX3_init_30 10 rfl rfl)
theorem dX3_init_718 : decode cX3_init 718 = .ok (.aload_n 0, 1) := dk_42 (dk_at dksX3_init_30 13 rfl rfl)
theorem dX3_init_719 : decode cX3_init 719 = .ok (.bipush 8, 2) := dk_16 8 (dk_at dksX3_init_30 14 rfl rfl)
theorem dX3_init_721 : decode cX3_init 721 = .ok (.newarray .int, 2) := dk_188_10 (dk_at dksX3_init_30 16 rfl rfl)
theorem dX3_init_723 : decode cX3_init 723 = .ok (.putfield 264, 3) := dk_181 1 8 (dk_at dksX3_init_30 18 rfl rfl)
theorem dX3_init_726 : decode cX3_init 726 = .ok (.aload_n 0, 1) := dk_42 (dk_at dksX3_init_30 21 rfl rfl)
theorem dX3_init_727 : decode cX3_init 727 = .ok (.bipush 8, 2) := dk_16 8 (dk_at dksX3_init_30 22 rfl rfl)
theorem dX3_init_729 : decode cX3_init 729 = .ok (.newarray .int, 2) := dk_188_10 (dk_at dksX3_init_31 0 rfl rfl)
theorem dX3_init_731 : decode cX3_init 731 = .ok (.putfield 267, 3) := dk_181 1 11 (dk_at dksX3_init_31 2 rfl rfl)
theorem dX3_init_734 : decode cX3_init 734 = .ok (.return_, 1) := dk_177 (dk_at dksX3_init_31 5 rfl rfl)
abbrev cX3_village : ByteArray := prog_14_method_6_code
def yX3_village : MethodName := ⟨RX3, "village", "(III)I"⟩
def dkwX3_village_9 : List UInt8 := [42, 89, 180, 1, 14, 4, 96, 181, 1, 14, 21, 4, 172]
abbrev dktX3_village_9 : List UInt8 := dkwX3_village_9 ++ []
def dkwX3_village_8 : List UInt8 := [180, 1, 30, 163, 0, 21, 42, 180, 0, 17, 21, 4, 50, 21, 5, 16, 10, 79, 132, 5, 1, 167, 255, 232]
abbrev dktX3_village_8 : List UInt8 := dkwX3_village_8 ++ dktX3_village_9
def dkwX3_village_7 : List UInt8 := [180, 0, 36, 21, 4, 16, 20, 79, 42, 180, 0, 39, 21, 4, 16, 10, 79, 3, 54, 5, 21, 5, 42]
abbrev dktX3_village_7 : List UInt8 := dkwX3_village_7 ++ dktX3_village_8
def dkwX3_village_6 : List UInt8 := [27, 16, 100, 112, 79, 42, 180, 0, 20, 21, 4, 28, 79, 42, 180, 0, 24, 21, 4, 29, 79, 42]
abbrev dktX3_village_6 : List UInt8 := dkwX3_village_6 ++ dktX3_village_7
def dkwX3_village_5 : List UInt8 := [42, 180, 0, 11, 21, 4, 50, 5, 27, 16, 100, 108, 16, 100, 112, 79, 42, 180, 0, 11, 21, 4, 50, 6]
abbrev dktX3_village_5 : List UInt8 := dkwX3_village_5 ++ dktX3_village_6
def dkwX3_village_4 : List UInt8 := [3, 27, 19, 1, 25, 108, 79, 42, 180, 0, 11, 21, 4, 50, 4, 27, 17, 39, 16, 108, 16, 100, 112, 79]
abbrev dktX3_village_4 : List UInt8 := dkwX3_village_4 ++ dktX3_village_5
def dkwX3_village_3 : List UInt8 := [42, 180, 1, 14, 16, 8, 160, 0, 5, 2, 172, 42, 180, 1, 14, 54, 4, 42, 180, 0, 11, 21, 4, 50]
abbrev dktX3_village_3 : List UInt8 := dkwX3_village_3 ++ dktX3_village_4
def dkwX3_village_2 : List UInt8 := [28, 133, 10, 20, 1, 26, 184, 1, 18, 153, 0, 24, 29, 133, 9, 20, 1, 28, 184, 1, 18, 153, 0, 12]
abbrev dktX3_village_2 : List UInt8 := dkwX3_village_2 ++ dktX3_village_3
def dkwX3_village_1 : List UInt8 := [163, 0, 57, 27, 16, 100, 108, 16, 100, 112, 16, 40, 163, 0, 45, 27, 16, 100, 112, 16, 40, 163, 0, 36]
abbrev dktX3_village_1 : List UInt8 := dkwX3_village_1 ++ dktX3_village_2
def dkwX3_village_0 : List UInt8 := [27, 155, 0, 80, 27, 19, 1, 25, 108, 16, 40, 163, 0, 70, 27, 17, 39, 16, 108, 16, 100, 112, 16, 40]
abbrev dktX3_village_0 : List UInt8 := dkwX3_village_0 ++ dktX3_village_1
theorem dksX3_village_0 : cX3_village.data.toList.drop 0 = dktX3_village_0 := by decide +kernel
theorem dksX3_village_1 : cX3_village.data.toList.drop 24 = dktX3_village_1 := dk_seg dksX3_village_0 24 rfl rfl
theorem dksX3_village_2 : cX3_village.data.toList.drop 48 = dktX3_village_2 := dk_seg dksX3_village_1 24 rfl rfl
theorem dksX3_village_3 : cX3_village.data.toList.drop 72 = dktX3_village_3 := dk_seg dksX3_village_2 24 rfl rfl
theorem dksX3_village_4 : cX3_village.data.toList.drop 96 = dktX3_village_4 := dk_seg dksX3_village_3 24 rfl rfl
theorem dksX3_village_5 : cX3_village.data.toList.drop 120 = dktX3_village_5 := dk_seg dksX3_village_4 24 rfl rfl
theorem dksX3_village_6 : cX3_village.data.toList.drop 144 = dktX3_village_6 := dk_seg dksX3_village_5 24 rfl rfl
theorem dksX3_village_7 : cX3_village.data.toList.drop 166 = dktX3_village_7 := dk_seg dksX3_village_6 22 rfl rfl
theorem dksX3_village_8 : cX3_village.data.toList.drop 189 = dktX3_village_8 := dk_seg dksX3_village_7 23 rfl rfl
theorem dksX3_village_9 : cX3_village.data.toList.drop 213 = dktX3_village_9 := dk_seg dksX3_village_8 24 rfl rfl
theorem dX3_village_0 : decode cX3_village 0 = .ok (.iload_n 1, 1) := dk_27 (dk_at dksX3_village_0 0 rfl rfl)
theorem dX3_village_1 : decode cX3_village 1 = .ok (.ifCond .lt 80, 3) := dk_155 0 80 (dk_at dksX3_village_0 1 rfl rfl)
theorem dX3_village_4 : decode cX3_village 4 = .ok (.iload_n 1, 1) := dk_27 (dk_at dksX3_village_0 4 rfl rfl)
theorem dX3_village_5 : decode cX3_village 5 = .ok (.ldc_w 281, 3) := dk_19 1 25 (dk_at dksX3_village_0 5 rfl rfl)
theorem dX3_village_8 : decode cX3_village 8 = .ok (.idiv, 1) := dk_108 (dk_at dksX3_village_0 8 rfl rfl)
theorem dX3_village_9 : decode cX3_village 9 = .ok (.bipush 40, 2) := dk_16 40 (dk_at dksX3_village_0 9 rfl rfl)
theorem dX3_village_11 : decode cX3_village 11 = .ok (.if_icmp .gt 70, 3) := dk_163 0 70 (dk_at dksX3_village_0 11 rfl rfl)
theorem dX3_village_14 : decode cX3_village 14 = .ok (.iload_n 1, 1) := dk_27 (dk_at dksX3_village_0 14 rfl rfl)
theorem dX3_village_15 : decode cX3_village 15 = .ok (.sipush 10000, 3) := dk_17 39 16 (dk_at dksX3_village_0 15 rfl rfl)
theorem dX3_village_18 : decode cX3_village 18 = .ok (.idiv, 1) := dk_108 (dk_at dksX3_village_0 18 rfl rfl)
theorem dX3_village_19 : decode cX3_village 19 = .ok (.bipush 100, 2) := dk_16 100 (dk_at dksX3_village_0 19 rfl rfl)
theorem dX3_village_21 : decode cX3_village 21 = .ok (.irem, 1) := dk_112 (dk_at dksX3_village_0 21 rfl rfl)
theorem dX3_village_22 : decode cX3_village 22 = .ok (.bipush 40, 2) := dk_16 40 (dk_at dksX3_village_0 22 rfl rfl)
theorem dX3_village_24 : decode cX3_village 24 = .ok (.if_icmp .gt 57, 3) := dk_163 0 57 (dk_at dksX3_village_1 0 rfl rfl)
theorem dX3_village_27 : decode cX3_village 27 = .ok (.iload_n 1, 1) := dk_27 (dk_at dksX3_village_1 3 rfl rfl)
theorem dX3_village_28 : decode cX3_village 28 = .ok (.bipush 100, 2) := dk_16 100 (dk_at dksX3_village_1 4 rfl rfl)
theorem dX3_village_30 : decode cX3_village 30 = .ok (.idiv, 1) := dk_108 (dk_at dksX3_village_1 6 rfl rfl)
theorem dX3_village_31 : decode cX3_village 31 = .ok (.bipush 100, 2) := dk_16 100 (dk_at dksX3_village_1 7 rfl rfl)
theorem dX3_village_33 : decode cX3_village 33 = .ok (.irem, 1) := dk_112 (dk_at dksX3_village_1 9 rfl rfl)
theorem dX3_village_34 : decode cX3_village 34 = .ok (.bipush 40, 2) := dk_16 40 (dk_at dksX3_village_1 10 rfl rfl)
theorem dX3_village_36 : decode cX3_village 36 = .ok (.if_icmp .gt 45, 3) := dk_163 0 45 (dk_at dksX3_village_1 12 rfl rfl)
theorem dX3_village_39 : decode cX3_village 39 = .ok (.iload_n 1, 1) := dk_27 (dk_at dksX3_village_1 15 rfl rfl)
theorem dX3_village_40 : decode cX3_village 40 = .ok (.bipush 100, 2) := dk_16 100 (dk_at dksX3_village_1 16 rfl rfl)
theorem dX3_village_42 : decode cX3_village 42 = .ok (.irem, 1) := dk_112 (dk_at dksX3_village_1 18 rfl rfl)
theorem dX3_village_43 : decode cX3_village 43 = .ok (.bipush 40, 2) := dk_16 40 (dk_at dksX3_village_1 19 rfl rfl)
theorem dX3_village_45 : decode cX3_village 45 = .ok (.if_icmp .gt 36, 3) := dk_163 0 36 (dk_at dksX3_village_1 21 rfl rfl)
theorem dX3_village_48 : decode cX3_village 48 = .ok (.iload_n 2, 1) := dk_28 (dk_at dksX3_village_2 0 rfl rfl)
theorem dX3_village_49 : decode cX3_village 49 = .ok (.i2l, 1) := dk_133 (dk_at dksX3_village_2 1 rfl rfl)
theorem dX3_village_50 : decode cX3_village 50 = .ok (.lconst 1, 1) := dk_10 (dk_at dksX3_village_2 2 rfl rfl)
theorem dX3_village_51 : decode cX3_village 51 = .ok (.ldc2_w 282, 3) := dk_20 1 26 (dk_at dksX3_village_2 3 rfl rfl)
theorem dX3_village_54 : decode cX3_village 54 = .ok (.invokestatic 274, 3) := dk_184 1 18 (dk_at dksX3_village_2 6 rfl rfl)
theorem dX3_village_57 : decode cX3_village 57 = .ok (.ifCond .eq 24, 3) := dk_153 0 24 (dk_at dksX3_village_2 9 rfl rfl)
theorem dX3_village_60 : decode cX3_village 60 = .ok (.iload_n 3, 1) := dk_29 (dk_at dksX3_village_2 12 rfl rfl)
theorem dX3_village_61 : decode cX3_village 61 = .ok (.i2l, 1) := dk_133 (dk_at dksX3_village_2 13 rfl rfl)
theorem dX3_village_62 : decode cX3_village 62 = .ok (.lconst 0, 1) := dk_9 (dk_at dksX3_village_2 14 rfl rfl)
theorem dX3_village_63 : decode cX3_village 63 = .ok (.ldc2_w 284, 3) := dk_20 1 28 (dk_at dksX3_village_2 15 rfl rfl)
theorem dX3_village_66 : decode cX3_village 66 = .ok (.invokestatic 274, 3) := dk_184 1 18 (dk_at dksX3_village_2 18 rfl rfl)
theorem dX3_village_69 : decode cX3_village 69 = .ok (.ifCond .eq 12, 3) := dk_153 0 12 (dk_at dksX3_village_2 21 rfl rfl)
theorem dX3_village_72 : decode cX3_village 72 = .ok (.aload_n 0, 1) := dk_42 (dk_at dksX3_village_3 0 rfl rfl)
theorem dX3_village_73 : decode cX3_village 73 = .ok (.getfield 270, 3) := dk_180 1 14 (dk_at dksX3_village_3 1 rfl rfl)
theorem dX3_village_76 : decode cX3_village 76 = .ok (.bipush 8, 2) := dk_16 8 (dk_at dksX3_village_3 4 rfl rfl)
theorem dX3_village_78 : decode cX3_village 78 = .ok (.if_icmp .ne 5, 3) := dk_160 0 5 (dk_at dksX3_village_3 6 rfl rfl)
theorem dX3_village_81 : decode cX3_village 81 = .ok (.iconst (-1), 1) := dk_2 (dk_at dksX3_village_3 9 rfl rfl)
theorem dX3_village_82 : decode cX3_village 82 = .ok (.ireturn, 1) := dk_172 (dk_at dksX3_village_3 10 rfl rfl)
theorem dX3_village_83 : decode cX3_village 83 = .ok (.aload_n 0, 1) := dk_42 (dk_at dksX3_village_3 11 rfl rfl)
theorem dX3_village_84 : decode cX3_village 84 = .ok (.getfield 270, 3) := dk_180 1 14 (dk_at dksX3_village_3 12 rfl rfl)
theorem dX3_village_87 : decode cX3_village 87 = .ok (.istore 4, 2) := dk_54 4 (dk_at dksX3_village_3 15 rfl rfl)
theorem dX3_village_89 : decode cX3_village 89 = .ok (.aload_n 0, 1) := dk_42 (dk_at dksX3_village_3 17 rfl rfl)
theorem dX3_village_90 : decode cX3_village 90 = .ok (.getfield 11, 3) := dk_180 0 11 (dk_at dksX3_village_3 18 rfl rfl)
theorem dX3_village_93 : decode cX3_village 93 = .ok (.iload 4, 2) := dk_21 4 (dk_at dksX3_village_3 21 rfl rfl)
theorem dX3_village_95 : decode cX3_village 95 = .ok (.aaload, 1) := dk_50 (dk_at dksX3_village_3 23 rfl rfl)
theorem dX3_village_96 : decode cX3_village 96 = .ok (.iconst 0, 1) := dk_3 (dk_at dksX3_village_4 0 rfl rfl)
theorem dX3_village_97 : decode cX3_village 97 = .ok (.iload_n 1, 1) := dk_27 (dk_at dksX3_village_4 1 rfl rfl)
theorem dX3_village_98 : decode cX3_village 98 = .ok (.ldc_w 281, 3) := dk_19 1 25 (dk_at dksX3_village_4 2 rfl rfl)
theorem dX3_village_101 : decode cX3_village 101 = .ok (.idiv, 1) := dk_108 (dk_at dksX3_village_4 5 rfl rfl)
theorem dX3_village_102 : decode cX3_village 102 = .ok (.iastore, 1) := dk_79 (dk_at dksX3_village_4 6 rfl rfl)
theorem dX3_village_103 : decode cX3_village 103 = .ok (.aload_n 0, 1) := dk_42 (dk_at dksX3_village_4 7 rfl rfl)
theorem dX3_village_104 : decode cX3_village 104 = .ok (.getfield 11, 3) := dk_180 0 11 (dk_at dksX3_village_4 8 rfl rfl)
theorem dX3_village_107 : decode cX3_village 107 = .ok (.iload 4, 2) := dk_21 4 (dk_at dksX3_village_4 11 rfl rfl)
theorem dX3_village_109 : decode cX3_village 109 = .ok (.aaload, 1) := dk_50 (dk_at dksX3_village_4 13 rfl rfl)
theorem dX3_village_110 : decode cX3_village 110 = .ok (.iconst 1, 1) := dk_4 (dk_at dksX3_village_4 14 rfl rfl)
theorem dX3_village_111 : decode cX3_village 111 = .ok (.iload_n 1, 1) := dk_27 (dk_at dksX3_village_4 15 rfl rfl)
theorem dX3_village_112 : decode cX3_village 112 = .ok (.sipush 10000, 3) := dk_17 39 16 (dk_at dksX3_village_4 16 rfl rfl)
theorem dX3_village_115 : decode cX3_village 115 = .ok (.idiv, 1) := dk_108 (dk_at dksX3_village_4 19 rfl rfl)
theorem dX3_village_116 : decode cX3_village 116 = .ok (.bipush 100, 2) := dk_16 100 (dk_at dksX3_village_4 20 rfl rfl)
theorem dX3_village_118 : decode cX3_village 118 = .ok (.irem, 1) := dk_112 (dk_at dksX3_village_4 22 rfl rfl)
theorem dX3_village_119 : decode cX3_village 119 = .ok (.iastore, 1) := dk_79 (dk_at dksX3_village_4 23 rfl rfl)
theorem dX3_village_120 : decode cX3_village 120 = .ok (.aload_n 0, 1) := dk_42 (dk_at dksX3_village_5 0 rfl rfl)
theorem dX3_village_121 : decode cX3_village 121 = .ok (.getfield 11, 3) := dk_180 0 11 (dk_at dksX3_village_5 1 rfl rfl)
theorem dX3_village_124 : decode cX3_village 124 = .ok (.iload 4, 2) := dk_21 4 (dk_at dksX3_village_5 4 rfl rfl)
theorem dX3_village_126 : decode cX3_village 126 = .ok (.aaload, 1) := dk_50 (dk_at dksX3_village_5 6 rfl rfl)
theorem dX3_village_127 : decode cX3_village 127 = .ok (.iconst 2, 1) := dk_5 (dk_at dksX3_village_5 7 rfl rfl)
theorem dX3_village_128 : decode cX3_village 128 = .ok (.iload_n 1, 1) := dk_27 (dk_at dksX3_village_5 8 rfl rfl)
theorem dX3_village_129 : decode cX3_village 129 = .ok (.bipush 100, 2) := dk_16 100 (dk_at dksX3_village_5 9 rfl rfl)
theorem dX3_village_131 : decode cX3_village 131 = .ok (.idiv, 1) := dk_108 (dk_at dksX3_village_5 11 rfl rfl)
theorem dX3_village_132 : decode cX3_village 132 = .ok (.bipush 100, 2) := dk_16 100 (dk_at dksX3_village_5 12 rfl rfl)
theorem dX3_village_134 : decode cX3_village 134 = .ok (.irem, 1) := dk_112 (dk_at dksX3_village_5 14 rfl rfl)
theorem dX3_village_135 : decode cX3_village 135 = .ok (.iastore, 1) := dk_79 (dk_at dksX3_village_5 15 rfl rfl)
theorem dX3_village_136 : decode cX3_village 136 = .ok (.aload_n 0, 1) := dk_42 (dk_at dksX3_village_5 16 rfl rfl)
theorem dX3_village_137 : decode cX3_village 137 = .ok (.getfield 11, 3) := dk_180 0 11 (dk_at dksX3_village_5 17 rfl rfl)
theorem dX3_village_140 : decode cX3_village 140 = .ok (.iload 4, 2) := dk_21 4 (dk_at dksX3_village_5 20 rfl rfl)
theorem dX3_village_142 : decode cX3_village 142 = .ok (.aaload, 1) := dk_50 (dk_at dksX3_village_5 22 rfl rfl)
theorem dX3_village_143 : decode cX3_village 143 = .ok (.iconst 3, 1) := dk_6 (dk_at dksX3_village_5 23 rfl rfl)
theorem dX3_village_144 : decode cX3_village 144 = .ok (.iload_n 1, 1) := dk_27 (dk_at dksX3_village_6 0 rfl rfl)
theorem dX3_village_145 : decode cX3_village 145 = .ok (.bipush 100, 2) := dk_16 100 (dk_at dksX3_village_6 1 rfl rfl)
theorem dX3_village_147 : decode cX3_village 147 = .ok (.irem, 1) := dk_112 (dk_at dksX3_village_6 3 rfl rfl)
theorem dX3_village_148 : decode cX3_village 148 = .ok (.iastore, 1) := dk_79 (dk_at dksX3_village_6 4 rfl rfl)
theorem dX3_village_149 : decode cX3_village 149 = .ok (.aload_n 0, 1) := dk_42 (dk_at dksX3_village_6 5 rfl rfl)
theorem dX3_village_150 : decode cX3_village 150 = .ok (.getfield 20, 3) := dk_180 0 20 (dk_at dksX3_village_6 6 rfl rfl)
theorem dX3_village_153 : decode cX3_village 153 = .ok (.iload 4, 2) := dk_21 4 (dk_at dksX3_village_6 9 rfl rfl)
theorem dX3_village_155 : decode cX3_village 155 = .ok (.iload_n 2, 1) := dk_28 (dk_at dksX3_village_6 11 rfl rfl)
theorem dX3_village_156 : decode cX3_village 156 = .ok (.iastore, 1) := dk_79 (dk_at dksX3_village_6 12 rfl rfl)
theorem dX3_village_157 : decode cX3_village 157 = .ok (.aload_n 0, 1) := dk_42 (dk_at dksX3_village_6 13 rfl rfl)
theorem dX3_village_158 : decode cX3_village 158 = .ok (.getfield 24, 3) := dk_180 0 24 (dk_at dksX3_village_6 14 rfl rfl)
theorem dX3_village_161 : decode cX3_village 161 = .ok (.iload 4, 2) := dk_21 4 (dk_at dksX3_village_6 17 rfl rfl)
theorem dX3_village_163 : decode cX3_village 163 = .ok (.iload_n 3, 1) := dk_29 (dk_at dksX3_village_6 19 rfl rfl)
theorem dX3_village_164 : decode cX3_village 164 = .ok (.iastore, 1) := dk_79 (dk_at dksX3_village_6 20 rfl rfl)
theorem dX3_village_165 : decode cX3_village 165 = .ok (.aload_n 0, 1) := dk_42 (dk_at dksX3_village_6 21 rfl rfl)
theorem dX3_village_166 : decode cX3_village 166 = .ok (.getfield 36, 3) := dk_180 0 36 (dk_at dksX3_village_7 0 rfl rfl)
theorem dX3_village_169 : decode cX3_village 169 = .ok (.iload 4, 2) := dk_21 4 (dk_at dksX3_village_7 3 rfl rfl)
theorem dX3_village_171 : decode cX3_village 171 = .ok (.bipush 20, 2) := dk_16 20 (dk_at dksX3_village_7 5 rfl rfl)
theorem dX3_village_173 : decode cX3_village 173 = .ok (.iastore, 1) := dk_79 (dk_at dksX3_village_7 7 rfl rfl)
theorem dX3_village_174 : decode cX3_village 174 = .ok (.aload_n 0, 1) := dk_42 (dk_at dksX3_village_7 8 rfl rfl)
theorem dX3_village_175 : decode cX3_village 175 = .ok (.getfield 39, 3) := dk_180 0 39 (dk_at dksX3_village_7 9 rfl rfl)
theorem dX3_village_178 : decode cX3_village 178 = .ok (.iload 4, 2) := dk_21 4 (dk_at dksX3_village_7 12 rfl rfl)
theorem dX3_village_180 : decode cX3_village 180 = .ok (.bipush 10, 2) := dk_16 10 (dk_at dksX3_village_7 14 rfl rfl)
theorem dX3_village_182 : decode cX3_village 182 = .ok (.iastore, 1) := dk_79 (dk_at dksX3_village_7 16 rfl rfl)
theorem dX3_village_183 : decode cX3_village 183 = .ok (.iconst 0, 1) := dk_3 (dk_at dksX3_village_7 17 rfl rfl)
theorem dX3_village_184 : decode cX3_village 184 = .ok (.istore 5, 2) := dk_54 5 (dk_at dksX3_village_7 18 rfl rfl)
theorem dX3_village_186 : decode cX3_village 186 = .ok (.iload 5, 2) := dk_21 5 (dk_at dksX3_village_7 20 rfl rfl)
theorem dX3_village_188 : decode cX3_village 188 = .ok (.aload_n 0, 1) := dk_42 (dk_at dksX3_village_7 22 rfl rfl)
theorem dX3_village_189 : decode cX3_village 189 = .ok (.getfield 286, 3) := dk_180 1 30 (dk_at dksX3_village_8 0 rfl rfl)
theorem dX3_village_192 : decode cX3_village 192 = .ok (.if_icmp .gt 21, 3) := dk_163 0 21 (dk_at dksX3_village_8 3 rfl rfl)
theorem dX3_village_195 : decode cX3_village 195 = .ok (.aload_n 0, 1) := dk_42 (dk_at dksX3_village_8 6 rfl rfl)
theorem dX3_village_196 : decode cX3_village 196 = .ok (.getfield 17, 3) := dk_180 0 17 (dk_at dksX3_village_8 7 rfl rfl)
theorem dX3_village_199 : decode cX3_village 199 = .ok (.iload 4, 2) := dk_21 4 (dk_at dksX3_village_8 10 rfl rfl)
theorem dX3_village_201 : decode cX3_village 201 = .ok (.aaload, 1) := dk_50 (dk_at dksX3_village_8 12 rfl rfl)
theorem dX3_village_202 : decode cX3_village 202 = .ok (.iload 5, 2) := dk_21 5 (dk_at dksX3_village_8 13 rfl rfl)
theorem dX3_village_204 : decode cX3_village 204 = .ok (.bipush 10, 2) := dk_16 10 (dk_at dksX3_village_8 15 rfl rfl)
theorem dX3_village_206 : decode cX3_village 206 = .ok (.iastore, 1) := dk_79 (dk_at dksX3_village_8 17 rfl rfl)
theorem dX3_village_207 : decode cX3_village 207 = .ok (.iinc 5 1, 3) := dk_132 5 1 (dk_at dksX3_village_8 18 rfl rfl)
theorem dX3_village_210 : decode cX3_village 210 = .ok (.goto (-24), 3) := dk_167 255 232 (dk_at dksX3_village_8 21 rfl rfl)
theorem dX3_village_213 : decode cX3_village 213 = .ok (.aload_n 0, 1) := dk_42 (dk_at dksX3_village_9 0 rfl rfl)
theorem dX3_village_214 : decode cX3_village 214 = .ok (.dup, 1) := dk_89 (dk_at dksX3_village_9 1 rfl rfl)
theorem dX3_village_215 : decode cX3_village 215 = .ok (.getfield 270, 3) := dk_180 1 14 (dk_at dksX3_village_9 2 rfl rfl)
theorem dX3_village_218 : decode cX3_village 218 = .ok (.iconst 1, 1) := dk_4 (dk_at dksX3_village_9 5 rfl rfl)
theorem dX3_village_219 : decode cX3_village 219 = .ok (.iadd, 1) := dk_96 (dk_at dksX3_village_9 6 rfl rfl)
theorem dX3_village_220 : decode cX3_village 220 = .ok (.putfield 270, 3) := dk_181 1 14 (dk_at dksX3_village_9 7 rfl rfl)
theorem dX3_village_223 : decode cX3_village 223 = .ok (.iload 4, 2) := dk_21 4 (dk_at dksX3_village_9 10 rfl rfl)
theorem dX3_village_225 : decode cX3_village 225 = .ok (.ireturn, 1) := dk_172 (dk_at dksX3_village_9 12 rfl rfl)
abbrev cX3_in : ByteArray := prog_14_method_2_code
def yX3_in : MethodName := ⟨RX3, "in", "(JJJ)Z"⟩
def dkwX3_in_0 : List UInt8 := [30, 32, 148, 155, 0, 14, 30, 22, 4, 148, 157, 0, 7, 4, 167, 0, 4, 3, 172]
abbrev dktX3_in_0 : List UInt8 := dkwX3_in_0 ++ []
theorem dksX3_in_0 : cX3_in.data.toList.drop 0 = dktX3_in_0 := by decide +kernel
theorem dX3_in_0 : decode cX3_in 0 = .ok (.lload_n 0, 1) := dk_30 (dk_at dksX3_in_0 0 rfl rfl)
theorem dX3_in_1 : decode cX3_in 1 = .ok (.lload_n 2, 1) := dk_32 (dk_at dksX3_in_0 1 rfl rfl)
theorem dX3_in_2 : decode cX3_in 2 = .ok (.lcmp, 1) := dk_148 (dk_at dksX3_in_0 2 rfl rfl)
theorem dX3_in_3 : decode cX3_in 3 = .ok (.ifCond .lt 14, 3) := dk_155 0 14 (dk_at dksX3_in_0 3 rfl rfl)
theorem dX3_in_6 : decode cX3_in 6 = .ok (.lload_n 0, 1) := dk_30 (dk_at dksX3_in_0 6 rfl rfl)
theorem dX3_in_7 : decode cX3_in 7 = .ok (.lload 4, 2) := dk_22 4 (dk_at dksX3_in_0 7 rfl rfl)
theorem dX3_in_9 : decode cX3_in 9 = .ok (.lcmp, 1) := dk_148 (dk_at dksX3_in_0 9 rfl rfl)
theorem dX3_in_10 : decode cX3_in 10 = .ok (.ifCond .gt 7, 3) := dk_157 0 7 (dk_at dksX3_in_0 10 rfl rfl)
theorem dX3_in_13 : decode cX3_in 13 = .ok (.iconst 1, 1) := dk_4 (dk_at dksX3_in_0 13 rfl rfl)
theorem dX3_in_14 : decode cX3_in 14 = .ok (.goto 4, 3) := dk_167 0 4 (dk_at dksX3_in_0 14 rfl rfl)
theorem dX3_in_17 : decode cX3_in 17 = .ok (.iconst 0, 1) := dk_3 (dk_at dksX3_in_0 17 rfl rfl)
theorem dX3_in_18 : decode cX3_in 18 = .ok (.ireturn, 1) := dk_172 (dk_at dksX3_in_0 18 rfl rfl)
abbrev cX3_road : ByteArray := prog_14_method_7_code
def yX3_road : MethodName := ⟨RX3, "road", "(III)Z"⟩
def dkwX3_road_2 : List UInt8 := [28, 50, 27, 29, 79, 4, 172]
abbrev dktX3_road_2 : List UInt8 := dkwX3_road_2 ++ []
def dkwX3_road_1 : List UInt8 := [20, 1, 26, 184, 1, 18, 154, 0, 5, 3, 172, 42, 180, 0, 14, 27, 50, 28, 29, 79, 42, 180, 0, 14]
abbrev dktX3_road_1 : List UInt8 := dkwX3_road_1 ++ dktX3_road_2
def dkwX3_road_0 : List UInt8 := [42, 27, 182, 1, 33, 153, 0, 28, 42, 28, 182, 1, 33, 153, 0, 20, 27, 28, 159, 0, 15, 29, 133, 10]
abbrev dktX3_road_0 : List UInt8 := dkwX3_road_0 ++ dktX3_road_1
theorem dksX3_road_0 : cX3_road.data.toList.drop 0 = dktX3_road_0 := by decide +kernel
theorem dksX3_road_1 : cX3_road.data.toList.drop 24 = dktX3_road_1 := dk_seg dksX3_road_0 24 rfl rfl
theorem dksX3_road_2 : cX3_road.data.toList.drop 48 = dktX3_road_2 := dk_seg dksX3_road_1 24 rfl rfl
theorem dX3_road_0 : decode cX3_road 0 = .ok (.aload_n 0, 1) := dk_42 (dk_at dksX3_road_0 0 rfl rfl)
theorem dX3_road_1 : decode cX3_road 1 = .ok (.iload_n 1, 1) := dk_27 (dk_at dksX3_road_0 1 rfl rfl)
theorem dX3_road_2 : decode cX3_road 2 = .ok (.invokevirtual 289, 3) := dk_182 1 33 (dk_at dksX3_road_0 2 rfl rfl)
theorem dX3_road_5 : decode cX3_road 5 = .ok (.ifCond .eq 28, 3) := dk_153 0 28 (dk_at dksX3_road_0 5 rfl rfl)
theorem dX3_road_8 : decode cX3_road 8 = .ok (.aload_n 0, 1) := dk_42 (dk_at dksX3_road_0 8 rfl rfl)
theorem dX3_road_9 : decode cX3_road 9 = .ok (.iload_n 2, 1) := dk_28 (dk_at dksX3_road_0 9 rfl rfl)
theorem dX3_road_10 : decode cX3_road 10 = .ok (.invokevirtual 289, 3) := dk_182 1 33 (dk_at dksX3_road_0 10 rfl rfl)
theorem dX3_road_13 : decode cX3_road 13 = .ok (.ifCond .eq 20, 3) := dk_153 0 20 (dk_at dksX3_road_0 13 rfl rfl)
theorem dX3_road_16 : decode cX3_road 16 = .ok (.iload_n 1, 1) := dk_27 (dk_at dksX3_road_0 16 rfl rfl)
theorem dX3_road_17 : decode cX3_road 17 = .ok (.iload_n 2, 1) := dk_28 (dk_at dksX3_road_0 17 rfl rfl)
theorem dX3_road_18 : decode cX3_road 18 = .ok (.if_icmp .eq 15, 3) := dk_159 0 15 (dk_at dksX3_road_0 18 rfl rfl)
theorem dX3_road_21 : decode cX3_road 21 = .ok (.iload_n 3, 1) := dk_29 (dk_at dksX3_road_0 21 rfl rfl)
theorem dX3_road_22 : decode cX3_road 22 = .ok (.i2l, 1) := dk_133 (dk_at dksX3_road_0 22 rfl rfl)
theorem dX3_road_23 : decode cX3_road 23 = .ok (.lconst 1, 1) := dk_10 (dk_at dksX3_road_0 23 rfl rfl)
theorem dX3_road_24 : decode cX3_road 24 = .ok (.ldc2_w 282, 3) := dk_20 1 26 (dk_at dksX3_road_1 0 rfl rfl)
theorem dX3_road_27 : decode cX3_road 27 = .ok (.invokestatic 274, 3) := dk_184 1 18 (dk_at dksX3_road_1 3 rfl rfl)
theorem dX3_road_30 : decode cX3_road 30 = .ok (.ifCond .ne 5, 3) := dk_154 0 5 (dk_at dksX3_road_1 6 rfl rfl)
theorem dX3_road_33 : decode cX3_road 33 = .ok (.iconst 0, 1) := dk_3 (dk_at dksX3_road_1 9 rfl rfl)
theorem dX3_road_34 : decode cX3_road 34 = .ok (.ireturn, 1) := dk_172 (dk_at dksX3_road_1 10 rfl rfl)
theorem dX3_road_35 : decode cX3_road 35 = .ok (.aload_n 0, 1) := dk_42 (dk_at dksX3_road_1 11 rfl rfl)
theorem dX3_road_36 : decode cX3_road 36 = .ok (.getfield 14, 3) := dk_180 0 14 (dk_at dksX3_road_1 12 rfl rfl)
theorem dX3_road_39 : decode cX3_road 39 = .ok (.iload_n 1, 1) := dk_27 (dk_at dksX3_road_1 15 rfl rfl)
theorem dX3_road_40 : decode cX3_road 40 = .ok (.aaload, 1) := dk_50 (dk_at dksX3_road_1 16 rfl rfl)
theorem dX3_road_41 : decode cX3_road 41 = .ok (.iload_n 2, 1) := dk_28 (dk_at dksX3_road_1 17 rfl rfl)
theorem dX3_road_42 : decode cX3_road 42 = .ok (.iload_n 3, 1) := dk_29 (dk_at dksX3_road_1 18 rfl rfl)
theorem dX3_road_43 : decode cX3_road 43 = .ok (.iastore, 1) := dk_79 (dk_at dksX3_road_1 19 rfl rfl)
theorem dX3_road_44 : decode cX3_road 44 = .ok (.aload_n 0, 1) := dk_42 (dk_at dksX3_road_1 20 rfl rfl)
theorem dX3_road_45 : decode cX3_road 45 = .ok (.getfield 14, 3) := dk_180 0 14 (dk_at dksX3_road_1 21 rfl rfl)
theorem dX3_road_48 : decode cX3_road 48 = .ok (.iload_n 2, 1) := dk_28 (dk_at dksX3_road_2 0 rfl rfl)
theorem dX3_road_49 : decode cX3_road 49 = .ok (.aaload, 1) := dk_50 (dk_at dksX3_road_2 1 rfl rfl)
theorem dX3_road_50 : decode cX3_road 50 = .ok (.iload_n 1, 1) := dk_27 (dk_at dksX3_road_2 2 rfl rfl)
theorem dX3_road_51 : decode cX3_road 51 = .ok (.iload_n 3, 1) := dk_29 (dk_at dksX3_road_2 3 rfl rfl)
theorem dX3_road_52 : decode cX3_road 52 = .ok (.iastore, 1) := dk_79 (dk_at dksX3_road_2 4 rfl rfl)
theorem dX3_road_53 : decode cX3_road 53 = .ok (.iconst 1, 1) := dk_4 (dk_at dksX3_road_2 5 rfl rfl)
theorem dX3_road_54 : decode cX3_road 54 = .ok (.ireturn, 1) := dk_172 (dk_at dksX3_road_2 6 rfl rfl)
abbrev cX3_isVillage : ByteArray := prog_14_method_3_code
def yX3_isVillage : MethodName := ⟨RX3, "isVillage", "(I)Z"⟩
def dkwX3_isVillage_0 : List UInt8 := [27, 133, 9, 42, 180, 1, 14, 4, 100, 133, 184, 1, 18, 172]
abbrev dktX3_isVillage_0 : List UInt8 := dkwX3_isVillage_0 ++ []
theorem dksX3_isVillage_0 : cX3_isVillage.data.toList.drop 0 = dktX3_isVillage_0 := by decide +kernel
theorem dX3_isVillage_0 : decode cX3_isVillage 0 = .ok (.iload_n 1, 1) := dk_27 (dk_at dksX3_isVillage_0 0 rfl rfl)
theorem dX3_isVillage_1 : decode cX3_isVillage 1 = .ok (.i2l, 1) := dk_133 (dk_at dksX3_isVillage_0 1 rfl rfl)
theorem dX3_isVillage_2 : decode cX3_isVillage 2 = .ok (.lconst 0, 1) := dk_9 (dk_at dksX3_isVillage_0 2 rfl rfl)
theorem dX3_isVillage_3 : decode cX3_isVillage 3 = .ok (.aload_n 0, 1) := dk_42 (dk_at dksX3_isVillage_0 3 rfl rfl)
theorem dX3_isVillage_4 : decode cX3_isVillage 4 = .ok (.getfield 270, 3) := dk_180 1 14 (dk_at dksX3_isVillage_0 4 rfl rfl)
theorem dX3_isVillage_7 : decode cX3_isVillage 7 = .ok (.iconst 1, 1) := dk_4 (dk_at dksX3_isVillage_0 7 rfl rfl)
theorem dX3_isVillage_8 : decode cX3_isVillage 8 = .ok (.isub, 1) := dk_100 (dk_at dksX3_isVillage_0 8 rfl rfl)
theorem dX3_isVillage_9 : decode cX3_isVillage 9 = .ok (.i2l, 1) := dk_133 (dk_at dksX3_isVillage_0 9 rfl rfl)
theorem dX3_isVillage_10 : decode cX3_isVillage 10 = .ok (.invokestatic 274, 3) := dk_184 1 18 (dk_at dksX3_isVillage_0 10 rfl rfl)
theorem dX3_isVillage_13 : decode cX3_isVillage 13 = .ok (.ireturn, 1) := dk_172 (dk_at dksX3_isVillage_0 13 rfl rfl)
abbrev cX3_far : ByteArray := prog_14_method_9_code
def yX3_far : MethodName := ⟨RX3, "far", "(II)I"⟩
def dkwX3_far_1 : List UInt8 := [167, 0, 4, 2, 172]
abbrev dktX3_far_1 : List UInt8 := dkwX3_far_1 ++ []
def dkwX3_far_0 : List UInt8 := [42, 27, 182, 1, 33, 153, 0, 20, 42, 28, 182, 1, 33, 153, 0, 12, 42, 27, 28, 182, 1, 37]
abbrev dktX3_far_0 : List UInt8 := dkwX3_far_0 ++ dktX3_far_1
theorem dksX3_far_0 : cX3_far.data.toList.drop 0 = dktX3_far_0 := by decide +kernel
theorem dksX3_far_1 : cX3_far.data.toList.drop 22 = dktX3_far_1 := dk_seg dksX3_far_0 22 rfl rfl
theorem dX3_far_0 : decode cX3_far 0 = .ok (.aload_n 0, 1) := dk_42 (dk_at dksX3_far_0 0 rfl rfl)
theorem dX3_far_1 : decode cX3_far 1 = .ok (.iload_n 1, 1) := dk_27 (dk_at dksX3_far_0 1 rfl rfl)
theorem dX3_far_2 : decode cX3_far 2 = .ok (.invokevirtual 289, 3) := dk_182 1 33 (dk_at dksX3_far_0 2 rfl rfl)
theorem dX3_far_5 : decode cX3_far 5 = .ok (.ifCond .eq 20, 3) := dk_153 0 20 (dk_at dksX3_far_0 5 rfl rfl)
theorem dX3_far_8 : decode cX3_far 8 = .ok (.aload_n 0, 1) := dk_42 (dk_at dksX3_far_0 8 rfl rfl)
theorem dX3_far_9 : decode cX3_far 9 = .ok (.iload_n 2, 1) := dk_28 (dk_at dksX3_far_0 9 rfl rfl)
theorem dX3_far_10 : decode cX3_far 10 = .ok (.invokevirtual 289, 3) := dk_182 1 33 (dk_at dksX3_far_0 10 rfl rfl)
theorem dX3_far_13 : decode cX3_far 13 = .ok (.ifCond .eq 12, 3) := dk_153 0 12 (dk_at dksX3_far_0 13 rfl rfl)
theorem dX3_far_16 : decode cX3_far 16 = .ok (.aload_n 0, 1) := dk_42 (dk_at dksX3_far_0 16 rfl rfl)
theorem dX3_far_17 : decode cX3_far 17 = .ok (.iload_n 1, 1) := dk_27 (dk_at dksX3_far_0 17 rfl rfl)
theorem dX3_far_18 : decode cX3_far 18 = .ok (.iload_n 2, 1) := dk_28 (dk_at dksX3_far_0 18 rfl rfl)
theorem dX3_far_19 : decode cX3_far 19 = .ok (.invokevirtual 293, 3) := dk_182 1 37 (dk_at dksX3_far_0 19 rfl rfl)
theorem dX3_far_22 : decode cX3_far 22 = .ok (.goto 4, 3) := dk_167 0 4 (dk_at dksX3_far_1 0 rfl rfl)
theorem dX3_far_25 : decode cX3_far 25 = .ok (.iconst (-1), 1) := dk_2 (dk_at dksX3_far_1 3 rfl rfl)
theorem dX3_far_26 : decode cX3_far 26 = .ok (.ireturn, 1) := dk_172 (dk_at dksX3_far_1 4 rfl rfl)
abbrev cX3_farOf : ByteArray := prog_14_method_8_code
def yX3_farOf : MethodName := ⟨RX3, "farOf", "(II)I"⟩
def dkwX3_farOf_7 : List UInt8 := [167, 255, 135, 132, 3, 1, 167, 255, 118, 42, 180, 0, 118, 28, 46, 172]
abbrev dktX3_farOf_7 : List UInt8 := dkwX3_farOf_7 ++ []
def dkwX3_farOf_6 : List UInt8 := [21, 4, 46, 42, 180, 0, 14, 21, 4, 50, 21, 5, 46, 96, 79, 132, 5, 1, 167, 255, 153, 132, 4, 1]
abbrev dktX3_farOf_6 : List UInt8 := dkwX3_farOf_6 ++ dktX3_farOf_7
def dkwX3_farOf_5 : List UInt8 := [21, 5, 46, 96, 42, 180, 0, 118, 21, 5, 46, 162, 0, 28, 42, 180, 0, 118, 21, 5, 42, 180, 0, 118]
abbrev dktX3_farOf_5 : List UInt8 := dkwX3_farOf_5 ++ dktX3_farOf_6
def dkwX3_farOf_4 : List UInt8 := [180, 0, 118, 21, 5, 46, 2, 159, 0, 31, 42, 180, 0, 118, 21, 4, 46, 42, 180, 0, 14, 21, 4, 50]
abbrev dktX3_farOf_4 : List UInt8 := dkwX3_farOf_4 ++ dktX3_farOf_5
def dkwX3_farOf_3 : List UInt8 := [46, 2, 159, 0, 83, 42, 180, 0, 14, 21, 4, 50, 21, 5, 46, 154, 0, 6, 167, 0, 67, 42]
abbrev dktX3_farOf_3 : List UInt8 := dkwX3_farOf_3 ++ dktX3_farOf_4
def dkwX3_farOf_2 : List UInt8 := [180, 1, 14, 162, 0, 118, 3, 54, 5, 21, 5, 42, 180, 1, 14, 162, 0, 100, 42, 180, 0, 118, 21, 4]
abbrev dktX3_farOf_2 : List UInt8 := dkwX3_farOf_2 ++ dktX3_farOf_3
def dkwX3_farOf_1 : List UInt8 := [2, 79, 132, 3, 1, 167, 255, 229, 3, 62, 29, 42, 180, 1, 14, 162, 0, 136, 3, 54, 4, 21, 4, 42]
abbrev dktX3_farOf_1 : List UInt8 := dkwX3_farOf_1 ++ dktX3_farOf_2
def dkwX3_farOf_0 : List UInt8 := [3, 62, 29, 42, 180, 1, 14, 162, 0, 25, 42, 180, 0, 118, 29, 29, 27, 160, 0, 7, 3, 167, 0, 4]
abbrev dktX3_farOf_0 : List UInt8 := dkwX3_farOf_0 ++ dktX3_farOf_1
theorem dksX3_farOf_0 : cX3_farOf.data.toList.drop 0 = dktX3_farOf_0 := by decide +kernel
theorem dksX3_farOf_1 : cX3_farOf.data.toList.drop 24 = dktX3_farOf_1 := dk_seg dksX3_farOf_0 24 rfl rfl
theorem dksX3_farOf_2 : cX3_farOf.data.toList.drop 48 = dktX3_farOf_2 := dk_seg dksX3_farOf_1 24 rfl rfl
theorem dksX3_farOf_3 : cX3_farOf.data.toList.drop 72 = dktX3_farOf_3 := dk_seg dksX3_farOf_2 24 rfl rfl
theorem dksX3_farOf_4 : cX3_farOf.data.toList.drop 94 = dktX3_farOf_4 := dk_seg dksX3_farOf_3 22 rfl rfl
theorem dksX3_farOf_5 : cX3_farOf.data.toList.drop 118 = dktX3_farOf_5 := dk_seg dksX3_farOf_4 24 rfl rfl
theorem dksX3_farOf_6 : cX3_farOf.data.toList.drop 142 = dktX3_farOf_6 := dk_seg dksX3_farOf_5 24 rfl rfl
theorem dksX3_farOf_7 : cX3_farOf.data.toList.drop 166 = dktX3_farOf_7 := dk_seg dksX3_farOf_6 24 rfl rfl
theorem dX3_farOf_0 : decode cX3_farOf 0 = .ok (.iconst 0, 1) := dk_3 (dk_at dksX3_farOf_0 0 rfl rfl)
theorem dX3_farOf_1 : decode cX3_farOf 1 = .ok (.istore_n 3, 1) := dk_62 (dk_at dksX3_farOf_0 1 rfl rfl)
theorem dX3_farOf_2 : decode cX3_farOf 2 = .ok (.iload_n 3, 1) := dk_29 (dk_at dksX3_farOf_0 2 rfl rfl)
theorem dX3_farOf_3 : decode cX3_farOf 3 = .ok (.aload_n 0, 1) := dk_42 (dk_at dksX3_farOf_0 3 rfl rfl)
theorem dX3_farOf_4 : decode cX3_farOf 4 = .ok (.getfield 270, 3) := dk_180 1 14 (dk_at dksX3_farOf_0 4 rfl rfl)
theorem dX3_farOf_7 : decode cX3_farOf 7 = .ok (.if_icmp .ge 25, 3) := dk_162 0 25 (dk_at dksX3_farOf_0 7 rfl rfl)
theorem dX3_farOf_10 : decode cX3_farOf 10 = .ok (.aload_n 0, 1) := dk_42 (dk_at dksX3_farOf_0 10 rfl rfl)
theorem dX3_farOf_11 : decode cX3_farOf 11 = .ok (.getfield 118, 3) := dk_180 0 118 (dk_at dksX3_farOf_0 11 rfl rfl)
theorem dX3_farOf_14 : decode cX3_farOf 14 = .ok (.iload_n 3, 1) := dk_29 (dk_at dksX3_farOf_0 14 rfl rfl)
theorem dX3_farOf_15 : decode cX3_farOf 15 = .ok (.iload_n 3, 1) := dk_29 (dk_at dksX3_farOf_0 15 rfl rfl)
theorem dX3_farOf_16 : decode cX3_farOf 16 = .ok (.iload_n 1, 1) := dk_27 (dk_at dksX3_farOf_0 16 rfl rfl)
theorem dX3_farOf_17 : decode cX3_farOf 17 = .ok (.if_icmp .ne 7, 3) := dk_160 0 7 (dk_at dksX3_farOf_0 17 rfl rfl)
theorem dX3_farOf_20 : decode cX3_farOf 20 = .ok (.iconst 0, 1) := dk_3 (dk_at dksX3_farOf_0 20 rfl rfl)
theorem dX3_farOf_21 : decode cX3_farOf 21 = .ok (.goto 4, 3) := dk_167 0 4 (dk_at dksX3_farOf_0 21 rfl rfl)
theorem dX3_farOf_24 : decode cX3_farOf 24 = .ok (.iconst (-1), 1) := dk_2 (dk_at dksX3_farOf_1 0 rfl rfl)
theorem dX3_farOf_25 : decode cX3_farOf 25 = .ok (.iastore, 1) := dk_79 (dk_at dksX3_farOf_1 1 rfl rfl)
theorem dX3_farOf_26 : decode cX3_farOf 26 = .ok (.iinc 3 1, 3) := dk_132 3 1 (dk_at dksX3_farOf_1 2 rfl rfl)
theorem dX3_farOf_29 : decode cX3_farOf 29 = .ok (.goto (-27), 3) := dk_167 255 229 (dk_at dksX3_farOf_1 5 rfl rfl)
theorem dX3_farOf_32 : decode cX3_farOf 32 = .ok (.iconst 0, 1) := dk_3 (dk_at dksX3_farOf_1 8 rfl rfl)
theorem dX3_farOf_33 : decode cX3_farOf 33 = .ok (.istore_n 3, 1) := dk_62 (dk_at dksX3_farOf_1 9 rfl rfl)
theorem dX3_farOf_34 : decode cX3_farOf 34 = .ok (.iload_n 3, 1) := dk_29 (dk_at dksX3_farOf_1 10 rfl rfl)
theorem dX3_farOf_35 : decode cX3_farOf 35 = .ok (.aload_n 0, 1) := dk_42 (dk_at dksX3_farOf_1 11 rfl rfl)
theorem dX3_farOf_36 : decode cX3_farOf 36 = .ok (.getfield 270, 3) := dk_180 1 14 (dk_at dksX3_farOf_1 12 rfl rfl)
theorem dX3_farOf_39 : decode cX3_farOf 39 = .ok (.if_icmp .ge 136, 3) := dk_162 0 136 (dk_at dksX3_farOf_1 15 rfl rfl)
theorem dX3_farOf_42 : decode cX3_farOf 42 = .ok (.iconst 0, 1) := dk_3 (dk_at dksX3_farOf_1 18 rfl rfl)
theorem dX3_farOf_43 : decode cX3_farOf 43 = .ok (.istore 4, 2) := dk_54 4 (dk_at dksX3_farOf_1 19 rfl rfl)
theorem dX3_farOf_45 : decode cX3_farOf 45 = .ok (.iload 4, 2) := dk_21 4 (dk_at dksX3_farOf_1 21 rfl rfl)
theorem dX3_farOf_47 : decode cX3_farOf 47 = .ok (.aload_n 0, 1) := dk_42 (dk_at dksX3_farOf_1 23 rfl rfl)
theorem dX3_farOf_48 : decode cX3_farOf 48 = .ok (.getfield 270, 3) := dk_180 1 14 (dk_at dksX3_farOf_2 0 rfl rfl)
theorem dX3_farOf_51 : decode cX3_farOf 51 = .ok (.if_icmp .ge 118, 3) := dk_162 0 118 (dk_at dksX3_farOf_2 3 rfl rfl)
theorem dX3_farOf_54 : decode cX3_farOf 54 = .ok (.iconst 0, 1) := dk_3 (dk_at dksX3_farOf_2 6 rfl rfl)
theorem dX3_farOf_55 : decode cX3_farOf 55 = .ok (.istore 5, 2) := dk_54 5 (dk_at dksX3_farOf_2 7 rfl rfl)
theorem dX3_farOf_57 : decode cX3_farOf 57 = .ok (.iload 5, 2) := dk_21 5 (dk_at dksX3_farOf_2 9 rfl rfl)
theorem dX3_farOf_59 : decode cX3_farOf 59 = .ok (.aload_n 0, 1) := dk_42 (dk_at dksX3_farOf_2 11 rfl rfl)
theorem dX3_farOf_60 : decode cX3_farOf 60 = .ok (.getfield 270, 3) := dk_180 1 14 (dk_at dksX3_farOf_2 12 rfl rfl)
theorem dX3_farOf_63 : decode cX3_farOf 63 = .ok (.if_icmp .ge 100, 3) := dk_162 0 100 (dk_at dksX3_farOf_2 15 rfl rfl)
theorem dX3_farOf_66 : decode cX3_farOf 66 = .ok (.aload_n 0, 1) := dk_42 (dk_at dksX3_farOf_2 18 rfl rfl)
theorem dX3_farOf_67 : decode cX3_farOf 67 = .ok (.getfield 118, 3) := dk_180 0 118 (dk_at dksX3_farOf_2 19 rfl rfl)
theorem dX3_farOf_70 : decode cX3_farOf 70 = .ok (.iload 4, 2) := dk_21 4 (dk_at dksX3_farOf_2 22 rfl rfl)
theorem dX3_farOf_72 : decode cX3_farOf 72 = .ok (.iaload, 1) := dk_46 (dk_at dksX3_farOf_3 0 rfl rfl)
theorem dX3_farOf_73 : decode cX3_farOf 73 = .ok (.iconst (-1), 1) := dk_2 (dk_at dksX3_farOf_3 1 rfl rfl)
theorem dX3_farOf_74 : decode cX3_farOf 74 = .ok (.if_icmp .eq 83, 3) := dk_159 0 83 (dk_at dksX3_farOf_3 2 rfl rfl)
theorem dX3_farOf_77 : decode cX3_farOf 77 = .ok (.aload_n 0, 1) := dk_42 (dk_at dksX3_farOf_3 5 rfl rfl)
theorem dX3_farOf_78 : decode cX3_farOf 78 = .ok (.getfield 14, 3) := dk_180 0 14 (dk_at dksX3_farOf_3 6 rfl rfl)
theorem dX3_farOf_81 : decode cX3_farOf 81 = .ok (.iload 4, 2) := dk_21 4 (dk_at dksX3_farOf_3 9 rfl rfl)
theorem dX3_farOf_83 : decode cX3_farOf 83 = .ok (.aaload, 1) := dk_50 (dk_at dksX3_farOf_3 11 rfl rfl)
theorem dX3_farOf_84 : decode cX3_farOf 84 = .ok (.iload 5, 2) := dk_21 5 (dk_at dksX3_farOf_3 12 rfl rfl)
theorem dX3_farOf_86 : decode cX3_farOf 86 = .ok (.iaload, 1) := dk_46 (dk_at dksX3_farOf_3 14 rfl rfl)
theorem dX3_farOf_87 : decode cX3_farOf 87 = .ok (.ifCond .ne 6, 3) := dk_154 0 6 (dk_at dksX3_farOf_3 15 rfl rfl)
theorem dX3_farOf_90 : decode cX3_farOf 90 = .ok (.goto 67, 3) := dk_167 0 67 (dk_at dksX3_farOf_3 18 rfl rfl)
theorem dX3_farOf_93 : decode cX3_farOf 93 = .ok (.aload_n 0, 1) := dk_42 (dk_at dksX3_farOf_3 21 rfl rfl)
theorem dX3_farOf_94 : decode cX3_farOf 94 = .ok (.getfield 118, 3) := dk_180 0 118 (dk_at dksX3_farOf_4 0 rfl rfl)
theorem dX3_farOf_97 : decode cX3_farOf 97 = .ok (.iload 5, 2) := dk_21 5 (dk_at dksX3_farOf_4 3 rfl rfl)
theorem dX3_farOf_99 : decode cX3_farOf 99 = .ok (.iaload, 1) := dk_46 (dk_at dksX3_farOf_4 5 rfl rfl)
theorem dX3_farOf_100 : decode cX3_farOf 100 = .ok (.iconst (-1), 1) := dk_2 (dk_at dksX3_farOf_4 6 rfl rfl)
theorem dX3_farOf_101 : decode cX3_farOf 101 = .ok (.if_icmp .eq 31, 3) := dk_159 0 31 (dk_at dksX3_farOf_4 7 rfl rfl)
theorem dX3_farOf_104 : decode cX3_farOf 104 = .ok (.aload_n 0, 1) := dk_42 (dk_at dksX3_farOf_4 10 rfl rfl)
theorem dX3_farOf_105 : decode cX3_farOf 105 = .ok (.getfield 118, 3) := dk_180 0 118 (dk_at dksX3_farOf_4 11 rfl rfl)
theorem dX3_farOf_108 : decode cX3_farOf 108 = .ok (.iload 4, 2) := dk_21 4 (dk_at dksX3_farOf_4 14 rfl rfl)
theorem dX3_farOf_110 : decode cX3_farOf 110 = .ok (.iaload, 1) := dk_46 (dk_at dksX3_farOf_4 16 rfl rfl)
theorem dX3_farOf_111 : decode cX3_farOf 111 = .ok (.aload_n 0, 1) := dk_42 (dk_at dksX3_farOf_4 17 rfl rfl)
theorem dX3_farOf_112 : decode cX3_farOf 112 = .ok (.getfield 14, 3) := dk_180 0 14 (dk_at dksX3_farOf_4 18 rfl rfl)
theorem dX3_farOf_115 : decode cX3_farOf 115 = .ok (.iload 4, 2) := dk_21 4 (dk_at dksX3_farOf_4 21 rfl rfl)
theorem dX3_farOf_117 : decode cX3_farOf 117 = .ok (.aaload, 1) := dk_50 (dk_at dksX3_farOf_4 23 rfl rfl)
theorem dX3_farOf_118 : decode cX3_farOf 118 = .ok (.iload 5, 2) := dk_21 5 (dk_at dksX3_farOf_5 0 rfl rfl)
theorem dX3_farOf_120 : decode cX3_farOf 120 = .ok (.iaload, 1) := dk_46 (dk_at dksX3_farOf_5 2 rfl rfl)
theorem dX3_farOf_121 : decode cX3_farOf 121 = .ok (.iadd, 1) := dk_96 (dk_at dksX3_farOf_5 3 rfl rfl)
theorem dX3_farOf_122 : decode cX3_farOf 122 = .ok (.aload_n 0, 1) := dk_42 (dk_at dksX3_farOf_5 4 rfl rfl)
theorem dX3_farOf_123 : decode cX3_farOf 123 = .ok (.getfield 118, 3) := dk_180 0 118 (dk_at dksX3_farOf_5 5 rfl rfl)
theorem dX3_farOf_126 : decode cX3_farOf 126 = .ok (.iload 5, 2) := dk_21 5 (dk_at dksX3_farOf_5 8 rfl rfl)
theorem dX3_farOf_128 : decode cX3_farOf 128 = .ok (.iaload, 1) := dk_46 (dk_at dksX3_farOf_5 10 rfl rfl)
theorem dX3_farOf_129 : decode cX3_farOf 129 = .ok (.if_icmp .ge 28, 3) := dk_162 0 28 (dk_at dksX3_farOf_5 11 rfl rfl)
theorem dX3_farOf_132 : decode cX3_farOf 132 = .ok (.aload_n 0, 1) := dk_42 (dk_at dksX3_farOf_5 14 rfl rfl)
theorem dX3_farOf_133 : decode cX3_farOf 133 = .ok (.getfield 118, 3) := dk_180 0 118 (dk_at dksX3_farOf_5 15 rfl rfl)
theorem dX3_farOf_136 : decode cX3_farOf 136 = .ok (.iload 5, 2) := dk_21 5 (dk_at dksX3_farOf_5 18 rfl rfl)
theorem dX3_farOf_138 : decode cX3_farOf 138 = .ok (.aload_n 0, 1) := dk_42 (dk_at dksX3_farOf_5 20 rfl rfl)
theorem dX3_farOf_139 : decode cX3_farOf 139 = .ok (.getfield 118, 3) := dk_180 0 118 (dk_at dksX3_farOf_5 21 rfl rfl)
theorem dX3_farOf_142 : decode cX3_farOf 142 = .ok (.iload 4, 2) := dk_21 4 (dk_at dksX3_farOf_6 0 rfl rfl)
theorem dX3_farOf_144 : decode cX3_farOf 144 = .ok (.iaload, 1) := dk_46 (dk_at dksX3_farOf_6 2 rfl rfl)
theorem dX3_farOf_145 : decode cX3_farOf 145 = .ok (.aload_n 0, 1) := dk_42 (dk_at dksX3_farOf_6 3 rfl rfl)
theorem dX3_farOf_146 : decode cX3_farOf 146 = .ok (.getfield 14, 3) := dk_180 0 14 (dk_at dksX3_farOf_6 4 rfl rfl)
theorem dX3_farOf_149 : decode cX3_farOf 149 = .ok (.iload 4, 2) := dk_21 4 (dk_at dksX3_farOf_6 7 rfl rfl)
theorem dX3_farOf_151 : decode cX3_farOf 151 = .ok (.aaload, 1) := dk_50 (dk_at dksX3_farOf_6 9 rfl rfl)
theorem dX3_farOf_152 : decode cX3_farOf 152 = .ok (.iload 5, 2) := dk_21 5 (dk_at dksX3_farOf_6 10 rfl rfl)
theorem dX3_farOf_154 : decode cX3_farOf 154 = .ok (.iaload, 1) := dk_46 (dk_at dksX3_farOf_6 12 rfl rfl)
theorem dX3_farOf_155 : decode cX3_farOf 155 = .ok (.iadd, 1) := dk_96 (dk_at dksX3_farOf_6 13 rfl rfl)
theorem dX3_farOf_156 : decode cX3_farOf 156 = .ok (.iastore, 1) := dk_79 (dk_at dksX3_farOf_6 14 rfl rfl)
theorem dX3_farOf_157 : decode cX3_farOf 157 = .ok (.iinc 5 1, 3) := dk_132 5 1 (dk_at dksX3_farOf_6 15 rfl rfl)
theorem dX3_farOf_160 : decode cX3_farOf 160 = .ok (.goto (-103), 3) := dk_167 255 153 (dk_at dksX3_farOf_6 18 rfl rfl)
theorem dX3_farOf_163 : decode cX3_farOf 163 = .ok (.iinc 4 1, 3) := dk_132 4 1 (dk_at dksX3_farOf_6 21 rfl rfl)
theorem dX3_farOf_166 : decode cX3_farOf 166 = .ok (.goto (-121), 3) := dk_167 255 135 (dk_at dksX3_farOf_7 0 rfl rfl)
theorem dX3_farOf_169 : decode cX3_farOf 169 = .ok (.iinc 3 1, 3) := dk_132 3 1 (dk_at dksX3_farOf_7 3 rfl rfl)
theorem dX3_farOf_172 : decode cX3_farOf 172 = .ok (.goto (-138), 3) := dk_167 255 118 (dk_at dksX3_farOf_7 6 rfl rfl)
theorem dX3_farOf_175 : decode cX3_farOf 175 = .ok (.aload_n 0, 1) := dk_42 (dk_at dksX3_farOf_7 9 rfl rfl)
theorem dX3_farOf_176 : decode cX3_farOf 176 = .ok (.getfield 118, 3) := dk_180 0 118 (dk_at dksX3_farOf_7 10 rfl rfl)
theorem dX3_farOf_179 : decode cX3_farOf 179 = .ok (.iload_n 2, 1) := dk_28 (dk_at dksX3_farOf_7 13 rfl rfl)
theorem dX3_farOf_180 : decode cX3_farOf 180 = .ok (.iaload, 1) := dk_46 (dk_at dksX3_farOf_7 14 rfl rfl)
theorem dX3_farOf_181 : decode cX3_farOf 181 = .ok (.ireturn, 1) := dk_172 (dk_at dksX3_farOf_7 15 rfl rfl)
abbrev cX3_house : ByteArray := prog_14_method_10_code
def yX3_house : MethodName := ⟨RX3, "house", "(II)I"⟩
def dkwX3_house_6 : List UInt8 := [4, 96, 181, 1, 22, 29, 172]
abbrev dktX3_house_6 : List UInt8 := dkwX3_house_6 ++ []
def dkwX3_house_5 : List UInt8 := [79, 42, 180, 0, 75, 29, 28, 16, 10, 112, 79, 42, 180, 0, 81, 29, 16, 10, 79, 42, 89, 180, 1, 22]
abbrev dktX3_house_5 : List UInt8 := dkwX3_house_5 ++ dktX3_house_6
def dkwX3_house_4 : List UInt8 := [180, 0, 69, 29, 28, 16, 100, 108, 16, 10, 112, 79, 42, 180, 0, 72, 29, 28, 16, 10, 108, 16, 10, 112]
abbrev dktX3_house_4 : List UInt8 := dkwX3_house_4 ++ dktX3_house_5
def dkwX3_house_3 : List UInt8 := [42, 180, 1, 22, 62, 42, 180, 0, 63, 29, 27, 79, 42, 180, 0, 66, 29, 28, 17, 3, 232, 108, 79, 42]
abbrev dktX3_house_3 : List UInt8 := dkwX3_house_3 ++ dktX3_house_4
def dkwX3_house_2 : List UInt8 := [161, 0, 22, 42, 180, 1, 22, 16, 20, 159, 0, 13, 42, 180, 1, 30, 17, 0, 156, 160, 0, 5, 2, 172]
abbrev dktX3_house_2 : List UInt8 := dkwX3_house_2 ++ dktX3_house_3
def dkwX3_house_1 : List UInt8 := [108, 16, 10, 112, 4, 161, 0, 41, 28, 16, 10, 108, 16, 10, 112, 8, 163, 0, 30, 28, 16, 10, 112, 4]
abbrev dktX3_house_1 : List UInt8 := dkwX3_house_1 ++ dktX3_house_2
def dkwX3_house_0 : List UInt8 := [42, 27, 182, 1, 33, 153, 0, 65, 28, 155, 0, 61, 28, 17, 3, 232, 108, 8, 163, 0, 52, 28, 16, 100]
abbrev dktX3_house_0 : List UInt8 := dkwX3_house_0 ++ dktX3_house_1
theorem dksX3_house_0 : cX3_house.data.toList.drop 0 = dktX3_house_0 := by decide +kernel
theorem dksX3_house_1 : cX3_house.data.toList.drop 24 = dktX3_house_1 := dk_seg dksX3_house_0 24 rfl rfl
theorem dksX3_house_2 : cX3_house.data.toList.drop 48 = dktX3_house_2 := dk_seg dksX3_house_1 24 rfl rfl
theorem dksX3_house_3 : cX3_house.data.toList.drop 72 = dktX3_house_3 := dk_seg dksX3_house_2 24 rfl rfl
theorem dksX3_house_4 : cX3_house.data.toList.drop 96 = dktX3_house_4 := dk_seg dksX3_house_3 24 rfl rfl
theorem dksX3_house_5 : cX3_house.data.toList.drop 120 = dktX3_house_5 := dk_seg dksX3_house_4 24 rfl rfl
theorem dksX3_house_6 : cX3_house.data.toList.drop 144 = dktX3_house_6 := dk_seg dksX3_house_5 24 rfl rfl
theorem dX3_house_0 : decode cX3_house 0 = .ok (.aload_n 0, 1) := dk_42 (dk_at dksX3_house_0 0 rfl rfl)
theorem dX3_house_1 : decode cX3_house 1 = .ok (.iload_n 1, 1) := dk_27 (dk_at dksX3_house_0 1 rfl rfl)
theorem dX3_house_2 : decode cX3_house 2 = .ok (.invokevirtual 289, 3) := dk_182 1 33 (dk_at dksX3_house_0 2 rfl rfl)
theorem dX3_house_5 : decode cX3_house 5 = .ok (.ifCond .eq 65, 3) := dk_153 0 65 (dk_at dksX3_house_0 5 rfl rfl)
theorem dX3_house_8 : decode cX3_house 8 = .ok (.iload_n 2, 1) := dk_28 (dk_at dksX3_house_0 8 rfl rfl)
theorem dX3_house_9 : decode cX3_house 9 = .ok (.ifCond .lt 61, 3) := dk_155 0 61 (dk_at dksX3_house_0 9 rfl rfl)
theorem dX3_house_12 : decode cX3_house 12 = .ok (.iload_n 2, 1) := dk_28 (dk_at dksX3_house_0 12 rfl rfl)
theorem dX3_house_13 : decode cX3_house 13 = .ok (.sipush 1000, 3) := dk_17 3 232 (dk_at dksX3_house_0 13 rfl rfl)
theorem dX3_house_16 : decode cX3_house 16 = .ok (.idiv, 1) := dk_108 (dk_at dksX3_house_0 16 rfl rfl)
theorem dX3_house_17 : decode cX3_house 17 = .ok (.iconst 5, 1) := dk_8 (dk_at dksX3_house_0 17 rfl rfl)
theorem dX3_house_18 : decode cX3_house 18 = .ok (.if_icmp .gt 52, 3) := dk_163 0 52 (dk_at dksX3_house_0 18 rfl rfl)
theorem dX3_house_21 : decode cX3_house 21 = .ok (.iload_n 2, 1) := dk_28 (dk_at dksX3_house_0 21 rfl rfl)
theorem dX3_house_22 : decode cX3_house 22 = .ok (.bipush 100, 2) := dk_16 100 (dk_at dksX3_house_0 22 rfl rfl)
theorem dX3_house_24 : decode cX3_house 24 = .ok (.idiv, 1) := dk_108 (dk_at dksX3_house_1 0 rfl rfl)
theorem dX3_house_25 : decode cX3_house 25 = .ok (.bipush 10, 2) := dk_16 10 (dk_at dksX3_house_1 1 rfl rfl)
theorem dX3_house_27 : decode cX3_house 27 = .ok (.irem, 1) := dk_112 (dk_at dksX3_house_1 3 rfl rfl)
theorem dX3_house_28 : decode cX3_house 28 = .ok (.iconst 1, 1) := dk_4 (dk_at dksX3_house_1 4 rfl rfl)
theorem dX3_house_29 : decode cX3_house 29 = .ok (.if_icmp .lt 41, 3) := dk_161 0 41 (dk_at dksX3_house_1 5 rfl rfl)
theorem dX3_house_32 : decode cX3_house 32 = .ok (.iload_n 2, 1) := dk_28 (dk_at dksX3_house_1 8 rfl rfl)
theorem dX3_house_33 : decode cX3_house 33 = .ok (.bipush 10, 2) := dk_16 10 (dk_at dksX3_house_1 9 rfl rfl)
theorem dX3_house_35 : decode cX3_house 35 = .ok (.idiv, 1) := dk_108 (dk_at dksX3_house_1 11 rfl rfl)
theorem dX3_house_36 : decode cX3_house 36 = .ok (.bipush 10, 2) := dk_16 10 (dk_at dksX3_house_1 12 rfl rfl)
theorem dX3_house_38 : decode cX3_house 38 = .ok (.irem, 1) := dk_112 (dk_at dksX3_house_1 14 rfl rfl)
theorem dX3_house_39 : decode cX3_house 39 = .ok (.iconst 5, 1) := dk_8 (dk_at dksX3_house_1 15 rfl rfl)
theorem dX3_house_40 : decode cX3_house 40 = .ok (.if_icmp .gt 30, 3) := dk_163 0 30 (dk_at dksX3_house_1 16 rfl rfl)
theorem dX3_house_43 : decode cX3_house 43 = .ok (.iload_n 2, 1) := dk_28 (dk_at dksX3_house_1 19 rfl rfl)
theorem dX3_house_44 : decode cX3_house 44 = .ok (.bipush 10, 2) := dk_16 10 (dk_at dksX3_house_1 20 rfl rfl)
theorem dX3_house_46 : decode cX3_house 46 = .ok (.irem, 1) := dk_112 (dk_at dksX3_house_1 22 rfl rfl)
theorem dX3_house_47 : decode cX3_house 47 = .ok (.iconst 1, 1) := dk_4 (dk_at dksX3_house_1 23 rfl rfl)
theorem dX3_house_48 : decode cX3_house 48 = .ok (.if_icmp .lt 22, 3) := dk_161 0 22 (dk_at dksX3_house_2 0 rfl rfl)
theorem dX3_house_51 : decode cX3_house 51 = .ok (.aload_n 0, 1) := dk_42 (dk_at dksX3_house_2 3 rfl rfl)
theorem dX3_house_52 : decode cX3_house 52 = .ok (.getfield 278, 3) := dk_180 1 22 (dk_at dksX3_house_2 4 rfl rfl)
theorem dX3_house_55 : decode cX3_house 55 = .ok (.bipush 20, 2) := dk_16 20 (dk_at dksX3_house_2 7 rfl rfl)
theorem dX3_house_57 : decode cX3_house 57 = .ok (.if_icmp .eq 13, 3) := dk_159 0 13 (dk_at dksX3_house_2 9 rfl rfl)
theorem dX3_house_60 : decode cX3_house 60 = .ok (.aload_n 0, 1) := dk_42 (dk_at dksX3_house_2 12 rfl rfl)
theorem dX3_house_61 : decode cX3_house 61 = .ok (.getfield 286, 3) := dk_180 1 30 (dk_at dksX3_house_2 13 rfl rfl)
theorem dX3_house_64 : decode cX3_house 64 = .ok (.sipush 156, 3) := dk_17 0 156 (dk_at dksX3_house_2 16 rfl rfl)
theorem dX3_house_67 : decode cX3_house 67 = .ok (.if_icmp .ne 5, 3) := dk_160 0 5 (dk_at dksX3_house_2 19 rfl rfl)
theorem dX3_house_70 : decode cX3_house 70 = .ok (.iconst (-1), 1) := dk_2 (dk_at dksX3_house_2 22 rfl rfl)
theorem dX3_house_71 : decode cX3_house 71 = .ok (.ireturn, 1) := dk_172 (dk_at dksX3_house_2 23 rfl rfl)
theorem dX3_house_72 : decode cX3_house 72 = .ok (.aload_n 0, 1) := dk_42 (dk_at dksX3_house_3 0 rfl rfl)
theorem dX3_house_73 : decode cX3_house 73 = .ok (.getfield 278, 3) := dk_180 1 22 (dk_at dksX3_house_3 1 rfl rfl)
theorem dX3_house_76 : decode cX3_house 76 = .ok (.istore_n 3, 1) := dk_62 (dk_at dksX3_house_3 4 rfl rfl)
theorem dX3_house_77 : decode cX3_house 77 = .ok (.aload_n 0, 1) := dk_42 (dk_at dksX3_house_3 5 rfl rfl)
theorem dX3_house_78 : decode cX3_house 78 = .ok (.getfield 63, 3) := dk_180 0 63 (dk_at dksX3_house_3 6 rfl rfl)
theorem dX3_house_81 : decode cX3_house 81 = .ok (.iload_n 3, 1) := dk_29 (dk_at dksX3_house_3 9 rfl rfl)
theorem dX3_house_82 : decode cX3_house 82 = .ok (.iload_n 1, 1) := dk_27 (dk_at dksX3_house_3 10 rfl rfl)
theorem dX3_house_83 : decode cX3_house 83 = .ok (.iastore, 1) := dk_79 (dk_at dksX3_house_3 11 rfl rfl)
theorem dX3_house_84 : decode cX3_house 84 = .ok (.aload_n 0, 1) := dk_42 (dk_at dksX3_house_3 12 rfl rfl)
theorem dX3_house_85 : decode cX3_house 85 = .ok (.getfield 66, 3) := dk_180 0 66 (dk_at dksX3_house_3 13 rfl rfl)
theorem dX3_house_88 : decode cX3_house 88 = .ok (.iload_n 3, 1) := dk_29 (dk_at dksX3_house_3 16 rfl rfl)
theorem dX3_house_89 : decode cX3_house 89 = .ok (.iload_n 2, 1) := dk_28 (dk_at dksX3_house_3 17 rfl rfl)
theorem dX3_house_90 : decode cX3_house 90 = .ok (.sipush 1000, 3) := dk_17 3 232 (dk_at dksX3_house_3 18 rfl rfl)
theorem dX3_house_93 : decode cX3_house 93 = .ok (.idiv, 1) := dk_108 (dk_at dksX3_house_3 21 rfl rfl)
theorem dX3_house_94 : decode cX3_house 94 = .ok (.iastore, 1) := dk_79 (dk_at dksX3_house_3 22 rfl rfl)
theorem dX3_house_95 : decode cX3_house 95 = .ok (.aload_n 0, 1) := dk_42 (dk_at dksX3_house_3 23 rfl rfl)
theorem dX3_house_96 : decode cX3_house 96 = .ok (.getfield 69, 3) := dk_180 0 69 (dk_at dksX3_house_4 0 rfl rfl)
theorem dX3_house_99 : decode cX3_house 99 = .ok (.iload_n 3, 1) := dk_29 (dk_at dksX3_house_4 3 rfl rfl)
theorem dX3_house_100 : decode cX3_house 100 = .ok (.iload_n 2, 1) := dk_28 (dk_at dksX3_house_4 4 rfl rfl)
theorem dX3_house_101 : decode cX3_house 101 = .ok (.bipush 100, 2) := dk_16 100 (dk_at dksX3_house_4 5 rfl rfl)
theorem dX3_house_103 : decode cX3_house 103 = .ok (.idiv, 1) := dk_108 (dk_at dksX3_house_4 7 rfl rfl)
theorem dX3_house_104 : decode cX3_house 104 = .ok (.bipush 10, 2) := dk_16 10 (dk_at dksX3_house_4 8 rfl rfl)
theorem dX3_house_106 : decode cX3_house 106 = .ok (.irem, 1) := dk_112 (dk_at dksX3_house_4 10 rfl rfl)
theorem dX3_house_107 : decode cX3_house 107 = .ok (.iastore, 1) := dk_79 (dk_at dksX3_house_4 11 rfl rfl)
theorem dX3_house_108 : decode cX3_house 108 = .ok (.aload_n 0, 1) := dk_42 (dk_at dksX3_house_4 12 rfl rfl)
theorem dX3_house_109 : decode cX3_house 109 = .ok (.getfield 72, 3) := dk_180 0 72 (dk_at dksX3_house_4 13 rfl rfl)
theorem dX3_house_112 : decode cX3_house 112 = .ok (.iload_n 3, 1) := dk_29 (dk_at dksX3_house_4 16 rfl rfl)
theorem dX3_house_113 : decode cX3_house 113 = .ok (.iload_n 2, 1) := dk_28 (dk_at dksX3_house_4 17 rfl rfl)
theorem dX3_house_114 : decode cX3_house 114 = .ok (.bipush 10, 2) := dk_16 10 (dk_at dksX3_house_4 18 rfl rfl)
theorem dX3_house_116 : decode cX3_house 116 = .ok (.idiv, 1) := dk_108 (dk_at dksX3_house_4 20 rfl rfl)
theorem dX3_house_117 : decode cX3_house 117 = .ok (.bipush 10, 2) := dk_16 10 (dk_at dksX3_house_4 21 rfl rfl)
theorem dX3_house_119 : decode cX3_house 119 = .ok (.irem, 1) := dk_112 (dk_at dksX3_house_4 23 rfl rfl)
theorem dX3_house_120 : decode cX3_house 120 = .ok (.iastore, 1) := dk_79 (dk_at dksX3_house_5 0 rfl rfl)
theorem dX3_house_121 : decode cX3_house 121 = .ok (.aload_n 0, 1) := dk_42 (dk_at dksX3_house_5 1 rfl rfl)
theorem dX3_house_122 : decode cX3_house 122 = .ok (.getfield 75, 3) := dk_180 0 75 (dk_at dksX3_house_5 2 rfl rfl)
theorem dX3_house_125 : decode cX3_house 125 = .ok (.iload_n 3, 1) := dk_29 (dk_at dksX3_house_5 5 rfl rfl)
theorem dX3_house_126 : decode cX3_house 126 = .ok (.iload_n 2, 1) := dk_28 (dk_at dksX3_house_5 6 rfl rfl)
theorem dX3_house_127 : decode cX3_house 127 = .ok (.bipush 10, 2) := dk_16 10 (dk_at dksX3_house_5 7 rfl rfl)
theorem dX3_house_129 : decode cX3_house 129 = .ok (.irem, 1) := dk_112 (dk_at dksX3_house_5 9 rfl rfl)
theorem dX3_house_130 : decode cX3_house 130 = .ok (.iastore, 1) := dk_79 (dk_at dksX3_house_5 10 rfl rfl)
theorem dX3_house_131 : decode cX3_house 131 = .ok (.aload_n 0, 1) := dk_42 (dk_at dksX3_house_5 11 rfl rfl)
theorem dX3_house_132 : decode cX3_house 132 = .ok (.getfield 81, 3) := dk_180 0 81 (dk_at dksX3_house_5 12 rfl rfl)
theorem dX3_house_135 : decode cX3_house 135 = .ok (.iload_n 3, 1) := dk_29 (dk_at dksX3_house_5 15 rfl rfl)
theorem dX3_house_136 : decode cX3_house 136 = .ok (.bipush 10, 2) := dk_16 10 (dk_at dksX3_house_5 16 rfl rfl)
theorem dX3_house_138 : decode cX3_house 138 = .ok (.iastore, 1) := dk_79 (dk_at dksX3_house_5 18 rfl rfl)
theorem dX3_house_139 : decode cX3_house 139 = .ok (.aload_n 0, 1) := dk_42 (dk_at dksX3_house_5 19 rfl rfl)
theorem dX3_house_140 : decode cX3_house 140 = .ok (.dup, 1) := dk_89 (dk_at dksX3_house_5 20 rfl rfl)
theorem dX3_house_141 : decode cX3_house 141 = .ok (.getfield 278, 3) := dk_180 1 22 (dk_at dksX3_house_5 21 rfl rfl)
theorem dX3_house_144 : decode cX3_house 144 = .ok (.iconst 1, 1) := dk_4 (dk_at dksX3_house_6 0 rfl rfl)
theorem dX3_house_145 : decode cX3_house 145 = .ok (.iadd, 1) := dk_96 (dk_at dksX3_house_6 1 rfl rfl)
theorem dX3_house_146 : decode cX3_house 146 = .ok (.putfield 278, 3) := dk_181 1 22 (dk_at dksX3_house_6 2 rfl rfl)
theorem dX3_house_149 : decode cX3_house 149 = .ok (.iload_n 3, 1) := dk_29 (dk_at dksX3_house_6 5 rfl rfl)
theorem dX3_house_150 : decode cX3_house 150 = .ok (.ireturn, 1) := dk_172 (dk_at dksX3_house_6 6 rfl rfl)
abbrev cX3_loom : ByteArray := prog_14_method_12_code
def yX3_loom : MethodName := ⟨RX3, "loom", "(III)Z"⟩
def dkwX3_loom_4 : List UInt8 := [29, 79, 4, 172]
abbrev dktX3_loom_4 : List UInt8 := dkwX3_loom_4 ++ []
def dkwX3_loom_3 : List UInt8 := [180, 0, 93, 27, 28, 16, 100, 108, 79, 42, 180, 0, 96, 27, 28, 16, 100, 112, 79, 42, 180, 0, 99, 27]
abbrev dktX3_loom_3 : List UInt8 := dkwX3_loom_3 ++ dktX3_loom_4
def dkwX3_loom_2 : List UInt8 := [20, 1, 49, 184, 1, 18, 153, 0, 15, 29, 133, 10, 20, 1, 51, 184, 1, 18, 154, 0, 5, 3, 172, 42]
abbrev dktX3_loom_2 : List UInt8 := dkwX3_loom_2 ++ dktX3_loom_3
def dkwX3_loom_1 : List UInt8 := [133, 20, 1, 47, 20, 1, 49, 184, 1, 18, 153, 0, 34, 28, 16, 100, 112, 133, 28, 16, 100, 108, 133]
abbrev dktX3_loom_1 : List UInt8 := dkwX3_loom_1 ++ dktX3_loom_2
def dkwX3_loom_0 : List UInt8 := [42, 27, 182, 1, 41, 153, 0, 63, 42, 27, 182, 1, 44, 154, 0, 55, 28, 155, 0, 51, 28, 16, 100, 108]
abbrev dktX3_loom_0 : List UInt8 := dkwX3_loom_0 ++ dktX3_loom_1
theorem dksX3_loom_0 : cX3_loom.data.toList.drop 0 = dktX3_loom_0 := by decide +kernel
theorem dksX3_loom_1 : cX3_loom.data.toList.drop 24 = dktX3_loom_1 := dk_seg dksX3_loom_0 24 rfl rfl
theorem dksX3_loom_2 : cX3_loom.data.toList.drop 47 = dktX3_loom_2 := dk_seg dksX3_loom_1 23 rfl rfl
theorem dksX3_loom_3 : cX3_loom.data.toList.drop 71 = dktX3_loom_3 := dk_seg dksX3_loom_2 24 rfl rfl
theorem dksX3_loom_4 : cX3_loom.data.toList.drop 95 = dktX3_loom_4 := dk_seg dksX3_loom_3 24 rfl rfl
theorem dX3_loom_0 : decode cX3_loom 0 = .ok (.aload_n 0, 1) := dk_42 (dk_at dksX3_loom_0 0 rfl rfl)
theorem dX3_loom_1 : decode cX3_loom 1 = .ok (.iload_n 1, 1) := dk_27 (dk_at dksX3_loom_0 1 rfl rfl)
theorem dX3_loom_2 : decode cX3_loom 2 = .ok (.invokevirtual 297, 3) := dk_182 1 41 (dk_at dksX3_loom_0 2 rfl rfl)
theorem dX3_loom_5 : decode cX3_loom 5 = .ok (.ifCond .eq 63, 3) := dk_153 0 63 (dk_at dksX3_loom_0 5 rfl rfl)
theorem dX3_loom_8 : decode cX3_loom 8 = .ok (.aload_n 0, 1) := dk_42 (dk_at dksX3_loom_0 8 rfl rfl)
theorem dX3_loom_9 : decode cX3_loom 9 = .ok (.iload_n 1, 1) := dk_27 (dk_at dksX3_loom_0 9 rfl rfl)
theorem dX3_loom_10 : decode cX3_loom 10 = .ok (.invokevirtual 300, 3) := dk_182 1 44 (dk_at dksX3_loom_0 10 rfl rfl)
theorem dX3_loom_13 : decode cX3_loom 13 = .ok (.ifCond .ne 55, 3) := dk_154 0 55 (dk_at dksX3_loom_0 13 rfl rfl)
theorem dX3_loom_16 : decode cX3_loom 16 = .ok (.iload_n 2, 1) := dk_28 (dk_at dksX3_loom_0 16 rfl rfl)
theorem dX3_loom_17 : decode cX3_loom 17 = .ok (.ifCond .lt 51, 3) := dk_155 0 51 (dk_at dksX3_loom_0 17 rfl rfl)
theorem dX3_loom_20 : decode cX3_loom 20 = .ok (.iload_n 2, 1) := dk_28 (dk_at dksX3_loom_0 20 rfl rfl)
theorem dX3_loom_21 : decode cX3_loom 21 = .ok (.bipush 100, 2) := dk_16 100 (dk_at dksX3_loom_0 21 rfl rfl)
theorem dX3_loom_23 : decode cX3_loom 23 = .ok (.idiv, 1) := dk_108 (dk_at dksX3_loom_0 23 rfl rfl)
theorem dX3_loom_24 : decode cX3_loom 24 = .ok (.i2l, 1) := dk_133 (dk_at dksX3_loom_1 0 rfl rfl)
theorem dX3_loom_25 : decode cX3_loom 25 = .ok (.ldc2_w 303, 3) := dk_20 1 47 (dk_at dksX3_loom_1 1 rfl rfl)
theorem dX3_loom_28 : decode cX3_loom 28 = .ok (.ldc2_w 305, 3) := dk_20 1 49 (dk_at dksX3_loom_1 4 rfl rfl)
theorem dX3_loom_31 : decode cX3_loom 31 = .ok (.invokestatic 274, 3) := dk_184 1 18 (dk_at dksX3_loom_1 7 rfl rfl)
theorem dX3_loom_34 : decode cX3_loom 34 = .ok (.ifCond .eq 34, 3) := dk_153 0 34 (dk_at dksX3_loom_1 10 rfl rfl)
theorem dX3_loom_37 : decode cX3_loom 37 = .ok (.iload_n 2, 1) := dk_28 (dk_at dksX3_loom_1 13 rfl rfl)
theorem dX3_loom_38 : decode cX3_loom 38 = .ok (.bipush 100, 2) := dk_16 100 (dk_at dksX3_loom_1 14 rfl rfl)
theorem dX3_loom_40 : decode cX3_loom 40 = .ok (.irem, 1) := dk_112 (dk_at dksX3_loom_1 16 rfl rfl)
theorem dX3_loom_41 : decode cX3_loom 41 = .ok (.i2l, 1) := dk_133 (dk_at dksX3_loom_1 17 rfl rfl)
theorem dX3_loom_42 : decode cX3_loom 42 = .ok (.iload_n 2, 1) := dk_28 (dk_at dksX3_loom_1 18 rfl rfl)
theorem dX3_loom_43 : decode cX3_loom 43 = .ok (.bipush 100, 2) := dk_16 100 (dk_at dksX3_loom_1 19 rfl rfl)
theorem dX3_loom_45 : decode cX3_loom 45 = .ok (.idiv, 1) := dk_108 (dk_at dksX3_loom_1 21 rfl rfl)
theorem dX3_loom_46 : decode cX3_loom 46 = .ok (.i2l, 1) := dk_133 (dk_at dksX3_loom_1 22 rfl rfl)
theorem dX3_loom_47 : decode cX3_loom 47 = .ok (.ldc2_w 305, 3) := dk_20 1 49 (dk_at dksX3_loom_2 0 rfl rfl)
theorem dX3_loom_50 : decode cX3_loom 50 = .ok (.invokestatic 274, 3) := dk_184 1 18 (dk_at dksX3_loom_2 3 rfl rfl)
theorem dX3_loom_53 : decode cX3_loom 53 = .ok (.ifCond .eq 15, 3) := dk_153 0 15 (dk_at dksX3_loom_2 6 rfl rfl)
theorem dX3_loom_56 : decode cX3_loom 56 = .ok (.iload_n 3, 1) := dk_29 (dk_at dksX3_loom_2 9 rfl rfl)
theorem dX3_loom_57 : decode cX3_loom 57 = .ok (.i2l, 1) := dk_133 (dk_at dksX3_loom_2 10 rfl rfl)
theorem dX3_loom_58 : decode cX3_loom 58 = .ok (.lconst 1, 1) := dk_10 (dk_at dksX3_loom_2 11 rfl rfl)
theorem dX3_loom_59 : decode cX3_loom 59 = .ok (.ldc2_w 307, 3) := dk_20 1 51 (dk_at dksX3_loom_2 12 rfl rfl)
theorem dX3_loom_62 : decode cX3_loom 62 = .ok (.invokestatic 274, 3) := dk_184 1 18 (dk_at dksX3_loom_2 15 rfl rfl)
theorem dX3_loom_65 : decode cX3_loom 65 = .ok (.ifCond .ne 5, 3) := dk_154 0 5 (dk_at dksX3_loom_2 18 rfl rfl)
theorem dX3_loom_68 : decode cX3_loom 68 = .ok (.iconst 0, 1) := dk_3 (dk_at dksX3_loom_2 21 rfl rfl)
theorem dX3_loom_69 : decode cX3_loom 69 = .ok (.ireturn, 1) := dk_172 (dk_at dksX3_loom_2 22 rfl rfl)
theorem dX3_loom_70 : decode cX3_loom 70 = .ok (.aload_n 0, 1) := dk_42 (dk_at dksX3_loom_2 23 rfl rfl)
theorem dX3_loom_71 : decode cX3_loom 71 = .ok (.getfield 93, 3) := dk_180 0 93 (dk_at dksX3_loom_3 0 rfl rfl)
theorem dX3_loom_74 : decode cX3_loom 74 = .ok (.iload_n 1, 1) := dk_27 (dk_at dksX3_loom_3 3 rfl rfl)
theorem dX3_loom_75 : decode cX3_loom 75 = .ok (.iload_n 2, 1) := dk_28 (dk_at dksX3_loom_3 4 rfl rfl)
theorem dX3_loom_76 : decode cX3_loom 76 = .ok (.bipush 100, 2) := dk_16 100 (dk_at dksX3_loom_3 5 rfl rfl)
theorem dX3_loom_78 : decode cX3_loom 78 = .ok (.idiv, 1) := dk_108 (dk_at dksX3_loom_3 7 rfl rfl)
theorem dX3_loom_79 : decode cX3_loom 79 = .ok (.iastore, 1) := dk_79 (dk_at dksX3_loom_3 8 rfl rfl)
theorem dX3_loom_80 : decode cX3_loom 80 = .ok (.aload_n 0, 1) := dk_42 (dk_at dksX3_loom_3 9 rfl rfl)
theorem dX3_loom_81 : decode cX3_loom 81 = .ok (.getfield 96, 3) := dk_180 0 96 (dk_at dksX3_loom_3 10 rfl rfl)
theorem dX3_loom_84 : decode cX3_loom 84 = .ok (.iload_n 1, 1) := dk_27 (dk_at dksX3_loom_3 13 rfl rfl)
theorem dX3_loom_85 : decode cX3_loom 85 = .ok (.iload_n 2, 1) := dk_28 (dk_at dksX3_loom_3 14 rfl rfl)
theorem dX3_loom_86 : decode cX3_loom 86 = .ok (.bipush 100, 2) := dk_16 100 (dk_at dksX3_loom_3 15 rfl rfl)
theorem dX3_loom_88 : decode cX3_loom 88 = .ok (.irem, 1) := dk_112 (dk_at dksX3_loom_3 17 rfl rfl)
theorem dX3_loom_89 : decode cX3_loom 89 = .ok (.iastore, 1) := dk_79 (dk_at dksX3_loom_3 18 rfl rfl)
theorem dX3_loom_90 : decode cX3_loom 90 = .ok (.aload_n 0, 1) := dk_42 (dk_at dksX3_loom_3 19 rfl rfl)
theorem dX3_loom_91 : decode cX3_loom 91 = .ok (.getfield 99, 3) := dk_180 0 99 (dk_at dksX3_loom_3 20 rfl rfl)
theorem dX3_loom_94 : decode cX3_loom 94 = .ok (.iload_n 1, 1) := dk_27 (dk_at dksX3_loom_3 23 rfl rfl)
theorem dX3_loom_95 : decode cX3_loom 95 = .ok (.iload_n 3, 1) := dk_29 (dk_at dksX3_loom_4 0 rfl rfl)
theorem dX3_loom_96 : decode cX3_loom 96 = .ok (.iastore, 1) := dk_79 (dk_at dksX3_loom_4 1 rfl rfl)
theorem dX3_loom_97 : decode cX3_loom 97 = .ok (.iconst 1, 1) := dk_4 (dk_at dksX3_loom_4 2 rfl rfl)
theorem dX3_loom_98 : decode cX3_loom 98 = .ok (.ireturn, 1) := dk_172 (dk_at dksX3_loom_4 3 rfl rfl)
abbrev cX3_isHouse : ByteArray := prog_14_method_4_code
def yX3_isHouse : MethodName := ⟨RX3, "isHouse", "(I)Z"⟩
def dkwX3_isHouse_0 : List UInt8 := [27, 133, 9, 42, 180, 1, 22, 4, 100, 133, 184, 1, 18, 172]
abbrev dktX3_isHouse_0 : List UInt8 := dkwX3_isHouse_0 ++ []
theorem dksX3_isHouse_0 : cX3_isHouse.data.toList.drop 0 = dktX3_isHouse_0 := by decide +kernel
theorem dX3_isHouse_0 : decode cX3_isHouse 0 = .ok (.iload_n 1, 1) := dk_27 (dk_at dksX3_isHouse_0 0 rfl rfl)
theorem dX3_isHouse_1 : decode cX3_isHouse 1 = .ok (.i2l, 1) := dk_133 (dk_at dksX3_isHouse_0 1 rfl rfl)
theorem dX3_isHouse_2 : decode cX3_isHouse 2 = .ok (.lconst 0, 1) := dk_9 (dk_at dksX3_isHouse_0 2 rfl rfl)
theorem dX3_isHouse_3 : decode cX3_isHouse 3 = .ok (.aload_n 0, 1) := dk_42 (dk_at dksX3_isHouse_0 3 rfl rfl)
theorem dX3_isHouse_4 : decode cX3_isHouse 4 = .ok (.getfield 278, 3) := dk_180 1 22 (dk_at dksX3_isHouse_0 4 rfl rfl)
theorem dX3_isHouse_7 : decode cX3_isHouse 7 = .ok (.iconst 1, 1) := dk_4 (dk_at dksX3_isHouse_0 7 rfl rfl)
theorem dX3_isHouse_8 : decode cX3_isHouse 8 = .ok (.isub, 1) := dk_100 (dk_at dksX3_isHouse_0 8 rfl rfl)
theorem dX3_isHouse_9 : decode cX3_isHouse 9 = .ok (.i2l, 1) := dk_133 (dk_at dksX3_isHouse_0 9 rfl rfl)
theorem dX3_isHouse_10 : decode cX3_isHouse 10 = .ok (.invokestatic 274, 3) := dk_184 1 18 (dk_at dksX3_isHouse_0 10 rfl rfl)
theorem dX3_isHouse_13 : decode cX3_isHouse 13 = .ok (.ireturn, 1) := dk_172 (dk_at dksX3_isHouse_0 13 rfl rfl)
abbrev cX3_hasLoom : ByteArray := prog_14_method_11_code
def yX3_hasLoom : MethodName := ⟨RX3, "hasLoom", "(I)Z"⟩
def dkwX3_hasLoom_0 : List UInt8 := [42, 180, 0, 99, 27, 46, 158, 0, 7, 4, 167, 0, 4, 3, 172]
abbrev dktX3_hasLoom_0 : List UInt8 := dkwX3_hasLoom_0 ++ []
theorem dksX3_hasLoom_0 : cX3_hasLoom.data.toList.drop 0 = dktX3_hasLoom_0 := by decide +kernel
theorem dX3_hasLoom_0 : decode cX3_hasLoom 0 = .ok (.aload_n 0, 1) := dk_42 (dk_at dksX3_hasLoom_0 0 rfl rfl)
theorem dX3_hasLoom_1 : decode cX3_hasLoom 1 = .ok (.getfield 99, 3) := dk_180 0 99 (dk_at dksX3_hasLoom_0 1 rfl rfl)
theorem dX3_hasLoom_4 : decode cX3_hasLoom 4 = .ok (.iload_n 1, 1) := dk_27 (dk_at dksX3_hasLoom_0 4 rfl rfl)
theorem dX3_hasLoom_5 : decode cX3_hasLoom 5 = .ok (.iaload, 1) := dk_46 (dk_at dksX3_hasLoom_0 5 rfl rfl)
theorem dX3_hasLoom_6 : decode cX3_hasLoom 6 = .ok (.ifCond .le 7, 3) := dk_158 0 7 (dk_at dksX3_hasLoom_0 6 rfl rfl)
theorem dX3_hasLoom_9 : decode cX3_hasLoom 9 = .ok (.iconst 1, 1) := dk_4 (dk_at dksX3_hasLoom_0 9 rfl rfl)
theorem dX3_hasLoom_10 : decode cX3_hasLoom 10 = .ok (.goto 4, 3) := dk_167 0 4 (dk_at dksX3_hasLoom_0 10 rfl rfl)
theorem dX3_hasLoom_13 : decode cX3_hasLoom 13 = .ok (.iconst 0, 1) := dk_3 (dk_at dksX3_hasLoom_0 13 rfl rfl)
theorem dX3_hasLoom_14 : decode cX3_hasLoom 14 = .ok (.ireturn, 1) := dk_172 (dk_at dksX3_hasLoom_0 14 rfl rfl)
abbrev cX3_aim : ByteArray := prog_14_method_13_code
def yX3_aim : MethodName := ⟨RX3, "aim", "(II)Z"⟩
def dkwX3_aim_1 : List UInt8 := [42, 180, 0, 81, 27, 28, 79, 4, 172]
abbrev dktX3_aim_1 : List UInt8 := dkwX3_aim_1 ++ []
def dkwX3_aim_0 : List UInt8 := [42, 27, 182, 1, 41, 153, 0, 17, 28, 133, 20, 1, 47, 20, 1, 49, 184, 1, 18, 154, 0, 5, 3, 172]
abbrev dktX3_aim_0 : List UInt8 := dkwX3_aim_0 ++ dktX3_aim_1
theorem dksX3_aim_0 : cX3_aim.data.toList.drop 0 = dktX3_aim_0 := by decide +kernel
theorem dksX3_aim_1 : cX3_aim.data.toList.drop 24 = dktX3_aim_1 := dk_seg dksX3_aim_0 24 rfl rfl
theorem dX3_aim_0 : decode cX3_aim 0 = .ok (.aload_n 0, 1) := dk_42 (dk_at dksX3_aim_0 0 rfl rfl)
theorem dX3_aim_1 : decode cX3_aim 1 = .ok (.iload_n 1, 1) := dk_27 (dk_at dksX3_aim_0 1 rfl rfl)
theorem dX3_aim_2 : decode cX3_aim 2 = .ok (.invokevirtual 297, 3) := dk_182 1 41 (dk_at dksX3_aim_0 2 rfl rfl)
theorem dX3_aim_5 : decode cX3_aim 5 = .ok (.ifCond .eq 17, 3) := dk_153 0 17 (dk_at dksX3_aim_0 5 rfl rfl)
theorem dX3_aim_8 : decode cX3_aim 8 = .ok (.iload_n 2, 1) := dk_28 (dk_at dksX3_aim_0 8 rfl rfl)
theorem dX3_aim_9 : decode cX3_aim 9 = .ok (.i2l, 1) := dk_133 (dk_at dksX3_aim_0 9 rfl rfl)
theorem dX3_aim_10 : decode cX3_aim 10 = .ok (.ldc2_w 303, 3) := dk_20 1 47 (dk_at dksX3_aim_0 10 rfl rfl)
theorem dX3_aim_13 : decode cX3_aim 13 = .ok (.ldc2_w 305, 3) := dk_20 1 49 (dk_at dksX3_aim_0 13 rfl rfl)
theorem dX3_aim_16 : decode cX3_aim 16 = .ok (.invokestatic 274, 3) := dk_184 1 18 (dk_at dksX3_aim_0 16 rfl rfl)
theorem dX3_aim_19 : decode cX3_aim 19 = .ok (.ifCond .ne 5, 3) := dk_154 0 5 (dk_at dksX3_aim_0 19 rfl rfl)
theorem dX3_aim_22 : decode cX3_aim 22 = .ok (.iconst 0, 1) := dk_3 (dk_at dksX3_aim_0 22 rfl rfl)
theorem dX3_aim_23 : decode cX3_aim 23 = .ok (.ireturn, 1) := dk_172 (dk_at dksX3_aim_0 23 rfl rfl)
theorem dX3_aim_24 : decode cX3_aim 24 = .ok (.aload_n 0, 1) := dk_42 (dk_at dksX3_aim_1 0 rfl rfl)
theorem dX3_aim_25 : decode cX3_aim 25 = .ok (.getfield 81, 3) := dk_180 0 81 (dk_at dksX3_aim_1 1 rfl rfl)
theorem dX3_aim_28 : decode cX3_aim 28 = .ok (.iload_n 1, 1) := dk_27 (dk_at dksX3_aim_1 4 rfl rfl)
theorem dX3_aim_29 : decode cX3_aim 29 = .ok (.iload_n 2, 1) := dk_28 (dk_at dksX3_aim_1 5 rfl rfl)
theorem dX3_aim_30 : decode cX3_aim 30 = .ok (.iastore, 1) := dk_79 (dk_at dksX3_aim_1 6 rfl rfl)
theorem dX3_aim_31 : decode cX3_aim 31 = .ok (.iconst 1, 1) := dk_4 (dk_at dksX3_aim_1 7 rfl rfl)
theorem dX3_aim_32 : decode cX3_aim 32 = .ok (.ireturn, 1) := dk_172 (dk_at dksX3_aim_1 8 rfl rfl)
abbrev cX3_coins : ByteArray := prog_14_method_14_code
def yX3_coins : MethodName := ⟨RX3, "coins", "(II)I"⟩
def dkwX3_coins_1 : List UInt8 := [19, 1, 55, 172, 42, 180, 0, 78, 27, 92, 46, 28, 96, 79, 42, 180, 0, 78, 27, 46, 172]
abbrev dktX3_coins_1 : List UInt8 := dkwX3_coins_1 ++ []
def dkwX3_coins_0 : List UInt8 := [42, 27, 182, 1, 41, 153, 0, 17, 28, 133, 20, 1, 53, 20, 1, 28, 184, 1, 18, 154, 0, 7]
abbrev dktX3_coins_0 : List UInt8 := dkwX3_coins_0 ++ dktX3_coins_1
theorem dksX3_coins_0 : cX3_coins.data.toList.drop 0 = dktX3_coins_0 := by decide +kernel
theorem dksX3_coins_1 : cX3_coins.data.toList.drop 22 = dktX3_coins_1 := dk_seg dksX3_coins_0 22 rfl rfl
theorem dX3_coins_0 : decode cX3_coins 0 = .ok (.aload_n 0, 1) := dk_42 (dk_at dksX3_coins_0 0 rfl rfl)
theorem dX3_coins_1 : decode cX3_coins 1 = .ok (.iload_n 1, 1) := dk_27 (dk_at dksX3_coins_0 1 rfl rfl)
theorem dX3_coins_2 : decode cX3_coins 2 = .ok (.invokevirtual 297, 3) := dk_182 1 41 (dk_at dksX3_coins_0 2 rfl rfl)
theorem dX3_coins_5 : decode cX3_coins 5 = .ok (.ifCond .eq 17, 3) := dk_153 0 17 (dk_at dksX3_coins_0 5 rfl rfl)
theorem dX3_coins_8 : decode cX3_coins 8 = .ok (.iload_n 2, 1) := dk_28 (dk_at dksX3_coins_0 8 rfl rfl)
theorem dX3_coins_9 : decode cX3_coins 9 = .ok (.i2l, 1) := dk_133 (dk_at dksX3_coins_0 9 rfl rfl)
theorem dX3_coins_10 : decode cX3_coins 10 = .ok (.ldc2_w 309, 3) := dk_20 1 53 (dk_at dksX3_coins_0 10 rfl rfl)
theorem dX3_coins_13 : decode cX3_coins 13 = .ok (.ldc2_w 284, 3) := dk_20 1 28 (dk_at dksX3_coins_0 13 rfl rfl)
theorem dX3_coins_16 : decode cX3_coins 16 = .ok (.invokestatic 274, 3) := dk_184 1 18 (dk_at dksX3_coins_0 16 rfl rfl)
theorem dX3_coins_19 : decode cX3_coins 19 = .ok (.ifCond .ne 7, 3) := dk_154 0 7 (dk_at dksX3_coins_0 19 rfl rfl)
theorem dX3_coins_22 : decode cX3_coins 22 = .ok (.ldc_w 311, 3) := dk_19 1 55 (dk_at dksX3_coins_1 0 rfl rfl)
theorem dX3_coins_25 : decode cX3_coins 25 = .ok (.ireturn, 1) := dk_172 (dk_at dksX3_coins_1 3 rfl rfl)
theorem dX3_coins_26 : decode cX3_coins 26 = .ok (.aload_n 0, 1) := dk_42 (dk_at dksX3_coins_1 4 rfl rfl)
theorem dX3_coins_27 : decode cX3_coins 27 = .ok (.getfield 78, 3) := dk_180 0 78 (dk_at dksX3_coins_1 5 rfl rfl)
theorem dX3_coins_30 : decode cX3_coins 30 = .ok (.iload_n 1, 1) := dk_27 (dk_at dksX3_coins_1 8 rfl rfl)
theorem dX3_coins_31 : decode cX3_coins 31 = .ok (.dup2, 1) := dk_92 (dk_at dksX3_coins_1 9 rfl rfl)
theorem dX3_coins_32 : decode cX3_coins 32 = .ok (.iaload, 1) := dk_46 (dk_at dksX3_coins_1 10 rfl rfl)
theorem dX3_coins_33 : decode cX3_coins 33 = .ok (.iload_n 2, 1) := dk_28 (dk_at dksX3_coins_1 11 rfl rfl)
theorem dX3_coins_34 : decode cX3_coins 34 = .ok (.iadd, 1) := dk_96 (dk_at dksX3_coins_1 12 rfl rfl)
theorem dX3_coins_35 : decode cX3_coins 35 = .ok (.iastore, 1) := dk_79 (dk_at dksX3_coins_1 13 rfl rfl)
theorem dX3_coins_36 : decode cX3_coins 36 = .ok (.aload_n 0, 1) := dk_42 (dk_at dksX3_coins_1 14 rfl rfl)
theorem dX3_coins_37 : decode cX3_coins 37 = .ok (.getfield 78, 3) := dk_180 0 78 (dk_at dksX3_coins_1 15 rfl rfl)
theorem dX3_coins_40 : decode cX3_coins 40 = .ok (.iload_n 1, 1) := dk_27 (dk_at dksX3_coins_1 18 rfl rfl)
theorem dX3_coins_41 : decode cX3_coins 41 = .ok (.iaload, 1) := dk_46 (dk_at dksX3_coins_1 19 rfl rfl)
theorem dX3_coins_42 : decode cX3_coins 42 = .ok (.ireturn, 1) := dk_172 (dk_at dksX3_coins_1 20 rfl rfl)
abbrev cX3_cotton : ByteArray := prog_14_method_15_code
def yX3_cotton : MethodName := ⟨RX3, "cotton", "(II)I"⟩
def dkwX3_cotton_2 : List UInt8 := [180, 0, 24, 27, 46, 172]
abbrev dktX3_cotton_2 : List UInt8 := dkwX3_cotton_2 ++ []
def dkwX3_cotton_1 : List UInt8 := [27, 46, 28, 96, 17, 39, 15, 164, 0, 5, 2, 172, 42, 180, 0, 24, 27, 92, 46, 28, 96, 79, 42]
abbrev dktX3_cotton_1 : List UInt8 := dkwX3_cotton_1 ++ dktX3_cotton_2
def dkwX3_cotton_0 : List UInt8 := [42, 27, 182, 1, 33, 153, 0, 29, 28, 133, 10, 20, 1, 56, 184, 1, 18, 153, 0, 17, 42, 180, 0, 24]
abbrev dktX3_cotton_0 : List UInt8 := dkwX3_cotton_0 ++ dktX3_cotton_1
theorem dksX3_cotton_0 : cX3_cotton.data.toList.drop 0 = dktX3_cotton_0 := by decide +kernel
theorem dksX3_cotton_1 : cX3_cotton.data.toList.drop 24 = dktX3_cotton_1 := dk_seg dksX3_cotton_0 24 rfl rfl
theorem dksX3_cotton_2 : cX3_cotton.data.toList.drop 47 = dktX3_cotton_2 := dk_seg dksX3_cotton_1 23 rfl rfl
theorem dX3_cotton_0 : decode cX3_cotton 0 = .ok (.aload_n 0, 1) := dk_42 (dk_at dksX3_cotton_0 0 rfl rfl)
theorem dX3_cotton_1 : decode cX3_cotton 1 = .ok (.iload_n 1, 1) := dk_27 (dk_at dksX3_cotton_0 1 rfl rfl)
theorem dX3_cotton_2 : decode cX3_cotton 2 = .ok (.invokevirtual 289, 3) := dk_182 1 33 (dk_at dksX3_cotton_0 2 rfl rfl)
theorem dX3_cotton_5 : decode cX3_cotton 5 = .ok (.ifCond .eq 29, 3) := dk_153 0 29 (dk_at dksX3_cotton_0 5 rfl rfl)
theorem dX3_cotton_8 : decode cX3_cotton 8 = .ok (.iload_n 2, 1) := dk_28 (dk_at dksX3_cotton_0 8 rfl rfl)
theorem dX3_cotton_9 : decode cX3_cotton 9 = .ok (.i2l, 1) := dk_133 (dk_at dksX3_cotton_0 9 rfl rfl)
theorem dX3_cotton_10 : decode cX3_cotton 10 = .ok (.lconst 1, 1) := dk_10 (dk_at dksX3_cotton_0 10 rfl rfl)
theorem dX3_cotton_11 : decode cX3_cotton 11 = .ok (.ldc2_w 312, 3) := dk_20 1 56 (dk_at dksX3_cotton_0 11 rfl rfl)
theorem dX3_cotton_14 : decode cX3_cotton 14 = .ok (.invokestatic 274, 3) := dk_184 1 18 (dk_at dksX3_cotton_0 14 rfl rfl)
theorem dX3_cotton_17 : decode cX3_cotton 17 = .ok (.ifCond .eq 17, 3) := dk_153 0 17 (dk_at dksX3_cotton_0 17 rfl rfl)
theorem dX3_cotton_20 : decode cX3_cotton 20 = .ok (.aload_n 0, 1) := dk_42 (dk_at dksX3_cotton_0 20 rfl rfl)
theorem dX3_cotton_21 : decode cX3_cotton 21 = .ok (.getfield 24, 3) := dk_180 0 24 (dk_at dksX3_cotton_0 21 rfl rfl)
theorem dX3_cotton_24 : decode cX3_cotton 24 = .ok (.iload_n 1, 1) := dk_27 (dk_at dksX3_cotton_1 0 rfl rfl)
theorem dX3_cotton_25 : decode cX3_cotton 25 = .ok (.iaload, 1) := dk_46 (dk_at dksX3_cotton_1 1 rfl rfl)
theorem dX3_cotton_26 : decode cX3_cotton 26 = .ok (.iload_n 2, 1) := dk_28 (dk_at dksX3_cotton_1 2 rfl rfl)
theorem dX3_cotton_27 : decode cX3_cotton 27 = .ok (.iadd, 1) := dk_96 (dk_at dksX3_cotton_1 3 rfl rfl)
theorem dX3_cotton_28 : decode cX3_cotton 28 = .ok (.sipush 9999, 3) := dk_17 39 15 (dk_at dksX3_cotton_1 4 rfl rfl)
theorem dX3_cotton_31 : decode cX3_cotton 31 = .ok (.if_icmp .le 5, 3) := dk_164 0 5 (dk_at dksX3_cotton_1 7 rfl rfl)
theorem dX3_cotton_34 : decode cX3_cotton 34 = .ok (.iconst (-1), 1) := dk_2 (dk_at dksX3_cotton_1 10 rfl rfl)
theorem dX3_cotton_35 : decode cX3_cotton 35 = .ok (.ireturn, 1) := dk_172 (dk_at dksX3_cotton_1 11 rfl rfl)
theorem dX3_cotton_36 : decode cX3_cotton 36 = .ok (.aload_n 0, 1) := dk_42 (dk_at dksX3_cotton_1 12 rfl rfl)
theorem dX3_cotton_37 : decode cX3_cotton 37 = .ok (.getfield 24, 3) := dk_180 0 24 (dk_at dksX3_cotton_1 13 rfl rfl)
theorem dX3_cotton_40 : decode cX3_cotton 40 = .ok (.iload_n 1, 1) := dk_27 (dk_at dksX3_cotton_1 16 rfl rfl)
theorem dX3_cotton_41 : decode cX3_cotton 41 = .ok (.dup2, 1) := dk_92 (dk_at dksX3_cotton_1 17 rfl rfl)
theorem dX3_cotton_42 : decode cX3_cotton 42 = .ok (.iaload, 1) := dk_46 (dk_at dksX3_cotton_1 18 rfl rfl)
theorem dX3_cotton_43 : decode cX3_cotton 43 = .ok (.iload_n 2, 1) := dk_28 (dk_at dksX3_cotton_1 19 rfl rfl)
theorem dX3_cotton_44 : decode cX3_cotton 44 = .ok (.iadd, 1) := dk_96 (dk_at dksX3_cotton_1 20 rfl rfl)
theorem dX3_cotton_45 : decode cX3_cotton 45 = .ok (.iastore, 1) := dk_79 (dk_at dksX3_cotton_1 21 rfl rfl)
theorem dX3_cotton_46 : decode cX3_cotton 46 = .ok (.aload_n 0, 1) := dk_42 (dk_at dksX3_cotton_1 22 rfl rfl)
theorem dX3_cotton_47 : decode cX3_cotton 47 = .ok (.getfield 24, 3) := dk_180 0 24 (dk_at dksX3_cotton_2 0 rfl rfl)
theorem dX3_cotton_50 : decode cX3_cotton 50 = .ok (.iload_n 1, 1) := dk_27 (dk_at dksX3_cotton_2 3 rfl rfl)
theorem dX3_cotton_51 : decode cX3_cotton 51 = .ok (.iaload, 1) := dk_46 (dk_at dksX3_cotton_2 4 rfl rfl)
theorem dX3_cotton_52 : decode cX3_cotton 52 = .ok (.ireturn, 1) := dk_172 (dk_at dksX3_cotton_2 5 rfl rfl)
abbrev cX3_feed : ByteArray := prog_14_method_17_code
def yX3_feed : MethodName := ⟨RX3, "feed", "(IIIII)I"⟩
def dkwX3_feed_2 : List UInt8 := [172]
abbrev dktX3_feed_2 : List UInt8 := dkwX3_feed_2 ++ []
def dkwX3_feed_1 : List UInt8 := [182, 1, 61, 42, 29, 182, 1, 61, 42, 21, 4, 182, 1, 61, 42, 21, 5, 182, 1, 61, 42, 180, 1, 58]
abbrev dktX3_feed_1 : List UInt8 := dkwX3_feed_1 ++ dktX3_feed_2
def dkwX3_feed_0 : List UInt8 := [42, 180, 1, 58, 16, 20, 96, 17, 1, 144, 164, 0, 5, 2, 172, 42, 27, 182, 1, 61, 42, 28]
abbrev dktX3_feed_0 : List UInt8 := dkwX3_feed_0 ++ dktX3_feed_1
theorem dksX3_feed_0 : cX3_feed.data.toList.drop 0 = dktX3_feed_0 := by decide +kernel
theorem dksX3_feed_1 : cX3_feed.data.toList.drop 22 = dktX3_feed_1 := dk_seg dksX3_feed_0 22 rfl rfl
theorem dksX3_feed_2 : cX3_feed.data.toList.drop 46 = dktX3_feed_2 := dk_seg dksX3_feed_1 24 rfl rfl
theorem dX3_feed_0 : decode cX3_feed 0 = .ok (.aload_n 0, 1) := dk_42 (dk_at dksX3_feed_0 0 rfl rfl)
theorem dX3_feed_1 : decode cX3_feed 1 = .ok (.getfield 314, 3) := dk_180 1 58 (dk_at dksX3_feed_0 1 rfl rfl)
theorem dX3_feed_4 : decode cX3_feed 4 = .ok (.bipush 20, 2) := dk_16 20 (dk_at dksX3_feed_0 4 rfl rfl)
theorem dX3_feed_6 : decode cX3_feed 6 = .ok (.iadd, 1) := dk_96 (dk_at dksX3_feed_0 6 rfl rfl)
theorem dX3_feed_7 : decode cX3_feed 7 = .ok (.sipush 400, 3) := dk_17 1 144 (dk_at dksX3_feed_0 7 rfl rfl)
theorem dX3_feed_10 : decode cX3_feed 10 = .ok (.if_icmp .le 5, 3) := dk_164 0 5 (dk_at dksX3_feed_0 10 rfl rfl)
theorem dX3_feed_13 : decode cX3_feed 13 = .ok (.iconst (-1), 1) := dk_2 (dk_at dksX3_feed_0 13 rfl rfl)
theorem dX3_feed_14 : decode cX3_feed 14 = .ok (.ireturn, 1) := dk_172 (dk_at dksX3_feed_0 14 rfl rfl)
theorem dX3_feed_15 : decode cX3_feed 15 = .ok (.aload_n 0, 1) := dk_42 (dk_at dksX3_feed_0 15 rfl rfl)
theorem dX3_feed_16 : decode cX3_feed 16 = .ok (.iload_n 1, 1) := dk_27 (dk_at dksX3_feed_0 16 rfl rfl)
theorem dX3_feed_17 : decode cX3_feed 17 = .ok (.invokevirtual 317, 3) := dk_182 1 61 (dk_at dksX3_feed_0 17 rfl rfl)
theorem dX3_feed_20 : decode cX3_feed 20 = .ok (.aload_n 0, 1) := dk_42 (dk_at dksX3_feed_0 20 rfl rfl)
theorem dX3_feed_21 : decode cX3_feed 21 = .ok (.iload_n 2, 1) := dk_28 (dk_at dksX3_feed_0 21 rfl rfl)
theorem dX3_feed_22 : decode cX3_feed 22 = .ok (.invokevirtual 317, 3) := dk_182 1 61 (dk_at dksX3_feed_1 0 rfl rfl)
theorem dX3_feed_25 : decode cX3_feed 25 = .ok (.aload_n 0, 1) := dk_42 (dk_at dksX3_feed_1 3 rfl rfl)
theorem dX3_feed_26 : decode cX3_feed 26 = .ok (.iload_n 3, 1) := dk_29 (dk_at dksX3_feed_1 4 rfl rfl)
theorem dX3_feed_27 : decode cX3_feed 27 = .ok (.invokevirtual 317, 3) := dk_182 1 61 (dk_at dksX3_feed_1 5 rfl rfl)
theorem dX3_feed_30 : decode cX3_feed 30 = .ok (.aload_n 0, 1) := dk_42 (dk_at dksX3_feed_1 8 rfl rfl)
theorem dX3_feed_31 : decode cX3_feed 31 = .ok (.iload 4, 2) := dk_21 4 (dk_at dksX3_feed_1 9 rfl rfl)
theorem dX3_feed_33 : decode cX3_feed 33 = .ok (.invokevirtual 317, 3) := dk_182 1 61 (dk_at dksX3_feed_1 11 rfl rfl)
theorem dX3_feed_36 : decode cX3_feed 36 = .ok (.aload_n 0, 1) := dk_42 (dk_at dksX3_feed_1 14 rfl rfl)
theorem dX3_feed_37 : decode cX3_feed 37 = .ok (.iload 5, 2) := dk_21 5 (dk_at dksX3_feed_1 15 rfl rfl)
theorem dX3_feed_39 : decode cX3_feed 39 = .ok (.invokevirtual 317, 3) := dk_182 1 61 (dk_at dksX3_feed_1 17 rfl rfl)
theorem dX3_feed_42 : decode cX3_feed 42 = .ok (.aload_n 0, 1) := dk_42 (dk_at dksX3_feed_1 20 rfl rfl)
theorem dX3_feed_43 : decode cX3_feed 43 = .ok (.getfield 314, 3) := dk_180 1 58 (dk_at dksX3_feed_1 21 rfl rfl)
theorem dX3_feed_46 : decode cX3_feed 46 = .ok (.ireturn, 1) := dk_172 (dk_at dksX3_feed_2 0 rfl rfl)
abbrev cX3_feeds : ByteArray := prog_14_method_16_code
def yX3_feeds : MethodName := ⟨RX3, "feeds", "(I)V"⟩
def dkwX3_feeds_1 : List UInt8 := [180, 1, 58, 4, 96, 181, 1, 58, 132, 2, 255, 167, 255, 223, 177]
abbrev dktX3_feeds_1 : List UInt8 := dkwX3_feeds_1 ++ []
def dkwX3_feeds_0 : List UInt8 := [6, 61, 28, 155, 0, 35, 42, 180, 0, 121, 42, 180, 1, 58, 27, 16, 8, 28, 104, 124, 145, 84, 42, 89]
abbrev dktX3_feeds_0 : List UInt8 := dkwX3_feeds_0 ++ dktX3_feeds_1
theorem dksX3_feeds_0 : cX3_feeds.data.toList.drop 0 = dktX3_feeds_0 := by decide +kernel
theorem dksX3_feeds_1 : cX3_feeds.data.toList.drop 24 = dktX3_feeds_1 := dk_seg dksX3_feeds_0 24 rfl rfl
theorem dX3_feeds_0 : decode cX3_feeds 0 = .ok (.iconst 3, 1) := dk_6 (dk_at dksX3_feeds_0 0 rfl rfl)
theorem dX3_feeds_1 : decode cX3_feeds 1 = .ok (.istore_n 2, 1) := dk_61 (dk_at dksX3_feeds_0 1 rfl rfl)
theorem dX3_feeds_2 : decode cX3_feeds 2 = .ok (.iload_n 2, 1) := dk_28 (dk_at dksX3_feeds_0 2 rfl rfl)
theorem dX3_feeds_3 : decode cX3_feeds 3 = .ok (.ifCond .lt 35, 3) := dk_155 0 35 (dk_at dksX3_feeds_0 3 rfl rfl)
theorem dX3_feeds_6 : decode cX3_feeds 6 = .ok (.aload_n 0, 1) := dk_42 (dk_at dksX3_feeds_0 6 rfl rfl)
theorem dX3_feeds_7 : decode cX3_feeds 7 = .ok (.getfield 121, 3) := dk_180 0 121 (dk_at dksX3_feeds_0 7 rfl rfl)
theorem dX3_feeds_10 : decode cX3_feeds 10 = .ok (.aload_n 0, 1) := dk_42 (dk_at dksX3_feeds_0 10 rfl rfl)
theorem dX3_feeds_11 : decode cX3_feeds 11 = .ok (.getfield 314, 3) := dk_180 1 58 (dk_at dksX3_feeds_0 11 rfl rfl)
theorem dX3_feeds_14 : decode cX3_feeds 14 = .ok (.iload_n 1, 1) := dk_27 (dk_at dksX3_feeds_0 14 rfl rfl)
theorem dX3_feeds_15 : decode cX3_feeds 15 = .ok (.bipush 8, 2) := dk_16 8 (dk_at dksX3_feeds_0 15 rfl rfl)
theorem dX3_feeds_17 : decode cX3_feeds 17 = .ok (.iload_n 2, 1) := dk_28 (dk_at dksX3_feeds_0 17 rfl rfl)
theorem dX3_feeds_18 : decode cX3_feeds 18 = .ok (.imul, 1) := dk_104 (dk_at dksX3_feeds_0 18 rfl rfl)
theorem dX3_feeds_19 : decode cX3_feeds 19 = .ok (.iushr, 1) := dk_124 (dk_at dksX3_feeds_0 19 rfl rfl)
theorem dX3_feeds_20 : decode cX3_feeds 20 = .ok (.i2b, 1) := dk_145 (dk_at dksX3_feeds_0 20 rfl rfl)
theorem dX3_feeds_21 : decode cX3_feeds 21 = .ok (.bastore, 1) := dk_84 (dk_at dksX3_feeds_0 21 rfl rfl)
theorem dX3_feeds_22 : decode cX3_feeds 22 = .ok (.aload_n 0, 1) := dk_42 (dk_at dksX3_feeds_0 22 rfl rfl)
theorem dX3_feeds_23 : decode cX3_feeds 23 = .ok (.dup, 1) := dk_89 (dk_at dksX3_feeds_0 23 rfl rfl)
theorem dX3_feeds_24 : decode cX3_feeds 24 = .ok (.getfield 314, 3) := dk_180 1 58 (dk_at dksX3_feeds_1 0 rfl rfl)
theorem dX3_feeds_27 : decode cX3_feeds 27 = .ok (.iconst 1, 1) := dk_4 (dk_at dksX3_feeds_1 3 rfl rfl)
theorem dX3_feeds_28 : decode cX3_feeds 28 = .ok (.iadd, 1) := dk_96 (dk_at dksX3_feeds_1 4 rfl rfl)
theorem dX3_feeds_29 : decode cX3_feeds 29 = .ok (.putfield 314, 3) := dk_181 1 58 (dk_at dksX3_feeds_1 5 rfl rfl)
theorem dX3_feeds_32 : decode cX3_feeds 32 = .ok (.iinc 2 (-1), 3) := dk_132 2 255 (dk_at dksX3_feeds_1 8 rfl rfl)
theorem dX3_feeds_35 : decode cX3_feeds 35 = .ok (.goto (-33), 3) := dk_167 255 223 (dk_at dksX3_feeds_1 11 rfl rfl)
theorem dX3_feeds_38 : decode cX3_feeds 38 = .ok (.return_, 1) := dk_177 (dk_at dksX3_feeds_1 14 rfl rfl)
abbrev cX3_end : ByteArray := prog_14_method_18_code
def yX3_end : MethodName := ⟨RX3, "end", "(I)Z"⟩
def dkwX3_end_0 : List UInt8 := [27, 133, 9, 42, 180, 1, 58, 133, 184, 1, 18, 154, 0, 5, 3, 172, 42, 27, 181, 1, 58, 4, 172]
abbrev dktX3_end_0 : List UInt8 := dkwX3_end_0 ++ []
theorem dksX3_end_0 : cX3_end.data.toList.drop 0 = dktX3_end_0 := by decide +kernel
theorem dX3_end_0 : decode cX3_end 0 = .ok (.iload_n 1, 1) := dk_27 (dk_at dksX3_end_0 0 rfl rfl)
theorem dX3_end_1 : decode cX3_end 1 = .ok (.i2l, 1) := dk_133 (dk_at dksX3_end_0 1 rfl rfl)
theorem dX3_end_2 : decode cX3_end 2 = .ok (.lconst 0, 1) := dk_9 (dk_at dksX3_end_0 2 rfl rfl)
theorem dX3_end_3 : decode cX3_end 3 = .ok (.aload_n 0, 1) := dk_42 (dk_at dksX3_end_0 3 rfl rfl)
theorem dX3_end_4 : decode cX3_end 4 = .ok (.getfield 314, 3) := dk_180 1 58 (dk_at dksX3_end_0 4 rfl rfl)
theorem dX3_end_7 : decode cX3_end 7 = .ok (.i2l, 1) := dk_133 (dk_at dksX3_end_0 7 rfl rfl)
theorem dX3_end_8 : decode cX3_end 8 = .ok (.invokestatic 274, 3) := dk_184 1 18 (dk_at dksX3_end_0 8 rfl rfl)
theorem dX3_end_11 : decode cX3_end 11 = .ok (.ifCond .ne 5, 3) := dk_154 0 5 (dk_at dksX3_end_0 11 rfl rfl)
theorem dX3_end_14 : decode cX3_end 14 = .ok (.iconst 0, 1) := dk_3 (dk_at dksX3_end_0 14 rfl rfl)
theorem dX3_end_15 : decode cX3_end 15 = .ok (.ireturn, 1) := dk_172 (dk_at dksX3_end_0 15 rfl rfl)
theorem dX3_end_16 : decode cX3_end 16 = .ok (.aload_n 0, 1) := dk_42 (dk_at dksX3_end_0 16 rfl rfl)
theorem dX3_end_17 : decode cX3_end 17 = .ok (.iload_n 1, 1) := dk_27 (dk_at dksX3_end_0 17 rfl rfl)
theorem dX3_end_18 : decode cX3_end 18 = .ok (.putfield 314, 3) := dk_181 1 58 (dk_at dksX3_end_0 18 rfl rfl)
theorem dX3_end_21 : decode cX3_end 21 = .ok (.iconst 1, 1) := dk_4 (dk_at dksX3_end_0 21 rfl rfl)
theorem dX3_end_22 : decode cX3_end 22 = .ok (.ireturn, 1) := dk_172 (dk_at dksX3_end_0 22 rfl rfl)
abbrev cX3_fault : ByteArray := prog_14_method_37_code
def yX3_fault : MethodName := ⟨RX3, "fault", "()I"⟩
def dkwX3_fault_0 : List UInt8 := [42, 182, 1, 154, 42, 180, 1, 88, 172]
abbrev dktX3_fault_0 : List UInt8 := dkwX3_fault_0 ++ []
theorem dksX3_fault_0 : cX3_fault.data.toList.drop 0 = dktX3_fault_0 := by decide +kernel
theorem dX3_fault_0 : decode cX3_fault 0 = .ok (.aload_n 0, 1) := dk_42 (dk_at dksX3_fault_0 0 rfl rfl)
theorem dX3_fault_1 : decode cX3_fault 1 = .ok (.invokevirtual 410, 3) := dk_182 1 154 (dk_at dksX3_fault_0 1 rfl rfl)
theorem dX3_fault_4 : decode cX3_fault 4 = .ok (.aload_n 0, 1) := dk_42 (dk_at dksX3_fault_0 4 rfl rfl)
theorem dX3_fault_5 : decode cX3_fault 5 = .ok (.getfield 344, 3) := dk_180 1 88 (dk_at dksX3_fault_0 5 rfl rfl)
theorem dX3_fault_8 : decode cX3_fault 8 = .ok (.ireturn, 1) := dk_172 (dk_at dksX3_fault_0 8 rfl rfl)
abbrev cX3_reads : ByteArray := prog_14_method_36_code
def yX3_reads : MethodName := ⟨RX3, "reads", "()V"⟩
def dkwX3_reads_2 : List UInt8 := [180, 1, 65, 42, 180, 1, 58, 162, 0, 11, 42, 182, 1, 151, 60, 167, 255, 236, 177]
abbrev dktX3_reads_2 : List UInt8 := dkwX3_reads_2 ++ []
def dkwX3_reads_1 : List UInt8 := [132, 1, 1, 167, 255, 238, 42, 3, 181, 1, 65, 42, 182, 1, 77, 4, 60, 27, 153, 0, 22, 42]
abbrev dktX3_reads_1 : List UInt8 := dkwX3_reads_1 ++ dktX3_reads_2
def dkwX3_reads_0 : List UInt8 := [42, 2, 181, 1, 88, 3, 60, 27, 8, 162, 0, 19, 42, 180, 0, 130, 16, 8, 50, 27, 3, 79]
abbrev dktX3_reads_0 : List UInt8 := dkwX3_reads_0 ++ dktX3_reads_1
theorem dksX3_reads_0 : cX3_reads.data.toList.drop 0 = dktX3_reads_0 := by decide +kernel
theorem dksX3_reads_1 : cX3_reads.data.toList.drop 22 = dktX3_reads_1 := dk_seg dksX3_reads_0 22 rfl rfl
theorem dksX3_reads_2 : cX3_reads.data.toList.drop 44 = dktX3_reads_2 := dk_seg dksX3_reads_1 22 rfl rfl
theorem dX3_reads_0 : decode cX3_reads 0 = .ok (.aload_n 0, 1) := dk_42 (dk_at dksX3_reads_0 0 rfl rfl)
theorem dX3_reads_1 : decode cX3_reads 1 = .ok (.iconst (-1), 1) := dk_2 (dk_at dksX3_reads_0 1 rfl rfl)
theorem dX3_reads_2 : decode cX3_reads 2 = .ok (.putfield 344, 3) := dk_181 1 88 (dk_at dksX3_reads_0 2 rfl rfl)
theorem dX3_reads_5 : decode cX3_reads 5 = .ok (.iconst 0, 1) := dk_3 (dk_at dksX3_reads_0 5 rfl rfl)
theorem dX3_reads_6 : decode cX3_reads 6 = .ok (.istore_n 1, 1) := dk_60 (dk_at dksX3_reads_0 6 rfl rfl)
theorem dX3_reads_7 : decode cX3_reads 7 = .ok (.iload_n 1, 1) := dk_27 (dk_at dksX3_reads_0 7 rfl rfl)
theorem dX3_reads_8 : decode cX3_reads 8 = .ok (.iconst 5, 1) := dk_8 (dk_at dksX3_reads_0 8 rfl rfl)
theorem dX3_reads_9 : decode cX3_reads 9 = .ok (.if_icmp .ge 19, 3) := dk_162 0 19 (dk_at dksX3_reads_0 9 rfl rfl)
theorem dX3_reads_12 : decode cX3_reads 12 = .ok (.aload_n 0, 1) := dk_42 (dk_at dksX3_reads_0 12 rfl rfl)
theorem dX3_reads_13 : decode cX3_reads 13 = .ok (.getfield 130, 3) := dk_180 0 130 (dk_at dksX3_reads_0 13 rfl rfl)
theorem dX3_reads_16 : decode cX3_reads 16 = .ok (.bipush 8, 2) := dk_16 8 (dk_at dksX3_reads_0 16 rfl rfl)
theorem dX3_reads_18 : decode cX3_reads 18 = .ok (.aaload, 1) := dk_50 (dk_at dksX3_reads_0 18 rfl rfl)
theorem dX3_reads_19 : decode cX3_reads 19 = .ok (.iload_n 1, 1) := dk_27 (dk_at dksX3_reads_0 19 rfl rfl)
theorem dX3_reads_20 : decode cX3_reads 20 = .ok (.iconst 0, 1) := dk_3 (dk_at dksX3_reads_0 20 rfl rfl)
theorem dX3_reads_21 : decode cX3_reads 21 = .ok (.iastore, 1) := dk_79 (dk_at dksX3_reads_0 21 rfl rfl)
theorem dX3_reads_22 : decode cX3_reads 22 = .ok (.iinc 1 1, 3) := dk_132 1 1 (dk_at dksX3_reads_1 0 rfl rfl)
theorem dX3_reads_25 : decode cX3_reads 25 = .ok (.goto (-18), 3) := dk_167 255 238 (dk_at dksX3_reads_1 3 rfl rfl)
theorem dX3_reads_28 : decode cX3_reads 28 = .ok (.aload_n 0, 1) := dk_42 (dk_at dksX3_reads_1 6 rfl rfl)
theorem dX3_reads_29 : decode cX3_reads 29 = .ok (.iconst 0, 1) := dk_3 (dk_at dksX3_reads_1 7 rfl rfl)
theorem dX3_reads_30 : decode cX3_reads 30 = .ok (.putfield 321, 3) := dk_181 1 65 (dk_at dksX3_reads_1 8 rfl rfl)
theorem dX3_reads_33 : decode cX3_reads 33 = .ok (.aload_n 0, 1) := dk_42 (dk_at dksX3_reads_1 11 rfl rfl)
theorem dX3_reads_34 : decode cX3_reads 34 = .ok (.invokevirtual 333, 3) := dk_182 1 77 (dk_at dksX3_reads_1 12 rfl rfl)
theorem dX3_reads_37 : decode cX3_reads 37 = .ok (.iconst 1, 1) := dk_4 (dk_at dksX3_reads_1 15 rfl rfl)
theorem dX3_reads_38 : decode cX3_reads 38 = .ok (.istore_n 1, 1) := dk_60 (dk_at dksX3_reads_1 16 rfl rfl)
theorem dX3_reads_39 : decode cX3_reads 39 = .ok (.iload_n 1, 1) := dk_27 (dk_at dksX3_reads_1 17 rfl rfl)
theorem dX3_reads_40 : decode cX3_reads 40 = .ok (.ifCond .eq 22, 3) := dk_153 0 22 (dk_at dksX3_reads_1 18 rfl rfl)
theorem dX3_reads_43 : decode cX3_reads 43 = .ok (.aload_n 0, 1) := dk_42 (dk_at dksX3_reads_1 21 rfl rfl)
theorem dX3_reads_44 : decode cX3_reads 44 = .ok (.getfield 321, 3) := dk_180 1 65 (dk_at dksX3_reads_2 0 rfl rfl)
theorem dX3_reads_47 : decode cX3_reads 47 = .ok (.aload_n 0, 1) := dk_42 (dk_at dksX3_reads_2 3 rfl rfl)
theorem dX3_reads_48 : decode cX3_reads 48 = .ok (.getfield 314, 3) := dk_180 1 58 (dk_at dksX3_reads_2 4 rfl rfl)
theorem dX3_reads_51 : decode cX3_reads 51 = .ok (.if_icmp .ge 11, 3) := dk_162 0 11 (dk_at dksX3_reads_2 7 rfl rfl)
theorem dX3_reads_54 : decode cX3_reads 54 = .ok (.aload_n 0, 1) := dk_42 (dk_at dksX3_reads_2 10 rfl rfl)
theorem dX3_reads_55 : decode cX3_reads 55 = .ok (.invokevirtual 407, 3) := dk_182 1 151 (dk_at dksX3_reads_2 11 rfl rfl)
theorem dX3_reads_58 : decode cX3_reads 58 = .ok (.istore_n 1, 1) := dk_60 (dk_at dksX3_reads_2 14 rfl rfl)
theorem dX3_reads_59 : decode cX3_reads 59 = .ok (.goto (-20), 3) := dk_167 255 236 (dk_at dksX3_reads_2 15 rfl rfl)
theorem dX3_reads_62 : decode cX3_reads 62 = .ok (.return_, 1) := dk_177 (dk_at dksX3_reads_2 18 rfl rfl)
abbrev cX3_skips : ByteArray := prog_14_method_21_code
def yX3_skips : MethodName := ⟨RX3, "skips", "()V"⟩
def dkwX3_skips_8 : List UInt8 := [4, 96, 181, 1, 68, 177]
abbrev dktX3_skips_8 : List UInt8 := dkwX3_skips_8 ++ []
def dkwX3_skips_7 : List UInt8 := [184, 1, 74, 153, 0, 26, 42, 89, 180, 1, 68, 4, 96, 181, 1, 68, 167, 255, 220, 42, 42, 180, 1, 65]
abbrev dktX3_skips_7 : List UInt8 := dkwX3_skips_7 ++ dktX3_skips_8
def dkwX3_skips_6 : List UInt8 := [153, 0, 42, 42, 180, 1, 68, 42, 180, 1, 58, 162, 0, 41, 42, 180, 0, 121, 42, 180, 1, 68, 51]
abbrev dktX3_skips_6 : List UInt8 := dkwX3_skips_6 ++ dktX3_skips_7
def dkwX3_skips_5 : List UInt8 := [180, 1, 68, 4, 96, 181, 1, 68, 167, 255, 220, 42, 180, 0, 121, 42, 180, 1, 65, 51, 184, 1, 74]
abbrev dktX3_skips_5 : List UInt8 := dkwX3_skips_5 ++ dktX3_skips_6
def dkwX3_skips_4 : List UInt8 := [180, 1, 58, 162, 0, 95, 42, 180, 0, 121, 42, 180, 1, 68, 51, 184, 1, 71, 153, 0, 80, 42, 89]
abbrev dktX3_skips_4 : List UInt8 := dkwX3_skips_4 ++ dktX3_skips_5
def dkwX3_skips_3 : List UInt8 := [160, 0, 4, 177, 42, 180, 0, 121, 42, 180, 1, 65, 51, 184, 1, 71, 153, 0, 42, 42, 180, 1, 68, 42]
abbrev dktX3_skips_3 : List UInt8 := dkwX3_skips_3 ++ dktX3_skips_4
def dkwX3_skips_2 : List UInt8 := [181, 1, 65, 167, 255, 207, 42, 42, 180, 1, 65, 181, 1, 68, 42, 180, 1, 65, 42, 180, 1, 58]
abbrev dktX3_skips_2 : List UInt8 := dkwX3_skips_2 ++ dktX3_skips_3
def dkwX3_skips_1 : List UInt8 := [159, 0, 17, 42, 180, 0, 121, 42, 180, 1, 65, 51, 16, 10, 160, 0, 16, 42, 89, 180, 1, 65, 4, 96]
abbrev dktX3_skips_1 : List UInt8 := dkwX3_skips_1 ++ dktX3_skips_2
def dkwX3_skips_0 : List UInt8 := [42, 180, 1, 65, 42, 180, 1, 58, 162, 0, 44, 42, 180, 0, 121, 42, 180, 1, 65, 51, 16, 32]
abbrev dktX3_skips_0 : List UInt8 := dkwX3_skips_0 ++ dktX3_skips_1
theorem dksX3_skips_0 : cX3_skips.data.toList.drop 0 = dktX3_skips_0 := by decide +kernel
theorem dksX3_skips_1 : cX3_skips.data.toList.drop 22 = dktX3_skips_1 := dk_seg dksX3_skips_0 22 rfl rfl
theorem dksX3_skips_2 : cX3_skips.data.toList.drop 46 = dktX3_skips_2 := dk_seg dksX3_skips_1 24 rfl rfl
theorem dksX3_skips_3 : cX3_skips.data.toList.drop 68 = dktX3_skips_3 := dk_seg dksX3_skips_2 22 rfl rfl
theorem dksX3_skips_4 : cX3_skips.data.toList.drop 92 = dktX3_skips_4 := dk_seg dksX3_skips_3 24 rfl rfl
theorem dksX3_skips_5 : cX3_skips.data.toList.drop 115 = dktX3_skips_5 := dk_seg dksX3_skips_4 23 rfl rfl
theorem dksX3_skips_6 : cX3_skips.data.toList.drop 138 = dktX3_skips_6 := dk_seg dksX3_skips_5 23 rfl rfl
theorem dksX3_skips_7 : cX3_skips.data.toList.drop 161 = dktX3_skips_7 := dk_seg dksX3_skips_6 23 rfl rfl
theorem dksX3_skips_8 : cX3_skips.data.toList.drop 185 = dktX3_skips_8 := dk_seg dksX3_skips_7 24 rfl rfl
theorem dX3_skips_0 : decode cX3_skips 0 = .ok (.aload_n 0, 1) := dk_42 (dk_at dksX3_skips_0 0 rfl rfl)
theorem dX3_skips_1 : decode cX3_skips 1 = .ok (.getfield 321, 3) := dk_180 1 65 (dk_at dksX3_skips_0 1 rfl rfl)
theorem dX3_skips_4 : decode cX3_skips 4 = .ok (.aload_n 0, 1) := dk_42 (dk_at dksX3_skips_0 4 rfl rfl)
theorem dX3_skips_5 : decode cX3_skips 5 = .ok (.getfield 314, 3) := dk_180 1 58 (dk_at dksX3_skips_0 5 rfl rfl)
theorem dX3_skips_8 : decode cX3_skips 8 = .ok (.if_icmp .ge 44, 3) := dk_162 0 44 (dk_at dksX3_skips_0 8 rfl rfl)
theorem dX3_skips_11 : decode cX3_skips 11 = .ok (.aload_n 0, 1) := dk_42 (dk_at dksX3_skips_0 11 rfl rfl)
theorem dX3_skips_12 : decode cX3_skips 12 = .ok (.getfield 121, 3) := dk_180 0 121 (dk_at dksX3_skips_0 12 rfl rfl)
theorem dX3_skips_15 : decode cX3_skips 15 = .ok (.aload_n 0, 1) := dk_42 (dk_at dksX3_skips_0 15 rfl rfl)
theorem dX3_skips_16 : decode cX3_skips 16 = .ok (.getfield 321, 3) := dk_180 1 65 (dk_at dksX3_skips_0 16 rfl rfl)
theorem dX3_skips_19 : decode cX3_skips 19 = .ok (.baload, 1) := dk_51 (dk_at dksX3_skips_0 19 rfl rfl)
theorem dX3_skips_20 : decode cX3_skips 20 = .ok (.bipush 32, 2) := dk_16 32 (dk_at dksX3_skips_0 20 rfl rfl)
theorem dX3_skips_22 : decode cX3_skips 22 = .ok (.if_icmp .eq 17, 3) := dk_159 0 17 (dk_at dksX3_skips_1 0 rfl rfl)
theorem dX3_skips_25 : decode cX3_skips 25 = .ok (.aload_n 0, 1) := dk_42 (dk_at dksX3_skips_1 3 rfl rfl)
theorem dX3_skips_26 : decode cX3_skips 26 = .ok (.getfield 121, 3) := dk_180 0 121 (dk_at dksX3_skips_1 4 rfl rfl)
theorem dX3_skips_29 : decode cX3_skips 29 = .ok (.aload_n 0, 1) := dk_42 (dk_at dksX3_skips_1 7 rfl rfl)
theorem dX3_skips_30 : decode cX3_skips 30 = .ok (.getfield 321, 3) := dk_180 1 65 (dk_at dksX3_skips_1 8 rfl rfl)
theorem dX3_skips_33 : decode cX3_skips 33 = .ok (.baload, 1) := dk_51 (dk_at dksX3_skips_1 11 rfl rfl)
theorem dX3_skips_34 : decode cX3_skips 34 = .ok (.bipush 10, 2) := dk_16 10 (dk_at dksX3_skips_1 12 rfl rfl)
theorem dX3_skips_36 : decode cX3_skips 36 = .ok (.if_icmp .ne 16, 3) := dk_160 0 16 (dk_at dksX3_skips_1 14 rfl rfl)
theorem dX3_skips_39 : decode cX3_skips 39 = .ok (.aload_n 0, 1) := dk_42 (dk_at dksX3_skips_1 17 rfl rfl)
theorem dX3_skips_40 : decode cX3_skips 40 = .ok (.dup, 1) := dk_89 (dk_at dksX3_skips_1 18 rfl rfl)
theorem dX3_skips_41 : decode cX3_skips 41 = .ok (.getfield 321, 3) := dk_180 1 65 (dk_at dksX3_skips_1 19 rfl rfl)
theorem dX3_skips_44 : decode cX3_skips 44 = .ok (.iconst 1, 1) := dk_4 (dk_at dksX3_skips_1 22 rfl rfl)
theorem dX3_skips_45 : decode cX3_skips 45 = .ok (.iadd, 1) := dk_96 (dk_at dksX3_skips_1 23 rfl rfl)
theorem dX3_skips_46 : decode cX3_skips 46 = .ok (.putfield 321, 3) := dk_181 1 65 (dk_at dksX3_skips_2 0 rfl rfl)
theorem dX3_skips_49 : decode cX3_skips 49 = .ok (.goto (-49), 3) := dk_167 255 207 (dk_at dksX3_skips_2 3 rfl rfl)
theorem dX3_skips_52 : decode cX3_skips 52 = .ok (.aload_n 0, 1) := dk_42 (dk_at dksX3_skips_2 6 rfl rfl)
theorem dX3_skips_53 : decode cX3_skips 53 = .ok (.aload_n 0, 1) := dk_42 (dk_at dksX3_skips_2 7 rfl rfl)
theorem dX3_skips_54 : decode cX3_skips 54 = .ok (.getfield 321, 3) := dk_180 1 65 (dk_at dksX3_skips_2 8 rfl rfl)
theorem dX3_skips_57 : decode cX3_skips 57 = .ok (.putfield 324, 3) := dk_181 1 68 (dk_at dksX3_skips_2 11 rfl rfl)
theorem dX3_skips_60 : decode cX3_skips 60 = .ok (.aload_n 0, 1) := dk_42 (dk_at dksX3_skips_2 14 rfl rfl)
theorem dX3_skips_61 : decode cX3_skips 61 = .ok (.getfield 321, 3) := dk_180 1 65 (dk_at dksX3_skips_2 15 rfl rfl)
theorem dX3_skips_64 : decode cX3_skips 64 = .ok (.aload_n 0, 1) := dk_42 (dk_at dksX3_skips_2 18 rfl rfl)
theorem dX3_skips_65 : decode cX3_skips 65 = .ok (.getfield 314, 3) := dk_180 1 58 (dk_at dksX3_skips_2 19 rfl rfl)
theorem dX3_skips_68 : decode cX3_skips 68 = .ok (.if_icmp .ne 4, 3) := dk_160 0 4 (dk_at dksX3_skips_3 0 rfl rfl)
theorem dX3_skips_71 : decode cX3_skips 71 = .ok (.return_, 1) := dk_177 (dk_at dksX3_skips_3 3 rfl rfl)
theorem dX3_skips_72 : decode cX3_skips 72 = .ok (.aload_n 0, 1) := dk_42 (dk_at dksX3_skips_3 4 rfl rfl)
theorem dX3_skips_73 : decode cX3_skips 73 = .ok (.getfield 121, 3) := dk_180 0 121 (dk_at dksX3_skips_3 5 rfl rfl)
theorem dX3_skips_76 : decode cX3_skips 76 = .ok (.aload_n 0, 1) := dk_42 (dk_at dksX3_skips_3 8 rfl rfl)
theorem dX3_skips_77 : decode cX3_skips 77 = .ok (.getfield 321, 3) := dk_180 1 65 (dk_at dksX3_skips_3 9 rfl rfl)
theorem dX3_skips_80 : decode cX3_skips 80 = .ok (.baload, 1) := dk_51 (dk_at dksX3_skips_3 12 rfl rfl)
theorem dX3_skips_81 : decode cX3_skips 81 = .ok (.invokestatic 327, 3) := dk_184 1 71 (dk_at dksX3_skips_3 13 rfl rfl)
theorem dX3_skips_84 : decode cX3_skips 84 = .ok (.ifCond .eq 42, 3) := dk_153 0 42 (dk_at dksX3_skips_3 16 rfl rfl)
theorem dX3_skips_87 : decode cX3_skips 87 = .ok (.aload_n 0, 1) := dk_42 (dk_at dksX3_skips_3 19 rfl rfl)
theorem dX3_skips_88 : decode cX3_skips 88 = .ok (.getfield 324, 3) := dk_180 1 68 (dk_at dksX3_skips_3 20 rfl rfl)
theorem dX3_skips_91 : decode cX3_skips 91 = .ok (.aload_n 0, 1) := dk_42 (dk_at dksX3_skips_3 23 rfl rfl)
theorem dX3_skips_92 : decode cX3_skips 92 = .ok (.getfield 314, 3) := dk_180 1 58 (dk_at dksX3_skips_4 0 rfl rfl)
theorem dX3_skips_95 : decode cX3_skips 95 = .ok (.if_icmp .ge 95, 3) := dk_162 0 95 (dk_at dksX3_skips_4 3 rfl rfl)
theorem dX3_skips_98 : decode cX3_skips 98 = .ok (.aload_n 0, 1) := dk_42 (dk_at dksX3_skips_4 6 rfl rfl)
theorem dX3_skips_99 : decode cX3_skips 99 = .ok (.getfield 121, 3) := dk_180 0 121 (dk_at dksX3_skips_4 7 rfl rfl)
theorem dX3_skips_102 : decode cX3_skips 102 = .ok (.aload_n 0, 1) := dk_42 (dk_at dksX3_skips_4 10 rfl rfl)
theorem dX3_skips_103 : decode cX3_skips 103 = .ok (.getfield 324, 3) := dk_180 1 68 (dk_at dksX3_skips_4 11 rfl rfl)
theorem dX3_skips_106 : decode cX3_skips 106 = .ok (.baload, 1) := dk_51 (dk_at dksX3_skips_4 14 rfl rfl)
theorem dX3_skips_107 : decode cX3_skips 107 = .ok (.invokestatic 327, 3) := dk_184 1 71 (dk_at dksX3_skips_4 15 rfl rfl)
theorem dX3_skips_110 : decode cX3_skips 110 = .ok (.ifCond .eq 80, 3) := dk_153 0 80 (dk_at dksX3_skips_4 18 rfl rfl)
theorem dX3_skips_113 : decode cX3_skips 113 = .ok (.aload_n 0, 1) := dk_42 (dk_at dksX3_skips_4 21 rfl rfl)
theorem dX3_skips_114 : decode cX3_skips 114 = .ok (.dup, 1) := dk_89 (dk_at dksX3_skips_4 22 rfl rfl)
theorem dX3_skips_115 : decode cX3_skips 115 = .ok (.getfield 324, 3) := dk_180 1 68 (dk_at dksX3_skips_5 0 rfl rfl)
theorem dX3_skips_118 : decode cX3_skips 118 = .ok (.iconst 1, 1) := dk_4 (dk_at dksX3_skips_5 3 rfl rfl)
theorem dX3_skips_119 : decode cX3_skips 119 = .ok (.iadd, 1) := dk_96 (dk_at dksX3_skips_5 4 rfl rfl)
theorem dX3_skips_120 : decode cX3_skips 120 = .ok (.putfield 324, 3) := dk_181 1 68 (dk_at dksX3_skips_5 5 rfl rfl)
theorem dX3_skips_123 : decode cX3_skips 123 = .ok (.goto (-36), 3) := dk_167 255 220 (dk_at dksX3_skips_5 8 rfl rfl)
theorem dX3_skips_126 : decode cX3_skips 126 = .ok (.aload_n 0, 1) := dk_42 (dk_at dksX3_skips_5 11 rfl rfl)
theorem dX3_skips_127 : decode cX3_skips 127 = .ok (.getfield 121, 3) := dk_180 0 121 (dk_at dksX3_skips_5 12 rfl rfl)
theorem dX3_skips_130 : decode cX3_skips 130 = .ok (.aload_n 0, 1) := dk_42 (dk_at dksX3_skips_5 15 rfl rfl)
theorem dX3_skips_131 : decode cX3_skips 131 = .ok (.getfield 321, 3) := dk_180 1 65 (dk_at dksX3_skips_5 16 rfl rfl)
theorem dX3_skips_134 : decode cX3_skips 134 = .ok (.baload, 1) := dk_51 (dk_at dksX3_skips_5 19 rfl rfl)
theorem dX3_skips_135 : decode cX3_skips 135 = .ok (.invokestatic 330, 3) := dk_184 1 74 (dk_at dksX3_skips_5 20 rfl rfl)
theorem dX3_skips_138 : decode cX3_skips 138 = .ok (.ifCond .eq 42, 3) := dk_153 0 42 (dk_at dksX3_skips_6 0 rfl rfl)
theorem dX3_skips_141 : decode cX3_skips 141 = .ok (.aload_n 0, 1) := dk_42 (dk_at dksX3_skips_6 3 rfl rfl)
theorem dX3_skips_142 : decode cX3_skips 142 = .ok (.getfield 324, 3) := dk_180 1 68 (dk_at dksX3_skips_6 4 rfl rfl)
theorem dX3_skips_145 : decode cX3_skips 145 = .ok (.aload_n 0, 1) := dk_42 (dk_at dksX3_skips_6 7 rfl rfl)
theorem dX3_skips_146 : decode cX3_skips 146 = .ok (.getfield 314, 3) := dk_180 1 58 (dk_at dksX3_skips_6 8 rfl rfl)
theorem dX3_skips_149 : decode cX3_skips 149 = .ok (.if_icmp .ge 41, 3) := dk_162 0 41 (dk_at dksX3_skips_6 11 rfl rfl)
theorem dX3_skips_152 : decode cX3_skips 152 = .ok (.aload_n 0, 1) := dk_42 (dk_at dksX3_skips_6 14 rfl rfl)
theorem dX3_skips_153 : decode cX3_skips 153 = .ok (.getfield 121, 3) := dk_180 0 121 (dk_at dksX3_skips_6 15 rfl rfl)
theorem dX3_skips_156 : decode cX3_skips 156 = .ok (.aload_n 0, 1) := dk_42 (dk_at dksX3_skips_6 18 rfl rfl)
theorem dX3_skips_157 : decode cX3_skips 157 = .ok (.getfield 324, 3) := dk_180 1 68 (dk_at dksX3_skips_6 19 rfl rfl)
theorem dX3_skips_160 : decode cX3_skips 160 = .ok (.baload, 1) := dk_51 (dk_at dksX3_skips_6 22 rfl rfl)
theorem dX3_skips_161 : decode cX3_skips 161 = .ok (.invokestatic 330, 3) := dk_184 1 74 (dk_at dksX3_skips_7 0 rfl rfl)
theorem dX3_skips_164 : decode cX3_skips 164 = .ok (.ifCond .eq 26, 3) := dk_153 0 26 (dk_at dksX3_skips_7 3 rfl rfl)
theorem dX3_skips_167 : decode cX3_skips 167 = .ok (.aload_n 0, 1) := dk_42 (dk_at dksX3_skips_7 6 rfl rfl)
theorem dX3_skips_168 : decode cX3_skips 168 = .ok (.dup, 1) := dk_89 (dk_at dksX3_skips_7 7 rfl rfl)
theorem dX3_skips_169 : decode cX3_skips 169 = .ok (.getfield 324, 3) := dk_180 1 68 (dk_at dksX3_skips_7 8 rfl rfl)
theorem dX3_skips_172 : decode cX3_skips 172 = .ok (.iconst 1, 1) := dk_4 (dk_at dksX3_skips_7 11 rfl rfl)
theorem dX3_skips_173 : decode cX3_skips 173 = .ok (.iadd, 1) := dk_96 (dk_at dksX3_skips_7 12 rfl rfl)
theorem dX3_skips_174 : decode cX3_skips 174 = .ok (.putfield 324, 3) := dk_181 1 68 (dk_at dksX3_skips_7 13 rfl rfl)
theorem dX3_skips_177 : decode cX3_skips 177 = .ok (.goto (-36), 3) := dk_167 255 220 (dk_at dksX3_skips_7 16 rfl rfl)
theorem dX3_skips_180 : decode cX3_skips 180 = .ok (.aload_n 0, 1) := dk_42 (dk_at dksX3_skips_7 19 rfl rfl)
theorem dX3_skips_181 : decode cX3_skips 181 = .ok (.aload_n 0, 1) := dk_42 (dk_at dksX3_skips_7 20 rfl rfl)
theorem dX3_skips_182 : decode cX3_skips 182 = .ok (.getfield 321, 3) := dk_180 1 65 (dk_at dksX3_skips_7 21 rfl rfl)
theorem dX3_skips_185 : decode cX3_skips 185 = .ok (.iconst 1, 1) := dk_4 (dk_at dksX3_skips_8 0 rfl rfl)
theorem dX3_skips_186 : decode cX3_skips 186 = .ok (.iadd, 1) := dk_96 (dk_at dksX3_skips_8 1 rfl rfl)
theorem dX3_skips_187 : decode cX3_skips 187 = .ok (.putfield 324, 3) := dk_181 1 68 (dk_at dksX3_skips_8 2 rfl rfl)
theorem dX3_skips_190 : decode cX3_skips 190 = .ok (.return_, 1) := dk_177 (dk_at dksX3_skips_8 5 rfl rfl)
abbrev cX3_isLetter : ByteArray := prog_14_method_19_code
def yX3_isLetter : MethodName := ⟨RX3, "isLetter", "(I)Z"⟩
def dkwX3_isLetter_0 : List UInt8 := [26, 16, 97, 161, 0, 13, 26, 16, 122, 163, 0, 7, 4, 167, 0, 4, 3, 172]
abbrev dktX3_isLetter_0 : List UInt8 := dkwX3_isLetter_0 ++ []
theorem dksX3_isLetter_0 : cX3_isLetter.data.toList.drop 0 = dktX3_isLetter_0 := by decide +kernel
theorem dX3_isLetter_0 : decode cX3_isLetter 0 = .ok (.iload_n 0, 1) := dk_26 (dk_at dksX3_isLetter_0 0 rfl rfl)
theorem dX3_isLetter_1 : decode cX3_isLetter 1 = .ok (.bipush 97, 2) := dk_16 97 (dk_at dksX3_isLetter_0 1 rfl rfl)
theorem dX3_isLetter_3 : decode cX3_isLetter 3 = .ok (.if_icmp .lt 13, 3) := dk_161 0 13 (dk_at dksX3_isLetter_0 3 rfl rfl)
theorem dX3_isLetter_6 : decode cX3_isLetter 6 = .ok (.iload_n 0, 1) := dk_26 (dk_at dksX3_isLetter_0 6 rfl rfl)
theorem dX3_isLetter_7 : decode cX3_isLetter 7 = .ok (.bipush 122, 2) := dk_16 122 (dk_at dksX3_isLetter_0 7 rfl rfl)
theorem dX3_isLetter_9 : decode cX3_isLetter 9 = .ok (.if_icmp .gt 7, 3) := dk_163 0 7 (dk_at dksX3_isLetter_0 9 rfl rfl)
theorem dX3_isLetter_12 : decode cX3_isLetter 12 = .ok (.iconst 1, 1) := dk_4 (dk_at dksX3_isLetter_0 12 rfl rfl)
theorem dX3_isLetter_13 : decode cX3_isLetter 13 = .ok (.goto 4, 3) := dk_167 0 4 (dk_at dksX3_isLetter_0 13 rfl rfl)
theorem dX3_isLetter_16 : decode cX3_isLetter 16 = .ok (.iconst 0, 1) := dk_3 (dk_at dksX3_isLetter_0 16 rfl rfl)
theorem dX3_isLetter_17 : decode cX3_isLetter 17 = .ok (.ireturn, 1) := dk_172 (dk_at dksX3_isLetter_0 17 rfl rfl)
abbrev cX3_isDigit : ByteArray := prog_14_method_20_code
def yX3_isDigit : MethodName := ⟨RX3, "isDigit", "(I)Z"⟩
def dkwX3_isDigit_0 : List UInt8 := [26, 16, 48, 161, 0, 13, 26, 16, 57, 163, 0, 7, 4, 167, 0, 4, 3, 172]
abbrev dktX3_isDigit_0 : List UInt8 := dkwX3_isDigit_0 ++ []
theorem dksX3_isDigit_0 : cX3_isDigit.data.toList.drop 0 = dktX3_isDigit_0 := by decide +kernel
theorem dX3_isDigit_0 : decode cX3_isDigit 0 = .ok (.iload_n 0, 1) := dk_26 (dk_at dksX3_isDigit_0 0 rfl rfl)
theorem dX3_isDigit_1 : decode cX3_isDigit 1 = .ok (.bipush 48, 2) := dk_16 48 (dk_at dksX3_isDigit_0 1 rfl rfl)
theorem dX3_isDigit_3 : decode cX3_isDigit 3 = .ok (.if_icmp .lt 13, 3) := dk_161 0 13 (dk_at dksX3_isDigit_0 3 rfl rfl)
theorem dX3_isDigit_6 : decode cX3_isDigit 6 = .ok (.iload_n 0, 1) := dk_26 (dk_at dksX3_isDigit_0 6 rfl rfl)
theorem dX3_isDigit_7 : decode cX3_isDigit 7 = .ok (.bipush 57, 2) := dk_16 57 (dk_at dksX3_isDigit_0 7 rfl rfl)
theorem dX3_isDigit_9 : decode cX3_isDigit 9 = .ok (.if_icmp .gt 7, 3) := dk_163 0 7 (dk_at dksX3_isDigit_0 9 rfl rfl)
theorem dX3_isDigit_12 : decode cX3_isDigit 12 = .ok (.iconst 1, 1) := dk_4 (dk_at dksX3_isDigit_0 12 rfl rfl)
theorem dX3_isDigit_13 : decode cX3_isDigit 13 = .ok (.goto 4, 3) := dk_167 0 4 (dk_at dksX3_isDigit_0 13 rfl rfl)
theorem dX3_isDigit_16 : decode cX3_isDigit 16 = .ok (.iconst 0, 1) := dk_3 (dk_at dksX3_isDigit_0 16 rfl rfl)
theorem dX3_isDigit_17 : decode cX3_isDigit 17 = .ok (.ireturn, 1) := dk_172 (dk_at dksX3_isDigit_0 17 rfl rfl)
abbrev cX3_clauses : ByteArray := prog_14_method_35_code
def yX3_clauses : MethodName := ⟨RX3, "clauses", "()Z"⟩
def dkwX3_clauses_5 : List UInt8 := [180, 1, 98, 42, 180, 1, 101, 79, 42, 42, 16, 59, 182, 1, 109, 182, 1, 112, 172]
abbrev dktX3_clauses_5 : List UInt8 := dkwX3_clauses_5 ++ []
def dkwX3_clauses_4 : List UInt8 := [154, 0, 16, 167, 0, 11, 42, 3, 182, 1, 141, 154, 0, 5, 3, 172, 42, 180, 0, 130, 16, 8, 50, 42]
abbrev dktX3_clauses_4 : List UInt8 := dkwX3_clauses_4 ++ dktX3_clauses_5
def dkwX3_clauses_3 : List UInt8 := [154, 0, 5, 3, 172, 42, 3, 181, 1, 101, 42, 180, 1, 98, 6, 162, 0, 14, 42, 3, 182, 1, 116]
abbrev dktX3_clauses_3 : List UInt8 := dkwX3_clauses_3 ++ dktX3_clauses_4
def dkwX3_clauses_2 : List UInt8 := [180, 0, 130, 16, 8, 50, 42, 180, 1, 98, 46, 154, 0, 7, 4, 167, 0, 4, 3, 182, 1, 112]
abbrev dktX3_clauses_2 : List UInt8 := dkwX3_clauses_2 ++ dktX3_clauses_3
def dkwX3_clauses_1 : List UInt8 := [153, 0, 8, 42, 27, 181, 1, 98, 132, 1, 1, 167, 255, 230, 42, 42, 180, 1, 98, 2, 159, 0, 22, 42]
abbrev dktX3_clauses_1 : List UInt8 := dkwX3_clauses_1 ++ dktX3_clauses_2
def dkwX3_clauses_0 : List UInt8 := [42, 2, 181, 1, 98, 3, 60, 27, 8, 162, 0, 27, 42, 42, 180, 0, 151, 27, 50, 182, 1, 126]
abbrev dktX3_clauses_0 : List UInt8 := dkwX3_clauses_0 ++ dktX3_clauses_1
theorem dksX3_clauses_0 : cX3_clauses.data.toList.drop 0 = dktX3_clauses_0 := by decide +kernel
theorem dksX3_clauses_1 : cX3_clauses.data.toList.drop 22 = dktX3_clauses_1 := dk_seg dksX3_clauses_0 22 rfl rfl
theorem dksX3_clauses_2 : cX3_clauses.data.toList.drop 46 = dktX3_clauses_2 := dk_seg dksX3_clauses_1 24 rfl rfl
theorem dksX3_clauses_3 : cX3_clauses.data.toList.drop 68 = dktX3_clauses_3 := dk_seg dksX3_clauses_2 22 rfl rfl
theorem dksX3_clauses_4 : cX3_clauses.data.toList.drop 91 = dktX3_clauses_4 := dk_seg dksX3_clauses_3 23 rfl rfl
theorem dksX3_clauses_5 : cX3_clauses.data.toList.drop 115 = dktX3_clauses_5 := dk_seg dksX3_clauses_4 24 rfl rfl
theorem dX3_clauses_0 : decode cX3_clauses 0 = .ok (.aload_n 0, 1) := dk_42 (dk_at dksX3_clauses_0 0 rfl rfl)
theorem dX3_clauses_1 : decode cX3_clauses 1 = .ok (.iconst (-1), 1) := dk_2 (dk_at dksX3_clauses_0 1 rfl rfl)
theorem dX3_clauses_2 : decode cX3_clauses 2 = .ok (.putfield 354, 3) := dk_181 1 98 (dk_at dksX3_clauses_0 2 rfl rfl)
theorem dX3_clauses_5 : decode cX3_clauses 5 = .ok (.iconst 0, 1) := dk_3 (dk_at dksX3_clauses_0 5 rfl rfl)
theorem dX3_clauses_6 : decode cX3_clauses 6 = .ok (.istore_n 1, 1) := dk_60 (dk_at dksX3_clauses_0 6 rfl rfl)
theorem dX3_clauses_7 : decode cX3_clauses 7 = .ok (.iload_n 1, 1) := dk_27 (dk_at dksX3_clauses_0 7 rfl rfl)
theorem dX3_clauses_8 : decode cX3_clauses 8 = .ok (.iconst 5, 1) := dk_8 (dk_at dksX3_clauses_0 8 rfl rfl)
theorem dX3_clauses_9 : decode cX3_clauses 9 = .ok (.if_icmp .ge 27, 3) := dk_162 0 27 (dk_at dksX3_clauses_0 9 rfl rfl)
theorem dX3_clauses_12 : decode cX3_clauses 12 = .ok (.aload_n 0, 1) := dk_42 (dk_at dksX3_clauses_0 12 rfl rfl)
theorem dX3_clauses_13 : decode cX3_clauses 13 = .ok (.aload_n 0, 1) := dk_42 (dk_at dksX3_clauses_0 13 rfl rfl)
theorem dX3_clauses_14 : decode cX3_clauses 14 = .ok (.getfield 151, 3) := dk_180 0 151 (dk_at dksX3_clauses_0 14 rfl rfl)
theorem dX3_clauses_17 : decode cX3_clauses 17 = .ok (.iload_n 1, 1) := dk_27 (dk_at dksX3_clauses_0 17 rfl rfl)
theorem dX3_clauses_18 : decode cX3_clauses 18 = .ok (.aaload, 1) := dk_50 (dk_at dksX3_clauses_0 18 rfl rfl)
theorem dX3_clauses_19 : decode cX3_clauses 19 = .ok (.invokevirtual 382, 3) := dk_182 1 126 (dk_at dksX3_clauses_0 19 rfl rfl)
theorem dX3_clauses_22 : decode cX3_clauses 22 = .ok (.ifCond .eq 8, 3) := dk_153 0 8 (dk_at dksX3_clauses_1 0 rfl rfl)
theorem dX3_clauses_25 : decode cX3_clauses 25 = .ok (.aload_n 0, 1) := dk_42 (dk_at dksX3_clauses_1 3 rfl rfl)
theorem dX3_clauses_26 : decode cX3_clauses 26 = .ok (.iload_n 1, 1) := dk_27 (dk_at dksX3_clauses_1 4 rfl rfl)
theorem dX3_clauses_27 : decode cX3_clauses 27 = .ok (.putfield 354, 3) := dk_181 1 98 (dk_at dksX3_clauses_1 5 rfl rfl)
theorem dX3_clauses_30 : decode cX3_clauses 30 = .ok (.iinc 1 1, 3) := dk_132 1 1 (dk_at dksX3_clauses_1 8 rfl rfl)
theorem dX3_clauses_33 : decode cX3_clauses 33 = .ok (.goto (-26), 3) := dk_167 255 230 (dk_at dksX3_clauses_1 11 rfl rfl)
theorem dX3_clauses_36 : decode cX3_clauses 36 = .ok (.aload_n 0, 1) := dk_42 (dk_at dksX3_clauses_1 14 rfl rfl)
theorem dX3_clauses_37 : decode cX3_clauses 37 = .ok (.aload_n 0, 1) := dk_42 (dk_at dksX3_clauses_1 15 rfl rfl)
theorem dX3_clauses_38 : decode cX3_clauses 38 = .ok (.getfield 354, 3) := dk_180 1 98 (dk_at dksX3_clauses_1 16 rfl rfl)
theorem dX3_clauses_41 : decode cX3_clauses 41 = .ok (.iconst (-1), 1) := dk_2 (dk_at dksX3_clauses_1 19 rfl rfl)
theorem dX3_clauses_42 : decode cX3_clauses 42 = .ok (.if_icmp .eq 22, 3) := dk_159 0 22 (dk_at dksX3_clauses_1 20 rfl rfl)
theorem dX3_clauses_45 : decode cX3_clauses 45 = .ok (.aload_n 0, 1) := dk_42 (dk_at dksX3_clauses_1 23 rfl rfl)
theorem dX3_clauses_46 : decode cX3_clauses 46 = .ok (.getfield 130, 3) := dk_180 0 130 (dk_at dksX3_clauses_2 0 rfl rfl)
theorem dX3_clauses_49 : decode cX3_clauses 49 = .ok (.bipush 8, 2) := dk_16 8 (dk_at dksX3_clauses_2 3 rfl rfl)
theorem dX3_clauses_51 : decode cX3_clauses 51 = .ok (.aaload, 1) := dk_50 (dk_at dksX3_clauses_2 5 rfl rfl)
theorem dX3_clauses_52 : decode cX3_clauses 52 = .ok (.aload_n 0, 1) := dk_42 (dk_at dksX3_clauses_2 6 rfl rfl)
theorem dX3_clauses_53 : decode cX3_clauses 53 = .ok (.getfield 354, 3) := dk_180 1 98 (dk_at dksX3_clauses_2 7 rfl rfl)
theorem dX3_clauses_56 : decode cX3_clauses 56 = .ok (.iaload, 1) := dk_46 (dk_at dksX3_clauses_2 10 rfl rfl)
theorem dX3_clauses_57 : decode cX3_clauses 57 = .ok (.ifCond .ne 7, 3) := dk_154 0 7 (dk_at dksX3_clauses_2 11 rfl rfl)
theorem dX3_clauses_60 : decode cX3_clauses 60 = .ok (.iconst 1, 1) := dk_4 (dk_at dksX3_clauses_2 14 rfl rfl)
theorem dX3_clauses_61 : decode cX3_clauses 61 = .ok (.goto 4, 3) := dk_167 0 4 (dk_at dksX3_clauses_2 15 rfl rfl)
theorem dX3_clauses_64 : decode cX3_clauses 64 = .ok (.iconst 0, 1) := dk_3 (dk_at dksX3_clauses_2 18 rfl rfl)
theorem dX3_clauses_65 : decode cX3_clauses 65 = .ok (.invokevirtual 368, 3) := dk_182 1 112 (dk_at dksX3_clauses_2 19 rfl rfl)
theorem dX3_clauses_68 : decode cX3_clauses 68 = .ok (.ifCond .ne 5, 3) := dk_154 0 5 (dk_at dksX3_clauses_3 0 rfl rfl)
theorem dX3_clauses_71 : decode cX3_clauses 71 = .ok (.iconst 0, 1) := dk_3 (dk_at dksX3_clauses_3 3 rfl rfl)
theorem dX3_clauses_72 : decode cX3_clauses 72 = .ok (.ireturn, 1) := dk_172 (dk_at dksX3_clauses_3 4 rfl rfl)
theorem dX3_clauses_73 : decode cX3_clauses 73 = .ok (.aload_n 0, 1) := dk_42 (dk_at dksX3_clauses_3 5 rfl rfl)
theorem dX3_clauses_74 : decode cX3_clauses 74 = .ok (.iconst 0, 1) := dk_3 (dk_at dksX3_clauses_3 6 rfl rfl)
theorem dX3_clauses_75 : decode cX3_clauses 75 = .ok (.putfield 357, 3) := dk_181 1 101 (dk_at dksX3_clauses_3 7 rfl rfl)
theorem dX3_clauses_78 : decode cX3_clauses 78 = .ok (.aload_n 0, 1) := dk_42 (dk_at dksX3_clauses_3 10 rfl rfl)
theorem dX3_clauses_79 : decode cX3_clauses 79 = .ok (.getfield 354, 3) := dk_180 1 98 (dk_at dksX3_clauses_3 11 rfl rfl)
theorem dX3_clauses_82 : decode cX3_clauses 82 = .ok (.iconst 3, 1) := dk_6 (dk_at dksX3_clauses_3 14 rfl rfl)
theorem dX3_clauses_83 : decode cX3_clauses 83 = .ok (.if_icmp .ge 14, 3) := dk_162 0 14 (dk_at dksX3_clauses_3 15 rfl rfl)
theorem dX3_clauses_86 : decode cX3_clauses 86 = .ok (.aload_n 0, 1) := dk_42 (dk_at dksX3_clauses_3 18 rfl rfl)
theorem dX3_clauses_87 : decode cX3_clauses 87 = .ok (.iconst 0, 1) := dk_3 (dk_at dksX3_clauses_3 19 rfl rfl)
theorem dX3_clauses_88 : decode cX3_clauses 88 = .ok (.invokevirtual 372, 3) := dk_182 1 116 (dk_at dksX3_clauses_3 20 rfl rfl)
theorem dX3_clauses_91 : decode cX3_clauses 91 = .ok (.ifCond .ne 16, 3) := dk_154 0 16 (dk_at dksX3_clauses_4 0 rfl rfl)
theorem dX3_clauses_94 : decode cX3_clauses 94 = .ok (.goto 11, 3) := dk_167 0 11 (dk_at dksX3_clauses_4 3 rfl rfl)
theorem dX3_clauses_97 : decode cX3_clauses 97 = .ok (.aload_n 0, 1) := dk_42 (dk_at dksX3_clauses_4 6 rfl rfl)
theorem dX3_clauses_98 : decode cX3_clauses 98 = .ok (.iconst 0, 1) := dk_3 (dk_at dksX3_clauses_4 7 rfl rfl)
theorem dX3_clauses_99 : decode cX3_clauses 99 = .ok (.invokevirtual 397, 3) := dk_182 1 141 (dk_at dksX3_clauses_4 8 rfl rfl)
theorem dX3_clauses_102 : decode cX3_clauses 102 = .ok (.ifCond .ne 5, 3) := dk_154 0 5 (dk_at dksX3_clauses_4 11 rfl rfl)
theorem dX3_clauses_105 : decode cX3_clauses 105 = .ok (.iconst 0, 1) := dk_3 (dk_at dksX3_clauses_4 14 rfl rfl)
theorem dX3_clauses_106 : decode cX3_clauses 106 = .ok (.ireturn, 1) := dk_172 (dk_at dksX3_clauses_4 15 rfl rfl)
theorem dX3_clauses_107 : decode cX3_clauses 107 = .ok (.aload_n 0, 1) := dk_42 (dk_at dksX3_clauses_4 16 rfl rfl)
theorem dX3_clauses_108 : decode cX3_clauses 108 = .ok (.getfield 130, 3) := dk_180 0 130 (dk_at dksX3_clauses_4 17 rfl rfl)
theorem dX3_clauses_111 : decode cX3_clauses 111 = .ok (.bipush 8, 2) := dk_16 8 (dk_at dksX3_clauses_4 20 rfl rfl)
theorem dX3_clauses_113 : decode cX3_clauses 113 = .ok (.aaload, 1) := dk_50 (dk_at dksX3_clauses_4 22 rfl rfl)
theorem dX3_clauses_114 : decode cX3_clauses 114 = .ok (.aload_n 0, 1) := dk_42 (dk_at dksX3_clauses_4 23 rfl rfl)
theorem dX3_clauses_115 : decode cX3_clauses 115 = .ok (.getfield 354, 3) := dk_180 1 98 (dk_at dksX3_clauses_5 0 rfl rfl)
theorem dX3_clauses_118 : decode cX3_clauses 118 = .ok (.aload_n 0, 1) := dk_42 (dk_at dksX3_clauses_5 3 rfl rfl)
theorem dX3_clauses_119 : decode cX3_clauses 119 = .ok (.getfield 357, 3) := dk_180 1 101 (dk_at dksX3_clauses_5 4 rfl rfl)
theorem dX3_clauses_122 : decode cX3_clauses 122 = .ok (.iastore, 1) := dk_79 (dk_at dksX3_clauses_5 7 rfl rfl)
theorem dX3_clauses_123 : decode cX3_clauses 123 = .ok (.aload_n 0, 1) := dk_42 (dk_at dksX3_clauses_5 8 rfl rfl)
theorem dX3_clauses_124 : decode cX3_clauses 124 = .ok (.aload_n 0, 1) := dk_42 (dk_at dksX3_clauses_5 9 rfl rfl)
theorem dX3_clauses_125 : decode cX3_clauses 125 = .ok (.bipush 59, 2) := dk_16 59 (dk_at dksX3_clauses_5 10 rfl rfl)
theorem dX3_clauses_127 : decode cX3_clauses 127 = .ok (.invokevirtual 365, 3) := dk_182 1 109 (dk_at dksX3_clauses_5 12 rfl rfl)
theorem dX3_clauses_130 : decode cX3_clauses 130 = .ok (.invokevirtual 368, 3) := dk_182 1 112 (dk_at dksX3_clauses_5 15 rfl rfl)
theorem dX3_clauses_133 : decode cX3_clauses 133 = .ok (.ireturn, 1) := dk_172 (dk_at dksX3_clauses_5 18 rfl rfl)
abbrev cX3_isWord : ByteArray := prog_14_method_23_code
def yX3_isWord : MethodName := ⟨RX3, "isWord", "(Ljava/lang/String;)Z"⟩
def dkwX3_isWord_2 : List UInt8 := [96, 51, 43, 28, 182, 1, 84, 159, 0, 5, 3, 172, 132, 2, 1, 167, 255, 224, 4, 172]
abbrev dktX3_isWord_2 : List UInt8 := dkwX3_isWord_2 ++ []
def dkwX3_isWord_1 : List UInt8 := [160, 0, 5, 3, 172, 3, 61, 28, 43, 182, 1, 80, 162, 0, 30, 42, 180, 0, 121, 42, 180, 1, 65, 28]
abbrev dktX3_isWord_1 : List UInt8 := dkwX3_isWord_1 ++ dktX3_isWord_2
def dkwX3_isWord_0 : List UInt8 := [42, 180, 1, 68, 42, 180, 1, 65, 100, 43, 182, 1, 80, 160, 0, 14, 42, 180, 1, 65, 42, 180, 1, 58]
abbrev dktX3_isWord_0 : List UInt8 := dkwX3_isWord_0 ++ dktX3_isWord_1
theorem dksX3_isWord_0 : cX3_isWord.data.toList.drop 0 = dktX3_isWord_0 := by decide +kernel
theorem dksX3_isWord_1 : cX3_isWord.data.toList.drop 24 = dktX3_isWord_1 := dk_seg dksX3_isWord_0 24 rfl rfl
theorem dksX3_isWord_2 : cX3_isWord.data.toList.drop 48 = dktX3_isWord_2 := dk_seg dksX3_isWord_1 24 rfl rfl
theorem dX3_isWord_0 : decode cX3_isWord 0 = .ok (.aload_n 0, 1) := dk_42 (dk_at dksX3_isWord_0 0 rfl rfl)
theorem dX3_isWord_1 : decode cX3_isWord 1 = .ok (.getfield 324, 3) := dk_180 1 68 (dk_at dksX3_isWord_0 1 rfl rfl)
theorem dX3_isWord_4 : decode cX3_isWord 4 = .ok (.aload_n 0, 1) := dk_42 (dk_at dksX3_isWord_0 4 rfl rfl)
theorem dX3_isWord_5 : decode cX3_isWord 5 = .ok (.getfield 321, 3) := dk_180 1 65 (dk_at dksX3_isWord_0 5 rfl rfl)
theorem dX3_isWord_8 : decode cX3_isWord 8 = .ok (.isub, 1) := dk_100 (dk_at dksX3_isWord_0 8 rfl rfl)
theorem dX3_isWord_9 : decode cX3_isWord 9 = .ok (.aload_n 1, 1) := dk_43 (dk_at dksX3_isWord_0 9 rfl rfl)
theorem dX3_isWord_10 : decode cX3_isWord 10 = .ok (.invokevirtual 336, 3) := dk_182 1 80 (dk_at dksX3_isWord_0 10 rfl rfl)
theorem dX3_isWord_13 : decode cX3_isWord 13 = .ok (.if_icmp .ne 14, 3) := dk_160 0 14 (dk_at dksX3_isWord_0 13 rfl rfl)
theorem dX3_isWord_16 : decode cX3_isWord 16 = .ok (.aload_n 0, 1) := dk_42 (dk_at dksX3_isWord_0 16 rfl rfl)
theorem dX3_isWord_17 : decode cX3_isWord 17 = .ok (.getfield 321, 3) := dk_180 1 65 (dk_at dksX3_isWord_0 17 rfl rfl)
theorem dX3_isWord_20 : decode cX3_isWord 20 = .ok (.aload_n 0, 1) := dk_42 (dk_at dksX3_isWord_0 20 rfl rfl)
theorem dX3_isWord_21 : decode cX3_isWord 21 = .ok (.getfield 314, 3) := dk_180 1 58 (dk_at dksX3_isWord_0 21 rfl rfl)
theorem dX3_isWord_24 : decode cX3_isWord 24 = .ok (.if_icmp .ne 5, 3) := dk_160 0 5 (dk_at dksX3_isWord_1 0 rfl rfl)
theorem dX3_isWord_27 : decode cX3_isWord 27 = .ok (.iconst 0, 1) := dk_3 (dk_at dksX3_isWord_1 3 rfl rfl)
theorem dX3_isWord_28 : decode cX3_isWord 28 = .ok (.ireturn, 1) := dk_172 (dk_at dksX3_isWord_1 4 rfl rfl)
theorem dX3_isWord_29 : decode cX3_isWord 29 = .ok (.iconst 0, 1) := dk_3 (dk_at dksX3_isWord_1 5 rfl rfl)
theorem dX3_isWord_30 : decode cX3_isWord 30 = .ok (.istore_n 2, 1) := dk_61 (dk_at dksX3_isWord_1 6 rfl rfl)
theorem dX3_isWord_31 : decode cX3_isWord 31 = .ok (.iload_n 2, 1) := dk_28 (dk_at dksX3_isWord_1 7 rfl rfl)
theorem dX3_isWord_32 : decode cX3_isWord 32 = .ok (.aload_n 1, 1) := dk_43 (dk_at dksX3_isWord_1 8 rfl rfl)
theorem dX3_isWord_33 : decode cX3_isWord 33 = .ok (.invokevirtual 336, 3) := dk_182 1 80 (dk_at dksX3_isWord_1 9 rfl rfl)
theorem dX3_isWord_36 : decode cX3_isWord 36 = .ok (.if_icmp .ge 30, 3) := dk_162 0 30 (dk_at dksX3_isWord_1 12 rfl rfl)
theorem dX3_isWord_39 : decode cX3_isWord 39 = .ok (.aload_n 0, 1) := dk_42 (dk_at dksX3_isWord_1 15 rfl rfl)
theorem dX3_isWord_40 : decode cX3_isWord 40 = .ok (.getfield 121, 3) := dk_180 0 121 (dk_at dksX3_isWord_1 16 rfl rfl)
theorem dX3_isWord_43 : decode cX3_isWord 43 = .ok (.aload_n 0, 1) := dk_42 (dk_at dksX3_isWord_1 19 rfl rfl)
theorem dX3_isWord_44 : decode cX3_isWord 44 = .ok (.getfield 321, 3) := dk_180 1 65 (dk_at dksX3_isWord_1 20 rfl rfl)
theorem dX3_isWord_47 : decode cX3_isWord 47 = .ok (.iload_n 2, 1) := dk_28 (dk_at dksX3_isWord_1 23 rfl rfl)
theorem dX3_isWord_48 : decode cX3_isWord 48 = .ok (.iadd, 1) := dk_96 (dk_at dksX3_isWord_2 0 rfl rfl)
theorem dX3_isWord_49 : decode cX3_isWord 49 = .ok (.baload, 1) := dk_51 (dk_at dksX3_isWord_2 1 rfl rfl)
theorem dX3_isWord_50 : decode cX3_isWord 50 = .ok (.aload_n 1, 1) := dk_43 (dk_at dksX3_isWord_2 2 rfl rfl)
theorem dX3_isWord_51 : decode cX3_isWord 51 = .ok (.iload_n 2, 1) := dk_28 (dk_at dksX3_isWord_2 3 rfl rfl)
theorem dX3_isWord_52 : decode cX3_isWord 52 = .ok (.invokevirtual 340, 3) := dk_182 1 84 (dk_at dksX3_isWord_2 4 rfl rfl)
theorem dX3_isWord_55 : decode cX3_isWord 55 = .ok (.if_icmp .eq 5, 3) := dk_159 0 5 (dk_at dksX3_isWord_2 7 rfl rfl)
theorem dX3_isWord_58 : decode cX3_isWord 58 = .ok (.iconst 0, 1) := dk_3 (dk_at dksX3_isWord_2 10 rfl rfl)
theorem dX3_isWord_59 : decode cX3_isWord 59 = .ok (.ireturn, 1) := dk_172 (dk_at dksX3_isWord_2 11 rfl rfl)
theorem dX3_isWord_60 : decode cX3_isWord 60 = .ok (.iinc 2 1, 3) := dk_132 2 1 (dk_at dksX3_isWord_2 12 rfl rfl)
theorem dX3_isWord_63 : decode cX3_isWord 63 = .ok (.goto (-32), 3) := dk_167 255 224 (dk_at dksX3_isWord_2 15 rfl rfl)
theorem dX3_isWord_66 : decode cX3_isWord 66 = .ok (.iconst 1, 1) := dk_4 (dk_at dksX3_isWord_2 18 rfl rfl)
theorem dX3_isWord_67 : decode cX3_isWord 67 = .ok (.ireturn, 1) := dk_172 (dk_at dksX3_isWord_2 19 rfl rfl)
abbrev cX3_passes : ByteArray := prog_14_method_26_code
def yX3_passes : MethodName := ⟨RX3, "passes", "(Z)Z"⟩
def dkwX3_passes_0 : List UInt8 := [27, 154, 0, 8, 42, 182, 1, 91, 172, 42, 182, 1, 95, 4, 172]
abbrev dktX3_passes_0 : List UInt8 := dkwX3_passes_0 ++ []
theorem dksX3_passes_0 : cX3_passes.data.toList.drop 0 = dktX3_passes_0 := by decide +kernel
theorem dX3_passes_0 : decode cX3_passes 0 = .ok (.iload_n 1, 1) := dk_27 (dk_at dksX3_passes_0 0 rfl rfl)
theorem dX3_passes_1 : decode cX3_passes 1 = .ok (.ifCond .ne 8, 3) := dk_154 0 8 (dk_at dksX3_passes_0 1 rfl rfl)
theorem dX3_passes_4 : decode cX3_passes 4 = .ok (.aload_n 0, 1) := dk_42 (dk_at dksX3_passes_0 4 rfl rfl)
theorem dX3_passes_5 : decode cX3_passes 5 = .ok (.invokevirtual 347, 3) := dk_182 1 91 (dk_at dksX3_passes_0 5 rfl rfl)
theorem dX3_passes_8 : decode cX3_passes 8 = .ok (.ireturn, 1) := dk_172 (dk_at dksX3_passes_0 8 rfl rfl)
theorem dX3_passes_9 : decode cX3_passes 9 = .ok (.aload_n 0, 1) := dk_42 (dk_at dksX3_passes_0 9 rfl rfl)
theorem dX3_passes_10 : decode cX3_passes 10 = .ok (.invokevirtual 351, 3) := dk_182 1 95 (dk_at dksX3_passes_0 10 rfl rfl)
theorem dX3_passes_13 : decode cX3_passes 13 = .ok (.iconst 1, 1) := dk_4 (dk_at dksX3_passes_0 13 rfl rfl)
theorem dX3_passes_14 : decode cX3_passes 14 = .ok (.ireturn, 1) := dk_172 (dk_at dksX3_passes_0 14 rfl rfl)
abbrev cX3_fails : ByteArray := prog_14_method_25_code
def yX3_fails : MethodName := ⟨RX3, "fails", "()Z"⟩
def dkwX3_fails_0 : List UInt8 := [42, 180, 1, 88, 2, 160, 0, 11, 42, 42, 180, 1, 65, 181, 1, 88, 3, 172]
abbrev dktX3_fails_0 : List UInt8 := dkwX3_fails_0 ++ []
theorem dksX3_fails_0 : cX3_fails.data.toList.drop 0 = dktX3_fails_0 := by decide +kernel
theorem dX3_fails_0 : decode cX3_fails 0 = .ok (.aload_n 0, 1) := dk_42 (dk_at dksX3_fails_0 0 rfl rfl)
theorem dX3_fails_1 : decode cX3_fails 1 = .ok (.getfield 344, 3) := dk_180 1 88 (dk_at dksX3_fails_0 1 rfl rfl)
theorem dX3_fails_4 : decode cX3_fails 4 = .ok (.iconst (-1), 1) := dk_2 (dk_at dksX3_fails_0 4 rfl rfl)
theorem dX3_fails_5 : decode cX3_fails 5 = .ok (.if_icmp .ne 11, 3) := dk_160 0 11 (dk_at dksX3_fails_0 5 rfl rfl)
theorem dX3_fails_8 : decode cX3_fails 8 = .ok (.aload_n 0, 1) := dk_42 (dk_at dksX3_fails_0 8 rfl rfl)
theorem dX3_fails_9 : decode cX3_fails 9 = .ok (.aload_n 0, 1) := dk_42 (dk_at dksX3_fails_0 9 rfl rfl)
theorem dX3_fails_10 : decode cX3_fails 10 = .ok (.getfield 321, 3) := dk_180 1 65 (dk_at dksX3_fails_0 10 rfl rfl)
theorem dX3_fails_13 : decode cX3_fails 13 = .ok (.putfield 344, 3) := dk_181 1 88 (dk_at dksX3_fails_0 13 rfl rfl)
theorem dX3_fails_16 : decode cX3_fails 16 = .ok (.iconst 0, 1) := dk_3 (dk_at dksX3_fails_0 16 rfl rfl)
theorem dX3_fails_17 : decode cX3_fails 17 = .ok (.ireturn, 1) := dk_172 (dk_at dksX3_fails_0 17 rfl rfl)
abbrev cX3_goesOn : ByteArray := prog_14_method_22_code
def yX3_goesOn : MethodName := ⟨RX3, "goesOn", "()V"⟩
def dkwX3_goesOn_0 : List UInt8 := [42, 42, 180, 1, 68, 181, 1, 65, 42, 182, 1, 77, 177]
abbrev dktX3_goesOn_0 : List UInt8 := dkwX3_goesOn_0 ++ []
theorem dksX3_goesOn_0 : cX3_goesOn.data.toList.drop 0 = dktX3_goesOn_0 := by decide +kernel
theorem dX3_goesOn_0 : decode cX3_goesOn 0 = .ok (.aload_n 0, 1) := dk_42 (dk_at dksX3_goesOn_0 0 rfl rfl)
theorem dX3_goesOn_1 : decode cX3_goesOn 1 = .ok (.aload_n 0, 1) := dk_42 (dk_at dksX3_goesOn_0 1 rfl rfl)
theorem dX3_goesOn_2 : decode cX3_goesOn 2 = .ok (.getfield 324, 3) := dk_180 1 68 (dk_at dksX3_goesOn_0 2 rfl rfl)
theorem dX3_goesOn_5 : decode cX3_goesOn 5 = .ok (.putfield 321, 3) := dk_181 1 65 (dk_at dksX3_goesOn_0 5 rfl rfl)
theorem dX3_goesOn_8 : decode cX3_goesOn 8 = .ok (.aload_n 0, 1) := dk_42 (dk_at dksX3_goesOn_0 8 rfl rfl)
theorem dX3_goesOn_9 : decode cX3_goesOn 9 = .ok (.invokevirtual 333, 3) := dk_182 1 77 (dk_at dksX3_goesOn_0 9 rfl rfl)
theorem dX3_goesOn_12 : decode cX3_goesOn 12 = .ok (.return_, 1) := dk_177 (dk_at dksX3_goesOn_0 12 rfl rfl)
abbrev cX3_sum : ByteArray := prog_14_method_31_code
def yX3_sum : MethodName := ⟨RX3, "sum", "(I)Z"⟩
def dkwX3_sum_2 : List UInt8 := [182, 1, 133, 154, 0, 5, 3, 172, 42, 28, 3, 182, 1, 122, 87, 167, 255, 207, 4, 172]
abbrev dktX3_sum_2 : List UInt8 := dkwX3_sum_2 ++ []
def dkwX3_sum_1 : List UInt8 := [182, 1, 109, 153, 0, 37, 42, 180, 0, 121, 42, 180, 1, 65, 51, 61, 42, 182, 1, 95, 42, 27]
abbrev dktX3_sum_1 : List UInt8 := dkwX3_sum_1 ++ dktX3_sum_2
def dkwX3_sum_0 : List UInt8 := [42, 27, 182, 1, 133, 154, 0, 5, 3, 172, 42, 16, 43, 182, 1, 109, 154, 0, 12, 42, 16, 45]
abbrev dktX3_sum_0 : List UInt8 := dkwX3_sum_0 ++ dktX3_sum_1
theorem dksX3_sum_0 : cX3_sum.data.toList.drop 0 = dktX3_sum_0 := by decide +kernel
theorem dksX3_sum_1 : cX3_sum.data.toList.drop 22 = dktX3_sum_1 := dk_seg dksX3_sum_0 22 rfl rfl
theorem dksX3_sum_2 : cX3_sum.data.toList.drop 44 = dktX3_sum_2 := dk_seg dksX3_sum_1 22 rfl rfl
theorem dX3_sum_0 : decode cX3_sum 0 = .ok (.aload_n 0, 1) := dk_42 (dk_at dksX3_sum_0 0 rfl rfl)
theorem dX3_sum_1 : decode cX3_sum 1 = .ok (.iload_n 1, 1) := dk_27 (dk_at dksX3_sum_0 1 rfl rfl)
theorem dX3_sum_2 : decode cX3_sum 2 = .ok (.invokevirtual 389, 3) := dk_182 1 133 (dk_at dksX3_sum_0 2 rfl rfl)
theorem dX3_sum_5 : decode cX3_sum 5 = .ok (.ifCond .ne 5, 3) := dk_154 0 5 (dk_at dksX3_sum_0 5 rfl rfl)
theorem dX3_sum_8 : decode cX3_sum 8 = .ok (.iconst 0, 1) := dk_3 (dk_at dksX3_sum_0 8 rfl rfl)
theorem dX3_sum_9 : decode cX3_sum 9 = .ok (.ireturn, 1) := dk_172 (dk_at dksX3_sum_0 9 rfl rfl)
theorem dX3_sum_10 : decode cX3_sum 10 = .ok (.aload_n 0, 1) := dk_42 (dk_at dksX3_sum_0 10 rfl rfl)
theorem dX3_sum_11 : decode cX3_sum 11 = .ok (.bipush 43, 2) := dk_16 43 (dk_at dksX3_sum_0 11 rfl rfl)
theorem dX3_sum_13 : decode cX3_sum 13 = .ok (.invokevirtual 365, 3) := dk_182 1 109 (dk_at dksX3_sum_0 13 rfl rfl)
theorem dX3_sum_16 : decode cX3_sum 16 = .ok (.ifCond .ne 12, 3) := dk_154 0 12 (dk_at dksX3_sum_0 16 rfl rfl)
theorem dX3_sum_19 : decode cX3_sum 19 = .ok (.aload_n 0, 1) := dk_42 (dk_at dksX3_sum_0 19 rfl rfl)
theorem dX3_sum_20 : decode cX3_sum 20 = .ok (.bipush 45, 2) := dk_16 45 (dk_at dksX3_sum_0 20 rfl rfl)
theorem dX3_sum_22 : decode cX3_sum 22 = .ok (.invokevirtual 365, 3) := dk_182 1 109 (dk_at dksX3_sum_1 0 rfl rfl)
theorem dX3_sum_25 : decode cX3_sum 25 = .ok (.ifCond .eq 37, 3) := dk_153 0 37 (dk_at dksX3_sum_1 3 rfl rfl)
theorem dX3_sum_28 : decode cX3_sum 28 = .ok (.aload_n 0, 1) := dk_42 (dk_at dksX3_sum_1 6 rfl rfl)
theorem dX3_sum_29 : decode cX3_sum 29 = .ok (.getfield 121, 3) := dk_180 0 121 (dk_at dksX3_sum_1 7 rfl rfl)
theorem dX3_sum_32 : decode cX3_sum 32 = .ok (.aload_n 0, 1) := dk_42 (dk_at dksX3_sum_1 10 rfl rfl)
theorem dX3_sum_33 : decode cX3_sum 33 = .ok (.getfield 321, 3) := dk_180 1 65 (dk_at dksX3_sum_1 11 rfl rfl)
theorem dX3_sum_36 : decode cX3_sum 36 = .ok (.baload, 1) := dk_51 (dk_at dksX3_sum_1 14 rfl rfl)
theorem dX3_sum_37 : decode cX3_sum 37 = .ok (.istore_n 2, 1) := dk_61 (dk_at dksX3_sum_1 15 rfl rfl)
theorem dX3_sum_38 : decode cX3_sum 38 = .ok (.aload_n 0, 1) := dk_42 (dk_at dksX3_sum_1 16 rfl rfl)
theorem dX3_sum_39 : decode cX3_sum 39 = .ok (.invokevirtual 351, 3) := dk_182 1 95 (dk_at dksX3_sum_1 17 rfl rfl)
theorem dX3_sum_42 : decode cX3_sum 42 = .ok (.aload_n 0, 1) := dk_42 (dk_at dksX3_sum_1 20 rfl rfl)
theorem dX3_sum_43 : decode cX3_sum 43 = .ok (.iload_n 1, 1) := dk_27 (dk_at dksX3_sum_1 21 rfl rfl)
theorem dX3_sum_44 : decode cX3_sum 44 = .ok (.invokevirtual 389, 3) := dk_182 1 133 (dk_at dksX3_sum_2 0 rfl rfl)
theorem dX3_sum_47 : decode cX3_sum 47 = .ok (.ifCond .ne 5, 3) := dk_154 0 5 (dk_at dksX3_sum_2 3 rfl rfl)
theorem dX3_sum_50 : decode cX3_sum 50 = .ok (.iconst 0, 1) := dk_3 (dk_at dksX3_sum_2 6 rfl rfl)
theorem dX3_sum_51 : decode cX3_sum 51 = .ok (.ireturn, 1) := dk_172 (dk_at dksX3_sum_2 7 rfl rfl)
theorem dX3_sum_52 : decode cX3_sum 52 = .ok (.aload_n 0, 1) := dk_42 (dk_at dksX3_sum_2 8 rfl rfl)
theorem dX3_sum_53 : decode cX3_sum 53 = .ok (.iload_n 2, 1) := dk_28 (dk_at dksX3_sum_2 9 rfl rfl)
theorem dX3_sum_54 : decode cX3_sum 54 = .ok (.iconst 0, 1) := dk_3 (dk_at dksX3_sum_2 10 rfl rfl)
theorem dX3_sum_55 : decode cX3_sum 55 = .ok (.invokevirtual 378, 3) := dk_182 1 122 (dk_at dksX3_sum_2 11 rfl rfl)
theorem dX3_sum_58 : decode cX3_sum 58 = .ok (.pop, 1) := dk_87 (dk_at dksX3_sum_2 14 rfl rfl)
theorem dX3_sum_59 : decode cX3_sum 59 = .ok (.goto (-49), 3) := dk_167 255 207 (dk_at dksX3_sum_2 15 rfl rfl)
theorem dX3_sum_62 : decode cX3_sum 62 = .ok (.iconst 1, 1) := dk_4 (dk_at dksX3_sum_2 18 rfl rfl)
theorem dX3_sum_63 : decode cX3_sum 63 = .ok (.ireturn, 1) := dk_172 (dk_at dksX3_sum_2 19 rfl rfl)
abbrev cX3_product : ByteArray := prog_14_method_30_code
def yX3_product : MethodName := ⟨RX3, "product", "(I)Z"⟩
def dkwX3_product_2 : List UInt8 := [182, 1, 130, 154, 0, 5, 3, 172, 42, 28, 3, 182, 1, 122, 87, 167, 255, 207, 4, 172]
abbrev dktX3_product_2 : List UInt8 := dkwX3_product_2 ++ []
def dkwX3_product_1 : List UInt8 := [182, 1, 109, 153, 0, 37, 42, 180, 0, 121, 42, 180, 1, 65, 51, 61, 42, 182, 1, 95, 42, 27]
abbrev dktX3_product_1 : List UInt8 := dkwX3_product_1 ++ dktX3_product_2
def dkwX3_product_0 : List UInt8 := [42, 27, 182, 1, 130, 154, 0, 5, 3, 172, 42, 16, 42, 182, 1, 109, 154, 0, 12, 42, 16, 47]
abbrev dktX3_product_0 : List UInt8 := dkwX3_product_0 ++ dktX3_product_1
theorem dksX3_product_0 : cX3_product.data.toList.drop 0 = dktX3_product_0 := by decide +kernel
theorem dksX3_product_1 : cX3_product.data.toList.drop 22 = dktX3_product_1 := dk_seg dksX3_product_0 22 rfl rfl
theorem dksX3_product_2 : cX3_product.data.toList.drop 44 = dktX3_product_2 := dk_seg dksX3_product_1 22 rfl rfl
theorem dX3_product_0 : decode cX3_product 0 = .ok (.aload_n 0, 1) := dk_42 (dk_at dksX3_product_0 0 rfl rfl)
theorem dX3_product_1 : decode cX3_product 1 = .ok (.iload_n 1, 1) := dk_27 (dk_at dksX3_product_0 1 rfl rfl)
theorem dX3_product_2 : decode cX3_product 2 = .ok (.invokevirtual 386, 3) := dk_182 1 130 (dk_at dksX3_product_0 2 rfl rfl)
theorem dX3_product_5 : decode cX3_product 5 = .ok (.ifCond .ne 5, 3) := dk_154 0 5 (dk_at dksX3_product_0 5 rfl rfl)
theorem dX3_product_8 : decode cX3_product 8 = .ok (.iconst 0, 1) := dk_3 (dk_at dksX3_product_0 8 rfl rfl)
theorem dX3_product_9 : decode cX3_product 9 = .ok (.ireturn, 1) := dk_172 (dk_at dksX3_product_0 9 rfl rfl)
theorem dX3_product_10 : decode cX3_product 10 = .ok (.aload_n 0, 1) := dk_42 (dk_at dksX3_product_0 10 rfl rfl)
theorem dX3_product_11 : decode cX3_product 11 = .ok (.bipush 42, 2) := dk_16 42 (dk_at dksX3_product_0 11 rfl rfl)
theorem dX3_product_13 : decode cX3_product 13 = .ok (.invokevirtual 365, 3) := dk_182 1 109 (dk_at dksX3_product_0 13 rfl rfl)
theorem dX3_product_16 : decode cX3_product 16 = .ok (.ifCond .ne 12, 3) := dk_154 0 12 (dk_at dksX3_product_0 16 rfl rfl)
theorem dX3_product_19 : decode cX3_product 19 = .ok (.aload_n 0, 1) := dk_42 (dk_at dksX3_product_0 19 rfl rfl)
theorem dX3_product_20 : decode cX3_product 20 = .ok (.bipush 47, 2) := dk_16 47 (dk_at dksX3_product_0 20 rfl rfl)
theorem dX3_product_22 : decode cX3_product 22 = .ok (.invokevirtual 365, 3) := dk_182 1 109 (dk_at dksX3_product_1 0 rfl rfl)
theorem dX3_product_25 : decode cX3_product 25 = .ok (.ifCond .eq 37, 3) := dk_153 0 37 (dk_at dksX3_product_1 3 rfl rfl)
theorem dX3_product_28 : decode cX3_product 28 = .ok (.aload_n 0, 1) := dk_42 (dk_at dksX3_product_1 6 rfl rfl)
theorem dX3_product_29 : decode cX3_product 29 = .ok (.getfield 121, 3) := dk_180 0 121 (dk_at dksX3_product_1 7 rfl rfl)
theorem dX3_product_32 : decode cX3_product 32 = .ok (.aload_n 0, 1) := dk_42 (dk_at dksX3_product_1 10 rfl rfl)
theorem dX3_product_33 : decode cX3_product 33 = .ok (.getfield 321, 3) := dk_180 1 65 (dk_at dksX3_product_1 11 rfl rfl)
theorem dX3_product_36 : decode cX3_product 36 = .ok (.baload, 1) := dk_51 (dk_at dksX3_product_1 14 rfl rfl)
theorem dX3_product_37 : decode cX3_product 37 = .ok (.istore_n 2, 1) := dk_61 (dk_at dksX3_product_1 15 rfl rfl)
theorem dX3_product_38 : decode cX3_product 38 = .ok (.aload_n 0, 1) := dk_42 (dk_at dksX3_product_1 16 rfl rfl)
theorem dX3_product_39 : decode cX3_product 39 = .ok (.invokevirtual 351, 3) := dk_182 1 95 (dk_at dksX3_product_1 17 rfl rfl)
theorem dX3_product_42 : decode cX3_product 42 = .ok (.aload_n 0, 1) := dk_42 (dk_at dksX3_product_1 20 rfl rfl)
theorem dX3_product_43 : decode cX3_product 43 = .ok (.iload_n 1, 1) := dk_27 (dk_at dksX3_product_1 21 rfl rfl)
theorem dX3_product_44 : decode cX3_product 44 = .ok (.invokevirtual 386, 3) := dk_182 1 130 (dk_at dksX3_product_2 0 rfl rfl)
theorem dX3_product_47 : decode cX3_product 47 = .ok (.ifCond .ne 5, 3) := dk_154 0 5 (dk_at dksX3_product_2 3 rfl rfl)
theorem dX3_product_50 : decode cX3_product 50 = .ok (.iconst 0, 1) := dk_3 (dk_at dksX3_product_2 6 rfl rfl)
theorem dX3_product_51 : decode cX3_product 51 = .ok (.ireturn, 1) := dk_172 (dk_at dksX3_product_2 7 rfl rfl)
theorem dX3_product_52 : decode cX3_product 52 = .ok (.aload_n 0, 1) := dk_42 (dk_at dksX3_product_2 8 rfl rfl)
theorem dX3_product_53 : decode cX3_product 53 = .ok (.iload_n 2, 1) := dk_28 (dk_at dksX3_product_2 9 rfl rfl)
theorem dX3_product_54 : decode cX3_product 54 = .ok (.iconst 0, 1) := dk_3 (dk_at dksX3_product_2 10 rfl rfl)
theorem dX3_product_55 : decode cX3_product 55 = .ok (.invokevirtual 378, 3) := dk_182 1 122 (dk_at dksX3_product_2 11 rfl rfl)
theorem dX3_product_58 : decode cX3_product 58 = .ok (.pop, 1) := dk_87 (dk_at dksX3_product_2 14 rfl rfl)
theorem dX3_product_59 : decode cX3_product 59 = .ok (.goto (-49), 3) := dk_167 255 207 (dk_at dksX3_product_2 15 rfl rfl)
theorem dX3_product_62 : decode cX3_product 62 = .ok (.iconst 1, 1) := dk_4 (dk_at dksX3_product_2 18 rfl rfl)
theorem dX3_product_63 : decode cX3_product 63 = .ok (.ireturn, 1) := dk_172 (dk_at dksX3_product_2 19 rfl rfl)
abbrev cX3_factor : ByteArray := prog_14_method_29_code
def yX3_factor : MethodName := ⟨RX3, "factor", "(I)Z"⟩
def dkwX3_factor_6 : List UInt8 := [4, 167, 0, 4, 3, 172, 132, 2, 1, 167, 255, 210, 42, 182, 1, 91, 172]
abbrev dktX3_factor_6 : List UInt8 := dkwX3_factor_6 ++ []
def dkwX3_factor_5 : List UInt8 := [182, 1, 126, 153, 0, 27, 42, 4, 182, 1, 112, 153, 0, 17, 42, 16, 118, 28, 182, 1, 122, 153, 0, 7]
abbrev dktX3_factor_5 : List UInt8 := dkwX3_factor_5 ++ dktX3_factor_6
def dkwX3_factor_4 : List UInt8 := [153, 0, 7, 4, 167, 0, 4, 3, 172, 3, 61, 28, 16, 13, 162, 0, 46, 42, 42, 180, 0, 176, 28, 50]
abbrev dktX3_factor_4 : List UInt8 := dkwX3_factor_4 ++ dktX3_factor_5
def dkwX3_factor_3 : List UInt8 := [17, 39, 15, 163, 0, 7, 4, 167, 0, 4, 3, 182, 1, 112, 153, 0, 17, 42, 16, 110, 28, 182, 1, 122]
abbrev dktX3_factor_3 : List UInt8 := dkwX3_factor_3 ++ dktX3_factor_4
def dkwX3_factor_2 : List UInt8 := [153, 0, 7, 4, 167, 0, 4, 3, 172, 42, 182, 1, 119, 153, 0, 43, 42, 180, 1, 104, 61, 42, 28]
abbrev dktX3_factor_2 : List UInt8 := dkwX3_factor_2 ++ dktX3_factor_3
def dkwX3_factor_1 : List UInt8 := [153, 0, 30, 42, 27, 4, 96, 182, 1, 116, 153, 0, 20, 42, 42, 16, 41, 182, 1, 109, 182, 1, 112]
abbrev dktX3_factor_1 : List UInt8 := dkwX3_factor_1 ++ dktX3_factor_2
def dkwX3_factor_0 : List UInt8 := [42, 16, 40, 182, 1, 109, 153, 0, 50, 42, 27, 16, 8, 162, 0, 7, 4, 167, 0, 4, 3, 182, 1, 112]
abbrev dktX3_factor_0 : List UInt8 := dkwX3_factor_0 ++ dktX3_factor_1
theorem dksX3_factor_0 : cX3_factor.data.toList.drop 0 = dktX3_factor_0 := by decide +kernel
theorem dksX3_factor_1 : cX3_factor.data.toList.drop 24 = dktX3_factor_1 := dk_seg dksX3_factor_0 24 rfl rfl
theorem dksX3_factor_2 : cX3_factor.data.toList.drop 47 = dktX3_factor_2 := dk_seg dksX3_factor_1 23 rfl rfl
theorem dksX3_factor_3 : cX3_factor.data.toList.drop 70 = dktX3_factor_3 := dk_seg dksX3_factor_2 23 rfl rfl
theorem dksX3_factor_4 : cX3_factor.data.toList.drop 94 = dktX3_factor_4 := dk_seg dksX3_factor_3 24 rfl rfl
theorem dksX3_factor_5 : cX3_factor.data.toList.drop 118 = dktX3_factor_5 := dk_seg dksX3_factor_4 24 rfl rfl
theorem dksX3_factor_6 : cX3_factor.data.toList.drop 142 = dktX3_factor_6 := dk_seg dksX3_factor_5 24 rfl rfl
theorem dX3_factor_0 : decode cX3_factor 0 = .ok (.aload_n 0, 1) := dk_42 (dk_at dksX3_factor_0 0 rfl rfl)
theorem dX3_factor_1 : decode cX3_factor 1 = .ok (.bipush 40, 2) := dk_16 40 (dk_at dksX3_factor_0 1 rfl rfl)
theorem dX3_factor_3 : decode cX3_factor 3 = .ok (.invokevirtual 365, 3) := dk_182 1 109 (dk_at dksX3_factor_0 3 rfl rfl)
theorem dX3_factor_6 : decode cX3_factor 6 = .ok (.ifCond .eq 50, 3) := dk_153 0 50 (dk_at dksX3_factor_0 6 rfl rfl)
theorem dX3_factor_9 : decode cX3_factor 9 = .ok (.aload_n 0, 1) := dk_42 (dk_at dksX3_factor_0 9 rfl rfl)
theorem dX3_factor_10 : decode cX3_factor 10 = .ok (.iload_n 1, 1) := dk_27 (dk_at dksX3_factor_0 10 rfl rfl)
theorem dX3_factor_11 : decode cX3_factor 11 = .ok (.bipush 8, 2) := dk_16 8 (dk_at dksX3_factor_0 11 rfl rfl)
theorem dX3_factor_13 : decode cX3_factor 13 = .ok (.if_icmp .ge 7, 3) := dk_162 0 7 (dk_at dksX3_factor_0 13 rfl rfl)
theorem dX3_factor_16 : decode cX3_factor 16 = .ok (.iconst 1, 1) := dk_4 (dk_at dksX3_factor_0 16 rfl rfl)
theorem dX3_factor_17 : decode cX3_factor 17 = .ok (.goto 4, 3) := dk_167 0 4 (dk_at dksX3_factor_0 17 rfl rfl)
theorem dX3_factor_20 : decode cX3_factor 20 = .ok (.iconst 0, 1) := dk_3 (dk_at dksX3_factor_0 20 rfl rfl)
theorem dX3_factor_21 : decode cX3_factor 21 = .ok (.invokevirtual 368, 3) := dk_182 1 112 (dk_at dksX3_factor_0 21 rfl rfl)
theorem dX3_factor_24 : decode cX3_factor 24 = .ok (.ifCond .eq 30, 3) := dk_153 0 30 (dk_at dksX3_factor_1 0 rfl rfl)
theorem dX3_factor_27 : decode cX3_factor 27 = .ok (.aload_n 0, 1) := dk_42 (dk_at dksX3_factor_1 3 rfl rfl)
theorem dX3_factor_28 : decode cX3_factor 28 = .ok (.iload_n 1, 1) := dk_27 (dk_at dksX3_factor_1 4 rfl rfl)
theorem dX3_factor_29 : decode cX3_factor 29 = .ok (.iconst 1, 1) := dk_4 (dk_at dksX3_factor_1 5 rfl rfl)
theorem dX3_factor_30 : decode cX3_factor 30 = .ok (.iadd, 1) := dk_96 (dk_at dksX3_factor_1 6 rfl rfl)
theorem dX3_factor_31 : decode cX3_factor 31 = .ok (.invokevirtual 372, 3) := dk_182 1 116 (dk_at dksX3_factor_1 7 rfl rfl)
theorem dX3_factor_34 : decode cX3_factor 34 = .ok (.ifCond .eq 20, 3) := dk_153 0 20 (dk_at dksX3_factor_1 10 rfl rfl)
theorem dX3_factor_37 : decode cX3_factor 37 = .ok (.aload_n 0, 1) := dk_42 (dk_at dksX3_factor_1 13 rfl rfl)
theorem dX3_factor_38 : decode cX3_factor 38 = .ok (.aload_n 0, 1) := dk_42 (dk_at dksX3_factor_1 14 rfl rfl)
theorem dX3_factor_39 : decode cX3_factor 39 = .ok (.bipush 41, 2) := dk_16 41 (dk_at dksX3_factor_1 15 rfl rfl)
theorem dX3_factor_41 : decode cX3_factor 41 = .ok (.invokevirtual 365, 3) := dk_182 1 109 (dk_at dksX3_factor_1 17 rfl rfl)
theorem dX3_factor_44 : decode cX3_factor 44 = .ok (.invokevirtual 368, 3) := dk_182 1 112 (dk_at dksX3_factor_1 20 rfl rfl)
theorem dX3_factor_47 : decode cX3_factor 47 = .ok (.ifCond .eq 7, 3) := dk_153 0 7 (dk_at dksX3_factor_2 0 rfl rfl)
theorem dX3_factor_50 : decode cX3_factor 50 = .ok (.iconst 1, 1) := dk_4 (dk_at dksX3_factor_2 3 rfl rfl)
theorem dX3_factor_51 : decode cX3_factor 51 = .ok (.goto 4, 3) := dk_167 0 4 (dk_at dksX3_factor_2 4 rfl rfl)
theorem dX3_factor_54 : decode cX3_factor 54 = .ok (.iconst 0, 1) := dk_3 (dk_at dksX3_factor_2 7 rfl rfl)
theorem dX3_factor_55 : decode cX3_factor 55 = .ok (.ireturn, 1) := dk_172 (dk_at dksX3_factor_2 8 rfl rfl)
theorem dX3_factor_56 : decode cX3_factor 56 = .ok (.aload_n 0, 1) := dk_42 (dk_at dksX3_factor_2 9 rfl rfl)
theorem dX3_factor_57 : decode cX3_factor 57 = .ok (.invokevirtual 375, 3) := dk_182 1 119 (dk_at dksX3_factor_2 10 rfl rfl)
theorem dX3_factor_60 : decode cX3_factor 60 = .ok (.ifCond .eq 43, 3) := dk_153 0 43 (dk_at dksX3_factor_2 13 rfl rfl)
theorem dX3_factor_63 : decode cX3_factor 63 = .ok (.aload_n 0, 1) := dk_42 (dk_at dksX3_factor_2 16 rfl rfl)
theorem dX3_factor_64 : decode cX3_factor 64 = .ok (.getfield 360, 3) := dk_180 1 104 (dk_at dksX3_factor_2 17 rfl rfl)
theorem dX3_factor_67 : decode cX3_factor 67 = .ok (.istore_n 2, 1) := dk_61 (dk_at dksX3_factor_2 20 rfl rfl)
theorem dX3_factor_68 : decode cX3_factor 68 = .ok (.aload_n 0, 1) := dk_42 (dk_at dksX3_factor_2 21 rfl rfl)
theorem dX3_factor_69 : decode cX3_factor 69 = .ok (.iload_n 2, 1) := dk_28 (dk_at dksX3_factor_2 22 rfl rfl)
theorem dX3_factor_70 : decode cX3_factor 70 = .ok (.sipush 9999, 3) := dk_17 39 15 (dk_at dksX3_factor_3 0 rfl rfl)
theorem dX3_factor_73 : decode cX3_factor 73 = .ok (.if_icmp .gt 7, 3) := dk_163 0 7 (dk_at dksX3_factor_3 3 rfl rfl)
theorem dX3_factor_76 : decode cX3_factor 76 = .ok (.iconst 1, 1) := dk_4 (dk_at dksX3_factor_3 6 rfl rfl)
theorem dX3_factor_77 : decode cX3_factor 77 = .ok (.goto 4, 3) := dk_167 0 4 (dk_at dksX3_factor_3 7 rfl rfl)
theorem dX3_factor_80 : decode cX3_factor 80 = .ok (.iconst 0, 1) := dk_3 (dk_at dksX3_factor_3 10 rfl rfl)
theorem dX3_factor_81 : decode cX3_factor 81 = .ok (.invokevirtual 368, 3) := dk_182 1 112 (dk_at dksX3_factor_3 11 rfl rfl)
theorem dX3_factor_84 : decode cX3_factor 84 = .ok (.ifCond .eq 17, 3) := dk_153 0 17 (dk_at dksX3_factor_3 14 rfl rfl)
theorem dX3_factor_87 : decode cX3_factor 87 = .ok (.aload_n 0, 1) := dk_42 (dk_at dksX3_factor_3 17 rfl rfl)
theorem dX3_factor_88 : decode cX3_factor 88 = .ok (.bipush 110, 2) := dk_16 110 (dk_at dksX3_factor_3 18 rfl rfl)
theorem dX3_factor_90 : decode cX3_factor 90 = .ok (.iload_n 2, 1) := dk_28 (dk_at dksX3_factor_3 20 rfl rfl)
theorem dX3_factor_91 : decode cX3_factor 91 = .ok (.invokevirtual 378, 3) := dk_182 1 122 (dk_at dksX3_factor_3 21 rfl rfl)
theorem dX3_factor_94 : decode cX3_factor 94 = .ok (.ifCond .eq 7, 3) := dk_153 0 7 (dk_at dksX3_factor_4 0 rfl rfl)
theorem dX3_factor_97 : decode cX3_factor 97 = .ok (.iconst 1, 1) := dk_4 (dk_at dksX3_factor_4 3 rfl rfl)
theorem dX3_factor_98 : decode cX3_factor 98 = .ok (.goto 4, 3) := dk_167 0 4 (dk_at dksX3_factor_4 4 rfl rfl)
theorem dX3_factor_101 : decode cX3_factor 101 = .ok (.iconst 0, 1) := dk_3 (dk_at dksX3_factor_4 7 rfl rfl)
theorem dX3_factor_102 : decode cX3_factor 102 = .ok (.ireturn, 1) := dk_172 (dk_at dksX3_factor_4 8 rfl rfl)
theorem dX3_factor_103 : decode cX3_factor 103 = .ok (.iconst 0, 1) := dk_3 (dk_at dksX3_factor_4 9 rfl rfl)
theorem dX3_factor_104 : decode cX3_factor 104 = .ok (.istore_n 2, 1) := dk_61 (dk_at dksX3_factor_4 10 rfl rfl)
theorem dX3_factor_105 : decode cX3_factor 105 = .ok (.iload_n 2, 1) := dk_28 (dk_at dksX3_factor_4 11 rfl rfl)
theorem dX3_factor_106 : decode cX3_factor 106 = .ok (.bipush 13, 2) := dk_16 13 (dk_at dksX3_factor_4 12 rfl rfl)
theorem dX3_factor_108 : decode cX3_factor 108 = .ok (.if_icmp .ge 46, 3) := dk_162 0 46 (dk_at dksX3_factor_4 14 rfl rfl)
theorem dX3_factor_111 : decode cX3_factor 111 = .ok (.aload_n 0, 1) := dk_42 (dk_at dksX3_factor_4 17 rfl rfl)
theorem dX3_factor_112 : decode cX3_factor 112 = .ok (.aload_n 0, 1) := dk_42 (dk_at dksX3_factor_4 18 rfl rfl)
theorem dX3_factor_113 : decode cX3_factor 113 = .ok (.getfield 176, 3) := dk_180 0 176 (dk_at dksX3_factor_4 19 rfl rfl)
theorem dX3_factor_116 : decode cX3_factor 116 = .ok (.iload_n 2, 1) := dk_28 (dk_at dksX3_factor_4 22 rfl rfl)
theorem dX3_factor_117 : decode cX3_factor 117 = .ok (.aaload, 1) := dk_50 (dk_at dksX3_factor_4 23 rfl rfl)
theorem dX3_factor_118 : decode cX3_factor 118 = .ok (.invokevirtual 382, 3) := dk_182 1 126 (dk_at dksX3_factor_5 0 rfl rfl)
theorem dX3_factor_121 : decode cX3_factor 121 = .ok (.ifCond .eq 27, 3) := dk_153 0 27 (dk_at dksX3_factor_5 3 rfl rfl)
theorem dX3_factor_124 : decode cX3_factor 124 = .ok (.aload_n 0, 1) := dk_42 (dk_at dksX3_factor_5 6 rfl rfl)
theorem dX3_factor_125 : decode cX3_factor 125 = .ok (.iconst 1, 1) := dk_4 (dk_at dksX3_factor_5 7 rfl rfl)
theorem dX3_factor_126 : decode cX3_factor 126 = .ok (.invokevirtual 368, 3) := dk_182 1 112 (dk_at dksX3_factor_5 8 rfl rfl)
theorem dX3_factor_129 : decode cX3_factor 129 = .ok (.ifCond .eq 17, 3) := dk_153 0 17 (dk_at dksX3_factor_5 11 rfl rfl)
theorem dX3_factor_132 : decode cX3_factor 132 = .ok (.aload_n 0, 1) := dk_42 (dk_at dksX3_factor_5 14 rfl rfl)
theorem dX3_factor_133 : decode cX3_factor 133 = .ok (.bipush 118, 2) := dk_16 118 (dk_at dksX3_factor_5 15 rfl rfl)
theorem dX3_factor_135 : decode cX3_factor 135 = .ok (.iload_n 2, 1) := dk_28 (dk_at dksX3_factor_5 17 rfl rfl)
theorem dX3_factor_136 : decode cX3_factor 136 = .ok (.invokevirtual 378, 3) := dk_182 1 122 (dk_at dksX3_factor_5 18 rfl rfl)
theorem dX3_factor_139 : decode cX3_factor 139 = .ok (.ifCond .eq 7, 3) := dk_153 0 7 (dk_at dksX3_factor_5 21 rfl rfl)
theorem dX3_factor_142 : decode cX3_factor 142 = .ok (.iconst 1, 1) := dk_4 (dk_at dksX3_factor_6 0 rfl rfl)
theorem dX3_factor_143 : decode cX3_factor 143 = .ok (.goto 4, 3) := dk_167 0 4 (dk_at dksX3_factor_6 1 rfl rfl)
theorem dX3_factor_146 : decode cX3_factor 146 = .ok (.iconst 0, 1) := dk_3 (dk_at dksX3_factor_6 4 rfl rfl)
theorem dX3_factor_147 : decode cX3_factor 147 = .ok (.ireturn, 1) := dk_172 (dk_at dksX3_factor_6 5 rfl rfl)
theorem dX3_factor_148 : decode cX3_factor 148 = .ok (.iinc 2 1, 3) := dk_132 2 1 (dk_at dksX3_factor_6 6 rfl rfl)
theorem dX3_factor_151 : decode cX3_factor 151 = .ok (.goto (-46), 3) := dk_167 255 210 (dk_at dksX3_factor_6 9 rfl rfl)
theorem dX3_factor_154 : decode cX3_factor 154 = .ok (.aload_n 0, 1) := dk_42 (dk_at dksX3_factor_6 12 rfl rfl)
theorem dX3_factor_155 : decode cX3_factor 155 = .ok (.invokevirtual 347, 3) := dk_182 1 91 (dk_at dksX3_factor_6 13 rfl rfl)
theorem dX3_factor_158 : decode cX3_factor 158 = .ok (.ireturn, 1) := dk_172 (dk_at dksX3_factor_6 16 rfl rfl)
abbrev cX3_isSign : ByteArray := prog_14_method_24_code
def yX3_isSign : MethodName := ⟨RX3, "isSign", "(I)Z"⟩
def dkwX3_isSign_1 : List UInt8 := [4, 167, 0, 4, 3, 172]
abbrev dktX3_isSign_1 : List UInt8 := dkwX3_isSign_1 ++ []
def dkwX3_isSign_0 : List UInt8 := [42, 180, 1, 65, 42, 180, 1, 58, 162, 0, 20, 42, 180, 0, 121, 42, 180, 1, 65, 51, 27, 160, 0, 7]
abbrev dktX3_isSign_0 : List UInt8 := dkwX3_isSign_0 ++ dktX3_isSign_1
theorem dksX3_isSign_0 : cX3_isSign.data.toList.drop 0 = dktX3_isSign_0 := by decide +kernel
theorem dksX3_isSign_1 : cX3_isSign.data.toList.drop 24 = dktX3_isSign_1 := dk_seg dksX3_isSign_0 24 rfl rfl
theorem dX3_isSign_0 : decode cX3_isSign 0 = .ok (.aload_n 0, 1) := dk_42 (dk_at dksX3_isSign_0 0 rfl rfl)
theorem dX3_isSign_1 : decode cX3_isSign 1 = .ok (.getfield 321, 3) := dk_180 1 65 (dk_at dksX3_isSign_0 1 rfl rfl)
theorem dX3_isSign_4 : decode cX3_isSign 4 = .ok (.aload_n 0, 1) := dk_42 (dk_at dksX3_isSign_0 4 rfl rfl)
theorem dX3_isSign_5 : decode cX3_isSign 5 = .ok (.getfield 314, 3) := dk_180 1 58 (dk_at dksX3_isSign_0 5 rfl rfl)
theorem dX3_isSign_8 : decode cX3_isSign 8 = .ok (.if_icmp .ge 20, 3) := dk_162 0 20 (dk_at dksX3_isSign_0 8 rfl rfl)
theorem dX3_isSign_11 : decode cX3_isSign 11 = .ok (.aload_n 0, 1) := dk_42 (dk_at dksX3_isSign_0 11 rfl rfl)
theorem dX3_isSign_12 : decode cX3_isSign 12 = .ok (.getfield 121, 3) := dk_180 0 121 (dk_at dksX3_isSign_0 12 rfl rfl)
theorem dX3_isSign_15 : decode cX3_isSign 15 = .ok (.aload_n 0, 1) := dk_42 (dk_at dksX3_isSign_0 15 rfl rfl)
theorem dX3_isSign_16 : decode cX3_isSign 16 = .ok (.getfield 321, 3) := dk_180 1 65 (dk_at dksX3_isSign_0 16 rfl rfl)
theorem dX3_isSign_19 : decode cX3_isSign 19 = .ok (.baload, 1) := dk_51 (dk_at dksX3_isSign_0 19 rfl rfl)
theorem dX3_isSign_20 : decode cX3_isSign 20 = .ok (.iload_n 1, 1) := dk_27 (dk_at dksX3_isSign_0 20 rfl rfl)
theorem dX3_isSign_21 : decode cX3_isSign 21 = .ok (.if_icmp .ne 7, 3) := dk_160 0 7 (dk_at dksX3_isSign_0 21 rfl rfl)
theorem dX3_isSign_24 : decode cX3_isSign 24 = .ok (.iconst 1, 1) := dk_4 (dk_at dksX3_isSign_1 0 rfl rfl)
theorem dX3_isSign_25 : decode cX3_isSign 25 = .ok (.goto 4, 3) := dk_167 0 4 (dk_at dksX3_isSign_1 1 rfl rfl)
theorem dX3_isSign_28 : decode cX3_isSign 28 = .ok (.iconst 0, 1) := dk_3 (dk_at dksX3_isSign_1 4 rfl rfl)
theorem dX3_isSign_29 : decode cX3_isSign 29 = .ok (.ireturn, 1) := dk_172 (dk_at dksX3_isSign_1 5 rfl rfl)
abbrev cX3_isNumber : ByteArray := prog_14_method_28_code
def yX3_isNumber : MethodName := ⟨RX3, "isNumber", "()Z"⟩
def dkwX3_isNumber_3 : List UInt8 := [180, 0, 121, 27, 51, 96, 16, 48, 100, 181, 1, 104, 132, 1, 1, 167, 255, 208, 4, 172]
abbrev dktX3_isNumber_3 : List UInt8 := dkwX3_isNumber_3 ++ []
def dkwX3_isNumber_2 : List UInt8 := [42, 180, 1, 104, 19, 1, 107, 164, 0, 9, 19, 1, 108, 167, 0, 20, 16, 10, 42, 180, 1, 104, 104, 42]
abbrev dktX3_isNumber_2 : List UInt8 := dkwX3_isNumber_2 ++ dktX3_isNumber_3
def dkwX3_isNumber_1 : List UInt8 := [154, 0, 5, 3, 172, 42, 3, 181, 1, 104, 42, 180, 1, 65, 60, 27, 42, 180, 1, 68, 162, 0, 46, 42]
abbrev dktX3_isNumber_1 : List UInt8 := dkwX3_isNumber_1 ++ dktX3_isNumber_2
def dkwX3_isNumber_0 : List UInt8 := [42, 180, 1, 65, 42, 180, 1, 58, 159, 0, 18, 42, 180, 0, 121, 42, 180, 1, 65, 51, 184, 1, 74]
abbrev dktX3_isNumber_0 : List UInt8 := dkwX3_isNumber_0 ++ dktX3_isNumber_1
theorem dksX3_isNumber_0 : cX3_isNumber.data.toList.drop 0 = dktX3_isNumber_0 := by decide +kernel
theorem dksX3_isNumber_1 : cX3_isNumber.data.toList.drop 23 = dktX3_isNumber_1 := dk_seg dksX3_isNumber_0 23 rfl rfl
theorem dksX3_isNumber_2 : cX3_isNumber.data.toList.drop 47 = dktX3_isNumber_2 := dk_seg dksX3_isNumber_1 24 rfl rfl
theorem dksX3_isNumber_3 : cX3_isNumber.data.toList.drop 71 = dktX3_isNumber_3 := dk_seg dksX3_isNumber_2 24 rfl rfl
theorem dX3_isNumber_0 : decode cX3_isNumber 0 = .ok (.aload_n 0, 1) := dk_42 (dk_at dksX3_isNumber_0 0 rfl rfl)
theorem dX3_isNumber_1 : decode cX3_isNumber 1 = .ok (.getfield 321, 3) := dk_180 1 65 (dk_at dksX3_isNumber_0 1 rfl rfl)
theorem dX3_isNumber_4 : decode cX3_isNumber 4 = .ok (.aload_n 0, 1) := dk_42 (dk_at dksX3_isNumber_0 4 rfl rfl)
theorem dX3_isNumber_5 : decode cX3_isNumber 5 = .ok (.getfield 314, 3) := dk_180 1 58 (dk_at dksX3_isNumber_0 5 rfl rfl)
theorem dX3_isNumber_8 : decode cX3_isNumber 8 = .ok (.if_icmp .eq 18, 3) := dk_159 0 18 (dk_at dksX3_isNumber_0 8 rfl rfl)
theorem dX3_isNumber_11 : decode cX3_isNumber 11 = .ok (.aload_n 0, 1) := dk_42 (dk_at dksX3_isNumber_0 11 rfl rfl)
theorem dX3_isNumber_12 : decode cX3_isNumber 12 = .ok (.getfield 121, 3) := dk_180 0 121 (dk_at dksX3_isNumber_0 12 rfl rfl)
theorem dX3_isNumber_15 : decode cX3_isNumber 15 = .ok (.aload_n 0, 1) := dk_42 (dk_at dksX3_isNumber_0 15 rfl rfl)
theorem dX3_isNumber_16 : decode cX3_isNumber 16 = .ok (.getfield 321, 3) := dk_180 1 65 (dk_at dksX3_isNumber_0 16 rfl rfl)
theorem dX3_isNumber_19 : decode cX3_isNumber 19 = .ok (.baload, 1) := dk_51 (dk_at dksX3_isNumber_0 19 rfl rfl)
theorem dX3_isNumber_20 : decode cX3_isNumber 20 = .ok (.invokestatic 330, 3) := dk_184 1 74 (dk_at dksX3_isNumber_0 20 rfl rfl)
theorem dX3_isNumber_23 : decode cX3_isNumber 23 = .ok (.ifCond .ne 5, 3) := dk_154 0 5 (dk_at dksX3_isNumber_1 0 rfl rfl)
theorem dX3_isNumber_26 : decode cX3_isNumber 26 = .ok (.iconst 0, 1) := dk_3 (dk_at dksX3_isNumber_1 3 rfl rfl)
theorem dX3_isNumber_27 : decode cX3_isNumber 27 = .ok (.ireturn, 1) := dk_172 (dk_at dksX3_isNumber_1 4 rfl rfl)
theorem dX3_isNumber_28 : decode cX3_isNumber 28 = .ok (.aload_n 0, 1) := dk_42 (dk_at dksX3_isNumber_1 5 rfl rfl)
theorem dX3_isNumber_29 : decode cX3_isNumber 29 = .ok (.iconst 0, 1) := dk_3 (dk_at dksX3_isNumber_1 6 rfl rfl)
theorem dX3_isNumber_30 : decode cX3_isNumber 30 = .ok (.putfield 360, 3) := dk_181 1 104 (dk_at dksX3_isNumber_1 7 rfl rfl)
theorem dX3_isNumber_33 : decode cX3_isNumber 33 = .ok (.aload_n 0, 1) := dk_42 (dk_at dksX3_isNumber_1 10 rfl rfl)
theorem dX3_isNumber_34 : decode cX3_isNumber 34 = .ok (.getfield 321, 3) := dk_180 1 65 (dk_at dksX3_isNumber_1 11 rfl rfl)
theorem dX3_isNumber_37 : decode cX3_isNumber 37 = .ok (.istore_n 1, 1) := dk_60 (dk_at dksX3_isNumber_1 14 rfl rfl)
theorem dX3_isNumber_38 : decode cX3_isNumber 38 = .ok (.iload_n 1, 1) := dk_27 (dk_at dksX3_isNumber_1 15 rfl rfl)
theorem dX3_isNumber_39 : decode cX3_isNumber 39 = .ok (.aload_n 0, 1) := dk_42 (dk_at dksX3_isNumber_1 16 rfl rfl)
theorem dX3_isNumber_40 : decode cX3_isNumber 40 = .ok (.getfield 324, 3) := dk_180 1 68 (dk_at dksX3_isNumber_1 17 rfl rfl)
theorem dX3_isNumber_43 : decode cX3_isNumber 43 = .ok (.if_icmp .ge 46, 3) := dk_162 0 46 (dk_at dksX3_isNumber_1 20 rfl rfl)
theorem dX3_isNumber_46 : decode cX3_isNumber 46 = .ok (.aload_n 0, 1) := dk_42 (dk_at dksX3_isNumber_1 23 rfl rfl)
theorem dX3_isNumber_47 : decode cX3_isNumber 47 = .ok (.aload_n 0, 1) := dk_42 (dk_at dksX3_isNumber_2 0 rfl rfl)
theorem dX3_isNumber_48 : decode cX3_isNumber 48 = .ok (.getfield 360, 3) := dk_180 1 104 (dk_at dksX3_isNumber_2 1 rfl rfl)
theorem dX3_isNumber_51 : decode cX3_isNumber 51 = .ok (.ldc_w 363, 3) := dk_19 1 107 (dk_at dksX3_isNumber_2 4 rfl rfl)
theorem dX3_isNumber_54 : decode cX3_isNumber 54 = .ok (.if_icmp .le 9, 3) := dk_164 0 9 (dk_at dksX3_isNumber_2 7 rfl rfl)
theorem dX3_isNumber_57 : decode cX3_isNumber 57 = .ok (.ldc_w 364, 3) := dk_19 1 108 (dk_at dksX3_isNumber_2 10 rfl rfl)
theorem dX3_isNumber_60 : decode cX3_isNumber 60 = .ok (.goto 20, 3) := dk_167 0 20 (dk_at dksX3_isNumber_2 13 rfl rfl)
theorem dX3_isNumber_63 : decode cX3_isNumber 63 = .ok (.bipush 10, 2) := dk_16 10 (dk_at dksX3_isNumber_2 16 rfl rfl)
theorem dX3_isNumber_65 : decode cX3_isNumber 65 = .ok (.aload_n 0, 1) := dk_42 (dk_at dksX3_isNumber_2 18 rfl rfl)
theorem dX3_isNumber_66 : decode cX3_isNumber 66 = .ok (.getfield 360, 3) := dk_180 1 104 (dk_at dksX3_isNumber_2 19 rfl rfl)
theorem dX3_isNumber_69 : decode cX3_isNumber 69 = .ok (.imul, 1) := dk_104 (dk_at dksX3_isNumber_2 22 rfl rfl)
theorem dX3_isNumber_70 : decode cX3_isNumber 70 = .ok (.aload_n 0, 1) := dk_42 (dk_at dksX3_isNumber_2 23 rfl rfl)
theorem dX3_isNumber_71 : decode cX3_isNumber 71 = .ok (.getfield 121, 3) := dk_180 0 121 (dk_at dksX3_isNumber_3 0 rfl rfl)
theorem dX3_isNumber_74 : decode cX3_isNumber 74 = .ok (.iload_n 1, 1) := dk_27 (dk_at dksX3_isNumber_3 3 rfl rfl)
theorem dX3_isNumber_75 : decode cX3_isNumber 75 = .ok (.baload, 1) := dk_51 (dk_at dksX3_isNumber_3 4 rfl rfl)
theorem dX3_isNumber_76 : decode cX3_isNumber 76 = .ok (.iadd, 1) := dk_96 (dk_at dksX3_isNumber_3 5 rfl rfl)
theorem dX3_isNumber_77 : decode cX3_isNumber 77 = .ok (.bipush 48, 2) := dk_16 48 (dk_at dksX3_isNumber_3 6 rfl rfl)
theorem dX3_isNumber_79 : decode cX3_isNumber 79 = .ok (.isub, 1) := dk_100 (dk_at dksX3_isNumber_3 8 rfl rfl)
theorem dX3_isNumber_80 : decode cX3_isNumber 80 = .ok (.putfield 360, 3) := dk_181 1 104 (dk_at dksX3_isNumber_3 9 rfl rfl)
theorem dX3_isNumber_83 : decode cX3_isNumber 83 = .ok (.iinc 1 1, 3) := dk_132 1 1 (dk_at dksX3_isNumber_3 12 rfl rfl)
theorem dX3_isNumber_86 : decode cX3_isNumber 86 = .ok (.goto (-48), 3) := dk_167 255 208 (dk_at dksX3_isNumber_3 15 rfl rfl)
theorem dX3_isNumber_89 : decode cX3_isNumber 89 = .ok (.iconst 1, 1) := dk_4 (dk_at dksX3_isNumber_3 18 rfl rfl)
theorem dX3_isNumber_90 : decode cX3_isNumber 90 = .ok (.ireturn, 1) := dk_172 (dk_at dksX3_isNumber_3 19 rfl rfl)
abbrev cX3_puts : ByteArray := prog_14_method_27_code
def yX3_puts : MethodName := ⟨RX3, "puts", "(II)Z"⟩
def dkwX3_puts_2 : List UInt8 := [96, 181, 1, 101, 4, 172]
abbrev dktX3_puts_2 : List UInt8 := dkwX3_puts_2 ++ []
def dkwX3_puts_1 : List UInt8 := [16, 8, 50, 42, 180, 1, 98, 50, 5, 42, 180, 1, 101, 104, 4, 96, 28, 79, 42, 89, 180, 1, 101, 4]
abbrev dktX3_puts_1 : List UInt8 := dkwX3_puts_1 ++ dktX3_puts_2
def dkwX3_puts_0 : List UInt8 := [42, 180, 0, 127, 16, 8, 50, 42, 180, 1, 98, 50, 5, 42, 180, 1, 101, 104, 27, 79, 42, 180, 0, 127]
abbrev dktX3_puts_0 : List UInt8 := dkwX3_puts_0 ++ dktX3_puts_1
theorem dksX3_puts_0 : cX3_puts.data.toList.drop 0 = dktX3_puts_0 := by decide +kernel
theorem dksX3_puts_1 : cX3_puts.data.toList.drop 24 = dktX3_puts_1 := dk_seg dksX3_puts_0 24 rfl rfl
theorem dksX3_puts_2 : cX3_puts.data.toList.drop 48 = dktX3_puts_2 := dk_seg dksX3_puts_1 24 rfl rfl
theorem dX3_puts_0 : decode cX3_puts 0 = .ok (.aload_n 0, 1) := dk_42 (dk_at dksX3_puts_0 0 rfl rfl)
theorem dX3_puts_1 : decode cX3_puts 1 = .ok (.getfield 127, 3) := dk_180 0 127 (dk_at dksX3_puts_0 1 rfl rfl)
theorem dX3_puts_4 : decode cX3_puts 4 = .ok (.bipush 8, 2) := dk_16 8 (dk_at dksX3_puts_0 4 rfl rfl)
theorem dX3_puts_6 : decode cX3_puts 6 = .ok (.aaload, 1) := dk_50 (dk_at dksX3_puts_0 6 rfl rfl)
theorem dX3_puts_7 : decode cX3_puts 7 = .ok (.aload_n 0, 1) := dk_42 (dk_at dksX3_puts_0 7 rfl rfl)
theorem dX3_puts_8 : decode cX3_puts 8 = .ok (.getfield 354, 3) := dk_180 1 98 (dk_at dksX3_puts_0 8 rfl rfl)
theorem dX3_puts_11 : decode cX3_puts 11 = .ok (.aaload, 1) := dk_50 (dk_at dksX3_puts_0 11 rfl rfl)
theorem dX3_puts_12 : decode cX3_puts 12 = .ok (.iconst 2, 1) := dk_5 (dk_at dksX3_puts_0 12 rfl rfl)
theorem dX3_puts_13 : decode cX3_puts 13 = .ok (.aload_n 0, 1) := dk_42 (dk_at dksX3_puts_0 13 rfl rfl)
theorem dX3_puts_14 : decode cX3_puts 14 = .ok (.getfield 357, 3) := dk_180 1 101 (dk_at dksX3_puts_0 14 rfl rfl)
theorem dX3_puts_17 : decode cX3_puts 17 = .ok (.imul, 1) := dk_104 (dk_at dksX3_puts_0 17 rfl rfl)
theorem dX3_puts_18 : decode cX3_puts 18 = .ok (.iload_n 1, 1) := dk_27 (dk_at dksX3_puts_0 18 rfl rfl)
theorem dX3_puts_19 : decode cX3_puts 19 = .ok (.iastore, 1) := dk_79 (dk_at dksX3_puts_0 19 rfl rfl)
theorem dX3_puts_20 : decode cX3_puts 20 = .ok (.aload_n 0, 1) := dk_42 (dk_at dksX3_puts_0 20 rfl rfl)
theorem dX3_puts_21 : decode cX3_puts 21 = .ok (.getfield 127, 3) := dk_180 0 127 (dk_at dksX3_puts_0 21 rfl rfl)
theorem dX3_puts_24 : decode cX3_puts 24 = .ok (.bipush 8, 2) := dk_16 8 (dk_at dksX3_puts_1 0 rfl rfl)
theorem dX3_puts_26 : decode cX3_puts 26 = .ok (.aaload, 1) := dk_50 (dk_at dksX3_puts_1 2 rfl rfl)
theorem dX3_puts_27 : decode cX3_puts 27 = .ok (.aload_n 0, 1) := dk_42 (dk_at dksX3_puts_1 3 rfl rfl)
theorem dX3_puts_28 : decode cX3_puts 28 = .ok (.getfield 354, 3) := dk_180 1 98 (dk_at dksX3_puts_1 4 rfl rfl)
theorem dX3_puts_31 : decode cX3_puts 31 = .ok (.aaload, 1) := dk_50 (dk_at dksX3_puts_1 7 rfl rfl)
theorem dX3_puts_32 : decode cX3_puts 32 = .ok (.iconst 2, 1) := dk_5 (dk_at dksX3_puts_1 8 rfl rfl)
theorem dX3_puts_33 : decode cX3_puts 33 = .ok (.aload_n 0, 1) := dk_42 (dk_at dksX3_puts_1 9 rfl rfl)
theorem dX3_puts_34 : decode cX3_puts 34 = .ok (.getfield 357, 3) := dk_180 1 101 (dk_at dksX3_puts_1 10 rfl rfl)
theorem dX3_puts_37 : decode cX3_puts 37 = .ok (.imul, 1) := dk_104 (dk_at dksX3_puts_1 13 rfl rfl)
theorem dX3_puts_38 : decode cX3_puts 38 = .ok (.iconst 1, 1) := dk_4 (dk_at dksX3_puts_1 14 rfl rfl)
theorem dX3_puts_39 : decode cX3_puts 39 = .ok (.iadd, 1) := dk_96 (dk_at dksX3_puts_1 15 rfl rfl)
theorem dX3_puts_40 : decode cX3_puts 40 = .ok (.iload_n 2, 1) := dk_28 (dk_at dksX3_puts_1 16 rfl rfl)
theorem dX3_puts_41 : decode cX3_puts 41 = .ok (.iastore, 1) := dk_79 (dk_at dksX3_puts_1 17 rfl rfl)
theorem dX3_puts_42 : decode cX3_puts 42 = .ok (.aload_n 0, 1) := dk_42 (dk_at dksX3_puts_1 18 rfl rfl)
theorem dX3_puts_43 : decode cX3_puts 43 = .ok (.dup, 1) := dk_89 (dk_at dksX3_puts_1 19 rfl rfl)
theorem dX3_puts_44 : decode cX3_puts 44 = .ok (.getfield 357, 3) := dk_180 1 101 (dk_at dksX3_puts_1 20 rfl rfl)
theorem dX3_puts_47 : decode cX3_puts 47 = .ok (.iconst 1, 1) := dk_4 (dk_at dksX3_puts_1 23 rfl rfl)
theorem dX3_puts_48 : decode cX3_puts 48 = .ok (.iadd, 1) := dk_96 (dk_at dksX3_puts_2 0 rfl rfl)
theorem dX3_puts_49 : decode cX3_puts 49 = .ok (.putfield 357, 3) := dk_181 1 101 (dk_at dksX3_puts_2 1 rfl rfl)
theorem dX3_puts_52 : decode cX3_puts 52 = .ok (.iconst 1, 1) := dk_4 (dk_at dksX3_puts_2 4 rfl rfl)
theorem dX3_puts_53 : decode cX3_puts 53 = .ok (.ireturn, 1) := dk_172 (dk_at dksX3_puts_2 5 rfl rfl)
abbrev cX3_either : ByteArray := prog_14_method_34_code
def yX3_either : MethodName := ⟨RX3, "either", "(I)Z"⟩
def dkwX3_either_1 : List UInt8 := [42, 27, 182, 1, 146, 154, 0, 5, 3, 172, 42, 16, 124, 3, 182, 1, 122, 87, 167, 255, 224, 4, 172]
abbrev dktX3_either_1 : List UInt8 := dkwX3_either_1 ++ []
def dkwX3_either_0 : List UInt8 := [42, 27, 182, 1, 146, 154, 0, 5, 3, 172, 42, 19, 1, 149, 182, 1, 126, 153, 0, 28, 42, 182, 1, 95]
abbrev dktX3_either_0 : List UInt8 := dkwX3_either_0 ++ dktX3_either_1
theorem dksX3_either_0 : cX3_either.data.toList.drop 0 = dktX3_either_0 := by decide +kernel
theorem dksX3_either_1 : cX3_either.data.toList.drop 24 = dktX3_either_1 := dk_seg dksX3_either_0 24 rfl rfl
theorem dX3_either_0 : decode cX3_either 0 = .ok (.aload_n 0, 1) := dk_42 (dk_at dksX3_either_0 0 rfl rfl)
theorem dX3_either_1 : decode cX3_either 1 = .ok (.iload_n 1, 1) := dk_27 (dk_at dksX3_either_0 1 rfl rfl)
theorem dX3_either_2 : decode cX3_either 2 = .ok (.invokevirtual 402, 3) := dk_182 1 146 (dk_at dksX3_either_0 2 rfl rfl)
theorem dX3_either_5 : decode cX3_either 5 = .ok (.ifCond .ne 5, 3) := dk_154 0 5 (dk_at dksX3_either_0 5 rfl rfl)
theorem dX3_either_8 : decode cX3_either 8 = .ok (.iconst 0, 1) := dk_3 (dk_at dksX3_either_0 8 rfl rfl)
theorem dX3_either_9 : decode cX3_either 9 = .ok (.ireturn, 1) := dk_172 (dk_at dksX3_either_0 9 rfl rfl)
theorem dX3_either_10 : decode cX3_either 10 = .ok (.aload_n 0, 1) := dk_42 (dk_at dksX3_either_0 10 rfl rfl)
theorem dX3_either_11 : decode cX3_either 11 = .ok (.ldc_w 405, 3) := dk_19 1 149 (dk_at dksX3_either_0 11 rfl rfl)
theorem dX3_either_14 : decode cX3_either 14 = .ok (.invokevirtual 382, 3) := dk_182 1 126 (dk_at dksX3_either_0 14 rfl rfl)
theorem dX3_either_17 : decode cX3_either 17 = .ok (.ifCond .eq 28, 3) := dk_153 0 28 (dk_at dksX3_either_0 17 rfl rfl)
theorem dX3_either_20 : decode cX3_either 20 = .ok (.aload_n 0, 1) := dk_42 (dk_at dksX3_either_0 20 rfl rfl)
theorem dX3_either_21 : decode cX3_either 21 = .ok (.invokevirtual 351, 3) := dk_182 1 95 (dk_at dksX3_either_0 21 rfl rfl)
theorem dX3_either_24 : decode cX3_either 24 = .ok (.aload_n 0, 1) := dk_42 (dk_at dksX3_either_1 0 rfl rfl)
theorem dX3_either_25 : decode cX3_either 25 = .ok (.iload_n 1, 1) := dk_27 (dk_at dksX3_either_1 1 rfl rfl)
theorem dX3_either_26 : decode cX3_either 26 = .ok (.invokevirtual 402, 3) := dk_182 1 146 (dk_at dksX3_either_1 2 rfl rfl)
theorem dX3_either_29 : decode cX3_either 29 = .ok (.ifCond .ne 5, 3) := dk_154 0 5 (dk_at dksX3_either_1 5 rfl rfl)
theorem dX3_either_32 : decode cX3_either 32 = .ok (.iconst 0, 1) := dk_3 (dk_at dksX3_either_1 8 rfl rfl)
theorem dX3_either_33 : decode cX3_either 33 = .ok (.ireturn, 1) := dk_172 (dk_at dksX3_either_1 9 rfl rfl)
theorem dX3_either_34 : decode cX3_either 34 = .ok (.aload_n 0, 1) := dk_42 (dk_at dksX3_either_1 10 rfl rfl)
theorem dX3_either_35 : decode cX3_either 35 = .ok (.bipush 124, 2) := dk_16 124 (dk_at dksX3_either_1 11 rfl rfl)
theorem dX3_either_37 : decode cX3_either 37 = .ok (.iconst 0, 1) := dk_3 (dk_at dksX3_either_1 13 rfl rfl)
theorem dX3_either_38 : decode cX3_either 38 = .ok (.invokevirtual 378, 3) := dk_182 1 122 (dk_at dksX3_either_1 14 rfl rfl)
theorem dX3_either_41 : decode cX3_either 41 = .ok (.pop, 1) := dk_87 (dk_at dksX3_either_1 17 rfl rfl)
theorem dX3_either_42 : decode cX3_either 42 = .ok (.goto (-32), 3) := dk_167 255 224 (dk_at dksX3_either_1 18 rfl rfl)
theorem dX3_either_45 : decode cX3_either 45 = .ok (.iconst 1, 1) := dk_4 (dk_at dksX3_either_1 21 rfl rfl)
theorem dX3_either_46 : decode cX3_either 46 = .ok (.ireturn, 1) := dk_172 (dk_at dksX3_either_1 22 rfl rfl)
abbrev cX3_each : ByteArray := prog_14_method_33_code
def yX3_each : MethodName := ⟨RX3, "each", "(I)Z"⟩
def dkwX3_each_1 : List UInt8 := [42, 27, 182, 1, 138, 154, 0, 5, 3, 172, 42, 16, 38, 3, 182, 1, 122, 87, 167, 255, 224, 4, 172]
abbrev dktX3_each_1 : List UInt8 := dkwX3_each_1 ++ []
def dkwX3_each_0 : List UInt8 := [42, 27, 182, 1, 138, 154, 0, 5, 3, 172, 42, 19, 1, 144, 182, 1, 126, 153, 0, 28, 42, 182, 1, 95]
abbrev dktX3_each_0 : List UInt8 := dkwX3_each_0 ++ dktX3_each_1
theorem dksX3_each_0 : cX3_each.data.toList.drop 0 = dktX3_each_0 := by decide +kernel
theorem dksX3_each_1 : cX3_each.data.toList.drop 24 = dktX3_each_1 := dk_seg dksX3_each_0 24 rfl rfl
theorem dX3_each_0 : decode cX3_each 0 = .ok (.aload_n 0, 1) := dk_42 (dk_at dksX3_each_0 0 rfl rfl)
theorem dX3_each_1 : decode cX3_each 1 = .ok (.iload_n 1, 1) := dk_27 (dk_at dksX3_each_0 1 rfl rfl)
theorem dX3_each_2 : decode cX3_each 2 = .ok (.invokevirtual 394, 3) := dk_182 1 138 (dk_at dksX3_each_0 2 rfl rfl)
theorem dX3_each_5 : decode cX3_each 5 = .ok (.ifCond .ne 5, 3) := dk_154 0 5 (dk_at dksX3_each_0 5 rfl rfl)
theorem dX3_each_8 : decode cX3_each 8 = .ok (.iconst 0, 1) := dk_3 (dk_at dksX3_each_0 8 rfl rfl)
theorem dX3_each_9 : decode cX3_each 9 = .ok (.ireturn, 1) := dk_172 (dk_at dksX3_each_0 9 rfl rfl)
theorem dX3_each_10 : decode cX3_each 10 = .ok (.aload_n 0, 1) := dk_42 (dk_at dksX3_each_0 10 rfl rfl)
theorem dX3_each_11 : decode cX3_each 11 = .ok (.ldc_w 400, 3) := dk_19 1 144 (dk_at dksX3_each_0 11 rfl rfl)
theorem dX3_each_14 : decode cX3_each 14 = .ok (.invokevirtual 382, 3) := dk_182 1 126 (dk_at dksX3_each_0 14 rfl rfl)
theorem dX3_each_17 : decode cX3_each 17 = .ok (.ifCond .eq 28, 3) := dk_153 0 28 (dk_at dksX3_each_0 17 rfl rfl)
theorem dX3_each_20 : decode cX3_each 20 = .ok (.aload_n 0, 1) := dk_42 (dk_at dksX3_each_0 20 rfl rfl)
theorem dX3_each_21 : decode cX3_each 21 = .ok (.invokevirtual 351, 3) := dk_182 1 95 (dk_at dksX3_each_0 21 rfl rfl)
theorem dX3_each_24 : decode cX3_each 24 = .ok (.aload_n 0, 1) := dk_42 (dk_at dksX3_each_1 0 rfl rfl)
theorem dX3_each_25 : decode cX3_each 25 = .ok (.iload_n 1, 1) := dk_27 (dk_at dksX3_each_1 1 rfl rfl)
theorem dX3_each_26 : decode cX3_each 26 = .ok (.invokevirtual 394, 3) := dk_182 1 138 (dk_at dksX3_each_1 2 rfl rfl)
theorem dX3_each_29 : decode cX3_each 29 = .ok (.ifCond .ne 5, 3) := dk_154 0 5 (dk_at dksX3_each_1 5 rfl rfl)
theorem dX3_each_32 : decode cX3_each 32 = .ok (.iconst 0, 1) := dk_3 (dk_at dksX3_each_1 8 rfl rfl)
theorem dX3_each_33 : decode cX3_each 33 = .ok (.ireturn, 1) := dk_172 (dk_at dksX3_each_1 9 rfl rfl)
theorem dX3_each_34 : decode cX3_each 34 = .ok (.aload_n 0, 1) := dk_42 (dk_at dksX3_each_1 10 rfl rfl)
theorem dX3_each_35 : decode cX3_each 35 = .ok (.bipush 38, 2) := dk_16 38 (dk_at dksX3_each_1 11 rfl rfl)
theorem dX3_each_37 : decode cX3_each 37 = .ok (.iconst 0, 1) := dk_3 (dk_at dksX3_each_1 13 rfl rfl)
theorem dX3_each_38 : decode cX3_each 38 = .ok (.invokevirtual 378, 3) := dk_182 1 122 (dk_at dksX3_each_1 14 rfl rfl)
theorem dX3_each_41 : decode cX3_each 41 = .ok (.pop, 1) := dk_87 (dk_at dksX3_each_1 17 rfl rfl)
theorem dX3_each_42 : decode cX3_each 42 = .ok (.goto (-32), 3) := dk_167 255 224 (dk_at dksX3_each_1 18 rfl rfl)
theorem dX3_each_45 : decode cX3_each 45 = .ok (.iconst 1, 1) := dk_4 (dk_at dksX3_each_1 21 rfl rfl)
theorem dX3_each_46 : decode cX3_each 46 = .ok (.ireturn, 1) := dk_172 (dk_at dksX3_each_1 22 rfl rfl)
abbrev cX3_test : ByteArray := prog_14_method_32_code
def yX3_test : MethodName := ⟨RX3, "test", "(I)Z"⟩
def dkwX3_test_8 : List UInt8 := [3, 172]
abbrev dktX3_test_8 : List UInt8 := dkwX3_test_8 ++ []
def dkwX3_test_7 : List UInt8 := [182, 1, 95, 42, 27, 182, 1, 116, 153, 0, 16, 42, 28, 3, 182, 1, 122, 153, 0, 7, 4, 167, 0, 4]
abbrev dktX3_test_7 : List UInt8 := dkwX3_test_7 ++ dktX3_test_8
def dkwX3_test_6 : List UInt8 := [16, 61, 182, 1, 109, 154, 0, 8, 42, 182, 1, 91, 172, 42, 180, 0, 121, 42, 180, 1, 65, 51, 61, 42]
abbrev dktX3_test_6 : List UInt8 := dkwX3_test_6 ++ dktX3_test_7
def dkwX3_test_5 : List UInt8 := [154, 0, 5, 3, 172, 42, 16, 60, 182, 1, 109, 154, 0, 26, 42, 16, 62, 182, 1, 109, 154, 0, 17, 42]
abbrev dktX3_test_5 : List UInt8 := dkwX3_test_5 ++ dktX3_test_6
def dkwX3_test_4 : List UInt8 := [42, 42, 16, 93, 182, 1, 109, 182, 1, 112, 153, 0, 7, 4, 167, 0, 4, 3, 172, 42, 27, 182, 1, 116]
abbrev dktX3_test_4 : List UInt8 := dkwX3_test_4 ++ dktX3_test_5
def dkwX3_test_3 : List UInt8 := [162, 0, 7, 4, 167, 0, 4, 3, 182, 1, 112, 153, 0, 30, 42, 27, 4, 96, 182, 1, 141, 153, 0, 20]
abbrev dktX3_test_3 : List UInt8 := dkwX3_test_3 ++ dktX3_test_4
def dkwX3_test_2 : List UInt8 := [153, 0, 7, 4, 167, 0, 4, 3, 172, 42, 16, 91, 182, 1, 109, 153, 0, 50, 42, 27, 16, 8]
abbrev dktX3_test_2 : List UInt8 := dkwX3_test_2 ++ dktX3_test_3
def dkwX3_test_1 : List UInt8 := [182, 1, 112, 153, 0, 27, 42, 27, 4, 96, 182, 1, 138, 153, 0, 17, 42, 16, 33, 3, 182, 1, 122]
abbrev dktX3_test_1 : List UInt8 := dkwX3_test_1 ++ dktX3_test_2
def dkwX3_test_0 : List UInt8 := [42, 19, 1, 136, 182, 1, 126, 153, 0, 47, 42, 27, 16, 8, 162, 0, 7, 4, 167, 0, 4, 3]
abbrev dktX3_test_0 : List UInt8 := dkwX3_test_0 ++ dktX3_test_1
theorem dksX3_test_0 : cX3_test.data.toList.drop 0 = dktX3_test_0 := by decide +kernel
theorem dksX3_test_1 : cX3_test.data.toList.drop 22 = dktX3_test_1 := dk_seg dksX3_test_0 22 rfl rfl
theorem dksX3_test_2 : cX3_test.data.toList.drop 45 = dktX3_test_2 := dk_seg dksX3_test_1 23 rfl rfl
theorem dksX3_test_3 : cX3_test.data.toList.drop 67 = dktX3_test_3 := dk_seg dksX3_test_2 22 rfl rfl
theorem dksX3_test_4 : cX3_test.data.toList.drop 91 = dktX3_test_4 := dk_seg dksX3_test_3 24 rfl rfl
theorem dksX3_test_5 : cX3_test.data.toList.drop 115 = dktX3_test_5 := dk_seg dksX3_test_4 24 rfl rfl
theorem dksX3_test_6 : cX3_test.data.toList.drop 139 = dktX3_test_6 := dk_seg dksX3_test_5 24 rfl rfl
theorem dksX3_test_7 : cX3_test.data.toList.drop 163 = dktX3_test_7 := dk_seg dksX3_test_6 24 rfl rfl
theorem dksX3_test_8 : cX3_test.data.toList.drop 187 = dktX3_test_8 := dk_seg dksX3_test_7 24 rfl rfl
theorem dX3_test_0 : decode cX3_test 0 = .ok (.aload_n 0, 1) := dk_42 (dk_at dksX3_test_0 0 rfl rfl)
theorem dX3_test_1 : decode cX3_test 1 = .ok (.ldc_w 392, 3) := dk_19 1 136 (dk_at dksX3_test_0 1 rfl rfl)
theorem dX3_test_4 : decode cX3_test 4 = .ok (.invokevirtual 382, 3) := dk_182 1 126 (dk_at dksX3_test_0 4 rfl rfl)
theorem dX3_test_7 : decode cX3_test 7 = .ok (.ifCond .eq 47, 3) := dk_153 0 47 (dk_at dksX3_test_0 7 rfl rfl)
theorem dX3_test_10 : decode cX3_test 10 = .ok (.aload_n 0, 1) := dk_42 (dk_at dksX3_test_0 10 rfl rfl)
theorem dX3_test_11 : decode cX3_test 11 = .ok (.iload_n 1, 1) := dk_27 (dk_at dksX3_test_0 11 rfl rfl)
theorem dX3_test_12 : decode cX3_test 12 = .ok (.bipush 8, 2) := dk_16 8 (dk_at dksX3_test_0 12 rfl rfl)
theorem dX3_test_14 : decode cX3_test 14 = .ok (.if_icmp .ge 7, 3) := dk_162 0 7 (dk_at dksX3_test_0 14 rfl rfl)
theorem dX3_test_17 : decode cX3_test 17 = .ok (.iconst 1, 1) := dk_4 (dk_at dksX3_test_0 17 rfl rfl)
theorem dX3_test_18 : decode cX3_test 18 = .ok (.goto 4, 3) := dk_167 0 4 (dk_at dksX3_test_0 18 rfl rfl)
theorem dX3_test_21 : decode cX3_test 21 = .ok (.iconst 0, 1) := dk_3 (dk_at dksX3_test_0 21 rfl rfl)
theorem dX3_test_22 : decode cX3_test 22 = .ok (.invokevirtual 368, 3) := dk_182 1 112 (dk_at dksX3_test_1 0 rfl rfl)
theorem dX3_test_25 : decode cX3_test 25 = .ok (.ifCond .eq 27, 3) := dk_153 0 27 (dk_at dksX3_test_1 3 rfl rfl)
theorem dX3_test_28 : decode cX3_test 28 = .ok (.aload_n 0, 1) := dk_42 (dk_at dksX3_test_1 6 rfl rfl)
theorem dX3_test_29 : decode cX3_test 29 = .ok (.iload_n 1, 1) := dk_27 (dk_at dksX3_test_1 7 rfl rfl)
theorem dX3_test_30 : decode cX3_test 30 = .ok (.iconst 1, 1) := dk_4 (dk_at dksX3_test_1 8 rfl rfl)
theorem dX3_test_31 : decode cX3_test 31 = .ok (.iadd, 1) := dk_96 (dk_at dksX3_test_1 9 rfl rfl)
theorem dX3_test_32 : decode cX3_test 32 = .ok (.invokevirtual 394, 3) := dk_182 1 138 (dk_at dksX3_test_1 10 rfl rfl)
theorem dX3_test_35 : decode cX3_test 35 = .ok (.ifCond .eq 17, 3) := dk_153 0 17 (dk_at dksX3_test_1 13 rfl rfl)
theorem dX3_test_38 : decode cX3_test 38 = .ok (.aload_n 0, 1) := dk_42 (dk_at dksX3_test_1 16 rfl rfl)
theorem dX3_test_39 : decode cX3_test 39 = .ok (.bipush 33, 2) := dk_16 33 (dk_at dksX3_test_1 17 rfl rfl)
theorem dX3_test_41 : decode cX3_test 41 = .ok (.iconst 0, 1) := dk_3 (dk_at dksX3_test_1 19 rfl rfl)
theorem dX3_test_42 : decode cX3_test 42 = .ok (.invokevirtual 378, 3) := dk_182 1 122 (dk_at dksX3_test_1 20 rfl rfl)
theorem dX3_test_45 : decode cX3_test 45 = .ok (.ifCond .eq 7, 3) := dk_153 0 7 (dk_at dksX3_test_2 0 rfl rfl)
theorem dX3_test_48 : decode cX3_test 48 = .ok (.iconst 1, 1) := dk_4 (dk_at dksX3_test_2 3 rfl rfl)
theorem dX3_test_49 : decode cX3_test 49 = .ok (.goto 4, 3) := dk_167 0 4 (dk_at dksX3_test_2 4 rfl rfl)
theorem dX3_test_52 : decode cX3_test 52 = .ok (.iconst 0, 1) := dk_3 (dk_at dksX3_test_2 7 rfl rfl)
theorem dX3_test_53 : decode cX3_test 53 = .ok (.ireturn, 1) := dk_172 (dk_at dksX3_test_2 8 rfl rfl)
theorem dX3_test_54 : decode cX3_test 54 = .ok (.aload_n 0, 1) := dk_42 (dk_at dksX3_test_2 9 rfl rfl)
theorem dX3_test_55 : decode cX3_test 55 = .ok (.bipush 91, 2) := dk_16 91 (dk_at dksX3_test_2 10 rfl rfl)
theorem dX3_test_57 : decode cX3_test 57 = .ok (.invokevirtual 365, 3) := dk_182 1 109 (dk_at dksX3_test_2 12 rfl rfl)
theorem dX3_test_60 : decode cX3_test 60 = .ok (.ifCond .eq 50, 3) := dk_153 0 50 (dk_at dksX3_test_2 15 rfl rfl)
theorem dX3_test_63 : decode cX3_test 63 = .ok (.aload_n 0, 1) := dk_42 (dk_at dksX3_test_2 18 rfl rfl)
theorem dX3_test_64 : decode cX3_test 64 = .ok (.iload_n 1, 1) := dk_27 (dk_at dksX3_test_2 19 rfl rfl)
theorem dX3_test_65 : decode cX3_test 65 = .ok (.bipush 8, 2) := dk_16 8 (dk_at dksX3_test_2 20 rfl rfl)
theorem dX3_test_67 : decode cX3_test 67 = .ok (.if_icmp .ge 7, 3) := dk_162 0 7 (dk_at dksX3_test_3 0 rfl rfl)
theorem dX3_test_70 : decode cX3_test 70 = .ok (.iconst 1, 1) := dk_4 (dk_at dksX3_test_3 3 rfl rfl)
theorem dX3_test_71 : decode cX3_test 71 = .ok (.goto 4, 3) := dk_167 0 4 (dk_at dksX3_test_3 4 rfl rfl)
theorem dX3_test_74 : decode cX3_test 74 = .ok (.iconst 0, 1) := dk_3 (dk_at dksX3_test_3 7 rfl rfl)
theorem dX3_test_75 : decode cX3_test 75 = .ok (.invokevirtual 368, 3) := dk_182 1 112 (dk_at dksX3_test_3 8 rfl rfl)
theorem dX3_test_78 : decode cX3_test 78 = .ok (.ifCond .eq 30, 3) := dk_153 0 30 (dk_at dksX3_test_3 11 rfl rfl)
theorem dX3_test_81 : decode cX3_test 81 = .ok (.aload_n 0, 1) := dk_42 (dk_at dksX3_test_3 14 rfl rfl)
theorem dX3_test_82 : decode cX3_test 82 = .ok (.iload_n 1, 1) := dk_27 (dk_at dksX3_test_3 15 rfl rfl)
theorem dX3_test_83 : decode cX3_test 83 = .ok (.iconst 1, 1) := dk_4 (dk_at dksX3_test_3 16 rfl rfl)
theorem dX3_test_84 : decode cX3_test 84 = .ok (.iadd, 1) := dk_96 (dk_at dksX3_test_3 17 rfl rfl)
theorem dX3_test_85 : decode cX3_test 85 = .ok (.invokevirtual 397, 3) := dk_182 1 141 (dk_at dksX3_test_3 18 rfl rfl)
theorem dX3_test_88 : decode cX3_test 88 = .ok (.ifCond .eq 20, 3) := dk_153 0 20 (dk_at dksX3_test_3 21 rfl rfl)
theorem dX3_test_91 : decode cX3_test 91 = .ok (.aload_n 0, 1) := dk_42 (dk_at dksX3_test_4 0 rfl rfl)
theorem dX3_test_92 : decode cX3_test 92 = .ok (.aload_n 0, 1) := dk_42 (dk_at dksX3_test_4 1 rfl rfl)
theorem dX3_test_93 : decode cX3_test 93 = .ok (.bipush 93, 2) := dk_16 93 (dk_at dksX3_test_4 2 rfl rfl)
theorem dX3_test_95 : decode cX3_test 95 = .ok (.invokevirtual 365, 3) := dk_182 1 109 (dk_at dksX3_test_4 4 rfl rfl)
theorem dX3_test_98 : decode cX3_test 98 = .ok (.invokevirtual 368, 3) := dk_182 1 112 (dk_at dksX3_test_4 7 rfl rfl)
theorem dX3_test_101 : decode cX3_test 101 = .ok (.ifCond .eq 7, 3) := dk_153 0 7 (dk_at dksX3_test_4 10 rfl rfl)
theorem dX3_test_104 : decode cX3_test 104 = .ok (.iconst 1, 1) := dk_4 (dk_at dksX3_test_4 13 rfl rfl)
theorem dX3_test_105 : decode cX3_test 105 = .ok (.goto 4, 3) := dk_167 0 4 (dk_at dksX3_test_4 14 rfl rfl)
theorem dX3_test_108 : decode cX3_test 108 = .ok (.iconst 0, 1) := dk_3 (dk_at dksX3_test_4 17 rfl rfl)
theorem dX3_test_109 : decode cX3_test 109 = .ok (.ireturn, 1) := dk_172 (dk_at dksX3_test_4 18 rfl rfl)
theorem dX3_test_110 : decode cX3_test 110 = .ok (.aload_n 0, 1) := dk_42 (dk_at dksX3_test_4 19 rfl rfl)
theorem dX3_test_111 : decode cX3_test 111 = .ok (.iload_n 1, 1) := dk_27 (dk_at dksX3_test_4 20 rfl rfl)
theorem dX3_test_112 : decode cX3_test 112 = .ok (.invokevirtual 372, 3) := dk_182 1 116 (dk_at dksX3_test_4 21 rfl rfl)
theorem dX3_test_115 : decode cX3_test 115 = .ok (.ifCond .ne 5, 3) := dk_154 0 5 (dk_at dksX3_test_5 0 rfl rfl)
theorem dX3_test_118 : decode cX3_test 118 = .ok (.iconst 0, 1) := dk_3 (dk_at dksX3_test_5 3 rfl rfl)
theorem dX3_test_119 : decode cX3_test 119 = .ok (.ireturn, 1) := dk_172 (dk_at dksX3_test_5 4 rfl rfl)
theorem dX3_test_120 : decode cX3_test 120 = .ok (.aload_n 0, 1) := dk_42 (dk_at dksX3_test_5 5 rfl rfl)
theorem dX3_test_121 : decode cX3_test 121 = .ok (.bipush 60, 2) := dk_16 60 (dk_at dksX3_test_5 6 rfl rfl)
theorem dX3_test_123 : decode cX3_test 123 = .ok (.invokevirtual 365, 3) := dk_182 1 109 (dk_at dksX3_test_5 8 rfl rfl)
theorem dX3_test_126 : decode cX3_test 126 = .ok (.ifCond .ne 26, 3) := dk_154 0 26 (dk_at dksX3_test_5 11 rfl rfl)
theorem dX3_test_129 : decode cX3_test 129 = .ok (.aload_n 0, 1) := dk_42 (dk_at dksX3_test_5 14 rfl rfl)
theorem dX3_test_130 : decode cX3_test 130 = .ok (.bipush 62, 2) := dk_16 62 (dk_at dksX3_test_5 15 rfl rfl)
theorem dX3_test_132 : decode cX3_test 132 = .ok (.invokevirtual 365, 3) := dk_182 1 109 (dk_at dksX3_test_5 17 rfl rfl)
theorem dX3_test_135 : decode cX3_test 135 = .ok (.ifCond .ne 17, 3) := dk_154 0 17 (dk_at dksX3_test_5 20 rfl rfl)
theorem dX3_test_138 : decode cX3_test 138 = .ok (.aload_n 0, 1) := dk_42 (dk_at dksX3_test_5 23 rfl rfl)
theorem dX3_test_139 : decode cX3_test 139 = .ok (.bipush 61, 2) := dk_16 61 (dk_at dksX3_test_6 0 rfl rfl)
theorem dX3_test_141 : decode cX3_test 141 = .ok (.invokevirtual 365, 3) := dk_182 1 109 (dk_at dksX3_test_6 2 rfl rfl)
theorem dX3_test_144 : decode cX3_test 144 = .ok (.ifCond .ne 8, 3) := dk_154 0 8 (dk_at dksX3_test_6 5 rfl rfl)
theorem dX3_test_147 : decode cX3_test 147 = .ok (.aload_n 0, 1) := dk_42 (dk_at dksX3_test_6 8 rfl rfl)
theorem dX3_test_148 : decode cX3_test 148 = .ok (.invokevirtual 347, 3) := dk_182 1 91 (dk_at dksX3_test_6 9 rfl rfl)
theorem dX3_test_151 : decode cX3_test 151 = .ok (.ireturn, 1) := dk_172 (dk_at dksX3_test_6 12 rfl rfl)
theorem dX3_test_152 : decode cX3_test 152 = .ok (.aload_n 0, 1) := dk_42 (dk_at dksX3_test_6 13 rfl rfl)
theorem dX3_test_153 : decode cX3_test 153 = .ok (.getfield 121, 3) := dk_180 0 121 (dk_at dksX3_test_6 14 rfl rfl)
theorem dX3_test_156 : decode cX3_test 156 = .ok (.aload_n 0, 1) := dk_42 (dk_at dksX3_test_6 17 rfl rfl)
theorem dX3_test_157 : decode cX3_test 157 = .ok (.getfield 321, 3) := dk_180 1 65 (dk_at dksX3_test_6 18 rfl rfl)
theorem dX3_test_160 : decode cX3_test 160 = .ok (.baload, 1) := dk_51 (dk_at dksX3_test_6 21 rfl rfl)
theorem dX3_test_161 : decode cX3_test 161 = .ok (.istore_n 2, 1) := dk_61 (dk_at dksX3_test_6 22 rfl rfl)
theorem dX3_test_162 : decode cX3_test 162 = .ok (.aload_n 0, 1) := dk_42 (dk_at dksX3_test_6 23 rfl rfl)
theorem dX3_test_163 : decode cX3_test 163 = .ok (.invokevirtual 351, 3) := dk_182 1 95 (dk_at dksX3_test_7 0 rfl rfl)
theorem dX3_test_166 : decode cX3_test 166 = .ok (.aload_n 0, 1) := dk_42 (dk_at dksX3_test_7 3 rfl rfl)
theorem dX3_test_167 : decode cX3_test 167 = .ok (.iload_n 1, 1) := dk_27 (dk_at dksX3_test_7 4 rfl rfl)
theorem dX3_test_168 : decode cX3_test 168 = .ok (.invokevirtual 372, 3) := dk_182 1 116 (dk_at dksX3_test_7 5 rfl rfl)
theorem dX3_test_171 : decode cX3_test 171 = .ok (.ifCond .eq 16, 3) := dk_153 0 16 (dk_at dksX3_test_7 8 rfl rfl)
theorem dX3_test_174 : decode cX3_test 174 = .ok (.aload_n 0, 1) := dk_42 (dk_at dksX3_test_7 11 rfl rfl)
theorem dX3_test_175 : decode cX3_test 175 = .ok (.iload_n 2, 1) := dk_28 (dk_at dksX3_test_7 12 rfl rfl)
theorem dX3_test_176 : decode cX3_test 176 = .ok (.iconst 0, 1) := dk_3 (dk_at dksX3_test_7 13 rfl rfl)
theorem dX3_test_177 : decode cX3_test 177 = .ok (.invokevirtual 378, 3) := dk_182 1 122 (dk_at dksX3_test_7 14 rfl rfl)
theorem dX3_test_180 : decode cX3_test 180 = .ok (.ifCond .eq 7, 3) := dk_153 0 7 (dk_at dksX3_test_7 17 rfl rfl)
theorem dX3_test_183 : decode cX3_test 183 = .ok (.iconst 1, 1) := dk_4 (dk_at dksX3_test_7 20 rfl rfl)
theorem dX3_test_184 : decode cX3_test 184 = .ok (.goto 4, 3) := dk_167 0 4 (dk_at dksX3_test_7 21 rfl rfl)
theorem dX3_test_187 : decode cX3_test 187 = .ok (.iconst 0, 1) := dk_3 (dk_at dksX3_test_8 0 rfl rfl)
theorem dX3_test_188 : decode cX3_test 188 = .ok (.ireturn, 1) := dk_172 (dk_at dksX3_test_8 1 rfl rfl)
abbrev cX3_sheet : ByteArray := prog_14_method_38_code
def yX3_sheet : MethodName := ⟨RX3, "sheet", "()I"⟩
def dkwX3_sheet_5 : List UInt8 := [181, 1, 157, 42, 180, 1, 157, 4, 100, 172]
abbrev dktX3_sheet_5 : List UInt8 := dkwX3_sheet_5 ++ []
def dkwX3_sheet_4 : List UInt8 := [28, 46, 79, 132, 2, 1, 167, 255, 214, 132, 1, 1, 167, 255, 181, 42, 89, 180, 1, 157, 4, 96]
abbrev dktX3_sheet_4 : List UInt8 := dkwX3_sheet_4 ++ dktX3_sheet_5
def dkwX3_sheet_3 : List UInt8 := [162, 0, 33, 42, 180, 0, 127, 42, 180, 1, 157, 50, 27, 50, 28, 42, 180, 0, 127, 16, 8, 50, 27, 50]
abbrev dktX3_sheet_3 : List UInt8 := dkwX3_sheet_3 ++ dktX3_sheet_4
def dkwX3_sheet_2 : List UInt8 := [180, 0, 130, 16, 8, 50, 27, 46, 79, 3, 61, 28, 5, 42, 180, 0, 130, 16, 8, 50, 27, 46, 104]
abbrev dktX3_sheet_2 : List UInt8 := dkwX3_sheet_2 ++ dktX3_sheet_3
def dkwX3_sheet_1 : List UInt8 := [172, 42, 3, 181, 1, 58, 3, 60, 27, 8, 162, 0, 76, 42, 180, 0, 130, 42, 180, 1, 157, 50, 27, 42]
abbrev dktX3_sheet_1 : List UInt8 := dkwX3_sheet_1 ++ dktX3_sheet_2
def dkwX3_sheet_0 : List UInt8 := [42, 180, 1, 157, 16, 8, 160, 0, 5, 2, 172, 42, 182, 1, 154, 42, 180, 1, 88, 2, 159, 0, 5, 2]
abbrev dktX3_sheet_0 : List UInt8 := dkwX3_sheet_0 ++ dktX3_sheet_1
theorem dksX3_sheet_0 : cX3_sheet.data.toList.drop 0 = dktX3_sheet_0 := by decide +kernel
theorem dksX3_sheet_1 : cX3_sheet.data.toList.drop 24 = dktX3_sheet_1 := dk_seg dksX3_sheet_0 24 rfl rfl
theorem dksX3_sheet_2 : cX3_sheet.data.toList.drop 48 = dktX3_sheet_2 := dk_seg dksX3_sheet_1 24 rfl rfl
theorem dksX3_sheet_3 : cX3_sheet.data.toList.drop 71 = dktX3_sheet_3 := dk_seg dksX3_sheet_2 23 rfl rfl
theorem dksX3_sheet_4 : cX3_sheet.data.toList.drop 95 = dktX3_sheet_4 := dk_seg dksX3_sheet_3 24 rfl rfl
theorem dksX3_sheet_5 : cX3_sheet.data.toList.drop 117 = dktX3_sheet_5 := dk_seg dksX3_sheet_4 22 rfl rfl
theorem dX3_sheet_0 : decode cX3_sheet 0 = .ok (.aload_n 0, 1) := dk_42 (dk_at dksX3_sheet_0 0 rfl rfl)
theorem dX3_sheet_1 : decode cX3_sheet 1 = .ok (.getfield 413, 3) := dk_180 1 157 (dk_at dksX3_sheet_0 1 rfl rfl)
theorem dX3_sheet_4 : decode cX3_sheet 4 = .ok (.bipush 8, 2) := dk_16 8 (dk_at dksX3_sheet_0 4 rfl rfl)
theorem dX3_sheet_6 : decode cX3_sheet 6 = .ok (.if_icmp .ne 5, 3) := dk_160 0 5 (dk_at dksX3_sheet_0 6 rfl rfl)
theorem dX3_sheet_9 : decode cX3_sheet 9 = .ok (.iconst (-1), 1) := dk_2 (dk_at dksX3_sheet_0 9 rfl rfl)
theorem dX3_sheet_10 : decode cX3_sheet 10 = .ok (.ireturn, 1) := dk_172 (dk_at dksX3_sheet_0 10 rfl rfl)
theorem dX3_sheet_11 : decode cX3_sheet 11 = .ok (.aload_n 0, 1) := dk_42 (dk_at dksX3_sheet_0 11 rfl rfl)
theorem dX3_sheet_12 : decode cX3_sheet 12 = .ok (.invokevirtual 410, 3) := dk_182 1 154 (dk_at dksX3_sheet_0 12 rfl rfl)
theorem dX3_sheet_15 : decode cX3_sheet 15 = .ok (.aload_n 0, 1) := dk_42 (dk_at dksX3_sheet_0 15 rfl rfl)
theorem dX3_sheet_16 : decode cX3_sheet 16 = .ok (.getfield 344, 3) := dk_180 1 88 (dk_at dksX3_sheet_0 16 rfl rfl)
theorem dX3_sheet_19 : decode cX3_sheet 19 = .ok (.iconst (-1), 1) := dk_2 (dk_at dksX3_sheet_0 19 rfl rfl)
theorem dX3_sheet_20 : decode cX3_sheet 20 = .ok (.if_icmp .eq 5, 3) := dk_159 0 5 (dk_at dksX3_sheet_0 20 rfl rfl)
theorem dX3_sheet_23 : decode cX3_sheet 23 = .ok (.iconst (-1), 1) := dk_2 (dk_at dksX3_sheet_0 23 rfl rfl)
theorem dX3_sheet_24 : decode cX3_sheet 24 = .ok (.ireturn, 1) := dk_172 (dk_at dksX3_sheet_1 0 rfl rfl)
theorem dX3_sheet_25 : decode cX3_sheet 25 = .ok (.aload_n 0, 1) := dk_42 (dk_at dksX3_sheet_1 1 rfl rfl)
theorem dX3_sheet_26 : decode cX3_sheet 26 = .ok (.iconst 0, 1) := dk_3 (dk_at dksX3_sheet_1 2 rfl rfl)
theorem dX3_sheet_27 : decode cX3_sheet 27 = .ok (.putfield 314, 3) := dk_181 1 58 (dk_at dksX3_sheet_1 3 rfl rfl)
theorem dX3_sheet_30 : decode cX3_sheet 30 = .ok (.iconst 0, 1) := dk_3 (dk_at dksX3_sheet_1 6 rfl rfl)
theorem dX3_sheet_31 : decode cX3_sheet 31 = .ok (.istore_n 1, 1) := dk_60 (dk_at dksX3_sheet_1 7 rfl rfl)
theorem dX3_sheet_32 : decode cX3_sheet 32 = .ok (.iload_n 1, 1) := dk_27 (dk_at dksX3_sheet_1 8 rfl rfl)
theorem dX3_sheet_33 : decode cX3_sheet 33 = .ok (.iconst 5, 1) := dk_8 (dk_at dksX3_sheet_1 9 rfl rfl)
theorem dX3_sheet_34 : decode cX3_sheet 34 = .ok (.if_icmp .ge 76, 3) := dk_162 0 76 (dk_at dksX3_sheet_1 10 rfl rfl)
theorem dX3_sheet_37 : decode cX3_sheet 37 = .ok (.aload_n 0, 1) := dk_42 (dk_at dksX3_sheet_1 13 rfl rfl)
theorem dX3_sheet_38 : decode cX3_sheet 38 = .ok (.getfield 130, 3) := dk_180 0 130 (dk_at dksX3_sheet_1 14 rfl rfl)
theorem dX3_sheet_41 : decode cX3_sheet 41 = .ok (.aload_n 0, 1) := dk_42 (dk_at dksX3_sheet_1 17 rfl rfl)
theorem dX3_sheet_42 : decode cX3_sheet 42 = .ok (.getfield 413, 3) := dk_180 1 157 (dk_at dksX3_sheet_1 18 rfl rfl)
theorem dX3_sheet_45 : decode cX3_sheet 45 = .ok (.aaload, 1) := dk_50 (dk_at dksX3_sheet_1 21 rfl rfl)
theorem dX3_sheet_46 : decode cX3_sheet 46 = .ok (.iload_n 1, 1) := dk_27 (dk_at dksX3_sheet_1 22 rfl rfl)
theorem dX3_sheet_47 : decode cX3_sheet 47 = .ok (.aload_n 0, 1) := dk_42 (dk_at dksX3_sheet_1 23 rfl rfl)
theorem dX3_sheet_48 : decode cX3_sheet 48 = .ok (.getfield 130, 3) := dk_180 0 130 (dk_at dksX3_sheet_2 0 rfl rfl)
theorem dX3_sheet_51 : decode cX3_sheet 51 = .ok (.bipush 8, 2) := dk_16 8 (dk_at dksX3_sheet_2 3 rfl rfl)
theorem dX3_sheet_53 : decode cX3_sheet 53 = .ok (.aaload, 1) := dk_50 (dk_at dksX3_sheet_2 5 rfl rfl)
theorem dX3_sheet_54 : decode cX3_sheet 54 = .ok (.iload_n 1, 1) := dk_27 (dk_at dksX3_sheet_2 6 rfl rfl)
theorem dX3_sheet_55 : decode cX3_sheet 55 = .ok (.iaload, 1) := dk_46 (dk_at dksX3_sheet_2 7 rfl rfl)
theorem dX3_sheet_56 : decode cX3_sheet 56 = .ok (.iastore, 1) := dk_79 (dk_at dksX3_sheet_2 8 rfl rfl)
theorem dX3_sheet_57 : decode cX3_sheet 57 = .ok (.iconst 0, 1) := dk_3 (dk_at dksX3_sheet_2 9 rfl rfl)
theorem dX3_sheet_58 : decode cX3_sheet 58 = .ok (.istore_n 2, 1) := dk_61 (dk_at dksX3_sheet_2 10 rfl rfl)
theorem dX3_sheet_59 : decode cX3_sheet 59 = .ok (.iload_n 2, 1) := dk_28 (dk_at dksX3_sheet_2 11 rfl rfl)
theorem dX3_sheet_60 : decode cX3_sheet 60 = .ok (.iconst 2, 1) := dk_5 (dk_at dksX3_sheet_2 12 rfl rfl)
theorem dX3_sheet_61 : decode cX3_sheet 61 = .ok (.aload_n 0, 1) := dk_42 (dk_at dksX3_sheet_2 13 rfl rfl)
theorem dX3_sheet_62 : decode cX3_sheet 62 = .ok (.getfield 130, 3) := dk_180 0 130 (dk_at dksX3_sheet_2 14 rfl rfl)
theorem dX3_sheet_65 : decode cX3_sheet 65 = .ok (.bipush 8, 2) := dk_16 8 (dk_at dksX3_sheet_2 17 rfl rfl)
theorem dX3_sheet_67 : decode cX3_sheet 67 = .ok (.aaload, 1) := dk_50 (dk_at dksX3_sheet_2 19 rfl rfl)
theorem dX3_sheet_68 : decode cX3_sheet 68 = .ok (.iload_n 1, 1) := dk_27 (dk_at dksX3_sheet_2 20 rfl rfl)
theorem dX3_sheet_69 : decode cX3_sheet 69 = .ok (.iaload, 1) := dk_46 (dk_at dksX3_sheet_2 21 rfl rfl)
theorem dX3_sheet_70 : decode cX3_sheet 70 = .ok (.imul, 1) := dk_104 (dk_at dksX3_sheet_2 22 rfl rfl)
theorem dX3_sheet_71 : decode cX3_sheet 71 = .ok (.if_icmp .ge 33, 3) := dk_162 0 33 (dk_at dksX3_sheet_3 0 rfl rfl)
theorem dX3_sheet_74 : decode cX3_sheet 74 = .ok (.aload_n 0, 1) := dk_42 (dk_at dksX3_sheet_3 3 rfl rfl)
theorem dX3_sheet_75 : decode cX3_sheet 75 = .ok (.getfield 127, 3) := dk_180 0 127 (dk_at dksX3_sheet_3 4 rfl rfl)
theorem dX3_sheet_78 : decode cX3_sheet 78 = .ok (.aload_n 0, 1) := dk_42 (dk_at dksX3_sheet_3 7 rfl rfl)
theorem dX3_sheet_79 : decode cX3_sheet 79 = .ok (.getfield 413, 3) := dk_180 1 157 (dk_at dksX3_sheet_3 8 rfl rfl)
theorem dX3_sheet_82 : decode cX3_sheet 82 = .ok (.aaload, 1) := dk_50 (dk_at dksX3_sheet_3 11 rfl rfl)
theorem dX3_sheet_83 : decode cX3_sheet 83 = .ok (.iload_n 1, 1) := dk_27 (dk_at dksX3_sheet_3 12 rfl rfl)
theorem dX3_sheet_84 : decode cX3_sheet 84 = .ok (.aaload, 1) := dk_50 (dk_at dksX3_sheet_3 13 rfl rfl)
theorem dX3_sheet_85 : decode cX3_sheet 85 = .ok (.iload_n 2, 1) := dk_28 (dk_at dksX3_sheet_3 14 rfl rfl)
theorem dX3_sheet_86 : decode cX3_sheet 86 = .ok (.aload_n 0, 1) := dk_42 (dk_at dksX3_sheet_3 15 rfl rfl)
theorem dX3_sheet_87 : decode cX3_sheet 87 = .ok (.getfield 127, 3) := dk_180 0 127 (dk_at dksX3_sheet_3 16 rfl rfl)
theorem dX3_sheet_90 : decode cX3_sheet 90 = .ok (.bipush 8, 2) := dk_16 8 (dk_at dksX3_sheet_3 19 rfl rfl)
theorem dX3_sheet_92 : decode cX3_sheet 92 = .ok (.aaload, 1) := dk_50 (dk_at dksX3_sheet_3 21 rfl rfl)
theorem dX3_sheet_93 : decode cX3_sheet 93 = .ok (.iload_n 1, 1) := dk_27 (dk_at dksX3_sheet_3 22 rfl rfl)
theorem dX3_sheet_94 : decode cX3_sheet 94 = .ok (.aaload, 1) := dk_50 (dk_at dksX3_sheet_3 23 rfl rfl)
theorem dX3_sheet_95 : decode cX3_sheet 95 = .ok (.iload_n 2, 1) := dk_28 (dk_at dksX3_sheet_4 0 rfl rfl)
theorem dX3_sheet_96 : decode cX3_sheet 96 = .ok (.iaload, 1) := dk_46 (dk_at dksX3_sheet_4 1 rfl rfl)
theorem dX3_sheet_97 : decode cX3_sheet 97 = .ok (.iastore, 1) := dk_79 (dk_at dksX3_sheet_4 2 rfl rfl)
theorem dX3_sheet_98 : decode cX3_sheet 98 = .ok (.iinc 2 1, 3) := dk_132 2 1 (dk_at dksX3_sheet_4 3 rfl rfl)
theorem dX3_sheet_101 : decode cX3_sheet 101 = .ok (.goto (-42), 3) := dk_167 255 214 (dk_at dksX3_sheet_4 6 rfl rfl)
theorem dX3_sheet_104 : decode cX3_sheet 104 = .ok (.iinc 1 1, 3) := dk_132 1 1 (dk_at dksX3_sheet_4 9 rfl rfl)
theorem dX3_sheet_107 : decode cX3_sheet 107 = .ok (.goto (-75), 3) := dk_167 255 181 (dk_at dksX3_sheet_4 12 rfl rfl)
theorem dX3_sheet_110 : decode cX3_sheet 110 = .ok (.aload_n 0, 1) := dk_42 (dk_at dksX3_sheet_4 15 rfl rfl)
theorem dX3_sheet_111 : decode cX3_sheet 111 = .ok (.dup, 1) := dk_89 (dk_at dksX3_sheet_4 16 rfl rfl)
theorem dX3_sheet_112 : decode cX3_sheet 112 = .ok (.getfield 413, 3) := dk_180 1 157 (dk_at dksX3_sheet_4 17 rfl rfl)
theorem dX3_sheet_115 : decode cX3_sheet 115 = .ok (.iconst 1, 1) := dk_4 (dk_at dksX3_sheet_4 20 rfl rfl)
theorem dX3_sheet_116 : decode cX3_sheet 116 = .ok (.iadd, 1) := dk_96 (dk_at dksX3_sheet_4 21 rfl rfl)
theorem dX3_sheet_117 : decode cX3_sheet 117 = .ok (.putfield 413, 3) := dk_181 1 157 (dk_at dksX3_sheet_5 0 rfl rfl)
theorem dX3_sheet_120 : decode cX3_sheet 120 = .ok (.aload_n 0, 1) := dk_42 (dk_at dksX3_sheet_5 3 rfl rfl)
theorem dX3_sheet_121 : decode cX3_sheet 121 = .ok (.getfield 413, 3) := dk_180 1 157 (dk_at dksX3_sheet_5 4 rfl rfl)
theorem dX3_sheet_124 : decode cX3_sheet 124 = .ok (.iconst 1, 1) := dk_4 (dk_at dksX3_sheet_5 7 rfl rfl)
theorem dX3_sheet_125 : decode cX3_sheet 125 = .ok (.isub, 1) := dk_100 (dk_at dksX3_sheet_5 8 rfl rfl)
theorem dX3_sheet_126 : decode cX3_sheet 126 = .ok (.ireturn, 1) := dk_172 (dk_at dksX3_sheet_5 9 rfl rfl)
abbrev cX3_force : ByteArray := prog_14_method_39_code
def yX3_force : MethodName := ⟨RX3, "force", "(II)I"⟩
def dkwX3_force_3 : List UInt8 := [181, 1, 162, 42, 180, 1, 162, 172]
abbrev dktX3_force_3 : List UInt8 := dkwX3_force_3 ++ []
def dkwX3_force_2 : List UInt8 := [42, 180, 1, 162, 27, 79, 42, 180, 0, 136, 42, 180, 1, 162, 28, 79, 42, 89, 180, 1, 162, 4, 96]
abbrev dktX3_force_2 : List UInt8 := dkwX3_force_2 ++ dktX3_force_3
def dkwX3_force_1 : List UInt8 := [20, 1, 160, 184, 1, 18, 153, 0, 12, 42, 180, 1, 162, 16, 12, 160, 0, 5, 2, 172, 42, 180, 0, 133]
abbrev dktX3_force_1 : List UInt8 := dkwX3_force_1 ++ dktX3_force_2
def dkwX3_force_0 : List UInt8 := [27, 133, 9, 42, 180, 1, 157, 4, 100, 133, 184, 1, 18, 153, 0, 28, 28, 133, 42, 180, 1, 30, 133]
abbrev dktX3_force_0 : List UInt8 := dkwX3_force_0 ++ dktX3_force_1
theorem dksX3_force_0 : cX3_force.data.toList.drop 0 = dktX3_force_0 := by decide +kernel
theorem dksX3_force_1 : cX3_force.data.toList.drop 23 = dktX3_force_1 := dk_seg dksX3_force_0 23 rfl rfl
theorem dksX3_force_2 : cX3_force.data.toList.drop 47 = dktX3_force_2 := dk_seg dksX3_force_1 24 rfl rfl
theorem dksX3_force_3 : cX3_force.data.toList.drop 70 = dktX3_force_3 := dk_seg dksX3_force_2 23 rfl rfl
theorem dX3_force_0 : decode cX3_force 0 = .ok (.iload_n 1, 1) := dk_27 (dk_at dksX3_force_0 0 rfl rfl)
theorem dX3_force_1 : decode cX3_force 1 = .ok (.i2l, 1) := dk_133 (dk_at dksX3_force_0 1 rfl rfl)
theorem dX3_force_2 : decode cX3_force 2 = .ok (.lconst 0, 1) := dk_9 (dk_at dksX3_force_0 2 rfl rfl)
theorem dX3_force_3 : decode cX3_force 3 = .ok (.aload_n 0, 1) := dk_42 (dk_at dksX3_force_0 3 rfl rfl)
theorem dX3_force_4 : decode cX3_force 4 = .ok (.getfield 413, 3) := dk_180 1 157 (dk_at dksX3_force_0 4 rfl rfl)
theorem dX3_force_7 : decode cX3_force 7 = .ok (.iconst 1, 1) := dk_4 (dk_at dksX3_force_0 7 rfl rfl)
theorem dX3_force_8 : decode cX3_force 8 = .ok (.isub, 1) := dk_100 (dk_at dksX3_force_0 8 rfl rfl)
theorem dX3_force_9 : decode cX3_force 9 = .ok (.i2l, 1) := dk_133 (dk_at dksX3_force_0 9 rfl rfl)
theorem dX3_force_10 : decode cX3_force 10 = .ok (.invokestatic 274, 3) := dk_184 1 18 (dk_at dksX3_force_0 10 rfl rfl)
theorem dX3_force_13 : decode cX3_force 13 = .ok (.ifCond .eq 28, 3) := dk_153 0 28 (dk_at dksX3_force_0 13 rfl rfl)
theorem dX3_force_16 : decode cX3_force 16 = .ok (.iload_n 2, 1) := dk_28 (dk_at dksX3_force_0 16 rfl rfl)
theorem dX3_force_17 : decode cX3_force 17 = .ok (.i2l, 1) := dk_133 (dk_at dksX3_force_0 17 rfl rfl)
theorem dX3_force_18 : decode cX3_force 18 = .ok (.aload_n 0, 1) := dk_42 (dk_at dksX3_force_0 18 rfl rfl)
theorem dX3_force_19 : decode cX3_force 19 = .ok (.getfield 286, 3) := dk_180 1 30 (dk_at dksX3_force_0 19 rfl rfl)
theorem dX3_force_22 : decode cX3_force 22 = .ok (.i2l, 1) := dk_133 (dk_at dksX3_force_0 22 rfl rfl)
theorem dX3_force_23 : decode cX3_force 23 = .ok (.ldc2_w 416, 3) := dk_20 1 160 (dk_at dksX3_force_1 0 rfl rfl)
theorem dX3_force_26 : decode cX3_force 26 = .ok (.invokestatic 274, 3) := dk_184 1 18 (dk_at dksX3_force_1 3 rfl rfl)
theorem dX3_force_29 : decode cX3_force 29 = .ok (.ifCond .eq 12, 3) := dk_153 0 12 (dk_at dksX3_force_1 6 rfl rfl)
theorem dX3_force_32 : decode cX3_force 32 = .ok (.aload_n 0, 1) := dk_42 (dk_at dksX3_force_1 9 rfl rfl)
theorem dX3_force_33 : decode cX3_force 33 = .ok (.getfield 418, 3) := dk_180 1 162 (dk_at dksX3_force_1 10 rfl rfl)
theorem dX3_force_36 : decode cX3_force 36 = .ok (.bipush 12, 2) := dk_16 12 (dk_at dksX3_force_1 13 rfl rfl)
theorem dX3_force_38 : decode cX3_force 38 = .ok (.if_icmp .ne 5, 3) := dk_160 0 5 (dk_at dksX3_force_1 15 rfl rfl)
theorem dX3_force_41 : decode cX3_force 41 = .ok (.iconst (-1), 1) := dk_2 (dk_at dksX3_force_1 18 rfl rfl)
theorem dX3_force_42 : decode cX3_force 42 = .ok (.ireturn, 1) := dk_172 (dk_at dksX3_force_1 19 rfl rfl)
theorem dX3_force_43 : decode cX3_force 43 = .ok (.aload_n 0, 1) := dk_42 (dk_at dksX3_force_1 20 rfl rfl)
theorem dX3_force_44 : decode cX3_force 44 = .ok (.getfield 133, 3) := dk_180 0 133 (dk_at dksX3_force_1 21 rfl rfl)
theorem dX3_force_47 : decode cX3_force 47 = .ok (.aload_n 0, 1) := dk_42 (dk_at dksX3_force_2 0 rfl rfl)
theorem dX3_force_48 : decode cX3_force 48 = .ok (.getfield 418, 3) := dk_180 1 162 (dk_at dksX3_force_2 1 rfl rfl)
theorem dX3_force_51 : decode cX3_force 51 = .ok (.iload_n 1, 1) := dk_27 (dk_at dksX3_force_2 4 rfl rfl)
theorem dX3_force_52 : decode cX3_force 52 = .ok (.iastore, 1) := dk_79 (dk_at dksX3_force_2 5 rfl rfl)
theorem dX3_force_53 : decode cX3_force 53 = .ok (.aload_n 0, 1) := dk_42 (dk_at dksX3_force_2 6 rfl rfl)
theorem dX3_force_54 : decode cX3_force 54 = .ok (.getfield 136, 3) := dk_180 0 136 (dk_at dksX3_force_2 7 rfl rfl)
theorem dX3_force_57 : decode cX3_force 57 = .ok (.aload_n 0, 1) := dk_42 (dk_at dksX3_force_2 10 rfl rfl)
theorem dX3_force_58 : decode cX3_force 58 = .ok (.getfield 418, 3) := dk_180 1 162 (dk_at dksX3_force_2 11 rfl rfl)
theorem dX3_force_61 : decode cX3_force 61 = .ok (.iload_n 2, 1) := dk_28 (dk_at dksX3_force_2 14 rfl rfl)
theorem dX3_force_62 : decode cX3_force 62 = .ok (.iastore, 1) := dk_79 (dk_at dksX3_force_2 15 rfl rfl)
theorem dX3_force_63 : decode cX3_force 63 = .ok (.aload_n 0, 1) := dk_42 (dk_at dksX3_force_2 16 rfl rfl)
theorem dX3_force_64 : decode cX3_force 64 = .ok (.dup, 1) := dk_89 (dk_at dksX3_force_2 17 rfl rfl)
theorem dX3_force_65 : decode cX3_force 65 = .ok (.getfield 418, 3) := dk_180 1 162 (dk_at dksX3_force_2 18 rfl rfl)
theorem dX3_force_68 : decode cX3_force 68 = .ok (.iconst 1, 1) := dk_4 (dk_at dksX3_force_2 21 rfl rfl)
theorem dX3_force_69 : decode cX3_force 69 = .ok (.iadd, 1) := dk_96 (dk_at dksX3_force_2 22 rfl rfl)
theorem dX3_force_70 : decode cX3_force 70 = .ok (.putfield 418, 3) := dk_181 1 162 (dk_at dksX3_force_3 0 rfl rfl)
theorem dX3_force_73 : decode cX3_force 73 = .ok (.aload_n 0, 1) := dk_42 (dk_at dksX3_force_3 3 rfl rfl)
theorem dX3_force_74 : decode cX3_force 74 = .ok (.getfield 418, 3) := dk_180 1 162 (dk_at dksX3_force_3 4 rfl rfl)
theorem dX3_force_77 : decode cX3_force 77 = .ok (.ireturn, 1) := dk_172 (dk_at dksX3_force_3 7 rfl rfl)
abbrev cX3_why : ByteArray := prog_14_method_41_code
def yX3_why : MethodName := ⟨RX3, "why", "(II)I"⟩
def dkwX3_why_1 : List UInt8 := [42, 27, 28, 182, 1, 165, 167, 0, 4, 2, 172]
abbrev dktX3_why_1 : List UInt8 := dkwX3_why_1 ++ []
def dkwX3_why_0 : List UInt8 := [27, 133, 9, 20, 1, 47, 184, 1, 18, 153, 0, 24, 28, 133, 9, 20, 1, 160, 184, 1, 18, 153, 0, 12]
abbrev dktX3_why_0 : List UInt8 := dkwX3_why_0 ++ dktX3_why_1
theorem dksX3_why_0 : cX3_why.data.toList.drop 0 = dktX3_why_0 := by decide +kernel
theorem dksX3_why_1 : cX3_why.data.toList.drop 24 = dktX3_why_1 := dk_seg dksX3_why_0 24 rfl rfl
theorem dX3_why_0 : decode cX3_why 0 = .ok (.iload_n 1, 1) := dk_27 (dk_at dksX3_why_0 0 rfl rfl)
theorem dX3_why_1 : decode cX3_why 1 = .ok (.i2l, 1) := dk_133 (dk_at dksX3_why_0 1 rfl rfl)
theorem dX3_why_2 : decode cX3_why 2 = .ok (.lconst 0, 1) := dk_9 (dk_at dksX3_why_0 2 rfl rfl)
theorem dX3_why_3 : decode cX3_why 3 = .ok (.ldc2_w 303, 3) := dk_20 1 47 (dk_at dksX3_why_0 3 rfl rfl)
theorem dX3_why_6 : decode cX3_why 6 = .ok (.invokestatic 274, 3) := dk_184 1 18 (dk_at dksX3_why_0 6 rfl rfl)
theorem dX3_why_9 : decode cX3_why 9 = .ok (.ifCond .eq 24, 3) := dk_153 0 24 (dk_at dksX3_why_0 9 rfl rfl)
theorem dX3_why_12 : decode cX3_why 12 = .ok (.iload_n 2, 1) := dk_28 (dk_at dksX3_why_0 12 rfl rfl)
theorem dX3_why_13 : decode cX3_why 13 = .ok (.i2l, 1) := dk_133 (dk_at dksX3_why_0 13 rfl rfl)
theorem dX3_why_14 : decode cX3_why 14 = .ok (.lconst 0, 1) := dk_9 (dk_at dksX3_why_0 14 rfl rfl)
theorem dX3_why_15 : decode cX3_why 15 = .ok (.ldc2_w 416, 3) := dk_20 1 160 (dk_at dksX3_why_0 15 rfl rfl)
theorem dX3_why_18 : decode cX3_why 18 = .ok (.invokestatic 274, 3) := dk_184 1 18 (dk_at dksX3_why_0 18 rfl rfl)
theorem dX3_why_21 : decode cX3_why 21 = .ok (.ifCond .eq 12, 3) := dk_153 0 12 (dk_at dksX3_why_0 21 rfl rfl)
theorem dX3_why_24 : decode cX3_why 24 = .ok (.aload_n 0, 1) := dk_42 (dk_at dksX3_why_1 0 rfl rfl)
theorem dX3_why_25 : decode cX3_why 25 = .ok (.iload_n 1, 1) := dk_27 (dk_at dksX3_why_1 1 rfl rfl)
theorem dX3_why_26 : decode cX3_why 26 = .ok (.iload_n 2, 1) := dk_28 (dk_at dksX3_why_1 2 rfl rfl)
theorem dX3_why_27 : decode cX3_why 27 = .ok (.invokevirtual 421, 3) := dk_182 1 165 (dk_at dksX3_why_1 3 rfl rfl)
theorem dX3_why_30 : decode cX3_why 30 = .ok (.goto 4, 3) := dk_167 0 4 (dk_at dksX3_why_1 6 rfl rfl)
theorem dX3_why_33 : decode cX3_why 33 = .ok (.iconst (-1), 1) := dk_2 (dk_at dksX3_why_1 9 rfl rfl)
theorem dX3_why_34 : decode cX3_why 34 = .ok (.ireturn, 1) := dk_172 (dk_at dksX3_why_1 10 rfl rfl)
abbrev cX3_sheetFor : ByteArray := prog_14_method_40_code
def yX3_sheetFor : MethodName := ⟨RX3, "sheetFor", "(II)I"⟩
def dkwX3_sheetFor_3 : List UInt8 := [132, 4, 1, 167, 255, 192, 29, 2, 160, 0, 7, 2, 167, 0, 9, 42, 180, 0, 133, 29, 46, 172]
abbrev dktX3_sheetFor_3 : List UInt8 := dkwX3_sheetFor_3 ++ []
def dkwX3_sheetFor_2 : List UInt8 := [159, 0, 19, 42, 180, 0, 136, 21, 4, 46, 42, 180, 0, 136, 29, 46, 161, 0, 6, 21, 4, 62]
abbrev dktX3_sheetFor_2 : List UInt8 := dkwX3_sheetFor_2 ++ dktX3_sheetFor_3
def dkwX3_sheetFor_1 : List UInt8 := [163, 0, 44, 42, 180, 0, 130, 42, 180, 0, 133, 21, 4, 46, 50, 27, 46, 158, 0, 27, 29, 2]
abbrev dktX3_sheetFor_1 : List UInt8 := dkwX3_sheetFor_1 ++ dktX3_sheetFor_2
def dkwX3_sheetFor_0 : List UInt8 := [2, 62, 3, 54, 4, 21, 4, 42, 180, 1, 162, 162, 0, 61, 42, 180, 0, 136, 21, 4, 46, 28]
abbrev dktX3_sheetFor_0 : List UInt8 := dkwX3_sheetFor_0 ++ dktX3_sheetFor_1
theorem dksX3_sheetFor_0 : cX3_sheetFor.data.toList.drop 0 = dktX3_sheetFor_0 := by decide +kernel
theorem dksX3_sheetFor_1 : cX3_sheetFor.data.toList.drop 22 = dktX3_sheetFor_1 := dk_seg dksX3_sheetFor_0 22 rfl rfl
theorem dksX3_sheetFor_2 : cX3_sheetFor.data.toList.drop 44 = dktX3_sheetFor_2 := dk_seg dksX3_sheetFor_1 22 rfl rfl
theorem dksX3_sheetFor_3 : cX3_sheetFor.data.toList.drop 66 = dktX3_sheetFor_3 := dk_seg dksX3_sheetFor_2 22 rfl rfl
theorem dX3_sheetFor_0 : decode cX3_sheetFor 0 = .ok (.iconst (-1), 1) := dk_2 (dk_at dksX3_sheetFor_0 0 rfl rfl)
theorem dX3_sheetFor_1 : decode cX3_sheetFor 1 = .ok (.istore_n 3, 1) := dk_62 (dk_at dksX3_sheetFor_0 1 rfl rfl)
theorem dX3_sheetFor_2 : decode cX3_sheetFor 2 = .ok (.iconst 0, 1) := dk_3 (dk_at dksX3_sheetFor_0 2 rfl rfl)
theorem dX3_sheetFor_3 : decode cX3_sheetFor 3 = .ok (.istore 4, 2) := dk_54 4 (dk_at dksX3_sheetFor_0 3 rfl rfl)
theorem dX3_sheetFor_5 : decode cX3_sheetFor 5 = .ok (.iload 4, 2) := dk_21 4 (dk_at dksX3_sheetFor_0 5 rfl rfl)
theorem dX3_sheetFor_7 : decode cX3_sheetFor 7 = .ok (.aload_n 0, 1) := dk_42 (dk_at dksX3_sheetFor_0 7 rfl rfl)
theorem dX3_sheetFor_8 : decode cX3_sheetFor 8 = .ok (.getfield 418, 3) := dk_180 1 162 (dk_at dksX3_sheetFor_0 8 rfl rfl)
theorem dX3_sheetFor_11 : decode cX3_sheetFor 11 = .ok (.if_icmp .ge 61, 3) := dk_162 0 61 (dk_at dksX3_sheetFor_0 11 rfl rfl)
theorem dX3_sheetFor_14 : decode cX3_sheetFor 14 = .ok (.aload_n 0, 1) := dk_42 (dk_at dksX3_sheetFor_0 14 rfl rfl)
theorem dX3_sheetFor_15 : decode cX3_sheetFor 15 = .ok (.getfield 136, 3) := dk_180 0 136 (dk_at dksX3_sheetFor_0 15 rfl rfl)
theorem dX3_sheetFor_18 : decode cX3_sheetFor 18 = .ok (.iload 4, 2) := dk_21 4 (dk_at dksX3_sheetFor_0 18 rfl rfl)
theorem dX3_sheetFor_20 : decode cX3_sheetFor 20 = .ok (.iaload, 1) := dk_46 (dk_at dksX3_sheetFor_0 20 rfl rfl)
theorem dX3_sheetFor_21 : decode cX3_sheetFor 21 = .ok (.iload_n 2, 1) := dk_28 (dk_at dksX3_sheetFor_0 21 rfl rfl)
theorem dX3_sheetFor_22 : decode cX3_sheetFor 22 = .ok (.if_icmp .gt 44, 3) := dk_163 0 44 (dk_at dksX3_sheetFor_1 0 rfl rfl)
theorem dX3_sheetFor_25 : decode cX3_sheetFor 25 = .ok (.aload_n 0, 1) := dk_42 (dk_at dksX3_sheetFor_1 3 rfl rfl)
theorem dX3_sheetFor_26 : decode cX3_sheetFor 26 = .ok (.getfield 130, 3) := dk_180 0 130 (dk_at dksX3_sheetFor_1 4 rfl rfl)
theorem dX3_sheetFor_29 : decode cX3_sheetFor 29 = .ok (.aload_n 0, 1) := dk_42 (dk_at dksX3_sheetFor_1 7 rfl rfl)
theorem dX3_sheetFor_30 : decode cX3_sheetFor 30 = .ok (.getfield 133, 3) := dk_180 0 133 (dk_at dksX3_sheetFor_1 8 rfl rfl)
theorem dX3_sheetFor_33 : decode cX3_sheetFor 33 = .ok (.iload 4, 2) := dk_21 4 (dk_at dksX3_sheetFor_1 11 rfl rfl)
theorem dX3_sheetFor_35 : decode cX3_sheetFor 35 = .ok (.iaload, 1) := dk_46 (dk_at dksX3_sheetFor_1 13 rfl rfl)
theorem dX3_sheetFor_36 : decode cX3_sheetFor 36 = .ok (.aaload, 1) := dk_50 (dk_at dksX3_sheetFor_1 14 rfl rfl)
theorem dX3_sheetFor_37 : decode cX3_sheetFor 37 = .ok (.iload_n 1, 1) := dk_27 (dk_at dksX3_sheetFor_1 15 rfl rfl)
theorem dX3_sheetFor_38 : decode cX3_sheetFor 38 = .ok (.iaload, 1) := dk_46 (dk_at dksX3_sheetFor_1 16 rfl rfl)
theorem dX3_sheetFor_39 : decode cX3_sheetFor 39 = .ok (.ifCond .le 27, 3) := dk_158 0 27 (dk_at dksX3_sheetFor_1 17 rfl rfl)
theorem dX3_sheetFor_42 : decode cX3_sheetFor 42 = .ok (.iload_n 3, 1) := dk_29 (dk_at dksX3_sheetFor_1 20 rfl rfl)
theorem dX3_sheetFor_43 : decode cX3_sheetFor 43 = .ok (.iconst (-1), 1) := dk_2 (dk_at dksX3_sheetFor_1 21 rfl rfl)
theorem dX3_sheetFor_44 : decode cX3_sheetFor 44 = .ok (.if_icmp .eq 19, 3) := dk_159 0 19 (dk_at dksX3_sheetFor_2 0 rfl rfl)
theorem dX3_sheetFor_47 : decode cX3_sheetFor 47 = .ok (.aload_n 0, 1) := dk_42 (dk_at dksX3_sheetFor_2 3 rfl rfl)
theorem dX3_sheetFor_48 : decode cX3_sheetFor 48 = .ok (.getfield 136, 3) := dk_180 0 136 (dk_at dksX3_sheetFor_2 4 rfl rfl)
theorem dX3_sheetFor_51 : decode cX3_sheetFor 51 = .ok (.iload 4, 2) := dk_21 4 (dk_at dksX3_sheetFor_2 7 rfl rfl)
theorem dX3_sheetFor_53 : decode cX3_sheetFor 53 = .ok (.iaload, 1) := dk_46 (dk_at dksX3_sheetFor_2 9 rfl rfl)
theorem dX3_sheetFor_54 : decode cX3_sheetFor 54 = .ok (.aload_n 0, 1) := dk_42 (dk_at dksX3_sheetFor_2 10 rfl rfl)
theorem dX3_sheetFor_55 : decode cX3_sheetFor 55 = .ok (.getfield 136, 3) := dk_180 0 136 (dk_at dksX3_sheetFor_2 11 rfl rfl)
theorem dX3_sheetFor_58 : decode cX3_sheetFor 58 = .ok (.iload_n 3, 1) := dk_29 (dk_at dksX3_sheetFor_2 14 rfl rfl)
theorem dX3_sheetFor_59 : decode cX3_sheetFor 59 = .ok (.iaload, 1) := dk_46 (dk_at dksX3_sheetFor_2 15 rfl rfl)
theorem dX3_sheetFor_60 : decode cX3_sheetFor 60 = .ok (.if_icmp .lt 6, 3) := dk_161 0 6 (dk_at dksX3_sheetFor_2 16 rfl rfl)
theorem dX3_sheetFor_63 : decode cX3_sheetFor 63 = .ok (.iload 4, 2) := dk_21 4 (dk_at dksX3_sheetFor_2 19 rfl rfl)
theorem dX3_sheetFor_65 : decode cX3_sheetFor 65 = .ok (.istore_n 3, 1) := dk_62 (dk_at dksX3_sheetFor_2 21 rfl rfl)
theorem dX3_sheetFor_66 : decode cX3_sheetFor 66 = .ok (.iinc 4 1, 3) := dk_132 4 1 (dk_at dksX3_sheetFor_3 0 rfl rfl)
theorem dX3_sheetFor_69 : decode cX3_sheetFor 69 = .ok (.goto (-64), 3) := dk_167 255 192 (dk_at dksX3_sheetFor_3 3 rfl rfl)
theorem dX3_sheetFor_72 : decode cX3_sheetFor 72 = .ok (.iload_n 3, 1) := dk_29 (dk_at dksX3_sheetFor_3 6 rfl rfl)
theorem dX3_sheetFor_73 : decode cX3_sheetFor 73 = .ok (.iconst (-1), 1) := dk_2 (dk_at dksX3_sheetFor_3 7 rfl rfl)
theorem dX3_sheetFor_74 : decode cX3_sheetFor 74 = .ok (.if_icmp .ne 7, 3) := dk_160 0 7 (dk_at dksX3_sheetFor_3 8 rfl rfl)
theorem dX3_sheetFor_77 : decode cX3_sheetFor 77 = .ok (.iconst (-1), 1) := dk_2 (dk_at dksX3_sheetFor_3 11 rfl rfl)
theorem dX3_sheetFor_78 : decode cX3_sheetFor 78 = .ok (.goto 9, 3) := dk_167 0 9 (dk_at dksX3_sheetFor_3 12 rfl rfl)
theorem dX3_sheetFor_81 : decode cX3_sheetFor 81 = .ok (.aload_n 0, 1) := dk_42 (dk_at dksX3_sheetFor_3 15 rfl rfl)
theorem dX3_sheetFor_82 : decode cX3_sheetFor 82 = .ok (.getfield 133, 3) := dk_180 0 133 (dk_at dksX3_sheetFor_3 16 rfl rfl)
theorem dX3_sheetFor_85 : decode cX3_sheetFor 85 = .ok (.iload_n 3, 1) := dk_29 (dk_at dksX3_sheetFor_3 19 rfl rfl)
theorem dX3_sheetFor_86 : decode cX3_sheetFor 86 = .ok (.iaload, 1) := dk_46 (dk_at dksX3_sheetFor_3 20 rfl rfl)
theorem dX3_sheetFor_87 : decode cX3_sheetFor 87 = .ok (.ireturn, 1) := dk_172 (dk_at dksX3_sheetFor_3 21 rfl rfl)
abbrev cX3_lot : ByteArray := prog_14_method_55_code
def yX3_lot : MethodName := ⟨RX3, "lot", "(II)I"⟩
def dkwX3_lot_3 : List UInt8 := [180, 0, 194, 27, 46, 172, 42, 180, 0, 197, 27, 46, 172, 42, 180, 0, 200, 27, 46, 172, 2, 172]
abbrev dktX3_lot_3 : List UInt8 := dkwX3_lot_3 ++ []
def dkwX3_lot_2 : List UInt8 := [42, 180, 0, 185, 27, 46, 172, 42, 180, 0, 188, 27, 46, 172, 42, 180, 0, 191, 27, 46, 172, 42]
abbrev dktX3_lot_2 : List UInt8 := dkwX3_lot_2 ++ dktX3_lot_3
def dkwX3_lot_1 : List UInt8 := [170, 0, 0, 0, 79, 0, 0, 0, 0, 0, 0, 0, 5, 0, 0, 0, 37, 0, 0, 0, 44, 0, 0, 0, 51, 0, 0, 0, 58, 0, 0, 0, 65, 0, 0, 0, 72]
abbrev dktX3_lot_1 : List UInt8 := dkwX3_lot_1 ++ dktX3_lot_2
def dkwX3_lot_0 : List UInt8 := [42, 27, 182, 1, 210, 154, 0, 5, 2, 172, 28]
abbrev dktX3_lot_0 : List UInt8 := dkwX3_lot_0 ++ dktX3_lot_1
theorem dksX3_lot_0 : cX3_lot.data.toList.drop 0 = dktX3_lot_0 := by decide +kernel
theorem dksX3_lot_1 : cX3_lot.data.toList.drop 11 = dktX3_lot_1 := dk_seg dksX3_lot_0 11 rfl rfl
theorem dksX3_lot_2 : cX3_lot.data.toList.drop 48 = dktX3_lot_2 := dk_seg dksX3_lot_1 37 rfl rfl
theorem dksX3_lot_3 : cX3_lot.data.toList.drop 70 = dktX3_lot_3 := dk_seg dksX3_lot_2 22 rfl rfl
theorem dX3_lot_0 : decode cX3_lot 0 = .ok (.aload_n 0, 1) := dk_42 (dk_at dksX3_lot_0 0 rfl rfl)
theorem dX3_lot_1 : decode cX3_lot 1 = .ok (.iload_n 1, 1) := dk_27 (dk_at dksX3_lot_0 1 rfl rfl)
theorem dX3_lot_2 : decode cX3_lot 2 = .ok (.invokevirtual 466, 3) := dk_182 1 210 (dk_at dksX3_lot_0 2 rfl rfl)
theorem dX3_lot_5 : decode cX3_lot 5 = .ok (.ifCond .ne 5, 3) := dk_154 0 5 (dk_at dksX3_lot_0 5 rfl rfl)
theorem dX3_lot_8 : decode cX3_lot 8 = .ok (.iconst (-1), 1) := dk_2 (dk_at dksX3_lot_0 8 rfl rfl)
theorem dX3_lot_9 : decode cX3_lot 9 = .ok (.ireturn, 1) := dk_172 (dk_at dksX3_lot_0 9 rfl rfl)
theorem dX3_lot_10 : decode cX3_lot 10 = .ok (.iload_n 2, 1) := dk_28 (dk_at dksX3_lot_0 10 rfl rfl)
theorem dX3_lot_11 : decode cX3_lot 11 = .ok (.tableswitch 79 0 5 #[37, 44, 51, 58, 65, 72], 37) := by decide +kernel
theorem dX3_lot_48 : decode cX3_lot 48 = .ok (.aload_n 0, 1) := dk_42 (dk_at dksX3_lot_2 0 rfl rfl)
theorem dX3_lot_49 : decode cX3_lot 49 = .ok (.getfield 185, 3) := dk_180 0 185 (dk_at dksX3_lot_2 1 rfl rfl)
theorem dX3_lot_52 : decode cX3_lot 52 = .ok (.iload_n 1, 1) := dk_27 (dk_at dksX3_lot_2 4 rfl rfl)
theorem dX3_lot_53 : decode cX3_lot 53 = .ok (.iaload, 1) := dk_46 (dk_at dksX3_lot_2 5 rfl rfl)
theorem dX3_lot_54 : decode cX3_lot 54 = .ok (.ireturn, 1) := dk_172 (dk_at dksX3_lot_2 6 rfl rfl)
theorem dX3_lot_55 : decode cX3_lot 55 = .ok (.aload_n 0, 1) := dk_42 (dk_at dksX3_lot_2 7 rfl rfl)
theorem dX3_lot_56 : decode cX3_lot 56 = .ok (.getfield 188, 3) := dk_180 0 188 (dk_at dksX3_lot_2 8 rfl rfl)
theorem dX3_lot_59 : decode cX3_lot 59 = .ok (.iload_n 1, 1) := dk_27 (dk_at dksX3_lot_2 11 rfl rfl)
theorem dX3_lot_60 : decode cX3_lot 60 = .ok (.iaload, 1) := dk_46 (dk_at dksX3_lot_2 12 rfl rfl)
theorem dX3_lot_61 : decode cX3_lot 61 = .ok (.ireturn, 1) := dk_172 (dk_at dksX3_lot_2 13 rfl rfl)
theorem dX3_lot_62 : decode cX3_lot 62 = .ok (.aload_n 0, 1) := dk_42 (dk_at dksX3_lot_2 14 rfl rfl)
theorem dX3_lot_63 : decode cX3_lot 63 = .ok (.getfield 191, 3) := dk_180 0 191 (dk_at dksX3_lot_2 15 rfl rfl)
theorem dX3_lot_66 : decode cX3_lot 66 = .ok (.iload_n 1, 1) := dk_27 (dk_at dksX3_lot_2 18 rfl rfl)
theorem dX3_lot_67 : decode cX3_lot 67 = .ok (.iaload, 1) := dk_46 (dk_at dksX3_lot_2 19 rfl rfl)
theorem dX3_lot_68 : decode cX3_lot 68 = .ok (.ireturn, 1) := dk_172 (dk_at dksX3_lot_2 20 rfl rfl)
theorem dX3_lot_69 : decode cX3_lot 69 = .ok (.aload_n 0, 1) := dk_42 (dk_at dksX3_lot_2 21 rfl rfl)
theorem dX3_lot_70 : decode cX3_lot 70 = .ok (.getfield 194, 3) := dk_180 0 194 (dk_at dksX3_lot_3 0 rfl rfl)
theorem dX3_lot_73 : decode cX3_lot 73 = .ok (.iload_n 1, 1) := dk_27 (dk_at dksX3_lot_3 3 rfl rfl)
theorem dX3_lot_74 : decode cX3_lot 74 = .ok (.iaload, 1) := dk_46 (dk_at dksX3_lot_3 4 rfl rfl)
theorem dX3_lot_75 : decode cX3_lot 75 = .ok (.ireturn, 1) := dk_172 (dk_at dksX3_lot_3 5 rfl rfl)
theorem dX3_lot_76 : decode cX3_lot 76 = .ok (.aload_n 0, 1) := dk_42 (dk_at dksX3_lot_3 6 rfl rfl)
theorem dX3_lot_77 : decode cX3_lot 77 = .ok (.getfield 197, 3) := dk_180 0 197 (dk_at dksX3_lot_3 7 rfl rfl)
theorem dX3_lot_80 : decode cX3_lot 80 = .ok (.iload_n 1, 1) := dk_27 (dk_at dksX3_lot_3 10 rfl rfl)
theorem dX3_lot_81 : decode cX3_lot 81 = .ok (.iaload, 1) := dk_46 (dk_at dksX3_lot_3 11 rfl rfl)
theorem dX3_lot_82 : decode cX3_lot 82 = .ok (.ireturn, 1) := dk_172 (dk_at dksX3_lot_3 12 rfl rfl)
theorem dX3_lot_83 : decode cX3_lot 83 = .ok (.aload_n 0, 1) := dk_42 (dk_at dksX3_lot_3 13 rfl rfl)
theorem dX3_lot_84 : decode cX3_lot 84 = .ok (.getfield 200, 3) := dk_180 0 200 (dk_at dksX3_lot_3 14 rfl rfl)
theorem dX3_lot_87 : decode cX3_lot 87 = .ok (.iload_n 1, 1) := dk_27 (dk_at dksX3_lot_3 17 rfl rfl)
theorem dX3_lot_88 : decode cX3_lot 88 = .ok (.iaload, 1) := dk_46 (dk_at dksX3_lot_3 18 rfl rfl)
theorem dX3_lot_89 : decode cX3_lot 89 = .ok (.ireturn, 1) := dk_172 (dk_at dksX3_lot_3 19 rfl rfl)
theorem dX3_lot_90 : decode cX3_lot 90 = .ok (.iconst (-1), 1) := dk_2 (dk_at dksX3_lot_3 20 rfl rfl)
theorem dX3_lot_91 : decode cX3_lot 91 = .ok (.ireturn, 1) := dk_172 (dk_at dksX3_lot_3 21 rfl rfl)
abbrev cX3_isLot : ByteArray := prog_14_method_54_code
def yX3_isLot : MethodName := ⟨RX3, "isLot", "(I)Z"⟩
def dkwX3_isLot_0 : List UInt8 := [27, 133, 9, 42, 180, 1, 195, 4, 100, 133, 184, 1, 18, 172]
abbrev dktX3_isLot_0 : List UInt8 := dkwX3_isLot_0 ++ []
theorem dksX3_isLot_0 : cX3_isLot.data.toList.drop 0 = dktX3_isLot_0 := by decide +kernel
theorem dX3_isLot_0 : decode cX3_isLot 0 = .ok (.iload_n 1, 1) := dk_27 (dk_at dksX3_isLot_0 0 rfl rfl)
theorem dX3_isLot_1 : decode cX3_isLot 1 = .ok (.i2l, 1) := dk_133 (dk_at dksX3_isLot_0 1 rfl rfl)
theorem dX3_isLot_2 : decode cX3_isLot 2 = .ok (.lconst 0, 1) := dk_9 (dk_at dksX3_isLot_0 2 rfl rfl)
theorem dX3_isLot_3 : decode cX3_isLot 3 = .ok (.aload_n 0, 1) := dk_42 (dk_at dksX3_isLot_0 3 rfl rfl)
theorem dX3_isLot_4 : decode cX3_isLot 4 = .ok (.getfield 451, 3) := dk_180 1 195 (dk_at dksX3_isLot_0 4 rfl rfl)
theorem dX3_isLot_7 : decode cX3_isLot 7 = .ok (.iconst 1, 1) := dk_4 (dk_at dksX3_isLot_0 7 rfl rfl)
theorem dX3_isLot_8 : decode cX3_isLot 8 = .ok (.isub, 1) := dk_100 (dk_at dksX3_isLot_0 8 rfl rfl)
theorem dX3_isLot_9 : decode cX3_isLot 9 = .ok (.i2l, 1) := dk_133 (dk_at dksX3_isLot_0 9 rfl rfl)
theorem dX3_isLot_10 : decode cX3_isLot 10 = .ok (.invokestatic 274, 3) := dk_184 1 18 (dk_at dksX3_isLot_0 10 rfl rfl)
theorem dX3_isLot_13 : decode cX3_isLot 13 = .ok (.ireturn, 1) := dk_172 (dk_at dksX3_isLot_0 13 rfl rfl)
abbrev cX3_pay : ByteArray := prog_14_method_57_code
def yX3_pay : MethodName := ⟨RX3, "pay", "(III)I"⟩
def dkwX3_pay_3 : List UInt8 := [46, 27, 159, 0, 13, 42, 180, 0, 115, 27, 92, 46, 29, 96, 79, 42, 27, 182, 1, 216, 172]
abbrev dktX3_pay_3 : List UInt8 := dkwX3_pay_3 ++ []
def dkwX3_pay_2 : List UInt8 := [180, 0, 109, 27, 92, 46, 29, 96, 79, 42, 89, 180, 1, 213, 29, 96, 181, 1, 213, 42, 180, 0, 185, 28]
abbrev dktX3_pay_2 : List UInt8 := dkwX3_pay_2 ++ dktX3_pay_3
def dkwX3_pay_1 : List UInt8 := [46, 133, 184, 1, 18, 154, 0, 7, 19, 1, 55, 172, 42, 180, 0, 200, 28, 92, 46, 29, 100, 79, 42]
abbrev dktX3_pay_1 : List UInt8 := dkwX3_pay_1 ++ dktX3_pay_2
def dkwX3_pay_0 : List UInt8 := [42, 27, 182, 1, 41, 153, 0, 27, 42, 28, 182, 1, 210, 153, 0, 19, 29, 133, 10, 42, 180, 0, 200, 28]
abbrev dktX3_pay_0 : List UInt8 := dkwX3_pay_0 ++ dktX3_pay_1
theorem dksX3_pay_0 : cX3_pay.data.toList.drop 0 = dktX3_pay_0 := by decide +kernel
theorem dksX3_pay_1 : cX3_pay.data.toList.drop 24 = dktX3_pay_1 := dk_seg dksX3_pay_0 24 rfl rfl
theorem dksX3_pay_2 : cX3_pay.data.toList.drop 47 = dktX3_pay_2 := dk_seg dksX3_pay_1 23 rfl rfl
theorem dksX3_pay_3 : cX3_pay.data.toList.drop 71 = dktX3_pay_3 := dk_seg dksX3_pay_2 24 rfl rfl
theorem dX3_pay_0 : decode cX3_pay 0 = .ok (.aload_n 0, 1) := dk_42 (dk_at dksX3_pay_0 0 rfl rfl)
theorem dX3_pay_1 : decode cX3_pay 1 = .ok (.iload_n 1, 1) := dk_27 (dk_at dksX3_pay_0 1 rfl rfl)
theorem dX3_pay_2 : decode cX3_pay 2 = .ok (.invokevirtual 297, 3) := dk_182 1 41 (dk_at dksX3_pay_0 2 rfl rfl)
theorem dX3_pay_5 : decode cX3_pay 5 = .ok (.ifCond .eq 27, 3) := dk_153 0 27 (dk_at dksX3_pay_0 5 rfl rfl)
theorem dX3_pay_8 : decode cX3_pay 8 = .ok (.aload_n 0, 1) := dk_42 (dk_at dksX3_pay_0 8 rfl rfl)
theorem dX3_pay_9 : decode cX3_pay 9 = .ok (.iload_n 2, 1) := dk_28 (dk_at dksX3_pay_0 9 rfl rfl)
theorem dX3_pay_10 : decode cX3_pay 10 = .ok (.invokevirtual 466, 3) := dk_182 1 210 (dk_at dksX3_pay_0 10 rfl rfl)
theorem dX3_pay_13 : decode cX3_pay 13 = .ok (.ifCond .eq 19, 3) := dk_153 0 19 (dk_at dksX3_pay_0 13 rfl rfl)
theorem dX3_pay_16 : decode cX3_pay 16 = .ok (.iload_n 3, 1) := dk_29 (dk_at dksX3_pay_0 16 rfl rfl)
theorem dX3_pay_17 : decode cX3_pay 17 = .ok (.i2l, 1) := dk_133 (dk_at dksX3_pay_0 17 rfl rfl)
theorem dX3_pay_18 : decode cX3_pay 18 = .ok (.lconst 1, 1) := dk_10 (dk_at dksX3_pay_0 18 rfl rfl)
theorem dX3_pay_19 : decode cX3_pay 19 = .ok (.aload_n 0, 1) := dk_42 (dk_at dksX3_pay_0 19 rfl rfl)
theorem dX3_pay_20 : decode cX3_pay 20 = .ok (.getfield 200, 3) := dk_180 0 200 (dk_at dksX3_pay_0 20 rfl rfl)
theorem dX3_pay_23 : decode cX3_pay 23 = .ok (.iload_n 2, 1) := dk_28 (dk_at dksX3_pay_0 23 rfl rfl)
theorem dX3_pay_24 : decode cX3_pay 24 = .ok (.iaload, 1) := dk_46 (dk_at dksX3_pay_1 0 rfl rfl)
theorem dX3_pay_25 : decode cX3_pay 25 = .ok (.i2l, 1) := dk_133 (dk_at dksX3_pay_1 1 rfl rfl)
theorem dX3_pay_26 : decode cX3_pay 26 = .ok (.invokestatic 274, 3) := dk_184 1 18 (dk_at dksX3_pay_1 2 rfl rfl)
theorem dX3_pay_29 : decode cX3_pay 29 = .ok (.ifCond .ne 7, 3) := dk_154 0 7 (dk_at dksX3_pay_1 5 rfl rfl)
theorem dX3_pay_32 : decode cX3_pay 32 = .ok (.ldc_w 311, 3) := dk_19 1 55 (dk_at dksX3_pay_1 8 rfl rfl)
theorem dX3_pay_35 : decode cX3_pay 35 = .ok (.ireturn, 1) := dk_172 (dk_at dksX3_pay_1 11 rfl rfl)
theorem dX3_pay_36 : decode cX3_pay 36 = .ok (.aload_n 0, 1) := dk_42 (dk_at dksX3_pay_1 12 rfl rfl)
theorem dX3_pay_37 : decode cX3_pay 37 = .ok (.getfield 200, 3) := dk_180 0 200 (dk_at dksX3_pay_1 13 rfl rfl)
theorem dX3_pay_40 : decode cX3_pay 40 = .ok (.iload_n 2, 1) := dk_28 (dk_at dksX3_pay_1 16 rfl rfl)
theorem dX3_pay_41 : decode cX3_pay 41 = .ok (.dup2, 1) := dk_92 (dk_at dksX3_pay_1 17 rfl rfl)
theorem dX3_pay_42 : decode cX3_pay 42 = .ok (.iaload, 1) := dk_46 (dk_at dksX3_pay_1 18 rfl rfl)
theorem dX3_pay_43 : decode cX3_pay 43 = .ok (.iload_n 3, 1) := dk_29 (dk_at dksX3_pay_1 19 rfl rfl)
theorem dX3_pay_44 : decode cX3_pay 44 = .ok (.isub, 1) := dk_100 (dk_at dksX3_pay_1 20 rfl rfl)
theorem dX3_pay_45 : decode cX3_pay 45 = .ok (.iastore, 1) := dk_79 (dk_at dksX3_pay_1 21 rfl rfl)
theorem dX3_pay_46 : decode cX3_pay 46 = .ok (.aload_n 0, 1) := dk_42 (dk_at dksX3_pay_1 22 rfl rfl)
theorem dX3_pay_47 : decode cX3_pay 47 = .ok (.getfield 109, 3) := dk_180 0 109 (dk_at dksX3_pay_2 0 rfl rfl)
theorem dX3_pay_50 : decode cX3_pay 50 = .ok (.iload_n 1, 1) := dk_27 (dk_at dksX3_pay_2 3 rfl rfl)
theorem dX3_pay_51 : decode cX3_pay 51 = .ok (.dup2, 1) := dk_92 (dk_at dksX3_pay_2 4 rfl rfl)
theorem dX3_pay_52 : decode cX3_pay 52 = .ok (.iaload, 1) := dk_46 (dk_at dksX3_pay_2 5 rfl rfl)
theorem dX3_pay_53 : decode cX3_pay 53 = .ok (.iload_n 3, 1) := dk_29 (dk_at dksX3_pay_2 6 rfl rfl)
theorem dX3_pay_54 : decode cX3_pay 54 = .ok (.iadd, 1) := dk_96 (dk_at dksX3_pay_2 7 rfl rfl)
theorem dX3_pay_55 : decode cX3_pay 55 = .ok (.iastore, 1) := dk_79 (dk_at dksX3_pay_2 8 rfl rfl)
theorem dX3_pay_56 : decode cX3_pay 56 = .ok (.aload_n 0, 1) := dk_42 (dk_at dksX3_pay_2 9 rfl rfl)
theorem dX3_pay_57 : decode cX3_pay 57 = .ok (.dup, 1) := dk_89 (dk_at dksX3_pay_2 10 rfl rfl)
theorem dX3_pay_58 : decode cX3_pay 58 = .ok (.getfield 469, 3) := dk_180 1 213 (dk_at dksX3_pay_2 11 rfl rfl)
theorem dX3_pay_61 : decode cX3_pay 61 = .ok (.iload_n 3, 1) := dk_29 (dk_at dksX3_pay_2 14 rfl rfl)
theorem dX3_pay_62 : decode cX3_pay 62 = .ok (.iadd, 1) := dk_96 (dk_at dksX3_pay_2 15 rfl rfl)
theorem dX3_pay_63 : decode cX3_pay 63 = .ok (.putfield 469, 3) := dk_181 1 213 (dk_at dksX3_pay_2 16 rfl rfl)
theorem dX3_pay_66 : decode cX3_pay 66 = .ok (.aload_n 0, 1) := dk_42 (dk_at dksX3_pay_2 19 rfl rfl)
theorem dX3_pay_67 : decode cX3_pay 67 = .ok (.getfield 185, 3) := dk_180 0 185 (dk_at dksX3_pay_2 20 rfl rfl)
theorem dX3_pay_70 : decode cX3_pay 70 = .ok (.iload_n 2, 1) := dk_28 (dk_at dksX3_pay_2 23 rfl rfl)
theorem dX3_pay_71 : decode cX3_pay 71 = .ok (.iaload, 1) := dk_46 (dk_at dksX3_pay_3 0 rfl rfl)
theorem dX3_pay_72 : decode cX3_pay 72 = .ok (.iload_n 1, 1) := dk_27 (dk_at dksX3_pay_3 1 rfl rfl)
theorem dX3_pay_73 : decode cX3_pay 73 = .ok (.if_icmp .eq 13, 3) := dk_159 0 13 (dk_at dksX3_pay_3 2 rfl rfl)
theorem dX3_pay_76 : decode cX3_pay 76 = .ok (.aload_n 0, 1) := dk_42 (dk_at dksX3_pay_3 5 rfl rfl)
theorem dX3_pay_77 : decode cX3_pay 77 = .ok (.getfield 115, 3) := dk_180 0 115 (dk_at dksX3_pay_3 6 rfl rfl)
theorem dX3_pay_80 : decode cX3_pay 80 = .ok (.iload_n 1, 1) := dk_27 (dk_at dksX3_pay_3 9 rfl rfl)
theorem dX3_pay_81 : decode cX3_pay 81 = .ok (.dup2, 1) := dk_92 (dk_at dksX3_pay_3 10 rfl rfl)
theorem dX3_pay_82 : decode cX3_pay 82 = .ok (.iaload, 1) := dk_46 (dk_at dksX3_pay_3 11 rfl rfl)
theorem dX3_pay_83 : decode cX3_pay 83 = .ok (.iload_n 3, 1) := dk_29 (dk_at dksX3_pay_3 12 rfl rfl)
theorem dX3_pay_84 : decode cX3_pay 84 = .ok (.iadd, 1) := dk_96 (dk_at dksX3_pay_3 13 rfl rfl)
theorem dX3_pay_85 : decode cX3_pay 85 = .ok (.iastore, 1) := dk_79 (dk_at dksX3_pay_3 14 rfl rfl)
theorem dX3_pay_86 : decode cX3_pay 86 = .ok (.aload_n 0, 1) := dk_42 (dk_at dksX3_pay_3 15 rfl rfl)
theorem dX3_pay_87 : decode cX3_pay 87 = .ok (.iload_n 1, 1) := dk_27 (dk_at dksX3_pay_3 16 rfl rfl)
theorem dX3_pay_88 : decode cX3_pay 88 = .ok (.invokevirtual 472, 3) := dk_182 1 216 (dk_at dksX3_pay_3 17 rfl rfl)
theorem dX3_pay_91 : decode cX3_pay 91 = .ok (.ireturn, 1) := dk_172 (dk_at dksX3_pay_3 20 rfl rfl)
abbrev cX3_owing : ByteArray := prog_14_method_56_code
def yX3_owing : MethodName := ⟨RX3, "owing", "(I)I"⟩
def dkwX3_owing_0 : List UInt8 := [42, 180, 0, 105, 27, 47, 42, 180, 0, 109, 27, 46, 133, 101, 65, 32, 136, 172]
abbrev dktX3_owing_0 : List UInt8 := dkwX3_owing_0 ++ []
theorem dksX3_owing_0 : cX3_owing.data.toList.drop 0 = dktX3_owing_0 := by decide +kernel
theorem dX3_owing_0 : decode cX3_owing 0 = .ok (.aload_n 0, 1) := dk_42 (dk_at dksX3_owing_0 0 rfl rfl)
theorem dX3_owing_1 : decode cX3_owing 1 = .ok (.getfield 105, 3) := dk_180 0 105 (dk_at dksX3_owing_0 1 rfl rfl)
theorem dX3_owing_4 : decode cX3_owing 4 = .ok (.iload_n 1, 1) := dk_27 (dk_at dksX3_owing_0 4 rfl rfl)
theorem dX3_owing_5 : decode cX3_owing 5 = .ok (.laload, 1) := dk_47 (dk_at dksX3_owing_0 5 rfl rfl)
theorem dX3_owing_6 : decode cX3_owing 6 = .ok (.aload_n 0, 1) := dk_42 (dk_at dksX3_owing_0 6 rfl rfl)
theorem dX3_owing_7 : decode cX3_owing 7 = .ok (.getfield 109, 3) := dk_180 0 109 (dk_at dksX3_owing_0 7 rfl rfl)
theorem dX3_owing_10 : decode cX3_owing 10 = .ok (.iload_n 1, 1) := dk_27 (dk_at dksX3_owing_0 10 rfl rfl)
theorem dX3_owing_11 : decode cX3_owing 11 = .ok (.iaload, 1) := dk_46 (dk_at dksX3_owing_0 11 rfl rfl)
theorem dX3_owing_12 : decode cX3_owing 12 = .ok (.i2l, 1) := dk_133 (dk_at dksX3_owing_0 12 rfl rfl)
theorem dX3_owing_13 : decode cX3_owing 13 = .ok (.lsub, 1) := dk_101 (dk_at dksX3_owing_0 13 rfl rfl)
theorem dX3_owing_14 : decode cX3_owing 14 = .ok (.lstore_n 2, 1) := dk_65 (dk_at dksX3_owing_0 14 rfl rfl)
theorem dX3_owing_15 : decode cX3_owing 15 = .ok (.lload_n 2, 1) := dk_32 (dk_at dksX3_owing_0 15 rfl rfl)
theorem dX3_owing_16 : decode cX3_owing 16 = .ok (.l2i, 1) := dk_136 (dk_at dksX3_owing_0 16 rfl rfl)
theorem dX3_owing_17 : decode cX3_owing 17 = .ok (.ireturn, 1) := dk_172 (dk_at dksX3_owing_0 17 rfl rfl)
abbrev cX3_due : ByteArray := prog_14_method_58_code
def yX3_due : MethodName := ⟨RX3, "due", "(II)I"⟩
def dkwX3_due_3 : List UInt8 := [27, 46, 42, 180, 0, 112, 27, 46, 100, 184, 1, 192, 172, 42, 180, 0, 115, 27, 46, 172, 19, 1, 55, 172]
abbrev dktX3_due_3 : List UInt8 := dkwX3_due_3 ++ []
def dkwX3_due_2 : List UInt8 := [42, 27, 182, 1, 216, 172, 42, 180, 0, 109, 27, 46, 172, 42, 180, 0, 112, 27, 46, 172, 42, 180, 0, 109]
abbrev dktX3_due_2 : List UInt8 := dkwX3_due_2 ++ dktX3_due_3
def dkwX3_due_1 : List UInt8 := [170, 0, 0, 0, 0, 0, 79, 0, 0, 0, 0, 0, 0, 0, 4, 0, 0, 0, 35, 0, 0, 0, 41, 0, 0, 0, 48, 0, 0, 0, 55, 0, 0, 0, 72]
abbrev dktX3_due_1 : List UInt8 := dkwX3_due_1 ++ dktX3_due_2
def dkwX3_due_0 : List UInt8 := [42, 27, 182, 1, 41, 154, 0, 7, 19, 1, 55, 172, 28]
abbrev dktX3_due_0 : List UInt8 := dkwX3_due_0 ++ dktX3_due_1
theorem dksX3_due_0 : cX3_due.data.toList.drop 0 = dktX3_due_0 := by decide +kernel
theorem dksX3_due_1 : cX3_due.data.toList.drop 13 = dktX3_due_1 := dk_seg dksX3_due_0 13 rfl rfl
theorem dksX3_due_2 : cX3_due.data.toList.drop 48 = dktX3_due_2 := dk_seg dksX3_due_1 35 rfl rfl
theorem dksX3_due_3 : cX3_due.data.toList.drop 72 = dktX3_due_3 := dk_seg dksX3_due_2 24 rfl rfl
theorem dX3_due_0 : decode cX3_due 0 = .ok (.aload_n 0, 1) := dk_42 (dk_at dksX3_due_0 0 rfl rfl)
theorem dX3_due_1 : decode cX3_due 1 = .ok (.iload_n 1, 1) := dk_27 (dk_at dksX3_due_0 1 rfl rfl)
theorem dX3_due_2 : decode cX3_due 2 = .ok (.invokevirtual 297, 3) := dk_182 1 41 (dk_at dksX3_due_0 2 rfl rfl)
theorem dX3_due_5 : decode cX3_due 5 = .ok (.ifCond .ne 7, 3) := dk_154 0 7 (dk_at dksX3_due_0 5 rfl rfl)
theorem dX3_due_8 : decode cX3_due 8 = .ok (.ldc_w 311, 3) := dk_19 1 55 (dk_at dksX3_due_0 8 rfl rfl)
theorem dX3_due_11 : decode cX3_due 11 = .ok (.ireturn, 1) := dk_172 (dk_at dksX3_due_0 11 rfl rfl)
theorem dX3_due_12 : decode cX3_due 12 = .ok (.iload_n 2, 1) := dk_28 (dk_at dksX3_due_0 12 rfl rfl)
theorem dX3_due_13 : decode cX3_due 13 = .ok (.tableswitch 79 0 4 #[35, 41, 48, 55, 72], 35) := by decide +kernel
theorem dX3_due_48 : decode cX3_due 48 = .ok (.aload_n 0, 1) := dk_42 (dk_at dksX3_due_2 0 rfl rfl)
theorem dX3_due_49 : decode cX3_due 49 = .ok (.iload_n 1, 1) := dk_27 (dk_at dksX3_due_2 1 rfl rfl)
theorem dX3_due_50 : decode cX3_due 50 = .ok (.invokevirtual 472, 3) := dk_182 1 216 (dk_at dksX3_due_2 2 rfl rfl)
theorem dX3_due_53 : decode cX3_due 53 = .ok (.ireturn, 1) := dk_172 (dk_at dksX3_due_2 5 rfl rfl)
theorem dX3_due_54 : decode cX3_due 54 = .ok (.aload_n 0, 1) := dk_42 (dk_at dksX3_due_2 6 rfl rfl)
theorem dX3_due_55 : decode cX3_due 55 = .ok (.getfield 109, 3) := dk_180 0 109 (dk_at dksX3_due_2 7 rfl rfl)
theorem dX3_due_58 : decode cX3_due 58 = .ok (.iload_n 1, 1) := dk_27 (dk_at dksX3_due_2 10 rfl rfl)
theorem dX3_due_59 : decode cX3_due 59 = .ok (.iaload, 1) := dk_46 (dk_at dksX3_due_2 11 rfl rfl)
theorem dX3_due_60 : decode cX3_due 60 = .ok (.ireturn, 1) := dk_172 (dk_at dksX3_due_2 12 rfl rfl)
theorem dX3_due_61 : decode cX3_due 61 = .ok (.aload_n 0, 1) := dk_42 (dk_at dksX3_due_2 13 rfl rfl)
theorem dX3_due_62 : decode cX3_due 62 = .ok (.getfield 112, 3) := dk_180 0 112 (dk_at dksX3_due_2 14 rfl rfl)
theorem dX3_due_65 : decode cX3_due 65 = .ok (.iload_n 1, 1) := dk_27 (dk_at dksX3_due_2 17 rfl rfl)
theorem dX3_due_66 : decode cX3_due 66 = .ok (.iaload, 1) := dk_46 (dk_at dksX3_due_2 18 rfl rfl)
theorem dX3_due_67 : decode cX3_due 67 = .ok (.ireturn, 1) := dk_172 (dk_at dksX3_due_2 19 rfl rfl)
theorem dX3_due_68 : decode cX3_due 68 = .ok (.aload_n 0, 1) := dk_42 (dk_at dksX3_due_2 20 rfl rfl)
theorem dX3_due_69 : decode cX3_due 69 = .ok (.getfield 109, 3) := dk_180 0 109 (dk_at dksX3_due_2 21 rfl rfl)
theorem dX3_due_72 : decode cX3_due 72 = .ok (.iload_n 1, 1) := dk_27 (dk_at dksX3_due_3 0 rfl rfl)
theorem dX3_due_73 : decode cX3_due 73 = .ok (.iaload, 1) := dk_46 (dk_at dksX3_due_3 1 rfl rfl)
theorem dX3_due_74 : decode cX3_due 74 = .ok (.aload_n 0, 1) := dk_42 (dk_at dksX3_due_3 2 rfl rfl)
theorem dX3_due_75 : decode cX3_due 75 = .ok (.getfield 112, 3) := dk_180 0 112 (dk_at dksX3_due_3 3 rfl rfl)
theorem dX3_due_78 : decode cX3_due 78 = .ok (.iload_n 1, 1) := dk_27 (dk_at dksX3_due_3 6 rfl rfl)
theorem dX3_due_79 : decode cX3_due 79 = .ok (.iaload, 1) := dk_46 (dk_at dksX3_due_3 7 rfl rfl)
theorem dX3_due_80 : decode cX3_due 80 = .ok (.isub, 1) := dk_100 (dk_at dksX3_due_3 8 rfl rfl)
theorem dX3_due_81 : decode cX3_due 81 = .ok (.invokestatic 448, 3) := dk_184 1 192 (dk_at dksX3_due_3 9 rfl rfl)
theorem dX3_due_84 : decode cX3_due 84 = .ok (.ireturn, 1) := dk_172 (dk_at dksX3_due_3 12 rfl rfl)
theorem dX3_due_85 : decode cX3_due 85 = .ok (.aload_n 0, 1) := dk_42 (dk_at dksX3_due_3 13 rfl rfl)
theorem dX3_due_86 : decode cX3_due 86 = .ok (.getfield 115, 3) := dk_180 0 115 (dk_at dksX3_due_3 14 rfl rfl)
theorem dX3_due_89 : decode cX3_due 89 = .ok (.iload_n 1, 1) := dk_27 (dk_at dksX3_due_3 17 rfl rfl)
theorem dX3_due_90 : decode cX3_due 90 = .ok (.iaload, 1) := dk_46 (dk_at dksX3_due_3 18 rfl rfl)
theorem dX3_due_91 : decode cX3_due 91 = .ok (.ireturn, 1) := dk_172 (dk_at dksX3_due_3 19 rfl rfl)
theorem dX3_due_92 : decode cX3_due 92 = .ok (.ldc_w 311, 3) := dk_19 1 55 (dk_at dksX3_due_3 20 rfl rfl)
theorem dX3_due_95 : decode cX3_due 95 = .ok (.ireturn, 1) := dk_172 (dk_at dksX3_due_3 23 rfl rfl)
abbrev cX3_least : ByteArray := prog_14_method_45_code
def yX3_least : MethodName := ⟨RX3, "least", "(I)I"⟩
def dkwX3_least_0 : List UInt8 := [26, 156, 0, 7, 3, 167, 0, 4, 26, 172]
abbrev dktX3_least_0 : List UInt8 := dkwX3_least_0 ++ []
theorem dksX3_least_0 : cX3_least.data.toList.drop 0 = dktX3_least_0 := by decide +kernel
theorem dX3_least_0 : decode cX3_least 0 = .ok (.iload_n 0, 1) := dk_26 (dk_at dksX3_least_0 0 rfl rfl)
theorem dX3_least_1 : decode cX3_least 1 = .ok (.ifCond .ge 7, 3) := dk_156 0 7 (dk_at dksX3_least_0 1 rfl rfl)
theorem dX3_least_4 : decode cX3_least 4 = .ok (.iconst 0, 1) := dk_3 (dk_at dksX3_least_0 4 rfl rfl)
theorem dX3_least_5 : decode cX3_least 5 = .ok (.goto 4, 3) := dk_167 0 4 (dk_at dksX3_least_0 5 rfl rfl)
theorem dX3_least_8 : decode cX3_least 8 = .ok (.iload_n 0, 1) := dk_26 (dk_at dksX3_least_0 8 rfl rfl)
theorem dX3_least_9 : decode cX3_least 9 = .ok (.ireturn, 1) := dk_172 (dk_at dksX3_least_0 9 rfl rfl)
abbrev cX3_bar : ByteArray := prog_14_method_63_code
def yX3_bar : MethodName := ⟨RX3, "bar", "(III)I"⟩
def dkwX3_bar_0 : List UInt8 := [42, 27, 28, 29, 182, 1, 232, 153, 0, 13, 42, 27, 28, 29, 182, 1, 236, 167, 0, 4, 2, 172]
abbrev dktX3_bar_0 : List UInt8 := dkwX3_bar_0 ++ []
theorem dksX3_bar_0 : cX3_bar.data.toList.drop 0 = dktX3_bar_0 := by decide +kernel
theorem dX3_bar_0 : decode cX3_bar 0 = .ok (.aload_n 0, 1) := dk_42 (dk_at dksX3_bar_0 0 rfl rfl)
theorem dX3_bar_1 : decode cX3_bar 1 = .ok (.iload_n 1, 1) := dk_27 (dk_at dksX3_bar_0 1 rfl rfl)
theorem dX3_bar_2 : decode cX3_bar 2 = .ok (.iload_n 2, 1) := dk_28 (dk_at dksX3_bar_0 2 rfl rfl)
theorem dX3_bar_3 : decode cX3_bar 3 = .ok (.iload_n 3, 1) := dk_29 (dk_at dksX3_bar_0 3 rfl rfl)
theorem dX3_bar_4 : decode cX3_bar 4 = .ok (.invokevirtual 488, 3) := dk_182 1 232 (dk_at dksX3_bar_0 4 rfl rfl)
theorem dX3_bar_7 : decode cX3_bar 7 = .ok (.ifCond .eq 13, 3) := dk_153 0 13 (dk_at dksX3_bar_0 7 rfl rfl)
theorem dX3_bar_10 : decode cX3_bar 10 = .ok (.aload_n 0, 1) := dk_42 (dk_at dksX3_bar_0 10 rfl rfl)
theorem dX3_bar_11 : decode cX3_bar 11 = .ok (.iload_n 1, 1) := dk_27 (dk_at dksX3_bar_0 11 rfl rfl)
theorem dX3_bar_12 : decode cX3_bar 12 = .ok (.iload_n 2, 1) := dk_28 (dk_at dksX3_bar_0 12 rfl rfl)
theorem dX3_bar_13 : decode cX3_bar 13 = .ok (.iload_n 3, 1) := dk_29 (dk_at dksX3_bar_0 13 rfl rfl)
theorem dX3_bar_14 : decode cX3_bar 14 = .ok (.invokevirtual 492, 3) := dk_182 1 236 (dk_at dksX3_bar_0 14 rfl rfl)
theorem dX3_bar_17 : decode cX3_bar 17 = .ok (.goto 4, 3) := dk_167 0 4 (dk_at dksX3_bar_0 17 rfl rfl)
theorem dX3_bar_20 : decode cX3_bar 20 = .ok (.iconst (-1), 1) := dk_2 (dk_at dksX3_bar_0 20 rfl rfl)
theorem dX3_bar_21 : decode cX3_bar 21 = .ok (.ireturn, 1) := dk_172 (dk_at dksX3_bar_0 21 rfl rfl)
abbrev cX3_canAsk : ByteArray := prog_14_method_62_code
def yX3_canAsk : MethodName := ⟨RX3, "canAsk", "(III)Z"⟩
def dkwX3_canAsk_1 : List UInt8 := [20, 1, 228, 20, 1, 230, 184, 1, 18, 153, 0, 7, 4, 167, 0, 4, 3, 172]
abbrev dktX3_canAsk_1 : List UInt8 := dkwX3_canAsk_1 ++ []
def dkwX3_canAsk_0 : List UInt8 := [42, 27, 182, 1, 41, 153, 0, 35, 42, 28, 182, 1, 210, 153, 0, 27, 29, 5, 112, 154, 0, 21, 29, 133]
abbrev dktX3_canAsk_0 : List UInt8 := dkwX3_canAsk_0 ++ dktX3_canAsk_1
theorem dksX3_canAsk_0 : cX3_canAsk.data.toList.drop 0 = dktX3_canAsk_0 := by decide +kernel
theorem dksX3_canAsk_1 : cX3_canAsk.data.toList.drop 24 = dktX3_canAsk_1 := dk_seg dksX3_canAsk_0 24 rfl rfl
theorem dX3_canAsk_0 : decode cX3_canAsk 0 = .ok (.aload_n 0, 1) := dk_42 (dk_at dksX3_canAsk_0 0 rfl rfl)
theorem dX3_canAsk_1 : decode cX3_canAsk 1 = .ok (.iload_n 1, 1) := dk_27 (dk_at dksX3_canAsk_0 1 rfl rfl)
theorem dX3_canAsk_2 : decode cX3_canAsk 2 = .ok (.invokevirtual 297, 3) := dk_182 1 41 (dk_at dksX3_canAsk_0 2 rfl rfl)
theorem dX3_canAsk_5 : decode cX3_canAsk 5 = .ok (.ifCond .eq 35, 3) := dk_153 0 35 (dk_at dksX3_canAsk_0 5 rfl rfl)
theorem dX3_canAsk_8 : decode cX3_canAsk 8 = .ok (.aload_n 0, 1) := dk_42 (dk_at dksX3_canAsk_0 8 rfl rfl)
theorem dX3_canAsk_9 : decode cX3_canAsk 9 = .ok (.iload_n 2, 1) := dk_28 (dk_at dksX3_canAsk_0 9 rfl rfl)
theorem dX3_canAsk_10 : decode cX3_canAsk 10 = .ok (.invokevirtual 466, 3) := dk_182 1 210 (dk_at dksX3_canAsk_0 10 rfl rfl)
theorem dX3_canAsk_13 : decode cX3_canAsk 13 = .ok (.ifCond .eq 27, 3) := dk_153 0 27 (dk_at dksX3_canAsk_0 13 rfl rfl)
theorem dX3_canAsk_16 : decode cX3_canAsk 16 = .ok (.iload_n 3, 1) := dk_29 (dk_at dksX3_canAsk_0 16 rfl rfl)
theorem dX3_canAsk_17 : decode cX3_canAsk 17 = .ok (.iconst 2, 1) := dk_5 (dk_at dksX3_canAsk_0 17 rfl rfl)
theorem dX3_canAsk_18 : decode cX3_canAsk 18 = .ok (.irem, 1) := dk_112 (dk_at dksX3_canAsk_0 18 rfl rfl)
theorem dX3_canAsk_19 : decode cX3_canAsk 19 = .ok (.ifCond .ne 21, 3) := dk_154 0 21 (dk_at dksX3_canAsk_0 19 rfl rfl)
theorem dX3_canAsk_22 : decode cX3_canAsk 22 = .ok (.iload_n 3, 1) := dk_29 (dk_at dksX3_canAsk_0 22 rfl rfl)
theorem dX3_canAsk_23 : decode cX3_canAsk 23 = .ok (.i2l, 1) := dk_133 (dk_at dksX3_canAsk_0 23 rfl rfl)
theorem dX3_canAsk_24 : decode cX3_canAsk 24 = .ok (.ldc2_w 484, 3) := dk_20 1 228 (dk_at dksX3_canAsk_1 0 rfl rfl)
theorem dX3_canAsk_27 : decode cX3_canAsk 27 = .ok (.ldc2_w 486, 3) := dk_20 1 230 (dk_at dksX3_canAsk_1 3 rfl rfl)
theorem dX3_canAsk_30 : decode cX3_canAsk 30 = .ok (.invokestatic 274, 3) := dk_184 1 18 (dk_at dksX3_canAsk_1 6 rfl rfl)
theorem dX3_canAsk_33 : decode cX3_canAsk 33 = .ok (.ifCond .eq 7, 3) := dk_153 0 7 (dk_at dksX3_canAsk_1 9 rfl rfl)
theorem dX3_canAsk_36 : decode cX3_canAsk 36 = .ok (.iconst 1, 1) := dk_4 (dk_at dksX3_canAsk_1 12 rfl rfl)
theorem dX3_canAsk_37 : decode cX3_canAsk 37 = .ok (.goto 4, 3) := dk_167 0 4 (dk_at dksX3_canAsk_1 13 rfl rfl)
theorem dX3_canAsk_40 : decode cX3_canAsk 40 = .ok (.iconst 0, 1) := dk_3 (dk_at dksX3_canAsk_1 16 rfl rfl)
theorem dX3_canAsk_41 : decode cX3_canAsk 41 = .ok (.ireturn, 1) := dk_172 (dk_at dksX3_canAsk_1 17 rfl rfl)
abbrev cX3_barred : ByteArray := prog_14_method_61_code
def yX3_barred : MethodName := ⟨RX3, "barred", "(III)I"⟩
def dkwX3_barred_2 : List UInt8 := [162, 0, 8, 16, 7, 167, 0, 4, 3, 172]
abbrev dktX3_barred_2 : List UInt8 := dkwX3_barred_2 ++ []
def dkwX3_barred_1 : List UInt8 := [46, 29, 162, 0, 8, 16, 6, 167, 0, 26, 42, 180, 0, 99, 27, 46, 42, 180, 0, 102, 27, 46, 100, 29]
abbrev dktX3_barred_1 : List UInt8 := dkwX3_barred_1 ++ dktX3_barred_2
def dkwX3_barred_0 : List UInt8 := [42, 27, 28, 29, 182, 1, 225, 54, 4, 21, 4, 153, 0, 8, 21, 4, 167, 0, 41, 42, 180, 0, 200, 28]
abbrev dktX3_barred_0 : List UInt8 := dkwX3_barred_0 ++ dktX3_barred_1
theorem dksX3_barred_0 : cX3_barred.data.toList.drop 0 = dktX3_barred_0 := by decide +kernel
theorem dksX3_barred_1 : cX3_barred.data.toList.drop 24 = dktX3_barred_1 := dk_seg dksX3_barred_0 24 rfl rfl
theorem dksX3_barred_2 : cX3_barred.data.toList.drop 48 = dktX3_barred_2 := dk_seg dksX3_barred_1 24 rfl rfl
theorem dX3_barred_0 : decode cX3_barred 0 = .ok (.aload_n 0, 1) := dk_42 (dk_at dksX3_barred_0 0 rfl rfl)
theorem dX3_barred_1 : decode cX3_barred 1 = .ok (.iload_n 1, 1) := dk_27 (dk_at dksX3_barred_0 1 rfl rfl)
theorem dX3_barred_2 : decode cX3_barred 2 = .ok (.iload_n 2, 1) := dk_28 (dk_at dksX3_barred_0 2 rfl rfl)
theorem dX3_barred_3 : decode cX3_barred 3 = .ok (.iload_n 3, 1) := dk_29 (dk_at dksX3_barred_0 3 rfl rfl)
theorem dX3_barred_4 : decode cX3_barred 4 = .ok (.invokevirtual 481, 3) := dk_182 1 225 (dk_at dksX3_barred_0 4 rfl rfl)
theorem dX3_barred_7 : decode cX3_barred 7 = .ok (.istore 4, 2) := dk_54 4 (dk_at dksX3_barred_0 7 rfl rfl)
theorem dX3_barred_9 : decode cX3_barred 9 = .ok (.iload 4, 2) := dk_21 4 (dk_at dksX3_barred_0 9 rfl rfl)
theorem dX3_barred_11 : decode cX3_barred 11 = .ok (.ifCond .eq 8, 3) := dk_153 0 8 (dk_at dksX3_barred_0 11 rfl rfl)
theorem dX3_barred_14 : decode cX3_barred 14 = .ok (.iload 4, 2) := dk_21 4 (dk_at dksX3_barred_0 14 rfl rfl)
theorem dX3_barred_16 : decode cX3_barred 16 = .ok (.goto 41, 3) := dk_167 0 41 (dk_at dksX3_barred_0 16 rfl rfl)
theorem dX3_barred_19 : decode cX3_barred 19 = .ok (.aload_n 0, 1) := dk_42 (dk_at dksX3_barred_0 19 rfl rfl)
theorem dX3_barred_20 : decode cX3_barred 20 = .ok (.getfield 200, 3) := dk_180 0 200 (dk_at dksX3_barred_0 20 rfl rfl)
theorem dX3_barred_23 : decode cX3_barred 23 = .ok (.iload_n 2, 1) := dk_28 (dk_at dksX3_barred_0 23 rfl rfl)
theorem dX3_barred_24 : decode cX3_barred 24 = .ok (.iaload, 1) := dk_46 (dk_at dksX3_barred_1 0 rfl rfl)
theorem dX3_barred_25 : decode cX3_barred 25 = .ok (.iload_n 3, 1) := dk_29 (dk_at dksX3_barred_1 1 rfl rfl)
theorem dX3_barred_26 : decode cX3_barred 26 = .ok (.if_icmp .ge 8, 3) := dk_162 0 8 (dk_at dksX3_barred_1 2 rfl rfl)
theorem dX3_barred_29 : decode cX3_barred 29 = .ok (.bipush 6, 2) := dk_16 6 (dk_at dksX3_barred_1 5 rfl rfl)
theorem dX3_barred_31 : decode cX3_barred 31 = .ok (.goto 26, 3) := dk_167 0 26 (dk_at dksX3_barred_1 7 rfl rfl)
theorem dX3_barred_34 : decode cX3_barred 34 = .ok (.aload_n 0, 1) := dk_42 (dk_at dksX3_barred_1 10 rfl rfl)
theorem dX3_barred_35 : decode cX3_barred 35 = .ok (.getfield 99, 3) := dk_180 0 99 (dk_at dksX3_barred_1 11 rfl rfl)
theorem dX3_barred_38 : decode cX3_barred 38 = .ok (.iload_n 1, 1) := dk_27 (dk_at dksX3_barred_1 14 rfl rfl)
theorem dX3_barred_39 : decode cX3_barred 39 = .ok (.iaload, 1) := dk_46 (dk_at dksX3_barred_1 15 rfl rfl)
theorem dX3_barred_40 : decode cX3_barred 40 = .ok (.aload_n 0, 1) := dk_42 (dk_at dksX3_barred_1 16 rfl rfl)
theorem dX3_barred_41 : decode cX3_barred 41 = .ok (.getfield 102, 3) := dk_180 0 102 (dk_at dksX3_barred_1 17 rfl rfl)
theorem dX3_barred_44 : decode cX3_barred 44 = .ok (.iload_n 1, 1) := dk_27 (dk_at dksX3_barred_1 20 rfl rfl)
theorem dX3_barred_45 : decode cX3_barred 45 = .ok (.iaload, 1) := dk_46 (dk_at dksX3_barred_1 21 rfl rfl)
theorem dX3_barred_46 : decode cX3_barred 46 = .ok (.isub, 1) := dk_100 (dk_at dksX3_barred_1 22 rfl rfl)
theorem dX3_barred_47 : decode cX3_barred 47 = .ok (.iload_n 3, 1) := dk_29 (dk_at dksX3_barred_1 23 rfl rfl)
theorem dX3_barred_48 : decode cX3_barred 48 = .ok (.if_icmp .ge 8, 3) := dk_162 0 8 (dk_at dksX3_barred_2 0 rfl rfl)
theorem dX3_barred_51 : decode cX3_barred 51 = .ok (.bipush 7, 2) := dk_16 7 (dk_at dksX3_barred_2 3 rfl rfl)
theorem dX3_barred_53 : decode cX3_barred 53 = .ok (.goto 4, 3) := dk_167 0 4 (dk_at dksX3_barred_2 5 rfl rfl)
theorem dX3_barred_56 : decode cX3_barred 56 = .ok (.iconst 0, 1) := dk_3 (dk_at dksX3_barred_2 8 rfl rfl)
theorem dX3_barred_57 : decode cX3_barred 57 = .ok (.ireturn, 1) := dk_172 (dk_at dksX3_barred_2 9 rfl rfl)
abbrev cX3_barOf : ByteArray := prog_14_method_60_code
def yX3_barOf : MethodName := ⟨RX3, "barOf", "(III)I"⟩
def dkwX3_barOf_4 : List UInt8 := [6, 182, 1, 189, 4, 160, 0, 7, 3, 167, 0, 4, 8, 172]
abbrev dktX3_barOf_4 : List UInt8 := dkwX3_barOf_4 ++ []
def dkwX3_barOf_3 : List UInt8 := [46, 42, 180, 0, 63, 27, 46, 182, 1, 37, 2, 160, 0, 5, 7, 172, 42, 27, 28, 29, 182, 1, 222, 42]
abbrev dktX3_barOf_3 : List UInt8 := dkwX3_barOf_3 ++ dktX3_barOf_4
def dkwX3_barOf_2 : List UInt8 := [180, 0, 191, 28, 46, 16, 30, 96, 162, 0, 5, 6, 172, 42, 42, 180, 0, 63, 42, 180, 0, 185, 28, 46]
abbrev dktX3_barOf_2 : List UInt8 := dkwX3_barOf_2 ++ dktX3_barOf_3
def dkwX3_barOf_1 : List UInt8 := [42, 180, 0, 96, 27, 46, 133, 184, 1, 18, 154, 0, 5, 5, 172, 42, 180, 0, 194, 28, 46, 42]
abbrev dktX3_barOf_1 : List UInt8 := dkwX3_barOf_1 ++ dktX3_barOf_2
def dkwX3_barOf_0 : List UInt8 := [42, 27, 182, 1, 44, 154, 0, 5, 4, 172, 42, 180, 0, 191, 28, 46, 133, 42, 180, 0, 93, 27, 46, 133]
abbrev dktX3_barOf_0 : List UInt8 := dkwX3_barOf_0 ++ dktX3_barOf_1
theorem dksX3_barOf_0 : cX3_barOf.data.toList.drop 0 = dktX3_barOf_0 := by decide +kernel
theorem dksX3_barOf_1 : cX3_barOf.data.toList.drop 24 = dktX3_barOf_1 := dk_seg dksX3_barOf_0 24 rfl rfl
theorem dksX3_barOf_2 : cX3_barOf.data.toList.drop 46 = dktX3_barOf_2 := dk_seg dksX3_barOf_1 22 rfl rfl
theorem dksX3_barOf_3 : cX3_barOf.data.toList.drop 70 = dktX3_barOf_3 := dk_seg dksX3_barOf_2 24 rfl rfl
theorem dksX3_barOf_4 : cX3_barOf.data.toList.drop 94 = dktX3_barOf_4 := dk_seg dksX3_barOf_3 24 rfl rfl
theorem dX3_barOf_0 : decode cX3_barOf 0 = .ok (.aload_n 0, 1) := dk_42 (dk_at dksX3_barOf_0 0 rfl rfl)
theorem dX3_barOf_1 : decode cX3_barOf 1 = .ok (.iload_n 1, 1) := dk_27 (dk_at dksX3_barOf_0 1 rfl rfl)
theorem dX3_barOf_2 : decode cX3_barOf 2 = .ok (.invokevirtual 300, 3) := dk_182 1 44 (dk_at dksX3_barOf_0 2 rfl rfl)
theorem dX3_barOf_5 : decode cX3_barOf 5 = .ok (.ifCond .ne 5, 3) := dk_154 0 5 (dk_at dksX3_barOf_0 5 rfl rfl)
theorem dX3_barOf_8 : decode cX3_barOf 8 = .ok (.iconst 1, 1) := dk_4 (dk_at dksX3_barOf_0 8 rfl rfl)
theorem dX3_barOf_9 : decode cX3_barOf 9 = .ok (.ireturn, 1) := dk_172 (dk_at dksX3_barOf_0 9 rfl rfl)
theorem dX3_barOf_10 : decode cX3_barOf 10 = .ok (.aload_n 0, 1) := dk_42 (dk_at dksX3_barOf_0 10 rfl rfl)
theorem dX3_barOf_11 : decode cX3_barOf 11 = .ok (.getfield 191, 3) := dk_180 0 191 (dk_at dksX3_barOf_0 11 rfl rfl)
theorem dX3_barOf_14 : decode cX3_barOf 14 = .ok (.iload_n 2, 1) := dk_28 (dk_at dksX3_barOf_0 14 rfl rfl)
theorem dX3_barOf_15 : decode cX3_barOf 15 = .ok (.iaload, 1) := dk_46 (dk_at dksX3_barOf_0 15 rfl rfl)
theorem dX3_barOf_16 : decode cX3_barOf 16 = .ok (.i2l, 1) := dk_133 (dk_at dksX3_barOf_0 16 rfl rfl)
theorem dX3_barOf_17 : decode cX3_barOf 17 = .ok (.aload_n 0, 1) := dk_42 (dk_at dksX3_barOf_0 17 rfl rfl)
theorem dX3_barOf_18 : decode cX3_barOf 18 = .ok (.getfield 93, 3) := dk_180 0 93 (dk_at dksX3_barOf_0 18 rfl rfl)
theorem dX3_barOf_21 : decode cX3_barOf 21 = .ok (.iload_n 1, 1) := dk_27 (dk_at dksX3_barOf_0 21 rfl rfl)
theorem dX3_barOf_22 : decode cX3_barOf 22 = .ok (.iaload, 1) := dk_46 (dk_at dksX3_barOf_0 22 rfl rfl)
theorem dX3_barOf_23 : decode cX3_barOf 23 = .ok (.i2l, 1) := dk_133 (dk_at dksX3_barOf_0 23 rfl rfl)
theorem dX3_barOf_24 : decode cX3_barOf 24 = .ok (.aload_n 0, 1) := dk_42 (dk_at dksX3_barOf_1 0 rfl rfl)
theorem dX3_barOf_25 : decode cX3_barOf 25 = .ok (.getfield 96, 3) := dk_180 0 96 (dk_at dksX3_barOf_1 1 rfl rfl)
theorem dX3_barOf_28 : decode cX3_barOf 28 = .ok (.iload_n 1, 1) := dk_27 (dk_at dksX3_barOf_1 4 rfl rfl)
theorem dX3_barOf_29 : decode cX3_barOf 29 = .ok (.iaload, 1) := dk_46 (dk_at dksX3_barOf_1 5 rfl rfl)
theorem dX3_barOf_30 : decode cX3_barOf 30 = .ok (.i2l, 1) := dk_133 (dk_at dksX3_barOf_1 6 rfl rfl)
theorem dX3_barOf_31 : decode cX3_barOf 31 = .ok (.invokestatic 274, 3) := dk_184 1 18 (dk_at dksX3_barOf_1 7 rfl rfl)
theorem dX3_barOf_34 : decode cX3_barOf 34 = .ok (.ifCond .ne 5, 3) := dk_154 0 5 (dk_at dksX3_barOf_1 10 rfl rfl)
theorem dX3_barOf_37 : decode cX3_barOf 37 = .ok (.iconst 2, 1) := dk_5 (dk_at dksX3_barOf_1 13 rfl rfl)
theorem dX3_barOf_38 : decode cX3_barOf 38 = .ok (.ireturn, 1) := dk_172 (dk_at dksX3_barOf_1 14 rfl rfl)
theorem dX3_barOf_39 : decode cX3_barOf 39 = .ok (.aload_n 0, 1) := dk_42 (dk_at dksX3_barOf_1 15 rfl rfl)
theorem dX3_barOf_40 : decode cX3_barOf 40 = .ok (.getfield 194, 3) := dk_180 0 194 (dk_at dksX3_barOf_1 16 rfl rfl)
theorem dX3_barOf_43 : decode cX3_barOf 43 = .ok (.iload_n 2, 1) := dk_28 (dk_at dksX3_barOf_1 19 rfl rfl)
theorem dX3_barOf_44 : decode cX3_barOf 44 = .ok (.iaload, 1) := dk_46 (dk_at dksX3_barOf_1 20 rfl rfl)
theorem dX3_barOf_45 : decode cX3_barOf 45 = .ok (.aload_n 0, 1) := dk_42 (dk_at dksX3_barOf_1 21 rfl rfl)
theorem dX3_barOf_46 : decode cX3_barOf 46 = .ok (.getfield 191, 3) := dk_180 0 191 (dk_at dksX3_barOf_2 0 rfl rfl)
theorem dX3_barOf_49 : decode cX3_barOf 49 = .ok (.iload_n 2, 1) := dk_28 (dk_at dksX3_barOf_2 3 rfl rfl)
theorem dX3_barOf_50 : decode cX3_barOf 50 = .ok (.iaload, 1) := dk_46 (dk_at dksX3_barOf_2 4 rfl rfl)
theorem dX3_barOf_51 : decode cX3_barOf 51 = .ok (.bipush 30, 2) := dk_16 30 (dk_at dksX3_barOf_2 5 rfl rfl)
theorem dX3_barOf_53 : decode cX3_barOf 53 = .ok (.iadd, 1) := dk_96 (dk_at dksX3_barOf_2 7 rfl rfl)
theorem dX3_barOf_54 : decode cX3_barOf 54 = .ok (.if_icmp .ge 5, 3) := dk_162 0 5 (dk_at dksX3_barOf_2 8 rfl rfl)
theorem dX3_barOf_57 : decode cX3_barOf 57 = .ok (.iconst 3, 1) := dk_6 (dk_at dksX3_barOf_2 11 rfl rfl)
theorem dX3_barOf_58 : decode cX3_barOf 58 = .ok (.ireturn, 1) := dk_172 (dk_at dksX3_barOf_2 12 rfl rfl)
theorem dX3_barOf_59 : decode cX3_barOf 59 = .ok (.aload_n 0, 1) := dk_42 (dk_at dksX3_barOf_2 13 rfl rfl)
theorem dX3_barOf_60 : decode cX3_barOf 60 = .ok (.aload_n 0, 1) := dk_42 (dk_at dksX3_barOf_2 14 rfl rfl)
theorem dX3_barOf_61 : decode cX3_barOf 61 = .ok (.getfield 63, 3) := dk_180 0 63 (dk_at dksX3_barOf_2 15 rfl rfl)
theorem dX3_barOf_64 : decode cX3_barOf 64 = .ok (.aload_n 0, 1) := dk_42 (dk_at dksX3_barOf_2 18 rfl rfl)
theorem dX3_barOf_65 : decode cX3_barOf 65 = .ok (.getfield 185, 3) := dk_180 0 185 (dk_at dksX3_barOf_2 19 rfl rfl)
theorem dX3_barOf_68 : decode cX3_barOf 68 = .ok (.iload_n 2, 1) := dk_28 (dk_at dksX3_barOf_2 22 rfl rfl)
theorem dX3_barOf_69 : decode cX3_barOf 69 = .ok (.iaload, 1) := dk_46 (dk_at dksX3_barOf_2 23 rfl rfl)
theorem dX3_barOf_70 : decode cX3_barOf 70 = .ok (.iaload, 1) := dk_46 (dk_at dksX3_barOf_3 0 rfl rfl)
theorem dX3_barOf_71 : decode cX3_barOf 71 = .ok (.aload_n 0, 1) := dk_42 (dk_at dksX3_barOf_3 1 rfl rfl)
theorem dX3_barOf_72 : decode cX3_barOf 72 = .ok (.getfield 63, 3) := dk_180 0 63 (dk_at dksX3_barOf_3 2 rfl rfl)
theorem dX3_barOf_75 : decode cX3_barOf 75 = .ok (.iload_n 1, 1) := dk_27 (dk_at dksX3_barOf_3 5 rfl rfl)
theorem dX3_barOf_76 : decode cX3_barOf 76 = .ok (.iaload, 1) := dk_46 (dk_at dksX3_barOf_3 6 rfl rfl)
theorem dX3_barOf_77 : decode cX3_barOf 77 = .ok (.invokevirtual 293, 3) := dk_182 1 37 (dk_at dksX3_barOf_3 7 rfl rfl)
theorem dX3_barOf_80 : decode cX3_barOf 80 = .ok (.iconst (-1), 1) := dk_2 (dk_at dksX3_barOf_3 10 rfl rfl)
theorem dX3_barOf_81 : decode cX3_barOf 81 = .ok (.if_icmp .ne 5, 3) := dk_160 0 5 (dk_at dksX3_barOf_3 11 rfl rfl)
theorem dX3_barOf_84 : decode cX3_barOf 84 = .ok (.iconst 4, 1) := dk_7 (dk_at dksX3_barOf_3 14 rfl rfl)
theorem dX3_barOf_85 : decode cX3_barOf 85 = .ok (.ireturn, 1) := dk_172 (dk_at dksX3_barOf_3 15 rfl rfl)
theorem dX3_barOf_86 : decode cX3_barOf 86 = .ok (.aload_n 0, 1) := dk_42 (dk_at dksX3_barOf_3 16 rfl rfl)
theorem dX3_barOf_87 : decode cX3_barOf 87 = .ok (.iload_n 1, 1) := dk_27 (dk_at dksX3_barOf_3 17 rfl rfl)
theorem dX3_barOf_88 : decode cX3_barOf 88 = .ok (.iload_n 2, 1) := dk_28 (dk_at dksX3_barOf_3 18 rfl rfl)
theorem dX3_barOf_89 : decode cX3_barOf 89 = .ok (.iload_n 3, 1) := dk_29 (dk_at dksX3_barOf_3 19 rfl rfl)
theorem dX3_barOf_90 : decode cX3_barOf 90 = .ok (.invokevirtual 478, 3) := dk_182 1 222 (dk_at dksX3_barOf_3 20 rfl rfl)
theorem dX3_barOf_93 : decode cX3_barOf 93 = .ok (.aload_n 0, 1) := dk_42 (dk_at dksX3_barOf_3 23 rfl rfl)
theorem dX3_barOf_94 : decode cX3_barOf 94 = .ok (.iconst 3, 1) := dk_6 (dk_at dksX3_barOf_4 0 rfl rfl)
theorem dX3_barOf_95 : decode cX3_barOf 95 = .ok (.invokevirtual 445, 3) := dk_182 1 189 (dk_at dksX3_barOf_4 1 rfl rfl)
theorem dX3_barOf_98 : decode cX3_barOf 98 = .ok (.iconst 1, 1) := dk_4 (dk_at dksX3_barOf_4 4 rfl rfl)
theorem dX3_barOf_99 : decode cX3_barOf 99 = .ok (.if_icmp .ne 7, 3) := dk_160 0 7 (dk_at dksX3_barOf_4 5 rfl rfl)
theorem dX3_barOf_102 : decode cX3_barOf 102 = .ok (.iconst 0, 1) := dk_3 (dk_at dksX3_barOf_4 8 rfl rfl)
theorem dX3_barOf_103 : decode cX3_barOf 103 = .ok (.goto 4, 3) := dk_167 0 4 (dk_at dksX3_barOf_4 9 rfl rfl)
theorem dX3_barOf_106 : decode cX3_barOf 106 = .ok (.iconst 5, 1) := dk_8 (dk_at dksX3_barOf_4 12 rfl rfl)
theorem dX3_barOf_107 : decode cX3_barOf 107 = .ok (.ireturn, 1) := dk_172 (dk_at dksX3_barOf_4 13 rfl rfl)
abbrev cX3_asksOf : ByteArray := prog_14_method_59_code
def yX3_asksOf : MethodName := ⟨RX3, "asksOf", "(III)V"⟩
def dkwX3_asksOf_2 : List UInt8 := [182, 1, 219, 177]
abbrev dktX3_asksOf_2 : List UInt8 := dkwX3_asksOf_2 ++ []
def dkwX3_asksOf_1 : List UInt8 := [46, 29, 42, 42, 180, 0, 63, 42, 180, 0, 185, 28, 46, 46, 42, 180, 0, 63, 27, 46, 182, 1, 37]
abbrev dktX3_asksOf_1 : List UInt8 := dkwX3_asksOf_1 ++ dktX3_asksOf_2
def dkwX3_asksOf_0 : List UInt8 := [42, 42, 180, 0, 185, 28, 46, 42, 180, 0, 72, 27, 46, 42, 180, 0, 191, 28, 46, 42, 180, 0, 194, 28]
abbrev dktX3_asksOf_0 : List UInt8 := dkwX3_asksOf_0 ++ dktX3_asksOf_1
theorem dksX3_asksOf_0 : cX3_asksOf.data.toList.drop 0 = dktX3_asksOf_0 := by decide +kernel
theorem dksX3_asksOf_1 : cX3_asksOf.data.toList.drop 24 = dktX3_asksOf_1 := dk_seg dksX3_asksOf_0 24 rfl rfl
theorem dksX3_asksOf_2 : cX3_asksOf.data.toList.drop 47 = dktX3_asksOf_2 := dk_seg dksX3_asksOf_1 23 rfl rfl
theorem dX3_asksOf_0 : decode cX3_asksOf 0 = .ok (.aload_n 0, 1) := dk_42 (dk_at dksX3_asksOf_0 0 rfl rfl)
theorem dX3_asksOf_1 : decode cX3_asksOf 1 = .ok (.aload_n 0, 1) := dk_42 (dk_at dksX3_asksOf_0 1 rfl rfl)
theorem dX3_asksOf_2 : decode cX3_asksOf 2 = .ok (.getfield 185, 3) := dk_180 0 185 (dk_at dksX3_asksOf_0 2 rfl rfl)
theorem dX3_asksOf_5 : decode cX3_asksOf 5 = .ok (.iload_n 2, 1) := dk_28 (dk_at dksX3_asksOf_0 5 rfl rfl)
theorem dX3_asksOf_6 : decode cX3_asksOf 6 = .ok (.iaload, 1) := dk_46 (dk_at dksX3_asksOf_0 6 rfl rfl)
theorem dX3_asksOf_7 : decode cX3_asksOf 7 = .ok (.aload_n 0, 1) := dk_42 (dk_at dksX3_asksOf_0 7 rfl rfl)
theorem dX3_asksOf_8 : decode cX3_asksOf 8 = .ok (.getfield 72, 3) := dk_180 0 72 (dk_at dksX3_asksOf_0 8 rfl rfl)
theorem dX3_asksOf_11 : decode cX3_asksOf 11 = .ok (.iload_n 1, 1) := dk_27 (dk_at dksX3_asksOf_0 11 rfl rfl)
theorem dX3_asksOf_12 : decode cX3_asksOf 12 = .ok (.iaload, 1) := dk_46 (dk_at dksX3_asksOf_0 12 rfl rfl)
theorem dX3_asksOf_13 : decode cX3_asksOf 13 = .ok (.aload_n 0, 1) := dk_42 (dk_at dksX3_asksOf_0 13 rfl rfl)
theorem dX3_asksOf_14 : decode cX3_asksOf 14 = .ok (.getfield 191, 3) := dk_180 0 191 (dk_at dksX3_asksOf_0 14 rfl rfl)
theorem dX3_asksOf_17 : decode cX3_asksOf 17 = .ok (.iload_n 2, 1) := dk_28 (dk_at dksX3_asksOf_0 17 rfl rfl)
theorem dX3_asksOf_18 : decode cX3_asksOf 18 = .ok (.iaload, 1) := dk_46 (dk_at dksX3_asksOf_0 18 rfl rfl)
theorem dX3_asksOf_19 : decode cX3_asksOf 19 = .ok (.aload_n 0, 1) := dk_42 (dk_at dksX3_asksOf_0 19 rfl rfl)
theorem dX3_asksOf_20 : decode cX3_asksOf 20 = .ok (.getfield 194, 3) := dk_180 0 194 (dk_at dksX3_asksOf_0 20 rfl rfl)
theorem dX3_asksOf_23 : decode cX3_asksOf 23 = .ok (.iload_n 2, 1) := dk_28 (dk_at dksX3_asksOf_0 23 rfl rfl)
theorem dX3_asksOf_24 : decode cX3_asksOf 24 = .ok (.iaload, 1) := dk_46 (dk_at dksX3_asksOf_1 0 rfl rfl)
theorem dX3_asksOf_25 : decode cX3_asksOf 25 = .ok (.iload_n 3, 1) := dk_29 (dk_at dksX3_asksOf_1 1 rfl rfl)
theorem dX3_asksOf_26 : decode cX3_asksOf 26 = .ok (.aload_n 0, 1) := dk_42 (dk_at dksX3_asksOf_1 2 rfl rfl)
theorem dX3_asksOf_27 : decode cX3_asksOf 27 = .ok (.aload_n 0, 1) := dk_42 (dk_at dksX3_asksOf_1 3 rfl rfl)
theorem dX3_asksOf_28 : decode cX3_asksOf 28 = .ok (.getfield 63, 3) := dk_180 0 63 (dk_at dksX3_asksOf_1 4 rfl rfl)
theorem dX3_asksOf_31 : decode cX3_asksOf 31 = .ok (.aload_n 0, 1) := dk_42 (dk_at dksX3_asksOf_1 7 rfl rfl)
theorem dX3_asksOf_32 : decode cX3_asksOf 32 = .ok (.getfield 185, 3) := dk_180 0 185 (dk_at dksX3_asksOf_1 8 rfl rfl)
theorem dX3_asksOf_35 : decode cX3_asksOf 35 = .ok (.iload_n 2, 1) := dk_28 (dk_at dksX3_asksOf_1 11 rfl rfl)
theorem dX3_asksOf_36 : decode cX3_asksOf 36 = .ok (.iaload, 1) := dk_46 (dk_at dksX3_asksOf_1 12 rfl rfl)
theorem dX3_asksOf_37 : decode cX3_asksOf 37 = .ok (.iaload, 1) := dk_46 (dk_at dksX3_asksOf_1 13 rfl rfl)
theorem dX3_asksOf_38 : decode cX3_asksOf 38 = .ok (.aload_n 0, 1) := dk_42 (dk_at dksX3_asksOf_1 14 rfl rfl)
theorem dX3_asksOf_39 : decode cX3_asksOf 39 = .ok (.getfield 63, 3) := dk_180 0 63 (dk_at dksX3_asksOf_1 15 rfl rfl)
theorem dX3_asksOf_42 : decode cX3_asksOf 42 = .ok (.iload_n 1, 1) := dk_27 (dk_at dksX3_asksOf_1 18 rfl rfl)
theorem dX3_asksOf_43 : decode cX3_asksOf 43 = .ok (.iaload, 1) := dk_46 (dk_at dksX3_asksOf_1 19 rfl rfl)
theorem dX3_asksOf_44 : decode cX3_asksOf 44 = .ok (.invokevirtual 293, 3) := dk_182 1 37 (dk_at dksX3_asksOf_1 20 rfl rfl)
theorem dX3_asksOf_47 : decode cX3_asksOf 47 = .ok (.invokevirtual 475, 3) := dk_182 1 219 (dk_at dksX3_asksOf_2 0 rfl rfl)
theorem dX3_asksOf_50 : decode cX3_asksOf 50 = .ok (.return_, 1) := dk_177 (dk_at dksX3_asksOf_2 3 rfl rfl)
abbrev cX3_asksOf_2 : ByteArray := prog_14_method_48_code
def yX3_asksOf_2 : MethodName := ⟨RX3, "asksOf", "(IIIIII)V"⟩
def dkwX3_asksOf_2_2 : List UInt8 := [21, 6, 79, 177]
abbrev dktX3_asksOf_2_2 : List UInt8 := dkwX3_asksOf_2_2 ++ []
def dkwX3_asksOf_2_1 : List UInt8 := [180, 0, 179, 16, 8, 21, 4, 79, 42, 180, 0, 179, 16, 9, 21, 5, 79, 42, 180, 0, 179, 16, 11]
abbrev dktX3_asksOf_2_1 : List UInt8 := dkwX3_asksOf_2_1 ++ dktX3_asksOf_2_2
def dkwX3_asksOf_2_0 : List UInt8 := [42, 27, 182, 1, 186, 42, 180, 0, 179, 16, 6, 28, 79, 42, 180, 0, 179, 16, 7, 29, 79, 42]
abbrev dktX3_asksOf_2_0 : List UInt8 := dkwX3_asksOf_2_0 ++ dktX3_asksOf_2_1
theorem dksX3_asksOf_2_0 : cX3_asksOf_2.data.toList.drop 0 = dktX3_asksOf_2_0 := by decide +kernel
theorem dksX3_asksOf_2_1 : cX3_asksOf_2.data.toList.drop 22 = dktX3_asksOf_2_1 := dk_seg dksX3_asksOf_2_0 22 rfl rfl
theorem dksX3_asksOf_2_2 : cX3_asksOf_2.data.toList.drop 45 = dktX3_asksOf_2_2 := dk_seg dksX3_asksOf_2_1 23 rfl rfl
theorem dX3_asksOf_2_0 : decode cX3_asksOf_2 0 = .ok (.aload_n 0, 1) := dk_42 (dk_at dksX3_asksOf_2_0 0 rfl rfl)
theorem dX3_asksOf_2_1 : decode cX3_asksOf_2 1 = .ok (.iload_n 1, 1) := dk_27 (dk_at dksX3_asksOf_2_0 1 rfl rfl)
theorem dX3_asksOf_2_2 : decode cX3_asksOf_2 2 = .ok (.invokevirtual 442, 3) := dk_182 1 186 (dk_at dksX3_asksOf_2_0 2 rfl rfl)
theorem dX3_asksOf_2_5 : decode cX3_asksOf_2 5 = .ok (.aload_n 0, 1) := dk_42 (dk_at dksX3_asksOf_2_0 5 rfl rfl)
theorem dX3_asksOf_2_6 : decode cX3_asksOf_2 6 = .ok (.getfield 179, 3) := dk_180 0 179 (dk_at dksX3_asksOf_2_0 6 rfl rfl)
theorem dX3_asksOf_2_9 : decode cX3_asksOf_2 9 = .ok (.bipush 6, 2) := dk_16 6 (dk_at dksX3_asksOf_2_0 9 rfl rfl)
theorem dX3_asksOf_2_11 : decode cX3_asksOf_2 11 = .ok (.iload_n 2, 1) := dk_28 (dk_at dksX3_asksOf_2_0 11 rfl rfl)
theorem dX3_asksOf_2_12 : decode cX3_asksOf_2 12 = .ok (.iastore, 1) := dk_79 (dk_at dksX3_asksOf_2_0 12 rfl rfl)
theorem dX3_asksOf_2_13 : decode cX3_asksOf_2 13 = .ok (.aload_n 0, 1) := dk_42 (dk_at dksX3_asksOf_2_0 13 rfl rfl)
theorem dX3_asksOf_2_14 : decode cX3_asksOf_2 14 = .ok (.getfield 179, 3) := dk_180 0 179 (dk_at dksX3_asksOf_2_0 14 rfl rfl)
theorem dX3_asksOf_2_17 : decode cX3_asksOf_2 17 = .ok (.bipush 7, 2) := dk_16 7 (dk_at dksX3_asksOf_2_0 17 rfl rfl)
theorem dX3_asksOf_2_19 : decode cX3_asksOf_2 19 = .ok (.iload_n 3, 1) := dk_29 (dk_at dksX3_asksOf_2_0 19 rfl rfl)
theorem dX3_asksOf_2_20 : decode cX3_asksOf_2 20 = .ok (.iastore, 1) := dk_79 (dk_at dksX3_asksOf_2_0 20 rfl rfl)
theorem dX3_asksOf_2_21 : decode cX3_asksOf_2 21 = .ok (.aload_n 0, 1) := dk_42 (dk_at dksX3_asksOf_2_0 21 rfl rfl)
theorem dX3_asksOf_2_22 : decode cX3_asksOf_2 22 = .ok (.getfield 179, 3) := dk_180 0 179 (dk_at dksX3_asksOf_2_1 0 rfl rfl)
theorem dX3_asksOf_2_25 : decode cX3_asksOf_2 25 = .ok (.bipush 8, 2) := dk_16 8 (dk_at dksX3_asksOf_2_1 3 rfl rfl)
theorem dX3_asksOf_2_27 : decode cX3_asksOf_2 27 = .ok (.iload 4, 2) := dk_21 4 (dk_at dksX3_asksOf_2_1 5 rfl rfl)
theorem dX3_asksOf_2_29 : decode cX3_asksOf_2 29 = .ok (.iastore, 1) := dk_79 (dk_at dksX3_asksOf_2_1 7 rfl rfl)
theorem dX3_asksOf_2_30 : decode cX3_asksOf_2 30 = .ok (.aload_n 0, 1) := dk_42 (dk_at dksX3_asksOf_2_1 8 rfl rfl)
theorem dX3_asksOf_2_31 : decode cX3_asksOf_2 31 = .ok (.getfield 179, 3) := dk_180 0 179 (dk_at dksX3_asksOf_2_1 9 rfl rfl)
theorem dX3_asksOf_2_34 : decode cX3_asksOf_2 34 = .ok (.bipush 9, 2) := dk_16 9 (dk_at dksX3_asksOf_2_1 12 rfl rfl)
theorem dX3_asksOf_2_36 : decode cX3_asksOf_2 36 = .ok (.iload 5, 2) := dk_21 5 (dk_at dksX3_asksOf_2_1 14 rfl rfl)
theorem dX3_asksOf_2_38 : decode cX3_asksOf_2 38 = .ok (.iastore, 1) := dk_79 (dk_at dksX3_asksOf_2_1 16 rfl rfl)
theorem dX3_asksOf_2_39 : decode cX3_asksOf_2 39 = .ok (.aload_n 0, 1) := dk_42 (dk_at dksX3_asksOf_2_1 17 rfl rfl)
theorem dX3_asksOf_2_40 : decode cX3_asksOf_2 40 = .ok (.getfield 179, 3) := dk_180 0 179 (dk_at dksX3_asksOf_2_1 18 rfl rfl)
theorem dX3_asksOf_2_43 : decode cX3_asksOf_2 43 = .ok (.bipush 11, 2) := dk_16 11 (dk_at dksX3_asksOf_2_1 21 rfl rfl)
theorem dX3_asksOf_2_45 : decode cX3_asksOf_2 45 = .ok (.iload 6, 2) := dk_21 6 (dk_at dksX3_asksOf_2_2 0 rfl rfl)
theorem dX3_asksOf_2_47 : decode cX3_asksOf_2 47 = .ok (.iastore, 1) := dk_79 (dk_at dksX3_asksOf_2_2 2 rfl rfl)
theorem dX3_asksOf_2_48 : decode cX3_asksOf_2 48 = .ok (.return_, 1) := dk_177 (dk_at dksX3_asksOf_2_2 3 rfl rfl)
abbrev cX3_asksOf_3 : ByteArray := prog_14_method_47_code
def yX3_asksOf_3 : MethodName := ⟨RX3, "asksOf", "(I)V"⟩
def dkwX3_asksOf_3_3 : List UInt8 := [180, 1, 30, 184, 1, 180, 46, 79, 177]
abbrev dktX3_asksOf_3_3 : List UInt8 := dkwX3_asksOf_3_3 ++ []
def dkwX3_asksOf_3_2 : List UInt8 := [180, 0, 72, 27, 46, 79, 42, 180, 0, 179, 16, 10, 42, 180, 0, 11, 42, 180, 0, 63, 27, 46, 50, 42]
abbrev dktX3_asksOf_3_2 : List UInt8 := dkwX3_asksOf_3_2 ++ dktX3_asksOf_3_3
def dkwX3_asksOf_3_1 : List UInt8 := [180, 0, 66, 27, 46, 79, 42, 180, 0, 179, 7, 42, 180, 0, 69, 27, 46, 79, 42, 180, 0, 179, 8, 42]
abbrev dktX3_asksOf_3_1 : List UInt8 := dkwX3_asksOf_3_1 ++ dktX3_asksOf_3_2
def dkwX3_asksOf_3_0 : List UInt8 := [42, 182, 1, 183, 42, 180, 0, 179, 5, 42, 180, 0, 75, 27, 46, 79, 42, 180, 0, 179, 6, 42]
abbrev dktX3_asksOf_3_0 : List UInt8 := dkwX3_asksOf_3_0 ++ dktX3_asksOf_3_1
theorem dksX3_asksOf_3_0 : cX3_asksOf_3.data.toList.drop 0 = dktX3_asksOf_3_0 := by decide +kernel
theorem dksX3_asksOf_3_1 : cX3_asksOf_3.data.toList.drop 22 = dktX3_asksOf_3_1 := dk_seg dksX3_asksOf_3_0 22 rfl rfl
theorem dksX3_asksOf_3_2 : cX3_asksOf_3.data.toList.drop 46 = dktX3_asksOf_3_2 := dk_seg dksX3_asksOf_3_1 24 rfl rfl
theorem dksX3_asksOf_3_3 : cX3_asksOf_3.data.toList.drop 70 = dktX3_asksOf_3_3 := dk_seg dksX3_asksOf_3_2 24 rfl rfl
theorem dX3_asksOf_3_0 : decode cX3_asksOf_3 0 = .ok (.aload_n 0, 1) := dk_42 (dk_at dksX3_asksOf_3_0 0 rfl rfl)
theorem dX3_asksOf_3_1 : decode cX3_asksOf_3 1 = .ok (.invokevirtual 439, 3) := dk_182 1 183 (dk_at dksX3_asksOf_3_0 1 rfl rfl)
theorem dX3_asksOf_3_4 : decode cX3_asksOf_3 4 = .ok (.aload_n 0, 1) := dk_42 (dk_at dksX3_asksOf_3_0 4 rfl rfl)
theorem dX3_asksOf_3_5 : decode cX3_asksOf_3 5 = .ok (.getfield 179, 3) := dk_180 0 179 (dk_at dksX3_asksOf_3_0 5 rfl rfl)
theorem dX3_asksOf_3_8 : decode cX3_asksOf_3 8 = .ok (.iconst 2, 1) := dk_5 (dk_at dksX3_asksOf_3_0 8 rfl rfl)
theorem dX3_asksOf_3_9 : decode cX3_asksOf_3 9 = .ok (.aload_n 0, 1) := dk_42 (dk_at dksX3_asksOf_3_0 9 rfl rfl)
theorem dX3_asksOf_3_10 : decode cX3_asksOf_3 10 = .ok (.getfield 75, 3) := dk_180 0 75 (dk_at dksX3_asksOf_3_0 10 rfl rfl)
theorem dX3_asksOf_3_13 : decode cX3_asksOf_3 13 = .ok (.iload_n 1, 1) := dk_27 (dk_at dksX3_asksOf_3_0 13 rfl rfl)
theorem dX3_asksOf_3_14 : decode cX3_asksOf_3 14 = .ok (.iaload, 1) := dk_46 (dk_at dksX3_asksOf_3_0 14 rfl rfl)
theorem dX3_asksOf_3_15 : decode cX3_asksOf_3 15 = .ok (.iastore, 1) := dk_79 (dk_at dksX3_asksOf_3_0 15 rfl rfl)
theorem dX3_asksOf_3_16 : decode cX3_asksOf_3 16 = .ok (.aload_n 0, 1) := dk_42 (dk_at dksX3_asksOf_3_0 16 rfl rfl)
theorem dX3_asksOf_3_17 : decode cX3_asksOf_3 17 = .ok (.getfield 179, 3) := dk_180 0 179 (dk_at dksX3_asksOf_3_0 17 rfl rfl)
theorem dX3_asksOf_3_20 : decode cX3_asksOf_3 20 = .ok (.iconst 3, 1) := dk_6 (dk_at dksX3_asksOf_3_0 20 rfl rfl)
theorem dX3_asksOf_3_21 : decode cX3_asksOf_3 21 = .ok (.aload_n 0, 1) := dk_42 (dk_at dksX3_asksOf_3_0 21 rfl rfl)
theorem dX3_asksOf_3_22 : decode cX3_asksOf_3 22 = .ok (.getfield 66, 3) := dk_180 0 66 (dk_at dksX3_asksOf_3_1 0 rfl rfl)
theorem dX3_asksOf_3_25 : decode cX3_asksOf_3 25 = .ok (.iload_n 1, 1) := dk_27 (dk_at dksX3_asksOf_3_1 3 rfl rfl)
theorem dX3_asksOf_3_26 : decode cX3_asksOf_3 26 = .ok (.iaload, 1) := dk_46 (dk_at dksX3_asksOf_3_1 4 rfl rfl)
theorem dX3_asksOf_3_27 : decode cX3_asksOf_3 27 = .ok (.iastore, 1) := dk_79 (dk_at dksX3_asksOf_3_1 5 rfl rfl)
theorem dX3_asksOf_3_28 : decode cX3_asksOf_3 28 = .ok (.aload_n 0, 1) := dk_42 (dk_at dksX3_asksOf_3_1 6 rfl rfl)
theorem dX3_asksOf_3_29 : decode cX3_asksOf_3 29 = .ok (.getfield 179, 3) := dk_180 0 179 (dk_at dksX3_asksOf_3_1 7 rfl rfl)
theorem dX3_asksOf_3_32 : decode cX3_asksOf_3 32 = .ok (.iconst 4, 1) := dk_7 (dk_at dksX3_asksOf_3_1 10 rfl rfl)
theorem dX3_asksOf_3_33 : decode cX3_asksOf_3 33 = .ok (.aload_n 0, 1) := dk_42 (dk_at dksX3_asksOf_3_1 11 rfl rfl)
theorem dX3_asksOf_3_34 : decode cX3_asksOf_3 34 = .ok (.getfield 69, 3) := dk_180 0 69 (dk_at dksX3_asksOf_3_1 12 rfl rfl)
theorem dX3_asksOf_3_37 : decode cX3_asksOf_3 37 = .ok (.iload_n 1, 1) := dk_27 (dk_at dksX3_asksOf_3_1 15 rfl rfl)
theorem dX3_asksOf_3_38 : decode cX3_asksOf_3 38 = .ok (.iaload, 1) := dk_46 (dk_at dksX3_asksOf_3_1 16 rfl rfl)
theorem dX3_asksOf_3_39 : decode cX3_asksOf_3 39 = .ok (.iastore, 1) := dk_79 (dk_at dksX3_asksOf_3_1 17 rfl rfl)
theorem dX3_asksOf_3_40 : decode cX3_asksOf_3 40 = .ok (.aload_n 0, 1) := dk_42 (dk_at dksX3_asksOf_3_1 18 rfl rfl)
theorem dX3_asksOf_3_41 : decode cX3_asksOf_3 41 = .ok (.getfield 179, 3) := dk_180 0 179 (dk_at dksX3_asksOf_3_1 19 rfl rfl)
theorem dX3_asksOf_3_44 : decode cX3_asksOf_3 44 = .ok (.iconst 5, 1) := dk_8 (dk_at dksX3_asksOf_3_1 22 rfl rfl)
theorem dX3_asksOf_3_45 : decode cX3_asksOf_3 45 = .ok (.aload_n 0, 1) := dk_42 (dk_at dksX3_asksOf_3_1 23 rfl rfl)
theorem dX3_asksOf_3_46 : decode cX3_asksOf_3 46 = .ok (.getfield 72, 3) := dk_180 0 72 (dk_at dksX3_asksOf_3_2 0 rfl rfl)
theorem dX3_asksOf_3_49 : decode cX3_asksOf_3 49 = .ok (.iload_n 1, 1) := dk_27 (dk_at dksX3_asksOf_3_2 3 rfl rfl)
theorem dX3_asksOf_3_50 : decode cX3_asksOf_3 50 = .ok (.iaload, 1) := dk_46 (dk_at dksX3_asksOf_3_2 4 rfl rfl)
theorem dX3_asksOf_3_51 : decode cX3_asksOf_3 51 = .ok (.iastore, 1) := dk_79 (dk_at dksX3_asksOf_3_2 5 rfl rfl)
theorem dX3_asksOf_3_52 : decode cX3_asksOf_3 52 = .ok (.aload_n 0, 1) := dk_42 (dk_at dksX3_asksOf_3_2 6 rfl rfl)
theorem dX3_asksOf_3_53 : decode cX3_asksOf_3 53 = .ok (.getfield 179, 3) := dk_180 0 179 (dk_at dksX3_asksOf_3_2 7 rfl rfl)
theorem dX3_asksOf_3_56 : decode cX3_asksOf_3 56 = .ok (.bipush 10, 2) := dk_16 10 (dk_at dksX3_asksOf_3_2 10 rfl rfl)
theorem dX3_asksOf_3_58 : decode cX3_asksOf_3 58 = .ok (.aload_n 0, 1) := dk_42 (dk_at dksX3_asksOf_3_2 12 rfl rfl)
theorem dX3_asksOf_3_59 : decode cX3_asksOf_3 59 = .ok (.getfield 11, 3) := dk_180 0 11 (dk_at dksX3_asksOf_3_2 13 rfl rfl)
theorem dX3_asksOf_3_62 : decode cX3_asksOf_3 62 = .ok (.aload_n 0, 1) := dk_42 (dk_at dksX3_asksOf_3_2 16 rfl rfl)
theorem dX3_asksOf_3_63 : decode cX3_asksOf_3 63 = .ok (.getfield 63, 3) := dk_180 0 63 (dk_at dksX3_asksOf_3_2 17 rfl rfl)
theorem dX3_asksOf_3_66 : decode cX3_asksOf_3 66 = .ok (.iload_n 1, 1) := dk_27 (dk_at dksX3_asksOf_3_2 20 rfl rfl)
theorem dX3_asksOf_3_67 : decode cX3_asksOf_3 67 = .ok (.iaload, 1) := dk_46 (dk_at dksX3_asksOf_3_2 21 rfl rfl)
theorem dX3_asksOf_3_68 : decode cX3_asksOf_3 68 = .ok (.aaload, 1) := dk_50 (dk_at dksX3_asksOf_3_2 22 rfl rfl)
theorem dX3_asksOf_3_69 : decode cX3_asksOf_3 69 = .ok (.aload_n 0, 1) := dk_42 (dk_at dksX3_asksOf_3_2 23 rfl rfl)
theorem dX3_asksOf_3_70 : decode cX3_asksOf_3 70 = .ok (.getfield 286, 3) := dk_180 1 30 (dk_at dksX3_asksOf_3_3 0 rfl rfl)
theorem dX3_asksOf_3_73 : decode cX3_asksOf_3 73 = .ok (.invokestatic 436, 3) := dk_184 1 180 (dk_at dksX3_asksOf_3_3 3 rfl rfl)
theorem dX3_asksOf_3_76 : decode cX3_asksOf_3 76 = .ok (.iaload, 1) := dk_46 (dk_at dksX3_asksOf_3_3 6 rfl rfl)
theorem dX3_asksOf_3_77 : decode cX3_asksOf_3 77 = .ok (.iastore, 1) := dk_79 (dk_at dksX3_asksOf_3_3 7 rfl rfl)
theorem dX3_asksOf_3_78 : decode cX3_asksOf_3 78 = .ok (.return_, 1) := dk_177 (dk_at dksX3_asksOf_3_3 8 rfl rfl)
abbrev cX3_clears : ByteArray := prog_14_method_46_code
def yX3_clears : MethodName := ⟨RX3, "clears", "()V"⟩
def dkwX3_clears_1 : List UInt8 := [180, 0, 179, 3, 42, 180, 1, 30, 79, 42, 180, 0, 179, 4, 42, 180, 1, 30, 184, 1, 180, 79, 177]
abbrev dktX3_clears_1 : List UInt8 := dkwX3_clears_1 ++ []
def dkwX3_clears_0 : List UInt8 := [3, 60, 27, 16, 13, 162, 0, 16, 42, 180, 0, 179, 27, 3, 79, 132, 1, 1, 167, 255, 240, 42]
abbrev dktX3_clears_0 : List UInt8 := dkwX3_clears_0 ++ dktX3_clears_1
theorem dksX3_clears_0 : cX3_clears.data.toList.drop 0 = dktX3_clears_0 := by decide +kernel
theorem dksX3_clears_1 : cX3_clears.data.toList.drop 22 = dktX3_clears_1 := dk_seg dksX3_clears_0 22 rfl rfl
theorem dX3_clears_0 : decode cX3_clears 0 = .ok (.iconst 0, 1) := dk_3 (dk_at dksX3_clears_0 0 rfl rfl)
theorem dX3_clears_1 : decode cX3_clears 1 = .ok (.istore_n 1, 1) := dk_60 (dk_at dksX3_clears_0 1 rfl rfl)
theorem dX3_clears_2 : decode cX3_clears 2 = .ok (.iload_n 1, 1) := dk_27 (dk_at dksX3_clears_0 2 rfl rfl)
theorem dX3_clears_3 : decode cX3_clears 3 = .ok (.bipush 13, 2) := dk_16 13 (dk_at dksX3_clears_0 3 rfl rfl)
theorem dX3_clears_5 : decode cX3_clears 5 = .ok (.if_icmp .ge 16, 3) := dk_162 0 16 (dk_at dksX3_clears_0 5 rfl rfl)
theorem dX3_clears_8 : decode cX3_clears 8 = .ok (.aload_n 0, 1) := dk_42 (dk_at dksX3_clears_0 8 rfl rfl)
theorem dX3_clears_9 : decode cX3_clears 9 = .ok (.getfield 179, 3) := dk_180 0 179 (dk_at dksX3_clears_0 9 rfl rfl)
theorem dX3_clears_12 : decode cX3_clears 12 = .ok (.iload_n 1, 1) := dk_27 (dk_at dksX3_clears_0 12 rfl rfl)
theorem dX3_clears_13 : decode cX3_clears 13 = .ok (.iconst 0, 1) := dk_3 (dk_at dksX3_clears_0 13 rfl rfl)
theorem dX3_clears_14 : decode cX3_clears 14 = .ok (.iastore, 1) := dk_79 (dk_at dksX3_clears_0 14 rfl rfl)
theorem dX3_clears_15 : decode cX3_clears 15 = .ok (.iinc 1 1, 3) := dk_132 1 1 (dk_at dksX3_clears_0 15 rfl rfl)
theorem dX3_clears_18 : decode cX3_clears 18 = .ok (.goto (-16), 3) := dk_167 255 240 (dk_at dksX3_clears_0 18 rfl rfl)
theorem dX3_clears_21 : decode cX3_clears 21 = .ok (.aload_n 0, 1) := dk_42 (dk_at dksX3_clears_0 21 rfl rfl)
theorem dX3_clears_22 : decode cX3_clears 22 = .ok (.getfield 179, 3) := dk_180 0 179 (dk_at dksX3_clears_1 0 rfl rfl)
theorem dX3_clears_25 : decode cX3_clears 25 = .ok (.iconst 0, 1) := dk_3 (dk_at dksX3_clears_1 3 rfl rfl)
theorem dX3_clears_26 : decode cX3_clears 26 = .ok (.aload_n 0, 1) := dk_42 (dk_at dksX3_clears_1 4 rfl rfl)
theorem dX3_clears_27 : decode cX3_clears 27 = .ok (.getfield 286, 3) := dk_180 1 30 (dk_at dksX3_clears_1 5 rfl rfl)
theorem dX3_clears_30 : decode cX3_clears 30 = .ok (.iastore, 1) := dk_79 (dk_at dksX3_clears_1 8 rfl rfl)
theorem dX3_clears_31 : decode cX3_clears 31 = .ok (.aload_n 0, 1) := dk_42 (dk_at dksX3_clears_1 9 rfl rfl)
theorem dX3_clears_32 : decode cX3_clears 32 = .ok (.getfield 179, 3) := dk_180 0 179 (dk_at dksX3_clears_1 10 rfl rfl)
theorem dX3_clears_35 : decode cX3_clears 35 = .ok (.iconst 1, 1) := dk_4 (dk_at dksX3_clears_1 13 rfl rfl)
theorem dX3_clears_36 : decode cX3_clears 36 = .ok (.aload_n 0, 1) := dk_42 (dk_at dksX3_clears_1 14 rfl rfl)
theorem dX3_clears_37 : decode cX3_clears 37 = .ok (.getfield 286, 3) := dk_180 1 30 (dk_at dksX3_clears_1 15 rfl rfl)
theorem dX3_clears_40 : decode cX3_clears 40 = .ok (.invokestatic 436, 3) := dk_184 1 180 (dk_at dksX3_clears_1 18 rfl rfl)
theorem dX3_clears_43 : decode cX3_clears 43 = .ok (.iastore, 1) := dk_79 (dk_at dksX3_clears_1 21 rfl rfl)
theorem dX3_clears_44 : decode cX3_clears 44 = .ok (.return_, 1) := dk_177 (dk_at dksX3_clears_1 22 rfl rfl)
abbrev cX3_season : ByteArray := prog_14_method_5_code
def yX3_season : MethodName := ⟨RX3, "season", "(I)I"⟩
def dkwX3_season_0 : List UInt8 := [26, 16, 13, 108, 7, 112, 172]
abbrev dktX3_season_0 : List UInt8 := dkwX3_season_0 ++ []
theorem dksX3_season_0 : cX3_season.data.toList.drop 0 = dktX3_season_0 := by decide +kernel
theorem dX3_season_0 : decode cX3_season 0 = .ok (.iload_n 0, 1) := dk_26 (dk_at dksX3_season_0 0 rfl rfl)
theorem dX3_season_1 : decode cX3_season 1 = .ok (.bipush 13, 2) := dk_16 13 (dk_at dksX3_season_0 1 rfl rfl)
theorem dX3_season_3 : decode cX3_season 3 = .ok (.idiv, 1) := dk_108 (dk_at dksX3_season_0 3 rfl rfl)
theorem dX3_season_4 : decode cX3_season 4 = .ok (.iconst 4, 1) := dk_7 (dk_at dksX3_season_0 4 rfl rfl)
theorem dX3_season_5 : decode cX3_season 5 = .ok (.irem, 1) := dk_112 (dk_at dksX3_season_0 5 rfl rfl)
theorem dX3_season_6 : decode cX3_season 6 = .ok (.ireturn, 1) := dk_172 (dk_at dksX3_season_0 6 rfl rfl)
abbrev cX3_tells : ByteArray := prog_14_method_44_code
def yX3_tells : MethodName := ⟨RX3, "tells", "(I)I"⟩
def dkwX3_tells_8 : List UInt8 := [132, 4, 1, 167, 255, 103, 42, 180, 0, 182, 3, 46, 172]
abbrev dktX3_tells_8 : List UInt8 := dkwX3_tells_8 ++ []
def dkwX3_tells_7 : List UInt8 := [180, 0, 182, 29, 5, 100, 46, 42, 180, 0, 182, 29, 4, 100, 46, 184, 1, 176, 79, 132, 3, 255]
abbrev dktX3_tells_7 : List UInt8 := dkwX3_tells_7 ++ dktX3_tells_8
def dkwX3_tells_6 : List UInt8 := [180, 0, 182, 29, 4, 100, 46, 100, 79, 167, 0, 35, 42, 180, 0, 182, 29, 5, 100, 21, 5, 42]
abbrev dktX3_tells_6 : List UInt8 := dkwX3_tells_6 ++ dktX3_tells_7
def dkwX3_tells_5 : List UInt8 := [132, 3, 1, 167, 0, 63, 21, 5, 16, 33, 160, 0, 24, 42, 180, 0, 182, 29, 4, 100, 4, 42]
abbrev dktX3_tells_5 : List UInt8 := dkwX3_tells_5 ++ dktX3_tells_6
def dkwX3_tells_4 : List UInt8 := [180, 0, 182, 29, 21, 5, 16, 110, 160, 0, 8, 21, 6, 167, 0, 10, 42, 180, 0, 179, 21, 6, 46, 79]
abbrev dktX3_tells_4 : List UInt8 := dkwX3_tells_4 ++ dktX3_tells_5
def dkwX3_tells_3 : List UInt8 := [21, 4, 104, 4, 96, 46, 54, 6, 21, 5, 16, 110, 159, 0, 10, 21, 5, 16, 118, 160, 0, 34, 42]
abbrev dktX3_tells_3 : List UInt8 := dkwX3_tells_3 ++ dktX3_tells_4
def dkwX3_tells_2 : List UInt8 := [42, 180, 0, 127, 28, 50, 27, 50, 5, 21, 4, 104, 46, 54, 5, 42, 180, 0, 127, 28, 50, 27, 50, 5]
abbrev dktX3_tells_2 : List UInt8 := dkwX3_tells_2 ++ dktX3_tells_3
def dkwX3_tells_1 : List UInt8 := [3, 167, 0, 4, 4, 172, 3, 62, 3, 54, 4, 21, 4, 42, 180, 0, 130, 28, 50, 27, 46, 162, 0, 146]
abbrev dktX3_tells_1 : List UInt8 := dkwX3_tells_1 ++ dktX3_tells_2
def dkwX3_tells_0 : List UInt8 := [42, 27, 42, 180, 1, 30, 182, 1, 165, 61, 28, 2, 160, 0, 18, 27, 153, 0, 8, 27, 5, 160, 0, 7]
abbrev dktX3_tells_0 : List UInt8 := dkwX3_tells_0 ++ dktX3_tells_1
theorem dksX3_tells_0 : cX3_tells.data.toList.drop 0 = dktX3_tells_0 := by decide +kernel
theorem dksX3_tells_1 : cX3_tells.data.toList.drop 24 = dktX3_tells_1 := dk_seg dksX3_tells_0 24 rfl rfl
theorem dksX3_tells_2 : cX3_tells.data.toList.drop 48 = dktX3_tells_2 := dk_seg dksX3_tells_1 24 rfl rfl
theorem dksX3_tells_3 : cX3_tells.data.toList.drop 72 = dktX3_tells_3 := dk_seg dksX3_tells_2 24 rfl rfl
theorem dksX3_tells_4 : cX3_tells.data.toList.drop 95 = dktX3_tells_4 := dk_seg dksX3_tells_3 23 rfl rfl
theorem dksX3_tells_5 : cX3_tells.data.toList.drop 119 = dktX3_tells_5 := dk_seg dksX3_tells_4 24 rfl rfl
theorem dksX3_tells_6 : cX3_tells.data.toList.drop 141 = dktX3_tells_6 := dk_seg dksX3_tells_5 22 rfl rfl
theorem dksX3_tells_7 : cX3_tells.data.toList.drop 163 = dktX3_tells_7 := dk_seg dksX3_tells_6 22 rfl rfl
theorem dksX3_tells_8 : cX3_tells.data.toList.drop 185 = dktX3_tells_8 := dk_seg dksX3_tells_7 22 rfl rfl
theorem dX3_tells_0 : decode cX3_tells 0 = .ok (.aload_n 0, 1) := dk_42 (dk_at dksX3_tells_0 0 rfl rfl)
theorem dX3_tells_1 : decode cX3_tells 1 = .ok (.iload_n 1, 1) := dk_27 (dk_at dksX3_tells_0 1 rfl rfl)
theorem dX3_tells_2 : decode cX3_tells 2 = .ok (.aload_n 0, 1) := dk_42 (dk_at dksX3_tells_0 2 rfl rfl)
theorem dX3_tells_3 : decode cX3_tells 3 = .ok (.getfield 286, 3) := dk_180 1 30 (dk_at dksX3_tells_0 3 rfl rfl)
theorem dX3_tells_6 : decode cX3_tells 6 = .ok (.invokevirtual 421, 3) := dk_182 1 165 (dk_at dksX3_tells_0 6 rfl rfl)
theorem dX3_tells_9 : decode cX3_tells 9 = .ok (.istore_n 2, 1) := dk_61 (dk_at dksX3_tells_0 9 rfl rfl)
theorem dX3_tells_10 : decode cX3_tells 10 = .ok (.iload_n 2, 1) := dk_28 (dk_at dksX3_tells_0 10 rfl rfl)
theorem dX3_tells_11 : decode cX3_tells 11 = .ok (.iconst (-1), 1) := dk_2 (dk_at dksX3_tells_0 11 rfl rfl)
theorem dX3_tells_12 : decode cX3_tells 12 = .ok (.if_icmp .ne 18, 3) := dk_160 0 18 (dk_at dksX3_tells_0 12 rfl rfl)
theorem dX3_tells_15 : decode cX3_tells 15 = .ok (.iload_n 1, 1) := dk_27 (dk_at dksX3_tells_0 15 rfl rfl)
theorem dX3_tells_16 : decode cX3_tells 16 = .ok (.ifCond .eq 8, 3) := dk_153 0 8 (dk_at dksX3_tells_0 16 rfl rfl)
theorem dX3_tells_19 : decode cX3_tells 19 = .ok (.iload_n 1, 1) := dk_27 (dk_at dksX3_tells_0 19 rfl rfl)
theorem dX3_tells_20 : decode cX3_tells 20 = .ok (.iconst 2, 1) := dk_5 (dk_at dksX3_tells_0 20 rfl rfl)
theorem dX3_tells_21 : decode cX3_tells 21 = .ok (.if_icmp .ne 7, 3) := dk_160 0 7 (dk_at dksX3_tells_0 21 rfl rfl)
theorem dX3_tells_24 : decode cX3_tells 24 = .ok (.iconst 0, 1) := dk_3 (dk_at dksX3_tells_1 0 rfl rfl)
theorem dX3_tells_25 : decode cX3_tells 25 = .ok (.goto 4, 3) := dk_167 0 4 (dk_at dksX3_tells_1 1 rfl rfl)
theorem dX3_tells_28 : decode cX3_tells 28 = .ok (.iconst 1, 1) := dk_4 (dk_at dksX3_tells_1 4 rfl rfl)
theorem dX3_tells_29 : decode cX3_tells 29 = .ok (.ireturn, 1) := dk_172 (dk_at dksX3_tells_1 5 rfl rfl)
theorem dX3_tells_30 : decode cX3_tells 30 = .ok (.iconst 0, 1) := dk_3 (dk_at dksX3_tells_1 6 rfl rfl)
theorem dX3_tells_31 : decode cX3_tells 31 = .ok (.istore_n 3, 1) := dk_62 (dk_at dksX3_tells_1 7 rfl rfl)
theorem dX3_tells_32 : decode cX3_tells 32 = .ok (.iconst 0, 1) := dk_3 (dk_at dksX3_tells_1 8 rfl rfl)
theorem dX3_tells_33 : decode cX3_tells 33 = .ok (.istore 4, 2) := dk_54 4 (dk_at dksX3_tells_1 9 rfl rfl)
theorem dX3_tells_35 : decode cX3_tells 35 = .ok (.iload 4, 2) := dk_21 4 (dk_at dksX3_tells_1 11 rfl rfl)
theorem dX3_tells_37 : decode cX3_tells 37 = .ok (.aload_n 0, 1) := dk_42 (dk_at dksX3_tells_1 13 rfl rfl)
theorem dX3_tells_38 : decode cX3_tells 38 = .ok (.getfield 130, 3) := dk_180 0 130 (dk_at dksX3_tells_1 14 rfl rfl)
theorem dX3_tells_41 : decode cX3_tells 41 = .ok (.iload_n 2, 1) := dk_28 (dk_at dksX3_tells_1 17 rfl rfl)
theorem dX3_tells_42 : decode cX3_tells 42 = .ok (.aaload, 1) := dk_50 (dk_at dksX3_tells_1 18 rfl rfl)
theorem dX3_tells_43 : decode cX3_tells 43 = .ok (.iload_n 1, 1) := dk_27 (dk_at dksX3_tells_1 19 rfl rfl)
theorem dX3_tells_44 : decode cX3_tells 44 = .ok (.iaload, 1) := dk_46 (dk_at dksX3_tells_1 20 rfl rfl)
theorem dX3_tells_45 : decode cX3_tells 45 = .ok (.if_icmp .ge 146, 3) := dk_162 0 146 (dk_at dksX3_tells_1 21 rfl rfl)
theorem dX3_tells_48 : decode cX3_tells 48 = .ok (.aload_n 0, 1) := dk_42 (dk_at dksX3_tells_2 0 rfl rfl)
theorem dX3_tells_49 : decode cX3_tells 49 = .ok (.getfield 127, 3) := dk_180 0 127 (dk_at dksX3_tells_2 1 rfl rfl)
theorem dX3_tells_52 : decode cX3_tells 52 = .ok (.iload_n 2, 1) := dk_28 (dk_at dksX3_tells_2 4 rfl rfl)
theorem dX3_tells_53 : decode cX3_tells 53 = .ok (.aaload, 1) := dk_50 (dk_at dksX3_tells_2 5 rfl rfl)
theorem dX3_tells_54 : decode cX3_tells 54 = .ok (.iload_n 1, 1) := dk_27 (dk_at dksX3_tells_2 6 rfl rfl)
theorem dX3_tells_55 : decode cX3_tells 55 = .ok (.aaload, 1) := dk_50 (dk_at dksX3_tells_2 7 rfl rfl)
theorem dX3_tells_56 : decode cX3_tells 56 = .ok (.iconst 2, 1) := dk_5 (dk_at dksX3_tells_2 8 rfl rfl)
theorem dX3_tells_57 : decode cX3_tells 57 = .ok (.iload 4, 2) := dk_21 4 (dk_at dksX3_tells_2 9 rfl rfl)
theorem dX3_tells_59 : decode cX3_tells 59 = .ok (.imul, 1) := dk_104 (dk_at dksX3_tells_2 11 rfl rfl)
theorem dX3_tells_60 : decode cX3_tells 60 = .ok (.iaload, 1) := dk_46 (dk_at dksX3_tells_2 12 rfl rfl)
theorem dX3_tells_61 : decode cX3_tells 61 = .ok (.istore 5, 2) := dk_54 5 (dk_at dksX3_tells_2 13 rfl rfl)
theorem dX3_tells_63 : decode cX3_tells 63 = .ok (.aload_n 0, 1) := dk_42 (dk_at dksX3_tells_2 15 rfl rfl)
theorem dX3_tells_64 : decode cX3_tells 64 = .ok (.getfield 127, 3) := dk_180 0 127 (dk_at dksX3_tells_2 16 rfl rfl)
theorem dX3_tells_67 : decode cX3_tells 67 = .ok (.iload_n 2, 1) := dk_28 (dk_at dksX3_tells_2 19 rfl rfl)
theorem dX3_tells_68 : decode cX3_tells 68 = .ok (.aaload, 1) := dk_50 (dk_at dksX3_tells_2 20 rfl rfl)
theorem dX3_tells_69 : decode cX3_tells 69 = .ok (.iload_n 1, 1) := dk_27 (dk_at dksX3_tells_2 21 rfl rfl)
theorem dX3_tells_70 : decode cX3_tells 70 = .ok (.aaload, 1) := dk_50 (dk_at dksX3_tells_2 22 rfl rfl)
theorem dX3_tells_71 : decode cX3_tells 71 = .ok (.iconst 2, 1) := dk_5 (dk_at dksX3_tells_2 23 rfl rfl)
theorem dX3_tells_72 : decode cX3_tells 72 = .ok (.iload 4, 2) := dk_21 4 (dk_at dksX3_tells_3 0 rfl rfl)
theorem dX3_tells_74 : decode cX3_tells 74 = .ok (.imul, 1) := dk_104 (dk_at dksX3_tells_3 2 rfl rfl)
theorem dX3_tells_75 : decode cX3_tells 75 = .ok (.iconst 1, 1) := dk_4 (dk_at dksX3_tells_3 3 rfl rfl)
theorem dX3_tells_76 : decode cX3_tells 76 = .ok (.iadd, 1) := dk_96 (dk_at dksX3_tells_3 4 rfl rfl)
theorem dX3_tells_77 : decode cX3_tells 77 = .ok (.iaload, 1) := dk_46 (dk_at dksX3_tells_3 5 rfl rfl)
theorem dX3_tells_78 : decode cX3_tells 78 = .ok (.istore 6, 2) := dk_54 6 (dk_at dksX3_tells_3 6 rfl rfl)
theorem dX3_tells_80 : decode cX3_tells 80 = .ok (.iload 5, 2) := dk_21 5 (dk_at dksX3_tells_3 8 rfl rfl)
theorem dX3_tells_82 : decode cX3_tells 82 = .ok (.bipush 110, 2) := dk_16 110 (dk_at dksX3_tells_3 10 rfl rfl)
theorem dX3_tells_84 : decode cX3_tells 84 = .ok (.if_icmp .eq 10, 3) := dk_159 0 10 (dk_at dksX3_tells_3 12 rfl rfl)
theorem dX3_tells_87 : decode cX3_tells 87 = .ok (.iload 5, 2) := dk_21 5 (dk_at dksX3_tells_3 15 rfl rfl)
theorem dX3_tells_89 : decode cX3_tells 89 = .ok (.bipush 118, 2) := dk_16 118 (dk_at dksX3_tells_3 17 rfl rfl)
theorem dX3_tells_91 : decode cX3_tells 91 = .ok (.if_icmp .ne 34, 3) := dk_160 0 34 (dk_at dksX3_tells_3 19 rfl rfl)
theorem dX3_tells_94 : decode cX3_tells 94 = .ok (.aload_n 0, 1) := dk_42 (dk_at dksX3_tells_3 22 rfl rfl)
theorem dX3_tells_95 : decode cX3_tells 95 = .ok (.getfield 182, 3) := dk_180 0 182 (dk_at dksX3_tells_4 0 rfl rfl)
theorem dX3_tells_98 : decode cX3_tells 98 = .ok (.iload_n 3, 1) := dk_29 (dk_at dksX3_tells_4 3 rfl rfl)
theorem dX3_tells_99 : decode cX3_tells 99 = .ok (.iload 5, 2) := dk_21 5 (dk_at dksX3_tells_4 4 rfl rfl)
theorem dX3_tells_101 : decode cX3_tells 101 = .ok (.bipush 110, 2) := dk_16 110 (dk_at dksX3_tells_4 6 rfl rfl)
theorem dX3_tells_103 : decode cX3_tells 103 = .ok (.if_icmp .ne 8, 3) := dk_160 0 8 (dk_at dksX3_tells_4 8 rfl rfl)
theorem dX3_tells_106 : decode cX3_tells 106 = .ok (.iload 6, 2) := dk_21 6 (dk_at dksX3_tells_4 11 rfl rfl)
theorem dX3_tells_108 : decode cX3_tells 108 = .ok (.goto 10, 3) := dk_167 0 10 (dk_at dksX3_tells_4 13 rfl rfl)
theorem dX3_tells_111 : decode cX3_tells 111 = .ok (.aload_n 0, 1) := dk_42 (dk_at dksX3_tells_4 16 rfl rfl)
theorem dX3_tells_112 : decode cX3_tells 112 = .ok (.getfield 179, 3) := dk_180 0 179 (dk_at dksX3_tells_4 17 rfl rfl)
theorem dX3_tells_115 : decode cX3_tells 115 = .ok (.iload 6, 2) := dk_21 6 (dk_at dksX3_tells_4 20 rfl rfl)
theorem dX3_tells_117 : decode cX3_tells 117 = .ok (.iaload, 1) := dk_46 (dk_at dksX3_tells_4 22 rfl rfl)
theorem dX3_tells_118 : decode cX3_tells 118 = .ok (.iastore, 1) := dk_79 (dk_at dksX3_tells_4 23 rfl rfl)
theorem dX3_tells_119 : decode cX3_tells 119 = .ok (.iinc 3 1, 3) := dk_132 3 1 (dk_at dksX3_tells_5 0 rfl rfl)
theorem dX3_tells_122 : decode cX3_tells 122 = .ok (.goto 63, 3) := dk_167 0 63 (dk_at dksX3_tells_5 3 rfl rfl)
theorem dX3_tells_125 : decode cX3_tells 125 = .ok (.iload 5, 2) := dk_21 5 (dk_at dksX3_tells_5 6 rfl rfl)
theorem dX3_tells_127 : decode cX3_tells 127 = .ok (.bipush 33, 2) := dk_16 33 (dk_at dksX3_tells_5 8 rfl rfl)
theorem dX3_tells_129 : decode cX3_tells 129 = .ok (.if_icmp .ne 24, 3) := dk_160 0 24 (dk_at dksX3_tells_5 10 rfl rfl)
theorem dX3_tells_132 : decode cX3_tells 132 = .ok (.aload_n 0, 1) := dk_42 (dk_at dksX3_tells_5 13 rfl rfl)
theorem dX3_tells_133 : decode cX3_tells 133 = .ok (.getfield 182, 3) := dk_180 0 182 (dk_at dksX3_tells_5 14 rfl rfl)
theorem dX3_tells_136 : decode cX3_tells 136 = .ok (.iload_n 3, 1) := dk_29 (dk_at dksX3_tells_5 17 rfl rfl)
theorem dX3_tells_137 : decode cX3_tells 137 = .ok (.iconst 1, 1) := dk_4 (dk_at dksX3_tells_5 18 rfl rfl)
theorem dX3_tells_138 : decode cX3_tells 138 = .ok (.isub, 1) := dk_100 (dk_at dksX3_tells_5 19 rfl rfl)
theorem dX3_tells_139 : decode cX3_tells 139 = .ok (.iconst 1, 1) := dk_4 (dk_at dksX3_tells_5 20 rfl rfl)
theorem dX3_tells_140 : decode cX3_tells 140 = .ok (.aload_n 0, 1) := dk_42 (dk_at dksX3_tells_5 21 rfl rfl)
theorem dX3_tells_141 : decode cX3_tells 141 = .ok (.getfield 182, 3) := dk_180 0 182 (dk_at dksX3_tells_6 0 rfl rfl)
theorem dX3_tells_144 : decode cX3_tells 144 = .ok (.iload_n 3, 1) := dk_29 (dk_at dksX3_tells_6 3 rfl rfl)
theorem dX3_tells_145 : decode cX3_tells 145 = .ok (.iconst 1, 1) := dk_4 (dk_at dksX3_tells_6 4 rfl rfl)
theorem dX3_tells_146 : decode cX3_tells 146 = .ok (.isub, 1) := dk_100 (dk_at dksX3_tells_6 5 rfl rfl)
theorem dX3_tells_147 : decode cX3_tells 147 = .ok (.iaload, 1) := dk_46 (dk_at dksX3_tells_6 6 rfl rfl)
theorem dX3_tells_148 : decode cX3_tells 148 = .ok (.isub, 1) := dk_100 (dk_at dksX3_tells_6 7 rfl rfl)
theorem dX3_tells_149 : decode cX3_tells 149 = .ok (.iastore, 1) := dk_79 (dk_at dksX3_tells_6 8 rfl rfl)
theorem dX3_tells_150 : decode cX3_tells 150 = .ok (.goto 35, 3) := dk_167 0 35 (dk_at dksX3_tells_6 9 rfl rfl)
theorem dX3_tells_153 : decode cX3_tells 153 = .ok (.aload_n 0, 1) := dk_42 (dk_at dksX3_tells_6 12 rfl rfl)
theorem dX3_tells_154 : decode cX3_tells 154 = .ok (.getfield 182, 3) := dk_180 0 182 (dk_at dksX3_tells_6 13 rfl rfl)
theorem dX3_tells_157 : decode cX3_tells 157 = .ok (.iload_n 3, 1) := dk_29 (dk_at dksX3_tells_6 16 rfl rfl)
theorem dX3_tells_158 : decode cX3_tells 158 = .ok (.iconst 2, 1) := dk_5 (dk_at dksX3_tells_6 17 rfl rfl)
theorem dX3_tells_159 : decode cX3_tells 159 = .ok (.isub, 1) := dk_100 (dk_at dksX3_tells_6 18 rfl rfl)
theorem dX3_tells_160 : decode cX3_tells 160 = .ok (.iload 5, 2) := dk_21 5 (dk_at dksX3_tells_6 19 rfl rfl)
theorem dX3_tells_162 : decode cX3_tells 162 = .ok (.aload_n 0, 1) := dk_42 (dk_at dksX3_tells_6 21 rfl rfl)
theorem dX3_tells_163 : decode cX3_tells 163 = .ok (.getfield 182, 3) := dk_180 0 182 (dk_at dksX3_tells_7 0 rfl rfl)
theorem dX3_tells_166 : decode cX3_tells 166 = .ok (.iload_n 3, 1) := dk_29 (dk_at dksX3_tells_7 3 rfl rfl)
theorem dX3_tells_167 : decode cX3_tells 167 = .ok (.iconst 2, 1) := dk_5 (dk_at dksX3_tells_7 4 rfl rfl)
theorem dX3_tells_168 : decode cX3_tells 168 = .ok (.isub, 1) := dk_100 (dk_at dksX3_tells_7 5 rfl rfl)
theorem dX3_tells_169 : decode cX3_tells 169 = .ok (.iaload, 1) := dk_46 (dk_at dksX3_tells_7 6 rfl rfl)
theorem dX3_tells_170 : decode cX3_tells 170 = .ok (.aload_n 0, 1) := dk_42 (dk_at dksX3_tells_7 7 rfl rfl)
theorem dX3_tells_171 : decode cX3_tells 171 = .ok (.getfield 182, 3) := dk_180 0 182 (dk_at dksX3_tells_7 8 rfl rfl)
theorem dX3_tells_174 : decode cX3_tells 174 = .ok (.iload_n 3, 1) := dk_29 (dk_at dksX3_tells_7 11 rfl rfl)
theorem dX3_tells_175 : decode cX3_tells 175 = .ok (.iconst 1, 1) := dk_4 (dk_at dksX3_tells_7 12 rfl rfl)
theorem dX3_tells_176 : decode cX3_tells 176 = .ok (.isub, 1) := dk_100 (dk_at dksX3_tells_7 13 rfl rfl)
theorem dX3_tells_177 : decode cX3_tells 177 = .ok (.iaload, 1) := dk_46 (dk_at dksX3_tells_7 14 rfl rfl)
theorem dX3_tells_178 : decode cX3_tells 178 = .ok (.invokestatic 432, 3) := dk_184 1 176 (dk_at dksX3_tells_7 15 rfl rfl)
theorem dX3_tells_181 : decode cX3_tells 181 = .ok (.iastore, 1) := dk_79 (dk_at dksX3_tells_7 18 rfl rfl)
theorem dX3_tells_182 : decode cX3_tells 182 = .ok (.iinc 3 (-1), 3) := dk_132 3 255 (dk_at dksX3_tells_7 19 rfl rfl)
theorem dX3_tells_185 : decode cX3_tells 185 = .ok (.iinc 4 1, 3) := dk_132 4 1 (dk_at dksX3_tells_8 0 rfl rfl)
theorem dX3_tells_188 : decode cX3_tells 188 = .ok (.goto (-153), 3) := dk_167 255 103 (dk_at dksX3_tells_8 3 rfl rfl)
theorem dX3_tells_191 : decode cX3_tells 191 = .ok (.aload_n 0, 1) := dk_42 (dk_at dksX3_tells_8 6 rfl rfl)
theorem dX3_tells_192 : decode cX3_tells 192 = .ok (.getfield 182, 3) := dk_180 0 182 (dk_at dksX3_tells_8 7 rfl rfl)
theorem dX3_tells_195 : decode cX3_tells 195 = .ok (.iconst 0, 1) := dk_3 (dk_at dksX3_tells_8 10 rfl rfl)
theorem dX3_tells_196 : decode cX3_tells 196 = .ok (.iaload, 1) := dk_46 (dk_at dksX3_tells_8 11 rfl rfl)
theorem dX3_tells_197 : decode cX3_tells 197 = .ok (.ireturn, 1) := dk_172 (dk_at dksX3_tells_8 12 rfl rfl)
abbrev cX3_done : ByteArray := prog_14_method_43_code
def yX3_done : MethodName := ⟨RX3, "done", "(III)I"⟩
def dkwX3_done_5 : List UInt8 := [167, 0, 4, 3, 172, 27, 28, 126, 172, 27, 28, 128, 172]
abbrev dktX3_done_5 : List UInt8 := dkwX3_done_5 ++ []
def dkwX3_done_4 : List UInt8 := [167, 0, 4, 3, 172, 27, 28, 164, 0, 7, 4, 167, 0, 4, 3, 172, 27, 28, 160, 0, 7, 4]
abbrev dktX3_done_4 : List UInt8 := dkwX3_done_4 ++ dktX3_done_5
def dkwX3_done_3 : List UInt8 := [184, 1, 172, 172, 28, 154, 0, 7, 3, 167, 0, 6, 27, 28, 108, 172, 27, 28, 162, 0, 7, 4]
abbrev dktX3_done_3 : List UInt8 := dkwX3_done_3 ++ dktX3_done_4
def dkwX3_done_2 : List UInt8 := [27, 133, 28, 133, 97, 184, 1, 172, 172, 27, 133, 28, 133, 101, 184, 1, 172, 172, 27, 133, 28, 133, 105]
abbrev dktX3_done_2 : List UInt8 := dkwX3_done_2 ++ dktX3_done_3
def dkwX3_done_1 : List UInt8 := [170, 0, 0, 0, 0, 0, 191, 0, 0, 0, 38, 0, 0, 0, 62, 0, 0, 0, 187, 0, 0, 0, 191, 0, 0, 0, 191, 0, 0, 0, 191, 0, 0, 0, 133, 0, 0, 0, 115, 0, 0, 0, 191, 0, 0, 0, 124, 0, 0, 0, 191, 0, 0, 0, 142, 0, 0, 0, 191, 0, 0, 0, 191, 0, 0, 0, 191, 0, 0, 0, 191, 0, 0, 0, 191, 0, 0, 0, 191, 0, 0, 0, 191, 0, 0, 0, 191, 0, 0, 0, 191, 0, 0, 0, 191, 0, 0, 0, 191, 0, 0, 0, 191, 0, 0, 0, 154, 0, 0, 0, 176, 0, 0, 0, 165]
abbrev dktX3_done_1 : List UInt8 := dkwX3_done_1 ++ dktX3_done_2
def dkwX3_done_0 : List UInt8 := [26]
abbrev dktX3_done_0 : List UInt8 := dkwX3_done_0 ++ dktX3_done_1
theorem dksX3_done_0 : cX3_done.data.toList.drop 0 = dktX3_done_0 := by decide +kernel
theorem dksX3_done_1 : cX3_done.data.toList.drop 1 = dktX3_done_1 := dk_seg dksX3_done_0 1 rfl rfl
theorem dksX3_done_2 : cX3_done.data.toList.drop 116 = dktX3_done_2 := dk_seg dksX3_done_1 115 rfl rfl
theorem dksX3_done_3 : cX3_done.data.toList.drop 139 = dktX3_done_3 := dk_seg dksX3_done_2 23 rfl rfl
theorem dksX3_done_4 : cX3_done.data.toList.drop 161 = dktX3_done_4 := dk_seg dksX3_done_3 22 rfl rfl
theorem dksX3_done_5 : cX3_done.data.toList.drop 183 = dktX3_done_5 := dk_seg dksX3_done_4 22 rfl rfl
theorem dX3_done_0 : decode cX3_done 0 = .ok (.iload_n 0, 1) := dk_26 (dk_at dksX3_done_0 0 rfl rfl)
theorem dX3_done_1 : decode cX3_done 1 = .ok (.tableswitch 191 38 62 #[187, 191, 191, 191, 133, 115, 191, 124, 191, 142, 191, 191, 191, 191, 191, 191, 191, 191, 191, 191, 191, 191, 154, 176, 165], 115) := by decide +kernel
theorem dX3_done_116 : decode cX3_done 116 = .ok (.iload_n 1, 1) := dk_27 (dk_at dksX3_done_2 0 rfl rfl)
theorem dX3_done_117 : decode cX3_done 117 = .ok (.i2l, 1) := dk_133 (dk_at dksX3_done_2 1 rfl rfl)
theorem dX3_done_118 : decode cX3_done 118 = .ok (.iload_n 2, 1) := dk_28 (dk_at dksX3_done_2 2 rfl rfl)
theorem dX3_done_119 : decode cX3_done 119 = .ok (.i2l, 1) := dk_133 (dk_at dksX3_done_2 3 rfl rfl)
theorem dX3_done_120 : decode cX3_done 120 = .ok (.ladd, 1) := dk_97 (dk_at dksX3_done_2 4 rfl rfl)
theorem dX3_done_121 : decode cX3_done 121 = .ok (.invokestatic 428, 3) := dk_184 1 172 (dk_at dksX3_done_2 5 rfl rfl)
theorem dX3_done_124 : decode cX3_done 124 = .ok (.ireturn, 1) := dk_172 (dk_at dksX3_done_2 8 rfl rfl)
theorem dX3_done_125 : decode cX3_done 125 = .ok (.iload_n 1, 1) := dk_27 (dk_at dksX3_done_2 9 rfl rfl)
theorem dX3_done_126 : decode cX3_done 126 = .ok (.i2l, 1) := dk_133 (dk_at dksX3_done_2 10 rfl rfl)
theorem dX3_done_127 : decode cX3_done 127 = .ok (.iload_n 2, 1) := dk_28 (dk_at dksX3_done_2 11 rfl rfl)
theorem dX3_done_128 : decode cX3_done 128 = .ok (.i2l, 1) := dk_133 (dk_at dksX3_done_2 12 rfl rfl)
theorem dX3_done_129 : decode cX3_done 129 = .ok (.lsub, 1) := dk_101 (dk_at dksX3_done_2 13 rfl rfl)
theorem dX3_done_130 : decode cX3_done 130 = .ok (.invokestatic 428, 3) := dk_184 1 172 (dk_at dksX3_done_2 14 rfl rfl)
theorem dX3_done_133 : decode cX3_done 133 = .ok (.ireturn, 1) := dk_172 (dk_at dksX3_done_2 17 rfl rfl)
theorem dX3_done_134 : decode cX3_done 134 = .ok (.iload_n 1, 1) := dk_27 (dk_at dksX3_done_2 18 rfl rfl)
theorem dX3_done_135 : decode cX3_done 135 = .ok (.i2l, 1) := dk_133 (dk_at dksX3_done_2 19 rfl rfl)
theorem dX3_done_136 : decode cX3_done 136 = .ok (.iload_n 2, 1) := dk_28 (dk_at dksX3_done_2 20 rfl rfl)
theorem dX3_done_137 : decode cX3_done 137 = .ok (.i2l, 1) := dk_133 (dk_at dksX3_done_2 21 rfl rfl)
theorem dX3_done_138 : decode cX3_done 138 = .ok (.lmul, 1) := dk_105 (dk_at dksX3_done_2 22 rfl rfl)
theorem dX3_done_139 : decode cX3_done 139 = .ok (.invokestatic 428, 3) := dk_184 1 172 (dk_at dksX3_done_3 0 rfl rfl)
theorem dX3_done_142 : decode cX3_done 142 = .ok (.ireturn, 1) := dk_172 (dk_at dksX3_done_3 3 rfl rfl)
theorem dX3_done_143 : decode cX3_done 143 = .ok (.iload_n 2, 1) := dk_28 (dk_at dksX3_done_3 4 rfl rfl)
theorem dX3_done_144 : decode cX3_done 144 = .ok (.ifCond .ne 7, 3) := dk_154 0 7 (dk_at dksX3_done_3 5 rfl rfl)
theorem dX3_done_147 : decode cX3_done 147 = .ok (.iconst 0, 1) := dk_3 (dk_at dksX3_done_3 8 rfl rfl)
theorem dX3_done_148 : decode cX3_done 148 = .ok (.goto 6, 3) := dk_167 0 6 (dk_at dksX3_done_3 9 rfl rfl)
theorem dX3_done_151 : decode cX3_done 151 = .ok (.iload_n 1, 1) := dk_27 (dk_at dksX3_done_3 12 rfl rfl)
theorem dX3_done_152 : decode cX3_done 152 = .ok (.iload_n 2, 1) := dk_28 (dk_at dksX3_done_3 13 rfl rfl)
theorem dX3_done_153 : decode cX3_done 153 = .ok (.idiv, 1) := dk_108 (dk_at dksX3_done_3 14 rfl rfl)
theorem dX3_done_154 : decode cX3_done 154 = .ok (.ireturn, 1) := dk_172 (dk_at dksX3_done_3 15 rfl rfl)
theorem dX3_done_155 : decode cX3_done 155 = .ok (.iload_n 1, 1) := dk_27 (dk_at dksX3_done_3 16 rfl rfl)
theorem dX3_done_156 : decode cX3_done 156 = .ok (.iload_n 2, 1) := dk_28 (dk_at dksX3_done_3 17 rfl rfl)
theorem dX3_done_157 : decode cX3_done 157 = .ok (.if_icmp .ge 7, 3) := dk_162 0 7 (dk_at dksX3_done_3 18 rfl rfl)
theorem dX3_done_160 : decode cX3_done 160 = .ok (.iconst 1, 1) := dk_4 (dk_at dksX3_done_3 21 rfl rfl)
theorem dX3_done_161 : decode cX3_done 161 = .ok (.goto 4, 3) := dk_167 0 4 (dk_at dksX3_done_4 0 rfl rfl)
theorem dX3_done_164 : decode cX3_done 164 = .ok (.iconst 0, 1) := dk_3 (dk_at dksX3_done_4 3 rfl rfl)
theorem dX3_done_165 : decode cX3_done 165 = .ok (.ireturn, 1) := dk_172 (dk_at dksX3_done_4 4 rfl rfl)
theorem dX3_done_166 : decode cX3_done 166 = .ok (.iload_n 1, 1) := dk_27 (dk_at dksX3_done_4 5 rfl rfl)
theorem dX3_done_167 : decode cX3_done 167 = .ok (.iload_n 2, 1) := dk_28 (dk_at dksX3_done_4 6 rfl rfl)
theorem dX3_done_168 : decode cX3_done 168 = .ok (.if_icmp .le 7, 3) := dk_164 0 7 (dk_at dksX3_done_4 7 rfl rfl)
theorem dX3_done_171 : decode cX3_done 171 = .ok (.iconst 1, 1) := dk_4 (dk_at dksX3_done_4 10 rfl rfl)
theorem dX3_done_172 : decode cX3_done 172 = .ok (.goto 4, 3) := dk_167 0 4 (dk_at dksX3_done_4 11 rfl rfl)
theorem dX3_done_175 : decode cX3_done 175 = .ok (.iconst 0, 1) := dk_3 (dk_at dksX3_done_4 14 rfl rfl)
theorem dX3_done_176 : decode cX3_done 176 = .ok (.ireturn, 1) := dk_172 (dk_at dksX3_done_4 15 rfl rfl)
theorem dX3_done_177 : decode cX3_done 177 = .ok (.iload_n 1, 1) := dk_27 (dk_at dksX3_done_4 16 rfl rfl)
theorem dX3_done_178 : decode cX3_done 178 = .ok (.iload_n 2, 1) := dk_28 (dk_at dksX3_done_4 17 rfl rfl)
theorem dX3_done_179 : decode cX3_done 179 = .ok (.if_icmp .ne 7, 3) := dk_160 0 7 (dk_at dksX3_done_4 18 rfl rfl)
theorem dX3_done_182 : decode cX3_done 182 = .ok (.iconst 1, 1) := dk_4 (dk_at dksX3_done_4 21 rfl rfl)
theorem dX3_done_183 : decode cX3_done 183 = .ok (.goto 4, 3) := dk_167 0 4 (dk_at dksX3_done_5 0 rfl rfl)
theorem dX3_done_186 : decode cX3_done 186 = .ok (.iconst 0, 1) := dk_3 (dk_at dksX3_done_5 3 rfl rfl)
theorem dX3_done_187 : decode cX3_done 187 = .ok (.ireturn, 1) := dk_172 (dk_at dksX3_done_5 4 rfl rfl)
theorem dX3_done_188 : decode cX3_done 188 = .ok (.iload_n 1, 1) := dk_27 (dk_at dksX3_done_5 5 rfl rfl)
theorem dX3_done_189 : decode cX3_done 189 = .ok (.iload_n 2, 1) := dk_28 (dk_at dksX3_done_5 6 rfl rfl)
theorem dX3_done_190 : decode cX3_done 190 = .ok (.iand, 1) := dk_126 (dk_at dksX3_done_5 7 rfl rfl)
theorem dX3_done_191 : decode cX3_done 191 = .ok (.ireturn, 1) := dk_172 (dk_at dksX3_done_5 8 rfl rfl)
theorem dX3_done_192 : decode cX3_done 192 = .ok (.iload_n 1, 1) := dk_27 (dk_at dksX3_done_5 9 rfl rfl)
theorem dX3_done_193 : decode cX3_done 193 = .ok (.iload_n 2, 1) := dk_28 (dk_at dksX3_done_5 10 rfl rfl)
theorem dX3_done_194 : decode cX3_done 194 = .ok (.ior, 1) := dk_128 (dk_at dksX3_done_5 11 rfl rfl)
theorem dX3_done_195 : decode cX3_done 195 = .ok (.ireturn, 1) := dk_172 (dk_at dksX3_done_5 12 rfl rfl)
abbrev cX3_brought : ByteArray := prog_14_method_42_code
def yX3_brought : MethodName := ⟨RX3, "brought", "(J)I"⟩
def dkwX3_brought_1 : List UInt8 := [20, 1, 170, 167, 0, 4, 30, 136, 172]
abbrev dktX3_brought_1 : List UInt8 := dkwX3_brought_1 ++ []
def dkwX3_brought_0 : List UInt8 := [30, 20, 1, 168, 148, 156, 0, 9, 20, 1, 168, 167, 0, 18, 30, 20, 1, 170, 148, 158, 0, 9]
abbrev dktX3_brought_0 : List UInt8 := dkwX3_brought_0 ++ dktX3_brought_1
theorem dksX3_brought_0 : cX3_brought.data.toList.drop 0 = dktX3_brought_0 := by decide +kernel
theorem dksX3_brought_1 : cX3_brought.data.toList.drop 22 = dktX3_brought_1 := dk_seg dksX3_brought_0 22 rfl rfl
theorem dX3_brought_0 : decode cX3_brought 0 = .ok (.lload_n 0, 1) := dk_30 (dk_at dksX3_brought_0 0 rfl rfl)
theorem dX3_brought_1 : decode cX3_brought 1 = .ok (.ldc2_w 424, 3) := dk_20 1 168 (dk_at dksX3_brought_0 1 rfl rfl)
theorem dX3_brought_4 : decode cX3_brought 4 = .ok (.lcmp, 1) := dk_148 (dk_at dksX3_brought_0 4 rfl rfl)
theorem dX3_brought_5 : decode cX3_brought 5 = .ok (.ifCond .ge 9, 3) := dk_156 0 9 (dk_at dksX3_brought_0 5 rfl rfl)
theorem dX3_brought_8 : decode cX3_brought 8 = .ok (.ldc2_w 424, 3) := dk_20 1 168 (dk_at dksX3_brought_0 8 rfl rfl)
theorem dX3_brought_11 : decode cX3_brought 11 = .ok (.goto 18, 3) := dk_167 0 18 (dk_at dksX3_brought_0 11 rfl rfl)
theorem dX3_brought_14 : decode cX3_brought 14 = .ok (.lload_n 0, 1) := dk_30 (dk_at dksX3_brought_0 14 rfl rfl)
theorem dX3_brought_15 : decode cX3_brought 15 = .ok (.ldc2_w 426, 3) := dk_20 1 170 (dk_at dksX3_brought_0 15 rfl rfl)
theorem dX3_brought_18 : decode cX3_brought 18 = .ok (.lcmp, 1) := dk_148 (dk_at dksX3_brought_0 18 rfl rfl)
theorem dX3_brought_19 : decode cX3_brought 19 = .ok (.ifCond .le 9, 3) := dk_158 0 9 (dk_at dksX3_brought_0 19 rfl rfl)
theorem dX3_brought_22 : decode cX3_brought 22 = .ok (.ldc2_w 426, 3) := dk_20 1 170 (dk_at dksX3_brought_1 0 rfl rfl)
theorem dX3_brought_25 : decode cX3_brought 25 = .ok (.goto 4, 3) := dk_167 0 4 (dk_at dksX3_brought_1 3 rfl rfl)
theorem dX3_brought_28 : decode cX3_brought 28 = .ok (.lload_n 0, 1) := dk_30 (dk_at dksX3_brought_1 6 rfl rfl)
theorem dX3_brought_29 : decode cX3_brought 29 = .ok (.l2i, 1) := dk_136 (dk_at dksX3_brought_1 7 rfl rfl)
theorem dX3_brought_30 : decode cX3_brought 30 = .ok (.ireturn, 1) := dk_172 (dk_at dksX3_brought_1 8 rfl rfl)
abbrev cX3_weave : ByteArray := prog_14_method_64_code
def yX3_weave : MethodName := ⟨RX3, "weave", "(III)I"⟩
def dkwX3_weave_9 : List UInt8 := [180, 1, 239, 4, 100, 172]
abbrev dktX3_weave_9 : List UInt8 := dkwX3_weave_9 ++ []
def dkwX3_weave_8 : List UInt8 := [108, 79, 42, 180, 0, 227, 42, 180, 1, 239, 2, 79, 42, 89, 180, 1, 239, 4, 96, 181, 1, 239, 42]
abbrev dktX3_weave_8 : List UInt8 := dkwX3_weave_8 ++ dktX3_weave_9
def dkwX3_weave_7 : List UInt8 := [79, 42, 180, 0, 221, 42, 180, 1, 239, 42, 180, 1, 30, 79, 42, 180, 0, 224, 42, 180, 1, 239, 29, 5]
abbrev dktX3_weave_7 : List UInt8 := dkwX3_weave_7 ++ dktX3_weave_8
def dkwX3_weave_6 : List UInt8 := [29, 96, 181, 1, 242, 42, 180, 0, 215, 42, 180, 1, 239, 28, 79, 42, 180, 0, 218, 42, 180, 1, 239, 27]
abbrev dktX3_weave_6 : List UInt8 := dkwX3_weave_6 ++ dktX3_weave_7
def dkwX3_weave_5 : List UInt8 := [180, 0, 200, 28, 92, 46, 29, 100, 79, 42, 180, 0, 102, 27, 92, 46, 29, 96, 79, 42, 89, 180, 1, 242]
abbrev dktX3_weave_5 : List UInt8 := dkwX3_weave_5 ++ dktX3_weave_6
def dkwX3_weave_4 : List UInt8 := [180, 0, 185, 28, 46, 92, 46, 21, 4, 100, 79, 42, 180, 0, 78, 27, 92, 46, 21, 4, 96, 79, 42]
abbrev dktX3_weave_4 : List UInt8 := dkwX3_weave_4 ++ dktX3_weave_5
def dkwX3_weave_3 : List UInt8 := [42, 180, 1, 239, 42, 7, 182, 1, 189, 4, 160, 0, 7, 4, 167, 0, 4, 3, 84, 42, 180, 0, 78, 42]
abbrev dktX3_weave_3 : List UInt8 := dkwX3_weave_3 ++ dktX3_weave_4
def dkwX3_weave_2 : List UInt8 := [182, 1, 222, 42, 4, 182, 1, 189, 184, 1, 192, 54, 4, 42, 27, 28, 29, 182, 1, 222, 42, 180, 0, 230]
abbrev dktX3_weave_2 : List UInt8 := dkwX3_weave_2 ++ dktX3_weave_3
def dkwX3_weave_1 : List UInt8 := [17, 0, 156, 159, 0, 13, 42, 27, 28, 29, 182, 1, 236, 153, 0, 5, 2, 172, 42, 27, 28, 29]
abbrev dktX3_weave_1 : List UInt8 := dkwX3_weave_1 ++ dktX3_weave_2
def dkwX3_weave_0 : List UInt8 := [42, 27, 28, 29, 182, 1, 232, 153, 0, 33, 42, 180, 1, 239, 17, 0, 200, 159, 0, 23, 42, 180, 1, 30]
abbrev dktX3_weave_0 : List UInt8 := dkwX3_weave_0 ++ dktX3_weave_1
theorem dksX3_weave_0 : cX3_weave.data.toList.drop 0 = dktX3_weave_0 := by decide +kernel
theorem dksX3_weave_1 : cX3_weave.data.toList.drop 24 = dktX3_weave_1 := dk_seg dksX3_weave_0 24 rfl rfl
theorem dksX3_weave_2 : cX3_weave.data.toList.drop 46 = dktX3_weave_2 := dk_seg dksX3_weave_1 22 rfl rfl
theorem dksX3_weave_3 : cX3_weave.data.toList.drop 70 = dktX3_weave_3 := dk_seg dksX3_weave_2 24 rfl rfl
theorem dksX3_weave_4 : cX3_weave.data.toList.drop 94 = dktX3_weave_4 := dk_seg dksX3_weave_3 24 rfl rfl
theorem dksX3_weave_5 : cX3_weave.data.toList.drop 117 = dktX3_weave_5 := dk_seg dksX3_weave_4 23 rfl rfl
theorem dksX3_weave_6 : cX3_weave.data.toList.drop 141 = dktX3_weave_6 := dk_seg dksX3_weave_5 24 rfl rfl
theorem dksX3_weave_7 : cX3_weave.data.toList.drop 165 = dktX3_weave_7 := dk_seg dksX3_weave_6 24 rfl rfl
theorem dksX3_weave_8 : cX3_weave.data.toList.drop 189 = dktX3_weave_8 := dk_seg dksX3_weave_7 24 rfl rfl
theorem dksX3_weave_9 : cX3_weave.data.toList.drop 212 = dktX3_weave_9 := dk_seg dksX3_weave_8 23 rfl rfl
theorem dX3_weave_0 : decode cX3_weave 0 = .ok (.aload_n 0, 1) := dk_42 (dk_at dksX3_weave_0 0 rfl rfl)
theorem dX3_weave_1 : decode cX3_weave 1 = .ok (.iload_n 1, 1) := dk_27 (dk_at dksX3_weave_0 1 rfl rfl)
theorem dX3_weave_2 : decode cX3_weave 2 = .ok (.iload_n 2, 1) := dk_28 (dk_at dksX3_weave_0 2 rfl rfl)
theorem dX3_weave_3 : decode cX3_weave 3 = .ok (.iload_n 3, 1) := dk_29 (dk_at dksX3_weave_0 3 rfl rfl)
theorem dX3_weave_4 : decode cX3_weave 4 = .ok (.invokevirtual 488, 3) := dk_182 1 232 (dk_at dksX3_weave_0 4 rfl rfl)
theorem dX3_weave_7 : decode cX3_weave 7 = .ok (.ifCond .eq 33, 3) := dk_153 0 33 (dk_at dksX3_weave_0 7 rfl rfl)
theorem dX3_weave_10 : decode cX3_weave 10 = .ok (.aload_n 0, 1) := dk_42 (dk_at dksX3_weave_0 10 rfl rfl)
theorem dX3_weave_11 : decode cX3_weave 11 = .ok (.getfield 495, 3) := dk_180 1 239 (dk_at dksX3_weave_0 11 rfl rfl)
theorem dX3_weave_14 : decode cX3_weave 14 = .ok (.sipush 200, 3) := dk_17 0 200 (dk_at dksX3_weave_0 14 rfl rfl)
theorem dX3_weave_17 : decode cX3_weave 17 = .ok (.if_icmp .eq 23, 3) := dk_159 0 23 (dk_at dksX3_weave_0 17 rfl rfl)
theorem dX3_weave_20 : decode cX3_weave 20 = .ok (.aload_n 0, 1) := dk_42 (dk_at dksX3_weave_0 20 rfl rfl)
theorem dX3_weave_21 : decode cX3_weave 21 = .ok (.getfield 286, 3) := dk_180 1 30 (dk_at dksX3_weave_0 21 rfl rfl)
theorem dX3_weave_24 : decode cX3_weave 24 = .ok (.sipush 156, 3) := dk_17 0 156 (dk_at dksX3_weave_1 0 rfl rfl)
theorem dX3_weave_27 : decode cX3_weave 27 = .ok (.if_icmp .eq 13, 3) := dk_159 0 13 (dk_at dksX3_weave_1 3 rfl rfl)
theorem dX3_weave_30 : decode cX3_weave 30 = .ok (.aload_n 0, 1) := dk_42 (dk_at dksX3_weave_1 6 rfl rfl)
theorem dX3_weave_31 : decode cX3_weave 31 = .ok (.iload_n 1, 1) := dk_27 (dk_at dksX3_weave_1 7 rfl rfl)
theorem dX3_weave_32 : decode cX3_weave 32 = .ok (.iload_n 2, 1) := dk_28 (dk_at dksX3_weave_1 8 rfl rfl)
theorem dX3_weave_33 : decode cX3_weave 33 = .ok (.iload_n 3, 1) := dk_29 (dk_at dksX3_weave_1 9 rfl rfl)
theorem dX3_weave_34 : decode cX3_weave 34 = .ok (.invokevirtual 492, 3) := dk_182 1 236 (dk_at dksX3_weave_1 10 rfl rfl)
theorem dX3_weave_37 : decode cX3_weave 37 = .ok (.ifCond .eq 5, 3) := dk_153 0 5 (dk_at dksX3_weave_1 13 rfl rfl)
theorem dX3_weave_40 : decode cX3_weave 40 = .ok (.iconst (-1), 1) := dk_2 (dk_at dksX3_weave_1 16 rfl rfl)
theorem dX3_weave_41 : decode cX3_weave 41 = .ok (.ireturn, 1) := dk_172 (dk_at dksX3_weave_1 17 rfl rfl)
theorem dX3_weave_42 : decode cX3_weave 42 = .ok (.aload_n 0, 1) := dk_42 (dk_at dksX3_weave_1 18 rfl rfl)
theorem dX3_weave_43 : decode cX3_weave 43 = .ok (.iload_n 1, 1) := dk_27 (dk_at dksX3_weave_1 19 rfl rfl)
theorem dX3_weave_44 : decode cX3_weave 44 = .ok (.iload_n 2, 1) := dk_28 (dk_at dksX3_weave_1 20 rfl rfl)
theorem dX3_weave_45 : decode cX3_weave 45 = .ok (.iload_n 3, 1) := dk_29 (dk_at dksX3_weave_1 21 rfl rfl)
theorem dX3_weave_46 : decode cX3_weave 46 = .ok (.invokevirtual 478, 3) := dk_182 1 222 (dk_at dksX3_weave_2 0 rfl rfl)
theorem dX3_weave_49 : decode cX3_weave 49 = .ok (.aload_n 0, 1) := dk_42 (dk_at dksX3_weave_2 3 rfl rfl)
theorem dX3_weave_50 : decode cX3_weave 50 = .ok (.iconst 1, 1) := dk_4 (dk_at dksX3_weave_2 4 rfl rfl)
theorem dX3_weave_51 : decode cX3_weave 51 = .ok (.invokevirtual 445, 3) := dk_182 1 189 (dk_at dksX3_weave_2 5 rfl rfl)
theorem dX3_weave_54 : decode cX3_weave 54 = .ok (.invokestatic 448, 3) := dk_184 1 192 (dk_at dksX3_weave_2 8 rfl rfl)
theorem dX3_weave_57 : decode cX3_weave 57 = .ok (.istore 4, 2) := dk_54 4 (dk_at dksX3_weave_2 11 rfl rfl)
theorem dX3_weave_59 : decode cX3_weave 59 = .ok (.aload_n 0, 1) := dk_42 (dk_at dksX3_weave_2 13 rfl rfl)
theorem dX3_weave_60 : decode cX3_weave 60 = .ok (.iload_n 1, 1) := dk_27 (dk_at dksX3_weave_2 14 rfl rfl)
theorem dX3_weave_61 : decode cX3_weave 61 = .ok (.iload_n 2, 1) := dk_28 (dk_at dksX3_weave_2 15 rfl rfl)
theorem dX3_weave_62 : decode cX3_weave 62 = .ok (.iload_n 3, 1) := dk_29 (dk_at dksX3_weave_2 16 rfl rfl)
theorem dX3_weave_63 : decode cX3_weave 63 = .ok (.invokevirtual 478, 3) := dk_182 1 222 (dk_at dksX3_weave_2 17 rfl rfl)
theorem dX3_weave_66 : decode cX3_weave 66 = .ok (.aload_n 0, 1) := dk_42 (dk_at dksX3_weave_2 20 rfl rfl)
theorem dX3_weave_67 : decode cX3_weave 67 = .ok (.getfield 230, 3) := dk_180 0 230 (dk_at dksX3_weave_2 21 rfl rfl)
theorem dX3_weave_70 : decode cX3_weave 70 = .ok (.aload_n 0, 1) := dk_42 (dk_at dksX3_weave_3 0 rfl rfl)
theorem dX3_weave_71 : decode cX3_weave 71 = .ok (.getfield 495, 3) := dk_180 1 239 (dk_at dksX3_weave_3 1 rfl rfl)
theorem dX3_weave_74 : decode cX3_weave 74 = .ok (.aload_n 0, 1) := dk_42 (dk_at dksX3_weave_3 4 rfl rfl)
theorem dX3_weave_75 : decode cX3_weave 75 = .ok (.iconst 4, 1) := dk_7 (dk_at dksX3_weave_3 5 rfl rfl)
theorem dX3_weave_76 : decode cX3_weave 76 = .ok (.invokevirtual 445, 3) := dk_182 1 189 (dk_at dksX3_weave_3 6 rfl rfl)
theorem dX3_weave_79 : decode cX3_weave 79 = .ok (.iconst 1, 1) := dk_4 (dk_at dksX3_weave_3 9 rfl rfl)
theorem dX3_weave_80 : decode cX3_weave 80 = .ok (.if_icmp .ne 7, 3) := dk_160 0 7 (dk_at dksX3_weave_3 10 rfl rfl)
theorem dX3_weave_83 : decode cX3_weave 83 = .ok (.iconst 1, 1) := dk_4 (dk_at dksX3_weave_3 13 rfl rfl)
theorem dX3_weave_84 : decode cX3_weave 84 = .ok (.goto 4, 3) := dk_167 0 4 (dk_at dksX3_weave_3 14 rfl rfl)
theorem dX3_weave_87 : decode cX3_weave 87 = .ok (.iconst 0, 1) := dk_3 (dk_at dksX3_weave_3 17 rfl rfl)
theorem dX3_weave_88 : decode cX3_weave 88 = .ok (.bastore, 1) := dk_84 (dk_at dksX3_weave_3 18 rfl rfl)
theorem dX3_weave_89 : decode cX3_weave 89 = .ok (.aload_n 0, 1) := dk_42 (dk_at dksX3_weave_3 19 rfl rfl)
theorem dX3_weave_90 : decode cX3_weave 90 = .ok (.getfield 78, 3) := dk_180 0 78 (dk_at dksX3_weave_3 20 rfl rfl)
theorem dX3_weave_93 : decode cX3_weave 93 = .ok (.aload_n 0, 1) := dk_42 (dk_at dksX3_weave_3 23 rfl rfl)
theorem dX3_weave_94 : decode cX3_weave 94 = .ok (.getfield 185, 3) := dk_180 0 185 (dk_at dksX3_weave_4 0 rfl rfl)
theorem dX3_weave_97 : decode cX3_weave 97 = .ok (.iload_n 2, 1) := dk_28 (dk_at dksX3_weave_4 3 rfl rfl)
theorem dX3_weave_98 : decode cX3_weave 98 = .ok (.iaload, 1) := dk_46 (dk_at dksX3_weave_4 4 rfl rfl)
theorem dX3_weave_99 : decode cX3_weave 99 = .ok (.dup2, 1) := dk_92 (dk_at dksX3_weave_4 5 rfl rfl)
theorem dX3_weave_100 : decode cX3_weave 100 = .ok (.iaload, 1) := dk_46 (dk_at dksX3_weave_4 6 rfl rfl)
theorem dX3_weave_101 : decode cX3_weave 101 = .ok (.iload 4, 2) := dk_21 4 (dk_at dksX3_weave_4 7 rfl rfl)
theorem dX3_weave_103 : decode cX3_weave 103 = .ok (.isub, 1) := dk_100 (dk_at dksX3_weave_4 9 rfl rfl)
theorem dX3_weave_104 : decode cX3_weave 104 = .ok (.iastore, 1) := dk_79 (dk_at dksX3_weave_4 10 rfl rfl)
theorem dX3_weave_105 : decode cX3_weave 105 = .ok (.aload_n 0, 1) := dk_42 (dk_at dksX3_weave_4 11 rfl rfl)
theorem dX3_weave_106 : decode cX3_weave 106 = .ok (.getfield 78, 3) := dk_180 0 78 (dk_at dksX3_weave_4 12 rfl rfl)
theorem dX3_weave_109 : decode cX3_weave 109 = .ok (.iload_n 1, 1) := dk_27 (dk_at dksX3_weave_4 15 rfl rfl)
theorem dX3_weave_110 : decode cX3_weave 110 = .ok (.dup2, 1) := dk_92 (dk_at dksX3_weave_4 16 rfl rfl)
theorem dX3_weave_111 : decode cX3_weave 111 = .ok (.iaload, 1) := dk_46 (dk_at dksX3_weave_4 17 rfl rfl)
theorem dX3_weave_112 : decode cX3_weave 112 = .ok (.iload 4, 2) := dk_21 4 (dk_at dksX3_weave_4 18 rfl rfl)
theorem dX3_weave_114 : decode cX3_weave 114 = .ok (.iadd, 1) := dk_96 (dk_at dksX3_weave_4 20 rfl rfl)
theorem dX3_weave_115 : decode cX3_weave 115 = .ok (.iastore, 1) := dk_79 (dk_at dksX3_weave_4 21 rfl rfl)
theorem dX3_weave_116 : decode cX3_weave 116 = .ok (.aload_n 0, 1) := dk_42 (dk_at dksX3_weave_4 22 rfl rfl)
theorem dX3_weave_117 : decode cX3_weave 117 = .ok (.getfield 200, 3) := dk_180 0 200 (dk_at dksX3_weave_5 0 rfl rfl)
theorem dX3_weave_120 : decode cX3_weave 120 = .ok (.iload_n 2, 1) := dk_28 (dk_at dksX3_weave_5 3 rfl rfl)
theorem dX3_weave_121 : decode cX3_weave 121 = .ok (.dup2, 1) := dk_92 (dk_at dksX3_weave_5 4 rfl rfl)
theorem dX3_weave_122 : decode cX3_weave 122 = .ok (.iaload, 1) := dk_46 (dk_at dksX3_weave_5 5 rfl rfl)
theorem dX3_weave_123 : decode cX3_weave 123 = .ok (.iload_n 3, 1) := dk_29 (dk_at dksX3_weave_5 6 rfl rfl)
theorem dX3_weave_124 : decode cX3_weave 124 = .ok (.isub, 1) := dk_100 (dk_at dksX3_weave_5 7 rfl rfl)
theorem dX3_weave_125 : decode cX3_weave 125 = .ok (.iastore, 1) := dk_79 (dk_at dksX3_weave_5 8 rfl rfl)
theorem dX3_weave_126 : decode cX3_weave 126 = .ok (.aload_n 0, 1) := dk_42 (dk_at dksX3_weave_5 9 rfl rfl)
theorem dX3_weave_127 : decode cX3_weave 127 = .ok (.getfield 102, 3) := dk_180 0 102 (dk_at dksX3_weave_5 10 rfl rfl)
theorem dX3_weave_130 : decode cX3_weave 130 = .ok (.iload_n 1, 1) := dk_27 (dk_at dksX3_weave_5 13 rfl rfl)
theorem dX3_weave_131 : decode cX3_weave 131 = .ok (.dup2, 1) := dk_92 (dk_at dksX3_weave_5 14 rfl rfl)
theorem dX3_weave_132 : decode cX3_weave 132 = .ok (.iaload, 1) := dk_46 (dk_at dksX3_weave_5 15 rfl rfl)
theorem dX3_weave_133 : decode cX3_weave 133 = .ok (.iload_n 3, 1) := dk_29 (dk_at dksX3_weave_5 16 rfl rfl)
theorem dX3_weave_134 : decode cX3_weave 134 = .ok (.iadd, 1) := dk_96 (dk_at dksX3_weave_5 17 rfl rfl)
theorem dX3_weave_135 : decode cX3_weave 135 = .ok (.iastore, 1) := dk_79 (dk_at dksX3_weave_5 18 rfl rfl)
theorem dX3_weave_136 : decode cX3_weave 136 = .ok (.aload_n 0, 1) := dk_42 (dk_at dksX3_weave_5 19 rfl rfl)
theorem dX3_weave_137 : decode cX3_weave 137 = .ok (.dup, 1) := dk_89 (dk_at dksX3_weave_5 20 rfl rfl)
theorem dX3_weave_138 : decode cX3_weave 138 = .ok (.getfield 498, 3) := dk_180 1 242 (dk_at dksX3_weave_5 21 rfl rfl)
theorem dX3_weave_141 : decode cX3_weave 141 = .ok (.iload_n 3, 1) := dk_29 (dk_at dksX3_weave_6 0 rfl rfl)
theorem dX3_weave_142 : decode cX3_weave 142 = .ok (.iadd, 1) := dk_96 (dk_at dksX3_weave_6 1 rfl rfl)
theorem dX3_weave_143 : decode cX3_weave 143 = .ok (.putfield 498, 3) := dk_181 1 242 (dk_at dksX3_weave_6 2 rfl rfl)
theorem dX3_weave_146 : decode cX3_weave 146 = .ok (.aload_n 0, 1) := dk_42 (dk_at dksX3_weave_6 5 rfl rfl)
theorem dX3_weave_147 : decode cX3_weave 147 = .ok (.getfield 215, 3) := dk_180 0 215 (dk_at dksX3_weave_6 6 rfl rfl)
theorem dX3_weave_150 : decode cX3_weave 150 = .ok (.aload_n 0, 1) := dk_42 (dk_at dksX3_weave_6 9 rfl rfl)
theorem dX3_weave_151 : decode cX3_weave 151 = .ok (.getfield 495, 3) := dk_180 1 239 (dk_at dksX3_weave_6 10 rfl rfl)
theorem dX3_weave_154 : decode cX3_weave 154 = .ok (.iload_n 2, 1) := dk_28 (dk_at dksX3_weave_6 13 rfl rfl)
theorem dX3_weave_155 : decode cX3_weave 155 = .ok (.iastore, 1) := dk_79 (dk_at dksX3_weave_6 14 rfl rfl)
theorem dX3_weave_156 : decode cX3_weave 156 = .ok (.aload_n 0, 1) := dk_42 (dk_at dksX3_weave_6 15 rfl rfl)
theorem dX3_weave_157 : decode cX3_weave 157 = .ok (.getfield 218, 3) := dk_180 0 218 (dk_at dksX3_weave_6 16 rfl rfl)
theorem dX3_weave_160 : decode cX3_weave 160 = .ok (.aload_n 0, 1) := dk_42 (dk_at dksX3_weave_6 19 rfl rfl)
theorem dX3_weave_161 : decode cX3_weave 161 = .ok (.getfield 495, 3) := dk_180 1 239 (dk_at dksX3_weave_6 20 rfl rfl)
theorem dX3_weave_164 : decode cX3_weave 164 = .ok (.iload_n 1, 1) := dk_27 (dk_at dksX3_weave_6 23 rfl rfl)
theorem dX3_weave_165 : decode cX3_weave 165 = .ok (.iastore, 1) := dk_79 (dk_at dksX3_weave_7 0 rfl rfl)
theorem dX3_weave_166 : decode cX3_weave 166 = .ok (.aload_n 0, 1) := dk_42 (dk_at dksX3_weave_7 1 rfl rfl)
theorem dX3_weave_167 : decode cX3_weave 167 = .ok (.getfield 221, 3) := dk_180 0 221 (dk_at dksX3_weave_7 2 rfl rfl)
theorem dX3_weave_170 : decode cX3_weave 170 = .ok (.aload_n 0, 1) := dk_42 (dk_at dksX3_weave_7 5 rfl rfl)
theorem dX3_weave_171 : decode cX3_weave 171 = .ok (.getfield 495, 3) := dk_180 1 239 (dk_at dksX3_weave_7 6 rfl rfl)
theorem dX3_weave_174 : decode cX3_weave 174 = .ok (.aload_n 0, 1) := dk_42 (dk_at dksX3_weave_7 9 rfl rfl)
theorem dX3_weave_175 : decode cX3_weave 175 = .ok (.getfield 286, 3) := dk_180 1 30 (dk_at dksX3_weave_7 10 rfl rfl)
theorem dX3_weave_178 : decode cX3_weave 178 = .ok (.iastore, 1) := dk_79 (dk_at dksX3_weave_7 13 rfl rfl)
theorem dX3_weave_179 : decode cX3_weave 179 = .ok (.aload_n 0, 1) := dk_42 (dk_at dksX3_weave_7 14 rfl rfl)
theorem dX3_weave_180 : decode cX3_weave 180 = .ok (.getfield 224, 3) := dk_180 0 224 (dk_at dksX3_weave_7 15 rfl rfl)
theorem dX3_weave_183 : decode cX3_weave 183 = .ok (.aload_n 0, 1) := dk_42 (dk_at dksX3_weave_7 18 rfl rfl)
theorem dX3_weave_184 : decode cX3_weave 184 = .ok (.getfield 495, 3) := dk_180 1 239 (dk_at dksX3_weave_7 19 rfl rfl)
theorem dX3_weave_187 : decode cX3_weave 187 = .ok (.iload_n 3, 1) := dk_29 (dk_at dksX3_weave_7 22 rfl rfl)
theorem dX3_weave_188 : decode cX3_weave 188 = .ok (.iconst 2, 1) := dk_5 (dk_at dksX3_weave_7 23 rfl rfl)
theorem dX3_weave_189 : decode cX3_weave 189 = .ok (.idiv, 1) := dk_108 (dk_at dksX3_weave_8 0 rfl rfl)
theorem dX3_weave_190 : decode cX3_weave 190 = .ok (.iastore, 1) := dk_79 (dk_at dksX3_weave_8 1 rfl rfl)
theorem dX3_weave_191 : decode cX3_weave 191 = .ok (.aload_n 0, 1) := dk_42 (dk_at dksX3_weave_8 2 rfl rfl)
theorem dX3_weave_192 : decode cX3_weave 192 = .ok (.getfield 227, 3) := dk_180 0 227 (dk_at dksX3_weave_8 3 rfl rfl)
theorem dX3_weave_195 : decode cX3_weave 195 = .ok (.aload_n 0, 1) := dk_42 (dk_at dksX3_weave_8 6 rfl rfl)
theorem dX3_weave_196 : decode cX3_weave 196 = .ok (.getfield 495, 3) := dk_180 1 239 (dk_at dksX3_weave_8 7 rfl rfl)
theorem dX3_weave_199 : decode cX3_weave 199 = .ok (.iconst (-1), 1) := dk_2 (dk_at dksX3_weave_8 10 rfl rfl)
theorem dX3_weave_200 : decode cX3_weave 200 = .ok (.iastore, 1) := dk_79 (dk_at dksX3_weave_8 11 rfl rfl)
theorem dX3_weave_201 : decode cX3_weave 201 = .ok (.aload_n 0, 1) := dk_42 (dk_at dksX3_weave_8 12 rfl rfl)
theorem dX3_weave_202 : decode cX3_weave 202 = .ok (.dup, 1) := dk_89 (dk_at dksX3_weave_8 13 rfl rfl)
theorem dX3_weave_203 : decode cX3_weave 203 = .ok (.getfield 495, 3) := dk_180 1 239 (dk_at dksX3_weave_8 14 rfl rfl)
theorem dX3_weave_206 : decode cX3_weave 206 = .ok (.iconst 1, 1) := dk_4 (dk_at dksX3_weave_8 17 rfl rfl)
theorem dX3_weave_207 : decode cX3_weave 207 = .ok (.iadd, 1) := dk_96 (dk_at dksX3_weave_8 18 rfl rfl)
theorem dX3_weave_208 : decode cX3_weave 208 = .ok (.putfield 495, 3) := dk_181 1 239 (dk_at dksX3_weave_8 19 rfl rfl)
theorem dX3_weave_211 : decode cX3_weave 211 = .ok (.aload_n 0, 1) := dk_42 (dk_at dksX3_weave_8 22 rfl rfl)
theorem dX3_weave_212 : decode cX3_weave 212 = .ok (.getfield 495, 3) := dk_180 1 239 (dk_at dksX3_weave_9 0 rfl rfl)
theorem dX3_weave_215 : decode cX3_weave 215 = .ok (.iconst 1, 1) := dk_4 (dk_at dksX3_weave_9 3 rfl rfl)
theorem dX3_weave_216 : decode cX3_weave 216 = .ok (.isub, 1) := dk_100 (dk_at dksX3_weave_9 4 rfl rfl)
theorem dX3_weave_217 : decode cX3_weave 217 = .ok (.ireturn, 1) := dk_172 (dk_at dksX3_weave_9 5 rfl rfl)
abbrev cX3_cloth : ByteArray := prog_14_method_66_code
def yX3_cloth : MethodName := ⟨RX3, "cloth", "(II)I"⟩
def dkwX3_cloth_5 : List UInt8 := [180, 0, 227, 27, 46, 172, 2, 172]
abbrev dktX3_cloth_5 : List UInt8 := dkwX3_cloth_5 ++ []
def dkwX3_cloth_4 : List UInt8 := [180, 0, 185, 42, 180, 0, 215, 27, 46, 46, 172, 42, 180, 0, 188, 42, 180, 0, 215, 27, 46, 46, 172, 42]
abbrev dktX3_cloth_4 : List UInt8 := dkwX3_cloth_4 ++ dktX3_cloth_5
def dkwX3_cloth_3 : List UInt8 := [180, 0, 224, 27, 46, 172, 42, 180, 0, 230, 27, 51, 153, 0, 7, 4, 167, 0, 4, 3, 172, 42]
abbrev dktX3_cloth_3 : List UInt8 := dkwX3_cloth_3 ++ dktX3_cloth_4
def dkwX3_cloth_2 : List UInt8 := [42, 180, 0, 215, 27, 46, 172, 42, 180, 0, 218, 27, 46, 172, 42, 180, 0, 221, 27, 46, 172, 42]
abbrev dktX3_cloth_2 : List UInt8 := dkwX3_cloth_2 ++ dktX3_cloth_3
def dkwX3_cloth_1 : List UInt8 := [170, 0, 0, 0, 119, 0, 0, 0, 0, 0, 0, 0, 7, 0, 0, 0, 45, 0, 0, 0, 52, 0, 0, 0, 59, 0, 0, 0, 66, 0, 0, 0, 73, 0, 0, 0, 88, 0, 0, 0, 100, 0, 0, 0, 112]
abbrev dktX3_cloth_1 : List UInt8 := dkwX3_cloth_1 ++ dktX3_cloth_2
def dkwX3_cloth_0 : List UInt8 := [42, 27, 182, 1, 245, 154, 0, 5, 2, 172, 28]
abbrev dktX3_cloth_0 : List UInt8 := dkwX3_cloth_0 ++ dktX3_cloth_1
theorem dksX3_cloth_0 : cX3_cloth.data.toList.drop 0 = dktX3_cloth_0 := by decide +kernel
theorem dksX3_cloth_1 : cX3_cloth.data.toList.drop 11 = dktX3_cloth_1 := dk_seg dksX3_cloth_0 11 rfl rfl
theorem dksX3_cloth_2 : cX3_cloth.data.toList.drop 56 = dktX3_cloth_2 := dk_seg dksX3_cloth_1 45 rfl rfl
theorem dksX3_cloth_3 : cX3_cloth.data.toList.drop 78 = dktX3_cloth_3 := dk_seg dksX3_cloth_2 22 rfl rfl
theorem dksX3_cloth_4 : cX3_cloth.data.toList.drop 100 = dktX3_cloth_4 := dk_seg dksX3_cloth_3 22 rfl rfl
theorem dksX3_cloth_5 : cX3_cloth.data.toList.drop 124 = dktX3_cloth_5 := dk_seg dksX3_cloth_4 24 rfl rfl
theorem dX3_cloth_0 : decode cX3_cloth 0 = .ok (.aload_n 0, 1) := dk_42 (dk_at dksX3_cloth_0 0 rfl rfl)
theorem dX3_cloth_1 : decode cX3_cloth 1 = .ok (.iload_n 1, 1) := dk_27 (dk_at dksX3_cloth_0 1 rfl rfl)
theorem dX3_cloth_2 : decode cX3_cloth 2 = .ok (.invokevirtual 501, 3) := dk_182 1 245 (dk_at dksX3_cloth_0 2 rfl rfl)
theorem dX3_cloth_5 : decode cX3_cloth 5 = .ok (.ifCond .ne 5, 3) := dk_154 0 5 (dk_at dksX3_cloth_0 5 rfl rfl)
theorem dX3_cloth_8 : decode cX3_cloth 8 = .ok (.iconst (-1), 1) := dk_2 (dk_at dksX3_cloth_0 8 rfl rfl)
theorem dX3_cloth_9 : decode cX3_cloth 9 = .ok (.ireturn, 1) := dk_172 (dk_at dksX3_cloth_0 9 rfl rfl)
theorem dX3_cloth_10 : decode cX3_cloth 10 = .ok (.iload_n 2, 1) := dk_28 (dk_at dksX3_cloth_0 10 rfl rfl)
theorem dX3_cloth_11 : decode cX3_cloth 11 = .ok (.tableswitch 119 0 7 #[45, 52, 59, 66, 73, 88, 100, 112], 45) := by decide +kernel
theorem dX3_cloth_56 : decode cX3_cloth 56 = .ok (.aload_n 0, 1) := dk_42 (dk_at dksX3_cloth_2 0 rfl rfl)
theorem dX3_cloth_57 : decode cX3_cloth 57 = .ok (.getfield 215, 3) := dk_180 0 215 (dk_at dksX3_cloth_2 1 rfl rfl)
theorem dX3_cloth_60 : decode cX3_cloth 60 = .ok (.iload_n 1, 1) := dk_27 (dk_at dksX3_cloth_2 4 rfl rfl)
theorem dX3_cloth_61 : decode cX3_cloth 61 = .ok (.iaload, 1) := dk_46 (dk_at dksX3_cloth_2 5 rfl rfl)
theorem dX3_cloth_62 : decode cX3_cloth 62 = .ok (.ireturn, 1) := dk_172 (dk_at dksX3_cloth_2 6 rfl rfl)
theorem dX3_cloth_63 : decode cX3_cloth 63 = .ok (.aload_n 0, 1) := dk_42 (dk_at dksX3_cloth_2 7 rfl rfl)
theorem dX3_cloth_64 : decode cX3_cloth 64 = .ok (.getfield 218, 3) := dk_180 0 218 (dk_at dksX3_cloth_2 8 rfl rfl)
theorem dX3_cloth_67 : decode cX3_cloth 67 = .ok (.iload_n 1, 1) := dk_27 (dk_at dksX3_cloth_2 11 rfl rfl)
theorem dX3_cloth_68 : decode cX3_cloth 68 = .ok (.iaload, 1) := dk_46 (dk_at dksX3_cloth_2 12 rfl rfl)
theorem dX3_cloth_69 : decode cX3_cloth 69 = .ok (.ireturn, 1) := dk_172 (dk_at dksX3_cloth_2 13 rfl rfl)
theorem dX3_cloth_70 : decode cX3_cloth 70 = .ok (.aload_n 0, 1) := dk_42 (dk_at dksX3_cloth_2 14 rfl rfl)
theorem dX3_cloth_71 : decode cX3_cloth 71 = .ok (.getfield 221, 3) := dk_180 0 221 (dk_at dksX3_cloth_2 15 rfl rfl)
theorem dX3_cloth_74 : decode cX3_cloth 74 = .ok (.iload_n 1, 1) := dk_27 (dk_at dksX3_cloth_2 18 rfl rfl)
theorem dX3_cloth_75 : decode cX3_cloth 75 = .ok (.iaload, 1) := dk_46 (dk_at dksX3_cloth_2 19 rfl rfl)
theorem dX3_cloth_76 : decode cX3_cloth 76 = .ok (.ireturn, 1) := dk_172 (dk_at dksX3_cloth_2 20 rfl rfl)
theorem dX3_cloth_77 : decode cX3_cloth 77 = .ok (.aload_n 0, 1) := dk_42 (dk_at dksX3_cloth_2 21 rfl rfl)
theorem dX3_cloth_78 : decode cX3_cloth 78 = .ok (.getfield 224, 3) := dk_180 0 224 (dk_at dksX3_cloth_3 0 rfl rfl)
theorem dX3_cloth_81 : decode cX3_cloth 81 = .ok (.iload_n 1, 1) := dk_27 (dk_at dksX3_cloth_3 3 rfl rfl)
theorem dX3_cloth_82 : decode cX3_cloth 82 = .ok (.iaload, 1) := dk_46 (dk_at dksX3_cloth_3 4 rfl rfl)
theorem dX3_cloth_83 : decode cX3_cloth 83 = .ok (.ireturn, 1) := dk_172 (dk_at dksX3_cloth_3 5 rfl rfl)
theorem dX3_cloth_84 : decode cX3_cloth 84 = .ok (.aload_n 0, 1) := dk_42 (dk_at dksX3_cloth_3 6 rfl rfl)
theorem dX3_cloth_85 : decode cX3_cloth 85 = .ok (.getfield 230, 3) := dk_180 0 230 (dk_at dksX3_cloth_3 7 rfl rfl)
theorem dX3_cloth_88 : decode cX3_cloth 88 = .ok (.iload_n 1, 1) := dk_27 (dk_at dksX3_cloth_3 10 rfl rfl)
theorem dX3_cloth_89 : decode cX3_cloth 89 = .ok (.baload, 1) := dk_51 (dk_at dksX3_cloth_3 11 rfl rfl)
theorem dX3_cloth_90 : decode cX3_cloth 90 = .ok (.ifCond .eq 7, 3) := dk_153 0 7 (dk_at dksX3_cloth_3 12 rfl rfl)
theorem dX3_cloth_93 : decode cX3_cloth 93 = .ok (.iconst 1, 1) := dk_4 (dk_at dksX3_cloth_3 15 rfl rfl)
theorem dX3_cloth_94 : decode cX3_cloth 94 = .ok (.goto 4, 3) := dk_167 0 4 (dk_at dksX3_cloth_3 16 rfl rfl)
theorem dX3_cloth_97 : decode cX3_cloth 97 = .ok (.iconst 0, 1) := dk_3 (dk_at dksX3_cloth_3 19 rfl rfl)
theorem dX3_cloth_98 : decode cX3_cloth 98 = .ok (.ireturn, 1) := dk_172 (dk_at dksX3_cloth_3 20 rfl rfl)
theorem dX3_cloth_99 : decode cX3_cloth 99 = .ok (.aload_n 0, 1) := dk_42 (dk_at dksX3_cloth_3 21 rfl rfl)
theorem dX3_cloth_100 : decode cX3_cloth 100 = .ok (.getfield 185, 3) := dk_180 0 185 (dk_at dksX3_cloth_4 0 rfl rfl)
theorem dX3_cloth_103 : decode cX3_cloth 103 = .ok (.aload_n 0, 1) := dk_42 (dk_at dksX3_cloth_4 3 rfl rfl)
theorem dX3_cloth_104 : decode cX3_cloth 104 = .ok (.getfield 215, 3) := dk_180 0 215 (dk_at dksX3_cloth_4 4 rfl rfl)
theorem dX3_cloth_107 : decode cX3_cloth 107 = .ok (.iload_n 1, 1) := dk_27 (dk_at dksX3_cloth_4 7 rfl rfl)
theorem dX3_cloth_108 : decode cX3_cloth 108 = .ok (.iaload, 1) := dk_46 (dk_at dksX3_cloth_4 8 rfl rfl)
theorem dX3_cloth_109 : decode cX3_cloth 109 = .ok (.iaload, 1) := dk_46 (dk_at dksX3_cloth_4 9 rfl rfl)
theorem dX3_cloth_110 : decode cX3_cloth 110 = .ok (.ireturn, 1) := dk_172 (dk_at dksX3_cloth_4 10 rfl rfl)
theorem dX3_cloth_111 : decode cX3_cloth 111 = .ok (.aload_n 0, 1) := dk_42 (dk_at dksX3_cloth_4 11 rfl rfl)
theorem dX3_cloth_112 : decode cX3_cloth 112 = .ok (.getfield 188, 3) := dk_180 0 188 (dk_at dksX3_cloth_4 12 rfl rfl)
theorem dX3_cloth_115 : decode cX3_cloth 115 = .ok (.aload_n 0, 1) := dk_42 (dk_at dksX3_cloth_4 15 rfl rfl)
theorem dX3_cloth_116 : decode cX3_cloth 116 = .ok (.getfield 215, 3) := dk_180 0 215 (dk_at dksX3_cloth_4 16 rfl rfl)
theorem dX3_cloth_119 : decode cX3_cloth 119 = .ok (.iload_n 1, 1) := dk_27 (dk_at dksX3_cloth_4 19 rfl rfl)
theorem dX3_cloth_120 : decode cX3_cloth 120 = .ok (.iaload, 1) := dk_46 (dk_at dksX3_cloth_4 20 rfl rfl)
theorem dX3_cloth_121 : decode cX3_cloth 121 = .ok (.iaload, 1) := dk_46 (dk_at dksX3_cloth_4 21 rfl rfl)
theorem dX3_cloth_122 : decode cX3_cloth 122 = .ok (.ireturn, 1) := dk_172 (dk_at dksX3_cloth_4 22 rfl rfl)
theorem dX3_cloth_123 : decode cX3_cloth 123 = .ok (.aload_n 0, 1) := dk_42 (dk_at dksX3_cloth_4 23 rfl rfl)
theorem dX3_cloth_124 : decode cX3_cloth 124 = .ok (.getfield 227, 3) := dk_180 0 227 (dk_at dksX3_cloth_5 0 rfl rfl)
theorem dX3_cloth_127 : decode cX3_cloth 127 = .ok (.iload_n 1, 1) := dk_27 (dk_at dksX3_cloth_5 3 rfl rfl)
theorem dX3_cloth_128 : decode cX3_cloth 128 = .ok (.iaload, 1) := dk_46 (dk_at dksX3_cloth_5 4 rfl rfl)
theorem dX3_cloth_129 : decode cX3_cloth 129 = .ok (.ireturn, 1) := dk_172 (dk_at dksX3_cloth_5 5 rfl rfl)
theorem dX3_cloth_130 : decode cX3_cloth 130 = .ok (.iconst (-1), 1) := dk_2 (dk_at dksX3_cloth_5 6 rfl rfl)
theorem dX3_cloth_131 : decode cX3_cloth 131 = .ok (.ireturn, 1) := dk_172 (dk_at dksX3_cloth_5 7 rfl rfl)
abbrev cX3_isCloth : ByteArray := prog_14_method_65_code
def yX3_isCloth : MethodName := ⟨RX3, "isCloth", "(I)Z"⟩
def dkwX3_isCloth_0 : List UInt8 := [27, 133, 9, 42, 180, 1, 239, 4, 100, 133, 184, 1, 18, 172]
abbrev dktX3_isCloth_0 : List UInt8 := dkwX3_isCloth_0 ++ []
theorem dksX3_isCloth_0 : cX3_isCloth.data.toList.drop 0 = dktX3_isCloth_0 := by decide +kernel
theorem dX3_isCloth_0 : decode cX3_isCloth 0 = .ok (.iload_n 1, 1) := dk_27 (dk_at dksX3_isCloth_0 0 rfl rfl)
theorem dX3_isCloth_1 : decode cX3_isCloth 1 = .ok (.i2l, 1) := dk_133 (dk_at dksX3_isCloth_0 1 rfl rfl)
theorem dX3_isCloth_2 : decode cX3_isCloth 2 = .ok (.lconst 0, 1) := dk_9 (dk_at dksX3_isCloth_0 2 rfl rfl)
theorem dX3_isCloth_3 : decode cX3_isCloth 3 = .ok (.aload_n 0, 1) := dk_42 (dk_at dksX3_isCloth_0 3 rfl rfl)
theorem dX3_isCloth_4 : decode cX3_isCloth 4 = .ok (.getfield 495, 3) := dk_180 1 239 (dk_at dksX3_isCloth_0 4 rfl rfl)
theorem dX3_isCloth_7 : decode cX3_isCloth 7 = .ok (.iconst 1, 1) := dk_4 (dk_at dksX3_isCloth_0 7 rfl rfl)
theorem dX3_isCloth_8 : decode cX3_isCloth 8 = .ok (.isub, 1) := dk_100 (dk_at dksX3_isCloth_0 8 rfl rfl)
theorem dX3_isCloth_9 : decode cX3_isCloth 9 = .ok (.i2l, 1) := dk_133 (dk_at dksX3_isCloth_0 9 rfl rfl)
theorem dX3_isCloth_10 : decode cX3_isCloth 10 = .ok (.invokestatic 274, 3) := dk_184 1 18 (dk_at dksX3_isCloth_0 10 rfl rfl)
theorem dX3_isCloth_13 : decode cX3_isCloth 13 = .ok (.ireturn, 1) := dk_172 (dk_at dksX3_isCloth_0 13 rfl rfl)
abbrev cX3_ask : ByteArray := prog_14_method_67_code
def yX3_ask : MethodName := ⟨RX3, "ask", "(I)I"⟩
def dkwX3_ask_3 : List UInt8 := [172]
abbrev dktX3_ask_3 : List UInt8 := dkwX3_ask_3 ++ []
def dkwX3_ask_2 : List UInt8 := [42, 180, 0, 234, 42, 180, 1, 248, 27, 79, 42, 89, 180, 1, 248, 4, 96, 181, 1, 248, 42, 180, 1, 248]
abbrev dktX3_ask_2 : List UInt8 := dkwX3_ask_2 ++ dktX3_ask_3
def dkwX3_ask_1 : List UInt8 := [180, 1, 248, 162, 0, 21, 42, 180, 0, 234, 28, 46, 27, 160, 0, 5, 2, 172, 132, 2, 1, 167, 255, 233]
abbrev dktX3_ask_1 : List UInt8 := dkwX3_ask_1 ++ dktX3_ask_2
def dkwX3_ask_0 : List UInt8 := [42, 27, 182, 1, 210, 153, 0, 12, 42, 180, 1, 248, 16, 6, 160, 0, 5, 2, 172, 3, 61, 28, 42]
abbrev dktX3_ask_0 : List UInt8 := dkwX3_ask_0 ++ dktX3_ask_1
theorem dksX3_ask_0 : cX3_ask.data.toList.drop 0 = dktX3_ask_0 := by decide +kernel
theorem dksX3_ask_1 : cX3_ask.data.toList.drop 23 = dktX3_ask_1 := dk_seg dksX3_ask_0 23 rfl rfl
theorem dksX3_ask_2 : cX3_ask.data.toList.drop 47 = dktX3_ask_2 := dk_seg dksX3_ask_1 24 rfl rfl
theorem dksX3_ask_3 : cX3_ask.data.toList.drop 71 = dktX3_ask_3 := dk_seg dksX3_ask_2 24 rfl rfl
theorem dX3_ask_0 : decode cX3_ask 0 = .ok (.aload_n 0, 1) := dk_42 (dk_at dksX3_ask_0 0 rfl rfl)
theorem dX3_ask_1 : decode cX3_ask 1 = .ok (.iload_n 1, 1) := dk_27 (dk_at dksX3_ask_0 1 rfl rfl)
theorem dX3_ask_2 : decode cX3_ask 2 = .ok (.invokevirtual 466, 3) := dk_182 1 210 (dk_at dksX3_ask_0 2 rfl rfl)
theorem dX3_ask_5 : decode cX3_ask 5 = .ok (.ifCond .eq 12, 3) := dk_153 0 12 (dk_at dksX3_ask_0 5 rfl rfl)
theorem dX3_ask_8 : decode cX3_ask 8 = .ok (.aload_n 0, 1) := dk_42 (dk_at dksX3_ask_0 8 rfl rfl)
theorem dX3_ask_9 : decode cX3_ask 9 = .ok (.getfield 504, 3) := dk_180 1 248 (dk_at dksX3_ask_0 9 rfl rfl)
theorem dX3_ask_12 : decode cX3_ask 12 = .ok (.bipush 6, 2) := dk_16 6 (dk_at dksX3_ask_0 12 rfl rfl)
theorem dX3_ask_14 : decode cX3_ask 14 = .ok (.if_icmp .ne 5, 3) := dk_160 0 5 (dk_at dksX3_ask_0 14 rfl rfl)
theorem dX3_ask_17 : decode cX3_ask 17 = .ok (.iconst (-1), 1) := dk_2 (dk_at dksX3_ask_0 17 rfl rfl)
theorem dX3_ask_18 : decode cX3_ask 18 = .ok (.ireturn, 1) := dk_172 (dk_at dksX3_ask_0 18 rfl rfl)
theorem dX3_ask_19 : decode cX3_ask 19 = .ok (.iconst 0, 1) := dk_3 (dk_at dksX3_ask_0 19 rfl rfl)
theorem dX3_ask_20 : decode cX3_ask 20 = .ok (.istore_n 2, 1) := dk_61 (dk_at dksX3_ask_0 20 rfl rfl)
theorem dX3_ask_21 : decode cX3_ask 21 = .ok (.iload_n 2, 1) := dk_28 (dk_at dksX3_ask_0 21 rfl rfl)
theorem dX3_ask_22 : decode cX3_ask 22 = .ok (.aload_n 0, 1) := dk_42 (dk_at dksX3_ask_0 22 rfl rfl)
theorem dX3_ask_23 : decode cX3_ask 23 = .ok (.getfield 504, 3) := dk_180 1 248 (dk_at dksX3_ask_1 0 rfl rfl)
theorem dX3_ask_26 : decode cX3_ask 26 = .ok (.if_icmp .ge 21, 3) := dk_162 0 21 (dk_at dksX3_ask_1 3 rfl rfl)
theorem dX3_ask_29 : decode cX3_ask 29 = .ok (.aload_n 0, 1) := dk_42 (dk_at dksX3_ask_1 6 rfl rfl)
theorem dX3_ask_30 : decode cX3_ask 30 = .ok (.getfield 234, 3) := dk_180 0 234 (dk_at dksX3_ask_1 7 rfl rfl)
theorem dX3_ask_33 : decode cX3_ask 33 = .ok (.iload_n 2, 1) := dk_28 (dk_at dksX3_ask_1 10 rfl rfl)
theorem dX3_ask_34 : decode cX3_ask 34 = .ok (.iaload, 1) := dk_46 (dk_at dksX3_ask_1 11 rfl rfl)
theorem dX3_ask_35 : decode cX3_ask 35 = .ok (.iload_n 1, 1) := dk_27 (dk_at dksX3_ask_1 12 rfl rfl)
theorem dX3_ask_36 : decode cX3_ask 36 = .ok (.if_icmp .ne 5, 3) := dk_160 0 5 (dk_at dksX3_ask_1 13 rfl rfl)
theorem dX3_ask_39 : decode cX3_ask 39 = .ok (.iconst (-1), 1) := dk_2 (dk_at dksX3_ask_1 16 rfl rfl)
theorem dX3_ask_40 : decode cX3_ask 40 = .ok (.ireturn, 1) := dk_172 (dk_at dksX3_ask_1 17 rfl rfl)
theorem dX3_ask_41 : decode cX3_ask 41 = .ok (.iinc 2 1, 3) := dk_132 2 1 (dk_at dksX3_ask_1 18 rfl rfl)
theorem dX3_ask_44 : decode cX3_ask 44 = .ok (.goto (-23), 3) := dk_167 255 233 (dk_at dksX3_ask_1 21 rfl rfl)
theorem dX3_ask_47 : decode cX3_ask 47 = .ok (.aload_n 0, 1) := dk_42 (dk_at dksX3_ask_2 0 rfl rfl)
theorem dX3_ask_48 : decode cX3_ask 48 = .ok (.getfield 234, 3) := dk_180 0 234 (dk_at dksX3_ask_2 1 rfl rfl)
theorem dX3_ask_51 : decode cX3_ask 51 = .ok (.aload_n 0, 1) := dk_42 (dk_at dksX3_ask_2 4 rfl rfl)
theorem dX3_ask_52 : decode cX3_ask 52 = .ok (.getfield 504, 3) := dk_180 1 248 (dk_at dksX3_ask_2 5 rfl rfl)
theorem dX3_ask_55 : decode cX3_ask 55 = .ok (.iload_n 1, 1) := dk_27 (dk_at dksX3_ask_2 8 rfl rfl)
theorem dX3_ask_56 : decode cX3_ask 56 = .ok (.iastore, 1) := dk_79 (dk_at dksX3_ask_2 9 rfl rfl)
theorem dX3_ask_57 : decode cX3_ask 57 = .ok (.aload_n 0, 1) := dk_42 (dk_at dksX3_ask_2 10 rfl rfl)
theorem dX3_ask_58 : decode cX3_ask 58 = .ok (.dup, 1) := dk_89 (dk_at dksX3_ask_2 11 rfl rfl)
theorem dX3_ask_59 : decode cX3_ask 59 = .ok (.getfield 504, 3) := dk_180 1 248 (dk_at dksX3_ask_2 12 rfl rfl)
theorem dX3_ask_62 : decode cX3_ask 62 = .ok (.iconst 1, 1) := dk_4 (dk_at dksX3_ask_2 15 rfl rfl)
theorem dX3_ask_63 : decode cX3_ask 63 = .ok (.iadd, 1) := dk_96 (dk_at dksX3_ask_2 16 rfl rfl)
theorem dX3_ask_64 : decode cX3_ask 64 = .ok (.putfield 504, 3) := dk_181 1 248 (dk_at dksX3_ask_2 17 rfl rfl)
theorem dX3_ask_67 : decode cX3_ask 67 = .ok (.aload_n 0, 1) := dk_42 (dk_at dksX3_ask_2 20 rfl rfl)
theorem dX3_ask_68 : decode cX3_ask 68 = .ok (.getfield 504, 3) := dk_180 1 248 (dk_at dksX3_ask_2 21 rfl rfl)
theorem dX3_ask_71 : decode cX3_ask 71 = .ok (.ireturn, 1) := dk_172 (dk_at dksX3_ask_3 0 rfl rfl)
abbrev cX3_clear : ByteArray := prog_14_method_68_code
def yX3_clear : MethodName := ⟨RX3, "clear", "()I"⟩
def dkwX3_clear_0 : List UInt8 := [42, 180, 1, 248, 60, 42, 3, 181, 1, 248, 27, 172]
abbrev dktX3_clear_0 : List UInt8 := dkwX3_clear_0 ++ []
theorem dksX3_clear_0 : cX3_clear.data.toList.drop 0 = dktX3_clear_0 := by decide +kernel
theorem dX3_clear_0 : decode cX3_clear 0 = .ok (.aload_n 0, 1) := dk_42 (dk_at dksX3_clear_0 0 rfl rfl)
theorem dX3_clear_1 : decode cX3_clear 1 = .ok (.getfield 504, 3) := dk_180 1 248 (dk_at dksX3_clear_0 1 rfl rfl)
theorem dX3_clear_4 : decode cX3_clear 4 = .ok (.istore_n 1, 1) := dk_60 (dk_at dksX3_clear_0 4 rfl rfl)
theorem dX3_clear_5 : decode cX3_clear 5 = .ok (.aload_n 0, 1) := dk_42 (dk_at dksX3_clear_0 5 rfl rfl)
theorem dX3_clear_6 : decode cX3_clear 6 = .ok (.iconst 0, 1) := dk_3 (dk_at dksX3_clear_0 6 rfl rfl)
theorem dX3_clear_7 : decode cX3_clear 7 = .ok (.putfield 504, 3) := dk_181 1 248 (dk_at dksX3_clear_0 7 rfl rfl)
theorem dX3_clear_10 : decode cX3_clear 10 = .ok (.iload_n 1, 1) := dk_27 (dk_at dksX3_clear_0 10 rfl rfl)
theorem dX3_clear_11 : decode cX3_clear 11 = .ok (.ireturn, 1) := dk_172 (dk_at dksX3_clear_0 11 rfl rfl)
abbrev cX3_hands : ByteArray := prog_14_method_72_code
def yX3_hands : MethodName := ⟨RX3, "hands", "(II)I"⟩
def dkwX3_hands_4 : List UInt8 := [167, 0, 4, 2, 172]
abbrev dktX3_hands_4 : List UInt8 := dkwX3_hands_4 ++ []
def dkwX3_hands_3 : List UInt8 := [167, 0, 28, 28, 4, 160, 0, 10, 42, 180, 2, 1, 167, 0, 16, 28, 5, 160, 0, 10, 42, 180, 2, 4]
abbrev dktX3_hands_3 : List UInt8 := dkwX3_hands_3 ++ dktX3_hands_4
def dkwX3_hands_2 : List UInt8 := [180, 0, 240, 42, 180, 0, 246, 28, 16, 10, 100, 46, 46, 172, 28, 154, 0, 10, 42, 180, 1, 254]
abbrev dktX3_hands_2 : List UInt8 := dkwX3_hands_2 ++ dktX3_hands_3
def dkwX3_hands_1 : List UInt8 := [184, 1, 18, 153, 0, 35, 42, 180, 0, 246, 28, 16, 10, 100, 46, 2, 160, 0, 7, 2, 167, 0, 17, 42]
abbrev dktX3_hands_1 : List UInt8 := dkwX3_hands_1 ++ dktX3_hands_2
def dkwX3_hands_0 : List UInt8 := [42, 27, 182, 2, 13, 154, 0, 5, 2, 172, 28, 133, 20, 2, 16, 16, 9, 42, 180, 1, 248, 96, 133]
abbrev dktX3_hands_0 : List UInt8 := dkwX3_hands_0 ++ dktX3_hands_1
theorem dksX3_hands_0 : cX3_hands.data.toList.drop 0 = dktX3_hands_0 := by decide +kernel
theorem dksX3_hands_1 : cX3_hands.data.toList.drop 23 = dktX3_hands_1 := dk_seg dksX3_hands_0 23 rfl rfl
theorem dksX3_hands_2 : cX3_hands.data.toList.drop 47 = dktX3_hands_2 := dk_seg dksX3_hands_1 24 rfl rfl
theorem dksX3_hands_3 : cX3_hands.data.toList.drop 69 = dktX3_hands_3 := dk_seg dksX3_hands_2 22 rfl rfl
theorem dksX3_hands_4 : cX3_hands.data.toList.drop 93 = dktX3_hands_4 := dk_seg dksX3_hands_3 24 rfl rfl
theorem dX3_hands_0 : decode cX3_hands 0 = .ok (.aload_n 0, 1) := dk_42 (dk_at dksX3_hands_0 0 rfl rfl)
theorem dX3_hands_1 : decode cX3_hands 1 = .ok (.iload_n 1, 1) := dk_27 (dk_at dksX3_hands_0 1 rfl rfl)
theorem dX3_hands_2 : decode cX3_hands 2 = .ok (.invokevirtual 525, 3) := dk_182 2 13 (dk_at dksX3_hands_0 2 rfl rfl)
theorem dX3_hands_5 : decode cX3_hands 5 = .ok (.ifCond .ne 5, 3) := dk_154 0 5 (dk_at dksX3_hands_0 5 rfl rfl)
theorem dX3_hands_8 : decode cX3_hands 8 = .ok (.iconst (-1), 1) := dk_2 (dk_at dksX3_hands_0 8 rfl rfl)
theorem dX3_hands_9 : decode cX3_hands 9 = .ok (.ireturn, 1) := dk_172 (dk_at dksX3_hands_0 9 rfl rfl)
theorem dX3_hands_10 : decode cX3_hands 10 = .ok (.iload_n 2, 1) := dk_28 (dk_at dksX3_hands_0 10 rfl rfl)
theorem dX3_hands_11 : decode cX3_hands 11 = .ok (.i2l, 1) := dk_133 (dk_at dksX3_hands_0 11 rfl rfl)
theorem dX3_hands_12 : decode cX3_hands 12 = .ok (.ldc2_w 528, 3) := dk_20 2 16 (dk_at dksX3_hands_0 12 rfl rfl)
theorem dX3_hands_15 : decode cX3_hands 15 = .ok (.bipush 9, 2) := dk_16 9 (dk_at dksX3_hands_0 15 rfl rfl)
theorem dX3_hands_17 : decode cX3_hands 17 = .ok (.aload_n 0, 1) := dk_42 (dk_at dksX3_hands_0 17 rfl rfl)
theorem dX3_hands_18 : decode cX3_hands 18 = .ok (.getfield 504, 3) := dk_180 1 248 (dk_at dksX3_hands_0 18 rfl rfl)
theorem dX3_hands_21 : decode cX3_hands 21 = .ok (.iadd, 1) := dk_96 (dk_at dksX3_hands_0 21 rfl rfl)
theorem dX3_hands_22 : decode cX3_hands 22 = .ok (.i2l, 1) := dk_133 (dk_at dksX3_hands_0 22 rfl rfl)
theorem dX3_hands_23 : decode cX3_hands 23 = .ok (.invokestatic 274, 3) := dk_184 1 18 (dk_at dksX3_hands_1 0 rfl rfl)
theorem dX3_hands_26 : decode cX3_hands 26 = .ok (.ifCond .eq 35, 3) := dk_153 0 35 (dk_at dksX3_hands_1 3 rfl rfl)
theorem dX3_hands_29 : decode cX3_hands 29 = .ok (.aload_n 0, 1) := dk_42 (dk_at dksX3_hands_1 6 rfl rfl)
theorem dX3_hands_30 : decode cX3_hands 30 = .ok (.getfield 246, 3) := dk_180 0 246 (dk_at dksX3_hands_1 7 rfl rfl)
theorem dX3_hands_33 : decode cX3_hands 33 = .ok (.iload_n 2, 1) := dk_28 (dk_at dksX3_hands_1 10 rfl rfl)
theorem dX3_hands_34 : decode cX3_hands 34 = .ok (.bipush 10, 2) := dk_16 10 (dk_at dksX3_hands_1 11 rfl rfl)
theorem dX3_hands_36 : decode cX3_hands 36 = .ok (.isub, 1) := dk_100 (dk_at dksX3_hands_1 13 rfl rfl)
theorem dX3_hands_37 : decode cX3_hands 37 = .ok (.iaload, 1) := dk_46 (dk_at dksX3_hands_1 14 rfl rfl)
theorem dX3_hands_38 : decode cX3_hands 38 = .ok (.iconst (-1), 1) := dk_2 (dk_at dksX3_hands_1 15 rfl rfl)
theorem dX3_hands_39 : decode cX3_hands 39 = .ok (.if_icmp .ne 7, 3) := dk_160 0 7 (dk_at dksX3_hands_1 16 rfl rfl)
theorem dX3_hands_42 : decode cX3_hands 42 = .ok (.iconst (-1), 1) := dk_2 (dk_at dksX3_hands_1 19 rfl rfl)
theorem dX3_hands_43 : decode cX3_hands 43 = .ok (.goto 17, 3) := dk_167 0 17 (dk_at dksX3_hands_1 20 rfl rfl)
theorem dX3_hands_46 : decode cX3_hands 46 = .ok (.aload_n 0, 1) := dk_42 (dk_at dksX3_hands_1 23 rfl rfl)
theorem dX3_hands_47 : decode cX3_hands 47 = .ok (.getfield 240, 3) := dk_180 0 240 (dk_at dksX3_hands_2 0 rfl rfl)
theorem dX3_hands_50 : decode cX3_hands 50 = .ok (.aload_n 0, 1) := dk_42 (dk_at dksX3_hands_2 3 rfl rfl)
theorem dX3_hands_51 : decode cX3_hands 51 = .ok (.getfield 246, 3) := dk_180 0 246 (dk_at dksX3_hands_2 4 rfl rfl)
theorem dX3_hands_54 : decode cX3_hands 54 = .ok (.iload_n 2, 1) := dk_28 (dk_at dksX3_hands_2 7 rfl rfl)
theorem dX3_hands_55 : decode cX3_hands 55 = .ok (.bipush 10, 2) := dk_16 10 (dk_at dksX3_hands_2 8 rfl rfl)
theorem dX3_hands_57 : decode cX3_hands 57 = .ok (.isub, 1) := dk_100 (dk_at dksX3_hands_2 10 rfl rfl)
theorem dX3_hands_58 : decode cX3_hands 58 = .ok (.iaload, 1) := dk_46 (dk_at dksX3_hands_2 11 rfl rfl)
theorem dX3_hands_59 : decode cX3_hands 59 = .ok (.iaload, 1) := dk_46 (dk_at dksX3_hands_2 12 rfl rfl)
theorem dX3_hands_60 : decode cX3_hands 60 = .ok (.ireturn, 1) := dk_172 (dk_at dksX3_hands_2 13 rfl rfl)
theorem dX3_hands_61 : decode cX3_hands 61 = .ok (.iload_n 2, 1) := dk_28 (dk_at dksX3_hands_2 14 rfl rfl)
theorem dX3_hands_62 : decode cX3_hands 62 = .ok (.ifCond .ne 10, 3) := dk_154 0 10 (dk_at dksX3_hands_2 15 rfl rfl)
theorem dX3_hands_65 : decode cX3_hands 65 = .ok (.aload_n 0, 1) := dk_42 (dk_at dksX3_hands_2 18 rfl rfl)
theorem dX3_hands_66 : decode cX3_hands 66 = .ok (.getfield 510, 3) := dk_180 1 254 (dk_at dksX3_hands_2 19 rfl rfl)
theorem dX3_hands_69 : decode cX3_hands 69 = .ok (.goto 28, 3) := dk_167 0 28 (dk_at dksX3_hands_3 0 rfl rfl)
theorem dX3_hands_72 : decode cX3_hands 72 = .ok (.iload_n 2, 1) := dk_28 (dk_at dksX3_hands_3 3 rfl rfl)
theorem dX3_hands_73 : decode cX3_hands 73 = .ok (.iconst 1, 1) := dk_4 (dk_at dksX3_hands_3 4 rfl rfl)
theorem dX3_hands_74 : decode cX3_hands 74 = .ok (.if_icmp .ne 10, 3) := dk_160 0 10 (dk_at dksX3_hands_3 5 rfl rfl)
theorem dX3_hands_77 : decode cX3_hands 77 = .ok (.aload_n 0, 1) := dk_42 (dk_at dksX3_hands_3 8 rfl rfl)
theorem dX3_hands_78 : decode cX3_hands 78 = .ok (.getfield 513, 3) := dk_180 2 1 (dk_at dksX3_hands_3 9 rfl rfl)
theorem dX3_hands_81 : decode cX3_hands 81 = .ok (.goto 16, 3) := dk_167 0 16 (dk_at dksX3_hands_3 12 rfl rfl)
theorem dX3_hands_84 : decode cX3_hands 84 = .ok (.iload_n 2, 1) := dk_28 (dk_at dksX3_hands_3 15 rfl rfl)
theorem dX3_hands_85 : decode cX3_hands 85 = .ok (.iconst 2, 1) := dk_5 (dk_at dksX3_hands_3 16 rfl rfl)
theorem dX3_hands_86 : decode cX3_hands 86 = .ok (.if_icmp .ne 10, 3) := dk_160 0 10 (dk_at dksX3_hands_3 17 rfl rfl)
theorem dX3_hands_89 : decode cX3_hands 89 = .ok (.aload_n 0, 1) := dk_42 (dk_at dksX3_hands_3 20 rfl rfl)
theorem dX3_hands_90 : decode cX3_hands 90 = .ok (.getfield 516, 3) := dk_180 2 4 (dk_at dksX3_hands_3 21 rfl rfl)
theorem dX3_hands_93 : decode cX3_hands 93 = .ok (.goto 4, 3) := dk_167 0 4 (dk_at dksX3_hands_4 0 rfl rfl)
theorem dX3_hands_96 : decode cX3_hands 96 = .ok (.iconst (-1), 1) := dk_2 (dk_at dksX3_hands_4 3 rfl rfl)
theorem dX3_hands_97 : decode cX3_hands 97 = .ok (.ireturn, 1) := dk_172 (dk_at dksX3_hands_4 4 rfl rfl)
abbrev cX3_handsFor : ByteArray := prog_14_method_71_code
def yX3_handsFor : MethodName := ⟨RX3, "handsFor", "(I)Z"⟩
def dkwX3_handsFor_10 : List UInt8 := [167, 255, 111, 42, 2, 181, 1, 254, 42, 3, 182, 2, 10, 4, 172]
abbrev dktX3_handsFor_10 : List UInt8 := dkwX3_handsFor_10 ++ []
def dkwX3_handsFor_9 : List UInt8 := [42, 180, 0, 63, 42, 180, 0, 240, 29, 46, 46, 182, 1, 37, 79, 132, 3, 1, 167, 255, 158, 132, 2, 1]
abbrev dktX3_handsFor_9 : List UInt8 := dkwX3_handsFor_9 ++ dktX3_handsFor_10
def dkwX3_handsFor_8 : List UInt8 := [42, 180, 0, 253, 28, 50, 29, 42, 42, 180, 0, 63, 42, 180, 0, 185, 42, 180, 0, 234, 28, 46, 46, 46]
abbrev dktX3_handsFor_8 : List UInt8 := dkwX3_handsFor_8 ++ dktX3_handsFor_9
def dkwX3_handsFor_7 : List UInt8 := [42, 180, 0, 234, 28, 46, 42, 180, 0, 237, 28, 46, 182, 1, 225, 154, 0, 7, 4, 167, 0, 4, 3, 84]
abbrev dktX3_handsFor_7 : List UInt8 := dkwX3_handsFor_7 ++ dktX3_handsFor_8
def dkwX3_handsFor_6 : List UInt8 := [42, 180, 0, 251, 28, 50, 29, 42, 180, 0, 237, 28, 46, 5, 161, 0, 32, 42, 42, 180, 0, 240, 29, 46]
abbrev dktX3_handsFor_6 : List UInt8 := dkwX3_handsFor_6 ++ dktX3_handsFor_7
def dkwX3_handsFor_5 : List UInt8 := [180, 0, 200, 42, 180, 0, 234, 28, 46, 46, 5, 112, 100, 79, 3, 62, 29, 42, 180, 1, 251, 162, 0, 96]
abbrev dktX3_handsFor_5 : List UInt8 := dkwX3_handsFor_5 ++ dktX3_handsFor_6
def dkwX3_handsFor_4 : List UInt8 := [42, 180, 1, 248, 162, 0, 143, 42, 180, 0, 237, 28, 42, 180, 0, 200, 42, 180, 0, 234, 28, 46, 46, 42]
abbrev dktX3_handsFor_4 : List UInt8 := dkwX3_handsFor_4 ++ dktX3_handsFor_5
def dkwX3_handsFor_3 : List UInt8 := [180, 1, 251, 28, 79, 42, 89, 180, 1, 251, 4, 96, 181, 1, 251, 132, 2, 1, 167, 255, 203, 3, 61, 28]
abbrev dktX3_handsFor_3 : List UInt8 := dkwX3_handsFor_3 ++ dktX3_handsFor_4
def dkwX3_handsFor_2 : List UInt8 := [126, 154, 0, 6, 167, 0, 34, 42, 180, 1, 251, 16, 6, 160, 0, 5, 3, 172, 42, 180, 0, 240, 42]
abbrev dktX3_handsFor_2 : List UInt8 := dkwX3_handsFor_2 ++ dktX3_handsFor_3
def dkwX3_handsFor_1 : List UInt8 := [154, 0, 5, 3, 172, 42, 3, 181, 1, 251, 3, 61, 28, 42, 180, 1, 22, 162, 0, 51, 27, 28, 122, 4]
abbrev dktX3_handsFor_1 : List UInt8 := dkwX3_handsFor_1 ++ dktX3_handsFor_2
def dkwX3_handsFor_0 : List UInt8 := [27, 133, 10, 4, 42, 180, 1, 22, 120, 4, 100, 133, 184, 1, 18, 153, 0, 10, 42, 180, 1, 248]
abbrev dktX3_handsFor_0 : List UInt8 := dkwX3_handsFor_0 ++ dktX3_handsFor_1
theorem dksX3_handsFor_0 : cX3_handsFor.data.toList.drop 0 = dktX3_handsFor_0 := by decide +kernel
theorem dksX3_handsFor_1 : cX3_handsFor.data.toList.drop 22 = dktX3_handsFor_1 := dk_seg dksX3_handsFor_0 22 rfl rfl
theorem dksX3_handsFor_2 : cX3_handsFor.data.toList.drop 46 = dktX3_handsFor_2 := dk_seg dksX3_handsFor_1 24 rfl rfl
theorem dksX3_handsFor_3 : cX3_handsFor.data.toList.drop 69 = dktX3_handsFor_3 := dk_seg dksX3_handsFor_2 23 rfl rfl
theorem dksX3_handsFor_4 : cX3_handsFor.data.toList.drop 93 = dktX3_handsFor_4 := dk_seg dksX3_handsFor_3 24 rfl rfl
theorem dksX3_handsFor_5 : cX3_handsFor.data.toList.drop 117 = dktX3_handsFor_5 := dk_seg dksX3_handsFor_4 24 rfl rfl
theorem dksX3_handsFor_6 : cX3_handsFor.data.toList.drop 141 = dktX3_handsFor_6 := dk_seg dksX3_handsFor_5 24 rfl rfl
theorem dksX3_handsFor_7 : cX3_handsFor.data.toList.drop 165 = dktX3_handsFor_7 := dk_seg dksX3_handsFor_6 24 rfl rfl
theorem dksX3_handsFor_8 : cX3_handsFor.data.toList.drop 189 = dktX3_handsFor_8 := dk_seg dksX3_handsFor_7 24 rfl rfl
theorem dksX3_handsFor_9 : cX3_handsFor.data.toList.drop 213 = dktX3_handsFor_9 := dk_seg dksX3_handsFor_8 24 rfl rfl
theorem dksX3_handsFor_10 : cX3_handsFor.data.toList.drop 237 = dktX3_handsFor_10 := dk_seg dksX3_handsFor_9 24 rfl rfl
theorem dX3_handsFor_0 : decode cX3_handsFor 0 = .ok (.iload_n 1, 1) := dk_27 (dk_at dksX3_handsFor_0 0 rfl rfl)
theorem dX3_handsFor_1 : decode cX3_handsFor 1 = .ok (.i2l, 1) := dk_133 (dk_at dksX3_handsFor_0 1 rfl rfl)
theorem dX3_handsFor_2 : decode cX3_handsFor 2 = .ok (.lconst 1, 1) := dk_10 (dk_at dksX3_handsFor_0 2 rfl rfl)
theorem dX3_handsFor_3 : decode cX3_handsFor 3 = .ok (.iconst 1, 1) := dk_4 (dk_at dksX3_handsFor_0 3 rfl rfl)
theorem dX3_handsFor_4 : decode cX3_handsFor 4 = .ok (.aload_n 0, 1) := dk_42 (dk_at dksX3_handsFor_0 4 rfl rfl)
theorem dX3_handsFor_5 : decode cX3_handsFor 5 = .ok (.getfield 278, 3) := dk_180 1 22 (dk_at dksX3_handsFor_0 5 rfl rfl)
theorem dX3_handsFor_8 : decode cX3_handsFor 8 = .ok (.ishl, 1) := dk_120 (dk_at dksX3_handsFor_0 8 rfl rfl)
theorem dX3_handsFor_9 : decode cX3_handsFor 9 = .ok (.iconst 1, 1) := dk_4 (dk_at dksX3_handsFor_0 9 rfl rfl)
theorem dX3_handsFor_10 : decode cX3_handsFor 10 = .ok (.isub, 1) := dk_100 (dk_at dksX3_handsFor_0 10 rfl rfl)
theorem dX3_handsFor_11 : decode cX3_handsFor 11 = .ok (.i2l, 1) := dk_133 (dk_at dksX3_handsFor_0 11 rfl rfl)
theorem dX3_handsFor_12 : decode cX3_handsFor 12 = .ok (.invokestatic 274, 3) := dk_184 1 18 (dk_at dksX3_handsFor_0 12 rfl rfl)
theorem dX3_handsFor_15 : decode cX3_handsFor 15 = .ok (.ifCond .eq 10, 3) := dk_153 0 10 (dk_at dksX3_handsFor_0 15 rfl rfl)
theorem dX3_handsFor_18 : decode cX3_handsFor 18 = .ok (.aload_n 0, 1) := dk_42 (dk_at dksX3_handsFor_0 18 rfl rfl)
theorem dX3_handsFor_19 : decode cX3_handsFor 19 = .ok (.getfield 504, 3) := dk_180 1 248 (dk_at dksX3_handsFor_0 19 rfl rfl)
theorem dX3_handsFor_22 : decode cX3_handsFor 22 = .ok (.ifCond .ne 5, 3) := dk_154 0 5 (dk_at dksX3_handsFor_1 0 rfl rfl)
theorem dX3_handsFor_25 : decode cX3_handsFor 25 = .ok (.iconst 0, 1) := dk_3 (dk_at dksX3_handsFor_1 3 rfl rfl)
theorem dX3_handsFor_26 : decode cX3_handsFor 26 = .ok (.ireturn, 1) := dk_172 (dk_at dksX3_handsFor_1 4 rfl rfl)
theorem dX3_handsFor_27 : decode cX3_handsFor 27 = .ok (.aload_n 0, 1) := dk_42 (dk_at dksX3_handsFor_1 5 rfl rfl)
theorem dX3_handsFor_28 : decode cX3_handsFor 28 = .ok (.iconst 0, 1) := dk_3 (dk_at dksX3_handsFor_1 6 rfl rfl)
theorem dX3_handsFor_29 : decode cX3_handsFor 29 = .ok (.putfield 507, 3) := dk_181 1 251 (dk_at dksX3_handsFor_1 7 rfl rfl)
theorem dX3_handsFor_32 : decode cX3_handsFor 32 = .ok (.iconst 0, 1) := dk_3 (dk_at dksX3_handsFor_1 10 rfl rfl)
theorem dX3_handsFor_33 : decode cX3_handsFor 33 = .ok (.istore_n 2, 1) := dk_61 (dk_at dksX3_handsFor_1 11 rfl rfl)
theorem dX3_handsFor_34 : decode cX3_handsFor 34 = .ok (.iload_n 2, 1) := dk_28 (dk_at dksX3_handsFor_1 12 rfl rfl)
theorem dX3_handsFor_35 : decode cX3_handsFor 35 = .ok (.aload_n 0, 1) := dk_42 (dk_at dksX3_handsFor_1 13 rfl rfl)
theorem dX3_handsFor_36 : decode cX3_handsFor 36 = .ok (.getfield 278, 3) := dk_180 1 22 (dk_at dksX3_handsFor_1 14 rfl rfl)
theorem dX3_handsFor_39 : decode cX3_handsFor 39 = .ok (.if_icmp .ge 51, 3) := dk_162 0 51 (dk_at dksX3_handsFor_1 17 rfl rfl)
theorem dX3_handsFor_42 : decode cX3_handsFor 42 = .ok (.iload_n 1, 1) := dk_27 (dk_at dksX3_handsFor_1 20 rfl rfl)
theorem dX3_handsFor_43 : decode cX3_handsFor 43 = .ok (.iload_n 2, 1) := dk_28 (dk_at dksX3_handsFor_1 21 rfl rfl)
theorem dX3_handsFor_44 : decode cX3_handsFor 44 = .ok (.ishr, 1) := dk_122 (dk_at dksX3_handsFor_1 22 rfl rfl)
theorem dX3_handsFor_45 : decode cX3_handsFor 45 = .ok (.iconst 1, 1) := dk_4 (dk_at dksX3_handsFor_1 23 rfl rfl)
theorem dX3_handsFor_46 : decode cX3_handsFor 46 = .ok (.iand, 1) := dk_126 (dk_at dksX3_handsFor_2 0 rfl rfl)
theorem dX3_handsFor_47 : decode cX3_handsFor 47 = .ok (.ifCond .ne 6, 3) := dk_154 0 6 (dk_at dksX3_handsFor_2 1 rfl rfl)
theorem dX3_handsFor_50 : decode cX3_handsFor 50 = .ok (.goto 34, 3) := dk_167 0 34 (dk_at dksX3_handsFor_2 4 rfl rfl)
theorem dX3_handsFor_53 : decode cX3_handsFor 53 = .ok (.aload_n 0, 1) := dk_42 (dk_at dksX3_handsFor_2 7 rfl rfl)
theorem dX3_handsFor_54 : decode cX3_handsFor 54 = .ok (.getfield 507, 3) := dk_180 1 251 (dk_at dksX3_handsFor_2 8 rfl rfl)
theorem dX3_handsFor_57 : decode cX3_handsFor 57 = .ok (.bipush 6, 2) := dk_16 6 (dk_at dksX3_handsFor_2 11 rfl rfl)
theorem dX3_handsFor_59 : decode cX3_handsFor 59 = .ok (.if_icmp .ne 5, 3) := dk_160 0 5 (dk_at dksX3_handsFor_2 13 rfl rfl)
theorem dX3_handsFor_62 : decode cX3_handsFor 62 = .ok (.iconst 0, 1) := dk_3 (dk_at dksX3_handsFor_2 16 rfl rfl)
theorem dX3_handsFor_63 : decode cX3_handsFor 63 = .ok (.ireturn, 1) := dk_172 (dk_at dksX3_handsFor_2 17 rfl rfl)
theorem dX3_handsFor_64 : decode cX3_handsFor 64 = .ok (.aload_n 0, 1) := dk_42 (dk_at dksX3_handsFor_2 18 rfl rfl)
theorem dX3_handsFor_65 : decode cX3_handsFor 65 = .ok (.getfield 240, 3) := dk_180 0 240 (dk_at dksX3_handsFor_2 19 rfl rfl)
theorem dX3_handsFor_68 : decode cX3_handsFor 68 = .ok (.aload_n 0, 1) := dk_42 (dk_at dksX3_handsFor_2 22 rfl rfl)
theorem dX3_handsFor_69 : decode cX3_handsFor 69 = .ok (.getfield 507, 3) := dk_180 1 251 (dk_at dksX3_handsFor_3 0 rfl rfl)
theorem dX3_handsFor_72 : decode cX3_handsFor 72 = .ok (.iload_n 2, 1) := dk_28 (dk_at dksX3_handsFor_3 3 rfl rfl)
theorem dX3_handsFor_73 : decode cX3_handsFor 73 = .ok (.iastore, 1) := dk_79 (dk_at dksX3_handsFor_3 4 rfl rfl)
theorem dX3_handsFor_74 : decode cX3_handsFor 74 = .ok (.aload_n 0, 1) := dk_42 (dk_at dksX3_handsFor_3 5 rfl rfl)
theorem dX3_handsFor_75 : decode cX3_handsFor 75 = .ok (.dup, 1) := dk_89 (dk_at dksX3_handsFor_3 6 rfl rfl)
theorem dX3_handsFor_76 : decode cX3_handsFor 76 = .ok (.getfield 507, 3) := dk_180 1 251 (dk_at dksX3_handsFor_3 7 rfl rfl)
theorem dX3_handsFor_79 : decode cX3_handsFor 79 = .ok (.iconst 1, 1) := dk_4 (dk_at dksX3_handsFor_3 10 rfl rfl)
theorem dX3_handsFor_80 : decode cX3_handsFor 80 = .ok (.iadd, 1) := dk_96 (dk_at dksX3_handsFor_3 11 rfl rfl)
theorem dX3_handsFor_81 : decode cX3_handsFor 81 = .ok (.putfield 507, 3) := dk_181 1 251 (dk_at dksX3_handsFor_3 12 rfl rfl)
theorem dX3_handsFor_84 : decode cX3_handsFor 84 = .ok (.iinc 2 1, 3) := dk_132 2 1 (dk_at dksX3_handsFor_3 15 rfl rfl)
theorem dX3_handsFor_87 : decode cX3_handsFor 87 = .ok (.goto (-53), 3) := dk_167 255 203 (dk_at dksX3_handsFor_3 18 rfl rfl)
theorem dX3_handsFor_90 : decode cX3_handsFor 90 = .ok (.iconst 0, 1) := dk_3 (dk_at dksX3_handsFor_3 21 rfl rfl)
theorem dX3_handsFor_91 : decode cX3_handsFor 91 = .ok (.istore_n 2, 1) := dk_61 (dk_at dksX3_handsFor_3 22 rfl rfl)
theorem dX3_handsFor_92 : decode cX3_handsFor 92 = .ok (.iload_n 2, 1) := dk_28 (dk_at dksX3_handsFor_3 23 rfl rfl)
theorem dX3_handsFor_93 : decode cX3_handsFor 93 = .ok (.aload_n 0, 1) := dk_42 (dk_at dksX3_handsFor_4 0 rfl rfl)
theorem dX3_handsFor_94 : decode cX3_handsFor 94 = .ok (.getfield 504, 3) := dk_180 1 248 (dk_at dksX3_handsFor_4 1 rfl rfl)
theorem dX3_handsFor_97 : decode cX3_handsFor 97 = .ok (.if_icmp .ge 143, 3) := dk_162 0 143 (dk_at dksX3_handsFor_4 4 rfl rfl)
theorem dX3_handsFor_100 : decode cX3_handsFor 100 = .ok (.aload_n 0, 1) := dk_42 (dk_at dksX3_handsFor_4 7 rfl rfl)
theorem dX3_handsFor_101 : decode cX3_handsFor 101 = .ok (.getfield 237, 3) := dk_180 0 237 (dk_at dksX3_handsFor_4 8 rfl rfl)
theorem dX3_handsFor_104 : decode cX3_handsFor 104 = .ok (.iload_n 2, 1) := dk_28 (dk_at dksX3_handsFor_4 11 rfl rfl)
theorem dX3_handsFor_105 : decode cX3_handsFor 105 = .ok (.aload_n 0, 1) := dk_42 (dk_at dksX3_handsFor_4 12 rfl rfl)
theorem dX3_handsFor_106 : decode cX3_handsFor 106 = .ok (.getfield 200, 3) := dk_180 0 200 (dk_at dksX3_handsFor_4 13 rfl rfl)
theorem dX3_handsFor_109 : decode cX3_handsFor 109 = .ok (.aload_n 0, 1) := dk_42 (dk_at dksX3_handsFor_4 16 rfl rfl)
theorem dX3_handsFor_110 : decode cX3_handsFor 110 = .ok (.getfield 234, 3) := dk_180 0 234 (dk_at dksX3_handsFor_4 17 rfl rfl)
theorem dX3_handsFor_113 : decode cX3_handsFor 113 = .ok (.iload_n 2, 1) := dk_28 (dk_at dksX3_handsFor_4 20 rfl rfl)
theorem dX3_handsFor_114 : decode cX3_handsFor 114 = .ok (.iaload, 1) := dk_46 (dk_at dksX3_handsFor_4 21 rfl rfl)
theorem dX3_handsFor_115 : decode cX3_handsFor 115 = .ok (.iaload, 1) := dk_46 (dk_at dksX3_handsFor_4 22 rfl rfl)
theorem dX3_handsFor_116 : decode cX3_handsFor 116 = .ok (.aload_n 0, 1) := dk_42 (dk_at dksX3_handsFor_4 23 rfl rfl)
theorem dX3_handsFor_117 : decode cX3_handsFor 117 = .ok (.getfield 200, 3) := dk_180 0 200 (dk_at dksX3_handsFor_5 0 rfl rfl)
theorem dX3_handsFor_120 : decode cX3_handsFor 120 = .ok (.aload_n 0, 1) := dk_42 (dk_at dksX3_handsFor_5 3 rfl rfl)
theorem dX3_handsFor_121 : decode cX3_handsFor 121 = .ok (.getfield 234, 3) := dk_180 0 234 (dk_at dksX3_handsFor_5 4 rfl rfl)
theorem dX3_handsFor_124 : decode cX3_handsFor 124 = .ok (.iload_n 2, 1) := dk_28 (dk_at dksX3_handsFor_5 7 rfl rfl)
theorem dX3_handsFor_125 : decode cX3_handsFor 125 = .ok (.iaload, 1) := dk_46 (dk_at dksX3_handsFor_5 8 rfl rfl)
theorem dX3_handsFor_126 : decode cX3_handsFor 126 = .ok (.iaload, 1) := dk_46 (dk_at dksX3_handsFor_5 9 rfl rfl)
theorem dX3_handsFor_127 : decode cX3_handsFor 127 = .ok (.iconst 2, 1) := dk_5 (dk_at dksX3_handsFor_5 10 rfl rfl)
theorem dX3_handsFor_128 : decode cX3_handsFor 128 = .ok (.irem, 1) := dk_112 (dk_at dksX3_handsFor_5 11 rfl rfl)
theorem dX3_handsFor_129 : decode cX3_handsFor 129 = .ok (.isub, 1) := dk_100 (dk_at dksX3_handsFor_5 12 rfl rfl)
theorem dX3_handsFor_130 : decode cX3_handsFor 130 = .ok (.iastore, 1) := dk_79 (dk_at dksX3_handsFor_5 13 rfl rfl)
theorem dX3_handsFor_131 : decode cX3_handsFor 131 = .ok (.iconst 0, 1) := dk_3 (dk_at dksX3_handsFor_5 14 rfl rfl)
theorem dX3_handsFor_132 : decode cX3_handsFor 132 = .ok (.istore_n 3, 1) := dk_62 (dk_at dksX3_handsFor_5 15 rfl rfl)
theorem dX3_handsFor_133 : decode cX3_handsFor 133 = .ok (.iload_n 3, 1) := dk_29 (dk_at dksX3_handsFor_5 16 rfl rfl)
theorem dX3_handsFor_134 : decode cX3_handsFor 134 = .ok (.aload_n 0, 1) := dk_42 (dk_at dksX3_handsFor_5 17 rfl rfl)
theorem dX3_handsFor_135 : decode cX3_handsFor 135 = .ok (.getfield 507, 3) := dk_180 1 251 (dk_at dksX3_handsFor_5 18 rfl rfl)
theorem dX3_handsFor_138 : decode cX3_handsFor 138 = .ok (.if_icmp .ge 96, 3) := dk_162 0 96 (dk_at dksX3_handsFor_5 21 rfl rfl)
theorem dX3_handsFor_141 : decode cX3_handsFor 141 = .ok (.aload_n 0, 1) := dk_42 (dk_at dksX3_handsFor_6 0 rfl rfl)
theorem dX3_handsFor_142 : decode cX3_handsFor 142 = .ok (.getfield 251, 3) := dk_180 0 251 (dk_at dksX3_handsFor_6 1 rfl rfl)
theorem dX3_handsFor_145 : decode cX3_handsFor 145 = .ok (.iload_n 2, 1) := dk_28 (dk_at dksX3_handsFor_6 4 rfl rfl)
theorem dX3_handsFor_146 : decode cX3_handsFor 146 = .ok (.aaload, 1) := dk_50 (dk_at dksX3_handsFor_6 5 rfl rfl)
theorem dX3_handsFor_147 : decode cX3_handsFor 147 = .ok (.iload_n 3, 1) := dk_29 (dk_at dksX3_handsFor_6 6 rfl rfl)
theorem dX3_handsFor_148 : decode cX3_handsFor 148 = .ok (.aload_n 0, 1) := dk_42 (dk_at dksX3_handsFor_6 7 rfl rfl)
theorem dX3_handsFor_149 : decode cX3_handsFor 149 = .ok (.getfield 237, 3) := dk_180 0 237 (dk_at dksX3_handsFor_6 8 rfl rfl)
theorem dX3_handsFor_152 : decode cX3_handsFor 152 = .ok (.iload_n 2, 1) := dk_28 (dk_at dksX3_handsFor_6 11 rfl rfl)
theorem dX3_handsFor_153 : decode cX3_handsFor 153 = .ok (.iaload, 1) := dk_46 (dk_at dksX3_handsFor_6 12 rfl rfl)
theorem dX3_handsFor_154 : decode cX3_handsFor 154 = .ok (.iconst 2, 1) := dk_5 (dk_at dksX3_handsFor_6 13 rfl rfl)
theorem dX3_handsFor_155 : decode cX3_handsFor 155 = .ok (.if_icmp .lt 32, 3) := dk_161 0 32 (dk_at dksX3_handsFor_6 14 rfl rfl)
theorem dX3_handsFor_158 : decode cX3_handsFor 158 = .ok (.aload_n 0, 1) := dk_42 (dk_at dksX3_handsFor_6 17 rfl rfl)
theorem dX3_handsFor_159 : decode cX3_handsFor 159 = .ok (.aload_n 0, 1) := dk_42 (dk_at dksX3_handsFor_6 18 rfl rfl)
theorem dX3_handsFor_160 : decode cX3_handsFor 160 = .ok (.getfield 240, 3) := dk_180 0 240 (dk_at dksX3_handsFor_6 19 rfl rfl)
theorem dX3_handsFor_163 : decode cX3_handsFor 163 = .ok (.iload_n 3, 1) := dk_29 (dk_at dksX3_handsFor_6 22 rfl rfl)
theorem dX3_handsFor_164 : decode cX3_handsFor 164 = .ok (.iaload, 1) := dk_46 (dk_at dksX3_handsFor_6 23 rfl rfl)
theorem dX3_handsFor_165 : decode cX3_handsFor 165 = .ok (.aload_n 0, 1) := dk_42 (dk_at dksX3_handsFor_7 0 rfl rfl)
theorem dX3_handsFor_166 : decode cX3_handsFor 166 = .ok (.getfield 234, 3) := dk_180 0 234 (dk_at dksX3_handsFor_7 1 rfl rfl)
theorem dX3_handsFor_169 : decode cX3_handsFor 169 = .ok (.iload_n 2, 1) := dk_28 (dk_at dksX3_handsFor_7 4 rfl rfl)
theorem dX3_handsFor_170 : decode cX3_handsFor 170 = .ok (.iaload, 1) := dk_46 (dk_at dksX3_handsFor_7 5 rfl rfl)
theorem dX3_handsFor_171 : decode cX3_handsFor 171 = .ok (.aload_n 0, 1) := dk_42 (dk_at dksX3_handsFor_7 6 rfl rfl)
theorem dX3_handsFor_172 : decode cX3_handsFor 172 = .ok (.getfield 237, 3) := dk_180 0 237 (dk_at dksX3_handsFor_7 7 rfl rfl)
theorem dX3_handsFor_175 : decode cX3_handsFor 175 = .ok (.iload_n 2, 1) := dk_28 (dk_at dksX3_handsFor_7 10 rfl rfl)
theorem dX3_handsFor_176 : decode cX3_handsFor 176 = .ok (.iaload, 1) := dk_46 (dk_at dksX3_handsFor_7 11 rfl rfl)
theorem dX3_handsFor_177 : decode cX3_handsFor 177 = .ok (.invokevirtual 481, 3) := dk_182 1 225 (dk_at dksX3_handsFor_7 12 rfl rfl)
theorem dX3_handsFor_180 : decode cX3_handsFor 180 = .ok (.ifCond .ne 7, 3) := dk_154 0 7 (dk_at dksX3_handsFor_7 15 rfl rfl)
theorem dX3_handsFor_183 : decode cX3_handsFor 183 = .ok (.iconst 1, 1) := dk_4 (dk_at dksX3_handsFor_7 18 rfl rfl)
theorem dX3_handsFor_184 : decode cX3_handsFor 184 = .ok (.goto 4, 3) := dk_167 0 4 (dk_at dksX3_handsFor_7 19 rfl rfl)
theorem dX3_handsFor_187 : decode cX3_handsFor 187 = .ok (.iconst 0, 1) := dk_3 (dk_at dksX3_handsFor_7 22 rfl rfl)
theorem dX3_handsFor_188 : decode cX3_handsFor 188 = .ok (.bastore, 1) := dk_84 (dk_at dksX3_handsFor_7 23 rfl rfl)
theorem dX3_handsFor_189 : decode cX3_handsFor 189 = .ok (.aload_n 0, 1) := dk_42 (dk_at dksX3_handsFor_8 0 rfl rfl)
theorem dX3_handsFor_190 : decode cX3_handsFor 190 = .ok (.getfield 253, 3) := dk_180 0 253 (dk_at dksX3_handsFor_8 1 rfl rfl)
theorem dX3_handsFor_193 : decode cX3_handsFor 193 = .ok (.iload_n 2, 1) := dk_28 (dk_at dksX3_handsFor_8 4 rfl rfl)
theorem dX3_handsFor_194 : decode cX3_handsFor 194 = .ok (.aaload, 1) := dk_50 (dk_at dksX3_handsFor_8 5 rfl rfl)
theorem dX3_handsFor_195 : decode cX3_handsFor 195 = .ok (.iload_n 3, 1) := dk_29 (dk_at dksX3_handsFor_8 6 rfl rfl)
theorem dX3_handsFor_196 : decode cX3_handsFor 196 = .ok (.aload_n 0, 1) := dk_42 (dk_at dksX3_handsFor_8 7 rfl rfl)
theorem dX3_handsFor_197 : decode cX3_handsFor 197 = .ok (.aload_n 0, 1) := dk_42 (dk_at dksX3_handsFor_8 8 rfl rfl)
theorem dX3_handsFor_198 : decode cX3_handsFor 198 = .ok (.getfield 63, 3) := dk_180 0 63 (dk_at dksX3_handsFor_8 9 rfl rfl)
theorem dX3_handsFor_201 : decode cX3_handsFor 201 = .ok (.aload_n 0, 1) := dk_42 (dk_at dksX3_handsFor_8 12 rfl rfl)
theorem dX3_handsFor_202 : decode cX3_handsFor 202 = .ok (.getfield 185, 3) := dk_180 0 185 (dk_at dksX3_handsFor_8 13 rfl rfl)
theorem dX3_handsFor_205 : decode cX3_handsFor 205 = .ok (.aload_n 0, 1) := dk_42 (dk_at dksX3_handsFor_8 16 rfl rfl)
theorem dX3_handsFor_206 : decode cX3_handsFor 206 = .ok (.getfield 234, 3) := dk_180 0 234 (dk_at dksX3_handsFor_8 17 rfl rfl)
theorem dX3_handsFor_209 : decode cX3_handsFor 209 = .ok (.iload_n 2, 1) := dk_28 (dk_at dksX3_handsFor_8 20 rfl rfl)
theorem dX3_handsFor_210 : decode cX3_handsFor 210 = .ok (.iaload, 1) := dk_46 (dk_at dksX3_handsFor_8 21 rfl rfl)
theorem dX3_handsFor_211 : decode cX3_handsFor 211 = .ok (.iaload, 1) := dk_46 (dk_at dksX3_handsFor_8 22 rfl rfl)
theorem dX3_handsFor_212 : decode cX3_handsFor 212 = .ok (.iaload, 1) := dk_46 (dk_at dksX3_handsFor_8 23 rfl rfl)
theorem dX3_handsFor_213 : decode cX3_handsFor 213 = .ok (.aload_n 0, 1) := dk_42 (dk_at dksX3_handsFor_9 0 rfl rfl)
theorem dX3_handsFor_214 : decode cX3_handsFor 214 = .ok (.getfield 63, 3) := dk_180 0 63 (dk_at dksX3_handsFor_9 1 rfl rfl)
theorem dX3_handsFor_217 : decode cX3_handsFor 217 = .ok (.aload_n 0, 1) := dk_42 (dk_at dksX3_handsFor_9 4 rfl rfl)
theorem dX3_handsFor_218 : decode cX3_handsFor 218 = .ok (.getfield 240, 3) := dk_180 0 240 (dk_at dksX3_handsFor_9 5 rfl rfl)
theorem dX3_handsFor_221 : decode cX3_handsFor 221 = .ok (.iload_n 3, 1) := dk_29 (dk_at dksX3_handsFor_9 8 rfl rfl)
theorem dX3_handsFor_222 : decode cX3_handsFor 222 = .ok (.iaload, 1) := dk_46 (dk_at dksX3_handsFor_9 9 rfl rfl)
theorem dX3_handsFor_223 : decode cX3_handsFor 223 = .ok (.iaload, 1) := dk_46 (dk_at dksX3_handsFor_9 10 rfl rfl)
theorem dX3_handsFor_224 : decode cX3_handsFor 224 = .ok (.invokevirtual 293, 3) := dk_182 1 37 (dk_at dksX3_handsFor_9 11 rfl rfl)
theorem dX3_handsFor_227 : decode cX3_handsFor 227 = .ok (.iastore, 1) := dk_79 (dk_at dksX3_handsFor_9 14 rfl rfl)
theorem dX3_handsFor_228 : decode cX3_handsFor 228 = .ok (.iinc 3 1, 3) := dk_132 3 1 (dk_at dksX3_handsFor_9 15 rfl rfl)
theorem dX3_handsFor_231 : decode cX3_handsFor 231 = .ok (.goto (-98), 3) := dk_167 255 158 (dk_at dksX3_handsFor_9 18 rfl rfl)
theorem dX3_handsFor_234 : decode cX3_handsFor 234 = .ok (.iinc 2 1, 3) := dk_132 2 1 (dk_at dksX3_handsFor_9 21 rfl rfl)
theorem dX3_handsFor_237 : decode cX3_handsFor 237 = .ok (.goto (-145), 3) := dk_167 255 111 (dk_at dksX3_handsFor_10 0 rfl rfl)
theorem dX3_handsFor_240 : decode cX3_handsFor 240 = .ok (.aload_n 0, 1) := dk_42 (dk_at dksX3_handsFor_10 3 rfl rfl)
theorem dX3_handsFor_241 : decode cX3_handsFor 241 = .ok (.iconst (-1), 1) := dk_2 (dk_at dksX3_handsFor_10 4 rfl rfl)
theorem dX3_handsFor_242 : decode cX3_handsFor 242 = .ok (.putfield 510, 3) := dk_181 1 254 (dk_at dksX3_handsFor_10 5 rfl rfl)
theorem dX3_handsFor_245 : decode cX3_handsFor 245 = .ok (.aload_n 0, 1) := dk_42 (dk_at dksX3_handsFor_10 8 rfl rfl)
theorem dX3_handsFor_246 : decode cX3_handsFor 246 = .ok (.iconst 0, 1) := dk_3 (dk_at dksX3_handsFor_10 9 rfl rfl)
theorem dX3_handsFor_247 : decode cX3_handsFor 247 = .ok (.invokevirtual 522, 3) := dk_182 2 10 (dk_at dksX3_handsFor_10 10 rfl rfl)
theorem dX3_handsFor_250 : decode cX3_handsFor 250 = .ok (.iconst 1, 1) := dk_4 (dk_at dksX3_handsFor_10 13 rfl rfl)
theorem dX3_handsFor_251 : decode cX3_handsFor 251 = .ok (.ireturn, 1) := dk_172 (dk_at dksX3_handsFor_10 14 rfl rfl)
abbrev cX3_tries : ByteArray := prog_14_method_70_code
def yX3_tries : MethodName := ⟨RX3, "tries", "(I)V"⟩
def dkwX3_tries_2 : List UInt8 := [182, 2, 10, 132, 2, 1, 167, 255, 217, 42, 180, 0, 243, 27, 2, 79, 42, 27, 4, 96, 182, 2, 10, 177]
abbrev dktX3_tries_2 : List UInt8 := dkwX3_tries_2 ++ []
def dkwX3_tries_1 : List UInt8 := [180, 0, 251, 27, 50, 28, 51, 154, 0, 6, 167, 0, 17, 42, 180, 0, 243, 27, 28, 79, 42, 27, 4, 96]
abbrev dktX3_tries_1 : List UInt8 := dkwX3_tries_1 ++ dktX3_tries_2
def dkwX3_tries_0 : List UInt8 := [27, 42, 180, 1, 248, 160, 0, 8, 42, 182, 2, 7, 177, 3, 61, 28, 42, 180, 1, 251, 162, 0, 37, 42]
abbrev dktX3_tries_0 : List UInt8 := dkwX3_tries_0 ++ dktX3_tries_1
theorem dksX3_tries_0 : cX3_tries.data.toList.drop 0 = dktX3_tries_0 := by decide +kernel
theorem dksX3_tries_1 : cX3_tries.data.toList.drop 24 = dktX3_tries_1 := dk_seg dksX3_tries_0 24 rfl rfl
theorem dksX3_tries_2 : cX3_tries.data.toList.drop 48 = dktX3_tries_2 := dk_seg dksX3_tries_1 24 rfl rfl
theorem dX3_tries_0 : decode cX3_tries 0 = .ok (.iload_n 1, 1) := dk_27 (dk_at dksX3_tries_0 0 rfl rfl)
theorem dX3_tries_1 : decode cX3_tries 1 = .ok (.aload_n 0, 1) := dk_42 (dk_at dksX3_tries_0 1 rfl rfl)
theorem dX3_tries_2 : decode cX3_tries 2 = .ok (.getfield 504, 3) := dk_180 1 248 (dk_at dksX3_tries_0 2 rfl rfl)
theorem dX3_tries_5 : decode cX3_tries 5 = .ok (.if_icmp .ne 8, 3) := dk_160 0 8 (dk_at dksX3_tries_0 5 rfl rfl)
theorem dX3_tries_8 : decode cX3_tries 8 = .ok (.aload_n 0, 1) := dk_42 (dk_at dksX3_tries_0 8 rfl rfl)
theorem dX3_tries_9 : decode cX3_tries 9 = .ok (.invokevirtual 519, 3) := dk_182 2 7 (dk_at dksX3_tries_0 9 rfl rfl)
theorem dX3_tries_12 : decode cX3_tries 12 = .ok (.return_, 1) := dk_177 (dk_at dksX3_tries_0 12 rfl rfl)
theorem dX3_tries_13 : decode cX3_tries 13 = .ok (.iconst 0, 1) := dk_3 (dk_at dksX3_tries_0 13 rfl rfl)
theorem dX3_tries_14 : decode cX3_tries 14 = .ok (.istore_n 2, 1) := dk_61 (dk_at dksX3_tries_0 14 rfl rfl)
theorem dX3_tries_15 : decode cX3_tries 15 = .ok (.iload_n 2, 1) := dk_28 (dk_at dksX3_tries_0 15 rfl rfl)
theorem dX3_tries_16 : decode cX3_tries 16 = .ok (.aload_n 0, 1) := dk_42 (dk_at dksX3_tries_0 16 rfl rfl)
theorem dX3_tries_17 : decode cX3_tries 17 = .ok (.getfield 507, 3) := dk_180 1 251 (dk_at dksX3_tries_0 17 rfl rfl)
theorem dX3_tries_20 : decode cX3_tries 20 = .ok (.if_icmp .ge 37, 3) := dk_162 0 37 (dk_at dksX3_tries_0 20 rfl rfl)
theorem dX3_tries_23 : decode cX3_tries 23 = .ok (.aload_n 0, 1) := dk_42 (dk_at dksX3_tries_0 23 rfl rfl)
theorem dX3_tries_24 : decode cX3_tries 24 = .ok (.getfield 251, 3) := dk_180 0 251 (dk_at dksX3_tries_1 0 rfl rfl)
theorem dX3_tries_27 : decode cX3_tries 27 = .ok (.iload_n 1, 1) := dk_27 (dk_at dksX3_tries_1 3 rfl rfl)
theorem dX3_tries_28 : decode cX3_tries 28 = .ok (.aaload, 1) := dk_50 (dk_at dksX3_tries_1 4 rfl rfl)
theorem dX3_tries_29 : decode cX3_tries 29 = .ok (.iload_n 2, 1) := dk_28 (dk_at dksX3_tries_1 5 rfl rfl)
theorem dX3_tries_30 : decode cX3_tries 30 = .ok (.baload, 1) := dk_51 (dk_at dksX3_tries_1 6 rfl rfl)
theorem dX3_tries_31 : decode cX3_tries 31 = .ok (.ifCond .ne 6, 3) := dk_154 0 6 (dk_at dksX3_tries_1 7 rfl rfl)
theorem dX3_tries_34 : decode cX3_tries 34 = .ok (.goto 17, 3) := dk_167 0 17 (dk_at dksX3_tries_1 10 rfl rfl)
theorem dX3_tries_37 : decode cX3_tries 37 = .ok (.aload_n 0, 1) := dk_42 (dk_at dksX3_tries_1 13 rfl rfl)
theorem dX3_tries_38 : decode cX3_tries 38 = .ok (.getfield 243, 3) := dk_180 0 243 (dk_at dksX3_tries_1 14 rfl rfl)
theorem dX3_tries_41 : decode cX3_tries 41 = .ok (.iload_n 1, 1) := dk_27 (dk_at dksX3_tries_1 17 rfl rfl)
theorem dX3_tries_42 : decode cX3_tries 42 = .ok (.iload_n 2, 1) := dk_28 (dk_at dksX3_tries_1 18 rfl rfl)
theorem dX3_tries_43 : decode cX3_tries 43 = .ok (.iastore, 1) := dk_79 (dk_at dksX3_tries_1 19 rfl rfl)
theorem dX3_tries_44 : decode cX3_tries 44 = .ok (.aload_n 0, 1) := dk_42 (dk_at dksX3_tries_1 20 rfl rfl)
theorem dX3_tries_45 : decode cX3_tries 45 = .ok (.iload_n 1, 1) := dk_27 (dk_at dksX3_tries_1 21 rfl rfl)
theorem dX3_tries_46 : decode cX3_tries 46 = .ok (.iconst 1, 1) := dk_4 (dk_at dksX3_tries_1 22 rfl rfl)
theorem dX3_tries_47 : decode cX3_tries 47 = .ok (.iadd, 1) := dk_96 (dk_at dksX3_tries_1 23 rfl rfl)
theorem dX3_tries_48 : decode cX3_tries 48 = .ok (.invokevirtual 522, 3) := dk_182 2 10 (dk_at dksX3_tries_2 0 rfl rfl)
theorem dX3_tries_51 : decode cX3_tries 51 = .ok (.iinc 2 1, 3) := dk_132 2 1 (dk_at dksX3_tries_2 3 rfl rfl)
theorem dX3_tries_54 : decode cX3_tries 54 = .ok (.goto (-39), 3) := dk_167 255 217 (dk_at dksX3_tries_2 6 rfl rfl)
theorem dX3_tries_57 : decode cX3_tries 57 = .ok (.aload_n 0, 1) := dk_42 (dk_at dksX3_tries_2 9 rfl rfl)
theorem dX3_tries_58 : decode cX3_tries 58 = .ok (.getfield 243, 3) := dk_180 0 243 (dk_at dksX3_tries_2 10 rfl rfl)
theorem dX3_tries_61 : decode cX3_tries 61 = .ok (.iload_n 1, 1) := dk_27 (dk_at dksX3_tries_2 13 rfl rfl)
theorem dX3_tries_62 : decode cX3_tries 62 = .ok (.iconst (-1), 1) := dk_2 (dk_at dksX3_tries_2 14 rfl rfl)
theorem dX3_tries_63 : decode cX3_tries 63 = .ok (.iastore, 1) := dk_79 (dk_at dksX3_tries_2 15 rfl rfl)
theorem dX3_tries_64 : decode cX3_tries 64 = .ok (.aload_n 0, 1) := dk_42 (dk_at dksX3_tries_2 16 rfl rfl)
theorem dX3_tries_65 : decode cX3_tries 65 = .ok (.iload_n 1, 1) := dk_27 (dk_at dksX3_tries_2 17 rfl rfl)
theorem dX3_tries_66 : decode cX3_tries 66 = .ok (.iconst 1, 1) := dk_4 (dk_at dksX3_tries_2 18 rfl rfl)
theorem dX3_tries_67 : decode cX3_tries 67 = .ok (.iadd, 1) := dk_96 (dk_at dksX3_tries_2 19 rfl rfl)
theorem dX3_tries_68 : decode cX3_tries 68 = .ok (.invokevirtual 522, 3) := dk_182 2 10 (dk_at dksX3_tries_2 20 rfl rfl)
theorem dX3_tries_71 : decode cX3_tries 71 = .ok (.return_, 1) := dk_177 (dk_at dksX3_tries_2 23 rfl rfl)
abbrev cX3_looks : ByteArray := prog_14_method_69_code
def yX3_looks : MethodName := ⟨RX3, "looks", "()V"⟩
def dkwX3_looks_9 : List UInt8 := [21, 4, 42, 180, 0, 243, 21, 4, 46, 79, 132, 4, 1, 167, 255, 230, 177]
abbrev dktX3_looks_9 : List UInt8 := dkwX3_looks_9 ++ []
def dkwX3_looks_8 : List UInt8 := [181, 2, 1, 42, 29, 181, 2, 4, 3, 54, 4, 21, 4, 42, 180, 1, 248, 162, 0, 23, 42, 180, 0, 246]
abbrev dktX3_looks_8 : List UInt8 := dkwX3_looks_8 ++ dktX3_looks_9
def dkwX3_looks_7 : List UInt8 := [180, 2, 1, 160, 0, 12, 29, 42, 180, 2, 4, 161, 0, 4, 177, 42, 27, 181, 1, 254, 42, 28]
abbrev dktX3_looks_7 : List UInt8 := dkwX3_looks_7 ++ dktX3_looks_8
def dkwX3_looks_6 : List UInt8 := [180, 1, 254, 161, 0, 35, 27, 42, 180, 1, 254, 160, 0, 28, 28, 42, 180, 2, 1, 163, 0, 19, 28, 42]
abbrev dktX3_looks_6 : List UInt8 := dkwX3_looks_6 ++ dktX3_looks_7
def dkwX3_looks_5 : List UInt8 := [46, 46, 108, 54, 6, 21, 6, 29, 164, 0, 6, 21, 6, 62, 132, 4, 1, 167, 255, 128, 27, 42]
abbrev dktX3_looks_5 : List UInt8 := dkwX3_looks_5 ++ dktX3_looks_6
def dkwX3_looks_4 : List UInt8 := [180, 0, 99, 42, 180, 0, 240, 21, 4, 46, 46, 96, 4, 100, 42, 180, 0, 99, 42, 180, 0, 240, 21, 4]
abbrev dktX3_looks_4 : List UInt8 := dkwX3_looks_4 ++ dktX3_looks_5
def dkwX3_looks_3 : List UInt8 := [61, 132, 6, 1, 167, 255, 204, 27, 21, 5, 96, 60, 21, 5, 154, 0, 7, 3, 167, 0, 33, 21, 5, 42]
abbrev dktX3_looks_3 : List UInt8 := dkwX3_looks_3 ++ dktX3_looks_4
def dkwX3_looks_2 : List UInt8 := [21, 5, 42, 180, 0, 237, 21, 6, 46, 96, 54, 5, 28, 42, 180, 0, 253, 21, 6, 50, 21, 4, 46, 96]
abbrev dktX3_looks_2 : List UInt8 := dkwX3_looks_2 ++ dktX3_looks_3
def dkwX3_looks_1 : List UInt8 := [21, 6, 42, 180, 1, 248, 162, 0, 49, 42, 180, 0, 243, 21, 6, 46, 21, 4, 159, 0, 6, 167, 0, 28]
abbrev dktX3_looks_1 : List UInt8 := dkwX3_looks_1 ++ dktX3_looks_2
def dkwX3_looks_0 : List UInt8 := [3, 60, 3, 61, 3, 62, 3, 54, 4, 21, 4, 42, 180, 1, 251, 162, 0, 125, 3, 54, 5, 3, 54, 6]
abbrev dktX3_looks_0 : List UInt8 := dkwX3_looks_0 ++ dktX3_looks_1
theorem dksX3_looks_0 : cX3_looks.data.toList.drop 0 = dktX3_looks_0 := by decide +kernel
theorem dksX3_looks_1 : cX3_looks.data.toList.drop 24 = dktX3_looks_1 := dk_seg dksX3_looks_0 24 rfl rfl
theorem dksX3_looks_2 : cX3_looks.data.toList.drop 48 = dktX3_looks_2 := dk_seg dksX3_looks_1 24 rfl rfl
theorem dksX3_looks_3 : cX3_looks.data.toList.drop 72 = dktX3_looks_3 := dk_seg dksX3_looks_2 24 rfl rfl
theorem dksX3_looks_4 : cX3_looks.data.toList.drop 96 = dktX3_looks_4 := dk_seg dksX3_looks_3 24 rfl rfl
theorem dksX3_looks_5 : cX3_looks.data.toList.drop 120 = dktX3_looks_5 := dk_seg dksX3_looks_4 24 rfl rfl
theorem dksX3_looks_6 : cX3_looks.data.toList.drop 142 = dktX3_looks_6 := dk_seg dksX3_looks_5 22 rfl rfl
theorem dksX3_looks_7 : cX3_looks.data.toList.drop 166 = dktX3_looks_7 := dk_seg dksX3_looks_6 24 rfl rfl
theorem dksX3_looks_8 : cX3_looks.data.toList.drop 188 = dktX3_looks_8 := dk_seg dksX3_looks_7 22 rfl rfl
theorem dksX3_looks_9 : cX3_looks.data.toList.drop 212 = dktX3_looks_9 := dk_seg dksX3_looks_8 24 rfl rfl
theorem dX3_looks_0 : decode cX3_looks 0 = .ok (.iconst 0, 1) := dk_3 (dk_at dksX3_looks_0 0 rfl rfl)
theorem dX3_looks_1 : decode cX3_looks 1 = .ok (.istore_n 1, 1) := dk_60 (dk_at dksX3_looks_0 1 rfl rfl)
theorem dX3_looks_2 : decode cX3_looks 2 = .ok (.iconst 0, 1) := dk_3 (dk_at dksX3_looks_0 2 rfl rfl)
theorem dX3_looks_3 : decode cX3_looks 3 = .ok (.istore_n 2, 1) := dk_61 (dk_at dksX3_looks_0 3 rfl rfl)
theorem dX3_looks_4 : decode cX3_looks 4 = .ok (.iconst 0, 1) := dk_3 (dk_at dksX3_looks_0 4 rfl rfl)
theorem dX3_looks_5 : decode cX3_looks 5 = .ok (.istore_n 3, 1) := dk_62 (dk_at dksX3_looks_0 5 rfl rfl)
theorem dX3_looks_6 : decode cX3_looks 6 = .ok (.iconst 0, 1) := dk_3 (dk_at dksX3_looks_0 6 rfl rfl)
theorem dX3_looks_7 : decode cX3_looks 7 = .ok (.istore 4, 2) := dk_54 4 (dk_at dksX3_looks_0 7 rfl rfl)
theorem dX3_looks_9 : decode cX3_looks 9 = .ok (.iload 4, 2) := dk_21 4 (dk_at dksX3_looks_0 9 rfl rfl)
theorem dX3_looks_11 : decode cX3_looks 11 = .ok (.aload_n 0, 1) := dk_42 (dk_at dksX3_looks_0 11 rfl rfl)
theorem dX3_looks_12 : decode cX3_looks 12 = .ok (.getfield 507, 3) := dk_180 1 251 (dk_at dksX3_looks_0 12 rfl rfl)
theorem dX3_looks_15 : decode cX3_looks 15 = .ok (.if_icmp .ge 125, 3) := dk_162 0 125 (dk_at dksX3_looks_0 15 rfl rfl)
theorem dX3_looks_18 : decode cX3_looks 18 = .ok (.iconst 0, 1) := dk_3 (dk_at dksX3_looks_0 18 rfl rfl)
theorem dX3_looks_19 : decode cX3_looks 19 = .ok (.istore 5, 2) := dk_54 5 (dk_at dksX3_looks_0 19 rfl rfl)
theorem dX3_looks_21 : decode cX3_looks 21 = .ok (.iconst 0, 1) := dk_3 (dk_at dksX3_looks_0 21 rfl rfl)
theorem dX3_looks_22 : decode cX3_looks 22 = .ok (.istore 6, 2) := dk_54 6 (dk_at dksX3_looks_0 22 rfl rfl)
theorem dX3_looks_24 : decode cX3_looks 24 = .ok (.iload 6, 2) := dk_21 6 (dk_at dksX3_looks_1 0 rfl rfl)
theorem dX3_looks_26 : decode cX3_looks 26 = .ok (.aload_n 0, 1) := dk_42 (dk_at dksX3_looks_1 2 rfl rfl)
theorem dX3_looks_27 : decode cX3_looks 27 = .ok (.getfield 504, 3) := dk_180 1 248 (dk_at dksX3_looks_1 3 rfl rfl)
theorem dX3_looks_30 : decode cX3_looks 30 = .ok (.if_icmp .ge 49, 3) := dk_162 0 49 (dk_at dksX3_looks_1 6 rfl rfl)
theorem dX3_looks_33 : decode cX3_looks 33 = .ok (.aload_n 0, 1) := dk_42 (dk_at dksX3_looks_1 9 rfl rfl)
theorem dX3_looks_34 : decode cX3_looks 34 = .ok (.getfield 243, 3) := dk_180 0 243 (dk_at dksX3_looks_1 10 rfl rfl)
theorem dX3_looks_37 : decode cX3_looks 37 = .ok (.iload 6, 2) := dk_21 6 (dk_at dksX3_looks_1 13 rfl rfl)
theorem dX3_looks_39 : decode cX3_looks 39 = .ok (.iaload, 1) := dk_46 (dk_at dksX3_looks_1 15 rfl rfl)
theorem dX3_looks_40 : decode cX3_looks 40 = .ok (.iload 4, 2) := dk_21 4 (dk_at dksX3_looks_1 16 rfl rfl)
theorem dX3_looks_42 : decode cX3_looks 42 = .ok (.if_icmp .eq 6, 3) := dk_159 0 6 (dk_at dksX3_looks_1 18 rfl rfl)
theorem dX3_looks_45 : decode cX3_looks 45 = .ok (.goto 28, 3) := dk_167 0 28 (dk_at dksX3_looks_1 21 rfl rfl)
theorem dX3_looks_48 : decode cX3_looks 48 = .ok (.iload 5, 2) := dk_21 5 (dk_at dksX3_looks_2 0 rfl rfl)
theorem dX3_looks_50 : decode cX3_looks 50 = .ok (.aload_n 0, 1) := dk_42 (dk_at dksX3_looks_2 2 rfl rfl)
theorem dX3_looks_51 : decode cX3_looks 51 = .ok (.getfield 237, 3) := dk_180 0 237 (dk_at dksX3_looks_2 3 rfl rfl)
theorem dX3_looks_54 : decode cX3_looks 54 = .ok (.iload 6, 2) := dk_21 6 (dk_at dksX3_looks_2 6 rfl rfl)
theorem dX3_looks_56 : decode cX3_looks 56 = .ok (.iaload, 1) := dk_46 (dk_at dksX3_looks_2 8 rfl rfl)
theorem dX3_looks_57 : decode cX3_looks 57 = .ok (.iadd, 1) := dk_96 (dk_at dksX3_looks_2 9 rfl rfl)
theorem dX3_looks_58 : decode cX3_looks 58 = .ok (.istore 5, 2) := dk_54 5 (dk_at dksX3_looks_2 10 rfl rfl)
theorem dX3_looks_60 : decode cX3_looks 60 = .ok (.iload_n 2, 1) := dk_28 (dk_at dksX3_looks_2 12 rfl rfl)
theorem dX3_looks_61 : decode cX3_looks 61 = .ok (.aload_n 0, 1) := dk_42 (dk_at dksX3_looks_2 13 rfl rfl)
theorem dX3_looks_62 : decode cX3_looks 62 = .ok (.getfield 253, 3) := dk_180 0 253 (dk_at dksX3_looks_2 14 rfl rfl)
theorem dX3_looks_65 : decode cX3_looks 65 = .ok (.iload 6, 2) := dk_21 6 (dk_at dksX3_looks_2 17 rfl rfl)
theorem dX3_looks_67 : decode cX3_looks 67 = .ok (.aaload, 1) := dk_50 (dk_at dksX3_looks_2 19 rfl rfl)
theorem dX3_looks_68 : decode cX3_looks 68 = .ok (.iload 4, 2) := dk_21 4 (dk_at dksX3_looks_2 20 rfl rfl)
theorem dX3_looks_70 : decode cX3_looks 70 = .ok (.iaload, 1) := dk_46 (dk_at dksX3_looks_2 22 rfl rfl)
theorem dX3_looks_71 : decode cX3_looks 71 = .ok (.iadd, 1) := dk_96 (dk_at dksX3_looks_2 23 rfl rfl)
theorem dX3_looks_72 : decode cX3_looks 72 = .ok (.istore_n 2, 1) := dk_61 (dk_at dksX3_looks_3 0 rfl rfl)
theorem dX3_looks_73 : decode cX3_looks 73 = .ok (.iinc 6 1, 3) := dk_132 6 1 (dk_at dksX3_looks_3 1 rfl rfl)
theorem dX3_looks_76 : decode cX3_looks 76 = .ok (.goto (-52), 3) := dk_167 255 204 (dk_at dksX3_looks_3 4 rfl rfl)
theorem dX3_looks_79 : decode cX3_looks 79 = .ok (.iload_n 1, 1) := dk_27 (dk_at dksX3_looks_3 7 rfl rfl)
theorem dX3_looks_80 : decode cX3_looks 80 = .ok (.iload 5, 2) := dk_21 5 (dk_at dksX3_looks_3 8 rfl rfl)
theorem dX3_looks_82 : decode cX3_looks 82 = .ok (.iadd, 1) := dk_96 (dk_at dksX3_looks_3 10 rfl rfl)
theorem dX3_looks_83 : decode cX3_looks 83 = .ok (.istore_n 1, 1) := dk_60 (dk_at dksX3_looks_3 11 rfl rfl)
theorem dX3_looks_84 : decode cX3_looks 84 = .ok (.iload 5, 2) := dk_21 5 (dk_at dksX3_looks_3 12 rfl rfl)
theorem dX3_looks_86 : decode cX3_looks 86 = .ok (.ifCond .ne 7, 3) := dk_154 0 7 (dk_at dksX3_looks_3 14 rfl rfl)
theorem dX3_looks_89 : decode cX3_looks 89 = .ok (.iconst 0, 1) := dk_3 (dk_at dksX3_looks_3 17 rfl rfl)
theorem dX3_looks_90 : decode cX3_looks 90 = .ok (.goto 33, 3) := dk_167 0 33 (dk_at dksX3_looks_3 18 rfl rfl)
theorem dX3_looks_93 : decode cX3_looks 93 = .ok (.iload 5, 2) := dk_21 5 (dk_at dksX3_looks_3 21 rfl rfl)
theorem dX3_looks_95 : decode cX3_looks 95 = .ok (.aload_n 0, 1) := dk_42 (dk_at dksX3_looks_3 23 rfl rfl)
theorem dX3_looks_96 : decode cX3_looks 96 = .ok (.getfield 99, 3) := dk_180 0 99 (dk_at dksX3_looks_4 0 rfl rfl)
theorem dX3_looks_99 : decode cX3_looks 99 = .ok (.aload_n 0, 1) := dk_42 (dk_at dksX3_looks_4 3 rfl rfl)
theorem dX3_looks_100 : decode cX3_looks 100 = .ok (.getfield 240, 3) := dk_180 0 240 (dk_at dksX3_looks_4 4 rfl rfl)
theorem dX3_looks_103 : decode cX3_looks 103 = .ok (.iload 4, 2) := dk_21 4 (dk_at dksX3_looks_4 7 rfl rfl)
theorem dX3_looks_105 : decode cX3_looks 105 = .ok (.iaload, 1) := dk_46 (dk_at dksX3_looks_4 9 rfl rfl)
theorem dX3_looks_106 : decode cX3_looks 106 = .ok (.iaload, 1) := dk_46 (dk_at dksX3_looks_4 10 rfl rfl)
theorem dX3_looks_107 : decode cX3_looks 107 = .ok (.iadd, 1) := dk_96 (dk_at dksX3_looks_4 11 rfl rfl)
theorem dX3_looks_108 : decode cX3_looks 108 = .ok (.iconst 1, 1) := dk_4 (dk_at dksX3_looks_4 12 rfl rfl)
theorem dX3_looks_109 : decode cX3_looks 109 = .ok (.isub, 1) := dk_100 (dk_at dksX3_looks_4 13 rfl rfl)
theorem dX3_looks_110 : decode cX3_looks 110 = .ok (.aload_n 0, 1) := dk_42 (dk_at dksX3_looks_4 14 rfl rfl)
theorem dX3_looks_111 : decode cX3_looks 111 = .ok (.getfield 99, 3) := dk_180 0 99 (dk_at dksX3_looks_4 15 rfl rfl)
theorem dX3_looks_114 : decode cX3_looks 114 = .ok (.aload_n 0, 1) := dk_42 (dk_at dksX3_looks_4 18 rfl rfl)
theorem dX3_looks_115 : decode cX3_looks 115 = .ok (.getfield 240, 3) := dk_180 0 240 (dk_at dksX3_looks_4 19 rfl rfl)
theorem dX3_looks_118 : decode cX3_looks 118 = .ok (.iload 4, 2) := dk_21 4 (dk_at dksX3_looks_4 22 rfl rfl)
theorem dX3_looks_120 : decode cX3_looks 120 = .ok (.iaload, 1) := dk_46 (dk_at dksX3_looks_5 0 rfl rfl)
theorem dX3_looks_121 : decode cX3_looks 121 = .ok (.iaload, 1) := dk_46 (dk_at dksX3_looks_5 1 rfl rfl)
theorem dX3_looks_122 : decode cX3_looks 122 = .ok (.idiv, 1) := dk_108 (dk_at dksX3_looks_5 2 rfl rfl)
theorem dX3_looks_123 : decode cX3_looks 123 = .ok (.istore 6, 2) := dk_54 6 (dk_at dksX3_looks_5 3 rfl rfl)
theorem dX3_looks_125 : decode cX3_looks 125 = .ok (.iload 6, 2) := dk_21 6 (dk_at dksX3_looks_5 5 rfl rfl)
theorem dX3_looks_127 : decode cX3_looks 127 = .ok (.iload_n 3, 1) := dk_29 (dk_at dksX3_looks_5 7 rfl rfl)
theorem dX3_looks_128 : decode cX3_looks 128 = .ok (.if_icmp .le 6, 3) := dk_164 0 6 (dk_at dksX3_looks_5 8 rfl rfl)
theorem dX3_looks_131 : decode cX3_looks 131 = .ok (.iload 6, 2) := dk_21 6 (dk_at dksX3_looks_5 11 rfl rfl)
theorem dX3_looks_133 : decode cX3_looks 133 = .ok (.istore_n 3, 1) := dk_62 (dk_at dksX3_looks_5 13 rfl rfl)
theorem dX3_looks_134 : decode cX3_looks 134 = .ok (.iinc 4 1, 3) := dk_132 4 1 (dk_at dksX3_looks_5 14 rfl rfl)
theorem dX3_looks_137 : decode cX3_looks 137 = .ok (.goto (-128), 3) := dk_167 255 128 (dk_at dksX3_looks_5 17 rfl rfl)
theorem dX3_looks_140 : decode cX3_looks 140 = .ok (.iload_n 1, 1) := dk_27 (dk_at dksX3_looks_5 20 rfl rfl)
theorem dX3_looks_141 : decode cX3_looks 141 = .ok (.aload_n 0, 1) := dk_42 (dk_at dksX3_looks_5 21 rfl rfl)
theorem dX3_looks_142 : decode cX3_looks 142 = .ok (.getfield 510, 3) := dk_180 1 254 (dk_at dksX3_looks_6 0 rfl rfl)
theorem dX3_looks_145 : decode cX3_looks 145 = .ok (.if_icmp .lt 35, 3) := dk_161 0 35 (dk_at dksX3_looks_6 3 rfl rfl)
theorem dX3_looks_148 : decode cX3_looks 148 = .ok (.iload_n 1, 1) := dk_27 (dk_at dksX3_looks_6 6 rfl rfl)
theorem dX3_looks_149 : decode cX3_looks 149 = .ok (.aload_n 0, 1) := dk_42 (dk_at dksX3_looks_6 7 rfl rfl)
theorem dX3_looks_150 : decode cX3_looks 150 = .ok (.getfield 510, 3) := dk_180 1 254 (dk_at dksX3_looks_6 8 rfl rfl)
theorem dX3_looks_153 : decode cX3_looks 153 = .ok (.if_icmp .ne 28, 3) := dk_160 0 28 (dk_at dksX3_looks_6 11 rfl rfl)
theorem dX3_looks_156 : decode cX3_looks 156 = .ok (.iload_n 2, 1) := dk_28 (dk_at dksX3_looks_6 14 rfl rfl)
theorem dX3_looks_157 : decode cX3_looks 157 = .ok (.aload_n 0, 1) := dk_42 (dk_at dksX3_looks_6 15 rfl rfl)
theorem dX3_looks_158 : decode cX3_looks 158 = .ok (.getfield 513, 3) := dk_180 2 1 (dk_at dksX3_looks_6 16 rfl rfl)
theorem dX3_looks_161 : decode cX3_looks 161 = .ok (.if_icmp .gt 19, 3) := dk_163 0 19 (dk_at dksX3_looks_6 19 rfl rfl)
theorem dX3_looks_164 : decode cX3_looks 164 = .ok (.iload_n 2, 1) := dk_28 (dk_at dksX3_looks_6 22 rfl rfl)
theorem dX3_looks_165 : decode cX3_looks 165 = .ok (.aload_n 0, 1) := dk_42 (dk_at dksX3_looks_6 23 rfl rfl)
theorem dX3_looks_166 : decode cX3_looks 166 = .ok (.getfield 513, 3) := dk_180 2 1 (dk_at dksX3_looks_7 0 rfl rfl)
theorem dX3_looks_169 : decode cX3_looks 169 = .ok (.if_icmp .ne 12, 3) := dk_160 0 12 (dk_at dksX3_looks_7 3 rfl rfl)
theorem dX3_looks_172 : decode cX3_looks 172 = .ok (.iload_n 3, 1) := dk_29 (dk_at dksX3_looks_7 6 rfl rfl)
theorem dX3_looks_173 : decode cX3_looks 173 = .ok (.aload_n 0, 1) := dk_42 (dk_at dksX3_looks_7 7 rfl rfl)
theorem dX3_looks_174 : decode cX3_looks 174 = .ok (.getfield 516, 3) := dk_180 2 4 (dk_at dksX3_looks_7 8 rfl rfl)
theorem dX3_looks_177 : decode cX3_looks 177 = .ok (.if_icmp .lt 4, 3) := dk_161 0 4 (dk_at dksX3_looks_7 11 rfl rfl)
theorem dX3_looks_180 : decode cX3_looks 180 = .ok (.return_, 1) := dk_177 (dk_at dksX3_looks_7 14 rfl rfl)
theorem dX3_looks_181 : decode cX3_looks 181 = .ok (.aload_n 0, 1) := dk_42 (dk_at dksX3_looks_7 15 rfl rfl)
theorem dX3_looks_182 : decode cX3_looks 182 = .ok (.iload_n 1, 1) := dk_27 (dk_at dksX3_looks_7 16 rfl rfl)
theorem dX3_looks_183 : decode cX3_looks 183 = .ok (.putfield 510, 3) := dk_181 1 254 (dk_at dksX3_looks_7 17 rfl rfl)
theorem dX3_looks_186 : decode cX3_looks 186 = .ok (.aload_n 0, 1) := dk_42 (dk_at dksX3_looks_7 20 rfl rfl)
theorem dX3_looks_187 : decode cX3_looks 187 = .ok (.iload_n 2, 1) := dk_28 (dk_at dksX3_looks_7 21 rfl rfl)
theorem dX3_looks_188 : decode cX3_looks 188 = .ok (.putfield 513, 3) := dk_181 2 1 (dk_at dksX3_looks_8 0 rfl rfl)
theorem dX3_looks_191 : decode cX3_looks 191 = .ok (.aload_n 0, 1) := dk_42 (dk_at dksX3_looks_8 3 rfl rfl)
theorem dX3_looks_192 : decode cX3_looks 192 = .ok (.iload_n 3, 1) := dk_29 (dk_at dksX3_looks_8 4 rfl rfl)
theorem dX3_looks_193 : decode cX3_looks 193 = .ok (.putfield 516, 3) := dk_181 2 4 (dk_at dksX3_looks_8 5 rfl rfl)
theorem dX3_looks_196 : decode cX3_looks 196 = .ok (.iconst 0, 1) := dk_3 (dk_at dksX3_looks_8 8 rfl rfl)
theorem dX3_looks_197 : decode cX3_looks 197 = .ok (.istore 4, 2) := dk_54 4 (dk_at dksX3_looks_8 9 rfl rfl)
theorem dX3_looks_199 : decode cX3_looks 199 = .ok (.iload 4, 2) := dk_21 4 (dk_at dksX3_looks_8 11 rfl rfl)
theorem dX3_looks_201 : decode cX3_looks 201 = .ok (.aload_n 0, 1) := dk_42 (dk_at dksX3_looks_8 13 rfl rfl)
theorem dX3_looks_202 : decode cX3_looks 202 = .ok (.getfield 504, 3) := dk_180 1 248 (dk_at dksX3_looks_8 14 rfl rfl)
theorem dX3_looks_205 : decode cX3_looks 205 = .ok (.if_icmp .ge 23, 3) := dk_162 0 23 (dk_at dksX3_looks_8 17 rfl rfl)
theorem dX3_looks_208 : decode cX3_looks 208 = .ok (.aload_n 0, 1) := dk_42 (dk_at dksX3_looks_8 20 rfl rfl)
theorem dX3_looks_209 : decode cX3_looks 209 = .ok (.getfield 246, 3) := dk_180 0 246 (dk_at dksX3_looks_8 21 rfl rfl)
theorem dX3_looks_212 : decode cX3_looks 212 = .ok (.iload 4, 2) := dk_21 4 (dk_at dksX3_looks_9 0 rfl rfl)
theorem dX3_looks_214 : decode cX3_looks 214 = .ok (.aload_n 0, 1) := dk_42 (dk_at dksX3_looks_9 2 rfl rfl)
theorem dX3_looks_215 : decode cX3_looks 215 = .ok (.getfield 243, 3) := dk_180 0 243 (dk_at dksX3_looks_9 3 rfl rfl)
theorem dX3_looks_218 : decode cX3_looks 218 = .ok (.iload 4, 2) := dk_21 4 (dk_at dksX3_looks_9 6 rfl rfl)
theorem dX3_looks_220 : decode cX3_looks 220 = .ok (.iaload, 1) := dk_46 (dk_at dksX3_looks_9 8 rfl rfl)
theorem dX3_looks_221 : decode cX3_looks 221 = .ok (.iastore, 1) := dk_79 (dk_at dksX3_looks_9 9 rfl rfl)
theorem dX3_looks_222 : decode cX3_looks 222 = .ok (.iinc 4 1, 3) := dk_132 4 1 (dk_at dksX3_looks_9 10 rfl rfl)
theorem dX3_looks_225 : decode cX3_looks 225 = .ok (.goto (-26), 3) := dk_167 255 230 (dk_at dksX3_looks_9 13 rfl rfl)
theorem dX3_looks_228 : decode cX3_looks 228 = .ok (.return_, 1) := dk_177 (dk_at dksX3_looks_9 16 rfl rfl)
abbrev cX3_bring : ByteArray := prog_14_method_73_code
def yX3_bring : MethodName := ⟨RX3, "bring", "(II)I"⟩
def dkwX3_bring_6 : List UInt8 := [79, 42, 180, 0, 27, 28, 46, 42, 180, 0, 30, 28, 46, 96, 172]
abbrev dktX3_bring_6 : List UInt8 := dkwX3_bring_6 ++ []
def dkwX3_bring_5 : List UInt8 := [180, 0, 224, 27, 46, 96, 79, 167, 0, 18, 42, 180, 0, 30, 28, 92, 46, 42, 180, 0, 224, 27, 46, 96]
abbrev dktX3_bring_5 : List UInt8 := dkwX3_bring_5 ++ dktX3_bring_6
def dkwX3_bring_4 : List UInt8 := [180, 0, 27, 28, 92, 46, 42, 180, 0, 224, 27, 46, 96, 79, 42, 180, 0, 51, 28, 92, 46, 42]
abbrev dktX3_bring_4 : List UInt8 := dkwX3_bring_4 ++ dktX3_bring_5
def dkwX3_bring_3 : List UInt8 := [164, 0, 5, 2, 172, 42, 180, 0, 227, 27, 28, 79, 42, 180, 0, 230, 27, 51, 153, 0, 36, 42]
abbrev dktX3_bring_3 : List UInt8 := dkwX3_bring_3 ++ dktX3_bring_4
def dkwX3_bring_2 : List UInt8 := [180, 0, 27, 28, 46, 42, 180, 0, 30, 28, 46, 96, 42, 180, 0, 224, 27, 46, 96, 17, 39, 15]
abbrev dktX3_bring_2 : List UInt8 := dkwX3_bring_2 ++ dktX3_bring_3
def dkwX3_bring_1 : List UInt8 := [160, 0, 49, 42, 42, 180, 0, 63, 42, 180, 0, 218, 27, 46, 46, 28, 182, 1, 37, 2, 159, 0, 29, 42]
abbrev dktX3_bring_1 : List UInt8 := dkwX3_bring_1 ++ dktX3_bring_2
def dkwX3_bring_0 : List UInt8 := [42, 27, 182, 1, 245, 153, 0, 67, 42, 28, 182, 1, 33, 153, 0, 59, 42, 180, 0, 227, 27, 46, 2]
abbrev dktX3_bring_0 : List UInt8 := dkwX3_bring_0 ++ dktX3_bring_1
theorem dksX3_bring_0 : cX3_bring.data.toList.drop 0 = dktX3_bring_0 := by decide +kernel
theorem dksX3_bring_1 : cX3_bring.data.toList.drop 23 = dktX3_bring_1 := dk_seg dksX3_bring_0 23 rfl rfl
theorem dksX3_bring_2 : cX3_bring.data.toList.drop 47 = dktX3_bring_2 := dk_seg dksX3_bring_1 24 rfl rfl
theorem dksX3_bring_3 : cX3_bring.data.toList.drop 69 = dktX3_bring_3 := dk_seg dksX3_bring_2 22 rfl rfl
theorem dksX3_bring_4 : cX3_bring.data.toList.drop 91 = dktX3_bring_4 := dk_seg dksX3_bring_3 22 rfl rfl
theorem dksX3_bring_5 : cX3_bring.data.toList.drop 113 = dktX3_bring_5 := dk_seg dksX3_bring_4 22 rfl rfl
theorem dksX3_bring_6 : cX3_bring.data.toList.drop 137 = dktX3_bring_6 := dk_seg dksX3_bring_5 24 rfl rfl
theorem dX3_bring_0 : decode cX3_bring 0 = .ok (.aload_n 0, 1) := dk_42 (dk_at dksX3_bring_0 0 rfl rfl)
theorem dX3_bring_1 : decode cX3_bring 1 = .ok (.iload_n 1, 1) := dk_27 (dk_at dksX3_bring_0 1 rfl rfl)
theorem dX3_bring_2 : decode cX3_bring 2 = .ok (.invokevirtual 501, 3) := dk_182 1 245 (dk_at dksX3_bring_0 2 rfl rfl)
theorem dX3_bring_5 : decode cX3_bring 5 = .ok (.ifCond .eq 67, 3) := dk_153 0 67 (dk_at dksX3_bring_0 5 rfl rfl)
theorem dX3_bring_8 : decode cX3_bring 8 = .ok (.aload_n 0, 1) := dk_42 (dk_at dksX3_bring_0 8 rfl rfl)
theorem dX3_bring_9 : decode cX3_bring 9 = .ok (.iload_n 2, 1) := dk_28 (dk_at dksX3_bring_0 9 rfl rfl)
theorem dX3_bring_10 : decode cX3_bring 10 = .ok (.invokevirtual 289, 3) := dk_182 1 33 (dk_at dksX3_bring_0 10 rfl rfl)
theorem dX3_bring_13 : decode cX3_bring 13 = .ok (.ifCond .eq 59, 3) := dk_153 0 59 (dk_at dksX3_bring_0 13 rfl rfl)
theorem dX3_bring_16 : decode cX3_bring 16 = .ok (.aload_n 0, 1) := dk_42 (dk_at dksX3_bring_0 16 rfl rfl)
theorem dX3_bring_17 : decode cX3_bring 17 = .ok (.getfield 227, 3) := dk_180 0 227 (dk_at dksX3_bring_0 17 rfl rfl)
theorem dX3_bring_20 : decode cX3_bring 20 = .ok (.iload_n 1, 1) := dk_27 (dk_at dksX3_bring_0 20 rfl rfl)
theorem dX3_bring_21 : decode cX3_bring 21 = .ok (.iaload, 1) := dk_46 (dk_at dksX3_bring_0 21 rfl rfl)
theorem dX3_bring_22 : decode cX3_bring 22 = .ok (.iconst (-1), 1) := dk_2 (dk_at dksX3_bring_0 22 rfl rfl)
theorem dX3_bring_23 : decode cX3_bring 23 = .ok (.if_icmp .ne 49, 3) := dk_160 0 49 (dk_at dksX3_bring_1 0 rfl rfl)
theorem dX3_bring_26 : decode cX3_bring 26 = .ok (.aload_n 0, 1) := dk_42 (dk_at dksX3_bring_1 3 rfl rfl)
theorem dX3_bring_27 : decode cX3_bring 27 = .ok (.aload_n 0, 1) := dk_42 (dk_at dksX3_bring_1 4 rfl rfl)
theorem dX3_bring_28 : decode cX3_bring 28 = .ok (.getfield 63, 3) := dk_180 0 63 (dk_at dksX3_bring_1 5 rfl rfl)
theorem dX3_bring_31 : decode cX3_bring 31 = .ok (.aload_n 0, 1) := dk_42 (dk_at dksX3_bring_1 8 rfl rfl)
theorem dX3_bring_32 : decode cX3_bring 32 = .ok (.getfield 218, 3) := dk_180 0 218 (dk_at dksX3_bring_1 9 rfl rfl)
theorem dX3_bring_35 : decode cX3_bring 35 = .ok (.iload_n 1, 1) := dk_27 (dk_at dksX3_bring_1 12 rfl rfl)
theorem dX3_bring_36 : decode cX3_bring 36 = .ok (.iaload, 1) := dk_46 (dk_at dksX3_bring_1 13 rfl rfl)
theorem dX3_bring_37 : decode cX3_bring 37 = .ok (.iaload, 1) := dk_46 (dk_at dksX3_bring_1 14 rfl rfl)
theorem dX3_bring_38 : decode cX3_bring 38 = .ok (.iload_n 2, 1) := dk_28 (dk_at dksX3_bring_1 15 rfl rfl)
theorem dX3_bring_39 : decode cX3_bring 39 = .ok (.invokevirtual 293, 3) := dk_182 1 37 (dk_at dksX3_bring_1 16 rfl rfl)
theorem dX3_bring_42 : decode cX3_bring 42 = .ok (.iconst (-1), 1) := dk_2 (dk_at dksX3_bring_1 19 rfl rfl)
theorem dX3_bring_43 : decode cX3_bring 43 = .ok (.if_icmp .eq 29, 3) := dk_159 0 29 (dk_at dksX3_bring_1 20 rfl rfl)
theorem dX3_bring_46 : decode cX3_bring 46 = .ok (.aload_n 0, 1) := dk_42 (dk_at dksX3_bring_1 23 rfl rfl)
theorem dX3_bring_47 : decode cX3_bring 47 = .ok (.getfield 27, 3) := dk_180 0 27 (dk_at dksX3_bring_2 0 rfl rfl)
theorem dX3_bring_50 : decode cX3_bring 50 = .ok (.iload_n 2, 1) := dk_28 (dk_at dksX3_bring_2 3 rfl rfl)
theorem dX3_bring_51 : decode cX3_bring 51 = .ok (.iaload, 1) := dk_46 (dk_at dksX3_bring_2 4 rfl rfl)
theorem dX3_bring_52 : decode cX3_bring 52 = .ok (.aload_n 0, 1) := dk_42 (dk_at dksX3_bring_2 5 rfl rfl)
theorem dX3_bring_53 : decode cX3_bring 53 = .ok (.getfield 30, 3) := dk_180 0 30 (dk_at dksX3_bring_2 6 rfl rfl)
theorem dX3_bring_56 : decode cX3_bring 56 = .ok (.iload_n 2, 1) := dk_28 (dk_at dksX3_bring_2 9 rfl rfl)
theorem dX3_bring_57 : decode cX3_bring 57 = .ok (.iaload, 1) := dk_46 (dk_at dksX3_bring_2 10 rfl rfl)
theorem dX3_bring_58 : decode cX3_bring 58 = .ok (.iadd, 1) := dk_96 (dk_at dksX3_bring_2 11 rfl rfl)
theorem dX3_bring_59 : decode cX3_bring 59 = .ok (.aload_n 0, 1) := dk_42 (dk_at dksX3_bring_2 12 rfl rfl)
theorem dX3_bring_60 : decode cX3_bring 60 = .ok (.getfield 224, 3) := dk_180 0 224 (dk_at dksX3_bring_2 13 rfl rfl)
theorem dX3_bring_63 : decode cX3_bring 63 = .ok (.iload_n 1, 1) := dk_27 (dk_at dksX3_bring_2 16 rfl rfl)
theorem dX3_bring_64 : decode cX3_bring 64 = .ok (.iaload, 1) := dk_46 (dk_at dksX3_bring_2 17 rfl rfl)
theorem dX3_bring_65 : decode cX3_bring 65 = .ok (.iadd, 1) := dk_96 (dk_at dksX3_bring_2 18 rfl rfl)
theorem dX3_bring_66 : decode cX3_bring 66 = .ok (.sipush 9999, 3) := dk_17 39 15 (dk_at dksX3_bring_2 19 rfl rfl)
theorem dX3_bring_69 : decode cX3_bring 69 = .ok (.if_icmp .le 5, 3) := dk_164 0 5 (dk_at dksX3_bring_3 0 rfl rfl)
theorem dX3_bring_72 : decode cX3_bring 72 = .ok (.iconst (-1), 1) := dk_2 (dk_at dksX3_bring_3 3 rfl rfl)
theorem dX3_bring_73 : decode cX3_bring 73 = .ok (.ireturn, 1) := dk_172 (dk_at dksX3_bring_3 4 rfl rfl)
theorem dX3_bring_74 : decode cX3_bring 74 = .ok (.aload_n 0, 1) := dk_42 (dk_at dksX3_bring_3 5 rfl rfl)
theorem dX3_bring_75 : decode cX3_bring 75 = .ok (.getfield 227, 3) := dk_180 0 227 (dk_at dksX3_bring_3 6 rfl rfl)
theorem dX3_bring_78 : decode cX3_bring 78 = .ok (.iload_n 1, 1) := dk_27 (dk_at dksX3_bring_3 9 rfl rfl)
theorem dX3_bring_79 : decode cX3_bring 79 = .ok (.iload_n 2, 1) := dk_28 (dk_at dksX3_bring_3 10 rfl rfl)
theorem dX3_bring_80 : decode cX3_bring 80 = .ok (.iastore, 1) := dk_79 (dk_at dksX3_bring_3 11 rfl rfl)
theorem dX3_bring_81 : decode cX3_bring 81 = .ok (.aload_n 0, 1) := dk_42 (dk_at dksX3_bring_3 12 rfl rfl)
theorem dX3_bring_82 : decode cX3_bring 82 = .ok (.getfield 230, 3) := dk_180 0 230 (dk_at dksX3_bring_3 13 rfl rfl)
theorem dX3_bring_85 : decode cX3_bring 85 = .ok (.iload_n 1, 1) := dk_27 (dk_at dksX3_bring_3 16 rfl rfl)
theorem dX3_bring_86 : decode cX3_bring 86 = .ok (.baload, 1) := dk_51 (dk_at dksX3_bring_3 17 rfl rfl)
theorem dX3_bring_87 : decode cX3_bring 87 = .ok (.ifCond .eq 36, 3) := dk_153 0 36 (dk_at dksX3_bring_3 18 rfl rfl)
theorem dX3_bring_90 : decode cX3_bring 90 = .ok (.aload_n 0, 1) := dk_42 (dk_at dksX3_bring_3 21 rfl rfl)
theorem dX3_bring_91 : decode cX3_bring 91 = .ok (.getfield 27, 3) := dk_180 0 27 (dk_at dksX3_bring_4 0 rfl rfl)
theorem dX3_bring_94 : decode cX3_bring 94 = .ok (.iload_n 2, 1) := dk_28 (dk_at dksX3_bring_4 3 rfl rfl)
theorem dX3_bring_95 : decode cX3_bring 95 = .ok (.dup2, 1) := dk_92 (dk_at dksX3_bring_4 4 rfl rfl)
theorem dX3_bring_96 : decode cX3_bring 96 = .ok (.iaload, 1) := dk_46 (dk_at dksX3_bring_4 5 rfl rfl)
theorem dX3_bring_97 : decode cX3_bring 97 = .ok (.aload_n 0, 1) := dk_42 (dk_at dksX3_bring_4 6 rfl rfl)
theorem dX3_bring_98 : decode cX3_bring 98 = .ok (.getfield 224, 3) := dk_180 0 224 (dk_at dksX3_bring_4 7 rfl rfl)
theorem dX3_bring_101 : decode cX3_bring 101 = .ok (.iload_n 1, 1) := dk_27 (dk_at dksX3_bring_4 10 rfl rfl)
theorem dX3_bring_102 : decode cX3_bring 102 = .ok (.iaload, 1) := dk_46 (dk_at dksX3_bring_4 11 rfl rfl)
theorem dX3_bring_103 : decode cX3_bring 103 = .ok (.iadd, 1) := dk_96 (dk_at dksX3_bring_4 12 rfl rfl)
theorem dX3_bring_104 : decode cX3_bring 104 = .ok (.iastore, 1) := dk_79 (dk_at dksX3_bring_4 13 rfl rfl)
theorem dX3_bring_105 : decode cX3_bring 105 = .ok (.aload_n 0, 1) := dk_42 (dk_at dksX3_bring_4 14 rfl rfl)
theorem dX3_bring_106 : decode cX3_bring 106 = .ok (.getfield 51, 3) := dk_180 0 51 (dk_at dksX3_bring_4 15 rfl rfl)
theorem dX3_bring_109 : decode cX3_bring 109 = .ok (.iload_n 2, 1) := dk_28 (dk_at dksX3_bring_4 18 rfl rfl)
theorem dX3_bring_110 : decode cX3_bring 110 = .ok (.dup2, 1) := dk_92 (dk_at dksX3_bring_4 19 rfl rfl)
theorem dX3_bring_111 : decode cX3_bring 111 = .ok (.iaload, 1) := dk_46 (dk_at dksX3_bring_4 20 rfl rfl)
theorem dX3_bring_112 : decode cX3_bring 112 = .ok (.aload_n 0, 1) := dk_42 (dk_at dksX3_bring_4 21 rfl rfl)
theorem dX3_bring_113 : decode cX3_bring 113 = .ok (.getfield 224, 3) := dk_180 0 224 (dk_at dksX3_bring_5 0 rfl rfl)
theorem dX3_bring_116 : decode cX3_bring 116 = .ok (.iload_n 1, 1) := dk_27 (dk_at dksX3_bring_5 3 rfl rfl)
theorem dX3_bring_117 : decode cX3_bring 117 = .ok (.iaload, 1) := dk_46 (dk_at dksX3_bring_5 4 rfl rfl)
theorem dX3_bring_118 : decode cX3_bring 118 = .ok (.iadd, 1) := dk_96 (dk_at dksX3_bring_5 5 rfl rfl)
theorem dX3_bring_119 : decode cX3_bring 119 = .ok (.iastore, 1) := dk_79 (dk_at dksX3_bring_5 6 rfl rfl)
theorem dX3_bring_120 : decode cX3_bring 120 = .ok (.goto 18, 3) := dk_167 0 18 (dk_at dksX3_bring_5 7 rfl rfl)
theorem dX3_bring_123 : decode cX3_bring 123 = .ok (.aload_n 0, 1) := dk_42 (dk_at dksX3_bring_5 10 rfl rfl)
theorem dX3_bring_124 : decode cX3_bring 124 = .ok (.getfield 30, 3) := dk_180 0 30 (dk_at dksX3_bring_5 11 rfl rfl)
theorem dX3_bring_127 : decode cX3_bring 127 = .ok (.iload_n 2, 1) := dk_28 (dk_at dksX3_bring_5 14 rfl rfl)
theorem dX3_bring_128 : decode cX3_bring 128 = .ok (.dup2, 1) := dk_92 (dk_at dksX3_bring_5 15 rfl rfl)
theorem dX3_bring_129 : decode cX3_bring 129 = .ok (.iaload, 1) := dk_46 (dk_at dksX3_bring_5 16 rfl rfl)
theorem dX3_bring_130 : decode cX3_bring 130 = .ok (.aload_n 0, 1) := dk_42 (dk_at dksX3_bring_5 17 rfl rfl)
theorem dX3_bring_131 : decode cX3_bring 131 = .ok (.getfield 224, 3) := dk_180 0 224 (dk_at dksX3_bring_5 18 rfl rfl)
theorem dX3_bring_134 : decode cX3_bring 134 = .ok (.iload_n 1, 1) := dk_27 (dk_at dksX3_bring_5 21 rfl rfl)
theorem dX3_bring_135 : decode cX3_bring 135 = .ok (.iaload, 1) := dk_46 (dk_at dksX3_bring_5 22 rfl rfl)
theorem dX3_bring_136 : decode cX3_bring 136 = .ok (.iadd, 1) := dk_96 (dk_at dksX3_bring_5 23 rfl rfl)
theorem dX3_bring_137 : decode cX3_bring 137 = .ok (.iastore, 1) := dk_79 (dk_at dksX3_bring_6 0 rfl rfl)
theorem dX3_bring_138 : decode cX3_bring 138 = .ok (.aload_n 0, 1) := dk_42 (dk_at dksX3_bring_6 1 rfl rfl)
theorem dX3_bring_139 : decode cX3_bring 139 = .ok (.getfield 27, 3) := dk_180 0 27 (dk_at dksX3_bring_6 2 rfl rfl)
theorem dX3_bring_142 : decode cX3_bring 142 = .ok (.iload_n 2, 1) := dk_28 (dk_at dksX3_bring_6 5 rfl rfl)
theorem dX3_bring_143 : decode cX3_bring 143 = .ok (.iaload, 1) := dk_46 (dk_at dksX3_bring_6 6 rfl rfl)
theorem dX3_bring_144 : decode cX3_bring 144 = .ok (.aload_n 0, 1) := dk_42 (dk_at dksX3_bring_6 7 rfl rfl)
theorem dX3_bring_145 : decode cX3_bring 145 = .ok (.getfield 30, 3) := dk_180 0 30 (dk_at dksX3_bring_6 8 rfl rfl)
theorem dX3_bring_148 : decode cX3_bring 148 = .ok (.iload_n 2, 1) := dk_28 (dk_at dksX3_bring_6 11 rfl rfl)
theorem dX3_bring_149 : decode cX3_bring 149 = .ok (.iaload, 1) := dk_46 (dk_at dksX3_bring_6 12 rfl rfl)
theorem dX3_bring_150 : decode cX3_bring 150 = .ok (.iadd, 1) := dk_96 (dk_at dksX3_bring_6 13 rfl rfl)
theorem dX3_bring_151 : decode cX3_bring 151 = .ok (.ireturn, 1) := dk_172 (dk_at dksX3_bring_6 14 rfl rfl)
abbrev cX3_mill : ByteArray := prog_14_method_74_code
def yX3_mill : MethodName := ⟨RX3, "mill", "(II)I"⟩
def dkwX3_mill_2 : List UInt8 := [180, 0, 33, 27, 46, 172]
abbrev dktX3_mill_2 : List UInt8 := dkwX3_mill_2 ++ []
def dkwX3_mill_1 : List UInt8 := [27, 46, 28, 96, 17, 39, 15, 164, 0, 5, 2, 172, 42, 180, 0, 33, 27, 92, 46, 28, 96, 79, 42]
abbrev dktX3_mill_1 : List UInt8 := dkwX3_mill_1 ++ dktX3_mill_2
def dkwX3_mill_0 : List UInt8 := [42, 27, 182, 1, 33, 153, 0, 29, 28, 133, 10, 20, 1, 56, 184, 1, 18, 153, 0, 17, 42, 180, 0, 33]
abbrev dktX3_mill_0 : List UInt8 := dkwX3_mill_0 ++ dktX3_mill_1
theorem dksX3_mill_0 : cX3_mill.data.toList.drop 0 = dktX3_mill_0 := by decide +kernel
theorem dksX3_mill_1 : cX3_mill.data.toList.drop 24 = dktX3_mill_1 := dk_seg dksX3_mill_0 24 rfl rfl
theorem dksX3_mill_2 : cX3_mill.data.toList.drop 47 = dktX3_mill_2 := dk_seg dksX3_mill_1 23 rfl rfl
theorem dX3_mill_0 : decode cX3_mill 0 = .ok (.aload_n 0, 1) := dk_42 (dk_at dksX3_mill_0 0 rfl rfl)
theorem dX3_mill_1 : decode cX3_mill 1 = .ok (.iload_n 1, 1) := dk_27 (dk_at dksX3_mill_0 1 rfl rfl)
theorem dX3_mill_2 : decode cX3_mill 2 = .ok (.invokevirtual 289, 3) := dk_182 1 33 (dk_at dksX3_mill_0 2 rfl rfl)
theorem dX3_mill_5 : decode cX3_mill 5 = .ok (.ifCond .eq 29, 3) := dk_153 0 29 (dk_at dksX3_mill_0 5 rfl rfl)
theorem dX3_mill_8 : decode cX3_mill 8 = .ok (.iload_n 2, 1) := dk_28 (dk_at dksX3_mill_0 8 rfl rfl)
theorem dX3_mill_9 : decode cX3_mill 9 = .ok (.i2l, 1) := dk_133 (dk_at dksX3_mill_0 9 rfl rfl)
theorem dX3_mill_10 : decode cX3_mill 10 = .ok (.lconst 1, 1) := dk_10 (dk_at dksX3_mill_0 10 rfl rfl)
theorem dX3_mill_11 : decode cX3_mill 11 = .ok (.ldc2_w 312, 3) := dk_20 1 56 (dk_at dksX3_mill_0 11 rfl rfl)
theorem dX3_mill_14 : decode cX3_mill 14 = .ok (.invokestatic 274, 3) := dk_184 1 18 (dk_at dksX3_mill_0 14 rfl rfl)
theorem dX3_mill_17 : decode cX3_mill 17 = .ok (.ifCond .eq 17, 3) := dk_153 0 17 (dk_at dksX3_mill_0 17 rfl rfl)
theorem dX3_mill_20 : decode cX3_mill 20 = .ok (.aload_n 0, 1) := dk_42 (dk_at dksX3_mill_0 20 rfl rfl)
theorem dX3_mill_21 : decode cX3_mill 21 = .ok (.getfield 33, 3) := dk_180 0 33 (dk_at dksX3_mill_0 21 rfl rfl)
theorem dX3_mill_24 : decode cX3_mill 24 = .ok (.iload_n 1, 1) := dk_27 (dk_at dksX3_mill_1 0 rfl rfl)
theorem dX3_mill_25 : decode cX3_mill 25 = .ok (.iaload, 1) := dk_46 (dk_at dksX3_mill_1 1 rfl rfl)
theorem dX3_mill_26 : decode cX3_mill 26 = .ok (.iload_n 2, 1) := dk_28 (dk_at dksX3_mill_1 2 rfl rfl)
theorem dX3_mill_27 : decode cX3_mill 27 = .ok (.iadd, 1) := dk_96 (dk_at dksX3_mill_1 3 rfl rfl)
theorem dX3_mill_28 : decode cX3_mill 28 = .ok (.sipush 9999, 3) := dk_17 39 15 (dk_at dksX3_mill_1 4 rfl rfl)
theorem dX3_mill_31 : decode cX3_mill 31 = .ok (.if_icmp .le 5, 3) := dk_164 0 5 (dk_at dksX3_mill_1 7 rfl rfl)
theorem dX3_mill_34 : decode cX3_mill 34 = .ok (.iconst (-1), 1) := dk_2 (dk_at dksX3_mill_1 10 rfl rfl)
theorem dX3_mill_35 : decode cX3_mill 35 = .ok (.ireturn, 1) := dk_172 (dk_at dksX3_mill_1 11 rfl rfl)
theorem dX3_mill_36 : decode cX3_mill 36 = .ok (.aload_n 0, 1) := dk_42 (dk_at dksX3_mill_1 12 rfl rfl)
theorem dX3_mill_37 : decode cX3_mill 37 = .ok (.getfield 33, 3) := dk_180 0 33 (dk_at dksX3_mill_1 13 rfl rfl)
theorem dX3_mill_40 : decode cX3_mill 40 = .ok (.iload_n 1, 1) := dk_27 (dk_at dksX3_mill_1 16 rfl rfl)
theorem dX3_mill_41 : decode cX3_mill 41 = .ok (.dup2, 1) := dk_92 (dk_at dksX3_mill_1 17 rfl rfl)
theorem dX3_mill_42 : decode cX3_mill 42 = .ok (.iaload, 1) := dk_46 (dk_at dksX3_mill_1 18 rfl rfl)
theorem dX3_mill_43 : decode cX3_mill 43 = .ok (.iload_n 2, 1) := dk_28 (dk_at dksX3_mill_1 19 rfl rfl)
theorem dX3_mill_44 : decode cX3_mill 44 = .ok (.iadd, 1) := dk_96 (dk_at dksX3_mill_1 20 rfl rfl)
theorem dX3_mill_45 : decode cX3_mill 45 = .ok (.iastore, 1) := dk_79 (dk_at dksX3_mill_1 21 rfl rfl)
theorem dX3_mill_46 : decode cX3_mill 46 = .ok (.aload_n 0, 1) := dk_42 (dk_at dksX3_mill_1 22 rfl rfl)
theorem dX3_mill_47 : decode cX3_mill 47 = .ok (.getfield 33, 3) := dk_180 0 33 (dk_at dksX3_mill_2 0 rfl rfl)
theorem dX3_mill_50 : decode cX3_mill 50 = .ok (.iload_n 1, 1) := dk_27 (dk_at dksX3_mill_2 3 rfl rfl)
theorem dX3_mill_51 : decode cX3_mill 51 = .ok (.iaload, 1) := dk_46 (dk_at dksX3_mill_2 4 rfl rfl)
theorem dX3_mill_52 : decode cX3_mill 52 = .ok (.ireturn, 1) := dk_172 (dk_at dksX3_mill_2 5 rfl rfl)
abbrev cX3_price : ByteArray := prog_14_method_75_code
def yX3_price : MethodName := ⟨RX3, "price", "(II)Z"⟩
def dkwX3_price_2 : List UInt8 := [180, 0, 39, 27, 28, 16, 100, 112, 79, 4, 172]
abbrev dktX3_price_2 : List UInt8 := dkwX3_price_2 ++ []
def dkwX3_price_1 : List UInt8 := [153, 0, 10, 28, 16, 100, 112, 154, 0, 5, 3, 172, 42, 180, 0, 36, 27, 28, 16, 100, 108, 79, 42]
abbrev dktX3_price_1 : List UInt8 := dkwX3_price_1 ++ dktX3_price_2
def dkwX3_price_0 : List UInt8 := [42, 27, 182, 1, 33, 153, 0, 29, 28, 155, 0, 25, 28, 16, 100, 108, 133, 10, 20, 2, 18, 184, 1, 18]
abbrev dktX3_price_0 : List UInt8 := dkwX3_price_0 ++ dktX3_price_1
theorem dksX3_price_0 : cX3_price.data.toList.drop 0 = dktX3_price_0 := by decide +kernel
theorem dksX3_price_1 : cX3_price.data.toList.drop 24 = dktX3_price_1 := dk_seg dksX3_price_0 24 rfl rfl
theorem dksX3_price_2 : cX3_price.data.toList.drop 47 = dktX3_price_2 := dk_seg dksX3_price_1 23 rfl rfl
theorem dX3_price_0 : decode cX3_price 0 = .ok (.aload_n 0, 1) := dk_42 (dk_at dksX3_price_0 0 rfl rfl)
theorem dX3_price_1 : decode cX3_price 1 = .ok (.iload_n 1, 1) := dk_27 (dk_at dksX3_price_0 1 rfl rfl)
theorem dX3_price_2 : decode cX3_price 2 = .ok (.invokevirtual 289, 3) := dk_182 1 33 (dk_at dksX3_price_0 2 rfl rfl)
theorem dX3_price_5 : decode cX3_price 5 = .ok (.ifCond .eq 29, 3) := dk_153 0 29 (dk_at dksX3_price_0 5 rfl rfl)
theorem dX3_price_8 : decode cX3_price 8 = .ok (.iload_n 2, 1) := dk_28 (dk_at dksX3_price_0 8 rfl rfl)
theorem dX3_price_9 : decode cX3_price 9 = .ok (.ifCond .lt 25, 3) := dk_155 0 25 (dk_at dksX3_price_0 9 rfl rfl)
theorem dX3_price_12 : decode cX3_price 12 = .ok (.iload_n 2, 1) := dk_28 (dk_at dksX3_price_0 12 rfl rfl)
theorem dX3_price_13 : decode cX3_price 13 = .ok (.bipush 100, 2) := dk_16 100 (dk_at dksX3_price_0 13 rfl rfl)
theorem dX3_price_15 : decode cX3_price 15 = .ok (.idiv, 1) := dk_108 (dk_at dksX3_price_0 15 rfl rfl)
theorem dX3_price_16 : decode cX3_price 16 = .ok (.i2l, 1) := dk_133 (dk_at dksX3_price_0 16 rfl rfl)
theorem dX3_price_17 : decode cX3_price 17 = .ok (.lconst 1, 1) := dk_10 (dk_at dksX3_price_0 17 rfl rfl)
theorem dX3_price_18 : decode cX3_price 18 = .ok (.ldc2_w 530, 3) := dk_20 2 18 (dk_at dksX3_price_0 18 rfl rfl)
theorem dX3_price_21 : decode cX3_price 21 = .ok (.invokestatic 274, 3) := dk_184 1 18 (dk_at dksX3_price_0 21 rfl rfl)
theorem dX3_price_24 : decode cX3_price 24 = .ok (.ifCond .eq 10, 3) := dk_153 0 10 (dk_at dksX3_price_1 0 rfl rfl)
theorem dX3_price_27 : decode cX3_price 27 = .ok (.iload_n 2, 1) := dk_28 (dk_at dksX3_price_1 3 rfl rfl)
theorem dX3_price_28 : decode cX3_price 28 = .ok (.bipush 100, 2) := dk_16 100 (dk_at dksX3_price_1 4 rfl rfl)
theorem dX3_price_30 : decode cX3_price 30 = .ok (.irem, 1) := dk_112 (dk_at dksX3_price_1 6 rfl rfl)
theorem dX3_price_31 : decode cX3_price 31 = .ok (.ifCond .ne 5, 3) := dk_154 0 5 (dk_at dksX3_price_1 7 rfl rfl)
theorem dX3_price_34 : decode cX3_price 34 = .ok (.iconst 0, 1) := dk_3 (dk_at dksX3_price_1 10 rfl rfl)
theorem dX3_price_35 : decode cX3_price 35 = .ok (.ireturn, 1) := dk_172 (dk_at dksX3_price_1 11 rfl rfl)
theorem dX3_price_36 : decode cX3_price 36 = .ok (.aload_n 0, 1) := dk_42 (dk_at dksX3_price_1 12 rfl rfl)
theorem dX3_price_37 : decode cX3_price 37 = .ok (.getfield 36, 3) := dk_180 0 36 (dk_at dksX3_price_1 13 rfl rfl)
theorem dX3_price_40 : decode cX3_price 40 = .ok (.iload_n 1, 1) := dk_27 (dk_at dksX3_price_1 16 rfl rfl)
theorem dX3_price_41 : decode cX3_price 41 = .ok (.iload_n 2, 1) := dk_28 (dk_at dksX3_price_1 17 rfl rfl)
theorem dX3_price_42 : decode cX3_price 42 = .ok (.bipush 100, 2) := dk_16 100 (dk_at dksX3_price_1 18 rfl rfl)
theorem dX3_price_44 : decode cX3_price 44 = .ok (.idiv, 1) := dk_108 (dk_at dksX3_price_1 20 rfl rfl)
theorem dX3_price_45 : decode cX3_price 45 = .ok (.iastore, 1) := dk_79 (dk_at dksX3_price_1 21 rfl rfl)
theorem dX3_price_46 : decode cX3_price 46 = .ok (.aload_n 0, 1) := dk_42 (dk_at dksX3_price_1 22 rfl rfl)
theorem dX3_price_47 : decode cX3_price 47 = .ok (.getfield 39, 3) := dk_180 0 39 (dk_at dksX3_price_2 0 rfl rfl)
theorem dX3_price_50 : decode cX3_price 50 = .ok (.iload_n 1, 1) := dk_27 (dk_at dksX3_price_2 3 rfl rfl)
theorem dX3_price_51 : decode cX3_price 51 = .ok (.iload_n 2, 1) := dk_28 (dk_at dksX3_price_2 4 rfl rfl)
theorem dX3_price_52 : decode cX3_price 52 = .ok (.bipush 100, 2) := dk_16 100 (dk_at dksX3_price_2 5 rfl rfl)
theorem dX3_price_54 : decode cX3_price 54 = .ok (.irem, 1) := dk_112 (dk_at dksX3_price_2 7 rfl rfl)
theorem dX3_price_55 : decode cX3_price 55 = .ok (.iastore, 1) := dk_79 (dk_at dksX3_price_2 8 rfl rfl)
theorem dX3_price_56 : decode cX3_price 56 = .ok (.iconst 1, 1) := dk_4 (dk_at dksX3_price_2 9 rfl rfl)
theorem dX3_price_57 : decode cX3_price 57 = .ok (.ireturn, 1) := dk_172 (dk_at dksX3_price_2 10 rfl rfl)
abbrev cX3_talk : ByteArray := prog_14_method_76_code
def yX3_talk : MethodName := ⟨RX3, "talk", "(II)I"⟩
def dkwX3_talk_1 : List UInt8 := [180, 0, 42, 27, 28, 79, 28, 172]
abbrev dktX3_talk_1 : List UInt8 := dkwX3_talk_1 ++ []
def dkwX3_talk_0 : List UInt8 := [42, 27, 182, 1, 33, 153, 0, 15, 28, 133, 9, 20, 2, 20, 184, 1, 18, 154, 0, 5, 2, 172, 42]
abbrev dktX3_talk_0 : List UInt8 := dkwX3_talk_0 ++ dktX3_talk_1
theorem dksX3_talk_0 : cX3_talk.data.toList.drop 0 = dktX3_talk_0 := by decide +kernel
theorem dksX3_talk_1 : cX3_talk.data.toList.drop 23 = dktX3_talk_1 := dk_seg dksX3_talk_0 23 rfl rfl
theorem dX3_talk_0 : decode cX3_talk 0 = .ok (.aload_n 0, 1) := dk_42 (dk_at dksX3_talk_0 0 rfl rfl)
theorem dX3_talk_1 : decode cX3_talk 1 = .ok (.iload_n 1, 1) := dk_27 (dk_at dksX3_talk_0 1 rfl rfl)
theorem dX3_talk_2 : decode cX3_talk 2 = .ok (.invokevirtual 289, 3) := dk_182 1 33 (dk_at dksX3_talk_0 2 rfl rfl)
theorem dX3_talk_5 : decode cX3_talk 5 = .ok (.ifCond .eq 15, 3) := dk_153 0 15 (dk_at dksX3_talk_0 5 rfl rfl)
theorem dX3_talk_8 : decode cX3_talk 8 = .ok (.iload_n 2, 1) := dk_28 (dk_at dksX3_talk_0 8 rfl rfl)
theorem dX3_talk_9 : decode cX3_talk 9 = .ok (.i2l, 1) := dk_133 (dk_at dksX3_talk_0 9 rfl rfl)
theorem dX3_talk_10 : decode cX3_talk 10 = .ok (.lconst 0, 1) := dk_9 (dk_at dksX3_talk_0 10 rfl rfl)
theorem dX3_talk_11 : decode cX3_talk 11 = .ok (.ldc2_w 532, 3) := dk_20 2 20 (dk_at dksX3_talk_0 11 rfl rfl)
theorem dX3_talk_14 : decode cX3_talk 14 = .ok (.invokestatic 274, 3) := dk_184 1 18 (dk_at dksX3_talk_0 14 rfl rfl)
theorem dX3_talk_17 : decode cX3_talk 17 = .ok (.ifCond .ne 5, 3) := dk_154 0 5 (dk_at dksX3_talk_0 17 rfl rfl)
theorem dX3_talk_20 : decode cX3_talk 20 = .ok (.iconst (-1), 1) := dk_2 (dk_at dksX3_talk_0 20 rfl rfl)
theorem dX3_talk_21 : decode cX3_talk 21 = .ok (.ireturn, 1) := dk_172 (dk_at dksX3_talk_0 21 rfl rfl)
theorem dX3_talk_22 : decode cX3_talk 22 = .ok (.aload_n 0, 1) := dk_42 (dk_at dksX3_talk_0 22 rfl rfl)
theorem dX3_talk_23 : decode cX3_talk 23 = .ok (.getfield 42, 3) := dk_180 0 42 (dk_at dksX3_talk_1 0 rfl rfl)
theorem dX3_talk_26 : decode cX3_talk 26 = .ok (.iload_n 1, 1) := dk_27 (dk_at dksX3_talk_1 3 rfl rfl)
theorem dX3_talk_27 : decode cX3_talk 27 = .ok (.iload_n 2, 1) := dk_28 (dk_at dksX3_talk_1 4 rfl rfl)
theorem dX3_talk_28 : decode cX3_talk 28 = .ok (.iastore, 1) := dk_79 (dk_at dksX3_talk_1 5 rfl rfl)
theorem dX3_talk_29 : decode cX3_talk 29 = .ok (.iload_n 2, 1) := dk_28 (dk_at dksX3_talk_1 6 rfl rfl)
theorem dX3_talk_30 : decode cX3_talk 30 = .ok (.ireturn, 1) := dk_172 (dk_at dksX3_talk_1 7 rfl rfl)
abbrev cX3_heard : ByteArray := prog_14_method_77_code
def yX3_heard : MethodName := ⟨RX3, "heard", "(II)I"⟩
def dkwX3_heard_3 : List UInt8 := [167, 0, 4, 29, 46, 172]
abbrev dktX3_heard_3 : List UInt8 := dkwX3_heard_3 ++ []
def dkwX3_heard_2 : List UInt8 := [182, 1, 37, 16, 6, 96, 16, 7, 108, 100, 62, 42, 180, 0, 17, 28, 50, 29, 156, 0, 7, 3]
abbrev dktX3_heard_2 : List UInt8 := dkwX3_heard_2 ++ dktX3_heard_3
def dkwX3_heard_1 : List UInt8 := [159, 0, 13, 42, 27, 28, 182, 1, 37, 2, 160, 0, 5, 2, 172, 42, 180, 1, 30, 42, 27, 28]
abbrev dktX3_heard_1 : List UInt8 := dkwX3_heard_1 ++ dktX3_heard_2
def dkwX3_heard_0 : List UInt8 := [42, 27, 182, 1, 33, 153, 0, 31, 42, 28, 182, 1, 33, 153, 0, 23, 42, 180, 1, 30, 17, 0, 156]
abbrev dktX3_heard_0 : List UInt8 := dkwX3_heard_0 ++ dktX3_heard_1
theorem dksX3_heard_0 : cX3_heard.data.toList.drop 0 = dktX3_heard_0 := by decide +kernel
theorem dksX3_heard_1 : cX3_heard.data.toList.drop 23 = dktX3_heard_1 := dk_seg dksX3_heard_0 23 rfl rfl
theorem dksX3_heard_2 : cX3_heard.data.toList.drop 45 = dktX3_heard_2 := dk_seg dksX3_heard_1 22 rfl rfl
theorem dksX3_heard_3 : cX3_heard.data.toList.drop 67 = dktX3_heard_3 := dk_seg dksX3_heard_2 22 rfl rfl
theorem dX3_heard_0 : decode cX3_heard 0 = .ok (.aload_n 0, 1) := dk_42 (dk_at dksX3_heard_0 0 rfl rfl)
theorem dX3_heard_1 : decode cX3_heard 1 = .ok (.iload_n 1, 1) := dk_27 (dk_at dksX3_heard_0 1 rfl rfl)
theorem dX3_heard_2 : decode cX3_heard 2 = .ok (.invokevirtual 289, 3) := dk_182 1 33 (dk_at dksX3_heard_0 2 rfl rfl)
theorem dX3_heard_5 : decode cX3_heard 5 = .ok (.ifCond .eq 31, 3) := dk_153 0 31 (dk_at dksX3_heard_0 5 rfl rfl)
theorem dX3_heard_8 : decode cX3_heard 8 = .ok (.aload_n 0, 1) := dk_42 (dk_at dksX3_heard_0 8 rfl rfl)
theorem dX3_heard_9 : decode cX3_heard 9 = .ok (.iload_n 2, 1) := dk_28 (dk_at dksX3_heard_0 9 rfl rfl)
theorem dX3_heard_10 : decode cX3_heard 10 = .ok (.invokevirtual 289, 3) := dk_182 1 33 (dk_at dksX3_heard_0 10 rfl rfl)
theorem dX3_heard_13 : decode cX3_heard 13 = .ok (.ifCond .eq 23, 3) := dk_153 0 23 (dk_at dksX3_heard_0 13 rfl rfl)
theorem dX3_heard_16 : decode cX3_heard 16 = .ok (.aload_n 0, 1) := dk_42 (dk_at dksX3_heard_0 16 rfl rfl)
theorem dX3_heard_17 : decode cX3_heard 17 = .ok (.getfield 286, 3) := dk_180 1 30 (dk_at dksX3_heard_0 17 rfl rfl)
theorem dX3_heard_20 : decode cX3_heard 20 = .ok (.sipush 156, 3) := dk_17 0 156 (dk_at dksX3_heard_0 20 rfl rfl)
theorem dX3_heard_23 : decode cX3_heard 23 = .ok (.if_icmp .eq 13, 3) := dk_159 0 13 (dk_at dksX3_heard_1 0 rfl rfl)
theorem dX3_heard_26 : decode cX3_heard 26 = .ok (.aload_n 0, 1) := dk_42 (dk_at dksX3_heard_1 3 rfl rfl)
theorem dX3_heard_27 : decode cX3_heard 27 = .ok (.iload_n 1, 1) := dk_27 (dk_at dksX3_heard_1 4 rfl rfl)
theorem dX3_heard_28 : decode cX3_heard 28 = .ok (.iload_n 2, 1) := dk_28 (dk_at dksX3_heard_1 5 rfl rfl)
theorem dX3_heard_29 : decode cX3_heard 29 = .ok (.invokevirtual 293, 3) := dk_182 1 37 (dk_at dksX3_heard_1 6 rfl rfl)
theorem dX3_heard_32 : decode cX3_heard 32 = .ok (.iconst (-1), 1) := dk_2 (dk_at dksX3_heard_1 9 rfl rfl)
theorem dX3_heard_33 : decode cX3_heard 33 = .ok (.if_icmp .ne 5, 3) := dk_160 0 5 (dk_at dksX3_heard_1 10 rfl rfl)
theorem dX3_heard_36 : decode cX3_heard 36 = .ok (.iconst (-1), 1) := dk_2 (dk_at dksX3_heard_1 13 rfl rfl)
theorem dX3_heard_37 : decode cX3_heard 37 = .ok (.ireturn, 1) := dk_172 (dk_at dksX3_heard_1 14 rfl rfl)
theorem dX3_heard_38 : decode cX3_heard 38 = .ok (.aload_n 0, 1) := dk_42 (dk_at dksX3_heard_1 15 rfl rfl)
theorem dX3_heard_39 : decode cX3_heard 39 = .ok (.getfield 286, 3) := dk_180 1 30 (dk_at dksX3_heard_1 16 rfl rfl)
theorem dX3_heard_42 : decode cX3_heard 42 = .ok (.aload_n 0, 1) := dk_42 (dk_at dksX3_heard_1 19 rfl rfl)
theorem dX3_heard_43 : decode cX3_heard 43 = .ok (.iload_n 1, 1) := dk_27 (dk_at dksX3_heard_1 20 rfl rfl)
theorem dX3_heard_44 : decode cX3_heard 44 = .ok (.iload_n 2, 1) := dk_28 (dk_at dksX3_heard_1 21 rfl rfl)
theorem dX3_heard_45 : decode cX3_heard 45 = .ok (.invokevirtual 293, 3) := dk_182 1 37 (dk_at dksX3_heard_2 0 rfl rfl)
theorem dX3_heard_48 : decode cX3_heard 48 = .ok (.bipush 6, 2) := dk_16 6 (dk_at dksX3_heard_2 3 rfl rfl)
theorem dX3_heard_50 : decode cX3_heard 50 = .ok (.iadd, 1) := dk_96 (dk_at dksX3_heard_2 5 rfl rfl)
theorem dX3_heard_51 : decode cX3_heard 51 = .ok (.bipush 7, 2) := dk_16 7 (dk_at dksX3_heard_2 6 rfl rfl)
theorem dX3_heard_53 : decode cX3_heard 53 = .ok (.idiv, 1) := dk_108 (dk_at dksX3_heard_2 8 rfl rfl)
theorem dX3_heard_54 : decode cX3_heard 54 = .ok (.isub, 1) := dk_100 (dk_at dksX3_heard_2 9 rfl rfl)
theorem dX3_heard_55 : decode cX3_heard 55 = .ok (.istore_n 3, 1) := dk_62 (dk_at dksX3_heard_2 10 rfl rfl)
theorem dX3_heard_56 : decode cX3_heard 56 = .ok (.aload_n 0, 1) := dk_42 (dk_at dksX3_heard_2 11 rfl rfl)
theorem dX3_heard_57 : decode cX3_heard 57 = .ok (.getfield 17, 3) := dk_180 0 17 (dk_at dksX3_heard_2 12 rfl rfl)
theorem dX3_heard_60 : decode cX3_heard 60 = .ok (.iload_n 2, 1) := dk_28 (dk_at dksX3_heard_2 15 rfl rfl)
theorem dX3_heard_61 : decode cX3_heard 61 = .ok (.aaload, 1) := dk_50 (dk_at dksX3_heard_2 16 rfl rfl)
theorem dX3_heard_62 : decode cX3_heard 62 = .ok (.iload_n 3, 1) := dk_29 (dk_at dksX3_heard_2 17 rfl rfl)
theorem dX3_heard_63 : decode cX3_heard 63 = .ok (.ifCond .ge 7, 3) := dk_156 0 7 (dk_at dksX3_heard_2 18 rfl rfl)
theorem dX3_heard_66 : decode cX3_heard 66 = .ok (.iconst 0, 1) := dk_3 (dk_at dksX3_heard_2 21 rfl rfl)
theorem dX3_heard_67 : decode cX3_heard 67 = .ok (.goto 4, 3) := dk_167 0 4 (dk_at dksX3_heard_3 0 rfl rfl)
theorem dX3_heard_70 : decode cX3_heard 70 = .ok (.iload_n 3, 1) := dk_29 (dk_at dksX3_heard_3 3 rfl rfl)
theorem dX3_heard_71 : decode cX3_heard 71 = .ok (.iaload, 1) := dk_46 (dk_at dksX3_heard_3 4 rfl rfl)
theorem dX3_heard_72 : decode cX3_heard 72 = .ok (.ireturn, 1) := dk_172 (dk_at dksX3_heard_3 5 rfl rfl)
abbrev cX3_likes : ByteArray := prog_14_method_80_code
def yX3_likes : MethodName := ⟨RX3, "likes", "(I)I"⟩
def dkwX3_likes_3 : List UInt8 := [153, 0, 5, 4, 172, 42, 27, 182, 2, 25, 153, 0, 7, 3, 167, 0, 4, 2, 172]
abbrev dktX3_likes_3 : List UInt8 := dkwX3_likes_3 ++ []
def dkwX3_likes_2 : List UInt8 := [167, 0, 4, 3, 62, 29, 153, 0, 13, 42, 27, 182, 2, 25, 153, 0, 5, 3, 172, 42, 27, 182, 2, 28]
abbrev dktX3_likes_2 : List UInt8 := dkwX3_likes_2 ++ dktX3_likes_3
def dkwX3_likes_1 : List UInt8 := [180, 0, 39, 28, 46, 42, 28, 182, 2, 22, 96, 42, 180, 0, 42, 28, 46, 96, 163, 0, 7, 4]
abbrev dktX3_likes_1 : List UInt8 := dkwX3_likes_1 ++ dktX3_likes_2
def dkwX3_likes_0 : List UInt8 := [42, 27, 182, 1, 41, 154, 0, 5, 2, 172, 42, 180, 0, 63, 27, 46, 61, 42, 180, 0, 36, 28, 46, 42]
abbrev dktX3_likes_0 : List UInt8 := dkwX3_likes_0 ++ dktX3_likes_1
theorem dksX3_likes_0 : cX3_likes.data.toList.drop 0 = dktX3_likes_0 := by decide +kernel
theorem dksX3_likes_1 : cX3_likes.data.toList.drop 24 = dktX3_likes_1 := dk_seg dksX3_likes_0 24 rfl rfl
theorem dksX3_likes_2 : cX3_likes.data.toList.drop 46 = dktX3_likes_2 := dk_seg dksX3_likes_1 22 rfl rfl
theorem dksX3_likes_3 : cX3_likes.data.toList.drop 70 = dktX3_likes_3 := dk_seg dksX3_likes_2 24 rfl rfl
theorem dX3_likes_0 : decode cX3_likes 0 = .ok (.aload_n 0, 1) := dk_42 (dk_at dksX3_likes_0 0 rfl rfl)
theorem dX3_likes_1 : decode cX3_likes 1 = .ok (.iload_n 1, 1) := dk_27 (dk_at dksX3_likes_0 1 rfl rfl)
theorem dX3_likes_2 : decode cX3_likes 2 = .ok (.invokevirtual 297, 3) := dk_182 1 41 (dk_at dksX3_likes_0 2 rfl rfl)
theorem dX3_likes_5 : decode cX3_likes 5 = .ok (.ifCond .ne 5, 3) := dk_154 0 5 (dk_at dksX3_likes_0 5 rfl rfl)
theorem dX3_likes_8 : decode cX3_likes 8 = .ok (.iconst (-1), 1) := dk_2 (dk_at dksX3_likes_0 8 rfl rfl)
theorem dX3_likes_9 : decode cX3_likes 9 = .ok (.ireturn, 1) := dk_172 (dk_at dksX3_likes_0 9 rfl rfl)
theorem dX3_likes_10 : decode cX3_likes 10 = .ok (.aload_n 0, 1) := dk_42 (dk_at dksX3_likes_0 10 rfl rfl)
theorem dX3_likes_11 : decode cX3_likes 11 = .ok (.getfield 63, 3) := dk_180 0 63 (dk_at dksX3_likes_0 11 rfl rfl)
theorem dX3_likes_14 : decode cX3_likes 14 = .ok (.iload_n 1, 1) := dk_27 (dk_at dksX3_likes_0 14 rfl rfl)
theorem dX3_likes_15 : decode cX3_likes 15 = .ok (.iaload, 1) := dk_46 (dk_at dksX3_likes_0 15 rfl rfl)
theorem dX3_likes_16 : decode cX3_likes 16 = .ok (.istore_n 2, 1) := dk_61 (dk_at dksX3_likes_0 16 rfl rfl)
theorem dX3_likes_17 : decode cX3_likes 17 = .ok (.aload_n 0, 1) := dk_42 (dk_at dksX3_likes_0 17 rfl rfl)
theorem dX3_likes_18 : decode cX3_likes 18 = .ok (.getfield 36, 3) := dk_180 0 36 (dk_at dksX3_likes_0 18 rfl rfl)
theorem dX3_likes_21 : decode cX3_likes 21 = .ok (.iload_n 2, 1) := dk_28 (dk_at dksX3_likes_0 21 rfl rfl)
theorem dX3_likes_22 : decode cX3_likes 22 = .ok (.iaload, 1) := dk_46 (dk_at dksX3_likes_0 22 rfl rfl)
theorem dX3_likes_23 : decode cX3_likes 23 = .ok (.aload_n 0, 1) := dk_42 (dk_at dksX3_likes_0 23 rfl rfl)
theorem dX3_likes_24 : decode cX3_likes 24 = .ok (.getfield 39, 3) := dk_180 0 39 (dk_at dksX3_likes_1 0 rfl rfl)
theorem dX3_likes_27 : decode cX3_likes 27 = .ok (.iload_n 2, 1) := dk_28 (dk_at dksX3_likes_1 3 rfl rfl)
theorem dX3_likes_28 : decode cX3_likes 28 = .ok (.iaload, 1) := dk_46 (dk_at dksX3_likes_1 4 rfl rfl)
theorem dX3_likes_29 : decode cX3_likes 29 = .ok (.aload_n 0, 1) := dk_42 (dk_at dksX3_likes_1 5 rfl rfl)
theorem dX3_likes_30 : decode cX3_likes 30 = .ok (.iload_n 2, 1) := dk_28 (dk_at dksX3_likes_1 6 rfl rfl)
theorem dX3_likes_31 : decode cX3_likes 31 = .ok (.invokevirtual 534, 3) := dk_182 2 22 (dk_at dksX3_likes_1 7 rfl rfl)
theorem dX3_likes_34 : decode cX3_likes 34 = .ok (.iadd, 1) := dk_96 (dk_at dksX3_likes_1 10 rfl rfl)
theorem dX3_likes_35 : decode cX3_likes 35 = .ok (.aload_n 0, 1) := dk_42 (dk_at dksX3_likes_1 11 rfl rfl)
theorem dX3_likes_36 : decode cX3_likes 36 = .ok (.getfield 42, 3) := dk_180 0 42 (dk_at dksX3_likes_1 12 rfl rfl)
theorem dX3_likes_39 : decode cX3_likes 39 = .ok (.iload_n 2, 1) := dk_28 (dk_at dksX3_likes_1 15 rfl rfl)
theorem dX3_likes_40 : decode cX3_likes 40 = .ok (.iaload, 1) := dk_46 (dk_at dksX3_likes_1 16 rfl rfl)
theorem dX3_likes_41 : decode cX3_likes 41 = .ok (.iadd, 1) := dk_96 (dk_at dksX3_likes_1 17 rfl rfl)
theorem dX3_likes_42 : decode cX3_likes 42 = .ok (.if_icmp .gt 7, 3) := dk_163 0 7 (dk_at dksX3_likes_1 18 rfl rfl)
theorem dX3_likes_45 : decode cX3_likes 45 = .ok (.iconst 1, 1) := dk_4 (dk_at dksX3_likes_1 21 rfl rfl)
theorem dX3_likes_46 : decode cX3_likes 46 = .ok (.goto 4, 3) := dk_167 0 4 (dk_at dksX3_likes_2 0 rfl rfl)
theorem dX3_likes_49 : decode cX3_likes 49 = .ok (.iconst 0, 1) := dk_3 (dk_at dksX3_likes_2 3 rfl rfl)
theorem dX3_likes_50 : decode cX3_likes 50 = .ok (.istore_n 3, 1) := dk_62 (dk_at dksX3_likes_2 4 rfl rfl)
theorem dX3_likes_51 : decode cX3_likes 51 = .ok (.iload_n 3, 1) := dk_29 (dk_at dksX3_likes_2 5 rfl rfl)
theorem dX3_likes_52 : decode cX3_likes 52 = .ok (.ifCond .eq 13, 3) := dk_153 0 13 (dk_at dksX3_likes_2 6 rfl rfl)
theorem dX3_likes_55 : decode cX3_likes 55 = .ok (.aload_n 0, 1) := dk_42 (dk_at dksX3_likes_2 9 rfl rfl)
theorem dX3_likes_56 : decode cX3_likes 56 = .ok (.iload_n 1, 1) := dk_27 (dk_at dksX3_likes_2 10 rfl rfl)
theorem dX3_likes_57 : decode cX3_likes 57 = .ok (.invokevirtual 537, 3) := dk_182 2 25 (dk_at dksX3_likes_2 11 rfl rfl)
theorem dX3_likes_60 : decode cX3_likes 60 = .ok (.ifCond .eq 5, 3) := dk_153 0 5 (dk_at dksX3_likes_2 14 rfl rfl)
theorem dX3_likes_63 : decode cX3_likes 63 = .ok (.iconst 0, 1) := dk_3 (dk_at dksX3_likes_2 17 rfl rfl)
theorem dX3_likes_64 : decode cX3_likes 64 = .ok (.ireturn, 1) := dk_172 (dk_at dksX3_likes_2 18 rfl rfl)
theorem dX3_likes_65 : decode cX3_likes 65 = .ok (.aload_n 0, 1) := dk_42 (dk_at dksX3_likes_2 19 rfl rfl)
theorem dX3_likes_66 : decode cX3_likes 66 = .ok (.iload_n 1, 1) := dk_27 (dk_at dksX3_likes_2 20 rfl rfl)
theorem dX3_likes_67 : decode cX3_likes 67 = .ok (.invokevirtual 540, 3) := dk_182 2 28 (dk_at dksX3_likes_2 21 rfl rfl)
theorem dX3_likes_70 : decode cX3_likes 70 = .ok (.ifCond .eq 5, 3) := dk_153 0 5 (dk_at dksX3_likes_3 0 rfl rfl)
theorem dX3_likes_73 : decode cX3_likes 73 = .ok (.iconst 1, 1) := dk_4 (dk_at dksX3_likes_3 3 rfl rfl)
theorem dX3_likes_74 : decode cX3_likes 74 = .ok (.ireturn, 1) := dk_172 (dk_at dksX3_likes_3 4 rfl rfl)
theorem dX3_likes_75 : decode cX3_likes 75 = .ok (.aload_n 0, 1) := dk_42 (dk_at dksX3_likes_3 5 rfl rfl)
theorem dX3_likes_76 : decode cX3_likes 76 = .ok (.iload_n 1, 1) := dk_27 (dk_at dksX3_likes_3 6 rfl rfl)
theorem dX3_likes_77 : decode cX3_likes 77 = .ok (.invokevirtual 537, 3) := dk_182 2 25 (dk_at dksX3_likes_3 7 rfl rfl)
theorem dX3_likes_80 : decode cX3_likes 80 = .ok (.ifCond .eq 7, 3) := dk_153 0 7 (dk_at dksX3_likes_3 10 rfl rfl)
theorem dX3_likes_83 : decode cX3_likes 83 = .ok (.iconst 0, 1) := dk_3 (dk_at dksX3_likes_3 13 rfl rfl)
theorem dX3_likes_84 : decode cX3_likes 84 = .ok (.goto 4, 3) := dk_167 0 4 (dk_at dksX3_likes_3 14 rfl rfl)
theorem dX3_likes_87 : decode cX3_likes 87 = .ok (.iconst (-1), 1) := dk_2 (dk_at dksX3_likes_3 17 rfl rfl)
theorem dX3_likes_88 : decode cX3_likes 88 = .ok (.ireturn, 1) := dk_172 (dk_at dksX3_likes_3 18 rfl rfl)
abbrev cX3_dutyAt : ByteArray := prog_14_method_49_code
def yX3_dutyAt : MethodName := ⟨RX3, "dutyAt", "(I)I"⟩
def dkwX3_dutyAt_1 : List UInt8 := [184, 1, 192, 172]
abbrev dktX3_dutyAt_1 : List UInt8 := dkwX3_dutyAt_1 ++ []
def dkwX3_dutyAt_0 : List UInt8 := [42, 182, 1, 183, 42, 180, 0, 179, 16, 12, 42, 180, 0, 39, 27, 46, 79, 42, 5, 182, 1, 189]
abbrev dktX3_dutyAt_0 : List UInt8 := dkwX3_dutyAt_0 ++ dktX3_dutyAt_1
theorem dksX3_dutyAt_0 : cX3_dutyAt.data.toList.drop 0 = dktX3_dutyAt_0 := by decide +kernel
theorem dksX3_dutyAt_1 : cX3_dutyAt.data.toList.drop 22 = dktX3_dutyAt_1 := dk_seg dksX3_dutyAt_0 22 rfl rfl
theorem dX3_dutyAt_0 : decode cX3_dutyAt 0 = .ok (.aload_n 0, 1) := dk_42 (dk_at dksX3_dutyAt_0 0 rfl rfl)
theorem dX3_dutyAt_1 : decode cX3_dutyAt 1 = .ok (.invokevirtual 439, 3) := dk_182 1 183 (dk_at dksX3_dutyAt_0 1 rfl rfl)
theorem dX3_dutyAt_4 : decode cX3_dutyAt 4 = .ok (.aload_n 0, 1) := dk_42 (dk_at dksX3_dutyAt_0 4 rfl rfl)
theorem dX3_dutyAt_5 : decode cX3_dutyAt 5 = .ok (.getfield 179, 3) := dk_180 0 179 (dk_at dksX3_dutyAt_0 5 rfl rfl)
theorem dX3_dutyAt_8 : decode cX3_dutyAt 8 = .ok (.bipush 12, 2) := dk_16 12 (dk_at dksX3_dutyAt_0 8 rfl rfl)
theorem dX3_dutyAt_10 : decode cX3_dutyAt 10 = .ok (.aload_n 0, 1) := dk_42 (dk_at dksX3_dutyAt_0 10 rfl rfl)
theorem dX3_dutyAt_11 : decode cX3_dutyAt 11 = .ok (.getfield 39, 3) := dk_180 0 39 (dk_at dksX3_dutyAt_0 11 rfl rfl)
theorem dX3_dutyAt_14 : decode cX3_dutyAt 14 = .ok (.iload_n 1, 1) := dk_27 (dk_at dksX3_dutyAt_0 14 rfl rfl)
theorem dX3_dutyAt_15 : decode cX3_dutyAt 15 = .ok (.iaload, 1) := dk_46 (dk_at dksX3_dutyAt_0 15 rfl rfl)
theorem dX3_dutyAt_16 : decode cX3_dutyAt 16 = .ok (.iastore, 1) := dk_79 (dk_at dksX3_dutyAt_0 16 rfl rfl)
theorem dX3_dutyAt_17 : decode cX3_dutyAt 17 = .ok (.aload_n 0, 1) := dk_42 (dk_at dksX3_dutyAt_0 17 rfl rfl)
theorem dX3_dutyAt_18 : decode cX3_dutyAt 18 = .ok (.iconst 2, 1) := dk_5 (dk_at dksX3_dutyAt_0 18 rfl rfl)
theorem dX3_dutyAt_19 : decode cX3_dutyAt 19 = .ok (.invokevirtual 445, 3) := dk_182 1 189 (dk_at dksX3_dutyAt_0 19 rfl rfl)
theorem dX3_dutyAt_22 : decode cX3_dutyAt 22 = .ok (.invokestatic 448, 3) := dk_184 1 192 (dk_at dksX3_dutyAt_1 0 rfl rfl)
theorem dX3_dutyAt_25 : decode cX3_dutyAt 25 = .ok (.ireturn, 1) := dk_172 (dk_at dksX3_dutyAt_1 3 rfl rfl)
abbrev cX3_canHand : ByteArray := prog_14_method_78_code
def yX3_canHand : MethodName := ⟨RX3, "canHand", "(I)Z"⟩
def dkwX3_canHand_1 : List UInt8 := [180, 0, 78, 27, 46, 42, 180, 0, 36, 28, 46, 161, 0, 7, 4, 167, 0, 4, 3, 172]
abbrev dktX3_canHand_1 : List UInt8 := dkwX3_canHand_1 ++ []
def dkwX3_canHand_0 : List UInt8 := [42, 180, 0, 63, 27, 46, 61, 42, 180, 0, 27, 28, 46, 42, 180, 0, 30, 28, 46, 96, 158, 0, 22, 42]
abbrev dktX3_canHand_0 : List UInt8 := dkwX3_canHand_0 ++ dktX3_canHand_1
theorem dksX3_canHand_0 : cX3_canHand.data.toList.drop 0 = dktX3_canHand_0 := by decide +kernel
theorem dksX3_canHand_1 : cX3_canHand.data.toList.drop 24 = dktX3_canHand_1 := dk_seg dksX3_canHand_0 24 rfl rfl
theorem dX3_canHand_0 : decode cX3_canHand 0 = .ok (.aload_n 0, 1) := dk_42 (dk_at dksX3_canHand_0 0 rfl rfl)
theorem dX3_canHand_1 : decode cX3_canHand 1 = .ok (.getfield 63, 3) := dk_180 0 63 (dk_at dksX3_canHand_0 1 rfl rfl)
theorem dX3_canHand_4 : decode cX3_canHand 4 = .ok (.iload_n 1, 1) := dk_27 (dk_at dksX3_canHand_0 4 rfl rfl)
theorem dX3_canHand_5 : decode cX3_canHand 5 = .ok (.iaload, 1) := dk_46 (dk_at dksX3_canHand_0 5 rfl rfl)
theorem dX3_canHand_6 : decode cX3_canHand 6 = .ok (.istore_n 2, 1) := dk_61 (dk_at dksX3_canHand_0 6 rfl rfl)
theorem dX3_canHand_7 : decode cX3_canHand 7 = .ok (.aload_n 0, 1) := dk_42 (dk_at dksX3_canHand_0 7 rfl rfl)
theorem dX3_canHand_8 : decode cX3_canHand 8 = .ok (.getfield 27, 3) := dk_180 0 27 (dk_at dksX3_canHand_0 8 rfl rfl)
theorem dX3_canHand_11 : decode cX3_canHand 11 = .ok (.iload_n 2, 1) := dk_28 (dk_at dksX3_canHand_0 11 rfl rfl)
theorem dX3_canHand_12 : decode cX3_canHand 12 = .ok (.iaload, 1) := dk_46 (dk_at dksX3_canHand_0 12 rfl rfl)
theorem dX3_canHand_13 : decode cX3_canHand 13 = .ok (.aload_n 0, 1) := dk_42 (dk_at dksX3_canHand_0 13 rfl rfl)
theorem dX3_canHand_14 : decode cX3_canHand 14 = .ok (.getfield 30, 3) := dk_180 0 30 (dk_at dksX3_canHand_0 14 rfl rfl)
theorem dX3_canHand_17 : decode cX3_canHand 17 = .ok (.iload_n 2, 1) := dk_28 (dk_at dksX3_canHand_0 17 rfl rfl)
theorem dX3_canHand_18 : decode cX3_canHand 18 = .ok (.iaload, 1) := dk_46 (dk_at dksX3_canHand_0 18 rfl rfl)
theorem dX3_canHand_19 : decode cX3_canHand 19 = .ok (.iadd, 1) := dk_96 (dk_at dksX3_canHand_0 19 rfl rfl)
theorem dX3_canHand_20 : decode cX3_canHand 20 = .ok (.ifCond .le 22, 3) := dk_158 0 22 (dk_at dksX3_canHand_0 20 rfl rfl)
theorem dX3_canHand_23 : decode cX3_canHand 23 = .ok (.aload_n 0, 1) := dk_42 (dk_at dksX3_canHand_0 23 rfl rfl)
theorem dX3_canHand_24 : decode cX3_canHand 24 = .ok (.getfield 78, 3) := dk_180 0 78 (dk_at dksX3_canHand_1 0 rfl rfl)
theorem dX3_canHand_27 : decode cX3_canHand 27 = .ok (.iload_n 1, 1) := dk_27 (dk_at dksX3_canHand_1 3 rfl rfl)
theorem dX3_canHand_28 : decode cX3_canHand 28 = .ok (.iaload, 1) := dk_46 (dk_at dksX3_canHand_1 4 rfl rfl)
theorem dX3_canHand_29 : decode cX3_canHand 29 = .ok (.aload_n 0, 1) := dk_42 (dk_at dksX3_canHand_1 5 rfl rfl)
theorem dX3_canHand_30 : decode cX3_canHand 30 = .ok (.getfield 36, 3) := dk_180 0 36 (dk_at dksX3_canHand_1 6 rfl rfl)
theorem dX3_canHand_33 : decode cX3_canHand 33 = .ok (.iload_n 2, 1) := dk_28 (dk_at dksX3_canHand_1 9 rfl rfl)
theorem dX3_canHand_34 : decode cX3_canHand 34 = .ok (.iaload, 1) := dk_46 (dk_at dksX3_canHand_1 10 rfl rfl)
theorem dX3_canHand_35 : decode cX3_canHand 35 = .ok (.if_icmp .lt 7, 3) := dk_161 0 7 (dk_at dksX3_canHand_1 11 rfl rfl)
theorem dX3_canHand_38 : decode cX3_canHand 38 = .ok (.iconst 1, 1) := dk_4 (dk_at dksX3_canHand_1 14 rfl rfl)
theorem dX3_canHand_39 : decode cX3_canHand 39 = .ok (.goto 4, 3) := dk_167 0 4 (dk_at dksX3_canHand_1 15 rfl rfl)
theorem dX3_canHand_42 : decode cX3_canHand 42 = .ok (.iconst 0, 1) := dk_3 (dk_at dksX3_canHand_1 18 rfl rfl)
theorem dX3_canHand_43 : decode cX3_canHand 43 = .ok (.ireturn, 1) := dk_172 (dk_at dksX3_canHand_1 19 rfl rfl)
abbrev cX3_canMill : ByteArray := prog_14_method_79_code
def yX3_canMill : MethodName := ⟨RX3, "canMill", "(I)Z"⟩
def dkwX3_canMill_1 : List UInt8 := [180, 0, 39, 28, 46, 42, 28, 182, 2, 22, 96, 161, 0, 7, 4, 167, 0, 4, 3, 172]
abbrev dktX3_canMill_1 : List UInt8 := dkwX3_canMill_1 ++ []
def dkwX3_canMill_0 : List UInt8 := [42, 180, 0, 63, 27, 46, 61, 42, 180, 0, 33, 28, 46, 158, 0, 28, 42, 180, 0, 78, 27, 46, 42]
abbrev dktX3_canMill_0 : List UInt8 := dkwX3_canMill_0 ++ dktX3_canMill_1
theorem dksX3_canMill_0 : cX3_canMill.data.toList.drop 0 = dktX3_canMill_0 := by decide +kernel
theorem dksX3_canMill_1 : cX3_canMill.data.toList.drop 23 = dktX3_canMill_1 := dk_seg dksX3_canMill_0 23 rfl rfl
theorem dX3_canMill_0 : decode cX3_canMill 0 = .ok (.aload_n 0, 1) := dk_42 (dk_at dksX3_canMill_0 0 rfl rfl)
theorem dX3_canMill_1 : decode cX3_canMill 1 = .ok (.getfield 63, 3) := dk_180 0 63 (dk_at dksX3_canMill_0 1 rfl rfl)
theorem dX3_canMill_4 : decode cX3_canMill 4 = .ok (.iload_n 1, 1) := dk_27 (dk_at dksX3_canMill_0 4 rfl rfl)
theorem dX3_canMill_5 : decode cX3_canMill 5 = .ok (.iaload, 1) := dk_46 (dk_at dksX3_canMill_0 5 rfl rfl)
theorem dX3_canMill_6 : decode cX3_canMill 6 = .ok (.istore_n 2, 1) := dk_61 (dk_at dksX3_canMill_0 6 rfl rfl)
theorem dX3_canMill_7 : decode cX3_canMill 7 = .ok (.aload_n 0, 1) := dk_42 (dk_at dksX3_canMill_0 7 rfl rfl)
theorem dX3_canMill_8 : decode cX3_canMill 8 = .ok (.getfield 33, 3) := dk_180 0 33 (dk_at dksX3_canMill_0 8 rfl rfl)
theorem dX3_canMill_11 : decode cX3_canMill 11 = .ok (.iload_n 2, 1) := dk_28 (dk_at dksX3_canMill_0 11 rfl rfl)
theorem dX3_canMill_12 : decode cX3_canMill 12 = .ok (.iaload, 1) := dk_46 (dk_at dksX3_canMill_0 12 rfl rfl)
theorem dX3_canMill_13 : decode cX3_canMill 13 = .ok (.ifCond .le 28, 3) := dk_158 0 28 (dk_at dksX3_canMill_0 13 rfl rfl)
theorem dX3_canMill_16 : decode cX3_canMill 16 = .ok (.aload_n 0, 1) := dk_42 (dk_at dksX3_canMill_0 16 rfl rfl)
theorem dX3_canMill_17 : decode cX3_canMill 17 = .ok (.getfield 78, 3) := dk_180 0 78 (dk_at dksX3_canMill_0 17 rfl rfl)
theorem dX3_canMill_20 : decode cX3_canMill 20 = .ok (.iload_n 1, 1) := dk_27 (dk_at dksX3_canMill_0 20 rfl rfl)
theorem dX3_canMill_21 : decode cX3_canMill 21 = .ok (.iaload, 1) := dk_46 (dk_at dksX3_canMill_0 21 rfl rfl)
theorem dX3_canMill_22 : decode cX3_canMill 22 = .ok (.aload_n 0, 1) := dk_42 (dk_at dksX3_canMill_0 22 rfl rfl)
theorem dX3_canMill_23 : decode cX3_canMill 23 = .ok (.getfield 39, 3) := dk_180 0 39 (dk_at dksX3_canMill_1 0 rfl rfl)
theorem dX3_canMill_26 : decode cX3_canMill 26 = .ok (.iload_n 2, 1) := dk_28 (dk_at dksX3_canMill_1 3 rfl rfl)
theorem dX3_canMill_27 : decode cX3_canMill 27 = .ok (.iaload, 1) := dk_46 (dk_at dksX3_canMill_1 4 rfl rfl)
theorem dX3_canMill_28 : decode cX3_canMill 28 = .ok (.aload_n 0, 1) := dk_42 (dk_at dksX3_canMill_1 5 rfl rfl)
theorem dX3_canMill_29 : decode cX3_canMill 29 = .ok (.iload_n 2, 1) := dk_28 (dk_at dksX3_canMill_1 6 rfl rfl)
theorem dX3_canMill_30 : decode cX3_canMill 30 = .ok (.invokevirtual 534, 3) := dk_182 2 22 (dk_at dksX3_canMill_1 7 rfl rfl)
theorem dX3_canMill_33 : decode cX3_canMill 33 = .ok (.iadd, 1) := dk_96 (dk_at dksX3_canMill_1 10 rfl rfl)
theorem dX3_canMill_34 : decode cX3_canMill 34 = .ok (.if_icmp .lt 7, 3) := dk_161 0 7 (dk_at dksX3_canMill_1 11 rfl rfl)
theorem dX3_canMill_37 : decode cX3_canMill 37 = .ok (.iconst 1, 1) := dk_4 (dk_at dksX3_canMill_1 14 rfl rfl)
theorem dX3_canMill_38 : decode cX3_canMill 38 = .ok (.goto 4, 3) := dk_167 0 4 (dk_at dksX3_canMill_1 15 rfl rfl)
theorem dX3_canMill_41 : decode cX3_canMill 41 = .ok (.iconst 0, 1) := dk_3 (dk_at dksX3_canMill_1 18 rfl rfl)
theorem dX3_canMill_42 : decode cX3_canMill 42 = .ok (.ireturn, 1) := dk_172 (dk_at dksX3_canMill_1 19 rfl rfl)
abbrev cX3_sold : ByteArray := prog_14_method_82_code
def yX3_sold : MethodName := ⟨RX3, "sold", "(II)I"⟩
def dkwX3_sold_2 : List UInt8 := [180, 0, 48, 27, 46, 172]
abbrev dktX3_sold_2 : List UInt8 := dkwX3_sold_2 ++ []
def dkwX3_sold_1 : List UInt8 := [27, 46, 28, 96, 17, 39, 15, 164, 0, 5, 2, 172, 42, 180, 0, 48, 27, 92, 46, 28, 96, 79, 42]
abbrev dktX3_sold_1 : List UInt8 := dkwX3_sold_1 ++ dktX3_sold_2
def dkwX3_sold_0 : List UInt8 := [42, 27, 182, 1, 33, 153, 0, 29, 28, 133, 10, 20, 1, 56, 184, 1, 18, 153, 0, 17, 42, 180, 0, 48]
abbrev dktX3_sold_0 : List UInt8 := dkwX3_sold_0 ++ dktX3_sold_1
theorem dksX3_sold_0 : cX3_sold.data.toList.drop 0 = dktX3_sold_0 := by decide +kernel
theorem dksX3_sold_1 : cX3_sold.data.toList.drop 24 = dktX3_sold_1 := dk_seg dksX3_sold_0 24 rfl rfl
theorem dksX3_sold_2 : cX3_sold.data.toList.drop 47 = dktX3_sold_2 := dk_seg dksX3_sold_1 23 rfl rfl
theorem dX3_sold_0 : decode cX3_sold 0 = .ok (.aload_n 0, 1) := dk_42 (dk_at dksX3_sold_0 0 rfl rfl)
theorem dX3_sold_1 : decode cX3_sold 1 = .ok (.iload_n 1, 1) := dk_27 (dk_at dksX3_sold_0 1 rfl rfl)
theorem dX3_sold_2 : decode cX3_sold 2 = .ok (.invokevirtual 289, 3) := dk_182 1 33 (dk_at dksX3_sold_0 2 rfl rfl)
theorem dX3_sold_5 : decode cX3_sold 5 = .ok (.ifCond .eq 29, 3) := dk_153 0 29 (dk_at dksX3_sold_0 5 rfl rfl)
theorem dX3_sold_8 : decode cX3_sold 8 = .ok (.iload_n 2, 1) := dk_28 (dk_at dksX3_sold_0 8 rfl rfl)
theorem dX3_sold_9 : decode cX3_sold 9 = .ok (.i2l, 1) := dk_133 (dk_at dksX3_sold_0 9 rfl rfl)
theorem dX3_sold_10 : decode cX3_sold 10 = .ok (.lconst 1, 1) := dk_10 (dk_at dksX3_sold_0 10 rfl rfl)
theorem dX3_sold_11 : decode cX3_sold 11 = .ok (.ldc2_w 312, 3) := dk_20 1 56 (dk_at dksX3_sold_0 11 rfl rfl)
theorem dX3_sold_14 : decode cX3_sold 14 = .ok (.invokestatic 274, 3) := dk_184 1 18 (dk_at dksX3_sold_0 14 rfl rfl)
theorem dX3_sold_17 : decode cX3_sold 17 = .ok (.ifCond .eq 17, 3) := dk_153 0 17 (dk_at dksX3_sold_0 17 rfl rfl)
theorem dX3_sold_20 : decode cX3_sold 20 = .ok (.aload_n 0, 1) := dk_42 (dk_at dksX3_sold_0 20 rfl rfl)
theorem dX3_sold_21 : decode cX3_sold 21 = .ok (.getfield 48, 3) := dk_180 0 48 (dk_at dksX3_sold_0 21 rfl rfl)
theorem dX3_sold_24 : decode cX3_sold 24 = .ok (.iload_n 1, 1) := dk_27 (dk_at dksX3_sold_1 0 rfl rfl)
theorem dX3_sold_25 : decode cX3_sold 25 = .ok (.iaload, 1) := dk_46 (dk_at dksX3_sold_1 1 rfl rfl)
theorem dX3_sold_26 : decode cX3_sold 26 = .ok (.iload_n 2, 1) := dk_28 (dk_at dksX3_sold_1 2 rfl rfl)
theorem dX3_sold_27 : decode cX3_sold 27 = .ok (.iadd, 1) := dk_96 (dk_at dksX3_sold_1 3 rfl rfl)
theorem dX3_sold_28 : decode cX3_sold 28 = .ok (.sipush 9999, 3) := dk_17 39 15 (dk_at dksX3_sold_1 4 rfl rfl)
theorem dX3_sold_31 : decode cX3_sold 31 = .ok (.if_icmp .le 5, 3) := dk_164 0 5 (dk_at dksX3_sold_1 7 rfl rfl)
theorem dX3_sold_34 : decode cX3_sold 34 = .ok (.iconst (-1), 1) := dk_2 (dk_at dksX3_sold_1 10 rfl rfl)
theorem dX3_sold_35 : decode cX3_sold 35 = .ok (.ireturn, 1) := dk_172 (dk_at dksX3_sold_1 11 rfl rfl)
theorem dX3_sold_36 : decode cX3_sold 36 = .ok (.aload_n 0, 1) := dk_42 (dk_at dksX3_sold_1 12 rfl rfl)
theorem dX3_sold_37 : decode cX3_sold 37 = .ok (.getfield 48, 3) := dk_180 0 48 (dk_at dksX3_sold_1 13 rfl rfl)
theorem dX3_sold_40 : decode cX3_sold 40 = .ok (.iload_n 1, 1) := dk_27 (dk_at dksX3_sold_1 16 rfl rfl)
theorem dX3_sold_41 : decode cX3_sold 41 = .ok (.dup2, 1) := dk_92 (dk_at dksX3_sold_1 17 rfl rfl)
theorem dX3_sold_42 : decode cX3_sold 42 = .ok (.iaload, 1) := dk_46 (dk_at dksX3_sold_1 18 rfl rfl)
theorem dX3_sold_43 : decode cX3_sold 43 = .ok (.iload_n 2, 1) := dk_28 (dk_at dksX3_sold_1 19 rfl rfl)
theorem dX3_sold_44 : decode cX3_sold 44 = .ok (.iadd, 1) := dk_96 (dk_at dksX3_sold_1 20 rfl rfl)
theorem dX3_sold_45 : decode cX3_sold 45 = .ok (.iastore, 1) := dk_79 (dk_at dksX3_sold_1 21 rfl rfl)
theorem dX3_sold_46 : decode cX3_sold 46 = .ok (.aload_n 0, 1) := dk_42 (dk_at dksX3_sold_1 22 rfl rfl)
theorem dX3_sold_47 : decode cX3_sold 47 = .ok (.getfield 48, 3) := dk_180 0 48 (dk_at dksX3_sold_2 0 rfl rfl)
theorem dX3_sold_50 : decode cX3_sold 50 = .ok (.iload_n 1, 1) := dk_27 (dk_at dksX3_sold_2 3 rfl rfl)
theorem dX3_sold_51 : decode cX3_sold 51 = .ok (.iaload, 1) := dk_46 (dk_at dksX3_sold_2 4 rfl rfl)
theorem dX3_sold_52 : decode cX3_sold 52 = .ok (.ireturn, 1) := dk_172 (dk_at dksX3_sold_2 5 rfl rfl)
abbrev cX3_wrong : ByteArray := prog_14_method_84_code
def yX3_wrong : MethodName := ⟨RX3, "wrong", "(IZ)I"⟩
def dkwX3_wrong_0 : List UInt8 := [42, 27, 182, 1, 33, 153, 0, 12, 42, 27, 28, 182, 2, 37, 167, 0, 4, 2, 172]
abbrev dktX3_wrong_0 : List UInt8 := dkwX3_wrong_0 ++ []
theorem dksX3_wrong_0 : cX3_wrong.data.toList.drop 0 = dktX3_wrong_0 := by decide +kernel
theorem dX3_wrong_0 : decode cX3_wrong 0 = .ok (.aload_n 0, 1) := dk_42 (dk_at dksX3_wrong_0 0 rfl rfl)
theorem dX3_wrong_1 : decode cX3_wrong 1 = .ok (.iload_n 1, 1) := dk_27 (dk_at dksX3_wrong_0 1 rfl rfl)
theorem dX3_wrong_2 : decode cX3_wrong 2 = .ok (.invokevirtual 289, 3) := dk_182 1 33 (dk_at dksX3_wrong_0 2 rfl rfl)
theorem dX3_wrong_5 : decode cX3_wrong 5 = .ok (.ifCond .eq 12, 3) := dk_153 0 12 (dk_at dksX3_wrong_0 5 rfl rfl)
theorem dX3_wrong_8 : decode cX3_wrong 8 = .ok (.aload_n 0, 1) := dk_42 (dk_at dksX3_wrong_0 8 rfl rfl)
theorem dX3_wrong_9 : decode cX3_wrong 9 = .ok (.iload_n 1, 1) := dk_27 (dk_at dksX3_wrong_0 9 rfl rfl)
theorem dX3_wrong_10 : decode cX3_wrong 10 = .ok (.iload_n 2, 1) := dk_28 (dk_at dksX3_wrong_0 10 rfl rfl)
theorem dX3_wrong_11 : decode cX3_wrong 11 = .ok (.invokevirtual 549, 3) := dk_182 2 37 (dk_at dksX3_wrong_0 11 rfl rfl)
theorem dX3_wrong_14 : decode cX3_wrong 14 = .ok (.goto 4, 3) := dk_167 0 4 (dk_at dksX3_wrong_0 14 rfl rfl)
theorem dX3_wrong_17 : decode cX3_wrong 17 = .ok (.iconst (-1), 1) := dk_2 (dk_at dksX3_wrong_0 17 rfl rfl)
theorem dX3_wrong_18 : decode cX3_wrong 18 = .ok (.ireturn, 1) := dk_172 (dk_at dksX3_wrong_0 18 rfl rfl)
abbrev cX3_falseOf : ByteArray := prog_14_method_83_code
def yX3_falseOf : MethodName := ⟨RX3, "falseOf", "(IZ)I"⟩
def dkwX3_falseOf_1 : List UInt8 := [46, 100, 184, 1, 192, 172]
abbrev dktX3_falseOf_1 : List UInt8 := dkwX3_falseOf_1 ++ []
def dkwX3_falseOf_0 : List UInt8 := [42, 180, 0, 48, 27, 46, 28, 153, 0, 12, 42, 180, 0, 54, 27, 46, 167, 0, 9, 42, 180, 0, 51, 27]
abbrev dktX3_falseOf_0 : List UInt8 := dkwX3_falseOf_0 ++ dktX3_falseOf_1
theorem dksX3_falseOf_0 : cX3_falseOf.data.toList.drop 0 = dktX3_falseOf_0 := by decide +kernel
theorem dksX3_falseOf_1 : cX3_falseOf.data.toList.drop 24 = dktX3_falseOf_1 := dk_seg dksX3_falseOf_0 24 rfl rfl
theorem dX3_falseOf_0 : decode cX3_falseOf 0 = .ok (.aload_n 0, 1) := dk_42 (dk_at dksX3_falseOf_0 0 rfl rfl)
theorem dX3_falseOf_1 : decode cX3_falseOf 1 = .ok (.getfield 48, 3) := dk_180 0 48 (dk_at dksX3_falseOf_0 1 rfl rfl)
theorem dX3_falseOf_4 : decode cX3_falseOf 4 = .ok (.iload_n 1, 1) := dk_27 (dk_at dksX3_falseOf_0 4 rfl rfl)
theorem dX3_falseOf_5 : decode cX3_falseOf 5 = .ok (.iaload, 1) := dk_46 (dk_at dksX3_falseOf_0 5 rfl rfl)
theorem dX3_falseOf_6 : decode cX3_falseOf 6 = .ok (.iload_n 2, 1) := dk_28 (dk_at dksX3_falseOf_0 6 rfl rfl)
theorem dX3_falseOf_7 : decode cX3_falseOf 7 = .ok (.ifCond .eq 12, 3) := dk_153 0 12 (dk_at dksX3_falseOf_0 7 rfl rfl)
theorem dX3_falseOf_10 : decode cX3_falseOf 10 = .ok (.aload_n 0, 1) := dk_42 (dk_at dksX3_falseOf_0 10 rfl rfl)
theorem dX3_falseOf_11 : decode cX3_falseOf 11 = .ok (.getfield 54, 3) := dk_180 0 54 (dk_at dksX3_falseOf_0 11 rfl rfl)
theorem dX3_falseOf_14 : decode cX3_falseOf 14 = .ok (.iload_n 1, 1) := dk_27 (dk_at dksX3_falseOf_0 14 rfl rfl)
theorem dX3_falseOf_15 : decode cX3_falseOf 15 = .ok (.iaload, 1) := dk_46 (dk_at dksX3_falseOf_0 15 rfl rfl)
theorem dX3_falseOf_16 : decode cX3_falseOf 16 = .ok (.goto 9, 3) := dk_167 0 9 (dk_at dksX3_falseOf_0 16 rfl rfl)
theorem dX3_falseOf_19 : decode cX3_falseOf 19 = .ok (.aload_n 0, 1) := dk_42 (dk_at dksX3_falseOf_0 19 rfl rfl)
theorem dX3_falseOf_20 : decode cX3_falseOf 20 = .ok (.getfield 51, 3) := dk_180 0 51 (dk_at dksX3_falseOf_0 20 rfl rfl)
theorem dX3_falseOf_23 : decode cX3_falseOf 23 = .ok (.iload_n 1, 1) := dk_27 (dk_at dksX3_falseOf_0 23 rfl rfl)
theorem dX3_falseOf_24 : decode cX3_falseOf 24 = .ok (.iaload, 1) := dk_46 (dk_at dksX3_falseOf_1 0 rfl rfl)
theorem dX3_falseOf_25 : decode cX3_falseOf 25 = .ok (.isub, 1) := dk_100 (dk_at dksX3_falseOf_1 1 rfl rfl)
theorem dX3_falseOf_26 : decode cX3_falseOf 26 = .ok (.invokestatic 448, 3) := dk_184 1 192 (dk_at dksX3_falseOf_1 2 rfl rfl)
theorem dX3_falseOf_29 : decode cX3_falseOf 29 = .ok (.ireturn, 1) := dk_172 (dk_at dksX3_falseOf_1 5 rfl rfl)
abbrev cX3_look : ByteArray := prog_14_method_85_code
def yX3_look : MethodName := ⟨RX3, "look", "()I"⟩
def dkwX3_look_2 : List UInt8 := [167, 255, 216, 27, 172]
abbrev dktX3_look_2 : List UInt8 := dkwX3_look_2 ++ []
def dkwX3_look_1 : List UInt8 := [182, 2, 37, 100, 54, 4, 21, 4, 28, 163, 0, 6, 167, 0, 8, 21, 4, 61, 29, 60, 132, 3, 1]
abbrev dktX3_look_1 : List UInt8 := dkwX3_look_1 ++ dktX3_look_2
def dkwX3_look_0 : List UInt8 := [2, 60, 3, 61, 3, 62, 29, 42, 180, 1, 14, 162, 0, 38, 42, 29, 4, 182, 2, 37, 42, 29, 3]
abbrev dktX3_look_0 : List UInt8 := dkwX3_look_0 ++ dktX3_look_1
theorem dksX3_look_0 : cX3_look.data.toList.drop 0 = dktX3_look_0 := by decide +kernel
theorem dksX3_look_1 : cX3_look.data.toList.drop 23 = dktX3_look_1 := dk_seg dksX3_look_0 23 rfl rfl
theorem dksX3_look_2 : cX3_look.data.toList.drop 46 = dktX3_look_2 := dk_seg dksX3_look_1 23 rfl rfl
theorem dX3_look_0 : decode cX3_look 0 = .ok (.iconst (-1), 1) := dk_2 (dk_at dksX3_look_0 0 rfl rfl)
theorem dX3_look_1 : decode cX3_look 1 = .ok (.istore_n 1, 1) := dk_60 (dk_at dksX3_look_0 1 rfl rfl)
theorem dX3_look_2 : decode cX3_look 2 = .ok (.iconst 0, 1) := dk_3 (dk_at dksX3_look_0 2 rfl rfl)
theorem dX3_look_3 : decode cX3_look 3 = .ok (.istore_n 2, 1) := dk_61 (dk_at dksX3_look_0 3 rfl rfl)
theorem dX3_look_4 : decode cX3_look 4 = .ok (.iconst 0, 1) := dk_3 (dk_at dksX3_look_0 4 rfl rfl)
theorem dX3_look_5 : decode cX3_look 5 = .ok (.istore_n 3, 1) := dk_62 (dk_at dksX3_look_0 5 rfl rfl)
theorem dX3_look_6 : decode cX3_look 6 = .ok (.iload_n 3, 1) := dk_29 (dk_at dksX3_look_0 6 rfl rfl)
theorem dX3_look_7 : decode cX3_look 7 = .ok (.aload_n 0, 1) := dk_42 (dk_at dksX3_look_0 7 rfl rfl)
theorem dX3_look_8 : decode cX3_look 8 = .ok (.getfield 270, 3) := dk_180 1 14 (dk_at dksX3_look_0 8 rfl rfl)
theorem dX3_look_11 : decode cX3_look 11 = .ok (.if_icmp .ge 38, 3) := dk_162 0 38 (dk_at dksX3_look_0 11 rfl rfl)
theorem dX3_look_14 : decode cX3_look 14 = .ok (.aload_n 0, 1) := dk_42 (dk_at dksX3_look_0 14 rfl rfl)
theorem dX3_look_15 : decode cX3_look 15 = .ok (.iload_n 3, 1) := dk_29 (dk_at dksX3_look_0 15 rfl rfl)
theorem dX3_look_16 : decode cX3_look 16 = .ok (.iconst 1, 1) := dk_4 (dk_at dksX3_look_0 16 rfl rfl)
theorem dX3_look_17 : decode cX3_look 17 = .ok (.invokevirtual 549, 3) := dk_182 2 37 (dk_at dksX3_look_0 17 rfl rfl)
theorem dX3_look_20 : decode cX3_look 20 = .ok (.aload_n 0, 1) := dk_42 (dk_at dksX3_look_0 20 rfl rfl)
theorem dX3_look_21 : decode cX3_look 21 = .ok (.iload_n 3, 1) := dk_29 (dk_at dksX3_look_0 21 rfl rfl)
theorem dX3_look_22 : decode cX3_look 22 = .ok (.iconst 0, 1) := dk_3 (dk_at dksX3_look_0 22 rfl rfl)
theorem dX3_look_23 : decode cX3_look 23 = .ok (.invokevirtual 549, 3) := dk_182 2 37 (dk_at dksX3_look_1 0 rfl rfl)
theorem dX3_look_26 : decode cX3_look 26 = .ok (.isub, 1) := dk_100 (dk_at dksX3_look_1 3 rfl rfl)
theorem dX3_look_27 : decode cX3_look 27 = .ok (.istore 4, 2) := dk_54 4 (dk_at dksX3_look_1 4 rfl rfl)
theorem dX3_look_29 : decode cX3_look 29 = .ok (.iload 4, 2) := dk_21 4 (dk_at dksX3_look_1 6 rfl rfl)
theorem dX3_look_31 : decode cX3_look 31 = .ok (.iload_n 2, 1) := dk_28 (dk_at dksX3_look_1 8 rfl rfl)
theorem dX3_look_32 : decode cX3_look 32 = .ok (.if_icmp .gt 6, 3) := dk_163 0 6 (dk_at dksX3_look_1 9 rfl rfl)
theorem dX3_look_35 : decode cX3_look 35 = .ok (.goto 8, 3) := dk_167 0 8 (dk_at dksX3_look_1 12 rfl rfl)
theorem dX3_look_38 : decode cX3_look 38 = .ok (.iload 4, 2) := dk_21 4 (dk_at dksX3_look_1 15 rfl rfl)
theorem dX3_look_40 : decode cX3_look 40 = .ok (.istore_n 2, 1) := dk_61 (dk_at dksX3_look_1 17 rfl rfl)
theorem dX3_look_41 : decode cX3_look 41 = .ok (.iload_n 3, 1) := dk_29 (dk_at dksX3_look_1 18 rfl rfl)
theorem dX3_look_42 : decode cX3_look 42 = .ok (.istore_n 1, 1) := dk_60 (dk_at dksX3_look_1 19 rfl rfl)
theorem dX3_look_43 : decode cX3_look 43 = .ok (.iinc 3 1, 3) := dk_132 3 1 (dk_at dksX3_look_1 20 rfl rfl)
theorem dX3_look_46 : decode cX3_look 46 = .ok (.goto (-40), 3) := dk_167 255 216 (dk_at dksX3_look_2 0 rfl rfl)
theorem dX3_look_49 : decode cX3_look 49 = .ok (.iload_n 1, 1) := dk_27 (dk_at dksX3_look_2 3 rfl rfl)
theorem dX3_look_50 : decode cX3_look 50 = .ok (.ireturn, 1) := dk_172 (dk_at dksX3_look_2 4 rfl rfl)
abbrev cX3_go : ByteArray := prog_14_method_89_code
def yX3_go : MethodName := ⟨RX3, "go", "(I)I"⟩
def dkwX3_go_1 : List UInt8 := [180, 1, 30, 17, 0, 156, 162, 0, 13, 42, 182, 2, 55, 132, 2, 1, 167, 255, 234, 42, 180, 1, 30, 172]
abbrev dktX3_go_1 : List UInt8 := dkwX3_go_1 ++ []
def dkwX3_go_0 : List UInt8 := [27, 133, 9, 20, 2, 53, 184, 1, 18, 154, 0, 5, 2, 172, 3, 61, 28, 27, 162, 0, 23, 42]
abbrev dktX3_go_0 : List UInt8 := dkwX3_go_0 ++ dktX3_go_1
theorem dksX3_go_0 : cX3_go.data.toList.drop 0 = dktX3_go_0 := by decide +kernel
theorem dksX3_go_1 : cX3_go.data.toList.drop 22 = dktX3_go_1 := dk_seg dksX3_go_0 22 rfl rfl
theorem dX3_go_0 : decode cX3_go 0 = .ok (.iload_n 1, 1) := dk_27 (dk_at dksX3_go_0 0 rfl rfl)
theorem dX3_go_1 : decode cX3_go 1 = .ok (.i2l, 1) := dk_133 (dk_at dksX3_go_0 1 rfl rfl)
theorem dX3_go_2 : decode cX3_go 2 = .ok (.lconst 0, 1) := dk_9 (dk_at dksX3_go_0 2 rfl rfl)
theorem dX3_go_3 : decode cX3_go 3 = .ok (.ldc2_w 565, 3) := dk_20 2 53 (dk_at dksX3_go_0 3 rfl rfl)
theorem dX3_go_6 : decode cX3_go 6 = .ok (.invokestatic 274, 3) := dk_184 1 18 (dk_at dksX3_go_0 6 rfl rfl)
theorem dX3_go_9 : decode cX3_go 9 = .ok (.ifCond .ne 5, 3) := dk_154 0 5 (dk_at dksX3_go_0 9 rfl rfl)
theorem dX3_go_12 : decode cX3_go 12 = .ok (.iconst (-1), 1) := dk_2 (dk_at dksX3_go_0 12 rfl rfl)
theorem dX3_go_13 : decode cX3_go 13 = .ok (.ireturn, 1) := dk_172 (dk_at dksX3_go_0 13 rfl rfl)
theorem dX3_go_14 : decode cX3_go 14 = .ok (.iconst 0, 1) := dk_3 (dk_at dksX3_go_0 14 rfl rfl)
theorem dX3_go_15 : decode cX3_go 15 = .ok (.istore_n 2, 1) := dk_61 (dk_at dksX3_go_0 15 rfl rfl)
theorem dX3_go_16 : decode cX3_go 16 = .ok (.iload_n 2, 1) := dk_28 (dk_at dksX3_go_0 16 rfl rfl)
theorem dX3_go_17 : decode cX3_go 17 = .ok (.iload_n 1, 1) := dk_27 (dk_at dksX3_go_0 17 rfl rfl)
theorem dX3_go_18 : decode cX3_go 18 = .ok (.if_icmp .ge 23, 3) := dk_162 0 23 (dk_at dksX3_go_0 18 rfl rfl)
theorem dX3_go_21 : decode cX3_go 21 = .ok (.aload_n 0, 1) := dk_42 (dk_at dksX3_go_0 21 rfl rfl)
theorem dX3_go_22 : decode cX3_go 22 = .ok (.getfield 286, 3) := dk_180 1 30 (dk_at dksX3_go_1 0 rfl rfl)
theorem dX3_go_25 : decode cX3_go 25 = .ok (.sipush 156, 3) := dk_17 0 156 (dk_at dksX3_go_1 3 rfl rfl)
theorem dX3_go_28 : decode cX3_go 28 = .ok (.if_icmp .ge 13, 3) := dk_162 0 13 (dk_at dksX3_go_1 6 rfl rfl)
theorem dX3_go_31 : decode cX3_go 31 = .ok (.aload_n 0, 1) := dk_42 (dk_at dksX3_go_1 9 rfl rfl)
theorem dX3_go_32 : decode cX3_go 32 = .ok (.invokevirtual 567, 3) := dk_182 2 55 (dk_at dksX3_go_1 10 rfl rfl)
theorem dX3_go_35 : decode cX3_go 35 = .ok (.iinc 2 1, 3) := dk_132 2 1 (dk_at dksX3_go_1 13 rfl rfl)
theorem dX3_go_38 : decode cX3_go 38 = .ok (.goto (-22), 3) := dk_167 255 234 (dk_at dksX3_go_1 16 rfl rfl)
theorem dX3_go_41 : decode cX3_go 41 = .ok (.aload_n 0, 1) := dk_42 (dk_at dksX3_go_1 19 rfl rfl)
theorem dX3_go_42 : decode cX3_go 42 = .ok (.getfield 286, 3) := dk_180 1 30 (dk_at dksX3_go_1 20 rfl rfl)
theorem dX3_go_45 : decode cX3_go 45 = .ok (.ireturn, 1) := dk_172 (dk_at dksX3_go_1 23 rfl rfl)
abbrev cX3_week : ByteArray := prog_14_method_88_code
def yX3_week : MethodName := ⟨RX3, "week", "()V"⟩
def dkwX3_week_10 : List UInt8 := [3, 79, 132, 1, 1, 167, 255, 238, 177]
abbrev dktX3_week_10 : List UInt8 := dkwX3_week_10 ++ []
def dkwX3_week_9 : List UInt8 := [27, 46, 79, 132, 1, 1, 167, 255, 228, 3, 60, 27, 42, 180, 1, 22, 162, 0, 16, 42, 180, 0, 102, 27]
abbrev dktX3_week_9 : List UInt8 := dkwX3_week_9 ++ dktX3_week_10
def dkwX3_week_8 : List UInt8 := [3, 60, 27, 42, 180, 1, 14, 162, 0, 26, 42, 180, 0, 17, 27, 50, 42, 180, 1, 30, 42, 180, 0, 39]
abbrev dktX3_week_8 : List UInt8 := dkwX3_week_8 ++ dktX3_week_9
def dkwX3_week_7 : List UInt8 := [180, 0, 255, 42, 180, 1, 30, 50, 8, 42, 180, 1, 204, 79, 42, 89, 180, 1, 30, 4, 96, 181, 1, 30]
abbrev dktX3_week_7 : List UInt8 := dkwX3_week_7 ++ dktX3_week_8
def dkwX3_week_6 : List UInt8 := [6, 42, 180, 1, 213, 79, 42, 180, 0, 255, 42, 180, 1, 30, 50, 7, 42, 180, 1, 242, 79, 42]
abbrev dktX3_week_6 : List UInt8 := dkwX3_week_6 ++ dktX3_week_7
def dkwX3_week_5 : List UInt8 := [46, 42, 180, 0, 200, 27, 46, 96, 79, 132, 1, 1, 167, 255, 225, 42, 180, 0, 255, 42, 180, 1, 30, 50]
abbrev dktX3_week_5 : List UInt8 := dkwX3_week_5 ++ dktX3_week_6
def dkwX3_week_4 : List UInt8 := [167, 255, 225, 3, 60, 27, 42, 180, 1, 195, 162, 0, 29, 42, 180, 0, 255, 42, 180, 1, 30, 50, 5, 92]
abbrev dktX3_week_4 : List UInt8 := dkwX3_week_4 ++ dktX3_week_5
def dkwX3_week_3 : List UInt8 := [180, 0, 255, 42, 180, 1, 30, 50, 3, 92, 46, 42, 180, 0, 24, 27, 46, 96, 79, 132, 1, 1]
abbrev dktX3_week_3 : List UInt8 := dkwX3_week_3 ++ dktX3_week_4
def dkwX3_week_2 : List UInt8 := [16, 12, 160, 0, 7, 42, 182, 2, 47, 42, 182, 2, 50, 3, 60, 27, 42, 180, 1, 14, 162, 0, 29, 42]
abbrev dktX3_week_2 : List UInt8 := dkwX3_week_2 ++ dktX3_week_3
def dkwX3_week_1 : List UInt8 := [96, 7, 112, 154, 0, 8, 42, 27, 182, 2, 44, 132, 1, 1, 167, 255, 224, 42, 180, 1, 30, 16, 13, 112]
abbrev dktX3_week_1 : List UInt8 := dkwX3_week_1 ++ dktX3_week_2
def dkwX3_week_0 : List UInt8 := [42, 182, 2, 41, 3, 60, 27, 42, 180, 1, 22, 162, 0, 30, 42, 180, 1, 30, 42, 180, 0, 75, 27, 46]
abbrev dktX3_week_0 : List UInt8 := dkwX3_week_0 ++ dktX3_week_1
theorem dksX3_week_0 : cX3_week.data.toList.drop 0 = dktX3_week_0 := by decide +kernel
theorem dksX3_week_1 : cX3_week.data.toList.drop 24 = dktX3_week_1 := dk_seg dksX3_week_0 24 rfl rfl
theorem dksX3_week_2 : cX3_week.data.toList.drop 48 = dktX3_week_2 := dk_seg dksX3_week_1 24 rfl rfl
theorem dksX3_week_3 : cX3_week.data.toList.drop 72 = dktX3_week_3 := dk_seg dksX3_week_2 24 rfl rfl
theorem dksX3_week_4 : cX3_week.data.toList.drop 94 = dktX3_week_4 := dk_seg dksX3_week_3 22 rfl rfl
theorem dksX3_week_5 : cX3_week.data.toList.drop 118 = dktX3_week_5 := dk_seg dksX3_week_4 24 rfl rfl
theorem dksX3_week_6 : cX3_week.data.toList.drop 142 = dktX3_week_6 := dk_seg dksX3_week_5 24 rfl rfl
theorem dksX3_week_7 : cX3_week.data.toList.drop 164 = dktX3_week_7 := dk_seg dksX3_week_6 22 rfl rfl
theorem dksX3_week_8 : cX3_week.data.toList.drop 188 = dktX3_week_8 := dk_seg dksX3_week_7 24 rfl rfl
theorem dksX3_week_9 : cX3_week.data.toList.drop 212 = dktX3_week_9 := dk_seg dksX3_week_8 24 rfl rfl
theorem dksX3_week_10 : cX3_week.data.toList.drop 236 = dktX3_week_10 := dk_seg dksX3_week_9 24 rfl rfl
theorem dX3_week_0 : decode cX3_week 0 = .ok (.aload_n 0, 1) := dk_42 (dk_at dksX3_week_0 0 rfl rfl)
theorem dX3_week_1 : decode cX3_week 1 = .ok (.invokevirtual 553, 3) := dk_182 2 41 (dk_at dksX3_week_0 1 rfl rfl)
theorem dX3_week_4 : decode cX3_week 4 = .ok (.iconst 0, 1) := dk_3 (dk_at dksX3_week_0 4 rfl rfl)
theorem dX3_week_5 : decode cX3_week 5 = .ok (.istore_n 1, 1) := dk_60 (dk_at dksX3_week_0 5 rfl rfl)
theorem dX3_week_6 : decode cX3_week 6 = .ok (.iload_n 1, 1) := dk_27 (dk_at dksX3_week_0 6 rfl rfl)
theorem dX3_week_7 : decode cX3_week 7 = .ok (.aload_n 0, 1) := dk_42 (dk_at dksX3_week_0 7 rfl rfl)
theorem dX3_week_8 : decode cX3_week 8 = .ok (.getfield 278, 3) := dk_180 1 22 (dk_at dksX3_week_0 8 rfl rfl)
theorem dX3_week_11 : decode cX3_week 11 = .ok (.if_icmp .ge 30, 3) := dk_162 0 30 (dk_at dksX3_week_0 11 rfl rfl)
theorem dX3_week_14 : decode cX3_week 14 = .ok (.aload_n 0, 1) := dk_42 (dk_at dksX3_week_0 14 rfl rfl)
theorem dX3_week_15 : decode cX3_week 15 = .ok (.getfield 286, 3) := dk_180 1 30 (dk_at dksX3_week_0 15 rfl rfl)
theorem dX3_week_18 : decode cX3_week 18 = .ok (.aload_n 0, 1) := dk_42 (dk_at dksX3_week_0 18 rfl rfl)
theorem dX3_week_19 : decode cX3_week 19 = .ok (.getfield 75, 3) := dk_180 0 75 (dk_at dksX3_week_0 19 rfl rfl)
theorem dX3_week_22 : decode cX3_week 22 = .ok (.iload_n 1, 1) := dk_27 (dk_at dksX3_week_0 22 rfl rfl)
theorem dX3_week_23 : decode cX3_week 23 = .ok (.iaload, 1) := dk_46 (dk_at dksX3_week_0 23 rfl rfl)
theorem dX3_week_24 : decode cX3_week 24 = .ok (.iadd, 1) := dk_96 (dk_at dksX3_week_1 0 rfl rfl)
theorem dX3_week_25 : decode cX3_week 25 = .ok (.iconst 4, 1) := dk_7 (dk_at dksX3_week_1 1 rfl rfl)
theorem dX3_week_26 : decode cX3_week 26 = .ok (.irem, 1) := dk_112 (dk_at dksX3_week_1 2 rfl rfl)
theorem dX3_week_27 : decode cX3_week 27 = .ok (.ifCond .ne 8, 3) := dk_154 0 8 (dk_at dksX3_week_1 3 rfl rfl)
theorem dX3_week_30 : decode cX3_week 30 = .ok (.aload_n 0, 1) := dk_42 (dk_at dksX3_week_1 6 rfl rfl)
theorem dX3_week_31 : decode cX3_week 31 = .ok (.iload_n 1, 1) := dk_27 (dk_at dksX3_week_1 7 rfl rfl)
theorem dX3_week_32 : decode cX3_week 32 = .ok (.invokevirtual 556, 3) := dk_182 2 44 (dk_at dksX3_week_1 8 rfl rfl)
theorem dX3_week_35 : decode cX3_week 35 = .ok (.iinc 1 1, 3) := dk_132 1 1 (dk_at dksX3_week_1 11 rfl rfl)
theorem dX3_week_38 : decode cX3_week 38 = .ok (.goto (-32), 3) := dk_167 255 224 (dk_at dksX3_week_1 14 rfl rfl)
theorem dX3_week_41 : decode cX3_week 41 = .ok (.aload_n 0, 1) := dk_42 (dk_at dksX3_week_1 17 rfl rfl)
theorem dX3_week_42 : decode cX3_week 42 = .ok (.getfield 286, 3) := dk_180 1 30 (dk_at dksX3_week_1 18 rfl rfl)
theorem dX3_week_45 : decode cX3_week 45 = .ok (.bipush 13, 2) := dk_16 13 (dk_at dksX3_week_1 21 rfl rfl)
theorem dX3_week_47 : decode cX3_week 47 = .ok (.irem, 1) := dk_112 (dk_at dksX3_week_1 23 rfl rfl)
theorem dX3_week_48 : decode cX3_week 48 = .ok (.bipush 12, 2) := dk_16 12 (dk_at dksX3_week_2 0 rfl rfl)
theorem dX3_week_50 : decode cX3_week 50 = .ok (.if_icmp .ne 7, 3) := dk_160 0 7 (dk_at dksX3_week_2 2 rfl rfl)
theorem dX3_week_53 : decode cX3_week 53 = .ok (.aload_n 0, 1) := dk_42 (dk_at dksX3_week_2 5 rfl rfl)
theorem dX3_week_54 : decode cX3_week 54 = .ok (.invokevirtual 559, 3) := dk_182 2 47 (dk_at dksX3_week_2 6 rfl rfl)
theorem dX3_week_57 : decode cX3_week 57 = .ok (.aload_n 0, 1) := dk_42 (dk_at dksX3_week_2 9 rfl rfl)
theorem dX3_week_58 : decode cX3_week 58 = .ok (.invokevirtual 562, 3) := dk_182 2 50 (dk_at dksX3_week_2 10 rfl rfl)
theorem dX3_week_61 : decode cX3_week 61 = .ok (.iconst 0, 1) := dk_3 (dk_at dksX3_week_2 13 rfl rfl)
theorem dX3_week_62 : decode cX3_week 62 = .ok (.istore_n 1, 1) := dk_60 (dk_at dksX3_week_2 14 rfl rfl)
theorem dX3_week_63 : decode cX3_week 63 = .ok (.iload_n 1, 1) := dk_27 (dk_at dksX3_week_2 15 rfl rfl)
theorem dX3_week_64 : decode cX3_week 64 = .ok (.aload_n 0, 1) := dk_42 (dk_at dksX3_week_2 16 rfl rfl)
theorem dX3_week_65 : decode cX3_week 65 = .ok (.getfield 270, 3) := dk_180 1 14 (dk_at dksX3_week_2 17 rfl rfl)
theorem dX3_week_68 : decode cX3_week 68 = .ok (.if_icmp .ge 29, 3) := dk_162 0 29 (dk_at dksX3_week_2 20 rfl rfl)
theorem dX3_week_71 : decode cX3_week 71 = .ok (.aload_n 0, 1) := dk_42 (dk_at dksX3_week_2 23 rfl rfl)
theorem dX3_week_72 : decode cX3_week 72 = .ok (.getfield 255, 3) := dk_180 0 255 (dk_at dksX3_week_3 0 rfl rfl)
theorem dX3_week_75 : decode cX3_week 75 = .ok (.aload_n 0, 1) := dk_42 (dk_at dksX3_week_3 3 rfl rfl)
theorem dX3_week_76 : decode cX3_week 76 = .ok (.getfield 286, 3) := dk_180 1 30 (dk_at dksX3_week_3 4 rfl rfl)
theorem dX3_week_79 : decode cX3_week 79 = .ok (.aaload, 1) := dk_50 (dk_at dksX3_week_3 7 rfl rfl)
theorem dX3_week_80 : decode cX3_week 80 = .ok (.iconst 0, 1) := dk_3 (dk_at dksX3_week_3 8 rfl rfl)
theorem dX3_week_81 : decode cX3_week 81 = .ok (.dup2, 1) := dk_92 (dk_at dksX3_week_3 9 rfl rfl)
theorem dX3_week_82 : decode cX3_week 82 = .ok (.iaload, 1) := dk_46 (dk_at dksX3_week_3 10 rfl rfl)
theorem dX3_week_83 : decode cX3_week 83 = .ok (.aload_n 0, 1) := dk_42 (dk_at dksX3_week_3 11 rfl rfl)
theorem dX3_week_84 : decode cX3_week 84 = .ok (.getfield 24, 3) := dk_180 0 24 (dk_at dksX3_week_3 12 rfl rfl)
theorem dX3_week_87 : decode cX3_week 87 = .ok (.iload_n 1, 1) := dk_27 (dk_at dksX3_week_3 15 rfl rfl)
theorem dX3_week_88 : decode cX3_week 88 = .ok (.iaload, 1) := dk_46 (dk_at dksX3_week_3 16 rfl rfl)
theorem dX3_week_89 : decode cX3_week 89 = .ok (.iadd, 1) := dk_96 (dk_at dksX3_week_3 17 rfl rfl)
theorem dX3_week_90 : decode cX3_week 90 = .ok (.iastore, 1) := dk_79 (dk_at dksX3_week_3 18 rfl rfl)
theorem dX3_week_91 : decode cX3_week 91 = .ok (.iinc 1 1, 3) := dk_132 1 1 (dk_at dksX3_week_3 19 rfl rfl)
theorem dX3_week_94 : decode cX3_week 94 = .ok (.goto (-31), 3) := dk_167 255 225 (dk_at dksX3_week_4 0 rfl rfl)
theorem dX3_week_97 : decode cX3_week 97 = .ok (.iconst 0, 1) := dk_3 (dk_at dksX3_week_4 3 rfl rfl)
theorem dX3_week_98 : decode cX3_week 98 = .ok (.istore_n 1, 1) := dk_60 (dk_at dksX3_week_4 4 rfl rfl)
theorem dX3_week_99 : decode cX3_week 99 = .ok (.iload_n 1, 1) := dk_27 (dk_at dksX3_week_4 5 rfl rfl)
theorem dX3_week_100 : decode cX3_week 100 = .ok (.aload_n 0, 1) := dk_42 (dk_at dksX3_week_4 6 rfl rfl)
theorem dX3_week_101 : decode cX3_week 101 = .ok (.getfield 451, 3) := dk_180 1 195 (dk_at dksX3_week_4 7 rfl rfl)
theorem dX3_week_104 : decode cX3_week 104 = .ok (.if_icmp .ge 29, 3) := dk_162 0 29 (dk_at dksX3_week_4 10 rfl rfl)
theorem dX3_week_107 : decode cX3_week 107 = .ok (.aload_n 0, 1) := dk_42 (dk_at dksX3_week_4 13 rfl rfl)
theorem dX3_week_108 : decode cX3_week 108 = .ok (.getfield 255, 3) := dk_180 0 255 (dk_at dksX3_week_4 14 rfl rfl)
theorem dX3_week_111 : decode cX3_week 111 = .ok (.aload_n 0, 1) := dk_42 (dk_at dksX3_week_4 17 rfl rfl)
theorem dX3_week_112 : decode cX3_week 112 = .ok (.getfield 286, 3) := dk_180 1 30 (dk_at dksX3_week_4 18 rfl rfl)
theorem dX3_week_115 : decode cX3_week 115 = .ok (.aaload, 1) := dk_50 (dk_at dksX3_week_4 21 rfl rfl)
theorem dX3_week_116 : decode cX3_week 116 = .ok (.iconst 2, 1) := dk_5 (dk_at dksX3_week_4 22 rfl rfl)
theorem dX3_week_117 : decode cX3_week 117 = .ok (.dup2, 1) := dk_92 (dk_at dksX3_week_4 23 rfl rfl)
theorem dX3_week_118 : decode cX3_week 118 = .ok (.iaload, 1) := dk_46 (dk_at dksX3_week_5 0 rfl rfl)
theorem dX3_week_119 : decode cX3_week 119 = .ok (.aload_n 0, 1) := dk_42 (dk_at dksX3_week_5 1 rfl rfl)
theorem dX3_week_120 : decode cX3_week 120 = .ok (.getfield 200, 3) := dk_180 0 200 (dk_at dksX3_week_5 2 rfl rfl)
theorem dX3_week_123 : decode cX3_week 123 = .ok (.iload_n 1, 1) := dk_27 (dk_at dksX3_week_5 5 rfl rfl)
theorem dX3_week_124 : decode cX3_week 124 = .ok (.iaload, 1) := dk_46 (dk_at dksX3_week_5 6 rfl rfl)
theorem dX3_week_125 : decode cX3_week 125 = .ok (.iadd, 1) := dk_96 (dk_at dksX3_week_5 7 rfl rfl)
theorem dX3_week_126 : decode cX3_week 126 = .ok (.iastore, 1) := dk_79 (dk_at dksX3_week_5 8 rfl rfl)
theorem dX3_week_127 : decode cX3_week 127 = .ok (.iinc 1 1, 3) := dk_132 1 1 (dk_at dksX3_week_5 9 rfl rfl)
theorem dX3_week_130 : decode cX3_week 130 = .ok (.goto (-31), 3) := dk_167 255 225 (dk_at dksX3_week_5 12 rfl rfl)
theorem dX3_week_133 : decode cX3_week 133 = .ok (.aload_n 0, 1) := dk_42 (dk_at dksX3_week_5 15 rfl rfl)
theorem dX3_week_134 : decode cX3_week 134 = .ok (.getfield 255, 3) := dk_180 0 255 (dk_at dksX3_week_5 16 rfl rfl)
theorem dX3_week_137 : decode cX3_week 137 = .ok (.aload_n 0, 1) := dk_42 (dk_at dksX3_week_5 19 rfl rfl)
theorem dX3_week_138 : decode cX3_week 138 = .ok (.getfield 286, 3) := dk_180 1 30 (dk_at dksX3_week_5 20 rfl rfl)
theorem dX3_week_141 : decode cX3_week 141 = .ok (.aaload, 1) := dk_50 (dk_at dksX3_week_5 23 rfl rfl)
theorem dX3_week_142 : decode cX3_week 142 = .ok (.iconst 3, 1) := dk_6 (dk_at dksX3_week_6 0 rfl rfl)
theorem dX3_week_143 : decode cX3_week 143 = .ok (.aload_n 0, 1) := dk_42 (dk_at dksX3_week_6 1 rfl rfl)
theorem dX3_week_144 : decode cX3_week 144 = .ok (.getfield 469, 3) := dk_180 1 213 (dk_at dksX3_week_6 2 rfl rfl)
theorem dX3_week_147 : decode cX3_week 147 = .ok (.iastore, 1) := dk_79 (dk_at dksX3_week_6 5 rfl rfl)
theorem dX3_week_148 : decode cX3_week 148 = .ok (.aload_n 0, 1) := dk_42 (dk_at dksX3_week_6 6 rfl rfl)
theorem dX3_week_149 : decode cX3_week 149 = .ok (.getfield 255, 3) := dk_180 0 255 (dk_at dksX3_week_6 7 rfl rfl)
theorem dX3_week_152 : decode cX3_week 152 = .ok (.aload_n 0, 1) := dk_42 (dk_at dksX3_week_6 10 rfl rfl)
theorem dX3_week_153 : decode cX3_week 153 = .ok (.getfield 286, 3) := dk_180 1 30 (dk_at dksX3_week_6 11 rfl rfl)
theorem dX3_week_156 : decode cX3_week 156 = .ok (.aaload, 1) := dk_50 (dk_at dksX3_week_6 14 rfl rfl)
theorem dX3_week_157 : decode cX3_week 157 = .ok (.iconst 4, 1) := dk_7 (dk_at dksX3_week_6 15 rfl rfl)
theorem dX3_week_158 : decode cX3_week 158 = .ok (.aload_n 0, 1) := dk_42 (dk_at dksX3_week_6 16 rfl rfl)
theorem dX3_week_159 : decode cX3_week 159 = .ok (.getfield 498, 3) := dk_180 1 242 (dk_at dksX3_week_6 17 rfl rfl)
theorem dX3_week_162 : decode cX3_week 162 = .ok (.iastore, 1) := dk_79 (dk_at dksX3_week_6 20 rfl rfl)
theorem dX3_week_163 : decode cX3_week 163 = .ok (.aload_n 0, 1) := dk_42 (dk_at dksX3_week_6 21 rfl rfl)
theorem dX3_week_164 : decode cX3_week 164 = .ok (.getfield 255, 3) := dk_180 0 255 (dk_at dksX3_week_7 0 rfl rfl)
theorem dX3_week_167 : decode cX3_week 167 = .ok (.aload_n 0, 1) := dk_42 (dk_at dksX3_week_7 3 rfl rfl)
theorem dX3_week_168 : decode cX3_week 168 = .ok (.getfield 286, 3) := dk_180 1 30 (dk_at dksX3_week_7 4 rfl rfl)
theorem dX3_week_171 : decode cX3_week 171 = .ok (.aaload, 1) := dk_50 (dk_at dksX3_week_7 7 rfl rfl)
theorem dX3_week_172 : decode cX3_week 172 = .ok (.iconst 5, 1) := dk_8 (dk_at dksX3_week_7 8 rfl rfl)
theorem dX3_week_173 : decode cX3_week 173 = .ok (.aload_n 0, 1) := dk_42 (dk_at dksX3_week_7 9 rfl rfl)
theorem dX3_week_174 : decode cX3_week 174 = .ok (.getfield 460, 3) := dk_180 1 204 (dk_at dksX3_week_7 10 rfl rfl)
theorem dX3_week_177 : decode cX3_week 177 = .ok (.iastore, 1) := dk_79 (dk_at dksX3_week_7 13 rfl rfl)
theorem dX3_week_178 : decode cX3_week 178 = .ok (.aload_n 0, 1) := dk_42 (dk_at dksX3_week_7 14 rfl rfl)
theorem dX3_week_179 : decode cX3_week 179 = .ok (.dup, 1) := dk_89 (dk_at dksX3_week_7 15 rfl rfl)
theorem dX3_week_180 : decode cX3_week 180 = .ok (.getfield 286, 3) := dk_180 1 30 (dk_at dksX3_week_7 16 rfl rfl)
theorem dX3_week_183 : decode cX3_week 183 = .ok (.iconst 1, 1) := dk_4 (dk_at dksX3_week_7 19 rfl rfl)
theorem dX3_week_184 : decode cX3_week 184 = .ok (.iadd, 1) := dk_96 (dk_at dksX3_week_7 20 rfl rfl)
theorem dX3_week_185 : decode cX3_week 185 = .ok (.putfield 286, 3) := dk_181 1 30 (dk_at dksX3_week_7 21 rfl rfl)
theorem dX3_week_188 : decode cX3_week 188 = .ok (.iconst 0, 1) := dk_3 (dk_at dksX3_week_8 0 rfl rfl)
theorem dX3_week_189 : decode cX3_week 189 = .ok (.istore_n 1, 1) := dk_60 (dk_at dksX3_week_8 1 rfl rfl)
theorem dX3_week_190 : decode cX3_week 190 = .ok (.iload_n 1, 1) := dk_27 (dk_at dksX3_week_8 2 rfl rfl)
theorem dX3_week_191 : decode cX3_week 191 = .ok (.aload_n 0, 1) := dk_42 (dk_at dksX3_week_8 3 rfl rfl)
theorem dX3_week_192 : decode cX3_week 192 = .ok (.getfield 270, 3) := dk_180 1 14 (dk_at dksX3_week_8 4 rfl rfl)
theorem dX3_week_195 : decode cX3_week 195 = .ok (.if_icmp .ge 26, 3) := dk_162 0 26 (dk_at dksX3_week_8 7 rfl rfl)
theorem dX3_week_198 : decode cX3_week 198 = .ok (.aload_n 0, 1) := dk_42 (dk_at dksX3_week_8 10 rfl rfl)
theorem dX3_week_199 : decode cX3_week 199 = .ok (.getfield 17, 3) := dk_180 0 17 (dk_at dksX3_week_8 11 rfl rfl)
theorem dX3_week_202 : decode cX3_week 202 = .ok (.iload_n 1, 1) := dk_27 (dk_at dksX3_week_8 14 rfl rfl)
theorem dX3_week_203 : decode cX3_week 203 = .ok (.aaload, 1) := dk_50 (dk_at dksX3_week_8 15 rfl rfl)
theorem dX3_week_204 : decode cX3_week 204 = .ok (.aload_n 0, 1) := dk_42 (dk_at dksX3_week_8 16 rfl rfl)
theorem dX3_week_205 : decode cX3_week 205 = .ok (.getfield 286, 3) := dk_180 1 30 (dk_at dksX3_week_8 17 rfl rfl)
theorem dX3_week_208 : decode cX3_week 208 = .ok (.aload_n 0, 1) := dk_42 (dk_at dksX3_week_8 20 rfl rfl)
theorem dX3_week_209 : decode cX3_week 209 = .ok (.getfield 39, 3) := dk_180 0 39 (dk_at dksX3_week_8 21 rfl rfl)
theorem dX3_week_212 : decode cX3_week 212 = .ok (.iload_n 1, 1) := dk_27 (dk_at dksX3_week_9 0 rfl rfl)
theorem dX3_week_213 : decode cX3_week 213 = .ok (.iaload, 1) := dk_46 (dk_at dksX3_week_9 1 rfl rfl)
theorem dX3_week_214 : decode cX3_week 214 = .ok (.iastore, 1) := dk_79 (dk_at dksX3_week_9 2 rfl rfl)
theorem dX3_week_215 : decode cX3_week 215 = .ok (.iinc 1 1, 3) := dk_132 1 1 (dk_at dksX3_week_9 3 rfl rfl)
theorem dX3_week_218 : decode cX3_week 218 = .ok (.goto (-28), 3) := dk_167 255 228 (dk_at dksX3_week_9 6 rfl rfl)
theorem dX3_week_221 : decode cX3_week 221 = .ok (.iconst 0, 1) := dk_3 (dk_at dksX3_week_9 9 rfl rfl)
theorem dX3_week_222 : decode cX3_week 222 = .ok (.istore_n 1, 1) := dk_60 (dk_at dksX3_week_9 10 rfl rfl)
theorem dX3_week_223 : decode cX3_week 223 = .ok (.iload_n 1, 1) := dk_27 (dk_at dksX3_week_9 11 rfl rfl)
theorem dX3_week_224 : decode cX3_week 224 = .ok (.aload_n 0, 1) := dk_42 (dk_at dksX3_week_9 12 rfl rfl)
theorem dX3_week_225 : decode cX3_week 225 = .ok (.getfield 278, 3) := dk_180 1 22 (dk_at dksX3_week_9 13 rfl rfl)
theorem dX3_week_228 : decode cX3_week 228 = .ok (.if_icmp .ge 16, 3) := dk_162 0 16 (dk_at dksX3_week_9 16 rfl rfl)
theorem dX3_week_231 : decode cX3_week 231 = .ok (.aload_n 0, 1) := dk_42 (dk_at dksX3_week_9 19 rfl rfl)
theorem dX3_week_232 : decode cX3_week 232 = .ok (.getfield 102, 3) := dk_180 0 102 (dk_at dksX3_week_9 20 rfl rfl)
theorem dX3_week_235 : decode cX3_week 235 = .ok (.iload_n 1, 1) := dk_27 (dk_at dksX3_week_9 23 rfl rfl)
theorem dX3_week_236 : decode cX3_week 236 = .ok (.iconst 0, 1) := dk_3 (dk_at dksX3_week_10 0 rfl rfl)
theorem dX3_week_237 : decode cX3_week 237 = .ok (.iastore, 1) := dk_79 (dk_at dksX3_week_10 1 rfl rfl)
theorem dX3_week_238 : decode cX3_week 238 = .ok (.iinc 1 1, 3) := dk_132 1 1 (dk_at dksX3_week_10 2 rfl rfl)
theorem dX3_week_241 : decode cX3_week 241 = .ok (.goto (-18), 3) := dk_167 255 238 (dk_at dksX3_week_10 5 rfl rfl)
theorem dX3_week_244 : decode cX3_week 244 = .ok (.return_, 1) := dk_177 (dk_at dksX3_week_10 8 rfl rfl)
abbrev cX3_lays : ByteArray := prog_14_method_53_code
def yX3_lays : MethodName := ⟨RX3, "lays", "()V"⟩
def dkwX3_lays_9 : List UInt8 := [180, 0, 203, 28, 46, 79, 42, 89, 180, 1, 195, 4, 96, 181, 1, 195, 132, 2, 1, 167, 255, 87, 177]
abbrev dktX3_lays_9 : List UInt8 := dkwX3_lays_9 ++ []
def dkwX3_lays_8 : List UInt8 := [180, 0, 197, 42, 180, 1, 195, 42, 180, 0, 203, 28, 46, 79, 42, 180, 0, 200, 42, 180, 1, 195, 42]
abbrev dktX3_lays_8 : List UInt8 := dkwX3_lays_8 ++ dktX3_lays_9
def dkwX3_lays_7 : List UInt8 := [28, 46, 79, 42, 180, 0, 194, 42, 180, 1, 195, 42, 28, 42, 180, 0, 69, 28, 46, 182, 1, 207, 79, 42]
abbrev dktX3_lays_7 : List UInt8 := dkwX3_lays_7 ++ dktX3_lays_8
def dkwX3_lays_6 : List UInt8 := [180, 0, 188, 42, 180, 1, 195, 42, 180, 1, 30, 79, 42, 180, 0, 191, 42, 180, 1, 195, 42, 180, 0, 81]
abbrev dktX3_lays_6 : List UInt8 := dkwX3_lays_6 ++ dktX3_lays_7
def dkwX3_lays_5 : List UInt8 := [180, 0, 203, 28, 46, 154, 0, 6, 167, 0, 101, 42, 180, 0, 185, 42, 180, 1, 195, 28, 79, 42]
abbrev dktX3_lays_5 : List UInt8 := dkwX3_lays_5 ++ dktX3_lays_6
def dkwX3_lays_4 : List UInt8 := [180, 1, 30, 184, 1, 180, 46, 104, 16, 10, 42, 180, 0, 69, 28, 46, 96, 104, 16, 24, 108, 96, 79, 42]
abbrev dktX3_lays_4 : List UInt8 := dkwX3_lays_4 ++ dktX3_lays_5
def dkwX3_lays_3 : List UInt8 := [180, 0, 112, 28, 92, 46, 42, 180, 0, 66, 28, 46, 42, 180, 0, 11, 42, 180, 0, 63, 28, 46, 50, 42]
abbrev dktX3_lays_3 : List UInt8 := dkwX3_lays_3 ++ dktX3_lays_4
def dkwX3_lays_2 : List UInt8 := [180, 0, 206, 28, 46, 79, 132, 2, 1, 167, 255, 233, 3, 61, 28, 42, 180, 1, 22, 162, 0, 167, 42]
abbrev dktX3_lays_2 : List UInt8 := dkwX3_lays_2 ++ dktX3_lays_3
def dkwX3_lays_1 : List UInt8 := [180, 1, 204, 27, 96, 181, 1, 204, 3, 61, 28, 42, 180, 1, 14, 162, 0, 21, 42, 180, 0, 24, 28, 42]
abbrev dktX3_lays_1 : List UInt8 := dkwX3_lays_1 ++ dktX3_lays_2
def dkwX3_lays_0 : List UInt8 := [42, 182, 1, 198, 42, 182, 1, 201, 60, 42, 180, 0, 255, 42, 180, 1, 30, 50, 4, 27, 79, 42, 89]
abbrev dktX3_lays_0 : List UInt8 := dkwX3_lays_0 ++ dktX3_lays_1
theorem dksX3_lays_0 : cX3_lays.data.toList.drop 0 = dktX3_lays_0 := by decide +kernel
theorem dksX3_lays_1 : cX3_lays.data.toList.drop 23 = dktX3_lays_1 := dk_seg dksX3_lays_0 23 rfl rfl
theorem dksX3_lays_2 : cX3_lays.data.toList.drop 47 = dktX3_lays_2 := dk_seg dksX3_lays_1 24 rfl rfl
theorem dksX3_lays_3 : cX3_lays.data.toList.drop 70 = dktX3_lays_3 := dk_seg dksX3_lays_2 23 rfl rfl
theorem dksX3_lays_4 : cX3_lays.data.toList.drop 94 = dktX3_lays_4 := dk_seg dksX3_lays_3 24 rfl rfl
theorem dksX3_lays_5 : cX3_lays.data.toList.drop 118 = dktX3_lays_5 := dk_seg dksX3_lays_4 24 rfl rfl
theorem dksX3_lays_6 : cX3_lays.data.toList.drop 140 = dktX3_lays_6 := dk_seg dksX3_lays_5 22 rfl rfl
theorem dksX3_lays_7 : cX3_lays.data.toList.drop 164 = dktX3_lays_7 := dk_seg dksX3_lays_6 24 rfl rfl
theorem dksX3_lays_8 : cX3_lays.data.toList.drop 188 = dktX3_lays_8 := dk_seg dksX3_lays_7 24 rfl rfl
theorem dksX3_lays_9 : cX3_lays.data.toList.drop 211 = dktX3_lays_9 := dk_seg dksX3_lays_8 23 rfl rfl
theorem dX3_lays_0 : decode cX3_lays 0 = .ok (.aload_n 0, 1) := dk_42 (dk_at dksX3_lays_0 0 rfl rfl)
theorem dX3_lays_1 : decode cX3_lays 1 = .ok (.invokevirtual 454, 3) := dk_182 1 198 (dk_at dksX3_lays_0 1 rfl rfl)
theorem dX3_lays_4 : decode cX3_lays 4 = .ok (.aload_n 0, 1) := dk_42 (dk_at dksX3_lays_0 4 rfl rfl)
theorem dX3_lays_5 : decode cX3_lays 5 = .ok (.invokevirtual 457, 3) := dk_182 1 201 (dk_at dksX3_lays_0 5 rfl rfl)
theorem dX3_lays_8 : decode cX3_lays 8 = .ok (.istore_n 1, 1) := dk_60 (dk_at dksX3_lays_0 8 rfl rfl)
theorem dX3_lays_9 : decode cX3_lays 9 = .ok (.aload_n 0, 1) := dk_42 (dk_at dksX3_lays_0 9 rfl rfl)
theorem dX3_lays_10 : decode cX3_lays 10 = .ok (.getfield 255, 3) := dk_180 0 255 (dk_at dksX3_lays_0 10 rfl rfl)
theorem dX3_lays_13 : decode cX3_lays 13 = .ok (.aload_n 0, 1) := dk_42 (dk_at dksX3_lays_0 13 rfl rfl)
theorem dX3_lays_14 : decode cX3_lays 14 = .ok (.getfield 286, 3) := dk_180 1 30 (dk_at dksX3_lays_0 14 rfl rfl)
theorem dX3_lays_17 : decode cX3_lays 17 = .ok (.aaload, 1) := dk_50 (dk_at dksX3_lays_0 17 rfl rfl)
theorem dX3_lays_18 : decode cX3_lays 18 = .ok (.iconst 1, 1) := dk_4 (dk_at dksX3_lays_0 18 rfl rfl)
theorem dX3_lays_19 : decode cX3_lays 19 = .ok (.iload_n 1, 1) := dk_27 (dk_at dksX3_lays_0 19 rfl rfl)
theorem dX3_lays_20 : decode cX3_lays 20 = .ok (.iastore, 1) := dk_79 (dk_at dksX3_lays_0 20 rfl rfl)
theorem dX3_lays_21 : decode cX3_lays 21 = .ok (.aload_n 0, 1) := dk_42 (dk_at dksX3_lays_0 21 rfl rfl)
theorem dX3_lays_22 : decode cX3_lays 22 = .ok (.dup, 1) := dk_89 (dk_at dksX3_lays_0 22 rfl rfl)
theorem dX3_lays_23 : decode cX3_lays 23 = .ok (.getfield 460, 3) := dk_180 1 204 (dk_at dksX3_lays_1 0 rfl rfl)
theorem dX3_lays_26 : decode cX3_lays 26 = .ok (.iload_n 1, 1) := dk_27 (dk_at dksX3_lays_1 3 rfl rfl)
theorem dX3_lays_27 : decode cX3_lays 27 = .ok (.iadd, 1) := dk_96 (dk_at dksX3_lays_1 4 rfl rfl)
theorem dX3_lays_28 : decode cX3_lays 28 = .ok (.putfield 460, 3) := dk_181 1 204 (dk_at dksX3_lays_1 5 rfl rfl)
theorem dX3_lays_31 : decode cX3_lays 31 = .ok (.iconst 0, 1) := dk_3 (dk_at dksX3_lays_1 8 rfl rfl)
theorem dX3_lays_32 : decode cX3_lays 32 = .ok (.istore_n 2, 1) := dk_61 (dk_at dksX3_lays_1 9 rfl rfl)
theorem dX3_lays_33 : decode cX3_lays 33 = .ok (.iload_n 2, 1) := dk_28 (dk_at dksX3_lays_1 10 rfl rfl)
theorem dX3_lays_34 : decode cX3_lays 34 = .ok (.aload_n 0, 1) := dk_42 (dk_at dksX3_lays_1 11 rfl rfl)
theorem dX3_lays_35 : decode cX3_lays 35 = .ok (.getfield 270, 3) := dk_180 1 14 (dk_at dksX3_lays_1 12 rfl rfl)
theorem dX3_lays_38 : decode cX3_lays 38 = .ok (.if_icmp .ge 21, 3) := dk_162 0 21 (dk_at dksX3_lays_1 15 rfl rfl)
theorem dX3_lays_41 : decode cX3_lays 41 = .ok (.aload_n 0, 1) := dk_42 (dk_at dksX3_lays_1 18 rfl rfl)
theorem dX3_lays_42 : decode cX3_lays 42 = .ok (.getfield 24, 3) := dk_180 0 24 (dk_at dksX3_lays_1 19 rfl rfl)
theorem dX3_lays_45 : decode cX3_lays 45 = .ok (.iload_n 2, 1) := dk_28 (dk_at dksX3_lays_1 22 rfl rfl)
theorem dX3_lays_46 : decode cX3_lays 46 = .ok (.aload_n 0, 1) := dk_42 (dk_at dksX3_lays_1 23 rfl rfl)
theorem dX3_lays_47 : decode cX3_lays 47 = .ok (.getfield 206, 3) := dk_180 0 206 (dk_at dksX3_lays_2 0 rfl rfl)
theorem dX3_lays_50 : decode cX3_lays 50 = .ok (.iload_n 2, 1) := dk_28 (dk_at dksX3_lays_2 3 rfl rfl)
theorem dX3_lays_51 : decode cX3_lays 51 = .ok (.iaload, 1) := dk_46 (dk_at dksX3_lays_2 4 rfl rfl)
theorem dX3_lays_52 : decode cX3_lays 52 = .ok (.iastore, 1) := dk_79 (dk_at dksX3_lays_2 5 rfl rfl)
theorem dX3_lays_53 : decode cX3_lays 53 = .ok (.iinc 2 1, 3) := dk_132 2 1 (dk_at dksX3_lays_2 6 rfl rfl)
theorem dX3_lays_56 : decode cX3_lays 56 = .ok (.goto (-23), 3) := dk_167 255 233 (dk_at dksX3_lays_2 9 rfl rfl)
theorem dX3_lays_59 : decode cX3_lays 59 = .ok (.iconst 0, 1) := dk_3 (dk_at dksX3_lays_2 12 rfl rfl)
theorem dX3_lays_60 : decode cX3_lays 60 = .ok (.istore_n 2, 1) := dk_61 (dk_at dksX3_lays_2 13 rfl rfl)
theorem dX3_lays_61 : decode cX3_lays 61 = .ok (.iload_n 2, 1) := dk_28 (dk_at dksX3_lays_2 14 rfl rfl)
theorem dX3_lays_62 : decode cX3_lays 62 = .ok (.aload_n 0, 1) := dk_42 (dk_at dksX3_lays_2 15 rfl rfl)
theorem dX3_lays_63 : decode cX3_lays 63 = .ok (.getfield 278, 3) := dk_180 1 22 (dk_at dksX3_lays_2 16 rfl rfl)
theorem dX3_lays_66 : decode cX3_lays 66 = .ok (.if_icmp .ge 167, 3) := dk_162 0 167 (dk_at dksX3_lays_2 19 rfl rfl)
theorem dX3_lays_69 : decode cX3_lays 69 = .ok (.aload_n 0, 1) := dk_42 (dk_at dksX3_lays_2 22 rfl rfl)
theorem dX3_lays_70 : decode cX3_lays 70 = .ok (.getfield 112, 3) := dk_180 0 112 (dk_at dksX3_lays_3 0 rfl rfl)
theorem dX3_lays_73 : decode cX3_lays 73 = .ok (.iload_n 2, 1) := dk_28 (dk_at dksX3_lays_3 3 rfl rfl)
theorem dX3_lays_74 : decode cX3_lays 74 = .ok (.dup2, 1) := dk_92 (dk_at dksX3_lays_3 4 rfl rfl)
theorem dX3_lays_75 : decode cX3_lays 75 = .ok (.iaload, 1) := dk_46 (dk_at dksX3_lays_3 5 rfl rfl)
theorem dX3_lays_76 : decode cX3_lays 76 = .ok (.aload_n 0, 1) := dk_42 (dk_at dksX3_lays_3 6 rfl rfl)
theorem dX3_lays_77 : decode cX3_lays 77 = .ok (.getfield 66, 3) := dk_180 0 66 (dk_at dksX3_lays_3 7 rfl rfl)
theorem dX3_lays_80 : decode cX3_lays 80 = .ok (.iload_n 2, 1) := dk_28 (dk_at dksX3_lays_3 10 rfl rfl)
theorem dX3_lays_81 : decode cX3_lays 81 = .ok (.iaload, 1) := dk_46 (dk_at dksX3_lays_3 11 rfl rfl)
theorem dX3_lays_82 : decode cX3_lays 82 = .ok (.aload_n 0, 1) := dk_42 (dk_at dksX3_lays_3 12 rfl rfl)
theorem dX3_lays_83 : decode cX3_lays 83 = .ok (.getfield 11, 3) := dk_180 0 11 (dk_at dksX3_lays_3 13 rfl rfl)
theorem dX3_lays_86 : decode cX3_lays 86 = .ok (.aload_n 0, 1) := dk_42 (dk_at dksX3_lays_3 16 rfl rfl)
theorem dX3_lays_87 : decode cX3_lays 87 = .ok (.getfield 63, 3) := dk_180 0 63 (dk_at dksX3_lays_3 17 rfl rfl)
theorem dX3_lays_90 : decode cX3_lays 90 = .ok (.iload_n 2, 1) := dk_28 (dk_at dksX3_lays_3 20 rfl rfl)
theorem dX3_lays_91 : decode cX3_lays 91 = .ok (.iaload, 1) := dk_46 (dk_at dksX3_lays_3 21 rfl rfl)
theorem dX3_lays_92 : decode cX3_lays 92 = .ok (.aaload, 1) := dk_50 (dk_at dksX3_lays_3 22 rfl rfl)
theorem dX3_lays_93 : decode cX3_lays 93 = .ok (.aload_n 0, 1) := dk_42 (dk_at dksX3_lays_3 23 rfl rfl)
theorem dX3_lays_94 : decode cX3_lays 94 = .ok (.getfield 286, 3) := dk_180 1 30 (dk_at dksX3_lays_4 0 rfl rfl)
theorem dX3_lays_97 : decode cX3_lays 97 = .ok (.invokestatic 436, 3) := dk_184 1 180 (dk_at dksX3_lays_4 3 rfl rfl)
theorem dX3_lays_100 : decode cX3_lays 100 = .ok (.iaload, 1) := dk_46 (dk_at dksX3_lays_4 6 rfl rfl)
theorem dX3_lays_101 : decode cX3_lays 101 = .ok (.imul, 1) := dk_104 (dk_at dksX3_lays_4 7 rfl rfl)
theorem dX3_lays_102 : decode cX3_lays 102 = .ok (.bipush 10, 2) := dk_16 10 (dk_at dksX3_lays_4 8 rfl rfl)
theorem dX3_lays_104 : decode cX3_lays 104 = .ok (.aload_n 0, 1) := dk_42 (dk_at dksX3_lays_4 10 rfl rfl)
theorem dX3_lays_105 : decode cX3_lays 105 = .ok (.getfield 69, 3) := dk_180 0 69 (dk_at dksX3_lays_4 11 rfl rfl)
theorem dX3_lays_108 : decode cX3_lays 108 = .ok (.iload_n 2, 1) := dk_28 (dk_at dksX3_lays_4 14 rfl rfl)
theorem dX3_lays_109 : decode cX3_lays 109 = .ok (.iaload, 1) := dk_46 (dk_at dksX3_lays_4 15 rfl rfl)
theorem dX3_lays_110 : decode cX3_lays 110 = .ok (.iadd, 1) := dk_96 (dk_at dksX3_lays_4 16 rfl rfl)
theorem dX3_lays_111 : decode cX3_lays 111 = .ok (.imul, 1) := dk_104 (dk_at dksX3_lays_4 17 rfl rfl)
theorem dX3_lays_112 : decode cX3_lays 112 = .ok (.bipush 24, 2) := dk_16 24 (dk_at dksX3_lays_4 18 rfl rfl)
theorem dX3_lays_114 : decode cX3_lays 114 = .ok (.idiv, 1) := dk_108 (dk_at dksX3_lays_4 20 rfl rfl)
theorem dX3_lays_115 : decode cX3_lays 115 = .ok (.iadd, 1) := dk_96 (dk_at dksX3_lays_4 21 rfl rfl)
theorem dX3_lays_116 : decode cX3_lays 116 = .ok (.iastore, 1) := dk_79 (dk_at dksX3_lays_4 22 rfl rfl)
theorem dX3_lays_117 : decode cX3_lays 117 = .ok (.aload_n 0, 1) := dk_42 (dk_at dksX3_lays_4 23 rfl rfl)
theorem dX3_lays_118 : decode cX3_lays 118 = .ok (.getfield 203, 3) := dk_180 0 203 (dk_at dksX3_lays_5 0 rfl rfl)
theorem dX3_lays_121 : decode cX3_lays 121 = .ok (.iload_n 2, 1) := dk_28 (dk_at dksX3_lays_5 3 rfl rfl)
theorem dX3_lays_122 : decode cX3_lays 122 = .ok (.iaload, 1) := dk_46 (dk_at dksX3_lays_5 4 rfl rfl)
theorem dX3_lays_123 : decode cX3_lays 123 = .ok (.ifCond .ne 6, 3) := dk_154 0 6 (dk_at dksX3_lays_5 5 rfl rfl)
theorem dX3_lays_126 : decode cX3_lays 126 = .ok (.goto 101, 3) := dk_167 0 101 (dk_at dksX3_lays_5 8 rfl rfl)
theorem dX3_lays_129 : decode cX3_lays 129 = .ok (.aload_n 0, 1) := dk_42 (dk_at dksX3_lays_5 11 rfl rfl)
theorem dX3_lays_130 : decode cX3_lays 130 = .ok (.getfield 185, 3) := dk_180 0 185 (dk_at dksX3_lays_5 12 rfl rfl)
theorem dX3_lays_133 : decode cX3_lays 133 = .ok (.aload_n 0, 1) := dk_42 (dk_at dksX3_lays_5 15 rfl rfl)
theorem dX3_lays_134 : decode cX3_lays 134 = .ok (.getfield 451, 3) := dk_180 1 195 (dk_at dksX3_lays_5 16 rfl rfl)
theorem dX3_lays_137 : decode cX3_lays 137 = .ok (.iload_n 2, 1) := dk_28 (dk_at dksX3_lays_5 19 rfl rfl)
theorem dX3_lays_138 : decode cX3_lays 138 = .ok (.iastore, 1) := dk_79 (dk_at dksX3_lays_5 20 rfl rfl)
theorem dX3_lays_139 : decode cX3_lays 139 = .ok (.aload_n 0, 1) := dk_42 (dk_at dksX3_lays_5 21 rfl rfl)
theorem dX3_lays_140 : decode cX3_lays 140 = .ok (.getfield 188, 3) := dk_180 0 188 (dk_at dksX3_lays_6 0 rfl rfl)
theorem dX3_lays_143 : decode cX3_lays 143 = .ok (.aload_n 0, 1) := dk_42 (dk_at dksX3_lays_6 3 rfl rfl)
theorem dX3_lays_144 : decode cX3_lays 144 = .ok (.getfield 451, 3) := dk_180 1 195 (dk_at dksX3_lays_6 4 rfl rfl)
theorem dX3_lays_147 : decode cX3_lays 147 = .ok (.aload_n 0, 1) := dk_42 (dk_at dksX3_lays_6 7 rfl rfl)
theorem dX3_lays_148 : decode cX3_lays 148 = .ok (.getfield 286, 3) := dk_180 1 30 (dk_at dksX3_lays_6 8 rfl rfl)
theorem dX3_lays_151 : decode cX3_lays 151 = .ok (.iastore, 1) := dk_79 (dk_at dksX3_lays_6 11 rfl rfl)
theorem dX3_lays_152 : decode cX3_lays 152 = .ok (.aload_n 0, 1) := dk_42 (dk_at dksX3_lays_6 12 rfl rfl)
theorem dX3_lays_153 : decode cX3_lays 153 = .ok (.getfield 191, 3) := dk_180 0 191 (dk_at dksX3_lays_6 13 rfl rfl)
theorem dX3_lays_156 : decode cX3_lays 156 = .ok (.aload_n 0, 1) := dk_42 (dk_at dksX3_lays_6 16 rfl rfl)
theorem dX3_lays_157 : decode cX3_lays 157 = .ok (.getfield 451, 3) := dk_180 1 195 (dk_at dksX3_lays_6 17 rfl rfl)
theorem dX3_lays_160 : decode cX3_lays 160 = .ok (.aload_n 0, 1) := dk_42 (dk_at dksX3_lays_6 20 rfl rfl)
theorem dX3_lays_161 : decode cX3_lays 161 = .ok (.getfield 81, 3) := dk_180 0 81 (dk_at dksX3_lays_6 21 rfl rfl)
theorem dX3_lays_164 : decode cX3_lays 164 = .ok (.iload_n 2, 1) := dk_28 (dk_at dksX3_lays_7 0 rfl rfl)
theorem dX3_lays_165 : decode cX3_lays 165 = .ok (.iaload, 1) := dk_46 (dk_at dksX3_lays_7 1 rfl rfl)
theorem dX3_lays_166 : decode cX3_lays 166 = .ok (.iastore, 1) := dk_79 (dk_at dksX3_lays_7 2 rfl rfl)
theorem dX3_lays_167 : decode cX3_lays 167 = .ok (.aload_n 0, 1) := dk_42 (dk_at dksX3_lays_7 3 rfl rfl)
theorem dX3_lays_168 : decode cX3_lays 168 = .ok (.getfield 194, 3) := dk_180 0 194 (dk_at dksX3_lays_7 4 rfl rfl)
theorem dX3_lays_171 : decode cX3_lays 171 = .ok (.aload_n 0, 1) := dk_42 (dk_at dksX3_lays_7 7 rfl rfl)
theorem dX3_lays_172 : decode cX3_lays 172 = .ok (.getfield 451, 3) := dk_180 1 195 (dk_at dksX3_lays_7 8 rfl rfl)
theorem dX3_lays_175 : decode cX3_lays 175 = .ok (.aload_n 0, 1) := dk_42 (dk_at dksX3_lays_7 11 rfl rfl)
theorem dX3_lays_176 : decode cX3_lays 176 = .ok (.iload_n 2, 1) := dk_28 (dk_at dksX3_lays_7 12 rfl rfl)
theorem dX3_lays_177 : decode cX3_lays 177 = .ok (.aload_n 0, 1) := dk_42 (dk_at dksX3_lays_7 13 rfl rfl)
theorem dX3_lays_178 : decode cX3_lays 178 = .ok (.getfield 69, 3) := dk_180 0 69 (dk_at dksX3_lays_7 14 rfl rfl)
theorem dX3_lays_181 : decode cX3_lays 181 = .ok (.iload_n 2, 1) := dk_28 (dk_at dksX3_lays_7 17 rfl rfl)
theorem dX3_lays_182 : decode cX3_lays 182 = .ok (.iaload, 1) := dk_46 (dk_at dksX3_lays_7 18 rfl rfl)
theorem dX3_lays_183 : decode cX3_lays 183 = .ok (.invokevirtual 463, 3) := dk_182 1 207 (dk_at dksX3_lays_7 19 rfl rfl)
theorem dX3_lays_186 : decode cX3_lays 186 = .ok (.iastore, 1) := dk_79 (dk_at dksX3_lays_7 22 rfl rfl)
theorem dX3_lays_187 : decode cX3_lays 187 = .ok (.aload_n 0, 1) := dk_42 (dk_at dksX3_lays_7 23 rfl rfl)
theorem dX3_lays_188 : decode cX3_lays 188 = .ok (.getfield 197, 3) := dk_180 0 197 (dk_at dksX3_lays_8 0 rfl rfl)
theorem dX3_lays_191 : decode cX3_lays 191 = .ok (.aload_n 0, 1) := dk_42 (dk_at dksX3_lays_8 3 rfl rfl)
theorem dX3_lays_192 : decode cX3_lays 192 = .ok (.getfield 451, 3) := dk_180 1 195 (dk_at dksX3_lays_8 4 rfl rfl)
theorem dX3_lays_195 : decode cX3_lays 195 = .ok (.aload_n 0, 1) := dk_42 (dk_at dksX3_lays_8 7 rfl rfl)
theorem dX3_lays_196 : decode cX3_lays 196 = .ok (.getfield 203, 3) := dk_180 0 203 (dk_at dksX3_lays_8 8 rfl rfl)
theorem dX3_lays_199 : decode cX3_lays 199 = .ok (.iload_n 2, 1) := dk_28 (dk_at dksX3_lays_8 11 rfl rfl)
theorem dX3_lays_200 : decode cX3_lays 200 = .ok (.iaload, 1) := dk_46 (dk_at dksX3_lays_8 12 rfl rfl)
theorem dX3_lays_201 : decode cX3_lays 201 = .ok (.iastore, 1) := dk_79 (dk_at dksX3_lays_8 13 rfl rfl)
theorem dX3_lays_202 : decode cX3_lays 202 = .ok (.aload_n 0, 1) := dk_42 (dk_at dksX3_lays_8 14 rfl rfl)
theorem dX3_lays_203 : decode cX3_lays 203 = .ok (.getfield 200, 3) := dk_180 0 200 (dk_at dksX3_lays_8 15 rfl rfl)
theorem dX3_lays_206 : decode cX3_lays 206 = .ok (.aload_n 0, 1) := dk_42 (dk_at dksX3_lays_8 18 rfl rfl)
theorem dX3_lays_207 : decode cX3_lays 207 = .ok (.getfield 451, 3) := dk_180 1 195 (dk_at dksX3_lays_8 19 rfl rfl)
theorem dX3_lays_210 : decode cX3_lays 210 = .ok (.aload_n 0, 1) := dk_42 (dk_at dksX3_lays_8 22 rfl rfl)
theorem dX3_lays_211 : decode cX3_lays 211 = .ok (.getfield 203, 3) := dk_180 0 203 (dk_at dksX3_lays_9 0 rfl rfl)
theorem dX3_lays_214 : decode cX3_lays 214 = .ok (.iload_n 2, 1) := dk_28 (dk_at dksX3_lays_9 3 rfl rfl)
theorem dX3_lays_215 : decode cX3_lays 215 = .ok (.iaload, 1) := dk_46 (dk_at dksX3_lays_9 4 rfl rfl)
theorem dX3_lays_216 : decode cX3_lays 216 = .ok (.iastore, 1) := dk_79 (dk_at dksX3_lays_9 5 rfl rfl)
theorem dX3_lays_217 : decode cX3_lays 217 = .ok (.aload_n 0, 1) := dk_42 (dk_at dksX3_lays_9 6 rfl rfl)
theorem dX3_lays_218 : decode cX3_lays 218 = .ok (.dup, 1) := dk_89 (dk_at dksX3_lays_9 7 rfl rfl)
theorem dX3_lays_219 : decode cX3_lays 219 = .ok (.getfield 451, 3) := dk_180 1 195 (dk_at dksX3_lays_9 8 rfl rfl)
theorem dX3_lays_222 : decode cX3_lays 222 = .ok (.iconst 1, 1) := dk_4 (dk_at dksX3_lays_9 11 rfl rfl)
theorem dX3_lays_223 : decode cX3_lays 223 = .ok (.iadd, 1) := dk_96 (dk_at dksX3_lays_9 12 rfl rfl)
theorem dX3_lays_224 : decode cX3_lays 224 = .ok (.putfield 451, 3) := dk_181 1 195 (dk_at dksX3_lays_9 13 rfl rfl)
theorem dX3_lays_227 : decode cX3_lays 227 = .ok (.iinc 2 1, 3) := dk_132 2 1 (dk_at dksX3_lays_9 16 rfl rfl)
theorem dX3_lays_230 : decode cX3_lays 230 = .ok (.goto (-169), 3) := dk_167 255 87 (dk_at dksX3_lays_9 19 rfl rfl)
theorem dX3_lays_233 : decode cX3_lays 233 = .ok (.return_, 1) := dk_177 (dk_at dksX3_lays_9 22 rfl rfl)
abbrev cX3_asIs : ByteArray := prog_14_method_51_code
def yX3_asIs : MethodName := ⟨RX3, "asIs", "()V"⟩
def dkwX3_asIs_3 : List UInt8 := [177]
abbrev dktX3_asIs_3 : List UInt8 := dkwX3_asIs_3 ++ []
def dkwX3_asIs_2 : List UInt8 := [180, 0, 66, 27, 46, 79, 42, 180, 0, 212, 27, 42, 180, 0, 69, 27, 46, 79, 132, 1, 1, 167, 255, 221]
abbrev dktX3_asIs_2 : List UInt8 := dkwX3_asIs_2 ++ dktX3_asIs_3
def dkwX3_asIs_1 : List UInt8 := [132, 1, 1, 167, 255, 233, 3, 60, 27, 42, 180, 1, 22, 162, 0, 33, 42, 180, 0, 209, 27, 42]
abbrev dktX3_asIs_1 : List UInt8 := dkwX3_asIs_1 ++ dktX3_asIs_2
def dkwX3_asIs_0 : List UInt8 := [3, 60, 27, 42, 180, 1, 14, 162, 0, 21, 42, 180, 0, 206, 27, 42, 180, 0, 24, 27, 46, 79]
abbrev dktX3_asIs_0 : List UInt8 := dkwX3_asIs_0 ++ dktX3_asIs_1
theorem dksX3_asIs_0 : cX3_asIs.data.toList.drop 0 = dktX3_asIs_0 := by decide +kernel
theorem dksX3_asIs_1 : cX3_asIs.data.toList.drop 22 = dktX3_asIs_1 := dk_seg dksX3_asIs_0 22 rfl rfl
theorem dksX3_asIs_2 : cX3_asIs.data.toList.drop 44 = dktX3_asIs_2 := dk_seg dksX3_asIs_1 22 rfl rfl
theorem dksX3_asIs_3 : cX3_asIs.data.toList.drop 68 = dktX3_asIs_3 := dk_seg dksX3_asIs_2 24 rfl rfl
theorem dX3_asIs_0 : decode cX3_asIs 0 = .ok (.iconst 0, 1) := dk_3 (dk_at dksX3_asIs_0 0 rfl rfl)
theorem dX3_asIs_1 : decode cX3_asIs 1 = .ok (.istore_n 1, 1) := dk_60 (dk_at dksX3_asIs_0 1 rfl rfl)
theorem dX3_asIs_2 : decode cX3_asIs 2 = .ok (.iload_n 1, 1) := dk_27 (dk_at dksX3_asIs_0 2 rfl rfl)
theorem dX3_asIs_3 : decode cX3_asIs 3 = .ok (.aload_n 0, 1) := dk_42 (dk_at dksX3_asIs_0 3 rfl rfl)
theorem dX3_asIs_4 : decode cX3_asIs 4 = .ok (.getfield 270, 3) := dk_180 1 14 (dk_at dksX3_asIs_0 4 rfl rfl)
theorem dX3_asIs_7 : decode cX3_asIs 7 = .ok (.if_icmp .ge 21, 3) := dk_162 0 21 (dk_at dksX3_asIs_0 7 rfl rfl)
theorem dX3_asIs_10 : decode cX3_asIs 10 = .ok (.aload_n 0, 1) := dk_42 (dk_at dksX3_asIs_0 10 rfl rfl)
theorem dX3_asIs_11 : decode cX3_asIs 11 = .ok (.getfield 206, 3) := dk_180 0 206 (dk_at dksX3_asIs_0 11 rfl rfl)
theorem dX3_asIs_14 : decode cX3_asIs 14 = .ok (.iload_n 1, 1) := dk_27 (dk_at dksX3_asIs_0 14 rfl rfl)
theorem dX3_asIs_15 : decode cX3_asIs 15 = .ok (.aload_n 0, 1) := dk_42 (dk_at dksX3_asIs_0 15 rfl rfl)
theorem dX3_asIs_16 : decode cX3_asIs 16 = .ok (.getfield 24, 3) := dk_180 0 24 (dk_at dksX3_asIs_0 16 rfl rfl)
theorem dX3_asIs_19 : decode cX3_asIs 19 = .ok (.iload_n 1, 1) := dk_27 (dk_at dksX3_asIs_0 19 rfl rfl)
theorem dX3_asIs_20 : decode cX3_asIs 20 = .ok (.iaload, 1) := dk_46 (dk_at dksX3_asIs_0 20 rfl rfl)
theorem dX3_asIs_21 : decode cX3_asIs 21 = .ok (.iastore, 1) := dk_79 (dk_at dksX3_asIs_0 21 rfl rfl)
theorem dX3_asIs_22 : decode cX3_asIs 22 = .ok (.iinc 1 1, 3) := dk_132 1 1 (dk_at dksX3_asIs_1 0 rfl rfl)
theorem dX3_asIs_25 : decode cX3_asIs 25 = .ok (.goto (-23), 3) := dk_167 255 233 (dk_at dksX3_asIs_1 3 rfl rfl)
theorem dX3_asIs_28 : decode cX3_asIs 28 = .ok (.iconst 0, 1) := dk_3 (dk_at dksX3_asIs_1 6 rfl rfl)
theorem dX3_asIs_29 : decode cX3_asIs 29 = .ok (.istore_n 1, 1) := dk_60 (dk_at dksX3_asIs_1 7 rfl rfl)
theorem dX3_asIs_30 : decode cX3_asIs 30 = .ok (.iload_n 1, 1) := dk_27 (dk_at dksX3_asIs_1 8 rfl rfl)
theorem dX3_asIs_31 : decode cX3_asIs 31 = .ok (.aload_n 0, 1) := dk_42 (dk_at dksX3_asIs_1 9 rfl rfl)
theorem dX3_asIs_32 : decode cX3_asIs 32 = .ok (.getfield 278, 3) := dk_180 1 22 (dk_at dksX3_asIs_1 10 rfl rfl)
theorem dX3_asIs_35 : decode cX3_asIs 35 = .ok (.if_icmp .ge 33, 3) := dk_162 0 33 (dk_at dksX3_asIs_1 13 rfl rfl)
theorem dX3_asIs_38 : decode cX3_asIs 38 = .ok (.aload_n 0, 1) := dk_42 (dk_at dksX3_asIs_1 16 rfl rfl)
theorem dX3_asIs_39 : decode cX3_asIs 39 = .ok (.getfield 209, 3) := dk_180 0 209 (dk_at dksX3_asIs_1 17 rfl rfl)
theorem dX3_asIs_42 : decode cX3_asIs 42 = .ok (.iload_n 1, 1) := dk_27 (dk_at dksX3_asIs_1 20 rfl rfl)
theorem dX3_asIs_43 : decode cX3_asIs 43 = .ok (.aload_n 0, 1) := dk_42 (dk_at dksX3_asIs_1 21 rfl rfl)
theorem dX3_asIs_44 : decode cX3_asIs 44 = .ok (.getfield 66, 3) := dk_180 0 66 (dk_at dksX3_asIs_2 0 rfl rfl)
theorem dX3_asIs_47 : decode cX3_asIs 47 = .ok (.iload_n 1, 1) := dk_27 (dk_at dksX3_asIs_2 3 rfl rfl)
theorem dX3_asIs_48 : decode cX3_asIs 48 = .ok (.iaload, 1) := dk_46 (dk_at dksX3_asIs_2 4 rfl rfl)
theorem dX3_asIs_49 : decode cX3_asIs 49 = .ok (.iastore, 1) := dk_79 (dk_at dksX3_asIs_2 5 rfl rfl)
theorem dX3_asIs_50 : decode cX3_asIs 50 = .ok (.aload_n 0, 1) := dk_42 (dk_at dksX3_asIs_2 6 rfl rfl)
theorem dX3_asIs_51 : decode cX3_asIs 51 = .ok (.getfield 212, 3) := dk_180 0 212 (dk_at dksX3_asIs_2 7 rfl rfl)
theorem dX3_asIs_54 : decode cX3_asIs 54 = .ok (.iload_n 1, 1) := dk_27 (dk_at dksX3_asIs_2 10 rfl rfl)
theorem dX3_asIs_55 : decode cX3_asIs 55 = .ok (.aload_n 0, 1) := dk_42 (dk_at dksX3_asIs_2 11 rfl rfl)
theorem dX3_asIs_56 : decode cX3_asIs 56 = .ok (.getfield 69, 3) := dk_180 0 69 (dk_at dksX3_asIs_2 12 rfl rfl)
theorem dX3_asIs_59 : decode cX3_asIs 59 = .ok (.iload_n 1, 1) := dk_27 (dk_at dksX3_asIs_2 15 rfl rfl)
theorem dX3_asIs_60 : decode cX3_asIs 60 = .ok (.iaload, 1) := dk_46 (dk_at dksX3_asIs_2 16 rfl rfl)
theorem dX3_asIs_61 : decode cX3_asIs 61 = .ok (.iastore, 1) := dk_79 (dk_at dksX3_asIs_2 17 rfl rfl)
theorem dX3_asIs_62 : decode cX3_asIs 62 = .ok (.iinc 1 1, 3) := dk_132 1 1 (dk_at dksX3_asIs_2 18 rfl rfl)
theorem dX3_asIs_65 : decode cX3_asIs 65 = .ok (.goto (-35), 3) := dk_167 255 221 (dk_at dksX3_asIs_2 21 rfl rfl)
theorem dX3_asIs_68 : decode cX3_asIs 68 = .ok (.return_, 1) := dk_177 (dk_at dksX3_asIs_3 0 rfl rfl)
abbrev cX3_spins : ByteArray := prog_14_method_52_code
def yX3_spins : MethodName := ⟨RX3, "spins", "()I"⟩
def dkwX3_spins_8 : List UInt8 := [132, 3, 1, 167, 255, 73, 27, 172]
abbrev dktX3_spins_8 : List UInt8 := dkwX3_spins_8 ++ []
def dkwX3_spins_7 : List UInt8 := [4, 100, 42, 180, 0, 81, 29, 46, 108, 100, 79, 132, 2, 1, 27, 42, 180, 0, 203, 29, 46, 96, 60]
abbrev dktX3_spins_7 : List UInt8 := dkwX3_spins_7 ++ dktX3_spins_8
def dkwX3_spins_6 : List UInt8 := [167, 0, 47, 42, 180, 0, 206, 21, 4, 92, 46, 42, 180, 0, 203, 29, 46, 42, 180, 0, 81, 29, 46, 96]
abbrev dktX3_spins_6 : List UInt8 := dkwX3_spins_6 ++ dktX3_spins_7
def dkwX3_spins_5 : List UInt8 := [17, 1, 44, 160, 0, 7, 3, 167, 0, 6, 22, 5, 136, 79, 42, 180, 0, 203, 29, 46, 154, 0, 6]
abbrev dktX3_spins_5 : List UInt8 := dkwX3_spins_5 ++ dktX3_spins_6
def dkwX3_spins_4 : List UInt8 := [42, 180, 0, 206, 21, 4, 46, 133, 42, 180, 0, 81, 29, 46, 133, 105, 55, 5, 42, 180, 0, 203, 29, 28]
abbrev dktX3_spins_4 : List UInt8 := dkwX3_spins_4 ++ dktX3_spins_5
def dkwX3_spins_3 : List UInt8 := [55, 5, 22, 5, 42, 180, 0, 206, 21, 4, 46, 133, 42, 180, 0, 81, 29, 46, 133, 105, 148, 158, 0, 21]
abbrev dktX3_spins_3 : List UInt8 := dkwX3_spins_3 ++ dktX3_spins_4
def dkwX3_spins_2 : List UInt8 := [133, 105, 16, 10, 42, 180, 0, 212, 29, 46, 96, 133, 105, 42, 180, 0, 81, 29, 46, 16, 20, 96, 133, 109]
abbrev dktX3_spins_2 : List UInt8 := dkwX3_spins_2 ++ dktX3_spins_3
def dkwX3_spins_1 : List UInt8 := [54, 4, 42, 180, 0, 209, 29, 46, 133, 42, 180, 0, 11, 21, 4, 50, 42, 180, 1, 30, 184, 1, 180, 46]
abbrev dktX3_spins_1 : List UInt8 := dkwX3_spins_1 ++ dktX3_spins_2
def dkwX3_spins_0 : List UInt8 := [3, 60, 42, 180, 1, 195, 61, 3, 62, 29, 42, 180, 1, 22, 162, 0, 181, 42, 180, 0, 63, 29, 46]
abbrev dktX3_spins_0 : List UInt8 := dkwX3_spins_0 ++ dktX3_spins_1
theorem dksX3_spins_0 : cX3_spins.data.toList.drop 0 = dktX3_spins_0 := by decide +kernel
theorem dksX3_spins_1 : cX3_spins.data.toList.drop 23 = dktX3_spins_1 := dk_seg dksX3_spins_0 23 rfl rfl
theorem dksX3_spins_2 : cX3_spins.data.toList.drop 47 = dktX3_spins_2 := dk_seg dksX3_spins_1 24 rfl rfl
theorem dksX3_spins_3 : cX3_spins.data.toList.drop 71 = dktX3_spins_3 := dk_seg dksX3_spins_2 24 rfl rfl
theorem dksX3_spins_4 : cX3_spins.data.toList.drop 95 = dktX3_spins_4 := dk_seg dksX3_spins_3 24 rfl rfl
theorem dksX3_spins_5 : cX3_spins.data.toList.drop 119 = dktX3_spins_5 := dk_seg dksX3_spins_4 24 rfl rfl
theorem dksX3_spins_6 : cX3_spins.data.toList.drop 142 = dktX3_spins_6 := dk_seg dksX3_spins_5 23 rfl rfl
theorem dksX3_spins_7 : cX3_spins.data.toList.drop 166 = dktX3_spins_7 := dk_seg dksX3_spins_6 24 rfl rfl
theorem dksX3_spins_8 : cX3_spins.data.toList.drop 189 = dktX3_spins_8 := dk_seg dksX3_spins_7 23 rfl rfl
theorem dX3_spins_0 : decode cX3_spins 0 = .ok (.iconst 0, 1) := dk_3 (dk_at dksX3_spins_0 0 rfl rfl)
theorem dX3_spins_1 : decode cX3_spins 1 = .ok (.istore_n 1, 1) := dk_60 (dk_at dksX3_spins_0 1 rfl rfl)
theorem dX3_spins_2 : decode cX3_spins 2 = .ok (.aload_n 0, 1) := dk_42 (dk_at dksX3_spins_0 2 rfl rfl)
theorem dX3_spins_3 : decode cX3_spins 3 = .ok (.getfield 451, 3) := dk_180 1 195 (dk_at dksX3_spins_0 3 rfl rfl)
theorem dX3_spins_6 : decode cX3_spins 6 = .ok (.istore_n 2, 1) := dk_61 (dk_at dksX3_spins_0 6 rfl rfl)
theorem dX3_spins_7 : decode cX3_spins 7 = .ok (.iconst 0, 1) := dk_3 (dk_at dksX3_spins_0 7 rfl rfl)
theorem dX3_spins_8 : decode cX3_spins 8 = .ok (.istore_n 3, 1) := dk_62 (dk_at dksX3_spins_0 8 rfl rfl)
theorem dX3_spins_9 : decode cX3_spins 9 = .ok (.iload_n 3, 1) := dk_29 (dk_at dksX3_spins_0 9 rfl rfl)
theorem dX3_spins_10 : decode cX3_spins 10 = .ok (.aload_n 0, 1) := dk_42 (dk_at dksX3_spins_0 10 rfl rfl)
theorem dX3_spins_11 : decode cX3_spins 11 = .ok (.getfield 278, 3) := dk_180 1 22 (dk_at dksX3_spins_0 11 rfl rfl)
theorem dX3_spins_14 : decode cX3_spins 14 = .ok (.if_icmp .ge 181, 3) := dk_162 0 181 (dk_at dksX3_spins_0 14 rfl rfl)
theorem dX3_spins_17 : decode cX3_spins 17 = .ok (.aload_n 0, 1) := dk_42 (dk_at dksX3_spins_0 17 rfl rfl)
theorem dX3_spins_18 : decode cX3_spins 18 = .ok (.getfield 63, 3) := dk_180 0 63 (dk_at dksX3_spins_0 18 rfl rfl)
theorem dX3_spins_21 : decode cX3_spins 21 = .ok (.iload_n 3, 1) := dk_29 (dk_at dksX3_spins_0 21 rfl rfl)
theorem dX3_spins_22 : decode cX3_spins 22 = .ok (.iaload, 1) := dk_46 (dk_at dksX3_spins_0 22 rfl rfl)
theorem dX3_spins_23 : decode cX3_spins 23 = .ok (.istore 4, 2) := dk_54 4 (dk_at dksX3_spins_1 0 rfl rfl)
theorem dX3_spins_25 : decode cX3_spins 25 = .ok (.aload_n 0, 1) := dk_42 (dk_at dksX3_spins_1 2 rfl rfl)
theorem dX3_spins_26 : decode cX3_spins 26 = .ok (.getfield 209, 3) := dk_180 0 209 (dk_at dksX3_spins_1 3 rfl rfl)
theorem dX3_spins_29 : decode cX3_spins 29 = .ok (.iload_n 3, 1) := dk_29 (dk_at dksX3_spins_1 6 rfl rfl)
theorem dX3_spins_30 : decode cX3_spins 30 = .ok (.iaload, 1) := dk_46 (dk_at dksX3_spins_1 7 rfl rfl)
theorem dX3_spins_31 : decode cX3_spins 31 = .ok (.i2l, 1) := dk_133 (dk_at dksX3_spins_1 8 rfl rfl)
theorem dX3_spins_32 : decode cX3_spins 32 = .ok (.aload_n 0, 1) := dk_42 (dk_at dksX3_spins_1 9 rfl rfl)
theorem dX3_spins_33 : decode cX3_spins 33 = .ok (.getfield 11, 3) := dk_180 0 11 (dk_at dksX3_spins_1 10 rfl rfl)
theorem dX3_spins_36 : decode cX3_spins 36 = .ok (.iload 4, 2) := dk_21 4 (dk_at dksX3_spins_1 13 rfl rfl)
theorem dX3_spins_38 : decode cX3_spins 38 = .ok (.aaload, 1) := dk_50 (dk_at dksX3_spins_1 15 rfl rfl)
theorem dX3_spins_39 : decode cX3_spins 39 = .ok (.aload_n 0, 1) := dk_42 (dk_at dksX3_spins_1 16 rfl rfl)
theorem dX3_spins_40 : decode cX3_spins 40 = .ok (.getfield 286, 3) := dk_180 1 30 (dk_at dksX3_spins_1 17 rfl rfl)
theorem dX3_spins_43 : decode cX3_spins 43 = .ok (.invokestatic 436, 3) := dk_184 1 180 (dk_at dksX3_spins_1 20 rfl rfl)
theorem dX3_spins_46 : decode cX3_spins 46 = .ok (.iaload, 1) := dk_46 (dk_at dksX3_spins_1 23 rfl rfl)
theorem dX3_spins_47 : decode cX3_spins 47 = .ok (.i2l, 1) := dk_133 (dk_at dksX3_spins_2 0 rfl rfl)
theorem dX3_spins_48 : decode cX3_spins 48 = .ok (.lmul, 1) := dk_105 (dk_at dksX3_spins_2 1 rfl rfl)
theorem dX3_spins_49 : decode cX3_spins 49 = .ok (.bipush 10, 2) := dk_16 10 (dk_at dksX3_spins_2 2 rfl rfl)
theorem dX3_spins_51 : decode cX3_spins 51 = .ok (.aload_n 0, 1) := dk_42 (dk_at dksX3_spins_2 4 rfl rfl)
theorem dX3_spins_52 : decode cX3_spins 52 = .ok (.getfield 212, 3) := dk_180 0 212 (dk_at dksX3_spins_2 5 rfl rfl)
theorem dX3_spins_55 : decode cX3_spins 55 = .ok (.iload_n 3, 1) := dk_29 (dk_at dksX3_spins_2 8 rfl rfl)
theorem dX3_spins_56 : decode cX3_spins 56 = .ok (.iaload, 1) := dk_46 (dk_at dksX3_spins_2 9 rfl rfl)
theorem dX3_spins_57 : decode cX3_spins 57 = .ok (.iadd, 1) := dk_96 (dk_at dksX3_spins_2 10 rfl rfl)
theorem dX3_spins_58 : decode cX3_spins 58 = .ok (.i2l, 1) := dk_133 (dk_at dksX3_spins_2 11 rfl rfl)
theorem dX3_spins_59 : decode cX3_spins 59 = .ok (.lmul, 1) := dk_105 (dk_at dksX3_spins_2 12 rfl rfl)
theorem dX3_spins_60 : decode cX3_spins 60 = .ok (.aload_n 0, 1) := dk_42 (dk_at dksX3_spins_2 13 rfl rfl)
theorem dX3_spins_61 : decode cX3_spins 61 = .ok (.getfield 81, 3) := dk_180 0 81 (dk_at dksX3_spins_2 14 rfl rfl)
theorem dX3_spins_64 : decode cX3_spins 64 = .ok (.iload_n 3, 1) := dk_29 (dk_at dksX3_spins_2 17 rfl rfl)
theorem dX3_spins_65 : decode cX3_spins 65 = .ok (.iaload, 1) := dk_46 (dk_at dksX3_spins_2 18 rfl rfl)
theorem dX3_spins_66 : decode cX3_spins 66 = .ok (.bipush 20, 2) := dk_16 20 (dk_at dksX3_spins_2 19 rfl rfl)
theorem dX3_spins_68 : decode cX3_spins 68 = .ok (.iadd, 1) := dk_96 (dk_at dksX3_spins_2 21 rfl rfl)
theorem dX3_spins_69 : decode cX3_spins 69 = .ok (.i2l, 1) := dk_133 (dk_at dksX3_spins_2 22 rfl rfl)
theorem dX3_spins_70 : decode cX3_spins 70 = .ok (.ldiv, 1) := dk_109 (dk_at dksX3_spins_2 23 rfl rfl)
theorem dX3_spins_71 : decode cX3_spins 71 = .ok (.lstore 5, 2) := dk_55 5 (dk_at dksX3_spins_3 0 rfl rfl)
theorem dX3_spins_73 : decode cX3_spins 73 = .ok (.lload 5, 2) := dk_22 5 (dk_at dksX3_spins_3 2 rfl rfl)
theorem dX3_spins_75 : decode cX3_spins 75 = .ok (.aload_n 0, 1) := dk_42 (dk_at dksX3_spins_3 4 rfl rfl)
theorem dX3_spins_76 : decode cX3_spins 76 = .ok (.getfield 206, 3) := dk_180 0 206 (dk_at dksX3_spins_3 5 rfl rfl)
theorem dX3_spins_79 : decode cX3_spins 79 = .ok (.iload 4, 2) := dk_21 4 (dk_at dksX3_spins_3 8 rfl rfl)
theorem dX3_spins_81 : decode cX3_spins 81 = .ok (.iaload, 1) := dk_46 (dk_at dksX3_spins_3 10 rfl rfl)
theorem dX3_spins_82 : decode cX3_spins 82 = .ok (.i2l, 1) := dk_133 (dk_at dksX3_spins_3 11 rfl rfl)
theorem dX3_spins_83 : decode cX3_spins 83 = .ok (.aload_n 0, 1) := dk_42 (dk_at dksX3_spins_3 12 rfl rfl)
theorem dX3_spins_84 : decode cX3_spins 84 = .ok (.getfield 81, 3) := dk_180 0 81 (dk_at dksX3_spins_3 13 rfl rfl)
theorem dX3_spins_87 : decode cX3_spins 87 = .ok (.iload_n 3, 1) := dk_29 (dk_at dksX3_spins_3 16 rfl rfl)
theorem dX3_spins_88 : decode cX3_spins 88 = .ok (.iaload, 1) := dk_46 (dk_at dksX3_spins_3 17 rfl rfl)
theorem dX3_spins_89 : decode cX3_spins 89 = .ok (.i2l, 1) := dk_133 (dk_at dksX3_spins_3 18 rfl rfl)
theorem dX3_spins_90 : decode cX3_spins 90 = .ok (.lmul, 1) := dk_105 (dk_at dksX3_spins_3 19 rfl rfl)
theorem dX3_spins_91 : decode cX3_spins 91 = .ok (.lcmp, 1) := dk_148 (dk_at dksX3_spins_3 20 rfl rfl)
theorem dX3_spins_92 : decode cX3_spins 92 = .ok (.ifCond .le 21, 3) := dk_158 0 21 (dk_at dksX3_spins_3 21 rfl rfl)
theorem dX3_spins_95 : decode cX3_spins 95 = .ok (.aload_n 0, 1) := dk_42 (dk_at dksX3_spins_4 0 rfl rfl)
theorem dX3_spins_96 : decode cX3_spins 96 = .ok (.getfield 206, 3) := dk_180 0 206 (dk_at dksX3_spins_4 1 rfl rfl)
theorem dX3_spins_99 : decode cX3_spins 99 = .ok (.iload 4, 2) := dk_21 4 (dk_at dksX3_spins_4 4 rfl rfl)
theorem dX3_spins_101 : decode cX3_spins 101 = .ok (.iaload, 1) := dk_46 (dk_at dksX3_spins_4 6 rfl rfl)
theorem dX3_spins_102 : decode cX3_spins 102 = .ok (.i2l, 1) := dk_133 (dk_at dksX3_spins_4 7 rfl rfl)
theorem dX3_spins_103 : decode cX3_spins 103 = .ok (.aload_n 0, 1) := dk_42 (dk_at dksX3_spins_4 8 rfl rfl)
theorem dX3_spins_104 : decode cX3_spins 104 = .ok (.getfield 81, 3) := dk_180 0 81 (dk_at dksX3_spins_4 9 rfl rfl)
theorem dX3_spins_107 : decode cX3_spins 107 = .ok (.iload_n 3, 1) := dk_29 (dk_at dksX3_spins_4 12 rfl rfl)
theorem dX3_spins_108 : decode cX3_spins 108 = .ok (.iaload, 1) := dk_46 (dk_at dksX3_spins_4 13 rfl rfl)
theorem dX3_spins_109 : decode cX3_spins 109 = .ok (.i2l, 1) := dk_133 (dk_at dksX3_spins_4 14 rfl rfl)
theorem dX3_spins_110 : decode cX3_spins 110 = .ok (.lmul, 1) := dk_105 (dk_at dksX3_spins_4 15 rfl rfl)
theorem dX3_spins_111 : decode cX3_spins 111 = .ok (.lstore 5, 2) := dk_55 5 (dk_at dksX3_spins_4 16 rfl rfl)
theorem dX3_spins_113 : decode cX3_spins 113 = .ok (.aload_n 0, 1) := dk_42 (dk_at dksX3_spins_4 18 rfl rfl)
theorem dX3_spins_114 : decode cX3_spins 114 = .ok (.getfield 203, 3) := dk_180 0 203 (dk_at dksX3_spins_4 19 rfl rfl)
theorem dX3_spins_117 : decode cX3_spins 117 = .ok (.iload_n 3, 1) := dk_29 (dk_at dksX3_spins_4 22 rfl rfl)
theorem dX3_spins_118 : decode cX3_spins 118 = .ok (.iload_n 2, 1) := dk_28 (dk_at dksX3_spins_4 23 rfl rfl)
theorem dX3_spins_119 : decode cX3_spins 119 = .ok (.sipush 300, 3) := dk_17 1 44 (dk_at dksX3_spins_5 0 rfl rfl)
theorem dX3_spins_122 : decode cX3_spins 122 = .ok (.if_icmp .ne 7, 3) := dk_160 0 7 (dk_at dksX3_spins_5 3 rfl rfl)
theorem dX3_spins_125 : decode cX3_spins 125 = .ok (.iconst 0, 1) := dk_3 (dk_at dksX3_spins_5 6 rfl rfl)
theorem dX3_spins_126 : decode cX3_spins 126 = .ok (.goto 6, 3) := dk_167 0 6 (dk_at dksX3_spins_5 7 rfl rfl)
theorem dX3_spins_129 : decode cX3_spins 129 = .ok (.lload 5, 2) := dk_22 5 (dk_at dksX3_spins_5 10 rfl rfl)
theorem dX3_spins_131 : decode cX3_spins 131 = .ok (.l2i, 1) := dk_136 (dk_at dksX3_spins_5 12 rfl rfl)
theorem dX3_spins_132 : decode cX3_spins 132 = .ok (.iastore, 1) := dk_79 (dk_at dksX3_spins_5 13 rfl rfl)
theorem dX3_spins_133 : decode cX3_spins 133 = .ok (.aload_n 0, 1) := dk_42 (dk_at dksX3_spins_5 14 rfl rfl)
theorem dX3_spins_134 : decode cX3_spins 134 = .ok (.getfield 203, 3) := dk_180 0 203 (dk_at dksX3_spins_5 15 rfl rfl)
theorem dX3_spins_137 : decode cX3_spins 137 = .ok (.iload_n 3, 1) := dk_29 (dk_at dksX3_spins_5 18 rfl rfl)
theorem dX3_spins_138 : decode cX3_spins 138 = .ok (.iaload, 1) := dk_46 (dk_at dksX3_spins_5 19 rfl rfl)
theorem dX3_spins_139 : decode cX3_spins 139 = .ok (.ifCond .ne 6, 3) := dk_154 0 6 (dk_at dksX3_spins_5 20 rfl rfl)
theorem dX3_spins_142 : decode cX3_spins 142 = .ok (.goto 47, 3) := dk_167 0 47 (dk_at dksX3_spins_6 0 rfl rfl)
theorem dX3_spins_145 : decode cX3_spins 145 = .ok (.aload_n 0, 1) := dk_42 (dk_at dksX3_spins_6 3 rfl rfl)
theorem dX3_spins_146 : decode cX3_spins 146 = .ok (.getfield 206, 3) := dk_180 0 206 (dk_at dksX3_spins_6 4 rfl rfl)
theorem dX3_spins_149 : decode cX3_spins 149 = .ok (.iload 4, 2) := dk_21 4 (dk_at dksX3_spins_6 7 rfl rfl)
theorem dX3_spins_151 : decode cX3_spins 151 = .ok (.dup2, 1) := dk_92 (dk_at dksX3_spins_6 9 rfl rfl)
theorem dX3_spins_152 : decode cX3_spins 152 = .ok (.iaload, 1) := dk_46 (dk_at dksX3_spins_6 10 rfl rfl)
theorem dX3_spins_153 : decode cX3_spins 153 = .ok (.aload_n 0, 1) := dk_42 (dk_at dksX3_spins_6 11 rfl rfl)
theorem dX3_spins_154 : decode cX3_spins 154 = .ok (.getfield 203, 3) := dk_180 0 203 (dk_at dksX3_spins_6 12 rfl rfl)
theorem dX3_spins_157 : decode cX3_spins 157 = .ok (.iload_n 3, 1) := dk_29 (dk_at dksX3_spins_6 15 rfl rfl)
theorem dX3_spins_158 : decode cX3_spins 158 = .ok (.iaload, 1) := dk_46 (dk_at dksX3_spins_6 16 rfl rfl)
theorem dX3_spins_159 : decode cX3_spins 159 = .ok (.aload_n 0, 1) := dk_42 (dk_at dksX3_spins_6 17 rfl rfl)
theorem dX3_spins_160 : decode cX3_spins 160 = .ok (.getfield 81, 3) := dk_180 0 81 (dk_at dksX3_spins_6 18 rfl rfl)
theorem dX3_spins_163 : decode cX3_spins 163 = .ok (.iload_n 3, 1) := dk_29 (dk_at dksX3_spins_6 21 rfl rfl)
theorem dX3_spins_164 : decode cX3_spins 164 = .ok (.iaload, 1) := dk_46 (dk_at dksX3_spins_6 22 rfl rfl)
theorem dX3_spins_165 : decode cX3_spins 165 = .ok (.iadd, 1) := dk_96 (dk_at dksX3_spins_6 23 rfl rfl)
theorem dX3_spins_166 : decode cX3_spins 166 = .ok (.iconst 1, 1) := dk_4 (dk_at dksX3_spins_7 0 rfl rfl)
theorem dX3_spins_167 : decode cX3_spins 167 = .ok (.isub, 1) := dk_100 (dk_at dksX3_spins_7 1 rfl rfl)
theorem dX3_spins_168 : decode cX3_spins 168 = .ok (.aload_n 0, 1) := dk_42 (dk_at dksX3_spins_7 2 rfl rfl)
theorem dX3_spins_169 : decode cX3_spins 169 = .ok (.getfield 81, 3) := dk_180 0 81 (dk_at dksX3_spins_7 3 rfl rfl)
theorem dX3_spins_172 : decode cX3_spins 172 = .ok (.iload_n 3, 1) := dk_29 (dk_at dksX3_spins_7 6 rfl rfl)
theorem dX3_spins_173 : decode cX3_spins 173 = .ok (.iaload, 1) := dk_46 (dk_at dksX3_spins_7 7 rfl rfl)
theorem dX3_spins_174 : decode cX3_spins 174 = .ok (.idiv, 1) := dk_108 (dk_at dksX3_spins_7 8 rfl rfl)
theorem dX3_spins_175 : decode cX3_spins 175 = .ok (.isub, 1) := dk_100 (dk_at dksX3_spins_7 9 rfl rfl)
theorem dX3_spins_176 : decode cX3_spins 176 = .ok (.iastore, 1) := dk_79 (dk_at dksX3_spins_7 10 rfl rfl)
theorem dX3_spins_177 : decode cX3_spins 177 = .ok (.iinc 2 1, 3) := dk_132 2 1 (dk_at dksX3_spins_7 11 rfl rfl)
theorem dX3_spins_180 : decode cX3_spins 180 = .ok (.iload_n 1, 1) := dk_27 (dk_at dksX3_spins_7 14 rfl rfl)
theorem dX3_spins_181 : decode cX3_spins 181 = .ok (.aload_n 0, 1) := dk_42 (dk_at dksX3_spins_7 15 rfl rfl)
theorem dX3_spins_182 : decode cX3_spins 182 = .ok (.getfield 203, 3) := dk_180 0 203 (dk_at dksX3_spins_7 16 rfl rfl)
theorem dX3_spins_185 : decode cX3_spins 185 = .ok (.iload_n 3, 1) := dk_29 (dk_at dksX3_spins_7 19 rfl rfl)
theorem dX3_spins_186 : decode cX3_spins 186 = .ok (.iaload, 1) := dk_46 (dk_at dksX3_spins_7 20 rfl rfl)
theorem dX3_spins_187 : decode cX3_spins 187 = .ok (.iadd, 1) := dk_96 (dk_at dksX3_spins_7 21 rfl rfl)
theorem dX3_spins_188 : decode cX3_spins 188 = .ok (.istore_n 1, 1) := dk_60 (dk_at dksX3_spins_7 22 rfl rfl)
theorem dX3_spins_189 : decode cX3_spins 189 = .ok (.iinc 3 1, 3) := dk_132 3 1 (dk_at dksX3_spins_8 0 rfl rfl)
theorem dX3_spins_192 : decode cX3_spins 192 = .ok (.goto (-183), 3) := dk_167 255 73 (dk_at dksX3_spins_8 3 rfl rfl)
theorem dX3_spins_195 : decode cX3_spins 195 = .ok (.iload_n 1, 1) := dk_27 (dk_at dksX3_spins_8 6 rfl rfl)
theorem dX3_spins_196 : decode cX3_spins 196 = .ok (.ireturn, 1) := dk_172 (dk_at dksX3_spins_8 7 rfl rfl)
abbrev cX3_strengthOf : ByteArray := prog_14_method_50_code
def yX3_strengthOf : MethodName := ⟨RX3, "strengthOf", "(II)I"⟩
def dkwX3_strengthOf_1 : List UInt8 := [46, 104, 100, 184, 1, 192, 172]
abbrev dktX3_strengthOf_1 : List UInt8 := dkwX3_strengthOf_1 ++ []
def dkwX3_strengthOf_0 : List UInt8 := [16, 20, 42, 180, 0, 20, 42, 180, 0, 63, 27, 46, 46, 104, 6, 28, 104, 96, 5, 42, 180, 0, 81, 27]
abbrev dktX3_strengthOf_0 : List UInt8 := dkwX3_strengthOf_0 ++ dktX3_strengthOf_1
theorem dksX3_strengthOf_0 : cX3_strengthOf.data.toList.drop 0 = dktX3_strengthOf_0 := by decide +kernel
theorem dksX3_strengthOf_1 : cX3_strengthOf.data.toList.drop 24 = dktX3_strengthOf_1 := dk_seg dksX3_strengthOf_0 24 rfl rfl
theorem dX3_strengthOf_0 : decode cX3_strengthOf 0 = .ok (.bipush 20, 2) := dk_16 20 (dk_at dksX3_strengthOf_0 0 rfl rfl)
theorem dX3_strengthOf_2 : decode cX3_strengthOf 2 = .ok (.aload_n 0, 1) := dk_42 (dk_at dksX3_strengthOf_0 2 rfl rfl)
theorem dX3_strengthOf_3 : decode cX3_strengthOf 3 = .ok (.getfield 20, 3) := dk_180 0 20 (dk_at dksX3_strengthOf_0 3 rfl rfl)
theorem dX3_strengthOf_6 : decode cX3_strengthOf 6 = .ok (.aload_n 0, 1) := dk_42 (dk_at dksX3_strengthOf_0 6 rfl rfl)
theorem dX3_strengthOf_7 : decode cX3_strengthOf 7 = .ok (.getfield 63, 3) := dk_180 0 63 (dk_at dksX3_strengthOf_0 7 rfl rfl)
theorem dX3_strengthOf_10 : decode cX3_strengthOf 10 = .ok (.iload_n 1, 1) := dk_27 (dk_at dksX3_strengthOf_0 10 rfl rfl)
theorem dX3_strengthOf_11 : decode cX3_strengthOf 11 = .ok (.iaload, 1) := dk_46 (dk_at dksX3_strengthOf_0 11 rfl rfl)
theorem dX3_strengthOf_12 : decode cX3_strengthOf 12 = .ok (.iaload, 1) := dk_46 (dk_at dksX3_strengthOf_0 12 rfl rfl)
theorem dX3_strengthOf_13 : decode cX3_strengthOf 13 = .ok (.imul, 1) := dk_104 (dk_at dksX3_strengthOf_0 13 rfl rfl)
theorem dX3_strengthOf_14 : decode cX3_strengthOf 14 = .ok (.iconst 3, 1) := dk_6 (dk_at dksX3_strengthOf_0 14 rfl rfl)
theorem dX3_strengthOf_15 : decode cX3_strengthOf 15 = .ok (.iload_n 2, 1) := dk_28 (dk_at dksX3_strengthOf_0 15 rfl rfl)
theorem dX3_strengthOf_16 : decode cX3_strengthOf 16 = .ok (.imul, 1) := dk_104 (dk_at dksX3_strengthOf_0 16 rfl rfl)
theorem dX3_strengthOf_17 : decode cX3_strengthOf 17 = .ok (.iadd, 1) := dk_96 (dk_at dksX3_strengthOf_0 17 rfl rfl)
theorem dX3_strengthOf_18 : decode cX3_strengthOf 18 = .ok (.iconst 2, 1) := dk_5 (dk_at dksX3_strengthOf_0 18 rfl rfl)
theorem dX3_strengthOf_19 : decode cX3_strengthOf 19 = .ok (.aload_n 0, 1) := dk_42 (dk_at dksX3_strengthOf_0 19 rfl rfl)
theorem dX3_strengthOf_20 : decode cX3_strengthOf 20 = .ok (.getfield 81, 3) := dk_180 0 81 (dk_at dksX3_strengthOf_0 20 rfl rfl)
theorem dX3_strengthOf_23 : decode cX3_strengthOf 23 = .ok (.iload_n 1, 1) := dk_27 (dk_at dksX3_strengthOf_0 23 rfl rfl)
theorem dX3_strengthOf_24 : decode cX3_strengthOf 24 = .ok (.iaload, 1) := dk_46 (dk_at dksX3_strengthOf_1 0 rfl rfl)
theorem dX3_strengthOf_25 : decode cX3_strengthOf 25 = .ok (.imul, 1) := dk_104 (dk_at dksX3_strengthOf_1 1 rfl rfl)
theorem dX3_strengthOf_26 : decode cX3_strengthOf 26 = .ok (.isub, 1) := dk_100 (dk_at dksX3_strengthOf_1 2 rfl rfl)
theorem dX3_strengthOf_27 : decode cX3_strengthOf 27 = .ok (.invokestatic 448, 3) := dk_184 1 192 (dk_at dksX3_strengthOf_1 3 rfl rfl)
theorem dX3_strengthOf_30 : decode cX3_strengthOf 30 = .ok (.ireturn, 1) := dk_172 (dk_at dksX3_strengthOf_1 6 rfl rfl)
abbrev cX3_buys : ByteArray := prog_14_method_81_code
def yX3_buys : MethodName := ⟨RX3, "buys", "(I)V"⟩
def dkwX3_buys_8 : List UInt8 := [92, 46, 4, 100, 79, 42, 180, 0, 57, 28, 92, 46, 4, 96, 79, 177]
abbrev dktX3_buys_8 : List UInt8 := dkwX3_buys_8 ++ []
def dkwX3_buys_7 : List UInt8 := [180, 2, 34, 21, 4, 96, 181, 2, 34, 42, 180, 0, 90, 27, 92, 46, 4, 96, 79, 42, 180, 0, 33, 28]
abbrev dktX3_buys_7 : List UInt8 := dkwX3_buys_7 ++ dktX3_buys_8
def dkwX3_buys_6 : List UInt8 := [21, 4, 96, 100, 79, 42, 180, 0, 45, 28, 92, 46, 42, 180, 0, 39, 28, 46, 96, 79, 42, 89]
abbrev dktX3_buys_6 : List UInt8 := dkwX3_buys_6 ++ dktX3_buys_7
def dkwX3_buys_5 : List UInt8 := [167, 0, 84, 42, 28, 182, 2, 22, 54, 4, 42, 180, 0, 78, 27, 92, 46, 42, 180, 0, 39, 28, 46]
abbrev dktX3_buys_5 : List UInt8 := dkwX3_buys_5 ++ dktX3_buys_6
def dkwX3_buys_4 : List UInt8 := [180, 0, 54, 28, 92, 46, 4, 96, 79, 167, 0, 97, 42, 180, 0, 30, 28, 92, 46, 4, 100, 79]
abbrev dktX3_buys_4 : List UInt8 := dkwX3_buys_4 ++ dktX3_buys_5
def dkwX3_buys_3 : List UInt8 := [4, 96, 79, 42, 180, 0, 27, 28, 46, 158, 0, 26, 42, 180, 0, 27, 28, 92, 46, 4, 100, 79, 42]
abbrev dktX3_buys_3 : List UInt8 := dkwX3_buys_3 ++ dktX3_buys_4
def dkwX3_buys_2 : List UInt8 := [100, 79, 42, 180, 0, 45, 28, 92, 46, 42, 180, 0, 36, 28, 46, 96, 79, 42, 180, 0, 87, 27, 92, 46]
abbrev dktX3_buys_2 : List UInt8 := dkwX3_buys_2 ++ dktX3_buys_3
def dkwX3_buys_1 : List UInt8 := [46, 4, 96, 79, 167, 0, 173, 29, 154, 0, 88, 42, 180, 0, 78, 27, 92, 46, 42, 180, 0, 36, 28, 46]
abbrev dktX3_buys_1 : List UInt8 := dkwX3_buys_1 ++ dktX3_buys_2
def dkwX3_buys_0 : List UInt8 := [42, 180, 0, 63, 27, 46, 61, 42, 27, 182, 2, 31, 62, 29, 2, 160, 0, 16, 42, 180, 0, 84, 27, 92]
abbrev dktX3_buys_0 : List UInt8 := dkwX3_buys_0 ++ dktX3_buys_1
theorem dksX3_buys_0 : cX3_buys.data.toList.drop 0 = dktX3_buys_0 := by decide +kernel
theorem dksX3_buys_1 : cX3_buys.data.toList.drop 24 = dktX3_buys_1 := dk_seg dksX3_buys_0 24 rfl rfl
theorem dksX3_buys_2 : cX3_buys.data.toList.drop 48 = dktX3_buys_2 := dk_seg dksX3_buys_1 24 rfl rfl
theorem dksX3_buys_3 : cX3_buys.data.toList.drop 72 = dktX3_buys_3 := dk_seg dksX3_buys_2 24 rfl rfl
theorem dksX3_buys_4 : cX3_buys.data.toList.drop 95 = dktX3_buys_4 := dk_seg dksX3_buys_3 23 rfl rfl
theorem dksX3_buys_5 : cX3_buys.data.toList.drop 117 = dktX3_buys_5 := dk_seg dksX3_buys_4 22 rfl rfl
theorem dksX3_buys_6 : cX3_buys.data.toList.drop 140 = dktX3_buys_6 := dk_seg dksX3_buys_5 23 rfl rfl
theorem dksX3_buys_7 : cX3_buys.data.toList.drop 162 = dktX3_buys_7 := dk_seg dksX3_buys_6 22 rfl rfl
theorem dksX3_buys_8 : cX3_buys.data.toList.drop 186 = dktX3_buys_8 := dk_seg dksX3_buys_7 24 rfl rfl
theorem dX3_buys_0 : decode cX3_buys 0 = .ok (.aload_n 0, 1) := dk_42 (dk_at dksX3_buys_0 0 rfl rfl)
theorem dX3_buys_1 : decode cX3_buys 1 = .ok (.getfield 63, 3) := dk_180 0 63 (dk_at dksX3_buys_0 1 rfl rfl)
theorem dX3_buys_4 : decode cX3_buys 4 = .ok (.iload_n 1, 1) := dk_27 (dk_at dksX3_buys_0 4 rfl rfl)
theorem dX3_buys_5 : decode cX3_buys 5 = .ok (.iaload, 1) := dk_46 (dk_at dksX3_buys_0 5 rfl rfl)
theorem dX3_buys_6 : decode cX3_buys 6 = .ok (.istore_n 2, 1) := dk_61 (dk_at dksX3_buys_0 6 rfl rfl)
theorem dX3_buys_7 : decode cX3_buys 7 = .ok (.aload_n 0, 1) := dk_42 (dk_at dksX3_buys_0 7 rfl rfl)
theorem dX3_buys_8 : decode cX3_buys 8 = .ok (.iload_n 1, 1) := dk_27 (dk_at dksX3_buys_0 8 rfl rfl)
theorem dX3_buys_9 : decode cX3_buys 9 = .ok (.invokevirtual 543, 3) := dk_182 2 31 (dk_at dksX3_buys_0 9 rfl rfl)
theorem dX3_buys_12 : decode cX3_buys 12 = .ok (.istore_n 3, 1) := dk_62 (dk_at dksX3_buys_0 12 rfl rfl)
theorem dX3_buys_13 : decode cX3_buys 13 = .ok (.iload_n 3, 1) := dk_29 (dk_at dksX3_buys_0 13 rfl rfl)
theorem dX3_buys_14 : decode cX3_buys 14 = .ok (.iconst (-1), 1) := dk_2 (dk_at dksX3_buys_0 14 rfl rfl)
theorem dX3_buys_15 : decode cX3_buys 15 = .ok (.if_icmp .ne 16, 3) := dk_160 0 16 (dk_at dksX3_buys_0 15 rfl rfl)
theorem dX3_buys_18 : decode cX3_buys 18 = .ok (.aload_n 0, 1) := dk_42 (dk_at dksX3_buys_0 18 rfl rfl)
theorem dX3_buys_19 : decode cX3_buys 19 = .ok (.getfield 84, 3) := dk_180 0 84 (dk_at dksX3_buys_0 19 rfl rfl)
theorem dX3_buys_22 : decode cX3_buys 22 = .ok (.iload_n 1, 1) := dk_27 (dk_at dksX3_buys_0 22 rfl rfl)
theorem dX3_buys_23 : decode cX3_buys 23 = .ok (.dup2, 1) := dk_92 (dk_at dksX3_buys_0 23 rfl rfl)
theorem dX3_buys_24 : decode cX3_buys 24 = .ok (.iaload, 1) := dk_46 (dk_at dksX3_buys_1 0 rfl rfl)
theorem dX3_buys_25 : decode cX3_buys 25 = .ok (.iconst 1, 1) := dk_4 (dk_at dksX3_buys_1 1 rfl rfl)
theorem dX3_buys_26 : decode cX3_buys 26 = .ok (.iadd, 1) := dk_96 (dk_at dksX3_buys_1 2 rfl rfl)
theorem dX3_buys_27 : decode cX3_buys 27 = .ok (.iastore, 1) := dk_79 (dk_at dksX3_buys_1 3 rfl rfl)
theorem dX3_buys_28 : decode cX3_buys 28 = .ok (.goto 173, 3) := dk_167 0 173 (dk_at dksX3_buys_1 4 rfl rfl)
theorem dX3_buys_31 : decode cX3_buys 31 = .ok (.iload_n 3, 1) := dk_29 (dk_at dksX3_buys_1 7 rfl rfl)
theorem dX3_buys_32 : decode cX3_buys 32 = .ok (.ifCond .ne 88, 3) := dk_154 0 88 (dk_at dksX3_buys_1 8 rfl rfl)
theorem dX3_buys_35 : decode cX3_buys 35 = .ok (.aload_n 0, 1) := dk_42 (dk_at dksX3_buys_1 11 rfl rfl)
theorem dX3_buys_36 : decode cX3_buys 36 = .ok (.getfield 78, 3) := dk_180 0 78 (dk_at dksX3_buys_1 12 rfl rfl)
theorem dX3_buys_39 : decode cX3_buys 39 = .ok (.iload_n 1, 1) := dk_27 (dk_at dksX3_buys_1 15 rfl rfl)
theorem dX3_buys_40 : decode cX3_buys 40 = .ok (.dup2, 1) := dk_92 (dk_at dksX3_buys_1 16 rfl rfl)
theorem dX3_buys_41 : decode cX3_buys 41 = .ok (.iaload, 1) := dk_46 (dk_at dksX3_buys_1 17 rfl rfl)
theorem dX3_buys_42 : decode cX3_buys 42 = .ok (.aload_n 0, 1) := dk_42 (dk_at dksX3_buys_1 18 rfl rfl)
theorem dX3_buys_43 : decode cX3_buys 43 = .ok (.getfield 36, 3) := dk_180 0 36 (dk_at dksX3_buys_1 19 rfl rfl)
theorem dX3_buys_46 : decode cX3_buys 46 = .ok (.iload_n 2, 1) := dk_28 (dk_at dksX3_buys_1 22 rfl rfl)
theorem dX3_buys_47 : decode cX3_buys 47 = .ok (.iaload, 1) := dk_46 (dk_at dksX3_buys_1 23 rfl rfl)
theorem dX3_buys_48 : decode cX3_buys 48 = .ok (.isub, 1) := dk_100 (dk_at dksX3_buys_2 0 rfl rfl)
theorem dX3_buys_49 : decode cX3_buys 49 = .ok (.iastore, 1) := dk_79 (dk_at dksX3_buys_2 1 rfl rfl)
theorem dX3_buys_50 : decode cX3_buys 50 = .ok (.aload_n 0, 1) := dk_42 (dk_at dksX3_buys_2 2 rfl rfl)
theorem dX3_buys_51 : decode cX3_buys 51 = .ok (.getfield 45, 3) := dk_180 0 45 (dk_at dksX3_buys_2 3 rfl rfl)
theorem dX3_buys_54 : decode cX3_buys 54 = .ok (.iload_n 2, 1) := dk_28 (dk_at dksX3_buys_2 6 rfl rfl)
theorem dX3_buys_55 : decode cX3_buys 55 = .ok (.dup2, 1) := dk_92 (dk_at dksX3_buys_2 7 rfl rfl)
theorem dX3_buys_56 : decode cX3_buys 56 = .ok (.iaload, 1) := dk_46 (dk_at dksX3_buys_2 8 rfl rfl)
theorem dX3_buys_57 : decode cX3_buys 57 = .ok (.aload_n 0, 1) := dk_42 (dk_at dksX3_buys_2 9 rfl rfl)
theorem dX3_buys_58 : decode cX3_buys 58 = .ok (.getfield 36, 3) := dk_180 0 36 (dk_at dksX3_buys_2 10 rfl rfl)
theorem dX3_buys_61 : decode cX3_buys 61 = .ok (.iload_n 2, 1) := dk_28 (dk_at dksX3_buys_2 13 rfl rfl)
theorem dX3_buys_62 : decode cX3_buys 62 = .ok (.iaload, 1) := dk_46 (dk_at dksX3_buys_2 14 rfl rfl)
theorem dX3_buys_63 : decode cX3_buys 63 = .ok (.iadd, 1) := dk_96 (dk_at dksX3_buys_2 15 rfl rfl)
theorem dX3_buys_64 : decode cX3_buys 64 = .ok (.iastore, 1) := dk_79 (dk_at dksX3_buys_2 16 rfl rfl)
theorem dX3_buys_65 : decode cX3_buys 65 = .ok (.aload_n 0, 1) := dk_42 (dk_at dksX3_buys_2 17 rfl rfl)
theorem dX3_buys_66 : decode cX3_buys 66 = .ok (.getfield 87, 3) := dk_180 0 87 (dk_at dksX3_buys_2 18 rfl rfl)
theorem dX3_buys_69 : decode cX3_buys 69 = .ok (.iload_n 1, 1) := dk_27 (dk_at dksX3_buys_2 21 rfl rfl)
theorem dX3_buys_70 : decode cX3_buys 70 = .ok (.dup2, 1) := dk_92 (dk_at dksX3_buys_2 22 rfl rfl)
theorem dX3_buys_71 : decode cX3_buys 71 = .ok (.iaload, 1) := dk_46 (dk_at dksX3_buys_2 23 rfl rfl)
theorem dX3_buys_72 : decode cX3_buys 72 = .ok (.iconst 1, 1) := dk_4 (dk_at dksX3_buys_3 0 rfl rfl)
theorem dX3_buys_73 : decode cX3_buys 73 = .ok (.iadd, 1) := dk_96 (dk_at dksX3_buys_3 1 rfl rfl)
theorem dX3_buys_74 : decode cX3_buys 74 = .ok (.iastore, 1) := dk_79 (dk_at dksX3_buys_3 2 rfl rfl)
theorem dX3_buys_75 : decode cX3_buys 75 = .ok (.aload_n 0, 1) := dk_42 (dk_at dksX3_buys_3 3 rfl rfl)
theorem dX3_buys_76 : decode cX3_buys 76 = .ok (.getfield 27, 3) := dk_180 0 27 (dk_at dksX3_buys_3 4 rfl rfl)
theorem dX3_buys_79 : decode cX3_buys 79 = .ok (.iload_n 2, 1) := dk_28 (dk_at dksX3_buys_3 7 rfl rfl)
theorem dX3_buys_80 : decode cX3_buys 80 = .ok (.iaload, 1) := dk_46 (dk_at dksX3_buys_3 8 rfl rfl)
theorem dX3_buys_81 : decode cX3_buys 81 = .ok (.ifCond .le 26, 3) := dk_158 0 26 (dk_at dksX3_buys_3 9 rfl rfl)
theorem dX3_buys_84 : decode cX3_buys 84 = .ok (.aload_n 0, 1) := dk_42 (dk_at dksX3_buys_3 12 rfl rfl)
theorem dX3_buys_85 : decode cX3_buys 85 = .ok (.getfield 27, 3) := dk_180 0 27 (dk_at dksX3_buys_3 13 rfl rfl)
theorem dX3_buys_88 : decode cX3_buys 88 = .ok (.iload_n 2, 1) := dk_28 (dk_at dksX3_buys_3 16 rfl rfl)
theorem dX3_buys_89 : decode cX3_buys 89 = .ok (.dup2, 1) := dk_92 (dk_at dksX3_buys_3 17 rfl rfl)
theorem dX3_buys_90 : decode cX3_buys 90 = .ok (.iaload, 1) := dk_46 (dk_at dksX3_buys_3 18 rfl rfl)
theorem dX3_buys_91 : decode cX3_buys 91 = .ok (.iconst 1, 1) := dk_4 (dk_at dksX3_buys_3 19 rfl rfl)
theorem dX3_buys_92 : decode cX3_buys 92 = .ok (.isub, 1) := dk_100 (dk_at dksX3_buys_3 20 rfl rfl)
theorem dX3_buys_93 : decode cX3_buys 93 = .ok (.iastore, 1) := dk_79 (dk_at dksX3_buys_3 21 rfl rfl)
theorem dX3_buys_94 : decode cX3_buys 94 = .ok (.aload_n 0, 1) := dk_42 (dk_at dksX3_buys_3 22 rfl rfl)
theorem dX3_buys_95 : decode cX3_buys 95 = .ok (.getfield 54, 3) := dk_180 0 54 (dk_at dksX3_buys_4 0 rfl rfl)
theorem dX3_buys_98 : decode cX3_buys 98 = .ok (.iload_n 2, 1) := dk_28 (dk_at dksX3_buys_4 3 rfl rfl)
theorem dX3_buys_99 : decode cX3_buys 99 = .ok (.dup2, 1) := dk_92 (dk_at dksX3_buys_4 4 rfl rfl)
theorem dX3_buys_100 : decode cX3_buys 100 = .ok (.iaload, 1) := dk_46 (dk_at dksX3_buys_4 5 rfl rfl)
theorem dX3_buys_101 : decode cX3_buys 101 = .ok (.iconst 1, 1) := dk_4 (dk_at dksX3_buys_4 6 rfl rfl)
theorem dX3_buys_102 : decode cX3_buys 102 = .ok (.iadd, 1) := dk_96 (dk_at dksX3_buys_4 7 rfl rfl)
theorem dX3_buys_103 : decode cX3_buys 103 = .ok (.iastore, 1) := dk_79 (dk_at dksX3_buys_4 8 rfl rfl)
theorem dX3_buys_104 : decode cX3_buys 104 = .ok (.goto 97, 3) := dk_167 0 97 (dk_at dksX3_buys_4 9 rfl rfl)
theorem dX3_buys_107 : decode cX3_buys 107 = .ok (.aload_n 0, 1) := dk_42 (dk_at dksX3_buys_4 12 rfl rfl)
theorem dX3_buys_108 : decode cX3_buys 108 = .ok (.getfield 30, 3) := dk_180 0 30 (dk_at dksX3_buys_4 13 rfl rfl)
theorem dX3_buys_111 : decode cX3_buys 111 = .ok (.iload_n 2, 1) := dk_28 (dk_at dksX3_buys_4 16 rfl rfl)
theorem dX3_buys_112 : decode cX3_buys 112 = .ok (.dup2, 1) := dk_92 (dk_at dksX3_buys_4 17 rfl rfl)
theorem dX3_buys_113 : decode cX3_buys 113 = .ok (.iaload, 1) := dk_46 (dk_at dksX3_buys_4 18 rfl rfl)
theorem dX3_buys_114 : decode cX3_buys 114 = .ok (.iconst 1, 1) := dk_4 (dk_at dksX3_buys_4 19 rfl rfl)
theorem dX3_buys_115 : decode cX3_buys 115 = .ok (.isub, 1) := dk_100 (dk_at dksX3_buys_4 20 rfl rfl)
theorem dX3_buys_116 : decode cX3_buys 116 = .ok (.iastore, 1) := dk_79 (dk_at dksX3_buys_4 21 rfl rfl)
theorem dX3_buys_117 : decode cX3_buys 117 = .ok (.goto 84, 3) := dk_167 0 84 (dk_at dksX3_buys_5 0 rfl rfl)
theorem dX3_buys_120 : decode cX3_buys 120 = .ok (.aload_n 0, 1) := dk_42 (dk_at dksX3_buys_5 3 rfl rfl)
theorem dX3_buys_121 : decode cX3_buys 121 = .ok (.iload_n 2, 1) := dk_28 (dk_at dksX3_buys_5 4 rfl rfl)
theorem dX3_buys_122 : decode cX3_buys 122 = .ok (.invokevirtual 534, 3) := dk_182 2 22 (dk_at dksX3_buys_5 5 rfl rfl)
theorem dX3_buys_125 : decode cX3_buys 125 = .ok (.istore 4, 2) := dk_54 4 (dk_at dksX3_buys_5 8 rfl rfl)
theorem dX3_buys_127 : decode cX3_buys 127 = .ok (.aload_n 0, 1) := dk_42 (dk_at dksX3_buys_5 10 rfl rfl)
theorem dX3_buys_128 : decode cX3_buys 128 = .ok (.getfield 78, 3) := dk_180 0 78 (dk_at dksX3_buys_5 11 rfl rfl)
theorem dX3_buys_131 : decode cX3_buys 131 = .ok (.iload_n 1, 1) := dk_27 (dk_at dksX3_buys_5 14 rfl rfl)
theorem dX3_buys_132 : decode cX3_buys 132 = .ok (.dup2, 1) := dk_92 (dk_at dksX3_buys_5 15 rfl rfl)
theorem dX3_buys_133 : decode cX3_buys 133 = .ok (.iaload, 1) := dk_46 (dk_at dksX3_buys_5 16 rfl rfl)
theorem dX3_buys_134 : decode cX3_buys 134 = .ok (.aload_n 0, 1) := dk_42 (dk_at dksX3_buys_5 17 rfl rfl)
theorem dX3_buys_135 : decode cX3_buys 135 = .ok (.getfield 39, 3) := dk_180 0 39 (dk_at dksX3_buys_5 18 rfl rfl)
theorem dX3_buys_138 : decode cX3_buys 138 = .ok (.iload_n 2, 1) := dk_28 (dk_at dksX3_buys_5 21 rfl rfl)
theorem dX3_buys_139 : decode cX3_buys 139 = .ok (.iaload, 1) := dk_46 (dk_at dksX3_buys_5 22 rfl rfl)
theorem dX3_buys_140 : decode cX3_buys 140 = .ok (.iload 4, 2) := dk_21 4 (dk_at dksX3_buys_6 0 rfl rfl)
theorem dX3_buys_142 : decode cX3_buys 142 = .ok (.iadd, 1) := dk_96 (dk_at dksX3_buys_6 2 rfl rfl)
theorem dX3_buys_143 : decode cX3_buys 143 = .ok (.isub, 1) := dk_100 (dk_at dksX3_buys_6 3 rfl rfl)
theorem dX3_buys_144 : decode cX3_buys 144 = .ok (.iastore, 1) := dk_79 (dk_at dksX3_buys_6 4 rfl rfl)
theorem dX3_buys_145 : decode cX3_buys 145 = .ok (.aload_n 0, 1) := dk_42 (dk_at dksX3_buys_6 5 rfl rfl)
theorem dX3_buys_146 : decode cX3_buys 146 = .ok (.getfield 45, 3) := dk_180 0 45 (dk_at dksX3_buys_6 6 rfl rfl)
theorem dX3_buys_149 : decode cX3_buys 149 = .ok (.iload_n 2, 1) := dk_28 (dk_at dksX3_buys_6 9 rfl rfl)
theorem dX3_buys_150 : decode cX3_buys 150 = .ok (.dup2, 1) := dk_92 (dk_at dksX3_buys_6 10 rfl rfl)
theorem dX3_buys_151 : decode cX3_buys 151 = .ok (.iaload, 1) := dk_46 (dk_at dksX3_buys_6 11 rfl rfl)
theorem dX3_buys_152 : decode cX3_buys 152 = .ok (.aload_n 0, 1) := dk_42 (dk_at dksX3_buys_6 12 rfl rfl)
theorem dX3_buys_153 : decode cX3_buys 153 = .ok (.getfield 39, 3) := dk_180 0 39 (dk_at dksX3_buys_6 13 rfl rfl)
theorem dX3_buys_156 : decode cX3_buys 156 = .ok (.iload_n 2, 1) := dk_28 (dk_at dksX3_buys_6 16 rfl rfl)
theorem dX3_buys_157 : decode cX3_buys 157 = .ok (.iaload, 1) := dk_46 (dk_at dksX3_buys_6 17 rfl rfl)
theorem dX3_buys_158 : decode cX3_buys 158 = .ok (.iadd, 1) := dk_96 (dk_at dksX3_buys_6 18 rfl rfl)
theorem dX3_buys_159 : decode cX3_buys 159 = .ok (.iastore, 1) := dk_79 (dk_at dksX3_buys_6 19 rfl rfl)
theorem dX3_buys_160 : decode cX3_buys 160 = .ok (.aload_n 0, 1) := dk_42 (dk_at dksX3_buys_6 20 rfl rfl)
theorem dX3_buys_161 : decode cX3_buys 161 = .ok (.dup, 1) := dk_89 (dk_at dksX3_buys_6 21 rfl rfl)
theorem dX3_buys_162 : decode cX3_buys 162 = .ok (.getfield 546, 3) := dk_180 2 34 (dk_at dksX3_buys_7 0 rfl rfl)
theorem dX3_buys_165 : decode cX3_buys 165 = .ok (.iload 4, 2) := dk_21 4 (dk_at dksX3_buys_7 3 rfl rfl)
theorem dX3_buys_167 : decode cX3_buys 167 = .ok (.iadd, 1) := dk_96 (dk_at dksX3_buys_7 5 rfl rfl)
theorem dX3_buys_168 : decode cX3_buys 168 = .ok (.putfield 546, 3) := dk_181 2 34 (dk_at dksX3_buys_7 6 rfl rfl)
theorem dX3_buys_171 : decode cX3_buys 171 = .ok (.aload_n 0, 1) := dk_42 (dk_at dksX3_buys_7 9 rfl rfl)
theorem dX3_buys_172 : decode cX3_buys 172 = .ok (.getfield 90, 3) := dk_180 0 90 (dk_at dksX3_buys_7 10 rfl rfl)
theorem dX3_buys_175 : decode cX3_buys 175 = .ok (.iload_n 1, 1) := dk_27 (dk_at dksX3_buys_7 13 rfl rfl)
theorem dX3_buys_176 : decode cX3_buys 176 = .ok (.dup2, 1) := dk_92 (dk_at dksX3_buys_7 14 rfl rfl)
theorem dX3_buys_177 : decode cX3_buys 177 = .ok (.iaload, 1) := dk_46 (dk_at dksX3_buys_7 15 rfl rfl)
theorem dX3_buys_178 : decode cX3_buys 178 = .ok (.iconst 1, 1) := dk_4 (dk_at dksX3_buys_7 16 rfl rfl)
theorem dX3_buys_179 : decode cX3_buys 179 = .ok (.iadd, 1) := dk_96 (dk_at dksX3_buys_7 17 rfl rfl)
theorem dX3_buys_180 : decode cX3_buys 180 = .ok (.iastore, 1) := dk_79 (dk_at dksX3_buys_7 18 rfl rfl)
theorem dX3_buys_181 : decode cX3_buys 181 = .ok (.aload_n 0, 1) := dk_42 (dk_at dksX3_buys_7 19 rfl rfl)
theorem dX3_buys_182 : decode cX3_buys 182 = .ok (.getfield 33, 3) := dk_180 0 33 (dk_at dksX3_buys_7 20 rfl rfl)
theorem dX3_buys_185 : decode cX3_buys 185 = .ok (.iload_n 2, 1) := dk_28 (dk_at dksX3_buys_7 23 rfl rfl)
theorem dX3_buys_186 : decode cX3_buys 186 = .ok (.dup2, 1) := dk_92 (dk_at dksX3_buys_8 0 rfl rfl)
theorem dX3_buys_187 : decode cX3_buys 187 = .ok (.iaload, 1) := dk_46 (dk_at dksX3_buys_8 1 rfl rfl)
theorem dX3_buys_188 : decode cX3_buys 188 = .ok (.iconst 1, 1) := dk_4 (dk_at dksX3_buys_8 2 rfl rfl)
theorem dX3_buys_189 : decode cX3_buys 189 = .ok (.isub, 1) := dk_100 (dk_at dksX3_buys_8 3 rfl rfl)
theorem dX3_buys_190 : decode cX3_buys 190 = .ok (.iastore, 1) := dk_79 (dk_at dksX3_buys_8 4 rfl rfl)
theorem dX3_buys_191 : decode cX3_buys 191 = .ok (.aload_n 0, 1) := dk_42 (dk_at dksX3_buys_8 5 rfl rfl)
theorem dX3_buys_192 : decode cX3_buys 192 = .ok (.getfield 57, 3) := dk_180 0 57 (dk_at dksX3_buys_8 6 rfl rfl)
theorem dX3_buys_195 : decode cX3_buys 195 = .ok (.iload_n 2, 1) := dk_28 (dk_at dksX3_buys_8 9 rfl rfl)
theorem dX3_buys_196 : decode cX3_buys 196 = .ok (.dup2, 1) := dk_92 (dk_at dksX3_buys_8 10 rfl rfl)
theorem dX3_buys_197 : decode cX3_buys 197 = .ok (.iaload, 1) := dk_46 (dk_at dksX3_buys_8 11 rfl rfl)
theorem dX3_buys_198 : decode cX3_buys 198 = .ok (.iconst 1, 1) := dk_4 (dk_at dksX3_buys_8 12 rfl rfl)
theorem dX3_buys_199 : decode cX3_buys 199 = .ok (.iadd, 1) := dk_96 (dk_at dksX3_buys_8 13 rfl rfl)
theorem dX3_buys_200 : decode cX3_buys 200 = .ok (.iastore, 1) := dk_79 (dk_at dksX3_buys_8 14 rfl rfl)
theorem dX3_buys_201 : decode cX3_buys 201 = .ok (.return_, 1) := dk_177 (dk_at dksX3_buys_8 15 rfl rfl)
abbrev cX3_seasons : ByteArray := prog_14_method_86_code
def yX3_seasons : MethodName := ⟨RX3, "seasons", "()V"⟩
def dkwX3_seasons_6 : List UInt8 := [180, 0, 57, 27, 46, 79, 42, 180, 0, 57, 27, 3, 79, 132, 1, 1, 167, 255, 150, 177]
abbrev dktX3_seasons_6 : List UInt8 := dkwX3_seasons_6 ++ []
def dkwX3_seasons_5 : List UInt8 := [162, 0, 14, 42, 180, 0, 39, 27, 46, 4, 96, 167, 0, 5, 16, 99, 79, 42, 180, 0, 60, 27, 42]
abbrev dktX3_seasons_5 : List UInt8 := dkwX3_seasons_5 ++ dktX3_seasons_6
def dkwX3_seasons_4 : List UInt8 := [46, 4, 100, 167, 0, 4, 4, 79, 167, 0, 33, 42, 180, 0, 39, 27, 42, 180, 0, 39, 27, 46, 16, 99]
abbrev dktX3_seasons_4 : List UInt8 := dkwX3_seasons_4 ++ dktX3_seasons_5
def dkwX3_seasons_3 : List UInt8 := [46, 162, 0, 34, 42, 180, 0, 39, 27, 42, 180, 0, 39, 27, 46, 4, 164, 0, 14, 42, 180, 0, 39, 27]
abbrev dktX3_seasons_3 : List UInt8 := dkwX3_seasons_3 ++ dktX3_seasons_4
def dkwX3_seasons_2 : List UInt8 := [167, 255, 210, 3, 60, 27, 42, 180, 1, 14, 162, 0, 104, 42, 180, 0, 57, 27, 46, 42, 180, 0, 60, 27]
abbrev dktX3_seasons_2 : List UInt8 := dkwX3_seasons_2 ++ dktX3_seasons_3
def dkwX3_seasons_1 : List UInt8 := [182, 1, 186, 42, 180, 0, 105, 27, 92, 47, 42, 3, 182, 1, 189, 184, 1, 192, 133, 97, 80, 132, 1, 1]
abbrev dktX3_seasons_1 : List UInt8 := dkwX3_seasons_1 ++ dktX3_seasons_2
def dkwX3_seasons_0 : List UInt8 := [3, 60, 27, 42, 180, 1, 22, 162, 0, 44, 42, 180, 0, 66, 27, 46, 154, 0, 6, 167, 0, 26, 42, 27]
abbrev dktX3_seasons_0 : List UInt8 := dkwX3_seasons_0 ++ dktX3_seasons_1
theorem dksX3_seasons_0 : cX3_seasons.data.toList.drop 0 = dktX3_seasons_0 := by decide +kernel
theorem dksX3_seasons_1 : cX3_seasons.data.toList.drop 24 = dktX3_seasons_1 := dk_seg dksX3_seasons_0 24 rfl rfl
theorem dksX3_seasons_2 : cX3_seasons.data.toList.drop 48 = dktX3_seasons_2 := dk_seg dksX3_seasons_1 24 rfl rfl
theorem dksX3_seasons_3 : cX3_seasons.data.toList.drop 72 = dktX3_seasons_3 := dk_seg dksX3_seasons_2 24 rfl rfl
theorem dksX3_seasons_4 : cX3_seasons.data.toList.drop 96 = dktX3_seasons_4 := dk_seg dksX3_seasons_3 24 rfl rfl
theorem dksX3_seasons_5 : cX3_seasons.data.toList.drop 120 = dktX3_seasons_5 := dk_seg dksX3_seasons_4 24 rfl rfl
theorem dksX3_seasons_6 : cX3_seasons.data.toList.drop 143 = dktX3_seasons_6 := dk_seg dksX3_seasons_5 23 rfl rfl
theorem dX3_seasons_0 : decode cX3_seasons 0 = .ok (.iconst 0, 1) := dk_3 (dk_at dksX3_seasons_0 0 rfl rfl)
theorem dX3_seasons_1 : decode cX3_seasons 1 = .ok (.istore_n 1, 1) := dk_60 (dk_at dksX3_seasons_0 1 rfl rfl)
theorem dX3_seasons_2 : decode cX3_seasons 2 = .ok (.iload_n 1, 1) := dk_27 (dk_at dksX3_seasons_0 2 rfl rfl)
theorem dX3_seasons_3 : decode cX3_seasons 3 = .ok (.aload_n 0, 1) := dk_42 (dk_at dksX3_seasons_0 3 rfl rfl)
theorem dX3_seasons_4 : decode cX3_seasons 4 = .ok (.getfield 278, 3) := dk_180 1 22 (dk_at dksX3_seasons_0 4 rfl rfl)
theorem dX3_seasons_7 : decode cX3_seasons 7 = .ok (.if_icmp .ge 44, 3) := dk_162 0 44 (dk_at dksX3_seasons_0 7 rfl rfl)
theorem dX3_seasons_10 : decode cX3_seasons 10 = .ok (.aload_n 0, 1) := dk_42 (dk_at dksX3_seasons_0 10 rfl rfl)
theorem dX3_seasons_11 : decode cX3_seasons 11 = .ok (.getfield 66, 3) := dk_180 0 66 (dk_at dksX3_seasons_0 11 rfl rfl)
theorem dX3_seasons_14 : decode cX3_seasons 14 = .ok (.iload_n 1, 1) := dk_27 (dk_at dksX3_seasons_0 14 rfl rfl)
theorem dX3_seasons_15 : decode cX3_seasons 15 = .ok (.iaload, 1) := dk_46 (dk_at dksX3_seasons_0 15 rfl rfl)
theorem dX3_seasons_16 : decode cX3_seasons 16 = .ok (.ifCond .ne 6, 3) := dk_154 0 6 (dk_at dksX3_seasons_0 16 rfl rfl)
theorem dX3_seasons_19 : decode cX3_seasons 19 = .ok (.goto 26, 3) := dk_167 0 26 (dk_at dksX3_seasons_0 19 rfl rfl)
theorem dX3_seasons_22 : decode cX3_seasons 22 = .ok (.aload_n 0, 1) := dk_42 (dk_at dksX3_seasons_0 22 rfl rfl)
theorem dX3_seasons_23 : decode cX3_seasons 23 = .ok (.iload_n 1, 1) := dk_27 (dk_at dksX3_seasons_0 23 rfl rfl)
theorem dX3_seasons_24 : decode cX3_seasons 24 = .ok (.invokevirtual 442, 3) := dk_182 1 186 (dk_at dksX3_seasons_1 0 rfl rfl)
theorem dX3_seasons_27 : decode cX3_seasons 27 = .ok (.aload_n 0, 1) := dk_42 (dk_at dksX3_seasons_1 3 rfl rfl)
theorem dX3_seasons_28 : decode cX3_seasons 28 = .ok (.getfield 105, 3) := dk_180 0 105 (dk_at dksX3_seasons_1 4 rfl rfl)
theorem dX3_seasons_31 : decode cX3_seasons 31 = .ok (.iload_n 1, 1) := dk_27 (dk_at dksX3_seasons_1 7 rfl rfl)
theorem dX3_seasons_32 : decode cX3_seasons 32 = .ok (.dup2, 1) := dk_92 (dk_at dksX3_seasons_1 8 rfl rfl)
theorem dX3_seasons_33 : decode cX3_seasons 33 = .ok (.laload, 1) := dk_47 (dk_at dksX3_seasons_1 9 rfl rfl)
theorem dX3_seasons_34 : decode cX3_seasons 34 = .ok (.aload_n 0, 1) := dk_42 (dk_at dksX3_seasons_1 10 rfl rfl)
theorem dX3_seasons_35 : decode cX3_seasons 35 = .ok (.iconst 0, 1) := dk_3 (dk_at dksX3_seasons_1 11 rfl rfl)
theorem dX3_seasons_36 : decode cX3_seasons 36 = .ok (.invokevirtual 445, 3) := dk_182 1 189 (dk_at dksX3_seasons_1 12 rfl rfl)
theorem dX3_seasons_39 : decode cX3_seasons 39 = .ok (.invokestatic 448, 3) := dk_184 1 192 (dk_at dksX3_seasons_1 15 rfl rfl)
theorem dX3_seasons_42 : decode cX3_seasons 42 = .ok (.i2l, 1) := dk_133 (dk_at dksX3_seasons_1 18 rfl rfl)
theorem dX3_seasons_43 : decode cX3_seasons 43 = .ok (.ladd, 1) := dk_97 (dk_at dksX3_seasons_1 19 rfl rfl)
theorem dX3_seasons_44 : decode cX3_seasons 44 = .ok (.lastore, 1) := dk_80 (dk_at dksX3_seasons_1 20 rfl rfl)
theorem dX3_seasons_45 : decode cX3_seasons 45 = .ok (.iinc 1 1, 3) := dk_132 1 1 (dk_at dksX3_seasons_1 21 rfl rfl)
theorem dX3_seasons_48 : decode cX3_seasons 48 = .ok (.goto (-46), 3) := dk_167 255 210 (dk_at dksX3_seasons_2 0 rfl rfl)
theorem dX3_seasons_51 : decode cX3_seasons 51 = .ok (.iconst 0, 1) := dk_3 (dk_at dksX3_seasons_2 3 rfl rfl)
theorem dX3_seasons_52 : decode cX3_seasons 52 = .ok (.istore_n 1, 1) := dk_60 (dk_at dksX3_seasons_2 4 rfl rfl)
theorem dX3_seasons_53 : decode cX3_seasons 53 = .ok (.iload_n 1, 1) := dk_27 (dk_at dksX3_seasons_2 5 rfl rfl)
theorem dX3_seasons_54 : decode cX3_seasons 54 = .ok (.aload_n 0, 1) := dk_42 (dk_at dksX3_seasons_2 6 rfl rfl)
theorem dX3_seasons_55 : decode cX3_seasons 55 = .ok (.getfield 270, 3) := dk_180 1 14 (dk_at dksX3_seasons_2 7 rfl rfl)
theorem dX3_seasons_58 : decode cX3_seasons 58 = .ok (.if_icmp .ge 104, 3) := dk_162 0 104 (dk_at dksX3_seasons_2 10 rfl rfl)
theorem dX3_seasons_61 : decode cX3_seasons 61 = .ok (.aload_n 0, 1) := dk_42 (dk_at dksX3_seasons_2 13 rfl rfl)
theorem dX3_seasons_62 : decode cX3_seasons 62 = .ok (.getfield 57, 3) := dk_180 0 57 (dk_at dksX3_seasons_2 14 rfl rfl)
theorem dX3_seasons_65 : decode cX3_seasons 65 = .ok (.iload_n 1, 1) := dk_27 (dk_at dksX3_seasons_2 17 rfl rfl)
theorem dX3_seasons_66 : decode cX3_seasons 66 = .ok (.iaload, 1) := dk_46 (dk_at dksX3_seasons_2 18 rfl rfl)
theorem dX3_seasons_67 : decode cX3_seasons 67 = .ok (.aload_n 0, 1) := dk_42 (dk_at dksX3_seasons_2 19 rfl rfl)
theorem dX3_seasons_68 : decode cX3_seasons 68 = .ok (.getfield 60, 3) := dk_180 0 60 (dk_at dksX3_seasons_2 20 rfl rfl)
theorem dX3_seasons_71 : decode cX3_seasons 71 = .ok (.iload_n 1, 1) := dk_27 (dk_at dksX3_seasons_2 23 rfl rfl)
theorem dX3_seasons_72 : decode cX3_seasons 72 = .ok (.iaload, 1) := dk_46 (dk_at dksX3_seasons_3 0 rfl rfl)
theorem dX3_seasons_73 : decode cX3_seasons 73 = .ok (.if_icmp .ge 34, 3) := dk_162 0 34 (dk_at dksX3_seasons_3 1 rfl rfl)
theorem dX3_seasons_76 : decode cX3_seasons 76 = .ok (.aload_n 0, 1) := dk_42 (dk_at dksX3_seasons_3 4 rfl rfl)
theorem dX3_seasons_77 : decode cX3_seasons 77 = .ok (.getfield 39, 3) := dk_180 0 39 (dk_at dksX3_seasons_3 5 rfl rfl)
theorem dX3_seasons_80 : decode cX3_seasons 80 = .ok (.iload_n 1, 1) := dk_27 (dk_at dksX3_seasons_3 8 rfl rfl)
theorem dX3_seasons_81 : decode cX3_seasons 81 = .ok (.aload_n 0, 1) := dk_42 (dk_at dksX3_seasons_3 9 rfl rfl)
theorem dX3_seasons_82 : decode cX3_seasons 82 = .ok (.getfield 39, 3) := dk_180 0 39 (dk_at dksX3_seasons_3 10 rfl rfl)
theorem dX3_seasons_85 : decode cX3_seasons 85 = .ok (.iload_n 1, 1) := dk_27 (dk_at dksX3_seasons_3 13 rfl rfl)
theorem dX3_seasons_86 : decode cX3_seasons 86 = .ok (.iaload, 1) := dk_46 (dk_at dksX3_seasons_3 14 rfl rfl)
theorem dX3_seasons_87 : decode cX3_seasons 87 = .ok (.iconst 1, 1) := dk_4 (dk_at dksX3_seasons_3 15 rfl rfl)
theorem dX3_seasons_88 : decode cX3_seasons 88 = .ok (.if_icmp .le 14, 3) := dk_164 0 14 (dk_at dksX3_seasons_3 16 rfl rfl)
theorem dX3_seasons_91 : decode cX3_seasons 91 = .ok (.aload_n 0, 1) := dk_42 (dk_at dksX3_seasons_3 19 rfl rfl)
theorem dX3_seasons_92 : decode cX3_seasons 92 = .ok (.getfield 39, 3) := dk_180 0 39 (dk_at dksX3_seasons_3 20 rfl rfl)
theorem dX3_seasons_95 : decode cX3_seasons 95 = .ok (.iload_n 1, 1) := dk_27 (dk_at dksX3_seasons_3 23 rfl rfl)
theorem dX3_seasons_96 : decode cX3_seasons 96 = .ok (.iaload, 1) := dk_46 (dk_at dksX3_seasons_4 0 rfl rfl)
theorem dX3_seasons_97 : decode cX3_seasons 97 = .ok (.iconst 1, 1) := dk_4 (dk_at dksX3_seasons_4 1 rfl rfl)
theorem dX3_seasons_98 : decode cX3_seasons 98 = .ok (.isub, 1) := dk_100 (dk_at dksX3_seasons_4 2 rfl rfl)
theorem dX3_seasons_99 : decode cX3_seasons 99 = .ok (.goto 4, 3) := dk_167 0 4 (dk_at dksX3_seasons_4 3 rfl rfl)
theorem dX3_seasons_102 : decode cX3_seasons 102 = .ok (.iconst 1, 1) := dk_4 (dk_at dksX3_seasons_4 6 rfl rfl)
theorem dX3_seasons_103 : decode cX3_seasons 103 = .ok (.iastore, 1) := dk_79 (dk_at dksX3_seasons_4 7 rfl rfl)
theorem dX3_seasons_104 : decode cX3_seasons 104 = .ok (.goto 33, 3) := dk_167 0 33 (dk_at dksX3_seasons_4 8 rfl rfl)
theorem dX3_seasons_107 : decode cX3_seasons 107 = .ok (.aload_n 0, 1) := dk_42 (dk_at dksX3_seasons_4 11 rfl rfl)
theorem dX3_seasons_108 : decode cX3_seasons 108 = .ok (.getfield 39, 3) := dk_180 0 39 (dk_at dksX3_seasons_4 12 rfl rfl)
theorem dX3_seasons_111 : decode cX3_seasons 111 = .ok (.iload_n 1, 1) := dk_27 (dk_at dksX3_seasons_4 15 rfl rfl)
theorem dX3_seasons_112 : decode cX3_seasons 112 = .ok (.aload_n 0, 1) := dk_42 (dk_at dksX3_seasons_4 16 rfl rfl)
theorem dX3_seasons_113 : decode cX3_seasons 113 = .ok (.getfield 39, 3) := dk_180 0 39 (dk_at dksX3_seasons_4 17 rfl rfl)
theorem dX3_seasons_116 : decode cX3_seasons 116 = .ok (.iload_n 1, 1) := dk_27 (dk_at dksX3_seasons_4 20 rfl rfl)
theorem dX3_seasons_117 : decode cX3_seasons 117 = .ok (.iaload, 1) := dk_46 (dk_at dksX3_seasons_4 21 rfl rfl)
theorem dX3_seasons_118 : decode cX3_seasons 118 = .ok (.bipush 99, 2) := dk_16 99 (dk_at dksX3_seasons_4 22 rfl rfl)
theorem dX3_seasons_120 : decode cX3_seasons 120 = .ok (.if_icmp .ge 14, 3) := dk_162 0 14 (dk_at dksX3_seasons_5 0 rfl rfl)
theorem dX3_seasons_123 : decode cX3_seasons 123 = .ok (.aload_n 0, 1) := dk_42 (dk_at dksX3_seasons_5 3 rfl rfl)
theorem dX3_seasons_124 : decode cX3_seasons 124 = .ok (.getfield 39, 3) := dk_180 0 39 (dk_at dksX3_seasons_5 4 rfl rfl)
theorem dX3_seasons_127 : decode cX3_seasons 127 = .ok (.iload_n 1, 1) := dk_27 (dk_at dksX3_seasons_5 7 rfl rfl)
theorem dX3_seasons_128 : decode cX3_seasons 128 = .ok (.iaload, 1) := dk_46 (dk_at dksX3_seasons_5 8 rfl rfl)
theorem dX3_seasons_129 : decode cX3_seasons 129 = .ok (.iconst 1, 1) := dk_4 (dk_at dksX3_seasons_5 9 rfl rfl)
theorem dX3_seasons_130 : decode cX3_seasons 130 = .ok (.iadd, 1) := dk_96 (dk_at dksX3_seasons_5 10 rfl rfl)
theorem dX3_seasons_131 : decode cX3_seasons 131 = .ok (.goto 5, 3) := dk_167 0 5 (dk_at dksX3_seasons_5 11 rfl rfl)
theorem dX3_seasons_134 : decode cX3_seasons 134 = .ok (.bipush 99, 2) := dk_16 99 (dk_at dksX3_seasons_5 14 rfl rfl)
theorem dX3_seasons_136 : decode cX3_seasons 136 = .ok (.iastore, 1) := dk_79 (dk_at dksX3_seasons_5 16 rfl rfl)
theorem dX3_seasons_137 : decode cX3_seasons 137 = .ok (.aload_n 0, 1) := dk_42 (dk_at dksX3_seasons_5 17 rfl rfl)
theorem dX3_seasons_138 : decode cX3_seasons 138 = .ok (.getfield 60, 3) := dk_180 0 60 (dk_at dksX3_seasons_5 18 rfl rfl)
theorem dX3_seasons_141 : decode cX3_seasons 141 = .ok (.iload_n 1, 1) := dk_27 (dk_at dksX3_seasons_5 21 rfl rfl)
theorem dX3_seasons_142 : decode cX3_seasons 142 = .ok (.aload_n 0, 1) := dk_42 (dk_at dksX3_seasons_5 22 rfl rfl)
theorem dX3_seasons_143 : decode cX3_seasons 143 = .ok (.getfield 57, 3) := dk_180 0 57 (dk_at dksX3_seasons_6 0 rfl rfl)
theorem dX3_seasons_146 : decode cX3_seasons 146 = .ok (.iload_n 1, 1) := dk_27 (dk_at dksX3_seasons_6 3 rfl rfl)
theorem dX3_seasons_147 : decode cX3_seasons 147 = .ok (.iaload, 1) := dk_46 (dk_at dksX3_seasons_6 4 rfl rfl)
theorem dX3_seasons_148 : decode cX3_seasons 148 = .ok (.iastore, 1) := dk_79 (dk_at dksX3_seasons_6 5 rfl rfl)
theorem dX3_seasons_149 : decode cX3_seasons 149 = .ok (.aload_n 0, 1) := dk_42 (dk_at dksX3_seasons_6 6 rfl rfl)
theorem dX3_seasons_150 : decode cX3_seasons 150 = .ok (.getfield 57, 3) := dk_180 0 57 (dk_at dksX3_seasons_6 7 rfl rfl)
theorem dX3_seasons_153 : decode cX3_seasons 153 = .ok (.iload_n 1, 1) := dk_27 (dk_at dksX3_seasons_6 10 rfl rfl)
theorem dX3_seasons_154 : decode cX3_seasons 154 = .ok (.iconst 0, 1) := dk_3 (dk_at dksX3_seasons_6 11 rfl rfl)
theorem dX3_seasons_155 : decode cX3_seasons 155 = .ok (.iastore, 1) := dk_79 (dk_at dksX3_seasons_6 12 rfl rfl)
theorem dX3_seasons_156 : decode cX3_seasons 156 = .ok (.iinc 1 1, 3) := dk_132 1 1 (dk_at dksX3_seasons_6 13 rfl rfl)
theorem dX3_seasons_159 : decode cX3_seasons 159 = .ok (.goto (-106), 3) := dk_167 255 150 (dk_at dksX3_seasons_6 16 rfl rfl)
theorem dX3_seasons_162 : decode cX3_seasons 162 = .ok (.return_, 1) := dk_177 (dk_at dksX3_seasons_6 19 rfl rfl)
abbrev cX3_goRound : ByteArray := prog_14_method_87_code
def yX3_goRound : MethodName := ⟨RX3, "goRound", "()V"⟩
def dkwX3_goRound_5 : List UInt8 := [167, 255, 233, 177]
abbrev dktX3_goRound_5 : List UInt8 := dkwX3_goRound_5 ++ []
def dkwX3_goRound_4 : List UInt8 := [27, 42, 180, 1, 14, 162, 0, 21, 42, 180, 0, 42, 27, 42, 180, 1, 2, 27, 46, 79, 132, 1, 1]
abbrev dktX3_goRound_4 : List UInt8 := dkwX3_goRound_4 ++ dktX3_goRound_5
def dkwX3_goRound_3 : List UInt8 := [27, 42, 180, 0, 42, 28, 46, 5, 100, 79, 132, 2, 1, 167, 255, 203, 132, 1, 1, 167, 255, 170, 3, 60]
abbrev dktX3_goRound_3 : List UInt8 := dkwX3_goRound_3 ++ dktX3_goRound_4
def dkwX3_goRound_2 : List UInt8 := [158, 0, 34, 42, 180, 0, 42, 28, 46, 5, 100, 42, 180, 1, 2, 27, 46, 164, 0, 17, 42, 180, 1, 2]
abbrev dktX3_goRound_2 : List UInt8 := dkwX3_goRound_2 ++ dktX3_goRound_3
def dkwX3_goRound_1 : List UInt8 := [184, 1, 192, 79, 3, 61, 28, 42, 180, 1, 14, 162, 0, 51, 42, 180, 0, 14, 27, 50, 28, 46]
abbrev dktX3_goRound_1 : List UInt8 := dkwX3_goRound_1 ++ dktX3_goRound_2
def dkwX3_goRound_0 : List UInt8 := [3, 60, 27, 42, 180, 1, 14, 162, 0, 84, 42, 180, 1, 2, 27, 42, 180, 0, 42, 27, 46, 4, 100]
abbrev dktX3_goRound_0 : List UInt8 := dkwX3_goRound_0 ++ dktX3_goRound_1
theorem dksX3_goRound_0 : cX3_goRound.data.toList.drop 0 = dktX3_goRound_0 := by decide +kernel
theorem dksX3_goRound_1 : cX3_goRound.data.toList.drop 23 = dktX3_goRound_1 := dk_seg dksX3_goRound_0 23 rfl rfl
theorem dksX3_goRound_2 : cX3_goRound.data.toList.drop 45 = dktX3_goRound_2 := dk_seg dksX3_goRound_1 22 rfl rfl
theorem dksX3_goRound_3 : cX3_goRound.data.toList.drop 69 = dktX3_goRound_3 := dk_seg dksX3_goRound_2 24 rfl rfl
theorem dksX3_goRound_4 : cX3_goRound.data.toList.drop 93 = dktX3_goRound_4 := dk_seg dksX3_goRound_3 24 rfl rfl
theorem dksX3_goRound_5 : cX3_goRound.data.toList.drop 116 = dktX3_goRound_5 := dk_seg dksX3_goRound_4 23 rfl rfl
theorem dX3_goRound_0 : decode cX3_goRound 0 = .ok (.iconst 0, 1) := dk_3 (dk_at dksX3_goRound_0 0 rfl rfl)
theorem dX3_goRound_1 : decode cX3_goRound 1 = .ok (.istore_n 1, 1) := dk_60 (dk_at dksX3_goRound_0 1 rfl rfl)
theorem dX3_goRound_2 : decode cX3_goRound 2 = .ok (.iload_n 1, 1) := dk_27 (dk_at dksX3_goRound_0 2 rfl rfl)
theorem dX3_goRound_3 : decode cX3_goRound 3 = .ok (.aload_n 0, 1) := dk_42 (dk_at dksX3_goRound_0 3 rfl rfl)
theorem dX3_goRound_4 : decode cX3_goRound 4 = .ok (.getfield 270, 3) := dk_180 1 14 (dk_at dksX3_goRound_0 4 rfl rfl)
theorem dX3_goRound_7 : decode cX3_goRound 7 = .ok (.if_icmp .ge 84, 3) := dk_162 0 84 (dk_at dksX3_goRound_0 7 rfl rfl)
theorem dX3_goRound_10 : decode cX3_goRound 10 = .ok (.aload_n 0, 1) := dk_42 (dk_at dksX3_goRound_0 10 rfl rfl)
theorem dX3_goRound_11 : decode cX3_goRound 11 = .ok (.getfield 258, 3) := dk_180 1 2 (dk_at dksX3_goRound_0 11 rfl rfl)
theorem dX3_goRound_14 : decode cX3_goRound 14 = .ok (.iload_n 1, 1) := dk_27 (dk_at dksX3_goRound_0 14 rfl rfl)
theorem dX3_goRound_15 : decode cX3_goRound 15 = .ok (.aload_n 0, 1) := dk_42 (dk_at dksX3_goRound_0 15 rfl rfl)
theorem dX3_goRound_16 : decode cX3_goRound 16 = .ok (.getfield 42, 3) := dk_180 0 42 (dk_at dksX3_goRound_0 16 rfl rfl)
theorem dX3_goRound_19 : decode cX3_goRound 19 = .ok (.iload_n 1, 1) := dk_27 (dk_at dksX3_goRound_0 19 rfl rfl)
theorem dX3_goRound_20 : decode cX3_goRound 20 = .ok (.iaload, 1) := dk_46 (dk_at dksX3_goRound_0 20 rfl rfl)
theorem dX3_goRound_21 : decode cX3_goRound 21 = .ok (.iconst 1, 1) := dk_4 (dk_at dksX3_goRound_0 21 rfl rfl)
theorem dX3_goRound_22 : decode cX3_goRound 22 = .ok (.isub, 1) := dk_100 (dk_at dksX3_goRound_0 22 rfl rfl)
theorem dX3_goRound_23 : decode cX3_goRound 23 = .ok (.invokestatic 448, 3) := dk_184 1 192 (dk_at dksX3_goRound_1 0 rfl rfl)
theorem dX3_goRound_26 : decode cX3_goRound 26 = .ok (.iastore, 1) := dk_79 (dk_at dksX3_goRound_1 3 rfl rfl)
theorem dX3_goRound_27 : decode cX3_goRound 27 = .ok (.iconst 0, 1) := dk_3 (dk_at dksX3_goRound_1 4 rfl rfl)
theorem dX3_goRound_28 : decode cX3_goRound 28 = .ok (.istore_n 2, 1) := dk_61 (dk_at dksX3_goRound_1 5 rfl rfl)
theorem dX3_goRound_29 : decode cX3_goRound 29 = .ok (.iload_n 2, 1) := dk_28 (dk_at dksX3_goRound_1 6 rfl rfl)
theorem dX3_goRound_30 : decode cX3_goRound 30 = .ok (.aload_n 0, 1) := dk_42 (dk_at dksX3_goRound_1 7 rfl rfl)
theorem dX3_goRound_31 : decode cX3_goRound 31 = .ok (.getfield 270, 3) := dk_180 1 14 (dk_at dksX3_goRound_1 8 rfl rfl)
theorem dX3_goRound_34 : decode cX3_goRound 34 = .ok (.if_icmp .ge 51, 3) := dk_162 0 51 (dk_at dksX3_goRound_1 11 rfl rfl)
theorem dX3_goRound_37 : decode cX3_goRound 37 = .ok (.aload_n 0, 1) := dk_42 (dk_at dksX3_goRound_1 14 rfl rfl)
theorem dX3_goRound_38 : decode cX3_goRound 38 = .ok (.getfield 14, 3) := dk_180 0 14 (dk_at dksX3_goRound_1 15 rfl rfl)
theorem dX3_goRound_41 : decode cX3_goRound 41 = .ok (.iload_n 1, 1) := dk_27 (dk_at dksX3_goRound_1 18 rfl rfl)
theorem dX3_goRound_42 : decode cX3_goRound 42 = .ok (.aaload, 1) := dk_50 (dk_at dksX3_goRound_1 19 rfl rfl)
theorem dX3_goRound_43 : decode cX3_goRound 43 = .ok (.iload_n 2, 1) := dk_28 (dk_at dksX3_goRound_1 20 rfl rfl)
theorem dX3_goRound_44 : decode cX3_goRound 44 = .ok (.iaload, 1) := dk_46 (dk_at dksX3_goRound_1 21 rfl rfl)
theorem dX3_goRound_45 : decode cX3_goRound 45 = .ok (.ifCond .le 34, 3) := dk_158 0 34 (dk_at dksX3_goRound_2 0 rfl rfl)
theorem dX3_goRound_48 : decode cX3_goRound 48 = .ok (.aload_n 0, 1) := dk_42 (dk_at dksX3_goRound_2 3 rfl rfl)
theorem dX3_goRound_49 : decode cX3_goRound 49 = .ok (.getfield 42, 3) := dk_180 0 42 (dk_at dksX3_goRound_2 4 rfl rfl)
theorem dX3_goRound_52 : decode cX3_goRound 52 = .ok (.iload_n 2, 1) := dk_28 (dk_at dksX3_goRound_2 7 rfl rfl)
theorem dX3_goRound_53 : decode cX3_goRound 53 = .ok (.iaload, 1) := dk_46 (dk_at dksX3_goRound_2 8 rfl rfl)
theorem dX3_goRound_54 : decode cX3_goRound 54 = .ok (.iconst 2, 1) := dk_5 (dk_at dksX3_goRound_2 9 rfl rfl)
theorem dX3_goRound_55 : decode cX3_goRound 55 = .ok (.isub, 1) := dk_100 (dk_at dksX3_goRound_2 10 rfl rfl)
theorem dX3_goRound_56 : decode cX3_goRound 56 = .ok (.aload_n 0, 1) := dk_42 (dk_at dksX3_goRound_2 11 rfl rfl)
theorem dX3_goRound_57 : decode cX3_goRound 57 = .ok (.getfield 258, 3) := dk_180 1 2 (dk_at dksX3_goRound_2 12 rfl rfl)
theorem dX3_goRound_60 : decode cX3_goRound 60 = .ok (.iload_n 1, 1) := dk_27 (dk_at dksX3_goRound_2 15 rfl rfl)
theorem dX3_goRound_61 : decode cX3_goRound 61 = .ok (.iaload, 1) := dk_46 (dk_at dksX3_goRound_2 16 rfl rfl)
theorem dX3_goRound_62 : decode cX3_goRound 62 = .ok (.if_icmp .le 17, 3) := dk_164 0 17 (dk_at dksX3_goRound_2 17 rfl rfl)
theorem dX3_goRound_65 : decode cX3_goRound 65 = .ok (.aload_n 0, 1) := dk_42 (dk_at dksX3_goRound_2 20 rfl rfl)
theorem dX3_goRound_66 : decode cX3_goRound 66 = .ok (.getfield 258, 3) := dk_180 1 2 (dk_at dksX3_goRound_2 21 rfl rfl)
theorem dX3_goRound_69 : decode cX3_goRound 69 = .ok (.iload_n 1, 1) := dk_27 (dk_at dksX3_goRound_3 0 rfl rfl)
theorem dX3_goRound_70 : decode cX3_goRound 70 = .ok (.aload_n 0, 1) := dk_42 (dk_at dksX3_goRound_3 1 rfl rfl)
theorem dX3_goRound_71 : decode cX3_goRound 71 = .ok (.getfield 42, 3) := dk_180 0 42 (dk_at dksX3_goRound_3 2 rfl rfl)
theorem dX3_goRound_74 : decode cX3_goRound 74 = .ok (.iload_n 2, 1) := dk_28 (dk_at dksX3_goRound_3 5 rfl rfl)
theorem dX3_goRound_75 : decode cX3_goRound 75 = .ok (.iaload, 1) := dk_46 (dk_at dksX3_goRound_3 6 rfl rfl)
theorem dX3_goRound_76 : decode cX3_goRound 76 = .ok (.iconst 2, 1) := dk_5 (dk_at dksX3_goRound_3 7 rfl rfl)
theorem dX3_goRound_77 : decode cX3_goRound 77 = .ok (.isub, 1) := dk_100 (dk_at dksX3_goRound_3 8 rfl rfl)
theorem dX3_goRound_78 : decode cX3_goRound 78 = .ok (.iastore, 1) := dk_79 (dk_at dksX3_goRound_3 9 rfl rfl)
theorem dX3_goRound_79 : decode cX3_goRound 79 = .ok (.iinc 2 1, 3) := dk_132 2 1 (dk_at dksX3_goRound_3 10 rfl rfl)
theorem dX3_goRound_82 : decode cX3_goRound 82 = .ok (.goto (-53), 3) := dk_167 255 203 (dk_at dksX3_goRound_3 13 rfl rfl)
theorem dX3_goRound_85 : decode cX3_goRound 85 = .ok (.iinc 1 1, 3) := dk_132 1 1 (dk_at dksX3_goRound_3 16 rfl rfl)
theorem dX3_goRound_88 : decode cX3_goRound 88 = .ok (.goto (-86), 3) := dk_167 255 170 (dk_at dksX3_goRound_3 19 rfl rfl)
theorem dX3_goRound_91 : decode cX3_goRound 91 = .ok (.iconst 0, 1) := dk_3 (dk_at dksX3_goRound_3 22 rfl rfl)
theorem dX3_goRound_92 : decode cX3_goRound 92 = .ok (.istore_n 1, 1) := dk_60 (dk_at dksX3_goRound_3 23 rfl rfl)
theorem dX3_goRound_93 : decode cX3_goRound 93 = .ok (.iload_n 1, 1) := dk_27 (dk_at dksX3_goRound_4 0 rfl rfl)
theorem dX3_goRound_94 : decode cX3_goRound 94 = .ok (.aload_n 0, 1) := dk_42 (dk_at dksX3_goRound_4 1 rfl rfl)
theorem dX3_goRound_95 : decode cX3_goRound 95 = .ok (.getfield 270, 3) := dk_180 1 14 (dk_at dksX3_goRound_4 2 rfl rfl)
theorem dX3_goRound_98 : decode cX3_goRound 98 = .ok (.if_icmp .ge 21, 3) := dk_162 0 21 (dk_at dksX3_goRound_4 5 rfl rfl)
theorem dX3_goRound_101 : decode cX3_goRound 101 = .ok (.aload_n 0, 1) := dk_42 (dk_at dksX3_goRound_4 8 rfl rfl)
theorem dX3_goRound_102 : decode cX3_goRound 102 = .ok (.getfield 42, 3) := dk_180 0 42 (dk_at dksX3_goRound_4 9 rfl rfl)
theorem dX3_goRound_105 : decode cX3_goRound 105 = .ok (.iload_n 1, 1) := dk_27 (dk_at dksX3_goRound_4 12 rfl rfl)
theorem dX3_goRound_106 : decode cX3_goRound 106 = .ok (.aload_n 0, 1) := dk_42 (dk_at dksX3_goRound_4 13 rfl rfl)
theorem dX3_goRound_107 : decode cX3_goRound 107 = .ok (.getfield 258, 3) := dk_180 1 2 (dk_at dksX3_goRound_4 14 rfl rfl)
theorem dX3_goRound_110 : decode cX3_goRound 110 = .ok (.iload_n 1, 1) := dk_27 (dk_at dksX3_goRound_4 17 rfl rfl)
theorem dX3_goRound_111 : decode cX3_goRound 111 = .ok (.iaload, 1) := dk_46 (dk_at dksX3_goRound_4 18 rfl rfl)
theorem dX3_goRound_112 : decode cX3_goRound 112 = .ok (.iastore, 1) := dk_79 (dk_at dksX3_goRound_4 19 rfl rfl)
theorem dX3_goRound_113 : decode cX3_goRound 113 = .ok (.iinc 1 1, 3) := dk_132 1 1 (dk_at dksX3_goRound_4 20 rfl rfl)
theorem dX3_goRound_116 : decode cX3_goRound 116 = .ok (.goto (-23), 3) := dk_167 255 233 (dk_at dksX3_goRound_5 0 rfl rfl)
theorem dX3_goRound_119 : decode cX3_goRound 119 = .ok (.return_, 1) := dk_177 (dk_at dksX3_goRound_5 3 rfl rfl)
abbrev cX3_gift : ByteArray := prog_14_method_90_code
def yX3_gift : MethodName := ⟨RX3, "gift", "(III)I"⟩
def dkwX3_gift_3 : List UInt8 := [29, 79, 42, 89, 180, 2, 57, 4, 96, 181, 2, 57, 42, 180, 2, 57, 4, 100, 172]
abbrev dktX3_gift_3 : List UInt8 := dkwX3_gift_3 ++ []
def dkwX3_gift_2 : List UInt8 := [42, 180, 2, 57, 27, 79, 42, 180, 1, 8, 42, 180, 2, 57, 28, 79, 42, 180, 1, 11, 42, 180, 2, 57]
abbrev dktX3_gift_2 : List UInt8 := dkwX3_gift_2 ++ dktX3_gift_3
def dkwX3_gift_1 : List UInt8 := [20, 1, 228, 184, 1, 18, 153, 0, 12, 42, 180, 2, 57, 16, 8, 160, 0, 5, 2, 172, 42, 180, 1, 5]
abbrev dktX3_gift_1 : List UInt8 := dkwX3_gift_1 ++ dktX3_gift_2
def dkwX3_gift_0 : List UInt8 := [27, 133, 10, 20, 2, 18, 184, 1, 18, 153, 0, 32, 42, 28, 182, 1, 41, 153, 0, 24, 29, 133, 9]
abbrev dktX3_gift_0 : List UInt8 := dkwX3_gift_0 ++ dktX3_gift_1
theorem dksX3_gift_0 : cX3_gift.data.toList.drop 0 = dktX3_gift_0 := by decide +kernel
theorem dksX3_gift_1 : cX3_gift.data.toList.drop 23 = dktX3_gift_1 := dk_seg dksX3_gift_0 23 rfl rfl
theorem dksX3_gift_2 : cX3_gift.data.toList.drop 47 = dktX3_gift_2 := dk_seg dksX3_gift_1 24 rfl rfl
theorem dksX3_gift_3 : cX3_gift.data.toList.drop 71 = dktX3_gift_3 := dk_seg dksX3_gift_2 24 rfl rfl
theorem dX3_gift_0 : decode cX3_gift 0 = .ok (.iload_n 1, 1) := dk_27 (dk_at dksX3_gift_0 0 rfl rfl)
theorem dX3_gift_1 : decode cX3_gift 1 = .ok (.i2l, 1) := dk_133 (dk_at dksX3_gift_0 1 rfl rfl)
theorem dX3_gift_2 : decode cX3_gift 2 = .ok (.lconst 1, 1) := dk_10 (dk_at dksX3_gift_0 2 rfl rfl)
theorem dX3_gift_3 : decode cX3_gift 3 = .ok (.ldc2_w 530, 3) := dk_20 2 18 (dk_at dksX3_gift_0 3 rfl rfl)
theorem dX3_gift_6 : decode cX3_gift 6 = .ok (.invokestatic 274, 3) := dk_184 1 18 (dk_at dksX3_gift_0 6 rfl rfl)
theorem dX3_gift_9 : decode cX3_gift 9 = .ok (.ifCond .eq 32, 3) := dk_153 0 32 (dk_at dksX3_gift_0 9 rfl rfl)
theorem dX3_gift_12 : decode cX3_gift 12 = .ok (.aload_n 0, 1) := dk_42 (dk_at dksX3_gift_0 12 rfl rfl)
theorem dX3_gift_13 : decode cX3_gift 13 = .ok (.iload_n 2, 1) := dk_28 (dk_at dksX3_gift_0 13 rfl rfl)
theorem dX3_gift_14 : decode cX3_gift 14 = .ok (.invokevirtual 297, 3) := dk_182 1 41 (dk_at dksX3_gift_0 14 rfl rfl)
theorem dX3_gift_17 : decode cX3_gift 17 = .ok (.ifCond .eq 24, 3) := dk_153 0 24 (dk_at dksX3_gift_0 17 rfl rfl)
theorem dX3_gift_20 : decode cX3_gift 20 = .ok (.iload_n 3, 1) := dk_29 (dk_at dksX3_gift_0 20 rfl rfl)
theorem dX3_gift_21 : decode cX3_gift 21 = .ok (.i2l, 1) := dk_133 (dk_at dksX3_gift_0 21 rfl rfl)
theorem dX3_gift_22 : decode cX3_gift 22 = .ok (.lconst 0, 1) := dk_9 (dk_at dksX3_gift_0 22 rfl rfl)
theorem dX3_gift_23 : decode cX3_gift 23 = .ok (.ldc2_w 484, 3) := dk_20 1 228 (dk_at dksX3_gift_1 0 rfl rfl)
theorem dX3_gift_26 : decode cX3_gift 26 = .ok (.invokestatic 274, 3) := dk_184 1 18 (dk_at dksX3_gift_1 3 rfl rfl)
theorem dX3_gift_29 : decode cX3_gift 29 = .ok (.ifCond .eq 12, 3) := dk_153 0 12 (dk_at dksX3_gift_1 6 rfl rfl)
theorem dX3_gift_32 : decode cX3_gift 32 = .ok (.aload_n 0, 1) := dk_42 (dk_at dksX3_gift_1 9 rfl rfl)
theorem dX3_gift_33 : decode cX3_gift 33 = .ok (.getfield 569, 3) := dk_180 2 57 (dk_at dksX3_gift_1 10 rfl rfl)
theorem dX3_gift_36 : decode cX3_gift 36 = .ok (.bipush 8, 2) := dk_16 8 (dk_at dksX3_gift_1 13 rfl rfl)
theorem dX3_gift_38 : decode cX3_gift 38 = .ok (.if_icmp .ne 5, 3) := dk_160 0 5 (dk_at dksX3_gift_1 15 rfl rfl)
theorem dX3_gift_41 : decode cX3_gift 41 = .ok (.iconst (-1), 1) := dk_2 (dk_at dksX3_gift_1 18 rfl rfl)
theorem dX3_gift_42 : decode cX3_gift 42 = .ok (.ireturn, 1) := dk_172 (dk_at dksX3_gift_1 19 rfl rfl)
theorem dX3_gift_43 : decode cX3_gift 43 = .ok (.aload_n 0, 1) := dk_42 (dk_at dksX3_gift_1 20 rfl rfl)
theorem dX3_gift_44 : decode cX3_gift 44 = .ok (.getfield 261, 3) := dk_180 1 5 (dk_at dksX3_gift_1 21 rfl rfl)
theorem dX3_gift_47 : decode cX3_gift 47 = .ok (.aload_n 0, 1) := dk_42 (dk_at dksX3_gift_2 0 rfl rfl)
theorem dX3_gift_48 : decode cX3_gift 48 = .ok (.getfield 569, 3) := dk_180 2 57 (dk_at dksX3_gift_2 1 rfl rfl)
theorem dX3_gift_51 : decode cX3_gift 51 = .ok (.iload_n 1, 1) := dk_27 (dk_at dksX3_gift_2 4 rfl rfl)
theorem dX3_gift_52 : decode cX3_gift 52 = .ok (.iastore, 1) := dk_79 (dk_at dksX3_gift_2 5 rfl rfl)
theorem dX3_gift_53 : decode cX3_gift 53 = .ok (.aload_n 0, 1) := dk_42 (dk_at dksX3_gift_2 6 rfl rfl)
theorem dX3_gift_54 : decode cX3_gift 54 = .ok (.getfield 264, 3) := dk_180 1 8 (dk_at dksX3_gift_2 7 rfl rfl)
theorem dX3_gift_57 : decode cX3_gift 57 = .ok (.aload_n 0, 1) := dk_42 (dk_at dksX3_gift_2 10 rfl rfl)
theorem dX3_gift_58 : decode cX3_gift 58 = .ok (.getfield 569, 3) := dk_180 2 57 (dk_at dksX3_gift_2 11 rfl rfl)
theorem dX3_gift_61 : decode cX3_gift 61 = .ok (.iload_n 2, 1) := dk_28 (dk_at dksX3_gift_2 14 rfl rfl)
theorem dX3_gift_62 : decode cX3_gift 62 = .ok (.iastore, 1) := dk_79 (dk_at dksX3_gift_2 15 rfl rfl)
theorem dX3_gift_63 : decode cX3_gift 63 = .ok (.aload_n 0, 1) := dk_42 (dk_at dksX3_gift_2 16 rfl rfl)
theorem dX3_gift_64 : decode cX3_gift 64 = .ok (.getfield 267, 3) := dk_180 1 11 (dk_at dksX3_gift_2 17 rfl rfl)
theorem dX3_gift_67 : decode cX3_gift 67 = .ok (.aload_n 0, 1) := dk_42 (dk_at dksX3_gift_2 20 rfl rfl)
theorem dX3_gift_68 : decode cX3_gift 68 = .ok (.getfield 569, 3) := dk_180 2 57 (dk_at dksX3_gift_2 21 rfl rfl)
theorem dX3_gift_71 : decode cX3_gift 71 = .ok (.iload_n 3, 1) := dk_29 (dk_at dksX3_gift_3 0 rfl rfl)
theorem dX3_gift_72 : decode cX3_gift 72 = .ok (.iastore, 1) := dk_79 (dk_at dksX3_gift_3 1 rfl rfl)
theorem dX3_gift_73 : decode cX3_gift 73 = .ok (.aload_n 0, 1) := dk_42 (dk_at dksX3_gift_3 2 rfl rfl)
theorem dX3_gift_74 : decode cX3_gift 74 = .ok (.dup, 1) := dk_89 (dk_at dksX3_gift_3 3 rfl rfl)
theorem dX3_gift_75 : decode cX3_gift 75 = .ok (.getfield 569, 3) := dk_180 2 57 (dk_at dksX3_gift_3 4 rfl rfl)
theorem dX3_gift_78 : decode cX3_gift 78 = .ok (.iconst 1, 1) := dk_4 (dk_at dksX3_gift_3 7 rfl rfl)
theorem dX3_gift_79 : decode cX3_gift 79 = .ok (.iadd, 1) := dk_96 (dk_at dksX3_gift_3 8 rfl rfl)
theorem dX3_gift_80 : decode cX3_gift 80 = .ok (.putfield 569, 3) := dk_181 2 57 (dk_at dksX3_gift_3 9 rfl rfl)
theorem dX3_gift_83 : decode cX3_gift 83 = .ok (.aload_n 0, 1) := dk_42 (dk_at dksX3_gift_3 12 rfl rfl)
theorem dX3_gift_84 : decode cX3_gift 84 = .ok (.getfield 569, 3) := dk_180 2 57 (dk_at dksX3_gift_3 13 rfl rfl)
theorem dX3_gift_87 : decode cX3_gift 87 = .ok (.iconst 1, 1) := dk_4 (dk_at dksX3_gift_3 16 rfl rfl)
theorem dX3_gift_88 : decode cX3_gift 88 = .ok (.isub, 1) := dk_100 (dk_at dksX3_gift_3 17 rfl rfl)
theorem dX3_gift_89 : decode cX3_gift 89 = .ok (.ireturn, 1) := dk_172 (dk_at dksX3_gift_3 18 rfl rfl)
abbrev cX3_forget : ByteArray := prog_14_method_91_code
def yX3_forget : MethodName := ⟨RX3, "forget", "()I"⟩
def dkwX3_forget_0 : List UInt8 := [42, 180, 2, 57, 60, 42, 3, 181, 2, 57, 27, 172]
abbrev dktX3_forget_0 : List UInt8 := dkwX3_forget_0 ++ []
theorem dksX3_forget_0 : cX3_forget.data.toList.drop 0 = dktX3_forget_0 := by decide +kernel
theorem dX3_forget_0 : decode cX3_forget 0 = .ok (.aload_n 0, 1) := dk_42 (dk_at dksX3_forget_0 0 rfl rfl)
theorem dX3_forget_1 : decode cX3_forget 1 = .ok (.getfield 569, 3) := dk_180 2 57 (dk_at dksX3_forget_0 1 rfl rfl)
theorem dX3_forget_4 : decode cX3_forget 4 = .ok (.istore_n 1, 1) := dk_60 (dk_at dksX3_forget_0 4 rfl rfl)
theorem dX3_forget_5 : decode cX3_forget 5 = .ok (.aload_n 0, 1) := dk_42 (dk_at dksX3_forget_0 5 rfl rfl)
theorem dX3_forget_6 : decode cX3_forget 6 = .ok (.iconst 0, 1) := dk_3 (dk_at dksX3_forget_0 6 rfl rfl)
theorem dX3_forget_7 : decode cX3_forget 7 = .ok (.putfield 569, 3) := dk_181 2 57 (dk_at dksX3_forget_0 7 rfl rfl)
theorem dX3_forget_10 : decode cX3_forget 10 = .ok (.iload_n 1, 1) := dk_27 (dk_at dksX3_forget_0 10 rfl rfl)
theorem dX3_forget_11 : decode cX3_forget 11 = .ok (.ireturn, 1) := dk_172 (dk_at dksX3_forget_0 11 rfl rfl)
abbrev cX3_best : ByteArray := prog_14_method_94_code
def yX3_best : MethodName := ⟨RX3, "best", "(II)I"⟩
def dkwX3_best_5 : List UInt8 := [154, 0, 7, 29, 167, 0, 18, 28, 4, 160, 0, 8, 21, 4, 167, 0, 8, 42, 29, 182, 2, 63, 172]
abbrev dktX3_best_5 : List UInt8 := dkwX3_best_5 ++ []
def dkwX3_best_4 : List UInt8 := [182, 2, 63, 161, 0, 6, 167, 0, 10, 21, 5, 62, 21, 6, 54, 4, 132, 5, 1, 167, 255, 183, 28]
abbrev dktX3_best_4 : List UInt8 := dkwX3_best_4 ++ dktX3_best_5
def dkwX3_best_3 : List UInt8 := [54, 6, 21, 6, 21, 4, 161, 0, 34, 21, 6, 21, 4, 160, 0, 20, 42, 21, 5, 182, 2, 63, 42, 29]
abbrev dktX3_best_3 : List UInt8 := dkwX3_best_3 ++ dktX3_best_4
def dkwX3_best_2 : List UInt8 := [120, 162, 0, 68, 42, 21, 5, 182, 2, 63, 27, 164, 0, 6, 167, 0, 49, 42, 21, 5, 182, 2, 60]
abbrev dktX3_best_2 : List UInt8 := dkwX3_best_2 ++ dktX3_best_3
def dkwX3_best_1 : List UInt8 := [160, 0, 5, 2, 172, 3, 62, 42, 3, 182, 2, 60, 54, 4, 4, 54, 5, 21, 5, 4, 42, 180, 2, 57]
abbrev dktX3_best_1 : List UInt8 := dkwX3_best_1 ++ dktX3_best_2
def dkwX3_best_0 : List UInt8 := [27, 155, 0, 25, 28, 133, 9, 20, 1, 228, 184, 1, 18, 153, 0, 13, 42, 180, 1, 30, 17, 0, 156]
abbrev dktX3_best_0 : List UInt8 := dkwX3_best_0 ++ dktX3_best_1
theorem dksX3_best_0 : cX3_best.data.toList.drop 0 = dktX3_best_0 := by decide +kernel
theorem dksX3_best_1 : cX3_best.data.toList.drop 23 = dktX3_best_1 := dk_seg dksX3_best_0 23 rfl rfl
theorem dksX3_best_2 : cX3_best.data.toList.drop 47 = dktX3_best_2 := dk_seg dksX3_best_1 24 rfl rfl
theorem dksX3_best_3 : cX3_best.data.toList.drop 70 = dktX3_best_3 := dk_seg dksX3_best_2 23 rfl rfl
theorem dksX3_best_4 : cX3_best.data.toList.drop 94 = dktX3_best_4 := dk_seg dksX3_best_3 24 rfl rfl
theorem dksX3_best_5 : cX3_best.data.toList.drop 117 = dktX3_best_5 := dk_seg dksX3_best_4 23 rfl rfl
theorem dX3_best_0 : decode cX3_best 0 = .ok (.iload_n 1, 1) := dk_27 (dk_at dksX3_best_0 0 rfl rfl)
theorem dX3_best_1 : decode cX3_best 1 = .ok (.ifCond .lt 25, 3) := dk_155 0 25 (dk_at dksX3_best_0 1 rfl rfl)
theorem dX3_best_4 : decode cX3_best 4 = .ok (.iload_n 2, 1) := dk_28 (dk_at dksX3_best_0 4 rfl rfl)
theorem dX3_best_5 : decode cX3_best 5 = .ok (.i2l, 1) := dk_133 (dk_at dksX3_best_0 5 rfl rfl)
theorem dX3_best_6 : decode cX3_best 6 = .ok (.lconst 0, 1) := dk_9 (dk_at dksX3_best_0 6 rfl rfl)
theorem dX3_best_7 : decode cX3_best 7 = .ok (.ldc2_w 484, 3) := dk_20 1 228 (dk_at dksX3_best_0 7 rfl rfl)
theorem dX3_best_10 : decode cX3_best 10 = .ok (.invokestatic 274, 3) := dk_184 1 18 (dk_at dksX3_best_0 10 rfl rfl)
theorem dX3_best_13 : decode cX3_best 13 = .ok (.ifCond .eq 13, 3) := dk_153 0 13 (dk_at dksX3_best_0 13 rfl rfl)
theorem dX3_best_16 : decode cX3_best 16 = .ok (.aload_n 0, 1) := dk_42 (dk_at dksX3_best_0 16 rfl rfl)
theorem dX3_best_17 : decode cX3_best 17 = .ok (.getfield 286, 3) := dk_180 1 30 (dk_at dksX3_best_0 17 rfl rfl)
theorem dX3_best_20 : decode cX3_best 20 = .ok (.sipush 156, 3) := dk_17 0 156 (dk_at dksX3_best_0 20 rfl rfl)
theorem dX3_best_23 : decode cX3_best 23 = .ok (.if_icmp .ne 5, 3) := dk_160 0 5 (dk_at dksX3_best_1 0 rfl rfl)
theorem dX3_best_26 : decode cX3_best 26 = .ok (.iconst (-1), 1) := dk_2 (dk_at dksX3_best_1 3 rfl rfl)
theorem dX3_best_27 : decode cX3_best 27 = .ok (.ireturn, 1) := dk_172 (dk_at dksX3_best_1 4 rfl rfl)
theorem dX3_best_28 : decode cX3_best 28 = .ok (.iconst 0, 1) := dk_3 (dk_at dksX3_best_1 5 rfl rfl)
theorem dX3_best_29 : decode cX3_best 29 = .ok (.istore_n 3, 1) := dk_62 (dk_at dksX3_best_1 6 rfl rfl)
theorem dX3_best_30 : decode cX3_best 30 = .ok (.aload_n 0, 1) := dk_42 (dk_at dksX3_best_1 7 rfl rfl)
theorem dX3_best_31 : decode cX3_best 31 = .ok (.iconst 0, 1) := dk_3 (dk_at dksX3_best_1 8 rfl rfl)
theorem dX3_best_32 : decode cX3_best 32 = .ok (.invokevirtual 572, 3) := dk_182 2 60 (dk_at dksX3_best_1 9 rfl rfl)
theorem dX3_best_35 : decode cX3_best 35 = .ok (.istore 4, 2) := dk_54 4 (dk_at dksX3_best_1 12 rfl rfl)
theorem dX3_best_37 : decode cX3_best 37 = .ok (.iconst 1, 1) := dk_4 (dk_at dksX3_best_1 14 rfl rfl)
theorem dX3_best_38 : decode cX3_best 38 = .ok (.istore 5, 2) := dk_54 5 (dk_at dksX3_best_1 15 rfl rfl)
theorem dX3_best_40 : decode cX3_best 40 = .ok (.iload 5, 2) := dk_21 5 (dk_at dksX3_best_1 17 rfl rfl)
theorem dX3_best_42 : decode cX3_best 42 = .ok (.iconst 1, 1) := dk_4 (dk_at dksX3_best_1 19 rfl rfl)
theorem dX3_best_43 : decode cX3_best 43 = .ok (.aload_n 0, 1) := dk_42 (dk_at dksX3_best_1 20 rfl rfl)
theorem dX3_best_44 : decode cX3_best 44 = .ok (.getfield 569, 3) := dk_180 2 57 (dk_at dksX3_best_1 21 rfl rfl)
theorem dX3_best_47 : decode cX3_best 47 = .ok (.ishl, 1) := dk_120 (dk_at dksX3_best_2 0 rfl rfl)
theorem dX3_best_48 : decode cX3_best 48 = .ok (.if_icmp .ge 68, 3) := dk_162 0 68 (dk_at dksX3_best_2 1 rfl rfl)
theorem dX3_best_51 : decode cX3_best 51 = .ok (.aload_n 0, 1) := dk_42 (dk_at dksX3_best_2 4 rfl rfl)
theorem dX3_best_52 : decode cX3_best 52 = .ok (.iload 5, 2) := dk_21 5 (dk_at dksX3_best_2 5 rfl rfl)
theorem dX3_best_54 : decode cX3_best 54 = .ok (.invokevirtual 575, 3) := dk_182 2 63 (dk_at dksX3_best_2 7 rfl rfl)
theorem dX3_best_57 : decode cX3_best 57 = .ok (.iload_n 1, 1) := dk_27 (dk_at dksX3_best_2 10 rfl rfl)
theorem dX3_best_58 : decode cX3_best 58 = .ok (.if_icmp .le 6, 3) := dk_164 0 6 (dk_at dksX3_best_2 11 rfl rfl)
theorem dX3_best_61 : decode cX3_best 61 = .ok (.goto 49, 3) := dk_167 0 49 (dk_at dksX3_best_2 14 rfl rfl)
theorem dX3_best_64 : decode cX3_best 64 = .ok (.aload_n 0, 1) := dk_42 (dk_at dksX3_best_2 17 rfl rfl)
theorem dX3_best_65 : decode cX3_best 65 = .ok (.iload 5, 2) := dk_21 5 (dk_at dksX3_best_2 18 rfl rfl)
theorem dX3_best_67 : decode cX3_best 67 = .ok (.invokevirtual 572, 3) := dk_182 2 60 (dk_at dksX3_best_2 20 rfl rfl)
theorem dX3_best_70 : decode cX3_best 70 = .ok (.istore 6, 2) := dk_54 6 (dk_at dksX3_best_3 0 rfl rfl)
theorem dX3_best_72 : decode cX3_best 72 = .ok (.iload 6, 2) := dk_21 6 (dk_at dksX3_best_3 2 rfl rfl)
theorem dX3_best_74 : decode cX3_best 74 = .ok (.iload 4, 2) := dk_21 4 (dk_at dksX3_best_3 4 rfl rfl)
theorem dX3_best_76 : decode cX3_best 76 = .ok (.if_icmp .lt 34, 3) := dk_161 0 34 (dk_at dksX3_best_3 6 rfl rfl)
theorem dX3_best_79 : decode cX3_best 79 = .ok (.iload 6, 2) := dk_21 6 (dk_at dksX3_best_3 9 rfl rfl)
theorem dX3_best_81 : decode cX3_best 81 = .ok (.iload 4, 2) := dk_21 4 (dk_at dksX3_best_3 11 rfl rfl)
theorem dX3_best_83 : decode cX3_best 83 = .ok (.if_icmp .ne 20, 3) := dk_160 0 20 (dk_at dksX3_best_3 13 rfl rfl)
theorem dX3_best_86 : decode cX3_best 86 = .ok (.aload_n 0, 1) := dk_42 (dk_at dksX3_best_3 16 rfl rfl)
theorem dX3_best_87 : decode cX3_best 87 = .ok (.iload 5, 2) := dk_21 5 (dk_at dksX3_best_3 17 rfl rfl)
theorem dX3_best_89 : decode cX3_best 89 = .ok (.invokevirtual 575, 3) := dk_182 2 63 (dk_at dksX3_best_3 19 rfl rfl)
theorem dX3_best_92 : decode cX3_best 92 = .ok (.aload_n 0, 1) := dk_42 (dk_at dksX3_best_3 22 rfl rfl)
theorem dX3_best_93 : decode cX3_best 93 = .ok (.iload_n 3, 1) := dk_29 (dk_at dksX3_best_3 23 rfl rfl)
theorem dX3_best_94 : decode cX3_best 94 = .ok (.invokevirtual 575, 3) := dk_182 2 63 (dk_at dksX3_best_4 0 rfl rfl)
theorem dX3_best_97 : decode cX3_best 97 = .ok (.if_icmp .lt 6, 3) := dk_161 0 6 (dk_at dksX3_best_4 3 rfl rfl)
theorem dX3_best_100 : decode cX3_best 100 = .ok (.goto 10, 3) := dk_167 0 10 (dk_at dksX3_best_4 6 rfl rfl)
theorem dX3_best_103 : decode cX3_best 103 = .ok (.iload 5, 2) := dk_21 5 (dk_at dksX3_best_4 9 rfl rfl)
theorem dX3_best_105 : decode cX3_best 105 = .ok (.istore_n 3, 1) := dk_62 (dk_at dksX3_best_4 11 rfl rfl)
theorem dX3_best_106 : decode cX3_best 106 = .ok (.iload 6, 2) := dk_21 6 (dk_at dksX3_best_4 12 rfl rfl)
theorem dX3_best_108 : decode cX3_best 108 = .ok (.istore 4, 2) := dk_54 4 (dk_at dksX3_best_4 14 rfl rfl)
theorem dX3_best_110 : decode cX3_best 110 = .ok (.iinc 5 1, 3) := dk_132 5 1 (dk_at dksX3_best_4 16 rfl rfl)
theorem dX3_best_113 : decode cX3_best 113 = .ok (.goto (-73), 3) := dk_167 255 183 (dk_at dksX3_best_4 19 rfl rfl)
theorem dX3_best_116 : decode cX3_best 116 = .ok (.iload_n 2, 1) := dk_28 (dk_at dksX3_best_4 22 rfl rfl)
theorem dX3_best_117 : decode cX3_best 117 = .ok (.ifCond .ne 7, 3) := dk_154 0 7 (dk_at dksX3_best_5 0 rfl rfl)
theorem dX3_best_120 : decode cX3_best 120 = .ok (.iload_n 3, 1) := dk_29 (dk_at dksX3_best_5 3 rfl rfl)
theorem dX3_best_121 : decode cX3_best 121 = .ok (.goto 18, 3) := dk_167 0 18 (dk_at dksX3_best_5 4 rfl rfl)
theorem dX3_best_124 : decode cX3_best 124 = .ok (.iload_n 2, 1) := dk_28 (dk_at dksX3_best_5 7 rfl rfl)
theorem dX3_best_125 : decode cX3_best 125 = .ok (.iconst 1, 1) := dk_4 (dk_at dksX3_best_5 8 rfl rfl)
theorem dX3_best_126 : decode cX3_best 126 = .ok (.if_icmp .ne 8, 3) := dk_160 0 8 (dk_at dksX3_best_5 9 rfl rfl)
theorem dX3_best_129 : decode cX3_best 129 = .ok (.iload 4, 2) := dk_21 4 (dk_at dksX3_best_5 12 rfl rfl)
theorem dX3_best_131 : decode cX3_best 131 = .ok (.goto 8, 3) := dk_167 0 8 (dk_at dksX3_best_5 14 rfl rfl)
theorem dX3_best_134 : decode cX3_best 134 = .ok (.aload_n 0, 1) := dk_42 (dk_at dksX3_best_5 17 rfl rfl)
theorem dX3_best_135 : decode cX3_best 135 = .ok (.iload_n 3, 1) := dk_29 (dk_at dksX3_best_5 18 rfl rfl)
theorem dX3_best_136 : decode cX3_best 136 = .ok (.invokevirtual 575, 3) := dk_182 2 63 (dk_at dksX3_best_5 19 rfl rfl)
theorem dX3_best_139 : decode cX3_best 139 = .ok (.ireturn, 1) := dk_172 (dk_at dksX3_best_5 22 rfl rfl)
abbrev cX3_spunWith : ByteArray := prog_14_method_93_code
def yX3_spunWith : MethodName := ⟨RX3, "spunWith", "(I)I"⟩
def dkwX3_spunWith_6 : List UInt8 := [21, 4, 46, 8, 96, 79, 132, 2, 1, 167, 255, 112, 42, 182, 1, 201, 172]
abbrev dktX3_spunWith_6 : List UInt8 := dkwX3_spunWith_6 ++ []
def dkwX3_spunWith_5 : List UInt8 := [180, 0, 206, 21, 4, 46, 8, 96, 17, 39, 15, 164, 0, 9, 17, 39, 15, 167, 0, 12, 42, 180, 0, 206]
abbrev dktX3_spunWith_5 : List UInt8 := dkwX3_spunWith_5 ++ dktX3_spunWith_6
def dkwX3_spunWith_4 : List UInt8 := [29, 92, 46, 4, 96, 79, 42, 180, 1, 11, 28, 46, 5, 160, 0, 40, 42, 180, 0, 206, 21, 4, 42]
abbrev dktX3_spunWith_4 : List UInt8 := dkwX3_spunWith_4 ++ dktX3_spunWith_5
def dkwX3_spunWith_3 : List UInt8 := [180, 1, 11, 28, 46, 4, 160, 0, 24, 42, 180, 0, 212, 29, 46, 16, 9, 162, 0, 13, 42, 180, 0, 212]
abbrev dktX3_spunWith_3 : List UInt8 := dkwX3_spunWith_3 ++ dktX3_spunWith_4
def dkwX3_spunWith_2 : List UInt8 := [154, 0, 23, 42, 180, 0, 209, 29, 46, 8, 162, 0, 13, 42, 180, 0, 209, 29, 92, 46, 4, 96, 79, 42]
abbrev dktX3_spunWith_2 : List UInt8 := dkwX3_spunWith_2 ++ dktX3_spunWith_3
def dkwX3_spunWith_1 : List UInt8 := [167, 0, 125, 42, 180, 1, 8, 28, 46, 62, 42, 180, 0, 63, 29, 46, 54, 4, 42, 180, 1, 11, 28, 46]
abbrev dktX3_spunWith_1 : List UInt8 := dkwX3_spunWith_1 ++ dktX3_spunWith_2
def dkwX3_spunWith_0 : List UInt8 := [42, 182, 1, 198, 3, 61, 28, 42, 180, 2, 57, 162, 0, 142, 27, 28, 122, 4, 126, 154, 0, 6]
abbrev dktX3_spunWith_0 : List UInt8 := dkwX3_spunWith_0 ++ dktX3_spunWith_1
theorem dksX3_spunWith_0 : cX3_spunWith.data.toList.drop 0 = dktX3_spunWith_0 := by decide +kernel
theorem dksX3_spunWith_1 : cX3_spunWith.data.toList.drop 22 = dktX3_spunWith_1 := dk_seg dksX3_spunWith_0 22 rfl rfl
theorem dksX3_spunWith_2 : cX3_spunWith.data.toList.drop 46 = dktX3_spunWith_2 := dk_seg dksX3_spunWith_1 24 rfl rfl
theorem dksX3_spunWith_3 : cX3_spunWith.data.toList.drop 70 = dktX3_spunWith_3 := dk_seg dksX3_spunWith_2 24 rfl rfl
theorem dksX3_spunWith_4 : cX3_spunWith.data.toList.drop 94 = dktX3_spunWith_4 := dk_seg dksX3_spunWith_3 24 rfl rfl
theorem dksX3_spunWith_5 : cX3_spunWith.data.toList.drop 117 = dktX3_spunWith_5 := dk_seg dksX3_spunWith_4 23 rfl rfl
theorem dksX3_spunWith_6 : cX3_spunWith.data.toList.drop 141 = dktX3_spunWith_6 := dk_seg dksX3_spunWith_5 24 rfl rfl
theorem dX3_spunWith_0 : decode cX3_spunWith 0 = .ok (.aload_n 0, 1) := dk_42 (dk_at dksX3_spunWith_0 0 rfl rfl)
theorem dX3_spunWith_1 : decode cX3_spunWith 1 = .ok (.invokevirtual 454, 3) := dk_182 1 198 (dk_at dksX3_spunWith_0 1 rfl rfl)
theorem dX3_spunWith_4 : decode cX3_spunWith 4 = .ok (.iconst 0, 1) := dk_3 (dk_at dksX3_spunWith_0 4 rfl rfl)
theorem dX3_spunWith_5 : decode cX3_spunWith 5 = .ok (.istore_n 2, 1) := dk_61 (dk_at dksX3_spunWith_0 5 rfl rfl)
theorem dX3_spunWith_6 : decode cX3_spunWith 6 = .ok (.iload_n 2, 1) := dk_28 (dk_at dksX3_spunWith_0 6 rfl rfl)
theorem dX3_spunWith_7 : decode cX3_spunWith 7 = .ok (.aload_n 0, 1) := dk_42 (dk_at dksX3_spunWith_0 7 rfl rfl)
theorem dX3_spunWith_8 : decode cX3_spunWith 8 = .ok (.getfield 569, 3) := dk_180 2 57 (dk_at dksX3_spunWith_0 8 rfl rfl)
theorem dX3_spunWith_11 : decode cX3_spunWith 11 = .ok (.if_icmp .ge 142, 3) := dk_162 0 142 (dk_at dksX3_spunWith_0 11 rfl rfl)
theorem dX3_spunWith_14 : decode cX3_spunWith 14 = .ok (.iload_n 1, 1) := dk_27 (dk_at dksX3_spunWith_0 14 rfl rfl)
theorem dX3_spunWith_15 : decode cX3_spunWith 15 = .ok (.iload_n 2, 1) := dk_28 (dk_at dksX3_spunWith_0 15 rfl rfl)
theorem dX3_spunWith_16 : decode cX3_spunWith 16 = .ok (.ishr, 1) := dk_122 (dk_at dksX3_spunWith_0 16 rfl rfl)
theorem dX3_spunWith_17 : decode cX3_spunWith 17 = .ok (.iconst 1, 1) := dk_4 (dk_at dksX3_spunWith_0 17 rfl rfl)
theorem dX3_spunWith_18 : decode cX3_spunWith 18 = .ok (.iand, 1) := dk_126 (dk_at dksX3_spunWith_0 18 rfl rfl)
theorem dX3_spunWith_19 : decode cX3_spunWith 19 = .ok (.ifCond .ne 6, 3) := dk_154 0 6 (dk_at dksX3_spunWith_0 19 rfl rfl)
theorem dX3_spunWith_22 : decode cX3_spunWith 22 = .ok (.goto 125, 3) := dk_167 0 125 (dk_at dksX3_spunWith_1 0 rfl rfl)
theorem dX3_spunWith_25 : decode cX3_spunWith 25 = .ok (.aload_n 0, 1) := dk_42 (dk_at dksX3_spunWith_1 3 rfl rfl)
theorem dX3_spunWith_26 : decode cX3_spunWith 26 = .ok (.getfield 264, 3) := dk_180 1 8 (dk_at dksX3_spunWith_1 4 rfl rfl)
theorem dX3_spunWith_29 : decode cX3_spunWith 29 = .ok (.iload_n 2, 1) := dk_28 (dk_at dksX3_spunWith_1 7 rfl rfl)
theorem dX3_spunWith_30 : decode cX3_spunWith 30 = .ok (.iaload, 1) := dk_46 (dk_at dksX3_spunWith_1 8 rfl rfl)
theorem dX3_spunWith_31 : decode cX3_spunWith 31 = .ok (.istore_n 3, 1) := dk_62 (dk_at dksX3_spunWith_1 9 rfl rfl)
theorem dX3_spunWith_32 : decode cX3_spunWith 32 = .ok (.aload_n 0, 1) := dk_42 (dk_at dksX3_spunWith_1 10 rfl rfl)
theorem dX3_spunWith_33 : decode cX3_spunWith 33 = .ok (.getfield 63, 3) := dk_180 0 63 (dk_at dksX3_spunWith_1 11 rfl rfl)
theorem dX3_spunWith_36 : decode cX3_spunWith 36 = .ok (.iload_n 3, 1) := dk_29 (dk_at dksX3_spunWith_1 14 rfl rfl)
theorem dX3_spunWith_37 : decode cX3_spunWith 37 = .ok (.iaload, 1) := dk_46 (dk_at dksX3_spunWith_1 15 rfl rfl)
theorem dX3_spunWith_38 : decode cX3_spunWith 38 = .ok (.istore 4, 2) := dk_54 4 (dk_at dksX3_spunWith_1 16 rfl rfl)
theorem dX3_spunWith_40 : decode cX3_spunWith 40 = .ok (.aload_n 0, 1) := dk_42 (dk_at dksX3_spunWith_1 18 rfl rfl)
theorem dX3_spunWith_41 : decode cX3_spunWith 41 = .ok (.getfield 267, 3) := dk_180 1 11 (dk_at dksX3_spunWith_1 19 rfl rfl)
theorem dX3_spunWith_44 : decode cX3_spunWith 44 = .ok (.iload_n 2, 1) := dk_28 (dk_at dksX3_spunWith_1 22 rfl rfl)
theorem dX3_spunWith_45 : decode cX3_spunWith 45 = .ok (.iaload, 1) := dk_46 (dk_at dksX3_spunWith_1 23 rfl rfl)
theorem dX3_spunWith_46 : decode cX3_spunWith 46 = .ok (.ifCond .ne 23, 3) := dk_154 0 23 (dk_at dksX3_spunWith_2 0 rfl rfl)
theorem dX3_spunWith_49 : decode cX3_spunWith 49 = .ok (.aload_n 0, 1) := dk_42 (dk_at dksX3_spunWith_2 3 rfl rfl)
theorem dX3_spunWith_50 : decode cX3_spunWith 50 = .ok (.getfield 209, 3) := dk_180 0 209 (dk_at dksX3_spunWith_2 4 rfl rfl)
theorem dX3_spunWith_53 : decode cX3_spunWith 53 = .ok (.iload_n 3, 1) := dk_29 (dk_at dksX3_spunWith_2 7 rfl rfl)
theorem dX3_spunWith_54 : decode cX3_spunWith 54 = .ok (.iaload, 1) := dk_46 (dk_at dksX3_spunWith_2 8 rfl rfl)
theorem dX3_spunWith_55 : decode cX3_spunWith 55 = .ok (.iconst 5, 1) := dk_8 (dk_at dksX3_spunWith_2 9 rfl rfl)
theorem dX3_spunWith_56 : decode cX3_spunWith 56 = .ok (.if_icmp .ge 13, 3) := dk_162 0 13 (dk_at dksX3_spunWith_2 10 rfl rfl)
theorem dX3_spunWith_59 : decode cX3_spunWith 59 = .ok (.aload_n 0, 1) := dk_42 (dk_at dksX3_spunWith_2 13 rfl rfl)
theorem dX3_spunWith_60 : decode cX3_spunWith 60 = .ok (.getfield 209, 3) := dk_180 0 209 (dk_at dksX3_spunWith_2 14 rfl rfl)
theorem dX3_spunWith_63 : decode cX3_spunWith 63 = .ok (.iload_n 3, 1) := dk_29 (dk_at dksX3_spunWith_2 17 rfl rfl)
theorem dX3_spunWith_64 : decode cX3_spunWith 64 = .ok (.dup2, 1) := dk_92 (dk_at dksX3_spunWith_2 18 rfl rfl)
theorem dX3_spunWith_65 : decode cX3_spunWith 65 = .ok (.iaload, 1) := dk_46 (dk_at dksX3_spunWith_2 19 rfl rfl)
theorem dX3_spunWith_66 : decode cX3_spunWith 66 = .ok (.iconst 1, 1) := dk_4 (dk_at dksX3_spunWith_2 20 rfl rfl)
theorem dX3_spunWith_67 : decode cX3_spunWith 67 = .ok (.iadd, 1) := dk_96 (dk_at dksX3_spunWith_2 21 rfl rfl)
theorem dX3_spunWith_68 : decode cX3_spunWith 68 = .ok (.iastore, 1) := dk_79 (dk_at dksX3_spunWith_2 22 rfl rfl)
theorem dX3_spunWith_69 : decode cX3_spunWith 69 = .ok (.aload_n 0, 1) := dk_42 (dk_at dksX3_spunWith_2 23 rfl rfl)
theorem dX3_spunWith_70 : decode cX3_spunWith 70 = .ok (.getfield 267, 3) := dk_180 1 11 (dk_at dksX3_spunWith_3 0 rfl rfl)
theorem dX3_spunWith_73 : decode cX3_spunWith 73 = .ok (.iload_n 2, 1) := dk_28 (dk_at dksX3_spunWith_3 3 rfl rfl)
theorem dX3_spunWith_74 : decode cX3_spunWith 74 = .ok (.iaload, 1) := dk_46 (dk_at dksX3_spunWith_3 4 rfl rfl)
theorem dX3_spunWith_75 : decode cX3_spunWith 75 = .ok (.iconst 1, 1) := dk_4 (dk_at dksX3_spunWith_3 5 rfl rfl)
theorem dX3_spunWith_76 : decode cX3_spunWith 76 = .ok (.if_icmp .ne 24, 3) := dk_160 0 24 (dk_at dksX3_spunWith_3 6 rfl rfl)
theorem dX3_spunWith_79 : decode cX3_spunWith 79 = .ok (.aload_n 0, 1) := dk_42 (dk_at dksX3_spunWith_3 9 rfl rfl)
theorem dX3_spunWith_80 : decode cX3_spunWith 80 = .ok (.getfield 212, 3) := dk_180 0 212 (dk_at dksX3_spunWith_3 10 rfl rfl)
theorem dX3_spunWith_83 : decode cX3_spunWith 83 = .ok (.iload_n 3, 1) := dk_29 (dk_at dksX3_spunWith_3 13 rfl rfl)
theorem dX3_spunWith_84 : decode cX3_spunWith 84 = .ok (.iaload, 1) := dk_46 (dk_at dksX3_spunWith_3 14 rfl rfl)
theorem dX3_spunWith_85 : decode cX3_spunWith 85 = .ok (.bipush 9, 2) := dk_16 9 (dk_at dksX3_spunWith_3 15 rfl rfl)
theorem dX3_spunWith_87 : decode cX3_spunWith 87 = .ok (.if_icmp .ge 13, 3) := dk_162 0 13 (dk_at dksX3_spunWith_3 17 rfl rfl)
theorem dX3_spunWith_90 : decode cX3_spunWith 90 = .ok (.aload_n 0, 1) := dk_42 (dk_at dksX3_spunWith_3 20 rfl rfl)
theorem dX3_spunWith_91 : decode cX3_spunWith 91 = .ok (.getfield 212, 3) := dk_180 0 212 (dk_at dksX3_spunWith_3 21 rfl rfl)
theorem dX3_spunWith_94 : decode cX3_spunWith 94 = .ok (.iload_n 3, 1) := dk_29 (dk_at dksX3_spunWith_4 0 rfl rfl)
theorem dX3_spunWith_95 : decode cX3_spunWith 95 = .ok (.dup2, 1) := dk_92 (dk_at dksX3_spunWith_4 1 rfl rfl)
theorem dX3_spunWith_96 : decode cX3_spunWith 96 = .ok (.iaload, 1) := dk_46 (dk_at dksX3_spunWith_4 2 rfl rfl)
theorem dX3_spunWith_97 : decode cX3_spunWith 97 = .ok (.iconst 1, 1) := dk_4 (dk_at dksX3_spunWith_4 3 rfl rfl)
theorem dX3_spunWith_98 : decode cX3_spunWith 98 = .ok (.iadd, 1) := dk_96 (dk_at dksX3_spunWith_4 4 rfl rfl)
theorem dX3_spunWith_99 : decode cX3_spunWith 99 = .ok (.iastore, 1) := dk_79 (dk_at dksX3_spunWith_4 5 rfl rfl)
theorem dX3_spunWith_100 : decode cX3_spunWith 100 = .ok (.aload_n 0, 1) := dk_42 (dk_at dksX3_spunWith_4 6 rfl rfl)
theorem dX3_spunWith_101 : decode cX3_spunWith 101 = .ok (.getfield 267, 3) := dk_180 1 11 (dk_at dksX3_spunWith_4 7 rfl rfl)
theorem dX3_spunWith_104 : decode cX3_spunWith 104 = .ok (.iload_n 2, 1) := dk_28 (dk_at dksX3_spunWith_4 10 rfl rfl)
theorem dX3_spunWith_105 : decode cX3_spunWith 105 = .ok (.iaload, 1) := dk_46 (dk_at dksX3_spunWith_4 11 rfl rfl)
theorem dX3_spunWith_106 : decode cX3_spunWith 106 = .ok (.iconst 2, 1) := dk_5 (dk_at dksX3_spunWith_4 12 rfl rfl)
theorem dX3_spunWith_107 : decode cX3_spunWith 107 = .ok (.if_icmp .ne 40, 3) := dk_160 0 40 (dk_at dksX3_spunWith_4 13 rfl rfl)
theorem dX3_spunWith_110 : decode cX3_spunWith 110 = .ok (.aload_n 0, 1) := dk_42 (dk_at dksX3_spunWith_4 16 rfl rfl)
theorem dX3_spunWith_111 : decode cX3_spunWith 111 = .ok (.getfield 206, 3) := dk_180 0 206 (dk_at dksX3_spunWith_4 17 rfl rfl)
theorem dX3_spunWith_114 : decode cX3_spunWith 114 = .ok (.iload 4, 2) := dk_21 4 (dk_at dksX3_spunWith_4 20 rfl rfl)
theorem dX3_spunWith_116 : decode cX3_spunWith 116 = .ok (.aload_n 0, 1) := dk_42 (dk_at dksX3_spunWith_4 22 rfl rfl)
theorem dX3_spunWith_117 : decode cX3_spunWith 117 = .ok (.getfield 206, 3) := dk_180 0 206 (dk_at dksX3_spunWith_5 0 rfl rfl)
theorem dX3_spunWith_120 : decode cX3_spunWith 120 = .ok (.iload 4, 2) := dk_21 4 (dk_at dksX3_spunWith_5 3 rfl rfl)
theorem dX3_spunWith_122 : decode cX3_spunWith 122 = .ok (.iaload, 1) := dk_46 (dk_at dksX3_spunWith_5 5 rfl rfl)
theorem dX3_spunWith_123 : decode cX3_spunWith 123 = .ok (.iconst 5, 1) := dk_8 (dk_at dksX3_spunWith_5 6 rfl rfl)
theorem dX3_spunWith_124 : decode cX3_spunWith 124 = .ok (.iadd, 1) := dk_96 (dk_at dksX3_spunWith_5 7 rfl rfl)
theorem dX3_spunWith_125 : decode cX3_spunWith 125 = .ok (.sipush 9999, 3) := dk_17 39 15 (dk_at dksX3_spunWith_5 8 rfl rfl)
theorem dX3_spunWith_128 : decode cX3_spunWith 128 = .ok (.if_icmp .le 9, 3) := dk_164 0 9 (dk_at dksX3_spunWith_5 11 rfl rfl)
theorem dX3_spunWith_131 : decode cX3_spunWith 131 = .ok (.sipush 9999, 3) := dk_17 39 15 (dk_at dksX3_spunWith_5 14 rfl rfl)
theorem dX3_spunWith_134 : decode cX3_spunWith 134 = .ok (.goto 12, 3) := dk_167 0 12 (dk_at dksX3_spunWith_5 17 rfl rfl)
theorem dX3_spunWith_137 : decode cX3_spunWith 137 = .ok (.aload_n 0, 1) := dk_42 (dk_at dksX3_spunWith_5 20 rfl rfl)
theorem dX3_spunWith_138 : decode cX3_spunWith 138 = .ok (.getfield 206, 3) := dk_180 0 206 (dk_at dksX3_spunWith_5 21 rfl rfl)
theorem dX3_spunWith_141 : decode cX3_spunWith 141 = .ok (.iload 4, 2) := dk_21 4 (dk_at dksX3_spunWith_6 0 rfl rfl)
theorem dX3_spunWith_143 : decode cX3_spunWith 143 = .ok (.iaload, 1) := dk_46 (dk_at dksX3_spunWith_6 2 rfl rfl)
theorem dX3_spunWith_144 : decode cX3_spunWith 144 = .ok (.iconst 5, 1) := dk_8 (dk_at dksX3_spunWith_6 3 rfl rfl)
theorem dX3_spunWith_145 : decode cX3_spunWith 145 = .ok (.iadd, 1) := dk_96 (dk_at dksX3_spunWith_6 4 rfl rfl)
theorem dX3_spunWith_146 : decode cX3_spunWith 146 = .ok (.iastore, 1) := dk_79 (dk_at dksX3_spunWith_6 5 rfl rfl)
theorem dX3_spunWith_147 : decode cX3_spunWith 147 = .ok (.iinc 2 1, 3) := dk_132 2 1 (dk_at dksX3_spunWith_6 6 rfl rfl)
theorem dX3_spunWith_150 : decode cX3_spunWith 150 = .ok (.goto (-144), 3) := dk_167 255 112 (dk_at dksX3_spunWith_6 9 rfl rfl)
theorem dX3_spunWith_153 : decode cX3_spunWith 153 = .ok (.aload_n 0, 1) := dk_42 (dk_at dksX3_spunWith_6 12 rfl rfl)
theorem dX3_spunWith_154 : decode cX3_spunWith 154 = .ok (.invokevirtual 457, 3) := dk_182 1 201 (dk_at dksX3_spunWith_6 13 rfl rfl)
theorem dX3_spunWith_157 : decode cX3_spunWith 157 = .ok (.ireturn, 1) := dk_172 (dk_at dksX3_spunWith_6 16 rfl rfl)
abbrev cX3_costOf : ByteArray := prog_14_method_92_code
def yX3_costOf : MethodName := ⟨RX3, "costOf", "(I)I"⟩
def dkwX3_costOf_1 : List UInt8 := [180, 1, 5, 29, 46, 167, 0, 4, 3, 96, 61, 132, 3, 1, 167, 255, 223, 28, 172]
abbrev dktX3_costOf_1 : List UInt8 := dkwX3_costOf_1 ++ []
def dkwX3_costOf_0 : List UInt8 := [3, 61, 3, 62, 29, 42, 180, 2, 57, 162, 0, 31, 28, 27, 29, 122, 4, 126, 4, 160, 0, 12, 42]
abbrev dktX3_costOf_0 : List UInt8 := dkwX3_costOf_0 ++ dktX3_costOf_1
theorem dksX3_costOf_0 : cX3_costOf.data.toList.drop 0 = dktX3_costOf_0 := by decide +kernel
theorem dksX3_costOf_1 : cX3_costOf.data.toList.drop 23 = dktX3_costOf_1 := dk_seg dksX3_costOf_0 23 rfl rfl
theorem dX3_costOf_0 : decode cX3_costOf 0 = .ok (.iconst 0, 1) := dk_3 (dk_at dksX3_costOf_0 0 rfl rfl)
theorem dX3_costOf_1 : decode cX3_costOf 1 = .ok (.istore_n 2, 1) := dk_61 (dk_at dksX3_costOf_0 1 rfl rfl)
theorem dX3_costOf_2 : decode cX3_costOf 2 = .ok (.iconst 0, 1) := dk_3 (dk_at dksX3_costOf_0 2 rfl rfl)
theorem dX3_costOf_3 : decode cX3_costOf 3 = .ok (.istore_n 3, 1) := dk_62 (dk_at dksX3_costOf_0 3 rfl rfl)
theorem dX3_costOf_4 : decode cX3_costOf 4 = .ok (.iload_n 3, 1) := dk_29 (dk_at dksX3_costOf_0 4 rfl rfl)
theorem dX3_costOf_5 : decode cX3_costOf 5 = .ok (.aload_n 0, 1) := dk_42 (dk_at dksX3_costOf_0 5 rfl rfl)
theorem dX3_costOf_6 : decode cX3_costOf 6 = .ok (.getfield 569, 3) := dk_180 2 57 (dk_at dksX3_costOf_0 6 rfl rfl)
theorem dX3_costOf_9 : decode cX3_costOf 9 = .ok (.if_icmp .ge 31, 3) := dk_162 0 31 (dk_at dksX3_costOf_0 9 rfl rfl)
theorem dX3_costOf_12 : decode cX3_costOf 12 = .ok (.iload_n 2, 1) := dk_28 (dk_at dksX3_costOf_0 12 rfl rfl)
theorem dX3_costOf_13 : decode cX3_costOf 13 = .ok (.iload_n 1, 1) := dk_27 (dk_at dksX3_costOf_0 13 rfl rfl)
theorem dX3_costOf_14 : decode cX3_costOf 14 = .ok (.iload_n 3, 1) := dk_29 (dk_at dksX3_costOf_0 14 rfl rfl)
theorem dX3_costOf_15 : decode cX3_costOf 15 = .ok (.ishr, 1) := dk_122 (dk_at dksX3_costOf_0 15 rfl rfl)
theorem dX3_costOf_16 : decode cX3_costOf 16 = .ok (.iconst 1, 1) := dk_4 (dk_at dksX3_costOf_0 16 rfl rfl)
theorem dX3_costOf_17 : decode cX3_costOf 17 = .ok (.iand, 1) := dk_126 (dk_at dksX3_costOf_0 17 rfl rfl)
theorem dX3_costOf_18 : decode cX3_costOf 18 = .ok (.iconst 1, 1) := dk_4 (dk_at dksX3_costOf_0 18 rfl rfl)
theorem dX3_costOf_19 : decode cX3_costOf 19 = .ok (.if_icmp .ne 12, 3) := dk_160 0 12 (dk_at dksX3_costOf_0 19 rfl rfl)
theorem dX3_costOf_22 : decode cX3_costOf 22 = .ok (.aload_n 0, 1) := dk_42 (dk_at dksX3_costOf_0 22 rfl rfl)
theorem dX3_costOf_23 : decode cX3_costOf 23 = .ok (.getfield 261, 3) := dk_180 1 5 (dk_at dksX3_costOf_1 0 rfl rfl)
theorem dX3_costOf_26 : decode cX3_costOf 26 = .ok (.iload_n 3, 1) := dk_29 (dk_at dksX3_costOf_1 3 rfl rfl)
theorem dX3_costOf_27 : decode cX3_costOf 27 = .ok (.iaload, 1) := dk_46 (dk_at dksX3_costOf_1 4 rfl rfl)
theorem dX3_costOf_28 : decode cX3_costOf 28 = .ok (.goto 4, 3) := dk_167 0 4 (dk_at dksX3_costOf_1 5 rfl rfl)
theorem dX3_costOf_31 : decode cX3_costOf 31 = .ok (.iconst 0, 1) := dk_3 (dk_at dksX3_costOf_1 8 rfl rfl)
theorem dX3_costOf_32 : decode cX3_costOf 32 = .ok (.iadd, 1) := dk_96 (dk_at dksX3_costOf_1 9 rfl rfl)
theorem dX3_costOf_33 : decode cX3_costOf 33 = .ok (.istore_n 2, 1) := dk_61 (dk_at dksX3_costOf_1 10 rfl rfl)
theorem dX3_costOf_34 : decode cX3_costOf 34 = .ok (.iinc 3 1, 3) := dk_132 3 1 (dk_at dksX3_costOf_1 11 rfl rfl)
theorem dX3_costOf_37 : decode cX3_costOf 37 = .ok (.goto (-33), 3) := dk_167 255 223 (dk_at dksX3_costOf_1 14 rfl rfl)
theorem dX3_costOf_40 : decode cX3_costOf 40 = .ok (.iload_n 2, 1) := dk_28 (dk_at dksX3_costOf_1 17 rfl rfl)
theorem dX3_costOf_41 : decode cX3_costOf 41 = .ok (.ireturn, 1) := dk_172 (dk_at dksX3_costOf_1 18 rfl rfl)
abbrev cX3_hungry : ByteArray := prog_14_method_95_code
def yX3_hungry : MethodName := ⟨RX3, "hungry", "(I)I"⟩
def dkwX3_hungry_2 : List UInt8 := [167, 0, 4, 3, 128, 61, 132, 3, 1, 167, 255, 218, 28, 172]
abbrev dktX3_hungry_2 : List UInt8 := dkwX3_hungry_2 ++ []
def dkwX3_hungry_1 : List UInt8 := [162, 0, 36, 28, 42, 180, 0, 78, 29, 46, 42, 180, 0, 75, 29, 46, 27, 104, 162, 0, 9, 4, 29, 120]
abbrev dktX3_hungry_1 : List UInt8 := dkwX3_hungry_1 ++ dktX3_hungry_2
def dkwX3_hungry_0 : List UInt8 := [27, 133, 10, 20, 2, 18, 184, 1, 18, 154, 0, 5, 2, 172, 3, 61, 3, 62, 29, 42, 180, 1, 22]
abbrev dktX3_hungry_0 : List UInt8 := dkwX3_hungry_0 ++ dktX3_hungry_1
theorem dksX3_hungry_0 : cX3_hungry.data.toList.drop 0 = dktX3_hungry_0 := by decide +kernel
theorem dksX3_hungry_1 : cX3_hungry.data.toList.drop 23 = dktX3_hungry_1 := dk_seg dksX3_hungry_0 23 rfl rfl
theorem dksX3_hungry_2 : cX3_hungry.data.toList.drop 47 = dktX3_hungry_2 := dk_seg dksX3_hungry_1 24 rfl rfl
theorem dX3_hungry_0 : decode cX3_hungry 0 = .ok (.iload_n 1, 1) := dk_27 (dk_at dksX3_hungry_0 0 rfl rfl)
theorem dX3_hungry_1 : decode cX3_hungry 1 = .ok (.i2l, 1) := dk_133 (dk_at dksX3_hungry_0 1 rfl rfl)
theorem dX3_hungry_2 : decode cX3_hungry 2 = .ok (.lconst 1, 1) := dk_10 (dk_at dksX3_hungry_0 2 rfl rfl)
theorem dX3_hungry_3 : decode cX3_hungry 3 = .ok (.ldc2_w 530, 3) := dk_20 2 18 (dk_at dksX3_hungry_0 3 rfl rfl)
theorem dX3_hungry_6 : decode cX3_hungry 6 = .ok (.invokestatic 274, 3) := dk_184 1 18 (dk_at dksX3_hungry_0 6 rfl rfl)
theorem dX3_hungry_9 : decode cX3_hungry 9 = .ok (.ifCond .ne 5, 3) := dk_154 0 5 (dk_at dksX3_hungry_0 9 rfl rfl)
theorem dX3_hungry_12 : decode cX3_hungry 12 = .ok (.iconst (-1), 1) := dk_2 (dk_at dksX3_hungry_0 12 rfl rfl)
theorem dX3_hungry_13 : decode cX3_hungry 13 = .ok (.ireturn, 1) := dk_172 (dk_at dksX3_hungry_0 13 rfl rfl)
theorem dX3_hungry_14 : decode cX3_hungry 14 = .ok (.iconst 0, 1) := dk_3 (dk_at dksX3_hungry_0 14 rfl rfl)
theorem dX3_hungry_15 : decode cX3_hungry 15 = .ok (.istore_n 2, 1) := dk_61 (dk_at dksX3_hungry_0 15 rfl rfl)
theorem dX3_hungry_16 : decode cX3_hungry 16 = .ok (.iconst 0, 1) := dk_3 (dk_at dksX3_hungry_0 16 rfl rfl)
theorem dX3_hungry_17 : decode cX3_hungry 17 = .ok (.istore_n 3, 1) := dk_62 (dk_at dksX3_hungry_0 17 rfl rfl)
theorem dX3_hungry_18 : decode cX3_hungry 18 = .ok (.iload_n 3, 1) := dk_29 (dk_at dksX3_hungry_0 18 rfl rfl)
theorem dX3_hungry_19 : decode cX3_hungry 19 = .ok (.aload_n 0, 1) := dk_42 (dk_at dksX3_hungry_0 19 rfl rfl)
theorem dX3_hungry_20 : decode cX3_hungry 20 = .ok (.getfield 278, 3) := dk_180 1 22 (dk_at dksX3_hungry_0 20 rfl rfl)
theorem dX3_hungry_23 : decode cX3_hungry 23 = .ok (.if_icmp .ge 36, 3) := dk_162 0 36 (dk_at dksX3_hungry_1 0 rfl rfl)
theorem dX3_hungry_26 : decode cX3_hungry 26 = .ok (.iload_n 2, 1) := dk_28 (dk_at dksX3_hungry_1 3 rfl rfl)
theorem dX3_hungry_27 : decode cX3_hungry 27 = .ok (.aload_n 0, 1) := dk_42 (dk_at dksX3_hungry_1 4 rfl rfl)
theorem dX3_hungry_28 : decode cX3_hungry 28 = .ok (.getfield 78, 3) := dk_180 0 78 (dk_at dksX3_hungry_1 5 rfl rfl)
theorem dX3_hungry_31 : decode cX3_hungry 31 = .ok (.iload_n 3, 1) := dk_29 (dk_at dksX3_hungry_1 8 rfl rfl)
theorem dX3_hungry_32 : decode cX3_hungry 32 = .ok (.iaload, 1) := dk_46 (dk_at dksX3_hungry_1 9 rfl rfl)
theorem dX3_hungry_33 : decode cX3_hungry 33 = .ok (.aload_n 0, 1) := dk_42 (dk_at dksX3_hungry_1 10 rfl rfl)
theorem dX3_hungry_34 : decode cX3_hungry 34 = .ok (.getfield 75, 3) := dk_180 0 75 (dk_at dksX3_hungry_1 11 rfl rfl)
theorem dX3_hungry_37 : decode cX3_hungry 37 = .ok (.iload_n 3, 1) := dk_29 (dk_at dksX3_hungry_1 14 rfl rfl)
theorem dX3_hungry_38 : decode cX3_hungry 38 = .ok (.iaload, 1) := dk_46 (dk_at dksX3_hungry_1 15 rfl rfl)
theorem dX3_hungry_39 : decode cX3_hungry 39 = .ok (.iload_n 1, 1) := dk_27 (dk_at dksX3_hungry_1 16 rfl rfl)
theorem dX3_hungry_40 : decode cX3_hungry 40 = .ok (.imul, 1) := dk_104 (dk_at dksX3_hungry_1 17 rfl rfl)
theorem dX3_hungry_41 : decode cX3_hungry 41 = .ok (.if_icmp .ge 9, 3) := dk_162 0 9 (dk_at dksX3_hungry_1 18 rfl rfl)
theorem dX3_hungry_44 : decode cX3_hungry 44 = .ok (.iconst 1, 1) := dk_4 (dk_at dksX3_hungry_1 21 rfl rfl)
theorem dX3_hungry_45 : decode cX3_hungry 45 = .ok (.iload_n 3, 1) := dk_29 (dk_at dksX3_hungry_1 22 rfl rfl)
theorem dX3_hungry_46 : decode cX3_hungry 46 = .ok (.ishl, 1) := dk_120 (dk_at dksX3_hungry_1 23 rfl rfl)
theorem dX3_hungry_47 : decode cX3_hungry 47 = .ok (.goto 4, 3) := dk_167 0 4 (dk_at dksX3_hungry_2 0 rfl rfl)
theorem dX3_hungry_50 : decode cX3_hungry 50 = .ok (.iconst 0, 1) := dk_3 (dk_at dksX3_hungry_2 3 rfl rfl)
theorem dX3_hungry_51 : decode cX3_hungry 51 = .ok (.ior, 1) := dk_128 (dk_at dksX3_hungry_2 4 rfl rfl)
theorem dX3_hungry_52 : decode cX3_hungry 52 = .ok (.istore_n 2, 1) := dk_61 (dk_at dksX3_hungry_2 5 rfl rfl)
theorem dX3_hungry_53 : decode cX3_hungry 53 = .ok (.iinc 3 1, 3) := dk_132 3 1 (dk_at dksX3_hungry_2 6 rfl rfl)
theorem dX3_hungry_56 : decode cX3_hungry 56 = .ok (.goto (-38), 3) := dk_167 255 218 (dk_at dksX3_hungry_2 9 rfl rfl)
theorem dX3_hungry_59 : decode cX3_hungry 59 = .ok (.iload_n 2, 1) := dk_28 (dk_at dksX3_hungry_2 12 rfl rfl)
theorem dX3_hungry_60 : decode cX3_hungry 60 = .ok (.ireturn, 1) := dk_172 (dk_at dksX3_hungry_2 13 rfl rfl)
abbrev cX3_keeps : ByteArray := prog_14_method_96_code
def yX3_keeps : MethodName := ⟨RX3, "keeps", "(II)I"⟩
def dkwX3_keeps_7 : List UInt8 := [180, 0, 75, 27, 46, 28, 104, 108, 172]
abbrev dktX3_keeps_7 : List UInt8 := dkwX3_keeps_7 ++ []
def dkwX3_keeps_6 : List UInt8 := [180, 0, 69, 27, 46, 182, 1, 207, 22, 4, 136, 3, 182, 1, 219, 42, 4, 182, 1, 189, 184, 1, 192, 42]
abbrev dktX3_keeps_6 : List UInt8 := dkwX3_keeps_6 ++ dktX3_keeps_7
def dkwX3_keeps_5 : List UInt8 := [46, 133, 105, 55, 4, 42, 27, 42, 180, 0, 72, 27, 46, 42, 180, 0, 81, 27, 46, 42, 27, 42]
abbrev dktX3_keeps_5 : List UInt8 := dkwX3_keeps_5 ++ dktX3_keeps_6
def dkwX3_keeps_4 : List UInt8 := [42, 180, 0, 81, 27, 46, 133, 105, 148, 158, 0, 20, 42, 180, 0, 24, 29, 46, 133, 42, 180, 0, 81, 27]
abbrev dktX3_keeps_4 : List UInt8 := dkwX3_keeps_4 ++ dktX3_keeps_5
def dkwX3_keeps_3 : List UInt8 := [133, 105, 42, 180, 0, 81, 27, 46, 16, 20, 96, 133, 109, 55, 4, 22, 4, 42, 180, 0, 24, 29, 46, 133]
abbrev dktX3_keeps_3 : List UInt8 := dkwX3_keeps_3 ++ dktX3_keeps_4
def dkwX3_keeps_2 : List UInt8 := [180, 0, 11, 29, 50, 42, 180, 1, 30, 184, 1, 180, 46, 133, 105, 16, 10, 42, 180, 0, 69, 27, 46, 96]
abbrev dktX3_keeps_2 : List UInt8 := dkwX3_keeps_2 ++ dktX3_keeps_3
def dkwX3_keeps_1 : List UInt8 := [17, 0, 156, 160, 0, 5, 2, 172, 42, 180, 0, 63, 27, 46, 62, 42, 180, 0, 66, 27, 46, 133, 42]
abbrev dktX3_keeps_1 : List UInt8 := dkwX3_keeps_1 ++ dktX3_keeps_2
def dkwX3_keeps_0 : List UInt8 := [42, 27, 182, 1, 41, 153, 0, 25, 28, 133, 10, 20, 2, 18, 184, 1, 18, 153, 0, 13, 42, 180, 1, 30]
abbrev dktX3_keeps_0 : List UInt8 := dkwX3_keeps_0 ++ dktX3_keeps_1
theorem dksX3_keeps_0 : cX3_keeps.data.toList.drop 0 = dktX3_keeps_0 := by decide +kernel
theorem dksX3_keeps_1 : cX3_keeps.data.toList.drop 24 = dktX3_keeps_1 := dk_seg dksX3_keeps_0 24 rfl rfl
theorem dksX3_keeps_2 : cX3_keeps.data.toList.drop 47 = dktX3_keeps_2 := dk_seg dksX3_keeps_1 23 rfl rfl
theorem dksX3_keeps_3 : cX3_keeps.data.toList.drop 71 = dktX3_keeps_3 := dk_seg dksX3_keeps_2 24 rfl rfl
theorem dksX3_keeps_4 : cX3_keeps.data.toList.drop 95 = dktX3_keeps_4 := dk_seg dksX3_keeps_3 24 rfl rfl
theorem dksX3_keeps_5 : cX3_keeps.data.toList.drop 119 = dktX3_keeps_5 := dk_seg dksX3_keeps_4 24 rfl rfl
theorem dksX3_keeps_6 : cX3_keeps.data.toList.drop 141 = dktX3_keeps_6 := dk_seg dksX3_keeps_5 22 rfl rfl
theorem dksX3_keeps_7 : cX3_keeps.data.toList.drop 165 = dktX3_keeps_7 := dk_seg dksX3_keeps_6 24 rfl rfl
theorem dX3_keeps_0 : decode cX3_keeps 0 = .ok (.aload_n 0, 1) := dk_42 (dk_at dksX3_keeps_0 0 rfl rfl)
theorem dX3_keeps_1 : decode cX3_keeps 1 = .ok (.iload_n 1, 1) := dk_27 (dk_at dksX3_keeps_0 1 rfl rfl)
theorem dX3_keeps_2 : decode cX3_keeps 2 = .ok (.invokevirtual 297, 3) := dk_182 1 41 (dk_at dksX3_keeps_0 2 rfl rfl)
theorem dX3_keeps_5 : decode cX3_keeps 5 = .ok (.ifCond .eq 25, 3) := dk_153 0 25 (dk_at dksX3_keeps_0 5 rfl rfl)
theorem dX3_keeps_8 : decode cX3_keeps 8 = .ok (.iload_n 2, 1) := dk_28 (dk_at dksX3_keeps_0 8 rfl rfl)
theorem dX3_keeps_9 : decode cX3_keeps 9 = .ok (.i2l, 1) := dk_133 (dk_at dksX3_keeps_0 9 rfl rfl)
theorem dX3_keeps_10 : decode cX3_keeps 10 = .ok (.lconst 1, 1) := dk_10 (dk_at dksX3_keeps_0 10 rfl rfl)
theorem dX3_keeps_11 : decode cX3_keeps 11 = .ok (.ldc2_w 530, 3) := dk_20 2 18 (dk_at dksX3_keeps_0 11 rfl rfl)
theorem dX3_keeps_14 : decode cX3_keeps 14 = .ok (.invokestatic 274, 3) := dk_184 1 18 (dk_at dksX3_keeps_0 14 rfl rfl)
theorem dX3_keeps_17 : decode cX3_keeps 17 = .ok (.ifCond .eq 13, 3) := dk_153 0 13 (dk_at dksX3_keeps_0 17 rfl rfl)
theorem dX3_keeps_20 : decode cX3_keeps 20 = .ok (.aload_n 0, 1) := dk_42 (dk_at dksX3_keeps_0 20 rfl rfl)
theorem dX3_keeps_21 : decode cX3_keeps 21 = .ok (.getfield 286, 3) := dk_180 1 30 (dk_at dksX3_keeps_0 21 rfl rfl)
theorem dX3_keeps_24 : decode cX3_keeps 24 = .ok (.sipush 156, 3) := dk_17 0 156 (dk_at dksX3_keeps_1 0 rfl rfl)
theorem dX3_keeps_27 : decode cX3_keeps 27 = .ok (.if_icmp .ne 5, 3) := dk_160 0 5 (dk_at dksX3_keeps_1 3 rfl rfl)
theorem dX3_keeps_30 : decode cX3_keeps 30 = .ok (.iconst (-1), 1) := dk_2 (dk_at dksX3_keeps_1 6 rfl rfl)
theorem dX3_keeps_31 : decode cX3_keeps 31 = .ok (.ireturn, 1) := dk_172 (dk_at dksX3_keeps_1 7 rfl rfl)
theorem dX3_keeps_32 : decode cX3_keeps 32 = .ok (.aload_n 0, 1) := dk_42 (dk_at dksX3_keeps_1 8 rfl rfl)
theorem dX3_keeps_33 : decode cX3_keeps 33 = .ok (.getfield 63, 3) := dk_180 0 63 (dk_at dksX3_keeps_1 9 rfl rfl)
theorem dX3_keeps_36 : decode cX3_keeps 36 = .ok (.iload_n 1, 1) := dk_27 (dk_at dksX3_keeps_1 12 rfl rfl)
theorem dX3_keeps_37 : decode cX3_keeps 37 = .ok (.iaload, 1) := dk_46 (dk_at dksX3_keeps_1 13 rfl rfl)
theorem dX3_keeps_38 : decode cX3_keeps 38 = .ok (.istore_n 3, 1) := dk_62 (dk_at dksX3_keeps_1 14 rfl rfl)
theorem dX3_keeps_39 : decode cX3_keeps 39 = .ok (.aload_n 0, 1) := dk_42 (dk_at dksX3_keeps_1 15 rfl rfl)
theorem dX3_keeps_40 : decode cX3_keeps 40 = .ok (.getfield 66, 3) := dk_180 0 66 (dk_at dksX3_keeps_1 16 rfl rfl)
theorem dX3_keeps_43 : decode cX3_keeps 43 = .ok (.iload_n 1, 1) := dk_27 (dk_at dksX3_keeps_1 19 rfl rfl)
theorem dX3_keeps_44 : decode cX3_keeps 44 = .ok (.iaload, 1) := dk_46 (dk_at dksX3_keeps_1 20 rfl rfl)
theorem dX3_keeps_45 : decode cX3_keeps 45 = .ok (.i2l, 1) := dk_133 (dk_at dksX3_keeps_1 21 rfl rfl)
theorem dX3_keeps_46 : decode cX3_keeps 46 = .ok (.aload_n 0, 1) := dk_42 (dk_at dksX3_keeps_1 22 rfl rfl)
theorem dX3_keeps_47 : decode cX3_keeps 47 = .ok (.getfield 11, 3) := dk_180 0 11 (dk_at dksX3_keeps_2 0 rfl rfl)
theorem dX3_keeps_50 : decode cX3_keeps 50 = .ok (.iload_n 3, 1) := dk_29 (dk_at dksX3_keeps_2 3 rfl rfl)
theorem dX3_keeps_51 : decode cX3_keeps 51 = .ok (.aaload, 1) := dk_50 (dk_at dksX3_keeps_2 4 rfl rfl)
theorem dX3_keeps_52 : decode cX3_keeps 52 = .ok (.aload_n 0, 1) := dk_42 (dk_at dksX3_keeps_2 5 rfl rfl)
theorem dX3_keeps_53 : decode cX3_keeps 53 = .ok (.getfield 286, 3) := dk_180 1 30 (dk_at dksX3_keeps_2 6 rfl rfl)
theorem dX3_keeps_56 : decode cX3_keeps 56 = .ok (.invokestatic 436, 3) := dk_184 1 180 (dk_at dksX3_keeps_2 9 rfl rfl)
theorem dX3_keeps_59 : decode cX3_keeps 59 = .ok (.iaload, 1) := dk_46 (dk_at dksX3_keeps_2 12 rfl rfl)
theorem dX3_keeps_60 : decode cX3_keeps 60 = .ok (.i2l, 1) := dk_133 (dk_at dksX3_keeps_2 13 rfl rfl)
theorem dX3_keeps_61 : decode cX3_keeps 61 = .ok (.lmul, 1) := dk_105 (dk_at dksX3_keeps_2 14 rfl rfl)
theorem dX3_keeps_62 : decode cX3_keeps 62 = .ok (.bipush 10, 2) := dk_16 10 (dk_at dksX3_keeps_2 15 rfl rfl)
theorem dX3_keeps_64 : decode cX3_keeps 64 = .ok (.aload_n 0, 1) := dk_42 (dk_at dksX3_keeps_2 17 rfl rfl)
theorem dX3_keeps_65 : decode cX3_keeps 65 = .ok (.getfield 69, 3) := dk_180 0 69 (dk_at dksX3_keeps_2 18 rfl rfl)
theorem dX3_keeps_68 : decode cX3_keeps 68 = .ok (.iload_n 1, 1) := dk_27 (dk_at dksX3_keeps_2 21 rfl rfl)
theorem dX3_keeps_69 : decode cX3_keeps 69 = .ok (.iaload, 1) := dk_46 (dk_at dksX3_keeps_2 22 rfl rfl)
theorem dX3_keeps_70 : decode cX3_keeps 70 = .ok (.iadd, 1) := dk_96 (dk_at dksX3_keeps_2 23 rfl rfl)
theorem dX3_keeps_71 : decode cX3_keeps 71 = .ok (.i2l, 1) := dk_133 (dk_at dksX3_keeps_3 0 rfl rfl)
theorem dX3_keeps_72 : decode cX3_keeps 72 = .ok (.lmul, 1) := dk_105 (dk_at dksX3_keeps_3 1 rfl rfl)
theorem dX3_keeps_73 : decode cX3_keeps 73 = .ok (.aload_n 0, 1) := dk_42 (dk_at dksX3_keeps_3 2 rfl rfl)
theorem dX3_keeps_74 : decode cX3_keeps 74 = .ok (.getfield 81, 3) := dk_180 0 81 (dk_at dksX3_keeps_3 3 rfl rfl)
theorem dX3_keeps_77 : decode cX3_keeps 77 = .ok (.iload_n 1, 1) := dk_27 (dk_at dksX3_keeps_3 6 rfl rfl)
theorem dX3_keeps_78 : decode cX3_keeps 78 = .ok (.iaload, 1) := dk_46 (dk_at dksX3_keeps_3 7 rfl rfl)
theorem dX3_keeps_79 : decode cX3_keeps 79 = .ok (.bipush 20, 2) := dk_16 20 (dk_at dksX3_keeps_3 8 rfl rfl)
theorem dX3_keeps_81 : decode cX3_keeps 81 = .ok (.iadd, 1) := dk_96 (dk_at dksX3_keeps_3 10 rfl rfl)
theorem dX3_keeps_82 : decode cX3_keeps 82 = .ok (.i2l, 1) := dk_133 (dk_at dksX3_keeps_3 11 rfl rfl)
theorem dX3_keeps_83 : decode cX3_keeps 83 = .ok (.ldiv, 1) := dk_109 (dk_at dksX3_keeps_3 12 rfl rfl)
theorem dX3_keeps_84 : decode cX3_keeps 84 = .ok (.lstore 4, 2) := dk_55 4 (dk_at dksX3_keeps_3 13 rfl rfl)
theorem dX3_keeps_86 : decode cX3_keeps 86 = .ok (.lload 4, 2) := dk_22 4 (dk_at dksX3_keeps_3 15 rfl rfl)
theorem dX3_keeps_88 : decode cX3_keeps 88 = .ok (.aload_n 0, 1) := dk_42 (dk_at dksX3_keeps_3 17 rfl rfl)
theorem dX3_keeps_89 : decode cX3_keeps 89 = .ok (.getfield 24, 3) := dk_180 0 24 (dk_at dksX3_keeps_3 18 rfl rfl)
theorem dX3_keeps_92 : decode cX3_keeps 92 = .ok (.iload_n 3, 1) := dk_29 (dk_at dksX3_keeps_3 21 rfl rfl)
theorem dX3_keeps_93 : decode cX3_keeps 93 = .ok (.iaload, 1) := dk_46 (dk_at dksX3_keeps_3 22 rfl rfl)
theorem dX3_keeps_94 : decode cX3_keeps 94 = .ok (.i2l, 1) := dk_133 (dk_at dksX3_keeps_3 23 rfl rfl)
theorem dX3_keeps_95 : decode cX3_keeps 95 = .ok (.aload_n 0, 1) := dk_42 (dk_at dksX3_keeps_4 0 rfl rfl)
theorem dX3_keeps_96 : decode cX3_keeps 96 = .ok (.getfield 81, 3) := dk_180 0 81 (dk_at dksX3_keeps_4 1 rfl rfl)
theorem dX3_keeps_99 : decode cX3_keeps 99 = .ok (.iload_n 1, 1) := dk_27 (dk_at dksX3_keeps_4 4 rfl rfl)
theorem dX3_keeps_100 : decode cX3_keeps 100 = .ok (.iaload, 1) := dk_46 (dk_at dksX3_keeps_4 5 rfl rfl)
theorem dX3_keeps_101 : decode cX3_keeps 101 = .ok (.i2l, 1) := dk_133 (dk_at dksX3_keeps_4 6 rfl rfl)
theorem dX3_keeps_102 : decode cX3_keeps 102 = .ok (.lmul, 1) := dk_105 (dk_at dksX3_keeps_4 7 rfl rfl)
theorem dX3_keeps_103 : decode cX3_keeps 103 = .ok (.lcmp, 1) := dk_148 (dk_at dksX3_keeps_4 8 rfl rfl)
theorem dX3_keeps_104 : decode cX3_keeps 104 = .ok (.ifCond .le 20, 3) := dk_158 0 20 (dk_at dksX3_keeps_4 9 rfl rfl)
theorem dX3_keeps_107 : decode cX3_keeps 107 = .ok (.aload_n 0, 1) := dk_42 (dk_at dksX3_keeps_4 12 rfl rfl)
theorem dX3_keeps_108 : decode cX3_keeps 108 = .ok (.getfield 24, 3) := dk_180 0 24 (dk_at dksX3_keeps_4 13 rfl rfl)
theorem dX3_keeps_111 : decode cX3_keeps 111 = .ok (.iload_n 3, 1) := dk_29 (dk_at dksX3_keeps_4 16 rfl rfl)
theorem dX3_keeps_112 : decode cX3_keeps 112 = .ok (.iaload, 1) := dk_46 (dk_at dksX3_keeps_4 17 rfl rfl)
theorem dX3_keeps_113 : decode cX3_keeps 113 = .ok (.i2l, 1) := dk_133 (dk_at dksX3_keeps_4 18 rfl rfl)
theorem dX3_keeps_114 : decode cX3_keeps 114 = .ok (.aload_n 0, 1) := dk_42 (dk_at dksX3_keeps_4 19 rfl rfl)
theorem dX3_keeps_115 : decode cX3_keeps 115 = .ok (.getfield 81, 3) := dk_180 0 81 (dk_at dksX3_keeps_4 20 rfl rfl)
theorem dX3_keeps_118 : decode cX3_keeps 118 = .ok (.iload_n 1, 1) := dk_27 (dk_at dksX3_keeps_4 23 rfl rfl)
theorem dX3_keeps_119 : decode cX3_keeps 119 = .ok (.iaload, 1) := dk_46 (dk_at dksX3_keeps_5 0 rfl rfl)
theorem dX3_keeps_120 : decode cX3_keeps 120 = .ok (.i2l, 1) := dk_133 (dk_at dksX3_keeps_5 1 rfl rfl)
theorem dX3_keeps_121 : decode cX3_keeps 121 = .ok (.lmul, 1) := dk_105 (dk_at dksX3_keeps_5 2 rfl rfl)
theorem dX3_keeps_122 : decode cX3_keeps 122 = .ok (.lstore 4, 2) := dk_55 4 (dk_at dksX3_keeps_5 3 rfl rfl)
theorem dX3_keeps_124 : decode cX3_keeps 124 = .ok (.aload_n 0, 1) := dk_42 (dk_at dksX3_keeps_5 5 rfl rfl)
theorem dX3_keeps_125 : decode cX3_keeps 125 = .ok (.iload_n 1, 1) := dk_27 (dk_at dksX3_keeps_5 6 rfl rfl)
theorem dX3_keeps_126 : decode cX3_keeps 126 = .ok (.aload_n 0, 1) := dk_42 (dk_at dksX3_keeps_5 7 rfl rfl)
theorem dX3_keeps_127 : decode cX3_keeps 127 = .ok (.getfield 72, 3) := dk_180 0 72 (dk_at dksX3_keeps_5 8 rfl rfl)
theorem dX3_keeps_130 : decode cX3_keeps 130 = .ok (.iload_n 1, 1) := dk_27 (dk_at dksX3_keeps_5 11 rfl rfl)
theorem dX3_keeps_131 : decode cX3_keeps 131 = .ok (.iaload, 1) := dk_46 (dk_at dksX3_keeps_5 12 rfl rfl)
theorem dX3_keeps_132 : decode cX3_keeps 132 = .ok (.aload_n 0, 1) := dk_42 (dk_at dksX3_keeps_5 13 rfl rfl)
theorem dX3_keeps_133 : decode cX3_keeps 133 = .ok (.getfield 81, 3) := dk_180 0 81 (dk_at dksX3_keeps_5 14 rfl rfl)
theorem dX3_keeps_136 : decode cX3_keeps 136 = .ok (.iload_n 1, 1) := dk_27 (dk_at dksX3_keeps_5 17 rfl rfl)
theorem dX3_keeps_137 : decode cX3_keeps 137 = .ok (.iaload, 1) := dk_46 (dk_at dksX3_keeps_5 18 rfl rfl)
theorem dX3_keeps_138 : decode cX3_keeps 138 = .ok (.aload_n 0, 1) := dk_42 (dk_at dksX3_keeps_5 19 rfl rfl)
theorem dX3_keeps_139 : decode cX3_keeps 139 = .ok (.iload_n 1, 1) := dk_27 (dk_at dksX3_keeps_5 20 rfl rfl)
theorem dX3_keeps_140 : decode cX3_keeps 140 = .ok (.aload_n 0, 1) := dk_42 (dk_at dksX3_keeps_5 21 rfl rfl)
theorem dX3_keeps_141 : decode cX3_keeps 141 = .ok (.getfield 69, 3) := dk_180 0 69 (dk_at dksX3_keeps_6 0 rfl rfl)
theorem dX3_keeps_144 : decode cX3_keeps 144 = .ok (.iload_n 1, 1) := dk_27 (dk_at dksX3_keeps_6 3 rfl rfl)
theorem dX3_keeps_145 : decode cX3_keeps 145 = .ok (.iaload, 1) := dk_46 (dk_at dksX3_keeps_6 4 rfl rfl)
theorem dX3_keeps_146 : decode cX3_keeps 146 = .ok (.invokevirtual 463, 3) := dk_182 1 207 (dk_at dksX3_keeps_6 5 rfl rfl)
theorem dX3_keeps_149 : decode cX3_keeps 149 = .ok (.lload 4, 2) := dk_22 4 (dk_at dksX3_keeps_6 8 rfl rfl)
theorem dX3_keeps_151 : decode cX3_keeps 151 = .ok (.l2i, 1) := dk_136 (dk_at dksX3_keeps_6 10 rfl rfl)
theorem dX3_keeps_152 : decode cX3_keeps 152 = .ok (.iconst 0, 1) := dk_3 (dk_at dksX3_keeps_6 11 rfl rfl)
theorem dX3_keeps_153 : decode cX3_keeps 153 = .ok (.invokevirtual 475, 3) := dk_182 1 219 (dk_at dksX3_keeps_6 12 rfl rfl)
theorem dX3_keeps_156 : decode cX3_keeps 156 = .ok (.aload_n 0, 1) := dk_42 (dk_at dksX3_keeps_6 15 rfl rfl)
theorem dX3_keeps_157 : decode cX3_keeps 157 = .ok (.iconst 1, 1) := dk_4 (dk_at dksX3_keeps_6 16 rfl rfl)
theorem dX3_keeps_158 : decode cX3_keeps 158 = .ok (.invokevirtual 445, 3) := dk_182 1 189 (dk_at dksX3_keeps_6 17 rfl rfl)
theorem dX3_keeps_161 : decode cX3_keeps 161 = .ok (.invokestatic 448, 3) := dk_184 1 192 (dk_at dksX3_keeps_6 20 rfl rfl)
theorem dX3_keeps_164 : decode cX3_keeps 164 = .ok (.aload_n 0, 1) := dk_42 (dk_at dksX3_keeps_6 23 rfl rfl)
theorem dX3_keeps_165 : decode cX3_keeps 165 = .ok (.getfield 75, 3) := dk_180 0 75 (dk_at dksX3_keeps_7 0 rfl rfl)
theorem dX3_keeps_168 : decode cX3_keeps 168 = .ok (.iload_n 1, 1) := dk_27 (dk_at dksX3_keeps_7 3 rfl rfl)
theorem dX3_keeps_169 : decode cX3_keeps 169 = .ok (.iaload, 1) := dk_46 (dk_at dksX3_keeps_7 4 rfl rfl)
theorem dX3_keeps_170 : decode cX3_keeps 170 = .ok (.iload_n 2, 1) := dk_28 (dk_at dksX3_keeps_7 5 rfl rfl)
theorem dX3_keeps_171 : decode cX3_keeps 171 = .ok (.imul, 1) := dk_104 (dk_at dksX3_keeps_7 6 rfl rfl)
theorem dX3_keeps_172 : decode cX3_keeps 172 = .ok (.idiv, 1) := dk_108 (dk_at dksX3_keeps_7 7 rfl rfl)
theorem dX3_keeps_173 : decode cX3_keeps 173 = .ok (.ireturn, 1) := dk_172 (dk_at dksX3_keeps_7 8 rfl rfl)
abbrev cX3_told : ByteArray := prog_14_method_97_code
def yX3_told : MethodName := ⟨RX3, "told", "(II)I"⟩
def dkwX3_told_1 : List UInt8 := [184, 1, 18, 153, 0, 14, 42, 180, 0, 255, 27, 50, 28, 46, 167, 0, 4, 2, 172]
abbrev dktX3_told_1 : List UInt8 := dkwX3_told_1 ++ []
def dkwX3_told_0 : List UInt8 := [27, 133, 9, 42, 180, 1, 30, 4, 100, 133, 184, 1, 18, 153, 0, 26, 28, 133, 9, 20, 2, 66]
abbrev dktX3_told_0 : List UInt8 := dkwX3_told_0 ++ dktX3_told_1
theorem dksX3_told_0 : cX3_told.data.toList.drop 0 = dktX3_told_0 := by decide +kernel
theorem dksX3_told_1 : cX3_told.data.toList.drop 22 = dktX3_told_1 := dk_seg dksX3_told_0 22 rfl rfl
theorem dX3_told_0 : decode cX3_told 0 = .ok (.iload_n 1, 1) := dk_27 (dk_at dksX3_told_0 0 rfl rfl)
theorem dX3_told_1 : decode cX3_told 1 = .ok (.i2l, 1) := dk_133 (dk_at dksX3_told_0 1 rfl rfl)
theorem dX3_told_2 : decode cX3_told 2 = .ok (.lconst 0, 1) := dk_9 (dk_at dksX3_told_0 2 rfl rfl)
theorem dX3_told_3 : decode cX3_told 3 = .ok (.aload_n 0, 1) := dk_42 (dk_at dksX3_told_0 3 rfl rfl)
theorem dX3_told_4 : decode cX3_told 4 = .ok (.getfield 286, 3) := dk_180 1 30 (dk_at dksX3_told_0 4 rfl rfl)
theorem dX3_told_7 : decode cX3_told 7 = .ok (.iconst 1, 1) := dk_4 (dk_at dksX3_told_0 7 rfl rfl)
theorem dX3_told_8 : decode cX3_told 8 = .ok (.isub, 1) := dk_100 (dk_at dksX3_told_0 8 rfl rfl)
theorem dX3_told_9 : decode cX3_told 9 = .ok (.i2l, 1) := dk_133 (dk_at dksX3_told_0 9 rfl rfl)
theorem dX3_told_10 : decode cX3_told 10 = .ok (.invokestatic 274, 3) := dk_184 1 18 (dk_at dksX3_told_0 10 rfl rfl)
theorem dX3_told_13 : decode cX3_told 13 = .ok (.ifCond .eq 26, 3) := dk_153 0 26 (dk_at dksX3_told_0 13 rfl rfl)
theorem dX3_told_16 : decode cX3_told 16 = .ok (.iload_n 2, 1) := dk_28 (dk_at dksX3_told_0 16 rfl rfl)
theorem dX3_told_17 : decode cX3_told 17 = .ok (.i2l, 1) := dk_133 (dk_at dksX3_told_0 17 rfl rfl)
theorem dX3_told_18 : decode cX3_told 18 = .ok (.lconst 0, 1) := dk_9 (dk_at dksX3_told_0 18 rfl rfl)
theorem dX3_told_19 : decode cX3_told 19 = .ok (.ldc2_w 578, 3) := dk_20 2 66 (dk_at dksX3_told_0 19 rfl rfl)
theorem dX3_told_22 : decode cX3_told 22 = .ok (.invokestatic 274, 3) := dk_184 1 18 (dk_at dksX3_told_1 0 rfl rfl)
theorem dX3_told_25 : decode cX3_told 25 = .ok (.ifCond .eq 14, 3) := dk_153 0 14 (dk_at dksX3_told_1 3 rfl rfl)
theorem dX3_told_28 : decode cX3_told 28 = .ok (.aload_n 0, 1) := dk_42 (dk_at dksX3_told_1 6 rfl rfl)
theorem dX3_told_29 : decode cX3_told 29 = .ok (.getfield 255, 3) := dk_180 0 255 (dk_at dksX3_told_1 7 rfl rfl)
theorem dX3_told_32 : decode cX3_told 32 = .ok (.iload_n 1, 1) := dk_27 (dk_at dksX3_told_1 10 rfl rfl)
theorem dX3_told_33 : decode cX3_told 33 = .ok (.aaload, 1) := dk_50 (dk_at dksX3_told_1 11 rfl rfl)
theorem dX3_told_34 : decode cX3_told 34 = .ok (.iload_n 2, 1) := dk_28 (dk_at dksX3_told_1 12 rfl rfl)
theorem dX3_told_35 : decode cX3_told 35 = .ok (.iaload, 1) := dk_46 (dk_at dksX3_told_1 13 rfl rfl)
theorem dX3_told_36 : decode cX3_told 36 = .ok (.goto 4, 3) := dk_167 0 4 (dk_at dksX3_told_1 14 rfl rfl)
theorem dX3_told_39 : decode cX3_told 39 = .ok (.iconst (-1), 1) := dk_2 (dk_at dksX3_told_1 17 rfl rfl)
theorem dX3_told_40 : decode cX3_told 40 = .ok (.ireturn, 1) := dk_172 (dk_at dksX3_told_1 18 rfl rfl)
abbrev cX3_check : ByteArray := prog_14_method_98_code
def yX3_check : MethodName := ⟨RX3, "check", "(III)I"⟩
def dkwX3_check_6 : List UInt8 := [148, 153, 0, 7, 5, 167, 0, 4, 3, 172]
abbrev dktX3_check_6 : List UInt8 := dkwX3_check_6 ++ []
def dkwX3_check_5 : List UInt8 := [27, 154, 0, 7, 3, 167, 0, 13, 42, 180, 0, 255, 27, 4, 100, 50, 8, 46, 133, 25, 4, 4, 47, 97]
abbrev dktX3_check_5 : List UInt8 := dkwX3_check_5 ++ dktX3_check_6
def dkwX3_check_4 : List UInt8 := [25, 4, 6, 47, 97, 25, 4, 7, 47, 97, 25, 4, 8, 47, 148, 153, 0, 5, 4, 172, 25, 4, 8, 47]
abbrev dktX3_check_4 : List UInt8 := dkwX3_check_4 ++ dktX3_check_5
def dkwX3_check_3 : List UInt8 := [167, 0, 13, 42, 180, 0, 255, 27, 50, 21, 5, 46, 133, 80, 132, 5, 1, 167, 255, 210, 25, 4, 5, 47]
abbrev dktX3_check_3 : List UInt8 := dkwX3_check_3 ++ dktX3_check_4
def dkwX3_check_2 : List UInt8 := [25, 4, 21, 5, 21, 5, 28, 160, 0, 18, 42, 180, 0, 255, 27, 50, 21, 5, 46, 29, 130, 133]
abbrev dktX3_check_2 : List UInt8 := dkwX3_check_2 ++ dktX3_check_3
def dkwX3_check_1 : List UInt8 := [184, 1, 18, 154, 0, 5, 2, 172, 16, 6, 188, 11, 58, 4, 3, 54, 5, 21, 5, 16, 6, 162, 0, 45]
abbrev dktX3_check_1 : List UInt8 := dkwX3_check_1 ++ dktX3_check_2
def dkwX3_check_0 : List UInt8 := [27, 133, 9, 42, 180, 1, 30, 4, 100, 133, 184, 1, 18, 153, 0, 15, 28, 133, 9, 20, 2, 66]
abbrev dktX3_check_0 : List UInt8 := dkwX3_check_0 ++ dktX3_check_1
theorem dksX3_check_0 : cX3_check.data.toList.drop 0 = dktX3_check_0 := by decide +kernel
theorem dksX3_check_1 : cX3_check.data.toList.drop 22 = dktX3_check_1 := dk_seg dksX3_check_0 22 rfl rfl
theorem dksX3_check_2 : cX3_check.data.toList.drop 46 = dktX3_check_2 := dk_seg dksX3_check_1 24 rfl rfl
theorem dksX3_check_3 : cX3_check.data.toList.drop 68 = dktX3_check_3 := dk_seg dksX3_check_2 22 rfl rfl
theorem dksX3_check_4 : cX3_check.data.toList.drop 92 = dktX3_check_4 := dk_seg dksX3_check_3 24 rfl rfl
theorem dksX3_check_5 : cX3_check.data.toList.drop 116 = dktX3_check_5 := dk_seg dksX3_check_4 24 rfl rfl
theorem dksX3_check_6 : cX3_check.data.toList.drop 140 = dktX3_check_6 := dk_seg dksX3_check_5 24 rfl rfl
theorem dX3_check_0 : decode cX3_check 0 = .ok (.iload_n 1, 1) := dk_27 (dk_at dksX3_check_0 0 rfl rfl)
theorem dX3_check_1 : decode cX3_check 1 = .ok (.i2l, 1) := dk_133 (dk_at dksX3_check_0 1 rfl rfl)
theorem dX3_check_2 : decode cX3_check 2 = .ok (.lconst 0, 1) := dk_9 (dk_at dksX3_check_0 2 rfl rfl)
theorem dX3_check_3 : decode cX3_check 3 = .ok (.aload_n 0, 1) := dk_42 (dk_at dksX3_check_0 3 rfl rfl)
theorem dX3_check_4 : decode cX3_check 4 = .ok (.getfield 286, 3) := dk_180 1 30 (dk_at dksX3_check_0 4 rfl rfl)
theorem dX3_check_7 : decode cX3_check 7 = .ok (.iconst 1, 1) := dk_4 (dk_at dksX3_check_0 7 rfl rfl)
theorem dX3_check_8 : decode cX3_check 8 = .ok (.isub, 1) := dk_100 (dk_at dksX3_check_0 8 rfl rfl)
theorem dX3_check_9 : decode cX3_check 9 = .ok (.i2l, 1) := dk_133 (dk_at dksX3_check_0 9 rfl rfl)
theorem dX3_check_10 : decode cX3_check 10 = .ok (.invokestatic 274, 3) := dk_184 1 18 (dk_at dksX3_check_0 10 rfl rfl)
theorem dX3_check_13 : decode cX3_check 13 = .ok (.ifCond .eq 15, 3) := dk_153 0 15 (dk_at dksX3_check_0 13 rfl rfl)
theorem dX3_check_16 : decode cX3_check 16 = .ok (.iload_n 2, 1) := dk_28 (dk_at dksX3_check_0 16 rfl rfl)
theorem dX3_check_17 : decode cX3_check 17 = .ok (.i2l, 1) := dk_133 (dk_at dksX3_check_0 17 rfl rfl)
theorem dX3_check_18 : decode cX3_check 18 = .ok (.lconst 0, 1) := dk_9 (dk_at dksX3_check_0 18 rfl rfl)
theorem dX3_check_19 : decode cX3_check 19 = .ok (.ldc2_w 578, 3) := dk_20 2 66 (dk_at dksX3_check_0 19 rfl rfl)
theorem dX3_check_22 : decode cX3_check 22 = .ok (.invokestatic 274, 3) := dk_184 1 18 (dk_at dksX3_check_1 0 rfl rfl)
theorem dX3_check_25 : decode cX3_check 25 = .ok (.ifCond .ne 5, 3) := dk_154 0 5 (dk_at dksX3_check_1 3 rfl rfl)
theorem dX3_check_28 : decode cX3_check 28 = .ok (.iconst (-1), 1) := dk_2 (dk_at dksX3_check_1 6 rfl rfl)
theorem dX3_check_29 : decode cX3_check 29 = .ok (.ireturn, 1) := dk_172 (dk_at dksX3_check_1 7 rfl rfl)
theorem dX3_check_30 : decode cX3_check 30 = .ok (.bipush 6, 2) := dk_16 6 (dk_at dksX3_check_1 8 rfl rfl)
theorem dX3_check_32 : decode cX3_check 32 = .ok (.newarray .long, 2) := dk_188_11 (dk_at dksX3_check_1 10 rfl rfl)
theorem dX3_check_34 : decode cX3_check 34 = .ok (.astore 4, 2) := dk_58 4 (dk_at dksX3_check_1 12 rfl rfl)
theorem dX3_check_36 : decode cX3_check 36 = .ok (.iconst 0, 1) := dk_3 (dk_at dksX3_check_1 14 rfl rfl)
theorem dX3_check_37 : decode cX3_check 37 = .ok (.istore 5, 2) := dk_54 5 (dk_at dksX3_check_1 15 rfl rfl)
theorem dX3_check_39 : decode cX3_check 39 = .ok (.iload 5, 2) := dk_21 5 (dk_at dksX3_check_1 17 rfl rfl)
theorem dX3_check_41 : decode cX3_check 41 = .ok (.bipush 6, 2) := dk_16 6 (dk_at dksX3_check_1 19 rfl rfl)
theorem dX3_check_43 : decode cX3_check 43 = .ok (.if_icmp .ge 45, 3) := dk_162 0 45 (dk_at dksX3_check_1 21 rfl rfl)
theorem dX3_check_46 : decode cX3_check 46 = .ok (.aload 4, 2) := dk_25 4 (dk_at dksX3_check_2 0 rfl rfl)
theorem dX3_check_48 : decode cX3_check 48 = .ok (.iload 5, 2) := dk_21 5 (dk_at dksX3_check_2 2 rfl rfl)
theorem dX3_check_50 : decode cX3_check 50 = .ok (.iload 5, 2) := dk_21 5 (dk_at dksX3_check_2 4 rfl rfl)
theorem dX3_check_52 : decode cX3_check 52 = .ok (.iload_n 2, 1) := dk_28 (dk_at dksX3_check_2 6 rfl rfl)
theorem dX3_check_53 : decode cX3_check 53 = .ok (.if_icmp .ne 18, 3) := dk_160 0 18 (dk_at dksX3_check_2 7 rfl rfl)
theorem dX3_check_56 : decode cX3_check 56 = .ok (.aload_n 0, 1) := dk_42 (dk_at dksX3_check_2 10 rfl rfl)
theorem dX3_check_57 : decode cX3_check 57 = .ok (.getfield 255, 3) := dk_180 0 255 (dk_at dksX3_check_2 11 rfl rfl)
theorem dX3_check_60 : decode cX3_check 60 = .ok (.iload_n 1, 1) := dk_27 (dk_at dksX3_check_2 14 rfl rfl)
theorem dX3_check_61 : decode cX3_check 61 = .ok (.aaload, 1) := dk_50 (dk_at dksX3_check_2 15 rfl rfl)
theorem dX3_check_62 : decode cX3_check 62 = .ok (.iload 5, 2) := dk_21 5 (dk_at dksX3_check_2 16 rfl rfl)
theorem dX3_check_64 : decode cX3_check 64 = .ok (.iaload, 1) := dk_46 (dk_at dksX3_check_2 18 rfl rfl)
theorem dX3_check_65 : decode cX3_check 65 = .ok (.iload_n 3, 1) := dk_29 (dk_at dksX3_check_2 19 rfl rfl)
theorem dX3_check_66 : decode cX3_check 66 = .ok (.ixor, 1) := dk_130 (dk_at dksX3_check_2 20 rfl rfl)
theorem dX3_check_67 : decode cX3_check 67 = .ok (.i2l, 1) := dk_133 (dk_at dksX3_check_2 21 rfl rfl)
theorem dX3_check_68 : decode cX3_check 68 = .ok (.goto 13, 3) := dk_167 0 13 (dk_at dksX3_check_3 0 rfl rfl)
theorem dX3_check_71 : decode cX3_check 71 = .ok (.aload_n 0, 1) := dk_42 (dk_at dksX3_check_3 3 rfl rfl)
theorem dX3_check_72 : decode cX3_check 72 = .ok (.getfield 255, 3) := dk_180 0 255 (dk_at dksX3_check_3 4 rfl rfl)
theorem dX3_check_75 : decode cX3_check 75 = .ok (.iload_n 1, 1) := dk_27 (dk_at dksX3_check_3 7 rfl rfl)
theorem dX3_check_76 : decode cX3_check 76 = .ok (.aaload, 1) := dk_50 (dk_at dksX3_check_3 8 rfl rfl)
theorem dX3_check_77 : decode cX3_check 77 = .ok (.iload 5, 2) := dk_21 5 (dk_at dksX3_check_3 9 rfl rfl)
theorem dX3_check_79 : decode cX3_check 79 = .ok (.iaload, 1) := dk_46 (dk_at dksX3_check_3 11 rfl rfl)
theorem dX3_check_80 : decode cX3_check 80 = .ok (.i2l, 1) := dk_133 (dk_at dksX3_check_3 12 rfl rfl)
theorem dX3_check_81 : decode cX3_check 81 = .ok (.lastore, 1) := dk_80 (dk_at dksX3_check_3 13 rfl rfl)
theorem dX3_check_82 : decode cX3_check 82 = .ok (.iinc 5 1, 3) := dk_132 5 1 (dk_at dksX3_check_3 14 rfl rfl)
theorem dX3_check_85 : decode cX3_check 85 = .ok (.goto (-46), 3) := dk_167 255 210 (dk_at dksX3_check_3 17 rfl rfl)
theorem dX3_check_88 : decode cX3_check 88 = .ok (.aload 4, 2) := dk_25 4 (dk_at dksX3_check_3 20 rfl rfl)
theorem dX3_check_90 : decode cX3_check 90 = .ok (.iconst 2, 1) := dk_5 (dk_at dksX3_check_3 22 rfl rfl)
theorem dX3_check_91 : decode cX3_check 91 = .ok (.laload, 1) := dk_47 (dk_at dksX3_check_3 23 rfl rfl)
theorem dX3_check_92 : decode cX3_check 92 = .ok (.aload 4, 2) := dk_25 4 (dk_at dksX3_check_4 0 rfl rfl)
theorem dX3_check_94 : decode cX3_check 94 = .ok (.iconst 3, 1) := dk_6 (dk_at dksX3_check_4 2 rfl rfl)
theorem dX3_check_95 : decode cX3_check 95 = .ok (.laload, 1) := dk_47 (dk_at dksX3_check_4 3 rfl rfl)
theorem dX3_check_96 : decode cX3_check 96 = .ok (.ladd, 1) := dk_97 (dk_at dksX3_check_4 4 rfl rfl)
theorem dX3_check_97 : decode cX3_check 97 = .ok (.aload 4, 2) := dk_25 4 (dk_at dksX3_check_4 5 rfl rfl)
theorem dX3_check_99 : decode cX3_check 99 = .ok (.iconst 4, 1) := dk_7 (dk_at dksX3_check_4 7 rfl rfl)
theorem dX3_check_100 : decode cX3_check 100 = .ok (.laload, 1) := dk_47 (dk_at dksX3_check_4 8 rfl rfl)
theorem dX3_check_101 : decode cX3_check 101 = .ok (.ladd, 1) := dk_97 (dk_at dksX3_check_4 9 rfl rfl)
theorem dX3_check_102 : decode cX3_check 102 = .ok (.aload 4, 2) := dk_25 4 (dk_at dksX3_check_4 10 rfl rfl)
theorem dX3_check_104 : decode cX3_check 104 = .ok (.iconst 5, 1) := dk_8 (dk_at dksX3_check_4 12 rfl rfl)
theorem dX3_check_105 : decode cX3_check 105 = .ok (.laload, 1) := dk_47 (dk_at dksX3_check_4 13 rfl rfl)
theorem dX3_check_106 : decode cX3_check 106 = .ok (.lcmp, 1) := dk_148 (dk_at dksX3_check_4 14 rfl rfl)
theorem dX3_check_107 : decode cX3_check 107 = .ok (.ifCond .eq 5, 3) := dk_153 0 5 (dk_at dksX3_check_4 15 rfl rfl)
theorem dX3_check_110 : decode cX3_check 110 = .ok (.iconst 1, 1) := dk_4 (dk_at dksX3_check_4 18 rfl rfl)
theorem dX3_check_111 : decode cX3_check 111 = .ok (.ireturn, 1) := dk_172 (dk_at dksX3_check_4 19 rfl rfl)
theorem dX3_check_112 : decode cX3_check 112 = .ok (.aload 4, 2) := dk_25 4 (dk_at dksX3_check_4 20 rfl rfl)
theorem dX3_check_114 : decode cX3_check 114 = .ok (.iconst 5, 1) := dk_8 (dk_at dksX3_check_4 22 rfl rfl)
theorem dX3_check_115 : decode cX3_check 115 = .ok (.laload, 1) := dk_47 (dk_at dksX3_check_4 23 rfl rfl)
theorem dX3_check_116 : decode cX3_check 116 = .ok (.iload_n 1, 1) := dk_27 (dk_at dksX3_check_5 0 rfl rfl)
theorem dX3_check_117 : decode cX3_check 117 = .ok (.ifCond .ne 7, 3) := dk_154 0 7 (dk_at dksX3_check_5 1 rfl rfl)
theorem dX3_check_120 : decode cX3_check 120 = .ok (.iconst 0, 1) := dk_3 (dk_at dksX3_check_5 4 rfl rfl)
theorem dX3_check_121 : decode cX3_check 121 = .ok (.goto 13, 3) := dk_167 0 13 (dk_at dksX3_check_5 5 rfl rfl)
theorem dX3_check_124 : decode cX3_check 124 = .ok (.aload_n 0, 1) := dk_42 (dk_at dksX3_check_5 8 rfl rfl)
theorem dX3_check_125 : decode cX3_check 125 = .ok (.getfield 255, 3) := dk_180 0 255 (dk_at dksX3_check_5 9 rfl rfl)
theorem dX3_check_128 : decode cX3_check 128 = .ok (.iload_n 1, 1) := dk_27 (dk_at dksX3_check_5 12 rfl rfl)
theorem dX3_check_129 : decode cX3_check 129 = .ok (.iconst 1, 1) := dk_4 (dk_at dksX3_check_5 13 rfl rfl)
theorem dX3_check_130 : decode cX3_check 130 = .ok (.isub, 1) := dk_100 (dk_at dksX3_check_5 14 rfl rfl)
theorem dX3_check_131 : decode cX3_check 131 = .ok (.aaload, 1) := dk_50 (dk_at dksX3_check_5 15 rfl rfl)
theorem dX3_check_132 : decode cX3_check 132 = .ok (.iconst 5, 1) := dk_8 (dk_at dksX3_check_5 16 rfl rfl)
theorem dX3_check_133 : decode cX3_check 133 = .ok (.iaload, 1) := dk_46 (dk_at dksX3_check_5 17 rfl rfl)
theorem dX3_check_134 : decode cX3_check 134 = .ok (.i2l, 1) := dk_133 (dk_at dksX3_check_5 18 rfl rfl)
theorem dX3_check_135 : decode cX3_check 135 = .ok (.aload 4, 2) := dk_25 4 (dk_at dksX3_check_5 19 rfl rfl)
theorem dX3_check_137 : decode cX3_check 137 = .ok (.iconst 1, 1) := dk_4 (dk_at dksX3_check_5 21 rfl rfl)
theorem dX3_check_138 : decode cX3_check 138 = .ok (.laload, 1) := dk_47 (dk_at dksX3_check_5 22 rfl rfl)
theorem dX3_check_139 : decode cX3_check 139 = .ok (.ladd, 1) := dk_97 (dk_at dksX3_check_5 23 rfl rfl)
theorem dX3_check_140 : decode cX3_check 140 = .ok (.lcmp, 1) := dk_148 (dk_at dksX3_check_6 0 rfl rfl)
theorem dX3_check_141 : decode cX3_check 141 = .ok (.ifCond .eq 7, 3) := dk_153 0 7 (dk_at dksX3_check_6 1 rfl rfl)
theorem dX3_check_144 : decode cX3_check 144 = .ok (.iconst 2, 1) := dk_5 (dk_at dksX3_check_6 4 rfl rfl)
theorem dX3_check_145 : decode cX3_check 145 = .ok (.goto 4, 3) := dk_167 0 4 (dk_at dksX3_check_6 5 rfl rfl)
theorem dX3_check_148 : decode cX3_check 148 = .ok (.iconst 0, 1) := dk_3 (dk_at dksX3_check_6 8 rfl rfl)
theorem dX3_check_149 : decode cX3_check 149 = .ok (.ireturn, 1) := dk_172 (dk_at dksX3_check_6 9 rfl rfl)
abbrev cX3_is : ByteArray := prog_14_method_99_code
def yX3_is : MethodName := ⟨RX3, "is", "(II)I"⟩
def dkwX3_is_5 : List UInt8 := [42, 180, 0, 57, 27, 46, 172, 2, 172]
abbrev dktX3_is_5 : List UInt8 := dkwX3_is_5 ++ []
def dkwX3_is_4 : List UInt8 := [27, 46, 172, 42, 180, 0, 45, 27, 46, 172, 42, 180, 0, 48, 27, 46, 172, 42, 180, 0, 54, 27, 46, 172]
abbrev dktX3_is_4 : List UInt8 := dkwX3_is_4 ++ dktX3_is_5
def dkwX3_is_3 : List UInt8 := [180, 0, 33, 27, 46, 172, 42, 180, 0, 36, 27, 46, 172, 42, 180, 0, 39, 27, 46, 172, 42, 180, 0, 42]
abbrev dktX3_is_3 : List UInt8 := dkwX3_is_3 ++ dktX3_is_4
def dkwX3_is_2 : List UInt8 := [42, 180, 0, 24, 27, 46, 172, 42, 180, 0, 27, 27, 46, 172, 42, 180, 0, 30, 27, 46, 172, 42]
abbrev dktX3_is_2 : List UInt8 := dkwX3_is_2 ++ dktX3_is_3
def dkwX3_is_1 : List UInt8 := [170, 0, 0, 0, 134, 0, 0, 0, 0, 0, 0, 0, 10, 0, 0, 0, 57, 0, 0, 0, 64, 0, 0, 0, 71, 0, 0, 0, 78, 0, 0, 0, 85, 0, 0, 0, 92, 0, 0, 0, 99, 0, 0, 0, 106, 0, 0, 0, 113, 0, 0, 0, 120, 0, 0, 0, 127]
abbrev dktX3_is_1 : List UInt8 := dkwX3_is_1 ++ dktX3_is_2
def dkwX3_is_0 : List UInt8 := [42, 27, 182, 1, 33, 154, 0, 5, 2, 172, 28]
abbrev dktX3_is_0 : List UInt8 := dkwX3_is_0 ++ dktX3_is_1
theorem dksX3_is_0 : cX3_is.data.toList.drop 0 = dktX3_is_0 := by decide +kernel
theorem dksX3_is_1 : cX3_is.data.toList.drop 11 = dktX3_is_1 := dk_seg dksX3_is_0 11 rfl rfl
theorem dksX3_is_2 : cX3_is.data.toList.drop 68 = dktX3_is_2 := dk_seg dksX3_is_1 57 rfl rfl
theorem dksX3_is_3 : cX3_is.data.toList.drop 90 = dktX3_is_3 := dk_seg dksX3_is_2 22 rfl rfl
theorem dksX3_is_4 : cX3_is.data.toList.drop 114 = dktX3_is_4 := dk_seg dksX3_is_3 24 rfl rfl
theorem dksX3_is_5 : cX3_is.data.toList.drop 138 = dktX3_is_5 := dk_seg dksX3_is_4 24 rfl rfl
theorem dX3_is_0 : decode cX3_is 0 = .ok (.aload_n 0, 1) := dk_42 (dk_at dksX3_is_0 0 rfl rfl)
theorem dX3_is_1 : decode cX3_is 1 = .ok (.iload_n 1, 1) := dk_27 (dk_at dksX3_is_0 1 rfl rfl)
theorem dX3_is_2 : decode cX3_is 2 = .ok (.invokevirtual 289, 3) := dk_182 1 33 (dk_at dksX3_is_0 2 rfl rfl)
theorem dX3_is_5 : decode cX3_is 5 = .ok (.ifCond .ne 5, 3) := dk_154 0 5 (dk_at dksX3_is_0 5 rfl rfl)
theorem dX3_is_8 : decode cX3_is 8 = .ok (.iconst (-1), 1) := dk_2 (dk_at dksX3_is_0 8 rfl rfl)
theorem dX3_is_9 : decode cX3_is 9 = .ok (.ireturn, 1) := dk_172 (dk_at dksX3_is_0 9 rfl rfl)
theorem dX3_is_10 : decode cX3_is 10 = .ok (.iload_n 2, 1) := dk_28 (dk_at dksX3_is_0 10 rfl rfl)
theorem dX3_is_11 : decode cX3_is 11 = .ok (.tableswitch 134 0 10 #[57, 64, 71, 78, 85, 92, 99, 106, 113, 120, 127], 57) := by decide +kernel
theorem dX3_is_68 : decode cX3_is 68 = .ok (.aload_n 0, 1) := dk_42 (dk_at dksX3_is_2 0 rfl rfl)
theorem dX3_is_69 : decode cX3_is 69 = .ok (.getfield 24, 3) := dk_180 0 24 (dk_at dksX3_is_2 1 rfl rfl)
theorem dX3_is_72 : decode cX3_is 72 = .ok (.iload_n 1, 1) := dk_27 (dk_at dksX3_is_2 4 rfl rfl)
theorem dX3_is_73 : decode cX3_is 73 = .ok (.iaload, 1) := dk_46 (dk_at dksX3_is_2 5 rfl rfl)
theorem dX3_is_74 : decode cX3_is 74 = .ok (.ireturn, 1) := dk_172 (dk_at dksX3_is_2 6 rfl rfl)
theorem dX3_is_75 : decode cX3_is 75 = .ok (.aload_n 0, 1) := dk_42 (dk_at dksX3_is_2 7 rfl rfl)
theorem dX3_is_76 : decode cX3_is 76 = .ok (.getfield 27, 3) := dk_180 0 27 (dk_at dksX3_is_2 8 rfl rfl)
theorem dX3_is_79 : decode cX3_is 79 = .ok (.iload_n 1, 1) := dk_27 (dk_at dksX3_is_2 11 rfl rfl)
theorem dX3_is_80 : decode cX3_is 80 = .ok (.iaload, 1) := dk_46 (dk_at dksX3_is_2 12 rfl rfl)
theorem dX3_is_81 : decode cX3_is 81 = .ok (.ireturn, 1) := dk_172 (dk_at dksX3_is_2 13 rfl rfl)
theorem dX3_is_82 : decode cX3_is 82 = .ok (.aload_n 0, 1) := dk_42 (dk_at dksX3_is_2 14 rfl rfl)
theorem dX3_is_83 : decode cX3_is 83 = .ok (.getfield 30, 3) := dk_180 0 30 (dk_at dksX3_is_2 15 rfl rfl)
theorem dX3_is_86 : decode cX3_is 86 = .ok (.iload_n 1, 1) := dk_27 (dk_at dksX3_is_2 18 rfl rfl)
theorem dX3_is_87 : decode cX3_is 87 = .ok (.iaload, 1) := dk_46 (dk_at dksX3_is_2 19 rfl rfl)
theorem dX3_is_88 : decode cX3_is 88 = .ok (.ireturn, 1) := dk_172 (dk_at dksX3_is_2 20 rfl rfl)
theorem dX3_is_89 : decode cX3_is 89 = .ok (.aload_n 0, 1) := dk_42 (dk_at dksX3_is_2 21 rfl rfl)
theorem dX3_is_90 : decode cX3_is 90 = .ok (.getfield 33, 3) := dk_180 0 33 (dk_at dksX3_is_3 0 rfl rfl)
theorem dX3_is_93 : decode cX3_is 93 = .ok (.iload_n 1, 1) := dk_27 (dk_at dksX3_is_3 3 rfl rfl)
theorem dX3_is_94 : decode cX3_is 94 = .ok (.iaload, 1) := dk_46 (dk_at dksX3_is_3 4 rfl rfl)
theorem dX3_is_95 : decode cX3_is 95 = .ok (.ireturn, 1) := dk_172 (dk_at dksX3_is_3 5 rfl rfl)
theorem dX3_is_96 : decode cX3_is 96 = .ok (.aload_n 0, 1) := dk_42 (dk_at dksX3_is_3 6 rfl rfl)
theorem dX3_is_97 : decode cX3_is 97 = .ok (.getfield 36, 3) := dk_180 0 36 (dk_at dksX3_is_3 7 rfl rfl)
theorem dX3_is_100 : decode cX3_is 100 = .ok (.iload_n 1, 1) := dk_27 (dk_at dksX3_is_3 10 rfl rfl)
theorem dX3_is_101 : decode cX3_is 101 = .ok (.iaload, 1) := dk_46 (dk_at dksX3_is_3 11 rfl rfl)
theorem dX3_is_102 : decode cX3_is 102 = .ok (.ireturn, 1) := dk_172 (dk_at dksX3_is_3 12 rfl rfl)
theorem dX3_is_103 : decode cX3_is 103 = .ok (.aload_n 0, 1) := dk_42 (dk_at dksX3_is_3 13 rfl rfl)
theorem dX3_is_104 : decode cX3_is 104 = .ok (.getfield 39, 3) := dk_180 0 39 (dk_at dksX3_is_3 14 rfl rfl)
theorem dX3_is_107 : decode cX3_is 107 = .ok (.iload_n 1, 1) := dk_27 (dk_at dksX3_is_3 17 rfl rfl)
theorem dX3_is_108 : decode cX3_is 108 = .ok (.iaload, 1) := dk_46 (dk_at dksX3_is_3 18 rfl rfl)
theorem dX3_is_109 : decode cX3_is 109 = .ok (.ireturn, 1) := dk_172 (dk_at dksX3_is_3 19 rfl rfl)
theorem dX3_is_110 : decode cX3_is 110 = .ok (.aload_n 0, 1) := dk_42 (dk_at dksX3_is_3 20 rfl rfl)
theorem dX3_is_111 : decode cX3_is 111 = .ok (.getfield 42, 3) := dk_180 0 42 (dk_at dksX3_is_3 21 rfl rfl)
theorem dX3_is_114 : decode cX3_is 114 = .ok (.iload_n 1, 1) := dk_27 (dk_at dksX3_is_4 0 rfl rfl)
theorem dX3_is_115 : decode cX3_is 115 = .ok (.iaload, 1) := dk_46 (dk_at dksX3_is_4 1 rfl rfl)
theorem dX3_is_116 : decode cX3_is 116 = .ok (.ireturn, 1) := dk_172 (dk_at dksX3_is_4 2 rfl rfl)
theorem dX3_is_117 : decode cX3_is 117 = .ok (.aload_n 0, 1) := dk_42 (dk_at dksX3_is_4 3 rfl rfl)
theorem dX3_is_118 : decode cX3_is 118 = .ok (.getfield 45, 3) := dk_180 0 45 (dk_at dksX3_is_4 4 rfl rfl)
theorem dX3_is_121 : decode cX3_is 121 = .ok (.iload_n 1, 1) := dk_27 (dk_at dksX3_is_4 7 rfl rfl)
theorem dX3_is_122 : decode cX3_is 122 = .ok (.iaload, 1) := dk_46 (dk_at dksX3_is_4 8 rfl rfl)
theorem dX3_is_123 : decode cX3_is 123 = .ok (.ireturn, 1) := dk_172 (dk_at dksX3_is_4 9 rfl rfl)
theorem dX3_is_124 : decode cX3_is 124 = .ok (.aload_n 0, 1) := dk_42 (dk_at dksX3_is_4 10 rfl rfl)
theorem dX3_is_125 : decode cX3_is 125 = .ok (.getfield 48, 3) := dk_180 0 48 (dk_at dksX3_is_4 11 rfl rfl)
theorem dX3_is_128 : decode cX3_is 128 = .ok (.iload_n 1, 1) := dk_27 (dk_at dksX3_is_4 14 rfl rfl)
theorem dX3_is_129 : decode cX3_is 129 = .ok (.iaload, 1) := dk_46 (dk_at dksX3_is_4 15 rfl rfl)
theorem dX3_is_130 : decode cX3_is 130 = .ok (.ireturn, 1) := dk_172 (dk_at dksX3_is_4 16 rfl rfl)
theorem dX3_is_131 : decode cX3_is 131 = .ok (.aload_n 0, 1) := dk_42 (dk_at dksX3_is_4 17 rfl rfl)
theorem dX3_is_132 : decode cX3_is 132 = .ok (.getfield 54, 3) := dk_180 0 54 (dk_at dksX3_is_4 18 rfl rfl)
theorem dX3_is_135 : decode cX3_is 135 = .ok (.iload_n 1, 1) := dk_27 (dk_at dksX3_is_4 21 rfl rfl)
theorem dX3_is_136 : decode cX3_is 136 = .ok (.iaload, 1) := dk_46 (dk_at dksX3_is_4 22 rfl rfl)
theorem dX3_is_137 : decode cX3_is 137 = .ok (.ireturn, 1) := dk_172 (dk_at dksX3_is_4 23 rfl rfl)
theorem dX3_is_138 : decode cX3_is 138 = .ok (.aload_n 0, 1) := dk_42 (dk_at dksX3_is_5 0 rfl rfl)
theorem dX3_is_139 : decode cX3_is 139 = .ok (.getfield 57, 3) := dk_180 0 57 (dk_at dksX3_is_5 1 rfl rfl)
theorem dX3_is_142 : decode cX3_is 142 = .ok (.iload_n 1, 1) := dk_27 (dk_at dksX3_is_5 4 rfl rfl)
theorem dX3_is_143 : decode cX3_is 143 = .ok (.iaload, 1) := dk_46 (dk_at dksX3_is_5 5 rfl rfl)
theorem dX3_is_144 : decode cX3_is 144 = .ok (.ireturn, 1) := dk_172 (dk_at dksX3_is_5 6 rfl rfl)
theorem dX3_is_145 : decode cX3_is 145 = .ok (.iconst (-1), 1) := dk_2 (dk_at dksX3_is_5 7 rfl rfl)
theorem dX3_is_146 : decode cX3_is 146 = .ok (.ireturn, 1) := dk_172 (dk_at dksX3_is_5 8 rfl rfl)
abbrev cX3_has : ByteArray := prog_14_method_100_code
def yX3_has : MethodName := ⟨RX3, "has", "(II)I"⟩
def dkwX3_has_5 : List UInt8 := [42, 27, 182, 1, 44, 153, 0, 12, 42, 180, 0, 102, 27, 46, 167, 0, 4, 2, 172, 19, 1, 55, 172]
abbrev dktX3_has_5 : List UInt8 := dkwX3_has_5 ++ []
def dkwX3_has_4 : List UInt8 := [27, 46, 172, 42, 180, 0, 84, 27, 46, 172, 42, 180, 0, 87, 27, 46, 172, 42, 180, 0, 90, 27, 46, 172]
abbrev dktX3_has_4 : List UInt8 := dkwX3_has_4 ++ dktX3_has_5
def dkwX3_has_3 : List UInt8 := [180, 0, 72, 27, 46, 172, 42, 180, 0, 75, 27, 46, 172, 42, 180, 0, 78, 27, 46, 172, 42, 180, 0, 81]
abbrev dktX3_has_3 : List UInt8 := dkwX3_has_3 ++ dktX3_has_4
def dkwX3_has_2 : List UInt8 := [42, 180, 0, 63, 27, 46, 172, 42, 180, 0, 66, 27, 46, 172, 42, 180, 0, 69, 27, 46, 172, 42]
abbrev dktX3_has_2 : List UInt8 := dkwX3_has_2 ++ dktX3_has_3
def dkwX3_has_1 : List UInt8 := [170, 0, 0, 0, 0, 0, 148, 0, 0, 0, 0, 0, 0, 0, 10, 0, 0, 0, 59, 0, 0, 0, 66, 0, 0, 0, 73, 0, 0, 0, 80, 0, 0, 0, 87, 0, 0, 0, 94, 0, 0, 0, 101, 0, 0, 0, 108, 0, 0, 0, 115, 0, 0, 0, 122, 0, 0, 0, 129]
abbrev dktX3_has_1 : List UInt8 := dkwX3_has_1 ++ dktX3_has_2
def dkwX3_has_0 : List UInt8 := [42, 27, 182, 1, 41, 154, 0, 7, 19, 1, 55, 172, 28]
abbrev dktX3_has_0 : List UInt8 := dkwX3_has_0 ++ dktX3_has_1
theorem dksX3_has_0 : cX3_has.data.toList.drop 0 = dktX3_has_0 := by decide +kernel
theorem dksX3_has_1 : cX3_has.data.toList.drop 13 = dktX3_has_1 := dk_seg dksX3_has_0 13 rfl rfl
theorem dksX3_has_2 : cX3_has.data.toList.drop 72 = dktX3_has_2 := dk_seg dksX3_has_1 59 rfl rfl
theorem dksX3_has_3 : cX3_has.data.toList.drop 94 = dktX3_has_3 := dk_seg dksX3_has_2 22 rfl rfl
theorem dksX3_has_4 : cX3_has.data.toList.drop 118 = dktX3_has_4 := dk_seg dksX3_has_3 24 rfl rfl
theorem dksX3_has_5 : cX3_has.data.toList.drop 142 = dktX3_has_5 := dk_seg dksX3_has_4 24 rfl rfl
theorem dX3_has_0 : decode cX3_has 0 = .ok (.aload_n 0, 1) := dk_42 (dk_at dksX3_has_0 0 rfl rfl)
theorem dX3_has_1 : decode cX3_has 1 = .ok (.iload_n 1, 1) := dk_27 (dk_at dksX3_has_0 1 rfl rfl)
theorem dX3_has_2 : decode cX3_has 2 = .ok (.invokevirtual 297, 3) := dk_182 1 41 (dk_at dksX3_has_0 2 rfl rfl)
theorem dX3_has_5 : decode cX3_has 5 = .ok (.ifCond .ne 7, 3) := dk_154 0 7 (dk_at dksX3_has_0 5 rfl rfl)
theorem dX3_has_8 : decode cX3_has 8 = .ok (.ldc_w 311, 3) := dk_19 1 55 (dk_at dksX3_has_0 8 rfl rfl)
theorem dX3_has_11 : decode cX3_has 11 = .ok (.ireturn, 1) := dk_172 (dk_at dksX3_has_0 11 rfl rfl)
theorem dX3_has_12 : decode cX3_has 12 = .ok (.iload_n 2, 1) := dk_28 (dk_at dksX3_has_0 12 rfl rfl)
theorem dX3_has_13 : decode cX3_has 13 = .ok (.tableswitch 148 0 10 #[59, 66, 73, 80, 87, 94, 101, 108, 115, 122, 129], 59) := by decide +kernel
theorem dX3_has_72 : decode cX3_has 72 = .ok (.aload_n 0, 1) := dk_42 (dk_at dksX3_has_2 0 rfl rfl)
theorem dX3_has_73 : decode cX3_has 73 = .ok (.getfield 63, 3) := dk_180 0 63 (dk_at dksX3_has_2 1 rfl rfl)
theorem dX3_has_76 : decode cX3_has 76 = .ok (.iload_n 1, 1) := dk_27 (dk_at dksX3_has_2 4 rfl rfl)
theorem dX3_has_77 : decode cX3_has 77 = .ok (.iaload, 1) := dk_46 (dk_at dksX3_has_2 5 rfl rfl)
theorem dX3_has_78 : decode cX3_has 78 = .ok (.ireturn, 1) := dk_172 (dk_at dksX3_has_2 6 rfl rfl)
theorem dX3_has_79 : decode cX3_has 79 = .ok (.aload_n 0, 1) := dk_42 (dk_at dksX3_has_2 7 rfl rfl)
theorem dX3_has_80 : decode cX3_has 80 = .ok (.getfield 66, 3) := dk_180 0 66 (dk_at dksX3_has_2 8 rfl rfl)
theorem dX3_has_83 : decode cX3_has 83 = .ok (.iload_n 1, 1) := dk_27 (dk_at dksX3_has_2 11 rfl rfl)
theorem dX3_has_84 : decode cX3_has 84 = .ok (.iaload, 1) := dk_46 (dk_at dksX3_has_2 12 rfl rfl)
theorem dX3_has_85 : decode cX3_has 85 = .ok (.ireturn, 1) := dk_172 (dk_at dksX3_has_2 13 rfl rfl)
theorem dX3_has_86 : decode cX3_has 86 = .ok (.aload_n 0, 1) := dk_42 (dk_at dksX3_has_2 14 rfl rfl)
theorem dX3_has_87 : decode cX3_has 87 = .ok (.getfield 69, 3) := dk_180 0 69 (dk_at dksX3_has_2 15 rfl rfl)
theorem dX3_has_90 : decode cX3_has 90 = .ok (.iload_n 1, 1) := dk_27 (dk_at dksX3_has_2 18 rfl rfl)
theorem dX3_has_91 : decode cX3_has 91 = .ok (.iaload, 1) := dk_46 (dk_at dksX3_has_2 19 rfl rfl)
theorem dX3_has_92 : decode cX3_has 92 = .ok (.ireturn, 1) := dk_172 (dk_at dksX3_has_2 20 rfl rfl)
theorem dX3_has_93 : decode cX3_has 93 = .ok (.aload_n 0, 1) := dk_42 (dk_at dksX3_has_2 21 rfl rfl)
theorem dX3_has_94 : decode cX3_has 94 = .ok (.getfield 72, 3) := dk_180 0 72 (dk_at dksX3_has_3 0 rfl rfl)
theorem dX3_has_97 : decode cX3_has 97 = .ok (.iload_n 1, 1) := dk_27 (dk_at dksX3_has_3 3 rfl rfl)
theorem dX3_has_98 : decode cX3_has 98 = .ok (.iaload, 1) := dk_46 (dk_at dksX3_has_3 4 rfl rfl)
theorem dX3_has_99 : decode cX3_has 99 = .ok (.ireturn, 1) := dk_172 (dk_at dksX3_has_3 5 rfl rfl)
theorem dX3_has_100 : decode cX3_has 100 = .ok (.aload_n 0, 1) := dk_42 (dk_at dksX3_has_3 6 rfl rfl)
theorem dX3_has_101 : decode cX3_has 101 = .ok (.getfield 75, 3) := dk_180 0 75 (dk_at dksX3_has_3 7 rfl rfl)
theorem dX3_has_104 : decode cX3_has 104 = .ok (.iload_n 1, 1) := dk_27 (dk_at dksX3_has_3 10 rfl rfl)
theorem dX3_has_105 : decode cX3_has 105 = .ok (.iaload, 1) := dk_46 (dk_at dksX3_has_3 11 rfl rfl)
theorem dX3_has_106 : decode cX3_has 106 = .ok (.ireturn, 1) := dk_172 (dk_at dksX3_has_3 12 rfl rfl)
theorem dX3_has_107 : decode cX3_has 107 = .ok (.aload_n 0, 1) := dk_42 (dk_at dksX3_has_3 13 rfl rfl)
theorem dX3_has_108 : decode cX3_has 108 = .ok (.getfield 78, 3) := dk_180 0 78 (dk_at dksX3_has_3 14 rfl rfl)
theorem dX3_has_111 : decode cX3_has 111 = .ok (.iload_n 1, 1) := dk_27 (dk_at dksX3_has_3 17 rfl rfl)
theorem dX3_has_112 : decode cX3_has 112 = .ok (.iaload, 1) := dk_46 (dk_at dksX3_has_3 18 rfl rfl)
theorem dX3_has_113 : decode cX3_has 113 = .ok (.ireturn, 1) := dk_172 (dk_at dksX3_has_3 19 rfl rfl)
theorem dX3_has_114 : decode cX3_has 114 = .ok (.aload_n 0, 1) := dk_42 (dk_at dksX3_has_3 20 rfl rfl)
theorem dX3_has_115 : decode cX3_has 115 = .ok (.getfield 81, 3) := dk_180 0 81 (dk_at dksX3_has_3 21 rfl rfl)
theorem dX3_has_118 : decode cX3_has 118 = .ok (.iload_n 1, 1) := dk_27 (dk_at dksX3_has_4 0 rfl rfl)
theorem dX3_has_119 : decode cX3_has 119 = .ok (.iaload, 1) := dk_46 (dk_at dksX3_has_4 1 rfl rfl)
theorem dX3_has_120 : decode cX3_has 120 = .ok (.ireturn, 1) := dk_172 (dk_at dksX3_has_4 2 rfl rfl)
theorem dX3_has_121 : decode cX3_has 121 = .ok (.aload_n 0, 1) := dk_42 (dk_at dksX3_has_4 3 rfl rfl)
theorem dX3_has_122 : decode cX3_has 122 = .ok (.getfield 84, 3) := dk_180 0 84 (dk_at dksX3_has_4 4 rfl rfl)
theorem dX3_has_125 : decode cX3_has 125 = .ok (.iload_n 1, 1) := dk_27 (dk_at dksX3_has_4 7 rfl rfl)
theorem dX3_has_126 : decode cX3_has 126 = .ok (.iaload, 1) := dk_46 (dk_at dksX3_has_4 8 rfl rfl)
theorem dX3_has_127 : decode cX3_has 127 = .ok (.ireturn, 1) := dk_172 (dk_at dksX3_has_4 9 rfl rfl)
theorem dX3_has_128 : decode cX3_has 128 = .ok (.aload_n 0, 1) := dk_42 (dk_at dksX3_has_4 10 rfl rfl)
theorem dX3_has_129 : decode cX3_has 129 = .ok (.getfield 87, 3) := dk_180 0 87 (dk_at dksX3_has_4 11 rfl rfl)
theorem dX3_has_132 : decode cX3_has 132 = .ok (.iload_n 1, 1) := dk_27 (dk_at dksX3_has_4 14 rfl rfl)
theorem dX3_has_133 : decode cX3_has 133 = .ok (.iaload, 1) := dk_46 (dk_at dksX3_has_4 15 rfl rfl)
theorem dX3_has_134 : decode cX3_has 134 = .ok (.ireturn, 1) := dk_172 (dk_at dksX3_has_4 16 rfl rfl)
theorem dX3_has_135 : decode cX3_has 135 = .ok (.aload_n 0, 1) := dk_42 (dk_at dksX3_has_4 17 rfl rfl)
theorem dX3_has_136 : decode cX3_has 136 = .ok (.getfield 90, 3) := dk_180 0 90 (dk_at dksX3_has_4 18 rfl rfl)
theorem dX3_has_139 : decode cX3_has 139 = .ok (.iload_n 1, 1) := dk_27 (dk_at dksX3_has_4 21 rfl rfl)
theorem dX3_has_140 : decode cX3_has 140 = .ok (.iaload, 1) := dk_46 (dk_at dksX3_has_4 22 rfl rfl)
theorem dX3_has_141 : decode cX3_has 141 = .ok (.ireturn, 1) := dk_172 (dk_at dksX3_has_4 23 rfl rfl)
theorem dX3_has_142 : decode cX3_has 142 = .ok (.aload_n 0, 1) := dk_42 (dk_at dksX3_has_5 0 rfl rfl)
theorem dX3_has_143 : decode cX3_has 143 = .ok (.iload_n 1, 1) := dk_27 (dk_at dksX3_has_5 1 rfl rfl)
theorem dX3_has_144 : decode cX3_has 144 = .ok (.invokevirtual 300, 3) := dk_182 1 44 (dk_at dksX3_has_5 2 rfl rfl)
theorem dX3_has_147 : decode cX3_has 147 = .ok (.ifCond .eq 12, 3) := dk_153 0 12 (dk_at dksX3_has_5 5 rfl rfl)
theorem dX3_has_150 : decode cX3_has 150 = .ok (.aload_n 0, 1) := dk_42 (dk_at dksX3_has_5 8 rfl rfl)
theorem dX3_has_151 : decode cX3_has 151 = .ok (.getfield 102, 3) := dk_180 0 102 (dk_at dksX3_has_5 9 rfl rfl)
theorem dX3_has_154 : decode cX3_has 154 = .ok (.iload_n 1, 1) := dk_27 (dk_at dksX3_has_5 12 rfl rfl)
theorem dX3_has_155 : decode cX3_has 155 = .ok (.iaload, 1) := dk_46 (dk_at dksX3_has_5 13 rfl rfl)
theorem dX3_has_156 : decode cX3_has 156 = .ok (.goto 4, 3) := dk_167 0 4 (dk_at dksX3_has_5 14 rfl rfl)
theorem dX3_has_159 : decode cX3_has 159 = .ok (.iconst (-1), 1) := dk_2 (dk_at dksX3_has_5 17 rfl rfl)
theorem dX3_has_160 : decode cX3_has 160 = .ok (.ireturn, 1) := dk_172 (dk_at dksX3_has_5 18 rfl rfl)
theorem dX3_has_161 : decode cX3_has 161 = .ok (.ldc_w 311, 3) := dk_19 1 55 (dk_at dksX3_has_5 19 rfl rfl)
theorem dX3_has_164 : decode cX3_has 164 = .ok (.ireturn, 1) := dk_172 (dk_at dksX3_has_5 22 rfl rfl)
abbrev cX3_count : ByteArray := prog_14_method_101_code
def yX3_count : MethodName := ⟨RX3, "count", "(I)I"⟩
def dkwX3_count_4 : List UInt8 := [180, 2, 34, 172, 2, 172]
abbrev dktX3_count_4 : List UInt8 := dkwX3_count_4 ++ []
def dkwX3_count_3 : List UInt8 := [172, 42, 180, 1, 239, 172, 42, 180, 1, 58, 172, 42, 180, 1, 248, 172, 42, 180, 2, 57, 172, 42]
abbrev dktX3_count_3 : List UInt8 := dkwX3_count_3 ++ dktX3_count_4
def dkwX3_count_2 : List UInt8 := [42, 180, 1, 30, 172, 42, 180, 1, 14, 172, 42, 180, 1, 22, 172, 42, 180, 1, 195, 172, 42, 180, 1, 157]
abbrev dktX3_count_2 : List UInt8 := dkwX3_count_2 ++ dktX3_count_3
def dkwX3_count_1 : List UInt8 := [170, 0, 0, 0, 0, 0, 105, 0, 0, 0, 0, 0, 0, 0, 9, 0, 0, 0, 55, 0, 0, 0, 60, 0, 0, 0, 65, 0, 0, 0, 70, 0, 0, 0, 75, 0, 0, 0, 80, 0, 0, 0, 85, 0, 0, 0, 90, 0, 0, 0, 95, 0, 0, 0, 100]
abbrev dktX3_count_1 : List UInt8 := dkwX3_count_1 ++ dktX3_count_2
def dkwX3_count_0 : List UInt8 := [27]
abbrev dktX3_count_0 : List UInt8 := dkwX3_count_0 ++ dktX3_count_1
theorem dksX3_count_0 : cX3_count.data.toList.drop 0 = dktX3_count_0 := by decide +kernel
theorem dksX3_count_1 : cX3_count.data.toList.drop 1 = dktX3_count_1 := dk_seg dksX3_count_0 1 rfl rfl
theorem dksX3_count_2 : cX3_count.data.toList.drop 56 = dktX3_count_2 := dk_seg dksX3_count_1 55 rfl rfl
theorem dksX3_count_3 : cX3_count.data.toList.drop 80 = dktX3_count_3 := dk_seg dksX3_count_2 24 rfl rfl
theorem dksX3_count_4 : cX3_count.data.toList.drop 102 = dktX3_count_4 := dk_seg dksX3_count_3 22 rfl rfl
theorem dX3_count_0 : decode cX3_count 0 = .ok (.iload_n 1, 1) := dk_27 (dk_at dksX3_count_0 0 rfl rfl)
theorem dX3_count_1 : decode cX3_count 1 = .ok (.tableswitch 105 0 9 #[55, 60, 65, 70, 75, 80, 85, 90, 95, 100], 55) := by decide +kernel
theorem dX3_count_56 : decode cX3_count 56 = .ok (.aload_n 0, 1) := dk_42 (dk_at dksX3_count_2 0 rfl rfl)
theorem dX3_count_57 : decode cX3_count 57 = .ok (.getfield 286, 3) := dk_180 1 30 (dk_at dksX3_count_2 1 rfl rfl)
theorem dX3_count_60 : decode cX3_count 60 = .ok (.ireturn, 1) := dk_172 (dk_at dksX3_count_2 4 rfl rfl)
theorem dX3_count_61 : decode cX3_count 61 = .ok (.aload_n 0, 1) := dk_42 (dk_at dksX3_count_2 5 rfl rfl)
theorem dX3_count_62 : decode cX3_count 62 = .ok (.getfield 270, 3) := dk_180 1 14 (dk_at dksX3_count_2 6 rfl rfl)
theorem dX3_count_65 : decode cX3_count 65 = .ok (.ireturn, 1) := dk_172 (dk_at dksX3_count_2 9 rfl rfl)
theorem dX3_count_66 : decode cX3_count 66 = .ok (.aload_n 0, 1) := dk_42 (dk_at dksX3_count_2 10 rfl rfl)
theorem dX3_count_67 : decode cX3_count 67 = .ok (.getfield 278, 3) := dk_180 1 22 (dk_at dksX3_count_2 11 rfl rfl)
theorem dX3_count_70 : decode cX3_count 70 = .ok (.ireturn, 1) := dk_172 (dk_at dksX3_count_2 14 rfl rfl)
theorem dX3_count_71 : decode cX3_count 71 = .ok (.aload_n 0, 1) := dk_42 (dk_at dksX3_count_2 15 rfl rfl)
theorem dX3_count_72 : decode cX3_count 72 = .ok (.getfield 451, 3) := dk_180 1 195 (dk_at dksX3_count_2 16 rfl rfl)
theorem dX3_count_75 : decode cX3_count 75 = .ok (.ireturn, 1) := dk_172 (dk_at dksX3_count_2 19 rfl rfl)
theorem dX3_count_76 : decode cX3_count 76 = .ok (.aload_n 0, 1) := dk_42 (dk_at dksX3_count_2 20 rfl rfl)
theorem dX3_count_77 : decode cX3_count 77 = .ok (.getfield 413, 3) := dk_180 1 157 (dk_at dksX3_count_2 21 rfl rfl)
theorem dX3_count_80 : decode cX3_count 80 = .ok (.ireturn, 1) := dk_172 (dk_at dksX3_count_3 0 rfl rfl)
theorem dX3_count_81 : decode cX3_count 81 = .ok (.aload_n 0, 1) := dk_42 (dk_at dksX3_count_3 1 rfl rfl)
theorem dX3_count_82 : decode cX3_count 82 = .ok (.getfield 495, 3) := dk_180 1 239 (dk_at dksX3_count_3 2 rfl rfl)
theorem dX3_count_85 : decode cX3_count 85 = .ok (.ireturn, 1) := dk_172 (dk_at dksX3_count_3 5 rfl rfl)
theorem dX3_count_86 : decode cX3_count 86 = .ok (.aload_n 0, 1) := dk_42 (dk_at dksX3_count_3 6 rfl rfl)
theorem dX3_count_87 : decode cX3_count 87 = .ok (.getfield 314, 3) := dk_180 1 58 (dk_at dksX3_count_3 7 rfl rfl)
theorem dX3_count_90 : decode cX3_count 90 = .ok (.ireturn, 1) := dk_172 (dk_at dksX3_count_3 10 rfl rfl)
theorem dX3_count_91 : decode cX3_count 91 = .ok (.aload_n 0, 1) := dk_42 (dk_at dksX3_count_3 11 rfl rfl)
theorem dX3_count_92 : decode cX3_count 92 = .ok (.getfield 504, 3) := dk_180 1 248 (dk_at dksX3_count_3 12 rfl rfl)
theorem dX3_count_95 : decode cX3_count 95 = .ok (.ireturn, 1) := dk_172 (dk_at dksX3_count_3 15 rfl rfl)
theorem dX3_count_96 : decode cX3_count 96 = .ok (.aload_n 0, 1) := dk_42 (dk_at dksX3_count_3 16 rfl rfl)
theorem dX3_count_97 : decode cX3_count 97 = .ok (.getfield 569, 3) := dk_180 2 57 (dk_at dksX3_count_3 17 rfl rfl)
theorem dX3_count_100 : decode cX3_count 100 = .ok (.ireturn, 1) := dk_172 (dk_at dksX3_count_3 20 rfl rfl)
theorem dX3_count_101 : decode cX3_count 101 = .ok (.aload_n 0, 1) := dk_42 (dk_at dksX3_count_3 21 rfl rfl)
theorem dX3_count_102 : decode cX3_count 102 = .ok (.getfield 546, 3) := dk_180 2 34 (dk_at dksX3_count_4 0 rfl rfl)
theorem dX3_count_105 : decode cX3_count 105 = .ok (.ireturn, 1) := dk_172 (dk_at dksX3_count_4 3 rfl rfl)
theorem dX3_count_106 : decode cX3_count 106 = .ok (.iconst (-1), 1) := dk_2 (dk_at dksX3_count_4 4 rfl rfl)
theorem dX3_count_107 : decode cX3_count 107 = .ok (.ireturn, 1) := dk_172 (dk_at dksX3_count_4 5 rfl rfl)
theorem q98 : (Jvm.Cond.initialized "WheelLandModel") ∈ lw_all := lw_g (lw_at lw_m1 4 rfl) rfl
theorem q1216 : (Jvm.Cond.instantiable "WheelLandModel" (97 : Nat)) ∈ lw_all := lw_g (lw_at lw_m5 162 rfl) rfl
theorem q1218 : (Jvm.Cond.instanceMethod ({ cls := "WheelLandModel", name := "<init>", desc := "()V" } : Jvm.MethodName)) ∈ lw_all := lw_g (lw_at lw_m5 164 rfl) rfl
theorem q1219 : (Jvm.Cond.code ({ cls := "WheelLandModel", name := "<init>", desc := "()V" } : Jvm.MethodName) prog_14_method_1_code (1 : Nat) (Option.none : Option Jvm.ClassFile.FieldType)) ∈ lw_all := lw_g (lw_at lw_m5 165 rfl) rfl
theorem q1220 : (Jvm.Cond.methodLink "WheelLandModel" (1 : Nat) ({ cls := "java/lang/Object", name := "<init>", desc := "()V" } : Jvm.MethodName)) ∈ lw_all := lw_g (lw_at lw_m5 166 rfl) rfl
theorem q1221 : (Jvm.Cond.classLink "WheelLandModel" (9 : Nat) "[[I") ∈ lw_all := lw_g (lw_at lw_m5 167 rfl) rfl
theorem q1223 : (Jvm.Cond.classLink "WheelLandModel" (125 : Nat) "[[[I") ∈ lw_all := lw_g (lw_at lw_m5 169 rfl) rfl
theorem q1225 : (Jvm.Cond.classLink "WheelLandModel" (139 : Nat) "java/lang/String") ∈ lw_all := lw_g (lw_at lw_m5 171 rfl) rfl
theorem q1227 : (Jvm.Cond.stringRef "WheelLandModel" (141 : Nat) "owe") ∈ lw_tbl := lw_at lw_m5 173 rfl
theorem q1228 : (Jvm.Cond.stringRef "WheelLandModel" (143 : Nat) "wage") ∈ lw_tbl := lw_at lw_m5 174 rfl
theorem q1229 : (Jvm.Cond.stringRef "WheelLandModel" (145 : Nat) "duty") ∈ lw_tbl := lw_at lw_m5 175 rfl
theorem q1230 : (Jvm.Cond.stringRef "WheelLandModel" (147 : Nat) "may") ∈ lw_tbl := lw_at lw_m5 176 rfl
theorem q1231 : (Jvm.Cond.stringRef "WheelLandModel" (149 : Nat) "stamp") ∈ lw_tbl := lw_at lw_m5 177 rfl
theorem q1232 : (Jvm.Cond.stringRef "WheelLandModel" (155 : Nat) "week") ∈ lw_tbl := lw_at lw_m5 178 rfl
theorem q1233 : (Jvm.Cond.stringRef "WheelLandModel" (157 : Nat) "season") ∈ lw_tbl := lw_at lw_m5 179 rfl
theorem q1234 : (Jvm.Cond.stringRef "WheelLandModel" (159 : Nat) "heads") ∈ lw_tbl := lw_at lw_m5 180 rfl
theorem q1235 : (Jvm.Cond.stringRef "WheelLandModel" (160 : Nat) "wheels") ∈ lw_tbl := lw_at lw_m5 181 rfl
theorem q1236 : (Jvm.Cond.stringRef "WheelLandModel" (161 : Nat) "skill") ∈ lw_tbl := lw_at lw_m5 182 rfl
theorem q1237 : (Jvm.Cond.stringRef "WheelLandModel" (162 : Nat) "caste") ∈ lw_tbl := lw_at lw_m5 183 rfl
theorem q1238 : (Jvm.Cond.stringRef "WheelLandModel" (163 : Nat) "other") ∈ lw_tbl := lw_at lw_m5 184 rfl
theorem q1239 : (Jvm.Cond.stringRef "WheelLandModel" (165 : Nat) "count") ∈ lw_tbl := lw_at lw_m5 185 rfl
theorem q1240 : (Jvm.Cond.stringRef "WheelLandModel" (167 : Nat) "strength") ∈ lw_tbl := lw_at lw_m5 186 rfl
theorem q1241 : (Jvm.Cond.stringRef "WheelLandModel" (169 : Nat) "hanks") ∈ lw_tbl := lw_at lw_m5 187 rfl
theorem q1242 : (Jvm.Cond.stringRef "WheelLandModel" (171 : Nat) "idle") ∈ lw_tbl := lw_at lw_m5 188 rfl
theorem q1243 : (Jvm.Cond.stringRef "WheelLandModel" (172 : Nat) "far") ∈ lw_tbl := lw_at lw_m5 189 rfl
theorem q1244 : (Jvm.Cond.stringRef "WheelLandModel" (174 : Nat) "price") ∈ lw_tbl := lw_at lw_m5 190 rfl
theorem q1245 : (Jvm.Cond.classLink "WheelLandModel" (249 : Nat) "[[Z") ∈ lw_all := lw_g (lw_at lw_m5 191 rfl) rfl
theorem q1247 : (Jvm.Cond.fieldLink "WheelLandModel" (286 : Nat) "WheelLandModel" "now" "I") ∈ lw_all := lw_g (lw_at lw_m5 193 rfl) rfl
theorem q1248 : (Jvm.Cond.fieldLink "WheelLandModel" (270 : Nat) "WheelLandModel" "villages" "I") ∈ lw_all := lw_g (lw_at lw_m5 194 rfl) rfl
theorem q1249 : (Jvm.Cond.fieldLink "WheelLandModel" (278 : Nat) "WheelLandModel" "houses" "I") ∈ lw_all := lw_g (lw_at lw_m5 195 rfl) rfl
theorem q1250 : (Jvm.Cond.fieldLink "WheelLandModel" (11 : Nat) "WheelLandModel" "idle" "[[I") ∈ lw_all := lw_g (lw_at lw_m5 196 rfl) rfl
theorem q1251 : (Jvm.Cond.fieldLink "WheelLandModel" (14 : Nat) "WheelLandModel" "days" "[[I") ∈ lw_all := lw_g (lw_at lw_m5 197 rfl) rfl
theorem q1252 : (Jvm.Cond.fieldLink "WheelLandModel" (17 : Nat) "WheelLandModel" "millAt" "[[I") ∈ lw_all := lw_g (lw_at lw_m5 198 rfl) rfl
theorem q1253 : (Jvm.Cond.fieldLink "WheelLandModel" (20 : Nat) "WheelLandModel" "staple" "[I") ∈ lw_all := lw_g (lw_at lw_m5 199 rfl) rfl
theorem q1254 : (Jvm.Cond.fieldLink "WheelLandModel" (24 : Nat) "WheelLandModel" "cotton" "[I") ∈ lw_all := lw_g (lw_at lw_m5 200 rfl) rfl
theorem q1255 : (Jvm.Cond.fieldLink "WheelLandModel" (27 : Nat) "WheelLandModel" "stamped" "[I") ∈ lw_all := lw_g (lw_at lw_m5 201 rfl) rfl
theorem q1256 : (Jvm.Cond.fieldLink "WheelLandModel" (30 : Nat) "WheelLandModel" "plain" "[I") ∈ lw_all := lw_g (lw_at lw_m5 202 rfl) rfl
theorem q1257 : (Jvm.Cond.fieldLink "WheelLandModel" (33 : Nat) "WheelLandModel" "milled" "[I") ∈ lw_all := lw_g (lw_at lw_m5 203 rfl) rfl
theorem q1258 : (Jvm.Cond.fieldLink "WheelLandModel" (36 : Nat) "WheelLandModel" "handPrice" "[I") ∈ lw_all := lw_g (lw_at lw_m5 204 rfl) rfl
theorem q1259 : (Jvm.Cond.fieldLink "WheelLandModel" (39 : Nat) "WheelLandModel" "millPrice" "[I") ∈ lw_all := lw_g (lw_at lw_m5 205 rfl) rfl
theorem q1260 : (Jvm.Cond.fieldLink "WheelLandModel" (42 : Nat) "WheelLandModel" "word" "[I") ∈ lw_all := lw_g (lw_at lw_m5 206 rfl) rfl
theorem q1261 : (Jvm.Cond.fieldLink "WheelLandModel" (45 : Nat) "WheelLandModel" "takings" "[I") ∈ lw_all := lw_g (lw_at lw_m5 207 rfl) rfl
theorem q1262 : (Jvm.Cond.fieldLink "WheelLandModel" (48 : Nat) "WheelLandModel" "said" "[I") ∈ lw_all := lw_g (lw_at lw_m5 208 rfl) rfl
theorem q1263 : (Jvm.Cond.fieldLink "WheelLandModel" (51 : Nat) "WheelLandModel" "everStamped" "[I") ∈ lw_all := lw_g (lw_at lw_m5 209 rfl) rfl
theorem q1264 : (Jvm.Cond.fieldLink "WheelLandModel" (54 : Nat) "WheelLandModel" "soldStamped" "[I") ∈ lw_all := lw_g (lw_at lw_m5 210 rfl) rfl
theorem q1265 : (Jvm.Cond.fieldLink "WheelLandModel" (57 : Nat) "WheelLandModel" "soldMill" "[I") ∈ lw_all := lw_g (lw_at lw_m5 211 rfl) rfl
theorem q1266 : (Jvm.Cond.fieldLink "WheelLandModel" (60 : Nat) "WheelLandModel" "soldAhead" "[I") ∈ lw_all := lw_g (lw_at lw_m5 212 rfl) rfl
theorem q1267 : (Jvm.Cond.fieldLink "WheelLandModel" (63 : Nat) "WheelLandModel" "villageOf" "[I") ∈ lw_all := lw_g (lw_at lw_m5 213 rfl) rfl
theorem q1268 : (Jvm.Cond.fieldLink "WheelLandModel" (66 : Nat) "WheelLandModel" "wheels" "[I") ∈ lw_all := lw_g (lw_at lw_m5 214 rfl) rfl
theorem q1269 : (Jvm.Cond.fieldLink "WheelLandModel" (69 : Nat) "WheelLandModel" "skill" "[I") ∈ lw_all := lw_g (lw_at lw_m5 215 rfl) rfl
theorem q1270 : (Jvm.Cond.fieldLink "WheelLandModel" (72 : Nat) "WheelLandModel" "caste" "[I") ∈ lw_all := lw_g (lw_at lw_m5 216 rfl) rfl
theorem q1271 : (Jvm.Cond.fieldLink "WheelLandModel" (75 : Nat) "WheelLandModel" "heads" "[I") ∈ lw_all := lw_g (lw_at lw_m5 217 rfl) rfl
theorem q1272 : (Jvm.Cond.fieldLink "WheelLandModel" (78 : Nat) "WheelLandModel" "purse" "[I") ∈ lw_all := lw_g (lw_at lw_m5 218 rfl) rfl
theorem q1273 : (Jvm.Cond.fieldLink "WheelLandModel" (81 : Nat) "WheelLandModel" "aim" "[I") ∈ lw_all := lw_g (lw_at lw_m5 219 rfl) rfl
theorem q1274 : (Jvm.Cond.fieldLink "WheelLandModel" (84 : Nat) "WheelLandModel" "bare" "[I") ∈ lw_all := lw_g (lw_at lw_m5 220 rfl) rfl
theorem q1275 : (Jvm.Cond.fieldLink "WheelLandModel" (87 : Nat) "WheelLandModel" "boughtHand" "[I") ∈ lw_all := lw_g (lw_at lw_m5 221 rfl) rfl
theorem q1276 : (Jvm.Cond.fieldLink "WheelLandModel" (90 : Nat) "WheelLandModel" "boughtMill" "[I") ∈ lw_all := lw_g (lw_at lw_m5 222 rfl) rfl
theorem q1277 : (Jvm.Cond.fieldLink "WheelLandModel" (93 : Nat) "WheelLandModel" "loomFrom" "[I") ∈ lw_all := lw_g (lw_at lw_m5 223 rfl) rfl
theorem q1278 : (Jvm.Cond.fieldLink "WheelLandModel" (96 : Nat) "WheelLandModel" "loomTo" "[I") ∈ lw_all := lw_g (lw_at lw_m5 224 rfl) rfl
theorem q1279 : (Jvm.Cond.fieldLink "WheelLandModel" (99 : Nat) "WheelLandModel" "loomCan" "[I") ∈ lw_all := lw_g (lw_at lw_m5 225 rfl) rfl
theorem q1280 : (Jvm.Cond.fieldLink "WheelLandModel" (102 : Nat) "WheelLandModel" "loomUsed" "[I") ∈ lw_all := lw_g (lw_at lw_m5 226 rfl) rfl
theorem q1281 : (Jvm.Cond.fieldLink "WheelLandModel" (105 : Nat) "WheelLandModel" "owes" "[J") ∈ lw_all := lw_g (lw_at lw_m5 227 rfl) rfl
theorem q1282 : (Jvm.Cond.fieldLink "WheelLandModel" (109 : Nat) "WheelLandModel" "paid" "[I") ∈ lw_all := lw_g (lw_at lw_m5 228 rfl) rfl
theorem q1283 : (Jvm.Cond.fieldLink "WheelLandModel" (112 : Nat) "WheelLandModel" "can" "[I") ∈ lw_all := lw_g (lw_at lw_m5 229 rfl) rfl
theorem q1284 : (Jvm.Cond.fieldLink "WheelLandModel" (115 : Nat) "WheelLandModel" "maybe" "[I") ∈ lw_all := lw_g (lw_at lw_m5 230 rfl) rfl
theorem q1285 : (Jvm.Cond.fieldLink "WheelLandModel" (546 : Nat) "WheelLandModel" "crown" "I") ∈ lw_all := lw_g (lw_at lw_m5 231 rfl) rfl
theorem q1286 : (Jvm.Cond.fieldLink "WheelLandModel" (118 : Nat) "WheelLandModel" "way" "[I") ∈ lw_all := lw_g (lw_at lw_m5 232 rfl) rfl
theorem q1287 : (Jvm.Cond.fieldLink "WheelLandModel" (121 : Nat) "WheelLandModel" "text" "[B") ∈ lw_all := lw_g (lw_at lw_m5 233 rfl) rfl
theorem q1288 : (Jvm.Cond.fieldLink "WheelLandModel" (314 : Nat) "WheelLandModel" "textMany" "I") ∈ lw_all := lw_g (lw_at lw_m5 234 rfl) rfl
theorem q1289 : (Jvm.Cond.fieldLink "WheelLandModel" (321 : Nat) "WheelLandModel" "at" "I") ∈ lw_all := lw_g (lw_at lw_m5 235 rfl) rfl
theorem q1290 : (Jvm.Cond.fieldLink "WheelLandModel" (324 : Nat) "WheelLandModel" "end0" "I") ∈ lw_all := lw_g (lw_at lw_m5 236 rfl) rfl
theorem q1291 : (Jvm.Cond.fieldLink "WheelLandModel" (344 : Nat) "WheelLandModel" "faultAt" "I") ∈ lw_all := lw_g (lw_at lw_m5 237 rfl) rfl
theorem q1292 : (Jvm.Cond.fieldLink "WheelLandModel" (357 : Nat) "WheelLandModel" "codeMany" "I") ∈ lw_all := lw_g (lw_at lw_m5 238 rfl) rfl
theorem q1293 : (Jvm.Cond.fieldLink "WheelLandModel" (360 : Nat) "WheelLandModel" "value0" "I") ∈ lw_all := lw_g (lw_at lw_m5 239 rfl) rfl
theorem q1294 : (Jvm.Cond.fieldLink "WheelLandModel" (354 : Nat) "WheelLandModel" "clause" "I") ∈ lw_all := lw_g (lw_at lw_m6 0 rfl) rfl
theorem q1295 : (Jvm.Cond.fieldLink "WheelLandModel" (127 : Nat) "WheelLandModel" "codes" "[[[I") ∈ lw_all := lw_g (lw_at lw_m6 1 rfl) rfl
theorem q1296 : (Jvm.Cond.fieldLink "WheelLandModel" (130 : Nat) "WheelLandModel" "codeLong" "[[I") ∈ lw_all := lw_g (lw_at lw_m6 2 rfl) rfl
theorem q1297 : (Jvm.Cond.fieldLink "WheelLandModel" (133 : Nat) "WheelLandModel" "forceSheet" "[I") ∈ lw_all := lw_g (lw_at lw_m6 3 rfl) rfl
theorem q1298 : (Jvm.Cond.fieldLink "WheelLandModel" (136 : Nat) "WheelLandModel" "forceFrom" "[I") ∈ lw_all := lw_g (lw_at lw_m6 4 rfl) rfl
theorem q1299 : (Jvm.Cond.fieldLink "WheelLandModel" (413 : Nat) "WheelLandModel" "sheets" "I") ∈ lw_all := lw_g (lw_at lw_m6 5 rfl) rfl
theorem q1300 : (Jvm.Cond.fieldLink "WheelLandModel" (418 : Nat) "WheelLandModel" "forces" "I") ∈ lw_all := lw_g (lw_at lw_m6 6 rfl) rfl
theorem q1301 : (Jvm.Cond.fieldLink "WheelLandModel" (151 : Nat) "WheelLandModel" "clauseWords" "[Ljava/lang/String;") ∈ lw_all := lw_g (lw_at lw_m6 7 rfl) rfl
theorem q1302 : (Jvm.Cond.fieldLink "WheelLandModel" (176 : Nat) "WheelLandModel" "nameWords" "[Ljava/lang/String;") ∈ lw_all := lw_g (lw_at lw_m6 8 rfl) rfl
theorem q1303 : (Jvm.Cond.fieldLink "WheelLandModel" (179 : Nat) "WheelLandModel" "names" "[I") ∈ lw_all := lw_g (lw_at lw_m6 9 rfl) rfl
theorem q1304 : (Jvm.Cond.fieldLink "WheelLandModel" (182 : Nat) "WheelLandModel" "stack" "[I") ∈ lw_all := lw_g (lw_at lw_m6 10 rfl) rfl
theorem q1305 : (Jvm.Cond.fieldLink "WheelLandModel" (185 : Nat) "WheelLandModel" "lotHouse" "[I") ∈ lw_all := lw_g (lw_at lw_m6 11 rfl) rfl
theorem q1306 : (Jvm.Cond.fieldLink "WheelLandModel" (188 : Nat) "WheelLandModel" "lotWeek" "[I") ∈ lw_all := lw_g (lw_at lw_m6 12 rfl) rfl
theorem q1307 : (Jvm.Cond.fieldLink "WheelLandModel" (191 : Nat) "WheelLandModel" "lotCount" "[I") ∈ lw_all := lw_g (lw_at lw_m6 13 rfl) rfl
theorem q1308 : (Jvm.Cond.fieldLink "WheelLandModel" (194 : Nat) "WheelLandModel" "lotStrength" "[I") ∈ lw_all := lw_g (lw_at lw_m6 14 rfl) rfl
theorem q1309 : (Jvm.Cond.fieldLink "WheelLandModel" (197 : Nat) "WheelLandModel" "lotHanks" "[I") ∈ lw_all := lw_g (lw_at lw_m6 15 rfl) rfl
theorem q1310 : (Jvm.Cond.fieldLink "WheelLandModel" (200 : Nat) "WheelLandModel" "lotLeft" "[I") ∈ lw_all := lw_g (lw_at lw_m6 16 rfl) rfl
theorem q1311 : (Jvm.Cond.fieldLink "WheelLandModel" (451 : Nat) "WheelLandModel" "lots" "I") ∈ lw_all := lw_g (lw_at lw_m6 17 rfl) rfl
theorem q1312 : (Jvm.Cond.fieldLink "WheelLandModel" (203 : Nat) "WheelLandModel" "spun" "[I") ∈ lw_all := lw_g (lw_at lw_m6 18 rfl) rfl
theorem q1313 : (Jvm.Cond.fieldLink "WheelLandModel" (206 : Nat) "WheelLandModel" "cottonLeft" "[I") ∈ lw_all := lw_g (lw_at lw_m6 19 rfl) rfl
theorem q1314 : (Jvm.Cond.fieldLink "WheelLandModel" (209 : Nat) "WheelLandModel" "wheelsNow" "[I") ∈ lw_all := lw_g (lw_at lw_m6 20 rfl) rfl
theorem q1315 : (Jvm.Cond.fieldLink "WheelLandModel" (212 : Nat) "WheelLandModel" "skillNow" "[I") ∈ lw_all := lw_g (lw_at lw_m6 21 rfl) rfl
theorem q1316 : (Jvm.Cond.fieldLink "WheelLandModel" (469 : Nat) "WheelLandModel" "paidAll" "I") ∈ lw_all := lw_g (lw_at lw_m6 22 rfl) rfl
theorem q1317 : (Jvm.Cond.fieldLink "WheelLandModel" (498 : Nat) "WheelLandModel" "wovenAll" "I") ∈ lw_all := lw_g (lw_at lw_m6 23 rfl) rfl
theorem q1318 : (Jvm.Cond.fieldLink "WheelLandModel" (460 : Nat) "WheelLandModel" "spunAll" "I") ∈ lw_all := lw_g (lw_at lw_m6 24 rfl) rfl
theorem q1319 : (Jvm.Cond.fieldLink "WheelLandModel" (215 : Nat) "WheelLandModel" "clothLot" "[I") ∈ lw_all := lw_g (lw_at lw_m6 25 rfl) rfl
theorem q1320 : (Jvm.Cond.fieldLink "WheelLandModel" (218 : Nat) "WheelLandModel" "clothBy" "[I") ∈ lw_all := lw_g (lw_at lw_m6 26 rfl) rfl
theorem q1321 : (Jvm.Cond.fieldLink "WheelLandModel" (221 : Nat) "WheelLandModel" "clothWeek" "[I") ∈ lw_all := lw_g (lw_at lw_m6 27 rfl) rfl
theorem q1322 : (Jvm.Cond.fieldLink "WheelLandModel" (224 : Nat) "WheelLandModel" "clothYards" "[I") ∈ lw_all := lw_g (lw_at lw_m6 28 rfl) rfl
theorem q1323 : (Jvm.Cond.fieldLink "WheelLandModel" (227 : Nat) "WheelLandModel" "clothTo" "[I") ∈ lw_all := lw_g (lw_at lw_m6 29 rfl) rfl
theorem q1324 : (Jvm.Cond.fieldLink "WheelLandModel" (230 : Nat) "WheelLandModel" "isStamped" "[Z") ∈ lw_all := lw_g (lw_at lw_m6 30 rfl) rfl
theorem q1325 : (Jvm.Cond.fieldLink "WheelLandModel" (495 : Nat) "WheelLandModel" "cloths" "I") ∈ lw_all := lw_g (lw_at lw_m6 31 rfl) rfl
theorem q1326 : (Jvm.Cond.fieldLink "WheelLandModel" (234 : Nat) "WheelLandModel" "asked" "[I") ∈ lw_all := lw_g (lw_at lw_m6 32 rfl) rfl
theorem q1327 : (Jvm.Cond.fieldLink "WheelLandModel" (237 : Nat) "WheelLandModel" "many" "[I") ∈ lw_all := lw_g (lw_at lw_m6 33 rfl) rfl
theorem q1328 : (Jvm.Cond.fieldLink "WheelLandModel" (240 : Nat) "WheelLandModel" "loomHouse" "[I") ∈ lw_all := lw_g (lw_at lw_m6 34 rfl) rfl
theorem q1329 : (Jvm.Cond.fieldLink "WheelLandModel" (243 : Nat) "WheelLandModel" "line" "[I") ∈ lw_all := lw_g (lw_at lw_m6 35 rfl) rfl
theorem q1330 : (Jvm.Cond.fieldLink "WheelLandModel" (246 : Nat) "WheelLandModel" "bestLine" "[I") ∈ lw_all := lw_g (lw_at lw_m6 36 rfl) rfl
theorem q1331 : (Jvm.Cond.fieldLink "WheelLandModel" (251 : Nat) "WheelLandModel" "may" "[[Z") ∈ lw_all := lw_g (lw_at lw_m6 37 rfl) rfl
theorem q1332 : (Jvm.Cond.fieldLink "WheelLandModel" (253 : Nat) "WheelLandModel" "far" "[[I") ∈ lw_all := lw_g (lw_at lw_m6 38 rfl) rfl
theorem q1333 : (Jvm.Cond.fieldLink "WheelLandModel" (504 : Nat) "WheelLandModel" "askedMany" "I") ∈ lw_all := lw_g (lw_at lw_m6 39 rfl) rfl
theorem q1334 : (Jvm.Cond.fieldLink "WheelLandModel" (507 : Nat) "WheelLandModel" "loomMany" "I") ∈ lw_all := lw_g (lw_at lw_m6 40 rfl) rfl
theorem q1335 : (Jvm.Cond.fieldLink "WheelLandModel" (510 : Nat) "WheelLandModel" "bestHanks" "I") ∈ lw_all := lw_g (lw_at lw_m6 41 rfl) rfl
theorem q1336 : (Jvm.Cond.fieldLink "WheelLandModel" (513 : Nat) "WheelLandModel" "bestDays" "I") ∈ lw_all := lw_g (lw_at lw_m6 42 rfl) rfl
theorem q1337 : (Jvm.Cond.fieldLink "WheelLandModel" (516 : Nat) "WheelLandModel" "bestWeeks" "I") ∈ lw_all := lw_g (lw_at lw_m6 43 rfl) rfl
theorem q1338 : (Jvm.Cond.fieldLink "WheelLandModel" (255 : Nat) "WheelLandModel" "numbers" "[[I") ∈ lw_all := lw_g (lw_at lw_m6 44 rfl) rfl
theorem q1339 : (Jvm.Cond.fieldLink "WheelLandModel" (258 : Nat) "WheelLandModel" "words" "[I") ∈ lw_all := lw_g (lw_at lw_m6 45 rfl) rfl
theorem q1340 : (Jvm.Cond.fieldLink "WheelLandModel" (261 : Nat) "WheelLandModel" "giftPrice" "[I") ∈ lw_all := lw_g (lw_at lw_m6 46 rfl) rfl
theorem q1341 : (Jvm.Cond.fieldLink "WheelLandModel" (264 : Nat) "WheelLandModel" "giftHouse" "[I") ∈ lw_all := lw_g (lw_at lw_m6 47 rfl) rfl
theorem q1342 : (Jvm.Cond.fieldLink "WheelLandModel" (267 : Nat) "WheelLandModel" "giftKind" "[I") ∈ lw_all := lw_g (lw_at lw_m6 48 rfl) rfl
theorem q1343 : (Jvm.Cond.fieldLink "WheelLandModel" (569 : Nat) "WheelLandModel" "gifts" "I") ∈ lw_all := lw_g (lw_at lw_m6 49 rfl) rfl
theorem q1344 : (Jvm.Cond.lays "WheelLandModel" "WheelLandModel" "now" "I") ∈ lw_all := lw_g (lw_at lw_m6 50 rfl) rfl
theorem q1345 : (Jvm.Cond.soleField "WheelLandModel" "now") ∈ lw_all := lw_g (lw_at lw_m6 51 rfl) rfl
theorem q1346 : (Jvm.Cond.lays "WheelLandModel" "WheelLandModel" "villages" "I") ∈ lw_all := lw_g (lw_at lw_m6 52 rfl) rfl
theorem q1347 : (Jvm.Cond.soleField "WheelLandModel" "villages") ∈ lw_all := lw_g (lw_at lw_m6 53 rfl) rfl
theorem q1348 : (Jvm.Cond.lays "WheelLandModel" "WheelLandModel" "houses" "I") ∈ lw_all := lw_g (lw_at lw_m6 54 rfl) rfl
theorem q1349 : (Jvm.Cond.soleField "WheelLandModel" "houses") ∈ lw_all := lw_g (lw_at lw_m6 55 rfl) rfl
theorem q1350 : (Jvm.Cond.laysFinal "WheelLandModel" "WheelLandModel" "idle" "[[I") ∈ lw_all := lw_g (lw_at lw_m6 56 rfl) rfl
theorem q1351 : (Jvm.Cond.soleField "WheelLandModel" "idle") ∈ lw_all := lw_g (lw_at lw_m6 57 rfl) rfl
theorem q1352 : (Jvm.Cond.laysFinal "WheelLandModel" "WheelLandModel" "days" "[[I") ∈ lw_all := lw_g (lw_at lw_m6 58 rfl) rfl
theorem q1353 : (Jvm.Cond.soleField "WheelLandModel" "days") ∈ lw_all := lw_g (lw_at lw_m6 59 rfl) rfl
theorem q1354 : (Jvm.Cond.laysFinal "WheelLandModel" "WheelLandModel" "millAt" "[[I") ∈ lw_all := lw_g (lw_at lw_m6 60 rfl) rfl
theorem q1355 : (Jvm.Cond.soleField "WheelLandModel" "millAt") ∈ lw_all := lw_g (lw_at lw_m6 61 rfl) rfl
theorem q1356 : (Jvm.Cond.laysFinal "WheelLandModel" "WheelLandModel" "staple" "[I") ∈ lw_all := lw_g (lw_at lw_m6 62 rfl) rfl
theorem q1357 : (Jvm.Cond.soleField "WheelLandModel" "staple") ∈ lw_all := lw_g (lw_at lw_m6 63 rfl) rfl
theorem q1358 : (Jvm.Cond.laysFinal "WheelLandModel" "WheelLandModel" "cotton" "[I") ∈ lw_all := lw_g (lw_at lw_m6 64 rfl) rfl
theorem q1359 : (Jvm.Cond.soleField "WheelLandModel" "cotton") ∈ lw_all := lw_g (lw_at lw_m6 65 rfl) rfl
theorem q1360 : (Jvm.Cond.laysFinal "WheelLandModel" "WheelLandModel" "stamped" "[I") ∈ lw_all := lw_g (lw_at lw_m6 66 rfl) rfl
theorem q1361 : (Jvm.Cond.soleField "WheelLandModel" "stamped") ∈ lw_all := lw_g (lw_at lw_m6 67 rfl) rfl
theorem q1362 : (Jvm.Cond.laysFinal "WheelLandModel" "WheelLandModel" "plain" "[I") ∈ lw_all := lw_g (lw_at lw_m6 68 rfl) rfl
theorem q1363 : (Jvm.Cond.soleField "WheelLandModel" "plain") ∈ lw_all := lw_g (lw_at lw_m6 69 rfl) rfl
theorem q1364 : (Jvm.Cond.laysFinal "WheelLandModel" "WheelLandModel" "milled" "[I") ∈ lw_all := lw_g (lw_at lw_m6 70 rfl) rfl
theorem q1365 : (Jvm.Cond.soleField "WheelLandModel" "milled") ∈ lw_all := lw_g (lw_at lw_m6 71 rfl) rfl
theorem q1366 : (Jvm.Cond.laysFinal "WheelLandModel" "WheelLandModel" "handPrice" "[I") ∈ lw_all := lw_g (lw_at lw_m6 72 rfl) rfl
theorem q1367 : (Jvm.Cond.soleField "WheelLandModel" "handPrice") ∈ lw_all := lw_g (lw_at lw_m6 73 rfl) rfl
theorem q1368 : (Jvm.Cond.laysFinal "WheelLandModel" "WheelLandModel" "millPrice" "[I") ∈ lw_all := lw_g (lw_at lw_m6 74 rfl) rfl
theorem q1369 : (Jvm.Cond.soleField "WheelLandModel" "millPrice") ∈ lw_all := lw_g (lw_at lw_m6 75 rfl) rfl
theorem q1370 : (Jvm.Cond.laysFinal "WheelLandModel" "WheelLandModel" "word" "[I") ∈ lw_all := lw_g (lw_at lw_m6 76 rfl) rfl
theorem q1371 : (Jvm.Cond.soleField "WheelLandModel" "word") ∈ lw_all := lw_g (lw_at lw_m6 77 rfl) rfl
theorem q1372 : (Jvm.Cond.laysFinal "WheelLandModel" "WheelLandModel" "takings" "[I") ∈ lw_all := lw_g (lw_at lw_m6 78 rfl) rfl
theorem q1373 : (Jvm.Cond.soleField "WheelLandModel" "takings") ∈ lw_all := lw_g (lw_at lw_m6 79 rfl) rfl
theorem q1374 : (Jvm.Cond.laysFinal "WheelLandModel" "WheelLandModel" "said" "[I") ∈ lw_all := lw_g (lw_at lw_m6 80 rfl) rfl
theorem q1375 : (Jvm.Cond.soleField "WheelLandModel" "said") ∈ lw_all := lw_g (lw_at lw_m6 81 rfl) rfl
theorem q1376 : (Jvm.Cond.laysFinal "WheelLandModel" "WheelLandModel" "everStamped" "[I") ∈ lw_all := lw_g (lw_at lw_m6 82 rfl) rfl
theorem q1377 : (Jvm.Cond.soleField "WheelLandModel" "everStamped") ∈ lw_all := lw_g (lw_at lw_m6 83 rfl) rfl
theorem q1378 : (Jvm.Cond.laysFinal "WheelLandModel" "WheelLandModel" "soldStamped" "[I") ∈ lw_all := lw_g (lw_at lw_m6 84 rfl) rfl
theorem q1379 : (Jvm.Cond.soleField "WheelLandModel" "soldStamped") ∈ lw_all := lw_g (lw_at lw_m6 85 rfl) rfl
theorem q1380 : (Jvm.Cond.laysFinal "WheelLandModel" "WheelLandModel" "soldMill" "[I") ∈ lw_all := lw_g (lw_at lw_m6 86 rfl) rfl
theorem q1381 : (Jvm.Cond.soleField "WheelLandModel" "soldMill") ∈ lw_all := lw_g (lw_at lw_m6 87 rfl) rfl
theorem q1382 : (Jvm.Cond.laysFinal "WheelLandModel" "WheelLandModel" "soldAhead" "[I") ∈ lw_all := lw_g (lw_at lw_m6 88 rfl) rfl
theorem q1383 : (Jvm.Cond.soleField "WheelLandModel" "soldAhead") ∈ lw_all := lw_g (lw_at lw_m6 89 rfl) rfl
theorem q1384 : (Jvm.Cond.laysFinal "WheelLandModel" "WheelLandModel" "villageOf" "[I") ∈ lw_all := lw_g (lw_at lw_m6 90 rfl) rfl
theorem q1385 : (Jvm.Cond.soleField "WheelLandModel" "villageOf") ∈ lw_all := lw_g (lw_at lw_m6 91 rfl) rfl
theorem q1386 : (Jvm.Cond.laysFinal "WheelLandModel" "WheelLandModel" "wheels" "[I") ∈ lw_all := lw_g (lw_at lw_m6 92 rfl) rfl
theorem q1387 : (Jvm.Cond.soleField "WheelLandModel" "wheels") ∈ lw_all := lw_g (lw_at lw_m6 93 rfl) rfl
theorem q1388 : (Jvm.Cond.laysFinal "WheelLandModel" "WheelLandModel" "skill" "[I") ∈ lw_all := lw_g (lw_at lw_m6 94 rfl) rfl
theorem q1389 : (Jvm.Cond.soleField "WheelLandModel" "skill") ∈ lw_all := lw_g (lw_at lw_m6 95 rfl) rfl
theorem q1390 : (Jvm.Cond.laysFinal "WheelLandModel" "WheelLandModel" "caste" "[I") ∈ lw_all := lw_g (lw_at lw_m6 96 rfl) rfl
theorem q1391 : (Jvm.Cond.soleField "WheelLandModel" "caste") ∈ lw_all := lw_g (lw_at lw_m6 97 rfl) rfl
theorem q1392 : (Jvm.Cond.laysFinal "WheelLandModel" "WheelLandModel" "heads" "[I") ∈ lw_all := lw_g (lw_at lw_m6 98 rfl) rfl
theorem q1393 : (Jvm.Cond.soleField "WheelLandModel" "heads") ∈ lw_all := lw_g (lw_at lw_m6 99 rfl) rfl
theorem q1394 : (Jvm.Cond.laysFinal "WheelLandModel" "WheelLandModel" "purse" "[I") ∈ lw_all := lw_g (lw_at lw_m6 100 rfl) rfl
theorem q1395 : (Jvm.Cond.soleField "WheelLandModel" "purse") ∈ lw_all := lw_g (lw_at lw_m6 101 rfl) rfl
theorem q1396 : (Jvm.Cond.laysFinal "WheelLandModel" "WheelLandModel" "aim" "[I") ∈ lw_all := lw_g (lw_at lw_m6 102 rfl) rfl
theorem q1397 : (Jvm.Cond.soleField "WheelLandModel" "aim") ∈ lw_all := lw_g (lw_at lw_m6 103 rfl) rfl
theorem q1398 : (Jvm.Cond.laysFinal "WheelLandModel" "WheelLandModel" "bare" "[I") ∈ lw_all := lw_g (lw_at lw_m6 104 rfl) rfl
theorem q1399 : (Jvm.Cond.soleField "WheelLandModel" "bare") ∈ lw_all := lw_g (lw_at lw_m6 105 rfl) rfl
theorem q1400 : (Jvm.Cond.laysFinal "WheelLandModel" "WheelLandModel" "boughtHand" "[I") ∈ lw_all := lw_g (lw_at lw_m6 106 rfl) rfl
theorem q1401 : (Jvm.Cond.soleField "WheelLandModel" "boughtHand") ∈ lw_all := lw_g (lw_at lw_m6 107 rfl) rfl
theorem q1402 : (Jvm.Cond.laysFinal "WheelLandModel" "WheelLandModel" "boughtMill" "[I") ∈ lw_all := lw_g (lw_at lw_m6 108 rfl) rfl
theorem q1403 : (Jvm.Cond.soleField "WheelLandModel" "boughtMill") ∈ lw_all := lw_g (lw_at lw_m6 109 rfl) rfl
theorem q1404 : (Jvm.Cond.laysFinal "WheelLandModel" "WheelLandModel" "loomFrom" "[I") ∈ lw_all := lw_g (lw_at lw_m6 110 rfl) rfl
theorem q1405 : (Jvm.Cond.soleField "WheelLandModel" "loomFrom") ∈ lw_all := lw_g (lw_at lw_m6 111 rfl) rfl
theorem q1406 : (Jvm.Cond.laysFinal "WheelLandModel" "WheelLandModel" "loomTo" "[I") ∈ lw_all := lw_g (lw_at lw_m6 112 rfl) rfl
theorem q1407 : (Jvm.Cond.soleField "WheelLandModel" "loomTo") ∈ lw_all := lw_g (lw_at lw_m6 113 rfl) rfl
theorem q1408 : (Jvm.Cond.laysFinal "WheelLandModel" "WheelLandModel" "loomCan" "[I") ∈ lw_all := lw_g (lw_at lw_m6 114 rfl) rfl
theorem q1409 : (Jvm.Cond.soleField "WheelLandModel" "loomCan") ∈ lw_all := lw_g (lw_at lw_m6 115 rfl) rfl
theorem q1410 : (Jvm.Cond.laysFinal "WheelLandModel" "WheelLandModel" "loomUsed" "[I") ∈ lw_all := lw_g (lw_at lw_m6 116 rfl) rfl
theorem q1411 : (Jvm.Cond.soleField "WheelLandModel" "loomUsed") ∈ lw_all := lw_g (lw_at lw_m6 117 rfl) rfl
theorem q1412 : (Jvm.Cond.laysFinal "WheelLandModel" "WheelLandModel" "owes" "[J") ∈ lw_all := lw_g (lw_at lw_m6 118 rfl) rfl
theorem q1413 : (Jvm.Cond.soleField "WheelLandModel" "owes") ∈ lw_all := lw_g (lw_at lw_m6 119 rfl) rfl
theorem q1414 : (Jvm.Cond.laysFinal "WheelLandModel" "WheelLandModel" "paid" "[I") ∈ lw_all := lw_g (lw_at lw_m6 120 rfl) rfl
theorem q1415 : (Jvm.Cond.soleField "WheelLandModel" "paid") ∈ lw_all := lw_g (lw_at lw_m6 121 rfl) rfl
theorem q1416 : (Jvm.Cond.laysFinal "WheelLandModel" "WheelLandModel" "can" "[I") ∈ lw_all := lw_g (lw_at lw_m6 122 rfl) rfl
theorem q1417 : (Jvm.Cond.soleField "WheelLandModel" "can") ∈ lw_all := lw_g (lw_at lw_m6 123 rfl) rfl
theorem q1418 : (Jvm.Cond.laysFinal "WheelLandModel" "WheelLandModel" "maybe" "[I") ∈ lw_all := lw_g (lw_at lw_m6 124 rfl) rfl
theorem q1419 : (Jvm.Cond.soleField "WheelLandModel" "maybe") ∈ lw_all := lw_g (lw_at lw_m6 125 rfl) rfl
theorem q1420 : (Jvm.Cond.lays "WheelLandModel" "WheelLandModel" "crown" "I") ∈ lw_all := lw_g (lw_at lw_m6 126 rfl) rfl
theorem q1421 : (Jvm.Cond.soleField "WheelLandModel" "crown") ∈ lw_all := lw_g (lw_at lw_m6 127 rfl) rfl
theorem q1422 : (Jvm.Cond.laysFinal "WheelLandModel" "WheelLandModel" "way" "[I") ∈ lw_all := lw_g (lw_at lw_m6 128 rfl) rfl
theorem q1423 : (Jvm.Cond.soleField "WheelLandModel" "way") ∈ lw_all := lw_g (lw_at lw_m6 129 rfl) rfl
theorem q1424 : (Jvm.Cond.laysFinal "WheelLandModel" "WheelLandModel" "text" "[B") ∈ lw_all := lw_g (lw_at lw_m6 130 rfl) rfl
theorem q1425 : (Jvm.Cond.soleField "WheelLandModel" "text") ∈ lw_all := lw_g (lw_at lw_m6 131 rfl) rfl
theorem q1426 : (Jvm.Cond.lays "WheelLandModel" "WheelLandModel" "textMany" "I") ∈ lw_all := lw_g (lw_at lw_m6 132 rfl) rfl
theorem q1427 : (Jvm.Cond.soleField "WheelLandModel" "textMany") ∈ lw_all := lw_g (lw_at lw_m6 133 rfl) rfl
theorem q1428 : (Jvm.Cond.lays "WheelLandModel" "WheelLandModel" "at" "I") ∈ lw_all := lw_g (lw_at lw_m6 134 rfl) rfl
theorem q1429 : (Jvm.Cond.soleField "WheelLandModel" "at") ∈ lw_all := lw_g (lw_at lw_m6 135 rfl) rfl
theorem q1430 : (Jvm.Cond.lays "WheelLandModel" "WheelLandModel" "end0" "I") ∈ lw_all := lw_g (lw_at lw_m6 136 rfl) rfl
theorem q1431 : (Jvm.Cond.soleField "WheelLandModel" "end0") ∈ lw_all := lw_g (lw_at lw_m6 137 rfl) rfl
theorem q1432 : (Jvm.Cond.lays "WheelLandModel" "WheelLandModel" "faultAt" "I") ∈ lw_all := lw_g (lw_at lw_m6 138 rfl) rfl
theorem q1433 : (Jvm.Cond.soleField "WheelLandModel" "faultAt") ∈ lw_all := lw_g (lw_at lw_m6 139 rfl) rfl
theorem q1434 : (Jvm.Cond.lays "WheelLandModel" "WheelLandModel" "codeMany" "I") ∈ lw_all := lw_g (lw_at lw_m6 140 rfl) rfl
theorem q1435 : (Jvm.Cond.soleField "WheelLandModel" "codeMany") ∈ lw_all := lw_g (lw_at lw_m6 141 rfl) rfl
theorem q1436 : (Jvm.Cond.lays "WheelLandModel" "WheelLandModel" "value0" "I") ∈ lw_all := lw_g (lw_at lw_m6 142 rfl) rfl
theorem q1437 : (Jvm.Cond.soleField "WheelLandModel" "value0") ∈ lw_all := lw_g (lw_at lw_m6 143 rfl) rfl
theorem q1438 : (Jvm.Cond.lays "WheelLandModel" "WheelLandModel" "clause" "I") ∈ lw_all := lw_g (lw_at lw_m6 144 rfl) rfl
theorem q1439 : (Jvm.Cond.soleField "WheelLandModel" "clause") ∈ lw_all := lw_g (lw_at lw_m6 145 rfl) rfl
theorem q1440 : (Jvm.Cond.laysFinal "WheelLandModel" "WheelLandModel" "codes" "[[[I") ∈ lw_all := lw_g (lw_at lw_m6 146 rfl) rfl
theorem q1441 : (Jvm.Cond.soleField "WheelLandModel" "codes") ∈ lw_all := lw_g (lw_at lw_m6 147 rfl) rfl
theorem q1442 : (Jvm.Cond.laysFinal "WheelLandModel" "WheelLandModel" "codeLong" "[[I") ∈ lw_all := lw_g (lw_at lw_m6 148 rfl) rfl
theorem q1443 : (Jvm.Cond.soleField "WheelLandModel" "codeLong") ∈ lw_all := lw_g (lw_at lw_m6 149 rfl) rfl
theorem q1444 : (Jvm.Cond.laysFinal "WheelLandModel" "WheelLandModel" "forceSheet" "[I") ∈ lw_all := lw_g (lw_at lw_m6 150 rfl) rfl
theorem q1445 : (Jvm.Cond.soleField "WheelLandModel" "forceSheet") ∈ lw_all := lw_g (lw_at lw_m6 151 rfl) rfl
theorem q1446 : (Jvm.Cond.laysFinal "WheelLandModel" "WheelLandModel" "forceFrom" "[I") ∈ lw_all := lw_g (lw_at lw_m6 152 rfl) rfl
theorem q1447 : (Jvm.Cond.soleField "WheelLandModel" "forceFrom") ∈ lw_all := lw_g (lw_at lw_m6 153 rfl) rfl
theorem q1448 : (Jvm.Cond.lays "WheelLandModel" "WheelLandModel" "sheets" "I") ∈ lw_all := lw_g (lw_at lw_m6 154 rfl) rfl
theorem q1449 : (Jvm.Cond.soleField "WheelLandModel" "sheets") ∈ lw_all := lw_g (lw_at lw_m6 155 rfl) rfl
theorem q1450 : (Jvm.Cond.lays "WheelLandModel" "WheelLandModel" "forces" "I") ∈ lw_all := lw_g (lw_at lw_m6 156 rfl) rfl
theorem q1451 : (Jvm.Cond.soleField "WheelLandModel" "forces") ∈ lw_all := lw_g (lw_at lw_m6 157 rfl) rfl
theorem q1452 : (Jvm.Cond.laysFinal "WheelLandModel" "WheelLandModel" "clauseWords" "[Ljava/lang/String;") ∈ lw_all := lw_g (lw_at lw_m6 158 rfl) rfl
theorem q1453 : (Jvm.Cond.soleField "WheelLandModel" "clauseWords") ∈ lw_all := lw_g (lw_at lw_m6 159 rfl) rfl
theorem q1454 : (Jvm.Cond.laysFinal "WheelLandModel" "WheelLandModel" "nameWords" "[Ljava/lang/String;") ∈ lw_all := lw_g (lw_at lw_m6 160 rfl) rfl
theorem q1455 : (Jvm.Cond.soleField "WheelLandModel" "nameWords") ∈ lw_all := lw_g (lw_at lw_m6 161 rfl) rfl
theorem q1456 : (Jvm.Cond.laysFinal "WheelLandModel" "WheelLandModel" "names" "[I") ∈ lw_all := lw_g (lw_at lw_m6 162 rfl) rfl
theorem q1457 : (Jvm.Cond.soleField "WheelLandModel" "names") ∈ lw_all := lw_g (lw_at lw_m6 163 rfl) rfl
theorem q1458 : (Jvm.Cond.laysFinal "WheelLandModel" "WheelLandModel" "stack" "[I") ∈ lw_all := lw_g (lw_at lw_m6 164 rfl) rfl
theorem q1459 : (Jvm.Cond.soleField "WheelLandModel" "stack") ∈ lw_all := lw_g (lw_at lw_m6 165 rfl) rfl
theorem q1460 : (Jvm.Cond.laysFinal "WheelLandModel" "WheelLandModel" "lotHouse" "[I") ∈ lw_all := lw_g (lw_at lw_m6 166 rfl) rfl
theorem q1461 : (Jvm.Cond.soleField "WheelLandModel" "lotHouse") ∈ lw_all := lw_g (lw_at lw_m6 167 rfl) rfl
theorem q1462 : (Jvm.Cond.laysFinal "WheelLandModel" "WheelLandModel" "lotWeek" "[I") ∈ lw_all := lw_g (lw_at lw_m6 168 rfl) rfl
theorem q1463 : (Jvm.Cond.soleField "WheelLandModel" "lotWeek") ∈ lw_all := lw_g (lw_at lw_m6 169 rfl) rfl
theorem q1464 : (Jvm.Cond.laysFinal "WheelLandModel" "WheelLandModel" "lotCount" "[I") ∈ lw_all := lw_g (lw_at lw_m6 170 rfl) rfl
theorem q1465 : (Jvm.Cond.soleField "WheelLandModel" "lotCount") ∈ lw_all := lw_g (lw_at lw_m6 171 rfl) rfl
theorem q1466 : (Jvm.Cond.laysFinal "WheelLandModel" "WheelLandModel" "lotStrength" "[I") ∈ lw_all := lw_g (lw_at lw_m6 172 rfl) rfl
theorem q1467 : (Jvm.Cond.soleField "WheelLandModel" "lotStrength") ∈ lw_all := lw_g (lw_at lw_m6 173 rfl) rfl
theorem q1468 : (Jvm.Cond.laysFinal "WheelLandModel" "WheelLandModel" "lotHanks" "[I") ∈ lw_all := lw_g (lw_at lw_m6 174 rfl) rfl
theorem q1469 : (Jvm.Cond.soleField "WheelLandModel" "lotHanks") ∈ lw_all := lw_g (lw_at lw_m6 175 rfl) rfl
theorem q1470 : (Jvm.Cond.laysFinal "WheelLandModel" "WheelLandModel" "lotLeft" "[I") ∈ lw_all := lw_g (lw_at lw_m6 176 rfl) rfl
theorem q1471 : (Jvm.Cond.soleField "WheelLandModel" "lotLeft") ∈ lw_all := lw_g (lw_at lw_m6 177 rfl) rfl
theorem q1472 : (Jvm.Cond.lays "WheelLandModel" "WheelLandModel" "lots" "I") ∈ lw_all := lw_g (lw_at lw_m6 178 rfl) rfl
theorem q1473 : (Jvm.Cond.soleField "WheelLandModel" "lots") ∈ lw_all := lw_g (lw_at lw_m6 179 rfl) rfl
theorem q1474 : (Jvm.Cond.laysFinal "WheelLandModel" "WheelLandModel" "spun" "[I") ∈ lw_all := lw_g (lw_at lw_m6 180 rfl) rfl
theorem q1475 : (Jvm.Cond.soleField "WheelLandModel" "spun") ∈ lw_all := lw_g (lw_at lw_m6 181 rfl) rfl
theorem q1476 : (Jvm.Cond.laysFinal "WheelLandModel" "WheelLandModel" "cottonLeft" "[I") ∈ lw_all := lw_g (lw_at lw_m6 182 rfl) rfl
theorem q1477 : (Jvm.Cond.soleField "WheelLandModel" "cottonLeft") ∈ lw_all := lw_g (lw_at lw_m6 183 rfl) rfl
theorem q1478 : (Jvm.Cond.laysFinal "WheelLandModel" "WheelLandModel" "wheelsNow" "[I") ∈ lw_all := lw_g (lw_at lw_m6 184 rfl) rfl
theorem q1479 : (Jvm.Cond.soleField "WheelLandModel" "wheelsNow") ∈ lw_all := lw_g (lw_at lw_m6 185 rfl) rfl
theorem q1480 : (Jvm.Cond.laysFinal "WheelLandModel" "WheelLandModel" "skillNow" "[I") ∈ lw_all := lw_g (lw_at lw_m6 186 rfl) rfl
theorem q1481 : (Jvm.Cond.soleField "WheelLandModel" "skillNow") ∈ lw_all := lw_g (lw_at lw_m6 187 rfl) rfl
theorem q1482 : (Jvm.Cond.lays "WheelLandModel" "WheelLandModel" "paidAll" "I") ∈ lw_all := lw_g (lw_at lw_m6 188 rfl) rfl
theorem q1483 : (Jvm.Cond.soleField "WheelLandModel" "paidAll") ∈ lw_all := lw_g (lw_at lw_m6 189 rfl) rfl
theorem q1484 : (Jvm.Cond.lays "WheelLandModel" "WheelLandModel" "wovenAll" "I") ∈ lw_all := lw_g (lw_at lw_m6 190 rfl) rfl
theorem q1485 : (Jvm.Cond.soleField "WheelLandModel" "wovenAll") ∈ lw_all := lw_g (lw_at lw_m6 191 rfl) rfl
theorem q1486 : (Jvm.Cond.lays "WheelLandModel" "WheelLandModel" "spunAll" "I") ∈ lw_all := lw_g (lw_at lw_m6 192 rfl) rfl
theorem q1487 : (Jvm.Cond.soleField "WheelLandModel" "spunAll") ∈ lw_all := lw_g (lw_at lw_m6 193 rfl) rfl
theorem q1488 : (Jvm.Cond.laysFinal "WheelLandModel" "WheelLandModel" "clothLot" "[I") ∈ lw_all := lw_g (lw_at lw_m6 194 rfl) rfl
theorem q1489 : (Jvm.Cond.soleField "WheelLandModel" "clothLot") ∈ lw_all := lw_g (lw_at lw_m6 195 rfl) rfl
theorem q1490 : (Jvm.Cond.laysFinal "WheelLandModel" "WheelLandModel" "clothBy" "[I") ∈ lw_all := lw_g (lw_at lw_m6 196 rfl) rfl
theorem q1491 : (Jvm.Cond.soleField "WheelLandModel" "clothBy") ∈ lw_all := lw_g (lw_at lw_m6 197 rfl) rfl
theorem q1492 : (Jvm.Cond.laysFinal "WheelLandModel" "WheelLandModel" "clothWeek" "[I") ∈ lw_all := lw_g (lw_at lw_m6 198 rfl) rfl
theorem q1493 : (Jvm.Cond.soleField "WheelLandModel" "clothWeek") ∈ lw_all := lw_g (lw_at lw_m6 199 rfl) rfl
theorem q1494 : (Jvm.Cond.laysFinal "WheelLandModel" "WheelLandModel" "clothYards" "[I") ∈ lw_all := lw_g (lw_at lw_m6 200 rfl) rfl
theorem q1495 : (Jvm.Cond.soleField "WheelLandModel" "clothYards") ∈ lw_all := lw_g (lw_at lw_m6 201 rfl) rfl
theorem q1496 : (Jvm.Cond.laysFinal "WheelLandModel" "WheelLandModel" "clothTo" "[I") ∈ lw_all := lw_g (lw_at lw_m6 202 rfl) rfl
theorem q1497 : (Jvm.Cond.soleField "WheelLandModel" "clothTo") ∈ lw_all := lw_g (lw_at lw_m6 203 rfl) rfl
theorem q1498 : (Jvm.Cond.laysFinal "WheelLandModel" "WheelLandModel" "isStamped" "[Z") ∈ lw_all := lw_g (lw_at lw_m6 204 rfl) rfl
theorem q1499 : (Jvm.Cond.soleField "WheelLandModel" "isStamped") ∈ lw_all := lw_g (lw_at lw_m6 205 rfl) rfl
theorem q1500 : (Jvm.Cond.lays "WheelLandModel" "WheelLandModel" "cloths" "I") ∈ lw_all := lw_g (lw_at lw_m6 206 rfl) rfl
theorem q1501 : (Jvm.Cond.soleField "WheelLandModel" "cloths") ∈ lw_all := lw_g (lw_at lw_m6 207 rfl) rfl
theorem q1502 : (Jvm.Cond.laysFinal "WheelLandModel" "WheelLandModel" "asked" "[I") ∈ lw_all := lw_g (lw_at lw_m6 208 rfl) rfl
theorem q1503 : (Jvm.Cond.soleField "WheelLandModel" "asked") ∈ lw_all := lw_g (lw_at lw_m6 209 rfl) rfl
theorem q1504 : (Jvm.Cond.laysFinal "WheelLandModel" "WheelLandModel" "many" "[I") ∈ lw_all := lw_g (lw_at lw_m6 210 rfl) rfl
theorem q1505 : (Jvm.Cond.soleField "WheelLandModel" "many") ∈ lw_all := lw_g (lw_at lw_m6 211 rfl) rfl
theorem q1506 : (Jvm.Cond.laysFinal "WheelLandModel" "WheelLandModel" "loomHouse" "[I") ∈ lw_all := lw_g (lw_at lw_m6 212 rfl) rfl
theorem q1507 : (Jvm.Cond.soleField "WheelLandModel" "loomHouse") ∈ lw_all := lw_g (lw_at lw_m6 213 rfl) rfl
theorem q1508 : (Jvm.Cond.laysFinal "WheelLandModel" "WheelLandModel" "line" "[I") ∈ lw_all := lw_g (lw_at lw_m6 214 rfl) rfl
theorem q1509 : (Jvm.Cond.soleField "WheelLandModel" "line") ∈ lw_all := lw_g (lw_at lw_m6 215 rfl) rfl
theorem q1510 : (Jvm.Cond.laysFinal "WheelLandModel" "WheelLandModel" "bestLine" "[I") ∈ lw_all := lw_g (lw_at lw_m6 216 rfl) rfl
theorem q1511 : (Jvm.Cond.soleField "WheelLandModel" "bestLine") ∈ lw_all := lw_g (lw_at lw_m6 217 rfl) rfl
theorem q1512 : (Jvm.Cond.laysFinal "WheelLandModel" "WheelLandModel" "may" "[[Z") ∈ lw_all := lw_g (lw_at lw_m6 218 rfl) rfl
theorem q1513 : (Jvm.Cond.soleField "WheelLandModel" "may") ∈ lw_all := lw_g (lw_at lw_m6 219 rfl) rfl
theorem q1514 : (Jvm.Cond.laysFinal "WheelLandModel" "WheelLandModel" "far" "[[I") ∈ lw_all := lw_g (lw_at lw_m6 220 rfl) rfl
theorem q1515 : (Jvm.Cond.soleField "WheelLandModel" "far") ∈ lw_all := lw_g (lw_at lw_m6 221 rfl) rfl
theorem q1516 : (Jvm.Cond.lays "WheelLandModel" "WheelLandModel" "askedMany" "I") ∈ lw_all := lw_g (lw_at lw_m6 222 rfl) rfl
theorem q1517 : (Jvm.Cond.soleField "WheelLandModel" "askedMany") ∈ lw_all := lw_g (lw_at lw_m6 223 rfl) rfl
theorem q1518 : (Jvm.Cond.lays "WheelLandModel" "WheelLandModel" "loomMany" "I") ∈ lw_all := lw_g (lw_at lw_m6 224 rfl) rfl
theorem q1519 : (Jvm.Cond.soleField "WheelLandModel" "loomMany") ∈ lw_all := lw_g (lw_at lw_m6 225 rfl) rfl
theorem q1520 : (Jvm.Cond.lays "WheelLandModel" "WheelLandModel" "bestHanks" "I") ∈ lw_all := lw_g (lw_at lw_m6 226 rfl) rfl
theorem q1521 : (Jvm.Cond.soleField "WheelLandModel" "bestHanks") ∈ lw_all := lw_g (lw_at lw_m6 227 rfl) rfl
theorem q1522 : (Jvm.Cond.lays "WheelLandModel" "WheelLandModel" "bestDays" "I") ∈ lw_all := lw_g (lw_at lw_m6 228 rfl) rfl
theorem q1523 : (Jvm.Cond.soleField "WheelLandModel" "bestDays") ∈ lw_all := lw_g (lw_at lw_m6 229 rfl) rfl
theorem q1524 : (Jvm.Cond.lays "WheelLandModel" "WheelLandModel" "bestWeeks" "I") ∈ lw_all := lw_g (lw_at lw_m6 230 rfl) rfl
theorem q1525 : (Jvm.Cond.soleField "WheelLandModel" "bestWeeks") ∈ lw_all := lw_g (lw_at lw_m6 231 rfl) rfl
theorem q1526 : (Jvm.Cond.laysFinal "WheelLandModel" "WheelLandModel" "numbers" "[[I") ∈ lw_all := lw_g (lw_at lw_m6 232 rfl) rfl
theorem q1527 : (Jvm.Cond.soleField "WheelLandModel" "numbers") ∈ lw_all := lw_g (lw_at lw_m6 233 rfl) rfl
theorem q1528 : (Jvm.Cond.laysFinal "WheelLandModel" "WheelLandModel" "words" "[I") ∈ lw_all := lw_g (lw_at lw_m6 234 rfl) rfl
theorem q1529 : (Jvm.Cond.soleField "WheelLandModel" "words") ∈ lw_all := lw_g (lw_at lw_m6 235 rfl) rfl
theorem q1530 : (Jvm.Cond.laysFinal "WheelLandModel" "WheelLandModel" "giftPrice" "[I") ∈ lw_all := lw_g (lw_at lw_m6 236 rfl) rfl
theorem q1531 : (Jvm.Cond.soleField "WheelLandModel" "giftPrice") ∈ lw_all := lw_g (lw_at lw_m6 237 rfl) rfl
theorem q1532 : (Jvm.Cond.laysFinal "WheelLandModel" "WheelLandModel" "giftHouse" "[I") ∈ lw_all := lw_g (lw_at lw_m6 238 rfl) rfl
theorem q1533 : (Jvm.Cond.soleField "WheelLandModel" "giftHouse") ∈ lw_all := lw_g (lw_at lw_m6 239 rfl) rfl
theorem q1534 : (Jvm.Cond.laysFinal "WheelLandModel" "WheelLandModel" "giftKind" "[I") ∈ lw_all := lw_g (lw_at lw_m7 0 rfl) rfl
theorem q1535 : (Jvm.Cond.soleField "WheelLandModel" "giftKind") ∈ lw_all := lw_g (lw_at lw_m7 1 rfl) rfl
theorem q1536 : (Jvm.Cond.lays "WheelLandModel" "WheelLandModel" "gifts" "I") ∈ lw_all := lw_g (lw_at lw_m7 2 rfl) rfl
theorem q1537 : (Jvm.Cond.soleField "WheelLandModel" "gifts") ∈ lw_all := lw_g (lw_at lw_m7 3 rfl) rfl
theorem q1538 : (Jvm.Cond.superclass "WheelLandModel" "java/lang/Object") ∈ lw_all := lw_g (lw_at lw_m7 4 rfl) rfl
theorem q1542 : (Jvm.Cond.instanceMethod ({ cls := "WheelLandModel", name := "village", desc := "(III)I" } : Jvm.MethodName)) ∈ lw_all := lw_g (lw_at lw_m7 8 rfl) rfl
theorem q1543 : (Jvm.Cond.selects "WheelLandModel" ({ cls := "WheelLandModel", name := "village", desc := "(III)I" } : Jvm.MethodName) ({ cls := "WheelLandModel", name := "village", desc := "(III)I" } : Jvm.MethodName)) ∈ lw_all := lw_g (lw_at lw_m7 9 rfl) rfl
theorem q1544 : (Jvm.Cond.code ({ cls := "WheelLandModel", name := "village", desc := "(III)I" } : Jvm.MethodName) prog_14_method_6_code (6 : Nat) (Option.some Jvm.ClassFile.FieldType.int)) ∈ lw_all := lw_g (lw_at lw_m7 10 rfl) rfl
theorem q1545 : (Jvm.Cond.constant "WheelLandModel" (281 : Nat) (1000000 : Int32)) ∈ lw_all := lw_g (lw_at lw_m7 11 rfl) rfl
theorem q1546 : (Jvm.Cond.constantLong "WheelLandModel" (282 : Nat) (9 : Int64)) ∈ lw_all := lw_g (lw_at lw_m7 12 rfl) rfl
theorem q1547 : (Jvm.Cond.methodLink "WheelLandModel" (274 : Nat) ({ cls := "WheelLandModel", name := "in", desc := "(JJJ)Z" } : Jvm.MethodName)) ∈ lw_all := lw_g (lw_at lw_m7 13 rfl) rfl
theorem q1548 : (Jvm.Cond.static ({ cls := "WheelLandModel", name := "in", desc := "(JJJ)Z" } : Jvm.MethodName)) ∈ lw_all := lw_g (lw_at lw_m7 14 rfl) rfl
theorem q1549 : (Jvm.Cond.code ({ cls := "WheelLandModel", name := "in", desc := "(JJJ)Z" } : Jvm.MethodName) prog_14_method_2_code (6 : Nat) (Option.some Jvm.ClassFile.FieldType.boolean)) ∈ lw_all := lw_g (lw_at lw_m7 15 rfl) rfl
theorem q1550 : (Jvm.Cond.constantLong "WheelLandModel" (284 : Nat) (9999 : Int64)) ∈ lw_all := lw_g (lw_at lw_m7 16 rfl) rfl
theorem q1552 : (Jvm.Cond.instanceMethod ({ cls := "WheelLandModel", name := "road", desc := "(III)Z" } : Jvm.MethodName)) ∈ lw_all := lw_g (lw_at lw_m7 18 rfl) rfl
theorem q1553 : (Jvm.Cond.selects "WheelLandModel" ({ cls := "WheelLandModel", name := "road", desc := "(III)Z" } : Jvm.MethodName) ({ cls := "WheelLandModel", name := "road", desc := "(III)Z" } : Jvm.MethodName)) ∈ lw_all := lw_g (lw_at lw_m7 19 rfl) rfl
theorem q1554 : (Jvm.Cond.code ({ cls := "WheelLandModel", name := "road", desc := "(III)Z" } : Jvm.MethodName) prog_14_method_7_code (4 : Nat) (Option.some Jvm.ClassFile.FieldType.boolean)) ∈ lw_all := lw_g (lw_at lw_m7 20 rfl) rfl
theorem q1555 : (Jvm.Cond.methodLink "WheelLandModel" (289 : Nat) ({ cls := "WheelLandModel", name := "isVillage", desc := "(I)Z" } : Jvm.MethodName)) ∈ lw_all := lw_g (lw_at lw_m7 21 rfl) rfl
theorem q1556 : (Jvm.Cond.privateMethod ({ cls := "WheelLandModel", name := "isVillage", desc := "(I)Z" } : Jvm.MethodName)) ∈ lw_tbl := lw_at lw_m7 22 rfl
theorem q1557 : (Jvm.Cond.instanceMethod ({ cls := "WheelLandModel", name := "isVillage", desc := "(I)Z" } : Jvm.MethodName)) ∈ lw_all := lw_g (lw_at lw_m7 23 rfl) rfl
theorem q1558 : (Jvm.Cond.code ({ cls := "WheelLandModel", name := "isVillage", desc := "(I)Z" } : Jvm.MethodName) prog_14_method_3_code (2 : Nat) (Option.some Jvm.ClassFile.FieldType.boolean)) ∈ lw_all := lw_g (lw_at lw_m7 24 rfl) rfl
theorem q1560 : (Jvm.Cond.instanceMethod ({ cls := "WheelLandModel", name := "far", desc := "(II)I" } : Jvm.MethodName)) ∈ lw_all := lw_g (lw_at lw_m7 26 rfl) rfl
theorem q1561 : (Jvm.Cond.selects "WheelLandModel" ({ cls := "WheelLandModel", name := "far", desc := "(II)I" } : Jvm.MethodName) ({ cls := "WheelLandModel", name := "far", desc := "(II)I" } : Jvm.MethodName)) ∈ lw_all := lw_g (lw_at lw_m7 27 rfl) rfl
theorem q1562 : (Jvm.Cond.code ({ cls := "WheelLandModel", name := "far", desc := "(II)I" } : Jvm.MethodName) prog_14_method_9_code (3 : Nat) (Option.some Jvm.ClassFile.FieldType.int)) ∈ lw_all := lw_g (lw_at lw_m7 28 rfl) rfl
theorem q1563 : (Jvm.Cond.methodLink "WheelLandModel" (293 : Nat) ({ cls := "WheelLandModel", name := "farOf", desc := "(II)I" } : Jvm.MethodName)) ∈ lw_all := lw_g (lw_at lw_m7 29 rfl) rfl
theorem q1564 : (Jvm.Cond.privateMethod ({ cls := "WheelLandModel", name := "farOf", desc := "(II)I" } : Jvm.MethodName)) ∈ lw_tbl := lw_at lw_m7 30 rfl
theorem q1565 : (Jvm.Cond.instanceMethod ({ cls := "WheelLandModel", name := "farOf", desc := "(II)I" } : Jvm.MethodName)) ∈ lw_all := lw_g (lw_at lw_m7 31 rfl) rfl
theorem q1566 : (Jvm.Cond.code ({ cls := "WheelLandModel", name := "farOf", desc := "(II)I" } : Jvm.MethodName) prog_14_method_8_code (6 : Nat) (Option.some Jvm.ClassFile.FieldType.int)) ∈ lw_all := lw_g (lw_at lw_m7 32 rfl) rfl
theorem q1568 : (Jvm.Cond.instanceMethod ({ cls := "WheelLandModel", name := "house", desc := "(II)I" } : Jvm.MethodName)) ∈ lw_all := lw_g (lw_at lw_m7 34 rfl) rfl
theorem q1569 : (Jvm.Cond.selects "WheelLandModel" ({ cls := "WheelLandModel", name := "house", desc := "(II)I" } : Jvm.MethodName) ({ cls := "WheelLandModel", name := "house", desc := "(II)I" } : Jvm.MethodName)) ∈ lw_all := lw_g (lw_at lw_m7 35 rfl) rfl
theorem q1570 : (Jvm.Cond.code ({ cls := "WheelLandModel", name := "house", desc := "(II)I" } : Jvm.MethodName) prog_14_method_10_code (4 : Nat) (Option.some Jvm.ClassFile.FieldType.int)) ∈ lw_all := lw_g (lw_at lw_m7 36 rfl) rfl
theorem q1572 : (Jvm.Cond.instanceMethod ({ cls := "WheelLandModel", name := "loom", desc := "(III)Z" } : Jvm.MethodName)) ∈ lw_all := lw_g (lw_at lw_m7 38 rfl) rfl
theorem q1573 : (Jvm.Cond.selects "WheelLandModel" ({ cls := "WheelLandModel", name := "loom", desc := "(III)Z" } : Jvm.MethodName) ({ cls := "WheelLandModel", name := "loom", desc := "(III)Z" } : Jvm.MethodName)) ∈ lw_all := lw_g (lw_at lw_m7 39 rfl) rfl
theorem q1574 : (Jvm.Cond.code ({ cls := "WheelLandModel", name := "loom", desc := "(III)Z" } : Jvm.MethodName) prog_14_method_12_code (4 : Nat) (Option.some Jvm.ClassFile.FieldType.boolean)) ∈ lw_all := lw_g (lw_at lw_m7 40 rfl) rfl
theorem q1575 : (Jvm.Cond.methodLink "WheelLandModel" (297 : Nat) ({ cls := "WheelLandModel", name := "isHouse", desc := "(I)Z" } : Jvm.MethodName)) ∈ lw_all := lw_g (lw_at lw_m7 41 rfl) rfl
theorem q1576 : (Jvm.Cond.privateMethod ({ cls := "WheelLandModel", name := "isHouse", desc := "(I)Z" } : Jvm.MethodName)) ∈ lw_tbl := lw_at lw_m7 42 rfl
theorem q1577 : (Jvm.Cond.instanceMethod ({ cls := "WheelLandModel", name := "isHouse", desc := "(I)Z" } : Jvm.MethodName)) ∈ lw_all := lw_g (lw_at lw_m7 43 rfl) rfl
theorem q1578 : (Jvm.Cond.code ({ cls := "WheelLandModel", name := "isHouse", desc := "(I)Z" } : Jvm.MethodName) prog_14_method_4_code (2 : Nat) (Option.some Jvm.ClassFile.FieldType.boolean)) ∈ lw_all := lw_g (lw_at lw_m7 44 rfl) rfl
theorem q1579 : (Jvm.Cond.methodLink "WheelLandModel" (300 : Nat) ({ cls := "WheelLandModel", name := "hasLoom", desc := "(I)Z" } : Jvm.MethodName)) ∈ lw_all := lw_g (lw_at lw_m7 45 rfl) rfl
theorem q1580 : (Jvm.Cond.privateMethod ({ cls := "WheelLandModel", name := "hasLoom", desc := "(I)Z" } : Jvm.MethodName)) ∈ lw_tbl := lw_at lw_m7 46 rfl
theorem q1581 : (Jvm.Cond.instanceMethod ({ cls := "WheelLandModel", name := "hasLoom", desc := "(I)Z" } : Jvm.MethodName)) ∈ lw_all := lw_g (lw_at lw_m7 47 rfl) rfl
theorem q1582 : (Jvm.Cond.code ({ cls := "WheelLandModel", name := "hasLoom", desc := "(I)Z" } : Jvm.MethodName) prog_14_method_11_code (2 : Nat) (Option.some Jvm.ClassFile.FieldType.boolean)) ∈ lw_all := lw_g (lw_at lw_m7 48 rfl) rfl
theorem q1583 : (Jvm.Cond.constantLong "WheelLandModel" (303 : Nat) (4 : Int64)) ∈ lw_all := lw_g (lw_at lw_m7 49 rfl) rfl
theorem q1584 : (Jvm.Cond.constantLong "WheelLandModel" (305 : Nat) (60 : Int64)) ∈ lw_all := lw_g (lw_at lw_m7 50 rfl) rfl
theorem q1585 : (Jvm.Cond.constantLong "WheelLandModel" (307 : Nat) (40 : Int64)) ∈ lw_all := lw_g (lw_at lw_m7 51 rfl) rfl
theorem q1587 : (Jvm.Cond.instanceMethod ({ cls := "WheelLandModel", name := "aim", desc := "(II)Z" } : Jvm.MethodName)) ∈ lw_all := lw_g (lw_at lw_m7 53 rfl) rfl
theorem q1588 : (Jvm.Cond.selects "WheelLandModel" ({ cls := "WheelLandModel", name := "aim", desc := "(II)Z" } : Jvm.MethodName) ({ cls := "WheelLandModel", name := "aim", desc := "(II)Z" } : Jvm.MethodName)) ∈ lw_all := lw_g (lw_at lw_m7 54 rfl) rfl
theorem q1589 : (Jvm.Cond.code ({ cls := "WheelLandModel", name := "aim", desc := "(II)Z" } : Jvm.MethodName) prog_14_method_13_code (3 : Nat) (Option.some Jvm.ClassFile.FieldType.boolean)) ∈ lw_all := lw_g (lw_at lw_m7 55 rfl) rfl
theorem q1591 : (Jvm.Cond.instanceMethod ({ cls := "WheelLandModel", name := "coins", desc := "(II)I" } : Jvm.MethodName)) ∈ lw_all := lw_g (lw_at lw_m7 57 rfl) rfl
theorem q1592 : (Jvm.Cond.selects "WheelLandModel" ({ cls := "WheelLandModel", name := "coins", desc := "(II)I" } : Jvm.MethodName) ({ cls := "WheelLandModel", name := "coins", desc := "(II)I" } : Jvm.MethodName)) ∈ lw_all := lw_g (lw_at lw_m7 58 rfl) rfl
theorem q1593 : (Jvm.Cond.code ({ cls := "WheelLandModel", name := "coins", desc := "(II)I" } : Jvm.MethodName) prog_14_method_14_code (3 : Nat) (Option.some Jvm.ClassFile.FieldType.int)) ∈ lw_all := lw_g (lw_at lw_m7 59 rfl) rfl
theorem q1594 : (Jvm.Cond.constantLong "WheelLandModel" (309 : Nat) (-9999 : Int64)) ∈ lw_all := lw_g (lw_at lw_m7 60 rfl) rfl
theorem q1595 : (Jvm.Cond.constant "WheelLandModel" (311 : Nat) (-2147483648 : Int32)) ∈ lw_all := lw_g (lw_at lw_m7 61 rfl) rfl
theorem q1597 : (Jvm.Cond.instanceMethod ({ cls := "WheelLandModel", name := "cotton", desc := "(II)I" } : Jvm.MethodName)) ∈ lw_all := lw_g (lw_at lw_m7 63 rfl) rfl
theorem q1598 : (Jvm.Cond.selects "WheelLandModel" ({ cls := "WheelLandModel", name := "cotton", desc := "(II)I" } : Jvm.MethodName) ({ cls := "WheelLandModel", name := "cotton", desc := "(II)I" } : Jvm.MethodName)) ∈ lw_all := lw_g (lw_at lw_m7 64 rfl) rfl
theorem q1599 : (Jvm.Cond.code ({ cls := "WheelLandModel", name := "cotton", desc := "(II)I" } : Jvm.MethodName) prog_14_method_15_code (3 : Nat) (Option.some Jvm.ClassFile.FieldType.int)) ∈ lw_all := lw_g (lw_at lw_m7 65 rfl) rfl
theorem q1600 : (Jvm.Cond.constantLong "WheelLandModel" (312 : Nat) (999 : Int64)) ∈ lw_all := lw_g (lw_at lw_m7 66 rfl) rfl
theorem q1602 : (Jvm.Cond.instanceMethod ({ cls := "WheelLandModel", name := "feed", desc := "(IIIII)I" } : Jvm.MethodName)) ∈ lw_all := lw_g (lw_at lw_m7 68 rfl) rfl
theorem q1603 : (Jvm.Cond.selects "WheelLandModel" ({ cls := "WheelLandModel", name := "feed", desc := "(IIIII)I" } : Jvm.MethodName) ({ cls := "WheelLandModel", name := "feed", desc := "(IIIII)I" } : Jvm.MethodName)) ∈ lw_all := lw_g (lw_at lw_m7 69 rfl) rfl
theorem q1604 : (Jvm.Cond.code ({ cls := "WheelLandModel", name := "feed", desc := "(IIIII)I" } : Jvm.MethodName) prog_14_method_17_code (6 : Nat) (Option.some Jvm.ClassFile.FieldType.int)) ∈ lw_all := lw_g (lw_at lw_m7 70 rfl) rfl
theorem q1605 : (Jvm.Cond.methodLink "WheelLandModel" (317 : Nat) ({ cls := "WheelLandModel", name := "feeds", desc := "(I)V" } : Jvm.MethodName)) ∈ lw_all := lw_g (lw_at lw_m7 71 rfl) rfl
theorem q1606 : (Jvm.Cond.privateMethod ({ cls := "WheelLandModel", name := "feeds", desc := "(I)V" } : Jvm.MethodName)) ∈ lw_tbl := lw_at lw_m7 72 rfl
theorem q1607 : (Jvm.Cond.instanceMethod ({ cls := "WheelLandModel", name := "feeds", desc := "(I)V" } : Jvm.MethodName)) ∈ lw_all := lw_g (lw_at lw_m7 73 rfl) rfl
theorem q1608 : (Jvm.Cond.code ({ cls := "WheelLandModel", name := "feeds", desc := "(I)V" } : Jvm.MethodName) prog_14_method_16_code (3 : Nat) (Option.none : Option Jvm.ClassFile.FieldType)) ∈ lw_all := lw_g (lw_at lw_m7 74 rfl) rfl
theorem q1610 : (Jvm.Cond.instanceMethod ({ cls := "WheelLandModel", name := "end", desc := "(I)Z" } : Jvm.MethodName)) ∈ lw_all := lw_g (lw_at lw_m7 76 rfl) rfl
theorem q1611 : (Jvm.Cond.selects "WheelLandModel" ({ cls := "WheelLandModel", name := "end", desc := "(I)Z" } : Jvm.MethodName) ({ cls := "WheelLandModel", name := "end", desc := "(I)Z" } : Jvm.MethodName)) ∈ lw_all := lw_g (lw_at lw_m7 77 rfl) rfl
theorem q1612 : (Jvm.Cond.code ({ cls := "WheelLandModel", name := "end", desc := "(I)Z" } : Jvm.MethodName) prog_14_method_18_code (2 : Nat) (Option.some Jvm.ClassFile.FieldType.boolean)) ∈ lw_all := lw_g (lw_at lw_m7 78 rfl) rfl
theorem q1614 : (Jvm.Cond.instanceMethod ({ cls := "WheelLandModel", name := "fault", desc := "()I" } : Jvm.MethodName)) ∈ lw_all := lw_g (lw_at lw_m7 80 rfl) rfl
theorem q1615 : (Jvm.Cond.selects "WheelLandModel" ({ cls := "WheelLandModel", name := "fault", desc := "()I" } : Jvm.MethodName) ({ cls := "WheelLandModel", name := "fault", desc := "()I" } : Jvm.MethodName)) ∈ lw_all := lw_g (lw_at lw_m7 81 rfl) rfl
theorem q1616 : (Jvm.Cond.code ({ cls := "WheelLandModel", name := "fault", desc := "()I" } : Jvm.MethodName) prog_14_method_37_code (1 : Nat) (Option.some Jvm.ClassFile.FieldType.int)) ∈ lw_all := lw_g (lw_at lw_m7 82 rfl) rfl
theorem q1617 : (Jvm.Cond.methodLink "WheelLandModel" (410 : Nat) ({ cls := "WheelLandModel", name := "reads", desc := "()V" } : Jvm.MethodName)) ∈ lw_all := lw_g (lw_at lw_m7 83 rfl) rfl
theorem q1618 : (Jvm.Cond.privateMethod ({ cls := "WheelLandModel", name := "reads", desc := "()V" } : Jvm.MethodName)) ∈ lw_tbl := lw_at lw_m7 84 rfl
theorem q1619 : (Jvm.Cond.instanceMethod ({ cls := "WheelLandModel", name := "reads", desc := "()V" } : Jvm.MethodName)) ∈ lw_all := lw_g (lw_at lw_m7 85 rfl) rfl
theorem q1620 : (Jvm.Cond.code ({ cls := "WheelLandModel", name := "reads", desc := "()V" } : Jvm.MethodName) prog_14_method_36_code (2 : Nat) (Option.none : Option Jvm.ClassFile.FieldType)) ∈ lw_all := lw_g (lw_at lw_m7 86 rfl) rfl
theorem q1621 : (Jvm.Cond.methodLink "WheelLandModel" (333 : Nat) ({ cls := "WheelLandModel", name := "skips", desc := "()V" } : Jvm.MethodName)) ∈ lw_all := lw_g (lw_at lw_m7 87 rfl) rfl
theorem q1622 : (Jvm.Cond.privateMethod ({ cls := "WheelLandModel", name := "skips", desc := "()V" } : Jvm.MethodName)) ∈ lw_tbl := lw_at lw_m7 88 rfl
theorem q1623 : (Jvm.Cond.instanceMethod ({ cls := "WheelLandModel", name := "skips", desc := "()V" } : Jvm.MethodName)) ∈ lw_all := lw_g (lw_at lw_m7 89 rfl) rfl
theorem q1624 : (Jvm.Cond.code ({ cls := "WheelLandModel", name := "skips", desc := "()V" } : Jvm.MethodName) prog_14_method_21_code (1 : Nat) (Option.none : Option Jvm.ClassFile.FieldType)) ∈ lw_all := lw_g (lw_at lw_m7 90 rfl) rfl
theorem q1625 : (Jvm.Cond.methodLink "WheelLandModel" (327 : Nat) ({ cls := "WheelLandModel", name := "isLetter", desc := "(I)Z" } : Jvm.MethodName)) ∈ lw_all := lw_g (lw_at lw_m7 91 rfl) rfl
theorem q1626 : (Jvm.Cond.static ({ cls := "WheelLandModel", name := "isLetter", desc := "(I)Z" } : Jvm.MethodName)) ∈ lw_all := lw_g (lw_at lw_m7 92 rfl) rfl
theorem q1627 : (Jvm.Cond.code ({ cls := "WheelLandModel", name := "isLetter", desc := "(I)Z" } : Jvm.MethodName) prog_14_method_19_code (1 : Nat) (Option.some Jvm.ClassFile.FieldType.boolean)) ∈ lw_all := lw_g (lw_at lw_m7 93 rfl) rfl
theorem q1628 : (Jvm.Cond.methodLink "WheelLandModel" (330 : Nat) ({ cls := "WheelLandModel", name := "isDigit", desc := "(I)Z" } : Jvm.MethodName)) ∈ lw_all := lw_g (lw_at lw_m7 94 rfl) rfl
theorem q1629 : (Jvm.Cond.static ({ cls := "WheelLandModel", name := "isDigit", desc := "(I)Z" } : Jvm.MethodName)) ∈ lw_all := lw_g (lw_at lw_m7 95 rfl) rfl
theorem q1630 : (Jvm.Cond.code ({ cls := "WheelLandModel", name := "isDigit", desc := "(I)Z" } : Jvm.MethodName) prog_14_method_20_code (1 : Nat) (Option.some Jvm.ClassFile.FieldType.boolean)) ∈ lw_all := lw_g (lw_at lw_m7 96 rfl) rfl
theorem q1631 : (Jvm.Cond.methodLink "WheelLandModel" (407 : Nat) ({ cls := "WheelLandModel", name := "clauses", desc := "()Z" } : Jvm.MethodName)) ∈ lw_all := lw_g (lw_at lw_m7 97 rfl) rfl
theorem q1632 : (Jvm.Cond.privateMethod ({ cls := "WheelLandModel", name := "clauses", desc := "()Z" } : Jvm.MethodName)) ∈ lw_tbl := lw_at lw_m7 98 rfl
theorem q1633 : (Jvm.Cond.instanceMethod ({ cls := "WheelLandModel", name := "clauses", desc := "()Z" } : Jvm.MethodName)) ∈ lw_all := lw_g (lw_at lw_m7 99 rfl) rfl
theorem q1634 : (Jvm.Cond.code ({ cls := "WheelLandModel", name := "clauses", desc := "()Z" } : Jvm.MethodName) prog_14_method_35_code (2 : Nat) (Option.some Jvm.ClassFile.FieldType.boolean)) ∈ lw_all := lw_g (lw_at lw_m7 100 rfl) rfl
theorem q1635 : (Jvm.Cond.methodLink "WheelLandModel" (382 : Nat) ({ cls := "WheelLandModel", name := "isWord", desc := "(Ljava/lang/String;)Z" } : Jvm.MethodName)) ∈ lw_all := lw_g (lw_at lw_m7 101 rfl) rfl
theorem q1636 : (Jvm.Cond.privateMethod ({ cls := "WheelLandModel", name := "isWord", desc := "(Ljava/lang/String;)Z" } : Jvm.MethodName)) ∈ lw_tbl := lw_at lw_m7 102 rfl
theorem q1637 : (Jvm.Cond.instanceMethod ({ cls := "WheelLandModel", name := "isWord", desc := "(Ljava/lang/String;)Z" } : Jvm.MethodName)) ∈ lw_all := lw_g (lw_at lw_m7 103 rfl) rfl
theorem q1638 : (Jvm.Cond.code ({ cls := "WheelLandModel", name := "isWord", desc := "(Ljava/lang/String;)Z" } : Jvm.MethodName) prog_14_method_23_code (3 : Nat) (Option.some Jvm.ClassFile.FieldType.boolean)) ∈ lw_all := lw_g (lw_at lw_m7 104 rfl) rfl
theorem q1639 : (Jvm.Cond.methodLink "WheelLandModel" (336 : Nat) ({ cls := "java/lang/String", name := "length", desc := "()I" } : Jvm.MethodName)) ∈ lw_all := lw_g (lw_at lw_m7 105 rfl) rfl
theorem q1640 : (Jvm.Cond.methodLink "WheelLandModel" (340 : Nat) ({ cls := "java/lang/String", name := "charAt", desc := "(I)C" } : Jvm.MethodName)) ∈ lw_all := lw_g (lw_at lw_m7 106 rfl) rfl
theorem q1641 : (Jvm.Cond.methodLink "WheelLandModel" (368 : Nat) ({ cls := "WheelLandModel", name := "passes", desc := "(Z)Z" } : Jvm.MethodName)) ∈ lw_all := lw_g (lw_at lw_m7 107 rfl) rfl
theorem q1642 : (Jvm.Cond.privateMethod ({ cls := "WheelLandModel", name := "passes", desc := "(Z)Z" } : Jvm.MethodName)) ∈ lw_tbl := lw_at lw_m7 108 rfl
theorem q1643 : (Jvm.Cond.instanceMethod ({ cls := "WheelLandModel", name := "passes", desc := "(Z)Z" } : Jvm.MethodName)) ∈ lw_all := lw_g (lw_at lw_m7 109 rfl) rfl
theorem q1644 : (Jvm.Cond.code ({ cls := "WheelLandModel", name := "passes", desc := "(Z)Z" } : Jvm.MethodName) prog_14_method_26_code (2 : Nat) (Option.some Jvm.ClassFile.FieldType.boolean)) ∈ lw_all := lw_g (lw_at lw_m7 110 rfl) rfl
theorem q1645 : (Jvm.Cond.methodLink "WheelLandModel" (347 : Nat) ({ cls := "WheelLandModel", name := "fails", desc := "()Z" } : Jvm.MethodName)) ∈ lw_all := lw_g (lw_at lw_m7 111 rfl) rfl
theorem q1646 : (Jvm.Cond.privateMethod ({ cls := "WheelLandModel", name := "fails", desc := "()Z" } : Jvm.MethodName)) ∈ lw_tbl := lw_at lw_m7 112 rfl
theorem q1647 : (Jvm.Cond.instanceMethod ({ cls := "WheelLandModel", name := "fails", desc := "()Z" } : Jvm.MethodName)) ∈ lw_all := lw_g (lw_at lw_m7 113 rfl) rfl
theorem q1648 : (Jvm.Cond.code ({ cls := "WheelLandModel", name := "fails", desc := "()Z" } : Jvm.MethodName) prog_14_method_25_code (1 : Nat) (Option.some Jvm.ClassFile.FieldType.boolean)) ∈ lw_all := lw_g (lw_at lw_m7 114 rfl) rfl
theorem q1649 : (Jvm.Cond.methodLink "WheelLandModel" (351 : Nat) ({ cls := "WheelLandModel", name := "goesOn", desc := "()V" } : Jvm.MethodName)) ∈ lw_all := lw_g (lw_at lw_m7 115 rfl) rfl
theorem q1650 : (Jvm.Cond.privateMethod ({ cls := "WheelLandModel", name := "goesOn", desc := "()V" } : Jvm.MethodName)) ∈ lw_tbl := lw_at lw_m7 116 rfl
theorem q1651 : (Jvm.Cond.instanceMethod ({ cls := "WheelLandModel", name := "goesOn", desc := "()V" } : Jvm.MethodName)) ∈ lw_all := lw_g (lw_at lw_m7 117 rfl) rfl
theorem q1652 : (Jvm.Cond.code ({ cls := "WheelLandModel", name := "goesOn", desc := "()V" } : Jvm.MethodName) prog_14_method_22_code (1 : Nat) (Option.none : Option Jvm.ClassFile.FieldType)) ∈ lw_all := lw_g (lw_at lw_m7 118 rfl) rfl
theorem q1653 : (Jvm.Cond.methodLink "WheelLandModel" (372 : Nat) ({ cls := "WheelLandModel", name := "sum", desc := "(I)Z" } : Jvm.MethodName)) ∈ lw_all := lw_g (lw_at lw_m7 119 rfl) rfl
theorem q1654 : (Jvm.Cond.privateMethod ({ cls := "WheelLandModel", name := "sum", desc := "(I)Z" } : Jvm.MethodName)) ∈ lw_tbl := lw_at lw_m7 120 rfl
theorem q1655 : (Jvm.Cond.instanceMethod ({ cls := "WheelLandModel", name := "sum", desc := "(I)Z" } : Jvm.MethodName)) ∈ lw_all := lw_g (lw_at lw_m7 121 rfl) rfl
theorem q1656 : (Jvm.Cond.code ({ cls := "WheelLandModel", name := "sum", desc := "(I)Z" } : Jvm.MethodName) prog_14_method_31_code (3 : Nat) (Option.some Jvm.ClassFile.FieldType.boolean)) ∈ lw_all := lw_g (lw_at lw_m7 122 rfl) rfl
theorem q1657 : (Jvm.Cond.methodLink "WheelLandModel" (389 : Nat) ({ cls := "WheelLandModel", name := "product", desc := "(I)Z" } : Jvm.MethodName)) ∈ lw_all := lw_g (lw_at lw_m7 123 rfl) rfl
theorem q1658 : (Jvm.Cond.privateMethod ({ cls := "WheelLandModel", name := "product", desc := "(I)Z" } : Jvm.MethodName)) ∈ lw_tbl := lw_at lw_m7 124 rfl
theorem q1659 : (Jvm.Cond.instanceMethod ({ cls := "WheelLandModel", name := "product", desc := "(I)Z" } : Jvm.MethodName)) ∈ lw_all := lw_g (lw_at lw_m7 125 rfl) rfl
theorem q1660 : (Jvm.Cond.code ({ cls := "WheelLandModel", name := "product", desc := "(I)Z" } : Jvm.MethodName) prog_14_method_30_code (3 : Nat) (Option.some Jvm.ClassFile.FieldType.boolean)) ∈ lw_all := lw_g (lw_at lw_m7 126 rfl) rfl
theorem q1661 : (Jvm.Cond.methodLink "WheelLandModel" (386 : Nat) ({ cls := "WheelLandModel", name := "factor", desc := "(I)Z" } : Jvm.MethodName)) ∈ lw_all := lw_g (lw_at lw_m7 127 rfl) rfl
theorem q1662 : (Jvm.Cond.privateMethod ({ cls := "WheelLandModel", name := "factor", desc := "(I)Z" } : Jvm.MethodName)) ∈ lw_tbl := lw_at lw_m7 128 rfl
theorem q1663 : (Jvm.Cond.instanceMethod ({ cls := "WheelLandModel", name := "factor", desc := "(I)Z" } : Jvm.MethodName)) ∈ lw_all := lw_g (lw_at lw_m7 129 rfl) rfl
theorem q1664 : (Jvm.Cond.code ({ cls := "WheelLandModel", name := "factor", desc := "(I)Z" } : Jvm.MethodName) prog_14_method_29_code (3 : Nat) (Option.some Jvm.ClassFile.FieldType.boolean)) ∈ lw_all := lw_g (lw_at lw_m7 130 rfl) rfl
theorem q1665 : (Jvm.Cond.methodLink "WheelLandModel" (365 : Nat) ({ cls := "WheelLandModel", name := "isSign", desc := "(I)Z" } : Jvm.MethodName)) ∈ lw_all := lw_g (lw_at lw_m7 131 rfl) rfl
theorem q1666 : (Jvm.Cond.privateMethod ({ cls := "WheelLandModel", name := "isSign", desc := "(I)Z" } : Jvm.MethodName)) ∈ lw_tbl := lw_at lw_m7 132 rfl
theorem q1667 : (Jvm.Cond.instanceMethod ({ cls := "WheelLandModel", name := "isSign", desc := "(I)Z" } : Jvm.MethodName)) ∈ lw_all := lw_g (lw_at lw_m7 133 rfl) rfl
theorem q1668 : (Jvm.Cond.code ({ cls := "WheelLandModel", name := "isSign", desc := "(I)Z" } : Jvm.MethodName) prog_14_method_24_code (2 : Nat) (Option.some Jvm.ClassFile.FieldType.boolean)) ∈ lw_all := lw_g (lw_at lw_m7 134 rfl) rfl
theorem q1669 : (Jvm.Cond.methodLink "WheelLandModel" (375 : Nat) ({ cls := "WheelLandModel", name := "isNumber", desc := "()Z" } : Jvm.MethodName)) ∈ lw_all := lw_g (lw_at lw_m7 135 rfl) rfl
theorem q1670 : (Jvm.Cond.privateMethod ({ cls := "WheelLandModel", name := "isNumber", desc := "()Z" } : Jvm.MethodName)) ∈ lw_tbl := lw_at lw_m7 136 rfl
theorem q1671 : (Jvm.Cond.instanceMethod ({ cls := "WheelLandModel", name := "isNumber", desc := "()Z" } : Jvm.MethodName)) ∈ lw_all := lw_g (lw_at lw_m7 137 rfl) rfl
theorem q1672 : (Jvm.Cond.code ({ cls := "WheelLandModel", name := "isNumber", desc := "()Z" } : Jvm.MethodName) prog_14_method_28_code (2 : Nat) (Option.some Jvm.ClassFile.FieldType.boolean)) ∈ lw_all := lw_g (lw_at lw_m7 138 rfl) rfl
theorem q1673 : (Jvm.Cond.constant "WheelLandModel" (363 : Nat) (99999 : Int32)) ∈ lw_all := lw_g (lw_at lw_m7 139 rfl) rfl
theorem q1674 : (Jvm.Cond.constant "WheelLandModel" (364 : Nat) (999999 : Int32)) ∈ lw_all := lw_g (lw_at lw_m7 140 rfl) rfl
theorem q1675 : (Jvm.Cond.methodLink "WheelLandModel" (378 : Nat) ({ cls := "WheelLandModel", name := "puts", desc := "(II)Z" } : Jvm.MethodName)) ∈ lw_all := lw_g (lw_at lw_m7 141 rfl) rfl
theorem q1676 : (Jvm.Cond.privateMethod ({ cls := "WheelLandModel", name := "puts", desc := "(II)Z" } : Jvm.MethodName)) ∈ lw_tbl := lw_at lw_m7 142 rfl
theorem q1677 : (Jvm.Cond.instanceMethod ({ cls := "WheelLandModel", name := "puts", desc := "(II)Z" } : Jvm.MethodName)) ∈ lw_all := lw_g (lw_at lw_m7 143 rfl) rfl
theorem q1678 : (Jvm.Cond.code ({ cls := "WheelLandModel", name := "puts", desc := "(II)Z" } : Jvm.MethodName) prog_14_method_27_code (3 : Nat) (Option.some Jvm.ClassFile.FieldType.boolean)) ∈ lw_all := lw_g (lw_at lw_m7 144 rfl) rfl
theorem q1679 : (Jvm.Cond.methodLink "WheelLandModel" (397 : Nat) ({ cls := "WheelLandModel", name := "either", desc := "(I)Z" } : Jvm.MethodName)) ∈ lw_all := lw_g (lw_at lw_m7 145 rfl) rfl
theorem q1680 : (Jvm.Cond.privateMethod ({ cls := "WheelLandModel", name := "either", desc := "(I)Z" } : Jvm.MethodName)) ∈ lw_tbl := lw_at lw_m7 146 rfl
theorem q1681 : (Jvm.Cond.instanceMethod ({ cls := "WheelLandModel", name := "either", desc := "(I)Z" } : Jvm.MethodName)) ∈ lw_all := lw_g (lw_at lw_m7 147 rfl) rfl
theorem q1682 : (Jvm.Cond.code ({ cls := "WheelLandModel", name := "either", desc := "(I)Z" } : Jvm.MethodName) prog_14_method_34_code (2 : Nat) (Option.some Jvm.ClassFile.FieldType.boolean)) ∈ lw_all := lw_g (lw_at lw_m7 148 rfl) rfl
theorem q1683 : (Jvm.Cond.methodLink "WheelLandModel" (402 : Nat) ({ cls := "WheelLandModel", name := "each", desc := "(I)Z" } : Jvm.MethodName)) ∈ lw_all := lw_g (lw_at lw_m7 149 rfl) rfl
theorem q1684 : (Jvm.Cond.privateMethod ({ cls := "WheelLandModel", name := "each", desc := "(I)Z" } : Jvm.MethodName)) ∈ lw_tbl := lw_at lw_m7 150 rfl
theorem q1685 : (Jvm.Cond.instanceMethod ({ cls := "WheelLandModel", name := "each", desc := "(I)Z" } : Jvm.MethodName)) ∈ lw_all := lw_g (lw_at lw_m7 151 rfl) rfl
theorem q1686 : (Jvm.Cond.code ({ cls := "WheelLandModel", name := "each", desc := "(I)Z" } : Jvm.MethodName) prog_14_method_33_code (2 : Nat) (Option.some Jvm.ClassFile.FieldType.boolean)) ∈ lw_all := lw_g (lw_at lw_m7 152 rfl) rfl
theorem q1687 : (Jvm.Cond.methodLink "WheelLandModel" (394 : Nat) ({ cls := "WheelLandModel", name := "test", desc := "(I)Z" } : Jvm.MethodName)) ∈ lw_all := lw_g (lw_at lw_m7 153 rfl) rfl
theorem q1688 : (Jvm.Cond.privateMethod ({ cls := "WheelLandModel", name := "test", desc := "(I)Z" } : Jvm.MethodName)) ∈ lw_tbl := lw_at lw_m7 154 rfl
theorem q1689 : (Jvm.Cond.instanceMethod ({ cls := "WheelLandModel", name := "test", desc := "(I)Z" } : Jvm.MethodName)) ∈ lw_all := lw_g (lw_at lw_m7 155 rfl) rfl
theorem q1690 : (Jvm.Cond.code ({ cls := "WheelLandModel", name := "test", desc := "(I)Z" } : Jvm.MethodName) prog_14_method_32_code (3 : Nat) (Option.some Jvm.ClassFile.FieldType.boolean)) ∈ lw_all := lw_g (lw_at lw_m7 156 rfl) rfl
theorem q1691 : (Jvm.Cond.stringRef "WheelLandModel" (392 : Nat) "not") ∈ lw_tbl := lw_at lw_m7 157 rfl
theorem q1692 : (Jvm.Cond.stringRef "WheelLandModel" (400 : Nat) "and") ∈ lw_tbl := lw_at lw_m7 158 rfl
theorem q1693 : (Jvm.Cond.stringRef "WheelLandModel" (405 : Nat) "or") ∈ lw_tbl := lw_at lw_m7 159 rfl
theorem q1695 : (Jvm.Cond.instanceMethod ({ cls := "WheelLandModel", name := "sheet", desc := "()I" } : Jvm.MethodName)) ∈ lw_all := lw_g (lw_at lw_m7 161 rfl) rfl
theorem q1696 : (Jvm.Cond.selects "WheelLandModel" ({ cls := "WheelLandModel", name := "sheet", desc := "()I" } : Jvm.MethodName) ({ cls := "WheelLandModel", name := "sheet", desc := "()I" } : Jvm.MethodName)) ∈ lw_all := lw_g (lw_at lw_m7 162 rfl) rfl
theorem q1697 : (Jvm.Cond.code ({ cls := "WheelLandModel", name := "sheet", desc := "()I" } : Jvm.MethodName) prog_14_method_38_code (3 : Nat) (Option.some Jvm.ClassFile.FieldType.int)) ∈ lw_all := lw_g (lw_at lw_m7 163 rfl) rfl
theorem q1699 : (Jvm.Cond.instanceMethod ({ cls := "WheelLandModel", name := "force", desc := "(II)I" } : Jvm.MethodName)) ∈ lw_all := lw_g (lw_at lw_m7 165 rfl) rfl
theorem q1700 : (Jvm.Cond.selects "WheelLandModel" ({ cls := "WheelLandModel", name := "force", desc := "(II)I" } : Jvm.MethodName) ({ cls := "WheelLandModel", name := "force", desc := "(II)I" } : Jvm.MethodName)) ∈ lw_all := lw_g (lw_at lw_m7 166 rfl) rfl
theorem q1701 : (Jvm.Cond.code ({ cls := "WheelLandModel", name := "force", desc := "(II)I" } : Jvm.MethodName) prog_14_method_39_code (3 : Nat) (Option.some Jvm.ClassFile.FieldType.int)) ∈ lw_all := lw_g (lw_at lw_m7 167 rfl) rfl
theorem q1702 : (Jvm.Cond.constantLong "WheelLandModel" (416 : Nat) (155 : Int64)) ∈ lw_all := lw_g (lw_at lw_m7 168 rfl) rfl
theorem q1704 : (Jvm.Cond.instanceMethod ({ cls := "WheelLandModel", name := "why", desc := "(II)I" } : Jvm.MethodName)) ∈ lw_all := lw_g (lw_at lw_m7 170 rfl) rfl
theorem q1705 : (Jvm.Cond.selects "WheelLandModel" ({ cls := "WheelLandModel", name := "why", desc := "(II)I" } : Jvm.MethodName) ({ cls := "WheelLandModel", name := "why", desc := "(II)I" } : Jvm.MethodName)) ∈ lw_all := lw_g (lw_at lw_m7 171 rfl) rfl
theorem q1706 : (Jvm.Cond.code ({ cls := "WheelLandModel", name := "why", desc := "(II)I" } : Jvm.MethodName) prog_14_method_41_code (3 : Nat) (Option.some Jvm.ClassFile.FieldType.int)) ∈ lw_all := lw_g (lw_at lw_m7 172 rfl) rfl
theorem q1707 : (Jvm.Cond.methodLink "WheelLandModel" (421 : Nat) ({ cls := "WheelLandModel", name := "sheetFor", desc := "(II)I" } : Jvm.MethodName)) ∈ lw_all := lw_g (lw_at lw_m7 173 rfl) rfl
theorem q1708 : (Jvm.Cond.privateMethod ({ cls := "WheelLandModel", name := "sheetFor", desc := "(II)I" } : Jvm.MethodName)) ∈ lw_tbl := lw_at lw_m7 174 rfl
theorem q1709 : (Jvm.Cond.instanceMethod ({ cls := "WheelLandModel", name := "sheetFor", desc := "(II)I" } : Jvm.MethodName)) ∈ lw_all := lw_g (lw_at lw_m7 175 rfl) rfl
theorem q1710 : (Jvm.Cond.code ({ cls := "WheelLandModel", name := "sheetFor", desc := "(II)I" } : Jvm.MethodName) prog_14_method_40_code (5 : Nat) (Option.some Jvm.ClassFile.FieldType.int)) ∈ lw_all := lw_g (lw_at lw_m7 176 rfl) rfl
theorem q1712 : (Jvm.Cond.instanceMethod ({ cls := "WheelLandModel", name := "lot", desc := "(II)I" } : Jvm.MethodName)) ∈ lw_all := lw_g (lw_at lw_m7 178 rfl) rfl
theorem q1713 : (Jvm.Cond.selects "WheelLandModel" ({ cls := "WheelLandModel", name := "lot", desc := "(II)I" } : Jvm.MethodName) ({ cls := "WheelLandModel", name := "lot", desc := "(II)I" } : Jvm.MethodName)) ∈ lw_all := lw_g (lw_at lw_m7 179 rfl) rfl
theorem q1714 : (Jvm.Cond.code ({ cls := "WheelLandModel", name := "lot", desc := "(II)I" } : Jvm.MethodName) prog_14_method_55_code (3 : Nat) (Option.some Jvm.ClassFile.FieldType.int)) ∈ lw_all := lw_g (lw_at lw_m7 180 rfl) rfl
theorem q1715 : (Jvm.Cond.methodLink "WheelLandModel" (466 : Nat) ({ cls := "WheelLandModel", name := "isLot", desc := "(I)Z" } : Jvm.MethodName)) ∈ lw_all := lw_g (lw_at lw_m7 181 rfl) rfl
theorem q1716 : (Jvm.Cond.privateMethod ({ cls := "WheelLandModel", name := "isLot", desc := "(I)Z" } : Jvm.MethodName)) ∈ lw_tbl := lw_at lw_m7 182 rfl
theorem q1717 : (Jvm.Cond.instanceMethod ({ cls := "WheelLandModel", name := "isLot", desc := "(I)Z" } : Jvm.MethodName)) ∈ lw_all := lw_g (lw_at lw_m7 183 rfl) rfl
theorem q1718 : (Jvm.Cond.code ({ cls := "WheelLandModel", name := "isLot", desc := "(I)Z" } : Jvm.MethodName) prog_14_method_54_code (2 : Nat) (Option.some Jvm.ClassFile.FieldType.boolean)) ∈ lw_all := lw_g (lw_at lw_m7 184 rfl) rfl
theorem q1720 : (Jvm.Cond.instanceMethod ({ cls := "WheelLandModel", name := "pay", desc := "(III)I" } : Jvm.MethodName)) ∈ lw_all := lw_g (lw_at lw_m7 186 rfl) rfl
theorem q1721 : (Jvm.Cond.selects "WheelLandModel" ({ cls := "WheelLandModel", name := "pay", desc := "(III)I" } : Jvm.MethodName) ({ cls := "WheelLandModel", name := "pay", desc := "(III)I" } : Jvm.MethodName)) ∈ lw_all := lw_g (lw_at lw_m7 187 rfl) rfl
theorem q1722 : (Jvm.Cond.code ({ cls := "WheelLandModel", name := "pay", desc := "(III)I" } : Jvm.MethodName) prog_14_method_57_code (4 : Nat) (Option.some Jvm.ClassFile.FieldType.int)) ∈ lw_all := lw_g (lw_at lw_m7 188 rfl) rfl
theorem q1723 : (Jvm.Cond.methodLink "WheelLandModel" (472 : Nat) ({ cls := "WheelLandModel", name := "owing", desc := "(I)I" } : Jvm.MethodName)) ∈ lw_all := lw_g (lw_at lw_m7 189 rfl) rfl
theorem q1724 : (Jvm.Cond.privateMethod ({ cls := "WheelLandModel", name := "owing", desc := "(I)I" } : Jvm.MethodName)) ∈ lw_tbl := lw_at lw_m7 190 rfl
theorem q1725 : (Jvm.Cond.instanceMethod ({ cls := "WheelLandModel", name := "owing", desc := "(I)I" } : Jvm.MethodName)) ∈ lw_all := lw_g (lw_at lw_m7 191 rfl) rfl
theorem q1726 : (Jvm.Cond.code ({ cls := "WheelLandModel", name := "owing", desc := "(I)I" } : Jvm.MethodName) prog_14_method_56_code (4 : Nat) (Option.some Jvm.ClassFile.FieldType.int)) ∈ lw_all := lw_g (lw_at lw_m7 192 rfl) rfl
theorem q1728 : (Jvm.Cond.instanceMethod ({ cls := "WheelLandModel", name := "due", desc := "(II)I" } : Jvm.MethodName)) ∈ lw_all := lw_g (lw_at lw_m7 194 rfl) rfl
theorem q1729 : (Jvm.Cond.selects "WheelLandModel" ({ cls := "WheelLandModel", name := "due", desc := "(II)I" } : Jvm.MethodName) ({ cls := "WheelLandModel", name := "due", desc := "(II)I" } : Jvm.MethodName)) ∈ lw_all := lw_g (lw_at lw_m7 195 rfl) rfl
theorem q1730 : (Jvm.Cond.code ({ cls := "WheelLandModel", name := "due", desc := "(II)I" } : Jvm.MethodName) prog_14_method_58_code (3 : Nat) (Option.some Jvm.ClassFile.FieldType.int)) ∈ lw_all := lw_g (lw_at lw_m7 196 rfl) rfl
theorem q1731 : (Jvm.Cond.methodLink "WheelLandModel" (448 : Nat) ({ cls := "WheelLandModel", name := "least", desc := "(I)I" } : Jvm.MethodName)) ∈ lw_all := lw_g (lw_at lw_m7 197 rfl) rfl
theorem q1732 : (Jvm.Cond.static ({ cls := "WheelLandModel", name := "least", desc := "(I)I" } : Jvm.MethodName)) ∈ lw_all := lw_g (lw_at lw_m7 198 rfl) rfl
theorem q1733 : (Jvm.Cond.code ({ cls := "WheelLandModel", name := "least", desc := "(I)I" } : Jvm.MethodName) prog_14_method_45_code (1 : Nat) (Option.some Jvm.ClassFile.FieldType.int)) ∈ lw_all := lw_g (lw_at lw_m7 199 rfl) rfl
theorem q1735 : (Jvm.Cond.instanceMethod ({ cls := "WheelLandModel", name := "bar", desc := "(III)I" } : Jvm.MethodName)) ∈ lw_all := lw_g (lw_at lw_m7 201 rfl) rfl
theorem q1736 : (Jvm.Cond.selects "WheelLandModel" ({ cls := "WheelLandModel", name := "bar", desc := "(III)I" } : Jvm.MethodName) ({ cls := "WheelLandModel", name := "bar", desc := "(III)I" } : Jvm.MethodName)) ∈ lw_all := lw_g (lw_at lw_m7 202 rfl) rfl
theorem q1737 : (Jvm.Cond.code ({ cls := "WheelLandModel", name := "bar", desc := "(III)I" } : Jvm.MethodName) prog_14_method_63_code (4 : Nat) (Option.some Jvm.ClassFile.FieldType.int)) ∈ lw_all := lw_g (lw_at lw_m7 203 rfl) rfl
theorem q1738 : (Jvm.Cond.methodLink "WheelLandModel" (488 : Nat) ({ cls := "WheelLandModel", name := "canAsk", desc := "(III)Z" } : Jvm.MethodName)) ∈ lw_all := lw_g (lw_at lw_m7 204 rfl) rfl
theorem q1739 : (Jvm.Cond.privateMethod ({ cls := "WheelLandModel", name := "canAsk", desc := "(III)Z" } : Jvm.MethodName)) ∈ lw_tbl := lw_at lw_m7 205 rfl
theorem q1740 : (Jvm.Cond.instanceMethod ({ cls := "WheelLandModel", name := "canAsk", desc := "(III)Z" } : Jvm.MethodName)) ∈ lw_all := lw_g (lw_at lw_m7 206 rfl) rfl
theorem q1741 : (Jvm.Cond.code ({ cls := "WheelLandModel", name := "canAsk", desc := "(III)Z" } : Jvm.MethodName) prog_14_method_62_code (4 : Nat) (Option.some Jvm.ClassFile.FieldType.boolean)) ∈ lw_all := lw_g (lw_at lw_m7 207 rfl) rfl
theorem q1742 : (Jvm.Cond.constantLong "WheelLandModel" (484 : Nat) (2 : Int64)) ∈ lw_all := lw_g (lw_at lw_m7 208 rfl) rfl
theorem q1743 : (Jvm.Cond.constantLong "WheelLandModel" (486 : Nat) (100 : Int64)) ∈ lw_all := lw_g (lw_at lw_m7 209 rfl) rfl
theorem q1744 : (Jvm.Cond.methodLink "WheelLandModel" (492 : Nat) ({ cls := "WheelLandModel", name := "barred", desc := "(III)I" } : Jvm.MethodName)) ∈ lw_all := lw_g (lw_at lw_m7 210 rfl) rfl
theorem q1745 : (Jvm.Cond.privateMethod ({ cls := "WheelLandModel", name := "barred", desc := "(III)I" } : Jvm.MethodName)) ∈ lw_tbl := lw_at lw_m7 211 rfl
theorem q1746 : (Jvm.Cond.instanceMethod ({ cls := "WheelLandModel", name := "barred", desc := "(III)I" } : Jvm.MethodName)) ∈ lw_all := lw_g (lw_at lw_m7 212 rfl) rfl
theorem q1747 : (Jvm.Cond.code ({ cls := "WheelLandModel", name := "barred", desc := "(III)I" } : Jvm.MethodName) prog_14_method_61_code (5 : Nat) (Option.some Jvm.ClassFile.FieldType.int)) ∈ lw_all := lw_g (lw_at lw_m7 213 rfl) rfl
theorem q1748 : (Jvm.Cond.methodLink "WheelLandModel" (481 : Nat) ({ cls := "WheelLandModel", name := "barOf", desc := "(III)I" } : Jvm.MethodName)) ∈ lw_all := lw_g (lw_at lw_m7 214 rfl) rfl
theorem q1749 : (Jvm.Cond.privateMethod ({ cls := "WheelLandModel", name := "barOf", desc := "(III)I" } : Jvm.MethodName)) ∈ lw_tbl := lw_at lw_m7 215 rfl
theorem q1750 : (Jvm.Cond.instanceMethod ({ cls := "WheelLandModel", name := "barOf", desc := "(III)I" } : Jvm.MethodName)) ∈ lw_all := lw_g (lw_at lw_m7 216 rfl) rfl
theorem q1751 : (Jvm.Cond.code ({ cls := "WheelLandModel", name := "barOf", desc := "(III)I" } : Jvm.MethodName) prog_14_method_60_code (4 : Nat) (Option.some Jvm.ClassFile.FieldType.int)) ∈ lw_all := lw_g (lw_at lw_m7 217 rfl) rfl
theorem q1752 : (Jvm.Cond.methodLink "WheelLandModel" (478 : Nat) ({ cls := "WheelLandModel", name := "asksOf", desc := "(III)V" } : Jvm.MethodName)) ∈ lw_all := lw_g (lw_at lw_m7 218 rfl) rfl
theorem q1753 : (Jvm.Cond.privateMethod ({ cls := "WheelLandModel", name := "asksOf", desc := "(III)V" } : Jvm.MethodName)) ∈ lw_tbl := lw_at lw_m7 219 rfl
theorem q1754 : (Jvm.Cond.instanceMethod ({ cls := "WheelLandModel", name := "asksOf", desc := "(III)V" } : Jvm.MethodName)) ∈ lw_all := lw_g (lw_at lw_m7 220 rfl) rfl
theorem q1755 : (Jvm.Cond.code ({ cls := "WheelLandModel", name := "asksOf", desc := "(III)V" } : Jvm.MethodName) prog_14_method_59_code (4 : Nat) (Option.none : Option Jvm.ClassFile.FieldType)) ∈ lw_all := lw_g (lw_at lw_m7 221 rfl) rfl
theorem q1756 : (Jvm.Cond.methodLink "WheelLandModel" (475 : Nat) ({ cls := "WheelLandModel", name := "asksOf", desc := "(IIIIII)V" } : Jvm.MethodName)) ∈ lw_all := lw_g (lw_at lw_m7 222 rfl) rfl
theorem q1757 : (Jvm.Cond.privateMethod ({ cls := "WheelLandModel", name := "asksOf", desc := "(IIIIII)V" } : Jvm.MethodName)) ∈ lw_tbl := lw_at lw_m7 223 rfl
theorem q1758 : (Jvm.Cond.instanceMethod ({ cls := "WheelLandModel", name := "asksOf", desc := "(IIIIII)V" } : Jvm.MethodName)) ∈ lw_all := lw_g (lw_at lw_m7 224 rfl) rfl
theorem q1759 : (Jvm.Cond.code ({ cls := "WheelLandModel", name := "asksOf", desc := "(IIIIII)V" } : Jvm.MethodName) prog_14_method_48_code (7 : Nat) (Option.none : Option Jvm.ClassFile.FieldType)) ∈ lw_all := lw_g (lw_at lw_m7 225 rfl) rfl
theorem q1760 : (Jvm.Cond.methodLink "WheelLandModel" (442 : Nat) ({ cls := "WheelLandModel", name := "asksOf", desc := "(I)V" } : Jvm.MethodName)) ∈ lw_all := lw_g (lw_at lw_m7 226 rfl) rfl
theorem q1761 : (Jvm.Cond.privateMethod ({ cls := "WheelLandModel", name := "asksOf", desc := "(I)V" } : Jvm.MethodName)) ∈ lw_tbl := lw_at lw_m7 227 rfl
theorem q1762 : (Jvm.Cond.instanceMethod ({ cls := "WheelLandModel", name := "asksOf", desc := "(I)V" } : Jvm.MethodName)) ∈ lw_all := lw_g (lw_at lw_m7 228 rfl) rfl
theorem q1763 : (Jvm.Cond.code ({ cls := "WheelLandModel", name := "asksOf", desc := "(I)V" } : Jvm.MethodName) prog_14_method_47_code (2 : Nat) (Option.none : Option Jvm.ClassFile.FieldType)) ∈ lw_all := lw_g (lw_at lw_m7 229 rfl) rfl
theorem q1764 : (Jvm.Cond.methodLink "WheelLandModel" (439 : Nat) ({ cls := "WheelLandModel", name := "clears", desc := "()V" } : Jvm.MethodName)) ∈ lw_all := lw_g (lw_at lw_m7 230 rfl) rfl
theorem q1765 : (Jvm.Cond.privateMethod ({ cls := "WheelLandModel", name := "clears", desc := "()V" } : Jvm.MethodName)) ∈ lw_tbl := lw_at lw_m7 231 rfl
theorem q1766 : (Jvm.Cond.instanceMethod ({ cls := "WheelLandModel", name := "clears", desc := "()V" } : Jvm.MethodName)) ∈ lw_all := lw_g (lw_at lw_m7 232 rfl) rfl
theorem q1767 : (Jvm.Cond.code ({ cls := "WheelLandModel", name := "clears", desc := "()V" } : Jvm.MethodName) prog_14_method_46_code (2 : Nat) (Option.none : Option Jvm.ClassFile.FieldType)) ∈ lw_all := lw_g (lw_at lw_m7 233 rfl) rfl
theorem q1768 : (Jvm.Cond.methodLink "WheelLandModel" (436 : Nat) ({ cls := "WheelLandModel", name := "season", desc := "(I)I" } : Jvm.MethodName)) ∈ lw_all := lw_g (lw_at lw_m7 234 rfl) rfl
theorem q1769 : (Jvm.Cond.static ({ cls := "WheelLandModel", name := "season", desc := "(I)I" } : Jvm.MethodName)) ∈ lw_all := lw_g (lw_at lw_m7 235 rfl) rfl
theorem q1770 : (Jvm.Cond.code ({ cls := "WheelLandModel", name := "season", desc := "(I)I" } : Jvm.MethodName) prog_14_method_5_code (1 : Nat) (Option.some Jvm.ClassFile.FieldType.int)) ∈ lw_all := lw_g (lw_at lw_m7 236 rfl) rfl
theorem q1771 : (Jvm.Cond.methodLink "WheelLandModel" (445 : Nat) ({ cls := "WheelLandModel", name := "tells", desc := "(I)I" } : Jvm.MethodName)) ∈ lw_all := lw_g (lw_at lw_m7 237 rfl) rfl
theorem q1772 : (Jvm.Cond.privateMethod ({ cls := "WheelLandModel", name := "tells", desc := "(I)I" } : Jvm.MethodName)) ∈ lw_tbl := lw_at lw_m7 238 rfl
theorem q1773 : (Jvm.Cond.instanceMethod ({ cls := "WheelLandModel", name := "tells", desc := "(I)I" } : Jvm.MethodName)) ∈ lw_all := lw_g (lw_at lw_m7 239 rfl) rfl
theorem q1774 : (Jvm.Cond.code ({ cls := "WheelLandModel", name := "tells", desc := "(I)I" } : Jvm.MethodName) prog_14_method_44_code (7 : Nat) (Option.some Jvm.ClassFile.FieldType.int)) ∈ lw_all := lw_g (lw_at lw_m8 0 rfl) rfl
theorem q1775 : (Jvm.Cond.methodLink "WheelLandModel" (432 : Nat) ({ cls := "WheelLandModel", name := "done", desc := "(III)I" } : Jvm.MethodName)) ∈ lw_all := lw_g (lw_at lw_m8 1 rfl) rfl
theorem q1776 : (Jvm.Cond.static ({ cls := "WheelLandModel", name := "done", desc := "(III)I" } : Jvm.MethodName)) ∈ lw_all := lw_g (lw_at lw_m8 2 rfl) rfl
theorem q1777 : (Jvm.Cond.code ({ cls := "WheelLandModel", name := "done", desc := "(III)I" } : Jvm.MethodName) prog_14_method_43_code (3 : Nat) (Option.some Jvm.ClassFile.FieldType.int)) ∈ lw_all := lw_g (lw_at lw_m8 3 rfl) rfl
theorem q1778 : (Jvm.Cond.methodLink "WheelLandModel" (428 : Nat) ({ cls := "WheelLandModel", name := "brought", desc := "(J)I" } : Jvm.MethodName)) ∈ lw_all := lw_g (lw_at lw_m8 4 rfl) rfl
theorem q1779 : (Jvm.Cond.static ({ cls := "WheelLandModel", name := "brought", desc := "(J)I" } : Jvm.MethodName)) ∈ lw_all := lw_g (lw_at lw_m8 5 rfl) rfl
theorem q1780 : (Jvm.Cond.code ({ cls := "WheelLandModel", name := "brought", desc := "(J)I" } : Jvm.MethodName) prog_14_method_42_code (2 : Nat) (Option.some Jvm.ClassFile.FieldType.int)) ∈ lw_all := lw_g (lw_at lw_m8 6 rfl) rfl
theorem q1781 : (Jvm.Cond.constantLong "WheelLandModel" (424 : Nat) (-1000000 : Int64)) ∈ lw_all := lw_g (lw_at lw_m8 7 rfl) rfl
theorem q1782 : (Jvm.Cond.constantLong "WheelLandModel" (426 : Nat) (1000000 : Int64)) ∈ lw_all := lw_g (lw_at lw_m8 8 rfl) rfl
theorem q1784 : (Jvm.Cond.instanceMethod ({ cls := "WheelLandModel", name := "weave", desc := "(III)I" } : Jvm.MethodName)) ∈ lw_all := lw_g (lw_at lw_m8 10 rfl) rfl
theorem q1785 : (Jvm.Cond.selects "WheelLandModel" ({ cls := "WheelLandModel", name := "weave", desc := "(III)I" } : Jvm.MethodName) ({ cls := "WheelLandModel", name := "weave", desc := "(III)I" } : Jvm.MethodName)) ∈ lw_all := lw_g (lw_at lw_m8 11 rfl) rfl
theorem q1786 : (Jvm.Cond.code ({ cls := "WheelLandModel", name := "weave", desc := "(III)I" } : Jvm.MethodName) prog_14_method_64_code (5 : Nat) (Option.some Jvm.ClassFile.FieldType.int)) ∈ lw_all := lw_g (lw_at lw_m8 12 rfl) rfl
theorem q1788 : (Jvm.Cond.instanceMethod ({ cls := "WheelLandModel", name := "cloth", desc := "(II)I" } : Jvm.MethodName)) ∈ lw_all := lw_g (lw_at lw_m8 14 rfl) rfl
theorem q1789 : (Jvm.Cond.selects "WheelLandModel" ({ cls := "WheelLandModel", name := "cloth", desc := "(II)I" } : Jvm.MethodName) ({ cls := "WheelLandModel", name := "cloth", desc := "(II)I" } : Jvm.MethodName)) ∈ lw_all := lw_g (lw_at lw_m8 15 rfl) rfl
theorem q1790 : (Jvm.Cond.code ({ cls := "WheelLandModel", name := "cloth", desc := "(II)I" } : Jvm.MethodName) prog_14_method_66_code (3 : Nat) (Option.some Jvm.ClassFile.FieldType.int)) ∈ lw_all := lw_g (lw_at lw_m8 16 rfl) rfl
theorem q1791 : (Jvm.Cond.methodLink "WheelLandModel" (501 : Nat) ({ cls := "WheelLandModel", name := "isCloth", desc := "(I)Z" } : Jvm.MethodName)) ∈ lw_all := lw_g (lw_at lw_m8 17 rfl) rfl
theorem q1792 : (Jvm.Cond.privateMethod ({ cls := "WheelLandModel", name := "isCloth", desc := "(I)Z" } : Jvm.MethodName)) ∈ lw_tbl := lw_at lw_m8 18 rfl
theorem q1793 : (Jvm.Cond.instanceMethod ({ cls := "WheelLandModel", name := "isCloth", desc := "(I)Z" } : Jvm.MethodName)) ∈ lw_all := lw_g (lw_at lw_m8 19 rfl) rfl
theorem q1794 : (Jvm.Cond.code ({ cls := "WheelLandModel", name := "isCloth", desc := "(I)Z" } : Jvm.MethodName) prog_14_method_65_code (2 : Nat) (Option.some Jvm.ClassFile.FieldType.boolean)) ∈ lw_all := lw_g (lw_at lw_m8 20 rfl) rfl
theorem q1796 : (Jvm.Cond.instanceMethod ({ cls := "WheelLandModel", name := "ask", desc := "(I)I" } : Jvm.MethodName)) ∈ lw_all := lw_g (lw_at lw_m8 22 rfl) rfl
theorem q1797 : (Jvm.Cond.selects "WheelLandModel" ({ cls := "WheelLandModel", name := "ask", desc := "(I)I" } : Jvm.MethodName) ({ cls := "WheelLandModel", name := "ask", desc := "(I)I" } : Jvm.MethodName)) ∈ lw_all := lw_g (lw_at lw_m8 23 rfl) rfl
theorem q1798 : (Jvm.Cond.code ({ cls := "WheelLandModel", name := "ask", desc := "(I)I" } : Jvm.MethodName) prog_14_method_67_code (3 : Nat) (Option.some Jvm.ClassFile.FieldType.int)) ∈ lw_all := lw_g (lw_at lw_m8 24 rfl) rfl
theorem q1800 : (Jvm.Cond.instanceMethod ({ cls := "WheelLandModel", name := "clear", desc := "()I" } : Jvm.MethodName)) ∈ lw_all := lw_g (lw_at lw_m8 26 rfl) rfl
theorem q1801 : (Jvm.Cond.selects "WheelLandModel" ({ cls := "WheelLandModel", name := "clear", desc := "()I" } : Jvm.MethodName) ({ cls := "WheelLandModel", name := "clear", desc := "()I" } : Jvm.MethodName)) ∈ lw_all := lw_g (lw_at lw_m8 27 rfl) rfl
theorem q1802 : (Jvm.Cond.code ({ cls := "WheelLandModel", name := "clear", desc := "()I" } : Jvm.MethodName) prog_14_method_68_code (2 : Nat) (Option.some Jvm.ClassFile.FieldType.int)) ∈ lw_all := lw_g (lw_at lw_m8 28 rfl) rfl
theorem q1804 : (Jvm.Cond.instanceMethod ({ cls := "WheelLandModel", name := "hands", desc := "(II)I" } : Jvm.MethodName)) ∈ lw_all := lw_g (lw_at lw_m8 30 rfl) rfl
theorem q1805 : (Jvm.Cond.selects "WheelLandModel" ({ cls := "WheelLandModel", name := "hands", desc := "(II)I" } : Jvm.MethodName) ({ cls := "WheelLandModel", name := "hands", desc := "(II)I" } : Jvm.MethodName)) ∈ lw_all := lw_g (lw_at lw_m8 31 rfl) rfl
theorem q1806 : (Jvm.Cond.code ({ cls := "WheelLandModel", name := "hands", desc := "(II)I" } : Jvm.MethodName) prog_14_method_72_code (3 : Nat) (Option.some Jvm.ClassFile.FieldType.int)) ∈ lw_all := lw_g (lw_at lw_m8 32 rfl) rfl
theorem q1807 : (Jvm.Cond.methodLink "WheelLandModel" (525 : Nat) ({ cls := "WheelLandModel", name := "handsFor", desc := "(I)Z" } : Jvm.MethodName)) ∈ lw_all := lw_g (lw_at lw_m8 33 rfl) rfl
theorem q1808 : (Jvm.Cond.privateMethod ({ cls := "WheelLandModel", name := "handsFor", desc := "(I)Z" } : Jvm.MethodName)) ∈ lw_tbl := lw_at lw_m8 34 rfl
theorem q1809 : (Jvm.Cond.instanceMethod ({ cls := "WheelLandModel", name := "handsFor", desc := "(I)Z" } : Jvm.MethodName)) ∈ lw_all := lw_g (lw_at lw_m8 35 rfl) rfl
theorem q1810 : (Jvm.Cond.code ({ cls := "WheelLandModel", name := "handsFor", desc := "(I)Z" } : Jvm.MethodName) prog_14_method_71_code (4 : Nat) (Option.some Jvm.ClassFile.FieldType.boolean)) ∈ lw_all := lw_g (lw_at lw_m8 36 rfl) rfl
theorem q1811 : (Jvm.Cond.methodLink "WheelLandModel" (522 : Nat) ({ cls := "WheelLandModel", name := "tries", desc := "(I)V" } : Jvm.MethodName)) ∈ lw_all := lw_g (lw_at lw_m8 37 rfl) rfl
theorem q1812 : (Jvm.Cond.privateMethod ({ cls := "WheelLandModel", name := "tries", desc := "(I)V" } : Jvm.MethodName)) ∈ lw_tbl := lw_at lw_m8 38 rfl
theorem q1813 : (Jvm.Cond.instanceMethod ({ cls := "WheelLandModel", name := "tries", desc := "(I)V" } : Jvm.MethodName)) ∈ lw_all := lw_g (lw_at lw_m8 39 rfl) rfl
theorem q1814 : (Jvm.Cond.code ({ cls := "WheelLandModel", name := "tries", desc := "(I)V" } : Jvm.MethodName) prog_14_method_70_code (3 : Nat) (Option.none : Option Jvm.ClassFile.FieldType)) ∈ lw_all := lw_g (lw_at lw_m8 40 rfl) rfl
theorem q1815 : (Jvm.Cond.methodLink "WheelLandModel" (519 : Nat) ({ cls := "WheelLandModel", name := "looks", desc := "()V" } : Jvm.MethodName)) ∈ lw_all := lw_g (lw_at lw_m8 41 rfl) rfl
theorem q1816 : (Jvm.Cond.privateMethod ({ cls := "WheelLandModel", name := "looks", desc := "()V" } : Jvm.MethodName)) ∈ lw_tbl := lw_at lw_m8 42 rfl
theorem q1817 : (Jvm.Cond.instanceMethod ({ cls := "WheelLandModel", name := "looks", desc := "()V" } : Jvm.MethodName)) ∈ lw_all := lw_g (lw_at lw_m8 43 rfl) rfl
theorem q1818 : (Jvm.Cond.code ({ cls := "WheelLandModel", name := "looks", desc := "()V" } : Jvm.MethodName) prog_14_method_69_code (7 : Nat) (Option.none : Option Jvm.ClassFile.FieldType)) ∈ lw_all := lw_g (lw_at lw_m8 44 rfl) rfl
theorem q1819 : (Jvm.Cond.constantLong "WheelLandModel" (528 : Nat) (10 : Int64)) ∈ lw_all := lw_g (lw_at lw_m8 45 rfl) rfl
theorem q1821 : (Jvm.Cond.instanceMethod ({ cls := "WheelLandModel", name := "bring", desc := "(II)I" } : Jvm.MethodName)) ∈ lw_all := lw_g (lw_at lw_m8 47 rfl) rfl
theorem q1822 : (Jvm.Cond.selects "WheelLandModel" ({ cls := "WheelLandModel", name := "bring", desc := "(II)I" } : Jvm.MethodName) ({ cls := "WheelLandModel", name := "bring", desc := "(II)I" } : Jvm.MethodName)) ∈ lw_all := lw_g (lw_at lw_m8 48 rfl) rfl
theorem q1823 : (Jvm.Cond.code ({ cls := "WheelLandModel", name := "bring", desc := "(II)I" } : Jvm.MethodName) prog_14_method_73_code (3 : Nat) (Option.some Jvm.ClassFile.FieldType.int)) ∈ lw_all := lw_g (lw_at lw_m8 49 rfl) rfl
theorem q1825 : (Jvm.Cond.instanceMethod ({ cls := "WheelLandModel", name := "mill", desc := "(II)I" } : Jvm.MethodName)) ∈ lw_all := lw_g (lw_at lw_m8 51 rfl) rfl
theorem q1826 : (Jvm.Cond.selects "WheelLandModel" ({ cls := "WheelLandModel", name := "mill", desc := "(II)I" } : Jvm.MethodName) ({ cls := "WheelLandModel", name := "mill", desc := "(II)I" } : Jvm.MethodName)) ∈ lw_all := lw_g (lw_at lw_m8 52 rfl) rfl
theorem q1827 : (Jvm.Cond.code ({ cls := "WheelLandModel", name := "mill", desc := "(II)I" } : Jvm.MethodName) prog_14_method_74_code (3 : Nat) (Option.some Jvm.ClassFile.FieldType.int)) ∈ lw_all := lw_g (lw_at lw_m8 53 rfl) rfl
theorem q1829 : (Jvm.Cond.instanceMethod ({ cls := "WheelLandModel", name := "price", desc := "(II)Z" } : Jvm.MethodName)) ∈ lw_all := lw_g (lw_at lw_m8 55 rfl) rfl
theorem q1830 : (Jvm.Cond.selects "WheelLandModel" ({ cls := "WheelLandModel", name := "price", desc := "(II)Z" } : Jvm.MethodName) ({ cls := "WheelLandModel", name := "price", desc := "(II)Z" } : Jvm.MethodName)) ∈ lw_all := lw_g (lw_at lw_m8 56 rfl) rfl
theorem q1831 : (Jvm.Cond.code ({ cls := "WheelLandModel", name := "price", desc := "(II)Z" } : Jvm.MethodName) prog_14_method_75_code (3 : Nat) (Option.some Jvm.ClassFile.FieldType.boolean)) ∈ lw_all := lw_g (lw_at lw_m8 57 rfl) rfl
theorem q1832 : (Jvm.Cond.constantLong "WheelLandModel" (530 : Nat) (99 : Int64)) ∈ lw_all := lw_g (lw_at lw_m8 58 rfl) rfl
theorem q1834 : (Jvm.Cond.instanceMethod ({ cls := "WheelLandModel", name := "talk", desc := "(II)I" } : Jvm.MethodName)) ∈ lw_all := lw_g (lw_at lw_m8 60 rfl) rfl
theorem q1835 : (Jvm.Cond.selects "WheelLandModel" ({ cls := "WheelLandModel", name := "talk", desc := "(II)I" } : Jvm.MethodName) ({ cls := "WheelLandModel", name := "talk", desc := "(II)I" } : Jvm.MethodName)) ∈ lw_all := lw_g (lw_at lw_m8 61 rfl) rfl
theorem q1836 : (Jvm.Cond.code ({ cls := "WheelLandModel", name := "talk", desc := "(II)I" } : Jvm.MethodName) prog_14_method_76_code (3 : Nat) (Option.some Jvm.ClassFile.FieldType.int)) ∈ lw_all := lw_g (lw_at lw_m8 62 rfl) rfl
theorem q1837 : (Jvm.Cond.constantLong "WheelLandModel" (532 : Nat) (20 : Int64)) ∈ lw_all := lw_g (lw_at lw_m8 63 rfl) rfl
theorem q1839 : (Jvm.Cond.instanceMethod ({ cls := "WheelLandModel", name := "heard", desc := "(II)I" } : Jvm.MethodName)) ∈ lw_all := lw_g (lw_at lw_m8 65 rfl) rfl
theorem q1840 : (Jvm.Cond.selects "WheelLandModel" ({ cls := "WheelLandModel", name := "heard", desc := "(II)I" } : Jvm.MethodName) ({ cls := "WheelLandModel", name := "heard", desc := "(II)I" } : Jvm.MethodName)) ∈ lw_all := lw_g (lw_at lw_m8 66 rfl) rfl
theorem q1841 : (Jvm.Cond.code ({ cls := "WheelLandModel", name := "heard", desc := "(II)I" } : Jvm.MethodName) prog_14_method_77_code (4 : Nat) (Option.some Jvm.ClassFile.FieldType.int)) ∈ lw_all := lw_g (lw_at lw_m8 67 rfl) rfl
theorem q1843 : (Jvm.Cond.instanceMethod ({ cls := "WheelLandModel", name := "likes", desc := "(I)I" } : Jvm.MethodName)) ∈ lw_all := lw_g (lw_at lw_m8 69 rfl) rfl
theorem q1844 : (Jvm.Cond.selects "WheelLandModel" ({ cls := "WheelLandModel", name := "likes", desc := "(I)I" } : Jvm.MethodName) ({ cls := "WheelLandModel", name := "likes", desc := "(I)I" } : Jvm.MethodName)) ∈ lw_all := lw_g (lw_at lw_m8 70 rfl) rfl
theorem q1845 : (Jvm.Cond.code ({ cls := "WheelLandModel", name := "likes", desc := "(I)I" } : Jvm.MethodName) prog_14_method_80_code (4 : Nat) (Option.some Jvm.ClassFile.FieldType.int)) ∈ lw_all := lw_g (lw_at lw_m8 71 rfl) rfl
theorem q1846 : (Jvm.Cond.methodLink "WheelLandModel" (534 : Nat) ({ cls := "WheelLandModel", name := "dutyAt", desc := "(I)I" } : Jvm.MethodName)) ∈ lw_all := lw_g (lw_at lw_m8 72 rfl) rfl
theorem q1847 : (Jvm.Cond.privateMethod ({ cls := "WheelLandModel", name := "dutyAt", desc := "(I)I" } : Jvm.MethodName)) ∈ lw_tbl := lw_at lw_m8 73 rfl
theorem q1848 : (Jvm.Cond.instanceMethod ({ cls := "WheelLandModel", name := "dutyAt", desc := "(I)I" } : Jvm.MethodName)) ∈ lw_all := lw_g (lw_at lw_m8 74 rfl) rfl
theorem q1849 : (Jvm.Cond.code ({ cls := "WheelLandModel", name := "dutyAt", desc := "(I)I" } : Jvm.MethodName) prog_14_method_49_code (2 : Nat) (Option.some Jvm.ClassFile.FieldType.int)) ∈ lw_all := lw_g (lw_at lw_m8 75 rfl) rfl
theorem q1850 : (Jvm.Cond.methodLink "WheelLandModel" (537 : Nat) ({ cls := "WheelLandModel", name := "canHand", desc := "(I)Z" } : Jvm.MethodName)) ∈ lw_all := lw_g (lw_at lw_m8 76 rfl) rfl
theorem q1851 : (Jvm.Cond.privateMethod ({ cls := "WheelLandModel", name := "canHand", desc := "(I)Z" } : Jvm.MethodName)) ∈ lw_tbl := lw_at lw_m8 77 rfl
theorem q1852 : (Jvm.Cond.instanceMethod ({ cls := "WheelLandModel", name := "canHand", desc := "(I)Z" } : Jvm.MethodName)) ∈ lw_all := lw_g (lw_at lw_m8 78 rfl) rfl
theorem q1853 : (Jvm.Cond.code ({ cls := "WheelLandModel", name := "canHand", desc := "(I)Z" } : Jvm.MethodName) prog_14_method_78_code (3 : Nat) (Option.some Jvm.ClassFile.FieldType.boolean)) ∈ lw_all := lw_g (lw_at lw_m8 79 rfl) rfl
theorem q1854 : (Jvm.Cond.methodLink "WheelLandModel" (540 : Nat) ({ cls := "WheelLandModel", name := "canMill", desc := "(I)Z" } : Jvm.MethodName)) ∈ lw_all := lw_g (lw_at lw_m8 80 rfl) rfl
theorem q1855 : (Jvm.Cond.privateMethod ({ cls := "WheelLandModel", name := "canMill", desc := "(I)Z" } : Jvm.MethodName)) ∈ lw_tbl := lw_at lw_m8 81 rfl
theorem q1856 : (Jvm.Cond.instanceMethod ({ cls := "WheelLandModel", name := "canMill", desc := "(I)Z" } : Jvm.MethodName)) ∈ lw_all := lw_g (lw_at lw_m8 82 rfl) rfl
theorem q1857 : (Jvm.Cond.code ({ cls := "WheelLandModel", name := "canMill", desc := "(I)Z" } : Jvm.MethodName) prog_14_method_79_code (3 : Nat) (Option.some Jvm.ClassFile.FieldType.boolean)) ∈ lw_all := lw_g (lw_at lw_m8 83 rfl) rfl
theorem q1859 : (Jvm.Cond.instanceMethod ({ cls := "WheelLandModel", name := "sold", desc := "(II)I" } : Jvm.MethodName)) ∈ lw_all := lw_g (lw_at lw_m8 85 rfl) rfl
theorem q1860 : (Jvm.Cond.selects "WheelLandModel" ({ cls := "WheelLandModel", name := "sold", desc := "(II)I" } : Jvm.MethodName) ({ cls := "WheelLandModel", name := "sold", desc := "(II)I" } : Jvm.MethodName)) ∈ lw_all := lw_g (lw_at lw_m8 86 rfl) rfl
theorem q1861 : (Jvm.Cond.code ({ cls := "WheelLandModel", name := "sold", desc := "(II)I" } : Jvm.MethodName) prog_14_method_82_code (3 : Nat) (Option.some Jvm.ClassFile.FieldType.int)) ∈ lw_all := lw_g (lw_at lw_m8 87 rfl) rfl
theorem q1863 : (Jvm.Cond.instanceMethod ({ cls := "WheelLandModel", name := "wrong", desc := "(IZ)I" } : Jvm.MethodName)) ∈ lw_all := lw_g (lw_at lw_m8 89 rfl) rfl
theorem q1864 : (Jvm.Cond.selects "WheelLandModel" ({ cls := "WheelLandModel", name := "wrong", desc := "(IZ)I" } : Jvm.MethodName) ({ cls := "WheelLandModel", name := "wrong", desc := "(IZ)I" } : Jvm.MethodName)) ∈ lw_all := lw_g (lw_at lw_m8 90 rfl) rfl
theorem q1865 : (Jvm.Cond.code ({ cls := "WheelLandModel", name := "wrong", desc := "(IZ)I" } : Jvm.MethodName) prog_14_method_84_code (3 : Nat) (Option.some Jvm.ClassFile.FieldType.int)) ∈ lw_all := lw_g (lw_at lw_m8 91 rfl) rfl
theorem q1866 : (Jvm.Cond.methodLink "WheelLandModel" (549 : Nat) ({ cls := "WheelLandModel", name := "falseOf", desc := "(IZ)I" } : Jvm.MethodName)) ∈ lw_all := lw_g (lw_at lw_m8 92 rfl) rfl
theorem q1867 : (Jvm.Cond.privateMethod ({ cls := "WheelLandModel", name := "falseOf", desc := "(IZ)I" } : Jvm.MethodName)) ∈ lw_tbl := lw_at lw_m8 93 rfl
theorem q1868 : (Jvm.Cond.instanceMethod ({ cls := "WheelLandModel", name := "falseOf", desc := "(IZ)I" } : Jvm.MethodName)) ∈ lw_all := lw_g (lw_at lw_m8 94 rfl) rfl
theorem q1869 : (Jvm.Cond.code ({ cls := "WheelLandModel", name := "falseOf", desc := "(IZ)I" } : Jvm.MethodName) prog_14_method_83_code (3 : Nat) (Option.some Jvm.ClassFile.FieldType.int)) ∈ lw_all := lw_g (lw_at lw_m8 95 rfl) rfl
theorem q1871 : (Jvm.Cond.instanceMethod ({ cls := "WheelLandModel", name := "look", desc := "()I" } : Jvm.MethodName)) ∈ lw_all := lw_g (lw_at lw_m8 97 rfl) rfl
theorem q1872 : (Jvm.Cond.selects "WheelLandModel" ({ cls := "WheelLandModel", name := "look", desc := "()I" } : Jvm.MethodName) ({ cls := "WheelLandModel", name := "look", desc := "()I" } : Jvm.MethodName)) ∈ lw_all := lw_g (lw_at lw_m8 98 rfl) rfl
theorem q1873 : (Jvm.Cond.code ({ cls := "WheelLandModel", name := "look", desc := "()I" } : Jvm.MethodName) prog_14_method_85_code (5 : Nat) (Option.some Jvm.ClassFile.FieldType.int)) ∈ lw_all := lw_g (lw_at lw_m8 99 rfl) rfl
theorem q1875 : (Jvm.Cond.instanceMethod ({ cls := "WheelLandModel", name := "go", desc := "(I)I" } : Jvm.MethodName)) ∈ lw_all := lw_g (lw_at lw_m8 101 rfl) rfl
theorem q1876 : (Jvm.Cond.selects "WheelLandModel" ({ cls := "WheelLandModel", name := "go", desc := "(I)I" } : Jvm.MethodName) ({ cls := "WheelLandModel", name := "go", desc := "(I)I" } : Jvm.MethodName)) ∈ lw_all := lw_g (lw_at lw_m8 102 rfl) rfl
theorem q1877 : (Jvm.Cond.code ({ cls := "WheelLandModel", name := "go", desc := "(I)I" } : Jvm.MethodName) prog_14_method_89_code (3 : Nat) (Option.some Jvm.ClassFile.FieldType.int)) ∈ lw_all := lw_g (lw_at lw_m8 103 rfl) rfl
theorem q1878 : (Jvm.Cond.constantLong "WheelLandModel" (565 : Nat) (26 : Int64)) ∈ lw_all := lw_g (lw_at lw_m8 104 rfl) rfl
theorem q1879 : (Jvm.Cond.methodLink "WheelLandModel" (567 : Nat) ({ cls := "WheelLandModel", name := "week", desc := "()V" } : Jvm.MethodName)) ∈ lw_all := lw_g (lw_at lw_m8 105 rfl) rfl
theorem q1880 : (Jvm.Cond.privateMethod ({ cls := "WheelLandModel", name := "week", desc := "()V" } : Jvm.MethodName)) ∈ lw_tbl := lw_at lw_m8 106 rfl
theorem q1881 : (Jvm.Cond.instanceMethod ({ cls := "WheelLandModel", name := "week", desc := "()V" } : Jvm.MethodName)) ∈ lw_all := lw_g (lw_at lw_m8 107 rfl) rfl
theorem q1882 : (Jvm.Cond.code ({ cls := "WheelLandModel", name := "week", desc := "()V" } : Jvm.MethodName) prog_14_method_88_code (2 : Nat) (Option.none : Option Jvm.ClassFile.FieldType)) ∈ lw_all := lw_g (lw_at lw_m8 108 rfl) rfl
theorem q1883 : (Jvm.Cond.methodLink "WheelLandModel" (553 : Nat) ({ cls := "WheelLandModel", name := "lays", desc := "()V" } : Jvm.MethodName)) ∈ lw_all := lw_g (lw_at lw_m8 109 rfl) rfl
theorem q1884 : (Jvm.Cond.privateMethod ({ cls := "WheelLandModel", name := "lays", desc := "()V" } : Jvm.MethodName)) ∈ lw_tbl := lw_at lw_m8 110 rfl
theorem q1885 : (Jvm.Cond.instanceMethod ({ cls := "WheelLandModel", name := "lays", desc := "()V" } : Jvm.MethodName)) ∈ lw_all := lw_g (lw_at lw_m8 111 rfl) rfl
theorem q1886 : (Jvm.Cond.code ({ cls := "WheelLandModel", name := "lays", desc := "()V" } : Jvm.MethodName) prog_14_method_53_code (3 : Nat) (Option.none : Option Jvm.ClassFile.FieldType)) ∈ lw_all := lw_g (lw_at lw_m8 112 rfl) rfl
theorem q1887 : (Jvm.Cond.methodLink "WheelLandModel" (454 : Nat) ({ cls := "WheelLandModel", name := "asIs", desc := "()V" } : Jvm.MethodName)) ∈ lw_all := lw_g (lw_at lw_m8 113 rfl) rfl
theorem q1888 : (Jvm.Cond.privateMethod ({ cls := "WheelLandModel", name := "asIs", desc := "()V" } : Jvm.MethodName)) ∈ lw_tbl := lw_at lw_m8 114 rfl
theorem q1889 : (Jvm.Cond.instanceMethod ({ cls := "WheelLandModel", name := "asIs", desc := "()V" } : Jvm.MethodName)) ∈ lw_all := lw_g (lw_at lw_m8 115 rfl) rfl
theorem q1890 : (Jvm.Cond.code ({ cls := "WheelLandModel", name := "asIs", desc := "()V" } : Jvm.MethodName) prog_14_method_51_code (2 : Nat) (Option.none : Option Jvm.ClassFile.FieldType)) ∈ lw_all := lw_g (lw_at lw_m8 116 rfl) rfl
theorem q1891 : (Jvm.Cond.methodLink "WheelLandModel" (457 : Nat) ({ cls := "WheelLandModel", name := "spins", desc := "()I" } : Jvm.MethodName)) ∈ lw_all := lw_g (lw_at lw_m8 117 rfl) rfl
theorem q1892 : (Jvm.Cond.privateMethod ({ cls := "WheelLandModel", name := "spins", desc := "()I" } : Jvm.MethodName)) ∈ lw_tbl := lw_at lw_m8 118 rfl
theorem q1893 : (Jvm.Cond.instanceMethod ({ cls := "WheelLandModel", name := "spins", desc := "()I" } : Jvm.MethodName)) ∈ lw_all := lw_g (lw_at lw_m8 119 rfl) rfl
theorem q1894 : (Jvm.Cond.code ({ cls := "WheelLandModel", name := "spins", desc := "()I" } : Jvm.MethodName) prog_14_method_52_code (7 : Nat) (Option.some Jvm.ClassFile.FieldType.int)) ∈ lw_all := lw_g (lw_at lw_m8 120 rfl) rfl
theorem q1895 : (Jvm.Cond.methodLink "WheelLandModel" (463 : Nat) ({ cls := "WheelLandModel", name := "strengthOf", desc := "(II)I" } : Jvm.MethodName)) ∈ lw_all := lw_g (lw_at lw_m8 121 rfl) rfl
theorem q1896 : (Jvm.Cond.privateMethod ({ cls := "WheelLandModel", name := "strengthOf", desc := "(II)I" } : Jvm.MethodName)) ∈ lw_tbl := lw_at lw_m8 122 rfl
theorem q1897 : (Jvm.Cond.instanceMethod ({ cls := "WheelLandModel", name := "strengthOf", desc := "(II)I" } : Jvm.MethodName)) ∈ lw_all := lw_g (lw_at lw_m8 123 rfl) rfl
theorem q1898 : (Jvm.Cond.code ({ cls := "WheelLandModel", name := "strengthOf", desc := "(II)I" } : Jvm.MethodName) prog_14_method_50_code (3 : Nat) (Option.some Jvm.ClassFile.FieldType.int)) ∈ lw_all := lw_g (lw_at lw_m8 124 rfl) rfl
theorem q1899 : (Jvm.Cond.methodLink "WheelLandModel" (556 : Nat) ({ cls := "WheelLandModel", name := "buys", desc := "(I)V" } : Jvm.MethodName)) ∈ lw_all := lw_g (lw_at lw_m8 125 rfl) rfl
theorem q1900 : (Jvm.Cond.privateMethod ({ cls := "WheelLandModel", name := "buys", desc := "(I)V" } : Jvm.MethodName)) ∈ lw_tbl := lw_at lw_m8 126 rfl
theorem q1901 : (Jvm.Cond.instanceMethod ({ cls := "WheelLandModel", name := "buys", desc := "(I)V" } : Jvm.MethodName)) ∈ lw_all := lw_g (lw_at lw_m8 127 rfl) rfl
theorem q1902 : (Jvm.Cond.code ({ cls := "WheelLandModel", name := "buys", desc := "(I)V" } : Jvm.MethodName) prog_14_method_81_code (5 : Nat) (Option.none : Option Jvm.ClassFile.FieldType)) ∈ lw_all := lw_g (lw_at lw_m8 128 rfl) rfl
theorem q1903 : (Jvm.Cond.methodLink "WheelLandModel" (543 : Nat) ({ cls := "WheelLandModel", name := "likes", desc := "(I)I" } : Jvm.MethodName)) ∈ lw_all := lw_g (lw_at lw_m8 129 rfl) rfl
theorem q1904 : (Jvm.Cond.methodLink "WheelLandModel" (559 : Nat) ({ cls := "WheelLandModel", name := "seasons", desc := "()V" } : Jvm.MethodName)) ∈ lw_all := lw_g (lw_at lw_m8 130 rfl) rfl
theorem q1905 : (Jvm.Cond.privateMethod ({ cls := "WheelLandModel", name := "seasons", desc := "()V" } : Jvm.MethodName)) ∈ lw_tbl := lw_at lw_m8 131 rfl
theorem q1906 : (Jvm.Cond.instanceMethod ({ cls := "WheelLandModel", name := "seasons", desc := "()V" } : Jvm.MethodName)) ∈ lw_all := lw_g (lw_at lw_m8 132 rfl) rfl
theorem q1907 : (Jvm.Cond.code ({ cls := "WheelLandModel", name := "seasons", desc := "()V" } : Jvm.MethodName) prog_14_method_86_code (2 : Nat) (Option.none : Option Jvm.ClassFile.FieldType)) ∈ lw_all := lw_g (lw_at lw_m8 133 rfl) rfl
theorem q1908 : (Jvm.Cond.methodLink "WheelLandModel" (562 : Nat) ({ cls := "WheelLandModel", name := "goRound", desc := "()V" } : Jvm.MethodName)) ∈ lw_all := lw_g (lw_at lw_m8 134 rfl) rfl
theorem q1909 : (Jvm.Cond.privateMethod ({ cls := "WheelLandModel", name := "goRound", desc := "()V" } : Jvm.MethodName)) ∈ lw_tbl := lw_at lw_m8 135 rfl
theorem q1910 : (Jvm.Cond.instanceMethod ({ cls := "WheelLandModel", name := "goRound", desc := "()V" } : Jvm.MethodName)) ∈ lw_all := lw_g (lw_at lw_m8 136 rfl) rfl
theorem q1911 : (Jvm.Cond.code ({ cls := "WheelLandModel", name := "goRound", desc := "()V" } : Jvm.MethodName) prog_14_method_87_code (3 : Nat) (Option.none : Option Jvm.ClassFile.FieldType)) ∈ lw_all := lw_g (lw_at lw_m8 137 rfl) rfl
theorem q1913 : (Jvm.Cond.instanceMethod ({ cls := "WheelLandModel", name := "gift", desc := "(III)I" } : Jvm.MethodName)) ∈ lw_all := lw_g (lw_at lw_m8 139 rfl) rfl
theorem q1914 : (Jvm.Cond.selects "WheelLandModel" ({ cls := "WheelLandModel", name := "gift", desc := "(III)I" } : Jvm.MethodName) ({ cls := "WheelLandModel", name := "gift", desc := "(III)I" } : Jvm.MethodName)) ∈ lw_all := lw_g (lw_at lw_m8 140 rfl) rfl
theorem q1915 : (Jvm.Cond.code ({ cls := "WheelLandModel", name := "gift", desc := "(III)I" } : Jvm.MethodName) prog_14_method_90_code (4 : Nat) (Option.some Jvm.ClassFile.FieldType.int)) ∈ lw_all := lw_g (lw_at lw_m8 141 rfl) rfl
theorem q1917 : (Jvm.Cond.instanceMethod ({ cls := "WheelLandModel", name := "forget", desc := "()I" } : Jvm.MethodName)) ∈ lw_all := lw_g (lw_at lw_m8 143 rfl) rfl
theorem q1918 : (Jvm.Cond.selects "WheelLandModel" ({ cls := "WheelLandModel", name := "forget", desc := "()I" } : Jvm.MethodName) ({ cls := "WheelLandModel", name := "forget", desc := "()I" } : Jvm.MethodName)) ∈ lw_all := lw_g (lw_at lw_m8 144 rfl) rfl
theorem q1919 : (Jvm.Cond.code ({ cls := "WheelLandModel", name := "forget", desc := "()I" } : Jvm.MethodName) prog_14_method_91_code (2 : Nat) (Option.some Jvm.ClassFile.FieldType.int)) ∈ lw_all := lw_g (lw_at lw_m8 145 rfl) rfl
theorem q1921 : (Jvm.Cond.instanceMethod ({ cls := "WheelLandModel", name := "best", desc := "(II)I" } : Jvm.MethodName)) ∈ lw_all := lw_g (lw_at lw_m8 147 rfl) rfl
theorem q1922 : (Jvm.Cond.selects "WheelLandModel" ({ cls := "WheelLandModel", name := "best", desc := "(II)I" } : Jvm.MethodName) ({ cls := "WheelLandModel", name := "best", desc := "(II)I" } : Jvm.MethodName)) ∈ lw_all := lw_g (lw_at lw_m8 148 rfl) rfl
theorem q1923 : (Jvm.Cond.code ({ cls := "WheelLandModel", name := "best", desc := "(II)I" } : Jvm.MethodName) prog_14_method_94_code (7 : Nat) (Option.some Jvm.ClassFile.FieldType.int)) ∈ lw_all := lw_g (lw_at lw_m8 149 rfl) rfl
theorem q1924 : (Jvm.Cond.methodLink "WheelLandModel" (572 : Nat) ({ cls := "WheelLandModel", name := "spunWith", desc := "(I)I" } : Jvm.MethodName)) ∈ lw_all := lw_g (lw_at lw_m8 150 rfl) rfl
theorem q1925 : (Jvm.Cond.privateMethod ({ cls := "WheelLandModel", name := "spunWith", desc := "(I)I" } : Jvm.MethodName)) ∈ lw_tbl := lw_at lw_m8 151 rfl
theorem q1926 : (Jvm.Cond.instanceMethod ({ cls := "WheelLandModel", name := "spunWith", desc := "(I)I" } : Jvm.MethodName)) ∈ lw_all := lw_g (lw_at lw_m8 152 rfl) rfl
theorem q1927 : (Jvm.Cond.code ({ cls := "WheelLandModel", name := "spunWith", desc := "(I)I" } : Jvm.MethodName) prog_14_method_93_code (5 : Nat) (Option.some Jvm.ClassFile.FieldType.int)) ∈ lw_all := lw_g (lw_at lw_m8 153 rfl) rfl
theorem q1928 : (Jvm.Cond.methodLink "WheelLandModel" (575 : Nat) ({ cls := "WheelLandModel", name := "costOf", desc := "(I)I" } : Jvm.MethodName)) ∈ lw_all := lw_g (lw_at lw_m8 154 rfl) rfl
theorem q1929 : (Jvm.Cond.privateMethod ({ cls := "WheelLandModel", name := "costOf", desc := "(I)I" } : Jvm.MethodName)) ∈ lw_tbl := lw_at lw_m8 155 rfl
theorem q1930 : (Jvm.Cond.instanceMethod ({ cls := "WheelLandModel", name := "costOf", desc := "(I)I" } : Jvm.MethodName)) ∈ lw_all := lw_g (lw_at lw_m8 156 rfl) rfl
theorem q1931 : (Jvm.Cond.code ({ cls := "WheelLandModel", name := "costOf", desc := "(I)I" } : Jvm.MethodName) prog_14_method_92_code (4 : Nat) (Option.some Jvm.ClassFile.FieldType.int)) ∈ lw_all := lw_g (lw_at lw_m8 157 rfl) rfl
theorem q1933 : (Jvm.Cond.instanceMethod ({ cls := "WheelLandModel", name := "hungry", desc := "(I)I" } : Jvm.MethodName)) ∈ lw_all := lw_g (lw_at lw_m8 159 rfl) rfl
theorem q1934 : (Jvm.Cond.selects "WheelLandModel" ({ cls := "WheelLandModel", name := "hungry", desc := "(I)I" } : Jvm.MethodName) ({ cls := "WheelLandModel", name := "hungry", desc := "(I)I" } : Jvm.MethodName)) ∈ lw_all := lw_g (lw_at lw_m8 160 rfl) rfl
theorem q1935 : (Jvm.Cond.code ({ cls := "WheelLandModel", name := "hungry", desc := "(I)I" } : Jvm.MethodName) prog_14_method_95_code (4 : Nat) (Option.some Jvm.ClassFile.FieldType.int)) ∈ lw_all := lw_g (lw_at lw_m8 161 rfl) rfl
theorem q1937 : (Jvm.Cond.instanceMethod ({ cls := "WheelLandModel", name := "keeps", desc := "(II)I" } : Jvm.MethodName)) ∈ lw_all := lw_g (lw_at lw_m8 163 rfl) rfl
theorem q1938 : (Jvm.Cond.selects "WheelLandModel" ({ cls := "WheelLandModel", name := "keeps", desc := "(II)I" } : Jvm.MethodName) ({ cls := "WheelLandModel", name := "keeps", desc := "(II)I" } : Jvm.MethodName)) ∈ lw_all := lw_g (lw_at lw_m8 164 rfl) rfl
theorem q1939 : (Jvm.Cond.code ({ cls := "WheelLandModel", name := "keeps", desc := "(II)I" } : Jvm.MethodName) prog_14_method_96_code (6 : Nat) (Option.some Jvm.ClassFile.FieldType.int)) ∈ lw_all := lw_g (lw_at lw_m8 165 rfl) rfl
theorem q1941 : (Jvm.Cond.instanceMethod ({ cls := "WheelLandModel", name := "told", desc := "(II)I" } : Jvm.MethodName)) ∈ lw_all := lw_g (lw_at lw_m8 167 rfl) rfl
theorem q1942 : (Jvm.Cond.selects "WheelLandModel" ({ cls := "WheelLandModel", name := "told", desc := "(II)I" } : Jvm.MethodName) ({ cls := "WheelLandModel", name := "told", desc := "(II)I" } : Jvm.MethodName)) ∈ lw_all := lw_g (lw_at lw_m8 168 rfl) rfl
theorem q1943 : (Jvm.Cond.code ({ cls := "WheelLandModel", name := "told", desc := "(II)I" } : Jvm.MethodName) prog_14_method_97_code (3 : Nat) (Option.some Jvm.ClassFile.FieldType.int)) ∈ lw_all := lw_g (lw_at lw_m8 169 rfl) rfl
theorem q1944 : (Jvm.Cond.constantLong "WheelLandModel" (578 : Nat) (5 : Int64)) ∈ lw_all := lw_g (lw_at lw_m8 170 rfl) rfl
theorem q1946 : (Jvm.Cond.instanceMethod ({ cls := "WheelLandModel", name := "check", desc := "(III)I" } : Jvm.MethodName)) ∈ lw_all := lw_g (lw_at lw_m8 172 rfl) rfl
theorem q1947 : (Jvm.Cond.selects "WheelLandModel" ({ cls := "WheelLandModel", name := "check", desc := "(III)I" } : Jvm.MethodName) ({ cls := "WheelLandModel", name := "check", desc := "(III)I" } : Jvm.MethodName)) ∈ lw_all := lw_g (lw_at lw_m8 173 rfl) rfl
theorem q1948 : (Jvm.Cond.code ({ cls := "WheelLandModel", name := "check", desc := "(III)I" } : Jvm.MethodName) prog_14_method_98_code (6 : Nat) (Option.some Jvm.ClassFile.FieldType.int)) ∈ lw_all := lw_g (lw_at lw_m8 174 rfl) rfl
theorem q1950 : (Jvm.Cond.instanceMethod ({ cls := "WheelLandModel", name := "is", desc := "(II)I" } : Jvm.MethodName)) ∈ lw_all := lw_g (lw_at lw_m8 176 rfl) rfl
theorem q1951 : (Jvm.Cond.selects "WheelLandModel" ({ cls := "WheelLandModel", name := "is", desc := "(II)I" } : Jvm.MethodName) ({ cls := "WheelLandModel", name := "is", desc := "(II)I" } : Jvm.MethodName)) ∈ lw_all := lw_g (lw_at lw_m8 177 rfl) rfl
theorem q1952 : (Jvm.Cond.code ({ cls := "WheelLandModel", name := "is", desc := "(II)I" } : Jvm.MethodName) prog_14_method_99_code (3 : Nat) (Option.some Jvm.ClassFile.FieldType.int)) ∈ lw_all := lw_g (lw_at lw_m8 178 rfl) rfl
theorem q1954 : (Jvm.Cond.instanceMethod ({ cls := "WheelLandModel", name := "has", desc := "(II)I" } : Jvm.MethodName)) ∈ lw_all := lw_g (lw_at lw_m8 180 rfl) rfl
theorem q1955 : (Jvm.Cond.selects "WheelLandModel" ({ cls := "WheelLandModel", name := "has", desc := "(II)I" } : Jvm.MethodName) ({ cls := "WheelLandModel", name := "has", desc := "(II)I" } : Jvm.MethodName)) ∈ lw_all := lw_g (lw_at lw_m8 181 rfl) rfl
theorem q1956 : (Jvm.Cond.code ({ cls := "WheelLandModel", name := "has", desc := "(II)I" } : Jvm.MethodName) prog_14_method_100_code (3 : Nat) (Option.some Jvm.ClassFile.FieldType.int)) ∈ lw_all := lw_g (lw_at lw_m8 182 rfl) rfl
theorem q1958 : (Jvm.Cond.instanceMethod ({ cls := "WheelLandModel", name := "count", desc := "(I)I" } : Jvm.MethodName)) ∈ lw_all := lw_g (lw_at lw_m8 184 rfl) rfl
theorem q1959 : (Jvm.Cond.selects "WheelLandModel" ({ cls := "WheelLandModel", name := "count", desc := "(I)I" } : Jvm.MethodName) ({ cls := "WheelLandModel", name := "count", desc := "(I)I" } : Jvm.MethodName)) ∈ lw_all := lw_g (lw_at lw_m8 185 rfl) rfl
theorem q1960 : (Jvm.Cond.code ({ cls := "WheelLandModel", name := "count", desc := "(I)I" } : Jvm.MethodName) prog_14_method_101_code (2 : Nat) (Option.some Jvm.ClassFile.FieldType.int)) ∈ lw_all := lw_g (lw_at lw_m8 186 rfl) rfl
theorem in_X3 : ∀ w ∈ wsX30, w ∈ lw_all := lw_in wsX30 [1344, 1346, 1348, 1350, 1352, 1354, 1356, 1358, 1360, 1362, 1364, 1366, 1368, 1370, 1372, 1374, 1376, 1378, 1380, 1382, 1384, 1386, 1388, 1390, 1392, 1394, 1396, 1398, 1400, 1402, 1404, 1406, 1408, 1410, 1412, 1414, 1416, 1418, 1420, 1422, 1424, 1426, 1428, 1430, 1432, 1434, 1436, 1438, 1440, 1442, 1444, 1446, 1448, 1450, 1452, 1454, 1456, 1458, 1460, 1462, 1464, 1466, 1468, 1470, 1472, 1474, 1476, 1478, 1480, 1482, 1484, 1486, 1488, 1490, 1492, 1494, 1496, 1498, 1500, 1502, 1504, 1506, 1508, 1510, 1512, 1514, 1516, 1518, 1520, 1522, 1524, 1526, 1528, 1530, 1532, 1534, 1536] (by decide +kernel) (by decide +kernel)
