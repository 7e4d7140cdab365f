/-! IntentVats -/
set_option maxRecDepth 100000
def RX0 : String := "IntentVats"
def TX0 : u_T := fun k => match k with
  | 0 => ("IntentVats", "d", "LIntentVats$Mill;", true)
  | 1 => ("IntentVats", "kept", "LIntentVats$Mill;", true)
  | 2 => ("IntentVats", "draft", "LIntentVats$Mill;", true)
  | 3 => ("IntentVats", "tried", "LIntentVats$Mill;", true)
  | 4 => ("IntentVats", "isKept", "Z", false)
  | 5 => ("IntentVats", "ways", "[LIntentVats$Plain;", true)
  | 6 => ("IntentVats", "tape", "[B", true)
  | 7 => ("IntentVats", "taped", "I", false)
  | 8 => ("IntentVats", "reader", "LIntentVats$Reader;", true)
  | 9 => ("IntentVats", "rows", "[LIntentVats$Row;", true)
  | 10 => ("IntentVats", "rowMany", "I", false)
  | 11 => ("IntentVats", "due", "[I", true)
  | 12 => ("IntentVats", "sheets", "[LIntentVats$Sheet;", true)
  | 13 => ("IntentVats", "beyond", "LIntentVats$Beyond;", true)
  | 14 => ("IntentVats", "nothing", "LIntentVats$Nothing;", true)
  | 15 => ("IntentVats", "traced", "[I", true)
  | 16 => ("IntentVats", "bodies", "I", false)
  | _ => ("IntentVats", "shelves", "[LIntentVats$Shelf;", true)
def tyX0 : Nat → FieldType := fun k => match k with
  | 0 => .object "IntentVats$Mill"
  | 1 => .object "IntentVats$Mill"
  | 2 => .object "IntentVats$Mill"
  | 3 => .object "IntentVats$Mill"
  | 4 => .boolean
  | 5 => .array (.object "IntentVats$Plain")
  | 6 => .array .byte
  | 7 => .int
  | 8 => .object "IntentVats$Reader"
  | 9 => .array (.object "IntentVats$Row")
  | 10 => .int
  | 11 => .array .int
  | 12 => .array (.object "IntentVats$Sheet")
  | 13 => .object "IntentVats$Beyond"
  | 14 => .object "IntentVats$Nothing"
  | 15 => .array .int
  | 16 => .int
  | _ => .array (.object "IntentVats$Shelf")
abbrev wsX00 : List Cond := u_ws RX0 TX0 18
set_option maxRecDepth 100000 in
theorem nmX0 : ∀ a, a < 18 → ∀ b, b < 18 → a ≠ b → (TX0 a).2.1 ≠ (TX0 b).2.1 := by decide +kernel
set_option maxRecDepth 100000 in
theorem tyX0_ok : ∀ k, k < 18 → parseFieldDescriptor (TX0 k).2.2.1 = some (tyX0 k) := by decide +kernel
abbrev cX0_init : ByteArray := prog_1_method_6_code
def yX0_init : MethodName := ⟨RX0, "<init>", "()V"⟩
def dkwX0_init_12 : List UInt8 := [181, 0, 107, 177]
abbrev dktX0_init_12 : List UInt8 := dkwX0_init_12 ++ []
def dkwX0_init_11 : List UInt8 := [183, 0, 106, 83, 89, 5, 187, 0, 104, 89, 183, 0, 106, 83, 89, 6, 187, 0, 104, 89, 183, 0, 106, 83]
abbrev dktX0_init_11 : List UInt8 := dkwX0_init_11 ++ dktX0_init_12
def dkwX0_init_10 : List UInt8 := [181, 0, 101, 42, 7, 189, 0, 104, 89, 3, 187, 0, 104, 89, 183, 0, 106, 83, 89, 4, 187, 0, 104, 89]
abbrev dktX0_init_10 : List UInt8 := dkwX0_init_10 ++ dktX0_init_11
def dkwX0_init_9 : List UInt8 := [183, 0, 89, 181, 0, 90, 42, 187, 0, 94, 89, 183, 0, 96, 181, 0, 97, 42, 16, 30, 188, 10]
abbrev dktX0_init_9 : List UInt8 := dkwX0_init_9 ++ dktX0_init_10
def dkwX0_init_8 : List UInt8 := [183, 0, 82, 83, 89, 6, 187, 0, 80, 89, 183, 0, 82, 83, 181, 0, 83, 42, 187, 0, 87, 89]
abbrev dktX0_init_8 : List UInt8 := dkwX0_init_8 ++ dktX0_init_9
def dkwX0_init_7 : List UInt8 := [187, 0, 80, 89, 183, 0, 82, 83, 89, 4, 187, 0, 80, 89, 183, 0, 82, 83, 89, 5, 187, 0, 80, 89]
abbrev dktX0_init_7 : List UInt8 := dkwX0_init_7 ++ dktX0_init_8
def dkwX0_init_6 : List UInt8 := [42, 16, 10, 189, 0, 70, 181, 0, 72, 42, 6, 188, 10, 181, 0, 76, 42, 7, 189, 0, 80, 89, 3]
abbrev dktX0_init_6 : List UInt8 := dkwX0_init_6 ++ dktX0_init_7
def dkwX0_init_5 : List UInt8 := [42, 17, 0, 200, 188, 8, 181, 0, 57, 42, 187, 0, 61, 89, 42, 180, 0, 29, 183, 0, 63, 181, 0, 66]
abbrev dktX0_init_5 : List UInt8 := dkwX0_init_5 ++ dktX0_init_6
def dkwX0_init_4 : List UInt8 := [83, 89, 7, 187, 0, 47, 89, 183, 0, 49, 83, 89, 8, 187, 0, 50, 89, 183, 0, 52, 83, 181, 0, 53]
abbrev dktX0_init_4 : List UInt8 := dkwX0_init_4 ++ dktX0_init_5
def dkwX0_init_3 : List UInt8 := [89, 183, 0, 40, 83, 89, 5, 187, 0, 41, 89, 183, 0, 43, 83, 89, 6, 187, 0, 44, 89, 183, 0, 46]
abbrev dktX0_init_3 : List UInt8 := dkwX0_init_3 ++ dktX0_init_4
def dkwX0_init_2 : List UInt8 := [181, 0, 32, 42, 16, 6, 189, 0, 35, 89, 3, 187, 0, 35, 89, 183, 0, 37, 83, 89, 4, 187, 0, 38]
abbrev dktX0_init_2 : List UInt8 := dkwX0_init_2 ++ dktX0_init_3
def dkwX0_init_1 : List UInt8 := [181, 0, 26, 42, 187, 0, 19, 89, 183, 0, 21, 181, 0, 29, 42, 187, 0, 19, 89, 183, 0, 21]
abbrev dktX0_init_1 : List UInt8 := dkwX0_init_1 ++ dktX0_init_2
def dkwX0_init_0 : List UInt8 := [42, 183, 0, 13, 42, 187, 0, 19, 89, 183, 0, 21, 181, 0, 22, 42, 187, 0, 19, 89, 183, 0, 21]
abbrev dktX0_init_0 : List UInt8 := dkwX0_init_0 ++ dktX0_init_1
theorem dksX0_init_0 : cX0_init.data.toList.drop 0 = dktX0_init_0 := by decide +kernel
theorem dksX0_init_1 : cX0_init.data.toList.drop 23 = dktX0_init_1 := dk_seg dksX0_init_0 23 rfl rfl
theorem dksX0_init_2 : cX0_init.data.toList.drop 45 = dktX0_init_2 := dk_seg dksX0_init_1 22 rfl rfl
theorem dksX0_init_3 : cX0_init.data.toList.drop 69 = dktX0_init_3 := dk_seg dksX0_init_2 24 rfl rfl
theorem dksX0_init_4 : cX0_init.data.toList.drop 93 = dktX0_init_4 := dk_seg dksX0_init_3 24 rfl rfl
theorem dksX0_init_5 : cX0_init.data.toList.drop 117 = dktX0_init_5 := dk_seg dksX0_init_4 24 rfl rfl
theorem dksX0_init_6 : cX0_init.data.toList.drop 141 = dktX0_init_6 := dk_seg dksX0_init_5 24 rfl rfl
theorem dksX0_init_7 : cX0_init.data.toList.drop 164 = dktX0_init_7 := dk_seg dksX0_init_6 23 rfl rfl
theorem dksX0_init_8 : cX0_init.data.toList.drop 188 = dktX0_init_8 := dk_seg dksX0_init_7 24 rfl rfl
theorem dksX0_init_9 : cX0_init.data.toList.drop 210 = dktX0_init_9 := dk_seg dksX0_init_8 22 rfl rfl
theorem dksX0_init_10 : cX0_init.data.toList.drop 232 = dktX0_init_10 := dk_seg dksX0_init_9 22 rfl rfl
theorem dksX0_init_11 : cX0_init.data.toList.drop 256 = dktX0_init_11 := dk_seg dksX0_init_10 24 rfl rfl
theorem dksX0_init_12 : cX0_init.data.toList.drop 280 = dktX0_init_12 := dk_seg dksX0_init_11 24 rfl rfl
theorem dX0_init_0 : decode cX0_init 0 = .ok (.aload_n 0, 1) := dk_42 (dk_at dksX0_init_0 0 rfl rfl)
theorem dX0_init_1 : decode cX0_init 1 = .ok (.invokespecial 13, 3) := dk_183 0 13 (dk_at dksX0_init_0 1 rfl rfl)
theorem dX0_init_4 : decode cX0_init 4 = .ok (.aload_n 0, 1) := dk_42 (dk_at dksX0_init_0 4 rfl rfl)
theorem dX0_init_5 : decode cX0_init 5 = .ok (.new 19, 3) := dk_187 0 19 (dk_at dksX0_init_0 5 rfl rfl)
theorem dX0_init_8 : decode cX0_init 8 = .ok (.dup, 1) := dk_89 (dk_at dksX0_init_0 8 rfl rfl)
theorem dX0_init_9 : decode cX0_init 9 = .ok (.invokespecial 21, 3) := dk_183 0 21 (dk_at dksX0_init_0 9 rfl rfl)
theorem dX0_init_12 : decode cX0_init 12 = .ok (.putfield 22, 3) := dk_181 0 22 (dk_at dksX0_init_0 12 rfl rfl)
theorem dX0_init_15 : decode cX0_init 15 = .ok (.aload_n 0, 1) := dk_42 (dk_at dksX0_init_0 15 rfl rfl)
theorem dX0_init_16 : decode cX0_init 16 = .ok (.new 19, 3) := dk_187 0 19 (dk_at dksX0_init_0 16 rfl rfl)
theorem dX0_init_19 : decode cX0_init 19 = .ok (.dup, 1) := dk_89 (dk_at dksX0_init_0 19 rfl rfl)
theorem dX0_init_20 : decode cX0_init 20 = .ok (.invokespecial 21, 3) := dk_183 0 21 (dk_at dksX0_init_0 20 rfl rfl)
theorem dX0_init_23 : decode cX0_init 23 = .ok (.putfield 26, 3) := dk_181 0 26 (dk_at dksX0_init_1 0 rfl rfl)
theorem dX0_init_26 : decode cX0_init 26 = .ok (.aload_n 0, 1) := dk_42 (dk_at dksX0_init_1 3 rfl rfl)
theorem dX0_init_27 : decode cX0_init 27 = .ok (.new 19, 3) := dk_187 0 19 (dk_at dksX0_init_1 4 rfl rfl)
theorem dX0_init_30 : decode cX0_init 30 = .ok (.dup, 1) := dk_89 (dk_at dksX0_init_1 7 rfl rfl)
theorem dX0_init_31 : decode cX0_init 31 = .ok (.invokespecial 21, 3) := dk_183 0 21 (dk_at dksX0_init_1 8 rfl rfl)
theorem dX0_init_34 : decode cX0_init 34 = .ok (.putfield 29, 3) := dk_181 0 29 (dk_at dksX0_init_1 11 rfl rfl)
theorem dX0_init_37 : decode cX0_init 37 = .ok (.aload_n 0, 1) := dk_42 (dk_at dksX0_init_1 14 rfl rfl)
theorem dX0_init_38 : decode cX0_init 38 = .ok (.new 19, 3) := dk_187 0 19 (dk_at dksX0_init_1 15 rfl rfl)
theorem dX0_init_41 : decode cX0_init 41 = .ok (.dup, 1) := dk_89 (dk_at dksX0_init_1 18 rfl rfl)
theorem dX0_init_42 : decode cX0_init 42 = .ok (.invokespecial 21, 3) := dk_183 0 21 (dk_at dksX0_init_1 19 rfl rfl)
theorem dX0_init_45 : decode cX0_init 45 = .ok (.putfield 32, 3) := dk_181 0 32 (dk_at dksX0_init_2 0 rfl rfl)
theorem dX0_init_48 : decode cX0_init 48 = .ok (.aload_n 0, 1) := dk_42 (dk_at dksX0_init_2 3 rfl rfl)
theorem dX0_init_49 : decode cX0_init 49 = .ok (.bipush 6, 2) := dk_16 6 (dk_at dksX0_init_2 4 rfl rfl)
theorem dX0_init_51 : decode cX0_init 51 = .ok (.anewarray 35, 3) := dk_189 0 35 (dk_at dksX0_init_2 6 rfl rfl)
theorem dX0_init_54 : decode cX0_init 54 = .ok (.dup, 1) := dk_89 (dk_at dksX0_init_2 9 rfl rfl)
theorem dX0_init_55 : decode cX0_init 55 = .ok (.iconst 0, 1) := dk_3 (dk_at dksX0_init_2 10 rfl rfl)
theorem dX0_init_56 : decode cX0_init 56 = .ok (.new 35, 3) := dk_187 0 35 (dk_at dksX0_init_2 11 rfl rfl)
theorem dX0_init_59 : decode cX0_init 59 = .ok (.dup, 1) := dk_89 (dk_at dksX0_init_2 14 rfl rfl)
theorem dX0_init_60 : decode cX0_init 60 = .ok (.invokespecial 37, 3) := dk_183 0 37 (dk_at dksX0_init_2 15 rfl rfl)
theorem dX0_init_63 : decode cX0_init 63 = .ok (.aastore, 1) := dk_83 (dk_at dksX0_init_2 18 rfl rfl)
theorem dX0_init_64 : decode cX0_init 64 = .ok (.dup, 1) := dk_89 (dk_at dksX0_init_2 19 rfl rfl)
theorem dX0_init_65 : decode cX0_init 65 = .ok (.iconst 1, 1) := dk_4 (dk_at dksX0_init_2 20 rfl rfl)
theorem dX0_init_66 : decode cX0_init 66 = .ok (.new 38, 3) := dk_187 0 38 (dk_at dksX0_init_2 21 rfl rfl)
theorem dX0_init_69 : decode cX0_init 69 = .ok (.dup, 1) := dk_89 (dk_at dksX0_init_3 0 rfl rfl)
theorem dX0_init_70 : decode cX0_init 70 = .ok (.invokespecial 40, 3) := dk_183 0 40 (dk_at dksX0_init_3 1 rfl rfl)
theorem dX0_init_73 : decode cX0_init 73 = .ok (.aastore, 1) := dk_83 (dk_at dksX0_init_3 4 rfl rfl)
theorem dX0_init_74 : decode cX0_init 74 = .ok (.dup, 1) := dk_89 (dk_at dksX0_init_3 5 rfl rfl)
theorem dX0_init_75 : decode cX0_init 75 = .ok (.iconst 2, 1) := dk_5 (dk_at dksX0_init_3 6 rfl rfl)
theorem dX0_init_76 : decode cX0_init 76 = .ok (.new 41, 3) := dk_187 0 41 (dk_at dksX0_init_3 7 rfl rfl)
theorem dX0_init_79 : decode cX0_init 79 = .ok (.dup, 1) := dk_89 (dk_at dksX0_init_3 10 rfl rfl)
theorem dX0_init_80 : decode cX0_init 80 = .ok (.invokespecial 43, 3) := dk_183 0 43 (dk_at dksX0_init_3 11 rfl rfl)
theorem dX0_init_83 : decode cX0_init 83 = .ok (.aastore, 1) := dk_83 (dk_at dksX0_init_3 14 rfl rfl)
theorem dX0_init_84 : decode cX0_init 84 = .ok (.dup, 1) := dk_89 (dk_at dksX0_init_3 15 rfl rfl)
theorem dX0_init_85 : decode cX0_init 85 = .ok (.iconst 3, 1) := dk_6 (dk_at dksX0_init_3 16 rfl rfl)
theorem dX0_init_86 : decode cX0_init 86 = .ok (.new 44, 3) := dk_187 0 44 (dk_at dksX0_init_3 17 rfl rfl)
theorem dX0_init_89 : decode cX0_init 89 = .ok (.dup, 1) := dk_89 (dk_at dksX0_init_3 20 rfl rfl)
theorem dX0_init_90 : decode cX0_init 90 = .ok (.invokespecial 46, 3) := dk_183 0 46 (dk_at dksX0_init_3 21 rfl rfl)
theorem dX0_init_93 : decode cX0_init 93 = .ok (.aastore, 1) := dk_83 (dk_at dksX0_init_4 0 rfl rfl)
theorem dX0_init_94 : decode cX0_init 94 = .ok (.dup, 1) := dk_89 (dk_at dksX0_init_4 1 rfl rfl)
theorem dX0_init_95 : decode cX0_init 95 = .ok (.iconst 4, 1) := dk_7 (dk_at dksX0_init_4 2 rfl rfl)
theorem dX0_init_96 : decode cX0_init 96 = .ok (.new 47, 3) := dk_187 0 47 (dk_at dksX0_init_4 3 rfl rfl)
theorem dX0_init_99 : decode cX0_init 99 = .ok (.dup, 1) := dk_89 (dk_at dksX0_init_4 6 rfl rfl)
theorem dX0_init_100 : decode cX0_init 100 = .ok (.invokespecial 49, 3) := dk_183 0 49 (dk_at dksX0_init_4 7 rfl rfl)
theorem dX0_init_103 : decode cX0_init 103 = .ok (.aastore, 1) := dk_83 (dk_at dksX0_init_4 10 rfl rfl)
theorem dX0_init_104 : decode cX0_init 104 = .ok (.dup, 1) := dk_89 (dk_at dksX0_init_4 11 rfl rfl)
theorem dX0_init_105 : decode cX0_init 105 = .ok (.iconst 5, 1) := dk_8 (dk_at dksX0_init_4 12 rfl rfl)
theorem dX0_init_106 : decode cX0_init 106 = .ok (.new 50, 3) := dk_187 0 50 (dk_at dksX0_init_4 13 rfl rfl)
theorem dX0_init_109 : decode cX0_init 109 = .ok (.dup, 1) := dk_89 (dk_at dksX0_init_4 16 rfl rfl)
theorem dX0_init_110 : decode cX0_init 110 = .ok (.invokespecial 52, 3) := dk_183 0 52 (dk_at dksX0_init_4 17 rfl rfl)
theorem dX0_init_113 : decode cX0_init 113 = .ok (.aastore, 1) := dk_83 (dk_at dksX0_init_4 20 rfl rfl)
theorem dX0_init_114 : decode cX0_init 114 = .ok (.putfield 53, 3) := dk_181 0 53 (dk_at dksX0_init_4 21 rfl rfl)
theorem dX0_init_117 : decode cX0_init 117 = .ok (.aload_n 0, 1) := dk_42 (dk_at dksX0_init_5 0 rfl rfl)
theorem dX0_init_118 : decode cX0_init 118 = .ok (.sipush 200, 3) := dk_17 0 200 (dk_at dksX0_init_5 1 rfl rfl)
theorem dX0_init_121 : decode cX0_init 121 = .ok (.newarray .byte, 2) := dk_188_8 (dk_at dksX0_init_5 4 rfl rfl)
theorem dX0_init_123 : decode cX0_init 123 = .ok (.putfield 57, 3) := dk_181 0 57 (dk_at dksX0_init_5 6 rfl rfl)
theorem dX0_init_126 : decode cX0_init 126 = .ok (.aload_n 0, 1) := dk_42 (dk_at dksX0_init_5 9 rfl rfl)
theorem dX0_init_127 : decode cX0_init 127 = .ok (.new 61, 3) := dk_187 0 61 (dk_at dksX0_init_5 10 rfl rfl)
theorem dX0_init_130 : decode cX0_init 130 = .ok (.dup, 1) := dk_89 (dk_at dksX0_init_5 13 rfl rfl)
theorem dX0_init_131 : decode cX0_init 131 = .ok (.aload_n 0, 1) := dk_42 (dk_at dksX0_init_5 14 rfl rfl)
theorem dX0_init_132 : decode cX0_init 132 = .ok (.getfield 29, 3) := dk_180 0 29 (dk_at dksX0_init_5 15 rfl rfl)
theorem dX0_init_135 : decode cX0_init 135 = .ok (.invokespecial 63, 3) := dk_183 0 63 (dk_at dksX0_init_5 18 rfl rfl)
theorem dX0_init_138 : decode cX0_init 138 = .ok (.putfield 66, 3) := dk_181 0 66 (dk_at dksX0_init_5 21 rfl rfl)
theorem dX0_init_141 : decode cX0_init 141 = .ok (.aload_n 0, 1) := dk_42 (dk_at dksX0_init_6 0 rfl rfl)
theorem dX0_init_142 : decode cX0_init 142 = .ok (.bipush 10, 2) := dk_16 10 (dk_at dksX0_init_6 1 rfl rfl)
theorem dX0_init_144 : decode cX0_init 144 = .ok (.anewarray 70, 3) := dk_189 0 70 (dk_at dksX0_init_6 3 rfl rfl)
theorem dX0_init_147 : decode cX0_init 147 = .ok (.putfield 72, 3) := dk_181 0 72 (dk_at dksX0_init_6 6 rfl rfl)
theorem dX0_init_150 : decode cX0_init 150 = .ok (.aload_n 0, 1) := dk_42 (dk_at dksX0_init_6 9 rfl rfl)
theorem dX0_init_151 : decode cX0_init 151 = .ok (.iconst 3, 1) := dk_6 (dk_at dksX0_init_6 10 rfl rfl)
theorem dX0_init_152 : decode cX0_init 152 = .ok (.newarray .int, 2) := dk_188_10 (dk_at dksX0_init_6 11 rfl rfl)
theorem dX0_init_154 : decode cX0_init 154 = .ok (.putfield 76, 3) := dk_181 0 76 (dk_at dksX0_init_6 13 rfl rfl)
theorem dX0_init_157 : decode cX0_init 157 = .ok (.aload_n 0, 1) := dk_42 (dk_at dksX0_init_6 16 rfl rfl)
theorem dX0_init_158 : decode cX0_init 158 = .ok (.iconst 4, 1) := dk_7 (dk_at dksX0_init_6 17 rfl rfl)
theorem dX0_init_159 : decode cX0_init 159 = .ok (.anewarray 80, 3) := dk_189 0 80 (dk_at dksX0_init_6 18 rfl rfl)
theorem dX0_init_162 : decode cX0_init 162 = .ok (.dup, 1) := dk_89 (dk_at dksX0_init_6 21 rfl rfl)
theorem dX0_init_163 : decode cX0_init 163 = .ok (.iconst 0, 1) := dk_3 (dk_at dksX0_init_6 22 rfl rfl)
theorem dX0_init_164 : decode cX0_init 164 = .ok (.new 80, 3) := dk_187 0 80 (dk_at dksX0_init_7 0 rfl rfl)
theorem dX0_init_167 : decode cX0_init 167 = .ok (.dup, 1) := dk_89 (dk_at dksX0_init_7 3 rfl rfl)
theorem dX0_init_168 : decode cX0_init 168 = .ok (.invokespecial 82, 3) := dk_183 0 82 (dk_at dksX0_init_7 4 rfl rfl)
theorem dX0_init_171 : decode cX0_init 171 = .ok (.aastore, 1) := dk_83 (dk_at dksX0_init_7 7 rfl rfl)
theorem dX0_init_172 : decode cX0_init 172 = .ok (.dup, 1) := dk_89 (dk_at dksX0_init_7 8 rfl rfl)
theorem dX0_init_173 : decode cX0_init 173 = .ok (.iconst 1, 1) := dk_4 (dk_at dksX0_init_7 9 rfl rfl)
theorem dX0_init_174 : decode cX0_init 174 = .ok (.new 80, 3) := dk_187 0 80 (dk_at dksX0_init_7 10 rfl rfl)
theorem dX0_init_177 : decode cX0_init 177 = .ok (.dup, 1) := dk_89 (dk_at dksX0_init_7 13 rfl rfl)
theorem dX0_init_178 : decode cX0_init 178 = .ok (.invokespecial 82, 3) := dk_183 0 82 (dk_at dksX0_init_7 14 rfl rfl)
theorem dX0_init_181 : decode cX0_init 181 = .ok (.aastore, 1) := dk_83 (dk_at dksX0_init_7 17 rfl rfl)
theorem dX0_init_182 : decode cX0_init 182 = .ok (.dup, 1) := dk_89 (dk_at dksX0_init_7 18 rfl rfl)
theorem dX0_init_183 : decode cX0_init 183 = .ok (.iconst 2, 1) := dk_5 (dk_at dksX0_init_7 19 rfl rfl)
theorem dX0_init_184 : decode cX0_init 184 = .ok (.new 80, 3) := dk_187 0 80 (dk_at dksX0_init_7 20 rfl rfl)
theorem dX0_init_187 : decode cX0_init 187 = .ok (.dup, 1) := dk_89 (dk_at dksX0_init_7 23 rfl rfl)
theorem dX0_init_188 : decode cX0_init 188 = .ok (.invokespecial 82, 3) := dk_183 0 82 (dk_at dksX0_init_8 0 rfl rfl)
theorem dX0_init_191 : decode cX0_init 191 = .ok (.aastore, 1) := dk_83 (dk_at dksX0_init_8 3 rfl rfl)
theorem dX0_init_192 : decode cX0_init 192 = .ok (.dup, 1) := dk_89 (dk_at dksX0_init_8 4 rfl rfl)
theorem dX0_init_193 : decode cX0_init 193 = .ok (.iconst 3, 1) := dk_6 (dk_at dksX0_init_8 5 rfl rfl)
theorem dX0_init_194 : decode cX0_init 194 = .ok (.new 80, 3) := dk_187 0 80 (dk_at dksX0_init_8 6 rfl rfl)
theorem dX0_init_197 : decode cX0_init 197 = .ok (.dup, 1) := dk_89 (dk_at dksX0_init_8 9 rfl rfl)
theorem dX0_init_198 : decode cX0_init 198 = .ok (.invokespecial 82, 3) := dk_183 0 82 (dk_at dksX0_init_8 10 rfl rfl)
theorem dX0_init_201 : decode cX0_init 201 = .ok (.aastore, 1) := dk_83 (dk_at dksX0_init_8 13 rfl rfl)
theorem dX0_init_202 : decode cX0_init 202 = .ok (.putfield 83, 3) := dk_181 0 83 (dk_at dksX0_init_8 14 rfl rfl)
theorem dX0_init_205 : decode cX0_init 205 = .ok (.aload_n 0, 1) := dk_42 (dk_at dksX0_init_8 17 rfl rfl)
theorem dX0_init_206 : decode cX0_init 206 = .ok (.new 87, 3) := dk_187 0 87 (dk_at dksX0_init_8 18 rfl rfl)
theorem dX0_init_209 : decode cX0_init 209 = .ok (.dup, 1) := dk_89 (dk_at dksX0_init_8 21 rfl rfl)
theorem dX0_init_210 : decode cX0_init 210 = .ok (.invokespecial 89, 3) := dk_183 0 89 (dk_at dksX0_init_9 0 rfl rfl)
theorem dX0_init_213 : decode cX0_init 213 = .ok (.putfield 90, 3) := dk_181 0 90 (dk_at dksX0_init_9 3 rfl rfl)
theorem dX0_init_216 : decode cX0_init 216 = .ok (.aload_n 0, 1) := dk_42 (dk_at dksX0_init_9 6 rfl rfl)
theorem dX0_init_217 : decode cX0_init 217 = .ok (.new 94, 3) := dk_187 0 94 (dk_at dksX0_init_9 7 rfl rfl)
theorem dX0_init_220 : decode cX0_init 220 = .ok (.dup, 1) := dk_89 (dk_at dksX0_init_9 10 rfl rfl)
theorem dX0_init_221 : decode cX0_init 221 = .ok (.invokespecial 96, 3) := dk_183 0 96 (dk_at dksX0_init_9 11 rfl rfl)
theorem dX0_init_224 : decode cX0_init 224 = .ok (.putfield 97, 3) := dk_181 0 97 (dk_at dksX0_init_9 14 rfl rfl)
theorem dX0_init_227 : decode cX0_init 227 = .ok (.aload_n 0, 1) := dk_42 (dk_at dksX0_init_9 17 rfl rfl)
theorem dX0_init_228 : decode cX0_init 228 = .ok (.bipush 30, 2) := dk_16 30 (dk_at dksX0_init_9 18 rfl rfl)
theorem dX0_init_230 : decode cX0_init 230 = .ok (.newarray .int, 2) := dk_188_10 (dk_at dksX0_init_9 20 rfl rfl)
theorem dX0_init_232 : decode cX0_init 232 = .ok (.putfield 101, 3) := dk_181 0 101 (dk_at dksX0_init_10 0 rfl rfl)
theorem dX0_init_235 : decode cX0_init 235 = .ok (.aload_n 0, 1) := dk_42 (dk_at dksX0_init_10 3 rfl rfl)
theorem dX0_init_236 : decode cX0_init 236 = .ok (.iconst 4, 1) := dk_7 (dk_at dksX0_init_10 4 rfl rfl)
theorem dX0_init_237 : decode cX0_init 237 = .ok (.anewarray 104, 3) := dk_189 0 104 (dk_at dksX0_init_10 5 rfl rfl)
theorem dX0_init_240 : decode cX0_init 240 = .ok (.dup, 1) := dk_89 (dk_at dksX0_init_10 8 rfl rfl)
theorem dX0_init_241 : decode cX0_init 241 = .ok (.iconst 0, 1) := dk_3 (dk_at dksX0_init_10 9 rfl rfl)
theorem dX0_init_242 : decode cX0_init 242 = .ok (.new 104, 3) := dk_187 0 104 (dk_at dksX0_init_10 10 rfl rfl)
theorem dX0_init_245 : decode cX0_init 245 = .ok (.dup, 1) := dk_89 (dk_at dksX0_init_10 13 rfl rfl)
theorem dX0_init_246 : decode cX0_init 246 = .ok (.invokespecial 106, 3) := dk_183 0 106 (dk_at dksX0_init_10 14 rfl rfl)
theorem dX0_init_249 : decode cX0_init 249 = .ok (.aastore, 1) := dk_83 (dk_at dksX0_init_10 17 rfl rfl)
theorem dX0_init_250 : decode cX0_init 250 = .ok (.dup, 1) := dk_89 (dk_at dksX0_init_10 18 rfl rfl)
theorem dX0_init_251 : decode cX0_init 251 = .ok (.iconst 1, 1) := dk_4 (dk_at dksX0_init_10 19 rfl rfl)
theorem dX0_init_252 : decode cX0_init 252 = .ok (.new 104, 3) := dk_187 0 104 (dk_at dksX0_init_10 20 rfl rfl)
theorem dX0_init_255 : decode cX0_init 255 = .ok (.dup, 1) := dk_89 (dk_at dksX0_init_10 23 rfl rfl)
theorem dX0_init_256 : decode cX0_init 256 = .ok (.invokespecial 106, 3) := dk_183 0 106 (dk_at dksX0_init_11 0 rfl rfl)
theorem dX0_init_259 : decode cX0_init 259 = .ok (.aastore, 1) := dk_83 (dk_at dksX0_init_11 3 rfl rfl)
theorem dX0_init_260 : decode cX0_init 260 = .ok (.dup, 1) := dk_89 (dk_at dksX0_init_11 4 rfl rfl)
theorem dX0_init_261 : decode cX0_init 261 = .ok (.iconst 2, 1) := dk_5 (dk_at dksX0_init_11 5 rfl rfl)
theorem dX0_init_262 : decode cX0_init 262 = .ok (.new 104, 3) := dk_187 0 104 (dk_at dksX0_init_11 6 rfl rfl)
theorem dX0_init_265 : decode cX0_init 265 = .ok (.dup, 1) := dk_89 (dk_at dksX0_init_11 9 rfl rfl)
theorem dX0_init_266 : decode cX0_init 266 = .ok (.invokespecial 106, 3) := dk_183 0 106 (dk_at dksX0_init_11 10 rfl rfl)
theorem dX0_init_269 : decode cX0_init 269 = .ok (.aastore, 1) := dk_83 (dk_at dksX0_init_11 13 rfl rfl)
theorem dX0_init_270 : decode cX0_init 270 = .ok (.dup, 1) := dk_89 (dk_at dksX0_init_11 14 rfl rfl)
theorem dX0_init_271 : decode cX0_init 271 = .ok (.iconst 3, 1) := dk_6 (dk_at dksX0_init_11 15 rfl rfl)
theorem dX0_init_272 : decode cX0_init 272 = .ok (.new 104, 3) := dk_187 0 104 (dk_at dksX0_init_11 16 rfl rfl)
theorem dX0_init_275 : decode cX0_init 275 = .ok (.dup, 1) := dk_89 (dk_at dksX0_init_11 19 rfl rfl)
theorem dX0_init_276 : decode cX0_init 276 = .ok (.invokespecial 106, 3) := dk_183 0 106 (dk_at dksX0_init_11 20 rfl rfl)
theorem dX0_init_279 : decode cX0_init 279 = .ok (.aastore, 1) := dk_83 (dk_at dksX0_init_11 23 rfl rfl)
theorem dX0_init_280 : decode cX0_init 280 = .ok (.putfield 107, 3) := dk_181 0 107 (dk_at dksX0_init_12 0 rfl rfl)
theorem dX0_init_283 : decode cX0_init 283 = .ok (.return_, 1) := dk_177 (dk_at dksX0_init_12 3 rfl rfl)
abbrev cX0_feed : ByteArray := prog_1_method_17_code
def yX0_feed : MethodName := ⟨RX0, "feed", "(JI)I"⟩
def dkwX0_feed_3 : List UInt8 := [180, 0, 200, 172]
abbrev dktX0_feed_3 : List UInt8 := dkwX0_feed_3 ++ []
def dkwX0_feed_2 : List UInt8 := [21, 4, 104, 123, 136, 145, 84, 42, 89, 180, 0, 200, 4, 96, 181, 0, 200, 132, 4, 1, 167, 255, 219, 42]
abbrev dktX0_feed_2 : List UInt8 := dkwX0_feed_2 ++ dktX0_feed_3
def dkwX0_feed_1 : List UInt8 := [16, 254, 172, 3, 54, 4, 21, 4, 29, 162, 0, 37, 42, 180, 0, 57, 42, 180, 0, 200, 31, 16, 8]
abbrev dktX0_feed_1 : List UInt8 := dkwX0_feed_1 ++ dktX0_feed_2
def dkwX0_feed_0 : List UInt8 := [29, 4, 16, 8, 184, 0, 115, 154, 0, 5, 2, 172, 42, 180, 0, 200, 29, 96, 17, 0, 200, 164, 0, 6]
abbrev dktX0_feed_0 : List UInt8 := dkwX0_feed_0 ++ dktX0_feed_1
theorem dksX0_feed_0 : cX0_feed.data.toList.drop 0 = dktX0_feed_0 := by decide +kernel
theorem dksX0_feed_1 : cX0_feed.data.toList.drop 24 = dktX0_feed_1 := dk_seg dksX0_feed_0 24 rfl rfl
theorem dksX0_feed_2 : cX0_feed.data.toList.drop 47 = dktX0_feed_2 := dk_seg dksX0_feed_1 23 rfl rfl
theorem dksX0_feed_3 : cX0_feed.data.toList.drop 71 = dktX0_feed_3 := dk_seg dksX0_feed_2 24 rfl rfl
theorem dX0_feed_0 : decode cX0_feed 0 = .ok (.iload_n 3, 1) := dk_29 (dk_at dksX0_feed_0 0 rfl rfl)
theorem dX0_feed_1 : decode cX0_feed 1 = .ok (.iconst 1, 1) := dk_4 (dk_at dksX0_feed_0 1 rfl rfl)
theorem dX0_feed_2 : decode cX0_feed 2 = .ok (.bipush 8, 2) := dk_16 8 (dk_at dksX0_feed_0 2 rfl rfl)
theorem dX0_feed_4 : decode cX0_feed 4 = .ok (.invokestatic 115, 3) := dk_184 0 115 (dk_at dksX0_feed_0 4 rfl rfl)
theorem dX0_feed_7 : decode cX0_feed 7 = .ok (.ifCond .ne 5, 3) := dk_154 0 5 (dk_at dksX0_feed_0 7 rfl rfl)
theorem dX0_feed_10 : decode cX0_feed 10 = .ok (.iconst (-1), 1) := dk_2 (dk_at dksX0_feed_0 10 rfl rfl)
theorem dX0_feed_11 : decode cX0_feed 11 = .ok (.ireturn, 1) := dk_172 (dk_at dksX0_feed_0 11 rfl rfl)
theorem dX0_feed_12 : decode cX0_feed 12 = .ok (.aload_n 0, 1) := dk_42 (dk_at dksX0_feed_0 12 rfl rfl)
theorem dX0_feed_13 : decode cX0_feed 13 = .ok (.getfield 200, 3) := dk_180 0 200 (dk_at dksX0_feed_0 13 rfl rfl)
theorem dX0_feed_16 : decode cX0_feed 16 = .ok (.iload_n 3, 1) := dk_29 (dk_at dksX0_feed_0 16 rfl rfl)
theorem dX0_feed_17 : decode cX0_feed 17 = .ok (.iadd, 1) := dk_96 (dk_at dksX0_feed_0 17 rfl rfl)
theorem dX0_feed_18 : decode cX0_feed 18 = .ok (.sipush 200, 3) := dk_17 0 200 (dk_at dksX0_feed_0 18 rfl rfl)
theorem dX0_feed_21 : decode cX0_feed 21 = .ok (.if_icmp .le 6, 3) := dk_164 0 6 (dk_at dksX0_feed_0 21 rfl rfl)
theorem dX0_feed_24 : decode cX0_feed 24 = .ok (.bipush (-2), 2) := dk_16 254 (dk_at dksX0_feed_1 0 rfl rfl)
theorem dX0_feed_26 : decode cX0_feed 26 = .ok (.ireturn, 1) := dk_172 (dk_at dksX0_feed_1 2 rfl rfl)
theorem dX0_feed_27 : decode cX0_feed 27 = .ok (.iconst 0, 1) := dk_3 (dk_at dksX0_feed_1 3 rfl rfl)
theorem dX0_feed_28 : decode cX0_feed 28 = .ok (.istore 4, 2) := dk_54 4 (dk_at dksX0_feed_1 4 rfl rfl)
theorem dX0_feed_30 : decode cX0_feed 30 = .ok (.iload 4, 2) := dk_21 4 (dk_at dksX0_feed_1 6 rfl rfl)
theorem dX0_feed_32 : decode cX0_feed 32 = .ok (.iload_n 3, 1) := dk_29 (dk_at dksX0_feed_1 8 rfl rfl)
theorem dX0_feed_33 : decode cX0_feed 33 = .ok (.if_icmp .ge 37, 3) := dk_162 0 37 (dk_at dksX0_feed_1 9 rfl rfl)
theorem dX0_feed_36 : decode cX0_feed 36 = .ok (.aload_n 0, 1) := dk_42 (dk_at dksX0_feed_1 12 rfl rfl)
theorem dX0_feed_37 : decode cX0_feed 37 = .ok (.getfield 57, 3) := dk_180 0 57 (dk_at dksX0_feed_1 13 rfl rfl)
theorem dX0_feed_40 : decode cX0_feed 40 = .ok (.aload_n 0, 1) := dk_42 (dk_at dksX0_feed_1 16 rfl rfl)
theorem dX0_feed_41 : decode cX0_feed 41 = .ok (.getfield 200, 3) := dk_180 0 200 (dk_at dksX0_feed_1 17 rfl rfl)
theorem dX0_feed_44 : decode cX0_feed 44 = .ok (.lload_n 1, 1) := dk_31 (dk_at dksX0_feed_1 20 rfl rfl)
theorem dX0_feed_45 : decode cX0_feed 45 = .ok (.bipush 8, 2) := dk_16 8 (dk_at dksX0_feed_1 21 rfl rfl)
theorem dX0_feed_47 : decode cX0_feed 47 = .ok (.iload 4, 2) := dk_21 4 (dk_at dksX0_feed_2 0 rfl rfl)
theorem dX0_feed_49 : decode cX0_feed 49 = .ok (.imul, 1) := dk_104 (dk_at dksX0_feed_2 2 rfl rfl)
theorem dX0_feed_50 : decode cX0_feed 50 = .ok (.lshr, 1) := dk_123 (dk_at dksX0_feed_2 3 rfl rfl)
theorem dX0_feed_51 : decode cX0_feed 51 = .ok (.l2i, 1) := dk_136 (dk_at dksX0_feed_2 4 rfl rfl)
theorem dX0_feed_52 : decode cX0_feed 52 = .ok (.i2b, 1) := dk_145 (dk_at dksX0_feed_2 5 rfl rfl)
theorem dX0_feed_53 : decode cX0_feed 53 = .ok (.bastore, 1) := dk_84 (dk_at dksX0_feed_2 6 rfl rfl)
theorem dX0_feed_54 : decode cX0_feed 54 = .ok (.aload_n 0, 1) := dk_42 (dk_at dksX0_feed_2 7 rfl rfl)
theorem dX0_feed_55 : decode cX0_feed 55 = .ok (.dup, 1) := dk_89 (dk_at dksX0_feed_2 8 rfl rfl)
theorem dX0_feed_56 : decode cX0_feed 56 = .ok (.getfield 200, 3) := dk_180 0 200 (dk_at dksX0_feed_2 9 rfl rfl)
theorem dX0_feed_59 : decode cX0_feed 59 = .ok (.iconst 1, 1) := dk_4 (dk_at dksX0_feed_2 12 rfl rfl)
theorem dX0_feed_60 : decode cX0_feed 60 = .ok (.iadd, 1) := dk_96 (dk_at dksX0_feed_2 13 rfl rfl)
theorem dX0_feed_61 : decode cX0_feed 61 = .ok (.putfield 200, 3) := dk_181 0 200 (dk_at dksX0_feed_2 14 rfl rfl)
theorem dX0_feed_64 : decode cX0_feed 64 = .ok (.iinc 4 1, 3) := dk_132 4 1 (dk_at dksX0_feed_2 17 rfl rfl)
theorem dX0_feed_67 : decode cX0_feed 67 = .ok (.goto (-37), 3) := dk_167 255 219 (dk_at dksX0_feed_2 20 rfl rfl)
theorem dX0_feed_70 : decode cX0_feed 70 = .ok (.aload_n 0, 1) := dk_42 (dk_at dksX0_feed_2 23 rfl rfl)
theorem dX0_feed_71 : decode cX0_feed 71 = .ok (.getfield 200, 3) := dk_180 0 200 (dk_at dksX0_feed_3 0 rfl rfl)
theorem dX0_feed_74 : decode cX0_feed 74 = .ok (.ireturn, 1) := dk_172 (dk_at dksX0_feed_3 3 rfl rfl)
abbrev cX0_in : ByteArray := prog_1_method_1_code
def yX0_in : MethodName := ⟨RX0, "in", "(III)Z"⟩
def dkwX0_in_0 : List UInt8 := [26, 27, 161, 0, 12, 26, 28, 163, 0, 7, 4, 167, 0, 4, 3, 172]
abbrev dktX0_in_0 : List UInt8 := dkwX0_in_0 ++ []
theorem dksX0_in_0 : cX0_in.data.toList.drop 0 = dktX0_in_0 := by decide +kernel
theorem dX0_in_0 : decode cX0_in 0 = .ok (.iload_n 0, 1) := dk_26 (dk_at dksX0_in_0 0 rfl rfl)
theorem dX0_in_1 : decode cX0_in 1 = .ok (.iload_n 1, 1) := dk_27 (dk_at dksX0_in_0 1 rfl rfl)
theorem dX0_in_2 : decode cX0_in 2 = .ok (.if_icmp .lt 12, 3) := dk_161 0 12 (dk_at dksX0_in_0 2 rfl rfl)
theorem dX0_in_5 : decode cX0_in 5 = .ok (.iload_n 0, 1) := dk_26 (dk_at dksX0_in_0 5 rfl rfl)
theorem dX0_in_6 : decode cX0_in 6 = .ok (.iload_n 2, 1) := dk_28 (dk_at dksX0_in_0 6 rfl rfl)
theorem dX0_in_7 : decode cX0_in 7 = .ok (.if_icmp .gt 7, 3) := dk_163 0 7 (dk_at dksX0_in_0 7 rfl rfl)
theorem dX0_in_10 : decode cX0_in 10 = .ok (.iconst 1, 1) := dk_4 (dk_at dksX0_in_0 10 rfl rfl)
theorem dX0_in_11 : decode cX0_in 11 = .ok (.goto 4, 3) := dk_167 0 4 (dk_at dksX0_in_0 11 rfl rfl)
theorem dX0_in_14 : decode cX0_in 14 = .ok (.iconst 0, 1) := dk_3 (dk_at dksX0_in_0 14 rfl rfl)
theorem dX0_in_15 : decode cX0_in 15 = .ok (.ireturn, 1) := dk_172 (dk_at dksX0_in_0 15 rfl rfl)
abbrev cX0_mill : ByteArray := prog_1_method_18_code
def yX0_mill : MethodName := ⟨RX0, "mill", "()I"⟩
def dkwX0_mill_2 : List UInt8 := [180, 0, 22, 42, 180, 0, 29, 182, 0, 203, 42, 3, 181, 0, 215, 42, 180, 0, 22, 180, 0, 111, 172]
abbrev dktX0_mill_2 : List UInt8 := dkwX0_mill_2 ++ []
def dkwX0_mill_1 : List UInt8 := [180, 0, 66, 42, 180, 0, 57, 27, 182, 0, 206, 167, 0, 12, 77, 16, 156, 44, 180, 0, 212, 100, 172, 42]
abbrev dktX0_mill_1 : List UInt8 := dkwX0_mill_1 ++ dktX0_mill_2
def dkwX0_mill_0 : List UInt8 := [42, 180, 0, 200, 60, 42, 3, 181, 0, 200, 42, 180, 0, 29, 42, 180, 0, 22, 182, 0, 203, 42]
abbrev dktX0_mill_0 : List UInt8 := dkwX0_mill_0 ++ dktX0_mill_1
theorem dksX0_mill_0 : cX0_mill.data.toList.drop 0 = dktX0_mill_0 := by decide +kernel
theorem dksX0_mill_1 : cX0_mill.data.toList.drop 22 = dktX0_mill_1 := dk_seg dksX0_mill_0 22 rfl rfl
theorem dksX0_mill_2 : cX0_mill.data.toList.drop 46 = dktX0_mill_2 := dk_seg dksX0_mill_1 24 rfl rfl
theorem dX0_mill_0 : decode cX0_mill 0 = .ok (.aload_n 0, 1) := dk_42 (dk_at dksX0_mill_0 0 rfl rfl)
theorem dX0_mill_1 : decode cX0_mill 1 = .ok (.getfield 200, 3) := dk_180 0 200 (dk_at dksX0_mill_0 1 rfl rfl)
theorem dX0_mill_4 : decode cX0_mill 4 = .ok (.istore_n 1, 1) := dk_60 (dk_at dksX0_mill_0 4 rfl rfl)
theorem dX0_mill_5 : decode cX0_mill 5 = .ok (.aload_n 0, 1) := dk_42 (dk_at dksX0_mill_0 5 rfl rfl)
theorem dX0_mill_6 : decode cX0_mill 6 = .ok (.iconst 0, 1) := dk_3 (dk_at dksX0_mill_0 6 rfl rfl)
theorem dX0_mill_7 : decode cX0_mill 7 = .ok (.putfield 200, 3) := dk_181 0 200 (dk_at dksX0_mill_0 7 rfl rfl)
theorem dX0_mill_10 : decode cX0_mill 10 = .ok (.aload_n 0, 1) := dk_42 (dk_at dksX0_mill_0 10 rfl rfl)
theorem dX0_mill_11 : decode cX0_mill 11 = .ok (.getfield 29, 3) := dk_180 0 29 (dk_at dksX0_mill_0 11 rfl rfl)
theorem dX0_mill_14 : decode cX0_mill 14 = .ok (.aload_n 0, 1) := dk_42 (dk_at dksX0_mill_0 14 rfl rfl)
theorem dX0_mill_15 : decode cX0_mill 15 = .ok (.getfield 22, 3) := dk_180 0 22 (dk_at dksX0_mill_0 15 rfl rfl)
theorem dX0_mill_18 : decode cX0_mill 18 = .ok (.invokevirtual 203, 3) := dk_182 0 203 (dk_at dksX0_mill_0 18 rfl rfl)
theorem dX0_mill_21 : decode cX0_mill 21 = .ok (.aload_n 0, 1) := dk_42 (dk_at dksX0_mill_0 21 rfl rfl)
theorem dX0_mill_22 : decode cX0_mill 22 = .ok (.getfield 66, 3) := dk_180 0 66 (dk_at dksX0_mill_1 0 rfl rfl)
theorem dX0_mill_25 : decode cX0_mill 25 = .ok (.aload_n 0, 1) := dk_42 (dk_at dksX0_mill_1 3 rfl rfl)
theorem dX0_mill_26 : decode cX0_mill 26 = .ok (.getfield 57, 3) := dk_180 0 57 (dk_at dksX0_mill_1 4 rfl rfl)
theorem dX0_mill_29 : decode cX0_mill 29 = .ok (.iload_n 1, 1) := dk_27 (dk_at dksX0_mill_1 7 rfl rfl)
theorem dX0_mill_30 : decode cX0_mill 30 = .ok (.invokevirtual 206, 3) := dk_182 0 206 (dk_at dksX0_mill_1 8 rfl rfl)
theorem dX0_mill_33 : decode cX0_mill 33 = .ok (.goto 12, 3) := dk_167 0 12 (dk_at dksX0_mill_1 11 rfl rfl)
theorem dX0_mill_36 : decode cX0_mill 36 = .ok (.astore_n 2, 1) := dk_77 (dk_at dksX0_mill_1 14 rfl rfl)
theorem dX0_mill_37 : decode cX0_mill 37 = .ok (.bipush (-100), 2) := dk_16 156 (dk_at dksX0_mill_1 15 rfl rfl)
theorem dX0_mill_39 : decode cX0_mill 39 = .ok (.aload_n 2, 1) := dk_44 (dk_at dksX0_mill_1 17 rfl rfl)
theorem dX0_mill_40 : decode cX0_mill 40 = .ok (.getfield 212, 3) := dk_180 0 212 (dk_at dksX0_mill_1 18 rfl rfl)
theorem dX0_mill_43 : decode cX0_mill 43 = .ok (.isub, 1) := dk_100 (dk_at dksX0_mill_1 21 rfl rfl)
theorem dX0_mill_44 : decode cX0_mill 44 = .ok (.ireturn, 1) := dk_172 (dk_at dksX0_mill_1 22 rfl rfl)
theorem dX0_mill_45 : decode cX0_mill 45 = .ok (.aload_n 0, 1) := dk_42 (dk_at dksX0_mill_1 23 rfl rfl)
theorem dX0_mill_46 : decode cX0_mill 46 = .ok (.getfield 22, 3) := dk_180 0 22 (dk_at dksX0_mill_2 0 rfl rfl)
theorem dX0_mill_49 : decode cX0_mill 49 = .ok (.aload_n 0, 1) := dk_42 (dk_at dksX0_mill_2 3 rfl rfl)
theorem dX0_mill_50 : decode cX0_mill 50 = .ok (.getfield 29, 3) := dk_180 0 29 (dk_at dksX0_mill_2 4 rfl rfl)
theorem dX0_mill_53 : decode cX0_mill 53 = .ok (.invokevirtual 203, 3) := dk_182 0 203 (dk_at dksX0_mill_2 7 rfl rfl)
theorem dX0_mill_56 : decode cX0_mill 56 = .ok (.aload_n 0, 1) := dk_42 (dk_at dksX0_mill_2 10 rfl rfl)
theorem dX0_mill_57 : decode cX0_mill 57 = .ok (.iconst 0, 1) := dk_3 (dk_at dksX0_mill_2 11 rfl rfl)
theorem dX0_mill_58 : decode cX0_mill 58 = .ok (.putfield 215, 3) := dk_181 0 215 (dk_at dksX0_mill_2 12 rfl rfl)
theorem dX0_mill_61 : decode cX0_mill 61 = .ok (.aload_n 0, 1) := dk_42 (dk_at dksX0_mill_2 15 rfl rfl)
theorem dX0_mill_62 : decode cX0_mill 62 = .ok (.getfield 22, 3) := dk_180 0 22 (dk_at dksX0_mill_2 16 rfl rfl)
theorem dX0_mill_65 : decode cX0_mill 65 = .ok (.getfield 111, 3) := dk_180 0 111 (dk_at dksX0_mill_2 19 rfl rfl)
theorem dX0_mill_68 : decode cX0_mill 68 = .ok (.ireturn, 1) := dk_172 (dk_at dksX0_mill_2 22 rfl rfl)
abbrev cX0_mostOf : ByteArray := prog_1_method_11_code
def yX0_mostOf : MethodName := ⟨RX0, "mostOf", "(I)I"⟩
def dkwX0_mostOf_0 : List UInt8 := [26, 6, 160, 0, 8, 16, 99, 167, 0, 5, 16, 9, 172]
abbrev dktX0_mostOf_0 : List UInt8 := dkwX0_mostOf_0 ++ []
theorem dksX0_mostOf_0 : cX0_mostOf.data.toList.drop 0 = dktX0_mostOf_0 := by decide +kernel
theorem dX0_mostOf_0 : decode cX0_mostOf 0 = .ok (.iload_n 0, 1) := dk_26 (dk_at dksX0_mostOf_0 0 rfl rfl)
theorem dX0_mostOf_1 : decode cX0_mostOf 1 = .ok (.iconst 3, 1) := dk_6 (dk_at dksX0_mostOf_0 1 rfl rfl)
theorem dX0_mostOf_2 : decode cX0_mostOf 2 = .ok (.if_icmp .ne 8, 3) := dk_160 0 8 (dk_at dksX0_mostOf_0 2 rfl rfl)
theorem dX0_mostOf_5 : decode cX0_mostOf 5 = .ok (.bipush 99, 2) := dk_16 99 (dk_at dksX0_mostOf_0 5 rfl rfl)
theorem dX0_mostOf_7 : decode cX0_mostOf 7 = .ok (.goto 5, 3) := dk_167 0 5 (dk_at dksX0_mostOf_0 7 rfl rfl)
theorem dX0_mostOf_10 : decode cX0_mostOf 10 = .ok (.bipush 9, 2) := dk_16 9 (dk_at dksX0_mostOf_0 10 rfl rfl)
theorem dX0_mostOf_12 : decode cX0_mostOf 12 = .ok (.ireturn, 1) := dk_172 (dk_at dksX0_mostOf_0 12 rfl rfl)
abbrev cX0_set : ByteArray := prog_1_method_19_code
def yX0_set : MethodName := ⟨RX0, "set", "(II)I"⟩
def dkwX0_set_1 : List UInt8 := [180, 0, 22, 180, 0, 222, 27, 46, 62, 42, 180, 0, 22, 180, 0, 222, 27, 28, 79, 29, 172]
abbrev dktX0_set_1 : List UInt8 := dkwX0_set_1 ++ []
def dkwX0_set_0 : List UInt8 := [27, 3, 6, 184, 0, 115, 153, 0, 15, 28, 3, 27, 184, 0, 218, 184, 0, 115, 154, 0, 5, 2, 172, 42]
abbrev dktX0_set_0 : List UInt8 := dkwX0_set_0 ++ dktX0_set_1
theorem dksX0_set_0 : cX0_set.data.toList.drop 0 = dktX0_set_0 := by decide +kernel
theorem dksX0_set_1 : cX0_set.data.toList.drop 24 = dktX0_set_1 := dk_seg dksX0_set_0 24 rfl rfl
theorem dX0_set_0 : decode cX0_set 0 = .ok (.iload_n 1, 1) := dk_27 (dk_at dksX0_set_0 0 rfl rfl)
theorem dX0_set_1 : decode cX0_set 1 = .ok (.iconst 0, 1) := dk_3 (dk_at dksX0_set_0 1 rfl rfl)
theorem dX0_set_2 : decode cX0_set 2 = .ok (.iconst 3, 1) := dk_6 (dk_at dksX0_set_0 2 rfl rfl)
theorem dX0_set_3 : decode cX0_set 3 = .ok (.invokestatic 115, 3) := dk_184 0 115 (dk_at dksX0_set_0 3 rfl rfl)
theorem dX0_set_6 : decode cX0_set 6 = .ok (.ifCond .eq 15, 3) := dk_153 0 15 (dk_at dksX0_set_0 6 rfl rfl)
theorem dX0_set_9 : decode cX0_set 9 = .ok (.iload_n 2, 1) := dk_28 (dk_at dksX0_set_0 9 rfl rfl)
theorem dX0_set_10 : decode cX0_set 10 = .ok (.iconst 0, 1) := dk_3 (dk_at dksX0_set_0 10 rfl rfl)
theorem dX0_set_11 : decode cX0_set 11 = .ok (.iload_n 1, 1) := dk_27 (dk_at dksX0_set_0 11 rfl rfl)
theorem dX0_set_12 : decode cX0_set 12 = .ok (.invokestatic 218, 3) := dk_184 0 218 (dk_at dksX0_set_0 12 rfl rfl)
theorem dX0_set_15 : decode cX0_set 15 = .ok (.invokestatic 115, 3) := dk_184 0 115 (dk_at dksX0_set_0 15 rfl rfl)
theorem dX0_set_18 : decode cX0_set 18 = .ok (.ifCond .ne 5, 3) := dk_154 0 5 (dk_at dksX0_set_0 18 rfl rfl)
theorem dX0_set_21 : decode cX0_set 21 = .ok (.iconst (-1), 1) := dk_2 (dk_at dksX0_set_0 21 rfl rfl)
theorem dX0_set_22 : decode cX0_set 22 = .ok (.ireturn, 1) := dk_172 (dk_at dksX0_set_0 22 rfl rfl)
theorem dX0_set_23 : decode cX0_set 23 = .ok (.aload_n 0, 1) := dk_42 (dk_at dksX0_set_0 23 rfl rfl)
theorem dX0_set_24 : decode cX0_set 24 = .ok (.getfield 22, 3) := dk_180 0 22 (dk_at dksX0_set_1 0 rfl rfl)
theorem dX0_set_27 : decode cX0_set 27 = .ok (.getfield 222, 3) := dk_180 0 222 (dk_at dksX0_set_1 3 rfl rfl)
theorem dX0_set_30 : decode cX0_set 30 = .ok (.iload_n 1, 1) := dk_27 (dk_at dksX0_set_1 6 rfl rfl)
theorem dX0_set_31 : decode cX0_set 31 = .ok (.iaload, 1) := dk_46 (dk_at dksX0_set_1 7 rfl rfl)
theorem dX0_set_32 : decode cX0_set 32 = .ok (.istore_n 3, 1) := dk_62 (dk_at dksX0_set_1 8 rfl rfl)
theorem dX0_set_33 : decode cX0_set 33 = .ok (.aload_n 0, 1) := dk_42 (dk_at dksX0_set_1 9 rfl rfl)
theorem dX0_set_34 : decode cX0_set 34 = .ok (.getfield 22, 3) := dk_180 0 22 (dk_at dksX0_set_1 10 rfl rfl)
theorem dX0_set_37 : decode cX0_set 37 = .ok (.getfield 222, 3) := dk_180 0 222 (dk_at dksX0_set_1 13 rfl rfl)
theorem dX0_set_40 : decode cX0_set 40 = .ok (.iload_n 1, 1) := dk_27 (dk_at dksX0_set_1 16 rfl rfl)
theorem dX0_set_41 : decode cX0_set 41 = .ok (.iload_n 2, 1) := dk_28 (dk_at dksX0_set_1 17 rfl rfl)
theorem dX0_set_42 : decode cX0_set 42 = .ok (.iastore, 1) := dk_79 (dk_at dksX0_set_1 18 rfl rfl)
theorem dX0_set_43 : decode cX0_set 43 = .ok (.iload_n 3, 1) := dk_29 (dk_at dksX0_set_1 19 rfl rfl)
theorem dX0_set_44 : decode cX0_set 44 = .ok (.ireturn, 1) := dk_172 (dk_at dksX0_set_1 20 rfl rfl)
abbrev cX0_lawOf : ByteArray := prog_1_method_20_code
def yX0_lawOf : MethodName := ⟨RX0, "lawOf", "(I)I"⟩
def dkwX0_lawOf_0 : List UInt8 := [27, 3, 6, 184, 0, 115, 153, 0, 15, 42, 180, 0, 22, 180, 0, 222, 27, 46, 167, 0, 4, 2, 172]
abbrev dktX0_lawOf_0 : List UInt8 := dkwX0_lawOf_0 ++ []
theorem dksX0_lawOf_0 : cX0_lawOf.data.toList.drop 0 = dktX0_lawOf_0 := by decide +kernel
theorem dX0_lawOf_0 : decode cX0_lawOf 0 = .ok (.iload_n 1, 1) := dk_27 (dk_at dksX0_lawOf_0 0 rfl rfl)
theorem dX0_lawOf_1 : decode cX0_lawOf 1 = .ok (.iconst 0, 1) := dk_3 (dk_at dksX0_lawOf_0 1 rfl rfl)
theorem dX0_lawOf_2 : decode cX0_lawOf 2 = .ok (.iconst 3, 1) := dk_6 (dk_at dksX0_lawOf_0 2 rfl rfl)
theorem dX0_lawOf_3 : decode cX0_lawOf 3 = .ok (.invokestatic 115, 3) := dk_184 0 115 (dk_at dksX0_lawOf_0 3 rfl rfl)
theorem dX0_lawOf_6 : decode cX0_lawOf 6 = .ok (.ifCond .eq 15, 3) := dk_153 0 15 (dk_at dksX0_lawOf_0 6 rfl rfl)
theorem dX0_lawOf_9 : decode cX0_lawOf 9 = .ok (.aload_n 0, 1) := dk_42 (dk_at dksX0_lawOf_0 9 rfl rfl)
theorem dX0_lawOf_10 : decode cX0_lawOf 10 = .ok (.getfield 22, 3) := dk_180 0 22 (dk_at dksX0_lawOf_0 10 rfl rfl)
theorem dX0_lawOf_13 : decode cX0_lawOf 13 = .ok (.getfield 222, 3) := dk_180 0 222 (dk_at dksX0_lawOf_0 13 rfl rfl)
theorem dX0_lawOf_16 : decode cX0_lawOf 16 = .ok (.iload_n 1, 1) := dk_27 (dk_at dksX0_lawOf_0 16 rfl rfl)
theorem dX0_lawOf_17 : decode cX0_lawOf 17 = .ok (.iaload, 1) := dk_46 (dk_at dksX0_lawOf_0 17 rfl rfl)
theorem dX0_lawOf_18 : decode cX0_lawOf 18 = .ok (.goto 4, 3) := dk_167 0 4 (dk_at dksX0_lawOf_0 18 rfl rfl)
theorem dX0_lawOf_21 : decode cX0_lawOf 21 = .ok (.iconst (-1), 1) := dk_2 (dk_at dksX0_lawOf_0 21 rfl rfl)
theorem dX0_lawOf_22 : decode cX0_lawOf 22 = .ok (.ireturn, 1) := dk_172 (dk_at dksX0_lawOf_0 22 rfl rfl)
abbrev cX0_fill : ByteArray := prog_1_method_23_code
def yX0_fill : MethodName := ⟨RX0, "fill", "(III)I"⟩
def dkwX0_fill_2 : List UInt8 := [27, 29, 184, 0, 228, 167, 0, 4, 2, 172]
abbrev dktX0_fill_2 : List UInt8 := dkwX0_fill_2 ++ []
def dkwX0_fill_1 : List UInt8 := [153, 0, 32, 28, 154, 0, 13, 42, 180, 0, 22, 180, 0, 126, 167, 0, 10, 42, 180, 0, 22, 180, 0, 153]
abbrev dktX0_fill_1 : List UInt8 := dkwX0_fill_1 ++ dktX0_fill_2
def dkwX0_fill_0 : List UInt8 := [27, 184, 0, 225, 153, 0, 51, 28, 3, 4, 184, 0, 115, 153, 0, 42, 29, 3, 16, 9, 184, 0, 115]
abbrev dktX0_fill_0 : List UInt8 := dkwX0_fill_0 ++ dktX0_fill_1
theorem dksX0_fill_0 : cX0_fill.data.toList.drop 0 = dktX0_fill_0 := by decide +kernel
theorem dksX0_fill_1 : cX0_fill.data.toList.drop 23 = dktX0_fill_1 := dk_seg dksX0_fill_0 23 rfl rfl
theorem dksX0_fill_2 : cX0_fill.data.toList.drop 47 = dktX0_fill_2 := dk_seg dksX0_fill_1 24 rfl rfl
theorem dX0_fill_0 : decode cX0_fill 0 = .ok (.iload_n 1, 1) := dk_27 (dk_at dksX0_fill_0 0 rfl rfl)
theorem dX0_fill_1 : decode cX0_fill 1 = .ok (.invokestatic 225, 3) := dk_184 0 225 (dk_at dksX0_fill_0 1 rfl rfl)
theorem dX0_fill_4 : decode cX0_fill 4 = .ok (.ifCond .eq 51, 3) := dk_153 0 51 (dk_at dksX0_fill_0 4 rfl rfl)
theorem dX0_fill_7 : decode cX0_fill 7 = .ok (.iload_n 2, 1) := dk_28 (dk_at dksX0_fill_0 7 rfl rfl)
theorem dX0_fill_8 : decode cX0_fill 8 = .ok (.iconst 0, 1) := dk_3 (dk_at dksX0_fill_0 8 rfl rfl)
theorem dX0_fill_9 : decode cX0_fill 9 = .ok (.iconst 1, 1) := dk_4 (dk_at dksX0_fill_0 9 rfl rfl)
theorem dX0_fill_10 : decode cX0_fill 10 = .ok (.invokestatic 115, 3) := dk_184 0 115 (dk_at dksX0_fill_0 10 rfl rfl)
theorem dX0_fill_13 : decode cX0_fill 13 = .ok (.ifCond .eq 42, 3) := dk_153 0 42 (dk_at dksX0_fill_0 13 rfl rfl)
theorem dX0_fill_16 : decode cX0_fill 16 = .ok (.iload_n 3, 1) := dk_29 (dk_at dksX0_fill_0 16 rfl rfl)
theorem dX0_fill_17 : decode cX0_fill 17 = .ok (.iconst 0, 1) := dk_3 (dk_at dksX0_fill_0 17 rfl rfl)
theorem dX0_fill_18 : decode cX0_fill 18 = .ok (.bipush 9, 2) := dk_16 9 (dk_at dksX0_fill_0 18 rfl rfl)
theorem dX0_fill_20 : decode cX0_fill 20 = .ok (.invokestatic 115, 3) := dk_184 0 115 (dk_at dksX0_fill_0 20 rfl rfl)
theorem dX0_fill_23 : decode cX0_fill 23 = .ok (.ifCond .eq 32, 3) := dk_153 0 32 (dk_at dksX0_fill_1 0 rfl rfl)
theorem dX0_fill_26 : decode cX0_fill 26 = .ok (.iload_n 2, 1) := dk_28 (dk_at dksX0_fill_1 3 rfl rfl)
theorem dX0_fill_27 : decode cX0_fill 27 = .ok (.ifCond .ne 13, 3) := dk_154 0 13 (dk_at dksX0_fill_1 4 rfl rfl)
theorem dX0_fill_30 : decode cX0_fill 30 = .ok (.aload_n 0, 1) := dk_42 (dk_at dksX0_fill_1 7 rfl rfl)
theorem dX0_fill_31 : decode cX0_fill 31 = .ok (.getfield 22, 3) := dk_180 0 22 (dk_at dksX0_fill_1 8 rfl rfl)
theorem dX0_fill_34 : decode cX0_fill 34 = .ok (.getfield 126, 3) := dk_180 0 126 (dk_at dksX0_fill_1 11 rfl rfl)
theorem dX0_fill_37 : decode cX0_fill 37 = .ok (.goto 10, 3) := dk_167 0 10 (dk_at dksX0_fill_1 14 rfl rfl)
theorem dX0_fill_40 : decode cX0_fill 40 = .ok (.aload_n 0, 1) := dk_42 (dk_at dksX0_fill_1 17 rfl rfl)
theorem dX0_fill_41 : decode cX0_fill 41 = .ok (.getfield 22, 3) := dk_180 0 22 (dk_at dksX0_fill_1 18 rfl rfl)
theorem dX0_fill_44 : decode cX0_fill 44 = .ok (.getfield 153, 3) := dk_180 0 153 (dk_at dksX0_fill_1 21 rfl rfl)
theorem dX0_fill_47 : decode cX0_fill 47 = .ok (.iload_n 1, 1) := dk_27 (dk_at dksX0_fill_2 0 rfl rfl)
theorem dX0_fill_48 : decode cX0_fill 48 = .ok (.iload_n 3, 1) := dk_29 (dk_at dksX0_fill_2 1 rfl rfl)
theorem dX0_fill_49 : decode cX0_fill 49 = .ok (.invokestatic 228, 3) := dk_184 0 228 (dk_at dksX0_fill_2 2 rfl rfl)
theorem dX0_fill_52 : decode cX0_fill 52 = .ok (.goto 4, 3) := dk_167 0 4 (dk_at dksX0_fill_2 5 rfl rfl)
theorem dX0_fill_55 : decode cX0_fill 55 = .ok (.iconst (-1), 1) := dk_2 (dk_at dksX0_fill_2 8 rfl rfl)
theorem dX0_fill_56 : decode cX0_fill 56 = .ok (.ireturn, 1) := dk_172 (dk_at dksX0_fill_2 9 rfl rfl)
abbrev cX0_isVat : ByteArray := prog_1_method_8_code
def yX0_isVat : MethodName := ⟨RX0, "isVat", "(I)Z"⟩
def dkwX0_isVat_0 : List UInt8 := [26, 3, 16, 7, 184, 0, 115, 172]
abbrev dktX0_isVat_0 : List UInt8 := dkwX0_isVat_0 ++ []
theorem dksX0_isVat_0 : cX0_isVat.data.toList.drop 0 = dktX0_isVat_0 := by decide +kernel
theorem dX0_isVat_0 : decode cX0_isVat 0 = .ok (.iload_n 0, 1) := dk_26 (dk_at dksX0_isVat_0 0 rfl rfl)
theorem dX0_isVat_1 : decode cX0_isVat 1 = .ok (.iconst 0, 1) := dk_3 (dk_at dksX0_isVat_0 1 rfl rfl)
theorem dX0_isVat_2 : decode cX0_isVat 2 = .ok (.bipush 7, 2) := dk_16 7 (dk_at dksX0_isVat_0 2 rfl rfl)
theorem dX0_isVat_4 : decode cX0_isVat 4 = .ok (.invokestatic 115, 3) := dk_184 0 115 (dk_at dksX0_isVat_0 4 rfl rfl)
theorem dX0_isVat_7 : decode cX0_isVat 7 = .ok (.ireturn, 1) := dk_172 (dk_at dksX0_isVat_0 7 rfl rfl)
abbrev cX0_becomes : ByteArray := prog_1_method_22_code
def yX0_becomes : MethodName := ⟨RX0, "becomes", "([III)I"⟩
def dkwX0_becomes_0 : List UInt8 := [42, 27, 46, 62, 42, 27, 28, 79, 29, 172]
abbrev dktX0_becomes_0 : List UInt8 := dkwX0_becomes_0 ++ []
theorem dksX0_becomes_0 : cX0_becomes.data.toList.drop 0 = dktX0_becomes_0 := by decide +kernel
theorem dX0_becomes_0 : decode cX0_becomes 0 = .ok (.aload_n 0, 1) := dk_42 (dk_at dksX0_becomes_0 0 rfl rfl)
theorem dX0_becomes_1 : decode cX0_becomes 1 = .ok (.iload_n 1, 1) := dk_27 (dk_at dksX0_becomes_0 1 rfl rfl)
theorem dX0_becomes_2 : decode cX0_becomes 2 = .ok (.iaload, 1) := dk_46 (dk_at dksX0_becomes_0 2 rfl rfl)
theorem dX0_becomes_3 : decode cX0_becomes 3 = .ok (.istore_n 3, 1) := dk_62 (dk_at dksX0_becomes_0 3 rfl rfl)
theorem dX0_becomes_4 : decode cX0_becomes 4 = .ok (.aload_n 0, 1) := dk_42 (dk_at dksX0_becomes_0 4 rfl rfl)
theorem dX0_becomes_5 : decode cX0_becomes 5 = .ok (.iload_n 1, 1) := dk_27 (dk_at dksX0_becomes_0 5 rfl rfl)
theorem dX0_becomes_6 : decode cX0_becomes 6 = .ok (.iload_n 2, 1) := dk_28 (dk_at dksX0_becomes_0 6 rfl rfl)
theorem dX0_becomes_7 : decode cX0_becomes 7 = .ok (.iastore, 1) := dk_79 (dk_at dksX0_becomes_0 7 rfl rfl)
theorem dX0_becomes_8 : decode cX0_becomes 8 = .ok (.iload_n 3, 1) := dk_29 (dk_at dksX0_becomes_0 8 rfl rfl)
theorem dX0_becomes_9 : decode cX0_becomes 9 = .ok (.ireturn, 1) := dk_172 (dk_at dksX0_becomes_0 9 rfl rfl)
abbrev cX0_vatOf : ByteArray := prog_1_method_24_code
def yX0_vatOf : MethodName := ⟨RX0, "vatOf", "(II)I"⟩
def dkwX0_vatOf_1 : List UInt8 := [180, 0, 22, 180, 0, 126, 27, 46, 167, 0, 12, 42, 180, 0, 22, 180, 0, 153, 27, 46, 172]
abbrev dktX0_vatOf_1 : List UInt8 := dkwX0_vatOf_1 ++ []
def dkwX0_vatOf_0 : List UInt8 := [27, 184, 0, 225, 153, 0, 12, 28, 3, 4, 184, 0, 115, 154, 0, 5, 2, 172, 28, 154, 0, 15, 42]
abbrev dktX0_vatOf_0 : List UInt8 := dkwX0_vatOf_0 ++ dktX0_vatOf_1
theorem dksX0_vatOf_0 : cX0_vatOf.data.toList.drop 0 = dktX0_vatOf_0 := by decide +kernel
theorem dksX0_vatOf_1 : cX0_vatOf.data.toList.drop 23 = dktX0_vatOf_1 := dk_seg dksX0_vatOf_0 23 rfl rfl
theorem dX0_vatOf_0 : decode cX0_vatOf 0 = .ok (.iload_n 1, 1) := dk_27 (dk_at dksX0_vatOf_0 0 rfl rfl)
theorem dX0_vatOf_1 : decode cX0_vatOf 1 = .ok (.invokestatic 225, 3) := dk_184 0 225 (dk_at dksX0_vatOf_0 1 rfl rfl)
theorem dX0_vatOf_4 : decode cX0_vatOf 4 = .ok (.ifCond .eq 12, 3) := dk_153 0 12 (dk_at dksX0_vatOf_0 4 rfl rfl)
theorem dX0_vatOf_7 : decode cX0_vatOf 7 = .ok (.iload_n 2, 1) := dk_28 (dk_at dksX0_vatOf_0 7 rfl rfl)
theorem dX0_vatOf_8 : decode cX0_vatOf 8 = .ok (.iconst 0, 1) := dk_3 (dk_at dksX0_vatOf_0 8 rfl rfl)
theorem dX0_vatOf_9 : decode cX0_vatOf 9 = .ok (.iconst 1, 1) := dk_4 (dk_at dksX0_vatOf_0 9 rfl rfl)
theorem dX0_vatOf_10 : decode cX0_vatOf 10 = .ok (.invokestatic 115, 3) := dk_184 0 115 (dk_at dksX0_vatOf_0 10 rfl rfl)
theorem dX0_vatOf_13 : decode cX0_vatOf 13 = .ok (.ifCond .ne 5, 3) := dk_154 0 5 (dk_at dksX0_vatOf_0 13 rfl rfl)
theorem dX0_vatOf_16 : decode cX0_vatOf 16 = .ok (.iconst (-1), 1) := dk_2 (dk_at dksX0_vatOf_0 16 rfl rfl)
theorem dX0_vatOf_17 : decode cX0_vatOf 17 = .ok (.ireturn, 1) := dk_172 (dk_at dksX0_vatOf_0 17 rfl rfl)
theorem dX0_vatOf_18 : decode cX0_vatOf 18 = .ok (.iload_n 2, 1) := dk_28 (dk_at dksX0_vatOf_0 18 rfl rfl)
theorem dX0_vatOf_19 : decode cX0_vatOf 19 = .ok (.ifCond .ne 15, 3) := dk_154 0 15 (dk_at dksX0_vatOf_0 19 rfl rfl)
theorem dX0_vatOf_22 : decode cX0_vatOf 22 = .ok (.aload_n 0, 1) := dk_42 (dk_at dksX0_vatOf_0 22 rfl rfl)
theorem dX0_vatOf_23 : decode cX0_vatOf 23 = .ok (.getfield 22, 3) := dk_180 0 22 (dk_at dksX0_vatOf_1 0 rfl rfl)
theorem dX0_vatOf_26 : decode cX0_vatOf 26 = .ok (.getfield 126, 3) := dk_180 0 126 (dk_at dksX0_vatOf_1 3 rfl rfl)
theorem dX0_vatOf_29 : decode cX0_vatOf 29 = .ok (.iload_n 1, 1) := dk_27 (dk_at dksX0_vatOf_1 6 rfl rfl)
theorem dX0_vatOf_30 : decode cX0_vatOf 30 = .ok (.iaload, 1) := dk_46 (dk_at dksX0_vatOf_1 7 rfl rfl)
theorem dX0_vatOf_31 : decode cX0_vatOf 31 = .ok (.goto 12, 3) := dk_167 0 12 (dk_at dksX0_vatOf_1 8 rfl rfl)
theorem dX0_vatOf_34 : decode cX0_vatOf 34 = .ok (.aload_n 0, 1) := dk_42 (dk_at dksX0_vatOf_1 11 rfl rfl)
theorem dX0_vatOf_35 : decode cX0_vatOf 35 = .ok (.getfield 22, 3) := dk_180 0 22 (dk_at dksX0_vatOf_1 12 rfl rfl)
theorem dX0_vatOf_38 : decode cX0_vatOf 38 = .ok (.getfield 153, 3) := dk_180 0 153 (dk_at dksX0_vatOf_1 15 rfl rfl)
theorem dX0_vatOf_41 : decode cX0_vatOf 41 = .ok (.iload_n 1, 1) := dk_27 (dk_at dksX0_vatOf_1 18 rfl rfl)
theorem dX0_vatOf_42 : decode cX0_vatOf 42 = .ok (.iaload, 1) := dk_46 (dk_at dksX0_vatOf_1 19 rfl rfl)
theorem dX0_vatOf_43 : decode cX0_vatOf 43 = .ok (.ireturn, 1) := dk_172 (dk_at dksX0_vatOf_1 20 rfl rfl)
abbrev cX0_roster : ByteArray := prog_1_method_25_code
def yX0_roster : MethodName := ⟨RX0, "roster", "(II)I"⟩
def dkwX0_roster_1 : List UInt8 := [180, 0, 235, 27, 28, 184, 0, 228, 96, 167, 0, 4, 2, 172]
abbrev dktX0_roster_1 : List UInt8 := dkwX0_roster_1 ++ []
def dkwX0_roster_0 : List UInt8 := [27, 184, 0, 232, 153, 0, 30, 28, 2, 16, 7, 184, 0, 115, 153, 0, 20, 4, 42, 180, 0, 22]
abbrev dktX0_roster_0 : List UInt8 := dkwX0_roster_0 ++ dktX0_roster_1
theorem dksX0_roster_0 : cX0_roster.data.toList.drop 0 = dktX0_roster_0 := by decide +kernel
theorem dksX0_roster_1 : cX0_roster.data.toList.drop 22 = dktX0_roster_1 := dk_seg dksX0_roster_0 22 rfl rfl
theorem dX0_roster_0 : decode cX0_roster 0 = .ok (.iload_n 1, 1) := dk_27 (dk_at dksX0_roster_0 0 rfl rfl)
theorem dX0_roster_1 : decode cX0_roster 1 = .ok (.invokestatic 232, 3) := dk_184 0 232 (dk_at dksX0_roster_0 1 rfl rfl)
theorem dX0_roster_4 : decode cX0_roster 4 = .ok (.ifCond .eq 30, 3) := dk_153 0 30 (dk_at dksX0_roster_0 4 rfl rfl)
theorem dX0_roster_7 : decode cX0_roster 7 = .ok (.iload_n 2, 1) := dk_28 (dk_at dksX0_roster_0 7 rfl rfl)
theorem dX0_roster_8 : decode cX0_roster 8 = .ok (.iconst (-1), 1) := dk_2 (dk_at dksX0_roster_0 8 rfl rfl)
theorem dX0_roster_9 : decode cX0_roster 9 = .ok (.bipush 7, 2) := dk_16 7 (dk_at dksX0_roster_0 9 rfl rfl)
theorem dX0_roster_11 : decode cX0_roster 11 = .ok (.invokestatic 115, 3) := dk_184 0 115 (dk_at dksX0_roster_0 11 rfl rfl)
theorem dX0_roster_14 : decode cX0_roster 14 = .ok (.ifCond .eq 20, 3) := dk_153 0 20 (dk_at dksX0_roster_0 14 rfl rfl)
theorem dX0_roster_17 : decode cX0_roster 17 = .ok (.iconst 1, 1) := dk_4 (dk_at dksX0_roster_0 17 rfl rfl)
theorem dX0_roster_18 : decode cX0_roster 18 = .ok (.aload_n 0, 1) := dk_42 (dk_at dksX0_roster_0 18 rfl rfl)
theorem dX0_roster_19 : decode cX0_roster 19 = .ok (.getfield 22, 3) := dk_180 0 22 (dk_at dksX0_roster_0 19 rfl rfl)
theorem dX0_roster_22 : decode cX0_roster 22 = .ok (.getfield 235, 3) := dk_180 0 235 (dk_at dksX0_roster_1 0 rfl rfl)
theorem dX0_roster_25 : decode cX0_roster 25 = .ok (.iload_n 1, 1) := dk_27 (dk_at dksX0_roster_1 3 rfl rfl)
theorem dX0_roster_26 : decode cX0_roster 26 = .ok (.iload_n 2, 1) := dk_28 (dk_at dksX0_roster_1 4 rfl rfl)
theorem dX0_roster_27 : decode cX0_roster 27 = .ok (.invokestatic 228, 3) := dk_184 0 228 (dk_at dksX0_roster_1 5 rfl rfl)
theorem dX0_roster_30 : decode cX0_roster 30 = .ok (.iadd, 1) := dk_96 (dk_at dksX0_roster_1 8 rfl rfl)
theorem dX0_roster_31 : decode cX0_roster 31 = .ok (.goto 4, 3) := dk_167 0 4 (dk_at dksX0_roster_1 9 rfl rfl)
theorem dX0_roster_34 : decode cX0_roster 34 = .ok (.iconst (-1), 1) := dk_2 (dk_at dksX0_roster_1 12 rfl rfl)
theorem dX0_roster_35 : decode cX0_roster 35 = .ok (.ireturn, 1) := dk_172 (dk_at dksX0_roster_1 13 rfl rfl)
abbrev cX0_isRest : ByteArray := prog_1_method_9_code
def yX0_isRest : MethodName := ⟨RX0, "isRest", "(I)Z"⟩
def dkwX0_isRest_0 : List UInt8 := [26, 3, 8, 184, 0, 115, 172]
abbrev dktX0_isRest_0 : List UInt8 := dkwX0_isRest_0 ++ []
theorem dksX0_isRest_0 : cX0_isRest.data.toList.drop 0 = dktX0_isRest_0 := by decide +kernel
theorem dX0_isRest_0 : decode cX0_isRest 0 = .ok (.iload_n 0, 1) := dk_26 (dk_at dksX0_isRest_0 0 rfl rfl)
theorem dX0_isRest_1 : decode cX0_isRest 1 = .ok (.iconst 0, 1) := dk_3 (dk_at dksX0_isRest_0 1 rfl rfl)
theorem dX0_isRest_2 : decode cX0_isRest 2 = .ok (.iconst 5, 1) := dk_8 (dk_at dksX0_isRest_0 2 rfl rfl)
theorem dX0_isRest_3 : decode cX0_isRest 3 = .ok (.invokestatic 115, 3) := dk_184 0 115 (dk_at dksX0_isRest_0 3 rfl rfl)
theorem dX0_isRest_6 : decode cX0_isRest 6 = .ok (.ireturn, 1) := dk_172 (dk_at dksX0_isRest_0 6 rfl rfl)
abbrev cX0_rosterOf : ByteArray := prog_1_method_26_code
def yX0_rosterOf : MethodName := ⟨RX0, "rosterOf", "(I)I"⟩
def dkwX0_rosterOf_0 : List UInt8 := [27, 184, 0, 232, 153, 0, 17, 4, 42, 180, 0, 22, 180, 0, 235, 27, 46, 96, 167, 0, 4, 2, 172]
abbrev dktX0_rosterOf_0 : List UInt8 := dkwX0_rosterOf_0 ++ []
theorem dksX0_rosterOf_0 : cX0_rosterOf.data.toList.drop 0 = dktX0_rosterOf_0 := by decide +kernel
theorem dX0_rosterOf_0 : decode cX0_rosterOf 0 = .ok (.iload_n 1, 1) := dk_27 (dk_at dksX0_rosterOf_0 0 rfl rfl)
theorem dX0_rosterOf_1 : decode cX0_rosterOf 1 = .ok (.invokestatic 232, 3) := dk_184 0 232 (dk_at dksX0_rosterOf_0 1 rfl rfl)
theorem dX0_rosterOf_4 : decode cX0_rosterOf 4 = .ok (.ifCond .eq 17, 3) := dk_153 0 17 (dk_at dksX0_rosterOf_0 4 rfl rfl)
theorem dX0_rosterOf_7 : decode cX0_rosterOf 7 = .ok (.iconst 1, 1) := dk_4 (dk_at dksX0_rosterOf_0 7 rfl rfl)
theorem dX0_rosterOf_8 : decode cX0_rosterOf 8 = .ok (.aload_n 0, 1) := dk_42 (dk_at dksX0_rosterOf_0 8 rfl rfl)
theorem dX0_rosterOf_9 : decode cX0_rosterOf 9 = .ok (.getfield 22, 3) := dk_180 0 22 (dk_at dksX0_rosterOf_0 9 rfl rfl)
theorem dX0_rosterOf_12 : decode cX0_rosterOf 12 = .ok (.getfield 235, 3) := dk_180 0 235 (dk_at dksX0_rosterOf_0 12 rfl rfl)
theorem dX0_rosterOf_15 : decode cX0_rosterOf 15 = .ok (.iload_n 1, 1) := dk_27 (dk_at dksX0_rosterOf_0 15 rfl rfl)
theorem dX0_rosterOf_16 : decode cX0_rosterOf 16 = .ok (.iaload, 1) := dk_46 (dk_at dksX0_rosterOf_0 16 rfl rfl)
theorem dX0_rosterOf_17 : decode cX0_rosterOf 17 = .ok (.iadd, 1) := dk_96 (dk_at dksX0_rosterOf_0 17 rfl rfl)
theorem dX0_rosterOf_18 : decode cX0_rosterOf 18 = .ok (.goto 4, 3) := dk_167 0 4 (dk_at dksX0_rosterOf_0 18 rfl rfl)
theorem dX0_rosterOf_21 : decode cX0_rosterOf 21 = .ok (.iconst (-1), 1) := dk_2 (dk_at dksX0_rosterOf_0 21 rfl rfl)
theorem dX0_rosterOf_22 : decode cX0_rosterOf 22 = .ok (.ireturn, 1) := dk_172 (dk_at dksX0_rosterOf_0 22 rfl rfl)
abbrev cX0_cloth : ByteArray := prog_1_method_27_code
def yX0_cloth : MethodName := ⟨RX0, "cloth", "(I)I"⟩
def dkwX0_cloth_1 : List UInt8 := [167, 0, 11, 42, 180, 0, 22, 27, 182, 0, 241, 172]
abbrev dktX0_cloth_1 : List UInt8 := dkwX0_cloth_1 ++ []
def dkwX0_cloth_0 : List UInt8 := [27, 184, 0, 238, 154, 0, 5, 2, 172, 42, 180, 0, 22, 180, 0, 111, 16, 8, 160, 0, 8, 16, 254]
abbrev dktX0_cloth_0 : List UInt8 := dkwX0_cloth_0 ++ dktX0_cloth_1
theorem dksX0_cloth_0 : cX0_cloth.data.toList.drop 0 = dktX0_cloth_0 := by decide +kernel
theorem dksX0_cloth_1 : cX0_cloth.data.toList.drop 23 = dktX0_cloth_1 := dk_seg dksX0_cloth_0 23 rfl rfl
theorem dX0_cloth_0 : decode cX0_cloth 0 = .ok (.iload_n 1, 1) := dk_27 (dk_at dksX0_cloth_0 0 rfl rfl)
theorem dX0_cloth_1 : decode cX0_cloth 1 = .ok (.invokestatic 238, 3) := dk_184 0 238 (dk_at dksX0_cloth_0 1 rfl rfl)
theorem dX0_cloth_4 : decode cX0_cloth 4 = .ok (.ifCond .ne 5, 3) := dk_154 0 5 (dk_at dksX0_cloth_0 4 rfl rfl)
theorem dX0_cloth_7 : decode cX0_cloth 7 = .ok (.iconst (-1), 1) := dk_2 (dk_at dksX0_cloth_0 7 rfl rfl)
theorem dX0_cloth_8 : decode cX0_cloth 8 = .ok (.ireturn, 1) := dk_172 (dk_at dksX0_cloth_0 8 rfl rfl)
theorem dX0_cloth_9 : decode cX0_cloth 9 = .ok (.aload_n 0, 1) := dk_42 (dk_at dksX0_cloth_0 9 rfl rfl)
theorem dX0_cloth_10 : decode cX0_cloth 10 = .ok (.getfield 22, 3) := dk_180 0 22 (dk_at dksX0_cloth_0 10 rfl rfl)
theorem dX0_cloth_13 : decode cX0_cloth 13 = .ok (.getfield 111, 3) := dk_180 0 111 (dk_at dksX0_cloth_0 13 rfl rfl)
theorem dX0_cloth_16 : decode cX0_cloth 16 = .ok (.bipush 8, 2) := dk_16 8 (dk_at dksX0_cloth_0 16 rfl rfl)
theorem dX0_cloth_18 : decode cX0_cloth 18 = .ok (.if_icmp .ne 8, 3) := dk_160 0 8 (dk_at dksX0_cloth_0 18 rfl rfl)
theorem dX0_cloth_21 : decode cX0_cloth 21 = .ok (.bipush (-2), 2) := dk_16 254 (dk_at dksX0_cloth_0 21 rfl rfl)
theorem dX0_cloth_23 : decode cX0_cloth 23 = .ok (.goto 11, 3) := dk_167 0 11 (dk_at dksX0_cloth_1 0 rfl rfl)
theorem dX0_cloth_26 : decode cX0_cloth 26 = .ok (.aload_n 0, 1) := dk_42 (dk_at dksX0_cloth_1 3 rfl rfl)
theorem dX0_cloth_27 : decode cX0_cloth 27 = .ok (.getfield 22, 3) := dk_180 0 22 (dk_at dksX0_cloth_1 4 rfl rfl)
theorem dX0_cloth_30 : decode cX0_cloth 30 = .ok (.iload_n 1, 1) := dk_27 (dk_at dksX0_cloth_1 7 rfl rfl)
theorem dX0_cloth_31 : decode cX0_cloth 31 = .ok (.invokevirtual 241, 3) := dk_182 0 241 (dk_at dksX0_cloth_1 8 rfl rfl)
theorem dX0_cloth_34 : decode cX0_cloth 34 = .ok (.ireturn, 1) := dk_172 (dk_at dksX0_cloth_1 11 rfl rfl)
abbrev cX0_isKind : ByteArray := prog_1_method_21_code
def yX0_isKind : MethodName := ⟨RX0, "isKind", "(I)Z"⟩
def dkwX0_isKind_0 : List UInt8 := [26, 3, 8, 184, 0, 115, 172]
abbrev dktX0_isKind_0 : List UInt8 := dkwX0_isKind_0 ++ []
theorem dksX0_isKind_0 : cX0_isKind.data.toList.drop 0 = dktX0_isKind_0 := by decide +kernel
theorem dX0_isKind_0 : decode cX0_isKind 0 = .ok (.iload_n 0, 1) := dk_26 (dk_at dksX0_isKind_0 0 rfl rfl)
theorem dX0_isKind_1 : decode cX0_isKind 1 = .ok (.iconst 0, 1) := dk_3 (dk_at dksX0_isKind_0 1 rfl rfl)
theorem dX0_isKind_2 : decode cX0_isKind 2 = .ok (.iconst 5, 1) := dk_8 (dk_at dksX0_isKind_0 2 rfl rfl)
theorem dX0_isKind_3 : decode cX0_isKind 3 = .ok (.invokestatic 115, 3) := dk_184 0 115 (dk_at dksX0_isKind_0 3 rfl rfl)
theorem dX0_isKind_6 : decode cX0_isKind 6 = .ok (.ireturn, 1) := dk_172 (dk_at dksX0_isKind_0 6 rfl rfl)
abbrev cX0_of : ByteArray := prog_1_method_28_code
def yX0_of : MethodName := ⟨RX0, "of", "(II)I"⟩
def dkwX0_of_4 : List UInt8 := [3, 172, 42, 180, 0, 22, 180, 0, 146, 27, 46, 172, 2, 172]
abbrev dktX0_of_4 : List UInt8 := dkwX0_of_4 ++ []
def dkwX0_of_3 : List UInt8 := [180, 0, 22, 180, 0, 132, 27, 46, 172, 42, 180, 0, 22, 27, 182, 0, 163, 153, 0, 7, 4, 167, 0, 4]
abbrev dktX0_of_3 : List UInt8 := dkwX0_of_3 ++ dktX0_of_4
def dkwX0_of_2 : List UInt8 := [42, 180, 0, 22, 180, 0, 119, 27, 46, 172, 4, 42, 180, 0, 22, 180, 0, 129, 27, 46, 96, 172, 42]
abbrev dktX0_of_2 : List UInt8 := dkwX0_of_2 ++ dktX0_of_3
def dkwX0_of_1 : List UInt8 := [170, 0, 0, 0, 92, 0, 0, 0, 0, 0, 0, 0, 4, 0, 0, 0, 33, 0, 0, 0, 43, 0, 0, 0, 55, 0, 0, 0, 65, 0, 0, 0, 82]
abbrev dktX0_of_1 : List UInt8 := dkwX0_of_1 ++ dktX0_of_2
def dkwX0_of_0 : List UInt8 := [42, 27, 182, 0, 244, 154, 0, 5, 2, 172, 28]
abbrev dktX0_of_0 : List UInt8 := dkwX0_of_0 ++ dktX0_of_1
theorem dksX0_of_0 : cX0_of.data.toList.drop 0 = dktX0_of_0 := by decide +kernel
theorem dksX0_of_1 : cX0_of.data.toList.drop 11 = dktX0_of_1 := dk_seg dksX0_of_0 11 rfl rfl
theorem dksX0_of_2 : cX0_of.data.toList.drop 44 = dktX0_of_2 := dk_seg dksX0_of_1 33 rfl rfl
theorem dksX0_of_3 : cX0_of.data.toList.drop 67 = dktX0_of_3 := dk_seg dksX0_of_2 23 rfl rfl
theorem dksX0_of_4 : cX0_of.data.toList.drop 91 = dktX0_of_4 := dk_seg dksX0_of_3 24 rfl rfl
theorem dX0_of_0 : decode cX0_of 0 = .ok (.aload_n 0, 1) := dk_42 (dk_at dksX0_of_0 0 rfl rfl)
theorem dX0_of_1 : decode cX0_of 1 = .ok (.iload_n 1, 1) := dk_27 (dk_at dksX0_of_0 1 rfl rfl)
theorem dX0_of_2 : decode cX0_of 2 = .ok (.invokevirtual 244, 3) := dk_182 0 244 (dk_at dksX0_of_0 2 rfl rfl)
theorem dX0_of_5 : decode cX0_of 5 = .ok (.ifCond .ne 5, 3) := dk_154 0 5 (dk_at dksX0_of_0 5 rfl rfl)
theorem dX0_of_8 : decode cX0_of 8 = .ok (.iconst (-1), 1) := dk_2 (dk_at dksX0_of_0 8 rfl rfl)
theorem dX0_of_9 : decode cX0_of 9 = .ok (.ireturn, 1) := dk_172 (dk_at dksX0_of_0 9 rfl rfl)
theorem dX0_of_10 : decode cX0_of 10 = .ok (.iload_n 2, 1) := dk_28 (dk_at dksX0_of_0 10 rfl rfl)
theorem dX0_of_11 : decode cX0_of 11 = .ok (.tableswitch 92 0 4 #[33, 43, 55, 65, 82], 33) := by decide +kernel
theorem dX0_of_44 : decode cX0_of 44 = .ok (.aload_n 0, 1) := dk_42 (dk_at dksX0_of_2 0 rfl rfl)
theorem dX0_of_45 : decode cX0_of 45 = .ok (.getfield 22, 3) := dk_180 0 22 (dk_at dksX0_of_2 1 rfl rfl)
theorem dX0_of_48 : decode cX0_of 48 = .ok (.getfield 119, 3) := dk_180 0 119 (dk_at dksX0_of_2 4 rfl rfl)
theorem dX0_of_51 : decode cX0_of 51 = .ok (.iload_n 1, 1) := dk_27 (dk_at dksX0_of_2 7 rfl rfl)
theorem dX0_of_52 : decode cX0_of 52 = .ok (.iaload, 1) := dk_46 (dk_at dksX0_of_2 8 rfl rfl)
theorem dX0_of_53 : decode cX0_of 53 = .ok (.ireturn, 1) := dk_172 (dk_at dksX0_of_2 9 rfl rfl)
theorem dX0_of_54 : decode cX0_of 54 = .ok (.iconst 1, 1) := dk_4 (dk_at dksX0_of_2 10 rfl rfl)
theorem dX0_of_55 : decode cX0_of 55 = .ok (.aload_n 0, 1) := dk_42 (dk_at dksX0_of_2 11 rfl rfl)
theorem dX0_of_56 : decode cX0_of 56 = .ok (.getfield 22, 3) := dk_180 0 22 (dk_at dksX0_of_2 12 rfl rfl)
theorem dX0_of_59 : decode cX0_of 59 = .ok (.getfield 129, 3) := dk_180 0 129 (dk_at dksX0_of_2 15 rfl rfl)
theorem dX0_of_62 : decode cX0_of 62 = .ok (.iload_n 1, 1) := dk_27 (dk_at dksX0_of_2 18 rfl rfl)
theorem dX0_of_63 : decode cX0_of 63 = .ok (.iaload, 1) := dk_46 (dk_at dksX0_of_2 19 rfl rfl)
theorem dX0_of_64 : decode cX0_of 64 = .ok (.iadd, 1) := dk_96 (dk_at dksX0_of_2 20 rfl rfl)
theorem dX0_of_65 : decode cX0_of 65 = .ok (.ireturn, 1) := dk_172 (dk_at dksX0_of_2 21 rfl rfl)
theorem dX0_of_66 : decode cX0_of 66 = .ok (.aload_n 0, 1) := dk_42 (dk_at dksX0_of_2 22 rfl rfl)
theorem dX0_of_67 : decode cX0_of 67 = .ok (.getfield 22, 3) := dk_180 0 22 (dk_at dksX0_of_3 0 rfl rfl)
theorem dX0_of_70 : decode cX0_of 70 = .ok (.getfield 132, 3) := dk_180 0 132 (dk_at dksX0_of_3 3 rfl rfl)
theorem dX0_of_73 : decode cX0_of 73 = .ok (.iload_n 1, 1) := dk_27 (dk_at dksX0_of_3 6 rfl rfl)
theorem dX0_of_74 : decode cX0_of 74 = .ok (.iaload, 1) := dk_46 (dk_at dksX0_of_3 7 rfl rfl)
theorem dX0_of_75 : decode cX0_of 75 = .ok (.ireturn, 1) := dk_172 (dk_at dksX0_of_3 8 rfl rfl)
theorem dX0_of_76 : decode cX0_of 76 = .ok (.aload_n 0, 1) := dk_42 (dk_at dksX0_of_3 9 rfl rfl)
theorem dX0_of_77 : decode cX0_of 77 = .ok (.getfield 22, 3) := dk_180 0 22 (dk_at dksX0_of_3 10 rfl rfl)
theorem dX0_of_80 : decode cX0_of 80 = .ok (.iload_n 1, 1) := dk_27 (dk_at dksX0_of_3 13 rfl rfl)
theorem dX0_of_81 : decode cX0_of 81 = .ok (.invokevirtual 163, 3) := dk_182 0 163 (dk_at dksX0_of_3 14 rfl rfl)
theorem dX0_of_84 : decode cX0_of 84 = .ok (.ifCond .eq 7, 3) := dk_153 0 7 (dk_at dksX0_of_3 17 rfl rfl)
theorem dX0_of_87 : decode cX0_of 87 = .ok (.iconst 1, 1) := dk_4 (dk_at dksX0_of_3 20 rfl rfl)
theorem dX0_of_88 : decode cX0_of 88 = .ok (.goto 4, 3) := dk_167 0 4 (dk_at dksX0_of_3 21 rfl rfl)
theorem dX0_of_91 : decode cX0_of 91 = .ok (.iconst 0, 1) := dk_3 (dk_at dksX0_of_4 0 rfl rfl)
theorem dX0_of_92 : decode cX0_of 92 = .ok (.ireturn, 1) := dk_172 (dk_at dksX0_of_4 1 rfl rfl)
theorem dX0_of_93 : decode cX0_of 93 = .ok (.aload_n 0, 1) := dk_42 (dk_at dksX0_of_4 2 rfl rfl)
theorem dX0_of_94 : decode cX0_of 94 = .ok (.getfield 22, 3) := dk_180 0 22 (dk_at dksX0_of_4 3 rfl rfl)
theorem dX0_of_97 : decode cX0_of 97 = .ok (.getfield 146, 3) := dk_180 0 146 (dk_at dksX0_of_4 6 rfl rfl)
theorem dX0_of_100 : decode cX0_of 100 = .ok (.iload_n 1, 1) := dk_27 (dk_at dksX0_of_4 9 rfl rfl)
theorem dX0_of_101 : decode cX0_of 101 = .ok (.iaload, 1) := dk_46 (dk_at dksX0_of_4 10 rfl rfl)
theorem dX0_of_102 : decode cX0_of 102 = .ok (.ireturn, 1) := dk_172 (dk_at dksX0_of_4 11 rfl rfl)
theorem dX0_of_103 : decode cX0_of 103 = .ok (.iconst (-1), 1) := dk_2 (dk_at dksX0_of_4 12 rfl rfl)
theorem dX0_of_104 : decode cX0_of 104 = .ok (.ireturn, 1) := dk_172 (dk_at dksX0_of_4 13 rfl rfl)
abbrev cX0_isCloth : ByteArray := prog_1_method_7_code
def yX0_isCloth : MethodName := ⟨RX0, "isCloth", "(I)Z"⟩
def dkwX0_isCloth_0 : List UInt8 := [27, 3, 42, 180, 0, 22, 180, 0, 111, 4, 100, 184, 0, 115, 172]
abbrev dktX0_isCloth_0 : List UInt8 := dkwX0_isCloth_0 ++ []
theorem dksX0_isCloth_0 : cX0_isCloth.data.toList.drop 0 = dktX0_isCloth_0 := by decide +kernel
theorem dX0_isCloth_0 : decode cX0_isCloth 0 = .ok (.iload_n 1, 1) := dk_27 (dk_at dksX0_isCloth_0 0 rfl rfl)
theorem dX0_isCloth_1 : decode cX0_isCloth 1 = .ok (.iconst 0, 1) := dk_3 (dk_at dksX0_isCloth_0 1 rfl rfl)
theorem dX0_isCloth_2 : decode cX0_isCloth 2 = .ok (.aload_n 0, 1) := dk_42 (dk_at dksX0_isCloth_0 2 rfl rfl)
theorem dX0_isCloth_3 : decode cX0_isCloth 3 = .ok (.getfield 22, 3) := dk_180 0 22 (dk_at dksX0_isCloth_0 3 rfl rfl)
theorem dX0_isCloth_6 : decode cX0_isCloth 6 = .ok (.getfield 111, 3) := dk_180 0 111 (dk_at dksX0_isCloth_0 6 rfl rfl)
theorem dX0_isCloth_9 : decode cX0_isCloth 9 = .ok (.iconst 1, 1) := dk_4 (dk_at dksX0_isCloth_0 9 rfl rfl)
theorem dX0_isCloth_10 : decode cX0_isCloth 10 = .ok (.isub, 1) := dk_100 (dk_at dksX0_isCloth_0 10 rfl rfl)
theorem dX0_isCloth_11 : decode cX0_isCloth 11 = .ok (.invokestatic 115, 3) := dk_184 0 115 (dk_at dksX0_isCloth_0 11 rfl rfl)
theorem dX0_isCloth_14 : decode cX0_isCloth 14 = .ok (.ireturn, 1) := dk_172 (dk_at dksX0_isCloth_0 14 rfl rfl)
abbrev cX0_has : ByteArray := prog_1_method_2_code
def yX0_has : MethodName := ⟨RX0, "has", "(II)Z"⟩
def dkwX0_has_0 : List UInt8 := [26, 27, 122, 4, 126, 4, 160, 0, 7, 4, 167, 0, 4, 3, 172]
abbrev dktX0_has_0 : List UInt8 := dkwX0_has_0 ++ []
theorem dksX0_has_0 : cX0_has.data.toList.drop 0 = dktX0_has_0 := by decide +kernel
theorem dX0_has_0 : decode cX0_has 0 = .ok (.iload_n 0, 1) := dk_26 (dk_at dksX0_has_0 0 rfl rfl)
theorem dX0_has_1 : decode cX0_has 1 = .ok (.iload_n 1, 1) := dk_27 (dk_at dksX0_has_0 1 rfl rfl)
theorem dX0_has_2 : decode cX0_has 2 = .ok (.ishr, 1) := dk_122 (dk_at dksX0_has_0 2 rfl rfl)
theorem dX0_has_3 : decode cX0_has 3 = .ok (.iconst 1, 1) := dk_4 (dk_at dksX0_has_0 3 rfl rfl)
theorem dX0_has_4 : decode cX0_has 4 = .ok (.iand, 1) := dk_126 (dk_at dksX0_has_0 4 rfl rfl)
theorem dX0_has_5 : decode cX0_has 5 = .ok (.iconst 1, 1) := dk_4 (dk_at dksX0_has_0 5 rfl rfl)
theorem dX0_has_6 : decode cX0_has 6 = .ok (.if_icmp .ne 7, 3) := dk_160 0 7 (dk_at dksX0_has_0 6 rfl rfl)
theorem dX0_has_9 : decode cX0_has 9 = .ok (.iconst 1, 1) := dk_4 (dk_at dksX0_has_0 9 rfl rfl)
theorem dX0_has_10 : decode cX0_has 10 = .ok (.goto 4, 3) := dk_167 0 4 (dk_at dksX0_has_0 10 rfl rfl)
theorem dX0_has_13 : decode cX0_has 13 = .ok (.iconst 0, 1) := dk_3 (dk_at dksX0_has_0 13 rfl rfl)
theorem dX0_has_14 : decode cX0_has 14 = .ok (.ireturn, 1) := dk_172 (dk_at dksX0_has_0 14 rfl rfl)
abbrev cX0_does : ByteArray := prog_1_method_29_code
def yX0_does : MethodName := ⟨RX0, "does", "(III)I"⟩
def dkwX0_does_3 : List UInt8 := [182, 0, 139, 167, 0, 12, 25, 4, 42, 180, 0, 22, 182, 0, 170, 96, 172]
abbrev dktX0_does_3 : List UInt8 := dkwX0_does_3 ++ []
def dkwX0_does_2 : List UInt8 := [180, 0, 22, 28, 182, 0, 135, 167, 0, 30, 29, 4, 160, 0, 16, 25, 4, 42, 180, 0, 22, 28]
abbrev dktX0_does_2 : List UInt8 := dkwX0_does_2 ++ dktX0_does_3
def dkwX0_does_1 : List UInt8 := [2, 172, 42, 42, 180, 0, 22, 27, 182, 0, 122, 58, 4, 17, 3, 232, 29, 154, 0, 16, 25, 4, 42]
abbrev dktX0_does_1 : List UInt8 := dkwX0_does_1 ++ dktX0_does_2
def dkwX0_does_0 : List UInt8 := [42, 27, 182, 0, 244, 153, 0, 19, 28, 184, 0, 225, 153, 0, 12, 29, 3, 5, 184, 0, 115, 154, 0, 5]
abbrev dktX0_does_0 : List UInt8 := dkwX0_does_0 ++ dktX0_does_1
theorem dksX0_does_0 : cX0_does.data.toList.drop 0 = dktX0_does_0 := by decide +kernel
theorem dksX0_does_1 : cX0_does.data.toList.drop 24 = dktX0_does_1 := dk_seg dksX0_does_0 24 rfl rfl
theorem dksX0_does_2 : cX0_does.data.toList.drop 47 = dktX0_does_2 := dk_seg dksX0_does_1 23 rfl rfl
theorem dksX0_does_3 : cX0_does.data.toList.drop 69 = dktX0_does_3 := dk_seg dksX0_does_2 22 rfl rfl
theorem dX0_does_0 : decode cX0_does 0 = .ok (.aload_n 0, 1) := dk_42 (dk_at dksX0_does_0 0 rfl rfl)
theorem dX0_does_1 : decode cX0_does 1 = .ok (.iload_n 1, 1) := dk_27 (dk_at dksX0_does_0 1 rfl rfl)
theorem dX0_does_2 : decode cX0_does 2 = .ok (.invokevirtual 244, 3) := dk_182 0 244 (dk_at dksX0_does_0 2 rfl rfl)
theorem dX0_does_5 : decode cX0_does 5 = .ok (.ifCond .eq 19, 3) := dk_153 0 19 (dk_at dksX0_does_0 5 rfl rfl)
theorem dX0_does_8 : decode cX0_does 8 = .ok (.iload_n 2, 1) := dk_28 (dk_at dksX0_does_0 8 rfl rfl)
theorem dX0_does_9 : decode cX0_does 9 = .ok (.invokestatic 225, 3) := dk_184 0 225 (dk_at dksX0_does_0 9 rfl rfl)
theorem dX0_does_12 : decode cX0_does 12 = .ok (.ifCond .eq 12, 3) := dk_153 0 12 (dk_at dksX0_does_0 12 rfl rfl)
theorem dX0_does_15 : decode cX0_does 15 = .ok (.iload_n 3, 1) := dk_29 (dk_at dksX0_does_0 15 rfl rfl)
theorem dX0_does_16 : decode cX0_does 16 = .ok (.iconst 0, 1) := dk_3 (dk_at dksX0_does_0 16 rfl rfl)
theorem dX0_does_17 : decode cX0_does 17 = .ok (.iconst 2, 1) := dk_5 (dk_at dksX0_does_0 17 rfl rfl)
theorem dX0_does_18 : decode cX0_does 18 = .ok (.invokestatic 115, 3) := dk_184 0 115 (dk_at dksX0_does_0 18 rfl rfl)
theorem dX0_does_21 : decode cX0_does 21 = .ok (.ifCond .ne 5, 3) := dk_154 0 5 (dk_at dksX0_does_0 21 rfl rfl)
theorem dX0_does_24 : decode cX0_does 24 = .ok (.iconst (-1), 1) := dk_2 (dk_at dksX0_does_1 0 rfl rfl)
theorem dX0_does_25 : decode cX0_does 25 = .ok (.ireturn, 1) := dk_172 (dk_at dksX0_does_1 1 rfl rfl)
theorem dX0_does_26 : decode cX0_does 26 = .ok (.aload_n 0, 1) := dk_42 (dk_at dksX0_does_1 2 rfl rfl)
theorem dX0_does_27 : decode cX0_does 27 = .ok (.aload_n 0, 1) := dk_42 (dk_at dksX0_does_1 3 rfl rfl)
theorem dX0_does_28 : decode cX0_does 28 = .ok (.getfield 22, 3) := dk_180 0 22 (dk_at dksX0_does_1 4 rfl rfl)
theorem dX0_does_31 : decode cX0_does 31 = .ok (.iload_n 1, 1) := dk_27 (dk_at dksX0_does_1 7 rfl rfl)
theorem dX0_does_32 : decode cX0_does 32 = .ok (.invokevirtual 122, 3) := dk_182 0 122 (dk_at dksX0_does_1 8 rfl rfl)
theorem dX0_does_35 : decode cX0_does 35 = .ok (.astore 4, 2) := dk_58 4 (dk_at dksX0_does_1 11 rfl rfl)
theorem dX0_does_37 : decode cX0_does 37 = .ok (.sipush 1000, 3) := dk_17 3 232 (dk_at dksX0_does_1 13 rfl rfl)
theorem dX0_does_40 : decode cX0_does 40 = .ok (.iload_n 3, 1) := dk_29 (dk_at dksX0_does_1 16 rfl rfl)
theorem dX0_does_41 : decode cX0_does 41 = .ok (.ifCond .ne 16, 3) := dk_154 0 16 (dk_at dksX0_does_1 17 rfl rfl)
theorem dX0_does_44 : decode cX0_does 44 = .ok (.aload 4, 2) := dk_25 4 (dk_at dksX0_does_1 20 rfl rfl)
theorem dX0_does_46 : decode cX0_does 46 = .ok (.aload_n 0, 1) := dk_42 (dk_at dksX0_does_1 22 rfl rfl)
theorem dX0_does_47 : decode cX0_does 47 = .ok (.getfield 22, 3) := dk_180 0 22 (dk_at dksX0_does_2 0 rfl rfl)
theorem dX0_does_50 : decode cX0_does 50 = .ok (.iload_n 2, 1) := dk_28 (dk_at dksX0_does_2 3 rfl rfl)
theorem dX0_does_51 : decode cX0_does 51 = .ok (.invokevirtual 135, 3) := dk_182 0 135 (dk_at dksX0_does_2 4 rfl rfl)
theorem dX0_does_54 : decode cX0_does 54 = .ok (.goto 30, 3) := dk_167 0 30 (dk_at dksX0_does_2 7 rfl rfl)
theorem dX0_does_57 : decode cX0_does 57 = .ok (.iload_n 3, 1) := dk_29 (dk_at dksX0_does_2 10 rfl rfl)
theorem dX0_does_58 : decode cX0_does 58 = .ok (.iconst 1, 1) := dk_4 (dk_at dksX0_does_2 11 rfl rfl)
theorem dX0_does_59 : decode cX0_does 59 = .ok (.if_icmp .ne 16, 3) := dk_160 0 16 (dk_at dksX0_does_2 12 rfl rfl)
theorem dX0_does_62 : decode cX0_does 62 = .ok (.aload 4, 2) := dk_25 4 (dk_at dksX0_does_2 15 rfl rfl)
theorem dX0_does_64 : decode cX0_does 64 = .ok (.aload_n 0, 1) := dk_42 (dk_at dksX0_does_2 17 rfl rfl)
theorem dX0_does_65 : decode cX0_does 65 = .ok (.getfield 22, 3) := dk_180 0 22 (dk_at dksX0_does_2 18 rfl rfl)
theorem dX0_does_68 : decode cX0_does 68 = .ok (.iload_n 2, 1) := dk_28 (dk_at dksX0_does_2 21 rfl rfl)
theorem dX0_does_69 : decode cX0_does 69 = .ok (.invokevirtual 139, 3) := dk_182 0 139 (dk_at dksX0_does_3 0 rfl rfl)
theorem dX0_does_72 : decode cX0_does 72 = .ok (.goto 12, 3) := dk_167 0 12 (dk_at dksX0_does_3 3 rfl rfl)
theorem dX0_does_75 : decode cX0_does 75 = .ok (.aload 4, 2) := dk_25 4 (dk_at dksX0_does_3 6 rfl rfl)
theorem dX0_does_77 : decode cX0_does 77 = .ok (.aload_n 0, 1) := dk_42 (dk_at dksX0_does_3 8 rfl rfl)
theorem dX0_does_78 : decode cX0_does 78 = .ok (.getfield 22, 3) := dk_180 0 22 (dk_at dksX0_does_3 9 rfl rfl)
theorem dX0_does_81 : decode cX0_does 81 = .ok (.invokevirtual 170, 3) := dk_182 0 170 (dk_at dksX0_does_3 12 rfl rfl)
theorem dX0_does_84 : decode cX0_does 84 = .ok (.iadd, 1) := dk_96 (dk_at dksX0_does_3 15 rfl rfl)
theorem dX0_does_85 : decode cX0_does 85 = .ok (.ireturn, 1) := dk_172 (dk_at dksX0_does_3 16 rfl rfl)
abbrev cX0_wayOf : ByteArray := prog_1_method_12_code
def yX0_wayOf : MethodName := ⟨RX0, "wayOf", "(LIntentVats$Mill;I)LIntentVats$Plain;"⟩
def dkwX0_wayOf_0 : List UInt8 := [42, 180, 0, 53, 43, 180, 0, 119, 28, 46, 50, 176]
abbrev dktX0_wayOf_0 : List UInt8 := dkwX0_wayOf_0 ++ []
theorem dksX0_wayOf_0 : cX0_wayOf.data.toList.drop 0 = dktX0_wayOf_0 := by decide +kernel
theorem dX0_wayOf_0 : decode cX0_wayOf 0 = .ok (.aload_n 0, 1) := dk_42 (dk_at dksX0_wayOf_0 0 rfl rfl)
theorem dX0_wayOf_1 : decode cX0_wayOf 1 = .ok (.getfield 53, 3) := dk_180 0 53 (dk_at dksX0_wayOf_0 1 rfl rfl)
theorem dX0_wayOf_4 : decode cX0_wayOf 4 = .ok (.aload_n 1, 1) := dk_43 (dk_at dksX0_wayOf_0 4 rfl rfl)
theorem dX0_wayOf_5 : decode cX0_wayOf 5 = .ok (.getfield 119, 3) := dk_180 0 119 (dk_at dksX0_wayOf_0 5 rfl rfl)
theorem dX0_wayOf_8 : decode cX0_wayOf 8 = .ok (.iload_n 2, 1) := dk_28 (dk_at dksX0_wayOf_0 8 rfl rfl)
theorem dX0_wayOf_9 : decode cX0_wayOf 9 = .ok (.iaload, 1) := dk_46 (dk_at dksX0_wayOf_0 9 rfl rfl)
theorem dX0_wayOf_10 : decode cX0_wayOf 10 = .ok (.aaload, 1) := dk_50 (dk_at dksX0_wayOf_0 10 rfl rfl)
theorem dX0_wayOf_11 : decode cX0_wayOf 11 = .ok (.areturn, 1) := dk_176 (dk_at dksX0_wayOf_0 11 rfl rfl)
abbrev cX0_mind : ByteArray := prog_1_method_30_code
def yX0_mind : MethodName := ⟨RX0, "mind", "(II)I"⟩
def dkwX0_mind_1 : List UInt8 := [184, 0, 228, 167, 0, 4, 2, 172]
abbrev dktX0_mind_1 : List UInt8 := dkwX0_mind_1 ++ []
def dkwX0_mind_0 : List UInt8 := [42, 27, 182, 0, 244, 153, 0, 25, 28, 184, 0, 238, 153, 0, 18, 42, 180, 0, 22, 180, 0, 119, 27, 28]
abbrev dktX0_mind_0 : List UInt8 := dkwX0_mind_0 ++ dktX0_mind_1
theorem dksX0_mind_0 : cX0_mind.data.toList.drop 0 = dktX0_mind_0 := by decide +kernel
theorem dksX0_mind_1 : cX0_mind.data.toList.drop 24 = dktX0_mind_1 := dk_seg dksX0_mind_0 24 rfl rfl
theorem dX0_mind_0 : decode cX0_mind 0 = .ok (.aload_n 0, 1) := dk_42 (dk_at dksX0_mind_0 0 rfl rfl)
theorem dX0_mind_1 : decode cX0_mind 1 = .ok (.iload_n 1, 1) := dk_27 (dk_at dksX0_mind_0 1 rfl rfl)
theorem dX0_mind_2 : decode cX0_mind 2 = .ok (.invokevirtual 244, 3) := dk_182 0 244 (dk_at dksX0_mind_0 2 rfl rfl)
theorem dX0_mind_5 : decode cX0_mind 5 = .ok (.ifCond .eq 25, 3) := dk_153 0 25 (dk_at dksX0_mind_0 5 rfl rfl)
theorem dX0_mind_8 : decode cX0_mind 8 = .ok (.iload_n 2, 1) := dk_28 (dk_at dksX0_mind_0 8 rfl rfl)
theorem dX0_mind_9 : decode cX0_mind 9 = .ok (.invokestatic 238, 3) := dk_184 0 238 (dk_at dksX0_mind_0 9 rfl rfl)
theorem dX0_mind_12 : decode cX0_mind 12 = .ok (.ifCond .eq 18, 3) := dk_153 0 18 (dk_at dksX0_mind_0 12 rfl rfl)
theorem dX0_mind_15 : decode cX0_mind 15 = .ok (.aload_n 0, 1) := dk_42 (dk_at dksX0_mind_0 15 rfl rfl)
theorem dX0_mind_16 : decode cX0_mind 16 = .ok (.getfield 22, 3) := dk_180 0 22 (dk_at dksX0_mind_0 16 rfl rfl)
theorem dX0_mind_19 : decode cX0_mind 19 = .ok (.getfield 119, 3) := dk_180 0 119 (dk_at dksX0_mind_0 19 rfl rfl)
theorem dX0_mind_22 : decode cX0_mind 22 = .ok (.iload_n 1, 1) := dk_27 (dk_at dksX0_mind_0 22 rfl rfl)
theorem dX0_mind_23 : decode cX0_mind 23 = .ok (.iload_n 2, 1) := dk_28 (dk_at dksX0_mind_0 23 rfl rfl)
theorem dX0_mind_24 : decode cX0_mind 24 = .ok (.invokestatic 228, 3) := dk_184 0 228 (dk_at dksX0_mind_1 0 rfl rfl)
theorem dX0_mind_27 : decode cX0_mind 27 = .ok (.goto 4, 3) := dk_167 0 4 (dk_at dksX0_mind_1 3 rfl rfl)
theorem dX0_mind_30 : decode cX0_mind 30 = .ok (.iconst (-1), 1) := dk_2 (dk_at dksX0_mind_1 6 rfl rfl)
theorem dX0_mind_31 : decode cX0_mind 31 = .ok (.ireturn, 1) := dk_172 (dk_at dksX0_mind_1 7 rfl rfl)
abbrev cX0_steep : ByteArray := prog_1_method_31_code
def yX0_steep : MethodName := ⟨RX0, "steep", "(III)I"⟩
def dkwX0_steep_3 : List UInt8 := [180, 0, 22, 180, 0, 129, 27, 28, 184, 0, 228, 96, 172]
abbrev dktX0_steep_3 : List UInt8 := dkwX0_steep_3 ++ []
def dkwX0_steep_2 : List UInt8 := [153, 0, 8, 21, 4, 154, 0, 5, 2, 172, 42, 180, 0, 22, 180, 0, 132, 27, 29, 79, 4, 42]
abbrev dktX0_steep_2 : List UInt8 := dkwX0_steep_2 ++ dktX0_steep_3
def dkwX0_steep_1 : List UInt8 := [29, 4, 16, 99, 184, 0, 115, 153, 0, 7, 4, 167, 0, 4, 3, 54, 4, 42, 27, 182, 0, 244]
abbrev dktX0_steep_1 : List UInt8 := dkwX0_steep_1 ++ dktX0_steep_2
def dkwX0_steep_0 : List UInt8 := [28, 2, 160, 0, 15, 29, 154, 0, 7, 4, 167, 0, 29, 3, 167, 0, 25, 28, 184, 0, 247, 153, 0, 17]
abbrev dktX0_steep_0 : List UInt8 := dkwX0_steep_0 ++ dktX0_steep_1
theorem dksX0_steep_0 : cX0_steep.data.toList.drop 0 = dktX0_steep_0 := by decide +kernel
theorem dksX0_steep_1 : cX0_steep.data.toList.drop 24 = dktX0_steep_1 := dk_seg dksX0_steep_0 24 rfl rfl
theorem dksX0_steep_2 : cX0_steep.data.toList.drop 46 = dktX0_steep_2 := dk_seg dksX0_steep_1 22 rfl rfl
theorem dksX0_steep_3 : cX0_steep.data.toList.drop 68 = dktX0_steep_3 := dk_seg dksX0_steep_2 22 rfl rfl
theorem dX0_steep_0 : decode cX0_steep 0 = .ok (.iload_n 2, 1) := dk_28 (dk_at dksX0_steep_0 0 rfl rfl)
theorem dX0_steep_1 : decode cX0_steep 1 = .ok (.iconst (-1), 1) := dk_2 (dk_at dksX0_steep_0 1 rfl rfl)
theorem dX0_steep_2 : decode cX0_steep 2 = .ok (.if_icmp .ne 15, 3) := dk_160 0 15 (dk_at dksX0_steep_0 2 rfl rfl)
theorem dX0_steep_5 : decode cX0_steep 5 = .ok (.iload_n 3, 1) := dk_29 (dk_at dksX0_steep_0 5 rfl rfl)
theorem dX0_steep_6 : decode cX0_steep 6 = .ok (.ifCond .ne 7, 3) := dk_154 0 7 (dk_at dksX0_steep_0 6 rfl rfl)
theorem dX0_steep_9 : decode cX0_steep 9 = .ok (.iconst 1, 1) := dk_4 (dk_at dksX0_steep_0 9 rfl rfl)
theorem dX0_steep_10 : decode cX0_steep 10 = .ok (.goto 29, 3) := dk_167 0 29 (dk_at dksX0_steep_0 10 rfl rfl)
theorem dX0_steep_13 : decode cX0_steep 13 = .ok (.iconst 0, 1) := dk_3 (dk_at dksX0_steep_0 13 rfl rfl)
theorem dX0_steep_14 : decode cX0_steep 14 = .ok (.goto 25, 3) := dk_167 0 25 (dk_at dksX0_steep_0 14 rfl rfl)
theorem dX0_steep_17 : decode cX0_steep 17 = .ok (.iload_n 2, 1) := dk_28 (dk_at dksX0_steep_0 17 rfl rfl)
theorem dX0_steep_18 : decode cX0_steep 18 = .ok (.invokestatic 247, 3) := dk_184 0 247 (dk_at dksX0_steep_0 18 rfl rfl)
theorem dX0_steep_21 : decode cX0_steep 21 = .ok (.ifCond .eq 17, 3) := dk_153 0 17 (dk_at dksX0_steep_0 21 rfl rfl)
theorem dX0_steep_24 : decode cX0_steep 24 = .ok (.iload_n 3, 1) := dk_29 (dk_at dksX0_steep_1 0 rfl rfl)
theorem dX0_steep_25 : decode cX0_steep 25 = .ok (.iconst 1, 1) := dk_4 (dk_at dksX0_steep_1 1 rfl rfl)
theorem dX0_steep_26 : decode cX0_steep 26 = .ok (.bipush 99, 2) := dk_16 99 (dk_at dksX0_steep_1 2 rfl rfl)
theorem dX0_steep_28 : decode cX0_steep 28 = .ok (.invokestatic 115, 3) := dk_184 0 115 (dk_at dksX0_steep_1 4 rfl rfl)
theorem dX0_steep_31 : decode cX0_steep 31 = .ok (.ifCond .eq 7, 3) := dk_153 0 7 (dk_at dksX0_steep_1 7 rfl rfl)
theorem dX0_steep_34 : decode cX0_steep 34 = .ok (.iconst 1, 1) := dk_4 (dk_at dksX0_steep_1 10 rfl rfl)
theorem dX0_steep_35 : decode cX0_steep 35 = .ok (.goto 4, 3) := dk_167 0 4 (dk_at dksX0_steep_1 11 rfl rfl)
theorem dX0_steep_38 : decode cX0_steep 38 = .ok (.iconst 0, 1) := dk_3 (dk_at dksX0_steep_1 14 rfl rfl)
theorem dX0_steep_39 : decode cX0_steep 39 = .ok (.istore 4, 2) := dk_54 4 (dk_at dksX0_steep_1 15 rfl rfl)
theorem dX0_steep_41 : decode cX0_steep 41 = .ok (.aload_n 0, 1) := dk_42 (dk_at dksX0_steep_1 17 rfl rfl)
theorem dX0_steep_42 : decode cX0_steep 42 = .ok (.iload_n 1, 1) := dk_27 (dk_at dksX0_steep_1 18 rfl rfl)
theorem dX0_steep_43 : decode cX0_steep 43 = .ok (.invokevirtual 244, 3) := dk_182 0 244 (dk_at dksX0_steep_1 19 rfl rfl)
theorem dX0_steep_46 : decode cX0_steep 46 = .ok (.ifCond .eq 8, 3) := dk_153 0 8 (dk_at dksX0_steep_2 0 rfl rfl)
theorem dX0_steep_49 : decode cX0_steep 49 = .ok (.iload 4, 2) := dk_21 4 (dk_at dksX0_steep_2 3 rfl rfl)
theorem dX0_steep_51 : decode cX0_steep 51 = .ok (.ifCond .ne 5, 3) := dk_154 0 5 (dk_at dksX0_steep_2 5 rfl rfl)
theorem dX0_steep_54 : decode cX0_steep 54 = .ok (.iconst (-1), 1) := dk_2 (dk_at dksX0_steep_2 8 rfl rfl)
theorem dX0_steep_55 : decode cX0_steep 55 = .ok (.ireturn, 1) := dk_172 (dk_at dksX0_steep_2 9 rfl rfl)
theorem dX0_steep_56 : decode cX0_steep 56 = .ok (.aload_n 0, 1) := dk_42 (dk_at dksX0_steep_2 10 rfl rfl)
theorem dX0_steep_57 : decode cX0_steep 57 = .ok (.getfield 22, 3) := dk_180 0 22 (dk_at dksX0_steep_2 11 rfl rfl)
theorem dX0_steep_60 : decode cX0_steep 60 = .ok (.getfield 132, 3) := dk_180 0 132 (dk_at dksX0_steep_2 14 rfl rfl)
theorem dX0_steep_63 : decode cX0_steep 63 = .ok (.iload_n 1, 1) := dk_27 (dk_at dksX0_steep_2 17 rfl rfl)
theorem dX0_steep_64 : decode cX0_steep 64 = .ok (.iload_n 3, 1) := dk_29 (dk_at dksX0_steep_2 18 rfl rfl)
theorem dX0_steep_65 : decode cX0_steep 65 = .ok (.iastore, 1) := dk_79 (dk_at dksX0_steep_2 19 rfl rfl)
theorem dX0_steep_66 : decode cX0_steep 66 = .ok (.iconst 1, 1) := dk_4 (dk_at dksX0_steep_2 20 rfl rfl)
theorem dX0_steep_67 : decode cX0_steep 67 = .ok (.aload_n 0, 1) := dk_42 (dk_at dksX0_steep_2 21 rfl rfl)
theorem dX0_steep_68 : decode cX0_steep 68 = .ok (.getfield 22, 3) := dk_180 0 22 (dk_at dksX0_steep_3 0 rfl rfl)
theorem dX0_steep_71 : decode cX0_steep 71 = .ok (.getfield 129, 3) := dk_180 0 129 (dk_at dksX0_steep_3 3 rfl rfl)
theorem dX0_steep_74 : decode cX0_steep 74 = .ok (.iload_n 1, 1) := dk_27 (dk_at dksX0_steep_3 6 rfl rfl)
theorem dX0_steep_75 : decode cX0_steep 75 = .ok (.iload_n 2, 1) := dk_28 (dk_at dksX0_steep_3 7 rfl rfl)
theorem dX0_steep_76 : decode cX0_steep 76 = .ok (.invokestatic 228, 3) := dk_184 0 228 (dk_at dksX0_steep_3 8 rfl rfl)
theorem dX0_steep_79 : decode cX0_steep 79 = .ok (.iadd, 1) := dk_96 (dk_at dksX0_steep_3 11 rfl rfl)
theorem dX0_steep_80 : decode cX0_steep 80 = .ok (.ireturn, 1) := dk_172 (dk_at dksX0_steep_3 12 rfl rfl)
abbrev cX0_isPurpose : ByteArray := prog_1_method_10_code
def yX0_isPurpose : MethodName := ⟨RX0, "isPurpose", "(I)Z"⟩
def dkwX0_isPurpose_0 : List UInt8 := [26, 3, 16, 9, 184, 0, 115, 172]
abbrev dktX0_isPurpose_0 : List UInt8 := dkwX0_isPurpose_0 ++ []
theorem dksX0_isPurpose_0 : cX0_isPurpose.data.toList.drop 0 = dktX0_isPurpose_0 := by decide +kernel
theorem dX0_isPurpose_0 : decode cX0_isPurpose 0 = .ok (.iload_n 0, 1) := dk_26 (dk_at dksX0_isPurpose_0 0 rfl rfl)
theorem dX0_isPurpose_1 : decode cX0_isPurpose 1 = .ok (.iconst 0, 1) := dk_3 (dk_at dksX0_isPurpose_0 1 rfl rfl)
theorem dX0_isPurpose_2 : decode cX0_isPurpose 2 = .ok (.bipush 9, 2) := dk_16 9 (dk_at dksX0_isPurpose_0 2 rfl rfl)
theorem dX0_isPurpose_4 : decode cX0_isPurpose 4 = .ok (.invokestatic 115, 3) := dk_184 0 115 (dk_at dksX0_isPurpose_0 4 rfl rfl)
theorem dX0_isPurpose_7 : decode cX0_isPurpose 7 = .ok (.ireturn, 1) := dk_172 (dk_at dksX0_isPurpose_0 7 rfl rfl)
abbrev cX0_hang : ByteArray := prog_1_method_32_code
def yX0_hang : MethodName := ⟨RX0, "hang", "(II)I"⟩
def dkwX0_hang_2 : List UInt8 := [167, 0, 4, 3, 182, 0, 250, 29, 172]
abbrev dktX0_hang_2 : List UInt8 := dkwX0_hang_2 ++ []
def dkwX0_hang_1 : List UInt8 := [182, 0, 163, 153, 0, 7, 4, 167, 0, 4, 3, 62, 42, 180, 0, 22, 27, 28, 4, 160, 0, 7, 4]
abbrev dktX0_hang_1 : List UInt8 := dkwX0_hang_1 ++ dktX0_hang_2
def dkwX0_hang_0 : List UInt8 := [42, 27, 182, 0, 244, 153, 0, 12, 28, 3, 4, 184, 0, 115, 154, 0, 5, 2, 172, 42, 180, 0, 22, 27]
abbrev dktX0_hang_0 : List UInt8 := dkwX0_hang_0 ++ dktX0_hang_1
theorem dksX0_hang_0 : cX0_hang.data.toList.drop 0 = dktX0_hang_0 := by decide +kernel
theorem dksX0_hang_1 : cX0_hang.data.toList.drop 24 = dktX0_hang_1 := dk_seg dksX0_hang_0 24 rfl rfl
theorem dksX0_hang_2 : cX0_hang.data.toList.drop 47 = dktX0_hang_2 := dk_seg dksX0_hang_1 23 rfl rfl
theorem dX0_hang_0 : decode cX0_hang 0 = .ok (.aload_n 0, 1) := dk_42 (dk_at dksX0_hang_0 0 rfl rfl)
theorem dX0_hang_1 : decode cX0_hang 1 = .ok (.iload_n 1, 1) := dk_27 (dk_at dksX0_hang_0 1 rfl rfl)
theorem dX0_hang_2 : decode cX0_hang 2 = .ok (.invokevirtual 244, 3) := dk_182 0 244 (dk_at dksX0_hang_0 2 rfl rfl)
theorem dX0_hang_5 : decode cX0_hang 5 = .ok (.ifCond .eq 12, 3) := dk_153 0 12 (dk_at dksX0_hang_0 5 rfl rfl)
theorem dX0_hang_8 : decode cX0_hang 8 = .ok (.iload_n 2, 1) := dk_28 (dk_at dksX0_hang_0 8 rfl rfl)
theorem dX0_hang_9 : decode cX0_hang 9 = .ok (.iconst 0, 1) := dk_3 (dk_at dksX0_hang_0 9 rfl rfl)
theorem dX0_hang_10 : decode cX0_hang 10 = .ok (.iconst 1, 1) := dk_4 (dk_at dksX0_hang_0 10 rfl rfl)
theorem dX0_hang_11 : decode cX0_hang 11 = .ok (.invokestatic 115, 3) := dk_184 0 115 (dk_at dksX0_hang_0 11 rfl rfl)
theorem dX0_hang_14 : decode cX0_hang 14 = .ok (.ifCond .ne 5, 3) := dk_154 0 5 (dk_at dksX0_hang_0 14 rfl rfl)
theorem dX0_hang_17 : decode cX0_hang 17 = .ok (.iconst (-1), 1) := dk_2 (dk_at dksX0_hang_0 17 rfl rfl)
theorem dX0_hang_18 : decode cX0_hang 18 = .ok (.ireturn, 1) := dk_172 (dk_at dksX0_hang_0 18 rfl rfl)
theorem dX0_hang_19 : decode cX0_hang 19 = .ok (.aload_n 0, 1) := dk_42 (dk_at dksX0_hang_0 19 rfl rfl)
theorem dX0_hang_20 : decode cX0_hang 20 = .ok (.getfield 22, 3) := dk_180 0 22 (dk_at dksX0_hang_0 20 rfl rfl)
theorem dX0_hang_23 : decode cX0_hang 23 = .ok (.iload_n 1, 1) := dk_27 (dk_at dksX0_hang_0 23 rfl rfl)
theorem dX0_hang_24 : decode cX0_hang 24 = .ok (.invokevirtual 163, 3) := dk_182 0 163 (dk_at dksX0_hang_1 0 rfl rfl)
theorem dX0_hang_27 : decode cX0_hang 27 = .ok (.ifCond .eq 7, 3) := dk_153 0 7 (dk_at dksX0_hang_1 3 rfl rfl)
theorem dX0_hang_30 : decode cX0_hang 30 = .ok (.iconst 1, 1) := dk_4 (dk_at dksX0_hang_1 6 rfl rfl)
theorem dX0_hang_31 : decode cX0_hang 31 = .ok (.goto 4, 3) := dk_167 0 4 (dk_at dksX0_hang_1 7 rfl rfl)
theorem dX0_hang_34 : decode cX0_hang 34 = .ok (.iconst 0, 1) := dk_3 (dk_at dksX0_hang_1 10 rfl rfl)
theorem dX0_hang_35 : decode cX0_hang 35 = .ok (.istore_n 3, 1) := dk_62 (dk_at dksX0_hang_1 11 rfl rfl)
theorem dX0_hang_36 : decode cX0_hang 36 = .ok (.aload_n 0, 1) := dk_42 (dk_at dksX0_hang_1 12 rfl rfl)
theorem dX0_hang_37 : decode cX0_hang 37 = .ok (.getfield 22, 3) := dk_180 0 22 (dk_at dksX0_hang_1 13 rfl rfl)
theorem dX0_hang_40 : decode cX0_hang 40 = .ok (.iload_n 1, 1) := dk_27 (dk_at dksX0_hang_1 16 rfl rfl)
theorem dX0_hang_41 : decode cX0_hang 41 = .ok (.iload_n 2, 1) := dk_28 (dk_at dksX0_hang_1 17 rfl rfl)
theorem dX0_hang_42 : decode cX0_hang 42 = .ok (.iconst 1, 1) := dk_4 (dk_at dksX0_hang_1 18 rfl rfl)
theorem dX0_hang_43 : decode cX0_hang 43 = .ok (.if_icmp .ne 7, 3) := dk_160 0 7 (dk_at dksX0_hang_1 19 rfl rfl)
theorem dX0_hang_46 : decode cX0_hang 46 = .ok (.iconst 1, 1) := dk_4 (dk_at dksX0_hang_1 22 rfl rfl)
theorem dX0_hang_47 : decode cX0_hang 47 = .ok (.goto 4, 3) := dk_167 0 4 (dk_at dksX0_hang_2 0 rfl rfl)
theorem dX0_hang_50 : decode cX0_hang 50 = .ok (.iconst 0, 1) := dk_3 (dk_at dksX0_hang_2 3 rfl rfl)
theorem dX0_hang_51 : decode cX0_hang 51 = .ok (.invokevirtual 250, 3) := dk_182 0 250 (dk_at dksX0_hang_2 4 rfl rfl)
theorem dX0_hang_54 : decode cX0_hang 54 = .ok (.iload_n 3, 1) := dk_29 (dk_at dksX0_hang_2 7 rfl rfl)
theorem dX0_hang_55 : decode cX0_hang 55 = .ok (.ireturn, 1) := dk_172 (dk_at dksX0_hang_2 8 rfl rfl)
abbrev cX0_dip : ByteArray := prog_1_method_33_code
def yX0_dip : MethodName := ⟨RX0, "dip", "(II)I"⟩
def dkwX0_dip_1 : List UInt8 := [182, 0, 167, 4, 42, 180, 0, 22, 180, 0, 129, 27, 46, 96, 172]
abbrev dktX0_dip_1 : List UInt8 := dkwX0_dip_1 ++ []
def dkwX0_dip_0 : List UInt8 := [42, 27, 182, 0, 244, 153, 0, 10, 28, 184, 0, 225, 154, 0, 5, 2, 172, 42, 42, 180, 0, 22, 27, 28]
abbrev dktX0_dip_0 : List UInt8 := dkwX0_dip_0 ++ dktX0_dip_1
theorem dksX0_dip_0 : cX0_dip.data.toList.drop 0 = dktX0_dip_0 := by decide +kernel
theorem dksX0_dip_1 : cX0_dip.data.toList.drop 24 = dktX0_dip_1 := dk_seg dksX0_dip_0 24 rfl rfl
theorem dX0_dip_0 : decode cX0_dip 0 = .ok (.aload_n 0, 1) := dk_42 (dk_at dksX0_dip_0 0 rfl rfl)
theorem dX0_dip_1 : decode cX0_dip 1 = .ok (.iload_n 1, 1) := dk_27 (dk_at dksX0_dip_0 1 rfl rfl)
theorem dX0_dip_2 : decode cX0_dip 2 = .ok (.invokevirtual 244, 3) := dk_182 0 244 (dk_at dksX0_dip_0 2 rfl rfl)
theorem dX0_dip_5 : decode cX0_dip 5 = .ok (.ifCond .eq 10, 3) := dk_153 0 10 (dk_at dksX0_dip_0 5 rfl rfl)
theorem dX0_dip_8 : decode cX0_dip 8 = .ok (.iload_n 2, 1) := dk_28 (dk_at dksX0_dip_0 8 rfl rfl)
theorem dX0_dip_9 : decode cX0_dip 9 = .ok (.invokestatic 225, 3) := dk_184 0 225 (dk_at dksX0_dip_0 9 rfl rfl)
theorem dX0_dip_12 : decode cX0_dip 12 = .ok (.ifCond .ne 5, 3) := dk_154 0 5 (dk_at dksX0_dip_0 12 rfl rfl)
theorem dX0_dip_15 : decode cX0_dip 15 = .ok (.iconst (-1), 1) := dk_2 (dk_at dksX0_dip_0 15 rfl rfl)
theorem dX0_dip_16 : decode cX0_dip 16 = .ok (.ireturn, 1) := dk_172 (dk_at dksX0_dip_0 16 rfl rfl)
theorem dX0_dip_17 : decode cX0_dip 17 = .ok (.aload_n 0, 1) := dk_42 (dk_at dksX0_dip_0 17 rfl rfl)
theorem dX0_dip_18 : decode cX0_dip 18 = .ok (.aload_n 0, 1) := dk_42 (dk_at dksX0_dip_0 18 rfl rfl)
theorem dX0_dip_19 : decode cX0_dip 19 = .ok (.getfield 22, 3) := dk_180 0 22 (dk_at dksX0_dip_0 19 rfl rfl)
theorem dX0_dip_22 : decode cX0_dip 22 = .ok (.iload_n 1, 1) := dk_27 (dk_at dksX0_dip_0 22 rfl rfl)
theorem dX0_dip_23 : decode cX0_dip 23 = .ok (.iload_n 2, 1) := dk_28 (dk_at dksX0_dip_0 23 rfl rfl)
theorem dX0_dip_24 : decode cX0_dip 24 = .ok (.invokevirtual 167, 3) := dk_182 0 167 (dk_at dksX0_dip_1 0 rfl rfl)
theorem dX0_dip_27 : decode cX0_dip 27 = .ok (.iconst 1, 1) := dk_4 (dk_at dksX0_dip_1 3 rfl rfl)
theorem dX0_dip_28 : decode cX0_dip 28 = .ok (.aload_n 0, 1) := dk_42 (dk_at dksX0_dip_1 4 rfl rfl)
theorem dX0_dip_29 : decode cX0_dip 29 = .ok (.getfield 22, 3) := dk_180 0 22 (dk_at dksX0_dip_1 5 rfl rfl)
theorem dX0_dip_32 : decode cX0_dip 32 = .ok (.getfield 129, 3) := dk_180 0 129 (dk_at dksX0_dip_1 8 rfl rfl)
theorem dX0_dip_35 : decode cX0_dip 35 = .ok (.iload_n 1, 1) := dk_27 (dk_at dksX0_dip_1 11 rfl rfl)
theorem dX0_dip_36 : decode cX0_dip 36 = .ok (.iaload, 1) := dk_46 (dk_at dksX0_dip_1 12 rfl rfl)
theorem dX0_dip_37 : decode cX0_dip 37 = .ok (.iadd, 1) := dk_96 (dk_at dksX0_dip_1 13 rfl rfl)
theorem dX0_dip_38 : decode cX0_dip 38 = .ok (.ireturn, 1) := dk_172 (dk_at dksX0_dip_1 14 rfl rfl)
abbrev cX0_dips : ByteArray := prog_1_method_13_code
def yX0_dips : MethodName := ⟨RX0, "dips", "(LIntentVats$Mill;II)V"⟩
def dkwX0_dips_7 : List UInt8 := [79, 177]
abbrev dktX0_dips_7 : List UInt8 := dkwX0_dips_7 ++ []
def dkwX0_dips_6 : List UInt8 := [46, 4, 96, 184, 0, 149, 79, 43, 180, 0, 153, 29, 3, 43, 180, 0, 153, 29, 46, 4, 100, 184, 0, 156]
abbrev dktX0_dips_6 : List UInt8 := dkwX0_dips_6 ++ dktX0_dips_7
def dkwX0_dips_5 : List UInt8 := [167, 0, 5, 21, 6, 79, 43, 28, 182, 0, 142, 43, 180, 0, 146, 28, 17, 39, 15, 43, 180, 0, 146, 28]
abbrev dktX0_dips_5 : List UInt8 := dkwX0_dips_5 ++ dktX0_dips_6
def dkwX0_dips_4 : List UInt8 := [167, 0, 9, 43, 180, 0, 129, 28, 46, 79, 43, 180, 0, 132, 28, 21, 6, 156, 0, 10, 3, 21, 6, 100]
abbrev dktX0_dips_4 : List UInt8 := dkwX0_dips_4 ++ dktX0_dips_5
def dkwX0_dips_3 : List UInt8 := [25, 4, 43, 29, 182, 0, 139, 100, 54, 6, 43, 180, 0, 129, 28, 21, 6, 156, 0, 8, 21, 5]
abbrev dktX0_dips_3 : List UInt8 := dkwX0_dips_3 ++ dktX0_dips_4
def dkwX0_dips_2 : List UInt8 := [180, 0, 132, 28, 92, 46, 25, 4, 43, 29, 182, 0, 135, 96, 79, 167, 0, 61, 43, 180, 0, 132, 28, 46]
abbrev dktX0_dips_2 : List UInt8 := dkwX0_dips_2 ++ dktX0_dips_3
def dkwX0_dips_1 : List UInt8 := [159, 0, 14, 43, 180, 0, 129, 28, 46, 21, 5, 160, 0, 30, 43, 180, 0, 129, 28, 21, 5, 79, 43]
abbrev dktX0_dips_1 : List UInt8 := dkwX0_dips_1 ++ dktX0_dips_2
def dkwX0_dips_0 : List UInt8 := [42, 43, 28, 182, 0, 122, 58, 4, 43, 180, 0, 126, 29, 46, 54, 5, 43, 180, 0, 129, 28, 46, 2]
abbrev dktX0_dips_0 : List UInt8 := dkwX0_dips_0 ++ dktX0_dips_1
theorem dksX0_dips_0 : cX0_dips.data.toList.drop 0 = dktX0_dips_0 := by decide +kernel
theorem dksX0_dips_1 : cX0_dips.data.toList.drop 23 = dktX0_dips_1 := dk_seg dksX0_dips_0 23 rfl rfl
theorem dksX0_dips_2 : cX0_dips.data.toList.drop 46 = dktX0_dips_2 := dk_seg dksX0_dips_1 23 rfl rfl
theorem dksX0_dips_3 : cX0_dips.data.toList.drop 70 = dktX0_dips_3 := dk_seg dksX0_dips_2 24 rfl rfl
theorem dksX0_dips_4 : cX0_dips.data.toList.drop 92 = dktX0_dips_4 := dk_seg dksX0_dips_3 22 rfl rfl
theorem dksX0_dips_5 : cX0_dips.data.toList.drop 116 = dktX0_dips_5 := dk_seg dksX0_dips_4 24 rfl rfl
theorem dksX0_dips_6 : cX0_dips.data.toList.drop 140 = dktX0_dips_6 := dk_seg dksX0_dips_5 24 rfl rfl
theorem dksX0_dips_7 : cX0_dips.data.toList.drop 164 = dktX0_dips_7 := dk_seg dksX0_dips_6 24 rfl rfl
theorem dX0_dips_0 : decode cX0_dips 0 = .ok (.aload_n 0, 1) := dk_42 (dk_at dksX0_dips_0 0 rfl rfl)
theorem dX0_dips_1 : decode cX0_dips 1 = .ok (.aload_n 1, 1) := dk_43 (dk_at dksX0_dips_0 1 rfl rfl)
theorem dX0_dips_2 : decode cX0_dips 2 = .ok (.iload_n 2, 1) := dk_28 (dk_at dksX0_dips_0 2 rfl rfl)
theorem dX0_dips_3 : decode cX0_dips 3 = .ok (.invokevirtual 122, 3) := dk_182 0 122 (dk_at dksX0_dips_0 3 rfl rfl)
theorem dX0_dips_6 : decode cX0_dips 6 = .ok (.astore 4, 2) := dk_58 4 (dk_at dksX0_dips_0 6 rfl rfl)
theorem dX0_dips_8 : decode cX0_dips 8 = .ok (.aload_n 1, 1) := dk_43 (dk_at dksX0_dips_0 8 rfl rfl)
theorem dX0_dips_9 : decode cX0_dips 9 = .ok (.getfield 126, 3) := dk_180 0 126 (dk_at dksX0_dips_0 9 rfl rfl)
theorem dX0_dips_12 : decode cX0_dips 12 = .ok (.iload_n 3, 1) := dk_29 (dk_at dksX0_dips_0 12 rfl rfl)
theorem dX0_dips_13 : decode cX0_dips 13 = .ok (.iaload, 1) := dk_46 (dk_at dksX0_dips_0 13 rfl rfl)
theorem dX0_dips_14 : decode cX0_dips 14 = .ok (.istore 5, 2) := dk_54 5 (dk_at dksX0_dips_0 14 rfl rfl)
theorem dX0_dips_16 : decode cX0_dips 16 = .ok (.aload_n 1, 1) := dk_43 (dk_at dksX0_dips_0 16 rfl rfl)
theorem dX0_dips_17 : decode cX0_dips 17 = .ok (.getfield 129, 3) := dk_180 0 129 (dk_at dksX0_dips_0 17 rfl rfl)
theorem dX0_dips_20 : decode cX0_dips 20 = .ok (.iload_n 2, 1) := dk_28 (dk_at dksX0_dips_0 20 rfl rfl)
theorem dX0_dips_21 : decode cX0_dips 21 = .ok (.iaload, 1) := dk_46 (dk_at dksX0_dips_0 21 rfl rfl)
theorem dX0_dips_22 : decode cX0_dips 22 = .ok (.iconst (-1), 1) := dk_2 (dk_at dksX0_dips_0 22 rfl rfl)
theorem dX0_dips_23 : decode cX0_dips 23 = .ok (.if_icmp .eq 14, 3) := dk_159 0 14 (dk_at dksX0_dips_1 0 rfl rfl)
theorem dX0_dips_26 : decode cX0_dips 26 = .ok (.aload_n 1, 1) := dk_43 (dk_at dksX0_dips_1 3 rfl rfl)
theorem dX0_dips_27 : decode cX0_dips 27 = .ok (.getfield 129, 3) := dk_180 0 129 (dk_at dksX0_dips_1 4 rfl rfl)
theorem dX0_dips_30 : decode cX0_dips 30 = .ok (.iload_n 2, 1) := dk_28 (dk_at dksX0_dips_1 7 rfl rfl)
theorem dX0_dips_31 : decode cX0_dips 31 = .ok (.iaload, 1) := dk_46 (dk_at dksX0_dips_1 8 rfl rfl)
theorem dX0_dips_32 : decode cX0_dips 32 = .ok (.iload 5, 2) := dk_21 5 (dk_at dksX0_dips_1 9 rfl rfl)
theorem dX0_dips_34 : decode cX0_dips 34 = .ok (.if_icmp .ne 30, 3) := dk_160 0 30 (dk_at dksX0_dips_1 11 rfl rfl)
theorem dX0_dips_37 : decode cX0_dips 37 = .ok (.aload_n 1, 1) := dk_43 (dk_at dksX0_dips_1 14 rfl rfl)
theorem dX0_dips_38 : decode cX0_dips 38 = .ok (.getfield 129, 3) := dk_180 0 129 (dk_at dksX0_dips_1 15 rfl rfl)
theorem dX0_dips_41 : decode cX0_dips 41 = .ok (.iload_n 2, 1) := dk_28 (dk_at dksX0_dips_1 18 rfl rfl)
theorem dX0_dips_42 : decode cX0_dips 42 = .ok (.iload 5, 2) := dk_21 5 (dk_at dksX0_dips_1 19 rfl rfl)
theorem dX0_dips_44 : decode cX0_dips 44 = .ok (.iastore, 1) := dk_79 (dk_at dksX0_dips_1 21 rfl rfl)
theorem dX0_dips_45 : decode cX0_dips 45 = .ok (.aload_n 1, 1) := dk_43 (dk_at dksX0_dips_1 22 rfl rfl)
theorem dX0_dips_46 : decode cX0_dips 46 = .ok (.getfield 132, 3) := dk_180 0 132 (dk_at dksX0_dips_2 0 rfl rfl)
theorem dX0_dips_49 : decode cX0_dips 49 = .ok (.iload_n 2, 1) := dk_28 (dk_at dksX0_dips_2 3 rfl rfl)
theorem dX0_dips_50 : decode cX0_dips 50 = .ok (.dup2, 1) := dk_92 (dk_at dksX0_dips_2 4 rfl rfl)
theorem dX0_dips_51 : decode cX0_dips 51 = .ok (.iaload, 1) := dk_46 (dk_at dksX0_dips_2 5 rfl rfl)
theorem dX0_dips_52 : decode cX0_dips 52 = .ok (.aload 4, 2) := dk_25 4 (dk_at dksX0_dips_2 6 rfl rfl)
theorem dX0_dips_54 : decode cX0_dips 54 = .ok (.aload_n 1, 1) := dk_43 (dk_at dksX0_dips_2 8 rfl rfl)
theorem dX0_dips_55 : decode cX0_dips 55 = .ok (.iload_n 3, 1) := dk_29 (dk_at dksX0_dips_2 9 rfl rfl)
theorem dX0_dips_56 : decode cX0_dips 56 = .ok (.invokevirtual 135, 3) := dk_182 0 135 (dk_at dksX0_dips_2 10 rfl rfl)
theorem dX0_dips_59 : decode cX0_dips 59 = .ok (.iadd, 1) := dk_96 (dk_at dksX0_dips_2 13 rfl rfl)
theorem dX0_dips_60 : decode cX0_dips 60 = .ok (.iastore, 1) := dk_79 (dk_at dksX0_dips_2 14 rfl rfl)
theorem dX0_dips_61 : decode cX0_dips 61 = .ok (.goto 61, 3) := dk_167 0 61 (dk_at dksX0_dips_2 15 rfl rfl)
theorem dX0_dips_64 : decode cX0_dips 64 = .ok (.aload_n 1, 1) := dk_43 (dk_at dksX0_dips_2 18 rfl rfl)
theorem dX0_dips_65 : decode cX0_dips 65 = .ok (.getfield 132, 3) := dk_180 0 132 (dk_at dksX0_dips_2 19 rfl rfl)
theorem dX0_dips_68 : decode cX0_dips 68 = .ok (.iload_n 2, 1) := dk_28 (dk_at dksX0_dips_2 22 rfl rfl)
theorem dX0_dips_69 : decode cX0_dips 69 = .ok (.iaload, 1) := dk_46 (dk_at dksX0_dips_2 23 rfl rfl)
theorem dX0_dips_70 : decode cX0_dips 70 = .ok (.aload 4, 2) := dk_25 4 (dk_at dksX0_dips_3 0 rfl rfl)
theorem dX0_dips_72 : decode cX0_dips 72 = .ok (.aload_n 1, 1) := dk_43 (dk_at dksX0_dips_3 2 rfl rfl)
theorem dX0_dips_73 : decode cX0_dips 73 = .ok (.iload_n 3, 1) := dk_29 (dk_at dksX0_dips_3 3 rfl rfl)
theorem dX0_dips_74 : decode cX0_dips 74 = .ok (.invokevirtual 139, 3) := dk_182 0 139 (dk_at dksX0_dips_3 4 rfl rfl)
theorem dX0_dips_77 : decode cX0_dips 77 = .ok (.isub, 1) := dk_100 (dk_at dksX0_dips_3 7 rfl rfl)
theorem dX0_dips_78 : decode cX0_dips 78 = .ok (.istore 6, 2) := dk_54 6 (dk_at dksX0_dips_3 8 rfl rfl)
theorem dX0_dips_80 : decode cX0_dips 80 = .ok (.aload_n 1, 1) := dk_43 (dk_at dksX0_dips_3 10 rfl rfl)
theorem dX0_dips_81 : decode cX0_dips 81 = .ok (.getfield 129, 3) := dk_180 0 129 (dk_at dksX0_dips_3 11 rfl rfl)
theorem dX0_dips_84 : decode cX0_dips 84 = .ok (.iload_n 2, 1) := dk_28 (dk_at dksX0_dips_3 14 rfl rfl)
theorem dX0_dips_85 : decode cX0_dips 85 = .ok (.iload 6, 2) := dk_21 6 (dk_at dksX0_dips_3 15 rfl rfl)
theorem dX0_dips_87 : decode cX0_dips 87 = .ok (.ifCond .ge 8, 3) := dk_156 0 8 (dk_at dksX0_dips_3 17 rfl rfl)
theorem dX0_dips_90 : decode cX0_dips 90 = .ok (.iload 5, 2) := dk_21 5 (dk_at dksX0_dips_3 20 rfl rfl)
theorem dX0_dips_92 : decode cX0_dips 92 = .ok (.goto 9, 3) := dk_167 0 9 (dk_at dksX0_dips_4 0 rfl rfl)
theorem dX0_dips_95 : decode cX0_dips 95 = .ok (.aload_n 1, 1) := dk_43 (dk_at dksX0_dips_4 3 rfl rfl)
theorem dX0_dips_96 : decode cX0_dips 96 = .ok (.getfield 129, 3) := dk_180 0 129 (dk_at dksX0_dips_4 4 rfl rfl)
theorem dX0_dips_99 : decode cX0_dips 99 = .ok (.iload_n 2, 1) := dk_28 (dk_at dksX0_dips_4 7 rfl rfl)
theorem dX0_dips_100 : decode cX0_dips 100 = .ok (.iaload, 1) := dk_46 (dk_at dksX0_dips_4 8 rfl rfl)
theorem dX0_dips_101 : decode cX0_dips 101 = .ok (.iastore, 1) := dk_79 (dk_at dksX0_dips_4 9 rfl rfl)
theorem dX0_dips_102 : decode cX0_dips 102 = .ok (.aload_n 1, 1) := dk_43 (dk_at dksX0_dips_4 10 rfl rfl)
theorem dX0_dips_103 : decode cX0_dips 103 = .ok (.getfield 132, 3) := dk_180 0 132 (dk_at dksX0_dips_4 11 rfl rfl)
theorem dX0_dips_106 : decode cX0_dips 106 = .ok (.iload_n 2, 1) := dk_28 (dk_at dksX0_dips_4 14 rfl rfl)
theorem dX0_dips_107 : decode cX0_dips 107 = .ok (.iload 6, 2) := dk_21 6 (dk_at dksX0_dips_4 15 rfl rfl)
theorem dX0_dips_109 : decode cX0_dips 109 = .ok (.ifCond .ge 10, 3) := dk_156 0 10 (dk_at dksX0_dips_4 17 rfl rfl)
theorem dX0_dips_112 : decode cX0_dips 112 = .ok (.iconst 0, 1) := dk_3 (dk_at dksX0_dips_4 20 rfl rfl)
theorem dX0_dips_113 : decode cX0_dips 113 = .ok (.iload 6, 2) := dk_21 6 (dk_at dksX0_dips_4 21 rfl rfl)
theorem dX0_dips_115 : decode cX0_dips 115 = .ok (.isub, 1) := dk_100 (dk_at dksX0_dips_4 23 rfl rfl)
theorem dX0_dips_116 : decode cX0_dips 116 = .ok (.goto 5, 3) := dk_167 0 5 (dk_at dksX0_dips_5 0 rfl rfl)
theorem dX0_dips_119 : decode cX0_dips 119 = .ok (.iload 6, 2) := dk_21 6 (dk_at dksX0_dips_5 3 rfl rfl)
theorem dX0_dips_121 : decode cX0_dips 121 = .ok (.iastore, 1) := dk_79 (dk_at dksX0_dips_5 5 rfl rfl)
theorem dX0_dips_122 : decode cX0_dips 122 = .ok (.aload_n 1, 1) := dk_43 (dk_at dksX0_dips_5 6 rfl rfl)
theorem dX0_dips_123 : decode cX0_dips 123 = .ok (.iload_n 2, 1) := dk_28 (dk_at dksX0_dips_5 7 rfl rfl)
theorem dX0_dips_124 : decode cX0_dips 124 = .ok (.invokevirtual 142, 3) := dk_182 0 142 (dk_at dksX0_dips_5 8 rfl rfl)
theorem dX0_dips_127 : decode cX0_dips 127 = .ok (.aload_n 1, 1) := dk_43 (dk_at dksX0_dips_5 11 rfl rfl)
theorem dX0_dips_128 : decode cX0_dips 128 = .ok (.getfield 146, 3) := dk_180 0 146 (dk_at dksX0_dips_5 12 rfl rfl)
theorem dX0_dips_131 : decode cX0_dips 131 = .ok (.iload_n 2, 1) := dk_28 (dk_at dksX0_dips_5 15 rfl rfl)
theorem dX0_dips_132 : decode cX0_dips 132 = .ok (.sipush 9999, 3) := dk_17 39 15 (dk_at dksX0_dips_5 16 rfl rfl)
theorem dX0_dips_135 : decode cX0_dips 135 = .ok (.aload_n 1, 1) := dk_43 (dk_at dksX0_dips_5 19 rfl rfl)
theorem dX0_dips_136 : decode cX0_dips 136 = .ok (.getfield 146, 3) := dk_180 0 146 (dk_at dksX0_dips_5 20 rfl rfl)
theorem dX0_dips_139 : decode cX0_dips 139 = .ok (.iload_n 2, 1) := dk_28 (dk_at dksX0_dips_5 23 rfl rfl)
theorem dX0_dips_140 : decode cX0_dips 140 = .ok (.iaload, 1) := dk_46 (dk_at dksX0_dips_6 0 rfl rfl)
theorem dX0_dips_141 : decode cX0_dips 141 = .ok (.iconst 1, 1) := dk_4 (dk_at dksX0_dips_6 1 rfl rfl)
theorem dX0_dips_142 : decode cX0_dips 142 = .ok (.iadd, 1) := dk_96 (dk_at dksX0_dips_6 2 rfl rfl)
theorem dX0_dips_143 : decode cX0_dips 143 = .ok (.invokestatic 149, 3) := dk_184 0 149 (dk_at dksX0_dips_6 3 rfl rfl)
theorem dX0_dips_146 : decode cX0_dips 146 = .ok (.iastore, 1) := dk_79 (dk_at dksX0_dips_6 6 rfl rfl)
theorem dX0_dips_147 : decode cX0_dips 147 = .ok (.aload_n 1, 1) := dk_43 (dk_at dksX0_dips_6 7 rfl rfl)
theorem dX0_dips_148 : decode cX0_dips 148 = .ok (.getfield 153, 3) := dk_180 0 153 (dk_at dksX0_dips_6 8 rfl rfl)
theorem dX0_dips_151 : decode cX0_dips 151 = .ok (.iload_n 3, 1) := dk_29 (dk_at dksX0_dips_6 11 rfl rfl)
theorem dX0_dips_152 : decode cX0_dips 152 = .ok (.iconst 0, 1) := dk_3 (dk_at dksX0_dips_6 12 rfl rfl)
theorem dX0_dips_153 : decode cX0_dips 153 = .ok (.aload_n 1, 1) := dk_43 (dk_at dksX0_dips_6 13 rfl rfl)
theorem dX0_dips_154 : decode cX0_dips 154 = .ok (.getfield 153, 3) := dk_180 0 153 (dk_at dksX0_dips_6 14 rfl rfl)
theorem dX0_dips_157 : decode cX0_dips 157 = .ok (.iload_n 3, 1) := dk_29 (dk_at dksX0_dips_6 17 rfl rfl)
theorem dX0_dips_158 : decode cX0_dips 158 = .ok (.iaload, 1) := dk_46 (dk_at dksX0_dips_6 18 rfl rfl)
theorem dX0_dips_159 : decode cX0_dips 159 = .ok (.iconst 1, 1) := dk_4 (dk_at dksX0_dips_6 19 rfl rfl)
theorem dX0_dips_160 : decode cX0_dips 160 = .ok (.isub, 1) := dk_100 (dk_at dksX0_dips_6 20 rfl rfl)
theorem dX0_dips_161 : decode cX0_dips 161 = .ok (.invokestatic 156, 3) := dk_184 0 156 (dk_at dksX0_dips_6 21 rfl rfl)
theorem dX0_dips_164 : decode cX0_dips 164 = .ok (.iastore, 1) := dk_79 (dk_at dksX0_dips_7 0 rfl rfl)
theorem dX0_dips_165 : decode cX0_dips 165 = .ok (.return_, 1) := dk_177 (dk_at dksX0_dips_7 1 rfl rfl)
abbrev cX0_days : ByteArray := prog_1_method_34_code
def yX0_days : MethodName := ⟨RX0, "days", "(I)I"⟩
def dkwX0_days_1 : List UInt8 := [180, 0, 22, 182, 1, 2, 172]
abbrev dktX0_days_1 : List UInt8 := dkwX0_days_1 ++ []
def dkwX0_days_0 : List UInt8 := [27, 4, 16, 60, 184, 0, 115, 154, 0, 5, 2, 172, 42, 42, 180, 0, 22, 27, 182, 0, 254, 42]
abbrev dktX0_days_0 : List UInt8 := dkwX0_days_0 ++ dktX0_days_1
theorem dksX0_days_0 : cX0_days.data.toList.drop 0 = dktX0_days_0 := by decide +kernel
theorem dksX0_days_1 : cX0_days.data.toList.drop 22 = dktX0_days_1 := dk_seg dksX0_days_0 22 rfl rfl
theorem dX0_days_0 : decode cX0_days 0 = .ok (.iload_n 1, 1) := dk_27 (dk_at dksX0_days_0 0 rfl rfl)
theorem dX0_days_1 : decode cX0_days 1 = .ok (.iconst 1, 1) := dk_4 (dk_at dksX0_days_0 1 rfl rfl)
theorem dX0_days_2 : decode cX0_days 2 = .ok (.bipush 60, 2) := dk_16 60 (dk_at dksX0_days_0 2 rfl rfl)
theorem dX0_days_4 : decode cX0_days 4 = .ok (.invokestatic 115, 3) := dk_184 0 115 (dk_at dksX0_days_0 4 rfl rfl)
theorem dX0_days_7 : decode cX0_days 7 = .ok (.ifCond .ne 5, 3) := dk_154 0 5 (dk_at dksX0_days_0 7 rfl rfl)
theorem dX0_days_10 : decode cX0_days 10 = .ok (.iconst (-1), 1) := dk_2 (dk_at dksX0_days_0 10 rfl rfl)
theorem dX0_days_11 : decode cX0_days 11 = .ok (.ireturn, 1) := dk_172 (dk_at dksX0_days_0 11 rfl rfl)
theorem dX0_days_12 : decode cX0_days 12 = .ok (.aload_n 0, 1) := dk_42 (dk_at dksX0_days_0 12 rfl rfl)
theorem dX0_days_13 : decode cX0_days 13 = .ok (.aload_n 0, 1) := dk_42 (dk_at dksX0_days_0 13 rfl rfl)
theorem dX0_days_14 : decode cX0_days 14 = .ok (.getfield 22, 3) := dk_180 0 22 (dk_at dksX0_days_0 14 rfl rfl)
theorem dX0_days_17 : decode cX0_days 17 = .ok (.iload_n 1, 1) := dk_27 (dk_at dksX0_days_0 17 rfl rfl)
theorem dX0_days_18 : decode cX0_days 18 = .ok (.invokevirtual 254, 3) := dk_182 0 254 (dk_at dksX0_days_0 18 rfl rfl)
theorem dX0_days_21 : decode cX0_days 21 = .ok (.aload_n 0, 1) := dk_42 (dk_at dksX0_days_0 21 rfl rfl)
theorem dX0_days_22 : decode cX0_days 22 = .ok (.getfield 22, 3) := dk_180 0 22 (dk_at dksX0_days_1 0 rfl rfl)
theorem dX0_days_25 : decode cX0_days 25 = .ok (.invokevirtual 258, 3) := dk_182 1 2 (dk_at dksX0_days_1 3 rfl rfl)
theorem dX0_days_28 : decode cX0_days 28 = .ok (.ireturn, 1) := dk_172 (dk_at dksX0_days_1 6 rfl rfl)
abbrev cX0_daysGo : ByteArray := prog_1_method_15_code
def yX0_daysGo : MethodName := ⟨RX0, "daysGo", "(LIntentVats$Mill;I)V"⟩
def dkwX0_daysGo_0 : List UInt8 := [3, 62, 29, 28, 162, 0, 14, 42, 43, 182, 0, 177, 132, 3, 1, 167, 255, 243, 177]
abbrev dktX0_daysGo_0 : List UInt8 := dkwX0_daysGo_0 ++ []
theorem dksX0_daysGo_0 : cX0_daysGo.data.toList.drop 0 = dktX0_daysGo_0 := by decide +kernel
theorem dX0_daysGo_0 : decode cX0_daysGo 0 = .ok (.iconst 0, 1) := dk_3 (dk_at dksX0_daysGo_0 0 rfl rfl)
theorem dX0_daysGo_1 : decode cX0_daysGo 1 = .ok (.istore_n 3, 1) := dk_62 (dk_at dksX0_daysGo_0 1 rfl rfl)
theorem dX0_daysGo_2 : decode cX0_daysGo 2 = .ok (.iload_n 3, 1) := dk_29 (dk_at dksX0_daysGo_0 2 rfl rfl)
theorem dX0_daysGo_3 : decode cX0_daysGo 3 = .ok (.iload_n 2, 1) := dk_28 (dk_at dksX0_daysGo_0 3 rfl rfl)
theorem dX0_daysGo_4 : decode cX0_daysGo 4 = .ok (.if_icmp .ge 14, 3) := dk_162 0 14 (dk_at dksX0_daysGo_0 4 rfl rfl)
theorem dX0_daysGo_7 : decode cX0_daysGo 7 = .ok (.aload_n 0, 1) := dk_42 (dk_at dksX0_daysGo_0 7 rfl rfl)
theorem dX0_daysGo_8 : decode cX0_daysGo 8 = .ok (.aload_n 1, 1) := dk_43 (dk_at dksX0_daysGo_0 8 rfl rfl)
theorem dX0_daysGo_9 : decode cX0_daysGo 9 = .ok (.invokevirtual 177, 3) := dk_182 0 177 (dk_at dksX0_daysGo_0 9 rfl rfl)
theorem dX0_daysGo_12 : decode cX0_daysGo 12 = .ok (.iinc 3 1, 3) := dk_132 3 1 (dk_at dksX0_daysGo_0 12 rfl rfl)
theorem dX0_daysGo_15 : decode cX0_daysGo 15 = .ok (.goto (-13), 3) := dk_167 255 243 (dk_at dksX0_daysGo_0 15 rfl rfl)
theorem dX0_daysGo_18 : decode cX0_daysGo 18 = .ok (.return_, 1) := dk_177 (dk_at dksX0_daysGo_0 18 rfl rfl)
abbrev cX0_dayGoes : ByteArray := prog_1_method_14_code
def yX0_dayGoes : MethodName := ⟨RX0, "dayGoes", "(LIntentVats$Mill;)V"⟩
def dkwX0_dayGoes_6 : List UInt8 := [181, 0, 174, 177]
abbrev dktX0_dayGoes_6 : List UInt8 := dkwX0_dayGoes_6 ++ []
def dkwX0_dayGoes_5 : List UInt8 := [180, 0, 153, 29, 46, 4, 96, 184, 0, 149, 79, 132, 3, 1, 167, 255, 228, 43, 89, 180, 0, 174, 4, 96]
abbrev dktX0_dayGoes_5 : List UInt8 := dkwX0_dayGoes_5 ++ dktX0_dayGoes_6
def dkwX0_dayGoes_4 : List UInt8 := [132, 3, 1, 167, 255, 203, 3, 62, 29, 16, 8, 162, 0, 28, 43, 180, 0, 153, 29, 16, 9, 43]
abbrev dktX0_dayGoes_4 : List UInt8 := dkwX0_dayGoes_4 ++ dktX0_dayGoes_5
def dkwX0_dayGoes_3 : List UInt8 := [43, 180, 0, 132, 29, 92, 46, 42, 43, 29, 182, 0, 122, 43, 182, 0, 170, 100, 79, 43, 29, 182, 0, 142]
abbrev dktX0_dayGoes_3 : List UInt8 := dkwX0_dayGoes_3 ++ dktX0_dayGoes_4
def dkwX0_dayGoes_2 : List UInt8 := [180, 0, 111, 162, 0, 51, 43, 29, 182, 0, 163, 153, 0, 37, 43, 180, 0, 129, 29, 46, 2, 159, 0, 27]
abbrev dktX0_dayGoes_2 : List UInt8 := dkwX0_dayGoes_2 ++ dktX0_dayGoes_3
def dkwX0_dayGoes_1 : List UInt8 := [182, 0, 163, 154, 0, 10, 42, 43, 29, 28, 182, 0, 167, 132, 3, 1, 167, 255, 225, 3, 62, 29, 43]
abbrev dktX0_dayGoes_1 : List UInt8 := dkwX0_dayGoes_1 ++ dktX0_dayGoes_2
def dkwX0_dayGoes_0 : List UInt8 := [43, 182, 0, 159, 61, 3, 62, 29, 43, 180, 0, 111, 162, 0, 29, 28, 2, 159, 0, 24, 43, 29]
abbrev dktX0_dayGoes_0 : List UInt8 := dkwX0_dayGoes_0 ++ dktX0_dayGoes_1
theorem dksX0_dayGoes_0 : cX0_dayGoes.data.toList.drop 0 = dktX0_dayGoes_0 := by decide +kernel
theorem dksX0_dayGoes_1 : cX0_dayGoes.data.toList.drop 22 = dktX0_dayGoes_1 := dk_seg dksX0_dayGoes_0 22 rfl rfl
theorem dksX0_dayGoes_2 : cX0_dayGoes.data.toList.drop 45 = dktX0_dayGoes_2 := dk_seg dksX0_dayGoes_1 23 rfl rfl
theorem dksX0_dayGoes_3 : cX0_dayGoes.data.toList.drop 69 = dktX0_dayGoes_3 := dk_seg dksX0_dayGoes_2 24 rfl rfl
theorem dksX0_dayGoes_4 : cX0_dayGoes.data.toList.drop 93 = dktX0_dayGoes_4 := dk_seg dksX0_dayGoes_3 24 rfl rfl
theorem dksX0_dayGoes_5 : cX0_dayGoes.data.toList.drop 115 = dktX0_dayGoes_5 := dk_seg dksX0_dayGoes_4 22 rfl rfl
theorem dksX0_dayGoes_6 : cX0_dayGoes.data.toList.drop 139 = dktX0_dayGoes_6 := dk_seg dksX0_dayGoes_5 24 rfl rfl
theorem dX0_dayGoes_0 : decode cX0_dayGoes 0 = .ok (.aload_n 1, 1) := dk_43 (dk_at dksX0_dayGoes_0 0 rfl rfl)
theorem dX0_dayGoes_1 : decode cX0_dayGoes 1 = .ok (.invokevirtual 159, 3) := dk_182 0 159 (dk_at dksX0_dayGoes_0 1 rfl rfl)
theorem dX0_dayGoes_4 : decode cX0_dayGoes 4 = .ok (.istore_n 2, 1) := dk_61 (dk_at dksX0_dayGoes_0 4 rfl rfl)
theorem dX0_dayGoes_5 : decode cX0_dayGoes 5 = .ok (.iconst 0, 1) := dk_3 (dk_at dksX0_dayGoes_0 5 rfl rfl)
theorem dX0_dayGoes_6 : decode cX0_dayGoes 6 = .ok (.istore_n 3, 1) := dk_62 (dk_at dksX0_dayGoes_0 6 rfl rfl)
theorem dX0_dayGoes_7 : decode cX0_dayGoes 7 = .ok (.iload_n 3, 1) := dk_29 (dk_at dksX0_dayGoes_0 7 rfl rfl)
theorem dX0_dayGoes_8 : decode cX0_dayGoes 8 = .ok (.aload_n 1, 1) := dk_43 (dk_at dksX0_dayGoes_0 8 rfl rfl)
theorem dX0_dayGoes_9 : decode cX0_dayGoes 9 = .ok (.getfield 111, 3) := dk_180 0 111 (dk_at dksX0_dayGoes_0 9 rfl rfl)
theorem dX0_dayGoes_12 : decode cX0_dayGoes 12 = .ok (.if_icmp .ge 29, 3) := dk_162 0 29 (dk_at dksX0_dayGoes_0 12 rfl rfl)
theorem dX0_dayGoes_15 : decode cX0_dayGoes 15 = .ok (.iload_n 2, 1) := dk_28 (dk_at dksX0_dayGoes_0 15 rfl rfl)
theorem dX0_dayGoes_16 : decode cX0_dayGoes 16 = .ok (.iconst (-1), 1) := dk_2 (dk_at dksX0_dayGoes_0 16 rfl rfl)
theorem dX0_dayGoes_17 : decode cX0_dayGoes 17 = .ok (.if_icmp .eq 24, 3) := dk_159 0 24 (dk_at dksX0_dayGoes_0 17 rfl rfl)
theorem dX0_dayGoes_20 : decode cX0_dayGoes 20 = .ok (.aload_n 1, 1) := dk_43 (dk_at dksX0_dayGoes_0 20 rfl rfl)
theorem dX0_dayGoes_21 : decode cX0_dayGoes 21 = .ok (.iload_n 3, 1) := dk_29 (dk_at dksX0_dayGoes_0 21 rfl rfl)
theorem dX0_dayGoes_22 : decode cX0_dayGoes 22 = .ok (.invokevirtual 163, 3) := dk_182 0 163 (dk_at dksX0_dayGoes_1 0 rfl rfl)
theorem dX0_dayGoes_25 : decode cX0_dayGoes 25 = .ok (.ifCond .ne 10, 3) := dk_154 0 10 (dk_at dksX0_dayGoes_1 3 rfl rfl)
theorem dX0_dayGoes_28 : decode cX0_dayGoes 28 = .ok (.aload_n 0, 1) := dk_42 (dk_at dksX0_dayGoes_1 6 rfl rfl)
theorem dX0_dayGoes_29 : decode cX0_dayGoes 29 = .ok (.aload_n 1, 1) := dk_43 (dk_at dksX0_dayGoes_1 7 rfl rfl)
theorem dX0_dayGoes_30 : decode cX0_dayGoes 30 = .ok (.iload_n 3, 1) := dk_29 (dk_at dksX0_dayGoes_1 8 rfl rfl)
theorem dX0_dayGoes_31 : decode cX0_dayGoes 31 = .ok (.iload_n 2, 1) := dk_28 (dk_at dksX0_dayGoes_1 9 rfl rfl)
theorem dX0_dayGoes_32 : decode cX0_dayGoes 32 = .ok (.invokevirtual 167, 3) := dk_182 0 167 (dk_at dksX0_dayGoes_1 10 rfl rfl)
theorem dX0_dayGoes_35 : decode cX0_dayGoes 35 = .ok (.iinc 3 1, 3) := dk_132 3 1 (dk_at dksX0_dayGoes_1 13 rfl rfl)
theorem dX0_dayGoes_38 : decode cX0_dayGoes 38 = .ok (.goto (-31), 3) := dk_167 255 225 (dk_at dksX0_dayGoes_1 16 rfl rfl)
theorem dX0_dayGoes_41 : decode cX0_dayGoes 41 = .ok (.iconst 0, 1) := dk_3 (dk_at dksX0_dayGoes_1 19 rfl rfl)
theorem dX0_dayGoes_42 : decode cX0_dayGoes 42 = .ok (.istore_n 3, 1) := dk_62 (dk_at dksX0_dayGoes_1 20 rfl rfl)
theorem dX0_dayGoes_43 : decode cX0_dayGoes 43 = .ok (.iload_n 3, 1) := dk_29 (dk_at dksX0_dayGoes_1 21 rfl rfl)
theorem dX0_dayGoes_44 : decode cX0_dayGoes 44 = .ok (.aload_n 1, 1) := dk_43 (dk_at dksX0_dayGoes_1 22 rfl rfl)
theorem dX0_dayGoes_45 : decode cX0_dayGoes 45 = .ok (.getfield 111, 3) := dk_180 0 111 (dk_at dksX0_dayGoes_2 0 rfl rfl)
theorem dX0_dayGoes_48 : decode cX0_dayGoes 48 = .ok (.if_icmp .ge 51, 3) := dk_162 0 51 (dk_at dksX0_dayGoes_2 3 rfl rfl)
theorem dX0_dayGoes_51 : decode cX0_dayGoes 51 = .ok (.aload_n 1, 1) := dk_43 (dk_at dksX0_dayGoes_2 6 rfl rfl)
theorem dX0_dayGoes_52 : decode cX0_dayGoes 52 = .ok (.iload_n 3, 1) := dk_29 (dk_at dksX0_dayGoes_2 7 rfl rfl)
theorem dX0_dayGoes_53 : decode cX0_dayGoes 53 = .ok (.invokevirtual 163, 3) := dk_182 0 163 (dk_at dksX0_dayGoes_2 8 rfl rfl)
theorem dX0_dayGoes_56 : decode cX0_dayGoes 56 = .ok (.ifCond .eq 37, 3) := dk_153 0 37 (dk_at dksX0_dayGoes_2 11 rfl rfl)
theorem dX0_dayGoes_59 : decode cX0_dayGoes 59 = .ok (.aload_n 1, 1) := dk_43 (dk_at dksX0_dayGoes_2 14 rfl rfl)
theorem dX0_dayGoes_60 : decode cX0_dayGoes 60 = .ok (.getfield 129, 3) := dk_180 0 129 (dk_at dksX0_dayGoes_2 15 rfl rfl)
theorem dX0_dayGoes_63 : decode cX0_dayGoes 63 = .ok (.iload_n 3, 1) := dk_29 (dk_at dksX0_dayGoes_2 18 rfl rfl)
theorem dX0_dayGoes_64 : decode cX0_dayGoes 64 = .ok (.iaload, 1) := dk_46 (dk_at dksX0_dayGoes_2 19 rfl rfl)
theorem dX0_dayGoes_65 : decode cX0_dayGoes 65 = .ok (.iconst (-1), 1) := dk_2 (dk_at dksX0_dayGoes_2 20 rfl rfl)
theorem dX0_dayGoes_66 : decode cX0_dayGoes 66 = .ok (.if_icmp .eq 27, 3) := dk_159 0 27 (dk_at dksX0_dayGoes_2 21 rfl rfl)
theorem dX0_dayGoes_69 : decode cX0_dayGoes 69 = .ok (.aload_n 1, 1) := dk_43 (dk_at dksX0_dayGoes_3 0 rfl rfl)
theorem dX0_dayGoes_70 : decode cX0_dayGoes 70 = .ok (.getfield 132, 3) := dk_180 0 132 (dk_at dksX0_dayGoes_3 1 rfl rfl)
theorem dX0_dayGoes_73 : decode cX0_dayGoes 73 = .ok (.iload_n 3, 1) := dk_29 (dk_at dksX0_dayGoes_3 4 rfl rfl)
theorem dX0_dayGoes_74 : decode cX0_dayGoes 74 = .ok (.dup2, 1) := dk_92 (dk_at dksX0_dayGoes_3 5 rfl rfl)
theorem dX0_dayGoes_75 : decode cX0_dayGoes 75 = .ok (.iaload, 1) := dk_46 (dk_at dksX0_dayGoes_3 6 rfl rfl)
theorem dX0_dayGoes_76 : decode cX0_dayGoes 76 = .ok (.aload_n 0, 1) := dk_42 (dk_at dksX0_dayGoes_3 7 rfl rfl)
theorem dX0_dayGoes_77 : decode cX0_dayGoes 77 = .ok (.aload_n 1, 1) := dk_43 (dk_at dksX0_dayGoes_3 8 rfl rfl)
theorem dX0_dayGoes_78 : decode cX0_dayGoes 78 = .ok (.iload_n 3, 1) := dk_29 (dk_at dksX0_dayGoes_3 9 rfl rfl)
theorem dX0_dayGoes_79 : decode cX0_dayGoes 79 = .ok (.invokevirtual 122, 3) := dk_182 0 122 (dk_at dksX0_dayGoes_3 10 rfl rfl)
theorem dX0_dayGoes_82 : decode cX0_dayGoes 82 = .ok (.aload_n 1, 1) := dk_43 (dk_at dksX0_dayGoes_3 13 rfl rfl)
theorem dX0_dayGoes_83 : decode cX0_dayGoes 83 = .ok (.invokevirtual 170, 3) := dk_182 0 170 (dk_at dksX0_dayGoes_3 14 rfl rfl)
theorem dX0_dayGoes_86 : decode cX0_dayGoes 86 = .ok (.isub, 1) := dk_100 (dk_at dksX0_dayGoes_3 17 rfl rfl)
theorem dX0_dayGoes_87 : decode cX0_dayGoes 87 = .ok (.iastore, 1) := dk_79 (dk_at dksX0_dayGoes_3 18 rfl rfl)
theorem dX0_dayGoes_88 : decode cX0_dayGoes 88 = .ok (.aload_n 1, 1) := dk_43 (dk_at dksX0_dayGoes_3 19 rfl rfl)
theorem dX0_dayGoes_89 : decode cX0_dayGoes 89 = .ok (.iload_n 3, 1) := dk_29 (dk_at dksX0_dayGoes_3 20 rfl rfl)
theorem dX0_dayGoes_90 : decode cX0_dayGoes 90 = .ok (.invokevirtual 142, 3) := dk_182 0 142 (dk_at dksX0_dayGoes_3 21 rfl rfl)
theorem dX0_dayGoes_93 : decode cX0_dayGoes 93 = .ok (.iinc 3 1, 3) := dk_132 3 1 (dk_at dksX0_dayGoes_4 0 rfl rfl)
theorem dX0_dayGoes_96 : decode cX0_dayGoes 96 = .ok (.goto (-53), 3) := dk_167 255 203 (dk_at dksX0_dayGoes_4 3 rfl rfl)
theorem dX0_dayGoes_99 : decode cX0_dayGoes 99 = .ok (.iconst 0, 1) := dk_3 (dk_at dksX0_dayGoes_4 6 rfl rfl)
theorem dX0_dayGoes_100 : decode cX0_dayGoes 100 = .ok (.istore_n 3, 1) := dk_62 (dk_at dksX0_dayGoes_4 7 rfl rfl)
theorem dX0_dayGoes_101 : decode cX0_dayGoes 101 = .ok (.iload_n 3, 1) := dk_29 (dk_at dksX0_dayGoes_4 8 rfl rfl)
theorem dX0_dayGoes_102 : decode cX0_dayGoes 102 = .ok (.bipush 8, 2) := dk_16 8 (dk_at dksX0_dayGoes_4 9 rfl rfl)
theorem dX0_dayGoes_104 : decode cX0_dayGoes 104 = .ok (.if_icmp .ge 28, 3) := dk_162 0 28 (dk_at dksX0_dayGoes_4 11 rfl rfl)
theorem dX0_dayGoes_107 : decode cX0_dayGoes 107 = .ok (.aload_n 1, 1) := dk_43 (dk_at dksX0_dayGoes_4 14 rfl rfl)
theorem dX0_dayGoes_108 : decode cX0_dayGoes 108 = .ok (.getfield 153, 3) := dk_180 0 153 (dk_at dksX0_dayGoes_4 15 rfl rfl)
theorem dX0_dayGoes_111 : decode cX0_dayGoes 111 = .ok (.iload_n 3, 1) := dk_29 (dk_at dksX0_dayGoes_4 18 rfl rfl)
theorem dX0_dayGoes_112 : decode cX0_dayGoes 112 = .ok (.bipush 9, 2) := dk_16 9 (dk_at dksX0_dayGoes_4 19 rfl rfl)
theorem dX0_dayGoes_114 : decode cX0_dayGoes 114 = .ok (.aload_n 1, 1) := dk_43 (dk_at dksX0_dayGoes_4 21 rfl rfl)
theorem dX0_dayGoes_115 : decode cX0_dayGoes 115 = .ok (.getfield 153, 3) := dk_180 0 153 (dk_at dksX0_dayGoes_5 0 rfl rfl)
theorem dX0_dayGoes_118 : decode cX0_dayGoes 118 = .ok (.iload_n 3, 1) := dk_29 (dk_at dksX0_dayGoes_5 3 rfl rfl)
theorem dX0_dayGoes_119 : decode cX0_dayGoes 119 = .ok (.iaload, 1) := dk_46 (dk_at dksX0_dayGoes_5 4 rfl rfl)
theorem dX0_dayGoes_120 : decode cX0_dayGoes 120 = .ok (.iconst 1, 1) := dk_4 (dk_at dksX0_dayGoes_5 5 rfl rfl)
theorem dX0_dayGoes_121 : decode cX0_dayGoes 121 = .ok (.iadd, 1) := dk_96 (dk_at dksX0_dayGoes_5 6 rfl rfl)
theorem dX0_dayGoes_122 : decode cX0_dayGoes 122 = .ok (.invokestatic 149, 3) := dk_184 0 149 (dk_at dksX0_dayGoes_5 7 rfl rfl)
theorem dX0_dayGoes_125 : decode cX0_dayGoes 125 = .ok (.iastore, 1) := dk_79 (dk_at dksX0_dayGoes_5 10 rfl rfl)
theorem dX0_dayGoes_126 : decode cX0_dayGoes 126 = .ok (.iinc 3 1, 3) := dk_132 3 1 (dk_at dksX0_dayGoes_5 11 rfl rfl)
theorem dX0_dayGoes_129 : decode cX0_dayGoes 129 = .ok (.goto (-28), 3) := dk_167 255 228 (dk_at dksX0_dayGoes_5 14 rfl rfl)
theorem dX0_dayGoes_132 : decode cX0_dayGoes 132 = .ok (.aload_n 1, 1) := dk_43 (dk_at dksX0_dayGoes_5 17 rfl rfl)
theorem dX0_dayGoes_133 : decode cX0_dayGoes 133 = .ok (.dup, 1) := dk_89 (dk_at dksX0_dayGoes_5 18 rfl rfl)
theorem dX0_dayGoes_134 : decode cX0_dayGoes 134 = .ok (.getfield 174, 3) := dk_180 0 174 (dk_at dksX0_dayGoes_5 19 rfl rfl)
theorem dX0_dayGoes_137 : decode cX0_dayGoes 137 = .ok (.iconst 1, 1) := dk_4 (dk_at dksX0_dayGoes_5 22 rfl rfl)
theorem dX0_dayGoes_138 : decode cX0_dayGoes 138 = .ok (.iadd, 1) := dk_96 (dk_at dksX0_dayGoes_5 23 rfl rfl)
theorem dX0_dayGoes_139 : decode cX0_dayGoes 139 = .ok (.putfield 174, 3) := dk_181 0 174 (dk_at dksX0_dayGoes_6 0 rfl rfl)
theorem dX0_dayGoes_142 : decode cX0_dayGoes 142 = .ok (.return_, 1) := dk_177 (dk_at dksX0_dayGoes_6 3 rfl rfl)
abbrev cX0_seed : ByteArray := prog_1_method_35_code
def yX0_seed : MethodName := ⟨RX0, "seed", "(I)I"⟩
def dkwX0_seed_0 : List UInt8 := [42, 180, 0, 22, 180, 1, 5, 61, 42, 180, 0, 22, 27, 181, 1, 5, 28, 172]
abbrev dktX0_seed_0 : List UInt8 := dkwX0_seed_0 ++ []
theorem dksX0_seed_0 : cX0_seed.data.toList.drop 0 = dktX0_seed_0 := by decide +kernel
theorem dX0_seed_0 : decode cX0_seed 0 = .ok (.aload_n 0, 1) := dk_42 (dk_at dksX0_seed_0 0 rfl rfl)
theorem dX0_seed_1 : decode cX0_seed 1 = .ok (.getfield 22, 3) := dk_180 0 22 (dk_at dksX0_seed_0 1 rfl rfl)
theorem dX0_seed_4 : decode cX0_seed 4 = .ok (.getfield 261, 3) := dk_180 1 5 (dk_at dksX0_seed_0 4 rfl rfl)
theorem dX0_seed_7 : decode cX0_seed 7 = .ok (.istore_n 2, 1) := dk_61 (dk_at dksX0_seed_0 7 rfl rfl)
theorem dX0_seed_8 : decode cX0_seed 8 = .ok (.aload_n 0, 1) := dk_42 (dk_at dksX0_seed_0 8 rfl rfl)
theorem dX0_seed_9 : decode cX0_seed 9 = .ok (.getfield 22, 3) := dk_180 0 22 (dk_at dksX0_seed_0 9 rfl rfl)
theorem dX0_seed_12 : decode cX0_seed 12 = .ok (.iload_n 1, 1) := dk_27 (dk_at dksX0_seed_0 12 rfl rfl)
theorem dX0_seed_13 : decode cX0_seed 13 = .ok (.putfield 261, 3) := dk_181 1 5 (dk_at dksX0_seed_0 13 rfl rfl)
theorem dX0_seed_16 : decode cX0_seed 16 = .ok (.iload_n 2, 1) := dk_28 (dk_at dksX0_seed_0 16 rfl rfl)
theorem dX0_seed_17 : decode cX0_seed 17 = .ok (.ireturn, 1) := dk_172 (dk_at dksX0_seed_0 17 rfl rfl)
abbrev cX0_day : ByteArray := prog_1_method_37_code
def yX0_day : MethodName := ⟨RX0, "day", "()I"⟩
def dkwX0_day_0 : List UInt8 := [42, 42, 180, 0, 22, 182, 1, 11, 42, 180, 0, 22, 182, 1, 2, 172]
abbrev dktX0_day_0 : List UInt8 := dkwX0_day_0 ++ []
theorem dksX0_day_0 : cX0_day.data.toList.drop 0 = dktX0_day_0 := by decide +kernel
theorem dX0_day_0 : decode cX0_day 0 = .ok (.aload_n 0, 1) := dk_42 (dk_at dksX0_day_0 0 rfl rfl)
theorem dX0_day_1 : decode cX0_day 1 = .ok (.aload_n 0, 1) := dk_42 (dk_at dksX0_day_0 1 rfl rfl)
theorem dX0_day_2 : decode cX0_day 2 = .ok (.getfield 22, 3) := dk_180 0 22 (dk_at dksX0_day_0 2 rfl rfl)
theorem dX0_day_5 : decode cX0_day 5 = .ok (.invokevirtual 267, 3) := dk_182 1 11 (dk_at dksX0_day_0 5 rfl rfl)
theorem dX0_day_8 : decode cX0_day 8 = .ok (.aload_n 0, 1) := dk_42 (dk_at dksX0_day_0 8 rfl rfl)
theorem dX0_day_9 : decode cX0_day 9 = .ok (.getfield 22, 3) := dk_180 0 22 (dk_at dksX0_day_0 9 rfl rfl)
theorem dX0_day_12 : decode cX0_day 12 = .ok (.invokevirtual 258, 3) := dk_182 1 2 (dk_at dksX0_day_0 12 rfl rfl)
theorem dX0_day_15 : decode cX0_day 15 = .ok (.ireturn, 1) := dk_172 (dk_at dksX0_day_0 15 rfl rfl)
abbrev cX0_dayByDraws : ByteArray := prog_1_method_36_code
def yX0_dayByDraws : MethodName := ⟨RX0, "dayByDraws", "(LIntentVats$Mill;)V"⟩
def dkwX0_dayByDraws_2 : List UInt8 := [182, 0, 177, 177]
abbrev dktX0_dayByDraws_2 : List UInt8 := dkwX0_dayByDraws_2 ++ []
def dkwX0_dayByDraws_1 : List UInt8 := [43, 180, 0, 222, 6, 46, 162, 0, 16, 42, 43, 28, 43, 182, 1, 8, 16, 8, 112, 182, 0, 167, 42, 43]
abbrev dktX0_dayByDraws_1 : List UInt8 := dkwX0_dayByDraws_1 ++ dktX0_dayByDraws_2
def dkwX0_dayByDraws_0 : List UInt8 := [43, 180, 0, 111, 158, 0, 42, 43, 182, 1, 8, 43, 180, 0, 111, 112, 61, 43, 182, 1, 8, 16, 100, 112]
abbrev dktX0_dayByDraws_0 : List UInt8 := dkwX0_dayByDraws_0 ++ dktX0_dayByDraws_1
theorem dksX0_dayByDraws_0 : cX0_dayByDraws.data.toList.drop 0 = dktX0_dayByDraws_0 := by decide +kernel
theorem dksX0_dayByDraws_1 : cX0_dayByDraws.data.toList.drop 24 = dktX0_dayByDraws_1 := dk_seg dksX0_dayByDraws_0 24 rfl rfl
theorem dksX0_dayByDraws_2 : cX0_dayByDraws.data.toList.drop 48 = dktX0_dayByDraws_2 := dk_seg dksX0_dayByDraws_1 24 rfl rfl
theorem dX0_dayByDraws_0 : decode cX0_dayByDraws 0 = .ok (.aload_n 1, 1) := dk_43 (dk_at dksX0_dayByDraws_0 0 rfl rfl)
theorem dX0_dayByDraws_1 : decode cX0_dayByDraws 1 = .ok (.getfield 111, 3) := dk_180 0 111 (dk_at dksX0_dayByDraws_0 1 rfl rfl)
theorem dX0_dayByDraws_4 : decode cX0_dayByDraws 4 = .ok (.ifCond .le 42, 3) := dk_158 0 42 (dk_at dksX0_dayByDraws_0 4 rfl rfl)
theorem dX0_dayByDraws_7 : decode cX0_dayByDraws 7 = .ok (.aload_n 1, 1) := dk_43 (dk_at dksX0_dayByDraws_0 7 rfl rfl)
theorem dX0_dayByDraws_8 : decode cX0_dayByDraws 8 = .ok (.invokevirtual 264, 3) := dk_182 1 8 (dk_at dksX0_dayByDraws_0 8 rfl rfl)
theorem dX0_dayByDraws_11 : decode cX0_dayByDraws 11 = .ok (.aload_n 1, 1) := dk_43 (dk_at dksX0_dayByDraws_0 11 rfl rfl)
theorem dX0_dayByDraws_12 : decode cX0_dayByDraws 12 = .ok (.getfield 111, 3) := dk_180 0 111 (dk_at dksX0_dayByDraws_0 12 rfl rfl)
theorem dX0_dayByDraws_15 : decode cX0_dayByDraws 15 = .ok (.irem, 1) := dk_112 (dk_at dksX0_dayByDraws_0 15 rfl rfl)
theorem dX0_dayByDraws_16 : decode cX0_dayByDraws 16 = .ok (.istore_n 2, 1) := dk_61 (dk_at dksX0_dayByDraws_0 16 rfl rfl)
theorem dX0_dayByDraws_17 : decode cX0_dayByDraws 17 = .ok (.aload_n 1, 1) := dk_43 (dk_at dksX0_dayByDraws_0 17 rfl rfl)
theorem dX0_dayByDraws_18 : decode cX0_dayByDraws 18 = .ok (.invokevirtual 264, 3) := dk_182 1 8 (dk_at dksX0_dayByDraws_0 18 rfl rfl)
theorem dX0_dayByDraws_21 : decode cX0_dayByDraws 21 = .ok (.bipush 100, 2) := dk_16 100 (dk_at dksX0_dayByDraws_0 21 rfl rfl)
theorem dX0_dayByDraws_23 : decode cX0_dayByDraws 23 = .ok (.irem, 1) := dk_112 (dk_at dksX0_dayByDraws_0 23 rfl rfl)
theorem dX0_dayByDraws_24 : decode cX0_dayByDraws 24 = .ok (.aload_n 1, 1) := dk_43 (dk_at dksX0_dayByDraws_1 0 rfl rfl)
theorem dX0_dayByDraws_25 : decode cX0_dayByDraws 25 = .ok (.getfield 222, 3) := dk_180 0 222 (dk_at dksX0_dayByDraws_1 1 rfl rfl)
theorem dX0_dayByDraws_28 : decode cX0_dayByDraws 28 = .ok (.iconst 3, 1) := dk_6 (dk_at dksX0_dayByDraws_1 4 rfl rfl)
theorem dX0_dayByDraws_29 : decode cX0_dayByDraws 29 = .ok (.iaload, 1) := dk_46 (dk_at dksX0_dayByDraws_1 5 rfl rfl)
theorem dX0_dayByDraws_30 : decode cX0_dayByDraws 30 = .ok (.if_icmp .ge 16, 3) := dk_162 0 16 (dk_at dksX0_dayByDraws_1 6 rfl rfl)
theorem dX0_dayByDraws_33 : decode cX0_dayByDraws 33 = .ok (.aload_n 0, 1) := dk_42 (dk_at dksX0_dayByDraws_1 9 rfl rfl)
theorem dX0_dayByDraws_34 : decode cX0_dayByDraws 34 = .ok (.aload_n 1, 1) := dk_43 (dk_at dksX0_dayByDraws_1 10 rfl rfl)
theorem dX0_dayByDraws_35 : decode cX0_dayByDraws 35 = .ok (.iload_n 2, 1) := dk_28 (dk_at dksX0_dayByDraws_1 11 rfl rfl)
theorem dX0_dayByDraws_36 : decode cX0_dayByDraws 36 = .ok (.aload_n 1, 1) := dk_43 (dk_at dksX0_dayByDraws_1 12 rfl rfl)
theorem dX0_dayByDraws_37 : decode cX0_dayByDraws 37 = .ok (.invokevirtual 264, 3) := dk_182 1 8 (dk_at dksX0_dayByDraws_1 13 rfl rfl)
theorem dX0_dayByDraws_40 : decode cX0_dayByDraws 40 = .ok (.bipush 8, 2) := dk_16 8 (dk_at dksX0_dayByDraws_1 16 rfl rfl)
theorem dX0_dayByDraws_42 : decode cX0_dayByDraws 42 = .ok (.irem, 1) := dk_112 (dk_at dksX0_dayByDraws_1 18 rfl rfl)
theorem dX0_dayByDraws_43 : decode cX0_dayByDraws 43 = .ok (.invokevirtual 167, 3) := dk_182 0 167 (dk_at dksX0_dayByDraws_1 19 rfl rfl)
theorem dX0_dayByDraws_46 : decode cX0_dayByDraws 46 = .ok (.aload_n 0, 1) := dk_42 (dk_at dksX0_dayByDraws_1 22 rfl rfl)
theorem dX0_dayByDraws_47 : decode cX0_dayByDraws 47 = .ok (.aload_n 1, 1) := dk_43 (dk_at dksX0_dayByDraws_1 23 rfl rfl)
theorem dX0_dayByDraws_48 : decode cX0_dayByDraws 48 = .ok (.invokevirtual 177, 3) := dk_182 0 177 (dk_at dksX0_dayByDraws_2 0 rfl rfl)
theorem dX0_dayByDraws_51 : decode cX0_dayByDraws 51 = .ok (.return_, 1) := dk_177 (dk_at dksX0_dayByDraws_2 3 rfl rfl)
abbrev cX0_luck : ByteArray := prog_1_method_38_code
def yX0_luck : MethodName := ⟨RX0, "luck", "(I)I"⟩
def dkwX0_luck_5 : List UInt8 := [167, 255, 191, 29, 172]
abbrev dktX0_luck_5 : List UInt8 := dkwX0_luck_5 ++ []
def dkwX0_luck_4 : List UInt8 := [28, 164, 0, 7, 4, 167, 0, 4, 3, 96, 62, 42, 180, 0, 32, 180, 1, 5, 54, 4, 132, 5, 1]
abbrev dktX0_luck_4 : List UInt8 := dkwX0_luck_4 ++ dktX0_luck_5
def dkwX0_luck_3 : List UInt8 := [180, 0, 32, 21, 4, 181, 1, 5, 42, 42, 180, 0, 32, 182, 1, 11, 29, 42, 180, 0, 32, 182, 1, 2]
abbrev dktX0_luck_3 : List UInt8 := dkwX0_luck_3 ++ dktX0_luck_4
def dkwX0_luck_2 : List UInt8 := [54, 4, 3, 54, 5, 21, 5, 27, 162, 0, 65, 42, 180, 0, 32, 42, 180, 0, 22, 182, 0, 203, 42]
abbrev dktX0_luck_2 : List UInt8 := dkwX0_luck_2 ++ dktX0_luck_3
def dkwX0_luck_1 : List UInt8 := [42, 180, 0, 32, 182, 0, 177, 42, 180, 0, 32, 182, 1, 2, 61, 3, 62, 42, 180, 0, 22, 180, 1, 5]
abbrev dktX0_luck_1 : List UInt8 := dkwX0_luck_1 ++ dktX0_luck_2
def dkwX0_luck_0 : List UInt8 := [27, 4, 16, 30, 184, 0, 115, 154, 0, 5, 2, 172, 42, 180, 0, 32, 42, 180, 0, 22, 182, 0, 203, 42]
abbrev dktX0_luck_0 : List UInt8 := dkwX0_luck_0 ++ dktX0_luck_1
theorem dksX0_luck_0 : cX0_luck.data.toList.drop 0 = dktX0_luck_0 := by decide +kernel
theorem dksX0_luck_1 : cX0_luck.data.toList.drop 24 = dktX0_luck_1 := dk_seg dksX0_luck_0 24 rfl rfl
theorem dksX0_luck_2 : cX0_luck.data.toList.drop 48 = dktX0_luck_2 := dk_seg dksX0_luck_1 24 rfl rfl
theorem dksX0_luck_3 : cX0_luck.data.toList.drop 71 = dktX0_luck_3 := dk_seg dksX0_luck_2 23 rfl rfl
theorem dksX0_luck_4 : cX0_luck.data.toList.drop 95 = dktX0_luck_4 := dk_seg dksX0_luck_3 24 rfl rfl
theorem dksX0_luck_5 : cX0_luck.data.toList.drop 118 = dktX0_luck_5 := dk_seg dksX0_luck_4 23 rfl rfl
theorem dX0_luck_0 : decode cX0_luck 0 = .ok (.iload_n 1, 1) := dk_27 (dk_at dksX0_luck_0 0 rfl rfl)
theorem dX0_luck_1 : decode cX0_luck 1 = .ok (.iconst 1, 1) := dk_4 (dk_at dksX0_luck_0 1 rfl rfl)
theorem dX0_luck_2 : decode cX0_luck 2 = .ok (.bipush 30, 2) := dk_16 30 (dk_at dksX0_luck_0 2 rfl rfl)
theorem dX0_luck_4 : decode cX0_luck 4 = .ok (.invokestatic 115, 3) := dk_184 0 115 (dk_at dksX0_luck_0 4 rfl rfl)
theorem dX0_luck_7 : decode cX0_luck 7 = .ok (.ifCond .ne 5, 3) := dk_154 0 5 (dk_at dksX0_luck_0 7 rfl rfl)
theorem dX0_luck_10 : decode cX0_luck 10 = .ok (.iconst (-1), 1) := dk_2 (dk_at dksX0_luck_0 10 rfl rfl)
theorem dX0_luck_11 : decode cX0_luck 11 = .ok (.ireturn, 1) := dk_172 (dk_at dksX0_luck_0 11 rfl rfl)
theorem dX0_luck_12 : decode cX0_luck 12 = .ok (.aload_n 0, 1) := dk_42 (dk_at dksX0_luck_0 12 rfl rfl)
theorem dX0_luck_13 : decode cX0_luck 13 = .ok (.getfield 32, 3) := dk_180 0 32 (dk_at dksX0_luck_0 13 rfl rfl)
theorem dX0_luck_16 : decode cX0_luck 16 = .ok (.aload_n 0, 1) := dk_42 (dk_at dksX0_luck_0 16 rfl rfl)
theorem dX0_luck_17 : decode cX0_luck 17 = .ok (.getfield 22, 3) := dk_180 0 22 (dk_at dksX0_luck_0 17 rfl rfl)
theorem dX0_luck_20 : decode cX0_luck 20 = .ok (.invokevirtual 203, 3) := dk_182 0 203 (dk_at dksX0_luck_0 20 rfl rfl)
theorem dX0_luck_23 : decode cX0_luck 23 = .ok (.aload_n 0, 1) := dk_42 (dk_at dksX0_luck_0 23 rfl rfl)
theorem dX0_luck_24 : decode cX0_luck 24 = .ok (.aload_n 0, 1) := dk_42 (dk_at dksX0_luck_1 0 rfl rfl)
theorem dX0_luck_25 : decode cX0_luck 25 = .ok (.getfield 32, 3) := dk_180 0 32 (dk_at dksX0_luck_1 1 rfl rfl)
theorem dX0_luck_28 : decode cX0_luck 28 = .ok (.invokevirtual 177, 3) := dk_182 0 177 (dk_at dksX0_luck_1 4 rfl rfl)
theorem dX0_luck_31 : decode cX0_luck 31 = .ok (.aload_n 0, 1) := dk_42 (dk_at dksX0_luck_1 7 rfl rfl)
theorem dX0_luck_32 : decode cX0_luck 32 = .ok (.getfield 32, 3) := dk_180 0 32 (dk_at dksX0_luck_1 8 rfl rfl)
theorem dX0_luck_35 : decode cX0_luck 35 = .ok (.invokevirtual 258, 3) := dk_182 1 2 (dk_at dksX0_luck_1 11 rfl rfl)
theorem dX0_luck_38 : decode cX0_luck 38 = .ok (.istore_n 2, 1) := dk_61 (dk_at dksX0_luck_1 14 rfl rfl)
theorem dX0_luck_39 : decode cX0_luck 39 = .ok (.iconst 0, 1) := dk_3 (dk_at dksX0_luck_1 15 rfl rfl)
theorem dX0_luck_40 : decode cX0_luck 40 = .ok (.istore_n 3, 1) := dk_62 (dk_at dksX0_luck_1 16 rfl rfl)
theorem dX0_luck_41 : decode cX0_luck 41 = .ok (.aload_n 0, 1) := dk_42 (dk_at dksX0_luck_1 17 rfl rfl)
theorem dX0_luck_42 : decode cX0_luck 42 = .ok (.getfield 22, 3) := dk_180 0 22 (dk_at dksX0_luck_1 18 rfl rfl)
theorem dX0_luck_45 : decode cX0_luck 45 = .ok (.getfield 261, 3) := dk_180 1 5 (dk_at dksX0_luck_1 21 rfl rfl)
theorem dX0_luck_48 : decode cX0_luck 48 = .ok (.istore 4, 2) := dk_54 4 (dk_at dksX0_luck_2 0 rfl rfl)
theorem dX0_luck_50 : decode cX0_luck 50 = .ok (.iconst 0, 1) := dk_3 (dk_at dksX0_luck_2 2 rfl rfl)
theorem dX0_luck_51 : decode cX0_luck 51 = .ok (.istore 5, 2) := dk_54 5 (dk_at dksX0_luck_2 3 rfl rfl)
theorem dX0_luck_53 : decode cX0_luck 53 = .ok (.iload 5, 2) := dk_21 5 (dk_at dksX0_luck_2 5 rfl rfl)
theorem dX0_luck_55 : decode cX0_luck 55 = .ok (.iload_n 1, 1) := dk_27 (dk_at dksX0_luck_2 7 rfl rfl)
theorem dX0_luck_56 : decode cX0_luck 56 = .ok (.if_icmp .ge 65, 3) := dk_162 0 65 (dk_at dksX0_luck_2 8 rfl rfl)
theorem dX0_luck_59 : decode cX0_luck 59 = .ok (.aload_n 0, 1) := dk_42 (dk_at dksX0_luck_2 11 rfl rfl)
theorem dX0_luck_60 : decode cX0_luck 60 = .ok (.getfield 32, 3) := dk_180 0 32 (dk_at dksX0_luck_2 12 rfl rfl)
theorem dX0_luck_63 : decode cX0_luck 63 = .ok (.aload_n 0, 1) := dk_42 (dk_at dksX0_luck_2 15 rfl rfl)
theorem dX0_luck_64 : decode cX0_luck 64 = .ok (.getfield 22, 3) := dk_180 0 22 (dk_at dksX0_luck_2 16 rfl rfl)
theorem dX0_luck_67 : decode cX0_luck 67 = .ok (.invokevirtual 203, 3) := dk_182 0 203 (dk_at dksX0_luck_2 19 rfl rfl)
theorem dX0_luck_70 : decode cX0_luck 70 = .ok (.aload_n 0, 1) := dk_42 (dk_at dksX0_luck_2 22 rfl rfl)
theorem dX0_luck_71 : decode cX0_luck 71 = .ok (.getfield 32, 3) := dk_180 0 32 (dk_at dksX0_luck_3 0 rfl rfl)
theorem dX0_luck_74 : decode cX0_luck 74 = .ok (.iload 4, 2) := dk_21 4 (dk_at dksX0_luck_3 3 rfl rfl)
theorem dX0_luck_76 : decode cX0_luck 76 = .ok (.putfield 261, 3) := dk_181 1 5 (dk_at dksX0_luck_3 5 rfl rfl)
theorem dX0_luck_79 : decode cX0_luck 79 = .ok (.aload_n 0, 1) := dk_42 (dk_at dksX0_luck_3 8 rfl rfl)
theorem dX0_luck_80 : decode cX0_luck 80 = .ok (.aload_n 0, 1) := dk_42 (dk_at dksX0_luck_3 9 rfl rfl)
theorem dX0_luck_81 : decode cX0_luck 81 = .ok (.getfield 32, 3) := dk_180 0 32 (dk_at dksX0_luck_3 10 rfl rfl)
theorem dX0_luck_84 : decode cX0_luck 84 = .ok (.invokevirtual 267, 3) := dk_182 1 11 (dk_at dksX0_luck_3 13 rfl rfl)
theorem dX0_luck_87 : decode cX0_luck 87 = .ok (.iload_n 3, 1) := dk_29 (dk_at dksX0_luck_3 16 rfl rfl)
theorem dX0_luck_88 : decode cX0_luck 88 = .ok (.aload_n 0, 1) := dk_42 (dk_at dksX0_luck_3 17 rfl rfl)
theorem dX0_luck_89 : decode cX0_luck 89 = .ok (.getfield 32, 3) := dk_180 0 32 (dk_at dksX0_luck_3 18 rfl rfl)
theorem dX0_luck_92 : decode cX0_luck 92 = .ok (.invokevirtual 258, 3) := dk_182 1 2 (dk_at dksX0_luck_3 21 rfl rfl)
theorem dX0_luck_95 : decode cX0_luck 95 = .ok (.iload_n 2, 1) := dk_28 (dk_at dksX0_luck_4 0 rfl rfl)
theorem dX0_luck_96 : decode cX0_luck 96 = .ok (.if_icmp .le 7, 3) := dk_164 0 7 (dk_at dksX0_luck_4 1 rfl rfl)
theorem dX0_luck_99 : decode cX0_luck 99 = .ok (.iconst 1, 1) := dk_4 (dk_at dksX0_luck_4 4 rfl rfl)
theorem dX0_luck_100 : decode cX0_luck 100 = .ok (.goto 4, 3) := dk_167 0 4 (dk_at dksX0_luck_4 5 rfl rfl)
theorem dX0_luck_103 : decode cX0_luck 103 = .ok (.iconst 0, 1) := dk_3 (dk_at dksX0_luck_4 8 rfl rfl)
theorem dX0_luck_104 : decode cX0_luck 104 = .ok (.iadd, 1) := dk_96 (dk_at dksX0_luck_4 9 rfl rfl)
theorem dX0_luck_105 : decode cX0_luck 105 = .ok (.istore_n 3, 1) := dk_62 (dk_at dksX0_luck_4 10 rfl rfl)
theorem dX0_luck_106 : decode cX0_luck 106 = .ok (.aload_n 0, 1) := dk_42 (dk_at dksX0_luck_4 11 rfl rfl)
theorem dX0_luck_107 : decode cX0_luck 107 = .ok (.getfield 32, 3) := dk_180 0 32 (dk_at dksX0_luck_4 12 rfl rfl)
theorem dX0_luck_110 : decode cX0_luck 110 = .ok (.getfield 261, 3) := dk_180 1 5 (dk_at dksX0_luck_4 15 rfl rfl)
theorem dX0_luck_113 : decode cX0_luck 113 = .ok (.istore 4, 2) := dk_54 4 (dk_at dksX0_luck_4 18 rfl rfl)
theorem dX0_luck_115 : decode cX0_luck 115 = .ok (.iinc 5 1, 3) := dk_132 5 1 (dk_at dksX0_luck_4 20 rfl rfl)
theorem dX0_luck_118 : decode cX0_luck 118 = .ok (.goto (-65), 3) := dk_167 255 191 (dk_at dksX0_luck_5 0 rfl rfl)
theorem dX0_luck_121 : decode cX0_luck 121 = .ok (.iload_n 3, 1) := dk_29 (dk_at dksX0_luck_5 3 rfl rfl)
theorem dX0_luck_122 : decode cX0_luck 122 = .ok (.ireturn, 1) := dk_172 (dk_at dksX0_luck_5 4 rfl rfl)
abbrev cX0_state : ByteArray := prog_1_method_39_code
def yX0_state : MethodName := ⟨RX0, "state", "(I)I"⟩
def dkwX0_state_4 : List UInt8 := [182, 1, 20, 172, 2, 172]
abbrev dktX0_state_4 : List UInt8 := dkwX0_state_4 ++ []
def dkwX0_state_3 : List UInt8 := [180, 1, 14, 172, 42, 180, 0, 22, 182, 1, 17, 172, 42, 180, 0, 22, 182, 1, 2, 172, 42, 180, 0, 22]
abbrev dktX0_state_3 : List UInt8 := dkwX0_state_3 ++ dktX0_state_4
def dkwX0_state_2 : List UInt8 := [42, 180, 0, 22, 180, 0, 174, 172, 4, 42, 180, 0, 22, 182, 0, 159, 96, 172, 42, 180, 0, 22]
abbrev dktX0_state_2 : List UInt8 := dkwX0_state_2 ++ dktX0_state_3
def dkwX0_state_1 : List UInt8 := [170, 0, 0, 0, 0, 0, 89, 0, 0, 0, 0, 0, 0, 0, 5, 0, 0, 0, 39, 0, 0, 0, 47, 0, 0, 0, 57, 0, 0, 0, 65, 0, 0, 0, 73, 0, 0, 0, 81]
abbrev dktX0_state_1 : List UInt8 := dkwX0_state_1 ++ dktX0_state_2
def dkwX0_state_0 : List UInt8 := [27]
abbrev dktX0_state_0 : List UInt8 := dkwX0_state_0 ++ dktX0_state_1
theorem dksX0_state_0 : cX0_state.data.toList.drop 0 = dktX0_state_0 := by decide +kernel
theorem dksX0_state_1 : cX0_state.data.toList.drop 1 = dktX0_state_1 := dk_seg dksX0_state_0 1 rfl rfl
theorem dksX0_state_2 : cX0_state.data.toList.drop 40 = dktX0_state_2 := dk_seg dksX0_state_1 39 rfl rfl
theorem dksX0_state_3 : cX0_state.data.toList.drop 62 = dktX0_state_3 := dk_seg dksX0_state_2 22 rfl rfl
theorem dksX0_state_4 : cX0_state.data.toList.drop 86 = dktX0_state_4 := dk_seg dksX0_state_3 24 rfl rfl
theorem dX0_state_0 : decode cX0_state 0 = .ok (.iload_n 1, 1) := dk_27 (dk_at dksX0_state_0 0 rfl rfl)
theorem dX0_state_1 : decode cX0_state 1 = .ok (.tableswitch 89 0 5 #[39, 47, 57, 65, 73, 81], 39) := by decide +kernel
theorem dX0_state_40 : decode cX0_state 40 = .ok (.aload_n 0, 1) := dk_42 (dk_at dksX0_state_2 0 rfl rfl)
theorem dX0_state_41 : decode cX0_state 41 = .ok (.getfield 22, 3) := dk_180 0 22 (dk_at dksX0_state_2 1 rfl rfl)
theorem dX0_state_44 : decode cX0_state 44 = .ok (.getfield 174, 3) := dk_180 0 174 (dk_at dksX0_state_2 4 rfl rfl)
theorem dX0_state_47 : decode cX0_state 47 = .ok (.ireturn, 1) := dk_172 (dk_at dksX0_state_2 7 rfl rfl)
theorem dX0_state_48 : decode cX0_state 48 = .ok (.iconst 1, 1) := dk_4 (dk_at dksX0_state_2 8 rfl rfl)
theorem dX0_state_49 : decode cX0_state 49 = .ok (.aload_n 0, 1) := dk_42 (dk_at dksX0_state_2 9 rfl rfl)
theorem dX0_state_50 : decode cX0_state 50 = .ok (.getfield 22, 3) := dk_180 0 22 (dk_at dksX0_state_2 10 rfl rfl)
theorem dX0_state_53 : decode cX0_state 53 = .ok (.invokevirtual 159, 3) := dk_182 0 159 (dk_at dksX0_state_2 13 rfl rfl)
theorem dX0_state_56 : decode cX0_state 56 = .ok (.iadd, 1) := dk_96 (dk_at dksX0_state_2 16 rfl rfl)
theorem dX0_state_57 : decode cX0_state 57 = .ok (.ireturn, 1) := dk_172 (dk_at dksX0_state_2 17 rfl rfl)
theorem dX0_state_58 : decode cX0_state 58 = .ok (.aload_n 0, 1) := dk_42 (dk_at dksX0_state_2 18 rfl rfl)
theorem dX0_state_59 : decode cX0_state 59 = .ok (.getfield 22, 3) := dk_180 0 22 (dk_at dksX0_state_2 19 rfl rfl)
theorem dX0_state_62 : decode cX0_state 62 = .ok (.getfield 270, 3) := dk_180 1 14 (dk_at dksX0_state_3 0 rfl rfl)
theorem dX0_state_65 : decode cX0_state 65 = .ok (.ireturn, 1) := dk_172 (dk_at dksX0_state_3 3 rfl rfl)
theorem dX0_state_66 : decode cX0_state 66 = .ok (.aload_n 0, 1) := dk_42 (dk_at dksX0_state_3 4 rfl rfl)
theorem dX0_state_67 : decode cX0_state 67 = .ok (.getfield 22, 3) := dk_180 0 22 (dk_at dksX0_state_3 5 rfl rfl)
theorem dX0_state_70 : decode cX0_state 70 = .ok (.invokevirtual 273, 3) := dk_182 1 17 (dk_at dksX0_state_3 8 rfl rfl)
theorem dX0_state_73 : decode cX0_state 73 = .ok (.ireturn, 1) := dk_172 (dk_at dksX0_state_3 11 rfl rfl)
theorem dX0_state_74 : decode cX0_state 74 = .ok (.aload_n 0, 1) := dk_42 (dk_at dksX0_state_3 12 rfl rfl)
theorem dX0_state_75 : decode cX0_state 75 = .ok (.getfield 22, 3) := dk_180 0 22 (dk_at dksX0_state_3 13 rfl rfl)
theorem dX0_state_78 : decode cX0_state 78 = .ok (.invokevirtual 258, 3) := dk_182 1 2 (dk_at dksX0_state_3 16 rfl rfl)
theorem dX0_state_81 : decode cX0_state 81 = .ok (.ireturn, 1) := dk_172 (dk_at dksX0_state_3 19 rfl rfl)
theorem dX0_state_82 : decode cX0_state 82 = .ok (.aload_n 0, 1) := dk_42 (dk_at dksX0_state_3 20 rfl rfl)
theorem dX0_state_83 : decode cX0_state 83 = .ok (.getfield 22, 3) := dk_180 0 22 (dk_at dksX0_state_3 21 rfl rfl)
theorem dX0_state_86 : decode cX0_state 86 = .ok (.invokevirtual 276, 3) := dk_182 1 20 (dk_at dksX0_state_4 0 rfl rfl)
theorem dX0_state_89 : decode cX0_state 89 = .ok (.ireturn, 1) := dk_172 (dk_at dksX0_state_4 3 rfl rfl)
theorem dX0_state_90 : decode cX0_state 90 = .ok (.iconst (-1), 1) := dk_2 (dk_at dksX0_state_4 4 rfl rfl)
theorem dX0_state_91 : decode cX0_state 91 = .ok (.ireturn, 1) := dk_172 (dk_at dksX0_state_4 5 rfl rfl)
abbrev cX0_gone : ByteArray := prog_1_method_42_code
def yX0_gone : MethodName := ⟨RX0, "gone", "(II)I"⟩
def dkwX0_gone_1 : List UInt8 := [42, 42, 180, 0, 32, 28, 182, 0, 254, 4, 42, 180, 0, 32, 180, 0, 129, 27, 46, 96, 172]
abbrev dktX0_gone_1 : List UInt8 := dkwX0_gone_1 ++ []
def dkwX0_gone_0 : List UInt8 := [42, 27, 28, 16, 60, 182, 1, 23, 154, 0, 5, 2, 172, 42, 180, 0, 32, 42, 180, 0, 22, 182, 0, 203]
abbrev dktX0_gone_0 : List UInt8 := dkwX0_gone_0 ++ dktX0_gone_1
theorem dksX0_gone_0 : cX0_gone.data.toList.drop 0 = dktX0_gone_0 := by decide +kernel
theorem dksX0_gone_1 : cX0_gone.data.toList.drop 24 = dktX0_gone_1 := dk_seg dksX0_gone_0 24 rfl rfl
theorem dX0_gone_0 : decode cX0_gone 0 = .ok (.aload_n 0, 1) := dk_42 (dk_at dksX0_gone_0 0 rfl rfl)
theorem dX0_gone_1 : decode cX0_gone 1 = .ok (.iload_n 1, 1) := dk_27 (dk_at dksX0_gone_0 1 rfl rfl)
theorem dX0_gone_2 : decode cX0_gone 2 = .ok (.iload_n 2, 1) := dk_28 (dk_at dksX0_gone_0 2 rfl rfl)
theorem dX0_gone_3 : decode cX0_gone 3 = .ok (.bipush 60, 2) := dk_16 60 (dk_at dksX0_gone_0 3 rfl rfl)
theorem dX0_gone_5 : decode cX0_gone 5 = .ok (.invokevirtual 279, 3) := dk_182 1 23 (dk_at dksX0_gone_0 5 rfl rfl)
theorem dX0_gone_8 : decode cX0_gone 8 = .ok (.ifCond .ne 5, 3) := dk_154 0 5 (dk_at dksX0_gone_0 8 rfl rfl)
theorem dX0_gone_11 : decode cX0_gone 11 = .ok (.iconst (-1), 1) := dk_2 (dk_at dksX0_gone_0 11 rfl rfl)
theorem dX0_gone_12 : decode cX0_gone 12 = .ok (.ireturn, 1) := dk_172 (dk_at dksX0_gone_0 12 rfl rfl)
theorem dX0_gone_13 : decode cX0_gone 13 = .ok (.aload_n 0, 1) := dk_42 (dk_at dksX0_gone_0 13 rfl rfl)
theorem dX0_gone_14 : decode cX0_gone 14 = .ok (.getfield 32, 3) := dk_180 0 32 (dk_at dksX0_gone_0 14 rfl rfl)
theorem dX0_gone_17 : decode cX0_gone 17 = .ok (.aload_n 0, 1) := dk_42 (dk_at dksX0_gone_0 17 rfl rfl)
theorem dX0_gone_18 : decode cX0_gone 18 = .ok (.getfield 22, 3) := dk_180 0 22 (dk_at dksX0_gone_0 18 rfl rfl)
theorem dX0_gone_21 : decode cX0_gone 21 = .ok (.invokevirtual 203, 3) := dk_182 0 203 (dk_at dksX0_gone_0 21 rfl rfl)
theorem dX0_gone_24 : decode cX0_gone 24 = .ok (.aload_n 0, 1) := dk_42 (dk_at dksX0_gone_1 0 rfl rfl)
theorem dX0_gone_25 : decode cX0_gone 25 = .ok (.aload_n 0, 1) := dk_42 (dk_at dksX0_gone_1 1 rfl rfl)
theorem dX0_gone_26 : decode cX0_gone 26 = .ok (.getfield 32, 3) := dk_180 0 32 (dk_at dksX0_gone_1 2 rfl rfl)
theorem dX0_gone_29 : decode cX0_gone 29 = .ok (.iload_n 2, 1) := dk_28 (dk_at dksX0_gone_1 5 rfl rfl)
theorem dX0_gone_30 : decode cX0_gone 30 = .ok (.invokevirtual 254, 3) := dk_182 0 254 (dk_at dksX0_gone_1 6 rfl rfl)
theorem dX0_gone_33 : decode cX0_gone 33 = .ok (.iconst 1, 1) := dk_4 (dk_at dksX0_gone_1 9 rfl rfl)
theorem dX0_gone_34 : decode cX0_gone 34 = .ok (.aload_n 0, 1) := dk_42 (dk_at dksX0_gone_1 10 rfl rfl)
theorem dX0_gone_35 : decode cX0_gone 35 = .ok (.getfield 32, 3) := dk_180 0 32 (dk_at dksX0_gone_1 11 rfl rfl)
theorem dX0_gone_38 : decode cX0_gone 38 = .ok (.getfield 129, 3) := dk_180 0 129 (dk_at dksX0_gone_1 14 rfl rfl)
theorem dX0_gone_41 : decode cX0_gone 41 = .ok (.iload_n 1, 1) := dk_27 (dk_at dksX0_gone_1 17 rfl rfl)
theorem dX0_gone_42 : decode cX0_gone 42 = .ok (.iaload, 1) := dk_46 (dk_at dksX0_gone_1 18 rfl rfl)
theorem dX0_gone_43 : decode cX0_gone 43 = .ok (.iadd, 1) := dk_96 (dk_at dksX0_gone_1 19 rfl rfl)
theorem dX0_gone_44 : decode cX0_gone 44 = .ok (.ireturn, 1) := dk_172 (dk_at dksX0_gone_1 20 rfl rfl)
abbrev cX0_isAsked : ByteArray := prog_1_method_41_code
def yX0_isAsked : MethodName := ⟨RX0, "isAsked", "(III)Z"⟩
def dkwX0_isAsked_0 : List UInt8 := [42, 27, 182, 0, 244, 153, 0, 16, 28, 3, 29, 184, 0, 115, 153, 0, 7, 4, 167, 0, 4, 3, 172]
abbrev dktX0_isAsked_0 : List UInt8 := dkwX0_isAsked_0 ++ []
theorem dksX0_isAsked_0 : cX0_isAsked.data.toList.drop 0 = dktX0_isAsked_0 := by decide +kernel
theorem dX0_isAsked_0 : decode cX0_isAsked 0 = .ok (.aload_n 0, 1) := dk_42 (dk_at dksX0_isAsked_0 0 rfl rfl)
theorem dX0_isAsked_1 : decode cX0_isAsked 1 = .ok (.iload_n 1, 1) := dk_27 (dk_at dksX0_isAsked_0 1 rfl rfl)
theorem dX0_isAsked_2 : decode cX0_isAsked 2 = .ok (.invokevirtual 244, 3) := dk_182 0 244 (dk_at dksX0_isAsked_0 2 rfl rfl)
theorem dX0_isAsked_5 : decode cX0_isAsked 5 = .ok (.ifCond .eq 16, 3) := dk_153 0 16 (dk_at dksX0_isAsked_0 5 rfl rfl)
theorem dX0_isAsked_8 : decode cX0_isAsked 8 = .ok (.iload_n 2, 1) := dk_28 (dk_at dksX0_isAsked_0 8 rfl rfl)
theorem dX0_isAsked_9 : decode cX0_isAsked 9 = .ok (.iconst 0, 1) := dk_3 (dk_at dksX0_isAsked_0 9 rfl rfl)
theorem dX0_isAsked_10 : decode cX0_isAsked 10 = .ok (.iload_n 3, 1) := dk_29 (dk_at dksX0_isAsked_0 10 rfl rfl)
theorem dX0_isAsked_11 : decode cX0_isAsked 11 = .ok (.invokestatic 115, 3) := dk_184 0 115 (dk_at dksX0_isAsked_0 11 rfl rfl)
theorem dX0_isAsked_14 : decode cX0_isAsked 14 = .ok (.ifCond .eq 7, 3) := dk_153 0 7 (dk_at dksX0_isAsked_0 14 rfl rfl)
theorem dX0_isAsked_17 : decode cX0_isAsked 17 = .ok (.iconst 1, 1) := dk_4 (dk_at dksX0_isAsked_0 17 rfl rfl)
theorem dX0_isAsked_18 : decode cX0_isAsked 18 = .ok (.goto 4, 3) := dk_167 0 4 (dk_at dksX0_isAsked_0 18 rfl rfl)
theorem dX0_isAsked_21 : decode cX0_isAsked 21 = .ok (.iconst 0, 1) := dk_3 (dk_at dksX0_isAsked_0 21 rfl rfl)
theorem dX0_isAsked_22 : decode cX0_isAsked 22 = .ok (.ireturn, 1) := dk_172 (dk_at dksX0_isAsked_0 22 rfl rfl)
abbrev cX0_depth : ByteArray := prog_1_method_43_code
def yX0_depth : MethodName := ⟨RX0, "depth", "(II)I"⟩
def dkwX0_depth_1 : List UInt8 := [42, 42, 180, 0, 32, 28, 182, 0, 254, 42, 180, 0, 32, 180, 0, 132, 27, 46, 172]
abbrev dktX0_depth_1 : List UInt8 := dkwX0_depth_1 ++ []
def dkwX0_depth_0 : List UInt8 := [42, 27, 28, 16, 60, 182, 1, 23, 154, 0, 5, 2, 172, 42, 180, 0, 32, 42, 180, 0, 22, 182, 0, 203]
abbrev dktX0_depth_0 : List UInt8 := dkwX0_depth_0 ++ dktX0_depth_1
theorem dksX0_depth_0 : cX0_depth.data.toList.drop 0 = dktX0_depth_0 := by decide +kernel
theorem dksX0_depth_1 : cX0_depth.data.toList.drop 24 = dktX0_depth_1 := dk_seg dksX0_depth_0 24 rfl rfl
theorem dX0_depth_0 : decode cX0_depth 0 = .ok (.aload_n 0, 1) := dk_42 (dk_at dksX0_depth_0 0 rfl rfl)
theorem dX0_depth_1 : decode cX0_depth 1 = .ok (.iload_n 1, 1) := dk_27 (dk_at dksX0_depth_0 1 rfl rfl)
theorem dX0_depth_2 : decode cX0_depth 2 = .ok (.iload_n 2, 1) := dk_28 (dk_at dksX0_depth_0 2 rfl rfl)
theorem dX0_depth_3 : decode cX0_depth 3 = .ok (.bipush 60, 2) := dk_16 60 (dk_at dksX0_depth_0 3 rfl rfl)
theorem dX0_depth_5 : decode cX0_depth 5 = .ok (.invokevirtual 279, 3) := dk_182 1 23 (dk_at dksX0_depth_0 5 rfl rfl)
theorem dX0_depth_8 : decode cX0_depth 8 = .ok (.ifCond .ne 5, 3) := dk_154 0 5 (dk_at dksX0_depth_0 8 rfl rfl)
theorem dX0_depth_11 : decode cX0_depth 11 = .ok (.iconst (-1), 1) := dk_2 (dk_at dksX0_depth_0 11 rfl rfl)
theorem dX0_depth_12 : decode cX0_depth 12 = .ok (.ireturn, 1) := dk_172 (dk_at dksX0_depth_0 12 rfl rfl)
theorem dX0_depth_13 : decode cX0_depth 13 = .ok (.aload_n 0, 1) := dk_42 (dk_at dksX0_depth_0 13 rfl rfl)
theorem dX0_depth_14 : decode cX0_depth 14 = .ok (.getfield 32, 3) := dk_180 0 32 (dk_at dksX0_depth_0 14 rfl rfl)
theorem dX0_depth_17 : decode cX0_depth 17 = .ok (.aload_n 0, 1) := dk_42 (dk_at dksX0_depth_0 17 rfl rfl)
theorem dX0_depth_18 : decode cX0_depth 18 = .ok (.getfield 22, 3) := dk_180 0 22 (dk_at dksX0_depth_0 18 rfl rfl)
theorem dX0_depth_21 : decode cX0_depth 21 = .ok (.invokevirtual 203, 3) := dk_182 0 203 (dk_at dksX0_depth_0 21 rfl rfl)
theorem dX0_depth_24 : decode cX0_depth 24 = .ok (.aload_n 0, 1) := dk_42 (dk_at dksX0_depth_1 0 rfl rfl)
theorem dX0_depth_25 : decode cX0_depth 25 = .ok (.aload_n 0, 1) := dk_42 (dk_at dksX0_depth_1 1 rfl rfl)
theorem dX0_depth_26 : decode cX0_depth 26 = .ok (.getfield 32, 3) := dk_180 0 32 (dk_at dksX0_depth_1 2 rfl rfl)
theorem dX0_depth_29 : decode cX0_depth 29 = .ok (.iload_n 2, 1) := dk_28 (dk_at dksX0_depth_1 5 rfl rfl)
theorem dX0_depth_30 : decode cX0_depth 30 = .ok (.invokevirtual 254, 3) := dk_182 0 254 (dk_at dksX0_depth_1 6 rfl rfl)
theorem dX0_depth_33 : decode cX0_depth 33 = .ok (.aload_n 0, 1) := dk_42 (dk_at dksX0_depth_1 9 rfl rfl)
theorem dX0_depth_34 : decode cX0_depth 34 = .ok (.getfield 32, 3) := dk_180 0 32 (dk_at dksX0_depth_1 10 rfl rfl)
theorem dX0_depth_37 : decode cX0_depth 37 = .ok (.getfield 132, 3) := dk_180 0 132 (dk_at dksX0_depth_1 13 rfl rfl)
theorem dX0_depth_40 : decode cX0_depth 40 = .ok (.iload_n 1, 1) := dk_27 (dk_at dksX0_depth_1 16 rfl rfl)
theorem dX0_depth_41 : decode cX0_depth 41 = .ok (.iaload, 1) := dk_46 (dk_at dksX0_depth_1 17 rfl rfl)
theorem dX0_depth_42 : decode cX0_depth 42 = .ok (.ireturn, 1) := dk_172 (dk_at dksX0_depth_1 18 rfl rfl)
abbrev cX0_comes : ByteArray := prog_1_method_44_code
def yX0_comes : MethodName := ⟨RX0, "comes", "(II)I"⟩
def dkwX0_comes_1 : List UInt8 := [2, 172]
abbrev dktX0_comes_1 : List UInt8 := dkwX0_comes_1 ++ []
def dkwX0_comes_0 : List UInt8 := [42, 27, 182, 0, 244, 153, 0, 19, 28, 184, 0, 247, 153, 0, 12, 42, 27, 28, 182, 1, 26, 167, 0, 4]
abbrev dktX0_comes_0 : List UInt8 := dkwX0_comes_0 ++ dktX0_comes_1
theorem dksX0_comes_0 : cX0_comes.data.toList.drop 0 = dktX0_comes_0 := by decide +kernel
theorem dksX0_comes_1 : cX0_comes.data.toList.drop 24 = dktX0_comes_1 := dk_seg dksX0_comes_0 24 rfl rfl
theorem dX0_comes_0 : decode cX0_comes 0 = .ok (.aload_n 0, 1) := dk_42 (dk_at dksX0_comes_0 0 rfl rfl)
theorem dX0_comes_1 : decode cX0_comes 1 = .ok (.iload_n 1, 1) := dk_27 (dk_at dksX0_comes_0 1 rfl rfl)
theorem dX0_comes_2 : decode cX0_comes 2 = .ok (.invokevirtual 244, 3) := dk_182 0 244 (dk_at dksX0_comes_0 2 rfl rfl)
theorem dX0_comes_5 : decode cX0_comes 5 = .ok (.ifCond .eq 19, 3) := dk_153 0 19 (dk_at dksX0_comes_0 5 rfl rfl)
theorem dX0_comes_8 : decode cX0_comes 8 = .ok (.iload_n 2, 1) := dk_28 (dk_at dksX0_comes_0 8 rfl rfl)
theorem dX0_comes_9 : decode cX0_comes 9 = .ok (.invokestatic 247, 3) := dk_184 0 247 (dk_at dksX0_comes_0 9 rfl rfl)
theorem dX0_comes_12 : decode cX0_comes 12 = .ok (.ifCond .eq 12, 3) := dk_153 0 12 (dk_at dksX0_comes_0 12 rfl rfl)
theorem dX0_comes_15 : decode cX0_comes 15 = .ok (.aload_n 0, 1) := dk_42 (dk_at dksX0_comes_0 15 rfl rfl)
theorem dX0_comes_16 : decode cX0_comes 16 = .ok (.iload_n 1, 1) := dk_27 (dk_at dksX0_comes_0 16 rfl rfl)
theorem dX0_comes_17 : decode cX0_comes 17 = .ok (.iload_n 2, 1) := dk_28 (dk_at dksX0_comes_0 17 rfl rfl)
theorem dX0_comes_18 : decode cX0_comes 18 = .ok (.invokevirtual 282, 3) := dk_182 1 26 (dk_at dksX0_comes_0 18 rfl rfl)
theorem dX0_comes_21 : decode cX0_comes 21 = .ok (.goto 4, 3) := dk_167 0 4 (dk_at dksX0_comes_0 21 rfl rfl)
theorem dX0_comes_24 : decode cX0_comes 24 = .ok (.iconst (-1), 1) := dk_2 (dk_at dksX0_comes_1 0 rfl rfl)
theorem dX0_comes_25 : decode cX0_comes 25 = .ok (.ireturn, 1) := dk_172 (dk_at dksX0_comes_1 1 rfl rfl)
abbrev cX0_firstAbout : ByteArray := prog_1_method_40_code
def yX0_firstAbout : MethodName := ⟨RX0, "firstAbout", "(II)I"⟩
def dkwX0_firstAbout_2 : List UInt8 := [167, 255, 223, 29, 16, 60, 164, 0, 8, 16, 253, 167, 0, 4, 29, 172]
abbrev dktX0_firstAbout_2 : List UInt8 := dkwX0_firstAbout_2 ++ []
def dkwX0_firstAbout_1 : List UInt8 := [180, 0, 129, 27, 46, 28, 160, 0, 6, 167, 0, 17, 42, 42, 180, 0, 32, 182, 0, 177, 132, 3, 1]
abbrev dktX0_firstAbout_1 : List UInt8 := dkwX0_firstAbout_1 ++ dktX0_firstAbout_2
def dkwX0_firstAbout_0 : List UInt8 := [42, 180, 0, 32, 42, 180, 0, 22, 182, 0, 203, 3, 62, 29, 16, 60, 163, 0, 33, 42, 180, 0, 32]
abbrev dktX0_firstAbout_0 : List UInt8 := dkwX0_firstAbout_0 ++ dktX0_firstAbout_1
theorem dksX0_firstAbout_0 : cX0_firstAbout.data.toList.drop 0 = dktX0_firstAbout_0 := by decide +kernel
theorem dksX0_firstAbout_1 : cX0_firstAbout.data.toList.drop 23 = dktX0_firstAbout_1 := dk_seg dksX0_firstAbout_0 23 rfl rfl
theorem dksX0_firstAbout_2 : cX0_firstAbout.data.toList.drop 46 = dktX0_firstAbout_2 := dk_seg dksX0_firstAbout_1 23 rfl rfl
theorem dX0_firstAbout_0 : decode cX0_firstAbout 0 = .ok (.aload_n 0, 1) := dk_42 (dk_at dksX0_firstAbout_0 0 rfl rfl)
theorem dX0_firstAbout_1 : decode cX0_firstAbout 1 = .ok (.getfield 32, 3) := dk_180 0 32 (dk_at dksX0_firstAbout_0 1 rfl rfl)
theorem dX0_firstAbout_4 : decode cX0_firstAbout 4 = .ok (.aload_n 0, 1) := dk_42 (dk_at dksX0_firstAbout_0 4 rfl rfl)
theorem dX0_firstAbout_5 : decode cX0_firstAbout 5 = .ok (.getfield 22, 3) := dk_180 0 22 (dk_at dksX0_firstAbout_0 5 rfl rfl)
theorem dX0_firstAbout_8 : decode cX0_firstAbout 8 = .ok (.invokevirtual 203, 3) := dk_182 0 203 (dk_at dksX0_firstAbout_0 8 rfl rfl)
theorem dX0_firstAbout_11 : decode cX0_firstAbout 11 = .ok (.iconst 0, 1) := dk_3 (dk_at dksX0_firstAbout_0 11 rfl rfl)
theorem dX0_firstAbout_12 : decode cX0_firstAbout 12 = .ok (.istore_n 3, 1) := dk_62 (dk_at dksX0_firstAbout_0 12 rfl rfl)
theorem dX0_firstAbout_13 : decode cX0_firstAbout 13 = .ok (.iload_n 3, 1) := dk_29 (dk_at dksX0_firstAbout_0 13 rfl rfl)
theorem dX0_firstAbout_14 : decode cX0_firstAbout 14 = .ok (.bipush 60, 2) := dk_16 60 (dk_at dksX0_firstAbout_0 14 rfl rfl)
theorem dX0_firstAbout_16 : decode cX0_firstAbout 16 = .ok (.if_icmp .gt 33, 3) := dk_163 0 33 (dk_at dksX0_firstAbout_0 16 rfl rfl)
theorem dX0_firstAbout_19 : decode cX0_firstAbout 19 = .ok (.aload_n 0, 1) := dk_42 (dk_at dksX0_firstAbout_0 19 rfl rfl)
theorem dX0_firstAbout_20 : decode cX0_firstAbout 20 = .ok (.getfield 32, 3) := dk_180 0 32 (dk_at dksX0_firstAbout_0 20 rfl rfl)
theorem dX0_firstAbout_23 : decode cX0_firstAbout 23 = .ok (.getfield 129, 3) := dk_180 0 129 (dk_at dksX0_firstAbout_1 0 rfl rfl)
theorem dX0_firstAbout_26 : decode cX0_firstAbout 26 = .ok (.iload_n 1, 1) := dk_27 (dk_at dksX0_firstAbout_1 3 rfl rfl)
theorem dX0_firstAbout_27 : decode cX0_firstAbout 27 = .ok (.iaload, 1) := dk_46 (dk_at dksX0_firstAbout_1 4 rfl rfl)
theorem dX0_firstAbout_28 : decode cX0_firstAbout 28 = .ok (.iload_n 2, 1) := dk_28 (dk_at dksX0_firstAbout_1 5 rfl rfl)
theorem dX0_firstAbout_29 : decode cX0_firstAbout 29 = .ok (.if_icmp .ne 6, 3) := dk_160 0 6 (dk_at dksX0_firstAbout_1 6 rfl rfl)
theorem dX0_firstAbout_32 : decode cX0_firstAbout 32 = .ok (.goto 17, 3) := dk_167 0 17 (dk_at dksX0_firstAbout_1 9 rfl rfl)
theorem dX0_firstAbout_35 : decode cX0_firstAbout 35 = .ok (.aload_n 0, 1) := dk_42 (dk_at dksX0_firstAbout_1 12 rfl rfl)
theorem dX0_firstAbout_36 : decode cX0_firstAbout 36 = .ok (.aload_n 0, 1) := dk_42 (dk_at dksX0_firstAbout_1 13 rfl rfl)
theorem dX0_firstAbout_37 : decode cX0_firstAbout 37 = .ok (.getfield 32, 3) := dk_180 0 32 (dk_at dksX0_firstAbout_1 14 rfl rfl)
theorem dX0_firstAbout_40 : decode cX0_firstAbout 40 = .ok (.invokevirtual 177, 3) := dk_182 0 177 (dk_at dksX0_firstAbout_1 17 rfl rfl)
theorem dX0_firstAbout_43 : decode cX0_firstAbout 43 = .ok (.iinc 3 1, 3) := dk_132 3 1 (dk_at dksX0_firstAbout_1 20 rfl rfl)
theorem dX0_firstAbout_46 : decode cX0_firstAbout 46 = .ok (.goto (-33), 3) := dk_167 255 223 (dk_at dksX0_firstAbout_2 0 rfl rfl)
theorem dX0_firstAbout_49 : decode cX0_firstAbout 49 = .ok (.iload_n 3, 1) := dk_29 (dk_at dksX0_firstAbout_2 3 rfl rfl)
theorem dX0_firstAbout_50 : decode cX0_firstAbout 50 = .ok (.bipush 60, 2) := dk_16 60 (dk_at dksX0_firstAbout_2 4 rfl rfl)
theorem dX0_firstAbout_52 : decode cX0_firstAbout 52 = .ok (.if_icmp .le 8, 3) := dk_164 0 8 (dk_at dksX0_firstAbout_2 6 rfl rfl)
theorem dX0_firstAbout_55 : decode cX0_firstAbout 55 = .ok (.bipush (-3), 2) := dk_16 253 (dk_at dksX0_firstAbout_2 9 rfl rfl)
theorem dX0_firstAbout_57 : decode cX0_firstAbout 57 = .ok (.goto 4, 3) := dk_167 0 4 (dk_at dksX0_firstAbout_2 11 rfl rfl)
theorem dX0_firstAbout_60 : decode cX0_firstAbout 60 = .ok (.iload_n 3, 1) := dk_29 (dk_at dksX0_firstAbout_2 14 rfl rfl)
theorem dX0_firstAbout_61 : decode cX0_firstAbout 61 = .ok (.ireturn, 1) := dk_172 (dk_at dksX0_firstAbout_2 15 rfl rfl)
abbrev cX0_bare : ByteArray := prog_1_method_45_code
def yX0_bare : MethodName := ⟨RX0, "bare", "(I)I"⟩
def dkwX0_bare_0 : List UInt8 := [42, 27, 182, 0, 244, 153, 0, 12, 42, 27, 2, 182, 1, 26, 167, 0, 4, 2, 172]
abbrev dktX0_bare_0 : List UInt8 := dkwX0_bare_0 ++ []
theorem dksX0_bare_0 : cX0_bare.data.toList.drop 0 = dktX0_bare_0 := by decide +kernel
theorem dX0_bare_0 : decode cX0_bare 0 = .ok (.aload_n 0, 1) := dk_42 (dk_at dksX0_bare_0 0 rfl rfl)
theorem dX0_bare_1 : decode cX0_bare 1 = .ok (.iload_n 1, 1) := dk_27 (dk_at dksX0_bare_0 1 rfl rfl)
theorem dX0_bare_2 : decode cX0_bare 2 = .ok (.invokevirtual 244, 3) := dk_182 0 244 (dk_at dksX0_bare_0 2 rfl rfl)
theorem dX0_bare_5 : decode cX0_bare 5 = .ok (.ifCond .eq 12, 3) := dk_153 0 12 (dk_at dksX0_bare_0 5 rfl rfl)
theorem dX0_bare_8 : decode cX0_bare 8 = .ok (.aload_n 0, 1) := dk_42 (dk_at dksX0_bare_0 8 rfl rfl)
theorem dX0_bare_9 : decode cX0_bare 9 = .ok (.iload_n 1, 1) := dk_27 (dk_at dksX0_bare_0 9 rfl rfl)
theorem dX0_bare_10 : decode cX0_bare 10 = .ok (.iconst (-1), 1) := dk_2 (dk_at dksX0_bare_0 10 rfl rfl)
theorem dX0_bare_11 : decode cX0_bare 11 = .ok (.invokevirtual 282, 3) := dk_182 1 26 (dk_at dksX0_bare_0 11 rfl rfl)
theorem dX0_bare_14 : decode cX0_bare 14 = .ok (.goto 4, 3) := dk_167 0 4 (dk_at dksX0_bare_0 14 rfl rfl)
theorem dX0_bare_17 : decode cX0_bare 17 = .ok (.iconst (-1), 1) := dk_2 (dk_at dksX0_bare_0 17 rfl rfl)
theorem dX0_bare_18 : decode cX0_bare 18 = .ok (.ireturn, 1) := dk_172 (dk_at dksX0_bare_0 18 rfl rfl)
abbrev cX0_spoilt : ByteArray := prog_1_method_47_code
def yX0_spoilt : MethodName := ⟨RX0, "spoilt", "(I)I"⟩
def dkwX0_spoilt_1 : List UInt8 := [27, 182, 1, 29, 172]
abbrev dktX0_spoilt_1 : List UInt8 := dkwX0_spoilt_1 ++ []
def dkwX0_spoilt_0 : List UInt8 := [27, 3, 16, 60, 184, 0, 115, 154, 0, 5, 2, 172, 42, 180, 0, 32, 42, 180, 0, 22, 182, 0, 203, 42]
abbrev dktX0_spoilt_0 : List UInt8 := dkwX0_spoilt_0 ++ dktX0_spoilt_1
theorem dksX0_spoilt_0 : cX0_spoilt.data.toList.drop 0 = dktX0_spoilt_0 := by decide +kernel
theorem dksX0_spoilt_1 : cX0_spoilt.data.toList.drop 24 = dktX0_spoilt_1 := dk_seg dksX0_spoilt_0 24 rfl rfl
theorem dX0_spoilt_0 : decode cX0_spoilt 0 = .ok (.iload_n 1, 1) := dk_27 (dk_at dksX0_spoilt_0 0 rfl rfl)
theorem dX0_spoilt_1 : decode cX0_spoilt 1 = .ok (.iconst 0, 1) := dk_3 (dk_at dksX0_spoilt_0 1 rfl rfl)
theorem dX0_spoilt_2 : decode cX0_spoilt 2 = .ok (.bipush 60, 2) := dk_16 60 (dk_at dksX0_spoilt_0 2 rfl rfl)
theorem dX0_spoilt_4 : decode cX0_spoilt 4 = .ok (.invokestatic 115, 3) := dk_184 0 115 (dk_at dksX0_spoilt_0 4 rfl rfl)
theorem dX0_spoilt_7 : decode cX0_spoilt 7 = .ok (.ifCond .ne 5, 3) := dk_154 0 5 (dk_at dksX0_spoilt_0 7 rfl rfl)
theorem dX0_spoilt_10 : decode cX0_spoilt 10 = .ok (.iconst (-1), 1) := dk_2 (dk_at dksX0_spoilt_0 10 rfl rfl)
theorem dX0_spoilt_11 : decode cX0_spoilt 11 = .ok (.ireturn, 1) := dk_172 (dk_at dksX0_spoilt_0 11 rfl rfl)
theorem dX0_spoilt_12 : decode cX0_spoilt 12 = .ok (.aload_n 0, 1) := dk_42 (dk_at dksX0_spoilt_0 12 rfl rfl)
theorem dX0_spoilt_13 : decode cX0_spoilt 13 = .ok (.getfield 32, 3) := dk_180 0 32 (dk_at dksX0_spoilt_0 13 rfl rfl)
theorem dX0_spoilt_16 : decode cX0_spoilt 16 = .ok (.aload_n 0, 1) := dk_42 (dk_at dksX0_spoilt_0 16 rfl rfl)
theorem dX0_spoilt_17 : decode cX0_spoilt 17 = .ok (.getfield 22, 3) := dk_180 0 22 (dk_at dksX0_spoilt_0 17 rfl rfl)
theorem dX0_spoilt_20 : decode cX0_spoilt 20 = .ok (.invokevirtual 203, 3) := dk_182 0 203 (dk_at dksX0_spoilt_0 20 rfl rfl)
theorem dX0_spoilt_23 : decode cX0_spoilt 23 = .ok (.aload_n 0, 1) := dk_42 (dk_at dksX0_spoilt_0 23 rfl rfl)
theorem dX0_spoilt_24 : decode cX0_spoilt 24 = .ok (.iload_n 1, 1) := dk_27 (dk_at dksX0_spoilt_1 0 rfl rfl)
theorem dX0_spoilt_25 : decode cX0_spoilt 25 = .ok (.invokevirtual 285, 3) := dk_182 1 29 (dk_at dksX0_spoilt_1 1 rfl rfl)
theorem dX0_spoilt_28 : decode cX0_spoilt 28 = .ok (.ireturn, 1) := dk_172 (dk_at dksX0_spoilt_1 4 rfl rfl)
abbrev cX0_spoiltTried : ByteArray := prog_1_method_46_code
def yX0_spoiltTried : MethodName := ⟨RX0, "spoiltTried", "(I)I"⟩
def dkwX0_spoiltTried_2 : List UInt8 := [167, 0, 4, 4, 96, 61, 132, 3, 1, 167, 255, 213, 28, 172]
abbrev dktX0_spoiltTried_2 : List UInt8 := dkwX0_spoiltTried_2 ++ []
def dkwX0_spoiltTried_1 : List UInt8 := [28, 42, 180, 0, 32, 180, 0, 129, 29, 46, 42, 180, 0, 22, 180, 0, 129, 29, 46, 160, 0, 7, 3]
abbrev dktX0_spoiltTried_1 : List UInt8 := dkwX0_spoiltTried_1 ++ dktX0_spoiltTried_2
def dkwX0_spoiltTried_0 : List UInt8 := [42, 42, 180, 0, 32, 27, 182, 0, 254, 3, 61, 3, 62, 29, 42, 180, 0, 22, 180, 0, 111, 162, 0, 38]
abbrev dktX0_spoiltTried_0 : List UInt8 := dkwX0_spoiltTried_0 ++ dktX0_spoiltTried_1
theorem dksX0_spoiltTried_0 : cX0_spoiltTried.data.toList.drop 0 = dktX0_spoiltTried_0 := by decide +kernel
theorem dksX0_spoiltTried_1 : cX0_spoiltTried.data.toList.drop 24 = dktX0_spoiltTried_1 := dk_seg dksX0_spoiltTried_0 24 rfl rfl
theorem dksX0_spoiltTried_2 : cX0_spoiltTried.data.toList.drop 47 = dktX0_spoiltTried_2 := dk_seg dksX0_spoiltTried_1 23 rfl rfl
theorem dX0_spoiltTried_0 : decode cX0_spoiltTried 0 = .ok (.aload_n 0, 1) := dk_42 (dk_at dksX0_spoiltTried_0 0 rfl rfl)
theorem dX0_spoiltTried_1 : decode cX0_spoiltTried 1 = .ok (.aload_n 0, 1) := dk_42 (dk_at dksX0_spoiltTried_0 1 rfl rfl)
theorem dX0_spoiltTried_2 : decode cX0_spoiltTried 2 = .ok (.getfield 32, 3) := dk_180 0 32 (dk_at dksX0_spoiltTried_0 2 rfl rfl)
theorem dX0_spoiltTried_5 : decode cX0_spoiltTried 5 = .ok (.iload_n 1, 1) := dk_27 (dk_at dksX0_spoiltTried_0 5 rfl rfl)
theorem dX0_spoiltTried_6 : decode cX0_spoiltTried 6 = .ok (.invokevirtual 254, 3) := dk_182 0 254 (dk_at dksX0_spoiltTried_0 6 rfl rfl)
theorem dX0_spoiltTried_9 : decode cX0_spoiltTried 9 = .ok (.iconst 0, 1) := dk_3 (dk_at dksX0_spoiltTried_0 9 rfl rfl)
theorem dX0_spoiltTried_10 : decode cX0_spoiltTried 10 = .ok (.istore_n 2, 1) := dk_61 (dk_at dksX0_spoiltTried_0 10 rfl rfl)
theorem dX0_spoiltTried_11 : decode cX0_spoiltTried 11 = .ok (.iconst 0, 1) := dk_3 (dk_at dksX0_spoiltTried_0 11 rfl rfl)
theorem dX0_spoiltTried_12 : decode cX0_spoiltTried 12 = .ok (.istore_n 3, 1) := dk_62 (dk_at dksX0_spoiltTried_0 12 rfl rfl)
theorem dX0_spoiltTried_13 : decode cX0_spoiltTried 13 = .ok (.iload_n 3, 1) := dk_29 (dk_at dksX0_spoiltTried_0 13 rfl rfl)
theorem dX0_spoiltTried_14 : decode cX0_spoiltTried 14 = .ok (.aload_n 0, 1) := dk_42 (dk_at dksX0_spoiltTried_0 14 rfl rfl)
theorem dX0_spoiltTried_15 : decode cX0_spoiltTried 15 = .ok (.getfield 22, 3) := dk_180 0 22 (dk_at dksX0_spoiltTried_0 15 rfl rfl)
theorem dX0_spoiltTried_18 : decode cX0_spoiltTried 18 = .ok (.getfield 111, 3) := dk_180 0 111 (dk_at dksX0_spoiltTried_0 18 rfl rfl)
theorem dX0_spoiltTried_21 : decode cX0_spoiltTried 21 = .ok (.if_icmp .ge 38, 3) := dk_162 0 38 (dk_at dksX0_spoiltTried_0 21 rfl rfl)
theorem dX0_spoiltTried_24 : decode cX0_spoiltTried 24 = .ok (.iload_n 2, 1) := dk_28 (dk_at dksX0_spoiltTried_1 0 rfl rfl)
theorem dX0_spoiltTried_25 : decode cX0_spoiltTried 25 = .ok (.aload_n 0, 1) := dk_42 (dk_at dksX0_spoiltTried_1 1 rfl rfl)
theorem dX0_spoiltTried_26 : decode cX0_spoiltTried 26 = .ok (.getfield 32, 3) := dk_180 0 32 (dk_at dksX0_spoiltTried_1 2 rfl rfl)
theorem dX0_spoiltTried_29 : decode cX0_spoiltTried 29 = .ok (.getfield 129, 3) := dk_180 0 129 (dk_at dksX0_spoiltTried_1 5 rfl rfl)
theorem dX0_spoiltTried_32 : decode cX0_spoiltTried 32 = .ok (.iload_n 3, 1) := dk_29 (dk_at dksX0_spoiltTried_1 8 rfl rfl)
theorem dX0_spoiltTried_33 : decode cX0_spoiltTried 33 = .ok (.iaload, 1) := dk_46 (dk_at dksX0_spoiltTried_1 9 rfl rfl)
theorem dX0_spoiltTried_34 : decode cX0_spoiltTried 34 = .ok (.aload_n 0, 1) := dk_42 (dk_at dksX0_spoiltTried_1 10 rfl rfl)
theorem dX0_spoiltTried_35 : decode cX0_spoiltTried 35 = .ok (.getfield 22, 3) := dk_180 0 22 (dk_at dksX0_spoiltTried_1 11 rfl rfl)
theorem dX0_spoiltTried_38 : decode cX0_spoiltTried 38 = .ok (.getfield 129, 3) := dk_180 0 129 (dk_at dksX0_spoiltTried_1 14 rfl rfl)
theorem dX0_spoiltTried_41 : decode cX0_spoiltTried 41 = .ok (.iload_n 3, 1) := dk_29 (dk_at dksX0_spoiltTried_1 17 rfl rfl)
theorem dX0_spoiltTried_42 : decode cX0_spoiltTried 42 = .ok (.iaload, 1) := dk_46 (dk_at dksX0_spoiltTried_1 18 rfl rfl)
theorem dX0_spoiltTried_43 : decode cX0_spoiltTried 43 = .ok (.if_icmp .ne 7, 3) := dk_160 0 7 (dk_at dksX0_spoiltTried_1 19 rfl rfl)
theorem dX0_spoiltTried_46 : decode cX0_spoiltTried 46 = .ok (.iconst 0, 1) := dk_3 (dk_at dksX0_spoiltTried_1 22 rfl rfl)
theorem dX0_spoiltTried_47 : decode cX0_spoiltTried 47 = .ok (.goto 4, 3) := dk_167 0 4 (dk_at dksX0_spoiltTried_2 0 rfl rfl)
theorem dX0_spoiltTried_50 : decode cX0_spoiltTried 50 = .ok (.iconst 1, 1) := dk_4 (dk_at dksX0_spoiltTried_2 3 rfl rfl)
theorem dX0_spoiltTried_51 : decode cX0_spoiltTried 51 = .ok (.iadd, 1) := dk_96 (dk_at dksX0_spoiltTried_2 4 rfl rfl)
theorem dX0_spoiltTried_52 : decode cX0_spoiltTried 52 = .ok (.istore_n 2, 1) := dk_61 (dk_at dksX0_spoiltTried_2 5 rfl rfl)
theorem dX0_spoiltTried_53 : decode cX0_spoiltTried 53 = .ok (.iinc 3 1, 3) := dk_132 3 1 (dk_at dksX0_spoiltTried_2 6 rfl rfl)
theorem dX0_spoiltTried_56 : decode cX0_spoiltTried 56 = .ok (.goto (-43), 3) := dk_167 255 213 (dk_at dksX0_spoiltTried_2 9 rfl rfl)
theorem dX0_spoiltTried_59 : decode cX0_spoiltTried 59 = .ok (.iload_n 2, 1) := dk_28 (dk_at dksX0_spoiltTried_2 12 rfl rfl)
theorem dX0_spoiltTried_60 : decode cX0_spoiltTried 60 = .ok (.ireturn, 1) := dk_172 (dk_at dksX0_spoiltTried_2 13 rfl rfl)
abbrev cX0_through : ByteArray := prog_1_method_49_code
def yX0_through : MethodName := ⟨RX0, "through", "(II)I"⟩
def dkwX0_through_3 : List UInt8 := [16, 253, 172]
abbrev dktX0_through_3 : List UInt8 := dkwX0_through_3 ++ []
def dkwX0_through_2 : List UInt8 := [160, 0, 12, 4, 6, 29, 104, 120, 21, 4, 96, 172, 132, 4, 1, 167, 255, 222, 132, 3, 1, 167, 255, 208]
abbrev dktX0_through_2 : List UInt8 := dkwX0_through_2 ++ dktX0_through_3
def dkwX0_through_1 : List UInt8 := [3, 54, 4, 21, 4, 4, 6, 29, 104, 120, 162, 0, 30, 42, 27, 21, 4, 29, 182, 1, 32, 28]
abbrev dktX0_through_1 : List UInt8 := dkwX0_through_1 ++ dktX0_through_2
def dkwX0_through_0 : List UInt8 := [42, 27, 182, 0, 244, 153, 0, 10, 28, 184, 0, 247, 154, 0, 5, 2, 172, 3, 62, 29, 6, 163, 0, 49]
abbrev dktX0_through_0 : List UInt8 := dkwX0_through_0 ++ dktX0_through_1
theorem dksX0_through_0 : cX0_through.data.toList.drop 0 = dktX0_through_0 := by decide +kernel
theorem dksX0_through_1 : cX0_through.data.toList.drop 24 = dktX0_through_1 := dk_seg dksX0_through_0 24 rfl rfl
theorem dksX0_through_2 : cX0_through.data.toList.drop 46 = dktX0_through_2 := dk_seg dksX0_through_1 22 rfl rfl
theorem dksX0_through_3 : cX0_through.data.toList.drop 70 = dktX0_through_3 := dk_seg dksX0_through_2 24 rfl rfl
theorem dX0_through_0 : decode cX0_through 0 = .ok (.aload_n 0, 1) := dk_42 (dk_at dksX0_through_0 0 rfl rfl)
theorem dX0_through_1 : decode cX0_through 1 = .ok (.iload_n 1, 1) := dk_27 (dk_at dksX0_through_0 1 rfl rfl)
theorem dX0_through_2 : decode cX0_through 2 = .ok (.invokevirtual 244, 3) := dk_182 0 244 (dk_at dksX0_through_0 2 rfl rfl)
theorem dX0_through_5 : decode cX0_through 5 = .ok (.ifCond .eq 10, 3) := dk_153 0 10 (dk_at dksX0_through_0 5 rfl rfl)
theorem dX0_through_8 : decode cX0_through 8 = .ok (.iload_n 2, 1) := dk_28 (dk_at dksX0_through_0 8 rfl rfl)
theorem dX0_through_9 : decode cX0_through 9 = .ok (.invokestatic 247, 3) := dk_184 0 247 (dk_at dksX0_through_0 9 rfl rfl)
theorem dX0_through_12 : decode cX0_through 12 = .ok (.ifCond .ne 5, 3) := dk_154 0 5 (dk_at dksX0_through_0 12 rfl rfl)
theorem dX0_through_15 : decode cX0_through 15 = .ok (.iconst (-1), 1) := dk_2 (dk_at dksX0_through_0 15 rfl rfl)
theorem dX0_through_16 : decode cX0_through 16 = .ok (.ireturn, 1) := dk_172 (dk_at dksX0_through_0 16 rfl rfl)
theorem dX0_through_17 : decode cX0_through 17 = .ok (.iconst 0, 1) := dk_3 (dk_at dksX0_through_0 17 rfl rfl)
theorem dX0_through_18 : decode cX0_through 18 = .ok (.istore_n 3, 1) := dk_62 (dk_at dksX0_through_0 18 rfl rfl)
theorem dX0_through_19 : decode cX0_through 19 = .ok (.iload_n 3, 1) := dk_29 (dk_at dksX0_through_0 19 rfl rfl)
theorem dX0_through_20 : decode cX0_through 20 = .ok (.iconst 3, 1) := dk_6 (dk_at dksX0_through_0 20 rfl rfl)
theorem dX0_through_21 : decode cX0_through 21 = .ok (.if_icmp .gt 49, 3) := dk_163 0 49 (dk_at dksX0_through_0 21 rfl rfl)
theorem dX0_through_24 : decode cX0_through 24 = .ok (.iconst 0, 1) := dk_3 (dk_at dksX0_through_1 0 rfl rfl)
theorem dX0_through_25 : decode cX0_through 25 = .ok (.istore 4, 2) := dk_54 4 (dk_at dksX0_through_1 1 rfl rfl)
theorem dX0_through_27 : decode cX0_through 27 = .ok (.iload 4, 2) := dk_21 4 (dk_at dksX0_through_1 3 rfl rfl)
theorem dX0_through_29 : decode cX0_through 29 = .ok (.iconst 1, 1) := dk_4 (dk_at dksX0_through_1 5 rfl rfl)
theorem dX0_through_30 : decode cX0_through 30 = .ok (.iconst 3, 1) := dk_6 (dk_at dksX0_through_1 6 rfl rfl)
theorem dX0_through_31 : decode cX0_through 31 = .ok (.iload_n 3, 1) := dk_29 (dk_at dksX0_through_1 7 rfl rfl)
theorem dX0_through_32 : decode cX0_through 32 = .ok (.imul, 1) := dk_104 (dk_at dksX0_through_1 8 rfl rfl)
theorem dX0_through_33 : decode cX0_through 33 = .ok (.ishl, 1) := dk_120 (dk_at dksX0_through_1 9 rfl rfl)
theorem dX0_through_34 : decode cX0_through 34 = .ok (.if_icmp .ge 30, 3) := dk_162 0 30 (dk_at dksX0_through_1 10 rfl rfl)
theorem dX0_through_37 : decode cX0_through 37 = .ok (.aload_n 0, 1) := dk_42 (dk_at dksX0_through_1 13 rfl rfl)
theorem dX0_through_38 : decode cX0_through 38 = .ok (.iload_n 1, 1) := dk_27 (dk_at dksX0_through_1 14 rfl rfl)
theorem dX0_through_39 : decode cX0_through 39 = .ok (.iload 4, 2) := dk_21 4 (dk_at dksX0_through_1 15 rfl rfl)
theorem dX0_through_41 : decode cX0_through 41 = .ok (.iload_n 3, 1) := dk_29 (dk_at dksX0_through_1 17 rfl rfl)
theorem dX0_through_42 : decode cX0_through 42 = .ok (.invokevirtual 288, 3) := dk_182 1 32 (dk_at dksX0_through_1 18 rfl rfl)
theorem dX0_through_45 : decode cX0_through 45 = .ok (.iload_n 2, 1) := dk_28 (dk_at dksX0_through_1 21 rfl rfl)
theorem dX0_through_46 : decode cX0_through 46 = .ok (.if_icmp .ne 12, 3) := dk_160 0 12 (dk_at dksX0_through_2 0 rfl rfl)
theorem dX0_through_49 : decode cX0_through 49 = .ok (.iconst 1, 1) := dk_4 (dk_at dksX0_through_2 3 rfl rfl)
theorem dX0_through_50 : decode cX0_through 50 = .ok (.iconst 3, 1) := dk_6 (dk_at dksX0_through_2 4 rfl rfl)
theorem dX0_through_51 : decode cX0_through 51 = .ok (.iload_n 3, 1) := dk_29 (dk_at dksX0_through_2 5 rfl rfl)
theorem dX0_through_52 : decode cX0_through 52 = .ok (.imul, 1) := dk_104 (dk_at dksX0_through_2 6 rfl rfl)
theorem dX0_through_53 : decode cX0_through 53 = .ok (.ishl, 1) := dk_120 (dk_at dksX0_through_2 7 rfl rfl)
theorem dX0_through_54 : decode cX0_through 54 = .ok (.iload 4, 2) := dk_21 4 (dk_at dksX0_through_2 8 rfl rfl)
theorem dX0_through_56 : decode cX0_through 56 = .ok (.iadd, 1) := dk_96 (dk_at dksX0_through_2 10 rfl rfl)
theorem dX0_through_57 : decode cX0_through 57 = .ok (.ireturn, 1) := dk_172 (dk_at dksX0_through_2 11 rfl rfl)
theorem dX0_through_58 : decode cX0_through 58 = .ok (.iinc 4 1, 3) := dk_132 4 1 (dk_at dksX0_through_2 12 rfl rfl)
theorem dX0_through_61 : decode cX0_through 61 = .ok (.goto (-34), 3) := dk_167 255 222 (dk_at dksX0_through_2 15 rfl rfl)
theorem dX0_through_64 : decode cX0_through 64 = .ok (.iinc 3 1, 3) := dk_132 3 1 (dk_at dksX0_through_2 18 rfl rfl)
theorem dX0_through_67 : decode cX0_through 67 = .ok (.goto (-48), 3) := dk_167 255 208 (dk_at dksX0_through_2 21 rfl rfl)
theorem dX0_through_70 : decode cX0_through 70 = .ok (.bipush (-3), 2) := dk_16 253 (dk_at dksX0_through_3 0 rfl rfl)
theorem dX0_through_72 : decode cX0_through 72 = .ok (.ireturn, 1) := dk_172 (dk_at dksX0_through_3 2 rfl rfl)
abbrev cX0_dippedThrough : ByteArray := prog_1_method_48_code
def yX0_dippedThrough : MethodName := ⟨RX0, "dippedThrough", "(III)I"⟩
def dkwX0_dippedThrough_2 : List UInt8 := [180, 0, 32, 180, 0, 129, 27, 46, 172]
abbrev dktX0_dippedThrough_2 : List UInt8 := dkwX0_dippedThrough_2 ++ []
def dkwX0_dippedThrough_1 : List UInt8 := [180, 0, 32, 27, 28, 6, 21, 4, 104, 122, 16, 7, 126, 182, 0, 167, 132, 4, 255, 167, 255, 230, 42]
abbrev dktX0_dippedThrough_1 : List UInt8 := dkwX0_dippedThrough_1 ++ dktX0_dippedThrough_2
def dkwX0_dippedThrough_0 : List UInt8 := [42, 180, 0, 32, 42, 180, 0, 22, 182, 0, 203, 29, 4, 100, 54, 4, 21, 4, 155, 0, 27, 42, 42]
abbrev dktX0_dippedThrough_0 : List UInt8 := dkwX0_dippedThrough_0 ++ dktX0_dippedThrough_1
theorem dksX0_dippedThrough_0 : cX0_dippedThrough.data.toList.drop 0 = dktX0_dippedThrough_0 := by decide +kernel
theorem dksX0_dippedThrough_1 : cX0_dippedThrough.data.toList.drop 23 = dktX0_dippedThrough_1 := dk_seg dksX0_dippedThrough_0 23 rfl rfl
theorem dksX0_dippedThrough_2 : cX0_dippedThrough.data.toList.drop 46 = dktX0_dippedThrough_2 := dk_seg dksX0_dippedThrough_1 23 rfl rfl
theorem dX0_dippedThrough_0 : decode cX0_dippedThrough 0 = .ok (.aload_n 0, 1) := dk_42 (dk_at dksX0_dippedThrough_0 0 rfl rfl)
theorem dX0_dippedThrough_1 : decode cX0_dippedThrough 1 = .ok (.getfield 32, 3) := dk_180 0 32 (dk_at dksX0_dippedThrough_0 1 rfl rfl)
theorem dX0_dippedThrough_4 : decode cX0_dippedThrough 4 = .ok (.aload_n 0, 1) := dk_42 (dk_at dksX0_dippedThrough_0 4 rfl rfl)
theorem dX0_dippedThrough_5 : decode cX0_dippedThrough 5 = .ok (.getfield 22, 3) := dk_180 0 22 (dk_at dksX0_dippedThrough_0 5 rfl rfl)
theorem dX0_dippedThrough_8 : decode cX0_dippedThrough 8 = .ok (.invokevirtual 203, 3) := dk_182 0 203 (dk_at dksX0_dippedThrough_0 8 rfl rfl)
theorem dX0_dippedThrough_11 : decode cX0_dippedThrough 11 = .ok (.iload_n 3, 1) := dk_29 (dk_at dksX0_dippedThrough_0 11 rfl rfl)
theorem dX0_dippedThrough_12 : decode cX0_dippedThrough 12 = .ok (.iconst 1, 1) := dk_4 (dk_at dksX0_dippedThrough_0 12 rfl rfl)
theorem dX0_dippedThrough_13 : decode cX0_dippedThrough 13 = .ok (.isub, 1) := dk_100 (dk_at dksX0_dippedThrough_0 13 rfl rfl)
theorem dX0_dippedThrough_14 : decode cX0_dippedThrough 14 = .ok (.istore 4, 2) := dk_54 4 (dk_at dksX0_dippedThrough_0 14 rfl rfl)
theorem dX0_dippedThrough_16 : decode cX0_dippedThrough 16 = .ok (.iload 4, 2) := dk_21 4 (dk_at dksX0_dippedThrough_0 16 rfl rfl)
theorem dX0_dippedThrough_18 : decode cX0_dippedThrough 18 = .ok (.ifCond .lt 27, 3) := dk_155 0 27 (dk_at dksX0_dippedThrough_0 18 rfl rfl)
theorem dX0_dippedThrough_21 : decode cX0_dippedThrough 21 = .ok (.aload_n 0, 1) := dk_42 (dk_at dksX0_dippedThrough_0 21 rfl rfl)
theorem dX0_dippedThrough_22 : decode cX0_dippedThrough 22 = .ok (.aload_n 0, 1) := dk_42 (dk_at dksX0_dippedThrough_0 22 rfl rfl)
theorem dX0_dippedThrough_23 : decode cX0_dippedThrough 23 = .ok (.getfield 32, 3) := dk_180 0 32 (dk_at dksX0_dippedThrough_1 0 rfl rfl)
theorem dX0_dippedThrough_26 : decode cX0_dippedThrough 26 = .ok (.iload_n 1, 1) := dk_27 (dk_at dksX0_dippedThrough_1 3 rfl rfl)
theorem dX0_dippedThrough_27 : decode cX0_dippedThrough 27 = .ok (.iload_n 2, 1) := dk_28 (dk_at dksX0_dippedThrough_1 4 rfl rfl)
theorem dX0_dippedThrough_28 : decode cX0_dippedThrough 28 = .ok (.iconst 3, 1) := dk_6 (dk_at dksX0_dippedThrough_1 5 rfl rfl)
theorem dX0_dippedThrough_29 : decode cX0_dippedThrough 29 = .ok (.iload 4, 2) := dk_21 4 (dk_at dksX0_dippedThrough_1 6 rfl rfl)
theorem dX0_dippedThrough_31 : decode cX0_dippedThrough 31 = .ok (.imul, 1) := dk_104 (dk_at dksX0_dippedThrough_1 8 rfl rfl)
theorem dX0_dippedThrough_32 : decode cX0_dippedThrough 32 = .ok (.ishr, 1) := dk_122 (dk_at dksX0_dippedThrough_1 9 rfl rfl)
theorem dX0_dippedThrough_33 : decode cX0_dippedThrough 33 = .ok (.bipush 7, 2) := dk_16 7 (dk_at dksX0_dippedThrough_1 10 rfl rfl)
theorem dX0_dippedThrough_35 : decode cX0_dippedThrough 35 = .ok (.iand, 1) := dk_126 (dk_at dksX0_dippedThrough_1 12 rfl rfl)
theorem dX0_dippedThrough_36 : decode cX0_dippedThrough 36 = .ok (.invokevirtual 167, 3) := dk_182 0 167 (dk_at dksX0_dippedThrough_1 13 rfl rfl)
theorem dX0_dippedThrough_39 : decode cX0_dippedThrough 39 = .ok (.iinc 4 (-1), 3) := dk_132 4 255 (dk_at dksX0_dippedThrough_1 16 rfl rfl)
theorem dX0_dippedThrough_42 : decode cX0_dippedThrough 42 = .ok (.goto (-26), 3) := dk_167 255 230 (dk_at dksX0_dippedThrough_1 19 rfl rfl)
theorem dX0_dippedThrough_45 : decode cX0_dippedThrough 45 = .ok (.aload_n 0, 1) := dk_42 (dk_at dksX0_dippedThrough_1 22 rfl rfl)
theorem dX0_dippedThrough_46 : decode cX0_dippedThrough 46 = .ok (.getfield 32, 3) := dk_180 0 32 (dk_at dksX0_dippedThrough_2 0 rfl rfl)
theorem dX0_dippedThrough_49 : decode cX0_dippedThrough 49 = .ok (.getfield 129, 3) := dk_180 0 129 (dk_at dksX0_dippedThrough_2 3 rfl rfl)
theorem dX0_dippedThrough_52 : decode cX0_dippedThrough 52 = .ok (.iload_n 1, 1) := dk_27 (dk_at dksX0_dippedThrough_2 6 rfl rfl)
theorem dX0_dippedThrough_53 : decode cX0_dippedThrough 53 = .ok (.iaload, 1) := dk_46 (dk_at dksX0_dippedThrough_2 7 rfl rfl)
theorem dX0_dippedThrough_54 : decode cX0_dippedThrough 54 = .ok (.ireturn, 1) := dk_172 (dk_at dksX0_dippedThrough_2 8 rfl rfl)
abbrev cX0_vatFor : ByteArray := prog_1_method_51_code
def yX0_vatFor : MethodName := ⟨RX0, "vatFor", "(II)I"⟩
def dkwX0_vatFor_3 : List UInt8 := [21, 5, 167, 0, 4, 29, 62, 21, 4, 21, 6, 184, 0, 156, 54, 4, 132, 5, 1, 167, 255, 194, 29, 172]
abbrev dktX0_vatFor_3 : List UInt8 := dkwX0_vatFor_3 ++ []
def dkwX0_vatFor_2 : List UInt8 := [180, 0, 32, 180, 0, 235, 27, 21, 5, 79, 42, 28, 182, 1, 36, 54, 6, 21, 6, 21, 4, 164, 0, 8]
abbrev dktX0_vatFor_2 : List UInt8 := dkwX0_vatFor_2 ++ dktX0_vatFor_3
def dkwX0_vatFor_1 : List UInt8 := [3, 54, 5, 21, 5, 16, 8, 162, 0, 61, 42, 180, 0, 32, 42, 180, 0, 22, 182, 0, 203, 42]
abbrev dktX0_vatFor_1 : List UInt8 := dkwX0_vatFor_1 ++ dktX0_vatFor_2
def dkwX0_vatFor_0 : List UInt8 := [27, 184, 0, 232, 153, 0, 13, 28, 4, 16, 40, 184, 0, 115, 154, 0, 5, 2, 172, 3, 62, 2, 54, 4]
abbrev dktX0_vatFor_0 : List UInt8 := dkwX0_vatFor_0 ++ dktX0_vatFor_1
theorem dksX0_vatFor_0 : cX0_vatFor.data.toList.drop 0 = dktX0_vatFor_0 := by decide +kernel
theorem dksX0_vatFor_1 : cX0_vatFor.data.toList.drop 24 = dktX0_vatFor_1 := dk_seg dksX0_vatFor_0 24 rfl rfl
theorem dksX0_vatFor_2 : cX0_vatFor.data.toList.drop 46 = dktX0_vatFor_2 := dk_seg dksX0_vatFor_1 22 rfl rfl
theorem dksX0_vatFor_3 : cX0_vatFor.data.toList.drop 70 = dktX0_vatFor_3 := dk_seg dksX0_vatFor_2 24 rfl rfl
theorem dX0_vatFor_0 : decode cX0_vatFor 0 = .ok (.iload_n 1, 1) := dk_27 (dk_at dksX0_vatFor_0 0 rfl rfl)
theorem dX0_vatFor_1 : decode cX0_vatFor 1 = .ok (.invokestatic 232, 3) := dk_184 0 232 (dk_at dksX0_vatFor_0 1 rfl rfl)
theorem dX0_vatFor_4 : decode cX0_vatFor 4 = .ok (.ifCond .eq 13, 3) := dk_153 0 13 (dk_at dksX0_vatFor_0 4 rfl rfl)
theorem dX0_vatFor_7 : decode cX0_vatFor 7 = .ok (.iload_n 2, 1) := dk_28 (dk_at dksX0_vatFor_0 7 rfl rfl)
theorem dX0_vatFor_8 : decode cX0_vatFor 8 = .ok (.iconst 1, 1) := dk_4 (dk_at dksX0_vatFor_0 8 rfl rfl)
theorem dX0_vatFor_9 : decode cX0_vatFor 9 = .ok (.bipush 40, 2) := dk_16 40 (dk_at dksX0_vatFor_0 9 rfl rfl)
theorem dX0_vatFor_11 : decode cX0_vatFor 11 = .ok (.invokestatic 115, 3) := dk_184 0 115 (dk_at dksX0_vatFor_0 11 rfl rfl)
theorem dX0_vatFor_14 : decode cX0_vatFor 14 = .ok (.ifCond .ne 5, 3) := dk_154 0 5 (dk_at dksX0_vatFor_0 14 rfl rfl)
theorem dX0_vatFor_17 : decode cX0_vatFor 17 = .ok (.iconst (-1), 1) := dk_2 (dk_at dksX0_vatFor_0 17 rfl rfl)
theorem dX0_vatFor_18 : decode cX0_vatFor 18 = .ok (.ireturn, 1) := dk_172 (dk_at dksX0_vatFor_0 18 rfl rfl)
theorem dX0_vatFor_19 : decode cX0_vatFor 19 = .ok (.iconst 0, 1) := dk_3 (dk_at dksX0_vatFor_0 19 rfl rfl)
theorem dX0_vatFor_20 : decode cX0_vatFor 20 = .ok (.istore_n 3, 1) := dk_62 (dk_at dksX0_vatFor_0 20 rfl rfl)
theorem dX0_vatFor_21 : decode cX0_vatFor 21 = .ok (.iconst (-1), 1) := dk_2 (dk_at dksX0_vatFor_0 21 rfl rfl)
theorem dX0_vatFor_22 : decode cX0_vatFor 22 = .ok (.istore 4, 2) := dk_54 4 (dk_at dksX0_vatFor_0 22 rfl rfl)
theorem dX0_vatFor_24 : decode cX0_vatFor 24 = .ok (.iconst 0, 1) := dk_3 (dk_at dksX0_vatFor_1 0 rfl rfl)
theorem dX0_vatFor_25 : decode cX0_vatFor 25 = .ok (.istore 5, 2) := dk_54 5 (dk_at dksX0_vatFor_1 1 rfl rfl)
theorem dX0_vatFor_27 : decode cX0_vatFor 27 = .ok (.iload 5, 2) := dk_21 5 (dk_at dksX0_vatFor_1 3 rfl rfl)
theorem dX0_vatFor_29 : decode cX0_vatFor 29 = .ok (.bipush 8, 2) := dk_16 8 (dk_at dksX0_vatFor_1 5 rfl rfl)
theorem dX0_vatFor_31 : decode cX0_vatFor 31 = .ok (.if_icmp .ge 61, 3) := dk_162 0 61 (dk_at dksX0_vatFor_1 7 rfl rfl)
theorem dX0_vatFor_34 : decode cX0_vatFor 34 = .ok (.aload_n 0, 1) := dk_42 (dk_at dksX0_vatFor_1 10 rfl rfl)
theorem dX0_vatFor_35 : decode cX0_vatFor 35 = .ok (.getfield 32, 3) := dk_180 0 32 (dk_at dksX0_vatFor_1 11 rfl rfl)
theorem dX0_vatFor_38 : decode cX0_vatFor 38 = .ok (.aload_n 0, 1) := dk_42 (dk_at dksX0_vatFor_1 14 rfl rfl)
theorem dX0_vatFor_39 : decode cX0_vatFor 39 = .ok (.getfield 22, 3) := dk_180 0 22 (dk_at dksX0_vatFor_1 15 rfl rfl)
theorem dX0_vatFor_42 : decode cX0_vatFor 42 = .ok (.invokevirtual 203, 3) := dk_182 0 203 (dk_at dksX0_vatFor_1 18 rfl rfl)
theorem dX0_vatFor_45 : decode cX0_vatFor 45 = .ok (.aload_n 0, 1) := dk_42 (dk_at dksX0_vatFor_1 21 rfl rfl)
theorem dX0_vatFor_46 : decode cX0_vatFor 46 = .ok (.getfield 32, 3) := dk_180 0 32 (dk_at dksX0_vatFor_2 0 rfl rfl)
theorem dX0_vatFor_49 : decode cX0_vatFor 49 = .ok (.getfield 235, 3) := dk_180 0 235 (dk_at dksX0_vatFor_2 3 rfl rfl)
theorem dX0_vatFor_52 : decode cX0_vatFor 52 = .ok (.iload_n 1, 1) := dk_27 (dk_at dksX0_vatFor_2 6 rfl rfl)
theorem dX0_vatFor_53 : decode cX0_vatFor 53 = .ok (.iload 5, 2) := dk_21 5 (dk_at dksX0_vatFor_2 7 rfl rfl)
theorem dX0_vatFor_55 : decode cX0_vatFor 55 = .ok (.iastore, 1) := dk_79 (dk_at dksX0_vatFor_2 9 rfl rfl)
theorem dX0_vatFor_56 : decode cX0_vatFor 56 = .ok (.aload_n 0, 1) := dk_42 (dk_at dksX0_vatFor_2 10 rfl rfl)
theorem dX0_vatFor_57 : decode cX0_vatFor 57 = .ok (.iload_n 2, 1) := dk_28 (dk_at dksX0_vatFor_2 11 rfl rfl)
theorem dX0_vatFor_58 : decode cX0_vatFor 58 = .ok (.invokevirtual 292, 3) := dk_182 1 36 (dk_at dksX0_vatFor_2 12 rfl rfl)
theorem dX0_vatFor_61 : decode cX0_vatFor 61 = .ok (.istore 6, 2) := dk_54 6 (dk_at dksX0_vatFor_2 15 rfl rfl)
theorem dX0_vatFor_63 : decode cX0_vatFor 63 = .ok (.iload 6, 2) := dk_21 6 (dk_at dksX0_vatFor_2 17 rfl rfl)
theorem dX0_vatFor_65 : decode cX0_vatFor 65 = .ok (.iload 4, 2) := dk_21 4 (dk_at dksX0_vatFor_2 19 rfl rfl)
theorem dX0_vatFor_67 : decode cX0_vatFor 67 = .ok (.if_icmp .le 8, 3) := dk_164 0 8 (dk_at dksX0_vatFor_2 21 rfl rfl)
theorem dX0_vatFor_70 : decode cX0_vatFor 70 = .ok (.iload 5, 2) := dk_21 5 (dk_at dksX0_vatFor_3 0 rfl rfl)
theorem dX0_vatFor_72 : decode cX0_vatFor 72 = .ok (.goto 4, 3) := dk_167 0 4 (dk_at dksX0_vatFor_3 2 rfl rfl)
theorem dX0_vatFor_75 : decode cX0_vatFor 75 = .ok (.iload_n 3, 1) := dk_29 (dk_at dksX0_vatFor_3 5 rfl rfl)
theorem dX0_vatFor_76 : decode cX0_vatFor 76 = .ok (.istore_n 3, 1) := dk_62 (dk_at dksX0_vatFor_3 6 rfl rfl)
theorem dX0_vatFor_77 : decode cX0_vatFor 77 = .ok (.iload 4, 2) := dk_21 4 (dk_at dksX0_vatFor_3 7 rfl rfl)
theorem dX0_vatFor_79 : decode cX0_vatFor 79 = .ok (.iload 6, 2) := dk_21 6 (dk_at dksX0_vatFor_3 9 rfl rfl)
theorem dX0_vatFor_81 : decode cX0_vatFor 81 = .ok (.invokestatic 156, 3) := dk_184 0 156 (dk_at dksX0_vatFor_3 11 rfl rfl)
theorem dX0_vatFor_84 : decode cX0_vatFor 84 = .ok (.istore 4, 2) := dk_54 4 (dk_at dksX0_vatFor_3 14 rfl rfl)
theorem dX0_vatFor_86 : decode cX0_vatFor 86 = .ok (.iinc 5 1, 3) := dk_132 5 1 (dk_at dksX0_vatFor_3 16 rfl rfl)
theorem dX0_vatFor_89 : decode cX0_vatFor 89 = .ok (.goto (-62), 3) := dk_167 255 194 (dk_at dksX0_vatFor_3 19 rfl rfl)
theorem dX0_vatFor_92 : decode cX0_vatFor 92 = .ok (.iload_n 3, 1) := dk_29 (dk_at dksX0_vatFor_3 22 rfl rfl)
theorem dX0_vatFor_93 : decode cX0_vatFor 93 = .ok (.ireturn, 1) := dk_172 (dk_at dksX0_vatFor_3 23 rfl rfl)
abbrev cX0_depthsTried : ByteArray := prog_1_method_50_code
def yX0_depthsTried : MethodName := ⟨RX0, "depthsTried", "(I)I"⟩
def dkwX0_depthsTried_0 : List UInt8 := [42, 42, 180, 0, 32, 27, 182, 0, 254, 42, 180, 0, 32, 182, 1, 2, 172]
abbrev dktX0_depthsTried_0 : List UInt8 := dkwX0_depthsTried_0 ++ []
theorem dksX0_depthsTried_0 : cX0_depthsTried.data.toList.drop 0 = dktX0_depthsTried_0 := by decide +kernel
theorem dX0_depthsTried_0 : decode cX0_depthsTried 0 = .ok (.aload_n 0, 1) := dk_42 (dk_at dksX0_depthsTried_0 0 rfl rfl)
theorem dX0_depthsTried_1 : decode cX0_depthsTried 1 = .ok (.aload_n 0, 1) := dk_42 (dk_at dksX0_depthsTried_0 1 rfl rfl)
theorem dX0_depthsTried_2 : decode cX0_depthsTried 2 = .ok (.getfield 32, 3) := dk_180 0 32 (dk_at dksX0_depthsTried_0 2 rfl rfl)
theorem dX0_depthsTried_5 : decode cX0_depthsTried 5 = .ok (.iload_n 1, 1) := dk_27 (dk_at dksX0_depthsTried_0 5 rfl rfl)
theorem dX0_depthsTried_6 : decode cX0_depthsTried 6 = .ok (.invokevirtual 254, 3) := dk_182 0 254 (dk_at dksX0_depthsTried_0 6 rfl rfl)
theorem dX0_depthsTried_9 : decode cX0_depthsTried 9 = .ok (.aload_n 0, 1) := dk_42 (dk_at dksX0_depthsTried_0 9 rfl rfl)
theorem dX0_depthsTried_10 : decode cX0_depthsTried 10 = .ok (.getfield 32, 3) := dk_180 0 32 (dk_at dksX0_depthsTried_0 10 rfl rfl)
theorem dX0_depthsTried_13 : decode cX0_depthsTried 13 = .ok (.invokevirtual 258, 3) := dk_182 1 2 (dk_at dksX0_depthsTried_0 13 rfl rfl)
theorem dX0_depthsTried_16 : decode cX0_depthsTried 16 = .ok (.ireturn, 1) := dk_172 (dk_at dksX0_depthsTried_0 16 rfl rfl)
abbrev cX0_kindFor : ByteArray := prog_1_method_52_code
def yX0_kindFor : MethodName := ⟨RX0, "kindFor", "(II)I"⟩
def dkwX0_kindFor_4 : List UInt8 := [180, 0, 132, 27, 46, 184, 0, 156, 54, 4, 132, 5, 1, 167, 255, 179, 29, 172]
abbrev dktX0_kindFor_4 : List UInt8 := dkwX0_kindFor_4 ++ []
def dkwX0_kindFor_3 : List UInt8 := [180, 0, 132, 27, 46, 21, 4, 164, 0, 8, 21, 5, 167, 0, 4, 29, 62, 21, 4, 42, 180, 0, 32]
abbrev dktX0_kindFor_3 : List UInt8 := dkwX0_kindFor_3 ++ dktX0_kindFor_4
def dkwX0_kindFor_2 : List UInt8 := [180, 0, 32, 180, 0, 119, 27, 21, 5, 79, 42, 42, 180, 0, 32, 28, 182, 0, 254, 42, 180, 0, 32]
abbrev dktX0_kindFor_2 : List UInt8 := dkwX0_kindFor_2 ++ dktX0_kindFor_3
def dkwX0_kindFor_1 : List UInt8 := [54, 4, 3, 54, 5, 21, 5, 8, 163, 0, 77, 42, 180, 0, 32, 42, 180, 0, 22, 182, 0, 203, 42]
abbrev dktX0_kindFor_1 : List UInt8 := dkwX0_kindFor_1 ++ dktX0_kindFor_2
def dkwX0_kindFor_0 : List UInt8 := [42, 27, 182, 0, 244, 153, 0, 13, 28, 4, 16, 40, 184, 0, 115, 154, 0, 5, 2, 172, 3, 62, 2]
abbrev dktX0_kindFor_0 : List UInt8 := dkwX0_kindFor_0 ++ dktX0_kindFor_1
theorem dksX0_kindFor_0 : cX0_kindFor.data.toList.drop 0 = dktX0_kindFor_0 := by decide +kernel
theorem dksX0_kindFor_1 : cX0_kindFor.data.toList.drop 23 = dktX0_kindFor_1 := dk_seg dksX0_kindFor_0 23 rfl rfl
theorem dksX0_kindFor_2 : cX0_kindFor.data.toList.drop 46 = dktX0_kindFor_2 := dk_seg dksX0_kindFor_1 23 rfl rfl
theorem dksX0_kindFor_3 : cX0_kindFor.data.toList.drop 69 = dktX0_kindFor_3 := dk_seg dksX0_kindFor_2 23 rfl rfl
theorem dksX0_kindFor_4 : cX0_kindFor.data.toList.drop 92 = dktX0_kindFor_4 := dk_seg dksX0_kindFor_3 23 rfl rfl
theorem dX0_kindFor_0 : decode cX0_kindFor 0 = .ok (.aload_n 0, 1) := dk_42 (dk_at dksX0_kindFor_0 0 rfl rfl)
theorem dX0_kindFor_1 : decode cX0_kindFor 1 = .ok (.iload_n 1, 1) := dk_27 (dk_at dksX0_kindFor_0 1 rfl rfl)
theorem dX0_kindFor_2 : decode cX0_kindFor 2 = .ok (.invokevirtual 244, 3) := dk_182 0 244 (dk_at dksX0_kindFor_0 2 rfl rfl)
theorem dX0_kindFor_5 : decode cX0_kindFor 5 = .ok (.ifCond .eq 13, 3) := dk_153 0 13 (dk_at dksX0_kindFor_0 5 rfl rfl)
theorem dX0_kindFor_8 : decode cX0_kindFor 8 = .ok (.iload_n 2, 1) := dk_28 (dk_at dksX0_kindFor_0 8 rfl rfl)
theorem dX0_kindFor_9 : decode cX0_kindFor 9 = .ok (.iconst 1, 1) := dk_4 (dk_at dksX0_kindFor_0 9 rfl rfl)
theorem dX0_kindFor_10 : decode cX0_kindFor 10 = .ok (.bipush 40, 2) := dk_16 40 (dk_at dksX0_kindFor_0 10 rfl rfl)
theorem dX0_kindFor_12 : decode cX0_kindFor 12 = .ok (.invokestatic 115, 3) := dk_184 0 115 (dk_at dksX0_kindFor_0 12 rfl rfl)
theorem dX0_kindFor_15 : decode cX0_kindFor 15 = .ok (.ifCond .ne 5, 3) := dk_154 0 5 (dk_at dksX0_kindFor_0 15 rfl rfl)
theorem dX0_kindFor_18 : decode cX0_kindFor 18 = .ok (.iconst (-1), 1) := dk_2 (dk_at dksX0_kindFor_0 18 rfl rfl)
theorem dX0_kindFor_19 : decode cX0_kindFor 19 = .ok (.ireturn, 1) := dk_172 (dk_at dksX0_kindFor_0 19 rfl rfl)
theorem dX0_kindFor_20 : decode cX0_kindFor 20 = .ok (.iconst 0, 1) := dk_3 (dk_at dksX0_kindFor_0 20 rfl rfl)
theorem dX0_kindFor_21 : decode cX0_kindFor 21 = .ok (.istore_n 3, 1) := dk_62 (dk_at dksX0_kindFor_0 21 rfl rfl)
theorem dX0_kindFor_22 : decode cX0_kindFor 22 = .ok (.iconst (-1), 1) := dk_2 (dk_at dksX0_kindFor_0 22 rfl rfl)
theorem dX0_kindFor_23 : decode cX0_kindFor 23 = .ok (.istore 4, 2) := dk_54 4 (dk_at dksX0_kindFor_1 0 rfl rfl)
theorem dX0_kindFor_25 : decode cX0_kindFor 25 = .ok (.iconst 0, 1) := dk_3 (dk_at dksX0_kindFor_1 2 rfl rfl)
theorem dX0_kindFor_26 : decode cX0_kindFor 26 = .ok (.istore 5, 2) := dk_54 5 (dk_at dksX0_kindFor_1 3 rfl rfl)
theorem dX0_kindFor_28 : decode cX0_kindFor 28 = .ok (.iload 5, 2) := dk_21 5 (dk_at dksX0_kindFor_1 5 rfl rfl)
theorem dX0_kindFor_30 : decode cX0_kindFor 30 = .ok (.iconst 5, 1) := dk_8 (dk_at dksX0_kindFor_1 7 rfl rfl)
theorem dX0_kindFor_31 : decode cX0_kindFor 31 = .ok (.if_icmp .gt 77, 3) := dk_163 0 77 (dk_at dksX0_kindFor_1 8 rfl rfl)
theorem dX0_kindFor_34 : decode cX0_kindFor 34 = .ok (.aload_n 0, 1) := dk_42 (dk_at dksX0_kindFor_1 11 rfl rfl)
theorem dX0_kindFor_35 : decode cX0_kindFor 35 = .ok (.getfield 32, 3) := dk_180 0 32 (dk_at dksX0_kindFor_1 12 rfl rfl)
theorem dX0_kindFor_38 : decode cX0_kindFor 38 = .ok (.aload_n 0, 1) := dk_42 (dk_at dksX0_kindFor_1 15 rfl rfl)
theorem dX0_kindFor_39 : decode cX0_kindFor 39 = .ok (.getfield 22, 3) := dk_180 0 22 (dk_at dksX0_kindFor_1 16 rfl rfl)
theorem dX0_kindFor_42 : decode cX0_kindFor 42 = .ok (.invokevirtual 203, 3) := dk_182 0 203 (dk_at dksX0_kindFor_1 19 rfl rfl)
theorem dX0_kindFor_45 : decode cX0_kindFor 45 = .ok (.aload_n 0, 1) := dk_42 (dk_at dksX0_kindFor_1 22 rfl rfl)
theorem dX0_kindFor_46 : decode cX0_kindFor 46 = .ok (.getfield 32, 3) := dk_180 0 32 (dk_at dksX0_kindFor_2 0 rfl rfl)
theorem dX0_kindFor_49 : decode cX0_kindFor 49 = .ok (.getfield 119, 3) := dk_180 0 119 (dk_at dksX0_kindFor_2 3 rfl rfl)
theorem dX0_kindFor_52 : decode cX0_kindFor 52 = .ok (.iload_n 1, 1) := dk_27 (dk_at dksX0_kindFor_2 6 rfl rfl)
theorem dX0_kindFor_53 : decode cX0_kindFor 53 = .ok (.iload 5, 2) := dk_21 5 (dk_at dksX0_kindFor_2 7 rfl rfl)
theorem dX0_kindFor_55 : decode cX0_kindFor 55 = .ok (.iastore, 1) := dk_79 (dk_at dksX0_kindFor_2 9 rfl rfl)
theorem dX0_kindFor_56 : decode cX0_kindFor 56 = .ok (.aload_n 0, 1) := dk_42 (dk_at dksX0_kindFor_2 10 rfl rfl)
theorem dX0_kindFor_57 : decode cX0_kindFor 57 = .ok (.aload_n 0, 1) := dk_42 (dk_at dksX0_kindFor_2 11 rfl rfl)
theorem dX0_kindFor_58 : decode cX0_kindFor 58 = .ok (.getfield 32, 3) := dk_180 0 32 (dk_at dksX0_kindFor_2 12 rfl rfl)
theorem dX0_kindFor_61 : decode cX0_kindFor 61 = .ok (.iload_n 2, 1) := dk_28 (dk_at dksX0_kindFor_2 15 rfl rfl)
theorem dX0_kindFor_62 : decode cX0_kindFor 62 = .ok (.invokevirtual 254, 3) := dk_182 0 254 (dk_at dksX0_kindFor_2 16 rfl rfl)
theorem dX0_kindFor_65 : decode cX0_kindFor 65 = .ok (.aload_n 0, 1) := dk_42 (dk_at dksX0_kindFor_2 19 rfl rfl)
theorem dX0_kindFor_66 : decode cX0_kindFor 66 = .ok (.getfield 32, 3) := dk_180 0 32 (dk_at dksX0_kindFor_2 20 rfl rfl)
theorem dX0_kindFor_69 : decode cX0_kindFor 69 = .ok (.getfield 132, 3) := dk_180 0 132 (dk_at dksX0_kindFor_3 0 rfl rfl)
theorem dX0_kindFor_72 : decode cX0_kindFor 72 = .ok (.iload_n 1, 1) := dk_27 (dk_at dksX0_kindFor_3 3 rfl rfl)
theorem dX0_kindFor_73 : decode cX0_kindFor 73 = .ok (.iaload, 1) := dk_46 (dk_at dksX0_kindFor_3 4 rfl rfl)
theorem dX0_kindFor_74 : decode cX0_kindFor 74 = .ok (.iload 4, 2) := dk_21 4 (dk_at dksX0_kindFor_3 5 rfl rfl)
theorem dX0_kindFor_76 : decode cX0_kindFor 76 = .ok (.if_icmp .le 8, 3) := dk_164 0 8 (dk_at dksX0_kindFor_3 7 rfl rfl)
theorem dX0_kindFor_79 : decode cX0_kindFor 79 = .ok (.iload 5, 2) := dk_21 5 (dk_at dksX0_kindFor_3 10 rfl rfl)
theorem dX0_kindFor_81 : decode cX0_kindFor 81 = .ok (.goto 4, 3) := dk_167 0 4 (dk_at dksX0_kindFor_3 12 rfl rfl)
theorem dX0_kindFor_84 : decode cX0_kindFor 84 = .ok (.iload_n 3, 1) := dk_29 (dk_at dksX0_kindFor_3 15 rfl rfl)
theorem dX0_kindFor_85 : decode cX0_kindFor 85 = .ok (.istore_n 3, 1) := dk_62 (dk_at dksX0_kindFor_3 16 rfl rfl)
theorem dX0_kindFor_86 : decode cX0_kindFor 86 = .ok (.iload 4, 2) := dk_21 4 (dk_at dksX0_kindFor_3 17 rfl rfl)
theorem dX0_kindFor_88 : decode cX0_kindFor 88 = .ok (.aload_n 0, 1) := dk_42 (dk_at dksX0_kindFor_3 19 rfl rfl)
theorem dX0_kindFor_89 : decode cX0_kindFor 89 = .ok (.getfield 32, 3) := dk_180 0 32 (dk_at dksX0_kindFor_3 20 rfl rfl)
theorem dX0_kindFor_92 : decode cX0_kindFor 92 = .ok (.getfield 132, 3) := dk_180 0 132 (dk_at dksX0_kindFor_4 0 rfl rfl)
theorem dX0_kindFor_95 : decode cX0_kindFor 95 = .ok (.iload_n 1, 1) := dk_27 (dk_at dksX0_kindFor_4 3 rfl rfl)
theorem dX0_kindFor_96 : decode cX0_kindFor 96 = .ok (.iaload, 1) := dk_46 (dk_at dksX0_kindFor_4 4 rfl rfl)
theorem dX0_kindFor_97 : decode cX0_kindFor 97 = .ok (.invokestatic 156, 3) := dk_184 0 156 (dk_at dksX0_kindFor_4 5 rfl rfl)
theorem dX0_kindFor_100 : decode cX0_kindFor 100 = .ok (.istore 4, 2) := dk_54 4 (dk_at dksX0_kindFor_4 8 rfl rfl)
theorem dX0_kindFor_102 : decode cX0_kindFor 102 = .ok (.iinc 5 1, 3) := dk_132 5 1 (dk_at dksX0_kindFor_4 10 rfl rfl)
theorem dX0_kindFor_105 : decode cX0_kindFor 105 = .ok (.goto (-77), 3) := dk_167 255 179 (dk_at dksX0_kindFor_4 13 rfl rfl)
theorem dX0_kindFor_108 : decode cX0_kindFor 108 = .ok (.iload_n 3, 1) := dk_29 (dk_at dksX0_kindFor_4 16 rfl rfl)
theorem dX0_kindFor_109 : decode cX0_kindFor 109 = .ok (.ireturn, 1) := dk_172 (dk_at dksX0_kindFor_4 17 rfl rfl)
abbrev cX0_strengthFor : ByteArray := prog_1_method_53_code
def yX0_strengthFor : MethodName := ⟨RX0, "strengthFor", "(IIII)I"⟩
def dkwX0_strengthFor_4 : List UInt8 := [132, 5, 1, 167, 255, 198, 16, 253, 172]
abbrev dktX0_strengthFor_4 : List UInt8 := dkwX0_strengthFor_4 ++ []
def dkwX0_strengthFor_3 : List UInt8 := [180, 0, 32, 21, 4, 182, 0, 254, 42, 180, 0, 32, 180, 0, 129, 28, 46, 29, 160, 0, 6, 21, 5, 172]
abbrev dktX0_strengthFor_3 : List UInt8 := dkwX0_strengthFor_3 ++ dktX0_strengthFor_4
def dkwX0_strengthFor_2 : List UInt8 := [180, 0, 32, 42, 180, 0, 22, 182, 0, 203, 42, 180, 0, 32, 180, 0, 153, 27, 21, 5, 79, 42, 42]
abbrev dktX0_strengthFor_2 : List UInt8 := dkwX0_strengthFor_2 ++ dktX0_strengthFor_3
def dkwX0_strengthFor_1 : List UInt8 := [4, 16, 40, 184, 0, 115, 154, 0, 5, 2, 172, 3, 54, 5, 21, 5, 16, 9, 163, 0, 57, 42]
abbrev dktX0_strengthFor_1 : List UInt8 := dkwX0_strengthFor_1 ++ dktX0_strengthFor_2
def dkwX0_strengthFor_0 : List UInt8 := [27, 184, 0, 225, 153, 0, 29, 42, 28, 182, 0, 244, 153, 0, 21, 29, 184, 0, 247, 153, 0, 14, 21, 4]
abbrev dktX0_strengthFor_0 : List UInt8 := dkwX0_strengthFor_0 ++ dktX0_strengthFor_1
theorem dksX0_strengthFor_0 : cX0_strengthFor.data.toList.drop 0 = dktX0_strengthFor_0 := by decide +kernel
theorem dksX0_strengthFor_1 : cX0_strengthFor.data.toList.drop 24 = dktX0_strengthFor_1 := dk_seg dksX0_strengthFor_0 24 rfl rfl
theorem dksX0_strengthFor_2 : cX0_strengthFor.data.toList.drop 46 = dktX0_strengthFor_2 := dk_seg dksX0_strengthFor_1 22 rfl rfl
theorem dksX0_strengthFor_3 : cX0_strengthFor.data.toList.drop 69 = dktX0_strengthFor_3 := dk_seg dksX0_strengthFor_2 23 rfl rfl
theorem dksX0_strengthFor_4 : cX0_strengthFor.data.toList.drop 93 = dktX0_strengthFor_4 := dk_seg dksX0_strengthFor_3 24 rfl rfl
theorem dX0_strengthFor_0 : decode cX0_strengthFor 0 = .ok (.iload_n 1, 1) := dk_27 (dk_at dksX0_strengthFor_0 0 rfl rfl)
theorem dX0_strengthFor_1 : decode cX0_strengthFor 1 = .ok (.invokestatic 225, 3) := dk_184 0 225 (dk_at dksX0_strengthFor_0 1 rfl rfl)
theorem dX0_strengthFor_4 : decode cX0_strengthFor 4 = .ok (.ifCond .eq 29, 3) := dk_153 0 29 (dk_at dksX0_strengthFor_0 4 rfl rfl)
theorem dX0_strengthFor_7 : decode cX0_strengthFor 7 = .ok (.aload_n 0, 1) := dk_42 (dk_at dksX0_strengthFor_0 7 rfl rfl)
theorem dX0_strengthFor_8 : decode cX0_strengthFor 8 = .ok (.iload_n 2, 1) := dk_28 (dk_at dksX0_strengthFor_0 8 rfl rfl)
theorem dX0_strengthFor_9 : decode cX0_strengthFor 9 = .ok (.invokevirtual 244, 3) := dk_182 0 244 (dk_at dksX0_strengthFor_0 9 rfl rfl)
theorem dX0_strengthFor_12 : decode cX0_strengthFor 12 = .ok (.ifCond .eq 21, 3) := dk_153 0 21 (dk_at dksX0_strengthFor_0 12 rfl rfl)
theorem dX0_strengthFor_15 : decode cX0_strengthFor 15 = .ok (.iload_n 3, 1) := dk_29 (dk_at dksX0_strengthFor_0 15 rfl rfl)
theorem dX0_strengthFor_16 : decode cX0_strengthFor 16 = .ok (.invokestatic 247, 3) := dk_184 0 247 (dk_at dksX0_strengthFor_0 16 rfl rfl)
theorem dX0_strengthFor_19 : decode cX0_strengthFor 19 = .ok (.ifCond .eq 14, 3) := dk_153 0 14 (dk_at dksX0_strengthFor_0 19 rfl rfl)
theorem dX0_strengthFor_22 : decode cX0_strengthFor 22 = .ok (.iload 4, 2) := dk_21 4 (dk_at dksX0_strengthFor_0 22 rfl rfl)
theorem dX0_strengthFor_24 : decode cX0_strengthFor 24 = .ok (.iconst 1, 1) := dk_4 (dk_at dksX0_strengthFor_1 0 rfl rfl)
theorem dX0_strengthFor_25 : decode cX0_strengthFor 25 = .ok (.bipush 40, 2) := dk_16 40 (dk_at dksX0_strengthFor_1 1 rfl rfl)
theorem dX0_strengthFor_27 : decode cX0_strengthFor 27 = .ok (.invokestatic 115, 3) := dk_184 0 115 (dk_at dksX0_strengthFor_1 3 rfl rfl)
theorem dX0_strengthFor_30 : decode cX0_strengthFor 30 = .ok (.ifCond .ne 5, 3) := dk_154 0 5 (dk_at dksX0_strengthFor_1 6 rfl rfl)
theorem dX0_strengthFor_33 : decode cX0_strengthFor 33 = .ok (.iconst (-1), 1) := dk_2 (dk_at dksX0_strengthFor_1 9 rfl rfl)
theorem dX0_strengthFor_34 : decode cX0_strengthFor 34 = .ok (.ireturn, 1) := dk_172 (dk_at dksX0_strengthFor_1 10 rfl rfl)
theorem dX0_strengthFor_35 : decode cX0_strengthFor 35 = .ok (.iconst 0, 1) := dk_3 (dk_at dksX0_strengthFor_1 11 rfl rfl)
theorem dX0_strengthFor_36 : decode cX0_strengthFor 36 = .ok (.istore 5, 2) := dk_54 5 (dk_at dksX0_strengthFor_1 12 rfl rfl)
theorem dX0_strengthFor_38 : decode cX0_strengthFor 38 = .ok (.iload 5, 2) := dk_21 5 (dk_at dksX0_strengthFor_1 14 rfl rfl)
theorem dX0_strengthFor_40 : decode cX0_strengthFor 40 = .ok (.bipush 9, 2) := dk_16 9 (dk_at dksX0_strengthFor_1 16 rfl rfl)
theorem dX0_strengthFor_42 : decode cX0_strengthFor 42 = .ok (.if_icmp .gt 57, 3) := dk_163 0 57 (dk_at dksX0_strengthFor_1 18 rfl rfl)
theorem dX0_strengthFor_45 : decode cX0_strengthFor 45 = .ok (.aload_n 0, 1) := dk_42 (dk_at dksX0_strengthFor_1 21 rfl rfl)
theorem dX0_strengthFor_46 : decode cX0_strengthFor 46 = .ok (.getfield 32, 3) := dk_180 0 32 (dk_at dksX0_strengthFor_2 0 rfl rfl)
theorem dX0_strengthFor_49 : decode cX0_strengthFor 49 = .ok (.aload_n 0, 1) := dk_42 (dk_at dksX0_strengthFor_2 3 rfl rfl)
theorem dX0_strengthFor_50 : decode cX0_strengthFor 50 = .ok (.getfield 22, 3) := dk_180 0 22 (dk_at dksX0_strengthFor_2 4 rfl rfl)
theorem dX0_strengthFor_53 : decode cX0_strengthFor 53 = .ok (.invokevirtual 203, 3) := dk_182 0 203 (dk_at dksX0_strengthFor_2 7 rfl rfl)
theorem dX0_strengthFor_56 : decode cX0_strengthFor 56 = .ok (.aload_n 0, 1) := dk_42 (dk_at dksX0_strengthFor_2 10 rfl rfl)
theorem dX0_strengthFor_57 : decode cX0_strengthFor 57 = .ok (.getfield 32, 3) := dk_180 0 32 (dk_at dksX0_strengthFor_2 11 rfl rfl)
theorem dX0_strengthFor_60 : decode cX0_strengthFor 60 = .ok (.getfield 153, 3) := dk_180 0 153 (dk_at dksX0_strengthFor_2 14 rfl rfl)
theorem dX0_strengthFor_63 : decode cX0_strengthFor 63 = .ok (.iload_n 1, 1) := dk_27 (dk_at dksX0_strengthFor_2 17 rfl rfl)
theorem dX0_strengthFor_64 : decode cX0_strengthFor 64 = .ok (.iload 5, 2) := dk_21 5 (dk_at dksX0_strengthFor_2 18 rfl rfl)
theorem dX0_strengthFor_66 : decode cX0_strengthFor 66 = .ok (.iastore, 1) := dk_79 (dk_at dksX0_strengthFor_2 20 rfl rfl)
theorem dX0_strengthFor_67 : decode cX0_strengthFor 67 = .ok (.aload_n 0, 1) := dk_42 (dk_at dksX0_strengthFor_2 21 rfl rfl)
theorem dX0_strengthFor_68 : decode cX0_strengthFor 68 = .ok (.aload_n 0, 1) := dk_42 (dk_at dksX0_strengthFor_2 22 rfl rfl)
theorem dX0_strengthFor_69 : decode cX0_strengthFor 69 = .ok (.getfield 32, 3) := dk_180 0 32 (dk_at dksX0_strengthFor_3 0 rfl rfl)
theorem dX0_strengthFor_72 : decode cX0_strengthFor 72 = .ok (.iload 4, 2) := dk_21 4 (dk_at dksX0_strengthFor_3 3 rfl rfl)
theorem dX0_strengthFor_74 : decode cX0_strengthFor 74 = .ok (.invokevirtual 254, 3) := dk_182 0 254 (dk_at dksX0_strengthFor_3 5 rfl rfl)
theorem dX0_strengthFor_77 : decode cX0_strengthFor 77 = .ok (.aload_n 0, 1) := dk_42 (dk_at dksX0_strengthFor_3 8 rfl rfl)
theorem dX0_strengthFor_78 : decode cX0_strengthFor 78 = .ok (.getfield 32, 3) := dk_180 0 32 (dk_at dksX0_strengthFor_3 9 rfl rfl)
theorem dX0_strengthFor_81 : decode cX0_strengthFor 81 = .ok (.getfield 129, 3) := dk_180 0 129 (dk_at dksX0_strengthFor_3 12 rfl rfl)
theorem dX0_strengthFor_84 : decode cX0_strengthFor 84 = .ok (.iload_n 2, 1) := dk_28 (dk_at dksX0_strengthFor_3 15 rfl rfl)
theorem dX0_strengthFor_85 : decode cX0_strengthFor 85 = .ok (.iaload, 1) := dk_46 (dk_at dksX0_strengthFor_3 16 rfl rfl)
theorem dX0_strengthFor_86 : decode cX0_strengthFor 86 = .ok (.iload_n 3, 1) := dk_29 (dk_at dksX0_strengthFor_3 17 rfl rfl)
theorem dX0_strengthFor_87 : decode cX0_strengthFor 87 = .ok (.if_icmp .ne 6, 3) := dk_160 0 6 (dk_at dksX0_strengthFor_3 18 rfl rfl)
theorem dX0_strengthFor_90 : decode cX0_strengthFor 90 = .ok (.iload 5, 2) := dk_21 5 (dk_at dksX0_strengthFor_3 21 rfl rfl)
theorem dX0_strengthFor_92 : decode cX0_strengthFor 92 = .ok (.ireturn, 1) := dk_172 (dk_at dksX0_strengthFor_3 23 rfl rfl)
theorem dX0_strengthFor_93 : decode cX0_strengthFor 93 = .ok (.iinc 5 1, 3) := dk_132 5 1 (dk_at dksX0_strengthFor_4 0 rfl rfl)
theorem dX0_strengthFor_96 : decode cX0_strengthFor 96 = .ok (.goto (-58), 3) := dk_167 255 198 (dk_at dksX0_strengthFor_4 3 rfl rfl)
theorem dX0_strengthFor_99 : decode cX0_strengthFor 99 = .ok (.bipush (-3), 2) := dk_16 253 (dk_at dksX0_strengthFor_4 6 rfl rfl)
theorem dX0_strengthFor_101 : decode cX0_strengthFor 101 = .ok (.ireturn, 1) := dk_172 (dk_at dksX0_strengthFor_4 8 rfl rfl)
abbrev cX0_hangFor : ByteArray := prog_1_method_54_code
def yX0_hangFor : MethodName := ⟨RX0, "hangFor", "(II)I"⟩
def dkwX0_hangFor_4 : List UInt8 := [167, 0, 4, 29, 62, 132, 4, 1, 167, 255, 182, 29, 172]
abbrev dktX0_hangFor_4 : List UInt8 := dkwX0_hangFor_4 ++ []
def dkwX0_hangFor_3 : List UInt8 := [182, 0, 203, 42, 180, 0, 32, 21, 4, 181, 1, 14, 42, 27, 182, 1, 29, 28, 163, 0, 8, 21, 4]
abbrev dktX0_hangFor_3 : List UInt8 := dkwX0_hangFor_3 ++ dktX0_hangFor_4
def dkwX0_hangFor_2 : List UInt8 := [21, 4, 184, 1, 39, 29, 184, 1, 39, 161, 0, 6, 167, 0, 39, 42, 180, 0, 32, 42, 180, 0, 22]
abbrev dktX0_hangFor_2 : List UInt8 := dkwX0_hangFor_2 ++ dktX0_hangFor_3
def dkwX0_hangFor_1 : List UInt8 := [62, 3, 54, 4, 21, 4, 4, 42, 180, 0, 22, 180, 0, 111, 120, 162, 0, 66, 29, 16, 253, 159, 0, 18]
abbrev dktX0_hangFor_1 : List UInt8 := dkwX0_hangFor_1 ++ dktX0_hangFor_2
def dkwX0_hangFor_0 : List UInt8 := [27, 4, 16, 30, 184, 0, 115, 153, 0, 13, 28, 3, 16, 8, 184, 0, 115, 154, 0, 5, 2, 172, 16, 253]
abbrev dktX0_hangFor_0 : List UInt8 := dkwX0_hangFor_0 ++ dktX0_hangFor_1
theorem dksX0_hangFor_0 : cX0_hangFor.data.toList.drop 0 = dktX0_hangFor_0 := by decide +kernel
theorem dksX0_hangFor_1 : cX0_hangFor.data.toList.drop 24 = dktX0_hangFor_1 := dk_seg dksX0_hangFor_0 24 rfl rfl
theorem dksX0_hangFor_2 : cX0_hangFor.data.toList.drop 48 = dktX0_hangFor_2 := dk_seg dksX0_hangFor_1 24 rfl rfl
theorem dksX0_hangFor_3 : cX0_hangFor.data.toList.drop 71 = dktX0_hangFor_3 := dk_seg dksX0_hangFor_2 23 rfl rfl
theorem dksX0_hangFor_4 : cX0_hangFor.data.toList.drop 94 = dktX0_hangFor_4 := dk_seg dksX0_hangFor_3 23 rfl rfl
theorem dX0_hangFor_0 : decode cX0_hangFor 0 = .ok (.iload_n 1, 1) := dk_27 (dk_at dksX0_hangFor_0 0 rfl rfl)
theorem dX0_hangFor_1 : decode cX0_hangFor 1 = .ok (.iconst 1, 1) := dk_4 (dk_at dksX0_hangFor_0 1 rfl rfl)
theorem dX0_hangFor_2 : decode cX0_hangFor 2 = .ok (.bipush 30, 2) := dk_16 30 (dk_at dksX0_hangFor_0 2 rfl rfl)
theorem dX0_hangFor_4 : decode cX0_hangFor 4 = .ok (.invokestatic 115, 3) := dk_184 0 115 (dk_at dksX0_hangFor_0 4 rfl rfl)
theorem dX0_hangFor_7 : decode cX0_hangFor 7 = .ok (.ifCond .eq 13, 3) := dk_153 0 13 (dk_at dksX0_hangFor_0 7 rfl rfl)
theorem dX0_hangFor_10 : decode cX0_hangFor 10 = .ok (.iload_n 2, 1) := dk_28 (dk_at dksX0_hangFor_0 10 rfl rfl)
theorem dX0_hangFor_11 : decode cX0_hangFor 11 = .ok (.iconst 0, 1) := dk_3 (dk_at dksX0_hangFor_0 11 rfl rfl)
theorem dX0_hangFor_12 : decode cX0_hangFor 12 = .ok (.bipush 8, 2) := dk_16 8 (dk_at dksX0_hangFor_0 12 rfl rfl)
theorem dX0_hangFor_14 : decode cX0_hangFor 14 = .ok (.invokestatic 115, 3) := dk_184 0 115 (dk_at dksX0_hangFor_0 14 rfl rfl)
theorem dX0_hangFor_17 : decode cX0_hangFor 17 = .ok (.ifCond .ne 5, 3) := dk_154 0 5 (dk_at dksX0_hangFor_0 17 rfl rfl)
theorem dX0_hangFor_20 : decode cX0_hangFor 20 = .ok (.iconst (-1), 1) := dk_2 (dk_at dksX0_hangFor_0 20 rfl rfl)
theorem dX0_hangFor_21 : decode cX0_hangFor 21 = .ok (.ireturn, 1) := dk_172 (dk_at dksX0_hangFor_0 21 rfl rfl)
theorem dX0_hangFor_22 : decode cX0_hangFor 22 = .ok (.bipush (-3), 2) := dk_16 253 (dk_at dksX0_hangFor_0 22 rfl rfl)
theorem dX0_hangFor_24 : decode cX0_hangFor 24 = .ok (.istore_n 3, 1) := dk_62 (dk_at dksX0_hangFor_1 0 rfl rfl)
theorem dX0_hangFor_25 : decode cX0_hangFor 25 = .ok (.iconst 0, 1) := dk_3 (dk_at dksX0_hangFor_1 1 rfl rfl)
theorem dX0_hangFor_26 : decode cX0_hangFor 26 = .ok (.istore 4, 2) := dk_54 4 (dk_at dksX0_hangFor_1 2 rfl rfl)
theorem dX0_hangFor_28 : decode cX0_hangFor 28 = .ok (.iload 4, 2) := dk_21 4 (dk_at dksX0_hangFor_1 4 rfl rfl)
theorem dX0_hangFor_30 : decode cX0_hangFor 30 = .ok (.iconst 1, 1) := dk_4 (dk_at dksX0_hangFor_1 6 rfl rfl)
theorem dX0_hangFor_31 : decode cX0_hangFor 31 = .ok (.aload_n 0, 1) := dk_42 (dk_at dksX0_hangFor_1 7 rfl rfl)
theorem dX0_hangFor_32 : decode cX0_hangFor 32 = .ok (.getfield 22, 3) := dk_180 0 22 (dk_at dksX0_hangFor_1 8 rfl rfl)
theorem dX0_hangFor_35 : decode cX0_hangFor 35 = .ok (.getfield 111, 3) := dk_180 0 111 (dk_at dksX0_hangFor_1 11 rfl rfl)
theorem dX0_hangFor_38 : decode cX0_hangFor 38 = .ok (.ishl, 1) := dk_120 (dk_at dksX0_hangFor_1 14 rfl rfl)
theorem dX0_hangFor_39 : decode cX0_hangFor 39 = .ok (.if_icmp .ge 66, 3) := dk_162 0 66 (dk_at dksX0_hangFor_1 15 rfl rfl)
theorem dX0_hangFor_42 : decode cX0_hangFor 42 = .ok (.iload_n 3, 1) := dk_29 (dk_at dksX0_hangFor_1 18 rfl rfl)
theorem dX0_hangFor_43 : decode cX0_hangFor 43 = .ok (.bipush (-3), 2) := dk_16 253 (dk_at dksX0_hangFor_1 19 rfl rfl)
theorem dX0_hangFor_45 : decode cX0_hangFor 45 = .ok (.if_icmp .eq 18, 3) := dk_159 0 18 (dk_at dksX0_hangFor_1 21 rfl rfl)
theorem dX0_hangFor_48 : decode cX0_hangFor 48 = .ok (.iload 4, 2) := dk_21 4 (dk_at dksX0_hangFor_2 0 rfl rfl)
theorem dX0_hangFor_50 : decode cX0_hangFor 50 = .ok (.invokestatic 295, 3) := dk_184 1 39 (dk_at dksX0_hangFor_2 2 rfl rfl)
theorem dX0_hangFor_53 : decode cX0_hangFor 53 = .ok (.iload_n 3, 1) := dk_29 (dk_at dksX0_hangFor_2 5 rfl rfl)
theorem dX0_hangFor_54 : decode cX0_hangFor 54 = .ok (.invokestatic 295, 3) := dk_184 1 39 (dk_at dksX0_hangFor_2 6 rfl rfl)
theorem dX0_hangFor_57 : decode cX0_hangFor 57 = .ok (.if_icmp .lt 6, 3) := dk_161 0 6 (dk_at dksX0_hangFor_2 9 rfl rfl)
theorem dX0_hangFor_60 : decode cX0_hangFor 60 = .ok (.goto 39, 3) := dk_167 0 39 (dk_at dksX0_hangFor_2 12 rfl rfl)
theorem dX0_hangFor_63 : decode cX0_hangFor 63 = .ok (.aload_n 0, 1) := dk_42 (dk_at dksX0_hangFor_2 15 rfl rfl)
theorem dX0_hangFor_64 : decode cX0_hangFor 64 = .ok (.getfield 32, 3) := dk_180 0 32 (dk_at dksX0_hangFor_2 16 rfl rfl)
theorem dX0_hangFor_67 : decode cX0_hangFor 67 = .ok (.aload_n 0, 1) := dk_42 (dk_at dksX0_hangFor_2 19 rfl rfl)
theorem dX0_hangFor_68 : decode cX0_hangFor 68 = .ok (.getfield 22, 3) := dk_180 0 22 (dk_at dksX0_hangFor_2 20 rfl rfl)
theorem dX0_hangFor_71 : decode cX0_hangFor 71 = .ok (.invokevirtual 203, 3) := dk_182 0 203 (dk_at dksX0_hangFor_3 0 rfl rfl)
theorem dX0_hangFor_74 : decode cX0_hangFor 74 = .ok (.aload_n 0, 1) := dk_42 (dk_at dksX0_hangFor_3 3 rfl rfl)
theorem dX0_hangFor_75 : decode cX0_hangFor 75 = .ok (.getfield 32, 3) := dk_180 0 32 (dk_at dksX0_hangFor_3 4 rfl rfl)
theorem dX0_hangFor_78 : decode cX0_hangFor 78 = .ok (.iload 4, 2) := dk_21 4 (dk_at dksX0_hangFor_3 7 rfl rfl)
theorem dX0_hangFor_80 : decode cX0_hangFor 80 = .ok (.putfield 270, 3) := dk_181 1 14 (dk_at dksX0_hangFor_3 9 rfl rfl)
theorem dX0_hangFor_83 : decode cX0_hangFor 83 = .ok (.aload_n 0, 1) := dk_42 (dk_at dksX0_hangFor_3 12 rfl rfl)
theorem dX0_hangFor_84 : decode cX0_hangFor 84 = .ok (.iload_n 1, 1) := dk_27 (dk_at dksX0_hangFor_3 13 rfl rfl)
theorem dX0_hangFor_85 : decode cX0_hangFor 85 = .ok (.invokevirtual 285, 3) := dk_182 1 29 (dk_at dksX0_hangFor_3 14 rfl rfl)
theorem dX0_hangFor_88 : decode cX0_hangFor 88 = .ok (.iload_n 2, 1) := dk_28 (dk_at dksX0_hangFor_3 17 rfl rfl)
theorem dX0_hangFor_89 : decode cX0_hangFor 89 = .ok (.if_icmp .gt 8, 3) := dk_163 0 8 (dk_at dksX0_hangFor_3 18 rfl rfl)
theorem dX0_hangFor_92 : decode cX0_hangFor 92 = .ok (.iload 4, 2) := dk_21 4 (dk_at dksX0_hangFor_3 21 rfl rfl)
theorem dX0_hangFor_94 : decode cX0_hangFor 94 = .ok (.goto 4, 3) := dk_167 0 4 (dk_at dksX0_hangFor_4 0 rfl rfl)
theorem dX0_hangFor_97 : decode cX0_hangFor 97 = .ok (.iload_n 3, 1) := dk_29 (dk_at dksX0_hangFor_4 3 rfl rfl)
theorem dX0_hangFor_98 : decode cX0_hangFor 98 = .ok (.istore_n 3, 1) := dk_62 (dk_at dksX0_hangFor_4 4 rfl rfl)
theorem dX0_hangFor_99 : decode cX0_hangFor 99 = .ok (.iinc 4 1, 3) := dk_132 4 1 (dk_at dksX0_hangFor_4 5 rfl rfl)
theorem dX0_hangFor_102 : decode cX0_hangFor 102 = .ok (.goto (-74), 3) := dk_167 255 182 (dk_at dksX0_hangFor_4 8 rfl rfl)
theorem dX0_hangFor_105 : decode cX0_hangFor 105 = .ok (.iload_n 3, 1) := dk_29 (dk_at dksX0_hangFor_4 11 rfl rfl)
theorem dX0_hangFor_106 : decode cX0_hangFor 106 = .ok (.ireturn, 1) := dk_172 (dk_at dksX0_hangFor_4 12 rfl rfl)
abbrev cX0_ones : ByteArray := prog_1_method_5_code
def yX0_ones : MethodName := ⟨RX0, "ones", "(I)I"⟩
def dkwX0_ones_0 : List UInt8 := [3, 60, 26, 61, 28, 153, 0, 15, 132, 1, 1, 28, 28, 4, 100, 126, 61, 167, 255, 243, 27, 172]
abbrev dktX0_ones_0 : List UInt8 := dkwX0_ones_0 ++ []
theorem dksX0_ones_0 : cX0_ones.data.toList.drop 0 = dktX0_ones_0 := by decide +kernel
theorem dX0_ones_0 : decode cX0_ones 0 = .ok (.iconst 0, 1) := dk_3 (dk_at dksX0_ones_0 0 rfl rfl)
theorem dX0_ones_1 : decode cX0_ones 1 = .ok (.istore_n 1, 1) := dk_60 (dk_at dksX0_ones_0 1 rfl rfl)
theorem dX0_ones_2 : decode cX0_ones 2 = .ok (.iload_n 0, 1) := dk_26 (dk_at dksX0_ones_0 2 rfl rfl)
theorem dX0_ones_3 : decode cX0_ones 3 = .ok (.istore_n 2, 1) := dk_61 (dk_at dksX0_ones_0 3 rfl rfl)
theorem dX0_ones_4 : decode cX0_ones 4 = .ok (.iload_n 2, 1) := dk_28 (dk_at dksX0_ones_0 4 rfl rfl)
theorem dX0_ones_5 : decode cX0_ones 5 = .ok (.ifCond .eq 15, 3) := dk_153 0 15 (dk_at dksX0_ones_0 5 rfl rfl)
theorem dX0_ones_8 : decode cX0_ones 8 = .ok (.iinc 1 1, 3) := dk_132 1 1 (dk_at dksX0_ones_0 8 rfl rfl)
theorem dX0_ones_11 : decode cX0_ones 11 = .ok (.iload_n 2, 1) := dk_28 (dk_at dksX0_ones_0 11 rfl rfl)
theorem dX0_ones_12 : decode cX0_ones 12 = .ok (.iload_n 2, 1) := dk_28 (dk_at dksX0_ones_0 12 rfl rfl)
theorem dX0_ones_13 : decode cX0_ones 13 = .ok (.iconst 1, 1) := dk_4 (dk_at dksX0_ones_0 13 rfl rfl)
theorem dX0_ones_14 : decode cX0_ones 14 = .ok (.isub, 1) := dk_100 (dk_at dksX0_ones_0 14 rfl rfl)
theorem dX0_ones_15 : decode cX0_ones 15 = .ok (.iand, 1) := dk_126 (dk_at dksX0_ones_0 15 rfl rfl)
theorem dX0_ones_16 : decode cX0_ones 16 = .ok (.istore_n 2, 1) := dk_61 (dk_at dksX0_ones_0 16 rfl rfl)
theorem dX0_ones_17 : decode cX0_ones 17 = .ok (.goto (-13), 3) := dk_167 255 243 (dk_at dksX0_ones_0 17 rfl rfl)
theorem dX0_ones_20 : decode cX0_ones 20 = .ok (.iload_n 1, 1) := dk_27 (dk_at dksX0_ones_0 20 rfl rfl)
theorem dX0_ones_21 : decode cX0_ones 21 = .ok (.ireturn, 1) := dk_172 (dk_at dksX0_ones_0 21 rfl rfl)
abbrev cX0_fits : ByteArray := prog_1_method_58_code
def yX0_fits : MethodName := ⟨RX0, "fits", "(III)I"⟩
def dkwX0_fits_2 : List UInt8 := [167, 0, 4, 3, 182, 1, 73, 172, 58, 4, 16, 245, 172]
abbrev dktX0_fits_2 : List UInt8 := dkwX0_fits_2 ++ []
def dkwX0_fits_1 : List UInt8 := [2, 172, 42, 42, 42, 180, 0, 83, 27, 50, 182, 1, 65, 182, 1, 69, 28, 29, 154, 0, 7, 4]
abbrev dktX0_fits_1 : List UInt8 := dkwX0_fits_1 ++ dktX0_fits_2
def dkwX0_fits_0 : List UInt8 := [27, 184, 1, 62, 153, 0, 20, 42, 28, 182, 0, 244, 153, 0, 12, 29, 3, 4, 184, 0, 115, 154, 0, 5]
abbrev dktX0_fits_0 : List UInt8 := dkwX0_fits_0 ++ dktX0_fits_1
theorem dksX0_fits_0 : cX0_fits.data.toList.drop 0 = dktX0_fits_0 := by decide +kernel
theorem dksX0_fits_1 : cX0_fits.data.toList.drop 24 = dktX0_fits_1 := dk_seg dksX0_fits_0 24 rfl rfl
theorem dksX0_fits_2 : cX0_fits.data.toList.drop 46 = dktX0_fits_2 := dk_seg dksX0_fits_1 22 rfl rfl
theorem dX0_fits_0 : decode cX0_fits 0 = .ok (.iload_n 1, 1) := dk_27 (dk_at dksX0_fits_0 0 rfl rfl)
theorem dX0_fits_1 : decode cX0_fits 1 = .ok (.invokestatic 318, 3) := dk_184 1 62 (dk_at dksX0_fits_0 1 rfl rfl)
theorem dX0_fits_4 : decode cX0_fits 4 = .ok (.ifCond .eq 20, 3) := dk_153 0 20 (dk_at dksX0_fits_0 4 rfl rfl)
theorem dX0_fits_7 : decode cX0_fits 7 = .ok (.aload_n 0, 1) := dk_42 (dk_at dksX0_fits_0 7 rfl rfl)
theorem dX0_fits_8 : decode cX0_fits 8 = .ok (.iload_n 2, 1) := dk_28 (dk_at dksX0_fits_0 8 rfl rfl)
theorem dX0_fits_9 : decode cX0_fits 9 = .ok (.invokevirtual 244, 3) := dk_182 0 244 (dk_at dksX0_fits_0 9 rfl rfl)
theorem dX0_fits_12 : decode cX0_fits 12 = .ok (.ifCond .eq 12, 3) := dk_153 0 12 (dk_at dksX0_fits_0 12 rfl rfl)
theorem dX0_fits_15 : decode cX0_fits 15 = .ok (.iload_n 3, 1) := dk_29 (dk_at dksX0_fits_0 15 rfl rfl)
theorem dX0_fits_16 : decode cX0_fits 16 = .ok (.iconst 0, 1) := dk_3 (dk_at dksX0_fits_0 16 rfl rfl)
theorem dX0_fits_17 : decode cX0_fits 17 = .ok (.iconst 1, 1) := dk_4 (dk_at dksX0_fits_0 17 rfl rfl)
theorem dX0_fits_18 : decode cX0_fits 18 = .ok (.invokestatic 115, 3) := dk_184 0 115 (dk_at dksX0_fits_0 18 rfl rfl)
theorem dX0_fits_21 : decode cX0_fits 21 = .ok (.ifCond .ne 5, 3) := dk_154 0 5 (dk_at dksX0_fits_0 21 rfl rfl)
theorem dX0_fits_24 : decode cX0_fits 24 = .ok (.iconst (-1), 1) := dk_2 (dk_at dksX0_fits_1 0 rfl rfl)
theorem dX0_fits_25 : decode cX0_fits 25 = .ok (.ireturn, 1) := dk_172 (dk_at dksX0_fits_1 1 rfl rfl)
theorem dX0_fits_26 : decode cX0_fits 26 = .ok (.aload_n 0, 1) := dk_42 (dk_at dksX0_fits_1 2 rfl rfl)
theorem dX0_fits_27 : decode cX0_fits 27 = .ok (.aload_n 0, 1) := dk_42 (dk_at dksX0_fits_1 3 rfl rfl)
theorem dX0_fits_28 : decode cX0_fits 28 = .ok (.aload_n 0, 1) := dk_42 (dk_at dksX0_fits_1 4 rfl rfl)
theorem dX0_fits_29 : decode cX0_fits 29 = .ok (.getfield 83, 3) := dk_180 0 83 (dk_at dksX0_fits_1 5 rfl rfl)
theorem dX0_fits_32 : decode cX0_fits 32 = .ok (.iload_n 1, 1) := dk_27 (dk_at dksX0_fits_1 8 rfl rfl)
theorem dX0_fits_33 : decode cX0_fits 33 = .ok (.aaload, 1) := dk_50 (dk_at dksX0_fits_1 9 rfl rfl)
theorem dX0_fits_34 : decode cX0_fits 34 = .ok (.invokevirtual 321, 3) := dk_182 1 65 (dk_at dksX0_fits_1 10 rfl rfl)
theorem dX0_fits_37 : decode cX0_fits 37 = .ok (.invokevirtual 325, 3) := dk_182 1 69 (dk_at dksX0_fits_1 13 rfl rfl)
theorem dX0_fits_40 : decode cX0_fits 40 = .ok (.iload_n 2, 1) := dk_28 (dk_at dksX0_fits_1 16 rfl rfl)
theorem dX0_fits_41 : decode cX0_fits 41 = .ok (.iload_n 3, 1) := dk_29 (dk_at dksX0_fits_1 17 rfl rfl)
theorem dX0_fits_42 : decode cX0_fits 42 = .ok (.ifCond .ne 7, 3) := dk_154 0 7 (dk_at dksX0_fits_1 18 rfl rfl)
theorem dX0_fits_45 : decode cX0_fits 45 = .ok (.iconst 1, 1) := dk_4 (dk_at dksX0_fits_1 21 rfl rfl)
theorem dX0_fits_46 : decode cX0_fits 46 = .ok (.goto 4, 3) := dk_167 0 4 (dk_at dksX0_fits_2 0 rfl rfl)
theorem dX0_fits_49 : decode cX0_fits 49 = .ok (.iconst 0, 1) := dk_3 (dk_at dksX0_fits_2 3 rfl rfl)
theorem dX0_fits_50 : decode cX0_fits 50 = .ok (.invokevirtual 329, 3) := dk_182 1 73 (dk_at dksX0_fits_2 4 rfl rfl)
theorem dX0_fits_53 : decode cX0_fits 53 = .ok (.ireturn, 1) := dk_172 (dk_at dksX0_fits_2 7 rfl rfl)
theorem dX0_fits_54 : decode cX0_fits 54 = .ok (.astore 4, 2) := dk_58 4 (dk_at dksX0_fits_2 8 rfl rfl)
theorem dX0_fits_56 : decode cX0_fits 56 = .ok (.bipush (-11), 2) := dk_16 245 (dk_at dksX0_fits_2 10 rfl rfl)
theorem dX0_fits_58 : decode cX0_fits 58 = .ok (.ireturn, 1) := dk_172 (dk_at dksX0_fits_2 12 rfl rfl)
abbrev cX0_isSheet : ByteArray := prog_1_method_73_code
def yX0_isSheet : MethodName := ⟨RX0, "isSheet", "(I)Z"⟩
def dkwX0_isSheet_0 : List UInt8 := [26, 3, 6, 184, 0, 115, 172]
abbrev dktX0_isSheet_0 : List UInt8 := dkwX0_isSheet_0 ++ []
theorem dksX0_isSheet_0 : cX0_isSheet.data.toList.drop 0 = dktX0_isSheet_0 := by decide +kernel
theorem dX0_isSheet_0 : decode cX0_isSheet 0 = .ok (.iload_n 0, 1) := dk_26 (dk_at dksX0_isSheet_0 0 rfl rfl)
theorem dX0_isSheet_1 : decode cX0_isSheet 1 = .ok (.iconst 0, 1) := dk_3 (dk_at dksX0_isSheet_0 1 rfl rfl)
theorem dX0_isSheet_2 : decode cX0_isSheet 2 = .ok (.iconst 3, 1) := dk_6 (dk_at dksX0_isSheet_0 2 rfl rfl)
theorem dX0_isSheet_3 : decode cX0_isSheet 3 = .ok (.invokestatic 115, 3) := dk_184 0 115 (dk_at dksX0_isSheet_0 3 rfl rfl)
theorem dX0_isSheet_6 : decode cX0_isSheet 6 = .ok (.ireturn, 1) := dk_172 (dk_at dksX0_isSheet_0 6 rfl rfl)
abbrev cX0_there : ByteArray := prog_1_method_76_code
def yX0_there : MethodName := ⟨RX0, "there", "(Ljava/lang/Object;)Ljava/lang/Object;"⟩
def dkwX0_there_0 : List UInt8 := [43, 199, 0, 8, 42, 180, 0, 97, 191, 43, 176]
abbrev dktX0_there_0 : List UInt8 := dkwX0_there_0 ++ []
theorem dksX0_there_0 : cX0_there.data.toList.drop 0 = dktX0_there_0 := by decide +kernel
theorem dX0_there_0 : decode cX0_there 0 = .ok (.aload_n 1, 1) := dk_43 (dk_at dksX0_there_0 0 rfl rfl)
theorem dX0_there_1 : decode cX0_there 1 = .ok (.ifnonnull 8, 3) := dk_199 0 8 (dk_at dksX0_there_0 1 rfl rfl)
theorem dX0_there_4 : decode cX0_there 4 = .ok (.aload_n 0, 1) := dk_42 (dk_at dksX0_there_0 4 rfl rfl)
theorem dX0_there_5 : decode cX0_there 5 = .ok (.getfield 97, 3) := dk_180 0 97 (dk_at dksX0_there_0 5 rfl rfl)
theorem dX0_there_8 : decode cX0_there 8 = .ok (.athrow, 1) := dk_191 (dk_at dksX0_there_0 8 rfl rfl)
theorem dX0_there_9 : decode cX0_there 9 = .ok (.aload_n 1, 1) := dk_43 (dk_at dksX0_there_0 9 rfl rfl)
theorem dX0_there_10 : decode cX0_there 10 = .ok (.areturn, 1) := dk_176 (dk_at dksX0_there_0 10 rfl rfl)
abbrev cX0_fitsOf : ByteArray := prog_1_method_57_code
def yX0_fitsOf : MethodName := ⟨RX0, "fitsOf", "(Ljava/lang/Object;IZ)I"⟩
def dkwX0_fitsOf_4 : List UInt8 := [29, 153, 0, 8, 21, 4, 167, 0, 5, 21, 5, 172]
abbrev dktX0_fitsOf_4 : List UInt8 := dkwX0_fitsOf_4 ++ []
def dkwX0_fitsOf_3 : List UInt8 := [42, 43, 28, 182, 1, 58, 153, 0, 12, 132, 4, 1, 4, 21, 6, 96, 54, 5, 132, 6, 255, 167, 255, 176]
abbrev dktX0_fitsOf_3 : List UInt8 := dkwX0_fitsOf_3 ++ dktX0_fitsOf_4
def dkwX0_fitsOf_2 : List UInt8 := [167, 0, 4, 3, 42, 180, 0, 22, 180, 0, 132, 28, 46, 154, 0, 7, 4, 167, 0, 4, 3, 160, 0, 21]
abbrev dktX0_fitsOf_2 : List UInt8 := dkwX0_fitsOf_2 ++ dktX0_fitsOf_3
def dkwX0_fitsOf_1 : List UInt8 := [180, 0, 22, 182, 0, 203, 42, 180, 0, 32, 180, 0, 129, 28, 21, 6, 79, 21, 6, 2, 160, 0, 7, 4]
abbrev dktX0_fitsOf_1 : List UInt8 := dkwX0_fitsOf_1 ++ dktX0_fitsOf_2
def dkwX0_fitsOf_0 : List UInt8 := [3, 54, 4, 16, 253, 54, 5, 16, 9, 54, 6, 21, 6, 2, 161, 0, 80, 42, 180, 0, 32, 42]
abbrev dktX0_fitsOf_0 : List UInt8 := dkwX0_fitsOf_0 ++ dktX0_fitsOf_1
theorem dksX0_fitsOf_0 : cX0_fitsOf.data.toList.drop 0 = dktX0_fitsOf_0 := by decide +kernel
theorem dksX0_fitsOf_1 : cX0_fitsOf.data.toList.drop 22 = dktX0_fitsOf_1 := dk_seg dksX0_fitsOf_0 22 rfl rfl
theorem dksX0_fitsOf_2 : cX0_fitsOf.data.toList.drop 46 = dktX0_fitsOf_2 := dk_seg dksX0_fitsOf_1 24 rfl rfl
theorem dksX0_fitsOf_3 : cX0_fitsOf.data.toList.drop 70 = dktX0_fitsOf_3 := dk_seg dksX0_fitsOf_2 24 rfl rfl
theorem dksX0_fitsOf_4 : cX0_fitsOf.data.toList.drop 94 = dktX0_fitsOf_4 := dk_seg dksX0_fitsOf_3 24 rfl rfl
theorem dX0_fitsOf_0 : decode cX0_fitsOf 0 = .ok (.iconst 0, 1) := dk_3 (dk_at dksX0_fitsOf_0 0 rfl rfl)
theorem dX0_fitsOf_1 : decode cX0_fitsOf 1 = .ok (.istore 4, 2) := dk_54 4 (dk_at dksX0_fitsOf_0 1 rfl rfl)
theorem dX0_fitsOf_3 : decode cX0_fitsOf 3 = .ok (.bipush (-3), 2) := dk_16 253 (dk_at dksX0_fitsOf_0 3 rfl rfl)
theorem dX0_fitsOf_5 : decode cX0_fitsOf 5 = .ok (.istore 5, 2) := dk_54 5 (dk_at dksX0_fitsOf_0 5 rfl rfl)
theorem dX0_fitsOf_7 : decode cX0_fitsOf 7 = .ok (.bipush 9, 2) := dk_16 9 (dk_at dksX0_fitsOf_0 7 rfl rfl)
theorem dX0_fitsOf_9 : decode cX0_fitsOf 9 = .ok (.istore 6, 2) := dk_54 6 (dk_at dksX0_fitsOf_0 9 rfl rfl)
theorem dX0_fitsOf_11 : decode cX0_fitsOf 11 = .ok (.iload 6, 2) := dk_21 6 (dk_at dksX0_fitsOf_0 11 rfl rfl)
theorem dX0_fitsOf_13 : decode cX0_fitsOf 13 = .ok (.iconst (-1), 1) := dk_2 (dk_at dksX0_fitsOf_0 13 rfl rfl)
theorem dX0_fitsOf_14 : decode cX0_fitsOf 14 = .ok (.if_icmp .lt 80, 3) := dk_161 0 80 (dk_at dksX0_fitsOf_0 14 rfl rfl)
theorem dX0_fitsOf_17 : decode cX0_fitsOf 17 = .ok (.aload_n 0, 1) := dk_42 (dk_at dksX0_fitsOf_0 17 rfl rfl)
theorem dX0_fitsOf_18 : decode cX0_fitsOf 18 = .ok (.getfield 32, 3) := dk_180 0 32 (dk_at dksX0_fitsOf_0 18 rfl rfl)
theorem dX0_fitsOf_21 : decode cX0_fitsOf 21 = .ok (.aload_n 0, 1) := dk_42 (dk_at dksX0_fitsOf_0 21 rfl rfl)
theorem dX0_fitsOf_22 : decode cX0_fitsOf 22 = .ok (.getfield 22, 3) := dk_180 0 22 (dk_at dksX0_fitsOf_1 0 rfl rfl)
theorem dX0_fitsOf_25 : decode cX0_fitsOf 25 = .ok (.invokevirtual 203, 3) := dk_182 0 203 (dk_at dksX0_fitsOf_1 3 rfl rfl)
theorem dX0_fitsOf_28 : decode cX0_fitsOf 28 = .ok (.aload_n 0, 1) := dk_42 (dk_at dksX0_fitsOf_1 6 rfl rfl)
theorem dX0_fitsOf_29 : decode cX0_fitsOf 29 = .ok (.getfield 32, 3) := dk_180 0 32 (dk_at dksX0_fitsOf_1 7 rfl rfl)
theorem dX0_fitsOf_32 : decode cX0_fitsOf 32 = .ok (.getfield 129, 3) := dk_180 0 129 (dk_at dksX0_fitsOf_1 10 rfl rfl)
theorem dX0_fitsOf_35 : decode cX0_fitsOf 35 = .ok (.iload_n 2, 1) := dk_28 (dk_at dksX0_fitsOf_1 13 rfl rfl)
theorem dX0_fitsOf_36 : decode cX0_fitsOf 36 = .ok (.iload 6, 2) := dk_21 6 (dk_at dksX0_fitsOf_1 14 rfl rfl)
theorem dX0_fitsOf_38 : decode cX0_fitsOf 38 = .ok (.iastore, 1) := dk_79 (dk_at dksX0_fitsOf_1 16 rfl rfl)
theorem dX0_fitsOf_39 : decode cX0_fitsOf 39 = .ok (.iload 6, 2) := dk_21 6 (dk_at dksX0_fitsOf_1 17 rfl rfl)
theorem dX0_fitsOf_41 : decode cX0_fitsOf 41 = .ok (.iconst (-1), 1) := dk_2 (dk_at dksX0_fitsOf_1 19 rfl rfl)
theorem dX0_fitsOf_42 : decode cX0_fitsOf 42 = .ok (.if_icmp .ne 7, 3) := dk_160 0 7 (dk_at dksX0_fitsOf_1 20 rfl rfl)
theorem dX0_fitsOf_45 : decode cX0_fitsOf 45 = .ok (.iconst 1, 1) := dk_4 (dk_at dksX0_fitsOf_1 23 rfl rfl)
theorem dX0_fitsOf_46 : decode cX0_fitsOf 46 = .ok (.goto 4, 3) := dk_167 0 4 (dk_at dksX0_fitsOf_2 0 rfl rfl)
theorem dX0_fitsOf_49 : decode cX0_fitsOf 49 = .ok (.iconst 0, 1) := dk_3 (dk_at dksX0_fitsOf_2 3 rfl rfl)
theorem dX0_fitsOf_50 : decode cX0_fitsOf 50 = .ok (.aload_n 0, 1) := dk_42 (dk_at dksX0_fitsOf_2 4 rfl rfl)
theorem dX0_fitsOf_51 : decode cX0_fitsOf 51 = .ok (.getfield 22, 3) := dk_180 0 22 (dk_at dksX0_fitsOf_2 5 rfl rfl)
theorem dX0_fitsOf_54 : decode cX0_fitsOf 54 = .ok (.getfield 132, 3) := dk_180 0 132 (dk_at dksX0_fitsOf_2 8 rfl rfl)
theorem dX0_fitsOf_57 : decode cX0_fitsOf 57 = .ok (.iload_n 2, 1) := dk_28 (dk_at dksX0_fitsOf_2 11 rfl rfl)
theorem dX0_fitsOf_58 : decode cX0_fitsOf 58 = .ok (.iaload, 1) := dk_46 (dk_at dksX0_fitsOf_2 12 rfl rfl)
theorem dX0_fitsOf_59 : decode cX0_fitsOf 59 = .ok (.ifCond .ne 7, 3) := dk_154 0 7 (dk_at dksX0_fitsOf_2 13 rfl rfl)
theorem dX0_fitsOf_62 : decode cX0_fitsOf 62 = .ok (.iconst 1, 1) := dk_4 (dk_at dksX0_fitsOf_2 16 rfl rfl)
theorem dX0_fitsOf_63 : decode cX0_fitsOf 63 = .ok (.goto 4, 3) := dk_167 0 4 (dk_at dksX0_fitsOf_2 17 rfl rfl)
theorem dX0_fitsOf_66 : decode cX0_fitsOf 66 = .ok (.iconst 0, 1) := dk_3 (dk_at dksX0_fitsOf_2 20 rfl rfl)
theorem dX0_fitsOf_67 : decode cX0_fitsOf 67 = .ok (.if_icmp .ne 21, 3) := dk_160 0 21 (dk_at dksX0_fitsOf_2 21 rfl rfl)
theorem dX0_fitsOf_70 : decode cX0_fitsOf 70 = .ok (.aload_n 0, 1) := dk_42 (dk_at dksX0_fitsOf_3 0 rfl rfl)
theorem dX0_fitsOf_71 : decode cX0_fitsOf 71 = .ok (.aload_n 1, 1) := dk_43 (dk_at dksX0_fitsOf_3 1 rfl rfl)
theorem dX0_fitsOf_72 : decode cX0_fitsOf 72 = .ok (.iload_n 2, 1) := dk_28 (dk_at dksX0_fitsOf_3 2 rfl rfl)
theorem dX0_fitsOf_73 : decode cX0_fitsOf 73 = .ok (.invokevirtual 314, 3) := dk_182 1 58 (dk_at dksX0_fitsOf_3 3 rfl rfl)
theorem dX0_fitsOf_76 : decode cX0_fitsOf 76 = .ok (.ifCond .eq 12, 3) := dk_153 0 12 (dk_at dksX0_fitsOf_3 6 rfl rfl)
theorem dX0_fitsOf_79 : decode cX0_fitsOf 79 = .ok (.iinc 4 1, 3) := dk_132 4 1 (dk_at dksX0_fitsOf_3 9 rfl rfl)
theorem dX0_fitsOf_82 : decode cX0_fitsOf 82 = .ok (.iconst 1, 1) := dk_4 (dk_at dksX0_fitsOf_3 12 rfl rfl)
theorem dX0_fitsOf_83 : decode cX0_fitsOf 83 = .ok (.iload 6, 2) := dk_21 6 (dk_at dksX0_fitsOf_3 13 rfl rfl)
theorem dX0_fitsOf_85 : decode cX0_fitsOf 85 = .ok (.iadd, 1) := dk_96 (dk_at dksX0_fitsOf_3 15 rfl rfl)
theorem dX0_fitsOf_86 : decode cX0_fitsOf 86 = .ok (.istore 5, 2) := dk_54 5 (dk_at dksX0_fitsOf_3 16 rfl rfl)
theorem dX0_fitsOf_88 : decode cX0_fitsOf 88 = .ok (.iinc 6 (-1), 3) := dk_132 6 255 (dk_at dksX0_fitsOf_3 18 rfl rfl)
theorem dX0_fitsOf_91 : decode cX0_fitsOf 91 = .ok (.goto (-80), 3) := dk_167 255 176 (dk_at dksX0_fitsOf_3 21 rfl rfl)
theorem dX0_fitsOf_94 : decode cX0_fitsOf 94 = .ok (.iload_n 3, 1) := dk_29 (dk_at dksX0_fitsOf_4 0 rfl rfl)
theorem dX0_fitsOf_95 : decode cX0_fitsOf 95 = .ok (.ifCond .eq 8, 3) := dk_153 0 8 (dk_at dksX0_fitsOf_4 1 rfl rfl)
theorem dX0_fitsOf_98 : decode cX0_fitsOf 98 = .ok (.iload 4, 2) := dk_21 4 (dk_at dksX0_fitsOf_4 4 rfl rfl)
theorem dX0_fitsOf_100 : decode cX0_fitsOf 100 = .ok (.goto 5, 3) := dk_167 0 5 (dk_at dksX0_fitsOf_4 6 rfl rfl)
theorem dX0_fitsOf_103 : decode cX0_fitsOf 103 = .ok (.iload 5, 2) := dk_21 5 (dk_at dksX0_fitsOf_4 9 rfl rfl)
theorem dX0_fitsOf_105 : decode cX0_fitsOf 105 = .ok (.ireturn, 1) := dk_172 (dk_at dksX0_fitsOf_4 11 rfl rfl)
abbrev cX0_isTold : ByteArray := prog_1_method_56_code
def yX0_isTold : MethodName := ⟨RX0, "isTold", "(Ljava/lang/Object;I)Z"⟩
def dkwX0_isTold_2 : List UInt8 := [153, 0, 5, 3, 172, 132, 3, 1, 167, 255, 203, 4, 172]
abbrev dktX0_isTold_2 : List UInt8 := dkwX0_isTold_2 ++ []
def dkwX0_isTold_1 : List UInt8 := [55, 4, 22, 4, 20, 1, 56, 148, 153, 0, 21, 22, 4, 42, 180, 0, 32, 180, 0, 132, 28, 46, 133, 148]
abbrev dktX0_isTold_1 : List UInt8 := dkwX0_isTold_1 ++ dktX0_isTold_2
def dkwX0_isTold_0 : List UInt8 := [3, 62, 29, 43, 184, 1, 48, 162, 0, 51, 42, 42, 180, 0, 32, 182, 0, 177, 43, 29, 184, 1, 52]
abbrev dktX0_isTold_0 : List UInt8 := dkwX0_isTold_0 ++ dktX0_isTold_1
theorem dksX0_isTold_0 : cX0_isTold.data.toList.drop 0 = dktX0_isTold_0 := by decide +kernel
theorem dksX0_isTold_1 : cX0_isTold.data.toList.drop 23 = dktX0_isTold_1 := dk_seg dksX0_isTold_0 23 rfl rfl
theorem dksX0_isTold_2 : cX0_isTold.data.toList.drop 47 = dktX0_isTold_2 := dk_seg dksX0_isTold_1 24 rfl rfl
theorem dX0_isTold_0 : decode cX0_isTold 0 = .ok (.iconst 0, 1) := dk_3 (dk_at dksX0_isTold_0 0 rfl rfl)
theorem dX0_isTold_1 : decode cX0_isTold 1 = .ok (.istore_n 3, 1) := dk_62 (dk_at dksX0_isTold_0 1 rfl rfl)
theorem dX0_isTold_2 : decode cX0_isTold 2 = .ok (.iload_n 3, 1) := dk_29 (dk_at dksX0_isTold_0 2 rfl rfl)
theorem dX0_isTold_3 : decode cX0_isTold 3 = .ok (.aload_n 1, 1) := dk_43 (dk_at dksX0_isTold_0 3 rfl rfl)
theorem dX0_isTold_4 : decode cX0_isTold 4 = .ok (.invokestatic 304, 3) := dk_184 1 48 (dk_at dksX0_isTold_0 4 rfl rfl)
theorem dX0_isTold_7 : decode cX0_isTold 7 = .ok (.if_icmp .ge 51, 3) := dk_162 0 51 (dk_at dksX0_isTold_0 7 rfl rfl)
theorem dX0_isTold_10 : decode cX0_isTold 10 = .ok (.aload_n 0, 1) := dk_42 (dk_at dksX0_isTold_0 10 rfl rfl)
theorem dX0_isTold_11 : decode cX0_isTold 11 = .ok (.aload_n 0, 1) := dk_42 (dk_at dksX0_isTold_0 11 rfl rfl)
theorem dX0_isTold_12 : decode cX0_isTold 12 = .ok (.getfield 32, 3) := dk_180 0 32 (dk_at dksX0_isTold_0 12 rfl rfl)
theorem dX0_isTold_15 : decode cX0_isTold 15 = .ok (.invokevirtual 177, 3) := dk_182 0 177 (dk_at dksX0_isTold_0 15 rfl rfl)
theorem dX0_isTold_18 : decode cX0_isTold 18 = .ok (.aload_n 1, 1) := dk_43 (dk_at dksX0_isTold_0 18 rfl rfl)
theorem dX0_isTold_19 : decode cX0_isTold 19 = .ok (.iload_n 3, 1) := dk_29 (dk_at dksX0_isTold_0 19 rfl rfl)
theorem dX0_isTold_20 : decode cX0_isTold 20 = .ok (.invokestatic 308, 3) := dk_184 1 52 (dk_at dksX0_isTold_0 20 rfl rfl)
theorem dX0_isTold_23 : decode cX0_isTold 23 = .ok (.lstore 4, 2) := dk_55 4 (dk_at dksX0_isTold_1 0 rfl rfl)
theorem dX0_isTold_25 : decode cX0_isTold 25 = .ok (.lload 4, 2) := dk_22 4 (dk_at dksX0_isTold_1 2 rfl rfl)
theorem dX0_isTold_27 : decode cX0_isTold 27 = .ok (.ldc2_w 312, 3) := dk_20 1 56 (dk_at dksX0_isTold_1 4 rfl rfl)
theorem dX0_isTold_30 : decode cX0_isTold 30 = .ok (.lcmp, 1) := dk_148 (dk_at dksX0_isTold_1 7 rfl rfl)
theorem dX0_isTold_31 : decode cX0_isTold 31 = .ok (.ifCond .eq 21, 3) := dk_153 0 21 (dk_at dksX0_isTold_1 8 rfl rfl)
theorem dX0_isTold_34 : decode cX0_isTold 34 = .ok (.lload 4, 2) := dk_22 4 (dk_at dksX0_isTold_1 11 rfl rfl)
theorem dX0_isTold_36 : decode cX0_isTold 36 = .ok (.aload_n 0, 1) := dk_42 (dk_at dksX0_isTold_1 13 rfl rfl)
theorem dX0_isTold_37 : decode cX0_isTold 37 = .ok (.getfield 32, 3) := dk_180 0 32 (dk_at dksX0_isTold_1 14 rfl rfl)
theorem dX0_isTold_40 : decode cX0_isTold 40 = .ok (.getfield 132, 3) := dk_180 0 132 (dk_at dksX0_isTold_1 17 rfl rfl)
theorem dX0_isTold_43 : decode cX0_isTold 43 = .ok (.iload_n 2, 1) := dk_28 (dk_at dksX0_isTold_1 20 rfl rfl)
theorem dX0_isTold_44 : decode cX0_isTold 44 = .ok (.iaload, 1) := dk_46 (dk_at dksX0_isTold_1 21 rfl rfl)
theorem dX0_isTold_45 : decode cX0_isTold 45 = .ok (.i2l, 1) := dk_133 (dk_at dksX0_isTold_1 22 rfl rfl)
theorem dX0_isTold_46 : decode cX0_isTold 46 = .ok (.lcmp, 1) := dk_148 (dk_at dksX0_isTold_1 23 rfl rfl)
theorem dX0_isTold_47 : decode cX0_isTold 47 = .ok (.ifCond .eq 5, 3) := dk_153 0 5 (dk_at dksX0_isTold_2 0 rfl rfl)
theorem dX0_isTold_50 : decode cX0_isTold 50 = .ok (.iconst 0, 1) := dk_3 (dk_at dksX0_isTold_2 3 rfl rfl)
theorem dX0_isTold_51 : decode cX0_isTold 51 = .ok (.ireturn, 1) := dk_172 (dk_at dksX0_isTold_2 4 rfl rfl)
theorem dX0_isTold_52 : decode cX0_isTold 52 = .ok (.iinc 3 1, 3) := dk_132 3 1 (dk_at dksX0_isTold_2 5 rfl rfl)
theorem dX0_isTold_55 : decode cX0_isTold 55 = .ok (.goto (-53), 3) := dk_167 255 203 (dk_at dksX0_isTold_2 8 rfl rfl)
theorem dX0_isTold_58 : decode cX0_isTold 58 = .ok (.iconst 1, 1) := dk_4 (dk_at dksX0_isTold_2 11 rfl rfl)
theorem dX0_isTold_59 : decode cX0_isTold 59 = .ok (.ireturn, 1) := dk_172 (dk_at dksX0_isTold_2 12 rfl rfl)
abbrev cX0_lengthOf : ByteArray := prog_1_method_74_code
def yX0_lengthOf : MethodName := ⟨RX0, "lengthOf", "(Ljava/lang/Object;)I"⟩
def dkwX0_lengthOf_1 : List UInt8 := [190, 172, 42, 193, 1, 45, 153, 0, 11, 42, 192, 1, 45, 190, 167, 0, 8, 42, 192, 1, 47, 190, 172]
abbrev dktX0_lengthOf_1 : List UInt8 := dkwX0_lengthOf_1 ++ []
def dkwX0_lengthOf_0 : List UInt8 := [42, 193, 1, 42, 153, 0, 9, 42, 192, 1, 42, 190, 172, 42, 193, 1, 43, 153, 0, 9, 42, 192, 1, 43]
abbrev dktX0_lengthOf_0 : List UInt8 := dkwX0_lengthOf_0 ++ dktX0_lengthOf_1
theorem dksX0_lengthOf_0 : cX0_lengthOf.data.toList.drop 0 = dktX0_lengthOf_0 := by decide +kernel
theorem dksX0_lengthOf_1 : cX0_lengthOf.data.toList.drop 24 = dktX0_lengthOf_1 := dk_seg dksX0_lengthOf_0 24 rfl rfl
theorem dX0_lengthOf_0 : decode cX0_lengthOf 0 = .ok (.aload_n 0, 1) := dk_42 (dk_at dksX0_lengthOf_0 0 rfl rfl)
theorem dX0_lengthOf_1 : decode cX0_lengthOf 1 = .ok (.instanceof 298, 3) := dk_193 1 42 (dk_at dksX0_lengthOf_0 1 rfl rfl)
theorem dX0_lengthOf_4 : decode cX0_lengthOf 4 = .ok (.ifCond .eq 9, 3) := dk_153 0 9 (dk_at dksX0_lengthOf_0 4 rfl rfl)
theorem dX0_lengthOf_7 : decode cX0_lengthOf 7 = .ok (.aload_n 0, 1) := dk_42 (dk_at dksX0_lengthOf_0 7 rfl rfl)
theorem dX0_lengthOf_8 : decode cX0_lengthOf 8 = .ok (.checkcast 298, 3) := dk_192 1 42 (dk_at dksX0_lengthOf_0 8 rfl rfl)
theorem dX0_lengthOf_11 : decode cX0_lengthOf 11 = .ok (.arraylength, 1) := dk_190 (dk_at dksX0_lengthOf_0 11 rfl rfl)
theorem dX0_lengthOf_12 : decode cX0_lengthOf 12 = .ok (.ireturn, 1) := dk_172 (dk_at dksX0_lengthOf_0 12 rfl rfl)
theorem dX0_lengthOf_13 : decode cX0_lengthOf 13 = .ok (.aload_n 0, 1) := dk_42 (dk_at dksX0_lengthOf_0 13 rfl rfl)
theorem dX0_lengthOf_14 : decode cX0_lengthOf 14 = .ok (.instanceof 299, 3) := dk_193 1 43 (dk_at dksX0_lengthOf_0 14 rfl rfl)
theorem dX0_lengthOf_17 : decode cX0_lengthOf 17 = .ok (.ifCond .eq 9, 3) := dk_153 0 9 (dk_at dksX0_lengthOf_0 17 rfl rfl)
theorem dX0_lengthOf_20 : decode cX0_lengthOf 20 = .ok (.aload_n 0, 1) := dk_42 (dk_at dksX0_lengthOf_0 20 rfl rfl)
theorem dX0_lengthOf_21 : decode cX0_lengthOf 21 = .ok (.checkcast 299, 3) := dk_192 1 43 (dk_at dksX0_lengthOf_0 21 rfl rfl)
theorem dX0_lengthOf_24 : decode cX0_lengthOf 24 = .ok (.arraylength, 1) := dk_190 (dk_at dksX0_lengthOf_1 0 rfl rfl)
theorem dX0_lengthOf_25 : decode cX0_lengthOf 25 = .ok (.ireturn, 1) := dk_172 (dk_at dksX0_lengthOf_1 1 rfl rfl)
theorem dX0_lengthOf_26 : decode cX0_lengthOf 26 = .ok (.aload_n 0, 1) := dk_42 (dk_at dksX0_lengthOf_1 2 rfl rfl)
theorem dX0_lengthOf_27 : decode cX0_lengthOf 27 = .ok (.instanceof 301, 3) := dk_193 1 45 (dk_at dksX0_lengthOf_1 3 rfl rfl)
theorem dX0_lengthOf_30 : decode cX0_lengthOf 30 = .ok (.ifCond .eq 11, 3) := dk_153 0 11 (dk_at dksX0_lengthOf_1 6 rfl rfl)
theorem dX0_lengthOf_33 : decode cX0_lengthOf 33 = .ok (.aload_n 0, 1) := dk_42 (dk_at dksX0_lengthOf_1 9 rfl rfl)
theorem dX0_lengthOf_34 : decode cX0_lengthOf 34 = .ok (.checkcast 301, 3) := dk_192 1 45 (dk_at dksX0_lengthOf_1 10 rfl rfl)
theorem dX0_lengthOf_37 : decode cX0_lengthOf 37 = .ok (.arraylength, 1) := dk_190 (dk_at dksX0_lengthOf_1 13 rfl rfl)
theorem dX0_lengthOf_38 : decode cX0_lengthOf 38 = .ok (.goto 8, 3) := dk_167 0 8 (dk_at dksX0_lengthOf_1 14 rfl rfl)
theorem dX0_lengthOf_41 : decode cX0_lengthOf 41 = .ok (.aload_n 0, 1) := dk_42 (dk_at dksX0_lengthOf_1 17 rfl rfl)
theorem dX0_lengthOf_42 : decode cX0_lengthOf 42 = .ok (.checkcast 303, 3) := dk_192 1 47 (dk_at dksX0_lengthOf_1 18 rfl rfl)
theorem dX0_lengthOf_45 : decode cX0_lengthOf 45 = .ok (.arraylength, 1) := dk_190 (dk_at dksX0_lengthOf_1 21 rfl rfl)
theorem dX0_lengthOf_46 : decode cX0_lengthOf 46 = .ok (.ireturn, 1) := dk_172 (dk_at dksX0_lengthOf_1 22 rfl rfl)
abbrev cX0_numberOf : ByteArray := prog_1_method_55_code
def yX0_numberOf : MethodName := ⟨RX0, "numberOf", "(Ljava/lang/Object;I)J"⟩
def dkwX0_numberOf_2 : List UInt8 := [192, 1, 47, 27, 46, 133, 173]
abbrev dktX0_numberOf_2 : List UInt8 := dkwX0_numberOf_2 ++ []
def dkwX0_numberOf_1 : List UInt8 := [192, 1, 43, 27, 53, 133, 173, 42, 193, 1, 45, 153, 0, 12, 42, 192, 1, 45, 27, 47, 167, 0, 10, 42]
abbrev dktX0_numberOf_1 : List UInt8 := dkwX0_numberOf_1 ++ dktX0_numberOf_2
def dkwX0_numberOf_0 : List UInt8 := [42, 193, 1, 42, 153, 0, 11, 42, 192, 1, 42, 27, 51, 133, 173, 42, 193, 1, 43, 153, 0, 11, 42]
abbrev dktX0_numberOf_0 : List UInt8 := dkwX0_numberOf_0 ++ dktX0_numberOf_1
theorem dksX0_numberOf_0 : cX0_numberOf.data.toList.drop 0 = dktX0_numberOf_0 := by decide +kernel
theorem dksX0_numberOf_1 : cX0_numberOf.data.toList.drop 23 = dktX0_numberOf_1 := dk_seg dksX0_numberOf_0 23 rfl rfl
theorem dksX0_numberOf_2 : cX0_numberOf.data.toList.drop 47 = dktX0_numberOf_2 := dk_seg dksX0_numberOf_1 24 rfl rfl
theorem dX0_numberOf_0 : decode cX0_numberOf 0 = .ok (.aload_n 0, 1) := dk_42 (dk_at dksX0_numberOf_0 0 rfl rfl)
theorem dX0_numberOf_1 : decode cX0_numberOf 1 = .ok (.instanceof 298, 3) := dk_193 1 42 (dk_at dksX0_numberOf_0 1 rfl rfl)
theorem dX0_numberOf_4 : decode cX0_numberOf 4 = .ok (.ifCond .eq 11, 3) := dk_153 0 11 (dk_at dksX0_numberOf_0 4 rfl rfl)
theorem dX0_numberOf_7 : decode cX0_numberOf 7 = .ok (.aload_n 0, 1) := dk_42 (dk_at dksX0_numberOf_0 7 rfl rfl)
theorem dX0_numberOf_8 : decode cX0_numberOf 8 = .ok (.checkcast 298, 3) := dk_192 1 42 (dk_at dksX0_numberOf_0 8 rfl rfl)
theorem dX0_numberOf_11 : decode cX0_numberOf 11 = .ok (.iload_n 1, 1) := dk_27 (dk_at dksX0_numberOf_0 11 rfl rfl)
theorem dX0_numberOf_12 : decode cX0_numberOf 12 = .ok (.baload, 1) := dk_51 (dk_at dksX0_numberOf_0 12 rfl rfl)
theorem dX0_numberOf_13 : decode cX0_numberOf 13 = .ok (.i2l, 1) := dk_133 (dk_at dksX0_numberOf_0 13 rfl rfl)
theorem dX0_numberOf_14 : decode cX0_numberOf 14 = .ok (.lreturn, 1) := dk_173 (dk_at dksX0_numberOf_0 14 rfl rfl)
theorem dX0_numberOf_15 : decode cX0_numberOf 15 = .ok (.aload_n 0, 1) := dk_42 (dk_at dksX0_numberOf_0 15 rfl rfl)
theorem dX0_numberOf_16 : decode cX0_numberOf 16 = .ok (.instanceof 299, 3) := dk_193 1 43 (dk_at dksX0_numberOf_0 16 rfl rfl)
theorem dX0_numberOf_19 : decode cX0_numberOf 19 = .ok (.ifCond .eq 11, 3) := dk_153 0 11 (dk_at dksX0_numberOf_0 19 rfl rfl)
theorem dX0_numberOf_22 : decode cX0_numberOf 22 = .ok (.aload_n 0, 1) := dk_42 (dk_at dksX0_numberOf_0 22 rfl rfl)
theorem dX0_numberOf_23 : decode cX0_numberOf 23 = .ok (.checkcast 299, 3) := dk_192 1 43 (dk_at dksX0_numberOf_1 0 rfl rfl)
theorem dX0_numberOf_26 : decode cX0_numberOf 26 = .ok (.iload_n 1, 1) := dk_27 (dk_at dksX0_numberOf_1 3 rfl rfl)
theorem dX0_numberOf_27 : decode cX0_numberOf 27 = .ok (.saload, 1) := dk_53 (dk_at dksX0_numberOf_1 4 rfl rfl)
theorem dX0_numberOf_28 : decode cX0_numberOf 28 = .ok (.i2l, 1) := dk_133 (dk_at dksX0_numberOf_1 5 rfl rfl)
theorem dX0_numberOf_29 : decode cX0_numberOf 29 = .ok (.lreturn, 1) := dk_173 (dk_at dksX0_numberOf_1 6 rfl rfl)
theorem dX0_numberOf_30 : decode cX0_numberOf 30 = .ok (.aload_n 0, 1) := dk_42 (dk_at dksX0_numberOf_1 7 rfl rfl)
theorem dX0_numberOf_31 : decode cX0_numberOf 31 = .ok (.instanceof 301, 3) := dk_193 1 45 (dk_at dksX0_numberOf_1 8 rfl rfl)
theorem dX0_numberOf_34 : decode cX0_numberOf 34 = .ok (.ifCond .eq 12, 3) := dk_153 0 12 (dk_at dksX0_numberOf_1 11 rfl rfl)
theorem dX0_numberOf_37 : decode cX0_numberOf 37 = .ok (.aload_n 0, 1) := dk_42 (dk_at dksX0_numberOf_1 14 rfl rfl)
theorem dX0_numberOf_38 : decode cX0_numberOf 38 = .ok (.checkcast 301, 3) := dk_192 1 45 (dk_at dksX0_numberOf_1 15 rfl rfl)
theorem dX0_numberOf_41 : decode cX0_numberOf 41 = .ok (.iload_n 1, 1) := dk_27 (dk_at dksX0_numberOf_1 18 rfl rfl)
theorem dX0_numberOf_42 : decode cX0_numberOf 42 = .ok (.laload, 1) := dk_47 (dk_at dksX0_numberOf_1 19 rfl rfl)
theorem dX0_numberOf_43 : decode cX0_numberOf 43 = .ok (.goto 10, 3) := dk_167 0 10 (dk_at dksX0_numberOf_1 20 rfl rfl)
theorem dX0_numberOf_46 : decode cX0_numberOf 46 = .ok (.aload_n 0, 1) := dk_42 (dk_at dksX0_numberOf_1 23 rfl rfl)
theorem dX0_numberOf_47 : decode cX0_numberOf 47 = .ok (.checkcast 303, 3) := dk_192 1 47 (dk_at dksX0_numberOf_2 0 rfl rfl)
theorem dX0_numberOf_50 : decode cX0_numberOf 50 = .ok (.iload_n 1, 1) := dk_27 (dk_at dksX0_numberOf_2 3 rfl rfl)
theorem dX0_numberOf_51 : decode cX0_numberOf 51 = .ok (.iaload, 1) := dk_46 (dk_at dksX0_numberOf_2 4 rfl rfl)
theorem dX0_numberOf_52 : decode cX0_numberOf 52 = .ok (.i2l, 1) := dk_133 (dk_at dksX0_numberOf_2 5 rfl rfl)
theorem dX0_numberOf_53 : decode cX0_numberOf 53 = .ok (.lreturn, 1) := dk_173 (dk_at dksX0_numberOf_2 6 rfl rfl)
abbrev cX0_odds : ByteArray := prog_1_method_61_code
def yX0_odds : MethodName := ⟨RX0, "odds", "(III)J"⟩
def dkwX0_odds_3 : List UInt8 := [184, 1, 81, 105, 55, 4, 22, 4, 20, 1, 85, 27, 184, 1, 81, 29, 184, 1, 87, 173]
abbrev dktX0_odds_3 : List UInt8 := dkwX0_odds_3 ++ []
def dkwX0_odds_2 : List UInt8 := [133, 28, 184, 1, 81, 105, 16, 100, 42, 180, 0, 22, 180, 0, 222, 6, 46, 100, 133, 27, 28, 100]
abbrev dktX0_odds_2 : List UInt8 := dkwX0_odds_2 ++ dktX0_odds_3
def dkwX0_odds_1 : List UInt8 := [184, 0, 115, 154, 0, 7, 20, 1, 56, 173, 27, 28, 184, 1, 77, 42, 180, 0, 22, 180, 0, 222, 6, 46]
abbrev dktX0_odds_1 : List UInt8 := dkwX0_odds_1 ++ dktX0_odds_2
def dkwX0_odds_0 : List UInt8 := [27, 3, 16, 8, 184, 0, 115, 153, 0, 21, 28, 3, 27, 184, 0, 115, 153, 0, 12, 29, 3, 4]
abbrev dktX0_odds_0 : List UInt8 := dkwX0_odds_0 ++ dktX0_odds_1
theorem dksX0_odds_0 : cX0_odds.data.toList.drop 0 = dktX0_odds_0 := by decide +kernel
theorem dksX0_odds_1 : cX0_odds.data.toList.drop 22 = dktX0_odds_1 := dk_seg dksX0_odds_0 22 rfl rfl
theorem dksX0_odds_2 : cX0_odds.data.toList.drop 46 = dktX0_odds_2 := dk_seg dksX0_odds_1 24 rfl rfl
theorem dksX0_odds_3 : cX0_odds.data.toList.drop 68 = dktX0_odds_3 := dk_seg dksX0_odds_2 22 rfl rfl
theorem dX0_odds_0 : decode cX0_odds 0 = .ok (.iload_n 1, 1) := dk_27 (dk_at dksX0_odds_0 0 rfl rfl)
theorem dX0_odds_1 : decode cX0_odds 1 = .ok (.iconst 0, 1) := dk_3 (dk_at dksX0_odds_0 1 rfl rfl)
theorem dX0_odds_2 : decode cX0_odds 2 = .ok (.bipush 8, 2) := dk_16 8 (dk_at dksX0_odds_0 2 rfl rfl)
theorem dX0_odds_4 : decode cX0_odds 4 = .ok (.invokestatic 115, 3) := dk_184 0 115 (dk_at dksX0_odds_0 4 rfl rfl)
theorem dX0_odds_7 : decode cX0_odds 7 = .ok (.ifCond .eq 21, 3) := dk_153 0 21 (dk_at dksX0_odds_0 7 rfl rfl)
theorem dX0_odds_10 : decode cX0_odds 10 = .ok (.iload_n 2, 1) := dk_28 (dk_at dksX0_odds_0 10 rfl rfl)
theorem dX0_odds_11 : decode cX0_odds 11 = .ok (.iconst 0, 1) := dk_3 (dk_at dksX0_odds_0 11 rfl rfl)
theorem dX0_odds_12 : decode cX0_odds 12 = .ok (.iload_n 1, 1) := dk_27 (dk_at dksX0_odds_0 12 rfl rfl)
theorem dX0_odds_13 : decode cX0_odds 13 = .ok (.invokestatic 115, 3) := dk_184 0 115 (dk_at dksX0_odds_0 13 rfl rfl)
theorem dX0_odds_16 : decode cX0_odds 16 = .ok (.ifCond .eq 12, 3) := dk_153 0 12 (dk_at dksX0_odds_0 16 rfl rfl)
theorem dX0_odds_19 : decode cX0_odds 19 = .ok (.iload_n 3, 1) := dk_29 (dk_at dksX0_odds_0 19 rfl rfl)
theorem dX0_odds_20 : decode cX0_odds 20 = .ok (.iconst 0, 1) := dk_3 (dk_at dksX0_odds_0 20 rfl rfl)
theorem dX0_odds_21 : decode cX0_odds 21 = .ok (.iconst 1, 1) := dk_4 (dk_at dksX0_odds_0 21 rfl rfl)
theorem dX0_odds_22 : decode cX0_odds 22 = .ok (.invokestatic 115, 3) := dk_184 0 115 (dk_at dksX0_odds_1 0 rfl rfl)
theorem dX0_odds_25 : decode cX0_odds 25 = .ok (.ifCond .ne 7, 3) := dk_154 0 7 (dk_at dksX0_odds_1 3 rfl rfl)
theorem dX0_odds_28 : decode cX0_odds 28 = .ok (.ldc2_w 312, 3) := dk_20 1 56 (dk_at dksX0_odds_1 6 rfl rfl)
theorem dX0_odds_31 : decode cX0_odds 31 = .ok (.lreturn, 1) := dk_173 (dk_at dksX0_odds_1 9 rfl rfl)
theorem dX0_odds_32 : decode cX0_odds 32 = .ok (.iload_n 1, 1) := dk_27 (dk_at dksX0_odds_1 10 rfl rfl)
theorem dX0_odds_33 : decode cX0_odds 33 = .ok (.iload_n 2, 1) := dk_28 (dk_at dksX0_odds_1 11 rfl rfl)
theorem dX0_odds_34 : decode cX0_odds 34 = .ok (.invokestatic 333, 3) := dk_184 1 77 (dk_at dksX0_odds_1 12 rfl rfl)
theorem dX0_odds_37 : decode cX0_odds 37 = .ok (.aload_n 0, 1) := dk_42 (dk_at dksX0_odds_1 15 rfl rfl)
theorem dX0_odds_38 : decode cX0_odds 38 = .ok (.getfield 22, 3) := dk_180 0 22 (dk_at dksX0_odds_1 16 rfl rfl)
theorem dX0_odds_41 : decode cX0_odds 41 = .ok (.getfield 222, 3) := dk_180 0 222 (dk_at dksX0_odds_1 19 rfl rfl)
theorem dX0_odds_44 : decode cX0_odds 44 = .ok (.iconst 3, 1) := dk_6 (dk_at dksX0_odds_1 22 rfl rfl)
theorem dX0_odds_45 : decode cX0_odds 45 = .ok (.iaload, 1) := dk_46 (dk_at dksX0_odds_1 23 rfl rfl)
theorem dX0_odds_46 : decode cX0_odds 46 = .ok (.i2l, 1) := dk_133 (dk_at dksX0_odds_2 0 rfl rfl)
theorem dX0_odds_47 : decode cX0_odds 47 = .ok (.iload_n 2, 1) := dk_28 (dk_at dksX0_odds_2 1 rfl rfl)
theorem dX0_odds_48 : decode cX0_odds 48 = .ok (.invokestatic 337, 3) := dk_184 1 81 (dk_at dksX0_odds_2 2 rfl rfl)
theorem dX0_odds_51 : decode cX0_odds 51 = .ok (.lmul, 1) := dk_105 (dk_at dksX0_odds_2 5 rfl rfl)
theorem dX0_odds_52 : decode cX0_odds 52 = .ok (.bipush 100, 2) := dk_16 100 (dk_at dksX0_odds_2 6 rfl rfl)
theorem dX0_odds_54 : decode cX0_odds 54 = .ok (.aload_n 0, 1) := dk_42 (dk_at dksX0_odds_2 8 rfl rfl)
theorem dX0_odds_55 : decode cX0_odds 55 = .ok (.getfield 22, 3) := dk_180 0 22 (dk_at dksX0_odds_2 9 rfl rfl)
theorem dX0_odds_58 : decode cX0_odds 58 = .ok (.getfield 222, 3) := dk_180 0 222 (dk_at dksX0_odds_2 12 rfl rfl)
theorem dX0_odds_61 : decode cX0_odds 61 = .ok (.iconst 3, 1) := dk_6 (dk_at dksX0_odds_2 15 rfl rfl)
theorem dX0_odds_62 : decode cX0_odds 62 = .ok (.iaload, 1) := dk_46 (dk_at dksX0_odds_2 16 rfl rfl)
theorem dX0_odds_63 : decode cX0_odds 63 = .ok (.isub, 1) := dk_100 (dk_at dksX0_odds_2 17 rfl rfl)
theorem dX0_odds_64 : decode cX0_odds 64 = .ok (.i2l, 1) := dk_133 (dk_at dksX0_odds_2 18 rfl rfl)
theorem dX0_odds_65 : decode cX0_odds 65 = .ok (.iload_n 1, 1) := dk_27 (dk_at dksX0_odds_2 19 rfl rfl)
theorem dX0_odds_66 : decode cX0_odds 66 = .ok (.iload_n 2, 1) := dk_28 (dk_at dksX0_odds_2 20 rfl rfl)
theorem dX0_odds_67 : decode cX0_odds 67 = .ok (.isub, 1) := dk_100 (dk_at dksX0_odds_2 21 rfl rfl)
theorem dX0_odds_68 : decode cX0_odds 68 = .ok (.invokestatic 337, 3) := dk_184 1 81 (dk_at dksX0_odds_3 0 rfl rfl)
theorem dX0_odds_71 : decode cX0_odds 71 = .ok (.lmul, 1) := dk_105 (dk_at dksX0_odds_3 3 rfl rfl)
theorem dX0_odds_72 : decode cX0_odds 72 = .ok (.lstore 4, 2) := dk_55 4 (dk_at dksX0_odds_3 4 rfl rfl)
theorem dX0_odds_74 : decode cX0_odds 74 = .ok (.lload 4, 2) := dk_22 4 (dk_at dksX0_odds_3 6 rfl rfl)
theorem dX0_odds_76 : decode cX0_odds 76 = .ok (.ldc2_w 341, 3) := dk_20 1 85 (dk_at dksX0_odds_3 8 rfl rfl)
theorem dX0_odds_79 : decode cX0_odds 79 = .ok (.iload_n 1, 1) := dk_27 (dk_at dksX0_odds_3 11 rfl rfl)
theorem dX0_odds_80 : decode cX0_odds 80 = .ok (.invokestatic 337, 3) := dk_184 1 81 (dk_at dksX0_odds_3 12 rfl rfl)
theorem dX0_odds_83 : decode cX0_odds 83 = .ok (.iload_n 3, 1) := dk_29 (dk_at dksX0_odds_3 15 rfl rfl)
theorem dX0_odds_84 : decode cX0_odds 84 = .ok (.invokestatic 343, 3) := dk_184 1 87 (dk_at dksX0_odds_3 16 rfl rfl)
theorem dX0_odds_87 : decode cX0_odds 87 = .ok (.lreturn, 1) := dk_173 (dk_at dksX0_odds_3 19 rfl rfl)
abbrev cX0_chosen : ByteArray := prog_1_method_60_code
def yX0_chosen : MethodName := ⟨RX0, "chosen", "(II)J"⟩
def dkwX0_chosen_0 : List UInt8 := [27, 154, 0, 7, 10, 167, 0, 18, 26, 4, 100, 27, 4, 100, 184, 1, 77, 26, 133, 105, 27, 133, 109, 173]
abbrev dktX0_chosen_0 : List UInt8 := dkwX0_chosen_0 ++ []
theorem dksX0_chosen_0 : cX0_chosen.data.toList.drop 0 = dktX0_chosen_0 := by decide +kernel
theorem dX0_chosen_0 : decode cX0_chosen 0 = .ok (.iload_n 1, 1) := dk_27 (dk_at dksX0_chosen_0 0 rfl rfl)
theorem dX0_chosen_1 : decode cX0_chosen 1 = .ok (.ifCond .ne 7, 3) := dk_154 0 7 (dk_at dksX0_chosen_0 1 rfl rfl)
theorem dX0_chosen_4 : decode cX0_chosen 4 = .ok (.lconst 1, 1) := dk_10 (dk_at dksX0_chosen_0 4 rfl rfl)
theorem dX0_chosen_5 : decode cX0_chosen 5 = .ok (.goto 18, 3) := dk_167 0 18 (dk_at dksX0_chosen_0 5 rfl rfl)
theorem dX0_chosen_8 : decode cX0_chosen 8 = .ok (.iload_n 0, 1) := dk_26 (dk_at dksX0_chosen_0 8 rfl rfl)
theorem dX0_chosen_9 : decode cX0_chosen 9 = .ok (.iconst 1, 1) := dk_4 (dk_at dksX0_chosen_0 9 rfl rfl)
theorem dX0_chosen_10 : decode cX0_chosen 10 = .ok (.isub, 1) := dk_100 (dk_at dksX0_chosen_0 10 rfl rfl)
theorem dX0_chosen_11 : decode cX0_chosen 11 = .ok (.iload_n 1, 1) := dk_27 (dk_at dksX0_chosen_0 11 rfl rfl)
theorem dX0_chosen_12 : decode cX0_chosen 12 = .ok (.iconst 1, 1) := dk_4 (dk_at dksX0_chosen_0 12 rfl rfl)
theorem dX0_chosen_13 : decode cX0_chosen 13 = .ok (.isub, 1) := dk_100 (dk_at dksX0_chosen_0 13 rfl rfl)
theorem dX0_chosen_14 : decode cX0_chosen 14 = .ok (.invokestatic 333, 3) := dk_184 1 77 (dk_at dksX0_chosen_0 14 rfl rfl)
theorem dX0_chosen_17 : decode cX0_chosen 17 = .ok (.iload_n 0, 1) := dk_26 (dk_at dksX0_chosen_0 17 rfl rfl)
theorem dX0_chosen_18 : decode cX0_chosen 18 = .ok (.i2l, 1) := dk_133 (dk_at dksX0_chosen_0 18 rfl rfl)
theorem dX0_chosen_19 : decode cX0_chosen 19 = .ok (.lmul, 1) := dk_105 (dk_at dksX0_chosen_0 19 rfl rfl)
theorem dX0_chosen_20 : decode cX0_chosen 20 = .ok (.iload_n 1, 1) := dk_27 (dk_at dksX0_chosen_0 20 rfl rfl)
theorem dX0_chosen_21 : decode cX0_chosen 21 = .ok (.i2l, 1) := dk_133 (dk_at dksX0_chosen_0 21 rfl rfl)
theorem dX0_chosen_22 : decode cX0_chosen 22 = .ok (.ldiv, 1) := dk_109 (dk_at dksX0_chosen_0 22 rfl rfl)
theorem dX0_chosen_23 : decode cX0_chosen 23 = .ok (.lreturn, 1) := dk_173 (dk_at dksX0_chosen_0 23 rfl rfl)
abbrev cX0_raised : ByteArray := prog_1_method_59_code
def yX0_raised : MethodName := ⟨RX0, "raised", "(JI)J"⟩
def dkwX0_raised_0 : List UInt8 := [10, 66, 3, 54, 5, 21, 5, 28, 162, 0, 13, 33, 30, 105, 66, 132, 5, 1, 167, 255, 243, 33, 173]
abbrev dktX0_raised_0 : List UInt8 := dkwX0_raised_0 ++ []
theorem dksX0_raised_0 : cX0_raised.data.toList.drop 0 = dktX0_raised_0 := by decide +kernel
theorem dX0_raised_0 : decode cX0_raised 0 = .ok (.lconst 1, 1) := dk_10 (dk_at dksX0_raised_0 0 rfl rfl)
theorem dX0_raised_1 : decode cX0_raised 1 = .ok (.lstore_n 3, 1) := dk_66 (dk_at dksX0_raised_0 1 rfl rfl)
theorem dX0_raised_2 : decode cX0_raised 2 = .ok (.iconst 0, 1) := dk_3 (dk_at dksX0_raised_0 2 rfl rfl)
theorem dX0_raised_3 : decode cX0_raised 3 = .ok (.istore 5, 2) := dk_54 5 (dk_at dksX0_raised_0 3 rfl rfl)
theorem dX0_raised_5 : decode cX0_raised 5 = .ok (.iload 5, 2) := dk_21 5 (dk_at dksX0_raised_0 5 rfl rfl)
theorem dX0_raised_7 : decode cX0_raised 7 = .ok (.iload_n 2, 1) := dk_28 (dk_at dksX0_raised_0 7 rfl rfl)
theorem dX0_raised_8 : decode cX0_raised 8 = .ok (.if_icmp .ge 13, 3) := dk_162 0 13 (dk_at dksX0_raised_0 8 rfl rfl)
theorem dX0_raised_11 : decode cX0_raised 11 = .ok (.lload_n 3, 1) := dk_33 (dk_at dksX0_raised_0 11 rfl rfl)
theorem dX0_raised_12 : decode cX0_raised 12 = .ok (.lload_n 0, 1) := dk_30 (dk_at dksX0_raised_0 12 rfl rfl)
theorem dX0_raised_13 : decode cX0_raised 13 = .ok (.lmul, 1) := dk_105 (dk_at dksX0_raised_0 13 rfl rfl)
theorem dX0_raised_14 : decode cX0_raised 14 = .ok (.lstore_n 3, 1) := dk_66 (dk_at dksX0_raised_0 14 rfl rfl)
theorem dX0_raised_15 : decode cX0_raised 15 = .ok (.iinc 5 1, 3) := dk_132 5 1 (dk_at dksX0_raised_0 15 rfl rfl)
theorem dX0_raised_18 : decode cX0_raised 18 = .ok (.goto (-13), 3) := dk_167 255 243 (dk_at dksX0_raised_0 18 rfl rfl)
theorem dX0_raised_21 : decode cX0_raised 21 = .ok (.lload_n 3, 1) := dk_33 (dk_at dksX0_raised_0 21 rfl rfl)
theorem dX0_raised_22 : decode cX0_raised 22 = .ok (.lreturn, 1) := dk_173 (dk_at dksX0_raised_0 22 rfl rfl)
abbrev cX0_partOf : ByteArray := prog_1_method_4_code
def yX0_partOf : MethodName := ⟨RX0, "partOf", "(JJI)J"⟩
def dkwX0_partOf_0 : List UInt8 := [30, 32, 184, 0, 7, 55, 5, 21, 4, 154, 0, 10, 30, 22, 5, 109, 167, 0, 7, 32, 22, 5, 109, 173]
abbrev dktX0_partOf_0 : List UInt8 := dkwX0_partOf_0 ++ []
theorem dksX0_partOf_0 : cX0_partOf.data.toList.drop 0 = dktX0_partOf_0 := by decide +kernel
theorem dX0_partOf_0 : decode cX0_partOf 0 = .ok (.lload_n 0, 1) := dk_30 (dk_at dksX0_partOf_0 0 rfl rfl)
theorem dX0_partOf_1 : decode cX0_partOf 1 = .ok (.lload_n 2, 1) := dk_32 (dk_at dksX0_partOf_0 1 rfl rfl)
theorem dX0_partOf_2 : decode cX0_partOf 2 = .ok (.invokestatic 7, 3) := dk_184 0 7 (dk_at dksX0_partOf_0 2 rfl rfl)
theorem dX0_partOf_5 : decode cX0_partOf 5 = .ok (.lstore 5, 2) := dk_55 5 (dk_at dksX0_partOf_0 5 rfl rfl)
theorem dX0_partOf_7 : decode cX0_partOf 7 = .ok (.iload 4, 2) := dk_21 4 (dk_at dksX0_partOf_0 7 rfl rfl)
theorem dX0_partOf_9 : decode cX0_partOf 9 = .ok (.ifCond .ne 10, 3) := dk_154 0 10 (dk_at dksX0_partOf_0 9 rfl rfl)
theorem dX0_partOf_12 : decode cX0_partOf 12 = .ok (.lload_n 0, 1) := dk_30 (dk_at dksX0_partOf_0 12 rfl rfl)
theorem dX0_partOf_13 : decode cX0_partOf 13 = .ok (.lload 5, 2) := dk_22 5 (dk_at dksX0_partOf_0 13 rfl rfl)
theorem dX0_partOf_15 : decode cX0_partOf 15 = .ok (.ldiv, 1) := dk_109 (dk_at dksX0_partOf_0 15 rfl rfl)
theorem dX0_partOf_16 : decode cX0_partOf 16 = .ok (.goto 7, 3) := dk_167 0 7 (dk_at dksX0_partOf_0 16 rfl rfl)
theorem dX0_partOf_19 : decode cX0_partOf 19 = .ok (.lload_n 2, 1) := dk_32 (dk_at dksX0_partOf_0 19 rfl rfl)
theorem dX0_partOf_20 : decode cX0_partOf 20 = .ok (.lload 5, 2) := dk_22 5 (dk_at dksX0_partOf_0 20 rfl rfl)
theorem dX0_partOf_22 : decode cX0_partOf 22 = .ok (.ldiv, 1) := dk_109 (dk_at dksX0_partOf_0 22 rfl rfl)
theorem dX0_partOf_23 : decode cX0_partOf 23 = .ok (.lreturn, 1) := dk_173 (dk_at dksX0_partOf_0 23 rfl rfl)
abbrev cX0_common : ByteArray := prog_1_method_3_code
def yX0_common : MethodName := ⟨RX0, "common", "(JJ)J"⟩
def dkwX0_common_1 : List UInt8 := [55, 8, 22, 6, 55, 4, 22, 8, 55, 6, 167, 255, 234, 22, 4, 173]
abbrev dktX0_common_1 : List UInt8 := dkwX0_common_1 ++ []
def dkwX0_common_0 : List UInt8 := [30, 184, 0, 1, 55, 4, 32, 184, 0, 1, 55, 6, 22, 6, 9, 148, 153, 0, 21, 22, 4, 22, 6, 113]
abbrev dktX0_common_0 : List UInt8 := dkwX0_common_0 ++ dktX0_common_1
theorem dksX0_common_0 : cX0_common.data.toList.drop 0 = dktX0_common_0 := by decide +kernel
theorem dksX0_common_1 : cX0_common.data.toList.drop 24 = dktX0_common_1 := dk_seg dksX0_common_0 24 rfl rfl
theorem dX0_common_0 : decode cX0_common 0 = .ok (.lload_n 0, 1) := dk_30 (dk_at dksX0_common_0 0 rfl rfl)
theorem dX0_common_1 : decode cX0_common 1 = .ok (.invokestatic 1, 3) := dk_184 0 1 (dk_at dksX0_common_0 1 rfl rfl)
theorem dX0_common_4 : decode cX0_common 4 = .ok (.lstore 4, 2) := dk_55 4 (dk_at dksX0_common_0 4 rfl rfl)
theorem dX0_common_6 : decode cX0_common 6 = .ok (.lload_n 2, 1) := dk_32 (dk_at dksX0_common_0 6 rfl rfl)
theorem dX0_common_7 : decode cX0_common 7 = .ok (.invokestatic 1, 3) := dk_184 0 1 (dk_at dksX0_common_0 7 rfl rfl)
theorem dX0_common_10 : decode cX0_common 10 = .ok (.lstore 6, 2) := dk_55 6 (dk_at dksX0_common_0 10 rfl rfl)
theorem dX0_common_12 : decode cX0_common 12 = .ok (.lload 6, 2) := dk_22 6 (dk_at dksX0_common_0 12 rfl rfl)
theorem dX0_common_14 : decode cX0_common 14 = .ok (.lconst 0, 1) := dk_9 (dk_at dksX0_common_0 14 rfl rfl)
theorem dX0_common_15 : decode cX0_common 15 = .ok (.lcmp, 1) := dk_148 (dk_at dksX0_common_0 15 rfl rfl)
theorem dX0_common_16 : decode cX0_common 16 = .ok (.ifCond .eq 21, 3) := dk_153 0 21 (dk_at dksX0_common_0 16 rfl rfl)
theorem dX0_common_19 : decode cX0_common 19 = .ok (.lload 4, 2) := dk_22 4 (dk_at dksX0_common_0 19 rfl rfl)
theorem dX0_common_21 : decode cX0_common 21 = .ok (.lload 6, 2) := dk_22 6 (dk_at dksX0_common_0 21 rfl rfl)
theorem dX0_common_23 : decode cX0_common 23 = .ok (.lrem, 1) := dk_113 (dk_at dksX0_common_0 23 rfl rfl)
theorem dX0_common_24 : decode cX0_common 24 = .ok (.lstore 8, 2) := dk_55 8 (dk_at dksX0_common_1 0 rfl rfl)
theorem dX0_common_26 : decode cX0_common 26 = .ok (.lload 6, 2) := dk_22 6 (dk_at dksX0_common_1 2 rfl rfl)
theorem dX0_common_28 : decode cX0_common 28 = .ok (.lstore 4, 2) := dk_55 4 (dk_at dksX0_common_1 4 rfl rfl)
theorem dX0_common_30 : decode cX0_common 30 = .ok (.lload 8, 2) := dk_22 8 (dk_at dksX0_common_1 6 rfl rfl)
theorem dX0_common_32 : decode cX0_common 32 = .ok (.lstore 6, 2) := dk_55 6 (dk_at dksX0_common_1 8 rfl rfl)
theorem dX0_common_34 : decode cX0_common 34 = .ok (.goto (-22), 3) := dk_167 255 234 (dk_at dksX0_common_1 10 rfl rfl)
theorem dX0_common_37 : decode cX0_common 37 = .ok (.lload 4, 2) := dk_22 4 (dk_at dksX0_common_1 13 rfl rfl)
theorem dX0_common_39 : decode cX0_common 39 = .ok (.lreturn, 1) := dk_173 (dk_at dksX0_common_1 15 rfl rfl)
abbrev cX0_hope : ByteArray := prog_1_method_62_code
def yX0_hope : MethodName := ⟨RX0, "hope", "(II)J"⟩
def dkwX0_hope_1 : List UInt8 := [133, 42, 180, 0, 22, 180, 0, 222, 6, 46, 133, 105, 20, 1, 85, 28, 184, 1, 87, 173]
abbrev dktX0_hope_1 : List UInt8 := dkwX0_hope_1 ++ []
def dkwX0_hope_0 : List UInt8 := [27, 3, 16, 99, 184, 0, 115, 153, 0, 12, 28, 3, 4, 184, 0, 115, 154, 0, 7, 20, 1, 56, 173, 27]
abbrev dktX0_hope_0 : List UInt8 := dkwX0_hope_0 ++ dktX0_hope_1
theorem dksX0_hope_0 : cX0_hope.data.toList.drop 0 = dktX0_hope_0 := by decide +kernel
theorem dksX0_hope_1 : cX0_hope.data.toList.drop 24 = dktX0_hope_1 := dk_seg dksX0_hope_0 24 rfl rfl
theorem dX0_hope_0 : decode cX0_hope 0 = .ok (.iload_n 1, 1) := dk_27 (dk_at dksX0_hope_0 0 rfl rfl)
theorem dX0_hope_1 : decode cX0_hope 1 = .ok (.iconst 0, 1) := dk_3 (dk_at dksX0_hope_0 1 rfl rfl)
theorem dX0_hope_2 : decode cX0_hope 2 = .ok (.bipush 99, 2) := dk_16 99 (dk_at dksX0_hope_0 2 rfl rfl)
theorem dX0_hope_4 : decode cX0_hope 4 = .ok (.invokestatic 115, 3) := dk_184 0 115 (dk_at dksX0_hope_0 4 rfl rfl)
theorem dX0_hope_7 : decode cX0_hope 7 = .ok (.ifCond .eq 12, 3) := dk_153 0 12 (dk_at dksX0_hope_0 7 rfl rfl)
theorem dX0_hope_10 : decode cX0_hope 10 = .ok (.iload_n 2, 1) := dk_28 (dk_at dksX0_hope_0 10 rfl rfl)
theorem dX0_hope_11 : decode cX0_hope 11 = .ok (.iconst 0, 1) := dk_3 (dk_at dksX0_hope_0 11 rfl rfl)
theorem dX0_hope_12 : decode cX0_hope 12 = .ok (.iconst 1, 1) := dk_4 (dk_at dksX0_hope_0 12 rfl rfl)
theorem dX0_hope_13 : decode cX0_hope 13 = .ok (.invokestatic 115, 3) := dk_184 0 115 (dk_at dksX0_hope_0 13 rfl rfl)
theorem dX0_hope_16 : decode cX0_hope 16 = .ok (.ifCond .ne 7, 3) := dk_154 0 7 (dk_at dksX0_hope_0 16 rfl rfl)
theorem dX0_hope_19 : decode cX0_hope 19 = .ok (.ldc2_w 312, 3) := dk_20 1 56 (dk_at dksX0_hope_0 19 rfl rfl)
theorem dX0_hope_22 : decode cX0_hope 22 = .ok (.lreturn, 1) := dk_173 (dk_at dksX0_hope_0 22 rfl rfl)
theorem dX0_hope_23 : decode cX0_hope 23 = .ok (.iload_n 1, 1) := dk_27 (dk_at dksX0_hope_0 23 rfl rfl)
theorem dX0_hope_24 : decode cX0_hope 24 = .ok (.i2l, 1) := dk_133 (dk_at dksX0_hope_1 0 rfl rfl)
theorem dX0_hope_25 : decode cX0_hope 25 = .ok (.aload_n 0, 1) := dk_42 (dk_at dksX0_hope_1 1 rfl rfl)
theorem dX0_hope_26 : decode cX0_hope 26 = .ok (.getfield 22, 3) := dk_180 0 22 (dk_at dksX0_hope_1 2 rfl rfl)
theorem dX0_hope_29 : decode cX0_hope 29 = .ok (.getfield 222, 3) := dk_180 0 222 (dk_at dksX0_hope_1 5 rfl rfl)
theorem dX0_hope_32 : decode cX0_hope 32 = .ok (.iconst 3, 1) := dk_6 (dk_at dksX0_hope_1 8 rfl rfl)
theorem dX0_hope_33 : decode cX0_hope 33 = .ok (.iaload, 1) := dk_46 (dk_at dksX0_hope_1 9 rfl rfl)
theorem dX0_hope_34 : decode cX0_hope 34 = .ok (.i2l, 1) := dk_133 (dk_at dksX0_hope_1 10 rfl rfl)
theorem dX0_hope_35 : decode cX0_hope 35 = .ok (.lmul, 1) := dk_105 (dk_at dksX0_hope_1 11 rfl rfl)
theorem dX0_hope_36 : decode cX0_hope 36 = .ok (.ldc2_w 341, 3) := dk_20 1 85 (dk_at dksX0_hope_1 12 rfl rfl)
theorem dX0_hope_39 : decode cX0_hope 39 = .ok (.iload_n 2, 1) := dk_28 (dk_at dksX0_hope_1 15 rfl rfl)
theorem dX0_hope_40 : decode cX0_hope 40 = .ok (.invokestatic 343, 3) := dk_184 1 87 (dk_at dksX0_hope_1 16 rfl rfl)
theorem dX0_hope_43 : decode cX0_hope 43 = .ok (.lreturn, 1) := dk_173 (dk_at dksX0_hope_1 19 rfl rfl)
abbrev cX0_row : ByteArray := prog_1_method_65_code
def yX0_row : MethodName := ⟨RX0, "row", "(II)I"⟩
def dkwX0_row_1 : List UInt8 := [16, 247, 172]
abbrev dktX0_row_1 : List UInt8 := dkwX0_row_1 ++ []
def dkwX0_row_0 : List UInt8 := [42, 27, 28, 182, 1, 92, 153, 0, 17, 42, 180, 0, 72, 27, 50, 180, 1, 96, 28, 46, 167, 0, 5]
abbrev dktX0_row_0 : List UInt8 := dkwX0_row_0 ++ dktX0_row_1
theorem dksX0_row_0 : cX0_row.data.toList.drop 0 = dktX0_row_0 := by decide +kernel
theorem dksX0_row_1 : cX0_row.data.toList.drop 23 = dktX0_row_1 := dk_seg dksX0_row_0 23 rfl rfl
theorem dX0_row_0 : decode cX0_row 0 = .ok (.aload_n 0, 1) := dk_42 (dk_at dksX0_row_0 0 rfl rfl)
theorem dX0_row_1 : decode cX0_row 1 = .ok (.iload_n 1, 1) := dk_27 (dk_at dksX0_row_0 1 rfl rfl)
theorem dX0_row_2 : decode cX0_row 2 = .ok (.iload_n 2, 1) := dk_28 (dk_at dksX0_row_0 2 rfl rfl)
theorem dX0_row_3 : decode cX0_row 3 = .ok (.invokevirtual 348, 3) := dk_182 1 92 (dk_at dksX0_row_0 3 rfl rfl)
theorem dX0_row_6 : decode cX0_row 6 = .ok (.ifCond .eq 17, 3) := dk_153 0 17 (dk_at dksX0_row_0 6 rfl rfl)
theorem dX0_row_9 : decode cX0_row 9 = .ok (.aload_n 0, 1) := dk_42 (dk_at dksX0_row_0 9 rfl rfl)
theorem dX0_row_10 : decode cX0_row 10 = .ok (.getfield 72, 3) := dk_180 0 72 (dk_at dksX0_row_0 10 rfl rfl)
theorem dX0_row_13 : decode cX0_row 13 = .ok (.iload_n 1, 1) := dk_27 (dk_at dksX0_row_0 13 rfl rfl)
theorem dX0_row_14 : decode cX0_row 14 = .ok (.aaload, 1) := dk_50 (dk_at dksX0_row_0 14 rfl rfl)
theorem dX0_row_15 : decode cX0_row 15 = .ok (.getfield 352, 3) := dk_180 1 96 (dk_at dksX0_row_0 15 rfl rfl)
theorem dX0_row_18 : decode cX0_row 18 = .ok (.iload_n 2, 1) := dk_28 (dk_at dksX0_row_0 18 rfl rfl)
theorem dX0_row_19 : decode cX0_row 19 = .ok (.iaload, 1) := dk_46 (dk_at dksX0_row_0 19 rfl rfl)
theorem dX0_row_20 : decode cX0_row 20 = .ok (.goto 5, 3) := dk_167 0 5 (dk_at dksX0_row_0 20 rfl rfl)
theorem dX0_row_23 : decode cX0_row 23 = .ok (.bipush (-9), 2) := dk_16 247 (dk_at dksX0_row_1 0 rfl rfl)
theorem dX0_row_25 : decode cX0_row 25 = .ok (.ireturn, 1) := dk_172 (dk_at dksX0_row_1 2 rfl rfl)
abbrev cX0_isRow : ByteArray := prog_1_method_64_code
def yX0_isRow : MethodName := ⟨RX0, "isRow", "(II)Z"⟩
def dkwX0_isRow_1 : List UInt8 := [167, 0, 4, 3, 172]
abbrev dktX0_isRow_1 : List UInt8 := dkwX0_isRow_1 ++ []
def dkwX0_isRow_0 : List UInt8 := [27, 3, 42, 180, 0, 215, 4, 100, 184, 0, 115, 153, 0, 16, 28, 3, 5, 184, 0, 115, 153, 0, 7, 4]
abbrev dktX0_isRow_0 : List UInt8 := dkwX0_isRow_0 ++ dktX0_isRow_1
theorem dksX0_isRow_0 : cX0_isRow.data.toList.drop 0 = dktX0_isRow_0 := by decide +kernel
theorem dksX0_isRow_1 : cX0_isRow.data.toList.drop 24 = dktX0_isRow_1 := dk_seg dksX0_isRow_0 24 rfl rfl
theorem dX0_isRow_0 : decode cX0_isRow 0 = .ok (.iload_n 1, 1) := dk_27 (dk_at dksX0_isRow_0 0 rfl rfl)
theorem dX0_isRow_1 : decode cX0_isRow 1 = .ok (.iconst 0, 1) := dk_3 (dk_at dksX0_isRow_0 1 rfl rfl)
theorem dX0_isRow_2 : decode cX0_isRow 2 = .ok (.aload_n 0, 1) := dk_42 (dk_at dksX0_isRow_0 2 rfl rfl)
theorem dX0_isRow_3 : decode cX0_isRow 3 = .ok (.getfield 215, 3) := dk_180 0 215 (dk_at dksX0_isRow_0 3 rfl rfl)
theorem dX0_isRow_6 : decode cX0_isRow 6 = .ok (.iconst 1, 1) := dk_4 (dk_at dksX0_isRow_0 6 rfl rfl)
theorem dX0_isRow_7 : decode cX0_isRow 7 = .ok (.isub, 1) := dk_100 (dk_at dksX0_isRow_0 7 rfl rfl)
theorem dX0_isRow_8 : decode cX0_isRow 8 = .ok (.invokestatic 115, 3) := dk_184 0 115 (dk_at dksX0_isRow_0 8 rfl rfl)
theorem dX0_isRow_11 : decode cX0_isRow 11 = .ok (.ifCond .eq 16, 3) := dk_153 0 16 (dk_at dksX0_isRow_0 11 rfl rfl)
theorem dX0_isRow_14 : decode cX0_isRow 14 = .ok (.iload_n 2, 1) := dk_28 (dk_at dksX0_isRow_0 14 rfl rfl)
theorem dX0_isRow_15 : decode cX0_isRow 15 = .ok (.iconst 0, 1) := dk_3 (dk_at dksX0_isRow_0 15 rfl rfl)
theorem dX0_isRow_16 : decode cX0_isRow 16 = .ok (.iconst 2, 1) := dk_5 (dk_at dksX0_isRow_0 16 rfl rfl)
theorem dX0_isRow_17 : decode cX0_isRow 17 = .ok (.invokestatic 115, 3) := dk_184 0 115 (dk_at dksX0_isRow_0 17 rfl rfl)
theorem dX0_isRow_20 : decode cX0_isRow 20 = .ok (.ifCond .eq 7, 3) := dk_153 0 7 (dk_at dksX0_isRow_0 20 rfl rfl)
theorem dX0_isRow_23 : decode cX0_isRow 23 = .ok (.iconst 1, 1) := dk_4 (dk_at dksX0_isRow_0 23 rfl rfl)
theorem dX0_isRow_24 : decode cX0_isRow 24 = .ok (.goto 4, 3) := dk_167 0 4 (dk_at dksX0_isRow_1 0 rfl rfl)
theorem dX0_isRow_27 : decode cX0_isRow 27 = .ok (.iconst 0, 1) := dk_3 (dk_at dksX0_isRow_1 3 rfl rfl)
theorem dX0_isRow_28 : decode cX0_isRow 28 = .ok (.ireturn, 1) := dk_172 (dk_at dksX0_isRow_1 4 rfl rfl)
abbrev cX0_alterRow : ByteArray := prog_1_method_66_code
def yX0_alterRow : MethodName := ⟨RX0, "alterRow", "(III)I"⟩
def dkwX0_alterRow_1 : List UInt8 := [54, 4, 42, 180, 0, 72, 27, 50, 180, 1, 96, 28, 29, 79, 21, 4, 172]
abbrev dktX0_alterRow_1 : List UInt8 := dkwX0_alterRow_1 ++ []
def dkwX0_alterRow_0 : List UInt8 := [42, 27, 28, 182, 1, 92, 154, 0, 6, 16, 247, 172, 42, 180, 0, 72, 27, 50, 180, 1, 96, 28, 46]
abbrev dktX0_alterRow_0 : List UInt8 := dkwX0_alterRow_0 ++ dktX0_alterRow_1
theorem dksX0_alterRow_0 : cX0_alterRow.data.toList.drop 0 = dktX0_alterRow_0 := by decide +kernel
theorem dksX0_alterRow_1 : cX0_alterRow.data.toList.drop 23 = dktX0_alterRow_1 := dk_seg dksX0_alterRow_0 23 rfl rfl
theorem dX0_alterRow_0 : decode cX0_alterRow 0 = .ok (.aload_n 0, 1) := dk_42 (dk_at dksX0_alterRow_0 0 rfl rfl)
theorem dX0_alterRow_1 : decode cX0_alterRow 1 = .ok (.iload_n 1, 1) := dk_27 (dk_at dksX0_alterRow_0 1 rfl rfl)
theorem dX0_alterRow_2 : decode cX0_alterRow 2 = .ok (.iload_n 2, 1) := dk_28 (dk_at dksX0_alterRow_0 2 rfl rfl)
theorem dX0_alterRow_3 : decode cX0_alterRow 3 = .ok (.invokevirtual 348, 3) := dk_182 1 92 (dk_at dksX0_alterRow_0 3 rfl rfl)
theorem dX0_alterRow_6 : decode cX0_alterRow 6 = .ok (.ifCond .ne 6, 3) := dk_154 0 6 (dk_at dksX0_alterRow_0 6 rfl rfl)
theorem dX0_alterRow_9 : decode cX0_alterRow 9 = .ok (.bipush (-9), 2) := dk_16 247 (dk_at dksX0_alterRow_0 9 rfl rfl)
theorem dX0_alterRow_11 : decode cX0_alterRow 11 = .ok (.ireturn, 1) := dk_172 (dk_at dksX0_alterRow_0 11 rfl rfl)
theorem dX0_alterRow_12 : decode cX0_alterRow 12 = .ok (.aload_n 0, 1) := dk_42 (dk_at dksX0_alterRow_0 12 rfl rfl)
theorem dX0_alterRow_13 : decode cX0_alterRow 13 = .ok (.getfield 72, 3) := dk_180 0 72 (dk_at dksX0_alterRow_0 13 rfl rfl)
theorem dX0_alterRow_16 : decode cX0_alterRow 16 = .ok (.iload_n 1, 1) := dk_27 (dk_at dksX0_alterRow_0 16 rfl rfl)
theorem dX0_alterRow_17 : decode cX0_alterRow 17 = .ok (.aaload, 1) := dk_50 (dk_at dksX0_alterRow_0 17 rfl rfl)
theorem dX0_alterRow_18 : decode cX0_alterRow 18 = .ok (.getfield 352, 3) := dk_180 1 96 (dk_at dksX0_alterRow_0 18 rfl rfl)
theorem dX0_alterRow_21 : decode cX0_alterRow 21 = .ok (.iload_n 2, 1) := dk_28 (dk_at dksX0_alterRow_0 21 rfl rfl)
theorem dX0_alterRow_22 : decode cX0_alterRow 22 = .ok (.iaload, 1) := dk_46 (dk_at dksX0_alterRow_0 22 rfl rfl)
theorem dX0_alterRow_23 : decode cX0_alterRow 23 = .ok (.istore 4, 2) := dk_54 4 (dk_at dksX0_alterRow_1 0 rfl rfl)
theorem dX0_alterRow_25 : decode cX0_alterRow 25 = .ok (.aload_n 0, 1) := dk_42 (dk_at dksX0_alterRow_1 2 rfl rfl)
theorem dX0_alterRow_26 : decode cX0_alterRow 26 = .ok (.getfield 72, 3) := dk_180 0 72 (dk_at dksX0_alterRow_1 3 rfl rfl)
theorem dX0_alterRow_29 : decode cX0_alterRow 29 = .ok (.iload_n 1, 1) := dk_27 (dk_at dksX0_alterRow_1 6 rfl rfl)
theorem dX0_alterRow_30 : decode cX0_alterRow 30 = .ok (.aaload, 1) := dk_50 (dk_at dksX0_alterRow_1 7 rfl rfl)
theorem dX0_alterRow_31 : decode cX0_alterRow 31 = .ok (.getfield 352, 3) := dk_180 1 96 (dk_at dksX0_alterRow_1 8 rfl rfl)
theorem dX0_alterRow_34 : decode cX0_alterRow 34 = .ok (.iload_n 2, 1) := dk_28 (dk_at dksX0_alterRow_1 11 rfl rfl)
theorem dX0_alterRow_35 : decode cX0_alterRow 35 = .ok (.iload_n 3, 1) := dk_29 (dk_at dksX0_alterRow_1 12 rfl rfl)
theorem dX0_alterRow_36 : decode cX0_alterRow 36 = .ok (.iastore, 1) := dk_79 (dk_at dksX0_alterRow_1 13 rfl rfl)
theorem dX0_alterRow_37 : decode cX0_alterRow 37 = .ok (.iload 4, 2) := dk_21 4 (dk_at dksX0_alterRow_1 14 rfl rfl)
theorem dX0_alterRow_39 : decode cX0_alterRow 39 = .ok (.ireturn, 1) := dk_172 (dk_at dksX0_alterRow_1 16 rfl rfl)
abbrev cX0_prove : ByteArray := prog_1_method_68_code
def yX0_prove : MethodName := ⟨RX0, "prove", "(II)I"⟩
def dkwX0_prove_3 : List UInt8 := [96, 181, 0, 215, 167, 255, 218, 42, 180, 0, 215, 172]
abbrev dktX0_prove_3 : List UInt8 := dkwX0_prove_3 ++ []
def dkwX0_prove_2 : List UInt8 := [180, 0, 32, 27, 42, 42, 180, 0, 215, 182, 1, 99, 180, 1, 96, 182, 1, 103, 42, 89, 180, 0, 215, 4]
abbrev dktX0_prove_2 : List UInt8 := dkwX0_prove_2 ++ dktX0_prove_3
def dkwX0_prove_1 : List UInt8 := [42, 180, 0, 22, 182, 0, 203, 42, 3, 181, 0, 215, 42, 180, 0, 215, 28, 162, 0, 36, 42, 42]
abbrev dktX0_prove_1 : List UInt8 := dkwX0_prove_1 ++ dktX0_prove_2
def dkwX0_prove_0 : List UInt8 := [42, 27, 182, 0, 244, 153, 0, 13, 28, 4, 16, 10, 184, 0, 115, 154, 0, 5, 2, 172, 42, 180, 0, 32]
abbrev dktX0_prove_0 : List UInt8 := dkwX0_prove_0 ++ dktX0_prove_1
theorem dksX0_prove_0 : cX0_prove.data.toList.drop 0 = dktX0_prove_0 := by decide +kernel
theorem dksX0_prove_1 : cX0_prove.data.toList.drop 24 = dktX0_prove_1 := dk_seg dksX0_prove_0 24 rfl rfl
theorem dksX0_prove_2 : cX0_prove.data.toList.drop 46 = dktX0_prove_2 := dk_seg dksX0_prove_1 22 rfl rfl
theorem dksX0_prove_3 : cX0_prove.data.toList.drop 70 = dktX0_prove_3 := dk_seg dksX0_prove_2 24 rfl rfl
theorem dX0_prove_0 : decode cX0_prove 0 = .ok (.aload_n 0, 1) := dk_42 (dk_at dksX0_prove_0 0 rfl rfl)
theorem dX0_prove_1 : decode cX0_prove 1 = .ok (.iload_n 1, 1) := dk_27 (dk_at dksX0_prove_0 1 rfl rfl)
theorem dX0_prove_2 : decode cX0_prove 2 = .ok (.invokevirtual 244, 3) := dk_182 0 244 (dk_at dksX0_prove_0 2 rfl rfl)
theorem dX0_prove_5 : decode cX0_prove 5 = .ok (.ifCond .eq 13, 3) := dk_153 0 13 (dk_at dksX0_prove_0 5 rfl rfl)
theorem dX0_prove_8 : decode cX0_prove 8 = .ok (.iload_n 2, 1) := dk_28 (dk_at dksX0_prove_0 8 rfl rfl)
theorem dX0_prove_9 : decode cX0_prove 9 = .ok (.iconst 1, 1) := dk_4 (dk_at dksX0_prove_0 9 rfl rfl)
theorem dX0_prove_10 : decode cX0_prove 10 = .ok (.bipush 10, 2) := dk_16 10 (dk_at dksX0_prove_0 10 rfl rfl)
theorem dX0_prove_12 : decode cX0_prove 12 = .ok (.invokestatic 115, 3) := dk_184 0 115 (dk_at dksX0_prove_0 12 rfl rfl)
theorem dX0_prove_15 : decode cX0_prove 15 = .ok (.ifCond .ne 5, 3) := dk_154 0 5 (dk_at dksX0_prove_0 15 rfl rfl)
theorem dX0_prove_18 : decode cX0_prove 18 = .ok (.iconst (-1), 1) := dk_2 (dk_at dksX0_prove_0 18 rfl rfl)
theorem dX0_prove_19 : decode cX0_prove 19 = .ok (.ireturn, 1) := dk_172 (dk_at dksX0_prove_0 19 rfl rfl)
theorem dX0_prove_20 : decode cX0_prove 20 = .ok (.aload_n 0, 1) := dk_42 (dk_at dksX0_prove_0 20 rfl rfl)
theorem dX0_prove_21 : decode cX0_prove 21 = .ok (.getfield 32, 3) := dk_180 0 32 (dk_at dksX0_prove_0 21 rfl rfl)
theorem dX0_prove_24 : decode cX0_prove 24 = .ok (.aload_n 0, 1) := dk_42 (dk_at dksX0_prove_1 0 rfl rfl)
theorem dX0_prove_25 : decode cX0_prove 25 = .ok (.getfield 22, 3) := dk_180 0 22 (dk_at dksX0_prove_1 1 rfl rfl)
theorem dX0_prove_28 : decode cX0_prove 28 = .ok (.invokevirtual 203, 3) := dk_182 0 203 (dk_at dksX0_prove_1 4 rfl rfl)
theorem dX0_prove_31 : decode cX0_prove 31 = .ok (.aload_n 0, 1) := dk_42 (dk_at dksX0_prove_1 7 rfl rfl)
theorem dX0_prove_32 : decode cX0_prove 32 = .ok (.iconst 0, 1) := dk_3 (dk_at dksX0_prove_1 8 rfl rfl)
theorem dX0_prove_33 : decode cX0_prove 33 = .ok (.putfield 215, 3) := dk_181 0 215 (dk_at dksX0_prove_1 9 rfl rfl)
theorem dX0_prove_36 : decode cX0_prove 36 = .ok (.aload_n 0, 1) := dk_42 (dk_at dksX0_prove_1 12 rfl rfl)
theorem dX0_prove_37 : decode cX0_prove 37 = .ok (.getfield 215, 3) := dk_180 0 215 (dk_at dksX0_prove_1 13 rfl rfl)
theorem dX0_prove_40 : decode cX0_prove 40 = .ok (.iload_n 2, 1) := dk_28 (dk_at dksX0_prove_1 16 rfl rfl)
theorem dX0_prove_41 : decode cX0_prove 41 = .ok (.if_icmp .ge 36, 3) := dk_162 0 36 (dk_at dksX0_prove_1 17 rfl rfl)
theorem dX0_prove_44 : decode cX0_prove 44 = .ok (.aload_n 0, 1) := dk_42 (dk_at dksX0_prove_1 20 rfl rfl)
theorem dX0_prove_45 : decode cX0_prove 45 = .ok (.aload_n 0, 1) := dk_42 (dk_at dksX0_prove_1 21 rfl rfl)
theorem dX0_prove_46 : decode cX0_prove 46 = .ok (.getfield 32, 3) := dk_180 0 32 (dk_at dksX0_prove_2 0 rfl rfl)
theorem dX0_prove_49 : decode cX0_prove 49 = .ok (.iload_n 1, 1) := dk_27 (dk_at dksX0_prove_2 3 rfl rfl)
theorem dX0_prove_50 : decode cX0_prove 50 = .ok (.aload_n 0, 1) := dk_42 (dk_at dksX0_prove_2 4 rfl rfl)
theorem dX0_prove_51 : decode cX0_prove 51 = .ok (.aload_n 0, 1) := dk_42 (dk_at dksX0_prove_2 5 rfl rfl)
theorem dX0_prove_52 : decode cX0_prove 52 = .ok (.getfield 215, 3) := dk_180 0 215 (dk_at dksX0_prove_2 6 rfl rfl)
theorem dX0_prove_55 : decode cX0_prove 55 = .ok (.invokevirtual 355, 3) := dk_182 1 99 (dk_at dksX0_prove_2 9 rfl rfl)
theorem dX0_prove_58 : decode cX0_prove 58 = .ok (.getfield 352, 3) := dk_180 1 96 (dk_at dksX0_prove_2 12 rfl rfl)
theorem dX0_prove_61 : decode cX0_prove 61 = .ok (.invokevirtual 359, 3) := dk_182 1 103 (dk_at dksX0_prove_2 15 rfl rfl)
theorem dX0_prove_64 : decode cX0_prove 64 = .ok (.aload_n 0, 1) := dk_42 (dk_at dksX0_prove_2 18 rfl rfl)
theorem dX0_prove_65 : decode cX0_prove 65 = .ok (.dup, 1) := dk_89 (dk_at dksX0_prove_2 19 rfl rfl)
theorem dX0_prove_66 : decode cX0_prove 66 = .ok (.getfield 215, 3) := dk_180 0 215 (dk_at dksX0_prove_2 20 rfl rfl)
theorem dX0_prove_69 : decode cX0_prove 69 = .ok (.iconst 1, 1) := dk_4 (dk_at dksX0_prove_2 23 rfl rfl)
theorem dX0_prove_70 : decode cX0_prove 70 = .ok (.iadd, 1) := dk_96 (dk_at dksX0_prove_3 0 rfl rfl)
theorem dX0_prove_71 : decode cX0_prove 71 = .ok (.putfield 215, 3) := dk_181 0 215 (dk_at dksX0_prove_3 1 rfl rfl)
theorem dX0_prove_74 : decode cX0_prove 74 = .ok (.goto (-38), 3) := dk_167 255 218 (dk_at dksX0_prove_3 4 rfl rfl)
theorem dX0_prove_77 : decode cX0_prove 77 = .ok (.aload_n 0, 1) := dk_42 (dk_at dksX0_prove_3 7 rfl rfl)
theorem dX0_prove_78 : decode cX0_prove 78 = .ok (.getfield 215, 3) := dk_180 0 215 (dk_at dksX0_prove_3 8 rfl rfl)
theorem dX0_prove_81 : decode cX0_prove 81 = .ok (.ireturn, 1) := dk_172 (dk_at dksX0_prove_3 11 rfl rfl)
abbrev cX0_rowAt : ByteArray := prog_1_method_63_code
def yX0_rowAt : MethodName := ⟨RX0, "rowAt", "(I)LIntentVats$Row;"⟩
def dkwX0_rowAt_1 : List UInt8 := [180, 0, 72, 27, 50, 176]
abbrev dktX0_rowAt_1 : List UInt8 := dkwX0_rowAt_1 ++ []
def dkwX0_rowAt_0 : List UInt8 := [42, 180, 0, 72, 27, 50, 199, 0, 16, 42, 180, 0, 72, 27, 187, 0, 70, 89, 183, 1, 91, 83, 42]
abbrev dktX0_rowAt_0 : List UInt8 := dkwX0_rowAt_0 ++ dktX0_rowAt_1
theorem dksX0_rowAt_0 : cX0_rowAt.data.toList.drop 0 = dktX0_rowAt_0 := by decide +kernel
theorem dksX0_rowAt_1 : cX0_rowAt.data.toList.drop 23 = dktX0_rowAt_1 := dk_seg dksX0_rowAt_0 23 rfl rfl
theorem dX0_rowAt_0 : decode cX0_rowAt 0 = .ok (.aload_n 0, 1) := dk_42 (dk_at dksX0_rowAt_0 0 rfl rfl)
theorem dX0_rowAt_1 : decode cX0_rowAt 1 = .ok (.getfield 72, 3) := dk_180 0 72 (dk_at dksX0_rowAt_0 1 rfl rfl)
theorem dX0_rowAt_4 : decode cX0_rowAt 4 = .ok (.iload_n 1, 1) := dk_27 (dk_at dksX0_rowAt_0 4 rfl rfl)
theorem dX0_rowAt_5 : decode cX0_rowAt 5 = .ok (.aaload, 1) := dk_50 (dk_at dksX0_rowAt_0 5 rfl rfl)
theorem dX0_rowAt_6 : decode cX0_rowAt 6 = .ok (.ifnonnull 16, 3) := dk_199 0 16 (dk_at dksX0_rowAt_0 6 rfl rfl)
theorem dX0_rowAt_9 : decode cX0_rowAt 9 = .ok (.aload_n 0, 1) := dk_42 (dk_at dksX0_rowAt_0 9 rfl rfl)
theorem dX0_rowAt_10 : decode cX0_rowAt 10 = .ok (.getfield 72, 3) := dk_180 0 72 (dk_at dksX0_rowAt_0 10 rfl rfl)
theorem dX0_rowAt_13 : decode cX0_rowAt 13 = .ok (.iload_n 1, 1) := dk_27 (dk_at dksX0_rowAt_0 13 rfl rfl)
theorem dX0_rowAt_14 : decode cX0_rowAt 14 = .ok (.new 70, 3) := dk_187 0 70 (dk_at dksX0_rowAt_0 14 rfl rfl)
theorem dX0_rowAt_17 : decode cX0_rowAt 17 = .ok (.dup, 1) := dk_89 (dk_at dksX0_rowAt_0 17 rfl rfl)
theorem dX0_rowAt_18 : decode cX0_rowAt 18 = .ok (.invokespecial 347, 3) := dk_183 1 91 (dk_at dksX0_rowAt_0 18 rfl rfl)
theorem dX0_rowAt_21 : decode cX0_rowAt 21 = .ok (.aastore, 1) := dk_83 (dk_at dksX0_rowAt_0 21 rfl rfl)
theorem dX0_rowAt_22 : decode cX0_rowAt 22 = .ok (.aload_n 0, 1) := dk_42 (dk_at dksX0_rowAt_0 22 rfl rfl)
theorem dX0_rowAt_23 : decode cX0_rowAt 23 = .ok (.getfield 72, 3) := dk_180 0 72 (dk_at dksX0_rowAt_1 0 rfl rfl)
theorem dX0_rowAt_26 : decode cX0_rowAt 26 = .ok (.iload_n 1, 1) := dk_27 (dk_at dksX0_rowAt_1 3 rfl rfl)
theorem dX0_rowAt_27 : decode cX0_rowAt 27 = .ok (.aaload, 1) := dk_50 (dk_at dksX0_rowAt_1 4 rfl rfl)
theorem dX0_rowAt_28 : decode cX0_rowAt 28 = .ok (.areturn, 1) := dk_176 (dk_at dksX0_rowAt_1 5 rfl rfl)
abbrev cX0_goesAs : ByteArray := prog_1_method_67_code
def yX0_goesAs : MethodName := ⟨RX0, "goesAs", "(LIntentVats$Mill;I[I)V"⟩
def dkwX0_goesAs_1 : List UInt8 := [79, 45, 5, 43, 182, 1, 2, 79, 177]
abbrev dktX0_goesAs_1 : List UInt8 := dkwX0_goesAs_1 ++ []
def dkwX0_goesAs_0 : List UInt8 := [42, 43, 182, 0, 177, 45, 3, 4, 43, 180, 0, 129, 28, 46, 96, 79, 45, 4, 43, 180, 0, 132, 28, 46]
abbrev dktX0_goesAs_0 : List UInt8 := dkwX0_goesAs_0 ++ dktX0_goesAs_1
theorem dksX0_goesAs_0 : cX0_goesAs.data.toList.drop 0 = dktX0_goesAs_0 := by decide +kernel
theorem dksX0_goesAs_1 : cX0_goesAs.data.toList.drop 24 = dktX0_goesAs_1 := dk_seg dksX0_goesAs_0 24 rfl rfl
theorem dX0_goesAs_0 : decode cX0_goesAs 0 = .ok (.aload_n 0, 1) := dk_42 (dk_at dksX0_goesAs_0 0 rfl rfl)
theorem dX0_goesAs_1 : decode cX0_goesAs 1 = .ok (.aload_n 1, 1) := dk_43 (dk_at dksX0_goesAs_0 1 rfl rfl)
theorem dX0_goesAs_2 : decode cX0_goesAs 2 = .ok (.invokevirtual 177, 3) := dk_182 0 177 (dk_at dksX0_goesAs_0 2 rfl rfl)
theorem dX0_goesAs_5 : decode cX0_goesAs 5 = .ok (.aload_n 3, 1) := dk_45 (dk_at dksX0_goesAs_0 5 rfl rfl)
theorem dX0_goesAs_6 : decode cX0_goesAs 6 = .ok (.iconst 0, 1) := dk_3 (dk_at dksX0_goesAs_0 6 rfl rfl)
theorem dX0_goesAs_7 : decode cX0_goesAs 7 = .ok (.iconst 1, 1) := dk_4 (dk_at dksX0_goesAs_0 7 rfl rfl)
theorem dX0_goesAs_8 : decode cX0_goesAs 8 = .ok (.aload_n 1, 1) := dk_43 (dk_at dksX0_goesAs_0 8 rfl rfl)
theorem dX0_goesAs_9 : decode cX0_goesAs 9 = .ok (.getfield 129, 3) := dk_180 0 129 (dk_at dksX0_goesAs_0 9 rfl rfl)
theorem dX0_goesAs_12 : decode cX0_goesAs 12 = .ok (.iload_n 2, 1) := dk_28 (dk_at dksX0_goesAs_0 12 rfl rfl)
theorem dX0_goesAs_13 : decode cX0_goesAs 13 = .ok (.iaload, 1) := dk_46 (dk_at dksX0_goesAs_0 13 rfl rfl)
theorem dX0_goesAs_14 : decode cX0_goesAs 14 = .ok (.iadd, 1) := dk_96 (dk_at dksX0_goesAs_0 14 rfl rfl)
theorem dX0_goesAs_15 : decode cX0_goesAs 15 = .ok (.iastore, 1) := dk_79 (dk_at dksX0_goesAs_0 15 rfl rfl)
theorem dX0_goesAs_16 : decode cX0_goesAs 16 = .ok (.aload_n 3, 1) := dk_45 (dk_at dksX0_goesAs_0 16 rfl rfl)
theorem dX0_goesAs_17 : decode cX0_goesAs 17 = .ok (.iconst 1, 1) := dk_4 (dk_at dksX0_goesAs_0 17 rfl rfl)
theorem dX0_goesAs_18 : decode cX0_goesAs 18 = .ok (.aload_n 1, 1) := dk_43 (dk_at dksX0_goesAs_0 18 rfl rfl)
theorem dX0_goesAs_19 : decode cX0_goesAs 19 = .ok (.getfield 132, 3) := dk_180 0 132 (dk_at dksX0_goesAs_0 19 rfl rfl)
theorem dX0_goesAs_22 : decode cX0_goesAs 22 = .ok (.iload_n 2, 1) := dk_28 (dk_at dksX0_goesAs_0 22 rfl rfl)
theorem dX0_goesAs_23 : decode cX0_goesAs 23 = .ok (.iaload, 1) := dk_46 (dk_at dksX0_goesAs_0 23 rfl rfl)
theorem dX0_goesAs_24 : decode cX0_goesAs 24 = .ok (.iastore, 1) := dk_79 (dk_at dksX0_goesAs_1 0 rfl rfl)
theorem dX0_goesAs_25 : decode cX0_goesAs 25 = .ok (.aload_n 3, 1) := dk_45 (dk_at dksX0_goesAs_1 1 rfl rfl)
theorem dX0_goesAs_26 : decode cX0_goesAs 26 = .ok (.iconst 2, 1) := dk_5 (dk_at dksX0_goesAs_1 2 rfl rfl)
theorem dX0_goesAs_27 : decode cX0_goesAs 27 = .ok (.aload_n 1, 1) := dk_43 (dk_at dksX0_goesAs_1 3 rfl rfl)
theorem dX0_goesAs_28 : decode cX0_goesAs 28 = .ok (.invokevirtual 258, 3) := dk_182 1 2 (dk_at dksX0_goesAs_1 4 rfl rfl)
theorem dX0_goesAs_31 : decode cX0_goesAs 31 = .ok (.iastore, 1) := dk_79 (dk_at dksX0_goesAs_1 7 rfl rfl)
theorem dX0_goesAs_32 : decode cX0_goesAs 32 = .ok (.return_, 1) := dk_177 (dk_at dksX0_goesAs_1 8 rfl rfl)
abbrev cX0_judge : ByteArray := prog_1_method_69_code
def yX0_judge : MethodName := ⟨RX0, "judge", "(I)I"⟩
def dkwX0_judge_4 : List UInt8 := [167, 255, 222, 132, 3, 1, 167, 255, 181, 28, 172]
abbrev dktX0_judge_4 : List UInt8 := dkwX0_judge_4 ++ []
def dkwX0_judge_3 : List UInt8 := [42, 180, 0, 76, 21, 5, 46, 160, 0, 6, 167, 0, 10, 29, 4, 96, 61, 167, 0, 15, 132, 5, 1]
abbrev dktX0_judge_3 : List UInt8 := dkwX0_judge_3 ++ dktX0_judge_4
def dkwX0_judge_2 : List UInt8 := [180, 0, 72, 29, 50, 180, 1, 96, 58, 4, 3, 54, 5, 21, 5, 6, 162, 0, 34, 25, 4, 21, 5, 46]
abbrev dktX0_judge_2 : List UInt8 := dkwX0_judge_2 ++ dktX0_judge_3
def dkwX0_judge_1 : List UInt8 := [62, 29, 42, 180, 0, 215, 162, 0, 73, 42, 42, 180, 0, 32, 27, 42, 180, 0, 76, 182, 1, 103, 42]
abbrev dktX0_judge_1 : List UInt8 := dkwX0_judge_1 ++ dktX0_judge_2
def dkwX0_judge_0 : List UInt8 := [42, 27, 182, 0, 244, 154, 0, 5, 2, 172, 42, 180, 0, 32, 42, 180, 0, 22, 182, 0, 203, 3, 61, 3]
abbrev dktX0_judge_0 : List UInt8 := dkwX0_judge_0 ++ dktX0_judge_1
theorem dksX0_judge_0 : cX0_judge.data.toList.drop 0 = dktX0_judge_0 := by decide +kernel
theorem dksX0_judge_1 : cX0_judge.data.toList.drop 24 = dktX0_judge_1 := dk_seg dksX0_judge_0 24 rfl rfl
theorem dksX0_judge_2 : cX0_judge.data.toList.drop 47 = dktX0_judge_2 := dk_seg dksX0_judge_1 23 rfl rfl
theorem dksX0_judge_3 : cX0_judge.data.toList.drop 71 = dktX0_judge_3 := dk_seg dksX0_judge_2 24 rfl rfl
theorem dksX0_judge_4 : cX0_judge.data.toList.drop 94 = dktX0_judge_4 := dk_seg dksX0_judge_3 23 rfl rfl
theorem dX0_judge_0 : decode cX0_judge 0 = .ok (.aload_n 0, 1) := dk_42 (dk_at dksX0_judge_0 0 rfl rfl)
theorem dX0_judge_1 : decode cX0_judge 1 = .ok (.iload_n 1, 1) := dk_27 (dk_at dksX0_judge_0 1 rfl rfl)
theorem dX0_judge_2 : decode cX0_judge 2 = .ok (.invokevirtual 244, 3) := dk_182 0 244 (dk_at dksX0_judge_0 2 rfl rfl)
theorem dX0_judge_5 : decode cX0_judge 5 = .ok (.ifCond .ne 5, 3) := dk_154 0 5 (dk_at dksX0_judge_0 5 rfl rfl)
theorem dX0_judge_8 : decode cX0_judge 8 = .ok (.iconst (-1), 1) := dk_2 (dk_at dksX0_judge_0 8 rfl rfl)
theorem dX0_judge_9 : decode cX0_judge 9 = .ok (.ireturn, 1) := dk_172 (dk_at dksX0_judge_0 9 rfl rfl)
theorem dX0_judge_10 : decode cX0_judge 10 = .ok (.aload_n 0, 1) := dk_42 (dk_at dksX0_judge_0 10 rfl rfl)
theorem dX0_judge_11 : decode cX0_judge 11 = .ok (.getfield 32, 3) := dk_180 0 32 (dk_at dksX0_judge_0 11 rfl rfl)
theorem dX0_judge_14 : decode cX0_judge 14 = .ok (.aload_n 0, 1) := dk_42 (dk_at dksX0_judge_0 14 rfl rfl)
theorem dX0_judge_15 : decode cX0_judge 15 = .ok (.getfield 22, 3) := dk_180 0 22 (dk_at dksX0_judge_0 15 rfl rfl)
theorem dX0_judge_18 : decode cX0_judge 18 = .ok (.invokevirtual 203, 3) := dk_182 0 203 (dk_at dksX0_judge_0 18 rfl rfl)
theorem dX0_judge_21 : decode cX0_judge 21 = .ok (.iconst 0, 1) := dk_3 (dk_at dksX0_judge_0 21 rfl rfl)
theorem dX0_judge_22 : decode cX0_judge 22 = .ok (.istore_n 2, 1) := dk_61 (dk_at dksX0_judge_0 22 rfl rfl)
theorem dX0_judge_23 : decode cX0_judge 23 = .ok (.iconst 0, 1) := dk_3 (dk_at dksX0_judge_0 23 rfl rfl)
theorem dX0_judge_24 : decode cX0_judge 24 = .ok (.istore_n 3, 1) := dk_62 (dk_at dksX0_judge_1 0 rfl rfl)
theorem dX0_judge_25 : decode cX0_judge 25 = .ok (.iload_n 3, 1) := dk_29 (dk_at dksX0_judge_1 1 rfl rfl)
theorem dX0_judge_26 : decode cX0_judge 26 = .ok (.aload_n 0, 1) := dk_42 (dk_at dksX0_judge_1 2 rfl rfl)
theorem dX0_judge_27 : decode cX0_judge 27 = .ok (.getfield 215, 3) := dk_180 0 215 (dk_at dksX0_judge_1 3 rfl rfl)
theorem dX0_judge_30 : decode cX0_judge 30 = .ok (.if_icmp .ge 73, 3) := dk_162 0 73 (dk_at dksX0_judge_1 6 rfl rfl)
theorem dX0_judge_33 : decode cX0_judge 33 = .ok (.aload_n 0, 1) := dk_42 (dk_at dksX0_judge_1 9 rfl rfl)
theorem dX0_judge_34 : decode cX0_judge 34 = .ok (.aload_n 0, 1) := dk_42 (dk_at dksX0_judge_1 10 rfl rfl)
theorem dX0_judge_35 : decode cX0_judge 35 = .ok (.getfield 32, 3) := dk_180 0 32 (dk_at dksX0_judge_1 11 rfl rfl)
theorem dX0_judge_38 : decode cX0_judge 38 = .ok (.iload_n 1, 1) := dk_27 (dk_at dksX0_judge_1 14 rfl rfl)
theorem dX0_judge_39 : decode cX0_judge 39 = .ok (.aload_n 0, 1) := dk_42 (dk_at dksX0_judge_1 15 rfl rfl)
theorem dX0_judge_40 : decode cX0_judge 40 = .ok (.getfield 76, 3) := dk_180 0 76 (dk_at dksX0_judge_1 16 rfl rfl)
theorem dX0_judge_43 : decode cX0_judge 43 = .ok (.invokevirtual 359, 3) := dk_182 1 103 (dk_at dksX0_judge_1 19 rfl rfl)
theorem dX0_judge_46 : decode cX0_judge 46 = .ok (.aload_n 0, 1) := dk_42 (dk_at dksX0_judge_1 22 rfl rfl)
theorem dX0_judge_47 : decode cX0_judge 47 = .ok (.getfield 72, 3) := dk_180 0 72 (dk_at dksX0_judge_2 0 rfl rfl)
theorem dX0_judge_50 : decode cX0_judge 50 = .ok (.iload_n 3, 1) := dk_29 (dk_at dksX0_judge_2 3 rfl rfl)
theorem dX0_judge_51 : decode cX0_judge 51 = .ok (.aaload, 1) := dk_50 (dk_at dksX0_judge_2 4 rfl rfl)
theorem dX0_judge_52 : decode cX0_judge 52 = .ok (.getfield 352, 3) := dk_180 1 96 (dk_at dksX0_judge_2 5 rfl rfl)
theorem dX0_judge_55 : decode cX0_judge 55 = .ok (.astore 4, 2) := dk_58 4 (dk_at dksX0_judge_2 8 rfl rfl)
theorem dX0_judge_57 : decode cX0_judge 57 = .ok (.iconst 0, 1) := dk_3 (dk_at dksX0_judge_2 10 rfl rfl)
theorem dX0_judge_58 : decode cX0_judge 58 = .ok (.istore 5, 2) := dk_54 5 (dk_at dksX0_judge_2 11 rfl rfl)
theorem dX0_judge_60 : decode cX0_judge 60 = .ok (.iload 5, 2) := dk_21 5 (dk_at dksX0_judge_2 13 rfl rfl)
theorem dX0_judge_62 : decode cX0_judge 62 = .ok (.iconst 3, 1) := dk_6 (dk_at dksX0_judge_2 15 rfl rfl)
theorem dX0_judge_63 : decode cX0_judge 63 = .ok (.if_icmp .ge 34, 3) := dk_162 0 34 (dk_at dksX0_judge_2 16 rfl rfl)
theorem dX0_judge_66 : decode cX0_judge 66 = .ok (.aload 4, 2) := dk_25 4 (dk_at dksX0_judge_2 19 rfl rfl)
theorem dX0_judge_68 : decode cX0_judge 68 = .ok (.iload 5, 2) := dk_21 5 (dk_at dksX0_judge_2 21 rfl rfl)
theorem dX0_judge_70 : decode cX0_judge 70 = .ok (.iaload, 1) := dk_46 (dk_at dksX0_judge_2 23 rfl rfl)
theorem dX0_judge_71 : decode cX0_judge 71 = .ok (.aload_n 0, 1) := dk_42 (dk_at dksX0_judge_3 0 rfl rfl)
theorem dX0_judge_72 : decode cX0_judge 72 = .ok (.getfield 76, 3) := dk_180 0 76 (dk_at dksX0_judge_3 1 rfl rfl)
theorem dX0_judge_75 : decode cX0_judge 75 = .ok (.iload 5, 2) := dk_21 5 (dk_at dksX0_judge_3 4 rfl rfl)
theorem dX0_judge_77 : decode cX0_judge 77 = .ok (.iaload, 1) := dk_46 (dk_at dksX0_judge_3 6 rfl rfl)
theorem dX0_judge_78 : decode cX0_judge 78 = .ok (.if_icmp .ne 6, 3) := dk_160 0 6 (dk_at dksX0_judge_3 7 rfl rfl)
theorem dX0_judge_81 : decode cX0_judge 81 = .ok (.goto 10, 3) := dk_167 0 10 (dk_at dksX0_judge_3 10 rfl rfl)
theorem dX0_judge_84 : decode cX0_judge 84 = .ok (.iload_n 3, 1) := dk_29 (dk_at dksX0_judge_3 13 rfl rfl)
theorem dX0_judge_85 : decode cX0_judge 85 = .ok (.iconst 1, 1) := dk_4 (dk_at dksX0_judge_3 14 rfl rfl)
theorem dX0_judge_86 : decode cX0_judge 86 = .ok (.iadd, 1) := dk_96 (dk_at dksX0_judge_3 15 rfl rfl)
theorem dX0_judge_87 : decode cX0_judge 87 = .ok (.istore_n 2, 1) := dk_61 (dk_at dksX0_judge_3 16 rfl rfl)
theorem dX0_judge_88 : decode cX0_judge 88 = .ok (.goto 15, 3) := dk_167 0 15 (dk_at dksX0_judge_3 17 rfl rfl)
theorem dX0_judge_91 : decode cX0_judge 91 = .ok (.iinc 5 1, 3) := dk_132 5 1 (dk_at dksX0_judge_3 20 rfl rfl)
theorem dX0_judge_94 : decode cX0_judge 94 = .ok (.goto (-34), 3) := dk_167 255 222 (dk_at dksX0_judge_4 0 rfl rfl)
theorem dX0_judge_97 : decode cX0_judge 97 = .ok (.iinc 3 1, 3) := dk_132 3 1 (dk_at dksX0_judge_4 3 rfl rfl)
theorem dX0_judge_100 : decode cX0_judge 100 = .ok (.goto (-75), 3) := dk_167 255 181 (dk_at dksX0_judge_4 6 rfl rfl)
theorem dX0_judge_103 : decode cX0_judge 103 = .ok (.iload_n 2, 1) := dk_28 (dk_at dksX0_judge_4 9 rfl rfl)
theorem dX0_judge_104 : decode cX0_judge 104 = .ok (.ireturn, 1) := dk_172 (dk_at dksX0_judge_4 10 rfl rfl)
abbrev cX0_minds : ByteArray := prog_1_method_72_code
def yX0_minds : MethodName := ⟨RX0, "minds", "(IIII)I"⟩
def dkwX0_minds_3 : List UInt8 := [16, 243, 172, 58, 5, 16, 244, 172]
abbrev dktX0_minds_3 : List UInt8 := dkwX0_minds_3 ++ []
def dkwX0_minds_2 : List UInt8 := [182, 1, 69, 184, 1, 111, 28, 29, 21, 4, 182, 1, 115, 21, 4, 172, 58, 5, 16, 245, 172, 58, 5]
abbrev dktX0_minds_2 : List UInt8 := dkwX0_minds_2 ++ dktX0_minds_3
def dkwX0_minds_1 : List UInt8 := [180, 0, 111, 29, 100, 184, 0, 115, 154, 0, 5, 2, 172, 42, 42, 42, 180, 0, 83, 27, 50, 182, 1, 65]
abbrev dktX0_minds_1 : List UInt8 := dkwX0_minds_1 ++ dktX0_minds_2
def dkwX0_minds_0 : List UInt8 := [27, 184, 1, 62, 153, 0, 29, 42, 29, 182, 0, 244, 153, 0, 21, 21, 4, 3, 42, 180, 0, 22]
abbrev dktX0_minds_0 : List UInt8 := dkwX0_minds_0 ++ dktX0_minds_1
theorem dksX0_minds_0 : cX0_minds.data.toList.drop 0 = dktX0_minds_0 := by decide +kernel
theorem dksX0_minds_1 : cX0_minds.data.toList.drop 22 = dktX0_minds_1 := dk_seg dksX0_minds_0 22 rfl rfl
theorem dksX0_minds_2 : cX0_minds.data.toList.drop 46 = dktX0_minds_2 := dk_seg dksX0_minds_1 24 rfl rfl
theorem dksX0_minds_3 : cX0_minds.data.toList.drop 69 = dktX0_minds_3 := dk_seg dksX0_minds_2 23 rfl rfl
theorem dX0_minds_0 : decode cX0_minds 0 = .ok (.iload_n 1, 1) := dk_27 (dk_at dksX0_minds_0 0 rfl rfl)
theorem dX0_minds_1 : decode cX0_minds 1 = .ok (.invokestatic 318, 3) := dk_184 1 62 (dk_at dksX0_minds_0 1 rfl rfl)
theorem dX0_minds_4 : decode cX0_minds 4 = .ok (.ifCond .eq 29, 3) := dk_153 0 29 (dk_at dksX0_minds_0 4 rfl rfl)
theorem dX0_minds_7 : decode cX0_minds 7 = .ok (.aload_n 0, 1) := dk_42 (dk_at dksX0_minds_0 7 rfl rfl)
theorem dX0_minds_8 : decode cX0_minds 8 = .ok (.iload_n 3, 1) := dk_29 (dk_at dksX0_minds_0 8 rfl rfl)
theorem dX0_minds_9 : decode cX0_minds 9 = .ok (.invokevirtual 244, 3) := dk_182 0 244 (dk_at dksX0_minds_0 9 rfl rfl)
theorem dX0_minds_12 : decode cX0_minds 12 = .ok (.ifCond .eq 21, 3) := dk_153 0 21 (dk_at dksX0_minds_0 12 rfl rfl)
theorem dX0_minds_15 : decode cX0_minds 15 = .ok (.iload 4, 2) := dk_21 4 (dk_at dksX0_minds_0 15 rfl rfl)
theorem dX0_minds_17 : decode cX0_minds 17 = .ok (.iconst 0, 1) := dk_3 (dk_at dksX0_minds_0 17 rfl rfl)
theorem dX0_minds_18 : decode cX0_minds 18 = .ok (.aload_n 0, 1) := dk_42 (dk_at dksX0_minds_0 18 rfl rfl)
theorem dX0_minds_19 : decode cX0_minds 19 = .ok (.getfield 22, 3) := dk_180 0 22 (dk_at dksX0_minds_0 19 rfl rfl)
theorem dX0_minds_22 : decode cX0_minds 22 = .ok (.getfield 111, 3) := dk_180 0 111 (dk_at dksX0_minds_1 0 rfl rfl)
theorem dX0_minds_25 : decode cX0_minds 25 = .ok (.iload_n 3, 1) := dk_29 (dk_at dksX0_minds_1 3 rfl rfl)
theorem dX0_minds_26 : decode cX0_minds 26 = .ok (.isub, 1) := dk_100 (dk_at dksX0_minds_1 4 rfl rfl)
theorem dX0_minds_27 : decode cX0_minds 27 = .ok (.invokestatic 115, 3) := dk_184 0 115 (dk_at dksX0_minds_1 5 rfl rfl)
theorem dX0_minds_30 : decode cX0_minds 30 = .ok (.ifCond .ne 5, 3) := dk_154 0 5 (dk_at dksX0_minds_1 8 rfl rfl)
theorem dX0_minds_33 : decode cX0_minds 33 = .ok (.iconst (-1), 1) := dk_2 (dk_at dksX0_minds_1 11 rfl rfl)
theorem dX0_minds_34 : decode cX0_minds 34 = .ok (.ireturn, 1) := dk_172 (dk_at dksX0_minds_1 12 rfl rfl)
theorem dX0_minds_35 : decode cX0_minds 35 = .ok (.aload_n 0, 1) := dk_42 (dk_at dksX0_minds_1 13 rfl rfl)
theorem dX0_minds_36 : decode cX0_minds 36 = .ok (.aload_n 0, 1) := dk_42 (dk_at dksX0_minds_1 14 rfl rfl)
theorem dX0_minds_37 : decode cX0_minds 37 = .ok (.aload_n 0, 1) := dk_42 (dk_at dksX0_minds_1 15 rfl rfl)
theorem dX0_minds_38 : decode cX0_minds 38 = .ok (.getfield 83, 3) := dk_180 0 83 (dk_at dksX0_minds_1 16 rfl rfl)
theorem dX0_minds_41 : decode cX0_minds 41 = .ok (.iload_n 1, 1) := dk_27 (dk_at dksX0_minds_1 19 rfl rfl)
theorem dX0_minds_42 : decode cX0_minds 42 = .ok (.aaload, 1) := dk_50 (dk_at dksX0_minds_1 20 rfl rfl)
theorem dX0_minds_43 : decode cX0_minds 43 = .ok (.invokevirtual 321, 3) := dk_182 1 65 (dk_at dksX0_minds_1 21 rfl rfl)
theorem dX0_minds_46 : decode cX0_minds 46 = .ok (.invokevirtual 325, 3) := dk_182 1 69 (dk_at dksX0_minds_2 0 rfl rfl)
theorem dX0_minds_49 : decode cX0_minds 49 = .ok (.invokestatic 367, 3) := dk_184 1 111 (dk_at dksX0_minds_2 3 rfl rfl)
theorem dX0_minds_52 : decode cX0_minds 52 = .ok (.iload_n 2, 1) := dk_28 (dk_at dksX0_minds_2 6 rfl rfl)
theorem dX0_minds_53 : decode cX0_minds 53 = .ok (.iload_n 3, 1) := dk_29 (dk_at dksX0_minds_2 7 rfl rfl)
theorem dX0_minds_54 : decode cX0_minds 54 = .ok (.iload 4, 2) := dk_21 4 (dk_at dksX0_minds_2 8 rfl rfl)
theorem dX0_minds_56 : decode cX0_minds 56 = .ok (.invokevirtual 371, 3) := dk_182 1 115 (dk_at dksX0_minds_2 10 rfl rfl)
theorem dX0_minds_59 : decode cX0_minds 59 = .ok (.iload 4, 2) := dk_21 4 (dk_at dksX0_minds_2 13 rfl rfl)
theorem dX0_minds_61 : decode cX0_minds 61 = .ok (.ireturn, 1) := dk_172 (dk_at dksX0_minds_2 15 rfl rfl)
theorem dX0_minds_62 : decode cX0_minds 62 = .ok (.astore 5, 2) := dk_58 5 (dk_at dksX0_minds_2 16 rfl rfl)
theorem dX0_minds_64 : decode cX0_minds 64 = .ok (.bipush (-11), 2) := dk_16 245 (dk_at dksX0_minds_2 18 rfl rfl)
theorem dX0_minds_66 : decode cX0_minds 66 = .ok (.ireturn, 1) := dk_172 (dk_at dksX0_minds_2 20 rfl rfl)
theorem dX0_minds_67 : decode cX0_minds 67 = .ok (.astore 5, 2) := dk_58 5 (dk_at dksX0_minds_2 21 rfl rfl)
theorem dX0_minds_69 : decode cX0_minds 69 = .ok (.bipush (-13), 2) := dk_16 243 (dk_at dksX0_minds_3 0 rfl rfl)
theorem dX0_minds_71 : decode cX0_minds 71 = .ok (.ireturn, 1) := dk_172 (dk_at dksX0_minds_3 2 rfl rfl)
theorem dX0_minds_72 : decode cX0_minds 72 = .ok (.astore 5, 2) := dk_58 5 (dk_at dksX0_minds_3 3 rfl rfl)
theorem dX0_minds_74 : decode cX0_minds 74 = .ok (.bipush (-12), 2) := dk_16 244 (dk_at dksX0_minds_3 5 rfl rfl)
theorem dX0_minds_76 : decode cX0_minds 76 = .ok (.ireturn, 1) := dk_172 (dk_at dksX0_minds_3 7 rfl rfl)
abbrev cX0_bytes : ByteArray := prog_1_method_70_code
def yX0_bytes : MethodName := ⟨RX0, "bytes", "(Ljava/lang/Object;)[B"⟩
theorem dX0_bytes_0 : decode cX0_bytes 0 = .ok (.aload_n 0, 1) := by decide +kernel
theorem dX0_bytes_1 : decode cX0_bytes 1 = .ok (.checkcast 298, 3) := by decide +kernel
theorem dX0_bytes_4 : decode cX0_bytes 4 = .ok (.areturn, 1) := by decide +kernel
abbrev cX0_mindsOf : ByteArray := prog_1_method_71_code
def yX0_mindsOf : MethodName := ⟨RX0, "mindsOf", "([BIII)V"⟩
def dkwX0_mindsOf_3 : List UInt8 := [180, 0, 22, 29, 21, 5, 96, 182, 0, 142, 132, 5, 1, 167, 255, 197, 177]
abbrev dktX0_mindsOf_3 : List UInt8 := dkwX0_mindsOf_3 ++ []
def dkwX0_mindsOf_2 : List UInt8 := [180, 0, 129, 29, 21, 5, 96, 46, 2, 160, 0, 7, 3, 167, 0, 9, 43, 28, 21, 5, 96, 51, 79, 42]
abbrev dktX0_mindsOf_2 : List UInt8 := dkwX0_mindsOf_2 ++ dktX0_mindsOf_3
def dkwX0_mindsOf_1 : List UInt8 := [21, 5, 21, 4, 162, 0, 58, 42, 180, 0, 22, 180, 0, 132, 29, 21, 5, 96, 42, 180, 0, 22]
abbrev dktX0_mindsOf_1 : List UInt8 := dkwX0_mindsOf_1 ++ dktX0_mindsOf_2
def dkwX0_mindsOf_0 : List UInt8 := [42, 28, 43, 190, 4, 96, 182, 1, 107, 42, 21, 4, 43, 190, 28, 100, 4, 96, 182, 1, 107, 3, 54, 5]
abbrev dktX0_mindsOf_0 : List UInt8 := dkwX0_mindsOf_0 ++ dktX0_mindsOf_1
theorem dksX0_mindsOf_0 : cX0_mindsOf.data.toList.drop 0 = dktX0_mindsOf_0 := by decide +kernel
theorem dksX0_mindsOf_1 : cX0_mindsOf.data.toList.drop 24 = dktX0_mindsOf_1 := dk_seg dksX0_mindsOf_0 24 rfl rfl
theorem dksX0_mindsOf_2 : cX0_mindsOf.data.toList.drop 46 = dktX0_mindsOf_2 := dk_seg dksX0_mindsOf_1 22 rfl rfl
theorem dksX0_mindsOf_3 : cX0_mindsOf.data.toList.drop 70 = dktX0_mindsOf_3 := dk_seg dksX0_mindsOf_2 24 rfl rfl
theorem dX0_mindsOf_0 : decode cX0_mindsOf 0 = .ok (.aload_n 0, 1) := dk_42 (dk_at dksX0_mindsOf_0 0 rfl rfl)
theorem dX0_mindsOf_1 : decode cX0_mindsOf 1 = .ok (.iload_n 2, 1) := dk_28 (dk_at dksX0_mindsOf_0 1 rfl rfl)
theorem dX0_mindsOf_2 : decode cX0_mindsOf 2 = .ok (.aload_n 1, 1) := dk_43 (dk_at dksX0_mindsOf_0 2 rfl rfl)
theorem dX0_mindsOf_3 : decode cX0_mindsOf 3 = .ok (.arraylength, 1) := dk_190 (dk_at dksX0_mindsOf_0 3 rfl rfl)
theorem dX0_mindsOf_4 : decode cX0_mindsOf 4 = .ok (.iconst 1, 1) := dk_4 (dk_at dksX0_mindsOf_0 4 rfl rfl)
theorem dX0_mindsOf_5 : decode cX0_mindsOf 5 = .ok (.iadd, 1) := dk_96 (dk_at dksX0_mindsOf_0 5 rfl rfl)
theorem dX0_mindsOf_6 : decode cX0_mindsOf 6 = .ok (.invokevirtual 363, 3) := dk_182 1 107 (dk_at dksX0_mindsOf_0 6 rfl rfl)
theorem dX0_mindsOf_9 : decode cX0_mindsOf 9 = .ok (.aload_n 0, 1) := dk_42 (dk_at dksX0_mindsOf_0 9 rfl rfl)
theorem dX0_mindsOf_10 : decode cX0_mindsOf 10 = .ok (.iload 4, 2) := dk_21 4 (dk_at dksX0_mindsOf_0 10 rfl rfl)
theorem dX0_mindsOf_12 : decode cX0_mindsOf 12 = .ok (.aload_n 1, 1) := dk_43 (dk_at dksX0_mindsOf_0 12 rfl rfl)
theorem dX0_mindsOf_13 : decode cX0_mindsOf 13 = .ok (.arraylength, 1) := dk_190 (dk_at dksX0_mindsOf_0 13 rfl rfl)
theorem dX0_mindsOf_14 : decode cX0_mindsOf 14 = .ok (.iload_n 2, 1) := dk_28 (dk_at dksX0_mindsOf_0 14 rfl rfl)
theorem dX0_mindsOf_15 : decode cX0_mindsOf 15 = .ok (.isub, 1) := dk_100 (dk_at dksX0_mindsOf_0 15 rfl rfl)
theorem dX0_mindsOf_16 : decode cX0_mindsOf 16 = .ok (.iconst 1, 1) := dk_4 (dk_at dksX0_mindsOf_0 16 rfl rfl)
theorem dX0_mindsOf_17 : decode cX0_mindsOf 17 = .ok (.iadd, 1) := dk_96 (dk_at dksX0_mindsOf_0 17 rfl rfl)
theorem dX0_mindsOf_18 : decode cX0_mindsOf 18 = .ok (.invokevirtual 363, 3) := dk_182 1 107 (dk_at dksX0_mindsOf_0 18 rfl rfl)
theorem dX0_mindsOf_21 : decode cX0_mindsOf 21 = .ok (.iconst 0, 1) := dk_3 (dk_at dksX0_mindsOf_0 21 rfl rfl)
theorem dX0_mindsOf_22 : decode cX0_mindsOf 22 = .ok (.istore 5, 2) := dk_54 5 (dk_at dksX0_mindsOf_0 22 rfl rfl)
theorem dX0_mindsOf_24 : decode cX0_mindsOf 24 = .ok (.iload 5, 2) := dk_21 5 (dk_at dksX0_mindsOf_1 0 rfl rfl)
theorem dX0_mindsOf_26 : decode cX0_mindsOf 26 = .ok (.iload 4, 2) := dk_21 4 (dk_at dksX0_mindsOf_1 2 rfl rfl)
theorem dX0_mindsOf_28 : decode cX0_mindsOf 28 = .ok (.if_icmp .ge 58, 3) := dk_162 0 58 (dk_at dksX0_mindsOf_1 4 rfl rfl)
theorem dX0_mindsOf_31 : decode cX0_mindsOf 31 = .ok (.aload_n 0, 1) := dk_42 (dk_at dksX0_mindsOf_1 7 rfl rfl)
theorem dX0_mindsOf_32 : decode cX0_mindsOf 32 = .ok (.getfield 22, 3) := dk_180 0 22 (dk_at dksX0_mindsOf_1 8 rfl rfl)
theorem dX0_mindsOf_35 : decode cX0_mindsOf 35 = .ok (.getfield 132, 3) := dk_180 0 132 (dk_at dksX0_mindsOf_1 11 rfl rfl)
theorem dX0_mindsOf_38 : decode cX0_mindsOf 38 = .ok (.iload_n 3, 1) := dk_29 (dk_at dksX0_mindsOf_1 14 rfl rfl)
theorem dX0_mindsOf_39 : decode cX0_mindsOf 39 = .ok (.iload 5, 2) := dk_21 5 (dk_at dksX0_mindsOf_1 15 rfl rfl)
theorem dX0_mindsOf_41 : decode cX0_mindsOf 41 = .ok (.iadd, 1) := dk_96 (dk_at dksX0_mindsOf_1 17 rfl rfl)
theorem dX0_mindsOf_42 : decode cX0_mindsOf 42 = .ok (.aload_n 0, 1) := dk_42 (dk_at dksX0_mindsOf_1 18 rfl rfl)
theorem dX0_mindsOf_43 : decode cX0_mindsOf 43 = .ok (.getfield 22, 3) := dk_180 0 22 (dk_at dksX0_mindsOf_1 19 rfl rfl)
theorem dX0_mindsOf_46 : decode cX0_mindsOf 46 = .ok (.getfield 129, 3) := dk_180 0 129 (dk_at dksX0_mindsOf_2 0 rfl rfl)
theorem dX0_mindsOf_49 : decode cX0_mindsOf 49 = .ok (.iload_n 3, 1) := dk_29 (dk_at dksX0_mindsOf_2 3 rfl rfl)
theorem dX0_mindsOf_50 : decode cX0_mindsOf 50 = .ok (.iload 5, 2) := dk_21 5 (dk_at dksX0_mindsOf_2 4 rfl rfl)
theorem dX0_mindsOf_52 : decode cX0_mindsOf 52 = .ok (.iadd, 1) := dk_96 (dk_at dksX0_mindsOf_2 6 rfl rfl)
theorem dX0_mindsOf_53 : decode cX0_mindsOf 53 = .ok (.iaload, 1) := dk_46 (dk_at dksX0_mindsOf_2 7 rfl rfl)
theorem dX0_mindsOf_54 : decode cX0_mindsOf 54 = .ok (.iconst (-1), 1) := dk_2 (dk_at dksX0_mindsOf_2 8 rfl rfl)
theorem dX0_mindsOf_55 : decode cX0_mindsOf 55 = .ok (.if_icmp .ne 7, 3) := dk_160 0 7 (dk_at dksX0_mindsOf_2 9 rfl rfl)
theorem dX0_mindsOf_58 : decode cX0_mindsOf 58 = .ok (.iconst 0, 1) := dk_3 (dk_at dksX0_mindsOf_2 12 rfl rfl)
theorem dX0_mindsOf_59 : decode cX0_mindsOf 59 = .ok (.goto 9, 3) := dk_167 0 9 (dk_at dksX0_mindsOf_2 13 rfl rfl)
theorem dX0_mindsOf_62 : decode cX0_mindsOf 62 = .ok (.aload_n 1, 1) := dk_43 (dk_at dksX0_mindsOf_2 16 rfl rfl)
theorem dX0_mindsOf_63 : decode cX0_mindsOf 63 = .ok (.iload_n 2, 1) := dk_28 (dk_at dksX0_mindsOf_2 17 rfl rfl)
theorem dX0_mindsOf_64 : decode cX0_mindsOf 64 = .ok (.iload 5, 2) := dk_21 5 (dk_at dksX0_mindsOf_2 18 rfl rfl)
theorem dX0_mindsOf_66 : decode cX0_mindsOf 66 = .ok (.iadd, 1) := dk_96 (dk_at dksX0_mindsOf_2 20 rfl rfl)
theorem dX0_mindsOf_67 : decode cX0_mindsOf 67 = .ok (.baload, 1) := dk_51 (dk_at dksX0_mindsOf_2 21 rfl rfl)
theorem dX0_mindsOf_68 : decode cX0_mindsOf 68 = .ok (.iastore, 1) := dk_79 (dk_at dksX0_mindsOf_2 22 rfl rfl)
theorem dX0_mindsOf_69 : decode cX0_mindsOf 69 = .ok (.aload_n 0, 1) := dk_42 (dk_at dksX0_mindsOf_2 23 rfl rfl)
theorem dX0_mindsOf_70 : decode cX0_mindsOf 70 = .ok (.getfield 22, 3) := dk_180 0 22 (dk_at dksX0_mindsOf_3 0 rfl rfl)
theorem dX0_mindsOf_73 : decode cX0_mindsOf 73 = .ok (.iload_n 3, 1) := dk_29 (dk_at dksX0_mindsOf_3 3 rfl rfl)
theorem dX0_mindsOf_74 : decode cX0_mindsOf 74 = .ok (.iload 5, 2) := dk_21 5 (dk_at dksX0_mindsOf_3 4 rfl rfl)
theorem dX0_mindsOf_76 : decode cX0_mindsOf 76 = .ok (.iadd, 1) := dk_96 (dk_at dksX0_mindsOf_3 6 rfl rfl)
theorem dX0_mindsOf_77 : decode cX0_mindsOf 77 = .ok (.invokevirtual 142, 3) := dk_182 0 142 (dk_at dksX0_mindsOf_3 7 rfl rfl)
theorem dX0_mindsOf_80 : decode cX0_mindsOf 80 = .ok (.iinc 5 1, 3) := dk_132 5 1 (dk_at dksX0_mindsOf_3 10 rfl rfl)
theorem dX0_mindsOf_83 : decode cX0_mindsOf 83 = .ok (.goto (-59), 3) := dk_167 255 197 (dk_at dksX0_mindsOf_3 13 rfl rfl)
theorem dX0_mindsOf_86 : decode cX0_mindsOf 86 = .ok (.return_, 1) := dk_177 (dk_at dksX0_mindsOf_3 16 rfl rfl)
abbrev cX0_within : ByteArray := prog_1_method_75_code
def yX0_within : MethodName := ⟨RX0, "within", "(II)V"⟩
def dkwX0_within_0 : List UInt8 := [27, 155, 0, 8, 27, 28, 161, 0, 8, 42, 180, 0, 90, 191, 177]
abbrev dktX0_within_0 : List UInt8 := dkwX0_within_0 ++ []
theorem dksX0_within_0 : cX0_within.data.toList.drop 0 = dktX0_within_0 := by decide +kernel
theorem dX0_within_0 : decode cX0_within 0 = .ok (.iload_n 1, 1) := dk_27 (dk_at dksX0_within_0 0 rfl rfl)
theorem dX0_within_1 : decode cX0_within 1 = .ok (.ifCond .lt 8, 3) := dk_155 0 8 (dk_at dksX0_within_0 1 rfl rfl)
theorem dX0_within_4 : decode cX0_within 4 = .ok (.iload_n 1, 1) := dk_27 (dk_at dksX0_within_0 4 rfl rfl)
theorem dX0_within_5 : decode cX0_within 5 = .ok (.iload_n 2, 1) := dk_28 (dk_at dksX0_within_0 5 rfl rfl)
theorem dX0_within_6 : decode cX0_within 6 = .ok (.if_icmp .lt 8, 3) := dk_161 0 8 (dk_at dksX0_within_0 6 rfl rfl)
theorem dX0_within_9 : decode cX0_within 9 = .ok (.aload_n 0, 1) := dk_42 (dk_at dksX0_within_0 9 rfl rfl)
theorem dX0_within_10 : decode cX0_within 10 = .ok (.getfield 90, 3) := dk_180 0 90 (dk_at dksX0_within_0 10 rfl rfl)
theorem dX0_within_13 : decode cX0_within 13 = .ok (.athrow, 1) := dk_191 (dk_at dksX0_within_0 13 rfl rfl)
theorem dX0_within_14 : decode cX0_within 14 = .ok (.return_, 1) := dk_177 (dk_at dksX0_within_0 14 rfl rfl)
abbrev cX0_sheet : ByteArray := prog_1_method_77_code
def yX0_sheet : MethodName := ⟨RX0, "sheet", "(III)I"⟩
def dkwX0_sheet_1 : List UInt8 := [164, 0, 5, 2, 172, 42, 180, 0, 83, 27, 50, 28, 29, 182, 1, 121, 4, 172, 58, 4, 16, 242, 172]
abbrev dktX0_sheet_1 : List UInt8 := dkwX0_sheet_1 ++ []
def dkwX0_sheet_0 : List UInt8 := [27, 184, 1, 62, 153, 0, 22, 28, 2, 6, 184, 0, 115, 153, 0, 13, 28, 155, 0, 11, 29, 16, 40]
abbrev dktX0_sheet_0 : List UInt8 := dkwX0_sheet_0 ++ dktX0_sheet_1
theorem dksX0_sheet_0 : cX0_sheet.data.toList.drop 0 = dktX0_sheet_0 := by decide +kernel
theorem dksX0_sheet_1 : cX0_sheet.data.toList.drop 23 = dktX0_sheet_1 := dk_seg dksX0_sheet_0 23 rfl rfl
theorem dX0_sheet_0 : decode cX0_sheet 0 = .ok (.iload_n 1, 1) := dk_27 (dk_at dksX0_sheet_0 0 rfl rfl)
theorem dX0_sheet_1 : decode cX0_sheet 1 = .ok (.invokestatic 318, 3) := dk_184 1 62 (dk_at dksX0_sheet_0 1 rfl rfl)
theorem dX0_sheet_4 : decode cX0_sheet 4 = .ok (.ifCond .eq 22, 3) := dk_153 0 22 (dk_at dksX0_sheet_0 4 rfl rfl)
theorem dX0_sheet_7 : decode cX0_sheet 7 = .ok (.iload_n 2, 1) := dk_28 (dk_at dksX0_sheet_0 7 rfl rfl)
theorem dX0_sheet_8 : decode cX0_sheet 8 = .ok (.iconst (-1), 1) := dk_2 (dk_at dksX0_sheet_0 8 rfl rfl)
theorem dX0_sheet_9 : decode cX0_sheet 9 = .ok (.iconst 3, 1) := dk_6 (dk_at dksX0_sheet_0 9 rfl rfl)
theorem dX0_sheet_10 : decode cX0_sheet 10 = .ok (.invokestatic 115, 3) := dk_184 0 115 (dk_at dksX0_sheet_0 10 rfl rfl)
theorem dX0_sheet_13 : decode cX0_sheet 13 = .ok (.ifCond .eq 13, 3) := dk_153 0 13 (dk_at dksX0_sheet_0 13 rfl rfl)
theorem dX0_sheet_16 : decode cX0_sheet 16 = .ok (.iload_n 2, 1) := dk_28 (dk_at dksX0_sheet_0 16 rfl rfl)
theorem dX0_sheet_17 : decode cX0_sheet 17 = .ok (.ifCond .lt 11, 3) := dk_155 0 11 (dk_at dksX0_sheet_0 17 rfl rfl)
theorem dX0_sheet_20 : decode cX0_sheet 20 = .ok (.iload_n 3, 1) := dk_29 (dk_at dksX0_sheet_0 20 rfl rfl)
theorem dX0_sheet_21 : decode cX0_sheet 21 = .ok (.bipush 40, 2) := dk_16 40 (dk_at dksX0_sheet_0 21 rfl rfl)
theorem dX0_sheet_23 : decode cX0_sheet 23 = .ok (.if_icmp .le 5, 3) := dk_164 0 5 (dk_at dksX0_sheet_1 0 rfl rfl)
theorem dX0_sheet_26 : decode cX0_sheet 26 = .ok (.iconst (-1), 1) := dk_2 (dk_at dksX0_sheet_1 3 rfl rfl)
theorem dX0_sheet_27 : decode cX0_sheet 27 = .ok (.ireturn, 1) := dk_172 (dk_at dksX0_sheet_1 4 rfl rfl)
theorem dX0_sheet_28 : decode cX0_sheet 28 = .ok (.aload_n 0, 1) := dk_42 (dk_at dksX0_sheet_1 5 rfl rfl)
theorem dX0_sheet_29 : decode cX0_sheet 29 = .ok (.getfield 83, 3) := dk_180 0 83 (dk_at dksX0_sheet_1 6 rfl rfl)
theorem dX0_sheet_32 : decode cX0_sheet 32 = .ok (.iload_n 1, 1) := dk_27 (dk_at dksX0_sheet_1 9 rfl rfl)
theorem dX0_sheet_33 : decode cX0_sheet 33 = .ok (.aaload, 1) := dk_50 (dk_at dksX0_sheet_1 10 rfl rfl)
theorem dX0_sheet_34 : decode cX0_sheet 34 = .ok (.iload_n 2, 1) := dk_28 (dk_at dksX0_sheet_1 11 rfl rfl)
theorem dX0_sheet_35 : decode cX0_sheet 35 = .ok (.iload_n 3, 1) := dk_29 (dk_at dksX0_sheet_1 12 rfl rfl)
theorem dX0_sheet_36 : decode cX0_sheet 36 = .ok (.invokevirtual 377, 3) := dk_182 1 121 (dk_at dksX0_sheet_1 13 rfl rfl)
theorem dX0_sheet_39 : decode cX0_sheet 39 = .ok (.iconst 1, 1) := dk_4 (dk_at dksX0_sheet_1 16 rfl rfl)
theorem dX0_sheet_40 : decode cX0_sheet 40 = .ok (.ireturn, 1) := dk_172 (dk_at dksX0_sheet_1 17 rfl rfl)
theorem dX0_sheet_41 : decode cX0_sheet 41 = .ok (.astore 4, 2) := dk_58 4 (dk_at dksX0_sheet_1 18 rfl rfl)
theorem dX0_sheet_43 : decode cX0_sheet 43 = .ok (.bipush (-14), 2) := dk_16 242 (dk_at dksX0_sheet_1 20 rfl rfl)
theorem dX0_sheet_45 : decode cX0_sheet 45 = .ok (.ireturn, 1) := dk_172 (dk_at dksX0_sheet_1 22 rfl rfl)
abbrev cX0_put : ByteArray := prog_1_method_79_code
def yX0_put : MethodName := ⟨RX0, "put", "(III)I"⟩
def dkwX0_put_1 : List UInt8 := [29, 182, 1, 125, 4, 172, 58, 4, 16, 245, 172, 58, 4, 16, 244, 172]
abbrev dktX0_put_1 : List UInt8 := dkwX0_put_1 ++ []
def dkwX0_put_0 : List UInt8 := [27, 184, 1, 62, 154, 0, 5, 2, 172, 42, 42, 42, 180, 0, 83, 27, 50, 182, 1, 65, 182, 1, 69, 28]
abbrev dktX0_put_0 : List UInt8 := dkwX0_put_0 ++ dktX0_put_1
theorem dksX0_put_0 : cX0_put.data.toList.drop 0 = dktX0_put_0 := by decide +kernel
theorem dksX0_put_1 : cX0_put.data.toList.drop 24 = dktX0_put_1 := dk_seg dksX0_put_0 24 rfl rfl
theorem dX0_put_0 : decode cX0_put 0 = .ok (.iload_n 1, 1) := dk_27 (dk_at dksX0_put_0 0 rfl rfl)
theorem dX0_put_1 : decode cX0_put 1 = .ok (.invokestatic 318, 3) := dk_184 1 62 (dk_at dksX0_put_0 1 rfl rfl)
theorem dX0_put_4 : decode cX0_put 4 = .ok (.ifCond .ne 5, 3) := dk_154 0 5 (dk_at dksX0_put_0 4 rfl rfl)
theorem dX0_put_7 : decode cX0_put 7 = .ok (.iconst (-1), 1) := dk_2 (dk_at dksX0_put_0 7 rfl rfl)
theorem dX0_put_8 : decode cX0_put 8 = .ok (.ireturn, 1) := dk_172 (dk_at dksX0_put_0 8 rfl rfl)
theorem dX0_put_9 : decode cX0_put 9 = .ok (.aload_n 0, 1) := dk_42 (dk_at dksX0_put_0 9 rfl rfl)
theorem dX0_put_10 : decode cX0_put 10 = .ok (.aload_n 0, 1) := dk_42 (dk_at dksX0_put_0 10 rfl rfl)
theorem dX0_put_11 : decode cX0_put 11 = .ok (.aload_n 0, 1) := dk_42 (dk_at dksX0_put_0 11 rfl rfl)
theorem dX0_put_12 : decode cX0_put 12 = .ok (.getfield 83, 3) := dk_180 0 83 (dk_at dksX0_put_0 12 rfl rfl)
theorem dX0_put_15 : decode cX0_put 15 = .ok (.iload_n 1, 1) := dk_27 (dk_at dksX0_put_0 15 rfl rfl)
theorem dX0_put_16 : decode cX0_put 16 = .ok (.aaload, 1) := dk_50 (dk_at dksX0_put_0 16 rfl rfl)
theorem dX0_put_17 : decode cX0_put 17 = .ok (.invokevirtual 321, 3) := dk_182 1 65 (dk_at dksX0_put_0 17 rfl rfl)
theorem dX0_put_20 : decode cX0_put 20 = .ok (.invokevirtual 325, 3) := dk_182 1 69 (dk_at dksX0_put_0 20 rfl rfl)
theorem dX0_put_23 : decode cX0_put 23 = .ok (.iload_n 2, 1) := dk_28 (dk_at dksX0_put_0 23 rfl rfl)
theorem dX0_put_24 : decode cX0_put 24 = .ok (.iload_n 3, 1) := dk_29 (dk_at dksX0_put_1 0 rfl rfl)
theorem dX0_put_25 : decode cX0_put 25 = .ok (.invokevirtual 381, 3) := dk_182 1 125 (dk_at dksX0_put_1 1 rfl rfl)
theorem dX0_put_28 : decode cX0_put 28 = .ok (.iconst 1, 1) := dk_4 (dk_at dksX0_put_1 4 rfl rfl)
theorem dX0_put_29 : decode cX0_put 29 = .ok (.ireturn, 1) := dk_172 (dk_at dksX0_put_1 5 rfl rfl)
theorem dX0_put_30 : decode cX0_put 30 = .ok (.astore 4, 2) := dk_58 4 (dk_at dksX0_put_1 6 rfl rfl)
theorem dX0_put_32 : decode cX0_put 32 = .ok (.bipush (-11), 2) := dk_16 245 (dk_at dksX0_put_1 8 rfl rfl)
theorem dX0_put_34 : decode cX0_put 34 = .ok (.ireturn, 1) := dk_172 (dk_at dksX0_put_1 10 rfl rfl)
theorem dX0_put_35 : decode cX0_put 35 = .ok (.astore 4, 2) := dk_58 4 (dk_at dksX0_put_1 11 rfl rfl)
theorem dX0_put_37 : decode cX0_put 37 = .ok (.bipush (-12), 2) := dk_16 244 (dk_at dksX0_put_1 13 rfl rfl)
theorem dX0_put_39 : decode cX0_put 39 = .ok (.ireturn, 1) := dk_172 (dk_at dksX0_put_1 15 rfl rfl)
abbrev cX0_set_2 : ByteArray := prog_1_method_78_code
def yX0_set_2 : MethodName := ⟨RX0, "set", "(Ljava/lang/Object;II)V"⟩
def dkwX0_set_2_3 : List UInt8 := [177]
abbrev dktX0_set_2_3 : List UInt8 := dkwX0_set_2_3 ++ []
def dkwX0_set_2_2 : List UInt8 := [193, 1, 45, 153, 0, 14, 43, 192, 1, 45, 28, 29, 133, 80, 167, 0, 10, 43, 192, 1, 47, 28, 29, 79]
abbrev dktX0_set_2_2 : List UInt8 := dkwX0_set_2_2 ++ dktX0_set_2_3
def dkwX0_set_2_1 : List UInt8 := [167, 0, 46, 43, 193, 1, 43, 153, 0, 14, 43, 192, 1, 43, 28, 29, 147, 86, 167, 0, 28, 43]
abbrev dktX0_set_2_1 : List UInt8 := dkwX0_set_2_1 ++ dktX0_set_2_2
def dkwX0_set_2_0 : List UInt8 := [42, 28, 43, 184, 1, 48, 182, 1, 107, 43, 193, 1, 42, 153, 0, 14, 43, 192, 1, 42, 28, 29, 145, 84]
abbrev dktX0_set_2_0 : List UInt8 := dkwX0_set_2_0 ++ dktX0_set_2_1
theorem dksX0_set_2_0 : cX0_set_2.data.toList.drop 0 = dktX0_set_2_0 := by decide +kernel
theorem dksX0_set_2_1 : cX0_set_2.data.toList.drop 24 = dktX0_set_2_1 := dk_seg dksX0_set_2_0 24 rfl rfl
theorem dksX0_set_2_2 : cX0_set_2.data.toList.drop 46 = dktX0_set_2_2 := dk_seg dksX0_set_2_1 22 rfl rfl
theorem dksX0_set_2_3 : cX0_set_2.data.toList.drop 70 = dktX0_set_2_3 := dk_seg dksX0_set_2_2 24 rfl rfl
theorem dX0_set_2_0 : decode cX0_set_2 0 = .ok (.aload_n 0, 1) := dk_42 (dk_at dksX0_set_2_0 0 rfl rfl)
theorem dX0_set_2_1 : decode cX0_set_2 1 = .ok (.iload_n 2, 1) := dk_28 (dk_at dksX0_set_2_0 1 rfl rfl)
theorem dX0_set_2_2 : decode cX0_set_2 2 = .ok (.aload_n 1, 1) := dk_43 (dk_at dksX0_set_2_0 2 rfl rfl)
theorem dX0_set_2_3 : decode cX0_set_2 3 = .ok (.invokestatic 304, 3) := dk_184 1 48 (dk_at dksX0_set_2_0 3 rfl rfl)
theorem dX0_set_2_6 : decode cX0_set_2 6 = .ok (.invokevirtual 363, 3) := dk_182 1 107 (dk_at dksX0_set_2_0 6 rfl rfl)
theorem dX0_set_2_9 : decode cX0_set_2 9 = .ok (.aload_n 1, 1) := dk_43 (dk_at dksX0_set_2_0 9 rfl rfl)
theorem dX0_set_2_10 : decode cX0_set_2 10 = .ok (.instanceof 298, 3) := dk_193 1 42 (dk_at dksX0_set_2_0 10 rfl rfl)
theorem dX0_set_2_13 : decode cX0_set_2 13 = .ok (.ifCond .eq 14, 3) := dk_153 0 14 (dk_at dksX0_set_2_0 13 rfl rfl)
theorem dX0_set_2_16 : decode cX0_set_2 16 = .ok (.aload_n 1, 1) := dk_43 (dk_at dksX0_set_2_0 16 rfl rfl)
theorem dX0_set_2_17 : decode cX0_set_2 17 = .ok (.checkcast 298, 3) := dk_192 1 42 (dk_at dksX0_set_2_0 17 rfl rfl)
theorem dX0_set_2_20 : decode cX0_set_2 20 = .ok (.iload_n 2, 1) := dk_28 (dk_at dksX0_set_2_0 20 rfl rfl)
theorem dX0_set_2_21 : decode cX0_set_2 21 = .ok (.iload_n 3, 1) := dk_29 (dk_at dksX0_set_2_0 21 rfl rfl)
theorem dX0_set_2_22 : decode cX0_set_2 22 = .ok (.i2b, 1) := dk_145 (dk_at dksX0_set_2_0 22 rfl rfl)
theorem dX0_set_2_23 : decode cX0_set_2 23 = .ok (.bastore, 1) := dk_84 (dk_at dksX0_set_2_0 23 rfl rfl)
theorem dX0_set_2_24 : decode cX0_set_2 24 = .ok (.goto 46, 3) := dk_167 0 46 (dk_at dksX0_set_2_1 0 rfl rfl)
theorem dX0_set_2_27 : decode cX0_set_2 27 = .ok (.aload_n 1, 1) := dk_43 (dk_at dksX0_set_2_1 3 rfl rfl)
theorem dX0_set_2_28 : decode cX0_set_2 28 = .ok (.instanceof 299, 3) := dk_193 1 43 (dk_at dksX0_set_2_1 4 rfl rfl)
theorem dX0_set_2_31 : decode cX0_set_2 31 = .ok (.ifCond .eq 14, 3) := dk_153 0 14 (dk_at dksX0_set_2_1 7 rfl rfl)
theorem dX0_set_2_34 : decode cX0_set_2 34 = .ok (.aload_n 1, 1) := dk_43 (dk_at dksX0_set_2_1 10 rfl rfl)
theorem dX0_set_2_35 : decode cX0_set_2 35 = .ok (.checkcast 299, 3) := dk_192 1 43 (dk_at dksX0_set_2_1 11 rfl rfl)
theorem dX0_set_2_38 : decode cX0_set_2 38 = .ok (.iload_n 2, 1) := dk_28 (dk_at dksX0_set_2_1 14 rfl rfl)
theorem dX0_set_2_39 : decode cX0_set_2 39 = .ok (.iload_n 3, 1) := dk_29 (dk_at dksX0_set_2_1 15 rfl rfl)
theorem dX0_set_2_40 : decode cX0_set_2 40 = .ok (.i2s, 1) := dk_147 (dk_at dksX0_set_2_1 16 rfl rfl)
theorem dX0_set_2_41 : decode cX0_set_2 41 = .ok (.sastore, 1) := dk_86 (dk_at dksX0_set_2_1 17 rfl rfl)
theorem dX0_set_2_42 : decode cX0_set_2 42 = .ok (.goto 28, 3) := dk_167 0 28 (dk_at dksX0_set_2_1 18 rfl rfl)
theorem dX0_set_2_45 : decode cX0_set_2 45 = .ok (.aload_n 1, 1) := dk_43 (dk_at dksX0_set_2_1 21 rfl rfl)
theorem dX0_set_2_46 : decode cX0_set_2 46 = .ok (.instanceof 301, 3) := dk_193 1 45 (dk_at dksX0_set_2_2 0 rfl rfl)
theorem dX0_set_2_49 : decode cX0_set_2 49 = .ok (.ifCond .eq 14, 3) := dk_153 0 14 (dk_at dksX0_set_2_2 3 rfl rfl)
theorem dX0_set_2_52 : decode cX0_set_2 52 = .ok (.aload_n 1, 1) := dk_43 (dk_at dksX0_set_2_2 6 rfl rfl)
theorem dX0_set_2_53 : decode cX0_set_2 53 = .ok (.checkcast 301, 3) := dk_192 1 45 (dk_at dksX0_set_2_2 7 rfl rfl)
theorem dX0_set_2_56 : decode cX0_set_2 56 = .ok (.iload_n 2, 1) := dk_28 (dk_at dksX0_set_2_2 10 rfl rfl)
theorem dX0_set_2_57 : decode cX0_set_2 57 = .ok (.iload_n 3, 1) := dk_29 (dk_at dksX0_set_2_2 11 rfl rfl)
theorem dX0_set_2_58 : decode cX0_set_2 58 = .ok (.i2l, 1) := dk_133 (dk_at dksX0_set_2_2 12 rfl rfl)
theorem dX0_set_2_59 : decode cX0_set_2 59 = .ok (.lastore, 1) := dk_80 (dk_at dksX0_set_2_2 13 rfl rfl)
theorem dX0_set_2_60 : decode cX0_set_2 60 = .ok (.goto 10, 3) := dk_167 0 10 (dk_at dksX0_set_2_2 14 rfl rfl)
theorem dX0_set_2_63 : decode cX0_set_2 63 = .ok (.aload_n 1, 1) := dk_43 (dk_at dksX0_set_2_2 17 rfl rfl)
theorem dX0_set_2_64 : decode cX0_set_2 64 = .ok (.checkcast 303, 3) := dk_192 1 47 (dk_at dksX0_set_2_2 18 rfl rfl)
theorem dX0_set_2_67 : decode cX0_set_2 67 = .ok (.iload_n 2, 1) := dk_28 (dk_at dksX0_set_2_2 21 rfl rfl)
theorem dX0_set_2_68 : decode cX0_set_2 68 = .ok (.iload_n 3, 1) := dk_29 (dk_at dksX0_set_2_2 22 rfl rfl)
theorem dX0_set_2_69 : decode cX0_set_2 69 = .ok (.iastore, 1) := dk_79 (dk_at dksX0_set_2_2 23 rfl rfl)
theorem dX0_set_2_70 : decode cX0_set_2 70 = .ok (.return_, 1) := dk_177 (dk_at dksX0_set_2_3 0 rfl rfl)
abbrev cX0_item : ByteArray := prog_1_method_85_code
def yX0_item : MethodName := ⟨RX0, "item", "(III)I"⟩
def dkwX0_item_2 : List UInt8 := [58, 4, 16, 244, 172]
abbrev dktX0_item_2 : List UInt8 := dkwX0_item_2 ++ []
def dkwX0_item_1 : List UInt8 := [27, 50, 182, 1, 65, 182, 1, 69, 28, 29, 182, 1, 145, 172, 58, 4, 16, 245, 172, 58, 4, 16, 243, 172]
abbrev dktX0_item_1 : List UInt8 := dkwX0_item_1 ++ dktX0_item_2
def dkwX0_item_0 : List UInt8 := [27, 184, 1, 62, 153, 0, 12, 28, 3, 6, 184, 0, 115, 154, 0, 5, 2, 172, 42, 42, 42, 180, 0, 83]
abbrev dktX0_item_0 : List UInt8 := dkwX0_item_0 ++ dktX0_item_1
theorem dksX0_item_0 : cX0_item.data.toList.drop 0 = dktX0_item_0 := by decide +kernel
theorem dksX0_item_1 : cX0_item.data.toList.drop 24 = dktX0_item_1 := dk_seg dksX0_item_0 24 rfl rfl
theorem dksX0_item_2 : cX0_item.data.toList.drop 48 = dktX0_item_2 := dk_seg dksX0_item_1 24 rfl rfl
theorem dX0_item_0 : decode cX0_item 0 = .ok (.iload_n 1, 1) := dk_27 (dk_at dksX0_item_0 0 rfl rfl)
theorem dX0_item_1 : decode cX0_item 1 = .ok (.invokestatic 318, 3) := dk_184 1 62 (dk_at dksX0_item_0 1 rfl rfl)
theorem dX0_item_4 : decode cX0_item 4 = .ok (.ifCond .eq 12, 3) := dk_153 0 12 (dk_at dksX0_item_0 4 rfl rfl)
theorem dX0_item_7 : decode cX0_item 7 = .ok (.iload_n 2, 1) := dk_28 (dk_at dksX0_item_0 7 rfl rfl)
theorem dX0_item_8 : decode cX0_item 8 = .ok (.iconst 0, 1) := dk_3 (dk_at dksX0_item_0 8 rfl rfl)
theorem dX0_item_9 : decode cX0_item 9 = .ok (.iconst 3, 1) := dk_6 (dk_at dksX0_item_0 9 rfl rfl)
theorem dX0_item_10 : decode cX0_item 10 = .ok (.invokestatic 115, 3) := dk_184 0 115 (dk_at dksX0_item_0 10 rfl rfl)
theorem dX0_item_13 : decode cX0_item 13 = .ok (.ifCond .ne 5, 3) := dk_154 0 5 (dk_at dksX0_item_0 13 rfl rfl)
theorem dX0_item_16 : decode cX0_item 16 = .ok (.iconst (-1), 1) := dk_2 (dk_at dksX0_item_0 16 rfl rfl)
theorem dX0_item_17 : decode cX0_item 17 = .ok (.ireturn, 1) := dk_172 (dk_at dksX0_item_0 17 rfl rfl)
theorem dX0_item_18 : decode cX0_item 18 = .ok (.aload_n 0, 1) := dk_42 (dk_at dksX0_item_0 18 rfl rfl)
theorem dX0_item_19 : decode cX0_item 19 = .ok (.aload_n 0, 1) := dk_42 (dk_at dksX0_item_0 19 rfl rfl)
theorem dX0_item_20 : decode cX0_item 20 = .ok (.aload_n 0, 1) := dk_42 (dk_at dksX0_item_0 20 rfl rfl)
theorem dX0_item_21 : decode cX0_item 21 = .ok (.getfield 83, 3) := dk_180 0 83 (dk_at dksX0_item_0 21 rfl rfl)
theorem dX0_item_24 : decode cX0_item 24 = .ok (.iload_n 1, 1) := dk_27 (dk_at dksX0_item_1 0 rfl rfl)
theorem dX0_item_25 : decode cX0_item 25 = .ok (.aaload, 1) := dk_50 (dk_at dksX0_item_1 1 rfl rfl)
theorem dX0_item_26 : decode cX0_item 26 = .ok (.invokevirtual 321, 3) := dk_182 1 65 (dk_at dksX0_item_1 2 rfl rfl)
theorem dX0_item_29 : decode cX0_item 29 = .ok (.invokevirtual 325, 3) := dk_182 1 69 (dk_at dksX0_item_1 5 rfl rfl)
theorem dX0_item_32 : decode cX0_item 32 = .ok (.iload_n 2, 1) := dk_28 (dk_at dksX0_item_1 8 rfl rfl)
theorem dX0_item_33 : decode cX0_item 33 = .ok (.iload_n 3, 1) := dk_29 (dk_at dksX0_item_1 9 rfl rfl)
theorem dX0_item_34 : decode cX0_item 34 = .ok (.invokevirtual 401, 3) := dk_182 1 145 (dk_at dksX0_item_1 10 rfl rfl)
theorem dX0_item_37 : decode cX0_item 37 = .ok (.ireturn, 1) := dk_172 (dk_at dksX0_item_1 13 rfl rfl)
theorem dX0_item_38 : decode cX0_item 38 = .ok (.astore 4, 2) := dk_58 4 (dk_at dksX0_item_1 14 rfl rfl)
theorem dX0_item_40 : decode cX0_item 40 = .ok (.bipush (-11), 2) := dk_16 245 (dk_at dksX0_item_1 16 rfl rfl)
theorem dX0_item_42 : decode cX0_item 42 = .ok (.ireturn, 1) := dk_172 (dk_at dksX0_item_1 18 rfl rfl)
theorem dX0_item_43 : decode cX0_item 43 = .ok (.astore 4, 2) := dk_58 4 (dk_at dksX0_item_1 19 rfl rfl)
theorem dX0_item_45 : decode cX0_item 45 = .ok (.bipush (-13), 2) := dk_16 243 (dk_at dksX0_item_1 21 rfl rfl)
theorem dX0_item_47 : decode cX0_item 47 = .ok (.ireturn, 1) := dk_172 (dk_at dksX0_item_1 23 rfl rfl)
theorem dX0_item_48 : decode cX0_item 48 = .ok (.astore 4, 2) := dk_58 4 (dk_at dksX0_item_2 0 rfl rfl)
theorem dX0_item_50 : decode cX0_item 50 = .ok (.bipush (-12), 2) := dk_16 244 (dk_at dksX0_item_2 2 rfl rfl)
theorem dX0_item_52 : decode cX0_item 52 = .ok (.ireturn, 1) := dk_172 (dk_at dksX0_item_2 4 rfl rfl)
abbrev cX0_itemOf : ByteArray := prog_1_method_84_code
def yX0_itemOf : MethodName := ⟨RX0, "itemOf", "(Ljava/lang/Object;II)I"⟩
def dkwX0_itemOf_3 : List UInt8 := [192, 1, 47, 29, 182, 1, 137, 172, 42, 43, 192, 1, 45, 29, 182, 1, 141, 172]
abbrev dktX0_itemOf_3 : List UInt8 := dkwX0_itemOf_3 ++ []
def dkwX0_itemOf_2 : List UInt8 := [42, 43, 192, 1, 42, 29, 182, 1, 129, 172, 42, 43, 192, 1, 43, 29, 182, 1, 133, 172, 42, 43]
abbrev dktX0_itemOf_2 : List UInt8 := dkwX0_itemOf_2 ++ dktX0_itemOf_3
def dkwX0_itemOf_1 : List UInt8 := [170, 0, 0, 0, 0, 0, 57, 0, 0, 0, 0, 0, 0, 0, 2, 0, 0, 0, 27, 0, 0, 0, 37, 0, 0, 0, 47]
abbrev dktX0_itemOf_1 : List UInt8 := dkwX0_itemOf_1 ++ dktX0_itemOf_2
def dkwX0_itemOf_0 : List UInt8 := [28]
abbrev dktX0_itemOf_0 : List UInt8 := dkwX0_itemOf_0 ++ dktX0_itemOf_1
theorem dksX0_itemOf_0 : cX0_itemOf.data.toList.drop 0 = dktX0_itemOf_0 := by decide +kernel
theorem dksX0_itemOf_1 : cX0_itemOf.data.toList.drop 1 = dktX0_itemOf_1 := dk_seg dksX0_itemOf_0 1 rfl rfl
theorem dksX0_itemOf_2 : cX0_itemOf.data.toList.drop 28 = dktX0_itemOf_2 := dk_seg dksX0_itemOf_1 27 rfl rfl
theorem dksX0_itemOf_3 : cX0_itemOf.data.toList.drop 50 = dktX0_itemOf_3 := dk_seg dksX0_itemOf_2 22 rfl rfl
theorem dX0_itemOf_0 : decode cX0_itemOf 0 = .ok (.iload_n 2, 1) := dk_28 (dk_at dksX0_itemOf_0 0 rfl rfl)
theorem dX0_itemOf_1 : decode cX0_itemOf 1 = .ok (.tableswitch 57 0 2 #[27, 37, 47], 27) := by decide +kernel
theorem dX0_itemOf_28 : decode cX0_itemOf 28 = .ok (.aload_n 0, 1) := dk_42 (dk_at dksX0_itemOf_2 0 rfl rfl)
theorem dX0_itemOf_29 : decode cX0_itemOf 29 = .ok (.aload_n 1, 1) := dk_43 (dk_at dksX0_itemOf_2 1 rfl rfl)
theorem dX0_itemOf_30 : decode cX0_itemOf 30 = .ok (.checkcast 298, 3) := dk_192 1 42 (dk_at dksX0_itemOf_2 2 rfl rfl)
theorem dX0_itemOf_33 : decode cX0_itemOf 33 = .ok (.iload_n 3, 1) := dk_29 (dk_at dksX0_itemOf_2 5 rfl rfl)
theorem dX0_itemOf_34 : decode cX0_itemOf 34 = .ok (.invokevirtual 385, 3) := dk_182 1 129 (dk_at dksX0_itemOf_2 6 rfl rfl)
theorem dX0_itemOf_37 : decode cX0_itemOf 37 = .ok (.ireturn, 1) := dk_172 (dk_at dksX0_itemOf_2 9 rfl rfl)
theorem dX0_itemOf_38 : decode cX0_itemOf 38 = .ok (.aload_n 0, 1) := dk_42 (dk_at dksX0_itemOf_2 10 rfl rfl)
theorem dX0_itemOf_39 : decode cX0_itemOf 39 = .ok (.aload_n 1, 1) := dk_43 (dk_at dksX0_itemOf_2 11 rfl rfl)
theorem dX0_itemOf_40 : decode cX0_itemOf 40 = .ok (.checkcast 299, 3) := dk_192 1 43 (dk_at dksX0_itemOf_2 12 rfl rfl)
theorem dX0_itemOf_43 : decode cX0_itemOf 43 = .ok (.iload_n 3, 1) := dk_29 (dk_at dksX0_itemOf_2 15 rfl rfl)
theorem dX0_itemOf_44 : decode cX0_itemOf 44 = .ok (.invokevirtual 389, 3) := dk_182 1 133 (dk_at dksX0_itemOf_2 16 rfl rfl)
theorem dX0_itemOf_47 : decode cX0_itemOf 47 = .ok (.ireturn, 1) := dk_172 (dk_at dksX0_itemOf_2 19 rfl rfl)
theorem dX0_itemOf_48 : decode cX0_itemOf 48 = .ok (.aload_n 0, 1) := dk_42 (dk_at dksX0_itemOf_2 20 rfl rfl)
theorem dX0_itemOf_49 : decode cX0_itemOf 49 = .ok (.aload_n 1, 1) := dk_43 (dk_at dksX0_itemOf_2 21 rfl rfl)
theorem dX0_itemOf_50 : decode cX0_itemOf 50 = .ok (.checkcast 303, 3) := dk_192 1 47 (dk_at dksX0_itemOf_3 0 rfl rfl)
theorem dX0_itemOf_53 : decode cX0_itemOf 53 = .ok (.iload_n 3, 1) := dk_29 (dk_at dksX0_itemOf_3 3 rfl rfl)
theorem dX0_itemOf_54 : decode cX0_itemOf 54 = .ok (.invokevirtual 393, 3) := dk_182 1 137 (dk_at dksX0_itemOf_3 4 rfl rfl)
theorem dX0_itemOf_57 : decode cX0_itemOf 57 = .ok (.ireturn, 1) := dk_172 (dk_at dksX0_itemOf_3 7 rfl rfl)
theorem dX0_itemOf_58 : decode cX0_itemOf 58 = .ok (.aload_n 0, 1) := dk_42 (dk_at dksX0_itemOf_3 8 rfl rfl)
theorem dX0_itemOf_59 : decode cX0_itemOf 59 = .ok (.aload_n 1, 1) := dk_43 (dk_at dksX0_itemOf_3 9 rfl rfl)
theorem dX0_itemOf_60 : decode cX0_itemOf 60 = .ok (.checkcast 301, 3) := dk_192 1 45 (dk_at dksX0_itemOf_3 10 rfl rfl)
theorem dX0_itemOf_63 : decode cX0_itemOf 63 = .ok (.iload_n 3, 1) := dk_29 (dk_at dksX0_itemOf_3 13 rfl rfl)
theorem dX0_itemOf_64 : decode cX0_itemOf 64 = .ok (.invokevirtual 397, 3) := dk_182 1 141 (dk_at dksX0_itemOf_3 14 rfl rfl)
theorem dX0_itemOf_67 : decode cX0_itemOf 67 = .ok (.ireturn, 1) := dk_172 (dk_at dksX0_itemOf_3 17 rfl rfl)
abbrev cX0_byteAt : ByteArray := prog_1_method_80_code
def yX0_byteAt : MethodName := ⟨RX0, "byteAt", "([BI)I"⟩
def dkwX0_byteAt_0 : List UInt8 := [42, 28, 43, 190, 182, 1, 107, 43, 28, 51, 172]
abbrev dktX0_byteAt_0 : List UInt8 := dkwX0_byteAt_0 ++ []
theorem dksX0_byteAt_0 : cX0_byteAt.data.toList.drop 0 = dktX0_byteAt_0 := by decide +kernel
theorem dX0_byteAt_0 : decode cX0_byteAt 0 = .ok (.aload_n 0, 1) := dk_42 (dk_at dksX0_byteAt_0 0 rfl rfl)
theorem dX0_byteAt_1 : decode cX0_byteAt 1 = .ok (.iload_n 2, 1) := dk_28 (dk_at dksX0_byteAt_0 1 rfl rfl)
theorem dX0_byteAt_2 : decode cX0_byteAt 2 = .ok (.aload_n 1, 1) := dk_43 (dk_at dksX0_byteAt_0 2 rfl rfl)
theorem dX0_byteAt_3 : decode cX0_byteAt 3 = .ok (.arraylength, 1) := dk_190 (dk_at dksX0_byteAt_0 3 rfl rfl)
theorem dX0_byteAt_4 : decode cX0_byteAt 4 = .ok (.invokevirtual 363, 3) := dk_182 1 107 (dk_at dksX0_byteAt_0 4 rfl rfl)
theorem dX0_byteAt_7 : decode cX0_byteAt 7 = .ok (.aload_n 1, 1) := dk_43 (dk_at dksX0_byteAt_0 7 rfl rfl)
theorem dX0_byteAt_8 : decode cX0_byteAt 8 = .ok (.iload_n 2, 1) := dk_28 (dk_at dksX0_byteAt_0 8 rfl rfl)
theorem dX0_byteAt_9 : decode cX0_byteAt 9 = .ok (.baload, 1) := dk_51 (dk_at dksX0_byteAt_0 9 rfl rfl)
theorem dX0_byteAt_10 : decode cX0_byteAt 10 = .ok (.ireturn, 1) := dk_172 (dk_at dksX0_byteAt_0 10 rfl rfl)
abbrev cX0_shortAt : ByteArray := prog_1_method_81_code
def yX0_shortAt : MethodName := ⟨RX0, "shortAt", "([SI)I"⟩
def dkwX0_shortAt_0 : List UInt8 := [42, 28, 43, 190, 182, 1, 107, 43, 28, 53, 172]
abbrev dktX0_shortAt_0 : List UInt8 := dkwX0_shortAt_0 ++ []
theorem dksX0_shortAt_0 : cX0_shortAt.data.toList.drop 0 = dktX0_shortAt_0 := by decide +kernel
theorem dX0_shortAt_0 : decode cX0_shortAt 0 = .ok (.aload_n 0, 1) := dk_42 (dk_at dksX0_shortAt_0 0 rfl rfl)
theorem dX0_shortAt_1 : decode cX0_shortAt 1 = .ok (.iload_n 2, 1) := dk_28 (dk_at dksX0_shortAt_0 1 rfl rfl)
theorem dX0_shortAt_2 : decode cX0_shortAt 2 = .ok (.aload_n 1, 1) := dk_43 (dk_at dksX0_shortAt_0 2 rfl rfl)
theorem dX0_shortAt_3 : decode cX0_shortAt 3 = .ok (.arraylength, 1) := dk_190 (dk_at dksX0_shortAt_0 3 rfl rfl)
theorem dX0_shortAt_4 : decode cX0_shortAt 4 = .ok (.invokevirtual 363, 3) := dk_182 1 107 (dk_at dksX0_shortAt_0 4 rfl rfl)
theorem dX0_shortAt_7 : decode cX0_shortAt 7 = .ok (.aload_n 1, 1) := dk_43 (dk_at dksX0_shortAt_0 7 rfl rfl)
theorem dX0_shortAt_8 : decode cX0_shortAt 8 = .ok (.iload_n 2, 1) := dk_28 (dk_at dksX0_shortAt_0 8 rfl rfl)
theorem dX0_shortAt_9 : decode cX0_shortAt 9 = .ok (.saload, 1) := dk_53 (dk_at dksX0_shortAt_0 9 rfl rfl)
theorem dX0_shortAt_10 : decode cX0_shortAt 10 = .ok (.ireturn, 1) := dk_172 (dk_at dksX0_shortAt_0 10 rfl rfl)
abbrev cX0_intAt : ByteArray := prog_1_method_82_code
def yX0_intAt : MethodName := ⟨RX0, "intAt", "([II)I"⟩
def dkwX0_intAt_0 : List UInt8 := [42, 28, 43, 190, 182, 1, 107, 43, 28, 46, 172]
abbrev dktX0_intAt_0 : List UInt8 := dkwX0_intAt_0 ++ []
theorem dksX0_intAt_0 : cX0_intAt.data.toList.drop 0 = dktX0_intAt_0 := by decide +kernel
theorem dX0_intAt_0 : decode cX0_intAt 0 = .ok (.aload_n 0, 1) := dk_42 (dk_at dksX0_intAt_0 0 rfl rfl)
theorem dX0_intAt_1 : decode cX0_intAt 1 = .ok (.iload_n 2, 1) := dk_28 (dk_at dksX0_intAt_0 1 rfl rfl)
theorem dX0_intAt_2 : decode cX0_intAt 2 = .ok (.aload_n 1, 1) := dk_43 (dk_at dksX0_intAt_0 2 rfl rfl)
theorem dX0_intAt_3 : decode cX0_intAt 3 = .ok (.arraylength, 1) := dk_190 (dk_at dksX0_intAt_0 3 rfl rfl)
theorem dX0_intAt_4 : decode cX0_intAt 4 = .ok (.invokevirtual 363, 3) := dk_182 1 107 (dk_at dksX0_intAt_0 4 rfl rfl)
theorem dX0_intAt_7 : decode cX0_intAt 7 = .ok (.aload_n 1, 1) := dk_43 (dk_at dksX0_intAt_0 7 rfl rfl)
theorem dX0_intAt_8 : decode cX0_intAt 8 = .ok (.iload_n 2, 1) := dk_28 (dk_at dksX0_intAt_0 8 rfl rfl)
theorem dX0_intAt_9 : decode cX0_intAt 9 = .ok (.iaload, 1) := dk_46 (dk_at dksX0_intAt_0 9 rfl rfl)
theorem dX0_intAt_10 : decode cX0_intAt 10 = .ok (.ireturn, 1) := dk_172 (dk_at dksX0_intAt_0 10 rfl rfl)
abbrev cX0_longAt : ByteArray := prog_1_method_83_code
def yX0_longAt : MethodName := ⟨RX0, "longAt", "([JI)I"⟩
def dkwX0_longAt_0 : List UInt8 := [42, 28, 43, 190, 182, 1, 107, 43, 28, 47, 136, 172]
abbrev dktX0_longAt_0 : List UInt8 := dkwX0_longAt_0 ++ []
theorem dksX0_longAt_0 : cX0_longAt.data.toList.drop 0 = dktX0_longAt_0 := by decide +kernel
theorem dX0_longAt_0 : decode cX0_longAt 0 = .ok (.aload_n 0, 1) := dk_42 (dk_at dksX0_longAt_0 0 rfl rfl)
theorem dX0_longAt_1 : decode cX0_longAt 1 = .ok (.iload_n 2, 1) := dk_28 (dk_at dksX0_longAt_0 1 rfl rfl)
theorem dX0_longAt_2 : decode cX0_longAt 2 = .ok (.aload_n 1, 1) := dk_43 (dk_at dksX0_longAt_0 2 rfl rfl)
theorem dX0_longAt_3 : decode cX0_longAt 3 = .ok (.arraylength, 1) := dk_190 (dk_at dksX0_longAt_0 3 rfl rfl)
theorem dX0_longAt_4 : decode cX0_longAt 4 = .ok (.invokevirtual 363, 3) := dk_182 1 107 (dk_at dksX0_longAt_0 4 rfl rfl)
theorem dX0_longAt_7 : decode cX0_longAt 7 = .ok (.aload_n 1, 1) := dk_43 (dk_at dksX0_longAt_0 7 rfl rfl)
theorem dX0_longAt_8 : decode cX0_longAt 8 = .ok (.iload_n 2, 1) := dk_28 (dk_at dksX0_longAt_0 8 rfl rfl)
theorem dX0_longAt_9 : decode cX0_longAt 9 = .ok (.laload, 1) := dk_47 (dk_at dksX0_longAt_0 9 rfl rfl)
theorem dX0_longAt_10 : decode cX0_longAt 10 = .ok (.l2i, 1) := dk_136 (dk_at dksX0_longAt_0 10 rfl rfl)
theorem dX0_longAt_11 : decode cX0_longAt 11 = .ok (.ireturn, 1) := dk_172 (dk_at dksX0_longAt_0 11 rfl rfl)
abbrev cX0_shelf : ByteArray := prog_1_method_89_code
def yX0_shelf : MethodName := ⟨RX0, "shelf", "(III)I"⟩
def dkwX0_shelf_4 : List UInt8 := [181, 1, 162, 4, 172]
abbrev dktX0_shelf_4 : List UInt8 := dkwX0_shelf_4 ++ []
def dkwX0_shelf_3 : List UInt8 := [42, 180, 0, 107, 27, 50, 28, 4, 160, 0, 15, 42, 180, 0, 83, 29, 50, 182, 1, 65, 167, 0, 4, 1]
abbrev dktX0_shelf_3 : List UInt8 := dkwX0_shelf_3 ++ dktX0_shelf_4
def dkwX0_shelf_2 : List UInt8 := [27, 50, 28, 181, 1, 152, 42, 180, 0, 107, 27, 50, 28, 154, 0, 7, 29, 167, 0, 4, 3, 181, 1, 155]
abbrev dktX0_shelf_2 : List UInt8 := dkwX0_shelf_2 ++ dktX0_shelf_3
def dkwX0_shelf_1 : List UInt8 := [182, 0, 244, 153, 0, 15, 28, 4, 160, 0, 12, 29, 184, 1, 62, 154, 0, 5, 2, 172, 42, 180, 0, 107]
abbrev dktX0_shelf_1 : List UInt8 := dkwX0_shelf_1 ++ dktX0_shelf_2
def dkwX0_shelf_0 : List UInt8 := [27, 184, 1, 165, 153, 0, 36, 28, 3, 5, 184, 0, 115, 153, 0, 27, 28, 154, 0, 11, 42, 29]
abbrev dktX0_shelf_0 : List UInt8 := dkwX0_shelf_0 ++ dktX0_shelf_1
theorem dksX0_shelf_0 : cX0_shelf.data.toList.drop 0 = dktX0_shelf_0 := by decide +kernel
theorem dksX0_shelf_1 : cX0_shelf.data.toList.drop 22 = dktX0_shelf_1 := dk_seg dksX0_shelf_0 22 rfl rfl
theorem dksX0_shelf_2 : cX0_shelf.data.toList.drop 46 = dktX0_shelf_2 := dk_seg dksX0_shelf_1 24 rfl rfl
theorem dksX0_shelf_3 : cX0_shelf.data.toList.drop 70 = dktX0_shelf_3 := dk_seg dksX0_shelf_2 24 rfl rfl
theorem dksX0_shelf_4 : cX0_shelf.data.toList.drop 94 = dktX0_shelf_4 := dk_seg dksX0_shelf_3 24 rfl rfl
theorem dX0_shelf_0 : decode cX0_shelf 0 = .ok (.iload_n 1, 1) := dk_27 (dk_at dksX0_shelf_0 0 rfl rfl)
theorem dX0_shelf_1 : decode cX0_shelf 1 = .ok (.invokestatic 421, 3) := dk_184 1 165 (dk_at dksX0_shelf_0 1 rfl rfl)
theorem dX0_shelf_4 : decode cX0_shelf 4 = .ok (.ifCond .eq 36, 3) := dk_153 0 36 (dk_at dksX0_shelf_0 4 rfl rfl)
theorem dX0_shelf_7 : decode cX0_shelf 7 = .ok (.iload_n 2, 1) := dk_28 (dk_at dksX0_shelf_0 7 rfl rfl)
theorem dX0_shelf_8 : decode cX0_shelf 8 = .ok (.iconst 0, 1) := dk_3 (dk_at dksX0_shelf_0 8 rfl rfl)
theorem dX0_shelf_9 : decode cX0_shelf 9 = .ok (.iconst 2, 1) := dk_5 (dk_at dksX0_shelf_0 9 rfl rfl)
theorem dX0_shelf_10 : decode cX0_shelf 10 = .ok (.invokestatic 115, 3) := dk_184 0 115 (dk_at dksX0_shelf_0 10 rfl rfl)
theorem dX0_shelf_13 : decode cX0_shelf 13 = .ok (.ifCond .eq 27, 3) := dk_153 0 27 (dk_at dksX0_shelf_0 13 rfl rfl)
theorem dX0_shelf_16 : decode cX0_shelf 16 = .ok (.iload_n 2, 1) := dk_28 (dk_at dksX0_shelf_0 16 rfl rfl)
theorem dX0_shelf_17 : decode cX0_shelf 17 = .ok (.ifCond .ne 11, 3) := dk_154 0 11 (dk_at dksX0_shelf_0 17 rfl rfl)
theorem dX0_shelf_20 : decode cX0_shelf 20 = .ok (.aload_n 0, 1) := dk_42 (dk_at dksX0_shelf_0 20 rfl rfl)
theorem dX0_shelf_21 : decode cX0_shelf 21 = .ok (.iload_n 3, 1) := dk_29 (dk_at dksX0_shelf_0 21 rfl rfl)
theorem dX0_shelf_22 : decode cX0_shelf 22 = .ok (.invokevirtual 244, 3) := dk_182 0 244 (dk_at dksX0_shelf_1 0 rfl rfl)
theorem dX0_shelf_25 : decode cX0_shelf 25 = .ok (.ifCond .eq 15, 3) := dk_153 0 15 (dk_at dksX0_shelf_1 3 rfl rfl)
theorem dX0_shelf_28 : decode cX0_shelf 28 = .ok (.iload_n 2, 1) := dk_28 (dk_at dksX0_shelf_1 6 rfl rfl)
theorem dX0_shelf_29 : decode cX0_shelf 29 = .ok (.iconst 1, 1) := dk_4 (dk_at dksX0_shelf_1 7 rfl rfl)
theorem dX0_shelf_30 : decode cX0_shelf 30 = .ok (.if_icmp .ne 12, 3) := dk_160 0 12 (dk_at dksX0_shelf_1 8 rfl rfl)
theorem dX0_shelf_33 : decode cX0_shelf 33 = .ok (.iload_n 3, 1) := dk_29 (dk_at dksX0_shelf_1 11 rfl rfl)
theorem dX0_shelf_34 : decode cX0_shelf 34 = .ok (.invokestatic 318, 3) := dk_184 1 62 (dk_at dksX0_shelf_1 12 rfl rfl)
theorem dX0_shelf_37 : decode cX0_shelf 37 = .ok (.ifCond .ne 5, 3) := dk_154 0 5 (dk_at dksX0_shelf_1 15 rfl rfl)
theorem dX0_shelf_40 : decode cX0_shelf 40 = .ok (.iconst (-1), 1) := dk_2 (dk_at dksX0_shelf_1 18 rfl rfl)
theorem dX0_shelf_41 : decode cX0_shelf 41 = .ok (.ireturn, 1) := dk_172 (dk_at dksX0_shelf_1 19 rfl rfl)
theorem dX0_shelf_42 : decode cX0_shelf 42 = .ok (.aload_n 0, 1) := dk_42 (dk_at dksX0_shelf_1 20 rfl rfl)
theorem dX0_shelf_43 : decode cX0_shelf 43 = .ok (.getfield 107, 3) := dk_180 0 107 (dk_at dksX0_shelf_1 21 rfl rfl)
theorem dX0_shelf_46 : decode cX0_shelf 46 = .ok (.iload_n 1, 1) := dk_27 (dk_at dksX0_shelf_2 0 rfl rfl)
theorem dX0_shelf_47 : decode cX0_shelf 47 = .ok (.aaload, 1) := dk_50 (dk_at dksX0_shelf_2 1 rfl rfl)
theorem dX0_shelf_48 : decode cX0_shelf 48 = .ok (.iload_n 2, 1) := dk_28 (dk_at dksX0_shelf_2 2 rfl rfl)
theorem dX0_shelf_49 : decode cX0_shelf 49 = .ok (.putfield 408, 3) := dk_181 1 152 (dk_at dksX0_shelf_2 3 rfl rfl)
theorem dX0_shelf_52 : decode cX0_shelf 52 = .ok (.aload_n 0, 1) := dk_42 (dk_at dksX0_shelf_2 6 rfl rfl)
theorem dX0_shelf_53 : decode cX0_shelf 53 = .ok (.getfield 107, 3) := dk_180 0 107 (dk_at dksX0_shelf_2 7 rfl rfl)
theorem dX0_shelf_56 : decode cX0_shelf 56 = .ok (.iload_n 1, 1) := dk_27 (dk_at dksX0_shelf_2 10 rfl rfl)
theorem dX0_shelf_57 : decode cX0_shelf 57 = .ok (.aaload, 1) := dk_50 (dk_at dksX0_shelf_2 11 rfl rfl)
theorem dX0_shelf_58 : decode cX0_shelf 58 = .ok (.iload_n 2, 1) := dk_28 (dk_at dksX0_shelf_2 12 rfl rfl)
theorem dX0_shelf_59 : decode cX0_shelf 59 = .ok (.ifCond .ne 7, 3) := dk_154 0 7 (dk_at dksX0_shelf_2 13 rfl rfl)
theorem dX0_shelf_62 : decode cX0_shelf 62 = .ok (.iload_n 3, 1) := dk_29 (dk_at dksX0_shelf_2 16 rfl rfl)
theorem dX0_shelf_63 : decode cX0_shelf 63 = .ok (.goto 4, 3) := dk_167 0 4 (dk_at dksX0_shelf_2 17 rfl rfl)
theorem dX0_shelf_66 : decode cX0_shelf 66 = .ok (.iconst 0, 1) := dk_3 (dk_at dksX0_shelf_2 20 rfl rfl)
theorem dX0_shelf_67 : decode cX0_shelf 67 = .ok (.putfield 411, 3) := dk_181 1 155 (dk_at dksX0_shelf_2 21 rfl rfl)
theorem dX0_shelf_70 : decode cX0_shelf 70 = .ok (.aload_n 0, 1) := dk_42 (dk_at dksX0_shelf_3 0 rfl rfl)
theorem dX0_shelf_71 : decode cX0_shelf 71 = .ok (.getfield 107, 3) := dk_180 0 107 (dk_at dksX0_shelf_3 1 rfl rfl)
theorem dX0_shelf_74 : decode cX0_shelf 74 = .ok (.iload_n 1, 1) := dk_27 (dk_at dksX0_shelf_3 4 rfl rfl)
theorem dX0_shelf_75 : decode cX0_shelf 75 = .ok (.aaload, 1) := dk_50 (dk_at dksX0_shelf_3 5 rfl rfl)
theorem dX0_shelf_76 : decode cX0_shelf 76 = .ok (.iload_n 2, 1) := dk_28 (dk_at dksX0_shelf_3 6 rfl rfl)
theorem dX0_shelf_77 : decode cX0_shelf 77 = .ok (.iconst 1, 1) := dk_4 (dk_at dksX0_shelf_3 7 rfl rfl)
theorem dX0_shelf_78 : decode cX0_shelf 78 = .ok (.if_icmp .ne 15, 3) := dk_160 0 15 (dk_at dksX0_shelf_3 8 rfl rfl)
theorem dX0_shelf_81 : decode cX0_shelf 81 = .ok (.aload_n 0, 1) := dk_42 (dk_at dksX0_shelf_3 11 rfl rfl)
theorem dX0_shelf_82 : decode cX0_shelf 82 = .ok (.getfield 83, 3) := dk_180 0 83 (dk_at dksX0_shelf_3 12 rfl rfl)
theorem dX0_shelf_85 : decode cX0_shelf 85 = .ok (.iload_n 3, 1) := dk_29 (dk_at dksX0_shelf_3 15 rfl rfl)
theorem dX0_shelf_86 : decode cX0_shelf 86 = .ok (.aaload, 1) := dk_50 (dk_at dksX0_shelf_3 16 rfl rfl)
theorem dX0_shelf_87 : decode cX0_shelf 87 = .ok (.invokevirtual 321, 3) := dk_182 1 65 (dk_at dksX0_shelf_3 17 rfl rfl)
theorem dX0_shelf_90 : decode cX0_shelf 90 = .ok (.goto 4, 3) := dk_167 0 4 (dk_at dksX0_shelf_3 20 rfl rfl)
theorem dX0_shelf_93 : decode cX0_shelf 93 = .ok (.aconst_null, 1) := dk_1 (dk_at dksX0_shelf_3 23 rfl rfl)
theorem dX0_shelf_94 : decode cX0_shelf 94 = .ok (.putfield 418, 3) := dk_181 1 162 (dk_at dksX0_shelf_4 0 rfl rfl)
theorem dX0_shelf_97 : decode cX0_shelf 97 = .ok (.iconst 1, 1) := dk_4 (dk_at dksX0_shelf_4 3 rfl rfl)
theorem dX0_shelf_98 : decode cX0_shelf 98 = .ok (.ireturn, 1) := dk_172 (dk_at dksX0_shelf_4 4 rfl rfl)
abbrev cX0_isShelf : ByteArray := prog_1_method_87_code
def yX0_isShelf : MethodName := ⟨RX0, "isShelf", "(I)Z"⟩
def dkwX0_isShelf_0 : List UInt8 := [26, 3, 6, 184, 0, 115, 172]
abbrev dktX0_isShelf_0 : List UInt8 := dkwX0_isShelf_0 ++ []
theorem dksX0_isShelf_0 : cX0_isShelf.data.toList.drop 0 = dktX0_isShelf_0 := by decide +kernel
theorem dX0_isShelf_0 : decode cX0_isShelf 0 = .ok (.iload_n 0, 1) := dk_26 (dk_at dksX0_isShelf_0 0 rfl rfl)
theorem dX0_isShelf_1 : decode cX0_isShelf 1 = .ok (.iconst 0, 1) := dk_3 (dk_at dksX0_isShelf_0 1 rfl rfl)
theorem dX0_isShelf_2 : decode cX0_isShelf 2 = .ok (.iconst 3, 1) := dk_6 (dk_at dksX0_isShelf_0 2 rfl rfl)
theorem dX0_isShelf_3 : decode cX0_isShelf 3 = .ok (.invokestatic 115, 3) := dk_184 0 115 (dk_at dksX0_isShelf_0 3 rfl rfl)
theorem dX0_isShelf_6 : decode cX0_isShelf 6 = .ok (.ireturn, 1) := dk_172 (dk_at dksX0_isShelf_0 6 rfl rfl)
abbrev cX0_taken : ByteArray := prog_1_method_92_code
def yX0_taken : MethodName := ⟨RX0, "taken", "(II)I"⟩
def dkwX0_taken_2 : List UInt8 := [78, 16, 245, 172, 78, 16, 243, 172]
abbrev dktX0_taken_2 : List UInt8 := dkwX0_taken_2 ++ []
def dkwX0_taken_1 : List UInt8 := [154, 0, 5, 2, 172, 42, 42, 42, 180, 0, 107, 27, 50, 182, 1, 180, 182, 1, 69, 28, 184, 1, 184, 172]
abbrev dktX0_taken_1 : List UInt8 := dkwX0_taken_1 ++ dktX0_taken_2
def dkwX0_taken_0 : List UInt8 := [27, 184, 1, 165, 153, 0, 23, 28, 3, 8, 184, 0, 115, 154, 0, 16, 28, 16, 10, 16, 13, 184, 0, 115]
abbrev dktX0_taken_0 : List UInt8 := dkwX0_taken_0 ++ dktX0_taken_1
theorem dksX0_taken_0 : cX0_taken.data.toList.drop 0 = dktX0_taken_0 := by decide +kernel
theorem dksX0_taken_1 : cX0_taken.data.toList.drop 24 = dktX0_taken_1 := dk_seg dksX0_taken_0 24 rfl rfl
theorem dksX0_taken_2 : cX0_taken.data.toList.drop 48 = dktX0_taken_2 := dk_seg dksX0_taken_1 24 rfl rfl
theorem dX0_taken_0 : decode cX0_taken 0 = .ok (.iload_n 1, 1) := dk_27 (dk_at dksX0_taken_0 0 rfl rfl)
theorem dX0_taken_1 : decode cX0_taken 1 = .ok (.invokestatic 421, 3) := dk_184 1 165 (dk_at dksX0_taken_0 1 rfl rfl)
theorem dX0_taken_4 : decode cX0_taken 4 = .ok (.ifCond .eq 23, 3) := dk_153 0 23 (dk_at dksX0_taken_0 4 rfl rfl)
theorem dX0_taken_7 : decode cX0_taken 7 = .ok (.iload_n 2, 1) := dk_28 (dk_at dksX0_taken_0 7 rfl rfl)
theorem dX0_taken_8 : decode cX0_taken 8 = .ok (.iconst 0, 1) := dk_3 (dk_at dksX0_taken_0 8 rfl rfl)
theorem dX0_taken_9 : decode cX0_taken 9 = .ok (.iconst 5, 1) := dk_8 (dk_at dksX0_taken_0 9 rfl rfl)
theorem dX0_taken_10 : decode cX0_taken 10 = .ok (.invokestatic 115, 3) := dk_184 0 115 (dk_at dksX0_taken_0 10 rfl rfl)
theorem dX0_taken_13 : decode cX0_taken 13 = .ok (.ifCond .ne 16, 3) := dk_154 0 16 (dk_at dksX0_taken_0 13 rfl rfl)
theorem dX0_taken_16 : decode cX0_taken 16 = .ok (.iload_n 2, 1) := dk_28 (dk_at dksX0_taken_0 16 rfl rfl)
theorem dX0_taken_17 : decode cX0_taken 17 = .ok (.bipush 10, 2) := dk_16 10 (dk_at dksX0_taken_0 17 rfl rfl)
theorem dX0_taken_19 : decode cX0_taken 19 = .ok (.bipush 13, 2) := dk_16 13 (dk_at dksX0_taken_0 19 rfl rfl)
theorem dX0_taken_21 : decode cX0_taken 21 = .ok (.invokestatic 115, 3) := dk_184 0 115 (dk_at dksX0_taken_0 21 rfl rfl)
theorem dX0_taken_24 : decode cX0_taken 24 = .ok (.ifCond .ne 5, 3) := dk_154 0 5 (dk_at dksX0_taken_1 0 rfl rfl)
theorem dX0_taken_27 : decode cX0_taken 27 = .ok (.iconst (-1), 1) := dk_2 (dk_at dksX0_taken_1 3 rfl rfl)
theorem dX0_taken_28 : decode cX0_taken 28 = .ok (.ireturn, 1) := dk_172 (dk_at dksX0_taken_1 4 rfl rfl)
theorem dX0_taken_29 : decode cX0_taken 29 = .ok (.aload_n 0, 1) := dk_42 (dk_at dksX0_taken_1 5 rfl rfl)
theorem dX0_taken_30 : decode cX0_taken 30 = .ok (.aload_n 0, 1) := dk_42 (dk_at dksX0_taken_1 6 rfl rfl)
theorem dX0_taken_31 : decode cX0_taken 31 = .ok (.aload_n 0, 1) := dk_42 (dk_at dksX0_taken_1 7 rfl rfl)
theorem dX0_taken_32 : decode cX0_taken 32 = .ok (.getfield 107, 3) := dk_180 0 107 (dk_at dksX0_taken_1 8 rfl rfl)
theorem dX0_taken_35 : decode cX0_taken 35 = .ok (.iload_n 1, 1) := dk_27 (dk_at dksX0_taken_1 11 rfl rfl)
theorem dX0_taken_36 : decode cX0_taken 36 = .ok (.aaload, 1) := dk_50 (dk_at dksX0_taken_1 12 rfl rfl)
theorem dX0_taken_37 : decode cX0_taken 37 = .ok (.invokevirtual 436, 3) := dk_182 1 180 (dk_at dksX0_taken_1 13 rfl rfl)
theorem dX0_taken_40 : decode cX0_taken 40 = .ok (.invokevirtual 325, 3) := dk_182 1 69 (dk_at dksX0_taken_1 16 rfl rfl)
theorem dX0_taken_43 : decode cX0_taken 43 = .ok (.iload_n 2, 1) := dk_28 (dk_at dksX0_taken_1 19 rfl rfl)
theorem dX0_taken_44 : decode cX0_taken 44 = .ok (.invokestatic 440, 3) := dk_184 1 184 (dk_at dksX0_taken_1 20 rfl rfl)
theorem dX0_taken_47 : decode cX0_taken 47 = .ok (.ireturn, 1) := dk_172 (dk_at dksX0_taken_1 23 rfl rfl)
theorem dX0_taken_48 : decode cX0_taken 48 = .ok (.astore_n 3, 1) := dk_78 (dk_at dksX0_taken_2 0 rfl rfl)
theorem dX0_taken_49 : decode cX0_taken 49 = .ok (.bipush (-11), 2) := dk_16 245 (dk_at dksX0_taken_2 1 rfl rfl)
theorem dX0_taken_51 : decode cX0_taken 51 = .ok (.ireturn, 1) := dk_172 (dk_at dksX0_taken_2 3 rfl rfl)
theorem dX0_taken_52 : decode cX0_taken 52 = .ok (.astore_n 3, 1) := dk_78 (dk_at dksX0_taken_2 4 rfl rfl)
theorem dX0_taken_53 : decode cX0_taken 53 = .ok (.bipush (-13), 2) := dk_16 243 (dk_at dksX0_taken_2 5 rfl rfl)
theorem dX0_taken_55 : decode cX0_taken 55 = .ok (.ireturn, 1) := dk_172 (dk_at dksX0_taken_2 7 rfl rfl)
abbrev cX0_heldOf : ByteArray := prog_1_method_88_code
def yX0_heldOf : MethodName := ⟨RX0, "heldOf", "(LIntentVats$Shelf;)Ljava/lang/Object;"⟩
def dkwX0_heldOf_3 : List UInt8 := [43, 180, 1, 162, 176, 1, 176]
abbrev dktX0_heldOf_3 : List UInt8 := dkwX0_heldOf_3 ++ []
def dkwX0_heldOf_2 : List UInt8 := [42, 43, 180, 1, 155, 182, 0, 244, 153, 0, 14, 42, 43, 180, 1, 155, 182, 1, 158, 167, 0, 4, 1, 176]
abbrev dktX0_heldOf_2 : List UInt8 := dkwX0_heldOf_2 ++ dktX0_heldOf_3
def dkwX0_heldOf_1 : List UInt8 := [171, 0, 0, 0, 0, 0, 0, 57, 0, 0, 0, 2, 0, 0, 0, 0, 0, 0, 0, 28, 0, 0, 0, 1, 0, 0, 0, 52]
abbrev dktX0_heldOf_1 : List UInt8 := dkwX0_heldOf_1 ++ dktX0_heldOf_2
def dkwX0_heldOf_0 : List UInt8 := [43, 180, 1, 152]
abbrev dktX0_heldOf_0 : List UInt8 := dkwX0_heldOf_0 ++ dktX0_heldOf_1
theorem dksX0_heldOf_0 : cX0_heldOf.data.toList.drop 0 = dktX0_heldOf_0 := by decide +kernel
theorem dksX0_heldOf_1 : cX0_heldOf.data.toList.drop 4 = dktX0_heldOf_1 := dk_seg dksX0_heldOf_0 4 rfl rfl
theorem dksX0_heldOf_2 : cX0_heldOf.data.toList.drop 32 = dktX0_heldOf_2 := dk_seg dksX0_heldOf_1 28 rfl rfl
theorem dksX0_heldOf_3 : cX0_heldOf.data.toList.drop 56 = dktX0_heldOf_3 := dk_seg dksX0_heldOf_2 24 rfl rfl
theorem dX0_heldOf_0 : decode cX0_heldOf 0 = .ok (.aload_n 1, 1) := dk_43 (dk_at dksX0_heldOf_0 0 rfl rfl)
theorem dX0_heldOf_1 : decode cX0_heldOf 1 = .ok (.getfield 408, 3) := dk_180 1 152 (dk_at dksX0_heldOf_0 1 rfl rfl)
theorem dX0_heldOf_4 : decode cX0_heldOf 4 = .ok (.lookupswitch 57 #[(0, 28), (1, 52)], 28) := by decide +kernel
theorem dX0_heldOf_32 : decode cX0_heldOf 32 = .ok (.aload_n 0, 1) := dk_42 (dk_at dksX0_heldOf_2 0 rfl rfl)
theorem dX0_heldOf_33 : decode cX0_heldOf 33 = .ok (.aload_n 1, 1) := dk_43 (dk_at dksX0_heldOf_2 1 rfl rfl)
theorem dX0_heldOf_34 : decode cX0_heldOf 34 = .ok (.getfield 411, 3) := dk_180 1 155 (dk_at dksX0_heldOf_2 2 rfl rfl)
theorem dX0_heldOf_37 : decode cX0_heldOf 37 = .ok (.invokevirtual 244, 3) := dk_182 0 244 (dk_at dksX0_heldOf_2 5 rfl rfl)
theorem dX0_heldOf_40 : decode cX0_heldOf 40 = .ok (.ifCond .eq 14, 3) := dk_153 0 14 (dk_at dksX0_heldOf_2 8 rfl rfl)
theorem dX0_heldOf_43 : decode cX0_heldOf 43 = .ok (.aload_n 0, 1) := dk_42 (dk_at dksX0_heldOf_2 11 rfl rfl)
theorem dX0_heldOf_44 : decode cX0_heldOf 44 = .ok (.aload_n 1, 1) := dk_43 (dk_at dksX0_heldOf_2 12 rfl rfl)
theorem dX0_heldOf_45 : decode cX0_heldOf 45 = .ok (.getfield 411, 3) := dk_180 1 155 (dk_at dksX0_heldOf_2 13 rfl rfl)
theorem dX0_heldOf_48 : decode cX0_heldOf 48 = .ok (.invokevirtual 414, 3) := dk_182 1 158 (dk_at dksX0_heldOf_2 16 rfl rfl)
theorem dX0_heldOf_51 : decode cX0_heldOf 51 = .ok (.goto 4, 3) := dk_167 0 4 (dk_at dksX0_heldOf_2 19 rfl rfl)
theorem dX0_heldOf_54 : decode cX0_heldOf 54 = .ok (.aconst_null, 1) := dk_1 (dk_at dksX0_heldOf_2 22 rfl rfl)
theorem dX0_heldOf_55 : decode cX0_heldOf 55 = .ok (.areturn, 1) := dk_176 (dk_at dksX0_heldOf_2 23 rfl rfl)
theorem dX0_heldOf_56 : decode cX0_heldOf 56 = .ok (.aload_n 1, 1) := dk_43 (dk_at dksX0_heldOf_3 0 rfl rfl)
theorem dX0_heldOf_57 : decode cX0_heldOf 57 = .ok (.getfield 418, 3) := dk_180 1 162 (dk_at dksX0_heldOf_3 1 rfl rfl)
theorem dX0_heldOf_60 : decode cX0_heldOf 60 = .ok (.areturn, 1) := dk_176 (dk_at dksX0_heldOf_3 4 rfl rfl)
theorem dX0_heldOf_61 : decode cX0_heldOf 61 = .ok (.aconst_null, 1) := dk_1 (dk_at dksX0_heldOf_3 5 rfl rfl)
theorem dX0_heldOf_62 : decode cX0_heldOf 62 = .ok (.areturn, 1) := dk_176 (dk_at dksX0_heldOf_3 6 rfl rfl)
abbrev cX0_asOne : ByteArray := prog_1_method_16_code
def yX0_asOne : MethodName := ⟨RX0, "asOne", "(I)LIntentVats$Dries;"⟩
def dkwX0_asOne_4 : List UInt8 := [187, 0, 194, 89, 42, 27, 28, 183, 0, 196, 176, 187, 0, 197, 89, 42, 27, 28, 183, 0, 199, 176]
abbrev dktX0_asOne_4 : List UInt8 := dkwX0_asOne_4 ++ []
def dkwX0_asOne_3 : List UInt8 := [187, 0, 188, 89, 42, 27, 28, 183, 0, 190, 176, 187, 0, 191, 89, 42, 27, 28, 183, 0, 193, 176]
abbrev dktX0_asOne_3 : List UInt8 := dkwX0_asOne_3 ++ dktX0_asOne_4
def dkwX0_asOne_2 : List UInt8 := [187, 0, 180, 89, 42, 27, 28, 183, 0, 182, 176, 187, 0, 185, 89, 42, 27, 28, 183, 0, 187, 176]
abbrev dktX0_asOne_2 : List UInt8 := dkwX0_asOne_2 ++ dktX0_asOne_3
def dkwX0_asOne_1 : List UInt8 := [170, 0, 0, 0, 0, 0, 90, 0, 0, 0, 1, 0, 0, 0, 5, 0, 0, 0, 35, 0, 0, 0, 46, 0, 0, 0, 57, 0, 0, 0, 68, 0, 0, 0, 79]
abbrev dktX0_asOne_1 : List UInt8 := dkwX0_asOne_1 ++ dktX0_asOne_2
def dkwX0_asOne_0 : List UInt8 := [4, 42, 180, 0, 22, 180, 0, 129, 27, 46, 96, 61, 42, 180, 0, 22, 180, 0, 119, 27, 46]
abbrev dktX0_asOne_0 : List UInt8 := dkwX0_asOne_0 ++ dktX0_asOne_1
theorem dksX0_asOne_0 : cX0_asOne.data.toList.drop 0 = dktX0_asOne_0 := by decide +kernel
theorem dksX0_asOne_1 : cX0_asOne.data.toList.drop 21 = dktX0_asOne_1 := dk_seg dksX0_asOne_0 21 rfl rfl
theorem dksX0_asOne_2 : cX0_asOne.data.toList.drop 56 = dktX0_asOne_2 := dk_seg dksX0_asOne_1 35 rfl rfl
theorem dksX0_asOne_3 : cX0_asOne.data.toList.drop 78 = dktX0_asOne_3 := dk_seg dksX0_asOne_2 22 rfl rfl
theorem dksX0_asOne_4 : cX0_asOne.data.toList.drop 100 = dktX0_asOne_4 := dk_seg dksX0_asOne_3 22 rfl rfl
theorem dX0_asOne_0 : decode cX0_asOne 0 = .ok (.iconst 1, 1) := dk_4 (dk_at dksX0_asOne_0 0 rfl rfl)
theorem dX0_asOne_1 : decode cX0_asOne 1 = .ok (.aload_n 0, 1) := dk_42 (dk_at dksX0_asOne_0 1 rfl rfl)
theorem dX0_asOne_2 : decode cX0_asOne 2 = .ok (.getfield 22, 3) := dk_180 0 22 (dk_at dksX0_asOne_0 2 rfl rfl)
theorem dX0_asOne_5 : decode cX0_asOne 5 = .ok (.getfield 129, 3) := dk_180 0 129 (dk_at dksX0_asOne_0 5 rfl rfl)
theorem dX0_asOne_8 : decode cX0_asOne 8 = .ok (.iload_n 1, 1) := dk_27 (dk_at dksX0_asOne_0 8 rfl rfl)
theorem dX0_asOne_9 : decode cX0_asOne 9 = .ok (.iaload, 1) := dk_46 (dk_at dksX0_asOne_0 9 rfl rfl)
theorem dX0_asOne_10 : decode cX0_asOne 10 = .ok (.iadd, 1) := dk_96 (dk_at dksX0_asOne_0 10 rfl rfl)
theorem dX0_asOne_11 : decode cX0_asOne 11 = .ok (.istore_n 2, 1) := dk_61 (dk_at dksX0_asOne_0 11 rfl rfl)
theorem dX0_asOne_12 : decode cX0_asOne 12 = .ok (.aload_n 0, 1) := dk_42 (dk_at dksX0_asOne_0 12 rfl rfl)
theorem dX0_asOne_13 : decode cX0_asOne 13 = .ok (.getfield 22, 3) := dk_180 0 22 (dk_at dksX0_asOne_0 13 rfl rfl)
theorem dX0_asOne_16 : decode cX0_asOne 16 = .ok (.getfield 119, 3) := dk_180 0 119 (dk_at dksX0_asOne_0 16 rfl rfl)
theorem dX0_asOne_19 : decode cX0_asOne 19 = .ok (.iload_n 1, 1) := dk_27 (dk_at dksX0_asOne_0 19 rfl rfl)
theorem dX0_asOne_20 : decode cX0_asOne 20 = .ok (.iaload, 1) := dk_46 (dk_at dksX0_asOne_0 20 rfl rfl)
theorem dX0_asOne_21 : decode cX0_asOne 21 = .ok (.tableswitch 90 1 5 #[35, 46, 57, 68, 79], 35) := by decide +kernel
theorem dX0_asOne_56 : decode cX0_asOne 56 = .ok (.new 180, 3) := dk_187 0 180 (dk_at dksX0_asOne_2 0 rfl rfl)
theorem dX0_asOne_59 : decode cX0_asOne 59 = .ok (.dup, 1) := dk_89 (dk_at dksX0_asOne_2 3 rfl rfl)
theorem dX0_asOne_60 : decode cX0_asOne 60 = .ok (.aload_n 0, 1) := dk_42 (dk_at dksX0_asOne_2 4 rfl rfl)
theorem dX0_asOne_61 : decode cX0_asOne 61 = .ok (.iload_n 1, 1) := dk_27 (dk_at dksX0_asOne_2 5 rfl rfl)
theorem dX0_asOne_62 : decode cX0_asOne 62 = .ok (.iload_n 2, 1) := dk_28 (dk_at dksX0_asOne_2 6 rfl rfl)
theorem dX0_asOne_63 : decode cX0_asOne 63 = .ok (.invokespecial 182, 3) := dk_183 0 182 (dk_at dksX0_asOne_2 7 rfl rfl)
theorem dX0_asOne_66 : decode cX0_asOne 66 = .ok (.areturn, 1) := dk_176 (dk_at dksX0_asOne_2 10 rfl rfl)
theorem dX0_asOne_67 : decode cX0_asOne 67 = .ok (.new 185, 3) := dk_187 0 185 (dk_at dksX0_asOne_2 11 rfl rfl)
theorem dX0_asOne_70 : decode cX0_asOne 70 = .ok (.dup, 1) := dk_89 (dk_at dksX0_asOne_2 14 rfl rfl)
theorem dX0_asOne_71 : decode cX0_asOne 71 = .ok (.aload_n 0, 1) := dk_42 (dk_at dksX0_asOne_2 15 rfl rfl)
theorem dX0_asOne_72 : decode cX0_asOne 72 = .ok (.iload_n 1, 1) := dk_27 (dk_at dksX0_asOne_2 16 rfl rfl)
theorem dX0_asOne_73 : decode cX0_asOne 73 = .ok (.iload_n 2, 1) := dk_28 (dk_at dksX0_asOne_2 17 rfl rfl)
theorem dX0_asOne_74 : decode cX0_asOne 74 = .ok (.invokespecial 187, 3) := dk_183 0 187 (dk_at dksX0_asOne_2 18 rfl rfl)
theorem dX0_asOne_77 : decode cX0_asOne 77 = .ok (.areturn, 1) := dk_176 (dk_at dksX0_asOne_2 21 rfl rfl)
theorem dX0_asOne_78 : decode cX0_asOne 78 = .ok (.new 188, 3) := dk_187 0 188 (dk_at dksX0_asOne_3 0 rfl rfl)
theorem dX0_asOne_81 : decode cX0_asOne 81 = .ok (.dup, 1) := dk_89 (dk_at dksX0_asOne_3 3 rfl rfl)
theorem dX0_asOne_82 : decode cX0_asOne 82 = .ok (.aload_n 0, 1) := dk_42 (dk_at dksX0_asOne_3 4 rfl rfl)
theorem dX0_asOne_83 : decode cX0_asOne 83 = .ok (.iload_n 1, 1) := dk_27 (dk_at dksX0_asOne_3 5 rfl rfl)
theorem dX0_asOne_84 : decode cX0_asOne 84 = .ok (.iload_n 2, 1) := dk_28 (dk_at dksX0_asOne_3 6 rfl rfl)
theorem dX0_asOne_85 : decode cX0_asOne 85 = .ok (.invokespecial 190, 3) := dk_183 0 190 (dk_at dksX0_asOne_3 7 rfl rfl)
theorem dX0_asOne_88 : decode cX0_asOne 88 = .ok (.areturn, 1) := dk_176 (dk_at dksX0_asOne_3 10 rfl rfl)
theorem dX0_asOne_89 : decode cX0_asOne 89 = .ok (.new 191, 3) := dk_187 0 191 (dk_at dksX0_asOne_3 11 rfl rfl)
theorem dX0_asOne_92 : decode cX0_asOne 92 = .ok (.dup, 1) := dk_89 (dk_at dksX0_asOne_3 14 rfl rfl)
theorem dX0_asOne_93 : decode cX0_asOne 93 = .ok (.aload_n 0, 1) := dk_42 (dk_at dksX0_asOne_3 15 rfl rfl)
theorem dX0_asOne_94 : decode cX0_asOne 94 = .ok (.iload_n 1, 1) := dk_27 (dk_at dksX0_asOne_3 16 rfl rfl)
theorem dX0_asOne_95 : decode cX0_asOne 95 = .ok (.iload_n 2, 1) := dk_28 (dk_at dksX0_asOne_3 17 rfl rfl)
theorem dX0_asOne_96 : decode cX0_asOne 96 = .ok (.invokespecial 193, 3) := dk_183 0 193 (dk_at dksX0_asOne_3 18 rfl rfl)
theorem dX0_asOne_99 : decode cX0_asOne 99 = .ok (.areturn, 1) := dk_176 (dk_at dksX0_asOne_3 21 rfl rfl)
theorem dX0_asOne_100 : decode cX0_asOne 100 = .ok (.new 194, 3) := dk_187 0 194 (dk_at dksX0_asOne_4 0 rfl rfl)
theorem dX0_asOne_103 : decode cX0_asOne 103 = .ok (.dup, 1) := dk_89 (dk_at dksX0_asOne_4 3 rfl rfl)
theorem dX0_asOne_104 : decode cX0_asOne 104 = .ok (.aload_n 0, 1) := dk_42 (dk_at dksX0_asOne_4 4 rfl rfl)
theorem dX0_asOne_105 : decode cX0_asOne 105 = .ok (.iload_n 1, 1) := dk_27 (dk_at dksX0_asOne_4 5 rfl rfl)
theorem dX0_asOne_106 : decode cX0_asOne 106 = .ok (.iload_n 2, 1) := dk_28 (dk_at dksX0_asOne_4 6 rfl rfl)
theorem dX0_asOne_107 : decode cX0_asOne 107 = .ok (.invokespecial 196, 3) := dk_183 0 196 (dk_at dksX0_asOne_4 7 rfl rfl)
theorem dX0_asOne_110 : decode cX0_asOne 110 = .ok (.areturn, 1) := dk_176 (dk_at dksX0_asOne_4 10 rfl rfl)
theorem dX0_asOne_111 : decode cX0_asOne 111 = .ok (.new 197, 3) := dk_187 0 197 (dk_at dksX0_asOne_4 11 rfl rfl)
theorem dX0_asOne_114 : decode cX0_asOne 114 = .ok (.dup, 1) := dk_89 (dk_at dksX0_asOne_4 14 rfl rfl)
theorem dX0_asOne_115 : decode cX0_asOne 115 = .ok (.aload_n 0, 1) := dk_42 (dk_at dksX0_asOne_4 15 rfl rfl)
theorem dX0_asOne_116 : decode cX0_asOne 116 = .ok (.iload_n 1, 1) := dk_27 (dk_at dksX0_asOne_4 16 rfl rfl)
theorem dX0_asOne_117 : decode cX0_asOne 117 = .ok (.iload_n 2, 1) := dk_28 (dk_at dksX0_asOne_4 17 rfl rfl)
theorem dX0_asOne_118 : decode cX0_asOne 118 = .ok (.invokespecial 199, 3) := dk_183 0 199 (dk_at dksX0_asOne_4 18 rfl rfl)
theorem dX0_asOne_121 : decode cX0_asOne 121 = .ok (.areturn, 1) := dk_176 (dk_at dksX0_asOne_4 21 rfl rfl)
abbrev cX0_castTo : ByteArray := prog_1_method_91_code
def yX0_castTo : MethodName := ⟨RX0, "castTo", "(Ljava/lang/Object;I)I"⟩
def dkwX0_castTo_4 : List UInt8 := [42, 27, 184, 1, 176, 172]
abbrev dktX0_castTo_4 : List UInt8 := dkwX0_castTo_4 ++ []
def dkwX0_castTo_3 : List UInt8 := [42, 192, 0, 188, 182, 1, 173, 172, 42, 192, 0, 191, 182, 1, 174, 172, 42, 192, 0, 194, 182, 1, 175, 172]
abbrev dktX0_castTo_3 : List UInt8 := dkwX0_castTo_3 ++ dktX0_castTo_4
def dkwX0_castTo_2 : List UInt8 := [42, 192, 0, 197, 182, 1, 168, 172, 42, 192, 0, 180, 182, 1, 171, 172, 42, 192, 0, 185, 182, 1, 172, 172]
abbrev dktX0_castTo_2 : List UInt8 := dkwX0_castTo_2 ++ dktX0_castTo_3
def dkwX0_castTo_1 : List UInt8 := [170, 0, 0, 0, 0, 0, 87, 0, 0, 0, 0, 0, 0, 0, 5, 0, 0, 0, 39, 0, 0, 0, 47, 0, 0, 0, 55, 0, 0, 0, 63, 0, 0, 0, 71, 0, 0, 0, 79]
abbrev dktX0_castTo_1 : List UInt8 := dkwX0_castTo_1 ++ dktX0_castTo_2
def dkwX0_castTo_0 : List UInt8 := [27]
abbrev dktX0_castTo_0 : List UInt8 := dkwX0_castTo_0 ++ dktX0_castTo_1
theorem dksX0_castTo_0 : cX0_castTo.data.toList.drop 0 = dktX0_castTo_0 := by decide +kernel
theorem dksX0_castTo_1 : cX0_castTo.data.toList.drop 1 = dktX0_castTo_1 := dk_seg dksX0_castTo_0 1 rfl rfl
theorem dksX0_castTo_2 : cX0_castTo.data.toList.drop 40 = dktX0_castTo_2 := dk_seg dksX0_castTo_1 39 rfl rfl
theorem dksX0_castTo_3 : cX0_castTo.data.toList.drop 64 = dktX0_castTo_3 := dk_seg dksX0_castTo_2 24 rfl rfl
theorem dksX0_castTo_4 : cX0_castTo.data.toList.drop 88 = dktX0_castTo_4 := dk_seg dksX0_castTo_3 24 rfl rfl
theorem dX0_castTo_0 : decode cX0_castTo 0 = .ok (.iload_n 1, 1) := dk_27 (dk_at dksX0_castTo_0 0 rfl rfl)
theorem dX0_castTo_1 : decode cX0_castTo 1 = .ok (.tableswitch 87 0 5 #[39, 47, 55, 63, 71, 79], 39) := by decide +kernel
theorem dX0_castTo_40 : decode cX0_castTo 40 = .ok (.aload_n 0, 1) := dk_42 (dk_at dksX0_castTo_2 0 rfl rfl)
theorem dX0_castTo_41 : decode cX0_castTo 41 = .ok (.checkcast 197, 3) := dk_192 0 197 (dk_at dksX0_castTo_2 1 rfl rfl)
theorem dX0_castTo_44 : decode cX0_castTo 44 = .ok (.invokevirtual 424, 3) := dk_182 1 168 (dk_at dksX0_castTo_2 4 rfl rfl)
theorem dX0_castTo_47 : decode cX0_castTo 47 = .ok (.ireturn, 1) := dk_172 (dk_at dksX0_castTo_2 7 rfl rfl)
theorem dX0_castTo_48 : decode cX0_castTo 48 = .ok (.aload_n 0, 1) := dk_42 (dk_at dksX0_castTo_2 8 rfl rfl)
theorem dX0_castTo_49 : decode cX0_castTo 49 = .ok (.checkcast 180, 3) := dk_192 0 180 (dk_at dksX0_castTo_2 9 rfl rfl)
theorem dX0_castTo_52 : decode cX0_castTo 52 = .ok (.invokevirtual 427, 3) := dk_182 1 171 (dk_at dksX0_castTo_2 12 rfl rfl)
theorem dX0_castTo_55 : decode cX0_castTo 55 = .ok (.ireturn, 1) := dk_172 (dk_at dksX0_castTo_2 15 rfl rfl)
theorem dX0_castTo_56 : decode cX0_castTo 56 = .ok (.aload_n 0, 1) := dk_42 (dk_at dksX0_castTo_2 16 rfl rfl)
theorem dX0_castTo_57 : decode cX0_castTo 57 = .ok (.checkcast 185, 3) := dk_192 0 185 (dk_at dksX0_castTo_2 17 rfl rfl)
theorem dX0_castTo_60 : decode cX0_castTo 60 = .ok (.invokevirtual 428, 3) := dk_182 1 172 (dk_at dksX0_castTo_2 20 rfl rfl)
theorem dX0_castTo_63 : decode cX0_castTo 63 = .ok (.ireturn, 1) := dk_172 (dk_at dksX0_castTo_2 23 rfl rfl)
theorem dX0_castTo_64 : decode cX0_castTo 64 = .ok (.aload_n 0, 1) := dk_42 (dk_at dksX0_castTo_3 0 rfl rfl)
theorem dX0_castTo_65 : decode cX0_castTo 65 = .ok (.checkcast 188, 3) := dk_192 0 188 (dk_at dksX0_castTo_3 1 rfl rfl)
theorem dX0_castTo_68 : decode cX0_castTo 68 = .ok (.invokevirtual 429, 3) := dk_182 1 173 (dk_at dksX0_castTo_3 4 rfl rfl)
theorem dX0_castTo_71 : decode cX0_castTo 71 = .ok (.ireturn, 1) := dk_172 (dk_at dksX0_castTo_3 7 rfl rfl)
theorem dX0_castTo_72 : decode cX0_castTo 72 = .ok (.aload_n 0, 1) := dk_42 (dk_at dksX0_castTo_3 8 rfl rfl)
theorem dX0_castTo_73 : decode cX0_castTo 73 = .ok (.checkcast 191, 3) := dk_192 0 191 (dk_at dksX0_castTo_3 9 rfl rfl)
theorem dX0_castTo_76 : decode cX0_castTo 76 = .ok (.invokevirtual 430, 3) := dk_182 1 174 (dk_at dksX0_castTo_3 12 rfl rfl)
theorem dX0_castTo_79 : decode cX0_castTo 79 = .ok (.ireturn, 1) := dk_172 (dk_at dksX0_castTo_3 15 rfl rfl)
theorem dX0_castTo_80 : decode cX0_castTo 80 = .ok (.aload_n 0, 1) := dk_42 (dk_at dksX0_castTo_3 16 rfl rfl)
theorem dX0_castTo_81 : decode cX0_castTo 81 = .ok (.checkcast 194, 3) := dk_192 0 194 (dk_at dksX0_castTo_3 17 rfl rfl)
theorem dX0_castTo_84 : decode cX0_castTo 84 = .ok (.invokevirtual 431, 3) := dk_182 1 175 (dk_at dksX0_castTo_3 20 rfl rfl)
theorem dX0_castTo_87 : decode cX0_castTo 87 = .ok (.ireturn, 1) := dk_172 (dk_at dksX0_castTo_3 23 rfl rfl)
theorem dX0_castTo_88 : decode cX0_castTo 88 = .ok (.aload_n 0, 1) := dk_42 (dk_at dksX0_castTo_4 0 rfl rfl)
theorem dX0_castTo_89 : decode cX0_castTo 89 = .ok (.iload_n 1, 1) := dk_27 (dk_at dksX0_castTo_4 1 rfl rfl)
theorem dX0_castTo_90 : decode cX0_castTo 90 = .ok (.invokestatic 432, 3) := dk_184 1 176 (dk_at dksX0_castTo_4 2 rfl rfl)
theorem dX0_castTo_93 : decode cX0_castTo 93 = .ok (.ireturn, 1) := dk_172 (dk_at dksX0_castTo_4 5 rfl rfl)
abbrev cX0_rowAs : ByteArray := prog_1_method_90_code
def yX0_rowAs : MethodName := ⟨RX0, "rowAs", "(Ljava/lang/Object;I)I"⟩
def dkwX0_rowAs_2 : List UInt8 := [42, 192, 1, 42, 190, 172, 42, 192, 1, 43, 190, 172, 42, 192, 1, 47, 190, 172, 42, 192, 1, 45, 190, 172]
abbrev dktX0_rowAs_2 : List UInt8 := dkwX0_rowAs_2 ++ []
def dkwX0_rowAs_1 : List UInt8 := [170, 0, 0, 0, 0, 0, 45, 0, 0, 0, 10, 0, 0, 0, 12, 0, 0, 0, 27, 0, 0, 0, 33, 0, 0, 0, 39]
abbrev dktX0_rowAs_1 : List UInt8 := dkwX0_rowAs_1 ++ dktX0_rowAs_2
def dkwX0_rowAs_0 : List UInt8 := [27]
abbrev dktX0_rowAs_0 : List UInt8 := dkwX0_rowAs_0 ++ dktX0_rowAs_1
theorem dksX0_rowAs_0 : cX0_rowAs.data.toList.drop 0 = dktX0_rowAs_0 := by decide +kernel
theorem dksX0_rowAs_1 : cX0_rowAs.data.toList.drop 1 = dktX0_rowAs_1 := dk_seg dksX0_rowAs_0 1 rfl rfl
theorem dksX0_rowAs_2 : cX0_rowAs.data.toList.drop 28 = dktX0_rowAs_2 := dk_seg dksX0_rowAs_1 27 rfl rfl
theorem dX0_rowAs_0 : decode cX0_rowAs 0 = .ok (.iload_n 1, 1) := dk_27 (dk_at dksX0_rowAs_0 0 rfl rfl)
theorem dX0_rowAs_1 : decode cX0_rowAs 1 = .ok (.tableswitch 45 10 12 #[27, 33, 39], 27) := by decide +kernel
theorem dX0_rowAs_28 : decode cX0_rowAs 28 = .ok (.aload_n 0, 1) := dk_42 (dk_at dksX0_rowAs_2 0 rfl rfl)
theorem dX0_rowAs_29 : decode cX0_rowAs 29 = .ok (.checkcast 298, 3) := dk_192 1 42 (dk_at dksX0_rowAs_2 1 rfl rfl)
theorem dX0_rowAs_32 : decode cX0_rowAs 32 = .ok (.arraylength, 1) := dk_190 (dk_at dksX0_rowAs_2 4 rfl rfl)
theorem dX0_rowAs_33 : decode cX0_rowAs 33 = .ok (.ireturn, 1) := dk_172 (dk_at dksX0_rowAs_2 5 rfl rfl)
theorem dX0_rowAs_34 : decode cX0_rowAs 34 = .ok (.aload_n 0, 1) := dk_42 (dk_at dksX0_rowAs_2 6 rfl rfl)
theorem dX0_rowAs_35 : decode cX0_rowAs 35 = .ok (.checkcast 299, 3) := dk_192 1 43 (dk_at dksX0_rowAs_2 7 rfl rfl)
theorem dX0_rowAs_38 : decode cX0_rowAs 38 = .ok (.arraylength, 1) := dk_190 (dk_at dksX0_rowAs_2 10 rfl rfl)
theorem dX0_rowAs_39 : decode cX0_rowAs 39 = .ok (.ireturn, 1) := dk_172 (dk_at dksX0_rowAs_2 11 rfl rfl)
theorem dX0_rowAs_40 : decode cX0_rowAs 40 = .ok (.aload_n 0, 1) := dk_42 (dk_at dksX0_rowAs_2 12 rfl rfl)
theorem dX0_rowAs_41 : decode cX0_rowAs 41 = .ok (.checkcast 303, 3) := dk_192 1 47 (dk_at dksX0_rowAs_2 13 rfl rfl)
theorem dX0_rowAs_44 : decode cX0_rowAs 44 = .ok (.arraylength, 1) := dk_190 (dk_at dksX0_rowAs_2 16 rfl rfl)
theorem dX0_rowAs_45 : decode cX0_rowAs 45 = .ok (.ireturn, 1) := dk_172 (dk_at dksX0_rowAs_2 17 rfl rfl)
theorem dX0_rowAs_46 : decode cX0_rowAs 46 = .ok (.aload_n 0, 1) := dk_42 (dk_at dksX0_rowAs_2 18 rfl rfl)
theorem dX0_rowAs_47 : decode cX0_rowAs 47 = .ok (.checkcast 301, 3) := dk_192 1 45 (dk_at dksX0_rowAs_2 19 rfl rfl)
theorem dX0_rowAs_50 : decode cX0_rowAs 50 = .ok (.arraylength, 1) := dk_190 (dk_at dksX0_rowAs_2 22 rfl rfl)
theorem dX0_rowAs_51 : decode cX0_rowAs 51 = .ok (.ireturn, 1) := dk_172 (dk_at dksX0_rowAs_2 23 rfl rfl)
abbrev cX0_act : ByteArray := prog_1_method_94_code
def yX0_act : MethodName := ⟨RX0, "act", "(III)I"⟩
def dkwX0_act_2 : List UInt8 := [192, 1, 188, 28, 29, 184, 1, 201, 172, 58, 5, 16, 241, 172]
abbrev dktX0_act_2 : List UInt8 := dkwX0_act_2 ++ []
def dkwX0_act_1 : List UInt8 := [42, 180, 0, 107, 27, 50, 182, 1, 180, 58, 4, 25, 4, 193, 1, 188, 154, 0, 5, 3, 172, 25, 4]
abbrev dktX0_act_1 : List UInt8 := dkwX0_act_1 ++ dktX0_act_2
def dkwX0_act_0 : List UInt8 := [42, 3, 181, 1, 149, 27, 184, 1, 165, 153, 0, 12, 28, 3, 6, 184, 0, 115, 154, 0, 5, 3, 172, 42]
abbrev dktX0_act_0 : List UInt8 := dkwX0_act_0 ++ dktX0_act_1
theorem dksX0_act_0 : cX0_act.data.toList.drop 0 = dktX0_act_0 := by decide +kernel
theorem dksX0_act_1 : cX0_act.data.toList.drop 24 = dktX0_act_1 := dk_seg dksX0_act_0 24 rfl rfl
theorem dksX0_act_2 : cX0_act.data.toList.drop 47 = dktX0_act_2 := dk_seg dksX0_act_1 23 rfl rfl
theorem dX0_act_0 : decode cX0_act 0 = .ok (.aload_n 0, 1) := dk_42 (dk_at dksX0_act_0 0 rfl rfl)
theorem dX0_act_1 : decode cX0_act 1 = .ok (.iconst 0, 1) := dk_3 (dk_at dksX0_act_0 1 rfl rfl)
theorem dX0_act_2 : decode cX0_act 2 = .ok (.putfield 405, 3) := dk_181 1 149 (dk_at dksX0_act_0 2 rfl rfl)
theorem dX0_act_5 : decode cX0_act 5 = .ok (.iload_n 1, 1) := dk_27 (dk_at dksX0_act_0 5 rfl rfl)
theorem dX0_act_6 : decode cX0_act 6 = .ok (.invokestatic 421, 3) := dk_184 1 165 (dk_at dksX0_act_0 6 rfl rfl)
theorem dX0_act_9 : decode cX0_act 9 = .ok (.ifCond .eq 12, 3) := dk_153 0 12 (dk_at dksX0_act_0 9 rfl rfl)
theorem dX0_act_12 : decode cX0_act 12 = .ok (.iload_n 2, 1) := dk_28 (dk_at dksX0_act_0 12 rfl rfl)
theorem dX0_act_13 : decode cX0_act 13 = .ok (.iconst 0, 1) := dk_3 (dk_at dksX0_act_0 13 rfl rfl)
theorem dX0_act_14 : decode cX0_act 14 = .ok (.iconst 3, 1) := dk_6 (dk_at dksX0_act_0 14 rfl rfl)
theorem dX0_act_15 : decode cX0_act 15 = .ok (.invokestatic 115, 3) := dk_184 0 115 (dk_at dksX0_act_0 15 rfl rfl)
theorem dX0_act_18 : decode cX0_act 18 = .ok (.ifCond .ne 5, 3) := dk_154 0 5 (dk_at dksX0_act_0 18 rfl rfl)
theorem dX0_act_21 : decode cX0_act 21 = .ok (.iconst 0, 1) := dk_3 (dk_at dksX0_act_0 21 rfl rfl)
theorem dX0_act_22 : decode cX0_act 22 = .ok (.ireturn, 1) := dk_172 (dk_at dksX0_act_0 22 rfl rfl)
theorem dX0_act_23 : decode cX0_act 23 = .ok (.aload_n 0, 1) := dk_42 (dk_at dksX0_act_0 23 rfl rfl)
theorem dX0_act_24 : decode cX0_act 24 = .ok (.aload_n 0, 1) := dk_42 (dk_at dksX0_act_1 0 rfl rfl)
theorem dX0_act_25 : decode cX0_act 25 = .ok (.getfield 107, 3) := dk_180 0 107 (dk_at dksX0_act_1 1 rfl rfl)
theorem dX0_act_28 : decode cX0_act 28 = .ok (.iload_n 1, 1) := dk_27 (dk_at dksX0_act_1 4 rfl rfl)
theorem dX0_act_29 : decode cX0_act 29 = .ok (.aaload, 1) := dk_50 (dk_at dksX0_act_1 5 rfl rfl)
theorem dX0_act_30 : decode cX0_act 30 = .ok (.invokevirtual 436, 3) := dk_182 1 180 (dk_at dksX0_act_1 6 rfl rfl)
theorem dX0_act_33 : decode cX0_act 33 = .ok (.astore 4, 2) := dk_58 4 (dk_at dksX0_act_1 9 rfl rfl)
theorem dX0_act_35 : decode cX0_act 35 = .ok (.aload 4, 2) := dk_25 4 (dk_at dksX0_act_1 11 rfl rfl)
theorem dX0_act_37 : decode cX0_act 37 = .ok (.instanceof 444, 3) := dk_193 1 188 (dk_at dksX0_act_1 13 rfl rfl)
theorem dX0_act_40 : decode cX0_act 40 = .ok (.ifCond .ne 5, 3) := dk_154 0 5 (dk_at dksX0_act_1 16 rfl rfl)
theorem dX0_act_43 : decode cX0_act 43 = .ok (.iconst 0, 1) := dk_3 (dk_at dksX0_act_1 19 rfl rfl)
theorem dX0_act_44 : decode cX0_act 44 = .ok (.ireturn, 1) := dk_172 (dk_at dksX0_act_1 20 rfl rfl)
theorem dX0_act_45 : decode cX0_act 45 = .ok (.aload 4, 2) := dk_25 4 (dk_at dksX0_act_1 21 rfl rfl)
theorem dX0_act_47 : decode cX0_act 47 = .ok (.checkcast 444, 3) := dk_192 1 188 (dk_at dksX0_act_2 0 rfl rfl)
theorem dX0_act_50 : decode cX0_act 50 = .ok (.iload_n 2, 1) := dk_28 (dk_at dksX0_act_2 3 rfl rfl)
theorem dX0_act_51 : decode cX0_act 51 = .ok (.iload_n 3, 1) := dk_29 (dk_at dksX0_act_2 4 rfl rfl)
theorem dX0_act_52 : decode cX0_act 52 = .ok (.invokestatic 457, 3) := dk_184 1 201 (dk_at dksX0_act_2 5 rfl rfl)
theorem dX0_act_55 : decode cX0_act 55 = .ok (.ireturn, 1) := dk_172 (dk_at dksX0_act_2 8 rfl rfl)
theorem dX0_act_56 : decode cX0_act 56 = .ok (.astore 5, 2) := dk_58 5 (dk_at dksX0_act_2 9 rfl rfl)
theorem dX0_act_58 : decode cX0_act 58 = .ok (.bipush (-15), 2) := dk_16 241 (dk_at dksX0_act_2 11 rfl rfl)
theorem dX0_act_60 : decode cX0_act 60 = .ok (.ireturn, 1) := dk_172 (dk_at dksX0_act_2 13 rfl rfl)
abbrev cX0_acted : ByteArray := prog_1_method_93_code
def yX0_acted : MethodName := ⟨RX0, "acted", "(LIntentVats$Dries;II)I"⟩
def dkwX0_acted_3 : List UInt8 := [42, 28, 185, 1, 198, 2, 0, 172]
abbrev dktX0_acted_3 : List UInt8 := dkwX0_acted_3 ++ []
def dkwX0_acted_2 : List UInt8 := [42, 28, 185, 1, 187, 2, 0, 172, 42, 28, 185, 1, 192, 2, 0, 172, 42, 28, 185, 1, 195, 2, 0, 172]
abbrev dktX0_acted_2 : List UInt8 := dkwX0_acted_2 ++ dktX0_acted_3
def dkwX0_acted_1 : List UInt8 := [170, 0, 0, 0, 0, 0, 51, 0, 0, 0, 0, 0, 0, 0, 2, 0, 0, 0, 27, 0, 0, 0, 35, 0, 0, 0, 43]
abbrev dktX0_acted_1 : List UInt8 := dkwX0_acted_1 ++ dktX0_acted_2
def dkwX0_acted_0 : List UInt8 := [27]
abbrev dktX0_acted_0 : List UInt8 := dkwX0_acted_0 ++ dktX0_acted_1
theorem dksX0_acted_0 : cX0_acted.data.toList.drop 0 = dktX0_acted_0 := by decide +kernel
theorem dksX0_acted_1 : cX0_acted.data.toList.drop 1 = dktX0_acted_1 := dk_seg dksX0_acted_0 1 rfl rfl
theorem dksX0_acted_2 : cX0_acted.data.toList.drop 28 = dktX0_acted_2 := dk_seg dksX0_acted_1 27 rfl rfl
theorem dksX0_acted_3 : cX0_acted.data.toList.drop 52 = dktX0_acted_3 := dk_seg dksX0_acted_2 24 rfl rfl
theorem dX0_acted_0 : decode cX0_acted 0 = .ok (.iload_n 1, 1) := dk_27 (dk_at dksX0_acted_0 0 rfl rfl)
theorem dX0_acted_1 : decode cX0_acted 1 = .ok (.tableswitch 51 0 2 #[27, 35, 43], 27) := by decide +kernel
theorem dX0_acted_28 : decode cX0_acted 28 = .ok (.aload_n 0, 1) := dk_42 (dk_at dksX0_acted_2 0 rfl rfl)
theorem dX0_acted_29 : decode cX0_acted 29 = .ok (.iload_n 2, 1) := dk_28 (dk_at dksX0_acted_2 1 rfl rfl)
theorem dX0_acted_30 : decode cX0_acted 30 = .ok (.invokeinterface 443 2, 5) := by decide +kernel
theorem dX0_acted_35 : decode cX0_acted 35 = .ok (.ireturn, 1) := dk_172 (dk_at dksX0_acted_2 7 rfl rfl)
theorem dX0_acted_36 : decode cX0_acted 36 = .ok (.aload_n 0, 1) := dk_42 (dk_at dksX0_acted_2 8 rfl rfl)
theorem dX0_acted_37 : decode cX0_acted 37 = .ok (.iload_n 2, 1) := dk_28 (dk_at dksX0_acted_2 9 rfl rfl)
theorem dX0_acted_38 : decode cX0_acted 38 = .ok (.invokeinterface 448 2, 5) := by decide +kernel
theorem dX0_acted_43 : decode cX0_acted 43 = .ok (.ireturn, 1) := dk_172 (dk_at dksX0_acted_2 15 rfl rfl)
theorem dX0_acted_44 : decode cX0_acted 44 = .ok (.aload_n 0, 1) := dk_42 (dk_at dksX0_acted_2 16 rfl rfl)
theorem dX0_acted_45 : decode cX0_acted 45 = .ok (.iload_n 2, 1) := dk_28 (dk_at dksX0_acted_2 17 rfl rfl)
theorem dX0_acted_46 : decode cX0_acted 46 = .ok (.invokeinterface 451 2, 5) := by decide +kernel
theorem dX0_acted_51 : decode cX0_acted 51 = .ok (.ireturn, 1) := dk_172 (dk_at dksX0_acted_2 23 rfl rfl)
theorem dX0_acted_52 : decode cX0_acted 52 = .ok (.aload_n 0, 1) := dk_42 (dk_at dksX0_acted_3 0 rfl rfl)
theorem dX0_acted_53 : decode cX0_acted 53 = .ok (.iload_n 2, 1) := dk_28 (dk_at dksX0_acted_3 1 rfl rfl)
theorem dX0_acted_54 : decode cX0_acted 54 = .ok (.invokeinterface 454 2, 5) := by decide +kernel
theorem dX0_acted_59 : decode cX0_acted 59 = .ok (.ireturn, 1) := dk_172 (dk_at dksX0_acted_3 7 rfl rfl)
abbrev cX0_ran : ByteArray := prog_1_method_86_code
def yX0_ran : MethodName := ⟨RX0, "ran", "(I)V"⟩
def dkwX0_ran_1 : List UInt8 := [4, 96, 181, 1, 149, 177]
abbrev dktX0_ran_1 : List UInt8 := dkwX0_ran_1 ++ []
def dkwX0_ran_0 : List UInt8 := [42, 180, 1, 149, 16, 30, 162, 0, 13, 42, 180, 0, 101, 42, 180, 1, 149, 27, 79, 42, 89, 180, 1, 149]
abbrev dktX0_ran_0 : List UInt8 := dkwX0_ran_0 ++ dktX0_ran_1
theorem dksX0_ran_0 : cX0_ran.data.toList.drop 0 = dktX0_ran_0 := by decide +kernel
theorem dksX0_ran_1 : cX0_ran.data.toList.drop 24 = dktX0_ran_1 := dk_seg dksX0_ran_0 24 rfl rfl
theorem dX0_ran_0 : decode cX0_ran 0 = .ok (.aload_n 0, 1) := dk_42 (dk_at dksX0_ran_0 0 rfl rfl)
theorem dX0_ran_1 : decode cX0_ran 1 = .ok (.getfield 405, 3) := dk_180 1 149 (dk_at dksX0_ran_0 1 rfl rfl)
theorem dX0_ran_4 : decode cX0_ran 4 = .ok (.bipush 30, 2) := dk_16 30 (dk_at dksX0_ran_0 4 rfl rfl)
theorem dX0_ran_6 : decode cX0_ran 6 = .ok (.if_icmp .ge 13, 3) := dk_162 0 13 (dk_at dksX0_ran_0 6 rfl rfl)
theorem dX0_ran_9 : decode cX0_ran 9 = .ok (.aload_n 0, 1) := dk_42 (dk_at dksX0_ran_0 9 rfl rfl)
theorem dX0_ran_10 : decode cX0_ran 10 = .ok (.getfield 101, 3) := dk_180 0 101 (dk_at dksX0_ran_0 10 rfl rfl)
theorem dX0_ran_13 : decode cX0_ran 13 = .ok (.aload_n 0, 1) := dk_42 (dk_at dksX0_ran_0 13 rfl rfl)
theorem dX0_ran_14 : decode cX0_ran 14 = .ok (.getfield 405, 3) := dk_180 1 149 (dk_at dksX0_ran_0 14 rfl rfl)
theorem dX0_ran_17 : decode cX0_ran 17 = .ok (.iload_n 1, 1) := dk_27 (dk_at dksX0_ran_0 17 rfl rfl)
theorem dX0_ran_18 : decode cX0_ran 18 = .ok (.iastore, 1) := dk_79 (dk_at dksX0_ran_0 18 rfl rfl)
theorem dX0_ran_19 : decode cX0_ran 19 = .ok (.aload_n 0, 1) := dk_42 (dk_at dksX0_ran_0 19 rfl rfl)
theorem dX0_ran_20 : decode cX0_ran 20 = .ok (.dup, 1) := dk_89 (dk_at dksX0_ran_0 20 rfl rfl)
theorem dX0_ran_21 : decode cX0_ran 21 = .ok (.getfield 405, 3) := dk_180 1 149 (dk_at dksX0_ran_0 21 rfl rfl)
theorem dX0_ran_24 : decode cX0_ran 24 = .ok (.iconst 1, 1) := dk_4 (dk_at dksX0_ran_1 0 rfl rfl)
theorem dX0_ran_25 : decode cX0_ran 25 = .ok (.iadd, 1) := dk_96 (dk_at dksX0_ran_1 1 rfl rfl)
theorem dX0_ran_26 : decode cX0_ran 26 = .ok (.putfield 405, 3) := dk_181 1 149 (dk_at dksX0_ran_1 2 rfl rfl)
theorem dX0_ran_29 : decode cX0_ran 29 = .ok (.return_, 1) := dk_177 (dk_at dksX0_ran_1 5 rfl rfl)
abbrev cX0_trace : ByteArray := prog_1_method_95_code
def yX0_trace : MethodName := ⟨RX0, "trace", "(I)I"⟩
def dkwX0_trace_1 : List UInt8 := [167, 0, 5, 16, 253, 172]
abbrev dktX0_trace_1 : List UInt8 := dkwX0_trace_1 ++ []
def dkwX0_trace_0 : List UInt8 := [27, 155, 0, 25, 27, 42, 180, 1, 149, 16, 30, 184, 0, 149, 162, 0, 12, 42, 180, 0, 101, 27, 46]
abbrev dktX0_trace_0 : List UInt8 := dkwX0_trace_0 ++ dktX0_trace_1
theorem dksX0_trace_0 : cX0_trace.data.toList.drop 0 = dktX0_trace_0 := by decide +kernel
theorem dksX0_trace_1 : cX0_trace.data.toList.drop 23 = dktX0_trace_1 := dk_seg dksX0_trace_0 23 rfl rfl
theorem dX0_trace_0 : decode cX0_trace 0 = .ok (.iload_n 1, 1) := dk_27 (dk_at dksX0_trace_0 0 rfl rfl)
theorem dX0_trace_1 : decode cX0_trace 1 = .ok (.ifCond .lt 25, 3) := dk_155 0 25 (dk_at dksX0_trace_0 1 rfl rfl)
theorem dX0_trace_4 : decode cX0_trace 4 = .ok (.iload_n 1, 1) := dk_27 (dk_at dksX0_trace_0 4 rfl rfl)
theorem dX0_trace_5 : decode cX0_trace 5 = .ok (.aload_n 0, 1) := dk_42 (dk_at dksX0_trace_0 5 rfl rfl)
theorem dX0_trace_6 : decode cX0_trace 6 = .ok (.getfield 405, 3) := dk_180 1 149 (dk_at dksX0_trace_0 6 rfl rfl)
theorem dX0_trace_9 : decode cX0_trace 9 = .ok (.bipush 30, 2) := dk_16 30 (dk_at dksX0_trace_0 9 rfl rfl)
theorem dX0_trace_11 : decode cX0_trace 11 = .ok (.invokestatic 149, 3) := dk_184 0 149 (dk_at dksX0_trace_0 11 rfl rfl)
theorem dX0_trace_14 : decode cX0_trace 14 = .ok (.if_icmp .ge 12, 3) := dk_162 0 12 (dk_at dksX0_trace_0 14 rfl rfl)
theorem dX0_trace_17 : decode cX0_trace 17 = .ok (.aload_n 0, 1) := dk_42 (dk_at dksX0_trace_0 17 rfl rfl)
theorem dX0_trace_18 : decode cX0_trace 18 = .ok (.getfield 101, 3) := dk_180 0 101 (dk_at dksX0_trace_0 18 rfl rfl)
theorem dX0_trace_21 : decode cX0_trace 21 = .ok (.iload_n 1, 1) := dk_27 (dk_at dksX0_trace_0 21 rfl rfl)
theorem dX0_trace_22 : decode cX0_trace 22 = .ok (.iaload, 1) := dk_46 (dk_at dksX0_trace_0 22 rfl rfl)
theorem dX0_trace_23 : decode cX0_trace 23 = .ok (.goto 5, 3) := dk_167 0 5 (dk_at dksX0_trace_1 0 rfl rfl)
theorem dX0_trace_26 : decode cX0_trace 26 = .ok (.bipush (-3), 2) := dk_16 253 (dk_at dksX0_trace_1 3 rfl rfl)
theorem dX0_trace_28 : decode cX0_trace 28 = .ok (.ireturn, 1) := dk_172 (dk_at dksX0_trace_1 5 rfl rfl)
abbrev cX0_many : ByteArray := prog_1_method_96_code
def yX0_many : MethodName := ⟨RX0, "many", "(I)I"⟩
def dkwX0_many_4 : List UInt8 := [180, 0, 200, 172, 42, 180, 1, 149, 16, 30, 184, 0, 149, 172, 2, 172]
abbrev dktX0_many_4 : List UInt8 := dkwX0_many_4 ++ []
def dkwX0_many_3 : List UInt8 := [182, 1, 17, 184, 1, 39, 172, 42, 180, 0, 22, 182, 1, 207, 184, 1, 39, 172, 42, 180, 0, 215, 172, 42]
abbrev dktX0_many_3 : List UInt8 := dkwX0_many_3 ++ dktX0_many_4
def dkwX0_many_2 : List UInt8 := [42, 180, 0, 22, 180, 0, 111, 172, 42, 180, 0, 22, 180, 1, 14, 184, 1, 39, 172, 42, 180, 0, 22]
abbrev dktX0_many_2 : List UInt8 := dkwX0_many_2 ++ dktX0_many_3
def dkwX0_many_1 : List UInt8 := [170, 0, 0, 0, 0, 0, 104, 0, 0, 0, 0, 0, 0, 0, 6, 0, 0, 0, 43, 0, 0, 0, 51, 0, 0, 0, 62, 0, 0, 0, 73, 0, 0, 0, 84, 0, 0, 0, 89, 0, 0, 0, 94]
abbrev dktX0_many_1 : List UInt8 := dkwX0_many_1 ++ dktX0_many_2
def dkwX0_many_0 : List UInt8 := [27]
abbrev dktX0_many_0 : List UInt8 := dkwX0_many_0 ++ dktX0_many_1
theorem dksX0_many_0 : cX0_many.data.toList.drop 0 = dktX0_many_0 := by decide +kernel
theorem dksX0_many_1 : cX0_many.data.toList.drop 1 = dktX0_many_1 := dk_seg dksX0_many_0 1 rfl rfl
theorem dksX0_many_2 : cX0_many.data.toList.drop 44 = dktX0_many_2 := dk_seg dksX0_many_1 43 rfl rfl
theorem dksX0_many_3 : cX0_many.data.toList.drop 67 = dktX0_many_3 := dk_seg dksX0_many_2 23 rfl rfl
theorem dksX0_many_4 : cX0_many.data.toList.drop 91 = dktX0_many_4 := dk_seg dksX0_many_3 24 rfl rfl
theorem dX0_many_0 : decode cX0_many 0 = .ok (.iload_n 1, 1) := dk_27 (dk_at dksX0_many_0 0 rfl rfl)
theorem dX0_many_1 : decode cX0_many 1 = .ok (.tableswitch 104 0 6 #[43, 51, 62, 73, 84, 89, 94], 43) := by decide +kernel
theorem dX0_many_44 : decode cX0_many 44 = .ok (.aload_n 0, 1) := dk_42 (dk_at dksX0_many_2 0 rfl rfl)
theorem dX0_many_45 : decode cX0_many 45 = .ok (.getfield 22, 3) := dk_180 0 22 (dk_at dksX0_many_2 1 rfl rfl)
theorem dX0_many_48 : decode cX0_many 48 = .ok (.getfield 111, 3) := dk_180 0 111 (dk_at dksX0_many_2 4 rfl rfl)
theorem dX0_many_51 : decode cX0_many 51 = .ok (.ireturn, 1) := dk_172 (dk_at dksX0_many_2 7 rfl rfl)
theorem dX0_many_52 : decode cX0_many 52 = .ok (.aload_n 0, 1) := dk_42 (dk_at dksX0_many_2 8 rfl rfl)
theorem dX0_many_53 : decode cX0_many 53 = .ok (.getfield 22, 3) := dk_180 0 22 (dk_at dksX0_many_2 9 rfl rfl)
theorem dX0_many_56 : decode cX0_many 56 = .ok (.getfield 270, 3) := dk_180 1 14 (dk_at dksX0_many_2 12 rfl rfl)
theorem dX0_many_59 : decode cX0_many 59 = .ok (.invokestatic 295, 3) := dk_184 1 39 (dk_at dksX0_many_2 15 rfl rfl)
theorem dX0_many_62 : decode cX0_many 62 = .ok (.ireturn, 1) := dk_172 (dk_at dksX0_many_2 18 rfl rfl)
theorem dX0_many_63 : decode cX0_many 63 = .ok (.aload_n 0, 1) := dk_42 (dk_at dksX0_many_2 19 rfl rfl)
theorem dX0_many_64 : decode cX0_many 64 = .ok (.getfield 22, 3) := dk_180 0 22 (dk_at dksX0_many_2 20 rfl rfl)
theorem dX0_many_67 : decode cX0_many 67 = .ok (.invokevirtual 273, 3) := dk_182 1 17 (dk_at dksX0_many_3 0 rfl rfl)
theorem dX0_many_70 : decode cX0_many 70 = .ok (.invokestatic 295, 3) := dk_184 1 39 (dk_at dksX0_many_3 3 rfl rfl)
theorem dX0_many_73 : decode cX0_many 73 = .ok (.ireturn, 1) := dk_172 (dk_at dksX0_many_3 6 rfl rfl)
theorem dX0_many_74 : decode cX0_many 74 = .ok (.aload_n 0, 1) := dk_42 (dk_at dksX0_many_3 7 rfl rfl)
theorem dX0_many_75 : decode cX0_many 75 = .ok (.getfield 22, 3) := dk_180 0 22 (dk_at dksX0_many_3 8 rfl rfl)
theorem dX0_many_78 : decode cX0_many 78 = .ok (.invokevirtual 463, 3) := dk_182 1 207 (dk_at dksX0_many_3 11 rfl rfl)
theorem dX0_many_81 : decode cX0_many 81 = .ok (.invokestatic 295, 3) := dk_184 1 39 (dk_at dksX0_many_3 14 rfl rfl)
theorem dX0_many_84 : decode cX0_many 84 = .ok (.ireturn, 1) := dk_172 (dk_at dksX0_many_3 17 rfl rfl)
theorem dX0_many_85 : decode cX0_many 85 = .ok (.aload_n 0, 1) := dk_42 (dk_at dksX0_many_3 18 rfl rfl)
theorem dX0_many_86 : decode cX0_many 86 = .ok (.getfield 215, 3) := dk_180 0 215 (dk_at dksX0_many_3 19 rfl rfl)
theorem dX0_many_89 : decode cX0_many 89 = .ok (.ireturn, 1) := dk_172 (dk_at dksX0_many_3 22 rfl rfl)
theorem dX0_many_90 : decode cX0_many 90 = .ok (.aload_n 0, 1) := dk_42 (dk_at dksX0_many_3 23 rfl rfl)
theorem dX0_many_91 : decode cX0_many 91 = .ok (.getfield 200, 3) := dk_180 0 200 (dk_at dksX0_many_4 0 rfl rfl)
theorem dX0_many_94 : decode cX0_many 94 = .ok (.ireturn, 1) := dk_172 (dk_at dksX0_many_4 3 rfl rfl)
theorem dX0_many_95 : decode cX0_many 95 = .ok (.aload_n 0, 1) := dk_42 (dk_at dksX0_many_4 4 rfl rfl)
theorem dX0_many_96 : decode cX0_many 96 = .ok (.getfield 405, 3) := dk_180 1 149 (dk_at dksX0_many_4 5 rfl rfl)
theorem dX0_many_99 : decode cX0_many 99 = .ok (.bipush 30, 2) := dk_16 30 (dk_at dksX0_many_4 8 rfl rfl)
theorem dX0_many_101 : decode cX0_many 101 = .ok (.invokestatic 149, 3) := dk_184 0 149 (dk_at dksX0_many_4 10 rfl rfl)
theorem dX0_many_104 : decode cX0_many 104 = .ok (.ireturn, 1) := dk_172 (dk_at dksX0_many_4 13 rfl rfl)
theorem dX0_many_105 : decode cX0_many 105 = .ok (.iconst (-1), 1) := dk_2 (dk_at dksX0_many_4 14 rfl rfl)
theorem dX0_many_106 : decode cX0_many 106 = .ok (.ireturn, 1) := dk_172 (dk_at dksX0_many_4 15 rfl rfl)
abbrev cX0_keep : ByteArray := prog_1_method_97_code
def yX0_keep : MethodName := ⟨RX0, "keep", "()I"⟩
def dkwX0_keep_0 : List UInt8 := [42, 180, 0, 26, 42, 180, 0, 22, 182, 0, 203, 42, 4, 181, 1, 210, 4, 172]
abbrev dktX0_keep_0 : List UInt8 := dkwX0_keep_0 ++ []
theorem dksX0_keep_0 : cX0_keep.data.toList.drop 0 = dktX0_keep_0 := by decide +kernel
theorem dX0_keep_0 : decode cX0_keep 0 = .ok (.aload_n 0, 1) := dk_42 (dk_at dksX0_keep_0 0 rfl rfl)
theorem dX0_keep_1 : decode cX0_keep 1 = .ok (.getfield 26, 3) := dk_180 0 26 (dk_at dksX0_keep_0 1 rfl rfl)
theorem dX0_keep_4 : decode cX0_keep 4 = .ok (.aload_n 0, 1) := dk_42 (dk_at dksX0_keep_0 4 rfl rfl)
theorem dX0_keep_5 : decode cX0_keep 5 = .ok (.getfield 22, 3) := dk_180 0 22 (dk_at dksX0_keep_0 5 rfl rfl)
theorem dX0_keep_8 : decode cX0_keep 8 = .ok (.invokevirtual 203, 3) := dk_182 0 203 (dk_at dksX0_keep_0 8 rfl rfl)
theorem dX0_keep_11 : decode cX0_keep 11 = .ok (.aload_n 0, 1) := dk_42 (dk_at dksX0_keep_0 11 rfl rfl)
theorem dX0_keep_12 : decode cX0_keep 12 = .ok (.iconst 1, 1) := dk_4 (dk_at dksX0_keep_0 12 rfl rfl)
theorem dX0_keep_13 : decode cX0_keep 13 = .ok (.putfield 466, 3) := dk_181 1 210 (dk_at dksX0_keep_0 13 rfl rfl)
theorem dX0_keep_16 : decode cX0_keep 16 = .ok (.iconst 1, 1) := dk_4 (dk_at dksX0_keep_0 16 rfl rfl)
theorem dX0_keep_17 : decode cX0_keep 17 = .ok (.ireturn, 1) := dk_172 (dk_at dksX0_keep_0 17 rfl rfl)
abbrev cX0_again : ByteArray := prog_1_method_98_code
def yX0_again : MethodName := ⟨RX0, "again", "()I"⟩
def dkwX0_again_1 : List UInt8 := [180, 0, 22, 180, 0, 111, 172]
abbrev dktX0_again_1 : List UInt8 := dkwX0_again_1 ++ []
def dkwX0_again_0 : List UInt8 := [42, 180, 1, 210, 154, 0, 6, 16, 253, 172, 42, 180, 0, 22, 42, 180, 0, 26, 182, 0, 203, 42]
abbrev dktX0_again_0 : List UInt8 := dkwX0_again_0 ++ dktX0_again_1
theorem dksX0_again_0 : cX0_again.data.toList.drop 0 = dktX0_again_0 := by decide +kernel
theorem dksX0_again_1 : cX0_again.data.toList.drop 22 = dktX0_again_1 := dk_seg dksX0_again_0 22 rfl rfl
theorem dX0_again_0 : decode cX0_again 0 = .ok (.aload_n 0, 1) := dk_42 (dk_at dksX0_again_0 0 rfl rfl)
theorem dX0_again_1 : decode cX0_again 1 = .ok (.getfield 466, 3) := dk_180 1 210 (dk_at dksX0_again_0 1 rfl rfl)
theorem dX0_again_4 : decode cX0_again 4 = .ok (.ifCond .ne 6, 3) := dk_154 0 6 (dk_at dksX0_again_0 4 rfl rfl)
theorem dX0_again_7 : decode cX0_again 7 = .ok (.bipush (-3), 2) := dk_16 253 (dk_at dksX0_again_0 7 rfl rfl)
theorem dX0_again_9 : decode cX0_again 9 = .ok (.ireturn, 1) := dk_172 (dk_at dksX0_again_0 9 rfl rfl)
theorem dX0_again_10 : decode cX0_again 10 = .ok (.aload_n 0, 1) := dk_42 (dk_at dksX0_again_0 10 rfl rfl)
theorem dX0_again_11 : decode cX0_again 11 = .ok (.getfield 22, 3) := dk_180 0 22 (dk_at dksX0_again_0 11 rfl rfl)
theorem dX0_again_14 : decode cX0_again 14 = .ok (.aload_n 0, 1) := dk_42 (dk_at dksX0_again_0 14 rfl rfl)
theorem dX0_again_15 : decode cX0_again 15 = .ok (.getfield 26, 3) := dk_180 0 26 (dk_at dksX0_again_0 15 rfl rfl)
theorem dX0_again_18 : decode cX0_again 18 = .ok (.invokevirtual 203, 3) := dk_182 0 203 (dk_at dksX0_again_0 18 rfl rfl)
theorem dX0_again_21 : decode cX0_again 21 = .ok (.aload_n 0, 1) := dk_42 (dk_at dksX0_again_0 21 rfl rfl)
theorem dX0_again_22 : decode cX0_again 22 = .ok (.getfield 22, 3) := dk_180 0 22 (dk_at dksX0_again_1 0 rfl rfl)
theorem dX0_again_25 : decode cX0_again 25 = .ok (.getfield 111, 3) := dk_180 0 111 (dk_at dksX0_again_1 3 rfl rfl)
theorem dX0_again_28 : decode cX0_again 28 = .ok (.ireturn, 1) := dk_172 (dk_at dksX0_again_1 6 rfl rfl)
theorem q100 : (Jvm.Cond.initialized "IntentVats") ∈ lw_all := lw_g (lw_at lw_m1 1 rfl) rfl
theorem q135 : (Jvm.Cond.instantiable "IntentVats" (18 : Nat)) ∈ lw_all := lw_g (lw_at lw_m1 36 rfl) rfl
theorem q137 : (Jvm.Cond.instanceMethod ({ cls := "IntentVats", name := "<init>", desc := "()V" } : Jvm.MethodName)) ∈ lw_all := lw_g (lw_at lw_m1 38 rfl) rfl
theorem q138 : (Jvm.Cond.code ({ cls := "IntentVats", name := "<init>", desc := "()V" } : Jvm.MethodName) prog_1_method_6_code (1 : Nat) (Option.none : Option Jvm.ClassFile.FieldType)) ∈ lw_all := lw_g (lw_at lw_m1 39 rfl) rfl
theorem q139 : (Jvm.Cond.methodLink "IntentVats" (13 : Nat) ({ cls := "java/lang/Object", name := "<init>", desc := "()V" } : Jvm.MethodName)) ∈ lw_all := lw_g (lw_at lw_m1 40 rfl) rfl
theorem q142 : (Jvm.Cond.classLink "IntentVats" (19 : Nat) "IntentVats$Mill") ∈ lw_all := lw_g (lw_at lw_m1 43 rfl) rfl
theorem q144 : (Jvm.Cond.methodLink "IntentVats" (21 : Nat) ({ cls := "IntentVats$Mill", name := "<init>", desc := "()V" } : Jvm.MethodName)) ∈ lw_all := lw_g (lw_at lw_m1 45 rfl) rfl
theorem q153 : (Jvm.Cond.fieldLinkNest "IntentVats" (111 : Nat) "IntentVats$Mill" "many" "I" "IntentVats") ∈ lw_tbl := lw_at lw_m1 54 rfl
theorem q156 : (Jvm.Cond.fieldLinkNest "IntentVats" (174 : Nat) "IntentVats$Mill" "day" "I" "IntentVats") ∈ lw_tbl := lw_at lw_m1 57 rfl
theorem q158 : (Jvm.Cond.fieldLinkNest "IntentVats" (270 : Nat) "IntentVats$Mill" "hung" "I" "IntentVats") ∈ lw_tbl := lw_at lw_m1 59 rfl
theorem q160 : (Jvm.Cond.fieldLinkNest "IntentVats" (261 : Nat) "IntentVats$Mill" "z" "I" "IntentVats") ∈ lw_tbl := lw_at lw_m1 61 rfl
theorem q169 : (Jvm.Cond.fieldLinkNest "IntentVats" (222 : Nat) "IntentVats$Mill" "law" "[I" "IntentVats") ∈ lw_tbl := lw_at lw_m1 70 rfl
theorem q171 : (Jvm.Cond.fieldLinkNest "IntentVats" (126 : Nat) "IntentVats$Mill" "purpose" "[I" "IntentVats") ∈ lw_tbl := lw_at lw_m1 72 rfl
theorem q175 : (Jvm.Cond.fieldLinkNest "IntentVats" (153 : Nat) "IntentVats$Mill" "strength" "[I" "IntentVats") ∈ lw_tbl := lw_at lw_m1 76 rfl
theorem q179 : (Jvm.Cond.fieldLinkNest "IntentVats" (235 : Nat) "IntentVats$Mill" "roster" "[I" "IntentVats") ∈ lw_tbl := lw_at lw_m1 80 rfl
theorem q181 : (Jvm.Cond.fieldLinkNest "IntentVats" (119 : Nat) "IntentVats$Mill" "kind" "[I" "IntentVats") ∈ lw_tbl := lw_at lw_m1 82 rfl
theorem q183 : (Jvm.Cond.fieldLinkNest "IntentVats" (129 : Nat) "IntentVats$Mill" "about" "[I" "IntentVats") ∈ lw_tbl := lw_at lw_m1 84 rfl
theorem q186 : (Jvm.Cond.fieldLinkNest "IntentVats" (132 : Nat) "IntentVats$Mill" "deep" "[I" "IntentVats") ∈ lw_tbl := lw_at lw_m1 87 rfl
theorem q189 : (Jvm.Cond.fieldLinkNest "IntentVats" (146 : Nat) "IntentVats$Mill" "dips" "[I" "IntentVats") ∈ lw_tbl := lw_at lw_m1 90 rfl
theorem q216 : (Jvm.Cond.classLink "IntentVats" (35 : Nat) "IntentVats$Plain") ∈ lw_all := lw_g (lw_at lw_m1 117 rfl) rfl
theorem q219 : (Jvm.Cond.methodLinkNest "IntentVats" (37 : Nat) ({ cls := "IntentVats$Plain", name := "<init>", desc := "()V" } : Jvm.MethodName) "IntentVats") ∈ lw_tbl := lw_at lw_m1 120 rfl
theorem q224 : (Jvm.Cond.classLink "IntentVats" (38 : Nat) "IntentVats$Wool") ∈ lw_all := lw_g (lw_at lw_m1 125 rfl) rfl
theorem q226 : (Jvm.Cond.methodLinkNest "IntentVats" (40 : Nat) ({ cls := "IntentVats$Wool", name := "<init>", desc := "()V" } : Jvm.MethodName) "IntentVats") ∈ lw_tbl := lw_at lw_m1 127 rfl
theorem q231 : (Jvm.Cond.classLink "IntentVats" (41 : Nat) "IntentVats$Linen") ∈ lw_all := lw_g (lw_at lw_m1 132 rfl) rfl
theorem q233 : (Jvm.Cond.methodLinkNest "IntentVats" (43 : Nat) ({ cls := "IntentVats$Linen", name := "<init>", desc := "()V" } : Jvm.MethodName) "IntentVats") ∈ lw_tbl := lw_at lw_m1 134 rfl
theorem q238 : (Jvm.Cond.classLink "IntentVats" (44 : Nat) "IntentVats$Felt") ∈ lw_all := lw_g (lw_at lw_m1 139 rfl) rfl
theorem q240 : (Jvm.Cond.methodLinkNest "IntentVats" (46 : Nat) ({ cls := "IntentVats$Felt", name := "<init>", desc := "()V" } : Jvm.MethodName) "IntentVats") ∈ lw_tbl := lw_at lw_m1 141 rfl
theorem q245 : (Jvm.Cond.classLink "IntentVats" (47 : Nat) "IntentVats$Shroud") ∈ lw_all := lw_g (lw_at lw_m1 146 rfl) rfl
theorem q247 : (Jvm.Cond.methodLinkNest "IntentVats" (49 : Nat) ({ cls := "IntentVats$Shroud", name := "<init>", desc := "()V" } : Jvm.MethodName) "IntentVats") ∈ lw_tbl := lw_at lw_m1 148 rfl
theorem q252 : (Jvm.Cond.classLink "IntentVats" (50 : Nat) "IntentVats$Muslin") ∈ lw_all := lw_g (lw_at lw_m1 153 rfl) rfl
theorem q254 : (Jvm.Cond.methodLinkNest "IntentVats" (52 : Nat) ({ cls := "IntentVats$Muslin", name := "<init>", desc := "()V" } : Jvm.MethodName) "IntentVats") ∈ lw_tbl := lw_at lw_m1 155 rfl
theorem q259 : (Jvm.Cond.classLink "IntentVats" (61 : Nat) "IntentVats$Reader") ∈ lw_all := lw_g (lw_at lw_m1 160 rfl) rfl
theorem q261 : (Jvm.Cond.methodLink "IntentVats" (63 : Nat) ({ cls := "IntentVats$Reader", name := "<init>", desc := "(LIntentVats$Mill;)V" } : Jvm.MethodName)) ∈ lw_all := lw_g (lw_at lw_m1 162 rfl) rfl
theorem q334 : (Jvm.Cond.fieldLinkNest "IntentVats" (212 : Nat) "IntentVats$Fault" "place" "I" "IntentVats") ∈ lw_tbl := lw_at lw_m1 235 rfl
theorem q376 : (Jvm.Cond.classLink "IntentVats" (70 : Nat) "IntentVats$Row") ∈ lw_all := lw_g (lw_at lw_m2 37 rfl) rfl
theorem q378 : (Jvm.Cond.classLink "IntentVats" (80 : Nat) "IntentVats$Sheet") ∈ lw_all := lw_g (lw_at lw_m2 39 rfl) rfl
theorem q381 : (Jvm.Cond.methodLinkNest "IntentVats" (82 : Nat) ({ cls := "IntentVats$Sheet", name := "<init>", desc := "()V" } : Jvm.MethodName) "IntentVats") ∈ lw_tbl := lw_at lw_m2 42 rfl
theorem q401 : (Jvm.Cond.classLink "IntentVats" (87 : Nat) "IntentVats$Beyond") ∈ lw_all := lw_g (lw_at lw_m2 62 rfl) rfl
theorem q410 : (Jvm.Cond.methodLink "IntentVats" (89 : Nat) ({ cls := "IntentVats$Beyond", name := "<init>", desc := "()V" } : Jvm.MethodName)) ∈ lw_all := lw_g (lw_at lw_m2 71 rfl) rfl
theorem q416 : (Jvm.Cond.classLink "IntentVats" (94 : Nat) "IntentVats$Nothing") ∈ lw_all := lw_g (lw_at lw_m2 77 rfl) rfl
theorem q425 : (Jvm.Cond.methodLink "IntentVats" (96 : Nat) ({ cls := "IntentVats$Nothing", name := "<init>", desc := "()V" } : Jvm.MethodName)) ∈ lw_all := lw_g (lw_at lw_m2 86 rfl) rfl
theorem q431 : (Jvm.Cond.classLink "IntentVats" (104 : Nat) "IntentVats$Shelf") ∈ lw_all := lw_g (lw_at lw_m2 92 rfl) rfl
theorem q434 : (Jvm.Cond.methodLinkNest "IntentVats" (106 : Nat) ({ cls := "IntentVats$Shelf", name := "<init>", desc := "()V" } : Jvm.MethodName) "IntentVats") ∈ lw_tbl := lw_at lw_m2 95 rfl
theorem q439 : (Jvm.Cond.fieldLinkNest "IntentVats" (408 : Nat) "IntentVats$Shelf" "what" "I" "IntentVats") ∈ lw_tbl := lw_at lw_m2 100 rfl
theorem q440 : (Jvm.Cond.fieldLinkNest "IntentVats" (411 : Nat) "IntentVats$Shelf" "number" "I" "IntentVats") ∈ lw_tbl := lw_at lw_m2 101 rfl
theorem q441 : (Jvm.Cond.fieldLinkNest "IntentVats" (418 : Nat) "IntentVats$Shelf" "row" "Ljava/lang/Object;" "IntentVats") ∈ lw_tbl := lw_at lw_m2 102 rfl
theorem q449 : (Jvm.Cond.fieldLink "IntentVats" (22 : Nat) "IntentVats" "d" "LIntentVats$Mill;") ∈ lw_all := lw_g (lw_at lw_m2 110 rfl) rfl
theorem q450 : (Jvm.Cond.fieldLink "IntentVats" (26 : Nat) "IntentVats" "kept" "LIntentVats$Mill;") ∈ lw_all := lw_g (lw_at lw_m2 111 rfl) rfl
theorem q451 : (Jvm.Cond.fieldLink "IntentVats" (29 : Nat) "IntentVats" "draft" "LIntentVats$Mill;") ∈ lw_all := lw_g (lw_at lw_m2 112 rfl) rfl
theorem q452 : (Jvm.Cond.fieldLink "IntentVats" (32 : Nat) "IntentVats" "tried" "LIntentVats$Mill;") ∈ lw_all := lw_g (lw_at lw_m2 113 rfl) rfl
theorem q453 : (Jvm.Cond.fieldLink "IntentVats" (466 : Nat) "IntentVats" "isKept" "Z") ∈ lw_all := lw_g (lw_at lw_m2 114 rfl) rfl
theorem q454 : (Jvm.Cond.fieldLink "IntentVats" (53 : Nat) "IntentVats" "ways" "[LIntentVats$Plain;") ∈ lw_all := lw_g (lw_at lw_m2 115 rfl) rfl
theorem q455 : (Jvm.Cond.fieldLink "IntentVats" (57 : Nat) "IntentVats" "tape" "[B") ∈ lw_all := lw_g (lw_at lw_m2 116 rfl) rfl
theorem q456 : (Jvm.Cond.fieldLink "IntentVats" (200 : Nat) "IntentVats" "taped" "I") ∈ lw_all := lw_g (lw_at lw_m2 117 rfl) rfl
theorem q457 : (Jvm.Cond.fieldLink "IntentVats" (66 : Nat) "IntentVats" "reader" "LIntentVats$Reader;") ∈ lw_all := lw_g (lw_at lw_m2 118 rfl) rfl
theorem q458 : (Jvm.Cond.fieldLink "IntentVats" (72 : Nat) "IntentVats" "rows" "[LIntentVats$Row;") ∈ lw_all := lw_g (lw_at lw_m2 119 rfl) rfl
theorem q459 : (Jvm.Cond.fieldLink "IntentVats" (215 : Nat) "IntentVats" "rowMany" "I") ∈ lw_all := lw_g (lw_at lw_m2 120 rfl) rfl
theorem q460 : (Jvm.Cond.fieldLink "IntentVats" (76 : Nat) "IntentVats" "due" "[I") ∈ lw_all := lw_g (lw_at lw_m2 121 rfl) rfl
theorem q461 : (Jvm.Cond.fieldLink "IntentVats" (83 : Nat) "IntentVats" "sheets" "[LIntentVats$Sheet;") ∈ lw_all := lw_g (lw_at lw_m2 122 rfl) rfl
theorem q462 : (Jvm.Cond.fieldLink "IntentVats" (90 : Nat) "IntentVats" "beyond" "LIntentVats$Beyond;") ∈ lw_all := lw_g (lw_at lw_m2 123 rfl) rfl
theorem q463 : (Jvm.Cond.fieldLink "IntentVats" (97 : Nat) "IntentVats" "nothing" "LIntentVats$Nothing;") ∈ lw_all := lw_g (lw_at lw_m2 124 rfl) rfl
theorem q464 : (Jvm.Cond.fieldLink "IntentVats" (101 : Nat) "IntentVats" "traced" "[I") ∈ lw_all := lw_g (lw_at lw_m2 125 rfl) rfl
theorem q465 : (Jvm.Cond.fieldLink "IntentVats" (405 : Nat) "IntentVats" "bodies" "I") ∈ lw_all := lw_g (lw_at lw_m2 126 rfl) rfl
theorem q466 : (Jvm.Cond.fieldLink "IntentVats" (107 : Nat) "IntentVats" "shelves" "[LIntentVats$Shelf;") ∈ lw_all := lw_g (lw_at lw_m2 127 rfl) rfl
theorem q467 : (Jvm.Cond.laysFinal "IntentVats" "IntentVats" "d" "LIntentVats$Mill;") ∈ lw_all := lw_g (lw_at lw_m2 128 rfl) rfl
theorem q468 : (Jvm.Cond.soleField "IntentVats" "d") ∈ lw_all := lw_g (lw_at lw_m2 129 rfl) rfl
theorem q469 : (Jvm.Cond.laysFinal "IntentVats" "IntentVats" "kept" "LIntentVats$Mill;") ∈ lw_all := lw_g (lw_at lw_m2 130 rfl) rfl
theorem q470 : (Jvm.Cond.soleField "IntentVats" "kept") ∈ lw_all := lw_g (lw_at lw_m2 131 rfl) rfl
theorem q471 : (Jvm.Cond.laysFinal "IntentVats" "IntentVats" "draft" "LIntentVats$Mill;") ∈ lw_all := lw_g (lw_at lw_m2 132 rfl) rfl
theorem q472 : (Jvm.Cond.soleField "IntentVats" "draft") ∈ lw_all := lw_g (lw_at lw_m2 133 rfl) rfl
theorem q473 : (Jvm.Cond.laysFinal "IntentVats" "IntentVats" "tried" "LIntentVats$Mill;") ∈ lw_all := lw_g (lw_at lw_m2 134 rfl) rfl
theorem q474 : (Jvm.Cond.soleField "IntentVats" "tried") ∈ lw_all := lw_g (lw_at lw_m2 135 rfl) rfl
theorem q475 : (Jvm.Cond.lays "IntentVats" "IntentVats" "isKept" "Z") ∈ lw_all := lw_g (lw_at lw_m2 136 rfl) rfl
theorem q476 : (Jvm.Cond.soleField "IntentVats" "isKept") ∈ lw_all := lw_g (lw_at lw_m2 137 rfl) rfl
theorem q477 : (Jvm.Cond.laysFinal "IntentVats" "IntentVats" "ways" "[LIntentVats$Plain;") ∈ lw_all := lw_g (lw_at lw_m2 138 rfl) rfl
theorem q478 : (Jvm.Cond.soleField "IntentVats" "ways") ∈ lw_all := lw_g (lw_at lw_m2 139 rfl) rfl
theorem q479 : (Jvm.Cond.laysFinal "IntentVats" "IntentVats" "tape" "[B") ∈ lw_all := lw_g (lw_at lw_m2 140 rfl) rfl
theorem q480 : (Jvm.Cond.soleField "IntentVats" "tape") ∈ lw_all := lw_g (lw_at lw_m2 141 rfl) rfl
theorem q481 : (Jvm.Cond.lays "IntentVats" "IntentVats" "taped" "I") ∈ lw_all := lw_g (lw_at lw_m2 142 rfl) rfl
theorem q482 : (Jvm.Cond.soleField "IntentVats" "taped") ∈ lw_all := lw_g (lw_at lw_m2 143 rfl) rfl
theorem q483 : (Jvm.Cond.laysFinal "IntentVats" "IntentVats" "reader" "LIntentVats$Reader;") ∈ lw_all := lw_g (lw_at lw_m2 144 rfl) rfl
theorem q484 : (Jvm.Cond.soleField "IntentVats" "reader") ∈ lw_all := lw_g (lw_at lw_m2 145 rfl) rfl
theorem q485 : (Jvm.Cond.laysFinal "IntentVats" "IntentVats" "rows" "[LIntentVats$Row;") ∈ lw_all := lw_g (lw_at lw_m2 146 rfl) rfl
theorem q486 : (Jvm.Cond.soleField "IntentVats" "rows") ∈ lw_all := lw_g (lw_at lw_m2 147 rfl) rfl
theorem q487 : (Jvm.Cond.lays "IntentVats" "IntentVats" "rowMany" "I") ∈ lw_all := lw_g (lw_at lw_m2 148 rfl) rfl
theorem q488 : (Jvm.Cond.soleField "IntentVats" "rowMany") ∈ lw_all := lw_g (lw_at lw_m2 149 rfl) rfl
theorem q489 : (Jvm.Cond.laysFinal "IntentVats" "IntentVats" "due" "[I") ∈ lw_all := lw_g (lw_at lw_m2 150 rfl) rfl
theorem q490 : (Jvm.Cond.soleField "IntentVats" "due") ∈ lw_all := lw_g (lw_at lw_m2 151 rfl) rfl
theorem q491 : (Jvm.Cond.laysFinal "IntentVats" "IntentVats" "sheets" "[LIntentVats$Sheet;") ∈ lw_all := lw_g (lw_at lw_m2 152 rfl) rfl
theorem q492 : (Jvm.Cond.soleField "IntentVats" "sheets") ∈ lw_all := lw_g (lw_at lw_m2 153 rfl) rfl
theorem q493 : (Jvm.Cond.laysFinal "IntentVats" "IntentVats" "beyond" "LIntentVats$Beyond;") ∈ lw_all := lw_g (lw_at lw_m2 154 rfl) rfl
theorem q494 : (Jvm.Cond.soleField "IntentVats" "beyond") ∈ lw_all := lw_g (lw_at lw_m2 155 rfl) rfl
theorem q495 : (Jvm.Cond.laysFinal "IntentVats" "IntentVats" "nothing" "LIntentVats$Nothing;") ∈ lw_all := lw_g (lw_at lw_m2 156 rfl) rfl
theorem q496 : (Jvm.Cond.soleField "IntentVats" "nothing") ∈ lw_all := lw_g (lw_at lw_m2 157 rfl) rfl
theorem q497 : (Jvm.Cond.laysFinal "IntentVats" "IntentVats" "traced" "[I") ∈ lw_all := lw_g (lw_at lw_m2 158 rfl) rfl
theorem q498 : (Jvm.Cond.soleField "IntentVats" "traced") ∈ lw_all := lw_g (lw_at lw_m2 159 rfl) rfl
theorem q499 : (Jvm.Cond.lays "IntentVats" "IntentVats" "bodies" "I") ∈ lw_all := lw_g (lw_at lw_m2 160 rfl) rfl
theorem q500 : (Jvm.Cond.soleField "IntentVats" "bodies") ∈ lw_all := lw_g (lw_at lw_m2 161 rfl) rfl
theorem q501 : (Jvm.Cond.laysFinal "IntentVats" "IntentVats" "shelves" "[LIntentVats$Shelf;") ∈ lw_all := lw_g (lw_at lw_m2 162 rfl) rfl
theorem q502 : (Jvm.Cond.soleField "IntentVats" "shelves") ∈ lw_all := lw_g (lw_at lw_m2 163 rfl) rfl
theorem q503 : (Jvm.Cond.superclass "IntentVats" "java/lang/Object") ∈ lw_all := lw_g (lw_at lw_m2 164 rfl) rfl
theorem q505 : (Jvm.Cond.instanceMethod ({ cls := "IntentVats", name := "feed", desc := "(JI)I" } : Jvm.MethodName)) ∈ lw_all := lw_g (lw_at lw_m2 166 rfl) rfl
theorem q506 : (Jvm.Cond.selects "IntentVats" ({ cls := "IntentVats", name := "feed", desc := "(JI)I" } : Jvm.MethodName) ({ cls := "IntentVats", name := "feed", desc := "(JI)I" } : Jvm.MethodName)) ∈ lw_all := lw_g (lw_at lw_m2 167 rfl) rfl
theorem q507 : (Jvm.Cond.code ({ cls := "IntentVats", name := "feed", desc := "(JI)I" } : Jvm.MethodName) prog_1_method_17_code (5 : Nat) (Option.some Jvm.ClassFile.FieldType.int)) ∈ lw_all := lw_g (lw_at lw_m2 168 rfl) rfl
theorem q508 : (Jvm.Cond.methodLink "IntentVats" (115 : Nat) ({ cls := "IntentVats", name := "in", desc := "(III)Z" } : Jvm.MethodName)) ∈ lw_all := lw_g (lw_at lw_m2 169 rfl) rfl
theorem q509 : (Jvm.Cond.static ({ cls := "IntentVats", name := "in", desc := "(III)Z" } : Jvm.MethodName)) ∈ lw_all := lw_g (lw_at lw_m2 170 rfl) rfl
theorem q510 : (Jvm.Cond.code ({ cls := "IntentVats", name := "in", desc := "(III)Z" } : Jvm.MethodName) prog_1_method_1_code (3 : Nat) (Option.some Jvm.ClassFile.FieldType.boolean)) ∈ lw_all := lw_g (lw_at lw_m2 171 rfl) rfl
theorem q512 : (Jvm.Cond.instanceMethod ({ cls := "IntentVats", name := "mill", desc := "()I" } : Jvm.MethodName)) ∈ lw_all := lw_g (lw_at lw_m2 173 rfl) rfl
theorem q513 : (Jvm.Cond.selects "IntentVats" ({ cls := "IntentVats", name := "mill", desc := "()I" } : Jvm.MethodName) ({ cls := "IntentVats", name := "mill", desc := "()I" } : Jvm.MethodName)) ∈ lw_all := lw_g (lw_at lw_m2 174 rfl) rfl
theorem q514 : (Jvm.Cond.codeWith ({ cls := "IntentVats", name := "mill", desc := "()I" } : Jvm.MethodName) prog_1_method_18_code (3 : Nat) (Option.some Jvm.ClassFile.FieldType.int) [((21 : Nat), (33 : Nat), (36 : Nat), (210 : Nat))]) ∈ lw_all := lw_g (lw_at lw_m2 175 rfl) rfl
theorem q515 : (Jvm.Cond.classLink "IntentVats" (210 : Nat) "IntentVats$Fault") ∈ lw_all := lw_g (lw_at lw_m2 176 rfl) rfl
theorem q516 : (Jvm.Cond.methodLink "IntentVats" (203 : Nat) ({ cls := "IntentVats$Mill", name := "become", desc := "(LIntentVats$Mill;)V" } : Jvm.MethodName)) ∈ lw_all := lw_g (lw_at lw_m2 177 rfl) rfl
theorem q526 : (Jvm.Cond.methodLink "IntentVats" (206 : Nat) ({ cls := "IntentVats$Reader", name := "read", desc := "([BI)V" } : Jvm.MethodName)) ∈ lw_all := lw_g (lw_at lw_m2 187 rfl) rfl
theorem q666 : (Jvm.Cond.static ({ cls := "IntentVats", name := "mostOf", desc := "(I)I" } : Jvm.MethodName)) ∈ lw_all := lw_g (lw_at lw_m3 87 rfl) rfl
theorem q667 : (Jvm.Cond.code ({ cls := "IntentVats", name := "mostOf", desc := "(I)I" } : Jvm.MethodName) prog_1_method_11_code (1 : Nat) (Option.some Jvm.ClassFile.FieldType.int)) ∈ lw_all := lw_g (lw_at lw_m3 88 rfl) rfl
theorem q670 : (Jvm.Cond.instanceMethod ({ cls := "IntentVats", name := "set", desc := "(II)I" } : Jvm.MethodName)) ∈ lw_all := lw_g (lw_at lw_m3 91 rfl) rfl
theorem q671 : (Jvm.Cond.selects "IntentVats" ({ cls := "IntentVats", name := "set", desc := "(II)I" } : Jvm.MethodName) ({ cls := "IntentVats", name := "set", desc := "(II)I" } : Jvm.MethodName)) ∈ lw_all := lw_g (lw_at lw_m3 92 rfl) rfl
theorem q672 : (Jvm.Cond.code ({ cls := "IntentVats", name := "set", desc := "(II)I" } : Jvm.MethodName) prog_1_method_19_code (4 : Nat) (Option.some Jvm.ClassFile.FieldType.int)) ∈ lw_all := lw_g (lw_at lw_m3 93 rfl) rfl
theorem q673 : (Jvm.Cond.methodLink "IntentVats" (218 : Nat) ({ cls := "IntentVats", name := "mostOf", desc := "(I)I" } : Jvm.MethodName)) ∈ lw_all := lw_g (lw_at lw_m3 94 rfl) rfl
theorem q675 : (Jvm.Cond.instanceMethod ({ cls := "IntentVats", name := "lawOf", desc := "(I)I" } : Jvm.MethodName)) ∈ lw_all := lw_g (lw_at lw_m3 96 rfl) rfl
theorem q676 : (Jvm.Cond.selects "IntentVats" ({ cls := "IntentVats", name := "lawOf", desc := "(I)I" } : Jvm.MethodName) ({ cls := "IntentVats", name := "lawOf", desc := "(I)I" } : Jvm.MethodName)) ∈ lw_all := lw_g (lw_at lw_m3 97 rfl) rfl
theorem q677 : (Jvm.Cond.code ({ cls := "IntentVats", name := "lawOf", desc := "(I)I" } : Jvm.MethodName) prog_1_method_20_code (2 : Nat) (Option.some Jvm.ClassFile.FieldType.int)) ∈ lw_all := lw_g (lw_at lw_m3 98 rfl) rfl
theorem q679 : (Jvm.Cond.instanceMethod ({ cls := "IntentVats", name := "fill", desc := "(III)I" } : Jvm.MethodName)) ∈ lw_all := lw_g (lw_at lw_m3 100 rfl) rfl
theorem q680 : (Jvm.Cond.selects "IntentVats" ({ cls := "IntentVats", name := "fill", desc := "(III)I" } : Jvm.MethodName) ({ cls := "IntentVats", name := "fill", desc := "(III)I" } : Jvm.MethodName)) ∈ lw_all := lw_g (lw_at lw_m3 101 rfl) rfl
theorem q681 : (Jvm.Cond.code ({ cls := "IntentVats", name := "fill", desc := "(III)I" } : Jvm.MethodName) prog_1_method_23_code (4 : Nat) (Option.some Jvm.ClassFile.FieldType.int)) ∈ lw_all := lw_g (lw_at lw_m3 102 rfl) rfl
theorem q682 : (Jvm.Cond.methodLink "IntentVats" (225 : Nat) ({ cls := "IntentVats", name := "isVat", desc := "(I)Z" } : Jvm.MethodName)) ∈ lw_all := lw_g (lw_at lw_m3 103 rfl) rfl
theorem q683 : (Jvm.Cond.static ({ cls := "IntentVats", name := "isVat", desc := "(I)Z" } : Jvm.MethodName)) ∈ lw_all := lw_g (lw_at lw_m3 104 rfl) rfl
theorem q684 : (Jvm.Cond.code ({ cls := "IntentVats", name := "isVat", desc := "(I)Z" } : Jvm.MethodName) prog_1_method_8_code (1 : Nat) (Option.some Jvm.ClassFile.FieldType.boolean)) ∈ lw_all := lw_g (lw_at lw_m3 105 rfl) rfl
theorem q685 : (Jvm.Cond.methodLink "IntentVats" (228 : Nat) ({ cls := "IntentVats", name := "becomes", desc := "([III)I" } : Jvm.MethodName)) ∈ lw_all := lw_g (lw_at lw_m3 106 rfl) rfl
theorem q686 : (Jvm.Cond.static ({ cls := "IntentVats", name := "becomes", desc := "([III)I" } : Jvm.MethodName)) ∈ lw_all := lw_g (lw_at lw_m3 107 rfl) rfl
theorem q687 : (Jvm.Cond.code ({ cls := "IntentVats", name := "becomes", desc := "([III)I" } : Jvm.MethodName) prog_1_method_22_code (4 : Nat) (Option.some Jvm.ClassFile.FieldType.int)) ∈ lw_all := lw_g (lw_at lw_m3 108 rfl) rfl
theorem q689 : (Jvm.Cond.instanceMethod ({ cls := "IntentVats", name := "vatOf", desc := "(II)I" } : Jvm.MethodName)) ∈ lw_all := lw_g (lw_at lw_m3 110 rfl) rfl
theorem q690 : (Jvm.Cond.selects "IntentVats" ({ cls := "IntentVats", name := "vatOf", desc := "(II)I" } : Jvm.MethodName) ({ cls := "IntentVats", name := "vatOf", desc := "(II)I" } : Jvm.MethodName)) ∈ lw_all := lw_g (lw_at lw_m3 111 rfl) rfl
theorem q691 : (Jvm.Cond.code ({ cls := "IntentVats", name := "vatOf", desc := "(II)I" } : Jvm.MethodName) prog_1_method_24_code (3 : Nat) (Option.some Jvm.ClassFile.FieldType.int)) ∈ lw_all := lw_g (lw_at lw_m3 112 rfl) rfl
theorem q693 : (Jvm.Cond.instanceMethod ({ cls := "IntentVats", name := "roster", desc := "(II)I" } : Jvm.MethodName)) ∈ lw_all := lw_g (lw_at lw_m3 114 rfl) rfl
theorem q694 : (Jvm.Cond.selects "IntentVats" ({ cls := "IntentVats", name := "roster", desc := "(II)I" } : Jvm.MethodName) ({ cls := "IntentVats", name := "roster", desc := "(II)I" } : Jvm.MethodName)) ∈ lw_all := lw_g (lw_at lw_m3 115 rfl) rfl
theorem q695 : (Jvm.Cond.code ({ cls := "IntentVats", name := "roster", desc := "(II)I" } : Jvm.MethodName) prog_1_method_25_code (3 : Nat) (Option.some Jvm.ClassFile.FieldType.int)) ∈ lw_all := lw_g (lw_at lw_m3 116 rfl) rfl
theorem q696 : (Jvm.Cond.methodLink "IntentVats" (232 : Nat) ({ cls := "IntentVats", name := "isRest", desc := "(I)Z" } : Jvm.MethodName)) ∈ lw_all := lw_g (lw_at lw_m3 117 rfl) rfl
theorem q697 : (Jvm.Cond.static ({ cls := "IntentVats", name := "isRest", desc := "(I)Z" } : Jvm.MethodName)) ∈ lw_all := lw_g (lw_at lw_m3 118 rfl) rfl
theorem q698 : (Jvm.Cond.code ({ cls := "IntentVats", name := "isRest", desc := "(I)Z" } : Jvm.MethodName) prog_1_method_9_code (1 : Nat) (Option.some Jvm.ClassFile.FieldType.boolean)) ∈ lw_all := lw_g (lw_at lw_m3 119 rfl) rfl
theorem q700 : (Jvm.Cond.instanceMethod ({ cls := "IntentVats", name := "rosterOf", desc := "(I)I" } : Jvm.MethodName)) ∈ lw_all := lw_g (lw_at lw_m3 121 rfl) rfl
theorem q701 : (Jvm.Cond.selects "IntentVats" ({ cls := "IntentVats", name := "rosterOf", desc := "(I)I" } : Jvm.MethodName) ({ cls := "IntentVats", name := "rosterOf", desc := "(I)I" } : Jvm.MethodName)) ∈ lw_all := lw_g (lw_at lw_m3 122 rfl) rfl
theorem q702 : (Jvm.Cond.code ({ cls := "IntentVats", name := "rosterOf", desc := "(I)I" } : Jvm.MethodName) prog_1_method_26_code (2 : Nat) (Option.some Jvm.ClassFile.FieldType.int)) ∈ lw_all := lw_g (lw_at lw_m3 123 rfl) rfl
theorem q704 : (Jvm.Cond.instanceMethod ({ cls := "IntentVats", name := "cloth", desc := "(I)I" } : Jvm.MethodName)) ∈ lw_all := lw_g (lw_at lw_m3 125 rfl) rfl
theorem q705 : (Jvm.Cond.selects "IntentVats" ({ cls := "IntentVats", name := "cloth", desc := "(I)I" } : Jvm.MethodName) ({ cls := "IntentVats", name := "cloth", desc := "(I)I" } : Jvm.MethodName)) ∈ lw_all := lw_g (lw_at lw_m3 126 rfl) rfl
theorem q706 : (Jvm.Cond.code ({ cls := "IntentVats", name := "cloth", desc := "(I)I" } : Jvm.MethodName) prog_1_method_27_code (2 : Nat) (Option.some Jvm.ClassFile.FieldType.int)) ∈ lw_all := lw_g (lw_at lw_m3 127 rfl) rfl
theorem q707 : (Jvm.Cond.methodLink "IntentVats" (238 : Nat) ({ cls := "IntentVats", name := "isKind", desc := "(I)Z" } : Jvm.MethodName)) ∈ lw_all := lw_g (lw_at lw_m3 128 rfl) rfl
theorem q708 : (Jvm.Cond.static ({ cls := "IntentVats", name := "isKind", desc := "(I)Z" } : Jvm.MethodName)) ∈ lw_all := lw_g (lw_at lw_m3 129 rfl) rfl
theorem q709 : (Jvm.Cond.code ({ cls := "IntentVats", name := "isKind", desc := "(I)Z" } : Jvm.MethodName) prog_1_method_21_code (1 : Nat) (Option.some Jvm.ClassFile.FieldType.boolean)) ∈ lw_all := lw_g (lw_at lw_m3 130 rfl) rfl
theorem q710 : (Jvm.Cond.methodLink "IntentVats" (241 : Nat) ({ cls := "IntentVats$Mill", name := "add", desc := "(I)I" } : Jvm.MethodName)) ∈ lw_all := lw_g (lw_at lw_m3 131 rfl) rfl
theorem q712 : (Jvm.Cond.instanceMethod ({ cls := "IntentVats", name := "of", desc := "(II)I" } : Jvm.MethodName)) ∈ lw_all := lw_g (lw_at lw_m3 133 rfl) rfl
theorem q713 : (Jvm.Cond.selects "IntentVats" ({ cls := "IntentVats", name := "of", desc := "(II)I" } : Jvm.MethodName) ({ cls := "IntentVats", name := "of", desc := "(II)I" } : Jvm.MethodName)) ∈ lw_all := lw_g (lw_at lw_m3 134 rfl) rfl
theorem q714 : (Jvm.Cond.code ({ cls := "IntentVats", name := "of", desc := "(II)I" } : Jvm.MethodName) prog_1_method_28_code (3 : Nat) (Option.some Jvm.ClassFile.FieldType.int)) ∈ lw_all := lw_g (lw_at lw_m3 135 rfl) rfl
theorem q715 : (Jvm.Cond.methodLink "IntentVats" (244 : Nat) ({ cls := "IntentVats", name := "isCloth", desc := "(I)Z" } : Jvm.MethodName)) ∈ lw_all := lw_g (lw_at lw_m3 136 rfl) rfl
theorem q716 : (Jvm.Cond.privateMethod ({ cls := "IntentVats", name := "isCloth", desc := "(I)Z" } : Jvm.MethodName)) ∈ lw_tbl := lw_at lw_m3 137 rfl
theorem q717 : (Jvm.Cond.instanceMethod ({ cls := "IntentVats", name := "isCloth", desc := "(I)Z" } : Jvm.MethodName)) ∈ lw_all := lw_g (lw_at lw_m3 138 rfl) rfl
theorem q718 : (Jvm.Cond.code ({ cls := "IntentVats", name := "isCloth", desc := "(I)Z" } : Jvm.MethodName) prog_1_method_7_code (2 : Nat) (Option.some Jvm.ClassFile.FieldType.boolean)) ∈ lw_all := lw_g (lw_at lw_m3 139 rfl) rfl
theorem q719 : (Jvm.Cond.methodLink "IntentVats" (163 : Nat) ({ cls := "IntentVats$Mill", name := "isHung", desc := "(I)Z" } : Jvm.MethodName)) ∈ lw_all := lw_g (lw_at lw_m3 140 rfl) rfl
theorem q724 : (Jvm.Cond.static ({ cls := "IntentVats", name := "has", desc := "(II)Z" } : Jvm.MethodName)) ∈ lw_all := lw_g (lw_at lw_m3 145 rfl) rfl
theorem q725 : (Jvm.Cond.code ({ cls := "IntentVats", name := "has", desc := "(II)Z" } : Jvm.MethodName) prog_1_method_2_code (2 : Nat) (Option.some Jvm.ClassFile.FieldType.boolean)) ∈ lw_all := lw_g (lw_at lw_m3 146 rfl) rfl
theorem q727 : (Jvm.Cond.instanceMethod ({ cls := "IntentVats", name := "does", desc := "(III)I" } : Jvm.MethodName)) ∈ lw_all := lw_g (lw_at lw_m3 148 rfl) rfl
theorem q728 : (Jvm.Cond.selects "IntentVats" ({ cls := "IntentVats", name := "does", desc := "(III)I" } : Jvm.MethodName) ({ cls := "IntentVats", name := "does", desc := "(III)I" } : Jvm.MethodName)) ∈ lw_all := lw_g (lw_at lw_m3 149 rfl) rfl
theorem q729 : (Jvm.Cond.code ({ cls := "IntentVats", name := "does", desc := "(III)I" } : Jvm.MethodName) prog_1_method_29_code (5 : Nat) (Option.some Jvm.ClassFile.FieldType.int)) ∈ lw_all := lw_g (lw_at lw_m3 150 rfl) rfl
theorem q730 : (Jvm.Cond.methodLink "IntentVats" (122 : Nat) ({ cls := "IntentVats", name := "wayOf", desc := "(LIntentVats$Mill;I)LIntentVats$Plain;" } : Jvm.MethodName)) ∈ lw_all := lw_g (lw_at lw_m3 151 rfl) rfl
theorem q731 : (Jvm.Cond.privateMethod ({ cls := "IntentVats", name := "wayOf", desc := "(LIntentVats$Mill;I)LIntentVats$Plain;" } : Jvm.MethodName)) ∈ lw_tbl := lw_at lw_m3 152 rfl
theorem q732 : (Jvm.Cond.instanceMethod ({ cls := "IntentVats", name := "wayOf", desc := "(LIntentVats$Mill;I)LIntentVats$Plain;" } : Jvm.MethodName)) ∈ lw_all := lw_g (lw_at lw_m3 153 rfl) rfl
theorem q733 : (Jvm.Cond.code ({ cls := "IntentVats", name := "wayOf", desc := "(LIntentVats$Mill;I)LIntentVats$Plain;" } : Jvm.MethodName) prog_1_method_12_code (3 : Nat) (Option.some (Jvm.ClassFile.FieldType.object "IntentVats$Plain"))) ∈ lw_all := lw_g (lw_at lw_m3 154 rfl) rfl
theorem q734 : (Jvm.Cond.methodLink "IntentVats" (135 : Nat) ({ cls := "IntentVats$Plain", name := "takes", desc := "(LIntentVats$Mill;I)I" } : Jvm.MethodName)) ∈ lw_all := lw_g (lw_at lw_m3 155 rfl) rfl
theorem q759 : (Jvm.Cond.methodLink "IntentVats" (139 : Nat) ({ cls := "IntentVats$Plain", name := "fights", desc := "(LIntentVats$Mill;I)I" } : Jvm.MethodName)) ∈ lw_all := lw_g (lw_at lw_m3 180 rfl) rfl
theorem q806 : (Jvm.Cond.instanceMethod ({ cls := "IntentVats", name := "mind", desc := "(II)I" } : Jvm.MethodName)) ∈ lw_all := lw_g (lw_at lw_m3 227 rfl) rfl
theorem q807 : (Jvm.Cond.selects "IntentVats" ({ cls := "IntentVats", name := "mind", desc := "(II)I" } : Jvm.MethodName) ({ cls := "IntentVats", name := "mind", desc := "(II)I" } : Jvm.MethodName)) ∈ lw_all := lw_g (lw_at lw_m3 228 rfl) rfl
theorem q808 : (Jvm.Cond.code ({ cls := "IntentVats", name := "mind", desc := "(II)I" } : Jvm.MethodName) prog_1_method_30_code (3 : Nat) (Option.some Jvm.ClassFile.FieldType.int)) ∈ lw_all := lw_g (lw_at lw_m3 229 rfl) rfl
theorem q810 : (Jvm.Cond.instanceMethod ({ cls := "IntentVats", name := "steep", desc := "(III)I" } : Jvm.MethodName)) ∈ lw_all := lw_g (lw_at lw_m3 231 rfl) rfl
theorem q811 : (Jvm.Cond.selects "IntentVats" ({ cls := "IntentVats", name := "steep", desc := "(III)I" } : Jvm.MethodName) ({ cls := "IntentVats", name := "steep", desc := "(III)I" } : Jvm.MethodName)) ∈ lw_all := lw_g (lw_at lw_m3 232 rfl) rfl
theorem q812 : (Jvm.Cond.code ({ cls := "IntentVats", name := "steep", desc := "(III)I" } : Jvm.MethodName) prog_1_method_31_code (5 : Nat) (Option.some Jvm.ClassFile.FieldType.int)) ∈ lw_all := lw_g (lw_at lw_m3 233 rfl) rfl
theorem q813 : (Jvm.Cond.methodLink "IntentVats" (247 : Nat) ({ cls := "IntentVats", name := "isPurpose", desc := "(I)Z" } : Jvm.MethodName)) ∈ lw_all := lw_g (lw_at lw_m3 234 rfl) rfl
theorem q814 : (Jvm.Cond.static ({ cls := "IntentVats", name := "isPurpose", desc := "(I)Z" } : Jvm.MethodName)) ∈ lw_all := lw_g (lw_at lw_m3 235 rfl) rfl
theorem q815 : (Jvm.Cond.code ({ cls := "IntentVats", name := "isPurpose", desc := "(I)Z" } : Jvm.MethodName) prog_1_method_10_code (1 : Nat) (Option.some Jvm.ClassFile.FieldType.boolean)) ∈ lw_all := lw_g (lw_at lw_m3 236 rfl) rfl
theorem q817 : (Jvm.Cond.instanceMethod ({ cls := "IntentVats", name := "hang", desc := "(II)I" } : Jvm.MethodName)) ∈ lw_all := lw_g (lw_at lw_m3 238 rfl) rfl
theorem q818 : (Jvm.Cond.selects "IntentVats" ({ cls := "IntentVats", name := "hang", desc := "(II)I" } : Jvm.MethodName) ({ cls := "IntentVats", name := "hang", desc := "(II)I" } : Jvm.MethodName)) ∈ lw_all := lw_g (lw_at lw_m3 239 rfl) rfl
theorem q819 : (Jvm.Cond.code ({ cls := "IntentVats", name := "hang", desc := "(II)I" } : Jvm.MethodName) prog_1_method_32_code (4 : Nat) (Option.some Jvm.ClassFile.FieldType.int)) ∈ lw_all := lw_g (lw_at lw_m4 0 rfl) rfl
theorem q820 : (Jvm.Cond.methodLink "IntentVats" (250 : Nat) ({ cls := "IntentVats$Mill", name := "hangs", desc := "(IZ)V" } : Jvm.MethodName)) ∈ lw_all := lw_g (lw_at lw_m4 1 rfl) rfl
theorem q822 : (Jvm.Cond.instanceMethod ({ cls := "IntentVats", name := "dip", desc := "(II)I" } : Jvm.MethodName)) ∈ lw_all := lw_g (lw_at lw_m4 3 rfl) rfl
theorem q823 : (Jvm.Cond.selects "IntentVats" ({ cls := "IntentVats", name := "dip", desc := "(II)I" } : Jvm.MethodName) ({ cls := "IntentVats", name := "dip", desc := "(II)I" } : Jvm.MethodName)) ∈ lw_all := lw_g (lw_at lw_m4 4 rfl) rfl
theorem q824 : (Jvm.Cond.code ({ cls := "IntentVats", name := "dip", desc := "(II)I" } : Jvm.MethodName) prog_1_method_33_code (3 : Nat) (Option.some Jvm.ClassFile.FieldType.int)) ∈ lw_all := lw_g (lw_at lw_m4 5 rfl) rfl
theorem q825 : (Jvm.Cond.methodLink "IntentVats" (167 : Nat) ({ cls := "IntentVats", name := "dips", desc := "(LIntentVats$Mill;II)V" } : Jvm.MethodName)) ∈ lw_all := lw_g (lw_at lw_m4 6 rfl) rfl
theorem q826 : (Jvm.Cond.privateMethod ({ cls := "IntentVats", name := "dips", desc := "(LIntentVats$Mill;II)V" } : Jvm.MethodName)) ∈ lw_tbl := lw_at lw_m4 7 rfl
theorem q827 : (Jvm.Cond.instanceMethod ({ cls := "IntentVats", name := "dips", desc := "(LIntentVats$Mill;II)V" } : Jvm.MethodName)) ∈ lw_all := lw_g (lw_at lw_m4 8 rfl) rfl
theorem q828 : (Jvm.Cond.code ({ cls := "IntentVats", name := "dips", desc := "(LIntentVats$Mill;II)V" } : Jvm.MethodName) prog_1_method_13_code (7 : Nat) (Option.none : Option Jvm.ClassFile.FieldType)) ∈ lw_all := lw_g (lw_at lw_m4 9 rfl) rfl
theorem q829 : (Jvm.Cond.methodLink "IntentVats" (142 : Nat) ({ cls := "IntentVats$Mill", name := "settles", desc := "(I)V" } : Jvm.MethodName)) ∈ lw_all := lw_g (lw_at lw_m4 10 rfl) rfl
theorem q839 : (Jvm.Cond.methodLink "IntentVats" (149 : Nat) ({ cls := "java/lang/Math", name := "min", desc := "(II)I" } : Jvm.MethodName)) ∈ lw_all := lw_g (lw_at lw_m4 20 rfl) rfl
theorem q840 : (Jvm.Cond.methodLink "IntentVats" (156 : Nat) ({ cls := "java/lang/Math", name := "max", desc := "(II)I" } : Jvm.MethodName)) ∈ lw_all := lw_g (lw_at lw_m4 21 rfl) rfl
theorem q842 : (Jvm.Cond.instanceMethod ({ cls := "IntentVats", name := "days", desc := "(I)I" } : Jvm.MethodName)) ∈ lw_all := lw_g (lw_at lw_m4 23 rfl) rfl
theorem q843 : (Jvm.Cond.selects "IntentVats" ({ cls := "IntentVats", name := "days", desc := "(I)I" } : Jvm.MethodName) ({ cls := "IntentVats", name := "days", desc := "(I)I" } : Jvm.MethodName)) ∈ lw_all := lw_g (lw_at lw_m4 24 rfl) rfl
theorem q844 : (Jvm.Cond.code ({ cls := "IntentVats", name := "days", desc := "(I)I" } : Jvm.MethodName) prog_1_method_34_code (2 : Nat) (Option.some Jvm.ClassFile.FieldType.int)) ∈ lw_all := lw_g (lw_at lw_m4 25 rfl) rfl
theorem q845 : (Jvm.Cond.methodLink "IntentVats" (254 : Nat) ({ cls := "IntentVats", name := "daysGo", desc := "(LIntentVats$Mill;I)V" } : Jvm.MethodName)) ∈ lw_all := lw_g (lw_at lw_m4 26 rfl) rfl
theorem q846 : (Jvm.Cond.privateMethod ({ cls := "IntentVats", name := "daysGo", desc := "(LIntentVats$Mill;I)V" } : Jvm.MethodName)) ∈ lw_tbl := lw_at lw_m4 27 rfl
theorem q847 : (Jvm.Cond.instanceMethod ({ cls := "IntentVats", name := "daysGo", desc := "(LIntentVats$Mill;I)V" } : Jvm.MethodName)) ∈ lw_all := lw_g (lw_at lw_m4 28 rfl) rfl
theorem q848 : (Jvm.Cond.code ({ cls := "IntentVats", name := "daysGo", desc := "(LIntentVats$Mill;I)V" } : Jvm.MethodName) prog_1_method_15_code (4 : Nat) (Option.none : Option Jvm.ClassFile.FieldType)) ∈ lw_all := lw_g (lw_at lw_m4 29 rfl) rfl
theorem q849 : (Jvm.Cond.methodLink "IntentVats" (177 : Nat) ({ cls := "IntentVats", name := "dayGoes", desc := "(LIntentVats$Mill;)V" } : Jvm.MethodName)) ∈ lw_all := lw_g (lw_at lw_m4 30 rfl) rfl
theorem q850 : (Jvm.Cond.privateMethod ({ cls := "IntentVats", name := "dayGoes", desc := "(LIntentVats$Mill;)V" } : Jvm.MethodName)) ∈ lw_tbl := lw_at lw_m4 31 rfl
theorem q851 : (Jvm.Cond.instanceMethod ({ cls := "IntentVats", name := "dayGoes", desc := "(LIntentVats$Mill;)V" } : Jvm.MethodName)) ∈ lw_all := lw_g (lw_at lw_m4 32 rfl) rfl
theorem q852 : (Jvm.Cond.code ({ cls := "IntentVats", name := "dayGoes", desc := "(LIntentVats$Mill;)V" } : Jvm.MethodName) prog_1_method_14_code (4 : Nat) (Option.none : Option Jvm.ClassFile.FieldType)) ∈ lw_all := lw_g (lw_at lw_m4 33 rfl) rfl
theorem q853 : (Jvm.Cond.methodLink "IntentVats" (159 : Nat) ({ cls := "IntentVats$Mill", name := "vatNow", desc := "()I" } : Jvm.MethodName)) ∈ lw_all := lw_g (lw_at lw_m4 34 rfl) rfl
theorem q857 : (Jvm.Cond.methodLink "IntentVats" (258 : Nat) ({ cls := "IntentVats$Mill", name := "depths", desc := "()I" } : Jvm.MethodName)) ∈ lw_all := lw_g (lw_at lw_m4 38 rfl) rfl
theorem q862 : (Jvm.Cond.instanceMethod ({ cls := "IntentVats", name := "seed", desc := "(I)I" } : Jvm.MethodName)) ∈ lw_all := lw_g (lw_at lw_m4 43 rfl) rfl
theorem q863 : (Jvm.Cond.selects "IntentVats" ({ cls := "IntentVats", name := "seed", desc := "(I)I" } : Jvm.MethodName) ({ cls := "IntentVats", name := "seed", desc := "(I)I" } : Jvm.MethodName)) ∈ lw_all := lw_g (lw_at lw_m4 44 rfl) rfl
theorem q864 : (Jvm.Cond.code ({ cls := "IntentVats", name := "seed", desc := "(I)I" } : Jvm.MethodName) prog_1_method_35_code (3 : Nat) (Option.some Jvm.ClassFile.FieldType.int)) ∈ lw_all := lw_g (lw_at lw_m4 45 rfl) rfl
theorem q866 : (Jvm.Cond.instanceMethod ({ cls := "IntentVats", name := "day", desc := "()I" } : Jvm.MethodName)) ∈ lw_all := lw_g (lw_at lw_m4 47 rfl) rfl
theorem q867 : (Jvm.Cond.selects "IntentVats" ({ cls := "IntentVats", name := "day", desc := "()I" } : Jvm.MethodName) ({ cls := "IntentVats", name := "day", desc := "()I" } : Jvm.MethodName)) ∈ lw_all := lw_g (lw_at lw_m4 48 rfl) rfl
theorem q868 : (Jvm.Cond.code ({ cls := "IntentVats", name := "day", desc := "()I" } : Jvm.MethodName) prog_1_method_37_code (1 : Nat) (Option.some Jvm.ClassFile.FieldType.int)) ∈ lw_all := lw_g (lw_at lw_m4 49 rfl) rfl
theorem q869 : (Jvm.Cond.methodLink "IntentVats" (267 : Nat) ({ cls := "IntentVats", name := "dayByDraws", desc := "(LIntentVats$Mill;)V" } : Jvm.MethodName)) ∈ lw_all := lw_g (lw_at lw_m4 50 rfl) rfl
theorem q870 : (Jvm.Cond.privateMethod ({ cls := "IntentVats", name := "dayByDraws", desc := "(LIntentVats$Mill;)V" } : Jvm.MethodName)) ∈ lw_tbl := lw_at lw_m4 51 rfl
theorem q871 : (Jvm.Cond.instanceMethod ({ cls := "IntentVats", name := "dayByDraws", desc := "(LIntentVats$Mill;)V" } : Jvm.MethodName)) ∈ lw_all := lw_g (lw_at lw_m4 52 rfl) rfl
theorem q872 : (Jvm.Cond.code ({ cls := "IntentVats", name := "dayByDraws", desc := "(LIntentVats$Mill;)V" } : Jvm.MethodName) prog_1_method_36_code (3 : Nat) (Option.none : Option Jvm.ClassFile.FieldType)) ∈ lw_all := lw_g (lw_at lw_m4 53 rfl) rfl
theorem q873 : (Jvm.Cond.methodLink "IntentVats" (264 : Nat) ({ cls := "IntentVats$Mill", name := "draw", desc := "()I" } : Jvm.MethodName)) ∈ lw_all := lw_g (lw_at lw_m4 54 rfl) rfl
theorem q879 : (Jvm.Cond.instanceMethod ({ cls := "IntentVats", name := "luck", desc := "(I)I" } : Jvm.MethodName)) ∈ lw_all := lw_g (lw_at lw_m4 60 rfl) rfl
theorem q880 : (Jvm.Cond.selects "IntentVats" ({ cls := "IntentVats", name := "luck", desc := "(I)I" } : Jvm.MethodName) ({ cls := "IntentVats", name := "luck", desc := "(I)I" } : Jvm.MethodName)) ∈ lw_all := lw_g (lw_at lw_m4 61 rfl) rfl
theorem q881 : (Jvm.Cond.code ({ cls := "IntentVats", name := "luck", desc := "(I)I" } : Jvm.MethodName) prog_1_method_38_code (6 : Nat) (Option.some Jvm.ClassFile.FieldType.int)) ∈ lw_all := lw_g (lw_at lw_m4 62 rfl) rfl
theorem q883 : (Jvm.Cond.instanceMethod ({ cls := "IntentVats", name := "state", desc := "(I)I" } : Jvm.MethodName)) ∈ lw_all := lw_g (lw_at lw_m4 64 rfl) rfl
theorem q884 : (Jvm.Cond.selects "IntentVats" ({ cls := "IntentVats", name := "state", desc := "(I)I" } : Jvm.MethodName) ({ cls := "IntentVats", name := "state", desc := "(I)I" } : Jvm.MethodName)) ∈ lw_all := lw_g (lw_at lw_m4 65 rfl) rfl
theorem q885 : (Jvm.Cond.code ({ cls := "IntentVats", name := "state", desc := "(I)I" } : Jvm.MethodName) prog_1_method_39_code (2 : Nat) (Option.some Jvm.ClassFile.FieldType.int)) ∈ lw_all := lw_g (lw_at lw_m4 66 rfl) rfl
theorem q886 : (Jvm.Cond.methodLink "IntentVats" (273 : Nat) ({ cls := "IntentVats$Mill", name := "aboutAny", desc := "()I" } : Jvm.MethodName)) ∈ lw_all := lw_g (lw_at lw_m4 67 rfl) rfl
theorem q890 : (Jvm.Cond.methodLink "IntentVats" (276 : Nat) ({ cls := "IntentVats$Mill", name := "atOdds", desc := "()I" } : Jvm.MethodName)) ∈ lw_all := lw_g (lw_at lw_m4 71 rfl) rfl
theorem q900 : (Jvm.Cond.instanceMethod ({ cls := "IntentVats", name := "gone", desc := "(II)I" } : Jvm.MethodName)) ∈ lw_all := lw_g (lw_at lw_m4 81 rfl) rfl
theorem q901 : (Jvm.Cond.selects "IntentVats" ({ cls := "IntentVats", name := "gone", desc := "(II)I" } : Jvm.MethodName) ({ cls := "IntentVats", name := "gone", desc := "(II)I" } : Jvm.MethodName)) ∈ lw_all := lw_g (lw_at lw_m4 82 rfl) rfl
theorem q902 : (Jvm.Cond.code ({ cls := "IntentVats", name := "gone", desc := "(II)I" } : Jvm.MethodName) prog_1_method_42_code (3 : Nat) (Option.some Jvm.ClassFile.FieldType.int)) ∈ lw_all := lw_g (lw_at lw_m4 83 rfl) rfl
theorem q903 : (Jvm.Cond.methodLink "IntentVats" (279 : Nat) ({ cls := "IntentVats", name := "isAsked", desc := "(III)Z" } : Jvm.MethodName)) ∈ lw_all := lw_g (lw_at lw_m4 84 rfl) rfl
theorem q904 : (Jvm.Cond.privateMethod ({ cls := "IntentVats", name := "isAsked", desc := "(III)Z" } : Jvm.MethodName)) ∈ lw_tbl := lw_at lw_m4 85 rfl
theorem q905 : (Jvm.Cond.instanceMethod ({ cls := "IntentVats", name := "isAsked", desc := "(III)Z" } : Jvm.MethodName)) ∈ lw_all := lw_g (lw_at lw_m4 86 rfl) rfl
theorem q906 : (Jvm.Cond.code ({ cls := "IntentVats", name := "isAsked", desc := "(III)Z" } : Jvm.MethodName) prog_1_method_41_code (4 : Nat) (Option.some Jvm.ClassFile.FieldType.boolean)) ∈ lw_all := lw_g (lw_at lw_m4 87 rfl) rfl
theorem q908 : (Jvm.Cond.instanceMethod ({ cls := "IntentVats", name := "depth", desc := "(II)I" } : Jvm.MethodName)) ∈ lw_all := lw_g (lw_at lw_m4 89 rfl) rfl
theorem q909 : (Jvm.Cond.selects "IntentVats" ({ cls := "IntentVats", name := "depth", desc := "(II)I" } : Jvm.MethodName) ({ cls := "IntentVats", name := "depth", desc := "(II)I" } : Jvm.MethodName)) ∈ lw_all := lw_g (lw_at lw_m4 90 rfl) rfl
theorem q910 : (Jvm.Cond.code ({ cls := "IntentVats", name := "depth", desc := "(II)I" } : Jvm.MethodName) prog_1_method_43_code (3 : Nat) (Option.some Jvm.ClassFile.FieldType.int)) ∈ lw_all := lw_g (lw_at lw_m4 91 rfl) rfl
theorem q912 : (Jvm.Cond.instanceMethod ({ cls := "IntentVats", name := "comes", desc := "(II)I" } : Jvm.MethodName)) ∈ lw_all := lw_g (lw_at lw_m4 93 rfl) rfl
theorem q913 : (Jvm.Cond.selects "IntentVats" ({ cls := "IntentVats", name := "comes", desc := "(II)I" } : Jvm.MethodName) ({ cls := "IntentVats", name := "comes", desc := "(II)I" } : Jvm.MethodName)) ∈ lw_all := lw_g (lw_at lw_m4 94 rfl) rfl
theorem q914 : (Jvm.Cond.code ({ cls := "IntentVats", name := "comes", desc := "(II)I" } : Jvm.MethodName) prog_1_method_44_code (3 : Nat) (Option.some Jvm.ClassFile.FieldType.int)) ∈ lw_all := lw_g (lw_at lw_m4 95 rfl) rfl
theorem q915 : (Jvm.Cond.methodLink "IntentVats" (282 : Nat) ({ cls := "IntentVats", name := "firstAbout", desc := "(II)I" } : Jvm.MethodName)) ∈ lw_all := lw_g (lw_at lw_m4 96 rfl) rfl
theorem q916 : (Jvm.Cond.privateMethod ({ cls := "IntentVats", name := "firstAbout", desc := "(II)I" } : Jvm.MethodName)) ∈ lw_tbl := lw_at lw_m4 97 rfl
theorem q917 : (Jvm.Cond.instanceMethod ({ cls := "IntentVats", name := "firstAbout", desc := "(II)I" } : Jvm.MethodName)) ∈ lw_all := lw_g (lw_at lw_m4 98 rfl) rfl
theorem q918 : (Jvm.Cond.code ({ cls := "IntentVats", name := "firstAbout", desc := "(II)I" } : Jvm.MethodName) prog_1_method_40_code (4 : Nat) (Option.some Jvm.ClassFile.FieldType.int)) ∈ lw_all := lw_g (lw_at lw_m4 99 rfl) rfl
theorem q920 : (Jvm.Cond.instanceMethod ({ cls := "IntentVats", name := "bare", desc := "(I)I" } : Jvm.MethodName)) ∈ lw_all := lw_g (lw_at lw_m4 101 rfl) rfl
theorem q921 : (Jvm.Cond.selects "IntentVats" ({ cls := "IntentVats", name := "bare", desc := "(I)I" } : Jvm.MethodName) ({ cls := "IntentVats", name := "bare", desc := "(I)I" } : Jvm.MethodName)) ∈ lw_all := lw_g (lw_at lw_m4 102 rfl) rfl
theorem q922 : (Jvm.Cond.code ({ cls := "IntentVats", name := "bare", desc := "(I)I" } : Jvm.MethodName) prog_1_method_45_code (2 : Nat) (Option.some Jvm.ClassFile.FieldType.int)) ∈ lw_all := lw_g (lw_at lw_m4 103 rfl) rfl
theorem q924 : (Jvm.Cond.instanceMethod ({ cls := "IntentVats", name := "spoilt", desc := "(I)I" } : Jvm.MethodName)) ∈ lw_all := lw_g (lw_at lw_m4 105 rfl) rfl
theorem q925 : (Jvm.Cond.selects "IntentVats" ({ cls := "IntentVats", name := "spoilt", desc := "(I)I" } : Jvm.MethodName) ({ cls := "IntentVats", name := "spoilt", desc := "(I)I" } : Jvm.MethodName)) ∈ lw_all := lw_g (lw_at lw_m4 106 rfl) rfl
theorem q926 : (Jvm.Cond.code ({ cls := "IntentVats", name := "spoilt", desc := "(I)I" } : Jvm.MethodName) prog_1_method_47_code (2 : Nat) (Option.some Jvm.ClassFile.FieldType.int)) ∈ lw_all := lw_g (lw_at lw_m4 107 rfl) rfl
theorem q927 : (Jvm.Cond.methodLink "IntentVats" (285 : Nat) ({ cls := "IntentVats", name := "spoiltTried", desc := "(I)I" } : Jvm.MethodName)) ∈ lw_all := lw_g (lw_at lw_m4 108 rfl) rfl
theorem q928 : (Jvm.Cond.privateMethod ({ cls := "IntentVats", name := "spoiltTried", desc := "(I)I" } : Jvm.MethodName)) ∈ lw_tbl := lw_at lw_m4 109 rfl
theorem q929 : (Jvm.Cond.instanceMethod ({ cls := "IntentVats", name := "spoiltTried", desc := "(I)I" } : Jvm.MethodName)) ∈ lw_all := lw_g (lw_at lw_m4 110 rfl) rfl
theorem q930 : (Jvm.Cond.code ({ cls := "IntentVats", name := "spoiltTried", desc := "(I)I" } : Jvm.MethodName) prog_1_method_46_code (4 : Nat) (Option.some Jvm.ClassFile.FieldType.int)) ∈ lw_all := lw_g (lw_at lw_m4 111 rfl) rfl
theorem q932 : (Jvm.Cond.instanceMethod ({ cls := "IntentVats", name := "through", desc := "(II)I" } : Jvm.MethodName)) ∈ lw_all := lw_g (lw_at lw_m4 113 rfl) rfl
theorem q933 : (Jvm.Cond.selects "IntentVats" ({ cls := "IntentVats", name := "through", desc := "(II)I" } : Jvm.MethodName) ({ cls := "IntentVats", name := "through", desc := "(II)I" } : Jvm.MethodName)) ∈ lw_all := lw_g (lw_at lw_m4 114 rfl) rfl
theorem q934 : (Jvm.Cond.code ({ cls := "IntentVats", name := "through", desc := "(II)I" } : Jvm.MethodName) prog_1_method_49_code (5 : Nat) (Option.some Jvm.ClassFile.FieldType.int)) ∈ lw_all := lw_g (lw_at lw_m4 115 rfl) rfl
theorem q935 : (Jvm.Cond.methodLink "IntentVats" (288 : Nat) ({ cls := "IntentVats", name := "dippedThrough", desc := "(III)I" } : Jvm.MethodName)) ∈ lw_all := lw_g (lw_at lw_m4 116 rfl) rfl
theorem q936 : (Jvm.Cond.privateMethod ({ cls := "IntentVats", name := "dippedThrough", desc := "(III)I" } : Jvm.MethodName)) ∈ lw_tbl := lw_at lw_m4 117 rfl
theorem q937 : (Jvm.Cond.instanceMethod ({ cls := "IntentVats", name := "dippedThrough", desc := "(III)I" } : Jvm.MethodName)) ∈ lw_all := lw_g (lw_at lw_m4 118 rfl) rfl
theorem q938 : (Jvm.Cond.code ({ cls := "IntentVats", name := "dippedThrough", desc := "(III)I" } : Jvm.MethodName) prog_1_method_48_code (5 : Nat) (Option.some Jvm.ClassFile.FieldType.int)) ∈ lw_all := lw_g (lw_at lw_m4 119 rfl) rfl
theorem q940 : (Jvm.Cond.instanceMethod ({ cls := "IntentVats", name := "vatFor", desc := "(II)I" } : Jvm.MethodName)) ∈ lw_all := lw_g (lw_at lw_m4 121 rfl) rfl
theorem q941 : (Jvm.Cond.selects "IntentVats" ({ cls := "IntentVats", name := "vatFor", desc := "(II)I" } : Jvm.MethodName) ({ cls := "IntentVats", name := "vatFor", desc := "(II)I" } : Jvm.MethodName)) ∈ lw_all := lw_g (lw_at lw_m4 122 rfl) rfl
theorem q942 : (Jvm.Cond.code ({ cls := "IntentVats", name := "vatFor", desc := "(II)I" } : Jvm.MethodName) prog_1_method_51_code (7 : Nat) (Option.some Jvm.ClassFile.FieldType.int)) ∈ lw_all := lw_g (lw_at lw_m4 123 rfl) rfl
theorem q943 : (Jvm.Cond.methodLink "IntentVats" (292 : Nat) ({ cls := "IntentVats", name := "depthsTried", desc := "(I)I" } : Jvm.MethodName)) ∈ lw_all := lw_g (lw_at lw_m4 124 rfl) rfl
theorem q944 : (Jvm.Cond.privateMethod ({ cls := "IntentVats", name := "depthsTried", desc := "(I)I" } : Jvm.MethodName)) ∈ lw_tbl := lw_at lw_m4 125 rfl
theorem q945 : (Jvm.Cond.instanceMethod ({ cls := "IntentVats", name := "depthsTried", desc := "(I)I" } : Jvm.MethodName)) ∈ lw_all := lw_g (lw_at lw_m4 126 rfl) rfl
theorem q946 : (Jvm.Cond.code ({ cls := "IntentVats", name := "depthsTried", desc := "(I)I" } : Jvm.MethodName) prog_1_method_50_code (2 : Nat) (Option.some Jvm.ClassFile.FieldType.int)) ∈ lw_all := lw_g (lw_at lw_m4 127 rfl) rfl
theorem q948 : (Jvm.Cond.instanceMethod ({ cls := "IntentVats", name := "kindFor", desc := "(II)I" } : Jvm.MethodName)) ∈ lw_all := lw_g (lw_at lw_m4 129 rfl) rfl
theorem q949 : (Jvm.Cond.selects "IntentVats" ({ cls := "IntentVats", name := "kindFor", desc := "(II)I" } : Jvm.MethodName) ({ cls := "IntentVats", name := "kindFor", desc := "(II)I" } : Jvm.MethodName)) ∈ lw_all := lw_g (lw_at lw_m4 130 rfl) rfl
theorem q950 : (Jvm.Cond.code ({ cls := "IntentVats", name := "kindFor", desc := "(II)I" } : Jvm.MethodName) prog_1_method_52_code (6 : Nat) (Option.some Jvm.ClassFile.FieldType.int)) ∈ lw_all := lw_g (lw_at lw_m4 131 rfl) rfl
theorem q952 : (Jvm.Cond.instanceMethod ({ cls := "IntentVats", name := "strengthFor", desc := "(IIII)I" } : Jvm.MethodName)) ∈ lw_all := lw_g (lw_at lw_m4 133 rfl) rfl
theorem q953 : (Jvm.Cond.selects "IntentVats" ({ cls := "IntentVats", name := "strengthFor", desc := "(IIII)I" } : Jvm.MethodName) ({ cls := "IntentVats", name := "strengthFor", desc := "(IIII)I" } : Jvm.MethodName)) ∈ lw_all := lw_g (lw_at lw_m4 134 rfl) rfl
theorem q954 : (Jvm.Cond.code ({ cls := "IntentVats", name := "strengthFor", desc := "(IIII)I" } : Jvm.MethodName) prog_1_method_53_code (6 : Nat) (Option.some Jvm.ClassFile.FieldType.int)) ∈ lw_all := lw_g (lw_at lw_m4 135 rfl) rfl
theorem q956 : (Jvm.Cond.instanceMethod ({ cls := "IntentVats", name := "hangFor", desc := "(II)I" } : Jvm.MethodName)) ∈ lw_all := lw_g (lw_at lw_m4 137 rfl) rfl
theorem q957 : (Jvm.Cond.selects "IntentVats" ({ cls := "IntentVats", name := "hangFor", desc := "(II)I" } : Jvm.MethodName) ({ cls := "IntentVats", name := "hangFor", desc := "(II)I" } : Jvm.MethodName)) ∈ lw_all := lw_g (lw_at lw_m4 138 rfl) rfl
theorem q958 : (Jvm.Cond.code ({ cls := "IntentVats", name := "hangFor", desc := "(II)I" } : Jvm.MethodName) prog_1_method_54_code (5 : Nat) (Option.some Jvm.ClassFile.FieldType.int)) ∈ lw_all := lw_g (lw_at lw_m4 139 rfl) rfl
theorem q959 : (Jvm.Cond.methodLink "IntentVats" (295 : Nat) ({ cls := "IntentVats", name := "ones", desc := "(I)I" } : Jvm.MethodName)) ∈ lw_all := lw_g (lw_at lw_m4 140 rfl) rfl
theorem q960 : (Jvm.Cond.static ({ cls := "IntentVats", name := "ones", desc := "(I)I" } : Jvm.MethodName)) ∈ lw_all := lw_g (lw_at lw_m4 141 rfl) rfl
theorem q961 : (Jvm.Cond.code ({ cls := "IntentVats", name := "ones", desc := "(I)I" } : Jvm.MethodName) prog_1_method_5_code (3 : Nat) (Option.some Jvm.ClassFile.FieldType.int)) ∈ lw_all := lw_g (lw_at lw_m4 142 rfl) rfl
theorem q963 : (Jvm.Cond.instanceMethod ({ cls := "IntentVats", name := "fits", desc := "(III)I" } : Jvm.MethodName)) ∈ lw_all := lw_g (lw_at lw_m4 144 rfl) rfl
theorem q964 : (Jvm.Cond.selects "IntentVats" ({ cls := "IntentVats", name := "fits", desc := "(III)I" } : Jvm.MethodName) ({ cls := "IntentVats", name := "fits", desc := "(III)I" } : Jvm.MethodName)) ∈ lw_all := lw_g (lw_at lw_m4 145 rfl) rfl
theorem q965 : (Jvm.Cond.codeWith ({ cls := "IntentVats", name := "fits", desc := "(III)I" } : Jvm.MethodName) prog_1_method_58_code (5 : Nat) (Option.some Jvm.ClassFile.FieldType.int) [((26 : Nat), (53 : Nat), (54 : Nat), (94 : Nat))]) ∈ lw_all := lw_g (lw_at lw_m4 146 rfl) rfl
theorem q966 : (Jvm.Cond.methodLink "IntentVats" (318 : Nat) ({ cls := "IntentVats", name := "isSheet", desc := "(I)Z" } : Jvm.MethodName)) ∈ lw_all := lw_g (lw_at lw_m4 147 rfl) rfl
theorem q967 : (Jvm.Cond.static ({ cls := "IntentVats", name := "isSheet", desc := "(I)Z" } : Jvm.MethodName)) ∈ lw_all := lw_g (lw_at lw_m4 148 rfl) rfl
theorem q968 : (Jvm.Cond.code ({ cls := "IntentVats", name := "isSheet", desc := "(I)Z" } : Jvm.MethodName) prog_1_method_73_code (1 : Nat) (Option.some Jvm.ClassFile.FieldType.boolean)) ∈ lw_all := lw_g (lw_at lw_m4 149 rfl) rfl
theorem q969 : (Jvm.Cond.methodLink "IntentVats" (321 : Nat) ({ cls := "IntentVats$Sheet", name := "row", desc := "()Ljava/lang/Object;" } : Jvm.MethodName)) ∈ lw_all := lw_g (lw_at lw_m4 150 rfl) rfl
theorem q973 : (Jvm.Cond.methodLink "IntentVats" (325 : Nat) ({ cls := "IntentVats", name := "there", desc := "(Ljava/lang/Object;)Ljava/lang/Object;" } : Jvm.MethodName)) ∈ lw_all := lw_g (lw_at lw_m4 154 rfl) rfl
theorem q974 : (Jvm.Cond.privateMethod ({ cls := "IntentVats", name := "there", desc := "(Ljava/lang/Object;)Ljava/lang/Object;" } : Jvm.MethodName)) ∈ lw_tbl := lw_at lw_m4 155 rfl
theorem q975 : (Jvm.Cond.instanceMethod ({ cls := "IntentVats", name := "there", desc := "(Ljava/lang/Object;)Ljava/lang/Object;" } : Jvm.MethodName)) ∈ lw_all := lw_g (lw_at lw_m4 156 rfl) rfl
theorem q976 : (Jvm.Cond.code ({ cls := "IntentVats", name := "there", desc := "(Ljava/lang/Object;)Ljava/lang/Object;" } : Jvm.MethodName) prog_1_method_76_code (2 : Nat) (Option.some (Jvm.ClassFile.FieldType.object "java/lang/Object"))) ∈ lw_all := lw_g (lw_at lw_m4 157 rfl) rfl
theorem q977 : (Jvm.Cond.methodLink "IntentVats" (329 : Nat) ({ cls := "IntentVats", name := "fitsOf", desc := "(Ljava/lang/Object;IZ)I" } : Jvm.MethodName)) ∈ lw_all := lw_g (lw_at lw_m4 158 rfl) rfl
theorem q978 : (Jvm.Cond.privateMethod ({ cls := "IntentVats", name := "fitsOf", desc := "(Ljava/lang/Object;IZ)I" } : Jvm.MethodName)) ∈ lw_tbl := lw_at lw_m4 159 rfl
theorem q979 : (Jvm.Cond.instanceMethod ({ cls := "IntentVats", name := "fitsOf", desc := "(Ljava/lang/Object;IZ)I" } : Jvm.MethodName)) ∈ lw_all := lw_g (lw_at lw_m4 160 rfl) rfl
theorem q980 : (Jvm.Cond.code ({ cls := "IntentVats", name := "fitsOf", desc := "(Ljava/lang/Object;IZ)I" } : Jvm.MethodName) prog_1_method_57_code (7 : Nat) (Option.some Jvm.ClassFile.FieldType.int)) ∈ lw_all := lw_g (lw_at lw_m4 161 rfl) rfl
theorem q981 : (Jvm.Cond.methodLink "IntentVats" (314 : Nat) ({ cls := "IntentVats", name := "isTold", desc := "(Ljava/lang/Object;I)Z" } : Jvm.MethodName)) ∈ lw_all := lw_g (lw_at lw_m4 162 rfl) rfl
theorem q982 : (Jvm.Cond.privateMethod ({ cls := "IntentVats", name := "isTold", desc := "(Ljava/lang/Object;I)Z" } : Jvm.MethodName)) ∈ lw_tbl := lw_at lw_m4 163 rfl
theorem q983 : (Jvm.Cond.instanceMethod ({ cls := "IntentVats", name := "isTold", desc := "(Ljava/lang/Object;I)Z" } : Jvm.MethodName)) ∈ lw_all := lw_g (lw_at lw_m4 164 rfl) rfl
theorem q984 : (Jvm.Cond.code ({ cls := "IntentVats", name := "isTold", desc := "(Ljava/lang/Object;I)Z" } : Jvm.MethodName) prog_1_method_56_code (6 : Nat) (Option.some Jvm.ClassFile.FieldType.boolean)) ∈ lw_all := lw_g (lw_at lw_m4 165 rfl) rfl
theorem q985 : (Jvm.Cond.methodLink "IntentVats" (304 : Nat) ({ cls := "IntentVats", name := "lengthOf", desc := "(Ljava/lang/Object;)I" } : Jvm.MethodName)) ∈ lw_all := lw_g (lw_at lw_m4 166 rfl) rfl
theorem q986 : (Jvm.Cond.static ({ cls := "IntentVats", name := "lengthOf", desc := "(Ljava/lang/Object;)I" } : Jvm.MethodName)) ∈ lw_all := lw_g (lw_at lw_m4 167 rfl) rfl
theorem q987 : (Jvm.Cond.code ({ cls := "IntentVats", name := "lengthOf", desc := "(Ljava/lang/Object;)I" } : Jvm.MethodName) prog_1_method_74_code (1 : Nat) (Option.some Jvm.ClassFile.FieldType.int)) ∈ lw_all := lw_g (lw_at lw_m4 168 rfl) rfl
theorem q988 : (Jvm.Cond.classLink "IntentVats" (298 : Nat) "[B") ∈ lw_all := lw_g (lw_at lw_m4 169 rfl) rfl
theorem q989 : (Jvm.Cond.classLink "IntentVats" (299 : Nat) "[S") ∈ lw_all := lw_g (lw_at lw_m4 170 rfl) rfl
theorem q990 : (Jvm.Cond.classLink "IntentVats" (301 : Nat) "[J") ∈ lw_all := lw_g (lw_at lw_m4 171 rfl) rfl
theorem q991 : (Jvm.Cond.classLink "IntentVats" (303 : Nat) "[I") ∈ lw_all := lw_g (lw_at lw_m4 172 rfl) rfl
theorem q992 : (Jvm.Cond.methodLink "IntentVats" (308 : Nat) ({ cls := "IntentVats", name := "numberOf", desc := "(Ljava/lang/Object;I)J" } : Jvm.MethodName)) ∈ lw_all := lw_g (lw_at lw_m4 173 rfl) rfl
theorem q993 : (Jvm.Cond.static ({ cls := "IntentVats", name := "numberOf", desc := "(Ljava/lang/Object;I)J" } : Jvm.MethodName)) ∈ lw_all := lw_g (lw_at lw_m4 174 rfl) rfl
theorem q994 : (Jvm.Cond.code ({ cls := "IntentVats", name := "numberOf", desc := "(Ljava/lang/Object;I)J" } : Jvm.MethodName) prog_1_method_55_code (2 : Nat) (Option.some Jvm.ClassFile.FieldType.long)) ∈ lw_all := lw_g (lw_at lw_m4 175 rfl) rfl
theorem q995 : (Jvm.Cond.constantLong "IntentVats" (312 : Nat) (-1 : Int64)) ∈ lw_all := lw_g (lw_at lw_m4 176 rfl) rfl
theorem q997 : (Jvm.Cond.instanceMethod ({ cls := "IntentVats", name := "odds", desc := "(III)J" } : Jvm.MethodName)) ∈ lw_all := lw_g (lw_at lw_m4 178 rfl) rfl
theorem q998 : (Jvm.Cond.selects "IntentVats" ({ cls := "IntentVats", name := "odds", desc := "(III)J" } : Jvm.MethodName) ({ cls := "IntentVats", name := "odds", desc := "(III)J" } : Jvm.MethodName)) ∈ lw_all := lw_g (lw_at lw_m4 179 rfl) rfl
theorem q999 : (Jvm.Cond.code ({ cls := "IntentVats", name := "odds", desc := "(III)J" } : Jvm.MethodName) prog_1_method_61_code (6 : Nat) (Option.some Jvm.ClassFile.FieldType.long)) ∈ lw_all := lw_g (lw_at lw_m4 180 rfl) rfl
theorem q1000 : (Jvm.Cond.methodLink "IntentVats" (333 : Nat) ({ cls := "IntentVats", name := "chosen", desc := "(II)J" } : Jvm.MethodName)) ∈ lw_all := lw_g (lw_at lw_m4 181 rfl) rfl
theorem q1001 : (Jvm.Cond.static ({ cls := "IntentVats", name := "chosen", desc := "(II)J" } : Jvm.MethodName)) ∈ lw_all := lw_g (lw_at lw_m4 182 rfl) rfl
theorem q1002 : (Jvm.Cond.code ({ cls := "IntentVats", name := "chosen", desc := "(II)J" } : Jvm.MethodName) prog_1_method_60_code (2 : Nat) (Option.some Jvm.ClassFile.FieldType.long)) ∈ lw_all := lw_g (lw_at lw_m4 183 rfl) rfl
theorem q1003 : (Jvm.Cond.methodLink "IntentVats" (337 : Nat) ({ cls := "IntentVats", name := "raised", desc := "(JI)J" } : Jvm.MethodName)) ∈ lw_all := lw_g (lw_at lw_m4 184 rfl) rfl
theorem q1004 : (Jvm.Cond.static ({ cls := "IntentVats", name := "raised", desc := "(JI)J" } : Jvm.MethodName)) ∈ lw_all := lw_g (lw_at lw_m4 185 rfl) rfl
theorem q1005 : (Jvm.Cond.code ({ cls := "IntentVats", name := "raised", desc := "(JI)J" } : Jvm.MethodName) prog_1_method_59_code (6 : Nat) (Option.some Jvm.ClassFile.FieldType.long)) ∈ lw_all := lw_g (lw_at lw_m4 186 rfl) rfl
theorem q1006 : (Jvm.Cond.constantLong "IntentVats" (341 : Nat) (100 : Int64)) ∈ lw_all := lw_g (lw_at lw_m4 187 rfl) rfl
theorem q1007 : (Jvm.Cond.methodLink "IntentVats" (343 : Nat) ({ cls := "IntentVats", name := "partOf", desc := "(JJI)J" } : Jvm.MethodName)) ∈ lw_all := lw_g (lw_at lw_m4 188 rfl) rfl
theorem q1008 : (Jvm.Cond.static ({ cls := "IntentVats", name := "partOf", desc := "(JJI)J" } : Jvm.MethodName)) ∈ lw_all := lw_g (lw_at lw_m4 189 rfl) rfl
theorem q1009 : (Jvm.Cond.code ({ cls := "IntentVats", name := "partOf", desc := "(JJI)J" } : Jvm.MethodName) prog_1_method_4_code (7 : Nat) (Option.some Jvm.ClassFile.FieldType.long)) ∈ lw_all := lw_g (lw_at lw_m4 190 rfl) rfl
theorem q1010 : (Jvm.Cond.methodLink "IntentVats" (7 : Nat) ({ cls := "IntentVats", name := "common", desc := "(JJ)J" } : Jvm.MethodName)) ∈ lw_all := lw_g (lw_at lw_m4 191 rfl) rfl
theorem q1011 : (Jvm.Cond.static ({ cls := "IntentVats", name := "common", desc := "(JJ)J" } : Jvm.MethodName)) ∈ lw_all := lw_g (lw_at lw_m4 192 rfl) rfl
theorem q1012 : (Jvm.Cond.code ({ cls := "IntentVats", name := "common", desc := "(JJ)J" } : Jvm.MethodName) prog_1_method_3_code (10 : Nat) (Option.some Jvm.ClassFile.FieldType.long)) ∈ lw_all := lw_g (lw_at lw_m4 193 rfl) rfl
theorem q1013 : (Jvm.Cond.methodLink "IntentVats" (1 : Nat) ({ cls := "java/lang/Math", name := "abs", desc := "(J)J" } : Jvm.MethodName)) ∈ lw_all := lw_g (lw_at lw_m4 194 rfl) rfl
theorem q1017 : (Jvm.Cond.instanceMethod ({ cls := "IntentVats", name := "hope", desc := "(II)J" } : Jvm.MethodName)) ∈ lw_all := lw_g (lw_at lw_m4 198 rfl) rfl
theorem q1018 : (Jvm.Cond.selects "IntentVats" ({ cls := "IntentVats", name := "hope", desc := "(II)J" } : Jvm.MethodName) ({ cls := "IntentVats", name := "hope", desc := "(II)J" } : Jvm.MethodName)) ∈ lw_all := lw_g (lw_at lw_m4 199 rfl) rfl
theorem q1019 : (Jvm.Cond.code ({ cls := "IntentVats", name := "hope", desc := "(II)J" } : Jvm.MethodName) prog_1_method_62_code (3 : Nat) (Option.some Jvm.ClassFile.FieldType.long)) ∈ lw_all := lw_g (lw_at lw_m4 200 rfl) rfl
theorem q1021 : (Jvm.Cond.instanceMethod ({ cls := "IntentVats", name := "row", desc := "(II)I" } : Jvm.MethodName)) ∈ lw_all := lw_g (lw_at lw_m4 202 rfl) rfl
theorem q1022 : (Jvm.Cond.selects "IntentVats" ({ cls := "IntentVats", name := "row", desc := "(II)I" } : Jvm.MethodName) ({ cls := "IntentVats", name := "row", desc := "(II)I" } : Jvm.MethodName)) ∈ lw_all := lw_g (lw_at lw_m4 203 rfl) rfl
theorem q1023 : (Jvm.Cond.code ({ cls := "IntentVats", name := "row", desc := "(II)I" } : Jvm.MethodName) prog_1_method_65_code (3 : Nat) (Option.some Jvm.ClassFile.FieldType.int)) ∈ lw_all := lw_g (lw_at lw_m4 204 rfl) rfl
theorem q1024 : (Jvm.Cond.methodLink "IntentVats" (348 : Nat) ({ cls := "IntentVats", name := "isRow", desc := "(II)Z" } : Jvm.MethodName)) ∈ lw_all := lw_g (lw_at lw_m4 205 rfl) rfl
theorem q1025 : (Jvm.Cond.privateMethod ({ cls := "IntentVats", name := "isRow", desc := "(II)Z" } : Jvm.MethodName)) ∈ lw_tbl := lw_at lw_m4 206 rfl
theorem q1026 : (Jvm.Cond.instanceMethod ({ cls := "IntentVats", name := "isRow", desc := "(II)Z" } : Jvm.MethodName)) ∈ lw_all := lw_g (lw_at lw_m4 207 rfl) rfl
theorem q1027 : (Jvm.Cond.code ({ cls := "IntentVats", name := "isRow", desc := "(II)Z" } : Jvm.MethodName) prog_1_method_64_code (3 : Nat) (Option.some Jvm.ClassFile.FieldType.boolean)) ∈ lw_all := lw_g (lw_at lw_m4 208 rfl) rfl
theorem q1029 : (Jvm.Cond.instanceMethod ({ cls := "IntentVats", name := "alterRow", desc := "(III)I" } : Jvm.MethodName)) ∈ lw_all := lw_g (lw_at lw_m4 210 rfl) rfl
theorem q1030 : (Jvm.Cond.selects "IntentVats" ({ cls := "IntentVats", name := "alterRow", desc := "(III)I" } : Jvm.MethodName) ({ cls := "IntentVats", name := "alterRow", desc := "(III)I" } : Jvm.MethodName)) ∈ lw_all := lw_g (lw_at lw_m4 211 rfl) rfl
theorem q1031 : (Jvm.Cond.code ({ cls := "IntentVats", name := "alterRow", desc := "(III)I" } : Jvm.MethodName) prog_1_method_66_code (5 : Nat) (Option.some Jvm.ClassFile.FieldType.int)) ∈ lw_all := lw_g (lw_at lw_m4 212 rfl) rfl
theorem q1033 : (Jvm.Cond.instanceMethod ({ cls := "IntentVats", name := "prove", desc := "(II)I" } : Jvm.MethodName)) ∈ lw_all := lw_g (lw_at lw_m4 214 rfl) rfl
theorem q1034 : (Jvm.Cond.selects "IntentVats" ({ cls := "IntentVats", name := "prove", desc := "(II)I" } : Jvm.MethodName) ({ cls := "IntentVats", name := "prove", desc := "(II)I" } : Jvm.MethodName)) ∈ lw_all := lw_g (lw_at lw_m4 215 rfl) rfl
theorem q1035 : (Jvm.Cond.code ({ cls := "IntentVats", name := "prove", desc := "(II)I" } : Jvm.MethodName) prog_1_method_68_code (3 : Nat) (Option.some Jvm.ClassFile.FieldType.int)) ∈ lw_all := lw_g (lw_at lw_m4 216 rfl) rfl
theorem q1036 : (Jvm.Cond.methodLink "IntentVats" (355 : Nat) ({ cls := "IntentVats", name := "rowAt", desc := "(I)LIntentVats$Row;" } : Jvm.MethodName)) ∈ lw_all := lw_g (lw_at lw_m4 217 rfl) rfl
theorem q1037 : (Jvm.Cond.privateMethod ({ cls := "IntentVats", name := "rowAt", desc := "(I)LIntentVats$Row;" } : Jvm.MethodName)) ∈ lw_tbl := lw_at lw_m4 218 rfl
theorem q1038 : (Jvm.Cond.instanceMethod ({ cls := "IntentVats", name := "rowAt", desc := "(I)LIntentVats$Row;" } : Jvm.MethodName)) ∈ lw_all := lw_g (lw_at lw_m4 219 rfl) rfl
theorem q1039 : (Jvm.Cond.code ({ cls := "IntentVats", name := "rowAt", desc := "(I)LIntentVats$Row;" } : Jvm.MethodName) prog_1_method_63_code (2 : Nat) (Option.some (Jvm.ClassFile.FieldType.object "IntentVats$Row"))) ∈ lw_all := lw_g (lw_at lw_m4 220 rfl) rfl
theorem q1041 : (Jvm.Cond.methodLinkNest "IntentVats" (347 : Nat) ({ cls := "IntentVats$Row", name := "<init>", desc := "()V" } : Jvm.MethodName) "IntentVats") ∈ lw_tbl := lw_at lw_m4 222 rfl
theorem q1046 : (Jvm.Cond.fieldLinkNest "IntentVats" (352 : Nat) "IntentVats$Row" "told" "[I" "IntentVats") ∈ lw_tbl := lw_at lw_m4 227 rfl
theorem q1050 : (Jvm.Cond.methodLink "IntentVats" (359 : Nat) ({ cls := "IntentVats", name := "goesAs", desc := "(LIntentVats$Mill;I[I)V" } : Jvm.MethodName)) ∈ lw_all := lw_g (lw_at lw_m4 231 rfl) rfl
theorem q1051 : (Jvm.Cond.privateMethod ({ cls := "IntentVats", name := "goesAs", desc := "(LIntentVats$Mill;I[I)V" } : Jvm.MethodName)) ∈ lw_tbl := lw_at lw_m4 232 rfl
theorem q1052 : (Jvm.Cond.instanceMethod ({ cls := "IntentVats", name := "goesAs", desc := "(LIntentVats$Mill;I[I)V" } : Jvm.MethodName)) ∈ lw_all := lw_g (lw_at lw_m4 233 rfl) rfl
theorem q1053 : (Jvm.Cond.code ({ cls := "IntentVats", name := "goesAs", desc := "(LIntentVats$Mill;I[I)V" } : Jvm.MethodName) prog_1_method_67_code (4 : Nat) (Option.none : Option Jvm.ClassFile.FieldType)) ∈ lw_all := lw_g (lw_at lw_m4 234 rfl) rfl
theorem q1055 : (Jvm.Cond.instanceMethod ({ cls := "IntentVats", name := "judge", desc := "(I)I" } : Jvm.MethodName)) ∈ lw_all := lw_g (lw_at lw_m4 236 rfl) rfl
theorem q1056 : (Jvm.Cond.selects "IntentVats" ({ cls := "IntentVats", name := "judge", desc := "(I)I" } : Jvm.MethodName) ({ cls := "IntentVats", name := "judge", desc := "(I)I" } : Jvm.MethodName)) ∈ lw_all := lw_g (lw_at lw_m4 237 rfl) rfl
theorem q1057 : (Jvm.Cond.code ({ cls := "IntentVats", name := "judge", desc := "(I)I" } : Jvm.MethodName) prog_1_method_69_code (6 : Nat) (Option.some Jvm.ClassFile.FieldType.int)) ∈ lw_all := lw_g (lw_at lw_m4 238 rfl) rfl
theorem q1059 : (Jvm.Cond.instanceMethod ({ cls := "IntentVats", name := "minds", desc := "(IIII)I" } : Jvm.MethodName)) ∈ lw_all := lw_g (lw_at lw_m5 0 rfl) rfl
theorem q1060 : (Jvm.Cond.selects "IntentVats" ({ cls := "IntentVats", name := "minds", desc := "(IIII)I" } : Jvm.MethodName) ({ cls := "IntentVats", name := "minds", desc := "(IIII)I" } : Jvm.MethodName)) ∈ lw_all := lw_g (lw_at lw_m5 1 rfl) rfl
theorem q1061 : (Jvm.Cond.codeWith ({ cls := "IntentVats", name := "minds", desc := "(IIII)I" } : Jvm.MethodName) prog_1_method_72_code (6 : Nat) (Option.some Jvm.ClassFile.FieldType.int) [((35 : Nat), (61 : Nat), (62 : Nat), (94 : Nat)), ((35 : Nat), (61 : Nat), (67 : Nat), (375 : Nat)), ((35 : Nat), (61 : Nat), (72 : Nat), (87 : Nat))]) ∈ lw_all := lw_g (lw_at lw_m5 2 rfl) rfl
theorem q1062 : (Jvm.Cond.classLink "IntentVats" (375 : Nat) "java/lang/ClassCastException") ∈ lw_all := lw_g (lw_at lw_m5 3 rfl) rfl
theorem q1089 : (Jvm.Cond.methodLink "IntentVats" (367 : Nat) ({ cls := "IntentVats", name := "bytes", desc := "(Ljava/lang/Object;)[B" } : Jvm.MethodName)) ∈ lw_all := lw_g (lw_at lw_m5 30 rfl) rfl
theorem q1090 : (Jvm.Cond.static ({ cls := "IntentVats", name := "bytes", desc := "(Ljava/lang/Object;)[B" } : Jvm.MethodName)) ∈ lw_all := lw_g (lw_at lw_m5 31 rfl) rfl
theorem q1091 : (Jvm.Cond.code ({ cls := "IntentVats", name := "bytes", desc := "(Ljava/lang/Object;)[B" } : Jvm.MethodName) prog_1_method_70_code (1 : Nat) (Option.some (Jvm.ClassFile.FieldType.array Jvm.ClassFile.FieldType.byte))) ∈ lw_all := lw_g (lw_at lw_m5 32 rfl) rfl
theorem q1092 : (Jvm.Cond.methodLink "IntentVats" (371 : Nat) ({ cls := "IntentVats", name := "mindsOf", desc := "([BIII)V" } : Jvm.MethodName)) ∈ lw_all := lw_g (lw_at lw_m5 33 rfl) rfl
theorem q1093 : (Jvm.Cond.privateMethod ({ cls := "IntentVats", name := "mindsOf", desc := "([BIII)V" } : Jvm.MethodName)) ∈ lw_tbl := lw_at lw_m5 34 rfl
theorem q1094 : (Jvm.Cond.instanceMethod ({ cls := "IntentVats", name := "mindsOf", desc := "([BIII)V" } : Jvm.MethodName)) ∈ lw_all := lw_g (lw_at lw_m5 35 rfl) rfl
theorem q1095 : (Jvm.Cond.code ({ cls := "IntentVats", name := "mindsOf", desc := "([BIII)V" } : Jvm.MethodName) prog_1_method_71_code (6 : Nat) (Option.none : Option Jvm.ClassFile.FieldType)) ∈ lw_all := lw_g (lw_at lw_m5 36 rfl) rfl
theorem q1096 : (Jvm.Cond.methodLink "IntentVats" (363 : Nat) ({ cls := "IntentVats", name := "within", desc := "(II)V" } : Jvm.MethodName)) ∈ lw_all := lw_g (lw_at lw_m5 37 rfl) rfl
theorem q1097 : (Jvm.Cond.privateMethod ({ cls := "IntentVats", name := "within", desc := "(II)V" } : Jvm.MethodName)) ∈ lw_tbl := lw_at lw_m5 38 rfl
theorem q1098 : (Jvm.Cond.instanceMethod ({ cls := "IntentVats", name := "within", desc := "(II)V" } : Jvm.MethodName)) ∈ lw_all := lw_g (lw_at lw_m5 39 rfl) rfl
theorem q1099 : (Jvm.Cond.code ({ cls := "IntentVats", name := "within", desc := "(II)V" } : Jvm.MethodName) prog_1_method_75_code (3 : Nat) (Option.none : Option Jvm.ClassFile.FieldType)) ∈ lw_all := lw_g (lw_at lw_m5 40 rfl) rfl
theorem q1101 : (Jvm.Cond.instanceMethod ({ cls := "IntentVats", name := "sheet", desc := "(III)I" } : Jvm.MethodName)) ∈ lw_all := lw_g (lw_at lw_m5 42 rfl) rfl
theorem q1102 : (Jvm.Cond.selects "IntentVats" ({ cls := "IntentVats", name := "sheet", desc := "(III)I" } : Jvm.MethodName) ({ cls := "IntentVats", name := "sheet", desc := "(III)I" } : Jvm.MethodName)) ∈ lw_all := lw_g (lw_at lw_m5 43 rfl) rfl
theorem q1103 : (Jvm.Cond.codeWith ({ cls := "IntentVats", name := "sheet", desc := "(III)I" } : Jvm.MethodName) prog_1_method_77_code (5 : Nat) (Option.some Jvm.ClassFile.FieldType.int) [((28 : Nat), (40 : Nat), (41 : Nat), (379 : Nat))]) ∈ lw_all := lw_g (lw_at lw_m5 44 rfl) rfl
theorem q1104 : (Jvm.Cond.classLink "IntentVats" (379 : Nat) "java/lang/NegativeArraySizeException") ∈ lw_all := lw_g (lw_at lw_m5 45 rfl) rfl
theorem q1118 : (Jvm.Cond.methodLink "IntentVats" (377 : Nat) ({ cls := "IntentVats$Sheet", name := "becomes", desc := "(II)V" } : Jvm.MethodName)) ∈ lw_all := lw_g (lw_at lw_m5 59 rfl) rfl
theorem q1125 : (Jvm.Cond.instanceMethod ({ cls := "IntentVats", name := "put", desc := "(III)I" } : Jvm.MethodName)) ∈ lw_all := lw_g (lw_at lw_m5 66 rfl) rfl
theorem q1126 : (Jvm.Cond.selects "IntentVats" ({ cls := "IntentVats", name := "put", desc := "(III)I" } : Jvm.MethodName) ({ cls := "IntentVats", name := "put", desc := "(III)I" } : Jvm.MethodName)) ∈ lw_all := lw_g (lw_at lw_m5 67 rfl) rfl
theorem q1127 : (Jvm.Cond.codeWith ({ cls := "IntentVats", name := "put", desc := "(III)I" } : Jvm.MethodName) prog_1_method_79_code (5 : Nat) (Option.some Jvm.ClassFile.FieldType.int) [((9 : Nat), (29 : Nat), (30 : Nat), (94 : Nat)), ((9 : Nat), (29 : Nat), (35 : Nat), (87 : Nat))]) ∈ lw_all := lw_g (lw_at lw_m5 68 rfl) rfl
theorem q1128 : (Jvm.Cond.methodLink "IntentVats" (381 : Nat) ({ cls := "IntentVats", name := "set", desc := "(Ljava/lang/Object;II)V" } : Jvm.MethodName)) ∈ lw_all := lw_g (lw_at lw_m5 69 rfl) rfl
theorem q1129 : (Jvm.Cond.privateMethod ({ cls := "IntentVats", name := "set", desc := "(Ljava/lang/Object;II)V" } : Jvm.MethodName)) ∈ lw_tbl := lw_at lw_m5 70 rfl
theorem q1130 : (Jvm.Cond.instanceMethod ({ cls := "IntentVats", name := "set", desc := "(Ljava/lang/Object;II)V" } : Jvm.MethodName)) ∈ lw_all := lw_g (lw_at lw_m5 71 rfl) rfl
theorem q1131 : (Jvm.Cond.code ({ cls := "IntentVats", name := "set", desc := "(Ljava/lang/Object;II)V" } : Jvm.MethodName) prog_1_method_78_code (4 : Nat) (Option.none : Option Jvm.ClassFile.FieldType)) ∈ lw_all := lw_g (lw_at lw_m5 72 rfl) rfl
theorem q1133 : (Jvm.Cond.instanceMethod ({ cls := "IntentVats", name := "item", desc := "(III)I" } : Jvm.MethodName)) ∈ lw_all := lw_g (lw_at lw_m5 74 rfl) rfl
theorem q1134 : (Jvm.Cond.selects "IntentVats" ({ cls := "IntentVats", name := "item", desc := "(III)I" } : Jvm.MethodName) ({ cls := "IntentVats", name := "item", desc := "(III)I" } : Jvm.MethodName)) ∈ lw_all := lw_g (lw_at lw_m5 75 rfl) rfl
theorem q1135 : (Jvm.Cond.codeWith ({ cls := "IntentVats", name := "item", desc := "(III)I" } : Jvm.MethodName) prog_1_method_85_code (5 : Nat) (Option.some Jvm.ClassFile.FieldType.int) [((18 : Nat), (37 : Nat), (38 : Nat), (94 : Nat)), ((18 : Nat), (37 : Nat), (43 : Nat), (375 : Nat)), ((18 : Nat), (37 : Nat), (48 : Nat), (87 : Nat))]) ∈ lw_all := lw_g (lw_at lw_m5 76 rfl) rfl
theorem q1136 : (Jvm.Cond.methodLink "IntentVats" (401 : Nat) ({ cls := "IntentVats", name := "itemOf", desc := "(Ljava/lang/Object;II)I" } : Jvm.MethodName)) ∈ lw_all := lw_g (lw_at lw_m5 77 rfl) rfl
theorem q1137 : (Jvm.Cond.privateMethod ({ cls := "IntentVats", name := "itemOf", desc := "(Ljava/lang/Object;II)I" } : Jvm.MethodName)) ∈ lw_tbl := lw_at lw_m5 78 rfl
theorem q1138 : (Jvm.Cond.instanceMethod ({ cls := "IntentVats", name := "itemOf", desc := "(Ljava/lang/Object;II)I" } : Jvm.MethodName)) ∈ lw_all := lw_g (lw_at lw_m5 79 rfl) rfl
theorem q1139 : (Jvm.Cond.code ({ cls := "IntentVats", name := "itemOf", desc := "(Ljava/lang/Object;II)I" } : Jvm.MethodName) prog_1_method_84_code (4 : Nat) (Option.some Jvm.ClassFile.FieldType.int)) ∈ lw_all := lw_g (lw_at lw_m5 80 rfl) rfl
theorem q1140 : (Jvm.Cond.methodLink "IntentVats" (385 : Nat) ({ cls := "IntentVats", name := "byteAt", desc := "([BI)I" } : Jvm.MethodName)) ∈ lw_all := lw_g (lw_at lw_m5 81 rfl) rfl
theorem q1141 : (Jvm.Cond.privateMethod ({ cls := "IntentVats", name := "byteAt", desc := "([BI)I" } : Jvm.MethodName)) ∈ lw_tbl := lw_at lw_m5 82 rfl
theorem q1142 : (Jvm.Cond.instanceMethod ({ cls := "IntentVats", name := "byteAt", desc := "([BI)I" } : Jvm.MethodName)) ∈ lw_all := lw_g (lw_at lw_m5 83 rfl) rfl
theorem q1143 : (Jvm.Cond.code ({ cls := "IntentVats", name := "byteAt", desc := "([BI)I" } : Jvm.MethodName) prog_1_method_80_code (3 : Nat) (Option.some Jvm.ClassFile.FieldType.int)) ∈ lw_all := lw_g (lw_at lw_m5 84 rfl) rfl
theorem q1144 : (Jvm.Cond.methodLink "IntentVats" (389 : Nat) ({ cls := "IntentVats", name := "shortAt", desc := "([SI)I" } : Jvm.MethodName)) ∈ lw_all := lw_g (lw_at lw_m5 85 rfl) rfl
theorem q1145 : (Jvm.Cond.privateMethod ({ cls := "IntentVats", name := "shortAt", desc := "([SI)I" } : Jvm.MethodName)) ∈ lw_tbl := lw_at lw_m5 86 rfl
theorem q1146 : (Jvm.Cond.instanceMethod ({ cls := "IntentVats", name := "shortAt", desc := "([SI)I" } : Jvm.MethodName)) ∈ lw_all := lw_g (lw_at lw_m5 87 rfl) rfl
theorem q1147 : (Jvm.Cond.code ({ cls := "IntentVats", name := "shortAt", desc := "([SI)I" } : Jvm.MethodName) prog_1_method_81_code (3 : Nat) (Option.some Jvm.ClassFile.FieldType.int)) ∈ lw_all := lw_g (lw_at lw_m5 88 rfl) rfl
theorem q1148 : (Jvm.Cond.methodLink "IntentVats" (393 : Nat) ({ cls := "IntentVats", name := "intAt", desc := "([II)I" } : Jvm.MethodName)) ∈ lw_all := lw_g (lw_at lw_m5 89 rfl) rfl
theorem q1149 : (Jvm.Cond.privateMethod ({ cls := "IntentVats", name := "intAt", desc := "([II)I" } : Jvm.MethodName)) ∈ lw_tbl := lw_at lw_m5 90 rfl
theorem q1150 : (Jvm.Cond.instanceMethod ({ cls := "IntentVats", name := "intAt", desc := "([II)I" } : Jvm.MethodName)) ∈ lw_all := lw_g (lw_at lw_m5 91 rfl) rfl
theorem q1151 : (Jvm.Cond.code ({ cls := "IntentVats", name := "intAt", desc := "([II)I" } : Jvm.MethodName) prog_1_method_82_code (3 : Nat) (Option.some Jvm.ClassFile.FieldType.int)) ∈ lw_all := lw_g (lw_at lw_m5 92 rfl) rfl
theorem q1152 : (Jvm.Cond.methodLink "IntentVats" (397 : Nat) ({ cls := "IntentVats", name := "longAt", desc := "([JI)I" } : Jvm.MethodName)) ∈ lw_all := lw_g (lw_at lw_m5 93 rfl) rfl
theorem q1153 : (Jvm.Cond.privateMethod ({ cls := "IntentVats", name := "longAt", desc := "([JI)I" } : Jvm.MethodName)) ∈ lw_tbl := lw_at lw_m5 94 rfl
theorem q1154 : (Jvm.Cond.instanceMethod ({ cls := "IntentVats", name := "longAt", desc := "([JI)I" } : Jvm.MethodName)) ∈ lw_all := lw_g (lw_at lw_m5 95 rfl) rfl
theorem q1155 : (Jvm.Cond.code ({ cls := "IntentVats", name := "longAt", desc := "([JI)I" } : Jvm.MethodName) prog_1_method_83_code (3 : Nat) (Option.some Jvm.ClassFile.FieldType.int)) ∈ lw_all := lw_g (lw_at lw_m5 96 rfl) rfl
theorem q1157 : (Jvm.Cond.instanceMethod ({ cls := "IntentVats", name := "shelf", desc := "(III)I" } : Jvm.MethodName)) ∈ lw_all := lw_g (lw_at lw_m5 98 rfl) rfl
theorem q1158 : (Jvm.Cond.selects "IntentVats" ({ cls := "IntentVats", name := "shelf", desc := "(III)I" } : Jvm.MethodName) ({ cls := "IntentVats", name := "shelf", desc := "(III)I" } : Jvm.MethodName)) ∈ lw_all := lw_g (lw_at lw_m5 99 rfl) rfl
theorem q1159 : (Jvm.Cond.code ({ cls := "IntentVats", name := "shelf", desc := "(III)I" } : Jvm.MethodName) prog_1_method_89_code (4 : Nat) (Option.some Jvm.ClassFile.FieldType.int)) ∈ lw_all := lw_g (lw_at lw_m5 100 rfl) rfl
theorem q1160 : (Jvm.Cond.methodLink "IntentVats" (421 : Nat) ({ cls := "IntentVats", name := "isShelf", desc := "(I)Z" } : Jvm.MethodName)) ∈ lw_all := lw_g (lw_at lw_m5 101 rfl) rfl
theorem q1161 : (Jvm.Cond.static ({ cls := "IntentVats", name := "isShelf", desc := "(I)Z" } : Jvm.MethodName)) ∈ lw_all := lw_g (lw_at lw_m5 102 rfl) rfl
theorem q1162 : (Jvm.Cond.code ({ cls := "IntentVats", name := "isShelf", desc := "(I)Z" } : Jvm.MethodName) prog_1_method_87_code (1 : Nat) (Option.some Jvm.ClassFile.FieldType.boolean)) ∈ lw_all := lw_g (lw_at lw_m5 103 rfl) rfl
theorem q1164 : (Jvm.Cond.instanceMethod ({ cls := "IntentVats", name := "taken", desc := "(II)I" } : Jvm.MethodName)) ∈ lw_all := lw_g (lw_at lw_m5 105 rfl) rfl
theorem q1165 : (Jvm.Cond.selects "IntentVats" ({ cls := "IntentVats", name := "taken", desc := "(II)I" } : Jvm.MethodName) ({ cls := "IntentVats", name := "taken", desc := "(II)I" } : Jvm.MethodName)) ∈ lw_all := lw_g (lw_at lw_m5 106 rfl) rfl
theorem q1166 : (Jvm.Cond.codeWith ({ cls := "IntentVats", name := "taken", desc := "(II)I" } : Jvm.MethodName) prog_1_method_92_code (4 : Nat) (Option.some Jvm.ClassFile.FieldType.int) [((29 : Nat), (47 : Nat), (48 : Nat), (94 : Nat)), ((29 : Nat), (47 : Nat), (52 : Nat), (375 : Nat))]) ∈ lw_all := lw_g (lw_at lw_m5 107 rfl) rfl
theorem q1167 : (Jvm.Cond.methodLink "IntentVats" (436 : Nat) ({ cls := "IntentVats", name := "heldOf", desc := "(LIntentVats$Shelf;)Ljava/lang/Object;" } : Jvm.MethodName)) ∈ lw_all := lw_g (lw_at lw_m5 108 rfl) rfl
theorem q1168 : (Jvm.Cond.privateMethod ({ cls := "IntentVats", name := "heldOf", desc := "(LIntentVats$Shelf;)Ljava/lang/Object;" } : Jvm.MethodName)) ∈ lw_tbl := lw_at lw_m5 109 rfl
theorem q1169 : (Jvm.Cond.instanceMethod ({ cls := "IntentVats", name := "heldOf", desc := "(LIntentVats$Shelf;)Ljava/lang/Object;" } : Jvm.MethodName)) ∈ lw_all := lw_g (lw_at lw_m5 110 rfl) rfl
theorem q1170 : (Jvm.Cond.code ({ cls := "IntentVats", name := "heldOf", desc := "(LIntentVats$Shelf;)Ljava/lang/Object;" } : Jvm.MethodName) prog_1_method_88_code (2 : Nat) (Option.some (Jvm.ClassFile.FieldType.object "java/lang/Object"))) ∈ lw_all := lw_g (lw_at lw_m5 111 rfl) rfl
theorem q1171 : (Jvm.Cond.methodLink "IntentVats" (414 : Nat) ({ cls := "IntentVats", name := "asOne", desc := "(I)LIntentVats$Dries;" } : Jvm.MethodName)) ∈ lw_all := lw_g (lw_at lw_m5 112 rfl) rfl
theorem q1172 : (Jvm.Cond.privateMethod ({ cls := "IntentVats", name := "asOne", desc := "(I)LIntentVats$Dries;" } : Jvm.MethodName)) ∈ lw_tbl := lw_at lw_m5 113 rfl
theorem q1173 : (Jvm.Cond.instanceMethod ({ cls := "IntentVats", name := "asOne", desc := "(I)LIntentVats$Dries;" } : Jvm.MethodName)) ∈ lw_all := lw_g (lw_at lw_m5 114 rfl) rfl
theorem q1174 : (Jvm.Cond.code ({ cls := "IntentVats", name := "asOne", desc := "(I)LIntentVats$Dries;" } : Jvm.MethodName) prog_1_method_16_code (3 : Nat) (Option.some (Jvm.ClassFile.FieldType.object "IntentVats$Dries"))) ∈ lw_all := lw_g (lw_at lw_m5 115 rfl) rfl
theorem q1175 : (Jvm.Cond.classLink "IntentVats" (180 : Nat) "IntentVats$WoolOne") ∈ lw_all := lw_g (lw_at lw_m5 116 rfl) rfl
theorem q1177 : (Jvm.Cond.methodLink "IntentVats" (182 : Nat) ({ cls := "IntentVats$WoolOne", name := "<init>", desc := "(LIntentVats;II)V" } : Jvm.MethodName)) ∈ lw_all := lw_g (lw_at lw_m5 118 rfl) rfl
theorem q1205 : (Jvm.Cond.classLink "IntentVats" (185 : Nat) "IntentVats$LinenOne") ∈ lw_all := lw_g (lw_at lw_m5 146 rfl) rfl
theorem q1207 : (Jvm.Cond.methodLink "IntentVats" (187 : Nat) ({ cls := "IntentVats$LinenOne", name := "<init>", desc := "(LIntentVats;II)V" } : Jvm.MethodName)) ∈ lw_all := lw_g (lw_at lw_m5 148 rfl) rfl
theorem q1218 : (Jvm.Cond.classLink "IntentVats" (188 : Nat) "IntentVats$FeltOne") ∈ lw_all := lw_g (lw_at lw_m5 159 rfl) rfl
theorem q1220 : (Jvm.Cond.methodLink "IntentVats" (190 : Nat) ({ cls := "IntentVats$FeltOne", name := "<init>", desc := "(LIntentVats;II)V" } : Jvm.MethodName)) ∈ lw_all := lw_g (lw_at lw_m5 161 rfl) rfl
theorem q1232 : (Jvm.Cond.classLink "IntentVats" (191 : Nat) "IntentVats$ShroudOne") ∈ lw_all := lw_g (lw_at lw_m5 173 rfl) rfl
theorem q1234 : (Jvm.Cond.methodLink "IntentVats" (193 : Nat) ({ cls := "IntentVats$ShroudOne", name := "<init>", desc := "(LIntentVats;II)V" } : Jvm.MethodName)) ∈ lw_all := lw_g (lw_at lw_m5 175 rfl) rfl
theorem q1246 : (Jvm.Cond.classLink "IntentVats" (194 : Nat) "IntentVats$MuslinOne") ∈ lw_all := lw_g (lw_at lw_m5 187 rfl) rfl
theorem q1248 : (Jvm.Cond.methodLink "IntentVats" (196 : Nat) ({ cls := "IntentVats$MuslinOne", name := "<init>", desc := "(LIntentVats;II)V" } : Jvm.MethodName)) ∈ lw_all := lw_g (lw_at lw_m5 189 rfl) rfl
theorem q1259 : (Jvm.Cond.classLink "IntentVats" (197 : Nat) "IntentVats$AnyOne") ∈ lw_all := lw_g (lw_at lw_m5 200 rfl) rfl
theorem q1261 : (Jvm.Cond.methodLink "IntentVats" (199 : Nat) ({ cls := "IntentVats$AnyOne", name := "<init>", desc := "(LIntentVats;II)V" } : Jvm.MethodName)) ∈ lw_all := lw_g (lw_at lw_m5 202 rfl) rfl
theorem q1266 : (Jvm.Cond.methodLink "IntentVats" (440 : Nat) ({ cls := "IntentVats", name := "castTo", desc := "(Ljava/lang/Object;I)I" } : Jvm.MethodName)) ∈ lw_all := lw_g (lw_at lw_m5 207 rfl) rfl
theorem q1267 : (Jvm.Cond.static ({ cls := "IntentVats", name := "castTo", desc := "(Ljava/lang/Object;I)I" } : Jvm.MethodName)) ∈ lw_all := lw_g (lw_at lw_m5 208 rfl) rfl
theorem q1268 : (Jvm.Cond.code ({ cls := "IntentVats", name := "castTo", desc := "(Ljava/lang/Object;I)I" } : Jvm.MethodName) prog_1_method_91_code (2 : Nat) (Option.some Jvm.ClassFile.FieldType.int)) ∈ lw_all := lw_g (lw_at lw_m5 209 rfl) rfl
theorem q1269 : (Jvm.Cond.methodLink "IntentVats" (424 : Nat) ({ cls := "IntentVats$AnyOne", name := "its", desc := "()I" } : Jvm.MethodName)) ∈ lw_all := lw_g (lw_at lw_m5 210 rfl) rfl
theorem q1279 : (Jvm.Cond.methodLink "IntentVats" (427 : Nat) ({ cls := "IntentVats$WoolOne", name := "its", desc := "()I" } : Jvm.MethodName)) ∈ lw_all := lw_g (lw_at lw_m5 220 rfl) rfl
theorem q1284 : (Jvm.Cond.methodLink "IntentVats" (428 : Nat) ({ cls := "IntentVats$LinenOne", name := "its", desc := "()I" } : Jvm.MethodName)) ∈ lw_all := lw_g (lw_at lw_m5 225 rfl) rfl
theorem q1288 : (Jvm.Cond.methodLink "IntentVats" (429 : Nat) ({ cls := "IntentVats$FeltOne", name := "its", desc := "()I" } : Jvm.MethodName)) ∈ lw_all := lw_g (lw_at lw_m5 229 rfl) rfl
theorem q1291 : (Jvm.Cond.methodLink "IntentVats" (430 : Nat) ({ cls := "IntentVats$ShroudOne", name := "its", desc := "()I" } : Jvm.MethodName)) ∈ lw_all := lw_g (lw_at lw_m5 232 rfl) rfl
theorem q1294 : (Jvm.Cond.methodLink "IntentVats" (431 : Nat) ({ cls := "IntentVats$MuslinOne", name := "its", desc := "()I" } : Jvm.MethodName)) ∈ lw_all := lw_g (lw_at lw_m5 235 rfl) rfl
theorem q1297 : (Jvm.Cond.methodLink "IntentVats" (432 : Nat) ({ cls := "IntentVats", name := "rowAs", desc := "(Ljava/lang/Object;I)I" } : Jvm.MethodName)) ∈ lw_all := lw_g (lw_at lw_m5 238 rfl) rfl
theorem q1298 : (Jvm.Cond.static ({ cls := "IntentVats", name := "rowAs", desc := "(Ljava/lang/Object;I)I" } : Jvm.MethodName)) ∈ lw_all := lw_g (lw_at lw_m5 239 rfl) rfl
theorem q1299 : (Jvm.Cond.code ({ cls := "IntentVats", name := "rowAs", desc := "(Ljava/lang/Object;I)I" } : Jvm.MethodName) prog_1_method_90_code (2 : Nat) (Option.some Jvm.ClassFile.FieldType.int)) ∈ lw_all := lw_g (lw_at lw_m6 0 rfl) rfl
theorem q1301 : (Jvm.Cond.instanceMethod ({ cls := "IntentVats", name := "act", desc := "(III)I" } : Jvm.MethodName)) ∈ lw_all := lw_g (lw_at lw_m6 2 rfl) rfl
theorem q1302 : (Jvm.Cond.selects "IntentVats" ({ cls := "IntentVats", name := "act", desc := "(III)I" } : Jvm.MethodName) ({ cls := "IntentVats", name := "act", desc := "(III)I" } : Jvm.MethodName)) ∈ lw_all := lw_g (lw_at lw_m6 3 rfl) rfl
theorem q1303 : (Jvm.Cond.codeWith ({ cls := "IntentVats", name := "act", desc := "(III)I" } : Jvm.MethodName) prog_1_method_94_code (6 : Nat) (Option.some Jvm.ClassFile.FieldType.int) [((45 : Nat), (55 : Nat), (56 : Nat), (461 : Nat))]) ∈ lw_all := lw_g (lw_at lw_m6 4 rfl) rfl
theorem q1304 : (Jvm.Cond.classLink "IntentVats" (461 : Nat) "java/lang/ArithmeticException") ∈ lw_all := lw_g (lw_at lw_m6 5 rfl) rfl
theorem q1318 : (Jvm.Cond.classLink "IntentVats" (444 : Nat) "IntentVats$Dries") ∈ lw_all := lw_g (lw_at lw_m6 19 rfl) rfl
theorem q1319 : (Jvm.Cond.methodLink "IntentVats" (457 : Nat) ({ cls := "IntentVats", name := "acted", desc := "(LIntentVats$Dries;II)I" } : Jvm.MethodName)) ∈ lw_all := lw_g (lw_at lw_m6 20 rfl) rfl
theorem q1320 : (Jvm.Cond.static ({ cls := "IntentVats", name := "acted", desc := "(LIntentVats$Dries;II)I" } : Jvm.MethodName)) ∈ lw_all := lw_g (lw_at lw_m6 21 rfl) rfl
theorem q1321 : (Jvm.Cond.code ({ cls := "IntentVats", name := "acted", desc := "(LIntentVats$Dries;II)I" } : Jvm.MethodName) prog_1_method_93_code (3 : Nat) (Option.some Jvm.ClassFile.FieldType.int)) ∈ lw_all := lw_g (lw_at lw_m6 22 rfl) rfl
theorem q1322 : (Jvm.Cond.interfaceEntry "IntentVats" (443 : Nat)) ∈ lw_tbl := lw_at lw_m6 23 rfl
theorem q1332 : (Jvm.Cond.privateMethod ({ cls := "IntentVats", name := "ran", desc := "(I)V" } : Jvm.MethodName)) ∈ lw_tbl := lw_at lw_m6 33 rfl
theorem q1333 : (Jvm.Cond.instanceMethod ({ cls := "IntentVats", name := "ran", desc := "(I)V" } : Jvm.MethodName)) ∈ lw_all := lw_g (lw_at lw_m6 34 rfl) rfl
theorem q1334 : (Jvm.Cond.code ({ cls := "IntentVats", name := "ran", desc := "(I)V" } : Jvm.MethodName) prog_1_method_86_code (2 : Nat) (Option.none : Option Jvm.ClassFile.FieldType)) ∈ lw_all := lw_g (lw_at lw_m6 35 rfl) rfl
theorem q1367 : (Jvm.Cond.interfaceEntry "IntentVats" (448 : Nat)) ∈ lw_tbl := lw_at lw_m6 68 rfl
theorem q1427 : (Jvm.Cond.interfaceEntry "IntentVats" (451 : Nat)) ∈ lw_tbl := lw_at lw_m6 128 rfl
theorem q1459 : (Jvm.Cond.interfaceEntry "IntentVats" (454 : Nat)) ∈ lw_tbl := lw_at lw_m6 160 rfl
theorem q1460 : (Jvm.Cond.methodLink "IntentVats" (454 : Nat) ({ cls := "IntentVats$Dries", name := "dries", desc := "(I)I" } : Jvm.MethodName)) ∈ lw_all := lw_g (lw_at lw_m6 161 rfl) rfl
theorem q1492 : (Jvm.Cond.instanceMethod ({ cls := "IntentVats", name := "trace", desc := "(I)I" } : Jvm.MethodName)) ∈ lw_all := lw_g (lw_at lw_m6 193 rfl) rfl
theorem q1493 : (Jvm.Cond.selects "IntentVats" ({ cls := "IntentVats", name := "trace", desc := "(I)I" } : Jvm.MethodName) ({ cls := "IntentVats", name := "trace", desc := "(I)I" } : Jvm.MethodName)) ∈ lw_all := lw_g (lw_at lw_m6 194 rfl) rfl
theorem q1494 : (Jvm.Cond.code ({ cls := "IntentVats", name := "trace", desc := "(I)I" } : Jvm.MethodName) prog_1_method_95_code (2 : Nat) (Option.some Jvm.ClassFile.FieldType.int)) ∈ lw_all := lw_g (lw_at lw_m6 195 rfl) rfl
theorem q1496 : (Jvm.Cond.instanceMethod ({ cls := "IntentVats", name := "many", desc := "(I)I" } : Jvm.MethodName)) ∈ lw_all := lw_g (lw_at lw_m6 197 rfl) rfl
theorem q1497 : (Jvm.Cond.selects "IntentVats" ({ cls := "IntentVats", name := "many", desc := "(I)I" } : Jvm.MethodName) ({ cls := "IntentVats", name := "many", desc := "(I)I" } : Jvm.MethodName)) ∈ lw_all := lw_g (lw_at lw_m6 198 rfl) rfl
theorem q1498 : (Jvm.Cond.code ({ cls := "IntentVats", name := "many", desc := "(I)I" } : Jvm.MethodName) prog_1_method_96_code (2 : Nat) (Option.some Jvm.ClassFile.FieldType.int)) ∈ lw_all := lw_g (lw_at lw_m6 199 rfl) rfl
theorem q1499 : (Jvm.Cond.methodLink "IntentVats" (463 : Nat) ({ cls := "IntentVats$Mill", name := "purposes", desc := "()I" } : Jvm.MethodName)) ∈ lw_all := lw_g (lw_at lw_m6 200 rfl) rfl
theorem q1504 : (Jvm.Cond.instanceMethod ({ cls := "IntentVats", name := "keep", desc := "()I" } : Jvm.MethodName)) ∈ lw_all := lw_g (lw_at lw_m6 205 rfl) rfl
theorem q1505 : (Jvm.Cond.selects "IntentVats" ({ cls := "IntentVats", name := "keep", desc := "()I" } : Jvm.MethodName) ({ cls := "IntentVats", name := "keep", desc := "()I" } : Jvm.MethodName)) ∈ lw_all := lw_g (lw_at lw_m6 206 rfl) rfl
theorem q1506 : (Jvm.Cond.code ({ cls := "IntentVats", name := "keep", desc := "()I" } : Jvm.MethodName) prog_1_method_97_code (1 : Nat) (Option.some Jvm.ClassFile.FieldType.int)) ∈ lw_all := lw_g (lw_at lw_m6 207 rfl) rfl
theorem q1508 : (Jvm.Cond.instanceMethod ({ cls := "IntentVats", name := "again", desc := "()I" } : Jvm.MethodName)) ∈ lw_all := lw_g (lw_at lw_m6 209 rfl) rfl
theorem q1509 : (Jvm.Cond.selects "IntentVats" ({ cls := "IntentVats", name := "again", desc := "()I" } : Jvm.MethodName) ({ cls := "IntentVats", name := "again", desc := "()I" } : Jvm.MethodName)) ∈ lw_all := lw_g (lw_at lw_m6 210 rfl) rfl
theorem q1510 : (Jvm.Cond.code ({ cls := "IntentVats", name := "again", desc := "()I" } : Jvm.MethodName) prog_1_method_98_code (1 : Nat) (Option.some Jvm.ClassFile.FieldType.int)) ∈ lw_all := lw_g (lw_at lw_m6 211 rfl) rfl
theorem in_X0 : ∀ w ∈ wsX00, w ∈ lw_all := lw_in wsX00 [467, 469, 471, 473, 475, 477, 479, 481, 483, 485, 487, 489, 491, 493, 495, 497, 499, 501] (by decide +kernel) (by decide +kernel)
