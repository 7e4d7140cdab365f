/-! IntentVatsModel -/
set_option maxRecDepth 100000
def RX14 : String := "IntentVatsModel"
def TX14 : u_T := fun k => match k with
  | 0 => ("IntentVatsModel", "most", "[I", true)
  | 1 => ("IntentVatsModel", "atFirst", "[I", true)
  | 2 => ("IntentVatsModel", "s", "[I", true)
  | 3 => ("IntentVatsModel", "kept", "[I", true)
  | 4 => ("IntentVatsModel", "aside", "[I", true)
  | 5 => ("IntentVatsModel", "isKept", "Z", false)
  | 6 => ("IntentVatsModel", "tape", "[I", true)
  | 7 => ("IntentVatsModel", "taped", "I", false)
  | 8 => ("IntentVatsModel", "from", "I", false)
  | 9 => ("IntentVatsModel", "to", "I", false)
  | 10 => ("IntentVatsModel", "isWrong", "Z", false)
  | 11 => ("IntentVatsModel", "rows", "[I", true)
  | 12 => ("IntentVatsModel", "rowMany", "I", false)
  | 13 => ("IntentVatsModel", "sortOf", "[I", true)
  | 14 => ("IntentVatsModel", "sizeOf", "[I", true)
  | 15 => ("IntentVatsModel", "items", "[I", true)
  | 16 => ("IntentVatsModel", "laid", "[I", true)
  | 17 => ("IntentVatsModel", "heldNumber", "[I", true)
  | 18 => ("IntentVatsModel", "heldSize", "[I", true)
  | 19 => ("IntentVatsModel", "ran", "[I", true)
  | 20 => ("IntentVatsModel", "bodies", "I", false)
  | 21 => ("IntentVatsModel", "kind", "I", false)
  | 22 => ("IntentVatsModel", "n", "I", false)
  | 23 => ("IntentVatsModel", "a", "I", false)
  | _ => ("IntentVatsModel", "isParted", "Z", false)
def tyX14 : Nat → FieldType := fun k => match k with
  | 0 => .array .int
  | 1 => .array .int
  | 2 => .array .int
  | 3 => .array .int
  | 4 => .array .int
  | 5 => .boolean
  | 6 => .array .int
  | 7 => .int
  | 8 => .int
  | 9 => .int
  | 10 => .boolean
  | 11 => .array .int
  | 12 => .int
  | 13 => .array .int
  | 14 => .array .int
  | 15 => .array .int
  | 16 => .array .int
  | 17 => .array .int
  | 18 => .array .int
  | 19 => .array .int
  | 20 => .int
  | 21 => .int
  | 22 => .int
  | 23 => .int
  | _ => .boolean
abbrev wsX140 : List Cond := u_ws RX14 TX14 25
set_option maxRecDepth 100000 in
theorem nmX14 : ∀ a, a < 25 → ∀ b, b < 25 → a ≠ b → (TX14 a).2.1 ≠ (TX14 b).2.1 := by decide +kernel
set_option maxRecDepth 100000 in
theorem tyX14_ok : ∀ k, k < 25 → parseFieldDescriptor (TX14 k).2.2.1 = some (tyX14 k) := by decide +kernel
abbrev cX14_init : ByteArray := prog_28_method_1_code
def yX14_init : MethodName := ⟨RX14, "<init>", "()V"⟩
def dkwX14_init_8 : List UInt8 := [177]
abbrev dktX14_init_8 : List UInt8 := dkwX14_init_8 ++ []
def dkwX14_init_7 : List UInt8 := [188, 10, 181, 0, 46, 42, 16, 30, 188, 10, 181, 0, 49, 42, 182, 0, 52, 42, 180, 0, 16, 8, 4, 79]
abbrev dktX14_init_7 : List UInt8 := dkwX14_init_7 ++ dktX14_init_8
def dkwX14_init_6 : List UInt8 := [4, 5, 79, 89, 5, 5, 79, 89, 6, 5, 79, 181, 0, 40, 42, 7, 188, 10, 181, 0, 43, 42, 7]
abbrev dktX14_init_6 : List UInt8 := dkwX14_init_6 ++ dktX14_init_7
def dkwX14_init_5 : List UInt8 := [7, 188, 10, 181, 0, 34, 42, 17, 0, 160, 188, 10, 181, 0, 37, 42, 7, 188, 10, 89, 3, 5, 79, 89]
abbrev dktX14_init_5 : List UInt8 := dkwX14_init_5 ++ dktX14_init_6
def dkwX14_init_4 : List UInt8 := [42, 7, 188, 10, 89, 3, 2, 79, 89, 4, 2, 79, 89, 5, 2, 79, 89, 6, 2, 79, 181, 0, 31, 42]
abbrev dktX14_init_4 : List UInt8 := dkwX14_init_4 ++ dktX14_init_5
def dkwX14_init_3 : List UInt8 := [16, 69, 188, 10, 181, 0, 22, 42, 17, 0, 200, 188, 10, 181, 0, 25, 42, 16, 30, 188, 10, 181, 0, 28]
abbrev dktX14_init_3 : List UInt8 := dkwX14_init_3 ++ dktX14_init_4
def dkwX14_init_2 : List UInt8 := [6, 16, 20, 79, 181, 0, 13, 42, 16, 69, 188, 10, 181, 0, 16, 42, 16, 69, 188, 10, 181, 0, 19, 42]
abbrev dktX14_init_2 : List UInt8 := dkwX14_init_2 ++ dktX14_init_3
def dkwX14_init_1 : List UInt8 := [6, 16, 99, 79, 181, 0, 9, 42, 7, 188, 10, 89, 3, 6, 79, 89, 4, 5, 79, 89, 5, 7, 79, 89]
abbrev dktX14_init_1 : List UInt8 := dkwX14_init_1 ++ dktX14_init_2
def dkwX14_init_0 : List UInt8 := [42, 183, 0, 3, 42, 7, 188, 10, 89, 3, 16, 9, 79, 89, 4, 16, 9, 79, 89, 5, 16, 9, 79, 89]
abbrev dktX14_init_0 : List UInt8 := dkwX14_init_0 ++ dktX14_init_1
theorem dksX14_init_0 : cX14_init.data.toList.drop 0 = dktX14_init_0 := by decide +kernel
theorem dksX14_init_1 : cX14_init.data.toList.drop 24 = dktX14_init_1 := dk_seg dksX14_init_0 24 rfl rfl
theorem dksX14_init_2 : cX14_init.data.toList.drop 48 = dktX14_init_2 := dk_seg dksX14_init_1 24 rfl rfl
theorem dksX14_init_3 : cX14_init.data.toList.drop 72 = dktX14_init_3 := dk_seg dksX14_init_2 24 rfl rfl
theorem dksX14_init_4 : cX14_init.data.toList.drop 96 = dktX14_init_4 := dk_seg dksX14_init_3 24 rfl rfl
theorem dksX14_init_5 : cX14_init.data.toList.drop 120 = dktX14_init_5 := dk_seg dksX14_init_4 24 rfl rfl
theorem dksX14_init_6 : cX14_init.data.toList.drop 144 = dktX14_init_6 := dk_seg dksX14_init_5 24 rfl rfl
theorem dksX14_init_7 : cX14_init.data.toList.drop 167 = dktX14_init_7 := dk_seg dksX14_init_6 23 rfl rfl
theorem dksX14_init_8 : cX14_init.data.toList.drop 191 = dktX14_init_8 := dk_seg dksX14_init_7 24 rfl rfl
theorem dX14_init_0 : decode cX14_init 0 = .ok (.aload_n 0, 1) := dk_42 (dk_at dksX14_init_0 0 rfl rfl)
theorem dX14_init_1 : decode cX14_init 1 = .ok (.invokespecial 3, 3) := dk_183 0 3 (dk_at dksX14_init_0 1 rfl rfl)
theorem dX14_init_4 : decode cX14_init 4 = .ok (.aload_n 0, 1) := dk_42 (dk_at dksX14_init_0 4 rfl rfl)
theorem dX14_init_5 : decode cX14_init 5 = .ok (.iconst 4, 1) := dk_7 (dk_at dksX14_init_0 5 rfl rfl)
theorem dX14_init_6 : decode cX14_init 6 = .ok (.newarray .int, 2) := dk_188_10 (dk_at dksX14_init_0 6 rfl rfl)
theorem dX14_init_8 : decode cX14_init 8 = .ok (.dup, 1) := dk_89 (dk_at dksX14_init_0 8 rfl rfl)
theorem dX14_init_9 : decode cX14_init 9 = .ok (.iconst 0, 1) := dk_3 (dk_at dksX14_init_0 9 rfl rfl)
theorem dX14_init_10 : decode cX14_init 10 = .ok (.bipush 9, 2) := dk_16 9 (dk_at dksX14_init_0 10 rfl rfl)
theorem dX14_init_12 : decode cX14_init 12 = .ok (.iastore, 1) := dk_79 (dk_at dksX14_init_0 12 rfl rfl)
theorem dX14_init_13 : decode cX14_init 13 = .ok (.dup, 1) := dk_89 (dk_at dksX14_init_0 13 rfl rfl)
theorem dX14_init_14 : decode cX14_init 14 = .ok (.iconst 1, 1) := dk_4 (dk_at dksX14_init_0 14 rfl rfl)
theorem dX14_init_15 : decode cX14_init 15 = .ok (.bipush 9, 2) := dk_16 9 (dk_at dksX14_init_0 15 rfl rfl)
theorem dX14_init_17 : decode cX14_init 17 = .ok (.iastore, 1) := dk_79 (dk_at dksX14_init_0 17 rfl rfl)
theorem dX14_init_18 : decode cX14_init 18 = .ok (.dup, 1) := dk_89 (dk_at dksX14_init_0 18 rfl rfl)
theorem dX14_init_19 : decode cX14_init 19 = .ok (.iconst 2, 1) := dk_5 (dk_at dksX14_init_0 19 rfl rfl)
theorem dX14_init_20 : decode cX14_init 20 = .ok (.bipush 9, 2) := dk_16 9 (dk_at dksX14_init_0 20 rfl rfl)
theorem dX14_init_22 : decode cX14_init 22 = .ok (.iastore, 1) := dk_79 (dk_at dksX14_init_0 22 rfl rfl)
theorem dX14_init_23 : decode cX14_init 23 = .ok (.dup, 1) := dk_89 (dk_at dksX14_init_0 23 rfl rfl)
theorem dX14_init_24 : decode cX14_init 24 = .ok (.iconst 3, 1) := dk_6 (dk_at dksX14_init_1 0 rfl rfl)
theorem dX14_init_25 : decode cX14_init 25 = .ok (.bipush 99, 2) := dk_16 99 (dk_at dksX14_init_1 1 rfl rfl)
theorem dX14_init_27 : decode cX14_init 27 = .ok (.iastore, 1) := dk_79 (dk_at dksX14_init_1 3 rfl rfl)
theorem dX14_init_28 : decode cX14_init 28 = .ok (.putfield 9, 3) := dk_181 0 9 (dk_at dksX14_init_1 4 rfl rfl)
theorem dX14_init_31 : decode cX14_init 31 = .ok (.aload_n 0, 1) := dk_42 (dk_at dksX14_init_1 7 rfl rfl)
theorem dX14_init_32 : decode cX14_init 32 = .ok (.iconst 4, 1) := dk_7 (dk_at dksX14_init_1 8 rfl rfl)
theorem dX14_init_33 : decode cX14_init 33 = .ok (.newarray .int, 2) := dk_188_10 (dk_at dksX14_init_1 9 rfl rfl)
theorem dX14_init_35 : decode cX14_init 35 = .ok (.dup, 1) := dk_89 (dk_at dksX14_init_1 11 rfl rfl)
theorem dX14_init_36 : decode cX14_init 36 = .ok (.iconst 0, 1) := dk_3 (dk_at dksX14_init_1 12 rfl rfl)
theorem dX14_init_37 : decode cX14_init 37 = .ok (.iconst 3, 1) := dk_6 (dk_at dksX14_init_1 13 rfl rfl)
theorem dX14_init_38 : decode cX14_init 38 = .ok (.iastore, 1) := dk_79 (dk_at dksX14_init_1 14 rfl rfl)
theorem dX14_init_39 : decode cX14_init 39 = .ok (.dup, 1) := dk_89 (dk_at dksX14_init_1 15 rfl rfl)
theorem dX14_init_40 : decode cX14_init 40 = .ok (.iconst 1, 1) := dk_4 (dk_at dksX14_init_1 16 rfl rfl)
theorem dX14_init_41 : decode cX14_init 41 = .ok (.iconst 2, 1) := dk_5 (dk_at dksX14_init_1 17 rfl rfl)
theorem dX14_init_42 : decode cX14_init 42 = .ok (.iastore, 1) := dk_79 (dk_at dksX14_init_1 18 rfl rfl)
theorem dX14_init_43 : decode cX14_init 43 = .ok (.dup, 1) := dk_89 (dk_at dksX14_init_1 19 rfl rfl)
theorem dX14_init_44 : decode cX14_init 44 = .ok (.iconst 2, 1) := dk_5 (dk_at dksX14_init_1 20 rfl rfl)
theorem dX14_init_45 : decode cX14_init 45 = .ok (.iconst 4, 1) := dk_7 (dk_at dksX14_init_1 21 rfl rfl)
theorem dX14_init_46 : decode cX14_init 46 = .ok (.iastore, 1) := dk_79 (dk_at dksX14_init_1 22 rfl rfl)
theorem dX14_init_47 : decode cX14_init 47 = .ok (.dup, 1) := dk_89 (dk_at dksX14_init_1 23 rfl rfl)
theorem dX14_init_48 : decode cX14_init 48 = .ok (.iconst 3, 1) := dk_6 (dk_at dksX14_init_2 0 rfl rfl)
theorem dX14_init_49 : decode cX14_init 49 = .ok (.bipush 20, 2) := dk_16 20 (dk_at dksX14_init_2 1 rfl rfl)
theorem dX14_init_51 : decode cX14_init 51 = .ok (.iastore, 1) := dk_79 (dk_at dksX14_init_2 3 rfl rfl)
theorem dX14_init_52 : decode cX14_init 52 = .ok (.putfield 13, 3) := dk_181 0 13 (dk_at dksX14_init_2 4 rfl rfl)
theorem dX14_init_55 : decode cX14_init 55 = .ok (.aload_n 0, 1) := dk_42 (dk_at dksX14_init_2 7 rfl rfl)
theorem dX14_init_56 : decode cX14_init 56 = .ok (.bipush 69, 2) := dk_16 69 (dk_at dksX14_init_2 8 rfl rfl)
theorem dX14_init_58 : decode cX14_init 58 = .ok (.newarray .int, 2) := dk_188_10 (dk_at dksX14_init_2 10 rfl rfl)
theorem dX14_init_60 : decode cX14_init 60 = .ok (.putfield 16, 3) := dk_181 0 16 (dk_at dksX14_init_2 12 rfl rfl)
theorem dX14_init_63 : decode cX14_init 63 = .ok (.aload_n 0, 1) := dk_42 (dk_at dksX14_init_2 15 rfl rfl)
theorem dX14_init_64 : decode cX14_init 64 = .ok (.bipush 69, 2) := dk_16 69 (dk_at dksX14_init_2 16 rfl rfl)
theorem dX14_init_66 : decode cX14_init 66 = .ok (.newarray .int, 2) := dk_188_10 (dk_at dksX14_init_2 18 rfl rfl)
theorem dX14_init_68 : decode cX14_init 68 = .ok (.putfield 19, 3) := dk_181 0 19 (dk_at dksX14_init_2 20 rfl rfl)
theorem dX14_init_71 : decode cX14_init 71 = .ok (.aload_n 0, 1) := dk_42 (dk_at dksX14_init_2 23 rfl rfl)
theorem dX14_init_72 : decode cX14_init 72 = .ok (.bipush 69, 2) := dk_16 69 (dk_at dksX14_init_3 0 rfl rfl)
theorem dX14_init_74 : decode cX14_init 74 = .ok (.newarray .int, 2) := dk_188_10 (dk_at dksX14_init_3 2 rfl rfl)
theorem dX14_init_76 : decode cX14_init 76 = .ok (.putfield 22, 3) := dk_181 0 22 (dk_at dksX14_init_3 4 rfl rfl)
theorem dX14_init_79 : decode cX14_init 79 = .ok (.aload_n 0, 1) := dk_42 (dk_at dksX14_init_3 7 rfl rfl)
theorem dX14_init_80 : decode cX14_init 80 = .ok (.sipush 200, 3) := dk_17 0 200 (dk_at dksX14_init_3 8 rfl rfl)
theorem dX14_init_83 : decode cX14_init 83 = .ok (.newarray .int, 2) := dk_188_10 (dk_at dksX14_init_3 11 rfl rfl)
theorem dX14_init_85 : decode cX14_init 85 = .ok (.putfield 25, 3) := dk_181 0 25 (dk_at dksX14_init_3 13 rfl rfl)
theorem dX14_init_88 : decode cX14_init 88 = .ok (.aload_n 0, 1) := dk_42 (dk_at dksX14_init_3 16 rfl rfl)
theorem dX14_init_89 : decode cX14_init 89 = .ok (.bipush 30, 2) := dk_16 30 (dk_at dksX14_init_3 17 rfl rfl)
theorem dX14_init_91 : decode cX14_init 91 = .ok (.newarray .int, 2) := dk_188_10 (dk_at dksX14_init_3 19 rfl rfl)
theorem dX14_init_93 : decode cX14_init 93 = .ok (.putfield 28, 3) := dk_181 0 28 (dk_at dksX14_init_3 21 rfl rfl)
theorem dX14_init_96 : decode cX14_init 96 = .ok (.aload_n 0, 1) := dk_42 (dk_at dksX14_init_4 0 rfl rfl)
theorem dX14_init_97 : decode cX14_init 97 = .ok (.iconst 4, 1) := dk_7 (dk_at dksX14_init_4 1 rfl rfl)
theorem dX14_init_98 : decode cX14_init 98 = .ok (.newarray .int, 2) := dk_188_10 (dk_at dksX14_init_4 2 rfl rfl)
theorem dX14_init_100 : decode cX14_init 100 = .ok (.dup, 1) := dk_89 (dk_at dksX14_init_4 4 rfl rfl)
theorem dX14_init_101 : decode cX14_init 101 = .ok (.iconst 0, 1) := dk_3 (dk_at dksX14_init_4 5 rfl rfl)
theorem dX14_init_102 : decode cX14_init 102 = .ok (.iconst (-1), 1) := dk_2 (dk_at dksX14_init_4 6 rfl rfl)
theorem dX14_init_103 : decode cX14_init 103 = .ok (.iastore, 1) := dk_79 (dk_at dksX14_init_4 7 rfl rfl)
theorem dX14_init_104 : decode cX14_init 104 = .ok (.dup, 1) := dk_89 (dk_at dksX14_init_4 8 rfl rfl)
theorem dX14_init_105 : decode cX14_init 105 = .ok (.iconst 1, 1) := dk_4 (dk_at dksX14_init_4 9 rfl rfl)
theorem dX14_init_106 : decode cX14_init 106 = .ok (.iconst (-1), 1) := dk_2 (dk_at dksX14_init_4 10 rfl rfl)
theorem dX14_init_107 : decode cX14_init 107 = .ok (.iastore, 1) := dk_79 (dk_at dksX14_init_4 11 rfl rfl)
theorem dX14_init_108 : decode cX14_init 108 = .ok (.dup, 1) := dk_89 (dk_at dksX14_init_4 12 rfl rfl)
theorem dX14_init_109 : decode cX14_init 109 = .ok (.iconst 2, 1) := dk_5 (dk_at dksX14_init_4 13 rfl rfl)
theorem dX14_init_110 : decode cX14_init 110 = .ok (.iconst (-1), 1) := dk_2 (dk_at dksX14_init_4 14 rfl rfl)
theorem dX14_init_111 : decode cX14_init 111 = .ok (.iastore, 1) := dk_79 (dk_at dksX14_init_4 15 rfl rfl)
theorem dX14_init_112 : decode cX14_init 112 = .ok (.dup, 1) := dk_89 (dk_at dksX14_init_4 16 rfl rfl)
theorem dX14_init_113 : decode cX14_init 113 = .ok (.iconst 3, 1) := dk_6 (dk_at dksX14_init_4 17 rfl rfl)
theorem dX14_init_114 : decode cX14_init 114 = .ok (.iconst (-1), 1) := dk_2 (dk_at dksX14_init_4 18 rfl rfl)
theorem dX14_init_115 : decode cX14_init 115 = .ok (.iastore, 1) := dk_79 (dk_at dksX14_init_4 19 rfl rfl)
theorem dX14_init_116 : decode cX14_init 116 = .ok (.putfield 31, 3) := dk_181 0 31 (dk_at dksX14_init_4 20 rfl rfl)
theorem dX14_init_119 : decode cX14_init 119 = .ok (.aload_n 0, 1) := dk_42 (dk_at dksX14_init_4 23 rfl rfl)
theorem dX14_init_120 : decode cX14_init 120 = .ok (.iconst 4, 1) := dk_7 (dk_at dksX14_init_5 0 rfl rfl)
theorem dX14_init_121 : decode cX14_init 121 = .ok (.newarray .int, 2) := dk_188_10 (dk_at dksX14_init_5 1 rfl rfl)
theorem dX14_init_123 : decode cX14_init 123 = .ok (.putfield 34, 3) := dk_181 0 34 (dk_at dksX14_init_5 3 rfl rfl)
theorem dX14_init_126 : decode cX14_init 126 = .ok (.aload_n 0, 1) := dk_42 (dk_at dksX14_init_5 6 rfl rfl)
theorem dX14_init_127 : decode cX14_init 127 = .ok (.sipush 160, 3) := dk_17 0 160 (dk_at dksX14_init_5 7 rfl rfl)
theorem dX14_init_130 : decode cX14_init 130 = .ok (.newarray .int, 2) := dk_188_10 (dk_at dksX14_init_5 10 rfl rfl)
theorem dX14_init_132 : decode cX14_init 132 = .ok (.putfield 37, 3) := dk_181 0 37 (dk_at dksX14_init_5 12 rfl rfl)
theorem dX14_init_135 : decode cX14_init 135 = .ok (.aload_n 0, 1) := dk_42 (dk_at dksX14_init_5 15 rfl rfl)
theorem dX14_init_136 : decode cX14_init 136 = .ok (.iconst 4, 1) := dk_7 (dk_at dksX14_init_5 16 rfl rfl)
theorem dX14_init_137 : decode cX14_init 137 = .ok (.newarray .int, 2) := dk_188_10 (dk_at dksX14_init_5 17 rfl rfl)
theorem dX14_init_139 : decode cX14_init 139 = .ok (.dup, 1) := dk_89 (dk_at dksX14_init_5 19 rfl rfl)
theorem dX14_init_140 : decode cX14_init 140 = .ok (.iconst 0, 1) := dk_3 (dk_at dksX14_init_5 20 rfl rfl)
theorem dX14_init_141 : decode cX14_init 141 = .ok (.iconst 2, 1) := dk_5 (dk_at dksX14_init_5 21 rfl rfl)
theorem dX14_init_142 : decode cX14_init 142 = .ok (.iastore, 1) := dk_79 (dk_at dksX14_init_5 22 rfl rfl)
theorem dX14_init_143 : decode cX14_init 143 = .ok (.dup, 1) := dk_89 (dk_at dksX14_init_5 23 rfl rfl)
theorem dX14_init_144 : decode cX14_init 144 = .ok (.iconst 1, 1) := dk_4 (dk_at dksX14_init_6 0 rfl rfl)
theorem dX14_init_145 : decode cX14_init 145 = .ok (.iconst 2, 1) := dk_5 (dk_at dksX14_init_6 1 rfl rfl)
theorem dX14_init_146 : decode cX14_init 146 = .ok (.iastore, 1) := dk_79 (dk_at dksX14_init_6 2 rfl rfl)
theorem dX14_init_147 : decode cX14_init 147 = .ok (.dup, 1) := dk_89 (dk_at dksX14_init_6 3 rfl rfl)
theorem dX14_init_148 : decode cX14_init 148 = .ok (.iconst 2, 1) := dk_5 (dk_at dksX14_init_6 4 rfl rfl)
theorem dX14_init_149 : decode cX14_init 149 = .ok (.iconst 2, 1) := dk_5 (dk_at dksX14_init_6 5 rfl rfl)
theorem dX14_init_150 : decode cX14_init 150 = .ok (.iastore, 1) := dk_79 (dk_at dksX14_init_6 6 rfl rfl)
theorem dX14_init_151 : decode cX14_init 151 = .ok (.dup, 1) := dk_89 (dk_at dksX14_init_6 7 rfl rfl)
theorem dX14_init_152 : decode cX14_init 152 = .ok (.iconst 3, 1) := dk_6 (dk_at dksX14_init_6 8 rfl rfl)
theorem dX14_init_153 : decode cX14_init 153 = .ok (.iconst 2, 1) := dk_5 (dk_at dksX14_init_6 9 rfl rfl)
theorem dX14_init_154 : decode cX14_init 154 = .ok (.iastore, 1) := dk_79 (dk_at dksX14_init_6 10 rfl rfl)
theorem dX14_init_155 : decode cX14_init 155 = .ok (.putfield 40, 3) := dk_181 0 40 (dk_at dksX14_init_6 11 rfl rfl)
theorem dX14_init_158 : decode cX14_init 158 = .ok (.aload_n 0, 1) := dk_42 (dk_at dksX14_init_6 14 rfl rfl)
theorem dX14_init_159 : decode cX14_init 159 = .ok (.iconst 4, 1) := dk_7 (dk_at dksX14_init_6 15 rfl rfl)
theorem dX14_init_160 : decode cX14_init 160 = .ok (.newarray .int, 2) := dk_188_10 (dk_at dksX14_init_6 16 rfl rfl)
theorem dX14_init_162 : decode cX14_init 162 = .ok (.putfield 43, 3) := dk_181 0 43 (dk_at dksX14_init_6 18 rfl rfl)
theorem dX14_init_165 : decode cX14_init 165 = .ok (.aload_n 0, 1) := dk_42 (dk_at dksX14_init_6 21 rfl rfl)
theorem dX14_init_166 : decode cX14_init 166 = .ok (.iconst 4, 1) := dk_7 (dk_at dksX14_init_6 22 rfl rfl)
theorem dX14_init_167 : decode cX14_init 167 = .ok (.newarray .int, 2) := dk_188_10 (dk_at dksX14_init_7 0 rfl rfl)
theorem dX14_init_169 : decode cX14_init 169 = .ok (.putfield 46, 3) := dk_181 0 46 (dk_at dksX14_init_7 2 rfl rfl)
theorem dX14_init_172 : decode cX14_init 172 = .ok (.aload_n 0, 1) := dk_42 (dk_at dksX14_init_7 5 rfl rfl)
theorem dX14_init_173 : decode cX14_init 173 = .ok (.bipush 30, 2) := dk_16 30 (dk_at dksX14_init_7 6 rfl rfl)
theorem dX14_init_175 : decode cX14_init 175 = .ok (.newarray .int, 2) := dk_188_10 (dk_at dksX14_init_7 8 rfl rfl)
theorem dX14_init_177 : decode cX14_init 177 = .ok (.putfield 49, 3) := dk_181 0 49 (dk_at dksX14_init_7 10 rfl rfl)
theorem dX14_init_180 : decode cX14_init 180 = .ok (.aload_n 0, 1) := dk_42 (dk_at dksX14_init_7 13 rfl rfl)
theorem dX14_init_181 : decode cX14_init 181 = .ok (.invokevirtual 52, 3) := dk_182 0 52 (dk_at dksX14_init_7 14 rfl rfl)
theorem dX14_init_184 : decode cX14_init 184 = .ok (.aload_n 0, 1) := dk_42 (dk_at dksX14_init_7 17 rfl rfl)
theorem dX14_init_185 : decode cX14_init 185 = .ok (.getfield 16, 3) := dk_180 0 16 (dk_at dksX14_init_7 18 rfl rfl)
theorem dX14_init_188 : decode cX14_init 188 = .ok (.iconst 5, 1) := dk_8 (dk_at dksX14_init_7 21 rfl rfl)
theorem dX14_init_189 : decode cX14_init 189 = .ok (.iconst 1, 1) := dk_4 (dk_at dksX14_init_7 22 rfl rfl)
theorem dX14_init_190 : decode cX14_init 190 = .ok (.iastore, 1) := dk_79 (dk_at dksX14_init_7 23 rfl rfl)
theorem dX14_init_191 : decode cX14_init 191 = .ok (.return_, 1) := dk_177 (dk_at dksX14_init_8 0 rfl rfl)
abbrev cX14_anew : ByteArray := prog_28_method_2_code
def yX14_anew : MethodName := ⟨RX14, "anew", "()V"⟩
def dkwX14_anew_5 : List UInt8 := [27, 79, 177]
abbrev dktX14_anew_5 : List UInt8 := dkwX14_anew_5 ++ []
def dkwX14_anew_4 : List UInt8 := [162, 0, 19, 42, 180, 0, 16, 16, 23, 28, 96, 28, 79, 132, 2, 1, 167, 255, 237, 42, 180, 0, 16, 8]
abbrev dktX14_anew_4 : List UInt8 := dkwX14_anew_4 ++ dktX14_anew_5
def dkwX14_anew_3 : List UInt8 := [79, 42, 180, 0, 16, 16, 15, 28, 96, 8, 79, 132, 2, 1, 167, 255, 227, 3, 61, 28, 16, 6]
abbrev dktX14_anew_3 : List UInt8 := dkwX14_anew_3 ++ dktX14_anew_4
def dkwX14_anew_2 : List UInt8 := [79, 132, 2, 1, 167, 255, 236, 3, 61, 28, 16, 8, 162, 0, 29, 42, 180, 0, 16, 16, 7, 28, 96, 28]
abbrev dktX14_anew_2 : List UInt8 := dkwX14_anew_2 ++ dktX14_anew_3
def dkwX14_anew_1 : List UInt8 := [132, 2, 1, 167, 255, 240, 3, 61, 28, 7, 162, 0, 21, 42, 180, 0, 16, 28, 42, 180, 0, 13, 28, 46]
abbrev dktX14_anew_1 : List UInt8 := dkwX14_anew_1 ++ dktX14_anew_2
def dkwX14_anew_0 : List UInt8 := [42, 180, 0, 16, 8, 46, 60, 3, 61, 28, 16, 69, 162, 0, 16, 42, 180, 0, 16, 28, 3, 79]
abbrev dktX14_anew_0 : List UInt8 := dkwX14_anew_0 ++ dktX14_anew_1
theorem dksX14_anew_0 : cX14_anew.data.toList.drop 0 = dktX14_anew_0 := by decide +kernel
theorem dksX14_anew_1 : cX14_anew.data.toList.drop 22 = dktX14_anew_1 := dk_seg dksX14_anew_0 22 rfl rfl
theorem dksX14_anew_2 : cX14_anew.data.toList.drop 46 = dktX14_anew_2 := dk_seg dksX14_anew_1 24 rfl rfl
theorem dksX14_anew_3 : cX14_anew.data.toList.drop 70 = dktX14_anew_3 := dk_seg dksX14_anew_2 24 rfl rfl
theorem dksX14_anew_4 : cX14_anew.data.toList.drop 92 = dktX14_anew_4 := dk_seg dksX14_anew_3 22 rfl rfl
theorem dksX14_anew_5 : cX14_anew.data.toList.drop 116 = dktX14_anew_5 := dk_seg dksX14_anew_4 24 rfl rfl
theorem dX14_anew_0 : decode cX14_anew 0 = .ok (.aload_n 0, 1) := dk_42 (dk_at dksX14_anew_0 0 rfl rfl)
theorem dX14_anew_1 : decode cX14_anew 1 = .ok (.getfield 16, 3) := dk_180 0 16 (dk_at dksX14_anew_0 1 rfl rfl)
theorem dX14_anew_4 : decode cX14_anew 4 = .ok (.iconst 5, 1) := dk_8 (dk_at dksX14_anew_0 4 rfl rfl)
theorem dX14_anew_5 : decode cX14_anew 5 = .ok (.iaload, 1) := dk_46 (dk_at dksX14_anew_0 5 rfl rfl)
theorem dX14_anew_6 : decode cX14_anew 6 = .ok (.istore_n 1, 1) := dk_60 (dk_at dksX14_anew_0 6 rfl rfl)
theorem dX14_anew_7 : decode cX14_anew 7 = .ok (.iconst 0, 1) := dk_3 (dk_at dksX14_anew_0 7 rfl rfl)
theorem dX14_anew_8 : decode cX14_anew 8 = .ok (.istore_n 2, 1) := dk_61 (dk_at dksX14_anew_0 8 rfl rfl)
theorem dX14_anew_9 : decode cX14_anew 9 = .ok (.iload_n 2, 1) := dk_28 (dk_at dksX14_anew_0 9 rfl rfl)
theorem dX14_anew_10 : decode cX14_anew 10 = .ok (.bipush 69, 2) := dk_16 69 (dk_at dksX14_anew_0 10 rfl rfl)
theorem dX14_anew_12 : decode cX14_anew 12 = .ok (.if_icmp .ge 16, 3) := dk_162 0 16 (dk_at dksX14_anew_0 12 rfl rfl)
theorem dX14_anew_15 : decode cX14_anew 15 = .ok (.aload_n 0, 1) := dk_42 (dk_at dksX14_anew_0 15 rfl rfl)
theorem dX14_anew_16 : decode cX14_anew 16 = .ok (.getfield 16, 3) := dk_180 0 16 (dk_at dksX14_anew_0 16 rfl rfl)
theorem dX14_anew_19 : decode cX14_anew 19 = .ok (.iload_n 2, 1) := dk_28 (dk_at dksX14_anew_0 19 rfl rfl)
theorem dX14_anew_20 : decode cX14_anew 20 = .ok (.iconst 0, 1) := dk_3 (dk_at dksX14_anew_0 20 rfl rfl)
theorem dX14_anew_21 : decode cX14_anew 21 = .ok (.iastore, 1) := dk_79 (dk_at dksX14_anew_0 21 rfl rfl)
theorem dX14_anew_22 : decode cX14_anew 22 = .ok (.iinc 2 1, 3) := dk_132 2 1 (dk_at dksX14_anew_1 0 rfl rfl)
theorem dX14_anew_25 : decode cX14_anew 25 = .ok (.goto (-16), 3) := dk_167 255 240 (dk_at dksX14_anew_1 3 rfl rfl)
theorem dX14_anew_28 : decode cX14_anew 28 = .ok (.iconst 0, 1) := dk_3 (dk_at dksX14_anew_1 6 rfl rfl)
theorem dX14_anew_29 : decode cX14_anew 29 = .ok (.istore_n 2, 1) := dk_61 (dk_at dksX14_anew_1 7 rfl rfl)
theorem dX14_anew_30 : decode cX14_anew 30 = .ok (.iload_n 2, 1) := dk_28 (dk_at dksX14_anew_1 8 rfl rfl)
theorem dX14_anew_31 : decode cX14_anew 31 = .ok (.iconst 4, 1) := dk_7 (dk_at dksX14_anew_1 9 rfl rfl)
theorem dX14_anew_32 : decode cX14_anew 32 = .ok (.if_icmp .ge 21, 3) := dk_162 0 21 (dk_at dksX14_anew_1 10 rfl rfl)
theorem dX14_anew_35 : decode cX14_anew 35 = .ok (.aload_n 0, 1) := dk_42 (dk_at dksX14_anew_1 13 rfl rfl)
theorem dX14_anew_36 : decode cX14_anew 36 = .ok (.getfield 16, 3) := dk_180 0 16 (dk_at dksX14_anew_1 14 rfl rfl)
theorem dX14_anew_39 : decode cX14_anew 39 = .ok (.iload_n 2, 1) := dk_28 (dk_at dksX14_anew_1 17 rfl rfl)
theorem dX14_anew_40 : decode cX14_anew 40 = .ok (.aload_n 0, 1) := dk_42 (dk_at dksX14_anew_1 18 rfl rfl)
theorem dX14_anew_41 : decode cX14_anew 41 = .ok (.getfield 13, 3) := dk_180 0 13 (dk_at dksX14_anew_1 19 rfl rfl)
theorem dX14_anew_44 : decode cX14_anew 44 = .ok (.iload_n 2, 1) := dk_28 (dk_at dksX14_anew_1 22 rfl rfl)
theorem dX14_anew_45 : decode cX14_anew 45 = .ok (.iaload, 1) := dk_46 (dk_at dksX14_anew_1 23 rfl rfl)
theorem dX14_anew_46 : decode cX14_anew 46 = .ok (.iastore, 1) := dk_79 (dk_at dksX14_anew_2 0 rfl rfl)
theorem dX14_anew_47 : decode cX14_anew 47 = .ok (.iinc 2 1, 3) := dk_132 2 1 (dk_at dksX14_anew_2 1 rfl rfl)
theorem dX14_anew_50 : decode cX14_anew 50 = .ok (.goto (-20), 3) := dk_167 255 236 (dk_at dksX14_anew_2 4 rfl rfl)
theorem dX14_anew_53 : decode cX14_anew 53 = .ok (.iconst 0, 1) := dk_3 (dk_at dksX14_anew_2 7 rfl rfl)
theorem dX14_anew_54 : decode cX14_anew 54 = .ok (.istore_n 2, 1) := dk_61 (dk_at dksX14_anew_2 8 rfl rfl)
theorem dX14_anew_55 : decode cX14_anew 55 = .ok (.iload_n 2, 1) := dk_28 (dk_at dksX14_anew_2 9 rfl rfl)
theorem dX14_anew_56 : decode cX14_anew 56 = .ok (.bipush 8, 2) := dk_16 8 (dk_at dksX14_anew_2 10 rfl rfl)
theorem dX14_anew_58 : decode cX14_anew 58 = .ok (.if_icmp .ge 29, 3) := dk_162 0 29 (dk_at dksX14_anew_2 12 rfl rfl)
theorem dX14_anew_61 : decode cX14_anew 61 = .ok (.aload_n 0, 1) := dk_42 (dk_at dksX14_anew_2 15 rfl rfl)
theorem dX14_anew_62 : decode cX14_anew 62 = .ok (.getfield 16, 3) := dk_180 0 16 (dk_at dksX14_anew_2 16 rfl rfl)
theorem dX14_anew_65 : decode cX14_anew 65 = .ok (.bipush 7, 2) := dk_16 7 (dk_at dksX14_anew_2 19 rfl rfl)
theorem dX14_anew_67 : decode cX14_anew 67 = .ok (.iload_n 2, 1) := dk_28 (dk_at dksX14_anew_2 21 rfl rfl)
theorem dX14_anew_68 : decode cX14_anew 68 = .ok (.iadd, 1) := dk_96 (dk_at dksX14_anew_2 22 rfl rfl)
theorem dX14_anew_69 : decode cX14_anew 69 = .ok (.iload_n 2, 1) := dk_28 (dk_at dksX14_anew_2 23 rfl rfl)
theorem dX14_anew_70 : decode cX14_anew 70 = .ok (.iastore, 1) := dk_79 (dk_at dksX14_anew_3 0 rfl rfl)
theorem dX14_anew_71 : decode cX14_anew 71 = .ok (.aload_n 0, 1) := dk_42 (dk_at dksX14_anew_3 1 rfl rfl)
theorem dX14_anew_72 : decode cX14_anew 72 = .ok (.getfield 16, 3) := dk_180 0 16 (dk_at dksX14_anew_3 2 rfl rfl)
theorem dX14_anew_75 : decode cX14_anew 75 = .ok (.bipush 15, 2) := dk_16 15 (dk_at dksX14_anew_3 5 rfl rfl)
theorem dX14_anew_77 : decode cX14_anew 77 = .ok (.iload_n 2, 1) := dk_28 (dk_at dksX14_anew_3 7 rfl rfl)
theorem dX14_anew_78 : decode cX14_anew 78 = .ok (.iadd, 1) := dk_96 (dk_at dksX14_anew_3 8 rfl rfl)
theorem dX14_anew_79 : decode cX14_anew 79 = .ok (.iconst 5, 1) := dk_8 (dk_at dksX14_anew_3 9 rfl rfl)
theorem dX14_anew_80 : decode cX14_anew 80 = .ok (.iastore, 1) := dk_79 (dk_at dksX14_anew_3 10 rfl rfl)
theorem dX14_anew_81 : decode cX14_anew 81 = .ok (.iinc 2 1, 3) := dk_132 2 1 (dk_at dksX14_anew_3 11 rfl rfl)
theorem dX14_anew_84 : decode cX14_anew 84 = .ok (.goto (-29), 3) := dk_167 255 227 (dk_at dksX14_anew_3 14 rfl rfl)
theorem dX14_anew_87 : decode cX14_anew 87 = .ok (.iconst 0, 1) := dk_3 (dk_at dksX14_anew_3 17 rfl rfl)
theorem dX14_anew_88 : decode cX14_anew 88 = .ok (.istore_n 2, 1) := dk_61 (dk_at dksX14_anew_3 18 rfl rfl)
theorem dX14_anew_89 : decode cX14_anew 89 = .ok (.iload_n 2, 1) := dk_28 (dk_at dksX14_anew_3 19 rfl rfl)
theorem dX14_anew_90 : decode cX14_anew 90 = .ok (.bipush 6, 2) := dk_16 6 (dk_at dksX14_anew_3 20 rfl rfl)
theorem dX14_anew_92 : decode cX14_anew 92 = .ok (.if_icmp .ge 19, 3) := dk_162 0 19 (dk_at dksX14_anew_4 0 rfl rfl)
theorem dX14_anew_95 : decode cX14_anew 95 = .ok (.aload_n 0, 1) := dk_42 (dk_at dksX14_anew_4 3 rfl rfl)
theorem dX14_anew_96 : decode cX14_anew 96 = .ok (.getfield 16, 3) := dk_180 0 16 (dk_at dksX14_anew_4 4 rfl rfl)
theorem dX14_anew_99 : decode cX14_anew 99 = .ok (.bipush 23, 2) := dk_16 23 (dk_at dksX14_anew_4 7 rfl rfl)
theorem dX14_anew_101 : decode cX14_anew 101 = .ok (.iload_n 2, 1) := dk_28 (dk_at dksX14_anew_4 9 rfl rfl)
theorem dX14_anew_102 : decode cX14_anew 102 = .ok (.iadd, 1) := dk_96 (dk_at dksX14_anew_4 10 rfl rfl)
theorem dX14_anew_103 : decode cX14_anew 103 = .ok (.iload_n 2, 1) := dk_28 (dk_at dksX14_anew_4 11 rfl rfl)
theorem dX14_anew_104 : decode cX14_anew 104 = .ok (.iastore, 1) := dk_79 (dk_at dksX14_anew_4 12 rfl rfl)
theorem dX14_anew_105 : decode cX14_anew 105 = .ok (.iinc 2 1, 3) := dk_132 2 1 (dk_at dksX14_anew_4 13 rfl rfl)
theorem dX14_anew_108 : decode cX14_anew 108 = .ok (.goto (-19), 3) := dk_167 255 237 (dk_at dksX14_anew_4 16 rfl rfl)
theorem dX14_anew_111 : decode cX14_anew 111 = .ok (.aload_n 0, 1) := dk_42 (dk_at dksX14_anew_4 19 rfl rfl)
theorem dX14_anew_112 : decode cX14_anew 112 = .ok (.getfield 16, 3) := dk_180 0 16 (dk_at dksX14_anew_4 20 rfl rfl)
theorem dX14_anew_115 : decode cX14_anew 115 = .ok (.iconst 5, 1) := dk_8 (dk_at dksX14_anew_4 23 rfl rfl)
theorem dX14_anew_116 : decode cX14_anew 116 = .ok (.iload_n 1, 1) := dk_27 (dk_at dksX14_anew_5 0 rfl rfl)
theorem dX14_anew_117 : decode cX14_anew 117 = .ok (.iastore, 1) := dk_79 (dk_at dksX14_anew_5 1 rfl rfl)
theorem dX14_anew_118 : decode cX14_anew 118 = .ok (.return_, 1) := dk_177 (dk_at dksX14_anew_5 2 rfl rfl)
abbrev cX14_set : ByteArray := prog_28_method_14_code
def yX14_set : MethodName := ⟨RX14, "set", "(II)I"⟩
def dkwX14_set_1 : List UInt8 := [184, 0, 59, 153, 0, 12, 42, 27, 28, 182, 0, 71, 167, 0, 4, 2, 172]
abbrev dktX14_set_1 : List UInt8 := dkwX14_set_1 ++ []
def dkwX14_set_0 : List UInt8 := [27, 133, 9, 20, 0, 69, 184, 0, 59, 154, 0, 5, 2, 172, 28, 133, 9, 42, 180, 0, 9, 27, 46, 133]
abbrev dktX14_set_0 : List UInt8 := dkwX14_set_0 ++ dktX14_set_1
theorem dksX14_set_0 : cX14_set.data.toList.drop 0 = dktX14_set_0 := by decide +kernel
theorem dksX14_set_1 : cX14_set.data.toList.drop 24 = dktX14_set_1 := dk_seg dksX14_set_0 24 rfl rfl
theorem dX14_set_0 : decode cX14_set 0 = .ok (.iload_n 1, 1) := dk_27 (dk_at dksX14_set_0 0 rfl rfl)
theorem dX14_set_1 : decode cX14_set 1 = .ok (.i2l, 1) := dk_133 (dk_at dksX14_set_0 1 rfl rfl)
theorem dX14_set_2 : decode cX14_set 2 = .ok (.lconst 0, 1) := dk_9 (dk_at dksX14_set_0 2 rfl rfl)
theorem dX14_set_3 : decode cX14_set 3 = .ok (.ldc2_w 69, 3) := dk_20 0 69 (dk_at dksX14_set_0 3 rfl rfl)
theorem dX14_set_6 : decode cX14_set 6 = .ok (.invokestatic 59, 3) := dk_184 0 59 (dk_at dksX14_set_0 6 rfl rfl)
theorem dX14_set_9 : decode cX14_set 9 = .ok (.ifCond .ne 5, 3) := dk_154 0 5 (dk_at dksX14_set_0 9 rfl rfl)
theorem dX14_set_12 : decode cX14_set 12 = .ok (.iconst (-1), 1) := dk_2 (dk_at dksX14_set_0 12 rfl rfl)
theorem dX14_set_13 : decode cX14_set 13 = .ok (.ireturn, 1) := dk_172 (dk_at dksX14_set_0 13 rfl rfl)
theorem dX14_set_14 : decode cX14_set 14 = .ok (.iload_n 2, 1) := dk_28 (dk_at dksX14_set_0 14 rfl rfl)
theorem dX14_set_15 : decode cX14_set 15 = .ok (.i2l, 1) := dk_133 (dk_at dksX14_set_0 15 rfl rfl)
theorem dX14_set_16 : decode cX14_set 16 = .ok (.lconst 0, 1) := dk_9 (dk_at dksX14_set_0 16 rfl rfl)
theorem dX14_set_17 : decode cX14_set 17 = .ok (.aload_n 0, 1) := dk_42 (dk_at dksX14_set_0 17 rfl rfl)
theorem dX14_set_18 : decode cX14_set 18 = .ok (.getfield 9, 3) := dk_180 0 9 (dk_at dksX14_set_0 18 rfl rfl)
theorem dX14_set_21 : decode cX14_set 21 = .ok (.iload_n 1, 1) := dk_27 (dk_at dksX14_set_0 21 rfl rfl)
theorem dX14_set_22 : decode cX14_set 22 = .ok (.iaload, 1) := dk_46 (dk_at dksX14_set_0 22 rfl rfl)
theorem dX14_set_23 : decode cX14_set 23 = .ok (.i2l, 1) := dk_133 (dk_at dksX14_set_0 23 rfl rfl)
theorem dX14_set_24 : decode cX14_set 24 = .ok (.invokestatic 59, 3) := dk_184 0 59 (dk_at dksX14_set_1 0 rfl rfl)
theorem dX14_set_27 : decode cX14_set 27 = .ok (.ifCond .eq 12, 3) := dk_153 0 12 (dk_at dksX14_set_1 3 rfl rfl)
theorem dX14_set_30 : decode cX14_set 30 = .ok (.aload_n 0, 1) := dk_42 (dk_at dksX14_set_1 6 rfl rfl)
theorem dX14_set_31 : decode cX14_set 31 = .ok (.iload_n 1, 1) := dk_27 (dk_at dksX14_set_1 7 rfl rfl)
theorem dX14_set_32 : decode cX14_set 32 = .ok (.iload_n 2, 1) := dk_28 (dk_at dksX14_set_1 8 rfl rfl)
theorem dX14_set_33 : decode cX14_set 33 = .ok (.invokevirtual 71, 3) := dk_182 0 71 (dk_at dksX14_set_1 9 rfl rfl)
theorem dX14_set_36 : decode cX14_set 36 = .ok (.goto 4, 3) := dk_167 0 4 (dk_at dksX14_set_1 12 rfl rfl)
theorem dX14_set_39 : decode cX14_set 39 = .ok (.iconst (-1), 1) := dk_2 (dk_at dksX14_set_1 15 rfl rfl)
theorem dX14_set_40 : decode cX14_set 40 = .ok (.ireturn, 1) := dk_172 (dk_at dksX14_set_1 16 rfl rfl)
abbrev cX14_in : ByteArray := prog_28_method_3_code
def yX14_in : MethodName := ⟨RX14, "in", "(JJJ)Z"⟩
def dkwX14_in_0 : List UInt8 := [30, 32, 148, 155, 0, 14, 30, 22, 4, 148, 157, 0, 7, 4, 167, 0, 4, 3, 172]
abbrev dktX14_in_0 : List UInt8 := dkwX14_in_0 ++ []
theorem dksX14_in_0 : cX14_in.data.toList.drop 0 = dktX14_in_0 := by decide +kernel
theorem dX14_in_0 : decode cX14_in 0 = .ok (.lload_n 0, 1) := dk_30 (dk_at dksX14_in_0 0 rfl rfl)
theorem dX14_in_1 : decode cX14_in 1 = .ok (.lload_n 2, 1) := dk_32 (dk_at dksX14_in_0 1 rfl rfl)
theorem dX14_in_2 : decode cX14_in 2 = .ok (.lcmp, 1) := dk_148 (dk_at dksX14_in_0 2 rfl rfl)
theorem dX14_in_3 : decode cX14_in 3 = .ok (.ifCond .lt 14, 3) := dk_155 0 14 (dk_at dksX14_in_0 3 rfl rfl)
theorem dX14_in_6 : decode cX14_in 6 = .ok (.lload_n 0, 1) := dk_30 (dk_at dksX14_in_0 6 rfl rfl)
theorem dX14_in_7 : decode cX14_in 7 = .ok (.lload 4, 2) := dk_22 4 (dk_at dksX14_in_0 7 rfl rfl)
theorem dX14_in_9 : decode cX14_in 9 = .ok (.lcmp, 1) := dk_148 (dk_at dksX14_in_0 9 rfl rfl)
theorem dX14_in_10 : decode cX14_in 10 = .ok (.ifCond .gt 7, 3) := dk_157 0 7 (dk_at dksX14_in_0 10 rfl rfl)
theorem dX14_in_13 : decode cX14_in 13 = .ok (.iconst 1, 1) := dk_4 (dk_at dksX14_in_0 13 rfl rfl)
theorem dX14_in_14 : decode cX14_in 14 = .ok (.goto 4, 3) := dk_167 0 4 (dk_at dksX14_in_0 14 rfl rfl)
theorem dX14_in_17 : decode cX14_in 17 = .ok (.iconst 0, 1) := dk_3 (dk_at dksX14_in_0 17 rfl rfl)
theorem dX14_in_18 : decode cX14_in 18 = .ok (.ireturn, 1) := dk_172 (dk_at dksX14_in_0 18 rfl rfl)
abbrev cX14_becomes : ByteArray := prog_28_method_13_code
def yX14_becomes : MethodName := ⟨RX14, "becomes", "(II)I"⟩
def dkwX14_becomes_0 : List UInt8 := [42, 180, 0, 16, 27, 46, 62, 42, 180, 0, 16, 27, 28, 79, 29, 172]
abbrev dktX14_becomes_0 : List UInt8 := dkwX14_becomes_0 ++ []
theorem dksX14_becomes_0 : cX14_becomes.data.toList.drop 0 = dktX14_becomes_0 := by decide +kernel
theorem dX14_becomes_0 : decode cX14_becomes 0 = .ok (.aload_n 0, 1) := dk_42 (dk_at dksX14_becomes_0 0 rfl rfl)
theorem dX14_becomes_1 : decode cX14_becomes 1 = .ok (.getfield 16, 3) := dk_180 0 16 (dk_at dksX14_becomes_0 1 rfl rfl)
theorem dX14_becomes_4 : decode cX14_becomes 4 = .ok (.iload_n 1, 1) := dk_27 (dk_at dksX14_becomes_0 4 rfl rfl)
theorem dX14_becomes_5 : decode cX14_becomes 5 = .ok (.iaload, 1) := dk_46 (dk_at dksX14_becomes_0 5 rfl rfl)
theorem dX14_becomes_6 : decode cX14_becomes 6 = .ok (.istore_n 3, 1) := dk_62 (dk_at dksX14_becomes_0 6 rfl rfl)
theorem dX14_becomes_7 : decode cX14_becomes 7 = .ok (.aload_n 0, 1) := dk_42 (dk_at dksX14_becomes_0 7 rfl rfl)
theorem dX14_becomes_8 : decode cX14_becomes 8 = .ok (.getfield 16, 3) := dk_180 0 16 (dk_at dksX14_becomes_0 8 rfl rfl)
theorem dX14_becomes_11 : decode cX14_becomes 11 = .ok (.iload_n 1, 1) := dk_27 (dk_at dksX14_becomes_0 11 rfl rfl)
theorem dX14_becomes_12 : decode cX14_becomes 12 = .ok (.iload_n 2, 1) := dk_28 (dk_at dksX14_becomes_0 12 rfl rfl)
theorem dX14_becomes_13 : decode cX14_becomes 13 = .ok (.iastore, 1) := dk_79 (dk_at dksX14_becomes_0 13 rfl rfl)
theorem dX14_becomes_14 : decode cX14_becomes 14 = .ok (.iload_n 3, 1) := dk_29 (dk_at dksX14_becomes_0 14 rfl rfl)
theorem dX14_becomes_15 : decode cX14_becomes 15 = .ok (.ireturn, 1) := dk_172 (dk_at dksX14_becomes_0 15 rfl rfl)
abbrev cX14_lawOf : ByteArray := prog_28_method_15_code
def yX14_lawOf : MethodName := ⟨RX14, "lawOf", "(I)I"⟩
def dkwX14_lawOf_0 : List UInt8 := [27, 133, 9, 20, 0, 69, 184, 0, 59, 153, 0, 12, 42, 180, 0, 16, 27, 46, 167, 0, 4, 2, 172]
abbrev dktX14_lawOf_0 : List UInt8 := dkwX14_lawOf_0 ++ []
theorem dksX14_lawOf_0 : cX14_lawOf.data.toList.drop 0 = dktX14_lawOf_0 := by decide +kernel
theorem dX14_lawOf_0 : decode cX14_lawOf 0 = .ok (.iload_n 1, 1) := dk_27 (dk_at dksX14_lawOf_0 0 rfl rfl)
theorem dX14_lawOf_1 : decode cX14_lawOf 1 = .ok (.i2l, 1) := dk_133 (dk_at dksX14_lawOf_0 1 rfl rfl)
theorem dX14_lawOf_2 : decode cX14_lawOf 2 = .ok (.lconst 0, 1) := dk_9 (dk_at dksX14_lawOf_0 2 rfl rfl)
theorem dX14_lawOf_3 : decode cX14_lawOf 3 = .ok (.ldc2_w 69, 3) := dk_20 0 69 (dk_at dksX14_lawOf_0 3 rfl rfl)
theorem dX14_lawOf_6 : decode cX14_lawOf 6 = .ok (.invokestatic 59, 3) := dk_184 0 59 (dk_at dksX14_lawOf_0 6 rfl rfl)
theorem dX14_lawOf_9 : decode cX14_lawOf 9 = .ok (.ifCond .eq 12, 3) := dk_153 0 12 (dk_at dksX14_lawOf_0 9 rfl rfl)
theorem dX14_lawOf_12 : decode cX14_lawOf 12 = .ok (.aload_n 0, 1) := dk_42 (dk_at dksX14_lawOf_0 12 rfl rfl)
theorem dX14_lawOf_13 : decode cX14_lawOf 13 = .ok (.getfield 16, 3) := dk_180 0 16 (dk_at dksX14_lawOf_0 13 rfl rfl)
theorem dX14_lawOf_16 : decode cX14_lawOf 16 = .ok (.iload_n 1, 1) := dk_27 (dk_at dksX14_lawOf_0 16 rfl rfl)
theorem dX14_lawOf_17 : decode cX14_lawOf 17 = .ok (.iaload, 1) := dk_46 (dk_at dksX14_lawOf_0 17 rfl rfl)
theorem dX14_lawOf_18 : decode cX14_lawOf 18 = .ok (.goto 4, 3) := dk_167 0 4 (dk_at dksX14_lawOf_0 18 rfl rfl)
theorem dX14_lawOf_21 : decode cX14_lawOf 21 = .ok (.iconst (-1), 1) := dk_2 (dk_at dksX14_lawOf_0 21 rfl rfl)
theorem dX14_lawOf_22 : decode cX14_lawOf 22 = .ok (.ireturn, 1) := dk_172 (dk_at dksX14_lawOf_0 22 rfl rfl)
abbrev cX14_fill : ByteArray := prog_28_method_16_code
def yX14_fill : MethodName := ⟨RX14, "fill", "(III)I"⟩
def dkwX14_fill_2 : List UInt8 := [172]
abbrev dktX14_fill_2 : List UInt8 := dkwX14_fill_2 ++ []
def dkwX14_fill_1 : List UInt8 := [184, 0, 59, 153, 0, 20, 42, 16, 7, 16, 8, 28, 104, 96, 27, 96, 29, 182, 0, 71, 167, 0, 4, 2]
abbrev dktX14_fill_1 : List UInt8 := dkwX14_fill_1 ++ dktX14_fill_2
def dkwX14_fill_0 : List UInt8 := [27, 184, 0, 75, 153, 0, 42, 28, 133, 9, 10, 184, 0, 59, 153, 0, 32, 29, 133, 9, 20, 0, 65]
abbrev dktX14_fill_0 : List UInt8 := dkwX14_fill_0 ++ dktX14_fill_1
theorem dksX14_fill_0 : cX14_fill.data.toList.drop 0 = dktX14_fill_0 := by decide +kernel
theorem dksX14_fill_1 : cX14_fill.data.toList.drop 23 = dktX14_fill_1 := dk_seg dksX14_fill_0 23 rfl rfl
theorem dksX14_fill_2 : cX14_fill.data.toList.drop 47 = dktX14_fill_2 := dk_seg dksX14_fill_1 24 rfl rfl
theorem dX14_fill_0 : decode cX14_fill 0 = .ok (.iload_n 1, 1) := dk_27 (dk_at dksX14_fill_0 0 rfl rfl)
theorem dX14_fill_1 : decode cX14_fill 1 = .ok (.invokestatic 75, 3) := dk_184 0 75 (dk_at dksX14_fill_0 1 rfl rfl)
theorem dX14_fill_4 : decode cX14_fill 4 = .ok (.ifCond .eq 42, 3) := dk_153 0 42 (dk_at dksX14_fill_0 4 rfl rfl)
theorem dX14_fill_7 : decode cX14_fill 7 = .ok (.iload_n 2, 1) := dk_28 (dk_at dksX14_fill_0 7 rfl rfl)
theorem dX14_fill_8 : decode cX14_fill 8 = .ok (.i2l, 1) := dk_133 (dk_at dksX14_fill_0 8 rfl rfl)
theorem dX14_fill_9 : decode cX14_fill 9 = .ok (.lconst 0, 1) := dk_9 (dk_at dksX14_fill_0 9 rfl rfl)
theorem dX14_fill_10 : decode cX14_fill 10 = .ok (.lconst 1, 1) := dk_10 (dk_at dksX14_fill_0 10 rfl rfl)
theorem dX14_fill_11 : decode cX14_fill 11 = .ok (.invokestatic 59, 3) := dk_184 0 59 (dk_at dksX14_fill_0 11 rfl rfl)
theorem dX14_fill_14 : decode cX14_fill 14 = .ok (.ifCond .eq 32, 3) := dk_153 0 32 (dk_at dksX14_fill_0 14 rfl rfl)
theorem dX14_fill_17 : decode cX14_fill 17 = .ok (.iload_n 3, 1) := dk_29 (dk_at dksX14_fill_0 17 rfl rfl)
theorem dX14_fill_18 : decode cX14_fill 18 = .ok (.i2l, 1) := dk_133 (dk_at dksX14_fill_0 18 rfl rfl)
theorem dX14_fill_19 : decode cX14_fill 19 = .ok (.lconst 0, 1) := dk_9 (dk_at dksX14_fill_0 19 rfl rfl)
theorem dX14_fill_20 : decode cX14_fill 20 = .ok (.ldc2_w 65, 3) := dk_20 0 65 (dk_at dksX14_fill_0 20 rfl rfl)
theorem dX14_fill_23 : decode cX14_fill 23 = .ok (.invokestatic 59, 3) := dk_184 0 59 (dk_at dksX14_fill_1 0 rfl rfl)
theorem dX14_fill_26 : decode cX14_fill 26 = .ok (.ifCond .eq 20, 3) := dk_153 0 20 (dk_at dksX14_fill_1 3 rfl rfl)
theorem dX14_fill_29 : decode cX14_fill 29 = .ok (.aload_n 0, 1) := dk_42 (dk_at dksX14_fill_1 6 rfl rfl)
theorem dX14_fill_30 : decode cX14_fill 30 = .ok (.bipush 7, 2) := dk_16 7 (dk_at dksX14_fill_1 7 rfl rfl)
theorem dX14_fill_32 : decode cX14_fill 32 = .ok (.bipush 8, 2) := dk_16 8 (dk_at dksX14_fill_1 9 rfl rfl)
theorem dX14_fill_34 : decode cX14_fill 34 = .ok (.iload_n 2, 1) := dk_28 (dk_at dksX14_fill_1 11 rfl rfl)
theorem dX14_fill_35 : decode cX14_fill 35 = .ok (.imul, 1) := dk_104 (dk_at dksX14_fill_1 12 rfl rfl)
theorem dX14_fill_36 : decode cX14_fill 36 = .ok (.iadd, 1) := dk_96 (dk_at dksX14_fill_1 13 rfl rfl)
theorem dX14_fill_37 : decode cX14_fill 37 = .ok (.iload_n 1, 1) := dk_27 (dk_at dksX14_fill_1 14 rfl rfl)
theorem dX14_fill_38 : decode cX14_fill 38 = .ok (.iadd, 1) := dk_96 (dk_at dksX14_fill_1 15 rfl rfl)
theorem dX14_fill_39 : decode cX14_fill 39 = .ok (.iload_n 3, 1) := dk_29 (dk_at dksX14_fill_1 16 rfl rfl)
theorem dX14_fill_40 : decode cX14_fill 40 = .ok (.invokevirtual 71, 3) := dk_182 0 71 (dk_at dksX14_fill_1 17 rfl rfl)
theorem dX14_fill_43 : decode cX14_fill 43 = .ok (.goto 4, 3) := dk_167 0 4 (dk_at dksX14_fill_1 20 rfl rfl)
theorem dX14_fill_46 : decode cX14_fill 46 = .ok (.iconst (-1), 1) := dk_2 (dk_at dksX14_fill_1 23 rfl rfl)
theorem dX14_fill_47 : decode cX14_fill 47 = .ok (.ireturn, 1) := dk_172 (dk_at dksX14_fill_2 0 rfl rfl)
abbrev cX14_isVat : ByteArray := prog_28_method_8_code
def yX14_isVat : MethodName := ⟨RX14, "isVat", "(I)Z"⟩
def dkwX14_isVat_0 : List UInt8 := [26, 133, 9, 20, 0, 63, 184, 0, 59, 172]
abbrev dktX14_isVat_0 : List UInt8 := dkwX14_isVat_0 ++ []
theorem dksX14_isVat_0 : cX14_isVat.data.toList.drop 0 = dktX14_isVat_0 := by decide +kernel
theorem dX14_isVat_0 : decode cX14_isVat 0 = .ok (.iload_n 0, 1) := dk_26 (dk_at dksX14_isVat_0 0 rfl rfl)
theorem dX14_isVat_1 : decode cX14_isVat 1 = .ok (.i2l, 1) := dk_133 (dk_at dksX14_isVat_0 1 rfl rfl)
theorem dX14_isVat_2 : decode cX14_isVat 2 = .ok (.lconst 0, 1) := dk_9 (dk_at dksX14_isVat_0 2 rfl rfl)
theorem dX14_isVat_3 : decode cX14_isVat 3 = .ok (.ldc2_w 63, 3) := dk_20 0 63 (dk_at dksX14_isVat_0 3 rfl rfl)
theorem dX14_isVat_6 : decode cX14_isVat 6 = .ok (.invokestatic 59, 3) := dk_184 0 59 (dk_at dksX14_isVat_0 6 rfl rfl)
theorem dX14_isVat_9 : decode cX14_isVat 9 = .ok (.ireturn, 1) := dk_172 (dk_at dksX14_isVat_0 9 rfl rfl)
abbrev cX14_vatOf : ByteArray := prog_28_method_17_code
def yX14_vatOf : MethodName := ⟨RX14, "vatOf", "(II)I"⟩
def dkwX14_vatOf_1 : List UInt8 := [16, 8, 28, 104, 96, 27, 96, 46, 167, 0, 4, 2, 172]
abbrev dktX14_vatOf_1 : List UInt8 := dkwX14_vatOf_1 ++ []
def dkwX14_vatOf_0 : List UInt8 := [27, 184, 0, 75, 153, 0, 30, 28, 133, 9, 10, 184, 0, 59, 153, 0, 20, 42, 180, 0, 16, 16, 7]
abbrev dktX14_vatOf_0 : List UInt8 := dkwX14_vatOf_0 ++ dktX14_vatOf_1
theorem dksX14_vatOf_0 : cX14_vatOf.data.toList.drop 0 = dktX14_vatOf_0 := by decide +kernel
theorem dksX14_vatOf_1 : cX14_vatOf.data.toList.drop 23 = dktX14_vatOf_1 := dk_seg dksX14_vatOf_0 23 rfl rfl
theorem dX14_vatOf_0 : decode cX14_vatOf 0 = .ok (.iload_n 1, 1) := dk_27 (dk_at dksX14_vatOf_0 0 rfl rfl)
theorem dX14_vatOf_1 : decode cX14_vatOf 1 = .ok (.invokestatic 75, 3) := dk_184 0 75 (dk_at dksX14_vatOf_0 1 rfl rfl)
theorem dX14_vatOf_4 : decode cX14_vatOf 4 = .ok (.ifCond .eq 30, 3) := dk_153 0 30 (dk_at dksX14_vatOf_0 4 rfl rfl)
theorem dX14_vatOf_7 : decode cX14_vatOf 7 = .ok (.iload_n 2, 1) := dk_28 (dk_at dksX14_vatOf_0 7 rfl rfl)
theorem dX14_vatOf_8 : decode cX14_vatOf 8 = .ok (.i2l, 1) := dk_133 (dk_at dksX14_vatOf_0 8 rfl rfl)
theorem dX14_vatOf_9 : decode cX14_vatOf 9 = .ok (.lconst 0, 1) := dk_9 (dk_at dksX14_vatOf_0 9 rfl rfl)
theorem dX14_vatOf_10 : decode cX14_vatOf 10 = .ok (.lconst 1, 1) := dk_10 (dk_at dksX14_vatOf_0 10 rfl rfl)
theorem dX14_vatOf_11 : decode cX14_vatOf 11 = .ok (.invokestatic 59, 3) := dk_184 0 59 (dk_at dksX14_vatOf_0 11 rfl rfl)
theorem dX14_vatOf_14 : decode cX14_vatOf 14 = .ok (.ifCond .eq 20, 3) := dk_153 0 20 (dk_at dksX14_vatOf_0 14 rfl rfl)
theorem dX14_vatOf_17 : decode cX14_vatOf 17 = .ok (.aload_n 0, 1) := dk_42 (dk_at dksX14_vatOf_0 17 rfl rfl)
theorem dX14_vatOf_18 : decode cX14_vatOf 18 = .ok (.getfield 16, 3) := dk_180 0 16 (dk_at dksX14_vatOf_0 18 rfl rfl)
theorem dX14_vatOf_21 : decode cX14_vatOf 21 = .ok (.bipush 7, 2) := dk_16 7 (dk_at dksX14_vatOf_0 21 rfl rfl)
theorem dX14_vatOf_23 : decode cX14_vatOf 23 = .ok (.bipush 8, 2) := dk_16 8 (dk_at dksX14_vatOf_1 0 rfl rfl)
theorem dX14_vatOf_25 : decode cX14_vatOf 25 = .ok (.iload_n 2, 1) := dk_28 (dk_at dksX14_vatOf_1 2 rfl rfl)
theorem dX14_vatOf_26 : decode cX14_vatOf 26 = .ok (.imul, 1) := dk_104 (dk_at dksX14_vatOf_1 3 rfl rfl)
theorem dX14_vatOf_27 : decode cX14_vatOf 27 = .ok (.iadd, 1) := dk_96 (dk_at dksX14_vatOf_1 4 rfl rfl)
theorem dX14_vatOf_28 : decode cX14_vatOf 28 = .ok (.iload_n 1, 1) := dk_27 (dk_at dksX14_vatOf_1 5 rfl rfl)
theorem dX14_vatOf_29 : decode cX14_vatOf 29 = .ok (.iadd, 1) := dk_96 (dk_at dksX14_vatOf_1 6 rfl rfl)
theorem dX14_vatOf_30 : decode cX14_vatOf 30 = .ok (.iaload, 1) := dk_46 (dk_at dksX14_vatOf_1 7 rfl rfl)
theorem dX14_vatOf_31 : decode cX14_vatOf 31 = .ok (.goto 4, 3) := dk_167 0 4 (dk_at dksX14_vatOf_1 8 rfl rfl)
theorem dX14_vatOf_34 : decode cX14_vatOf 34 = .ok (.iconst (-1), 1) := dk_2 (dk_at dksX14_vatOf_1 11 rfl rfl)
theorem dX14_vatOf_35 : decode cX14_vatOf 35 = .ok (.ireturn, 1) := dk_172 (dk_at dksX14_vatOf_1 12 rfl rfl)
abbrev cX14_roster : ByteArray := prog_28_method_18_code
def yX14_roster : MethodName := ⟨RX14, "roster", "(II)I"⟩
def dkwX14_roster_1 : List UInt8 := [96, 28, 182, 0, 71, 96, 167, 0, 4, 2, 172]
abbrev dktX14_roster_1 : List UInt8 := dkwX14_roster_1 ++ []
def dkwX14_roster_0 : List UInt8 := [27, 184, 0, 79, 153, 0, 29, 28, 2, 159, 0, 10, 28, 184, 0, 75, 153, 0, 17, 4, 42, 16, 23, 27]
abbrev dktX14_roster_0 : List UInt8 := dkwX14_roster_0 ++ dktX14_roster_1
theorem dksX14_roster_0 : cX14_roster.data.toList.drop 0 = dktX14_roster_0 := by decide +kernel
theorem dksX14_roster_1 : cX14_roster.data.toList.drop 24 = dktX14_roster_1 := dk_seg dksX14_roster_0 24 rfl rfl
theorem dX14_roster_0 : decode cX14_roster 0 = .ok (.iload_n 1, 1) := dk_27 (dk_at dksX14_roster_0 0 rfl rfl)
theorem dX14_roster_1 : decode cX14_roster 1 = .ok (.invokestatic 79, 3) := dk_184 0 79 (dk_at dksX14_roster_0 1 rfl rfl)
theorem dX14_roster_4 : decode cX14_roster 4 = .ok (.ifCond .eq 29, 3) := dk_153 0 29 (dk_at dksX14_roster_0 4 rfl rfl)
theorem dX14_roster_7 : decode cX14_roster 7 = .ok (.iload_n 2, 1) := dk_28 (dk_at dksX14_roster_0 7 rfl rfl)
theorem dX14_roster_8 : decode cX14_roster 8 = .ok (.iconst (-1), 1) := dk_2 (dk_at dksX14_roster_0 8 rfl rfl)
theorem dX14_roster_9 : decode cX14_roster 9 = .ok (.if_icmp .eq 10, 3) := dk_159 0 10 (dk_at dksX14_roster_0 9 rfl rfl)
theorem dX14_roster_12 : decode cX14_roster 12 = .ok (.iload_n 2, 1) := dk_28 (dk_at dksX14_roster_0 12 rfl rfl)
theorem dX14_roster_13 : decode cX14_roster 13 = .ok (.invokestatic 75, 3) := dk_184 0 75 (dk_at dksX14_roster_0 13 rfl rfl)
theorem dX14_roster_16 : decode cX14_roster 16 = .ok (.ifCond .eq 17, 3) := dk_153 0 17 (dk_at dksX14_roster_0 16 rfl rfl)
theorem dX14_roster_19 : decode cX14_roster 19 = .ok (.iconst 1, 1) := dk_4 (dk_at dksX14_roster_0 19 rfl rfl)
theorem dX14_roster_20 : decode cX14_roster 20 = .ok (.aload_n 0, 1) := dk_42 (dk_at dksX14_roster_0 20 rfl rfl)
theorem dX14_roster_21 : decode cX14_roster 21 = .ok (.bipush 23, 2) := dk_16 23 (dk_at dksX14_roster_0 21 rfl rfl)
theorem dX14_roster_23 : decode cX14_roster 23 = .ok (.iload_n 1, 1) := dk_27 (dk_at dksX14_roster_0 23 rfl rfl)
theorem dX14_roster_24 : decode cX14_roster 24 = .ok (.iadd, 1) := dk_96 (dk_at dksX14_roster_1 0 rfl rfl)
theorem dX14_roster_25 : decode cX14_roster 25 = .ok (.iload_n 2, 1) := dk_28 (dk_at dksX14_roster_1 1 rfl rfl)
theorem dX14_roster_26 : decode cX14_roster 26 = .ok (.invokevirtual 71, 3) := dk_182 0 71 (dk_at dksX14_roster_1 2 rfl rfl)
theorem dX14_roster_29 : decode cX14_roster 29 = .ok (.iadd, 1) := dk_96 (dk_at dksX14_roster_1 5 rfl rfl)
theorem dX14_roster_30 : decode cX14_roster 30 = .ok (.goto 4, 3) := dk_167 0 4 (dk_at dksX14_roster_1 6 rfl rfl)
theorem dX14_roster_33 : decode cX14_roster 33 = .ok (.iconst (-1), 1) := dk_2 (dk_at dksX14_roster_1 9 rfl rfl)
theorem dX14_roster_34 : decode cX14_roster 34 = .ok (.ireturn, 1) := dk_172 (dk_at dksX14_roster_1 10 rfl rfl)
abbrev cX14_isRest : ByteArray := prog_28_method_10_code
def yX14_isRest : MethodName := ⟨RX14, "isRest", "(I)Z"⟩
def dkwX14_isRest_0 : List UInt8 := [26, 133, 9, 20, 0, 67, 184, 0, 59, 172]
abbrev dktX14_isRest_0 : List UInt8 := dkwX14_isRest_0 ++ []
theorem dksX14_isRest_0 : cX14_isRest.data.toList.drop 0 = dktX14_isRest_0 := by decide +kernel
theorem dX14_isRest_0 : decode cX14_isRest 0 = .ok (.iload_n 0, 1) := dk_26 (dk_at dksX14_isRest_0 0 rfl rfl)
theorem dX14_isRest_1 : decode cX14_isRest 1 = .ok (.i2l, 1) := dk_133 (dk_at dksX14_isRest_0 1 rfl rfl)
theorem dX14_isRest_2 : decode cX14_isRest 2 = .ok (.lconst 0, 1) := dk_9 (dk_at dksX14_isRest_0 2 rfl rfl)
theorem dX14_isRest_3 : decode cX14_isRest 3 = .ok (.ldc2_w 67, 3) := dk_20 0 67 (dk_at dksX14_isRest_0 3 rfl rfl)
theorem dX14_isRest_6 : decode cX14_isRest 6 = .ok (.invokestatic 59, 3) := dk_184 0 59 (dk_at dksX14_isRest_0 6 rfl rfl)
theorem dX14_isRest_9 : decode cX14_isRest 9 = .ok (.ireturn, 1) := dk_172 (dk_at dksX14_isRest_0 9 rfl rfl)
abbrev cX14_rosterOf : ByteArray := prog_28_method_19_code
def yX14_rosterOf : MethodName := ⟨RX14, "rosterOf", "(I)I"⟩
def dkwX14_rosterOf_0 : List UInt8 := [27, 184, 0, 79, 153, 0, 17, 4, 42, 180, 0, 16, 16, 23, 27, 96, 46, 96, 167, 0, 4, 2, 172]
abbrev dktX14_rosterOf_0 : List UInt8 := dkwX14_rosterOf_0 ++ []
theorem dksX14_rosterOf_0 : cX14_rosterOf.data.toList.drop 0 = dktX14_rosterOf_0 := by decide +kernel
theorem dX14_rosterOf_0 : decode cX14_rosterOf 0 = .ok (.iload_n 1, 1) := dk_27 (dk_at dksX14_rosterOf_0 0 rfl rfl)
theorem dX14_rosterOf_1 : decode cX14_rosterOf 1 = .ok (.invokestatic 79, 3) := dk_184 0 79 (dk_at dksX14_rosterOf_0 1 rfl rfl)
theorem dX14_rosterOf_4 : decode cX14_rosterOf 4 = .ok (.ifCond .eq 17, 3) := dk_153 0 17 (dk_at dksX14_rosterOf_0 4 rfl rfl)
theorem dX14_rosterOf_7 : decode cX14_rosterOf 7 = .ok (.iconst 1, 1) := dk_4 (dk_at dksX14_rosterOf_0 7 rfl rfl)
theorem dX14_rosterOf_8 : decode cX14_rosterOf 8 = .ok (.aload_n 0, 1) := dk_42 (dk_at dksX14_rosterOf_0 8 rfl rfl)
theorem dX14_rosterOf_9 : decode cX14_rosterOf 9 = .ok (.getfield 16, 3) := dk_180 0 16 (dk_at dksX14_rosterOf_0 9 rfl rfl)
theorem dX14_rosterOf_12 : decode cX14_rosterOf 12 = .ok (.bipush 23, 2) := dk_16 23 (dk_at dksX14_rosterOf_0 12 rfl rfl)
theorem dX14_rosterOf_14 : decode cX14_rosterOf 14 = .ok (.iload_n 1, 1) := dk_27 (dk_at dksX14_rosterOf_0 14 rfl rfl)
theorem dX14_rosterOf_15 : decode cX14_rosterOf 15 = .ok (.iadd, 1) := dk_96 (dk_at dksX14_rosterOf_0 15 rfl rfl)
theorem dX14_rosterOf_16 : decode cX14_rosterOf 16 = .ok (.iaload, 1) := dk_46 (dk_at dksX14_rosterOf_0 16 rfl rfl)
theorem dX14_rosterOf_17 : decode cX14_rosterOf 17 = .ok (.iadd, 1) := dk_96 (dk_at dksX14_rosterOf_0 17 rfl rfl)
theorem dX14_rosterOf_18 : decode cX14_rosterOf 18 = .ok (.goto 4, 3) := dk_167 0 4 (dk_at dksX14_rosterOf_0 18 rfl rfl)
theorem dX14_rosterOf_21 : decode cX14_rosterOf 21 = .ok (.iconst (-1), 1) := dk_2 (dk_at dksX14_rosterOf_0 21 rfl rfl)
theorem dX14_rosterOf_22 : decode cX14_rosterOf 22 = .ok (.ireturn, 1) := dk_172 (dk_at dksX14_rosterOf_0 22 rfl rfl)
abbrev cX14_cloth : ByteArray := prog_28_method_26_code
def yX14_cloth : MethodName := ⟨RX14, "cloth", "(I)I"⟩
def dkwX14_cloth_1 : List UInt8 := [42, 27, 182, 0, 92, 42, 180, 0, 16, 16, 6, 46, 4, 100, 172]
abbrev dktX14_cloth_1 : List UInt8 := dkwX14_cloth_1 ++ []
def dkwX14_cloth_0 : List UInt8 := [27, 184, 0, 89, 154, 0, 5, 2, 172, 42, 180, 0, 16, 16, 6, 46, 16, 8, 160, 0, 6, 16, 254, 172]
abbrev dktX14_cloth_0 : List UInt8 := dkwX14_cloth_0 ++ dktX14_cloth_1
theorem dksX14_cloth_0 : cX14_cloth.data.toList.drop 0 = dktX14_cloth_0 := by decide +kernel
theorem dksX14_cloth_1 : cX14_cloth.data.toList.drop 24 = dktX14_cloth_1 := dk_seg dksX14_cloth_0 24 rfl rfl
theorem dX14_cloth_0 : decode cX14_cloth 0 = .ok (.iload_n 1, 1) := dk_27 (dk_at dksX14_cloth_0 0 rfl rfl)
theorem dX14_cloth_1 : decode cX14_cloth 1 = .ok (.invokestatic 89, 3) := dk_184 0 89 (dk_at dksX14_cloth_0 1 rfl rfl)
theorem dX14_cloth_4 : decode cX14_cloth 4 = .ok (.ifCond .ne 5, 3) := dk_154 0 5 (dk_at dksX14_cloth_0 4 rfl rfl)
theorem dX14_cloth_7 : decode cX14_cloth 7 = .ok (.iconst (-1), 1) := dk_2 (dk_at dksX14_cloth_0 7 rfl rfl)
theorem dX14_cloth_8 : decode cX14_cloth 8 = .ok (.ireturn, 1) := dk_172 (dk_at dksX14_cloth_0 8 rfl rfl)
theorem dX14_cloth_9 : decode cX14_cloth 9 = .ok (.aload_n 0, 1) := dk_42 (dk_at dksX14_cloth_0 9 rfl rfl)
theorem dX14_cloth_10 : decode cX14_cloth 10 = .ok (.getfield 16, 3) := dk_180 0 16 (dk_at dksX14_cloth_0 10 rfl rfl)
theorem dX14_cloth_13 : decode cX14_cloth 13 = .ok (.bipush 6, 2) := dk_16 6 (dk_at dksX14_cloth_0 13 rfl rfl)
theorem dX14_cloth_15 : decode cX14_cloth 15 = .ok (.iaload, 1) := dk_46 (dk_at dksX14_cloth_0 15 rfl rfl)
theorem dX14_cloth_16 : decode cX14_cloth 16 = .ok (.bipush 8, 2) := dk_16 8 (dk_at dksX14_cloth_0 16 rfl rfl)
theorem dX14_cloth_18 : decode cX14_cloth 18 = .ok (.if_icmp .ne 6, 3) := dk_160 0 6 (dk_at dksX14_cloth_0 18 rfl rfl)
theorem dX14_cloth_21 : decode cX14_cloth 21 = .ok (.bipush (-2), 2) := dk_16 254 (dk_at dksX14_cloth_0 21 rfl rfl)
theorem dX14_cloth_23 : decode cX14_cloth 23 = .ok (.ireturn, 1) := dk_172 (dk_at dksX14_cloth_0 23 rfl rfl)
theorem dX14_cloth_24 : decode cX14_cloth 24 = .ok (.aload_n 0, 1) := dk_42 (dk_at dksX14_cloth_1 0 rfl rfl)
theorem dX14_cloth_25 : decode cX14_cloth 25 = .ok (.iload_n 1, 1) := dk_27 (dk_at dksX14_cloth_1 1 rfl rfl)
theorem dX14_cloth_26 : decode cX14_cloth 26 = .ok (.invokevirtual 92, 3) := dk_182 0 92 (dk_at dksX14_cloth_1 2 rfl rfl)
theorem dX14_cloth_29 : decode cX14_cloth 29 = .ok (.aload_n 0, 1) := dk_42 (dk_at dksX14_cloth_1 5 rfl rfl)
theorem dX14_cloth_30 : decode cX14_cloth 30 = .ok (.getfield 16, 3) := dk_180 0 16 (dk_at dksX14_cloth_1 6 rfl rfl)
theorem dX14_cloth_33 : decode cX14_cloth 33 = .ok (.bipush 6, 2) := dk_16 6 (dk_at dksX14_cloth_1 9 rfl rfl)
theorem dX14_cloth_35 : decode cX14_cloth 35 = .ok (.iaload, 1) := dk_46 (dk_at dksX14_cloth_1 11 rfl rfl)
theorem dX14_cloth_36 : decode cX14_cloth 36 = .ok (.iconst 1, 1) := dk_4 (dk_at dksX14_cloth_1 12 rfl rfl)
theorem dX14_cloth_37 : decode cX14_cloth 37 = .ok (.isub, 1) := dk_100 (dk_at dksX14_cloth_1 13 rfl rfl)
theorem dX14_cloth_38 : decode cX14_cloth 38 = .ok (.ireturn, 1) := dk_172 (dk_at dksX14_cloth_1 14 rfl rfl)
abbrev cX14_isKind : ByteArray := prog_28_method_20_code
def yX14_isKind : MethodName := ⟨RX14, "isKind", "(I)Z"⟩
def dkwX14_isKind_0 : List UInt8 := [26, 133, 9, 20, 0, 67, 184, 0, 59, 172]
abbrev dktX14_isKind_0 : List UInt8 := dkwX14_isKind_0 ++ []
theorem dksX14_isKind_0 : cX14_isKind.data.toList.drop 0 = dktX14_isKind_0 := by decide +kernel
theorem dX14_isKind_0 : decode cX14_isKind 0 = .ok (.iload_n 0, 1) := dk_26 (dk_at dksX14_isKind_0 0 rfl rfl)
theorem dX14_isKind_1 : decode cX14_isKind 1 = .ok (.i2l, 1) := dk_133 (dk_at dksX14_isKind_0 1 rfl rfl)
theorem dX14_isKind_2 : decode cX14_isKind 2 = .ok (.lconst 0, 1) := dk_9 (dk_at dksX14_isKind_0 2 rfl rfl)
theorem dX14_isKind_3 : decode cX14_isKind 3 = .ok (.ldc2_w 67, 3) := dk_20 0 67 (dk_at dksX14_isKind_0 3 rfl rfl)
theorem dX14_isKind_6 : decode cX14_isKind 6 = .ok (.invokestatic 59, 3) := dk_184 0 59 (dk_at dksX14_isKind_0 6 rfl rfl)
theorem dX14_isKind_9 : decode cX14_isKind 9 = .ok (.ireturn, 1) := dk_172 (dk_at dksX14_isKind_0 9 rfl rfl)
abbrev cX14_adds : ByteArray := prog_28_method_25_code
def yX14_adds : MethodName := ⟨RX14, "adds", "(I)V"⟩
def dkwX14_adds_2 : List UInt8 := [42, 28, 7, 3, 182, 0, 85, 177]
abbrev dktX14_adds_2 : List UInt8 := dkwX14_adds_2 ++ []
def dkwX14_adds_1 : List UInt8 := [182, 0, 85, 42, 28, 4, 2, 182, 0, 85, 42, 28, 5, 3, 182, 0, 85, 42, 28, 6, 3, 182, 0, 85]
abbrev dktX14_adds_1 : List UInt8 := dkwX14_adds_1 ++ dktX14_adds_2
def dkwX14_adds_0 : List UInt8 := [42, 180, 0, 16, 16, 6, 46, 61, 42, 180, 0, 16, 16, 6, 92, 46, 4, 96, 79, 42, 28, 3, 27]
abbrev dktX14_adds_0 : List UInt8 := dkwX14_adds_0 ++ dktX14_adds_1
theorem dksX14_adds_0 : cX14_adds.data.toList.drop 0 = dktX14_adds_0 := by decide +kernel
theorem dksX14_adds_1 : cX14_adds.data.toList.drop 23 = dktX14_adds_1 := dk_seg dksX14_adds_0 23 rfl rfl
theorem dksX14_adds_2 : cX14_adds.data.toList.drop 47 = dktX14_adds_2 := dk_seg dksX14_adds_1 24 rfl rfl
theorem dX14_adds_0 : decode cX14_adds 0 = .ok (.aload_n 0, 1) := dk_42 (dk_at dksX14_adds_0 0 rfl rfl)
theorem dX14_adds_1 : decode cX14_adds 1 = .ok (.getfield 16, 3) := dk_180 0 16 (dk_at dksX14_adds_0 1 rfl rfl)
theorem dX14_adds_4 : decode cX14_adds 4 = .ok (.bipush 6, 2) := dk_16 6 (dk_at dksX14_adds_0 4 rfl rfl)
theorem dX14_adds_6 : decode cX14_adds 6 = .ok (.iaload, 1) := dk_46 (dk_at dksX14_adds_0 6 rfl rfl)
theorem dX14_adds_7 : decode cX14_adds 7 = .ok (.istore_n 2, 1) := dk_61 (dk_at dksX14_adds_0 7 rfl rfl)
theorem dX14_adds_8 : decode cX14_adds 8 = .ok (.aload_n 0, 1) := dk_42 (dk_at dksX14_adds_0 8 rfl rfl)
theorem dX14_adds_9 : decode cX14_adds 9 = .ok (.getfield 16, 3) := dk_180 0 16 (dk_at dksX14_adds_0 9 rfl rfl)
theorem dX14_adds_12 : decode cX14_adds 12 = .ok (.bipush 6, 2) := dk_16 6 (dk_at dksX14_adds_0 12 rfl rfl)
theorem dX14_adds_14 : decode cX14_adds 14 = .ok (.dup2, 1) := dk_92 (dk_at dksX14_adds_0 14 rfl rfl)
theorem dX14_adds_15 : decode cX14_adds 15 = .ok (.iaload, 1) := dk_46 (dk_at dksX14_adds_0 15 rfl rfl)
theorem dX14_adds_16 : decode cX14_adds 16 = .ok (.iconst 1, 1) := dk_4 (dk_at dksX14_adds_0 16 rfl rfl)
theorem dX14_adds_17 : decode cX14_adds 17 = .ok (.iadd, 1) := dk_96 (dk_at dksX14_adds_0 17 rfl rfl)
theorem dX14_adds_18 : decode cX14_adds 18 = .ok (.iastore, 1) := dk_79 (dk_at dksX14_adds_0 18 rfl rfl)
theorem dX14_adds_19 : decode cX14_adds 19 = .ok (.aload_n 0, 1) := dk_42 (dk_at dksX14_adds_0 19 rfl rfl)
theorem dX14_adds_20 : decode cX14_adds 20 = .ok (.iload_n 2, 1) := dk_28 (dk_at dksX14_adds_0 20 rfl rfl)
theorem dX14_adds_21 : decode cX14_adds 21 = .ok (.iconst 0, 1) := dk_3 (dk_at dksX14_adds_0 21 rfl rfl)
theorem dX14_adds_22 : decode cX14_adds 22 = .ok (.iload_n 1, 1) := dk_27 (dk_at dksX14_adds_0 22 rfl rfl)
theorem dX14_adds_23 : decode cX14_adds 23 = .ok (.invokevirtual 85, 3) := dk_182 0 85 (dk_at dksX14_adds_1 0 rfl rfl)
theorem dX14_adds_26 : decode cX14_adds 26 = .ok (.aload_n 0, 1) := dk_42 (dk_at dksX14_adds_1 3 rfl rfl)
theorem dX14_adds_27 : decode cX14_adds 27 = .ok (.iload_n 2, 1) := dk_28 (dk_at dksX14_adds_1 4 rfl rfl)
theorem dX14_adds_28 : decode cX14_adds 28 = .ok (.iconst 1, 1) := dk_4 (dk_at dksX14_adds_1 5 rfl rfl)
theorem dX14_adds_29 : decode cX14_adds 29 = .ok (.iconst (-1), 1) := dk_2 (dk_at dksX14_adds_1 6 rfl rfl)
theorem dX14_adds_30 : decode cX14_adds 30 = .ok (.invokevirtual 85, 3) := dk_182 0 85 (dk_at dksX14_adds_1 7 rfl rfl)
theorem dX14_adds_33 : decode cX14_adds 33 = .ok (.aload_n 0, 1) := dk_42 (dk_at dksX14_adds_1 10 rfl rfl)
theorem dX14_adds_34 : decode cX14_adds 34 = .ok (.iload_n 2, 1) := dk_28 (dk_at dksX14_adds_1 11 rfl rfl)
theorem dX14_adds_35 : decode cX14_adds 35 = .ok (.iconst 2, 1) := dk_5 (dk_at dksX14_adds_1 12 rfl rfl)
theorem dX14_adds_36 : decode cX14_adds 36 = .ok (.iconst 0, 1) := dk_3 (dk_at dksX14_adds_1 13 rfl rfl)
theorem dX14_adds_37 : decode cX14_adds 37 = .ok (.invokevirtual 85, 3) := dk_182 0 85 (dk_at dksX14_adds_1 14 rfl rfl)
theorem dX14_adds_40 : decode cX14_adds 40 = .ok (.aload_n 0, 1) := dk_42 (dk_at dksX14_adds_1 17 rfl rfl)
theorem dX14_adds_41 : decode cX14_adds 41 = .ok (.iload_n 2, 1) := dk_28 (dk_at dksX14_adds_1 18 rfl rfl)
theorem dX14_adds_42 : decode cX14_adds 42 = .ok (.iconst 3, 1) := dk_6 (dk_at dksX14_adds_1 19 rfl rfl)
theorem dX14_adds_43 : decode cX14_adds 43 = .ok (.iconst 0, 1) := dk_3 (dk_at dksX14_adds_1 20 rfl rfl)
theorem dX14_adds_44 : decode cX14_adds 44 = .ok (.invokevirtual 85, 3) := dk_182 0 85 (dk_at dksX14_adds_1 21 rfl rfl)
theorem dX14_adds_47 : decode cX14_adds 47 = .ok (.aload_n 0, 1) := dk_42 (dk_at dksX14_adds_2 0 rfl rfl)
theorem dX14_adds_48 : decode cX14_adds 48 = .ok (.iload_n 2, 1) := dk_28 (dk_at dksX14_adds_2 1 rfl rfl)
theorem dX14_adds_49 : decode cX14_adds 49 = .ok (.iconst 4, 1) := dk_7 (dk_at dksX14_adds_2 2 rfl rfl)
theorem dX14_adds_50 : decode cX14_adds 50 = .ok (.iconst 0, 1) := dk_3 (dk_at dksX14_adds_2 3 rfl rfl)
theorem dX14_adds_51 : decode cX14_adds 51 = .ok (.invokevirtual 85, 3) := dk_182 0 85 (dk_at dksX14_adds_2 4 rfl rfl)
theorem dX14_adds_54 : decode cX14_adds 54 = .ok (.return_, 1) := dk_177 (dk_at dksX14_adds_2 7 rfl rfl)
abbrev cX14_sets : ByteArray := prog_28_method_12_code
def yX14_sets : MethodName := ⟨RX14, "sets", "(III)V"⟩
def dkwX14_sets_0 : List UInt8 := [42, 180, 0, 16, 16, 29, 8, 27, 104, 96, 28, 96, 29, 79, 177]
abbrev dktX14_sets_0 : List UInt8 := dkwX14_sets_0 ++ []
theorem dksX14_sets_0 : cX14_sets.data.toList.drop 0 = dktX14_sets_0 := by decide +kernel
theorem dX14_sets_0 : decode cX14_sets 0 = .ok (.aload_n 0, 1) := dk_42 (dk_at dksX14_sets_0 0 rfl rfl)
theorem dX14_sets_1 : decode cX14_sets 1 = .ok (.getfield 16, 3) := dk_180 0 16 (dk_at dksX14_sets_0 1 rfl rfl)
theorem dX14_sets_4 : decode cX14_sets 4 = .ok (.bipush 29, 2) := dk_16 29 (dk_at dksX14_sets_0 4 rfl rfl)
theorem dX14_sets_6 : decode cX14_sets 6 = .ok (.iconst 5, 1) := dk_8 (dk_at dksX14_sets_0 6 rfl rfl)
theorem dX14_sets_7 : decode cX14_sets 7 = .ok (.iload_n 1, 1) := dk_27 (dk_at dksX14_sets_0 7 rfl rfl)
theorem dX14_sets_8 : decode cX14_sets 8 = .ok (.imul, 1) := dk_104 (dk_at dksX14_sets_0 8 rfl rfl)
theorem dX14_sets_9 : decode cX14_sets 9 = .ok (.iadd, 1) := dk_96 (dk_at dksX14_sets_0 9 rfl rfl)
theorem dX14_sets_10 : decode cX14_sets 10 = .ok (.iload_n 2, 1) := dk_28 (dk_at dksX14_sets_0 10 rfl rfl)
theorem dX14_sets_11 : decode cX14_sets 11 = .ok (.iadd, 1) := dk_96 (dk_at dksX14_sets_0 11 rfl rfl)
theorem dX14_sets_12 : decode cX14_sets 12 = .ok (.iload_n 3, 1) := dk_29 (dk_at dksX14_sets_0 12 rfl rfl)
theorem dX14_sets_13 : decode cX14_sets 13 = .ok (.iastore, 1) := dk_79 (dk_at dksX14_sets_0 13 rfl rfl)
theorem dX14_sets_14 : decode cX14_sets 14 = .ok (.return_, 1) := dk_177 (dk_at dksX14_sets_0 14 rfl rfl)
abbrev cX14_of : ByteArray := prog_28_method_27_code
def yX14_of : MethodName := ⟨RX14, "of", "(II)I"⟩
def dkwX14_of_1 : List UInt8 := [160, 0, 14, 4, 42, 27, 4, 182, 0, 82, 96, 167, 0, 9, 42, 27, 28, 182, 0, 82, 172]
abbrev dktX14_of_1 : List UInt8 := dkwX14_of_1 ++ []
def dkwX14_of_0 : List UInt8 := [42, 27, 182, 0, 96, 153, 0, 15, 28, 133, 9, 20, 0, 99, 184, 0, 59, 154, 0, 5, 2, 172, 28, 4]
abbrev dktX14_of_0 : List UInt8 := dkwX14_of_0 ++ dktX14_of_1
theorem dksX14_of_0 : cX14_of.data.toList.drop 0 = dktX14_of_0 := by decide +kernel
theorem dksX14_of_1 : cX14_of.data.toList.drop 24 = dktX14_of_1 := dk_seg dksX14_of_0 24 rfl rfl
theorem dX14_of_0 : decode cX14_of 0 = .ok (.aload_n 0, 1) := dk_42 (dk_at dksX14_of_0 0 rfl rfl)
theorem dX14_of_1 : decode cX14_of 1 = .ok (.iload_n 1, 1) := dk_27 (dk_at dksX14_of_0 1 rfl rfl)
theorem dX14_of_2 : decode cX14_of 2 = .ok (.invokevirtual 96, 3) := dk_182 0 96 (dk_at dksX14_of_0 2 rfl rfl)
theorem dX14_of_5 : decode cX14_of 5 = .ok (.ifCond .eq 15, 3) := dk_153 0 15 (dk_at dksX14_of_0 5 rfl rfl)
theorem dX14_of_8 : decode cX14_of 8 = .ok (.iload_n 2, 1) := dk_28 (dk_at dksX14_of_0 8 rfl rfl)
theorem dX14_of_9 : decode cX14_of 9 = .ok (.i2l, 1) := dk_133 (dk_at dksX14_of_0 9 rfl rfl)
theorem dX14_of_10 : decode cX14_of 10 = .ok (.lconst 0, 1) := dk_9 (dk_at dksX14_of_0 10 rfl rfl)
theorem dX14_of_11 : decode cX14_of 11 = .ok (.ldc2_w 99, 3) := dk_20 0 99 (dk_at dksX14_of_0 11 rfl rfl)
theorem dX14_of_14 : decode cX14_of 14 = .ok (.invokestatic 59, 3) := dk_184 0 59 (dk_at dksX14_of_0 14 rfl rfl)
theorem dX14_of_17 : decode cX14_of 17 = .ok (.ifCond .ne 5, 3) := dk_154 0 5 (dk_at dksX14_of_0 17 rfl rfl)
theorem dX14_of_20 : decode cX14_of 20 = .ok (.iconst (-1), 1) := dk_2 (dk_at dksX14_of_0 20 rfl rfl)
theorem dX14_of_21 : decode cX14_of 21 = .ok (.ireturn, 1) := dk_172 (dk_at dksX14_of_0 21 rfl rfl)
theorem dX14_of_22 : decode cX14_of 22 = .ok (.iload_n 2, 1) := dk_28 (dk_at dksX14_of_0 22 rfl rfl)
theorem dX14_of_23 : decode cX14_of 23 = .ok (.iconst 1, 1) := dk_4 (dk_at dksX14_of_0 23 rfl rfl)
theorem dX14_of_24 : decode cX14_of 24 = .ok (.if_icmp .ne 14, 3) := dk_160 0 14 (dk_at dksX14_of_1 0 rfl rfl)
theorem dX14_of_27 : decode cX14_of 27 = .ok (.iconst 1, 1) := dk_4 (dk_at dksX14_of_1 3 rfl rfl)
theorem dX14_of_28 : decode cX14_of 28 = .ok (.aload_n 0, 1) := dk_42 (dk_at dksX14_of_1 4 rfl rfl)
theorem dX14_of_29 : decode cX14_of 29 = .ok (.iload_n 1, 1) := dk_27 (dk_at dksX14_of_1 5 rfl rfl)
theorem dX14_of_30 : decode cX14_of 30 = .ok (.iconst 1, 1) := dk_4 (dk_at dksX14_of_1 6 rfl rfl)
theorem dX14_of_31 : decode cX14_of 31 = .ok (.invokevirtual 82, 3) := dk_182 0 82 (dk_at dksX14_of_1 7 rfl rfl)
theorem dX14_of_34 : decode cX14_of 34 = .ok (.iadd, 1) := dk_96 (dk_at dksX14_of_1 10 rfl rfl)
theorem dX14_of_35 : decode cX14_of 35 = .ok (.goto 9, 3) := dk_167 0 9 (dk_at dksX14_of_1 11 rfl rfl)
theorem dX14_of_38 : decode cX14_of 38 = .ok (.aload_n 0, 1) := dk_42 (dk_at dksX14_of_1 14 rfl rfl)
theorem dX14_of_39 : decode cX14_of 39 = .ok (.iload_n 1, 1) := dk_27 (dk_at dksX14_of_1 15 rfl rfl)
theorem dX14_of_40 : decode cX14_of 40 = .ok (.iload_n 2, 1) := dk_28 (dk_at dksX14_of_1 16 rfl rfl)
theorem dX14_of_41 : decode cX14_of 41 = .ok (.invokevirtual 82, 3) := dk_182 0 82 (dk_at dksX14_of_1 17 rfl rfl)
theorem dX14_of_44 : decode cX14_of 44 = .ok (.ireturn, 1) := dk_172 (dk_at dksX14_of_1 20 rfl rfl)
abbrev cX14_isCloth : ByteArray := prog_28_method_7_code
def yX14_isCloth : MethodName := ⟨RX14, "isCloth", "(I)Z"⟩
def dkwX14_isCloth_0 : List UInt8 := [27, 133, 9, 42, 180, 0, 16, 16, 6, 46, 4, 100, 133, 184, 0, 59, 172]
abbrev dktX14_isCloth_0 : List UInt8 := dkwX14_isCloth_0 ++ []
theorem dksX14_isCloth_0 : cX14_isCloth.data.toList.drop 0 = dktX14_isCloth_0 := by decide +kernel
theorem dX14_isCloth_0 : decode cX14_isCloth 0 = .ok (.iload_n 1, 1) := dk_27 (dk_at dksX14_isCloth_0 0 rfl rfl)
theorem dX14_isCloth_1 : decode cX14_isCloth 1 = .ok (.i2l, 1) := dk_133 (dk_at dksX14_isCloth_0 1 rfl rfl)
theorem dX14_isCloth_2 : decode cX14_isCloth 2 = .ok (.lconst 0, 1) := dk_9 (dk_at dksX14_isCloth_0 2 rfl rfl)
theorem dX14_isCloth_3 : decode cX14_isCloth 3 = .ok (.aload_n 0, 1) := dk_42 (dk_at dksX14_isCloth_0 3 rfl rfl)
theorem dX14_isCloth_4 : decode cX14_isCloth 4 = .ok (.getfield 16, 3) := dk_180 0 16 (dk_at dksX14_isCloth_0 4 rfl rfl)
theorem dX14_isCloth_7 : decode cX14_isCloth 7 = .ok (.bipush 6, 2) := dk_16 6 (dk_at dksX14_isCloth_0 7 rfl rfl)
theorem dX14_isCloth_9 : decode cX14_isCloth 9 = .ok (.iaload, 1) := dk_46 (dk_at dksX14_isCloth_0 9 rfl rfl)
theorem dX14_isCloth_10 : decode cX14_isCloth 10 = .ok (.iconst 1, 1) := dk_4 (dk_at dksX14_isCloth_0 10 rfl rfl)
theorem dX14_isCloth_11 : decode cX14_isCloth 11 = .ok (.isub, 1) := dk_100 (dk_at dksX14_isCloth_0 11 rfl rfl)
theorem dX14_isCloth_12 : decode cX14_isCloth 12 = .ok (.i2l, 1) := dk_133 (dk_at dksX14_isCloth_0 12 rfl rfl)
theorem dX14_isCloth_13 : decode cX14_isCloth 13 = .ok (.invokestatic 59, 3) := dk_184 0 59 (dk_at dksX14_isCloth_0 13 rfl rfl)
theorem dX14_isCloth_16 : decode cX14_isCloth 16 = .ok (.ireturn, 1) := dk_172 (dk_at dksX14_isCloth_0 16 rfl rfl)
abbrev cX14_its : ByteArray := prog_28_method_11_code
def yX14_its : MethodName := ⟨RX14, "its", "(II)I"⟩
def dkwX14_its_0 : List UInt8 := [42, 180, 0, 16, 16, 29, 8, 27, 104, 96, 28, 96, 46, 172]
abbrev dktX14_its_0 : List UInt8 := dkwX14_its_0 ++ []
theorem dksX14_its_0 : cX14_its.data.toList.drop 0 = dktX14_its_0 := by decide +kernel
theorem dX14_its_0 : decode cX14_its 0 = .ok (.aload_n 0, 1) := dk_42 (dk_at dksX14_its_0 0 rfl rfl)
theorem dX14_its_1 : decode cX14_its 1 = .ok (.getfield 16, 3) := dk_180 0 16 (dk_at dksX14_its_0 1 rfl rfl)
theorem dX14_its_4 : decode cX14_its 4 = .ok (.bipush 29, 2) := dk_16 29 (dk_at dksX14_its_0 4 rfl rfl)
theorem dX14_its_6 : decode cX14_its 6 = .ok (.iconst 5, 1) := dk_8 (dk_at dksX14_its_0 6 rfl rfl)
theorem dX14_its_7 : decode cX14_its 7 = .ok (.iload_n 1, 1) := dk_27 (dk_at dksX14_its_0 7 rfl rfl)
theorem dX14_its_8 : decode cX14_its 8 = .ok (.imul, 1) := dk_104 (dk_at dksX14_its_0 8 rfl rfl)
theorem dX14_its_9 : decode cX14_its 9 = .ok (.iadd, 1) := dk_96 (dk_at dksX14_its_0 9 rfl rfl)
theorem dX14_its_10 : decode cX14_its 10 = .ok (.iload_n 2, 1) := dk_28 (dk_at dksX14_its_0 10 rfl rfl)
theorem dX14_its_11 : decode cX14_its 11 = .ok (.iadd, 1) := dk_96 (dk_at dksX14_its_0 11 rfl rfl)
theorem dX14_its_12 : decode cX14_its 12 = .ok (.iaload, 1) := dk_46 (dk_at dksX14_its_0 12 rfl rfl)
theorem dX14_its_13 : decode cX14_its 13 = .ok (.ireturn, 1) := dk_172 (dk_at dksX14_its_0 13 rfl rfl)
abbrev cX14_does : ByteArray := prog_28_method_28_code
def yX14_does : MethodName := ⟨RX14, "does", "(III)I"⟩
def dkwX14_does_3 : List UInt8 := [42, 27, 182, 0, 109, 96, 172]
abbrev dktX14_does_3 : List UInt8 := dkwX14_does_3 ++ []
def dkwX14_does_2 : List UInt8 := [27, 21, 4, 182, 0, 103, 167, 0, 23, 29, 4, 160, 0, 13, 42, 27, 21, 4, 182, 0, 106, 167, 0, 8]
abbrev dktX14_does_2 : List UInt8 := dkwX14_does_2 ++ dktX14_does_3
def dkwX14_does_1 : List UInt8 := [154, 0, 5, 2, 172, 42, 180, 0, 16, 16, 15, 28, 96, 46, 54, 4, 17, 3, 232, 29, 154, 0, 13, 42]
abbrev dktX14_does_1 : List UInt8 := dkwX14_does_1 ++ dktX14_does_2
def dkwX14_does_0 : List UInt8 := [42, 27, 182, 0, 96, 153, 0, 22, 28, 184, 0, 75, 153, 0, 15, 29, 133, 9, 20, 0, 101, 184, 0, 59]
abbrev dktX14_does_0 : List UInt8 := dkwX14_does_0 ++ dktX14_does_1
theorem dksX14_does_0 : cX14_does.data.toList.drop 0 = dktX14_does_0 := by decide +kernel
theorem dksX14_does_1 : cX14_does.data.toList.drop 24 = dktX14_does_1 := dk_seg dksX14_does_0 24 rfl rfl
theorem dksX14_does_2 : cX14_does.data.toList.drop 48 = dktX14_does_2 := dk_seg dksX14_does_1 24 rfl rfl
theorem dksX14_does_3 : cX14_does.data.toList.drop 72 = dktX14_does_3 := dk_seg dksX14_does_2 24 rfl rfl
theorem dX14_does_0 : decode cX14_does 0 = .ok (.aload_n 0, 1) := dk_42 (dk_at dksX14_does_0 0 rfl rfl)
theorem dX14_does_1 : decode cX14_does 1 = .ok (.iload_n 1, 1) := dk_27 (dk_at dksX14_does_0 1 rfl rfl)
theorem dX14_does_2 : decode cX14_does 2 = .ok (.invokevirtual 96, 3) := dk_182 0 96 (dk_at dksX14_does_0 2 rfl rfl)
theorem dX14_does_5 : decode cX14_does 5 = .ok (.ifCond .eq 22, 3) := dk_153 0 22 (dk_at dksX14_does_0 5 rfl rfl)
theorem dX14_does_8 : decode cX14_does 8 = .ok (.iload_n 2, 1) := dk_28 (dk_at dksX14_does_0 8 rfl rfl)
theorem dX14_does_9 : decode cX14_does 9 = .ok (.invokestatic 75, 3) := dk_184 0 75 (dk_at dksX14_does_0 9 rfl rfl)
theorem dX14_does_12 : decode cX14_does 12 = .ok (.ifCond .eq 15, 3) := dk_153 0 15 (dk_at dksX14_does_0 12 rfl rfl)
theorem dX14_does_15 : decode cX14_does 15 = .ok (.iload_n 3, 1) := dk_29 (dk_at dksX14_does_0 15 rfl rfl)
theorem dX14_does_16 : decode cX14_does 16 = .ok (.i2l, 1) := dk_133 (dk_at dksX14_does_0 16 rfl rfl)
theorem dX14_does_17 : decode cX14_does 17 = .ok (.lconst 0, 1) := dk_9 (dk_at dksX14_does_0 17 rfl rfl)
theorem dX14_does_18 : decode cX14_does 18 = .ok (.ldc2_w 101, 3) := dk_20 0 101 (dk_at dksX14_does_0 18 rfl rfl)
theorem dX14_does_21 : decode cX14_does 21 = .ok (.invokestatic 59, 3) := dk_184 0 59 (dk_at dksX14_does_0 21 rfl rfl)
theorem dX14_does_24 : decode cX14_does 24 = .ok (.ifCond .ne 5, 3) := dk_154 0 5 (dk_at dksX14_does_1 0 rfl rfl)
theorem dX14_does_27 : decode cX14_does 27 = .ok (.iconst (-1), 1) := dk_2 (dk_at dksX14_does_1 3 rfl rfl)
theorem dX14_does_28 : decode cX14_does 28 = .ok (.ireturn, 1) := dk_172 (dk_at dksX14_does_1 4 rfl rfl)
theorem dX14_does_29 : decode cX14_does 29 = .ok (.aload_n 0, 1) := dk_42 (dk_at dksX14_does_1 5 rfl rfl)
theorem dX14_does_30 : decode cX14_does 30 = .ok (.getfield 16, 3) := dk_180 0 16 (dk_at dksX14_does_1 6 rfl rfl)
theorem dX14_does_33 : decode cX14_does 33 = .ok (.bipush 15, 2) := dk_16 15 (dk_at dksX14_does_1 9 rfl rfl)
theorem dX14_does_35 : decode cX14_does 35 = .ok (.iload_n 2, 1) := dk_28 (dk_at dksX14_does_1 11 rfl rfl)
theorem dX14_does_36 : decode cX14_does 36 = .ok (.iadd, 1) := dk_96 (dk_at dksX14_does_1 12 rfl rfl)
theorem dX14_does_37 : decode cX14_does 37 = .ok (.iaload, 1) := dk_46 (dk_at dksX14_does_1 13 rfl rfl)
theorem dX14_does_38 : decode cX14_does 38 = .ok (.istore 4, 2) := dk_54 4 (dk_at dksX14_does_1 14 rfl rfl)
theorem dX14_does_40 : decode cX14_does 40 = .ok (.sipush 1000, 3) := dk_17 3 232 (dk_at dksX14_does_1 16 rfl rfl)
theorem dX14_does_43 : decode cX14_does 43 = .ok (.iload_n 3, 1) := dk_29 (dk_at dksX14_does_1 19 rfl rfl)
theorem dX14_does_44 : decode cX14_does 44 = .ok (.ifCond .ne 13, 3) := dk_154 0 13 (dk_at dksX14_does_1 20 rfl rfl)
theorem dX14_does_47 : decode cX14_does 47 = .ok (.aload_n 0, 1) := dk_42 (dk_at dksX14_does_1 23 rfl rfl)
theorem dX14_does_48 : decode cX14_does 48 = .ok (.iload_n 1, 1) := dk_27 (dk_at dksX14_does_2 0 rfl rfl)
theorem dX14_does_49 : decode cX14_does 49 = .ok (.iload 4, 2) := dk_21 4 (dk_at dksX14_does_2 1 rfl rfl)
theorem dX14_does_51 : decode cX14_does 51 = .ok (.invokevirtual 103, 3) := dk_182 0 103 (dk_at dksX14_does_2 3 rfl rfl)
theorem dX14_does_54 : decode cX14_does 54 = .ok (.goto 23, 3) := dk_167 0 23 (dk_at dksX14_does_2 6 rfl rfl)
theorem dX14_does_57 : decode cX14_does 57 = .ok (.iload_n 3, 1) := dk_29 (dk_at dksX14_does_2 9 rfl rfl)
theorem dX14_does_58 : decode cX14_does 58 = .ok (.iconst 1, 1) := dk_4 (dk_at dksX14_does_2 10 rfl rfl)
theorem dX14_does_59 : decode cX14_does 59 = .ok (.if_icmp .ne 13, 3) := dk_160 0 13 (dk_at dksX14_does_2 11 rfl rfl)
theorem dX14_does_62 : decode cX14_does 62 = .ok (.aload_n 0, 1) := dk_42 (dk_at dksX14_does_2 14 rfl rfl)
theorem dX14_does_63 : decode cX14_does 63 = .ok (.iload_n 1, 1) := dk_27 (dk_at dksX14_does_2 15 rfl rfl)
theorem dX14_does_64 : decode cX14_does 64 = .ok (.iload 4, 2) := dk_21 4 (dk_at dksX14_does_2 16 rfl rfl)
theorem dX14_does_66 : decode cX14_does 66 = .ok (.invokevirtual 106, 3) := dk_182 0 106 (dk_at dksX14_does_2 18 rfl rfl)
theorem dX14_does_69 : decode cX14_does 69 = .ok (.goto 8, 3) := dk_167 0 8 (dk_at dksX14_does_2 21 rfl rfl)
theorem dX14_does_72 : decode cX14_does 72 = .ok (.aload_n 0, 1) := dk_42 (dk_at dksX14_does_3 0 rfl rfl)
theorem dX14_does_73 : decode cX14_does 73 = .ok (.iload_n 1, 1) := dk_27 (dk_at dksX14_does_3 1 rfl rfl)
theorem dX14_does_74 : decode cX14_does 74 = .ok (.invokevirtual 109, 3) := dk_182 0 109 (dk_at dksX14_does_3 2 rfl rfl)
theorem dX14_does_77 : decode cX14_does 77 = .ok (.iadd, 1) := dk_96 (dk_at dksX14_does_3 5 rfl rfl)
theorem dX14_does_78 : decode cX14_does 78 = .ok (.ireturn, 1) := dk_172 (dk_at dksX14_does_3 6 rfl rfl)
abbrev cX14_takesOf : ByteArray := prog_28_method_22_code
def yX14_takesOf : MethodName := ⟨RX14, "takesOf", "(II)I"⟩
def dkwX14_takesOf_3 : List UInt8 := [4, 46, 100, 42, 180, 0, 16, 5, 46, 96, 172, 29, 5, 108, 172, 29, 172]
abbrev dktX14_takesOf_3 : List UInt8 := dkwX14_takesOf_3 ++ []
def dkwX14_takesOf_2 : List UInt8 := [29, 6, 96, 172, 5, 29, 6, 96, 104, 172, 29, 42, 180, 0, 16, 4, 46, 100, 172, 29, 42, 180, 0, 16]
abbrev dktX14_takesOf_2 : List UInt8 := dkwX14_takesOf_2 ++ dktX14_takesOf_3
def dkwX14_takesOf_1 : List UInt8 := [170, 0, 0, 0, 72, 0, 0, 0, 1, 0, 0, 0, 5, 0, 0, 0, 33, 0, 0, 0, 43, 0, 0, 0, 37, 0, 0, 0, 52, 0, 0, 0, 68]
abbrev dktX14_takesOf_1 : List UInt8 := dkwX14_takesOf_1 ++ dktX14_takesOf_2
def dkwX14_takesOf_0 : List UInt8 := [28, 42, 180, 0, 16, 3, 46, 96, 62, 42, 27, 3, 182, 0, 82]
abbrev dktX14_takesOf_0 : List UInt8 := dkwX14_takesOf_0 ++ dktX14_takesOf_1
theorem dksX14_takesOf_0 : cX14_takesOf.data.toList.drop 0 = dktX14_takesOf_0 := by decide +kernel
theorem dksX14_takesOf_1 : cX14_takesOf.data.toList.drop 15 = dktX14_takesOf_1 := dk_seg dksX14_takesOf_0 15 rfl rfl
theorem dksX14_takesOf_2 : cX14_takesOf.data.toList.drop 48 = dktX14_takesOf_2 := dk_seg dksX14_takesOf_1 33 rfl rfl
theorem dksX14_takesOf_3 : cX14_takesOf.data.toList.drop 72 = dktX14_takesOf_3 := dk_seg dksX14_takesOf_2 24 rfl rfl
theorem dX14_takesOf_0 : decode cX14_takesOf 0 = .ok (.iload_n 2, 1) := dk_28 (dk_at dksX14_takesOf_0 0 rfl rfl)
theorem dX14_takesOf_1 : decode cX14_takesOf 1 = .ok (.aload_n 0, 1) := dk_42 (dk_at dksX14_takesOf_0 1 rfl rfl)
theorem dX14_takesOf_2 : decode cX14_takesOf 2 = .ok (.getfield 16, 3) := dk_180 0 16 (dk_at dksX14_takesOf_0 2 rfl rfl)
theorem dX14_takesOf_5 : decode cX14_takesOf 5 = .ok (.iconst 0, 1) := dk_3 (dk_at dksX14_takesOf_0 5 rfl rfl)
theorem dX14_takesOf_6 : decode cX14_takesOf 6 = .ok (.iaload, 1) := dk_46 (dk_at dksX14_takesOf_0 6 rfl rfl)
theorem dX14_takesOf_7 : decode cX14_takesOf 7 = .ok (.iadd, 1) := dk_96 (dk_at dksX14_takesOf_0 7 rfl rfl)
theorem dX14_takesOf_8 : decode cX14_takesOf 8 = .ok (.istore_n 3, 1) := dk_62 (dk_at dksX14_takesOf_0 8 rfl rfl)
theorem dX14_takesOf_9 : decode cX14_takesOf 9 = .ok (.aload_n 0, 1) := dk_42 (dk_at dksX14_takesOf_0 9 rfl rfl)
theorem dX14_takesOf_10 : decode cX14_takesOf 10 = .ok (.iload_n 1, 1) := dk_27 (dk_at dksX14_takesOf_0 10 rfl rfl)
theorem dX14_takesOf_11 : decode cX14_takesOf 11 = .ok (.iconst 0, 1) := dk_3 (dk_at dksX14_takesOf_0 11 rfl rfl)
theorem dX14_takesOf_12 : decode cX14_takesOf 12 = .ok (.invokevirtual 82, 3) := dk_182 0 82 (dk_at dksX14_takesOf_0 12 rfl rfl)
theorem dX14_takesOf_15 : decode cX14_takesOf 15 = .ok (.tableswitch 72 1 5 #[33, 43, 37, 52, 68], 33) := by decide +kernel
theorem dX14_takesOf_48 : decode cX14_takesOf 48 = .ok (.iload_n 3, 1) := dk_29 (dk_at dksX14_takesOf_2 0 rfl rfl)
theorem dX14_takesOf_49 : decode cX14_takesOf 49 = .ok (.iconst 3, 1) := dk_6 (dk_at dksX14_takesOf_2 1 rfl rfl)
theorem dX14_takesOf_50 : decode cX14_takesOf 50 = .ok (.iadd, 1) := dk_96 (dk_at dksX14_takesOf_2 2 rfl rfl)
theorem dX14_takesOf_51 : decode cX14_takesOf 51 = .ok (.ireturn, 1) := dk_172 (dk_at dksX14_takesOf_2 3 rfl rfl)
theorem dX14_takesOf_52 : decode cX14_takesOf 52 = .ok (.iconst 2, 1) := dk_5 (dk_at dksX14_takesOf_2 4 rfl rfl)
theorem dX14_takesOf_53 : decode cX14_takesOf 53 = .ok (.iload_n 3, 1) := dk_29 (dk_at dksX14_takesOf_2 5 rfl rfl)
theorem dX14_takesOf_54 : decode cX14_takesOf 54 = .ok (.iconst 3, 1) := dk_6 (dk_at dksX14_takesOf_2 6 rfl rfl)
theorem dX14_takesOf_55 : decode cX14_takesOf 55 = .ok (.iadd, 1) := dk_96 (dk_at dksX14_takesOf_2 7 rfl rfl)
theorem dX14_takesOf_56 : decode cX14_takesOf 56 = .ok (.imul, 1) := dk_104 (dk_at dksX14_takesOf_2 8 rfl rfl)
theorem dX14_takesOf_57 : decode cX14_takesOf 57 = .ok (.ireturn, 1) := dk_172 (dk_at dksX14_takesOf_2 9 rfl rfl)
theorem dX14_takesOf_58 : decode cX14_takesOf 58 = .ok (.iload_n 3, 1) := dk_29 (dk_at dksX14_takesOf_2 10 rfl rfl)
theorem dX14_takesOf_59 : decode cX14_takesOf 59 = .ok (.aload_n 0, 1) := dk_42 (dk_at dksX14_takesOf_2 11 rfl rfl)
theorem dX14_takesOf_60 : decode cX14_takesOf 60 = .ok (.getfield 16, 3) := dk_180 0 16 (dk_at dksX14_takesOf_2 12 rfl rfl)
theorem dX14_takesOf_63 : decode cX14_takesOf 63 = .ok (.iconst 1, 1) := dk_4 (dk_at dksX14_takesOf_2 15 rfl rfl)
theorem dX14_takesOf_64 : decode cX14_takesOf 64 = .ok (.iaload, 1) := dk_46 (dk_at dksX14_takesOf_2 16 rfl rfl)
theorem dX14_takesOf_65 : decode cX14_takesOf 65 = .ok (.isub, 1) := dk_100 (dk_at dksX14_takesOf_2 17 rfl rfl)
theorem dX14_takesOf_66 : decode cX14_takesOf 66 = .ok (.ireturn, 1) := dk_172 (dk_at dksX14_takesOf_2 18 rfl rfl)
theorem dX14_takesOf_67 : decode cX14_takesOf 67 = .ok (.iload_n 3, 1) := dk_29 (dk_at dksX14_takesOf_2 19 rfl rfl)
theorem dX14_takesOf_68 : decode cX14_takesOf 68 = .ok (.aload_n 0, 1) := dk_42 (dk_at dksX14_takesOf_2 20 rfl rfl)
theorem dX14_takesOf_69 : decode cX14_takesOf 69 = .ok (.getfield 16, 3) := dk_180 0 16 (dk_at dksX14_takesOf_2 21 rfl rfl)
theorem dX14_takesOf_72 : decode cX14_takesOf 72 = .ok (.iconst 1, 1) := dk_4 (dk_at dksX14_takesOf_3 0 rfl rfl)
theorem dX14_takesOf_73 : decode cX14_takesOf 73 = .ok (.iaload, 1) := dk_46 (dk_at dksX14_takesOf_3 1 rfl rfl)
theorem dX14_takesOf_74 : decode cX14_takesOf 74 = .ok (.isub, 1) := dk_100 (dk_at dksX14_takesOf_3 2 rfl rfl)
theorem dX14_takesOf_75 : decode cX14_takesOf 75 = .ok (.aload_n 0, 1) := dk_42 (dk_at dksX14_takesOf_3 3 rfl rfl)
theorem dX14_takesOf_76 : decode cX14_takesOf 76 = .ok (.getfield 16, 3) := dk_180 0 16 (dk_at dksX14_takesOf_3 4 rfl rfl)
theorem dX14_takesOf_79 : decode cX14_takesOf 79 = .ok (.iconst 2, 1) := dk_5 (dk_at dksX14_takesOf_3 7 rfl rfl)
theorem dX14_takesOf_80 : decode cX14_takesOf 80 = .ok (.iaload, 1) := dk_46 (dk_at dksX14_takesOf_3 8 rfl rfl)
theorem dX14_takesOf_81 : decode cX14_takesOf 81 = .ok (.iadd, 1) := dk_96 (dk_at dksX14_takesOf_3 9 rfl rfl)
theorem dX14_takesOf_82 : decode cX14_takesOf 82 = .ok (.ireturn, 1) := dk_172 (dk_at dksX14_takesOf_3 10 rfl rfl)
theorem dX14_takesOf_83 : decode cX14_takesOf 83 = .ok (.iload_n 3, 1) := dk_29 (dk_at dksX14_takesOf_3 11 rfl rfl)
theorem dX14_takesOf_84 : decode cX14_takesOf 84 = .ok (.iconst 2, 1) := dk_5 (dk_at dksX14_takesOf_3 12 rfl rfl)
theorem dX14_takesOf_85 : decode cX14_takesOf 85 = .ok (.idiv, 1) := dk_108 (dk_at dksX14_takesOf_3 13 rfl rfl)
theorem dX14_takesOf_86 : decode cX14_takesOf 86 = .ok (.ireturn, 1) := dk_172 (dk_at dksX14_takesOf_3 14 rfl rfl)
theorem dX14_takesOf_87 : decode cX14_takesOf 87 = .ok (.iload_n 3, 1) := dk_29 (dk_at dksX14_takesOf_3 15 rfl rfl)
theorem dX14_takesOf_88 : decode cX14_takesOf 88 = .ok (.ireturn, 1) := dk_172 (dk_at dksX14_takesOf_3 16 rfl rfl)
abbrev cX14_fightsOf : ByteArray := prog_28_method_23_code
def yX14_fightsOf : MethodName := ⟨RX14, "fightsOf", "(II)I"⟩
def dkwX14_fightsOf_4 : List UInt8 := [172, 28, 172]
abbrev dktX14_fightsOf_4 : List UInt8 := dkwX14_fightsOf_4 ++ []
def dkwX14_fightsOf_3 : List UInt8 := [172, 28, 42, 180, 0, 16, 5, 46, 96, 172, 5, 28, 42, 180, 0, 16, 5, 46, 96, 104, 172, 28, 4, 96]
abbrev dktX14_fightsOf_3 : List UInt8 := dkwX14_fightsOf_3 ++ dktX14_fightsOf_4
def dkwX14_fightsOf_2 : List UInt8 := [28, 42, 180, 0, 16, 5, 46, 100, 172, 28, 42, 180, 0, 16, 5, 46, 100, 42, 180, 0, 16, 3, 46, 96]
abbrev dktX14_fightsOf_2 : List UInt8 := dkwX14_fightsOf_2 ++ dktX14_fightsOf_3
def dkwX14_fightsOf_1 : List UInt8 := [170, 0, 0, 0, 0, 83, 0, 0, 0, 1, 0, 0, 0, 5, 0, 0, 0, 34, 0, 0, 0, 59, 0, 0, 0, 43, 0, 0, 0, 68, 0, 0, 0, 79]
abbrev dktX14_fightsOf_1 : List UInt8 := dkwX14_fightsOf_1 ++ dktX14_fightsOf_2
def dkwX14_fightsOf_0 : List UInt8 := [42, 27, 3, 182, 0, 82]
abbrev dktX14_fightsOf_0 : List UInt8 := dkwX14_fightsOf_0 ++ dktX14_fightsOf_1
theorem dksX14_fightsOf_0 : cX14_fightsOf.data.toList.drop 0 = dktX14_fightsOf_0 := by decide +kernel
theorem dksX14_fightsOf_1 : cX14_fightsOf.data.toList.drop 6 = dktX14_fightsOf_1 := dk_seg dksX14_fightsOf_0 6 rfl rfl
theorem dksX14_fightsOf_2 : cX14_fightsOf.data.toList.drop 40 = dktX14_fightsOf_2 := dk_seg dksX14_fightsOf_1 34 rfl rfl
theorem dksX14_fightsOf_3 : cX14_fightsOf.data.toList.drop 64 = dktX14_fightsOf_3 := dk_seg dksX14_fightsOf_2 24 rfl rfl
theorem dksX14_fightsOf_4 : cX14_fightsOf.data.toList.drop 88 = dktX14_fightsOf_4 := dk_seg dksX14_fightsOf_3 24 rfl rfl
theorem dX14_fightsOf_0 : decode cX14_fightsOf 0 = .ok (.aload_n 0, 1) := dk_42 (dk_at dksX14_fightsOf_0 0 rfl rfl)
theorem dX14_fightsOf_1 : decode cX14_fightsOf 1 = .ok (.iload_n 1, 1) := dk_27 (dk_at dksX14_fightsOf_0 1 rfl rfl)
theorem dX14_fightsOf_2 : decode cX14_fightsOf 2 = .ok (.iconst 0, 1) := dk_3 (dk_at dksX14_fightsOf_0 2 rfl rfl)
theorem dX14_fightsOf_3 : decode cX14_fightsOf 3 = .ok (.invokevirtual 82, 3) := dk_182 0 82 (dk_at dksX14_fightsOf_0 3 rfl rfl)
theorem dX14_fightsOf_6 : decode cX14_fightsOf 6 = .ok (.tableswitch 83 1 5 #[34, 59, 43, 68, 79], 34) := by decide +kernel
theorem dX14_fightsOf_40 : decode cX14_fightsOf 40 = .ok (.iload_n 2, 1) := dk_28 (dk_at dksX14_fightsOf_2 0 rfl rfl)
theorem dX14_fightsOf_41 : decode cX14_fightsOf 41 = .ok (.aload_n 0, 1) := dk_42 (dk_at dksX14_fightsOf_2 1 rfl rfl)
theorem dX14_fightsOf_42 : decode cX14_fightsOf 42 = .ok (.getfield 16, 3) := dk_180 0 16 (dk_at dksX14_fightsOf_2 2 rfl rfl)
theorem dX14_fightsOf_45 : decode cX14_fightsOf 45 = .ok (.iconst 2, 1) := dk_5 (dk_at dksX14_fightsOf_2 5 rfl rfl)
theorem dX14_fightsOf_46 : decode cX14_fightsOf 46 = .ok (.iaload, 1) := dk_46 (dk_at dksX14_fightsOf_2 6 rfl rfl)
theorem dX14_fightsOf_47 : decode cX14_fightsOf 47 = .ok (.isub, 1) := dk_100 (dk_at dksX14_fightsOf_2 7 rfl rfl)
theorem dX14_fightsOf_48 : decode cX14_fightsOf 48 = .ok (.ireturn, 1) := dk_172 (dk_at dksX14_fightsOf_2 8 rfl rfl)
theorem dX14_fightsOf_49 : decode cX14_fightsOf 49 = .ok (.iload_n 2, 1) := dk_28 (dk_at dksX14_fightsOf_2 9 rfl rfl)
theorem dX14_fightsOf_50 : decode cX14_fightsOf 50 = .ok (.aload_n 0, 1) := dk_42 (dk_at dksX14_fightsOf_2 10 rfl rfl)
theorem dX14_fightsOf_51 : decode cX14_fightsOf 51 = .ok (.getfield 16, 3) := dk_180 0 16 (dk_at dksX14_fightsOf_2 11 rfl rfl)
theorem dX14_fightsOf_54 : decode cX14_fightsOf 54 = .ok (.iconst 2, 1) := dk_5 (dk_at dksX14_fightsOf_2 14 rfl rfl)
theorem dX14_fightsOf_55 : decode cX14_fightsOf 55 = .ok (.iaload, 1) := dk_46 (dk_at dksX14_fightsOf_2 15 rfl rfl)
theorem dX14_fightsOf_56 : decode cX14_fightsOf 56 = .ok (.isub, 1) := dk_100 (dk_at dksX14_fightsOf_2 16 rfl rfl)
theorem dX14_fightsOf_57 : decode cX14_fightsOf 57 = .ok (.aload_n 0, 1) := dk_42 (dk_at dksX14_fightsOf_2 17 rfl rfl)
theorem dX14_fightsOf_58 : decode cX14_fightsOf 58 = .ok (.getfield 16, 3) := dk_180 0 16 (dk_at dksX14_fightsOf_2 18 rfl rfl)
theorem dX14_fightsOf_61 : decode cX14_fightsOf 61 = .ok (.iconst 0, 1) := dk_3 (dk_at dksX14_fightsOf_2 21 rfl rfl)
theorem dX14_fightsOf_62 : decode cX14_fightsOf 62 = .ok (.iaload, 1) := dk_46 (dk_at dksX14_fightsOf_2 22 rfl rfl)
theorem dX14_fightsOf_63 : decode cX14_fightsOf 63 = .ok (.iadd, 1) := dk_96 (dk_at dksX14_fightsOf_2 23 rfl rfl)
theorem dX14_fightsOf_64 : decode cX14_fightsOf 64 = .ok (.ireturn, 1) := dk_172 (dk_at dksX14_fightsOf_3 0 rfl rfl)
theorem dX14_fightsOf_65 : decode cX14_fightsOf 65 = .ok (.iload_n 2, 1) := dk_28 (dk_at dksX14_fightsOf_3 1 rfl rfl)
theorem dX14_fightsOf_66 : decode cX14_fightsOf 66 = .ok (.aload_n 0, 1) := dk_42 (dk_at dksX14_fightsOf_3 2 rfl rfl)
theorem dX14_fightsOf_67 : decode cX14_fightsOf 67 = .ok (.getfield 16, 3) := dk_180 0 16 (dk_at dksX14_fightsOf_3 3 rfl rfl)
theorem dX14_fightsOf_70 : decode cX14_fightsOf 70 = .ok (.iconst 2, 1) := dk_5 (dk_at dksX14_fightsOf_3 6 rfl rfl)
theorem dX14_fightsOf_71 : decode cX14_fightsOf 71 = .ok (.iaload, 1) := dk_46 (dk_at dksX14_fightsOf_3 7 rfl rfl)
theorem dX14_fightsOf_72 : decode cX14_fightsOf 72 = .ok (.iadd, 1) := dk_96 (dk_at dksX14_fightsOf_3 8 rfl rfl)
theorem dX14_fightsOf_73 : decode cX14_fightsOf 73 = .ok (.ireturn, 1) := dk_172 (dk_at dksX14_fightsOf_3 9 rfl rfl)
theorem dX14_fightsOf_74 : decode cX14_fightsOf 74 = .ok (.iconst 2, 1) := dk_5 (dk_at dksX14_fightsOf_3 10 rfl rfl)
theorem dX14_fightsOf_75 : decode cX14_fightsOf 75 = .ok (.iload_n 2, 1) := dk_28 (dk_at dksX14_fightsOf_3 11 rfl rfl)
theorem dX14_fightsOf_76 : decode cX14_fightsOf 76 = .ok (.aload_n 0, 1) := dk_42 (dk_at dksX14_fightsOf_3 12 rfl rfl)
theorem dX14_fightsOf_77 : decode cX14_fightsOf 77 = .ok (.getfield 16, 3) := dk_180 0 16 (dk_at dksX14_fightsOf_3 13 rfl rfl)
theorem dX14_fightsOf_80 : decode cX14_fightsOf 80 = .ok (.iconst 2, 1) := dk_5 (dk_at dksX14_fightsOf_3 16 rfl rfl)
theorem dX14_fightsOf_81 : decode cX14_fightsOf 81 = .ok (.iaload, 1) := dk_46 (dk_at dksX14_fightsOf_3 17 rfl rfl)
theorem dX14_fightsOf_82 : decode cX14_fightsOf 82 = .ok (.iadd, 1) := dk_96 (dk_at dksX14_fightsOf_3 18 rfl rfl)
theorem dX14_fightsOf_83 : decode cX14_fightsOf 83 = .ok (.imul, 1) := dk_104 (dk_at dksX14_fightsOf_3 19 rfl rfl)
theorem dX14_fightsOf_84 : decode cX14_fightsOf 84 = .ok (.ireturn, 1) := dk_172 (dk_at dksX14_fightsOf_3 20 rfl rfl)
theorem dX14_fightsOf_85 : decode cX14_fightsOf 85 = .ok (.iload_n 2, 1) := dk_28 (dk_at dksX14_fightsOf_3 21 rfl rfl)
theorem dX14_fightsOf_86 : decode cX14_fightsOf 86 = .ok (.iconst 1, 1) := dk_4 (dk_at dksX14_fightsOf_3 22 rfl rfl)
theorem dX14_fightsOf_87 : decode cX14_fightsOf 87 = .ok (.iadd, 1) := dk_96 (dk_at dksX14_fightsOf_3 23 rfl rfl)
theorem dX14_fightsOf_88 : decode cX14_fightsOf 88 = .ok (.ireturn, 1) := dk_172 (dk_at dksX14_fightsOf_4 0 rfl rfl)
theorem dX14_fightsOf_89 : decode cX14_fightsOf 89 = .ok (.iload_n 2, 1) := dk_28 (dk_at dksX14_fightsOf_4 1 rfl rfl)
theorem dX14_fightsOf_90 : decode cX14_fightsOf 90 = .ok (.ireturn, 1) := dk_172 (dk_at dksX14_fightsOf_4 2 rfl rfl)
abbrev cX14_fadesOf : ByteArray := prog_28_method_24_code
def yX14_fadesOf : MethodName := ⟨RX14, "fadesOf", "(I)I"⟩
def dkwX14_fadesOf_2 : List UInt8 := [28, 4, 100, 172, 3, 172, 28, 4, 96, 172, 5, 28, 4, 96, 104, 172, 28, 6, 96, 172, 28, 172]
abbrev dktX14_fadesOf_2 : List UInt8 := dkwX14_fadesOf_2 ++ []
def dkwX14_fadesOf_1 : List UInt8 := [170, 0, 0, 0, 0, 0, 55, 0, 0, 0, 1, 0, 0, 0, 5, 0, 0, 0, 35, 0, 0, 0, 41, 0, 0, 0, 39, 0, 0, 0, 45, 0, 0, 0, 51]
abbrev dktX14_fadesOf_1 : List UInt8 := dkwX14_fadesOf_1 ++ dktX14_fadesOf_2
def dkwX14_fadesOf_0 : List UInt8 := [42, 180, 0, 16, 4, 46, 61, 42, 27, 3, 182, 0, 82]
abbrev dktX14_fadesOf_0 : List UInt8 := dkwX14_fadesOf_0 ++ dktX14_fadesOf_1
theorem dksX14_fadesOf_0 : cX14_fadesOf.data.toList.drop 0 = dktX14_fadesOf_0 := by decide +kernel
theorem dksX14_fadesOf_1 : cX14_fadesOf.data.toList.drop 13 = dktX14_fadesOf_1 := dk_seg dksX14_fadesOf_0 13 rfl rfl
theorem dksX14_fadesOf_2 : cX14_fadesOf.data.toList.drop 48 = dktX14_fadesOf_2 := dk_seg dksX14_fadesOf_1 35 rfl rfl
theorem dX14_fadesOf_0 : decode cX14_fadesOf 0 = .ok (.aload_n 0, 1) := dk_42 (dk_at dksX14_fadesOf_0 0 rfl rfl)
theorem dX14_fadesOf_1 : decode cX14_fadesOf 1 = .ok (.getfield 16, 3) := dk_180 0 16 (dk_at dksX14_fadesOf_0 1 rfl rfl)
theorem dX14_fadesOf_4 : decode cX14_fadesOf 4 = .ok (.iconst 1, 1) := dk_4 (dk_at dksX14_fadesOf_0 4 rfl rfl)
theorem dX14_fadesOf_5 : decode cX14_fadesOf 5 = .ok (.iaload, 1) := dk_46 (dk_at dksX14_fadesOf_0 5 rfl rfl)
theorem dX14_fadesOf_6 : decode cX14_fadesOf 6 = .ok (.istore_n 2, 1) := dk_61 (dk_at dksX14_fadesOf_0 6 rfl rfl)
theorem dX14_fadesOf_7 : decode cX14_fadesOf 7 = .ok (.aload_n 0, 1) := dk_42 (dk_at dksX14_fadesOf_0 7 rfl rfl)
theorem dX14_fadesOf_8 : decode cX14_fadesOf 8 = .ok (.iload_n 1, 1) := dk_27 (dk_at dksX14_fadesOf_0 8 rfl rfl)
theorem dX14_fadesOf_9 : decode cX14_fadesOf 9 = .ok (.iconst 0, 1) := dk_3 (dk_at dksX14_fadesOf_0 9 rfl rfl)
theorem dX14_fadesOf_10 : decode cX14_fadesOf 10 = .ok (.invokevirtual 82, 3) := dk_182 0 82 (dk_at dksX14_fadesOf_0 10 rfl rfl)
theorem dX14_fadesOf_13 : decode cX14_fadesOf 13 = .ok (.tableswitch 55 1 5 #[35, 41, 39, 45, 51], 35) := by decide +kernel
theorem dX14_fadesOf_48 : decode cX14_fadesOf 48 = .ok (.iload_n 2, 1) := dk_28 (dk_at dksX14_fadesOf_2 0 rfl rfl)
theorem dX14_fadesOf_49 : decode cX14_fadesOf 49 = .ok (.iconst 1, 1) := dk_4 (dk_at dksX14_fadesOf_2 1 rfl rfl)
theorem dX14_fadesOf_50 : decode cX14_fadesOf 50 = .ok (.isub, 1) := dk_100 (dk_at dksX14_fadesOf_2 2 rfl rfl)
theorem dX14_fadesOf_51 : decode cX14_fadesOf 51 = .ok (.ireturn, 1) := dk_172 (dk_at dksX14_fadesOf_2 3 rfl rfl)
theorem dX14_fadesOf_52 : decode cX14_fadesOf 52 = .ok (.iconst 0, 1) := dk_3 (dk_at dksX14_fadesOf_2 4 rfl rfl)
theorem dX14_fadesOf_53 : decode cX14_fadesOf 53 = .ok (.ireturn, 1) := dk_172 (dk_at dksX14_fadesOf_2 5 rfl rfl)
theorem dX14_fadesOf_54 : decode cX14_fadesOf 54 = .ok (.iload_n 2, 1) := dk_28 (dk_at dksX14_fadesOf_2 6 rfl rfl)
theorem dX14_fadesOf_55 : decode cX14_fadesOf 55 = .ok (.iconst 1, 1) := dk_4 (dk_at dksX14_fadesOf_2 7 rfl rfl)
theorem dX14_fadesOf_56 : decode cX14_fadesOf 56 = .ok (.iadd, 1) := dk_96 (dk_at dksX14_fadesOf_2 8 rfl rfl)
theorem dX14_fadesOf_57 : decode cX14_fadesOf 57 = .ok (.ireturn, 1) := dk_172 (dk_at dksX14_fadesOf_2 9 rfl rfl)
theorem dX14_fadesOf_58 : decode cX14_fadesOf 58 = .ok (.iconst 2, 1) := dk_5 (dk_at dksX14_fadesOf_2 10 rfl rfl)
theorem dX14_fadesOf_59 : decode cX14_fadesOf 59 = .ok (.iload_n 2, 1) := dk_28 (dk_at dksX14_fadesOf_2 11 rfl rfl)
theorem dX14_fadesOf_60 : decode cX14_fadesOf 60 = .ok (.iconst 1, 1) := dk_4 (dk_at dksX14_fadesOf_2 12 rfl rfl)
theorem dX14_fadesOf_61 : decode cX14_fadesOf 61 = .ok (.iadd, 1) := dk_96 (dk_at dksX14_fadesOf_2 13 rfl rfl)
theorem dX14_fadesOf_62 : decode cX14_fadesOf 62 = .ok (.imul, 1) := dk_104 (dk_at dksX14_fadesOf_2 14 rfl rfl)
theorem dX14_fadesOf_63 : decode cX14_fadesOf 63 = .ok (.ireturn, 1) := dk_172 (dk_at dksX14_fadesOf_2 15 rfl rfl)
theorem dX14_fadesOf_64 : decode cX14_fadesOf 64 = .ok (.iload_n 2, 1) := dk_28 (dk_at dksX14_fadesOf_2 16 rfl rfl)
theorem dX14_fadesOf_65 : decode cX14_fadesOf 65 = .ok (.iconst 3, 1) := dk_6 (dk_at dksX14_fadesOf_2 17 rfl rfl)
theorem dX14_fadesOf_66 : decode cX14_fadesOf 66 = .ok (.iadd, 1) := dk_96 (dk_at dksX14_fadesOf_2 18 rfl rfl)
theorem dX14_fadesOf_67 : decode cX14_fadesOf 67 = .ok (.ireturn, 1) := dk_172 (dk_at dksX14_fadesOf_2 19 rfl rfl)
theorem dX14_fadesOf_68 : decode cX14_fadesOf 68 = .ok (.iload_n 2, 1) := dk_28 (dk_at dksX14_fadesOf_2 20 rfl rfl)
theorem dX14_fadesOf_69 : decode cX14_fadesOf 69 = .ok (.ireturn, 1) := dk_172 (dk_at dksX14_fadesOf_2 21 rfl rfl)
abbrev cX14_mind : ByteArray := prog_28_method_30_code
def yX14_mind : MethodName := ⟨RX14, "mind", "(II)I"⟩
def dkwX14_mind_1 : List UInt8 := [167, 0, 4, 2, 172]
abbrev dktX14_mind_1 : List UInt8 := dkwX14_mind_1 ++ []
def dkwX14_mind_0 : List UInt8 := [42, 27, 182, 0, 96, 153, 0, 20, 28, 184, 0, 89, 153, 0, 13, 42, 27, 3, 28, 182, 0, 113]
abbrev dktX14_mind_0 : List UInt8 := dkwX14_mind_0 ++ dktX14_mind_1
theorem dksX14_mind_0 : cX14_mind.data.toList.drop 0 = dktX14_mind_0 := by decide +kernel
theorem dksX14_mind_1 : cX14_mind.data.toList.drop 22 = dktX14_mind_1 := dk_seg dksX14_mind_0 22 rfl rfl
theorem dX14_mind_0 : decode cX14_mind 0 = .ok (.aload_n 0, 1) := dk_42 (dk_at dksX14_mind_0 0 rfl rfl)
theorem dX14_mind_1 : decode cX14_mind 1 = .ok (.iload_n 1, 1) := dk_27 (dk_at dksX14_mind_0 1 rfl rfl)
theorem dX14_mind_2 : decode cX14_mind 2 = .ok (.invokevirtual 96, 3) := dk_182 0 96 (dk_at dksX14_mind_0 2 rfl rfl)
theorem dX14_mind_5 : decode cX14_mind 5 = .ok (.ifCond .eq 20, 3) := dk_153 0 20 (dk_at dksX14_mind_0 5 rfl rfl)
theorem dX14_mind_8 : decode cX14_mind 8 = .ok (.iload_n 2, 1) := dk_28 (dk_at dksX14_mind_0 8 rfl rfl)
theorem dX14_mind_9 : decode cX14_mind 9 = .ok (.invokestatic 89, 3) := dk_184 0 89 (dk_at dksX14_mind_0 9 rfl rfl)
theorem dX14_mind_12 : decode cX14_mind 12 = .ok (.ifCond .eq 13, 3) := dk_153 0 13 (dk_at dksX14_mind_0 12 rfl rfl)
theorem dX14_mind_15 : decode cX14_mind 15 = .ok (.aload_n 0, 1) := dk_42 (dk_at dksX14_mind_0 15 rfl rfl)
theorem dX14_mind_16 : decode cX14_mind 16 = .ok (.iload_n 1, 1) := dk_27 (dk_at dksX14_mind_0 16 rfl rfl)
theorem dX14_mind_17 : decode cX14_mind 17 = .ok (.iconst 0, 1) := dk_3 (dk_at dksX14_mind_0 17 rfl rfl)
theorem dX14_mind_18 : decode cX14_mind 18 = .ok (.iload_n 2, 1) := dk_28 (dk_at dksX14_mind_0 18 rfl rfl)
theorem dX14_mind_19 : decode cX14_mind 19 = .ok (.invokevirtual 113, 3) := dk_182 0 113 (dk_at dksX14_mind_0 19 rfl rfl)
theorem dX14_mind_22 : decode cX14_mind 22 = .ok (.goto 4, 3) := dk_167 0 4 (dk_at dksX14_mind_1 0 rfl rfl)
theorem dX14_mind_25 : decode cX14_mind 25 = .ok (.iconst (-1), 1) := dk_2 (dk_at dksX14_mind_1 3 rfl rfl)
theorem dX14_mind_26 : decode cX14_mind 26 = .ok (.ireturn, 1) := dk_172 (dk_at dksX14_mind_1 4 rfl rfl)
abbrev cX14_changed : ByteArray := prog_28_method_29_code
def yX14_changed : MethodName := ⟨RX14, "changed", "(III)I"⟩
def dkwX14_changed_0 : List UInt8 := [42, 16, 29, 8, 27, 104, 96, 28, 96, 29, 182, 0, 71, 172]
abbrev dktX14_changed_0 : List UInt8 := dkwX14_changed_0 ++ []
theorem dksX14_changed_0 : cX14_changed.data.toList.drop 0 = dktX14_changed_0 := by decide +kernel
theorem dX14_changed_0 : decode cX14_changed 0 = .ok (.aload_n 0, 1) := dk_42 (dk_at dksX14_changed_0 0 rfl rfl)
theorem dX14_changed_1 : decode cX14_changed 1 = .ok (.bipush 29, 2) := dk_16 29 (dk_at dksX14_changed_0 1 rfl rfl)
theorem dX14_changed_3 : decode cX14_changed 3 = .ok (.iconst 5, 1) := dk_8 (dk_at dksX14_changed_0 3 rfl rfl)
theorem dX14_changed_4 : decode cX14_changed 4 = .ok (.iload_n 1, 1) := dk_27 (dk_at dksX14_changed_0 4 rfl rfl)
theorem dX14_changed_5 : decode cX14_changed 5 = .ok (.imul, 1) := dk_104 (dk_at dksX14_changed_0 5 rfl rfl)
theorem dX14_changed_6 : decode cX14_changed 6 = .ok (.iadd, 1) := dk_96 (dk_at dksX14_changed_0 6 rfl rfl)
theorem dX14_changed_7 : decode cX14_changed 7 = .ok (.iload_n 2, 1) := dk_28 (dk_at dksX14_changed_0 7 rfl rfl)
theorem dX14_changed_8 : decode cX14_changed 8 = .ok (.iadd, 1) := dk_96 (dk_at dksX14_changed_0 8 rfl rfl)
theorem dX14_changed_9 : decode cX14_changed 9 = .ok (.iload_n 3, 1) := dk_29 (dk_at dksX14_changed_0 9 rfl rfl)
theorem dX14_changed_10 : decode cX14_changed 10 = .ok (.invokevirtual 71, 3) := dk_182 0 71 (dk_at dksX14_changed_0 10 rfl rfl)
theorem dX14_changed_13 : decode cX14_changed 13 = .ok (.ireturn, 1) := dk_172 (dk_at dksX14_changed_0 13 rfl rfl)
abbrev cX14_steep : ByteArray := prog_28_method_32_code
def yX14_steep : MethodName := ⟨RX14, "steep", "(III)I"⟩
def dkwX14_steep_3 : List UInt8 := [182, 0, 113, 96, 172]
abbrev dktX14_steep_3 : List UInt8 := dkwX14_steep_3 ++ []
def dkwX14_steep_2 : List UInt8 := [153, 0, 8, 21, 4, 154, 0, 5, 2, 172, 42, 27, 5, 29, 182, 0, 85, 4, 42, 27, 4, 28]
abbrev dktX14_steep_2 : List UInt8 := dkwX14_steep_2 ++ dktX14_steep_3
def dkwX14_steep_1 : List UInt8 := [29, 133, 10, 20, 0, 128, 184, 0, 59, 153, 0, 7, 4, 167, 0, 4, 3, 54, 4, 42, 27, 182, 0, 96]
abbrev dktX14_steep_1 : List UInt8 := dkwX14_steep_1 ++ dktX14_steep_2
def dkwX14_steep_0 : List UInt8 := [28, 2, 160, 0, 15, 29, 154, 0, 7, 4, 167, 0, 31, 3, 167, 0, 27, 28, 184, 0, 125, 153, 0, 19]
abbrev dktX14_steep_0 : List UInt8 := dkwX14_steep_0 ++ dktX14_steep_1
theorem dksX14_steep_0 : cX14_steep.data.toList.drop 0 = dktX14_steep_0 := by decide +kernel
theorem dksX14_steep_1 : cX14_steep.data.toList.drop 24 = dktX14_steep_1 := dk_seg dksX14_steep_0 24 rfl rfl
theorem dksX14_steep_2 : cX14_steep.data.toList.drop 48 = dktX14_steep_2 := dk_seg dksX14_steep_1 24 rfl rfl
theorem dksX14_steep_3 : cX14_steep.data.toList.drop 70 = dktX14_steep_3 := dk_seg dksX14_steep_2 22 rfl rfl
theorem dX14_steep_0 : decode cX14_steep 0 = .ok (.iload_n 2, 1) := dk_28 (dk_at dksX14_steep_0 0 rfl rfl)
theorem dX14_steep_1 : decode cX14_steep 1 = .ok (.iconst (-1), 1) := dk_2 (dk_at dksX14_steep_0 1 rfl rfl)
theorem dX14_steep_2 : decode cX14_steep 2 = .ok (.if_icmp .ne 15, 3) := dk_160 0 15 (dk_at dksX14_steep_0 2 rfl rfl)
theorem dX14_steep_5 : decode cX14_steep 5 = .ok (.iload_n 3, 1) := dk_29 (dk_at dksX14_steep_0 5 rfl rfl)
theorem dX14_steep_6 : decode cX14_steep 6 = .ok (.ifCond .ne 7, 3) := dk_154 0 7 (dk_at dksX14_steep_0 6 rfl rfl)
theorem dX14_steep_9 : decode cX14_steep 9 = .ok (.iconst 1, 1) := dk_4 (dk_at dksX14_steep_0 9 rfl rfl)
theorem dX14_steep_10 : decode cX14_steep 10 = .ok (.goto 31, 3) := dk_167 0 31 (dk_at dksX14_steep_0 10 rfl rfl)
theorem dX14_steep_13 : decode cX14_steep 13 = .ok (.iconst 0, 1) := dk_3 (dk_at dksX14_steep_0 13 rfl rfl)
theorem dX14_steep_14 : decode cX14_steep 14 = .ok (.goto 27, 3) := dk_167 0 27 (dk_at dksX14_steep_0 14 rfl rfl)
theorem dX14_steep_17 : decode cX14_steep 17 = .ok (.iload_n 2, 1) := dk_28 (dk_at dksX14_steep_0 17 rfl rfl)
theorem dX14_steep_18 : decode cX14_steep 18 = .ok (.invokestatic 125, 3) := dk_184 0 125 (dk_at dksX14_steep_0 18 rfl rfl)
theorem dX14_steep_21 : decode cX14_steep 21 = .ok (.ifCond .eq 19, 3) := dk_153 0 19 (dk_at dksX14_steep_0 21 rfl rfl)
theorem dX14_steep_24 : decode cX14_steep 24 = .ok (.iload_n 3, 1) := dk_29 (dk_at dksX14_steep_1 0 rfl rfl)
theorem dX14_steep_25 : decode cX14_steep 25 = .ok (.i2l, 1) := dk_133 (dk_at dksX14_steep_1 1 rfl rfl)
theorem dX14_steep_26 : decode cX14_steep 26 = .ok (.lconst 1, 1) := dk_10 (dk_at dksX14_steep_1 2 rfl rfl)
theorem dX14_steep_27 : decode cX14_steep 27 = .ok (.ldc2_w 128, 3) := dk_20 0 128 (dk_at dksX14_steep_1 3 rfl rfl)
theorem dX14_steep_30 : decode cX14_steep 30 = .ok (.invokestatic 59, 3) := dk_184 0 59 (dk_at dksX14_steep_1 6 rfl rfl)
theorem dX14_steep_33 : decode cX14_steep 33 = .ok (.ifCond .eq 7, 3) := dk_153 0 7 (dk_at dksX14_steep_1 9 rfl rfl)
theorem dX14_steep_36 : decode cX14_steep 36 = .ok (.iconst 1, 1) := dk_4 (dk_at dksX14_steep_1 12 rfl rfl)
theorem dX14_steep_37 : decode cX14_steep 37 = .ok (.goto 4, 3) := dk_167 0 4 (dk_at dksX14_steep_1 13 rfl rfl)
theorem dX14_steep_40 : decode cX14_steep 40 = .ok (.iconst 0, 1) := dk_3 (dk_at dksX14_steep_1 16 rfl rfl)
theorem dX14_steep_41 : decode cX14_steep 41 = .ok (.istore 4, 2) := dk_54 4 (dk_at dksX14_steep_1 17 rfl rfl)
theorem dX14_steep_43 : decode cX14_steep 43 = .ok (.aload_n 0, 1) := dk_42 (dk_at dksX14_steep_1 19 rfl rfl)
theorem dX14_steep_44 : decode cX14_steep 44 = .ok (.iload_n 1, 1) := dk_27 (dk_at dksX14_steep_1 20 rfl rfl)
theorem dX14_steep_45 : decode cX14_steep 45 = .ok (.invokevirtual 96, 3) := dk_182 0 96 (dk_at dksX14_steep_1 21 rfl rfl)
theorem dX14_steep_48 : decode cX14_steep 48 = .ok (.ifCond .eq 8, 3) := dk_153 0 8 (dk_at dksX14_steep_2 0 rfl rfl)
theorem dX14_steep_51 : decode cX14_steep 51 = .ok (.iload 4, 2) := dk_21 4 (dk_at dksX14_steep_2 3 rfl rfl)
theorem dX14_steep_53 : decode cX14_steep 53 = .ok (.ifCond .ne 5, 3) := dk_154 0 5 (dk_at dksX14_steep_2 5 rfl rfl)
theorem dX14_steep_56 : decode cX14_steep 56 = .ok (.iconst (-1), 1) := dk_2 (dk_at dksX14_steep_2 8 rfl rfl)
theorem dX14_steep_57 : decode cX14_steep 57 = .ok (.ireturn, 1) := dk_172 (dk_at dksX14_steep_2 9 rfl rfl)
theorem dX14_steep_58 : decode cX14_steep 58 = .ok (.aload_n 0, 1) := dk_42 (dk_at dksX14_steep_2 10 rfl rfl)
theorem dX14_steep_59 : decode cX14_steep 59 = .ok (.iload_n 1, 1) := dk_27 (dk_at dksX14_steep_2 11 rfl rfl)
theorem dX14_steep_60 : decode cX14_steep 60 = .ok (.iconst 2, 1) := dk_5 (dk_at dksX14_steep_2 12 rfl rfl)
theorem dX14_steep_61 : decode cX14_steep 61 = .ok (.iload_n 3, 1) := dk_29 (dk_at dksX14_steep_2 13 rfl rfl)
theorem dX14_steep_62 : decode cX14_steep 62 = .ok (.invokevirtual 85, 3) := dk_182 0 85 (dk_at dksX14_steep_2 14 rfl rfl)
theorem dX14_steep_65 : decode cX14_steep 65 = .ok (.iconst 1, 1) := dk_4 (dk_at dksX14_steep_2 17 rfl rfl)
theorem dX14_steep_66 : decode cX14_steep 66 = .ok (.aload_n 0, 1) := dk_42 (dk_at dksX14_steep_2 18 rfl rfl)
theorem dX14_steep_67 : decode cX14_steep 67 = .ok (.iload_n 1, 1) := dk_27 (dk_at dksX14_steep_2 19 rfl rfl)
theorem dX14_steep_68 : decode cX14_steep 68 = .ok (.iconst 1, 1) := dk_4 (dk_at dksX14_steep_2 20 rfl rfl)
theorem dX14_steep_69 : decode cX14_steep 69 = .ok (.iload_n 2, 1) := dk_28 (dk_at dksX14_steep_2 21 rfl rfl)
theorem dX14_steep_70 : decode cX14_steep 70 = .ok (.invokevirtual 113, 3) := dk_182 0 113 (dk_at dksX14_steep_3 0 rfl rfl)
theorem dX14_steep_73 : decode cX14_steep 73 = .ok (.iadd, 1) := dk_96 (dk_at dksX14_steep_3 3 rfl rfl)
theorem dX14_steep_74 : decode cX14_steep 74 = .ok (.ireturn, 1) := dk_172 (dk_at dksX14_steep_3 4 rfl rfl)
abbrev cX14_isPurpose : ByteArray := prog_28_method_9_code
def yX14_isPurpose : MethodName := ⟨RX14, "isPurpose", "(I)Z"⟩
def dkwX14_isPurpose_0 : List UInt8 := [26, 133, 9, 20, 0, 65, 184, 0, 59, 172]
abbrev dktX14_isPurpose_0 : List UInt8 := dkwX14_isPurpose_0 ++ []
theorem dksX14_isPurpose_0 : cX14_isPurpose.data.toList.drop 0 = dktX14_isPurpose_0 := by decide +kernel
theorem dX14_isPurpose_0 : decode cX14_isPurpose 0 = .ok (.iload_n 0, 1) := dk_26 (dk_at dksX14_isPurpose_0 0 rfl rfl)
theorem dX14_isPurpose_1 : decode cX14_isPurpose 1 = .ok (.i2l, 1) := dk_133 (dk_at dksX14_isPurpose_0 1 rfl rfl)
theorem dX14_isPurpose_2 : decode cX14_isPurpose 2 = .ok (.lconst 0, 1) := dk_9 (dk_at dksX14_isPurpose_0 2 rfl rfl)
theorem dX14_isPurpose_3 : decode cX14_isPurpose 3 = .ok (.ldc2_w 65, 3) := dk_20 0 65 (dk_at dksX14_isPurpose_0 3 rfl rfl)
theorem dX14_isPurpose_6 : decode cX14_isPurpose 6 = .ok (.invokestatic 59, 3) := dk_184 0 59 (dk_at dksX14_isPurpose_0 6 rfl rfl)
theorem dX14_isPurpose_9 : decode cX14_isPurpose 9 = .ok (.ireturn, 1) := dk_172 (dk_at dksX14_isPurpose_0 9 rfl rfl)
abbrev cX14_hang : ByteArray := prog_28_method_33_code
def yX14_hang : MethodName := ⟨RX14, "hang", "(II)I"⟩
def dkwX14_hang_1 : List UInt8 := [182, 0, 113, 167, 0, 4, 2, 172]
abbrev dktX14_hang_1 : List UInt8 := dkwX14_hang_1 ++ []
def dkwX14_hang_0 : List UInt8 := [42, 27, 182, 0, 96, 153, 0, 23, 28, 133, 9, 10, 184, 0, 59, 153, 0, 13, 42, 27, 6, 28]
abbrev dktX14_hang_0 : List UInt8 := dkwX14_hang_0 ++ dktX14_hang_1
theorem dksX14_hang_0 : cX14_hang.data.toList.drop 0 = dktX14_hang_0 := by decide +kernel
theorem dksX14_hang_1 : cX14_hang.data.toList.drop 22 = dktX14_hang_1 := dk_seg dksX14_hang_0 22 rfl rfl
theorem dX14_hang_0 : decode cX14_hang 0 = .ok (.aload_n 0, 1) := dk_42 (dk_at dksX14_hang_0 0 rfl rfl)
theorem dX14_hang_1 : decode cX14_hang 1 = .ok (.iload_n 1, 1) := dk_27 (dk_at dksX14_hang_0 1 rfl rfl)
theorem dX14_hang_2 : decode cX14_hang 2 = .ok (.invokevirtual 96, 3) := dk_182 0 96 (dk_at dksX14_hang_0 2 rfl rfl)
theorem dX14_hang_5 : decode cX14_hang 5 = .ok (.ifCond .eq 23, 3) := dk_153 0 23 (dk_at dksX14_hang_0 5 rfl rfl)
theorem dX14_hang_8 : decode cX14_hang 8 = .ok (.iload_n 2, 1) := dk_28 (dk_at dksX14_hang_0 8 rfl rfl)
theorem dX14_hang_9 : decode cX14_hang 9 = .ok (.i2l, 1) := dk_133 (dk_at dksX14_hang_0 9 rfl rfl)
theorem dX14_hang_10 : decode cX14_hang 10 = .ok (.lconst 0, 1) := dk_9 (dk_at dksX14_hang_0 10 rfl rfl)
theorem dX14_hang_11 : decode cX14_hang 11 = .ok (.lconst 1, 1) := dk_10 (dk_at dksX14_hang_0 11 rfl rfl)
theorem dX14_hang_12 : decode cX14_hang 12 = .ok (.invokestatic 59, 3) := dk_184 0 59 (dk_at dksX14_hang_0 12 rfl rfl)
theorem dX14_hang_15 : decode cX14_hang 15 = .ok (.ifCond .eq 13, 3) := dk_153 0 13 (dk_at dksX14_hang_0 15 rfl rfl)
theorem dX14_hang_18 : decode cX14_hang 18 = .ok (.aload_n 0, 1) := dk_42 (dk_at dksX14_hang_0 18 rfl rfl)
theorem dX14_hang_19 : decode cX14_hang 19 = .ok (.iload_n 1, 1) := dk_27 (dk_at dksX14_hang_0 19 rfl rfl)
theorem dX14_hang_20 : decode cX14_hang 20 = .ok (.iconst 3, 1) := dk_6 (dk_at dksX14_hang_0 20 rfl rfl)
theorem dX14_hang_21 : decode cX14_hang 21 = .ok (.iload_n 2, 1) := dk_28 (dk_at dksX14_hang_0 21 rfl rfl)
theorem dX14_hang_22 : decode cX14_hang 22 = .ok (.invokevirtual 113, 3) := dk_182 0 113 (dk_at dksX14_hang_1 0 rfl rfl)
theorem dX14_hang_25 : decode cX14_hang 25 = .ok (.goto 4, 3) := dk_167 0 4 (dk_at dksX14_hang_1 3 rfl rfl)
theorem dX14_hang_28 : decode cX14_hang 28 = .ok (.iconst (-1), 1) := dk_2 (dk_at dksX14_hang_1 6 rfl rfl)
theorem dX14_hang_29 : decode cX14_hang 29 = .ok (.ireturn, 1) := dk_172 (dk_at dksX14_hang_1 7 rfl rfl)
abbrev cX14_dip : ByteArray := prog_28_method_35_code
def yX14_dip : MethodName := ⟨RX14, "dip", "(II)I"⟩
def dkwX14_dip_1 : List UInt8 := [42, 27, 4, 182, 0, 82, 96, 172]
abbrev dktX14_dip_1 : List UInt8 := dkwX14_dip_1 ++ []
def dkwX14_dip_0 : List UInt8 := [42, 27, 182, 0, 96, 153, 0, 10, 28, 184, 0, 75, 154, 0, 5, 2, 172, 42, 27, 28, 182, 0, 137, 4]
abbrev dktX14_dip_0 : List UInt8 := dkwX14_dip_0 ++ dktX14_dip_1
theorem dksX14_dip_0 : cX14_dip.data.toList.drop 0 = dktX14_dip_0 := by decide +kernel
theorem dksX14_dip_1 : cX14_dip.data.toList.drop 24 = dktX14_dip_1 := dk_seg dksX14_dip_0 24 rfl rfl
theorem dX14_dip_0 : decode cX14_dip 0 = .ok (.aload_n 0, 1) := dk_42 (dk_at dksX14_dip_0 0 rfl rfl)
theorem dX14_dip_1 : decode cX14_dip 1 = .ok (.iload_n 1, 1) := dk_27 (dk_at dksX14_dip_0 1 rfl rfl)
theorem dX14_dip_2 : decode cX14_dip 2 = .ok (.invokevirtual 96, 3) := dk_182 0 96 (dk_at dksX14_dip_0 2 rfl rfl)
theorem dX14_dip_5 : decode cX14_dip 5 = .ok (.ifCond .eq 10, 3) := dk_153 0 10 (dk_at dksX14_dip_0 5 rfl rfl)
theorem dX14_dip_8 : decode cX14_dip 8 = .ok (.iload_n 2, 1) := dk_28 (dk_at dksX14_dip_0 8 rfl rfl)
theorem dX14_dip_9 : decode cX14_dip 9 = .ok (.invokestatic 75, 3) := dk_184 0 75 (dk_at dksX14_dip_0 9 rfl rfl)
theorem dX14_dip_12 : decode cX14_dip 12 = .ok (.ifCond .ne 5, 3) := dk_154 0 5 (dk_at dksX14_dip_0 12 rfl rfl)
theorem dX14_dip_15 : decode cX14_dip 15 = .ok (.iconst (-1), 1) := dk_2 (dk_at dksX14_dip_0 15 rfl rfl)
theorem dX14_dip_16 : decode cX14_dip 16 = .ok (.ireturn, 1) := dk_172 (dk_at dksX14_dip_0 16 rfl rfl)
theorem dX14_dip_17 : decode cX14_dip 17 = .ok (.aload_n 0, 1) := dk_42 (dk_at dksX14_dip_0 17 rfl rfl)
theorem dX14_dip_18 : decode cX14_dip 18 = .ok (.iload_n 1, 1) := dk_27 (dk_at dksX14_dip_0 18 rfl rfl)
theorem dX14_dip_19 : decode cX14_dip 19 = .ok (.iload_n 2, 1) := dk_28 (dk_at dksX14_dip_0 19 rfl rfl)
theorem dX14_dip_20 : decode cX14_dip 20 = .ok (.invokevirtual 137, 3) := dk_182 0 137 (dk_at dksX14_dip_0 20 rfl rfl)
theorem dX14_dip_23 : decode cX14_dip 23 = .ok (.iconst 1, 1) := dk_4 (dk_at dksX14_dip_0 23 rfl rfl)
theorem dX14_dip_24 : decode cX14_dip 24 = .ok (.aload_n 0, 1) := dk_42 (dk_at dksX14_dip_1 0 rfl rfl)
theorem dX14_dip_25 : decode cX14_dip 25 = .ok (.iload_n 1, 1) := dk_27 (dk_at dksX14_dip_1 1 rfl rfl)
theorem dX14_dip_26 : decode cX14_dip 26 = .ok (.iconst 1, 1) := dk_4 (dk_at dksX14_dip_1 2 rfl rfl)
theorem dX14_dip_27 : decode cX14_dip 27 = .ok (.invokevirtual 82, 3) := dk_182 0 82 (dk_at dksX14_dip_1 3 rfl rfl)
theorem dX14_dip_30 : decode cX14_dip 30 = .ok (.iadd, 1) := dk_96 (dk_at dksX14_dip_1 6 rfl rfl)
theorem dX14_dip_31 : decode cX14_dip 31 = .ok (.ireturn, 1) := dk_172 (dk_at dksX14_dip_1 7 rfl rfl)
abbrev cX14_dips : ByteArray := prog_28_method_34_code
def yX14_dips : MethodName := ⟨RX14, "dips", "(II)V"⟩
def dkwX14_dips_6 : List UInt8 := [100, 184, 0, 122, 79, 177]
abbrev dktX14_dips_6 : List UInt8 := dkwX14_dips_6 ++ []
def dkwX14_dips_5 : List UInt8 := [7, 182, 0, 82, 4, 96, 184, 0, 117, 182, 0, 85, 42, 180, 0, 16, 16, 15, 28, 96, 3, 21, 4, 4]
abbrev dktX14_dips_5 : List UInt8 := dkwX14_dips_5 ++ dktX14_dips_6
def dkwX14_dips_4 : List UInt8 := [27, 4, 29, 182, 0, 85, 42, 27, 21, 6, 184, 0, 134, 182, 0, 130, 42, 27, 7, 17, 39, 15, 42, 27]
abbrev dktX14_dips_4 : List UInt8 := dkwX14_dips_4 ++ dktX14_dips_5
def dkwX14_dips_3 : List UInt8 := [182, 0, 130, 167, 0, 37, 21, 5, 42, 27, 21, 4, 182, 0, 106, 100, 54, 6, 21, 6, 156, 0, 10, 42]
abbrev dktX14_dips_3 : List UInt8 := dkwX14_dips_3 ++ dktX14_dips_4
def dkwX14_dips_2 : List UInt8 := [160, 0, 28, 42, 27, 4, 29, 182, 0, 85, 42, 27, 21, 5, 42, 27, 21, 4, 182, 0, 103, 96]
abbrev dktX14_dips_2 : List UInt8 := dkwX14_dips_2 ++ dktX14_dips_3
def dkwX14_dips_1 : List UInt8 := [182, 0, 82, 54, 5, 42, 27, 4, 182, 0, 82, 2, 159, 0, 13, 42, 27, 4, 182, 0, 82, 29]
abbrev dktX14_dips_1 : List UInt8 := dkwX14_dips_1 ++ dktX14_dips_2
def dkwX14_dips_0 : List UInt8 := [42, 180, 0, 16, 16, 7, 28, 96, 46, 62, 42, 180, 0, 16, 16, 15, 28, 96, 46, 54, 4, 42, 27, 5]
abbrev dktX14_dips_0 : List UInt8 := dkwX14_dips_0 ++ dktX14_dips_1
theorem dksX14_dips_0 : cX14_dips.data.toList.drop 0 = dktX14_dips_0 := by decide +kernel
theorem dksX14_dips_1 : cX14_dips.data.toList.drop 24 = dktX14_dips_1 := dk_seg dksX14_dips_0 24 rfl rfl
theorem dksX14_dips_2 : cX14_dips.data.toList.drop 46 = dktX14_dips_2 := dk_seg dksX14_dips_1 22 rfl rfl
theorem dksX14_dips_3 : cX14_dips.data.toList.drop 68 = dktX14_dips_3 := dk_seg dksX14_dips_2 22 rfl rfl
theorem dksX14_dips_4 : cX14_dips.data.toList.drop 92 = dktX14_dips_4 := dk_seg dksX14_dips_3 24 rfl rfl
theorem dksX14_dips_5 : cX14_dips.data.toList.drop 116 = dktX14_dips_5 := dk_seg dksX14_dips_4 24 rfl rfl
theorem dksX14_dips_6 : cX14_dips.data.toList.drop 140 = dktX14_dips_6 := dk_seg dksX14_dips_5 24 rfl rfl
theorem dX14_dips_0 : decode cX14_dips 0 = .ok (.aload_n 0, 1) := dk_42 (dk_at dksX14_dips_0 0 rfl rfl)
theorem dX14_dips_1 : decode cX14_dips 1 = .ok (.getfield 16, 3) := dk_180 0 16 (dk_at dksX14_dips_0 1 rfl rfl)
theorem dX14_dips_4 : decode cX14_dips 4 = .ok (.bipush 7, 2) := dk_16 7 (dk_at dksX14_dips_0 4 rfl rfl)
theorem dX14_dips_6 : decode cX14_dips 6 = .ok (.iload_n 2, 1) := dk_28 (dk_at dksX14_dips_0 6 rfl rfl)
theorem dX14_dips_7 : decode cX14_dips 7 = .ok (.iadd, 1) := dk_96 (dk_at dksX14_dips_0 7 rfl rfl)
theorem dX14_dips_8 : decode cX14_dips 8 = .ok (.iaload, 1) := dk_46 (dk_at dksX14_dips_0 8 rfl rfl)
theorem dX14_dips_9 : decode cX14_dips 9 = .ok (.istore_n 3, 1) := dk_62 (dk_at dksX14_dips_0 9 rfl rfl)
theorem dX14_dips_10 : decode cX14_dips 10 = .ok (.aload_n 0, 1) := dk_42 (dk_at dksX14_dips_0 10 rfl rfl)
theorem dX14_dips_11 : decode cX14_dips 11 = .ok (.getfield 16, 3) := dk_180 0 16 (dk_at dksX14_dips_0 11 rfl rfl)
theorem dX14_dips_14 : decode cX14_dips 14 = .ok (.bipush 15, 2) := dk_16 15 (dk_at dksX14_dips_0 14 rfl rfl)
theorem dX14_dips_16 : decode cX14_dips 16 = .ok (.iload_n 2, 1) := dk_28 (dk_at dksX14_dips_0 16 rfl rfl)
theorem dX14_dips_17 : decode cX14_dips 17 = .ok (.iadd, 1) := dk_96 (dk_at dksX14_dips_0 17 rfl rfl)
theorem dX14_dips_18 : decode cX14_dips 18 = .ok (.iaload, 1) := dk_46 (dk_at dksX14_dips_0 18 rfl rfl)
theorem dX14_dips_19 : decode cX14_dips 19 = .ok (.istore 4, 2) := dk_54 4 (dk_at dksX14_dips_0 19 rfl rfl)
theorem dX14_dips_21 : decode cX14_dips 21 = .ok (.aload_n 0, 1) := dk_42 (dk_at dksX14_dips_0 21 rfl rfl)
theorem dX14_dips_22 : decode cX14_dips 22 = .ok (.iload_n 1, 1) := dk_27 (dk_at dksX14_dips_0 22 rfl rfl)
theorem dX14_dips_23 : decode cX14_dips 23 = .ok (.iconst 2, 1) := dk_5 (dk_at dksX14_dips_0 23 rfl rfl)
theorem dX14_dips_24 : decode cX14_dips 24 = .ok (.invokevirtual 82, 3) := dk_182 0 82 (dk_at dksX14_dips_1 0 rfl rfl)
theorem dX14_dips_27 : decode cX14_dips 27 = .ok (.istore 5, 2) := dk_54 5 (dk_at dksX14_dips_1 3 rfl rfl)
theorem dX14_dips_29 : decode cX14_dips 29 = .ok (.aload_n 0, 1) := dk_42 (dk_at dksX14_dips_1 5 rfl rfl)
theorem dX14_dips_30 : decode cX14_dips 30 = .ok (.iload_n 1, 1) := dk_27 (dk_at dksX14_dips_1 6 rfl rfl)
theorem dX14_dips_31 : decode cX14_dips 31 = .ok (.iconst 1, 1) := dk_4 (dk_at dksX14_dips_1 7 rfl rfl)
theorem dX14_dips_32 : decode cX14_dips 32 = .ok (.invokevirtual 82, 3) := dk_182 0 82 (dk_at dksX14_dips_1 8 rfl rfl)
theorem dX14_dips_35 : decode cX14_dips 35 = .ok (.iconst (-1), 1) := dk_2 (dk_at dksX14_dips_1 11 rfl rfl)
theorem dX14_dips_36 : decode cX14_dips 36 = .ok (.if_icmp .eq 13, 3) := dk_159 0 13 (dk_at dksX14_dips_1 12 rfl rfl)
theorem dX14_dips_39 : decode cX14_dips 39 = .ok (.aload_n 0, 1) := dk_42 (dk_at dksX14_dips_1 15 rfl rfl)
theorem dX14_dips_40 : decode cX14_dips 40 = .ok (.iload_n 1, 1) := dk_27 (dk_at dksX14_dips_1 16 rfl rfl)
theorem dX14_dips_41 : decode cX14_dips 41 = .ok (.iconst 1, 1) := dk_4 (dk_at dksX14_dips_1 17 rfl rfl)
theorem dX14_dips_42 : decode cX14_dips 42 = .ok (.invokevirtual 82, 3) := dk_182 0 82 (dk_at dksX14_dips_1 18 rfl rfl)
theorem dX14_dips_45 : decode cX14_dips 45 = .ok (.iload_n 3, 1) := dk_29 (dk_at dksX14_dips_1 21 rfl rfl)
theorem dX14_dips_46 : decode cX14_dips 46 = .ok (.if_icmp .ne 28, 3) := dk_160 0 28 (dk_at dksX14_dips_2 0 rfl rfl)
theorem dX14_dips_49 : decode cX14_dips 49 = .ok (.aload_n 0, 1) := dk_42 (dk_at dksX14_dips_2 3 rfl rfl)
theorem dX14_dips_50 : decode cX14_dips 50 = .ok (.iload_n 1, 1) := dk_27 (dk_at dksX14_dips_2 4 rfl rfl)
theorem dX14_dips_51 : decode cX14_dips 51 = .ok (.iconst 1, 1) := dk_4 (dk_at dksX14_dips_2 5 rfl rfl)
theorem dX14_dips_52 : decode cX14_dips 52 = .ok (.iload_n 3, 1) := dk_29 (dk_at dksX14_dips_2 6 rfl rfl)
theorem dX14_dips_53 : decode cX14_dips 53 = .ok (.invokevirtual 85, 3) := dk_182 0 85 (dk_at dksX14_dips_2 7 rfl rfl)
theorem dX14_dips_56 : decode cX14_dips 56 = .ok (.aload_n 0, 1) := dk_42 (dk_at dksX14_dips_2 10 rfl rfl)
theorem dX14_dips_57 : decode cX14_dips 57 = .ok (.iload_n 1, 1) := dk_27 (dk_at dksX14_dips_2 11 rfl rfl)
theorem dX14_dips_58 : decode cX14_dips 58 = .ok (.iload 5, 2) := dk_21 5 (dk_at dksX14_dips_2 12 rfl rfl)
theorem dX14_dips_60 : decode cX14_dips 60 = .ok (.aload_n 0, 1) := dk_42 (dk_at dksX14_dips_2 14 rfl rfl)
theorem dX14_dips_61 : decode cX14_dips 61 = .ok (.iload_n 1, 1) := dk_27 (dk_at dksX14_dips_2 15 rfl rfl)
theorem dX14_dips_62 : decode cX14_dips 62 = .ok (.iload 4, 2) := dk_21 4 (dk_at dksX14_dips_2 16 rfl rfl)
theorem dX14_dips_64 : decode cX14_dips 64 = .ok (.invokevirtual 103, 3) := dk_182 0 103 (dk_at dksX14_dips_2 18 rfl rfl)
theorem dX14_dips_67 : decode cX14_dips 67 = .ok (.iadd, 1) := dk_96 (dk_at dksX14_dips_2 21 rfl rfl)
theorem dX14_dips_68 : decode cX14_dips 68 = .ok (.invokevirtual 130, 3) := dk_182 0 130 (dk_at dksX14_dips_3 0 rfl rfl)
theorem dX14_dips_71 : decode cX14_dips 71 = .ok (.goto 37, 3) := dk_167 0 37 (dk_at dksX14_dips_3 3 rfl rfl)
theorem dX14_dips_74 : decode cX14_dips 74 = .ok (.iload 5, 2) := dk_21 5 (dk_at dksX14_dips_3 6 rfl rfl)
theorem dX14_dips_76 : decode cX14_dips 76 = .ok (.aload_n 0, 1) := dk_42 (dk_at dksX14_dips_3 8 rfl rfl)
theorem dX14_dips_77 : decode cX14_dips 77 = .ok (.iload_n 1, 1) := dk_27 (dk_at dksX14_dips_3 9 rfl rfl)
theorem dX14_dips_78 : decode cX14_dips 78 = .ok (.iload 4, 2) := dk_21 4 (dk_at dksX14_dips_3 10 rfl rfl)
theorem dX14_dips_80 : decode cX14_dips 80 = .ok (.invokevirtual 106, 3) := dk_182 0 106 (dk_at dksX14_dips_3 12 rfl rfl)
theorem dX14_dips_83 : decode cX14_dips 83 = .ok (.isub, 1) := dk_100 (dk_at dksX14_dips_3 15 rfl rfl)
theorem dX14_dips_84 : decode cX14_dips 84 = .ok (.istore 6, 2) := dk_54 6 (dk_at dksX14_dips_3 16 rfl rfl)
theorem dX14_dips_86 : decode cX14_dips 86 = .ok (.iload 6, 2) := dk_21 6 (dk_at dksX14_dips_3 18 rfl rfl)
theorem dX14_dips_88 : decode cX14_dips 88 = .ok (.ifCond .ge 10, 3) := dk_156 0 10 (dk_at dksX14_dips_3 20 rfl rfl)
theorem dX14_dips_91 : decode cX14_dips 91 = .ok (.aload_n 0, 1) := dk_42 (dk_at dksX14_dips_3 23 rfl rfl)
theorem dX14_dips_92 : decode cX14_dips 92 = .ok (.iload_n 1, 1) := dk_27 (dk_at dksX14_dips_4 0 rfl rfl)
theorem dX14_dips_93 : decode cX14_dips 93 = .ok (.iconst 1, 1) := dk_4 (dk_at dksX14_dips_4 1 rfl rfl)
theorem dX14_dips_94 : decode cX14_dips 94 = .ok (.iload_n 3, 1) := dk_29 (dk_at dksX14_dips_4 2 rfl rfl)
theorem dX14_dips_95 : decode cX14_dips 95 = .ok (.invokevirtual 85, 3) := dk_182 0 85 (dk_at dksX14_dips_4 3 rfl rfl)
theorem dX14_dips_98 : decode cX14_dips 98 = .ok (.aload_n 0, 1) := dk_42 (dk_at dksX14_dips_4 6 rfl rfl)
theorem dX14_dips_99 : decode cX14_dips 99 = .ok (.iload_n 1, 1) := dk_27 (dk_at dksX14_dips_4 7 rfl rfl)
theorem dX14_dips_100 : decode cX14_dips 100 = .ok (.iload 6, 2) := dk_21 6 (dk_at dksX14_dips_4 8 rfl rfl)
theorem dX14_dips_102 : decode cX14_dips 102 = .ok (.invokestatic 134, 3) := dk_184 0 134 (dk_at dksX14_dips_4 10 rfl rfl)
theorem dX14_dips_105 : decode cX14_dips 105 = .ok (.invokevirtual 130, 3) := dk_182 0 130 (dk_at dksX14_dips_4 13 rfl rfl)
theorem dX14_dips_108 : decode cX14_dips 108 = .ok (.aload_n 0, 1) := dk_42 (dk_at dksX14_dips_4 16 rfl rfl)
theorem dX14_dips_109 : decode cX14_dips 109 = .ok (.iload_n 1, 1) := dk_27 (dk_at dksX14_dips_4 17 rfl rfl)
theorem dX14_dips_110 : decode cX14_dips 110 = .ok (.iconst 4, 1) := dk_7 (dk_at dksX14_dips_4 18 rfl rfl)
theorem dX14_dips_111 : decode cX14_dips 111 = .ok (.sipush 9999, 3) := dk_17 39 15 (dk_at dksX14_dips_4 19 rfl rfl)
theorem dX14_dips_114 : decode cX14_dips 114 = .ok (.aload_n 0, 1) := dk_42 (dk_at dksX14_dips_4 22 rfl rfl)
theorem dX14_dips_115 : decode cX14_dips 115 = .ok (.iload_n 1, 1) := dk_27 (dk_at dksX14_dips_4 23 rfl rfl)
theorem dX14_dips_116 : decode cX14_dips 116 = .ok (.iconst 4, 1) := dk_7 (dk_at dksX14_dips_5 0 rfl rfl)
theorem dX14_dips_117 : decode cX14_dips 117 = .ok (.invokevirtual 82, 3) := dk_182 0 82 (dk_at dksX14_dips_5 1 rfl rfl)
theorem dX14_dips_120 : decode cX14_dips 120 = .ok (.iconst 1, 1) := dk_4 (dk_at dksX14_dips_5 4 rfl rfl)
theorem dX14_dips_121 : decode cX14_dips 121 = .ok (.iadd, 1) := dk_96 (dk_at dksX14_dips_5 5 rfl rfl)
theorem dX14_dips_122 : decode cX14_dips 122 = .ok (.invokestatic 117, 3) := dk_184 0 117 (dk_at dksX14_dips_5 6 rfl rfl)
theorem dX14_dips_125 : decode cX14_dips 125 = .ok (.invokevirtual 85, 3) := dk_182 0 85 (dk_at dksX14_dips_5 9 rfl rfl)
theorem dX14_dips_128 : decode cX14_dips 128 = .ok (.aload_n 0, 1) := dk_42 (dk_at dksX14_dips_5 12 rfl rfl)
theorem dX14_dips_129 : decode cX14_dips 129 = .ok (.getfield 16, 3) := dk_180 0 16 (dk_at dksX14_dips_5 13 rfl rfl)
theorem dX14_dips_132 : decode cX14_dips 132 = .ok (.bipush 15, 2) := dk_16 15 (dk_at dksX14_dips_5 16 rfl rfl)
theorem dX14_dips_134 : decode cX14_dips 134 = .ok (.iload_n 2, 1) := dk_28 (dk_at dksX14_dips_5 18 rfl rfl)
theorem dX14_dips_135 : decode cX14_dips 135 = .ok (.iadd, 1) := dk_96 (dk_at dksX14_dips_5 19 rfl rfl)
theorem dX14_dips_136 : decode cX14_dips 136 = .ok (.iconst 0, 1) := dk_3 (dk_at dksX14_dips_5 20 rfl rfl)
theorem dX14_dips_137 : decode cX14_dips 137 = .ok (.iload 4, 2) := dk_21 4 (dk_at dksX14_dips_5 21 rfl rfl)
theorem dX14_dips_139 : decode cX14_dips 139 = .ok (.iconst 1, 1) := dk_4 (dk_at dksX14_dips_5 23 rfl rfl)
theorem dX14_dips_140 : decode cX14_dips 140 = .ok (.isub, 1) := dk_100 (dk_at dksX14_dips_6 0 rfl rfl)
theorem dX14_dips_141 : decode cX14_dips 141 = .ok (.invokestatic 122, 3) := dk_184 0 122 (dk_at dksX14_dips_6 1 rfl rfl)
theorem dX14_dips_144 : decode cX14_dips 144 = .ok (.iastore, 1) := dk_79 (dk_at dksX14_dips_6 4 rfl rfl)
theorem dX14_dips_145 : decode cX14_dips 145 = .ok (.return_, 1) := dk_177 (dk_at dksX14_dips_6 5 rfl rfl)
abbrev cX14_isDeep : ByteArray := prog_28_method_31_code
def yX14_isDeep : MethodName := ⟨RX14, "isDeep", "(II)V"⟩
def dkwX14_isDeep_1 : List UInt8 := [182, 0, 85, 177]
abbrev dktX14_isDeep_1 : List UInt8 := dkwX14_isDeep_1 ++ []
def dkwX14_isDeep_0 : List UInt8 := [42, 27, 5, 3, 16, 99, 28, 184, 0, 117, 184, 0, 122, 182, 0, 85, 28, 157, 0, 10, 42, 27, 4, 2]
abbrev dktX14_isDeep_0 : List UInt8 := dkwX14_isDeep_0 ++ dktX14_isDeep_1
theorem dksX14_isDeep_0 : cX14_isDeep.data.toList.drop 0 = dktX14_isDeep_0 := by decide +kernel
theorem dksX14_isDeep_1 : cX14_isDeep.data.toList.drop 24 = dktX14_isDeep_1 := dk_seg dksX14_isDeep_0 24 rfl rfl
theorem dX14_isDeep_0 : decode cX14_isDeep 0 = .ok (.aload_n 0, 1) := dk_42 (dk_at dksX14_isDeep_0 0 rfl rfl)
theorem dX14_isDeep_1 : decode cX14_isDeep 1 = .ok (.iload_n 1, 1) := dk_27 (dk_at dksX14_isDeep_0 1 rfl rfl)
theorem dX14_isDeep_2 : decode cX14_isDeep 2 = .ok (.iconst 2, 1) := dk_5 (dk_at dksX14_isDeep_0 2 rfl rfl)
theorem dX14_isDeep_3 : decode cX14_isDeep 3 = .ok (.iconst 0, 1) := dk_3 (dk_at dksX14_isDeep_0 3 rfl rfl)
theorem dX14_isDeep_4 : decode cX14_isDeep 4 = .ok (.bipush 99, 2) := dk_16 99 (dk_at dksX14_isDeep_0 4 rfl rfl)
theorem dX14_isDeep_6 : decode cX14_isDeep 6 = .ok (.iload_n 2, 1) := dk_28 (dk_at dksX14_isDeep_0 6 rfl rfl)
theorem dX14_isDeep_7 : decode cX14_isDeep 7 = .ok (.invokestatic 117, 3) := dk_184 0 117 (dk_at dksX14_isDeep_0 7 rfl rfl)
theorem dX14_isDeep_10 : decode cX14_isDeep 10 = .ok (.invokestatic 122, 3) := dk_184 0 122 (dk_at dksX14_isDeep_0 10 rfl rfl)
theorem dX14_isDeep_13 : decode cX14_isDeep 13 = .ok (.invokevirtual 85, 3) := dk_182 0 85 (dk_at dksX14_isDeep_0 13 rfl rfl)
theorem dX14_isDeep_16 : decode cX14_isDeep 16 = .ok (.iload_n 2, 1) := dk_28 (dk_at dksX14_isDeep_0 16 rfl rfl)
theorem dX14_isDeep_17 : decode cX14_isDeep 17 = .ok (.ifCond .gt 10, 3) := dk_157 0 10 (dk_at dksX14_isDeep_0 17 rfl rfl)
theorem dX14_isDeep_20 : decode cX14_isDeep 20 = .ok (.aload_n 0, 1) := dk_42 (dk_at dksX14_isDeep_0 20 rfl rfl)
theorem dX14_isDeep_21 : decode cX14_isDeep 21 = .ok (.iload_n 1, 1) := dk_27 (dk_at dksX14_isDeep_0 21 rfl rfl)
theorem dX14_isDeep_22 : decode cX14_isDeep 22 = .ok (.iconst 1, 1) := dk_4 (dk_at dksX14_isDeep_0 22 rfl rfl)
theorem dX14_isDeep_23 : decode cX14_isDeep 23 = .ok (.iconst (-1), 1) := dk_2 (dk_at dksX14_isDeep_0 23 rfl rfl)
theorem dX14_isDeep_24 : decode cX14_isDeep 24 = .ok (.invokevirtual 85, 3) := dk_182 0 85 (dk_at dksX14_isDeep_1 0 rfl rfl)
theorem dX14_isDeep_27 : decode cX14_isDeep 27 = .ok (.return_, 1) := dk_177 (dk_at dksX14_isDeep_1 3 rfl rfl)
abbrev cX14_days : ByteArray := prog_28_method_39_code
def yX14_days : MethodName := ⟨RX14, "days", "(I)I"⟩
def dkwX14_days_0 : List UInt8 := [27, 133, 10, 20, 0, 143, 184, 0, 59, 154, 0, 5, 2, 172, 42, 27, 182, 0, 145, 42, 182, 0, 148, 172]
abbrev dktX14_days_0 : List UInt8 := dkwX14_days_0 ++ []
theorem dksX14_days_0 : cX14_days.data.toList.drop 0 = dktX14_days_0 := by decide +kernel
theorem dX14_days_0 : decode cX14_days 0 = .ok (.iload_n 1, 1) := dk_27 (dk_at dksX14_days_0 0 rfl rfl)
theorem dX14_days_1 : decode cX14_days 1 = .ok (.i2l, 1) := dk_133 (dk_at dksX14_days_0 1 rfl rfl)
theorem dX14_days_2 : decode cX14_days 2 = .ok (.lconst 1, 1) := dk_10 (dk_at dksX14_days_0 2 rfl rfl)
theorem dX14_days_3 : decode cX14_days 3 = .ok (.ldc2_w 143, 3) := dk_20 0 143 (dk_at dksX14_days_0 3 rfl rfl)
theorem dX14_days_6 : decode cX14_days 6 = .ok (.invokestatic 59, 3) := dk_184 0 59 (dk_at dksX14_days_0 6 rfl rfl)
theorem dX14_days_9 : decode cX14_days 9 = .ok (.ifCond .ne 5, 3) := dk_154 0 5 (dk_at dksX14_days_0 9 rfl rfl)
theorem dX14_days_12 : decode cX14_days 12 = .ok (.iconst (-1), 1) := dk_2 (dk_at dksX14_days_0 12 rfl rfl)
theorem dX14_days_13 : decode cX14_days 13 = .ok (.ireturn, 1) := dk_172 (dk_at dksX14_days_0 13 rfl rfl)
theorem dX14_days_14 : decode cX14_days 14 = .ok (.aload_n 0, 1) := dk_42 (dk_at dksX14_days_0 14 rfl rfl)
theorem dX14_days_15 : decode cX14_days 15 = .ok (.iload_n 1, 1) := dk_27 (dk_at dksX14_days_0 15 rfl rfl)
theorem dX14_days_16 : decode cX14_days 16 = .ok (.invokevirtual 145, 3) := dk_182 0 145 (dk_at dksX14_days_0 16 rfl rfl)
theorem dX14_days_19 : decode cX14_days 19 = .ok (.aload_n 0, 1) := dk_42 (dk_at dksX14_days_0 19 rfl rfl)
theorem dX14_days_20 : decode cX14_days 20 = .ok (.invokevirtual 148, 3) := dk_182 0 148 (dk_at dksX14_days_0 20 rfl rfl)
theorem dX14_days_23 : decode cX14_days 23 = .ok (.ireturn, 1) := dk_172 (dk_at dksX14_days_0 23 rfl rfl)
abbrev cX14_goes : ByteArray := prog_28_method_37_code
def yX14_goes : MethodName := ⟨RX14, "goes", "(I)V"⟩
def dkwX14_goes_0 : List UInt8 := [3, 61, 28, 27, 162, 0, 13, 42, 182, 0, 140, 132, 2, 1, 167, 255, 244, 177]
abbrev dktX14_goes_0 : List UInt8 := dkwX14_goes_0 ++ []
theorem dksX14_goes_0 : cX14_goes.data.toList.drop 0 = dktX14_goes_0 := by decide +kernel
theorem dX14_goes_0 : decode cX14_goes 0 = .ok (.iconst 0, 1) := dk_3 (dk_at dksX14_goes_0 0 rfl rfl)
theorem dX14_goes_1 : decode cX14_goes 1 = .ok (.istore_n 2, 1) := dk_61 (dk_at dksX14_goes_0 1 rfl rfl)
theorem dX14_goes_2 : decode cX14_goes 2 = .ok (.iload_n 2, 1) := dk_28 (dk_at dksX14_goes_0 2 rfl rfl)
theorem dX14_goes_3 : decode cX14_goes 3 = .ok (.iload_n 1, 1) := dk_27 (dk_at dksX14_goes_0 3 rfl rfl)
theorem dX14_goes_4 : decode cX14_goes 4 = .ok (.if_icmp .ge 13, 3) := dk_162 0 13 (dk_at dksX14_goes_0 4 rfl rfl)
theorem dX14_goes_7 : decode cX14_goes 7 = .ok (.aload_n 0, 1) := dk_42 (dk_at dksX14_goes_0 7 rfl rfl)
theorem dX14_goes_8 : decode cX14_goes 8 = .ok (.invokevirtual 140, 3) := dk_182 0 140 (dk_at dksX14_goes_0 8 rfl rfl)
theorem dX14_goes_11 : decode cX14_goes 11 = .ok (.iinc 2 1, 3) := dk_132 2 1 (dk_at dksX14_goes_0 11 rfl rfl)
theorem dX14_goes_14 : decode cX14_goes 14 = .ok (.goto (-12), 3) := dk_167 255 244 (dk_at dksX14_goes_0 14 rfl rfl)
theorem dX14_goes_17 : decode cX14_goes 17 = .ok (.return_, 1) := dk_177 (dk_at dksX14_goes_0 17 rfl rfl)
abbrev cX14_aDay : ByteArray := prog_28_method_36_code
def yX14_aDay : MethodName := ⟨RX14, "aDay", "()V"⟩
def dkwX14_aDay_6 : List UInt8 := [184, 0, 117, 79, 132, 2, 1, 167, 255, 222, 42, 180, 0, 16, 7, 92, 46, 4, 96, 79, 177]
abbrev dktX14_aDay_6 : List UInt8 := dkwX14_aDay_6 ++ []
def dkwX14_aDay_5 : List UInt8 := [162, 0, 34, 42, 180, 0, 16, 16, 15, 28, 96, 16, 9, 42, 180, 0, 16, 16, 15, 28, 96, 46, 4, 96]
abbrev dktX14_aDay_5 : List UInt8 := dkwX14_aDay_5 ++ dktX14_aDay_6
def dkwX14_aDay_4 : List UInt8 := [182, 0, 82, 42, 28, 182, 0, 109, 100, 182, 0, 130, 132, 2, 1, 167, 255, 206, 3, 61, 28, 16, 8]
abbrev dktX14_aDay_4 : List UInt8 := dkwX14_aDay_4 ++ dktX14_aDay_5
def dkwX14_aDay_3 : List UInt8 := [6, 182, 0, 82, 4, 160, 0, 29, 42, 28, 4, 182, 0, 82, 155, 0, 20, 42, 28, 42, 28, 5]
abbrev dktX14_aDay_3 : List UInt8 := dkwX14_aDay_3 ++ dktX14_aDay_4
def dkwX14_aDay_2 : List UInt8 := [182, 0, 137, 132, 2, 1, 167, 255, 223, 3, 61, 28, 42, 180, 0, 16, 16, 6, 46, 162, 0, 45, 42, 28]
abbrev dktX14_aDay_2 : List UInt8 := dkwX14_aDay_2 ++ dktX14_aDay_3
def dkwX14_aDay_1 : List UInt8 := [28, 42, 180, 0, 16, 16, 6, 46, 162, 0, 24, 42, 28, 6, 182, 0, 82, 154, 0, 9, 42, 28, 27]
abbrev dktX14_aDay_1 : List UInt8 := dkwX14_aDay_1 ++ dktX14_aDay_2
def dkwX14_aDay_0 : List UInt8 := [42, 180, 0, 16, 16, 23, 42, 180, 0, 16, 7, 46, 16, 6, 112, 96, 46, 60, 3, 61, 27, 155, 0, 35]
abbrev dktX14_aDay_0 : List UInt8 := dkwX14_aDay_0 ++ dktX14_aDay_1
theorem dksX14_aDay_0 : cX14_aDay.data.toList.drop 0 = dktX14_aDay_0 := by decide +kernel
theorem dksX14_aDay_1 : cX14_aDay.data.toList.drop 24 = dktX14_aDay_1 := dk_seg dksX14_aDay_0 24 rfl rfl
theorem dksX14_aDay_2 : cX14_aDay.data.toList.drop 47 = dktX14_aDay_2 := dk_seg dksX14_aDay_1 23 rfl rfl
theorem dksX14_aDay_3 : cX14_aDay.data.toList.drop 71 = dktX14_aDay_3 := dk_seg dksX14_aDay_2 24 rfl rfl
theorem dksX14_aDay_4 : cX14_aDay.data.toList.drop 93 = dktX14_aDay_4 := dk_seg dksX14_aDay_3 22 rfl rfl
theorem dksX14_aDay_5 : cX14_aDay.data.toList.drop 116 = dktX14_aDay_5 := dk_seg dksX14_aDay_4 23 rfl rfl
theorem dksX14_aDay_6 : cX14_aDay.data.toList.drop 140 = dktX14_aDay_6 := dk_seg dksX14_aDay_5 24 rfl rfl
theorem dX14_aDay_0 : decode cX14_aDay 0 = .ok (.aload_n 0, 1) := dk_42 (dk_at dksX14_aDay_0 0 rfl rfl)
theorem dX14_aDay_1 : decode cX14_aDay 1 = .ok (.getfield 16, 3) := dk_180 0 16 (dk_at dksX14_aDay_0 1 rfl rfl)
theorem dX14_aDay_4 : decode cX14_aDay 4 = .ok (.bipush 23, 2) := dk_16 23 (dk_at dksX14_aDay_0 4 rfl rfl)
theorem dX14_aDay_6 : decode cX14_aDay 6 = .ok (.aload_n 0, 1) := dk_42 (dk_at dksX14_aDay_0 6 rfl rfl)
theorem dX14_aDay_7 : decode cX14_aDay 7 = .ok (.getfield 16, 3) := dk_180 0 16 (dk_at dksX14_aDay_0 7 rfl rfl)
theorem dX14_aDay_10 : decode cX14_aDay 10 = .ok (.iconst 4, 1) := dk_7 (dk_at dksX14_aDay_0 10 rfl rfl)
theorem dX14_aDay_11 : decode cX14_aDay 11 = .ok (.iaload, 1) := dk_46 (dk_at dksX14_aDay_0 11 rfl rfl)
theorem dX14_aDay_12 : decode cX14_aDay 12 = .ok (.bipush 6, 2) := dk_16 6 (dk_at dksX14_aDay_0 12 rfl rfl)
theorem dX14_aDay_14 : decode cX14_aDay 14 = .ok (.irem, 1) := dk_112 (dk_at dksX14_aDay_0 14 rfl rfl)
theorem dX14_aDay_15 : decode cX14_aDay 15 = .ok (.iadd, 1) := dk_96 (dk_at dksX14_aDay_0 15 rfl rfl)
theorem dX14_aDay_16 : decode cX14_aDay 16 = .ok (.iaload, 1) := dk_46 (dk_at dksX14_aDay_0 16 rfl rfl)
theorem dX14_aDay_17 : decode cX14_aDay 17 = .ok (.istore_n 1, 1) := dk_60 (dk_at dksX14_aDay_0 17 rfl rfl)
theorem dX14_aDay_18 : decode cX14_aDay 18 = .ok (.iconst 0, 1) := dk_3 (dk_at dksX14_aDay_0 18 rfl rfl)
theorem dX14_aDay_19 : decode cX14_aDay 19 = .ok (.istore_n 2, 1) := dk_61 (dk_at dksX14_aDay_0 19 rfl rfl)
theorem dX14_aDay_20 : decode cX14_aDay 20 = .ok (.iload_n 1, 1) := dk_27 (dk_at dksX14_aDay_0 20 rfl rfl)
theorem dX14_aDay_21 : decode cX14_aDay 21 = .ok (.ifCond .lt 35, 3) := dk_155 0 35 (dk_at dksX14_aDay_0 21 rfl rfl)
theorem dX14_aDay_24 : decode cX14_aDay 24 = .ok (.iload_n 2, 1) := dk_28 (dk_at dksX14_aDay_1 0 rfl rfl)
theorem dX14_aDay_25 : decode cX14_aDay 25 = .ok (.aload_n 0, 1) := dk_42 (dk_at dksX14_aDay_1 1 rfl rfl)
theorem dX14_aDay_26 : decode cX14_aDay 26 = .ok (.getfield 16, 3) := dk_180 0 16 (dk_at dksX14_aDay_1 2 rfl rfl)
theorem dX14_aDay_29 : decode cX14_aDay 29 = .ok (.bipush 6, 2) := dk_16 6 (dk_at dksX14_aDay_1 5 rfl rfl)
theorem dX14_aDay_31 : decode cX14_aDay 31 = .ok (.iaload, 1) := dk_46 (dk_at dksX14_aDay_1 7 rfl rfl)
theorem dX14_aDay_32 : decode cX14_aDay 32 = .ok (.if_icmp .ge 24, 3) := dk_162 0 24 (dk_at dksX14_aDay_1 8 rfl rfl)
theorem dX14_aDay_35 : decode cX14_aDay 35 = .ok (.aload_n 0, 1) := dk_42 (dk_at dksX14_aDay_1 11 rfl rfl)
theorem dX14_aDay_36 : decode cX14_aDay 36 = .ok (.iload_n 2, 1) := dk_28 (dk_at dksX14_aDay_1 12 rfl rfl)
theorem dX14_aDay_37 : decode cX14_aDay 37 = .ok (.iconst 3, 1) := dk_6 (dk_at dksX14_aDay_1 13 rfl rfl)
theorem dX14_aDay_38 : decode cX14_aDay 38 = .ok (.invokevirtual 82, 3) := dk_182 0 82 (dk_at dksX14_aDay_1 14 rfl rfl)
theorem dX14_aDay_41 : decode cX14_aDay 41 = .ok (.ifCond .ne 9, 3) := dk_154 0 9 (dk_at dksX14_aDay_1 17 rfl rfl)
theorem dX14_aDay_44 : decode cX14_aDay 44 = .ok (.aload_n 0, 1) := dk_42 (dk_at dksX14_aDay_1 20 rfl rfl)
theorem dX14_aDay_45 : decode cX14_aDay 45 = .ok (.iload_n 2, 1) := dk_28 (dk_at dksX14_aDay_1 21 rfl rfl)
theorem dX14_aDay_46 : decode cX14_aDay 46 = .ok (.iload_n 1, 1) := dk_27 (dk_at dksX14_aDay_1 22 rfl rfl)
theorem dX14_aDay_47 : decode cX14_aDay 47 = .ok (.invokevirtual 137, 3) := dk_182 0 137 (dk_at dksX14_aDay_2 0 rfl rfl)
theorem dX14_aDay_50 : decode cX14_aDay 50 = .ok (.iinc 2 1, 3) := dk_132 2 1 (dk_at dksX14_aDay_2 3 rfl rfl)
theorem dX14_aDay_53 : decode cX14_aDay 53 = .ok (.goto (-33), 3) := dk_167 255 223 (dk_at dksX14_aDay_2 6 rfl rfl)
theorem dX14_aDay_56 : decode cX14_aDay 56 = .ok (.iconst 0, 1) := dk_3 (dk_at dksX14_aDay_2 9 rfl rfl)
theorem dX14_aDay_57 : decode cX14_aDay 57 = .ok (.istore_n 2, 1) := dk_61 (dk_at dksX14_aDay_2 10 rfl rfl)
theorem dX14_aDay_58 : decode cX14_aDay 58 = .ok (.iload_n 2, 1) := dk_28 (dk_at dksX14_aDay_2 11 rfl rfl)
theorem dX14_aDay_59 : decode cX14_aDay 59 = .ok (.aload_n 0, 1) := dk_42 (dk_at dksX14_aDay_2 12 rfl rfl)
theorem dX14_aDay_60 : decode cX14_aDay 60 = .ok (.getfield 16, 3) := dk_180 0 16 (dk_at dksX14_aDay_2 13 rfl rfl)
theorem dX14_aDay_63 : decode cX14_aDay 63 = .ok (.bipush 6, 2) := dk_16 6 (dk_at dksX14_aDay_2 16 rfl rfl)
theorem dX14_aDay_65 : decode cX14_aDay 65 = .ok (.iaload, 1) := dk_46 (dk_at dksX14_aDay_2 18 rfl rfl)
theorem dX14_aDay_66 : decode cX14_aDay 66 = .ok (.if_icmp .ge 45, 3) := dk_162 0 45 (dk_at dksX14_aDay_2 19 rfl rfl)
theorem dX14_aDay_69 : decode cX14_aDay 69 = .ok (.aload_n 0, 1) := dk_42 (dk_at dksX14_aDay_2 22 rfl rfl)
theorem dX14_aDay_70 : decode cX14_aDay 70 = .ok (.iload_n 2, 1) := dk_28 (dk_at dksX14_aDay_2 23 rfl rfl)
theorem dX14_aDay_71 : decode cX14_aDay 71 = .ok (.iconst 3, 1) := dk_6 (dk_at dksX14_aDay_3 0 rfl rfl)
theorem dX14_aDay_72 : decode cX14_aDay 72 = .ok (.invokevirtual 82, 3) := dk_182 0 82 (dk_at dksX14_aDay_3 1 rfl rfl)
theorem dX14_aDay_75 : decode cX14_aDay 75 = .ok (.iconst 1, 1) := dk_4 (dk_at dksX14_aDay_3 4 rfl rfl)
theorem dX14_aDay_76 : decode cX14_aDay 76 = .ok (.if_icmp .ne 29, 3) := dk_160 0 29 (dk_at dksX14_aDay_3 5 rfl rfl)
theorem dX14_aDay_79 : decode cX14_aDay 79 = .ok (.aload_n 0, 1) := dk_42 (dk_at dksX14_aDay_3 8 rfl rfl)
theorem dX14_aDay_80 : decode cX14_aDay 80 = .ok (.iload_n 2, 1) := dk_28 (dk_at dksX14_aDay_3 9 rfl rfl)
theorem dX14_aDay_81 : decode cX14_aDay 81 = .ok (.iconst 1, 1) := dk_4 (dk_at dksX14_aDay_3 10 rfl rfl)
theorem dX14_aDay_82 : decode cX14_aDay 82 = .ok (.invokevirtual 82, 3) := dk_182 0 82 (dk_at dksX14_aDay_3 11 rfl rfl)
theorem dX14_aDay_85 : decode cX14_aDay 85 = .ok (.ifCond .lt 20, 3) := dk_155 0 20 (dk_at dksX14_aDay_3 14 rfl rfl)
theorem dX14_aDay_88 : decode cX14_aDay 88 = .ok (.aload_n 0, 1) := dk_42 (dk_at dksX14_aDay_3 17 rfl rfl)
theorem dX14_aDay_89 : decode cX14_aDay 89 = .ok (.iload_n 2, 1) := dk_28 (dk_at dksX14_aDay_3 18 rfl rfl)
theorem dX14_aDay_90 : decode cX14_aDay 90 = .ok (.aload_n 0, 1) := dk_42 (dk_at dksX14_aDay_3 19 rfl rfl)
theorem dX14_aDay_91 : decode cX14_aDay 91 = .ok (.iload_n 2, 1) := dk_28 (dk_at dksX14_aDay_3 20 rfl rfl)
theorem dX14_aDay_92 : decode cX14_aDay 92 = .ok (.iconst 2, 1) := dk_5 (dk_at dksX14_aDay_3 21 rfl rfl)
theorem dX14_aDay_93 : decode cX14_aDay 93 = .ok (.invokevirtual 82, 3) := dk_182 0 82 (dk_at dksX14_aDay_4 0 rfl rfl)
theorem dX14_aDay_96 : decode cX14_aDay 96 = .ok (.aload_n 0, 1) := dk_42 (dk_at dksX14_aDay_4 3 rfl rfl)
theorem dX14_aDay_97 : decode cX14_aDay 97 = .ok (.iload_n 2, 1) := dk_28 (dk_at dksX14_aDay_4 4 rfl rfl)
theorem dX14_aDay_98 : decode cX14_aDay 98 = .ok (.invokevirtual 109, 3) := dk_182 0 109 (dk_at dksX14_aDay_4 5 rfl rfl)
theorem dX14_aDay_101 : decode cX14_aDay 101 = .ok (.isub, 1) := dk_100 (dk_at dksX14_aDay_4 8 rfl rfl)
theorem dX14_aDay_102 : decode cX14_aDay 102 = .ok (.invokevirtual 130, 3) := dk_182 0 130 (dk_at dksX14_aDay_4 9 rfl rfl)
theorem dX14_aDay_105 : decode cX14_aDay 105 = .ok (.iinc 2 1, 3) := dk_132 2 1 (dk_at dksX14_aDay_4 12 rfl rfl)
theorem dX14_aDay_108 : decode cX14_aDay 108 = .ok (.goto (-50), 3) := dk_167 255 206 (dk_at dksX14_aDay_4 15 rfl rfl)
theorem dX14_aDay_111 : decode cX14_aDay 111 = .ok (.iconst 0, 1) := dk_3 (dk_at dksX14_aDay_4 18 rfl rfl)
theorem dX14_aDay_112 : decode cX14_aDay 112 = .ok (.istore_n 2, 1) := dk_61 (dk_at dksX14_aDay_4 19 rfl rfl)
theorem dX14_aDay_113 : decode cX14_aDay 113 = .ok (.iload_n 2, 1) := dk_28 (dk_at dksX14_aDay_4 20 rfl rfl)
theorem dX14_aDay_114 : decode cX14_aDay 114 = .ok (.bipush 8, 2) := dk_16 8 (dk_at dksX14_aDay_4 21 rfl rfl)
theorem dX14_aDay_116 : decode cX14_aDay 116 = .ok (.if_icmp .ge 34, 3) := dk_162 0 34 (dk_at dksX14_aDay_5 0 rfl rfl)
theorem dX14_aDay_119 : decode cX14_aDay 119 = .ok (.aload_n 0, 1) := dk_42 (dk_at dksX14_aDay_5 3 rfl rfl)
theorem dX14_aDay_120 : decode cX14_aDay 120 = .ok (.getfield 16, 3) := dk_180 0 16 (dk_at dksX14_aDay_5 4 rfl rfl)
theorem dX14_aDay_123 : decode cX14_aDay 123 = .ok (.bipush 15, 2) := dk_16 15 (dk_at dksX14_aDay_5 7 rfl rfl)
theorem dX14_aDay_125 : decode cX14_aDay 125 = .ok (.iload_n 2, 1) := dk_28 (dk_at dksX14_aDay_5 9 rfl rfl)
theorem dX14_aDay_126 : decode cX14_aDay 126 = .ok (.iadd, 1) := dk_96 (dk_at dksX14_aDay_5 10 rfl rfl)
theorem dX14_aDay_127 : decode cX14_aDay 127 = .ok (.bipush 9, 2) := dk_16 9 (dk_at dksX14_aDay_5 11 rfl rfl)
theorem dX14_aDay_129 : decode cX14_aDay 129 = .ok (.aload_n 0, 1) := dk_42 (dk_at dksX14_aDay_5 13 rfl rfl)
theorem dX14_aDay_130 : decode cX14_aDay 130 = .ok (.getfield 16, 3) := dk_180 0 16 (dk_at dksX14_aDay_5 14 rfl rfl)
theorem dX14_aDay_133 : decode cX14_aDay 133 = .ok (.bipush 15, 2) := dk_16 15 (dk_at dksX14_aDay_5 17 rfl rfl)
theorem dX14_aDay_135 : decode cX14_aDay 135 = .ok (.iload_n 2, 1) := dk_28 (dk_at dksX14_aDay_5 19 rfl rfl)
theorem dX14_aDay_136 : decode cX14_aDay 136 = .ok (.iadd, 1) := dk_96 (dk_at dksX14_aDay_5 20 rfl rfl)
theorem dX14_aDay_137 : decode cX14_aDay 137 = .ok (.iaload, 1) := dk_46 (dk_at dksX14_aDay_5 21 rfl rfl)
theorem dX14_aDay_138 : decode cX14_aDay 138 = .ok (.iconst 1, 1) := dk_4 (dk_at dksX14_aDay_5 22 rfl rfl)
theorem dX14_aDay_139 : decode cX14_aDay 139 = .ok (.iadd, 1) := dk_96 (dk_at dksX14_aDay_5 23 rfl rfl)
theorem dX14_aDay_140 : decode cX14_aDay 140 = .ok (.invokestatic 117, 3) := dk_184 0 117 (dk_at dksX14_aDay_6 0 rfl rfl)
theorem dX14_aDay_143 : decode cX14_aDay 143 = .ok (.iastore, 1) := dk_79 (dk_at dksX14_aDay_6 3 rfl rfl)
theorem dX14_aDay_144 : decode cX14_aDay 144 = .ok (.iinc 2 1, 3) := dk_132 2 1 (dk_at dksX14_aDay_6 4 rfl rfl)
theorem dX14_aDay_147 : decode cX14_aDay 147 = .ok (.goto (-34), 3) := dk_167 255 222 (dk_at dksX14_aDay_6 7 rfl rfl)
theorem dX14_aDay_150 : decode cX14_aDay 150 = .ok (.aload_n 0, 1) := dk_42 (dk_at dksX14_aDay_6 10 rfl rfl)
theorem dX14_aDay_151 : decode cX14_aDay 151 = .ok (.getfield 16, 3) := dk_180 0 16 (dk_at dksX14_aDay_6 11 rfl rfl)
theorem dX14_aDay_154 : decode cX14_aDay 154 = .ok (.iconst 4, 1) := dk_7 (dk_at dksX14_aDay_6 14 rfl rfl)
theorem dX14_aDay_155 : decode cX14_aDay 155 = .ok (.dup2, 1) := dk_92 (dk_at dksX14_aDay_6 15 rfl rfl)
theorem dX14_aDay_156 : decode cX14_aDay 156 = .ok (.iaload, 1) := dk_46 (dk_at dksX14_aDay_6 16 rfl rfl)
theorem dX14_aDay_157 : decode cX14_aDay 157 = .ok (.iconst 1, 1) := dk_4 (dk_at dksX14_aDay_6 17 rfl rfl)
theorem dX14_aDay_158 : decode cX14_aDay 158 = .ok (.iadd, 1) := dk_96 (dk_at dksX14_aDay_6 18 rfl rfl)
theorem dX14_aDay_159 : decode cX14_aDay 159 = .ok (.iastore, 1) := dk_79 (dk_at dksX14_aDay_6 19 rfl rfl)
theorem dX14_aDay_160 : decode cX14_aDay 160 = .ok (.return_, 1) := dk_177 (dk_at dksX14_aDay_6 20 rfl rfl)
abbrev cX14_depths : ByteArray := prog_28_method_38_code
def yX14_depths : MethodName := ⟨RX14, "depths", "()I"⟩
def dkwX14_depths_1 : List UInt8 := [132, 2, 1, 167, 255, 233, 27, 172]
abbrev dktX14_depths_1 : List UInt8 := dkwX14_depths_1 ++ []
def dkwX14_depths_0 : List UInt8 := [3, 60, 3, 61, 28, 42, 180, 0, 16, 16, 6, 46, 162, 0, 18, 27, 42, 28, 5, 182, 0, 82, 96, 60]
abbrev dktX14_depths_0 : List UInt8 := dkwX14_depths_0 ++ dktX14_depths_1
theorem dksX14_depths_0 : cX14_depths.data.toList.drop 0 = dktX14_depths_0 := by decide +kernel
theorem dksX14_depths_1 : cX14_depths.data.toList.drop 24 = dktX14_depths_1 := dk_seg dksX14_depths_0 24 rfl rfl
theorem dX14_depths_0 : decode cX14_depths 0 = .ok (.iconst 0, 1) := dk_3 (dk_at dksX14_depths_0 0 rfl rfl)
theorem dX14_depths_1 : decode cX14_depths 1 = .ok (.istore_n 1, 1) := dk_60 (dk_at dksX14_depths_0 1 rfl rfl)
theorem dX14_depths_2 : decode cX14_depths 2 = .ok (.iconst 0, 1) := dk_3 (dk_at dksX14_depths_0 2 rfl rfl)
theorem dX14_depths_3 : decode cX14_depths 3 = .ok (.istore_n 2, 1) := dk_61 (dk_at dksX14_depths_0 3 rfl rfl)
theorem dX14_depths_4 : decode cX14_depths 4 = .ok (.iload_n 2, 1) := dk_28 (dk_at dksX14_depths_0 4 rfl rfl)
theorem dX14_depths_5 : decode cX14_depths 5 = .ok (.aload_n 0, 1) := dk_42 (dk_at dksX14_depths_0 5 rfl rfl)
theorem dX14_depths_6 : decode cX14_depths 6 = .ok (.getfield 16, 3) := dk_180 0 16 (dk_at dksX14_depths_0 6 rfl rfl)
theorem dX14_depths_9 : decode cX14_depths 9 = .ok (.bipush 6, 2) := dk_16 6 (dk_at dksX14_depths_0 9 rfl rfl)
theorem dX14_depths_11 : decode cX14_depths 11 = .ok (.iaload, 1) := dk_46 (dk_at dksX14_depths_0 11 rfl rfl)
theorem dX14_depths_12 : decode cX14_depths 12 = .ok (.if_icmp .ge 18, 3) := dk_162 0 18 (dk_at dksX14_depths_0 12 rfl rfl)
theorem dX14_depths_15 : decode cX14_depths 15 = .ok (.iload_n 1, 1) := dk_27 (dk_at dksX14_depths_0 15 rfl rfl)
theorem dX14_depths_16 : decode cX14_depths 16 = .ok (.aload_n 0, 1) := dk_42 (dk_at dksX14_depths_0 16 rfl rfl)
theorem dX14_depths_17 : decode cX14_depths 17 = .ok (.iload_n 2, 1) := dk_28 (dk_at dksX14_depths_0 17 rfl rfl)
theorem dX14_depths_18 : decode cX14_depths 18 = .ok (.iconst 2, 1) := dk_5 (dk_at dksX14_depths_0 18 rfl rfl)
theorem dX14_depths_19 : decode cX14_depths 19 = .ok (.invokevirtual 82, 3) := dk_182 0 82 (dk_at dksX14_depths_0 19 rfl rfl)
theorem dX14_depths_22 : decode cX14_depths 22 = .ok (.iadd, 1) := dk_96 (dk_at dksX14_depths_0 22 rfl rfl)
theorem dX14_depths_23 : decode cX14_depths 23 = .ok (.istore_n 1, 1) := dk_60 (dk_at dksX14_depths_0 23 rfl rfl)
theorem dX14_depths_24 : decode cX14_depths 24 = .ok (.iinc 2 1, 3) := dk_132 2 1 (dk_at dksX14_depths_1 0 rfl rfl)
theorem dX14_depths_27 : decode cX14_depths 27 = .ok (.goto (-23), 3) := dk_167 255 233 (dk_at dksX14_depths_1 3 rfl rfl)
theorem dX14_depths_30 : decode cX14_depths 30 = .ok (.iload_n 1, 1) := dk_27 (dk_at dksX14_depths_1 6 rfl rfl)
theorem dX14_depths_31 : decode cX14_depths 31 = .ok (.ireturn, 1) := dk_172 (dk_at dksX14_depths_1 7 rfl rfl)
abbrev cX14_seed : ByteArray := prog_28_method_40_code
def yX14_seed : MethodName := ⟨RX14, "seed", "(I)I"⟩
def dkwX14_seed_0 : List UInt8 := [42, 8, 27, 182, 0, 71, 172]
abbrev dktX14_seed_0 : List UInt8 := dkwX14_seed_0 ++ []
theorem dksX14_seed_0 : cX14_seed.data.toList.drop 0 = dktX14_seed_0 := by decide +kernel
theorem dX14_seed_0 : decode cX14_seed 0 = .ok (.aload_n 0, 1) := dk_42 (dk_at dksX14_seed_0 0 rfl rfl)
theorem dX14_seed_1 : decode cX14_seed 1 = .ok (.iconst 5, 1) := dk_8 (dk_at dksX14_seed_0 1 rfl rfl)
theorem dX14_seed_2 : decode cX14_seed 2 = .ok (.iload_n 1, 1) := dk_27 (dk_at dksX14_seed_0 2 rfl rfl)
theorem dX14_seed_3 : decode cX14_seed 3 = .ok (.invokevirtual 71, 3) := dk_182 0 71 (dk_at dksX14_seed_0 3 rfl rfl)
theorem dX14_seed_6 : decode cX14_seed 6 = .ok (.ireturn, 1) := dk_172 (dk_at dksX14_seed_0 6 rfl rfl)
abbrev cX14_day : ByteArray := prog_28_method_43_code
def yX14_day : MethodName := ⟨RX14, "day", "()I"⟩
def dkwX14_day_0 : List UInt8 := [42, 182, 0, 156, 42, 182, 0, 148, 172]
abbrev dktX14_day_0 : List UInt8 := dkwX14_day_0 ++ []
theorem dksX14_day_0 : cX14_day.data.toList.drop 0 = dktX14_day_0 := by decide +kernel
theorem dX14_day_0 : decode cX14_day 0 = .ok (.aload_n 0, 1) := dk_42 (dk_at dksX14_day_0 0 rfl rfl)
theorem dX14_day_1 : decode cX14_day 1 = .ok (.invokevirtual 156, 3) := dk_182 0 156 (dk_at dksX14_day_0 1 rfl rfl)
theorem dX14_day_4 : decode cX14_day 4 = .ok (.aload_n 0, 1) := dk_42 (dk_at dksX14_day_0 4 rfl rfl)
theorem dX14_day_5 : decode cX14_day 5 = .ok (.invokevirtual 148, 3) := dk_182 0 148 (dk_at dksX14_day_0 5 rfl rfl)
theorem dX14_day_8 : decode cX14_day 8 = .ok (.ireturn, 1) := dk_172 (dk_at dksX14_day_0 8 rfl rfl)
abbrev cX14_byDraws : ByteArray := prog_28_method_42_code
def yX14_byDraws : MethodName := ⟨RX14, "byDraws", "()V"⟩
def dkwX14_byDraws_2 : List UInt8 := [182, 0, 137, 42, 182, 0, 140, 177]
abbrev dktX14_byDraws_2 : List UInt8 := dkwX14_byDraws_2 ++ []
def dkwX14_byDraws_1 : List UInt8 := [182, 0, 153, 16, 100, 112, 42, 180, 0, 16, 6, 46, 162, 0, 15, 42, 27, 42, 182, 0, 153, 16, 8, 112]
abbrev dktX14_byDraws_1 : List UInt8 := dkwX14_byDraws_1 ++ dktX14_byDraws_2
def dkwX14_byDraws_0 : List UInt8 := [42, 180, 0, 16, 16, 6, 46, 158, 0, 44, 42, 182, 0, 153, 42, 180, 0, 16, 16, 6, 46, 112, 60, 42]
abbrev dktX14_byDraws_0 : List UInt8 := dkwX14_byDraws_0 ++ dktX14_byDraws_1
theorem dksX14_byDraws_0 : cX14_byDraws.data.toList.drop 0 = dktX14_byDraws_0 := by decide +kernel
theorem dksX14_byDraws_1 : cX14_byDraws.data.toList.drop 24 = dktX14_byDraws_1 := dk_seg dksX14_byDraws_0 24 rfl rfl
theorem dksX14_byDraws_2 : cX14_byDraws.data.toList.drop 48 = dktX14_byDraws_2 := dk_seg dksX14_byDraws_1 24 rfl rfl
theorem dX14_byDraws_0 : decode cX14_byDraws 0 = .ok (.aload_n 0, 1) := dk_42 (dk_at dksX14_byDraws_0 0 rfl rfl)
theorem dX14_byDraws_1 : decode cX14_byDraws 1 = .ok (.getfield 16, 3) := dk_180 0 16 (dk_at dksX14_byDraws_0 1 rfl rfl)
theorem dX14_byDraws_4 : decode cX14_byDraws 4 = .ok (.bipush 6, 2) := dk_16 6 (dk_at dksX14_byDraws_0 4 rfl rfl)
theorem dX14_byDraws_6 : decode cX14_byDraws 6 = .ok (.iaload, 1) := dk_46 (dk_at dksX14_byDraws_0 6 rfl rfl)
theorem dX14_byDraws_7 : decode cX14_byDraws 7 = .ok (.ifCond .le 44, 3) := dk_158 0 44 (dk_at dksX14_byDraws_0 7 rfl rfl)
theorem dX14_byDraws_10 : decode cX14_byDraws 10 = .ok (.aload_n 0, 1) := dk_42 (dk_at dksX14_byDraws_0 10 rfl rfl)
theorem dX14_byDraws_11 : decode cX14_byDraws 11 = .ok (.invokevirtual 153, 3) := dk_182 0 153 (dk_at dksX14_byDraws_0 11 rfl rfl)
theorem dX14_byDraws_14 : decode cX14_byDraws 14 = .ok (.aload_n 0, 1) := dk_42 (dk_at dksX14_byDraws_0 14 rfl rfl)
theorem dX14_byDraws_15 : decode cX14_byDraws 15 = .ok (.getfield 16, 3) := dk_180 0 16 (dk_at dksX14_byDraws_0 15 rfl rfl)
theorem dX14_byDraws_18 : decode cX14_byDraws 18 = .ok (.bipush 6, 2) := dk_16 6 (dk_at dksX14_byDraws_0 18 rfl rfl)
theorem dX14_byDraws_20 : decode cX14_byDraws 20 = .ok (.iaload, 1) := dk_46 (dk_at dksX14_byDraws_0 20 rfl rfl)
theorem dX14_byDraws_21 : decode cX14_byDraws 21 = .ok (.irem, 1) := dk_112 (dk_at dksX14_byDraws_0 21 rfl rfl)
theorem dX14_byDraws_22 : decode cX14_byDraws 22 = .ok (.istore_n 1, 1) := dk_60 (dk_at dksX14_byDraws_0 22 rfl rfl)
theorem dX14_byDraws_23 : decode cX14_byDraws 23 = .ok (.aload_n 0, 1) := dk_42 (dk_at dksX14_byDraws_0 23 rfl rfl)
theorem dX14_byDraws_24 : decode cX14_byDraws 24 = .ok (.invokevirtual 153, 3) := dk_182 0 153 (dk_at dksX14_byDraws_1 0 rfl rfl)
theorem dX14_byDraws_27 : decode cX14_byDraws 27 = .ok (.bipush 100, 2) := dk_16 100 (dk_at dksX14_byDraws_1 3 rfl rfl)
theorem dX14_byDraws_29 : decode cX14_byDraws 29 = .ok (.irem, 1) := dk_112 (dk_at dksX14_byDraws_1 5 rfl rfl)
theorem dX14_byDraws_30 : decode cX14_byDraws 30 = .ok (.aload_n 0, 1) := dk_42 (dk_at dksX14_byDraws_1 6 rfl rfl)
theorem dX14_byDraws_31 : decode cX14_byDraws 31 = .ok (.getfield 16, 3) := dk_180 0 16 (dk_at dksX14_byDraws_1 7 rfl rfl)
theorem dX14_byDraws_34 : decode cX14_byDraws 34 = .ok (.iconst 3, 1) := dk_6 (dk_at dksX14_byDraws_1 10 rfl rfl)
theorem dX14_byDraws_35 : decode cX14_byDraws 35 = .ok (.iaload, 1) := dk_46 (dk_at dksX14_byDraws_1 11 rfl rfl)
theorem dX14_byDraws_36 : decode cX14_byDraws 36 = .ok (.if_icmp .ge 15, 3) := dk_162 0 15 (dk_at dksX14_byDraws_1 12 rfl rfl)
theorem dX14_byDraws_39 : decode cX14_byDraws 39 = .ok (.aload_n 0, 1) := dk_42 (dk_at dksX14_byDraws_1 15 rfl rfl)
theorem dX14_byDraws_40 : decode cX14_byDraws 40 = .ok (.iload_n 1, 1) := dk_27 (dk_at dksX14_byDraws_1 16 rfl rfl)
theorem dX14_byDraws_41 : decode cX14_byDraws 41 = .ok (.aload_n 0, 1) := dk_42 (dk_at dksX14_byDraws_1 17 rfl rfl)
theorem dX14_byDraws_42 : decode cX14_byDraws 42 = .ok (.invokevirtual 153, 3) := dk_182 0 153 (dk_at dksX14_byDraws_1 18 rfl rfl)
theorem dX14_byDraws_45 : decode cX14_byDraws 45 = .ok (.bipush 8, 2) := dk_16 8 (dk_at dksX14_byDraws_1 21 rfl rfl)
theorem dX14_byDraws_47 : decode cX14_byDraws 47 = .ok (.irem, 1) := dk_112 (dk_at dksX14_byDraws_1 23 rfl rfl)
theorem dX14_byDraws_48 : decode cX14_byDraws 48 = .ok (.invokevirtual 137, 3) := dk_182 0 137 (dk_at dksX14_byDraws_2 0 rfl rfl)
theorem dX14_byDraws_51 : decode cX14_byDraws 51 = .ok (.aload_n 0, 1) := dk_42 (dk_at dksX14_byDraws_2 3 rfl rfl)
theorem dX14_byDraws_52 : decode cX14_byDraws 52 = .ok (.invokevirtual 140, 3) := dk_182 0 140 (dk_at dksX14_byDraws_2 4 rfl rfl)
theorem dX14_byDraws_55 : decode cX14_byDraws 55 = .ok (.return_, 1) := dk_177 (dk_at dksX14_byDraws_2 7 rfl rfl)
abbrev cX14_draw : ByteArray := prog_28_method_41_code
def yX14_draw : MethodName := ⟨RX14, "draw", "()I"⟩
def dkwX14_draw_1 : List UInt8 := [46, 16, 16, 124, 172]
abbrev dktX14_draw_1 : List UInt8 := dkwX14_draw_1 ++ []
def dkwX14_draw_0 : List UInt8 := [42, 180, 0, 16, 8, 42, 180, 0, 16, 8, 46, 18, 152, 104, 17, 48, 57, 96, 79, 42, 180, 0, 16, 8]
abbrev dktX14_draw_0 : List UInt8 := dkwX14_draw_0 ++ dktX14_draw_1
theorem dksX14_draw_0 : cX14_draw.data.toList.drop 0 = dktX14_draw_0 := by decide +kernel
theorem dksX14_draw_1 : cX14_draw.data.toList.drop 24 = dktX14_draw_1 := dk_seg dksX14_draw_0 24 rfl rfl
theorem dX14_draw_0 : decode cX14_draw 0 = .ok (.aload_n 0, 1) := dk_42 (dk_at dksX14_draw_0 0 rfl rfl)
theorem dX14_draw_1 : decode cX14_draw 1 = .ok (.getfield 16, 3) := dk_180 0 16 (dk_at dksX14_draw_0 1 rfl rfl)
theorem dX14_draw_4 : decode cX14_draw 4 = .ok (.iconst 5, 1) := dk_8 (dk_at dksX14_draw_0 4 rfl rfl)
theorem dX14_draw_5 : decode cX14_draw 5 = .ok (.aload_n 0, 1) := dk_42 (dk_at dksX14_draw_0 5 rfl rfl)
theorem dX14_draw_6 : decode cX14_draw 6 = .ok (.getfield 16, 3) := dk_180 0 16 (dk_at dksX14_draw_0 6 rfl rfl)
theorem dX14_draw_9 : decode cX14_draw 9 = .ok (.iconst 5, 1) := dk_8 (dk_at dksX14_draw_0 9 rfl rfl)
theorem dX14_draw_10 : decode cX14_draw 10 = .ok (.iaload, 1) := dk_46 (dk_at dksX14_draw_0 10 rfl rfl)
theorem dX14_draw_11 : decode cX14_draw 11 = .ok (.ldc 152, 2) := dk_18 152 (dk_at dksX14_draw_0 11 rfl rfl)
theorem dX14_draw_13 : decode cX14_draw 13 = .ok (.imul, 1) := dk_104 (dk_at dksX14_draw_0 13 rfl rfl)
theorem dX14_draw_14 : decode cX14_draw 14 = .ok (.sipush 12345, 3) := dk_17 48 57 (dk_at dksX14_draw_0 14 rfl rfl)
theorem dX14_draw_17 : decode cX14_draw 17 = .ok (.iadd, 1) := dk_96 (dk_at dksX14_draw_0 17 rfl rfl)
theorem dX14_draw_18 : decode cX14_draw 18 = .ok (.iastore, 1) := dk_79 (dk_at dksX14_draw_0 18 rfl rfl)
theorem dX14_draw_19 : decode cX14_draw 19 = .ok (.aload_n 0, 1) := dk_42 (dk_at dksX14_draw_0 19 rfl rfl)
theorem dX14_draw_20 : decode cX14_draw 20 = .ok (.getfield 16, 3) := dk_180 0 16 (dk_at dksX14_draw_0 20 rfl rfl)
theorem dX14_draw_23 : decode cX14_draw 23 = .ok (.iconst 5, 1) := dk_8 (dk_at dksX14_draw_0 23 rfl rfl)
theorem dX14_draw_24 : decode cX14_draw 24 = .ok (.iaload, 1) := dk_46 (dk_at dksX14_draw_1 0 rfl rfl)
theorem dX14_draw_25 : decode cX14_draw 25 = .ok (.bipush 16, 2) := dk_16 16 (dk_at dksX14_draw_1 1 rfl rfl)
theorem dX14_draw_27 : decode cX14_draw 27 = .ok (.iushr, 1) := dk_124 (dk_at dksX14_draw_1 3 rfl rfl)
theorem dX14_draw_28 : decode cX14_draw 28 = .ok (.ireturn, 1) := dk_172 (dk_at dksX14_draw_1 4 rfl rfl)
abbrev cX14_luck : ByteArray := prog_28_method_44_code
def yX14_luck : MethodName := ⟨RX14, "luck", "(I)I"⟩
def dkwX14_luck_4 : List UInt8 := [167, 255, 207, 21, 4, 172]
abbrev dktX14_luck_4 : List UInt8 := dkwX14_luck_4 ++ []
def dkwX14_luck_3 : List UInt8 := [182, 0, 148, 28, 164, 0, 7, 4, 167, 0, 4, 3, 96, 54, 4, 42, 182, 0, 164, 132, 5, 1]
abbrev dktX14_luck_3 : List UInt8 := dkwX14_luck_3 ++ dktX14_luck_4
def dkwX14_luck_2 : List UInt8 := [162, 0, 49, 42, 180, 0, 16, 8, 29, 79, 42, 182, 0, 156, 42, 180, 0, 16, 8, 46, 62, 21, 4, 42]
abbrev dktX14_luck_2 : List UInt8 := dkwX14_luck_2 ++ dktX14_luck_3
def dkwX14_luck_1 : List UInt8 := [182, 0, 148, 61, 42, 182, 0, 164, 42, 180, 0, 16, 8, 46, 62, 3, 54, 4, 3, 54, 5, 21, 5, 27]
abbrev dktX14_luck_1 : List UInt8 := dkwX14_luck_1 ++ dktX14_luck_2
def dkwX14_luck_0 : List UInt8 := [27, 133, 10, 20, 0, 159, 184, 0, 59, 154, 0, 5, 2, 172, 42, 182, 0, 161, 42, 182, 0, 140, 42]
abbrev dktX14_luck_0 : List UInt8 := dkwX14_luck_0 ++ dktX14_luck_1
theorem dksX14_luck_0 : cX14_luck.data.toList.drop 0 = dktX14_luck_0 := by decide +kernel
theorem dksX14_luck_1 : cX14_luck.data.toList.drop 23 = dktX14_luck_1 := dk_seg dksX14_luck_0 23 rfl rfl
theorem dksX14_luck_2 : cX14_luck.data.toList.drop 47 = dktX14_luck_2 := dk_seg dksX14_luck_1 24 rfl rfl
theorem dksX14_luck_3 : cX14_luck.data.toList.drop 71 = dktX14_luck_3 := dk_seg dksX14_luck_2 24 rfl rfl
theorem dksX14_luck_4 : cX14_luck.data.toList.drop 93 = dktX14_luck_4 := dk_seg dksX14_luck_3 22 rfl rfl
theorem dX14_luck_0 : decode cX14_luck 0 = .ok (.iload_n 1, 1) := dk_27 (dk_at dksX14_luck_0 0 rfl rfl)
theorem dX14_luck_1 : decode cX14_luck 1 = .ok (.i2l, 1) := dk_133 (dk_at dksX14_luck_0 1 rfl rfl)
theorem dX14_luck_2 : decode cX14_luck 2 = .ok (.lconst 1, 1) := dk_10 (dk_at dksX14_luck_0 2 rfl rfl)
theorem dX14_luck_3 : decode cX14_luck 3 = .ok (.ldc2_w 159, 3) := dk_20 0 159 (dk_at dksX14_luck_0 3 rfl rfl)
theorem dX14_luck_6 : decode cX14_luck 6 = .ok (.invokestatic 59, 3) := dk_184 0 59 (dk_at dksX14_luck_0 6 rfl rfl)
theorem dX14_luck_9 : decode cX14_luck 9 = .ok (.ifCond .ne 5, 3) := dk_154 0 5 (dk_at dksX14_luck_0 9 rfl rfl)
theorem dX14_luck_12 : decode cX14_luck 12 = .ok (.iconst (-1), 1) := dk_2 (dk_at dksX14_luck_0 12 rfl rfl)
theorem dX14_luck_13 : decode cX14_luck 13 = .ok (.ireturn, 1) := dk_172 (dk_at dksX14_luck_0 13 rfl rfl)
theorem dX14_luck_14 : decode cX14_luck 14 = .ok (.aload_n 0, 1) := dk_42 (dk_at dksX14_luck_0 14 rfl rfl)
theorem dX14_luck_15 : decode cX14_luck 15 = .ok (.invokevirtual 161, 3) := dk_182 0 161 (dk_at dksX14_luck_0 15 rfl rfl)
theorem dX14_luck_18 : decode cX14_luck 18 = .ok (.aload_n 0, 1) := dk_42 (dk_at dksX14_luck_0 18 rfl rfl)
theorem dX14_luck_19 : decode cX14_luck 19 = .ok (.invokevirtual 140, 3) := dk_182 0 140 (dk_at dksX14_luck_0 19 rfl rfl)
theorem dX14_luck_22 : decode cX14_luck 22 = .ok (.aload_n 0, 1) := dk_42 (dk_at dksX14_luck_0 22 rfl rfl)
theorem dX14_luck_23 : decode cX14_luck 23 = .ok (.invokevirtual 148, 3) := dk_182 0 148 (dk_at dksX14_luck_1 0 rfl rfl)
theorem dX14_luck_26 : decode cX14_luck 26 = .ok (.istore_n 2, 1) := dk_61 (dk_at dksX14_luck_1 3 rfl rfl)
theorem dX14_luck_27 : decode cX14_luck 27 = .ok (.aload_n 0, 1) := dk_42 (dk_at dksX14_luck_1 4 rfl rfl)
theorem dX14_luck_28 : decode cX14_luck 28 = .ok (.invokevirtual 164, 3) := dk_182 0 164 (dk_at dksX14_luck_1 5 rfl rfl)
theorem dX14_luck_31 : decode cX14_luck 31 = .ok (.aload_n 0, 1) := dk_42 (dk_at dksX14_luck_1 8 rfl rfl)
theorem dX14_luck_32 : decode cX14_luck 32 = .ok (.getfield 16, 3) := dk_180 0 16 (dk_at dksX14_luck_1 9 rfl rfl)
theorem dX14_luck_35 : decode cX14_luck 35 = .ok (.iconst 5, 1) := dk_8 (dk_at dksX14_luck_1 12 rfl rfl)
theorem dX14_luck_36 : decode cX14_luck 36 = .ok (.iaload, 1) := dk_46 (dk_at dksX14_luck_1 13 rfl rfl)
theorem dX14_luck_37 : decode cX14_luck 37 = .ok (.istore_n 3, 1) := dk_62 (dk_at dksX14_luck_1 14 rfl rfl)
theorem dX14_luck_38 : decode cX14_luck 38 = .ok (.iconst 0, 1) := dk_3 (dk_at dksX14_luck_1 15 rfl rfl)
theorem dX14_luck_39 : decode cX14_luck 39 = .ok (.istore 4, 2) := dk_54 4 (dk_at dksX14_luck_1 16 rfl rfl)
theorem dX14_luck_41 : decode cX14_luck 41 = .ok (.iconst 0, 1) := dk_3 (dk_at dksX14_luck_1 18 rfl rfl)
theorem dX14_luck_42 : decode cX14_luck 42 = .ok (.istore 5, 2) := dk_54 5 (dk_at dksX14_luck_1 19 rfl rfl)
theorem dX14_luck_44 : decode cX14_luck 44 = .ok (.iload 5, 2) := dk_21 5 (dk_at dksX14_luck_1 21 rfl rfl)
theorem dX14_luck_46 : decode cX14_luck 46 = .ok (.iload_n 1, 1) := dk_27 (dk_at dksX14_luck_1 23 rfl rfl)
theorem dX14_luck_47 : decode cX14_luck 47 = .ok (.if_icmp .ge 49, 3) := dk_162 0 49 (dk_at dksX14_luck_2 0 rfl rfl)
theorem dX14_luck_50 : decode cX14_luck 50 = .ok (.aload_n 0, 1) := dk_42 (dk_at dksX14_luck_2 3 rfl rfl)
theorem dX14_luck_51 : decode cX14_luck 51 = .ok (.getfield 16, 3) := dk_180 0 16 (dk_at dksX14_luck_2 4 rfl rfl)
theorem dX14_luck_54 : decode cX14_luck 54 = .ok (.iconst 5, 1) := dk_8 (dk_at dksX14_luck_2 7 rfl rfl)
theorem dX14_luck_55 : decode cX14_luck 55 = .ok (.iload_n 3, 1) := dk_29 (dk_at dksX14_luck_2 8 rfl rfl)
theorem dX14_luck_56 : decode cX14_luck 56 = .ok (.iastore, 1) := dk_79 (dk_at dksX14_luck_2 9 rfl rfl)
theorem dX14_luck_57 : decode cX14_luck 57 = .ok (.aload_n 0, 1) := dk_42 (dk_at dksX14_luck_2 10 rfl rfl)
theorem dX14_luck_58 : decode cX14_luck 58 = .ok (.invokevirtual 156, 3) := dk_182 0 156 (dk_at dksX14_luck_2 11 rfl rfl)
theorem dX14_luck_61 : decode cX14_luck 61 = .ok (.aload_n 0, 1) := dk_42 (dk_at dksX14_luck_2 14 rfl rfl)
theorem dX14_luck_62 : decode cX14_luck 62 = .ok (.getfield 16, 3) := dk_180 0 16 (dk_at dksX14_luck_2 15 rfl rfl)
theorem dX14_luck_65 : decode cX14_luck 65 = .ok (.iconst 5, 1) := dk_8 (dk_at dksX14_luck_2 18 rfl rfl)
theorem dX14_luck_66 : decode cX14_luck 66 = .ok (.iaload, 1) := dk_46 (dk_at dksX14_luck_2 19 rfl rfl)
theorem dX14_luck_67 : decode cX14_luck 67 = .ok (.istore_n 3, 1) := dk_62 (dk_at dksX14_luck_2 20 rfl rfl)
theorem dX14_luck_68 : decode cX14_luck 68 = .ok (.iload 4, 2) := dk_21 4 (dk_at dksX14_luck_2 21 rfl rfl)
theorem dX14_luck_70 : decode cX14_luck 70 = .ok (.aload_n 0, 1) := dk_42 (dk_at dksX14_luck_2 23 rfl rfl)
theorem dX14_luck_71 : decode cX14_luck 71 = .ok (.invokevirtual 148, 3) := dk_182 0 148 (dk_at dksX14_luck_3 0 rfl rfl)
theorem dX14_luck_74 : decode cX14_luck 74 = .ok (.iload_n 2, 1) := dk_28 (dk_at dksX14_luck_3 3 rfl rfl)
theorem dX14_luck_75 : decode cX14_luck 75 = .ok (.if_icmp .le 7, 3) := dk_164 0 7 (dk_at dksX14_luck_3 4 rfl rfl)
theorem dX14_luck_78 : decode cX14_luck 78 = .ok (.iconst 1, 1) := dk_4 (dk_at dksX14_luck_3 7 rfl rfl)
theorem dX14_luck_79 : decode cX14_luck 79 = .ok (.goto 4, 3) := dk_167 0 4 (dk_at dksX14_luck_3 8 rfl rfl)
theorem dX14_luck_82 : decode cX14_luck 82 = .ok (.iconst 0, 1) := dk_3 (dk_at dksX14_luck_3 11 rfl rfl)
theorem dX14_luck_83 : decode cX14_luck 83 = .ok (.iadd, 1) := dk_96 (dk_at dksX14_luck_3 12 rfl rfl)
theorem dX14_luck_84 : decode cX14_luck 84 = .ok (.istore 4, 2) := dk_54 4 (dk_at dksX14_luck_3 13 rfl rfl)
theorem dX14_luck_86 : decode cX14_luck 86 = .ok (.aload_n 0, 1) := dk_42 (dk_at dksX14_luck_3 15 rfl rfl)
theorem dX14_luck_87 : decode cX14_luck 87 = .ok (.invokevirtual 164, 3) := dk_182 0 164 (dk_at dksX14_luck_3 16 rfl rfl)
theorem dX14_luck_90 : decode cX14_luck 90 = .ok (.iinc 5 1, 3) := dk_132 5 1 (dk_at dksX14_luck_3 19 rfl rfl)
theorem dX14_luck_93 : decode cX14_luck 93 = .ok (.goto (-49), 3) := dk_167 255 207 (dk_at dksX14_luck_4 0 rfl rfl)
theorem dX14_luck_96 : decode cX14_luck 96 = .ok (.iload 4, 2) := dk_21 4 (dk_at dksX14_luck_4 3 rfl rfl)
theorem dX14_luck_98 : decode cX14_luck 98 = .ok (.ireturn, 1) := dk_172 (dk_at dksX14_luck_4 5 rfl rfl)
abbrev cX14_lends : ByteArray := prog_28_method_5_code
def yX14_lends : MethodName := ⟨RX14, "lends", "()V"⟩
def dkwX14_lends_0 : List UInt8 := [42, 180, 0, 16, 42, 180, 0, 22, 184, 0, 55, 177]
abbrev dktX14_lends_0 : List UInt8 := dkwX14_lends_0 ++ []
theorem dksX14_lends_0 : cX14_lends.data.toList.drop 0 = dktX14_lends_0 := by decide +kernel
theorem dX14_lends_0 : decode cX14_lends 0 = .ok (.aload_n 0, 1) := dk_42 (dk_at dksX14_lends_0 0 rfl rfl)
theorem dX14_lends_1 : decode cX14_lends 1 = .ok (.getfield 16, 3) := dk_180 0 16 (dk_at dksX14_lends_0 1 rfl rfl)
theorem dX14_lends_4 : decode cX14_lends 4 = .ok (.aload_n 0, 1) := dk_42 (dk_at dksX14_lends_0 4 rfl rfl)
theorem dX14_lends_5 : decode cX14_lends 5 = .ok (.getfield 22, 3) := dk_180 0 22 (dk_at dksX14_lends_0 5 rfl rfl)
theorem dX14_lends_8 : decode cX14_lends 8 = .ok (.invokestatic 55, 3) := dk_184 0 55 (dk_at dksX14_lends_0 8 rfl rfl)
theorem dX14_lends_11 : decode cX14_lends 11 = .ok (.return_, 1) := dk_177 (dk_at dksX14_lends_0 11 rfl rfl)
abbrev cX14_become : ByteArray := prog_28_method_4_code
def yX14_become : MethodName := ⟨RX14, "become", "([I[I)V"⟩
def dkwX14_become_0 : List UInt8 := [3, 61, 28, 16, 69, 162, 0, 15, 43, 28, 42, 28, 46, 79, 132, 2, 1, 167, 255, 241, 177]
abbrev dktX14_become_0 : List UInt8 := dkwX14_become_0 ++ []
theorem dksX14_become_0 : cX14_become.data.toList.drop 0 = dktX14_become_0 := by decide +kernel
theorem dX14_become_0 : decode cX14_become 0 = .ok (.iconst 0, 1) := dk_3 (dk_at dksX14_become_0 0 rfl rfl)
theorem dX14_become_1 : decode cX14_become 1 = .ok (.istore_n 2, 1) := dk_61 (dk_at dksX14_become_0 1 rfl rfl)
theorem dX14_become_2 : decode cX14_become 2 = .ok (.iload_n 2, 1) := dk_28 (dk_at dksX14_become_0 2 rfl rfl)
theorem dX14_become_3 : decode cX14_become 3 = .ok (.bipush 69, 2) := dk_16 69 (dk_at dksX14_become_0 3 rfl rfl)
theorem dX14_become_5 : decode cX14_become 5 = .ok (.if_icmp .ge 15, 3) := dk_162 0 15 (dk_at dksX14_become_0 5 rfl rfl)
theorem dX14_become_8 : decode cX14_become 8 = .ok (.aload_n 1, 1) := dk_43 (dk_at dksX14_become_0 8 rfl rfl)
theorem dX14_become_9 : decode cX14_become 9 = .ok (.iload_n 2, 1) := dk_28 (dk_at dksX14_become_0 9 rfl rfl)
theorem dX14_become_10 : decode cX14_become 10 = .ok (.aload_n 0, 1) := dk_42 (dk_at dksX14_become_0 10 rfl rfl)
theorem dX14_become_11 : decode cX14_become 11 = .ok (.iload_n 2, 1) := dk_28 (dk_at dksX14_become_0 11 rfl rfl)
theorem dX14_become_12 : decode cX14_become 12 = .ok (.iaload, 1) := dk_46 (dk_at dksX14_become_0 12 rfl rfl)
theorem dX14_become_13 : decode cX14_become 13 = .ok (.iastore, 1) := dk_79 (dk_at dksX14_become_0 13 rfl rfl)
theorem dX14_become_14 : decode cX14_become 14 = .ok (.iinc 2 1, 3) := dk_132 2 1 (dk_at dksX14_become_0 14 rfl rfl)
theorem dX14_become_17 : decode cX14_become 17 = .ok (.goto (-15), 3) := dk_167 255 241 (dk_at dksX14_become_0 17 rfl rfl)
theorem dX14_become_20 : decode cX14_become 20 = .ok (.return_, 1) := dk_177 (dk_at dksX14_become_0 20 rfl rfl)
abbrev cX14_laysBack : ByteArray := prog_28_method_6_code
def yX14_laysBack : MethodName := ⟨RX14, "laysBack", "()V"⟩
def dkwX14_laysBack_0 : List UInt8 := [42, 180, 0, 22, 42, 180, 0, 16, 184, 0, 55, 177]
abbrev dktX14_laysBack_0 : List UInt8 := dkwX14_laysBack_0 ++ []
theorem dksX14_laysBack_0 : cX14_laysBack.data.toList.drop 0 = dktX14_laysBack_0 := by decide +kernel
theorem dX14_laysBack_0 : decode cX14_laysBack 0 = .ok (.aload_n 0, 1) := dk_42 (dk_at dksX14_laysBack_0 0 rfl rfl)
theorem dX14_laysBack_1 : decode cX14_laysBack 1 = .ok (.getfield 22, 3) := dk_180 0 22 (dk_at dksX14_laysBack_0 1 rfl rfl)
theorem dX14_laysBack_4 : decode cX14_laysBack 4 = .ok (.aload_n 0, 1) := dk_42 (dk_at dksX14_laysBack_0 4 rfl rfl)
theorem dX14_laysBack_5 : decode cX14_laysBack 5 = .ok (.getfield 16, 3) := dk_180 0 16 (dk_at dksX14_laysBack_0 5 rfl rfl)
theorem dX14_laysBack_8 : decode cX14_laysBack 8 = .ok (.invokestatic 55, 3) := dk_184 0 55 (dk_at dksX14_laysBack_0 8 rfl rfl)
theorem dX14_laysBack_11 : decode cX14_laysBack 11 = .ok (.return_, 1) := dk_177 (dk_at dksX14_laysBack_0 11 rfl rfl)
abbrev cX14_state : ByteArray := prog_28_method_49_code
def yX14_state : MethodName := ⟨RX14, "state", "(I)I"⟩
def dkwX14_state_4 : List UInt8 := [172]
abbrev dktX14_state_4 : List UInt8 := dkwX14_state_4 ++ []
def dkwX14_state_3 : List UInt8 := [46, 96, 172, 42, 182, 0, 171, 172, 42, 182, 0, 174, 172, 42, 182, 0, 148, 172, 42, 182, 0, 177, 172, 2]
abbrev dktX14_state_3 : List UInt8 := dkwX14_state_3 ++ dktX14_state_4
def dkwX14_state_2 : List UInt8 := [42, 180, 0, 16, 7, 46, 172, 4, 42, 180, 0, 16, 16, 23, 42, 180, 0, 16, 7, 46, 16, 6, 112, 96]
abbrev dktX14_state_2 : List UInt8 := dkwX14_state_2 ++ dktX14_state_3
def dkwX14_state_1 : List UInt8 := [170, 0, 0, 0, 0, 0, 86, 0, 0, 0, 0, 0, 0, 0, 5, 0, 0, 0, 39, 0, 0, 0, 46, 0, 0, 0, 66, 0, 0, 0, 71, 0, 0, 0, 76, 0, 0, 0, 81]
abbrev dktX14_state_1 : List UInt8 := dkwX14_state_1 ++ dktX14_state_2
def dkwX14_state_0 : List UInt8 := [27]
abbrev dktX14_state_0 : List UInt8 := dkwX14_state_0 ++ dktX14_state_1
theorem dksX14_state_0 : cX14_state.data.toList.drop 0 = dktX14_state_0 := by decide +kernel
theorem dksX14_state_1 : cX14_state.data.toList.drop 1 = dktX14_state_1 := dk_seg dksX14_state_0 1 rfl rfl
theorem dksX14_state_2 : cX14_state.data.toList.drop 40 = dktX14_state_2 := dk_seg dksX14_state_1 39 rfl rfl
theorem dksX14_state_3 : cX14_state.data.toList.drop 64 = dktX14_state_3 := dk_seg dksX14_state_2 24 rfl rfl
theorem dksX14_state_4 : cX14_state.data.toList.drop 88 = dktX14_state_4 := dk_seg dksX14_state_3 24 rfl rfl
theorem dX14_state_0 : decode cX14_state 0 = .ok (.iload_n 1, 1) := dk_27 (dk_at dksX14_state_0 0 rfl rfl)
theorem dX14_state_1 : decode cX14_state 1 = .ok (.tableswitch 86 0 5 #[39, 46, 66, 71, 76, 81], 39) := by decide +kernel
theorem dX14_state_40 : decode cX14_state 40 = .ok (.aload_n 0, 1) := dk_42 (dk_at dksX14_state_2 0 rfl rfl)
theorem dX14_state_41 : decode cX14_state 41 = .ok (.getfield 16, 3) := dk_180 0 16 (dk_at dksX14_state_2 1 rfl rfl)
theorem dX14_state_44 : decode cX14_state 44 = .ok (.iconst 4, 1) := dk_7 (dk_at dksX14_state_2 4 rfl rfl)
theorem dX14_state_45 : decode cX14_state 45 = .ok (.iaload, 1) := dk_46 (dk_at dksX14_state_2 5 rfl rfl)
theorem dX14_state_46 : decode cX14_state 46 = .ok (.ireturn, 1) := dk_172 (dk_at dksX14_state_2 6 rfl rfl)
theorem dX14_state_47 : decode cX14_state 47 = .ok (.iconst 1, 1) := dk_4 (dk_at dksX14_state_2 7 rfl rfl)
theorem dX14_state_48 : decode cX14_state 48 = .ok (.aload_n 0, 1) := dk_42 (dk_at dksX14_state_2 8 rfl rfl)
theorem dX14_state_49 : decode cX14_state 49 = .ok (.getfield 16, 3) := dk_180 0 16 (dk_at dksX14_state_2 9 rfl rfl)
theorem dX14_state_52 : decode cX14_state 52 = .ok (.bipush 23, 2) := dk_16 23 (dk_at dksX14_state_2 12 rfl rfl)
theorem dX14_state_54 : decode cX14_state 54 = .ok (.aload_n 0, 1) := dk_42 (dk_at dksX14_state_2 14 rfl rfl)
theorem dX14_state_55 : decode cX14_state 55 = .ok (.getfield 16, 3) := dk_180 0 16 (dk_at dksX14_state_2 15 rfl rfl)
theorem dX14_state_58 : decode cX14_state 58 = .ok (.iconst 4, 1) := dk_7 (dk_at dksX14_state_2 18 rfl rfl)
theorem dX14_state_59 : decode cX14_state 59 = .ok (.iaload, 1) := dk_46 (dk_at dksX14_state_2 19 rfl rfl)
theorem dX14_state_60 : decode cX14_state 60 = .ok (.bipush 6, 2) := dk_16 6 (dk_at dksX14_state_2 20 rfl rfl)
theorem dX14_state_62 : decode cX14_state 62 = .ok (.irem, 1) := dk_112 (dk_at dksX14_state_2 22 rfl rfl)
theorem dX14_state_63 : decode cX14_state 63 = .ok (.iadd, 1) := dk_96 (dk_at dksX14_state_2 23 rfl rfl)
theorem dX14_state_64 : decode cX14_state 64 = .ok (.iaload, 1) := dk_46 (dk_at dksX14_state_3 0 rfl rfl)
theorem dX14_state_65 : decode cX14_state 65 = .ok (.iadd, 1) := dk_96 (dk_at dksX14_state_3 1 rfl rfl)
theorem dX14_state_66 : decode cX14_state 66 = .ok (.ireturn, 1) := dk_172 (dk_at dksX14_state_3 2 rfl rfl)
theorem dX14_state_67 : decode cX14_state 67 = .ok (.aload_n 0, 1) := dk_42 (dk_at dksX14_state_3 3 rfl rfl)
theorem dX14_state_68 : decode cX14_state 68 = .ok (.invokevirtual 171, 3) := dk_182 0 171 (dk_at dksX14_state_3 4 rfl rfl)
theorem dX14_state_71 : decode cX14_state 71 = .ok (.ireturn, 1) := dk_172 (dk_at dksX14_state_3 7 rfl rfl)
theorem dX14_state_72 : decode cX14_state 72 = .ok (.aload_n 0, 1) := dk_42 (dk_at dksX14_state_3 8 rfl rfl)
theorem dX14_state_73 : decode cX14_state 73 = .ok (.invokevirtual 174, 3) := dk_182 0 174 (dk_at dksX14_state_3 9 rfl rfl)
theorem dX14_state_76 : decode cX14_state 76 = .ok (.ireturn, 1) := dk_172 (dk_at dksX14_state_3 12 rfl rfl)
theorem dX14_state_77 : decode cX14_state 77 = .ok (.aload_n 0, 1) := dk_42 (dk_at dksX14_state_3 13 rfl rfl)
theorem dX14_state_78 : decode cX14_state 78 = .ok (.invokevirtual 148, 3) := dk_182 0 148 (dk_at dksX14_state_3 14 rfl rfl)
theorem dX14_state_81 : decode cX14_state 81 = .ok (.ireturn, 1) := dk_172 (dk_at dksX14_state_3 17 rfl rfl)
theorem dX14_state_82 : decode cX14_state 82 = .ok (.aload_n 0, 1) := dk_42 (dk_at dksX14_state_3 18 rfl rfl)
theorem dX14_state_83 : decode cX14_state 83 = .ok (.invokevirtual 177, 3) := dk_182 0 177 (dk_at dksX14_state_3 19 rfl rfl)
theorem dX14_state_86 : decode cX14_state 86 = .ok (.ireturn, 1) := dk_172 (dk_at dksX14_state_3 22 rfl rfl)
theorem dX14_state_87 : decode cX14_state 87 = .ok (.iconst (-1), 1) := dk_2 (dk_at dksX14_state_3 23 rfl rfl)
theorem dX14_state_88 : decode cX14_state 88 = .ok (.ireturn, 1) := dk_172 (dk_at dksX14_state_4 0 rfl rfl)
abbrev cX14_hungSet : ByteArray := prog_28_method_45_code
def yX14_hungSet : MethodName := ⟨RX14, "hungSet", "()I"⟩
def dkwX14_hungSet_1 : List UInt8 := [128, 60, 132, 2, 1, 167, 255, 231, 27, 172]
abbrev dktX14_hungSet_1 : List UInt8 := dkwX14_hungSet_1 ++ []
def dkwX14_hungSet_0 : List UInt8 := [3, 60, 3, 61, 28, 42, 180, 0, 16, 16, 6, 46, 162, 0, 20, 27, 42, 28, 6, 182, 0, 82, 28, 120]
abbrev dktX14_hungSet_0 : List UInt8 := dkwX14_hungSet_0 ++ dktX14_hungSet_1
theorem dksX14_hungSet_0 : cX14_hungSet.data.toList.drop 0 = dktX14_hungSet_0 := by decide +kernel
theorem dksX14_hungSet_1 : cX14_hungSet.data.toList.drop 24 = dktX14_hungSet_1 := dk_seg dksX14_hungSet_0 24 rfl rfl
theorem dX14_hungSet_0 : decode cX14_hungSet 0 = .ok (.iconst 0, 1) := dk_3 (dk_at dksX14_hungSet_0 0 rfl rfl)
theorem dX14_hungSet_1 : decode cX14_hungSet 1 = .ok (.istore_n 1, 1) := dk_60 (dk_at dksX14_hungSet_0 1 rfl rfl)
theorem dX14_hungSet_2 : decode cX14_hungSet 2 = .ok (.iconst 0, 1) := dk_3 (dk_at dksX14_hungSet_0 2 rfl rfl)
theorem dX14_hungSet_3 : decode cX14_hungSet 3 = .ok (.istore_n 2, 1) := dk_61 (dk_at dksX14_hungSet_0 3 rfl rfl)
theorem dX14_hungSet_4 : decode cX14_hungSet 4 = .ok (.iload_n 2, 1) := dk_28 (dk_at dksX14_hungSet_0 4 rfl rfl)
theorem dX14_hungSet_5 : decode cX14_hungSet 5 = .ok (.aload_n 0, 1) := dk_42 (dk_at dksX14_hungSet_0 5 rfl rfl)
theorem dX14_hungSet_6 : decode cX14_hungSet 6 = .ok (.getfield 16, 3) := dk_180 0 16 (dk_at dksX14_hungSet_0 6 rfl rfl)
theorem dX14_hungSet_9 : decode cX14_hungSet 9 = .ok (.bipush 6, 2) := dk_16 6 (dk_at dksX14_hungSet_0 9 rfl rfl)
theorem dX14_hungSet_11 : decode cX14_hungSet 11 = .ok (.iaload, 1) := dk_46 (dk_at dksX14_hungSet_0 11 rfl rfl)
theorem dX14_hungSet_12 : decode cX14_hungSet 12 = .ok (.if_icmp .ge 20, 3) := dk_162 0 20 (dk_at dksX14_hungSet_0 12 rfl rfl)
theorem dX14_hungSet_15 : decode cX14_hungSet 15 = .ok (.iload_n 1, 1) := dk_27 (dk_at dksX14_hungSet_0 15 rfl rfl)
theorem dX14_hungSet_16 : decode cX14_hungSet 16 = .ok (.aload_n 0, 1) := dk_42 (dk_at dksX14_hungSet_0 16 rfl rfl)
theorem dX14_hungSet_17 : decode cX14_hungSet 17 = .ok (.iload_n 2, 1) := dk_28 (dk_at dksX14_hungSet_0 17 rfl rfl)
theorem dX14_hungSet_18 : decode cX14_hungSet 18 = .ok (.iconst 3, 1) := dk_6 (dk_at dksX14_hungSet_0 18 rfl rfl)
theorem dX14_hungSet_19 : decode cX14_hungSet 19 = .ok (.invokevirtual 82, 3) := dk_182 0 82 (dk_at dksX14_hungSet_0 19 rfl rfl)
theorem dX14_hungSet_22 : decode cX14_hungSet 22 = .ok (.iload_n 2, 1) := dk_28 (dk_at dksX14_hungSet_0 22 rfl rfl)
theorem dX14_hungSet_23 : decode cX14_hungSet 23 = .ok (.ishl, 1) := dk_120 (dk_at dksX14_hungSet_0 23 rfl rfl)
theorem dX14_hungSet_24 : decode cX14_hungSet 24 = .ok (.ior, 1) := dk_128 (dk_at dksX14_hungSet_1 0 rfl rfl)
theorem dX14_hungSet_25 : decode cX14_hungSet 25 = .ok (.istore_n 1, 1) := dk_60 (dk_at dksX14_hungSet_1 1 rfl rfl)
theorem dX14_hungSet_26 : decode cX14_hungSet 26 = .ok (.iinc 2 1, 3) := dk_132 2 1 (dk_at dksX14_hungSet_1 2 rfl rfl)
theorem dX14_hungSet_29 : decode cX14_hungSet 29 = .ok (.goto (-25), 3) := dk_167 255 231 (dk_at dksX14_hungSet_1 5 rfl rfl)
theorem dX14_hungSet_32 : decode cX14_hungSet 32 = .ok (.iload_n 1, 1) := dk_27 (dk_at dksX14_hungSet_1 8 rfl rfl)
theorem dX14_hungSet_33 : decode cX14_hungSet 33 = .ok (.ireturn, 1) := dk_172 (dk_at dksX14_hungSet_1 9 rfl rfl)
abbrev cX14_aboutSet : ByteArray := prog_28_method_46_code
def yX14_aboutSet : MethodName := ⟨RX14, "aboutSet", "()I"⟩
def dkwX14_aboutSet_1 : List UInt8 := [155, 0, 9, 4, 28, 120, 167, 0, 4, 3, 128, 60, 132, 2, 1, 167, 255, 223, 27, 172]
abbrev dktX14_aboutSet_1 : List UInt8 := dkwX14_aboutSet_1 ++ []
def dkwX14_aboutSet_0 : List UInt8 := [3, 60, 3, 61, 28, 42, 180, 0, 16, 16, 6, 46, 162, 0, 28, 27, 42, 28, 4, 182, 0, 82]
abbrev dktX14_aboutSet_0 : List UInt8 := dkwX14_aboutSet_0 ++ dktX14_aboutSet_1
theorem dksX14_aboutSet_0 : cX14_aboutSet.data.toList.drop 0 = dktX14_aboutSet_0 := by decide +kernel
theorem dksX14_aboutSet_1 : cX14_aboutSet.data.toList.drop 22 = dktX14_aboutSet_1 := dk_seg dksX14_aboutSet_0 22 rfl rfl
theorem dX14_aboutSet_0 : decode cX14_aboutSet 0 = .ok (.iconst 0, 1) := dk_3 (dk_at dksX14_aboutSet_0 0 rfl rfl)
theorem dX14_aboutSet_1 : decode cX14_aboutSet 1 = .ok (.istore_n 1, 1) := dk_60 (dk_at dksX14_aboutSet_0 1 rfl rfl)
theorem dX14_aboutSet_2 : decode cX14_aboutSet 2 = .ok (.iconst 0, 1) := dk_3 (dk_at dksX14_aboutSet_0 2 rfl rfl)
theorem dX14_aboutSet_3 : decode cX14_aboutSet 3 = .ok (.istore_n 2, 1) := dk_61 (dk_at dksX14_aboutSet_0 3 rfl rfl)
theorem dX14_aboutSet_4 : decode cX14_aboutSet 4 = .ok (.iload_n 2, 1) := dk_28 (dk_at dksX14_aboutSet_0 4 rfl rfl)
theorem dX14_aboutSet_5 : decode cX14_aboutSet 5 = .ok (.aload_n 0, 1) := dk_42 (dk_at dksX14_aboutSet_0 5 rfl rfl)
theorem dX14_aboutSet_6 : decode cX14_aboutSet 6 = .ok (.getfield 16, 3) := dk_180 0 16 (dk_at dksX14_aboutSet_0 6 rfl rfl)
theorem dX14_aboutSet_9 : decode cX14_aboutSet 9 = .ok (.bipush 6, 2) := dk_16 6 (dk_at dksX14_aboutSet_0 9 rfl rfl)
theorem dX14_aboutSet_11 : decode cX14_aboutSet 11 = .ok (.iaload, 1) := dk_46 (dk_at dksX14_aboutSet_0 11 rfl rfl)
theorem dX14_aboutSet_12 : decode cX14_aboutSet 12 = .ok (.if_icmp .ge 28, 3) := dk_162 0 28 (dk_at dksX14_aboutSet_0 12 rfl rfl)
theorem dX14_aboutSet_15 : decode cX14_aboutSet 15 = .ok (.iload_n 1, 1) := dk_27 (dk_at dksX14_aboutSet_0 15 rfl rfl)
theorem dX14_aboutSet_16 : decode cX14_aboutSet 16 = .ok (.aload_n 0, 1) := dk_42 (dk_at dksX14_aboutSet_0 16 rfl rfl)
theorem dX14_aboutSet_17 : decode cX14_aboutSet 17 = .ok (.iload_n 2, 1) := dk_28 (dk_at dksX14_aboutSet_0 17 rfl rfl)
theorem dX14_aboutSet_18 : decode cX14_aboutSet 18 = .ok (.iconst 1, 1) := dk_4 (dk_at dksX14_aboutSet_0 18 rfl rfl)
theorem dX14_aboutSet_19 : decode cX14_aboutSet 19 = .ok (.invokevirtual 82, 3) := dk_182 0 82 (dk_at dksX14_aboutSet_0 19 rfl rfl)
theorem dX14_aboutSet_22 : decode cX14_aboutSet 22 = .ok (.ifCond .lt 9, 3) := dk_155 0 9 (dk_at dksX14_aboutSet_1 0 rfl rfl)
theorem dX14_aboutSet_25 : decode cX14_aboutSet 25 = .ok (.iconst 1, 1) := dk_4 (dk_at dksX14_aboutSet_1 3 rfl rfl)
theorem dX14_aboutSet_26 : decode cX14_aboutSet 26 = .ok (.iload_n 2, 1) := dk_28 (dk_at dksX14_aboutSet_1 4 rfl rfl)
theorem dX14_aboutSet_27 : decode cX14_aboutSet 27 = .ok (.ishl, 1) := dk_120 (dk_at dksX14_aboutSet_1 5 rfl rfl)
theorem dX14_aboutSet_28 : decode cX14_aboutSet 28 = .ok (.goto 4, 3) := dk_167 0 4 (dk_at dksX14_aboutSet_1 6 rfl rfl)
theorem dX14_aboutSet_31 : decode cX14_aboutSet 31 = .ok (.iconst 0, 1) := dk_3 (dk_at dksX14_aboutSet_1 9 rfl rfl)
theorem dX14_aboutSet_32 : decode cX14_aboutSet 32 = .ok (.ior, 1) := dk_128 (dk_at dksX14_aboutSet_1 10 rfl rfl)
theorem dX14_aboutSet_33 : decode cX14_aboutSet 33 = .ok (.istore_n 1, 1) := dk_60 (dk_at dksX14_aboutSet_1 11 rfl rfl)
theorem dX14_aboutSet_34 : decode cX14_aboutSet 34 = .ok (.iinc 2 1, 3) := dk_132 2 1 (dk_at dksX14_aboutSet_1 12 rfl rfl)
theorem dX14_aboutSet_37 : decode cX14_aboutSet 37 = .ok (.goto (-33), 3) := dk_167 255 223 (dk_at dksX14_aboutSet_1 15 rfl rfl)
theorem dX14_aboutSet_40 : decode cX14_aboutSet 40 = .ok (.iload_n 1, 1) := dk_27 (dk_at dksX14_aboutSet_1 18 rfl rfl)
theorem dX14_aboutSet_41 : decode cX14_aboutSet 41 = .ok (.ireturn, 1) := dk_172 (dk_at dksX14_aboutSet_1 19 rfl rfl)
abbrev cX14_oddsAmong : ByteArray := prog_28_method_48_code
def yX14_oddsAmong : MethodName := ⟨RX14, "oddsAmong", "()I"⟩
def dkwX14_oddsAmong_2 : List UInt8 := [167, 255, 212, 27, 172]
abbrev dktX14_oddsAmong_2 : List UInt8 := dkwX14_oddsAmong_2 ++ []
def dkwX14_oddsAmong_1 : List UInt8 := [28, 29, 182, 0, 167, 153, 0, 7, 4, 167, 0, 4, 3, 96, 60, 132, 3, 1, 167, 255, 231, 132, 2, 1]
abbrev dktX14_oddsAmong_1 : List UInt8 := dkwX14_oddsAmong_1 ++ dktX14_oddsAmong_2
def dkwX14_oddsAmong_0 : List UInt8 := [3, 60, 3, 61, 28, 42, 180, 0, 16, 16, 6, 46, 162, 0, 39, 3, 62, 29, 28, 162, 0, 26, 27, 42]
abbrev dktX14_oddsAmong_0 : List UInt8 := dkwX14_oddsAmong_0 ++ dktX14_oddsAmong_1
theorem dksX14_oddsAmong_0 : cX14_oddsAmong.data.toList.drop 0 = dktX14_oddsAmong_0 := by decide +kernel
theorem dksX14_oddsAmong_1 : cX14_oddsAmong.data.toList.drop 24 = dktX14_oddsAmong_1 := dk_seg dksX14_oddsAmong_0 24 rfl rfl
theorem dksX14_oddsAmong_2 : cX14_oddsAmong.data.toList.drop 48 = dktX14_oddsAmong_2 := dk_seg dksX14_oddsAmong_1 24 rfl rfl
theorem dX14_oddsAmong_0 : decode cX14_oddsAmong 0 = .ok (.iconst 0, 1) := dk_3 (dk_at dksX14_oddsAmong_0 0 rfl rfl)
theorem dX14_oddsAmong_1 : decode cX14_oddsAmong 1 = .ok (.istore_n 1, 1) := dk_60 (dk_at dksX14_oddsAmong_0 1 rfl rfl)
theorem dX14_oddsAmong_2 : decode cX14_oddsAmong 2 = .ok (.iconst 0, 1) := dk_3 (dk_at dksX14_oddsAmong_0 2 rfl rfl)
theorem dX14_oddsAmong_3 : decode cX14_oddsAmong 3 = .ok (.istore_n 2, 1) := dk_61 (dk_at dksX14_oddsAmong_0 3 rfl rfl)
theorem dX14_oddsAmong_4 : decode cX14_oddsAmong 4 = .ok (.iload_n 2, 1) := dk_28 (dk_at dksX14_oddsAmong_0 4 rfl rfl)
theorem dX14_oddsAmong_5 : decode cX14_oddsAmong 5 = .ok (.aload_n 0, 1) := dk_42 (dk_at dksX14_oddsAmong_0 5 rfl rfl)
theorem dX14_oddsAmong_6 : decode cX14_oddsAmong 6 = .ok (.getfield 16, 3) := dk_180 0 16 (dk_at dksX14_oddsAmong_0 6 rfl rfl)
theorem dX14_oddsAmong_9 : decode cX14_oddsAmong 9 = .ok (.bipush 6, 2) := dk_16 6 (dk_at dksX14_oddsAmong_0 9 rfl rfl)
theorem dX14_oddsAmong_11 : decode cX14_oddsAmong 11 = .ok (.iaload, 1) := dk_46 (dk_at dksX14_oddsAmong_0 11 rfl rfl)
theorem dX14_oddsAmong_12 : decode cX14_oddsAmong 12 = .ok (.if_icmp .ge 39, 3) := dk_162 0 39 (dk_at dksX14_oddsAmong_0 12 rfl rfl)
theorem dX14_oddsAmong_15 : decode cX14_oddsAmong 15 = .ok (.iconst 0, 1) := dk_3 (dk_at dksX14_oddsAmong_0 15 rfl rfl)
theorem dX14_oddsAmong_16 : decode cX14_oddsAmong 16 = .ok (.istore_n 3, 1) := dk_62 (dk_at dksX14_oddsAmong_0 16 rfl rfl)
theorem dX14_oddsAmong_17 : decode cX14_oddsAmong 17 = .ok (.iload_n 3, 1) := dk_29 (dk_at dksX14_oddsAmong_0 17 rfl rfl)
theorem dX14_oddsAmong_18 : decode cX14_oddsAmong 18 = .ok (.iload_n 2, 1) := dk_28 (dk_at dksX14_oddsAmong_0 18 rfl rfl)
theorem dX14_oddsAmong_19 : decode cX14_oddsAmong 19 = .ok (.if_icmp .ge 26, 3) := dk_162 0 26 (dk_at dksX14_oddsAmong_0 19 rfl rfl)
theorem dX14_oddsAmong_22 : decode cX14_oddsAmong 22 = .ok (.iload_n 1, 1) := dk_27 (dk_at dksX14_oddsAmong_0 22 rfl rfl)
theorem dX14_oddsAmong_23 : decode cX14_oddsAmong 23 = .ok (.aload_n 0, 1) := dk_42 (dk_at dksX14_oddsAmong_0 23 rfl rfl)
theorem dX14_oddsAmong_24 : decode cX14_oddsAmong 24 = .ok (.iload_n 2, 1) := dk_28 (dk_at dksX14_oddsAmong_1 0 rfl rfl)
theorem dX14_oddsAmong_25 : decode cX14_oddsAmong 25 = .ok (.iload_n 3, 1) := dk_29 (dk_at dksX14_oddsAmong_1 1 rfl rfl)
theorem dX14_oddsAmong_26 : decode cX14_oddsAmong 26 = .ok (.invokevirtual 167, 3) := dk_182 0 167 (dk_at dksX14_oddsAmong_1 2 rfl rfl)
theorem dX14_oddsAmong_29 : decode cX14_oddsAmong 29 = .ok (.ifCond .eq 7, 3) := dk_153 0 7 (dk_at dksX14_oddsAmong_1 5 rfl rfl)
theorem dX14_oddsAmong_32 : decode cX14_oddsAmong 32 = .ok (.iconst 1, 1) := dk_4 (dk_at dksX14_oddsAmong_1 8 rfl rfl)
theorem dX14_oddsAmong_33 : decode cX14_oddsAmong 33 = .ok (.goto 4, 3) := dk_167 0 4 (dk_at dksX14_oddsAmong_1 9 rfl rfl)
theorem dX14_oddsAmong_36 : decode cX14_oddsAmong 36 = .ok (.iconst 0, 1) := dk_3 (dk_at dksX14_oddsAmong_1 12 rfl rfl)
theorem dX14_oddsAmong_37 : decode cX14_oddsAmong 37 = .ok (.iadd, 1) := dk_96 (dk_at dksX14_oddsAmong_1 13 rfl rfl)
theorem dX14_oddsAmong_38 : decode cX14_oddsAmong 38 = .ok (.istore_n 1, 1) := dk_60 (dk_at dksX14_oddsAmong_1 14 rfl rfl)
theorem dX14_oddsAmong_39 : decode cX14_oddsAmong 39 = .ok (.iinc 3 1, 3) := dk_132 3 1 (dk_at dksX14_oddsAmong_1 15 rfl rfl)
theorem dX14_oddsAmong_42 : decode cX14_oddsAmong 42 = .ok (.goto (-25), 3) := dk_167 255 231 (dk_at dksX14_oddsAmong_1 18 rfl rfl)
theorem dX14_oddsAmong_45 : decode cX14_oddsAmong 45 = .ok (.iinc 2 1, 3) := dk_132 2 1 (dk_at dksX14_oddsAmong_1 21 rfl rfl)
theorem dX14_oddsAmong_48 : decode cX14_oddsAmong 48 = .ok (.goto (-44), 3) := dk_167 255 212 (dk_at dksX14_oddsAmong_2 0 rfl rfl)
theorem dX14_oddsAmong_51 : decode cX14_oddsAmong 51 = .ok (.iload_n 1, 1) := dk_27 (dk_at dksX14_oddsAmong_2 3 rfl rfl)
theorem dX14_oddsAmong_52 : decode cX14_oddsAmong 52 = .ok (.ireturn, 1) := dk_172 (dk_at dksX14_oddsAmong_2 4 rfl rfl)
abbrev cX14_isAtOdds : ByteArray := prog_28_method_47_code
def yX14_isAtOdds : MethodName := ⟨RX14, "isAtOdds", "(II)Z"⟩
def dkwX14_isAtOdds_2 : List UInt8 := [4, 182, 0, 82, 42, 28, 4, 182, 0, 82, 159, 0, 7, 4, 167, 0, 4, 3, 172]
abbrev dktX14_isAtOdds_2 : List UInt8 := dkwX14_isAtOdds_2 ++ []
def dkwX14_isAtOdds_1 : List UInt8 := [29, 153, 0, 40, 42, 27, 4, 182, 0, 82, 155, 0, 31, 42, 28, 4, 182, 0, 82, 155, 0, 22, 42, 27]
abbrev dktX14_isAtOdds_1 : List UInt8 := dkwX14_isAtOdds_1 ++ dktX14_isAtOdds_2
def dkwX14_isAtOdds_0 : List UInt8 := [42, 27, 6, 182, 0, 82, 154, 0, 16, 42, 28, 6, 182, 0, 82, 154, 0, 7, 4, 167, 0, 4, 3, 62]
abbrev dktX14_isAtOdds_0 : List UInt8 := dkwX14_isAtOdds_0 ++ dktX14_isAtOdds_1
theorem dksX14_isAtOdds_0 : cX14_isAtOdds.data.toList.drop 0 = dktX14_isAtOdds_0 := by decide +kernel
theorem dksX14_isAtOdds_1 : cX14_isAtOdds.data.toList.drop 24 = dktX14_isAtOdds_1 := dk_seg dksX14_isAtOdds_0 24 rfl rfl
theorem dksX14_isAtOdds_2 : cX14_isAtOdds.data.toList.drop 48 = dktX14_isAtOdds_2 := dk_seg dksX14_isAtOdds_1 24 rfl rfl
theorem dX14_isAtOdds_0 : decode cX14_isAtOdds 0 = .ok (.aload_n 0, 1) := dk_42 (dk_at dksX14_isAtOdds_0 0 rfl rfl)
theorem dX14_isAtOdds_1 : decode cX14_isAtOdds 1 = .ok (.iload_n 1, 1) := dk_27 (dk_at dksX14_isAtOdds_0 1 rfl rfl)
theorem dX14_isAtOdds_2 : decode cX14_isAtOdds 2 = .ok (.iconst 3, 1) := dk_6 (dk_at dksX14_isAtOdds_0 2 rfl rfl)
theorem dX14_isAtOdds_3 : decode cX14_isAtOdds 3 = .ok (.invokevirtual 82, 3) := dk_182 0 82 (dk_at dksX14_isAtOdds_0 3 rfl rfl)
theorem dX14_isAtOdds_6 : decode cX14_isAtOdds 6 = .ok (.ifCond .ne 16, 3) := dk_154 0 16 (dk_at dksX14_isAtOdds_0 6 rfl rfl)
theorem dX14_isAtOdds_9 : decode cX14_isAtOdds 9 = .ok (.aload_n 0, 1) := dk_42 (dk_at dksX14_isAtOdds_0 9 rfl rfl)
theorem dX14_isAtOdds_10 : decode cX14_isAtOdds 10 = .ok (.iload_n 2, 1) := dk_28 (dk_at dksX14_isAtOdds_0 10 rfl rfl)
theorem dX14_isAtOdds_11 : decode cX14_isAtOdds 11 = .ok (.iconst 3, 1) := dk_6 (dk_at dksX14_isAtOdds_0 11 rfl rfl)
theorem dX14_isAtOdds_12 : decode cX14_isAtOdds 12 = .ok (.invokevirtual 82, 3) := dk_182 0 82 (dk_at dksX14_isAtOdds_0 12 rfl rfl)
theorem dX14_isAtOdds_15 : decode cX14_isAtOdds 15 = .ok (.ifCond .ne 7, 3) := dk_154 0 7 (dk_at dksX14_isAtOdds_0 15 rfl rfl)
theorem dX14_isAtOdds_18 : decode cX14_isAtOdds 18 = .ok (.iconst 1, 1) := dk_4 (dk_at dksX14_isAtOdds_0 18 rfl rfl)
theorem dX14_isAtOdds_19 : decode cX14_isAtOdds 19 = .ok (.goto 4, 3) := dk_167 0 4 (dk_at dksX14_isAtOdds_0 19 rfl rfl)
theorem dX14_isAtOdds_22 : decode cX14_isAtOdds 22 = .ok (.iconst 0, 1) := dk_3 (dk_at dksX14_isAtOdds_0 22 rfl rfl)
theorem dX14_isAtOdds_23 : decode cX14_isAtOdds 23 = .ok (.istore_n 3, 1) := dk_62 (dk_at dksX14_isAtOdds_0 23 rfl rfl)
theorem dX14_isAtOdds_24 : decode cX14_isAtOdds 24 = .ok (.iload_n 3, 1) := dk_29 (dk_at dksX14_isAtOdds_1 0 rfl rfl)
theorem dX14_isAtOdds_25 : decode cX14_isAtOdds 25 = .ok (.ifCond .eq 40, 3) := dk_153 0 40 (dk_at dksX14_isAtOdds_1 1 rfl rfl)
theorem dX14_isAtOdds_28 : decode cX14_isAtOdds 28 = .ok (.aload_n 0, 1) := dk_42 (dk_at dksX14_isAtOdds_1 4 rfl rfl)
theorem dX14_isAtOdds_29 : decode cX14_isAtOdds 29 = .ok (.iload_n 1, 1) := dk_27 (dk_at dksX14_isAtOdds_1 5 rfl rfl)
theorem dX14_isAtOdds_30 : decode cX14_isAtOdds 30 = .ok (.iconst 1, 1) := dk_4 (dk_at dksX14_isAtOdds_1 6 rfl rfl)
theorem dX14_isAtOdds_31 : decode cX14_isAtOdds 31 = .ok (.invokevirtual 82, 3) := dk_182 0 82 (dk_at dksX14_isAtOdds_1 7 rfl rfl)
theorem dX14_isAtOdds_34 : decode cX14_isAtOdds 34 = .ok (.ifCond .lt 31, 3) := dk_155 0 31 (dk_at dksX14_isAtOdds_1 10 rfl rfl)
theorem dX14_isAtOdds_37 : decode cX14_isAtOdds 37 = .ok (.aload_n 0, 1) := dk_42 (dk_at dksX14_isAtOdds_1 13 rfl rfl)
theorem dX14_isAtOdds_38 : decode cX14_isAtOdds 38 = .ok (.iload_n 2, 1) := dk_28 (dk_at dksX14_isAtOdds_1 14 rfl rfl)
theorem dX14_isAtOdds_39 : decode cX14_isAtOdds 39 = .ok (.iconst 1, 1) := dk_4 (dk_at dksX14_isAtOdds_1 15 rfl rfl)
theorem dX14_isAtOdds_40 : decode cX14_isAtOdds 40 = .ok (.invokevirtual 82, 3) := dk_182 0 82 (dk_at dksX14_isAtOdds_1 16 rfl rfl)
theorem dX14_isAtOdds_43 : decode cX14_isAtOdds 43 = .ok (.ifCond .lt 22, 3) := dk_155 0 22 (dk_at dksX14_isAtOdds_1 19 rfl rfl)
theorem dX14_isAtOdds_46 : decode cX14_isAtOdds 46 = .ok (.aload_n 0, 1) := dk_42 (dk_at dksX14_isAtOdds_1 22 rfl rfl)
theorem dX14_isAtOdds_47 : decode cX14_isAtOdds 47 = .ok (.iload_n 1, 1) := dk_27 (dk_at dksX14_isAtOdds_1 23 rfl rfl)
theorem dX14_isAtOdds_48 : decode cX14_isAtOdds 48 = .ok (.iconst 1, 1) := dk_4 (dk_at dksX14_isAtOdds_2 0 rfl rfl)
theorem dX14_isAtOdds_49 : decode cX14_isAtOdds 49 = .ok (.invokevirtual 82, 3) := dk_182 0 82 (dk_at dksX14_isAtOdds_2 1 rfl rfl)
theorem dX14_isAtOdds_52 : decode cX14_isAtOdds 52 = .ok (.aload_n 0, 1) := dk_42 (dk_at dksX14_isAtOdds_2 4 rfl rfl)
theorem dX14_isAtOdds_53 : decode cX14_isAtOdds 53 = .ok (.iload_n 2, 1) := dk_28 (dk_at dksX14_isAtOdds_2 5 rfl rfl)
theorem dX14_isAtOdds_54 : decode cX14_isAtOdds 54 = .ok (.iconst 1, 1) := dk_4 (dk_at dksX14_isAtOdds_2 6 rfl rfl)
theorem dX14_isAtOdds_55 : decode cX14_isAtOdds 55 = .ok (.invokevirtual 82, 3) := dk_182 0 82 (dk_at dksX14_isAtOdds_2 7 rfl rfl)
theorem dX14_isAtOdds_58 : decode cX14_isAtOdds 58 = .ok (.if_icmp .eq 7, 3) := dk_159 0 7 (dk_at dksX14_isAtOdds_2 10 rfl rfl)
theorem dX14_isAtOdds_61 : decode cX14_isAtOdds 61 = .ok (.iconst 1, 1) := dk_4 (dk_at dksX14_isAtOdds_2 13 rfl rfl)
theorem dX14_isAtOdds_62 : decode cX14_isAtOdds 62 = .ok (.goto 4, 3) := dk_167 0 4 (dk_at dksX14_isAtOdds_2 14 rfl rfl)
theorem dX14_isAtOdds_65 : decode cX14_isAtOdds 65 = .ok (.iconst 0, 1) := dk_3 (dk_at dksX14_isAtOdds_2 17 rfl rfl)
theorem dX14_isAtOdds_66 : decode cX14_isAtOdds 66 = .ok (.ireturn, 1) := dk_172 (dk_at dksX14_isAtOdds_2 18 rfl rfl)
abbrev cX14_gone : ByteArray := prog_28_method_53_code
def yX14_gone : MethodName := ⟨RX14, "gone", "(II)I"⟩
def dkwX14_gone_1 : List UInt8 := [4, 28, 182, 0, 185, 96, 172]
abbrev dktX14_gone_1 : List UInt8 := dkwX14_gone_1 ++ []
def dkwX14_gone_0 : List UInt8 := [42, 27, 182, 0, 96, 153, 0, 10, 28, 184, 0, 182, 154, 0, 5, 2, 172, 42, 182, 0, 161, 4, 42, 27]
abbrev dktX14_gone_0 : List UInt8 := dkwX14_gone_0 ++ dktX14_gone_1
theorem dksX14_gone_0 : cX14_gone.data.toList.drop 0 = dktX14_gone_0 := by decide +kernel
theorem dksX14_gone_1 : cX14_gone.data.toList.drop 24 = dktX14_gone_1 := dk_seg dksX14_gone_0 24 rfl rfl
theorem dX14_gone_0 : decode cX14_gone 0 = .ok (.aload_n 0, 1) := dk_42 (dk_at dksX14_gone_0 0 rfl rfl)
theorem dX14_gone_1 : decode cX14_gone 1 = .ok (.iload_n 1, 1) := dk_27 (dk_at dksX14_gone_0 1 rfl rfl)
theorem dX14_gone_2 : decode cX14_gone 2 = .ok (.invokevirtual 96, 3) := dk_182 0 96 (dk_at dksX14_gone_0 2 rfl rfl)
theorem dX14_gone_5 : decode cX14_gone 5 = .ok (.ifCond .eq 10, 3) := dk_153 0 10 (dk_at dksX14_gone_0 5 rfl rfl)
theorem dX14_gone_8 : decode cX14_gone 8 = .ok (.iload_n 2, 1) := dk_28 (dk_at dksX14_gone_0 8 rfl rfl)
theorem dX14_gone_9 : decode cX14_gone 9 = .ok (.invokestatic 182, 3) := dk_184 0 182 (dk_at dksX14_gone_0 9 rfl rfl)
theorem dX14_gone_12 : decode cX14_gone 12 = .ok (.ifCond .ne 5, 3) := dk_154 0 5 (dk_at dksX14_gone_0 12 rfl rfl)
theorem dX14_gone_15 : decode cX14_gone 15 = .ok (.iconst (-1), 1) := dk_2 (dk_at dksX14_gone_0 15 rfl rfl)
theorem dX14_gone_16 : decode cX14_gone 16 = .ok (.ireturn, 1) := dk_172 (dk_at dksX14_gone_0 16 rfl rfl)
theorem dX14_gone_17 : decode cX14_gone 17 = .ok (.aload_n 0, 1) := dk_42 (dk_at dksX14_gone_0 17 rfl rfl)
theorem dX14_gone_18 : decode cX14_gone 18 = .ok (.invokevirtual 161, 3) := dk_182 0 161 (dk_at dksX14_gone_0 18 rfl rfl)
theorem dX14_gone_21 : decode cX14_gone 21 = .ok (.iconst 1, 1) := dk_4 (dk_at dksX14_gone_0 21 rfl rfl)
theorem dX14_gone_22 : decode cX14_gone 22 = .ok (.aload_n 0, 1) := dk_42 (dk_at dksX14_gone_0 22 rfl rfl)
theorem dX14_gone_23 : decode cX14_gone 23 = .ok (.iload_n 1, 1) := dk_27 (dk_at dksX14_gone_0 23 rfl rfl)
theorem dX14_gone_24 : decode cX14_gone 24 = .ok (.iconst 1, 1) := dk_4 (dk_at dksX14_gone_1 0 rfl rfl)
theorem dX14_gone_25 : decode cX14_gone 25 = .ok (.iload_n 2, 1) := dk_28 (dk_at dksX14_gone_1 1 rfl rfl)
theorem dX14_gone_26 : decode cX14_gone 26 = .ok (.invokevirtual 185, 3) := dk_182 0 185 (dk_at dksX14_gone_1 2 rfl rfl)
theorem dX14_gone_29 : decode cX14_gone 29 = .ok (.iadd, 1) := dk_96 (dk_at dksX14_gone_1 5 rfl rfl)
theorem dX14_gone_30 : decode cX14_gone 30 = .ok (.ireturn, 1) := dk_172 (dk_at dksX14_gone_1 6 rfl rfl)
abbrev cX14_isAhead : ByteArray := prog_28_method_50_code
def yX14_isAhead : MethodName := ⟨RX14, "isAhead", "(I)Z"⟩
def dkwX14_isAhead_0 : List UInt8 := [26, 133, 9, 20, 0, 143, 184, 0, 59, 172]
abbrev dktX14_isAhead_0 : List UInt8 := dkwX14_isAhead_0 ++ []
theorem dksX14_isAhead_0 : cX14_isAhead.data.toList.drop 0 = dktX14_isAhead_0 := by decide +kernel
theorem dX14_isAhead_0 : decode cX14_isAhead 0 = .ok (.iload_n 0, 1) := dk_26 (dk_at dksX14_isAhead_0 0 rfl rfl)
theorem dX14_isAhead_1 : decode cX14_isAhead 1 = .ok (.i2l, 1) := dk_133 (dk_at dksX14_isAhead_0 1 rfl rfl)
theorem dX14_isAhead_2 : decode cX14_isAhead 2 = .ok (.lconst 0, 1) := dk_9 (dk_at dksX14_isAhead_0 2 rfl rfl)
theorem dX14_isAhead_3 : decode cX14_isAhead 3 = .ok (.ldc2_w 143, 3) := dk_20 0 143 (dk_at dksX14_isAhead_0 3 rfl rfl)
theorem dX14_isAhead_6 : decode cX14_isAhead 6 = .ok (.invokestatic 59, 3) := dk_184 0 59 (dk_at dksX14_isAhead_0 6 rfl rfl)
theorem dX14_isAhead_9 : decode cX14_isAhead 9 = .ok (.ireturn, 1) := dk_172 (dk_at dksX14_isAhead_0 9 rfl rfl)
abbrev cX14_behind : ByteArray := prog_28_method_52_code
def yX14_behind : MethodName := ⟨RX14, "behind", "(III)I"⟩
def dkwX14_behind_0 : List UInt8 := [42, 29, 182, 0, 145, 42, 27, 28, 182, 0, 82, 54, 4, 42, 182, 0, 164, 21, 4, 172]
abbrev dktX14_behind_0 : List UInt8 := dkwX14_behind_0 ++ []
theorem dksX14_behind_0 : cX14_behind.data.toList.drop 0 = dktX14_behind_0 := by decide +kernel
theorem dX14_behind_0 : decode cX14_behind 0 = .ok (.aload_n 0, 1) := dk_42 (dk_at dksX14_behind_0 0 rfl rfl)
theorem dX14_behind_1 : decode cX14_behind 1 = .ok (.iload_n 3, 1) := dk_29 (dk_at dksX14_behind_0 1 rfl rfl)
theorem dX14_behind_2 : decode cX14_behind 2 = .ok (.invokevirtual 145, 3) := dk_182 0 145 (dk_at dksX14_behind_0 2 rfl rfl)
theorem dX14_behind_5 : decode cX14_behind 5 = .ok (.aload_n 0, 1) := dk_42 (dk_at dksX14_behind_0 5 rfl rfl)
theorem dX14_behind_6 : decode cX14_behind 6 = .ok (.iload_n 1, 1) := dk_27 (dk_at dksX14_behind_0 6 rfl rfl)
theorem dX14_behind_7 : decode cX14_behind 7 = .ok (.iload_n 2, 1) := dk_28 (dk_at dksX14_behind_0 7 rfl rfl)
theorem dX14_behind_8 : decode cX14_behind 8 = .ok (.invokevirtual 82, 3) := dk_182 0 82 (dk_at dksX14_behind_0 8 rfl rfl)
theorem dX14_behind_11 : decode cX14_behind 11 = .ok (.istore 4, 2) := dk_54 4 (dk_at dksX14_behind_0 11 rfl rfl)
theorem dX14_behind_13 : decode cX14_behind 13 = .ok (.aload_n 0, 1) := dk_42 (dk_at dksX14_behind_0 13 rfl rfl)
theorem dX14_behind_14 : decode cX14_behind 14 = .ok (.invokevirtual 164, 3) := dk_182 0 164 (dk_at dksX14_behind_0 14 rfl rfl)
theorem dX14_behind_17 : decode cX14_behind 17 = .ok (.iload 4, 2) := dk_21 4 (dk_at dksX14_behind_0 17 rfl rfl)
theorem dX14_behind_19 : decode cX14_behind 19 = .ok (.ireturn, 1) := dk_172 (dk_at dksX14_behind_0 19 rfl rfl)
abbrev cX14_depth : ByteArray := prog_28_method_54_code
def yX14_depth : MethodName := ⟨RX14, "depth", "(II)I"⟩
def dkwX14_depth_1 : List UInt8 := [28, 182, 0, 185, 172]
abbrev dktX14_depth_1 : List UInt8 := dkwX14_depth_1 ++ []
def dkwX14_depth_0 : List UInt8 := [42, 27, 182, 0, 96, 153, 0, 10, 28, 184, 0, 182, 154, 0, 5, 2, 172, 42, 182, 0, 161, 42, 27, 5]
abbrev dktX14_depth_0 : List UInt8 := dkwX14_depth_0 ++ dktX14_depth_1
theorem dksX14_depth_0 : cX14_depth.data.toList.drop 0 = dktX14_depth_0 := by decide +kernel
theorem dksX14_depth_1 : cX14_depth.data.toList.drop 24 = dktX14_depth_1 := dk_seg dksX14_depth_0 24 rfl rfl
theorem dX14_depth_0 : decode cX14_depth 0 = .ok (.aload_n 0, 1) := dk_42 (dk_at dksX14_depth_0 0 rfl rfl)
theorem dX14_depth_1 : decode cX14_depth 1 = .ok (.iload_n 1, 1) := dk_27 (dk_at dksX14_depth_0 1 rfl rfl)
theorem dX14_depth_2 : decode cX14_depth 2 = .ok (.invokevirtual 96, 3) := dk_182 0 96 (dk_at dksX14_depth_0 2 rfl rfl)
theorem dX14_depth_5 : decode cX14_depth 5 = .ok (.ifCond .eq 10, 3) := dk_153 0 10 (dk_at dksX14_depth_0 5 rfl rfl)
theorem dX14_depth_8 : decode cX14_depth 8 = .ok (.iload_n 2, 1) := dk_28 (dk_at dksX14_depth_0 8 rfl rfl)
theorem dX14_depth_9 : decode cX14_depth 9 = .ok (.invokestatic 182, 3) := dk_184 0 182 (dk_at dksX14_depth_0 9 rfl rfl)
theorem dX14_depth_12 : decode cX14_depth 12 = .ok (.ifCond .ne 5, 3) := dk_154 0 5 (dk_at dksX14_depth_0 12 rfl rfl)
theorem dX14_depth_15 : decode cX14_depth 15 = .ok (.iconst (-1), 1) := dk_2 (dk_at dksX14_depth_0 15 rfl rfl)
theorem dX14_depth_16 : decode cX14_depth 16 = .ok (.ireturn, 1) := dk_172 (dk_at dksX14_depth_0 16 rfl rfl)
theorem dX14_depth_17 : decode cX14_depth 17 = .ok (.aload_n 0, 1) := dk_42 (dk_at dksX14_depth_0 17 rfl rfl)
theorem dX14_depth_18 : decode cX14_depth 18 = .ok (.invokevirtual 161, 3) := dk_182 0 161 (dk_at dksX14_depth_0 18 rfl rfl)
theorem dX14_depth_21 : decode cX14_depth 21 = .ok (.aload_n 0, 1) := dk_42 (dk_at dksX14_depth_0 21 rfl rfl)
theorem dX14_depth_22 : decode cX14_depth 22 = .ok (.iload_n 1, 1) := dk_27 (dk_at dksX14_depth_0 22 rfl rfl)
theorem dX14_depth_23 : decode cX14_depth 23 = .ok (.iconst 2, 1) := dk_5 (dk_at dksX14_depth_0 23 rfl rfl)
theorem dX14_depth_24 : decode cX14_depth 24 = .ok (.iload_n 2, 1) := dk_28 (dk_at dksX14_depth_1 0 rfl rfl)
theorem dX14_depth_25 : decode cX14_depth 25 = .ok (.invokevirtual 185, 3) := dk_182 0 185 (dk_at dksX14_depth_1 1 rfl rfl)
theorem dX14_depth_28 : decode cX14_depth 28 = .ok (.ireturn, 1) := dk_172 (dk_at dksX14_depth_1 4 rfl rfl)
abbrev cX14_comes : ByteArray := prog_28_method_56_code
def yX14_comes : MethodName := ⟨RX14, "comes", "(II)I"⟩
def dkwX14_comes_1 : List UInt8 := [2, 172]
abbrev dktX14_comes_1 : List UInt8 := dkwX14_comes_1 ++ []
def dkwX14_comes_0 : List UInt8 := [42, 27, 182, 0, 96, 153, 0, 19, 28, 184, 0, 125, 153, 0, 12, 42, 27, 28, 182, 0, 188, 167, 0, 4]
abbrev dktX14_comes_0 : List UInt8 := dkwX14_comes_0 ++ dktX14_comes_1
theorem dksX14_comes_0 : cX14_comes.data.toList.drop 0 = dktX14_comes_0 := by decide +kernel
theorem dksX14_comes_1 : cX14_comes.data.toList.drop 24 = dktX14_comes_1 := dk_seg dksX14_comes_0 24 rfl rfl
theorem dX14_comes_0 : decode cX14_comes 0 = .ok (.aload_n 0, 1) := dk_42 (dk_at dksX14_comes_0 0 rfl rfl)
theorem dX14_comes_1 : decode cX14_comes 1 = .ok (.iload_n 1, 1) := dk_27 (dk_at dksX14_comes_0 1 rfl rfl)
theorem dX14_comes_2 : decode cX14_comes 2 = .ok (.invokevirtual 96, 3) := dk_182 0 96 (dk_at dksX14_comes_0 2 rfl rfl)
theorem dX14_comes_5 : decode cX14_comes 5 = .ok (.ifCond .eq 19, 3) := dk_153 0 19 (dk_at dksX14_comes_0 5 rfl rfl)
theorem dX14_comes_8 : decode cX14_comes 8 = .ok (.iload_n 2, 1) := dk_28 (dk_at dksX14_comes_0 8 rfl rfl)
theorem dX14_comes_9 : decode cX14_comes 9 = .ok (.invokestatic 125, 3) := dk_184 0 125 (dk_at dksX14_comes_0 9 rfl rfl)
theorem dX14_comes_12 : decode cX14_comes 12 = .ok (.ifCond .eq 12, 3) := dk_153 0 12 (dk_at dksX14_comes_0 12 rfl rfl)
theorem dX14_comes_15 : decode cX14_comes 15 = .ok (.aload_n 0, 1) := dk_42 (dk_at dksX14_comes_0 15 rfl rfl)
theorem dX14_comes_16 : decode cX14_comes 16 = .ok (.iload_n 1, 1) := dk_27 (dk_at dksX14_comes_0 16 rfl rfl)
theorem dX14_comes_17 : decode cX14_comes 17 = .ok (.iload_n 2, 1) := dk_28 (dk_at dksX14_comes_0 17 rfl rfl)
theorem dX14_comes_18 : decode cX14_comes 18 = .ok (.invokevirtual 188, 3) := dk_182 0 188 (dk_at dksX14_comes_0 18 rfl rfl)
theorem dX14_comes_21 : decode cX14_comes 21 = .ok (.goto 4, 3) := dk_167 0 4 (dk_at dksX14_comes_0 21 rfl rfl)
theorem dX14_comes_24 : decode cX14_comes 24 = .ok (.iconst (-1), 1) := dk_2 (dk_at dksX14_comes_1 0 rfl rfl)
theorem dX14_comes_25 : decode cX14_comes 25 = .ok (.ireturn, 1) := dk_172 (dk_at dksX14_comes_1 1 rfl rfl)
abbrev cX14_firstAbout : ByteArray := prog_28_method_55_code
def yX14_firstAbout : MethodName := ⟨RX14, "firstAbout", "(II)I"⟩
def dkwX14_firstAbout_2 : List UInt8 := [16, 253, 172]
abbrev dktX14_firstAbout_2 : List UInt8 := dkwX14_firstAbout_2 ++ []
def dkwX14_firstAbout_1 : List UInt8 := [182, 0, 140, 132, 3, 1, 167, 255, 233, 42, 182, 0, 164, 29, 16, 60, 163, 0, 7, 29, 167, 0, 5]
abbrev dktX14_firstAbout_1 : List UInt8 := dkwX14_firstAbout_1 ++ dktX14_firstAbout_2
def dkwX14_firstAbout_0 : List UInt8 := [42, 182, 0, 161, 3, 62, 29, 16, 60, 163, 0, 23, 42, 27, 4, 182, 0, 82, 28, 159, 0, 13, 42]
abbrev dktX14_firstAbout_0 : List UInt8 := dkwX14_firstAbout_0 ++ dktX14_firstAbout_1
theorem dksX14_firstAbout_0 : cX14_firstAbout.data.toList.drop 0 = dktX14_firstAbout_0 := by decide +kernel
theorem dksX14_firstAbout_1 : cX14_firstAbout.data.toList.drop 23 = dktX14_firstAbout_1 := dk_seg dksX14_firstAbout_0 23 rfl rfl
theorem dksX14_firstAbout_2 : cX14_firstAbout.data.toList.drop 46 = dktX14_firstAbout_2 := dk_seg dksX14_firstAbout_1 23 rfl rfl
theorem dX14_firstAbout_0 : decode cX14_firstAbout 0 = .ok (.aload_n 0, 1) := dk_42 (dk_at dksX14_firstAbout_0 0 rfl rfl)
theorem dX14_firstAbout_1 : decode cX14_firstAbout 1 = .ok (.invokevirtual 161, 3) := dk_182 0 161 (dk_at dksX14_firstAbout_0 1 rfl rfl)
theorem dX14_firstAbout_4 : decode cX14_firstAbout 4 = .ok (.iconst 0, 1) := dk_3 (dk_at dksX14_firstAbout_0 4 rfl rfl)
theorem dX14_firstAbout_5 : decode cX14_firstAbout 5 = .ok (.istore_n 3, 1) := dk_62 (dk_at dksX14_firstAbout_0 5 rfl rfl)
theorem dX14_firstAbout_6 : decode cX14_firstAbout 6 = .ok (.iload_n 3, 1) := dk_29 (dk_at dksX14_firstAbout_0 6 rfl rfl)
theorem dX14_firstAbout_7 : decode cX14_firstAbout 7 = .ok (.bipush 60, 2) := dk_16 60 (dk_at dksX14_firstAbout_0 7 rfl rfl)
theorem dX14_firstAbout_9 : decode cX14_firstAbout 9 = .ok (.if_icmp .gt 23, 3) := dk_163 0 23 (dk_at dksX14_firstAbout_0 9 rfl rfl)
theorem dX14_firstAbout_12 : decode cX14_firstAbout 12 = .ok (.aload_n 0, 1) := dk_42 (dk_at dksX14_firstAbout_0 12 rfl rfl)
theorem dX14_firstAbout_13 : decode cX14_firstAbout 13 = .ok (.iload_n 1, 1) := dk_27 (dk_at dksX14_firstAbout_0 13 rfl rfl)
theorem dX14_firstAbout_14 : decode cX14_firstAbout 14 = .ok (.iconst 1, 1) := dk_4 (dk_at dksX14_firstAbout_0 14 rfl rfl)
theorem dX14_firstAbout_15 : decode cX14_firstAbout 15 = .ok (.invokevirtual 82, 3) := dk_182 0 82 (dk_at dksX14_firstAbout_0 15 rfl rfl)
theorem dX14_firstAbout_18 : decode cX14_firstAbout 18 = .ok (.iload_n 2, 1) := dk_28 (dk_at dksX14_firstAbout_0 18 rfl rfl)
theorem dX14_firstAbout_19 : decode cX14_firstAbout 19 = .ok (.if_icmp .eq 13, 3) := dk_159 0 13 (dk_at dksX14_firstAbout_0 19 rfl rfl)
theorem dX14_firstAbout_22 : decode cX14_firstAbout 22 = .ok (.aload_n 0, 1) := dk_42 (dk_at dksX14_firstAbout_0 22 rfl rfl)
theorem dX14_firstAbout_23 : decode cX14_firstAbout 23 = .ok (.invokevirtual 140, 3) := dk_182 0 140 (dk_at dksX14_firstAbout_1 0 rfl rfl)
theorem dX14_firstAbout_26 : decode cX14_firstAbout 26 = .ok (.iinc 3 1, 3) := dk_132 3 1 (dk_at dksX14_firstAbout_1 3 rfl rfl)
theorem dX14_firstAbout_29 : decode cX14_firstAbout 29 = .ok (.goto (-23), 3) := dk_167 255 233 (dk_at dksX14_firstAbout_1 6 rfl rfl)
theorem dX14_firstAbout_32 : decode cX14_firstAbout 32 = .ok (.aload_n 0, 1) := dk_42 (dk_at dksX14_firstAbout_1 9 rfl rfl)
theorem dX14_firstAbout_33 : decode cX14_firstAbout 33 = .ok (.invokevirtual 164, 3) := dk_182 0 164 (dk_at dksX14_firstAbout_1 10 rfl rfl)
theorem dX14_firstAbout_36 : decode cX14_firstAbout 36 = .ok (.iload_n 3, 1) := dk_29 (dk_at dksX14_firstAbout_1 13 rfl rfl)
theorem dX14_firstAbout_37 : decode cX14_firstAbout 37 = .ok (.bipush 60, 2) := dk_16 60 (dk_at dksX14_firstAbout_1 14 rfl rfl)
theorem dX14_firstAbout_39 : decode cX14_firstAbout 39 = .ok (.if_icmp .gt 7, 3) := dk_163 0 7 (dk_at dksX14_firstAbout_1 16 rfl rfl)
theorem dX14_firstAbout_42 : decode cX14_firstAbout 42 = .ok (.iload_n 3, 1) := dk_29 (dk_at dksX14_firstAbout_1 19 rfl rfl)
theorem dX14_firstAbout_43 : decode cX14_firstAbout 43 = .ok (.goto 5, 3) := dk_167 0 5 (dk_at dksX14_firstAbout_1 20 rfl rfl)
theorem dX14_firstAbout_46 : decode cX14_firstAbout 46 = .ok (.bipush (-3), 2) := dk_16 253 (dk_at dksX14_firstAbout_2 0 rfl rfl)
theorem dX14_firstAbout_48 : decode cX14_firstAbout 48 = .ok (.ireturn, 1) := dk_172 (dk_at dksX14_firstAbout_2 2 rfl rfl)
abbrev cX14_bare : ByteArray := prog_28_method_57_code
def yX14_bare : MethodName := ⟨RX14, "bare", "(I)I"⟩
def dkwX14_bare_0 : List UInt8 := [42, 27, 182, 0, 96, 153, 0, 12, 42, 27, 2, 182, 0, 188, 167, 0, 4, 2, 172]
abbrev dktX14_bare_0 : List UInt8 := dkwX14_bare_0 ++ []
theorem dksX14_bare_0 : cX14_bare.data.toList.drop 0 = dktX14_bare_0 := by decide +kernel
theorem dX14_bare_0 : decode cX14_bare 0 = .ok (.aload_n 0, 1) := dk_42 (dk_at dksX14_bare_0 0 rfl rfl)
theorem dX14_bare_1 : decode cX14_bare 1 = .ok (.iload_n 1, 1) := dk_27 (dk_at dksX14_bare_0 1 rfl rfl)
theorem dX14_bare_2 : decode cX14_bare 2 = .ok (.invokevirtual 96, 3) := dk_182 0 96 (dk_at dksX14_bare_0 2 rfl rfl)
theorem dX14_bare_5 : decode cX14_bare 5 = .ok (.ifCond .eq 12, 3) := dk_153 0 12 (dk_at dksX14_bare_0 5 rfl rfl)
theorem dX14_bare_8 : decode cX14_bare 8 = .ok (.aload_n 0, 1) := dk_42 (dk_at dksX14_bare_0 8 rfl rfl)
theorem dX14_bare_9 : decode cX14_bare 9 = .ok (.iload_n 1, 1) := dk_27 (dk_at dksX14_bare_0 9 rfl rfl)
theorem dX14_bare_10 : decode cX14_bare 10 = .ok (.iconst (-1), 1) := dk_2 (dk_at dksX14_bare_0 10 rfl rfl)
theorem dX14_bare_11 : decode cX14_bare 11 = .ok (.invokevirtual 188, 3) := dk_182 0 188 (dk_at dksX14_bare_0 11 rfl rfl)
theorem dX14_bare_14 : decode cX14_bare 14 = .ok (.goto 4, 3) := dk_167 0 4 (dk_at dksX14_bare_0 14 rfl rfl)
theorem dX14_bare_17 : decode cX14_bare 17 = .ok (.iconst (-1), 1) := dk_2 (dk_at dksX14_bare_0 17 rfl rfl)
theorem dX14_bare_18 : decode cX14_bare 18 = .ok (.ireturn, 1) := dk_172 (dk_at dksX14_bare_0 18 rfl rfl)
abbrev cX14_spoilt : ByteArray := prog_28_method_59_code
def yX14_spoilt : MethodName := ⟨RX14, "spoilt", "(I)I"⟩
def dkwX14_spoilt_0 : List UInt8 := [27, 184, 0, 182, 154, 0, 5, 2, 172, 42, 182, 0, 161, 42, 27, 182, 0, 191, 172]
abbrev dktX14_spoilt_0 : List UInt8 := dkwX14_spoilt_0 ++ []
theorem dksX14_spoilt_0 : cX14_spoilt.data.toList.drop 0 = dktX14_spoilt_0 := by decide +kernel
theorem dX14_spoilt_0 : decode cX14_spoilt 0 = .ok (.iload_n 1, 1) := dk_27 (dk_at dksX14_spoilt_0 0 rfl rfl)
theorem dX14_spoilt_1 : decode cX14_spoilt 1 = .ok (.invokestatic 182, 3) := dk_184 0 182 (dk_at dksX14_spoilt_0 1 rfl rfl)
theorem dX14_spoilt_4 : decode cX14_spoilt 4 = .ok (.ifCond .ne 5, 3) := dk_154 0 5 (dk_at dksX14_spoilt_0 4 rfl rfl)
theorem dX14_spoilt_7 : decode cX14_spoilt 7 = .ok (.iconst (-1), 1) := dk_2 (dk_at dksX14_spoilt_0 7 rfl rfl)
theorem dX14_spoilt_8 : decode cX14_spoilt 8 = .ok (.ireturn, 1) := dk_172 (dk_at dksX14_spoilt_0 8 rfl rfl)
theorem dX14_spoilt_9 : decode cX14_spoilt 9 = .ok (.aload_n 0, 1) := dk_42 (dk_at dksX14_spoilt_0 9 rfl rfl)
theorem dX14_spoilt_10 : decode cX14_spoilt 10 = .ok (.invokevirtual 161, 3) := dk_182 0 161 (dk_at dksX14_spoilt_0 10 rfl rfl)
theorem dX14_spoilt_13 : decode cX14_spoilt 13 = .ok (.aload_n 0, 1) := dk_42 (dk_at dksX14_spoilt_0 13 rfl rfl)
theorem dX14_spoilt_14 : decode cX14_spoilt 14 = .ok (.iload_n 1, 1) := dk_27 (dk_at dksX14_spoilt_0 14 rfl rfl)
theorem dX14_spoilt_15 : decode cX14_spoilt 15 = .ok (.invokevirtual 191, 3) := dk_182 0 191 (dk_at dksX14_spoilt_0 15 rfl rfl)
theorem dX14_spoilt_18 : decode cX14_spoilt 18 = .ok (.ireturn, 1) := dk_172 (dk_at dksX14_spoilt_0 18 rfl rfl)
abbrev cX14_spoiltIn : ByteArray := prog_28_method_58_code
def yX14_spoiltIn : MethodName := ⟨RX14, "spoiltIn", "(I)I"⟩
def dkwX14_spoiltIn_2 : List UInt8 := [96, 61, 132, 3, 1, 167, 255, 212, 42, 182, 0, 164, 28, 172]
abbrev dktX14_spoiltIn_2 : List UInt8 := dkwX14_spoiltIn_2 ++ []
def dkwX14_spoiltIn_1 : List UInt8 := [182, 0, 82, 42, 180, 0, 22, 16, 29, 8, 29, 104, 96, 4, 96, 46, 160, 0, 7, 3, 167, 0, 4, 4]
abbrev dktX14_spoiltIn_1 : List UInt8 := dkwX14_spoiltIn_1 ++ dktX14_spoiltIn_2
def dkwX14_spoiltIn_0 : List UInt8 := [42, 27, 182, 0, 145, 3, 61, 3, 62, 29, 42, 180, 0, 16, 16, 6, 46, 162, 0, 39, 28, 42, 29, 4]
abbrev dktX14_spoiltIn_0 : List UInt8 := dkwX14_spoiltIn_0 ++ dktX14_spoiltIn_1
theorem dksX14_spoiltIn_0 : cX14_spoiltIn.data.toList.drop 0 = dktX14_spoiltIn_0 := by decide +kernel
theorem dksX14_spoiltIn_1 : cX14_spoiltIn.data.toList.drop 24 = dktX14_spoiltIn_1 := dk_seg dksX14_spoiltIn_0 24 rfl rfl
theorem dksX14_spoiltIn_2 : cX14_spoiltIn.data.toList.drop 48 = dktX14_spoiltIn_2 := dk_seg dksX14_spoiltIn_1 24 rfl rfl
theorem dX14_spoiltIn_0 : decode cX14_spoiltIn 0 = .ok (.aload_n 0, 1) := dk_42 (dk_at dksX14_spoiltIn_0 0 rfl rfl)
theorem dX14_spoiltIn_1 : decode cX14_spoiltIn 1 = .ok (.iload_n 1, 1) := dk_27 (dk_at dksX14_spoiltIn_0 1 rfl rfl)
theorem dX14_spoiltIn_2 : decode cX14_spoiltIn 2 = .ok (.invokevirtual 145, 3) := dk_182 0 145 (dk_at dksX14_spoiltIn_0 2 rfl rfl)
theorem dX14_spoiltIn_5 : decode cX14_spoiltIn 5 = .ok (.iconst 0, 1) := dk_3 (dk_at dksX14_spoiltIn_0 5 rfl rfl)
theorem dX14_spoiltIn_6 : decode cX14_spoiltIn 6 = .ok (.istore_n 2, 1) := dk_61 (dk_at dksX14_spoiltIn_0 6 rfl rfl)
theorem dX14_spoiltIn_7 : decode cX14_spoiltIn 7 = .ok (.iconst 0, 1) := dk_3 (dk_at dksX14_spoiltIn_0 7 rfl rfl)
theorem dX14_spoiltIn_8 : decode cX14_spoiltIn 8 = .ok (.istore_n 3, 1) := dk_62 (dk_at dksX14_spoiltIn_0 8 rfl rfl)
theorem dX14_spoiltIn_9 : decode cX14_spoiltIn 9 = .ok (.iload_n 3, 1) := dk_29 (dk_at dksX14_spoiltIn_0 9 rfl rfl)
theorem dX14_spoiltIn_10 : decode cX14_spoiltIn 10 = .ok (.aload_n 0, 1) := dk_42 (dk_at dksX14_spoiltIn_0 10 rfl rfl)
theorem dX14_spoiltIn_11 : decode cX14_spoiltIn 11 = .ok (.getfield 16, 3) := dk_180 0 16 (dk_at dksX14_spoiltIn_0 11 rfl rfl)
theorem dX14_spoiltIn_14 : decode cX14_spoiltIn 14 = .ok (.bipush 6, 2) := dk_16 6 (dk_at dksX14_spoiltIn_0 14 rfl rfl)
theorem dX14_spoiltIn_16 : decode cX14_spoiltIn 16 = .ok (.iaload, 1) := dk_46 (dk_at dksX14_spoiltIn_0 16 rfl rfl)
theorem dX14_spoiltIn_17 : decode cX14_spoiltIn 17 = .ok (.if_icmp .ge 39, 3) := dk_162 0 39 (dk_at dksX14_spoiltIn_0 17 rfl rfl)
theorem dX14_spoiltIn_20 : decode cX14_spoiltIn 20 = .ok (.iload_n 2, 1) := dk_28 (dk_at dksX14_spoiltIn_0 20 rfl rfl)
theorem dX14_spoiltIn_21 : decode cX14_spoiltIn 21 = .ok (.aload_n 0, 1) := dk_42 (dk_at dksX14_spoiltIn_0 21 rfl rfl)
theorem dX14_spoiltIn_22 : decode cX14_spoiltIn 22 = .ok (.iload_n 3, 1) := dk_29 (dk_at dksX14_spoiltIn_0 22 rfl rfl)
theorem dX14_spoiltIn_23 : decode cX14_spoiltIn 23 = .ok (.iconst 1, 1) := dk_4 (dk_at dksX14_spoiltIn_0 23 rfl rfl)
theorem dX14_spoiltIn_24 : decode cX14_spoiltIn 24 = .ok (.invokevirtual 82, 3) := dk_182 0 82 (dk_at dksX14_spoiltIn_1 0 rfl rfl)
theorem dX14_spoiltIn_27 : decode cX14_spoiltIn 27 = .ok (.aload_n 0, 1) := dk_42 (dk_at dksX14_spoiltIn_1 3 rfl rfl)
theorem dX14_spoiltIn_28 : decode cX14_spoiltIn 28 = .ok (.getfield 22, 3) := dk_180 0 22 (dk_at dksX14_spoiltIn_1 4 rfl rfl)
theorem dX14_spoiltIn_31 : decode cX14_spoiltIn 31 = .ok (.bipush 29, 2) := dk_16 29 (dk_at dksX14_spoiltIn_1 7 rfl rfl)
theorem dX14_spoiltIn_33 : decode cX14_spoiltIn 33 = .ok (.iconst 5, 1) := dk_8 (dk_at dksX14_spoiltIn_1 9 rfl rfl)
theorem dX14_spoiltIn_34 : decode cX14_spoiltIn 34 = .ok (.iload_n 3, 1) := dk_29 (dk_at dksX14_spoiltIn_1 10 rfl rfl)
theorem dX14_spoiltIn_35 : decode cX14_spoiltIn 35 = .ok (.imul, 1) := dk_104 (dk_at dksX14_spoiltIn_1 11 rfl rfl)
theorem dX14_spoiltIn_36 : decode cX14_spoiltIn 36 = .ok (.iadd, 1) := dk_96 (dk_at dksX14_spoiltIn_1 12 rfl rfl)
theorem dX14_spoiltIn_37 : decode cX14_spoiltIn 37 = .ok (.iconst 1, 1) := dk_4 (dk_at dksX14_spoiltIn_1 13 rfl rfl)
theorem dX14_spoiltIn_38 : decode cX14_spoiltIn 38 = .ok (.iadd, 1) := dk_96 (dk_at dksX14_spoiltIn_1 14 rfl rfl)
theorem dX14_spoiltIn_39 : decode cX14_spoiltIn 39 = .ok (.iaload, 1) := dk_46 (dk_at dksX14_spoiltIn_1 15 rfl rfl)
theorem dX14_spoiltIn_40 : decode cX14_spoiltIn 40 = .ok (.if_icmp .ne 7, 3) := dk_160 0 7 (dk_at dksX14_spoiltIn_1 16 rfl rfl)
theorem dX14_spoiltIn_43 : decode cX14_spoiltIn 43 = .ok (.iconst 0, 1) := dk_3 (dk_at dksX14_spoiltIn_1 19 rfl rfl)
theorem dX14_spoiltIn_44 : decode cX14_spoiltIn 44 = .ok (.goto 4, 3) := dk_167 0 4 (dk_at dksX14_spoiltIn_1 20 rfl rfl)
theorem dX14_spoiltIn_47 : decode cX14_spoiltIn 47 = .ok (.iconst 1, 1) := dk_4 (dk_at dksX14_spoiltIn_1 23 rfl rfl)
theorem dX14_spoiltIn_48 : decode cX14_spoiltIn 48 = .ok (.iadd, 1) := dk_96 (dk_at dksX14_spoiltIn_2 0 rfl rfl)
theorem dX14_spoiltIn_49 : decode cX14_spoiltIn 49 = .ok (.istore_n 2, 1) := dk_61 (dk_at dksX14_spoiltIn_2 1 rfl rfl)
theorem dX14_spoiltIn_50 : decode cX14_spoiltIn 50 = .ok (.iinc 3 1, 3) := dk_132 3 1 (dk_at dksX14_spoiltIn_2 2 rfl rfl)
theorem dX14_spoiltIn_53 : decode cX14_spoiltIn 53 = .ok (.goto (-44), 3) := dk_167 255 212 (dk_at dksX14_spoiltIn_2 5 rfl rfl)
theorem dX14_spoiltIn_56 : decode cX14_spoiltIn 56 = .ok (.aload_n 0, 1) := dk_42 (dk_at dksX14_spoiltIn_2 8 rfl rfl)
theorem dX14_spoiltIn_57 : decode cX14_spoiltIn 57 = .ok (.invokevirtual 164, 3) := dk_182 0 164 (dk_at dksX14_spoiltIn_2 9 rfl rfl)
theorem dX14_spoiltIn_60 : decode cX14_spoiltIn 60 = .ok (.iload_n 2, 1) := dk_28 (dk_at dksX14_spoiltIn_2 12 rfl rfl)
theorem dX14_spoiltIn_61 : decode cX14_spoiltIn 61 = .ok (.ireturn, 1) := dk_172 (dk_at dksX14_spoiltIn_2 13 rfl rfl)
abbrev cX14_through : ByteArray := prog_28_method_61_code
def yX14_through : MethodName := ⟨RX14, "through", "(II)I"⟩
def dkwX14_through_3 : List UInt8 := [167, 255, 208, 16, 253, 172]
abbrev dktX14_through_3 : List UInt8 := dkwX14_through_3 ++ []
def dkwX14_through_2 : List UInt8 := [182, 0, 194, 153, 0, 12, 4, 6, 29, 104, 120, 21, 4, 96, 172, 132, 4, 1, 167, 255, 222, 132, 3, 1]
abbrev dktX14_through_2 : List UInt8 := dkwX14_through_2 ++ dktX14_through_3
def dkwX14_through_1 : List UInt8 := [6, 163, 0, 49, 3, 54, 4, 21, 4, 4, 6, 29, 104, 120, 162, 0, 30, 42, 27, 28, 29, 21, 4]
abbrev dktX14_through_1 : List UInt8 := dkwX14_through_1 ++ dktX14_through_2
def dkwX14_through_0 : List UInt8 := [42, 27, 182, 0, 96, 153, 0, 10, 28, 184, 0, 125, 154, 0, 5, 2, 172, 42, 182, 0, 161, 3, 62, 29]
abbrev dktX14_through_0 : List UInt8 := dkwX14_through_0 ++ dktX14_through_1
theorem dksX14_through_0 : cX14_through.data.toList.drop 0 = dktX14_through_0 := by decide +kernel
theorem dksX14_through_1 : cX14_through.data.toList.drop 24 = dktX14_through_1 := dk_seg dksX14_through_0 24 rfl rfl
theorem dksX14_through_2 : cX14_through.data.toList.drop 47 = dktX14_through_2 := dk_seg dksX14_through_1 23 rfl rfl
theorem dksX14_through_3 : cX14_through.data.toList.drop 71 = dktX14_through_3 := dk_seg dksX14_through_2 24 rfl rfl
theorem dX14_through_0 : decode cX14_through 0 = .ok (.aload_n 0, 1) := dk_42 (dk_at dksX14_through_0 0 rfl rfl)
theorem dX14_through_1 : decode cX14_through 1 = .ok (.iload_n 1, 1) := dk_27 (dk_at dksX14_through_0 1 rfl rfl)
theorem dX14_through_2 : decode cX14_through 2 = .ok (.invokevirtual 96, 3) := dk_182 0 96 (dk_at dksX14_through_0 2 rfl rfl)
theorem dX14_through_5 : decode cX14_through 5 = .ok (.ifCond .eq 10, 3) := dk_153 0 10 (dk_at dksX14_through_0 5 rfl rfl)
theorem dX14_through_8 : decode cX14_through 8 = .ok (.iload_n 2, 1) := dk_28 (dk_at dksX14_through_0 8 rfl rfl)
theorem dX14_through_9 : decode cX14_through 9 = .ok (.invokestatic 125, 3) := dk_184 0 125 (dk_at dksX14_through_0 9 rfl rfl)
theorem dX14_through_12 : decode cX14_through 12 = .ok (.ifCond .ne 5, 3) := dk_154 0 5 (dk_at dksX14_through_0 12 rfl rfl)
theorem dX14_through_15 : decode cX14_through 15 = .ok (.iconst (-1), 1) := dk_2 (dk_at dksX14_through_0 15 rfl rfl)
theorem dX14_through_16 : decode cX14_through 16 = .ok (.ireturn, 1) := dk_172 (dk_at dksX14_through_0 16 rfl rfl)
theorem dX14_through_17 : decode cX14_through 17 = .ok (.aload_n 0, 1) := dk_42 (dk_at dksX14_through_0 17 rfl rfl)
theorem dX14_through_18 : decode cX14_through 18 = .ok (.invokevirtual 161, 3) := dk_182 0 161 (dk_at dksX14_through_0 18 rfl rfl)
theorem dX14_through_21 : decode cX14_through 21 = .ok (.iconst 0, 1) := dk_3 (dk_at dksX14_through_0 21 rfl rfl)
theorem dX14_through_22 : decode cX14_through 22 = .ok (.istore_n 3, 1) := dk_62 (dk_at dksX14_through_0 22 rfl rfl)
theorem dX14_through_23 : decode cX14_through 23 = .ok (.iload_n 3, 1) := dk_29 (dk_at dksX14_through_0 23 rfl rfl)
theorem dX14_through_24 : decode cX14_through 24 = .ok (.iconst 3, 1) := dk_6 (dk_at dksX14_through_1 0 rfl rfl)
theorem dX14_through_25 : decode cX14_through 25 = .ok (.if_icmp .gt 49, 3) := dk_163 0 49 (dk_at dksX14_through_1 1 rfl rfl)
theorem dX14_through_28 : decode cX14_through 28 = .ok (.iconst 0, 1) := dk_3 (dk_at dksX14_through_1 4 rfl rfl)
theorem dX14_through_29 : decode cX14_through 29 = .ok (.istore 4, 2) := dk_54 4 (dk_at dksX14_through_1 5 rfl rfl)
theorem dX14_through_31 : decode cX14_through 31 = .ok (.iload 4, 2) := dk_21 4 (dk_at dksX14_through_1 7 rfl rfl)
theorem dX14_through_33 : decode cX14_through 33 = .ok (.iconst 1, 1) := dk_4 (dk_at dksX14_through_1 9 rfl rfl)
theorem dX14_through_34 : decode cX14_through 34 = .ok (.iconst 3, 1) := dk_6 (dk_at dksX14_through_1 10 rfl rfl)
theorem dX14_through_35 : decode cX14_through 35 = .ok (.iload_n 3, 1) := dk_29 (dk_at dksX14_through_1 11 rfl rfl)
theorem dX14_through_36 : decode cX14_through 36 = .ok (.imul, 1) := dk_104 (dk_at dksX14_through_1 12 rfl rfl)
theorem dX14_through_37 : decode cX14_through 37 = .ok (.ishl, 1) := dk_120 (dk_at dksX14_through_1 13 rfl rfl)
theorem dX14_through_38 : decode cX14_through 38 = .ok (.if_icmp .ge 30, 3) := dk_162 0 30 (dk_at dksX14_through_1 14 rfl rfl)
theorem dX14_through_41 : decode cX14_through 41 = .ok (.aload_n 0, 1) := dk_42 (dk_at dksX14_through_1 17 rfl rfl)
theorem dX14_through_42 : decode cX14_through 42 = .ok (.iload_n 1, 1) := dk_27 (dk_at dksX14_through_1 18 rfl rfl)
theorem dX14_through_43 : decode cX14_through 43 = .ok (.iload_n 2, 1) := dk_28 (dk_at dksX14_through_1 19 rfl rfl)
theorem dX14_through_44 : decode cX14_through 44 = .ok (.iload_n 3, 1) := dk_29 (dk_at dksX14_through_1 20 rfl rfl)
theorem dX14_through_45 : decode cX14_through 45 = .ok (.iload 4, 2) := dk_21 4 (dk_at dksX14_through_1 21 rfl rfl)
theorem dX14_through_47 : decode cX14_through 47 = .ok (.invokevirtual 194, 3) := dk_182 0 194 (dk_at dksX14_through_2 0 rfl rfl)
theorem dX14_through_50 : decode cX14_through 50 = .ok (.ifCond .eq 12, 3) := dk_153 0 12 (dk_at dksX14_through_2 3 rfl rfl)
theorem dX14_through_53 : decode cX14_through 53 = .ok (.iconst 1, 1) := dk_4 (dk_at dksX14_through_2 6 rfl rfl)
theorem dX14_through_54 : decode cX14_through 54 = .ok (.iconst 3, 1) := dk_6 (dk_at dksX14_through_2 7 rfl rfl)
theorem dX14_through_55 : decode cX14_through 55 = .ok (.iload_n 3, 1) := dk_29 (dk_at dksX14_through_2 8 rfl rfl)
theorem dX14_through_56 : decode cX14_through 56 = .ok (.imul, 1) := dk_104 (dk_at dksX14_through_2 9 rfl rfl)
theorem dX14_through_57 : decode cX14_through 57 = .ok (.ishl, 1) := dk_120 (dk_at dksX14_through_2 10 rfl rfl)
theorem dX14_through_58 : decode cX14_through 58 = .ok (.iload 4, 2) := dk_21 4 (dk_at dksX14_through_2 11 rfl rfl)
theorem dX14_through_60 : decode cX14_through 60 = .ok (.iadd, 1) := dk_96 (dk_at dksX14_through_2 13 rfl rfl)
theorem dX14_through_61 : decode cX14_through 61 = .ok (.ireturn, 1) := dk_172 (dk_at dksX14_through_2 14 rfl rfl)
theorem dX14_through_62 : decode cX14_through 62 = .ok (.iinc 4 1, 3) := dk_132 4 1 (dk_at dksX14_through_2 15 rfl rfl)
theorem dX14_through_65 : decode cX14_through 65 = .ok (.goto (-34), 3) := dk_167 255 222 (dk_at dksX14_through_2 18 rfl rfl)
theorem dX14_through_68 : decode cX14_through 68 = .ok (.iinc 3 1, 3) := dk_132 3 1 (dk_at dksX14_through_2 21 rfl rfl)
theorem dX14_through_71 : decode cX14_through 71 = .ok (.goto (-48), 3) := dk_167 255 208 (dk_at dksX14_through_3 0 rfl rfl)
theorem dX14_through_74 : decode cX14_through 74 = .ok (.bipush (-3), 2) := dk_16 253 (dk_at dksX14_through_3 3 rfl rfl)
theorem dX14_through_76 : decode cX14_through 76 = .ok (.ireturn, 1) := dk_172 (dk_at dksX14_through_3 5 rfl rfl)
abbrev cX14_isThrough : ByteArray := prog_28_method_60_code
def yX14_isThrough : MethodName := ⟨RX14, "isThrough", "(IIII)Z"⟩
def dkwX14_isThrough_2 : List UInt8 := [54, 5, 42, 182, 0, 164, 21, 5, 172]
abbrev dktX14_isThrough_2 : List UInt8 := dkwX14_isThrough_2 ++ []
def dkwX14_isThrough_1 : List UInt8 := [182, 0, 137, 132, 5, 255, 167, 255, 233, 42, 27, 4, 182, 0, 82, 28, 160, 0, 7, 4, 167, 0, 4, 3]
abbrev dktX14_isThrough_1 : List UInt8 := dkwX14_isThrough_1 ++ dktX14_isThrough_2
def dkwX14_isThrough_0 : List UInt8 := [29, 4, 100, 54, 5, 21, 5, 155, 0, 24, 42, 27, 21, 4, 6, 21, 5, 104, 122, 16, 7, 126]
abbrev dktX14_isThrough_0 : List UInt8 := dkwX14_isThrough_0 ++ dktX14_isThrough_1
theorem dksX14_isThrough_0 : cX14_isThrough.data.toList.drop 0 = dktX14_isThrough_0 := by decide +kernel
theorem dksX14_isThrough_1 : cX14_isThrough.data.toList.drop 22 = dktX14_isThrough_1 := dk_seg dksX14_isThrough_0 22 rfl rfl
theorem dksX14_isThrough_2 : cX14_isThrough.data.toList.drop 46 = dktX14_isThrough_2 := dk_seg dksX14_isThrough_1 24 rfl rfl
theorem dX14_isThrough_0 : decode cX14_isThrough 0 = .ok (.iload_n 3, 1) := dk_29 (dk_at dksX14_isThrough_0 0 rfl rfl)
theorem dX14_isThrough_1 : decode cX14_isThrough 1 = .ok (.iconst 1, 1) := dk_4 (dk_at dksX14_isThrough_0 1 rfl rfl)
theorem dX14_isThrough_2 : decode cX14_isThrough 2 = .ok (.isub, 1) := dk_100 (dk_at dksX14_isThrough_0 2 rfl rfl)
theorem dX14_isThrough_3 : decode cX14_isThrough 3 = .ok (.istore 5, 2) := dk_54 5 (dk_at dksX14_isThrough_0 3 rfl rfl)
theorem dX14_isThrough_5 : decode cX14_isThrough 5 = .ok (.iload 5, 2) := dk_21 5 (dk_at dksX14_isThrough_0 5 rfl rfl)
theorem dX14_isThrough_7 : decode cX14_isThrough 7 = .ok (.ifCond .lt 24, 3) := dk_155 0 24 (dk_at dksX14_isThrough_0 7 rfl rfl)
theorem dX14_isThrough_10 : decode cX14_isThrough 10 = .ok (.aload_n 0, 1) := dk_42 (dk_at dksX14_isThrough_0 10 rfl rfl)
theorem dX14_isThrough_11 : decode cX14_isThrough 11 = .ok (.iload_n 1, 1) := dk_27 (dk_at dksX14_isThrough_0 11 rfl rfl)
theorem dX14_isThrough_12 : decode cX14_isThrough 12 = .ok (.iload 4, 2) := dk_21 4 (dk_at dksX14_isThrough_0 12 rfl rfl)
theorem dX14_isThrough_14 : decode cX14_isThrough 14 = .ok (.iconst 3, 1) := dk_6 (dk_at dksX14_isThrough_0 14 rfl rfl)
theorem dX14_isThrough_15 : decode cX14_isThrough 15 = .ok (.iload 5, 2) := dk_21 5 (dk_at dksX14_isThrough_0 15 rfl rfl)
theorem dX14_isThrough_17 : decode cX14_isThrough 17 = .ok (.imul, 1) := dk_104 (dk_at dksX14_isThrough_0 17 rfl rfl)
theorem dX14_isThrough_18 : decode cX14_isThrough 18 = .ok (.ishr, 1) := dk_122 (dk_at dksX14_isThrough_0 18 rfl rfl)
theorem dX14_isThrough_19 : decode cX14_isThrough 19 = .ok (.bipush 7, 2) := dk_16 7 (dk_at dksX14_isThrough_0 19 rfl rfl)
theorem dX14_isThrough_21 : decode cX14_isThrough 21 = .ok (.iand, 1) := dk_126 (dk_at dksX14_isThrough_0 21 rfl rfl)
theorem dX14_isThrough_22 : decode cX14_isThrough 22 = .ok (.invokevirtual 137, 3) := dk_182 0 137 (dk_at dksX14_isThrough_1 0 rfl rfl)
theorem dX14_isThrough_25 : decode cX14_isThrough 25 = .ok (.iinc 5 (-1), 3) := dk_132 5 255 (dk_at dksX14_isThrough_1 3 rfl rfl)
theorem dX14_isThrough_28 : decode cX14_isThrough 28 = .ok (.goto (-23), 3) := dk_167 255 233 (dk_at dksX14_isThrough_1 6 rfl rfl)
theorem dX14_isThrough_31 : decode cX14_isThrough 31 = .ok (.aload_n 0, 1) := dk_42 (dk_at dksX14_isThrough_1 9 rfl rfl)
theorem dX14_isThrough_32 : decode cX14_isThrough 32 = .ok (.iload_n 1, 1) := dk_27 (dk_at dksX14_isThrough_1 10 rfl rfl)
theorem dX14_isThrough_33 : decode cX14_isThrough 33 = .ok (.iconst 1, 1) := dk_4 (dk_at dksX14_isThrough_1 11 rfl rfl)
theorem dX14_isThrough_34 : decode cX14_isThrough 34 = .ok (.invokevirtual 82, 3) := dk_182 0 82 (dk_at dksX14_isThrough_1 12 rfl rfl)
theorem dX14_isThrough_37 : decode cX14_isThrough 37 = .ok (.iload_n 2, 1) := dk_28 (dk_at dksX14_isThrough_1 15 rfl rfl)
theorem dX14_isThrough_38 : decode cX14_isThrough 38 = .ok (.if_icmp .ne 7, 3) := dk_160 0 7 (dk_at dksX14_isThrough_1 16 rfl rfl)
theorem dX14_isThrough_41 : decode cX14_isThrough 41 = .ok (.iconst 1, 1) := dk_4 (dk_at dksX14_isThrough_1 19 rfl rfl)
theorem dX14_isThrough_42 : decode cX14_isThrough 42 = .ok (.goto 4, 3) := dk_167 0 4 (dk_at dksX14_isThrough_1 20 rfl rfl)
theorem dX14_isThrough_45 : decode cX14_isThrough 45 = .ok (.iconst 0, 1) := dk_3 (dk_at dksX14_isThrough_1 23 rfl rfl)
theorem dX14_isThrough_46 : decode cX14_isThrough 46 = .ok (.istore 5, 2) := dk_54 5 (dk_at dksX14_isThrough_2 0 rfl rfl)
theorem dX14_isThrough_48 : decode cX14_isThrough 48 = .ok (.aload_n 0, 1) := dk_42 (dk_at dksX14_isThrough_2 2 rfl rfl)
theorem dX14_isThrough_49 : decode cX14_isThrough 49 = .ok (.invokevirtual 164, 3) := dk_182 0 164 (dk_at dksX14_isThrough_2 3 rfl rfl)
theorem dX14_isThrough_52 : decode cX14_isThrough 52 = .ok (.iload 5, 2) := dk_21 5 (dk_at dksX14_isThrough_2 6 rfl rfl)
theorem dX14_isThrough_54 : decode cX14_isThrough 54 = .ok (.ireturn, 1) := dk_172 (dk_at dksX14_isThrough_2 8 rfl rfl)
abbrev cX14_vatFor : ByteArray := prog_28_method_62_code
def yX14_vatFor : MethodName := ⟨RX14, "vatFor", "(II)I"⟩
def dkwX14_vatFor_3 : List UInt8 := [167, 0, 4, 29, 62, 21, 4, 21, 6, 184, 0, 122, 54, 4, 132, 5, 1, 167, 255, 193, 29, 172]
abbrev dktX14_vatFor_3 : List UInt8 := dkwX14_vatFor_3 ++ []
def dkwX14_vatFor_2 : List UInt8 := [182, 0, 145, 42, 182, 0, 148, 54, 6, 42, 182, 0, 164, 21, 6, 21, 4, 164, 0, 8, 21, 5]
abbrev dktX14_vatFor_2 : List UInt8 := dkwX14_vatFor_2 ++ dktX14_vatFor_3
def dkwX14_vatFor_1 : List UInt8 := [21, 5, 16, 8, 162, 0, 62, 42, 182, 0, 161, 42, 180, 0, 16, 16, 23, 27, 96, 21, 5, 79, 42, 28]
abbrev dktX14_vatFor_1 : List UInt8 := dkwX14_vatFor_1 ++ dktX14_vatFor_2
def dkwX14_vatFor_0 : List UInt8 := [27, 184, 0, 79, 153, 0, 10, 28, 184, 0, 198, 154, 0, 5, 2, 172, 2, 62, 2, 54, 4, 3, 54, 5]
abbrev dktX14_vatFor_0 : List UInt8 := dkwX14_vatFor_0 ++ dktX14_vatFor_1
theorem dksX14_vatFor_0 : cX14_vatFor.data.toList.drop 0 = dktX14_vatFor_0 := by decide +kernel
theorem dksX14_vatFor_1 : cX14_vatFor.data.toList.drop 24 = dktX14_vatFor_1 := dk_seg dksX14_vatFor_0 24 rfl rfl
theorem dksX14_vatFor_2 : cX14_vatFor.data.toList.drop 48 = dktX14_vatFor_2 := dk_seg dksX14_vatFor_1 24 rfl rfl
theorem dksX14_vatFor_3 : cX14_vatFor.data.toList.drop 70 = dktX14_vatFor_3 := dk_seg dksX14_vatFor_2 22 rfl rfl
theorem dX14_vatFor_0 : decode cX14_vatFor 0 = .ok (.iload_n 1, 1) := dk_27 (dk_at dksX14_vatFor_0 0 rfl rfl)
theorem dX14_vatFor_1 : decode cX14_vatFor 1 = .ok (.invokestatic 79, 3) := dk_184 0 79 (dk_at dksX14_vatFor_0 1 rfl rfl)
theorem dX14_vatFor_4 : decode cX14_vatFor 4 = .ok (.ifCond .eq 10, 3) := dk_153 0 10 (dk_at dksX14_vatFor_0 4 rfl rfl)
theorem dX14_vatFor_7 : decode cX14_vatFor 7 = .ok (.iload_n 2, 1) := dk_28 (dk_at dksX14_vatFor_0 7 rfl rfl)
theorem dX14_vatFor_8 : decode cX14_vatFor 8 = .ok (.invokestatic 198, 3) := dk_184 0 198 (dk_at dksX14_vatFor_0 8 rfl rfl)
theorem dX14_vatFor_11 : decode cX14_vatFor 11 = .ok (.ifCond .ne 5, 3) := dk_154 0 5 (dk_at dksX14_vatFor_0 11 rfl rfl)
theorem dX14_vatFor_14 : decode cX14_vatFor 14 = .ok (.iconst (-1), 1) := dk_2 (dk_at dksX14_vatFor_0 14 rfl rfl)
theorem dX14_vatFor_15 : decode cX14_vatFor 15 = .ok (.ireturn, 1) := dk_172 (dk_at dksX14_vatFor_0 15 rfl rfl)
theorem dX14_vatFor_16 : decode cX14_vatFor 16 = .ok (.iconst (-1), 1) := dk_2 (dk_at dksX14_vatFor_0 16 rfl rfl)
theorem dX14_vatFor_17 : decode cX14_vatFor 17 = .ok (.istore_n 3, 1) := dk_62 (dk_at dksX14_vatFor_0 17 rfl rfl)
theorem dX14_vatFor_18 : decode cX14_vatFor 18 = .ok (.iconst (-1), 1) := dk_2 (dk_at dksX14_vatFor_0 18 rfl rfl)
theorem dX14_vatFor_19 : decode cX14_vatFor 19 = .ok (.istore 4, 2) := dk_54 4 (dk_at dksX14_vatFor_0 19 rfl rfl)
theorem dX14_vatFor_21 : decode cX14_vatFor 21 = .ok (.iconst 0, 1) := dk_3 (dk_at dksX14_vatFor_0 21 rfl rfl)
theorem dX14_vatFor_22 : decode cX14_vatFor 22 = .ok (.istore 5, 2) := dk_54 5 (dk_at dksX14_vatFor_0 22 rfl rfl)
theorem dX14_vatFor_24 : decode cX14_vatFor 24 = .ok (.iload 5, 2) := dk_21 5 (dk_at dksX14_vatFor_1 0 rfl rfl)
theorem dX14_vatFor_26 : decode cX14_vatFor 26 = .ok (.bipush 8, 2) := dk_16 8 (dk_at dksX14_vatFor_1 2 rfl rfl)
theorem dX14_vatFor_28 : decode cX14_vatFor 28 = .ok (.if_icmp .ge 62, 3) := dk_162 0 62 (dk_at dksX14_vatFor_1 4 rfl rfl)
theorem dX14_vatFor_31 : decode cX14_vatFor 31 = .ok (.aload_n 0, 1) := dk_42 (dk_at dksX14_vatFor_1 7 rfl rfl)
theorem dX14_vatFor_32 : decode cX14_vatFor 32 = .ok (.invokevirtual 161, 3) := dk_182 0 161 (dk_at dksX14_vatFor_1 8 rfl rfl)
theorem dX14_vatFor_35 : decode cX14_vatFor 35 = .ok (.aload_n 0, 1) := dk_42 (dk_at dksX14_vatFor_1 11 rfl rfl)
theorem dX14_vatFor_36 : decode cX14_vatFor 36 = .ok (.getfield 16, 3) := dk_180 0 16 (dk_at dksX14_vatFor_1 12 rfl rfl)
theorem dX14_vatFor_39 : decode cX14_vatFor 39 = .ok (.bipush 23, 2) := dk_16 23 (dk_at dksX14_vatFor_1 15 rfl rfl)
theorem dX14_vatFor_41 : decode cX14_vatFor 41 = .ok (.iload_n 1, 1) := dk_27 (dk_at dksX14_vatFor_1 17 rfl rfl)
theorem dX14_vatFor_42 : decode cX14_vatFor 42 = .ok (.iadd, 1) := dk_96 (dk_at dksX14_vatFor_1 18 rfl rfl)
theorem dX14_vatFor_43 : decode cX14_vatFor 43 = .ok (.iload 5, 2) := dk_21 5 (dk_at dksX14_vatFor_1 19 rfl rfl)
theorem dX14_vatFor_45 : decode cX14_vatFor 45 = .ok (.iastore, 1) := dk_79 (dk_at dksX14_vatFor_1 21 rfl rfl)
theorem dX14_vatFor_46 : decode cX14_vatFor 46 = .ok (.aload_n 0, 1) := dk_42 (dk_at dksX14_vatFor_1 22 rfl rfl)
theorem dX14_vatFor_47 : decode cX14_vatFor 47 = .ok (.iload_n 2, 1) := dk_28 (dk_at dksX14_vatFor_1 23 rfl rfl)
theorem dX14_vatFor_48 : decode cX14_vatFor 48 = .ok (.invokevirtual 145, 3) := dk_182 0 145 (dk_at dksX14_vatFor_2 0 rfl rfl)
theorem dX14_vatFor_51 : decode cX14_vatFor 51 = .ok (.aload_n 0, 1) := dk_42 (dk_at dksX14_vatFor_2 3 rfl rfl)
theorem dX14_vatFor_52 : decode cX14_vatFor 52 = .ok (.invokevirtual 148, 3) := dk_182 0 148 (dk_at dksX14_vatFor_2 4 rfl rfl)
theorem dX14_vatFor_55 : decode cX14_vatFor 55 = .ok (.istore 6, 2) := dk_54 6 (dk_at dksX14_vatFor_2 7 rfl rfl)
theorem dX14_vatFor_57 : decode cX14_vatFor 57 = .ok (.aload_n 0, 1) := dk_42 (dk_at dksX14_vatFor_2 9 rfl rfl)
theorem dX14_vatFor_58 : decode cX14_vatFor 58 = .ok (.invokevirtual 164, 3) := dk_182 0 164 (dk_at dksX14_vatFor_2 10 rfl rfl)
theorem dX14_vatFor_61 : decode cX14_vatFor 61 = .ok (.iload 6, 2) := dk_21 6 (dk_at dksX14_vatFor_2 13 rfl rfl)
theorem dX14_vatFor_63 : decode cX14_vatFor 63 = .ok (.iload 4, 2) := dk_21 4 (dk_at dksX14_vatFor_2 15 rfl rfl)
theorem dX14_vatFor_65 : decode cX14_vatFor 65 = .ok (.if_icmp .le 8, 3) := dk_164 0 8 (dk_at dksX14_vatFor_2 17 rfl rfl)
theorem dX14_vatFor_68 : decode cX14_vatFor 68 = .ok (.iload 5, 2) := dk_21 5 (dk_at dksX14_vatFor_2 20 rfl rfl)
theorem dX14_vatFor_70 : decode cX14_vatFor 70 = .ok (.goto 4, 3) := dk_167 0 4 (dk_at dksX14_vatFor_3 0 rfl rfl)
theorem dX14_vatFor_73 : decode cX14_vatFor 73 = .ok (.iload_n 3, 1) := dk_29 (dk_at dksX14_vatFor_3 3 rfl rfl)
theorem dX14_vatFor_74 : decode cX14_vatFor 74 = .ok (.istore_n 3, 1) := dk_62 (dk_at dksX14_vatFor_3 4 rfl rfl)
theorem dX14_vatFor_75 : decode cX14_vatFor 75 = .ok (.iload 4, 2) := dk_21 4 (dk_at dksX14_vatFor_3 5 rfl rfl)
theorem dX14_vatFor_77 : decode cX14_vatFor 77 = .ok (.iload 6, 2) := dk_21 6 (dk_at dksX14_vatFor_3 7 rfl rfl)
theorem dX14_vatFor_79 : decode cX14_vatFor 79 = .ok (.invokestatic 122, 3) := dk_184 0 122 (dk_at dksX14_vatFor_3 9 rfl rfl)
theorem dX14_vatFor_82 : decode cX14_vatFor 82 = .ok (.istore 4, 2) := dk_54 4 (dk_at dksX14_vatFor_3 12 rfl rfl)
theorem dX14_vatFor_84 : decode cX14_vatFor 84 = .ok (.iinc 5 1, 3) := dk_132 5 1 (dk_at dksX14_vatFor_3 14 rfl rfl)
theorem dX14_vatFor_87 : decode cX14_vatFor 87 = .ok (.goto (-63), 3) := dk_167 255 193 (dk_at dksX14_vatFor_3 17 rfl rfl)
theorem dX14_vatFor_90 : decode cX14_vatFor 90 = .ok (.iload_n 3, 1) := dk_29 (dk_at dksX14_vatFor_3 20 rfl rfl)
theorem dX14_vatFor_91 : decode cX14_vatFor 91 = .ok (.ireturn, 1) := dk_172 (dk_at dksX14_vatFor_3 21 rfl rfl)
abbrev cX14_isSoon : ByteArray := prog_28_method_51_code
def yX14_isSoon : MethodName := ⟨RX14, "isSoon", "(I)Z"⟩
def dkwX14_isSoon_0 : List UInt8 := [26, 133, 10, 20, 0, 180, 184, 0, 59, 172]
abbrev dktX14_isSoon_0 : List UInt8 := dkwX14_isSoon_0 ++ []
theorem dksX14_isSoon_0 : cX14_isSoon.data.toList.drop 0 = dktX14_isSoon_0 := by decide +kernel
theorem dX14_isSoon_0 : decode cX14_isSoon 0 = .ok (.iload_n 0, 1) := dk_26 (dk_at dksX14_isSoon_0 0 rfl rfl)
theorem dX14_isSoon_1 : decode cX14_isSoon 1 = .ok (.i2l, 1) := dk_133 (dk_at dksX14_isSoon_0 1 rfl rfl)
theorem dX14_isSoon_2 : decode cX14_isSoon 2 = .ok (.lconst 1, 1) := dk_10 (dk_at dksX14_isSoon_0 2 rfl rfl)
theorem dX14_isSoon_3 : decode cX14_isSoon 3 = .ok (.ldc2_w 180, 3) := dk_20 0 180 (dk_at dksX14_isSoon_0 3 rfl rfl)
theorem dX14_isSoon_6 : decode cX14_isSoon 6 = .ok (.invokestatic 59, 3) := dk_184 0 59 (dk_at dksX14_isSoon_0 6 rfl rfl)
theorem dX14_isSoon_9 : decode cX14_isSoon 9 = .ok (.ireturn, 1) := dk_172 (dk_at dksX14_isSoon_0 9 rfl rfl)
abbrev cX14_kindFor : ByteArray := prog_28_method_63_code
def yX14_kindFor : MethodName := ⟨RX14, "kindFor", "(II)I"⟩
def dkwX14_kindFor_3 : List UInt8 := [184, 0, 122, 54, 4, 132, 5, 1, 167, 255, 203, 29, 172]
abbrev dktX14_kindFor_3 : List UInt8 := dkwX14_kindFor_3 ++ []
def dkwX14_kindFor_2 : List UInt8 := [182, 0, 185, 54, 6, 21, 6, 21, 4, 164, 0, 8, 21, 5, 167, 0, 4, 29, 62, 21, 4, 21, 6]
abbrev dktX14_kindFor_2 : List UInt8 := dkwX14_kindFor_2 ++ dktX14_kindFor_3
def dkwX14_kindFor_1 : List UInt8 := [54, 5, 21, 5, 8, 163, 0, 53, 42, 182, 0, 161, 42, 27, 3, 21, 5, 182, 0, 85, 42, 27, 5, 28]
abbrev dktX14_kindFor_1 : List UInt8 := dkwX14_kindFor_1 ++ dktX14_kindFor_2
def dkwX14_kindFor_0 : List UInt8 := [42, 27, 182, 0, 96, 153, 0, 10, 28, 184, 0, 198, 154, 0, 5, 2, 172, 2, 62, 2, 54, 4, 3]
abbrev dktX14_kindFor_0 : List UInt8 := dkwX14_kindFor_0 ++ dktX14_kindFor_1
theorem dksX14_kindFor_0 : cX14_kindFor.data.toList.drop 0 = dktX14_kindFor_0 := by decide +kernel
theorem dksX14_kindFor_1 : cX14_kindFor.data.toList.drop 23 = dktX14_kindFor_1 := dk_seg dksX14_kindFor_0 23 rfl rfl
theorem dksX14_kindFor_2 : cX14_kindFor.data.toList.drop 47 = dktX14_kindFor_2 := dk_seg dksX14_kindFor_1 24 rfl rfl
theorem dksX14_kindFor_3 : cX14_kindFor.data.toList.drop 70 = dktX14_kindFor_3 := dk_seg dksX14_kindFor_2 23 rfl rfl
theorem dX14_kindFor_0 : decode cX14_kindFor 0 = .ok (.aload_n 0, 1) := dk_42 (dk_at dksX14_kindFor_0 0 rfl rfl)
theorem dX14_kindFor_1 : decode cX14_kindFor 1 = .ok (.iload_n 1, 1) := dk_27 (dk_at dksX14_kindFor_0 1 rfl rfl)
theorem dX14_kindFor_2 : decode cX14_kindFor 2 = .ok (.invokevirtual 96, 3) := dk_182 0 96 (dk_at dksX14_kindFor_0 2 rfl rfl)
theorem dX14_kindFor_5 : decode cX14_kindFor 5 = .ok (.ifCond .eq 10, 3) := dk_153 0 10 (dk_at dksX14_kindFor_0 5 rfl rfl)
theorem dX14_kindFor_8 : decode cX14_kindFor 8 = .ok (.iload_n 2, 1) := dk_28 (dk_at dksX14_kindFor_0 8 rfl rfl)
theorem dX14_kindFor_9 : decode cX14_kindFor 9 = .ok (.invokestatic 198, 3) := dk_184 0 198 (dk_at dksX14_kindFor_0 9 rfl rfl)
theorem dX14_kindFor_12 : decode cX14_kindFor 12 = .ok (.ifCond .ne 5, 3) := dk_154 0 5 (dk_at dksX14_kindFor_0 12 rfl rfl)
theorem dX14_kindFor_15 : decode cX14_kindFor 15 = .ok (.iconst (-1), 1) := dk_2 (dk_at dksX14_kindFor_0 15 rfl rfl)
theorem dX14_kindFor_16 : decode cX14_kindFor 16 = .ok (.ireturn, 1) := dk_172 (dk_at dksX14_kindFor_0 16 rfl rfl)
theorem dX14_kindFor_17 : decode cX14_kindFor 17 = .ok (.iconst (-1), 1) := dk_2 (dk_at dksX14_kindFor_0 17 rfl rfl)
theorem dX14_kindFor_18 : decode cX14_kindFor 18 = .ok (.istore_n 3, 1) := dk_62 (dk_at dksX14_kindFor_0 18 rfl rfl)
theorem dX14_kindFor_19 : decode cX14_kindFor 19 = .ok (.iconst (-1), 1) := dk_2 (dk_at dksX14_kindFor_0 19 rfl rfl)
theorem dX14_kindFor_20 : decode cX14_kindFor 20 = .ok (.istore 4, 2) := dk_54 4 (dk_at dksX14_kindFor_0 20 rfl rfl)
theorem dX14_kindFor_22 : decode cX14_kindFor 22 = .ok (.iconst 0, 1) := dk_3 (dk_at dksX14_kindFor_0 22 rfl rfl)
theorem dX14_kindFor_23 : decode cX14_kindFor 23 = .ok (.istore 5, 2) := dk_54 5 (dk_at dksX14_kindFor_1 0 rfl rfl)
theorem dX14_kindFor_25 : decode cX14_kindFor 25 = .ok (.iload 5, 2) := dk_21 5 (dk_at dksX14_kindFor_1 2 rfl rfl)
theorem dX14_kindFor_27 : decode cX14_kindFor 27 = .ok (.iconst 5, 1) := dk_8 (dk_at dksX14_kindFor_1 4 rfl rfl)
theorem dX14_kindFor_28 : decode cX14_kindFor 28 = .ok (.if_icmp .gt 53, 3) := dk_163 0 53 (dk_at dksX14_kindFor_1 5 rfl rfl)
theorem dX14_kindFor_31 : decode cX14_kindFor 31 = .ok (.aload_n 0, 1) := dk_42 (dk_at dksX14_kindFor_1 8 rfl rfl)
theorem dX14_kindFor_32 : decode cX14_kindFor 32 = .ok (.invokevirtual 161, 3) := dk_182 0 161 (dk_at dksX14_kindFor_1 9 rfl rfl)
theorem dX14_kindFor_35 : decode cX14_kindFor 35 = .ok (.aload_n 0, 1) := dk_42 (dk_at dksX14_kindFor_1 12 rfl rfl)
theorem dX14_kindFor_36 : decode cX14_kindFor 36 = .ok (.iload_n 1, 1) := dk_27 (dk_at dksX14_kindFor_1 13 rfl rfl)
theorem dX14_kindFor_37 : decode cX14_kindFor 37 = .ok (.iconst 0, 1) := dk_3 (dk_at dksX14_kindFor_1 14 rfl rfl)
theorem dX14_kindFor_38 : decode cX14_kindFor 38 = .ok (.iload 5, 2) := dk_21 5 (dk_at dksX14_kindFor_1 15 rfl rfl)
theorem dX14_kindFor_40 : decode cX14_kindFor 40 = .ok (.invokevirtual 85, 3) := dk_182 0 85 (dk_at dksX14_kindFor_1 17 rfl rfl)
theorem dX14_kindFor_43 : decode cX14_kindFor 43 = .ok (.aload_n 0, 1) := dk_42 (dk_at dksX14_kindFor_1 20 rfl rfl)
theorem dX14_kindFor_44 : decode cX14_kindFor 44 = .ok (.iload_n 1, 1) := dk_27 (dk_at dksX14_kindFor_1 21 rfl rfl)
theorem dX14_kindFor_45 : decode cX14_kindFor 45 = .ok (.iconst 2, 1) := dk_5 (dk_at dksX14_kindFor_1 22 rfl rfl)
theorem dX14_kindFor_46 : decode cX14_kindFor 46 = .ok (.iload_n 2, 1) := dk_28 (dk_at dksX14_kindFor_1 23 rfl rfl)
theorem dX14_kindFor_47 : decode cX14_kindFor 47 = .ok (.invokevirtual 185, 3) := dk_182 0 185 (dk_at dksX14_kindFor_2 0 rfl rfl)
theorem dX14_kindFor_50 : decode cX14_kindFor 50 = .ok (.istore 6, 2) := dk_54 6 (dk_at dksX14_kindFor_2 3 rfl rfl)
theorem dX14_kindFor_52 : decode cX14_kindFor 52 = .ok (.iload 6, 2) := dk_21 6 (dk_at dksX14_kindFor_2 5 rfl rfl)
theorem dX14_kindFor_54 : decode cX14_kindFor 54 = .ok (.iload 4, 2) := dk_21 4 (dk_at dksX14_kindFor_2 7 rfl rfl)
theorem dX14_kindFor_56 : decode cX14_kindFor 56 = .ok (.if_icmp .le 8, 3) := dk_164 0 8 (dk_at dksX14_kindFor_2 9 rfl rfl)
theorem dX14_kindFor_59 : decode cX14_kindFor 59 = .ok (.iload 5, 2) := dk_21 5 (dk_at dksX14_kindFor_2 12 rfl rfl)
theorem dX14_kindFor_61 : decode cX14_kindFor 61 = .ok (.goto 4, 3) := dk_167 0 4 (dk_at dksX14_kindFor_2 14 rfl rfl)
theorem dX14_kindFor_64 : decode cX14_kindFor 64 = .ok (.iload_n 3, 1) := dk_29 (dk_at dksX14_kindFor_2 17 rfl rfl)
theorem dX14_kindFor_65 : decode cX14_kindFor 65 = .ok (.istore_n 3, 1) := dk_62 (dk_at dksX14_kindFor_2 18 rfl rfl)
theorem dX14_kindFor_66 : decode cX14_kindFor 66 = .ok (.iload 4, 2) := dk_21 4 (dk_at dksX14_kindFor_2 19 rfl rfl)
theorem dX14_kindFor_68 : decode cX14_kindFor 68 = .ok (.iload 6, 2) := dk_21 6 (dk_at dksX14_kindFor_2 21 rfl rfl)
theorem dX14_kindFor_70 : decode cX14_kindFor 70 = .ok (.invokestatic 122, 3) := dk_184 0 122 (dk_at dksX14_kindFor_3 0 rfl rfl)
theorem dX14_kindFor_73 : decode cX14_kindFor 73 = .ok (.istore 4, 2) := dk_54 4 (dk_at dksX14_kindFor_3 3 rfl rfl)
theorem dX14_kindFor_75 : decode cX14_kindFor 75 = .ok (.iinc 5 1, 3) := dk_132 5 1 (dk_at dksX14_kindFor_3 5 rfl rfl)
theorem dX14_kindFor_78 : decode cX14_kindFor 78 = .ok (.goto (-53), 3) := dk_167 255 203 (dk_at dksX14_kindFor_3 8 rfl rfl)
theorem dX14_kindFor_81 : decode cX14_kindFor 81 = .ok (.iload_n 3, 1) := dk_29 (dk_at dksX14_kindFor_3 11 rfl rfl)
theorem dX14_kindFor_82 : decode cX14_kindFor 82 = .ok (.ireturn, 1) := dk_172 (dk_at dksX14_kindFor_3 12 rfl rfl)
abbrev cX14_strengthFor : ByteArray := prog_28_method_64_code
def yX14_strengthFor : MethodName := ⟨RX14, "strengthFor", "(IIII)I"⟩
def dkwX14_strengthFor_3 : List UInt8 := [160, 0, 8, 21, 6, 167, 0, 5, 21, 5, 54, 5, 132, 6, 255, 167, 255, 212, 21, 5, 172]
abbrev dktX14_strengthFor_3 : List UInt8 := dkwX14_strengthFor_3 ++ []
def dkwX14_strengthFor_2 : List UInt8 := [182, 0, 161, 42, 180, 0, 16, 16, 15, 27, 96, 21, 6, 79, 42, 28, 4, 21, 4, 182, 0, 185, 29]
abbrev dktX14_strengthFor_2 : List UInt8 := dkwX14_strengthFor_2 ++ dktX14_strengthFor_3
def dkwX14_strengthFor_1 : List UInt8 := [184, 0, 198, 154, 0, 5, 2, 172, 16, 253, 54, 5, 16, 9, 54, 6, 21, 6, 155, 0, 45, 42]
abbrev dktX14_strengthFor_1 : List UInt8 := dkwX14_strengthFor_1 ++ dktX14_strengthFor_2
def dkwX14_strengthFor_0 : List UInt8 := [27, 184, 0, 75, 153, 0, 26, 42, 28, 182, 0, 96, 153, 0, 18, 29, 184, 0, 125, 153, 0, 11, 21, 4]
abbrev dktX14_strengthFor_0 : List UInt8 := dkwX14_strengthFor_0 ++ dktX14_strengthFor_1
theorem dksX14_strengthFor_0 : cX14_strengthFor.data.toList.drop 0 = dktX14_strengthFor_0 := by decide +kernel
theorem dksX14_strengthFor_1 : cX14_strengthFor.data.toList.drop 24 = dktX14_strengthFor_1 := dk_seg dksX14_strengthFor_0 24 rfl rfl
theorem dksX14_strengthFor_2 : cX14_strengthFor.data.toList.drop 46 = dktX14_strengthFor_2 := dk_seg dksX14_strengthFor_1 22 rfl rfl
theorem dksX14_strengthFor_3 : cX14_strengthFor.data.toList.drop 69 = dktX14_strengthFor_3 := dk_seg dksX14_strengthFor_2 23 rfl rfl
theorem dX14_strengthFor_0 : decode cX14_strengthFor 0 = .ok (.iload_n 1, 1) := dk_27 (dk_at dksX14_strengthFor_0 0 rfl rfl)
theorem dX14_strengthFor_1 : decode cX14_strengthFor 1 = .ok (.invokestatic 75, 3) := dk_184 0 75 (dk_at dksX14_strengthFor_0 1 rfl rfl)
theorem dX14_strengthFor_4 : decode cX14_strengthFor 4 = .ok (.ifCond .eq 26, 3) := dk_153 0 26 (dk_at dksX14_strengthFor_0 4 rfl rfl)
theorem dX14_strengthFor_7 : decode cX14_strengthFor 7 = .ok (.aload_n 0, 1) := dk_42 (dk_at dksX14_strengthFor_0 7 rfl rfl)
theorem dX14_strengthFor_8 : decode cX14_strengthFor 8 = .ok (.iload_n 2, 1) := dk_28 (dk_at dksX14_strengthFor_0 8 rfl rfl)
theorem dX14_strengthFor_9 : decode cX14_strengthFor 9 = .ok (.invokevirtual 96, 3) := dk_182 0 96 (dk_at dksX14_strengthFor_0 9 rfl rfl)
theorem dX14_strengthFor_12 : decode cX14_strengthFor 12 = .ok (.ifCond .eq 18, 3) := dk_153 0 18 (dk_at dksX14_strengthFor_0 12 rfl rfl)
theorem dX14_strengthFor_15 : decode cX14_strengthFor 15 = .ok (.iload_n 3, 1) := dk_29 (dk_at dksX14_strengthFor_0 15 rfl rfl)
theorem dX14_strengthFor_16 : decode cX14_strengthFor 16 = .ok (.invokestatic 125, 3) := dk_184 0 125 (dk_at dksX14_strengthFor_0 16 rfl rfl)
theorem dX14_strengthFor_19 : decode cX14_strengthFor 19 = .ok (.ifCond .eq 11, 3) := dk_153 0 11 (dk_at dksX14_strengthFor_0 19 rfl rfl)
theorem dX14_strengthFor_22 : decode cX14_strengthFor 22 = .ok (.iload 4, 2) := dk_21 4 (dk_at dksX14_strengthFor_0 22 rfl rfl)
theorem dX14_strengthFor_24 : decode cX14_strengthFor 24 = .ok (.invokestatic 198, 3) := dk_184 0 198 (dk_at dksX14_strengthFor_1 0 rfl rfl)
theorem dX14_strengthFor_27 : decode cX14_strengthFor 27 = .ok (.ifCond .ne 5, 3) := dk_154 0 5 (dk_at dksX14_strengthFor_1 3 rfl rfl)
theorem dX14_strengthFor_30 : decode cX14_strengthFor 30 = .ok (.iconst (-1), 1) := dk_2 (dk_at dksX14_strengthFor_1 6 rfl rfl)
theorem dX14_strengthFor_31 : decode cX14_strengthFor 31 = .ok (.ireturn, 1) := dk_172 (dk_at dksX14_strengthFor_1 7 rfl rfl)
theorem dX14_strengthFor_32 : decode cX14_strengthFor 32 = .ok (.bipush (-3), 2) := dk_16 253 (dk_at dksX14_strengthFor_1 8 rfl rfl)
theorem dX14_strengthFor_34 : decode cX14_strengthFor 34 = .ok (.istore 5, 2) := dk_54 5 (dk_at dksX14_strengthFor_1 10 rfl rfl)
theorem dX14_strengthFor_36 : decode cX14_strengthFor 36 = .ok (.bipush 9, 2) := dk_16 9 (dk_at dksX14_strengthFor_1 12 rfl rfl)
theorem dX14_strengthFor_38 : decode cX14_strengthFor 38 = .ok (.istore 6, 2) := dk_54 6 (dk_at dksX14_strengthFor_1 14 rfl rfl)
theorem dX14_strengthFor_40 : decode cX14_strengthFor 40 = .ok (.iload 6, 2) := dk_21 6 (dk_at dksX14_strengthFor_1 16 rfl rfl)
theorem dX14_strengthFor_42 : decode cX14_strengthFor 42 = .ok (.ifCond .lt 45, 3) := dk_155 0 45 (dk_at dksX14_strengthFor_1 18 rfl rfl)
theorem dX14_strengthFor_45 : decode cX14_strengthFor 45 = .ok (.aload_n 0, 1) := dk_42 (dk_at dksX14_strengthFor_1 21 rfl rfl)
theorem dX14_strengthFor_46 : decode cX14_strengthFor 46 = .ok (.invokevirtual 161, 3) := dk_182 0 161 (dk_at dksX14_strengthFor_2 0 rfl rfl)
theorem dX14_strengthFor_49 : decode cX14_strengthFor 49 = .ok (.aload_n 0, 1) := dk_42 (dk_at dksX14_strengthFor_2 3 rfl rfl)
theorem dX14_strengthFor_50 : decode cX14_strengthFor 50 = .ok (.getfield 16, 3) := dk_180 0 16 (dk_at dksX14_strengthFor_2 4 rfl rfl)
theorem dX14_strengthFor_53 : decode cX14_strengthFor 53 = .ok (.bipush 15, 2) := dk_16 15 (dk_at dksX14_strengthFor_2 7 rfl rfl)
theorem dX14_strengthFor_55 : decode cX14_strengthFor 55 = .ok (.iload_n 1, 1) := dk_27 (dk_at dksX14_strengthFor_2 9 rfl rfl)
theorem dX14_strengthFor_56 : decode cX14_strengthFor 56 = .ok (.iadd, 1) := dk_96 (dk_at dksX14_strengthFor_2 10 rfl rfl)
theorem dX14_strengthFor_57 : decode cX14_strengthFor 57 = .ok (.iload 6, 2) := dk_21 6 (dk_at dksX14_strengthFor_2 11 rfl rfl)
theorem dX14_strengthFor_59 : decode cX14_strengthFor 59 = .ok (.iastore, 1) := dk_79 (dk_at dksX14_strengthFor_2 13 rfl rfl)
theorem dX14_strengthFor_60 : decode cX14_strengthFor 60 = .ok (.aload_n 0, 1) := dk_42 (dk_at dksX14_strengthFor_2 14 rfl rfl)
theorem dX14_strengthFor_61 : decode cX14_strengthFor 61 = .ok (.iload_n 2, 1) := dk_28 (dk_at dksX14_strengthFor_2 15 rfl rfl)
theorem dX14_strengthFor_62 : decode cX14_strengthFor 62 = .ok (.iconst 1, 1) := dk_4 (dk_at dksX14_strengthFor_2 16 rfl rfl)
theorem dX14_strengthFor_63 : decode cX14_strengthFor 63 = .ok (.iload 4, 2) := dk_21 4 (dk_at dksX14_strengthFor_2 17 rfl rfl)
theorem dX14_strengthFor_65 : decode cX14_strengthFor 65 = .ok (.invokevirtual 185, 3) := dk_182 0 185 (dk_at dksX14_strengthFor_2 19 rfl rfl)
theorem dX14_strengthFor_68 : decode cX14_strengthFor 68 = .ok (.iload_n 3, 1) := dk_29 (dk_at dksX14_strengthFor_2 22 rfl rfl)
theorem dX14_strengthFor_69 : decode cX14_strengthFor 69 = .ok (.if_icmp .ne 8, 3) := dk_160 0 8 (dk_at dksX14_strengthFor_3 0 rfl rfl)
theorem dX14_strengthFor_72 : decode cX14_strengthFor 72 = .ok (.iload 6, 2) := dk_21 6 (dk_at dksX14_strengthFor_3 3 rfl rfl)
theorem dX14_strengthFor_74 : decode cX14_strengthFor 74 = .ok (.goto 5, 3) := dk_167 0 5 (dk_at dksX14_strengthFor_3 5 rfl rfl)
theorem dX14_strengthFor_77 : decode cX14_strengthFor 77 = .ok (.iload 5, 2) := dk_21 5 (dk_at dksX14_strengthFor_3 8 rfl rfl)
theorem dX14_strengthFor_79 : decode cX14_strengthFor 79 = .ok (.istore 5, 2) := dk_54 5 (dk_at dksX14_strengthFor_3 10 rfl rfl)
theorem dX14_strengthFor_81 : decode cX14_strengthFor 81 = .ok (.iinc 6 (-1), 3) := dk_132 6 255 (dk_at dksX14_strengthFor_3 12 rfl rfl)
theorem dX14_strengthFor_84 : decode cX14_strengthFor 84 = .ok (.goto (-44), 3) := dk_167 255 212 (dk_at dksX14_strengthFor_3 15 rfl rfl)
theorem dX14_strengthFor_87 : decode cX14_strengthFor 87 = .ok (.iload 5, 2) := dk_21 5 (dk_at dksX14_strengthFor_3 18 rfl rfl)
theorem dX14_strengthFor_89 : decode cX14_strengthFor 89 = .ok (.ireturn, 1) := dk_172 (dk_at dksX14_strengthFor_3 20 rfl rfl)
abbrev cX14_hangFor : ByteArray := prog_28_method_67_code
def yX14_hangFor : MethodName := ⟨RX14, "hangFor", "(II)I"⟩
def dkwX14_hangFor_4 : List UInt8 := [167, 255, 197, 29, 172]
abbrev dktX14_hangFor_4 : List UInt8 := dkwX14_hangFor_4 ++ []
def dkwX14_hangFor_3 : List UInt8 := [182, 0, 206, 42, 27, 182, 0, 191, 28, 163, 0, 8, 21, 4, 167, 0, 4, 29, 62, 132, 4, 1]
abbrev dktX14_hangFor_3 : List UInt8 := dkwX14_hangFor_3 ++ dktX14_hangFor_4
def dkwX14_hangFor_2 : List UInt8 := [155, 0, 15, 21, 4, 184, 0, 203, 29, 184, 0, 203, 162, 0, 29, 42, 182, 0, 161, 42, 21, 4]
abbrev dktX14_hangFor_2 : List UInt8 := dkwX14_hangFor_2 ++ dktX14_hangFor_3
def dkwX14_hangFor_1 : List UInt8 := [2, 172, 16, 253, 62, 3, 54, 4, 21, 4, 4, 42, 180, 0, 16, 16, 6, 46, 120, 162, 0, 51, 29]
abbrev dktX14_hangFor_1 : List UInt8 := dkwX14_hangFor_1 ++ dktX14_hangFor_2
def dkwX14_hangFor_0 : List UInt8 := [27, 133, 10, 20, 0, 159, 184, 0, 59, 153, 0, 15, 28, 133, 9, 20, 0, 201, 184, 0, 59, 154, 0, 5]
abbrev dktX14_hangFor_0 : List UInt8 := dkwX14_hangFor_0 ++ dktX14_hangFor_1
theorem dksX14_hangFor_0 : cX14_hangFor.data.toList.drop 0 = dktX14_hangFor_0 := by decide +kernel
theorem dksX14_hangFor_1 : cX14_hangFor.data.toList.drop 24 = dktX14_hangFor_1 := dk_seg dksX14_hangFor_0 24 rfl rfl
theorem dksX14_hangFor_2 : cX14_hangFor.data.toList.drop 47 = dktX14_hangFor_2 := dk_seg dksX14_hangFor_1 23 rfl rfl
theorem dksX14_hangFor_3 : cX14_hangFor.data.toList.drop 69 = dktX14_hangFor_3 := dk_seg dksX14_hangFor_2 22 rfl rfl
theorem dksX14_hangFor_4 : cX14_hangFor.data.toList.drop 91 = dktX14_hangFor_4 := dk_seg dksX14_hangFor_3 22 rfl rfl
theorem dX14_hangFor_0 : decode cX14_hangFor 0 = .ok (.iload_n 1, 1) := dk_27 (dk_at dksX14_hangFor_0 0 rfl rfl)
theorem dX14_hangFor_1 : decode cX14_hangFor 1 = .ok (.i2l, 1) := dk_133 (dk_at dksX14_hangFor_0 1 rfl rfl)
theorem dX14_hangFor_2 : decode cX14_hangFor 2 = .ok (.lconst 1, 1) := dk_10 (dk_at dksX14_hangFor_0 2 rfl rfl)
theorem dX14_hangFor_3 : decode cX14_hangFor 3 = .ok (.ldc2_w 159, 3) := dk_20 0 159 (dk_at dksX14_hangFor_0 3 rfl rfl)
theorem dX14_hangFor_6 : decode cX14_hangFor 6 = .ok (.invokestatic 59, 3) := dk_184 0 59 (dk_at dksX14_hangFor_0 6 rfl rfl)
theorem dX14_hangFor_9 : decode cX14_hangFor 9 = .ok (.ifCond .eq 15, 3) := dk_153 0 15 (dk_at dksX14_hangFor_0 9 rfl rfl)
theorem dX14_hangFor_12 : decode cX14_hangFor 12 = .ok (.iload_n 2, 1) := dk_28 (dk_at dksX14_hangFor_0 12 rfl rfl)
theorem dX14_hangFor_13 : decode cX14_hangFor 13 = .ok (.i2l, 1) := dk_133 (dk_at dksX14_hangFor_0 13 rfl rfl)
theorem dX14_hangFor_14 : decode cX14_hangFor 14 = .ok (.lconst 0, 1) := dk_9 (dk_at dksX14_hangFor_0 14 rfl rfl)
theorem dX14_hangFor_15 : decode cX14_hangFor 15 = .ok (.ldc2_w 201, 3) := dk_20 0 201 (dk_at dksX14_hangFor_0 15 rfl rfl)
theorem dX14_hangFor_18 : decode cX14_hangFor 18 = .ok (.invokestatic 59, 3) := dk_184 0 59 (dk_at dksX14_hangFor_0 18 rfl rfl)
theorem dX14_hangFor_21 : decode cX14_hangFor 21 = .ok (.ifCond .ne 5, 3) := dk_154 0 5 (dk_at dksX14_hangFor_0 21 rfl rfl)
theorem dX14_hangFor_24 : decode cX14_hangFor 24 = .ok (.iconst (-1), 1) := dk_2 (dk_at dksX14_hangFor_1 0 rfl rfl)
theorem dX14_hangFor_25 : decode cX14_hangFor 25 = .ok (.ireturn, 1) := dk_172 (dk_at dksX14_hangFor_1 1 rfl rfl)
theorem dX14_hangFor_26 : decode cX14_hangFor 26 = .ok (.bipush (-3), 2) := dk_16 253 (dk_at dksX14_hangFor_1 2 rfl rfl)
theorem dX14_hangFor_28 : decode cX14_hangFor 28 = .ok (.istore_n 3, 1) := dk_62 (dk_at dksX14_hangFor_1 4 rfl rfl)
theorem dX14_hangFor_29 : decode cX14_hangFor 29 = .ok (.iconst 0, 1) := dk_3 (dk_at dksX14_hangFor_1 5 rfl rfl)
theorem dX14_hangFor_30 : decode cX14_hangFor 30 = .ok (.istore 4, 2) := dk_54 4 (dk_at dksX14_hangFor_1 6 rfl rfl)
theorem dX14_hangFor_32 : decode cX14_hangFor 32 = .ok (.iload 4, 2) := dk_21 4 (dk_at dksX14_hangFor_1 8 rfl rfl)
theorem dX14_hangFor_34 : decode cX14_hangFor 34 = .ok (.iconst 1, 1) := dk_4 (dk_at dksX14_hangFor_1 10 rfl rfl)
theorem dX14_hangFor_35 : decode cX14_hangFor 35 = .ok (.aload_n 0, 1) := dk_42 (dk_at dksX14_hangFor_1 11 rfl rfl)
theorem dX14_hangFor_36 : decode cX14_hangFor 36 = .ok (.getfield 16, 3) := dk_180 0 16 (dk_at dksX14_hangFor_1 12 rfl rfl)
theorem dX14_hangFor_39 : decode cX14_hangFor 39 = .ok (.bipush 6, 2) := dk_16 6 (dk_at dksX14_hangFor_1 15 rfl rfl)
theorem dX14_hangFor_41 : decode cX14_hangFor 41 = .ok (.iaload, 1) := dk_46 (dk_at dksX14_hangFor_1 17 rfl rfl)
theorem dX14_hangFor_42 : decode cX14_hangFor 42 = .ok (.ishl, 1) := dk_120 (dk_at dksX14_hangFor_1 18 rfl rfl)
theorem dX14_hangFor_43 : decode cX14_hangFor 43 = .ok (.if_icmp .ge 51, 3) := dk_162 0 51 (dk_at dksX14_hangFor_1 19 rfl rfl)
theorem dX14_hangFor_46 : decode cX14_hangFor 46 = .ok (.iload_n 3, 1) := dk_29 (dk_at dksX14_hangFor_1 22 rfl rfl)
theorem dX14_hangFor_47 : decode cX14_hangFor 47 = .ok (.ifCond .lt 15, 3) := dk_155 0 15 (dk_at dksX14_hangFor_2 0 rfl rfl)
theorem dX14_hangFor_50 : decode cX14_hangFor 50 = .ok (.iload 4, 2) := dk_21 4 (dk_at dksX14_hangFor_2 3 rfl rfl)
theorem dX14_hangFor_52 : decode cX14_hangFor 52 = .ok (.invokestatic 203, 3) := dk_184 0 203 (dk_at dksX14_hangFor_2 5 rfl rfl)
theorem dX14_hangFor_55 : decode cX14_hangFor 55 = .ok (.iload_n 3, 1) := dk_29 (dk_at dksX14_hangFor_2 8 rfl rfl)
theorem dX14_hangFor_56 : decode cX14_hangFor 56 = .ok (.invokestatic 203, 3) := dk_184 0 203 (dk_at dksX14_hangFor_2 9 rfl rfl)
theorem dX14_hangFor_59 : decode cX14_hangFor 59 = .ok (.if_icmp .ge 29, 3) := dk_162 0 29 (dk_at dksX14_hangFor_2 12 rfl rfl)
theorem dX14_hangFor_62 : decode cX14_hangFor 62 = .ok (.aload_n 0, 1) := dk_42 (dk_at dksX14_hangFor_2 15 rfl rfl)
theorem dX14_hangFor_63 : decode cX14_hangFor 63 = .ok (.invokevirtual 161, 3) := dk_182 0 161 (dk_at dksX14_hangFor_2 16 rfl rfl)
theorem dX14_hangFor_66 : decode cX14_hangFor 66 = .ok (.aload_n 0, 1) := dk_42 (dk_at dksX14_hangFor_2 19 rfl rfl)
theorem dX14_hangFor_67 : decode cX14_hangFor 67 = .ok (.iload 4, 2) := dk_21 4 (dk_at dksX14_hangFor_2 20 rfl rfl)
theorem dX14_hangFor_69 : decode cX14_hangFor 69 = .ok (.invokevirtual 206, 3) := dk_182 0 206 (dk_at dksX14_hangFor_3 0 rfl rfl)
theorem dX14_hangFor_72 : decode cX14_hangFor 72 = .ok (.aload_n 0, 1) := dk_42 (dk_at dksX14_hangFor_3 3 rfl rfl)
theorem dX14_hangFor_73 : decode cX14_hangFor 73 = .ok (.iload_n 1, 1) := dk_27 (dk_at dksX14_hangFor_3 4 rfl rfl)
theorem dX14_hangFor_74 : decode cX14_hangFor 74 = .ok (.invokevirtual 191, 3) := dk_182 0 191 (dk_at dksX14_hangFor_3 5 rfl rfl)
theorem dX14_hangFor_77 : decode cX14_hangFor 77 = .ok (.iload_n 2, 1) := dk_28 (dk_at dksX14_hangFor_3 8 rfl rfl)
theorem dX14_hangFor_78 : decode cX14_hangFor 78 = .ok (.if_icmp .gt 8, 3) := dk_163 0 8 (dk_at dksX14_hangFor_3 9 rfl rfl)
theorem dX14_hangFor_81 : decode cX14_hangFor 81 = .ok (.iload 4, 2) := dk_21 4 (dk_at dksX14_hangFor_3 12 rfl rfl)
theorem dX14_hangFor_83 : decode cX14_hangFor 83 = .ok (.goto 4, 3) := dk_167 0 4 (dk_at dksX14_hangFor_3 14 rfl rfl)
theorem dX14_hangFor_86 : decode cX14_hangFor 86 = .ok (.iload_n 3, 1) := dk_29 (dk_at dksX14_hangFor_3 17 rfl rfl)
theorem dX14_hangFor_87 : decode cX14_hangFor 87 = .ok (.istore_n 3, 1) := dk_62 (dk_at dksX14_hangFor_3 18 rfl rfl)
theorem dX14_hangFor_88 : decode cX14_hangFor 88 = .ok (.iinc 4 1, 3) := dk_132 4 1 (dk_at dksX14_hangFor_3 19 rfl rfl)
theorem dX14_hangFor_91 : decode cX14_hangFor 91 = .ok (.goto (-59), 3) := dk_167 255 197 (dk_at dksX14_hangFor_4 0 rfl rfl)
theorem dX14_hangFor_94 : decode cX14_hangFor 94 = .ok (.iload_n 3, 1) := dk_29 (dk_at dksX14_hangFor_4 3 rfl rfl)
theorem dX14_hangFor_95 : decode cX14_hangFor 95 = .ok (.ireturn, 1) := dk_172 (dk_at dksX14_hangFor_4 4 rfl rfl)
abbrev cX14_ones : ByteArray := prog_28_method_65_code
def yX14_ones : MethodName := ⟨RX14, "ones", "(I)I"⟩
def dkwX14_ones_1 : List UInt8 := [27, 172]
abbrev dktX14_ones_1 : List UInt8 := dkwX14_ones_1 ++ []
def dkwX14_ones_0 : List UInt8 := [3, 60, 3, 61, 28, 16, 8, 162, 0, 17, 27, 26, 28, 122, 4, 126, 96, 60, 132, 2, 1, 167, 255, 239]
abbrev dktX14_ones_0 : List UInt8 := dkwX14_ones_0 ++ dktX14_ones_1
theorem dksX14_ones_0 : cX14_ones.data.toList.drop 0 = dktX14_ones_0 := by decide +kernel
theorem dksX14_ones_1 : cX14_ones.data.toList.drop 24 = dktX14_ones_1 := dk_seg dksX14_ones_0 24 rfl rfl
theorem dX14_ones_0 : decode cX14_ones 0 = .ok (.iconst 0, 1) := dk_3 (dk_at dksX14_ones_0 0 rfl rfl)
theorem dX14_ones_1 : decode cX14_ones 1 = .ok (.istore_n 1, 1) := dk_60 (dk_at dksX14_ones_0 1 rfl rfl)
theorem dX14_ones_2 : decode cX14_ones 2 = .ok (.iconst 0, 1) := dk_3 (dk_at dksX14_ones_0 2 rfl rfl)
theorem dX14_ones_3 : decode cX14_ones 3 = .ok (.istore_n 2, 1) := dk_61 (dk_at dksX14_ones_0 3 rfl rfl)
theorem dX14_ones_4 : decode cX14_ones 4 = .ok (.iload_n 2, 1) := dk_28 (dk_at dksX14_ones_0 4 rfl rfl)
theorem dX14_ones_5 : decode cX14_ones 5 = .ok (.bipush 8, 2) := dk_16 8 (dk_at dksX14_ones_0 5 rfl rfl)
theorem dX14_ones_7 : decode cX14_ones 7 = .ok (.if_icmp .ge 17, 3) := dk_162 0 17 (dk_at dksX14_ones_0 7 rfl rfl)
theorem dX14_ones_10 : decode cX14_ones 10 = .ok (.iload_n 1, 1) := dk_27 (dk_at dksX14_ones_0 10 rfl rfl)
theorem dX14_ones_11 : decode cX14_ones 11 = .ok (.iload_n 0, 1) := dk_26 (dk_at dksX14_ones_0 11 rfl rfl)
theorem dX14_ones_12 : decode cX14_ones 12 = .ok (.iload_n 2, 1) := dk_28 (dk_at dksX14_ones_0 12 rfl rfl)
theorem dX14_ones_13 : decode cX14_ones 13 = .ok (.ishr, 1) := dk_122 (dk_at dksX14_ones_0 13 rfl rfl)
theorem dX14_ones_14 : decode cX14_ones 14 = .ok (.iconst 1, 1) := dk_4 (dk_at dksX14_ones_0 14 rfl rfl)
theorem dX14_ones_15 : decode cX14_ones 15 = .ok (.iand, 1) := dk_126 (dk_at dksX14_ones_0 15 rfl rfl)
theorem dX14_ones_16 : decode cX14_ones 16 = .ok (.iadd, 1) := dk_96 (dk_at dksX14_ones_0 16 rfl rfl)
theorem dX14_ones_17 : decode cX14_ones 17 = .ok (.istore_n 1, 1) := dk_60 (dk_at dksX14_ones_0 17 rfl rfl)
theorem dX14_ones_18 : decode cX14_ones 18 = .ok (.iinc 2 1, 3) := dk_132 2 1 (dk_at dksX14_ones_0 18 rfl rfl)
theorem dX14_ones_21 : decode cX14_ones 21 = .ok (.goto (-17), 3) := dk_167 255 239 (dk_at dksX14_ones_0 21 rfl rfl)
theorem dX14_ones_24 : decode cX14_ones 24 = .ok (.iload_n 1, 1) := dk_27 (dk_at dksX14_ones_1 0 rfl rfl)
theorem dX14_ones_25 : decode cX14_ones 25 = .ok (.ireturn, 1) := dk_172 (dk_at dksX14_ones_1 1 rfl rfl)
abbrev cX14_hangs : ByteArray := prog_28_method_66_code
def yX14_hangs : MethodName := ⟨RX14, "hangs", "(I)V"⟩
def dkwX14_hangs_1 : List UInt8 := [132, 2, 1, 167, 255, 231, 177]
abbrev dktX14_hangs_1 : List UInt8 := dkwX14_hangs_1 ++ []
def dkwX14_hangs_0 : List UInt8 := [3, 61, 28, 42, 180, 0, 16, 16, 6, 46, 162, 0, 20, 42, 28, 6, 27, 28, 122, 4, 126, 182, 0, 85]
abbrev dktX14_hangs_0 : List UInt8 := dkwX14_hangs_0 ++ dktX14_hangs_1
theorem dksX14_hangs_0 : cX14_hangs.data.toList.drop 0 = dktX14_hangs_0 := by decide +kernel
theorem dksX14_hangs_1 : cX14_hangs.data.toList.drop 24 = dktX14_hangs_1 := dk_seg dksX14_hangs_0 24 rfl rfl
theorem dX14_hangs_0 : decode cX14_hangs 0 = .ok (.iconst 0, 1) := dk_3 (dk_at dksX14_hangs_0 0 rfl rfl)
theorem dX14_hangs_1 : decode cX14_hangs 1 = .ok (.istore_n 2, 1) := dk_61 (dk_at dksX14_hangs_0 1 rfl rfl)
theorem dX14_hangs_2 : decode cX14_hangs 2 = .ok (.iload_n 2, 1) := dk_28 (dk_at dksX14_hangs_0 2 rfl rfl)
theorem dX14_hangs_3 : decode cX14_hangs 3 = .ok (.aload_n 0, 1) := dk_42 (dk_at dksX14_hangs_0 3 rfl rfl)
theorem dX14_hangs_4 : decode cX14_hangs 4 = .ok (.getfield 16, 3) := dk_180 0 16 (dk_at dksX14_hangs_0 4 rfl rfl)
theorem dX14_hangs_7 : decode cX14_hangs 7 = .ok (.bipush 6, 2) := dk_16 6 (dk_at dksX14_hangs_0 7 rfl rfl)
theorem dX14_hangs_9 : decode cX14_hangs 9 = .ok (.iaload, 1) := dk_46 (dk_at dksX14_hangs_0 9 rfl rfl)
theorem dX14_hangs_10 : decode cX14_hangs 10 = .ok (.if_icmp .ge 20, 3) := dk_162 0 20 (dk_at dksX14_hangs_0 10 rfl rfl)
theorem dX14_hangs_13 : decode cX14_hangs 13 = .ok (.aload_n 0, 1) := dk_42 (dk_at dksX14_hangs_0 13 rfl rfl)
theorem dX14_hangs_14 : decode cX14_hangs 14 = .ok (.iload_n 2, 1) := dk_28 (dk_at dksX14_hangs_0 14 rfl rfl)
theorem dX14_hangs_15 : decode cX14_hangs 15 = .ok (.iconst 3, 1) := dk_6 (dk_at dksX14_hangs_0 15 rfl rfl)
theorem dX14_hangs_16 : decode cX14_hangs 16 = .ok (.iload_n 1, 1) := dk_27 (dk_at dksX14_hangs_0 16 rfl rfl)
theorem dX14_hangs_17 : decode cX14_hangs 17 = .ok (.iload_n 2, 1) := dk_28 (dk_at dksX14_hangs_0 17 rfl rfl)
theorem dX14_hangs_18 : decode cX14_hangs 18 = .ok (.ishr, 1) := dk_122 (dk_at dksX14_hangs_0 18 rfl rfl)
theorem dX14_hangs_19 : decode cX14_hangs 19 = .ok (.iconst 1, 1) := dk_4 (dk_at dksX14_hangs_0 19 rfl rfl)
theorem dX14_hangs_20 : decode cX14_hangs 20 = .ok (.iand, 1) := dk_126 (dk_at dksX14_hangs_0 20 rfl rfl)
theorem dX14_hangs_21 : decode cX14_hangs 21 = .ok (.invokevirtual 85, 3) := dk_182 0 85 (dk_at dksX14_hangs_0 21 rfl rfl)
theorem dX14_hangs_24 : decode cX14_hangs 24 = .ok (.iinc 2 1, 3) := dk_132 2 1 (dk_at dksX14_hangs_1 0 rfl rfl)
theorem dX14_hangs_27 : decode cX14_hangs 27 = .ok (.goto (-25), 3) := dk_167 255 231 (dk_at dksX14_hangs_1 3 rfl rfl)
theorem dX14_hangs_30 : decode cX14_hangs 30 = .ok (.return_, 1) := dk_177 (dk_at dksX14_hangs_1 6 rfl rfl)
abbrev cX14_fits : ByteArray := prog_28_method_69_code
def yX14_fits : MethodName := ⟨RX14, "fits", "(III)I"⟩
def dkwX14_fits_6 : List UInt8 := [154, 0, 8, 21, 5, 167, 0, 5, 21, 6, 172]
abbrev dktX14_fits_6 : List UInt8 := dkwX14_fits_6 ++ []
def dkwX14_fits_5 : List UInt8 := [21, 8, 153, 0, 10, 4, 21, 7, 96, 167, 0, 5, 21, 6, 54, 6, 132, 7, 255, 167, 255, 197, 29]
abbrev dktX14_fits_5 : List UInt8 := dkwX14_fits_5 ++ dktX14_fits_6
def dkwX14_fits_4 : List UInt8 := [28, 21, 7, 182, 0, 212, 54, 8, 21, 5, 21, 8, 153, 0, 7, 4, 167, 0, 4, 3, 96, 54, 5]
abbrev dktX14_fits_4 : List UInt8 := dkwX14_fits_4 ++ dktX14_fits_5
def dkwX14_fits_3 : List UInt8 := [167, 0, 5, 16, 9, 54, 7, 21, 7, 21, 4, 153, 0, 7, 2, 167, 0, 4, 3, 161, 0, 50, 42, 27]
abbrev dktX14_fits_3 : List UInt8 := dkwX14_fits_3 ++ dktX14_fits_4
def dkwX14_fits_2 : List UInt8 := [154, 0, 7, 4, 167, 0, 4, 3, 54, 4, 3, 54, 5, 16, 253, 54, 6, 21, 4, 153, 0, 7, 2]
abbrev dktX14_fits_2 : List UInt8 := dkwX14_fits_2 ++ dktX14_fits_3
def dkwX14_fits_1 : List UInt8 := [154, 0, 5, 2, 172, 42, 180, 0, 31, 27, 46, 156, 0, 6, 16, 245, 172, 42, 28, 5, 182, 0, 82]
abbrev dktX14_fits_1 : List UInt8 := dkwX14_fits_1 ++ dktX14_fits_2
def dkwX14_fits_0 : List UInt8 := [27, 184, 0, 209, 153, 0, 21, 42, 28, 182, 0, 96, 153, 0, 13, 29, 133, 9, 10, 184, 0, 59]
abbrev dktX14_fits_0 : List UInt8 := dkwX14_fits_0 ++ dktX14_fits_1
theorem dksX14_fits_0 : cX14_fits.data.toList.drop 0 = dktX14_fits_0 := by decide +kernel
theorem dksX14_fits_1 : cX14_fits.data.toList.drop 22 = dktX14_fits_1 := dk_seg dksX14_fits_0 22 rfl rfl
theorem dksX14_fits_2 : cX14_fits.data.toList.drop 45 = dktX14_fits_2 := dk_seg dksX14_fits_1 23 rfl rfl
theorem dksX14_fits_3 : cX14_fits.data.toList.drop 68 = dktX14_fits_3 := dk_seg dksX14_fits_2 23 rfl rfl
theorem dksX14_fits_4 : cX14_fits.data.toList.drop 92 = dktX14_fits_4 := dk_seg dksX14_fits_3 24 rfl rfl
theorem dksX14_fits_5 : cX14_fits.data.toList.drop 115 = dktX14_fits_5 := dk_seg dksX14_fits_4 23 rfl rfl
theorem dksX14_fits_6 : cX14_fits.data.toList.drop 138 = dktX14_fits_6 := dk_seg dksX14_fits_5 23 rfl rfl
theorem dX14_fits_0 : decode cX14_fits 0 = .ok (.iload_n 1, 1) := dk_27 (dk_at dksX14_fits_0 0 rfl rfl)
theorem dX14_fits_1 : decode cX14_fits 1 = .ok (.invokestatic 209, 3) := dk_184 0 209 (dk_at dksX14_fits_0 1 rfl rfl)
theorem dX14_fits_4 : decode cX14_fits 4 = .ok (.ifCond .eq 21, 3) := dk_153 0 21 (dk_at dksX14_fits_0 4 rfl rfl)
theorem dX14_fits_7 : decode cX14_fits 7 = .ok (.aload_n 0, 1) := dk_42 (dk_at dksX14_fits_0 7 rfl rfl)
theorem dX14_fits_8 : decode cX14_fits 8 = .ok (.iload_n 2, 1) := dk_28 (dk_at dksX14_fits_0 8 rfl rfl)
theorem dX14_fits_9 : decode cX14_fits 9 = .ok (.invokevirtual 96, 3) := dk_182 0 96 (dk_at dksX14_fits_0 9 rfl rfl)
theorem dX14_fits_12 : decode cX14_fits 12 = .ok (.ifCond .eq 13, 3) := dk_153 0 13 (dk_at dksX14_fits_0 12 rfl rfl)
theorem dX14_fits_15 : decode cX14_fits 15 = .ok (.iload_n 3, 1) := dk_29 (dk_at dksX14_fits_0 15 rfl rfl)
theorem dX14_fits_16 : decode cX14_fits 16 = .ok (.i2l, 1) := dk_133 (dk_at dksX14_fits_0 16 rfl rfl)
theorem dX14_fits_17 : decode cX14_fits 17 = .ok (.lconst 0, 1) := dk_9 (dk_at dksX14_fits_0 17 rfl rfl)
theorem dX14_fits_18 : decode cX14_fits 18 = .ok (.lconst 1, 1) := dk_10 (dk_at dksX14_fits_0 18 rfl rfl)
theorem dX14_fits_19 : decode cX14_fits 19 = .ok (.invokestatic 59, 3) := dk_184 0 59 (dk_at dksX14_fits_0 19 rfl rfl)
theorem dX14_fits_22 : decode cX14_fits 22 = .ok (.ifCond .ne 5, 3) := dk_154 0 5 (dk_at dksX14_fits_1 0 rfl rfl)
theorem dX14_fits_25 : decode cX14_fits 25 = .ok (.iconst (-1), 1) := dk_2 (dk_at dksX14_fits_1 3 rfl rfl)
theorem dX14_fits_26 : decode cX14_fits 26 = .ok (.ireturn, 1) := dk_172 (dk_at dksX14_fits_1 4 rfl rfl)
theorem dX14_fits_27 : decode cX14_fits 27 = .ok (.aload_n 0, 1) := dk_42 (dk_at dksX14_fits_1 5 rfl rfl)
theorem dX14_fits_28 : decode cX14_fits 28 = .ok (.getfield 31, 3) := dk_180 0 31 (dk_at dksX14_fits_1 6 rfl rfl)
theorem dX14_fits_31 : decode cX14_fits 31 = .ok (.iload_n 1, 1) := dk_27 (dk_at dksX14_fits_1 9 rfl rfl)
theorem dX14_fits_32 : decode cX14_fits 32 = .ok (.iaload, 1) := dk_46 (dk_at dksX14_fits_1 10 rfl rfl)
theorem dX14_fits_33 : decode cX14_fits 33 = .ok (.ifCond .ge 6, 3) := dk_156 0 6 (dk_at dksX14_fits_1 11 rfl rfl)
theorem dX14_fits_36 : decode cX14_fits 36 = .ok (.bipush (-11), 2) := dk_16 245 (dk_at dksX14_fits_1 14 rfl rfl)
theorem dX14_fits_38 : decode cX14_fits 38 = .ok (.ireturn, 1) := dk_172 (dk_at dksX14_fits_1 16 rfl rfl)
theorem dX14_fits_39 : decode cX14_fits 39 = .ok (.aload_n 0, 1) := dk_42 (dk_at dksX14_fits_1 17 rfl rfl)
theorem dX14_fits_40 : decode cX14_fits 40 = .ok (.iload_n 2, 1) := dk_28 (dk_at dksX14_fits_1 18 rfl rfl)
theorem dX14_fits_41 : decode cX14_fits 41 = .ok (.iconst 2, 1) := dk_5 (dk_at dksX14_fits_1 19 rfl rfl)
theorem dX14_fits_42 : decode cX14_fits 42 = .ok (.invokevirtual 82, 3) := dk_182 0 82 (dk_at dksX14_fits_1 20 rfl rfl)
theorem dX14_fits_45 : decode cX14_fits 45 = .ok (.ifCond .ne 7, 3) := dk_154 0 7 (dk_at dksX14_fits_2 0 rfl rfl)
theorem dX14_fits_48 : decode cX14_fits 48 = .ok (.iconst 1, 1) := dk_4 (dk_at dksX14_fits_2 3 rfl rfl)
theorem dX14_fits_49 : decode cX14_fits 49 = .ok (.goto 4, 3) := dk_167 0 4 (dk_at dksX14_fits_2 4 rfl rfl)
theorem dX14_fits_52 : decode cX14_fits 52 = .ok (.iconst 0, 1) := dk_3 (dk_at dksX14_fits_2 7 rfl rfl)
theorem dX14_fits_53 : decode cX14_fits 53 = .ok (.istore 4, 2) := dk_54 4 (dk_at dksX14_fits_2 8 rfl rfl)
theorem dX14_fits_55 : decode cX14_fits 55 = .ok (.iconst 0, 1) := dk_3 (dk_at dksX14_fits_2 10 rfl rfl)
theorem dX14_fits_56 : decode cX14_fits 56 = .ok (.istore 5, 2) := dk_54 5 (dk_at dksX14_fits_2 11 rfl rfl)
theorem dX14_fits_58 : decode cX14_fits 58 = .ok (.bipush (-3), 2) := dk_16 253 (dk_at dksX14_fits_2 13 rfl rfl)
theorem dX14_fits_60 : decode cX14_fits 60 = .ok (.istore 6, 2) := dk_54 6 (dk_at dksX14_fits_2 15 rfl rfl)
theorem dX14_fits_62 : decode cX14_fits 62 = .ok (.iload 4, 2) := dk_21 4 (dk_at dksX14_fits_2 17 rfl rfl)
theorem dX14_fits_64 : decode cX14_fits 64 = .ok (.ifCond .eq 7, 3) := dk_153 0 7 (dk_at dksX14_fits_2 19 rfl rfl)
theorem dX14_fits_67 : decode cX14_fits 67 = .ok (.iconst (-1), 1) := dk_2 (dk_at dksX14_fits_2 22 rfl rfl)
theorem dX14_fits_68 : decode cX14_fits 68 = .ok (.goto 5, 3) := dk_167 0 5 (dk_at dksX14_fits_3 0 rfl rfl)
theorem dX14_fits_71 : decode cX14_fits 71 = .ok (.bipush 9, 2) := dk_16 9 (dk_at dksX14_fits_3 3 rfl rfl)
theorem dX14_fits_73 : decode cX14_fits 73 = .ok (.istore 7, 2) := dk_54 7 (dk_at dksX14_fits_3 5 rfl rfl)
theorem dX14_fits_75 : decode cX14_fits 75 = .ok (.iload 7, 2) := dk_21 7 (dk_at dksX14_fits_3 7 rfl rfl)
theorem dX14_fits_77 : decode cX14_fits 77 = .ok (.iload 4, 2) := dk_21 4 (dk_at dksX14_fits_3 9 rfl rfl)
theorem dX14_fits_79 : decode cX14_fits 79 = .ok (.ifCond .eq 7, 3) := dk_153 0 7 (dk_at dksX14_fits_3 11 rfl rfl)
theorem dX14_fits_82 : decode cX14_fits 82 = .ok (.iconst (-1), 1) := dk_2 (dk_at dksX14_fits_3 14 rfl rfl)
theorem dX14_fits_83 : decode cX14_fits 83 = .ok (.goto 4, 3) := dk_167 0 4 (dk_at dksX14_fits_3 15 rfl rfl)
theorem dX14_fits_86 : decode cX14_fits 86 = .ok (.iconst 0, 1) := dk_3 (dk_at dksX14_fits_3 18 rfl rfl)
theorem dX14_fits_87 : decode cX14_fits 87 = .ok (.if_icmp .lt 50, 3) := dk_161 0 50 (dk_at dksX14_fits_3 19 rfl rfl)
theorem dX14_fits_90 : decode cX14_fits 90 = .ok (.aload_n 0, 1) := dk_42 (dk_at dksX14_fits_3 22 rfl rfl)
theorem dX14_fits_91 : decode cX14_fits 91 = .ok (.iload_n 1, 1) := dk_27 (dk_at dksX14_fits_3 23 rfl rfl)
theorem dX14_fits_92 : decode cX14_fits 92 = .ok (.iload_n 2, 1) := dk_28 (dk_at dksX14_fits_4 0 rfl rfl)
theorem dX14_fits_93 : decode cX14_fits 93 = .ok (.iload 7, 2) := dk_21 7 (dk_at dksX14_fits_4 1 rfl rfl)
theorem dX14_fits_95 : decode cX14_fits 95 = .ok (.invokevirtual 212, 3) := dk_182 0 212 (dk_at dksX14_fits_4 3 rfl rfl)
theorem dX14_fits_98 : decode cX14_fits 98 = .ok (.istore 8, 2) := dk_54 8 (dk_at dksX14_fits_4 6 rfl rfl)
theorem dX14_fits_100 : decode cX14_fits 100 = .ok (.iload 5, 2) := dk_21 5 (dk_at dksX14_fits_4 8 rfl rfl)
theorem dX14_fits_102 : decode cX14_fits 102 = .ok (.iload 8, 2) := dk_21 8 (dk_at dksX14_fits_4 10 rfl rfl)
theorem dX14_fits_104 : decode cX14_fits 104 = .ok (.ifCond .eq 7, 3) := dk_153 0 7 (dk_at dksX14_fits_4 12 rfl rfl)
theorem dX14_fits_107 : decode cX14_fits 107 = .ok (.iconst 1, 1) := dk_4 (dk_at dksX14_fits_4 15 rfl rfl)
theorem dX14_fits_108 : decode cX14_fits 108 = .ok (.goto 4, 3) := dk_167 0 4 (dk_at dksX14_fits_4 16 rfl rfl)
theorem dX14_fits_111 : decode cX14_fits 111 = .ok (.iconst 0, 1) := dk_3 (dk_at dksX14_fits_4 19 rfl rfl)
theorem dX14_fits_112 : decode cX14_fits 112 = .ok (.iadd, 1) := dk_96 (dk_at dksX14_fits_4 20 rfl rfl)
theorem dX14_fits_113 : decode cX14_fits 113 = .ok (.istore 5, 2) := dk_54 5 (dk_at dksX14_fits_4 21 rfl rfl)
theorem dX14_fits_115 : decode cX14_fits 115 = .ok (.iload 8, 2) := dk_21 8 (dk_at dksX14_fits_5 0 rfl rfl)
theorem dX14_fits_117 : decode cX14_fits 117 = .ok (.ifCond .eq 10, 3) := dk_153 0 10 (dk_at dksX14_fits_5 2 rfl rfl)
theorem dX14_fits_120 : decode cX14_fits 120 = .ok (.iconst 1, 1) := dk_4 (dk_at dksX14_fits_5 5 rfl rfl)
theorem dX14_fits_121 : decode cX14_fits 121 = .ok (.iload 7, 2) := dk_21 7 (dk_at dksX14_fits_5 6 rfl rfl)
theorem dX14_fits_123 : decode cX14_fits 123 = .ok (.iadd, 1) := dk_96 (dk_at dksX14_fits_5 8 rfl rfl)
theorem dX14_fits_124 : decode cX14_fits 124 = .ok (.goto 5, 3) := dk_167 0 5 (dk_at dksX14_fits_5 9 rfl rfl)
theorem dX14_fits_127 : decode cX14_fits 127 = .ok (.iload 6, 2) := dk_21 6 (dk_at dksX14_fits_5 12 rfl rfl)
theorem dX14_fits_129 : decode cX14_fits 129 = .ok (.istore 6, 2) := dk_54 6 (dk_at dksX14_fits_5 14 rfl rfl)
theorem dX14_fits_131 : decode cX14_fits 131 = .ok (.iinc 7 (-1), 3) := dk_132 7 255 (dk_at dksX14_fits_5 16 rfl rfl)
theorem dX14_fits_134 : decode cX14_fits 134 = .ok (.goto (-59), 3) := dk_167 255 197 (dk_at dksX14_fits_5 19 rfl rfl)
theorem dX14_fits_137 : decode cX14_fits 137 = .ok (.iload_n 3, 1) := dk_29 (dk_at dksX14_fits_5 22 rfl rfl)
theorem dX14_fits_138 : decode cX14_fits 138 = .ok (.ifCond .ne 8, 3) := dk_154 0 8 (dk_at dksX14_fits_6 0 rfl rfl)
theorem dX14_fits_141 : decode cX14_fits 141 = .ok (.iload 5, 2) := dk_21 5 (dk_at dksX14_fits_6 3 rfl rfl)
theorem dX14_fits_143 : decode cX14_fits 143 = .ok (.goto 5, 3) := dk_167 0 5 (dk_at dksX14_fits_6 5 rfl rfl)
theorem dX14_fits_146 : decode cX14_fits 146 = .ok (.iload 6, 2) := dk_21 6 (dk_at dksX14_fits_6 8 rfl rfl)
theorem dX14_fits_148 : decode cX14_fits 148 = .ok (.ireturn, 1) := dk_172 (dk_at dksX14_fits_6 10 rfl rfl)
abbrev cX14_isFour : ByteArray := prog_28_method_94_code
def yX14_isFour : MethodName := ⟨RX14, "isFour", "(I)Z"⟩
def dkwX14_isFour_0 : List UInt8 := [26, 133, 9, 20, 0, 69, 184, 0, 59, 172]
abbrev dktX14_isFour_0 : List UInt8 := dkwX14_isFour_0 ++ []
theorem dksX14_isFour_0 : cX14_isFour.data.toList.drop 0 = dktX14_isFour_0 := by decide +kernel
theorem dX14_isFour_0 : decode cX14_isFour 0 = .ok (.iload_n 0, 1) := dk_26 (dk_at dksX14_isFour_0 0 rfl rfl)
theorem dX14_isFour_1 : decode cX14_isFour 1 = .ok (.i2l, 1) := dk_133 (dk_at dksX14_isFour_0 1 rfl rfl)
theorem dX14_isFour_2 : decode cX14_isFour 2 = .ok (.lconst 0, 1) := dk_9 (dk_at dksX14_isFour_0 2 rfl rfl)
theorem dX14_isFour_3 : decode cX14_isFour 3 = .ok (.ldc2_w 69, 3) := dk_20 0 69 (dk_at dksX14_isFour_0 3 rfl rfl)
theorem dX14_isFour_6 : decode cX14_isFour 6 = .ok (.invokestatic 59, 3) := dk_184 0 59 (dk_at dksX14_isFour_0 6 rfl rfl)
theorem dX14_isFour_9 : decode cX14_isFour 9 = .ok (.ireturn, 1) := dk_172 (dk_at dksX14_isFour_0 9 rfl rfl)
abbrev cX14_isSo : ByteArray := prog_28_method_68_code
def yX14_isSo : MethodName := ⟨RX14, "isSo", "(III)Z"⟩
def dkwX14_isSo_3 : List UInt8 := [3, 54, 4, 132, 5, 1, 167, 255, 195, 42, 182, 0, 164, 21, 4, 172]
abbrev dktX14_isSo_3 : List UInt8 := dkwX14_isSo_3 ++ []
def dkwX14_isSo_2 : List UInt8 := [46, 54, 6, 21, 6, 2, 159, 0, 14, 21, 6, 42, 28, 5, 182, 0, 82, 160, 0, 7, 4, 167, 0, 4]
abbrev dktX14_isSo_2 : List UInt8 := dkwX14_isSo_2 ++ dktX14_isSo_3
def dkwX14_isSo_1 : List UInt8 := [46, 162, 0, 56, 21, 4, 153, 0, 51, 42, 182, 0, 140, 42, 180, 0, 37, 16, 40, 27, 104, 21, 5, 96]
abbrev dktX14_isSo_1 : List UInt8 := dkwX14_isSo_1 ++ dktX14_isSo_2
def dkwX14_isSo_0 : List UInt8 := [42, 182, 0, 161, 42, 28, 4, 29, 182, 0, 85, 4, 54, 4, 3, 54, 5, 21, 5, 42, 180, 0, 34, 27]
abbrev dktX14_isSo_0 : List UInt8 := dkwX14_isSo_0 ++ dktX14_isSo_1
theorem dksX14_isSo_0 : cX14_isSo.data.toList.drop 0 = dktX14_isSo_0 := by decide +kernel
theorem dksX14_isSo_1 : cX14_isSo.data.toList.drop 24 = dktX14_isSo_1 := dk_seg dksX14_isSo_0 24 rfl rfl
theorem dksX14_isSo_2 : cX14_isSo.data.toList.drop 48 = dktX14_isSo_2 := dk_seg dksX14_isSo_1 24 rfl rfl
theorem dksX14_isSo_3 : cX14_isSo.data.toList.drop 72 = dktX14_isSo_3 := dk_seg dksX14_isSo_2 24 rfl rfl
theorem dX14_isSo_0 : decode cX14_isSo 0 = .ok (.aload_n 0, 1) := dk_42 (dk_at dksX14_isSo_0 0 rfl rfl)
theorem dX14_isSo_1 : decode cX14_isSo 1 = .ok (.invokevirtual 161, 3) := dk_182 0 161 (dk_at dksX14_isSo_0 1 rfl rfl)
theorem dX14_isSo_4 : decode cX14_isSo 4 = .ok (.aload_n 0, 1) := dk_42 (dk_at dksX14_isSo_0 4 rfl rfl)
theorem dX14_isSo_5 : decode cX14_isSo 5 = .ok (.iload_n 2, 1) := dk_28 (dk_at dksX14_isSo_0 5 rfl rfl)
theorem dX14_isSo_6 : decode cX14_isSo 6 = .ok (.iconst 1, 1) := dk_4 (dk_at dksX14_isSo_0 6 rfl rfl)
theorem dX14_isSo_7 : decode cX14_isSo 7 = .ok (.iload_n 3, 1) := dk_29 (dk_at dksX14_isSo_0 7 rfl rfl)
theorem dX14_isSo_8 : decode cX14_isSo 8 = .ok (.invokevirtual 85, 3) := dk_182 0 85 (dk_at dksX14_isSo_0 8 rfl rfl)
theorem dX14_isSo_11 : decode cX14_isSo 11 = .ok (.iconst 1, 1) := dk_4 (dk_at dksX14_isSo_0 11 rfl rfl)
theorem dX14_isSo_12 : decode cX14_isSo 12 = .ok (.istore 4, 2) := dk_54 4 (dk_at dksX14_isSo_0 12 rfl rfl)
theorem dX14_isSo_14 : decode cX14_isSo 14 = .ok (.iconst 0, 1) := dk_3 (dk_at dksX14_isSo_0 14 rfl rfl)
theorem dX14_isSo_15 : decode cX14_isSo 15 = .ok (.istore 5, 2) := dk_54 5 (dk_at dksX14_isSo_0 15 rfl rfl)
theorem dX14_isSo_17 : decode cX14_isSo 17 = .ok (.iload 5, 2) := dk_21 5 (dk_at dksX14_isSo_0 17 rfl rfl)
theorem dX14_isSo_19 : decode cX14_isSo 19 = .ok (.aload_n 0, 1) := dk_42 (dk_at dksX14_isSo_0 19 rfl rfl)
theorem dX14_isSo_20 : decode cX14_isSo 20 = .ok (.getfield 34, 3) := dk_180 0 34 (dk_at dksX14_isSo_0 20 rfl rfl)
theorem dX14_isSo_23 : decode cX14_isSo 23 = .ok (.iload_n 1, 1) := dk_27 (dk_at dksX14_isSo_0 23 rfl rfl)
theorem dX14_isSo_24 : decode cX14_isSo 24 = .ok (.iaload, 1) := dk_46 (dk_at dksX14_isSo_1 0 rfl rfl)
theorem dX14_isSo_25 : decode cX14_isSo 25 = .ok (.if_icmp .ge 56, 3) := dk_162 0 56 (dk_at dksX14_isSo_1 1 rfl rfl)
theorem dX14_isSo_28 : decode cX14_isSo 28 = .ok (.iload 4, 2) := dk_21 4 (dk_at dksX14_isSo_1 4 rfl rfl)
theorem dX14_isSo_30 : decode cX14_isSo 30 = .ok (.ifCond .eq 51, 3) := dk_153 0 51 (dk_at dksX14_isSo_1 6 rfl rfl)
theorem dX14_isSo_33 : decode cX14_isSo 33 = .ok (.aload_n 0, 1) := dk_42 (dk_at dksX14_isSo_1 9 rfl rfl)
theorem dX14_isSo_34 : decode cX14_isSo 34 = .ok (.invokevirtual 140, 3) := dk_182 0 140 (dk_at dksX14_isSo_1 10 rfl rfl)
theorem dX14_isSo_37 : decode cX14_isSo 37 = .ok (.aload_n 0, 1) := dk_42 (dk_at dksX14_isSo_1 13 rfl rfl)
theorem dX14_isSo_38 : decode cX14_isSo 38 = .ok (.getfield 37, 3) := dk_180 0 37 (dk_at dksX14_isSo_1 14 rfl rfl)
theorem dX14_isSo_41 : decode cX14_isSo 41 = .ok (.bipush 40, 2) := dk_16 40 (dk_at dksX14_isSo_1 17 rfl rfl)
theorem dX14_isSo_43 : decode cX14_isSo 43 = .ok (.iload_n 1, 1) := dk_27 (dk_at dksX14_isSo_1 19 rfl rfl)
theorem dX14_isSo_44 : decode cX14_isSo 44 = .ok (.imul, 1) := dk_104 (dk_at dksX14_isSo_1 20 rfl rfl)
theorem dX14_isSo_45 : decode cX14_isSo 45 = .ok (.iload 5, 2) := dk_21 5 (dk_at dksX14_isSo_1 21 rfl rfl)
theorem dX14_isSo_47 : decode cX14_isSo 47 = .ok (.iadd, 1) := dk_96 (dk_at dksX14_isSo_1 23 rfl rfl)
theorem dX14_isSo_48 : decode cX14_isSo 48 = .ok (.iaload, 1) := dk_46 (dk_at dksX14_isSo_2 0 rfl rfl)
theorem dX14_isSo_49 : decode cX14_isSo 49 = .ok (.istore 6, 2) := dk_54 6 (dk_at dksX14_isSo_2 1 rfl rfl)
theorem dX14_isSo_51 : decode cX14_isSo 51 = .ok (.iload 6, 2) := dk_21 6 (dk_at dksX14_isSo_2 3 rfl rfl)
theorem dX14_isSo_53 : decode cX14_isSo 53 = .ok (.iconst (-1), 1) := dk_2 (dk_at dksX14_isSo_2 5 rfl rfl)
theorem dX14_isSo_54 : decode cX14_isSo 54 = .ok (.if_icmp .eq 14, 3) := dk_159 0 14 (dk_at dksX14_isSo_2 6 rfl rfl)
theorem dX14_isSo_57 : decode cX14_isSo 57 = .ok (.iload 6, 2) := dk_21 6 (dk_at dksX14_isSo_2 9 rfl rfl)
theorem dX14_isSo_59 : decode cX14_isSo 59 = .ok (.aload_n 0, 1) := dk_42 (dk_at dksX14_isSo_2 11 rfl rfl)
theorem dX14_isSo_60 : decode cX14_isSo 60 = .ok (.iload_n 2, 1) := dk_28 (dk_at dksX14_isSo_2 12 rfl rfl)
theorem dX14_isSo_61 : decode cX14_isSo 61 = .ok (.iconst 2, 1) := dk_5 (dk_at dksX14_isSo_2 13 rfl rfl)
theorem dX14_isSo_62 : decode cX14_isSo 62 = .ok (.invokevirtual 82, 3) := dk_182 0 82 (dk_at dksX14_isSo_2 14 rfl rfl)
theorem dX14_isSo_65 : decode cX14_isSo 65 = .ok (.if_icmp .ne 7, 3) := dk_160 0 7 (dk_at dksX14_isSo_2 17 rfl rfl)
theorem dX14_isSo_68 : decode cX14_isSo 68 = .ok (.iconst 1, 1) := dk_4 (dk_at dksX14_isSo_2 20 rfl rfl)
theorem dX14_isSo_69 : decode cX14_isSo 69 = .ok (.goto 4, 3) := dk_167 0 4 (dk_at dksX14_isSo_2 21 rfl rfl)
theorem dX14_isSo_72 : decode cX14_isSo 72 = .ok (.iconst 0, 1) := dk_3 (dk_at dksX14_isSo_3 0 rfl rfl)
theorem dX14_isSo_73 : decode cX14_isSo 73 = .ok (.istore 4, 2) := dk_54 4 (dk_at dksX14_isSo_3 1 rfl rfl)
theorem dX14_isSo_75 : decode cX14_isSo 75 = .ok (.iinc 5 1, 3) := dk_132 5 1 (dk_at dksX14_isSo_3 3 rfl rfl)
theorem dX14_isSo_78 : decode cX14_isSo 78 = .ok (.goto (-61), 3) := dk_167 255 195 (dk_at dksX14_isSo_3 6 rfl rfl)
theorem dX14_isSo_81 : decode cX14_isSo 81 = .ok (.aload_n 0, 1) := dk_42 (dk_at dksX14_isSo_3 9 rfl rfl)
theorem dX14_isSo_82 : decode cX14_isSo 82 = .ok (.invokevirtual 164, 3) := dk_182 0 164 (dk_at dksX14_isSo_3 10 rfl rfl)
theorem dX14_isSo_85 : decode cX14_isSo 85 = .ok (.iload 4, 2) := dk_21 4 (dk_at dksX14_isSo_3 13 rfl rfl)
theorem dX14_isSo_87 : decode cX14_isSo 87 = .ok (.ireturn, 1) := dk_172 (dk_at dksX14_isSo_3 15 rfl rfl)
abbrev cX14_odds : ByteArray := prog_28_method_71_code
def yX14_odds : MethodName := ⟨RX14, "odds", "(III)J"⟩
def dkwX14_odds_6 : List UInt8 := [184, 0, 220, 173]
abbrev dktX14_odds_6 : List UInt8 := dkwX14_odds_6 ++ []
def dkwX14_odds_5 : List UInt8 := [21, 10, 4, 96, 133, 109, 55, 8, 132, 10, 1, 167, 255, 231, 22, 4, 22, 8, 105, 22, 6, 29]
abbrev dktX14_odds_5 : List UInt8 := dkwX14_odds_5 ++ dktX14_odds_6
def dkwX14_odds_4 : List UInt8 := [167, 255, 208, 10, 55, 8, 3, 54, 10, 21, 10, 28, 162, 0, 25, 22, 8, 27, 21, 10, 100, 133, 105]
abbrev dktX14_odds_4 : List UInt8 := dkwX14_odds_4 ++ dktX14_odds_5
def dkwX14_odds_3 : List UInt8 := [42, 180, 0, 16, 6, 46, 100, 133, 105, 55, 4, 22, 6, 20, 0, 218, 105, 55, 6, 132, 8, 1]
abbrev dktX14_odds_3 : List UInt8 := dkwX14_odds_3 ++ dktX14_odds_4
def dkwX14_odds_2 : List UInt8 := [27, 162, 0, 48, 22, 4, 21, 8, 28, 162, 0, 13, 42, 180, 0, 16, 6, 46, 133, 167, 0, 13, 16, 100]
abbrev dktX14_odds_2 : List UInt8 := dkwX14_odds_2 ++ dktX14_odds_3
def dkwX14_odds_1 : List UInt8 := [133, 9, 10, 184, 0, 59, 154, 0, 7, 20, 0, 216, 173, 10, 55, 4, 10, 55, 6, 3, 54, 8, 21, 8]
abbrev dktX14_odds_1 : List UInt8 := dkwX14_odds_1 ++ dktX14_odds_2
def dkwX14_odds_0 : List UInt8 := [27, 133, 9, 20, 0, 201, 184, 0, 59, 153, 0, 24, 28, 133, 9, 27, 133, 184, 0, 59, 153, 0, 13, 29]
abbrev dktX14_odds_0 : List UInt8 := dkwX14_odds_0 ++ dktX14_odds_1
theorem dksX14_odds_0 : cX14_odds.data.toList.drop 0 = dktX14_odds_0 := by decide +kernel
theorem dksX14_odds_1 : cX14_odds.data.toList.drop 24 = dktX14_odds_1 := dk_seg dksX14_odds_0 24 rfl rfl
theorem dksX14_odds_2 : cX14_odds.data.toList.drop 48 = dktX14_odds_2 := dk_seg dksX14_odds_1 24 rfl rfl
theorem dksX14_odds_3 : cX14_odds.data.toList.drop 72 = dktX14_odds_3 := dk_seg dksX14_odds_2 24 rfl rfl
theorem dksX14_odds_4 : cX14_odds.data.toList.drop 94 = dktX14_odds_4 := dk_seg dksX14_odds_3 22 rfl rfl
theorem dksX14_odds_5 : cX14_odds.data.toList.drop 117 = dktX14_odds_5 := dk_seg dksX14_odds_4 23 rfl rfl
theorem dksX14_odds_6 : cX14_odds.data.toList.drop 139 = dktX14_odds_6 := dk_seg dksX14_odds_5 22 rfl rfl
theorem dX14_odds_0 : decode cX14_odds 0 = .ok (.iload_n 1, 1) := dk_27 (dk_at dksX14_odds_0 0 rfl rfl)
theorem dX14_odds_1 : decode cX14_odds 1 = .ok (.i2l, 1) := dk_133 (dk_at dksX14_odds_0 1 rfl rfl)
theorem dX14_odds_2 : decode cX14_odds 2 = .ok (.lconst 0, 1) := dk_9 (dk_at dksX14_odds_0 2 rfl rfl)
theorem dX14_odds_3 : decode cX14_odds 3 = .ok (.ldc2_w 201, 3) := dk_20 0 201 (dk_at dksX14_odds_0 3 rfl rfl)
theorem dX14_odds_6 : decode cX14_odds 6 = .ok (.invokestatic 59, 3) := dk_184 0 59 (dk_at dksX14_odds_0 6 rfl rfl)
theorem dX14_odds_9 : decode cX14_odds 9 = .ok (.ifCond .eq 24, 3) := dk_153 0 24 (dk_at dksX14_odds_0 9 rfl rfl)
theorem dX14_odds_12 : decode cX14_odds 12 = .ok (.iload_n 2, 1) := dk_28 (dk_at dksX14_odds_0 12 rfl rfl)
theorem dX14_odds_13 : decode cX14_odds 13 = .ok (.i2l, 1) := dk_133 (dk_at dksX14_odds_0 13 rfl rfl)
theorem dX14_odds_14 : decode cX14_odds 14 = .ok (.lconst 0, 1) := dk_9 (dk_at dksX14_odds_0 14 rfl rfl)
theorem dX14_odds_15 : decode cX14_odds 15 = .ok (.iload_n 1, 1) := dk_27 (dk_at dksX14_odds_0 15 rfl rfl)
theorem dX14_odds_16 : decode cX14_odds 16 = .ok (.i2l, 1) := dk_133 (dk_at dksX14_odds_0 16 rfl rfl)
theorem dX14_odds_17 : decode cX14_odds 17 = .ok (.invokestatic 59, 3) := dk_184 0 59 (dk_at dksX14_odds_0 17 rfl rfl)
theorem dX14_odds_20 : decode cX14_odds 20 = .ok (.ifCond .eq 13, 3) := dk_153 0 13 (dk_at dksX14_odds_0 20 rfl rfl)
theorem dX14_odds_23 : decode cX14_odds 23 = .ok (.iload_n 3, 1) := dk_29 (dk_at dksX14_odds_0 23 rfl rfl)
theorem dX14_odds_24 : decode cX14_odds 24 = .ok (.i2l, 1) := dk_133 (dk_at dksX14_odds_1 0 rfl rfl)
theorem dX14_odds_25 : decode cX14_odds 25 = .ok (.lconst 0, 1) := dk_9 (dk_at dksX14_odds_1 1 rfl rfl)
theorem dX14_odds_26 : decode cX14_odds 26 = .ok (.lconst 1, 1) := dk_10 (dk_at dksX14_odds_1 2 rfl rfl)
theorem dX14_odds_27 : decode cX14_odds 27 = .ok (.invokestatic 59, 3) := dk_184 0 59 (dk_at dksX14_odds_1 3 rfl rfl)
theorem dX14_odds_30 : decode cX14_odds 30 = .ok (.ifCond .ne 7, 3) := dk_154 0 7 (dk_at dksX14_odds_1 6 rfl rfl)
theorem dX14_odds_33 : decode cX14_odds 33 = .ok (.ldc2_w 216, 3) := dk_20 0 216 (dk_at dksX14_odds_1 9 rfl rfl)
theorem dX14_odds_36 : decode cX14_odds 36 = .ok (.lreturn, 1) := dk_173 (dk_at dksX14_odds_1 12 rfl rfl)
theorem dX14_odds_37 : decode cX14_odds 37 = .ok (.lconst 1, 1) := dk_10 (dk_at dksX14_odds_1 13 rfl rfl)
theorem dX14_odds_38 : decode cX14_odds 38 = .ok (.lstore 4, 2) := dk_55 4 (dk_at dksX14_odds_1 14 rfl rfl)
theorem dX14_odds_40 : decode cX14_odds 40 = .ok (.lconst 1, 1) := dk_10 (dk_at dksX14_odds_1 16 rfl rfl)
theorem dX14_odds_41 : decode cX14_odds 41 = .ok (.lstore 6, 2) := dk_55 6 (dk_at dksX14_odds_1 17 rfl rfl)
theorem dX14_odds_43 : decode cX14_odds 43 = .ok (.iconst 0, 1) := dk_3 (dk_at dksX14_odds_1 19 rfl rfl)
theorem dX14_odds_44 : decode cX14_odds 44 = .ok (.istore 8, 2) := dk_54 8 (dk_at dksX14_odds_1 20 rfl rfl)
theorem dX14_odds_46 : decode cX14_odds 46 = .ok (.iload 8, 2) := dk_21 8 (dk_at dksX14_odds_1 22 rfl rfl)
theorem dX14_odds_48 : decode cX14_odds 48 = .ok (.iload_n 1, 1) := dk_27 (dk_at dksX14_odds_2 0 rfl rfl)
theorem dX14_odds_49 : decode cX14_odds 49 = .ok (.if_icmp .ge 48, 3) := dk_162 0 48 (dk_at dksX14_odds_2 1 rfl rfl)
theorem dX14_odds_52 : decode cX14_odds 52 = .ok (.lload 4, 2) := dk_22 4 (dk_at dksX14_odds_2 4 rfl rfl)
theorem dX14_odds_54 : decode cX14_odds 54 = .ok (.iload 8, 2) := dk_21 8 (dk_at dksX14_odds_2 6 rfl rfl)
theorem dX14_odds_56 : decode cX14_odds 56 = .ok (.iload_n 2, 1) := dk_28 (dk_at dksX14_odds_2 8 rfl rfl)
theorem dX14_odds_57 : decode cX14_odds 57 = .ok (.if_icmp .ge 13, 3) := dk_162 0 13 (dk_at dksX14_odds_2 9 rfl rfl)
theorem dX14_odds_60 : decode cX14_odds 60 = .ok (.aload_n 0, 1) := dk_42 (dk_at dksX14_odds_2 12 rfl rfl)
theorem dX14_odds_61 : decode cX14_odds 61 = .ok (.getfield 16, 3) := dk_180 0 16 (dk_at dksX14_odds_2 13 rfl rfl)
theorem dX14_odds_64 : decode cX14_odds 64 = .ok (.iconst 3, 1) := dk_6 (dk_at dksX14_odds_2 16 rfl rfl)
theorem dX14_odds_65 : decode cX14_odds 65 = .ok (.iaload, 1) := dk_46 (dk_at dksX14_odds_2 17 rfl rfl)
theorem dX14_odds_66 : decode cX14_odds 66 = .ok (.i2l, 1) := dk_133 (dk_at dksX14_odds_2 18 rfl rfl)
theorem dX14_odds_67 : decode cX14_odds 67 = .ok (.goto 13, 3) := dk_167 0 13 (dk_at dksX14_odds_2 19 rfl rfl)
theorem dX14_odds_70 : decode cX14_odds 70 = .ok (.bipush 100, 2) := dk_16 100 (dk_at dksX14_odds_2 22 rfl rfl)
theorem dX14_odds_72 : decode cX14_odds 72 = .ok (.aload_n 0, 1) := dk_42 (dk_at dksX14_odds_3 0 rfl rfl)
theorem dX14_odds_73 : decode cX14_odds 73 = .ok (.getfield 16, 3) := dk_180 0 16 (dk_at dksX14_odds_3 1 rfl rfl)
theorem dX14_odds_76 : decode cX14_odds 76 = .ok (.iconst 3, 1) := dk_6 (dk_at dksX14_odds_3 4 rfl rfl)
theorem dX14_odds_77 : decode cX14_odds 77 = .ok (.iaload, 1) := dk_46 (dk_at dksX14_odds_3 5 rfl rfl)
theorem dX14_odds_78 : decode cX14_odds 78 = .ok (.isub, 1) := dk_100 (dk_at dksX14_odds_3 6 rfl rfl)
theorem dX14_odds_79 : decode cX14_odds 79 = .ok (.i2l, 1) := dk_133 (dk_at dksX14_odds_3 7 rfl rfl)
theorem dX14_odds_80 : decode cX14_odds 80 = .ok (.lmul, 1) := dk_105 (dk_at dksX14_odds_3 8 rfl rfl)
theorem dX14_odds_81 : decode cX14_odds 81 = .ok (.lstore 4, 2) := dk_55 4 (dk_at dksX14_odds_3 9 rfl rfl)
theorem dX14_odds_83 : decode cX14_odds 83 = .ok (.lload 6, 2) := dk_22 6 (dk_at dksX14_odds_3 11 rfl rfl)
theorem dX14_odds_85 : decode cX14_odds 85 = .ok (.ldc2_w 218, 3) := dk_20 0 218 (dk_at dksX14_odds_3 13 rfl rfl)
theorem dX14_odds_88 : decode cX14_odds 88 = .ok (.lmul, 1) := dk_105 (dk_at dksX14_odds_3 16 rfl rfl)
theorem dX14_odds_89 : decode cX14_odds 89 = .ok (.lstore 6, 2) := dk_55 6 (dk_at dksX14_odds_3 17 rfl rfl)
theorem dX14_odds_91 : decode cX14_odds 91 = .ok (.iinc 8 1, 3) := dk_132 8 1 (dk_at dksX14_odds_3 19 rfl rfl)
theorem dX14_odds_94 : decode cX14_odds 94 = .ok (.goto (-48), 3) := dk_167 255 208 (dk_at dksX14_odds_4 0 rfl rfl)
theorem dX14_odds_97 : decode cX14_odds 97 = .ok (.lconst 1, 1) := dk_10 (dk_at dksX14_odds_4 3 rfl rfl)
theorem dX14_odds_98 : decode cX14_odds 98 = .ok (.lstore 8, 2) := dk_55 8 (dk_at dksX14_odds_4 4 rfl rfl)
theorem dX14_odds_100 : decode cX14_odds 100 = .ok (.iconst 0, 1) := dk_3 (dk_at dksX14_odds_4 6 rfl rfl)
theorem dX14_odds_101 : decode cX14_odds 101 = .ok (.istore 10, 2) := dk_54 10 (dk_at dksX14_odds_4 7 rfl rfl)
theorem dX14_odds_103 : decode cX14_odds 103 = .ok (.iload 10, 2) := dk_21 10 (dk_at dksX14_odds_4 9 rfl rfl)
theorem dX14_odds_105 : decode cX14_odds 105 = .ok (.iload_n 2, 1) := dk_28 (dk_at dksX14_odds_4 11 rfl rfl)
theorem dX14_odds_106 : decode cX14_odds 106 = .ok (.if_icmp .ge 25, 3) := dk_162 0 25 (dk_at dksX14_odds_4 12 rfl rfl)
theorem dX14_odds_109 : decode cX14_odds 109 = .ok (.lload 8, 2) := dk_22 8 (dk_at dksX14_odds_4 15 rfl rfl)
theorem dX14_odds_111 : decode cX14_odds 111 = .ok (.iload_n 1, 1) := dk_27 (dk_at dksX14_odds_4 17 rfl rfl)
theorem dX14_odds_112 : decode cX14_odds 112 = .ok (.iload 10, 2) := dk_21 10 (dk_at dksX14_odds_4 18 rfl rfl)
theorem dX14_odds_114 : decode cX14_odds 114 = .ok (.isub, 1) := dk_100 (dk_at dksX14_odds_4 20 rfl rfl)
theorem dX14_odds_115 : decode cX14_odds 115 = .ok (.i2l, 1) := dk_133 (dk_at dksX14_odds_4 21 rfl rfl)
theorem dX14_odds_116 : decode cX14_odds 116 = .ok (.lmul, 1) := dk_105 (dk_at dksX14_odds_4 22 rfl rfl)
theorem dX14_odds_117 : decode cX14_odds 117 = .ok (.iload 10, 2) := dk_21 10 (dk_at dksX14_odds_5 0 rfl rfl)
theorem dX14_odds_119 : decode cX14_odds 119 = .ok (.iconst 1, 1) := dk_4 (dk_at dksX14_odds_5 2 rfl rfl)
theorem dX14_odds_120 : decode cX14_odds 120 = .ok (.iadd, 1) := dk_96 (dk_at dksX14_odds_5 3 rfl rfl)
theorem dX14_odds_121 : decode cX14_odds 121 = .ok (.i2l, 1) := dk_133 (dk_at dksX14_odds_5 4 rfl rfl)
theorem dX14_odds_122 : decode cX14_odds 122 = .ok (.ldiv, 1) := dk_109 (dk_at dksX14_odds_5 5 rfl rfl)
theorem dX14_odds_123 : decode cX14_odds 123 = .ok (.lstore 8, 2) := dk_55 8 (dk_at dksX14_odds_5 6 rfl rfl)
theorem dX14_odds_125 : decode cX14_odds 125 = .ok (.iinc 10 1, 3) := dk_132 10 1 (dk_at dksX14_odds_5 8 rfl rfl)
theorem dX14_odds_128 : decode cX14_odds 128 = .ok (.goto (-25), 3) := dk_167 255 231 (dk_at dksX14_odds_5 11 rfl rfl)
theorem dX14_odds_131 : decode cX14_odds 131 = .ok (.lload 4, 2) := dk_22 4 (dk_at dksX14_odds_5 14 rfl rfl)
theorem dX14_odds_133 : decode cX14_odds 133 = .ok (.lload 8, 2) := dk_22 8 (dk_at dksX14_odds_5 16 rfl rfl)
theorem dX14_odds_135 : decode cX14_odds 135 = .ok (.lmul, 1) := dk_105 (dk_at dksX14_odds_5 18 rfl rfl)
theorem dX14_odds_136 : decode cX14_odds 136 = .ok (.lload 6, 2) := dk_22 6 (dk_at dksX14_odds_5 19 rfl rfl)
theorem dX14_odds_138 : decode cX14_odds 138 = .ok (.iload_n 3, 1) := dk_29 (dk_at dksX14_odds_5 21 rfl rfl)
theorem dX14_odds_139 : decode cX14_odds 139 = .ok (.invokestatic 220, 3) := dk_184 0 220 (dk_at dksX14_odds_6 0 rfl rfl)
theorem dX14_odds_142 : decode cX14_odds 142 = .ok (.lreturn, 1) := dk_173 (dk_at dksX14_odds_6 3 rfl rfl)
abbrev cX14_lowest : ByteArray := prog_28_method_70_code
def yX14_lowest : MethodName := ⟨RX14, "lowest", "(JJI)J"⟩
def dkwX14_lowest_1 : List UInt8 := [22, 9, 55, 7, 167, 255, 234, 21, 4, 154, 0, 7, 30, 167, 0, 4, 32, 22, 5, 109, 173]
abbrev dktX14_lowest_1 : List UInt8 := dkwX14_lowest_1 ++ []
def dkwX14_lowest_0 : List UInt8 := [30, 55, 5, 32, 55, 7, 22, 7, 9, 148, 153, 0, 21, 22, 5, 22, 7, 113, 55, 9, 22, 7, 55, 5]
abbrev dktX14_lowest_0 : List UInt8 := dkwX14_lowest_0 ++ dktX14_lowest_1
theorem dksX14_lowest_0 : cX14_lowest.data.toList.drop 0 = dktX14_lowest_0 := by decide +kernel
theorem dksX14_lowest_1 : cX14_lowest.data.toList.drop 24 = dktX14_lowest_1 := dk_seg dksX14_lowest_0 24 rfl rfl
theorem dX14_lowest_0 : decode cX14_lowest 0 = .ok (.lload_n 0, 1) := dk_30 (dk_at dksX14_lowest_0 0 rfl rfl)
theorem dX14_lowest_1 : decode cX14_lowest 1 = .ok (.lstore 5, 2) := dk_55 5 (dk_at dksX14_lowest_0 1 rfl rfl)
theorem dX14_lowest_3 : decode cX14_lowest 3 = .ok (.lload_n 2, 1) := dk_32 (dk_at dksX14_lowest_0 3 rfl rfl)
theorem dX14_lowest_4 : decode cX14_lowest 4 = .ok (.lstore 7, 2) := dk_55 7 (dk_at dksX14_lowest_0 4 rfl rfl)
theorem dX14_lowest_6 : decode cX14_lowest 6 = .ok (.lload 7, 2) := dk_22 7 (dk_at dksX14_lowest_0 6 rfl rfl)
theorem dX14_lowest_8 : decode cX14_lowest 8 = .ok (.lconst 0, 1) := dk_9 (dk_at dksX14_lowest_0 8 rfl rfl)
theorem dX14_lowest_9 : decode cX14_lowest 9 = .ok (.lcmp, 1) := dk_148 (dk_at dksX14_lowest_0 9 rfl rfl)
theorem dX14_lowest_10 : decode cX14_lowest 10 = .ok (.ifCond .eq 21, 3) := dk_153 0 21 (dk_at dksX14_lowest_0 10 rfl rfl)
theorem dX14_lowest_13 : decode cX14_lowest 13 = .ok (.lload 5, 2) := dk_22 5 (dk_at dksX14_lowest_0 13 rfl rfl)
theorem dX14_lowest_15 : decode cX14_lowest 15 = .ok (.lload 7, 2) := dk_22 7 (dk_at dksX14_lowest_0 15 rfl rfl)
theorem dX14_lowest_17 : decode cX14_lowest 17 = .ok (.lrem, 1) := dk_113 (dk_at dksX14_lowest_0 17 rfl rfl)
theorem dX14_lowest_18 : decode cX14_lowest 18 = .ok (.lstore 9, 2) := dk_55 9 (dk_at dksX14_lowest_0 18 rfl rfl)
theorem dX14_lowest_20 : decode cX14_lowest 20 = .ok (.lload 7, 2) := dk_22 7 (dk_at dksX14_lowest_0 20 rfl rfl)
theorem dX14_lowest_22 : decode cX14_lowest 22 = .ok (.lstore 5, 2) := dk_55 5 (dk_at dksX14_lowest_0 22 rfl rfl)
theorem dX14_lowest_24 : decode cX14_lowest 24 = .ok (.lload 9, 2) := dk_22 9 (dk_at dksX14_lowest_1 0 rfl rfl)
theorem dX14_lowest_26 : decode cX14_lowest 26 = .ok (.lstore 7, 2) := dk_55 7 (dk_at dksX14_lowest_1 2 rfl rfl)
theorem dX14_lowest_28 : decode cX14_lowest 28 = .ok (.goto (-22), 3) := dk_167 255 234 (dk_at dksX14_lowest_1 4 rfl rfl)
theorem dX14_lowest_31 : decode cX14_lowest 31 = .ok (.iload 4, 2) := dk_21 4 (dk_at dksX14_lowest_1 7 rfl rfl)
theorem dX14_lowest_33 : decode cX14_lowest 33 = .ok (.ifCond .ne 7, 3) := dk_154 0 7 (dk_at dksX14_lowest_1 9 rfl rfl)
theorem dX14_lowest_36 : decode cX14_lowest 36 = .ok (.lload_n 0, 1) := dk_30 (dk_at dksX14_lowest_1 12 rfl rfl)
theorem dX14_lowest_37 : decode cX14_lowest 37 = .ok (.goto 4, 3) := dk_167 0 4 (dk_at dksX14_lowest_1 13 rfl rfl)
theorem dX14_lowest_40 : decode cX14_lowest 40 = .ok (.lload_n 2, 1) := dk_32 (dk_at dksX14_lowest_1 16 rfl rfl)
theorem dX14_lowest_41 : decode cX14_lowest 41 = .ok (.lload 5, 2) := dk_22 5 (dk_at dksX14_lowest_1 17 rfl rfl)
theorem dX14_lowest_43 : decode cX14_lowest 43 = .ok (.ldiv, 1) := dk_109 (dk_at dksX14_lowest_1 19 rfl rfl)
theorem dX14_lowest_44 : decode cX14_lowest 44 = .ok (.lreturn, 1) := dk_173 (dk_at dksX14_lowest_1 20 rfl rfl)
abbrev cX14_hope : ByteArray := prog_28_method_72_code
def yX14_hope : MethodName := ⟨RX14, "hope", "(II)J"⟩
def dkwX14_hope_1 : List UInt8 := [42, 180, 0, 16, 6, 46, 133, 105, 20, 0, 218, 28, 184, 0, 220, 167, 0, 6, 20, 0, 216, 173]
abbrev dktX14_hope_1 : List UInt8 := dkwX14_hope_1 ++ []
def dkwX14_hope_0 : List UInt8 := [27, 133, 9, 20, 0, 128, 184, 0, 59, 153, 0, 33, 28, 133, 9, 10, 184, 0, 59, 153, 0, 23, 27, 133]
abbrev dktX14_hope_0 : List UInt8 := dkwX14_hope_0 ++ dktX14_hope_1
theorem dksX14_hope_0 : cX14_hope.data.toList.drop 0 = dktX14_hope_0 := by decide +kernel
theorem dksX14_hope_1 : cX14_hope.data.toList.drop 24 = dktX14_hope_1 := dk_seg dksX14_hope_0 24 rfl rfl
theorem dX14_hope_0 : decode cX14_hope 0 = .ok (.iload_n 1, 1) := dk_27 (dk_at dksX14_hope_0 0 rfl rfl)
theorem dX14_hope_1 : decode cX14_hope 1 = .ok (.i2l, 1) := dk_133 (dk_at dksX14_hope_0 1 rfl rfl)
theorem dX14_hope_2 : decode cX14_hope 2 = .ok (.lconst 0, 1) := dk_9 (dk_at dksX14_hope_0 2 rfl rfl)
theorem dX14_hope_3 : decode cX14_hope 3 = .ok (.ldc2_w 128, 3) := dk_20 0 128 (dk_at dksX14_hope_0 3 rfl rfl)
theorem dX14_hope_6 : decode cX14_hope 6 = .ok (.invokestatic 59, 3) := dk_184 0 59 (dk_at dksX14_hope_0 6 rfl rfl)
theorem dX14_hope_9 : decode cX14_hope 9 = .ok (.ifCond .eq 33, 3) := dk_153 0 33 (dk_at dksX14_hope_0 9 rfl rfl)
theorem dX14_hope_12 : decode cX14_hope 12 = .ok (.iload_n 2, 1) := dk_28 (dk_at dksX14_hope_0 12 rfl rfl)
theorem dX14_hope_13 : decode cX14_hope 13 = .ok (.i2l, 1) := dk_133 (dk_at dksX14_hope_0 13 rfl rfl)
theorem dX14_hope_14 : decode cX14_hope 14 = .ok (.lconst 0, 1) := dk_9 (dk_at dksX14_hope_0 14 rfl rfl)
theorem dX14_hope_15 : decode cX14_hope 15 = .ok (.lconst 1, 1) := dk_10 (dk_at dksX14_hope_0 15 rfl rfl)
theorem dX14_hope_16 : decode cX14_hope 16 = .ok (.invokestatic 59, 3) := dk_184 0 59 (dk_at dksX14_hope_0 16 rfl rfl)
theorem dX14_hope_19 : decode cX14_hope 19 = .ok (.ifCond .eq 23, 3) := dk_153 0 23 (dk_at dksX14_hope_0 19 rfl rfl)
theorem dX14_hope_22 : decode cX14_hope 22 = .ok (.iload_n 1, 1) := dk_27 (dk_at dksX14_hope_0 22 rfl rfl)
theorem dX14_hope_23 : decode cX14_hope 23 = .ok (.i2l, 1) := dk_133 (dk_at dksX14_hope_0 23 rfl rfl)
theorem dX14_hope_24 : decode cX14_hope 24 = .ok (.aload_n 0, 1) := dk_42 (dk_at dksX14_hope_1 0 rfl rfl)
theorem dX14_hope_25 : decode cX14_hope 25 = .ok (.getfield 16, 3) := dk_180 0 16 (dk_at dksX14_hope_1 1 rfl rfl)
theorem dX14_hope_28 : decode cX14_hope 28 = .ok (.iconst 3, 1) := dk_6 (dk_at dksX14_hope_1 4 rfl rfl)
theorem dX14_hope_29 : decode cX14_hope 29 = .ok (.iaload, 1) := dk_46 (dk_at dksX14_hope_1 5 rfl rfl)
theorem dX14_hope_30 : decode cX14_hope 30 = .ok (.i2l, 1) := dk_133 (dk_at dksX14_hope_1 6 rfl rfl)
theorem dX14_hope_31 : decode cX14_hope 31 = .ok (.lmul, 1) := dk_105 (dk_at dksX14_hope_1 7 rfl rfl)
theorem dX14_hope_32 : decode cX14_hope 32 = .ok (.ldc2_w 218, 3) := dk_20 0 218 (dk_at dksX14_hope_1 8 rfl rfl)
theorem dX14_hope_35 : decode cX14_hope 35 = .ok (.iload_n 2, 1) := dk_28 (dk_at dksX14_hope_1 11 rfl rfl)
theorem dX14_hope_36 : decode cX14_hope 36 = .ok (.invokestatic 220, 3) := dk_184 0 220 (dk_at dksX14_hope_1 12 rfl rfl)
theorem dX14_hope_39 : decode cX14_hope 39 = .ok (.goto 6, 3) := dk_167 0 6 (dk_at dksX14_hope_1 15 rfl rfl)
theorem dX14_hope_42 : decode cX14_hope 42 = .ok (.ldc2_w 216, 3) := dk_20 0 216 (dk_at dksX14_hope_1 18 rfl rfl)
theorem dX14_hope_45 : decode cX14_hope 45 = .ok (.lreturn, 1) := dk_173 (dk_at dksX14_hope_1 21 rfl rfl)
abbrev cX14_feed : ByteArray := prog_28_method_73_code
def yX14_feed : MethodName := ⟨RX14, "feed", "(JI)I"⟩
def dkwX14_feed_3 : List UInt8 := [132, 4, 1, 167, 255, 216, 42, 180, 0, 224, 172]
abbrev dktX14_feed_3 : List UInt8 := dkwX14_feed_3 ++ []
def dkwX14_feed_2 : List UInt8 := [16, 8, 21, 4, 104, 123, 20, 0, 228, 127, 136, 79, 42, 89, 180, 0, 224, 4, 96, 181, 0, 224]
abbrev dktX14_feed_2 : List UInt8 := dkwX14_feed_2 ++ dktX14_feed_3
def dkwX14_feed_1 : List UInt8 := [164, 0, 6, 16, 254, 172, 3, 54, 4, 21, 4, 29, 162, 0, 40, 42, 180, 0, 25, 42, 180, 0, 224, 31]
abbrev dktX14_feed_1 : List UInt8 := dkwX14_feed_1 ++ dktX14_feed_2
def dkwX14_feed_0 : List UInt8 := [29, 133, 10, 20, 0, 201, 184, 0, 59, 154, 0, 5, 2, 172, 42, 180, 0, 224, 29, 96, 17, 0, 200]
abbrev dktX14_feed_0 : List UInt8 := dkwX14_feed_0 ++ dktX14_feed_1
theorem dksX14_feed_0 : cX14_feed.data.toList.drop 0 = dktX14_feed_0 := by decide +kernel
theorem dksX14_feed_1 : cX14_feed.data.toList.drop 23 = dktX14_feed_1 := dk_seg dksX14_feed_0 23 rfl rfl
theorem dksX14_feed_2 : cX14_feed.data.toList.drop 47 = dktX14_feed_2 := dk_seg dksX14_feed_1 24 rfl rfl
theorem dksX14_feed_3 : cX14_feed.data.toList.drop 69 = dktX14_feed_3 := dk_seg dksX14_feed_2 22 rfl rfl
theorem dX14_feed_0 : decode cX14_feed 0 = .ok (.iload_n 3, 1) := dk_29 (dk_at dksX14_feed_0 0 rfl rfl)
theorem dX14_feed_1 : decode cX14_feed 1 = .ok (.i2l, 1) := dk_133 (dk_at dksX14_feed_0 1 rfl rfl)
theorem dX14_feed_2 : decode cX14_feed 2 = .ok (.lconst 1, 1) := dk_10 (dk_at dksX14_feed_0 2 rfl rfl)
theorem dX14_feed_3 : decode cX14_feed 3 = .ok (.ldc2_w 201, 3) := dk_20 0 201 (dk_at dksX14_feed_0 3 rfl rfl)
theorem dX14_feed_6 : decode cX14_feed 6 = .ok (.invokestatic 59, 3) := dk_184 0 59 (dk_at dksX14_feed_0 6 rfl rfl)
theorem dX14_feed_9 : decode cX14_feed 9 = .ok (.ifCond .ne 5, 3) := dk_154 0 5 (dk_at dksX14_feed_0 9 rfl rfl)
theorem dX14_feed_12 : decode cX14_feed 12 = .ok (.iconst (-1), 1) := dk_2 (dk_at dksX14_feed_0 12 rfl rfl)
theorem dX14_feed_13 : decode cX14_feed 13 = .ok (.ireturn, 1) := dk_172 (dk_at dksX14_feed_0 13 rfl rfl)
theorem dX14_feed_14 : decode cX14_feed 14 = .ok (.aload_n 0, 1) := dk_42 (dk_at dksX14_feed_0 14 rfl rfl)
theorem dX14_feed_15 : decode cX14_feed 15 = .ok (.getfield 224, 3) := dk_180 0 224 (dk_at dksX14_feed_0 15 rfl rfl)
theorem dX14_feed_18 : decode cX14_feed 18 = .ok (.iload_n 3, 1) := dk_29 (dk_at dksX14_feed_0 18 rfl rfl)
theorem dX14_feed_19 : decode cX14_feed 19 = .ok (.iadd, 1) := dk_96 (dk_at dksX14_feed_0 19 rfl rfl)
theorem dX14_feed_20 : decode cX14_feed 20 = .ok (.sipush 200, 3) := dk_17 0 200 (dk_at dksX14_feed_0 20 rfl rfl)
theorem dX14_feed_23 : decode cX14_feed 23 = .ok (.if_icmp .le 6, 3) := dk_164 0 6 (dk_at dksX14_feed_1 0 rfl rfl)
theorem dX14_feed_26 : decode cX14_feed 26 = .ok (.bipush (-2), 2) := dk_16 254 (dk_at dksX14_feed_1 3 rfl rfl)
theorem dX14_feed_28 : decode cX14_feed 28 = .ok (.ireturn, 1) := dk_172 (dk_at dksX14_feed_1 5 rfl rfl)
theorem dX14_feed_29 : decode cX14_feed 29 = .ok (.iconst 0, 1) := dk_3 (dk_at dksX14_feed_1 6 rfl rfl)
theorem dX14_feed_30 : decode cX14_feed 30 = .ok (.istore 4, 2) := dk_54 4 (dk_at dksX14_feed_1 7 rfl rfl)
theorem dX14_feed_32 : decode cX14_feed 32 = .ok (.iload 4, 2) := dk_21 4 (dk_at dksX14_feed_1 9 rfl rfl)
theorem dX14_feed_34 : decode cX14_feed 34 = .ok (.iload_n 3, 1) := dk_29 (dk_at dksX14_feed_1 11 rfl rfl)
theorem dX14_feed_35 : decode cX14_feed 35 = .ok (.if_icmp .ge 40, 3) := dk_162 0 40 (dk_at dksX14_feed_1 12 rfl rfl)
theorem dX14_feed_38 : decode cX14_feed 38 = .ok (.aload_n 0, 1) := dk_42 (dk_at dksX14_feed_1 15 rfl rfl)
theorem dX14_feed_39 : decode cX14_feed 39 = .ok (.getfield 25, 3) := dk_180 0 25 (dk_at dksX14_feed_1 16 rfl rfl)
theorem dX14_feed_42 : decode cX14_feed 42 = .ok (.aload_n 0, 1) := dk_42 (dk_at dksX14_feed_1 19 rfl rfl)
theorem dX14_feed_43 : decode cX14_feed 43 = .ok (.getfield 224, 3) := dk_180 0 224 (dk_at dksX14_feed_1 20 rfl rfl)
theorem dX14_feed_46 : decode cX14_feed 46 = .ok (.lload_n 1, 1) := dk_31 (dk_at dksX14_feed_1 23 rfl rfl)
theorem dX14_feed_47 : decode cX14_feed 47 = .ok (.bipush 8, 2) := dk_16 8 (dk_at dksX14_feed_2 0 rfl rfl)
theorem dX14_feed_49 : decode cX14_feed 49 = .ok (.iload 4, 2) := dk_21 4 (dk_at dksX14_feed_2 2 rfl rfl)
theorem dX14_feed_51 : decode cX14_feed 51 = .ok (.imul, 1) := dk_104 (dk_at dksX14_feed_2 4 rfl rfl)
theorem dX14_feed_52 : decode cX14_feed 52 = .ok (.lshr, 1) := dk_123 (dk_at dksX14_feed_2 5 rfl rfl)
theorem dX14_feed_53 : decode cX14_feed 53 = .ok (.ldc2_w 228, 3) := dk_20 0 228 (dk_at dksX14_feed_2 6 rfl rfl)
theorem dX14_feed_56 : decode cX14_feed 56 = .ok (.land, 1) := dk_127 (dk_at dksX14_feed_2 9 rfl rfl)
theorem dX14_feed_57 : decode cX14_feed 57 = .ok (.l2i, 1) := dk_136 (dk_at dksX14_feed_2 10 rfl rfl)
theorem dX14_feed_58 : decode cX14_feed 58 = .ok (.iastore, 1) := dk_79 (dk_at dksX14_feed_2 11 rfl rfl)
theorem dX14_feed_59 : decode cX14_feed 59 = .ok (.aload_n 0, 1) := dk_42 (dk_at dksX14_feed_2 12 rfl rfl)
theorem dX14_feed_60 : decode cX14_feed 60 = .ok (.dup, 1) := dk_89 (dk_at dksX14_feed_2 13 rfl rfl)
theorem dX14_feed_61 : decode cX14_feed 61 = .ok (.getfield 224, 3) := dk_180 0 224 (dk_at dksX14_feed_2 14 rfl rfl)
theorem dX14_feed_64 : decode cX14_feed 64 = .ok (.iconst 1, 1) := dk_4 (dk_at dksX14_feed_2 17 rfl rfl)
theorem dX14_feed_65 : decode cX14_feed 65 = .ok (.iadd, 1) := dk_96 (dk_at dksX14_feed_2 18 rfl rfl)
theorem dX14_feed_66 : decode cX14_feed 66 = .ok (.putfield 224, 3) := dk_181 0 224 (dk_at dksX14_feed_2 19 rfl rfl)
theorem dX14_feed_69 : decode cX14_feed 69 = .ok (.iinc 4 1, 3) := dk_132 4 1 (dk_at dksX14_feed_3 0 rfl rfl)
theorem dX14_feed_72 : decode cX14_feed 72 = .ok (.goto (-40), 3) := dk_167 255 216 (dk_at dksX14_feed_3 3 rfl rfl)
theorem dX14_feed_75 : decode cX14_feed 75 = .ok (.aload_n 0, 1) := dk_42 (dk_at dksX14_feed_3 6 rfl rfl)
theorem dX14_feed_76 : decode cX14_feed 76 = .ok (.getfield 224, 3) := dk_180 0 224 (dk_at dksX14_feed_3 7 rfl rfl)
theorem dX14_feed_79 : decode cX14_feed 79 = .ok (.ireturn, 1) := dk_172 (dk_at dksX14_feed_3 10 rfl rfl)
abbrev cX14_mill : ByteArray := prog_28_method_87_code
def yX14_mill : MethodName := ⟨RX14, "mill", "()I"⟩
def dkwX14_mill_3 : List UInt8 := [42, 3, 181, 1, 73, 42, 180, 0, 16, 16, 6, 46, 172]
abbrev dktX14_mill_3 : List UInt8 := dkwX14_mill_3 ++ []
def dkwX14_mill_2 : List UInt8 := [42, 3, 181, 0, 224, 42, 180, 0, 239, 153, 0, 15, 42, 182, 0, 164, 16, 156, 42, 180, 0, 233, 100, 172]
abbrev dktX14_mill_2 : List UInt8 := dkwX14_mill_2 ++ dktX14_mill_3
def dkwX14_mill_1 : List UInt8 := [180, 0, 239, 154, 0, 21, 42, 180, 0, 233, 42, 180, 0, 224, 162, 0, 10, 42, 182, 1, 70, 167, 255, 234]
abbrev dktX14_mill_1 : List UInt8 := dkwX14_mill_1 ++ dktX14_mill_2
def dkwX14_mill_0 : List UInt8 := [42, 182, 0, 161, 42, 182, 0, 52, 42, 3, 181, 0, 239, 42, 3, 181, 0, 230, 42, 182, 0, 252, 42]
abbrev dktX14_mill_0 : List UInt8 := dkwX14_mill_0 ++ dktX14_mill_1
theorem dksX14_mill_0 : cX14_mill.data.toList.drop 0 = dktX14_mill_0 := by decide +kernel
theorem dksX14_mill_1 : cX14_mill.data.toList.drop 23 = dktX14_mill_1 := dk_seg dksX14_mill_0 23 rfl rfl
theorem dksX14_mill_2 : cX14_mill.data.toList.drop 47 = dktX14_mill_2 := dk_seg dksX14_mill_1 24 rfl rfl
theorem dksX14_mill_3 : cX14_mill.data.toList.drop 71 = dktX14_mill_3 := dk_seg dksX14_mill_2 24 rfl rfl
theorem dX14_mill_0 : decode cX14_mill 0 = .ok (.aload_n 0, 1) := dk_42 (dk_at dksX14_mill_0 0 rfl rfl)
theorem dX14_mill_1 : decode cX14_mill 1 = .ok (.invokevirtual 161, 3) := dk_182 0 161 (dk_at dksX14_mill_0 1 rfl rfl)
theorem dX14_mill_4 : decode cX14_mill 4 = .ok (.aload_n 0, 1) := dk_42 (dk_at dksX14_mill_0 4 rfl rfl)
theorem dX14_mill_5 : decode cX14_mill 5 = .ok (.invokevirtual 52, 3) := dk_182 0 52 (dk_at dksX14_mill_0 5 rfl rfl)
theorem dX14_mill_8 : decode cX14_mill 8 = .ok (.aload_n 0, 1) := dk_42 (dk_at dksX14_mill_0 8 rfl rfl)
theorem dX14_mill_9 : decode cX14_mill 9 = .ok (.iconst 0, 1) := dk_3 (dk_at dksX14_mill_0 9 rfl rfl)
theorem dX14_mill_10 : decode cX14_mill 10 = .ok (.putfield 239, 3) := dk_181 0 239 (dk_at dksX14_mill_0 10 rfl rfl)
theorem dX14_mill_13 : decode cX14_mill 13 = .ok (.aload_n 0, 1) := dk_42 (dk_at dksX14_mill_0 13 rfl rfl)
theorem dX14_mill_14 : decode cX14_mill 14 = .ok (.iconst 0, 1) := dk_3 (dk_at dksX14_mill_0 14 rfl rfl)
theorem dX14_mill_15 : decode cX14_mill 15 = .ok (.putfield 230, 3) := dk_181 0 230 (dk_at dksX14_mill_0 15 rfl rfl)
theorem dX14_mill_18 : decode cX14_mill 18 = .ok (.aload_n 0, 1) := dk_42 (dk_at dksX14_mill_0 18 rfl rfl)
theorem dX14_mill_19 : decode cX14_mill 19 = .ok (.invokevirtual 252, 3) := dk_182 0 252 (dk_at dksX14_mill_0 19 rfl rfl)
theorem dX14_mill_22 : decode cX14_mill 22 = .ok (.aload_n 0, 1) := dk_42 (dk_at dksX14_mill_0 22 rfl rfl)
theorem dX14_mill_23 : decode cX14_mill 23 = .ok (.getfield 239, 3) := dk_180 0 239 (dk_at dksX14_mill_1 0 rfl rfl)
theorem dX14_mill_26 : decode cX14_mill 26 = .ok (.ifCond .ne 21, 3) := dk_154 0 21 (dk_at dksX14_mill_1 3 rfl rfl)
theorem dX14_mill_29 : decode cX14_mill 29 = .ok (.aload_n 0, 1) := dk_42 (dk_at dksX14_mill_1 6 rfl rfl)
theorem dX14_mill_30 : decode cX14_mill 30 = .ok (.getfield 233, 3) := dk_180 0 233 (dk_at dksX14_mill_1 7 rfl rfl)
theorem dX14_mill_33 : decode cX14_mill 33 = .ok (.aload_n 0, 1) := dk_42 (dk_at dksX14_mill_1 10 rfl rfl)
theorem dX14_mill_34 : decode cX14_mill 34 = .ok (.getfield 224, 3) := dk_180 0 224 (dk_at dksX14_mill_1 11 rfl rfl)
theorem dX14_mill_37 : decode cX14_mill 37 = .ok (.if_icmp .ge 10, 3) := dk_162 0 10 (dk_at dksX14_mill_1 14 rfl rfl)
theorem dX14_mill_40 : decode cX14_mill 40 = .ok (.aload_n 0, 1) := dk_42 (dk_at dksX14_mill_1 17 rfl rfl)
theorem dX14_mill_41 : decode cX14_mill 41 = .ok (.invokevirtual 326, 3) := dk_182 1 70 (dk_at dksX14_mill_1 18 rfl rfl)
theorem dX14_mill_44 : decode cX14_mill 44 = .ok (.goto (-22), 3) := dk_167 255 234 (dk_at dksX14_mill_1 21 rfl rfl)
theorem dX14_mill_47 : decode cX14_mill 47 = .ok (.aload_n 0, 1) := dk_42 (dk_at dksX14_mill_2 0 rfl rfl)
theorem dX14_mill_48 : decode cX14_mill 48 = .ok (.iconst 0, 1) := dk_3 (dk_at dksX14_mill_2 1 rfl rfl)
theorem dX14_mill_49 : decode cX14_mill 49 = .ok (.putfield 224, 3) := dk_181 0 224 (dk_at dksX14_mill_2 2 rfl rfl)
theorem dX14_mill_52 : decode cX14_mill 52 = .ok (.aload_n 0, 1) := dk_42 (dk_at dksX14_mill_2 5 rfl rfl)
theorem dX14_mill_53 : decode cX14_mill 53 = .ok (.getfield 239, 3) := dk_180 0 239 (dk_at dksX14_mill_2 6 rfl rfl)
theorem dX14_mill_56 : decode cX14_mill 56 = .ok (.ifCond .eq 15, 3) := dk_153 0 15 (dk_at dksX14_mill_2 9 rfl rfl)
theorem dX14_mill_59 : decode cX14_mill 59 = .ok (.aload_n 0, 1) := dk_42 (dk_at dksX14_mill_2 12 rfl rfl)
theorem dX14_mill_60 : decode cX14_mill 60 = .ok (.invokevirtual 164, 3) := dk_182 0 164 (dk_at dksX14_mill_2 13 rfl rfl)
theorem dX14_mill_63 : decode cX14_mill 63 = .ok (.bipush (-100), 2) := dk_16 156 (dk_at dksX14_mill_2 16 rfl rfl)
theorem dX14_mill_65 : decode cX14_mill 65 = .ok (.aload_n 0, 1) := dk_42 (dk_at dksX14_mill_2 18 rfl rfl)
theorem dX14_mill_66 : decode cX14_mill 66 = .ok (.getfield 233, 3) := dk_180 0 233 (dk_at dksX14_mill_2 19 rfl rfl)
theorem dX14_mill_69 : decode cX14_mill 69 = .ok (.isub, 1) := dk_100 (dk_at dksX14_mill_2 22 rfl rfl)
theorem dX14_mill_70 : decode cX14_mill 70 = .ok (.ireturn, 1) := dk_172 (dk_at dksX14_mill_2 23 rfl rfl)
theorem dX14_mill_71 : decode cX14_mill 71 = .ok (.aload_n 0, 1) := dk_42 (dk_at dksX14_mill_3 0 rfl rfl)
theorem dX14_mill_72 : decode cX14_mill 72 = .ok (.iconst 0, 1) := dk_3 (dk_at dksX14_mill_3 1 rfl rfl)
theorem dX14_mill_73 : decode cX14_mill 73 = .ok (.putfield 329, 3) := dk_181 1 73 (dk_at dksX14_mill_3 2 rfl rfl)
theorem dX14_mill_76 : decode cX14_mill 76 = .ok (.aload_n 0, 1) := dk_42 (dk_at dksX14_mill_3 5 rfl rfl)
theorem dX14_mill_77 : decode cX14_mill 77 = .ok (.getfield 16, 3) := dk_180 0 16 (dk_at dksX14_mill_3 6 rfl rfl)
theorem dX14_mill_80 : decode cX14_mill 80 = .ok (.bipush 6, 2) := dk_16 6 (dk_at dksX14_mill_3 9 rfl rfl)
theorem dX14_mill_82 : decode cX14_mill 82 = .ok (.iaload, 1) := dk_46 (dk_at dksX14_mill_3 11 rfl rfl)
theorem dX14_mill_83 : decode cX14_mill 83 = .ok (.ireturn, 1) := dk_172 (dk_at dksX14_mill_3 12 rfl rfl)
abbrev cX14_next : ByteArray := prog_28_method_75_code
def yX14_next : MethodName := ⟨RX14, "next", "()V"⟩
def dkwX14_next_6 : List UInt8 := [162, 0, 7, 4, 167, 0, 4, 3, 96, 181, 0, 230, 177]
abbrev dktX14_next_6 : List UInt8 := dkwX14_next_6 ++ []
def dkwX14_next_5 : List UInt8 := [167, 255, 208, 42, 89, 180, 0, 230, 27, 154, 0, 22, 28, 154, 0, 18, 42, 180, 0, 233, 42, 180, 0, 224]
abbrev dktX14_next_5 : List UInt8 := dkwX14_next_5 ++ dktX14_next_6
def dkwX14_next_4 : List UInt8 := [42, 180, 0, 230, 16, 48, 16, 57, 182, 0, 236, 153, 0, 16, 42, 89, 180, 0, 230, 4, 96, 181, 0, 230]
abbrev dktX14_next_4 : List UInt8 := dkwX14_next_4 ++ dktX14_next_5
def dkwX14_next_3 : List UInt8 := [27, 153, 0, 18, 42, 42, 180, 0, 230, 16, 97, 16, 122, 182, 0, 236, 154, 0, 22, 28, 153, 0, 31, 42]
abbrev dktX14_next_3 : List UInt8 := dkwX14_next_3 ++ dktX14_next_4
def dkwX14_next_2 : List UInt8 := [180, 0, 233, 16, 97, 16, 122, 182, 0, 236, 60, 42, 42, 180, 0, 233, 16, 48, 16, 57, 182, 0, 236, 61]
abbrev dktX14_next_2 : List UInt8 := dkwX14_next_2 ++ dktX14_next_3
def dkwX14_next_1 : List UInt8 := [89, 180, 0, 233, 4, 96, 181, 0, 233, 167, 255, 231, 42, 42, 180, 0, 233, 181, 0, 230, 42, 42]
abbrev dktX14_next_1 : List UInt8 := dkwX14_next_1 ++ dktX14_next_2
def dkwX14_next_0 : List UInt8 := [42, 42, 180, 0, 230, 181, 0, 233, 42, 42, 180, 0, 233, 16, 32, 16, 32, 182, 0, 236, 153, 0, 16, 42]
abbrev dktX14_next_0 : List UInt8 := dkwX14_next_0 ++ dktX14_next_1
theorem dksX14_next_0 : cX14_next.data.toList.drop 0 = dktX14_next_0 := by decide +kernel
theorem dksX14_next_1 : cX14_next.data.toList.drop 24 = dktX14_next_1 := dk_seg dksX14_next_0 24 rfl rfl
theorem dksX14_next_2 : cX14_next.data.toList.drop 46 = dktX14_next_2 := dk_seg dksX14_next_1 22 rfl rfl
theorem dksX14_next_3 : cX14_next.data.toList.drop 70 = dktX14_next_3 := dk_seg dksX14_next_2 24 rfl rfl
theorem dksX14_next_4 : cX14_next.data.toList.drop 94 = dktX14_next_4 := dk_seg dksX14_next_3 24 rfl rfl
theorem dksX14_next_5 : cX14_next.data.toList.drop 118 = dktX14_next_5 := dk_seg dksX14_next_4 24 rfl rfl
theorem dksX14_next_6 : cX14_next.data.toList.drop 142 = dktX14_next_6 := dk_seg dksX14_next_5 24 rfl rfl
theorem dX14_next_0 : decode cX14_next 0 = .ok (.aload_n 0, 1) := dk_42 (dk_at dksX14_next_0 0 rfl rfl)
theorem dX14_next_1 : decode cX14_next 1 = .ok (.aload_n 0, 1) := dk_42 (dk_at dksX14_next_0 1 rfl rfl)
theorem dX14_next_2 : decode cX14_next 2 = .ok (.getfield 230, 3) := dk_180 0 230 (dk_at dksX14_next_0 2 rfl rfl)
theorem dX14_next_5 : decode cX14_next 5 = .ok (.putfield 233, 3) := dk_181 0 233 (dk_at dksX14_next_0 5 rfl rfl)
theorem dX14_next_8 : decode cX14_next 8 = .ok (.aload_n 0, 1) := dk_42 (dk_at dksX14_next_0 8 rfl rfl)
theorem dX14_next_9 : decode cX14_next 9 = .ok (.aload_n 0, 1) := dk_42 (dk_at dksX14_next_0 9 rfl rfl)
theorem dX14_next_10 : decode cX14_next 10 = .ok (.getfield 233, 3) := dk_180 0 233 (dk_at dksX14_next_0 10 rfl rfl)
theorem dX14_next_13 : decode cX14_next 13 = .ok (.bipush 32, 2) := dk_16 32 (dk_at dksX14_next_0 13 rfl rfl)
theorem dX14_next_15 : decode cX14_next 15 = .ok (.bipush 32, 2) := dk_16 32 (dk_at dksX14_next_0 15 rfl rfl)
theorem dX14_next_17 : decode cX14_next 17 = .ok (.invokevirtual 236, 3) := dk_182 0 236 (dk_at dksX14_next_0 17 rfl rfl)
theorem dX14_next_20 : decode cX14_next 20 = .ok (.ifCond .eq 16, 3) := dk_153 0 16 (dk_at dksX14_next_0 20 rfl rfl)
theorem dX14_next_23 : decode cX14_next 23 = .ok (.aload_n 0, 1) := dk_42 (dk_at dksX14_next_0 23 rfl rfl)
theorem dX14_next_24 : decode cX14_next 24 = .ok (.dup, 1) := dk_89 (dk_at dksX14_next_1 0 rfl rfl)
theorem dX14_next_25 : decode cX14_next 25 = .ok (.getfield 233, 3) := dk_180 0 233 (dk_at dksX14_next_1 1 rfl rfl)
theorem dX14_next_28 : decode cX14_next 28 = .ok (.iconst 1, 1) := dk_4 (dk_at dksX14_next_1 4 rfl rfl)
theorem dX14_next_29 : decode cX14_next 29 = .ok (.iadd, 1) := dk_96 (dk_at dksX14_next_1 5 rfl rfl)
theorem dX14_next_30 : decode cX14_next 30 = .ok (.putfield 233, 3) := dk_181 0 233 (dk_at dksX14_next_1 6 rfl rfl)
theorem dX14_next_33 : decode cX14_next 33 = .ok (.goto (-25), 3) := dk_167 255 231 (dk_at dksX14_next_1 9 rfl rfl)
theorem dX14_next_36 : decode cX14_next 36 = .ok (.aload_n 0, 1) := dk_42 (dk_at dksX14_next_1 12 rfl rfl)
theorem dX14_next_37 : decode cX14_next 37 = .ok (.aload_n 0, 1) := dk_42 (dk_at dksX14_next_1 13 rfl rfl)
theorem dX14_next_38 : decode cX14_next 38 = .ok (.getfield 233, 3) := dk_180 0 233 (dk_at dksX14_next_1 14 rfl rfl)
theorem dX14_next_41 : decode cX14_next 41 = .ok (.putfield 230, 3) := dk_181 0 230 (dk_at dksX14_next_1 17 rfl rfl)
theorem dX14_next_44 : decode cX14_next 44 = .ok (.aload_n 0, 1) := dk_42 (dk_at dksX14_next_1 20 rfl rfl)
theorem dX14_next_45 : decode cX14_next 45 = .ok (.aload_n 0, 1) := dk_42 (dk_at dksX14_next_1 21 rfl rfl)
theorem dX14_next_46 : decode cX14_next 46 = .ok (.getfield 233, 3) := dk_180 0 233 (dk_at dksX14_next_2 0 rfl rfl)
theorem dX14_next_49 : decode cX14_next 49 = .ok (.bipush 97, 2) := dk_16 97 (dk_at dksX14_next_2 3 rfl rfl)
theorem dX14_next_51 : decode cX14_next 51 = .ok (.bipush 122, 2) := dk_16 122 (dk_at dksX14_next_2 5 rfl rfl)
theorem dX14_next_53 : decode cX14_next 53 = .ok (.invokevirtual 236, 3) := dk_182 0 236 (dk_at dksX14_next_2 7 rfl rfl)
theorem dX14_next_56 : decode cX14_next 56 = .ok (.istore_n 1, 1) := dk_60 (dk_at dksX14_next_2 10 rfl rfl)
theorem dX14_next_57 : decode cX14_next 57 = .ok (.aload_n 0, 1) := dk_42 (dk_at dksX14_next_2 11 rfl rfl)
theorem dX14_next_58 : decode cX14_next 58 = .ok (.aload_n 0, 1) := dk_42 (dk_at dksX14_next_2 12 rfl rfl)
theorem dX14_next_59 : decode cX14_next 59 = .ok (.getfield 233, 3) := dk_180 0 233 (dk_at dksX14_next_2 13 rfl rfl)
theorem dX14_next_62 : decode cX14_next 62 = .ok (.bipush 48, 2) := dk_16 48 (dk_at dksX14_next_2 16 rfl rfl)
theorem dX14_next_64 : decode cX14_next 64 = .ok (.bipush 57, 2) := dk_16 57 (dk_at dksX14_next_2 18 rfl rfl)
theorem dX14_next_66 : decode cX14_next 66 = .ok (.invokevirtual 236, 3) := dk_182 0 236 (dk_at dksX14_next_2 20 rfl rfl)
theorem dX14_next_69 : decode cX14_next 69 = .ok (.istore_n 2, 1) := dk_61 (dk_at dksX14_next_2 23 rfl rfl)
theorem dX14_next_70 : decode cX14_next 70 = .ok (.iload_n 1, 1) := dk_27 (dk_at dksX14_next_3 0 rfl rfl)
theorem dX14_next_71 : decode cX14_next 71 = .ok (.ifCond .eq 18, 3) := dk_153 0 18 (dk_at dksX14_next_3 1 rfl rfl)
theorem dX14_next_74 : decode cX14_next 74 = .ok (.aload_n 0, 1) := dk_42 (dk_at dksX14_next_3 4 rfl rfl)
theorem dX14_next_75 : decode cX14_next 75 = .ok (.aload_n 0, 1) := dk_42 (dk_at dksX14_next_3 5 rfl rfl)
theorem dX14_next_76 : decode cX14_next 76 = .ok (.getfield 230, 3) := dk_180 0 230 (dk_at dksX14_next_3 6 rfl rfl)
theorem dX14_next_79 : decode cX14_next 79 = .ok (.bipush 97, 2) := dk_16 97 (dk_at dksX14_next_3 9 rfl rfl)
theorem dX14_next_81 : decode cX14_next 81 = .ok (.bipush 122, 2) := dk_16 122 (dk_at dksX14_next_3 11 rfl rfl)
theorem dX14_next_83 : decode cX14_next 83 = .ok (.invokevirtual 236, 3) := dk_182 0 236 (dk_at dksX14_next_3 13 rfl rfl)
theorem dX14_next_86 : decode cX14_next 86 = .ok (.ifCond .ne 22, 3) := dk_154 0 22 (dk_at dksX14_next_3 16 rfl rfl)
theorem dX14_next_89 : decode cX14_next 89 = .ok (.iload_n 2, 1) := dk_28 (dk_at dksX14_next_3 19 rfl rfl)
theorem dX14_next_90 : decode cX14_next 90 = .ok (.ifCond .eq 31, 3) := dk_153 0 31 (dk_at dksX14_next_3 20 rfl rfl)
theorem dX14_next_93 : decode cX14_next 93 = .ok (.aload_n 0, 1) := dk_42 (dk_at dksX14_next_3 23 rfl rfl)
theorem dX14_next_94 : decode cX14_next 94 = .ok (.aload_n 0, 1) := dk_42 (dk_at dksX14_next_4 0 rfl rfl)
theorem dX14_next_95 : decode cX14_next 95 = .ok (.getfield 230, 3) := dk_180 0 230 (dk_at dksX14_next_4 1 rfl rfl)
theorem dX14_next_98 : decode cX14_next 98 = .ok (.bipush 48, 2) := dk_16 48 (dk_at dksX14_next_4 4 rfl rfl)
theorem dX14_next_100 : decode cX14_next 100 = .ok (.bipush 57, 2) := dk_16 57 (dk_at dksX14_next_4 6 rfl rfl)
theorem dX14_next_102 : decode cX14_next 102 = .ok (.invokevirtual 236, 3) := dk_182 0 236 (dk_at dksX14_next_4 8 rfl rfl)
theorem dX14_next_105 : decode cX14_next 105 = .ok (.ifCond .eq 16, 3) := dk_153 0 16 (dk_at dksX14_next_4 11 rfl rfl)
theorem dX14_next_108 : decode cX14_next 108 = .ok (.aload_n 0, 1) := dk_42 (dk_at dksX14_next_4 14 rfl rfl)
theorem dX14_next_109 : decode cX14_next 109 = .ok (.dup, 1) := dk_89 (dk_at dksX14_next_4 15 rfl rfl)
theorem dX14_next_110 : decode cX14_next 110 = .ok (.getfield 230, 3) := dk_180 0 230 (dk_at dksX14_next_4 16 rfl rfl)
theorem dX14_next_113 : decode cX14_next 113 = .ok (.iconst 1, 1) := dk_4 (dk_at dksX14_next_4 19 rfl rfl)
theorem dX14_next_114 : decode cX14_next 114 = .ok (.iadd, 1) := dk_96 (dk_at dksX14_next_4 20 rfl rfl)
theorem dX14_next_115 : decode cX14_next 115 = .ok (.putfield 230, 3) := dk_181 0 230 (dk_at dksX14_next_4 21 rfl rfl)
theorem dX14_next_118 : decode cX14_next 118 = .ok (.goto (-48), 3) := dk_167 255 208 (dk_at dksX14_next_5 0 rfl rfl)
theorem dX14_next_121 : decode cX14_next 121 = .ok (.aload_n 0, 1) := dk_42 (dk_at dksX14_next_5 3 rfl rfl)
theorem dX14_next_122 : decode cX14_next 122 = .ok (.dup, 1) := dk_89 (dk_at dksX14_next_5 4 rfl rfl)
theorem dX14_next_123 : decode cX14_next 123 = .ok (.getfield 230, 3) := dk_180 0 230 (dk_at dksX14_next_5 5 rfl rfl)
theorem dX14_next_126 : decode cX14_next 126 = .ok (.iload_n 1, 1) := dk_27 (dk_at dksX14_next_5 8 rfl rfl)
theorem dX14_next_127 : decode cX14_next 127 = .ok (.ifCond .ne 22, 3) := dk_154 0 22 (dk_at dksX14_next_5 9 rfl rfl)
theorem dX14_next_130 : decode cX14_next 130 = .ok (.iload_n 2, 1) := dk_28 (dk_at dksX14_next_5 12 rfl rfl)
theorem dX14_next_131 : decode cX14_next 131 = .ok (.ifCond .ne 18, 3) := dk_154 0 18 (dk_at dksX14_next_5 13 rfl rfl)
theorem dX14_next_134 : decode cX14_next 134 = .ok (.aload_n 0, 1) := dk_42 (dk_at dksX14_next_5 16 rfl rfl)
theorem dX14_next_135 : decode cX14_next 135 = .ok (.getfield 233, 3) := dk_180 0 233 (dk_at dksX14_next_5 17 rfl rfl)
theorem dX14_next_138 : decode cX14_next 138 = .ok (.aload_n 0, 1) := dk_42 (dk_at dksX14_next_5 20 rfl rfl)
theorem dX14_next_139 : decode cX14_next 139 = .ok (.getfield 224, 3) := dk_180 0 224 (dk_at dksX14_next_5 21 rfl rfl)
theorem dX14_next_142 : decode cX14_next 142 = .ok (.if_icmp .ge 7, 3) := dk_162 0 7 (dk_at dksX14_next_6 0 rfl rfl)
theorem dX14_next_145 : decode cX14_next 145 = .ok (.iconst 1, 1) := dk_4 (dk_at dksX14_next_6 3 rfl rfl)
theorem dX14_next_146 : decode cX14_next 146 = .ok (.goto 4, 3) := dk_167 0 4 (dk_at dksX14_next_6 4 rfl rfl)
theorem dX14_next_149 : decode cX14_next 149 = .ok (.iconst 0, 1) := dk_3 (dk_at dksX14_next_6 7 rfl rfl)
theorem dX14_next_150 : decode cX14_next 150 = .ok (.iadd, 1) := dk_96 (dk_at dksX14_next_6 8 rfl rfl)
theorem dX14_next_151 : decode cX14_next 151 = .ok (.putfield 230, 3) := dk_181 0 230 (dk_at dksX14_next_6 9 rfl rfl)
theorem dX14_next_154 : decode cX14_next 154 = .ok (.return_, 1) := dk_177 (dk_at dksX14_next_6 12 rfl rfl)
abbrev cX14_isByte : ByteArray := prog_28_method_74_code
def yX14_isByte : MethodName := ⟨RX14, "isByte", "(III)Z"⟩
def dkwX14_isByte_1 : List UInt8 := [153, 0, 7, 4, 167, 0, 4, 3, 172]
abbrev dktX14_isByte_1 : List UInt8 := dkwX14_isByte_1 ++ []
def dkwX14_isByte_0 : List UInt8 := [27, 42, 180, 0, 224, 162, 0, 24, 42, 180, 0, 25, 27, 46, 133, 28, 133, 29, 133, 184, 0, 59]
abbrev dktX14_isByte_0 : List UInt8 := dkwX14_isByte_0 ++ dktX14_isByte_1
theorem dksX14_isByte_0 : cX14_isByte.data.toList.drop 0 = dktX14_isByte_0 := by decide +kernel
theorem dksX14_isByte_1 : cX14_isByte.data.toList.drop 22 = dktX14_isByte_1 := dk_seg dksX14_isByte_0 22 rfl rfl
theorem dX14_isByte_0 : decode cX14_isByte 0 = .ok (.iload_n 1, 1) := dk_27 (dk_at dksX14_isByte_0 0 rfl rfl)
theorem dX14_isByte_1 : decode cX14_isByte 1 = .ok (.aload_n 0, 1) := dk_42 (dk_at dksX14_isByte_0 1 rfl rfl)
theorem dX14_isByte_2 : decode cX14_isByte 2 = .ok (.getfield 224, 3) := dk_180 0 224 (dk_at dksX14_isByte_0 2 rfl rfl)
theorem dX14_isByte_5 : decode cX14_isByte 5 = .ok (.if_icmp .ge 24, 3) := dk_162 0 24 (dk_at dksX14_isByte_0 5 rfl rfl)
theorem dX14_isByte_8 : decode cX14_isByte 8 = .ok (.aload_n 0, 1) := dk_42 (dk_at dksX14_isByte_0 8 rfl rfl)
theorem dX14_isByte_9 : decode cX14_isByte 9 = .ok (.getfield 25, 3) := dk_180 0 25 (dk_at dksX14_isByte_0 9 rfl rfl)
theorem dX14_isByte_12 : decode cX14_isByte 12 = .ok (.iload_n 1, 1) := dk_27 (dk_at dksX14_isByte_0 12 rfl rfl)
theorem dX14_isByte_13 : decode cX14_isByte 13 = .ok (.iaload, 1) := dk_46 (dk_at dksX14_isByte_0 13 rfl rfl)
theorem dX14_isByte_14 : decode cX14_isByte 14 = .ok (.i2l, 1) := dk_133 (dk_at dksX14_isByte_0 14 rfl rfl)
theorem dX14_isByte_15 : decode cX14_isByte 15 = .ok (.iload_n 2, 1) := dk_28 (dk_at dksX14_isByte_0 15 rfl rfl)
theorem dX14_isByte_16 : decode cX14_isByte 16 = .ok (.i2l, 1) := dk_133 (dk_at dksX14_isByte_0 16 rfl rfl)
theorem dX14_isByte_17 : decode cX14_isByte 17 = .ok (.iload_n 3, 1) := dk_29 (dk_at dksX14_isByte_0 17 rfl rfl)
theorem dX14_isByte_18 : decode cX14_isByte 18 = .ok (.i2l, 1) := dk_133 (dk_at dksX14_isByte_0 18 rfl rfl)
theorem dX14_isByte_19 : decode cX14_isByte 19 = .ok (.invokestatic 59, 3) := dk_184 0 59 (dk_at dksX14_isByte_0 19 rfl rfl)
theorem dX14_isByte_22 : decode cX14_isByte 22 = .ok (.ifCond .eq 7, 3) := dk_153 0 7 (dk_at dksX14_isByte_1 0 rfl rfl)
theorem dX14_isByte_25 : decode cX14_isByte 25 = .ok (.iconst 1, 1) := dk_4 (dk_at dksX14_isByte_1 3 rfl rfl)
theorem dX14_isByte_26 : decode cX14_isByte 26 = .ok (.goto 4, 3) := dk_167 0 4 (dk_at dksX14_isByte_1 4 rfl rfl)
theorem dX14_isByte_29 : decode cX14_isByte 29 = .ok (.iconst 0, 1) := dk_3 (dk_at dksX14_isByte_1 7 rfl rfl)
theorem dX14_isByte_30 : decode cX14_isByte 30 = .ok (.ireturn, 1) := dk_172 (dk_at dksX14_isByte_1 8 rfl rfl)
abbrev cX14_item : ByteArray := prog_28_method_86_code
def yX14_item : MethodName := ⟨RX14, "item", "()V"⟩
def dkwX14_item_5 : List UInt8 := [184, 0, 122, 182, 1, 65, 42, 42, 19, 1, 68, 182, 1, 8, 182, 1, 2, 177]
abbrev dktX14_item_5 : List UInt8 := dkwX14_item_5 ++ []
def dkwX14_item_4 : List UInt8 := [16, 7, 182, 1, 55, 167, 0, 25, 42, 28, 155, 0, 7, 4, 167, 0, 4, 3, 182, 1, 2, 42, 3, 28]
abbrev dktX14_item_4 : List UInt8 := dkwX14_item_4 ++ dktX14_item_5
def dkwX14_item_3 : List UInt8 := [182, 1, 55, 167, 0, 50, 42, 19, 1, 63, 182, 1, 8, 153, 0, 18, 42, 16, 23, 8, 19, 1, 51]
abbrev dktX14_item_3 : List UInt8 := dkwX14_item_3 ++ dktX14_item_4
def dkwX14_item_2 : List UInt8 := [167, 0, 76, 42, 19, 1, 59, 182, 1, 8, 153, 0, 19, 42, 16, 15, 16, 7, 19, 1, 61, 16, 9]
abbrev dktX14_item_2 : List UInt8 := dkwX14_item_2 ++ dktX14_item_3
def dkwX14_item_1 : List UInt8 := [19, 1, 51, 182, 1, 8, 153, 0, 19, 42, 16, 7, 16, 7, 19, 1, 53, 16, 9, 182, 1, 55]
abbrev dktX14_item_1 : List UInt8 := dkwX14_item_1 ++ dktX14_item_2
def dkwX14_item_0 : List UInt8 := [42, 182, 1, 42, 60, 42, 182, 1, 45, 61, 27, 155, 0, 11, 42, 27, 182, 1, 48, 167, 0, 102, 42]
abbrev dktX14_item_0 : List UInt8 := dkwX14_item_0 ++ dktX14_item_1
theorem dksX14_item_0 : cX14_item.data.toList.drop 0 = dktX14_item_0 := by decide +kernel
theorem dksX14_item_1 : cX14_item.data.toList.drop 23 = dktX14_item_1 := dk_seg dksX14_item_0 23 rfl rfl
theorem dksX14_item_2 : cX14_item.data.toList.drop 45 = dktX14_item_2 := dk_seg dksX14_item_1 22 rfl rfl
theorem dksX14_item_3 : cX14_item.data.toList.drop 68 = dktX14_item_3 := dk_seg dksX14_item_2 23 rfl rfl
theorem dksX14_item_4 : cX14_item.data.toList.drop 91 = dktX14_item_4 := dk_seg dksX14_item_3 23 rfl rfl
theorem dksX14_item_5 : cX14_item.data.toList.drop 115 = dktX14_item_5 := dk_seg dksX14_item_4 24 rfl rfl
theorem dX14_item_0 : decode cX14_item 0 = .ok (.aload_n 0, 1) := dk_42 (dk_at dksX14_item_0 0 rfl rfl)
theorem dX14_item_1 : decode cX14_item 1 = .ok (.invokevirtual 298, 3) := dk_182 1 42 (dk_at dksX14_item_0 1 rfl rfl)
theorem dX14_item_4 : decode cX14_item 4 = .ok (.istore_n 1, 1) := dk_60 (dk_at dksX14_item_0 4 rfl rfl)
theorem dX14_item_5 : decode cX14_item 5 = .ok (.aload_n 0, 1) := dk_42 (dk_at dksX14_item_0 5 rfl rfl)
theorem dX14_item_6 : decode cX14_item 6 = .ok (.invokevirtual 301, 3) := dk_182 1 45 (dk_at dksX14_item_0 6 rfl rfl)
theorem dX14_item_9 : decode cX14_item 9 = .ok (.istore_n 2, 1) := dk_61 (dk_at dksX14_item_0 9 rfl rfl)
theorem dX14_item_10 : decode cX14_item 10 = .ok (.iload_n 1, 1) := dk_27 (dk_at dksX14_item_0 10 rfl rfl)
theorem dX14_item_11 : decode cX14_item 11 = .ok (.ifCond .lt 11, 3) := dk_155 0 11 (dk_at dksX14_item_0 11 rfl rfl)
theorem dX14_item_14 : decode cX14_item 14 = .ok (.aload_n 0, 1) := dk_42 (dk_at dksX14_item_0 14 rfl rfl)
theorem dX14_item_15 : decode cX14_item 15 = .ok (.iload_n 1, 1) := dk_27 (dk_at dksX14_item_0 15 rfl rfl)
theorem dX14_item_16 : decode cX14_item 16 = .ok (.invokevirtual 304, 3) := dk_182 1 48 (dk_at dksX14_item_0 16 rfl rfl)
theorem dX14_item_19 : decode cX14_item 19 = .ok (.goto 102, 3) := dk_167 0 102 (dk_at dksX14_item_0 19 rfl rfl)
theorem dX14_item_22 : decode cX14_item 22 = .ok (.aload_n 0, 1) := dk_42 (dk_at dksX14_item_0 22 rfl rfl)
theorem dX14_item_23 : decode cX14_item 23 = .ok (.ldc_w 307, 3) := dk_19 1 51 (dk_at dksX14_item_1 0 rfl rfl)
theorem dX14_item_26 : decode cX14_item 26 = .ok (.invokevirtual 264, 3) := dk_182 1 8 (dk_at dksX14_item_1 3 rfl rfl)
theorem dX14_item_29 : decode cX14_item 29 = .ok (.ifCond .eq 19, 3) := dk_153 0 19 (dk_at dksX14_item_1 6 rfl rfl)
theorem dX14_item_32 : decode cX14_item 32 = .ok (.aload_n 0, 1) := dk_42 (dk_at dksX14_item_1 9 rfl rfl)
theorem dX14_item_33 : decode cX14_item 33 = .ok (.bipush 7, 2) := dk_16 7 (dk_at dksX14_item_1 10 rfl rfl)
theorem dX14_item_35 : decode cX14_item 35 = .ok (.bipush 7, 2) := dk_16 7 (dk_at dksX14_item_1 12 rfl rfl)
theorem dX14_item_37 : decode cX14_item 37 = .ok (.ldc_w 309, 3) := dk_19 1 53 (dk_at dksX14_item_1 14 rfl rfl)
theorem dX14_item_40 : decode cX14_item 40 = .ok (.bipush 9, 2) := dk_16 9 (dk_at dksX14_item_1 17 rfl rfl)
theorem dX14_item_42 : decode cX14_item 42 = .ok (.invokevirtual 311, 3) := dk_182 1 55 (dk_at dksX14_item_1 19 rfl rfl)
theorem dX14_item_45 : decode cX14_item 45 = .ok (.goto 76, 3) := dk_167 0 76 (dk_at dksX14_item_2 0 rfl rfl)
theorem dX14_item_48 : decode cX14_item 48 = .ok (.aload_n 0, 1) := dk_42 (dk_at dksX14_item_2 3 rfl rfl)
theorem dX14_item_49 : decode cX14_item 49 = .ok (.ldc_w 315, 3) := dk_19 1 59 (dk_at dksX14_item_2 4 rfl rfl)
theorem dX14_item_52 : decode cX14_item 52 = .ok (.invokevirtual 264, 3) := dk_182 1 8 (dk_at dksX14_item_2 7 rfl rfl)
theorem dX14_item_55 : decode cX14_item 55 = .ok (.ifCond .eq 19, 3) := dk_153 0 19 (dk_at dksX14_item_2 10 rfl rfl)
theorem dX14_item_58 : decode cX14_item 58 = .ok (.aload_n 0, 1) := dk_42 (dk_at dksX14_item_2 13 rfl rfl)
theorem dX14_item_59 : decode cX14_item 59 = .ok (.bipush 15, 2) := dk_16 15 (dk_at dksX14_item_2 14 rfl rfl)
theorem dX14_item_61 : decode cX14_item 61 = .ok (.bipush 7, 2) := dk_16 7 (dk_at dksX14_item_2 16 rfl rfl)
theorem dX14_item_63 : decode cX14_item 63 = .ok (.ldc_w 317, 3) := dk_19 1 61 (dk_at dksX14_item_2 18 rfl rfl)
theorem dX14_item_66 : decode cX14_item 66 = .ok (.bipush 9, 2) := dk_16 9 (dk_at dksX14_item_2 21 rfl rfl)
theorem dX14_item_68 : decode cX14_item 68 = .ok (.invokevirtual 311, 3) := dk_182 1 55 (dk_at dksX14_item_3 0 rfl rfl)
theorem dX14_item_71 : decode cX14_item 71 = .ok (.goto 50, 3) := dk_167 0 50 (dk_at dksX14_item_3 3 rfl rfl)
theorem dX14_item_74 : decode cX14_item 74 = .ok (.aload_n 0, 1) := dk_42 (dk_at dksX14_item_3 6 rfl rfl)
theorem dX14_item_75 : decode cX14_item 75 = .ok (.ldc_w 319, 3) := dk_19 1 63 (dk_at dksX14_item_3 7 rfl rfl)
theorem dX14_item_78 : decode cX14_item 78 = .ok (.invokevirtual 264, 3) := dk_182 1 8 (dk_at dksX14_item_3 10 rfl rfl)
theorem dX14_item_81 : decode cX14_item 81 = .ok (.ifCond .eq 18, 3) := dk_153 0 18 (dk_at dksX14_item_3 13 rfl rfl)
theorem dX14_item_84 : decode cX14_item 84 = .ok (.aload_n 0, 1) := dk_42 (dk_at dksX14_item_3 16 rfl rfl)
theorem dX14_item_85 : decode cX14_item 85 = .ok (.bipush 23, 2) := dk_16 23 (dk_at dksX14_item_3 17 rfl rfl)
theorem dX14_item_87 : decode cX14_item 87 = .ok (.iconst 5, 1) := dk_8 (dk_at dksX14_item_3 19 rfl rfl)
theorem dX14_item_88 : decode cX14_item 88 = .ok (.ldc_w 307, 3) := dk_19 1 51 (dk_at dksX14_item_3 20 rfl rfl)
theorem dX14_item_91 : decode cX14_item 91 = .ok (.bipush 7, 2) := dk_16 7 (dk_at dksX14_item_4 0 rfl rfl)
theorem dX14_item_93 : decode cX14_item 93 = .ok (.invokevirtual 311, 3) := dk_182 1 55 (dk_at dksX14_item_4 2 rfl rfl)
theorem dX14_item_96 : decode cX14_item 96 = .ok (.goto 25, 3) := dk_167 0 25 (dk_at dksX14_item_4 5 rfl rfl)
theorem dX14_item_99 : decode cX14_item 99 = .ok (.aload_n 0, 1) := dk_42 (dk_at dksX14_item_4 8 rfl rfl)
theorem dX14_item_100 : decode cX14_item 100 = .ok (.iload_n 2, 1) := dk_28 (dk_at dksX14_item_4 9 rfl rfl)
theorem dX14_item_101 : decode cX14_item 101 = .ok (.ifCond .lt 7, 3) := dk_155 0 7 (dk_at dksX14_item_4 10 rfl rfl)
theorem dX14_item_104 : decode cX14_item 104 = .ok (.iconst 1, 1) := dk_4 (dk_at dksX14_item_4 13 rfl rfl)
theorem dX14_item_105 : decode cX14_item 105 = .ok (.goto 4, 3) := dk_167 0 4 (dk_at dksX14_item_4 14 rfl rfl)
theorem dX14_item_108 : decode cX14_item 108 = .ok (.iconst 0, 1) := dk_3 (dk_at dksX14_item_4 17 rfl rfl)
theorem dX14_item_109 : decode cX14_item 109 = .ok (.invokevirtual 258, 3) := dk_182 1 2 (dk_at dksX14_item_4 18 rfl rfl)
theorem dX14_item_112 : decode cX14_item 112 = .ok (.aload_n 0, 1) := dk_42 (dk_at dksX14_item_4 21 rfl rfl)
theorem dX14_item_113 : decode cX14_item 113 = .ok (.iconst 0, 1) := dk_3 (dk_at dksX14_item_4 22 rfl rfl)
theorem dX14_item_114 : decode cX14_item 114 = .ok (.iload_n 2, 1) := dk_28 (dk_at dksX14_item_4 23 rfl rfl)
theorem dX14_item_115 : decode cX14_item 115 = .ok (.invokestatic 122, 3) := dk_184 0 122 (dk_at dksX14_item_5 0 rfl rfl)
theorem dX14_item_118 : decode cX14_item 118 = .ok (.invokevirtual 321, 3) := dk_182 1 65 (dk_at dksX14_item_5 3 rfl rfl)
theorem dX14_item_121 : decode cX14_item 121 = .ok (.aload_n 0, 1) := dk_42 (dk_at dksX14_item_5 6 rfl rfl)
theorem dX14_item_122 : decode cX14_item 122 = .ok (.aload_n 0, 1) := dk_42 (dk_at dksX14_item_5 7 rfl rfl)
theorem dX14_item_123 : decode cX14_item 123 = .ok (.ldc_w 324, 3) := dk_19 1 68 (dk_at dksX14_item_5 8 rfl rfl)
theorem dX14_item_126 : decode cX14_item 126 = .ok (.invokevirtual 264, 3) := dk_182 1 8 (dk_at dksX14_item_5 11 rfl rfl)
theorem dX14_item_129 : decode cX14_item 129 = .ok (.invokevirtual 258, 3) := dk_182 1 2 (dk_at dksX14_item_5 14 rfl rfl)
theorem dX14_item_132 : decode cX14_item 132 = .ok (.return_, 1) := dk_177 (dk_at dksX14_item_5 17 rfl rfl)
abbrev cX14_kindHere : ByteArray := prog_28_method_80_code
def yX14_kindHere : MethodName := ⟨RX14, "kindHere", "()I"⟩
def dkwX14_kindHere_4 : List UInt8 := [2, 172]
abbrev dktX14_kindHere_4 : List UInt8 := dkwX14_kindHere_4 ++ []
def dkwX14_kindHere_3 : List UInt8 := [182, 1, 8, 153, 0, 7, 7, 167, 0, 18, 42, 19, 1, 20, 182, 1, 8, 153, 0, 7, 8, 167, 0, 4]
abbrev dktX14_kindHere_3 : List UInt8 := dkwX14_kindHere_3 ++ dktX14_kindHere_4
def dkwX14_kindHere_2 : List UInt8 := [27, 167, 0, 46, 42, 19, 1, 16, 182, 1, 8, 153, 0, 7, 6, 167, 0, 32, 42, 19, 1, 18]
abbrev dktX14_kindHere_2 : List UInt8 := dkwX14_kindHere_2 ++ dktX14_kindHere_3
def dkwX14_kindHere_1 : List UInt8 := [4, 167, 0, 18, 42, 19, 1, 14, 182, 1, 8, 153, 0, 7, 5, 167, 0, 4, 2, 60, 27, 155, 0, 7]
abbrev dktX14_kindHere_1 : List UInt8 := dkwX14_kindHere_1 ++ dktX14_kindHere_2
def dkwX14_kindHere_0 : List UInt8 := [42, 19, 1, 6, 182, 1, 8, 153, 0, 7, 3, 167, 0, 32, 42, 19, 1, 12, 182, 1, 8, 153, 0, 7]
abbrev dktX14_kindHere_0 : List UInt8 := dkwX14_kindHere_0 ++ dktX14_kindHere_1
theorem dksX14_kindHere_0 : cX14_kindHere.data.toList.drop 0 = dktX14_kindHere_0 := by decide +kernel
theorem dksX14_kindHere_1 : cX14_kindHere.data.toList.drop 24 = dktX14_kindHere_1 := dk_seg dksX14_kindHere_0 24 rfl rfl
theorem dksX14_kindHere_2 : cX14_kindHere.data.toList.drop 48 = dktX14_kindHere_2 := dk_seg dksX14_kindHere_1 24 rfl rfl
theorem dksX14_kindHere_3 : cX14_kindHere.data.toList.drop 70 = dktX14_kindHere_3 := dk_seg dksX14_kindHere_2 22 rfl rfl
theorem dksX14_kindHere_4 : cX14_kindHere.data.toList.drop 94 = dktX14_kindHere_4 := dk_seg dksX14_kindHere_3 24 rfl rfl
theorem dX14_kindHere_0 : decode cX14_kindHere 0 = .ok (.aload_n 0, 1) := dk_42 (dk_at dksX14_kindHere_0 0 rfl rfl)
theorem dX14_kindHere_1 : decode cX14_kindHere 1 = .ok (.ldc_w 262, 3) := dk_19 1 6 (dk_at dksX14_kindHere_0 1 rfl rfl)
theorem dX14_kindHere_4 : decode cX14_kindHere 4 = .ok (.invokevirtual 264, 3) := dk_182 1 8 (dk_at dksX14_kindHere_0 4 rfl rfl)
theorem dX14_kindHere_7 : decode cX14_kindHere 7 = .ok (.ifCond .eq 7, 3) := dk_153 0 7 (dk_at dksX14_kindHere_0 7 rfl rfl)
theorem dX14_kindHere_10 : decode cX14_kindHere 10 = .ok (.iconst 0, 1) := dk_3 (dk_at dksX14_kindHere_0 10 rfl rfl)
theorem dX14_kindHere_11 : decode cX14_kindHere 11 = .ok (.goto 32, 3) := dk_167 0 32 (dk_at dksX14_kindHere_0 11 rfl rfl)
theorem dX14_kindHere_14 : decode cX14_kindHere 14 = .ok (.aload_n 0, 1) := dk_42 (dk_at dksX14_kindHere_0 14 rfl rfl)
theorem dX14_kindHere_15 : decode cX14_kindHere 15 = .ok (.ldc_w 268, 3) := dk_19 1 12 (dk_at dksX14_kindHere_0 15 rfl rfl)
theorem dX14_kindHere_18 : decode cX14_kindHere 18 = .ok (.invokevirtual 264, 3) := dk_182 1 8 (dk_at dksX14_kindHere_0 18 rfl rfl)
theorem dX14_kindHere_21 : decode cX14_kindHere 21 = .ok (.ifCond .eq 7, 3) := dk_153 0 7 (dk_at dksX14_kindHere_0 21 rfl rfl)
theorem dX14_kindHere_24 : decode cX14_kindHere 24 = .ok (.iconst 1, 1) := dk_4 (dk_at dksX14_kindHere_1 0 rfl rfl)
theorem dX14_kindHere_25 : decode cX14_kindHere 25 = .ok (.goto 18, 3) := dk_167 0 18 (dk_at dksX14_kindHere_1 1 rfl rfl)
theorem dX14_kindHere_28 : decode cX14_kindHere 28 = .ok (.aload_n 0, 1) := dk_42 (dk_at dksX14_kindHere_1 4 rfl rfl)
theorem dX14_kindHere_29 : decode cX14_kindHere 29 = .ok (.ldc_w 270, 3) := dk_19 1 14 (dk_at dksX14_kindHere_1 5 rfl rfl)
theorem dX14_kindHere_32 : decode cX14_kindHere 32 = .ok (.invokevirtual 264, 3) := dk_182 1 8 (dk_at dksX14_kindHere_1 8 rfl rfl)
theorem dX14_kindHere_35 : decode cX14_kindHere 35 = .ok (.ifCond .eq 7, 3) := dk_153 0 7 (dk_at dksX14_kindHere_1 11 rfl rfl)
theorem dX14_kindHere_38 : decode cX14_kindHere 38 = .ok (.iconst 2, 1) := dk_5 (dk_at dksX14_kindHere_1 14 rfl rfl)
theorem dX14_kindHere_39 : decode cX14_kindHere 39 = .ok (.goto 4, 3) := dk_167 0 4 (dk_at dksX14_kindHere_1 15 rfl rfl)
theorem dX14_kindHere_42 : decode cX14_kindHere 42 = .ok (.iconst (-1), 1) := dk_2 (dk_at dksX14_kindHere_1 18 rfl rfl)
theorem dX14_kindHere_43 : decode cX14_kindHere 43 = .ok (.istore_n 1, 1) := dk_60 (dk_at dksX14_kindHere_1 19 rfl rfl)
theorem dX14_kindHere_44 : decode cX14_kindHere 44 = .ok (.iload_n 1, 1) := dk_27 (dk_at dksX14_kindHere_1 20 rfl rfl)
theorem dX14_kindHere_45 : decode cX14_kindHere 45 = .ok (.ifCond .lt 7, 3) := dk_155 0 7 (dk_at dksX14_kindHere_1 21 rfl rfl)
theorem dX14_kindHere_48 : decode cX14_kindHere 48 = .ok (.iload_n 1, 1) := dk_27 (dk_at dksX14_kindHere_2 0 rfl rfl)
theorem dX14_kindHere_49 : decode cX14_kindHere 49 = .ok (.goto 46, 3) := dk_167 0 46 (dk_at dksX14_kindHere_2 1 rfl rfl)
theorem dX14_kindHere_52 : decode cX14_kindHere 52 = .ok (.aload_n 0, 1) := dk_42 (dk_at dksX14_kindHere_2 4 rfl rfl)
theorem dX14_kindHere_53 : decode cX14_kindHere 53 = .ok (.ldc_w 272, 3) := dk_19 1 16 (dk_at dksX14_kindHere_2 5 rfl rfl)
theorem dX14_kindHere_56 : decode cX14_kindHere 56 = .ok (.invokevirtual 264, 3) := dk_182 1 8 (dk_at dksX14_kindHere_2 8 rfl rfl)
theorem dX14_kindHere_59 : decode cX14_kindHere 59 = .ok (.ifCond .eq 7, 3) := dk_153 0 7 (dk_at dksX14_kindHere_2 11 rfl rfl)
theorem dX14_kindHere_62 : decode cX14_kindHere 62 = .ok (.iconst 3, 1) := dk_6 (dk_at dksX14_kindHere_2 14 rfl rfl)
theorem dX14_kindHere_63 : decode cX14_kindHere 63 = .ok (.goto 32, 3) := dk_167 0 32 (dk_at dksX14_kindHere_2 15 rfl rfl)
theorem dX14_kindHere_66 : decode cX14_kindHere 66 = .ok (.aload_n 0, 1) := dk_42 (dk_at dksX14_kindHere_2 18 rfl rfl)
theorem dX14_kindHere_67 : decode cX14_kindHere 67 = .ok (.ldc_w 274, 3) := dk_19 1 18 (dk_at dksX14_kindHere_2 19 rfl rfl)
theorem dX14_kindHere_70 : decode cX14_kindHere 70 = .ok (.invokevirtual 264, 3) := dk_182 1 8 (dk_at dksX14_kindHere_3 0 rfl rfl)
theorem dX14_kindHere_73 : decode cX14_kindHere 73 = .ok (.ifCond .eq 7, 3) := dk_153 0 7 (dk_at dksX14_kindHere_3 3 rfl rfl)
theorem dX14_kindHere_76 : decode cX14_kindHere 76 = .ok (.iconst 4, 1) := dk_7 (dk_at dksX14_kindHere_3 6 rfl rfl)
theorem dX14_kindHere_77 : decode cX14_kindHere 77 = .ok (.goto 18, 3) := dk_167 0 18 (dk_at dksX14_kindHere_3 7 rfl rfl)
theorem dX14_kindHere_80 : decode cX14_kindHere 80 = .ok (.aload_n 0, 1) := dk_42 (dk_at dksX14_kindHere_3 10 rfl rfl)
theorem dX14_kindHere_81 : decode cX14_kindHere 81 = .ok (.ldc_w 276, 3) := dk_19 1 20 (dk_at dksX14_kindHere_3 11 rfl rfl)
theorem dX14_kindHere_84 : decode cX14_kindHere 84 = .ok (.invokevirtual 264, 3) := dk_182 1 8 (dk_at dksX14_kindHere_3 14 rfl rfl)
theorem dX14_kindHere_87 : decode cX14_kindHere 87 = .ok (.ifCond .eq 7, 3) := dk_153 0 7 (dk_at dksX14_kindHere_3 17 rfl rfl)
theorem dX14_kindHere_90 : decode cX14_kindHere 90 = .ok (.iconst 5, 1) := dk_8 (dk_at dksX14_kindHere_3 20 rfl rfl)
theorem dX14_kindHere_91 : decode cX14_kindHere 91 = .ok (.goto 4, 3) := dk_167 0 4 (dk_at dksX14_kindHere_3 21 rfl rfl)
theorem dX14_kindHere_94 : decode cX14_kindHere 94 = .ok (.iconst (-1), 1) := dk_2 (dk_at dksX14_kindHere_4 0 rfl rfl)
theorem dX14_kindHere_95 : decode cX14_kindHere 95 = .ok (.ireturn, 1) := dk_172 (dk_at dksX14_kindHere_4 1 rfl rfl)
abbrev cX14_isWord : ByteArray := prog_28_method_76_code
def yX14_isWord : MethodName := ⟨RX14, "isWord", "(Ljava/lang/String;)Z"⟩
def dkwX14_isWord_3 : List UInt8 := [167, 255, 216, 28, 172]
abbrev dktX14_isWord_3 : List UInt8 := dkwX14_isWord_3 ++ []
def dkwX14_isWord_2 : List UInt8 := [180, 0, 233, 29, 96, 46, 43, 29, 182, 0, 248, 160, 0, 7, 4, 167, 0, 4, 3, 61, 132, 3, 1]
abbrev dktX14_isWord_2 : List UInt8 := dkwX14_isWord_2 ++ dktX14_isWord_3
def dkwX14_isWord_1 : List UInt8 := [167, 0, 4, 3, 61, 3, 62, 28, 153, 0, 42, 29, 43, 182, 0, 243, 162, 0, 34, 42, 180, 0, 25, 42]
abbrev dktX14_isWord_1 : List UInt8 := dkwX14_isWord_1 ++ dktX14_isWord_2
def dkwX14_isWord_0 : List UInt8 := [42, 180, 0, 239, 154, 0, 23, 42, 180, 0, 230, 42, 180, 0, 233, 100, 43, 182, 0, 243, 160, 0, 7, 4]
abbrev dktX14_isWord_0 : List UInt8 := dkwX14_isWord_0 ++ dktX14_isWord_1
theorem dksX14_isWord_0 : cX14_isWord.data.toList.drop 0 = dktX14_isWord_0 := by decide +kernel
theorem dksX14_isWord_1 : cX14_isWord.data.toList.drop 24 = dktX14_isWord_1 := dk_seg dksX14_isWord_0 24 rfl rfl
theorem dksX14_isWord_2 : cX14_isWord.data.toList.drop 48 = dktX14_isWord_2 := dk_seg dksX14_isWord_1 24 rfl rfl
theorem dksX14_isWord_3 : cX14_isWord.data.toList.drop 71 = dktX14_isWord_3 := dk_seg dksX14_isWord_2 23 rfl rfl
theorem dX14_isWord_0 : decode cX14_isWord 0 = .ok (.aload_n 0, 1) := dk_42 (dk_at dksX14_isWord_0 0 rfl rfl)
theorem dX14_isWord_1 : decode cX14_isWord 1 = .ok (.getfield 239, 3) := dk_180 0 239 (dk_at dksX14_isWord_0 1 rfl rfl)
theorem dX14_isWord_4 : decode cX14_isWord 4 = .ok (.ifCond .ne 23, 3) := dk_154 0 23 (dk_at dksX14_isWord_0 4 rfl rfl)
theorem dX14_isWord_7 : decode cX14_isWord 7 = .ok (.aload_n 0, 1) := dk_42 (dk_at dksX14_isWord_0 7 rfl rfl)
theorem dX14_isWord_8 : decode cX14_isWord 8 = .ok (.getfield 230, 3) := dk_180 0 230 (dk_at dksX14_isWord_0 8 rfl rfl)
theorem dX14_isWord_11 : decode cX14_isWord 11 = .ok (.aload_n 0, 1) := dk_42 (dk_at dksX14_isWord_0 11 rfl rfl)
theorem dX14_isWord_12 : decode cX14_isWord 12 = .ok (.getfield 233, 3) := dk_180 0 233 (dk_at dksX14_isWord_0 12 rfl rfl)
theorem dX14_isWord_15 : decode cX14_isWord 15 = .ok (.isub, 1) := dk_100 (dk_at dksX14_isWord_0 15 rfl rfl)
theorem dX14_isWord_16 : decode cX14_isWord 16 = .ok (.aload_n 1, 1) := dk_43 (dk_at dksX14_isWord_0 16 rfl rfl)
theorem dX14_isWord_17 : decode cX14_isWord 17 = .ok (.invokevirtual 243, 3) := dk_182 0 243 (dk_at dksX14_isWord_0 17 rfl rfl)
theorem dX14_isWord_20 : decode cX14_isWord 20 = .ok (.if_icmp .ne 7, 3) := dk_160 0 7 (dk_at dksX14_isWord_0 20 rfl rfl)
theorem dX14_isWord_23 : decode cX14_isWord 23 = .ok (.iconst 1, 1) := dk_4 (dk_at dksX14_isWord_0 23 rfl rfl)
theorem dX14_isWord_24 : decode cX14_isWord 24 = .ok (.goto 4, 3) := dk_167 0 4 (dk_at dksX14_isWord_1 0 rfl rfl)
theorem dX14_isWord_27 : decode cX14_isWord 27 = .ok (.iconst 0, 1) := dk_3 (dk_at dksX14_isWord_1 3 rfl rfl)
theorem dX14_isWord_28 : decode cX14_isWord 28 = .ok (.istore_n 2, 1) := dk_61 (dk_at dksX14_isWord_1 4 rfl rfl)
theorem dX14_isWord_29 : decode cX14_isWord 29 = .ok (.iconst 0, 1) := dk_3 (dk_at dksX14_isWord_1 5 rfl rfl)
theorem dX14_isWord_30 : decode cX14_isWord 30 = .ok (.istore_n 3, 1) := dk_62 (dk_at dksX14_isWord_1 6 rfl rfl)
theorem dX14_isWord_31 : decode cX14_isWord 31 = .ok (.iload_n 2, 1) := dk_28 (dk_at dksX14_isWord_1 7 rfl rfl)
theorem dX14_isWord_32 : decode cX14_isWord 32 = .ok (.ifCond .eq 42, 3) := dk_153 0 42 (dk_at dksX14_isWord_1 8 rfl rfl)
theorem dX14_isWord_35 : decode cX14_isWord 35 = .ok (.iload_n 3, 1) := dk_29 (dk_at dksX14_isWord_1 11 rfl rfl)
theorem dX14_isWord_36 : decode cX14_isWord 36 = .ok (.aload_n 1, 1) := dk_43 (dk_at dksX14_isWord_1 12 rfl rfl)
theorem dX14_isWord_37 : decode cX14_isWord 37 = .ok (.invokevirtual 243, 3) := dk_182 0 243 (dk_at dksX14_isWord_1 13 rfl rfl)
theorem dX14_isWord_40 : decode cX14_isWord 40 = .ok (.if_icmp .ge 34, 3) := dk_162 0 34 (dk_at dksX14_isWord_1 16 rfl rfl)
theorem dX14_isWord_43 : decode cX14_isWord 43 = .ok (.aload_n 0, 1) := dk_42 (dk_at dksX14_isWord_1 19 rfl rfl)
theorem dX14_isWord_44 : decode cX14_isWord 44 = .ok (.getfield 25, 3) := dk_180 0 25 (dk_at dksX14_isWord_1 20 rfl rfl)
theorem dX14_isWord_47 : decode cX14_isWord 47 = .ok (.aload_n 0, 1) := dk_42 (dk_at dksX14_isWord_1 23 rfl rfl)
theorem dX14_isWord_48 : decode cX14_isWord 48 = .ok (.getfield 233, 3) := dk_180 0 233 (dk_at dksX14_isWord_2 0 rfl rfl)
theorem dX14_isWord_51 : decode cX14_isWord 51 = .ok (.iload_n 3, 1) := dk_29 (dk_at dksX14_isWord_2 3 rfl rfl)
theorem dX14_isWord_52 : decode cX14_isWord 52 = .ok (.iadd, 1) := dk_96 (dk_at dksX14_isWord_2 4 rfl rfl)
theorem dX14_isWord_53 : decode cX14_isWord 53 = .ok (.iaload, 1) := dk_46 (dk_at dksX14_isWord_2 5 rfl rfl)
theorem dX14_isWord_54 : decode cX14_isWord 54 = .ok (.aload_n 1, 1) := dk_43 (dk_at dksX14_isWord_2 6 rfl rfl)
theorem dX14_isWord_55 : decode cX14_isWord 55 = .ok (.iload_n 3, 1) := dk_29 (dk_at dksX14_isWord_2 7 rfl rfl)
theorem dX14_isWord_56 : decode cX14_isWord 56 = .ok (.invokevirtual 248, 3) := dk_182 0 248 (dk_at dksX14_isWord_2 8 rfl rfl)
theorem dX14_isWord_59 : decode cX14_isWord 59 = .ok (.if_icmp .ne 7, 3) := dk_160 0 7 (dk_at dksX14_isWord_2 11 rfl rfl)
theorem dX14_isWord_62 : decode cX14_isWord 62 = .ok (.iconst 1, 1) := dk_4 (dk_at dksX14_isWord_2 14 rfl rfl)
theorem dX14_isWord_63 : decode cX14_isWord 63 = .ok (.goto 4, 3) := dk_167 0 4 (dk_at dksX14_isWord_2 15 rfl rfl)
theorem dX14_isWord_66 : decode cX14_isWord 66 = .ok (.iconst 0, 1) := dk_3 (dk_at dksX14_isWord_2 18 rfl rfl)
theorem dX14_isWord_67 : decode cX14_isWord 67 = .ok (.istore_n 2, 1) := dk_61 (dk_at dksX14_isWord_2 19 rfl rfl)
theorem dX14_isWord_68 : decode cX14_isWord 68 = .ok (.iinc 3 1, 3) := dk_132 3 1 (dk_at dksX14_isWord_2 20 rfl rfl)
theorem dX14_isWord_71 : decode cX14_isWord 71 = .ok (.goto (-40), 3) := dk_167 255 216 (dk_at dksX14_isWord_3 0 rfl rfl)
theorem dX14_isWord_74 : decode cX14_isWord 74 = .ok (.iload_n 2, 1) := dk_28 (dk_at dksX14_isWord_3 3 rfl rfl)
theorem dX14_isWord_75 : decode cX14_isWord 75 = .ok (.ireturn, 1) := dk_172 (dk_at dksX14_isWord_3 4 rfl rfl)
abbrev cX14_lawHere : ByteArray := prog_28_method_85_code
def yX14_lawHere : MethodName := ⟨RX14, "lawHere", "()I"⟩
def dkwX14_lawHere_2 : List UInt8 := [182, 1, 8, 153, 0, 7, 6, 167, 0, 4, 2, 172]
abbrev dktX14_lawHere_2 : List UInt8 := dkwX14_lawHere_2 ++ []
def dkwX14_lawHere_1 : List UInt8 := [4, 167, 0, 32, 42, 19, 1, 38, 182, 1, 8, 153, 0, 7, 5, 167, 0, 18, 42, 19, 1, 40]
abbrev dktX14_lawHere_1 : List UInt8 := dkwX14_lawHere_1 ++ dktX14_lawHere_2
def dkwX14_lawHere_0 : List UInt8 := [42, 19, 1, 34, 182, 1, 8, 153, 0, 7, 3, 167, 0, 46, 42, 19, 1, 36, 182, 1, 8, 153, 0, 7]
abbrev dktX14_lawHere_0 : List UInt8 := dkwX14_lawHere_0 ++ dktX14_lawHere_1
theorem dksX14_lawHere_0 : cX14_lawHere.data.toList.drop 0 = dktX14_lawHere_0 := by decide +kernel
theorem dksX14_lawHere_1 : cX14_lawHere.data.toList.drop 24 = dktX14_lawHere_1 := dk_seg dksX14_lawHere_0 24 rfl rfl
theorem dksX14_lawHere_2 : cX14_lawHere.data.toList.drop 46 = dktX14_lawHere_2 := dk_seg dksX14_lawHere_1 22 rfl rfl
theorem dX14_lawHere_0 : decode cX14_lawHere 0 = .ok (.aload_n 0, 1) := dk_42 (dk_at dksX14_lawHere_0 0 rfl rfl)
theorem dX14_lawHere_1 : decode cX14_lawHere 1 = .ok (.ldc_w 290, 3) := dk_19 1 34 (dk_at dksX14_lawHere_0 1 rfl rfl)
theorem dX14_lawHere_4 : decode cX14_lawHere 4 = .ok (.invokevirtual 264, 3) := dk_182 1 8 (dk_at dksX14_lawHere_0 4 rfl rfl)
theorem dX14_lawHere_7 : decode cX14_lawHere 7 = .ok (.ifCond .eq 7, 3) := dk_153 0 7 (dk_at dksX14_lawHere_0 7 rfl rfl)
theorem dX14_lawHere_10 : decode cX14_lawHere 10 = .ok (.iconst 0, 1) := dk_3 (dk_at dksX14_lawHere_0 10 rfl rfl)
theorem dX14_lawHere_11 : decode cX14_lawHere 11 = .ok (.goto 46, 3) := dk_167 0 46 (dk_at dksX14_lawHere_0 11 rfl rfl)
theorem dX14_lawHere_14 : decode cX14_lawHere 14 = .ok (.aload_n 0, 1) := dk_42 (dk_at dksX14_lawHere_0 14 rfl rfl)
theorem dX14_lawHere_15 : decode cX14_lawHere 15 = .ok (.ldc_w 292, 3) := dk_19 1 36 (dk_at dksX14_lawHere_0 15 rfl rfl)
theorem dX14_lawHere_18 : decode cX14_lawHere 18 = .ok (.invokevirtual 264, 3) := dk_182 1 8 (dk_at dksX14_lawHere_0 18 rfl rfl)
theorem dX14_lawHere_21 : decode cX14_lawHere 21 = .ok (.ifCond .eq 7, 3) := dk_153 0 7 (dk_at dksX14_lawHere_0 21 rfl rfl)
theorem dX14_lawHere_24 : decode cX14_lawHere 24 = .ok (.iconst 1, 1) := dk_4 (dk_at dksX14_lawHere_1 0 rfl rfl)
theorem dX14_lawHere_25 : decode cX14_lawHere 25 = .ok (.goto 32, 3) := dk_167 0 32 (dk_at dksX14_lawHere_1 1 rfl rfl)
theorem dX14_lawHere_28 : decode cX14_lawHere 28 = .ok (.aload_n 0, 1) := dk_42 (dk_at dksX14_lawHere_1 4 rfl rfl)
theorem dX14_lawHere_29 : decode cX14_lawHere 29 = .ok (.ldc_w 294, 3) := dk_19 1 38 (dk_at dksX14_lawHere_1 5 rfl rfl)
theorem dX14_lawHere_32 : decode cX14_lawHere 32 = .ok (.invokevirtual 264, 3) := dk_182 1 8 (dk_at dksX14_lawHere_1 8 rfl rfl)
theorem dX14_lawHere_35 : decode cX14_lawHere 35 = .ok (.ifCond .eq 7, 3) := dk_153 0 7 (dk_at dksX14_lawHere_1 11 rfl rfl)
theorem dX14_lawHere_38 : decode cX14_lawHere 38 = .ok (.iconst 2, 1) := dk_5 (dk_at dksX14_lawHere_1 14 rfl rfl)
theorem dX14_lawHere_39 : decode cX14_lawHere 39 = .ok (.goto 18, 3) := dk_167 0 18 (dk_at dksX14_lawHere_1 15 rfl rfl)
theorem dX14_lawHere_42 : decode cX14_lawHere 42 = .ok (.aload_n 0, 1) := dk_42 (dk_at dksX14_lawHere_1 18 rfl rfl)
theorem dX14_lawHere_43 : decode cX14_lawHere 43 = .ok (.ldc_w 296, 3) := dk_19 1 40 (dk_at dksX14_lawHere_1 19 rfl rfl)
theorem dX14_lawHere_46 : decode cX14_lawHere 46 = .ok (.invokevirtual 264, 3) := dk_182 1 8 (dk_at dksX14_lawHere_2 0 rfl rfl)
theorem dX14_lawHere_49 : decode cX14_lawHere 49 = .ok (.ifCond .eq 7, 3) := dk_153 0 7 (dk_at dksX14_lawHere_2 3 rfl rfl)
theorem dX14_lawHere_52 : decode cX14_lawHere 52 = .ok (.iconst 3, 1) := dk_6 (dk_at dksX14_lawHere_2 6 rfl rfl)
theorem dX14_lawHere_53 : decode cX14_lawHere 53 = .ok (.goto 4, 3) := dk_167 0 4 (dk_at dksX14_lawHere_2 7 rfl rfl)
theorem dX14_lawHere_56 : decode cX14_lawHere 56 = .ok (.iconst (-1), 1) := dk_2 (dk_at dksX14_lawHere_2 10 rfl rfl)
theorem dX14_lawHere_57 : decode cX14_lawHere 57 = .ok (.ireturn, 1) := dk_172 (dk_at dksX14_lawHere_2 11 rfl rfl)
abbrev cX14_clothTold : ByteArray := prog_28_method_82_code
def yX14_clothTold : MethodName := ⟨RX14, "clothTold", "(I)V"⟩
def dkwX14_clothTold_6 : List UInt8 := [182, 0, 85, 177]
abbrev dktX14_clothTold_6 : List UInt8 := dkwX14_clothTold_6 ++ []
def dkwX14_clothTold_5 : List UInt8 := [16, 6, 46, 4, 100, 5, 29, 182, 0, 85, 42, 42, 180, 0, 16, 16, 6, 46, 4, 100, 6, 21, 4]
abbrev dktX14_clothTold_5 : List UInt8 := dkwX14_clothTold_5 ++ dktX14_clothTold_6
def dkwX14_clothTold_4 : List UInt8 := [182, 0, 92, 42, 42, 180, 0, 16, 16, 6, 46, 4, 100, 4, 28, 182, 0, 85, 42, 42, 180, 0, 16]
abbrev dktX14_clothTold_4 : List UInt8 := dkwX14_clothTold_4 ++ dktX14_clothTold_5
def dkwX14_clothTold_3 : List UInt8 := [182, 1, 24, 153, 0, 7, 4, 167, 0, 4, 3, 54, 4, 42, 180, 0, 239, 154, 0, 54, 42, 27]
abbrev dktX14_clothTold_3 : List UInt8 := dkwX14_clothTold_3 ++ dktX14_clothTold_4
def dkwX14_clothTold_2 : List UInt8 := [182, 1, 24, 153, 0, 13, 42, 4, 16, 99, 182, 1, 27, 167, 0, 5, 16, 20, 62, 42, 19, 1, 32]
abbrev dktX14_clothTold_2 : List UInt8 := dkwX14_clothTold_2 ++ dktX14_clothTold_3
def dkwX14_clothTold_1 : List UInt8 := [62, 42, 19, 1, 22, 182, 1, 24, 153, 0, 34, 42, 3, 16, 9, 182, 1, 27, 61, 42, 19, 1, 30]
abbrev dktX14_clothTold_1 : List UInt8 := dkwX14_clothTold_1 ++ dktX14_clothTold_2
def dkwX14_clothTold_0 : List UInt8 := [42, 42, 180, 0, 16, 16, 6, 46, 16, 8, 162, 0, 7, 4, 167, 0, 4, 3, 182, 1, 2, 2, 61, 3]
abbrev dktX14_clothTold_0 : List UInt8 := dkwX14_clothTold_0 ++ dktX14_clothTold_1
theorem dksX14_clothTold_0 : cX14_clothTold.data.toList.drop 0 = dktX14_clothTold_0 := by decide +kernel
theorem dksX14_clothTold_1 : cX14_clothTold.data.toList.drop 24 = dktX14_clothTold_1 := dk_seg dksX14_clothTold_0 24 rfl rfl
theorem dksX14_clothTold_2 : cX14_clothTold.data.toList.drop 47 = dktX14_clothTold_2 := dk_seg dksX14_clothTold_1 23 rfl rfl
theorem dksX14_clothTold_3 : cX14_clothTold.data.toList.drop 70 = dktX14_clothTold_3 := dk_seg dksX14_clothTold_2 23 rfl rfl
theorem dksX14_clothTold_4 : cX14_clothTold.data.toList.drop 92 = dktX14_clothTold_4 := dk_seg dksX14_clothTold_3 22 rfl rfl
theorem dksX14_clothTold_5 : cX14_clothTold.data.toList.drop 115 = dktX14_clothTold_5 := dk_seg dksX14_clothTold_4 23 rfl rfl
theorem dksX14_clothTold_6 : cX14_clothTold.data.toList.drop 138 = dktX14_clothTold_6 := dk_seg dksX14_clothTold_5 23 rfl rfl
theorem dX14_clothTold_0 : decode cX14_clothTold 0 = .ok (.aload_n 0, 1) := dk_42 (dk_at dksX14_clothTold_0 0 rfl rfl)
theorem dX14_clothTold_1 : decode cX14_clothTold 1 = .ok (.aload_n 0, 1) := dk_42 (dk_at dksX14_clothTold_0 1 rfl rfl)
theorem dX14_clothTold_2 : decode cX14_clothTold 2 = .ok (.getfield 16, 3) := dk_180 0 16 (dk_at dksX14_clothTold_0 2 rfl rfl)
theorem dX14_clothTold_5 : decode cX14_clothTold 5 = .ok (.bipush 6, 2) := dk_16 6 (dk_at dksX14_clothTold_0 5 rfl rfl)
theorem dX14_clothTold_7 : decode cX14_clothTold 7 = .ok (.iaload, 1) := dk_46 (dk_at dksX14_clothTold_0 7 rfl rfl)
theorem dX14_clothTold_8 : decode cX14_clothTold 8 = .ok (.bipush 8, 2) := dk_16 8 (dk_at dksX14_clothTold_0 8 rfl rfl)
theorem dX14_clothTold_10 : decode cX14_clothTold 10 = .ok (.if_icmp .ge 7, 3) := dk_162 0 7 (dk_at dksX14_clothTold_0 10 rfl rfl)
theorem dX14_clothTold_13 : decode cX14_clothTold 13 = .ok (.iconst 1, 1) := dk_4 (dk_at dksX14_clothTold_0 13 rfl rfl)
theorem dX14_clothTold_14 : decode cX14_clothTold 14 = .ok (.goto 4, 3) := dk_167 0 4 (dk_at dksX14_clothTold_0 14 rfl rfl)
theorem dX14_clothTold_17 : decode cX14_clothTold 17 = .ok (.iconst 0, 1) := dk_3 (dk_at dksX14_clothTold_0 17 rfl rfl)
theorem dX14_clothTold_18 : decode cX14_clothTold 18 = .ok (.invokevirtual 258, 3) := dk_182 1 2 (dk_at dksX14_clothTold_0 18 rfl rfl)
theorem dX14_clothTold_21 : decode cX14_clothTold 21 = .ok (.iconst (-1), 1) := dk_2 (dk_at dksX14_clothTold_0 21 rfl rfl)
theorem dX14_clothTold_22 : decode cX14_clothTold 22 = .ok (.istore_n 2, 1) := dk_61 (dk_at dksX14_clothTold_0 22 rfl rfl)
theorem dX14_clothTold_23 : decode cX14_clothTold 23 = .ok (.iconst 0, 1) := dk_3 (dk_at dksX14_clothTold_0 23 rfl rfl)
theorem dX14_clothTold_24 : decode cX14_clothTold 24 = .ok (.istore_n 3, 1) := dk_62 (dk_at dksX14_clothTold_1 0 rfl rfl)
theorem dX14_clothTold_25 : decode cX14_clothTold 25 = .ok (.aload_n 0, 1) := dk_42 (dk_at dksX14_clothTold_1 1 rfl rfl)
theorem dX14_clothTold_26 : decode cX14_clothTold 26 = .ok (.ldc_w 278, 3) := dk_19 1 22 (dk_at dksX14_clothTold_1 2 rfl rfl)
theorem dX14_clothTold_29 : decode cX14_clothTold 29 = .ok (.invokevirtual 280, 3) := dk_182 1 24 (dk_at dksX14_clothTold_1 5 rfl rfl)
theorem dX14_clothTold_32 : decode cX14_clothTold 32 = .ok (.ifCond .eq 34, 3) := dk_153 0 34 (dk_at dksX14_clothTold_1 8 rfl rfl)
theorem dX14_clothTold_35 : decode cX14_clothTold 35 = .ok (.aload_n 0, 1) := dk_42 (dk_at dksX14_clothTold_1 11 rfl rfl)
theorem dX14_clothTold_36 : decode cX14_clothTold 36 = .ok (.iconst 0, 1) := dk_3 (dk_at dksX14_clothTold_1 12 rfl rfl)
theorem dX14_clothTold_37 : decode cX14_clothTold 37 = .ok (.bipush 9, 2) := dk_16 9 (dk_at dksX14_clothTold_1 13 rfl rfl)
theorem dX14_clothTold_39 : decode cX14_clothTold 39 = .ok (.invokevirtual 283, 3) := dk_182 1 27 (dk_at dksX14_clothTold_1 15 rfl rfl)
theorem dX14_clothTold_42 : decode cX14_clothTold 42 = .ok (.istore_n 2, 1) := dk_61 (dk_at dksX14_clothTold_1 18 rfl rfl)
theorem dX14_clothTold_43 : decode cX14_clothTold 43 = .ok (.aload_n 0, 1) := dk_42 (dk_at dksX14_clothTold_1 19 rfl rfl)
theorem dX14_clothTold_44 : decode cX14_clothTold 44 = .ok (.ldc_w 286, 3) := dk_19 1 30 (dk_at dksX14_clothTold_1 20 rfl rfl)
theorem dX14_clothTold_47 : decode cX14_clothTold 47 = .ok (.invokevirtual 280, 3) := dk_182 1 24 (dk_at dksX14_clothTold_2 0 rfl rfl)
theorem dX14_clothTold_50 : decode cX14_clothTold 50 = .ok (.ifCond .eq 13, 3) := dk_153 0 13 (dk_at dksX14_clothTold_2 3 rfl rfl)
theorem dX14_clothTold_53 : decode cX14_clothTold 53 = .ok (.aload_n 0, 1) := dk_42 (dk_at dksX14_clothTold_2 6 rfl rfl)
theorem dX14_clothTold_54 : decode cX14_clothTold 54 = .ok (.iconst 1, 1) := dk_4 (dk_at dksX14_clothTold_2 7 rfl rfl)
theorem dX14_clothTold_55 : decode cX14_clothTold 55 = .ok (.bipush 99, 2) := dk_16 99 (dk_at dksX14_clothTold_2 8 rfl rfl)
theorem dX14_clothTold_57 : decode cX14_clothTold 57 = .ok (.invokevirtual 283, 3) := dk_182 1 27 (dk_at dksX14_clothTold_2 10 rfl rfl)
theorem dX14_clothTold_60 : decode cX14_clothTold 60 = .ok (.goto 5, 3) := dk_167 0 5 (dk_at dksX14_clothTold_2 13 rfl rfl)
theorem dX14_clothTold_63 : decode cX14_clothTold 63 = .ok (.bipush 20, 2) := dk_16 20 (dk_at dksX14_clothTold_2 16 rfl rfl)
theorem dX14_clothTold_65 : decode cX14_clothTold 65 = .ok (.istore_n 3, 1) := dk_62 (dk_at dksX14_clothTold_2 18 rfl rfl)
theorem dX14_clothTold_66 : decode cX14_clothTold 66 = .ok (.aload_n 0, 1) := dk_42 (dk_at dksX14_clothTold_2 19 rfl rfl)
theorem dX14_clothTold_67 : decode cX14_clothTold 67 = .ok (.ldc_w 288, 3) := dk_19 1 32 (dk_at dksX14_clothTold_2 20 rfl rfl)
theorem dX14_clothTold_70 : decode cX14_clothTold 70 = .ok (.invokevirtual 280, 3) := dk_182 1 24 (dk_at dksX14_clothTold_3 0 rfl rfl)
theorem dX14_clothTold_73 : decode cX14_clothTold 73 = .ok (.ifCond .eq 7, 3) := dk_153 0 7 (dk_at dksX14_clothTold_3 3 rfl rfl)
theorem dX14_clothTold_76 : decode cX14_clothTold 76 = .ok (.iconst 1, 1) := dk_4 (dk_at dksX14_clothTold_3 6 rfl rfl)
theorem dX14_clothTold_77 : decode cX14_clothTold 77 = .ok (.goto 4, 3) := dk_167 0 4 (dk_at dksX14_clothTold_3 7 rfl rfl)
theorem dX14_clothTold_80 : decode cX14_clothTold 80 = .ok (.iconst 0, 1) := dk_3 (dk_at dksX14_clothTold_3 10 rfl rfl)
theorem dX14_clothTold_81 : decode cX14_clothTold 81 = .ok (.istore 4, 2) := dk_54 4 (dk_at dksX14_clothTold_3 11 rfl rfl)
theorem dX14_clothTold_83 : decode cX14_clothTold 83 = .ok (.aload_n 0, 1) := dk_42 (dk_at dksX14_clothTold_3 13 rfl rfl)
theorem dX14_clothTold_84 : decode cX14_clothTold 84 = .ok (.getfield 239, 3) := dk_180 0 239 (dk_at dksX14_clothTold_3 14 rfl rfl)
theorem dX14_clothTold_87 : decode cX14_clothTold 87 = .ok (.ifCond .ne 54, 3) := dk_154 0 54 (dk_at dksX14_clothTold_3 17 rfl rfl)
theorem dX14_clothTold_90 : decode cX14_clothTold 90 = .ok (.aload_n 0, 1) := dk_42 (dk_at dksX14_clothTold_3 20 rfl rfl)
theorem dX14_clothTold_91 : decode cX14_clothTold 91 = .ok (.iload_n 1, 1) := dk_27 (dk_at dksX14_clothTold_3 21 rfl rfl)
theorem dX14_clothTold_92 : decode cX14_clothTold 92 = .ok (.invokevirtual 92, 3) := dk_182 0 92 (dk_at dksX14_clothTold_4 0 rfl rfl)
theorem dX14_clothTold_95 : decode cX14_clothTold 95 = .ok (.aload_n 0, 1) := dk_42 (dk_at dksX14_clothTold_4 3 rfl rfl)
theorem dX14_clothTold_96 : decode cX14_clothTold 96 = .ok (.aload_n 0, 1) := dk_42 (dk_at dksX14_clothTold_4 4 rfl rfl)
theorem dX14_clothTold_97 : decode cX14_clothTold 97 = .ok (.getfield 16, 3) := dk_180 0 16 (dk_at dksX14_clothTold_4 5 rfl rfl)
theorem dX14_clothTold_100 : decode cX14_clothTold 100 = .ok (.bipush 6, 2) := dk_16 6 (dk_at dksX14_clothTold_4 8 rfl rfl)
theorem dX14_clothTold_102 : decode cX14_clothTold 102 = .ok (.iaload, 1) := dk_46 (dk_at dksX14_clothTold_4 10 rfl rfl)
theorem dX14_clothTold_103 : decode cX14_clothTold 103 = .ok (.iconst 1, 1) := dk_4 (dk_at dksX14_clothTold_4 11 rfl rfl)
theorem dX14_clothTold_104 : decode cX14_clothTold 104 = .ok (.isub, 1) := dk_100 (dk_at dksX14_clothTold_4 12 rfl rfl)
theorem dX14_clothTold_105 : decode cX14_clothTold 105 = .ok (.iconst 1, 1) := dk_4 (dk_at dksX14_clothTold_4 13 rfl rfl)
theorem dX14_clothTold_106 : decode cX14_clothTold 106 = .ok (.iload_n 2, 1) := dk_28 (dk_at dksX14_clothTold_4 14 rfl rfl)
theorem dX14_clothTold_107 : decode cX14_clothTold 107 = .ok (.invokevirtual 85, 3) := dk_182 0 85 (dk_at dksX14_clothTold_4 15 rfl rfl)
theorem dX14_clothTold_110 : decode cX14_clothTold 110 = .ok (.aload_n 0, 1) := dk_42 (dk_at dksX14_clothTold_4 18 rfl rfl)
theorem dX14_clothTold_111 : decode cX14_clothTold 111 = .ok (.aload_n 0, 1) := dk_42 (dk_at dksX14_clothTold_4 19 rfl rfl)
theorem dX14_clothTold_112 : decode cX14_clothTold 112 = .ok (.getfield 16, 3) := dk_180 0 16 (dk_at dksX14_clothTold_4 20 rfl rfl)
theorem dX14_clothTold_115 : decode cX14_clothTold 115 = .ok (.bipush 6, 2) := dk_16 6 (dk_at dksX14_clothTold_5 0 rfl rfl)
theorem dX14_clothTold_117 : decode cX14_clothTold 117 = .ok (.iaload, 1) := dk_46 (dk_at dksX14_clothTold_5 2 rfl rfl)
theorem dX14_clothTold_118 : decode cX14_clothTold 118 = .ok (.iconst 1, 1) := dk_4 (dk_at dksX14_clothTold_5 3 rfl rfl)
theorem dX14_clothTold_119 : decode cX14_clothTold 119 = .ok (.isub, 1) := dk_100 (dk_at dksX14_clothTold_5 4 rfl rfl)
theorem dX14_clothTold_120 : decode cX14_clothTold 120 = .ok (.iconst 2, 1) := dk_5 (dk_at dksX14_clothTold_5 5 rfl rfl)
theorem dX14_clothTold_121 : decode cX14_clothTold 121 = .ok (.iload_n 3, 1) := dk_29 (dk_at dksX14_clothTold_5 6 rfl rfl)
theorem dX14_clothTold_122 : decode cX14_clothTold 122 = .ok (.invokevirtual 85, 3) := dk_182 0 85 (dk_at dksX14_clothTold_5 7 rfl rfl)
theorem dX14_clothTold_125 : decode cX14_clothTold 125 = .ok (.aload_n 0, 1) := dk_42 (dk_at dksX14_clothTold_5 10 rfl rfl)
theorem dX14_clothTold_126 : decode cX14_clothTold 126 = .ok (.aload_n 0, 1) := dk_42 (dk_at dksX14_clothTold_5 11 rfl rfl)
theorem dX14_clothTold_127 : decode cX14_clothTold 127 = .ok (.getfield 16, 3) := dk_180 0 16 (dk_at dksX14_clothTold_5 12 rfl rfl)
theorem dX14_clothTold_130 : decode cX14_clothTold 130 = .ok (.bipush 6, 2) := dk_16 6 (dk_at dksX14_clothTold_5 15 rfl rfl)
theorem dX14_clothTold_132 : decode cX14_clothTold 132 = .ok (.iaload, 1) := dk_46 (dk_at dksX14_clothTold_5 17 rfl rfl)
theorem dX14_clothTold_133 : decode cX14_clothTold 133 = .ok (.iconst 1, 1) := dk_4 (dk_at dksX14_clothTold_5 18 rfl rfl)
theorem dX14_clothTold_134 : decode cX14_clothTold 134 = .ok (.isub, 1) := dk_100 (dk_at dksX14_clothTold_5 19 rfl rfl)
theorem dX14_clothTold_135 : decode cX14_clothTold 135 = .ok (.iconst 3, 1) := dk_6 (dk_at dksX14_clothTold_5 20 rfl rfl)
theorem dX14_clothTold_136 : decode cX14_clothTold 136 = .ok (.iload 4, 2) := dk_21 4 (dk_at dksX14_clothTold_5 21 rfl rfl)
theorem dX14_clothTold_138 : decode cX14_clothTold 138 = .ok (.invokevirtual 85, 3) := dk_182 0 85 (dk_at dksX14_clothTold_6 0 rfl rfl)
theorem dX14_clothTold_141 : decode cX14_clothTold 141 = .ok (.return_, 1) := dk_177 (dk_at dksX14_clothTold_6 3 rfl rfl)
abbrev cX14_must : ByteArray := prog_28_method_77_code
def yX14_must : MethodName := ⟨RX14, "must", "(Z)V"⟩
def dkwX14_must_1 : List UInt8 := [154, 0, 7, 42, 182, 0, 252, 177]
abbrev dktX14_must_1 : List UInt8 := dkwX14_must_1 ++ []
def dkwX14_must_0 : List UInt8 := [42, 42, 180, 0, 239, 154, 0, 7, 27, 154, 0, 7, 4, 167, 0, 4, 3, 181, 0, 239, 42, 180, 0, 239]
abbrev dktX14_must_0 : List UInt8 := dkwX14_must_0 ++ dktX14_must_1
theorem dksX14_must_0 : cX14_must.data.toList.drop 0 = dktX14_must_0 := by decide +kernel
theorem dksX14_must_1 : cX14_must.data.toList.drop 24 = dktX14_must_1 := dk_seg dksX14_must_0 24 rfl rfl
theorem dX14_must_0 : decode cX14_must 0 = .ok (.aload_n 0, 1) := dk_42 (dk_at dksX14_must_0 0 rfl rfl)
theorem dX14_must_1 : decode cX14_must 1 = .ok (.aload_n 0, 1) := dk_42 (dk_at dksX14_must_0 1 rfl rfl)
theorem dX14_must_2 : decode cX14_must 2 = .ok (.getfield 239, 3) := dk_180 0 239 (dk_at dksX14_must_0 2 rfl rfl)
theorem dX14_must_5 : decode cX14_must 5 = .ok (.ifCond .ne 7, 3) := dk_154 0 7 (dk_at dksX14_must_0 5 rfl rfl)
theorem dX14_must_8 : decode cX14_must 8 = .ok (.iload_n 1, 1) := dk_27 (dk_at dksX14_must_0 8 rfl rfl)
theorem dX14_must_9 : decode cX14_must 9 = .ok (.ifCond .ne 7, 3) := dk_154 0 7 (dk_at dksX14_must_0 9 rfl rfl)
theorem dX14_must_12 : decode cX14_must 12 = .ok (.iconst 1, 1) := dk_4 (dk_at dksX14_must_0 12 rfl rfl)
theorem dX14_must_13 : decode cX14_must 13 = .ok (.goto 4, 3) := dk_167 0 4 (dk_at dksX14_must_0 13 rfl rfl)
theorem dX14_must_16 : decode cX14_must 16 = .ok (.iconst 0, 1) := dk_3 (dk_at dksX14_must_0 16 rfl rfl)
theorem dX14_must_17 : decode cX14_must 17 = .ok (.putfield 239, 3) := dk_181 0 239 (dk_at dksX14_must_0 17 rfl rfl)
theorem dX14_must_20 : decode cX14_must 20 = .ok (.aload_n 0, 1) := dk_42 (dk_at dksX14_must_0 20 rfl rfl)
theorem dX14_must_21 : decode cX14_must 21 = .ok (.getfield 239, 3) := dk_180 0 239 (dk_at dksX14_must_0 21 rfl rfl)
theorem dX14_must_24 : decode cX14_must 24 = .ok (.ifCond .ne 7, 3) := dk_154 0 7 (dk_at dksX14_must_1 0 rfl rfl)
theorem dX14_must_27 : decode cX14_must 27 = .ok (.aload_n 0, 1) := dk_42 (dk_at dksX14_must_1 3 rfl rfl)
theorem dX14_must_28 : decode cX14_must 28 = .ok (.invokevirtual 252, 3) := dk_182 0 252 (dk_at dksX14_must_1 4 rfl rfl)
theorem dX14_must_31 : decode cX14_must 31 = .ok (.return_, 1) := dk_177 (dk_at dksX14_must_1 7 rfl rfl)
abbrev cX14_takes : ByteArray := prog_28_method_81_code
def yX14_takes : MethodName := ⟨RX14, "takes", "(Ljava/lang/String;)Z"⟩
def dkwX14_takes_0 : List UInt8 := [42, 43, 182, 1, 8, 61, 28, 153, 0, 8, 42, 4, 182, 1, 2, 28, 172]
abbrev dktX14_takes_0 : List UInt8 := dkwX14_takes_0 ++ []
theorem dksX14_takes_0 : cX14_takes.data.toList.drop 0 = dktX14_takes_0 := by decide +kernel
theorem dX14_takes_0 : decode cX14_takes 0 = .ok (.aload_n 0, 1) := dk_42 (dk_at dksX14_takes_0 0 rfl rfl)
theorem dX14_takes_1 : decode cX14_takes 1 = .ok (.aload_n 1, 1) := dk_43 (dk_at dksX14_takes_0 1 rfl rfl)
theorem dX14_takes_2 : decode cX14_takes 2 = .ok (.invokevirtual 264, 3) := dk_182 1 8 (dk_at dksX14_takes_0 2 rfl rfl)
theorem dX14_takes_5 : decode cX14_takes 5 = .ok (.istore_n 2, 1) := dk_61 (dk_at dksX14_takes_0 5 rfl rfl)
theorem dX14_takes_6 : decode cX14_takes 6 = .ok (.iload_n 2, 1) := dk_28 (dk_at dksX14_takes_0 6 rfl rfl)
theorem dX14_takes_7 : decode cX14_takes 7 = .ok (.ifCond .eq 8, 3) := dk_153 0 8 (dk_at dksX14_takes_0 7 rfl rfl)
theorem dX14_takes_10 : decode cX14_takes 10 = .ok (.aload_n 0, 1) := dk_42 (dk_at dksX14_takes_0 10 rfl rfl)
theorem dX14_takes_11 : decode cX14_takes 11 = .ok (.iconst 1, 1) := dk_4 (dk_at dksX14_takes_0 11 rfl rfl)
theorem dX14_takes_12 : decode cX14_takes 12 = .ok (.invokevirtual 258, 3) := dk_182 1 2 (dk_at dksX14_takes_0 12 rfl rfl)
theorem dX14_takes_15 : decode cX14_takes 15 = .ok (.iload_n 2, 1) := dk_28 (dk_at dksX14_takes_0 15 rfl rfl)
theorem dX14_takes_16 : decode cX14_takes 16 = .ok (.ireturn, 1) := dk_172 (dk_at dksX14_takes_0 16 rfl rfl)
abbrev cX14_number : ByteArray := prog_28_method_79_code
def yX14_number : MethodName := ⟨RX14, "number", "(II)I"⟩
def dkwX14_number_0 : List UInt8 := [42, 182, 0, 255, 62, 42, 29, 133, 27, 133, 28, 133, 184, 0, 59, 182, 1, 2, 29, 172]
abbrev dktX14_number_0 : List UInt8 := dkwX14_number_0 ++ []
theorem dksX14_number_0 : cX14_number.data.toList.drop 0 = dktX14_number_0 := by decide +kernel
theorem dX14_number_0 : decode cX14_number 0 = .ok (.aload_n 0, 1) := dk_42 (dk_at dksX14_number_0 0 rfl rfl)
theorem dX14_number_1 : decode cX14_number 1 = .ok (.invokevirtual 255, 3) := dk_182 0 255 (dk_at dksX14_number_0 1 rfl rfl)
theorem dX14_number_4 : decode cX14_number 4 = .ok (.istore_n 3, 1) := dk_62 (dk_at dksX14_number_0 4 rfl rfl)
theorem dX14_number_5 : decode cX14_number 5 = .ok (.aload_n 0, 1) := dk_42 (dk_at dksX14_number_0 5 rfl rfl)
theorem dX14_number_6 : decode cX14_number 6 = .ok (.iload_n 3, 1) := dk_29 (dk_at dksX14_number_0 6 rfl rfl)
theorem dX14_number_7 : decode cX14_number 7 = .ok (.i2l, 1) := dk_133 (dk_at dksX14_number_0 7 rfl rfl)
theorem dX14_number_8 : decode cX14_number 8 = .ok (.iload_n 1, 1) := dk_27 (dk_at dksX14_number_0 8 rfl rfl)
theorem dX14_number_9 : decode cX14_number 9 = .ok (.i2l, 1) := dk_133 (dk_at dksX14_number_0 9 rfl rfl)
theorem dX14_number_10 : decode cX14_number 10 = .ok (.iload_n 2, 1) := dk_28 (dk_at dksX14_number_0 10 rfl rfl)
theorem dX14_number_11 : decode cX14_number 11 = .ok (.i2l, 1) := dk_133 (dk_at dksX14_number_0 11 rfl rfl)
theorem dX14_number_12 : decode cX14_number 12 = .ok (.invokestatic 59, 3) := dk_184 0 59 (dk_at dksX14_number_0 12 rfl rfl)
theorem dX14_number_15 : decode cX14_number 15 = .ok (.invokevirtual 258, 3) := dk_182 1 2 (dk_at dksX14_number_0 15 rfl rfl)
theorem dX14_number_18 : decode cX14_number 18 = .ok (.iload_n 3, 1) := dk_29 (dk_at dksX14_number_0 18 rfl rfl)
theorem dX14_number_19 : decode cX14_number 19 = .ok (.ireturn, 1) := dk_172 (dk_at dksX14_number_0 19 rfl rfl)
abbrev cX14_figures : ByteArray := prog_28_method_78_code
def yX14_figures : MethodName := ⟨RX14, "figures", "()I"⟩
def dkwX14_figures_3 : List UInt8 := [27, 172]
abbrev dktX14_figures_3 : List UInt8 := dkwX14_figures_3 ++ []
def dkwX14_figures_2 : List UInt8 := [155, 0, 24, 16, 10, 27, 104, 42, 180, 0, 25, 28, 46, 96, 16, 48, 100, 60, 132, 2, 1, 167, 255, 226]
abbrev dktX14_figures_2 : List UInt8 := dkwX14_figures_2 ++ dktX14_figures_3
def dkwX14_figures_1 : List UInt8 := [6, 163, 0, 7, 3, 167, 0, 4, 2, 60, 42, 180, 0, 233, 61, 28, 42, 180, 0, 230, 162, 0, 28, 27]
abbrev dktX14_figures_1 : List UInt8 := dkwX14_figures_1 ++ dktX14_figures_2
def dkwX14_figures_0 : List UInt8 := [42, 42, 180, 0, 233, 16, 48, 16, 57, 182, 0, 236, 153, 0, 20, 42, 180, 0, 230, 42, 180, 0, 233, 100]
abbrev dktX14_figures_0 : List UInt8 := dkwX14_figures_0 ++ dktX14_figures_1
theorem dksX14_figures_0 : cX14_figures.data.toList.drop 0 = dktX14_figures_0 := by decide +kernel
theorem dksX14_figures_1 : cX14_figures.data.toList.drop 24 = dktX14_figures_1 := dk_seg dksX14_figures_0 24 rfl rfl
theorem dksX14_figures_2 : cX14_figures.data.toList.drop 48 = dktX14_figures_2 := dk_seg dksX14_figures_1 24 rfl rfl
theorem dksX14_figures_3 : cX14_figures.data.toList.drop 72 = dktX14_figures_3 := dk_seg dksX14_figures_2 24 rfl rfl
theorem dX14_figures_0 : decode cX14_figures 0 = .ok (.aload_n 0, 1) := dk_42 (dk_at dksX14_figures_0 0 rfl rfl)
theorem dX14_figures_1 : decode cX14_figures 1 = .ok (.aload_n 0, 1) := dk_42 (dk_at dksX14_figures_0 1 rfl rfl)
theorem dX14_figures_2 : decode cX14_figures 2 = .ok (.getfield 233, 3) := dk_180 0 233 (dk_at dksX14_figures_0 2 rfl rfl)
theorem dX14_figures_5 : decode cX14_figures 5 = .ok (.bipush 48, 2) := dk_16 48 (dk_at dksX14_figures_0 5 rfl rfl)
theorem dX14_figures_7 : decode cX14_figures 7 = .ok (.bipush 57, 2) := dk_16 57 (dk_at dksX14_figures_0 7 rfl rfl)
theorem dX14_figures_9 : decode cX14_figures 9 = .ok (.invokevirtual 236, 3) := dk_182 0 236 (dk_at dksX14_figures_0 9 rfl rfl)
theorem dX14_figures_12 : decode cX14_figures 12 = .ok (.ifCond .eq 20, 3) := dk_153 0 20 (dk_at dksX14_figures_0 12 rfl rfl)
theorem dX14_figures_15 : decode cX14_figures 15 = .ok (.aload_n 0, 1) := dk_42 (dk_at dksX14_figures_0 15 rfl rfl)
theorem dX14_figures_16 : decode cX14_figures 16 = .ok (.getfield 230, 3) := dk_180 0 230 (dk_at dksX14_figures_0 16 rfl rfl)
theorem dX14_figures_19 : decode cX14_figures 19 = .ok (.aload_n 0, 1) := dk_42 (dk_at dksX14_figures_0 19 rfl rfl)
theorem dX14_figures_20 : decode cX14_figures 20 = .ok (.getfield 233, 3) := dk_180 0 233 (dk_at dksX14_figures_0 20 rfl rfl)
theorem dX14_figures_23 : decode cX14_figures 23 = .ok (.isub, 1) := dk_100 (dk_at dksX14_figures_0 23 rfl rfl)
theorem dX14_figures_24 : decode cX14_figures 24 = .ok (.iconst 3, 1) := dk_6 (dk_at dksX14_figures_1 0 rfl rfl)
theorem dX14_figures_25 : decode cX14_figures 25 = .ok (.if_icmp .gt 7, 3) := dk_163 0 7 (dk_at dksX14_figures_1 1 rfl rfl)
theorem dX14_figures_28 : decode cX14_figures 28 = .ok (.iconst 0, 1) := dk_3 (dk_at dksX14_figures_1 4 rfl rfl)
theorem dX14_figures_29 : decode cX14_figures 29 = .ok (.goto 4, 3) := dk_167 0 4 (dk_at dksX14_figures_1 5 rfl rfl)
theorem dX14_figures_32 : decode cX14_figures 32 = .ok (.iconst (-1), 1) := dk_2 (dk_at dksX14_figures_1 8 rfl rfl)
theorem dX14_figures_33 : decode cX14_figures 33 = .ok (.istore_n 1, 1) := dk_60 (dk_at dksX14_figures_1 9 rfl rfl)
theorem dX14_figures_34 : decode cX14_figures 34 = .ok (.aload_n 0, 1) := dk_42 (dk_at dksX14_figures_1 10 rfl rfl)
theorem dX14_figures_35 : decode cX14_figures 35 = .ok (.getfield 233, 3) := dk_180 0 233 (dk_at dksX14_figures_1 11 rfl rfl)
theorem dX14_figures_38 : decode cX14_figures 38 = .ok (.istore_n 2, 1) := dk_61 (dk_at dksX14_figures_1 14 rfl rfl)
theorem dX14_figures_39 : decode cX14_figures 39 = .ok (.iload_n 2, 1) := dk_28 (dk_at dksX14_figures_1 15 rfl rfl)
theorem dX14_figures_40 : decode cX14_figures 40 = .ok (.aload_n 0, 1) := dk_42 (dk_at dksX14_figures_1 16 rfl rfl)
theorem dX14_figures_41 : decode cX14_figures 41 = .ok (.getfield 230, 3) := dk_180 0 230 (dk_at dksX14_figures_1 17 rfl rfl)
theorem dX14_figures_44 : decode cX14_figures 44 = .ok (.if_icmp .ge 28, 3) := dk_162 0 28 (dk_at dksX14_figures_1 20 rfl rfl)
theorem dX14_figures_47 : decode cX14_figures 47 = .ok (.iload_n 1, 1) := dk_27 (dk_at dksX14_figures_1 23 rfl rfl)
theorem dX14_figures_48 : decode cX14_figures 48 = .ok (.ifCond .lt 24, 3) := dk_155 0 24 (dk_at dksX14_figures_2 0 rfl rfl)
theorem dX14_figures_51 : decode cX14_figures 51 = .ok (.bipush 10, 2) := dk_16 10 (dk_at dksX14_figures_2 3 rfl rfl)
theorem dX14_figures_53 : decode cX14_figures 53 = .ok (.iload_n 1, 1) := dk_27 (dk_at dksX14_figures_2 5 rfl rfl)
theorem dX14_figures_54 : decode cX14_figures 54 = .ok (.imul, 1) := dk_104 (dk_at dksX14_figures_2 6 rfl rfl)
theorem dX14_figures_55 : decode cX14_figures 55 = .ok (.aload_n 0, 1) := dk_42 (dk_at dksX14_figures_2 7 rfl rfl)
theorem dX14_figures_56 : decode cX14_figures 56 = .ok (.getfield 25, 3) := dk_180 0 25 (dk_at dksX14_figures_2 8 rfl rfl)
theorem dX14_figures_59 : decode cX14_figures 59 = .ok (.iload_n 2, 1) := dk_28 (dk_at dksX14_figures_2 11 rfl rfl)
theorem dX14_figures_60 : decode cX14_figures 60 = .ok (.iaload, 1) := dk_46 (dk_at dksX14_figures_2 12 rfl rfl)
theorem dX14_figures_61 : decode cX14_figures 61 = .ok (.iadd, 1) := dk_96 (dk_at dksX14_figures_2 13 rfl rfl)
theorem dX14_figures_62 : decode cX14_figures 62 = .ok (.bipush 48, 2) := dk_16 48 (dk_at dksX14_figures_2 14 rfl rfl)
theorem dX14_figures_64 : decode cX14_figures 64 = .ok (.isub, 1) := dk_100 (dk_at dksX14_figures_2 16 rfl rfl)
theorem dX14_figures_65 : decode cX14_figures 65 = .ok (.istore_n 1, 1) := dk_60 (dk_at dksX14_figures_2 17 rfl rfl)
theorem dX14_figures_66 : decode cX14_figures 66 = .ok (.iinc 2 1, 3) := dk_132 2 1 (dk_at dksX14_figures_2 18 rfl rfl)
theorem dX14_figures_69 : decode cX14_figures 69 = .ok (.goto (-30), 3) := dk_167 255 226 (dk_at dksX14_figures_2 21 rfl rfl)
theorem dX14_figures_72 : decode cX14_figures 72 = .ok (.iload_n 1, 1) := dk_27 (dk_at dksX14_figures_3 0 rfl rfl)
theorem dX14_figures_73 : decode cX14_figures 73 = .ok (.ireturn, 1) := dk_172 (dk_at dksX14_figures_3 1 rfl rfl)
abbrev cX14_twoTold : ByteArray := prog_28_method_83_code
def yX14_twoTold : MethodName := ⟨RX14, "twoTold", "(IILjava/lang/String;I)V"⟩
def dkwX14_twoTold_2 : List UInt8 := [180, 0, 16, 27, 21, 5, 96, 21, 6, 79, 177]
abbrev dktX14_twoTold_2 : List UInt8 := dkwX14_twoTold_2 ++ []
def dkwX14_twoTold_1 : List UInt8 := [182, 1, 8, 182, 1, 2, 42, 3, 21, 4, 182, 1, 27, 54, 6, 42, 180, 0, 239, 154, 0, 14, 42]
abbrev dktX14_twoTold_1 : List UInt8 := dkwX14_twoTold_1 ++ dktX14_twoTold_2
def dkwX14_twoTold_0 : List UInt8 := [42, 4, 182, 1, 2, 42, 3, 28, 182, 1, 27, 54, 5, 45, 182, 0, 243, 158, 0, 12, 42, 42, 45]
abbrev dktX14_twoTold_0 : List UInt8 := dkwX14_twoTold_0 ++ dktX14_twoTold_1
theorem dksX14_twoTold_0 : cX14_twoTold.data.toList.drop 0 = dktX14_twoTold_0 := by decide +kernel
theorem dksX14_twoTold_1 : cX14_twoTold.data.toList.drop 23 = dktX14_twoTold_1 := dk_seg dksX14_twoTold_0 23 rfl rfl
theorem dksX14_twoTold_2 : cX14_twoTold.data.toList.drop 46 = dktX14_twoTold_2 := dk_seg dksX14_twoTold_1 23 rfl rfl
theorem dX14_twoTold_0 : decode cX14_twoTold 0 = .ok (.aload_n 0, 1) := dk_42 (dk_at dksX14_twoTold_0 0 rfl rfl)
theorem dX14_twoTold_1 : decode cX14_twoTold 1 = .ok (.iconst 1, 1) := dk_4 (dk_at dksX14_twoTold_0 1 rfl rfl)
theorem dX14_twoTold_2 : decode cX14_twoTold 2 = .ok (.invokevirtual 258, 3) := dk_182 1 2 (dk_at dksX14_twoTold_0 2 rfl rfl)
theorem dX14_twoTold_5 : decode cX14_twoTold 5 = .ok (.aload_n 0, 1) := dk_42 (dk_at dksX14_twoTold_0 5 rfl rfl)
theorem dX14_twoTold_6 : decode cX14_twoTold 6 = .ok (.iconst 0, 1) := dk_3 (dk_at dksX14_twoTold_0 6 rfl rfl)
theorem dX14_twoTold_7 : decode cX14_twoTold 7 = .ok (.iload_n 2, 1) := dk_28 (dk_at dksX14_twoTold_0 7 rfl rfl)
theorem dX14_twoTold_8 : decode cX14_twoTold 8 = .ok (.invokevirtual 283, 3) := dk_182 1 27 (dk_at dksX14_twoTold_0 8 rfl rfl)
theorem dX14_twoTold_11 : decode cX14_twoTold 11 = .ok (.istore 5, 2) := dk_54 5 (dk_at dksX14_twoTold_0 11 rfl rfl)
theorem dX14_twoTold_13 : decode cX14_twoTold 13 = .ok (.aload_n 3, 1) := dk_45 (dk_at dksX14_twoTold_0 13 rfl rfl)
theorem dX14_twoTold_14 : decode cX14_twoTold 14 = .ok (.invokevirtual 243, 3) := dk_182 0 243 (dk_at dksX14_twoTold_0 14 rfl rfl)
theorem dX14_twoTold_17 : decode cX14_twoTold 17 = .ok (.ifCond .le 12, 3) := dk_158 0 12 (dk_at dksX14_twoTold_0 17 rfl rfl)
theorem dX14_twoTold_20 : decode cX14_twoTold 20 = .ok (.aload_n 0, 1) := dk_42 (dk_at dksX14_twoTold_0 20 rfl rfl)
theorem dX14_twoTold_21 : decode cX14_twoTold 21 = .ok (.aload_n 0, 1) := dk_42 (dk_at dksX14_twoTold_0 21 rfl rfl)
theorem dX14_twoTold_22 : decode cX14_twoTold 22 = .ok (.aload_n 3, 1) := dk_45 (dk_at dksX14_twoTold_0 22 rfl rfl)
theorem dX14_twoTold_23 : decode cX14_twoTold 23 = .ok (.invokevirtual 264, 3) := dk_182 1 8 (dk_at dksX14_twoTold_1 0 rfl rfl)
theorem dX14_twoTold_26 : decode cX14_twoTold 26 = .ok (.invokevirtual 258, 3) := dk_182 1 2 (dk_at dksX14_twoTold_1 3 rfl rfl)
theorem dX14_twoTold_29 : decode cX14_twoTold 29 = .ok (.aload_n 0, 1) := dk_42 (dk_at dksX14_twoTold_1 6 rfl rfl)
theorem dX14_twoTold_30 : decode cX14_twoTold 30 = .ok (.iconst 0, 1) := dk_3 (dk_at dksX14_twoTold_1 7 rfl rfl)
theorem dX14_twoTold_31 : decode cX14_twoTold 31 = .ok (.iload 4, 2) := dk_21 4 (dk_at dksX14_twoTold_1 8 rfl rfl)
theorem dX14_twoTold_33 : decode cX14_twoTold 33 = .ok (.invokevirtual 283, 3) := dk_182 1 27 (dk_at dksX14_twoTold_1 10 rfl rfl)
theorem dX14_twoTold_36 : decode cX14_twoTold 36 = .ok (.istore 6, 2) := dk_54 6 (dk_at dksX14_twoTold_1 13 rfl rfl)
theorem dX14_twoTold_38 : decode cX14_twoTold 38 = .ok (.aload_n 0, 1) := dk_42 (dk_at dksX14_twoTold_1 15 rfl rfl)
theorem dX14_twoTold_39 : decode cX14_twoTold 39 = .ok (.getfield 239, 3) := dk_180 0 239 (dk_at dksX14_twoTold_1 16 rfl rfl)
theorem dX14_twoTold_42 : decode cX14_twoTold 42 = .ok (.ifCond .ne 14, 3) := dk_154 0 14 (dk_at dksX14_twoTold_1 19 rfl rfl)
theorem dX14_twoTold_45 : decode cX14_twoTold 45 = .ok (.aload_n 0, 1) := dk_42 (dk_at dksX14_twoTold_1 22 rfl rfl)
theorem dX14_twoTold_46 : decode cX14_twoTold 46 = .ok (.getfield 16, 3) := dk_180 0 16 (dk_at dksX14_twoTold_2 0 rfl rfl)
theorem dX14_twoTold_49 : decode cX14_twoTold 49 = .ok (.iload_n 1, 1) := dk_27 (dk_at dksX14_twoTold_2 3 rfl rfl)
theorem dX14_twoTold_50 : decode cX14_twoTold 50 = .ok (.iload 5, 2) := dk_21 5 (dk_at dksX14_twoTold_2 4 rfl rfl)
theorem dX14_twoTold_52 : decode cX14_twoTold 52 = .ok (.iadd, 1) := dk_96 (dk_at dksX14_twoTold_2 6 rfl rfl)
theorem dX14_twoTold_53 : decode cX14_twoTold 53 = .ok (.iload 6, 2) := dk_21 6 (dk_at dksX14_twoTold_2 7 rfl rfl)
theorem dX14_twoTold_55 : decode cX14_twoTold 55 = .ok (.iastore, 1) := dk_79 (dk_at dksX14_twoTold_2 9 rfl rfl)
theorem dX14_twoTold_56 : decode cX14_twoTold 56 = .ok (.return_, 1) := dk_177 (dk_at dksX14_twoTold_2 10 rfl rfl)
abbrev cX14_lawTold : ByteArray := prog_28_method_84_code
def yX14_lawTold : MethodName := ⟨RX14, "lawTold", "(I)V"⟩
def dkwX14_lawTold_1 : List UInt8 := [28, 79, 177]
abbrev dktX14_lawTold_1 : List UInt8 := dkwX14_lawTold_1 ++ []
def dkwX14_lawTold_0 : List UInt8 := [42, 3, 42, 180, 0, 9, 27, 46, 182, 1, 27, 61, 42, 180, 0, 239, 154, 0, 10, 42, 180, 0, 16, 27]
abbrev dktX14_lawTold_0 : List UInt8 := dkwX14_lawTold_0 ++ dktX14_lawTold_1
theorem dksX14_lawTold_0 : cX14_lawTold.data.toList.drop 0 = dktX14_lawTold_0 := by decide +kernel
theorem dksX14_lawTold_1 : cX14_lawTold.data.toList.drop 24 = dktX14_lawTold_1 := dk_seg dksX14_lawTold_0 24 rfl rfl
theorem dX14_lawTold_0 : decode cX14_lawTold 0 = .ok (.aload_n 0, 1) := dk_42 (dk_at dksX14_lawTold_0 0 rfl rfl)
theorem dX14_lawTold_1 : decode cX14_lawTold 1 = .ok (.iconst 0, 1) := dk_3 (dk_at dksX14_lawTold_0 1 rfl rfl)
theorem dX14_lawTold_2 : decode cX14_lawTold 2 = .ok (.aload_n 0, 1) := dk_42 (dk_at dksX14_lawTold_0 2 rfl rfl)
theorem dX14_lawTold_3 : decode cX14_lawTold 3 = .ok (.getfield 9, 3) := dk_180 0 9 (dk_at dksX14_lawTold_0 3 rfl rfl)
theorem dX14_lawTold_6 : decode cX14_lawTold 6 = .ok (.iload_n 1, 1) := dk_27 (dk_at dksX14_lawTold_0 6 rfl rfl)
theorem dX14_lawTold_7 : decode cX14_lawTold 7 = .ok (.iaload, 1) := dk_46 (dk_at dksX14_lawTold_0 7 rfl rfl)
theorem dX14_lawTold_8 : decode cX14_lawTold 8 = .ok (.invokevirtual 283, 3) := dk_182 1 27 (dk_at dksX14_lawTold_0 8 rfl rfl)
theorem dX14_lawTold_11 : decode cX14_lawTold 11 = .ok (.istore_n 2, 1) := dk_61 (dk_at dksX14_lawTold_0 11 rfl rfl)
theorem dX14_lawTold_12 : decode cX14_lawTold 12 = .ok (.aload_n 0, 1) := dk_42 (dk_at dksX14_lawTold_0 12 rfl rfl)
theorem dX14_lawTold_13 : decode cX14_lawTold 13 = .ok (.getfield 239, 3) := dk_180 0 239 (dk_at dksX14_lawTold_0 13 rfl rfl)
theorem dX14_lawTold_16 : decode cX14_lawTold 16 = .ok (.ifCond .ne 10, 3) := dk_154 0 10 (dk_at dksX14_lawTold_0 16 rfl rfl)
theorem dX14_lawTold_19 : decode cX14_lawTold 19 = .ok (.aload_n 0, 1) := dk_42 (dk_at dksX14_lawTold_0 19 rfl rfl)
theorem dX14_lawTold_20 : decode cX14_lawTold 20 = .ok (.getfield 16, 3) := dk_180 0 16 (dk_at dksX14_lawTold_0 20 rfl rfl)
theorem dX14_lawTold_23 : decode cX14_lawTold 23 = .ok (.iload_n 1, 1) := dk_27 (dk_at dksX14_lawTold_0 23 rfl rfl)
theorem dX14_lawTold_24 : decode cX14_lawTold 24 = .ok (.iload_n 2, 1) := dk_28 (dk_at dksX14_lawTold_1 0 rfl rfl)
theorem dX14_lawTold_25 : decode cX14_lawTold 25 = .ok (.iastore, 1) := dk_79 (dk_at dksX14_lawTold_1 1 rfl rfl)
theorem dX14_lawTold_26 : decode cX14_lawTold 26 = .ok (.return_, 1) := dk_177 (dk_at dksX14_lawTold_1 2 rfl rfl)
abbrev cX14_prove : ByteArray := prog_28_method_88_code
def yX14_prove : MethodName := ⟨RX14, "prove", "(II)I"⟩
def dkwX14_prove_4 : List UInt8 := [28, 181, 1, 73, 28, 172]
abbrev dktX14_prove_4 : List UInt8 := dkwX14_prove_4 ++ []
def dkwX14_prove_3 : List UInt8 := [180, 0, 28, 6, 29, 104, 5, 96, 42, 182, 0, 148, 79, 132, 3, 1, 167, 255, 197, 42, 182, 0, 164, 42]
abbrev dktX14_prove_3 : List UInt8 := dkwX14_prove_3 ++ dktX14_prove_4
def dkwX14_prove_2 : List UInt8 := [27, 4, 182, 0, 82, 96, 79, 42, 180, 0, 28, 6, 29, 104, 4, 96, 42, 27, 5, 182, 0, 82, 79, 42]
abbrev dktX14_prove_2 : List UInt8 := dkwX14_prove_2 ++ dktX14_prove_3
def dkwX14_prove_1 : List UInt8 := [182, 0, 161, 3, 62, 29, 28, 162, 0, 60, 42, 4, 182, 0, 145, 42, 180, 0, 28, 6, 29, 104, 4, 42]
abbrev dktX14_prove_1 : List UInt8 := dkwX14_prove_1 ++ dktX14_prove_2
def dkwX14_prove_0 : List UInt8 := [42, 27, 182, 0, 96, 153, 0, 15, 28, 133, 10, 20, 1, 76, 184, 0, 59, 154, 0, 5, 2, 172, 42]
abbrev dktX14_prove_0 : List UInt8 := dkwX14_prove_0 ++ dktX14_prove_1
theorem dksX14_prove_0 : cX14_prove.data.toList.drop 0 = dktX14_prove_0 := by decide +kernel
theorem dksX14_prove_1 : cX14_prove.data.toList.drop 23 = dktX14_prove_1 := dk_seg dksX14_prove_0 23 rfl rfl
theorem dksX14_prove_2 : cX14_prove.data.toList.drop 47 = dktX14_prove_2 := dk_seg dksX14_prove_1 24 rfl rfl
theorem dksX14_prove_3 : cX14_prove.data.toList.drop 71 = dktX14_prove_3 := dk_seg dksX14_prove_2 24 rfl rfl
theorem dksX14_prove_4 : cX14_prove.data.toList.drop 95 = dktX14_prove_4 := dk_seg dksX14_prove_3 24 rfl rfl
theorem dX14_prove_0 : decode cX14_prove 0 = .ok (.aload_n 0, 1) := dk_42 (dk_at dksX14_prove_0 0 rfl rfl)
theorem dX14_prove_1 : decode cX14_prove 1 = .ok (.iload_n 1, 1) := dk_27 (dk_at dksX14_prove_0 1 rfl rfl)
theorem dX14_prove_2 : decode cX14_prove 2 = .ok (.invokevirtual 96, 3) := dk_182 0 96 (dk_at dksX14_prove_0 2 rfl rfl)
theorem dX14_prove_5 : decode cX14_prove 5 = .ok (.ifCond .eq 15, 3) := dk_153 0 15 (dk_at dksX14_prove_0 5 rfl rfl)
theorem dX14_prove_8 : decode cX14_prove 8 = .ok (.iload_n 2, 1) := dk_28 (dk_at dksX14_prove_0 8 rfl rfl)
theorem dX14_prove_9 : decode cX14_prove 9 = .ok (.i2l, 1) := dk_133 (dk_at dksX14_prove_0 9 rfl rfl)
theorem dX14_prove_10 : decode cX14_prove 10 = .ok (.lconst 1, 1) := dk_10 (dk_at dksX14_prove_0 10 rfl rfl)
theorem dX14_prove_11 : decode cX14_prove 11 = .ok (.ldc2_w 332, 3) := dk_20 1 76 (dk_at dksX14_prove_0 11 rfl rfl)
theorem dX14_prove_14 : decode cX14_prove 14 = .ok (.invokestatic 59, 3) := dk_184 0 59 (dk_at dksX14_prove_0 14 rfl rfl)
theorem dX14_prove_17 : decode cX14_prove 17 = .ok (.ifCond .ne 5, 3) := dk_154 0 5 (dk_at dksX14_prove_0 17 rfl rfl)
theorem dX14_prove_20 : decode cX14_prove 20 = .ok (.iconst (-1), 1) := dk_2 (dk_at dksX14_prove_0 20 rfl rfl)
theorem dX14_prove_21 : decode cX14_prove 21 = .ok (.ireturn, 1) := dk_172 (dk_at dksX14_prove_0 21 rfl rfl)
theorem dX14_prove_22 : decode cX14_prove 22 = .ok (.aload_n 0, 1) := dk_42 (dk_at dksX14_prove_0 22 rfl rfl)
theorem dX14_prove_23 : decode cX14_prove 23 = .ok (.invokevirtual 161, 3) := dk_182 0 161 (dk_at dksX14_prove_1 0 rfl rfl)
theorem dX14_prove_26 : decode cX14_prove 26 = .ok (.iconst 0, 1) := dk_3 (dk_at dksX14_prove_1 3 rfl rfl)
theorem dX14_prove_27 : decode cX14_prove 27 = .ok (.istore_n 3, 1) := dk_62 (dk_at dksX14_prove_1 4 rfl rfl)
theorem dX14_prove_28 : decode cX14_prove 28 = .ok (.iload_n 3, 1) := dk_29 (dk_at dksX14_prove_1 5 rfl rfl)
theorem dX14_prove_29 : decode cX14_prove 29 = .ok (.iload_n 2, 1) := dk_28 (dk_at dksX14_prove_1 6 rfl rfl)
theorem dX14_prove_30 : decode cX14_prove 30 = .ok (.if_icmp .ge 60, 3) := dk_162 0 60 (dk_at dksX14_prove_1 7 rfl rfl)
theorem dX14_prove_33 : decode cX14_prove 33 = .ok (.aload_n 0, 1) := dk_42 (dk_at dksX14_prove_1 10 rfl rfl)
theorem dX14_prove_34 : decode cX14_prove 34 = .ok (.iconst 1, 1) := dk_4 (dk_at dksX14_prove_1 11 rfl rfl)
theorem dX14_prove_35 : decode cX14_prove 35 = .ok (.invokevirtual 145, 3) := dk_182 0 145 (dk_at dksX14_prove_1 12 rfl rfl)
theorem dX14_prove_38 : decode cX14_prove 38 = .ok (.aload_n 0, 1) := dk_42 (dk_at dksX14_prove_1 15 rfl rfl)
theorem dX14_prove_39 : decode cX14_prove 39 = .ok (.getfield 28, 3) := dk_180 0 28 (dk_at dksX14_prove_1 16 rfl rfl)
theorem dX14_prove_42 : decode cX14_prove 42 = .ok (.iconst 3, 1) := dk_6 (dk_at dksX14_prove_1 19 rfl rfl)
theorem dX14_prove_43 : decode cX14_prove 43 = .ok (.iload_n 3, 1) := dk_29 (dk_at dksX14_prove_1 20 rfl rfl)
theorem dX14_prove_44 : decode cX14_prove 44 = .ok (.imul, 1) := dk_104 (dk_at dksX14_prove_1 21 rfl rfl)
theorem dX14_prove_45 : decode cX14_prove 45 = .ok (.iconst 1, 1) := dk_4 (dk_at dksX14_prove_1 22 rfl rfl)
theorem dX14_prove_46 : decode cX14_prove 46 = .ok (.aload_n 0, 1) := dk_42 (dk_at dksX14_prove_1 23 rfl rfl)
theorem dX14_prove_47 : decode cX14_prove 47 = .ok (.iload_n 1, 1) := dk_27 (dk_at dksX14_prove_2 0 rfl rfl)
theorem dX14_prove_48 : decode cX14_prove 48 = .ok (.iconst 1, 1) := dk_4 (dk_at dksX14_prove_2 1 rfl rfl)
theorem dX14_prove_49 : decode cX14_prove 49 = .ok (.invokevirtual 82, 3) := dk_182 0 82 (dk_at dksX14_prove_2 2 rfl rfl)
theorem dX14_prove_52 : decode cX14_prove 52 = .ok (.iadd, 1) := dk_96 (dk_at dksX14_prove_2 5 rfl rfl)
theorem dX14_prove_53 : decode cX14_prove 53 = .ok (.iastore, 1) := dk_79 (dk_at dksX14_prove_2 6 rfl rfl)
theorem dX14_prove_54 : decode cX14_prove 54 = .ok (.aload_n 0, 1) := dk_42 (dk_at dksX14_prove_2 7 rfl rfl)
theorem dX14_prove_55 : decode cX14_prove 55 = .ok (.getfield 28, 3) := dk_180 0 28 (dk_at dksX14_prove_2 8 rfl rfl)
theorem dX14_prove_58 : decode cX14_prove 58 = .ok (.iconst 3, 1) := dk_6 (dk_at dksX14_prove_2 11 rfl rfl)
theorem dX14_prove_59 : decode cX14_prove 59 = .ok (.iload_n 3, 1) := dk_29 (dk_at dksX14_prove_2 12 rfl rfl)
theorem dX14_prove_60 : decode cX14_prove 60 = .ok (.imul, 1) := dk_104 (dk_at dksX14_prove_2 13 rfl rfl)
theorem dX14_prove_61 : decode cX14_prove 61 = .ok (.iconst 1, 1) := dk_4 (dk_at dksX14_prove_2 14 rfl rfl)
theorem dX14_prove_62 : decode cX14_prove 62 = .ok (.iadd, 1) := dk_96 (dk_at dksX14_prove_2 15 rfl rfl)
theorem dX14_prove_63 : decode cX14_prove 63 = .ok (.aload_n 0, 1) := dk_42 (dk_at dksX14_prove_2 16 rfl rfl)
theorem dX14_prove_64 : decode cX14_prove 64 = .ok (.iload_n 1, 1) := dk_27 (dk_at dksX14_prove_2 17 rfl rfl)
theorem dX14_prove_65 : decode cX14_prove 65 = .ok (.iconst 2, 1) := dk_5 (dk_at dksX14_prove_2 18 rfl rfl)
theorem dX14_prove_66 : decode cX14_prove 66 = .ok (.invokevirtual 82, 3) := dk_182 0 82 (dk_at dksX14_prove_2 19 rfl rfl)
theorem dX14_prove_69 : decode cX14_prove 69 = .ok (.iastore, 1) := dk_79 (dk_at dksX14_prove_2 22 rfl rfl)
theorem dX14_prove_70 : decode cX14_prove 70 = .ok (.aload_n 0, 1) := dk_42 (dk_at dksX14_prove_2 23 rfl rfl)
theorem dX14_prove_71 : decode cX14_prove 71 = .ok (.getfield 28, 3) := dk_180 0 28 (dk_at dksX14_prove_3 0 rfl rfl)
theorem dX14_prove_74 : decode cX14_prove 74 = .ok (.iconst 3, 1) := dk_6 (dk_at dksX14_prove_3 3 rfl rfl)
theorem dX14_prove_75 : decode cX14_prove 75 = .ok (.iload_n 3, 1) := dk_29 (dk_at dksX14_prove_3 4 rfl rfl)
theorem dX14_prove_76 : decode cX14_prove 76 = .ok (.imul, 1) := dk_104 (dk_at dksX14_prove_3 5 rfl rfl)
theorem dX14_prove_77 : decode cX14_prove 77 = .ok (.iconst 2, 1) := dk_5 (dk_at dksX14_prove_3 6 rfl rfl)
theorem dX14_prove_78 : decode cX14_prove 78 = .ok (.iadd, 1) := dk_96 (dk_at dksX14_prove_3 7 rfl rfl)
theorem dX14_prove_79 : decode cX14_prove 79 = .ok (.aload_n 0, 1) := dk_42 (dk_at dksX14_prove_3 8 rfl rfl)
theorem dX14_prove_80 : decode cX14_prove 80 = .ok (.invokevirtual 148, 3) := dk_182 0 148 (dk_at dksX14_prove_3 9 rfl rfl)
theorem dX14_prove_83 : decode cX14_prove 83 = .ok (.iastore, 1) := dk_79 (dk_at dksX14_prove_3 12 rfl rfl)
theorem dX14_prove_84 : decode cX14_prove 84 = .ok (.iinc 3 1, 3) := dk_132 3 1 (dk_at dksX14_prove_3 13 rfl rfl)
theorem dX14_prove_87 : decode cX14_prove 87 = .ok (.goto (-59), 3) := dk_167 255 197 (dk_at dksX14_prove_3 16 rfl rfl)
theorem dX14_prove_90 : decode cX14_prove 90 = .ok (.aload_n 0, 1) := dk_42 (dk_at dksX14_prove_3 19 rfl rfl)
theorem dX14_prove_91 : decode cX14_prove 91 = .ok (.invokevirtual 164, 3) := dk_182 0 164 (dk_at dksX14_prove_3 20 rfl rfl)
theorem dX14_prove_94 : decode cX14_prove 94 = .ok (.aload_n 0, 1) := dk_42 (dk_at dksX14_prove_3 23 rfl rfl)
theorem dX14_prove_95 : decode cX14_prove 95 = .ok (.iload_n 2, 1) := dk_28 (dk_at dksX14_prove_4 0 rfl rfl)
theorem dX14_prove_96 : decode cX14_prove 96 = .ok (.putfield 329, 3) := dk_181 1 73 (dk_at dksX14_prove_4 1 rfl rfl)
theorem dX14_prove_99 : decode cX14_prove 99 = .ok (.iload_n 2, 1) := dk_28 (dk_at dksX14_prove_4 4 rfl rfl)
theorem dX14_prove_100 : decode cX14_prove 100 = .ok (.ireturn, 1) := dk_172 (dk_at dksX14_prove_4 5 rfl rfl)
abbrev cX14_row : ByteArray := prog_28_method_90_code
def yX14_row : MethodName := ⟨RX14, "row", "(II)I"⟩
def dkwX14_row_1 : List UInt8 := [172]
abbrev dktX14_row_1 : List UInt8 := dkwX14_row_1 ++ []
def dkwX14_row_0 : List UInt8 := [42, 27, 28, 182, 1, 78, 153, 0, 16, 42, 180, 0, 28, 6, 27, 104, 28, 96, 46, 167, 0, 5, 16, 247]
abbrev dktX14_row_0 : List UInt8 := dkwX14_row_0 ++ dktX14_row_1
theorem dksX14_row_0 : cX14_row.data.toList.drop 0 = dktX14_row_0 := by decide +kernel
theorem dksX14_row_1 : cX14_row.data.toList.drop 24 = dktX14_row_1 := dk_seg dksX14_row_0 24 rfl rfl
theorem dX14_row_0 : decode cX14_row 0 = .ok (.aload_n 0, 1) := dk_42 (dk_at dksX14_row_0 0 rfl rfl)
theorem dX14_row_1 : decode cX14_row 1 = .ok (.iload_n 1, 1) := dk_27 (dk_at dksX14_row_0 1 rfl rfl)
theorem dX14_row_2 : decode cX14_row 2 = .ok (.iload_n 2, 1) := dk_28 (dk_at dksX14_row_0 2 rfl rfl)
theorem dX14_row_3 : decode cX14_row 3 = .ok (.invokevirtual 334, 3) := dk_182 1 78 (dk_at dksX14_row_0 3 rfl rfl)
theorem dX14_row_6 : decode cX14_row 6 = .ok (.ifCond .eq 16, 3) := dk_153 0 16 (dk_at dksX14_row_0 6 rfl rfl)
theorem dX14_row_9 : decode cX14_row 9 = .ok (.aload_n 0, 1) := dk_42 (dk_at dksX14_row_0 9 rfl rfl)
theorem dX14_row_10 : decode cX14_row 10 = .ok (.getfield 28, 3) := dk_180 0 28 (dk_at dksX14_row_0 10 rfl rfl)
theorem dX14_row_13 : decode cX14_row 13 = .ok (.iconst 3, 1) := dk_6 (dk_at dksX14_row_0 13 rfl rfl)
theorem dX14_row_14 : decode cX14_row 14 = .ok (.iload_n 1, 1) := dk_27 (dk_at dksX14_row_0 14 rfl rfl)
theorem dX14_row_15 : decode cX14_row 15 = .ok (.imul, 1) := dk_104 (dk_at dksX14_row_0 15 rfl rfl)
theorem dX14_row_16 : decode cX14_row 16 = .ok (.iload_n 2, 1) := dk_28 (dk_at dksX14_row_0 16 rfl rfl)
theorem dX14_row_17 : decode cX14_row 17 = .ok (.iadd, 1) := dk_96 (dk_at dksX14_row_0 17 rfl rfl)
theorem dX14_row_18 : decode cX14_row 18 = .ok (.iaload, 1) := dk_46 (dk_at dksX14_row_0 18 rfl rfl)
theorem dX14_row_19 : decode cX14_row 19 = .ok (.goto 5, 3) := dk_167 0 5 (dk_at dksX14_row_0 19 rfl rfl)
theorem dX14_row_22 : decode cX14_row 22 = .ok (.bipush (-9), 2) := dk_16 247 (dk_at dksX14_row_0 22 rfl rfl)
theorem dX14_row_24 : decode cX14_row 24 = .ok (.ireturn, 1) := dk_172 (dk_at dksX14_row_1 0 rfl rfl)
abbrev cX14_isCell : ByteArray := prog_28_method_89_code
def yX14_isCell : MethodName := ⟨RX14, "isCell", "(II)Z"⟩
def dkwX14_isCell_1 : List UInt8 := [184, 0, 59, 153, 0, 7, 4, 167, 0, 4, 3, 172]
abbrev dktX14_isCell_1 : List UInt8 := dkwX14_isCell_1 ++ []
def dkwX14_isCell_0 : List UInt8 := [27, 133, 9, 42, 180, 1, 73, 4, 100, 133, 184, 0, 59, 153, 0, 19, 28, 133, 9, 20, 0, 101]
abbrev dktX14_isCell_0 : List UInt8 := dkwX14_isCell_0 ++ dktX14_isCell_1
theorem dksX14_isCell_0 : cX14_isCell.data.toList.drop 0 = dktX14_isCell_0 := by decide +kernel
theorem dksX14_isCell_1 : cX14_isCell.data.toList.drop 22 = dktX14_isCell_1 := dk_seg dksX14_isCell_0 22 rfl rfl
theorem dX14_isCell_0 : decode cX14_isCell 0 = .ok (.iload_n 1, 1) := dk_27 (dk_at dksX14_isCell_0 0 rfl rfl)
theorem dX14_isCell_1 : decode cX14_isCell 1 = .ok (.i2l, 1) := dk_133 (dk_at dksX14_isCell_0 1 rfl rfl)
theorem dX14_isCell_2 : decode cX14_isCell 2 = .ok (.lconst 0, 1) := dk_9 (dk_at dksX14_isCell_0 2 rfl rfl)
theorem dX14_isCell_3 : decode cX14_isCell 3 = .ok (.aload_n 0, 1) := dk_42 (dk_at dksX14_isCell_0 3 rfl rfl)
theorem dX14_isCell_4 : decode cX14_isCell 4 = .ok (.getfield 329, 3) := dk_180 1 73 (dk_at dksX14_isCell_0 4 rfl rfl)
theorem dX14_isCell_7 : decode cX14_isCell 7 = .ok (.iconst 1, 1) := dk_4 (dk_at dksX14_isCell_0 7 rfl rfl)
theorem dX14_isCell_8 : decode cX14_isCell 8 = .ok (.isub, 1) := dk_100 (dk_at dksX14_isCell_0 8 rfl rfl)
theorem dX14_isCell_9 : decode cX14_isCell 9 = .ok (.i2l, 1) := dk_133 (dk_at dksX14_isCell_0 9 rfl rfl)
theorem dX14_isCell_10 : decode cX14_isCell 10 = .ok (.invokestatic 59, 3) := dk_184 0 59 (dk_at dksX14_isCell_0 10 rfl rfl)
theorem dX14_isCell_13 : decode cX14_isCell 13 = .ok (.ifCond .eq 19, 3) := dk_153 0 19 (dk_at dksX14_isCell_0 13 rfl rfl)
theorem dX14_isCell_16 : decode cX14_isCell 16 = .ok (.iload_n 2, 1) := dk_28 (dk_at dksX14_isCell_0 16 rfl rfl)
theorem dX14_isCell_17 : decode cX14_isCell 17 = .ok (.i2l, 1) := dk_133 (dk_at dksX14_isCell_0 17 rfl rfl)
theorem dX14_isCell_18 : decode cX14_isCell 18 = .ok (.lconst 0, 1) := dk_9 (dk_at dksX14_isCell_0 18 rfl rfl)
theorem dX14_isCell_19 : decode cX14_isCell 19 = .ok (.ldc2_w 101, 3) := dk_20 0 101 (dk_at dksX14_isCell_0 19 rfl rfl)
theorem dX14_isCell_22 : decode cX14_isCell 22 = .ok (.invokestatic 59, 3) := dk_184 0 59 (dk_at dksX14_isCell_1 0 rfl rfl)
theorem dX14_isCell_25 : decode cX14_isCell 25 = .ok (.ifCond .eq 7, 3) := dk_153 0 7 (dk_at dksX14_isCell_1 3 rfl rfl)
theorem dX14_isCell_28 : decode cX14_isCell 28 = .ok (.iconst 1, 1) := dk_4 (dk_at dksX14_isCell_1 6 rfl rfl)
theorem dX14_isCell_29 : decode cX14_isCell 29 = .ok (.goto 4, 3) := dk_167 0 4 (dk_at dksX14_isCell_1 7 rfl rfl)
theorem dX14_isCell_32 : decode cX14_isCell 32 = .ok (.iconst 0, 1) := dk_3 (dk_at dksX14_isCell_1 10 rfl rfl)
theorem dX14_isCell_33 : decode cX14_isCell 33 = .ok (.ireturn, 1) := dk_172 (dk_at dksX14_isCell_1 11 rfl rfl)
abbrev cX14_alterRow : ByteArray := prog_28_method_91_code
def yX14_alterRow : MethodName := ⟨RX14, "alterRow", "(III)I"⟩
def dkwX14_alterRow_1 : List UInt8 := [42, 180, 0, 28, 6, 27, 104, 28, 96, 29, 79, 21, 4, 172]
abbrev dktX14_alterRow_1 : List UInt8 := dkwX14_alterRow_1 ++ []
def dkwX14_alterRow_0 : List UInt8 := [42, 27, 28, 182, 1, 78, 154, 0, 6, 16, 247, 172, 42, 180, 0, 28, 6, 27, 104, 28, 96, 46, 54, 4]
abbrev dktX14_alterRow_0 : List UInt8 := dkwX14_alterRow_0 ++ dktX14_alterRow_1
theorem dksX14_alterRow_0 : cX14_alterRow.data.toList.drop 0 = dktX14_alterRow_0 := by decide +kernel
theorem dksX14_alterRow_1 : cX14_alterRow.data.toList.drop 24 = dktX14_alterRow_1 := dk_seg dksX14_alterRow_0 24 rfl rfl
theorem dX14_alterRow_0 : decode cX14_alterRow 0 = .ok (.aload_n 0, 1) := dk_42 (dk_at dksX14_alterRow_0 0 rfl rfl)
theorem dX14_alterRow_1 : decode cX14_alterRow 1 = .ok (.iload_n 1, 1) := dk_27 (dk_at dksX14_alterRow_0 1 rfl rfl)
theorem dX14_alterRow_2 : decode cX14_alterRow 2 = .ok (.iload_n 2, 1) := dk_28 (dk_at dksX14_alterRow_0 2 rfl rfl)
theorem dX14_alterRow_3 : decode cX14_alterRow 3 = .ok (.invokevirtual 334, 3) := dk_182 1 78 (dk_at dksX14_alterRow_0 3 rfl rfl)
theorem dX14_alterRow_6 : decode cX14_alterRow 6 = .ok (.ifCond .ne 6, 3) := dk_154 0 6 (dk_at dksX14_alterRow_0 6 rfl rfl)
theorem dX14_alterRow_9 : decode cX14_alterRow 9 = .ok (.bipush (-9), 2) := dk_16 247 (dk_at dksX14_alterRow_0 9 rfl rfl)
theorem dX14_alterRow_11 : decode cX14_alterRow 11 = .ok (.ireturn, 1) := dk_172 (dk_at dksX14_alterRow_0 11 rfl rfl)
theorem dX14_alterRow_12 : decode cX14_alterRow 12 = .ok (.aload_n 0, 1) := dk_42 (dk_at dksX14_alterRow_0 12 rfl rfl)
theorem dX14_alterRow_13 : decode cX14_alterRow 13 = .ok (.getfield 28, 3) := dk_180 0 28 (dk_at dksX14_alterRow_0 13 rfl rfl)
theorem dX14_alterRow_16 : decode cX14_alterRow 16 = .ok (.iconst 3, 1) := dk_6 (dk_at dksX14_alterRow_0 16 rfl rfl)
theorem dX14_alterRow_17 : decode cX14_alterRow 17 = .ok (.iload_n 1, 1) := dk_27 (dk_at dksX14_alterRow_0 17 rfl rfl)
theorem dX14_alterRow_18 : decode cX14_alterRow 18 = .ok (.imul, 1) := dk_104 (dk_at dksX14_alterRow_0 18 rfl rfl)
theorem dX14_alterRow_19 : decode cX14_alterRow 19 = .ok (.iload_n 2, 1) := dk_28 (dk_at dksX14_alterRow_0 19 rfl rfl)
theorem dX14_alterRow_20 : decode cX14_alterRow 20 = .ok (.iadd, 1) := dk_96 (dk_at dksX14_alterRow_0 20 rfl rfl)
theorem dX14_alterRow_21 : decode cX14_alterRow 21 = .ok (.iaload, 1) := dk_46 (dk_at dksX14_alterRow_0 21 rfl rfl)
theorem dX14_alterRow_22 : decode cX14_alterRow 22 = .ok (.istore 4, 2) := dk_54 4 (dk_at dksX14_alterRow_0 22 rfl rfl)
theorem dX14_alterRow_24 : decode cX14_alterRow 24 = .ok (.aload_n 0, 1) := dk_42 (dk_at dksX14_alterRow_1 0 rfl rfl)
theorem dX14_alterRow_25 : decode cX14_alterRow 25 = .ok (.getfield 28, 3) := dk_180 0 28 (dk_at dksX14_alterRow_1 1 rfl rfl)
theorem dX14_alterRow_28 : decode cX14_alterRow 28 = .ok (.iconst 3, 1) := dk_6 (dk_at dksX14_alterRow_1 4 rfl rfl)
theorem dX14_alterRow_29 : decode cX14_alterRow 29 = .ok (.iload_n 1, 1) := dk_27 (dk_at dksX14_alterRow_1 5 rfl rfl)
theorem dX14_alterRow_30 : decode cX14_alterRow 30 = .ok (.imul, 1) := dk_104 (dk_at dksX14_alterRow_1 6 rfl rfl)
theorem dX14_alterRow_31 : decode cX14_alterRow 31 = .ok (.iload_n 2, 1) := dk_28 (dk_at dksX14_alterRow_1 7 rfl rfl)
theorem dX14_alterRow_32 : decode cX14_alterRow 32 = .ok (.iadd, 1) := dk_96 (dk_at dksX14_alterRow_1 8 rfl rfl)
theorem dX14_alterRow_33 : decode cX14_alterRow 33 = .ok (.iload_n 3, 1) := dk_29 (dk_at dksX14_alterRow_1 9 rfl rfl)
theorem dX14_alterRow_34 : decode cX14_alterRow 34 = .ok (.iastore, 1) := dk_79 (dk_at dksX14_alterRow_1 10 rfl rfl)
theorem dX14_alterRow_35 : decode cX14_alterRow 35 = .ok (.iload 4, 2) := dk_21 4 (dk_at dksX14_alterRow_1 11 rfl rfl)
theorem dX14_alterRow_37 : decode cX14_alterRow 37 = .ok (.ireturn, 1) := dk_172 (dk_at dksX14_alterRow_1 13 rfl rfl)
abbrev cX14_judge : ByteArray := prog_28_method_93_code
def yX14_judge : MethodName := ⟨RX14, "judge", "(I)I"⟩
def dkwX14_judge_2 : List UInt8 := [162, 0, 9, 28, 4, 96, 167, 0, 4, 3, 172]
abbrev dktX14_judge_2 : List UInt8 := dkwX14_judge_2 ++ []
def dkwX14_judge_1 : List UInt8 := [42, 27, 28, 182, 1, 81, 153, 0, 9, 132, 2, 1, 167, 255, 236, 42, 182, 0, 164, 28, 42, 180, 1, 73]
abbrev dktX14_judge_1 : List UInt8 := dkwX14_judge_1 ++ dktX14_judge_2
def dkwX14_judge_0 : List UInt8 := [42, 27, 182, 0, 96, 154, 0, 5, 2, 172, 42, 182, 0, 161, 3, 61, 28, 42, 180, 1, 73, 162, 0, 18]
abbrev dktX14_judge_0 : List UInt8 := dkwX14_judge_0 ++ dktX14_judge_1
theorem dksX14_judge_0 : cX14_judge.data.toList.drop 0 = dktX14_judge_0 := by decide +kernel
theorem dksX14_judge_1 : cX14_judge.data.toList.drop 24 = dktX14_judge_1 := dk_seg dksX14_judge_0 24 rfl rfl
theorem dksX14_judge_2 : cX14_judge.data.toList.drop 48 = dktX14_judge_2 := dk_seg dksX14_judge_1 24 rfl rfl
theorem dX14_judge_0 : decode cX14_judge 0 = .ok (.aload_n 0, 1) := dk_42 (dk_at dksX14_judge_0 0 rfl rfl)
theorem dX14_judge_1 : decode cX14_judge 1 = .ok (.iload_n 1, 1) := dk_27 (dk_at dksX14_judge_0 1 rfl rfl)
theorem dX14_judge_2 : decode cX14_judge 2 = .ok (.invokevirtual 96, 3) := dk_182 0 96 (dk_at dksX14_judge_0 2 rfl rfl)
theorem dX14_judge_5 : decode cX14_judge 5 = .ok (.ifCond .ne 5, 3) := dk_154 0 5 (dk_at dksX14_judge_0 5 rfl rfl)
theorem dX14_judge_8 : decode cX14_judge 8 = .ok (.iconst (-1), 1) := dk_2 (dk_at dksX14_judge_0 8 rfl rfl)
theorem dX14_judge_9 : decode cX14_judge 9 = .ok (.ireturn, 1) := dk_172 (dk_at dksX14_judge_0 9 rfl rfl)
theorem dX14_judge_10 : decode cX14_judge 10 = .ok (.aload_n 0, 1) := dk_42 (dk_at dksX14_judge_0 10 rfl rfl)
theorem dX14_judge_11 : decode cX14_judge 11 = .ok (.invokevirtual 161, 3) := dk_182 0 161 (dk_at dksX14_judge_0 11 rfl rfl)
theorem dX14_judge_14 : decode cX14_judge 14 = .ok (.iconst 0, 1) := dk_3 (dk_at dksX14_judge_0 14 rfl rfl)
theorem dX14_judge_15 : decode cX14_judge 15 = .ok (.istore_n 2, 1) := dk_61 (dk_at dksX14_judge_0 15 rfl rfl)
theorem dX14_judge_16 : decode cX14_judge 16 = .ok (.iload_n 2, 1) := dk_28 (dk_at dksX14_judge_0 16 rfl rfl)
theorem dX14_judge_17 : decode cX14_judge 17 = .ok (.aload_n 0, 1) := dk_42 (dk_at dksX14_judge_0 17 rfl rfl)
theorem dX14_judge_18 : decode cX14_judge 18 = .ok (.getfield 329, 3) := dk_180 1 73 (dk_at dksX14_judge_0 18 rfl rfl)
theorem dX14_judge_21 : decode cX14_judge 21 = .ok (.if_icmp .ge 18, 3) := dk_162 0 18 (dk_at dksX14_judge_0 21 rfl rfl)
theorem dX14_judge_24 : decode cX14_judge 24 = .ok (.aload_n 0, 1) := dk_42 (dk_at dksX14_judge_1 0 rfl rfl)
theorem dX14_judge_25 : decode cX14_judge 25 = .ok (.iload_n 1, 1) := dk_27 (dk_at dksX14_judge_1 1 rfl rfl)
theorem dX14_judge_26 : decode cX14_judge 26 = .ok (.iload_n 2, 1) := dk_28 (dk_at dksX14_judge_1 2 rfl rfl)
theorem dX14_judge_27 : decode cX14_judge 27 = .ok (.invokevirtual 337, 3) := dk_182 1 81 (dk_at dksX14_judge_1 3 rfl rfl)
theorem dX14_judge_30 : decode cX14_judge 30 = .ok (.ifCond .eq 9, 3) := dk_153 0 9 (dk_at dksX14_judge_1 6 rfl rfl)
theorem dX14_judge_33 : decode cX14_judge 33 = .ok (.iinc 2 1, 3) := dk_132 2 1 (dk_at dksX14_judge_1 9 rfl rfl)
theorem dX14_judge_36 : decode cX14_judge 36 = .ok (.goto (-20), 3) := dk_167 255 236 (dk_at dksX14_judge_1 12 rfl rfl)
theorem dX14_judge_39 : decode cX14_judge 39 = .ok (.aload_n 0, 1) := dk_42 (dk_at dksX14_judge_1 15 rfl rfl)
theorem dX14_judge_40 : decode cX14_judge 40 = .ok (.invokevirtual 164, 3) := dk_182 0 164 (dk_at dksX14_judge_1 16 rfl rfl)
theorem dX14_judge_43 : decode cX14_judge 43 = .ok (.iload_n 2, 1) := dk_28 (dk_at dksX14_judge_1 19 rfl rfl)
theorem dX14_judge_44 : decode cX14_judge 44 = .ok (.aload_n 0, 1) := dk_42 (dk_at dksX14_judge_1 20 rfl rfl)
theorem dX14_judge_45 : decode cX14_judge 45 = .ok (.getfield 329, 3) := dk_180 1 73 (dk_at dksX14_judge_1 21 rfl rfl)
theorem dX14_judge_48 : decode cX14_judge 48 = .ok (.if_icmp .ge 9, 3) := dk_162 0 9 (dk_at dksX14_judge_2 0 rfl rfl)
theorem dX14_judge_51 : decode cX14_judge 51 = .ok (.iload_n 2, 1) := dk_28 (dk_at dksX14_judge_2 3 rfl rfl)
theorem dX14_judge_52 : decode cX14_judge 52 = .ok (.iconst 1, 1) := dk_4 (dk_at dksX14_judge_2 4 rfl rfl)
theorem dX14_judge_53 : decode cX14_judge 53 = .ok (.iadd, 1) := dk_96 (dk_at dksX14_judge_2 5 rfl rfl)
theorem dX14_judge_54 : decode cX14_judge 54 = .ok (.goto 4, 3) := dk_167 0 4 (dk_at dksX14_judge_2 6 rfl rfl)
theorem dX14_judge_57 : decode cX14_judge 57 = .ok (.iconst 0, 1) := dk_3 (dk_at dksX14_judge_2 9 rfl rfl)
theorem dX14_judge_58 : decode cX14_judge 58 = .ok (.ireturn, 1) := dk_172 (dk_at dksX14_judge_2 10 rfl rfl)
abbrev cX14_isRight : ByteArray := prog_28_method_92_code
def yX14_isRight : MethodName := ⟨RX14, "isRight", "(II)Z"⟩
def dkwX14_isRight_2 : List UInt8 := [28, 104, 5, 96, 46, 42, 182, 0, 148, 160, 0, 7, 4, 167, 0, 4, 3, 172]
abbrev dktX14_isRight_2 : List UInt8 := dkwX14_isRight_2 ++ []
def dkwX14_isRight_1 : List UInt8 := [42, 180, 0, 28, 6, 28, 104, 4, 96, 46, 42, 27, 5, 182, 0, 82, 160, 0, 24, 42, 180, 0, 28, 6]
abbrev dktX14_isRight_1 : List UInt8 := dkwX14_isRight_1 ++ dktX14_isRight_2
def dkwX14_isRight_0 : List UInt8 := [42, 4, 182, 0, 145, 42, 180, 0, 28, 6, 28, 104, 46, 4, 42, 27, 4, 182, 0, 82, 96, 160, 0, 43]
abbrev dktX14_isRight_0 : List UInt8 := dkwX14_isRight_0 ++ dktX14_isRight_1
theorem dksX14_isRight_0 : cX14_isRight.data.toList.drop 0 = dktX14_isRight_0 := by decide +kernel
theorem dksX14_isRight_1 : cX14_isRight.data.toList.drop 24 = dktX14_isRight_1 := dk_seg dksX14_isRight_0 24 rfl rfl
theorem dksX14_isRight_2 : cX14_isRight.data.toList.drop 48 = dktX14_isRight_2 := dk_seg dksX14_isRight_1 24 rfl rfl
theorem dX14_isRight_0 : decode cX14_isRight 0 = .ok (.aload_n 0, 1) := dk_42 (dk_at dksX14_isRight_0 0 rfl rfl)
theorem dX14_isRight_1 : decode cX14_isRight 1 = .ok (.iconst 1, 1) := dk_4 (dk_at dksX14_isRight_0 1 rfl rfl)
theorem dX14_isRight_2 : decode cX14_isRight 2 = .ok (.invokevirtual 145, 3) := dk_182 0 145 (dk_at dksX14_isRight_0 2 rfl rfl)
theorem dX14_isRight_5 : decode cX14_isRight 5 = .ok (.aload_n 0, 1) := dk_42 (dk_at dksX14_isRight_0 5 rfl rfl)
theorem dX14_isRight_6 : decode cX14_isRight 6 = .ok (.getfield 28, 3) := dk_180 0 28 (dk_at dksX14_isRight_0 6 rfl rfl)
theorem dX14_isRight_9 : decode cX14_isRight 9 = .ok (.iconst 3, 1) := dk_6 (dk_at dksX14_isRight_0 9 rfl rfl)
theorem dX14_isRight_10 : decode cX14_isRight 10 = .ok (.iload_n 2, 1) := dk_28 (dk_at dksX14_isRight_0 10 rfl rfl)
theorem dX14_isRight_11 : decode cX14_isRight 11 = .ok (.imul, 1) := dk_104 (dk_at dksX14_isRight_0 11 rfl rfl)
theorem dX14_isRight_12 : decode cX14_isRight 12 = .ok (.iaload, 1) := dk_46 (dk_at dksX14_isRight_0 12 rfl rfl)
theorem dX14_isRight_13 : decode cX14_isRight 13 = .ok (.iconst 1, 1) := dk_4 (dk_at dksX14_isRight_0 13 rfl rfl)
theorem dX14_isRight_14 : decode cX14_isRight 14 = .ok (.aload_n 0, 1) := dk_42 (dk_at dksX14_isRight_0 14 rfl rfl)
theorem dX14_isRight_15 : decode cX14_isRight 15 = .ok (.iload_n 1, 1) := dk_27 (dk_at dksX14_isRight_0 15 rfl rfl)
theorem dX14_isRight_16 : decode cX14_isRight 16 = .ok (.iconst 1, 1) := dk_4 (dk_at dksX14_isRight_0 16 rfl rfl)
theorem dX14_isRight_17 : decode cX14_isRight 17 = .ok (.invokevirtual 82, 3) := dk_182 0 82 (dk_at dksX14_isRight_0 17 rfl rfl)
theorem dX14_isRight_20 : decode cX14_isRight 20 = .ok (.iadd, 1) := dk_96 (dk_at dksX14_isRight_0 20 rfl rfl)
theorem dX14_isRight_21 : decode cX14_isRight 21 = .ok (.if_icmp .ne 43, 3) := dk_160 0 43 (dk_at dksX14_isRight_0 21 rfl rfl)
theorem dX14_isRight_24 : decode cX14_isRight 24 = .ok (.aload_n 0, 1) := dk_42 (dk_at dksX14_isRight_1 0 rfl rfl)
theorem dX14_isRight_25 : decode cX14_isRight 25 = .ok (.getfield 28, 3) := dk_180 0 28 (dk_at dksX14_isRight_1 1 rfl rfl)
theorem dX14_isRight_28 : decode cX14_isRight 28 = .ok (.iconst 3, 1) := dk_6 (dk_at dksX14_isRight_1 4 rfl rfl)
theorem dX14_isRight_29 : decode cX14_isRight 29 = .ok (.iload_n 2, 1) := dk_28 (dk_at dksX14_isRight_1 5 rfl rfl)
theorem dX14_isRight_30 : decode cX14_isRight 30 = .ok (.imul, 1) := dk_104 (dk_at dksX14_isRight_1 6 rfl rfl)
theorem dX14_isRight_31 : decode cX14_isRight 31 = .ok (.iconst 1, 1) := dk_4 (dk_at dksX14_isRight_1 7 rfl rfl)
theorem dX14_isRight_32 : decode cX14_isRight 32 = .ok (.iadd, 1) := dk_96 (dk_at dksX14_isRight_1 8 rfl rfl)
theorem dX14_isRight_33 : decode cX14_isRight 33 = .ok (.iaload, 1) := dk_46 (dk_at dksX14_isRight_1 9 rfl rfl)
theorem dX14_isRight_34 : decode cX14_isRight 34 = .ok (.aload_n 0, 1) := dk_42 (dk_at dksX14_isRight_1 10 rfl rfl)
theorem dX14_isRight_35 : decode cX14_isRight 35 = .ok (.iload_n 1, 1) := dk_27 (dk_at dksX14_isRight_1 11 rfl rfl)
theorem dX14_isRight_36 : decode cX14_isRight 36 = .ok (.iconst 2, 1) := dk_5 (dk_at dksX14_isRight_1 12 rfl rfl)
theorem dX14_isRight_37 : decode cX14_isRight 37 = .ok (.invokevirtual 82, 3) := dk_182 0 82 (dk_at dksX14_isRight_1 13 rfl rfl)
theorem dX14_isRight_40 : decode cX14_isRight 40 = .ok (.if_icmp .ne 24, 3) := dk_160 0 24 (dk_at dksX14_isRight_1 16 rfl rfl)
theorem dX14_isRight_43 : decode cX14_isRight 43 = .ok (.aload_n 0, 1) := dk_42 (dk_at dksX14_isRight_1 19 rfl rfl)
theorem dX14_isRight_44 : decode cX14_isRight 44 = .ok (.getfield 28, 3) := dk_180 0 28 (dk_at dksX14_isRight_1 20 rfl rfl)
theorem dX14_isRight_47 : decode cX14_isRight 47 = .ok (.iconst 3, 1) := dk_6 (dk_at dksX14_isRight_1 23 rfl rfl)
theorem dX14_isRight_48 : decode cX14_isRight 48 = .ok (.iload_n 2, 1) := dk_28 (dk_at dksX14_isRight_2 0 rfl rfl)
theorem dX14_isRight_49 : decode cX14_isRight 49 = .ok (.imul, 1) := dk_104 (dk_at dksX14_isRight_2 1 rfl rfl)
theorem dX14_isRight_50 : decode cX14_isRight 50 = .ok (.iconst 2, 1) := dk_5 (dk_at dksX14_isRight_2 2 rfl rfl)
theorem dX14_isRight_51 : decode cX14_isRight 51 = .ok (.iadd, 1) := dk_96 (dk_at dksX14_isRight_2 3 rfl rfl)
theorem dX14_isRight_52 : decode cX14_isRight 52 = .ok (.iaload, 1) := dk_46 (dk_at dksX14_isRight_2 4 rfl rfl)
theorem dX14_isRight_53 : decode cX14_isRight 53 = .ok (.aload_n 0, 1) := dk_42 (dk_at dksX14_isRight_2 5 rfl rfl)
theorem dX14_isRight_54 : decode cX14_isRight 54 = .ok (.invokevirtual 148, 3) := dk_182 0 148 (dk_at dksX14_isRight_2 6 rfl rfl)
theorem dX14_isRight_57 : decode cX14_isRight 57 = .ok (.if_icmp .ne 7, 3) := dk_160 0 7 (dk_at dksX14_isRight_2 9 rfl rfl)
theorem dX14_isRight_60 : decode cX14_isRight 60 = .ok (.iconst 1, 1) := dk_4 (dk_at dksX14_isRight_2 12 rfl rfl)
theorem dX14_isRight_61 : decode cX14_isRight 61 = .ok (.goto 4, 3) := dk_167 0 4 (dk_at dksX14_isRight_2 13 rfl rfl)
theorem dX14_isRight_64 : decode cX14_isRight 64 = .ok (.iconst 0, 1) := dk_3 (dk_at dksX14_isRight_2 16 rfl rfl)
theorem dX14_isRight_65 : decode cX14_isRight 65 = .ok (.ireturn, 1) := dk_172 (dk_at dksX14_isRight_2 17 rfl rfl)
abbrev cX14_minds : ByteArray := prog_28_method_95_code
def yX14_minds : MethodName := ⟨RX14, "minds", "(IIII)I"⟩
def dkwX14_minds_6 : List UInt8 := [96, 46, 182, 0, 130, 132, 5, 1, 167, 255, 212, 21, 4, 172]
abbrev dktX14_minds_6 : List UInt8 := dkwX14_minds_6 ++ []
def dkwX14_minds_5 : List UInt8 := [4, 182, 0, 82, 155, 0, 25, 42, 29, 21, 5, 96, 42, 180, 0, 37, 16, 40, 27, 104, 28, 96, 21, 5]
abbrev dktX14_minds_5 : List UInt8 := dkwX14_minds_5 ++ dktX14_minds_6
def dkwX14_minds_4 : List UInt8 := [46, 28, 100, 164, 0, 6, 16, 244, 172, 3, 54, 5, 21, 5, 21, 4, 162, 0, 43, 42, 29, 21, 5, 96]
abbrev dktX14_minds_4 : List UInt8 := dkwX14_minds_4 ++ dktX14_minds_5
def dkwX14_minds_3 : List UInt8 := [172, 28, 133, 9, 42, 180, 0, 34, 27, 46, 133, 184, 0, 59, 153, 0, 16, 21, 4, 42, 180, 0, 34, 27]
abbrev dktX14_minds_3 : List UInt8 := dkwX14_minds_3 ++ dktX14_minds_4
def dkwX14_minds_2 : List UInt8 := [180, 0, 31, 27, 46, 153, 0, 20, 42, 180, 0, 31, 27, 46, 156, 0, 8, 16, 245, 167, 0, 5, 16, 243]
abbrev dktX14_minds_2 : List UInt8 := dkwX14_minds_2 ++ dktX14_minds_3
def dkwX14_minds_1 : List UInt8 := [184, 0, 59, 153, 0, 17, 29, 21, 4, 96, 42, 180, 0, 16, 16, 6, 46, 164, 0, 5, 2, 172, 42]
abbrev dktX14_minds_1 : List UInt8 := dkwX14_minds_1 ++ dktX14_minds_2
def dkwX14_minds_0 : List UInt8 := [27, 184, 0, 209, 153, 0, 38, 42, 29, 182, 0, 96, 153, 0, 30, 21, 4, 133, 9, 20, 0, 201]
abbrev dktX14_minds_0 : List UInt8 := dkwX14_minds_0 ++ dktX14_minds_1
theorem dksX14_minds_0 : cX14_minds.data.toList.drop 0 = dktX14_minds_0 := by decide +kernel
theorem dksX14_minds_1 : cX14_minds.data.toList.drop 22 = dktX14_minds_1 := dk_seg dksX14_minds_0 22 rfl rfl
theorem dksX14_minds_2 : cX14_minds.data.toList.drop 45 = dktX14_minds_2 := dk_seg dksX14_minds_1 23 rfl rfl
theorem dksX14_minds_3 : cX14_minds.data.toList.drop 69 = dktX14_minds_3 := dk_seg dksX14_minds_2 24 rfl rfl
theorem dksX14_minds_4 : cX14_minds.data.toList.drop 93 = dktX14_minds_4 := dk_seg dksX14_minds_3 24 rfl rfl
theorem dksX14_minds_5 : cX14_minds.data.toList.drop 117 = dktX14_minds_5 := dk_seg dksX14_minds_4 24 rfl rfl
theorem dksX14_minds_6 : cX14_minds.data.toList.drop 141 = dktX14_minds_6 := dk_seg dksX14_minds_5 24 rfl rfl
theorem dX14_minds_0 : decode cX14_minds 0 = .ok (.iload_n 1, 1) := dk_27 (dk_at dksX14_minds_0 0 rfl rfl)
theorem dX14_minds_1 : decode cX14_minds 1 = .ok (.invokestatic 209, 3) := dk_184 0 209 (dk_at dksX14_minds_0 1 rfl rfl)
theorem dX14_minds_4 : decode cX14_minds 4 = .ok (.ifCond .eq 38, 3) := dk_153 0 38 (dk_at dksX14_minds_0 4 rfl rfl)
theorem dX14_minds_7 : decode cX14_minds 7 = .ok (.aload_n 0, 1) := dk_42 (dk_at dksX14_minds_0 7 rfl rfl)
theorem dX14_minds_8 : decode cX14_minds 8 = .ok (.iload_n 3, 1) := dk_29 (dk_at dksX14_minds_0 8 rfl rfl)
theorem dX14_minds_9 : decode cX14_minds 9 = .ok (.invokevirtual 96, 3) := dk_182 0 96 (dk_at dksX14_minds_0 9 rfl rfl)
theorem dX14_minds_12 : decode cX14_minds 12 = .ok (.ifCond .eq 30, 3) := dk_153 0 30 (dk_at dksX14_minds_0 12 rfl rfl)
theorem dX14_minds_15 : decode cX14_minds 15 = .ok (.iload 4, 2) := dk_21 4 (dk_at dksX14_minds_0 15 rfl rfl)
theorem dX14_minds_17 : decode cX14_minds 17 = .ok (.i2l, 1) := dk_133 (dk_at dksX14_minds_0 17 rfl rfl)
theorem dX14_minds_18 : decode cX14_minds 18 = .ok (.lconst 0, 1) := dk_9 (dk_at dksX14_minds_0 18 rfl rfl)
theorem dX14_minds_19 : decode cX14_minds 19 = .ok (.ldc2_w 201, 3) := dk_20 0 201 (dk_at dksX14_minds_0 19 rfl rfl)
theorem dX14_minds_22 : decode cX14_minds 22 = .ok (.invokestatic 59, 3) := dk_184 0 59 (dk_at dksX14_minds_1 0 rfl rfl)
theorem dX14_minds_25 : decode cX14_minds 25 = .ok (.ifCond .eq 17, 3) := dk_153 0 17 (dk_at dksX14_minds_1 3 rfl rfl)
theorem dX14_minds_28 : decode cX14_minds 28 = .ok (.iload_n 3, 1) := dk_29 (dk_at dksX14_minds_1 6 rfl rfl)
theorem dX14_minds_29 : decode cX14_minds 29 = .ok (.iload 4, 2) := dk_21 4 (dk_at dksX14_minds_1 7 rfl rfl)
theorem dX14_minds_31 : decode cX14_minds 31 = .ok (.iadd, 1) := dk_96 (dk_at dksX14_minds_1 9 rfl rfl)
theorem dX14_minds_32 : decode cX14_minds 32 = .ok (.aload_n 0, 1) := dk_42 (dk_at dksX14_minds_1 10 rfl rfl)
theorem dX14_minds_33 : decode cX14_minds 33 = .ok (.getfield 16, 3) := dk_180 0 16 (dk_at dksX14_minds_1 11 rfl rfl)
theorem dX14_minds_36 : decode cX14_minds 36 = .ok (.bipush 6, 2) := dk_16 6 (dk_at dksX14_minds_1 14 rfl rfl)
theorem dX14_minds_38 : decode cX14_minds 38 = .ok (.iaload, 1) := dk_46 (dk_at dksX14_minds_1 16 rfl rfl)
theorem dX14_minds_39 : decode cX14_minds 39 = .ok (.if_icmp .le 5, 3) := dk_164 0 5 (dk_at dksX14_minds_1 17 rfl rfl)
theorem dX14_minds_42 : decode cX14_minds 42 = .ok (.iconst (-1), 1) := dk_2 (dk_at dksX14_minds_1 20 rfl rfl)
theorem dX14_minds_43 : decode cX14_minds 43 = .ok (.ireturn, 1) := dk_172 (dk_at dksX14_minds_1 21 rfl rfl)
theorem dX14_minds_44 : decode cX14_minds 44 = .ok (.aload_n 0, 1) := dk_42 (dk_at dksX14_minds_1 22 rfl rfl)
theorem dX14_minds_45 : decode cX14_minds 45 = .ok (.getfield 31, 3) := dk_180 0 31 (dk_at dksX14_minds_2 0 rfl rfl)
theorem dX14_minds_48 : decode cX14_minds 48 = .ok (.iload_n 1, 1) := dk_27 (dk_at dksX14_minds_2 3 rfl rfl)
theorem dX14_minds_49 : decode cX14_minds 49 = .ok (.iaload, 1) := dk_46 (dk_at dksX14_minds_2 4 rfl rfl)
theorem dX14_minds_50 : decode cX14_minds 50 = .ok (.ifCond .eq 20, 3) := dk_153 0 20 (dk_at dksX14_minds_2 5 rfl rfl)
theorem dX14_minds_53 : decode cX14_minds 53 = .ok (.aload_n 0, 1) := dk_42 (dk_at dksX14_minds_2 8 rfl rfl)
theorem dX14_minds_54 : decode cX14_minds 54 = .ok (.getfield 31, 3) := dk_180 0 31 (dk_at dksX14_minds_2 9 rfl rfl)
theorem dX14_minds_57 : decode cX14_minds 57 = .ok (.iload_n 1, 1) := dk_27 (dk_at dksX14_minds_2 12 rfl rfl)
theorem dX14_minds_58 : decode cX14_minds 58 = .ok (.iaload, 1) := dk_46 (dk_at dksX14_minds_2 13 rfl rfl)
theorem dX14_minds_59 : decode cX14_minds 59 = .ok (.ifCond .ge 8, 3) := dk_156 0 8 (dk_at dksX14_minds_2 14 rfl rfl)
theorem dX14_minds_62 : decode cX14_minds 62 = .ok (.bipush (-11), 2) := dk_16 245 (dk_at dksX14_minds_2 17 rfl rfl)
theorem dX14_minds_64 : decode cX14_minds 64 = .ok (.goto 5, 3) := dk_167 0 5 (dk_at dksX14_minds_2 19 rfl rfl)
theorem dX14_minds_67 : decode cX14_minds 67 = .ok (.bipush (-13), 2) := dk_16 243 (dk_at dksX14_minds_2 22 rfl rfl)
theorem dX14_minds_69 : decode cX14_minds 69 = .ok (.ireturn, 1) := dk_172 (dk_at dksX14_minds_3 0 rfl rfl)
theorem dX14_minds_70 : decode cX14_minds 70 = .ok (.iload_n 2, 1) := dk_28 (dk_at dksX14_minds_3 1 rfl rfl)
theorem dX14_minds_71 : decode cX14_minds 71 = .ok (.i2l, 1) := dk_133 (dk_at dksX14_minds_3 2 rfl rfl)
theorem dX14_minds_72 : decode cX14_minds 72 = .ok (.lconst 0, 1) := dk_9 (dk_at dksX14_minds_3 3 rfl rfl)
theorem dX14_minds_73 : decode cX14_minds 73 = .ok (.aload_n 0, 1) := dk_42 (dk_at dksX14_minds_3 4 rfl rfl)
theorem dX14_minds_74 : decode cX14_minds 74 = .ok (.getfield 34, 3) := dk_180 0 34 (dk_at dksX14_minds_3 5 rfl rfl)
theorem dX14_minds_77 : decode cX14_minds 77 = .ok (.iload_n 1, 1) := dk_27 (dk_at dksX14_minds_3 8 rfl rfl)
theorem dX14_minds_78 : decode cX14_minds 78 = .ok (.iaload, 1) := dk_46 (dk_at dksX14_minds_3 9 rfl rfl)
theorem dX14_minds_79 : decode cX14_minds 79 = .ok (.i2l, 1) := dk_133 (dk_at dksX14_minds_3 10 rfl rfl)
theorem dX14_minds_80 : decode cX14_minds 80 = .ok (.invokestatic 59, 3) := dk_184 0 59 (dk_at dksX14_minds_3 11 rfl rfl)
theorem dX14_minds_83 : decode cX14_minds 83 = .ok (.ifCond .eq 16, 3) := dk_153 0 16 (dk_at dksX14_minds_3 14 rfl rfl)
theorem dX14_minds_86 : decode cX14_minds 86 = .ok (.iload 4, 2) := dk_21 4 (dk_at dksX14_minds_3 17 rfl rfl)
theorem dX14_minds_88 : decode cX14_minds 88 = .ok (.aload_n 0, 1) := dk_42 (dk_at dksX14_minds_3 19 rfl rfl)
theorem dX14_minds_89 : decode cX14_minds 89 = .ok (.getfield 34, 3) := dk_180 0 34 (dk_at dksX14_minds_3 20 rfl rfl)
theorem dX14_minds_92 : decode cX14_minds 92 = .ok (.iload_n 1, 1) := dk_27 (dk_at dksX14_minds_3 23 rfl rfl)
theorem dX14_minds_93 : decode cX14_minds 93 = .ok (.iaload, 1) := dk_46 (dk_at dksX14_minds_4 0 rfl rfl)
theorem dX14_minds_94 : decode cX14_minds 94 = .ok (.iload_n 2, 1) := dk_28 (dk_at dksX14_minds_4 1 rfl rfl)
theorem dX14_minds_95 : decode cX14_minds 95 = .ok (.isub, 1) := dk_100 (dk_at dksX14_minds_4 2 rfl rfl)
theorem dX14_minds_96 : decode cX14_minds 96 = .ok (.if_icmp .le 6, 3) := dk_164 0 6 (dk_at dksX14_minds_4 3 rfl rfl)
theorem dX14_minds_99 : decode cX14_minds 99 = .ok (.bipush (-12), 2) := dk_16 244 (dk_at dksX14_minds_4 6 rfl rfl)
theorem dX14_minds_101 : decode cX14_minds 101 = .ok (.ireturn, 1) := dk_172 (dk_at dksX14_minds_4 8 rfl rfl)
theorem dX14_minds_102 : decode cX14_minds 102 = .ok (.iconst 0, 1) := dk_3 (dk_at dksX14_minds_4 9 rfl rfl)
theorem dX14_minds_103 : decode cX14_minds 103 = .ok (.istore 5, 2) := dk_54 5 (dk_at dksX14_minds_4 10 rfl rfl)
theorem dX14_minds_105 : decode cX14_minds 105 = .ok (.iload 5, 2) := dk_21 5 (dk_at dksX14_minds_4 12 rfl rfl)
theorem dX14_minds_107 : decode cX14_minds 107 = .ok (.iload 4, 2) := dk_21 4 (dk_at dksX14_minds_4 14 rfl rfl)
theorem dX14_minds_109 : decode cX14_minds 109 = .ok (.if_icmp .ge 43, 3) := dk_162 0 43 (dk_at dksX14_minds_4 16 rfl rfl)
theorem dX14_minds_112 : decode cX14_minds 112 = .ok (.aload_n 0, 1) := dk_42 (dk_at dksX14_minds_4 19 rfl rfl)
theorem dX14_minds_113 : decode cX14_minds 113 = .ok (.iload_n 3, 1) := dk_29 (dk_at dksX14_minds_4 20 rfl rfl)
theorem dX14_minds_114 : decode cX14_minds 114 = .ok (.iload 5, 2) := dk_21 5 (dk_at dksX14_minds_4 21 rfl rfl)
theorem dX14_minds_116 : decode cX14_minds 116 = .ok (.iadd, 1) := dk_96 (dk_at dksX14_minds_4 23 rfl rfl)
theorem dX14_minds_117 : decode cX14_minds 117 = .ok (.iconst 1, 1) := dk_4 (dk_at dksX14_minds_5 0 rfl rfl)
theorem dX14_minds_118 : decode cX14_minds 118 = .ok (.invokevirtual 82, 3) := dk_182 0 82 (dk_at dksX14_minds_5 1 rfl rfl)
theorem dX14_minds_121 : decode cX14_minds 121 = .ok (.ifCond .lt 25, 3) := dk_155 0 25 (dk_at dksX14_minds_5 4 rfl rfl)
theorem dX14_minds_124 : decode cX14_minds 124 = .ok (.aload_n 0, 1) := dk_42 (dk_at dksX14_minds_5 7 rfl rfl)
theorem dX14_minds_125 : decode cX14_minds 125 = .ok (.iload_n 3, 1) := dk_29 (dk_at dksX14_minds_5 8 rfl rfl)
theorem dX14_minds_126 : decode cX14_minds 126 = .ok (.iload 5, 2) := dk_21 5 (dk_at dksX14_minds_5 9 rfl rfl)
theorem dX14_minds_128 : decode cX14_minds 128 = .ok (.iadd, 1) := dk_96 (dk_at dksX14_minds_5 11 rfl rfl)
theorem dX14_minds_129 : decode cX14_minds 129 = .ok (.aload_n 0, 1) := dk_42 (dk_at dksX14_minds_5 12 rfl rfl)
theorem dX14_minds_130 : decode cX14_minds 130 = .ok (.getfield 37, 3) := dk_180 0 37 (dk_at dksX14_minds_5 13 rfl rfl)
theorem dX14_minds_133 : decode cX14_minds 133 = .ok (.bipush 40, 2) := dk_16 40 (dk_at dksX14_minds_5 16 rfl rfl)
theorem dX14_minds_135 : decode cX14_minds 135 = .ok (.iload_n 1, 1) := dk_27 (dk_at dksX14_minds_5 18 rfl rfl)
theorem dX14_minds_136 : decode cX14_minds 136 = .ok (.imul, 1) := dk_104 (dk_at dksX14_minds_5 19 rfl rfl)
theorem dX14_minds_137 : decode cX14_minds 137 = .ok (.iload_n 2, 1) := dk_28 (dk_at dksX14_minds_5 20 rfl rfl)
theorem dX14_minds_138 : decode cX14_minds 138 = .ok (.iadd, 1) := dk_96 (dk_at dksX14_minds_5 21 rfl rfl)
theorem dX14_minds_139 : decode cX14_minds 139 = .ok (.iload 5, 2) := dk_21 5 (dk_at dksX14_minds_5 22 rfl rfl)
theorem dX14_minds_141 : decode cX14_minds 141 = .ok (.iadd, 1) := dk_96 (dk_at dksX14_minds_6 0 rfl rfl)
theorem dX14_minds_142 : decode cX14_minds 142 = .ok (.iaload, 1) := dk_46 (dk_at dksX14_minds_6 1 rfl rfl)
theorem dX14_minds_143 : decode cX14_minds 143 = .ok (.invokevirtual 130, 3) := dk_182 0 130 (dk_at dksX14_minds_6 2 rfl rfl)
theorem dX14_minds_146 : decode cX14_minds 146 = .ok (.iinc 5 1, 3) := dk_132 5 1 (dk_at dksX14_minds_6 5 rfl rfl)
theorem dX14_minds_149 : decode cX14_minds 149 = .ok (.goto (-44), 3) := dk_167 255 212 (dk_at dksX14_minds_6 8 rfl rfl)
theorem dX14_minds_152 : decode cX14_minds 152 = .ok (.iload 4, 2) := dk_21 4 (dk_at dksX14_minds_6 11 rfl rfl)
theorem dX14_minds_154 : decode cX14_minds 154 = .ok (.ireturn, 1) := dk_172 (dk_at dksX14_minds_6 13 rfl rfl)
abbrev cX14_sheet : ByteArray := prog_28_method_96_code
def yX14_sheet : MethodName := ⟨RX14, "sheet", "(III)I"⟩
def dkwX14_sheet_4 : List UInt8 := [167, 255, 233, 4, 172]
abbrev dktX14_sheet_4 : List UInt8 := dkwX14_sheet_4 ++ []
def dkwX14_sheet_3 : List UInt8 := [21, 4, 16, 40, 162, 0, 22, 42, 180, 0, 37, 16, 40, 27, 104, 21, 4, 96, 3, 79, 132, 4, 1]
abbrev dktX14_sheet_3 : List UInt8 := dkwX14_sheet_3 ++ dktX14_sheet_4
def dkwX14_sheet_2 : List UInt8 := [180, 0, 31, 27, 28, 79, 42, 180, 0, 34, 27, 28, 156, 0, 7, 3, 167, 0, 4, 29, 79, 3, 54, 4]
abbrev dktX14_sheet_2 : List UInt8 := dkwX14_sheet_2 ++ dktX14_sheet_3
def dkwX14_sheet_1 : List UInt8 := [155, 0, 11, 29, 16, 40, 164, 0, 5, 2, 172, 28, 155, 0, 10, 29, 156, 0, 6, 16, 242, 172, 42]
abbrev dktX14_sheet_1 : List UInt8 := dkwX14_sheet_1 ++ dktX14_sheet_2
def dkwX14_sheet_0 : List UInt8 := [27, 184, 0, 209, 153, 0, 27, 28, 133, 20, 0, 216, 20, 0, 69, 184, 0, 59, 153, 0, 13, 28]
abbrev dktX14_sheet_0 : List UInt8 := dkwX14_sheet_0 ++ dktX14_sheet_1
theorem dksX14_sheet_0 : cX14_sheet.data.toList.drop 0 = dktX14_sheet_0 := by decide +kernel
theorem dksX14_sheet_1 : cX14_sheet.data.toList.drop 22 = dktX14_sheet_1 := dk_seg dksX14_sheet_0 22 rfl rfl
theorem dksX14_sheet_2 : cX14_sheet.data.toList.drop 45 = dktX14_sheet_2 := dk_seg dksX14_sheet_1 23 rfl rfl
theorem dksX14_sheet_3 : cX14_sheet.data.toList.drop 69 = dktX14_sheet_3 := dk_seg dksX14_sheet_2 24 rfl rfl
theorem dksX14_sheet_4 : cX14_sheet.data.toList.drop 92 = dktX14_sheet_4 := dk_seg dksX14_sheet_3 23 rfl rfl
theorem dX14_sheet_0 : decode cX14_sheet 0 = .ok (.iload_n 1, 1) := dk_27 (dk_at dksX14_sheet_0 0 rfl rfl)
theorem dX14_sheet_1 : decode cX14_sheet 1 = .ok (.invokestatic 209, 3) := dk_184 0 209 (dk_at dksX14_sheet_0 1 rfl rfl)
theorem dX14_sheet_4 : decode cX14_sheet 4 = .ok (.ifCond .eq 27, 3) := dk_153 0 27 (dk_at dksX14_sheet_0 4 rfl rfl)
theorem dX14_sheet_7 : decode cX14_sheet 7 = .ok (.iload_n 2, 1) := dk_28 (dk_at dksX14_sheet_0 7 rfl rfl)
theorem dX14_sheet_8 : decode cX14_sheet 8 = .ok (.i2l, 1) := dk_133 (dk_at dksX14_sheet_0 8 rfl rfl)
theorem dX14_sheet_9 : decode cX14_sheet 9 = .ok (.ldc2_w 216, 3) := dk_20 0 216 (dk_at dksX14_sheet_0 9 rfl rfl)
theorem dX14_sheet_12 : decode cX14_sheet 12 = .ok (.ldc2_w 69, 3) := dk_20 0 69 (dk_at dksX14_sheet_0 12 rfl rfl)
theorem dX14_sheet_15 : decode cX14_sheet 15 = .ok (.invokestatic 59, 3) := dk_184 0 59 (dk_at dksX14_sheet_0 15 rfl rfl)
theorem dX14_sheet_18 : decode cX14_sheet 18 = .ok (.ifCond .eq 13, 3) := dk_153 0 13 (dk_at dksX14_sheet_0 18 rfl rfl)
theorem dX14_sheet_21 : decode cX14_sheet 21 = .ok (.iload_n 2, 1) := dk_28 (dk_at dksX14_sheet_0 21 rfl rfl)
theorem dX14_sheet_22 : decode cX14_sheet 22 = .ok (.ifCond .lt 11, 3) := dk_155 0 11 (dk_at dksX14_sheet_1 0 rfl rfl)
theorem dX14_sheet_25 : decode cX14_sheet 25 = .ok (.iload_n 3, 1) := dk_29 (dk_at dksX14_sheet_1 3 rfl rfl)
theorem dX14_sheet_26 : decode cX14_sheet 26 = .ok (.bipush 40, 2) := dk_16 40 (dk_at dksX14_sheet_1 4 rfl rfl)
theorem dX14_sheet_28 : decode cX14_sheet 28 = .ok (.if_icmp .le 5, 3) := dk_164 0 5 (dk_at dksX14_sheet_1 6 rfl rfl)
theorem dX14_sheet_31 : decode cX14_sheet 31 = .ok (.iconst (-1), 1) := dk_2 (dk_at dksX14_sheet_1 9 rfl rfl)
theorem dX14_sheet_32 : decode cX14_sheet 32 = .ok (.ireturn, 1) := dk_172 (dk_at dksX14_sheet_1 10 rfl rfl)
theorem dX14_sheet_33 : decode cX14_sheet 33 = .ok (.iload_n 2, 1) := dk_28 (dk_at dksX14_sheet_1 11 rfl rfl)
theorem dX14_sheet_34 : decode cX14_sheet 34 = .ok (.ifCond .lt 10, 3) := dk_155 0 10 (dk_at dksX14_sheet_1 12 rfl rfl)
theorem dX14_sheet_37 : decode cX14_sheet 37 = .ok (.iload_n 3, 1) := dk_29 (dk_at dksX14_sheet_1 15 rfl rfl)
theorem dX14_sheet_38 : decode cX14_sheet 38 = .ok (.ifCond .ge 6, 3) := dk_156 0 6 (dk_at dksX14_sheet_1 16 rfl rfl)
theorem dX14_sheet_41 : decode cX14_sheet 41 = .ok (.bipush (-14), 2) := dk_16 242 (dk_at dksX14_sheet_1 19 rfl rfl)
theorem dX14_sheet_43 : decode cX14_sheet 43 = .ok (.ireturn, 1) := dk_172 (dk_at dksX14_sheet_1 21 rfl rfl)
theorem dX14_sheet_44 : decode cX14_sheet 44 = .ok (.aload_n 0, 1) := dk_42 (dk_at dksX14_sheet_1 22 rfl rfl)
theorem dX14_sheet_45 : decode cX14_sheet 45 = .ok (.getfield 31, 3) := dk_180 0 31 (dk_at dksX14_sheet_2 0 rfl rfl)
theorem dX14_sheet_48 : decode cX14_sheet 48 = .ok (.iload_n 1, 1) := dk_27 (dk_at dksX14_sheet_2 3 rfl rfl)
theorem dX14_sheet_49 : decode cX14_sheet 49 = .ok (.iload_n 2, 1) := dk_28 (dk_at dksX14_sheet_2 4 rfl rfl)
theorem dX14_sheet_50 : decode cX14_sheet 50 = .ok (.iastore, 1) := dk_79 (dk_at dksX14_sheet_2 5 rfl rfl)
theorem dX14_sheet_51 : decode cX14_sheet 51 = .ok (.aload_n 0, 1) := dk_42 (dk_at dksX14_sheet_2 6 rfl rfl)
theorem dX14_sheet_52 : decode cX14_sheet 52 = .ok (.getfield 34, 3) := dk_180 0 34 (dk_at dksX14_sheet_2 7 rfl rfl)
theorem dX14_sheet_55 : decode cX14_sheet 55 = .ok (.iload_n 1, 1) := dk_27 (dk_at dksX14_sheet_2 10 rfl rfl)
theorem dX14_sheet_56 : decode cX14_sheet 56 = .ok (.iload_n 2, 1) := dk_28 (dk_at dksX14_sheet_2 11 rfl rfl)
theorem dX14_sheet_57 : decode cX14_sheet 57 = .ok (.ifCond .ge 7, 3) := dk_156 0 7 (dk_at dksX14_sheet_2 12 rfl rfl)
theorem dX14_sheet_60 : decode cX14_sheet 60 = .ok (.iconst 0, 1) := dk_3 (dk_at dksX14_sheet_2 15 rfl rfl)
theorem dX14_sheet_61 : decode cX14_sheet 61 = .ok (.goto 4, 3) := dk_167 0 4 (dk_at dksX14_sheet_2 16 rfl rfl)
theorem dX14_sheet_64 : decode cX14_sheet 64 = .ok (.iload_n 3, 1) := dk_29 (dk_at dksX14_sheet_2 19 rfl rfl)
theorem dX14_sheet_65 : decode cX14_sheet 65 = .ok (.iastore, 1) := dk_79 (dk_at dksX14_sheet_2 20 rfl rfl)
theorem dX14_sheet_66 : decode cX14_sheet 66 = .ok (.iconst 0, 1) := dk_3 (dk_at dksX14_sheet_2 21 rfl rfl)
theorem dX14_sheet_67 : decode cX14_sheet 67 = .ok (.istore 4, 2) := dk_54 4 (dk_at dksX14_sheet_2 22 rfl rfl)
theorem dX14_sheet_69 : decode cX14_sheet 69 = .ok (.iload 4, 2) := dk_21 4 (dk_at dksX14_sheet_3 0 rfl rfl)
theorem dX14_sheet_71 : decode cX14_sheet 71 = .ok (.bipush 40, 2) := dk_16 40 (dk_at dksX14_sheet_3 2 rfl rfl)
theorem dX14_sheet_73 : decode cX14_sheet 73 = .ok (.if_icmp .ge 22, 3) := dk_162 0 22 (dk_at dksX14_sheet_3 4 rfl rfl)
theorem dX14_sheet_76 : decode cX14_sheet 76 = .ok (.aload_n 0, 1) := dk_42 (dk_at dksX14_sheet_3 7 rfl rfl)
theorem dX14_sheet_77 : decode cX14_sheet 77 = .ok (.getfield 37, 3) := dk_180 0 37 (dk_at dksX14_sheet_3 8 rfl rfl)
theorem dX14_sheet_80 : decode cX14_sheet 80 = .ok (.bipush 40, 2) := dk_16 40 (dk_at dksX14_sheet_3 11 rfl rfl)
theorem dX14_sheet_82 : decode cX14_sheet 82 = .ok (.iload_n 1, 1) := dk_27 (dk_at dksX14_sheet_3 13 rfl rfl)
theorem dX14_sheet_83 : decode cX14_sheet 83 = .ok (.imul, 1) := dk_104 (dk_at dksX14_sheet_3 14 rfl rfl)
theorem dX14_sheet_84 : decode cX14_sheet 84 = .ok (.iload 4, 2) := dk_21 4 (dk_at dksX14_sheet_3 15 rfl rfl)
theorem dX14_sheet_86 : decode cX14_sheet 86 = .ok (.iadd, 1) := dk_96 (dk_at dksX14_sheet_3 17 rfl rfl)
theorem dX14_sheet_87 : decode cX14_sheet 87 = .ok (.iconst 0, 1) := dk_3 (dk_at dksX14_sheet_3 18 rfl rfl)
theorem dX14_sheet_88 : decode cX14_sheet 88 = .ok (.iastore, 1) := dk_79 (dk_at dksX14_sheet_3 19 rfl rfl)
theorem dX14_sheet_89 : decode cX14_sheet 89 = .ok (.iinc 4 1, 3) := dk_132 4 1 (dk_at dksX14_sheet_3 20 rfl rfl)
theorem dX14_sheet_92 : decode cX14_sheet 92 = .ok (.goto (-23), 3) := dk_167 255 233 (dk_at dksX14_sheet_4 0 rfl rfl)
theorem dX14_sheet_95 : decode cX14_sheet 95 = .ok (.iconst 1, 1) := dk_4 (dk_at dksX14_sheet_4 3 rfl rfl)
theorem dX14_sheet_96 : decode cX14_sheet 96 = .ok (.ireturn, 1) := dk_172 (dk_at dksX14_sheet_4 4 rfl rfl)
abbrev cX14_put : ByteArray := prog_28_method_98_code
def yX14_put : MethodName := ⟨RX14, "put", "(III)I"⟩
def dkwX14_put_2 : List UInt8 := [27, 104, 28, 96, 42, 180, 0, 31, 27, 46, 29, 184, 1, 84, 79, 4, 172]
abbrev dktX14_put_2 : List UInt8 := dkwX14_put_2 ++ []
def dkwX14_put_1 : List UInt8 := [42, 180, 0, 34, 27, 46, 4, 100, 133, 184, 0, 59, 154, 0, 6, 16, 244, 172, 42, 180, 0, 37, 16, 40]
abbrev dktX14_put_1 : List UInt8 := dkwX14_put_1 ++ dktX14_put_2
def dkwX14_put_0 : List UInt8 := [27, 184, 0, 209, 154, 0, 5, 2, 172, 42, 180, 0, 31, 27, 46, 156, 0, 6, 16, 245, 172, 28, 133, 9]
abbrev dktX14_put_0 : List UInt8 := dkwX14_put_0 ++ dktX14_put_1
theorem dksX14_put_0 : cX14_put.data.toList.drop 0 = dktX14_put_0 := by decide +kernel
theorem dksX14_put_1 : cX14_put.data.toList.drop 24 = dktX14_put_1 := dk_seg dksX14_put_0 24 rfl rfl
theorem dksX14_put_2 : cX14_put.data.toList.drop 48 = dktX14_put_2 := dk_seg dksX14_put_1 24 rfl rfl
theorem dX14_put_0 : decode cX14_put 0 = .ok (.iload_n 1, 1) := dk_27 (dk_at dksX14_put_0 0 rfl rfl)
theorem dX14_put_1 : decode cX14_put 1 = .ok (.invokestatic 209, 3) := dk_184 0 209 (dk_at dksX14_put_0 1 rfl rfl)
theorem dX14_put_4 : decode cX14_put 4 = .ok (.ifCond .ne 5, 3) := dk_154 0 5 (dk_at dksX14_put_0 4 rfl rfl)
theorem dX14_put_7 : decode cX14_put 7 = .ok (.iconst (-1), 1) := dk_2 (dk_at dksX14_put_0 7 rfl rfl)
theorem dX14_put_8 : decode cX14_put 8 = .ok (.ireturn, 1) := dk_172 (dk_at dksX14_put_0 8 rfl rfl)
theorem dX14_put_9 : decode cX14_put 9 = .ok (.aload_n 0, 1) := dk_42 (dk_at dksX14_put_0 9 rfl rfl)
theorem dX14_put_10 : decode cX14_put 10 = .ok (.getfield 31, 3) := dk_180 0 31 (dk_at dksX14_put_0 10 rfl rfl)
theorem dX14_put_13 : decode cX14_put 13 = .ok (.iload_n 1, 1) := dk_27 (dk_at dksX14_put_0 13 rfl rfl)
theorem dX14_put_14 : decode cX14_put 14 = .ok (.iaload, 1) := dk_46 (dk_at dksX14_put_0 14 rfl rfl)
theorem dX14_put_15 : decode cX14_put 15 = .ok (.ifCond .ge 6, 3) := dk_156 0 6 (dk_at dksX14_put_0 15 rfl rfl)
theorem dX14_put_18 : decode cX14_put 18 = .ok (.bipush (-11), 2) := dk_16 245 (dk_at dksX14_put_0 18 rfl rfl)
theorem dX14_put_20 : decode cX14_put 20 = .ok (.ireturn, 1) := dk_172 (dk_at dksX14_put_0 20 rfl rfl)
theorem dX14_put_21 : decode cX14_put 21 = .ok (.iload_n 2, 1) := dk_28 (dk_at dksX14_put_0 21 rfl rfl)
theorem dX14_put_22 : decode cX14_put 22 = .ok (.i2l, 1) := dk_133 (dk_at dksX14_put_0 22 rfl rfl)
theorem dX14_put_23 : decode cX14_put 23 = .ok (.lconst 0, 1) := dk_9 (dk_at dksX14_put_0 23 rfl rfl)
theorem dX14_put_24 : decode cX14_put 24 = .ok (.aload_n 0, 1) := dk_42 (dk_at dksX14_put_1 0 rfl rfl)
theorem dX14_put_25 : decode cX14_put 25 = .ok (.getfield 34, 3) := dk_180 0 34 (dk_at dksX14_put_1 1 rfl rfl)
theorem dX14_put_28 : decode cX14_put 28 = .ok (.iload_n 1, 1) := dk_27 (dk_at dksX14_put_1 4 rfl rfl)
theorem dX14_put_29 : decode cX14_put 29 = .ok (.iaload, 1) := dk_46 (dk_at dksX14_put_1 5 rfl rfl)
theorem dX14_put_30 : decode cX14_put 30 = .ok (.iconst 1, 1) := dk_4 (dk_at dksX14_put_1 6 rfl rfl)
theorem dX14_put_31 : decode cX14_put 31 = .ok (.isub, 1) := dk_100 (dk_at dksX14_put_1 7 rfl rfl)
theorem dX14_put_32 : decode cX14_put 32 = .ok (.i2l, 1) := dk_133 (dk_at dksX14_put_1 8 rfl rfl)
theorem dX14_put_33 : decode cX14_put 33 = .ok (.invokestatic 59, 3) := dk_184 0 59 (dk_at dksX14_put_1 9 rfl rfl)
theorem dX14_put_36 : decode cX14_put 36 = .ok (.ifCond .ne 6, 3) := dk_154 0 6 (dk_at dksX14_put_1 12 rfl rfl)
theorem dX14_put_39 : decode cX14_put 39 = .ok (.bipush (-12), 2) := dk_16 244 (dk_at dksX14_put_1 15 rfl rfl)
theorem dX14_put_41 : decode cX14_put 41 = .ok (.ireturn, 1) := dk_172 (dk_at dksX14_put_1 17 rfl rfl)
theorem dX14_put_42 : decode cX14_put 42 = .ok (.aload_n 0, 1) := dk_42 (dk_at dksX14_put_1 18 rfl rfl)
theorem dX14_put_43 : decode cX14_put 43 = .ok (.getfield 37, 3) := dk_180 0 37 (dk_at dksX14_put_1 19 rfl rfl)
theorem dX14_put_46 : decode cX14_put 46 = .ok (.bipush 40, 2) := dk_16 40 (dk_at dksX14_put_1 22 rfl rfl)
theorem dX14_put_48 : decode cX14_put 48 = .ok (.iload_n 1, 1) := dk_27 (dk_at dksX14_put_2 0 rfl rfl)
theorem dX14_put_49 : decode cX14_put 49 = .ok (.imul, 1) := dk_104 (dk_at dksX14_put_2 1 rfl rfl)
theorem dX14_put_50 : decode cX14_put 50 = .ok (.iload_n 2, 1) := dk_28 (dk_at dksX14_put_2 2 rfl rfl)
theorem dX14_put_51 : decode cX14_put 51 = .ok (.iadd, 1) := dk_96 (dk_at dksX14_put_2 3 rfl rfl)
theorem dX14_put_52 : decode cX14_put 52 = .ok (.aload_n 0, 1) := dk_42 (dk_at dksX14_put_2 4 rfl rfl)
theorem dX14_put_53 : decode cX14_put 53 = .ok (.getfield 31, 3) := dk_180 0 31 (dk_at dksX14_put_2 5 rfl rfl)
theorem dX14_put_56 : decode cX14_put 56 = .ok (.iload_n 1, 1) := dk_27 (dk_at dksX14_put_2 8 rfl rfl)
theorem dX14_put_57 : decode cX14_put 57 = .ok (.iaload, 1) := dk_46 (dk_at dksX14_put_2 9 rfl rfl)
theorem dX14_put_58 : decode cX14_put 58 = .ok (.iload_n 3, 1) := dk_29 (dk_at dksX14_put_2 10 rfl rfl)
theorem dX14_put_59 : decode cX14_put 59 = .ok (.invokestatic 340, 3) := dk_184 1 84 (dk_at dksX14_put_2 11 rfl rfl)
theorem dX14_put_62 : decode cX14_put 62 = .ok (.iastore, 1) := dk_79 (dk_at dksX14_put_2 14 rfl rfl)
theorem dX14_put_63 : decode cX14_put 63 = .ok (.iconst 1, 1) := dk_4 (dk_at dksX14_put_2 15 rfl rfl)
theorem dX14_put_64 : decode cX14_put 64 = .ok (.ireturn, 1) := dk_172 (dk_at dksX14_put_2 16 rfl rfl)
abbrev cX14_narrowed : ByteArray := prog_28_method_97_code
def yX14_narrowed : MethodName := ⟨RX14, "narrowed", "(II)I"⟩
def dkwX14_narrowed_0 : List UInt8 := [26, 154, 0, 8, 27, 145, 167, 0, 14, 26, 4, 160, 0, 8, 27, 147, 167, 0, 4, 27, 172]
abbrev dktX14_narrowed_0 : List UInt8 := dkwX14_narrowed_0 ++ []
theorem dksX14_narrowed_0 : cX14_narrowed.data.toList.drop 0 = dktX14_narrowed_0 := by decide +kernel
theorem dX14_narrowed_0 : decode cX14_narrowed 0 = .ok (.iload_n 0, 1) := dk_26 (dk_at dksX14_narrowed_0 0 rfl rfl)
theorem dX14_narrowed_1 : decode cX14_narrowed 1 = .ok (.ifCond .ne 8, 3) := dk_154 0 8 (dk_at dksX14_narrowed_0 1 rfl rfl)
theorem dX14_narrowed_4 : decode cX14_narrowed 4 = .ok (.iload_n 1, 1) := dk_27 (dk_at dksX14_narrowed_0 4 rfl rfl)
theorem dX14_narrowed_5 : decode cX14_narrowed 5 = .ok (.i2b, 1) := dk_145 (dk_at dksX14_narrowed_0 5 rfl rfl)
theorem dX14_narrowed_6 : decode cX14_narrowed 6 = .ok (.goto 14, 3) := dk_167 0 14 (dk_at dksX14_narrowed_0 6 rfl rfl)
theorem dX14_narrowed_9 : decode cX14_narrowed 9 = .ok (.iload_n 0, 1) := dk_26 (dk_at dksX14_narrowed_0 9 rfl rfl)
theorem dX14_narrowed_10 : decode cX14_narrowed 10 = .ok (.iconst 1, 1) := dk_4 (dk_at dksX14_narrowed_0 10 rfl rfl)
theorem dX14_narrowed_11 : decode cX14_narrowed 11 = .ok (.if_icmp .ne 8, 3) := dk_160 0 8 (dk_at dksX14_narrowed_0 11 rfl rfl)
theorem dX14_narrowed_14 : decode cX14_narrowed 14 = .ok (.iload_n 1, 1) := dk_27 (dk_at dksX14_narrowed_0 14 rfl rfl)
theorem dX14_narrowed_15 : decode cX14_narrowed 15 = .ok (.i2s, 1) := dk_147 (dk_at dksX14_narrowed_0 15 rfl rfl)
theorem dX14_narrowed_16 : decode cX14_narrowed 16 = .ok (.goto 4, 3) := dk_167 0 4 (dk_at dksX14_narrowed_0 16 rfl rfl)
theorem dX14_narrowed_19 : decode cX14_narrowed 19 = .ok (.iload_n 1, 1) := dk_27 (dk_at dksX14_narrowed_0 19 rfl rfl)
theorem dX14_narrowed_20 : decode cX14_narrowed 20 = .ok (.ireturn, 1) := dk_172 (dk_at dksX14_narrowed_0 20 rfl rfl)
abbrev cX14_item_2 : ByteArray := prog_28_method_99_code
def yX14_item_2 : MethodName := ⟨RX14, "item", "(III)I"⟩
def dkwX14_item_2_3 : List UInt8 := [27, 104, 29, 96, 46, 167, 0, 5, 16, 244, 172]
abbrev dktX14_item_2_3 : List UInt8 := dkwX14_item_2_3 ++ []
def dkwX14_item_2_2 : List UInt8 := [29, 133, 9, 42, 180, 0, 34, 27, 46, 4, 100, 133, 184, 0, 59, 153, 0, 17, 42, 180, 0, 37, 16, 40]
abbrev dktX14_item_2_2 : List UInt8 := dkwX14_item_2_2 ++ dktX14_item_2_3
def dkwX14_item_2_1 : List UInt8 := [180, 0, 31, 27, 46, 156, 0, 6, 16, 245, 172, 42, 180, 0, 31, 27, 46, 28, 159, 0, 6, 16, 243, 172]
abbrev dktX14_item_2_1 : List UInt8 := dkwX14_item_2_1 ++ dktX14_item_2_2
def dkwX14_item_2_0 : List UInt8 := [27, 184, 0, 209, 153, 0, 15, 28, 133, 9, 20, 0, 69, 184, 0, 59, 154, 0, 5, 2, 172, 42]
abbrev dktX14_item_2_0 : List UInt8 := dkwX14_item_2_0 ++ dktX14_item_2_1
theorem dksX14_item_2_0 : cX14_item_2.data.toList.drop 0 = dktX14_item_2_0 := by decide +kernel
theorem dksX14_item_2_1 : cX14_item_2.data.toList.drop 22 = dktX14_item_2_1 := dk_seg dksX14_item_2_0 22 rfl rfl
theorem dksX14_item_2_2 : cX14_item_2.data.toList.drop 46 = dktX14_item_2_2 := dk_seg dksX14_item_2_1 24 rfl rfl
theorem dksX14_item_2_3 : cX14_item_2.data.toList.drop 70 = dktX14_item_2_3 := dk_seg dksX14_item_2_2 24 rfl rfl
theorem dX14_item_2_0 : decode cX14_item_2 0 = .ok (.iload_n 1, 1) := dk_27 (dk_at dksX14_item_2_0 0 rfl rfl)
theorem dX14_item_2_1 : decode cX14_item_2 1 = .ok (.invokestatic 209, 3) := dk_184 0 209 (dk_at dksX14_item_2_0 1 rfl rfl)
theorem dX14_item_2_4 : decode cX14_item_2 4 = .ok (.ifCond .eq 15, 3) := dk_153 0 15 (dk_at dksX14_item_2_0 4 rfl rfl)
theorem dX14_item_2_7 : decode cX14_item_2 7 = .ok (.iload_n 2, 1) := dk_28 (dk_at dksX14_item_2_0 7 rfl rfl)
theorem dX14_item_2_8 : decode cX14_item_2 8 = .ok (.i2l, 1) := dk_133 (dk_at dksX14_item_2_0 8 rfl rfl)
theorem dX14_item_2_9 : decode cX14_item_2 9 = .ok (.lconst 0, 1) := dk_9 (dk_at dksX14_item_2_0 9 rfl rfl)
theorem dX14_item_2_10 : decode cX14_item_2 10 = .ok (.ldc2_w 69, 3) := dk_20 0 69 (dk_at dksX14_item_2_0 10 rfl rfl)
theorem dX14_item_2_13 : decode cX14_item_2 13 = .ok (.invokestatic 59, 3) := dk_184 0 59 (dk_at dksX14_item_2_0 13 rfl rfl)
theorem dX14_item_2_16 : decode cX14_item_2 16 = .ok (.ifCond .ne 5, 3) := dk_154 0 5 (dk_at dksX14_item_2_0 16 rfl rfl)
theorem dX14_item_2_19 : decode cX14_item_2 19 = .ok (.iconst (-1), 1) := dk_2 (dk_at dksX14_item_2_0 19 rfl rfl)
theorem dX14_item_2_20 : decode cX14_item_2 20 = .ok (.ireturn, 1) := dk_172 (dk_at dksX14_item_2_0 20 rfl rfl)
theorem dX14_item_2_21 : decode cX14_item_2 21 = .ok (.aload_n 0, 1) := dk_42 (dk_at dksX14_item_2_0 21 rfl rfl)
theorem dX14_item_2_22 : decode cX14_item_2 22 = .ok (.getfield 31, 3) := dk_180 0 31 (dk_at dksX14_item_2_1 0 rfl rfl)
theorem dX14_item_2_25 : decode cX14_item_2 25 = .ok (.iload_n 1, 1) := dk_27 (dk_at dksX14_item_2_1 3 rfl rfl)
theorem dX14_item_2_26 : decode cX14_item_2 26 = .ok (.iaload, 1) := dk_46 (dk_at dksX14_item_2_1 4 rfl rfl)
theorem dX14_item_2_27 : decode cX14_item_2 27 = .ok (.ifCond .ge 6, 3) := dk_156 0 6 (dk_at dksX14_item_2_1 5 rfl rfl)
theorem dX14_item_2_30 : decode cX14_item_2 30 = .ok (.bipush (-11), 2) := dk_16 245 (dk_at dksX14_item_2_1 8 rfl rfl)
theorem dX14_item_2_32 : decode cX14_item_2 32 = .ok (.ireturn, 1) := dk_172 (dk_at dksX14_item_2_1 10 rfl rfl)
theorem dX14_item_2_33 : decode cX14_item_2 33 = .ok (.aload_n 0, 1) := dk_42 (dk_at dksX14_item_2_1 11 rfl rfl)
theorem dX14_item_2_34 : decode cX14_item_2 34 = .ok (.getfield 31, 3) := dk_180 0 31 (dk_at dksX14_item_2_1 12 rfl rfl)
theorem dX14_item_2_37 : decode cX14_item_2 37 = .ok (.iload_n 1, 1) := dk_27 (dk_at dksX14_item_2_1 15 rfl rfl)
theorem dX14_item_2_38 : decode cX14_item_2 38 = .ok (.iaload, 1) := dk_46 (dk_at dksX14_item_2_1 16 rfl rfl)
theorem dX14_item_2_39 : decode cX14_item_2 39 = .ok (.iload_n 2, 1) := dk_28 (dk_at dksX14_item_2_1 17 rfl rfl)
theorem dX14_item_2_40 : decode cX14_item_2 40 = .ok (.if_icmp .eq 6, 3) := dk_159 0 6 (dk_at dksX14_item_2_1 18 rfl rfl)
theorem dX14_item_2_43 : decode cX14_item_2 43 = .ok (.bipush (-13), 2) := dk_16 243 (dk_at dksX14_item_2_1 21 rfl rfl)
theorem dX14_item_2_45 : decode cX14_item_2 45 = .ok (.ireturn, 1) := dk_172 (dk_at dksX14_item_2_1 23 rfl rfl)
theorem dX14_item_2_46 : decode cX14_item_2 46 = .ok (.iload_n 3, 1) := dk_29 (dk_at dksX14_item_2_2 0 rfl rfl)
theorem dX14_item_2_47 : decode cX14_item_2 47 = .ok (.i2l, 1) := dk_133 (dk_at dksX14_item_2_2 1 rfl rfl)
theorem dX14_item_2_48 : decode cX14_item_2 48 = .ok (.lconst 0, 1) := dk_9 (dk_at dksX14_item_2_2 2 rfl rfl)
theorem dX14_item_2_49 : decode cX14_item_2 49 = .ok (.aload_n 0, 1) := dk_42 (dk_at dksX14_item_2_2 3 rfl rfl)
theorem dX14_item_2_50 : decode cX14_item_2 50 = .ok (.getfield 34, 3) := dk_180 0 34 (dk_at dksX14_item_2_2 4 rfl rfl)
theorem dX14_item_2_53 : decode cX14_item_2 53 = .ok (.iload_n 1, 1) := dk_27 (dk_at dksX14_item_2_2 7 rfl rfl)
theorem dX14_item_2_54 : decode cX14_item_2 54 = .ok (.iaload, 1) := dk_46 (dk_at dksX14_item_2_2 8 rfl rfl)
theorem dX14_item_2_55 : decode cX14_item_2 55 = .ok (.iconst 1, 1) := dk_4 (dk_at dksX14_item_2_2 9 rfl rfl)
theorem dX14_item_2_56 : decode cX14_item_2 56 = .ok (.isub, 1) := dk_100 (dk_at dksX14_item_2_2 10 rfl rfl)
theorem dX14_item_2_57 : decode cX14_item_2 57 = .ok (.i2l, 1) := dk_133 (dk_at dksX14_item_2_2 11 rfl rfl)
theorem dX14_item_2_58 : decode cX14_item_2 58 = .ok (.invokestatic 59, 3) := dk_184 0 59 (dk_at dksX14_item_2_2 12 rfl rfl)
theorem dX14_item_2_61 : decode cX14_item_2 61 = .ok (.ifCond .eq 17, 3) := dk_153 0 17 (dk_at dksX14_item_2_2 15 rfl rfl)
theorem dX14_item_2_64 : decode cX14_item_2 64 = .ok (.aload_n 0, 1) := dk_42 (dk_at dksX14_item_2_2 18 rfl rfl)
theorem dX14_item_2_65 : decode cX14_item_2 65 = .ok (.getfield 37, 3) := dk_180 0 37 (dk_at dksX14_item_2_2 19 rfl rfl)
theorem dX14_item_2_68 : decode cX14_item_2 68 = .ok (.bipush 40, 2) := dk_16 40 (dk_at dksX14_item_2_2 22 rfl rfl)
theorem dX14_item_2_70 : decode cX14_item_2 70 = .ok (.iload_n 1, 1) := dk_27 (dk_at dksX14_item_2_3 0 rfl rfl)
theorem dX14_item_2_71 : decode cX14_item_2 71 = .ok (.imul, 1) := dk_104 (dk_at dksX14_item_2_3 1 rfl rfl)
theorem dX14_item_2_72 : decode cX14_item_2 72 = .ok (.iload_n 3, 1) := dk_29 (dk_at dksX14_item_2_3 2 rfl rfl)
theorem dX14_item_2_73 : decode cX14_item_2 73 = .ok (.iadd, 1) := dk_96 (dk_at dksX14_item_2_3 3 rfl rfl)
theorem dX14_item_2_74 : decode cX14_item_2 74 = .ok (.iaload, 1) := dk_46 (dk_at dksX14_item_2_3 4 rfl rfl)
theorem dX14_item_2_75 : decode cX14_item_2 75 = .ok (.goto 5, 3) := dk_167 0 5 (dk_at dksX14_item_2_3 5 rfl rfl)
theorem dX14_item_2_78 : decode cX14_item_2 78 = .ok (.bipush (-12), 2) := dk_16 244 (dk_at dksX14_item_2_3 8 rfl rfl)
theorem dX14_item_2_80 : decode cX14_item_2 80 = .ok (.ireturn, 1) := dk_172 (dk_at dksX14_item_2_3 10 rfl rfl)
abbrev cX14_shelf : ByteArray := prog_28_method_100_code
def yX14_shelf : MethodName := ⟨RX14, "shelf", "(III)I"⟩
def dkwX14_shelf_5 : List UInt8 := [42, 180, 0, 34, 29, 46, 167, 0, 4, 3, 79, 4, 172]
abbrev dktX14_shelf_5 : List UInt8 := dkwX14_shelf_5 ++ []
def dkwX14_shelf_4 : List UInt8 := [153, 0, 12, 42, 180, 0, 31, 29, 46, 167, 0, 4, 29, 79, 42, 180, 0, 46, 27, 21, 5, 153, 0, 12]
abbrev dktX14_shelf_4 : List UInt8 := dkwX14_shelf_4 ++ dktX14_shelf_5
def dkwX14_shelf_3 : List UInt8 := [42, 180, 0, 31, 29, 46, 156, 0, 7, 5, 167, 0, 4, 28, 79, 42, 180, 0, 43, 27, 21, 5]
abbrev dktX14_shelf_3 : List UInt8 := dkwX14_shelf_3 ++ dktX14_shelf_4
def dkwX14_shelf_2 : List UInt8 := [2, 172, 28, 4, 160, 0, 7, 4, 167, 0, 4, 3, 54, 5, 42, 180, 0, 40, 27, 21, 5, 153, 0, 16]
abbrev dktX14_shelf_2 : List UInt8 := dkwX14_shelf_2 ++ dktX14_shelf_3
def dkwX14_shelf_1 : List UInt8 := [28, 5, 160, 0, 7, 4, 167, 0, 4, 3, 54, 4, 27, 184, 0, 209, 153, 0, 8, 21, 4, 154, 0, 5]
abbrev dktX14_shelf_1 : List UInt8 := dkwX14_shelf_1 ++ dktX14_shelf_2
def dkwX14_shelf_0 : List UInt8 := [28, 154, 0, 11, 42, 29, 182, 0, 96, 167, 0, 25, 28, 4, 160, 0, 10, 29, 184, 0, 209, 167, 0, 13]
abbrev dktX14_shelf_0 : List UInt8 := dkwX14_shelf_0 ++ dktX14_shelf_1
theorem dksX14_shelf_0 : cX14_shelf.data.toList.drop 0 = dktX14_shelf_0 := by decide +kernel
theorem dksX14_shelf_1 : cX14_shelf.data.toList.drop 24 = dktX14_shelf_1 := dk_seg dksX14_shelf_0 24 rfl rfl
theorem dksX14_shelf_2 : cX14_shelf.data.toList.drop 48 = dktX14_shelf_2 := dk_seg dksX14_shelf_1 24 rfl rfl
theorem dksX14_shelf_3 : cX14_shelf.data.toList.drop 72 = dktX14_shelf_3 := dk_seg dksX14_shelf_2 24 rfl rfl
theorem dksX14_shelf_4 : cX14_shelf.data.toList.drop 94 = dktX14_shelf_4 := dk_seg dksX14_shelf_3 22 rfl rfl
theorem dksX14_shelf_5 : cX14_shelf.data.toList.drop 118 = dktX14_shelf_5 := dk_seg dksX14_shelf_4 24 rfl rfl
theorem dX14_shelf_0 : decode cX14_shelf 0 = .ok (.iload_n 2, 1) := dk_28 (dk_at dksX14_shelf_0 0 rfl rfl)
theorem dX14_shelf_1 : decode cX14_shelf 1 = .ok (.ifCond .ne 11, 3) := dk_154 0 11 (dk_at dksX14_shelf_0 1 rfl rfl)
theorem dX14_shelf_4 : decode cX14_shelf 4 = .ok (.aload_n 0, 1) := dk_42 (dk_at dksX14_shelf_0 4 rfl rfl)
theorem dX14_shelf_5 : decode cX14_shelf 5 = .ok (.iload_n 3, 1) := dk_29 (dk_at dksX14_shelf_0 5 rfl rfl)
theorem dX14_shelf_6 : decode cX14_shelf 6 = .ok (.invokevirtual 96, 3) := dk_182 0 96 (dk_at dksX14_shelf_0 6 rfl rfl)
theorem dX14_shelf_9 : decode cX14_shelf 9 = .ok (.goto 25, 3) := dk_167 0 25 (dk_at dksX14_shelf_0 9 rfl rfl)
theorem dX14_shelf_12 : decode cX14_shelf 12 = .ok (.iload_n 2, 1) := dk_28 (dk_at dksX14_shelf_0 12 rfl rfl)
theorem dX14_shelf_13 : decode cX14_shelf 13 = .ok (.iconst 1, 1) := dk_4 (dk_at dksX14_shelf_0 13 rfl rfl)
theorem dX14_shelf_14 : decode cX14_shelf 14 = .ok (.if_icmp .ne 10, 3) := dk_160 0 10 (dk_at dksX14_shelf_0 14 rfl rfl)
theorem dX14_shelf_17 : decode cX14_shelf 17 = .ok (.iload_n 3, 1) := dk_29 (dk_at dksX14_shelf_0 17 rfl rfl)
theorem dX14_shelf_18 : decode cX14_shelf 18 = .ok (.invokestatic 209, 3) := dk_184 0 209 (dk_at dksX14_shelf_0 18 rfl rfl)
theorem dX14_shelf_21 : decode cX14_shelf 21 = .ok (.goto 13, 3) := dk_167 0 13 (dk_at dksX14_shelf_0 21 rfl rfl)
theorem dX14_shelf_24 : decode cX14_shelf 24 = .ok (.iload_n 2, 1) := dk_28 (dk_at dksX14_shelf_1 0 rfl rfl)
theorem dX14_shelf_25 : decode cX14_shelf 25 = .ok (.iconst 2, 1) := dk_5 (dk_at dksX14_shelf_1 1 rfl rfl)
theorem dX14_shelf_26 : decode cX14_shelf 26 = .ok (.if_icmp .ne 7, 3) := dk_160 0 7 (dk_at dksX14_shelf_1 2 rfl rfl)
theorem dX14_shelf_29 : decode cX14_shelf 29 = .ok (.iconst 1, 1) := dk_4 (dk_at dksX14_shelf_1 5 rfl rfl)
theorem dX14_shelf_30 : decode cX14_shelf 30 = .ok (.goto 4, 3) := dk_167 0 4 (dk_at dksX14_shelf_1 6 rfl rfl)
theorem dX14_shelf_33 : decode cX14_shelf 33 = .ok (.iconst 0, 1) := dk_3 (dk_at dksX14_shelf_1 9 rfl rfl)
theorem dX14_shelf_34 : decode cX14_shelf 34 = .ok (.istore 4, 2) := dk_54 4 (dk_at dksX14_shelf_1 10 rfl rfl)
theorem dX14_shelf_36 : decode cX14_shelf 36 = .ok (.iload_n 1, 1) := dk_27 (dk_at dksX14_shelf_1 12 rfl rfl)
theorem dX14_shelf_37 : decode cX14_shelf 37 = .ok (.invokestatic 209, 3) := dk_184 0 209 (dk_at dksX14_shelf_1 13 rfl rfl)
theorem dX14_shelf_40 : decode cX14_shelf 40 = .ok (.ifCond .eq 8, 3) := dk_153 0 8 (dk_at dksX14_shelf_1 16 rfl rfl)
theorem dX14_shelf_43 : decode cX14_shelf 43 = .ok (.iload 4, 2) := dk_21 4 (dk_at dksX14_shelf_1 19 rfl rfl)
theorem dX14_shelf_45 : decode cX14_shelf 45 = .ok (.ifCond .ne 5, 3) := dk_154 0 5 (dk_at dksX14_shelf_1 21 rfl rfl)
theorem dX14_shelf_48 : decode cX14_shelf 48 = .ok (.iconst (-1), 1) := dk_2 (dk_at dksX14_shelf_2 0 rfl rfl)
theorem dX14_shelf_49 : decode cX14_shelf 49 = .ok (.ireturn, 1) := dk_172 (dk_at dksX14_shelf_2 1 rfl rfl)
theorem dX14_shelf_50 : decode cX14_shelf 50 = .ok (.iload_n 2, 1) := dk_28 (dk_at dksX14_shelf_2 2 rfl rfl)
theorem dX14_shelf_51 : decode cX14_shelf 51 = .ok (.iconst 1, 1) := dk_4 (dk_at dksX14_shelf_2 3 rfl rfl)
theorem dX14_shelf_52 : decode cX14_shelf 52 = .ok (.if_icmp .ne 7, 3) := dk_160 0 7 (dk_at dksX14_shelf_2 4 rfl rfl)
theorem dX14_shelf_55 : decode cX14_shelf 55 = .ok (.iconst 1, 1) := dk_4 (dk_at dksX14_shelf_2 7 rfl rfl)
theorem dX14_shelf_56 : decode cX14_shelf 56 = .ok (.goto 4, 3) := dk_167 0 4 (dk_at dksX14_shelf_2 8 rfl rfl)
theorem dX14_shelf_59 : decode cX14_shelf 59 = .ok (.iconst 0, 1) := dk_3 (dk_at dksX14_shelf_2 11 rfl rfl)
theorem dX14_shelf_60 : decode cX14_shelf 60 = .ok (.istore 5, 2) := dk_54 5 (dk_at dksX14_shelf_2 12 rfl rfl)
theorem dX14_shelf_62 : decode cX14_shelf 62 = .ok (.aload_n 0, 1) := dk_42 (dk_at dksX14_shelf_2 14 rfl rfl)
theorem dX14_shelf_63 : decode cX14_shelf 63 = .ok (.getfield 40, 3) := dk_180 0 40 (dk_at dksX14_shelf_2 15 rfl rfl)
theorem dX14_shelf_66 : decode cX14_shelf 66 = .ok (.iload_n 1, 1) := dk_27 (dk_at dksX14_shelf_2 18 rfl rfl)
theorem dX14_shelf_67 : decode cX14_shelf 67 = .ok (.iload 5, 2) := dk_21 5 (dk_at dksX14_shelf_2 19 rfl rfl)
theorem dX14_shelf_69 : decode cX14_shelf 69 = .ok (.ifCond .eq 16, 3) := dk_153 0 16 (dk_at dksX14_shelf_2 21 rfl rfl)
theorem dX14_shelf_72 : decode cX14_shelf 72 = .ok (.aload_n 0, 1) := dk_42 (dk_at dksX14_shelf_3 0 rfl rfl)
theorem dX14_shelf_73 : decode cX14_shelf 73 = .ok (.getfield 31, 3) := dk_180 0 31 (dk_at dksX14_shelf_3 1 rfl rfl)
theorem dX14_shelf_76 : decode cX14_shelf 76 = .ok (.iload_n 3, 1) := dk_29 (dk_at dksX14_shelf_3 4 rfl rfl)
theorem dX14_shelf_77 : decode cX14_shelf 77 = .ok (.iaload, 1) := dk_46 (dk_at dksX14_shelf_3 5 rfl rfl)
theorem dX14_shelf_78 : decode cX14_shelf 78 = .ok (.ifCond .ge 7, 3) := dk_156 0 7 (dk_at dksX14_shelf_3 6 rfl rfl)
theorem dX14_shelf_81 : decode cX14_shelf 81 = .ok (.iconst 2, 1) := dk_5 (dk_at dksX14_shelf_3 9 rfl rfl)
theorem dX14_shelf_82 : decode cX14_shelf 82 = .ok (.goto 4, 3) := dk_167 0 4 (dk_at dksX14_shelf_3 10 rfl rfl)
theorem dX14_shelf_85 : decode cX14_shelf 85 = .ok (.iload_n 2, 1) := dk_28 (dk_at dksX14_shelf_3 13 rfl rfl)
theorem dX14_shelf_86 : decode cX14_shelf 86 = .ok (.iastore, 1) := dk_79 (dk_at dksX14_shelf_3 14 rfl rfl)
theorem dX14_shelf_87 : decode cX14_shelf 87 = .ok (.aload_n 0, 1) := dk_42 (dk_at dksX14_shelf_3 15 rfl rfl)
theorem dX14_shelf_88 : decode cX14_shelf 88 = .ok (.getfield 43, 3) := dk_180 0 43 (dk_at dksX14_shelf_3 16 rfl rfl)
theorem dX14_shelf_91 : decode cX14_shelf 91 = .ok (.iload_n 1, 1) := dk_27 (dk_at dksX14_shelf_3 19 rfl rfl)
theorem dX14_shelf_92 : decode cX14_shelf 92 = .ok (.iload 5, 2) := dk_21 5 (dk_at dksX14_shelf_3 20 rfl rfl)
theorem dX14_shelf_94 : decode cX14_shelf 94 = .ok (.ifCond .eq 12, 3) := dk_153 0 12 (dk_at dksX14_shelf_4 0 rfl rfl)
theorem dX14_shelf_97 : decode cX14_shelf 97 = .ok (.aload_n 0, 1) := dk_42 (dk_at dksX14_shelf_4 3 rfl rfl)
theorem dX14_shelf_98 : decode cX14_shelf 98 = .ok (.getfield 31, 3) := dk_180 0 31 (dk_at dksX14_shelf_4 4 rfl rfl)
theorem dX14_shelf_101 : decode cX14_shelf 101 = .ok (.iload_n 3, 1) := dk_29 (dk_at dksX14_shelf_4 7 rfl rfl)
theorem dX14_shelf_102 : decode cX14_shelf 102 = .ok (.iaload, 1) := dk_46 (dk_at dksX14_shelf_4 8 rfl rfl)
theorem dX14_shelf_103 : decode cX14_shelf 103 = .ok (.goto 4, 3) := dk_167 0 4 (dk_at dksX14_shelf_4 9 rfl rfl)
theorem dX14_shelf_106 : decode cX14_shelf 106 = .ok (.iload_n 3, 1) := dk_29 (dk_at dksX14_shelf_4 12 rfl rfl)
theorem dX14_shelf_107 : decode cX14_shelf 107 = .ok (.iastore, 1) := dk_79 (dk_at dksX14_shelf_4 13 rfl rfl)
theorem dX14_shelf_108 : decode cX14_shelf 108 = .ok (.aload_n 0, 1) := dk_42 (dk_at dksX14_shelf_4 14 rfl rfl)
theorem dX14_shelf_109 : decode cX14_shelf 109 = .ok (.getfield 46, 3) := dk_180 0 46 (dk_at dksX14_shelf_4 15 rfl rfl)
theorem dX14_shelf_112 : decode cX14_shelf 112 = .ok (.iload_n 1, 1) := dk_27 (dk_at dksX14_shelf_4 18 rfl rfl)
theorem dX14_shelf_113 : decode cX14_shelf 113 = .ok (.iload 5, 2) := dk_21 5 (dk_at dksX14_shelf_4 19 rfl rfl)
theorem dX14_shelf_115 : decode cX14_shelf 115 = .ok (.ifCond .eq 12, 3) := dk_153 0 12 (dk_at dksX14_shelf_4 21 rfl rfl)
theorem dX14_shelf_118 : decode cX14_shelf 118 = .ok (.aload_n 0, 1) := dk_42 (dk_at dksX14_shelf_5 0 rfl rfl)
theorem dX14_shelf_119 : decode cX14_shelf 119 = .ok (.getfield 34, 3) := dk_180 0 34 (dk_at dksX14_shelf_5 1 rfl rfl)
theorem dX14_shelf_122 : decode cX14_shelf 122 = .ok (.iload_n 3, 1) := dk_29 (dk_at dksX14_shelf_5 4 rfl rfl)
theorem dX14_shelf_123 : decode cX14_shelf 123 = .ok (.iaload, 1) := dk_46 (dk_at dksX14_shelf_5 5 rfl rfl)
theorem dX14_shelf_124 : decode cX14_shelf 124 = .ok (.goto 4, 3) := dk_167 0 4 (dk_at dksX14_shelf_5 6 rfl rfl)
theorem dX14_shelf_127 : decode cX14_shelf 127 = .ok (.iconst 0, 1) := dk_3 (dk_at dksX14_shelf_5 9 rfl rfl)
theorem dX14_shelf_128 : decode cX14_shelf 128 = .ok (.iastore, 1) := dk_79 (dk_at dksX14_shelf_5 10 rfl rfl)
theorem dX14_shelf_129 : decode cX14_shelf 129 = .ok (.iconst 1, 1) := dk_4 (dk_at dksX14_shelf_5 11 rfl rfl)
theorem dX14_shelf_130 : decode cX14_shelf 130 = .ok (.ireturn, 1) := dk_172 (dk_at dksX14_shelf_5 12 rfl rfl)
abbrev cX14_taken : ByteArray := prog_28_method_102_code
def yX14_taken : MethodName := ⟨RX14, "taken", "(II)I"⟩
def dkwX14_taken_4 : List UInt8 := [182, 0, 82, 28, 184, 1, 92, 153, 0, 12, 42, 180, 0, 43, 27, 46, 167, 0, 5, 16, 243, 172]
abbrev dktX14_taken_4 : List UInt8 := dkwX14_taken_4 ++ []
def dkwX14_taken_3 : List UInt8 := [182, 1, 89, 154, 0, 6, 16, 245, 172, 28, 16, 10, 162, 0, 30, 42, 42, 180, 0, 43, 27, 46, 3]
abbrev dktX14_taken_3 : List UInt8 := dkwX14_taken_3 ++ dktX14_taken_4
def dkwX14_taken_2 : List UInt8 := [180, 0, 43, 27, 46, 160, 0, 12, 42, 180, 0, 46, 27, 46, 167, 0, 5, 16, 243, 172, 42, 27]
abbrev dktX14_taken_2 : List UInt8 := dkwX14_taken_2 ++ dktX14_taken_3
def dkwX14_taken_1 : List UInt8 := [184, 0, 59, 154, 0, 5, 2, 172, 42, 180, 0, 40, 27, 46, 4, 160, 0, 28, 28, 16, 10, 100, 42]
abbrev dktX14_taken_1 : List UInt8 := dkwX14_taken_1 ++ dktX14_taken_2
def dkwX14_taken_0 : List UInt8 := [27, 184, 0, 209, 153, 0, 24, 28, 184, 0, 89, 154, 0, 19, 28, 133, 20, 1, 76, 20, 1, 87]
abbrev dktX14_taken_0 : List UInt8 := dkwX14_taken_0 ++ dktX14_taken_1
theorem dksX14_taken_0 : cX14_taken.data.toList.drop 0 = dktX14_taken_0 := by decide +kernel
theorem dksX14_taken_1 : cX14_taken.data.toList.drop 22 = dktX14_taken_1 := dk_seg dksX14_taken_0 22 rfl rfl
theorem dksX14_taken_2 : cX14_taken.data.toList.drop 45 = dktX14_taken_2 := dk_seg dksX14_taken_1 23 rfl rfl
theorem dksX14_taken_3 : cX14_taken.data.toList.drop 67 = dktX14_taken_3 := dk_seg dksX14_taken_2 22 rfl rfl
theorem dksX14_taken_4 : cX14_taken.data.toList.drop 90 = dktX14_taken_4 := dk_seg dksX14_taken_3 23 rfl rfl
theorem dX14_taken_0 : decode cX14_taken 0 = .ok (.iload_n 1, 1) := dk_27 (dk_at dksX14_taken_0 0 rfl rfl)
theorem dX14_taken_1 : decode cX14_taken 1 = .ok (.invokestatic 209, 3) := dk_184 0 209 (dk_at dksX14_taken_0 1 rfl rfl)
theorem dX14_taken_4 : decode cX14_taken 4 = .ok (.ifCond .eq 24, 3) := dk_153 0 24 (dk_at dksX14_taken_0 4 rfl rfl)
theorem dX14_taken_7 : decode cX14_taken 7 = .ok (.iload_n 2, 1) := dk_28 (dk_at dksX14_taken_0 7 rfl rfl)
theorem dX14_taken_8 : decode cX14_taken 8 = .ok (.invokestatic 89, 3) := dk_184 0 89 (dk_at dksX14_taken_0 8 rfl rfl)
theorem dX14_taken_11 : decode cX14_taken 11 = .ok (.ifCond .ne 19, 3) := dk_154 0 19 (dk_at dksX14_taken_0 11 rfl rfl)
theorem dX14_taken_14 : decode cX14_taken 14 = .ok (.iload_n 2, 1) := dk_28 (dk_at dksX14_taken_0 14 rfl rfl)
theorem dX14_taken_15 : decode cX14_taken 15 = .ok (.i2l, 1) := dk_133 (dk_at dksX14_taken_0 15 rfl rfl)
theorem dX14_taken_16 : decode cX14_taken 16 = .ok (.ldc2_w 332, 3) := dk_20 1 76 (dk_at dksX14_taken_0 16 rfl rfl)
theorem dX14_taken_19 : decode cX14_taken 19 = .ok (.ldc2_w 343, 3) := dk_20 1 87 (dk_at dksX14_taken_0 19 rfl rfl)
theorem dX14_taken_22 : decode cX14_taken 22 = .ok (.invokestatic 59, 3) := dk_184 0 59 (dk_at dksX14_taken_1 0 rfl rfl)
theorem dX14_taken_25 : decode cX14_taken 25 = .ok (.ifCond .ne 5, 3) := dk_154 0 5 (dk_at dksX14_taken_1 3 rfl rfl)
theorem dX14_taken_28 : decode cX14_taken 28 = .ok (.iconst (-1), 1) := dk_2 (dk_at dksX14_taken_1 6 rfl rfl)
theorem dX14_taken_29 : decode cX14_taken 29 = .ok (.ireturn, 1) := dk_172 (dk_at dksX14_taken_1 7 rfl rfl)
theorem dX14_taken_30 : decode cX14_taken 30 = .ok (.aload_n 0, 1) := dk_42 (dk_at dksX14_taken_1 8 rfl rfl)
theorem dX14_taken_31 : decode cX14_taken 31 = .ok (.getfield 40, 3) := dk_180 0 40 (dk_at dksX14_taken_1 9 rfl rfl)
theorem dX14_taken_34 : decode cX14_taken 34 = .ok (.iload_n 1, 1) := dk_27 (dk_at dksX14_taken_1 12 rfl rfl)
theorem dX14_taken_35 : decode cX14_taken 35 = .ok (.iaload, 1) := dk_46 (dk_at dksX14_taken_1 13 rfl rfl)
theorem dX14_taken_36 : decode cX14_taken 36 = .ok (.iconst 1, 1) := dk_4 (dk_at dksX14_taken_1 14 rfl rfl)
theorem dX14_taken_37 : decode cX14_taken 37 = .ok (.if_icmp .ne 28, 3) := dk_160 0 28 (dk_at dksX14_taken_1 15 rfl rfl)
theorem dX14_taken_40 : decode cX14_taken 40 = .ok (.iload_n 2, 1) := dk_28 (dk_at dksX14_taken_1 18 rfl rfl)
theorem dX14_taken_41 : decode cX14_taken 41 = .ok (.bipush 10, 2) := dk_16 10 (dk_at dksX14_taken_1 19 rfl rfl)
theorem dX14_taken_43 : decode cX14_taken 43 = .ok (.isub, 1) := dk_100 (dk_at dksX14_taken_1 21 rfl rfl)
theorem dX14_taken_44 : decode cX14_taken 44 = .ok (.aload_n 0, 1) := dk_42 (dk_at dksX14_taken_1 22 rfl rfl)
theorem dX14_taken_45 : decode cX14_taken 45 = .ok (.getfield 43, 3) := dk_180 0 43 (dk_at dksX14_taken_2 0 rfl rfl)
theorem dX14_taken_48 : decode cX14_taken 48 = .ok (.iload_n 1, 1) := dk_27 (dk_at dksX14_taken_2 3 rfl rfl)
theorem dX14_taken_49 : decode cX14_taken 49 = .ok (.iaload, 1) := dk_46 (dk_at dksX14_taken_2 4 rfl rfl)
theorem dX14_taken_50 : decode cX14_taken 50 = .ok (.if_icmp .ne 12, 3) := dk_160 0 12 (dk_at dksX14_taken_2 5 rfl rfl)
theorem dX14_taken_53 : decode cX14_taken 53 = .ok (.aload_n 0, 1) := dk_42 (dk_at dksX14_taken_2 8 rfl rfl)
theorem dX14_taken_54 : decode cX14_taken 54 = .ok (.getfield 46, 3) := dk_180 0 46 (dk_at dksX14_taken_2 9 rfl rfl)
theorem dX14_taken_57 : decode cX14_taken 57 = .ok (.iload_n 1, 1) := dk_27 (dk_at dksX14_taken_2 12 rfl rfl)
theorem dX14_taken_58 : decode cX14_taken 58 = .ok (.iaload, 1) := dk_46 (dk_at dksX14_taken_2 13 rfl rfl)
theorem dX14_taken_59 : decode cX14_taken 59 = .ok (.goto 5, 3) := dk_167 0 5 (dk_at dksX14_taken_2 14 rfl rfl)
theorem dX14_taken_62 : decode cX14_taken 62 = .ok (.bipush (-13), 2) := dk_16 243 (dk_at dksX14_taken_2 17 rfl rfl)
theorem dX14_taken_64 : decode cX14_taken 64 = .ok (.ireturn, 1) := dk_172 (dk_at dksX14_taken_2 19 rfl rfl)
theorem dX14_taken_65 : decode cX14_taken 65 = .ok (.aload_n 0, 1) := dk_42 (dk_at dksX14_taken_2 20 rfl rfl)
theorem dX14_taken_66 : decode cX14_taken 66 = .ok (.iload_n 1, 1) := dk_27 (dk_at dksX14_taken_2 21 rfl rfl)
theorem dX14_taken_67 : decode cX14_taken 67 = .ok (.invokevirtual 345, 3) := dk_182 1 89 (dk_at dksX14_taken_3 0 rfl rfl)
theorem dX14_taken_70 : decode cX14_taken 70 = .ok (.ifCond .ne 6, 3) := dk_154 0 6 (dk_at dksX14_taken_3 3 rfl rfl)
theorem dX14_taken_73 : decode cX14_taken 73 = .ok (.bipush (-11), 2) := dk_16 245 (dk_at dksX14_taken_3 6 rfl rfl)
theorem dX14_taken_75 : decode cX14_taken 75 = .ok (.ireturn, 1) := dk_172 (dk_at dksX14_taken_3 8 rfl rfl)
theorem dX14_taken_76 : decode cX14_taken 76 = .ok (.iload_n 2, 1) := dk_28 (dk_at dksX14_taken_3 9 rfl rfl)
theorem dX14_taken_77 : decode cX14_taken 77 = .ok (.bipush 10, 2) := dk_16 10 (dk_at dksX14_taken_3 10 rfl rfl)
theorem dX14_taken_79 : decode cX14_taken 79 = .ok (.if_icmp .ge 30, 3) := dk_162 0 30 (dk_at dksX14_taken_3 12 rfl rfl)
theorem dX14_taken_82 : decode cX14_taken 82 = .ok (.aload_n 0, 1) := dk_42 (dk_at dksX14_taken_3 15 rfl rfl)
theorem dX14_taken_83 : decode cX14_taken 83 = .ok (.aload_n 0, 1) := dk_42 (dk_at dksX14_taken_3 16 rfl rfl)
theorem dX14_taken_84 : decode cX14_taken 84 = .ok (.getfield 43, 3) := dk_180 0 43 (dk_at dksX14_taken_3 17 rfl rfl)
theorem dX14_taken_87 : decode cX14_taken 87 = .ok (.iload_n 1, 1) := dk_27 (dk_at dksX14_taken_3 20 rfl rfl)
theorem dX14_taken_88 : decode cX14_taken 88 = .ok (.iaload, 1) := dk_46 (dk_at dksX14_taken_3 21 rfl rfl)
theorem dX14_taken_89 : decode cX14_taken 89 = .ok (.iconst 0, 1) := dk_3 (dk_at dksX14_taken_3 22 rfl rfl)
theorem dX14_taken_90 : decode cX14_taken 90 = .ok (.invokevirtual 82, 3) := dk_182 0 82 (dk_at dksX14_taken_4 0 rfl rfl)
theorem dX14_taken_93 : decode cX14_taken 93 = .ok (.iload_n 2, 1) := dk_28 (dk_at dksX14_taken_4 3 rfl rfl)
theorem dX14_taken_94 : decode cX14_taken 94 = .ok (.invokestatic 348, 3) := dk_184 1 92 (dk_at dksX14_taken_4 4 rfl rfl)
theorem dX14_taken_97 : decode cX14_taken 97 = .ok (.ifCond .eq 12, 3) := dk_153 0 12 (dk_at dksX14_taken_4 7 rfl rfl)
theorem dX14_taken_100 : decode cX14_taken 100 = .ok (.aload_n 0, 1) := dk_42 (dk_at dksX14_taken_4 10 rfl rfl)
theorem dX14_taken_101 : decode cX14_taken 101 = .ok (.getfield 43, 3) := dk_180 0 43 (dk_at dksX14_taken_4 11 rfl rfl)
theorem dX14_taken_104 : decode cX14_taken 104 = .ok (.iload_n 1, 1) := dk_27 (dk_at dksX14_taken_4 14 rfl rfl)
theorem dX14_taken_105 : decode cX14_taken 105 = .ok (.iaload, 1) := dk_46 (dk_at dksX14_taken_4 15 rfl rfl)
theorem dX14_taken_106 : decode cX14_taken 106 = .ok (.goto 5, 3) := dk_167 0 5 (dk_at dksX14_taken_4 16 rfl rfl)
theorem dX14_taken_109 : decode cX14_taken 109 = .ok (.bipush (-13), 2) := dk_16 243 (dk_at dksX14_taken_4 19 rfl rfl)
theorem dX14_taken_111 : decode cX14_taken 111 = .ok (.ireturn, 1) := dk_172 (dk_at dksX14_taken_4 21 rfl rfl)
abbrev cX14_isHeld : ByteArray := prog_28_method_101_code
def yX14_isHeld : MethodName := ⟨RX14, "isHeld", "(I)Z"⟩
def dkwX14_isHeld_1 : List UInt8 := [167, 0, 4, 3, 172]
abbrev dktX14_isHeld_1 : List UInt8 := dkwX14_isHeld_1 ++ []
def dkwX14_isHeld_0 : List UInt8 := [42, 180, 0, 40, 27, 46, 154, 0, 20, 42, 42, 180, 0, 43, 27, 46, 182, 0, 96, 153, 0, 7, 4]
abbrev dktX14_isHeld_0 : List UInt8 := dkwX14_isHeld_0 ++ dktX14_isHeld_1
theorem dksX14_isHeld_0 : cX14_isHeld.data.toList.drop 0 = dktX14_isHeld_0 := by decide +kernel
theorem dksX14_isHeld_1 : cX14_isHeld.data.toList.drop 23 = dktX14_isHeld_1 := dk_seg dksX14_isHeld_0 23 rfl rfl
theorem dX14_isHeld_0 : decode cX14_isHeld 0 = .ok (.aload_n 0, 1) := dk_42 (dk_at dksX14_isHeld_0 0 rfl rfl)
theorem dX14_isHeld_1 : decode cX14_isHeld 1 = .ok (.getfield 40, 3) := dk_180 0 40 (dk_at dksX14_isHeld_0 1 rfl rfl)
theorem dX14_isHeld_4 : decode cX14_isHeld 4 = .ok (.iload_n 1, 1) := dk_27 (dk_at dksX14_isHeld_0 4 rfl rfl)
theorem dX14_isHeld_5 : decode cX14_isHeld 5 = .ok (.iaload, 1) := dk_46 (dk_at dksX14_isHeld_0 5 rfl rfl)
theorem dX14_isHeld_6 : decode cX14_isHeld 6 = .ok (.ifCond .ne 20, 3) := dk_154 0 20 (dk_at dksX14_isHeld_0 6 rfl rfl)
theorem dX14_isHeld_9 : decode cX14_isHeld 9 = .ok (.aload_n 0, 1) := dk_42 (dk_at dksX14_isHeld_0 9 rfl rfl)
theorem dX14_isHeld_10 : decode cX14_isHeld 10 = .ok (.aload_n 0, 1) := dk_42 (dk_at dksX14_isHeld_0 10 rfl rfl)
theorem dX14_isHeld_11 : decode cX14_isHeld 11 = .ok (.getfield 43, 3) := dk_180 0 43 (dk_at dksX14_isHeld_0 11 rfl rfl)
theorem dX14_isHeld_14 : decode cX14_isHeld 14 = .ok (.iload_n 1, 1) := dk_27 (dk_at dksX14_isHeld_0 14 rfl rfl)
theorem dX14_isHeld_15 : decode cX14_isHeld 15 = .ok (.iaload, 1) := dk_46 (dk_at dksX14_isHeld_0 15 rfl rfl)
theorem dX14_isHeld_16 : decode cX14_isHeld 16 = .ok (.invokevirtual 96, 3) := dk_182 0 96 (dk_at dksX14_isHeld_0 16 rfl rfl)
theorem dX14_isHeld_19 : decode cX14_isHeld 19 = .ok (.ifCond .eq 7, 3) := dk_153 0 7 (dk_at dksX14_isHeld_0 19 rfl rfl)
theorem dX14_isHeld_22 : decode cX14_isHeld 22 = .ok (.iconst 1, 1) := dk_4 (dk_at dksX14_isHeld_0 22 rfl rfl)
theorem dX14_isHeld_23 : decode cX14_isHeld 23 = .ok (.goto 4, 3) := dk_167 0 4 (dk_at dksX14_isHeld_1 0 rfl rfl)
theorem dX14_isHeld_26 : decode cX14_isHeld 26 = .ok (.iconst 0, 1) := dk_3 (dk_at dksX14_isHeld_1 3 rfl rfl)
theorem dX14_isHeld_27 : decode cX14_isHeld 27 = .ok (.ireturn, 1) := dk_172 (dk_at dksX14_isHeld_1 4 rfl rfl)
abbrev cX14_isUnder : ByteArray := prog_28_method_21_code
def yX14_isUnder : MethodName := ⟨RX14, "isUnder", "(II)Z"⟩
def dkwX14_isUnder_1 : List UInt8 := [27, 5, 160, 0, 7, 4, 167, 0, 4, 3, 172]
abbrev dktX14_isUnder_1 : List UInt8 := dkwX14_isUnder_1 ++ []
def dkwX14_isUnder_0 : List UInt8 := [27, 153, 0, 28, 26, 27, 159, 0, 23, 26, 6, 160, 0, 8, 27, 4, 159, 0, 13, 26, 7, 160, 0, 12]
abbrev dktX14_isUnder_0 : List UInt8 := dkwX14_isUnder_0 ++ dktX14_isUnder_1
theorem dksX14_isUnder_0 : cX14_isUnder.data.toList.drop 0 = dktX14_isUnder_0 := by decide +kernel
theorem dksX14_isUnder_1 : cX14_isUnder.data.toList.drop 24 = dktX14_isUnder_1 := dk_seg dksX14_isUnder_0 24 rfl rfl
theorem dX14_isUnder_0 : decode cX14_isUnder 0 = .ok (.iload_n 1, 1) := dk_27 (dk_at dksX14_isUnder_0 0 rfl rfl)
theorem dX14_isUnder_1 : decode cX14_isUnder 1 = .ok (.ifCond .eq 28, 3) := dk_153 0 28 (dk_at dksX14_isUnder_0 1 rfl rfl)
theorem dX14_isUnder_4 : decode cX14_isUnder 4 = .ok (.iload_n 0, 1) := dk_26 (dk_at dksX14_isUnder_0 4 rfl rfl)
theorem dX14_isUnder_5 : decode cX14_isUnder 5 = .ok (.iload_n 1, 1) := dk_27 (dk_at dksX14_isUnder_0 5 rfl rfl)
theorem dX14_isUnder_6 : decode cX14_isUnder 6 = .ok (.if_icmp .eq 23, 3) := dk_159 0 23 (dk_at dksX14_isUnder_0 6 rfl rfl)
theorem dX14_isUnder_9 : decode cX14_isUnder 9 = .ok (.iload_n 0, 1) := dk_26 (dk_at dksX14_isUnder_0 9 rfl rfl)
theorem dX14_isUnder_10 : decode cX14_isUnder 10 = .ok (.iconst 3, 1) := dk_6 (dk_at dksX14_isUnder_0 10 rfl rfl)
theorem dX14_isUnder_11 : decode cX14_isUnder 11 = .ok (.if_icmp .ne 8, 3) := dk_160 0 8 (dk_at dksX14_isUnder_0 11 rfl rfl)
theorem dX14_isUnder_14 : decode cX14_isUnder 14 = .ok (.iload_n 1, 1) := dk_27 (dk_at dksX14_isUnder_0 14 rfl rfl)
theorem dX14_isUnder_15 : decode cX14_isUnder 15 = .ok (.iconst 1, 1) := dk_4 (dk_at dksX14_isUnder_0 15 rfl rfl)
theorem dX14_isUnder_16 : decode cX14_isUnder 16 = .ok (.if_icmp .eq 13, 3) := dk_159 0 13 (dk_at dksX14_isUnder_0 16 rfl rfl)
theorem dX14_isUnder_19 : decode cX14_isUnder 19 = .ok (.iload_n 0, 1) := dk_26 (dk_at dksX14_isUnder_0 19 rfl rfl)
theorem dX14_isUnder_20 : decode cX14_isUnder 20 = .ok (.iconst 4, 1) := dk_7 (dk_at dksX14_isUnder_0 20 rfl rfl)
theorem dX14_isUnder_21 : decode cX14_isUnder 21 = .ok (.if_icmp .ne 12, 3) := dk_160 0 12 (dk_at dksX14_isUnder_0 21 rfl rfl)
theorem dX14_isUnder_24 : decode cX14_isUnder 24 = .ok (.iload_n 1, 1) := dk_27 (dk_at dksX14_isUnder_1 0 rfl rfl)
theorem dX14_isUnder_25 : decode cX14_isUnder 25 = .ok (.iconst 2, 1) := dk_5 (dk_at dksX14_isUnder_1 1 rfl rfl)
theorem dX14_isUnder_26 : decode cX14_isUnder 26 = .ok (.if_icmp .ne 7, 3) := dk_160 0 7 (dk_at dksX14_isUnder_1 2 rfl rfl)
theorem dX14_isUnder_29 : decode cX14_isUnder 29 = .ok (.iconst 1, 1) := dk_4 (dk_at dksX14_isUnder_1 5 rfl rfl)
theorem dX14_isUnder_30 : decode cX14_isUnder 30 = .ok (.goto 4, 3) := dk_167 0 4 (dk_at dksX14_isUnder_1 6 rfl rfl)
theorem dX14_isUnder_33 : decode cX14_isUnder 33 = .ok (.iconst 0, 1) := dk_3 (dk_at dksX14_isUnder_1 9 rfl rfl)
theorem dX14_isUnder_34 : decode cX14_isUnder 34 = .ok (.ireturn, 1) := dk_172 (dk_at dksX14_isUnder_1 10 rfl rfl)
abbrev cX14_act : ByteArray := prog_28_method_113_code
def yX14_act : MethodName := ⟨RX14, "act", "(III)I"⟩
def dkwX14_act_5 : List UInt8 := [54, 4, 42, 180, 1, 122, 153, 0, 8, 16, 241, 167, 0, 5, 21, 4, 172]
abbrev dktX14_act_5 : List UInt8 := dkwX14_act_5 ++ []
def dkwX14_act_4 : List UInt8 := [182, 1, 128, 167, 0, 21, 28, 5, 160, 0, 11, 42, 29, 182, 1, 134, 167, 0, 8, 42, 29, 182, 1, 137]
abbrev dktX14_act_4 : List UInt8 := dkwX14_act_4 ++ dktX14_act_5
def dkwX14_act_3 : List UInt8 := [181, 1, 122, 28, 154, 0, 11, 42, 29, 182, 1, 113, 167, 0, 34, 28, 4, 160, 0, 11, 42, 29]
abbrev dktX14_act_3 : List UInt8 := dkwX14_act_3 ++ dktX14_act_4
def dkwX14_act_2 : List UInt8 := [182, 0, 82, 181, 1, 107, 42, 4, 42, 42, 180, 1, 101, 4, 182, 0, 82, 96, 181, 1, 116, 42, 3]
abbrev dktX14_act_2 : List UInt8 := dkwX14_act_2 ++ dktX14_act_3
def dkwX14_act_1 : List UInt8 := [154, 0, 5, 3, 172, 42, 42, 180, 0, 43, 27, 46, 181, 1, 101, 42, 42, 42, 180, 1, 101, 3]
abbrev dktX14_act_1 : List UInt8 := dkwX14_act_1 ++ dktX14_act_2
def dkwX14_act_0 : List UInt8 := [42, 3, 181, 1, 95, 27, 184, 0, 209, 153, 0, 18, 28, 184, 0, 209, 153, 0, 11, 42, 27, 182, 1, 89]
abbrev dktX14_act_0 : List UInt8 := dkwX14_act_0 ++ dktX14_act_1
theorem dksX14_act_0 : cX14_act.data.toList.drop 0 = dktX14_act_0 := by decide +kernel
theorem dksX14_act_1 : cX14_act.data.toList.drop 24 = dktX14_act_1 := dk_seg dksX14_act_0 24 rfl rfl
theorem dksX14_act_2 : cX14_act.data.toList.drop 46 = dktX14_act_2 := dk_seg dksX14_act_1 22 rfl rfl
theorem dksX14_act_3 : cX14_act.data.toList.drop 69 = dktX14_act_3 := dk_seg dksX14_act_2 23 rfl rfl
theorem dksX14_act_4 : cX14_act.data.toList.drop 91 = dktX14_act_4 := dk_seg dksX14_act_3 22 rfl rfl
theorem dksX14_act_5 : cX14_act.data.toList.drop 115 = dktX14_act_5 := dk_seg dksX14_act_4 24 rfl rfl
theorem dX14_act_0 : decode cX14_act 0 = .ok (.aload_n 0, 1) := dk_42 (dk_at dksX14_act_0 0 rfl rfl)
theorem dX14_act_1 : decode cX14_act 1 = .ok (.iconst 0, 1) := dk_3 (dk_at dksX14_act_0 1 rfl rfl)
theorem dX14_act_2 : decode cX14_act 2 = .ok (.putfield 351, 3) := dk_181 1 95 (dk_at dksX14_act_0 2 rfl rfl)
theorem dX14_act_5 : decode cX14_act 5 = .ok (.iload_n 1, 1) := dk_27 (dk_at dksX14_act_0 5 rfl rfl)
theorem dX14_act_6 : decode cX14_act 6 = .ok (.invokestatic 209, 3) := dk_184 0 209 (dk_at dksX14_act_0 6 rfl rfl)
theorem dX14_act_9 : decode cX14_act 9 = .ok (.ifCond .eq 18, 3) := dk_153 0 18 (dk_at dksX14_act_0 9 rfl rfl)
theorem dX14_act_12 : decode cX14_act 12 = .ok (.iload_n 2, 1) := dk_28 (dk_at dksX14_act_0 12 rfl rfl)
theorem dX14_act_13 : decode cX14_act 13 = .ok (.invokestatic 209, 3) := dk_184 0 209 (dk_at dksX14_act_0 13 rfl rfl)
theorem dX14_act_16 : decode cX14_act 16 = .ok (.ifCond .eq 11, 3) := dk_153 0 11 (dk_at dksX14_act_0 16 rfl rfl)
theorem dX14_act_19 : decode cX14_act 19 = .ok (.aload_n 0, 1) := dk_42 (dk_at dksX14_act_0 19 rfl rfl)
theorem dX14_act_20 : decode cX14_act 20 = .ok (.iload_n 1, 1) := dk_27 (dk_at dksX14_act_0 20 rfl rfl)
theorem dX14_act_21 : decode cX14_act 21 = .ok (.invokevirtual 345, 3) := dk_182 1 89 (dk_at dksX14_act_0 21 rfl rfl)
theorem dX14_act_24 : decode cX14_act 24 = .ok (.ifCond .ne 5, 3) := dk_154 0 5 (dk_at dksX14_act_1 0 rfl rfl)
theorem dX14_act_27 : decode cX14_act 27 = .ok (.iconst 0, 1) := dk_3 (dk_at dksX14_act_1 3 rfl rfl)
theorem dX14_act_28 : decode cX14_act 28 = .ok (.ireturn, 1) := dk_172 (dk_at dksX14_act_1 4 rfl rfl)
theorem dX14_act_29 : decode cX14_act 29 = .ok (.aload_n 0, 1) := dk_42 (dk_at dksX14_act_1 5 rfl rfl)
theorem dX14_act_30 : decode cX14_act 30 = .ok (.aload_n 0, 1) := dk_42 (dk_at dksX14_act_1 6 rfl rfl)
theorem dX14_act_31 : decode cX14_act 31 = .ok (.getfield 43, 3) := dk_180 0 43 (dk_at dksX14_act_1 7 rfl rfl)
theorem dX14_act_34 : decode cX14_act 34 = .ok (.iload_n 1, 1) := dk_27 (dk_at dksX14_act_1 10 rfl rfl)
theorem dX14_act_35 : decode cX14_act 35 = .ok (.iaload, 1) := dk_46 (dk_at dksX14_act_1 11 rfl rfl)
theorem dX14_act_36 : decode cX14_act 36 = .ok (.putfield 357, 3) := dk_181 1 101 (dk_at dksX14_act_1 12 rfl rfl)
theorem dX14_act_39 : decode cX14_act 39 = .ok (.aload_n 0, 1) := dk_42 (dk_at dksX14_act_1 15 rfl rfl)
theorem dX14_act_40 : decode cX14_act 40 = .ok (.aload_n 0, 1) := dk_42 (dk_at dksX14_act_1 16 rfl rfl)
theorem dX14_act_41 : decode cX14_act 41 = .ok (.aload_n 0, 1) := dk_42 (dk_at dksX14_act_1 17 rfl rfl)
theorem dX14_act_42 : decode cX14_act 42 = .ok (.getfield 357, 3) := dk_180 1 101 (dk_at dksX14_act_1 18 rfl rfl)
theorem dX14_act_45 : decode cX14_act 45 = .ok (.iconst 0, 1) := dk_3 (dk_at dksX14_act_1 21 rfl rfl)
theorem dX14_act_46 : decode cX14_act 46 = .ok (.invokevirtual 82, 3) := dk_182 0 82 (dk_at dksX14_act_2 0 rfl rfl)
theorem dX14_act_49 : decode cX14_act 49 = .ok (.putfield 363, 3) := dk_181 1 107 (dk_at dksX14_act_2 3 rfl rfl)
theorem dX14_act_52 : decode cX14_act 52 = .ok (.aload_n 0, 1) := dk_42 (dk_at dksX14_act_2 6 rfl rfl)
theorem dX14_act_53 : decode cX14_act 53 = .ok (.iconst 1, 1) := dk_4 (dk_at dksX14_act_2 7 rfl rfl)
theorem dX14_act_54 : decode cX14_act 54 = .ok (.aload_n 0, 1) := dk_42 (dk_at dksX14_act_2 8 rfl rfl)
theorem dX14_act_55 : decode cX14_act 55 = .ok (.aload_n 0, 1) := dk_42 (dk_at dksX14_act_2 9 rfl rfl)
theorem dX14_act_56 : decode cX14_act 56 = .ok (.getfield 357, 3) := dk_180 1 101 (dk_at dksX14_act_2 10 rfl rfl)
theorem dX14_act_59 : decode cX14_act 59 = .ok (.iconst 1, 1) := dk_4 (dk_at dksX14_act_2 13 rfl rfl)
theorem dX14_act_60 : decode cX14_act 60 = .ok (.invokevirtual 82, 3) := dk_182 0 82 (dk_at dksX14_act_2 14 rfl rfl)
theorem dX14_act_63 : decode cX14_act 63 = .ok (.iadd, 1) := dk_96 (dk_at dksX14_act_2 17 rfl rfl)
theorem dX14_act_64 : decode cX14_act 64 = .ok (.putfield 372, 3) := dk_181 1 116 (dk_at dksX14_act_2 18 rfl rfl)
theorem dX14_act_67 : decode cX14_act 67 = .ok (.aload_n 0, 1) := dk_42 (dk_at dksX14_act_2 21 rfl rfl)
theorem dX14_act_68 : decode cX14_act 68 = .ok (.iconst 0, 1) := dk_3 (dk_at dksX14_act_2 22 rfl rfl)
theorem dX14_act_69 : decode cX14_act 69 = .ok (.putfield 378, 3) := dk_181 1 122 (dk_at dksX14_act_3 0 rfl rfl)
theorem dX14_act_72 : decode cX14_act 72 = .ok (.iload_n 2, 1) := dk_28 (dk_at dksX14_act_3 3 rfl rfl)
theorem dX14_act_73 : decode cX14_act 73 = .ok (.ifCond .ne 11, 3) := dk_154 0 11 (dk_at dksX14_act_3 4 rfl rfl)
theorem dX14_act_76 : decode cX14_act 76 = .ok (.aload_n 0, 1) := dk_42 (dk_at dksX14_act_3 7 rfl rfl)
theorem dX14_act_77 : decode cX14_act 77 = .ok (.iload_n 3, 1) := dk_29 (dk_at dksX14_act_3 8 rfl rfl)
theorem dX14_act_78 : decode cX14_act 78 = .ok (.invokevirtual 369, 3) := dk_182 1 113 (dk_at dksX14_act_3 9 rfl rfl)
theorem dX14_act_81 : decode cX14_act 81 = .ok (.goto 34, 3) := dk_167 0 34 (dk_at dksX14_act_3 12 rfl rfl)
theorem dX14_act_84 : decode cX14_act 84 = .ok (.iload_n 2, 1) := dk_28 (dk_at dksX14_act_3 15 rfl rfl)
theorem dX14_act_85 : decode cX14_act 85 = .ok (.iconst 1, 1) := dk_4 (dk_at dksX14_act_3 16 rfl rfl)
theorem dX14_act_86 : decode cX14_act 86 = .ok (.if_icmp .ne 11, 3) := dk_160 0 11 (dk_at dksX14_act_3 17 rfl rfl)
theorem dX14_act_89 : decode cX14_act 89 = .ok (.aload_n 0, 1) := dk_42 (dk_at dksX14_act_3 20 rfl rfl)
theorem dX14_act_90 : decode cX14_act 90 = .ok (.iload_n 3, 1) := dk_29 (dk_at dksX14_act_3 21 rfl rfl)
theorem dX14_act_91 : decode cX14_act 91 = .ok (.invokevirtual 384, 3) := dk_182 1 128 (dk_at dksX14_act_4 0 rfl rfl)
theorem dX14_act_94 : decode cX14_act 94 = .ok (.goto 21, 3) := dk_167 0 21 (dk_at dksX14_act_4 3 rfl rfl)
theorem dX14_act_97 : decode cX14_act 97 = .ok (.iload_n 2, 1) := dk_28 (dk_at dksX14_act_4 6 rfl rfl)
theorem dX14_act_98 : decode cX14_act 98 = .ok (.iconst 2, 1) := dk_5 (dk_at dksX14_act_4 7 rfl rfl)
theorem dX14_act_99 : decode cX14_act 99 = .ok (.if_icmp .ne 11, 3) := dk_160 0 11 (dk_at dksX14_act_4 8 rfl rfl)
theorem dX14_act_102 : decode cX14_act 102 = .ok (.aload_n 0, 1) := dk_42 (dk_at dksX14_act_4 11 rfl rfl)
theorem dX14_act_103 : decode cX14_act 103 = .ok (.iload_n 3, 1) := dk_29 (dk_at dksX14_act_4 12 rfl rfl)
theorem dX14_act_104 : decode cX14_act 104 = .ok (.invokevirtual 390, 3) := dk_182 1 134 (dk_at dksX14_act_4 13 rfl rfl)
theorem dX14_act_107 : decode cX14_act 107 = .ok (.goto 8, 3) := dk_167 0 8 (dk_at dksX14_act_4 16 rfl rfl)
theorem dX14_act_110 : decode cX14_act 110 = .ok (.aload_n 0, 1) := dk_42 (dk_at dksX14_act_4 19 rfl rfl)
theorem dX14_act_111 : decode cX14_act 111 = .ok (.iload_n 3, 1) := dk_29 (dk_at dksX14_act_4 20 rfl rfl)
theorem dX14_act_112 : decode cX14_act 112 = .ok (.invokevirtual 393, 3) := dk_182 1 137 (dk_at dksX14_act_4 21 rfl rfl)
theorem dX14_act_115 : decode cX14_act 115 = .ok (.istore 4, 2) := dk_54 4 (dk_at dksX14_act_5 0 rfl rfl)
theorem dX14_act_117 : decode cX14_act 117 = .ok (.aload_n 0, 1) := dk_42 (dk_at dksX14_act_5 2 rfl rfl)
theorem dX14_act_118 : decode cX14_act 118 = .ok (.getfield 378, 3) := dk_180 1 122 (dk_at dksX14_act_5 3 rfl rfl)
theorem dX14_act_121 : decode cX14_act 121 = .ok (.ifCond .eq 8, 3) := dk_153 0 8 (dk_at dksX14_act_5 6 rfl rfl)
theorem dX14_act_124 : decode cX14_act 124 = .ok (.bipush (-15), 2) := dk_16 241 (dk_at dksX14_act_5 9 rfl rfl)
theorem dX14_act_126 : decode cX14_act 126 = .ok (.goto 5, 3) := dk_167 0 5 (dk_at dksX14_act_5 11 rfl rfl)
theorem dX14_act_129 : decode cX14_act 129 = .ok (.iload 4, 2) := dk_21 4 (dk_at dksX14_act_5 14 rfl rfl)
theorem dX14_act_131 : decode cX14_act 131 = .ok (.ireturn, 1) := dk_172 (dk_at dksX14_act_5 16 rfl rfl)
abbrev cX14_rubs : ByteArray := prog_28_method_106_code
def yX14_rubs : MethodName := ⟨RX14, "rubs", "(I)I"⟩
def dkwX14_rubs_3 : List UInt8 := [182, 1, 98, 42, 27, 182, 1, 104, 5, 100, 172, 42, 27, 182, 1, 104, 172]
abbrev dktX14_rubs_3 : List UInt8 := dkwX14_rubs_3 ++ []
def dkwX14_rubs_2 : List UInt8 := [42, 27, 182, 1, 110, 172, 42, 16, 40, 182, 1, 98, 3, 42, 27, 182, 1, 110, 100, 172, 42, 16, 51]
abbrev dktX14_rubs_2 : List UInt8 := dkwX14_rubs_2 ++ dktX14_rubs_3
def dkwX14_rubs_1 : List UInt8 := [170, 0, 0, 0, 0, 0, 0, 62, 0, 0, 0, 2, 0, 0, 0, 4, 0, 0, 0, 28, 0, 0, 0, 48, 0, 0, 0, 34]
abbrev dktX14_rubs_1 : List UInt8 := dkwX14_rubs_1 ++ dktX14_rubs_2
def dkwX14_rubs_0 : List UInt8 := [42, 180, 1, 107]
abbrev dktX14_rubs_0 : List UInt8 := dkwX14_rubs_0 ++ dktX14_rubs_1
theorem dksX14_rubs_0 : cX14_rubs.data.toList.drop 0 = dktX14_rubs_0 := by decide +kernel
theorem dksX14_rubs_1 : cX14_rubs.data.toList.drop 4 = dktX14_rubs_1 := dk_seg dksX14_rubs_0 4 rfl rfl
theorem dksX14_rubs_2 : cX14_rubs.data.toList.drop 32 = dktX14_rubs_2 := dk_seg dksX14_rubs_1 28 rfl rfl
theorem dksX14_rubs_3 : cX14_rubs.data.toList.drop 55 = dktX14_rubs_3 := dk_seg dksX14_rubs_2 23 rfl rfl
theorem dX14_rubs_0 : decode cX14_rubs 0 = .ok (.aload_n 0, 1) := dk_42 (dk_at dksX14_rubs_0 0 rfl rfl)
theorem dX14_rubs_1 : decode cX14_rubs 1 = .ok (.getfield 363, 3) := dk_180 1 107 (dk_at dksX14_rubs_0 1 rfl rfl)
theorem dX14_rubs_4 : decode cX14_rubs 4 = .ok (.tableswitch 62 2 4 #[28, 48, 34], 28) := by decide +kernel
theorem dX14_rubs_32 : decode cX14_rubs 32 = .ok (.aload_n 0, 1) := dk_42 (dk_at dksX14_rubs_2 0 rfl rfl)
theorem dX14_rubs_33 : decode cX14_rubs 33 = .ok (.iload_n 1, 1) := dk_27 (dk_at dksX14_rubs_2 1 rfl rfl)
theorem dX14_rubs_34 : decode cX14_rubs 34 = .ok (.invokevirtual 366, 3) := dk_182 1 110 (dk_at dksX14_rubs_2 2 rfl rfl)
theorem dX14_rubs_37 : decode cX14_rubs 37 = .ok (.ireturn, 1) := dk_172 (dk_at dksX14_rubs_2 5 rfl rfl)
theorem dX14_rubs_38 : decode cX14_rubs 38 = .ok (.aload_n 0, 1) := dk_42 (dk_at dksX14_rubs_2 6 rfl rfl)
theorem dX14_rubs_39 : decode cX14_rubs 39 = .ok (.bipush 40, 2) := dk_16 40 (dk_at dksX14_rubs_2 7 rfl rfl)
theorem dX14_rubs_41 : decode cX14_rubs 41 = .ok (.invokevirtual 354, 3) := dk_182 1 98 (dk_at dksX14_rubs_2 9 rfl rfl)
theorem dX14_rubs_44 : decode cX14_rubs 44 = .ok (.iconst 0, 1) := dk_3 (dk_at dksX14_rubs_2 12 rfl rfl)
theorem dX14_rubs_45 : decode cX14_rubs 45 = .ok (.aload_n 0, 1) := dk_42 (dk_at dksX14_rubs_2 13 rfl rfl)
theorem dX14_rubs_46 : decode cX14_rubs 46 = .ok (.iload_n 1, 1) := dk_27 (dk_at dksX14_rubs_2 14 rfl rfl)
theorem dX14_rubs_47 : decode cX14_rubs 47 = .ok (.invokevirtual 366, 3) := dk_182 1 110 (dk_at dksX14_rubs_2 15 rfl rfl)
theorem dX14_rubs_50 : decode cX14_rubs 50 = .ok (.isub, 1) := dk_100 (dk_at dksX14_rubs_2 18 rfl rfl)
theorem dX14_rubs_51 : decode cX14_rubs 51 = .ok (.ireturn, 1) := dk_172 (dk_at dksX14_rubs_2 19 rfl rfl)
theorem dX14_rubs_52 : decode cX14_rubs 52 = .ok (.aload_n 0, 1) := dk_42 (dk_at dksX14_rubs_2 20 rfl rfl)
theorem dX14_rubs_53 : decode cX14_rubs 53 = .ok (.bipush 51, 2) := dk_16 51 (dk_at dksX14_rubs_2 21 rfl rfl)
theorem dX14_rubs_55 : decode cX14_rubs 55 = .ok (.invokevirtual 354, 3) := dk_182 1 98 (dk_at dksX14_rubs_3 0 rfl rfl)
theorem dX14_rubs_58 : decode cX14_rubs 58 = .ok (.aload_n 0, 1) := dk_42 (dk_at dksX14_rubs_3 3 rfl rfl)
theorem dX14_rubs_59 : decode cX14_rubs 59 = .ok (.iload_n 1, 1) := dk_27 (dk_at dksX14_rubs_3 4 rfl rfl)
theorem dX14_rubs_60 : decode cX14_rubs 60 = .ok (.invokevirtual 360, 3) := dk_182 1 104 (dk_at dksX14_rubs_3 5 rfl rfl)
theorem dX14_rubs_63 : decode cX14_rubs 63 = .ok (.iconst 2, 1) := dk_5 (dk_at dksX14_rubs_3 8 rfl rfl)
theorem dX14_rubs_64 : decode cX14_rubs 64 = .ok (.isub, 1) := dk_100 (dk_at dksX14_rubs_3 9 rfl rfl)
theorem dX14_rubs_65 : decode cX14_rubs 65 = .ok (.ireturn, 1) := dk_172 (dk_at dksX14_rubs_3 10 rfl rfl)
theorem dX14_rubs_66 : decode cX14_rubs 66 = .ok (.aload_n 0, 1) := dk_42 (dk_at dksX14_rubs_3 11 rfl rfl)
theorem dX14_rubs_67 : decode cX14_rubs 67 = .ok (.iload_n 1, 1) := dk_27 (dk_at dksX14_rubs_3 12 rfl rfl)
theorem dX14_rubs_68 : decode cX14_rubs 68 = .ok (.invokevirtual 360, 3) := dk_182 1 104 (dk_at dksX14_rubs_3 13 rfl rfl)
theorem dX14_rubs_71 : decode cX14_rubs 71 = .ok (.ireturn, 1) := dk_172 (dk_at dksX14_rubs_3 16 rfl rfl)
abbrev cX14_linenRubs : ByteArray := prog_28_method_105_code
def yX14_linenRubs : MethodName := ⟨RX14, "linenRubs", "(I)I"⟩
def dkwX14_linenRubs_0 : List UInt8 := [42, 16, 30, 182, 1, 98, 42, 27, 182, 1, 104, 5, 104, 172]
abbrev dktX14_linenRubs_0 : List UInt8 := dkwX14_linenRubs_0 ++ []
theorem dksX14_linenRubs_0 : cX14_linenRubs.data.toList.drop 0 = dktX14_linenRubs_0 := by decide +kernel
theorem dX14_linenRubs_0 : decode cX14_linenRubs 0 = .ok (.aload_n 0, 1) := dk_42 (dk_at dksX14_linenRubs_0 0 rfl rfl)
theorem dX14_linenRubs_1 : decode cX14_linenRubs 1 = .ok (.bipush 30, 2) := dk_16 30 (dk_at dksX14_linenRubs_0 1 rfl rfl)
theorem dX14_linenRubs_3 : decode cX14_linenRubs 3 = .ok (.invokevirtual 354, 3) := dk_182 1 98 (dk_at dksX14_linenRubs_0 3 rfl rfl)
theorem dX14_linenRubs_6 : decode cX14_linenRubs 6 = .ok (.aload_n 0, 1) := dk_42 (dk_at dksX14_linenRubs_0 6 rfl rfl)
theorem dX14_linenRubs_7 : decode cX14_linenRubs 7 = .ok (.iload_n 1, 1) := dk_27 (dk_at dksX14_linenRubs_0 7 rfl rfl)
theorem dX14_linenRubs_8 : decode cX14_linenRubs 8 = .ok (.invokevirtual 360, 3) := dk_182 1 104 (dk_at dksX14_linenRubs_0 8 rfl rfl)
theorem dX14_linenRubs_11 : decode cX14_linenRubs 11 = .ok (.iconst 2, 1) := dk_5 (dk_at dksX14_linenRubs_0 11 rfl rfl)
theorem dX14_linenRubs_12 : decode cX14_linenRubs 12 = .ok (.imul, 1) := dk_104 (dk_at dksX14_linenRubs_0 12 rfl rfl)
theorem dX14_linenRubs_13 : decode cX14_linenRubs 13 = .ok (.ireturn, 1) := dk_172 (dk_at dksX14_linenRubs_0 13 rfl rfl)
abbrev cX14_runs : ByteArray := prog_28_method_103_code
def yX14_runs : MethodName := ⟨RX14, "runs", "(I)V"⟩
def dkwX14_runs_1 : List UInt8 := [4, 96, 181, 1, 95, 177]
abbrev dktX14_runs_1 : List UInt8 := dkwX14_runs_1 ++ []
def dkwX14_runs_0 : List UInt8 := [42, 180, 1, 95, 16, 30, 162, 0, 23, 42, 180, 0, 49, 42, 180, 1, 95, 27, 79, 42, 89, 180, 1, 95]
abbrev dktX14_runs_0 : List UInt8 := dkwX14_runs_0 ++ dktX14_runs_1
theorem dksX14_runs_0 : cX14_runs.data.toList.drop 0 = dktX14_runs_0 := by decide +kernel
theorem dksX14_runs_1 : cX14_runs.data.toList.drop 24 = dktX14_runs_1 := dk_seg dksX14_runs_0 24 rfl rfl
theorem dX14_runs_0 : decode cX14_runs 0 = .ok (.aload_n 0, 1) := dk_42 (dk_at dksX14_runs_0 0 rfl rfl)
theorem dX14_runs_1 : decode cX14_runs 1 = .ok (.getfield 351, 3) := dk_180 1 95 (dk_at dksX14_runs_0 1 rfl rfl)
theorem dX14_runs_4 : decode cX14_runs 4 = .ok (.bipush 30, 2) := dk_16 30 (dk_at dksX14_runs_0 4 rfl rfl)
theorem dX14_runs_6 : decode cX14_runs 6 = .ok (.if_icmp .ge 23, 3) := dk_162 0 23 (dk_at dksX14_runs_0 6 rfl rfl)
theorem dX14_runs_9 : decode cX14_runs 9 = .ok (.aload_n 0, 1) := dk_42 (dk_at dksX14_runs_0 9 rfl rfl)
theorem dX14_runs_10 : decode cX14_runs 10 = .ok (.getfield 49, 3) := dk_180 0 49 (dk_at dksX14_runs_0 10 rfl rfl)
theorem dX14_runs_13 : decode cX14_runs 13 = .ok (.aload_n 0, 1) := dk_42 (dk_at dksX14_runs_0 13 rfl rfl)
theorem dX14_runs_14 : decode cX14_runs 14 = .ok (.getfield 351, 3) := dk_180 1 95 (dk_at dksX14_runs_0 14 rfl rfl)
theorem dX14_runs_17 : decode cX14_runs 17 = .ok (.iload_n 1, 1) := dk_27 (dk_at dksX14_runs_0 17 rfl rfl)
theorem dX14_runs_18 : decode cX14_runs 18 = .ok (.iastore, 1) := dk_79 (dk_at dksX14_runs_0 18 rfl rfl)
theorem dX14_runs_19 : decode cX14_runs 19 = .ok (.aload_n 0, 1) := dk_42 (dk_at dksX14_runs_0 19 rfl rfl)
theorem dX14_runs_20 : decode cX14_runs 20 = .ok (.dup, 1) := dk_89 (dk_at dksX14_runs_0 20 rfl rfl)
theorem dX14_runs_21 : decode cX14_runs 21 = .ok (.getfield 351, 3) := dk_180 1 95 (dk_at dksX14_runs_0 21 rfl rfl)
theorem dX14_runs_24 : decode cX14_runs 24 = .ok (.iconst 1, 1) := dk_4 (dk_at dksX14_runs_1 0 rfl rfl)
theorem dX14_runs_25 : decode cX14_runs 25 = .ok (.iadd, 1) := dk_96 (dk_at dksX14_runs_1 1 rfl rfl)
theorem dX14_runs_26 : decode cX14_runs 26 = .ok (.putfield 351, 3) := dk_181 1 95 (dk_at dksX14_runs_1 2 rfl rfl)
theorem dX14_runs_29 : decode cX14_runs 29 = .ok (.return_, 1) := dk_177 (dk_at dksX14_runs_1 5 rfl rfl)
abbrev cX14_plainRubs : ByteArray := prog_28_method_104_code
def yX14_plainRubs : MethodName := ⟨RX14, "plainRubs", "(I)I"⟩
def dkwX14_plainRubs_0 : List UInt8 := [42, 16, 10, 182, 1, 98, 27, 8, 104, 42, 180, 1, 101, 96, 172]
abbrev dktX14_plainRubs_0 : List UInt8 := dkwX14_plainRubs_0 ++ []
theorem dksX14_plainRubs_0 : cX14_plainRubs.data.toList.drop 0 = dktX14_plainRubs_0 := by decide +kernel
theorem dX14_plainRubs_0 : decode cX14_plainRubs 0 = .ok (.aload_n 0, 1) := dk_42 (dk_at dksX14_plainRubs_0 0 rfl rfl)
theorem dX14_plainRubs_1 : decode cX14_plainRubs 1 = .ok (.bipush 10, 2) := dk_16 10 (dk_at dksX14_plainRubs_0 1 rfl rfl)
theorem dX14_plainRubs_3 : decode cX14_plainRubs 3 = .ok (.invokevirtual 354, 3) := dk_182 1 98 (dk_at dksX14_plainRubs_0 3 rfl rfl)
theorem dX14_plainRubs_6 : decode cX14_plainRubs 6 = .ok (.iload_n 1, 1) := dk_27 (dk_at dksX14_plainRubs_0 6 rfl rfl)
theorem dX14_plainRubs_7 : decode cX14_plainRubs 7 = .ok (.iconst 5, 1) := dk_8 (dk_at dksX14_plainRubs_0 7 rfl rfl)
theorem dX14_plainRubs_8 : decode cX14_plainRubs 8 = .ok (.imul, 1) := dk_104 (dk_at dksX14_plainRubs_0 8 rfl rfl)
theorem dX14_plainRubs_9 : decode cX14_plainRubs 9 = .ok (.aload_n 0, 1) := dk_42 (dk_at dksX14_plainRubs_0 9 rfl rfl)
theorem dX14_plainRubs_10 : decode cX14_plainRubs 10 = .ok (.getfield 357, 3) := dk_180 1 101 (dk_at dksX14_plainRubs_0 10 rfl rfl)
theorem dX14_plainRubs_13 : decode cX14_plainRubs 13 = .ok (.iadd, 1) := dk_96 (dk_at dksX14_plainRubs_0 13 rfl rfl)
theorem dX14_plainRubs_14 : decode cX14_plainRubs 14 = .ok (.ireturn, 1) := dk_172 (dk_at dksX14_plainRubs_0 14 rfl rfl)
abbrev cX14_steepsAct : ByteArray := prog_28_method_108_code
def yX14_steepsAct : MethodName := ⟨RX14, "steepsAct", "(I)I"⟩
def dkwX14_steepsAct_2 : List UInt8 := [182, 1, 119, 61, 28, 42, 42, 180, 1, 116, 182, 1, 113, 130, 172, 42, 27, 182, 1, 119, 172]
abbrev dktX14_steepsAct_2 : List UInt8 := dkwX14_steepsAct_2 ++ []
def dkwX14_steepsAct_1 : List UInt8 := [182, 1, 119, 16, 6, 100, 172, 42, 180, 1, 107, 7, 160, 0, 26, 42, 16, 41, 182, 1, 98, 42, 27]
abbrev dktX14_steepsAct_1 : List UInt8 := dkwX14_steepsAct_1 ++ dktX14_steepsAct_2
def dkwX14_steepsAct_0 : List UInt8 := [42, 180, 1, 107, 4, 159, 0, 11, 42, 180, 1, 107, 6, 160, 0, 18, 42, 16, 20, 182, 1, 98, 42, 27]
abbrev dktX14_steepsAct_0 : List UInt8 := dkwX14_steepsAct_0 ++ dktX14_steepsAct_1
theorem dksX14_steepsAct_0 : cX14_steepsAct.data.toList.drop 0 = dktX14_steepsAct_0 := by decide +kernel
theorem dksX14_steepsAct_1 : cX14_steepsAct.data.toList.drop 24 = dktX14_steepsAct_1 := dk_seg dksX14_steepsAct_0 24 rfl rfl
theorem dksX14_steepsAct_2 : cX14_steepsAct.data.toList.drop 47 = dktX14_steepsAct_2 := dk_seg dksX14_steepsAct_1 23 rfl rfl
theorem dX14_steepsAct_0 : decode cX14_steepsAct 0 = .ok (.aload_n 0, 1) := dk_42 (dk_at dksX14_steepsAct_0 0 rfl rfl)
theorem dX14_steepsAct_1 : decode cX14_steepsAct 1 = .ok (.getfield 363, 3) := dk_180 1 107 (dk_at dksX14_steepsAct_0 1 rfl rfl)
theorem dX14_steepsAct_4 : decode cX14_steepsAct 4 = .ok (.iconst 1, 1) := dk_4 (dk_at dksX14_steepsAct_0 4 rfl rfl)
theorem dX14_steepsAct_5 : decode cX14_steepsAct 5 = .ok (.if_icmp .eq 11, 3) := dk_159 0 11 (dk_at dksX14_steepsAct_0 5 rfl rfl)
theorem dX14_steepsAct_8 : decode cX14_steepsAct 8 = .ok (.aload_n 0, 1) := dk_42 (dk_at dksX14_steepsAct_0 8 rfl rfl)
theorem dX14_steepsAct_9 : decode cX14_steepsAct 9 = .ok (.getfield 363, 3) := dk_180 1 107 (dk_at dksX14_steepsAct_0 9 rfl rfl)
theorem dX14_steepsAct_12 : decode cX14_steepsAct 12 = .ok (.iconst 3, 1) := dk_6 (dk_at dksX14_steepsAct_0 12 rfl rfl)
theorem dX14_steepsAct_13 : decode cX14_steepsAct 13 = .ok (.if_icmp .ne 18, 3) := dk_160 0 18 (dk_at dksX14_steepsAct_0 13 rfl rfl)
theorem dX14_steepsAct_16 : decode cX14_steepsAct 16 = .ok (.aload_n 0, 1) := dk_42 (dk_at dksX14_steepsAct_0 16 rfl rfl)
theorem dX14_steepsAct_17 : decode cX14_steepsAct 17 = .ok (.bipush 20, 2) := dk_16 20 (dk_at dksX14_steepsAct_0 17 rfl rfl)
theorem dX14_steepsAct_19 : decode cX14_steepsAct 19 = .ok (.invokevirtual 354, 3) := dk_182 1 98 (dk_at dksX14_steepsAct_0 19 rfl rfl)
theorem dX14_steepsAct_22 : decode cX14_steepsAct 22 = .ok (.aload_n 0, 1) := dk_42 (dk_at dksX14_steepsAct_0 22 rfl rfl)
theorem dX14_steepsAct_23 : decode cX14_steepsAct 23 = .ok (.iload_n 1, 1) := dk_27 (dk_at dksX14_steepsAct_0 23 rfl rfl)
theorem dX14_steepsAct_24 : decode cX14_steepsAct 24 = .ok (.invokevirtual 375, 3) := dk_182 1 119 (dk_at dksX14_steepsAct_1 0 rfl rfl)
theorem dX14_steepsAct_27 : decode cX14_steepsAct 27 = .ok (.bipush 6, 2) := dk_16 6 (dk_at dksX14_steepsAct_1 3 rfl rfl)
theorem dX14_steepsAct_29 : decode cX14_steepsAct 29 = .ok (.isub, 1) := dk_100 (dk_at dksX14_steepsAct_1 5 rfl rfl)
theorem dX14_steepsAct_30 : decode cX14_steepsAct 30 = .ok (.ireturn, 1) := dk_172 (dk_at dksX14_steepsAct_1 6 rfl rfl)
theorem dX14_steepsAct_31 : decode cX14_steepsAct 31 = .ok (.aload_n 0, 1) := dk_42 (dk_at dksX14_steepsAct_1 7 rfl rfl)
theorem dX14_steepsAct_32 : decode cX14_steepsAct 32 = .ok (.getfield 363, 3) := dk_180 1 107 (dk_at dksX14_steepsAct_1 8 rfl rfl)
theorem dX14_steepsAct_35 : decode cX14_steepsAct 35 = .ok (.iconst 4, 1) := dk_7 (dk_at dksX14_steepsAct_1 11 rfl rfl)
theorem dX14_steepsAct_36 : decode cX14_steepsAct 36 = .ok (.if_icmp .ne 26, 3) := dk_160 0 26 (dk_at dksX14_steepsAct_1 12 rfl rfl)
theorem dX14_steepsAct_39 : decode cX14_steepsAct 39 = .ok (.aload_n 0, 1) := dk_42 (dk_at dksX14_steepsAct_1 15 rfl rfl)
theorem dX14_steepsAct_40 : decode cX14_steepsAct 40 = .ok (.bipush 41, 2) := dk_16 41 (dk_at dksX14_steepsAct_1 16 rfl rfl)
theorem dX14_steepsAct_42 : decode cX14_steepsAct 42 = .ok (.invokevirtual 354, 3) := dk_182 1 98 (dk_at dksX14_steepsAct_1 18 rfl rfl)
theorem dX14_steepsAct_45 : decode cX14_steepsAct 45 = .ok (.aload_n 0, 1) := dk_42 (dk_at dksX14_steepsAct_1 21 rfl rfl)
theorem dX14_steepsAct_46 : decode cX14_steepsAct 46 = .ok (.iload_n 1, 1) := dk_27 (dk_at dksX14_steepsAct_1 22 rfl rfl)
theorem dX14_steepsAct_47 : decode cX14_steepsAct 47 = .ok (.invokevirtual 375, 3) := dk_182 1 119 (dk_at dksX14_steepsAct_2 0 rfl rfl)
theorem dX14_steepsAct_50 : decode cX14_steepsAct 50 = .ok (.istore_n 2, 1) := dk_61 (dk_at dksX14_steepsAct_2 3 rfl rfl)
theorem dX14_steepsAct_51 : decode cX14_steepsAct 51 = .ok (.iload_n 2, 1) := dk_28 (dk_at dksX14_steepsAct_2 4 rfl rfl)
theorem dX14_steepsAct_52 : decode cX14_steepsAct 52 = .ok (.aload_n 0, 1) := dk_42 (dk_at dksX14_steepsAct_2 5 rfl rfl)
theorem dX14_steepsAct_53 : decode cX14_steepsAct 53 = .ok (.aload_n 0, 1) := dk_42 (dk_at dksX14_steepsAct_2 6 rfl rfl)
theorem dX14_steepsAct_54 : decode cX14_steepsAct 54 = .ok (.getfield 372, 3) := dk_180 1 116 (dk_at dksX14_steepsAct_2 7 rfl rfl)
theorem dX14_steepsAct_57 : decode cX14_steepsAct 57 = .ok (.invokevirtual 369, 3) := dk_182 1 113 (dk_at dksX14_steepsAct_2 10 rfl rfl)
theorem dX14_steepsAct_60 : decode cX14_steepsAct 60 = .ok (.ixor, 1) := dk_130 (dk_at dksX14_steepsAct_2 13 rfl rfl)
theorem dX14_steepsAct_61 : decode cX14_steepsAct 61 = .ok (.ireturn, 1) := dk_172 (dk_at dksX14_steepsAct_2 14 rfl rfl)
theorem dX14_steepsAct_62 : decode cX14_steepsAct 62 = .ok (.aload_n 0, 1) := dk_42 (dk_at dksX14_steepsAct_2 15 rfl rfl)
theorem dX14_steepsAct_63 : decode cX14_steepsAct 63 = .ok (.iload_n 1, 1) := dk_27 (dk_at dksX14_steepsAct_2 16 rfl rfl)
theorem dX14_steepsAct_64 : decode cX14_steepsAct 64 = .ok (.invokevirtual 375, 3) := dk_182 1 119 (dk_at dksX14_steepsAct_2 17 rfl rfl)
theorem dX14_steepsAct_67 : decode cX14_steepsAct 67 = .ok (.ireturn, 1) := dk_172 (dk_at dksX14_steepsAct_2 20 rfl rfl)
abbrev cX14_plainSteeps : ByteArray := prog_28_method_107_code
def yX14_plainSteeps : MethodName := ⟨RX14, "plainSteeps", "(I)I"⟩
def dkwX14_plainSteeps_0 : List UInt8 := [42, 16, 11, 182, 1, 98, 42, 27, 182, 1, 113, 42, 180, 1, 116, 16, 9, 104, 96, 172]
abbrev dktX14_plainSteeps_0 : List UInt8 := dkwX14_plainSteeps_0 ++ []
theorem dksX14_plainSteeps_0 : cX14_plainSteeps.data.toList.drop 0 = dktX14_plainSteeps_0 := by decide +kernel
theorem dX14_plainSteeps_0 : decode cX14_plainSteeps 0 = .ok (.aload_n 0, 1) := dk_42 (dk_at dksX14_plainSteeps_0 0 rfl rfl)
theorem dX14_plainSteeps_1 : decode cX14_plainSteeps 1 = .ok (.bipush 11, 2) := dk_16 11 (dk_at dksX14_plainSteeps_0 1 rfl rfl)
theorem dX14_plainSteeps_3 : decode cX14_plainSteeps 3 = .ok (.invokevirtual 354, 3) := dk_182 1 98 (dk_at dksX14_plainSteeps_0 3 rfl rfl)
theorem dX14_plainSteeps_6 : decode cX14_plainSteeps 6 = .ok (.aload_n 0, 1) := dk_42 (dk_at dksX14_plainSteeps_0 6 rfl rfl)
theorem dX14_plainSteeps_7 : decode cX14_plainSteeps 7 = .ok (.iload_n 1, 1) := dk_27 (dk_at dksX14_plainSteeps_0 7 rfl rfl)
theorem dX14_plainSteeps_8 : decode cX14_plainSteeps 8 = .ok (.invokevirtual 369, 3) := dk_182 1 113 (dk_at dksX14_plainSteeps_0 8 rfl rfl)
theorem dX14_plainSteeps_11 : decode cX14_plainSteeps 11 = .ok (.aload_n 0, 1) := dk_42 (dk_at dksX14_plainSteeps_0 11 rfl rfl)
theorem dX14_plainSteeps_12 : decode cX14_plainSteeps 12 = .ok (.getfield 372, 3) := dk_180 1 116 (dk_at dksX14_plainSteeps_0 12 rfl rfl)
theorem dX14_plainSteeps_15 : decode cX14_plainSteeps 15 = .ok (.bipush 9, 2) := dk_16 9 (dk_at dksX14_plainSteeps_0 15 rfl rfl)
theorem dX14_plainSteeps_17 : decode cX14_plainSteeps 17 = .ok (.imul, 1) := dk_104 (dk_at dksX14_plainSteeps_0 17 rfl rfl)
theorem dX14_plainSteeps_18 : decode cX14_plainSteeps 18 = .ok (.iadd, 1) := dk_96 (dk_at dksX14_plainSteeps_0 18 rfl rfl)
theorem dX14_plainSteeps_19 : decode cX14_plainSteeps 19 = .ok (.ireturn, 1) := dk_172 (dk_at dksX14_plainSteeps_0 19 rfl rfl)
abbrev cX14_parts : ByteArray := prog_28_method_110_code
def yX14_parts : MethodName := ⟨RX14, "parts", "(I)I"⟩
def dkwX14_parts_3 : List UInt8 := [27, 182, 1, 125, 172]
abbrev dktX14_parts_3 : List UInt8 := dkwX14_parts_3 ++ []
def dkwX14_parts_2 : List UInt8 := [61, 42, 180, 1, 122, 153, 0, 7, 3, 167, 0, 13, 28, 42, 42, 180, 1, 101, 182, 1, 113, 100, 172, 42]
abbrev dktX14_parts_2 : List UInt8 := dkwX14_parts_2 ++ dktX14_parts_3
def dkwX14_parts_1 : List UInt8 := [180, 1, 116, 96, 172, 42, 180, 1, 107, 8, 160, 0, 37, 42, 16, 61, 182, 1, 98, 42, 27, 182, 1, 125]
abbrev dktX14_parts_1 : List UInt8 := dkwX14_parts_1 ++ dktX14_parts_2
def dkwX14_parts_0 : List UInt8 := [42, 180, 1, 107, 6, 160, 0, 22, 42, 16, 50, 182, 1, 98, 42, 27, 6, 96, 182, 1, 125, 42]
abbrev dktX14_parts_0 : List UInt8 := dkwX14_parts_0 ++ dktX14_parts_1
theorem dksX14_parts_0 : cX14_parts.data.toList.drop 0 = dktX14_parts_0 := by decide +kernel
theorem dksX14_parts_1 : cX14_parts.data.toList.drop 22 = dktX14_parts_1 := dk_seg dksX14_parts_0 22 rfl rfl
theorem dksX14_parts_2 : cX14_parts.data.toList.drop 46 = dktX14_parts_2 := dk_seg dksX14_parts_1 24 rfl rfl
theorem dksX14_parts_3 : cX14_parts.data.toList.drop 70 = dktX14_parts_3 := dk_seg dksX14_parts_2 24 rfl rfl
theorem dX14_parts_0 : decode cX14_parts 0 = .ok (.aload_n 0, 1) := dk_42 (dk_at dksX14_parts_0 0 rfl rfl)
theorem dX14_parts_1 : decode cX14_parts 1 = .ok (.getfield 363, 3) := dk_180 1 107 (dk_at dksX14_parts_0 1 rfl rfl)
theorem dX14_parts_4 : decode cX14_parts 4 = .ok (.iconst 3, 1) := dk_6 (dk_at dksX14_parts_0 4 rfl rfl)
theorem dX14_parts_5 : decode cX14_parts 5 = .ok (.if_icmp .ne 22, 3) := dk_160 0 22 (dk_at dksX14_parts_0 5 rfl rfl)
theorem dX14_parts_8 : decode cX14_parts 8 = .ok (.aload_n 0, 1) := dk_42 (dk_at dksX14_parts_0 8 rfl rfl)
theorem dX14_parts_9 : decode cX14_parts 9 = .ok (.bipush 50, 2) := dk_16 50 (dk_at dksX14_parts_0 9 rfl rfl)
theorem dX14_parts_11 : decode cX14_parts 11 = .ok (.invokevirtual 354, 3) := dk_182 1 98 (dk_at dksX14_parts_0 11 rfl rfl)
theorem dX14_parts_14 : decode cX14_parts 14 = .ok (.aload_n 0, 1) := dk_42 (dk_at dksX14_parts_0 14 rfl rfl)
theorem dX14_parts_15 : decode cX14_parts 15 = .ok (.iload_n 1, 1) := dk_27 (dk_at dksX14_parts_0 15 rfl rfl)
theorem dX14_parts_16 : decode cX14_parts 16 = .ok (.iconst 3, 1) := dk_6 (dk_at dksX14_parts_0 16 rfl rfl)
theorem dX14_parts_17 : decode cX14_parts 17 = .ok (.iadd, 1) := dk_96 (dk_at dksX14_parts_0 17 rfl rfl)
theorem dX14_parts_18 : decode cX14_parts 18 = .ok (.invokevirtual 381, 3) := dk_182 1 125 (dk_at dksX14_parts_0 18 rfl rfl)
theorem dX14_parts_21 : decode cX14_parts 21 = .ok (.aload_n 0, 1) := dk_42 (dk_at dksX14_parts_0 21 rfl rfl)
theorem dX14_parts_22 : decode cX14_parts 22 = .ok (.getfield 372, 3) := dk_180 1 116 (dk_at dksX14_parts_1 0 rfl rfl)
theorem dX14_parts_25 : decode cX14_parts 25 = .ok (.iadd, 1) := dk_96 (dk_at dksX14_parts_1 3 rfl rfl)
theorem dX14_parts_26 : decode cX14_parts 26 = .ok (.ireturn, 1) := dk_172 (dk_at dksX14_parts_1 4 rfl rfl)
theorem dX14_parts_27 : decode cX14_parts 27 = .ok (.aload_n 0, 1) := dk_42 (dk_at dksX14_parts_1 5 rfl rfl)
theorem dX14_parts_28 : decode cX14_parts 28 = .ok (.getfield 363, 3) := dk_180 1 107 (dk_at dksX14_parts_1 6 rfl rfl)
theorem dX14_parts_31 : decode cX14_parts 31 = .ok (.iconst 5, 1) := dk_8 (dk_at dksX14_parts_1 9 rfl rfl)
theorem dX14_parts_32 : decode cX14_parts 32 = .ok (.if_icmp .ne 37, 3) := dk_160 0 37 (dk_at dksX14_parts_1 10 rfl rfl)
theorem dX14_parts_35 : decode cX14_parts 35 = .ok (.aload_n 0, 1) := dk_42 (dk_at dksX14_parts_1 13 rfl rfl)
theorem dX14_parts_36 : decode cX14_parts 36 = .ok (.bipush 61, 2) := dk_16 61 (dk_at dksX14_parts_1 14 rfl rfl)
theorem dX14_parts_38 : decode cX14_parts 38 = .ok (.invokevirtual 354, 3) := dk_182 1 98 (dk_at dksX14_parts_1 16 rfl rfl)
theorem dX14_parts_41 : decode cX14_parts 41 = .ok (.aload_n 0, 1) := dk_42 (dk_at dksX14_parts_1 19 rfl rfl)
theorem dX14_parts_42 : decode cX14_parts 42 = .ok (.iload_n 1, 1) := dk_27 (dk_at dksX14_parts_1 20 rfl rfl)
theorem dX14_parts_43 : decode cX14_parts 43 = .ok (.invokevirtual 381, 3) := dk_182 1 125 (dk_at dksX14_parts_1 21 rfl rfl)
theorem dX14_parts_46 : decode cX14_parts 46 = .ok (.istore_n 2, 1) := dk_61 (dk_at dksX14_parts_2 0 rfl rfl)
theorem dX14_parts_47 : decode cX14_parts 47 = .ok (.aload_n 0, 1) := dk_42 (dk_at dksX14_parts_2 1 rfl rfl)
theorem dX14_parts_48 : decode cX14_parts 48 = .ok (.getfield 378, 3) := dk_180 1 122 (dk_at dksX14_parts_2 2 rfl rfl)
theorem dX14_parts_51 : decode cX14_parts 51 = .ok (.ifCond .eq 7, 3) := dk_153 0 7 (dk_at dksX14_parts_2 5 rfl rfl)
theorem dX14_parts_54 : decode cX14_parts 54 = .ok (.iconst 0, 1) := dk_3 (dk_at dksX14_parts_2 8 rfl rfl)
theorem dX14_parts_55 : decode cX14_parts 55 = .ok (.goto 13, 3) := dk_167 0 13 (dk_at dksX14_parts_2 9 rfl rfl)
theorem dX14_parts_58 : decode cX14_parts 58 = .ok (.iload_n 2, 1) := dk_28 (dk_at dksX14_parts_2 12 rfl rfl)
theorem dX14_parts_59 : decode cX14_parts 59 = .ok (.aload_n 0, 1) := dk_42 (dk_at dksX14_parts_2 13 rfl rfl)
theorem dX14_parts_60 : decode cX14_parts 60 = .ok (.aload_n 0, 1) := dk_42 (dk_at dksX14_parts_2 14 rfl rfl)
theorem dX14_parts_61 : decode cX14_parts 61 = .ok (.getfield 357, 3) := dk_180 1 101 (dk_at dksX14_parts_2 15 rfl rfl)
theorem dX14_parts_64 : decode cX14_parts 64 = .ok (.invokevirtual 369, 3) := dk_182 1 113 (dk_at dksX14_parts_2 18 rfl rfl)
theorem dX14_parts_67 : decode cX14_parts 67 = .ok (.isub, 1) := dk_100 (dk_at dksX14_parts_2 21 rfl rfl)
theorem dX14_parts_68 : decode cX14_parts 68 = .ok (.ireturn, 1) := dk_172 (dk_at dksX14_parts_2 22 rfl rfl)
theorem dX14_parts_69 : decode cX14_parts 69 = .ok (.aload_n 0, 1) := dk_42 (dk_at dksX14_parts_2 23 rfl rfl)
theorem dX14_parts_70 : decode cX14_parts 70 = .ok (.iload_n 1, 1) := dk_27 (dk_at dksX14_parts_3 0 rfl rfl)
theorem dX14_parts_71 : decode cX14_parts 71 = .ok (.invokevirtual 381, 3) := dk_182 1 125 (dk_at dksX14_parts_3 1 rfl rfl)
theorem dX14_parts_74 : decode cX14_parts 74 = .ok (.ireturn, 1) := dk_172 (dk_at dksX14_parts_3 4 rfl rfl)
abbrev cX14_plainParts : ByteArray := prog_28_method_109_code
def yX14_plainParts : MethodName := ⟨RX14, "plainParts", "(I)I"⟩
def dkwX14_plainParts_3 : List UInt8 := [180, 1, 116, 42, 180, 1, 101, 100, 108, 172]
abbrev dktX14_plainParts_3 : List UInt8 := dkwX14_plainParts_3 ++ []
def dkwX14_plainParts_2 : List UInt8 := [167, 0, 32, 42, 180, 1, 116, 42, 180, 1, 101, 100, 2, 160, 0, 8, 27, 116, 167, 0, 14, 27, 42]
abbrev dktX14_plainParts_2 : List UInt8 := dkwX14_plainParts_2 ++ dktX14_plainParts_3
def dkwX14_plainParts_1 : List UInt8 := [160, 0, 7, 4, 167, 0, 4, 3, 181, 1, 122, 42, 180, 1, 116, 42, 180, 1, 101, 160, 0, 7, 3]
abbrev dktX14_plainParts_1 : List UInt8 := dkwX14_plainParts_1 ++ dktX14_plainParts_2
def dkwX14_plainParts_0 : List UInt8 := [42, 16, 12, 182, 1, 98, 42, 42, 180, 1, 122, 154, 0, 14, 42, 180, 1, 116, 42, 180, 1, 101]
abbrev dktX14_plainParts_0 : List UInt8 := dkwX14_plainParts_0 ++ dktX14_plainParts_1
theorem dksX14_plainParts_0 : cX14_plainParts.data.toList.drop 0 = dktX14_plainParts_0 := by decide +kernel
theorem dksX14_plainParts_1 : cX14_plainParts.data.toList.drop 22 = dktX14_plainParts_1 := dk_seg dksX14_plainParts_0 22 rfl rfl
theorem dksX14_plainParts_2 : cX14_plainParts.data.toList.drop 45 = dktX14_plainParts_2 := dk_seg dksX14_plainParts_1 23 rfl rfl
theorem dksX14_plainParts_3 : cX14_plainParts.data.toList.drop 68 = dktX14_plainParts_3 := dk_seg dksX14_plainParts_2 23 rfl rfl
theorem dX14_plainParts_0 : decode cX14_plainParts 0 = .ok (.aload_n 0, 1) := dk_42 (dk_at dksX14_plainParts_0 0 rfl rfl)
theorem dX14_plainParts_1 : decode cX14_plainParts 1 = .ok (.bipush 12, 2) := dk_16 12 (dk_at dksX14_plainParts_0 1 rfl rfl)
theorem dX14_plainParts_3 : decode cX14_plainParts 3 = .ok (.invokevirtual 354, 3) := dk_182 1 98 (dk_at dksX14_plainParts_0 3 rfl rfl)
theorem dX14_plainParts_6 : decode cX14_plainParts 6 = .ok (.aload_n 0, 1) := dk_42 (dk_at dksX14_plainParts_0 6 rfl rfl)
theorem dX14_plainParts_7 : decode cX14_plainParts 7 = .ok (.aload_n 0, 1) := dk_42 (dk_at dksX14_plainParts_0 7 rfl rfl)
theorem dX14_plainParts_8 : decode cX14_plainParts 8 = .ok (.getfield 378, 3) := dk_180 1 122 (dk_at dksX14_plainParts_0 8 rfl rfl)
theorem dX14_plainParts_11 : decode cX14_plainParts 11 = .ok (.ifCond .ne 14, 3) := dk_154 0 14 (dk_at dksX14_plainParts_0 11 rfl rfl)
theorem dX14_plainParts_14 : decode cX14_plainParts 14 = .ok (.aload_n 0, 1) := dk_42 (dk_at dksX14_plainParts_0 14 rfl rfl)
theorem dX14_plainParts_15 : decode cX14_plainParts 15 = .ok (.getfield 372, 3) := dk_180 1 116 (dk_at dksX14_plainParts_0 15 rfl rfl)
theorem dX14_plainParts_18 : decode cX14_plainParts 18 = .ok (.aload_n 0, 1) := dk_42 (dk_at dksX14_plainParts_0 18 rfl rfl)
theorem dX14_plainParts_19 : decode cX14_plainParts 19 = .ok (.getfield 357, 3) := dk_180 1 101 (dk_at dksX14_plainParts_0 19 rfl rfl)
theorem dX14_plainParts_22 : decode cX14_plainParts 22 = .ok (.if_icmp .ne 7, 3) := dk_160 0 7 (dk_at dksX14_plainParts_1 0 rfl rfl)
theorem dX14_plainParts_25 : decode cX14_plainParts 25 = .ok (.iconst 1, 1) := dk_4 (dk_at dksX14_plainParts_1 3 rfl rfl)
theorem dX14_plainParts_26 : decode cX14_plainParts 26 = .ok (.goto 4, 3) := dk_167 0 4 (dk_at dksX14_plainParts_1 4 rfl rfl)
theorem dX14_plainParts_29 : decode cX14_plainParts 29 = .ok (.iconst 0, 1) := dk_3 (dk_at dksX14_plainParts_1 7 rfl rfl)
theorem dX14_plainParts_30 : decode cX14_plainParts 30 = .ok (.putfield 378, 3) := dk_181 1 122 (dk_at dksX14_plainParts_1 8 rfl rfl)
theorem dX14_plainParts_33 : decode cX14_plainParts 33 = .ok (.aload_n 0, 1) := dk_42 (dk_at dksX14_plainParts_1 11 rfl rfl)
theorem dX14_plainParts_34 : decode cX14_plainParts 34 = .ok (.getfield 372, 3) := dk_180 1 116 (dk_at dksX14_plainParts_1 12 rfl rfl)
theorem dX14_plainParts_37 : decode cX14_plainParts 37 = .ok (.aload_n 0, 1) := dk_42 (dk_at dksX14_plainParts_1 15 rfl rfl)
theorem dX14_plainParts_38 : decode cX14_plainParts 38 = .ok (.getfield 357, 3) := dk_180 1 101 (dk_at dksX14_plainParts_1 16 rfl rfl)
theorem dX14_plainParts_41 : decode cX14_plainParts 41 = .ok (.if_icmp .ne 7, 3) := dk_160 0 7 (dk_at dksX14_plainParts_1 19 rfl rfl)
theorem dX14_plainParts_44 : decode cX14_plainParts 44 = .ok (.iconst 0, 1) := dk_3 (dk_at dksX14_plainParts_1 22 rfl rfl)
theorem dX14_plainParts_45 : decode cX14_plainParts 45 = .ok (.goto 32, 3) := dk_167 0 32 (dk_at dksX14_plainParts_2 0 rfl rfl)
theorem dX14_plainParts_48 : decode cX14_plainParts 48 = .ok (.aload_n 0, 1) := dk_42 (dk_at dksX14_plainParts_2 3 rfl rfl)
theorem dX14_plainParts_49 : decode cX14_plainParts 49 = .ok (.getfield 372, 3) := dk_180 1 116 (dk_at dksX14_plainParts_2 4 rfl rfl)
theorem dX14_plainParts_52 : decode cX14_plainParts 52 = .ok (.aload_n 0, 1) := dk_42 (dk_at dksX14_plainParts_2 7 rfl rfl)
theorem dX14_plainParts_53 : decode cX14_plainParts 53 = .ok (.getfield 357, 3) := dk_180 1 101 (dk_at dksX14_plainParts_2 8 rfl rfl)
theorem dX14_plainParts_56 : decode cX14_plainParts 56 = .ok (.isub, 1) := dk_100 (dk_at dksX14_plainParts_2 11 rfl rfl)
theorem dX14_plainParts_57 : decode cX14_plainParts 57 = .ok (.iconst (-1), 1) := dk_2 (dk_at dksX14_plainParts_2 12 rfl rfl)
theorem dX14_plainParts_58 : decode cX14_plainParts 58 = .ok (.if_icmp .ne 8, 3) := dk_160 0 8 (dk_at dksX14_plainParts_2 13 rfl rfl)
theorem dX14_plainParts_61 : decode cX14_plainParts 61 = .ok (.iload_n 1, 1) := dk_27 (dk_at dksX14_plainParts_2 16 rfl rfl)
theorem dX14_plainParts_62 : decode cX14_plainParts 62 = .ok (.ineg, 1) := dk_116 (dk_at dksX14_plainParts_2 17 rfl rfl)
theorem dX14_plainParts_63 : decode cX14_plainParts 63 = .ok (.goto 14, 3) := dk_167 0 14 (dk_at dksX14_plainParts_2 18 rfl rfl)
theorem dX14_plainParts_66 : decode cX14_plainParts 66 = .ok (.iload_n 1, 1) := dk_27 (dk_at dksX14_plainParts_2 21 rfl rfl)
theorem dX14_plainParts_67 : decode cX14_plainParts 67 = .ok (.aload_n 0, 1) := dk_42 (dk_at dksX14_plainParts_2 22 rfl rfl)
theorem dX14_plainParts_68 : decode cX14_plainParts 68 = .ok (.getfield 372, 3) := dk_180 1 116 (dk_at dksX14_plainParts_3 0 rfl rfl)
theorem dX14_plainParts_71 : decode cX14_plainParts 71 = .ok (.aload_n 0, 1) := dk_42 (dk_at dksX14_plainParts_3 3 rfl rfl)
theorem dX14_plainParts_72 : decode cX14_plainParts 72 = .ok (.getfield 357, 3) := dk_180 1 101 (dk_at dksX14_plainParts_3 4 rfl rfl)
theorem dX14_plainParts_75 : decode cX14_plainParts 75 = .ok (.isub, 1) := dk_100 (dk_at dksX14_plainParts_3 7 rfl rfl)
theorem dX14_plainParts_76 : decode cX14_plainParts 76 = .ok (.idiv, 1) := dk_108 (dk_at dksX14_plainParts_3 8 rfl rfl)
theorem dX14_plainParts_77 : decode cX14_plainParts 77 = .ok (.ireturn, 1) := dk_172 (dk_at dksX14_plainParts_3 9 rfl rfl)
abbrev cX14_driesAct : ByteArray := prog_28_method_112_code
def yX14_driesAct : MethodName := ⟨RX14, "driesAct", "(I)I"⟩
def dkwX14_driesAct_2 : List UInt8 := [16, 60, 182, 1, 98, 42, 27, 182, 1, 131, 6, 104, 172, 42, 27, 182, 1, 131, 172]
abbrev dktX14_driesAct_2 : List UInt8 := dkwX14_driesAct_2 ++ []
def dkwX14_driesAct_1 : List UInt8 := [182, 1, 131, 61, 28, 42, 42, 180, 1, 101, 182, 1, 134, 96, 172, 42, 180, 1, 107, 8, 160, 0, 17, 42]
abbrev dktX14_driesAct_1 : List UInt8 := dkwX14_driesAct_1 ++ dktX14_driesAct_2
def dkwX14_driesAct_0 : List UInt8 := [42, 180, 1, 107, 5, 159, 0, 11, 42, 180, 1, 107, 7, 160, 0, 26, 42, 16, 31, 182, 1, 98, 42, 27]
abbrev dktX14_driesAct_0 : List UInt8 := dkwX14_driesAct_0 ++ dktX14_driesAct_1
theorem dksX14_driesAct_0 : cX14_driesAct.data.toList.drop 0 = dktX14_driesAct_0 := by decide +kernel
theorem dksX14_driesAct_1 : cX14_driesAct.data.toList.drop 24 = dktX14_driesAct_1 := dk_seg dksX14_driesAct_0 24 rfl rfl
theorem dksX14_driesAct_2 : cX14_driesAct.data.toList.drop 48 = dktX14_driesAct_2 := dk_seg dksX14_driesAct_1 24 rfl rfl
theorem dX14_driesAct_0 : decode cX14_driesAct 0 = .ok (.aload_n 0, 1) := dk_42 (dk_at dksX14_driesAct_0 0 rfl rfl)
theorem dX14_driesAct_1 : decode cX14_driesAct 1 = .ok (.getfield 363, 3) := dk_180 1 107 (dk_at dksX14_driesAct_0 1 rfl rfl)
theorem dX14_driesAct_4 : decode cX14_driesAct 4 = .ok (.iconst 2, 1) := dk_5 (dk_at dksX14_driesAct_0 4 rfl rfl)
theorem dX14_driesAct_5 : decode cX14_driesAct 5 = .ok (.if_icmp .eq 11, 3) := dk_159 0 11 (dk_at dksX14_driesAct_0 5 rfl rfl)
theorem dX14_driesAct_8 : decode cX14_driesAct 8 = .ok (.aload_n 0, 1) := dk_42 (dk_at dksX14_driesAct_0 8 rfl rfl)
theorem dX14_driesAct_9 : decode cX14_driesAct 9 = .ok (.getfield 363, 3) := dk_180 1 107 (dk_at dksX14_driesAct_0 9 rfl rfl)
theorem dX14_driesAct_12 : decode cX14_driesAct 12 = .ok (.iconst 4, 1) := dk_7 (dk_at dksX14_driesAct_0 12 rfl rfl)
theorem dX14_driesAct_13 : decode cX14_driesAct 13 = .ok (.if_icmp .ne 26, 3) := dk_160 0 26 (dk_at dksX14_driesAct_0 13 rfl rfl)
theorem dX14_driesAct_16 : decode cX14_driesAct 16 = .ok (.aload_n 0, 1) := dk_42 (dk_at dksX14_driesAct_0 16 rfl rfl)
theorem dX14_driesAct_17 : decode cX14_driesAct 17 = .ok (.bipush 31, 2) := dk_16 31 (dk_at dksX14_driesAct_0 17 rfl rfl)
theorem dX14_driesAct_19 : decode cX14_driesAct 19 = .ok (.invokevirtual 354, 3) := dk_182 1 98 (dk_at dksX14_driesAct_0 19 rfl rfl)
theorem dX14_driesAct_22 : decode cX14_driesAct 22 = .ok (.aload_n 0, 1) := dk_42 (dk_at dksX14_driesAct_0 22 rfl rfl)
theorem dX14_driesAct_23 : decode cX14_driesAct 23 = .ok (.iload_n 1, 1) := dk_27 (dk_at dksX14_driesAct_0 23 rfl rfl)
theorem dX14_driesAct_24 : decode cX14_driesAct 24 = .ok (.invokevirtual 387, 3) := dk_182 1 131 (dk_at dksX14_driesAct_1 0 rfl rfl)
theorem dX14_driesAct_27 : decode cX14_driesAct 27 = .ok (.istore_n 2, 1) := dk_61 (dk_at dksX14_driesAct_1 3 rfl rfl)
theorem dX14_driesAct_28 : decode cX14_driesAct 28 = .ok (.iload_n 2, 1) := dk_28 (dk_at dksX14_driesAct_1 4 rfl rfl)
theorem dX14_driesAct_29 : decode cX14_driesAct 29 = .ok (.aload_n 0, 1) := dk_42 (dk_at dksX14_driesAct_1 5 rfl rfl)
theorem dX14_driesAct_30 : decode cX14_driesAct 30 = .ok (.aload_n 0, 1) := dk_42 (dk_at dksX14_driesAct_1 6 rfl rfl)
theorem dX14_driesAct_31 : decode cX14_driesAct 31 = .ok (.getfield 357, 3) := dk_180 1 101 (dk_at dksX14_driesAct_1 7 rfl rfl)
theorem dX14_driesAct_34 : decode cX14_driesAct 34 = .ok (.invokevirtual 390, 3) := dk_182 1 134 (dk_at dksX14_driesAct_1 10 rfl rfl)
theorem dX14_driesAct_37 : decode cX14_driesAct 37 = .ok (.iadd, 1) := dk_96 (dk_at dksX14_driesAct_1 13 rfl rfl)
theorem dX14_driesAct_38 : decode cX14_driesAct 38 = .ok (.ireturn, 1) := dk_172 (dk_at dksX14_driesAct_1 14 rfl rfl)
theorem dX14_driesAct_39 : decode cX14_driesAct 39 = .ok (.aload_n 0, 1) := dk_42 (dk_at dksX14_driesAct_1 15 rfl rfl)
theorem dX14_driesAct_40 : decode cX14_driesAct 40 = .ok (.getfield 363, 3) := dk_180 1 107 (dk_at dksX14_driesAct_1 16 rfl rfl)
theorem dX14_driesAct_43 : decode cX14_driesAct 43 = .ok (.iconst 5, 1) := dk_8 (dk_at dksX14_driesAct_1 19 rfl rfl)
theorem dX14_driesAct_44 : decode cX14_driesAct 44 = .ok (.if_icmp .ne 17, 3) := dk_160 0 17 (dk_at dksX14_driesAct_1 20 rfl rfl)
theorem dX14_driesAct_47 : decode cX14_driesAct 47 = .ok (.aload_n 0, 1) := dk_42 (dk_at dksX14_driesAct_1 23 rfl rfl)
theorem dX14_driesAct_48 : decode cX14_driesAct 48 = .ok (.bipush 60, 2) := dk_16 60 (dk_at dksX14_driesAct_2 0 rfl rfl)
theorem dX14_driesAct_50 : decode cX14_driesAct 50 = .ok (.invokevirtual 354, 3) := dk_182 1 98 (dk_at dksX14_driesAct_2 2 rfl rfl)
theorem dX14_driesAct_53 : decode cX14_driesAct 53 = .ok (.aload_n 0, 1) := dk_42 (dk_at dksX14_driesAct_2 5 rfl rfl)
theorem dX14_driesAct_54 : decode cX14_driesAct 54 = .ok (.iload_n 1, 1) := dk_27 (dk_at dksX14_driesAct_2 6 rfl rfl)
theorem dX14_driesAct_55 : decode cX14_driesAct 55 = .ok (.invokevirtual 387, 3) := dk_182 1 131 (dk_at dksX14_driesAct_2 7 rfl rfl)
theorem dX14_driesAct_58 : decode cX14_driesAct 58 = .ok (.iconst 3, 1) := dk_6 (dk_at dksX14_driesAct_2 10 rfl rfl)
theorem dX14_driesAct_59 : decode cX14_driesAct 59 = .ok (.imul, 1) := dk_104 (dk_at dksX14_driesAct_2 11 rfl rfl)
theorem dX14_driesAct_60 : decode cX14_driesAct 60 = .ok (.ireturn, 1) := dk_172 (dk_at dksX14_driesAct_2 12 rfl rfl)
theorem dX14_driesAct_61 : decode cX14_driesAct 61 = .ok (.aload_n 0, 1) := dk_42 (dk_at dksX14_driesAct_2 13 rfl rfl)
theorem dX14_driesAct_62 : decode cX14_driesAct 62 = .ok (.iload_n 1, 1) := dk_27 (dk_at dksX14_driesAct_2 14 rfl rfl)
theorem dX14_driesAct_63 : decode cX14_driesAct 63 = .ok (.invokevirtual 387, 3) := dk_182 1 131 (dk_at dksX14_driesAct_2 15 rfl rfl)
theorem dX14_driesAct_66 : decode cX14_driesAct 66 = .ok (.ireturn, 1) := dk_172 (dk_at dksX14_driesAct_2 18 rfl rfl)
abbrev cX14_plainDries : ByteArray := prog_28_method_111_code
def yX14_plainDries : MethodName := ⟨RX14, "plainDries", "(I)I"⟩
def dkwX14_plainDries_0 : List UInt8 := [42, 16, 13, 182, 1, 98, 42, 27, 182, 1, 128, 17, 0, 240, 130, 172]
abbrev dktX14_plainDries_0 : List UInt8 := dkwX14_plainDries_0 ++ []
theorem dksX14_plainDries_0 : cX14_plainDries.data.toList.drop 0 = dktX14_plainDries_0 := by decide +kernel
theorem dX14_plainDries_0 : decode cX14_plainDries 0 = .ok (.aload_n 0, 1) := dk_42 (dk_at dksX14_plainDries_0 0 rfl rfl)
theorem dX14_plainDries_1 : decode cX14_plainDries 1 = .ok (.bipush 13, 2) := dk_16 13 (dk_at dksX14_plainDries_0 1 rfl rfl)
theorem dX14_plainDries_3 : decode cX14_plainDries 3 = .ok (.invokevirtual 354, 3) := dk_182 1 98 (dk_at dksX14_plainDries_0 3 rfl rfl)
theorem dX14_plainDries_6 : decode cX14_plainDries 6 = .ok (.aload_n 0, 1) := dk_42 (dk_at dksX14_plainDries_0 6 rfl rfl)
theorem dX14_plainDries_7 : decode cX14_plainDries 7 = .ok (.iload_n 1, 1) := dk_27 (dk_at dksX14_plainDries_0 7 rfl rfl)
theorem dX14_plainDries_8 : decode cX14_plainDries 8 = .ok (.invokevirtual 384, 3) := dk_182 1 128 (dk_at dksX14_plainDries_0 8 rfl rfl)
theorem dX14_plainDries_11 : decode cX14_plainDries 11 = .ok (.sipush 240, 3) := dk_17 0 240 (dk_at dksX14_plainDries_0 11 rfl rfl)
theorem dX14_plainDries_14 : decode cX14_plainDries 14 = .ok (.ixor, 1) := dk_130 (dk_at dksX14_plainDries_0 14 rfl rfl)
theorem dX14_plainDries_15 : decode cX14_plainDries 15 = .ok (.ireturn, 1) := dk_172 (dk_at dksX14_plainDries_0 15 rfl rfl)
abbrev cX14_trace : ByteArray := prog_28_method_114_code
def yX14_trace : MethodName := ⟨RX14, "trace", "(I)I"⟩
def dkwX14_trace_1 : List UInt8 := [167, 0, 5, 16, 253, 172]
abbrev dktX14_trace_1 : List UInt8 := dkwX14_trace_1 ++ []
def dkwX14_trace_0 : List UInt8 := [27, 133, 9, 42, 180, 1, 95, 4, 100, 133, 184, 0, 59, 153, 0, 12, 42, 180, 0, 49, 27, 46]
abbrev dktX14_trace_0 : List UInt8 := dkwX14_trace_0 ++ dktX14_trace_1
theorem dksX14_trace_0 : cX14_trace.data.toList.drop 0 = dktX14_trace_0 := by decide +kernel
theorem dksX14_trace_1 : cX14_trace.data.toList.drop 22 = dktX14_trace_1 := dk_seg dksX14_trace_0 22 rfl rfl
theorem dX14_trace_0 : decode cX14_trace 0 = .ok (.iload_n 1, 1) := dk_27 (dk_at dksX14_trace_0 0 rfl rfl)
theorem dX14_trace_1 : decode cX14_trace 1 = .ok (.i2l, 1) := dk_133 (dk_at dksX14_trace_0 1 rfl rfl)
theorem dX14_trace_2 : decode cX14_trace 2 = .ok (.lconst 0, 1) := dk_9 (dk_at dksX14_trace_0 2 rfl rfl)
theorem dX14_trace_3 : decode cX14_trace 3 = .ok (.aload_n 0, 1) := dk_42 (dk_at dksX14_trace_0 3 rfl rfl)
theorem dX14_trace_4 : decode cX14_trace 4 = .ok (.getfield 351, 3) := dk_180 1 95 (dk_at dksX14_trace_0 4 rfl rfl)
theorem dX14_trace_7 : decode cX14_trace 7 = .ok (.iconst 1, 1) := dk_4 (dk_at dksX14_trace_0 7 rfl rfl)
theorem dX14_trace_8 : decode cX14_trace 8 = .ok (.isub, 1) := dk_100 (dk_at dksX14_trace_0 8 rfl rfl)
theorem dX14_trace_9 : decode cX14_trace 9 = .ok (.i2l, 1) := dk_133 (dk_at dksX14_trace_0 9 rfl rfl)
theorem dX14_trace_10 : decode cX14_trace 10 = .ok (.invokestatic 59, 3) := dk_184 0 59 (dk_at dksX14_trace_0 10 rfl rfl)
theorem dX14_trace_13 : decode cX14_trace 13 = .ok (.ifCond .eq 12, 3) := dk_153 0 12 (dk_at dksX14_trace_0 13 rfl rfl)
theorem dX14_trace_16 : decode cX14_trace 16 = .ok (.aload_n 0, 1) := dk_42 (dk_at dksX14_trace_0 16 rfl rfl)
theorem dX14_trace_17 : decode cX14_trace 17 = .ok (.getfield 49, 3) := dk_180 0 49 (dk_at dksX14_trace_0 17 rfl rfl)
theorem dX14_trace_20 : decode cX14_trace 20 = .ok (.iload_n 1, 1) := dk_27 (dk_at dksX14_trace_0 20 rfl rfl)
theorem dX14_trace_21 : decode cX14_trace 21 = .ok (.iaload, 1) := dk_46 (dk_at dksX14_trace_0 21 rfl rfl)
theorem dX14_trace_22 : decode cX14_trace 22 = .ok (.goto 5, 3) := dk_167 0 5 (dk_at dksX14_trace_1 0 rfl rfl)
theorem dX14_trace_25 : decode cX14_trace 25 = .ok (.bipush (-3), 2) := dk_16 253 (dk_at dksX14_trace_1 3 rfl rfl)
theorem dX14_trace_27 : decode cX14_trace 27 = .ok (.ireturn, 1) := dk_172 (dk_at dksX14_trace_1 5 rfl rfl)
abbrev cX14_many : ByteArray := prog_28_method_116_code
def yX14_many : MethodName := ⟨RX14, "many", "(I)I"⟩
def dkwX14_many_3 : List UInt8 := [42, 182, 1, 140, 172, 42, 180, 1, 73, 172, 42, 180, 0, 224, 172, 42, 180, 1, 95, 172, 2, 172]
abbrev dktX14_many_3 : List UInt8 := dkwX14_many_3 ++ []
def dkwX14_many_2 : List UInt8 := [42, 180, 0, 16, 16, 6, 46, 172, 42, 182, 0, 171, 184, 0, 203, 172, 42, 182, 0, 174, 184, 0, 203, 172]
abbrev dktX14_many_2 : List UInt8 := dkwX14_many_2 ++ dktX14_many_3
def dkwX14_many_1 : List UInt8 := [170, 0, 0, 0, 0, 0, 87, 0, 0, 0, 0, 0, 0, 0, 6, 0, 0, 0, 43, 0, 0, 0, 51, 0, 0, 0, 59, 0, 0, 0, 67, 0, 0, 0, 72, 0, 0, 0, 77, 0, 0, 0, 82]
abbrev dktX14_many_1 : List UInt8 := dkwX14_many_1 ++ dktX14_many_2
def dkwX14_many_0 : List UInt8 := [27]
abbrev dktX14_many_0 : List UInt8 := dkwX14_many_0 ++ dktX14_many_1
theorem dksX14_many_0 : cX14_many.data.toList.drop 0 = dktX14_many_0 := by decide +kernel
theorem dksX14_many_1 : cX14_many.data.toList.drop 1 = dktX14_many_1 := dk_seg dksX14_many_0 1 rfl rfl
theorem dksX14_many_2 : cX14_many.data.toList.drop 44 = dktX14_many_2 := dk_seg dksX14_many_1 43 rfl rfl
theorem dksX14_many_3 : cX14_many.data.toList.drop 68 = dktX14_many_3 := dk_seg dksX14_many_2 24 rfl rfl
theorem dX14_many_0 : decode cX14_many 0 = .ok (.iload_n 1, 1) := dk_27 (dk_at dksX14_many_0 0 rfl rfl)
theorem dX14_many_1 : decode cX14_many 1 = .ok (.tableswitch 87 0 6 #[43, 51, 59, 67, 72, 77, 82], 43) := by decide +kernel
theorem dX14_many_44 : decode cX14_many 44 = .ok (.aload_n 0, 1) := dk_42 (dk_at dksX14_many_2 0 rfl rfl)
theorem dX14_many_45 : decode cX14_many 45 = .ok (.getfield 16, 3) := dk_180 0 16 (dk_at dksX14_many_2 1 rfl rfl)
theorem dX14_many_48 : decode cX14_many 48 = .ok (.bipush 6, 2) := dk_16 6 (dk_at dksX14_many_2 4 rfl rfl)
theorem dX14_many_50 : decode cX14_many 50 = .ok (.iaload, 1) := dk_46 (dk_at dksX14_many_2 6 rfl rfl)
theorem dX14_many_51 : decode cX14_many 51 = .ok (.ireturn, 1) := dk_172 (dk_at dksX14_many_2 7 rfl rfl)
theorem dX14_many_52 : decode cX14_many 52 = .ok (.aload_n 0, 1) := dk_42 (dk_at dksX14_many_2 8 rfl rfl)
theorem dX14_many_53 : decode cX14_many 53 = .ok (.invokevirtual 171, 3) := dk_182 0 171 (dk_at dksX14_many_2 9 rfl rfl)
theorem dX14_many_56 : decode cX14_many 56 = .ok (.invokestatic 203, 3) := dk_184 0 203 (dk_at dksX14_many_2 12 rfl rfl)
theorem dX14_many_59 : decode cX14_many 59 = .ok (.ireturn, 1) := dk_172 (dk_at dksX14_many_2 15 rfl rfl)
theorem dX14_many_60 : decode cX14_many 60 = .ok (.aload_n 0, 1) := dk_42 (dk_at dksX14_many_2 16 rfl rfl)
theorem dX14_many_61 : decode cX14_many 61 = .ok (.invokevirtual 174, 3) := dk_182 0 174 (dk_at dksX14_many_2 17 rfl rfl)
theorem dX14_many_64 : decode cX14_many 64 = .ok (.invokestatic 203, 3) := dk_184 0 203 (dk_at dksX14_many_2 20 rfl rfl)
theorem dX14_many_67 : decode cX14_many 67 = .ok (.ireturn, 1) := dk_172 (dk_at dksX14_many_2 23 rfl rfl)
theorem dX14_many_68 : decode cX14_many 68 = .ok (.aload_n 0, 1) := dk_42 (dk_at dksX14_many_3 0 rfl rfl)
theorem dX14_many_69 : decode cX14_many 69 = .ok (.invokevirtual 396, 3) := dk_182 1 140 (dk_at dksX14_many_3 1 rfl rfl)
theorem dX14_many_72 : decode cX14_many 72 = .ok (.ireturn, 1) := dk_172 (dk_at dksX14_many_3 4 rfl rfl)
theorem dX14_many_73 : decode cX14_many 73 = .ok (.aload_n 0, 1) := dk_42 (dk_at dksX14_many_3 5 rfl rfl)
theorem dX14_many_74 : decode cX14_many 74 = .ok (.getfield 329, 3) := dk_180 1 73 (dk_at dksX14_many_3 6 rfl rfl)
theorem dX14_many_77 : decode cX14_many 77 = .ok (.ireturn, 1) := dk_172 (dk_at dksX14_many_3 9 rfl rfl)
theorem dX14_many_78 : decode cX14_many 78 = .ok (.aload_n 0, 1) := dk_42 (dk_at dksX14_many_3 10 rfl rfl)
theorem dX14_many_79 : decode cX14_many 79 = .ok (.getfield 224, 3) := dk_180 0 224 (dk_at dksX14_many_3 11 rfl rfl)
theorem dX14_many_82 : decode cX14_many 82 = .ok (.ireturn, 1) := dk_172 (dk_at dksX14_many_3 14 rfl rfl)
theorem dX14_many_83 : decode cX14_many 83 = .ok (.aload_n 0, 1) := dk_42 (dk_at dksX14_many_3 15 rfl rfl)
theorem dX14_many_84 : decode cX14_many 84 = .ok (.getfield 351, 3) := dk_180 1 95 (dk_at dksX14_many_3 16 rfl rfl)
theorem dX14_many_87 : decode cX14_many 87 = .ok (.ireturn, 1) := dk_172 (dk_at dksX14_many_3 19 rfl rfl)
theorem dX14_many_88 : decode cX14_many 88 = .ok (.iconst (-1), 1) := dk_2 (dk_at dksX14_many_3 20 rfl rfl)
theorem dX14_many_89 : decode cX14_many 89 = .ok (.ireturn, 1) := dk_172 (dk_at dksX14_many_3 21 rfl rfl)
abbrev cX14_purposesAbout : ByteArray := prog_28_method_115_code
def yX14_purposesAbout : MethodName := ⟨RX14, "purposesAbout", "()I"⟩
def dkwX14_purposesAbout_3 : List UInt8 := [27, 172]
abbrev dktX14_purposesAbout_3 : List UInt8 := dkwX14_purposesAbout_3 ++ []
def dkwX14_purposesAbout_2 : List UInt8 := [132, 4, 1, 167, 255, 220, 27, 29, 153, 0, 7, 4, 167, 0, 4, 3, 96, 60, 132, 2, 1, 167, 255, 191]
abbrev dktX14_purposesAbout_2 : List UInt8 := dkwX14_purposesAbout_2 ++ dktX14_purposesAbout_3
def dkwX14_purposesAbout_1 : List UInt8 := [162, 0, 30, 29, 154, 0, 14, 42, 21, 4, 4, 182, 0, 82, 28, 160, 0, 7, 4, 167, 0, 4, 3, 62]
abbrev dktX14_purposesAbout_1 : List UInt8 := dkwX14_purposesAbout_1 ++ dktX14_purposesAbout_2
def dkwX14_purposesAbout_0 : List UInt8 := [3, 60, 3, 61, 28, 16, 10, 162, 0, 65, 3, 62, 3, 54, 4, 21, 4, 42, 180, 0, 16, 16, 6, 46]
abbrev dktX14_purposesAbout_0 : List UInt8 := dkwX14_purposesAbout_0 ++ dktX14_purposesAbout_1
theorem dksX14_purposesAbout_0 : cX14_purposesAbout.data.toList.drop 0 = dktX14_purposesAbout_0 := by decide +kernel
theorem dksX14_purposesAbout_1 : cX14_purposesAbout.data.toList.drop 24 = dktX14_purposesAbout_1 := dk_seg dksX14_purposesAbout_0 24 rfl rfl
theorem dksX14_purposesAbout_2 : cX14_purposesAbout.data.toList.drop 48 = dktX14_purposesAbout_2 := dk_seg dksX14_purposesAbout_1 24 rfl rfl
theorem dksX14_purposesAbout_3 : cX14_purposesAbout.data.toList.drop 72 = dktX14_purposesAbout_3 := dk_seg dksX14_purposesAbout_2 24 rfl rfl
theorem dX14_purposesAbout_0 : decode cX14_purposesAbout 0 = .ok (.iconst 0, 1) := dk_3 (dk_at dksX14_purposesAbout_0 0 rfl rfl)
theorem dX14_purposesAbout_1 : decode cX14_purposesAbout 1 = .ok (.istore_n 1, 1) := dk_60 (dk_at dksX14_purposesAbout_0 1 rfl rfl)
theorem dX14_purposesAbout_2 : decode cX14_purposesAbout 2 = .ok (.iconst 0, 1) := dk_3 (dk_at dksX14_purposesAbout_0 2 rfl rfl)
theorem dX14_purposesAbout_3 : decode cX14_purposesAbout 3 = .ok (.istore_n 2, 1) := dk_61 (dk_at dksX14_purposesAbout_0 3 rfl rfl)
theorem dX14_purposesAbout_4 : decode cX14_purposesAbout 4 = .ok (.iload_n 2, 1) := dk_28 (dk_at dksX14_purposesAbout_0 4 rfl rfl)
theorem dX14_purposesAbout_5 : decode cX14_purposesAbout 5 = .ok (.bipush 10, 2) := dk_16 10 (dk_at dksX14_purposesAbout_0 5 rfl rfl)
theorem dX14_purposesAbout_7 : decode cX14_purposesAbout 7 = .ok (.if_icmp .ge 65, 3) := dk_162 0 65 (dk_at dksX14_purposesAbout_0 7 rfl rfl)
theorem dX14_purposesAbout_10 : decode cX14_purposesAbout 10 = .ok (.iconst 0, 1) := dk_3 (dk_at dksX14_purposesAbout_0 10 rfl rfl)
theorem dX14_purposesAbout_11 : decode cX14_purposesAbout 11 = .ok (.istore_n 3, 1) := dk_62 (dk_at dksX14_purposesAbout_0 11 rfl rfl)
theorem dX14_purposesAbout_12 : decode cX14_purposesAbout 12 = .ok (.iconst 0, 1) := dk_3 (dk_at dksX14_purposesAbout_0 12 rfl rfl)
theorem dX14_purposesAbout_13 : decode cX14_purposesAbout 13 = .ok (.istore 4, 2) := dk_54 4 (dk_at dksX14_purposesAbout_0 13 rfl rfl)
theorem dX14_purposesAbout_15 : decode cX14_purposesAbout 15 = .ok (.iload 4, 2) := dk_21 4 (dk_at dksX14_purposesAbout_0 15 rfl rfl)
theorem dX14_purposesAbout_17 : decode cX14_purposesAbout 17 = .ok (.aload_n 0, 1) := dk_42 (dk_at dksX14_purposesAbout_0 17 rfl rfl)
theorem dX14_purposesAbout_18 : decode cX14_purposesAbout 18 = .ok (.getfield 16, 3) := dk_180 0 16 (dk_at dksX14_purposesAbout_0 18 rfl rfl)
theorem dX14_purposesAbout_21 : decode cX14_purposesAbout 21 = .ok (.bipush 6, 2) := dk_16 6 (dk_at dksX14_purposesAbout_0 21 rfl rfl)
theorem dX14_purposesAbout_23 : decode cX14_purposesAbout 23 = .ok (.iaload, 1) := dk_46 (dk_at dksX14_purposesAbout_0 23 rfl rfl)
theorem dX14_purposesAbout_24 : decode cX14_purposesAbout 24 = .ok (.if_icmp .ge 30, 3) := dk_162 0 30 (dk_at dksX14_purposesAbout_1 0 rfl rfl)
theorem dX14_purposesAbout_27 : decode cX14_purposesAbout 27 = .ok (.iload_n 3, 1) := dk_29 (dk_at dksX14_purposesAbout_1 3 rfl rfl)
theorem dX14_purposesAbout_28 : decode cX14_purposesAbout 28 = .ok (.ifCond .ne 14, 3) := dk_154 0 14 (dk_at dksX14_purposesAbout_1 4 rfl rfl)
theorem dX14_purposesAbout_31 : decode cX14_purposesAbout 31 = .ok (.aload_n 0, 1) := dk_42 (dk_at dksX14_purposesAbout_1 7 rfl rfl)
theorem dX14_purposesAbout_32 : decode cX14_purposesAbout 32 = .ok (.iload 4, 2) := dk_21 4 (dk_at dksX14_purposesAbout_1 8 rfl rfl)
theorem dX14_purposesAbout_34 : decode cX14_purposesAbout 34 = .ok (.iconst 1, 1) := dk_4 (dk_at dksX14_purposesAbout_1 10 rfl rfl)
theorem dX14_purposesAbout_35 : decode cX14_purposesAbout 35 = .ok (.invokevirtual 82, 3) := dk_182 0 82 (dk_at dksX14_purposesAbout_1 11 rfl rfl)
theorem dX14_purposesAbout_38 : decode cX14_purposesAbout 38 = .ok (.iload_n 2, 1) := dk_28 (dk_at dksX14_purposesAbout_1 14 rfl rfl)
theorem dX14_purposesAbout_39 : decode cX14_purposesAbout 39 = .ok (.if_icmp .ne 7, 3) := dk_160 0 7 (dk_at dksX14_purposesAbout_1 15 rfl rfl)
theorem dX14_purposesAbout_42 : decode cX14_purposesAbout 42 = .ok (.iconst 1, 1) := dk_4 (dk_at dksX14_purposesAbout_1 18 rfl rfl)
theorem dX14_purposesAbout_43 : decode cX14_purposesAbout 43 = .ok (.goto 4, 3) := dk_167 0 4 (dk_at dksX14_purposesAbout_1 19 rfl rfl)
theorem dX14_purposesAbout_46 : decode cX14_purposesAbout 46 = .ok (.iconst 0, 1) := dk_3 (dk_at dksX14_purposesAbout_1 22 rfl rfl)
theorem dX14_purposesAbout_47 : decode cX14_purposesAbout 47 = .ok (.istore_n 3, 1) := dk_62 (dk_at dksX14_purposesAbout_1 23 rfl rfl)
theorem dX14_purposesAbout_48 : decode cX14_purposesAbout 48 = .ok (.iinc 4 1, 3) := dk_132 4 1 (dk_at dksX14_purposesAbout_2 0 rfl rfl)
theorem dX14_purposesAbout_51 : decode cX14_purposesAbout 51 = .ok (.goto (-36), 3) := dk_167 255 220 (dk_at dksX14_purposesAbout_2 3 rfl rfl)
theorem dX14_purposesAbout_54 : decode cX14_purposesAbout 54 = .ok (.iload_n 1, 1) := dk_27 (dk_at dksX14_purposesAbout_2 6 rfl rfl)
theorem dX14_purposesAbout_55 : decode cX14_purposesAbout 55 = .ok (.iload_n 3, 1) := dk_29 (dk_at dksX14_purposesAbout_2 7 rfl rfl)
theorem dX14_purposesAbout_56 : decode cX14_purposesAbout 56 = .ok (.ifCond .eq 7, 3) := dk_153 0 7 (dk_at dksX14_purposesAbout_2 8 rfl rfl)
theorem dX14_purposesAbout_59 : decode cX14_purposesAbout 59 = .ok (.iconst 1, 1) := dk_4 (dk_at dksX14_purposesAbout_2 11 rfl rfl)
theorem dX14_purposesAbout_60 : decode cX14_purposesAbout 60 = .ok (.goto 4, 3) := dk_167 0 4 (dk_at dksX14_purposesAbout_2 12 rfl rfl)
theorem dX14_purposesAbout_63 : decode cX14_purposesAbout 63 = .ok (.iconst 0, 1) := dk_3 (dk_at dksX14_purposesAbout_2 15 rfl rfl)
theorem dX14_purposesAbout_64 : decode cX14_purposesAbout 64 = .ok (.iadd, 1) := dk_96 (dk_at dksX14_purposesAbout_2 16 rfl rfl)
theorem dX14_purposesAbout_65 : decode cX14_purposesAbout 65 = .ok (.istore_n 1, 1) := dk_60 (dk_at dksX14_purposesAbout_2 17 rfl rfl)
theorem dX14_purposesAbout_66 : decode cX14_purposesAbout 66 = .ok (.iinc 2 1, 3) := dk_132 2 1 (dk_at dksX14_purposesAbout_2 18 rfl rfl)
theorem dX14_purposesAbout_69 : decode cX14_purposesAbout 69 = .ok (.goto (-65), 3) := dk_167 255 191 (dk_at dksX14_purposesAbout_2 21 rfl rfl)
theorem dX14_purposesAbout_72 : decode cX14_purposesAbout 72 = .ok (.iload_n 1, 1) := dk_27 (dk_at dksX14_purposesAbout_3 0 rfl rfl)
theorem dX14_purposesAbout_73 : decode cX14_purposesAbout 73 = .ok (.ireturn, 1) := dk_172 (dk_at dksX14_purposesAbout_3 1 rfl rfl)
abbrev cX14_keep : ByteArray := prog_28_method_117_code
def yX14_keep : MethodName := ⟨RX14, "keep", "()I"⟩
def dkwX14_keep_0 : List UInt8 := [42, 180, 0, 16, 42, 180, 0, 19, 184, 0, 55, 42, 4, 181, 1, 143, 4, 172]
abbrev dktX14_keep_0 : List UInt8 := dkwX14_keep_0 ++ []
theorem dksX14_keep_0 : cX14_keep.data.toList.drop 0 = dktX14_keep_0 := by decide +kernel
theorem dX14_keep_0 : decode cX14_keep 0 = .ok (.aload_n 0, 1) := dk_42 (dk_at dksX14_keep_0 0 rfl rfl)
theorem dX14_keep_1 : decode cX14_keep 1 = .ok (.getfield 16, 3) := dk_180 0 16 (dk_at dksX14_keep_0 1 rfl rfl)
theorem dX14_keep_4 : decode cX14_keep 4 = .ok (.aload_n 0, 1) := dk_42 (dk_at dksX14_keep_0 4 rfl rfl)
theorem dX14_keep_5 : decode cX14_keep 5 = .ok (.getfield 19, 3) := dk_180 0 19 (dk_at dksX14_keep_0 5 rfl rfl)
theorem dX14_keep_8 : decode cX14_keep 8 = .ok (.invokestatic 55, 3) := dk_184 0 55 (dk_at dksX14_keep_0 8 rfl rfl)
theorem dX14_keep_11 : decode cX14_keep 11 = .ok (.aload_n 0, 1) := dk_42 (dk_at dksX14_keep_0 11 rfl rfl)
theorem dX14_keep_12 : decode cX14_keep 12 = .ok (.iconst 1, 1) := dk_4 (dk_at dksX14_keep_0 12 rfl rfl)
theorem dX14_keep_13 : decode cX14_keep 13 = .ok (.putfield 399, 3) := dk_181 1 143 (dk_at dksX14_keep_0 13 rfl rfl)
theorem dX14_keep_16 : decode cX14_keep 16 = .ok (.iconst 1, 1) := dk_4 (dk_at dksX14_keep_0 16 rfl rfl)
theorem dX14_keep_17 : decode cX14_keep 17 = .ok (.ireturn, 1) := dk_172 (dk_at dksX14_keep_0 17 rfl rfl)
abbrev cX14_again : ByteArray := prog_28_method_118_code
def yX14_again : MethodName := ⟨RX14, "again", "()I"⟩
def dkwX14_again_1 : List UInt8 := [180, 0, 16, 16, 6, 46, 172]
abbrev dktX14_again_1 : List UInt8 := dkwX14_again_1 ++ []
def dkwX14_again_0 : List UInt8 := [42, 180, 1, 143, 154, 0, 6, 16, 253, 172, 42, 180, 0, 19, 42, 180, 0, 16, 184, 0, 55, 42]
abbrev dktX14_again_0 : List UInt8 := dkwX14_again_0 ++ dktX14_again_1
theorem dksX14_again_0 : cX14_again.data.toList.drop 0 = dktX14_again_0 := by decide +kernel
theorem dksX14_again_1 : cX14_again.data.toList.drop 22 = dktX14_again_1 := dk_seg dksX14_again_0 22 rfl rfl
theorem dX14_again_0 : decode cX14_again 0 = .ok (.aload_n 0, 1) := dk_42 (dk_at dksX14_again_0 0 rfl rfl)
theorem dX14_again_1 : decode cX14_again 1 = .ok (.getfield 399, 3) := dk_180 1 143 (dk_at dksX14_again_0 1 rfl rfl)
theorem dX14_again_4 : decode cX14_again 4 = .ok (.ifCond .ne 6, 3) := dk_154 0 6 (dk_at dksX14_again_0 4 rfl rfl)
theorem dX14_again_7 : decode cX14_again 7 = .ok (.bipush (-3), 2) := dk_16 253 (dk_at dksX14_again_0 7 rfl rfl)
theorem dX14_again_9 : decode cX14_again 9 = .ok (.ireturn, 1) := dk_172 (dk_at dksX14_again_0 9 rfl rfl)
theorem dX14_again_10 : decode cX14_again 10 = .ok (.aload_n 0, 1) := dk_42 (dk_at dksX14_again_0 10 rfl rfl)
theorem dX14_again_11 : decode cX14_again 11 = .ok (.getfield 19, 3) := dk_180 0 19 (dk_at dksX14_again_0 11 rfl rfl)
theorem dX14_again_14 : decode cX14_again 14 = .ok (.aload_n 0, 1) := dk_42 (dk_at dksX14_again_0 14 rfl rfl)
theorem dX14_again_15 : decode cX14_again 15 = .ok (.getfield 16, 3) := dk_180 0 16 (dk_at dksX14_again_0 15 rfl rfl)
theorem dX14_again_18 : decode cX14_again 18 = .ok (.invokestatic 55, 3) := dk_184 0 55 (dk_at dksX14_again_0 18 rfl rfl)
theorem dX14_again_21 : decode cX14_again 21 = .ok (.aload_n 0, 1) := dk_42 (dk_at dksX14_again_0 21 rfl rfl)
theorem dX14_again_22 : decode cX14_again 22 = .ok (.getfield 16, 3) := dk_180 0 16 (dk_at dksX14_again_1 0 rfl rfl)
theorem dX14_again_25 : decode cX14_again 25 = .ok (.bipush 6, 2) := dk_16 6 (dk_at dksX14_again_1 3 rfl rfl)
theorem dX14_again_27 : decode cX14_again 27 = .ok (.iaload, 1) := dk_46 (dk_at dksX14_again_1 5 rfl rfl)
theorem dX14_again_28 : decode cX14_again 28 = .ok (.ireturn, 1) := dk_172 (dk_at dksX14_again_1 6 rfl rfl)
theorem q117 : (Jvm.Cond.initialized "IntentVatsModel") ∈ lw_all := lw_g (lw_at lw_m1 18 rfl) rfl
theorem q1512 : (Jvm.Cond.instantiable "IntentVatsModel" (25 : Nat)) ∈ lw_all := lw_g (lw_at lw_m6 213 rfl) rfl
theorem q1514 : (Jvm.Cond.instanceMethod ({ cls := "IntentVatsModel", name := "<init>", desc := "()V" } : Jvm.MethodName)) ∈ lw_all := lw_g (lw_at lw_m6 215 rfl) rfl
theorem q1515 : (Jvm.Cond.code ({ cls := "IntentVatsModel", name := "<init>", desc := "()V" } : Jvm.MethodName) prog_28_method_1_code (1 : Nat) (Option.none : Option Jvm.ClassFile.FieldType)) ∈ lw_all := lw_g (lw_at lw_m6 216 rfl) rfl
theorem q1516 : (Jvm.Cond.methodLink "IntentVatsModel" (3 : Nat) ({ cls := "java/lang/Object", name := "<init>", desc := "()V" } : Jvm.MethodName)) ∈ lw_all := lw_g (lw_at lw_m6 217 rfl) rfl
theorem q1517 : (Jvm.Cond.methodLink "IntentVatsModel" (52 : Nat) ({ cls := "IntentVatsModel", name := "anew", desc := "()V" } : Jvm.MethodName)) ∈ lw_all := lw_g (lw_at lw_m6 218 rfl) rfl
theorem q1518 : (Jvm.Cond.privateMethod ({ cls := "IntentVatsModel", name := "anew", desc := "()V" } : Jvm.MethodName)) ∈ lw_tbl := lw_at lw_m6 219 rfl
theorem q1519 : (Jvm.Cond.instanceMethod ({ cls := "IntentVatsModel", name := "anew", desc := "()V" } : Jvm.MethodName)) ∈ lw_all := lw_g (lw_at lw_m6 220 rfl) rfl
theorem q1520 : (Jvm.Cond.code ({ cls := "IntentVatsModel", name := "anew", desc := "()V" } : Jvm.MethodName) prog_28_method_2_code (3 : Nat) (Option.none : Option Jvm.ClassFile.FieldType)) ∈ lw_all := lw_g (lw_at lw_m6 221 rfl) rfl
theorem q1521 : (Jvm.Cond.fieldLink "IntentVatsModel" (9 : Nat) "IntentVatsModel" "most" "[I") ∈ lw_all := lw_g (lw_at lw_m6 222 rfl) rfl
theorem q1522 : (Jvm.Cond.fieldLink "IntentVatsModel" (13 : Nat) "IntentVatsModel" "atFirst" "[I") ∈ lw_all := lw_g (lw_at lw_m6 223 rfl) rfl
theorem q1523 : (Jvm.Cond.fieldLink "IntentVatsModel" (16 : Nat) "IntentVatsModel" "s" "[I") ∈ lw_all := lw_g (lw_at lw_m6 224 rfl) rfl
theorem q1524 : (Jvm.Cond.fieldLink "IntentVatsModel" (19 : Nat) "IntentVatsModel" "kept" "[I") ∈ lw_all := lw_g (lw_at lw_m6 225 rfl) rfl
theorem q1525 : (Jvm.Cond.fieldLink "IntentVatsModel" (22 : Nat) "IntentVatsModel" "aside" "[I") ∈ lw_all := lw_g (lw_at lw_m6 226 rfl) rfl
theorem q1526 : (Jvm.Cond.fieldLink "IntentVatsModel" (399 : Nat) "IntentVatsModel" "isKept" "Z") ∈ lw_all := lw_g (lw_at lw_m6 227 rfl) rfl
theorem q1527 : (Jvm.Cond.fieldLink "IntentVatsModel" (25 : Nat) "IntentVatsModel" "tape" "[I") ∈ lw_all := lw_g (lw_at lw_m6 228 rfl) rfl
theorem q1528 : (Jvm.Cond.fieldLink "IntentVatsModel" (224 : Nat) "IntentVatsModel" "taped" "I") ∈ lw_all := lw_g (lw_at lw_m6 229 rfl) rfl
theorem q1529 : (Jvm.Cond.fieldLink "IntentVatsModel" (233 : Nat) "IntentVatsModel" "from" "I") ∈ lw_all := lw_g (lw_at lw_m6 230 rfl) rfl
theorem q1530 : (Jvm.Cond.fieldLink "IntentVatsModel" (230 : Nat) "IntentVatsModel" "to" "I") ∈ lw_all := lw_g (lw_at lw_m6 231 rfl) rfl
theorem q1531 : (Jvm.Cond.fieldLink "IntentVatsModel" (239 : Nat) "IntentVatsModel" "isWrong" "Z") ∈ lw_all := lw_g (lw_at lw_m6 232 rfl) rfl
theorem q1532 : (Jvm.Cond.fieldLink "IntentVatsModel" (28 : Nat) "IntentVatsModel" "rows" "[I") ∈ lw_all := lw_g (lw_at lw_m6 233 rfl) rfl
theorem q1533 : (Jvm.Cond.fieldLink "IntentVatsModel" (329 : Nat) "IntentVatsModel" "rowMany" "I") ∈ lw_all := lw_g (lw_at lw_m6 234 rfl) rfl
theorem q1534 : (Jvm.Cond.fieldLink "IntentVatsModel" (31 : Nat) "IntentVatsModel" "sortOf" "[I") ∈ lw_all := lw_g (lw_at lw_m6 235 rfl) rfl
theorem q1535 : (Jvm.Cond.fieldLink "IntentVatsModel" (34 : Nat) "IntentVatsModel" "sizeOf" "[I") ∈ lw_all := lw_g (lw_at lw_m6 236 rfl) rfl
theorem q1536 : (Jvm.Cond.fieldLink "IntentVatsModel" (37 : Nat) "IntentVatsModel" "items" "[I") ∈ lw_all := lw_g (lw_at lw_m6 237 rfl) rfl
theorem q1537 : (Jvm.Cond.fieldLink "IntentVatsModel" (40 : Nat) "IntentVatsModel" "laid" "[I") ∈ lw_all := lw_g (lw_at lw_m6 238 rfl) rfl
theorem q1538 : (Jvm.Cond.fieldLink "IntentVatsModel" (43 : Nat) "IntentVatsModel" "heldNumber" "[I") ∈ lw_all := lw_g (lw_at lw_m6 239 rfl) rfl
theorem q1539 : (Jvm.Cond.fieldLink "IntentVatsModel" (46 : Nat) "IntentVatsModel" "heldSize" "[I") ∈ lw_all := lw_g (lw_at lw_m7 0 rfl) rfl
theorem q1540 : (Jvm.Cond.fieldLink "IntentVatsModel" (49 : Nat) "IntentVatsModel" "ran" "[I") ∈ lw_all := lw_g (lw_at lw_m7 1 rfl) rfl
theorem q1541 : (Jvm.Cond.fieldLink "IntentVatsModel" (351 : Nat) "IntentVatsModel" "bodies" "I") ∈ lw_all := lw_g (lw_at lw_m7 2 rfl) rfl
theorem q1542 : (Jvm.Cond.fieldLink "IntentVatsModel" (363 : Nat) "IntentVatsModel" "kind" "I") ∈ lw_all := lw_g (lw_at lw_m7 3 rfl) rfl
theorem q1543 : (Jvm.Cond.fieldLink "IntentVatsModel" (357 : Nat) "IntentVatsModel" "n" "I") ∈ lw_all := lw_g (lw_at lw_m7 4 rfl) rfl
theorem q1544 : (Jvm.Cond.fieldLink "IntentVatsModel" (372 : Nat) "IntentVatsModel" "a" "I") ∈ lw_all := lw_g (lw_at lw_m7 5 rfl) rfl
theorem q1545 : (Jvm.Cond.fieldLink "IntentVatsModel" (378 : Nat) "IntentVatsModel" "isParted" "Z") ∈ lw_all := lw_g (lw_at lw_m7 6 rfl) rfl
theorem q1546 : (Jvm.Cond.laysFinal "IntentVatsModel" "IntentVatsModel" "most" "[I") ∈ lw_all := lw_g (lw_at lw_m7 7 rfl) rfl
theorem q1547 : (Jvm.Cond.soleField "IntentVatsModel" "most") ∈ lw_all := lw_g (lw_at lw_m7 8 rfl) rfl
theorem q1548 : (Jvm.Cond.laysFinal "IntentVatsModel" "IntentVatsModel" "atFirst" "[I") ∈ lw_all := lw_g (lw_at lw_m7 9 rfl) rfl
theorem q1549 : (Jvm.Cond.soleField "IntentVatsModel" "atFirst") ∈ lw_all := lw_g (lw_at lw_m7 10 rfl) rfl
theorem q1550 : (Jvm.Cond.laysFinal "IntentVatsModel" "IntentVatsModel" "s" "[I") ∈ lw_all := lw_g (lw_at lw_m7 11 rfl) rfl
theorem q1551 : (Jvm.Cond.soleField "IntentVatsModel" "s") ∈ lw_all := lw_g (lw_at lw_m7 12 rfl) rfl
theorem q1552 : (Jvm.Cond.laysFinal "IntentVatsModel" "IntentVatsModel" "kept" "[I") ∈ lw_all := lw_g (lw_at lw_m7 13 rfl) rfl
theorem q1553 : (Jvm.Cond.soleField "IntentVatsModel" "kept") ∈ lw_all := lw_g (lw_at lw_m7 14 rfl) rfl
theorem q1554 : (Jvm.Cond.laysFinal "IntentVatsModel" "IntentVatsModel" "aside" "[I") ∈ lw_all := lw_g (lw_at lw_m7 15 rfl) rfl
theorem q1555 : (Jvm.Cond.soleField "IntentVatsModel" "aside") ∈ lw_all := lw_g (lw_at lw_m7 16 rfl) rfl
theorem q1556 : (Jvm.Cond.lays "IntentVatsModel" "IntentVatsModel" "isKept" "Z") ∈ lw_all := lw_g (lw_at lw_m7 17 rfl) rfl
theorem q1557 : (Jvm.Cond.soleField "IntentVatsModel" "isKept") ∈ lw_all := lw_g (lw_at lw_m7 18 rfl) rfl
theorem q1558 : (Jvm.Cond.laysFinal "IntentVatsModel" "IntentVatsModel" "tape" "[I") ∈ lw_all := lw_g (lw_at lw_m7 19 rfl) rfl
theorem q1559 : (Jvm.Cond.soleField "IntentVatsModel" "tape") ∈ lw_all := lw_g (lw_at lw_m7 20 rfl) rfl
theorem q1560 : (Jvm.Cond.lays "IntentVatsModel" "IntentVatsModel" "taped" "I") ∈ lw_all := lw_g (lw_at lw_m7 21 rfl) rfl
theorem q1561 : (Jvm.Cond.soleField "IntentVatsModel" "taped") ∈ lw_all := lw_g (lw_at lw_m7 22 rfl) rfl
theorem q1562 : (Jvm.Cond.lays "IntentVatsModel" "IntentVatsModel" "from" "I") ∈ lw_all := lw_g (lw_at lw_m7 23 rfl) rfl
theorem q1563 : (Jvm.Cond.soleField "IntentVatsModel" "from") ∈ lw_all := lw_g (lw_at lw_m7 24 rfl) rfl
theorem q1564 : (Jvm.Cond.lays "IntentVatsModel" "IntentVatsModel" "to" "I") ∈ lw_all := lw_g (lw_at lw_m7 25 rfl) rfl
theorem q1565 : (Jvm.Cond.soleField "IntentVatsModel" "to") ∈ lw_all := lw_g (lw_at lw_m7 26 rfl) rfl
theorem q1566 : (Jvm.Cond.lays "IntentVatsModel" "IntentVatsModel" "isWrong" "Z") ∈ lw_all := lw_g (lw_at lw_m7 27 rfl) rfl
theorem q1567 : (Jvm.Cond.soleField "IntentVatsModel" "isWrong") ∈ lw_all := lw_g (lw_at lw_m7 28 rfl) rfl
theorem q1568 : (Jvm.Cond.laysFinal "IntentVatsModel" "IntentVatsModel" "rows" "[I") ∈ lw_all := lw_g (lw_at lw_m7 29 rfl) rfl
theorem q1569 : (Jvm.Cond.soleField "IntentVatsModel" "rows") ∈ lw_all := lw_g (lw_at lw_m7 30 rfl) rfl
theorem q1570 : (Jvm.Cond.lays "IntentVatsModel" "IntentVatsModel" "rowMany" "I") ∈ lw_all := lw_g (lw_at lw_m7 31 rfl) rfl
theorem q1571 : (Jvm.Cond.soleField "IntentVatsModel" "rowMany") ∈ lw_all := lw_g (lw_at lw_m7 32 rfl) rfl
theorem q1572 : (Jvm.Cond.laysFinal "IntentVatsModel" "IntentVatsModel" "sortOf" "[I") ∈ lw_all := lw_g (lw_at lw_m7 33 rfl) rfl
theorem q1573 : (Jvm.Cond.soleField "IntentVatsModel" "sortOf") ∈ lw_all := lw_g (lw_at lw_m7 34 rfl) rfl
theorem q1574 : (Jvm.Cond.laysFinal "IntentVatsModel" "IntentVatsModel" "sizeOf" "[I") ∈ lw_all := lw_g (lw_at lw_m7 35 rfl) rfl
theorem q1575 : (Jvm.Cond.soleField "IntentVatsModel" "sizeOf") ∈ lw_all := lw_g (lw_at lw_m7 36 rfl) rfl
theorem q1576 : (Jvm.Cond.laysFinal "IntentVatsModel" "IntentVatsModel" "items" "[I") ∈ lw_all := lw_g (lw_at lw_m7 37 rfl) rfl
theorem q1577 : (Jvm.Cond.soleField "IntentVatsModel" "items") ∈ lw_all := lw_g (lw_at lw_m7 38 rfl) rfl
theorem q1578 : (Jvm.Cond.laysFinal "IntentVatsModel" "IntentVatsModel" "laid" "[I") ∈ lw_all := lw_g (lw_at lw_m7 39 rfl) rfl
theorem q1579 : (Jvm.Cond.soleField "IntentVatsModel" "laid") ∈ lw_all := lw_g (lw_at lw_m7 40 rfl) rfl
theorem q1580 : (Jvm.Cond.laysFinal "IntentVatsModel" "IntentVatsModel" "heldNumber" "[I") ∈ lw_all := lw_g (lw_at lw_m7 41 rfl) rfl
theorem q1581 : (Jvm.Cond.soleField "IntentVatsModel" "heldNumber") ∈ lw_all := lw_g (lw_at lw_m7 42 rfl) rfl
theorem q1582 : (Jvm.Cond.laysFinal "IntentVatsModel" "IntentVatsModel" "heldSize" "[I") ∈ lw_all := lw_g (lw_at lw_m7 43 rfl) rfl
theorem q1583 : (Jvm.Cond.soleField "IntentVatsModel" "heldSize") ∈ lw_all := lw_g (lw_at lw_m7 44 rfl) rfl
theorem q1584 : (Jvm.Cond.laysFinal "IntentVatsModel" "IntentVatsModel" "ran" "[I") ∈ lw_all := lw_g (lw_at lw_m7 45 rfl) rfl
theorem q1585 : (Jvm.Cond.soleField "IntentVatsModel" "ran") ∈ lw_all := lw_g (lw_at lw_m7 46 rfl) rfl
theorem q1586 : (Jvm.Cond.lays "IntentVatsModel" "IntentVatsModel" "bodies" "I") ∈ lw_all := lw_g (lw_at lw_m7 47 rfl) rfl
theorem q1587 : (Jvm.Cond.soleField "IntentVatsModel" "bodies") ∈ lw_all := lw_g (lw_at lw_m7 48 rfl) rfl
theorem q1588 : (Jvm.Cond.lays "IntentVatsModel" "IntentVatsModel" "kind" "I") ∈ lw_all := lw_g (lw_at lw_m7 49 rfl) rfl
theorem q1589 : (Jvm.Cond.soleField "IntentVatsModel" "kind") ∈ lw_all := lw_g (lw_at lw_m7 50 rfl) rfl
theorem q1590 : (Jvm.Cond.lays "IntentVatsModel" "IntentVatsModel" "n" "I") ∈ lw_all := lw_g (lw_at lw_m7 51 rfl) rfl
theorem q1591 : (Jvm.Cond.soleField "IntentVatsModel" "n") ∈ lw_all := lw_g (lw_at lw_m7 52 rfl) rfl
theorem q1592 : (Jvm.Cond.lays "IntentVatsModel" "IntentVatsModel" "a" "I") ∈ lw_all := lw_g (lw_at lw_m7 53 rfl) rfl
theorem q1593 : (Jvm.Cond.soleField "IntentVatsModel" "a") ∈ lw_all := lw_g (lw_at lw_m7 54 rfl) rfl
theorem q1594 : (Jvm.Cond.lays "IntentVatsModel" "IntentVatsModel" "isParted" "Z") ∈ lw_all := lw_g (lw_at lw_m7 55 rfl) rfl
theorem q1595 : (Jvm.Cond.soleField "IntentVatsModel" "isParted") ∈ lw_all := lw_g (lw_at lw_m7 56 rfl) rfl
theorem q1596 : (Jvm.Cond.superclass "IntentVatsModel" "java/lang/Object") ∈ lw_all := lw_g (lw_at lw_m7 57 rfl) rfl
theorem q1598 : (Jvm.Cond.instanceMethod ({ cls := "IntentVatsModel", name := "set", desc := "(II)I" } : Jvm.MethodName)) ∈ lw_all := lw_g (lw_at lw_m7 59 rfl) rfl
theorem q1599 : (Jvm.Cond.selects "IntentVatsModel" ({ cls := "IntentVatsModel", name := "set", desc := "(II)I" } : Jvm.MethodName) ({ cls := "IntentVatsModel", name := "set", desc := "(II)I" } : Jvm.MethodName)) ∈ lw_all := lw_g (lw_at lw_m7 60 rfl) rfl
theorem q1600 : (Jvm.Cond.code ({ cls := "IntentVatsModel", name := "set", desc := "(II)I" } : Jvm.MethodName) prog_28_method_14_code (3 : Nat) (Option.some Jvm.ClassFile.FieldType.int)) ∈ lw_all := lw_g (lw_at lw_m7 61 rfl) rfl
theorem q1601 : (Jvm.Cond.constantLong "IntentVatsModel" (69 : Nat) (3 : Int64)) ∈ lw_all := lw_g (lw_at lw_m7 62 rfl) rfl
theorem q1602 : (Jvm.Cond.methodLink "IntentVatsModel" (59 : Nat) ({ cls := "IntentVatsModel", name := "in", desc := "(JJJ)Z" } : Jvm.MethodName)) ∈ lw_all := lw_g (lw_at lw_m7 63 rfl) rfl
theorem q1603 : (Jvm.Cond.static ({ cls := "IntentVatsModel", name := "in", desc := "(JJJ)Z" } : Jvm.MethodName)) ∈ lw_all := lw_g (lw_at lw_m7 64 rfl) rfl
theorem q1604 : (Jvm.Cond.code ({ cls := "IntentVatsModel", name := "in", desc := "(JJJ)Z" } : Jvm.MethodName) prog_28_method_3_code (6 : Nat) (Option.some Jvm.ClassFile.FieldType.boolean)) ∈ lw_all := lw_g (lw_at lw_m7 65 rfl) rfl
theorem q1605 : (Jvm.Cond.methodLink "IntentVatsModel" (71 : Nat) ({ cls := "IntentVatsModel", name := "becomes", desc := "(II)I" } : Jvm.MethodName)) ∈ lw_all := lw_g (lw_at lw_m7 66 rfl) rfl
theorem q1606 : (Jvm.Cond.privateMethod ({ cls := "IntentVatsModel", name := "becomes", desc := "(II)I" } : Jvm.MethodName)) ∈ lw_tbl := lw_at lw_m7 67 rfl
theorem q1607 : (Jvm.Cond.instanceMethod ({ cls := "IntentVatsModel", name := "becomes", desc := "(II)I" } : Jvm.MethodName)) ∈ lw_all := lw_g (lw_at lw_m7 68 rfl) rfl
theorem q1608 : (Jvm.Cond.code ({ cls := "IntentVatsModel", name := "becomes", desc := "(II)I" } : Jvm.MethodName) prog_28_method_13_code (4 : Nat) (Option.some Jvm.ClassFile.FieldType.int)) ∈ lw_all := lw_g (lw_at lw_m7 69 rfl) rfl
theorem q1610 : (Jvm.Cond.instanceMethod ({ cls := "IntentVatsModel", name := "lawOf", desc := "(I)I" } : Jvm.MethodName)) ∈ lw_all := lw_g (lw_at lw_m7 71 rfl) rfl
theorem q1611 : (Jvm.Cond.selects "IntentVatsModel" ({ cls := "IntentVatsModel", name := "lawOf", desc := "(I)I" } : Jvm.MethodName) ({ cls := "IntentVatsModel", name := "lawOf", desc := "(I)I" } : Jvm.MethodName)) ∈ lw_all := lw_g (lw_at lw_m7 72 rfl) rfl
theorem q1612 : (Jvm.Cond.code ({ cls := "IntentVatsModel", name := "lawOf", desc := "(I)I" } : Jvm.MethodName) prog_28_method_15_code (2 : Nat) (Option.some Jvm.ClassFile.FieldType.int)) ∈ lw_all := lw_g (lw_at lw_m7 73 rfl) rfl
theorem q1614 : (Jvm.Cond.instanceMethod ({ cls := "IntentVatsModel", name := "fill", desc := "(III)I" } : Jvm.MethodName)) ∈ lw_all := lw_g (lw_at lw_m7 75 rfl) rfl
theorem q1615 : (Jvm.Cond.selects "IntentVatsModel" ({ cls := "IntentVatsModel", name := "fill", desc := "(III)I" } : Jvm.MethodName) ({ cls := "IntentVatsModel", name := "fill", desc := "(III)I" } : Jvm.MethodName)) ∈ lw_all := lw_g (lw_at lw_m7 76 rfl) rfl
theorem q1616 : (Jvm.Cond.code ({ cls := "IntentVatsModel", name := "fill", desc := "(III)I" } : Jvm.MethodName) prog_28_method_16_code (4 : Nat) (Option.some Jvm.ClassFile.FieldType.int)) ∈ lw_all := lw_g (lw_at lw_m7 77 rfl) rfl
theorem q1617 : (Jvm.Cond.methodLink "IntentVatsModel" (75 : Nat) ({ cls := "IntentVatsModel", name := "isVat", desc := "(I)Z" } : Jvm.MethodName)) ∈ lw_all := lw_g (lw_at lw_m7 78 rfl) rfl
theorem q1618 : (Jvm.Cond.static ({ cls := "IntentVatsModel", name := "isVat", desc := "(I)Z" } : Jvm.MethodName)) ∈ lw_all := lw_g (lw_at lw_m7 79 rfl) rfl
theorem q1619 : (Jvm.Cond.code ({ cls := "IntentVatsModel", name := "isVat", desc := "(I)Z" } : Jvm.MethodName) prog_28_method_8_code (1 : Nat) (Option.some Jvm.ClassFile.FieldType.boolean)) ∈ lw_all := lw_g (lw_at lw_m7 80 rfl) rfl
theorem q1620 : (Jvm.Cond.constantLong "IntentVatsModel" (63 : Nat) (7 : Int64)) ∈ lw_all := lw_g (lw_at lw_m7 81 rfl) rfl
theorem q1621 : (Jvm.Cond.constantLong "IntentVatsModel" (65 : Nat) (9 : Int64)) ∈ lw_all := lw_g (lw_at lw_m7 82 rfl) rfl
theorem q1623 : (Jvm.Cond.instanceMethod ({ cls := "IntentVatsModel", name := "vatOf", desc := "(II)I" } : Jvm.MethodName)) ∈ lw_all := lw_g (lw_at lw_m7 84 rfl) rfl
theorem q1624 : (Jvm.Cond.selects "IntentVatsModel" ({ cls := "IntentVatsModel", name := "vatOf", desc := "(II)I" } : Jvm.MethodName) ({ cls := "IntentVatsModel", name := "vatOf", desc := "(II)I" } : Jvm.MethodName)) ∈ lw_all := lw_g (lw_at lw_m7 85 rfl) rfl
theorem q1625 : (Jvm.Cond.code ({ cls := "IntentVatsModel", name := "vatOf", desc := "(II)I" } : Jvm.MethodName) prog_28_method_17_code (3 : Nat) (Option.some Jvm.ClassFile.FieldType.int)) ∈ lw_all := lw_g (lw_at lw_m7 86 rfl) rfl
theorem q1627 : (Jvm.Cond.instanceMethod ({ cls := "IntentVatsModel", name := "roster", desc := "(II)I" } : Jvm.MethodName)) ∈ lw_all := lw_g (lw_at lw_m7 88 rfl) rfl
theorem q1628 : (Jvm.Cond.selects "IntentVatsModel" ({ cls := "IntentVatsModel", name := "roster", desc := "(II)I" } : Jvm.MethodName) ({ cls := "IntentVatsModel", name := "roster", desc := "(II)I" } : Jvm.MethodName)) ∈ lw_all := lw_g (lw_at lw_m7 89 rfl) rfl
theorem q1629 : (Jvm.Cond.code ({ cls := "IntentVatsModel", name := "roster", desc := "(II)I" } : Jvm.MethodName) prog_28_method_18_code (3 : Nat) (Option.some Jvm.ClassFile.FieldType.int)) ∈ lw_all := lw_g (lw_at lw_m7 90 rfl) rfl
theorem q1630 : (Jvm.Cond.methodLink "IntentVatsModel" (79 : Nat) ({ cls := "IntentVatsModel", name := "isRest", desc := "(I)Z" } : Jvm.MethodName)) ∈ lw_all := lw_g (lw_at lw_m7 91 rfl) rfl
theorem q1631 : (Jvm.Cond.static ({ cls := "IntentVatsModel", name := "isRest", desc := "(I)Z" } : Jvm.MethodName)) ∈ lw_all := lw_g (lw_at lw_m7 92 rfl) rfl
theorem q1632 : (Jvm.Cond.code ({ cls := "IntentVatsModel", name := "isRest", desc := "(I)Z" } : Jvm.MethodName) prog_28_method_10_code (1 : Nat) (Option.some Jvm.ClassFile.FieldType.boolean)) ∈ lw_all := lw_g (lw_at lw_m7 93 rfl) rfl
theorem q1633 : (Jvm.Cond.constantLong "IntentVatsModel" (67 : Nat) (5 : Int64)) ∈ lw_all := lw_g (lw_at lw_m7 94 rfl) rfl
theorem q1635 : (Jvm.Cond.instanceMethod ({ cls := "IntentVatsModel", name := "rosterOf", desc := "(I)I" } : Jvm.MethodName)) ∈ lw_all := lw_g (lw_at lw_m7 96 rfl) rfl
theorem q1636 : (Jvm.Cond.selects "IntentVatsModel" ({ cls := "IntentVatsModel", name := "rosterOf", desc := "(I)I" } : Jvm.MethodName) ({ cls := "IntentVatsModel", name := "rosterOf", desc := "(I)I" } : Jvm.MethodName)) ∈ lw_all := lw_g (lw_at lw_m7 97 rfl) rfl
theorem q1637 : (Jvm.Cond.code ({ cls := "IntentVatsModel", name := "rosterOf", desc := "(I)I" } : Jvm.MethodName) prog_28_method_19_code (2 : Nat) (Option.some Jvm.ClassFile.FieldType.int)) ∈ lw_all := lw_g (lw_at lw_m7 98 rfl) rfl
theorem q1639 : (Jvm.Cond.instanceMethod ({ cls := "IntentVatsModel", name := "cloth", desc := "(I)I" } : Jvm.MethodName)) ∈ lw_all := lw_g (lw_at lw_m7 100 rfl) rfl
theorem q1640 : (Jvm.Cond.selects "IntentVatsModel" ({ cls := "IntentVatsModel", name := "cloth", desc := "(I)I" } : Jvm.MethodName) ({ cls := "IntentVatsModel", name := "cloth", desc := "(I)I" } : Jvm.MethodName)) ∈ lw_all := lw_g (lw_at lw_m7 101 rfl) rfl
theorem q1641 : (Jvm.Cond.code ({ cls := "IntentVatsModel", name := "cloth", desc := "(I)I" } : Jvm.MethodName) prog_28_method_26_code (2 : Nat) (Option.some Jvm.ClassFile.FieldType.int)) ∈ lw_all := lw_g (lw_at lw_m7 102 rfl) rfl
theorem q1642 : (Jvm.Cond.methodLink "IntentVatsModel" (89 : Nat) ({ cls := "IntentVatsModel", name := "isKind", desc := "(I)Z" } : Jvm.MethodName)) ∈ lw_all := lw_g (lw_at lw_m7 103 rfl) rfl
theorem q1643 : (Jvm.Cond.static ({ cls := "IntentVatsModel", name := "isKind", desc := "(I)Z" } : Jvm.MethodName)) ∈ lw_all := lw_g (lw_at lw_m7 104 rfl) rfl
theorem q1644 : (Jvm.Cond.code ({ cls := "IntentVatsModel", name := "isKind", desc := "(I)Z" } : Jvm.MethodName) prog_28_method_20_code (1 : Nat) (Option.some Jvm.ClassFile.FieldType.boolean)) ∈ lw_all := lw_g (lw_at lw_m7 105 rfl) rfl
theorem q1645 : (Jvm.Cond.methodLink "IntentVatsModel" (92 : Nat) ({ cls := "IntentVatsModel", name := "adds", desc := "(I)V" } : Jvm.MethodName)) ∈ lw_all := lw_g (lw_at lw_m7 106 rfl) rfl
theorem q1646 : (Jvm.Cond.privateMethod ({ cls := "IntentVatsModel", name := "adds", desc := "(I)V" } : Jvm.MethodName)) ∈ lw_tbl := lw_at lw_m7 107 rfl
theorem q1647 : (Jvm.Cond.instanceMethod ({ cls := "IntentVatsModel", name := "adds", desc := "(I)V" } : Jvm.MethodName)) ∈ lw_all := lw_g (lw_at lw_m7 108 rfl) rfl
theorem q1648 : (Jvm.Cond.code ({ cls := "IntentVatsModel", name := "adds", desc := "(I)V" } : Jvm.MethodName) prog_28_method_25_code (3 : Nat) (Option.none : Option Jvm.ClassFile.FieldType)) ∈ lw_all := lw_g (lw_at lw_m7 109 rfl) rfl
theorem q1649 : (Jvm.Cond.methodLink "IntentVatsModel" (85 : Nat) ({ cls := "IntentVatsModel", name := "sets", desc := "(III)V" } : Jvm.MethodName)) ∈ lw_all := lw_g (lw_at lw_m7 110 rfl) rfl
theorem q1650 : (Jvm.Cond.privateMethod ({ cls := "IntentVatsModel", name := "sets", desc := "(III)V" } : Jvm.MethodName)) ∈ lw_tbl := lw_at lw_m7 111 rfl
theorem q1651 : (Jvm.Cond.instanceMethod ({ cls := "IntentVatsModel", name := "sets", desc := "(III)V" } : Jvm.MethodName)) ∈ lw_all := lw_g (lw_at lw_m7 112 rfl) rfl
theorem q1652 : (Jvm.Cond.code ({ cls := "IntentVatsModel", name := "sets", desc := "(III)V" } : Jvm.MethodName) prog_28_method_12_code (4 : Nat) (Option.none : Option Jvm.ClassFile.FieldType)) ∈ lw_all := lw_g (lw_at lw_m7 113 rfl) rfl
theorem q1654 : (Jvm.Cond.instanceMethod ({ cls := "IntentVatsModel", name := "of", desc := "(II)I" } : Jvm.MethodName)) ∈ lw_all := lw_g (lw_at lw_m7 115 rfl) rfl
theorem q1655 : (Jvm.Cond.selects "IntentVatsModel" ({ cls := "IntentVatsModel", name := "of", desc := "(II)I" } : Jvm.MethodName) ({ cls := "IntentVatsModel", name := "of", desc := "(II)I" } : Jvm.MethodName)) ∈ lw_all := lw_g (lw_at lw_m7 116 rfl) rfl
theorem q1656 : (Jvm.Cond.code ({ cls := "IntentVatsModel", name := "of", desc := "(II)I" } : Jvm.MethodName) prog_28_method_27_code (3 : Nat) (Option.some Jvm.ClassFile.FieldType.int)) ∈ lw_all := lw_g (lw_at lw_m7 117 rfl) rfl
theorem q1657 : (Jvm.Cond.methodLink "IntentVatsModel" (96 : Nat) ({ cls := "IntentVatsModel", name := "isCloth", desc := "(I)Z" } : Jvm.MethodName)) ∈ lw_all := lw_g (lw_at lw_m7 118 rfl) rfl
theorem q1658 : (Jvm.Cond.privateMethod ({ cls := "IntentVatsModel", name := "isCloth", desc := "(I)Z" } : Jvm.MethodName)) ∈ lw_tbl := lw_at lw_m7 119 rfl
theorem q1659 : (Jvm.Cond.instanceMethod ({ cls := "IntentVatsModel", name := "isCloth", desc := "(I)Z" } : Jvm.MethodName)) ∈ lw_all := lw_g (lw_at lw_m7 120 rfl) rfl
theorem q1660 : (Jvm.Cond.code ({ cls := "IntentVatsModel", name := "isCloth", desc := "(I)Z" } : Jvm.MethodName) prog_28_method_7_code (2 : Nat) (Option.some Jvm.ClassFile.FieldType.boolean)) ∈ lw_all := lw_g (lw_at lw_m7 121 rfl) rfl
theorem q1661 : (Jvm.Cond.constantLong "IntentVatsModel" (99 : Nat) (4 : Int64)) ∈ lw_all := lw_g (lw_at lw_m7 122 rfl) rfl
theorem q1662 : (Jvm.Cond.methodLink "IntentVatsModel" (82 : Nat) ({ cls := "IntentVatsModel", name := "its", desc := "(II)I" } : Jvm.MethodName)) ∈ lw_all := lw_g (lw_at lw_m7 123 rfl) rfl
theorem q1663 : (Jvm.Cond.privateMethod ({ cls := "IntentVatsModel", name := "its", desc := "(II)I" } : Jvm.MethodName)) ∈ lw_tbl := lw_at lw_m7 124 rfl
theorem q1664 : (Jvm.Cond.instanceMethod ({ cls := "IntentVatsModel", name := "its", desc := "(II)I" } : Jvm.MethodName)) ∈ lw_all := lw_g (lw_at lw_m7 125 rfl) rfl
theorem q1665 : (Jvm.Cond.code ({ cls := "IntentVatsModel", name := "its", desc := "(II)I" } : Jvm.MethodName) prog_28_method_11_code (3 : Nat) (Option.some Jvm.ClassFile.FieldType.int)) ∈ lw_all := lw_g (lw_at lw_m7 126 rfl) rfl
theorem q1667 : (Jvm.Cond.instanceMethod ({ cls := "IntentVatsModel", name := "does", desc := "(III)I" } : Jvm.MethodName)) ∈ lw_all := lw_g (lw_at lw_m7 128 rfl) rfl
theorem q1668 : (Jvm.Cond.selects "IntentVatsModel" ({ cls := "IntentVatsModel", name := "does", desc := "(III)I" } : Jvm.MethodName) ({ cls := "IntentVatsModel", name := "does", desc := "(III)I" } : Jvm.MethodName)) ∈ lw_all := lw_g (lw_at lw_m7 129 rfl) rfl
theorem q1669 : (Jvm.Cond.code ({ cls := "IntentVatsModel", name := "does", desc := "(III)I" } : Jvm.MethodName) prog_28_method_28_code (5 : Nat) (Option.some Jvm.ClassFile.FieldType.int)) ∈ lw_all := lw_g (lw_at lw_m7 130 rfl) rfl
theorem q1670 : (Jvm.Cond.constantLong "IntentVatsModel" (101 : Nat) (2 : Int64)) ∈ lw_all := lw_g (lw_at lw_m7 131 rfl) rfl
theorem q1671 : (Jvm.Cond.methodLink "IntentVatsModel" (103 : Nat) ({ cls := "IntentVatsModel", name := "takesOf", desc := "(II)I" } : Jvm.MethodName)) ∈ lw_all := lw_g (lw_at lw_m7 132 rfl) rfl
theorem q1672 : (Jvm.Cond.privateMethod ({ cls := "IntentVatsModel", name := "takesOf", desc := "(II)I" } : Jvm.MethodName)) ∈ lw_tbl := lw_at lw_m7 133 rfl
theorem q1673 : (Jvm.Cond.instanceMethod ({ cls := "IntentVatsModel", name := "takesOf", desc := "(II)I" } : Jvm.MethodName)) ∈ lw_all := lw_g (lw_at lw_m7 134 rfl) rfl
theorem q1674 : (Jvm.Cond.code ({ cls := "IntentVatsModel", name := "takesOf", desc := "(II)I" } : Jvm.MethodName) prog_28_method_22_code (4 : Nat) (Option.some Jvm.ClassFile.FieldType.int)) ∈ lw_all := lw_g (lw_at lw_m7 135 rfl) rfl
theorem q1675 : (Jvm.Cond.methodLink "IntentVatsModel" (106 : Nat) ({ cls := "IntentVatsModel", name := "fightsOf", desc := "(II)I" } : Jvm.MethodName)) ∈ lw_all := lw_g (lw_at lw_m7 136 rfl) rfl
theorem q1676 : (Jvm.Cond.privateMethod ({ cls := "IntentVatsModel", name := "fightsOf", desc := "(II)I" } : Jvm.MethodName)) ∈ lw_tbl := lw_at lw_m7 137 rfl
theorem q1677 : (Jvm.Cond.instanceMethod ({ cls := "IntentVatsModel", name := "fightsOf", desc := "(II)I" } : Jvm.MethodName)) ∈ lw_all := lw_g (lw_at lw_m7 138 rfl) rfl
theorem q1678 : (Jvm.Cond.code ({ cls := "IntentVatsModel", name := "fightsOf", desc := "(II)I" } : Jvm.MethodName) prog_28_method_23_code (3 : Nat) (Option.some Jvm.ClassFile.FieldType.int)) ∈ lw_all := lw_g (lw_at lw_m7 139 rfl) rfl
theorem q1679 : (Jvm.Cond.methodLink "IntentVatsModel" (109 : Nat) ({ cls := "IntentVatsModel", name := "fadesOf", desc := "(I)I" } : Jvm.MethodName)) ∈ lw_all := lw_g (lw_at lw_m7 140 rfl) rfl
theorem q1680 : (Jvm.Cond.privateMethod ({ cls := "IntentVatsModel", name := "fadesOf", desc := "(I)I" } : Jvm.MethodName)) ∈ lw_tbl := lw_at lw_m7 141 rfl
theorem q1681 : (Jvm.Cond.instanceMethod ({ cls := "IntentVatsModel", name := "fadesOf", desc := "(I)I" } : Jvm.MethodName)) ∈ lw_all := lw_g (lw_at lw_m7 142 rfl) rfl
theorem q1682 : (Jvm.Cond.code ({ cls := "IntentVatsModel", name := "fadesOf", desc := "(I)I" } : Jvm.MethodName) prog_28_method_24_code (3 : Nat) (Option.some Jvm.ClassFile.FieldType.int)) ∈ lw_all := lw_g (lw_at lw_m7 143 rfl) rfl
theorem q1684 : (Jvm.Cond.instanceMethod ({ cls := "IntentVatsModel", name := "mind", desc := "(II)I" } : Jvm.MethodName)) ∈ lw_all := lw_g (lw_at lw_m7 145 rfl) rfl
theorem q1685 : (Jvm.Cond.selects "IntentVatsModel" ({ cls := "IntentVatsModel", name := "mind", desc := "(II)I" } : Jvm.MethodName) ({ cls := "IntentVatsModel", name := "mind", desc := "(II)I" } : Jvm.MethodName)) ∈ lw_all := lw_g (lw_at lw_m7 146 rfl) rfl
theorem q1686 : (Jvm.Cond.code ({ cls := "IntentVatsModel", name := "mind", desc := "(II)I" } : Jvm.MethodName) prog_28_method_30_code (3 : Nat) (Option.some Jvm.ClassFile.FieldType.int)) ∈ lw_all := lw_g (lw_at lw_m7 147 rfl) rfl
theorem q1687 : (Jvm.Cond.methodLink "IntentVatsModel" (113 : Nat) ({ cls := "IntentVatsModel", name := "changed", desc := "(III)I" } : Jvm.MethodName)) ∈ lw_all := lw_g (lw_at lw_m7 148 rfl) rfl
theorem q1688 : (Jvm.Cond.privateMethod ({ cls := "IntentVatsModel", name := "changed", desc := "(III)I" } : Jvm.MethodName)) ∈ lw_tbl := lw_at lw_m7 149 rfl
theorem q1689 : (Jvm.Cond.instanceMethod ({ cls := "IntentVatsModel", name := "changed", desc := "(III)I" } : Jvm.MethodName)) ∈ lw_all := lw_g (lw_at lw_m7 150 rfl) rfl
theorem q1690 : (Jvm.Cond.code ({ cls := "IntentVatsModel", name := "changed", desc := "(III)I" } : Jvm.MethodName) prog_28_method_29_code (4 : Nat) (Option.some Jvm.ClassFile.FieldType.int)) ∈ lw_all := lw_g (lw_at lw_m7 151 rfl) rfl
theorem q1692 : (Jvm.Cond.instanceMethod ({ cls := "IntentVatsModel", name := "steep", desc := "(III)I" } : Jvm.MethodName)) ∈ lw_all := lw_g (lw_at lw_m7 153 rfl) rfl
theorem q1693 : (Jvm.Cond.selects "IntentVatsModel" ({ cls := "IntentVatsModel", name := "steep", desc := "(III)I" } : Jvm.MethodName) ({ cls := "IntentVatsModel", name := "steep", desc := "(III)I" } : Jvm.MethodName)) ∈ lw_all := lw_g (lw_at lw_m7 154 rfl) rfl
theorem q1694 : (Jvm.Cond.code ({ cls := "IntentVatsModel", name := "steep", desc := "(III)I" } : Jvm.MethodName) prog_28_method_32_code (5 : Nat) (Option.some Jvm.ClassFile.FieldType.int)) ∈ lw_all := lw_g (lw_at lw_m7 155 rfl) rfl
theorem q1695 : (Jvm.Cond.methodLink "IntentVatsModel" (125 : Nat) ({ cls := "IntentVatsModel", name := "isPurpose", desc := "(I)Z" } : Jvm.MethodName)) ∈ lw_all := lw_g (lw_at lw_m7 156 rfl) rfl
theorem q1696 : (Jvm.Cond.static ({ cls := "IntentVatsModel", name := "isPurpose", desc := "(I)Z" } : Jvm.MethodName)) ∈ lw_all := lw_g (lw_at lw_m7 157 rfl) rfl
theorem q1697 : (Jvm.Cond.code ({ cls := "IntentVatsModel", name := "isPurpose", desc := "(I)Z" } : Jvm.MethodName) prog_28_method_9_code (1 : Nat) (Option.some Jvm.ClassFile.FieldType.boolean)) ∈ lw_all := lw_g (lw_at lw_m7 158 rfl) rfl
theorem q1698 : (Jvm.Cond.constantLong "IntentVatsModel" (128 : Nat) (99 : Int64)) ∈ lw_all := lw_g (lw_at lw_m7 159 rfl) rfl
theorem q1700 : (Jvm.Cond.instanceMethod ({ cls := "IntentVatsModel", name := "hang", desc := "(II)I" } : Jvm.MethodName)) ∈ lw_all := lw_g (lw_at lw_m7 161 rfl) rfl
theorem q1701 : (Jvm.Cond.selects "IntentVatsModel" ({ cls := "IntentVatsModel", name := "hang", desc := "(II)I" } : Jvm.MethodName) ({ cls := "IntentVatsModel", name := "hang", desc := "(II)I" } : Jvm.MethodName)) ∈ lw_all := lw_g (lw_at lw_m7 162 rfl) rfl
theorem q1702 : (Jvm.Cond.code ({ cls := "IntentVatsModel", name := "hang", desc := "(II)I" } : Jvm.MethodName) prog_28_method_33_code (3 : Nat) (Option.some Jvm.ClassFile.FieldType.int)) ∈ lw_all := lw_g (lw_at lw_m7 163 rfl) rfl
theorem q1704 : (Jvm.Cond.instanceMethod ({ cls := "IntentVatsModel", name := "dip", desc := "(II)I" } : Jvm.MethodName)) ∈ lw_all := lw_g (lw_at lw_m7 165 rfl) rfl
theorem q1705 : (Jvm.Cond.selects "IntentVatsModel" ({ cls := "IntentVatsModel", name := "dip", desc := "(II)I" } : Jvm.MethodName) ({ cls := "IntentVatsModel", name := "dip", desc := "(II)I" } : Jvm.MethodName)) ∈ lw_all := lw_g (lw_at lw_m7 166 rfl) rfl
theorem q1706 : (Jvm.Cond.code ({ cls := "IntentVatsModel", name := "dip", desc := "(II)I" } : Jvm.MethodName) prog_28_method_35_code (3 : Nat) (Option.some Jvm.ClassFile.FieldType.int)) ∈ lw_all := lw_g (lw_at lw_m7 167 rfl) rfl
theorem q1707 : (Jvm.Cond.methodLink "IntentVatsModel" (137 : Nat) ({ cls := "IntentVatsModel", name := "dips", desc := "(II)V" } : Jvm.MethodName)) ∈ lw_all := lw_g (lw_at lw_m7 168 rfl) rfl
theorem q1708 : (Jvm.Cond.privateMethod ({ cls := "IntentVatsModel", name := "dips", desc := "(II)V" } : Jvm.MethodName)) ∈ lw_tbl := lw_at lw_m7 169 rfl
theorem q1709 : (Jvm.Cond.instanceMethod ({ cls := "IntentVatsModel", name := "dips", desc := "(II)V" } : Jvm.MethodName)) ∈ lw_all := lw_g (lw_at lw_m7 170 rfl) rfl
theorem q1710 : (Jvm.Cond.code ({ cls := "IntentVatsModel", name := "dips", desc := "(II)V" } : Jvm.MethodName) prog_28_method_34_code (7 : Nat) (Option.none : Option Jvm.ClassFile.FieldType)) ∈ lw_all := lw_g (lw_at lw_m7 171 rfl) rfl
theorem q1711 : (Jvm.Cond.methodLink "IntentVatsModel" (130 : Nat) ({ cls := "IntentVatsModel", name := "isDeep", desc := "(II)V" } : Jvm.MethodName)) ∈ lw_all := lw_g (lw_at lw_m7 172 rfl) rfl
theorem q1712 : (Jvm.Cond.privateMethod ({ cls := "IntentVatsModel", name := "isDeep", desc := "(II)V" } : Jvm.MethodName)) ∈ lw_tbl := lw_at lw_m7 173 rfl
theorem q1713 : (Jvm.Cond.instanceMethod ({ cls := "IntentVatsModel", name := "isDeep", desc := "(II)V" } : Jvm.MethodName)) ∈ lw_all := lw_g (lw_at lw_m7 174 rfl) rfl
theorem q1714 : (Jvm.Cond.code ({ cls := "IntentVatsModel", name := "isDeep", desc := "(II)V" } : Jvm.MethodName) prog_28_method_31_code (3 : Nat) (Option.none : Option Jvm.ClassFile.FieldType)) ∈ lw_all := lw_g (lw_at lw_m7 175 rfl) rfl
theorem q1715 : (Jvm.Cond.methodLink "IntentVatsModel" (117 : Nat) ({ cls := "java/lang/Math", name := "min", desc := "(II)I" } : Jvm.MethodName)) ∈ lw_all := lw_g (lw_at lw_m7 176 rfl) rfl
theorem q1716 : (Jvm.Cond.methodLink "IntentVatsModel" (122 : Nat) ({ cls := "java/lang/Math", name := "max", desc := "(II)I" } : Jvm.MethodName)) ∈ lw_all := lw_g (lw_at lw_m7 177 rfl) rfl
theorem q1717 : (Jvm.Cond.methodLink "IntentVatsModel" (134 : Nat) ({ cls := "java/lang/Math", name := "abs", desc := "(I)I" } : Jvm.MethodName)) ∈ lw_all := lw_g (lw_at lw_m7 178 rfl) rfl
theorem q1721 : (Jvm.Cond.instanceMethod ({ cls := "IntentVatsModel", name := "days", desc := "(I)I" } : Jvm.MethodName)) ∈ lw_all := lw_g (lw_at lw_m7 182 rfl) rfl
theorem q1722 : (Jvm.Cond.selects "IntentVatsModel" ({ cls := "IntentVatsModel", name := "days", desc := "(I)I" } : Jvm.MethodName) ({ cls := "IntentVatsModel", name := "days", desc := "(I)I" } : Jvm.MethodName)) ∈ lw_all := lw_g (lw_at lw_m7 183 rfl) rfl
theorem q1723 : (Jvm.Cond.code ({ cls := "IntentVatsModel", name := "days", desc := "(I)I" } : Jvm.MethodName) prog_28_method_39_code (2 : Nat) (Option.some Jvm.ClassFile.FieldType.int)) ∈ lw_all := lw_g (lw_at lw_m7 184 rfl) rfl
theorem q1724 : (Jvm.Cond.constantLong "IntentVatsModel" (143 : Nat) (60 : Int64)) ∈ lw_all := lw_g (lw_at lw_m7 185 rfl) rfl
theorem q1725 : (Jvm.Cond.methodLink "IntentVatsModel" (145 : Nat) ({ cls := "IntentVatsModel", name := "goes", desc := "(I)V" } : Jvm.MethodName)) ∈ lw_all := lw_g (lw_at lw_m7 186 rfl) rfl
theorem q1726 : (Jvm.Cond.privateMethod ({ cls := "IntentVatsModel", name := "goes", desc := "(I)V" } : Jvm.MethodName)) ∈ lw_tbl := lw_at lw_m7 187 rfl
theorem q1727 : (Jvm.Cond.instanceMethod ({ cls := "IntentVatsModel", name := "goes", desc := "(I)V" } : Jvm.MethodName)) ∈ lw_all := lw_g (lw_at lw_m7 188 rfl) rfl
theorem q1728 : (Jvm.Cond.code ({ cls := "IntentVatsModel", name := "goes", desc := "(I)V" } : Jvm.MethodName) prog_28_method_37_code (3 : Nat) (Option.none : Option Jvm.ClassFile.FieldType)) ∈ lw_all := lw_g (lw_at lw_m7 189 rfl) rfl
theorem q1729 : (Jvm.Cond.methodLink "IntentVatsModel" (140 : Nat) ({ cls := "IntentVatsModel", name := "aDay", desc := "()V" } : Jvm.MethodName)) ∈ lw_all := lw_g (lw_at lw_m7 190 rfl) rfl
theorem q1730 : (Jvm.Cond.privateMethod ({ cls := "IntentVatsModel", name := "aDay", desc := "()V" } : Jvm.MethodName)) ∈ lw_tbl := lw_at lw_m7 191 rfl
theorem q1731 : (Jvm.Cond.instanceMethod ({ cls := "IntentVatsModel", name := "aDay", desc := "()V" } : Jvm.MethodName)) ∈ lw_all := lw_g (lw_at lw_m7 192 rfl) rfl
theorem q1732 : (Jvm.Cond.code ({ cls := "IntentVatsModel", name := "aDay", desc := "()V" } : Jvm.MethodName) prog_28_method_36_code (3 : Nat) (Option.none : Option Jvm.ClassFile.FieldType)) ∈ lw_all := lw_g (lw_at lw_m7 193 rfl) rfl
theorem q1733 : (Jvm.Cond.methodLink "IntentVatsModel" (148 : Nat) ({ cls := "IntentVatsModel", name := "depths", desc := "()I" } : Jvm.MethodName)) ∈ lw_all := lw_g (lw_at lw_m7 194 rfl) rfl
theorem q1734 : (Jvm.Cond.privateMethod ({ cls := "IntentVatsModel", name := "depths", desc := "()I" } : Jvm.MethodName)) ∈ lw_tbl := lw_at lw_m7 195 rfl
theorem q1735 : (Jvm.Cond.instanceMethod ({ cls := "IntentVatsModel", name := "depths", desc := "()I" } : Jvm.MethodName)) ∈ lw_all := lw_g (lw_at lw_m7 196 rfl) rfl
theorem q1736 : (Jvm.Cond.code ({ cls := "IntentVatsModel", name := "depths", desc := "()I" } : Jvm.MethodName) prog_28_method_38_code (3 : Nat) (Option.some Jvm.ClassFile.FieldType.int)) ∈ lw_all := lw_g (lw_at lw_m7 197 rfl) rfl
theorem q1738 : (Jvm.Cond.instanceMethod ({ cls := "IntentVatsModel", name := "seed", desc := "(I)I" } : Jvm.MethodName)) ∈ lw_all := lw_g (lw_at lw_m7 199 rfl) rfl
theorem q1739 : (Jvm.Cond.selects "IntentVatsModel" ({ cls := "IntentVatsModel", name := "seed", desc := "(I)I" } : Jvm.MethodName) ({ cls := "IntentVatsModel", name := "seed", desc := "(I)I" } : Jvm.MethodName)) ∈ lw_all := lw_g (lw_at lw_m7 200 rfl) rfl
theorem q1740 : (Jvm.Cond.code ({ cls := "IntentVatsModel", name := "seed", desc := "(I)I" } : Jvm.MethodName) prog_28_method_40_code (2 : Nat) (Option.some Jvm.ClassFile.FieldType.int)) ∈ lw_all := lw_g (lw_at lw_m7 201 rfl) rfl
theorem q1742 : (Jvm.Cond.instanceMethod ({ cls := "IntentVatsModel", name := "day", desc := "()I" } : Jvm.MethodName)) ∈ lw_all := lw_g (lw_at lw_m7 203 rfl) rfl
theorem q1743 : (Jvm.Cond.selects "IntentVatsModel" ({ cls := "IntentVatsModel", name := "day", desc := "()I" } : Jvm.MethodName) ({ cls := "IntentVatsModel", name := "day", desc := "()I" } : Jvm.MethodName)) ∈ lw_all := lw_g (lw_at lw_m7 204 rfl) rfl
theorem q1744 : (Jvm.Cond.code ({ cls := "IntentVatsModel", name := "day", desc := "()I" } : Jvm.MethodName) prog_28_method_43_code (1 : Nat) (Option.some Jvm.ClassFile.FieldType.int)) ∈ lw_all := lw_g (lw_at lw_m7 205 rfl) rfl
theorem q1745 : (Jvm.Cond.methodLink "IntentVatsModel" (156 : Nat) ({ cls := "IntentVatsModel", name := "byDraws", desc := "()V" } : Jvm.MethodName)) ∈ lw_all := lw_g (lw_at lw_m7 206 rfl) rfl
theorem q1746 : (Jvm.Cond.privateMethod ({ cls := "IntentVatsModel", name := "byDraws", desc := "()V" } : Jvm.MethodName)) ∈ lw_tbl := lw_at lw_m7 207 rfl
theorem q1747 : (Jvm.Cond.instanceMethod ({ cls := "IntentVatsModel", name := "byDraws", desc := "()V" } : Jvm.MethodName)) ∈ lw_all := lw_g (lw_at lw_m7 208 rfl) rfl
theorem q1748 : (Jvm.Cond.code ({ cls := "IntentVatsModel", name := "byDraws", desc := "()V" } : Jvm.MethodName) prog_28_method_42_code (2 : Nat) (Option.none : Option Jvm.ClassFile.FieldType)) ∈ lw_all := lw_g (lw_at lw_m7 209 rfl) rfl
theorem q1749 : (Jvm.Cond.methodLink "IntentVatsModel" (153 : Nat) ({ cls := "IntentVatsModel", name := "draw", desc := "()I" } : Jvm.MethodName)) ∈ lw_all := lw_g (lw_at lw_m7 210 rfl) rfl
theorem q1750 : (Jvm.Cond.privateMethod ({ cls := "IntentVatsModel", name := "draw", desc := "()I" } : Jvm.MethodName)) ∈ lw_tbl := lw_at lw_m7 211 rfl
theorem q1751 : (Jvm.Cond.instanceMethod ({ cls := "IntentVatsModel", name := "draw", desc := "()I" } : Jvm.MethodName)) ∈ lw_all := lw_g (lw_at lw_m7 212 rfl) rfl
theorem q1752 : (Jvm.Cond.code ({ cls := "IntentVatsModel", name := "draw", desc := "()I" } : Jvm.MethodName) prog_28_method_41_code (1 : Nat) (Option.some Jvm.ClassFile.FieldType.int)) ∈ lw_all := lw_g (lw_at lw_m7 213 rfl) rfl
theorem q1753 : (Jvm.Cond.constant "IntentVatsModel" (152 : Nat) (1103515245 : Int32)) ∈ lw_all := lw_g (lw_at lw_m7 214 rfl) rfl
theorem q1755 : (Jvm.Cond.instanceMethod ({ cls := "IntentVatsModel", name := "luck", desc := "(I)I" } : Jvm.MethodName)) ∈ lw_all := lw_g (lw_at lw_m7 216 rfl) rfl
theorem q1756 : (Jvm.Cond.selects "IntentVatsModel" ({ cls := "IntentVatsModel", name := "luck", desc := "(I)I" } : Jvm.MethodName) ({ cls := "IntentVatsModel", name := "luck", desc := "(I)I" } : Jvm.MethodName)) ∈ lw_all := lw_g (lw_at lw_m7 217 rfl) rfl
theorem q1757 : (Jvm.Cond.code ({ cls := "IntentVatsModel", name := "luck", desc := "(I)I" } : Jvm.MethodName) prog_28_method_44_code (6 : Nat) (Option.some Jvm.ClassFile.FieldType.int)) ∈ lw_all := lw_g (lw_at lw_m7 218 rfl) rfl
theorem q1758 : (Jvm.Cond.constantLong "IntentVatsModel" (159 : Nat) (30 : Int64)) ∈ lw_all := lw_g (lw_at lw_m7 219 rfl) rfl
theorem q1759 : (Jvm.Cond.methodLink "IntentVatsModel" (161 : Nat) ({ cls := "IntentVatsModel", name := "lends", desc := "()V" } : Jvm.MethodName)) ∈ lw_all := lw_g (lw_at lw_m7 220 rfl) rfl
theorem q1760 : (Jvm.Cond.privateMethod ({ cls := "IntentVatsModel", name := "lends", desc := "()V" } : Jvm.MethodName)) ∈ lw_tbl := lw_at lw_m7 221 rfl
theorem q1761 : (Jvm.Cond.instanceMethod ({ cls := "IntentVatsModel", name := "lends", desc := "()V" } : Jvm.MethodName)) ∈ lw_all := lw_g (lw_at lw_m7 222 rfl) rfl
theorem q1762 : (Jvm.Cond.code ({ cls := "IntentVatsModel", name := "lends", desc := "()V" } : Jvm.MethodName) prog_28_method_5_code (1 : Nat) (Option.none : Option Jvm.ClassFile.FieldType)) ∈ lw_all := lw_g (lw_at lw_m7 223 rfl) rfl
theorem q1763 : (Jvm.Cond.methodLink "IntentVatsModel" (55 : Nat) ({ cls := "IntentVatsModel", name := "become", desc := "([I[I)V" } : Jvm.MethodName)) ∈ lw_all := lw_g (lw_at lw_m7 224 rfl) rfl
theorem q1764 : (Jvm.Cond.static ({ cls := "IntentVatsModel", name := "become", desc := "([I[I)V" } : Jvm.MethodName)) ∈ lw_all := lw_g (lw_at lw_m7 225 rfl) rfl
theorem q1765 : (Jvm.Cond.code ({ cls := "IntentVatsModel", name := "become", desc := "([I[I)V" } : Jvm.MethodName) prog_28_method_4_code (3 : Nat) (Option.none : Option Jvm.ClassFile.FieldType)) ∈ lw_all := lw_g (lw_at lw_m7 226 rfl) rfl
theorem q1766 : (Jvm.Cond.methodLink "IntentVatsModel" (164 : Nat) ({ cls := "IntentVatsModel", name := "laysBack", desc := "()V" } : Jvm.MethodName)) ∈ lw_all := lw_g (lw_at lw_m7 227 rfl) rfl
theorem q1767 : (Jvm.Cond.privateMethod ({ cls := "IntentVatsModel", name := "laysBack", desc := "()V" } : Jvm.MethodName)) ∈ lw_tbl := lw_at lw_m7 228 rfl
theorem q1768 : (Jvm.Cond.instanceMethod ({ cls := "IntentVatsModel", name := "laysBack", desc := "()V" } : Jvm.MethodName)) ∈ lw_all := lw_g (lw_at lw_m7 229 rfl) rfl
theorem q1769 : (Jvm.Cond.code ({ cls := "IntentVatsModel", name := "laysBack", desc := "()V" } : Jvm.MethodName) prog_28_method_6_code (1 : Nat) (Option.none : Option Jvm.ClassFile.FieldType)) ∈ lw_all := lw_g (lw_at lw_m7 230 rfl) rfl
theorem q1771 : (Jvm.Cond.instanceMethod ({ cls := "IntentVatsModel", name := "state", desc := "(I)I" } : Jvm.MethodName)) ∈ lw_all := lw_g (lw_at lw_m7 232 rfl) rfl
theorem q1772 : (Jvm.Cond.selects "IntentVatsModel" ({ cls := "IntentVatsModel", name := "state", desc := "(I)I" } : Jvm.MethodName) ({ cls := "IntentVatsModel", name := "state", desc := "(I)I" } : Jvm.MethodName)) ∈ lw_all := lw_g (lw_at lw_m7 233 rfl) rfl
theorem q1773 : (Jvm.Cond.code ({ cls := "IntentVatsModel", name := "state", desc := "(I)I" } : Jvm.MethodName) prog_28_method_49_code (2 : Nat) (Option.some Jvm.ClassFile.FieldType.int)) ∈ lw_all := lw_g (lw_at lw_m7 234 rfl) rfl
theorem q1774 : (Jvm.Cond.methodLink "IntentVatsModel" (171 : Nat) ({ cls := "IntentVatsModel", name := "hungSet", desc := "()I" } : Jvm.MethodName)) ∈ lw_all := lw_g (lw_at lw_m7 235 rfl) rfl
theorem q1775 : (Jvm.Cond.privateMethod ({ cls := "IntentVatsModel", name := "hungSet", desc := "()I" } : Jvm.MethodName)) ∈ lw_tbl := lw_at lw_m7 236 rfl
theorem q1776 : (Jvm.Cond.instanceMethod ({ cls := "IntentVatsModel", name := "hungSet", desc := "()I" } : Jvm.MethodName)) ∈ lw_all := lw_g (lw_at lw_m7 237 rfl) rfl
theorem q1777 : (Jvm.Cond.code ({ cls := "IntentVatsModel", name := "hungSet", desc := "()I" } : Jvm.MethodName) prog_28_method_45_code (3 : Nat) (Option.some Jvm.ClassFile.FieldType.int)) ∈ lw_all := lw_g (lw_at lw_m7 238 rfl) rfl
theorem q1778 : (Jvm.Cond.methodLink "IntentVatsModel" (174 : Nat) ({ cls := "IntentVatsModel", name := "aboutSet", desc := "()I" } : Jvm.MethodName)) ∈ lw_all := lw_g (lw_at lw_m7 239 rfl) rfl
theorem q1779 : (Jvm.Cond.privateMethod ({ cls := "IntentVatsModel", name := "aboutSet", desc := "()I" } : Jvm.MethodName)) ∈ lw_tbl := lw_at lw_m8 0 rfl
theorem q1780 : (Jvm.Cond.instanceMethod ({ cls := "IntentVatsModel", name := "aboutSet", desc := "()I" } : Jvm.MethodName)) ∈ lw_all := lw_g (lw_at lw_m8 1 rfl) rfl
theorem q1781 : (Jvm.Cond.code ({ cls := "IntentVatsModel", name := "aboutSet", desc := "()I" } : Jvm.MethodName) prog_28_method_46_code (3 : Nat) (Option.some Jvm.ClassFile.FieldType.int)) ∈ lw_all := lw_g (lw_at lw_m8 2 rfl) rfl
theorem q1782 : (Jvm.Cond.methodLink "IntentVatsModel" (177 : Nat) ({ cls := "IntentVatsModel", name := "oddsAmong", desc := "()I" } : Jvm.MethodName)) ∈ lw_all := lw_g (lw_at lw_m8 3 rfl) rfl
theorem q1783 : (Jvm.Cond.privateMethod ({ cls := "IntentVatsModel", name := "oddsAmong", desc := "()I" } : Jvm.MethodName)) ∈ lw_tbl := lw_at lw_m8 4 rfl
theorem q1784 : (Jvm.Cond.instanceMethod ({ cls := "IntentVatsModel", name := "oddsAmong", desc := "()I" } : Jvm.MethodName)) ∈ lw_all := lw_g (lw_at lw_m8 5 rfl) rfl
theorem q1785 : (Jvm.Cond.code ({ cls := "IntentVatsModel", name := "oddsAmong", desc := "()I" } : Jvm.MethodName) prog_28_method_48_code (4 : Nat) (Option.some Jvm.ClassFile.FieldType.int)) ∈ lw_all := lw_g (lw_at lw_m8 6 rfl) rfl
theorem q1786 : (Jvm.Cond.methodLink "IntentVatsModel" (167 : Nat) ({ cls := "IntentVatsModel", name := "isAtOdds", desc := "(II)Z" } : Jvm.MethodName)) ∈ lw_all := lw_g (lw_at lw_m8 7 rfl) rfl
theorem q1787 : (Jvm.Cond.privateMethod ({ cls := "IntentVatsModel", name := "isAtOdds", desc := "(II)Z" } : Jvm.MethodName)) ∈ lw_tbl := lw_at lw_m8 8 rfl
theorem q1788 : (Jvm.Cond.instanceMethod ({ cls := "IntentVatsModel", name := "isAtOdds", desc := "(II)Z" } : Jvm.MethodName)) ∈ lw_all := lw_g (lw_at lw_m8 9 rfl) rfl
theorem q1789 : (Jvm.Cond.code ({ cls := "IntentVatsModel", name := "isAtOdds", desc := "(II)Z" } : Jvm.MethodName) prog_28_method_47_code (4 : Nat) (Option.some Jvm.ClassFile.FieldType.boolean)) ∈ lw_all := lw_g (lw_at lw_m8 10 rfl) rfl
theorem q1791 : (Jvm.Cond.instanceMethod ({ cls := "IntentVatsModel", name := "gone", desc := "(II)I" } : Jvm.MethodName)) ∈ lw_all := lw_g (lw_at lw_m8 12 rfl) rfl
theorem q1792 : (Jvm.Cond.selects "IntentVatsModel" ({ cls := "IntentVatsModel", name := "gone", desc := "(II)I" } : Jvm.MethodName) ({ cls := "IntentVatsModel", name := "gone", desc := "(II)I" } : Jvm.MethodName)) ∈ lw_all := lw_g (lw_at lw_m8 13 rfl) rfl
theorem q1793 : (Jvm.Cond.code ({ cls := "IntentVatsModel", name := "gone", desc := "(II)I" } : Jvm.MethodName) prog_28_method_53_code (3 : Nat) (Option.some Jvm.ClassFile.FieldType.int)) ∈ lw_all := lw_g (lw_at lw_m8 14 rfl) rfl
theorem q1794 : (Jvm.Cond.methodLink "IntentVatsModel" (182 : Nat) ({ cls := "IntentVatsModel", name := "isAhead", desc := "(I)Z" } : Jvm.MethodName)) ∈ lw_all := lw_g (lw_at lw_m8 15 rfl) rfl
theorem q1795 : (Jvm.Cond.static ({ cls := "IntentVatsModel", name := "isAhead", desc := "(I)Z" } : Jvm.MethodName)) ∈ lw_all := lw_g (lw_at lw_m8 16 rfl) rfl
theorem q1796 : (Jvm.Cond.code ({ cls := "IntentVatsModel", name := "isAhead", desc := "(I)Z" } : Jvm.MethodName) prog_28_method_50_code (1 : Nat) (Option.some Jvm.ClassFile.FieldType.boolean)) ∈ lw_all := lw_g (lw_at lw_m8 17 rfl) rfl
theorem q1797 : (Jvm.Cond.methodLink "IntentVatsModel" (185 : Nat) ({ cls := "IntentVatsModel", name := "behind", desc := "(III)I" } : Jvm.MethodName)) ∈ lw_all := lw_g (lw_at lw_m8 18 rfl) rfl
theorem q1798 : (Jvm.Cond.privateMethod ({ cls := "IntentVatsModel", name := "behind", desc := "(III)I" } : Jvm.MethodName)) ∈ lw_tbl := lw_at lw_m8 19 rfl
theorem q1799 : (Jvm.Cond.instanceMethod ({ cls := "IntentVatsModel", name := "behind", desc := "(III)I" } : Jvm.MethodName)) ∈ lw_all := lw_g (lw_at lw_m8 20 rfl) rfl
theorem q1800 : (Jvm.Cond.code ({ cls := "IntentVatsModel", name := "behind", desc := "(III)I" } : Jvm.MethodName) prog_28_method_52_code (5 : Nat) (Option.some Jvm.ClassFile.FieldType.int)) ∈ lw_all := lw_g (lw_at lw_m8 21 rfl) rfl
theorem q1802 : (Jvm.Cond.instanceMethod ({ cls := "IntentVatsModel", name := "depth", desc := "(II)I" } : Jvm.MethodName)) ∈ lw_all := lw_g (lw_at lw_m8 23 rfl) rfl
theorem q1803 : (Jvm.Cond.selects "IntentVatsModel" ({ cls := "IntentVatsModel", name := "depth", desc := "(II)I" } : Jvm.MethodName) ({ cls := "IntentVatsModel", name := "depth", desc := "(II)I" } : Jvm.MethodName)) ∈ lw_all := lw_g (lw_at lw_m8 24 rfl) rfl
theorem q1804 : (Jvm.Cond.code ({ cls := "IntentVatsModel", name := "depth", desc := "(II)I" } : Jvm.MethodName) prog_28_method_54_code (3 : Nat) (Option.some Jvm.ClassFile.FieldType.int)) ∈ lw_all := lw_g (lw_at lw_m8 25 rfl) rfl
theorem q1806 : (Jvm.Cond.instanceMethod ({ cls := "IntentVatsModel", name := "comes", desc := "(II)I" } : Jvm.MethodName)) ∈ lw_all := lw_g (lw_at lw_m8 27 rfl) rfl
theorem q1807 : (Jvm.Cond.selects "IntentVatsModel" ({ cls := "IntentVatsModel", name := "comes", desc := "(II)I" } : Jvm.MethodName) ({ cls := "IntentVatsModel", name := "comes", desc := "(II)I" } : Jvm.MethodName)) ∈ lw_all := lw_g (lw_at lw_m8 28 rfl) rfl
theorem q1808 : (Jvm.Cond.code ({ cls := "IntentVatsModel", name := "comes", desc := "(II)I" } : Jvm.MethodName) prog_28_method_56_code (3 : Nat) (Option.some Jvm.ClassFile.FieldType.int)) ∈ lw_all := lw_g (lw_at lw_m8 29 rfl) rfl
theorem q1809 : (Jvm.Cond.methodLink "IntentVatsModel" (188 : Nat) ({ cls := "IntentVatsModel", name := "firstAbout", desc := "(II)I" } : Jvm.MethodName)) ∈ lw_all := lw_g (lw_at lw_m8 30 rfl) rfl
theorem q1810 : (Jvm.Cond.privateMethod ({ cls := "IntentVatsModel", name := "firstAbout", desc := "(II)I" } : Jvm.MethodName)) ∈ lw_tbl := lw_at lw_m8 31 rfl
theorem q1811 : (Jvm.Cond.instanceMethod ({ cls := "IntentVatsModel", name := "firstAbout", desc := "(II)I" } : Jvm.MethodName)) ∈ lw_all := lw_g (lw_at lw_m8 32 rfl) rfl
theorem q1812 : (Jvm.Cond.code ({ cls := "IntentVatsModel", name := "firstAbout", desc := "(II)I" } : Jvm.MethodName) prog_28_method_55_code (4 : Nat) (Option.some Jvm.ClassFile.FieldType.int)) ∈ lw_all := lw_g (lw_at lw_m8 33 rfl) rfl
theorem q1814 : (Jvm.Cond.instanceMethod ({ cls := "IntentVatsModel", name := "bare", desc := "(I)I" } : Jvm.MethodName)) ∈ lw_all := lw_g (lw_at lw_m8 35 rfl) rfl
theorem q1815 : (Jvm.Cond.selects "IntentVatsModel" ({ cls := "IntentVatsModel", name := "bare", desc := "(I)I" } : Jvm.MethodName) ({ cls := "IntentVatsModel", name := "bare", desc := "(I)I" } : Jvm.MethodName)) ∈ lw_all := lw_g (lw_at lw_m8 36 rfl) rfl
theorem q1816 : (Jvm.Cond.code ({ cls := "IntentVatsModel", name := "bare", desc := "(I)I" } : Jvm.MethodName) prog_28_method_57_code (2 : Nat) (Option.some Jvm.ClassFile.FieldType.int)) ∈ lw_all := lw_g (lw_at lw_m8 37 rfl) rfl
theorem q1818 : (Jvm.Cond.instanceMethod ({ cls := "IntentVatsModel", name := "spoilt", desc := "(I)I" } : Jvm.MethodName)) ∈ lw_all := lw_g (lw_at lw_m8 39 rfl) rfl
theorem q1819 : (Jvm.Cond.selects "IntentVatsModel" ({ cls := "IntentVatsModel", name := "spoilt", desc := "(I)I" } : Jvm.MethodName) ({ cls := "IntentVatsModel", name := "spoilt", desc := "(I)I" } : Jvm.MethodName)) ∈ lw_all := lw_g (lw_at lw_m8 40 rfl) rfl
theorem q1820 : (Jvm.Cond.code ({ cls := "IntentVatsModel", name := "spoilt", desc := "(I)I" } : Jvm.MethodName) prog_28_method_59_code (2 : Nat) (Option.some Jvm.ClassFile.FieldType.int)) ∈ lw_all := lw_g (lw_at lw_m8 41 rfl) rfl
theorem q1821 : (Jvm.Cond.methodLink "IntentVatsModel" (191 : Nat) ({ cls := "IntentVatsModel", name := "spoiltIn", desc := "(I)I" } : Jvm.MethodName)) ∈ lw_all := lw_g (lw_at lw_m8 42 rfl) rfl
theorem q1822 : (Jvm.Cond.privateMethod ({ cls := "IntentVatsModel", name := "spoiltIn", desc := "(I)I" } : Jvm.MethodName)) ∈ lw_tbl := lw_at lw_m8 43 rfl
theorem q1823 : (Jvm.Cond.instanceMethod ({ cls := "IntentVatsModel", name := "spoiltIn", desc := "(I)I" } : Jvm.MethodName)) ∈ lw_all := lw_g (lw_at lw_m8 44 rfl) rfl
theorem q1824 : (Jvm.Cond.code ({ cls := "IntentVatsModel", name := "spoiltIn", desc := "(I)I" } : Jvm.MethodName) prog_28_method_58_code (4 : Nat) (Option.some Jvm.ClassFile.FieldType.int)) ∈ lw_all := lw_g (lw_at lw_m8 45 rfl) rfl
theorem q1826 : (Jvm.Cond.instanceMethod ({ cls := "IntentVatsModel", name := "through", desc := "(II)I" } : Jvm.MethodName)) ∈ lw_all := lw_g (lw_at lw_m8 47 rfl) rfl
theorem q1827 : (Jvm.Cond.selects "IntentVatsModel" ({ cls := "IntentVatsModel", name := "through", desc := "(II)I" } : Jvm.MethodName) ({ cls := "IntentVatsModel", name := "through", desc := "(II)I" } : Jvm.MethodName)) ∈ lw_all := lw_g (lw_at lw_m8 48 rfl) rfl
theorem q1828 : (Jvm.Cond.code ({ cls := "IntentVatsModel", name := "through", desc := "(II)I" } : Jvm.MethodName) prog_28_method_61_code (5 : Nat) (Option.some Jvm.ClassFile.FieldType.int)) ∈ lw_all := lw_g (lw_at lw_m8 49 rfl) rfl
theorem q1829 : (Jvm.Cond.methodLink "IntentVatsModel" (194 : Nat) ({ cls := "IntentVatsModel", name := "isThrough", desc := "(IIII)Z" } : Jvm.MethodName)) ∈ lw_all := lw_g (lw_at lw_m8 50 rfl) rfl
theorem q1830 : (Jvm.Cond.privateMethod ({ cls := "IntentVatsModel", name := "isThrough", desc := "(IIII)Z" } : Jvm.MethodName)) ∈ lw_tbl := lw_at lw_m8 51 rfl
theorem q1831 : (Jvm.Cond.instanceMethod ({ cls := "IntentVatsModel", name := "isThrough", desc := "(IIII)Z" } : Jvm.MethodName)) ∈ lw_all := lw_g (lw_at lw_m8 52 rfl) rfl
theorem q1832 : (Jvm.Cond.code ({ cls := "IntentVatsModel", name := "isThrough", desc := "(IIII)Z" } : Jvm.MethodName) prog_28_method_60_code (6 : Nat) (Option.some Jvm.ClassFile.FieldType.boolean)) ∈ lw_all := lw_g (lw_at lw_m8 53 rfl) rfl
theorem q1834 : (Jvm.Cond.instanceMethod ({ cls := "IntentVatsModel", name := "vatFor", desc := "(II)I" } : Jvm.MethodName)) ∈ lw_all := lw_g (lw_at lw_m8 55 rfl) rfl
theorem q1835 : (Jvm.Cond.selects "IntentVatsModel" ({ cls := "IntentVatsModel", name := "vatFor", desc := "(II)I" } : Jvm.MethodName) ({ cls := "IntentVatsModel", name := "vatFor", desc := "(II)I" } : Jvm.MethodName)) ∈ lw_all := lw_g (lw_at lw_m8 56 rfl) rfl
theorem q1836 : (Jvm.Cond.code ({ cls := "IntentVatsModel", name := "vatFor", desc := "(II)I" } : Jvm.MethodName) prog_28_method_62_code (7 : Nat) (Option.some Jvm.ClassFile.FieldType.int)) ∈ lw_all := lw_g (lw_at lw_m8 57 rfl) rfl
theorem q1837 : (Jvm.Cond.methodLink "IntentVatsModel" (198 : Nat) ({ cls := "IntentVatsModel", name := "isSoon", desc := "(I)Z" } : Jvm.MethodName)) ∈ lw_all := lw_g (lw_at lw_m8 58 rfl) rfl
theorem q1838 : (Jvm.Cond.static ({ cls := "IntentVatsModel", name := "isSoon", desc := "(I)Z" } : Jvm.MethodName)) ∈ lw_all := lw_g (lw_at lw_m8 59 rfl) rfl
theorem q1839 : (Jvm.Cond.code ({ cls := "IntentVatsModel", name := "isSoon", desc := "(I)Z" } : Jvm.MethodName) prog_28_method_51_code (1 : Nat) (Option.some Jvm.ClassFile.FieldType.boolean)) ∈ lw_all := lw_g (lw_at lw_m8 60 rfl) rfl
theorem q1840 : (Jvm.Cond.constantLong "IntentVatsModel" (180 : Nat) (40 : Int64)) ∈ lw_all := lw_g (lw_at lw_m8 61 rfl) rfl
theorem q1842 : (Jvm.Cond.instanceMethod ({ cls := "IntentVatsModel", name := "kindFor", desc := "(II)I" } : Jvm.MethodName)) ∈ lw_all := lw_g (lw_at lw_m8 63 rfl) rfl
theorem q1843 : (Jvm.Cond.selects "IntentVatsModel" ({ cls := "IntentVatsModel", name := "kindFor", desc := "(II)I" } : Jvm.MethodName) ({ cls := "IntentVatsModel", name := "kindFor", desc := "(II)I" } : Jvm.MethodName)) ∈ lw_all := lw_g (lw_at lw_m8 64 rfl) rfl
theorem q1844 : (Jvm.Cond.code ({ cls := "IntentVatsModel", name := "kindFor", desc := "(II)I" } : Jvm.MethodName) prog_28_method_63_code (7 : Nat) (Option.some Jvm.ClassFile.FieldType.int)) ∈ lw_all := lw_g (lw_at lw_m8 65 rfl) rfl
theorem q1846 : (Jvm.Cond.instanceMethod ({ cls := "IntentVatsModel", name := "strengthFor", desc := "(IIII)I" } : Jvm.MethodName)) ∈ lw_all := lw_g (lw_at lw_m8 67 rfl) rfl
theorem q1847 : (Jvm.Cond.selects "IntentVatsModel" ({ cls := "IntentVatsModel", name := "strengthFor", desc := "(IIII)I" } : Jvm.MethodName) ({ cls := "IntentVatsModel", name := "strengthFor", desc := "(IIII)I" } : Jvm.MethodName)) ∈ lw_all := lw_g (lw_at lw_m8 68 rfl) rfl
theorem q1848 : (Jvm.Cond.code ({ cls := "IntentVatsModel", name := "strengthFor", desc := "(IIII)I" } : Jvm.MethodName) prog_28_method_64_code (7 : Nat) (Option.some Jvm.ClassFile.FieldType.int)) ∈ lw_all := lw_g (lw_at lw_m8 69 rfl) rfl
theorem q1850 : (Jvm.Cond.instanceMethod ({ cls := "IntentVatsModel", name := "hangFor", desc := "(II)I" } : Jvm.MethodName)) ∈ lw_all := lw_g (lw_at lw_m8 71 rfl) rfl
theorem q1851 : (Jvm.Cond.selects "IntentVatsModel" ({ cls := "IntentVatsModel", name := "hangFor", desc := "(II)I" } : Jvm.MethodName) ({ cls := "IntentVatsModel", name := "hangFor", desc := "(II)I" } : Jvm.MethodName)) ∈ lw_all := lw_g (lw_at lw_m8 72 rfl) rfl
theorem q1852 : (Jvm.Cond.code ({ cls := "IntentVatsModel", name := "hangFor", desc := "(II)I" } : Jvm.MethodName) prog_28_method_67_code (5 : Nat) (Option.some Jvm.ClassFile.FieldType.int)) ∈ lw_all := lw_g (lw_at lw_m8 73 rfl) rfl
theorem q1853 : (Jvm.Cond.constantLong "IntentVatsModel" (201 : Nat) (8 : Int64)) ∈ lw_all := lw_g (lw_at lw_m8 74 rfl) rfl
theorem q1854 : (Jvm.Cond.methodLink "IntentVatsModel" (203 : Nat) ({ cls := "IntentVatsModel", name := "ones", desc := "(I)I" } : Jvm.MethodName)) ∈ lw_all := lw_g (lw_at lw_m8 75 rfl) rfl
theorem q1855 : (Jvm.Cond.static ({ cls := "IntentVatsModel", name := "ones", desc := "(I)I" } : Jvm.MethodName)) ∈ lw_all := lw_g (lw_at lw_m8 76 rfl) rfl
theorem q1856 : (Jvm.Cond.code ({ cls := "IntentVatsModel", name := "ones", desc := "(I)I" } : Jvm.MethodName) prog_28_method_65_code (3 : Nat) (Option.some Jvm.ClassFile.FieldType.int)) ∈ lw_all := lw_g (lw_at lw_m8 77 rfl) rfl
theorem q1857 : (Jvm.Cond.methodLink "IntentVatsModel" (206 : Nat) ({ cls := "IntentVatsModel", name := "hangs", desc := "(I)V" } : Jvm.MethodName)) ∈ lw_all := lw_g (lw_at lw_m8 78 rfl) rfl
theorem q1858 : (Jvm.Cond.privateMethod ({ cls := "IntentVatsModel", name := "hangs", desc := "(I)V" } : Jvm.MethodName)) ∈ lw_tbl := lw_at lw_m8 79 rfl
theorem q1859 : (Jvm.Cond.instanceMethod ({ cls := "IntentVatsModel", name := "hangs", desc := "(I)V" } : Jvm.MethodName)) ∈ lw_all := lw_g (lw_at lw_m8 80 rfl) rfl
theorem q1860 : (Jvm.Cond.code ({ cls := "IntentVatsModel", name := "hangs", desc := "(I)V" } : Jvm.MethodName) prog_28_method_66_code (3 : Nat) (Option.none : Option Jvm.ClassFile.FieldType)) ∈ lw_all := lw_g (lw_at lw_m8 81 rfl) rfl
theorem q1862 : (Jvm.Cond.instanceMethod ({ cls := "IntentVatsModel", name := "fits", desc := "(III)I" } : Jvm.MethodName)) ∈ lw_all := lw_g (lw_at lw_m8 83 rfl) rfl
theorem q1863 : (Jvm.Cond.selects "IntentVatsModel" ({ cls := "IntentVatsModel", name := "fits", desc := "(III)I" } : Jvm.MethodName) ({ cls := "IntentVatsModel", name := "fits", desc := "(III)I" } : Jvm.MethodName)) ∈ lw_all := lw_g (lw_at lw_m8 84 rfl) rfl
theorem q1864 : (Jvm.Cond.code ({ cls := "IntentVatsModel", name := "fits", desc := "(III)I" } : Jvm.MethodName) prog_28_method_69_code (9 : Nat) (Option.some Jvm.ClassFile.FieldType.int)) ∈ lw_all := lw_g (lw_at lw_m8 85 rfl) rfl
theorem q1865 : (Jvm.Cond.methodLink "IntentVatsModel" (209 : Nat) ({ cls := "IntentVatsModel", name := "isFour", desc := "(I)Z" } : Jvm.MethodName)) ∈ lw_all := lw_g (lw_at lw_m8 86 rfl) rfl
theorem q1866 : (Jvm.Cond.static ({ cls := "IntentVatsModel", name := "isFour", desc := "(I)Z" } : Jvm.MethodName)) ∈ lw_all := lw_g (lw_at lw_m8 87 rfl) rfl
theorem q1867 : (Jvm.Cond.code ({ cls := "IntentVatsModel", name := "isFour", desc := "(I)Z" } : Jvm.MethodName) prog_28_method_94_code (1 : Nat) (Option.some Jvm.ClassFile.FieldType.boolean)) ∈ lw_all := lw_g (lw_at lw_m8 88 rfl) rfl
theorem q1868 : (Jvm.Cond.methodLink "IntentVatsModel" (212 : Nat) ({ cls := "IntentVatsModel", name := "isSo", desc := "(III)Z" } : Jvm.MethodName)) ∈ lw_all := lw_g (lw_at lw_m8 89 rfl) rfl
theorem q1869 : (Jvm.Cond.privateMethod ({ cls := "IntentVatsModel", name := "isSo", desc := "(III)Z" } : Jvm.MethodName)) ∈ lw_tbl := lw_at lw_m8 90 rfl
theorem q1870 : (Jvm.Cond.instanceMethod ({ cls := "IntentVatsModel", name := "isSo", desc := "(III)Z" } : Jvm.MethodName)) ∈ lw_all := lw_g (lw_at lw_m8 91 rfl) rfl
theorem q1871 : (Jvm.Cond.code ({ cls := "IntentVatsModel", name := "isSo", desc := "(III)Z" } : Jvm.MethodName) prog_28_method_68_code (7 : Nat) (Option.some Jvm.ClassFile.FieldType.boolean)) ∈ lw_all := lw_g (lw_at lw_m8 92 rfl) rfl
theorem q1873 : (Jvm.Cond.instanceMethod ({ cls := "IntentVatsModel", name := "odds", desc := "(III)J" } : Jvm.MethodName)) ∈ lw_all := lw_g (lw_at lw_m8 94 rfl) rfl
theorem q1874 : (Jvm.Cond.selects "IntentVatsModel" ({ cls := "IntentVatsModel", name := "odds", desc := "(III)J" } : Jvm.MethodName) ({ cls := "IntentVatsModel", name := "odds", desc := "(III)J" } : Jvm.MethodName)) ∈ lw_all := lw_g (lw_at lw_m8 95 rfl) rfl
theorem q1875 : (Jvm.Cond.code ({ cls := "IntentVatsModel", name := "odds", desc := "(III)J" } : Jvm.MethodName) prog_28_method_71_code (11 : Nat) (Option.some Jvm.ClassFile.FieldType.long)) ∈ lw_all := lw_g (lw_at lw_m8 96 rfl) rfl
theorem q1876 : (Jvm.Cond.constantLong "IntentVatsModel" (216 : Nat) (-1 : Int64)) ∈ lw_all := lw_g (lw_at lw_m8 97 rfl) rfl
theorem q1877 : (Jvm.Cond.constantLong "IntentVatsModel" (218 : Nat) (100 : Int64)) ∈ lw_all := lw_g (lw_at lw_m8 98 rfl) rfl
theorem q1878 : (Jvm.Cond.methodLink "IntentVatsModel" (220 : Nat) ({ cls := "IntentVatsModel", name := "lowest", desc := "(JJI)J" } : Jvm.MethodName)) ∈ lw_all := lw_g (lw_at lw_m8 99 rfl) rfl
theorem q1879 : (Jvm.Cond.static ({ cls := "IntentVatsModel", name := "lowest", desc := "(JJI)J" } : Jvm.MethodName)) ∈ lw_all := lw_g (lw_at lw_m8 100 rfl) rfl
theorem q1880 : (Jvm.Cond.code ({ cls := "IntentVatsModel", name := "lowest", desc := "(JJI)J" } : Jvm.MethodName) prog_28_method_70_code (11 : Nat) (Option.some Jvm.ClassFile.FieldType.long)) ∈ lw_all := lw_g (lw_at lw_m8 101 rfl) rfl
theorem q1882 : (Jvm.Cond.instanceMethod ({ cls := "IntentVatsModel", name := "hope", desc := "(II)J" } : Jvm.MethodName)) ∈ lw_all := lw_g (lw_at lw_m8 103 rfl) rfl
theorem q1883 : (Jvm.Cond.selects "IntentVatsModel" ({ cls := "IntentVatsModel", name := "hope", desc := "(II)J" } : Jvm.MethodName) ({ cls := "IntentVatsModel", name := "hope", desc := "(II)J" } : Jvm.MethodName)) ∈ lw_all := lw_g (lw_at lw_m8 104 rfl) rfl
theorem q1884 : (Jvm.Cond.code ({ cls := "IntentVatsModel", name := "hope", desc := "(II)J" } : Jvm.MethodName) prog_28_method_72_code (3 : Nat) (Option.some Jvm.ClassFile.FieldType.long)) ∈ lw_all := lw_g (lw_at lw_m8 105 rfl) rfl
theorem q1886 : (Jvm.Cond.instanceMethod ({ cls := "IntentVatsModel", name := "feed", desc := "(JI)I" } : Jvm.MethodName)) ∈ lw_all := lw_g (lw_at lw_m8 107 rfl) rfl
theorem q1887 : (Jvm.Cond.selects "IntentVatsModel" ({ cls := "IntentVatsModel", name := "feed", desc := "(JI)I" } : Jvm.MethodName) ({ cls := "IntentVatsModel", name := "feed", desc := "(JI)I" } : Jvm.MethodName)) ∈ lw_all := lw_g (lw_at lw_m8 108 rfl) rfl
theorem q1888 : (Jvm.Cond.code ({ cls := "IntentVatsModel", name := "feed", desc := "(JI)I" } : Jvm.MethodName) prog_28_method_73_code (5 : Nat) (Option.some Jvm.ClassFile.FieldType.int)) ∈ lw_all := lw_g (lw_at lw_m8 109 rfl) rfl
theorem q1889 : (Jvm.Cond.constantLong "IntentVatsModel" (228 : Nat) (255 : Int64)) ∈ lw_all := lw_g (lw_at lw_m8 110 rfl) rfl
theorem q1891 : (Jvm.Cond.instanceMethod ({ cls := "IntentVatsModel", name := "mill", desc := "()I" } : Jvm.MethodName)) ∈ lw_all := lw_g (lw_at lw_m8 112 rfl) rfl
theorem q1892 : (Jvm.Cond.selects "IntentVatsModel" ({ cls := "IntentVatsModel", name := "mill", desc := "()I" } : Jvm.MethodName) ({ cls := "IntentVatsModel", name := "mill", desc := "()I" } : Jvm.MethodName)) ∈ lw_all := lw_g (lw_at lw_m8 113 rfl) rfl
theorem q1893 : (Jvm.Cond.code ({ cls := "IntentVatsModel", name := "mill", desc := "()I" } : Jvm.MethodName) prog_28_method_87_code (1 : Nat) (Option.some Jvm.ClassFile.FieldType.int)) ∈ lw_all := lw_g (lw_at lw_m8 114 rfl) rfl
theorem q1894 : (Jvm.Cond.methodLink "IntentVatsModel" (252 : Nat) ({ cls := "IntentVatsModel", name := "next", desc := "()V" } : Jvm.MethodName)) ∈ lw_all := lw_g (lw_at lw_m8 115 rfl) rfl
theorem q1895 : (Jvm.Cond.privateMethod ({ cls := "IntentVatsModel", name := "next", desc := "()V" } : Jvm.MethodName)) ∈ lw_tbl := lw_at lw_m8 116 rfl
theorem q1896 : (Jvm.Cond.instanceMethod ({ cls := "IntentVatsModel", name := "next", desc := "()V" } : Jvm.MethodName)) ∈ lw_all := lw_g (lw_at lw_m8 117 rfl) rfl
theorem q1897 : (Jvm.Cond.code ({ cls := "IntentVatsModel", name := "next", desc := "()V" } : Jvm.MethodName) prog_28_method_75_code (3 : Nat) (Option.none : Option Jvm.ClassFile.FieldType)) ∈ lw_all := lw_g (lw_at lw_m8 118 rfl) rfl
theorem q1898 : (Jvm.Cond.methodLink "IntentVatsModel" (236 : Nat) ({ cls := "IntentVatsModel", name := "isByte", desc := "(III)Z" } : Jvm.MethodName)) ∈ lw_all := lw_g (lw_at lw_m8 119 rfl) rfl
theorem q1899 : (Jvm.Cond.privateMethod ({ cls := "IntentVatsModel", name := "isByte", desc := "(III)Z" } : Jvm.MethodName)) ∈ lw_tbl := lw_at lw_m8 120 rfl
theorem q1900 : (Jvm.Cond.instanceMethod ({ cls := "IntentVatsModel", name := "isByte", desc := "(III)Z" } : Jvm.MethodName)) ∈ lw_all := lw_g (lw_at lw_m8 121 rfl) rfl
theorem q1901 : (Jvm.Cond.code ({ cls := "IntentVatsModel", name := "isByte", desc := "(III)Z" } : Jvm.MethodName) prog_28_method_74_code (4 : Nat) (Option.some Jvm.ClassFile.FieldType.boolean)) ∈ lw_all := lw_g (lw_at lw_m8 122 rfl) rfl
theorem q1902 : (Jvm.Cond.methodLink "IntentVatsModel" (326 : Nat) ({ cls := "IntentVatsModel", name := "item", desc := "()V" } : Jvm.MethodName)) ∈ lw_all := lw_g (lw_at lw_m8 123 rfl) rfl
theorem q1903 : (Jvm.Cond.privateMethod ({ cls := "IntentVatsModel", name := "item", desc := "()V" } : Jvm.MethodName)) ∈ lw_tbl := lw_at lw_m8 124 rfl
theorem q1904 : (Jvm.Cond.instanceMethod ({ cls := "IntentVatsModel", name := "item", desc := "()V" } : Jvm.MethodName)) ∈ lw_all := lw_g (lw_at lw_m8 125 rfl) rfl
theorem q1905 : (Jvm.Cond.code ({ cls := "IntentVatsModel", name := "item", desc := "()V" } : Jvm.MethodName) prog_28_method_86_code (3 : Nat) (Option.none : Option Jvm.ClassFile.FieldType)) ∈ lw_all := lw_g (lw_at lw_m8 126 rfl) rfl
theorem q1906 : (Jvm.Cond.methodLink "IntentVatsModel" (298 : Nat) ({ cls := "IntentVatsModel", name := "kindHere", desc := "()I" } : Jvm.MethodName)) ∈ lw_all := lw_g (lw_at lw_m8 127 rfl) rfl
theorem q1907 : (Jvm.Cond.privateMethod ({ cls := "IntentVatsModel", name := "kindHere", desc := "()I" } : Jvm.MethodName)) ∈ lw_tbl := lw_at lw_m8 128 rfl
theorem q1908 : (Jvm.Cond.instanceMethod ({ cls := "IntentVatsModel", name := "kindHere", desc := "()I" } : Jvm.MethodName)) ∈ lw_all := lw_g (lw_at lw_m8 129 rfl) rfl
theorem q1909 : (Jvm.Cond.code ({ cls := "IntentVatsModel", name := "kindHere", desc := "()I" } : Jvm.MethodName) prog_28_method_80_code (2 : Nat) (Option.some Jvm.ClassFile.FieldType.int)) ∈ lw_all := lw_g (lw_at lw_m8 130 rfl) rfl
theorem q1910 : (Jvm.Cond.stringRef "IntentVatsModel" (262 : Nat) "cloth") ∈ lw_tbl := lw_at lw_m8 131 rfl
theorem q1911 : (Jvm.Cond.methodLink "IntentVatsModel" (264 : Nat) ({ cls := "IntentVatsModel", name := "isWord", desc := "(Ljava/lang/String;)Z" } : Jvm.MethodName)) ∈ lw_all := lw_g (lw_at lw_m8 132 rfl) rfl
theorem q1912 : (Jvm.Cond.privateMethod ({ cls := "IntentVatsModel", name := "isWord", desc := "(Ljava/lang/String;)Z" } : Jvm.MethodName)) ∈ lw_tbl := lw_at lw_m8 133 rfl
theorem q1913 : (Jvm.Cond.instanceMethod ({ cls := "IntentVatsModel", name := "isWord", desc := "(Ljava/lang/String;)Z" } : Jvm.MethodName)) ∈ lw_all := lw_g (lw_at lw_m8 134 rfl) rfl
theorem q1914 : (Jvm.Cond.code ({ cls := "IntentVatsModel", name := "isWord", desc := "(Ljava/lang/String;)Z" } : Jvm.MethodName) prog_28_method_76_code (4 : Nat) (Option.some Jvm.ClassFile.FieldType.boolean)) ∈ lw_all := lw_g (lw_at lw_m8 135 rfl) rfl
theorem q1915 : (Jvm.Cond.methodLink "IntentVatsModel" (243 : Nat) ({ cls := "java/lang/String", name := "length", desc := "()I" } : Jvm.MethodName)) ∈ lw_all := lw_g (lw_at lw_m8 136 rfl) rfl
theorem q1916 : (Jvm.Cond.methodLink "IntentVatsModel" (248 : Nat) ({ cls := "java/lang/String", name := "charAt", desc := "(I)C" } : Jvm.MethodName)) ∈ lw_all := lw_g (lw_at lw_m8 137 rfl) rfl
theorem q1917 : (Jvm.Cond.stringRef "IntentVatsModel" (268 : Nat) "wool") ∈ lw_tbl := lw_at lw_m8 138 rfl
theorem q1918 : (Jvm.Cond.stringRef "IntentVatsModel" (270 : Nat) "linen") ∈ lw_tbl := lw_at lw_m8 139 rfl
theorem q1919 : (Jvm.Cond.stringRef "IntentVatsModel" (272 : Nat) "felt") ∈ lw_tbl := lw_at lw_m8 140 rfl
theorem q1920 : (Jvm.Cond.stringRef "IntentVatsModel" (274 : Nat) "shroud") ∈ lw_tbl := lw_at lw_m8 141 rfl
theorem q1921 : (Jvm.Cond.stringRef "IntentVatsModel" (276 : Nat) "muslin") ∈ lw_tbl := lw_at lw_m8 142 rfl
theorem q1922 : (Jvm.Cond.methodLink "IntentVatsModel" (301 : Nat) ({ cls := "IntentVatsModel", name := "lawHere", desc := "()I" } : Jvm.MethodName)) ∈ lw_all := lw_g (lw_at lw_m8 143 rfl) rfl
theorem q1923 : (Jvm.Cond.privateMethod ({ cls := "IntentVatsModel", name := "lawHere", desc := "()I" } : Jvm.MethodName)) ∈ lw_tbl := lw_at lw_m8 144 rfl
theorem q1924 : (Jvm.Cond.instanceMethod ({ cls := "IntentVatsModel", name := "lawHere", desc := "()I" } : Jvm.MethodName)) ∈ lw_all := lw_g (lw_at lw_m8 145 rfl) rfl
theorem q1925 : (Jvm.Cond.code ({ cls := "IntentVatsModel", name := "lawHere", desc := "()I" } : Jvm.MethodName) prog_28_method_85_code (1 : Nat) (Option.some Jvm.ClassFile.FieldType.int)) ∈ lw_all := lw_g (lw_at lw_m8 146 rfl) rfl
theorem q1926 : (Jvm.Cond.stringRef "IntentVatsModel" (290 : Nat) "mordant") ∈ lw_tbl := lw_at lw_m8 147 rfl
theorem q1927 : (Jvm.Cond.stringRef "IntentVatsModel" (292 : Nat) "light") ∈ lw_tbl := lw_at lw_m8 148 rfl
theorem q1928 : (Jvm.Cond.stringRef "IntentVatsModel" (294 : Nat) "quarrel") ∈ lw_tbl := lw_at lw_m8 149 rfl
theorem q1929 : (Jvm.Cond.stringRef "IntentVatsModel" (296 : Nat) "slip") ∈ lw_tbl := lw_at lw_m8 150 rfl
theorem q1930 : (Jvm.Cond.methodLink "IntentVatsModel" (304 : Nat) ({ cls := "IntentVatsModel", name := "clothTold", desc := "(I)V" } : Jvm.MethodName)) ∈ lw_all := lw_g (lw_at lw_m8 151 rfl) rfl
theorem q1931 : (Jvm.Cond.privateMethod ({ cls := "IntentVatsModel", name := "clothTold", desc := "(I)V" } : Jvm.MethodName)) ∈ lw_tbl := lw_at lw_m8 152 rfl
theorem q1932 : (Jvm.Cond.instanceMethod ({ cls := "IntentVatsModel", name := "clothTold", desc := "(I)V" } : Jvm.MethodName)) ∈ lw_all := lw_g (lw_at lw_m8 153 rfl) rfl
theorem q1933 : (Jvm.Cond.code ({ cls := "IntentVatsModel", name := "clothTold", desc := "(I)V" } : Jvm.MethodName) prog_28_method_82_code (5 : Nat) (Option.none : Option Jvm.ClassFile.FieldType)) ∈ lw_all := lw_g (lw_at lw_m8 154 rfl) rfl
theorem q1934 : (Jvm.Cond.methodLink "IntentVatsModel" (258 : Nat) ({ cls := "IntentVatsModel", name := "must", desc := "(Z)V" } : Jvm.MethodName)) ∈ lw_all := lw_g (lw_at lw_m8 155 rfl) rfl
theorem q1935 : (Jvm.Cond.privateMethod ({ cls := "IntentVatsModel", name := "must", desc := "(Z)V" } : Jvm.MethodName)) ∈ lw_tbl := lw_at lw_m8 156 rfl
theorem q1936 : (Jvm.Cond.instanceMethod ({ cls := "IntentVatsModel", name := "must", desc := "(Z)V" } : Jvm.MethodName)) ∈ lw_all := lw_g (lw_at lw_m8 157 rfl) rfl
theorem q1937 : (Jvm.Cond.code ({ cls := "IntentVatsModel", name := "must", desc := "(Z)V" } : Jvm.MethodName) prog_28_method_77_code (2 : Nat) (Option.none : Option Jvm.ClassFile.FieldType)) ∈ lw_all := lw_g (lw_at lw_m8 158 rfl) rfl
theorem q1938 : (Jvm.Cond.stringRef "IntentVatsModel" (278 : Nat) "about") ∈ lw_tbl := lw_at lw_m8 159 rfl
theorem q1939 : (Jvm.Cond.methodLink "IntentVatsModel" (280 : Nat) ({ cls := "IntentVatsModel", name := "takes", desc := "(Ljava/lang/String;)Z" } : Jvm.MethodName)) ∈ lw_all := lw_g (lw_at lw_m8 160 rfl) rfl
theorem q1940 : (Jvm.Cond.privateMethod ({ cls := "IntentVatsModel", name := "takes", desc := "(Ljava/lang/String;)Z" } : Jvm.MethodName)) ∈ lw_tbl := lw_at lw_m8 161 rfl
theorem q1941 : (Jvm.Cond.instanceMethod ({ cls := "IntentVatsModel", name := "takes", desc := "(Ljava/lang/String;)Z" } : Jvm.MethodName)) ∈ lw_all := lw_g (lw_at lw_m8 162 rfl) rfl
theorem q1942 : (Jvm.Cond.code ({ cls := "IntentVatsModel", name := "takes", desc := "(Ljava/lang/String;)Z" } : Jvm.MethodName) prog_28_method_81_code (3 : Nat) (Option.some Jvm.ClassFile.FieldType.boolean)) ∈ lw_all := lw_g (lw_at lw_m8 163 rfl) rfl
theorem q1943 : (Jvm.Cond.methodLink "IntentVatsModel" (283 : Nat) ({ cls := "IntentVatsModel", name := "number", desc := "(II)I" } : Jvm.MethodName)) ∈ lw_all := lw_g (lw_at lw_m8 164 rfl) rfl
theorem q1944 : (Jvm.Cond.privateMethod ({ cls := "IntentVatsModel", name := "number", desc := "(II)I" } : Jvm.MethodName)) ∈ lw_tbl := lw_at lw_m8 165 rfl
theorem q1945 : (Jvm.Cond.instanceMethod ({ cls := "IntentVatsModel", name := "number", desc := "(II)I" } : Jvm.MethodName)) ∈ lw_all := lw_g (lw_at lw_m8 166 rfl) rfl
theorem q1946 : (Jvm.Cond.code ({ cls := "IntentVatsModel", name := "number", desc := "(II)I" } : Jvm.MethodName) prog_28_method_79_code (4 : Nat) (Option.some Jvm.ClassFile.FieldType.int)) ∈ lw_all := lw_g (lw_at lw_m8 167 rfl) rfl
theorem q1947 : (Jvm.Cond.methodLink "IntentVatsModel" (255 : Nat) ({ cls := "IntentVatsModel", name := "figures", desc := "()I" } : Jvm.MethodName)) ∈ lw_all := lw_g (lw_at lw_m8 168 rfl) rfl
theorem q1948 : (Jvm.Cond.privateMethod ({ cls := "IntentVatsModel", name := "figures", desc := "()I" } : Jvm.MethodName)) ∈ lw_tbl := lw_at lw_m8 169 rfl
theorem q1949 : (Jvm.Cond.instanceMethod ({ cls := "IntentVatsModel", name := "figures", desc := "()I" } : Jvm.MethodName)) ∈ lw_all := lw_g (lw_at lw_m8 170 rfl) rfl
theorem q1950 : (Jvm.Cond.code ({ cls := "IntentVatsModel", name := "figures", desc := "()I" } : Jvm.MethodName) prog_28_method_78_code (3 : Nat) (Option.some Jvm.ClassFile.FieldType.int)) ∈ lw_all := lw_g (lw_at lw_m8 171 rfl) rfl
theorem q1951 : (Jvm.Cond.stringRef "IntentVatsModel" (286 : Nat) "deep") ∈ lw_tbl := lw_at lw_m8 172 rfl
theorem q1952 : (Jvm.Cond.stringRef "IntentVatsModel" (288 : Nat) "hung") ∈ lw_tbl := lw_at lw_m8 173 rfl
theorem q1953 : (Jvm.Cond.stringRef "IntentVatsModel" (307 : Nat) "vat") ∈ lw_tbl := lw_at lw_m8 174 rfl
theorem q1954 : (Jvm.Cond.stringRef "IntentVatsModel" (309 : Nat) "of") ∈ lw_tbl := lw_at lw_m8 175 rfl
theorem q1955 : (Jvm.Cond.methodLink "IntentVatsModel" (311 : Nat) ({ cls := "IntentVatsModel", name := "twoTold", desc := "(IILjava/lang/String;I)V" } : Jvm.MethodName)) ∈ lw_all := lw_g (lw_at lw_m8 176 rfl) rfl
theorem q1956 : (Jvm.Cond.privateMethod ({ cls := "IntentVatsModel", name := "twoTold", desc := "(IILjava/lang/String;I)V" } : Jvm.MethodName)) ∈ lw_tbl := lw_at lw_m8 177 rfl
theorem q1957 : (Jvm.Cond.instanceMethod ({ cls := "IntentVatsModel", name := "twoTold", desc := "(IILjava/lang/String;I)V" } : Jvm.MethodName)) ∈ lw_all := lw_g (lw_at lw_m8 178 rfl) rfl
theorem q1958 : (Jvm.Cond.code ({ cls := "IntentVatsModel", name := "twoTold", desc := "(IILjava/lang/String;I)V" } : Jvm.MethodName) prog_28_method_83_code (7 : Nat) (Option.none : Option Jvm.ClassFile.FieldType)) ∈ lw_all := lw_g (lw_at lw_m8 179 rfl) rfl
theorem q1959 : (Jvm.Cond.stringRef "IntentVatsModel" (315 : Nat) "strong") ∈ lw_tbl := lw_at lw_m8 180 rfl
theorem q1960 : (Jvm.Cond.stringRef "IntentVatsModel" (317 : Nat) "") ∈ lw_tbl := lw_at lw_m8 181 rfl
theorem q1961 : (Jvm.Cond.stringRef "IntentVatsModel" (319 : Nat) "day") ∈ lw_tbl := lw_at lw_m8 182 rfl
theorem q1962 : (Jvm.Cond.methodLink "IntentVatsModel" (321 : Nat) ({ cls := "IntentVatsModel", name := "lawTold", desc := "(I)V" } : Jvm.MethodName)) ∈ lw_all := lw_g (lw_at lw_m8 183 rfl) rfl
theorem q1963 : (Jvm.Cond.privateMethod ({ cls := "IntentVatsModel", name := "lawTold", desc := "(I)V" } : Jvm.MethodName)) ∈ lw_tbl := lw_at lw_m8 184 rfl
theorem q1964 : (Jvm.Cond.instanceMethod ({ cls := "IntentVatsModel", name := "lawTold", desc := "(I)V" } : Jvm.MethodName)) ∈ lw_all := lw_g (lw_at lw_m8 185 rfl) rfl
theorem q1965 : (Jvm.Cond.code ({ cls := "IntentVatsModel", name := "lawTold", desc := "(I)V" } : Jvm.MethodName) prog_28_method_84_code (3 : Nat) (Option.none : Option Jvm.ClassFile.FieldType)) ∈ lw_all := lw_g (lw_at lw_m8 186 rfl) rfl
theorem q1966 : (Jvm.Cond.stringRef "IntentVatsModel" (324 : Nat) ";") ∈ lw_tbl := lw_at lw_m8 187 rfl
theorem q1968 : (Jvm.Cond.instanceMethod ({ cls := "IntentVatsModel", name := "prove", desc := "(II)I" } : Jvm.MethodName)) ∈ lw_all := lw_g (lw_at lw_m8 189 rfl) rfl
theorem q1969 : (Jvm.Cond.selects "IntentVatsModel" ({ cls := "IntentVatsModel", name := "prove", desc := "(II)I" } : Jvm.MethodName) ({ cls := "IntentVatsModel", name := "prove", desc := "(II)I" } : Jvm.MethodName)) ∈ lw_all := lw_g (lw_at lw_m8 190 rfl) rfl
theorem q1970 : (Jvm.Cond.code ({ cls := "IntentVatsModel", name := "prove", desc := "(II)I" } : Jvm.MethodName) prog_28_method_88_code (4 : Nat) (Option.some Jvm.ClassFile.FieldType.int)) ∈ lw_all := lw_g (lw_at lw_m8 191 rfl) rfl
theorem q1971 : (Jvm.Cond.constantLong "IntentVatsModel" (332 : Nat) (10 : Int64)) ∈ lw_all := lw_g (lw_at lw_m8 192 rfl) rfl
theorem q1973 : (Jvm.Cond.instanceMethod ({ cls := "IntentVatsModel", name := "row", desc := "(II)I" } : Jvm.MethodName)) ∈ lw_all := lw_g (lw_at lw_m8 194 rfl) rfl
theorem q1974 : (Jvm.Cond.selects "IntentVatsModel" ({ cls := "IntentVatsModel", name := "row", desc := "(II)I" } : Jvm.MethodName) ({ cls := "IntentVatsModel", name := "row", desc := "(II)I" } : Jvm.MethodName)) ∈ lw_all := lw_g (lw_at lw_m8 195 rfl) rfl
theorem q1975 : (Jvm.Cond.code ({ cls := "IntentVatsModel", name := "row", desc := "(II)I" } : Jvm.MethodName) prog_28_method_90_code (3 : Nat) (Option.some Jvm.ClassFile.FieldType.int)) ∈ lw_all := lw_g (lw_at lw_m8 196 rfl) rfl
theorem q1976 : (Jvm.Cond.methodLink "IntentVatsModel" (334 : Nat) ({ cls := "IntentVatsModel", name := "isCell", desc := "(II)Z" } : Jvm.MethodName)) ∈ lw_all := lw_g (lw_at lw_m8 197 rfl) rfl
theorem q1977 : (Jvm.Cond.privateMethod ({ cls := "IntentVatsModel", name := "isCell", desc := "(II)Z" } : Jvm.MethodName)) ∈ lw_tbl := lw_at lw_m8 198 rfl
theorem q1978 : (Jvm.Cond.instanceMethod ({ cls := "IntentVatsModel", name := "isCell", desc := "(II)Z" } : Jvm.MethodName)) ∈ lw_all := lw_g (lw_at lw_m8 199 rfl) rfl
theorem q1979 : (Jvm.Cond.code ({ cls := "IntentVatsModel", name := "isCell", desc := "(II)Z" } : Jvm.MethodName) prog_28_method_89_code (3 : Nat) (Option.some Jvm.ClassFile.FieldType.boolean)) ∈ lw_all := lw_g (lw_at lw_m8 200 rfl) rfl
theorem q1981 : (Jvm.Cond.instanceMethod ({ cls := "IntentVatsModel", name := "alterRow", desc := "(III)I" } : Jvm.MethodName)) ∈ lw_all := lw_g (lw_at lw_m8 202 rfl) rfl
theorem q1982 : (Jvm.Cond.selects "IntentVatsModel" ({ cls := "IntentVatsModel", name := "alterRow", desc := "(III)I" } : Jvm.MethodName) ({ cls := "IntentVatsModel", name := "alterRow", desc := "(III)I" } : Jvm.MethodName)) ∈ lw_all := lw_g (lw_at lw_m8 203 rfl) rfl
theorem q1983 : (Jvm.Cond.code ({ cls := "IntentVatsModel", name := "alterRow", desc := "(III)I" } : Jvm.MethodName) prog_28_method_91_code (5 : Nat) (Option.some Jvm.ClassFile.FieldType.int)) ∈ lw_all := lw_g (lw_at lw_m8 204 rfl) rfl
theorem q1985 : (Jvm.Cond.instanceMethod ({ cls := "IntentVatsModel", name := "judge", desc := "(I)I" } : Jvm.MethodName)) ∈ lw_all := lw_g (lw_at lw_m8 206 rfl) rfl
theorem q1986 : (Jvm.Cond.selects "IntentVatsModel" ({ cls := "IntentVatsModel", name := "judge", desc := "(I)I" } : Jvm.MethodName) ({ cls := "IntentVatsModel", name := "judge", desc := "(I)I" } : Jvm.MethodName)) ∈ lw_all := lw_g (lw_at lw_m8 207 rfl) rfl
theorem q1987 : (Jvm.Cond.code ({ cls := "IntentVatsModel", name := "judge", desc := "(I)I" } : Jvm.MethodName) prog_28_method_93_code (3 : Nat) (Option.some Jvm.ClassFile.FieldType.int)) ∈ lw_all := lw_g (lw_at lw_m8 208 rfl) rfl
theorem q1988 : (Jvm.Cond.methodLink "IntentVatsModel" (337 : Nat) ({ cls := "IntentVatsModel", name := "isRight", desc := "(II)Z" } : Jvm.MethodName)) ∈ lw_all := lw_g (lw_at lw_m8 209 rfl) rfl
theorem q1989 : (Jvm.Cond.privateMethod ({ cls := "IntentVatsModel", name := "isRight", desc := "(II)Z" } : Jvm.MethodName)) ∈ lw_tbl := lw_at lw_m8 210 rfl
theorem q1990 : (Jvm.Cond.instanceMethod ({ cls := "IntentVatsModel", name := "isRight", desc := "(II)Z" } : Jvm.MethodName)) ∈ lw_all := lw_g (lw_at lw_m8 211 rfl) rfl
theorem q1991 : (Jvm.Cond.code ({ cls := "IntentVatsModel", name := "isRight", desc := "(II)Z" } : Jvm.MethodName) prog_28_method_92_code (3 : Nat) (Option.some Jvm.ClassFile.FieldType.boolean)) ∈ lw_all := lw_g (lw_at lw_m8 212 rfl) rfl
theorem q1993 : (Jvm.Cond.instanceMethod ({ cls := "IntentVatsModel", name := "minds", desc := "(IIII)I" } : Jvm.MethodName)) ∈ lw_all := lw_g (lw_at lw_m8 214 rfl) rfl
theorem q1994 : (Jvm.Cond.selects "IntentVatsModel" ({ cls := "IntentVatsModel", name := "minds", desc := "(IIII)I" } : Jvm.MethodName) ({ cls := "IntentVatsModel", name := "minds", desc := "(IIII)I" } : Jvm.MethodName)) ∈ lw_all := lw_g (lw_at lw_m8 215 rfl) rfl
theorem q1995 : (Jvm.Cond.code ({ cls := "IntentVatsModel", name := "minds", desc := "(IIII)I" } : Jvm.MethodName) prog_28_method_95_code (6 : Nat) (Option.some Jvm.ClassFile.FieldType.int)) ∈ lw_all := lw_g (lw_at lw_m8 216 rfl) rfl
theorem q1997 : (Jvm.Cond.instanceMethod ({ cls := "IntentVatsModel", name := "sheet", desc := "(III)I" } : Jvm.MethodName)) ∈ lw_all := lw_g (lw_at lw_m8 218 rfl) rfl
theorem q1998 : (Jvm.Cond.selects "IntentVatsModel" ({ cls := "IntentVatsModel", name := "sheet", desc := "(III)I" } : Jvm.MethodName) ({ cls := "IntentVatsModel", name := "sheet", desc := "(III)I" } : Jvm.MethodName)) ∈ lw_all := lw_g (lw_at lw_m8 219 rfl) rfl
theorem q1999 : (Jvm.Cond.code ({ cls := "IntentVatsModel", name := "sheet", desc := "(III)I" } : Jvm.MethodName) prog_28_method_96_code (5 : Nat) (Option.some Jvm.ClassFile.FieldType.int)) ∈ lw_all := lw_g (lw_at lw_m8 220 rfl) rfl
theorem q2001 : (Jvm.Cond.instanceMethod ({ cls := "IntentVatsModel", name := "put", desc := "(III)I" } : Jvm.MethodName)) ∈ lw_all := lw_g (lw_at lw_m8 222 rfl) rfl
theorem q2002 : (Jvm.Cond.selects "IntentVatsModel" ({ cls := "IntentVatsModel", name := "put", desc := "(III)I" } : Jvm.MethodName) ({ cls := "IntentVatsModel", name := "put", desc := "(III)I" } : Jvm.MethodName)) ∈ lw_all := lw_g (lw_at lw_m8 223 rfl) rfl
theorem q2003 : (Jvm.Cond.code ({ cls := "IntentVatsModel", name := "put", desc := "(III)I" } : Jvm.MethodName) prog_28_method_98_code (4 : Nat) (Option.some Jvm.ClassFile.FieldType.int)) ∈ lw_all := lw_g (lw_at lw_m8 224 rfl) rfl
theorem q2004 : (Jvm.Cond.methodLink "IntentVatsModel" (340 : Nat) ({ cls := "IntentVatsModel", name := "narrowed", desc := "(II)I" } : Jvm.MethodName)) ∈ lw_all := lw_g (lw_at lw_m8 225 rfl) rfl
theorem q2005 : (Jvm.Cond.static ({ cls := "IntentVatsModel", name := "narrowed", desc := "(II)I" } : Jvm.MethodName)) ∈ lw_all := lw_g (lw_at lw_m8 226 rfl) rfl
theorem q2006 : (Jvm.Cond.code ({ cls := "IntentVatsModel", name := "narrowed", desc := "(II)I" } : Jvm.MethodName) prog_28_method_97_code (2 : Nat) (Option.some Jvm.ClassFile.FieldType.int)) ∈ lw_all := lw_g (lw_at lw_m8 227 rfl) rfl
theorem q2008 : (Jvm.Cond.instanceMethod ({ cls := "IntentVatsModel", name := "item", desc := "(III)I" } : Jvm.MethodName)) ∈ lw_all := lw_g (lw_at lw_m8 229 rfl) rfl
theorem q2009 : (Jvm.Cond.selects "IntentVatsModel" ({ cls := "IntentVatsModel", name := "item", desc := "(III)I" } : Jvm.MethodName) ({ cls := "IntentVatsModel", name := "item", desc := "(III)I" } : Jvm.MethodName)) ∈ lw_all := lw_g (lw_at lw_m8 230 rfl) rfl
theorem q2010 : (Jvm.Cond.code ({ cls := "IntentVatsModel", name := "item", desc := "(III)I" } : Jvm.MethodName) prog_28_method_99_code (4 : Nat) (Option.some Jvm.ClassFile.FieldType.int)) ∈ lw_all := lw_g (lw_at lw_m8 231 rfl) rfl
theorem q2012 : (Jvm.Cond.instanceMethod ({ cls := "IntentVatsModel", name := "shelf", desc := "(III)I" } : Jvm.MethodName)) ∈ lw_all := lw_g (lw_at lw_m8 233 rfl) rfl
theorem q2013 : (Jvm.Cond.selects "IntentVatsModel" ({ cls := "IntentVatsModel", name := "shelf", desc := "(III)I" } : Jvm.MethodName) ({ cls := "IntentVatsModel", name := "shelf", desc := "(III)I" } : Jvm.MethodName)) ∈ lw_all := lw_g (lw_at lw_m8 234 rfl) rfl
theorem q2014 : (Jvm.Cond.code ({ cls := "IntentVatsModel", name := "shelf", desc := "(III)I" } : Jvm.MethodName) prog_28_method_100_code (6 : Nat) (Option.some Jvm.ClassFile.FieldType.int)) ∈ lw_all := lw_g (lw_at lw_m8 235 rfl) rfl
theorem q2016 : (Jvm.Cond.instanceMethod ({ cls := "IntentVatsModel", name := "taken", desc := "(II)I" } : Jvm.MethodName)) ∈ lw_all := lw_g (lw_at lw_m8 237 rfl) rfl
theorem q2017 : (Jvm.Cond.selects "IntentVatsModel" ({ cls := "IntentVatsModel", name := "taken", desc := "(II)I" } : Jvm.MethodName) ({ cls := "IntentVatsModel", name := "taken", desc := "(II)I" } : Jvm.MethodName)) ∈ lw_all := lw_g (lw_at lw_m8 238 rfl) rfl
theorem q2018 : (Jvm.Cond.code ({ cls := "IntentVatsModel", name := "taken", desc := "(II)I" } : Jvm.MethodName) prog_28_method_102_code (3 : Nat) (Option.some Jvm.ClassFile.FieldType.int)) ∈ lw_all := lw_g (lw_at lw_m8 239 rfl) rfl
theorem q2019 : (Jvm.Cond.constantLong "IntentVatsModel" (343 : Nat) (13 : Int64)) ∈ lw_all := lw_g (lw_at lw_m9 0 rfl) rfl
theorem q2020 : (Jvm.Cond.methodLink "IntentVatsModel" (345 : Nat) ({ cls := "IntentVatsModel", name := "isHeld", desc := "(I)Z" } : Jvm.MethodName)) ∈ lw_all := lw_g (lw_at lw_m9 1 rfl) rfl
theorem q2021 : (Jvm.Cond.privateMethod ({ cls := "IntentVatsModel", name := "isHeld", desc := "(I)Z" } : Jvm.MethodName)) ∈ lw_tbl := lw_at lw_m9 2 rfl
theorem q2022 : (Jvm.Cond.instanceMethod ({ cls := "IntentVatsModel", name := "isHeld", desc := "(I)Z" } : Jvm.MethodName)) ∈ lw_all := lw_g (lw_at lw_m9 3 rfl) rfl
theorem q2023 : (Jvm.Cond.code ({ cls := "IntentVatsModel", name := "isHeld", desc := "(I)Z" } : Jvm.MethodName) prog_28_method_101_code (2 : Nat) (Option.some Jvm.ClassFile.FieldType.boolean)) ∈ lw_all := lw_g (lw_at lw_m9 4 rfl) rfl
theorem q2024 : (Jvm.Cond.methodLink "IntentVatsModel" (348 : Nat) ({ cls := "IntentVatsModel", name := "isUnder", desc := "(II)Z" } : Jvm.MethodName)) ∈ lw_all := lw_g (lw_at lw_m9 5 rfl) rfl
theorem q2025 : (Jvm.Cond.static ({ cls := "IntentVatsModel", name := "isUnder", desc := "(II)Z" } : Jvm.MethodName)) ∈ lw_all := lw_g (lw_at lw_m9 6 rfl) rfl
theorem q2026 : (Jvm.Cond.code ({ cls := "IntentVatsModel", name := "isUnder", desc := "(II)Z" } : Jvm.MethodName) prog_28_method_21_code (2 : Nat) (Option.some Jvm.ClassFile.FieldType.boolean)) ∈ lw_all := lw_g (lw_at lw_m9 7 rfl) rfl
theorem q2028 : (Jvm.Cond.instanceMethod ({ cls := "IntentVatsModel", name := "act", desc := "(III)I" } : Jvm.MethodName)) ∈ lw_all := lw_g (lw_at lw_m9 9 rfl) rfl
theorem q2029 : (Jvm.Cond.selects "IntentVatsModel" ({ cls := "IntentVatsModel", name := "act", desc := "(III)I" } : Jvm.MethodName) ({ cls := "IntentVatsModel", name := "act", desc := "(III)I" } : Jvm.MethodName)) ∈ lw_all := lw_g (lw_at lw_m9 10 rfl) rfl
theorem q2030 : (Jvm.Cond.code ({ cls := "IntentVatsModel", name := "act", desc := "(III)I" } : Jvm.MethodName) prog_28_method_113_code (5 : Nat) (Option.some Jvm.ClassFile.FieldType.int)) ∈ lw_all := lw_g (lw_at lw_m9 11 rfl) rfl
theorem q2031 : (Jvm.Cond.methodLink "IntentVatsModel" (369 : Nat) ({ cls := "IntentVatsModel", name := "rubs", desc := "(I)I" } : Jvm.MethodName)) ∈ lw_all := lw_g (lw_at lw_m9 12 rfl) rfl
theorem q2032 : (Jvm.Cond.privateMethod ({ cls := "IntentVatsModel", name := "rubs", desc := "(I)I" } : Jvm.MethodName)) ∈ lw_tbl := lw_at lw_m9 13 rfl
theorem q2033 : (Jvm.Cond.instanceMethod ({ cls := "IntentVatsModel", name := "rubs", desc := "(I)I" } : Jvm.MethodName)) ∈ lw_all := lw_g (lw_at lw_m9 14 rfl) rfl
theorem q2034 : (Jvm.Cond.code ({ cls := "IntentVatsModel", name := "rubs", desc := "(I)I" } : Jvm.MethodName) prog_28_method_106_code (2 : Nat) (Option.some Jvm.ClassFile.FieldType.int)) ∈ lw_all := lw_g (lw_at lw_m9 15 rfl) rfl
theorem q2035 : (Jvm.Cond.methodLink "IntentVatsModel" (366 : Nat) ({ cls := "IntentVatsModel", name := "linenRubs", desc := "(I)I" } : Jvm.MethodName)) ∈ lw_all := lw_g (lw_at lw_m9 16 rfl) rfl
theorem q2036 : (Jvm.Cond.privateMethod ({ cls := "IntentVatsModel", name := "linenRubs", desc := "(I)I" } : Jvm.MethodName)) ∈ lw_tbl := lw_at lw_m9 17 rfl
theorem q2037 : (Jvm.Cond.instanceMethod ({ cls := "IntentVatsModel", name := "linenRubs", desc := "(I)I" } : Jvm.MethodName)) ∈ lw_all := lw_g (lw_at lw_m9 18 rfl) rfl
theorem q2038 : (Jvm.Cond.code ({ cls := "IntentVatsModel", name := "linenRubs", desc := "(I)I" } : Jvm.MethodName) prog_28_method_105_code (2 : Nat) (Option.some Jvm.ClassFile.FieldType.int)) ∈ lw_all := lw_g (lw_at lw_m9 19 rfl) rfl
theorem q2039 : (Jvm.Cond.methodLink "IntentVatsModel" (354 : Nat) ({ cls := "IntentVatsModel", name := "runs", desc := "(I)V" } : Jvm.MethodName)) ∈ lw_all := lw_g (lw_at lw_m9 20 rfl) rfl
theorem q2040 : (Jvm.Cond.privateMethod ({ cls := "IntentVatsModel", name := "runs", desc := "(I)V" } : Jvm.MethodName)) ∈ lw_tbl := lw_at lw_m9 21 rfl
theorem q2041 : (Jvm.Cond.instanceMethod ({ cls := "IntentVatsModel", name := "runs", desc := "(I)V" } : Jvm.MethodName)) ∈ lw_all := lw_g (lw_at lw_m9 22 rfl) rfl
theorem q2042 : (Jvm.Cond.code ({ cls := "IntentVatsModel", name := "runs", desc := "(I)V" } : Jvm.MethodName) prog_28_method_103_code (2 : Nat) (Option.none : Option Jvm.ClassFile.FieldType)) ∈ lw_all := lw_g (lw_at lw_m9 23 rfl) rfl
theorem q2043 : (Jvm.Cond.methodLink "IntentVatsModel" (360 : Nat) ({ cls := "IntentVatsModel", name := "plainRubs", desc := "(I)I" } : Jvm.MethodName)) ∈ lw_all := lw_g (lw_at lw_m9 24 rfl) rfl
theorem q2044 : (Jvm.Cond.privateMethod ({ cls := "IntentVatsModel", name := "plainRubs", desc := "(I)I" } : Jvm.MethodName)) ∈ lw_tbl := lw_at lw_m9 25 rfl
theorem q2045 : (Jvm.Cond.instanceMethod ({ cls := "IntentVatsModel", name := "plainRubs", desc := "(I)I" } : Jvm.MethodName)) ∈ lw_all := lw_g (lw_at lw_m9 26 rfl) rfl
theorem q2046 : (Jvm.Cond.code ({ cls := "IntentVatsModel", name := "plainRubs", desc := "(I)I" } : Jvm.MethodName) prog_28_method_104_code (2 : Nat) (Option.some Jvm.ClassFile.FieldType.int)) ∈ lw_all := lw_g (lw_at lw_m9 27 rfl) rfl
theorem q2047 : (Jvm.Cond.methodLink "IntentVatsModel" (384 : Nat) ({ cls := "IntentVatsModel", name := "steepsAct", desc := "(I)I" } : Jvm.MethodName)) ∈ lw_all := lw_g (lw_at lw_m9 28 rfl) rfl
theorem q2048 : (Jvm.Cond.privateMethod ({ cls := "IntentVatsModel", name := "steepsAct", desc := "(I)I" } : Jvm.MethodName)) ∈ lw_tbl := lw_at lw_m9 29 rfl
theorem q2049 : (Jvm.Cond.instanceMethod ({ cls := "IntentVatsModel", name := "steepsAct", desc := "(I)I" } : Jvm.MethodName)) ∈ lw_all := lw_g (lw_at lw_m9 30 rfl) rfl
theorem q2050 : (Jvm.Cond.code ({ cls := "IntentVatsModel", name := "steepsAct", desc := "(I)I" } : Jvm.MethodName) prog_28_method_108_code (3 : Nat) (Option.some Jvm.ClassFile.FieldType.int)) ∈ lw_all := lw_g (lw_at lw_m9 31 rfl) rfl
theorem q2051 : (Jvm.Cond.methodLink "IntentVatsModel" (375 : Nat) ({ cls := "IntentVatsModel", name := "plainSteeps", desc := "(I)I" } : Jvm.MethodName)) ∈ lw_all := lw_g (lw_at lw_m9 32 rfl) rfl
theorem q2052 : (Jvm.Cond.privateMethod ({ cls := "IntentVatsModel", name := "plainSteeps", desc := "(I)I" } : Jvm.MethodName)) ∈ lw_tbl := lw_at lw_m9 33 rfl
theorem q2053 : (Jvm.Cond.instanceMethod ({ cls := "IntentVatsModel", name := "plainSteeps", desc := "(I)I" } : Jvm.MethodName)) ∈ lw_all := lw_g (lw_at lw_m9 34 rfl) rfl
theorem q2054 : (Jvm.Cond.code ({ cls := "IntentVatsModel", name := "plainSteeps", desc := "(I)I" } : Jvm.MethodName) prog_28_method_107_code (2 : Nat) (Option.some Jvm.ClassFile.FieldType.int)) ∈ lw_all := lw_g (lw_at lw_m9 35 rfl) rfl
theorem q2055 : (Jvm.Cond.methodLink "IntentVatsModel" (390 : Nat) ({ cls := "IntentVatsModel", name := "parts", desc := "(I)I" } : Jvm.MethodName)) ∈ lw_all := lw_g (lw_at lw_m9 36 rfl) rfl
theorem q2056 : (Jvm.Cond.privateMethod ({ cls := "IntentVatsModel", name := "parts", desc := "(I)I" } : Jvm.MethodName)) ∈ lw_tbl := lw_at lw_m9 37 rfl
theorem q2057 : (Jvm.Cond.instanceMethod ({ cls := "IntentVatsModel", name := "parts", desc := "(I)I" } : Jvm.MethodName)) ∈ lw_all := lw_g (lw_at lw_m9 38 rfl) rfl
theorem q2058 : (Jvm.Cond.code ({ cls := "IntentVatsModel", name := "parts", desc := "(I)I" } : Jvm.MethodName) prog_28_method_110_code (3 : Nat) (Option.some Jvm.ClassFile.FieldType.int)) ∈ lw_all := lw_g (lw_at lw_m9 39 rfl) rfl
theorem q2059 : (Jvm.Cond.methodLink "IntentVatsModel" (381 : Nat) ({ cls := "IntentVatsModel", name := "plainParts", desc := "(I)I" } : Jvm.MethodName)) ∈ lw_all := lw_g (lw_at lw_m9 40 rfl) rfl
theorem q2060 : (Jvm.Cond.privateMethod ({ cls := "IntentVatsModel", name := "plainParts", desc := "(I)I" } : Jvm.MethodName)) ∈ lw_tbl := lw_at lw_m9 41 rfl
theorem q2061 : (Jvm.Cond.instanceMethod ({ cls := "IntentVatsModel", name := "plainParts", desc := "(I)I" } : Jvm.MethodName)) ∈ lw_all := lw_g (lw_at lw_m9 42 rfl) rfl
theorem q2062 : (Jvm.Cond.code ({ cls := "IntentVatsModel", name := "plainParts", desc := "(I)I" } : Jvm.MethodName) prog_28_method_109_code (2 : Nat) (Option.some Jvm.ClassFile.FieldType.int)) ∈ lw_all := lw_g (lw_at lw_m9 43 rfl) rfl
theorem q2063 : (Jvm.Cond.methodLink "IntentVatsModel" (393 : Nat) ({ cls := "IntentVatsModel", name := "driesAct", desc := "(I)I" } : Jvm.MethodName)) ∈ lw_all := lw_g (lw_at lw_m9 44 rfl) rfl
theorem q2064 : (Jvm.Cond.privateMethod ({ cls := "IntentVatsModel", name := "driesAct", desc := "(I)I" } : Jvm.MethodName)) ∈ lw_tbl := lw_at lw_m9 45 rfl
theorem q2065 : (Jvm.Cond.instanceMethod ({ cls := "IntentVatsModel", name := "driesAct", desc := "(I)I" } : Jvm.MethodName)) ∈ lw_all := lw_g (lw_at lw_m9 46 rfl) rfl
theorem q2066 : (Jvm.Cond.code ({ cls := "IntentVatsModel", name := "driesAct", desc := "(I)I" } : Jvm.MethodName) prog_28_method_112_code (3 : Nat) (Option.some Jvm.ClassFile.FieldType.int)) ∈ lw_all := lw_g (lw_at lw_m9 47 rfl) rfl
theorem q2067 : (Jvm.Cond.methodLink "IntentVatsModel" (387 : Nat) ({ cls := "IntentVatsModel", name := "plainDries", desc := "(I)I" } : Jvm.MethodName)) ∈ lw_all := lw_g (lw_at lw_m9 48 rfl) rfl
theorem q2068 : (Jvm.Cond.privateMethod ({ cls := "IntentVatsModel", name := "plainDries", desc := "(I)I" } : Jvm.MethodName)) ∈ lw_tbl := lw_at lw_m9 49 rfl
theorem q2069 : (Jvm.Cond.instanceMethod ({ cls := "IntentVatsModel", name := "plainDries", desc := "(I)I" } : Jvm.MethodName)) ∈ lw_all := lw_g (lw_at lw_m9 50 rfl) rfl
theorem q2070 : (Jvm.Cond.code ({ cls := "IntentVatsModel", name := "plainDries", desc := "(I)I" } : Jvm.MethodName) prog_28_method_111_code (2 : Nat) (Option.some Jvm.ClassFile.FieldType.int)) ∈ lw_all := lw_g (lw_at lw_m9 51 rfl) rfl
theorem q2072 : (Jvm.Cond.instanceMethod ({ cls := "IntentVatsModel", name := "trace", desc := "(I)I" } : Jvm.MethodName)) ∈ lw_all := lw_g (lw_at lw_m9 53 rfl) rfl
theorem q2073 : (Jvm.Cond.selects "IntentVatsModel" ({ cls := "IntentVatsModel", name := "trace", desc := "(I)I" } : Jvm.MethodName) ({ cls := "IntentVatsModel", name := "trace", desc := "(I)I" } : Jvm.MethodName)) ∈ lw_all := lw_g (lw_at lw_m9 54 rfl) rfl
theorem q2074 : (Jvm.Cond.code ({ cls := "IntentVatsModel", name := "trace", desc := "(I)I" } : Jvm.MethodName) prog_28_method_114_code (2 : Nat) (Option.some Jvm.ClassFile.FieldType.int)) ∈ lw_all := lw_g (lw_at lw_m9 55 rfl) rfl
theorem q2076 : (Jvm.Cond.instanceMethod ({ cls := "IntentVatsModel", name := "many", desc := "(I)I" } : Jvm.MethodName)) ∈ lw_all := lw_g (lw_at lw_m9 57 rfl) rfl
theorem q2077 : (Jvm.Cond.selects "IntentVatsModel" ({ cls := "IntentVatsModel", name := "many", desc := "(I)I" } : Jvm.MethodName) ({ cls := "IntentVatsModel", name := "many", desc := "(I)I" } : Jvm.MethodName)) ∈ lw_all := lw_g (lw_at lw_m9 58 rfl) rfl
theorem q2078 : (Jvm.Cond.code ({ cls := "IntentVatsModel", name := "many", desc := "(I)I" } : Jvm.MethodName) prog_28_method_116_code (2 : Nat) (Option.some Jvm.ClassFile.FieldType.int)) ∈ lw_all := lw_g (lw_at lw_m9 59 rfl) rfl
theorem q2079 : (Jvm.Cond.methodLink "IntentVatsModel" (396 : Nat) ({ cls := "IntentVatsModel", name := "purposesAbout", desc := "()I" } : Jvm.MethodName)) ∈ lw_all := lw_g (lw_at lw_m9 60 rfl) rfl
theorem q2080 : (Jvm.Cond.privateMethod ({ cls := "IntentVatsModel", name := "purposesAbout", desc := "()I" } : Jvm.MethodName)) ∈ lw_tbl := lw_at lw_m9 61 rfl
theorem q2081 : (Jvm.Cond.instanceMethod ({ cls := "IntentVatsModel", name := "purposesAbout", desc := "()I" } : Jvm.MethodName)) ∈ lw_all := lw_g (lw_at lw_m9 62 rfl) rfl
theorem q2082 : (Jvm.Cond.code ({ cls := "IntentVatsModel", name := "purposesAbout", desc := "()I" } : Jvm.MethodName) prog_28_method_115_code (5 : Nat) (Option.some Jvm.ClassFile.FieldType.int)) ∈ lw_all := lw_g (lw_at lw_m9 63 rfl) rfl
theorem q2084 : (Jvm.Cond.instanceMethod ({ cls := "IntentVatsModel", name := "keep", desc := "()I" } : Jvm.MethodName)) ∈ lw_all := lw_g (lw_at lw_m9 65 rfl) rfl
theorem q2085 : (Jvm.Cond.selects "IntentVatsModel" ({ cls := "IntentVatsModel", name := "keep", desc := "()I" } : Jvm.MethodName) ({ cls := "IntentVatsModel", name := "keep", desc := "()I" } : Jvm.MethodName)) ∈ lw_all := lw_g (lw_at lw_m9 66 rfl) rfl
theorem q2086 : (Jvm.Cond.code ({ cls := "IntentVatsModel", name := "keep", desc := "()I" } : Jvm.MethodName) prog_28_method_117_code (1 : Nat) (Option.some Jvm.ClassFile.FieldType.int)) ∈ lw_all := lw_g (lw_at lw_m9 67 rfl) rfl
theorem q2088 : (Jvm.Cond.instanceMethod ({ cls := "IntentVatsModel", name := "again", desc := "()I" } : Jvm.MethodName)) ∈ lw_all := lw_g (lw_at lw_m9 69 rfl) rfl
theorem q2089 : (Jvm.Cond.selects "IntentVatsModel" ({ cls := "IntentVatsModel", name := "again", desc := "()I" } : Jvm.MethodName) ({ cls := "IntentVatsModel", name := "again", desc := "()I" } : Jvm.MethodName)) ∈ lw_all := lw_g (lw_at lw_m9 70 rfl) rfl
theorem q2090 : (Jvm.Cond.code ({ cls := "IntentVatsModel", name := "again", desc := "()I" } : Jvm.MethodName) prog_28_method_118_code (1 : Nat) (Option.some Jvm.ClassFile.FieldType.int)) ∈ lw_all := lw_g (lw_at lw_m9 71 rfl) rfl
theorem in_X14 : ∀ w ∈ wsX140, w ∈ lw_all := lw_in wsX140 [1546, 1548, 1550, 1552, 1554, 1556, 1558, 1560, 1562, 1564, 1566, 1568, 1570, 1572, 1574, 1576, 1578, 1580, 1582, 1584, 1586, 1588, 1590, 1592, 1594] (by decide +kernel) (by decide +kernel)
