/-! IntentVats$Mill -/
set_option maxRecDepth 100000
def RX1 : String := "IntentVats$Mill"
def TX1 : u_T := fun k => match k with
  | 0 => ("IntentVats$Mill", "many", "I", false)
  | 1 => ("IntentVats$Mill", "day", "I", false)
  | 2 => ("IntentVats$Mill", "hung", "I", false)
  | 3 => ("IntentVats$Mill", "z", "I", false)
  | 4 => ("IntentVats$Mill", "law", "[I", true)
  | 5 => ("IntentVats$Mill", "purpose", "[I", true)
  | 6 => ("IntentVats$Mill", "strength", "[I", true)
  | 7 => ("IntentVats$Mill", "roster", "[I", true)
  | 8 => ("IntentVats$Mill", "kind", "[I", true)
  | 9 => ("IntentVats$Mill", "about", "[I", true)
  | 10 => ("IntentVats$Mill", "deep", "[I", true)
  | _ => ("IntentVats$Mill", "dips", "[I", true)
def tyX1 : Nat → FieldType := fun k => match k with
  | 0 => .int
  | 1 => .int
  | 2 => .int
  | 3 => .int
  | 4 => .array .int
  | 5 => .array .int
  | 6 => .array .int
  | 7 => .array .int
  | 8 => .array .int
  | 9 => .array .int
  | 10 => .array .int
  | _ => .array .int
abbrev wsX10 : List Cond := u_ws RX1 TX1 12
theorem nmX1 : ∀ a, a < 12 → ∀ b, b < 12 → a ≠ b → (TX1 a).2.1 ≠ (TX1 b).2.1 := by decide +kernel
theorem tyX1_ok : ∀ k, k < 12 → parseFieldDescriptor (TX1 k).2.2.1 = some (tyX1 k) := by decide +kernel
abbrev cX1_init : ByteArray := prog_11_method_1_code
def yX1_init : MethodName := ⟨RX1, "<init>", "()V"⟩
def dkwX1_init_3 : List UInt8 := [42, 182, 0, 40, 177]
abbrev dktX1_init_3 : List UInt8 := dkwX1_init_3 ++ []
def dkwX1_init_2 : List UInt8 := [42, 16, 8, 188, 10, 181, 0, 31, 42, 16, 8, 188, 10, 181, 0, 34, 42, 16, 8, 188, 10, 181, 0, 37]
abbrev dktX1_init_2 : List UInt8 := dkwX1_init_2 ++ dktX1_init_3
def dkwX1_init_1 : List UInt8 := [42, 16, 8, 188, 10, 181, 0, 22, 42, 16, 6, 188, 10, 181, 0, 25, 42, 16, 8, 188, 10, 181, 0, 28]
abbrev dktX1_init_1 : List UInt8 := dkwX1_init_1 ++ dktX1_init_2
def dkwX1_init_0 : List UInt8 := [42, 183, 0, 3, 42, 4, 181, 0, 9, 42, 7, 188, 10, 181, 0, 15, 42, 16, 8, 188, 10, 181, 0, 19]
abbrev dktX1_init_0 : List UInt8 := dkwX1_init_0 ++ dktX1_init_1
theorem dksX1_init_0 : cX1_init.data.toList.drop 0 = dktX1_init_0 := by decide +kernel
theorem dksX1_init_1 : cX1_init.data.toList.drop 24 = dktX1_init_1 := dk_seg dksX1_init_0 24 rfl rfl
theorem dksX1_init_2 : cX1_init.data.toList.drop 48 = dktX1_init_2 := dk_seg dksX1_init_1 24 rfl rfl
theorem dksX1_init_3 : cX1_init.data.toList.drop 72 = dktX1_init_3 := dk_seg dksX1_init_2 24 rfl rfl
theorem dX1_init_0 : decode cX1_init 0 = .ok (.aload_n 0, 1) := dk_42 (dk_at dksX1_init_0 0 rfl rfl)
theorem dX1_init_1 : decode cX1_init 1 = .ok (.invokespecial 3, 3) := dk_183 0 3 (dk_at dksX1_init_0 1 rfl rfl)
theorem dX1_init_4 : decode cX1_init 4 = .ok (.aload_n 0, 1) := dk_42 (dk_at dksX1_init_0 4 rfl rfl)
theorem dX1_init_5 : decode cX1_init 5 = .ok (.iconst 1, 1) := dk_4 (dk_at dksX1_init_0 5 rfl rfl)
theorem dX1_init_6 : decode cX1_init 6 = .ok (.putfield 9, 3) := dk_181 0 9 (dk_at dksX1_init_0 6 rfl rfl)
theorem dX1_init_9 : decode cX1_init 9 = .ok (.aload_n 0, 1) := dk_42 (dk_at dksX1_init_0 9 rfl rfl)
theorem dX1_init_10 : decode cX1_init 10 = .ok (.iconst 4, 1) := dk_7 (dk_at dksX1_init_0 10 rfl rfl)
theorem dX1_init_11 : decode cX1_init 11 = .ok (.newarray .int, 2) := dk_188_10 (dk_at dksX1_init_0 11 rfl rfl)
theorem dX1_init_13 : decode cX1_init 13 = .ok (.putfield 15, 3) := dk_181 0 15 (dk_at dksX1_init_0 13 rfl rfl)
theorem dX1_init_16 : decode cX1_init 16 = .ok (.aload_n 0, 1) := dk_42 (dk_at dksX1_init_0 16 rfl rfl)
theorem dX1_init_17 : decode cX1_init 17 = .ok (.bipush 8, 2) := dk_16 8 (dk_at dksX1_init_0 17 rfl rfl)
theorem dX1_init_19 : decode cX1_init 19 = .ok (.newarray .int, 2) := dk_188_10 (dk_at dksX1_init_0 19 rfl rfl)
theorem dX1_init_21 : decode cX1_init 21 = .ok (.putfield 19, 3) := dk_181 0 19 (dk_at dksX1_init_0 21 rfl rfl)
theorem dX1_init_24 : decode cX1_init 24 = .ok (.aload_n 0, 1) := dk_42 (dk_at dksX1_init_1 0 rfl rfl)
theorem dX1_init_25 : decode cX1_init 25 = .ok (.bipush 8, 2) := dk_16 8 (dk_at dksX1_init_1 1 rfl rfl)
theorem dX1_init_27 : decode cX1_init 27 = .ok (.newarray .int, 2) := dk_188_10 (dk_at dksX1_init_1 3 rfl rfl)
theorem dX1_init_29 : decode cX1_init 29 = .ok (.putfield 22, 3) := dk_181 0 22 (dk_at dksX1_init_1 5 rfl rfl)
theorem dX1_init_32 : decode cX1_init 32 = .ok (.aload_n 0, 1) := dk_42 (dk_at dksX1_init_1 8 rfl rfl)
theorem dX1_init_33 : decode cX1_init 33 = .ok (.bipush 6, 2) := dk_16 6 (dk_at dksX1_init_1 9 rfl rfl)
theorem dX1_init_35 : decode cX1_init 35 = .ok (.newarray .int, 2) := dk_188_10 (dk_at dksX1_init_1 11 rfl rfl)
theorem dX1_init_37 : decode cX1_init 37 = .ok (.putfield 25, 3) := dk_181 0 25 (dk_at dksX1_init_1 13 rfl rfl)
theorem dX1_init_40 : decode cX1_init 40 = .ok (.aload_n 0, 1) := dk_42 (dk_at dksX1_init_1 16 rfl rfl)
theorem dX1_init_41 : decode cX1_init 41 = .ok (.bipush 8, 2) := dk_16 8 (dk_at dksX1_init_1 17 rfl rfl)
theorem dX1_init_43 : decode cX1_init 43 = .ok (.newarray .int, 2) := dk_188_10 (dk_at dksX1_init_1 19 rfl rfl)
theorem dX1_init_45 : decode cX1_init 45 = .ok (.putfield 28, 3) := dk_181 0 28 (dk_at dksX1_init_1 21 rfl rfl)
theorem dX1_init_48 : decode cX1_init 48 = .ok (.aload_n 0, 1) := dk_42 (dk_at dksX1_init_2 0 rfl rfl)
theorem dX1_init_49 : decode cX1_init 49 = .ok (.bipush 8, 2) := dk_16 8 (dk_at dksX1_init_2 1 rfl rfl)
theorem dX1_init_51 : decode cX1_init 51 = .ok (.newarray .int, 2) := dk_188_10 (dk_at dksX1_init_2 3 rfl rfl)
theorem dX1_init_53 : decode cX1_init 53 = .ok (.putfield 31, 3) := dk_181 0 31 (dk_at dksX1_init_2 5 rfl rfl)
theorem dX1_init_56 : decode cX1_init 56 = .ok (.aload_n 0, 1) := dk_42 (dk_at dksX1_init_2 8 rfl rfl)
theorem dX1_init_57 : decode cX1_init 57 = .ok (.bipush 8, 2) := dk_16 8 (dk_at dksX1_init_2 9 rfl rfl)
theorem dX1_init_59 : decode cX1_init 59 = .ok (.newarray .int, 2) := dk_188_10 (dk_at dksX1_init_2 11 rfl rfl)
theorem dX1_init_61 : decode cX1_init 61 = .ok (.putfield 34, 3) := dk_181 0 34 (dk_at dksX1_init_2 13 rfl rfl)
theorem dX1_init_64 : decode cX1_init 64 = .ok (.aload_n 0, 1) := dk_42 (dk_at dksX1_init_2 16 rfl rfl)
theorem dX1_init_65 : decode cX1_init 65 = .ok (.bipush 8, 2) := dk_16 8 (dk_at dksX1_init_2 17 rfl rfl)
theorem dX1_init_67 : decode cX1_init 67 = .ok (.newarray .int, 2) := dk_188_10 (dk_at dksX1_init_2 19 rfl rfl)
theorem dX1_init_69 : decode cX1_init 69 = .ok (.putfield 37, 3) := dk_181 0 37 (dk_at dksX1_init_2 21 rfl rfl)
theorem dX1_init_72 : decode cX1_init 72 = .ok (.aload_n 0, 1) := dk_42 (dk_at dksX1_init_3 0 rfl rfl)
theorem dX1_init_73 : decode cX1_init 73 = .ok (.invokevirtual 40, 3) := dk_182 0 40 (dk_at dksX1_init_3 1 rfl rfl)
theorem dX1_init_76 : decode cX1_init 76 = .ok (.return_, 1) := dk_177 (dk_at dksX1_init_3 4 rfl rfl)
abbrev cX1_begins : ByteArray := prog_11_method_3_code
def yX1_begins : MethodName := ⟨RX1, "begins", "()V"⟩
def dkwX1_begins_4 : List UInt8 := [177]
abbrev dktX1_begins_4 : List UInt8 := dkwX1_begins_4 ++ []
def dkwX1_begins_3 : List UInt8 := [167, 255, 233, 3, 60, 27, 16, 6, 162, 0, 16, 42, 180, 0, 25, 27, 27, 79, 132, 1, 1, 167, 255, 240]
abbrev dktX1_begins_3 : List UInt8 := dkwX1_begins_3 ++ dktX1_begins_4
def dkwX1_begins_2 : List UInt8 := [16, 8, 162, 0, 23, 42, 180, 0, 19, 27, 27, 79, 42, 180, 0, 22, 27, 8, 79, 132, 1, 1]
abbrev dktX1_begins_2 : List UInt8 := dkwX1_begins_2 ++ dktX1_begins_3
def dkwX1_begins_1 : List UInt8 := [180, 0, 15, 4, 5, 79, 42, 180, 0, 15, 5, 7, 79, 42, 180, 0, 15, 6, 16, 20, 79, 3, 60, 27]
abbrev dktX1_begins_1 : List UInt8 := dkwX1_begins_1 ++ dktX1_begins_2
def dkwX1_begins_0 : List UInt8 := [42, 3, 181, 0, 49, 42, 3, 181, 0, 52, 42, 3, 181, 0, 55, 42, 180, 0, 15, 3, 6, 79, 42]
abbrev dktX1_begins_0 : List UInt8 := dkwX1_begins_0 ++ dktX1_begins_1
theorem dksX1_begins_0 : cX1_begins.data.toList.drop 0 = dktX1_begins_0 := by decide +kernel
theorem dksX1_begins_1 : cX1_begins.data.toList.drop 23 = dktX1_begins_1 := dk_seg dksX1_begins_0 23 rfl rfl
theorem dksX1_begins_2 : cX1_begins.data.toList.drop 47 = dktX1_begins_2 := dk_seg dksX1_begins_1 24 rfl rfl
theorem dksX1_begins_3 : cX1_begins.data.toList.drop 69 = dktX1_begins_3 := dk_seg dksX1_begins_2 22 rfl rfl
theorem dksX1_begins_4 : cX1_begins.data.toList.drop 93 = dktX1_begins_4 := dk_seg dksX1_begins_3 24 rfl rfl
theorem dX1_begins_0 : decode cX1_begins 0 = .ok (.aload_n 0, 1) := dk_42 (dk_at dksX1_begins_0 0 rfl rfl)
theorem dX1_begins_1 : decode cX1_begins 1 = .ok (.iconst 0, 1) := dk_3 (dk_at dksX1_begins_0 1 rfl rfl)
theorem dX1_begins_2 : decode cX1_begins 2 = .ok (.putfield 49, 3) := dk_181 0 49 (dk_at dksX1_begins_0 2 rfl rfl)
theorem dX1_begins_5 : decode cX1_begins 5 = .ok (.aload_n 0, 1) := dk_42 (dk_at dksX1_begins_0 5 rfl rfl)
theorem dX1_begins_6 : decode cX1_begins 6 = .ok (.iconst 0, 1) := dk_3 (dk_at dksX1_begins_0 6 rfl rfl)
theorem dX1_begins_7 : decode cX1_begins 7 = .ok (.putfield 52, 3) := dk_181 0 52 (dk_at dksX1_begins_0 7 rfl rfl)
theorem dX1_begins_10 : decode cX1_begins 10 = .ok (.aload_n 0, 1) := dk_42 (dk_at dksX1_begins_0 10 rfl rfl)
theorem dX1_begins_11 : decode cX1_begins 11 = .ok (.iconst 0, 1) := dk_3 (dk_at dksX1_begins_0 11 rfl rfl)
theorem dX1_begins_12 : decode cX1_begins 12 = .ok (.putfield 55, 3) := dk_181 0 55 (dk_at dksX1_begins_0 12 rfl rfl)
theorem dX1_begins_15 : decode cX1_begins 15 = .ok (.aload_n 0, 1) := dk_42 (dk_at dksX1_begins_0 15 rfl rfl)
theorem dX1_begins_16 : decode cX1_begins 16 = .ok (.getfield 15, 3) := dk_180 0 15 (dk_at dksX1_begins_0 16 rfl rfl)
theorem dX1_begins_19 : decode cX1_begins 19 = .ok (.iconst 0, 1) := dk_3 (dk_at dksX1_begins_0 19 rfl rfl)
theorem dX1_begins_20 : decode cX1_begins 20 = .ok (.iconst 3, 1) := dk_6 (dk_at dksX1_begins_0 20 rfl rfl)
theorem dX1_begins_21 : decode cX1_begins 21 = .ok (.iastore, 1) := dk_79 (dk_at dksX1_begins_0 21 rfl rfl)
theorem dX1_begins_22 : decode cX1_begins 22 = .ok (.aload_n 0, 1) := dk_42 (dk_at dksX1_begins_0 22 rfl rfl)
theorem dX1_begins_23 : decode cX1_begins 23 = .ok (.getfield 15, 3) := dk_180 0 15 (dk_at dksX1_begins_1 0 rfl rfl)
theorem dX1_begins_26 : decode cX1_begins 26 = .ok (.iconst 1, 1) := dk_4 (dk_at dksX1_begins_1 3 rfl rfl)
theorem dX1_begins_27 : decode cX1_begins 27 = .ok (.iconst 2, 1) := dk_5 (dk_at dksX1_begins_1 4 rfl rfl)
theorem dX1_begins_28 : decode cX1_begins 28 = .ok (.iastore, 1) := dk_79 (dk_at dksX1_begins_1 5 rfl rfl)
theorem dX1_begins_29 : decode cX1_begins 29 = .ok (.aload_n 0, 1) := dk_42 (dk_at dksX1_begins_1 6 rfl rfl)
theorem dX1_begins_30 : decode cX1_begins 30 = .ok (.getfield 15, 3) := dk_180 0 15 (dk_at dksX1_begins_1 7 rfl rfl)
theorem dX1_begins_33 : decode cX1_begins 33 = .ok (.iconst 2, 1) := dk_5 (dk_at dksX1_begins_1 10 rfl rfl)
theorem dX1_begins_34 : decode cX1_begins 34 = .ok (.iconst 4, 1) := dk_7 (dk_at dksX1_begins_1 11 rfl rfl)
theorem dX1_begins_35 : decode cX1_begins 35 = .ok (.iastore, 1) := dk_79 (dk_at dksX1_begins_1 12 rfl rfl)
theorem dX1_begins_36 : decode cX1_begins 36 = .ok (.aload_n 0, 1) := dk_42 (dk_at dksX1_begins_1 13 rfl rfl)
theorem dX1_begins_37 : decode cX1_begins 37 = .ok (.getfield 15, 3) := dk_180 0 15 (dk_at dksX1_begins_1 14 rfl rfl)
theorem dX1_begins_40 : decode cX1_begins 40 = .ok (.iconst 3, 1) := dk_6 (dk_at dksX1_begins_1 17 rfl rfl)
theorem dX1_begins_41 : decode cX1_begins 41 = .ok (.bipush 20, 2) := dk_16 20 (dk_at dksX1_begins_1 18 rfl rfl)
theorem dX1_begins_43 : decode cX1_begins 43 = .ok (.iastore, 1) := dk_79 (dk_at dksX1_begins_1 20 rfl rfl)
theorem dX1_begins_44 : decode cX1_begins 44 = .ok (.iconst 0, 1) := dk_3 (dk_at dksX1_begins_1 21 rfl rfl)
theorem dX1_begins_45 : decode cX1_begins 45 = .ok (.istore_n 1, 1) := dk_60 (dk_at dksX1_begins_1 22 rfl rfl)
theorem dX1_begins_46 : decode cX1_begins 46 = .ok (.iload_n 1, 1) := dk_27 (dk_at dksX1_begins_1 23 rfl rfl)
theorem dX1_begins_47 : decode cX1_begins 47 = .ok (.bipush 8, 2) := dk_16 8 (dk_at dksX1_begins_2 0 rfl rfl)
theorem dX1_begins_49 : decode cX1_begins 49 = .ok (.if_icmp .ge 23, 3) := dk_162 0 23 (dk_at dksX1_begins_2 2 rfl rfl)
theorem dX1_begins_52 : decode cX1_begins 52 = .ok (.aload_n 0, 1) := dk_42 (dk_at dksX1_begins_2 5 rfl rfl)
theorem dX1_begins_53 : decode cX1_begins 53 = .ok (.getfield 19, 3) := dk_180 0 19 (dk_at dksX1_begins_2 6 rfl rfl)
theorem dX1_begins_56 : decode cX1_begins 56 = .ok (.iload_n 1, 1) := dk_27 (dk_at dksX1_begins_2 9 rfl rfl)
theorem dX1_begins_57 : decode cX1_begins 57 = .ok (.iload_n 1, 1) := dk_27 (dk_at dksX1_begins_2 10 rfl rfl)
theorem dX1_begins_58 : decode cX1_begins 58 = .ok (.iastore, 1) := dk_79 (dk_at dksX1_begins_2 11 rfl rfl)
theorem dX1_begins_59 : decode cX1_begins 59 = .ok (.aload_n 0, 1) := dk_42 (dk_at dksX1_begins_2 12 rfl rfl)
theorem dX1_begins_60 : decode cX1_begins 60 = .ok (.getfield 22, 3) := dk_180 0 22 (dk_at dksX1_begins_2 13 rfl rfl)
theorem dX1_begins_63 : decode cX1_begins 63 = .ok (.iload_n 1, 1) := dk_27 (dk_at dksX1_begins_2 16 rfl rfl)
theorem dX1_begins_64 : decode cX1_begins 64 = .ok (.iconst 5, 1) := dk_8 (dk_at dksX1_begins_2 17 rfl rfl)
theorem dX1_begins_65 : decode cX1_begins 65 = .ok (.iastore, 1) := dk_79 (dk_at dksX1_begins_2 18 rfl rfl)
theorem dX1_begins_66 : decode cX1_begins 66 = .ok (.iinc 1 1, 3) := dk_132 1 1 (dk_at dksX1_begins_2 19 rfl rfl)
theorem dX1_begins_69 : decode cX1_begins 69 = .ok (.goto (-23), 3) := dk_167 255 233 (dk_at dksX1_begins_3 0 rfl rfl)
theorem dX1_begins_72 : decode cX1_begins 72 = .ok (.iconst 0, 1) := dk_3 (dk_at dksX1_begins_3 3 rfl rfl)
theorem dX1_begins_73 : decode cX1_begins 73 = .ok (.istore_n 1, 1) := dk_60 (dk_at dksX1_begins_3 4 rfl rfl)
theorem dX1_begins_74 : decode cX1_begins 74 = .ok (.iload_n 1, 1) := dk_27 (dk_at dksX1_begins_3 5 rfl rfl)
theorem dX1_begins_75 : decode cX1_begins 75 = .ok (.bipush 6, 2) := dk_16 6 (dk_at dksX1_begins_3 6 rfl rfl)
theorem dX1_begins_77 : decode cX1_begins 77 = .ok (.if_icmp .ge 16, 3) := dk_162 0 16 (dk_at dksX1_begins_3 8 rfl rfl)
theorem dX1_begins_80 : decode cX1_begins 80 = .ok (.aload_n 0, 1) := dk_42 (dk_at dksX1_begins_3 11 rfl rfl)
theorem dX1_begins_81 : decode cX1_begins 81 = .ok (.getfield 25, 3) := dk_180 0 25 (dk_at dksX1_begins_3 12 rfl rfl)
theorem dX1_begins_84 : decode cX1_begins 84 = .ok (.iload_n 1, 1) := dk_27 (dk_at dksX1_begins_3 15 rfl rfl)
theorem dX1_begins_85 : decode cX1_begins 85 = .ok (.iload_n 1, 1) := dk_27 (dk_at dksX1_begins_3 16 rfl rfl)
theorem dX1_begins_86 : decode cX1_begins 86 = .ok (.iastore, 1) := dk_79 (dk_at dksX1_begins_3 17 rfl rfl)
theorem dX1_begins_87 : decode cX1_begins 87 = .ok (.iinc 1 1, 3) := dk_132 1 1 (dk_at dksX1_begins_3 18 rfl rfl)
theorem dX1_begins_90 : decode cX1_begins 90 = .ok (.goto (-16), 3) := dk_167 255 240 (dk_at dksX1_begins_3 21 rfl rfl)
theorem dX1_begins_93 : decode cX1_begins 93 = .ok (.return_, 1) := dk_177 (dk_at dksX1_begins_4 0 rfl rfl)
abbrev cX1_become : ByteArray := prog_11_method_4_code
def yX1_become : MethodName := ⟨RX1, "become", "(LIntentVats$Mill;)V"⟩
def dkwX1_become_5 : List UInt8 := [180, 0, 37, 184, 0, 58, 177]
abbrev dktX1_become_5 : List UInt8 := dkwX1_become_5 ++ []
def dkwX1_become_4 : List UInt8 := [180, 0, 31, 184, 0, 58, 43, 180, 0, 34, 42, 180, 0, 34, 184, 0, 58, 43, 180, 0, 37, 42]
abbrev dktX1_become_4 : List UInt8 := dkwX1_become_4 ++ dktX1_become_5
def dkwX1_become_3 : List UInt8 := [180, 0, 25, 184, 0, 58, 43, 180, 0, 28, 42, 180, 0, 28, 184, 0, 58, 43, 180, 0, 31, 42]
abbrev dktX1_become_3 : List UInt8 := dkwX1_become_3 ++ dktX1_become_4
def dkwX1_become_2 : List UInt8 := [180, 0, 19, 184, 0, 58, 43, 180, 0, 22, 42, 180, 0, 22, 184, 0, 58, 43, 180, 0, 25, 42]
abbrev dktX1_become_2 : List UInt8 := dkwX1_become_2 ++ dktX1_become_3
def dkwX1_become_1 : List UInt8 := [42, 43, 180, 0, 9, 181, 0, 9, 43, 180, 0, 15, 42, 180, 0, 15, 184, 0, 58, 43, 180, 0, 19, 42]
abbrev dktX1_become_1 : List UInt8 := dkwX1_become_1 ++ dktX1_become_2
def dkwX1_become_0 : List UInt8 := [42, 43, 180, 0, 49, 181, 0, 49, 42, 43, 180, 0, 52, 181, 0, 52, 42, 43, 180, 0, 55, 181, 0, 55]
abbrev dktX1_become_0 : List UInt8 := dkwX1_become_0 ++ dktX1_become_1
theorem dksX1_become_0 : cX1_become.data.toList.drop 0 = dktX1_become_0 := by decide +kernel
theorem dksX1_become_1 : cX1_become.data.toList.drop 24 = dktX1_become_1 := dk_seg dksX1_become_0 24 rfl rfl
theorem dksX1_become_2 : cX1_become.data.toList.drop 48 = dktX1_become_2 := dk_seg dksX1_become_1 24 rfl rfl
theorem dksX1_become_3 : cX1_become.data.toList.drop 70 = dktX1_become_3 := dk_seg dksX1_become_2 22 rfl rfl
theorem dksX1_become_4 : cX1_become.data.toList.drop 92 = dktX1_become_4 := dk_seg dksX1_become_3 22 rfl rfl
theorem dksX1_become_5 : cX1_become.data.toList.drop 114 = dktX1_become_5 := dk_seg dksX1_become_4 22 rfl rfl
theorem dX1_become_0 : decode cX1_become 0 = .ok (.aload_n 0, 1) := dk_42 (dk_at dksX1_become_0 0 rfl rfl)
theorem dX1_become_1 : decode cX1_become 1 = .ok (.aload_n 1, 1) := dk_43 (dk_at dksX1_become_0 1 rfl rfl)
theorem dX1_become_2 : decode cX1_become 2 = .ok (.getfield 49, 3) := dk_180 0 49 (dk_at dksX1_become_0 2 rfl rfl)
theorem dX1_become_5 : decode cX1_become 5 = .ok (.putfield 49, 3) := dk_181 0 49 (dk_at dksX1_become_0 5 rfl rfl)
theorem dX1_become_8 : decode cX1_become 8 = .ok (.aload_n 0, 1) := dk_42 (dk_at dksX1_become_0 8 rfl rfl)
theorem dX1_become_9 : decode cX1_become 9 = .ok (.aload_n 1, 1) := dk_43 (dk_at dksX1_become_0 9 rfl rfl)
theorem dX1_become_10 : decode cX1_become 10 = .ok (.getfield 52, 3) := dk_180 0 52 (dk_at dksX1_become_0 10 rfl rfl)
theorem dX1_become_13 : decode cX1_become 13 = .ok (.putfield 52, 3) := dk_181 0 52 (dk_at dksX1_become_0 13 rfl rfl)
theorem dX1_become_16 : decode cX1_become 16 = .ok (.aload_n 0, 1) := dk_42 (dk_at dksX1_become_0 16 rfl rfl)
theorem dX1_become_17 : decode cX1_become 17 = .ok (.aload_n 1, 1) := dk_43 (dk_at dksX1_become_0 17 rfl rfl)
theorem dX1_become_18 : decode cX1_become 18 = .ok (.getfield 55, 3) := dk_180 0 55 (dk_at dksX1_become_0 18 rfl rfl)
theorem dX1_become_21 : decode cX1_become 21 = .ok (.putfield 55, 3) := dk_181 0 55 (dk_at dksX1_become_0 21 rfl rfl)
theorem dX1_become_24 : decode cX1_become 24 = .ok (.aload_n 0, 1) := dk_42 (dk_at dksX1_become_1 0 rfl rfl)
theorem dX1_become_25 : decode cX1_become 25 = .ok (.aload_n 1, 1) := dk_43 (dk_at dksX1_become_1 1 rfl rfl)
theorem dX1_become_26 : decode cX1_become 26 = .ok (.getfield 9, 3) := dk_180 0 9 (dk_at dksX1_become_1 2 rfl rfl)
theorem dX1_become_29 : decode cX1_become 29 = .ok (.putfield 9, 3) := dk_181 0 9 (dk_at dksX1_become_1 5 rfl rfl)
theorem dX1_become_32 : decode cX1_become 32 = .ok (.aload_n 1, 1) := dk_43 (dk_at dksX1_become_1 8 rfl rfl)
theorem dX1_become_33 : decode cX1_become 33 = .ok (.getfield 15, 3) := dk_180 0 15 (dk_at dksX1_become_1 9 rfl rfl)
theorem dX1_become_36 : decode cX1_become 36 = .ok (.aload_n 0, 1) := dk_42 (dk_at dksX1_become_1 12 rfl rfl)
theorem dX1_become_37 : decode cX1_become 37 = .ok (.getfield 15, 3) := dk_180 0 15 (dk_at dksX1_become_1 13 rfl rfl)
theorem dX1_become_40 : decode cX1_become 40 = .ok (.invokestatic 58, 3) := dk_184 0 58 (dk_at dksX1_become_1 16 rfl rfl)
theorem dX1_become_43 : decode cX1_become 43 = .ok (.aload_n 1, 1) := dk_43 (dk_at dksX1_become_1 19 rfl rfl)
theorem dX1_become_44 : decode cX1_become 44 = .ok (.getfield 19, 3) := dk_180 0 19 (dk_at dksX1_become_1 20 rfl rfl)
theorem dX1_become_47 : decode cX1_become 47 = .ok (.aload_n 0, 1) := dk_42 (dk_at dksX1_become_1 23 rfl rfl)
theorem dX1_become_48 : decode cX1_become 48 = .ok (.getfield 19, 3) := dk_180 0 19 (dk_at dksX1_become_2 0 rfl rfl)
theorem dX1_become_51 : decode cX1_become 51 = .ok (.invokestatic 58, 3) := dk_184 0 58 (dk_at dksX1_become_2 3 rfl rfl)
theorem dX1_become_54 : decode cX1_become 54 = .ok (.aload_n 1, 1) := dk_43 (dk_at dksX1_become_2 6 rfl rfl)
theorem dX1_become_55 : decode cX1_become 55 = .ok (.getfield 22, 3) := dk_180 0 22 (dk_at dksX1_become_2 7 rfl rfl)
theorem dX1_become_58 : decode cX1_become 58 = .ok (.aload_n 0, 1) := dk_42 (dk_at dksX1_become_2 10 rfl rfl)
theorem dX1_become_59 : decode cX1_become 59 = .ok (.getfield 22, 3) := dk_180 0 22 (dk_at dksX1_become_2 11 rfl rfl)
theorem dX1_become_62 : decode cX1_become 62 = .ok (.invokestatic 58, 3) := dk_184 0 58 (dk_at dksX1_become_2 14 rfl rfl)
theorem dX1_become_65 : decode cX1_become 65 = .ok (.aload_n 1, 1) := dk_43 (dk_at dksX1_become_2 17 rfl rfl)
theorem dX1_become_66 : decode cX1_become 66 = .ok (.getfield 25, 3) := dk_180 0 25 (dk_at dksX1_become_2 18 rfl rfl)
theorem dX1_become_69 : decode cX1_become 69 = .ok (.aload_n 0, 1) := dk_42 (dk_at dksX1_become_2 21 rfl rfl)
theorem dX1_become_70 : decode cX1_become 70 = .ok (.getfield 25, 3) := dk_180 0 25 (dk_at dksX1_become_3 0 rfl rfl)
theorem dX1_become_73 : decode cX1_become 73 = .ok (.invokestatic 58, 3) := dk_184 0 58 (dk_at dksX1_become_3 3 rfl rfl)
theorem dX1_become_76 : decode cX1_become 76 = .ok (.aload_n 1, 1) := dk_43 (dk_at dksX1_become_3 6 rfl rfl)
theorem dX1_become_77 : decode cX1_become 77 = .ok (.getfield 28, 3) := dk_180 0 28 (dk_at dksX1_become_3 7 rfl rfl)
theorem dX1_become_80 : decode cX1_become 80 = .ok (.aload_n 0, 1) := dk_42 (dk_at dksX1_become_3 10 rfl rfl)
theorem dX1_become_81 : decode cX1_become 81 = .ok (.getfield 28, 3) := dk_180 0 28 (dk_at dksX1_become_3 11 rfl rfl)
theorem dX1_become_84 : decode cX1_become 84 = .ok (.invokestatic 58, 3) := dk_184 0 58 (dk_at dksX1_become_3 14 rfl rfl)
theorem dX1_become_87 : decode cX1_become 87 = .ok (.aload_n 1, 1) := dk_43 (dk_at dksX1_become_3 17 rfl rfl)
theorem dX1_become_88 : decode cX1_become 88 = .ok (.getfield 31, 3) := dk_180 0 31 (dk_at dksX1_become_3 18 rfl rfl)
theorem dX1_become_91 : decode cX1_become 91 = .ok (.aload_n 0, 1) := dk_42 (dk_at dksX1_become_3 21 rfl rfl)
theorem dX1_become_92 : decode cX1_become 92 = .ok (.getfield 31, 3) := dk_180 0 31 (dk_at dksX1_become_4 0 rfl rfl)
theorem dX1_become_95 : decode cX1_become 95 = .ok (.invokestatic 58, 3) := dk_184 0 58 (dk_at dksX1_become_4 3 rfl rfl)
theorem dX1_become_98 : decode cX1_become 98 = .ok (.aload_n 1, 1) := dk_43 (dk_at dksX1_become_4 6 rfl rfl)
theorem dX1_become_99 : decode cX1_become 99 = .ok (.getfield 34, 3) := dk_180 0 34 (dk_at dksX1_become_4 7 rfl rfl)
theorem dX1_become_102 : decode cX1_become 102 = .ok (.aload_n 0, 1) := dk_42 (dk_at dksX1_become_4 10 rfl rfl)
theorem dX1_become_103 : decode cX1_become 103 = .ok (.getfield 34, 3) := dk_180 0 34 (dk_at dksX1_become_4 11 rfl rfl)
theorem dX1_become_106 : decode cX1_become 106 = .ok (.invokestatic 58, 3) := dk_184 0 58 (dk_at dksX1_become_4 14 rfl rfl)
theorem dX1_become_109 : decode cX1_become 109 = .ok (.aload_n 1, 1) := dk_43 (dk_at dksX1_become_4 17 rfl rfl)
theorem dX1_become_110 : decode cX1_become 110 = .ok (.getfield 37, 3) := dk_180 0 37 (dk_at dksX1_become_4 18 rfl rfl)
theorem dX1_become_113 : decode cX1_become 113 = .ok (.aload_n 0, 1) := dk_42 (dk_at dksX1_become_4 21 rfl rfl)
theorem dX1_become_114 : decode cX1_become 114 = .ok (.getfield 37, 3) := dk_180 0 37 (dk_at dksX1_become_5 0 rfl rfl)
theorem dX1_become_117 : decode cX1_become 117 = .ok (.invokestatic 58, 3) := dk_184 0 58 (dk_at dksX1_become_5 3 rfl rfl)
theorem dX1_become_120 : decode cX1_become 120 = .ok (.return_, 1) := dk_177 (dk_at dksX1_become_5 6 rfl rfl)
abbrev cX1_copy : ByteArray := prog_11_method_2_code
def yX1_copy : MethodName := ⟨RX1, "copy", "([I[I)V"⟩
def dkwX1_copy_0 : List UInt8 := [42, 3, 43, 3, 43, 190, 184, 0, 43, 177]
abbrev dktX1_copy_0 : List UInt8 := dkwX1_copy_0 ++ []
theorem dksX1_copy_0 : cX1_copy.data.toList.drop 0 = dktX1_copy_0 := by decide +kernel
theorem dX1_copy_0 : decode cX1_copy 0 = .ok (.aload_n 0, 1) := dk_42 (dk_at dksX1_copy_0 0 rfl rfl)
theorem dX1_copy_1 : decode cX1_copy 1 = .ok (.iconst 0, 1) := dk_3 (dk_at dksX1_copy_0 1 rfl rfl)
theorem dX1_copy_2 : decode cX1_copy 2 = .ok (.aload_n 1, 1) := dk_43 (dk_at dksX1_copy_0 2 rfl rfl)
theorem dX1_copy_3 : decode cX1_copy 3 = .ok (.iconst 0, 1) := dk_3 (dk_at dksX1_copy_0 3 rfl rfl)
theorem dX1_copy_4 : decode cX1_copy 4 = .ok (.aload_n 1, 1) := dk_43 (dk_at dksX1_copy_0 4 rfl rfl)
theorem dX1_copy_5 : decode cX1_copy 5 = .ok (.arraylength, 1) := dk_190 (dk_at dksX1_copy_0 5 rfl rfl)
theorem dX1_copy_6 : decode cX1_copy 6 = .ok (.invokestatic 43, 3) := dk_184 0 43 (dk_at dksX1_copy_0 6 rfl rfl)
theorem dX1_copy_9 : decode cX1_copy 9 = .ok (.return_, 1) := dk_177 (dk_at dksX1_copy_0 9 rfl rfl)
abbrev cX1_add : ByteArray := prog_11_method_5_code
def yX1_add : MethodName := ⟨RX1, "add", "(I)I"⟩
def dkwX1_add_2 : List UInt8 := [181, 0, 49, 28, 172]
abbrev dktX1_add_2 : List UInt8 := dkwX1_add_2 ++ []
def dkwX1_add_1 : List UInt8 := [3, 79, 42, 180, 0, 37, 28, 3, 79, 42, 28, 3, 182, 0, 62, 42, 89, 180, 0, 49, 4, 96]
abbrev dktX1_add_1 : List UInt8 := dkwX1_add_1 ++ dktX1_add_2
def dkwX1_add_0 : List UInt8 := [42, 180, 0, 49, 61, 42, 180, 0, 28, 28, 27, 79, 42, 180, 0, 31, 28, 2, 79, 42, 180, 0, 34, 28]
abbrev dktX1_add_0 : List UInt8 := dkwX1_add_0 ++ dktX1_add_1
theorem dksX1_add_0 : cX1_add.data.toList.drop 0 = dktX1_add_0 := by decide +kernel
theorem dksX1_add_1 : cX1_add.data.toList.drop 24 = dktX1_add_1 := dk_seg dksX1_add_0 24 rfl rfl
theorem dksX1_add_2 : cX1_add.data.toList.drop 46 = dktX1_add_2 := dk_seg dksX1_add_1 22 rfl rfl
theorem dX1_add_0 : decode cX1_add 0 = .ok (.aload_n 0, 1) := dk_42 (dk_at dksX1_add_0 0 rfl rfl)
theorem dX1_add_1 : decode cX1_add 1 = .ok (.getfield 49, 3) := dk_180 0 49 (dk_at dksX1_add_0 1 rfl rfl)
theorem dX1_add_4 : decode cX1_add 4 = .ok (.istore_n 2, 1) := dk_61 (dk_at dksX1_add_0 4 rfl rfl)
theorem dX1_add_5 : decode cX1_add 5 = .ok (.aload_n 0, 1) := dk_42 (dk_at dksX1_add_0 5 rfl rfl)
theorem dX1_add_6 : decode cX1_add 6 = .ok (.getfield 28, 3) := dk_180 0 28 (dk_at dksX1_add_0 6 rfl rfl)
theorem dX1_add_9 : decode cX1_add 9 = .ok (.iload_n 2, 1) := dk_28 (dk_at dksX1_add_0 9 rfl rfl)
theorem dX1_add_10 : decode cX1_add 10 = .ok (.iload_n 1, 1) := dk_27 (dk_at dksX1_add_0 10 rfl rfl)
theorem dX1_add_11 : decode cX1_add 11 = .ok (.iastore, 1) := dk_79 (dk_at dksX1_add_0 11 rfl rfl)
theorem dX1_add_12 : decode cX1_add 12 = .ok (.aload_n 0, 1) := dk_42 (dk_at dksX1_add_0 12 rfl rfl)
theorem dX1_add_13 : decode cX1_add 13 = .ok (.getfield 31, 3) := dk_180 0 31 (dk_at dksX1_add_0 13 rfl rfl)
theorem dX1_add_16 : decode cX1_add 16 = .ok (.iload_n 2, 1) := dk_28 (dk_at dksX1_add_0 16 rfl rfl)
theorem dX1_add_17 : decode cX1_add 17 = .ok (.iconst (-1), 1) := dk_2 (dk_at dksX1_add_0 17 rfl rfl)
theorem dX1_add_18 : decode cX1_add 18 = .ok (.iastore, 1) := dk_79 (dk_at dksX1_add_0 18 rfl rfl)
theorem dX1_add_19 : decode cX1_add 19 = .ok (.aload_n 0, 1) := dk_42 (dk_at dksX1_add_0 19 rfl rfl)
theorem dX1_add_20 : decode cX1_add 20 = .ok (.getfield 34, 3) := dk_180 0 34 (dk_at dksX1_add_0 20 rfl rfl)
theorem dX1_add_23 : decode cX1_add 23 = .ok (.iload_n 2, 1) := dk_28 (dk_at dksX1_add_0 23 rfl rfl)
theorem dX1_add_24 : decode cX1_add 24 = .ok (.iconst 0, 1) := dk_3 (dk_at dksX1_add_1 0 rfl rfl)
theorem dX1_add_25 : decode cX1_add 25 = .ok (.iastore, 1) := dk_79 (dk_at dksX1_add_1 1 rfl rfl)
theorem dX1_add_26 : decode cX1_add 26 = .ok (.aload_n 0, 1) := dk_42 (dk_at dksX1_add_1 2 rfl rfl)
theorem dX1_add_27 : decode cX1_add 27 = .ok (.getfield 37, 3) := dk_180 0 37 (dk_at dksX1_add_1 3 rfl rfl)
theorem dX1_add_30 : decode cX1_add 30 = .ok (.iload_n 2, 1) := dk_28 (dk_at dksX1_add_1 6 rfl rfl)
theorem dX1_add_31 : decode cX1_add 31 = .ok (.iconst 0, 1) := dk_3 (dk_at dksX1_add_1 7 rfl rfl)
theorem dX1_add_32 : decode cX1_add 32 = .ok (.iastore, 1) := dk_79 (dk_at dksX1_add_1 8 rfl rfl)
theorem dX1_add_33 : decode cX1_add 33 = .ok (.aload_n 0, 1) := dk_42 (dk_at dksX1_add_1 9 rfl rfl)
theorem dX1_add_34 : decode cX1_add 34 = .ok (.iload_n 2, 1) := dk_28 (dk_at dksX1_add_1 10 rfl rfl)
theorem dX1_add_35 : decode cX1_add 35 = .ok (.iconst 0, 1) := dk_3 (dk_at dksX1_add_1 11 rfl rfl)
theorem dX1_add_36 : decode cX1_add 36 = .ok (.invokevirtual 62, 3) := dk_182 0 62 (dk_at dksX1_add_1 12 rfl rfl)
theorem dX1_add_39 : decode cX1_add 39 = .ok (.aload_n 0, 1) := dk_42 (dk_at dksX1_add_1 15 rfl rfl)
theorem dX1_add_40 : decode cX1_add 40 = .ok (.dup, 1) := dk_89 (dk_at dksX1_add_1 16 rfl rfl)
theorem dX1_add_41 : decode cX1_add 41 = .ok (.getfield 49, 3) := dk_180 0 49 (dk_at dksX1_add_1 17 rfl rfl)
theorem dX1_add_44 : decode cX1_add 44 = .ok (.iconst 1, 1) := dk_4 (dk_at dksX1_add_1 20 rfl rfl)
theorem dX1_add_45 : decode cX1_add 45 = .ok (.iadd, 1) := dk_96 (dk_at dksX1_add_1 21 rfl rfl)
theorem dX1_add_46 : decode cX1_add 46 = .ok (.putfield 49, 3) := dk_181 0 49 (dk_at dksX1_add_2 0 rfl rfl)
theorem dX1_add_49 : decode cX1_add 49 = .ok (.iload_n 2, 1) := dk_28 (dk_at dksX1_add_2 3 rfl rfl)
theorem dX1_add_50 : decode cX1_add 50 = .ok (.ireturn, 1) := dk_172 (dk_at dksX1_add_2 4 rfl rfl)
abbrev cX1_hangs : ByteArray := prog_11_method_6_code
def yX1_hangs : MethodName := ⟨RX1, "hangs", "(IZ)V"⟩
def dkwX1_hangs_1 : List UInt8 := [130, 126, 181, 0, 55, 177]
abbrev dktX1_hangs_1 : List UInt8 := dkwX1_hangs_1 ++ []
def dkwX1_hangs_0 : List UInt8 := [42, 28, 153, 0, 14, 42, 180, 0, 55, 4, 27, 120, 128, 167, 0, 13, 42, 180, 0, 55, 4, 27, 120, 2]
abbrev dktX1_hangs_0 : List UInt8 := dkwX1_hangs_0 ++ dktX1_hangs_1
theorem dksX1_hangs_0 : cX1_hangs.data.toList.drop 0 = dktX1_hangs_0 := by decide +kernel
theorem dksX1_hangs_1 : cX1_hangs.data.toList.drop 24 = dktX1_hangs_1 := dk_seg dksX1_hangs_0 24 rfl rfl
theorem dX1_hangs_0 : decode cX1_hangs 0 = .ok (.aload_n 0, 1) := dk_42 (dk_at dksX1_hangs_0 0 rfl rfl)
theorem dX1_hangs_1 : decode cX1_hangs 1 = .ok (.iload_n 2, 1) := dk_28 (dk_at dksX1_hangs_0 1 rfl rfl)
theorem dX1_hangs_2 : decode cX1_hangs 2 = .ok (.ifCond .eq 14, 3) := dk_153 0 14 (dk_at dksX1_hangs_0 2 rfl rfl)
theorem dX1_hangs_5 : decode cX1_hangs 5 = .ok (.aload_n 0, 1) := dk_42 (dk_at dksX1_hangs_0 5 rfl rfl)
theorem dX1_hangs_6 : decode cX1_hangs 6 = .ok (.getfield 55, 3) := dk_180 0 55 (dk_at dksX1_hangs_0 6 rfl rfl)
theorem dX1_hangs_9 : decode cX1_hangs 9 = .ok (.iconst 1, 1) := dk_4 (dk_at dksX1_hangs_0 9 rfl rfl)
theorem dX1_hangs_10 : decode cX1_hangs 10 = .ok (.iload_n 1, 1) := dk_27 (dk_at dksX1_hangs_0 10 rfl rfl)
theorem dX1_hangs_11 : decode cX1_hangs 11 = .ok (.ishl, 1) := dk_120 (dk_at dksX1_hangs_0 11 rfl rfl)
theorem dX1_hangs_12 : decode cX1_hangs 12 = .ok (.ior, 1) := dk_128 (dk_at dksX1_hangs_0 12 rfl rfl)
theorem dX1_hangs_13 : decode cX1_hangs 13 = .ok (.goto 13, 3) := dk_167 0 13 (dk_at dksX1_hangs_0 13 rfl rfl)
theorem dX1_hangs_16 : decode cX1_hangs 16 = .ok (.aload_n 0, 1) := dk_42 (dk_at dksX1_hangs_0 16 rfl rfl)
theorem dX1_hangs_17 : decode cX1_hangs 17 = .ok (.getfield 55, 3) := dk_180 0 55 (dk_at dksX1_hangs_0 17 rfl rfl)
theorem dX1_hangs_20 : decode cX1_hangs 20 = .ok (.iconst 1, 1) := dk_4 (dk_at dksX1_hangs_0 20 rfl rfl)
theorem dX1_hangs_21 : decode cX1_hangs 21 = .ok (.iload_n 1, 1) := dk_27 (dk_at dksX1_hangs_0 21 rfl rfl)
theorem dX1_hangs_22 : decode cX1_hangs 22 = .ok (.ishl, 1) := dk_120 (dk_at dksX1_hangs_0 22 rfl rfl)
theorem dX1_hangs_23 : decode cX1_hangs 23 = .ok (.iconst (-1), 1) := dk_2 (dk_at dksX1_hangs_0 23 rfl rfl)
theorem dX1_hangs_24 : decode cX1_hangs 24 = .ok (.ixor, 1) := dk_130 (dk_at dksX1_hangs_1 0 rfl rfl)
theorem dX1_hangs_25 : decode cX1_hangs 25 = .ok (.iand, 1) := dk_126 (dk_at dksX1_hangs_1 1 rfl rfl)
theorem dX1_hangs_26 : decode cX1_hangs 26 = .ok (.putfield 55, 3) := dk_181 0 55 (dk_at dksX1_hangs_1 2 rfl rfl)
theorem dX1_hangs_29 : decode cX1_hangs 29 = .ok (.return_, 1) := dk_177 (dk_at dksX1_hangs_1 5 rfl rfl)
abbrev cX1_isHung : ByteArray := prog_11_method_7_code
def yX1_isHung : MethodName := ⟨RX1, "isHung", "(I)Z"⟩
def dkwX1_isHung_0 : List UInt8 := [42, 180, 0, 55, 27, 184, 0, 66, 172]
abbrev dktX1_isHung_0 : List UInt8 := dkwX1_isHung_0 ++ []
theorem dksX1_isHung_0 : cX1_isHung.data.toList.drop 0 = dktX1_isHung_0 := by decide +kernel
theorem dX1_isHung_0 : decode cX1_isHung 0 = .ok (.aload_n 0, 1) := dk_42 (dk_at dksX1_isHung_0 0 rfl rfl)
theorem dX1_isHung_1 : decode cX1_isHung 1 = .ok (.getfield 55, 3) := dk_180 0 55 (dk_at dksX1_isHung_0 1 rfl rfl)
theorem dX1_isHung_4 : decode cX1_isHung 4 = .ok (.iload_n 1, 1) := dk_27 (dk_at dksX1_isHung_0 4 rfl rfl)
theorem dX1_isHung_5 : decode cX1_isHung 5 = .ok (.invokestatic 66, 3) := dk_184 0 66 (dk_at dksX1_isHung_0 5 rfl rfl)
theorem dX1_isHung_8 : decode cX1_isHung 8 = .ok (.ireturn, 1) := dk_172 (dk_at dksX1_isHung_0 8 rfl rfl)
abbrev cX1_settles : ByteArray := prog_11_method_9_code
def yX1_settles : MethodName := ⟨RX1, "settles", "(I)V"⟩
def dkwX1_settles_2 : List UInt8 := [177]
abbrev dktX1_settles_2 : List UInt8 := dkwX1_settles_2 ++ []
def dkwX1_settles_1 : List UInt8 := [180, 0, 31, 27, 42, 180, 0, 34, 27, 46, 154, 0, 7, 2, 167, 0, 9, 42, 180, 0, 31, 27, 46, 79]
abbrev dktX1_settles_1 : List UInt8 := dkwX1_settles_1 ++ dktX1_settles_2
def dkwX1_settles_0 : List UInt8 := [42, 180, 0, 34, 27, 3, 16, 99, 42, 180, 0, 34, 27, 46, 184, 0, 70, 184, 0, 76, 79, 42]
abbrev dktX1_settles_0 : List UInt8 := dkwX1_settles_0 ++ dktX1_settles_1
theorem dksX1_settles_0 : cX1_settles.data.toList.drop 0 = dktX1_settles_0 := by decide +kernel
theorem dksX1_settles_1 : cX1_settles.data.toList.drop 22 = dktX1_settles_1 := dk_seg dksX1_settles_0 22 rfl rfl
theorem dksX1_settles_2 : cX1_settles.data.toList.drop 46 = dktX1_settles_2 := dk_seg dksX1_settles_1 24 rfl rfl
theorem dX1_settles_0 : decode cX1_settles 0 = .ok (.aload_n 0, 1) := dk_42 (dk_at dksX1_settles_0 0 rfl rfl)
theorem dX1_settles_1 : decode cX1_settles 1 = .ok (.getfield 34, 3) := dk_180 0 34 (dk_at dksX1_settles_0 1 rfl rfl)
theorem dX1_settles_4 : decode cX1_settles 4 = .ok (.iload_n 1, 1) := dk_27 (dk_at dksX1_settles_0 4 rfl rfl)
theorem dX1_settles_5 : decode cX1_settles 5 = .ok (.iconst 0, 1) := dk_3 (dk_at dksX1_settles_0 5 rfl rfl)
theorem dX1_settles_6 : decode cX1_settles 6 = .ok (.bipush 99, 2) := dk_16 99 (dk_at dksX1_settles_0 6 rfl rfl)
theorem dX1_settles_8 : decode cX1_settles 8 = .ok (.aload_n 0, 1) := dk_42 (dk_at dksX1_settles_0 8 rfl rfl)
theorem dX1_settles_9 : decode cX1_settles 9 = .ok (.getfield 34, 3) := dk_180 0 34 (dk_at dksX1_settles_0 9 rfl rfl)
theorem dX1_settles_12 : decode cX1_settles 12 = .ok (.iload_n 1, 1) := dk_27 (dk_at dksX1_settles_0 12 rfl rfl)
theorem dX1_settles_13 : decode cX1_settles 13 = .ok (.iaload, 1) := dk_46 (dk_at dksX1_settles_0 13 rfl rfl)
theorem dX1_settles_14 : decode cX1_settles 14 = .ok (.invokestatic 70, 3) := dk_184 0 70 (dk_at dksX1_settles_0 14 rfl rfl)
theorem dX1_settles_17 : decode cX1_settles 17 = .ok (.invokestatic 76, 3) := dk_184 0 76 (dk_at dksX1_settles_0 17 rfl rfl)
theorem dX1_settles_20 : decode cX1_settles 20 = .ok (.iastore, 1) := dk_79 (dk_at dksX1_settles_0 20 rfl rfl)
theorem dX1_settles_21 : decode cX1_settles 21 = .ok (.aload_n 0, 1) := dk_42 (dk_at dksX1_settles_0 21 rfl rfl)
theorem dX1_settles_22 : decode cX1_settles 22 = .ok (.getfield 31, 3) := dk_180 0 31 (dk_at dksX1_settles_1 0 rfl rfl)
theorem dX1_settles_25 : decode cX1_settles 25 = .ok (.iload_n 1, 1) := dk_27 (dk_at dksX1_settles_1 3 rfl rfl)
theorem dX1_settles_26 : decode cX1_settles 26 = .ok (.aload_n 0, 1) := dk_42 (dk_at dksX1_settles_1 4 rfl rfl)
theorem dX1_settles_27 : decode cX1_settles 27 = .ok (.getfield 34, 3) := dk_180 0 34 (dk_at dksX1_settles_1 5 rfl rfl)
theorem dX1_settles_30 : decode cX1_settles 30 = .ok (.iload_n 1, 1) := dk_27 (dk_at dksX1_settles_1 8 rfl rfl)
theorem dX1_settles_31 : decode cX1_settles 31 = .ok (.iaload, 1) := dk_46 (dk_at dksX1_settles_1 9 rfl rfl)
theorem dX1_settles_32 : decode cX1_settles 32 = .ok (.ifCond .ne 7, 3) := dk_154 0 7 (dk_at dksX1_settles_1 10 rfl rfl)
theorem dX1_settles_35 : decode cX1_settles 35 = .ok (.iconst (-1), 1) := dk_2 (dk_at dksX1_settles_1 13 rfl rfl)
theorem dX1_settles_36 : decode cX1_settles 36 = .ok (.goto 9, 3) := dk_167 0 9 (dk_at dksX1_settles_1 14 rfl rfl)
theorem dX1_settles_39 : decode cX1_settles 39 = .ok (.aload_n 0, 1) := dk_42 (dk_at dksX1_settles_1 17 rfl rfl)
theorem dX1_settles_40 : decode cX1_settles 40 = .ok (.getfield 31, 3) := dk_180 0 31 (dk_at dksX1_settles_1 18 rfl rfl)
theorem dX1_settles_43 : decode cX1_settles 43 = .ok (.iload_n 1, 1) := dk_27 (dk_at dksX1_settles_1 21 rfl rfl)
theorem dX1_settles_44 : decode cX1_settles 44 = .ok (.iaload, 1) := dk_46 (dk_at dksX1_settles_1 22 rfl rfl)
theorem dX1_settles_45 : decode cX1_settles 45 = .ok (.iastore, 1) := dk_79 (dk_at dksX1_settles_1 23 rfl rfl)
theorem dX1_settles_46 : decode cX1_settles 46 = .ok (.return_, 1) := dk_177 (dk_at dksX1_settles_2 0 rfl rfl)
abbrev cX1_vatNow : ByteArray := prog_11_method_8_code
def yX1_vatNow : MethodName := ⟨RX1, "vatNow", "()I"⟩
def dkwX1_vatNow_0 : List UInt8 := [42, 180, 0, 25, 42, 180, 0, 52, 16, 6, 112, 46, 172]
abbrev dktX1_vatNow_0 : List UInt8 := dkwX1_vatNow_0 ++ []
theorem dksX1_vatNow_0 : cX1_vatNow.data.toList.drop 0 = dktX1_vatNow_0 := by decide +kernel
theorem dX1_vatNow_0 : decode cX1_vatNow 0 = .ok (.aload_n 0, 1) := dk_42 (dk_at dksX1_vatNow_0 0 rfl rfl)
theorem dX1_vatNow_1 : decode cX1_vatNow 1 = .ok (.getfield 25, 3) := dk_180 0 25 (dk_at dksX1_vatNow_0 1 rfl rfl)
theorem dX1_vatNow_4 : decode cX1_vatNow 4 = .ok (.aload_n 0, 1) := dk_42 (dk_at dksX1_vatNow_0 4 rfl rfl)
theorem dX1_vatNow_5 : decode cX1_vatNow 5 = .ok (.getfield 52, 3) := dk_180 0 52 (dk_at dksX1_vatNow_0 5 rfl rfl)
theorem dX1_vatNow_8 : decode cX1_vatNow 8 = .ok (.bipush 6, 2) := dk_16 6 (dk_at dksX1_vatNow_0 8 rfl rfl)
theorem dX1_vatNow_10 : decode cX1_vatNow 10 = .ok (.irem, 1) := dk_112 (dk_at dksX1_vatNow_0 10 rfl rfl)
theorem dX1_vatNow_11 : decode cX1_vatNow 11 = .ok (.iaload, 1) := dk_46 (dk_at dksX1_vatNow_0 11 rfl rfl)
theorem dX1_vatNow_12 : decode cX1_vatNow 12 = .ok (.ireturn, 1) := dk_172 (dk_at dksX1_vatNow_0 12 rfl rfl)
abbrev cX1_depths : ByteArray := prog_11_method_12_code
def yX1_depths : MethodName := ⟨RX1, "depths", "()I"⟩
def dkwX1_depths_1 : List UInt8 := [167, 255, 236, 27, 172]
abbrev dktX1_depths_1 : List UInt8 := dkwX1_depths_1 ++ []
def dkwX1_depths_0 : List UInt8 := [3, 60, 3, 61, 28, 42, 180, 0, 49, 162, 0, 18, 27, 42, 180, 0, 34, 28, 46, 96, 60, 132, 2, 1]
abbrev dktX1_depths_0 : List UInt8 := dkwX1_depths_0 ++ dktX1_depths_1
theorem dksX1_depths_0 : cX1_depths.data.toList.drop 0 = dktX1_depths_0 := by decide +kernel
theorem dksX1_depths_1 : cX1_depths.data.toList.drop 24 = dktX1_depths_1 := dk_seg dksX1_depths_0 24 rfl rfl
theorem dX1_depths_0 : decode cX1_depths 0 = .ok (.iconst 0, 1) := dk_3 (dk_at dksX1_depths_0 0 rfl rfl)
theorem dX1_depths_1 : decode cX1_depths 1 = .ok (.istore_n 1, 1) := dk_60 (dk_at dksX1_depths_0 1 rfl rfl)
theorem dX1_depths_2 : decode cX1_depths 2 = .ok (.iconst 0, 1) := dk_3 (dk_at dksX1_depths_0 2 rfl rfl)
theorem dX1_depths_3 : decode cX1_depths 3 = .ok (.istore_n 2, 1) := dk_61 (dk_at dksX1_depths_0 3 rfl rfl)
theorem dX1_depths_4 : decode cX1_depths 4 = .ok (.iload_n 2, 1) := dk_28 (dk_at dksX1_depths_0 4 rfl rfl)
theorem dX1_depths_5 : decode cX1_depths 5 = .ok (.aload_n 0, 1) := dk_42 (dk_at dksX1_depths_0 5 rfl rfl)
theorem dX1_depths_6 : decode cX1_depths 6 = .ok (.getfield 49, 3) := dk_180 0 49 (dk_at dksX1_depths_0 6 rfl rfl)
theorem dX1_depths_9 : decode cX1_depths 9 = .ok (.if_icmp .ge 18, 3) := dk_162 0 18 (dk_at dksX1_depths_0 9 rfl rfl)
theorem dX1_depths_12 : decode cX1_depths 12 = .ok (.iload_n 1, 1) := dk_27 (dk_at dksX1_depths_0 12 rfl rfl)
theorem dX1_depths_13 : decode cX1_depths 13 = .ok (.aload_n 0, 1) := dk_42 (dk_at dksX1_depths_0 13 rfl rfl)
theorem dX1_depths_14 : decode cX1_depths 14 = .ok (.getfield 34, 3) := dk_180 0 34 (dk_at dksX1_depths_0 14 rfl rfl)
theorem dX1_depths_17 : decode cX1_depths 17 = .ok (.iload_n 2, 1) := dk_28 (dk_at dksX1_depths_0 17 rfl rfl)
theorem dX1_depths_18 : decode cX1_depths 18 = .ok (.iaload, 1) := dk_46 (dk_at dksX1_depths_0 18 rfl rfl)
theorem dX1_depths_19 : decode cX1_depths 19 = .ok (.iadd, 1) := dk_96 (dk_at dksX1_depths_0 19 rfl rfl)
theorem dX1_depths_20 : decode cX1_depths 20 = .ok (.istore_n 1, 1) := dk_60 (dk_at dksX1_depths_0 20 rfl rfl)
theorem dX1_depths_21 : decode cX1_depths 21 = .ok (.iinc 2 1, 3) := dk_132 2 1 (dk_at dksX1_depths_0 21 rfl rfl)
theorem dX1_depths_24 : decode cX1_depths 24 = .ok (.goto (-20), 3) := dk_167 255 236 (dk_at dksX1_depths_1 0 rfl rfl)
theorem dX1_depths_27 : decode cX1_depths 27 = .ok (.iload_n 1, 1) := dk_27 (dk_at dksX1_depths_1 3 rfl rfl)
theorem dX1_depths_28 : decode cX1_depths 28 = .ok (.ireturn, 1) := dk_172 (dk_at dksX1_depths_1 4 rfl rfl)
abbrev cX1_draw : ByteArray := prog_11_method_15_code
def yX1_draw : MethodName := ⟨RX1, "draw", "()I"⟩
def dkwX1_draw_0 : List UInt8 := [42, 42, 180, 0, 9, 18, 86, 104, 17, 48, 57, 96, 181, 0, 9, 42, 180, 0, 9, 16, 16, 124, 172]
abbrev dktX1_draw_0 : List UInt8 := dkwX1_draw_0 ++ []
theorem dksX1_draw_0 : cX1_draw.data.toList.drop 0 = dktX1_draw_0 := by decide +kernel
theorem dX1_draw_0 : decode cX1_draw 0 = .ok (.aload_n 0, 1) := dk_42 (dk_at dksX1_draw_0 0 rfl rfl)
theorem dX1_draw_1 : decode cX1_draw 1 = .ok (.aload_n 0, 1) := dk_42 (dk_at dksX1_draw_0 1 rfl rfl)
theorem dX1_draw_2 : decode cX1_draw 2 = .ok (.getfield 9, 3) := dk_180 0 9 (dk_at dksX1_draw_0 2 rfl rfl)
theorem dX1_draw_5 : decode cX1_draw 5 = .ok (.ldc 86, 2) := dk_18 86 (dk_at dksX1_draw_0 5 rfl rfl)
theorem dX1_draw_7 : decode cX1_draw 7 = .ok (.imul, 1) := dk_104 (dk_at dksX1_draw_0 7 rfl rfl)
theorem dX1_draw_8 : decode cX1_draw 8 = .ok (.sipush 12345, 3) := dk_17 48 57 (dk_at dksX1_draw_0 8 rfl rfl)
theorem dX1_draw_11 : decode cX1_draw 11 = .ok (.iadd, 1) := dk_96 (dk_at dksX1_draw_0 11 rfl rfl)
theorem dX1_draw_12 : decode cX1_draw 12 = .ok (.putfield 9, 3) := dk_181 0 9 (dk_at dksX1_draw_0 12 rfl rfl)
theorem dX1_draw_15 : decode cX1_draw 15 = .ok (.aload_n 0, 1) := dk_42 (dk_at dksX1_draw_0 15 rfl rfl)
theorem dX1_draw_16 : decode cX1_draw 16 = .ok (.getfield 9, 3) := dk_180 0 9 (dk_at dksX1_draw_0 16 rfl rfl)
theorem dX1_draw_19 : decode cX1_draw 19 = .ok (.bipush 16, 2) := dk_16 16 (dk_at dksX1_draw_0 19 rfl rfl)
theorem dX1_draw_21 : decode cX1_draw 21 = .ok (.iushr, 1) := dk_124 (dk_at dksX1_draw_0 21 rfl rfl)
theorem dX1_draw_22 : decode cX1_draw 22 = .ok (.ireturn, 1) := dk_172 (dk_at dksX1_draw_0 22 rfl rfl)
abbrev cX1_aboutAny : ByteArray := prog_11_method_10_code
def yX1_aboutAny : MethodName := ⟨RX1, "aboutAny", "()I"⟩
def dkwX1_aboutAny_1 : List UInt8 := [167, 0, 6, 4, 28, 120, 128, 60, 132, 2, 1, 167, 255, 225, 27, 172]
abbrev dktX1_aboutAny_1 : List UInt8 := dkwX1_aboutAny_1 ++ []
def dkwX1_aboutAny_0 : List UInt8 := [3, 60, 3, 61, 28, 42, 180, 0, 49, 162, 0, 29, 27, 42, 180, 0, 31, 28, 46, 2, 160, 0, 7, 3]
abbrev dktX1_aboutAny_0 : List UInt8 := dkwX1_aboutAny_0 ++ dktX1_aboutAny_1
theorem dksX1_aboutAny_0 : cX1_aboutAny.data.toList.drop 0 = dktX1_aboutAny_0 := by decide +kernel
theorem dksX1_aboutAny_1 : cX1_aboutAny.data.toList.drop 24 = dktX1_aboutAny_1 := dk_seg dksX1_aboutAny_0 24 rfl rfl
theorem dX1_aboutAny_0 : decode cX1_aboutAny 0 = .ok (.iconst 0, 1) := dk_3 (dk_at dksX1_aboutAny_0 0 rfl rfl)
theorem dX1_aboutAny_1 : decode cX1_aboutAny 1 = .ok (.istore_n 1, 1) := dk_60 (dk_at dksX1_aboutAny_0 1 rfl rfl)
theorem dX1_aboutAny_2 : decode cX1_aboutAny 2 = .ok (.iconst 0, 1) := dk_3 (dk_at dksX1_aboutAny_0 2 rfl rfl)
theorem dX1_aboutAny_3 : decode cX1_aboutAny 3 = .ok (.istore_n 2, 1) := dk_61 (dk_at dksX1_aboutAny_0 3 rfl rfl)
theorem dX1_aboutAny_4 : decode cX1_aboutAny 4 = .ok (.iload_n 2, 1) := dk_28 (dk_at dksX1_aboutAny_0 4 rfl rfl)
theorem dX1_aboutAny_5 : decode cX1_aboutAny 5 = .ok (.aload_n 0, 1) := dk_42 (dk_at dksX1_aboutAny_0 5 rfl rfl)
theorem dX1_aboutAny_6 : decode cX1_aboutAny 6 = .ok (.getfield 49, 3) := dk_180 0 49 (dk_at dksX1_aboutAny_0 6 rfl rfl)
theorem dX1_aboutAny_9 : decode cX1_aboutAny 9 = .ok (.if_icmp .ge 29, 3) := dk_162 0 29 (dk_at dksX1_aboutAny_0 9 rfl rfl)
theorem dX1_aboutAny_12 : decode cX1_aboutAny 12 = .ok (.iload_n 1, 1) := dk_27 (dk_at dksX1_aboutAny_0 12 rfl rfl)
theorem dX1_aboutAny_13 : decode cX1_aboutAny 13 = .ok (.aload_n 0, 1) := dk_42 (dk_at dksX1_aboutAny_0 13 rfl rfl)
theorem dX1_aboutAny_14 : decode cX1_aboutAny 14 = .ok (.getfield 31, 3) := dk_180 0 31 (dk_at dksX1_aboutAny_0 14 rfl rfl)
theorem dX1_aboutAny_17 : decode cX1_aboutAny 17 = .ok (.iload_n 2, 1) := dk_28 (dk_at dksX1_aboutAny_0 17 rfl rfl)
theorem dX1_aboutAny_18 : decode cX1_aboutAny 18 = .ok (.iaload, 1) := dk_46 (dk_at dksX1_aboutAny_0 18 rfl rfl)
theorem dX1_aboutAny_19 : decode cX1_aboutAny 19 = .ok (.iconst (-1), 1) := dk_2 (dk_at dksX1_aboutAny_0 19 rfl rfl)
theorem dX1_aboutAny_20 : decode cX1_aboutAny 20 = .ok (.if_icmp .ne 7, 3) := dk_160 0 7 (dk_at dksX1_aboutAny_0 20 rfl rfl)
theorem dX1_aboutAny_23 : decode cX1_aboutAny 23 = .ok (.iconst 0, 1) := dk_3 (dk_at dksX1_aboutAny_0 23 rfl rfl)
theorem dX1_aboutAny_24 : decode cX1_aboutAny 24 = .ok (.goto 6, 3) := dk_167 0 6 (dk_at dksX1_aboutAny_1 0 rfl rfl)
theorem dX1_aboutAny_27 : decode cX1_aboutAny 27 = .ok (.iconst 1, 1) := dk_4 (dk_at dksX1_aboutAny_1 3 rfl rfl)
theorem dX1_aboutAny_28 : decode cX1_aboutAny 28 = .ok (.iload_n 2, 1) := dk_28 (dk_at dksX1_aboutAny_1 4 rfl rfl)
theorem dX1_aboutAny_29 : decode cX1_aboutAny 29 = .ok (.ishl, 1) := dk_120 (dk_at dksX1_aboutAny_1 5 rfl rfl)
theorem dX1_aboutAny_30 : decode cX1_aboutAny 30 = .ok (.ior, 1) := dk_128 (dk_at dksX1_aboutAny_1 6 rfl rfl)
theorem dX1_aboutAny_31 : decode cX1_aboutAny 31 = .ok (.istore_n 1, 1) := dk_60 (dk_at dksX1_aboutAny_1 7 rfl rfl)
theorem dX1_aboutAny_32 : decode cX1_aboutAny 32 = .ok (.iinc 2 1, 3) := dk_132 2 1 (dk_at dksX1_aboutAny_1 8 rfl rfl)
theorem dX1_aboutAny_35 : decode cX1_aboutAny 35 = .ok (.goto (-31), 3) := dk_167 255 225 (dk_at dksX1_aboutAny_1 11 rfl rfl)
theorem dX1_aboutAny_38 : decode cX1_aboutAny 38 = .ok (.iload_n 1, 1) := dk_27 (dk_at dksX1_aboutAny_1 14 rfl rfl)
theorem dX1_aboutAny_39 : decode cX1_aboutAny 39 = .ok (.ireturn, 1) := dk_172 (dk_at dksX1_aboutAny_1 15 rfl rfl)
abbrev cX1_atOdds : ByteArray := prog_11_method_14_code
def yX1_atOdds : MethodName := ⟨RX1, "atOdds", "()I"⟩
def dkwX1_atOdds_2 : List UInt8 := [132, 2, 1, 167, 255, 210, 27, 172]
abbrev dktX1_atOdds_2 : List UInt8 := dkwX1_atOdds_2 ++ []
def dkwX1_atOdds_1 : List UInt8 := [27, 42, 28, 29, 182, 0, 83, 153, 0, 7, 4, 167, 0, 4, 3, 96, 60, 132, 3, 1, 167, 255, 228]
abbrev dktX1_atOdds_1 : List UInt8 := dkwX1_atOdds_1 ++ dktX1_atOdds_2
def dkwX1_atOdds_0 : List UInt8 := [3, 60, 3, 61, 28, 42, 180, 0, 49, 162, 0, 44, 28, 4, 96, 62, 29, 42, 180, 0, 49, 162, 0, 26]
abbrev dktX1_atOdds_0 : List UInt8 := dkwX1_atOdds_0 ++ dktX1_atOdds_1
theorem dksX1_atOdds_0 : cX1_atOdds.data.toList.drop 0 = dktX1_atOdds_0 := by decide +kernel
theorem dksX1_atOdds_1 : cX1_atOdds.data.toList.drop 24 = dktX1_atOdds_1 := dk_seg dksX1_atOdds_0 24 rfl rfl
theorem dksX1_atOdds_2 : cX1_atOdds.data.toList.drop 47 = dktX1_atOdds_2 := dk_seg dksX1_atOdds_1 23 rfl rfl
theorem dX1_atOdds_0 : decode cX1_atOdds 0 = .ok (.iconst 0, 1) := dk_3 (dk_at dksX1_atOdds_0 0 rfl rfl)
theorem dX1_atOdds_1 : decode cX1_atOdds 1 = .ok (.istore_n 1, 1) := dk_60 (dk_at dksX1_atOdds_0 1 rfl rfl)
theorem dX1_atOdds_2 : decode cX1_atOdds 2 = .ok (.iconst 0, 1) := dk_3 (dk_at dksX1_atOdds_0 2 rfl rfl)
theorem dX1_atOdds_3 : decode cX1_atOdds 3 = .ok (.istore_n 2, 1) := dk_61 (dk_at dksX1_atOdds_0 3 rfl rfl)
theorem dX1_atOdds_4 : decode cX1_atOdds 4 = .ok (.iload_n 2, 1) := dk_28 (dk_at dksX1_atOdds_0 4 rfl rfl)
theorem dX1_atOdds_5 : decode cX1_atOdds 5 = .ok (.aload_n 0, 1) := dk_42 (dk_at dksX1_atOdds_0 5 rfl rfl)
theorem dX1_atOdds_6 : decode cX1_atOdds 6 = .ok (.getfield 49, 3) := dk_180 0 49 (dk_at dksX1_atOdds_0 6 rfl rfl)
theorem dX1_atOdds_9 : decode cX1_atOdds 9 = .ok (.if_icmp .ge 44, 3) := dk_162 0 44 (dk_at dksX1_atOdds_0 9 rfl rfl)
theorem dX1_atOdds_12 : decode cX1_atOdds 12 = .ok (.iload_n 2, 1) := dk_28 (dk_at dksX1_atOdds_0 12 rfl rfl)
theorem dX1_atOdds_13 : decode cX1_atOdds 13 = .ok (.iconst 1, 1) := dk_4 (dk_at dksX1_atOdds_0 13 rfl rfl)
theorem dX1_atOdds_14 : decode cX1_atOdds 14 = .ok (.iadd, 1) := dk_96 (dk_at dksX1_atOdds_0 14 rfl rfl)
theorem dX1_atOdds_15 : decode cX1_atOdds 15 = .ok (.istore_n 3, 1) := dk_62 (dk_at dksX1_atOdds_0 15 rfl rfl)
theorem dX1_atOdds_16 : decode cX1_atOdds 16 = .ok (.iload_n 3, 1) := dk_29 (dk_at dksX1_atOdds_0 16 rfl rfl)
theorem dX1_atOdds_17 : decode cX1_atOdds 17 = .ok (.aload_n 0, 1) := dk_42 (dk_at dksX1_atOdds_0 17 rfl rfl)
theorem dX1_atOdds_18 : decode cX1_atOdds 18 = .ok (.getfield 49, 3) := dk_180 0 49 (dk_at dksX1_atOdds_0 18 rfl rfl)
theorem dX1_atOdds_21 : decode cX1_atOdds 21 = .ok (.if_icmp .ge 26, 3) := dk_162 0 26 (dk_at dksX1_atOdds_0 21 rfl rfl)
theorem dX1_atOdds_24 : decode cX1_atOdds 24 = .ok (.iload_n 1, 1) := dk_27 (dk_at dksX1_atOdds_1 0 rfl rfl)
theorem dX1_atOdds_25 : decode cX1_atOdds 25 = .ok (.aload_n 0, 1) := dk_42 (dk_at dksX1_atOdds_1 1 rfl rfl)
theorem dX1_atOdds_26 : decode cX1_atOdds 26 = .ok (.iload_n 2, 1) := dk_28 (dk_at dksX1_atOdds_1 2 rfl rfl)
theorem dX1_atOdds_27 : decode cX1_atOdds 27 = .ok (.iload_n 3, 1) := dk_29 (dk_at dksX1_atOdds_1 3 rfl rfl)
theorem dX1_atOdds_28 : decode cX1_atOdds 28 = .ok (.invokevirtual 83, 3) := dk_182 0 83 (dk_at dksX1_atOdds_1 4 rfl rfl)
theorem dX1_atOdds_31 : decode cX1_atOdds 31 = .ok (.ifCond .eq 7, 3) := dk_153 0 7 (dk_at dksX1_atOdds_1 7 rfl rfl)
theorem dX1_atOdds_34 : decode cX1_atOdds 34 = .ok (.iconst 1, 1) := dk_4 (dk_at dksX1_atOdds_1 10 rfl rfl)
theorem dX1_atOdds_35 : decode cX1_atOdds 35 = .ok (.goto 4, 3) := dk_167 0 4 (dk_at dksX1_atOdds_1 11 rfl rfl)
theorem dX1_atOdds_38 : decode cX1_atOdds 38 = .ok (.iconst 0, 1) := dk_3 (dk_at dksX1_atOdds_1 14 rfl rfl)
theorem dX1_atOdds_39 : decode cX1_atOdds 39 = .ok (.iadd, 1) := dk_96 (dk_at dksX1_atOdds_1 15 rfl rfl)
theorem dX1_atOdds_40 : decode cX1_atOdds 40 = .ok (.istore_n 1, 1) := dk_60 (dk_at dksX1_atOdds_1 16 rfl rfl)
theorem dX1_atOdds_41 : decode cX1_atOdds 41 = .ok (.iinc 3 1, 3) := dk_132 3 1 (dk_at dksX1_atOdds_1 17 rfl rfl)
theorem dX1_atOdds_44 : decode cX1_atOdds 44 = .ok (.goto (-28), 3) := dk_167 255 228 (dk_at dksX1_atOdds_1 20 rfl rfl)
theorem dX1_atOdds_47 : decode cX1_atOdds 47 = .ok (.iinc 2 1, 3) := dk_132 2 1 (dk_at dksX1_atOdds_2 0 rfl rfl)
theorem dX1_atOdds_50 : decode cX1_atOdds 50 = .ok (.goto (-46), 3) := dk_167 255 210 (dk_at dksX1_atOdds_2 3 rfl rfl)
theorem dX1_atOdds_53 : decode cX1_atOdds 53 = .ok (.iload_n 1, 1) := dk_27 (dk_at dksX1_atOdds_2 6 rfl rfl)
theorem dX1_atOdds_54 : decode cX1_atOdds 54 = .ok (.ireturn, 1) := dk_172 (dk_at dksX1_atOdds_2 7 rfl rfl)
abbrev cX1_isAtOdds : ByteArray := prog_11_method_13_code
def yX1_isAtOdds : MethodName := ⟨RX1, "isAtOdds", "(II)Z"⟩
def dkwX1_isAtOdds_2 : List UInt8 := [46, 159, 0, 7, 4, 167, 0, 4, 3, 172]
abbrev dktX1_isAtOdds_2 : List UInt8 := dkwX1_isAtOdds_2 ++ []
def dkwX1_isAtOdds_1 : List UInt8 := [159, 0, 32, 42, 180, 0, 31, 28, 46, 2, 159, 0, 22, 42, 180, 0, 31, 27, 46, 42, 180, 0, 31, 28]
abbrev dktX1_isAtOdds_1 : List UInt8 := dkwX1_isAtOdds_1 ++ dktX1_isAtOdds_2
def dkwX1_isAtOdds_0 : List UInt8 := [42, 27, 182, 0, 79, 154, 0, 50, 42, 28, 182, 0, 79, 154, 0, 42, 42, 180, 0, 31, 27, 46, 2]
abbrev dktX1_isAtOdds_0 : List UInt8 := dkwX1_isAtOdds_0 ++ dktX1_isAtOdds_1
theorem dksX1_isAtOdds_0 : cX1_isAtOdds.data.toList.drop 0 = dktX1_isAtOdds_0 := by decide +kernel
theorem dksX1_isAtOdds_1 : cX1_isAtOdds.data.toList.drop 23 = dktX1_isAtOdds_1 := dk_seg dksX1_isAtOdds_0 23 rfl rfl
theorem dksX1_isAtOdds_2 : cX1_isAtOdds.data.toList.drop 47 = dktX1_isAtOdds_2 := dk_seg dksX1_isAtOdds_1 24 rfl rfl
theorem dX1_isAtOdds_0 : decode cX1_isAtOdds 0 = .ok (.aload_n 0, 1) := dk_42 (dk_at dksX1_isAtOdds_0 0 rfl rfl)
theorem dX1_isAtOdds_1 : decode cX1_isAtOdds 1 = .ok (.iload_n 1, 1) := dk_27 (dk_at dksX1_isAtOdds_0 1 rfl rfl)
theorem dX1_isAtOdds_2 : decode cX1_isAtOdds 2 = .ok (.invokevirtual 79, 3) := dk_182 0 79 (dk_at dksX1_isAtOdds_0 2 rfl rfl)
theorem dX1_isAtOdds_5 : decode cX1_isAtOdds 5 = .ok (.ifCond .ne 50, 3) := dk_154 0 50 (dk_at dksX1_isAtOdds_0 5 rfl rfl)
theorem dX1_isAtOdds_8 : decode cX1_isAtOdds 8 = .ok (.aload_n 0, 1) := dk_42 (dk_at dksX1_isAtOdds_0 8 rfl rfl)
theorem dX1_isAtOdds_9 : decode cX1_isAtOdds 9 = .ok (.iload_n 2, 1) := dk_28 (dk_at dksX1_isAtOdds_0 9 rfl rfl)
theorem dX1_isAtOdds_10 : decode cX1_isAtOdds 10 = .ok (.invokevirtual 79, 3) := dk_182 0 79 (dk_at dksX1_isAtOdds_0 10 rfl rfl)
theorem dX1_isAtOdds_13 : decode cX1_isAtOdds 13 = .ok (.ifCond .ne 42, 3) := dk_154 0 42 (dk_at dksX1_isAtOdds_0 13 rfl rfl)
theorem dX1_isAtOdds_16 : decode cX1_isAtOdds 16 = .ok (.aload_n 0, 1) := dk_42 (dk_at dksX1_isAtOdds_0 16 rfl rfl)
theorem dX1_isAtOdds_17 : decode cX1_isAtOdds 17 = .ok (.getfield 31, 3) := dk_180 0 31 (dk_at dksX1_isAtOdds_0 17 rfl rfl)
theorem dX1_isAtOdds_20 : decode cX1_isAtOdds 20 = .ok (.iload_n 1, 1) := dk_27 (dk_at dksX1_isAtOdds_0 20 rfl rfl)
theorem dX1_isAtOdds_21 : decode cX1_isAtOdds 21 = .ok (.iaload, 1) := dk_46 (dk_at dksX1_isAtOdds_0 21 rfl rfl)
theorem dX1_isAtOdds_22 : decode cX1_isAtOdds 22 = .ok (.iconst (-1), 1) := dk_2 (dk_at dksX1_isAtOdds_0 22 rfl rfl)
theorem dX1_isAtOdds_23 : decode cX1_isAtOdds 23 = .ok (.if_icmp .eq 32, 3) := dk_159 0 32 (dk_at dksX1_isAtOdds_1 0 rfl rfl)
theorem dX1_isAtOdds_26 : decode cX1_isAtOdds 26 = .ok (.aload_n 0, 1) := dk_42 (dk_at dksX1_isAtOdds_1 3 rfl rfl)
theorem dX1_isAtOdds_27 : decode cX1_isAtOdds 27 = .ok (.getfield 31, 3) := dk_180 0 31 (dk_at dksX1_isAtOdds_1 4 rfl rfl)
theorem dX1_isAtOdds_30 : decode cX1_isAtOdds 30 = .ok (.iload_n 2, 1) := dk_28 (dk_at dksX1_isAtOdds_1 7 rfl rfl)
theorem dX1_isAtOdds_31 : decode cX1_isAtOdds 31 = .ok (.iaload, 1) := dk_46 (dk_at dksX1_isAtOdds_1 8 rfl rfl)
theorem dX1_isAtOdds_32 : decode cX1_isAtOdds 32 = .ok (.iconst (-1), 1) := dk_2 (dk_at dksX1_isAtOdds_1 9 rfl rfl)
theorem dX1_isAtOdds_33 : decode cX1_isAtOdds 33 = .ok (.if_icmp .eq 22, 3) := dk_159 0 22 (dk_at dksX1_isAtOdds_1 10 rfl rfl)
theorem dX1_isAtOdds_36 : decode cX1_isAtOdds 36 = .ok (.aload_n 0, 1) := dk_42 (dk_at dksX1_isAtOdds_1 13 rfl rfl)
theorem dX1_isAtOdds_37 : decode cX1_isAtOdds 37 = .ok (.getfield 31, 3) := dk_180 0 31 (dk_at dksX1_isAtOdds_1 14 rfl rfl)
theorem dX1_isAtOdds_40 : decode cX1_isAtOdds 40 = .ok (.iload_n 1, 1) := dk_27 (dk_at dksX1_isAtOdds_1 17 rfl rfl)
theorem dX1_isAtOdds_41 : decode cX1_isAtOdds 41 = .ok (.iaload, 1) := dk_46 (dk_at dksX1_isAtOdds_1 18 rfl rfl)
theorem dX1_isAtOdds_42 : decode cX1_isAtOdds 42 = .ok (.aload_n 0, 1) := dk_42 (dk_at dksX1_isAtOdds_1 19 rfl rfl)
theorem dX1_isAtOdds_43 : decode cX1_isAtOdds 43 = .ok (.getfield 31, 3) := dk_180 0 31 (dk_at dksX1_isAtOdds_1 20 rfl rfl)
theorem dX1_isAtOdds_46 : decode cX1_isAtOdds 46 = .ok (.iload_n 2, 1) := dk_28 (dk_at dksX1_isAtOdds_1 23 rfl rfl)
theorem dX1_isAtOdds_47 : decode cX1_isAtOdds 47 = .ok (.iaload, 1) := dk_46 (dk_at dksX1_isAtOdds_2 0 rfl rfl)
theorem dX1_isAtOdds_48 : decode cX1_isAtOdds 48 = .ok (.if_icmp .eq 7, 3) := dk_159 0 7 (dk_at dksX1_isAtOdds_2 1 rfl rfl)
theorem dX1_isAtOdds_51 : decode cX1_isAtOdds 51 = .ok (.iconst 1, 1) := dk_4 (dk_at dksX1_isAtOdds_2 4 rfl rfl)
theorem dX1_isAtOdds_52 : decode cX1_isAtOdds 52 = .ok (.goto 4, 3) := dk_167 0 4 (dk_at dksX1_isAtOdds_2 5 rfl rfl)
theorem dX1_isAtOdds_55 : decode cX1_isAtOdds 55 = .ok (.iconst 0, 1) := dk_3 (dk_at dksX1_isAtOdds_2 8 rfl rfl)
theorem dX1_isAtOdds_56 : decode cX1_isAtOdds 56 = .ok (.ireturn, 1) := dk_172 (dk_at dksX1_isAtOdds_2 9 rfl rfl)
abbrev cX1_purposes : ByteArray := prog_11_method_11_code
def yX1_purposes : MethodName := ⟨RX1, "purposes", "()I"⟩
def dkwX1_purposes_1 : List UInt8 := [167, 0, 11, 4, 42, 180, 0, 31, 28, 46, 120, 128, 60, 132, 2, 1, 167, 255, 220, 27, 172]
abbrev dktX1_purposes_1 : List UInt8 := dkwX1_purposes_1 ++ []
def dkwX1_purposes_0 : List UInt8 := [3, 60, 3, 61, 28, 42, 180, 0, 49, 162, 0, 34, 27, 42, 180, 0, 31, 28, 46, 2, 160, 0, 7, 3]
abbrev dktX1_purposes_0 : List UInt8 := dkwX1_purposes_0 ++ dktX1_purposes_1
theorem dksX1_purposes_0 : cX1_purposes.data.toList.drop 0 = dktX1_purposes_0 := by decide +kernel
theorem dksX1_purposes_1 : cX1_purposes.data.toList.drop 24 = dktX1_purposes_1 := dk_seg dksX1_purposes_0 24 rfl rfl
theorem dX1_purposes_0 : decode cX1_purposes 0 = .ok (.iconst 0, 1) := dk_3 (dk_at dksX1_purposes_0 0 rfl rfl)
theorem dX1_purposes_1 : decode cX1_purposes 1 = .ok (.istore_n 1, 1) := dk_60 (dk_at dksX1_purposes_0 1 rfl rfl)
theorem dX1_purposes_2 : decode cX1_purposes 2 = .ok (.iconst 0, 1) := dk_3 (dk_at dksX1_purposes_0 2 rfl rfl)
theorem dX1_purposes_3 : decode cX1_purposes 3 = .ok (.istore_n 2, 1) := dk_61 (dk_at dksX1_purposes_0 3 rfl rfl)
theorem dX1_purposes_4 : decode cX1_purposes 4 = .ok (.iload_n 2, 1) := dk_28 (dk_at dksX1_purposes_0 4 rfl rfl)
theorem dX1_purposes_5 : decode cX1_purposes 5 = .ok (.aload_n 0, 1) := dk_42 (dk_at dksX1_purposes_0 5 rfl rfl)
theorem dX1_purposes_6 : decode cX1_purposes 6 = .ok (.getfield 49, 3) := dk_180 0 49 (dk_at dksX1_purposes_0 6 rfl rfl)
theorem dX1_purposes_9 : decode cX1_purposes 9 = .ok (.if_icmp .ge 34, 3) := dk_162 0 34 (dk_at dksX1_purposes_0 9 rfl rfl)
theorem dX1_purposes_12 : decode cX1_purposes 12 = .ok (.iload_n 1, 1) := dk_27 (dk_at dksX1_purposes_0 12 rfl rfl)
theorem dX1_purposes_13 : decode cX1_purposes 13 = .ok (.aload_n 0, 1) := dk_42 (dk_at dksX1_purposes_0 13 rfl rfl)
theorem dX1_purposes_14 : decode cX1_purposes 14 = .ok (.getfield 31, 3) := dk_180 0 31 (dk_at dksX1_purposes_0 14 rfl rfl)
theorem dX1_purposes_17 : decode cX1_purposes 17 = .ok (.iload_n 2, 1) := dk_28 (dk_at dksX1_purposes_0 17 rfl rfl)
theorem dX1_purposes_18 : decode cX1_purposes 18 = .ok (.iaload, 1) := dk_46 (dk_at dksX1_purposes_0 18 rfl rfl)
theorem dX1_purposes_19 : decode cX1_purposes 19 = .ok (.iconst (-1), 1) := dk_2 (dk_at dksX1_purposes_0 19 rfl rfl)
theorem dX1_purposes_20 : decode cX1_purposes 20 = .ok (.if_icmp .ne 7, 3) := dk_160 0 7 (dk_at dksX1_purposes_0 20 rfl rfl)
theorem dX1_purposes_23 : decode cX1_purposes 23 = .ok (.iconst 0, 1) := dk_3 (dk_at dksX1_purposes_0 23 rfl rfl)
theorem dX1_purposes_24 : decode cX1_purposes 24 = .ok (.goto 11, 3) := dk_167 0 11 (dk_at dksX1_purposes_1 0 rfl rfl)
theorem dX1_purposes_27 : decode cX1_purposes 27 = .ok (.iconst 1, 1) := dk_4 (dk_at dksX1_purposes_1 3 rfl rfl)
theorem dX1_purposes_28 : decode cX1_purposes 28 = .ok (.aload_n 0, 1) := dk_42 (dk_at dksX1_purposes_1 4 rfl rfl)
theorem dX1_purposes_29 : decode cX1_purposes 29 = .ok (.getfield 31, 3) := dk_180 0 31 (dk_at dksX1_purposes_1 5 rfl rfl)
theorem dX1_purposes_32 : decode cX1_purposes 32 = .ok (.iload_n 2, 1) := dk_28 (dk_at dksX1_purposes_1 8 rfl rfl)
theorem dX1_purposes_33 : decode cX1_purposes 33 = .ok (.iaload, 1) := dk_46 (dk_at dksX1_purposes_1 9 rfl rfl)
theorem dX1_purposes_34 : decode cX1_purposes 34 = .ok (.ishl, 1) := dk_120 (dk_at dksX1_purposes_1 10 rfl rfl)
theorem dX1_purposes_35 : decode cX1_purposes 35 = .ok (.ior, 1) := dk_128 (dk_at dksX1_purposes_1 11 rfl rfl)
theorem dX1_purposes_36 : decode cX1_purposes 36 = .ok (.istore_n 1, 1) := dk_60 (dk_at dksX1_purposes_1 12 rfl rfl)
theorem dX1_purposes_37 : decode cX1_purposes 37 = .ok (.iinc 2 1, 3) := dk_132 2 1 (dk_at dksX1_purposes_1 13 rfl rfl)
theorem dX1_purposes_40 : decode cX1_purposes 40 = .ok (.goto (-36), 3) := dk_167 255 220 (dk_at dksX1_purposes_1 16 rfl rfl)
theorem dX1_purposes_43 : decode cX1_purposes 43 = .ok (.iload_n 1, 1) := dk_27 (dk_at dksX1_purposes_1 19 rfl rfl)
theorem dX1_purposes_44 : decode cX1_purposes 44 = .ok (.ireturn, 1) := dk_172 (dk_at dksX1_purposes_1 20 rfl rfl)
theorem q101 : (Jvm.Cond.initialized "IntentVats$Mill") ∈ lw_all := lw_g (lw_at lw_m1 2 rfl) rfl
theorem q143 : (Jvm.Cond.instantiable "IntentVats$Mill" (12 : Nat)) ∈ lw_all := lw_g (lw_at lw_m1 44 rfl) rfl
theorem q145 : (Jvm.Cond.instanceMethod ({ cls := "IntentVats$Mill", name := "<init>", desc := "()V" } : Jvm.MethodName)) ∈ lw_all := lw_g (lw_at lw_m1 46 rfl) rfl
theorem q146 : (Jvm.Cond.code ({ cls := "IntentVats$Mill", name := "<init>", desc := "()V" } : Jvm.MethodName) prog_11_method_1_code (1 : Nat) (Option.none : Option Jvm.ClassFile.FieldType)) ∈ lw_all := lw_g (lw_at lw_m1 47 rfl) rfl
theorem q147 : (Jvm.Cond.methodLink "IntentVats$Mill" (3 : Nat) ({ cls := "java/lang/Object", name := "<init>", desc := "()V" } : Jvm.MethodName)) ∈ lw_all := lw_g (lw_at lw_m1 48 rfl) rfl
theorem q148 : (Jvm.Cond.methodLink "IntentVats$Mill" (40 : Nat) ({ cls := "IntentVats$Mill", name := "begins", desc := "()V" } : Jvm.MethodName)) ∈ lw_all := lw_g (lw_at lw_m1 49 rfl) rfl
theorem q149 : (Jvm.Cond.instanceMethod ({ cls := "IntentVats$Mill", name := "begins", desc := "()V" } : Jvm.MethodName)) ∈ lw_all := lw_g (lw_at lw_m1 50 rfl) rfl
theorem q150 : (Jvm.Cond.selects "IntentVats$Mill" ({ cls := "IntentVats$Mill", name := "begins", desc := "()V" } : Jvm.MethodName) ({ cls := "IntentVats$Mill", name := "begins", desc := "()V" } : Jvm.MethodName)) ∈ lw_all := lw_g (lw_at lw_m1 51 rfl) rfl
theorem q151 : (Jvm.Cond.code ({ cls := "IntentVats$Mill", name := "begins", desc := "()V" } : Jvm.MethodName) prog_11_method_3_code (2 : Nat) (Option.none : Option Jvm.ClassFile.FieldType)) ∈ lw_all := lw_g (lw_at lw_m1 52 rfl) rfl
theorem q152 : (Jvm.Cond.fieldLink "IntentVats$Mill" (49 : Nat) "IntentVats$Mill" "many" "I") ∈ lw_all := lw_g (lw_at lw_m1 53 rfl) rfl
theorem q155 : (Jvm.Cond.fieldLink "IntentVats$Mill" (52 : Nat) "IntentVats$Mill" "day" "I") ∈ lw_all := lw_g (lw_at lw_m1 56 rfl) rfl
theorem q157 : (Jvm.Cond.fieldLink "IntentVats$Mill" (55 : Nat) "IntentVats$Mill" "hung" "I") ∈ lw_all := lw_g (lw_at lw_m1 58 rfl) rfl
theorem q159 : (Jvm.Cond.fieldLink "IntentVats$Mill" (9 : Nat) "IntentVats$Mill" "z" "I") ∈ lw_all := lw_g (lw_at lw_m1 60 rfl) rfl
theorem q161 : (Jvm.Cond.fieldLink "IntentVats$Mill" (15 : Nat) "IntentVats$Mill" "law" "[I") ∈ lw_all := lw_g (lw_at lw_m1 62 rfl) rfl
theorem q170 : (Jvm.Cond.fieldLink "IntentVats$Mill" (19 : Nat) "IntentVats$Mill" "purpose" "[I") ∈ lw_all := lw_g (lw_at lw_m1 71 rfl) rfl
theorem q173 : (Jvm.Cond.fieldLink "IntentVats$Mill" (22 : Nat) "IntentVats$Mill" "strength" "[I") ∈ lw_all := lw_g (lw_at lw_m1 74 rfl) rfl
theorem q177 : (Jvm.Cond.fieldLink "IntentVats$Mill" (25 : Nat) "IntentVats$Mill" "roster" "[I") ∈ lw_all := lw_g (lw_at lw_m1 78 rfl) rfl
theorem q180 : (Jvm.Cond.fieldLink "IntentVats$Mill" (28 : Nat) "IntentVats$Mill" "kind" "[I") ∈ lw_all := lw_g (lw_at lw_m1 81 rfl) rfl
theorem q182 : (Jvm.Cond.fieldLink "IntentVats$Mill" (31 : Nat) "IntentVats$Mill" "about" "[I") ∈ lw_all := lw_g (lw_at lw_m1 83 rfl) rfl
theorem q185 : (Jvm.Cond.fieldLink "IntentVats$Mill" (34 : Nat) "IntentVats$Mill" "deep" "[I") ∈ lw_all := lw_g (lw_at lw_m1 86 rfl) rfl
theorem q188 : (Jvm.Cond.fieldLink "IntentVats$Mill" (37 : Nat) "IntentVats$Mill" "dips" "[I") ∈ lw_all := lw_g (lw_at lw_m1 89 rfl) rfl
theorem q190 : (Jvm.Cond.lays "IntentVats$Mill" "IntentVats$Mill" "many" "I") ∈ lw_all := lw_g (lw_at lw_m1 91 rfl) rfl
theorem q191 : (Jvm.Cond.soleField "IntentVats$Mill" "many") ∈ lw_all := lw_g (lw_at lw_m1 92 rfl) rfl
theorem q192 : (Jvm.Cond.lays "IntentVats$Mill" "IntentVats$Mill" "day" "I") ∈ lw_all := lw_g (lw_at lw_m1 93 rfl) rfl
theorem q193 : (Jvm.Cond.soleField "IntentVats$Mill" "day") ∈ lw_all := lw_g (lw_at lw_m1 94 rfl) rfl
theorem q194 : (Jvm.Cond.lays "IntentVats$Mill" "IntentVats$Mill" "hung" "I") ∈ lw_all := lw_g (lw_at lw_m1 95 rfl) rfl
theorem q195 : (Jvm.Cond.soleField "IntentVats$Mill" "hung") ∈ lw_all := lw_g (lw_at lw_m1 96 rfl) rfl
theorem q196 : (Jvm.Cond.lays "IntentVats$Mill" "IntentVats$Mill" "z" "I") ∈ lw_all := lw_g (lw_at lw_m1 97 rfl) rfl
theorem q197 : (Jvm.Cond.soleField "IntentVats$Mill" "z") ∈ lw_all := lw_g (lw_at lw_m1 98 rfl) rfl
theorem q198 : (Jvm.Cond.laysFinal "IntentVats$Mill" "IntentVats$Mill" "law" "[I") ∈ lw_all := lw_g (lw_at lw_m1 99 rfl) rfl
theorem q199 : (Jvm.Cond.soleField "IntentVats$Mill" "law") ∈ lw_all := lw_g (lw_at lw_m1 100 rfl) rfl
theorem q200 : (Jvm.Cond.laysFinal "IntentVats$Mill" "IntentVats$Mill" "purpose" "[I") ∈ lw_all := lw_g (lw_at lw_m1 101 rfl) rfl
theorem q201 : (Jvm.Cond.soleField "IntentVats$Mill" "purpose") ∈ lw_all := lw_g (lw_at lw_m1 102 rfl) rfl
theorem q202 : (Jvm.Cond.laysFinal "IntentVats$Mill" "IntentVats$Mill" "strength" "[I") ∈ lw_all := lw_g (lw_at lw_m1 103 rfl) rfl
theorem q203 : (Jvm.Cond.soleField "IntentVats$Mill" "strength") ∈ lw_all := lw_g (lw_at lw_m1 104 rfl) rfl
theorem q204 : (Jvm.Cond.laysFinal "IntentVats$Mill" "IntentVats$Mill" "roster" "[I") ∈ lw_all := lw_g (lw_at lw_m1 105 rfl) rfl
theorem q205 : (Jvm.Cond.soleField "IntentVats$Mill" "roster") ∈ lw_all := lw_g (lw_at lw_m1 106 rfl) rfl
theorem q206 : (Jvm.Cond.laysFinal "IntentVats$Mill" "IntentVats$Mill" "kind" "[I") ∈ lw_all := lw_g (lw_at lw_m1 107 rfl) rfl
theorem q207 : (Jvm.Cond.soleField "IntentVats$Mill" "kind") ∈ lw_all := lw_g (lw_at lw_m1 108 rfl) rfl
theorem q208 : (Jvm.Cond.laysFinal "IntentVats$Mill" "IntentVats$Mill" "about" "[I") ∈ lw_all := lw_g (lw_at lw_m1 109 rfl) rfl
theorem q209 : (Jvm.Cond.soleField "IntentVats$Mill" "about") ∈ lw_all := lw_g (lw_at lw_m1 110 rfl) rfl
theorem q210 : (Jvm.Cond.laysFinal "IntentVats$Mill" "IntentVats$Mill" "deep" "[I") ∈ lw_all := lw_g (lw_at lw_m1 111 rfl) rfl
theorem q211 : (Jvm.Cond.soleField "IntentVats$Mill" "deep") ∈ lw_all := lw_g (lw_at lw_m1 112 rfl) rfl
theorem q212 : (Jvm.Cond.laysFinal "IntentVats$Mill" "IntentVats$Mill" "dips" "[I") ∈ lw_all := lw_g (lw_at lw_m1 113 rfl) rfl
theorem q213 : (Jvm.Cond.soleField "IntentVats$Mill" "dips") ∈ lw_all := lw_g (lw_at lw_m1 114 rfl) rfl
theorem q214 : (Jvm.Cond.superclass "IntentVats$Mill" "java/lang/Object") ∈ lw_all := lw_g (lw_at lw_m1 115 rfl) rfl
theorem q517 : (Jvm.Cond.instanceMethod ({ cls := "IntentVats$Mill", name := "become", desc := "(LIntentVats$Mill;)V" } : Jvm.MethodName)) ∈ lw_all := lw_g (lw_at lw_m2 178 rfl) rfl
theorem q518 : (Jvm.Cond.selects "IntentVats$Mill" ({ cls := "IntentVats$Mill", name := "become", desc := "(LIntentVats$Mill;)V" } : Jvm.MethodName) ({ cls := "IntentVats$Mill", name := "become", desc := "(LIntentVats$Mill;)V" } : Jvm.MethodName)) ∈ lw_all := lw_g (lw_at lw_m2 179 rfl) rfl
theorem q519 : (Jvm.Cond.code ({ cls := "IntentVats$Mill", name := "become", desc := "(LIntentVats$Mill;)V" } : Jvm.MethodName) prog_11_method_4_code (2 : Nat) (Option.none : Option Jvm.ClassFile.FieldType)) ∈ lw_all := lw_g (lw_at lw_m2 180 rfl) rfl
theorem q520 : (Jvm.Cond.methodLink "IntentVats$Mill" (58 : Nat) ({ cls := "IntentVats$Mill", name := "copy", desc := "([I[I)V" } : Jvm.MethodName)) ∈ lw_all := lw_g (lw_at lw_m2 181 rfl) rfl
theorem q521 : (Jvm.Cond.static ({ cls := "IntentVats$Mill", name := "copy", desc := "([I[I)V" } : Jvm.MethodName)) ∈ lw_all := lw_g (lw_at lw_m2 182 rfl) rfl
theorem q522 : (Jvm.Cond.code ({ cls := "IntentVats$Mill", name := "copy", desc := "([I[I)V" } : Jvm.MethodName) prog_11_method_2_code (2 : Nat) (Option.none : Option Jvm.ClassFile.FieldType)) ∈ lw_all := lw_g (lw_at lw_m2 183 rfl) rfl
theorem q523 : (Jvm.Cond.methodLink "IntentVats$Mill" (43 : Nat) ({ cls := "java/lang/System", name := "arraycopy", desc := "(Ljava/lang/Object;ILjava/lang/Object;II)V" } : Jvm.MethodName)) ∈ lw_all := lw_g (lw_at lw_m2 184 rfl) rfl
theorem q621 : (Jvm.Cond.instanceMethod ({ cls := "IntentVats$Mill", name := "add", desc := "(I)I" } : Jvm.MethodName)) ∈ lw_all := lw_g (lw_at lw_m3 42 rfl) rfl
theorem q622 : (Jvm.Cond.selects "IntentVats$Mill" ({ cls := "IntentVats$Mill", name := "add", desc := "(I)I" } : Jvm.MethodName) ({ cls := "IntentVats$Mill", name := "add", desc := "(I)I" } : Jvm.MethodName)) ∈ lw_all := lw_g (lw_at lw_m3 43 rfl) rfl
theorem q623 : (Jvm.Cond.code ({ cls := "IntentVats$Mill", name := "add", desc := "(I)I" } : Jvm.MethodName) prog_11_method_5_code (3 : Nat) (Option.some Jvm.ClassFile.FieldType.int)) ∈ lw_all := lw_g (lw_at lw_m3 44 rfl) rfl
theorem q624 : (Jvm.Cond.methodLink "IntentVats$Mill" (62 : Nat) ({ cls := "IntentVats$Mill", name := "hangs", desc := "(IZ)V" } : Jvm.MethodName)) ∈ lw_all := lw_g (lw_at lw_m3 45 rfl) rfl
theorem q625 : (Jvm.Cond.instanceMethod ({ cls := "IntentVats$Mill", name := "hangs", desc := "(IZ)V" } : Jvm.MethodName)) ∈ lw_all := lw_g (lw_at lw_m3 46 rfl) rfl
theorem q626 : (Jvm.Cond.selects "IntentVats$Mill" ({ cls := "IntentVats$Mill", name := "hangs", desc := "(IZ)V" } : Jvm.MethodName) ({ cls := "IntentVats$Mill", name := "hangs", desc := "(IZ)V" } : Jvm.MethodName)) ∈ lw_all := lw_g (lw_at lw_m3 47 rfl) rfl
theorem q627 : (Jvm.Cond.code ({ cls := "IntentVats$Mill", name := "hangs", desc := "(IZ)V" } : Jvm.MethodName) prog_11_method_6_code (3 : Nat) (Option.none : Option Jvm.ClassFile.FieldType)) ∈ lw_all := lw_g (lw_at lw_m3 48 rfl) rfl
theorem q720 : (Jvm.Cond.instanceMethod ({ cls := "IntentVats$Mill", name := "isHung", desc := "(I)Z" } : Jvm.MethodName)) ∈ lw_all := lw_g (lw_at lw_m3 141 rfl) rfl
theorem q721 : (Jvm.Cond.selects "IntentVats$Mill" ({ cls := "IntentVats$Mill", name := "isHung", desc := "(I)Z" } : Jvm.MethodName) ({ cls := "IntentVats$Mill", name := "isHung", desc := "(I)Z" } : Jvm.MethodName)) ∈ lw_all := lw_g (lw_at lw_m3 142 rfl) rfl
theorem q722 : (Jvm.Cond.code ({ cls := "IntentVats$Mill", name := "isHung", desc := "(I)Z" } : Jvm.MethodName) prog_11_method_7_code (2 : Nat) (Option.some Jvm.ClassFile.FieldType.boolean)) ∈ lw_all := lw_g (lw_at lw_m3 143 rfl) rfl
theorem q723 : (Jvm.Cond.methodLinkNest "IntentVats$Mill" (66 : Nat) ({ cls := "IntentVats", name := "has", desc := "(II)Z" } : Jvm.MethodName) "IntentVats") ∈ lw_tbl := lw_at lw_m3 144 rfl
theorem q830 : (Jvm.Cond.instanceMethod ({ cls := "IntentVats$Mill", name := "settles", desc := "(I)V" } : Jvm.MethodName)) ∈ lw_all := lw_g (lw_at lw_m4 11 rfl) rfl
theorem q831 : (Jvm.Cond.selects "IntentVats$Mill" ({ cls := "IntentVats$Mill", name := "settles", desc := "(I)V" } : Jvm.MethodName) ({ cls := "IntentVats$Mill", name := "settles", desc := "(I)V" } : Jvm.MethodName)) ∈ lw_all := lw_g (lw_at lw_m4 12 rfl) rfl
theorem q832 : (Jvm.Cond.code ({ cls := "IntentVats$Mill", name := "settles", desc := "(I)V" } : Jvm.MethodName) prog_11_method_9_code (2 : Nat) (Option.none : Option Jvm.ClassFile.FieldType)) ∈ lw_all := lw_g (lw_at lw_m4 13 rfl) rfl
theorem q833 : (Jvm.Cond.methodLink "IntentVats$Mill" (70 : Nat) ({ cls := "java/lang/Math", name := "min", desc := "(II)I" } : Jvm.MethodName)) ∈ lw_all := lw_g (lw_at lw_m4 14 rfl) rfl
theorem q836 : (Jvm.Cond.methodLink "IntentVats$Mill" (76 : Nat) ({ cls := "java/lang/Math", name := "max", desc := "(II)I" } : Jvm.MethodName)) ∈ lw_all := lw_g (lw_at lw_m4 17 rfl) rfl
theorem q854 : (Jvm.Cond.instanceMethod ({ cls := "IntentVats$Mill", name := "vatNow", desc := "()I" } : Jvm.MethodName)) ∈ lw_all := lw_g (lw_at lw_m4 35 rfl) rfl
theorem q855 : (Jvm.Cond.selects "IntentVats$Mill" ({ cls := "IntentVats$Mill", name := "vatNow", desc := "()I" } : Jvm.MethodName) ({ cls := "IntentVats$Mill", name := "vatNow", desc := "()I" } : Jvm.MethodName)) ∈ lw_all := lw_g (lw_at lw_m4 36 rfl) rfl
theorem q856 : (Jvm.Cond.code ({ cls := "IntentVats$Mill", name := "vatNow", desc := "()I" } : Jvm.MethodName) prog_11_method_8_code (1 : Nat) (Option.some Jvm.ClassFile.FieldType.int)) ∈ lw_all := lw_g (lw_at lw_m4 37 rfl) rfl
theorem q858 : (Jvm.Cond.instanceMethod ({ cls := "IntentVats$Mill", name := "depths", desc := "()I" } : Jvm.MethodName)) ∈ lw_all := lw_g (lw_at lw_m4 39 rfl) rfl
theorem q859 : (Jvm.Cond.selects "IntentVats$Mill" ({ cls := "IntentVats$Mill", name := "depths", desc := "()I" } : Jvm.MethodName) ({ cls := "IntentVats$Mill", name := "depths", desc := "()I" } : Jvm.MethodName)) ∈ lw_all := lw_g (lw_at lw_m4 40 rfl) rfl
theorem q860 : (Jvm.Cond.code ({ cls := "IntentVats$Mill", name := "depths", desc := "()I" } : Jvm.MethodName) prog_11_method_12_code (3 : Nat) (Option.some Jvm.ClassFile.FieldType.int)) ∈ lw_all := lw_g (lw_at lw_m4 41 rfl) rfl
theorem q874 : (Jvm.Cond.instanceMethod ({ cls := "IntentVats$Mill", name := "draw", desc := "()I" } : Jvm.MethodName)) ∈ lw_all := lw_g (lw_at lw_m4 55 rfl) rfl
theorem q875 : (Jvm.Cond.selects "IntentVats$Mill" ({ cls := "IntentVats$Mill", name := "draw", desc := "()I" } : Jvm.MethodName) ({ cls := "IntentVats$Mill", name := "draw", desc := "()I" } : Jvm.MethodName)) ∈ lw_all := lw_g (lw_at lw_m4 56 rfl) rfl
theorem q876 : (Jvm.Cond.code ({ cls := "IntentVats$Mill", name := "draw", desc := "()I" } : Jvm.MethodName) prog_11_method_15_code (1 : Nat) (Option.some Jvm.ClassFile.FieldType.int)) ∈ lw_all := lw_g (lw_at lw_m4 57 rfl) rfl
theorem q877 : (Jvm.Cond.constant "IntentVats$Mill" (86 : Nat) (1103515245 : Int32)) ∈ lw_all := lw_g (lw_at lw_m4 58 rfl) rfl
theorem q887 : (Jvm.Cond.instanceMethod ({ cls := "IntentVats$Mill", name := "aboutAny", desc := "()I" } : Jvm.MethodName)) ∈ lw_all := lw_g (lw_at lw_m4 68 rfl) rfl
theorem q888 : (Jvm.Cond.selects "IntentVats$Mill" ({ cls := "IntentVats$Mill", name := "aboutAny", desc := "()I" } : Jvm.MethodName) ({ cls := "IntentVats$Mill", name := "aboutAny", desc := "()I" } : Jvm.MethodName)) ∈ lw_all := lw_g (lw_at lw_m4 69 rfl) rfl
theorem q889 : (Jvm.Cond.code ({ cls := "IntentVats$Mill", name := "aboutAny", desc := "()I" } : Jvm.MethodName) prog_11_method_10_code (3 : Nat) (Option.some Jvm.ClassFile.FieldType.int)) ∈ lw_all := lw_g (lw_at lw_m4 70 rfl) rfl
theorem q891 : (Jvm.Cond.instanceMethod ({ cls := "IntentVats$Mill", name := "atOdds", desc := "()I" } : Jvm.MethodName)) ∈ lw_all := lw_g (lw_at lw_m4 72 rfl) rfl
theorem q892 : (Jvm.Cond.selects "IntentVats$Mill" ({ cls := "IntentVats$Mill", name := "atOdds", desc := "()I" } : Jvm.MethodName) ({ cls := "IntentVats$Mill", name := "atOdds", desc := "()I" } : Jvm.MethodName)) ∈ lw_all := lw_g (lw_at lw_m4 73 rfl) rfl
theorem q893 : (Jvm.Cond.code ({ cls := "IntentVats$Mill", name := "atOdds", desc := "()I" } : Jvm.MethodName) prog_11_method_14_code (4 : Nat) (Option.some Jvm.ClassFile.FieldType.int)) ∈ lw_all := lw_g (lw_at lw_m4 74 rfl) rfl
theorem q894 : (Jvm.Cond.methodLink "IntentVats$Mill" (83 : Nat) ({ cls := "IntentVats$Mill", name := "isAtOdds", desc := "(II)Z" } : Jvm.MethodName)) ∈ lw_all := lw_g (lw_at lw_m4 75 rfl) rfl
theorem q895 : (Jvm.Cond.instanceMethod ({ cls := "IntentVats$Mill", name := "isAtOdds", desc := "(II)Z" } : Jvm.MethodName)) ∈ lw_all := lw_g (lw_at lw_m4 76 rfl) rfl
theorem q896 : (Jvm.Cond.selects "IntentVats$Mill" ({ cls := "IntentVats$Mill", name := "isAtOdds", desc := "(II)Z" } : Jvm.MethodName) ({ cls := "IntentVats$Mill", name := "isAtOdds", desc := "(II)Z" } : Jvm.MethodName)) ∈ lw_all := lw_g (lw_at lw_m4 77 rfl) rfl
theorem q897 : (Jvm.Cond.code ({ cls := "IntentVats$Mill", name := "isAtOdds", desc := "(II)Z" } : Jvm.MethodName) prog_11_method_13_code (3 : Nat) (Option.some Jvm.ClassFile.FieldType.boolean)) ∈ lw_all := lw_g (lw_at lw_m4 78 rfl) rfl
theorem q898 : (Jvm.Cond.methodLink "IntentVats$Mill" (79 : Nat) ({ cls := "IntentVats$Mill", name := "isHung", desc := "(I)Z" } : Jvm.MethodName)) ∈ lw_all := lw_g (lw_at lw_m4 79 rfl) rfl
theorem q1500 : (Jvm.Cond.instanceMethod ({ cls := "IntentVats$Mill", name := "purposes", desc := "()I" } : Jvm.MethodName)) ∈ lw_all := lw_g (lw_at lw_m6 201 rfl) rfl
theorem q1501 : (Jvm.Cond.selects "IntentVats$Mill" ({ cls := "IntentVats$Mill", name := "purposes", desc := "()I" } : Jvm.MethodName) ({ cls := "IntentVats$Mill", name := "purposes", desc := "()I" } : Jvm.MethodName)) ∈ lw_all := lw_g (lw_at lw_m6 202 rfl) rfl
theorem q1502 : (Jvm.Cond.code ({ cls := "IntentVats$Mill", name := "purposes", desc := "()I" } : Jvm.MethodName) prog_11_method_11_code (3 : Nat) (Option.some Jvm.ClassFile.FieldType.int)) ∈ lw_all := lw_g (lw_at lw_m6 203 rfl) rfl
theorem in_X1 : ∀ w ∈ wsX10, w ∈ lw_all := lw_in wsX10 [190, 192, 194, 196, 198, 200, 202, 204, 206, 208, 210, 212] (by decide +kernel) (by decide +kernel)
/-! IntentVats$Plain -/
set_option maxRecDepth 100000
def RX2 : String := "IntentVats$Plain"
abbrev cX2_init : ByteArray := prog_16_method_1_code
def yX2_init : MethodName := ⟨RX2, "<init>", "()V"⟩
theorem dX2_init_0 : decode cX2_init 0 = .ok (.aload_n 0, 1) := by decide +kernel
theorem dX2_init_1 : decode cX2_init 1 = .ok (.invokespecial 3, 3) := by decide +kernel
theorem dX2_init_4 : decode cX2_init 4 = .ok (.return_, 1) := by decide +kernel
abbrev cX2_takes : ByteArray := prog_16_method_2_code
def yX2_takes : MethodName := ⟨RX2, "takes", "(LIntentVats$Mill;I)I"⟩
def dkwX2_takes_0 : List UInt8 := [43, 180, 0, 9, 28, 46, 43, 180, 0, 15, 3, 46, 96, 172]
abbrev dktX2_takes_0 : List UInt8 := dkwX2_takes_0 ++ []
theorem dksX2_takes_0 : cX2_takes.data.toList.drop 0 = dktX2_takes_0 := by decide +kernel
theorem dX2_takes_0 : decode cX2_takes 0 = .ok (.aload_n 1, 1) := dk_43 (dk_at dksX2_takes_0 0 rfl rfl)
theorem dX2_takes_1 : decode cX2_takes 1 = .ok (.getfield 9, 3) := dk_180 0 9 (dk_at dksX2_takes_0 1 rfl rfl)
theorem dX2_takes_4 : decode cX2_takes 4 = .ok (.iload_n 2, 1) := dk_28 (dk_at dksX2_takes_0 4 rfl rfl)
theorem dX2_takes_5 : decode cX2_takes 5 = .ok (.iaload, 1) := dk_46 (dk_at dksX2_takes_0 5 rfl rfl)
theorem dX2_takes_6 : decode cX2_takes 6 = .ok (.aload_n 1, 1) := dk_43 (dk_at dksX2_takes_0 6 rfl rfl)
theorem dX2_takes_7 : decode cX2_takes 7 = .ok (.getfield 15, 3) := dk_180 0 15 (dk_at dksX2_takes_0 7 rfl rfl)
theorem dX2_takes_10 : decode cX2_takes 10 = .ok (.iconst 0, 1) := dk_3 (dk_at dksX2_takes_0 10 rfl rfl)
theorem dX2_takes_11 : decode cX2_takes 11 = .ok (.iaload, 1) := dk_46 (dk_at dksX2_takes_0 11 rfl rfl)
theorem dX2_takes_12 : decode cX2_takes 12 = .ok (.iadd, 1) := dk_96 (dk_at dksX2_takes_0 12 rfl rfl)
theorem dX2_takes_13 : decode cX2_takes 13 = .ok (.ireturn, 1) := dk_172 (dk_at dksX2_takes_0 13 rfl rfl)
abbrev cX2_fights : ByteArray := prog_16_method_3_code
def yX2_fights : MethodName := ⟨RX2, "fights", "(LIntentVats$Mill;I)I"⟩
def dkwX2_fights_0 : List UInt8 := [43, 180, 0, 9, 28, 46, 172]
abbrev dktX2_fights_0 : List UInt8 := dkwX2_fights_0 ++ []
theorem dksX2_fights_0 : cX2_fights.data.toList.drop 0 = dktX2_fights_0 := by decide +kernel
theorem dX2_fights_0 : decode cX2_fights 0 = .ok (.aload_n 1, 1) := dk_43 (dk_at dksX2_fights_0 0 rfl rfl)
theorem dX2_fights_1 : decode cX2_fights 1 = .ok (.getfield 9, 3) := dk_180 0 9 (dk_at dksX2_fights_0 1 rfl rfl)
theorem dX2_fights_4 : decode cX2_fights 4 = .ok (.iload_n 2, 1) := dk_28 (dk_at dksX2_fights_0 4 rfl rfl)
theorem dX2_fights_5 : decode cX2_fights 5 = .ok (.iaload, 1) := dk_46 (dk_at dksX2_fights_0 5 rfl rfl)
theorem dX2_fights_6 : decode cX2_fights 6 = .ok (.ireturn, 1) := dk_172 (dk_at dksX2_fights_0 6 rfl rfl)
theorem q102 : (Jvm.Cond.initialized "IntentVats$Plain") ∈ lw_all := lw_g (lw_at lw_m1 3 rfl) rfl
theorem q163 : (Jvm.Cond.fieldLinkNest "IntentVats$Plain" (15 : Nat) "IntentVats$Mill" "law" "[I" "IntentVats") ∈ lw_tbl := lw_at lw_m1 64 rfl
theorem q174 : (Jvm.Cond.fieldLinkNest "IntentVats$Plain" (9 : Nat) "IntentVats$Mill" "strength" "[I" "IntentVats") ∈ lw_tbl := lw_at lw_m1 75 rfl
theorem q218 : (Jvm.Cond.instantiable "IntentVats$Plain" (0 : Nat)) ∈ lw_all := lw_g (lw_at lw_m1 119 rfl) rfl
theorem q220 : (Jvm.Cond.instanceMethod ({ cls := "IntentVats$Plain", name := "<init>", desc := "()V" } : Jvm.MethodName)) ∈ lw_all := lw_g (lw_at lw_m1 121 rfl) rfl
theorem q221 : (Jvm.Cond.code ({ cls := "IntentVats$Plain", name := "<init>", desc := "()V" } : Jvm.MethodName) prog_16_method_1_code (1 : Nat) (Option.none : Option Jvm.ClassFile.FieldType)) ∈ lw_all := lw_g (lw_at lw_m1 122 rfl) rfl
theorem q222 : (Jvm.Cond.methodLink "IntentVats$Plain" (3 : Nat) ({ cls := "java/lang/Object", name := "<init>", desc := "()V" } : Jvm.MethodName)) ∈ lw_all := lw_g (lw_at lw_m1 123 rfl) rfl
theorem q223 : (Jvm.Cond.superclass "IntentVats$Plain" "java/lang/Object") ∈ lw_all := lw_g (lw_at lw_m1 124 rfl) rfl
theorem q735 : (Jvm.Cond.instanceMethod ({ cls := "IntentVats$Plain", name := "takes", desc := "(LIntentVats$Mill;I)I" } : Jvm.MethodName)) ∈ lw_all := lw_g (lw_at lw_m3 156 rfl) rfl
theorem q736 : (Jvm.Cond.selects "IntentVats$Plain" ({ cls := "IntentVats$Plain", name := "takes", desc := "(LIntentVats$Mill;I)I" } : Jvm.MethodName) ({ cls := "IntentVats$Plain", name := "takes", desc := "(LIntentVats$Mill;I)I" } : Jvm.MethodName)) ∈ lw_all := lw_g (lw_at lw_m3 157 rfl) rfl
theorem q737 : (Jvm.Cond.sameMethod "IntentVats$Plain" "IntentVats$Plain" "takes" "(LIntentVats$Mill;I)I") ∈ lw_all := lw_g (lw_at lw_m3 158 rfl) rfl
theorem q745 : (Jvm.Cond.code ({ cls := "IntentVats$Plain", name := "takes", desc := "(LIntentVats$Mill;I)I" } : Jvm.MethodName) prog_16_method_2_code (3 : Nat) (Option.some Jvm.ClassFile.FieldType.int)) ∈ lw_all := lw_g (lw_at lw_m3 166 rfl) rfl
theorem q760 : (Jvm.Cond.instanceMethod ({ cls := "IntentVats$Plain", name := "fights", desc := "(LIntentVats$Mill;I)I" } : Jvm.MethodName)) ∈ lw_all := lw_g (lw_at lw_m3 181 rfl) rfl
theorem q761 : (Jvm.Cond.selects "IntentVats$Plain" ({ cls := "IntentVats$Plain", name := "fights", desc := "(LIntentVats$Mill;I)I" } : Jvm.MethodName) ({ cls := "IntentVats$Plain", name := "fights", desc := "(LIntentVats$Mill;I)I" } : Jvm.MethodName)) ∈ lw_all := lw_g (lw_at lw_m3 182 rfl) rfl
theorem q762 : (Jvm.Cond.sameMethod "IntentVats$Plain" "IntentVats$Plain" "fights" "(LIntentVats$Mill;I)I") ∈ lw_all := lw_g (lw_at lw_m3 183 rfl) rfl
theorem q770 : (Jvm.Cond.code ({ cls := "IntentVats$Plain", name := "fights", desc := "(LIntentVats$Mill;I)I" } : Jvm.MethodName) prog_16_method_3_code (3 : Nat) (Option.some Jvm.ClassFile.FieldType.int)) ∈ lw_all := lw_g (lw_at lw_m3 191 rfl) rfl
theorem q796 : (Jvm.Cond.unhidden "IntentVats$Plain" "fades" "(LIntentVats$Mill;)I") ∈ lw_tbl := lw_at lw_m3 217 rfl
/-! IntentVats$Wool -/
set_option maxRecDepth 100000
def RX3 : String := "IntentVats$Wool"
abbrev cX3_init : ByteArray := prog_25_method_1_code
def yX3_init : MethodName := ⟨RX3, "<init>", "()V"⟩
theorem dX3_init_0 : decode cX3_init 0 = .ok (.aload_n 0, 1) := by decide +kernel
theorem dX3_init_1 : decode cX3_init 1 = .ok (.invokespecial 3, 3) := by decide +kernel
theorem dX3_init_4 : decode cX3_init 4 = .ok (.return_, 1) := by decide +kernel
abbrev cX3_takes : ByteArray := prog_25_method_2_code
def yX3_takes : MethodName := ⟨RX3, "takes", "(LIntentVats$Mill;I)I"⟩
def dkwX3_takes_0 : List UInt8 := [42, 43, 28, 183, 0, 9, 6, 96, 172]
abbrev dktX3_takes_0 : List UInt8 := dkwX3_takes_0 ++ []
theorem dksX3_takes_0 : cX3_takes.data.toList.drop 0 = dktX3_takes_0 := by decide +kernel
theorem dX3_takes_0 : decode cX3_takes 0 = .ok (.aload_n 0, 1) := dk_42 (dk_at dksX3_takes_0 0 rfl rfl)
theorem dX3_takes_1 : decode cX3_takes 1 = .ok (.aload_n 1, 1) := dk_43 (dk_at dksX3_takes_0 1 rfl rfl)
theorem dX3_takes_2 : decode cX3_takes 2 = .ok (.iload_n 2, 1) := dk_28 (dk_at dksX3_takes_0 2 rfl rfl)
theorem dX3_takes_3 : decode cX3_takes 3 = .ok (.invokespecial 9, 3) := dk_183 0 9 (dk_at dksX3_takes_0 3 rfl rfl)
theorem dX3_takes_6 : decode cX3_takes 6 = .ok (.iconst 3, 1) := dk_6 (dk_at dksX3_takes_0 6 rfl rfl)
theorem dX3_takes_7 : decode cX3_takes 7 = .ok (.iadd, 1) := dk_96 (dk_at dksX3_takes_0 7 rfl rfl)
theorem dX3_takes_8 : decode cX3_takes 8 = .ok (.ireturn, 1) := dk_172 (dk_at dksX3_takes_0 8 rfl rfl)
abbrev cX3_fights : ByteArray := prog_25_method_3_code
def yX3_fights : MethodName := ⟨RX3, "fights", "(LIntentVats$Mill;I)I"⟩
def dkwX3_fights_0 : List UInt8 := [42, 43, 28, 183, 0, 13, 43, 180, 0, 16, 5, 46, 100, 172]
abbrev dktX3_fights_0 : List UInt8 := dkwX3_fights_0 ++ []
theorem dksX3_fights_0 : cX3_fights.data.toList.drop 0 = dktX3_fights_0 := by decide +kernel
theorem dX3_fights_0 : decode cX3_fights 0 = .ok (.aload_n 0, 1) := dk_42 (dk_at dksX3_fights_0 0 rfl rfl)
theorem dX3_fights_1 : decode cX3_fights 1 = .ok (.aload_n 1, 1) := dk_43 (dk_at dksX3_fights_0 1 rfl rfl)
theorem dX3_fights_2 : decode cX3_fights 2 = .ok (.iload_n 2, 1) := dk_28 (dk_at dksX3_fights_0 2 rfl rfl)
theorem dX3_fights_3 : decode cX3_fights 3 = .ok (.invokespecial 13, 3) := dk_183 0 13 (dk_at dksX3_fights_0 3 rfl rfl)
theorem dX3_fights_6 : decode cX3_fights 6 = .ok (.aload_n 1, 1) := dk_43 (dk_at dksX3_fights_0 6 rfl rfl)
theorem dX3_fights_7 : decode cX3_fights 7 = .ok (.getfield 16, 3) := dk_180 0 16 (dk_at dksX3_fights_0 7 rfl rfl)
theorem dX3_fights_10 : decode cX3_fights 10 = .ok (.iconst 2, 1) := dk_5 (dk_at dksX3_fights_0 10 rfl rfl)
theorem dX3_fights_11 : decode cX3_fights 11 = .ok (.iaload, 1) := dk_46 (dk_at dksX3_fights_0 11 rfl rfl)
theorem dX3_fights_12 : decode cX3_fights 12 = .ok (.isub, 1) := dk_100 (dk_at dksX3_fights_0 12 rfl rfl)
theorem dX3_fights_13 : decode cX3_fights 13 = .ok (.ireturn, 1) := dk_172 (dk_at dksX3_fights_0 13 rfl rfl)
abbrev cX3_fades : ByteArray := prog_25_method_4_code
def yX3_fades : MethodName := ⟨RX3, "fades", "(LIntentVats$Mill;)I"⟩
def dkwX3_fades_0 : List UInt8 := [42, 43, 183, 0, 22, 4, 100, 172]
abbrev dktX3_fades_0 : List UInt8 := dkwX3_fades_0 ++ []
theorem dksX3_fades_0 : cX3_fades.data.toList.drop 0 = dktX3_fades_0 := by decide +kernel
theorem dX3_fades_0 : decode cX3_fades 0 = .ok (.aload_n 0, 1) := dk_42 (dk_at dksX3_fades_0 0 rfl rfl)
theorem dX3_fades_1 : decode cX3_fades 1 = .ok (.aload_n 1, 1) := dk_43 (dk_at dksX3_fades_0 1 rfl rfl)
theorem dX3_fades_2 : decode cX3_fades 2 = .ok (.invokespecial 22, 3) := dk_183 0 22 (dk_at dksX3_fades_0 2 rfl rfl)
theorem dX3_fades_5 : decode cX3_fades 5 = .ok (.iconst 1, 1) := dk_4 (dk_at dksX3_fades_0 5 rfl rfl)
theorem dX3_fades_6 : decode cX3_fades 6 = .ok (.isub, 1) := dk_100 (dk_at dksX3_fades_0 6 rfl rfl)
theorem dX3_fades_7 : decode cX3_fades 7 = .ok (.ireturn, 1) := dk_172 (dk_at dksX3_fades_0 7 rfl rfl)
theorem q103 : (Jvm.Cond.initialized "IntentVats$Wool") ∈ lw_all := lw_g (lw_at lw_m1 4 rfl) rfl
theorem q166 : (Jvm.Cond.fieldLinkNest "IntentVats$Wool" (16 : Nat) "IntentVats$Mill" "law" "[I" "IntentVats") ∈ lw_tbl := lw_at lw_m1 67 rfl
theorem q225 : (Jvm.Cond.instantiable "IntentVats$Wool" (0 : Nat)) ∈ lw_all := lw_g (lw_at lw_m1 126 rfl) rfl
theorem q227 : (Jvm.Cond.instanceMethod ({ cls := "IntentVats$Wool", name := "<init>", desc := "()V" } : Jvm.MethodName)) ∈ lw_all := lw_g (lw_at lw_m1 128 rfl) rfl
theorem q228 : (Jvm.Cond.code ({ cls := "IntentVats$Wool", name := "<init>", desc := "()V" } : Jvm.MethodName) prog_25_method_1_code (1 : Nat) (Option.none : Option Jvm.ClassFile.FieldType)) ∈ lw_all := lw_g (lw_at lw_m1 129 rfl) rfl
theorem q229 : (Jvm.Cond.methodLinkNest "IntentVats$Wool" (3 : Nat) ({ cls := "IntentVats$Plain", name := "<init>", desc := "()V" } : Jvm.MethodName) "IntentVats") ∈ lw_tbl := lw_at lw_m1 130 rfl
theorem q230 : (Jvm.Cond.superclass "IntentVats$Wool" "IntentVats$Plain") ∈ lw_all := lw_g (lw_at lw_m1 131 rfl) rfl
theorem q742 : (Jvm.Cond.instanceMethod ({ cls := "IntentVats$Wool", name := "takes", desc := "(LIntentVats$Mill;I)I" } : Jvm.MethodName)) ∈ lw_all := lw_g (lw_at lw_m3 163 rfl) rfl
theorem q743 : (Jvm.Cond.code ({ cls := "IntentVats$Wool", name := "takes", desc := "(LIntentVats$Mill;I)I" } : Jvm.MethodName) prog_25_method_2_code (3 : Nat) (Option.some Jvm.ClassFile.FieldType.int)) ∈ lw_all := lw_g (lw_at lw_m3 164 rfl) rfl
theorem q744 : (Jvm.Cond.methodLink "IntentVats$Wool" (9 : Nat) ({ cls := "IntentVats$Plain", name := "takes", desc := "(LIntentVats$Mill;I)I" } : Jvm.MethodName)) ∈ lw_all := lw_g (lw_at lw_m3 165 rfl) rfl
theorem q758 : (Jvm.Cond.selects "IntentVats$Wool" ({ cls := "IntentVats$Plain", name := "takes", desc := "(LIntentVats$Mill;I)I" } : Jvm.MethodName) ({ cls := "IntentVats$Wool", name := "takes", desc := "(LIntentVats$Mill;I)I" } : Jvm.MethodName)) ∈ lw_all := lw_g (lw_at lw_m3 179 rfl) rfl
theorem q767 : (Jvm.Cond.instanceMethod ({ cls := "IntentVats$Wool", name := "fights", desc := "(LIntentVats$Mill;I)I" } : Jvm.MethodName)) ∈ lw_all := lw_g (lw_at lw_m3 188 rfl) rfl
theorem q768 : (Jvm.Cond.code ({ cls := "IntentVats$Wool", name := "fights", desc := "(LIntentVats$Mill;I)I" } : Jvm.MethodName) prog_25_method_3_code (3 : Nat) (Option.some Jvm.ClassFile.FieldType.int)) ∈ lw_all := lw_g (lw_at lw_m3 189 rfl) rfl
theorem q769 : (Jvm.Cond.methodLink "IntentVats$Wool" (13 : Nat) ({ cls := "IntentVats$Plain", name := "fights", desc := "(LIntentVats$Mill;I)I" } : Jvm.MethodName)) ∈ lw_all := lw_g (lw_at lw_m3 190 rfl) rfl
theorem q783 : (Jvm.Cond.selects "IntentVats$Wool" ({ cls := "IntentVats$Plain", name := "fights", desc := "(LIntentVats$Mill;I)I" } : Jvm.MethodName) ({ cls := "IntentVats$Wool", name := "fights", desc := "(LIntentVats$Mill;I)I" } : Jvm.MethodName)) ∈ lw_all := lw_g (lw_at lw_m3 204 rfl) rfl
theorem q801 : (Jvm.Cond.selects "IntentVats$Wool" ({ cls := "IntentVats$Fighting", name := "fades", desc := "(LIntentVats$Mill;)I" } : Jvm.MethodName) ({ cls := "IntentVats$Wool", name := "fades", desc := "(LIntentVats$Mill;)I" } : Jvm.MethodName)) ∈ lw_all := lw_g (lw_at lw_m3 222 rfl) rfl
theorem q802 : (Jvm.Cond.instanceMethod ({ cls := "IntentVats$Wool", name := "fades", desc := "(LIntentVats$Mill;)I" } : Jvm.MethodName)) ∈ lw_all := lw_g (lw_at lw_m3 223 rfl) rfl
theorem q803 : (Jvm.Cond.code ({ cls := "IntentVats$Wool", name := "fades", desc := "(LIntentVats$Mill;)I" } : Jvm.MethodName) prog_25_method_4_code (2 : Nat) (Option.some Jvm.ClassFile.FieldType.int)) ∈ lw_all := lw_g (lw_at lw_m3 224 rfl) rfl
theorem q2093 : (Jvm.Cond.sameMethod "IntentVats$Wool" "IntentVats$Wool" "takes" "(LIntentVats$Mill;I)I") ∈ lw_all := lw_g (lw_at lw_m9 74 rfl) rfl
theorem q2095 : (Jvm.Cond.sameMethod "IntentVats$Wool" "IntentVats$Wool" "fights" "(LIntentVats$Mill;I)I") ∈ lw_all := lw_g (lw_at lw_m9 76 rfl) rfl
theorem q2118 : (Jvm.Cond.castable "IntentVats$Wool" "IntentVats$Plain") ∈ lw_tbl := lw_at lw_m9 99 rfl
/-! IntentVats$Linen -/
set_option maxRecDepth 100000
def RX4 : String := "IntentVats$Linen"
abbrev cX4_init : ByteArray := prog_9_method_1_code
def yX4_init : MethodName := ⟨RX4, "<init>", "()V"⟩
theorem dX4_init_0 : decode cX4_init 0 = .ok (.aload_n 0, 1) := by decide +kernel
theorem dX4_init_1 : decode cX4_init 1 = .ok (.invokespecial 3, 3) := by decide +kernel
theorem dX4_init_4 : decode cX4_init 4 = .ok (.return_, 1) := by decide +kernel
abbrev cX4_takes : ByteArray := prog_9_method_2_code
def yX4_takes : MethodName := ⟨RX4, "takes", "(LIntentVats$Mill;I)I"⟩
def dkwX4_takes_0 : List UInt8 := [42, 43, 28, 183, 0, 9, 43, 180, 0, 13, 4, 46, 100, 172]
abbrev dktX4_takes_0 : List UInt8 := dkwX4_takes_0 ++ []
theorem dksX4_takes_0 : cX4_takes.data.toList.drop 0 = dktX4_takes_0 := by decide +kernel
theorem dX4_takes_0 : decode cX4_takes 0 = .ok (.aload_n 0, 1) := dk_42 (dk_at dksX4_takes_0 0 rfl rfl)
theorem dX4_takes_1 : decode cX4_takes 1 = .ok (.aload_n 1, 1) := dk_43 (dk_at dksX4_takes_0 1 rfl rfl)
theorem dX4_takes_2 : decode cX4_takes 2 = .ok (.iload_n 2, 1) := dk_28 (dk_at dksX4_takes_0 2 rfl rfl)
theorem dX4_takes_3 : decode cX4_takes 3 = .ok (.invokespecial 9, 3) := dk_183 0 9 (dk_at dksX4_takes_0 3 rfl rfl)
theorem dX4_takes_6 : decode cX4_takes 6 = .ok (.aload_n 1, 1) := dk_43 (dk_at dksX4_takes_0 6 rfl rfl)
theorem dX4_takes_7 : decode cX4_takes 7 = .ok (.getfield 13, 3) := dk_180 0 13 (dk_at dksX4_takes_0 7 rfl rfl)
theorem dX4_takes_10 : decode cX4_takes 10 = .ok (.iconst 1, 1) := dk_4 (dk_at dksX4_takes_0 10 rfl rfl)
theorem dX4_takes_11 : decode cX4_takes 11 = .ok (.iaload, 1) := dk_46 (dk_at dksX4_takes_0 11 rfl rfl)
theorem dX4_takes_12 : decode cX4_takes 12 = .ok (.isub, 1) := dk_100 (dk_at dksX4_takes_0 12 rfl rfl)
theorem dX4_takes_13 : decode cX4_takes 13 = .ok (.ireturn, 1) := dk_172 (dk_at dksX4_takes_0 13 rfl rfl)
abbrev cX4_fights : ByteArray := prog_9_method_3_code
def yX4_fights : MethodName := ⟨RX4, "fights", "(LIntentVats$Mill;I)I"⟩
def dkwX4_fights_0 : List UInt8 := [42, 43, 28, 183, 0, 19, 43, 180, 0, 13, 5, 46, 96, 172]
abbrev dktX4_fights_0 : List UInt8 := dkwX4_fights_0 ++ []
theorem dksX4_fights_0 : cX4_fights.data.toList.drop 0 = dktX4_fights_0 := by decide +kernel
theorem dX4_fights_0 : decode cX4_fights 0 = .ok (.aload_n 0, 1) := dk_42 (dk_at dksX4_fights_0 0 rfl rfl)
theorem dX4_fights_1 : decode cX4_fights 1 = .ok (.aload_n 1, 1) := dk_43 (dk_at dksX4_fights_0 1 rfl rfl)
theorem dX4_fights_2 : decode cX4_fights 2 = .ok (.iload_n 2, 1) := dk_28 (dk_at dksX4_fights_0 2 rfl rfl)
theorem dX4_fights_3 : decode cX4_fights 3 = .ok (.invokespecial 19, 3) := dk_183 0 19 (dk_at dksX4_fights_0 3 rfl rfl)
theorem dX4_fights_6 : decode cX4_fights 6 = .ok (.aload_n 1, 1) := dk_43 (dk_at dksX4_fights_0 6 rfl rfl)
theorem dX4_fights_7 : decode cX4_fights 7 = .ok (.getfield 13, 3) := dk_180 0 13 (dk_at dksX4_fights_0 7 rfl rfl)
theorem dX4_fights_10 : decode cX4_fights 10 = .ok (.iconst 2, 1) := dk_5 (dk_at dksX4_fights_0 10 rfl rfl)
theorem dX4_fights_11 : decode cX4_fights 11 = .ok (.iaload, 1) := dk_46 (dk_at dksX4_fights_0 11 rfl rfl)
theorem dX4_fights_12 : decode cX4_fights 12 = .ok (.iadd, 1) := dk_96 (dk_at dksX4_fights_0 12 rfl rfl)
theorem dX4_fights_13 : decode cX4_fights 13 = .ok (.ireturn, 1) := dk_172 (dk_at dksX4_fights_0 13 rfl rfl)
abbrev cX4_fades : ByteArray := prog_9_method_4_code
def yX4_fades : MethodName := ⟨RX4, "fades", "(LIntentVats$Mill;)I"⟩
def dkwX4_fades_0 : List UInt8 := [42, 43, 183, 0, 22, 4, 96, 172]
abbrev dktX4_fades_0 : List UInt8 := dkwX4_fades_0 ++ []
theorem dksX4_fades_0 : cX4_fades.data.toList.drop 0 = dktX4_fades_0 := by decide +kernel
theorem dX4_fades_0 : decode cX4_fades 0 = .ok (.aload_n 0, 1) := dk_42 (dk_at dksX4_fades_0 0 rfl rfl)
theorem dX4_fades_1 : decode cX4_fades 1 = .ok (.aload_n 1, 1) := dk_43 (dk_at dksX4_fades_0 1 rfl rfl)
theorem dX4_fades_2 : decode cX4_fades 2 = .ok (.invokespecial 22, 3) := dk_183 0 22 (dk_at dksX4_fades_0 2 rfl rfl)
theorem dX4_fades_5 : decode cX4_fades 5 = .ok (.iconst 1, 1) := dk_4 (dk_at dksX4_fades_0 5 rfl rfl)
theorem dX4_fades_6 : decode cX4_fades 6 = .ok (.iadd, 1) := dk_96 (dk_at dksX4_fades_0 6 rfl rfl)
theorem dX4_fades_7 : decode cX4_fades 7 = .ok (.ireturn, 1) := dk_172 (dk_at dksX4_fades_0 7 rfl rfl)
theorem q104 : (Jvm.Cond.initialized "IntentVats$Linen") ∈ lw_all := lw_g (lw_at lw_m1 5 rfl) rfl
theorem q164 : (Jvm.Cond.fieldLinkNest "IntentVats$Linen" (13 : Nat) "IntentVats$Mill" "law" "[I" "IntentVats") ∈ lw_tbl := lw_at lw_m1 65 rfl
theorem q232 : (Jvm.Cond.instantiable "IntentVats$Linen" (0 : Nat)) ∈ lw_all := lw_g (lw_at lw_m1 133 rfl) rfl
theorem q234 : (Jvm.Cond.instanceMethod ({ cls := "IntentVats$Linen", name := "<init>", desc := "()V" } : Jvm.MethodName)) ∈ lw_all := lw_g (lw_at lw_m1 135 rfl) rfl
theorem q235 : (Jvm.Cond.code ({ cls := "IntentVats$Linen", name := "<init>", desc := "()V" } : Jvm.MethodName) prog_9_method_1_code (1 : Nat) (Option.none : Option Jvm.ClassFile.FieldType)) ∈ lw_all := lw_g (lw_at lw_m1 136 rfl) rfl
theorem q236 : (Jvm.Cond.methodLinkNest "IntentVats$Linen" (3 : Nat) ({ cls := "IntentVats$Plain", name := "<init>", desc := "()V" } : Jvm.MethodName) "IntentVats") ∈ lw_tbl := lw_at lw_m1 137 rfl
theorem q237 : (Jvm.Cond.superclass "IntentVats$Linen" "IntentVats$Plain") ∈ lw_all := lw_g (lw_at lw_m1 138 rfl) rfl
theorem q746 : (Jvm.Cond.selects "IntentVats$Linen" ({ cls := "IntentVats$Plain", name := "takes", desc := "(LIntentVats$Mill;I)I" } : Jvm.MethodName) ({ cls := "IntentVats$Linen", name := "takes", desc := "(LIntentVats$Mill;I)I" } : Jvm.MethodName)) ∈ lw_all := lw_g (lw_at lw_m3 167 rfl) rfl
theorem q747 : (Jvm.Cond.instanceMethod ({ cls := "IntentVats$Linen", name := "takes", desc := "(LIntentVats$Mill;I)I" } : Jvm.MethodName)) ∈ lw_all := lw_g (lw_at lw_m3 168 rfl) rfl
theorem q748 : (Jvm.Cond.code ({ cls := "IntentVats$Linen", name := "takes", desc := "(LIntentVats$Mill;I)I" } : Jvm.MethodName) prog_9_method_2_code (3 : Nat) (Option.some Jvm.ClassFile.FieldType.int)) ∈ lw_all := lw_g (lw_at lw_m3 169 rfl) rfl
theorem q749 : (Jvm.Cond.methodLink "IntentVats$Linen" (9 : Nat) ({ cls := "IntentVats$Plain", name := "takes", desc := "(LIntentVats$Mill;I)I" } : Jvm.MethodName)) ∈ lw_all := lw_g (lw_at lw_m3 170 rfl) rfl
theorem q771 : (Jvm.Cond.selects "IntentVats$Linen" ({ cls := "IntentVats$Plain", name := "fights", desc := "(LIntentVats$Mill;I)I" } : Jvm.MethodName) ({ cls := "IntentVats$Linen", name := "fights", desc := "(LIntentVats$Mill;I)I" } : Jvm.MethodName)) ∈ lw_all := lw_g (lw_at lw_m3 192 rfl) rfl
theorem q772 : (Jvm.Cond.instanceMethod ({ cls := "IntentVats$Linen", name := "fights", desc := "(LIntentVats$Mill;I)I" } : Jvm.MethodName)) ∈ lw_all := lw_g (lw_at lw_m3 193 rfl) rfl
theorem q773 : (Jvm.Cond.code ({ cls := "IntentVats$Linen", name := "fights", desc := "(LIntentVats$Mill;I)I" } : Jvm.MethodName) prog_9_method_3_code (3 : Nat) (Option.some Jvm.ClassFile.FieldType.int)) ∈ lw_all := lw_g (lw_at lw_m3 194 rfl) rfl
theorem q774 : (Jvm.Cond.methodLink "IntentVats$Linen" (19 : Nat) ({ cls := "IntentVats$Plain", name := "fights", desc := "(LIntentVats$Mill;I)I" } : Jvm.MethodName)) ∈ lw_all := lw_g (lw_at lw_m3 195 rfl) rfl
theorem q788 : (Jvm.Cond.selects "IntentVats$Linen" ({ cls := "IntentVats$Fighting", name := "fades", desc := "(LIntentVats$Mill;)I" } : Jvm.MethodName) ({ cls := "IntentVats$Linen", name := "fades", desc := "(LIntentVats$Mill;)I" } : Jvm.MethodName)) ∈ lw_all := lw_g (lw_at lw_m3 209 rfl) rfl
theorem q789 : (Jvm.Cond.instanceMethod ({ cls := "IntentVats$Linen", name := "fades", desc := "(LIntentVats$Mill;)I" } : Jvm.MethodName)) ∈ lw_all := lw_g (lw_at lw_m3 210 rfl) rfl
theorem q790 : (Jvm.Cond.code ({ cls := "IntentVats$Linen", name := "fades", desc := "(LIntentVats$Mill;)I" } : Jvm.MethodName) prog_9_method_4_code (2 : Nat) (Option.some Jvm.ClassFile.FieldType.int)) ∈ lw_all := lw_g (lw_at lw_m3 211 rfl) rfl
theorem q2094 : (Jvm.Cond.sameMethod "IntentVats$Linen" "IntentVats$Linen" "takes" "(LIntentVats$Mill;I)I") ∈ lw_all := lw_g (lw_at lw_m9 75 rfl) rfl
theorem q2096 : (Jvm.Cond.sameMethod "IntentVats$Linen" "IntentVats$Linen" "fights" "(LIntentVats$Mill;I)I") ∈ lw_all := lw_g (lw_at lw_m9 77 rfl) rfl
theorem q2097 : (Jvm.Cond.sameMethod "IntentVats$Linen" "IntentVats$Linen" "fades" "(LIntentVats$Mill;)I") ∈ lw_all := lw_g (lw_at lw_m9 78 rfl) rfl
theorem q2119 : (Jvm.Cond.castable "IntentVats$Linen" "IntentVats$Plain") ∈ lw_tbl := lw_at lw_m9 100 rfl
/-! IntentVats$Felt -/
set_option maxRecDepth 100000
def RX5 : String := "IntentVats$Felt"
abbrev cX5_init : ByteArray := prog_6_method_1_code
def yX5_init : MethodName := ⟨RX5, "<init>", "()V"⟩
theorem dX5_init_0 : decode cX5_init 0 = .ok (.aload_n 0, 1) := by decide +kernel
theorem dX5_init_1 : decode cX5_init 1 = .ok (.invokespecial 3, 3) := by decide +kernel
theorem dX5_init_4 : decode cX5_init 4 = .ok (.return_, 1) := by decide +kernel
abbrev cX5_takes : ByteArray := prog_6_method_2_code
def yX5_takes : MethodName := ⟨RX5, "takes", "(LIntentVats$Mill;I)I"⟩
def dkwX5_takes_0 : List UInt8 := [5, 42, 43, 28, 183, 0, 9, 104, 172]
abbrev dktX5_takes_0 : List UInt8 := dkwX5_takes_0 ++ []
theorem dksX5_takes_0 : cX5_takes.data.toList.drop 0 = dktX5_takes_0 := by decide +kernel
theorem dX5_takes_0 : decode cX5_takes 0 = .ok (.iconst 2, 1) := dk_5 (dk_at dksX5_takes_0 0 rfl rfl)
theorem dX5_takes_1 : decode cX5_takes 1 = .ok (.aload_n 0, 1) := dk_42 (dk_at dksX5_takes_0 1 rfl rfl)
theorem dX5_takes_2 : decode cX5_takes 2 = .ok (.aload_n 1, 1) := dk_43 (dk_at dksX5_takes_0 2 rfl rfl)
theorem dX5_takes_3 : decode cX5_takes 3 = .ok (.iload_n 2, 1) := dk_28 (dk_at dksX5_takes_0 3 rfl rfl)
theorem dX5_takes_4 : decode cX5_takes 4 = .ok (.invokespecial 9, 3) := dk_183 0 9 (dk_at dksX5_takes_0 4 rfl rfl)
theorem dX5_takes_7 : decode cX5_takes 7 = .ok (.imul, 1) := dk_104 (dk_at dksX5_takes_0 7 rfl rfl)
theorem dX5_takes_8 : decode cX5_takes 8 = .ok (.ireturn, 1) := dk_172 (dk_at dksX5_takes_0 8 rfl rfl)
abbrev cX5_fights : ByteArray := prog_6_method_3_code
def yX5_fights : MethodName := ⟨RX5, "fights", "(LIntentVats$Mill;I)I"⟩
def dkwX5_fights_0 : List UInt8 := [42, 43, 28, 183, 0, 13, 43, 180, 0, 16, 3, 46, 96, 172]
abbrev dktX5_fights_0 : List UInt8 := dkwX5_fights_0 ++ []
theorem dksX5_fights_0 : cX5_fights.data.toList.drop 0 = dktX5_fights_0 := by decide +kernel
theorem dX5_fights_0 : decode cX5_fights 0 = .ok (.aload_n 0, 1) := dk_42 (dk_at dksX5_fights_0 0 rfl rfl)
theorem dX5_fights_1 : decode cX5_fights 1 = .ok (.aload_n 1, 1) := dk_43 (dk_at dksX5_fights_0 1 rfl rfl)
theorem dX5_fights_2 : decode cX5_fights 2 = .ok (.iload_n 2, 1) := dk_28 (dk_at dksX5_fights_0 2 rfl rfl)
theorem dX5_fights_3 : decode cX5_fights 3 = .ok (.invokespecial 13, 3) := dk_183 0 13 (dk_at dksX5_fights_0 3 rfl rfl)
theorem dX5_fights_6 : decode cX5_fights 6 = .ok (.aload_n 1, 1) := dk_43 (dk_at dksX5_fights_0 6 rfl rfl)
theorem dX5_fights_7 : decode cX5_fights 7 = .ok (.getfield 16, 3) := dk_180 0 16 (dk_at dksX5_fights_0 7 rfl rfl)
theorem dX5_fights_10 : decode cX5_fights 10 = .ok (.iconst 0, 1) := dk_3 (dk_at dksX5_fights_0 10 rfl rfl)
theorem dX5_fights_11 : decode cX5_fights 11 = .ok (.iaload, 1) := dk_46 (dk_at dksX5_fights_0 11 rfl rfl)
theorem dX5_fights_12 : decode cX5_fights 12 = .ok (.iadd, 1) := dk_96 (dk_at dksX5_fights_0 12 rfl rfl)
theorem dX5_fights_13 : decode cX5_fights 13 = .ok (.ireturn, 1) := dk_172 (dk_at dksX5_fights_0 13 rfl rfl)
abbrev cX5_fades : ByteArray := prog_6_method_4_code
def yX5_fades : MethodName := ⟨RX5, "fades", "(LIntentVats$Mill;)I"⟩
theorem dX5_fades_0 : decode cX5_fades 0 = .ok (.iconst 0, 1) := by decide +kernel
theorem dX5_fades_1 : decode cX5_fades 1 = .ok (.ireturn, 1) := by decide +kernel
theorem q105 : (Jvm.Cond.initialized "IntentVats$Felt") ∈ lw_all := lw_g (lw_at lw_m1 6 rfl) rfl
theorem q167 : (Jvm.Cond.fieldLinkNest "IntentVats$Felt" (16 : Nat) "IntentVats$Mill" "law" "[I" "IntentVats") ∈ lw_tbl := lw_at lw_m1 68 rfl
theorem q239 : (Jvm.Cond.instantiable "IntentVats$Felt" (0 : Nat)) ∈ lw_all := lw_g (lw_at lw_m1 140 rfl) rfl
theorem q241 : (Jvm.Cond.instanceMethod ({ cls := "IntentVats$Felt", name := "<init>", desc := "()V" } : Jvm.MethodName)) ∈ lw_all := lw_g (lw_at lw_m1 142 rfl) rfl
theorem q242 : (Jvm.Cond.code ({ cls := "IntentVats$Felt", name := "<init>", desc := "()V" } : Jvm.MethodName) prog_6_method_1_code (1 : Nat) (Option.none : Option Jvm.ClassFile.FieldType)) ∈ lw_all := lw_g (lw_at lw_m1 143 rfl) rfl
theorem q243 : (Jvm.Cond.methodLinkNest "IntentVats$Felt" (3 : Nat) ({ cls := "IntentVats$Wool", name := "<init>", desc := "()V" } : Jvm.MethodName) "IntentVats") ∈ lw_tbl := lw_at lw_m1 144 rfl
theorem q244 : (Jvm.Cond.superclass "IntentVats$Felt" "IntentVats$Wool") ∈ lw_all := lw_g (lw_at lw_m1 145 rfl) rfl
theorem q738 : (Jvm.Cond.selects "IntentVats$Felt" ({ cls := "IntentVats$Plain", name := "takes", desc := "(LIntentVats$Mill;I)I" } : Jvm.MethodName) ({ cls := "IntentVats$Felt", name := "takes", desc := "(LIntentVats$Mill;I)I" } : Jvm.MethodName)) ∈ lw_all := lw_g (lw_at lw_m3 159 rfl) rfl
theorem q739 : (Jvm.Cond.instanceMethod ({ cls := "IntentVats$Felt", name := "takes", desc := "(LIntentVats$Mill;I)I" } : Jvm.MethodName)) ∈ lw_all := lw_g (lw_at lw_m3 160 rfl) rfl
theorem q740 : (Jvm.Cond.code ({ cls := "IntentVats$Felt", name := "takes", desc := "(LIntentVats$Mill;I)I" } : Jvm.MethodName) prog_6_method_2_code (3 : Nat) (Option.some Jvm.ClassFile.FieldType.int)) ∈ lw_all := lw_g (lw_at lw_m3 161 rfl) rfl
theorem q741 : (Jvm.Cond.methodLink "IntentVats$Felt" (9 : Nat) ({ cls := "IntentVats$Wool", name := "takes", desc := "(LIntentVats$Mill;I)I" } : Jvm.MethodName)) ∈ lw_all := lw_g (lw_at lw_m3 162 rfl) rfl
theorem q763 : (Jvm.Cond.selects "IntentVats$Felt" ({ cls := "IntentVats$Plain", name := "fights", desc := "(LIntentVats$Mill;I)I" } : Jvm.MethodName) ({ cls := "IntentVats$Felt", name := "fights", desc := "(LIntentVats$Mill;I)I" } : Jvm.MethodName)) ∈ lw_all := lw_g (lw_at lw_m3 184 rfl) rfl
theorem q764 : (Jvm.Cond.instanceMethod ({ cls := "IntentVats$Felt", name := "fights", desc := "(LIntentVats$Mill;I)I" } : Jvm.MethodName)) ∈ lw_all := lw_g (lw_at lw_m3 185 rfl) rfl
theorem q765 : (Jvm.Cond.code ({ cls := "IntentVats$Felt", name := "fights", desc := "(LIntentVats$Mill;I)I" } : Jvm.MethodName) prog_6_method_3_code (3 : Nat) (Option.some Jvm.ClassFile.FieldType.int)) ∈ lw_all := lw_g (lw_at lw_m3 186 rfl) rfl
theorem q766 : (Jvm.Cond.methodLink "IntentVats$Felt" (13 : Nat) ({ cls := "IntentVats$Wool", name := "fights", desc := "(LIntentVats$Mill;I)I" } : Jvm.MethodName)) ∈ lw_all := lw_g (lw_at lw_m3 187 rfl) rfl
theorem q785 : (Jvm.Cond.selects "IntentVats$Felt" ({ cls := "IntentVats$Fighting", name := "fades", desc := "(LIntentVats$Mill;)I" } : Jvm.MethodName) ({ cls := "IntentVats$Felt", name := "fades", desc := "(LIntentVats$Mill;)I" } : Jvm.MethodName)) ∈ lw_all := lw_g (lw_at lw_m3 206 rfl) rfl
theorem q786 : (Jvm.Cond.instanceMethod ({ cls := "IntentVats$Felt", name := "fades", desc := "(LIntentVats$Mill;)I" } : Jvm.MethodName)) ∈ lw_all := lw_g (lw_at lw_m3 207 rfl) rfl
theorem q787 : (Jvm.Cond.code ({ cls := "IntentVats$Felt", name := "fades", desc := "(LIntentVats$Mill;)I" } : Jvm.MethodName) prog_6_method_4_code (2 : Nat) (Option.some Jvm.ClassFile.FieldType.int)) ∈ lw_all := lw_g (lw_at lw_m3 208 rfl) rfl
theorem q2120 : (Jvm.Cond.castable "IntentVats$Felt" "IntentVats$Plain") ∈ lw_tbl := lw_at lw_m9 101 rfl
/-! IntentVats$Shroud -/
set_option maxRecDepth 100000
def RX6 : String := "IntentVats$Shroud"
abbrev cX6_init : ByteArray := prog_22_method_1_code
def yX6_init : MethodName := ⟨RX6, "<init>", "()V"⟩
theorem dX6_init_0 : decode cX6_init 0 = .ok (.aload_n 0, 1) := by decide +kernel
theorem dX6_init_1 : decode cX6_init 1 = .ok (.invokespecial 3, 3) := by decide +kernel
theorem dX6_init_4 : decode cX6_init 4 = .ok (.return_, 1) := by decide +kernel
abbrev cX6_takes : ByteArray := prog_22_method_2_code
def yX6_takes : MethodName := ⟨RX6, "takes", "(LIntentVats$Mill;I)I"⟩
def dkwX6_takes_0 : List UInt8 := [42, 43, 28, 183, 0, 9, 43, 180, 0, 13, 5, 46, 96, 172]
abbrev dktX6_takes_0 : List UInt8 := dkwX6_takes_0 ++ []
theorem dksX6_takes_0 : cX6_takes.data.toList.drop 0 = dktX6_takes_0 := by decide +kernel
theorem dX6_takes_0 : decode cX6_takes 0 = .ok (.aload_n 0, 1) := dk_42 (dk_at dksX6_takes_0 0 rfl rfl)
theorem dX6_takes_1 : decode cX6_takes 1 = .ok (.aload_n 1, 1) := dk_43 (dk_at dksX6_takes_0 1 rfl rfl)
theorem dX6_takes_2 : decode cX6_takes 2 = .ok (.iload_n 2, 1) := dk_28 (dk_at dksX6_takes_0 2 rfl rfl)
theorem dX6_takes_3 : decode cX6_takes 3 = .ok (.invokespecial 9, 3) := dk_183 0 9 (dk_at dksX6_takes_0 3 rfl rfl)
theorem dX6_takes_6 : decode cX6_takes 6 = .ok (.aload_n 1, 1) := dk_43 (dk_at dksX6_takes_0 6 rfl rfl)
theorem dX6_takes_7 : decode cX6_takes 7 = .ok (.getfield 13, 3) := dk_180 0 13 (dk_at dksX6_takes_0 7 rfl rfl)
theorem dX6_takes_10 : decode cX6_takes 10 = .ok (.iconst 2, 1) := dk_5 (dk_at dksX6_takes_0 10 rfl rfl)
theorem dX6_takes_11 : decode cX6_takes 11 = .ok (.iaload, 1) := dk_46 (dk_at dksX6_takes_0 11 rfl rfl)
theorem dX6_takes_12 : decode cX6_takes 12 = .ok (.iadd, 1) := dk_96 (dk_at dksX6_takes_0 12 rfl rfl)
theorem dX6_takes_13 : decode cX6_takes 13 = .ok (.ireturn, 1) := dk_172 (dk_at dksX6_takes_0 13 rfl rfl)
abbrev cX6_fights : ByteArray := prog_22_method_3_code
def yX6_fights : MethodName := ⟨RX6, "fights", "(LIntentVats$Mill;I)I"⟩
def dkwX6_fights_0 : List UInt8 := [5, 42, 43, 28, 183, 0, 19, 104, 172]
abbrev dktX6_fights_0 : List UInt8 := dkwX6_fights_0 ++ []
theorem dksX6_fights_0 : cX6_fights.data.toList.drop 0 = dktX6_fights_0 := by decide +kernel
theorem dX6_fights_0 : decode cX6_fights 0 = .ok (.iconst 2, 1) := dk_5 (dk_at dksX6_fights_0 0 rfl rfl)
theorem dX6_fights_1 : decode cX6_fights 1 = .ok (.aload_n 0, 1) := dk_42 (dk_at dksX6_fights_0 1 rfl rfl)
theorem dX6_fights_2 : decode cX6_fights 2 = .ok (.aload_n 1, 1) := dk_43 (dk_at dksX6_fights_0 2 rfl rfl)
theorem dX6_fights_3 : decode cX6_fights 3 = .ok (.iload_n 2, 1) := dk_28 (dk_at dksX6_fights_0 3 rfl rfl)
theorem dX6_fights_4 : decode cX6_fights 4 = .ok (.invokespecial 19, 3) := dk_183 0 19 (dk_at dksX6_fights_0 4 rfl rfl)
theorem dX6_fights_7 : decode cX6_fights 7 = .ok (.imul, 1) := dk_104 (dk_at dksX6_fights_0 7 rfl rfl)
theorem dX6_fights_8 : decode cX6_fights 8 = .ok (.ireturn, 1) := dk_172 (dk_at dksX6_fights_0 8 rfl rfl)
abbrev cX6_fades : ByteArray := prog_22_method_4_code
def yX6_fades : MethodName := ⟨RX6, "fades", "(LIntentVats$Mill;)I"⟩
def dkwX6_fades_0 : List UInt8 := [5, 42, 43, 183, 0, 22, 104, 172]
abbrev dktX6_fades_0 : List UInt8 := dkwX6_fades_0 ++ []
theorem dksX6_fades_0 : cX6_fades.data.toList.drop 0 = dktX6_fades_0 := by decide +kernel
theorem dX6_fades_0 : decode cX6_fades 0 = .ok (.iconst 2, 1) := dk_5 (dk_at dksX6_fades_0 0 rfl rfl)
theorem dX6_fades_1 : decode cX6_fades 1 = .ok (.aload_n 0, 1) := dk_42 (dk_at dksX6_fades_0 1 rfl rfl)
theorem dX6_fades_2 : decode cX6_fades 2 = .ok (.aload_n 1, 1) := dk_43 (dk_at dksX6_fades_0 2 rfl rfl)
theorem dX6_fades_3 : decode cX6_fades 3 = .ok (.invokespecial 22, 3) := dk_183 0 22 (dk_at dksX6_fades_0 3 rfl rfl)
theorem dX6_fades_6 : decode cX6_fades 6 = .ok (.imul, 1) := dk_104 (dk_at dksX6_fades_0 6 rfl rfl)
theorem dX6_fades_7 : decode cX6_fades 7 = .ok (.ireturn, 1) := dk_172 (dk_at dksX6_fades_0 7 rfl rfl)
theorem q106 : (Jvm.Cond.initialized "IntentVats$Shroud") ∈ lw_all := lw_g (lw_at lw_m1 7 rfl) rfl
theorem q165 : (Jvm.Cond.fieldLinkNest "IntentVats$Shroud" (13 : Nat) "IntentVats$Mill" "law" "[I" "IntentVats") ∈ lw_tbl := lw_at lw_m1 66 rfl
theorem q246 : (Jvm.Cond.instantiable "IntentVats$Shroud" (0 : Nat)) ∈ lw_all := lw_g (lw_at lw_m1 147 rfl) rfl
theorem q248 : (Jvm.Cond.instanceMethod ({ cls := "IntentVats$Shroud", name := "<init>", desc := "()V" } : Jvm.MethodName)) ∈ lw_all := lw_g (lw_at lw_m1 149 rfl) rfl
theorem q249 : (Jvm.Cond.code ({ cls := "IntentVats$Shroud", name := "<init>", desc := "()V" } : Jvm.MethodName) prog_22_method_1_code (1 : Nat) (Option.none : Option Jvm.ClassFile.FieldType)) ∈ lw_all := lw_g (lw_at lw_m1 150 rfl) rfl
theorem q250 : (Jvm.Cond.methodLinkNest "IntentVats$Shroud" (3 : Nat) ({ cls := "IntentVats$Linen", name := "<init>", desc := "()V" } : Jvm.MethodName) "IntentVats") ∈ lw_tbl := lw_at lw_m1 151 rfl
theorem q251 : (Jvm.Cond.superclass "IntentVats$Shroud" "IntentVats$Linen") ∈ lw_all := lw_g (lw_at lw_m1 152 rfl) rfl
theorem q754 : (Jvm.Cond.selects "IntentVats$Shroud" ({ cls := "IntentVats$Plain", name := "takes", desc := "(LIntentVats$Mill;I)I" } : Jvm.MethodName) ({ cls := "IntentVats$Shroud", name := "takes", desc := "(LIntentVats$Mill;I)I" } : Jvm.MethodName)) ∈ lw_all := lw_g (lw_at lw_m3 175 rfl) rfl
theorem q755 : (Jvm.Cond.instanceMethod ({ cls := "IntentVats$Shroud", name := "takes", desc := "(LIntentVats$Mill;I)I" } : Jvm.MethodName)) ∈ lw_all := lw_g (lw_at lw_m3 176 rfl) rfl
theorem q756 : (Jvm.Cond.code ({ cls := "IntentVats$Shroud", name := "takes", desc := "(LIntentVats$Mill;I)I" } : Jvm.MethodName) prog_22_method_2_code (3 : Nat) (Option.some Jvm.ClassFile.FieldType.int)) ∈ lw_all := lw_g (lw_at lw_m3 177 rfl) rfl
theorem q757 : (Jvm.Cond.methodLink "IntentVats$Shroud" (9 : Nat) ({ cls := "IntentVats$Linen", name := "takes", desc := "(LIntentVats$Mill;I)I" } : Jvm.MethodName)) ∈ lw_all := lw_g (lw_at lw_m3 178 rfl) rfl
theorem q779 : (Jvm.Cond.selects "IntentVats$Shroud" ({ cls := "IntentVats$Plain", name := "fights", desc := "(LIntentVats$Mill;I)I" } : Jvm.MethodName) ({ cls := "IntentVats$Shroud", name := "fights", desc := "(LIntentVats$Mill;I)I" } : Jvm.MethodName)) ∈ lw_all := lw_g (lw_at lw_m3 200 rfl) rfl
theorem q780 : (Jvm.Cond.instanceMethod ({ cls := "IntentVats$Shroud", name := "fights", desc := "(LIntentVats$Mill;I)I" } : Jvm.MethodName)) ∈ lw_all := lw_g (lw_at lw_m3 201 rfl) rfl
theorem q781 : (Jvm.Cond.code ({ cls := "IntentVats$Shroud", name := "fights", desc := "(LIntentVats$Mill;I)I" } : Jvm.MethodName) prog_22_method_3_code (3 : Nat) (Option.some Jvm.ClassFile.FieldType.int)) ∈ lw_all := lw_g (lw_at lw_m3 202 rfl) rfl
theorem q782 : (Jvm.Cond.methodLink "IntentVats$Shroud" (19 : Nat) ({ cls := "IntentVats$Linen", name := "fights", desc := "(LIntentVats$Mill;I)I" } : Jvm.MethodName)) ∈ lw_all := lw_g (lw_at lw_m3 203 rfl) rfl
theorem q797 : (Jvm.Cond.selects "IntentVats$Shroud" ({ cls := "IntentVats$Fighting", name := "fades", desc := "(LIntentVats$Mill;)I" } : Jvm.MethodName) ({ cls := "IntentVats$Shroud", name := "fades", desc := "(LIntentVats$Mill;)I" } : Jvm.MethodName)) ∈ lw_all := lw_g (lw_at lw_m3 218 rfl) rfl
theorem q798 : (Jvm.Cond.instanceMethod ({ cls := "IntentVats$Shroud", name := "fades", desc := "(LIntentVats$Mill;)I" } : Jvm.MethodName)) ∈ lw_all := lw_g (lw_at lw_m3 219 rfl) rfl
theorem q799 : (Jvm.Cond.code ({ cls := "IntentVats$Shroud", name := "fades", desc := "(LIntentVats$Mill;)I" } : Jvm.MethodName) prog_22_method_4_code (2 : Nat) (Option.some Jvm.ClassFile.FieldType.int)) ∈ lw_all := lw_g (lw_at lw_m3 220 rfl) rfl
theorem q800 : (Jvm.Cond.methodLink "IntentVats$Shroud" (22 : Nat) ({ cls := "IntentVats$Linen", name := "fades", desc := "(LIntentVats$Mill;)I" } : Jvm.MethodName)) ∈ lw_all := lw_g (lw_at lw_m3 221 rfl) rfl
theorem q2121 : (Jvm.Cond.castable "IntentVats$Shroud" "IntentVats$Plain") ∈ lw_tbl := lw_at lw_m9 102 rfl
/-! IntentVats$Muslin -/
set_option maxRecDepth 100000
def RX7 : String := "IntentVats$Muslin"
abbrev cX7_init : ByteArray := prog_12_method_1_code
def yX7_init : MethodName := ⟨RX7, "<init>", "()V"⟩
theorem dX7_init_0 : decode cX7_init 0 = .ok (.aload_n 0, 1) := by decide +kernel
theorem dX7_init_1 : decode cX7_init 1 = .ok (.invokespecial 1, 3) := by decide +kernel
theorem dX7_init_4 : decode cX7_init 4 = .ok (.return_, 1) := by decide +kernel
abbrev cX7_takes : ByteArray := prog_12_method_2_code
def yX7_takes : MethodName := ⟨RX7, "takes", "(LIntentVats$Mill;I)I"⟩
def dkwX7_takes_0 : List UInt8 := [42, 43, 28, 183, 0, 7, 5, 108, 172]
abbrev dktX7_takes_0 : List UInt8 := dkwX7_takes_0 ++ []
theorem dksX7_takes_0 : cX7_takes.data.toList.drop 0 = dktX7_takes_0 := by decide +kernel
theorem dX7_takes_0 : decode cX7_takes 0 = .ok (.aload_n 0, 1) := dk_42 (dk_at dksX7_takes_0 0 rfl rfl)
theorem dX7_takes_1 : decode cX7_takes 1 = .ok (.aload_n 1, 1) := dk_43 (dk_at dksX7_takes_0 1 rfl rfl)
theorem dX7_takes_2 : decode cX7_takes 2 = .ok (.iload_n 2, 1) := dk_28 (dk_at dksX7_takes_0 2 rfl rfl)
theorem dX7_takes_3 : decode cX7_takes 3 = .ok (.invokespecial 7, 3) := dk_183 0 7 (dk_at dksX7_takes_0 3 rfl rfl)
theorem dX7_takes_6 : decode cX7_takes 6 = .ok (.iconst 2, 1) := dk_5 (dk_at dksX7_takes_0 6 rfl rfl)
theorem dX7_takes_7 : decode cX7_takes 7 = .ok (.idiv, 1) := dk_108 (dk_at dksX7_takes_0 7 rfl rfl)
theorem dX7_takes_8 : decode cX7_takes 8 = .ok (.ireturn, 1) := dk_172 (dk_at dksX7_takes_0 8 rfl rfl)
abbrev cX7_fights : ByteArray := prog_12_method_3_code
def yX7_fights : MethodName := ⟨RX7, "fights", "(LIntentVats$Mill;I)I"⟩
def dkwX7_fights_0 : List UInt8 := [42, 43, 28, 183, 0, 11, 4, 96, 172]
abbrev dktX7_fights_0 : List UInt8 := dkwX7_fights_0 ++ []
theorem dksX7_fights_0 : cX7_fights.data.toList.drop 0 = dktX7_fights_0 := by decide +kernel
theorem dX7_fights_0 : decode cX7_fights 0 = .ok (.aload_n 0, 1) := dk_42 (dk_at dksX7_fights_0 0 rfl rfl)
theorem dX7_fights_1 : decode cX7_fights 1 = .ok (.aload_n 1, 1) := dk_43 (dk_at dksX7_fights_0 1 rfl rfl)
theorem dX7_fights_2 : decode cX7_fights 2 = .ok (.iload_n 2, 1) := dk_28 (dk_at dksX7_fights_0 2 rfl rfl)
theorem dX7_fights_3 : decode cX7_fights 3 = .ok (.invokespecial 11, 3) := dk_183 0 11 (dk_at dksX7_fights_0 3 rfl rfl)
theorem dX7_fights_6 : decode cX7_fights 6 = .ok (.iconst 1, 1) := dk_4 (dk_at dksX7_fights_0 6 rfl rfl)
theorem dX7_fights_7 : decode cX7_fights 7 = .ok (.iadd, 1) := dk_96 (dk_at dksX7_fights_0 7 rfl rfl)
theorem dX7_fights_8 : decode cX7_fights 8 = .ok (.ireturn, 1) := dk_172 (dk_at dksX7_fights_0 8 rfl rfl)
abbrev cX7_fades : ByteArray := prog_12_method_4_code
def yX7_fades : MethodName := ⟨RX7, "fades", "(LIntentVats$Mill;)I"⟩
def dkwX7_fades_0 : List UInt8 := [42, 43, 183, 0, 14, 6, 96, 172]
abbrev dktX7_fades_0 : List UInt8 := dkwX7_fades_0 ++ []
theorem dksX7_fades_0 : cX7_fades.data.toList.drop 0 = dktX7_fades_0 := by decide +kernel
theorem dX7_fades_0 : decode cX7_fades 0 = .ok (.aload_n 0, 1) := dk_42 (dk_at dksX7_fades_0 0 rfl rfl)
theorem dX7_fades_1 : decode cX7_fades 1 = .ok (.aload_n 1, 1) := dk_43 (dk_at dksX7_fades_0 1 rfl rfl)
theorem dX7_fades_2 : decode cX7_fades 2 = .ok (.invokespecial 14, 3) := dk_183 0 14 (dk_at dksX7_fades_0 2 rfl rfl)
theorem dX7_fades_5 : decode cX7_fades 5 = .ok (.iconst 3, 1) := dk_6 (dk_at dksX7_fades_0 5 rfl rfl)
theorem dX7_fades_6 : decode cX7_fades 6 = .ok (.iadd, 1) := dk_96 (dk_at dksX7_fades_0 6 rfl rfl)
theorem dX7_fades_7 : decode cX7_fades 7 = .ok (.ireturn, 1) := dk_172 (dk_at dksX7_fades_0 7 rfl rfl)
theorem q107 : (Jvm.Cond.initialized "IntentVats$Muslin") ∈ lw_all := lw_g (lw_at lw_m1 8 rfl) rfl
theorem q253 : (Jvm.Cond.instantiable "IntentVats$Muslin" (0 : Nat)) ∈ lw_all := lw_g (lw_at lw_m1 154 rfl) rfl
theorem q255 : (Jvm.Cond.instanceMethod ({ cls := "IntentVats$Muslin", name := "<init>", desc := "()V" } : Jvm.MethodName)) ∈ lw_all := lw_g (lw_at lw_m1 156 rfl) rfl
theorem q256 : (Jvm.Cond.code ({ cls := "IntentVats$Muslin", name := "<init>", desc := "()V" } : Jvm.MethodName) prog_12_method_1_code (1 : Nat) (Option.none : Option Jvm.ClassFile.FieldType)) ∈ lw_all := lw_g (lw_at lw_m1 157 rfl) rfl
theorem q257 : (Jvm.Cond.methodLinkNest "IntentVats$Muslin" (1 : Nat) ({ cls := "IntentVats$Plain", name := "<init>", desc := "()V" } : Jvm.MethodName) "IntentVats") ∈ lw_tbl := lw_at lw_m1 158 rfl
theorem q258 : (Jvm.Cond.superclass "IntentVats$Muslin" "IntentVats$Plain") ∈ lw_all := lw_g (lw_at lw_m1 159 rfl) rfl
theorem q750 : (Jvm.Cond.selects "IntentVats$Muslin" ({ cls := "IntentVats$Plain", name := "takes", desc := "(LIntentVats$Mill;I)I" } : Jvm.MethodName) ({ cls := "IntentVats$Muslin", name := "takes", desc := "(LIntentVats$Mill;I)I" } : Jvm.MethodName)) ∈ lw_all := lw_g (lw_at lw_m3 171 rfl) rfl
theorem q751 : (Jvm.Cond.instanceMethod ({ cls := "IntentVats$Muslin", name := "takes", desc := "(LIntentVats$Mill;I)I" } : Jvm.MethodName)) ∈ lw_all := lw_g (lw_at lw_m3 172 rfl) rfl
theorem q752 : (Jvm.Cond.code ({ cls := "IntentVats$Muslin", name := "takes", desc := "(LIntentVats$Mill;I)I" } : Jvm.MethodName) prog_12_method_2_code (3 : Nat) (Option.some Jvm.ClassFile.FieldType.int)) ∈ lw_all := lw_g (lw_at lw_m3 173 rfl) rfl
theorem q753 : (Jvm.Cond.methodLink "IntentVats$Muslin" (7 : Nat) ({ cls := "IntentVats$Plain", name := "takes", desc := "(LIntentVats$Mill;I)I" } : Jvm.MethodName)) ∈ lw_all := lw_g (lw_at lw_m3 174 rfl) rfl
theorem q775 : (Jvm.Cond.selects "IntentVats$Muslin" ({ cls := "IntentVats$Plain", name := "fights", desc := "(LIntentVats$Mill;I)I" } : Jvm.MethodName) ({ cls := "IntentVats$Muslin", name := "fights", desc := "(LIntentVats$Mill;I)I" } : Jvm.MethodName)) ∈ lw_all := lw_g (lw_at lw_m3 196 rfl) rfl
theorem q776 : (Jvm.Cond.instanceMethod ({ cls := "IntentVats$Muslin", name := "fights", desc := "(LIntentVats$Mill;I)I" } : Jvm.MethodName)) ∈ lw_all := lw_g (lw_at lw_m3 197 rfl) rfl
theorem q777 : (Jvm.Cond.code ({ cls := "IntentVats$Muslin", name := "fights", desc := "(LIntentVats$Mill;I)I" } : Jvm.MethodName) prog_12_method_3_code (3 : Nat) (Option.some Jvm.ClassFile.FieldType.int)) ∈ lw_all := lw_g (lw_at lw_m3 198 rfl) rfl
theorem q778 : (Jvm.Cond.methodLink "IntentVats$Muslin" (11 : Nat) ({ cls := "IntentVats$Plain", name := "fights", desc := "(LIntentVats$Mill;I)I" } : Jvm.MethodName)) ∈ lw_all := lw_g (lw_at lw_m3 199 rfl) rfl
theorem q793 : (Jvm.Cond.selects "IntentVats$Muslin" ({ cls := "IntentVats$Fighting", name := "fades", desc := "(LIntentVats$Mill;)I" } : Jvm.MethodName) ({ cls := "IntentVats$Muslin", name := "fades", desc := "(LIntentVats$Mill;)I" } : Jvm.MethodName)) ∈ lw_all := lw_g (lw_at lw_m3 214 rfl) rfl
theorem q794 : (Jvm.Cond.instanceMethod ({ cls := "IntentVats$Muslin", name := "fades", desc := "(LIntentVats$Mill;)I" } : Jvm.MethodName)) ∈ lw_all := lw_g (lw_at lw_m3 215 rfl) rfl
theorem q795 : (Jvm.Cond.code ({ cls := "IntentVats$Muslin", name := "fades", desc := "(LIntentVats$Mill;)I" } : Jvm.MethodName) prog_12_method_4_code (2 : Nat) (Option.some Jvm.ClassFile.FieldType.int)) ∈ lw_all := lw_g (lw_at lw_m3 216 rfl) rfl
theorem q2122 : (Jvm.Cond.castable "IntentVats$Muslin" "IntentVats$Plain") ∈ lw_tbl := lw_at lw_m9 103 rfl
/-! IntentVats$Reader -/
set_option maxRecDepth 100000
def RX8 : String := "IntentVats$Reader"
def TX8 : u_T := fun k => match k with
  | 0 => ("IntentVats$Reader", "kinds", "[Ljava/lang/String;", true)
  | 1 => ("IntentVats$Reader", "laws", "[Ljava/lang/String;", true)
  | 2 => ("IntentVats$Reader", "fault", "LIntentVats$Fault;", true)
  | 3 => ("IntentVats$Reader", "t", "LIntentVats$Mill;", true)
  | 4 => ("IntentVats$Reader", "text", "[B", false)
  | 5 => ("IntentVats$Reader", "many", "I", false)
  | 6 => ("IntentVats$Reader", "from", "I", false)
  | _ => ("IntentVats$Reader", "to", "I", false)
def tyX8 : Nat → FieldType := fun k => match k with
  | 0 => .array (.object "java/lang/String")
  | 1 => .array (.object "java/lang/String")
  | 2 => .object "IntentVats$Fault"
  | 3 => .object "IntentVats$Mill"
  | 4 => .array .byte
  | 5 => .int
  | 6 => .int
  | _ => .int
abbrev wsX80 : List Cond := u_ws RX8 TX8 8
theorem nmX8 : ∀ a, a < 8 → ∀ b, b < 8 → a ≠ b → (TX8 a).2.1 ≠ (TX8 b).2.1 := by decide +kernel
theorem tyX8_ok : ∀ k, k < 8 → parseFieldDescriptor (TX8 k).2.2.1 = some (tyX8 k) := by decide +kernel
abbrev cX8_init : ByteArray := prog_17_method_1_code
def yX8_init : MethodName := ⟨RX8, "<init>", "(LIntentVats$Mill;)V"⟩
def dkwX8_init_3 : List UInt8 := [187, 0, 40, 89, 183, 0, 42, 181, 0, 43, 42, 43, 181, 0, 47, 177]
abbrev dktX8_init_3 : List UInt8 := dkwX8_init_3 ++ []
def dkwX8_init_2 : List UInt8 := [89, 3, 18, 29, 83, 89, 4, 18, 31, 83, 89, 5, 18, 33, 83, 89, 6, 18, 35, 83, 181, 0, 37, 42]
abbrev dktX8_init_2 : List UInt8 := dkwX8_init_2 ++ dktX8_init_3
def dkwX8_init_1 : List UInt8 := [83, 89, 6, 18, 17, 83, 89, 7, 18, 19, 83, 89, 8, 18, 21, 83, 181, 0, 23, 42, 7, 189, 0, 9]
abbrev dktX8_init_1 : List UInt8 := dkwX8_init_1 ++ dktX8_init_2
def dkwX8_init_0 : List UInt8 := [42, 183, 0, 3, 42, 16, 6, 189, 0, 9, 89, 3, 18, 11, 83, 89, 4, 18, 13, 83, 89, 5, 18, 15]
abbrev dktX8_init_0 : List UInt8 := dkwX8_init_0 ++ dktX8_init_1
theorem dksX8_init_0 : cX8_init.data.toList.drop 0 = dktX8_init_0 := by decide +kernel
theorem dksX8_init_1 : cX8_init.data.toList.drop 24 = dktX8_init_1 := dk_seg dksX8_init_0 24 rfl rfl
theorem dksX8_init_2 : cX8_init.data.toList.drop 48 = dktX8_init_2 := dk_seg dksX8_init_1 24 rfl rfl
theorem dksX8_init_3 : cX8_init.data.toList.drop 72 = dktX8_init_3 := dk_seg dksX8_init_2 24 rfl rfl
theorem dX8_init_0 : decode cX8_init 0 = .ok (.aload_n 0, 1) := dk_42 (dk_at dksX8_init_0 0 rfl rfl)
theorem dX8_init_1 : decode cX8_init 1 = .ok (.invokespecial 3, 3) := dk_183 0 3 (dk_at dksX8_init_0 1 rfl rfl)
theorem dX8_init_4 : decode cX8_init 4 = .ok (.aload_n 0, 1) := dk_42 (dk_at dksX8_init_0 4 rfl rfl)
theorem dX8_init_5 : decode cX8_init 5 = .ok (.bipush 6, 2) := dk_16 6 (dk_at dksX8_init_0 5 rfl rfl)
theorem dX8_init_7 : decode cX8_init 7 = .ok (.anewarray 9, 3) := dk_189 0 9 (dk_at dksX8_init_0 7 rfl rfl)
theorem dX8_init_10 : decode cX8_init 10 = .ok (.dup, 1) := dk_89 (dk_at dksX8_init_0 10 rfl rfl)
theorem dX8_init_11 : decode cX8_init 11 = .ok (.iconst 0, 1) := dk_3 (dk_at dksX8_init_0 11 rfl rfl)
theorem dX8_init_12 : decode cX8_init 12 = .ok (.ldc 11, 2) := dk_18 11 (dk_at dksX8_init_0 12 rfl rfl)
theorem dX8_init_14 : decode cX8_init 14 = .ok (.aastore, 1) := dk_83 (dk_at dksX8_init_0 14 rfl rfl)
theorem dX8_init_15 : decode cX8_init 15 = .ok (.dup, 1) := dk_89 (dk_at dksX8_init_0 15 rfl rfl)
theorem dX8_init_16 : decode cX8_init 16 = .ok (.iconst 1, 1) := dk_4 (dk_at dksX8_init_0 16 rfl rfl)
theorem dX8_init_17 : decode cX8_init 17 = .ok (.ldc 13, 2) := dk_18 13 (dk_at dksX8_init_0 17 rfl rfl)
theorem dX8_init_19 : decode cX8_init 19 = .ok (.aastore, 1) := dk_83 (dk_at dksX8_init_0 19 rfl rfl)
theorem dX8_init_20 : decode cX8_init 20 = .ok (.dup, 1) := dk_89 (dk_at dksX8_init_0 20 rfl rfl)
theorem dX8_init_21 : decode cX8_init 21 = .ok (.iconst 2, 1) := dk_5 (dk_at dksX8_init_0 21 rfl rfl)
theorem dX8_init_22 : decode cX8_init 22 = .ok (.ldc 15, 2) := dk_18 15 (dk_at dksX8_init_0 22 rfl rfl)
theorem dX8_init_24 : decode cX8_init 24 = .ok (.aastore, 1) := dk_83 (dk_at dksX8_init_1 0 rfl rfl)
theorem dX8_init_25 : decode cX8_init 25 = .ok (.dup, 1) := dk_89 (dk_at dksX8_init_1 1 rfl rfl)
theorem dX8_init_26 : decode cX8_init 26 = .ok (.iconst 3, 1) := dk_6 (dk_at dksX8_init_1 2 rfl rfl)
theorem dX8_init_27 : decode cX8_init 27 = .ok (.ldc 17, 2) := dk_18 17 (dk_at dksX8_init_1 3 rfl rfl)
theorem dX8_init_29 : decode cX8_init 29 = .ok (.aastore, 1) := dk_83 (dk_at dksX8_init_1 5 rfl rfl)
theorem dX8_init_30 : decode cX8_init 30 = .ok (.dup, 1) := dk_89 (dk_at dksX8_init_1 6 rfl rfl)
theorem dX8_init_31 : decode cX8_init 31 = .ok (.iconst 4, 1) := dk_7 (dk_at dksX8_init_1 7 rfl rfl)
theorem dX8_init_32 : decode cX8_init 32 = .ok (.ldc 19, 2) := dk_18 19 (dk_at dksX8_init_1 8 rfl rfl)
theorem dX8_init_34 : decode cX8_init 34 = .ok (.aastore, 1) := dk_83 (dk_at dksX8_init_1 10 rfl rfl)
theorem dX8_init_35 : decode cX8_init 35 = .ok (.dup, 1) := dk_89 (dk_at dksX8_init_1 11 rfl rfl)
theorem dX8_init_36 : decode cX8_init 36 = .ok (.iconst 5, 1) := dk_8 (dk_at dksX8_init_1 12 rfl rfl)
theorem dX8_init_37 : decode cX8_init 37 = .ok (.ldc 21, 2) := dk_18 21 (dk_at dksX8_init_1 13 rfl rfl)
theorem dX8_init_39 : decode cX8_init 39 = .ok (.aastore, 1) := dk_83 (dk_at dksX8_init_1 15 rfl rfl)
theorem dX8_init_40 : decode cX8_init 40 = .ok (.putfield 23, 3) := dk_181 0 23 (dk_at dksX8_init_1 16 rfl rfl)
theorem dX8_init_43 : decode cX8_init 43 = .ok (.aload_n 0, 1) := dk_42 (dk_at dksX8_init_1 19 rfl rfl)
theorem dX8_init_44 : decode cX8_init 44 = .ok (.iconst 4, 1) := dk_7 (dk_at dksX8_init_1 20 rfl rfl)
theorem dX8_init_45 : decode cX8_init 45 = .ok (.anewarray 9, 3) := dk_189 0 9 (dk_at dksX8_init_1 21 rfl rfl)
theorem dX8_init_48 : decode cX8_init 48 = .ok (.dup, 1) := dk_89 (dk_at dksX8_init_2 0 rfl rfl)
theorem dX8_init_49 : decode cX8_init 49 = .ok (.iconst 0, 1) := dk_3 (dk_at dksX8_init_2 1 rfl rfl)
theorem dX8_init_50 : decode cX8_init 50 = .ok (.ldc 29, 2) := dk_18 29 (dk_at dksX8_init_2 2 rfl rfl)
theorem dX8_init_52 : decode cX8_init 52 = .ok (.aastore, 1) := dk_83 (dk_at dksX8_init_2 4 rfl rfl)
theorem dX8_init_53 : decode cX8_init 53 = .ok (.dup, 1) := dk_89 (dk_at dksX8_init_2 5 rfl rfl)
theorem dX8_init_54 : decode cX8_init 54 = .ok (.iconst 1, 1) := dk_4 (dk_at dksX8_init_2 6 rfl rfl)
theorem dX8_init_55 : decode cX8_init 55 = .ok (.ldc 31, 2) := dk_18 31 (dk_at dksX8_init_2 7 rfl rfl)
theorem dX8_init_57 : decode cX8_init 57 = .ok (.aastore, 1) := dk_83 (dk_at dksX8_init_2 9 rfl rfl)
theorem dX8_init_58 : decode cX8_init 58 = .ok (.dup, 1) := dk_89 (dk_at dksX8_init_2 10 rfl rfl)
theorem dX8_init_59 : decode cX8_init 59 = .ok (.iconst 2, 1) := dk_5 (dk_at dksX8_init_2 11 rfl rfl)
theorem dX8_init_60 : decode cX8_init 60 = .ok (.ldc 33, 2) := dk_18 33 (dk_at dksX8_init_2 12 rfl rfl)
theorem dX8_init_62 : decode cX8_init 62 = .ok (.aastore, 1) := dk_83 (dk_at dksX8_init_2 14 rfl rfl)
theorem dX8_init_63 : decode cX8_init 63 = .ok (.dup, 1) := dk_89 (dk_at dksX8_init_2 15 rfl rfl)
theorem dX8_init_64 : decode cX8_init 64 = .ok (.iconst 3, 1) := dk_6 (dk_at dksX8_init_2 16 rfl rfl)
theorem dX8_init_65 : decode cX8_init 65 = .ok (.ldc 35, 2) := dk_18 35 (dk_at dksX8_init_2 17 rfl rfl)
theorem dX8_init_67 : decode cX8_init 67 = .ok (.aastore, 1) := dk_83 (dk_at dksX8_init_2 19 rfl rfl)
theorem dX8_init_68 : decode cX8_init 68 = .ok (.putfield 37, 3) := dk_181 0 37 (dk_at dksX8_init_2 20 rfl rfl)
theorem dX8_init_71 : decode cX8_init 71 = .ok (.aload_n 0, 1) := dk_42 (dk_at dksX8_init_2 23 rfl rfl)
theorem dX8_init_72 : decode cX8_init 72 = .ok (.new 40, 3) := dk_187 0 40 (dk_at dksX8_init_3 0 rfl rfl)
theorem dX8_init_75 : decode cX8_init 75 = .ok (.dup, 1) := dk_89 (dk_at dksX8_init_3 3 rfl rfl)
theorem dX8_init_76 : decode cX8_init 76 = .ok (.invokespecial 42, 3) := dk_183 0 42 (dk_at dksX8_init_3 4 rfl rfl)
theorem dX8_init_79 : decode cX8_init 79 = .ok (.putfield 43, 3) := dk_181 0 43 (dk_at dksX8_init_3 7 rfl rfl)
theorem dX8_init_82 : decode cX8_init 82 = .ok (.aload_n 0, 1) := dk_42 (dk_at dksX8_init_3 10 rfl rfl)
theorem dX8_init_83 : decode cX8_init 83 = .ok (.aload_n 1, 1) := dk_43 (dk_at dksX8_init_3 11 rfl rfl)
theorem dX8_init_84 : decode cX8_init 84 = .ok (.putfield 47, 3) := dk_181 0 47 (dk_at dksX8_init_3 12 rfl rfl)
theorem dX8_init_87 : decode cX8_init 87 = .ok (.return_, 1) := dk_177 (dk_at dksX8_init_3 15 rfl rfl)
abbrev cX8_read : ByteArray := prog_17_method_19_code
def yX8_read : MethodName := ⟨RX8, "read", "([BI)V"⟩
def dkwX8_read_1 : List UInt8 := [42, 182, 0, 182, 167, 255, 241, 177]
abbrev dktX8_read_1 : List UInt8 := dkwX8_read_1 ++ []
def dkwX8_read_0 : List UInt8 := [42, 43, 28, 182, 0, 176, 42, 180, 0, 47, 182, 0, 180, 42, 180, 0, 51, 42, 180, 0, 55, 162, 0, 10]
abbrev dktX8_read_0 : List UInt8 := dkwX8_read_0 ++ dktX8_read_1
theorem dksX8_read_0 : cX8_read.data.toList.drop 0 = dktX8_read_0 := by decide +kernel
theorem dksX8_read_1 : cX8_read.data.toList.drop 24 = dktX8_read_1 := dk_seg dksX8_read_0 24 rfl rfl
theorem dX8_read_0 : decode cX8_read 0 = .ok (.aload_n 0, 1) := dk_42 (dk_at dksX8_read_0 0 rfl rfl)
theorem dX8_read_1 : decode cX8_read 1 = .ok (.aload_n 1, 1) := dk_43 (dk_at dksX8_read_0 1 rfl rfl)
theorem dX8_read_2 : decode cX8_read 2 = .ok (.iload_n 2, 1) := dk_28 (dk_at dksX8_read_0 2 rfl rfl)
theorem dX8_read_3 : decode cX8_read 3 = .ok (.invokevirtual 176, 3) := dk_182 0 176 (dk_at dksX8_read_0 3 rfl rfl)
theorem dX8_read_6 : decode cX8_read 6 = .ok (.aload_n 0, 1) := dk_42 (dk_at dksX8_read_0 6 rfl rfl)
theorem dX8_read_7 : decode cX8_read 7 = .ok (.getfield 47, 3) := dk_180 0 47 (dk_at dksX8_read_0 7 rfl rfl)
theorem dX8_read_10 : decode cX8_read 10 = .ok (.invokevirtual 180, 3) := dk_182 0 180 (dk_at dksX8_read_0 10 rfl rfl)
theorem dX8_read_13 : decode cX8_read 13 = .ok (.aload_n 0, 1) := dk_42 (dk_at dksX8_read_0 13 rfl rfl)
theorem dX8_read_14 : decode cX8_read 14 = .ok (.getfield 51, 3) := dk_180 0 51 (dk_at dksX8_read_0 14 rfl rfl)
theorem dX8_read_17 : decode cX8_read 17 = .ok (.aload_n 0, 1) := dk_42 (dk_at dksX8_read_0 17 rfl rfl)
theorem dX8_read_18 : decode cX8_read 18 = .ok (.getfield 55, 3) := dk_180 0 55 (dk_at dksX8_read_0 18 rfl rfl)
theorem dX8_read_21 : decode cX8_read 21 = .ok (.if_icmp .ge 10, 3) := dk_162 0 10 (dk_at dksX8_read_0 21 rfl rfl)
theorem dX8_read_24 : decode cX8_read 24 = .ok (.aload_n 0, 1) := dk_42 (dk_at dksX8_read_1 0 rfl rfl)
theorem dX8_read_25 : decode cX8_read 25 = .ok (.invokevirtual 182, 3) := dk_182 0 182 (dk_at dksX8_read_1 1 rfl rfl)
theorem dX8_read_28 : decode cX8_read 28 = .ok (.goto (-15), 3) := dk_167 255 241 (dk_at dksX8_read_1 4 rfl rfl)
theorem dX8_read_31 : decode cX8_read 31 = .ok (.return_, 1) := dk_177 (dk_at dksX8_read_1 7 rfl rfl)
abbrev cX8_begins : ByteArray := prog_17_method_12_code
def yX8_begins : MethodName := ⟨RX8, "begins", "([BI)V"⟩
def dkwX8_begins_0 : List UInt8 := [42, 43, 181, 0, 58, 42, 28, 181, 0, 55, 42, 3, 181, 0, 62, 42, 182, 0, 91, 177]
abbrev dktX8_begins_0 : List UInt8 := dkwX8_begins_0 ++ []
theorem dksX8_begins_0 : cX8_begins.data.toList.drop 0 = dktX8_begins_0 := by decide +kernel
theorem dX8_begins_0 : decode cX8_begins 0 = .ok (.aload_n 0, 1) := dk_42 (dk_at dksX8_begins_0 0 rfl rfl)
theorem dX8_begins_1 : decode cX8_begins 1 = .ok (.aload_n 1, 1) := dk_43 (dk_at dksX8_begins_0 1 rfl rfl)
theorem dX8_begins_2 : decode cX8_begins 2 = .ok (.putfield 58, 3) := dk_181 0 58 (dk_at dksX8_begins_0 2 rfl rfl)
theorem dX8_begins_5 : decode cX8_begins 5 = .ok (.aload_n 0, 1) := dk_42 (dk_at dksX8_begins_0 5 rfl rfl)
theorem dX8_begins_6 : decode cX8_begins 6 = .ok (.iload_n 2, 1) := dk_28 (dk_at dksX8_begins_0 6 rfl rfl)
theorem dX8_begins_7 : decode cX8_begins 7 = .ok (.putfield 55, 3) := dk_181 0 55 (dk_at dksX8_begins_0 7 rfl rfl)
theorem dX8_begins_10 : decode cX8_begins 10 = .ok (.aload_n 0, 1) := dk_42 (dk_at dksX8_begins_0 10 rfl rfl)
theorem dX8_begins_11 : decode cX8_begins 11 = .ok (.iconst 0, 1) := dk_3 (dk_at dksX8_begins_0 11 rfl rfl)
theorem dX8_begins_12 : decode cX8_begins 12 = .ok (.putfield 62, 3) := dk_181 0 62 (dk_at dksX8_begins_0 12 rfl rfl)
theorem dX8_begins_15 : decode cX8_begins 15 = .ok (.aload_n 0, 1) := dk_42 (dk_at dksX8_begins_0 15 rfl rfl)
theorem dX8_begins_16 : decode cX8_begins 16 = .ok (.invokevirtual 91, 3) := dk_182 0 91 (dk_at dksX8_begins_0 16 rfl rfl)
theorem dX8_begins_19 : decode cX8_begins 19 = .ok (.return_, 1) := dk_177 (dk_at dksX8_begins_0 19 rfl rfl)
abbrev cX8_next : ByteArray := prog_17_method_5_code
def yX8_next : MethodName := ⟨RX8, "next", "()V"⟩
def dkwX8_next_6 : List UInt8 := [180, 0, 62, 4, 96, 181, 0, 62, 167, 255, 197, 177]
abbrev dktX8_next_6 : List UInt8 := dkwX8_next_6 ++ []
def dkwX8_next_5 : List UInt8 := [154, 0, 22, 28, 153, 0, 31, 42, 180, 0, 58, 42, 180, 0, 62, 51, 184, 0, 73, 153, 0, 16, 42, 89]
abbrev dktX8_next_5 : List UInt8 := dkwX8_next_5 ++ dktX8_next_6
def dkwX8_next_4 : List UInt8 := [180, 0, 55, 162, 0, 54, 27, 153, 0, 18, 42, 180, 0, 58, 42, 180, 0, 62, 51, 184, 0, 69]
abbrev dktX8_next_4 : List UInt8 := dkwX8_next_4 ++ dktX8_next_5
def dkwX8_next_3 : List UInt8 := [181, 0, 62, 42, 182, 0, 65, 184, 0, 69, 60, 42, 182, 0, 65, 184, 0, 73, 61, 42, 180, 0, 62, 42]
abbrev dktX8_next_3 : List UInt8 := dkwX8_next_3 ++ dktX8_next_4
def dkwX8_next_2 : List UInt8 := [180, 0, 51, 42, 180, 0, 55, 162, 0, 12, 42, 180, 0, 51, 4, 96, 167, 0, 7, 42, 180, 0, 51]
abbrev dktX8_next_2 : List UInt8 := dkwX8_next_2 ++ dktX8_next_3
def dkwX8_next_1 : List UInt8 := [180, 0, 51, 51, 16, 32, 160, 0, 16, 42, 89, 180, 0, 51, 4, 96, 181, 0, 51, 167, 255, 221, 42, 42]
abbrev dktX8_next_1 : List UInt8 := dkwX8_next_1 ++ dktX8_next_2
def dkwX8_next_0 : List UInt8 := [42, 42, 180, 0, 62, 181, 0, 51, 42, 180, 0, 51, 42, 180, 0, 55, 162, 0, 30, 42, 180, 0, 58, 42]
abbrev dktX8_next_0 : List UInt8 := dkwX8_next_0 ++ dktX8_next_1
theorem dksX8_next_0 : cX8_next.data.toList.drop 0 = dktX8_next_0 := by decide +kernel
theorem dksX8_next_1 : cX8_next.data.toList.drop 24 = dktX8_next_1 := dk_seg dksX8_next_0 24 rfl rfl
theorem dksX8_next_2 : cX8_next.data.toList.drop 48 = dktX8_next_2 := dk_seg dksX8_next_1 24 rfl rfl
theorem dksX8_next_3 : cX8_next.data.toList.drop 71 = dktX8_next_3 := dk_seg dksX8_next_2 23 rfl rfl
theorem dksX8_next_4 : cX8_next.data.toList.drop 95 = dktX8_next_4 := dk_seg dksX8_next_3 24 rfl rfl
theorem dksX8_next_5 : cX8_next.data.toList.drop 117 = dktX8_next_5 := dk_seg dksX8_next_4 22 rfl rfl
theorem dksX8_next_6 : cX8_next.data.toList.drop 141 = dktX8_next_6 := dk_seg dksX8_next_5 24 rfl rfl
theorem dX8_next_0 : decode cX8_next 0 = .ok (.aload_n 0, 1) := dk_42 (dk_at dksX8_next_0 0 rfl rfl)
theorem dX8_next_1 : decode cX8_next 1 = .ok (.aload_n 0, 1) := dk_42 (dk_at dksX8_next_0 1 rfl rfl)
theorem dX8_next_2 : decode cX8_next 2 = .ok (.getfield 62, 3) := dk_180 0 62 (dk_at dksX8_next_0 2 rfl rfl)
theorem dX8_next_5 : decode cX8_next 5 = .ok (.putfield 51, 3) := dk_181 0 51 (dk_at dksX8_next_0 5 rfl rfl)
theorem dX8_next_8 : decode cX8_next 8 = .ok (.aload_n 0, 1) := dk_42 (dk_at dksX8_next_0 8 rfl rfl)
theorem dX8_next_9 : decode cX8_next 9 = .ok (.getfield 51, 3) := dk_180 0 51 (dk_at dksX8_next_0 9 rfl rfl)
theorem dX8_next_12 : decode cX8_next 12 = .ok (.aload_n 0, 1) := dk_42 (dk_at dksX8_next_0 12 rfl rfl)
theorem dX8_next_13 : decode cX8_next 13 = .ok (.getfield 55, 3) := dk_180 0 55 (dk_at dksX8_next_0 13 rfl rfl)
theorem dX8_next_16 : decode cX8_next 16 = .ok (.if_icmp .ge 30, 3) := dk_162 0 30 (dk_at dksX8_next_0 16 rfl rfl)
theorem dX8_next_19 : decode cX8_next 19 = .ok (.aload_n 0, 1) := dk_42 (dk_at dksX8_next_0 19 rfl rfl)
theorem dX8_next_20 : decode cX8_next 20 = .ok (.getfield 58, 3) := dk_180 0 58 (dk_at dksX8_next_0 20 rfl rfl)
theorem dX8_next_23 : decode cX8_next 23 = .ok (.aload_n 0, 1) := dk_42 (dk_at dksX8_next_0 23 rfl rfl)
theorem dX8_next_24 : decode cX8_next 24 = .ok (.getfield 51, 3) := dk_180 0 51 (dk_at dksX8_next_1 0 rfl rfl)
theorem dX8_next_27 : decode cX8_next 27 = .ok (.baload, 1) := dk_51 (dk_at dksX8_next_1 3 rfl rfl)
theorem dX8_next_28 : decode cX8_next 28 = .ok (.bipush 32, 2) := dk_16 32 (dk_at dksX8_next_1 4 rfl rfl)
theorem dX8_next_30 : decode cX8_next 30 = .ok (.if_icmp .ne 16, 3) := dk_160 0 16 (dk_at dksX8_next_1 6 rfl rfl)
theorem dX8_next_33 : decode cX8_next 33 = .ok (.aload_n 0, 1) := dk_42 (dk_at dksX8_next_1 9 rfl rfl)
theorem dX8_next_34 : decode cX8_next 34 = .ok (.dup, 1) := dk_89 (dk_at dksX8_next_1 10 rfl rfl)
theorem dX8_next_35 : decode cX8_next 35 = .ok (.getfield 51, 3) := dk_180 0 51 (dk_at dksX8_next_1 11 rfl rfl)
theorem dX8_next_38 : decode cX8_next 38 = .ok (.iconst 1, 1) := dk_4 (dk_at dksX8_next_1 14 rfl rfl)
theorem dX8_next_39 : decode cX8_next 39 = .ok (.iadd, 1) := dk_96 (dk_at dksX8_next_1 15 rfl rfl)
theorem dX8_next_40 : decode cX8_next 40 = .ok (.putfield 51, 3) := dk_181 0 51 (dk_at dksX8_next_1 16 rfl rfl)
theorem dX8_next_43 : decode cX8_next 43 = .ok (.goto (-35), 3) := dk_167 255 221 (dk_at dksX8_next_1 19 rfl rfl)
theorem dX8_next_46 : decode cX8_next 46 = .ok (.aload_n 0, 1) := dk_42 (dk_at dksX8_next_1 22 rfl rfl)
theorem dX8_next_47 : decode cX8_next 47 = .ok (.aload_n 0, 1) := dk_42 (dk_at dksX8_next_1 23 rfl rfl)
theorem dX8_next_48 : decode cX8_next 48 = .ok (.getfield 51, 3) := dk_180 0 51 (dk_at dksX8_next_2 0 rfl rfl)
theorem dX8_next_51 : decode cX8_next 51 = .ok (.aload_n 0, 1) := dk_42 (dk_at dksX8_next_2 3 rfl rfl)
theorem dX8_next_52 : decode cX8_next 52 = .ok (.getfield 55, 3) := dk_180 0 55 (dk_at dksX8_next_2 4 rfl rfl)
theorem dX8_next_55 : decode cX8_next 55 = .ok (.if_icmp .ge 12, 3) := dk_162 0 12 (dk_at dksX8_next_2 7 rfl rfl)
theorem dX8_next_58 : decode cX8_next 58 = .ok (.aload_n 0, 1) := dk_42 (dk_at dksX8_next_2 10 rfl rfl)
theorem dX8_next_59 : decode cX8_next 59 = .ok (.getfield 51, 3) := dk_180 0 51 (dk_at dksX8_next_2 11 rfl rfl)
theorem dX8_next_62 : decode cX8_next 62 = .ok (.iconst 1, 1) := dk_4 (dk_at dksX8_next_2 14 rfl rfl)
theorem dX8_next_63 : decode cX8_next 63 = .ok (.iadd, 1) := dk_96 (dk_at dksX8_next_2 15 rfl rfl)
theorem dX8_next_64 : decode cX8_next 64 = .ok (.goto 7, 3) := dk_167 0 7 (dk_at dksX8_next_2 16 rfl rfl)
theorem dX8_next_67 : decode cX8_next 67 = .ok (.aload_n 0, 1) := dk_42 (dk_at dksX8_next_2 19 rfl rfl)
theorem dX8_next_68 : decode cX8_next 68 = .ok (.getfield 51, 3) := dk_180 0 51 (dk_at dksX8_next_2 20 rfl rfl)
theorem dX8_next_71 : decode cX8_next 71 = .ok (.putfield 62, 3) := dk_181 0 62 (dk_at dksX8_next_3 0 rfl rfl)
theorem dX8_next_74 : decode cX8_next 74 = .ok (.aload_n 0, 1) := dk_42 (dk_at dksX8_next_3 3 rfl rfl)
theorem dX8_next_75 : decode cX8_next 75 = .ok (.invokevirtual 65, 3) := dk_182 0 65 (dk_at dksX8_next_3 4 rfl rfl)
theorem dX8_next_78 : decode cX8_next 78 = .ok (.invokestatic 69, 3) := dk_184 0 69 (dk_at dksX8_next_3 7 rfl rfl)
theorem dX8_next_81 : decode cX8_next 81 = .ok (.istore_n 1, 1) := dk_60 (dk_at dksX8_next_3 10 rfl rfl)
theorem dX8_next_82 : decode cX8_next 82 = .ok (.aload_n 0, 1) := dk_42 (dk_at dksX8_next_3 11 rfl rfl)
theorem dX8_next_83 : decode cX8_next 83 = .ok (.invokevirtual 65, 3) := dk_182 0 65 (dk_at dksX8_next_3 12 rfl rfl)
theorem dX8_next_86 : decode cX8_next 86 = .ok (.invokestatic 73, 3) := dk_184 0 73 (dk_at dksX8_next_3 15 rfl rfl)
theorem dX8_next_89 : decode cX8_next 89 = .ok (.istore_n 2, 1) := dk_61 (dk_at dksX8_next_3 18 rfl rfl)
theorem dX8_next_90 : decode cX8_next 90 = .ok (.aload_n 0, 1) := dk_42 (dk_at dksX8_next_3 19 rfl rfl)
theorem dX8_next_91 : decode cX8_next 91 = .ok (.getfield 62, 3) := dk_180 0 62 (dk_at dksX8_next_3 20 rfl rfl)
theorem dX8_next_94 : decode cX8_next 94 = .ok (.aload_n 0, 1) := dk_42 (dk_at dksX8_next_3 23 rfl rfl)
theorem dX8_next_95 : decode cX8_next 95 = .ok (.getfield 55, 3) := dk_180 0 55 (dk_at dksX8_next_4 0 rfl rfl)
theorem dX8_next_98 : decode cX8_next 98 = .ok (.if_icmp .ge 54, 3) := dk_162 0 54 (dk_at dksX8_next_4 3 rfl rfl)
theorem dX8_next_101 : decode cX8_next 101 = .ok (.iload_n 1, 1) := dk_27 (dk_at dksX8_next_4 6 rfl rfl)
theorem dX8_next_102 : decode cX8_next 102 = .ok (.ifCond .eq 18, 3) := dk_153 0 18 (dk_at dksX8_next_4 7 rfl rfl)
theorem dX8_next_105 : decode cX8_next 105 = .ok (.aload_n 0, 1) := dk_42 (dk_at dksX8_next_4 10 rfl rfl)
theorem dX8_next_106 : decode cX8_next 106 = .ok (.getfield 58, 3) := dk_180 0 58 (dk_at dksX8_next_4 11 rfl rfl)
theorem dX8_next_109 : decode cX8_next 109 = .ok (.aload_n 0, 1) := dk_42 (dk_at dksX8_next_4 14 rfl rfl)
theorem dX8_next_110 : decode cX8_next 110 = .ok (.getfield 62, 3) := dk_180 0 62 (dk_at dksX8_next_4 15 rfl rfl)
theorem dX8_next_113 : decode cX8_next 113 = .ok (.baload, 1) := dk_51 (dk_at dksX8_next_4 18 rfl rfl)
theorem dX8_next_114 : decode cX8_next 114 = .ok (.invokestatic 69, 3) := dk_184 0 69 (dk_at dksX8_next_4 19 rfl rfl)
theorem dX8_next_117 : decode cX8_next 117 = .ok (.ifCond .ne 22, 3) := dk_154 0 22 (dk_at dksX8_next_5 0 rfl rfl)
theorem dX8_next_120 : decode cX8_next 120 = .ok (.iload_n 2, 1) := dk_28 (dk_at dksX8_next_5 3 rfl rfl)
theorem dX8_next_121 : decode cX8_next 121 = .ok (.ifCond .eq 31, 3) := dk_153 0 31 (dk_at dksX8_next_5 4 rfl rfl)
theorem dX8_next_124 : decode cX8_next 124 = .ok (.aload_n 0, 1) := dk_42 (dk_at dksX8_next_5 7 rfl rfl)
theorem dX8_next_125 : decode cX8_next 125 = .ok (.getfield 58, 3) := dk_180 0 58 (dk_at dksX8_next_5 8 rfl rfl)
theorem dX8_next_128 : decode cX8_next 128 = .ok (.aload_n 0, 1) := dk_42 (dk_at dksX8_next_5 11 rfl rfl)
theorem dX8_next_129 : decode cX8_next 129 = .ok (.getfield 62, 3) := dk_180 0 62 (dk_at dksX8_next_5 12 rfl rfl)
theorem dX8_next_132 : decode cX8_next 132 = .ok (.baload, 1) := dk_51 (dk_at dksX8_next_5 15 rfl rfl)
theorem dX8_next_133 : decode cX8_next 133 = .ok (.invokestatic 73, 3) := dk_184 0 73 (dk_at dksX8_next_5 16 rfl rfl)
theorem dX8_next_136 : decode cX8_next 136 = .ok (.ifCond .eq 16, 3) := dk_153 0 16 (dk_at dksX8_next_5 19 rfl rfl)
theorem dX8_next_139 : decode cX8_next 139 = .ok (.aload_n 0, 1) := dk_42 (dk_at dksX8_next_5 22 rfl rfl)
theorem dX8_next_140 : decode cX8_next 140 = .ok (.dup, 1) := dk_89 (dk_at dksX8_next_5 23 rfl rfl)
theorem dX8_next_141 : decode cX8_next 141 = .ok (.getfield 62, 3) := dk_180 0 62 (dk_at dksX8_next_6 0 rfl rfl)
theorem dX8_next_144 : decode cX8_next 144 = .ok (.iconst 1, 1) := dk_4 (dk_at dksX8_next_6 3 rfl rfl)
theorem dX8_next_145 : decode cX8_next 145 = .ok (.iadd, 1) := dk_96 (dk_at dksX8_next_6 4 rfl rfl)
theorem dX8_next_146 : decode cX8_next 146 = .ok (.putfield 62, 3) := dk_181 0 62 (dk_at dksX8_next_6 5 rfl rfl)
theorem dX8_next_149 : decode cX8_next 149 = .ok (.goto (-59), 3) := dk_167 255 197 (dk_at dksX8_next_6 8 rfl rfl)
theorem dX8_next_152 : decode cX8_next 152 = .ok (.return_, 1) := dk_177 (dk_at dksX8_next_6 11 rfl rfl)
abbrev cX8_here : ByteArray := prog_17_method_2_code
def yX8_here : MethodName := ⟨RX8, "here", "()I"⟩
def dkwX8_here_1 : List UInt8 := [172]
abbrev dktX8_here_1 : List UInt8 := dkwX8_here_1 ++ []
def dkwX8_here_0 : List UInt8 := [42, 180, 0, 51, 42, 180, 0, 55, 162, 0, 15, 42, 180, 0, 58, 42, 180, 0, 51, 51, 167, 0, 4, 2]
abbrev dktX8_here_0 : List UInt8 := dkwX8_here_0 ++ dktX8_here_1
theorem dksX8_here_0 : cX8_here.data.toList.drop 0 = dktX8_here_0 := by decide +kernel
theorem dksX8_here_1 : cX8_here.data.toList.drop 24 = dktX8_here_1 := dk_seg dksX8_here_0 24 rfl rfl
theorem dX8_here_0 : decode cX8_here 0 = .ok (.aload_n 0, 1) := dk_42 (dk_at dksX8_here_0 0 rfl rfl)
theorem dX8_here_1 : decode cX8_here 1 = .ok (.getfield 51, 3) := dk_180 0 51 (dk_at dksX8_here_0 1 rfl rfl)
theorem dX8_here_4 : decode cX8_here 4 = .ok (.aload_n 0, 1) := dk_42 (dk_at dksX8_here_0 4 rfl rfl)
theorem dX8_here_5 : decode cX8_here 5 = .ok (.getfield 55, 3) := dk_180 0 55 (dk_at dksX8_here_0 5 rfl rfl)
theorem dX8_here_8 : decode cX8_here 8 = .ok (.if_icmp .ge 15, 3) := dk_162 0 15 (dk_at dksX8_here_0 8 rfl rfl)
theorem dX8_here_11 : decode cX8_here 11 = .ok (.aload_n 0, 1) := dk_42 (dk_at dksX8_here_0 11 rfl rfl)
theorem dX8_here_12 : decode cX8_here 12 = .ok (.getfield 58, 3) := dk_180 0 58 (dk_at dksX8_here_0 12 rfl rfl)
theorem dX8_here_15 : decode cX8_here 15 = .ok (.aload_n 0, 1) := dk_42 (dk_at dksX8_here_0 15 rfl rfl)
theorem dX8_here_16 : decode cX8_here 16 = .ok (.getfield 51, 3) := dk_180 0 51 (dk_at dksX8_here_0 16 rfl rfl)
theorem dX8_here_19 : decode cX8_here 19 = .ok (.baload, 1) := dk_51 (dk_at dksX8_here_0 19 rfl rfl)
theorem dX8_here_20 : decode cX8_here 20 = .ok (.goto 4, 3) := dk_167 0 4 (dk_at dksX8_here_0 20 rfl rfl)
theorem dX8_here_23 : decode cX8_here 23 = .ok (.iconst (-1), 1) := dk_2 (dk_at dksX8_here_0 23 rfl rfl)
theorem dX8_here_24 : decode cX8_here 24 = .ok (.ireturn, 1) := dk_172 (dk_at dksX8_here_1 0 rfl rfl)
abbrev cX8_isLetter : ByteArray := prog_17_method_4_code
def yX8_isLetter : MethodName := ⟨RX8, "isLetter", "(I)Z"⟩
def dkwX8_isLetter_0 : List UInt8 := [26, 16, 97, 161, 0, 13, 26, 16, 122, 163, 0, 7, 4, 167, 0, 4, 3, 172]
abbrev dktX8_isLetter_0 : List UInt8 := dkwX8_isLetter_0 ++ []
theorem dksX8_isLetter_0 : cX8_isLetter.data.toList.drop 0 = dktX8_isLetter_0 := by decide +kernel
theorem dX8_isLetter_0 : decode cX8_isLetter 0 = .ok (.iload_n 0, 1) := dk_26 (dk_at dksX8_isLetter_0 0 rfl rfl)
theorem dX8_isLetter_1 : decode cX8_isLetter 1 = .ok (.bipush 97, 2) := dk_16 97 (dk_at dksX8_isLetter_0 1 rfl rfl)
theorem dX8_isLetter_3 : decode cX8_isLetter 3 = .ok (.if_icmp .lt 13, 3) := dk_161 0 13 (dk_at dksX8_isLetter_0 3 rfl rfl)
theorem dX8_isLetter_6 : decode cX8_isLetter 6 = .ok (.iload_n 0, 1) := dk_26 (dk_at dksX8_isLetter_0 6 rfl rfl)
theorem dX8_isLetter_7 : decode cX8_isLetter 7 = .ok (.bipush 122, 2) := dk_16 122 (dk_at dksX8_isLetter_0 7 rfl rfl)
theorem dX8_isLetter_9 : decode cX8_isLetter 9 = .ok (.if_icmp .gt 7, 3) := dk_163 0 7 (dk_at dksX8_isLetter_0 9 rfl rfl)
theorem dX8_isLetter_12 : decode cX8_isLetter 12 = .ok (.iconst 1, 1) := dk_4 (dk_at dksX8_isLetter_0 12 rfl rfl)
theorem dX8_isLetter_13 : decode cX8_isLetter 13 = .ok (.goto 4, 3) := dk_167 0 4 (dk_at dksX8_isLetter_0 13 rfl rfl)
theorem dX8_isLetter_16 : decode cX8_isLetter 16 = .ok (.iconst 0, 1) := dk_3 (dk_at dksX8_isLetter_0 16 rfl rfl)
theorem dX8_isLetter_17 : decode cX8_isLetter 17 = .ok (.ireturn, 1) := dk_172 (dk_at dksX8_isLetter_0 17 rfl rfl)
abbrev cX8_isDigit : ByteArray := prog_17_method_3_code
def yX8_isDigit : MethodName := ⟨RX8, "isDigit", "(I)Z"⟩
def dkwX8_isDigit_0 : List UInt8 := [26, 16, 48, 161, 0, 13, 26, 16, 57, 163, 0, 7, 4, 167, 0, 4, 3, 172]
abbrev dktX8_isDigit_0 : List UInt8 := dkwX8_isDigit_0 ++ []
theorem dksX8_isDigit_0 : cX8_isDigit.data.toList.drop 0 = dktX8_isDigit_0 := by decide +kernel
theorem dX8_isDigit_0 : decode cX8_isDigit 0 = .ok (.iload_n 0, 1) := dk_26 (dk_at dksX8_isDigit_0 0 rfl rfl)
theorem dX8_isDigit_1 : decode cX8_isDigit 1 = .ok (.bipush 48, 2) := dk_16 48 (dk_at dksX8_isDigit_0 1 rfl rfl)
theorem dX8_isDigit_3 : decode cX8_isDigit 3 = .ok (.if_icmp .lt 13, 3) := dk_161 0 13 (dk_at dksX8_isDigit_0 3 rfl rfl)
theorem dX8_isDigit_6 : decode cX8_isDigit 6 = .ok (.iload_n 0, 1) := dk_26 (dk_at dksX8_isDigit_0 6 rfl rfl)
theorem dX8_isDigit_7 : decode cX8_isDigit 7 = .ok (.bipush 57, 2) := dk_16 57 (dk_at dksX8_isDigit_0 7 rfl rfl)
theorem dX8_isDigit_9 : decode cX8_isDigit 9 = .ok (.if_icmp .gt 7, 3) := dk_163 0 7 (dk_at dksX8_isDigit_0 9 rfl rfl)
theorem dX8_isDigit_12 : decode cX8_isDigit 12 = .ok (.iconst 1, 1) := dk_4 (dk_at dksX8_isDigit_0 12 rfl rfl)
theorem dX8_isDigit_13 : decode cX8_isDigit 13 = .ok (.goto 4, 3) := dk_167 0 4 (dk_at dksX8_isDigit_0 13 rfl rfl)
theorem dX8_isDigit_16 : decode cX8_isDigit 16 = .ok (.iconst 0, 1) := dk_3 (dk_at dksX8_isDigit_0 16 rfl rfl)
theorem dX8_isDigit_17 : decode cX8_isDigit 17 = .ok (.ireturn, 1) := dk_172 (dk_at dksX8_isDigit_0 17 rfl rfl)
abbrev cX8_item : ByteArray := prog_17_method_18_code
def yX8_item : MethodName := ⟨RX8, "item", "()V"⟩
def dkwX8_item_5 : List UInt8 := [184, 0, 171, 182, 0, 121, 79, 42, 18, 174, 182, 0, 136, 177]
abbrev dktX8_item_5 : List UInt8 := dkwX8_item_5 ++ []
def dkwX8_item_4 : List UInt8 := [167, 0, 4, 3, 182, 0, 94, 42, 182, 0, 91, 42, 180, 0, 47, 180, 0, 168, 28, 42, 3, 28]
abbrev dktX8_item_4 : List UInt8 := dkwX8_item_4 ++ dktX8_item_5
def dkwX8_item_3 : List UInt8 := [182, 0, 115, 153, 0, 10, 42, 182, 0, 166, 167, 0, 43, 42, 28, 42, 180, 0, 37, 190, 162, 0, 7, 4]
abbrev dktX8_item_3 : List UInt8 := dkwX8_item_3 ++ dktX8_item_4
def dkwX8_item_2 : List UInt8 := [167, 0, 75, 42, 18, 160, 182, 0, 115, 153, 0, 10, 42, 182, 0, 162, 167, 0, 59, 42, 18, 164]
abbrev dktX8_item_2 : List UInt8 := dkwX8_item_2 ++ dktX8_item_3
def dkwX8_item_1 : List UInt8 := [162, 0, 11, 42, 27, 182, 0, 155, 167, 0, 91, 42, 18, 146, 182, 0, 115, 153, 0, 10, 42, 182, 0, 158]
abbrev dktX8_item_1 : List UInt8 := dkwX8_item_1 ++ dktX8_item_2
def dkwX8_item_0 : List UInt8 := [42, 180, 0, 23, 42, 184, 0, 151, 60, 42, 180, 0, 37, 42, 184, 0, 151, 61, 27, 42, 180, 0, 23, 190]
abbrev dktX8_item_0 : List UInt8 := dkwX8_item_0 ++ dktX8_item_1
theorem dksX8_item_0 : cX8_item.data.toList.drop 0 = dktX8_item_0 := by decide +kernel
theorem dksX8_item_1 : cX8_item.data.toList.drop 24 = dktX8_item_1 := dk_seg dksX8_item_0 24 rfl rfl
theorem dksX8_item_2 : cX8_item.data.toList.drop 48 = dktX8_item_2 := dk_seg dksX8_item_1 24 rfl rfl
theorem dksX8_item_3 : cX8_item.data.toList.drop 70 = dktX8_item_3 := dk_seg dksX8_item_2 22 rfl rfl
theorem dksX8_item_4 : cX8_item.data.toList.drop 94 = dktX8_item_4 := dk_seg dksX8_item_3 24 rfl rfl
theorem dksX8_item_5 : cX8_item.data.toList.drop 116 = dktX8_item_5 := dk_seg dksX8_item_4 22 rfl rfl
theorem dX8_item_0 : decode cX8_item 0 = .ok (.aload_n 0, 1) := dk_42 (dk_at dksX8_item_0 0 rfl rfl)
theorem dX8_item_1 : decode cX8_item 1 = .ok (.getfield 23, 3) := dk_180 0 23 (dk_at dksX8_item_0 1 rfl rfl)
theorem dX8_item_4 : decode cX8_item 4 = .ok (.aload_n 0, 1) := dk_42 (dk_at dksX8_item_0 4 rfl rfl)
theorem dX8_item_5 : decode cX8_item 5 = .ok (.invokestatic 151, 3) := dk_184 0 151 (dk_at dksX8_item_0 5 rfl rfl)
theorem dX8_item_8 : decode cX8_item 8 = .ok (.istore_n 1, 1) := dk_60 (dk_at dksX8_item_0 8 rfl rfl)
theorem dX8_item_9 : decode cX8_item 9 = .ok (.aload_n 0, 1) := dk_42 (dk_at dksX8_item_0 9 rfl rfl)
theorem dX8_item_10 : decode cX8_item 10 = .ok (.getfield 37, 3) := dk_180 0 37 (dk_at dksX8_item_0 10 rfl rfl)
theorem dX8_item_13 : decode cX8_item 13 = .ok (.aload_n 0, 1) := dk_42 (dk_at dksX8_item_0 13 rfl rfl)
theorem dX8_item_14 : decode cX8_item 14 = .ok (.invokestatic 151, 3) := dk_184 0 151 (dk_at dksX8_item_0 14 rfl rfl)
theorem dX8_item_17 : decode cX8_item 17 = .ok (.istore_n 2, 1) := dk_61 (dk_at dksX8_item_0 17 rfl rfl)
theorem dX8_item_18 : decode cX8_item 18 = .ok (.iload_n 1, 1) := dk_27 (dk_at dksX8_item_0 18 rfl rfl)
theorem dX8_item_19 : decode cX8_item 19 = .ok (.aload_n 0, 1) := dk_42 (dk_at dksX8_item_0 19 rfl rfl)
theorem dX8_item_20 : decode cX8_item 20 = .ok (.getfield 23, 3) := dk_180 0 23 (dk_at dksX8_item_0 20 rfl rfl)
theorem dX8_item_23 : decode cX8_item 23 = .ok (.arraylength, 1) := dk_190 (dk_at dksX8_item_0 23 rfl rfl)
theorem dX8_item_24 : decode cX8_item 24 = .ok (.if_icmp .ge 11, 3) := dk_162 0 11 (dk_at dksX8_item_1 0 rfl rfl)
theorem dX8_item_27 : decode cX8_item 27 = .ok (.aload_n 0, 1) := dk_42 (dk_at dksX8_item_1 3 rfl rfl)
theorem dX8_item_28 : decode cX8_item 28 = .ok (.iload_n 1, 1) := dk_27 (dk_at dksX8_item_1 4 rfl rfl)
theorem dX8_item_29 : decode cX8_item 29 = .ok (.invokevirtual 155, 3) := dk_182 0 155 (dk_at dksX8_item_1 5 rfl rfl)
theorem dX8_item_32 : decode cX8_item 32 = .ok (.goto 91, 3) := dk_167 0 91 (dk_at dksX8_item_1 8 rfl rfl)
theorem dX8_item_35 : decode cX8_item 35 = .ok (.aload_n 0, 1) := dk_42 (dk_at dksX8_item_1 11 rfl rfl)
theorem dX8_item_36 : decode cX8_item 36 = .ok (.ldc 146, 2) := dk_18 146 (dk_at dksX8_item_1 12 rfl rfl)
theorem dX8_item_38 : decode cX8_item 38 = .ok (.invokevirtual 115, 3) := dk_182 0 115 (dk_at dksX8_item_1 14 rfl rfl)
theorem dX8_item_41 : decode cX8_item 41 = .ok (.ifCond .eq 10, 3) := dk_153 0 10 (dk_at dksX8_item_1 17 rfl rfl)
theorem dX8_item_44 : decode cX8_item 44 = .ok (.aload_n 0, 1) := dk_42 (dk_at dksX8_item_1 20 rfl rfl)
theorem dX8_item_45 : decode cX8_item 45 = .ok (.invokevirtual 158, 3) := dk_182 0 158 (dk_at dksX8_item_1 21 rfl rfl)
theorem dX8_item_48 : decode cX8_item 48 = .ok (.goto 75, 3) := dk_167 0 75 (dk_at dksX8_item_2 0 rfl rfl)
theorem dX8_item_51 : decode cX8_item 51 = .ok (.aload_n 0, 1) := dk_42 (dk_at dksX8_item_2 3 rfl rfl)
theorem dX8_item_52 : decode cX8_item 52 = .ok (.ldc 160, 2) := dk_18 160 (dk_at dksX8_item_2 4 rfl rfl)
theorem dX8_item_54 : decode cX8_item 54 = .ok (.invokevirtual 115, 3) := dk_182 0 115 (dk_at dksX8_item_2 6 rfl rfl)
theorem dX8_item_57 : decode cX8_item 57 = .ok (.ifCond .eq 10, 3) := dk_153 0 10 (dk_at dksX8_item_2 9 rfl rfl)
theorem dX8_item_60 : decode cX8_item 60 = .ok (.aload_n 0, 1) := dk_42 (dk_at dksX8_item_2 12 rfl rfl)
theorem dX8_item_61 : decode cX8_item 61 = .ok (.invokevirtual 162, 3) := dk_182 0 162 (dk_at dksX8_item_2 13 rfl rfl)
theorem dX8_item_64 : decode cX8_item 64 = .ok (.goto 59, 3) := dk_167 0 59 (dk_at dksX8_item_2 16 rfl rfl)
theorem dX8_item_67 : decode cX8_item 67 = .ok (.aload_n 0, 1) := dk_42 (dk_at dksX8_item_2 19 rfl rfl)
theorem dX8_item_68 : decode cX8_item 68 = .ok (.ldc 164, 2) := dk_18 164 (dk_at dksX8_item_2 20 rfl rfl)
theorem dX8_item_70 : decode cX8_item 70 = .ok (.invokevirtual 115, 3) := dk_182 0 115 (dk_at dksX8_item_3 0 rfl rfl)
theorem dX8_item_73 : decode cX8_item 73 = .ok (.ifCond .eq 10, 3) := dk_153 0 10 (dk_at dksX8_item_3 3 rfl rfl)
theorem dX8_item_76 : decode cX8_item 76 = .ok (.aload_n 0, 1) := dk_42 (dk_at dksX8_item_3 6 rfl rfl)
theorem dX8_item_77 : decode cX8_item 77 = .ok (.invokevirtual 166, 3) := dk_182 0 166 (dk_at dksX8_item_3 7 rfl rfl)
theorem dX8_item_80 : decode cX8_item 80 = .ok (.goto 43, 3) := dk_167 0 43 (dk_at dksX8_item_3 10 rfl rfl)
theorem dX8_item_83 : decode cX8_item 83 = .ok (.aload_n 0, 1) := dk_42 (dk_at dksX8_item_3 13 rfl rfl)
theorem dX8_item_84 : decode cX8_item 84 = .ok (.iload_n 2, 1) := dk_28 (dk_at dksX8_item_3 14 rfl rfl)
theorem dX8_item_85 : decode cX8_item 85 = .ok (.aload_n 0, 1) := dk_42 (dk_at dksX8_item_3 15 rfl rfl)
theorem dX8_item_86 : decode cX8_item 86 = .ok (.getfield 37, 3) := dk_180 0 37 (dk_at dksX8_item_3 16 rfl rfl)
theorem dX8_item_89 : decode cX8_item 89 = .ok (.arraylength, 1) := dk_190 (dk_at dksX8_item_3 19 rfl rfl)
theorem dX8_item_90 : decode cX8_item 90 = .ok (.if_icmp .ge 7, 3) := dk_162 0 7 (dk_at dksX8_item_3 20 rfl rfl)
theorem dX8_item_93 : decode cX8_item 93 = .ok (.iconst 1, 1) := dk_4 (dk_at dksX8_item_3 23 rfl rfl)
theorem dX8_item_94 : decode cX8_item 94 = .ok (.goto 4, 3) := dk_167 0 4 (dk_at dksX8_item_4 0 rfl rfl)
theorem dX8_item_97 : decode cX8_item 97 = .ok (.iconst 0, 1) := dk_3 (dk_at dksX8_item_4 3 rfl rfl)
theorem dX8_item_98 : decode cX8_item 98 = .ok (.invokevirtual 94, 3) := dk_182 0 94 (dk_at dksX8_item_4 4 rfl rfl)
theorem dX8_item_101 : decode cX8_item 101 = .ok (.aload_n 0, 1) := dk_42 (dk_at dksX8_item_4 7 rfl rfl)
theorem dX8_item_102 : decode cX8_item 102 = .ok (.invokevirtual 91, 3) := dk_182 0 91 (dk_at dksX8_item_4 8 rfl rfl)
theorem dX8_item_105 : decode cX8_item 105 = .ok (.aload_n 0, 1) := dk_42 (dk_at dksX8_item_4 11 rfl rfl)
theorem dX8_item_106 : decode cX8_item 106 = .ok (.getfield 47, 3) := dk_180 0 47 (dk_at dksX8_item_4 12 rfl rfl)
theorem dX8_item_109 : decode cX8_item 109 = .ok (.getfield 168, 3) := dk_180 0 168 (dk_at dksX8_item_4 15 rfl rfl)
theorem dX8_item_112 : decode cX8_item 112 = .ok (.iload_n 2, 1) := dk_28 (dk_at dksX8_item_4 18 rfl rfl)
theorem dX8_item_113 : decode cX8_item 113 = .ok (.aload_n 0, 1) := dk_42 (dk_at dksX8_item_4 19 rfl rfl)
theorem dX8_item_114 : decode cX8_item 114 = .ok (.iconst 0, 1) := dk_3 (dk_at dksX8_item_4 20 rfl rfl)
theorem dX8_item_115 : decode cX8_item 115 = .ok (.iload_n 2, 1) := dk_28 (dk_at dksX8_item_4 21 rfl rfl)
theorem dX8_item_116 : decode cX8_item 116 = .ok (.invokestatic 171, 3) := dk_184 0 171 (dk_at dksX8_item_5 0 rfl rfl)
theorem dX8_item_119 : decode cX8_item 119 = .ok (.invokevirtual 121, 3) := dk_182 0 121 (dk_at dksX8_item_5 3 rfl rfl)
theorem dX8_item_122 : decode cX8_item 122 = .ok (.iastore, 1) := dk_79 (dk_at dksX8_item_5 6 rfl rfl)
theorem dX8_item_123 : decode cX8_item 123 = .ok (.aload_n 0, 1) := dk_42 (dk_at dksX8_item_5 7 rfl rfl)
theorem dX8_item_124 : decode cX8_item 124 = .ok (.ldc 174, 2) := dk_18 174 (dk_at dksX8_item_5 8 rfl rfl)
theorem dX8_item_126 : decode cX8_item 126 = .ok (.invokevirtual 136, 3) := dk_182 0 136 (dk_at dksX8_item_5 10 rfl rfl)
theorem dX8_item_129 : decode cX8_item 129 = .ok (.return_, 1) := dk_177 (dk_at dksX8_item_5 13 rfl rfl)
abbrev cX8_placeOf : ByteArray := prog_17_method_13_code
def yX8_placeOf : MethodName := ⟨RX8, "placeOf", "([Ljava/lang/String;LIntentVats$Reader;)I"⟩
def dkwX8_placeOf_1 : List UInt8 := [28, 172]
abbrev dktX8_placeOf_1 : List UInt8 := dkwX8_placeOf_1 ++ []
def dkwX8_placeOf_0 : List UInt8 := [3, 61, 28, 42, 190, 162, 0, 19, 43, 42, 28, 50, 182, 0, 87, 154, 0, 9, 132, 2, 1, 167, 255, 237]
abbrev dktX8_placeOf_0 : List UInt8 := dkwX8_placeOf_0 ++ dktX8_placeOf_1
theorem dksX8_placeOf_0 : cX8_placeOf.data.toList.drop 0 = dktX8_placeOf_0 := by decide +kernel
theorem dksX8_placeOf_1 : cX8_placeOf.data.toList.drop 24 = dktX8_placeOf_1 := dk_seg dksX8_placeOf_0 24 rfl rfl
theorem dX8_placeOf_0 : decode cX8_placeOf 0 = .ok (.iconst 0, 1) := dk_3 (dk_at dksX8_placeOf_0 0 rfl rfl)
theorem dX8_placeOf_1 : decode cX8_placeOf 1 = .ok (.istore_n 2, 1) := dk_61 (dk_at dksX8_placeOf_0 1 rfl rfl)
theorem dX8_placeOf_2 : decode cX8_placeOf 2 = .ok (.iload_n 2, 1) := dk_28 (dk_at dksX8_placeOf_0 2 rfl rfl)
theorem dX8_placeOf_3 : decode cX8_placeOf 3 = .ok (.aload_n 0, 1) := dk_42 (dk_at dksX8_placeOf_0 3 rfl rfl)
theorem dX8_placeOf_4 : decode cX8_placeOf 4 = .ok (.arraylength, 1) := dk_190 (dk_at dksX8_placeOf_0 4 rfl rfl)
theorem dX8_placeOf_5 : decode cX8_placeOf 5 = .ok (.if_icmp .ge 19, 3) := dk_162 0 19 (dk_at dksX8_placeOf_0 5 rfl rfl)
theorem dX8_placeOf_8 : decode cX8_placeOf 8 = .ok (.aload_n 1, 1) := dk_43 (dk_at dksX8_placeOf_0 8 rfl rfl)
theorem dX8_placeOf_9 : decode cX8_placeOf 9 = .ok (.aload_n 0, 1) := dk_42 (dk_at dksX8_placeOf_0 9 rfl rfl)
theorem dX8_placeOf_10 : decode cX8_placeOf 10 = .ok (.iload_n 2, 1) := dk_28 (dk_at dksX8_placeOf_0 10 rfl rfl)
theorem dX8_placeOf_11 : decode cX8_placeOf 11 = .ok (.aaload, 1) := dk_50 (dk_at dksX8_placeOf_0 11 rfl rfl)
theorem dX8_placeOf_12 : decode cX8_placeOf 12 = .ok (.invokevirtual 87, 3) := dk_182 0 87 (dk_at dksX8_placeOf_0 12 rfl rfl)
theorem dX8_placeOf_15 : decode cX8_placeOf 15 = .ok (.ifCond .ne 9, 3) := dk_154 0 9 (dk_at dksX8_placeOf_0 15 rfl rfl)
theorem dX8_placeOf_18 : decode cX8_placeOf 18 = .ok (.iinc 2 1, 3) := dk_132 2 1 (dk_at dksX8_placeOf_0 18 rfl rfl)
theorem dX8_placeOf_21 : decode cX8_placeOf 21 = .ok (.goto (-19), 3) := dk_167 255 237 (dk_at dksX8_placeOf_0 21 rfl rfl)
theorem dX8_placeOf_24 : decode cX8_placeOf 24 = .ok (.iload_n 2, 1) := dk_28 (dk_at dksX8_placeOf_1 0 rfl rfl)
theorem dX8_placeOf_25 : decode cX8_placeOf 25 = .ok (.ireturn, 1) := dk_172 (dk_at dksX8_placeOf_1 1 rfl rfl)
abbrev cX8_isWord : ByteArray := prog_17_method_7_code
def yX8_isWord : MethodName := ⟨RX8, "isWord", "(Ljava/lang/String;)Z"⟩
def dkwX8_isWord_2 : List UInt8 := [29, 182, 0, 83, 160, 0, 7, 4, 167, 0, 4, 3, 61, 132, 3, 1, 167, 255, 216, 28, 172]
abbrev dktX8_isWord_2 : List UInt8 := dkwX8_isWord_2 ++ []
def dkwX8_isWord_1 : List UInt8 := [29, 43, 182, 0, 80, 162, 0, 38, 28, 153, 0, 34, 42, 180, 0, 58, 42, 180, 0, 51, 29, 96, 51, 43]
abbrev dktX8_isWord_1 : List UInt8 := dkwX8_isWord_1 ++ dktX8_isWord_2
def dkwX8_isWord_0 : List UInt8 := [42, 180, 0, 62, 42, 180, 0, 51, 100, 43, 182, 0, 80, 160, 0, 7, 4, 167, 0, 4, 3, 61, 3, 62]
abbrev dktX8_isWord_0 : List UInt8 := dkwX8_isWord_0 ++ dktX8_isWord_1
theorem dksX8_isWord_0 : cX8_isWord.data.toList.drop 0 = dktX8_isWord_0 := by decide +kernel
theorem dksX8_isWord_1 : cX8_isWord.data.toList.drop 24 = dktX8_isWord_1 := dk_seg dksX8_isWord_0 24 rfl rfl
theorem dksX8_isWord_2 : cX8_isWord.data.toList.drop 48 = dktX8_isWord_2 := dk_seg dksX8_isWord_1 24 rfl rfl
theorem dX8_isWord_0 : decode cX8_isWord 0 = .ok (.aload_n 0, 1) := dk_42 (dk_at dksX8_isWord_0 0 rfl rfl)
theorem dX8_isWord_1 : decode cX8_isWord 1 = .ok (.getfield 62, 3) := dk_180 0 62 (dk_at dksX8_isWord_0 1 rfl rfl)
theorem dX8_isWord_4 : decode cX8_isWord 4 = .ok (.aload_n 0, 1) := dk_42 (dk_at dksX8_isWord_0 4 rfl rfl)
theorem dX8_isWord_5 : decode cX8_isWord 5 = .ok (.getfield 51, 3) := dk_180 0 51 (dk_at dksX8_isWord_0 5 rfl rfl)
theorem dX8_isWord_8 : decode cX8_isWord 8 = .ok (.isub, 1) := dk_100 (dk_at dksX8_isWord_0 8 rfl rfl)
theorem dX8_isWord_9 : decode cX8_isWord 9 = .ok (.aload_n 1, 1) := dk_43 (dk_at dksX8_isWord_0 9 rfl rfl)
theorem dX8_isWord_10 : decode cX8_isWord 10 = .ok (.invokevirtual 80, 3) := dk_182 0 80 (dk_at dksX8_isWord_0 10 rfl rfl)
theorem dX8_isWord_13 : decode cX8_isWord 13 = .ok (.if_icmp .ne 7, 3) := dk_160 0 7 (dk_at dksX8_isWord_0 13 rfl rfl)
theorem dX8_isWord_16 : decode cX8_isWord 16 = .ok (.iconst 1, 1) := dk_4 (dk_at dksX8_isWord_0 16 rfl rfl)
theorem dX8_isWord_17 : decode cX8_isWord 17 = .ok (.goto 4, 3) := dk_167 0 4 (dk_at dksX8_isWord_0 17 rfl rfl)
theorem dX8_isWord_20 : decode cX8_isWord 20 = .ok (.iconst 0, 1) := dk_3 (dk_at dksX8_isWord_0 20 rfl rfl)
theorem dX8_isWord_21 : decode cX8_isWord 21 = .ok (.istore_n 2, 1) := dk_61 (dk_at dksX8_isWord_0 21 rfl rfl)
theorem dX8_isWord_22 : decode cX8_isWord 22 = .ok (.iconst 0, 1) := dk_3 (dk_at dksX8_isWord_0 22 rfl rfl)
theorem dX8_isWord_23 : decode cX8_isWord 23 = .ok (.istore_n 3, 1) := dk_62 (dk_at dksX8_isWord_0 23 rfl rfl)
theorem dX8_isWord_24 : decode cX8_isWord 24 = .ok (.iload_n 3, 1) := dk_29 (dk_at dksX8_isWord_1 0 rfl rfl)
theorem dX8_isWord_25 : decode cX8_isWord 25 = .ok (.aload_n 1, 1) := dk_43 (dk_at dksX8_isWord_1 1 rfl rfl)
theorem dX8_isWord_26 : decode cX8_isWord 26 = .ok (.invokevirtual 80, 3) := dk_182 0 80 (dk_at dksX8_isWord_1 2 rfl rfl)
theorem dX8_isWord_29 : decode cX8_isWord 29 = .ok (.if_icmp .ge 38, 3) := dk_162 0 38 (dk_at dksX8_isWord_1 5 rfl rfl)
theorem dX8_isWord_32 : decode cX8_isWord 32 = .ok (.iload_n 2, 1) := dk_28 (dk_at dksX8_isWord_1 8 rfl rfl)
theorem dX8_isWord_33 : decode cX8_isWord 33 = .ok (.ifCond .eq 34, 3) := dk_153 0 34 (dk_at dksX8_isWord_1 9 rfl rfl)
theorem dX8_isWord_36 : decode cX8_isWord 36 = .ok (.aload_n 0, 1) := dk_42 (dk_at dksX8_isWord_1 12 rfl rfl)
theorem dX8_isWord_37 : decode cX8_isWord 37 = .ok (.getfield 58, 3) := dk_180 0 58 (dk_at dksX8_isWord_1 13 rfl rfl)
theorem dX8_isWord_40 : decode cX8_isWord 40 = .ok (.aload_n 0, 1) := dk_42 (dk_at dksX8_isWord_1 16 rfl rfl)
theorem dX8_isWord_41 : decode cX8_isWord 41 = .ok (.getfield 51, 3) := dk_180 0 51 (dk_at dksX8_isWord_1 17 rfl rfl)
theorem dX8_isWord_44 : decode cX8_isWord 44 = .ok (.iload_n 3, 1) := dk_29 (dk_at dksX8_isWord_1 20 rfl rfl)
theorem dX8_isWord_45 : decode cX8_isWord 45 = .ok (.iadd, 1) := dk_96 (dk_at dksX8_isWord_1 21 rfl rfl)
theorem dX8_isWord_46 : decode cX8_isWord 46 = .ok (.baload, 1) := dk_51 (dk_at dksX8_isWord_1 22 rfl rfl)
theorem dX8_isWord_47 : decode cX8_isWord 47 = .ok (.aload_n 1, 1) := dk_43 (dk_at dksX8_isWord_1 23 rfl rfl)
theorem dX8_isWord_48 : decode cX8_isWord 48 = .ok (.iload_n 3, 1) := dk_29 (dk_at dksX8_isWord_2 0 rfl rfl)
theorem dX8_isWord_49 : decode cX8_isWord 49 = .ok (.invokevirtual 83, 3) := dk_182 0 83 (dk_at dksX8_isWord_2 1 rfl rfl)
theorem dX8_isWord_52 : decode cX8_isWord 52 = .ok (.if_icmp .ne 7, 3) := dk_160 0 7 (dk_at dksX8_isWord_2 4 rfl rfl)
theorem dX8_isWord_55 : decode cX8_isWord 55 = .ok (.iconst 1, 1) := dk_4 (dk_at dksX8_isWord_2 7 rfl rfl)
theorem dX8_isWord_56 : decode cX8_isWord 56 = .ok (.goto 4, 3) := dk_167 0 4 (dk_at dksX8_isWord_2 8 rfl rfl)
theorem dX8_isWord_59 : decode cX8_isWord 59 = .ok (.iconst 0, 1) := dk_3 (dk_at dksX8_isWord_2 11 rfl rfl)
theorem dX8_isWord_60 : decode cX8_isWord 60 = .ok (.istore_n 2, 1) := dk_61 (dk_at dksX8_isWord_2 12 rfl rfl)
theorem dX8_isWord_61 : decode cX8_isWord 61 = .ok (.iinc 3 1, 3) := dk_132 3 1 (dk_at dksX8_isWord_2 13 rfl rfl)
theorem dX8_isWord_64 : decode cX8_isWord 64 = .ok (.goto (-40), 3) := dk_167 255 216 (dk_at dksX8_isWord_2 16 rfl rfl)
theorem dX8_isWord_67 : decode cX8_isWord 67 = .ok (.iload_n 2, 1) := dk_28 (dk_at dksX8_isWord_2 19 rfl rfl)
theorem dX8_isWord_68 : decode cX8_isWord 68 = .ok (.ireturn, 1) := dk_172 (dk_at dksX8_isWord_2 20 rfl rfl)
abbrev cX8_cloth : ByteArray := prog_17_method_14_code
def yX8_cloth : MethodName := ⟨RX8, "cloth", "(I)V"⟩
def dkwX8_cloth_4 : List UInt8 := [180, 0, 47, 28, 42, 18, 128, 182, 0, 115, 182, 0, 130, 177]
abbrev dktX8_cloth_4 : List UInt8 := dkwX8_cloth_4 ++ []
def dkwX8_cloth_3 : List UInt8 := [18, 127, 182, 0, 115, 153, 0, 13, 42, 4, 16, 99, 182, 0, 121, 167, 0, 5, 16, 20, 79, 42]
abbrev dktX8_cloth_3 : List UInt8 := dkwX8_cloth_3 ++ dktX8_cloth_4
def dkwX8_cloth_2 : List UInt8 := [180, 0, 47, 180, 0, 118, 28, 42, 3, 16, 9, 182, 0, 121, 79, 42, 180, 0, 47, 180, 0, 124, 28, 42]
abbrev dktX8_cloth_2 : List UInt8 := dkwX8_cloth_2 ++ dktX8_cloth_3
def dkwX8_cloth_1 : List UInt8 := [182, 0, 91, 42, 180, 0, 47, 27, 182, 0, 109, 61, 42, 18, 113, 182, 0, 115, 153, 0, 49, 42]
abbrev dktX8_cloth_1 : List UInt8 := dkwX8_cloth_1 ++ dktX8_cloth_2
def dkwX8_cloth_0 : List UInt8 := [42, 42, 180, 0, 47, 180, 0, 106, 16, 8, 162, 0, 7, 4, 167, 0, 4, 3, 182, 0, 94, 42]
abbrev dktX8_cloth_0 : List UInt8 := dkwX8_cloth_0 ++ dktX8_cloth_1
theorem dksX8_cloth_0 : cX8_cloth.data.toList.drop 0 = dktX8_cloth_0 := by decide +kernel
theorem dksX8_cloth_1 : cX8_cloth.data.toList.drop 22 = dktX8_cloth_1 := dk_seg dksX8_cloth_0 22 rfl rfl
theorem dksX8_cloth_2 : cX8_cloth.data.toList.drop 44 = dktX8_cloth_2 := dk_seg dksX8_cloth_1 22 rfl rfl
theorem dksX8_cloth_3 : cX8_cloth.data.toList.drop 68 = dktX8_cloth_3 := dk_seg dksX8_cloth_2 24 rfl rfl
theorem dksX8_cloth_4 : cX8_cloth.data.toList.drop 90 = dktX8_cloth_4 := dk_seg dksX8_cloth_3 22 rfl rfl
theorem dX8_cloth_0 : decode cX8_cloth 0 = .ok (.aload_n 0, 1) := dk_42 (dk_at dksX8_cloth_0 0 rfl rfl)
theorem dX8_cloth_1 : decode cX8_cloth 1 = .ok (.aload_n 0, 1) := dk_42 (dk_at dksX8_cloth_0 1 rfl rfl)
theorem dX8_cloth_2 : decode cX8_cloth 2 = .ok (.getfield 47, 3) := dk_180 0 47 (dk_at dksX8_cloth_0 2 rfl rfl)
theorem dX8_cloth_5 : decode cX8_cloth 5 = .ok (.getfield 106, 3) := dk_180 0 106 (dk_at dksX8_cloth_0 5 rfl rfl)
theorem dX8_cloth_8 : decode cX8_cloth 8 = .ok (.bipush 8, 2) := dk_16 8 (dk_at dksX8_cloth_0 8 rfl rfl)
theorem dX8_cloth_10 : decode cX8_cloth 10 = .ok (.if_icmp .ge 7, 3) := dk_162 0 7 (dk_at dksX8_cloth_0 10 rfl rfl)
theorem dX8_cloth_13 : decode cX8_cloth 13 = .ok (.iconst 1, 1) := dk_4 (dk_at dksX8_cloth_0 13 rfl rfl)
theorem dX8_cloth_14 : decode cX8_cloth 14 = .ok (.goto 4, 3) := dk_167 0 4 (dk_at dksX8_cloth_0 14 rfl rfl)
theorem dX8_cloth_17 : decode cX8_cloth 17 = .ok (.iconst 0, 1) := dk_3 (dk_at dksX8_cloth_0 17 rfl rfl)
theorem dX8_cloth_18 : decode cX8_cloth 18 = .ok (.invokevirtual 94, 3) := dk_182 0 94 (dk_at dksX8_cloth_0 18 rfl rfl)
theorem dX8_cloth_21 : decode cX8_cloth 21 = .ok (.aload_n 0, 1) := dk_42 (dk_at dksX8_cloth_0 21 rfl rfl)
theorem dX8_cloth_22 : decode cX8_cloth 22 = .ok (.invokevirtual 91, 3) := dk_182 0 91 (dk_at dksX8_cloth_1 0 rfl rfl)
theorem dX8_cloth_25 : decode cX8_cloth 25 = .ok (.aload_n 0, 1) := dk_42 (dk_at dksX8_cloth_1 3 rfl rfl)
theorem dX8_cloth_26 : decode cX8_cloth 26 = .ok (.getfield 47, 3) := dk_180 0 47 (dk_at dksX8_cloth_1 4 rfl rfl)
theorem dX8_cloth_29 : decode cX8_cloth 29 = .ok (.iload_n 1, 1) := dk_27 (dk_at dksX8_cloth_1 7 rfl rfl)
theorem dX8_cloth_30 : decode cX8_cloth 30 = .ok (.invokevirtual 109, 3) := dk_182 0 109 (dk_at dksX8_cloth_1 8 rfl rfl)
theorem dX8_cloth_33 : decode cX8_cloth 33 = .ok (.istore_n 2, 1) := dk_61 (dk_at dksX8_cloth_1 11 rfl rfl)
theorem dX8_cloth_34 : decode cX8_cloth 34 = .ok (.aload_n 0, 1) := dk_42 (dk_at dksX8_cloth_1 12 rfl rfl)
theorem dX8_cloth_35 : decode cX8_cloth 35 = .ok (.ldc 113, 2) := dk_18 113 (dk_at dksX8_cloth_1 13 rfl rfl)
theorem dX8_cloth_37 : decode cX8_cloth 37 = .ok (.invokevirtual 115, 3) := dk_182 0 115 (dk_at dksX8_cloth_1 15 rfl rfl)
theorem dX8_cloth_40 : decode cX8_cloth 40 = .ok (.ifCond .eq 49, 3) := dk_153 0 49 (dk_at dksX8_cloth_1 18 rfl rfl)
theorem dX8_cloth_43 : decode cX8_cloth 43 = .ok (.aload_n 0, 1) := dk_42 (dk_at dksX8_cloth_1 21 rfl rfl)
theorem dX8_cloth_44 : decode cX8_cloth 44 = .ok (.getfield 47, 3) := dk_180 0 47 (dk_at dksX8_cloth_2 0 rfl rfl)
theorem dX8_cloth_47 : decode cX8_cloth 47 = .ok (.getfield 118, 3) := dk_180 0 118 (dk_at dksX8_cloth_2 3 rfl rfl)
theorem dX8_cloth_50 : decode cX8_cloth 50 = .ok (.iload_n 2, 1) := dk_28 (dk_at dksX8_cloth_2 6 rfl rfl)
theorem dX8_cloth_51 : decode cX8_cloth 51 = .ok (.aload_n 0, 1) := dk_42 (dk_at dksX8_cloth_2 7 rfl rfl)
theorem dX8_cloth_52 : decode cX8_cloth 52 = .ok (.iconst 0, 1) := dk_3 (dk_at dksX8_cloth_2 8 rfl rfl)
theorem dX8_cloth_53 : decode cX8_cloth 53 = .ok (.bipush 9, 2) := dk_16 9 (dk_at dksX8_cloth_2 9 rfl rfl)
theorem dX8_cloth_55 : decode cX8_cloth 55 = .ok (.invokevirtual 121, 3) := dk_182 0 121 (dk_at dksX8_cloth_2 11 rfl rfl)
theorem dX8_cloth_58 : decode cX8_cloth 58 = .ok (.iastore, 1) := dk_79 (dk_at dksX8_cloth_2 14 rfl rfl)
theorem dX8_cloth_59 : decode cX8_cloth 59 = .ok (.aload_n 0, 1) := dk_42 (dk_at dksX8_cloth_2 15 rfl rfl)
theorem dX8_cloth_60 : decode cX8_cloth 60 = .ok (.getfield 47, 3) := dk_180 0 47 (dk_at dksX8_cloth_2 16 rfl rfl)
theorem dX8_cloth_63 : decode cX8_cloth 63 = .ok (.getfield 124, 3) := dk_180 0 124 (dk_at dksX8_cloth_2 19 rfl rfl)
theorem dX8_cloth_66 : decode cX8_cloth 66 = .ok (.iload_n 2, 1) := dk_28 (dk_at dksX8_cloth_2 22 rfl rfl)
theorem dX8_cloth_67 : decode cX8_cloth 67 = .ok (.aload_n 0, 1) := dk_42 (dk_at dksX8_cloth_2 23 rfl rfl)
theorem dX8_cloth_68 : decode cX8_cloth 68 = .ok (.ldc 127, 2) := dk_18 127 (dk_at dksX8_cloth_3 0 rfl rfl)
theorem dX8_cloth_70 : decode cX8_cloth 70 = .ok (.invokevirtual 115, 3) := dk_182 0 115 (dk_at dksX8_cloth_3 2 rfl rfl)
theorem dX8_cloth_73 : decode cX8_cloth 73 = .ok (.ifCond .eq 13, 3) := dk_153 0 13 (dk_at dksX8_cloth_3 5 rfl rfl)
theorem dX8_cloth_76 : decode cX8_cloth 76 = .ok (.aload_n 0, 1) := dk_42 (dk_at dksX8_cloth_3 8 rfl rfl)
theorem dX8_cloth_77 : decode cX8_cloth 77 = .ok (.iconst 1, 1) := dk_4 (dk_at dksX8_cloth_3 9 rfl rfl)
theorem dX8_cloth_78 : decode cX8_cloth 78 = .ok (.bipush 99, 2) := dk_16 99 (dk_at dksX8_cloth_3 10 rfl rfl)
theorem dX8_cloth_80 : decode cX8_cloth 80 = .ok (.invokevirtual 121, 3) := dk_182 0 121 (dk_at dksX8_cloth_3 12 rfl rfl)
theorem dX8_cloth_83 : decode cX8_cloth 83 = .ok (.goto 5, 3) := dk_167 0 5 (dk_at dksX8_cloth_3 15 rfl rfl)
theorem dX8_cloth_86 : decode cX8_cloth 86 = .ok (.bipush 20, 2) := dk_16 20 (dk_at dksX8_cloth_3 18 rfl rfl)
theorem dX8_cloth_88 : decode cX8_cloth 88 = .ok (.iastore, 1) := dk_79 (dk_at dksX8_cloth_3 20 rfl rfl)
theorem dX8_cloth_89 : decode cX8_cloth 89 = .ok (.aload_n 0, 1) := dk_42 (dk_at dksX8_cloth_3 21 rfl rfl)
theorem dX8_cloth_90 : decode cX8_cloth 90 = .ok (.getfield 47, 3) := dk_180 0 47 (dk_at dksX8_cloth_4 0 rfl rfl)
theorem dX8_cloth_93 : decode cX8_cloth 93 = .ok (.iload_n 2, 1) := dk_28 (dk_at dksX8_cloth_4 3 rfl rfl)
theorem dX8_cloth_94 : decode cX8_cloth 94 = .ok (.aload_n 0, 1) := dk_42 (dk_at dksX8_cloth_4 4 rfl rfl)
theorem dX8_cloth_95 : decode cX8_cloth 95 = .ok (.ldc 128, 2) := dk_18 128 (dk_at dksX8_cloth_4 5 rfl rfl)
theorem dX8_cloth_97 : decode cX8_cloth 97 = .ok (.invokevirtual 115, 3) := dk_182 0 115 (dk_at dksX8_cloth_4 7 rfl rfl)
theorem dX8_cloth_100 : decode cX8_cloth 100 = .ok (.invokevirtual 130, 3) := dk_182 0 130 (dk_at dksX8_cloth_4 10 rfl rfl)
theorem dX8_cloth_103 : decode cX8_cloth 103 = .ok (.return_, 1) := dk_177 (dk_at dksX8_cloth_4 13 rfl rfl)
abbrev cX8_need : ByteArray := prog_17_method_6_code
def yX8_need : MethodName := ⟨RX8, "need", "(Z)V"⟩
def dkwX8_need_0 : List UInt8 := [27, 154, 0, 15, 42, 180, 0, 43, 42, 180, 0, 51, 182, 0, 76, 191, 177]
abbrev dktX8_need_0 : List UInt8 := dkwX8_need_0 ++ []
theorem dksX8_need_0 : cX8_need.data.toList.drop 0 = dktX8_need_0 := by decide +kernel
theorem dX8_need_0 : decode cX8_need 0 = .ok (.iload_n 1, 1) := dk_27 (dk_at dksX8_need_0 0 rfl rfl)
theorem dX8_need_1 : decode cX8_need 1 = .ok (.ifCond .ne 15, 3) := dk_154 0 15 (dk_at dksX8_need_0 1 rfl rfl)
theorem dX8_need_4 : decode cX8_need 4 = .ok (.aload_n 0, 1) := dk_42 (dk_at dksX8_need_0 4 rfl rfl)
theorem dX8_need_5 : decode cX8_need 5 = .ok (.getfield 43, 3) := dk_180 0 43 (dk_at dksX8_need_0 5 rfl rfl)
theorem dX8_need_8 : decode cX8_need 8 = .ok (.aload_n 0, 1) := dk_42 (dk_at dksX8_need_0 8 rfl rfl)
theorem dX8_need_9 : decode cX8_need 9 = .ok (.getfield 51, 3) := dk_180 0 51 (dk_at dksX8_need_0 9 rfl rfl)
theorem dX8_need_12 : decode cX8_need 12 = .ok (.invokevirtual 76, 3) := dk_182 0 76 (dk_at dksX8_need_0 12 rfl rfl)
theorem dX8_need_15 : decode cX8_need 15 = .ok (.athrow, 1) := dk_191 (dk_at dksX8_need_0 15 rfl rfl)
theorem dX8_need_16 : decode cX8_need 16 = .ok (.return_, 1) := dk_177 (dk_at dksX8_need_0 16 rfl rfl)
abbrev cX8_may : ByteArray := prog_17_method_8_code
def yX8_may : MethodName := ⟨RX8, "may", "(Ljava/lang/String;)Z"⟩
def dkwX8_may_0 : List UInt8 := [42, 43, 182, 0, 87, 154, 0, 5, 3, 172, 42, 182, 0, 91, 4, 172]
abbrev dktX8_may_0 : List UInt8 := dkwX8_may_0 ++ []
theorem dksX8_may_0 : cX8_may.data.toList.drop 0 = dktX8_may_0 := by decide +kernel
theorem dX8_may_0 : decode cX8_may 0 = .ok (.aload_n 0, 1) := dk_42 (dk_at dksX8_may_0 0 rfl rfl)
theorem dX8_may_1 : decode cX8_may 1 = .ok (.aload_n 1, 1) := dk_43 (dk_at dksX8_may_0 1 rfl rfl)
theorem dX8_may_2 : decode cX8_may 2 = .ok (.invokevirtual 87, 3) := dk_182 0 87 (dk_at dksX8_may_0 2 rfl rfl)
theorem dX8_may_5 : decode cX8_may 5 = .ok (.ifCond .ne 5, 3) := dk_154 0 5 (dk_at dksX8_may_0 5 rfl rfl)
theorem dX8_may_8 : decode cX8_may 8 = .ok (.iconst 0, 1) := dk_3 (dk_at dksX8_may_0 8 rfl rfl)
theorem dX8_may_9 : decode cX8_may 9 = .ok (.ireturn, 1) := dk_172 (dk_at dksX8_may_0 9 rfl rfl)
theorem dX8_may_10 : decode cX8_may 10 = .ok (.aload_n 0, 1) := dk_42 (dk_at dksX8_may_0 10 rfl rfl)
theorem dX8_may_11 : decode cX8_may 11 = .ok (.invokevirtual 91, 3) := dk_182 0 91 (dk_at dksX8_may_0 11 rfl rfl)
theorem dX8_may_14 : decode cX8_may 14 = .ok (.iconst 1, 1) := dk_4 (dk_at dksX8_may_0 14 rfl rfl)
theorem dX8_may_15 : decode cX8_may 15 = .ok (.ireturn, 1) := dk_172 (dk_at dksX8_may_0 15 rfl rfl)
abbrev cX8_number : ByteArray := prog_17_method_11_code
def yX8_number : MethodName := ⟨RX8, "number", "(II)I"⟩
def dkwX8_number_0 : List UInt8 := [42, 27, 28, 182, 0, 102, 62, 42, 182, 0, 91, 29, 172]
abbrev dktX8_number_0 : List UInt8 := dkwX8_number_0 ++ []
theorem dksX8_number_0 : cX8_number.data.toList.drop 0 = dktX8_number_0 := by decide +kernel
theorem dX8_number_0 : decode cX8_number 0 = .ok (.aload_n 0, 1) := dk_42 (dk_at dksX8_number_0 0 rfl rfl)
theorem dX8_number_1 : decode cX8_number 1 = .ok (.iload_n 1, 1) := dk_27 (dk_at dksX8_number_0 1 rfl rfl)
theorem dX8_number_2 : decode cX8_number 2 = .ok (.iload_n 2, 1) := dk_28 (dk_at dksX8_number_0 2 rfl rfl)
theorem dX8_number_3 : decode cX8_number 3 = .ok (.invokevirtual 102, 3) := dk_182 0 102 (dk_at dksX8_number_0 3 rfl rfl)
theorem dX8_number_6 : decode cX8_number 6 = .ok (.istore_n 3, 1) := dk_62 (dk_at dksX8_number_0 6 rfl rfl)
theorem dX8_number_7 : decode cX8_number 7 = .ok (.aload_n 0, 1) := dk_42 (dk_at dksX8_number_0 7 rfl rfl)
theorem dX8_number_8 : decode cX8_number 8 = .ok (.invokevirtual 91, 3) := dk_182 0 91 (dk_at dksX8_number_0 8 rfl rfl)
theorem dX8_number_11 : decode cX8_number 11 = .ok (.iload_n 3, 1) := dk_29 (dk_at dksX8_number_0 11 rfl rfl)
theorem dX8_number_12 : decode cX8_number 12 = .ok (.ireturn, 1) := dk_172 (dk_at dksX8_number_0 12 rfl rfl)
abbrev cX8_seen : ByteArray := prog_17_method_10_code
def yX8_seen : MethodName := ⟨RX8, "seen", "(II)I"⟩
def dkwX8_seen_3 : List UInt8 := [167, 255, 228, 42, 29, 27, 28, 184, 0, 98, 182, 0, 94, 29, 172]
abbrev dktX8_seen_3 : List UInt8 := dkwX8_seen_3 ++ []
def dkwX8_seen_2 : List UInt8 := [162, 0, 25, 16, 10, 29, 104, 42, 180, 0, 58, 21, 4, 51, 96, 16, 48, 100, 62, 132, 4, 1]
abbrev dktX8_seen_2 : List UInt8 := dkwX8_seen_2 ++ dktX8_seen_3
def dkwX8_seen_1 : List UInt8 := [4, 167, 0, 4, 3, 182, 0, 94, 3, 62, 42, 180, 0, 51, 54, 4, 21, 4, 42, 180, 0, 62]
abbrev dktX8_seen_1 : List UInt8 := dkwX8_seen_1 ++ dktX8_seen_2
def dkwX8_seen_0 : List UInt8 := [42, 42, 182, 0, 65, 184, 0, 73, 153, 0, 20, 42, 180, 0, 62, 42, 180, 0, 51, 100, 6, 163, 0, 7]
abbrev dktX8_seen_0 : List UInt8 := dkwX8_seen_0 ++ dktX8_seen_1
theorem dksX8_seen_0 : cX8_seen.data.toList.drop 0 = dktX8_seen_0 := by decide +kernel
theorem dksX8_seen_1 : cX8_seen.data.toList.drop 24 = dktX8_seen_1 := dk_seg dksX8_seen_0 24 rfl rfl
theorem dksX8_seen_2 : cX8_seen.data.toList.drop 46 = dktX8_seen_2 := dk_seg dksX8_seen_1 22 rfl rfl
theorem dksX8_seen_3 : cX8_seen.data.toList.drop 68 = dktX8_seen_3 := dk_seg dksX8_seen_2 22 rfl rfl
theorem dX8_seen_0 : decode cX8_seen 0 = .ok (.aload_n 0, 1) := dk_42 (dk_at dksX8_seen_0 0 rfl rfl)
theorem dX8_seen_1 : decode cX8_seen 1 = .ok (.aload_n 0, 1) := dk_42 (dk_at dksX8_seen_0 1 rfl rfl)
theorem dX8_seen_2 : decode cX8_seen 2 = .ok (.invokevirtual 65, 3) := dk_182 0 65 (dk_at dksX8_seen_0 2 rfl rfl)
theorem dX8_seen_5 : decode cX8_seen 5 = .ok (.invokestatic 73, 3) := dk_184 0 73 (dk_at dksX8_seen_0 5 rfl rfl)
theorem dX8_seen_8 : decode cX8_seen 8 = .ok (.ifCond .eq 20, 3) := dk_153 0 20 (dk_at dksX8_seen_0 8 rfl rfl)
theorem dX8_seen_11 : decode cX8_seen 11 = .ok (.aload_n 0, 1) := dk_42 (dk_at dksX8_seen_0 11 rfl rfl)
theorem dX8_seen_12 : decode cX8_seen 12 = .ok (.getfield 62, 3) := dk_180 0 62 (dk_at dksX8_seen_0 12 rfl rfl)
theorem dX8_seen_15 : decode cX8_seen 15 = .ok (.aload_n 0, 1) := dk_42 (dk_at dksX8_seen_0 15 rfl rfl)
theorem dX8_seen_16 : decode cX8_seen 16 = .ok (.getfield 51, 3) := dk_180 0 51 (dk_at dksX8_seen_0 16 rfl rfl)
theorem dX8_seen_19 : decode cX8_seen 19 = .ok (.isub, 1) := dk_100 (dk_at dksX8_seen_0 19 rfl rfl)
theorem dX8_seen_20 : decode cX8_seen 20 = .ok (.iconst 3, 1) := dk_6 (dk_at dksX8_seen_0 20 rfl rfl)
theorem dX8_seen_21 : decode cX8_seen 21 = .ok (.if_icmp .gt 7, 3) := dk_163 0 7 (dk_at dksX8_seen_0 21 rfl rfl)
theorem dX8_seen_24 : decode cX8_seen 24 = .ok (.iconst 1, 1) := dk_4 (dk_at dksX8_seen_1 0 rfl rfl)
theorem dX8_seen_25 : decode cX8_seen 25 = .ok (.goto 4, 3) := dk_167 0 4 (dk_at dksX8_seen_1 1 rfl rfl)
theorem dX8_seen_28 : decode cX8_seen 28 = .ok (.iconst 0, 1) := dk_3 (dk_at dksX8_seen_1 4 rfl rfl)
theorem dX8_seen_29 : decode cX8_seen 29 = .ok (.invokevirtual 94, 3) := dk_182 0 94 (dk_at dksX8_seen_1 5 rfl rfl)
theorem dX8_seen_32 : decode cX8_seen 32 = .ok (.iconst 0, 1) := dk_3 (dk_at dksX8_seen_1 8 rfl rfl)
theorem dX8_seen_33 : decode cX8_seen 33 = .ok (.istore_n 3, 1) := dk_62 (dk_at dksX8_seen_1 9 rfl rfl)
theorem dX8_seen_34 : decode cX8_seen 34 = .ok (.aload_n 0, 1) := dk_42 (dk_at dksX8_seen_1 10 rfl rfl)
theorem dX8_seen_35 : decode cX8_seen 35 = .ok (.getfield 51, 3) := dk_180 0 51 (dk_at dksX8_seen_1 11 rfl rfl)
theorem dX8_seen_38 : decode cX8_seen 38 = .ok (.istore 4, 2) := dk_54 4 (dk_at dksX8_seen_1 14 rfl rfl)
theorem dX8_seen_40 : decode cX8_seen 40 = .ok (.iload 4, 2) := dk_21 4 (dk_at dksX8_seen_1 16 rfl rfl)
theorem dX8_seen_42 : decode cX8_seen 42 = .ok (.aload_n 0, 1) := dk_42 (dk_at dksX8_seen_1 18 rfl rfl)
theorem dX8_seen_43 : decode cX8_seen 43 = .ok (.getfield 62, 3) := dk_180 0 62 (dk_at dksX8_seen_1 19 rfl rfl)
theorem dX8_seen_46 : decode cX8_seen 46 = .ok (.if_icmp .ge 25, 3) := dk_162 0 25 (dk_at dksX8_seen_2 0 rfl rfl)
theorem dX8_seen_49 : decode cX8_seen 49 = .ok (.bipush 10, 2) := dk_16 10 (dk_at dksX8_seen_2 3 rfl rfl)
theorem dX8_seen_51 : decode cX8_seen 51 = .ok (.iload_n 3, 1) := dk_29 (dk_at dksX8_seen_2 5 rfl rfl)
theorem dX8_seen_52 : decode cX8_seen 52 = .ok (.imul, 1) := dk_104 (dk_at dksX8_seen_2 6 rfl rfl)
theorem dX8_seen_53 : decode cX8_seen 53 = .ok (.aload_n 0, 1) := dk_42 (dk_at dksX8_seen_2 7 rfl rfl)
theorem dX8_seen_54 : decode cX8_seen 54 = .ok (.getfield 58, 3) := dk_180 0 58 (dk_at dksX8_seen_2 8 rfl rfl)
theorem dX8_seen_57 : decode cX8_seen 57 = .ok (.iload 4, 2) := dk_21 4 (dk_at dksX8_seen_2 11 rfl rfl)
theorem dX8_seen_59 : decode cX8_seen 59 = .ok (.baload, 1) := dk_51 (dk_at dksX8_seen_2 13 rfl rfl)
theorem dX8_seen_60 : decode cX8_seen 60 = .ok (.iadd, 1) := dk_96 (dk_at dksX8_seen_2 14 rfl rfl)
theorem dX8_seen_61 : decode cX8_seen 61 = .ok (.bipush 48, 2) := dk_16 48 (dk_at dksX8_seen_2 15 rfl rfl)
theorem dX8_seen_63 : decode cX8_seen 63 = .ok (.isub, 1) := dk_100 (dk_at dksX8_seen_2 17 rfl rfl)
theorem dX8_seen_64 : decode cX8_seen 64 = .ok (.istore_n 3, 1) := dk_62 (dk_at dksX8_seen_2 18 rfl rfl)
theorem dX8_seen_65 : decode cX8_seen 65 = .ok (.iinc 4 1, 3) := dk_132 4 1 (dk_at dksX8_seen_2 19 rfl rfl)
theorem dX8_seen_68 : decode cX8_seen 68 = .ok (.goto (-28), 3) := dk_167 255 228 (dk_at dksX8_seen_3 0 rfl rfl)
theorem dX8_seen_71 : decode cX8_seen 71 = .ok (.aload_n 0, 1) := dk_42 (dk_at dksX8_seen_3 3 rfl rfl)
theorem dX8_seen_72 : decode cX8_seen 72 = .ok (.iload_n 3, 1) := dk_29 (dk_at dksX8_seen_3 4 rfl rfl)
theorem dX8_seen_73 : decode cX8_seen 73 = .ok (.iload_n 1, 1) := dk_27 (dk_at dksX8_seen_3 5 rfl rfl)
theorem dX8_seen_74 : decode cX8_seen 74 = .ok (.iload_n 2, 1) := dk_28 (dk_at dksX8_seen_3 6 rfl rfl)
theorem dX8_seen_75 : decode cX8_seen 75 = .ok (.invokestatic 98, 3) := dk_184 0 98 (dk_at dksX8_seen_3 7 rfl rfl)
theorem dX8_seen_78 : decode cX8_seen 78 = .ok (.invokevirtual 94, 3) := dk_182 0 94 (dk_at dksX8_seen_3 10 rfl rfl)
theorem dX8_seen_81 : decode cX8_seen 81 = .ok (.iload_n 3, 1) := dk_29 (dk_at dksX8_seen_3 13 rfl rfl)
theorem dX8_seen_82 : decode cX8_seen 82 = .ok (.ireturn, 1) := dk_172 (dk_at dksX8_seen_3 14 rfl rfl)
abbrev cX8_vat : ByteArray := prog_17_method_15_code
def yX8_vat : MethodName := ⟨RX8, "vat", "()V"⟩
def dkwX8_vat_1 : List UInt8 := [16, 9, 182, 0, 121, 79, 177]
abbrev dktX8_vat_1 : List UInt8 := dkwX8_vat_1 ++ []
def dkwX8_vat_0 : List UInt8 := [42, 3, 16, 7, 182, 0, 121, 60, 42, 18, 134, 182, 0, 136, 42, 180, 0, 47, 180, 0, 140, 27, 42, 3]
abbrev dktX8_vat_0 : List UInt8 := dkwX8_vat_0 ++ dktX8_vat_1
theorem dksX8_vat_0 : cX8_vat.data.toList.drop 0 = dktX8_vat_0 := by decide +kernel
theorem dksX8_vat_1 : cX8_vat.data.toList.drop 24 = dktX8_vat_1 := dk_seg dksX8_vat_0 24 rfl rfl
theorem dX8_vat_0 : decode cX8_vat 0 = .ok (.aload_n 0, 1) := dk_42 (dk_at dksX8_vat_0 0 rfl rfl)
theorem dX8_vat_1 : decode cX8_vat 1 = .ok (.iconst 0, 1) := dk_3 (dk_at dksX8_vat_0 1 rfl rfl)
theorem dX8_vat_2 : decode cX8_vat 2 = .ok (.bipush 7, 2) := dk_16 7 (dk_at dksX8_vat_0 2 rfl rfl)
theorem dX8_vat_4 : decode cX8_vat 4 = .ok (.invokevirtual 121, 3) := dk_182 0 121 (dk_at dksX8_vat_0 4 rfl rfl)
theorem dX8_vat_7 : decode cX8_vat 7 = .ok (.istore_n 1, 1) := dk_60 (dk_at dksX8_vat_0 7 rfl rfl)
theorem dX8_vat_8 : decode cX8_vat 8 = .ok (.aload_n 0, 1) := dk_42 (dk_at dksX8_vat_0 8 rfl rfl)
theorem dX8_vat_9 : decode cX8_vat 9 = .ok (.ldc 134, 2) := dk_18 134 (dk_at dksX8_vat_0 9 rfl rfl)
theorem dX8_vat_11 : decode cX8_vat 11 = .ok (.invokevirtual 136, 3) := dk_182 0 136 (dk_at dksX8_vat_0 11 rfl rfl)
theorem dX8_vat_14 : decode cX8_vat 14 = .ok (.aload_n 0, 1) := dk_42 (dk_at dksX8_vat_0 14 rfl rfl)
theorem dX8_vat_15 : decode cX8_vat 15 = .ok (.getfield 47, 3) := dk_180 0 47 (dk_at dksX8_vat_0 15 rfl rfl)
theorem dX8_vat_18 : decode cX8_vat 18 = .ok (.getfield 140, 3) := dk_180 0 140 (dk_at dksX8_vat_0 18 rfl rfl)
theorem dX8_vat_21 : decode cX8_vat 21 = .ok (.iload_n 1, 1) := dk_27 (dk_at dksX8_vat_0 21 rfl rfl)
theorem dX8_vat_22 : decode cX8_vat 22 = .ok (.aload_n 0, 1) := dk_42 (dk_at dksX8_vat_0 22 rfl rfl)
theorem dX8_vat_23 : decode cX8_vat 23 = .ok (.iconst 0, 1) := dk_3 (dk_at dksX8_vat_0 23 rfl rfl)
theorem dX8_vat_24 : decode cX8_vat 24 = .ok (.bipush 9, 2) := dk_16 9 (dk_at dksX8_vat_1 0 rfl rfl)
theorem dX8_vat_26 : decode cX8_vat 26 = .ok (.invokevirtual 121, 3) := dk_182 0 121 (dk_at dksX8_vat_1 2 rfl rfl)
theorem dX8_vat_29 : decode cX8_vat 29 = .ok (.iastore, 1) := dk_79 (dk_at dksX8_vat_1 5 rfl rfl)
theorem dX8_vat_30 : decode cX8_vat 30 = .ok (.return_, 1) := dk_177 (dk_at dksX8_vat_1 6 rfl rfl)
abbrev cX8_must : ByteArray := prog_17_method_9_code
def yX8_must : MethodName := ⟨RX8, "must", "(Ljava/lang/String;)V"⟩
def dkwX8_must_0 : List UInt8 := [42, 42, 43, 182, 0, 87, 182, 0, 94, 42, 182, 0, 91, 177]
abbrev dktX8_must_0 : List UInt8 := dkwX8_must_0 ++ []
theorem dksX8_must_0 : cX8_must.data.toList.drop 0 = dktX8_must_0 := by decide +kernel
theorem dX8_must_0 : decode cX8_must 0 = .ok (.aload_n 0, 1) := dk_42 (dk_at dksX8_must_0 0 rfl rfl)
theorem dX8_must_1 : decode cX8_must 1 = .ok (.aload_n 0, 1) := dk_42 (dk_at dksX8_must_0 1 rfl rfl)
theorem dX8_must_2 : decode cX8_must 2 = .ok (.aload_n 1, 1) := dk_43 (dk_at dksX8_must_0 2 rfl rfl)
theorem dX8_must_3 : decode cX8_must 3 = .ok (.invokevirtual 87, 3) := dk_182 0 87 (dk_at dksX8_must_0 3 rfl rfl)
theorem dX8_must_6 : decode cX8_must 6 = .ok (.invokevirtual 94, 3) := dk_182 0 94 (dk_at dksX8_must_0 6 rfl rfl)
theorem dX8_must_9 : decode cX8_must 9 = .ok (.aload_n 0, 1) := dk_42 (dk_at dksX8_must_0 9 rfl rfl)
theorem dX8_must_10 : decode cX8_must 10 = .ok (.invokevirtual 91, 3) := dk_182 0 91 (dk_at dksX8_must_0 10 rfl rfl)
theorem dX8_must_13 : decode cX8_must 13 = .ok (.return_, 1) := dk_177 (dk_at dksX8_must_0 13 rfl rfl)
abbrev cX8_strong : ByteArray := prog_17_method_16_code
def yX8_strong : MethodName := ⟨RX8, "strong", "()V"⟩
def dkwX8_strong_1 : List UInt8 := [177]
abbrev dktX8_strong_1 : List UInt8 := dkwX8_strong_1 ++ []
def dkwX8_strong_0 : List UInt8 := [42, 3, 16, 7, 182, 0, 121, 60, 42, 180, 0, 47, 180, 0, 143, 27, 42, 3, 16, 9, 182, 0, 121, 79]
abbrev dktX8_strong_0 : List UInt8 := dkwX8_strong_0 ++ dktX8_strong_1
theorem dksX8_strong_0 : cX8_strong.data.toList.drop 0 = dktX8_strong_0 := by decide +kernel
theorem dksX8_strong_1 : cX8_strong.data.toList.drop 24 = dktX8_strong_1 := dk_seg dksX8_strong_0 24 rfl rfl
theorem dX8_strong_0 : decode cX8_strong 0 = .ok (.aload_n 0, 1) := dk_42 (dk_at dksX8_strong_0 0 rfl rfl)
theorem dX8_strong_1 : decode cX8_strong 1 = .ok (.iconst 0, 1) := dk_3 (dk_at dksX8_strong_0 1 rfl rfl)
theorem dX8_strong_2 : decode cX8_strong 2 = .ok (.bipush 7, 2) := dk_16 7 (dk_at dksX8_strong_0 2 rfl rfl)
theorem dX8_strong_4 : decode cX8_strong 4 = .ok (.invokevirtual 121, 3) := dk_182 0 121 (dk_at dksX8_strong_0 4 rfl rfl)
theorem dX8_strong_7 : decode cX8_strong 7 = .ok (.istore_n 1, 1) := dk_60 (dk_at dksX8_strong_0 7 rfl rfl)
theorem dX8_strong_8 : decode cX8_strong 8 = .ok (.aload_n 0, 1) := dk_42 (dk_at dksX8_strong_0 8 rfl rfl)
theorem dX8_strong_9 : decode cX8_strong 9 = .ok (.getfield 47, 3) := dk_180 0 47 (dk_at dksX8_strong_0 9 rfl rfl)
theorem dX8_strong_12 : decode cX8_strong 12 = .ok (.getfield 143, 3) := dk_180 0 143 (dk_at dksX8_strong_0 12 rfl rfl)
theorem dX8_strong_15 : decode cX8_strong 15 = .ok (.iload_n 1, 1) := dk_27 (dk_at dksX8_strong_0 15 rfl rfl)
theorem dX8_strong_16 : decode cX8_strong 16 = .ok (.aload_n 0, 1) := dk_42 (dk_at dksX8_strong_0 16 rfl rfl)
theorem dX8_strong_17 : decode cX8_strong 17 = .ok (.iconst 0, 1) := dk_3 (dk_at dksX8_strong_0 17 rfl rfl)
theorem dX8_strong_18 : decode cX8_strong 18 = .ok (.bipush 9, 2) := dk_16 9 (dk_at dksX8_strong_0 18 rfl rfl)
theorem dX8_strong_20 : decode cX8_strong 20 = .ok (.invokevirtual 121, 3) := dk_182 0 121 (dk_at dksX8_strong_0 20 rfl rfl)
theorem dX8_strong_23 : decode cX8_strong 23 = .ok (.iastore, 1) := dk_79 (dk_at dksX8_strong_0 23 rfl rfl)
theorem dX8_strong_24 : decode cX8_strong 24 = .ok (.return_, 1) := dk_177 (dk_at dksX8_strong_1 0 rfl rfl)
abbrev cX8_day : ByteArray := prog_17_method_17_code
def yX8_day : MethodName := ⟨RX8, "day", "()V"⟩
def dkwX8_day_1 : List UInt8 := [16, 7, 182, 0, 121, 79, 177]
abbrev dktX8_day_1 : List UInt8 := dkwX8_day_1 ++ []
def dkwX8_day_0 : List UInt8 := [42, 3, 8, 182, 0, 121, 60, 42, 18, 146, 182, 0, 136, 42, 180, 0, 47, 180, 0, 148, 27, 42, 3]
abbrev dktX8_day_0 : List UInt8 := dkwX8_day_0 ++ dktX8_day_1
theorem dksX8_day_0 : cX8_day.data.toList.drop 0 = dktX8_day_0 := by decide +kernel
theorem dksX8_day_1 : cX8_day.data.toList.drop 23 = dktX8_day_1 := dk_seg dksX8_day_0 23 rfl rfl
theorem dX8_day_0 : decode cX8_day 0 = .ok (.aload_n 0, 1) := dk_42 (dk_at dksX8_day_0 0 rfl rfl)
theorem dX8_day_1 : decode cX8_day 1 = .ok (.iconst 0, 1) := dk_3 (dk_at dksX8_day_0 1 rfl rfl)
theorem dX8_day_2 : decode cX8_day 2 = .ok (.iconst 5, 1) := dk_8 (dk_at dksX8_day_0 2 rfl rfl)
theorem dX8_day_3 : decode cX8_day 3 = .ok (.invokevirtual 121, 3) := dk_182 0 121 (dk_at dksX8_day_0 3 rfl rfl)
theorem dX8_day_6 : decode cX8_day 6 = .ok (.istore_n 1, 1) := dk_60 (dk_at dksX8_day_0 6 rfl rfl)
theorem dX8_day_7 : decode cX8_day 7 = .ok (.aload_n 0, 1) := dk_42 (dk_at dksX8_day_0 7 rfl rfl)
theorem dX8_day_8 : decode cX8_day 8 = .ok (.ldc 146, 2) := dk_18 146 (dk_at dksX8_day_0 8 rfl rfl)
theorem dX8_day_10 : decode cX8_day 10 = .ok (.invokevirtual 136, 3) := dk_182 0 136 (dk_at dksX8_day_0 10 rfl rfl)
theorem dX8_day_13 : decode cX8_day 13 = .ok (.aload_n 0, 1) := dk_42 (dk_at dksX8_day_0 13 rfl rfl)
theorem dX8_day_14 : decode cX8_day 14 = .ok (.getfield 47, 3) := dk_180 0 47 (dk_at dksX8_day_0 14 rfl rfl)
theorem dX8_day_17 : decode cX8_day 17 = .ok (.getfield 148, 3) := dk_180 0 148 (dk_at dksX8_day_0 17 rfl rfl)
theorem dX8_day_20 : decode cX8_day 20 = .ok (.iload_n 1, 1) := dk_27 (dk_at dksX8_day_0 20 rfl rfl)
theorem dX8_day_21 : decode cX8_day 21 = .ok (.aload_n 0, 1) := dk_42 (dk_at dksX8_day_0 21 rfl rfl)
theorem dX8_day_22 : decode cX8_day 22 = .ok (.iconst 0, 1) := dk_3 (dk_at dksX8_day_0 22 rfl rfl)
theorem dX8_day_23 : decode cX8_day 23 = .ok (.bipush 7, 2) := dk_16 7 (dk_at dksX8_day_1 0 rfl rfl)
theorem dX8_day_25 : decode cX8_day 25 = .ok (.invokevirtual 121, 3) := dk_182 0 121 (dk_at dksX8_day_1 2 rfl rfl)
theorem dX8_day_28 : decode cX8_day 28 = .ok (.iastore, 1) := dk_79 (dk_at dksX8_day_1 5 rfl rfl)
theorem dX8_day_29 : decode cX8_day 29 = .ok (.return_, 1) := dk_177 (dk_at dksX8_day_1 6 rfl rfl)
theorem q108 : (Jvm.Cond.initialized "IntentVats$Reader") ∈ lw_all := lw_g (lw_at lw_m1 9 rfl) rfl
theorem q154 : (Jvm.Cond.fieldLinkNest "IntentVats$Reader" (106 : Nat) "IntentVats$Mill" "many" "I" "IntentVats") ∈ lw_tbl := lw_at lw_m1 55 rfl
theorem q168 : (Jvm.Cond.fieldLinkNest "IntentVats$Reader" (168 : Nat) "IntentVats$Mill" "law" "[I" "IntentVats") ∈ lw_tbl := lw_at lw_m1 69 rfl
theorem q172 : (Jvm.Cond.fieldLinkNest "IntentVats$Reader" (140 : Nat) "IntentVats$Mill" "purpose" "[I" "IntentVats") ∈ lw_tbl := lw_at lw_m1 73 rfl
theorem q176 : (Jvm.Cond.fieldLinkNest "IntentVats$Reader" (143 : Nat) "IntentVats$Mill" "strength" "[I" "IntentVats") ∈ lw_tbl := lw_at lw_m1 77 rfl
theorem q178 : (Jvm.Cond.fieldLinkNest "IntentVats$Reader" (148 : Nat) "IntentVats$Mill" "roster" "[I" "IntentVats") ∈ lw_tbl := lw_at lw_m1 79 rfl
theorem q184 : (Jvm.Cond.fieldLinkNest "IntentVats$Reader" (118 : Nat) "IntentVats$Mill" "about" "[I" "IntentVats") ∈ lw_tbl := lw_at lw_m1 85 rfl
theorem q187 : (Jvm.Cond.fieldLinkNest "IntentVats$Reader" (124 : Nat) "IntentVats$Mill" "deep" "[I" "IntentVats") ∈ lw_tbl := lw_at lw_m1 88 rfl
theorem q260 : (Jvm.Cond.instantiable "IntentVats$Reader" (8 : Nat)) ∈ lw_all := lw_g (lw_at lw_m1 161 rfl) rfl
theorem q262 : (Jvm.Cond.instanceMethod ({ cls := "IntentVats$Reader", name := "<init>", desc := "(LIntentVats$Mill;)V" } : Jvm.MethodName)) ∈ lw_all := lw_g (lw_at lw_m1 163 rfl) rfl
theorem q263 : (Jvm.Cond.code ({ cls := "IntentVats$Reader", name := "<init>", desc := "(LIntentVats$Mill;)V" } : Jvm.MethodName) prog_17_method_1_code (2 : Nat) (Option.none : Option Jvm.ClassFile.FieldType)) ∈ lw_all := lw_g (lw_at lw_m1 164 rfl) rfl
theorem q264 : (Jvm.Cond.methodLink "IntentVats$Reader" (3 : Nat) ({ cls := "java/lang/Object", name := "<init>", desc := "()V" } : Jvm.MethodName)) ∈ lw_all := lw_g (lw_at lw_m1 165 rfl) rfl
theorem q265 : (Jvm.Cond.classLink "IntentVats$Reader" (9 : Nat) "java/lang/String") ∈ lw_all := lw_g (lw_at lw_m1 166 rfl) rfl
theorem q267 : (Jvm.Cond.stringRef "IntentVats$Reader" (11 : Nat) "cloth") ∈ lw_tbl := lw_at lw_m1 168 rfl
theorem q268 : (Jvm.Cond.stringRef "IntentVats$Reader" (13 : Nat) "wool") ∈ lw_tbl := lw_at lw_m1 169 rfl
theorem q269 : (Jvm.Cond.stringRef "IntentVats$Reader" (15 : Nat) "linen") ∈ lw_tbl := lw_at lw_m1 170 rfl
theorem q270 : (Jvm.Cond.stringRef "IntentVats$Reader" (17 : Nat) "felt") ∈ lw_tbl := lw_at lw_m1 171 rfl
theorem q271 : (Jvm.Cond.stringRef "IntentVats$Reader" (19 : Nat) "shroud") ∈ lw_tbl := lw_at lw_m1 172 rfl
theorem q272 : (Jvm.Cond.stringRef "IntentVats$Reader" (21 : Nat) "muslin") ∈ lw_tbl := lw_at lw_m1 173 rfl
theorem q273 : (Jvm.Cond.stringRef "IntentVats$Reader" (29 : Nat) "mordant") ∈ lw_tbl := lw_at lw_m1 174 rfl
theorem q274 : (Jvm.Cond.stringRef "IntentVats$Reader" (31 : Nat) "light") ∈ lw_tbl := lw_at lw_m1 175 rfl
theorem q275 : (Jvm.Cond.stringRef "IntentVats$Reader" (33 : Nat) "quarrel") ∈ lw_tbl := lw_at lw_m1 176 rfl
theorem q276 : (Jvm.Cond.stringRef "IntentVats$Reader" (35 : Nat) "slip") ∈ lw_tbl := lw_at lw_m1 177 rfl
theorem q277 : (Jvm.Cond.classLink "IntentVats$Reader" (40 : Nat) "IntentVats$Fault") ∈ lw_all := lw_g (lw_at lw_m1 178 rfl) rfl
theorem q321 : (Jvm.Cond.methodLink "IntentVats$Reader" (42 : Nat) ({ cls := "IntentVats$Fault", name := "<init>", desc := "()V" } : Jvm.MethodName)) ∈ lw_all := lw_g (lw_at lw_m1 222 rfl) rfl
theorem q351 : (Jvm.Cond.fieldLink "IntentVats$Reader" (23 : Nat) "IntentVats$Reader" "kinds" "[Ljava/lang/String;") ∈ lw_all := lw_g (lw_at lw_m2 12 rfl) rfl
theorem q352 : (Jvm.Cond.fieldLink "IntentVats$Reader" (37 : Nat) "IntentVats$Reader" "laws" "[Ljava/lang/String;") ∈ lw_all := lw_g (lw_at lw_m2 13 rfl) rfl
theorem q353 : (Jvm.Cond.fieldLink "IntentVats$Reader" (43 : Nat) "IntentVats$Reader" "fault" "LIntentVats$Fault;") ∈ lw_all := lw_g (lw_at lw_m2 14 rfl) rfl
theorem q354 : (Jvm.Cond.fieldLink "IntentVats$Reader" (47 : Nat) "IntentVats$Reader" "t" "LIntentVats$Mill;") ∈ lw_all := lw_g (lw_at lw_m2 15 rfl) rfl
theorem q355 : (Jvm.Cond.fieldLink "IntentVats$Reader" (58 : Nat) "IntentVats$Reader" "text" "[B") ∈ lw_all := lw_g (lw_at lw_m2 16 rfl) rfl
theorem q356 : (Jvm.Cond.fieldLink "IntentVats$Reader" (55 : Nat) "IntentVats$Reader" "many" "I") ∈ lw_all := lw_g (lw_at lw_m2 17 rfl) rfl
theorem q357 : (Jvm.Cond.fieldLink "IntentVats$Reader" (51 : Nat) "IntentVats$Reader" "from" "I") ∈ lw_all := lw_g (lw_at lw_m2 18 rfl) rfl
theorem q358 : (Jvm.Cond.fieldLink "IntentVats$Reader" (62 : Nat) "IntentVats$Reader" "to" "I") ∈ lw_all := lw_g (lw_at lw_m2 19 rfl) rfl
theorem q359 : (Jvm.Cond.laysFinal "IntentVats$Reader" "IntentVats$Reader" "kinds" "[Ljava/lang/String;") ∈ lw_all := lw_g (lw_at lw_m2 20 rfl) rfl
theorem q360 : (Jvm.Cond.soleField "IntentVats$Reader" "kinds") ∈ lw_all := lw_g (lw_at lw_m2 21 rfl) rfl
theorem q361 : (Jvm.Cond.laysFinal "IntentVats$Reader" "IntentVats$Reader" "laws" "[Ljava/lang/String;") ∈ lw_all := lw_g (lw_at lw_m2 22 rfl) rfl
theorem q362 : (Jvm.Cond.soleField "IntentVats$Reader" "laws") ∈ lw_all := lw_g (lw_at lw_m2 23 rfl) rfl
theorem q363 : (Jvm.Cond.laysFinal "IntentVats$Reader" "IntentVats$Reader" "fault" "LIntentVats$Fault;") ∈ lw_all := lw_g (lw_at lw_m2 24 rfl) rfl
theorem q364 : (Jvm.Cond.soleField "IntentVats$Reader" "fault") ∈ lw_all := lw_g (lw_at lw_m2 25 rfl) rfl
theorem q365 : (Jvm.Cond.laysFinal "IntentVats$Reader" "IntentVats$Reader" "t" "LIntentVats$Mill;") ∈ lw_all := lw_g (lw_at lw_m2 26 rfl) rfl
theorem q366 : (Jvm.Cond.soleField "IntentVats$Reader" "t") ∈ lw_all := lw_g (lw_at lw_m2 27 rfl) rfl
theorem q367 : (Jvm.Cond.lays "IntentVats$Reader" "IntentVats$Reader" "text" "[B") ∈ lw_all := lw_g (lw_at lw_m2 28 rfl) rfl
theorem q368 : (Jvm.Cond.soleField "IntentVats$Reader" "text") ∈ lw_all := lw_g (lw_at lw_m2 29 rfl) rfl
theorem q369 : (Jvm.Cond.lays "IntentVats$Reader" "IntentVats$Reader" "many" "I") ∈ lw_all := lw_g (lw_at lw_m2 30 rfl) rfl
theorem q370 : (Jvm.Cond.soleField "IntentVats$Reader" "many") ∈ lw_all := lw_g (lw_at lw_m2 31 rfl) rfl
theorem q371 : (Jvm.Cond.lays "IntentVats$Reader" "IntentVats$Reader" "from" "I") ∈ lw_all := lw_g (lw_at lw_m2 32 rfl) rfl
theorem q372 : (Jvm.Cond.soleField "IntentVats$Reader" "from") ∈ lw_all := lw_g (lw_at lw_m2 33 rfl) rfl
theorem q373 : (Jvm.Cond.lays "IntentVats$Reader" "IntentVats$Reader" "to" "I") ∈ lw_all := lw_g (lw_at lw_m2 34 rfl) rfl
theorem q374 : (Jvm.Cond.soleField "IntentVats$Reader" "to") ∈ lw_all := lw_g (lw_at lw_m2 35 rfl) rfl
theorem q375 : (Jvm.Cond.superclass "IntentVats$Reader" "java/lang/Object") ∈ lw_all := lw_g (lw_at lw_m2 36 rfl) rfl
theorem q527 : (Jvm.Cond.instanceMethod ({ cls := "IntentVats$Reader", name := "read", desc := "([BI)V" } : Jvm.MethodName)) ∈ lw_all := lw_g (lw_at lw_m2 188 rfl) rfl
theorem q528 : (Jvm.Cond.selects "IntentVats$Reader" ({ cls := "IntentVats$Reader", name := "read", desc := "([BI)V" } : Jvm.MethodName) ({ cls := "IntentVats$Reader", name := "read", desc := "([BI)V" } : Jvm.MethodName)) ∈ lw_all := lw_g (lw_at lw_m2 189 rfl) rfl
theorem q529 : (Jvm.Cond.code ({ cls := "IntentVats$Reader", name := "read", desc := "([BI)V" } : Jvm.MethodName) prog_17_method_19_code (3 : Nat) (Option.none : Option Jvm.ClassFile.FieldType)) ∈ lw_all := lw_g (lw_at lw_m2 190 rfl) rfl
theorem q530 : (Jvm.Cond.methodLink "IntentVats$Reader" (176 : Nat) ({ cls := "IntentVats$Reader", name := "begins", desc := "([BI)V" } : Jvm.MethodName)) ∈ lw_all := lw_g (lw_at lw_m2 191 rfl) rfl
theorem q531 : (Jvm.Cond.privateMethod ({ cls := "IntentVats$Reader", name := "begins", desc := "([BI)V" } : Jvm.MethodName)) ∈ lw_tbl := lw_at lw_m2 192 rfl
theorem q532 : (Jvm.Cond.instanceMethod ({ cls := "IntentVats$Reader", name := "begins", desc := "([BI)V" } : Jvm.MethodName)) ∈ lw_all := lw_g (lw_at lw_m2 193 rfl) rfl
theorem q533 : (Jvm.Cond.code ({ cls := "IntentVats$Reader", name := "begins", desc := "([BI)V" } : Jvm.MethodName) prog_17_method_12_code (3 : Nat) (Option.none : Option Jvm.ClassFile.FieldType)) ∈ lw_all := lw_g (lw_at lw_m2 194 rfl) rfl
theorem q534 : (Jvm.Cond.methodLink "IntentVats$Reader" (91 : Nat) ({ cls := "IntentVats$Reader", name := "next", desc := "()V" } : Jvm.MethodName)) ∈ lw_all := lw_g (lw_at lw_m2 195 rfl) rfl
theorem q535 : (Jvm.Cond.privateMethod ({ cls := "IntentVats$Reader", name := "next", desc := "()V" } : Jvm.MethodName)) ∈ lw_tbl := lw_at lw_m2 196 rfl
theorem q536 : (Jvm.Cond.instanceMethod ({ cls := "IntentVats$Reader", name := "next", desc := "()V" } : Jvm.MethodName)) ∈ lw_all := lw_g (lw_at lw_m2 197 rfl) rfl
theorem q537 : (Jvm.Cond.code ({ cls := "IntentVats$Reader", name := "next", desc := "()V" } : Jvm.MethodName) prog_17_method_5_code (3 : Nat) (Option.none : Option Jvm.ClassFile.FieldType)) ∈ lw_all := lw_g (lw_at lw_m2 198 rfl) rfl
theorem q538 : (Jvm.Cond.methodLink "IntentVats$Reader" (65 : Nat) ({ cls := "IntentVats$Reader", name := "here", desc := "()I" } : Jvm.MethodName)) ∈ lw_all := lw_g (lw_at lw_m2 199 rfl) rfl
theorem q539 : (Jvm.Cond.privateMethod ({ cls := "IntentVats$Reader", name := "here", desc := "()I" } : Jvm.MethodName)) ∈ lw_tbl := lw_at lw_m2 200 rfl
theorem q540 : (Jvm.Cond.instanceMethod ({ cls := "IntentVats$Reader", name := "here", desc := "()I" } : Jvm.MethodName)) ∈ lw_all := lw_g (lw_at lw_m2 201 rfl) rfl
theorem q541 : (Jvm.Cond.code ({ cls := "IntentVats$Reader", name := "here", desc := "()I" } : Jvm.MethodName) prog_17_method_2_code (1 : Nat) (Option.some Jvm.ClassFile.FieldType.int)) ∈ lw_all := lw_g (lw_at lw_m2 202 rfl) rfl
theorem q542 : (Jvm.Cond.methodLink "IntentVats$Reader" (69 : Nat) ({ cls := "IntentVats$Reader", name := "isLetter", desc := "(I)Z" } : Jvm.MethodName)) ∈ lw_all := lw_g (lw_at lw_m2 203 rfl) rfl
theorem q543 : (Jvm.Cond.static ({ cls := "IntentVats$Reader", name := "isLetter", desc := "(I)Z" } : Jvm.MethodName)) ∈ lw_all := lw_g (lw_at lw_m2 204 rfl) rfl
theorem q544 : (Jvm.Cond.code ({ cls := "IntentVats$Reader", name := "isLetter", desc := "(I)Z" } : Jvm.MethodName) prog_17_method_4_code (1 : Nat) (Option.some Jvm.ClassFile.FieldType.boolean)) ∈ lw_all := lw_g (lw_at lw_m2 205 rfl) rfl
theorem q545 : (Jvm.Cond.methodLink "IntentVats$Reader" (73 : Nat) ({ cls := "IntentVats$Reader", name := "isDigit", desc := "(I)Z" } : Jvm.MethodName)) ∈ lw_all := lw_g (lw_at lw_m2 206 rfl) rfl
theorem q546 : (Jvm.Cond.static ({ cls := "IntentVats$Reader", name := "isDigit", desc := "(I)Z" } : Jvm.MethodName)) ∈ lw_all := lw_g (lw_at lw_m2 207 rfl) rfl
theorem q547 : (Jvm.Cond.code ({ cls := "IntentVats$Reader", name := "isDigit", desc := "(I)Z" } : Jvm.MethodName) prog_17_method_3_code (1 : Nat) (Option.some Jvm.ClassFile.FieldType.boolean)) ∈ lw_all := lw_g (lw_at lw_m2 208 rfl) rfl
theorem q548 : (Jvm.Cond.methodLink "IntentVats$Reader" (180 : Nat) ({ cls := "IntentVats$Mill", name := "begins", desc := "()V" } : Jvm.MethodName)) ∈ lw_all := lw_g (lw_at lw_m2 209 rfl) rfl
theorem q549 : (Jvm.Cond.methodLink "IntentVats$Reader" (182 : Nat) ({ cls := "IntentVats$Reader", name := "item", desc := "()V" } : Jvm.MethodName)) ∈ lw_all := lw_g (lw_at lw_m2 210 rfl) rfl
theorem q550 : (Jvm.Cond.privateMethod ({ cls := "IntentVats$Reader", name := "item", desc := "()V" } : Jvm.MethodName)) ∈ lw_tbl := lw_at lw_m2 211 rfl
theorem q551 : (Jvm.Cond.instanceMethod ({ cls := "IntentVats$Reader", name := "item", desc := "()V" } : Jvm.MethodName)) ∈ lw_all := lw_g (lw_at lw_m2 212 rfl) rfl
theorem q552 : (Jvm.Cond.code ({ cls := "IntentVats$Reader", name := "item", desc := "()V" } : Jvm.MethodName) prog_17_method_18_code (3 : Nat) (Option.none : Option Jvm.ClassFile.FieldType)) ∈ lw_all := lw_g (lw_at lw_m2 213 rfl) rfl
theorem q553 : (Jvm.Cond.methodLink "IntentVats$Reader" (151 : Nat) ({ cls := "IntentVats$Reader", name := "placeOf", desc := "([Ljava/lang/String;LIntentVats$Reader;)I" } : Jvm.MethodName)) ∈ lw_all := lw_g (lw_at lw_m2 214 rfl) rfl
theorem q554 : (Jvm.Cond.static ({ cls := "IntentVats$Reader", name := "placeOf", desc := "([Ljava/lang/String;LIntentVats$Reader;)I" } : Jvm.MethodName)) ∈ lw_all := lw_g (lw_at lw_m2 215 rfl) rfl
theorem q555 : (Jvm.Cond.code ({ cls := "IntentVats$Reader", name := "placeOf", desc := "([Ljava/lang/String;LIntentVats$Reader;)I" } : Jvm.MethodName) prog_17_method_13_code (3 : Nat) (Option.some Jvm.ClassFile.FieldType.int)) ∈ lw_all := lw_g (lw_at lw_m2 216 rfl) rfl
theorem q556 : (Jvm.Cond.methodLink "IntentVats$Reader" (87 : Nat) ({ cls := "IntentVats$Reader", name := "isWord", desc := "(Ljava/lang/String;)Z" } : Jvm.MethodName)) ∈ lw_all := lw_g (lw_at lw_m2 217 rfl) rfl
theorem q557 : (Jvm.Cond.privateMethod ({ cls := "IntentVats$Reader", name := "isWord", desc := "(Ljava/lang/String;)Z" } : Jvm.MethodName)) ∈ lw_tbl := lw_at lw_m2 218 rfl
theorem q558 : (Jvm.Cond.instanceMethod ({ cls := "IntentVats$Reader", name := "isWord", desc := "(Ljava/lang/String;)Z" } : Jvm.MethodName)) ∈ lw_all := lw_g (lw_at lw_m2 219 rfl) rfl
theorem q559 : (Jvm.Cond.code ({ cls := "IntentVats$Reader", name := "isWord", desc := "(Ljava/lang/String;)Z" } : Jvm.MethodName) prog_17_method_7_code (4 : Nat) (Option.some Jvm.ClassFile.FieldType.boolean)) ∈ lw_all := lw_g (lw_at lw_m2 220 rfl) rfl
theorem q560 : (Jvm.Cond.methodLink "IntentVats$Reader" (80 : Nat) ({ cls := "java/lang/String", name := "length", desc := "()I" } : Jvm.MethodName)) ∈ lw_all := lw_g (lw_at lw_m2 221 rfl) rfl
theorem q570 : (Jvm.Cond.methodLink "IntentVats$Reader" (83 : Nat) ({ cls := "java/lang/String", name := "charAt", desc := "(I)C" } : Jvm.MethodName)) ∈ lw_all := lw_g (lw_at lw_m2 231 rfl) rfl
theorem q608 : (Jvm.Cond.methodLink "IntentVats$Reader" (155 : Nat) ({ cls := "IntentVats$Reader", name := "cloth", desc := "(I)V" } : Jvm.MethodName)) ∈ lw_all := lw_g (lw_at lw_m3 29 rfl) rfl
theorem q609 : (Jvm.Cond.privateMethod ({ cls := "IntentVats$Reader", name := "cloth", desc := "(I)V" } : Jvm.MethodName)) ∈ lw_tbl := lw_at lw_m3 30 rfl
theorem q610 : (Jvm.Cond.instanceMethod ({ cls := "IntentVats$Reader", name := "cloth", desc := "(I)V" } : Jvm.MethodName)) ∈ lw_all := lw_g (lw_at lw_m3 31 rfl) rfl
theorem q611 : (Jvm.Cond.code ({ cls := "IntentVats$Reader", name := "cloth", desc := "(I)V" } : Jvm.MethodName) prog_17_method_14_code (3 : Nat) (Option.none : Option Jvm.ClassFile.FieldType)) ∈ lw_all := lw_g (lw_at lw_m3 32 rfl) rfl
theorem q612 : (Jvm.Cond.methodLink "IntentVats$Reader" (94 : Nat) ({ cls := "IntentVats$Reader", name := "need", desc := "(Z)V" } : Jvm.MethodName)) ∈ lw_all := lw_g (lw_at lw_m3 33 rfl) rfl
theorem q613 : (Jvm.Cond.privateMethod ({ cls := "IntentVats$Reader", name := "need", desc := "(Z)V" } : Jvm.MethodName)) ∈ lw_tbl := lw_at lw_m3 34 rfl
theorem q614 : (Jvm.Cond.instanceMethod ({ cls := "IntentVats$Reader", name := "need", desc := "(Z)V" } : Jvm.MethodName)) ∈ lw_all := lw_g (lw_at lw_m3 35 rfl) rfl
theorem q615 : (Jvm.Cond.code ({ cls := "IntentVats$Reader", name := "need", desc := "(Z)V" } : Jvm.MethodName) prog_17_method_6_code (2 : Nat) (Option.none : Option Jvm.ClassFile.FieldType)) ∈ lw_all := lw_g (lw_at lw_m3 36 rfl) rfl
theorem q616 : (Jvm.Cond.methodLink "IntentVats$Reader" (76 : Nat) ({ cls := "IntentVats$Fault", name := "at", desc := "(I)LIntentVats$Fault;" } : Jvm.MethodName)) ∈ lw_all := lw_g (lw_at lw_m3 37 rfl) rfl
theorem q620 : (Jvm.Cond.methodLink "IntentVats$Reader" (109 : Nat) ({ cls := "IntentVats$Mill", name := "add", desc := "(I)I" } : Jvm.MethodName)) ∈ lw_all := lw_g (lw_at lw_m3 41 rfl) rfl
theorem q628 : (Jvm.Cond.stringRef "IntentVats$Reader" (113 : Nat) "about") ∈ lw_tbl := lw_at lw_m3 49 rfl
theorem q629 : (Jvm.Cond.methodLink "IntentVats$Reader" (115 : Nat) ({ cls := "IntentVats$Reader", name := "may", desc := "(Ljava/lang/String;)Z" } : Jvm.MethodName)) ∈ lw_all := lw_g (lw_at lw_m3 50 rfl) rfl
theorem q630 : (Jvm.Cond.privateMethod ({ cls := "IntentVats$Reader", name := "may", desc := "(Ljava/lang/String;)Z" } : Jvm.MethodName)) ∈ lw_tbl := lw_at lw_m3 51 rfl
theorem q631 : (Jvm.Cond.instanceMethod ({ cls := "IntentVats$Reader", name := "may", desc := "(Ljava/lang/String;)Z" } : Jvm.MethodName)) ∈ lw_all := lw_g (lw_at lw_m3 52 rfl) rfl
theorem q632 : (Jvm.Cond.code ({ cls := "IntentVats$Reader", name := "may", desc := "(Ljava/lang/String;)Z" } : Jvm.MethodName) prog_17_method_8_code (2 : Nat) (Option.some Jvm.ClassFile.FieldType.boolean)) ∈ lw_all := lw_g (lw_at lw_m3 53 rfl) rfl
theorem q633 : (Jvm.Cond.methodLink "IntentVats$Reader" (121 : Nat) ({ cls := "IntentVats$Reader", name := "number", desc := "(II)I" } : Jvm.MethodName)) ∈ lw_all := lw_g (lw_at lw_m3 54 rfl) rfl
theorem q634 : (Jvm.Cond.privateMethod ({ cls := "IntentVats$Reader", name := "number", desc := "(II)I" } : Jvm.MethodName)) ∈ lw_tbl := lw_at lw_m3 55 rfl
theorem q635 : (Jvm.Cond.instanceMethod ({ cls := "IntentVats$Reader", name := "number", desc := "(II)I" } : Jvm.MethodName)) ∈ lw_all := lw_g (lw_at lw_m3 56 rfl) rfl
theorem q636 : (Jvm.Cond.code ({ cls := "IntentVats$Reader", name := "number", desc := "(II)I" } : Jvm.MethodName) prog_17_method_11_code (4 : Nat) (Option.some Jvm.ClassFile.FieldType.int)) ∈ lw_all := lw_g (lw_at lw_m3 57 rfl) rfl
theorem q637 : (Jvm.Cond.methodLink "IntentVats$Reader" (102 : Nat) ({ cls := "IntentVats$Reader", name := "seen", desc := "(II)I" } : Jvm.MethodName)) ∈ lw_all := lw_g (lw_at lw_m3 58 rfl) rfl
theorem q638 : (Jvm.Cond.privateMethod ({ cls := "IntentVats$Reader", name := "seen", desc := "(II)I" } : Jvm.MethodName)) ∈ lw_tbl := lw_at lw_m3 59 rfl
theorem q639 : (Jvm.Cond.instanceMethod ({ cls := "IntentVats$Reader", name := "seen", desc := "(II)I" } : Jvm.MethodName)) ∈ lw_all := lw_g (lw_at lw_m3 60 rfl) rfl
theorem q640 : (Jvm.Cond.code ({ cls := "IntentVats$Reader", name := "seen", desc := "(II)I" } : Jvm.MethodName) prog_17_method_10_code (5 : Nat) (Option.some Jvm.ClassFile.FieldType.int)) ∈ lw_all := lw_g (lw_at lw_m3 61 rfl) rfl
theorem q641 : (Jvm.Cond.methodLinkNest "IntentVats$Reader" (98 : Nat) ({ cls := "IntentVats", name := "in", desc := "(III)Z" } : Jvm.MethodName) "IntentVats") ∈ lw_tbl := lw_at lw_m3 62 rfl
theorem q642 : (Jvm.Cond.stringRef "IntentVats$Reader" (127 : Nat) "deep") ∈ lw_tbl := lw_at lw_m3 63 rfl
theorem q643 : (Jvm.Cond.stringRef "IntentVats$Reader" (128 : Nat) "hung") ∈ lw_tbl := lw_at lw_m3 64 rfl
theorem q644 : (Jvm.Cond.methodLink "IntentVats$Reader" (130 : Nat) ({ cls := "IntentVats$Mill", name := "hangs", desc := "(IZ)V" } : Jvm.MethodName)) ∈ lw_all := lw_g (lw_at lw_m3 65 rfl) rfl
theorem q645 : (Jvm.Cond.stringRef "IntentVats$Reader" (146 : Nat) "vat") ∈ lw_tbl := lw_at lw_m3 66 rfl
theorem q646 : (Jvm.Cond.methodLink "IntentVats$Reader" (158 : Nat) ({ cls := "IntentVats$Reader", name := "vat", desc := "()V" } : Jvm.MethodName)) ∈ lw_all := lw_g (lw_at lw_m3 67 rfl) rfl
theorem q647 : (Jvm.Cond.privateMethod ({ cls := "IntentVats$Reader", name := "vat", desc := "()V" } : Jvm.MethodName)) ∈ lw_tbl := lw_at lw_m3 68 rfl
theorem q648 : (Jvm.Cond.instanceMethod ({ cls := "IntentVats$Reader", name := "vat", desc := "()V" } : Jvm.MethodName)) ∈ lw_all := lw_g (lw_at lw_m3 69 rfl) rfl
theorem q649 : (Jvm.Cond.code ({ cls := "IntentVats$Reader", name := "vat", desc := "()V" } : Jvm.MethodName) prog_17_method_15_code (2 : Nat) (Option.none : Option Jvm.ClassFile.FieldType)) ∈ lw_all := lw_g (lw_at lw_m3 70 rfl) rfl
theorem q650 : (Jvm.Cond.stringRef "IntentVats$Reader" (134 : Nat) "of") ∈ lw_tbl := lw_at lw_m3 71 rfl
theorem q651 : (Jvm.Cond.methodLink "IntentVats$Reader" (136 : Nat) ({ cls := "IntentVats$Reader", name := "must", desc := "(Ljava/lang/String;)V" } : Jvm.MethodName)) ∈ lw_all := lw_g (lw_at lw_m3 72 rfl) rfl
theorem q652 : (Jvm.Cond.privateMethod ({ cls := "IntentVats$Reader", name := "must", desc := "(Ljava/lang/String;)V" } : Jvm.MethodName)) ∈ lw_tbl := lw_at lw_m3 73 rfl
theorem q653 : (Jvm.Cond.instanceMethod ({ cls := "IntentVats$Reader", name := "must", desc := "(Ljava/lang/String;)V" } : Jvm.MethodName)) ∈ lw_all := lw_g (lw_at lw_m3 74 rfl) rfl
theorem q654 : (Jvm.Cond.code ({ cls := "IntentVats$Reader", name := "must", desc := "(Ljava/lang/String;)V" } : Jvm.MethodName) prog_17_method_9_code (2 : Nat) (Option.none : Option Jvm.ClassFile.FieldType)) ∈ lw_all := lw_g (lw_at lw_m3 75 rfl) rfl
theorem q655 : (Jvm.Cond.stringRef "IntentVats$Reader" (160 : Nat) "strong") ∈ lw_tbl := lw_at lw_m3 76 rfl
theorem q656 : (Jvm.Cond.methodLink "IntentVats$Reader" (162 : Nat) ({ cls := "IntentVats$Reader", name := "strong", desc := "()V" } : Jvm.MethodName)) ∈ lw_all := lw_g (lw_at lw_m3 77 rfl) rfl
theorem q657 : (Jvm.Cond.privateMethod ({ cls := "IntentVats$Reader", name := "strong", desc := "()V" } : Jvm.MethodName)) ∈ lw_tbl := lw_at lw_m3 78 rfl
theorem q658 : (Jvm.Cond.instanceMethod ({ cls := "IntentVats$Reader", name := "strong", desc := "()V" } : Jvm.MethodName)) ∈ lw_all := lw_g (lw_at lw_m3 79 rfl) rfl
theorem q659 : (Jvm.Cond.code ({ cls := "IntentVats$Reader", name := "strong", desc := "()V" } : Jvm.MethodName) prog_17_method_16_code (2 : Nat) (Option.none : Option Jvm.ClassFile.FieldType)) ∈ lw_all := lw_g (lw_at lw_m3 80 rfl) rfl
theorem q660 : (Jvm.Cond.stringRef "IntentVats$Reader" (164 : Nat) "day") ∈ lw_tbl := lw_at lw_m3 81 rfl
theorem q661 : (Jvm.Cond.methodLink "IntentVats$Reader" (166 : Nat) ({ cls := "IntentVats$Reader", name := "day", desc := "()V" } : Jvm.MethodName)) ∈ lw_all := lw_g (lw_at lw_m3 82 rfl) rfl
theorem q662 : (Jvm.Cond.privateMethod ({ cls := "IntentVats$Reader", name := "day", desc := "()V" } : Jvm.MethodName)) ∈ lw_tbl := lw_at lw_m3 83 rfl
theorem q663 : (Jvm.Cond.instanceMethod ({ cls := "IntentVats$Reader", name := "day", desc := "()V" } : Jvm.MethodName)) ∈ lw_all := lw_g (lw_at lw_m3 84 rfl) rfl
theorem q664 : (Jvm.Cond.code ({ cls := "IntentVats$Reader", name := "day", desc := "()V" } : Jvm.MethodName) prog_17_method_17_code (2 : Nat) (Option.none : Option Jvm.ClassFile.FieldType)) ∈ lw_all := lw_g (lw_at lw_m3 85 rfl) rfl
theorem q665 : (Jvm.Cond.methodLinkNest "IntentVats$Reader" (171 : Nat) ({ cls := "IntentVats", name := "mostOf", desc := "(I)I" } : Jvm.MethodName) "IntentVats") ∈ lw_tbl := lw_at lw_m3 86 rfl
theorem q668 : (Jvm.Cond.stringRef "IntentVats$Reader" (174 : Nat) ";") ∈ lw_tbl := lw_at lw_m3 89 rfl
theorem in_X8 : ∀ w ∈ wsX80, w ∈ lw_all := lw_in wsX80 [359, 361, 363, 365, 367, 369, 371, 373] (by decide +kernel) (by decide +kernel)
/-! IntentVats$Fault -/
set_option maxRecDepth 100000
def RX9 : String := "IntentVats$Fault"
def TX9 : u_T := fun k => match k with
  | 0 => ("java/lang/Throwable", "cause", "Ljava/lang/Throwable;", false)
  | 1 => ("java/lang/Throwable", "stackTrace", "[Ljava/lang/StackTraceElement;", false)
  | 2 => ("java/lang/Throwable", "suppressedExceptions", "Ljava/util/List;", false)
  | 3 => ("java/lang/Throwable", "detailMessage", "Ljava/lang/String;", false)
  | 4 => ("java/lang/Throwable", "backtrace", "Ljava/lang/Object;", false)
  | 5 => ("java/lang/Throwable", "depth", "I", false)
  | _ => ("IntentVats$Fault", "place", "I", false)
def tyX9 : Nat → FieldType := fun k => match k with
  | 0 => .object "java/lang/Throwable"
  | 1 => .array (.object "java/lang/StackTraceElement")
  | 2 => .object "java/util/List"
  | 3 => .object "java/lang/String"
  | 4 => .object "java/lang/Object"
  | 5 => .int
  | _ => .int
abbrev wsX90 : List Cond := u_ws RX9 TX9 7
theorem nmX9 : ∀ a, a < 7 → ∀ b, b < 7 → a ≠ b → (TX9 a).2.1 ≠ (TX9 b).2.1 := by decide +kernel
theorem tyX9_ok : ∀ k, k < 7 → parseFieldDescriptor (TX9 k).2.2.1 = some (tyX9 k) := by decide +kernel
abbrev cX9_init : ByteArray := prog_5_method_1_code
def yX9_init : MethodName := ⟨RX9, "<init>", "()V"⟩
def dkwX9_init_0 : List UInt8 := [42, 1, 1, 3, 3, 183, 0, 1, 177]
abbrev dktX9_init_0 : List UInt8 := dkwX9_init_0 ++ []
theorem dksX9_init_0 : cX9_init.data.toList.drop 0 = dktX9_init_0 := by decide +kernel
theorem dX9_init_0 : decode cX9_init 0 = .ok (.aload_n 0, 1) := dk_42 (dk_at dksX9_init_0 0 rfl rfl)
theorem dX9_init_1 : decode cX9_init 1 = .ok (.aconst_null, 1) := dk_1 (dk_at dksX9_init_0 1 rfl rfl)
theorem dX9_init_2 : decode cX9_init 2 = .ok (.aconst_null, 1) := dk_1 (dk_at dksX9_init_0 2 rfl rfl)
theorem dX9_init_3 : decode cX9_init 3 = .ok (.iconst 0, 1) := dk_3 (dk_at dksX9_init_0 3 rfl rfl)
theorem dX9_init_4 : decode cX9_init 4 = .ok (.iconst 0, 1) := dk_3 (dk_at dksX9_init_0 4 rfl rfl)
theorem dX9_init_5 : decode cX9_init 5 = .ok (.invokespecial 1, 3) := dk_183 0 1 (dk_at dksX9_init_0 5 rfl rfl)
theorem dX9_init_8 : decode cX9_init 8 = .ok (.return_, 1) := dk_177 (dk_at dksX9_init_0 8 rfl rfl)
abbrev cX9_at : ByteArray := prog_5_method_2_code
def yX9_at : MethodName := ⟨RX9, "at", "(I)LIntentVats$Fault;"⟩
def dkwX9_at_0 : List UInt8 := [42, 27, 181, 0, 7, 42, 176]
abbrev dktX9_at_0 : List UInt8 := dkwX9_at_0 ++ []
theorem dksX9_at_0 : cX9_at.data.toList.drop 0 = dktX9_at_0 := by decide +kernel
theorem dX9_at_0 : decode cX9_at 0 = .ok (.aload_n 0, 1) := dk_42 (dk_at dksX9_at_0 0 rfl rfl)
theorem dX9_at_1 : decode cX9_at 1 = .ok (.iload_n 1, 1) := dk_27 (dk_at dksX9_at_0 1 rfl rfl)
theorem dX9_at_2 : decode cX9_at 2 = .ok (.putfield 7, 3) := dk_181 0 7 (dk_at dksX9_at_0 2 rfl rfl)
theorem dX9_at_5 : decode cX9_at 5 = .ok (.aload_n 0, 1) := dk_42 (dk_at dksX9_at_0 5 rfl rfl)
theorem dX9_at_6 : decode cX9_at 6 = .ok (.areturn, 1) := dk_176 (dk_at dksX9_at_0 6 rfl rfl)
theorem q112 : (Jvm.Cond.initialized "IntentVats$Fault") ∈ lw_all := lw_g (lw_at lw_m1 13 rfl) rfl
theorem q278 : (Jvm.Cond.instantiable "IntentVats$Fault" (7 : Nat)) ∈ lw_all := lw_g (lw_at lw_m1 179 rfl) rfl
theorem q279 : (Jvm.Cond.castable "IntentVats$Fault" "IntentVats$Fault") ∈ lw_tbl := lw_at lw_m1 180 rfl
theorem q286 : (Jvm.Cond.selects "IntentVats$Fault" ({ cls := "java/lang/Throwable", name := "fillInStackTrace", desc := "(I)Ljava/lang/Throwable;" } : Jvm.MethodName) ({ cls := "java/lang/Throwable", name := "fillInStackTrace", desc := "(I)Ljava/lang/Throwable;" } : Jvm.MethodName)) ∈ lw_all := lw_g (lw_at lw_m1 187 rfl) rfl
theorem q287 : (Jvm.Cond.selects "IntentVats$Fault" ({ cls := "java/lang/Throwable", name := "fillInStackTrace", desc := "()Ljava/lang/Throwable;" } : Jvm.MethodName) ({ cls := "java/lang/Throwable", name := "fillInStackTrace", desc := "()Ljava/lang/Throwable;" } : Jvm.MethodName)) ∈ lw_all := lw_g (lw_at lw_m1 188 rfl) rfl
theorem q288 : (Jvm.Cond.lays "IntentVats$Fault" "java/lang/Throwable" "cause" "Ljava/lang/Throwable;") ∈ lw_all := lw_g (lw_at lw_m1 189 rfl) rfl
theorem q290 : (Jvm.Cond.lays "IntentVats$Fault" "java/lang/Throwable" "stackTrace" "[Ljava/lang/StackTraceElement;") ∈ lw_all := lw_g (lw_at lw_m1 191 rfl) rfl
theorem q292 : (Jvm.Cond.lays "IntentVats$Fault" "java/lang/Throwable" "suppressedExceptions" "Ljava/util/List;") ∈ lw_all := lw_g (lw_at lw_m1 193 rfl) rfl
theorem q294 : (Jvm.Cond.lays "IntentVats$Fault" "java/lang/Throwable" "detailMessage" "Ljava/lang/String;") ∈ lw_all := lw_g (lw_at lw_m1 195 rfl) rfl
theorem q296 : (Jvm.Cond.lays "IntentVats$Fault" "java/lang/Throwable" "backtrace" "Ljava/lang/Object;") ∈ lw_all := lw_g (lw_at lw_m1 197 rfl) rfl
theorem q322 : (Jvm.Cond.instanceMethod ({ cls := "IntentVats$Fault", name := "<init>", desc := "()V" } : Jvm.MethodName)) ∈ lw_all := lw_g (lw_at lw_m1 223 rfl) rfl
theorem q323 : (Jvm.Cond.code ({ cls := "IntentVats$Fault", name := "<init>", desc := "()V" } : Jvm.MethodName) prog_5_method_1_code (1 : Nat) (Option.none : Option Jvm.ClassFile.FieldType)) ∈ lw_all := lw_g (lw_at lw_m1 224 rfl) rfl
theorem q324 : (Jvm.Cond.methodLink "IntentVats$Fault" (1 : Nat) ({ cls := "java/lang/RuntimeException", name := "<init>", desc := "(Ljava/lang/String;Ljava/lang/Throwable;ZZ)V" } : Jvm.MethodName)) ∈ lw_all := lw_g (lw_at lw_m1 225 rfl) rfl
theorem q333 : (Jvm.Cond.fieldLink "IntentVats$Fault" (7 : Nat) "IntentVats$Fault" "place" "I") ∈ lw_all := lw_g (lw_at lw_m1 234 rfl) rfl
theorem q340 : (Jvm.Cond.lays "IntentVats$Fault" "IntentVats$Fault" "place" "I") ∈ lw_all := lw_g (lw_at lw_m2 1 rfl) rfl
theorem q341 : (Jvm.Cond.soleField "IntentVats$Fault" "place") ∈ lw_all := lw_g (lw_at lw_m2 2 rfl) rfl
theorem q346 : (Jvm.Cond.lays "IntentVats$Fault" "java/lang/Throwable" "depth" "I") ∈ lw_all := lw_g (lw_at lw_m2 7 rfl) rfl
theorem q349 : (Jvm.Cond.superclass "IntentVats$Fault" "java/lang/RuntimeException") ∈ lw_all := lw_g (lw_at lw_m2 10 rfl) rfl
theorem q617 : (Jvm.Cond.instanceMethod ({ cls := "IntentVats$Fault", name := "at", desc := "(I)LIntentVats$Fault;" } : Jvm.MethodName)) ∈ lw_all := lw_g (lw_at lw_m3 38 rfl) rfl
theorem q618 : (Jvm.Cond.selects "IntentVats$Fault" ({ cls := "IntentVats$Fault", name := "at", desc := "(I)LIntentVats$Fault;" } : Jvm.MethodName) ({ cls := "IntentVats$Fault", name := "at", desc := "(I)LIntentVats$Fault;" } : Jvm.MethodName)) ∈ lw_all := lw_g (lw_at lw_m3 39 rfl) rfl
theorem q619 : (Jvm.Cond.code ({ cls := "IntentVats$Fault", name := "at", desc := "(I)LIntentVats$Fault;" } : Jvm.MethodName) prog_5_method_2_code (2 : Nat) (Option.some (Jvm.ClassFile.FieldType.object "IntentVats$Fault"))) ∈ lw_all := lw_g (lw_at lw_m3 40 rfl) rfl
theorem in_X9 : ∀ w ∈ wsX90, w ∈ lw_all := lw_in wsX90 [288, 290, 292, 294, 296, 346, 340] (by decide +kernel) (by decide +kernel)
/-! IntentVats$Sheet -/
set_option maxRecDepth 100000
def RX10 : String := "IntentVats$Sheet"
def TX10 : u_T := fun k => match k with
  | 0 => ("IntentVats$Sheet", "bytes", "[B", false)
  | 1 => ("IntentVats$Sheet", "shorts", "[S", false)
  | 2 => ("IntentVats$Sheet", "ints", "[I", false)
  | 3 => ("IntentVats$Sheet", "longs", "[J", false)
  | _ => ("IntentVats$Sheet", "sort", "I", false)
def tyX10 : Nat → FieldType := fun k => match k with
  | 0 => .array .byte
  | 1 => .array .short
  | 2 => .array .int
  | 3 => .array .long
  | _ => .int
abbrev wsX100 : List Cond := u_ws RX10 TX10 5
theorem nmX10 : ∀ a, a < 5 → ∀ b, b < 5 → a ≠ b → (TX10 a).2.1 ≠ (TX10 b).2.1 := by decide +kernel
theorem tyX10_ok : ∀ k, k < 5 → parseFieldDescriptor (TX10 k).2.2.1 = some (tyX10 k) := by decide +kernel
abbrev cX10_init : ByteArray := prog_20_method_1_code
def yX10_init : MethodName := ⟨RX10, "<init>", "()V"⟩
def dkwX10_init_0 : List UInt8 := [42, 183, 0, 1, 42, 2, 181, 0, 7, 177]
abbrev dktX10_init_0 : List UInt8 := dkwX10_init_0 ++ []
theorem dksX10_init_0 : cX10_init.data.toList.drop 0 = dktX10_init_0 := by decide +kernel
theorem dX10_init_0 : decode cX10_init 0 = .ok (.aload_n 0, 1) := dk_42 (dk_at dksX10_init_0 0 rfl rfl)
theorem dX10_init_1 : decode cX10_init 1 = .ok (.invokespecial 1, 3) := dk_183 0 1 (dk_at dksX10_init_0 1 rfl rfl)
theorem dX10_init_4 : decode cX10_init 4 = .ok (.aload_n 0, 1) := dk_42 (dk_at dksX10_init_0 4 rfl rfl)
theorem dX10_init_5 : decode cX10_init 5 = .ok (.iconst (-1), 1) := dk_2 (dk_at dksX10_init_0 5 rfl rfl)
theorem dX10_init_6 : decode cX10_init 6 = .ok (.putfield 7, 3) := dk_181 0 7 (dk_at dksX10_init_0 6 rfl rfl)
theorem dX10_init_9 : decode cX10_init 9 = .ok (.return_, 1) := dk_177 (dk_at dksX10_init_0 9 rfl rfl)
abbrev cX10_row : ByteArray := prog_20_method_2_code
def yX10_row : MethodName := ⟨RX10, "row", "()Ljava/lang/Object;"⟩
def dkwX10_row_2 : List UInt8 := [42, 180, 0, 13, 176, 42, 180, 0, 17, 176, 42, 180, 0, 21, 176, 42, 180, 0, 25, 176, 1, 176]
abbrev dktX10_row_2 : List UInt8 := dkwX10_row_2 ++ []
def dkwX10_row_1 : List UInt8 := [170, 0, 0, 0, 0, 0, 0, 52, 0, 0, 0, 0, 0, 0, 0, 3, 0, 0, 0, 32, 0, 0, 0, 37, 0, 0, 0, 42, 0, 0, 0, 47]
abbrev dktX10_row_1 : List UInt8 := dkwX10_row_1 ++ dktX10_row_2
def dkwX10_row_0 : List UInt8 := [42, 180, 0, 7]
abbrev dktX10_row_0 : List UInt8 := dkwX10_row_0 ++ dktX10_row_1
theorem dksX10_row_0 : cX10_row.data.toList.drop 0 = dktX10_row_0 := by decide +kernel
theorem dksX10_row_1 : cX10_row.data.toList.drop 4 = dktX10_row_1 := dk_seg dksX10_row_0 4 rfl rfl
theorem dksX10_row_2 : cX10_row.data.toList.drop 36 = dktX10_row_2 := dk_seg dksX10_row_1 32 rfl rfl
theorem dX10_row_0 : decode cX10_row 0 = .ok (.aload_n 0, 1) := dk_42 (dk_at dksX10_row_0 0 rfl rfl)
theorem dX10_row_1 : decode cX10_row 1 = .ok (.getfield 7, 3) := dk_180 0 7 (dk_at dksX10_row_0 1 rfl rfl)
theorem dX10_row_4 : decode cX10_row 4 = .ok (.tableswitch 52 0 3 #[32, 37, 42, 47], 32) := by decide +kernel
theorem dX10_row_36 : decode cX10_row 36 = .ok (.aload_n 0, 1) := dk_42 (dk_at dksX10_row_2 0 rfl rfl)
theorem dX10_row_37 : decode cX10_row 37 = .ok (.getfield 13, 3) := dk_180 0 13 (dk_at dksX10_row_2 1 rfl rfl)
theorem dX10_row_40 : decode cX10_row 40 = .ok (.areturn, 1) := dk_176 (dk_at dksX10_row_2 4 rfl rfl)
theorem dX10_row_41 : decode cX10_row 41 = .ok (.aload_n 0, 1) := dk_42 (dk_at dksX10_row_2 5 rfl rfl)
theorem dX10_row_42 : decode cX10_row 42 = .ok (.getfield 17, 3) := dk_180 0 17 (dk_at dksX10_row_2 6 rfl rfl)
theorem dX10_row_45 : decode cX10_row 45 = .ok (.areturn, 1) := dk_176 (dk_at dksX10_row_2 9 rfl rfl)
theorem dX10_row_46 : decode cX10_row 46 = .ok (.aload_n 0, 1) := dk_42 (dk_at dksX10_row_2 10 rfl rfl)
theorem dX10_row_47 : decode cX10_row 47 = .ok (.getfield 21, 3) := dk_180 0 21 (dk_at dksX10_row_2 11 rfl rfl)
theorem dX10_row_50 : decode cX10_row 50 = .ok (.areturn, 1) := dk_176 (dk_at dksX10_row_2 14 rfl rfl)
theorem dX10_row_51 : decode cX10_row 51 = .ok (.aload_n 0, 1) := dk_42 (dk_at dksX10_row_2 15 rfl rfl)
theorem dX10_row_52 : decode cX10_row 52 = .ok (.getfield 25, 3) := dk_180 0 25 (dk_at dksX10_row_2 16 rfl rfl)
theorem dX10_row_55 : decode cX10_row 55 = .ok (.areturn, 1) := dk_176 (dk_at dksX10_row_2 19 rfl rfl)
theorem dX10_row_56 : decode cX10_row 56 = .ok (.aconst_null, 1) := dk_1 (dk_at dksX10_row_2 20 rfl rfl)
theorem dX10_row_57 : decode cX10_row 57 = .ok (.areturn, 1) := dk_176 (dk_at dksX10_row_2 21 rfl rfl)
abbrev cX10_becomes : ByteArray := prog_20_method_3_code
def yX10_becomes : MethodName := ⟨RX10, "becomes", "(II)V"⟩
def dkwX10_becomes_3 : List UInt8 := [181, 0, 21, 167, 0, 13, 42, 28, 188, 11, 181, 0, 25, 167, 0, 3, 42, 27, 181, 0, 7, 177]
abbrev dktX10_becomes_3 : List UInt8 := dkwX10_becomes_3 ++ []
def dkwX10_becomes_2 : List UInt8 := [42, 28, 188, 8, 181, 0, 13, 167, 0, 33, 42, 28, 188, 9, 181, 0, 17, 167, 0, 23, 42, 28, 188, 10]
abbrev dktX10_becomes_2 : List UInt8 := dkwX10_becomes_2 ++ dktX10_becomes_3
def dkwX10_becomes_1 : List UInt8 := [170, 0, 0, 0, 0, 0, 71, 0, 0, 0, 0, 0, 0, 0, 3, 0, 0, 0, 31, 0, 0, 0, 41, 0, 0, 0, 51, 0, 0, 0, 61]
abbrev dktX10_becomes_1 : List UInt8 := dkwX10_becomes_1 ++ dktX10_becomes_2
def dkwX10_becomes_0 : List UInt8 := [27]
abbrev dktX10_becomes_0 : List UInt8 := dkwX10_becomes_0 ++ dktX10_becomes_1
theorem dksX10_becomes_0 : cX10_becomes.data.toList.drop 0 = dktX10_becomes_0 := by decide +kernel
theorem dksX10_becomes_1 : cX10_becomes.data.toList.drop 1 = dktX10_becomes_1 := dk_seg dksX10_becomes_0 1 rfl rfl
theorem dksX10_becomes_2 : cX10_becomes.data.toList.drop 32 = dktX10_becomes_2 := dk_seg dksX10_becomes_1 31 rfl rfl
theorem dksX10_becomes_3 : cX10_becomes.data.toList.drop 56 = dktX10_becomes_3 := dk_seg dksX10_becomes_2 24 rfl rfl
theorem dX10_becomes_0 : decode cX10_becomes 0 = .ok (.iload_n 1, 1) := dk_27 (dk_at dksX10_becomes_0 0 rfl rfl)
theorem dX10_becomes_1 : decode cX10_becomes 1 = .ok (.tableswitch 71 0 3 #[31, 41, 51, 61], 31) := by decide +kernel
theorem dX10_becomes_32 : decode cX10_becomes 32 = .ok (.aload_n 0, 1) := dk_42 (dk_at dksX10_becomes_2 0 rfl rfl)
theorem dX10_becomes_33 : decode cX10_becomes 33 = .ok (.iload_n 2, 1) := dk_28 (dk_at dksX10_becomes_2 1 rfl rfl)
theorem dX10_becomes_34 : decode cX10_becomes 34 = .ok (.newarray .byte, 2) := dk_188_8 (dk_at dksX10_becomes_2 2 rfl rfl)
theorem dX10_becomes_36 : decode cX10_becomes 36 = .ok (.putfield 13, 3) := dk_181 0 13 (dk_at dksX10_becomes_2 4 rfl rfl)
theorem dX10_becomes_39 : decode cX10_becomes 39 = .ok (.goto 33, 3) := dk_167 0 33 (dk_at dksX10_becomes_2 7 rfl rfl)
theorem dX10_becomes_42 : decode cX10_becomes 42 = .ok (.aload_n 0, 1) := dk_42 (dk_at dksX10_becomes_2 10 rfl rfl)
theorem dX10_becomes_43 : decode cX10_becomes 43 = .ok (.iload_n 2, 1) := dk_28 (dk_at dksX10_becomes_2 11 rfl rfl)
theorem dX10_becomes_44 : decode cX10_becomes 44 = .ok (.newarray .short, 2) := dk_188_9 (dk_at dksX10_becomes_2 12 rfl rfl)
theorem dX10_becomes_46 : decode cX10_becomes 46 = .ok (.putfield 17, 3) := dk_181 0 17 (dk_at dksX10_becomes_2 14 rfl rfl)
theorem dX10_becomes_49 : decode cX10_becomes 49 = .ok (.goto 23, 3) := dk_167 0 23 (dk_at dksX10_becomes_2 17 rfl rfl)
theorem dX10_becomes_52 : decode cX10_becomes 52 = .ok (.aload_n 0, 1) := dk_42 (dk_at dksX10_becomes_2 20 rfl rfl)
theorem dX10_becomes_53 : decode cX10_becomes 53 = .ok (.iload_n 2, 1) := dk_28 (dk_at dksX10_becomes_2 21 rfl rfl)
theorem dX10_becomes_54 : decode cX10_becomes 54 = .ok (.newarray .int, 2) := dk_188_10 (dk_at dksX10_becomes_2 22 rfl rfl)
theorem dX10_becomes_56 : decode cX10_becomes 56 = .ok (.putfield 21, 3) := dk_181 0 21 (dk_at dksX10_becomes_3 0 rfl rfl)
theorem dX10_becomes_59 : decode cX10_becomes 59 = .ok (.goto 13, 3) := dk_167 0 13 (dk_at dksX10_becomes_3 3 rfl rfl)
theorem dX10_becomes_62 : decode cX10_becomes 62 = .ok (.aload_n 0, 1) := dk_42 (dk_at dksX10_becomes_3 6 rfl rfl)
theorem dX10_becomes_63 : decode cX10_becomes 63 = .ok (.iload_n 2, 1) := dk_28 (dk_at dksX10_becomes_3 7 rfl rfl)
theorem dX10_becomes_64 : decode cX10_becomes 64 = .ok (.newarray .long, 2) := dk_188_11 (dk_at dksX10_becomes_3 8 rfl rfl)
theorem dX10_becomes_66 : decode cX10_becomes 66 = .ok (.putfield 25, 3) := dk_181 0 25 (dk_at dksX10_becomes_3 10 rfl rfl)
theorem dX10_becomes_69 : decode cX10_becomes 69 = .ok (.goto 3, 3) := dk_167 0 3 (dk_at dksX10_becomes_3 13 rfl rfl)
theorem dX10_becomes_72 : decode cX10_becomes 72 = .ok (.aload_n 0, 1) := dk_42 (dk_at dksX10_becomes_3 16 rfl rfl)
theorem dX10_becomes_73 : decode cX10_becomes 73 = .ok (.iload_n 1, 1) := dk_27 (dk_at dksX10_becomes_3 17 rfl rfl)
theorem dX10_becomes_74 : decode cX10_becomes 74 = .ok (.putfield 7, 3) := dk_181 0 7 (dk_at dksX10_becomes_3 18 rfl rfl)
theorem dX10_becomes_77 : decode cX10_becomes 77 = .ok (.return_, 1) := dk_177 (dk_at dksX10_becomes_3 21 rfl rfl)
theorem q113 : (Jvm.Cond.initialized "IntentVats$Sheet") ∈ lw_all := lw_g (lw_at lw_m1 14 rfl) rfl
theorem q380 : (Jvm.Cond.instantiable "IntentVats$Sheet" (5 : Nat)) ∈ lw_all := lw_g (lw_at lw_m2 41 rfl) rfl
theorem q382 : (Jvm.Cond.instanceMethod ({ cls := "IntentVats$Sheet", name := "<init>", desc := "()V" } : Jvm.MethodName)) ∈ lw_all := lw_g (lw_at lw_m2 43 rfl) rfl
theorem q383 : (Jvm.Cond.code ({ cls := "IntentVats$Sheet", name := "<init>", desc := "()V" } : Jvm.MethodName) prog_20_method_1_code (1 : Nat) (Option.none : Option Jvm.ClassFile.FieldType)) ∈ lw_all := lw_g (lw_at lw_m2 44 rfl) rfl
theorem q384 : (Jvm.Cond.methodLink "IntentVats$Sheet" (1 : Nat) ({ cls := "java/lang/Object", name := "<init>", desc := "()V" } : Jvm.MethodName)) ∈ lw_all := lw_g (lw_at lw_m2 45 rfl) rfl
theorem q385 : (Jvm.Cond.fieldLink "IntentVats$Sheet" (13 : Nat) "IntentVats$Sheet" "bytes" "[B") ∈ lw_all := lw_g (lw_at lw_m2 46 rfl) rfl
theorem q386 : (Jvm.Cond.fieldLink "IntentVats$Sheet" (17 : Nat) "IntentVats$Sheet" "shorts" "[S") ∈ lw_all := lw_g (lw_at lw_m2 47 rfl) rfl
theorem q387 : (Jvm.Cond.fieldLink "IntentVats$Sheet" (21 : Nat) "IntentVats$Sheet" "ints" "[I") ∈ lw_all := lw_g (lw_at lw_m2 48 rfl) rfl
theorem q388 : (Jvm.Cond.fieldLink "IntentVats$Sheet" (25 : Nat) "IntentVats$Sheet" "longs" "[J") ∈ lw_all := lw_g (lw_at lw_m2 49 rfl) rfl
theorem q389 : (Jvm.Cond.fieldLink "IntentVats$Sheet" (7 : Nat) "IntentVats$Sheet" "sort" "I") ∈ lw_all := lw_g (lw_at lw_m2 50 rfl) rfl
theorem q390 : (Jvm.Cond.lays "IntentVats$Sheet" "IntentVats$Sheet" "bytes" "[B") ∈ lw_all := lw_g (lw_at lw_m2 51 rfl) rfl
theorem q391 : (Jvm.Cond.soleField "IntentVats$Sheet" "bytes") ∈ lw_all := lw_g (lw_at lw_m2 52 rfl) rfl
theorem q392 : (Jvm.Cond.lays "IntentVats$Sheet" "IntentVats$Sheet" "shorts" "[S") ∈ lw_all := lw_g (lw_at lw_m2 53 rfl) rfl
theorem q393 : (Jvm.Cond.soleField "IntentVats$Sheet" "shorts") ∈ lw_all := lw_g (lw_at lw_m2 54 rfl) rfl
theorem q394 : (Jvm.Cond.lays "IntentVats$Sheet" "IntentVats$Sheet" "ints" "[I") ∈ lw_all := lw_g (lw_at lw_m2 55 rfl) rfl
theorem q395 : (Jvm.Cond.soleField "IntentVats$Sheet" "ints") ∈ lw_all := lw_g (lw_at lw_m2 56 rfl) rfl
theorem q396 : (Jvm.Cond.lays "IntentVats$Sheet" "IntentVats$Sheet" "longs" "[J") ∈ lw_all := lw_g (lw_at lw_m2 57 rfl) rfl
theorem q397 : (Jvm.Cond.soleField "IntentVats$Sheet" "longs") ∈ lw_all := lw_g (lw_at lw_m2 58 rfl) rfl
theorem q398 : (Jvm.Cond.lays "IntentVats$Sheet" "IntentVats$Sheet" "sort" "I") ∈ lw_all := lw_g (lw_at lw_m2 59 rfl) rfl
theorem q399 : (Jvm.Cond.soleField "IntentVats$Sheet" "sort") ∈ lw_all := lw_g (lw_at lw_m2 60 rfl) rfl
theorem q400 : (Jvm.Cond.superclass "IntentVats$Sheet" "java/lang/Object") ∈ lw_all := lw_g (lw_at lw_m2 61 rfl) rfl
theorem q970 : (Jvm.Cond.instanceMethod ({ cls := "IntentVats$Sheet", name := "row", desc := "()Ljava/lang/Object;" } : Jvm.MethodName)) ∈ lw_all := lw_g (lw_at lw_m4 151 rfl) rfl
theorem q971 : (Jvm.Cond.selects "IntentVats$Sheet" ({ cls := "IntentVats$Sheet", name := "row", desc := "()Ljava/lang/Object;" } : Jvm.MethodName) ({ cls := "IntentVats$Sheet", name := "row", desc := "()Ljava/lang/Object;" } : Jvm.MethodName)) ∈ lw_all := lw_g (lw_at lw_m4 152 rfl) rfl
theorem q972 : (Jvm.Cond.code ({ cls := "IntentVats$Sheet", name := "row", desc := "()Ljava/lang/Object;" } : Jvm.MethodName) prog_20_method_2_code (1 : Nat) (Option.some (Jvm.ClassFile.FieldType.object "java/lang/Object"))) ∈ lw_all := lw_g (lw_at lw_m4 153 rfl) rfl
theorem q1119 : (Jvm.Cond.instanceMethod ({ cls := "IntentVats$Sheet", name := "becomes", desc := "(II)V" } : Jvm.MethodName)) ∈ lw_all := lw_g (lw_at lw_m5 60 rfl) rfl
theorem q1120 : (Jvm.Cond.selects "IntentVats$Sheet" ({ cls := "IntentVats$Sheet", name := "becomes", desc := "(II)V" } : Jvm.MethodName) ({ cls := "IntentVats$Sheet", name := "becomes", desc := "(II)V" } : Jvm.MethodName)) ∈ lw_all := lw_g (lw_at lw_m5 61 rfl) rfl
theorem q1121 : (Jvm.Cond.code ({ cls := "IntentVats$Sheet", name := "becomes", desc := "(II)V" } : Jvm.MethodName) prog_20_method_3_code (3 : Nat) (Option.none : Option Jvm.ClassFile.FieldType)) ∈ lw_all := lw_g (lw_at lw_m5 62 rfl) rfl
theorem in_X10 : ∀ w ∈ wsX100, w ∈ lw_all := lw_in wsX100 [390, 392, 394, 396, 398] (by decide +kernel) (by decide +kernel)
/-! IntentVats$Beyond -/
set_option maxRecDepth 100000
def RX11 : String := "IntentVats$Beyond"
def TX11 : u_T := fun k => match k with
  | 0 => ("java/lang/Throwable", "cause", "Ljava/lang/Throwable;", false)
  | 1 => ("java/lang/Throwable", "stackTrace", "[Ljava/lang/StackTraceElement;", false)
  | 2 => ("java/lang/Throwable", "suppressedExceptions", "Ljava/util/List;", false)
  | 3 => ("java/lang/Throwable", "detailMessage", "Ljava/lang/String;", false)
  | 4 => ("java/lang/Throwable", "backtrace", "Ljava/lang/Object;", false)
  | _ => ("java/lang/Throwable", "depth", "I", false)
def tyX11 : Nat → FieldType := fun k => match k with
  | 0 => .object "java/lang/Throwable"
  | 1 => .array (.object "java/lang/StackTraceElement")
  | 2 => .object "java/util/List"
  | 3 => .object "java/lang/String"
  | 4 => .object "java/lang/Object"
  | _ => .int
abbrev wsX110 : List Cond := u_ws RX11 TX11 6
theorem nmX11 : ∀ a, a < 6 → ∀ b, b < 6 → a ≠ b → (TX11 a).2.1 ≠ (TX11 b).2.1 := by decide +kernel
theorem tyX11_ok : ∀ k, k < 6 → parseFieldDescriptor (TX11 k).2.2.1 = some (tyX11 k) := by decide +kernel
abbrev cX11_init : ByteArray := prog_3_method_1_code
def yX11_init : MethodName := ⟨RX11, "<init>", "()V"⟩
def dkwX11_init_0 : List UInt8 := [42, 1, 1, 3, 3, 183, 0, 1, 177]
abbrev dktX11_init_0 : List UInt8 := dkwX11_init_0 ++ []
theorem dksX11_init_0 : cX11_init.data.toList.drop 0 = dktX11_init_0 := by decide +kernel
theorem dX11_init_0 : decode cX11_init 0 = .ok (.aload_n 0, 1) := dk_42 (dk_at dksX11_init_0 0 rfl rfl)
theorem dX11_init_1 : decode cX11_init 1 = .ok (.aconst_null, 1) := dk_1 (dk_at dksX11_init_0 1 rfl rfl)
theorem dX11_init_2 : decode cX11_init 2 = .ok (.aconst_null, 1) := dk_1 (dk_at dksX11_init_0 2 rfl rfl)
theorem dX11_init_3 : decode cX11_init 3 = .ok (.iconst 0, 1) := dk_3 (dk_at dksX11_init_0 3 rfl rfl)
theorem dX11_init_4 : decode cX11_init 4 = .ok (.iconst 0, 1) := dk_3 (dk_at dksX11_init_0 4 rfl rfl)
theorem dX11_init_5 : decode cX11_init 5 = .ok (.invokespecial 1, 3) := dk_183 0 1 (dk_at dksX11_init_0 5 rfl rfl)
theorem dX11_init_8 : decode cX11_init 8 = .ok (.return_, 1) := dk_177 (dk_at dksX11_init_0 8 rfl rfl)
theorem q114 : (Jvm.Cond.initialized "IntentVats$Beyond") ∈ lw_all := lw_g (lw_at lw_m1 15 rfl) rfl
theorem q310 : (Jvm.Cond.selects "IntentVats$Beyond" ({ cls := "java/lang/Throwable", name := "fillInStackTrace", desc := "()Ljava/lang/Throwable;" } : Jvm.MethodName) ({ cls := "java/lang/Throwable", name := "fillInStackTrace", desc := "()Ljava/lang/Throwable;" } : Jvm.MethodName)) ∈ lw_all := lw_g (lw_at lw_m1 211 rfl) rfl
theorem q402 : (Jvm.Cond.instantiable "IntentVats$Beyond" (6 : Nat)) ∈ lw_all := lw_g (lw_at lw_m2 63 rfl) rfl
theorem q403 : (Jvm.Cond.castable "IntentVats$Beyond" "IntentVats$Beyond") ∈ lw_tbl := lw_at lw_m2 64 rfl
theorem q404 : (Jvm.Cond.selects "IntentVats$Beyond" ({ cls := "java/lang/Throwable", name := "fillInStackTrace", desc := "(I)Ljava/lang/Throwable;" } : Jvm.MethodName) ({ cls := "java/lang/Throwable", name := "fillInStackTrace", desc := "(I)Ljava/lang/Throwable;" } : Jvm.MethodName)) ∈ lw_all := lw_g (lw_at lw_m2 65 rfl) rfl
theorem q405 : (Jvm.Cond.lays "IntentVats$Beyond" "java/lang/Throwable" "cause" "Ljava/lang/Throwable;") ∈ lw_all := lw_g (lw_at lw_m2 66 rfl) rfl
theorem q406 : (Jvm.Cond.lays "IntentVats$Beyond" "java/lang/Throwable" "stackTrace" "[Ljava/lang/StackTraceElement;") ∈ lw_all := lw_g (lw_at lw_m2 67 rfl) rfl
theorem q407 : (Jvm.Cond.lays "IntentVats$Beyond" "java/lang/Throwable" "suppressedExceptions" "Ljava/util/List;") ∈ lw_all := lw_g (lw_at lw_m2 68 rfl) rfl
theorem q408 : (Jvm.Cond.lays "IntentVats$Beyond" "java/lang/Throwable" "detailMessage" "Ljava/lang/String;") ∈ lw_all := lw_g (lw_at lw_m2 69 rfl) rfl
theorem q409 : (Jvm.Cond.lays "IntentVats$Beyond" "java/lang/Throwable" "backtrace" "Ljava/lang/Object;") ∈ lw_all := lw_g (lw_at lw_m2 70 rfl) rfl
theorem q411 : (Jvm.Cond.instanceMethod ({ cls := "IntentVats$Beyond", name := "<init>", desc := "()V" } : Jvm.MethodName)) ∈ lw_all := lw_g (lw_at lw_m2 72 rfl) rfl
theorem q412 : (Jvm.Cond.code ({ cls := "IntentVats$Beyond", name := "<init>", desc := "()V" } : Jvm.MethodName) prog_3_method_1_code (1 : Nat) (Option.none : Option Jvm.ClassFile.FieldType)) ∈ lw_all := lw_g (lw_at lw_m2 73 rfl) rfl
theorem q413 : (Jvm.Cond.methodLink "IntentVats$Beyond" (1 : Nat) ({ cls := "java/lang/RuntimeException", name := "<init>", desc := "(Ljava/lang/String;Ljava/lang/Throwable;ZZ)V" } : Jvm.MethodName)) ∈ lw_all := lw_g (lw_at lw_m2 74 rfl) rfl
theorem q414 : (Jvm.Cond.lays "IntentVats$Beyond" "java/lang/Throwable" "depth" "I") ∈ lw_all := lw_g (lw_at lw_m2 75 rfl) rfl
theorem q415 : (Jvm.Cond.superclass "IntentVats$Beyond" "java/lang/RuntimeException") ∈ lw_all := lw_g (lw_at lw_m2 76 rfl) rfl
theorem in_X11 : ∀ w ∈ wsX110, w ∈ lw_all := lw_in wsX110 [405, 406, 407, 408, 409, 414] (by decide +kernel) (by decide +kernel)
/-! IntentVats$Nothing -/
set_option maxRecDepth 100000
def RX12 : String := "IntentVats$Nothing"
def TX12 : u_T := fun k => match k with
  | 0 => ("java/lang/Throwable", "cause", "Ljava/lang/Throwable;", false)
  | 1 => ("java/lang/Throwable", "stackTrace", "[Ljava/lang/StackTraceElement;", false)
  | 2 => ("java/lang/Throwable", "suppressedExceptions", "Ljava/util/List;", false)
  | 3 => ("java/lang/Throwable", "detailMessage", "Ljava/lang/String;", false)
  | 4 => ("java/lang/Throwable", "backtrace", "Ljava/lang/Object;", false)
  | _ => ("java/lang/Throwable", "depth", "I", false)
def tyX12 : Nat → FieldType := fun k => match k with
  | 0 => .object "java/lang/Throwable"
  | 1 => .array (.object "java/lang/StackTraceElement")
  | 2 => .object "java/util/List"
  | 3 => .object "java/lang/String"
  | 4 => .object "java/lang/Object"
  | _ => .int
abbrev wsX120 : List Cond := u_ws RX12 TX12 6
theorem nmX12 : ∀ a, a < 6 → ∀ b, b < 6 → a ≠ b → (TX12 a).2.1 ≠ (TX12 b).2.1 := by decide +kernel
theorem tyX12_ok : ∀ k, k < 6 → parseFieldDescriptor (TX12 k).2.2.1 = some (tyX12 k) := by decide +kernel
abbrev cX12_init : ByteArray := prog_14_method_1_code
def yX12_init : MethodName := ⟨RX12, "<init>", "()V"⟩
def dkwX12_init_0 : List UInt8 := [42, 1, 1, 3, 3, 183, 0, 1, 177]
abbrev dktX12_init_0 : List UInt8 := dkwX12_init_0 ++ []
theorem dksX12_init_0 : cX12_init.data.toList.drop 0 = dktX12_init_0 := by decide +kernel
theorem dX12_init_0 : decode cX12_init 0 = .ok (.aload_n 0, 1) := dk_42 (dk_at dksX12_init_0 0 rfl rfl)
theorem dX12_init_1 : decode cX12_init 1 = .ok (.aconst_null, 1) := dk_1 (dk_at dksX12_init_0 1 rfl rfl)
theorem dX12_init_2 : decode cX12_init 2 = .ok (.aconst_null, 1) := dk_1 (dk_at dksX12_init_0 2 rfl rfl)
theorem dX12_init_3 : decode cX12_init 3 = .ok (.iconst 0, 1) := dk_3 (dk_at dksX12_init_0 3 rfl rfl)
theorem dX12_init_4 : decode cX12_init 4 = .ok (.iconst 0, 1) := dk_3 (dk_at dksX12_init_0 4 rfl rfl)
theorem dX12_init_5 : decode cX12_init 5 = .ok (.invokespecial 1, 3) := dk_183 0 1 (dk_at dksX12_init_0 5 rfl rfl)
theorem dX12_init_8 : decode cX12_init 8 = .ok (.return_, 1) := dk_177 (dk_at dksX12_init_0 8 rfl rfl)
theorem q115 : (Jvm.Cond.initialized "IntentVats$Nothing") ∈ lw_all := lw_g (lw_at lw_m1 16 rfl) rfl
theorem q311 : (Jvm.Cond.selects "IntentVats$Nothing" ({ cls := "java/lang/Throwable", name := "fillInStackTrace", desc := "()Ljava/lang/Throwable;" } : Jvm.MethodName) ({ cls := "java/lang/Throwable", name := "fillInStackTrace", desc := "()Ljava/lang/Throwable;" } : Jvm.MethodName)) ∈ lw_all := lw_g (lw_at lw_m1 212 rfl) rfl
theorem q417 : (Jvm.Cond.instantiable "IntentVats$Nothing" (6 : Nat)) ∈ lw_all := lw_g (lw_at lw_m2 78 rfl) rfl
theorem q418 : (Jvm.Cond.castable "IntentVats$Nothing" "IntentVats$Nothing") ∈ lw_tbl := lw_at lw_m2 79 rfl
theorem q419 : (Jvm.Cond.selects "IntentVats$Nothing" ({ cls := "java/lang/Throwable", name := "fillInStackTrace", desc := "(I)Ljava/lang/Throwable;" } : Jvm.MethodName) ({ cls := "java/lang/Throwable", name := "fillInStackTrace", desc := "(I)Ljava/lang/Throwable;" } : Jvm.MethodName)) ∈ lw_all := lw_g (lw_at lw_m2 80 rfl) rfl
theorem q420 : (Jvm.Cond.lays "IntentVats$Nothing" "java/lang/Throwable" "cause" "Ljava/lang/Throwable;") ∈ lw_all := lw_g (lw_at lw_m2 81 rfl) rfl
theorem q421 : (Jvm.Cond.lays "IntentVats$Nothing" "java/lang/Throwable" "stackTrace" "[Ljava/lang/StackTraceElement;") ∈ lw_all := lw_g (lw_at lw_m2 82 rfl) rfl
theorem q422 : (Jvm.Cond.lays "IntentVats$Nothing" "java/lang/Throwable" "suppressedExceptions" "Ljava/util/List;") ∈ lw_all := lw_g (lw_at lw_m2 83 rfl) rfl
theorem q423 : (Jvm.Cond.lays "IntentVats$Nothing" "java/lang/Throwable" "detailMessage" "Ljava/lang/String;") ∈ lw_all := lw_g (lw_at lw_m2 84 rfl) rfl
theorem q424 : (Jvm.Cond.lays "IntentVats$Nothing" "java/lang/Throwable" "backtrace" "Ljava/lang/Object;") ∈ lw_all := lw_g (lw_at lw_m2 85 rfl) rfl
theorem q426 : (Jvm.Cond.instanceMethod ({ cls := "IntentVats$Nothing", name := "<init>", desc := "()V" } : Jvm.MethodName)) ∈ lw_all := lw_g (lw_at lw_m2 87 rfl) rfl
theorem q427 : (Jvm.Cond.code ({ cls := "IntentVats$Nothing", name := "<init>", desc := "()V" } : Jvm.MethodName) prog_14_method_1_code (1 : Nat) (Option.none : Option Jvm.ClassFile.FieldType)) ∈ lw_all := lw_g (lw_at lw_m2 88 rfl) rfl
theorem q428 : (Jvm.Cond.methodLink "IntentVats$Nothing" (1 : Nat) ({ cls := "java/lang/RuntimeException", name := "<init>", desc := "(Ljava/lang/String;Ljava/lang/Throwable;ZZ)V" } : Jvm.MethodName)) ∈ lw_all := lw_g (lw_at lw_m2 89 rfl) rfl
theorem q429 : (Jvm.Cond.lays "IntentVats$Nothing" "java/lang/Throwable" "depth" "I") ∈ lw_all := lw_g (lw_at lw_m2 90 rfl) rfl
theorem q430 : (Jvm.Cond.superclass "IntentVats$Nothing" "java/lang/RuntimeException") ∈ lw_all := lw_g (lw_at lw_m2 91 rfl) rfl
theorem in_X12 : ∀ w ∈ wsX120, w ∈ lw_all := lw_in wsX120 [420, 421, 422, 423, 424, 429] (by decide +kernel) (by decide +kernel)
/-! IntentVats$Shelf -/
set_option maxRecDepth 100000
def RX13 : String := "IntentVats$Shelf"
def TX13 : u_T := fun k => match k with
  | 0 => ("IntentVats$Shelf", "what", "I", false)
  | 1 => ("IntentVats$Shelf", "number", "I", false)
  | _ => ("IntentVats$Shelf", "row", "Ljava/lang/Object;", false)
def tyX13 : Nat → FieldType := fun k => match k with
  | 0 => .int
  | 1 => .int
  | _ => .object "java/lang/Object"
abbrev wsX130 : List Cond := u_ws RX13 TX13 3
theorem nmX13 : ∀ a, a < 3 → ∀ b, b < 3 → a ≠ b → (TX13 a).2.1 ≠ (TX13 b).2.1 := by decide +kernel
theorem tyX13_ok : ∀ k, k < 3 → parseFieldDescriptor (TX13 k).2.2.1 = some (tyX13 k) := by decide +kernel
abbrev cX13_init : ByteArray := prog_21_method_1_code
def yX13_init : MethodName := ⟨RX13, "<init>", "()V"⟩
def dkwX13_init_0 : List UInt8 := [42, 183, 0, 1, 42, 5, 181, 0, 7, 177]
abbrev dktX13_init_0 : List UInt8 := dkwX13_init_0 ++ []
theorem dksX13_init_0 : cX13_init.data.toList.drop 0 = dktX13_init_0 := by decide +kernel
theorem dX13_init_0 : decode cX13_init 0 = .ok (.aload_n 0, 1) := dk_42 (dk_at dksX13_init_0 0 rfl rfl)
theorem dX13_init_1 : decode cX13_init 1 = .ok (.invokespecial 1, 3) := dk_183 0 1 (dk_at dksX13_init_0 1 rfl rfl)
theorem dX13_init_4 : decode cX13_init 4 = .ok (.aload_n 0, 1) := dk_42 (dk_at dksX13_init_0 4 rfl rfl)
theorem dX13_init_5 : decode cX13_init 5 = .ok (.iconst 2, 1) := dk_5 (dk_at dksX13_init_0 5 rfl rfl)
theorem dX13_init_6 : decode cX13_init 6 = .ok (.putfield 7, 3) := dk_181 0 7 (dk_at dksX13_init_0 6 rfl rfl)
theorem dX13_init_9 : decode cX13_init 9 = .ok (.return_, 1) := dk_177 (dk_at dksX13_init_0 9 rfl rfl)
theorem q116 : (Jvm.Cond.initialized "IntentVats$Shelf") ∈ lw_all := lw_g (lw_at lw_m1 17 rfl) rfl
theorem q433 : (Jvm.Cond.instantiable "IntentVats$Shelf" (3 : Nat)) ∈ lw_all := lw_g (lw_at lw_m2 94 rfl) rfl
theorem q435 : (Jvm.Cond.instanceMethod ({ cls := "IntentVats$Shelf", name := "<init>", desc := "()V" } : Jvm.MethodName)) ∈ lw_all := lw_g (lw_at lw_m2 96 rfl) rfl
theorem q436 : (Jvm.Cond.code ({ cls := "IntentVats$Shelf", name := "<init>", desc := "()V" } : Jvm.MethodName) prog_21_method_1_code (1 : Nat) (Option.none : Option Jvm.ClassFile.FieldType)) ∈ lw_all := lw_g (lw_at lw_m2 97 rfl) rfl
theorem q437 : (Jvm.Cond.methodLink "IntentVats$Shelf" (1 : Nat) ({ cls := "java/lang/Object", name := "<init>", desc := "()V" } : Jvm.MethodName)) ∈ lw_all := lw_g (lw_at lw_m2 98 rfl) rfl
theorem q438 : (Jvm.Cond.fieldLink "IntentVats$Shelf" (7 : Nat) "IntentVats$Shelf" "what" "I") ∈ lw_all := lw_g (lw_at lw_m2 99 rfl) rfl
theorem q442 : (Jvm.Cond.lays "IntentVats$Shelf" "IntentVats$Shelf" "what" "I") ∈ lw_all := lw_g (lw_at lw_m2 103 rfl) rfl
theorem q443 : (Jvm.Cond.soleField "IntentVats$Shelf" "what") ∈ lw_all := lw_g (lw_at lw_m2 104 rfl) rfl
theorem q444 : (Jvm.Cond.lays "IntentVats$Shelf" "IntentVats$Shelf" "number" "I") ∈ lw_all := lw_g (lw_at lw_m2 105 rfl) rfl
theorem q445 : (Jvm.Cond.soleField "IntentVats$Shelf" "number") ∈ lw_all := lw_g (lw_at lw_m2 106 rfl) rfl
theorem q446 : (Jvm.Cond.lays "IntentVats$Shelf" "IntentVats$Shelf" "row" "Ljava/lang/Object;") ∈ lw_all := lw_g (lw_at lw_m2 107 rfl) rfl
theorem q447 : (Jvm.Cond.soleField "IntentVats$Shelf" "row") ∈ lw_all := lw_g (lw_at lw_m2 108 rfl) rfl
theorem q448 : (Jvm.Cond.superclass "IntentVats$Shelf" "java/lang/Object") ∈ lw_all := lw_g (lw_at lw_m2 109 rfl) rfl
theorem in_X13 : ∀ w ∈ wsX130, w ∈ lw_all := lw_in wsX130 [442, 444, 446] (by decide +kernel) (by decide +kernel)
/-! IntentVats$Row -/
set_option maxRecDepth 100000
def RX15 : String := "IntentVats$Row"
def TX15 : u_T := fun k => match k with
  | _ => ("IntentVats$Row", "told", "[I", true)
def tyX15 : Nat → FieldType := fun k => match k with
  | _ => .array .int
abbrev wsX150 : List Cond := u_ws RX15 TX15 1
theorem nmX15 : ∀ a, a < 1 → ∀ b, b < 1 → a ≠ b → (TX15 a).2.1 ≠ (TX15 b).2.1 := by decide +kernel
theorem tyX15_ok : ∀ k, k < 1 → parseFieldDescriptor (TX15 k).2.2.1 = some (tyX15 k) := by decide +kernel
abbrev cX15_init : ByteArray := prog_18_method_1_code
def yX15_init : MethodName := ⟨RX15, "<init>", "()V"⟩
def dkwX15_init_0 : List UInt8 := [42, 183, 0, 1, 42, 6, 188, 10, 181, 0, 7, 177]
abbrev dktX15_init_0 : List UInt8 := dkwX15_init_0 ++ []
theorem dksX15_init_0 : cX15_init.data.toList.drop 0 = dktX15_init_0 := by decide +kernel
theorem dX15_init_0 : decode cX15_init 0 = .ok (.aload_n 0, 1) := dk_42 (dk_at dksX15_init_0 0 rfl rfl)
theorem dX15_init_1 : decode cX15_init 1 = .ok (.invokespecial 1, 3) := dk_183 0 1 (dk_at dksX15_init_0 1 rfl rfl)
theorem dX15_init_4 : decode cX15_init 4 = .ok (.aload_n 0, 1) := dk_42 (dk_at dksX15_init_0 4 rfl rfl)
theorem dX15_init_5 : decode cX15_init 5 = .ok (.iconst 3, 1) := dk_6 (dk_at dksX15_init_0 5 rfl rfl)
theorem dX15_init_6 : decode cX15_init 6 = .ok (.newarray .int, 2) := dk_188_10 (dk_at dksX15_init_0 6 rfl rfl)
theorem dX15_init_8 : decode cX15_init 8 = .ok (.putfield 7, 3) := dk_181 0 7 (dk_at dksX15_init_0 8 rfl rfl)
theorem dX15_init_11 : decode cX15_init 11 = .ok (.return_, 1) := dk_177 (dk_at dksX15_init_0 11 rfl rfl)
theorem q124 : (Jvm.Cond.initialized "IntentVats$Row") ∈ lw_all := lw_g (lw_at lw_m1 25 rfl) rfl
theorem q1040 : (Jvm.Cond.instantiable "IntentVats$Row" (1 : Nat)) ∈ lw_all := lw_g (lw_at lw_m4 221 rfl) rfl
theorem q1042 : (Jvm.Cond.instanceMethod ({ cls := "IntentVats$Row", name := "<init>", desc := "()V" } : Jvm.MethodName)) ∈ lw_all := lw_g (lw_at lw_m4 223 rfl) rfl
theorem q1043 : (Jvm.Cond.code ({ cls := "IntentVats$Row", name := "<init>", desc := "()V" } : Jvm.MethodName) prog_18_method_1_code (1 : Nat) (Option.none : Option Jvm.ClassFile.FieldType)) ∈ lw_all := lw_g (lw_at lw_m4 224 rfl) rfl
theorem q1044 : (Jvm.Cond.methodLink "IntentVats$Row" (1 : Nat) ({ cls := "java/lang/Object", name := "<init>", desc := "()V" } : Jvm.MethodName)) ∈ lw_all := lw_g (lw_at lw_m4 225 rfl) rfl
theorem q1045 : (Jvm.Cond.fieldLink "IntentVats$Row" (7 : Nat) "IntentVats$Row" "told" "[I") ∈ lw_all := lw_g (lw_at lw_m4 226 rfl) rfl
theorem q1047 : (Jvm.Cond.laysFinal "IntentVats$Row" "IntentVats$Row" "told" "[I") ∈ lw_all := lw_g (lw_at lw_m4 228 rfl) rfl
theorem q1048 : (Jvm.Cond.soleField "IntentVats$Row" "told") ∈ lw_all := lw_g (lw_at lw_m4 229 rfl) rfl
theorem q1049 : (Jvm.Cond.superclass "IntentVats$Row" "java/lang/Object") ∈ lw_all := lw_g (lw_at lw_m4 230 rfl) rfl
theorem in_X15 : ∀ w ∈ wsX150, w ∈ lw_all := lw_in wsX150 [1047] (by decide +kernel) (by decide +kernel)
/-! IntentVats$AnyOne -/
set_option maxRecDepth 100000
def RX16 : String := "IntentVats$AnyOne"
def TX16 : u_T := fun k => match k with
  | 0 => ("IntentVats$AnyOne", "number", "I", true)
  | 1 => ("IntentVats$AnyOne", "theme", "I", true)
  | _ => ("IntentVats$AnyOne", "this$0", "LIntentVats;", true)
def tyX16 : Nat → FieldType := fun k => match k with
  | 0 => .int
  | 1 => .int
  | _ => .object "IntentVats"
abbrev wsX160 : List Cond := u_ws RX16 TX16 3
theorem nmX16 : ∀ a, a < 3 → ∀ b, b < 3 → a ≠ b → (TX16 a).2.1 ≠ (TX16 b).2.1 := by decide +kernel
theorem tyX16_ok : ∀ k, k < 3 → parseFieldDescriptor (TX16 k).2.2.1 = some (tyX16 k) := by decide +kernel
abbrev cX16_init : ByteArray := prog_2_method_1_code
def yX16_init : MethodName := ⟨RX16, "<init>", "(LIntentVats;II)V"⟩
def dkwX16_init_0 : List UInt8 := [42, 43, 181, 0, 1, 42, 183, 0, 7, 42, 28, 181, 0, 13, 42, 29, 181, 0, 17, 177]
abbrev dktX16_init_0 : List UInt8 := dkwX16_init_0 ++ []
theorem dksX16_init_0 : cX16_init.data.toList.drop 0 = dktX16_init_0 := by decide +kernel
theorem dX16_init_0 : decode cX16_init 0 = .ok (.aload_n 0, 1) := dk_42 (dk_at dksX16_init_0 0 rfl rfl)
theorem dX16_init_1 : decode cX16_init 1 = .ok (.aload_n 1, 1) := dk_43 (dk_at dksX16_init_0 1 rfl rfl)
theorem dX16_init_2 : decode cX16_init 2 = .ok (.putfield 1, 3) := dk_181 0 1 (dk_at dksX16_init_0 2 rfl rfl)
theorem dX16_init_5 : decode cX16_init 5 = .ok (.aload_n 0, 1) := dk_42 (dk_at dksX16_init_0 5 rfl rfl)
theorem dX16_init_6 : decode cX16_init 6 = .ok (.invokespecial 7, 3) := dk_183 0 7 (dk_at dksX16_init_0 6 rfl rfl)
theorem dX16_init_9 : decode cX16_init 9 = .ok (.aload_n 0, 1) := dk_42 (dk_at dksX16_init_0 9 rfl rfl)
theorem dX16_init_10 : decode cX16_init 10 = .ok (.iload_n 2, 1) := dk_28 (dk_at dksX16_init_0 10 rfl rfl)
theorem dX16_init_11 : decode cX16_init 11 = .ok (.putfield 13, 3) := dk_181 0 13 (dk_at dksX16_init_0 11 rfl rfl)
theorem dX16_init_14 : decode cX16_init 14 = .ok (.aload_n 0, 1) := dk_42 (dk_at dksX16_init_0 14 rfl rfl)
theorem dX16_init_15 : decode cX16_init 15 = .ok (.iload_n 3, 1) := dk_29 (dk_at dksX16_init_0 15 rfl rfl)
theorem dX16_init_16 : decode cX16_init 16 = .ok (.putfield 17, 3) := dk_181 0 17 (dk_at dksX16_init_0 16 rfl rfl)
theorem dX16_init_19 : decode cX16_init 19 = .ok (.return_, 1) := dk_177 (dk_at dksX16_init_0 19 rfl rfl)
abbrev cX16_its : ByteArray := prog_2_method_2_code
def yX16_its : MethodName := ⟨RX16, "its", "()I"⟩
theorem dX16_its_0 : decode cX16_its 0 = .ok (.aload_n 0, 1) := by decide +kernel
theorem dX16_its_1 : decode cX16_its 1 = .ok (.getfield 13, 3) := by decide +kernel
theorem dX16_its_4 : decode cX16_its 4 = .ok (.ireturn, 1) := by decide +kernel
abbrev cX16_rubs : ByteArray := prog_2_method_4_code
def yX16_rubs : MethodName := ⟨RX16, "rubs", "(I)I"⟩
def dkwX16_rubs_0 : List UInt8 := [42, 180, 0, 1, 16, 10, 182, 0, 20, 27, 8, 104, 42, 180, 0, 13, 96, 172]
abbrev dktX16_rubs_0 : List UInt8 := dkwX16_rubs_0 ++ []
theorem dksX16_rubs_0 : cX16_rubs.data.toList.drop 0 = dktX16_rubs_0 := by decide +kernel
theorem dX16_rubs_0 : decode cX16_rubs 0 = .ok (.aload_n 0, 1) := dk_42 (dk_at dksX16_rubs_0 0 rfl rfl)
theorem dX16_rubs_1 : decode cX16_rubs 1 = .ok (.getfield 1, 3) := dk_180 0 1 (dk_at dksX16_rubs_0 1 rfl rfl)
theorem dX16_rubs_4 : decode cX16_rubs 4 = .ok (.bipush 10, 2) := dk_16 10 (dk_at dksX16_rubs_0 4 rfl rfl)
theorem dX16_rubs_6 : decode cX16_rubs 6 = .ok (.invokevirtual 20, 3) := dk_182 0 20 (dk_at dksX16_rubs_0 6 rfl rfl)
theorem dX16_rubs_9 : decode cX16_rubs 9 = .ok (.iload_n 1, 1) := dk_27 (dk_at dksX16_rubs_0 9 rfl rfl)
theorem dX16_rubs_10 : decode cX16_rubs 10 = .ok (.iconst 5, 1) := dk_8 (dk_at dksX16_rubs_0 10 rfl rfl)
theorem dX16_rubs_11 : decode cX16_rubs 11 = .ok (.imul, 1) := dk_104 (dk_at dksX16_rubs_0 11 rfl rfl)
theorem dX16_rubs_12 : decode cX16_rubs 12 = .ok (.aload_n 0, 1) := dk_42 (dk_at dksX16_rubs_0 12 rfl rfl)
theorem dX16_rubs_13 : decode cX16_rubs 13 = .ok (.getfield 13, 3) := dk_180 0 13 (dk_at dksX16_rubs_0 13 rfl rfl)
theorem dX16_rubs_16 : decode cX16_rubs 16 = .ok (.iadd, 1) := dk_96 (dk_at dksX16_rubs_0 16 rfl rfl)
theorem dX16_rubs_17 : decode cX16_rubs 17 = .ok (.ireturn, 1) := dk_172 (dk_at dksX16_rubs_0 17 rfl rfl)
abbrev cX16_steeps : ByteArray := prog_2_method_5_code
def yX16_steeps : MethodName := ⟨RX16, "steeps", "(I)I"⟩
def dkwX16_steeps_0 : List UInt8 := [42, 180, 0, 1, 16, 11, 182, 0, 20, 42, 27, 183, 0, 26, 172]
abbrev dktX16_steeps_0 : List UInt8 := dkwX16_steeps_0 ++ []
theorem dksX16_steeps_0 : cX16_steeps.data.toList.drop 0 = dktX16_steeps_0 := by decide +kernel
theorem dX16_steeps_0 : decode cX16_steeps 0 = .ok (.aload_n 0, 1) := dk_42 (dk_at dksX16_steeps_0 0 rfl rfl)
theorem dX16_steeps_1 : decode cX16_steeps 1 = .ok (.getfield 1, 3) := dk_180 0 1 (dk_at dksX16_steeps_0 1 rfl rfl)
theorem dX16_steeps_4 : decode cX16_steeps 4 = .ok (.bipush 11, 2) := dk_16 11 (dk_at dksX16_steeps_0 4 rfl rfl)
theorem dX16_steeps_6 : decode cX16_steeps 6 = .ok (.invokevirtual 20, 3) := dk_182 0 20 (dk_at dksX16_steeps_0 6 rfl rfl)
theorem dX16_steeps_9 : decode cX16_steeps 9 = .ok (.aload_n 0, 1) := dk_42 (dk_at dksX16_steeps_0 9 rfl rfl)
theorem dX16_steeps_10 : decode cX16_steeps 10 = .ok (.iload_n 1, 1) := dk_27 (dk_at dksX16_steeps_0 10 rfl rfl)
theorem dX16_steeps_11 : decode cX16_steeps 11 = .ok (.invokespecial 26, 3) := dk_183 0 26 (dk_at dksX16_steeps_0 11 rfl rfl)
theorem dX16_steeps_14 : decode cX16_steeps 14 = .ok (.ireturn, 1) := dk_172 (dk_at dksX16_steeps_0 14 rfl rfl)
abbrev cX16_theme : ByteArray := prog_2_method_3_code
def yX16_theme : MethodName := ⟨RX16, "theme", "()I"⟩
theorem dX16_theme_0 : decode cX16_theme 0 = .ok (.aload_n 0, 1) := by decide +kernel
theorem dX16_theme_1 : decode cX16_theme 1 = .ok (.getfield 17, 3) := by decide +kernel
theorem dX16_theme_4 : decode cX16_theme 4 = .ok (.ireturn, 1) := by decide +kernel
abbrev cX16_parts : ByteArray := prog_2_method_6_code
def yX16_parts : MethodName := ⟨RX16, "parts", "(I)I"⟩
def dkwX16_parts_0 : List UInt8 := [42, 180, 0, 1, 16, 12, 182, 0, 20, 27, 42, 180, 0, 17, 42, 180, 0, 13, 100, 108, 172]
abbrev dktX16_parts_0 : List UInt8 := dkwX16_parts_0 ++ []
theorem dksX16_parts_0 : cX16_parts.data.toList.drop 0 = dktX16_parts_0 := by decide +kernel
theorem dX16_parts_0 : decode cX16_parts 0 = .ok (.aload_n 0, 1) := dk_42 (dk_at dksX16_parts_0 0 rfl rfl)
theorem dX16_parts_1 : decode cX16_parts 1 = .ok (.getfield 1, 3) := dk_180 0 1 (dk_at dksX16_parts_0 1 rfl rfl)
theorem dX16_parts_4 : decode cX16_parts 4 = .ok (.bipush 12, 2) := dk_16 12 (dk_at dksX16_parts_0 4 rfl rfl)
theorem dX16_parts_6 : decode cX16_parts 6 = .ok (.invokevirtual 20, 3) := dk_182 0 20 (dk_at dksX16_parts_0 6 rfl rfl)
theorem dX16_parts_9 : decode cX16_parts 9 = .ok (.iload_n 1, 1) := dk_27 (dk_at dksX16_parts_0 9 rfl rfl)
theorem dX16_parts_10 : decode cX16_parts 10 = .ok (.aload_n 0, 1) := dk_42 (dk_at dksX16_parts_0 10 rfl rfl)
theorem dX16_parts_11 : decode cX16_parts 11 = .ok (.getfield 17, 3) := dk_180 0 17 (dk_at dksX16_parts_0 11 rfl rfl)
theorem dX16_parts_14 : decode cX16_parts 14 = .ok (.aload_n 0, 1) := dk_42 (dk_at dksX16_parts_0 14 rfl rfl)
theorem dX16_parts_15 : decode cX16_parts 15 = .ok (.getfield 13, 3) := dk_180 0 13 (dk_at dksX16_parts_0 15 rfl rfl)
theorem dX16_parts_18 : decode cX16_parts 18 = .ok (.isub, 1) := dk_100 (dk_at dksX16_parts_0 18 rfl rfl)
theorem dX16_parts_19 : decode cX16_parts 19 = .ok (.idiv, 1) := dk_108 (dk_at dksX16_parts_0 19 rfl rfl)
theorem dX16_parts_20 : decode cX16_parts 20 = .ok (.ireturn, 1) := dk_172 (dk_at dksX16_parts_0 20 rfl rfl)
abbrev cX16_dries : ByteArray := prog_2_method_7_code
def yX16_dries : MethodName := ⟨RX16, "dries", "(I)I"⟩
def dkwX16_dries_0 : List UInt8 := [42, 180, 0, 1, 16, 13, 182, 0, 20, 42, 27, 182, 0, 32, 17, 0, 240, 130, 172]
abbrev dktX16_dries_0 : List UInt8 := dkwX16_dries_0 ++ []
theorem dksX16_dries_0 : cX16_dries.data.toList.drop 0 = dktX16_dries_0 := by decide +kernel
theorem dX16_dries_0 : decode cX16_dries 0 = .ok (.aload_n 0, 1) := dk_42 (dk_at dksX16_dries_0 0 rfl rfl)
theorem dX16_dries_1 : decode cX16_dries 1 = .ok (.getfield 1, 3) := dk_180 0 1 (dk_at dksX16_dries_0 1 rfl rfl)
theorem dX16_dries_4 : decode cX16_dries 4 = .ok (.bipush 13, 2) := dk_16 13 (dk_at dksX16_dries_0 4 rfl rfl)
theorem dX16_dries_6 : decode cX16_dries 6 = .ok (.invokevirtual 20, 3) := dk_182 0 20 (dk_at dksX16_dries_0 6 rfl rfl)
theorem dX16_dries_9 : decode cX16_dries 9 = .ok (.aload_n 0, 1) := dk_42 (dk_at dksX16_dries_0 9 rfl rfl)
theorem dX16_dries_10 : decode cX16_dries 10 = .ok (.iload_n 1, 1) := dk_27 (dk_at dksX16_dries_0 10 rfl rfl)
theorem dX16_dries_11 : decode cX16_dries 11 = .ok (.invokevirtual 32, 3) := dk_182 0 32 (dk_at dksX16_dries_0 11 rfl rfl)
theorem dX16_dries_14 : decode cX16_dries 14 = .ok (.sipush 240, 3) := dk_17 0 240 (dk_at dksX16_dries_0 14 rfl rfl)
theorem dX16_dries_17 : decode cX16_dries 17 = .ok (.ixor, 1) := dk_130 (dk_at dksX16_dries_0 17 rfl rfl)
theorem dX16_dries_18 : decode cX16_dries 18 = .ok (.ireturn, 1) := dk_172 (dk_at dksX16_dries_0 18 rfl rfl)
theorem q127 : (Jvm.Cond.initialized "IntentVats$AnyOne") ∈ lw_all := lw_g (lw_at lw_m1 28 rfl) rfl
theorem q1181 : (Jvm.Cond.instanceMethod ({ cls := "IntentVats$AnyOne", name := "<init>", desc := "(LIntentVats;II)V" } : Jvm.MethodName)) ∈ lw_all := lw_g (lw_at lw_m5 122 rfl) rfl
theorem q1182 : (Jvm.Cond.code ({ cls := "IntentVats$AnyOne", name := "<init>", desc := "(LIntentVats;II)V" } : Jvm.MethodName) prog_2_method_1_code (4 : Nat) (Option.none : Option Jvm.ClassFile.FieldType)) ∈ lw_all := lw_g (lw_at lw_m5 123 rfl) rfl
theorem q1183 : (Jvm.Cond.methodLink "IntentVats$AnyOne" (7 : Nat) ({ cls := "java/lang/Object", name := "<init>", desc := "()V" } : Jvm.MethodName)) ∈ lw_all := lw_g (lw_at lw_m5 124 rfl) rfl
theorem q1185 : (Jvm.Cond.fieldLink "IntentVats$AnyOne" (13 : Nat) "IntentVats$AnyOne" "number" "I") ∈ lw_all := lw_g (lw_at lw_m5 126 rfl) rfl
theorem q1190 : (Jvm.Cond.fieldLink "IntentVats$AnyOne" (17 : Nat) "IntentVats$AnyOne" "theme" "I") ∈ lw_all := lw_g (lw_at lw_m5 131 rfl) rfl
theorem q1195 : (Jvm.Cond.fieldLink "IntentVats$AnyOne" (1 : Nat) "IntentVats$AnyOne" "this$0" "LIntentVats;") ∈ lw_all := lw_g (lw_at lw_m5 136 rfl) rfl
theorem q1199 : (Jvm.Cond.soleField "IntentVats$AnyOne" "number") ∈ lw_all := lw_g (lw_at lw_m5 140 rfl) rfl
theorem q1201 : (Jvm.Cond.soleField "IntentVats$AnyOne" "theme") ∈ lw_all := lw_g (lw_at lw_m5 142 rfl) rfl
theorem q1203 : (Jvm.Cond.soleField "IntentVats$AnyOne" "this$0") ∈ lw_all := lw_g (lw_at lw_m5 144 rfl) rfl
theorem q1260 : (Jvm.Cond.instantiable "IntentVats$AnyOne" (3 : Nat)) ∈ lw_all := lw_g (lw_at lw_m5 201 rfl) rfl
theorem q1262 : (Jvm.Cond.laysFinal "IntentVats$AnyOne" "IntentVats$AnyOne" "number" "I") ∈ lw_all := lw_g (lw_at lw_m5 203 rfl) rfl
theorem q1263 : (Jvm.Cond.laysFinal "IntentVats$AnyOne" "IntentVats$AnyOne" "theme" "I") ∈ lw_all := lw_g (lw_at lw_m5 204 rfl) rfl
theorem q1264 : (Jvm.Cond.laysFinal "IntentVats$AnyOne" "IntentVats$AnyOne" "this$0" "LIntentVats;") ∈ lw_all := lw_g (lw_at lw_m5 205 rfl) rfl
theorem q1265 : (Jvm.Cond.superclass "IntentVats$AnyOne" "java/lang/Object") ∈ lw_all := lw_g (lw_at lw_m5 206 rfl) rfl
theorem q1270 : (Jvm.Cond.instanceMethod ({ cls := "IntentVats$AnyOne", name := "its", desc := "()I" } : Jvm.MethodName)) ∈ lw_all := lw_g (lw_at lw_m5 211 rfl) rfl
theorem q1271 : (Jvm.Cond.selects "IntentVats$AnyOne" ({ cls := "IntentVats$AnyOne", name := "its", desc := "()I" } : Jvm.MethodName) ({ cls := "IntentVats$AnyOne", name := "its", desc := "()I" } : Jvm.MethodName)) ∈ lw_all := lw_g (lw_at lw_m5 212 rfl) rfl
theorem q1272 : (Jvm.Cond.sameMethod "IntentVats$AnyOne" "IntentVats$AnyOne" "its" "()I") ∈ lw_all := lw_g (lw_at lw_m5 213 rfl) rfl
theorem q1278 : (Jvm.Cond.code ({ cls := "IntentVats$AnyOne", name := "its", desc := "()I" } : Jvm.MethodName) prog_2_method_2_code (1 : Nat) (Option.some Jvm.ClassFile.FieldType.int)) ∈ lw_all := lw_g (lw_at lw_m5 219 rfl) rfl
theorem q1281 : (Jvm.Cond.declares ({ cls := "IntentVats$AnyOne", name := "its", desc := "()I" } : Jvm.MethodName)) ∈ lw_tbl := lw_at lw_m5 222 rfl
theorem q1325 : (Jvm.Cond.castable "IntentVats$AnyOne" "IntentVats$Dries") ∈ lw_tbl := lw_at lw_m6 26 rfl
theorem q1326 : (Jvm.Cond.selects "IntentVats$AnyOne" ({ cls := "IntentVats$RubsAct", name := "rubs", desc := "(I)I" } : Jvm.MethodName) ({ cls := "IntentVats$AnyOne", name := "rubs", desc := "(I)I" } : Jvm.MethodName)) ∈ lw_all := lw_g (lw_at lw_m6 27 rfl) rfl
theorem q1327 : (Jvm.Cond.unhidden "IntentVats$AnyOne" "rubs" "(I)I") ∈ lw_tbl := lw_at lw_m6 28 rfl
theorem q1328 : (Jvm.Cond.instanceMethod ({ cls := "IntentVats$AnyOne", name := "rubs", desc := "(I)I" } : Jvm.MethodName)) ∈ lw_all := lw_g (lw_at lw_m6 29 rfl) rfl
theorem q1329 : (Jvm.Cond.publicMethod ({ cls := "IntentVats$AnyOne", name := "rubs", desc := "(I)I" } : Jvm.MethodName)) ∈ lw_tbl := lw_at lw_m6 30 rfl
theorem q1330 : (Jvm.Cond.code ({ cls := "IntentVats$AnyOne", name := "rubs", desc := "(I)I" } : Jvm.MethodName) prog_2_method_4_code (2 : Nat) (Option.some Jvm.ClassFile.FieldType.int)) ∈ lw_all := lw_g (lw_at lw_m6 31 rfl) rfl
theorem q1331 : (Jvm.Cond.methodLinkNest "IntentVats$AnyOne" (20 : Nat) ({ cls := "IntentVats", name := "ran", desc := "(I)V" } : Jvm.MethodName) "IntentVats") ∈ lw_tbl := lw_at lw_m6 32 rfl
theorem q1344 : (Jvm.Cond.declares ({ cls := "IntentVats$AnyOne", name := "rubs", desc := "(I)I" } : Jvm.MethodName)) ∈ lw_tbl := lw_at lw_m6 45 rfl
theorem q1370 : (Jvm.Cond.selects "IntentVats$AnyOne" ({ cls := "IntentVats$RubsAct", name := "steeps", desc := "(I)I" } : Jvm.MethodName) ({ cls := "IntentVats$AnyOne", name := "steeps", desc := "(I)I" } : Jvm.MethodName)) ∈ lw_all := lw_g (lw_at lw_m6 71 rfl) rfl
theorem q1371 : (Jvm.Cond.unhidden "IntentVats$AnyOne" "steeps" "(I)I") ∈ lw_tbl := lw_at lw_m6 72 rfl
theorem q1372 : (Jvm.Cond.instanceMethod ({ cls := "IntentVats$AnyOne", name := "steeps", desc := "(I)I" } : Jvm.MethodName)) ∈ lw_all := lw_g (lw_at lw_m6 73 rfl) rfl
theorem q1373 : (Jvm.Cond.publicMethod ({ cls := "IntentVats$AnyOne", name := "steeps", desc := "(I)I" } : Jvm.MethodName)) ∈ lw_tbl := lw_at lw_m6 74 rfl
theorem q1374 : (Jvm.Cond.code ({ cls := "IntentVats$AnyOne", name := "steeps", desc := "(I)I" } : Jvm.MethodName) prog_2_method_5_code (2 : Nat) (Option.some Jvm.ClassFile.FieldType.int)) ∈ lw_all := lw_g (lw_at lw_m6 75 rfl) rfl
theorem q1380 : (Jvm.Cond.castable "IntentVats$AnyOne" "IntentVats$RubsAct") ∈ lw_tbl := lw_at lw_m6 81 rfl
theorem q1390 : (Jvm.Cond.selects "IntentVats$AnyOne" ({ cls := "IntentVats$RubsAct", name := "theme", desc := "()I" } : Jvm.MethodName) ({ cls := "IntentVats$AnyOne", name := "theme", desc := "()I" } : Jvm.MethodName)) ∈ lw_all := lw_g (lw_at lw_m6 91 rfl) rfl
theorem q1391 : (Jvm.Cond.unhidden "IntentVats$AnyOne" "theme" "()I") ∈ lw_tbl := lw_at lw_m6 92 rfl
theorem q1392 : (Jvm.Cond.instanceMethod ({ cls := "IntentVats$AnyOne", name := "theme", desc := "()I" } : Jvm.MethodName)) ∈ lw_all := lw_g (lw_at lw_m6 93 rfl) rfl
theorem q1393 : (Jvm.Cond.publicMethod ({ cls := "IntentVats$AnyOne", name := "theme", desc := "()I" } : Jvm.MethodName)) ∈ lw_tbl := lw_at lw_m6 94 rfl
theorem q1394 : (Jvm.Cond.code ({ cls := "IntentVats$AnyOne", name := "theme", desc := "()I" } : Jvm.MethodName) prog_2_method_3_code (1 : Nat) (Option.some Jvm.ClassFile.FieldType.int)) ∈ lw_all := lw_g (lw_at lw_m6 95 rfl) rfl
theorem q1423 : (Jvm.Cond.declares ({ cls := "IntentVats$AnyOne", name := "steeps", desc := "(I)I" } : Jvm.MethodName)) ∈ lw_tbl := lw_at lw_m6 124 rfl
theorem q1430 : (Jvm.Cond.selects "IntentVats$AnyOne" ({ cls := "IntentVats$PartsAct", name := "parts", desc := "(I)I" } : Jvm.MethodName) ({ cls := "IntentVats$AnyOne", name := "parts", desc := "(I)I" } : Jvm.MethodName)) ∈ lw_all := lw_g (lw_at lw_m6 131 rfl) rfl
theorem q1431 : (Jvm.Cond.unhidden "IntentVats$AnyOne" "parts" "(I)I") ∈ lw_tbl := lw_at lw_m6 132 rfl
theorem q1432 : (Jvm.Cond.instanceMethod ({ cls := "IntentVats$AnyOne", name := "parts", desc := "(I)I" } : Jvm.MethodName)) ∈ lw_all := lw_g (lw_at lw_m6 133 rfl) rfl
theorem q1433 : (Jvm.Cond.publicMethod ({ cls := "IntentVats$AnyOne", name := "parts", desc := "(I)I" } : Jvm.MethodName)) ∈ lw_tbl := lw_at lw_m6 134 rfl
theorem q1434 : (Jvm.Cond.code ({ cls := "IntentVats$AnyOne", name := "parts", desc := "(I)I" } : Jvm.MethodName) prog_2_method_6_code (2 : Nat) (Option.some Jvm.ClassFile.FieldType.int)) ∈ lw_all := lw_g (lw_at lw_m6 135 rfl) rfl
theorem q1442 : (Jvm.Cond.declares ({ cls := "IntentVats$AnyOne", name := "parts", desc := "(I)I" } : Jvm.MethodName)) ∈ lw_tbl := lw_at lw_m6 143 rfl
theorem q1463 : (Jvm.Cond.selects "IntentVats$AnyOne" ({ cls := "IntentVats$Dries", name := "dries", desc := "(I)I" } : Jvm.MethodName) ({ cls := "IntentVats$AnyOne", name := "dries", desc := "(I)I" } : Jvm.MethodName)) ∈ lw_all := lw_g (lw_at lw_m6 164 rfl) rfl
theorem q1464 : (Jvm.Cond.unhidden "IntentVats$AnyOne" "dries" "(I)I") ∈ lw_tbl := lw_at lw_m6 165 rfl
theorem q1465 : (Jvm.Cond.instanceMethod ({ cls := "IntentVats$AnyOne", name := "dries", desc := "(I)I" } : Jvm.MethodName)) ∈ lw_all := lw_g (lw_at lw_m6 166 rfl) rfl
theorem q1466 : (Jvm.Cond.publicMethod ({ cls := "IntentVats$AnyOne", name := "dries", desc := "(I)I" } : Jvm.MethodName)) ∈ lw_tbl := lw_at lw_m6 167 rfl
theorem q1467 : (Jvm.Cond.code ({ cls := "IntentVats$AnyOne", name := "dries", desc := "(I)I" } : Jvm.MethodName) prog_2_method_7_code (2 : Nat) (Option.some Jvm.ClassFile.FieldType.int)) ∈ lw_all := lw_g (lw_at lw_m6 168 rfl) rfl
theorem q1468 : (Jvm.Cond.methodLink "IntentVats$AnyOne" (32 : Nat) ({ cls := "IntentVats$AnyOne", name := "steeps", desc := "(I)I" } : Jvm.MethodName)) ∈ lw_all := lw_g (lw_at lw_m6 169 rfl) rfl
theorem q2098 : (Jvm.Cond.sameMethod "IntentVats$AnyOne" "IntentVats$AnyOne" "rubs" "(I)I") ∈ lw_all := lw_g (lw_at lw_m9 79 rfl) rfl
theorem q2100 : (Jvm.Cond.sameMethod "IntentVats$AnyOne" "IntentVats$AnyOne" "steeps" "(I)I") ∈ lw_all := lw_g (lw_at lw_m9 81 rfl) rfl
theorem q2102 : (Jvm.Cond.sameMethod "IntentVats$AnyOne" "IntentVats$AnyOne" "parts" "(I)I") ∈ lw_all := lw_g (lw_at lw_m9 83 rfl) rfl
theorem q2103 : (Jvm.Cond.selects "IntentVats$AnyOne" ({ cls := "IntentVats$AnyOne", name := "steeps", desc := "(I)I" } : Jvm.MethodName) ({ cls := "IntentVats$AnyOne", name := "steeps", desc := "(I)I" } : Jvm.MethodName)) ∈ lw_all := lw_g (lw_at lw_m9 84 rfl) rfl
theorem q2109 : (Jvm.Cond.sameMethod "IntentVats$AnyOne" "IntentVats$AnyOne" "dries" "(I)I") ∈ lw_all := lw_g (lw_at lw_m9 90 rfl) rfl
theorem in_X16 : ∀ w ∈ wsX160, w ∈ lw_all := lw_in wsX160 [1262, 1263, 1264] (by decide +kernel) (by decide +kernel)
/-! IntentVats$WoolOne -/
set_option maxRecDepth 100000
def RX17 : String := "IntentVats$WoolOne"
def TX17 : u_T := fun k => match k with
  | 0 => ("IntentVats$AnyOne", "number", "I", true)
  | 1 => ("IntentVats$AnyOne", "theme", "I", true)
  | 2 => ("IntentVats$AnyOne", "this$0", "LIntentVats;", true)
  | _ => ("IntentVats$WoolOne", "this$0", "LIntentVats;", true)
def tyX17 : Nat → FieldType := fun k => match k with
  | 0 => .int
  | 1 => .int
  | 2 => .object "IntentVats"
  | _ => .object "IntentVats"
abbrev wsX170 : List Cond := u_ws RX17 TX17 4
-- two fields of one name: no nmX17
theorem tyX17_ok : ∀ k, k < 4 → parseFieldDescriptor (TX17 k).2.2.1 = some (tyX17 k) := by decide +kernel
abbrev cX17_init : ByteArray := prog_26_method_1_code
def yX17_init : MethodName := ⟨RX17, "<init>", "(LIntentVats;II)V"⟩
def dkwX17_init_0 : List UInt8 := [42, 43, 181, 0, 1, 42, 43, 28, 29, 183, 0, 7, 177]
abbrev dktX17_init_0 : List UInt8 := dkwX17_init_0 ++ []
theorem dksX17_init_0 : cX17_init.data.toList.drop 0 = dktX17_init_0 := by decide +kernel
theorem dX17_init_0 : decode cX17_init 0 = .ok (.aload_n 0, 1) := dk_42 (dk_at dksX17_init_0 0 rfl rfl)
theorem dX17_init_1 : decode cX17_init 1 = .ok (.aload_n 1, 1) := dk_43 (dk_at dksX17_init_0 1 rfl rfl)
theorem dX17_init_2 : decode cX17_init 2 = .ok (.putfield 1, 3) := dk_181 0 1 (dk_at dksX17_init_0 2 rfl rfl)
theorem dX17_init_5 : decode cX17_init 5 = .ok (.aload_n 0, 1) := dk_42 (dk_at dksX17_init_0 5 rfl rfl)
theorem dX17_init_6 : decode cX17_init 6 = .ok (.aload_n 1, 1) := dk_43 (dk_at dksX17_init_0 6 rfl rfl)
theorem dX17_init_7 : decode cX17_init 7 = .ok (.iload_n 2, 1) := dk_28 (dk_at dksX17_init_0 7 rfl rfl)
theorem dX17_init_8 : decode cX17_init 8 = .ok (.iload_n 3, 1) := dk_29 (dk_at dksX17_init_0 8 rfl rfl)
theorem dX17_init_9 : decode cX17_init 9 = .ok (.invokespecial 7, 3) := dk_183 0 7 (dk_at dksX17_init_0 9 rfl rfl)
theorem dX17_init_12 : decode cX17_init 12 = .ok (.return_, 1) := dk_177 (dk_at dksX17_init_0 12 rfl rfl)
abbrev cX17_steeps : ByteArray := prog_26_method_2_code
def yX17_steeps : MethodName := ⟨RX17, "steeps", "(I)I"⟩
def dkwX17_steeps_0 : List UInt8 := [42, 180, 0, 1, 16, 20, 182, 0, 13, 42, 27, 183, 0, 19, 16, 6, 100, 172]
abbrev dktX17_steeps_0 : List UInt8 := dkwX17_steeps_0 ++ []
theorem dksX17_steeps_0 : cX17_steeps.data.toList.drop 0 = dktX17_steeps_0 := by decide +kernel
theorem dX17_steeps_0 : decode cX17_steeps 0 = .ok (.aload_n 0, 1) := dk_42 (dk_at dksX17_steeps_0 0 rfl rfl)
theorem dX17_steeps_1 : decode cX17_steeps 1 = .ok (.getfield 1, 3) := dk_180 0 1 (dk_at dksX17_steeps_0 1 rfl rfl)
theorem dX17_steeps_4 : decode cX17_steeps 4 = .ok (.bipush 20, 2) := dk_16 20 (dk_at dksX17_steeps_0 4 rfl rfl)
theorem dX17_steeps_6 : decode cX17_steeps 6 = .ok (.invokevirtual 13, 3) := dk_182 0 13 (dk_at dksX17_steeps_0 6 rfl rfl)
theorem dX17_steeps_9 : decode cX17_steeps 9 = .ok (.aload_n 0, 1) := dk_42 (dk_at dksX17_steeps_0 9 rfl rfl)
theorem dX17_steeps_10 : decode cX17_steeps 10 = .ok (.iload_n 1, 1) := dk_27 (dk_at dksX17_steeps_0 10 rfl rfl)
theorem dX17_steeps_11 : decode cX17_steeps 11 = .ok (.invokespecial 19, 3) := dk_183 0 19 (dk_at dksX17_steeps_0 11 rfl rfl)
theorem dX17_steeps_14 : decode cX17_steeps 14 = .ok (.bipush 6, 2) := dk_16 6 (dk_at dksX17_steeps_0 14 rfl rfl)
theorem dX17_steeps_16 : decode cX17_steeps 16 = .ok (.isub, 1) := dk_100 (dk_at dksX17_steeps_0 16 rfl rfl)
theorem dX17_steeps_17 : decode cX17_steeps 17 = .ok (.ireturn, 1) := dk_172 (dk_at dksX17_steeps_0 17 rfl rfl)
theorem q128 : (Jvm.Cond.initialized "IntentVats$WoolOne") ∈ lw_all := lw_g (lw_at lw_m1 29 rfl) rfl
theorem q1176 : (Jvm.Cond.instantiable "IntentVats$WoolOne" (4 : Nat)) ∈ lw_all := lw_g (lw_at lw_m5 117 rfl) rfl
theorem q1178 : (Jvm.Cond.instanceMethod ({ cls := "IntentVats$WoolOne", name := "<init>", desc := "(LIntentVats;II)V" } : Jvm.MethodName)) ∈ lw_all := lw_g (lw_at lw_m5 119 rfl) rfl
theorem q1179 : (Jvm.Cond.code ({ cls := "IntentVats$WoolOne", name := "<init>", desc := "(LIntentVats;II)V" } : Jvm.MethodName) prog_26_method_1_code (4 : Nat) (Option.none : Option Jvm.ClassFile.FieldType)) ∈ lw_all := lw_g (lw_at lw_m5 120 rfl) rfl
theorem q1180 : (Jvm.Cond.methodLink "IntentVats$WoolOne" (7 : Nat) ({ cls := "IntentVats$AnyOne", name := "<init>", desc := "(LIntentVats;II)V" } : Jvm.MethodName)) ∈ lw_all := lw_g (lw_at lw_m5 121 rfl) rfl
theorem q1184 : (Jvm.Cond.fieldLink "IntentVats$WoolOne" (1 : Nat) "IntentVats$WoolOne" "this$0" "LIntentVats;") ∈ lw_all := lw_g (lw_at lw_m5 125 rfl) rfl
theorem q1196 : (Jvm.Cond.laysFinal "IntentVats$WoolOne" "IntentVats$WoolOne" "this$0" "LIntentVats;") ∈ lw_all := lw_g (lw_at lw_m5 137 rfl) rfl
theorem q1197 : (Jvm.Cond.soleField "IntentVats$WoolOne" "this$0") ∈ lw_all := lw_g (lw_at lw_m5 138 rfl) rfl
theorem q1198 : (Jvm.Cond.laysFinal "IntentVats$WoolOne" "IntentVats$AnyOne" "number" "I") ∈ lw_all := lw_g (lw_at lw_m5 139 rfl) rfl
theorem q1200 : (Jvm.Cond.laysFinal "IntentVats$WoolOne" "IntentVats$AnyOne" "theme" "I") ∈ lw_all := lw_g (lw_at lw_m5 141 rfl) rfl
theorem q1202 : (Jvm.Cond.laysFinal "IntentVats$WoolOne" "IntentVats$AnyOne" "this$0" "LIntentVats;") ∈ lw_all := lw_g (lw_at lw_m5 143 rfl) rfl
theorem q1204 : (Jvm.Cond.superclass "IntentVats$WoolOne" "IntentVats$AnyOne") ∈ lw_all := lw_g (lw_at lw_m5 145 rfl) rfl
theorem q1277 : (Jvm.Cond.selects "IntentVats$WoolOne" ({ cls := "IntentVats$AnyOne", name := "its", desc := "()I" } : Jvm.MethodName) ({ cls := "IntentVats$AnyOne", name := "its", desc := "()I" } : Jvm.MethodName)) ∈ lw_all := lw_g (lw_at lw_m5 218 rfl) rfl
theorem q1280 : (Jvm.Cond.sameMethod "IntentVats$WoolOne" "IntentVats$AnyOne" "its" "()I") ∈ lw_all := lw_g (lw_at lw_m5 221 rfl) rfl
theorem q1283 : (Jvm.Cond.selects "IntentVats$WoolOne" ({ cls := "IntentVats$WoolOne", name := "its", desc := "()I" } : Jvm.MethodName) ({ cls := "IntentVats$AnyOne", name := "its", desc := "()I" } : Jvm.MethodName)) ∈ lw_all := lw_g (lw_at lw_m5 224 rfl) rfl
theorem q1343 : (Jvm.Cond.sameMethod "IntentVats$WoolOne" "IntentVats$AnyOne" "rubs" "(I)I") ∈ lw_all := lw_g (lw_at lw_m6 44 rfl) rfl
theorem q1364 : (Jvm.Cond.castable "IntentVats$WoolOne" "IntentVats$Dries") ∈ lw_tbl := lw_at lw_m6 65 rfl
theorem q1365 : (Jvm.Cond.selects "IntentVats$WoolOne" ({ cls := "IntentVats$RubsAct", name := "rubs", desc := "(I)I" } : Jvm.MethodName) ({ cls := "IntentVats$AnyOne", name := "rubs", desc := "(I)I" } : Jvm.MethodName)) ∈ lw_all := lw_g (lw_at lw_m6 66 rfl) rfl
theorem q1366 : (Jvm.Cond.unhidden "IntentVats$WoolOne" "rubs" "(I)I") ∈ lw_tbl := lw_at lw_m6 67 rfl
theorem q1385 : (Jvm.Cond.castable "IntentVats$WoolOne" "IntentVats$RubsAct") ∈ lw_tbl := lw_at lw_m6 86 rfl
theorem q1403 : (Jvm.Cond.selects "IntentVats$WoolOne" ({ cls := "IntentVats$RubsAct", name := "theme", desc := "()I" } : Jvm.MethodName) ({ cls := "IntentVats$AnyOne", name := "theme", desc := "()I" } : Jvm.MethodName)) ∈ lw_all := lw_g (lw_at lw_m6 104 rfl) rfl
theorem q1404 : (Jvm.Cond.unhidden "IntentVats$WoolOne" "theme" "()I") ∈ lw_tbl := lw_at lw_m6 105 rfl
theorem q1407 : (Jvm.Cond.instanceMethod ({ cls := "IntentVats$WoolOne", name := "steeps", desc := "(I)I" } : Jvm.MethodName)) ∈ lw_all := lw_g (lw_at lw_m6 108 rfl) rfl
theorem q1408 : (Jvm.Cond.publicMethod ({ cls := "IntentVats$WoolOne", name := "steeps", desc := "(I)I" } : Jvm.MethodName)) ∈ lw_tbl := lw_at lw_m6 109 rfl
theorem q1409 : (Jvm.Cond.code ({ cls := "IntentVats$WoolOne", name := "steeps", desc := "(I)I" } : Jvm.MethodName) prog_26_method_2_code (2 : Nat) (Option.some Jvm.ClassFile.FieldType.int)) ∈ lw_all := lw_g (lw_at lw_m6 110 rfl) rfl
theorem q1410 : (Jvm.Cond.methodLinkNest "IntentVats$WoolOne" (13 : Nat) ({ cls := "IntentVats", name := "ran", desc := "(I)V" } : Jvm.MethodName) "IntentVats") ∈ lw_tbl := lw_at lw_m6 111 rfl
theorem q1411 : (Jvm.Cond.methodLink "IntentVats$WoolOne" (19 : Nat) ({ cls := "IntentVats$AnyOne", name := "steeps", desc := "(I)I" } : Jvm.MethodName)) ∈ lw_all := lw_g (lw_at lw_m6 112 rfl) rfl
theorem q1425 : (Jvm.Cond.selects "IntentVats$WoolOne" ({ cls := "IntentVats$RubsAct", name := "steeps", desc := "(I)I" } : Jvm.MethodName) ({ cls := "IntentVats$WoolOne", name := "steeps", desc := "(I)I" } : Jvm.MethodName)) ∈ lw_all := lw_g (lw_at lw_m6 126 rfl) rfl
theorem q1426 : (Jvm.Cond.unhidden "IntentVats$WoolOne" "steeps" "(I)I") ∈ lw_tbl := lw_at lw_m6 127 rfl
theorem q1441 : (Jvm.Cond.sameMethod "IntentVats$WoolOne" "IntentVats$AnyOne" "parts" "(I)I") ∈ lw_all := lw_g (lw_at lw_m6 142 rfl) rfl
theorem q1457 : (Jvm.Cond.selects "IntentVats$WoolOne" ({ cls := "IntentVats$PartsAct", name := "parts", desc := "(I)I" } : Jvm.MethodName) ({ cls := "IntentVats$AnyOne", name := "parts", desc := "(I)I" } : Jvm.MethodName)) ∈ lw_all := lw_g (lw_at lw_m6 158 rfl) rfl
theorem q1458 : (Jvm.Cond.unhidden "IntentVats$WoolOne" "parts" "(I)I") ∈ lw_tbl := lw_at lw_m6 159 rfl
theorem q1489 : (Jvm.Cond.selects "IntentVats$WoolOne" ({ cls := "IntentVats$Dries", name := "dries", desc := "(I)I" } : Jvm.MethodName) ({ cls := "IntentVats$AnyOne", name := "dries", desc := "(I)I" } : Jvm.MethodName)) ∈ lw_all := lw_g (lw_at lw_m6 190 rfl) rfl
theorem q1490 : (Jvm.Cond.unhidden "IntentVats$WoolOne" "dries" "(I)I") ∈ lw_tbl := lw_at lw_m6 191 rfl
theorem q2108 : (Jvm.Cond.selects "IntentVats$WoolOne" ({ cls := "IntentVats$AnyOne", name := "steeps", desc := "(I)I" } : Jvm.MethodName) ({ cls := "IntentVats$WoolOne", name := "steeps", desc := "(I)I" } : Jvm.MethodName)) ∈ lw_all := lw_g (lw_at lw_m9 89 rfl) rfl
theorem q2115 : (Jvm.Cond.castable "IntentVats$WoolOne" "IntentVats$AnyOne") ∈ lw_tbl := lw_at lw_m9 96 rfl
theorem in_X17 : ∀ w ∈ wsX170, w ∈ lw_all := lw_in wsX170 [1198, 1200, 1202, 1196] (by decide +kernel) (by decide +kernel)
/-! IntentVats$LinenOne -/
set_option maxRecDepth 100000
def RX18 : String := "IntentVats$LinenOne"
def TX18 : u_T := fun k => match k with
  | 0 => ("IntentVats$AnyOne", "number", "I", true)
  | 1 => ("IntentVats$AnyOne", "theme", "I", true)
  | 2 => ("IntentVats$AnyOne", "this$0", "LIntentVats;", true)
  | _ => ("IntentVats$LinenOne", "this$0", "LIntentVats;", true)
def tyX18 : Nat → FieldType := fun k => match k with
  | 0 => .int
  | 1 => .int
  | 2 => .object "IntentVats"
  | _ => .object "IntentVats"
abbrev wsX180 : List Cond := u_ws RX18 TX18 4
-- two fields of one name: no nmX18
theorem tyX18_ok : ∀ k, k < 4 → parseFieldDescriptor (TX18 k).2.2.1 = some (tyX18 k) := by decide +kernel
abbrev cX18_init : ByteArray := prog_10_method_1_code
def yX18_init : MethodName := ⟨RX18, "<init>", "(LIntentVats;II)V"⟩
def dkwX18_init_0 : List UInt8 := [42, 43, 181, 0, 1, 42, 43, 28, 29, 183, 0, 7, 177]
abbrev dktX18_init_0 : List UInt8 := dkwX18_init_0 ++ []
theorem dksX18_init_0 : cX18_init.data.toList.drop 0 = dktX18_init_0 := by decide +kernel
theorem dX18_init_0 : decode cX18_init 0 = .ok (.aload_n 0, 1) := dk_42 (dk_at dksX18_init_0 0 rfl rfl)
theorem dX18_init_1 : decode cX18_init 1 = .ok (.aload_n 1, 1) := dk_43 (dk_at dksX18_init_0 1 rfl rfl)
theorem dX18_init_2 : decode cX18_init 2 = .ok (.putfield 1, 3) := dk_181 0 1 (dk_at dksX18_init_0 2 rfl rfl)
theorem dX18_init_5 : decode cX18_init 5 = .ok (.aload_n 0, 1) := dk_42 (dk_at dksX18_init_0 5 rfl rfl)
theorem dX18_init_6 : decode cX18_init 6 = .ok (.aload_n 1, 1) := dk_43 (dk_at dksX18_init_0 6 rfl rfl)
theorem dX18_init_7 : decode cX18_init 7 = .ok (.iload_n 2, 1) := dk_28 (dk_at dksX18_init_0 7 rfl rfl)
theorem dX18_init_8 : decode cX18_init 8 = .ok (.iload_n 3, 1) := dk_29 (dk_at dksX18_init_0 8 rfl rfl)
theorem dX18_init_9 : decode cX18_init 9 = .ok (.invokespecial 7, 3) := dk_183 0 7 (dk_at dksX18_init_0 9 rfl rfl)
theorem dX18_init_12 : decode cX18_init 12 = .ok (.return_, 1) := dk_177 (dk_at dksX18_init_0 12 rfl rfl)
abbrev cX18_rubs : ByteArray := prog_10_method_2_code
def yX18_rubs : MethodName := ⟨RX18, "rubs", "(I)I"⟩
def dkwX18_rubs_0 : List UInt8 := [42, 180, 0, 1, 16, 30, 182, 0, 13, 42, 27, 183, 0, 19, 5, 104, 172]
abbrev dktX18_rubs_0 : List UInt8 := dkwX18_rubs_0 ++ []
theorem dksX18_rubs_0 : cX18_rubs.data.toList.drop 0 = dktX18_rubs_0 := by decide +kernel
theorem dX18_rubs_0 : decode cX18_rubs 0 = .ok (.aload_n 0, 1) := dk_42 (dk_at dksX18_rubs_0 0 rfl rfl)
theorem dX18_rubs_1 : decode cX18_rubs 1 = .ok (.getfield 1, 3) := dk_180 0 1 (dk_at dksX18_rubs_0 1 rfl rfl)
theorem dX18_rubs_4 : decode cX18_rubs 4 = .ok (.bipush 30, 2) := dk_16 30 (dk_at dksX18_rubs_0 4 rfl rfl)
theorem dX18_rubs_6 : decode cX18_rubs 6 = .ok (.invokevirtual 13, 3) := dk_182 0 13 (dk_at dksX18_rubs_0 6 rfl rfl)
theorem dX18_rubs_9 : decode cX18_rubs 9 = .ok (.aload_n 0, 1) := dk_42 (dk_at dksX18_rubs_0 9 rfl rfl)
theorem dX18_rubs_10 : decode cX18_rubs 10 = .ok (.iload_n 1, 1) := dk_27 (dk_at dksX18_rubs_0 10 rfl rfl)
theorem dX18_rubs_11 : decode cX18_rubs 11 = .ok (.invokespecial 19, 3) := dk_183 0 19 (dk_at dksX18_rubs_0 11 rfl rfl)
theorem dX18_rubs_14 : decode cX18_rubs 14 = .ok (.iconst 2, 1) := dk_5 (dk_at dksX18_rubs_0 14 rfl rfl)
theorem dX18_rubs_15 : decode cX18_rubs 15 = .ok (.imul, 1) := dk_104 (dk_at dksX18_rubs_0 15 rfl rfl)
theorem dX18_rubs_16 : decode cX18_rubs 16 = .ok (.ireturn, 1) := dk_172 (dk_at dksX18_rubs_0 16 rfl rfl)
abbrev cX18_dries : ByteArray := prog_10_method_3_code
def yX18_dries : MethodName := ⟨RX18, "dries", "(I)I"⟩
def dkwX18_dries_1 : List UInt8 := [96, 172]
abbrev dktX18_dries_1 : List UInt8 := dkwX18_dries_1 ++ []
def dkwX18_dries_0 : List UInt8 := [42, 180, 0, 1, 16, 31, 182, 0, 13, 42, 27, 183, 0, 23, 61, 28, 42, 42, 180, 0, 26, 182, 0, 30]
abbrev dktX18_dries_0 : List UInt8 := dkwX18_dries_0 ++ dktX18_dries_1
theorem dksX18_dries_0 : cX18_dries.data.toList.drop 0 = dktX18_dries_0 := by decide +kernel
theorem dksX18_dries_1 : cX18_dries.data.toList.drop 24 = dktX18_dries_1 := dk_seg dksX18_dries_0 24 rfl rfl
theorem dX18_dries_0 : decode cX18_dries 0 = .ok (.aload_n 0, 1) := dk_42 (dk_at dksX18_dries_0 0 rfl rfl)
theorem dX18_dries_1 : decode cX18_dries 1 = .ok (.getfield 1, 3) := dk_180 0 1 (dk_at dksX18_dries_0 1 rfl rfl)
theorem dX18_dries_4 : decode cX18_dries 4 = .ok (.bipush 31, 2) := dk_16 31 (dk_at dksX18_dries_0 4 rfl rfl)
theorem dX18_dries_6 : decode cX18_dries 6 = .ok (.invokevirtual 13, 3) := dk_182 0 13 (dk_at dksX18_dries_0 6 rfl rfl)
theorem dX18_dries_9 : decode cX18_dries 9 = .ok (.aload_n 0, 1) := dk_42 (dk_at dksX18_dries_0 9 rfl rfl)
theorem dX18_dries_10 : decode cX18_dries 10 = .ok (.iload_n 1, 1) := dk_27 (dk_at dksX18_dries_0 10 rfl rfl)
theorem dX18_dries_11 : decode cX18_dries 11 = .ok (.invokespecial 23, 3) := dk_183 0 23 (dk_at dksX18_dries_0 11 rfl rfl)
theorem dX18_dries_14 : decode cX18_dries 14 = .ok (.istore_n 2, 1) := dk_61 (dk_at dksX18_dries_0 14 rfl rfl)
theorem dX18_dries_15 : decode cX18_dries 15 = .ok (.iload_n 2, 1) := dk_28 (dk_at dksX18_dries_0 15 rfl rfl)
theorem dX18_dries_16 : decode cX18_dries 16 = .ok (.aload_n 0, 1) := dk_42 (dk_at dksX18_dries_0 16 rfl rfl)
theorem dX18_dries_17 : decode cX18_dries 17 = .ok (.aload_n 0, 1) := dk_42 (dk_at dksX18_dries_0 17 rfl rfl)
theorem dX18_dries_18 : decode cX18_dries 18 = .ok (.getfield 26, 3) := dk_180 0 26 (dk_at dksX18_dries_0 18 rfl rfl)
theorem dX18_dries_21 : decode cX18_dries 21 = .ok (.invokevirtual 30, 3) := dk_182 0 30 (dk_at dksX18_dries_0 21 rfl rfl)
theorem dX18_dries_24 : decode cX18_dries 24 = .ok (.iadd, 1) := dk_96 (dk_at dksX18_dries_1 0 rfl rfl)
theorem dX18_dries_25 : decode cX18_dries 25 = .ok (.ireturn, 1) := dk_172 (dk_at dksX18_dries_1 1 rfl rfl)
theorem q129 : (Jvm.Cond.initialized "IntentVats$LinenOne") ∈ lw_all := lw_g (lw_at lw_m1 30 rfl) rfl
theorem q1188 : (Jvm.Cond.fieldLink "IntentVats$LinenOne" (26 : Nat) "IntentVats$LinenOne" "number" "I") ∈ lw_all := lw_g (lw_at lw_m5 129 rfl) rfl
theorem q1189 : (Jvm.Cond.sameField "IntentVats$LinenOne" "IntentVats$AnyOne" "number" "I") ∈ lw_all := lw_g (lw_at lw_m5 130 rfl) rfl
theorem q1206 : (Jvm.Cond.instantiable "IntentVats$LinenOne" (4 : Nat)) ∈ lw_all := lw_g (lw_at lw_m5 147 rfl) rfl
theorem q1208 : (Jvm.Cond.instanceMethod ({ cls := "IntentVats$LinenOne", name := "<init>", desc := "(LIntentVats;II)V" } : Jvm.MethodName)) ∈ lw_all := lw_g (lw_at lw_m5 149 rfl) rfl
theorem q1209 : (Jvm.Cond.code ({ cls := "IntentVats$LinenOne", name := "<init>", desc := "(LIntentVats;II)V" } : Jvm.MethodName) prog_10_method_1_code (4 : Nat) (Option.none : Option Jvm.ClassFile.FieldType)) ∈ lw_all := lw_g (lw_at lw_m5 150 rfl) rfl
theorem q1210 : (Jvm.Cond.methodLink "IntentVats$LinenOne" (7 : Nat) ({ cls := "IntentVats$AnyOne", name := "<init>", desc := "(LIntentVats;II)V" } : Jvm.MethodName)) ∈ lw_all := lw_g (lw_at lw_m5 151 rfl) rfl
theorem q1211 : (Jvm.Cond.fieldLink "IntentVats$LinenOne" (1 : Nat) "IntentVats$LinenOne" "this$0" "LIntentVats;") ∈ lw_all := lw_g (lw_at lw_m5 152 rfl) rfl
theorem q1212 : (Jvm.Cond.laysFinal "IntentVats$LinenOne" "IntentVats$LinenOne" "this$0" "LIntentVats;") ∈ lw_all := lw_g (lw_at lw_m5 153 rfl) rfl
theorem q1213 : (Jvm.Cond.soleField "IntentVats$LinenOne" "this$0") ∈ lw_all := lw_g (lw_at lw_m5 154 rfl) rfl
theorem q1214 : (Jvm.Cond.laysFinal "IntentVats$LinenOne" "IntentVats$AnyOne" "number" "I") ∈ lw_all := lw_g (lw_at lw_m5 155 rfl) rfl
theorem q1215 : (Jvm.Cond.laysFinal "IntentVats$LinenOne" "IntentVats$AnyOne" "theme" "I") ∈ lw_all := lw_g (lw_at lw_m5 156 rfl) rfl
theorem q1216 : (Jvm.Cond.laysFinal "IntentVats$LinenOne" "IntentVats$AnyOne" "this$0" "LIntentVats;") ∈ lw_all := lw_g (lw_at lw_m5 157 rfl) rfl
theorem q1217 : (Jvm.Cond.superclass "IntentVats$LinenOne" "IntentVats$AnyOne") ∈ lw_all := lw_g (lw_at lw_m5 158 rfl) rfl
theorem q1274 : (Jvm.Cond.selects "IntentVats$LinenOne" ({ cls := "IntentVats$AnyOne", name := "its", desc := "()I" } : Jvm.MethodName) ({ cls := "IntentVats$AnyOne", name := "its", desc := "()I" } : Jvm.MethodName)) ∈ lw_all := lw_g (lw_at lw_m5 215 rfl) rfl
theorem q1285 : (Jvm.Cond.sameMethod "IntentVats$LinenOne" "IntentVats$AnyOne" "its" "()I") ∈ lw_all := lw_g (lw_at lw_m5 226 rfl) rfl
theorem q1286 : (Jvm.Cond.selects "IntentVats$LinenOne" ({ cls := "IntentVats$LinenOne", name := "its", desc := "()I" } : Jvm.MethodName) ({ cls := "IntentVats$AnyOne", name := "its", desc := "()I" } : Jvm.MethodName)) ∈ lw_all := lw_g (lw_at lw_m5 227 rfl) rfl
theorem q1345 : (Jvm.Cond.castable "IntentVats$LinenOne" "IntentVats$Dries") ∈ lw_tbl := lw_at lw_m6 46 rfl
theorem q1346 : (Jvm.Cond.selects "IntentVats$LinenOne" ({ cls := "IntentVats$RubsAct", name := "rubs", desc := "(I)I" } : Jvm.MethodName) ({ cls := "IntentVats$LinenOne", name := "rubs", desc := "(I)I" } : Jvm.MethodName)) ∈ lw_all := lw_g (lw_at lw_m6 47 rfl) rfl
theorem q1347 : (Jvm.Cond.unhidden "IntentVats$LinenOne" "rubs" "(I)I") ∈ lw_tbl := lw_at lw_m6 48 rfl
theorem q1348 : (Jvm.Cond.instanceMethod ({ cls := "IntentVats$LinenOne", name := "rubs", desc := "(I)I" } : Jvm.MethodName)) ∈ lw_all := lw_g (lw_at lw_m6 49 rfl) rfl
theorem q1349 : (Jvm.Cond.publicMethod ({ cls := "IntentVats$LinenOne", name := "rubs", desc := "(I)I" } : Jvm.MethodName)) ∈ lw_tbl := lw_at lw_m6 50 rfl
theorem q1350 : (Jvm.Cond.code ({ cls := "IntentVats$LinenOne", name := "rubs", desc := "(I)I" } : Jvm.MethodName) prog_10_method_2_code (2 : Nat) (Option.some Jvm.ClassFile.FieldType.int)) ∈ lw_all := lw_g (lw_at lw_m6 51 rfl) rfl
theorem q1351 : (Jvm.Cond.methodLinkNest "IntentVats$LinenOne" (13 : Nat) ({ cls := "IntentVats", name := "ran", desc := "(I)V" } : Jvm.MethodName) "IntentVats") ∈ lw_tbl := lw_at lw_m6 52 rfl
theorem q1352 : (Jvm.Cond.methodLink "IntentVats$LinenOne" (19 : Nat) ({ cls := "IntentVats$AnyOne", name := "rubs", desc := "(I)I" } : Jvm.MethodName)) ∈ lw_all := lw_g (lw_at lw_m6 53 rfl) rfl
theorem q1382 : (Jvm.Cond.castable "IntentVats$LinenOne" "IntentVats$RubsAct") ∈ lw_tbl := lw_at lw_m6 83 rfl
theorem q1397 : (Jvm.Cond.selects "IntentVats$LinenOne" ({ cls := "IntentVats$RubsAct", name := "theme", desc := "()I" } : Jvm.MethodName) ({ cls := "IntentVats$AnyOne", name := "theme", desc := "()I" } : Jvm.MethodName)) ∈ lw_all := lw_g (lw_at lw_m6 98 rfl) rfl
theorem q1398 : (Jvm.Cond.unhidden "IntentVats$LinenOne" "theme" "()I") ∈ lw_tbl := lw_at lw_m6 99 rfl
theorem q1412 : (Jvm.Cond.selects "IntentVats$LinenOne" ({ cls := "IntentVats$RubsAct", name := "steeps", desc := "(I)I" } : Jvm.MethodName) ({ cls := "IntentVats$AnyOne", name := "steeps", desc := "(I)I" } : Jvm.MethodName)) ∈ lw_all := lw_g (lw_at lw_m6 113 rfl) rfl
theorem q1413 : (Jvm.Cond.unhidden "IntentVats$LinenOne" "steeps" "(I)I") ∈ lw_tbl := lw_at lw_m6 114 rfl
theorem q1422 : (Jvm.Cond.sameMethod "IntentVats$LinenOne" "IntentVats$AnyOne" "steeps" "(I)I") ∈ lw_all := lw_g (lw_at lw_m6 123 rfl) rfl
theorem q1443 : (Jvm.Cond.selects "IntentVats$LinenOne" ({ cls := "IntentVats$PartsAct", name := "parts", desc := "(I)I" } : Jvm.MethodName) ({ cls := "IntentVats$AnyOne", name := "parts", desc := "(I)I" } : Jvm.MethodName)) ∈ lw_all := lw_g (lw_at lw_m6 144 rfl) rfl
theorem q1444 : (Jvm.Cond.unhidden "IntentVats$LinenOne" "parts" "(I)I") ∈ lw_tbl := lw_at lw_m6 145 rfl
theorem q1471 : (Jvm.Cond.selects "IntentVats$LinenOne" ({ cls := "IntentVats$Dries", name := "dries", desc := "(I)I" } : Jvm.MethodName) ({ cls := "IntentVats$LinenOne", name := "dries", desc := "(I)I" } : Jvm.MethodName)) ∈ lw_all := lw_g (lw_at lw_m6 172 rfl) rfl
theorem q1472 : (Jvm.Cond.unhidden "IntentVats$LinenOne" "dries" "(I)I") ∈ lw_tbl := lw_at lw_m6 173 rfl
theorem q1473 : (Jvm.Cond.instanceMethod ({ cls := "IntentVats$LinenOne", name := "dries", desc := "(I)I" } : Jvm.MethodName)) ∈ lw_all := lw_g (lw_at lw_m6 174 rfl) rfl
theorem q1474 : (Jvm.Cond.publicMethod ({ cls := "IntentVats$LinenOne", name := "dries", desc := "(I)I" } : Jvm.MethodName)) ∈ lw_tbl := lw_at lw_m6 175 rfl
theorem q1475 : (Jvm.Cond.code ({ cls := "IntentVats$LinenOne", name := "dries", desc := "(I)I" } : Jvm.MethodName) prog_10_method_3_code (3 : Nat) (Option.some Jvm.ClassFile.FieldType.int)) ∈ lw_all := lw_g (lw_at lw_m6 176 rfl) rfl
theorem q1476 : (Jvm.Cond.methodLink "IntentVats$LinenOne" (23 : Nat) ({ cls := "IntentVats$AnyOne", name := "dries", desc := "(I)I" } : Jvm.MethodName)) ∈ lw_all := lw_g (lw_at lw_m6 177 rfl) rfl
theorem q1477 : (Jvm.Cond.methodLink "IntentVats$LinenOne" (30 : Nat) ({ cls := "IntentVats$LinenOne", name := "parts", desc := "(I)I" } : Jvm.MethodName)) ∈ lw_all := lw_g (lw_at lw_m6 178 rfl) rfl
theorem q1478 : (Jvm.Cond.sameMethod "IntentVats$LinenOne" "IntentVats$AnyOne" "parts" "(I)I") ∈ lw_all := lw_g (lw_at lw_m6 179 rfl) rfl
theorem q1479 : (Jvm.Cond.selects "IntentVats$LinenOne" ({ cls := "IntentVats$LinenOne", name := "parts", desc := "(I)I" } : Jvm.MethodName) ({ cls := "IntentVats$AnyOne", name := "parts", desc := "(I)I" } : Jvm.MethodName)) ∈ lw_all := lw_g (lw_at lw_m6 180 rfl) rfl
theorem q2099 : (Jvm.Cond.sameMethod "IntentVats$LinenOne" "IntentVats$LinenOne" "rubs" "(I)I") ∈ lw_all := lw_g (lw_at lw_m9 80 rfl) rfl
theorem q2105 : (Jvm.Cond.selects "IntentVats$LinenOne" ({ cls := "IntentVats$AnyOne", name := "steeps", desc := "(I)I" } : Jvm.MethodName) ({ cls := "IntentVats$AnyOne", name := "steeps", desc := "(I)I" } : Jvm.MethodName)) ∈ lw_all := lw_g (lw_at lw_m9 86 rfl) rfl
theorem q2112 : (Jvm.Cond.castable "IntentVats$LinenOne" "IntentVats$AnyOne") ∈ lw_tbl := lw_at lw_m9 93 rfl
theorem in_X18 : ∀ w ∈ wsX180, w ∈ lw_all := lw_in wsX180 [1214, 1215, 1216, 1212] (by decide +kernel) (by decide +kernel)
/-! IntentVats$FeltOne -/
set_option maxRecDepth 100000
def RX19 : String := "IntentVats$FeltOne"
def TX19 : u_T := fun k => match k with
  | 0 => ("IntentVats$AnyOne", "number", "I", true)
  | 1 => ("IntentVats$AnyOne", "theme", "I", true)
  | 2 => ("IntentVats$AnyOne", "this$0", "LIntentVats;", true)
  | 3 => ("IntentVats$WoolOne", "this$0", "LIntentVats;", true)
  | _ => ("IntentVats$FeltOne", "this$0", "LIntentVats;", true)
def tyX19 : Nat → FieldType := fun k => match k with
  | 0 => .int
  | 1 => .int
  | 2 => .object "IntentVats"
  | 3 => .object "IntentVats"
  | _ => .object "IntentVats"
abbrev wsX190 : List Cond := u_ws RX19 TX19 5
-- two fields of one name: no nmX19
theorem tyX19_ok : ∀ k, k < 5 → parseFieldDescriptor (TX19 k).2.2.1 = some (tyX19 k) := by decide +kernel
abbrev cX19_init : ByteArray := prog_7_method_1_code
def yX19_init : MethodName := ⟨RX19, "<init>", "(LIntentVats;II)V"⟩
def dkwX19_init_0 : List UInt8 := [42, 43, 181, 0, 1, 42, 43, 28, 29, 183, 0, 7, 177]
abbrev dktX19_init_0 : List UInt8 := dkwX19_init_0 ++ []
theorem dksX19_init_0 : cX19_init.data.toList.drop 0 = dktX19_init_0 := by decide +kernel
theorem dX19_init_0 : decode cX19_init 0 = .ok (.aload_n 0, 1) := dk_42 (dk_at dksX19_init_0 0 rfl rfl)
theorem dX19_init_1 : decode cX19_init 1 = .ok (.aload_n 1, 1) := dk_43 (dk_at dksX19_init_0 1 rfl rfl)
theorem dX19_init_2 : decode cX19_init 2 = .ok (.putfield 1, 3) := dk_181 0 1 (dk_at dksX19_init_0 2 rfl rfl)
theorem dX19_init_5 : decode cX19_init 5 = .ok (.aload_n 0, 1) := dk_42 (dk_at dksX19_init_0 5 rfl rfl)
theorem dX19_init_6 : decode cX19_init 6 = .ok (.aload_n 1, 1) := dk_43 (dk_at dksX19_init_0 6 rfl rfl)
theorem dX19_init_7 : decode cX19_init 7 = .ok (.iload_n 2, 1) := dk_28 (dk_at dksX19_init_0 7 rfl rfl)
theorem dX19_init_8 : decode cX19_init 8 = .ok (.iload_n 3, 1) := dk_29 (dk_at dksX19_init_0 8 rfl rfl)
theorem dX19_init_9 : decode cX19_init 9 = .ok (.invokespecial 7, 3) := dk_183 0 7 (dk_at dksX19_init_0 9 rfl rfl)
theorem dX19_init_12 : decode cX19_init 12 = .ok (.return_, 1) := dk_177 (dk_at dksX19_init_0 12 rfl rfl)
abbrev cX19_rubs : ByteArray := prog_7_method_3_code
def yX19_rubs : MethodName := ⟨RX19, "rubs", "(I)I"⟩
def dkwX19_rubs_0 : List UInt8 := [42, 180, 0, 1, 16, 51, 182, 0, 13, 42, 27, 183, 0, 27, 5, 100, 172]
abbrev dktX19_rubs_0 : List UInt8 := dkwX19_rubs_0 ++ []
theorem dksX19_rubs_0 : cX19_rubs.data.toList.drop 0 = dktX19_rubs_0 := by decide +kernel
theorem dX19_rubs_0 : decode cX19_rubs 0 = .ok (.aload_n 0, 1) := dk_42 (dk_at dksX19_rubs_0 0 rfl rfl)
theorem dX19_rubs_1 : decode cX19_rubs 1 = .ok (.getfield 1, 3) := dk_180 0 1 (dk_at dksX19_rubs_0 1 rfl rfl)
theorem dX19_rubs_4 : decode cX19_rubs 4 = .ok (.bipush 51, 2) := dk_16 51 (dk_at dksX19_rubs_0 4 rfl rfl)
theorem dX19_rubs_6 : decode cX19_rubs 6 = .ok (.invokevirtual 13, 3) := dk_182 0 13 (dk_at dksX19_rubs_0 6 rfl rfl)
theorem dX19_rubs_9 : decode cX19_rubs 9 = .ok (.aload_n 0, 1) := dk_42 (dk_at dksX19_rubs_0 9 rfl rfl)
theorem dX19_rubs_10 : decode cX19_rubs 10 = .ok (.iload_n 1, 1) := dk_27 (dk_at dksX19_rubs_0 10 rfl rfl)
theorem dX19_rubs_11 : decode cX19_rubs 11 = .ok (.invokespecial 27, 3) := dk_183 0 27 (dk_at dksX19_rubs_0 11 rfl rfl)
theorem dX19_rubs_14 : decode cX19_rubs 14 = .ok (.iconst 2, 1) := dk_5 (dk_at dksX19_rubs_0 14 rfl rfl)
theorem dX19_rubs_15 : decode cX19_rubs 15 = .ok (.isub, 1) := dk_100 (dk_at dksX19_rubs_0 15 rfl rfl)
theorem dX19_rubs_16 : decode cX19_rubs 16 = .ok (.ireturn, 1) := dk_172 (dk_at dksX19_rubs_0 16 rfl rfl)
abbrev cX19_parts : ByteArray := prog_7_method_2_code
def yX19_parts : MethodName := ⟨RX19, "parts", "(I)I"⟩
def dkwX19_parts_0 : List UInt8 := [42, 180, 0, 1, 16, 50, 182, 0, 13, 42, 27, 6, 96, 183, 0, 19, 42, 180, 0, 23, 96, 172]
abbrev dktX19_parts_0 : List UInt8 := dkwX19_parts_0 ++ []
theorem dksX19_parts_0 : cX19_parts.data.toList.drop 0 = dktX19_parts_0 := by decide +kernel
theorem dX19_parts_0 : decode cX19_parts 0 = .ok (.aload_n 0, 1) := dk_42 (dk_at dksX19_parts_0 0 rfl rfl)
theorem dX19_parts_1 : decode cX19_parts 1 = .ok (.getfield 1, 3) := dk_180 0 1 (dk_at dksX19_parts_0 1 rfl rfl)
theorem dX19_parts_4 : decode cX19_parts 4 = .ok (.bipush 50, 2) := dk_16 50 (dk_at dksX19_parts_0 4 rfl rfl)
theorem dX19_parts_6 : decode cX19_parts 6 = .ok (.invokevirtual 13, 3) := dk_182 0 13 (dk_at dksX19_parts_0 6 rfl rfl)
theorem dX19_parts_9 : decode cX19_parts 9 = .ok (.aload_n 0, 1) := dk_42 (dk_at dksX19_parts_0 9 rfl rfl)
theorem dX19_parts_10 : decode cX19_parts 10 = .ok (.iload_n 1, 1) := dk_27 (dk_at dksX19_parts_0 10 rfl rfl)
theorem dX19_parts_11 : decode cX19_parts 11 = .ok (.iconst 3, 1) := dk_6 (dk_at dksX19_parts_0 11 rfl rfl)
theorem dX19_parts_12 : decode cX19_parts 12 = .ok (.iadd, 1) := dk_96 (dk_at dksX19_parts_0 12 rfl rfl)
theorem dX19_parts_13 : decode cX19_parts 13 = .ok (.invokespecial 19, 3) := dk_183 0 19 (dk_at dksX19_parts_0 13 rfl rfl)
theorem dX19_parts_16 : decode cX19_parts 16 = .ok (.aload_n 0, 1) := dk_42 (dk_at dksX19_parts_0 16 rfl rfl)
theorem dX19_parts_17 : decode cX19_parts 17 = .ok (.getfield 23, 3) := dk_180 0 23 (dk_at dksX19_parts_0 17 rfl rfl)
theorem dX19_parts_20 : decode cX19_parts 20 = .ok (.iadd, 1) := dk_96 (dk_at dksX19_parts_0 20 rfl rfl)
theorem dX19_parts_21 : decode cX19_parts 21 = .ok (.ireturn, 1) := dk_172 (dk_at dksX19_parts_0 21 rfl rfl)
theorem q130 : (Jvm.Cond.initialized "IntentVats$FeltOne") ∈ lw_all := lw_g (lw_at lw_m1 31 rfl) rfl
theorem q1191 : (Jvm.Cond.fieldLink "IntentVats$FeltOne" (23 : Nat) "IntentVats$FeltOne" "theme" "I") ∈ lw_all := lw_g (lw_at lw_m5 132 rfl) rfl
theorem q1192 : (Jvm.Cond.sameField "IntentVats$FeltOne" "IntentVats$AnyOne" "theme" "I") ∈ lw_all := lw_g (lw_at lw_m5 133 rfl) rfl
theorem q1219 : (Jvm.Cond.instantiable "IntentVats$FeltOne" (5 : Nat)) ∈ lw_all := lw_g (lw_at lw_m5 160 rfl) rfl
theorem q1221 : (Jvm.Cond.instanceMethod ({ cls := "IntentVats$FeltOne", name := "<init>", desc := "(LIntentVats;II)V" } : Jvm.MethodName)) ∈ lw_all := lw_g (lw_at lw_m5 162 rfl) rfl
theorem q1222 : (Jvm.Cond.code ({ cls := "IntentVats$FeltOne", name := "<init>", desc := "(LIntentVats;II)V" } : Jvm.MethodName) prog_7_method_1_code (4 : Nat) (Option.none : Option Jvm.ClassFile.FieldType)) ∈ lw_all := lw_g (lw_at lw_m5 163 rfl) rfl
theorem q1223 : (Jvm.Cond.methodLink "IntentVats$FeltOne" (7 : Nat) ({ cls := "IntentVats$WoolOne", name := "<init>", desc := "(LIntentVats;II)V" } : Jvm.MethodName)) ∈ lw_all := lw_g (lw_at lw_m5 164 rfl) rfl
theorem q1224 : (Jvm.Cond.fieldLink "IntentVats$FeltOne" (1 : Nat) "IntentVats$FeltOne" "this$0" "LIntentVats;") ∈ lw_all := lw_g (lw_at lw_m5 165 rfl) rfl
theorem q1225 : (Jvm.Cond.laysFinal "IntentVats$FeltOne" "IntentVats$FeltOne" "this$0" "LIntentVats;") ∈ lw_all := lw_g (lw_at lw_m5 166 rfl) rfl
theorem q1226 : (Jvm.Cond.soleField "IntentVats$FeltOne" "this$0") ∈ lw_all := lw_g (lw_at lw_m5 167 rfl) rfl
theorem q1227 : (Jvm.Cond.laysFinal "IntentVats$FeltOne" "IntentVats$WoolOne" "this$0" "LIntentVats;") ∈ lw_all := lw_g (lw_at lw_m5 168 rfl) rfl
theorem q1228 : (Jvm.Cond.laysFinal "IntentVats$FeltOne" "IntentVats$AnyOne" "number" "I") ∈ lw_all := lw_g (lw_at lw_m5 169 rfl) rfl
theorem q1229 : (Jvm.Cond.laysFinal "IntentVats$FeltOne" "IntentVats$AnyOne" "theme" "I") ∈ lw_all := lw_g (lw_at lw_m5 170 rfl) rfl
theorem q1230 : (Jvm.Cond.laysFinal "IntentVats$FeltOne" "IntentVats$AnyOne" "this$0" "LIntentVats;") ∈ lw_all := lw_g (lw_at lw_m5 171 rfl) rfl
theorem q1231 : (Jvm.Cond.superclass "IntentVats$FeltOne" "IntentVats$WoolOne") ∈ lw_all := lw_g (lw_at lw_m5 172 rfl) rfl
theorem q1273 : (Jvm.Cond.selects "IntentVats$FeltOne" ({ cls := "IntentVats$AnyOne", name := "its", desc := "()I" } : Jvm.MethodName) ({ cls := "IntentVats$AnyOne", name := "its", desc := "()I" } : Jvm.MethodName)) ∈ lw_all := lw_g (lw_at lw_m5 214 rfl) rfl
theorem q1282 : (Jvm.Cond.selects "IntentVats$FeltOne" ({ cls := "IntentVats$WoolOne", name := "its", desc := "()I" } : Jvm.MethodName) ({ cls := "IntentVats$AnyOne", name := "its", desc := "()I" } : Jvm.MethodName)) ∈ lw_all := lw_g (lw_at lw_m5 223 rfl) rfl
theorem q1289 : (Jvm.Cond.sameMethod "IntentVats$FeltOne" "IntentVats$AnyOne" "its" "()I") ∈ lw_all := lw_g (lw_at lw_m5 230 rfl) rfl
theorem q1290 : (Jvm.Cond.selects "IntentVats$FeltOne" ({ cls := "IntentVats$FeltOne", name := "its", desc := "()I" } : Jvm.MethodName) ({ cls := "IntentVats$AnyOne", name := "its", desc := "()I" } : Jvm.MethodName)) ∈ lw_all := lw_g (lw_at lw_m5 231 rfl) rfl
theorem q1335 : (Jvm.Cond.castable "IntentVats$FeltOne" "IntentVats$Dries") ∈ lw_tbl := lw_at lw_m6 36 rfl
theorem q1336 : (Jvm.Cond.selects "IntentVats$FeltOne" ({ cls := "IntentVats$RubsAct", name := "rubs", desc := "(I)I" } : Jvm.MethodName) ({ cls := "IntentVats$FeltOne", name := "rubs", desc := "(I)I" } : Jvm.MethodName)) ∈ lw_all := lw_g (lw_at lw_m6 37 rfl) rfl
theorem q1337 : (Jvm.Cond.unhidden "IntentVats$FeltOne" "rubs" "(I)I") ∈ lw_tbl := lw_at lw_m6 38 rfl
theorem q1338 : (Jvm.Cond.instanceMethod ({ cls := "IntentVats$FeltOne", name := "rubs", desc := "(I)I" } : Jvm.MethodName)) ∈ lw_all := lw_g (lw_at lw_m6 39 rfl) rfl
theorem q1339 : (Jvm.Cond.publicMethod ({ cls := "IntentVats$FeltOne", name := "rubs", desc := "(I)I" } : Jvm.MethodName)) ∈ lw_tbl := lw_at lw_m6 40 rfl
theorem q1340 : (Jvm.Cond.code ({ cls := "IntentVats$FeltOne", name := "rubs", desc := "(I)I" } : Jvm.MethodName) prog_7_method_3_code (2 : Nat) (Option.some Jvm.ClassFile.FieldType.int)) ∈ lw_all := lw_g (lw_at lw_m6 41 rfl) rfl
theorem q1341 : (Jvm.Cond.methodLinkNest "IntentVats$FeltOne" (13 : Nat) ({ cls := "IntentVats", name := "ran", desc := "(I)V" } : Jvm.MethodName) "IntentVats") ∈ lw_tbl := lw_at lw_m6 42 rfl
theorem q1342 : (Jvm.Cond.methodLink "IntentVats$FeltOne" (27 : Nat) ({ cls := "IntentVats$WoolOne", name := "rubs", desc := "(I)I" } : Jvm.MethodName)) ∈ lw_all := lw_g (lw_at lw_m6 43 rfl) rfl
theorem q1381 : (Jvm.Cond.castable "IntentVats$FeltOne" "IntentVats$RubsAct") ∈ lw_tbl := lw_at lw_m6 82 rfl
theorem q1395 : (Jvm.Cond.selects "IntentVats$FeltOne" ({ cls := "IntentVats$RubsAct", name := "theme", desc := "()I" } : Jvm.MethodName) ({ cls := "IntentVats$AnyOne", name := "theme", desc := "()I" } : Jvm.MethodName)) ∈ lw_all := lw_g (lw_at lw_m6 96 rfl) rfl
theorem q1396 : (Jvm.Cond.unhidden "IntentVats$FeltOne" "theme" "()I") ∈ lw_tbl := lw_at lw_m6 97 rfl
theorem q1405 : (Jvm.Cond.selects "IntentVats$FeltOne" ({ cls := "IntentVats$RubsAct", name := "steeps", desc := "(I)I" } : Jvm.MethodName) ({ cls := "IntentVats$WoolOne", name := "steeps", desc := "(I)I" } : Jvm.MethodName)) ∈ lw_all := lw_g (lw_at lw_m6 106 rfl) rfl
theorem q1406 : (Jvm.Cond.unhidden "IntentVats$FeltOne" "steeps" "(I)I") ∈ lw_tbl := lw_at lw_m6 107 rfl
theorem q1435 : (Jvm.Cond.selects "IntentVats$FeltOne" ({ cls := "IntentVats$PartsAct", name := "parts", desc := "(I)I" } : Jvm.MethodName) ({ cls := "IntentVats$FeltOne", name := "parts", desc := "(I)I" } : Jvm.MethodName)) ∈ lw_all := lw_g (lw_at lw_m6 136 rfl) rfl
theorem q1436 : (Jvm.Cond.unhidden "IntentVats$FeltOne" "parts" "(I)I") ∈ lw_tbl := lw_at lw_m6 137 rfl
theorem q1437 : (Jvm.Cond.instanceMethod ({ cls := "IntentVats$FeltOne", name := "parts", desc := "(I)I" } : Jvm.MethodName)) ∈ lw_all := lw_g (lw_at lw_m6 138 rfl) rfl
theorem q1438 : (Jvm.Cond.publicMethod ({ cls := "IntentVats$FeltOne", name := "parts", desc := "(I)I" } : Jvm.MethodName)) ∈ lw_tbl := lw_at lw_m6 139 rfl
theorem q1439 : (Jvm.Cond.code ({ cls := "IntentVats$FeltOne", name := "parts", desc := "(I)I" } : Jvm.MethodName) prog_7_method_2_code (2 : Nat) (Option.some Jvm.ClassFile.FieldType.int)) ∈ lw_all := lw_g (lw_at lw_m6 140 rfl) rfl
theorem q1440 : (Jvm.Cond.methodLink "IntentVats$FeltOne" (19 : Nat) ({ cls := "IntentVats$WoolOne", name := "parts", desc := "(I)I" } : Jvm.MethodName)) ∈ lw_all := lw_g (lw_at lw_m6 141 rfl) rfl
theorem q1469 : (Jvm.Cond.selects "IntentVats$FeltOne" ({ cls := "IntentVats$Dries", name := "dries", desc := "(I)I" } : Jvm.MethodName) ({ cls := "IntentVats$AnyOne", name := "dries", desc := "(I)I" } : Jvm.MethodName)) ∈ lw_all := lw_g (lw_at lw_m6 170 rfl) rfl
theorem q1470 : (Jvm.Cond.unhidden "IntentVats$FeltOne" "dries" "(I)I") ∈ lw_tbl := lw_at lw_m6 171 rfl
theorem q2104 : (Jvm.Cond.selects "IntentVats$FeltOne" ({ cls := "IntentVats$AnyOne", name := "steeps", desc := "(I)I" } : Jvm.MethodName) ({ cls := "IntentVats$WoolOne", name := "steeps", desc := "(I)I" } : Jvm.MethodName)) ∈ lw_all := lw_g (lw_at lw_m9 85 rfl) rfl
theorem q2111 : (Jvm.Cond.castable "IntentVats$FeltOne" "IntentVats$AnyOne") ∈ lw_tbl := lw_at lw_m9 92 rfl
theorem q2116 : (Jvm.Cond.castable "IntentVats$FeltOne" "IntentVats$WoolOne") ∈ lw_tbl := lw_at lw_m9 97 rfl
theorem in_X19 : ∀ w ∈ wsX190, w ∈ lw_all := lw_in wsX190 [1228, 1229, 1230, 1227, 1225] (by decide +kernel) (by decide +kernel)
/-! IntentVats$ShroudOne -/
set_option maxRecDepth 100000
def RX20 : String := "IntentVats$ShroudOne"
def TX20 : u_T := fun k => match k with
  | 0 => ("IntentVats$AnyOne", "number", "I", true)
  | 1 => ("IntentVats$AnyOne", "theme", "I", true)
  | 2 => ("IntentVats$AnyOne", "this$0", "LIntentVats;", true)
  | 3 => ("IntentVats$LinenOne", "this$0", "LIntentVats;", true)
  | _ => ("IntentVats$ShroudOne", "this$0", "LIntentVats;", true)
def tyX20 : Nat → FieldType := fun k => match k with
  | 0 => .int
  | 1 => .int
  | 2 => .object "IntentVats"
  | 3 => .object "IntentVats"
  | _ => .object "IntentVats"
abbrev wsX200 : List Cond := u_ws RX20 TX20 5
-- two fields of one name: no nmX20
theorem tyX20_ok : ∀ k, k < 5 → parseFieldDescriptor (TX20 k).2.2.1 = some (tyX20 k) := by decide +kernel
abbrev cX20_init : ByteArray := prog_23_method_1_code
def yX20_init : MethodName := ⟨RX20, "<init>", "(LIntentVats;II)V"⟩
def dkwX20_init_0 : List UInt8 := [42, 43, 181, 0, 1, 42, 43, 28, 29, 183, 0, 7, 177]
abbrev dktX20_init_0 : List UInt8 := dkwX20_init_0 ++ []
theorem dksX20_init_0 : cX20_init.data.toList.drop 0 = dktX20_init_0 := by decide +kernel
theorem dX20_init_0 : decode cX20_init 0 = .ok (.aload_n 0, 1) := dk_42 (dk_at dksX20_init_0 0 rfl rfl)
theorem dX20_init_1 : decode cX20_init 1 = .ok (.aload_n 1, 1) := dk_43 (dk_at dksX20_init_0 1 rfl rfl)
theorem dX20_init_2 : decode cX20_init 2 = .ok (.putfield 1, 3) := dk_181 0 1 (dk_at dksX20_init_0 2 rfl rfl)
theorem dX20_init_5 : decode cX20_init 5 = .ok (.aload_n 0, 1) := dk_42 (dk_at dksX20_init_0 5 rfl rfl)
theorem dX20_init_6 : decode cX20_init 6 = .ok (.aload_n 1, 1) := dk_43 (dk_at dksX20_init_0 6 rfl rfl)
theorem dX20_init_7 : decode cX20_init 7 = .ok (.iload_n 2, 1) := dk_28 (dk_at dksX20_init_0 7 rfl rfl)
theorem dX20_init_8 : decode cX20_init 8 = .ok (.iload_n 3, 1) := dk_29 (dk_at dksX20_init_0 8 rfl rfl)
theorem dX20_init_9 : decode cX20_init 9 = .ok (.invokespecial 7, 3) := dk_183 0 7 (dk_at dksX20_init_0 9 rfl rfl)
theorem dX20_init_12 : decode cX20_init 12 = .ok (.return_, 1) := dk_177 (dk_at dksX20_init_0 12 rfl rfl)
abbrev cX20_rubs : ByteArray := prog_23_method_2_code
def yX20_rubs : MethodName := ⟨RX20, "rubs", "(I)I"⟩
def dkwX20_rubs_0 : List UInt8 := [42, 180, 0, 1, 16, 40, 182, 0, 13, 3, 42, 27, 183, 0, 19, 100, 172]
abbrev dktX20_rubs_0 : List UInt8 := dkwX20_rubs_0 ++ []
theorem dksX20_rubs_0 : cX20_rubs.data.toList.drop 0 = dktX20_rubs_0 := by decide +kernel
theorem dX20_rubs_0 : decode cX20_rubs 0 = .ok (.aload_n 0, 1) := dk_42 (dk_at dksX20_rubs_0 0 rfl rfl)
theorem dX20_rubs_1 : decode cX20_rubs 1 = .ok (.getfield 1, 3) := dk_180 0 1 (dk_at dksX20_rubs_0 1 rfl rfl)
theorem dX20_rubs_4 : decode cX20_rubs 4 = .ok (.bipush 40, 2) := dk_16 40 (dk_at dksX20_rubs_0 4 rfl rfl)
theorem dX20_rubs_6 : decode cX20_rubs 6 = .ok (.invokevirtual 13, 3) := dk_182 0 13 (dk_at dksX20_rubs_0 6 rfl rfl)
theorem dX20_rubs_9 : decode cX20_rubs 9 = .ok (.iconst 0, 1) := dk_3 (dk_at dksX20_rubs_0 9 rfl rfl)
theorem dX20_rubs_10 : decode cX20_rubs 10 = .ok (.aload_n 0, 1) := dk_42 (dk_at dksX20_rubs_0 10 rfl rfl)
theorem dX20_rubs_11 : decode cX20_rubs 11 = .ok (.iload_n 1, 1) := dk_27 (dk_at dksX20_rubs_0 11 rfl rfl)
theorem dX20_rubs_12 : decode cX20_rubs 12 = .ok (.invokespecial 19, 3) := dk_183 0 19 (dk_at dksX20_rubs_0 12 rfl rfl)
theorem dX20_rubs_15 : decode cX20_rubs 15 = .ok (.isub, 1) := dk_100 (dk_at dksX20_rubs_0 15 rfl rfl)
theorem dX20_rubs_16 : decode cX20_rubs 16 = .ok (.ireturn, 1) := dk_172 (dk_at dksX20_rubs_0 16 rfl rfl)
abbrev cX20_steeps : ByteArray := prog_23_method_3_code
def yX20_steeps : MethodName := ⟨RX20, "steeps", "(I)I"⟩
def dkwX20_steeps_1 : List UInt8 := [130, 172]
abbrev dktX20_steeps_1 : List UInt8 := dkwX20_steeps_1 ++ []
def dkwX20_steeps_0 : List UInt8 := [42, 180, 0, 1, 16, 41, 182, 0, 13, 42, 27, 183, 0, 23, 61, 28, 42, 42, 180, 0, 26, 182, 0, 30]
abbrev dktX20_steeps_0 : List UInt8 := dkwX20_steeps_0 ++ dktX20_steeps_1
theorem dksX20_steeps_0 : cX20_steeps.data.toList.drop 0 = dktX20_steeps_0 := by decide +kernel
theorem dksX20_steeps_1 : cX20_steeps.data.toList.drop 24 = dktX20_steeps_1 := dk_seg dksX20_steeps_0 24 rfl rfl
theorem dX20_steeps_0 : decode cX20_steeps 0 = .ok (.aload_n 0, 1) := dk_42 (dk_at dksX20_steeps_0 0 rfl rfl)
theorem dX20_steeps_1 : decode cX20_steeps 1 = .ok (.getfield 1, 3) := dk_180 0 1 (dk_at dksX20_steeps_0 1 rfl rfl)
theorem dX20_steeps_4 : decode cX20_steeps 4 = .ok (.bipush 41, 2) := dk_16 41 (dk_at dksX20_steeps_0 4 rfl rfl)
theorem dX20_steeps_6 : decode cX20_steeps 6 = .ok (.invokevirtual 13, 3) := dk_182 0 13 (dk_at dksX20_steeps_0 6 rfl rfl)
theorem dX20_steeps_9 : decode cX20_steeps 9 = .ok (.aload_n 0, 1) := dk_42 (dk_at dksX20_steeps_0 9 rfl rfl)
theorem dX20_steeps_10 : decode cX20_steeps 10 = .ok (.iload_n 1, 1) := dk_27 (dk_at dksX20_steeps_0 10 rfl rfl)
theorem dX20_steeps_11 : decode cX20_steeps 11 = .ok (.invokespecial 23, 3) := dk_183 0 23 (dk_at dksX20_steeps_0 11 rfl rfl)
theorem dX20_steeps_14 : decode cX20_steeps 14 = .ok (.istore_n 2, 1) := dk_61 (dk_at dksX20_steeps_0 14 rfl rfl)
theorem dX20_steeps_15 : decode cX20_steeps 15 = .ok (.iload_n 2, 1) := dk_28 (dk_at dksX20_steeps_0 15 rfl rfl)
theorem dX20_steeps_16 : decode cX20_steeps 16 = .ok (.aload_n 0, 1) := dk_42 (dk_at dksX20_steeps_0 16 rfl rfl)
theorem dX20_steeps_17 : decode cX20_steeps 17 = .ok (.aload_n 0, 1) := dk_42 (dk_at dksX20_steeps_0 17 rfl rfl)
theorem dX20_steeps_18 : decode cX20_steeps 18 = .ok (.getfield 26, 3) := dk_180 0 26 (dk_at dksX20_steeps_0 18 rfl rfl)
theorem dX20_steeps_21 : decode cX20_steeps 21 = .ok (.invokevirtual 30, 3) := dk_182 0 30 (dk_at dksX20_steeps_0 21 rfl rfl)
theorem dX20_steeps_24 : decode cX20_steeps 24 = .ok (.ixor, 1) := dk_130 (dk_at dksX20_steeps_1 0 rfl rfl)
theorem dX20_steeps_25 : decode cX20_steeps 25 = .ok (.ireturn, 1) := dk_172 (dk_at dksX20_steeps_1 1 rfl rfl)
theorem q131 : (Jvm.Cond.initialized "IntentVats$ShroudOne") ∈ lw_all := lw_g (lw_at lw_m1 32 rfl) rfl
theorem q1193 : (Jvm.Cond.fieldLink "IntentVats$ShroudOne" (26 : Nat) "IntentVats$ShroudOne" "theme" "I") ∈ lw_all := lw_g (lw_at lw_m5 134 rfl) rfl
theorem q1194 : (Jvm.Cond.sameField "IntentVats$ShroudOne" "IntentVats$AnyOne" "theme" "I") ∈ lw_all := lw_g (lw_at lw_m5 135 rfl) rfl
theorem q1233 : (Jvm.Cond.instantiable "IntentVats$ShroudOne" (5 : Nat)) ∈ lw_all := lw_g (lw_at lw_m5 174 rfl) rfl
theorem q1235 : (Jvm.Cond.instanceMethod ({ cls := "IntentVats$ShroudOne", name := "<init>", desc := "(LIntentVats;II)V" } : Jvm.MethodName)) ∈ lw_all := lw_g (lw_at lw_m5 176 rfl) rfl
theorem q1236 : (Jvm.Cond.code ({ cls := "IntentVats$ShroudOne", name := "<init>", desc := "(LIntentVats;II)V" } : Jvm.MethodName) prog_23_method_1_code (4 : Nat) (Option.none : Option Jvm.ClassFile.FieldType)) ∈ lw_all := lw_g (lw_at lw_m5 177 rfl) rfl
theorem q1237 : (Jvm.Cond.methodLink "IntentVats$ShroudOne" (7 : Nat) ({ cls := "IntentVats$LinenOne", name := "<init>", desc := "(LIntentVats;II)V" } : Jvm.MethodName)) ∈ lw_all := lw_g (lw_at lw_m5 178 rfl) rfl
theorem q1238 : (Jvm.Cond.fieldLink "IntentVats$ShroudOne" (1 : Nat) "IntentVats$ShroudOne" "this$0" "LIntentVats;") ∈ lw_all := lw_g (lw_at lw_m5 179 rfl) rfl
theorem q1239 : (Jvm.Cond.laysFinal "IntentVats$ShroudOne" "IntentVats$ShroudOne" "this$0" "LIntentVats;") ∈ lw_all := lw_g (lw_at lw_m5 180 rfl) rfl
theorem q1240 : (Jvm.Cond.soleField "IntentVats$ShroudOne" "this$0") ∈ lw_all := lw_g (lw_at lw_m5 181 rfl) rfl
theorem q1241 : (Jvm.Cond.laysFinal "IntentVats$ShroudOne" "IntentVats$LinenOne" "this$0" "LIntentVats;") ∈ lw_all := lw_g (lw_at lw_m5 182 rfl) rfl
theorem q1242 : (Jvm.Cond.laysFinal "IntentVats$ShroudOne" "IntentVats$AnyOne" "number" "I") ∈ lw_all := lw_g (lw_at lw_m5 183 rfl) rfl
theorem q1243 : (Jvm.Cond.laysFinal "IntentVats$ShroudOne" "IntentVats$AnyOne" "theme" "I") ∈ lw_all := lw_g (lw_at lw_m5 184 rfl) rfl
theorem q1244 : (Jvm.Cond.laysFinal "IntentVats$ShroudOne" "IntentVats$AnyOne" "this$0" "LIntentVats;") ∈ lw_all := lw_g (lw_at lw_m5 185 rfl) rfl
theorem q1245 : (Jvm.Cond.superclass "IntentVats$ShroudOne" "IntentVats$LinenOne") ∈ lw_all := lw_g (lw_at lw_m5 186 rfl) rfl
theorem q1276 : (Jvm.Cond.selects "IntentVats$ShroudOne" ({ cls := "IntentVats$AnyOne", name := "its", desc := "()I" } : Jvm.MethodName) ({ cls := "IntentVats$AnyOne", name := "its", desc := "()I" } : Jvm.MethodName)) ∈ lw_all := lw_g (lw_at lw_m5 217 rfl) rfl
theorem q1287 : (Jvm.Cond.selects "IntentVats$ShroudOne" ({ cls := "IntentVats$LinenOne", name := "its", desc := "()I" } : Jvm.MethodName) ({ cls := "IntentVats$AnyOne", name := "its", desc := "()I" } : Jvm.MethodName)) ∈ lw_all := lw_g (lw_at lw_m5 228 rfl) rfl
theorem q1292 : (Jvm.Cond.sameMethod "IntentVats$ShroudOne" "IntentVats$AnyOne" "its" "()I") ∈ lw_all := lw_g (lw_at lw_m5 233 rfl) rfl
theorem q1293 : (Jvm.Cond.selects "IntentVats$ShroudOne" ({ cls := "IntentVats$ShroudOne", name := "its", desc := "()I" } : Jvm.MethodName) ({ cls := "IntentVats$AnyOne", name := "its", desc := "()I" } : Jvm.MethodName)) ∈ lw_all := lw_g (lw_at lw_m5 234 rfl) rfl
theorem q1356 : (Jvm.Cond.castable "IntentVats$ShroudOne" "IntentVats$Dries") ∈ lw_tbl := lw_at lw_m6 57 rfl
theorem q1357 : (Jvm.Cond.selects "IntentVats$ShroudOne" ({ cls := "IntentVats$RubsAct", name := "rubs", desc := "(I)I" } : Jvm.MethodName) ({ cls := "IntentVats$ShroudOne", name := "rubs", desc := "(I)I" } : Jvm.MethodName)) ∈ lw_all := lw_g (lw_at lw_m6 58 rfl) rfl
theorem q1358 : (Jvm.Cond.unhidden "IntentVats$ShroudOne" "rubs" "(I)I") ∈ lw_tbl := lw_at lw_m6 59 rfl
theorem q1359 : (Jvm.Cond.instanceMethod ({ cls := "IntentVats$ShroudOne", name := "rubs", desc := "(I)I" } : Jvm.MethodName)) ∈ lw_all := lw_g (lw_at lw_m6 60 rfl) rfl
theorem q1360 : (Jvm.Cond.publicMethod ({ cls := "IntentVats$ShroudOne", name := "rubs", desc := "(I)I" } : Jvm.MethodName)) ∈ lw_tbl := lw_at lw_m6 61 rfl
theorem q1361 : (Jvm.Cond.code ({ cls := "IntentVats$ShroudOne", name := "rubs", desc := "(I)I" } : Jvm.MethodName) prog_23_method_2_code (2 : Nat) (Option.some Jvm.ClassFile.FieldType.int)) ∈ lw_all := lw_g (lw_at lw_m6 62 rfl) rfl
theorem q1362 : (Jvm.Cond.methodLinkNest "IntentVats$ShroudOne" (13 : Nat) ({ cls := "IntentVats", name := "ran", desc := "(I)V" } : Jvm.MethodName) "IntentVats") ∈ lw_tbl := lw_at lw_m6 63 rfl
theorem q1363 : (Jvm.Cond.methodLink "IntentVats$ShroudOne" (19 : Nat) ({ cls := "IntentVats$LinenOne", name := "rubs", desc := "(I)I" } : Jvm.MethodName)) ∈ lw_all := lw_g (lw_at lw_m6 64 rfl) rfl
theorem q1384 : (Jvm.Cond.castable "IntentVats$ShroudOne" "IntentVats$RubsAct") ∈ lw_tbl := lw_at lw_m6 85 rfl
theorem q1401 : (Jvm.Cond.selects "IntentVats$ShroudOne" ({ cls := "IntentVats$RubsAct", name := "theme", desc := "()I" } : Jvm.MethodName) ({ cls := "IntentVats$AnyOne", name := "theme", desc := "()I" } : Jvm.MethodName)) ∈ lw_all := lw_g (lw_at lw_m6 102 rfl) rfl
theorem q1402 : (Jvm.Cond.unhidden "IntentVats$ShroudOne" "theme" "()I") ∈ lw_tbl := lw_at lw_m6 103 rfl
theorem q1416 : (Jvm.Cond.selects "IntentVats$ShroudOne" ({ cls := "IntentVats$RubsAct", name := "steeps", desc := "(I)I" } : Jvm.MethodName) ({ cls := "IntentVats$ShroudOne", name := "steeps", desc := "(I)I" } : Jvm.MethodName)) ∈ lw_all := lw_g (lw_at lw_m6 117 rfl) rfl
theorem q1417 : (Jvm.Cond.unhidden "IntentVats$ShroudOne" "steeps" "(I)I") ∈ lw_tbl := lw_at lw_m6 118 rfl
theorem q1418 : (Jvm.Cond.instanceMethod ({ cls := "IntentVats$ShroudOne", name := "steeps", desc := "(I)I" } : Jvm.MethodName)) ∈ lw_all := lw_g (lw_at lw_m6 119 rfl) rfl
theorem q1419 : (Jvm.Cond.publicMethod ({ cls := "IntentVats$ShroudOne", name := "steeps", desc := "(I)I" } : Jvm.MethodName)) ∈ lw_tbl := lw_at lw_m6 120 rfl
theorem q1420 : (Jvm.Cond.code ({ cls := "IntentVats$ShroudOne", name := "steeps", desc := "(I)I" } : Jvm.MethodName) prog_23_method_3_code (3 : Nat) (Option.some Jvm.ClassFile.FieldType.int)) ∈ lw_all := lw_g (lw_at lw_m6 121 rfl) rfl
theorem q1421 : (Jvm.Cond.methodLink "IntentVats$ShroudOne" (23 : Nat) ({ cls := "IntentVats$LinenOne", name := "steeps", desc := "(I)I" } : Jvm.MethodName)) ∈ lw_all := lw_g (lw_at lw_m6 122 rfl) rfl
theorem q1424 : (Jvm.Cond.methodLink "IntentVats$ShroudOne" (30 : Nat) ({ cls := "IntentVats$ShroudOne", name := "rubs", desc := "(I)I" } : Jvm.MethodName)) ∈ lw_all := lw_g (lw_at lw_m6 125 rfl) rfl
theorem q1455 : (Jvm.Cond.selects "IntentVats$ShroudOne" ({ cls := "IntentVats$PartsAct", name := "parts", desc := "(I)I" } : Jvm.MethodName) ({ cls := "IntentVats$AnyOne", name := "parts", desc := "(I)I" } : Jvm.MethodName)) ∈ lw_all := lw_g (lw_at lw_m6 156 rfl) rfl
theorem q1456 : (Jvm.Cond.unhidden "IntentVats$ShroudOne" "parts" "(I)I") ∈ lw_tbl := lw_at lw_m6 157 rfl
theorem q1480 : (Jvm.Cond.selects "IntentVats$ShroudOne" ({ cls := "IntentVats$LinenOne", name := "parts", desc := "(I)I" } : Jvm.MethodName) ({ cls := "IntentVats$AnyOne", name := "parts", desc := "(I)I" } : Jvm.MethodName)) ∈ lw_all := lw_g (lw_at lw_m6 181 rfl) rfl
theorem q1487 : (Jvm.Cond.selects "IntentVats$ShroudOne" ({ cls := "IntentVats$Dries", name := "dries", desc := "(I)I" } : Jvm.MethodName) ({ cls := "IntentVats$LinenOne", name := "dries", desc := "(I)I" } : Jvm.MethodName)) ∈ lw_all := lw_g (lw_at lw_m6 188 rfl) rfl
theorem q1488 : (Jvm.Cond.unhidden "IntentVats$ShroudOne" "dries" "(I)I") ∈ lw_tbl := lw_at lw_m6 189 rfl
theorem q2101 : (Jvm.Cond.selects "IntentVats$ShroudOne" ({ cls := "IntentVats$ShroudOne", name := "rubs", desc := "(I)I" } : Jvm.MethodName) ({ cls := "IntentVats$ShroudOne", name := "rubs", desc := "(I)I" } : Jvm.MethodName)) ∈ lw_all := lw_g (lw_at lw_m9 82 rfl) rfl
theorem q2107 : (Jvm.Cond.selects "IntentVats$ShroudOne" ({ cls := "IntentVats$AnyOne", name := "steeps", desc := "(I)I" } : Jvm.MethodName) ({ cls := "IntentVats$ShroudOne", name := "steeps", desc := "(I)I" } : Jvm.MethodName)) ∈ lw_all := lw_g (lw_at lw_m9 88 rfl) rfl
theorem q2114 : (Jvm.Cond.castable "IntentVats$ShroudOne" "IntentVats$AnyOne") ∈ lw_tbl := lw_at lw_m9 95 rfl
theorem q2117 : (Jvm.Cond.castable "IntentVats$ShroudOne" "IntentVats$LinenOne") ∈ lw_tbl := lw_at lw_m9 98 rfl
theorem in_X20 : ∀ w ∈ wsX200, w ∈ lw_all := lw_in wsX200 [1242, 1243, 1244, 1241, 1239] (by decide +kernel) (by decide +kernel)
/-! IntentVats$MuslinOne -/
set_option maxRecDepth 100000
def RX21 : String := "IntentVats$MuslinOne"
def TX21 : u_T := fun k => match k with
  | 0 => ("IntentVats$AnyOne", "number", "I", true)
  | 1 => ("IntentVats$AnyOne", "theme", "I", true)
  | 2 => ("IntentVats$AnyOne", "this$0", "LIntentVats;", true)
  | _ => ("IntentVats$MuslinOne", "this$0", "LIntentVats;", true)
def tyX21 : Nat → FieldType := fun k => match k with
  | 0 => .int
  | 1 => .int
  | 2 => .object "IntentVats"
  | _ => .object "IntentVats"
abbrev wsX210 : List Cond := u_ws RX21 TX21 4
-- two fields of one name: no nmX21
theorem tyX21_ok : ∀ k, k < 4 → parseFieldDescriptor (TX21 k).2.2.1 = some (tyX21 k) := by decide +kernel
abbrev cX21_init : ByteArray := prog_13_method_1_code
def yX21_init : MethodName := ⟨RX21, "<init>", "(LIntentVats;II)V"⟩
def dkwX21_init_0 : List UInt8 := [42, 43, 181, 0, 1, 42, 43, 28, 29, 183, 0, 7, 177]
abbrev dktX21_init_0 : List UInt8 := dkwX21_init_0 ++ []
theorem dksX21_init_0 : cX21_init.data.toList.drop 0 = dktX21_init_0 := by decide +kernel
theorem dX21_init_0 : decode cX21_init 0 = .ok (.aload_n 0, 1) := dk_42 (dk_at dksX21_init_0 0 rfl rfl)
theorem dX21_init_1 : decode cX21_init 1 = .ok (.aload_n 1, 1) := dk_43 (dk_at dksX21_init_0 1 rfl rfl)
theorem dX21_init_2 : decode cX21_init 2 = .ok (.putfield 1, 3) := dk_181 0 1 (dk_at dksX21_init_0 2 rfl rfl)
theorem dX21_init_5 : decode cX21_init 5 = .ok (.aload_n 0, 1) := dk_42 (dk_at dksX21_init_0 5 rfl rfl)
theorem dX21_init_6 : decode cX21_init 6 = .ok (.aload_n 1, 1) := dk_43 (dk_at dksX21_init_0 6 rfl rfl)
theorem dX21_init_7 : decode cX21_init 7 = .ok (.iload_n 2, 1) := dk_28 (dk_at dksX21_init_0 7 rfl rfl)
theorem dX21_init_8 : decode cX21_init 8 = .ok (.iload_n 3, 1) := dk_29 (dk_at dksX21_init_0 8 rfl rfl)
theorem dX21_init_9 : decode cX21_init 9 = .ok (.invokespecial 7, 3) := dk_183 0 7 (dk_at dksX21_init_0 9 rfl rfl)
theorem dX21_init_12 : decode cX21_init 12 = .ok (.return_, 1) := dk_177 (dk_at dksX21_init_0 12 rfl rfl)
abbrev cX21_parts : ByteArray := prog_13_method_3_code
def yX21_parts : MethodName := ⟨RX21, "parts", "(I)I"⟩
def dkwX21_parts_1 : List UInt8 := [100, 172]
abbrev dktX21_parts_1 : List UInt8 := dkwX21_parts_1 ++ []
def dkwX21_parts_0 : List UInt8 := [42, 180, 0, 1, 16, 61, 182, 0, 13, 42, 27, 183, 0, 23, 61, 28, 42, 42, 180, 0, 26, 182, 0, 30]
abbrev dktX21_parts_0 : List UInt8 := dkwX21_parts_0 ++ dktX21_parts_1
theorem dksX21_parts_0 : cX21_parts.data.toList.drop 0 = dktX21_parts_0 := by decide +kernel
theorem dksX21_parts_1 : cX21_parts.data.toList.drop 24 = dktX21_parts_1 := dk_seg dksX21_parts_0 24 rfl rfl
theorem dX21_parts_0 : decode cX21_parts 0 = .ok (.aload_n 0, 1) := dk_42 (dk_at dksX21_parts_0 0 rfl rfl)
theorem dX21_parts_1 : decode cX21_parts 1 = .ok (.getfield 1, 3) := dk_180 0 1 (dk_at dksX21_parts_0 1 rfl rfl)
theorem dX21_parts_4 : decode cX21_parts 4 = .ok (.bipush 61, 2) := dk_16 61 (dk_at dksX21_parts_0 4 rfl rfl)
theorem dX21_parts_6 : decode cX21_parts 6 = .ok (.invokevirtual 13, 3) := dk_182 0 13 (dk_at dksX21_parts_0 6 rfl rfl)
theorem dX21_parts_9 : decode cX21_parts 9 = .ok (.aload_n 0, 1) := dk_42 (dk_at dksX21_parts_0 9 rfl rfl)
theorem dX21_parts_10 : decode cX21_parts 10 = .ok (.iload_n 1, 1) := dk_27 (dk_at dksX21_parts_0 10 rfl rfl)
theorem dX21_parts_11 : decode cX21_parts 11 = .ok (.invokespecial 23, 3) := dk_183 0 23 (dk_at dksX21_parts_0 11 rfl rfl)
theorem dX21_parts_14 : decode cX21_parts 14 = .ok (.istore_n 2, 1) := dk_61 (dk_at dksX21_parts_0 14 rfl rfl)
theorem dX21_parts_15 : decode cX21_parts 15 = .ok (.iload_n 2, 1) := dk_28 (dk_at dksX21_parts_0 15 rfl rfl)
theorem dX21_parts_16 : decode cX21_parts 16 = .ok (.aload_n 0, 1) := dk_42 (dk_at dksX21_parts_0 16 rfl rfl)
theorem dX21_parts_17 : decode cX21_parts 17 = .ok (.aload_n 0, 1) := dk_42 (dk_at dksX21_parts_0 17 rfl rfl)
theorem dX21_parts_18 : decode cX21_parts 18 = .ok (.getfield 26, 3) := dk_180 0 26 (dk_at dksX21_parts_0 18 rfl rfl)
theorem dX21_parts_21 : decode cX21_parts 21 = .ok (.invokevirtual 30, 3) := dk_182 0 30 (dk_at dksX21_parts_0 21 rfl rfl)
theorem dX21_parts_24 : decode cX21_parts 24 = .ok (.isub, 1) := dk_100 (dk_at dksX21_parts_1 0 rfl rfl)
theorem dX21_parts_25 : decode cX21_parts 25 = .ok (.ireturn, 1) := dk_172 (dk_at dksX21_parts_1 1 rfl rfl)
abbrev cX21_dries : ByteArray := prog_13_method_2_code
def yX21_dries : MethodName := ⟨RX21, "dries", "(I)I"⟩
def dkwX21_dries_0 : List UInt8 := [42, 180, 0, 1, 16, 60, 182, 0, 13, 42, 27, 183, 0, 19, 6, 104, 172]
abbrev dktX21_dries_0 : List UInt8 := dkwX21_dries_0 ++ []
theorem dksX21_dries_0 : cX21_dries.data.toList.drop 0 = dktX21_dries_0 := by decide +kernel
theorem dX21_dries_0 : decode cX21_dries 0 = .ok (.aload_n 0, 1) := dk_42 (dk_at dksX21_dries_0 0 rfl rfl)
theorem dX21_dries_1 : decode cX21_dries 1 = .ok (.getfield 1, 3) := dk_180 0 1 (dk_at dksX21_dries_0 1 rfl rfl)
theorem dX21_dries_4 : decode cX21_dries 4 = .ok (.bipush 60, 2) := dk_16 60 (dk_at dksX21_dries_0 4 rfl rfl)
theorem dX21_dries_6 : decode cX21_dries 6 = .ok (.invokevirtual 13, 3) := dk_182 0 13 (dk_at dksX21_dries_0 6 rfl rfl)
theorem dX21_dries_9 : decode cX21_dries 9 = .ok (.aload_n 0, 1) := dk_42 (dk_at dksX21_dries_0 9 rfl rfl)
theorem dX21_dries_10 : decode cX21_dries 10 = .ok (.iload_n 1, 1) := dk_27 (dk_at dksX21_dries_0 10 rfl rfl)
theorem dX21_dries_11 : decode cX21_dries 11 = .ok (.invokespecial 19, 3) := dk_183 0 19 (dk_at dksX21_dries_0 11 rfl rfl)
theorem dX21_dries_14 : decode cX21_dries 14 = .ok (.iconst 3, 1) := dk_6 (dk_at dksX21_dries_0 14 rfl rfl)
theorem dX21_dries_15 : decode cX21_dries 15 = .ok (.imul, 1) := dk_104 (dk_at dksX21_dries_0 15 rfl rfl)
theorem dX21_dries_16 : decode cX21_dries 16 = .ok (.ireturn, 1) := dk_172 (dk_at dksX21_dries_0 16 rfl rfl)
theorem q132 : (Jvm.Cond.initialized "IntentVats$MuslinOne") ∈ lw_all := lw_g (lw_at lw_m1 33 rfl) rfl
theorem q1186 : (Jvm.Cond.fieldLink "IntentVats$MuslinOne" (26 : Nat) "IntentVats$MuslinOne" "number" "I") ∈ lw_all := lw_g (lw_at lw_m5 127 rfl) rfl
theorem q1187 : (Jvm.Cond.sameField "IntentVats$MuslinOne" "IntentVats$AnyOne" "number" "I") ∈ lw_all := lw_g (lw_at lw_m5 128 rfl) rfl
theorem q1247 : (Jvm.Cond.instantiable "IntentVats$MuslinOne" (4 : Nat)) ∈ lw_all := lw_g (lw_at lw_m5 188 rfl) rfl
theorem q1249 : (Jvm.Cond.instanceMethod ({ cls := "IntentVats$MuslinOne", name := "<init>", desc := "(LIntentVats;II)V" } : Jvm.MethodName)) ∈ lw_all := lw_g (lw_at lw_m5 190 rfl) rfl
theorem q1250 : (Jvm.Cond.code ({ cls := "IntentVats$MuslinOne", name := "<init>", desc := "(LIntentVats;II)V" } : Jvm.MethodName) prog_13_method_1_code (4 : Nat) (Option.none : Option Jvm.ClassFile.FieldType)) ∈ lw_all := lw_g (lw_at lw_m5 191 rfl) rfl
theorem q1251 : (Jvm.Cond.methodLink "IntentVats$MuslinOne" (7 : Nat) ({ cls := "IntentVats$AnyOne", name := "<init>", desc := "(LIntentVats;II)V" } : Jvm.MethodName)) ∈ lw_all := lw_g (lw_at lw_m5 192 rfl) rfl
theorem q1252 : (Jvm.Cond.fieldLink "IntentVats$MuslinOne" (1 : Nat) "IntentVats$MuslinOne" "this$0" "LIntentVats;") ∈ lw_all := lw_g (lw_at lw_m5 193 rfl) rfl
theorem q1253 : (Jvm.Cond.laysFinal "IntentVats$MuslinOne" "IntentVats$MuslinOne" "this$0" "LIntentVats;") ∈ lw_all := lw_g (lw_at lw_m5 194 rfl) rfl
theorem q1254 : (Jvm.Cond.soleField "IntentVats$MuslinOne" "this$0") ∈ lw_all := lw_g (lw_at lw_m5 195 rfl) rfl
theorem q1255 : (Jvm.Cond.laysFinal "IntentVats$MuslinOne" "IntentVats$AnyOne" "number" "I") ∈ lw_all := lw_g (lw_at lw_m5 196 rfl) rfl
theorem q1256 : (Jvm.Cond.laysFinal "IntentVats$MuslinOne" "IntentVats$AnyOne" "theme" "I") ∈ lw_all := lw_g (lw_at lw_m5 197 rfl) rfl
theorem q1257 : (Jvm.Cond.laysFinal "IntentVats$MuslinOne" "IntentVats$AnyOne" "this$0" "LIntentVats;") ∈ lw_all := lw_g (lw_at lw_m5 198 rfl) rfl
theorem q1258 : (Jvm.Cond.superclass "IntentVats$MuslinOne" "IntentVats$AnyOne") ∈ lw_all := lw_g (lw_at lw_m5 199 rfl) rfl
theorem q1275 : (Jvm.Cond.selects "IntentVats$MuslinOne" ({ cls := "IntentVats$AnyOne", name := "its", desc := "()I" } : Jvm.MethodName) ({ cls := "IntentVats$AnyOne", name := "its", desc := "()I" } : Jvm.MethodName)) ∈ lw_all := lw_g (lw_at lw_m5 216 rfl) rfl
theorem q1295 : (Jvm.Cond.sameMethod "IntentVats$MuslinOne" "IntentVats$AnyOne" "its" "()I") ∈ lw_all := lw_g (lw_at lw_m5 236 rfl) rfl
theorem q1296 : (Jvm.Cond.selects "IntentVats$MuslinOne" ({ cls := "IntentVats$MuslinOne", name := "its", desc := "()I" } : Jvm.MethodName) ({ cls := "IntentVats$AnyOne", name := "its", desc := "()I" } : Jvm.MethodName)) ∈ lw_all := lw_g (lw_at lw_m5 237 rfl) rfl
theorem q1353 : (Jvm.Cond.castable "IntentVats$MuslinOne" "IntentVats$Dries") ∈ lw_tbl := lw_at lw_m6 54 rfl
theorem q1354 : (Jvm.Cond.selects "IntentVats$MuslinOne" ({ cls := "IntentVats$RubsAct", name := "rubs", desc := "(I)I" } : Jvm.MethodName) ({ cls := "IntentVats$AnyOne", name := "rubs", desc := "(I)I" } : Jvm.MethodName)) ∈ lw_all := lw_g (lw_at lw_m6 55 rfl) rfl
theorem q1355 : (Jvm.Cond.unhidden "IntentVats$MuslinOne" "rubs" "(I)I") ∈ lw_tbl := lw_at lw_m6 56 rfl
theorem q1383 : (Jvm.Cond.castable "IntentVats$MuslinOne" "IntentVats$RubsAct") ∈ lw_tbl := lw_at lw_m6 84 rfl
theorem q1399 : (Jvm.Cond.selects "IntentVats$MuslinOne" ({ cls := "IntentVats$RubsAct", name := "theme", desc := "()I" } : Jvm.MethodName) ({ cls := "IntentVats$AnyOne", name := "theme", desc := "()I" } : Jvm.MethodName)) ∈ lw_all := lw_g (lw_at lw_m6 100 rfl) rfl
theorem q1400 : (Jvm.Cond.unhidden "IntentVats$MuslinOne" "theme" "()I") ∈ lw_tbl := lw_at lw_m6 101 rfl
theorem q1414 : (Jvm.Cond.selects "IntentVats$MuslinOne" ({ cls := "IntentVats$RubsAct", name := "steeps", desc := "(I)I" } : Jvm.MethodName) ({ cls := "IntentVats$AnyOne", name := "steeps", desc := "(I)I" } : Jvm.MethodName)) ∈ lw_all := lw_g (lw_at lw_m6 115 rfl) rfl
theorem q1415 : (Jvm.Cond.unhidden "IntentVats$MuslinOne" "steeps" "(I)I") ∈ lw_tbl := lw_at lw_m6 116 rfl
theorem q1445 : (Jvm.Cond.selects "IntentVats$MuslinOne" ({ cls := "IntentVats$PartsAct", name := "parts", desc := "(I)I" } : Jvm.MethodName) ({ cls := "IntentVats$MuslinOne", name := "parts", desc := "(I)I" } : Jvm.MethodName)) ∈ lw_all := lw_g (lw_at lw_m6 146 rfl) rfl
theorem q1446 : (Jvm.Cond.unhidden "IntentVats$MuslinOne" "parts" "(I)I") ∈ lw_tbl := lw_at lw_m6 147 rfl
theorem q1447 : (Jvm.Cond.instanceMethod ({ cls := "IntentVats$MuslinOne", name := "parts", desc := "(I)I" } : Jvm.MethodName)) ∈ lw_all := lw_g (lw_at lw_m6 148 rfl) rfl
theorem q1448 : (Jvm.Cond.publicMethod ({ cls := "IntentVats$MuslinOne", name := "parts", desc := "(I)I" } : Jvm.MethodName)) ∈ lw_tbl := lw_at lw_m6 149 rfl
theorem q1449 : (Jvm.Cond.code ({ cls := "IntentVats$MuslinOne", name := "parts", desc := "(I)I" } : Jvm.MethodName) prog_13_method_3_code (3 : Nat) (Option.some Jvm.ClassFile.FieldType.int)) ∈ lw_all := lw_g (lw_at lw_m6 150 rfl) rfl
theorem q1450 : (Jvm.Cond.methodLinkNest "IntentVats$MuslinOne" (13 : Nat) ({ cls := "IntentVats", name := "ran", desc := "(I)V" } : Jvm.MethodName) "IntentVats") ∈ lw_tbl := lw_at lw_m6 151 rfl
theorem q1451 : (Jvm.Cond.methodLink "IntentVats$MuslinOne" (23 : Nat) ({ cls := "IntentVats$AnyOne", name := "parts", desc := "(I)I" } : Jvm.MethodName)) ∈ lw_all := lw_g (lw_at lw_m6 152 rfl) rfl
theorem q1452 : (Jvm.Cond.methodLink "IntentVats$MuslinOne" (30 : Nat) ({ cls := "IntentVats$MuslinOne", name := "rubs", desc := "(I)I" } : Jvm.MethodName)) ∈ lw_all := lw_g (lw_at lw_m6 153 rfl) rfl
theorem q1453 : (Jvm.Cond.sameMethod "IntentVats$MuslinOne" "IntentVats$AnyOne" "rubs" "(I)I") ∈ lw_all := lw_g (lw_at lw_m6 154 rfl) rfl
theorem q1454 : (Jvm.Cond.selects "IntentVats$MuslinOne" ({ cls := "IntentVats$MuslinOne", name := "rubs", desc := "(I)I" } : Jvm.MethodName) ({ cls := "IntentVats$AnyOne", name := "rubs", desc := "(I)I" } : Jvm.MethodName)) ∈ lw_all := lw_g (lw_at lw_m6 155 rfl) rfl
theorem q1481 : (Jvm.Cond.selects "IntentVats$MuslinOne" ({ cls := "IntentVats$Dries", name := "dries", desc := "(I)I" } : Jvm.MethodName) ({ cls := "IntentVats$MuslinOne", name := "dries", desc := "(I)I" } : Jvm.MethodName)) ∈ lw_all := lw_g (lw_at lw_m6 182 rfl) rfl
theorem q1482 : (Jvm.Cond.unhidden "IntentVats$MuslinOne" "dries" "(I)I") ∈ lw_tbl := lw_at lw_m6 183 rfl
theorem q1483 : (Jvm.Cond.instanceMethod ({ cls := "IntentVats$MuslinOne", name := "dries", desc := "(I)I" } : Jvm.MethodName)) ∈ lw_all := lw_g (lw_at lw_m6 184 rfl) rfl
theorem q1484 : (Jvm.Cond.publicMethod ({ cls := "IntentVats$MuslinOne", name := "dries", desc := "(I)I" } : Jvm.MethodName)) ∈ lw_tbl := lw_at lw_m6 185 rfl
theorem q1485 : (Jvm.Cond.code ({ cls := "IntentVats$MuslinOne", name := "dries", desc := "(I)I" } : Jvm.MethodName) prog_13_method_2_code (2 : Nat) (Option.some Jvm.ClassFile.FieldType.int)) ∈ lw_all := lw_g (lw_at lw_m6 186 rfl) rfl
theorem q1486 : (Jvm.Cond.methodLink "IntentVats$MuslinOne" (19 : Nat) ({ cls := "IntentVats$AnyOne", name := "dries", desc := "(I)I" } : Jvm.MethodName)) ∈ lw_all := lw_g (lw_at lw_m6 187 rfl) rfl
theorem q2106 : (Jvm.Cond.selects "IntentVats$MuslinOne" ({ cls := "IntentVats$AnyOne", name := "steeps", desc := "(I)I" } : Jvm.MethodName) ({ cls := "IntentVats$AnyOne", name := "steeps", desc := "(I)I" } : Jvm.MethodName)) ∈ lw_all := lw_g (lw_at lw_m9 87 rfl) rfl
theorem q2113 : (Jvm.Cond.castable "IntentVats$MuslinOne" "IntentVats$AnyOne") ∈ lw_tbl := lw_at lw_m9 94 rfl
theorem in_X21 : ∀ w ∈ wsX210, w ∈ lw_all := lw_in wsX210 [1255, 1256, 1257, 1253] (by decide +kernel) (by decide +kernel)
/-! IntentVats$Fighting -/
set_option maxRecDepth 100000
def RX22 : String := "IntentVats$Fighting"
abbrev cX22_fades : ByteArray := prog_8_method_2_code
def yX22_fades : MethodName := ⟨RX22, "fades", "(LIntentVats$Mill;)I"⟩
def dkwX22_fades_0 : List UInt8 := [43, 180, 0, 3, 4, 46, 172]
abbrev dktX22_fades_0 : List UInt8 := dkwX22_fades_0 ++ []
theorem dksX22_fades_0 : cX22_fades.data.toList.drop 0 = dktX22_fades_0 := by decide +kernel
theorem dX22_fades_0 : decode cX22_fades 0 = .ok (.aload_n 1, 1) := dk_43 (dk_at dksX22_fades_0 0 rfl rfl)
theorem dX22_fades_1 : decode cX22_fades 1 = .ok (.getfield 3, 3) := dk_180 0 3 (dk_at dksX22_fades_0 1 rfl rfl)
theorem dX22_fades_4 : decode cX22_fades 4 = .ok (.iconst 1, 1) := dk_4 (dk_at dksX22_fades_0 4 rfl rfl)
theorem dX22_fades_5 : decode cX22_fades 5 = .ok (.iaload, 1) := dk_46 (dk_at dksX22_fades_0 5 rfl rfl)
theorem dX22_fades_6 : decode cX22_fades 6 = .ok (.ireturn, 1) := dk_172 (dk_at dksX22_fades_0 6 rfl rfl)
theorem q162 : (Jvm.Cond.fieldLinkNest "IntentVats$Fighting" (3 : Nat) "IntentVats$Mill" "law" "[I" "IntentVats") ∈ lw_tbl := lw_at lw_m1 63 rfl
theorem q784 : (Jvm.Cond.declares ({ cls := "IntentVats$Fighting", name := "fades", desc := "(LIntentVats$Mill;)I" } : Jvm.MethodName)) ∈ lw_tbl := lw_at lw_m3 205 rfl
theorem q791 : (Jvm.Cond.instanceMethod ({ cls := "IntentVats$Fighting", name := "fades", desc := "(LIntentVats$Mill;)I" } : Jvm.MethodName)) ∈ lw_all := lw_g (lw_at lw_m3 212 rfl) rfl
theorem q792 : (Jvm.Cond.code ({ cls := "IntentVats$Fighting", name := "fades", desc := "(LIntentVats$Mill;)I" } : Jvm.MethodName) prog_8_method_2_code (2 : Nat) (Option.some Jvm.ClassFile.FieldType.int)) ∈ lw_all := lw_g (lw_at lw_m3 213 rfl) rfl
theorem q804 : (Jvm.Cond.publicMethod ({ cls := "IntentVats$Fighting", name := "fades", desc := "(LIntentVats$Mill;)I" } : Jvm.MethodName)) ∈ lw_tbl := lw_at lw_m3 225 rfl
theorem q2110 : (Jvm.Cond.initialized "IntentVats$Fighting") ∈ lw_all := lw_g (lw_at lw_m9 91 rfl) rfl
/-! IntentVats$RubsAct -/
set_option maxRecDepth 100000
def RX23 : String := "IntentVats$RubsAct"
abbrev cX23_steeps : ByteArray := prog_19_method_3_code
def yX23_steeps : MethodName := ⟨RX23, "steeps", "(I)I"⟩
def dkwX23_steeps_0 : List UInt8 := [42, 27, 185, 0, 1, 2, 0, 42, 185, 0, 7, 1, 0, 16, 9, 104, 96, 172]
abbrev dktX23_steeps_0 : List UInt8 := dkwX23_steeps_0 ++ []
theorem dksX23_steeps_0 : cX23_steeps.data.toList.drop 0 = dktX23_steeps_0 := by decide +kernel
theorem dX23_steeps_0 : decode cX23_steeps 0 = .ok (.aload_n 0, 1) := dk_42 (dk_at dksX23_steeps_0 0 rfl rfl)
theorem dX23_steeps_1 : decode cX23_steeps 1 = .ok (.iload_n 1, 1) := dk_27 (dk_at dksX23_steeps_0 1 rfl rfl)
theorem dX23_steeps_2 : decode cX23_steeps 2 = .ok (.invokeinterface 1 2, 5) := by decide +kernel
theorem dX23_steeps_7 : decode cX23_steeps 7 = .ok (.aload_n 0, 1) := dk_42 (dk_at dksX23_steeps_0 7 rfl rfl)
theorem dX23_steeps_8 : decode cX23_steeps 8 = .ok (.invokeinterface 7 1, 5) := by decide +kernel
theorem dX23_steeps_13 : decode cX23_steeps 13 = .ok (.bipush 9, 2) := dk_16 9 (dk_at dksX23_steeps_0 13 rfl rfl)
theorem dX23_steeps_15 : decode cX23_steeps 15 = .ok (.imul, 1) := dk_104 (dk_at dksX23_steeps_0 15 rfl rfl)
theorem dX23_steeps_16 : decode cX23_steeps 16 = .ok (.iadd, 1) := dk_96 (dk_at dksX23_steeps_0 16 rfl rfl)
theorem dX23_steeps_17 : decode cX23_steeps 17 = .ok (.ireturn, 1) := dk_172 (dk_at dksX23_steeps_0 17 rfl rfl)
theorem q1323 : (Jvm.Cond.publicMethod ({ cls := "IntentVats$RubsAct", name := "rubs", desc := "(I)I" } : Jvm.MethodName)) ∈ lw_tbl := lw_at lw_m6 24 rfl
theorem q1324 : (Jvm.Cond.declares ({ cls := "IntentVats$RubsAct", name := "rubs", desc := "(I)I" } : Jvm.MethodName)) ∈ lw_tbl := lw_at lw_m6 25 rfl
theorem q1368 : (Jvm.Cond.publicMethod ({ cls := "IntentVats$RubsAct", name := "steeps", desc := "(I)I" } : Jvm.MethodName)) ∈ lw_tbl := lw_at lw_m6 69 rfl
theorem q1369 : (Jvm.Cond.declares ({ cls := "IntentVats$RubsAct", name := "steeps", desc := "(I)I" } : Jvm.MethodName)) ∈ lw_tbl := lw_at lw_m6 70 rfl
theorem q1375 : (Jvm.Cond.instanceMethod ({ cls := "IntentVats$RubsAct", name := "steeps", desc := "(I)I" } : Jvm.MethodName)) ∈ lw_all := lw_g (lw_at lw_m6 76 rfl) rfl
theorem q1376 : (Jvm.Cond.code ({ cls := "IntentVats$RubsAct", name := "steeps", desc := "(I)I" } : Jvm.MethodName) prog_19_method_3_code (2 : Nat) (Option.some Jvm.ClassFile.FieldType.int)) ∈ lw_all := lw_g (lw_at lw_m6 77 rfl) rfl
theorem q1377 : (Jvm.Cond.interfaceEntry "IntentVats$RubsAct" (1 : Nat)) ∈ lw_tbl := lw_at lw_m6 78 rfl
theorem q1378 : (Jvm.Cond.methodLink "IntentVats$RubsAct" (1 : Nat) ({ cls := "IntentVats$RubsAct", name := "rubs", desc := "(I)I" } : Jvm.MethodName)) ∈ lw_all := lw_g (lw_at lw_m6 79 rfl) rfl
theorem q1379 : (Jvm.Cond.interfaceMethod "IntentVats$RubsAct" "IntentVats$RubsAct" "rubs" "(I)I") ∈ lw_tbl := lw_at lw_m6 80 rfl
theorem q1386 : (Jvm.Cond.interfaceEntry "IntentVats$RubsAct" (7 : Nat)) ∈ lw_tbl := lw_at lw_m6 87 rfl
theorem q1387 : (Jvm.Cond.methodLink "IntentVats$RubsAct" (7 : Nat) ({ cls := "IntentVats$RubsAct", name := "theme", desc := "()I" } : Jvm.MethodName)) ∈ lw_all := lw_g (lw_at lw_m6 88 rfl) rfl
theorem q1388 : (Jvm.Cond.interfaceMethod "IntentVats$RubsAct" "IntentVats$RubsAct" "theme" "()I") ∈ lw_tbl := lw_at lw_m6 89 rfl
theorem q1389 : (Jvm.Cond.declares ({ cls := "IntentVats$RubsAct", name := "theme", desc := "()I" } : Jvm.MethodName)) ∈ lw_tbl := lw_at lw_m6 90 rfl
/-! java/lang/Throwable -/
set_option maxRecDepth 100000
def RJ0 : String := "java/lang/Throwable"
def TJ0 : u_T := fun k => match k with
  | 0 => ("java/lang/Throwable", "cause", "Ljava/lang/Throwable;", false)
  | 1 => ("java/lang/Throwable", "stackTrace", "[Ljava/lang/StackTraceElement;", false)
  | 2 => ("java/lang/Throwable", "suppressedExceptions", "Ljava/util/List;", false)
  | 3 => ("java/lang/Throwable", "detailMessage", "Ljava/lang/String;", false)
  | _ => ("java/lang/Throwable", "backtrace", "Ljava/lang/Object;", false)
def tyJ0 : Nat → FieldType := fun k => match k with
  | 0 => .object "java/lang/Throwable"
  | 1 => .array (.object "java/lang/StackTraceElement")
  | 2 => .object "java/util/List"
  | 3 => .object "java/lang/String"
  | _ => .object "java/lang/Object"
abbrev wsJ00 : List Cond := u_ws RJ0 TJ0 5
theorem nmJ0 : ∀ a, a < 5 → ∀ b, b < 5 → a ≠ b → (TJ0 a).2.1 ≠ (TJ0 b).2.1 := by decide +kernel
theorem tyJ0_ok : ∀ k, k < 5 → parseFieldDescriptor (TJ0 k).2.2.1 = some (tyJ0 k) := by decide +kernel
abbrev cJ0_init : ByteArray := prog_39_method_1_code
def yJ0_init : MethodName := ⟨RJ0, "<init>", "()V"⟩
def dkwJ0_init_1 : List UInt8 := [182, 0, 27, 87, 177]
abbrev dktJ0_init_1 : List UInt8 := dkwJ0_init_1 ++ []
def dkwJ0_init_0 : List UInt8 := [42, 183, 0, 1, 42, 42, 181, 0, 7, 42, 178, 0, 13, 181, 0, 17, 42, 178, 0, 20, 181, 0, 24, 42]
abbrev dktJ0_init_0 : List UInt8 := dkwJ0_init_0 ++ dktJ0_init_1
theorem dksJ0_init_0 : cJ0_init.data.toList.drop 0 = dktJ0_init_0 := by decide +kernel
theorem dksJ0_init_1 : cJ0_init.data.toList.drop 24 = dktJ0_init_1 := dk_seg dksJ0_init_0 24 rfl rfl
theorem dJ0_init_0 : decode cJ0_init 0 = .ok (.aload_n 0, 1) := dk_42 (dk_at dksJ0_init_0 0 rfl rfl)
theorem dJ0_init_1 : decode cJ0_init 1 = .ok (.invokespecial 1, 3) := dk_183 0 1 (dk_at dksJ0_init_0 1 rfl rfl)
theorem dJ0_init_4 : decode cJ0_init 4 = .ok (.aload_n 0, 1) := dk_42 (dk_at dksJ0_init_0 4 rfl rfl)
theorem dJ0_init_5 : decode cJ0_init 5 = .ok (.aload_n 0, 1) := dk_42 (dk_at dksJ0_init_0 5 rfl rfl)
theorem dJ0_init_6 : decode cJ0_init 6 = .ok (.putfield 7, 3) := dk_181 0 7 (dk_at dksJ0_init_0 6 rfl rfl)
theorem dJ0_init_9 : decode cJ0_init 9 = .ok (.aload_n 0, 1) := dk_42 (dk_at dksJ0_init_0 9 rfl rfl)
theorem dJ0_init_10 : decode cJ0_init 10 = .ok (.getstatic 13, 3) := dk_178 0 13 (dk_at dksJ0_init_0 10 rfl rfl)
theorem dJ0_init_13 : decode cJ0_init 13 = .ok (.putfield 17, 3) := dk_181 0 17 (dk_at dksJ0_init_0 13 rfl rfl)
theorem dJ0_init_16 : decode cJ0_init 16 = .ok (.aload_n 0, 1) := dk_42 (dk_at dksJ0_init_0 16 rfl rfl)
theorem dJ0_init_17 : decode cJ0_init 17 = .ok (.getstatic 20, 3) := dk_178 0 20 (dk_at dksJ0_init_0 17 rfl rfl)
theorem dJ0_init_20 : decode cJ0_init 20 = .ok (.putfield 24, 3) := dk_181 0 24 (dk_at dksJ0_init_0 20 rfl rfl)
theorem dJ0_init_23 : decode cJ0_init 23 = .ok (.aload_n 0, 1) := dk_42 (dk_at dksJ0_init_0 23 rfl rfl)
theorem dJ0_init_24 : decode cJ0_init 24 = .ok (.invokevirtual 27, 3) := dk_182 0 27 (dk_at dksJ0_init_1 0 rfl rfl)
theorem dJ0_init_27 : decode cJ0_init 27 = .ok (.pop, 1) := dk_87 (dk_at dksJ0_init_1 3 rfl rfl)
theorem dJ0_init_28 : decode cJ0_init 28 = .ok (.return_, 1) := dk_177 (dk_at dksJ0_init_1 4 rfl rfl)
abbrev cJ0_init_2 : ByteArray := prog_39_method_5_code
def yJ0_init_2 : MethodName := ⟨RJ0, "<init>", "(Ljava/lang/String;Ljava/lang/Throwable;ZZ)V"⟩
def dkwJ0_init_2_2 : List UInt8 := [44, 181, 0, 7, 29, 154, 0, 8, 42, 1, 181, 0, 24, 177]
abbrev dktJ0_init_2_2 : List UInt8 := dkwJ0_init_2_2 ++ []
def dkwJ0_init_2_1 : List UInt8 := [21, 4, 153, 0, 11, 42, 182, 0, 27, 87, 167, 0, 8, 42, 1, 181, 0, 17, 42, 43, 181, 0, 31, 42]
abbrev dktJ0_init_2_1 : List UInt8 := dkwJ0_init_2_1 ++ dktJ0_init_2_2
def dkwJ0_init_2_0 : List UInt8 := [42, 183, 0, 1, 42, 42, 181, 0, 7, 42, 178, 0, 13, 181, 0, 17, 42, 178, 0, 20, 181, 0, 24]
abbrev dktJ0_init_2_0 : List UInt8 := dkwJ0_init_2_0 ++ dktJ0_init_2_1
theorem dksJ0_init_2_0 : cJ0_init_2.data.toList.drop 0 = dktJ0_init_2_0 := by decide +kernel
theorem dksJ0_init_2_1 : cJ0_init_2.data.toList.drop 23 = dktJ0_init_2_1 := dk_seg dksJ0_init_2_0 23 rfl rfl
theorem dksJ0_init_2_2 : cJ0_init_2.data.toList.drop 47 = dktJ0_init_2_2 := dk_seg dksJ0_init_2_1 24 rfl rfl
theorem dJ0_init_2_0 : decode cJ0_init_2 0 = .ok (.aload_n 0, 1) := dk_42 (dk_at dksJ0_init_2_0 0 rfl rfl)
theorem dJ0_init_2_1 : decode cJ0_init_2 1 = .ok (.invokespecial 1, 3) := dk_183 0 1 (dk_at dksJ0_init_2_0 1 rfl rfl)
theorem dJ0_init_2_4 : decode cJ0_init_2 4 = .ok (.aload_n 0, 1) := dk_42 (dk_at dksJ0_init_2_0 4 rfl rfl)
theorem dJ0_init_2_5 : decode cJ0_init_2 5 = .ok (.aload_n 0, 1) := dk_42 (dk_at dksJ0_init_2_0 5 rfl rfl)
theorem dJ0_init_2_6 : decode cJ0_init_2 6 = .ok (.putfield 7, 3) := dk_181 0 7 (dk_at dksJ0_init_2_0 6 rfl rfl)
theorem dJ0_init_2_9 : decode cJ0_init_2 9 = .ok (.aload_n 0, 1) := dk_42 (dk_at dksJ0_init_2_0 9 rfl rfl)
theorem dJ0_init_2_10 : decode cJ0_init_2 10 = .ok (.getstatic 13, 3) := dk_178 0 13 (dk_at dksJ0_init_2_0 10 rfl rfl)
theorem dJ0_init_2_13 : decode cJ0_init_2 13 = .ok (.putfield 17, 3) := dk_181 0 17 (dk_at dksJ0_init_2_0 13 rfl rfl)
theorem dJ0_init_2_16 : decode cJ0_init_2 16 = .ok (.aload_n 0, 1) := dk_42 (dk_at dksJ0_init_2_0 16 rfl rfl)
theorem dJ0_init_2_17 : decode cJ0_init_2 17 = .ok (.getstatic 20, 3) := dk_178 0 20 (dk_at dksJ0_init_2_0 17 rfl rfl)
theorem dJ0_init_2_20 : decode cJ0_init_2 20 = .ok (.putfield 24, 3) := dk_181 0 24 (dk_at dksJ0_init_2_0 20 rfl rfl)
theorem dJ0_init_2_23 : decode cJ0_init_2 23 = .ok (.iload 4, 2) := dk_21 4 (dk_at dksJ0_init_2_1 0 rfl rfl)
theorem dJ0_init_2_25 : decode cJ0_init_2 25 = .ok (.ifCond .eq 11, 3) := dk_153 0 11 (dk_at dksJ0_init_2_1 2 rfl rfl)
theorem dJ0_init_2_28 : decode cJ0_init_2 28 = .ok (.aload_n 0, 1) := dk_42 (dk_at dksJ0_init_2_1 5 rfl rfl)
theorem dJ0_init_2_29 : decode cJ0_init_2 29 = .ok (.invokevirtual 27, 3) := dk_182 0 27 (dk_at dksJ0_init_2_1 6 rfl rfl)
theorem dJ0_init_2_32 : decode cJ0_init_2 32 = .ok (.pop, 1) := dk_87 (dk_at dksJ0_init_2_1 9 rfl rfl)
theorem dJ0_init_2_33 : decode cJ0_init_2 33 = .ok (.goto 8, 3) := dk_167 0 8 (dk_at dksJ0_init_2_1 10 rfl rfl)
theorem dJ0_init_2_36 : decode cJ0_init_2 36 = .ok (.aload_n 0, 1) := dk_42 (dk_at dksJ0_init_2_1 13 rfl rfl)
theorem dJ0_init_2_37 : decode cJ0_init_2 37 = .ok (.aconst_null, 1) := dk_1 (dk_at dksJ0_init_2_1 14 rfl rfl)
theorem dJ0_init_2_38 : decode cJ0_init_2 38 = .ok (.putfield 17, 3) := dk_181 0 17 (dk_at dksJ0_init_2_1 15 rfl rfl)
theorem dJ0_init_2_41 : decode cJ0_init_2 41 = .ok (.aload_n 0, 1) := dk_42 (dk_at dksJ0_init_2_1 18 rfl rfl)
theorem dJ0_init_2_42 : decode cJ0_init_2 42 = .ok (.aload_n 1, 1) := dk_43 (dk_at dksJ0_init_2_1 19 rfl rfl)
theorem dJ0_init_2_43 : decode cJ0_init_2 43 = .ok (.putfield 31, 3) := dk_181 0 31 (dk_at dksJ0_init_2_1 20 rfl rfl)
theorem dJ0_init_2_46 : decode cJ0_init_2 46 = .ok (.aload_n 0, 1) := dk_42 (dk_at dksJ0_init_2_1 23 rfl rfl)
theorem dJ0_init_2_47 : decode cJ0_init_2 47 = .ok (.aload_n 2, 1) := dk_44 (dk_at dksJ0_init_2_2 0 rfl rfl)
theorem dJ0_init_2_48 : decode cJ0_init_2 48 = .ok (.putfield 7, 3) := dk_181 0 7 (dk_at dksJ0_init_2_2 1 rfl rfl)
theorem dJ0_init_2_51 : decode cJ0_init_2 51 = .ok (.iload_n 3, 1) := dk_29 (dk_at dksJ0_init_2_2 4 rfl rfl)
theorem dJ0_init_2_52 : decode cJ0_init_2 52 = .ok (.ifCond .ne 8, 3) := dk_154 0 8 (dk_at dksJ0_init_2_2 5 rfl rfl)
theorem dJ0_init_2_55 : decode cJ0_init_2 55 = .ok (.aload_n 0, 1) := dk_42 (dk_at dksJ0_init_2_2 8 rfl rfl)
theorem dJ0_init_2_56 : decode cJ0_init_2 56 = .ok (.aconst_null, 1) := dk_1 (dk_at dksJ0_init_2_2 9 rfl rfl)
theorem dJ0_init_2_57 : decode cJ0_init_2 57 = .ok (.putfield 24, 3) := dk_181 0 24 (dk_at dksJ0_init_2_2 10 rfl rfl)
theorem dJ0_init_2_60 : decode cJ0_init_2 60 = .ok (.return_, 1) := dk_177 (dk_at dksJ0_init_2_2 13 rfl rfl)
abbrev cJ0_init_3 : ByteArray := prog_39_method_2_code
def yJ0_init_3 : MethodName := ⟨RJ0, "<init>", "(Ljava/lang/String;)V"⟩
def dkwJ0_init_3_1 : List UInt8 := [182, 0, 27, 87, 42, 43, 181, 0, 31, 177]
abbrev dktJ0_init_3_1 : List UInt8 := dkwJ0_init_3_1 ++ []
def dkwJ0_init_3_0 : List UInt8 := [42, 183, 0, 1, 42, 42, 181, 0, 7, 42, 178, 0, 13, 181, 0, 17, 42, 178, 0, 20, 181, 0, 24, 42]
abbrev dktJ0_init_3_0 : List UInt8 := dkwJ0_init_3_0 ++ dktJ0_init_3_1
theorem dksJ0_init_3_0 : cJ0_init_3.data.toList.drop 0 = dktJ0_init_3_0 := by decide +kernel
theorem dksJ0_init_3_1 : cJ0_init_3.data.toList.drop 24 = dktJ0_init_3_1 := dk_seg dksJ0_init_3_0 24 rfl rfl
theorem dJ0_init_3_0 : decode cJ0_init_3 0 = .ok (.aload_n 0, 1) := dk_42 (dk_at dksJ0_init_3_0 0 rfl rfl)
theorem dJ0_init_3_1 : decode cJ0_init_3 1 = .ok (.invokespecial 1, 3) := dk_183 0 1 (dk_at dksJ0_init_3_0 1 rfl rfl)
theorem dJ0_init_3_4 : decode cJ0_init_3 4 = .ok (.aload_n 0, 1) := dk_42 (dk_at dksJ0_init_3_0 4 rfl rfl)
theorem dJ0_init_3_5 : decode cJ0_init_3 5 = .ok (.aload_n 0, 1) := dk_42 (dk_at dksJ0_init_3_0 5 rfl rfl)
theorem dJ0_init_3_6 : decode cJ0_init_3 6 = .ok (.putfield 7, 3) := dk_181 0 7 (dk_at dksJ0_init_3_0 6 rfl rfl)
theorem dJ0_init_3_9 : decode cJ0_init_3 9 = .ok (.aload_n 0, 1) := dk_42 (dk_at dksJ0_init_3_0 9 rfl rfl)
theorem dJ0_init_3_10 : decode cJ0_init_3 10 = .ok (.getstatic 13, 3) := dk_178 0 13 (dk_at dksJ0_init_3_0 10 rfl rfl)
theorem dJ0_init_3_13 : decode cJ0_init_3 13 = .ok (.putfield 17, 3) := dk_181 0 17 (dk_at dksJ0_init_3_0 13 rfl rfl)
theorem dJ0_init_3_16 : decode cJ0_init_3 16 = .ok (.aload_n 0, 1) := dk_42 (dk_at dksJ0_init_3_0 16 rfl rfl)
theorem dJ0_init_3_17 : decode cJ0_init_3 17 = .ok (.getstatic 20, 3) := dk_178 0 20 (dk_at dksJ0_init_3_0 17 rfl rfl)
theorem dJ0_init_3_20 : decode cJ0_init_3 20 = .ok (.putfield 24, 3) := dk_181 0 24 (dk_at dksJ0_init_3_0 20 rfl rfl)
theorem dJ0_init_3_23 : decode cJ0_init_3 23 = .ok (.aload_n 0, 1) := dk_42 (dk_at dksJ0_init_3_0 23 rfl rfl)
theorem dJ0_init_3_24 : decode cJ0_init_3 24 = .ok (.invokevirtual 27, 3) := dk_182 0 27 (dk_at dksJ0_init_3_1 0 rfl rfl)
theorem dJ0_init_3_27 : decode cJ0_init_3 27 = .ok (.pop, 1) := dk_87 (dk_at dksJ0_init_3_1 3 rfl rfl)
theorem dJ0_init_3_28 : decode cJ0_init_3 28 = .ok (.aload_n 0, 1) := dk_42 (dk_at dksJ0_init_3_1 4 rfl rfl)
theorem dJ0_init_3_29 : decode cJ0_init_3 29 = .ok (.aload_n 1, 1) := dk_43 (dk_at dksJ0_init_3_1 5 rfl rfl)
theorem dJ0_init_3_30 : decode cJ0_init_3 30 = .ok (.putfield 31, 3) := dk_181 0 31 (dk_at dksJ0_init_3_1 6 rfl rfl)
theorem dJ0_init_3_33 : decode cJ0_init_3 33 = .ok (.return_, 1) := dk_177 (dk_at dksJ0_init_3_1 9 rfl rfl)
theorem q109 : (Jvm.Cond.initialized "java/lang/Throwable") ∈ lw_all := lw_g (lw_at lw_m1 10 rfl) rfl
theorem q284 : (Jvm.Cond.declares ({ cls := "java/lang/Throwable", name := "<init>", desc := "()V" } : Jvm.MethodName)) ∈ lw_tbl := lw_at lw_m1 185 rfl
theorem q285 : (Jvm.Cond.declares ({ cls := "java/lang/Throwable", name := "<init>", desc := "(Ljava/lang/String;)V" } : Jvm.MethodName)) ∈ lw_tbl := lw_at lw_m1 186 rfl
theorem q289 : (Jvm.Cond.lays "java/lang/Throwable" "java/lang/Throwable" "cause" "Ljava/lang/Throwable;") ∈ lw_all := lw_g (lw_at lw_m1 190 rfl) rfl
theorem q291 : (Jvm.Cond.lays "java/lang/Throwable" "java/lang/Throwable" "stackTrace" "[Ljava/lang/StackTraceElement;") ∈ lw_all := lw_g (lw_at lw_m1 192 rfl) rfl
theorem q293 : (Jvm.Cond.lays "java/lang/Throwable" "java/lang/Throwable" "suppressedExceptions" "Ljava/util/List;") ∈ lw_all := lw_g (lw_at lw_m1 194 rfl) rfl
theorem q295 : (Jvm.Cond.lays "java/lang/Throwable" "java/lang/Throwable" "detailMessage" "Ljava/lang/String;") ∈ lw_all := lw_g (lw_at lw_m1 196 rfl) rfl
theorem q297 : (Jvm.Cond.lays "java/lang/Throwable" "java/lang/Throwable" "backtrace" "Ljava/lang/Object;") ∈ lw_all := lw_g (lw_at lw_m1 198 rfl) rfl
theorem q298 : (Jvm.Cond.fieldLink "java/lang/Throwable" (198 : Nat) "java/lang/Throwable" "backtrace" "Ljava/lang/Object;") ∈ lw_all := lw_g (lw_at lw_m1 199 rfl) rfl
theorem q299 : (Jvm.Cond.superclass "java/lang/Throwable" "java/lang/Object") ∈ lw_all := lw_g (lw_at lw_m1 200 rfl) rfl
theorem q300 : (Jvm.Cond.instanceMethod ({ cls := "java/lang/Throwable", name := "<init>", desc := "()V" } : Jvm.MethodName)) ∈ lw_all := lw_g (lw_at lw_m1 201 rfl) rfl
theorem q301 : (Jvm.Cond.code ({ cls := "java/lang/Throwable", name := "<init>", desc := "()V" } : Jvm.MethodName) prog_39_method_1_code (1 : Nat) (Option.none : Option Jvm.ClassFile.FieldType)) ∈ lw_all := lw_g (lw_at lw_m1 202 rfl) rfl
theorem q302 : (Jvm.Cond.methodLink "java/lang/Throwable" (1 : Nat) ({ cls := "java/lang/Object", name := "<init>", desc := "()V" } : Jvm.MethodName)) ∈ lw_all := lw_g (lw_at lw_m1 203 rfl) rfl
theorem q303 : (Jvm.Cond.fieldLink "java/lang/Throwable" (13 : Nat) "java/lang/Throwable" "UNASSIGNED_STACK" "[Ljava/lang/StackTraceElement;") ∈ lw_all := lw_g (lw_at lw_m1 204 rfl) rfl
theorem q304 : (Jvm.Cond.laysStatic "java/lang/Throwable" "UNASSIGNED_STACK" "[Ljava/lang/StackTraceElement;") ∈ lw_tbl := lw_at lw_m1 205 rfl
theorem q305 : (Jvm.Cond.fieldLink "java/lang/Throwable" (20 : Nat) "java/lang/Throwable" "SUPPRESSED_SENTINEL" "Ljava/util/List;") ∈ lw_all := lw_g (lw_at lw_m1 206 rfl) rfl
theorem q306 : (Jvm.Cond.laysStatic "java/lang/Throwable" "SUPPRESSED_SENTINEL" "Ljava/util/List;") ∈ lw_tbl := lw_at lw_m1 207 rfl
theorem q307 : (Jvm.Cond.methodLink "java/lang/Throwable" (27 : Nat) ({ cls := "java/lang/Throwable", name := "fillInStackTrace", desc := "()Ljava/lang/Throwable;" } : Jvm.MethodName)) ∈ lw_all := lw_g (lw_at lw_m1 208 rfl) rfl
theorem q308 : (Jvm.Cond.instanceMethod ({ cls := "java/lang/Throwable", name := "fillInStackTrace", desc := "()Ljava/lang/Throwable;" } : Jvm.MethodName)) ∈ lw_all := lw_g (lw_at lw_m1 209 rfl) rfl
theorem q309 : (Jvm.Cond.sameMethod "java/lang/Throwable" "java/lang/Throwable" "fillInStackTrace" "()Ljava/lang/Throwable;") ∈ lw_all := lw_g (lw_at lw_m1 210 rfl) rfl
theorem q315 : (Jvm.Cond.codeSync ({ cls := "java/lang/Throwable", name := "fillInStackTrace", desc := "()Ljava/lang/Throwable;" } : Jvm.MethodName) prog_39_method_18_code (1 : Nat) (Option.some (Jvm.ClassFile.FieldType.object "java/lang/Throwable"))) ∈ lw_all := lw_g (lw_at lw_m1 216 rfl) rfl
theorem q316 : (Jvm.Cond.methodLink "java/lang/Throwable" (202 : Nat) ({ cls := "java/lang/Throwable", name := "fillInStackTrace", desc := "(I)Ljava/lang/Throwable;" } : Jvm.MethodName)) ∈ lw_all := lw_g (lw_at lw_m1 217 rfl) rfl
theorem q317 : (Jvm.Cond.privateMethod ({ cls := "java/lang/Throwable", name := "fillInStackTrace", desc := "(I)Ljava/lang/Throwable;" } : Jvm.MethodName)) ∈ lw_tbl := lw_at lw_m1 218 rfl
theorem q318 : (Jvm.Cond.instanceMethod ({ cls := "java/lang/Throwable", name := "fillInStackTrace", desc := "(I)Ljava/lang/Throwable;" } : Jvm.MethodName)) ∈ lw_all := lw_g (lw_at lw_m1 219 rfl) rfl
theorem q319 : (Jvm.Cond.instantiable "java/lang/Throwable" (6 : Nat)) ∈ lw_all := lw_g (lw_at lw_m1 220 rfl) rfl
theorem q320 : (Jvm.Cond.native ({ cls := "java/lang/Throwable", name := "fillInStackTrace", desc := "(I)Ljava/lang/Throwable;" } : Jvm.MethodName)) ∈ lw_all := lw_g (lw_at lw_m1 221 rfl) rfl
theorem q331 : (Jvm.Cond.instanceMethod ({ cls := "java/lang/Throwable", name := "<init>", desc := "(Ljava/lang/String;Ljava/lang/Throwable;ZZ)V" } : Jvm.MethodName)) ∈ lw_all := lw_g (lw_at lw_m1 232 rfl) rfl
theorem q332 : (Jvm.Cond.code ({ cls := "java/lang/Throwable", name := "<init>", desc := "(Ljava/lang/String;Ljava/lang/Throwable;ZZ)V" } : Jvm.MethodName) prog_39_method_5_code (5 : Nat) (Option.none : Option Jvm.ClassFile.FieldType)) ∈ lw_all := lw_g (lw_at lw_m1 233 rfl) rfl
theorem q335 : (Jvm.Cond.fieldLink "java/lang/Throwable" (198 : Nat) "java/lang/Throwable" "backtrace" "Ljava/lang/Object;") ∈ lw_all := lw_g (lw_at lw_m1 236 rfl) rfl
theorem q336 : (Jvm.Cond.fieldLink "java/lang/Throwable" (31 : Nat) "java/lang/Throwable" "detailMessage" "Ljava/lang/String;") ∈ lw_all := lw_g (lw_at lw_m1 237 rfl) rfl
theorem q337 : (Jvm.Cond.fieldLink "java/lang/Throwable" (7 : Nat) "java/lang/Throwable" "cause" "Ljava/lang/Throwable;") ∈ lw_all := lw_g (lw_at lw_m1 238 rfl) rfl
theorem q338 : (Jvm.Cond.fieldLink "java/lang/Throwable" (17 : Nat) "java/lang/Throwable" "stackTrace" "[Ljava/lang/StackTraceElement;") ∈ lw_all := lw_g (lw_at lw_m1 239 rfl) rfl
theorem q339 : (Jvm.Cond.fieldLink "java/lang/Throwable" (24 : Nat) "java/lang/Throwable" "suppressedExceptions" "Ljava/util/List;") ∈ lw_all := lw_g (lw_at lw_m2 0 rfl) rfl
theorem q342 : (Jvm.Cond.soleField "java/lang/Throwable" "backtrace") ∈ lw_all := lw_g (lw_at lw_m2 3 rfl) rfl
theorem q343 : (Jvm.Cond.soleField "java/lang/Throwable" "detailMessage") ∈ lw_all := lw_g (lw_at lw_m2 4 rfl) rfl
theorem q344 : (Jvm.Cond.soleField "java/lang/Throwable" "cause") ∈ lw_all := lw_g (lw_at lw_m2 5 rfl) rfl
theorem q345 : (Jvm.Cond.soleField "java/lang/Throwable" "stackTrace") ∈ lw_all := lw_g (lw_at lw_m2 6 rfl) rfl
theorem q347 : (Jvm.Cond.soleField "java/lang/Throwable" "depth") ∈ lw_all := lw_g (lw_at lw_m2 8 rfl) rfl
theorem q348 : (Jvm.Cond.soleField "java/lang/Throwable" "suppressedExceptions") ∈ lw_all := lw_g (lw_at lw_m2 9 rfl) rfl
theorem q1073 : (Jvm.Cond.instanceMethod ({ cls := "java/lang/Throwable", name := "<init>", desc := "(Ljava/lang/String;)V" } : Jvm.MethodName)) ∈ lw_all := lw_g (lw_at lw_m5 14 rfl) rfl
theorem q1074 : (Jvm.Cond.code ({ cls := "java/lang/Throwable", name := "<init>", desc := "(Ljava/lang/String;)V" } : Jvm.MethodName) prog_39_method_2_code (2 : Nat) (Option.none : Option Jvm.ClassFile.FieldType)) ∈ lw_all := lw_g (lw_at lw_m5 15 rfl) rfl
theorem q2092 : (Jvm.Cond.sameMethod "java/lang/Throwable" "java/lang/Throwable" "fillInStackTrace" "(I)Ljava/lang/Throwable;") ∈ lw_all := lw_g (lw_at lw_m9 73 rfl) rfl
theorem in_J0 : ∀ w ∈ wsJ00, w ∈ lw_all := lw_in wsJ00 [289, 291, 293, 295, 297] (by decide +kernel) (by decide +kernel)
/-! java/lang/Exception -/
set_option maxRecDepth 100000
def RJ1 : String := "java/lang/Exception"
abbrev cJ1_init : ByteArray := prog_31_method_5_code
def yJ1_init : MethodName := ⟨RJ1, "<init>", "(Ljava/lang/String;Ljava/lang/Throwable;ZZ)V"⟩
def dkwJ1_init_0 : List UInt8 := [42, 43, 44, 29, 21, 4, 183, 0, 16, 177]
abbrev dktJ1_init_0 : List UInt8 := dkwJ1_init_0 ++ []
theorem dksJ1_init_0 : cJ1_init.data.toList.drop 0 = dktJ1_init_0 := by decide +kernel
theorem dJ1_init_0 : decode cJ1_init 0 = .ok (.aload_n 0, 1) := dk_42 (dk_at dksJ1_init_0 0 rfl rfl)
theorem dJ1_init_1 : decode cJ1_init 1 = .ok (.aload_n 1, 1) := dk_43 (dk_at dksJ1_init_0 1 rfl rfl)
theorem dJ1_init_2 : decode cJ1_init 2 = .ok (.aload_n 2, 1) := dk_44 (dk_at dksJ1_init_0 2 rfl rfl)
theorem dJ1_init_3 : decode cJ1_init 3 = .ok (.iload_n 3, 1) := dk_29 (dk_at dksJ1_init_0 3 rfl rfl)
theorem dJ1_init_4 : decode cJ1_init 4 = .ok (.iload 4, 2) := dk_21 4 (dk_at dksJ1_init_0 4 rfl rfl)
theorem dJ1_init_6 : decode cJ1_init 6 = .ok (.invokespecial 16, 3) := dk_183 0 16 (dk_at dksJ1_init_0 6 rfl rfl)
theorem dJ1_init_9 : decode cJ1_init 9 = .ok (.return_, 1) := dk_177 (dk_at dksJ1_init_0 9 rfl rfl)
abbrev cJ1_init_2 : ByteArray := prog_31_method_2_code
def yJ1_init_2 : MethodName := ⟨RJ1, "<init>", "(Ljava/lang/String;)V"⟩
def dkwJ1_init_2_0 : List UInt8 := [42, 43, 183, 0, 7, 177]
abbrev dktJ1_init_2_0 : List UInt8 := dkwJ1_init_2_0 ++ []
theorem dksJ1_init_2_0 : cJ1_init_2.data.toList.drop 0 = dktJ1_init_2_0 := by decide +kernel
theorem dJ1_init_2_0 : decode cJ1_init_2 0 = .ok (.aload_n 0, 1) := dk_42 (dk_at dksJ1_init_2_0 0 rfl rfl)
theorem dJ1_init_2_1 : decode cJ1_init_2 1 = .ok (.aload_n 1, 1) := dk_43 (dk_at dksJ1_init_2_0 1 rfl rfl)
theorem dJ1_init_2_2 : decode cJ1_init_2 2 = .ok (.invokespecial 7, 3) := dk_183 0 7 (dk_at dksJ1_init_2_0 2 rfl rfl)
theorem dJ1_init_2_5 : decode cJ1_init_2 5 = .ok (.return_, 1) := dk_177 (dk_at dksJ1_init_2_0 5 rfl rfl)
theorem q110 : (Jvm.Cond.initialized "java/lang/Exception") ∈ lw_all := lw_g (lw_at lw_m1 11 rfl) rfl
theorem q282 : (Jvm.Cond.declares ({ cls := "java/lang/Exception", name := "<init>", desc := "()V" } : Jvm.MethodName)) ∈ lw_tbl := lw_at lw_m1 183 rfl
theorem q283 : (Jvm.Cond.declares ({ cls := "java/lang/Exception", name := "<init>", desc := "(Ljava/lang/String;)V" } : Jvm.MethodName)) ∈ lw_tbl := lw_at lw_m1 184 rfl
theorem q328 : (Jvm.Cond.instanceMethod ({ cls := "java/lang/Exception", name := "<init>", desc := "(Ljava/lang/String;Ljava/lang/Throwable;ZZ)V" } : Jvm.MethodName)) ∈ lw_all := lw_g (lw_at lw_m1 229 rfl) rfl
theorem q329 : (Jvm.Cond.code ({ cls := "java/lang/Exception", name := "<init>", desc := "(Ljava/lang/String;Ljava/lang/Throwable;ZZ)V" } : Jvm.MethodName) prog_31_method_5_code (5 : Nat) (Option.none : Option Jvm.ClassFile.FieldType)) ∈ lw_all := lw_g (lw_at lw_m1 230 rfl) rfl
theorem q330 : (Jvm.Cond.methodLink "java/lang/Exception" (16 : Nat) ({ cls := "java/lang/Throwable", name := "<init>", desc := "(Ljava/lang/String;Ljava/lang/Throwable;ZZ)V" } : Jvm.MethodName)) ∈ lw_all := lw_g (lw_at lw_m1 231 rfl) rfl
theorem q1070 : (Jvm.Cond.instanceMethod ({ cls := "java/lang/Exception", name := "<init>", desc := "(Ljava/lang/String;)V" } : Jvm.MethodName)) ∈ lw_all := lw_g (lw_at lw_m5 11 rfl) rfl
theorem q1071 : (Jvm.Cond.code ({ cls := "java/lang/Exception", name := "<init>", desc := "(Ljava/lang/String;)V" } : Jvm.MethodName) prog_31_method_2_code (2 : Nat) (Option.none : Option Jvm.ClassFile.FieldType)) ∈ lw_all := lw_g (lw_at lw_m5 12 rfl) rfl
theorem q1072 : (Jvm.Cond.methodLink "java/lang/Exception" (7 : Nat) ({ cls := "java/lang/Throwable", name := "<init>", desc := "(Ljava/lang/String;)V" } : Jvm.MethodName)) ∈ lw_all := lw_g (lw_at lw_m5 13 rfl) rfl
/-! java/lang/ArithmeticException -/
set_option maxRecDepth 100000
def RJ10 : String := "java/lang/ArithmeticException"
def TJ10 : u_T := fun k => match k with
  | 0 => ("java/lang/Throwable", "backtrace", "Ljava/lang/Object;", false)
  | 1 => ("java/lang/Throwable", "detailMessage", "Ljava/lang/String;", false)
  | 2 => ("java/lang/Throwable", "cause", "Ljava/lang/Throwable;", false)
  | 3 => ("java/lang/Throwable", "stackTrace", "[Ljava/lang/StackTraceElement;", false)
  | 4 => ("java/lang/Throwable", "depth", "I", false)
  | _ => ("java/lang/Throwable", "suppressedExceptions", "Ljava/util/List;", false)
def tyJ10 : Nat → FieldType := fun k => match k with
  | 0 => .object "java/lang/Object"
  | 1 => .object "java/lang/String"
  | 2 => .object "java/lang/Throwable"
  | 3 => .array (.object "java/lang/StackTraceElement")
  | 4 => .int
  | _ => .object "java/util/List"
abbrev wsJ100 : List Cond := u_ws RJ10 TJ10 6
theorem nmJ10 : ∀ a, a < 6 → ∀ b, b < 6 → a ≠ b → (TJ10 a).2.1 ≠ (TJ10 b).2.1 := by decide +kernel
theorem tyJ10_ok : ∀ k, k < 6 → parseFieldDescriptor (TJ10 k).2.2.1 = some (tyJ10 k) := by decide +kernel
abbrev cJ10_init : ByteArray := prog_29_method_2_code
def yJ10_init : MethodName := ⟨RJ10, "<init>", "(Ljava/lang/String;)V"⟩
def dkwJ10_init_0 : List UInt8 := [42, 43, 183, 0, 7, 177]
abbrev dktJ10_init_0 : List UInt8 := dkwJ10_init_0 ++ []
theorem dksJ10_init_0 : cJ10_init.data.toList.drop 0 = dktJ10_init_0 := by decide +kernel
theorem dJ10_init_0 : decode cJ10_init 0 = .ok (.aload_n 0, 1) := dk_42 (dk_at dksJ10_init_0 0 rfl rfl)
theorem dJ10_init_1 : decode cJ10_init 1 = .ok (.aload_n 1, 1) := dk_43 (dk_at dksJ10_init_0 1 rfl rfl)
theorem dJ10_init_2 : decode cJ10_init 2 = .ok (.invokespecial 7, 3) := dk_183 0 7 (dk_at dksJ10_init_0 2 rfl rfl)
theorem dJ10_init_5 : decode cJ10_init 5 = .ok (.return_, 1) := dk_177 (dk_at dksJ10_init_0 5 rfl rfl)
theorem q133 : (Jvm.Cond.initialized "java/lang/ArithmeticException") ∈ lw_all := lw_g (lw_at lw_m1 34 rfl) rfl
theorem q312 : (Jvm.Cond.selects "java/lang/ArithmeticException" ({ cls := "java/lang/Throwable", name := "fillInStackTrace", desc := "()Ljava/lang/Throwable;" } : Jvm.MethodName) ({ cls := "java/lang/Throwable", name := "fillInStackTrace", desc := "()Ljava/lang/Throwable;" } : Jvm.MethodName)) ∈ lw_all := lw_g (lw_at lw_m1 213 rfl) rfl
theorem q1305 : (Jvm.Cond.instantiable "java/lang/ArithmeticException" (6 : Nat)) ∈ lw_all := lw_g (lw_at lw_m6 6 rfl) rfl
theorem q1306 : (Jvm.Cond.instanceMethod ({ cls := "java/lang/ArithmeticException", name := "<init>", desc := "(Ljava/lang/String;)V" } : Jvm.MethodName)) ∈ lw_all := lw_g (lw_at lw_m6 7 rfl) rfl
theorem q1307 : (Jvm.Cond.code ({ cls := "java/lang/ArithmeticException", name := "<init>", desc := "(Ljava/lang/String;)V" } : Jvm.MethodName) prog_29_method_2_code (2 : Nat) (Option.none : Option Jvm.ClassFile.FieldType)) ∈ lw_all := lw_g (lw_at lw_m6 8 rfl) rfl
theorem q1308 : (Jvm.Cond.methodLink "java/lang/ArithmeticException" (7 : Nat) ({ cls := "java/lang/RuntimeException", name := "<init>", desc := "(Ljava/lang/String;)V" } : Jvm.MethodName)) ∈ lw_all := lw_g (lw_at lw_m6 9 rfl) rfl
theorem q1309 : (Jvm.Cond.lays "java/lang/ArithmeticException" "java/lang/Throwable" "backtrace" "Ljava/lang/Object;") ∈ lw_all := lw_g (lw_at lw_m6 10 rfl) rfl
theorem q1310 : (Jvm.Cond.lays "java/lang/ArithmeticException" "java/lang/Throwable" "detailMessage" "Ljava/lang/String;") ∈ lw_all := lw_g (lw_at lw_m6 11 rfl) rfl
theorem q1311 : (Jvm.Cond.lays "java/lang/ArithmeticException" "java/lang/Throwable" "cause" "Ljava/lang/Throwable;") ∈ lw_all := lw_g (lw_at lw_m6 12 rfl) rfl
theorem q1312 : (Jvm.Cond.lays "java/lang/ArithmeticException" "java/lang/Throwable" "stackTrace" "[Ljava/lang/StackTraceElement;") ∈ lw_all := lw_g (lw_at lw_m6 13 rfl) rfl
theorem q1313 : (Jvm.Cond.lays "java/lang/ArithmeticException" "java/lang/Throwable" "depth" "I") ∈ lw_all := lw_g (lw_at lw_m6 14 rfl) rfl
theorem q1314 : (Jvm.Cond.lays "java/lang/ArithmeticException" "java/lang/Throwable" "suppressedExceptions" "Ljava/util/List;") ∈ lw_all := lw_g (lw_at lw_m6 15 rfl) rfl
theorem q1315 : (Jvm.Cond.superclass "java/lang/ArithmeticException" "java/lang/RuntimeException") ∈ lw_all := lw_g (lw_at lw_m6 16 rfl) rfl
theorem q1316 : (Jvm.Cond.castable "java/lang/ArithmeticException" "java/lang/ArithmeticException") ∈ lw_tbl := lw_at lw_m6 17 rfl
theorem q1317 : (Jvm.Cond.selects "java/lang/ArithmeticException" ({ cls := "java/lang/Throwable", name := "fillInStackTrace", desc := "(I)Ljava/lang/Throwable;" } : Jvm.MethodName) ({ cls := "java/lang/Throwable", name := "fillInStackTrace", desc := "(I)Ljava/lang/Throwable;" } : Jvm.MethodName)) ∈ lw_all := lw_g (lw_at lw_m6 18 rfl) rfl
theorem in_J10 : ∀ w ∈ wsJ100, w ∈ lw_all := lw_in wsJ100 [1309, 1310, 1311, 1312, 1313, 1314] (by decide +kernel) (by decide +kernel)
/-! java/lang/Object -/
set_option maxRecDepth 100000
def RJ11 : String := "java/lang/Object"
abbrev cJ11_init : ByteArray := object_method_1_code
def yJ11_init : MethodName := ⟨RJ11, "<init>", "()V"⟩
theorem dJ11_init_0 : decode cJ11_init 0 = .ok (.return_, 1) := by decide +kernel
theorem q140 : (Jvm.Cond.instanceMethod ({ cls := "java/lang/Object", name := "<init>", desc := "()V" } : Jvm.MethodName)) ∈ lw_all := lw_g (lw_at lw_m1 41 rfl) rfl
theorem q141 : (Jvm.Cond.code ({ cls := "java/lang/Object", name := "<init>", desc := "()V" } : Jvm.MethodName) object_method_1_code (1 : Nat) (Option.none : Option Jvm.ClassFile.FieldType)) ∈ lw_all := lw_g (lw_at lw_m1 42 rfl) rfl
/-! java/lang/RuntimeException -/
set_option maxRecDepth 100000
def RJ2 : String := "java/lang/RuntimeException"
abbrev cJ2_init : ByteArray := prog_34_method_5_code
def yJ2_init : MethodName := ⟨RJ2, "<init>", "(Ljava/lang/String;Ljava/lang/Throwable;ZZ)V"⟩
def dkwJ2_init_0 : List UInt8 := [42, 43, 44, 29, 21, 4, 183, 0, 16, 177]
abbrev dktJ2_init_0 : List UInt8 := dkwJ2_init_0 ++ []
theorem dksJ2_init_0 : cJ2_init.data.toList.drop 0 = dktJ2_init_0 := by decide +kernel
theorem dJ2_init_0 : decode cJ2_init 0 = .ok (.aload_n 0, 1) := dk_42 (dk_at dksJ2_init_0 0 rfl rfl)
theorem dJ2_init_1 : decode cJ2_init 1 = .ok (.aload_n 1, 1) := dk_43 (dk_at dksJ2_init_0 1 rfl rfl)
theorem dJ2_init_2 : decode cJ2_init 2 = .ok (.aload_n 2, 1) := dk_44 (dk_at dksJ2_init_0 2 rfl rfl)
theorem dJ2_init_3 : decode cJ2_init 3 = .ok (.iload_n 3, 1) := dk_29 (dk_at dksJ2_init_0 3 rfl rfl)
theorem dJ2_init_4 : decode cJ2_init 4 = .ok (.iload 4, 2) := dk_21 4 (dk_at dksJ2_init_0 4 rfl rfl)
theorem dJ2_init_6 : decode cJ2_init 6 = .ok (.invokespecial 16, 3) := dk_183 0 16 (dk_at dksJ2_init_0 6 rfl rfl)
theorem dJ2_init_9 : decode cJ2_init 9 = .ok (.return_, 1) := dk_177 (dk_at dksJ2_init_0 9 rfl rfl)
abbrev cJ2_init_2 : ByteArray := prog_34_method_2_code
def yJ2_init_2 : MethodName := ⟨RJ2, "<init>", "(Ljava/lang/String;)V"⟩
def dkwJ2_init_2_0 : List UInt8 := [42, 43, 183, 0, 7, 177]
abbrev dktJ2_init_2_0 : List UInt8 := dkwJ2_init_2_0 ++ []
theorem dksJ2_init_2_0 : cJ2_init_2.data.toList.drop 0 = dktJ2_init_2_0 := by decide +kernel
theorem dJ2_init_2_0 : decode cJ2_init_2 0 = .ok (.aload_n 0, 1) := dk_42 (dk_at dksJ2_init_2_0 0 rfl rfl)
theorem dJ2_init_2_1 : decode cJ2_init_2 1 = .ok (.aload_n 1, 1) := dk_43 (dk_at dksJ2_init_2_0 1 rfl rfl)
theorem dJ2_init_2_2 : decode cJ2_init_2 2 = .ok (.invokespecial 7, 3) := dk_183 0 7 (dk_at dksJ2_init_2_0 2 rfl rfl)
theorem dJ2_init_2_5 : decode cJ2_init_2 5 = .ok (.return_, 1) := dk_177 (dk_at dksJ2_init_2_0 5 rfl rfl)
theorem q111 : (Jvm.Cond.initialized "java/lang/RuntimeException") ∈ lw_all := lw_g (lw_at lw_m1 12 rfl) rfl
theorem q280 : (Jvm.Cond.declares ({ cls := "java/lang/RuntimeException", name := "<init>", desc := "()V" } : Jvm.MethodName)) ∈ lw_tbl := lw_at lw_m1 181 rfl
theorem q281 : (Jvm.Cond.declares ({ cls := "java/lang/RuntimeException", name := "<init>", desc := "(Ljava/lang/String;)V" } : Jvm.MethodName)) ∈ lw_tbl := lw_at lw_m1 182 rfl
theorem q325 : (Jvm.Cond.instanceMethod ({ cls := "java/lang/RuntimeException", name := "<init>", desc := "(Ljava/lang/String;Ljava/lang/Throwable;ZZ)V" } : Jvm.MethodName)) ∈ lw_all := lw_g (lw_at lw_m1 226 rfl) rfl
theorem q326 : (Jvm.Cond.code ({ cls := "java/lang/RuntimeException", name := "<init>", desc := "(Ljava/lang/String;Ljava/lang/Throwable;ZZ)V" } : Jvm.MethodName) prog_34_method_5_code (5 : Nat) (Option.none : Option Jvm.ClassFile.FieldType)) ∈ lw_all := lw_g (lw_at lw_m1 227 rfl) rfl
theorem q327 : (Jvm.Cond.methodLink "java/lang/RuntimeException" (16 : Nat) ({ cls := "java/lang/Exception", name := "<init>", desc := "(Ljava/lang/String;Ljava/lang/Throwable;ZZ)V" } : Jvm.MethodName)) ∈ lw_all := lw_g (lw_at lw_m1 228 rfl) rfl
theorem q1067 : (Jvm.Cond.instanceMethod ({ cls := "java/lang/RuntimeException", name := "<init>", desc := "(Ljava/lang/String;)V" } : Jvm.MethodName)) ∈ lw_all := lw_g (lw_at lw_m5 8 rfl) rfl
theorem q1068 : (Jvm.Cond.code ({ cls := "java/lang/RuntimeException", name := "<init>", desc := "(Ljava/lang/String;)V" } : Jvm.MethodName) prog_34_method_2_code (2 : Nat) (Option.none : Option Jvm.ClassFile.FieldType)) ∈ lw_all := lw_g (lw_at lw_m5 9 rfl) rfl
theorem q1069 : (Jvm.Cond.methodLink "java/lang/RuntimeException" (7 : Nat) ({ cls := "java/lang/Exception", name := "<init>", desc := "(Ljava/lang/String;)V" } : Jvm.MethodName)) ∈ lw_all := lw_g (lw_at lw_m5 10 rfl) rfl
/-! java/lang/String -/
set_option maxRecDepth 100000
def RJ3 : String := "java/lang/String"
def TJ3 : u_T := fun k => match k with
  | 0 => ("java/lang/String", "value", "[B", true)
  | _ => ("java/lang/String", "coder", "B", true)
def tyJ3 : Nat → FieldType := fun k => match k with
  | 0 => .array .byte
  | _ => .byte
abbrev wsJ30 : List Cond := u_ws RJ3 TJ3 2
theorem nmJ3 : ∀ a, a < 2 → ∀ b, b < 2 → a ≠ b → (TJ3 a).2.1 ≠ (TJ3 b).2.1 := by decide +kernel
theorem tyJ3_ok : ∀ k, k < 2 → parseFieldDescriptor (TJ3 k).2.2.1 = some (tyJ3 k) := by decide +kernel
abbrev cJ3_length : ByteArray := prog_35_method_54_code
def yJ3_length : MethodName := ⟨RJ3, "length", "()I"⟩
def dkwJ3_length_0 : List UInt8 := [42, 180, 0, 9, 190, 42, 182, 1, 79, 122, 172]
abbrev dktJ3_length_0 : List UInt8 := dkwJ3_length_0 ++ []
theorem dksJ3_length_0 : cJ3_length.data.toList.drop 0 = dktJ3_length_0 := by decide +kernel
theorem dJ3_length_0 : decode cJ3_length 0 = .ok (.aload_n 0, 1) := dk_42 (dk_at dksJ3_length_0 0 rfl rfl)
theorem dJ3_length_1 : decode cJ3_length 1 = .ok (.getfield 9, 3) := dk_180 0 9 (dk_at dksJ3_length_0 1 rfl rfl)
theorem dJ3_length_4 : decode cJ3_length 4 = .ok (.arraylength, 1) := dk_190 (dk_at dksJ3_length_0 4 rfl rfl)
theorem dJ3_length_5 : decode cJ3_length 5 = .ok (.aload_n 0, 1) := dk_42 (dk_at dksJ3_length_0 5 rfl rfl)
theorem dJ3_length_6 : decode cJ3_length 6 = .ok (.invokevirtual 335, 3) := dk_182 1 79 (dk_at dksJ3_length_0 6 rfl rfl)
theorem dJ3_length_9 : decode cJ3_length 9 = .ok (.ishr, 1) := dk_122 (dk_at dksJ3_length_0 9 rfl rfl)
theorem dJ3_length_10 : decode cJ3_length 10 = .ok (.ireturn, 1) := dk_172 (dk_at dksJ3_length_0 10 rfl rfl)
abbrev cJ3_coder : ByteArray := prog_35_method_152_code
def yJ3_coder : MethodName := ⟨RJ3, "coder", "()B"⟩
def dkwJ3_coder_0 : List UInt8 := [178, 0, 38, 153, 0, 10, 42, 180, 0, 15, 167, 0, 4, 4, 172]
abbrev dktJ3_coder_0 : List UInt8 := dkwJ3_coder_0 ++ []
theorem dksJ3_coder_0 : cJ3_coder.data.toList.drop 0 = dktJ3_coder_0 := by decide +kernel
theorem dJ3_coder_0 : decode cJ3_coder 0 = .ok (.getstatic 38, 3) := dk_178 0 38 (dk_at dksJ3_coder_0 0 rfl rfl)
theorem dJ3_coder_3 : decode cJ3_coder 3 = .ok (.ifCond .eq 10, 3) := dk_153 0 10 (dk_at dksJ3_coder_0 3 rfl rfl)
theorem dJ3_coder_6 : decode cJ3_coder 6 = .ok (.aload_n 0, 1) := dk_42 (dk_at dksJ3_coder_0 6 rfl rfl)
theorem dJ3_coder_7 : decode cJ3_coder 7 = .ok (.getfield 15, 3) := dk_180 0 15 (dk_at dksJ3_coder_0 7 rfl rfl)
theorem dJ3_coder_10 : decode cJ3_coder 10 = .ok (.goto 4, 3) := dk_167 0 4 (dk_at dksJ3_coder_0 10 rfl rfl)
theorem dJ3_coder_13 : decode cJ3_coder 13 = .ok (.iconst 1, 1) := dk_4 (dk_at dksJ3_coder_0 13 rfl rfl)
theorem dJ3_coder_14 : decode cJ3_coder 14 = .ok (.ireturn, 1) := dk_172 (dk_at dksJ3_coder_0 14 rfl rfl)
abbrev cJ3_charAt : ByteArray := prog_35_method_56_code
def yJ3_charAt : MethodName := ⟨RJ3, "charAt", "(I)C"⟩
def dkwJ3_charAt_1 : List UInt8 := [172]
abbrev dktJ3_charAt_1 : List UInt8 := dkwJ3_charAt_1 ++ []
def dkwJ3_charAt_0 : List UInt8 := [42, 182, 1, 236, 153, 0, 12, 42, 180, 0, 9, 27, 184, 1, 239, 172, 42, 180, 0, 9, 27, 184, 1, 242]
abbrev dktJ3_charAt_0 : List UInt8 := dkwJ3_charAt_0 ++ dktJ3_charAt_1
theorem dksJ3_charAt_0 : cJ3_charAt.data.toList.drop 0 = dktJ3_charAt_0 := by decide +kernel
theorem dksJ3_charAt_1 : cJ3_charAt.data.toList.drop 24 = dktJ3_charAt_1 := dk_seg dksJ3_charAt_0 24 rfl rfl
theorem dJ3_charAt_0 : decode cJ3_charAt 0 = .ok (.aload_n 0, 1) := dk_42 (dk_at dksJ3_charAt_0 0 rfl rfl)
theorem dJ3_charAt_1 : decode cJ3_charAt 1 = .ok (.invokevirtual 492, 3) := dk_182 1 236 (dk_at dksJ3_charAt_0 1 rfl rfl)
theorem dJ3_charAt_4 : decode cJ3_charAt 4 = .ok (.ifCond .eq 12, 3) := dk_153 0 12 (dk_at dksJ3_charAt_0 4 rfl rfl)
theorem dJ3_charAt_7 : decode cJ3_charAt 7 = .ok (.aload_n 0, 1) := dk_42 (dk_at dksJ3_charAt_0 7 rfl rfl)
theorem dJ3_charAt_8 : decode cJ3_charAt 8 = .ok (.getfield 9, 3) := dk_180 0 9 (dk_at dksJ3_charAt_0 8 rfl rfl)
theorem dJ3_charAt_11 : decode cJ3_charAt 11 = .ok (.iload_n 1, 1) := dk_27 (dk_at dksJ3_charAt_0 11 rfl rfl)
theorem dJ3_charAt_12 : decode cJ3_charAt 12 = .ok (.invokestatic 495, 3) := dk_184 1 239 (dk_at dksJ3_charAt_0 12 rfl rfl)
theorem dJ3_charAt_15 : decode cJ3_charAt 15 = .ok (.ireturn, 1) := dk_172 (dk_at dksJ3_charAt_0 15 rfl rfl)
theorem dJ3_charAt_16 : decode cJ3_charAt 16 = .ok (.aload_n 0, 1) := dk_42 (dk_at dksJ3_charAt_0 16 rfl rfl)
theorem dJ3_charAt_17 : decode cJ3_charAt 17 = .ok (.getfield 9, 3) := dk_180 0 9 (dk_at dksJ3_charAt_0 17 rfl rfl)
theorem dJ3_charAt_20 : decode cJ3_charAt 20 = .ok (.iload_n 1, 1) := dk_27 (dk_at dksJ3_charAt_0 20 rfl rfl)
theorem dJ3_charAt_21 : decode cJ3_charAt 21 = .ok (.invokestatic 498, 3) := dk_184 1 242 (dk_at dksJ3_charAt_0 21 rfl rfl)
theorem dJ3_charAt_24 : decode cJ3_charAt 24 = .ok (.ireturn, 1) := dk_172 (dk_at dksJ3_charAt_1 0 rfl rfl)
abbrev cJ3_isLatin1 : ByteArray := prog_35_method_154_code
def yJ3_isLatin1 : MethodName := ⟨RJ3, "isLatin1", "()Z"⟩
def dkwJ3_isLatin1_0 : List UInt8 := [178, 0, 38, 153, 0, 14, 42, 180, 0, 15, 154, 0, 7, 4, 167, 0, 4, 3, 172]
abbrev dktJ3_isLatin1_0 : List UInt8 := dkwJ3_isLatin1_0 ++ []
theorem dksJ3_isLatin1_0 : cJ3_isLatin1.data.toList.drop 0 = dktJ3_isLatin1_0 := by decide +kernel
theorem dJ3_isLatin1_0 : decode cJ3_isLatin1 0 = .ok (.getstatic 38, 3) := dk_178 0 38 (dk_at dksJ3_isLatin1_0 0 rfl rfl)
theorem dJ3_isLatin1_3 : decode cJ3_isLatin1 3 = .ok (.ifCond .eq 14, 3) := dk_153 0 14 (dk_at dksJ3_isLatin1_0 3 rfl rfl)
theorem dJ3_isLatin1_6 : decode cJ3_isLatin1 6 = .ok (.aload_n 0, 1) := dk_42 (dk_at dksJ3_isLatin1_0 6 rfl rfl)
theorem dJ3_isLatin1_7 : decode cJ3_isLatin1 7 = .ok (.getfield 15, 3) := dk_180 0 15 (dk_at dksJ3_isLatin1_0 7 rfl rfl)
theorem dJ3_isLatin1_10 : decode cJ3_isLatin1 10 = .ok (.ifCond .ne 7, 3) := dk_154 0 7 (dk_at dksJ3_isLatin1_0 10 rfl rfl)
theorem dJ3_isLatin1_13 : decode cJ3_isLatin1 13 = .ok (.iconst 1, 1) := dk_4 (dk_at dksJ3_isLatin1_0 13 rfl rfl)
theorem dJ3_isLatin1_14 : decode cJ3_isLatin1 14 = .ok (.goto 4, 3) := dk_167 0 4 (dk_at dksJ3_isLatin1_0 14 rfl rfl)
theorem dJ3_isLatin1_17 : decode cJ3_isLatin1 17 = .ok (.iconst 0, 1) := dk_3 (dk_at dksJ3_isLatin1_0 17 rfl rfl)
theorem dJ3_isLatin1_18 : decode cJ3_isLatin1 18 = .ok (.ireturn, 1) := dk_172 (dk_at dksJ3_isLatin1_0 18 rfl rfl)
abbrev cJ3_checkIndex : ByteArray := prog_35_method_155_code
def yJ3_checkIndex : MethodName := ⟨RJ3, "checkIndex", "(II)V"⟩
def dkwJ3_checkIndex_0 : List UInt8 := [26, 27, 178, 4, 29, 184, 4, 35, 87, 177]
abbrev dktJ3_checkIndex_0 : List UInt8 := dkwJ3_checkIndex_0 ++ []
theorem dksJ3_checkIndex_0 : cJ3_checkIndex.data.toList.drop 0 = dktJ3_checkIndex_0 := by decide +kernel
theorem dJ3_checkIndex_0 : decode cJ3_checkIndex 0 = .ok (.iload_n 0, 1) := dk_26 (dk_at dksJ3_checkIndex_0 0 rfl rfl)
theorem dJ3_checkIndex_1 : decode cJ3_checkIndex 1 = .ok (.iload_n 1, 1) := dk_27 (dk_at dksJ3_checkIndex_0 1 rfl rfl)
theorem dJ3_checkIndex_2 : decode cJ3_checkIndex 2 = .ok (.getstatic 1053, 3) := dk_178 4 29 (dk_at dksJ3_checkIndex_0 2 rfl rfl)
theorem dJ3_checkIndex_5 : decode cJ3_checkIndex 5 = .ok (.invokestatic 1059, 3) := dk_184 4 35 (dk_at dksJ3_checkIndex_0 5 rfl rfl)
theorem dJ3_checkIndex_8 : decode cJ3_checkIndex 8 = .ok (.pop, 1) := dk_87 (dk_at dksJ3_checkIndex_0 8 rfl rfl)
theorem dJ3_checkIndex_9 : decode cJ3_checkIndex 9 = .ok (.return_, 1) := dk_177 (dk_at dksJ3_checkIndex_0 9 rfl rfl)
theorem q119 : (Jvm.Cond.initialized "java/lang/String") ∈ lw_all := lw_g (lw_at lw_m1 20 rfl) rfl
theorem q561 : (Jvm.Cond.instanceMethod ({ cls := "java/lang/String", name := "length", desc := "()I" } : Jvm.MethodName)) ∈ lw_all := lw_g (lw_at lw_m2 222 rfl) rfl
theorem q562 : (Jvm.Cond.selects "java/lang/String" ({ cls := "java/lang/String", name := "length", desc := "()I" } : Jvm.MethodName) ({ cls := "java/lang/String", name := "length", desc := "()I" } : Jvm.MethodName)) ∈ lw_all := lw_g (lw_at lw_m2 223 rfl) rfl
theorem q563 : (Jvm.Cond.code ({ cls := "java/lang/String", name := "length", desc := "()I" } : Jvm.MethodName) prog_35_method_54_code (1 : Nat) (Option.some Jvm.ClassFile.FieldType.int)) ∈ lw_all := lw_g (lw_at lw_m2 224 rfl) rfl
theorem q564 : (Jvm.Cond.methodLink "java/lang/String" (335 : Nat) ({ cls := "java/lang/String", name := "coder", desc := "()B" } : Jvm.MethodName)) ∈ lw_all := lw_g (lw_at lw_m2 225 rfl) rfl
theorem q565 : (Jvm.Cond.instanceMethod ({ cls := "java/lang/String", name := "coder", desc := "()B" } : Jvm.MethodName)) ∈ lw_all := lw_g (lw_at lw_m2 226 rfl) rfl
theorem q566 : (Jvm.Cond.selects "java/lang/String" ({ cls := "java/lang/String", name := "coder", desc := "()B" } : Jvm.MethodName) ({ cls := "java/lang/String", name := "coder", desc := "()B" } : Jvm.MethodName)) ∈ lw_all := lw_g (lw_at lw_m2 227 rfl) rfl
theorem q567 : (Jvm.Cond.code ({ cls := "java/lang/String", name := "coder", desc := "()B" } : Jvm.MethodName) prog_35_method_152_code (1 : Nat) (Option.some Jvm.ClassFile.FieldType.byte)) ∈ lw_all := lw_g (lw_at lw_m2 228 rfl) rfl
theorem q568 : (Jvm.Cond.fieldLink "java/lang/String" (38 : Nat) "java/lang/String" "COMPACT_STRINGS" "Z") ∈ lw_all := lw_g (lw_at lw_m2 229 rfl) rfl
theorem q569 : (Jvm.Cond.laysStatic "java/lang/String" "COMPACT_STRINGS" "Z") ∈ lw_tbl := lw_at lw_m2 230 rfl
theorem q571 : (Jvm.Cond.instanceMethod ({ cls := "java/lang/String", name := "charAt", desc := "(I)C" } : Jvm.MethodName)) ∈ lw_all := lw_g (lw_at lw_m2 232 rfl) rfl
theorem q572 : (Jvm.Cond.selects "java/lang/String" ({ cls := "java/lang/String", name := "charAt", desc := "(I)C" } : Jvm.MethodName) ({ cls := "java/lang/String", name := "charAt", desc := "(I)C" } : Jvm.MethodName)) ∈ lw_all := lw_g (lw_at lw_m2 233 rfl) rfl
theorem q573 : (Jvm.Cond.code ({ cls := "java/lang/String", name := "charAt", desc := "(I)C" } : Jvm.MethodName) prog_35_method_56_code (2 : Nat) (Option.some Jvm.ClassFile.FieldType.char)) ∈ lw_all := lw_g (lw_at lw_m2 234 rfl) rfl
theorem q574 : (Jvm.Cond.methodLink "java/lang/String" (492 : Nat) ({ cls := "java/lang/String", name := "isLatin1", desc := "()Z" } : Jvm.MethodName)) ∈ lw_all := lw_g (lw_at lw_m2 235 rfl) rfl
theorem q575 : (Jvm.Cond.instanceMethod ({ cls := "java/lang/String", name := "isLatin1", desc := "()Z" } : Jvm.MethodName)) ∈ lw_all := lw_g (lw_at lw_m2 236 rfl) rfl
theorem q576 : (Jvm.Cond.selects "java/lang/String" ({ cls := "java/lang/String", name := "isLatin1", desc := "()Z" } : Jvm.MethodName) ({ cls := "java/lang/String", name := "isLatin1", desc := "()Z" } : Jvm.MethodName)) ∈ lw_all := lw_g (lw_at lw_m2 237 rfl) rfl
theorem q577 : (Jvm.Cond.code ({ cls := "java/lang/String", name := "isLatin1", desc := "()Z" } : Jvm.MethodName) prog_35_method_154_code (1 : Nat) (Option.some Jvm.ClassFile.FieldType.boolean)) ∈ lw_all := lw_g (lw_at lw_m2 238 rfl) rfl
theorem q578 : (Jvm.Cond.methodLink "java/lang/String" (495 : Nat) ({ cls := "java/lang/StringLatin1", name := "charAt", desc := "([BI)C" } : Jvm.MethodName)) ∈ lw_all := lw_g (lw_at lw_m2 239 rfl) rfl
theorem q582 : (Jvm.Cond.static ({ cls := "java/lang/String", name := "checkIndex", desc := "(II)V" } : Jvm.MethodName)) ∈ lw_all := lw_g (lw_at lw_m3 3 rfl) rfl
theorem q583 : (Jvm.Cond.code ({ cls := "java/lang/String", name := "checkIndex", desc := "(II)V" } : Jvm.MethodName) prog_35_method_155_code (2 : Nat) (Option.none : Option Jvm.ClassFile.FieldType)) ∈ lw_all := lw_g (lw_at lw_m3 4 rfl) rfl
theorem q584 : (Jvm.Cond.fieldLink "java/lang/String" (1053 : Nat) "jdk/internal/util/Preconditions" "SIOOBE_FORMATTER" "Ljava/util/function/BiFunction;") ∈ lw_all := lw_g (lw_at lw_m3 5 rfl) rfl
theorem q586 : (Jvm.Cond.methodLink "java/lang/String" (1059 : Nat) ({ cls := "jdk/internal/util/Preconditions", name := "checkIndex", desc := "(IILjava/util/function/BiFunction;)I" } : Jvm.MethodName)) ∈ lw_all := lw_g (lw_at lw_m3 7 rfl) rfl
theorem q589 : (Jvm.Cond.methodLink "java/lang/String" (498 : Nat) ({ cls := "java/lang/StringUTF16", name := "charAt", desc := "([BI)C" } : Jvm.MethodName)) ∈ lw_all := lw_g (lw_at lw_m3 10 rfl) rfl
theorem q1084 : (Jvm.Cond.instantiable "java/lang/String" (4 : Nat)) ∈ lw_all := lw_g (lw_at lw_m5 25 rfl) rfl
theorem q1085 : (Jvm.Cond.laysFinal "java/lang/String" "java/lang/String" "value" "[B") ∈ lw_all := lw_g (lw_at lw_m5 26 rfl) rfl
theorem q1086 : (Jvm.Cond.soleField "java/lang/String" "value") ∈ lw_all := lw_g (lw_at lw_m5 27 rfl) rfl
theorem q1087 : (Jvm.Cond.laysFinal "java/lang/String" "java/lang/String" "coder" "B") ∈ lw_all := lw_g (lw_at lw_m5 28 rfl) rfl
theorem q1088 : (Jvm.Cond.soleField "java/lang/String" "coder") ∈ lw_all := lw_g (lw_at lw_m5 29 rfl) rfl
theorem q2123 : (Jvm.Cond.fieldLink "java/lang/String" (9 : Nat) "java/lang/String" "value" "[B") ∈ lw_all := lw_g (lw_at lw_m9 104 rfl) rfl
theorem q2124 : (Jvm.Cond.fieldLink "java/lang/String" (15 : Nat) "java/lang/String" "coder" "B") ∈ lw_all := lw_g (lw_at lw_m9 105 rfl) rfl
theorem in_J3 : ∀ w ∈ wsJ30, w ∈ lw_all := lw_in wsJ30 [1085, 1087] (by decide +kernel) (by decide +kernel)
/-! java/lang/StringLatin1 -/
set_option maxRecDepth 100000
def RJ4 : String := "java/lang/StringLatin1"
abbrev cJ4_charAt : ByteArray := prog_36_method_2_code
def yJ4_charAt : MethodName := ⟨RJ4, "charAt", "([BI)C"⟩
def dkwJ4_charAt_0 : List UInt8 := [27, 42, 190, 184, 0, 9, 42, 27, 51, 17, 0, 255, 126, 146, 172]
abbrev dktJ4_charAt_0 : List UInt8 := dkwJ4_charAt_0 ++ []
theorem dksJ4_charAt_0 : cJ4_charAt.data.toList.drop 0 = dktJ4_charAt_0 := by decide +kernel
theorem dJ4_charAt_0 : decode cJ4_charAt 0 = .ok (.iload_n 1, 1) := dk_27 (dk_at dksJ4_charAt_0 0 rfl rfl)
theorem dJ4_charAt_1 : decode cJ4_charAt 1 = .ok (.aload_n 0, 1) := dk_42 (dk_at dksJ4_charAt_0 1 rfl rfl)
theorem dJ4_charAt_2 : decode cJ4_charAt 2 = .ok (.arraylength, 1) := dk_190 (dk_at dksJ4_charAt_0 2 rfl rfl)
theorem dJ4_charAt_3 : decode cJ4_charAt 3 = .ok (.invokestatic 9, 3) := dk_184 0 9 (dk_at dksJ4_charAt_0 3 rfl rfl)
theorem dJ4_charAt_6 : decode cJ4_charAt 6 = .ok (.aload_n 0, 1) := dk_42 (dk_at dksJ4_charAt_0 6 rfl rfl)
theorem dJ4_charAt_7 : decode cJ4_charAt 7 = .ok (.iload_n 1, 1) := dk_27 (dk_at dksJ4_charAt_0 7 rfl rfl)
theorem dJ4_charAt_8 : decode cJ4_charAt 8 = .ok (.baload, 1) := dk_51 (dk_at dksJ4_charAt_0 8 rfl rfl)
theorem dJ4_charAt_9 : decode cJ4_charAt 9 = .ok (.sipush 255, 3) := dk_17 0 255 (dk_at dksJ4_charAt_0 9 rfl rfl)
theorem dJ4_charAt_12 : decode cJ4_charAt 12 = .ok (.iand, 1) := dk_126 (dk_at dksJ4_charAt_0 12 rfl rfl)
theorem dJ4_charAt_13 : decode cJ4_charAt 13 = .ok (.i2c, 1) := dk_146 (dk_at dksJ4_charAt_0 13 rfl rfl)
theorem dJ4_charAt_14 : decode cJ4_charAt 14 = .ok (.ireturn, 1) := dk_172 (dk_at dksJ4_charAt_0 14 rfl rfl)
theorem q120 : (Jvm.Cond.initialized "java/lang/StringLatin1") ∈ lw_all := lw_g (lw_at lw_m1 21 rfl) rfl
theorem q579 : (Jvm.Cond.static ({ cls := "java/lang/StringLatin1", name := "charAt", desc := "([BI)C" } : Jvm.MethodName)) ∈ lw_all := lw_g (lw_at lw_m3 0 rfl) rfl
theorem q580 : (Jvm.Cond.code ({ cls := "java/lang/StringLatin1", name := "charAt", desc := "([BI)C" } : Jvm.MethodName) prog_36_method_2_code (2 : Nat) (Option.some Jvm.ClassFile.FieldType.char)) ∈ lw_all := lw_g (lw_at lw_m3 1 rfl) rfl
theorem q581 : (Jvm.Cond.methodLink "java/lang/StringLatin1" (9 : Nat) ({ cls := "java/lang/String", name := "checkIndex", desc := "(II)V" } : Jvm.MethodName)) ∈ lw_all := lw_g (lw_at lw_m3 2 rfl) rfl
/-! jdk/internal/util/Preconditions -/
set_option maxRecDepth 100000
def RJ5 : String := "jdk/internal/util/Preconditions"
abbrev cJ5_checkIndex : ByteArray := prog_40_method_11_code
def yJ5_checkIndex : MethodName := ⟨RJ5, "checkIndex", "(IILjava/util/function/BiFunction;)I"⟩
def dkwJ5_checkIndex_0 : List UInt8 := [26, 155, 0, 8, 26, 27, 161, 0, 10, 44, 26, 27, 184, 0, 95, 191, 26, 172]
abbrev dktJ5_checkIndex_0 : List UInt8 := dkwJ5_checkIndex_0 ++ []
theorem dksJ5_checkIndex_0 : cJ5_checkIndex.data.toList.drop 0 = dktJ5_checkIndex_0 := by decide +kernel
theorem dJ5_checkIndex_0 : decode cJ5_checkIndex 0 = .ok (.iload_n 0, 1) := dk_26 (dk_at dksJ5_checkIndex_0 0 rfl rfl)
theorem dJ5_checkIndex_1 : decode cJ5_checkIndex 1 = .ok (.ifCond .lt 8, 3) := dk_155 0 8 (dk_at dksJ5_checkIndex_0 1 rfl rfl)
theorem dJ5_checkIndex_4 : decode cJ5_checkIndex 4 = .ok (.iload_n 0, 1) := dk_26 (dk_at dksJ5_checkIndex_0 4 rfl rfl)
theorem dJ5_checkIndex_5 : decode cJ5_checkIndex 5 = .ok (.iload_n 1, 1) := dk_27 (dk_at dksJ5_checkIndex_0 5 rfl rfl)
theorem dJ5_checkIndex_6 : decode cJ5_checkIndex 6 = .ok (.if_icmp .lt 10, 3) := dk_161 0 10 (dk_at dksJ5_checkIndex_0 6 rfl rfl)
theorem dJ5_checkIndex_9 : decode cJ5_checkIndex 9 = .ok (.aload_n 2, 1) := dk_44 (dk_at dksJ5_checkIndex_0 9 rfl rfl)
theorem dJ5_checkIndex_10 : decode cJ5_checkIndex 10 = .ok (.iload_n 0, 1) := dk_26 (dk_at dksJ5_checkIndex_0 10 rfl rfl)
theorem dJ5_checkIndex_11 : decode cJ5_checkIndex 11 = .ok (.iload_n 1, 1) := dk_27 (dk_at dksJ5_checkIndex_0 11 rfl rfl)
theorem dJ5_checkIndex_12 : decode cJ5_checkIndex 12 = .ok (.invokestatic 95, 3) := dk_184 0 95 (dk_at dksJ5_checkIndex_0 12 rfl rfl)
theorem dJ5_checkIndex_15 : decode cJ5_checkIndex 15 = .ok (.athrow, 1) := dk_191 (dk_at dksJ5_checkIndex_0 15 rfl rfl)
theorem dJ5_checkIndex_16 : decode cJ5_checkIndex 16 = .ok (.iload_n 0, 1) := dk_26 (dk_at dksJ5_checkIndex_0 16 rfl rfl)
theorem dJ5_checkIndex_17 : decode cJ5_checkIndex 17 = .ok (.ireturn, 1) := dk_172 (dk_at dksJ5_checkIndex_0 17 rfl rfl)
theorem q121 : (Jvm.Cond.initialized "jdk/internal/util/Preconditions") ∈ lw_all := lw_g (lw_at lw_m1 22 rfl) rfl
theorem q585 : (Jvm.Cond.laysStatic "jdk/internal/util/Preconditions" "SIOOBE_FORMATTER" "Ljava/util/function/BiFunction;") ∈ lw_tbl := lw_at lw_m3 6 rfl
theorem q587 : (Jvm.Cond.static ({ cls := "jdk/internal/util/Preconditions", name := "checkIndex", desc := "(IILjava/util/function/BiFunction;)I" } : Jvm.MethodName)) ∈ lw_all := lw_g (lw_at lw_m3 8 rfl) rfl
theorem q588 : (Jvm.Cond.code ({ cls := "jdk/internal/util/Preconditions", name := "checkIndex", desc := "(IILjava/util/function/BiFunction;)I" } : Jvm.MethodName) prog_40_method_11_code (3 : Nat) (Option.some Jvm.ClassFile.FieldType.int)) ∈ lw_all := lw_g (lw_at lw_m3 9 rfl) rfl
/-! java/lang/StringUTF16 -/
set_option maxRecDepth 100000
def RJ6 : String := "java/lang/StringUTF16"
abbrev cJ6_charAt : ByteArray := prog_37_method_83_code
def yJ6_charAt : MethodName := ⟨RJ6, "charAt", "([BI)C"⟩
def dkwJ6_charAt_0 : List UInt8 := [27, 42, 184, 0, 67, 42, 27, 184, 0, 71, 172]
abbrev dktJ6_charAt_0 : List UInt8 := dkwJ6_charAt_0 ++ []
theorem dksJ6_charAt_0 : cJ6_charAt.data.toList.drop 0 = dktJ6_charAt_0 := by decide +kernel
theorem dJ6_charAt_0 : decode cJ6_charAt 0 = .ok (.iload_n 1, 1) := dk_27 (dk_at dksJ6_charAt_0 0 rfl rfl)
theorem dJ6_charAt_1 : decode cJ6_charAt 1 = .ok (.aload_n 0, 1) := dk_42 (dk_at dksJ6_charAt_0 1 rfl rfl)
theorem dJ6_charAt_2 : decode cJ6_charAt 2 = .ok (.invokestatic 67, 3) := dk_184 0 67 (dk_at dksJ6_charAt_0 2 rfl rfl)
theorem dJ6_charAt_5 : decode cJ6_charAt 5 = .ok (.aload_n 0, 1) := dk_42 (dk_at dksJ6_charAt_0 5 rfl rfl)
theorem dJ6_charAt_6 : decode cJ6_charAt 6 = .ok (.iload_n 1, 1) := dk_27 (dk_at dksJ6_charAt_0 6 rfl rfl)
theorem dJ6_charAt_7 : decode cJ6_charAt 7 = .ok (.invokestatic 71, 3) := dk_184 0 71 (dk_at dksJ6_charAt_0 7 rfl rfl)
theorem dJ6_charAt_10 : decode cJ6_charAt 10 = .ok (.ireturn, 1) := dk_172 (dk_at dksJ6_charAt_0 10 rfl rfl)
abbrev cJ6_checkIndex : ByteArray := prog_37_method_91_code
def yJ6_checkIndex : MethodName := ⟨RJ6, "checkIndex", "(I[B)V"⟩
def dkwJ6_checkIndex_0 : List UInt8 := [26, 43, 184, 0, 48, 184, 1, 158, 177]
abbrev dktJ6_checkIndex_0 : List UInt8 := dkwJ6_checkIndex_0 ++ []
theorem dksJ6_checkIndex_0 : cJ6_checkIndex.data.toList.drop 0 = dktJ6_checkIndex_0 := by decide +kernel
theorem dJ6_checkIndex_0 : decode cJ6_checkIndex 0 = .ok (.iload_n 0, 1) := dk_26 (dk_at dksJ6_checkIndex_0 0 rfl rfl)
theorem dJ6_checkIndex_1 : decode cJ6_checkIndex 1 = .ok (.aload_n 1, 1) := dk_43 (dk_at dksJ6_checkIndex_0 1 rfl rfl)
theorem dJ6_checkIndex_2 : decode cJ6_checkIndex 2 = .ok (.invokestatic 48, 3) := dk_184 0 48 (dk_at dksJ6_checkIndex_0 2 rfl rfl)
theorem dJ6_checkIndex_5 : decode cJ6_checkIndex 5 = .ok (.invokestatic 414, 3) := dk_184 1 158 (dk_at dksJ6_checkIndex_0 5 rfl rfl)
theorem dJ6_checkIndex_8 : decode cJ6_checkIndex 8 = .ok (.return_, 1) := dk_177 (dk_at dksJ6_checkIndex_0 8 rfl rfl)
abbrev cJ6_length : ByteArray := prog_37_method_6_code
def yJ6_length : MethodName := ⟨RJ6, "length", "([B)I"⟩
def dkwJ6_length_0 : List UInt8 := [42, 190, 4, 122, 172]
abbrev dktJ6_length_0 : List UInt8 := dkwJ6_length_0 ++ []
theorem dksJ6_length_0 : cJ6_length.data.toList.drop 0 = dktJ6_length_0 := by decide +kernel
theorem dJ6_length_0 : decode cJ6_length 0 = .ok (.aload_n 0, 1) := dk_42 (dk_at dksJ6_length_0 0 rfl rfl)
theorem dJ6_length_1 : decode cJ6_length 1 = .ok (.arraylength, 1) := dk_190 (dk_at dksJ6_length_0 1 rfl rfl)
theorem dJ6_length_2 : decode cJ6_length 2 = .ok (.iconst 1, 1) := dk_4 (dk_at dksJ6_length_0 2 rfl rfl)
theorem dJ6_length_3 : decode cJ6_length 3 = .ok (.ishr, 1) := dk_122 (dk_at dksJ6_length_0 3 rfl rfl)
theorem dJ6_length_4 : decode cJ6_length 4 = .ok (.ireturn, 1) := dk_172 (dk_at dksJ6_length_0 4 rfl rfl)
abbrev cJ6_getChar : ByteArray := prog_37_method_5_code
def yJ6_getChar : MethodName := ⟨RJ6, "getChar", "([BI)C"⟩
def dkwJ6_getChar_2 : List UInt8 := [51, 17, 0, 255, 126, 178, 0, 63, 120, 128, 146, 172]
abbrev dktJ6_getChar_2 : List UInt8 := dkwJ6_getChar_2 ++ []
def dkwJ6_getChar_1 : List UInt8 := [183, 0, 56, 191, 27, 4, 120, 60, 42, 27, 132, 1, 1, 51, 17, 0, 255, 126, 178, 0, 59, 120, 42, 27]
abbrev dktJ6_getChar_1 : List UInt8 := dkwJ6_getChar_1 ++ dktJ6_getChar_2
def dkwJ6_getChar_0 : List UInt8 := [178, 0, 44, 154, 0, 25, 27, 155, 0, 11, 27, 42, 184, 0, 48, 161, 0, 13, 187, 0, 52, 89, 18, 54]
abbrev dktJ6_getChar_0 : List UInt8 := dkwJ6_getChar_0 ++ dktJ6_getChar_1
theorem dksJ6_getChar_0 : cJ6_getChar.data.toList.drop 0 = dktJ6_getChar_0 := by decide +kernel
theorem dksJ6_getChar_1 : cJ6_getChar.data.toList.drop 24 = dktJ6_getChar_1 := dk_seg dksJ6_getChar_0 24 rfl rfl
theorem dksJ6_getChar_2 : cJ6_getChar.data.toList.drop 48 = dktJ6_getChar_2 := dk_seg dksJ6_getChar_1 24 rfl rfl
theorem dJ6_getChar_0 : decode cJ6_getChar 0 = .ok (.getstatic 44, 3) := dk_178 0 44 (dk_at dksJ6_getChar_0 0 rfl rfl)
theorem dJ6_getChar_3 : decode cJ6_getChar 3 = .ok (.ifCond .ne 25, 3) := dk_154 0 25 (dk_at dksJ6_getChar_0 3 rfl rfl)
theorem dJ6_getChar_6 : decode cJ6_getChar 6 = .ok (.iload_n 1, 1) := dk_27 (dk_at dksJ6_getChar_0 6 rfl rfl)
theorem dJ6_getChar_7 : decode cJ6_getChar 7 = .ok (.ifCond .lt 11, 3) := dk_155 0 11 (dk_at dksJ6_getChar_0 7 rfl rfl)
theorem dJ6_getChar_10 : decode cJ6_getChar 10 = .ok (.iload_n 1, 1) := dk_27 (dk_at dksJ6_getChar_0 10 rfl rfl)
theorem dJ6_getChar_11 : decode cJ6_getChar 11 = .ok (.aload_n 0, 1) := dk_42 (dk_at dksJ6_getChar_0 11 rfl rfl)
theorem dJ6_getChar_12 : decode cJ6_getChar 12 = .ok (.invokestatic 48, 3) := dk_184 0 48 (dk_at dksJ6_getChar_0 12 rfl rfl)
theorem dJ6_getChar_15 : decode cJ6_getChar 15 = .ok (.if_icmp .lt 13, 3) := dk_161 0 13 (dk_at dksJ6_getChar_0 15 rfl rfl)
theorem dJ6_getChar_18 : decode cJ6_getChar 18 = .ok (.new 52, 3) := dk_187 0 52 (dk_at dksJ6_getChar_0 18 rfl rfl)
theorem dJ6_getChar_21 : decode cJ6_getChar 21 = .ok (.dup, 1) := dk_89 (dk_at dksJ6_getChar_0 21 rfl rfl)
theorem dJ6_getChar_22 : decode cJ6_getChar 22 = .ok (.ldc 54, 2) := dk_18 54 (dk_at dksJ6_getChar_0 22 rfl rfl)
theorem dJ6_getChar_24 : decode cJ6_getChar 24 = .ok (.invokespecial 56, 3) := dk_183 0 56 (dk_at dksJ6_getChar_1 0 rfl rfl)
theorem dJ6_getChar_27 : decode cJ6_getChar 27 = .ok (.athrow, 1) := dk_191 (dk_at dksJ6_getChar_1 3 rfl rfl)
theorem dJ6_getChar_28 : decode cJ6_getChar 28 = .ok (.iload_n 1, 1) := dk_27 (dk_at dksJ6_getChar_1 4 rfl rfl)
theorem dJ6_getChar_29 : decode cJ6_getChar 29 = .ok (.iconst 1, 1) := dk_4 (dk_at dksJ6_getChar_1 5 rfl rfl)
theorem dJ6_getChar_30 : decode cJ6_getChar 30 = .ok (.ishl, 1) := dk_120 (dk_at dksJ6_getChar_1 6 rfl rfl)
theorem dJ6_getChar_31 : decode cJ6_getChar 31 = .ok (.istore_n 1, 1) := dk_60 (dk_at dksJ6_getChar_1 7 rfl rfl)
theorem dJ6_getChar_32 : decode cJ6_getChar 32 = .ok (.aload_n 0, 1) := dk_42 (dk_at dksJ6_getChar_1 8 rfl rfl)
theorem dJ6_getChar_33 : decode cJ6_getChar 33 = .ok (.iload_n 1, 1) := dk_27 (dk_at dksJ6_getChar_1 9 rfl rfl)
theorem dJ6_getChar_34 : decode cJ6_getChar 34 = .ok (.iinc 1 1, 3) := dk_132 1 1 (dk_at dksJ6_getChar_1 10 rfl rfl)
theorem dJ6_getChar_37 : decode cJ6_getChar 37 = .ok (.baload, 1) := dk_51 (dk_at dksJ6_getChar_1 13 rfl rfl)
theorem dJ6_getChar_38 : decode cJ6_getChar 38 = .ok (.sipush 255, 3) := dk_17 0 255 (dk_at dksJ6_getChar_1 14 rfl rfl)
theorem dJ6_getChar_41 : decode cJ6_getChar 41 = .ok (.iand, 1) := dk_126 (dk_at dksJ6_getChar_1 17 rfl rfl)
theorem dJ6_getChar_42 : decode cJ6_getChar 42 = .ok (.getstatic 59, 3) := dk_178 0 59 (dk_at dksJ6_getChar_1 18 rfl rfl)
theorem dJ6_getChar_45 : decode cJ6_getChar 45 = .ok (.ishl, 1) := dk_120 (dk_at dksJ6_getChar_1 21 rfl rfl)
theorem dJ6_getChar_46 : decode cJ6_getChar 46 = .ok (.aload_n 0, 1) := dk_42 (dk_at dksJ6_getChar_1 22 rfl rfl)
theorem dJ6_getChar_47 : decode cJ6_getChar 47 = .ok (.iload_n 1, 1) := dk_27 (dk_at dksJ6_getChar_1 23 rfl rfl)
theorem dJ6_getChar_48 : decode cJ6_getChar 48 = .ok (.baload, 1) := dk_51 (dk_at dksJ6_getChar_2 0 rfl rfl)
theorem dJ6_getChar_49 : decode cJ6_getChar 49 = .ok (.sipush 255, 3) := dk_17 0 255 (dk_at dksJ6_getChar_2 1 rfl rfl)
theorem dJ6_getChar_52 : decode cJ6_getChar 52 = .ok (.iand, 1) := dk_126 (dk_at dksJ6_getChar_2 4 rfl rfl)
theorem dJ6_getChar_53 : decode cJ6_getChar 53 = .ok (.getstatic 63, 3) := dk_178 0 63 (dk_at dksJ6_getChar_2 5 rfl rfl)
theorem dJ6_getChar_56 : decode cJ6_getChar 56 = .ok (.ishl, 1) := dk_120 (dk_at dksJ6_getChar_2 8 rfl rfl)
theorem dJ6_getChar_57 : decode cJ6_getChar 57 = .ok (.ior, 1) := dk_128 (dk_at dksJ6_getChar_2 9 rfl rfl)
theorem dJ6_getChar_58 : decode cJ6_getChar 58 = .ok (.i2c, 1) := dk_146 (dk_at dksJ6_getChar_2 10 rfl rfl)
theorem dJ6_getChar_59 : decode cJ6_getChar 59 = .ok (.ireturn, 1) := dk_172 (dk_at dksJ6_getChar_2 11 rfl rfl)
theorem q122 : (Jvm.Cond.initialized "java/lang/StringUTF16") ∈ lw_all := lw_g (lw_at lw_m1 23 rfl) rfl
theorem q590 : (Jvm.Cond.static ({ cls := "java/lang/StringUTF16", name := "charAt", desc := "([BI)C" } : Jvm.MethodName)) ∈ lw_all := lw_g (lw_at lw_m3 11 rfl) rfl
theorem q591 : (Jvm.Cond.code ({ cls := "java/lang/StringUTF16", name := "charAt", desc := "([BI)C" } : Jvm.MethodName) prog_37_method_83_code (2 : Nat) (Option.some Jvm.ClassFile.FieldType.char)) ∈ lw_all := lw_g (lw_at lw_m3 12 rfl) rfl
theorem q592 : (Jvm.Cond.methodLink "java/lang/StringUTF16" (67 : Nat) ({ cls := "java/lang/StringUTF16", name := "checkIndex", desc := "(I[B)V" } : Jvm.MethodName)) ∈ lw_all := lw_g (lw_at lw_m3 13 rfl) rfl
theorem q593 : (Jvm.Cond.static ({ cls := "java/lang/StringUTF16", name := "checkIndex", desc := "(I[B)V" } : Jvm.MethodName)) ∈ lw_all := lw_g (lw_at lw_m3 14 rfl) rfl
theorem q594 : (Jvm.Cond.code ({ cls := "java/lang/StringUTF16", name := "checkIndex", desc := "(I[B)V" } : Jvm.MethodName) prog_37_method_91_code (2 : Nat) (Option.none : Option Jvm.ClassFile.FieldType)) ∈ lw_all := lw_g (lw_at lw_m3 15 rfl) rfl
theorem q595 : (Jvm.Cond.methodLink "java/lang/StringUTF16" (48 : Nat) ({ cls := "java/lang/StringUTF16", name := "length", desc := "([B)I" } : Jvm.MethodName)) ∈ lw_all := lw_g (lw_at lw_m3 16 rfl) rfl
theorem q596 : (Jvm.Cond.static ({ cls := "java/lang/StringUTF16", name := "length", desc := "([B)I" } : Jvm.MethodName)) ∈ lw_all := lw_g (lw_at lw_m3 17 rfl) rfl
theorem q597 : (Jvm.Cond.code ({ cls := "java/lang/StringUTF16", name := "length", desc := "([B)I" } : Jvm.MethodName) prog_37_method_6_code (1 : Nat) (Option.some Jvm.ClassFile.FieldType.int)) ∈ lw_all := lw_g (lw_at lw_m3 18 rfl) rfl
theorem q598 : (Jvm.Cond.methodLink "java/lang/StringUTF16" (414 : Nat) ({ cls := "java/lang/String", name := "checkIndex", desc := "(II)V" } : Jvm.MethodName)) ∈ lw_all := lw_g (lw_at lw_m3 19 rfl) rfl
theorem q599 : (Jvm.Cond.methodLink "java/lang/StringUTF16" (71 : Nat) ({ cls := "java/lang/StringUTF16", name := "getChar", desc := "([BI)C" } : Jvm.MethodName)) ∈ lw_all := lw_g (lw_at lw_m3 20 rfl) rfl
theorem q600 : (Jvm.Cond.static ({ cls := "java/lang/StringUTF16", name := "getChar", desc := "([BI)C" } : Jvm.MethodName)) ∈ lw_all := lw_g (lw_at lw_m3 21 rfl) rfl
theorem q601 : (Jvm.Cond.code ({ cls := "java/lang/StringUTF16", name := "getChar", desc := "([BI)C" } : Jvm.MethodName) prog_37_method_5_code (2 : Nat) (Option.some Jvm.ClassFile.FieldType.char)) ∈ lw_all := lw_g (lw_at lw_m3 22 rfl) rfl
theorem q602 : (Jvm.Cond.fieldLink "java/lang/StringUTF16" (44 : Nat) "java/lang/StringUTF16" "$assertionsDisabled" "Z") ∈ lw_all := lw_g (lw_at lw_m3 23 rfl) rfl
theorem q603 : (Jvm.Cond.laysStatic "java/lang/StringUTF16" "$assertionsDisabled" "Z") ∈ lw_tbl := lw_at lw_m3 24 rfl
theorem q604 : (Jvm.Cond.fieldLink "java/lang/StringUTF16" (59 : Nat) "java/lang/StringUTF16" "HI_BYTE_SHIFT" "I") ∈ lw_all := lw_g (lw_at lw_m3 25 rfl) rfl
theorem q605 : (Jvm.Cond.laysStatic "java/lang/StringUTF16" "HI_BYTE_SHIFT" "I") ∈ lw_tbl := lw_at lw_m3 26 rfl
theorem q606 : (Jvm.Cond.fieldLink "java/lang/StringUTF16" (63 : Nat) "java/lang/StringUTF16" "LO_BYTE_SHIFT" "I") ∈ lw_all := lw_g (lw_at lw_m3 27 rfl) rfl
theorem q607 : (Jvm.Cond.laysStatic "java/lang/StringUTF16" "LO_BYTE_SHIFT" "I") ∈ lw_tbl := lw_at lw_m3 28 rfl
/-! java/lang/Math -/
set_option maxRecDepth 100000
def RJ7 : String := "java/lang/Math"
abbrev cJ7_min : ByteArray := prog_32_method_69_code
def yJ7_min : MethodName := ⟨RJ7, "min", "(II)I"⟩
def dkwJ7_min_0 : List UInt8 := [26, 27, 163, 0, 7, 26, 167, 0, 4, 27, 172]
abbrev dktJ7_min_0 : List UInt8 := dkwJ7_min_0 ++ []
theorem dksJ7_min_0 : cJ7_min.data.toList.drop 0 = dktJ7_min_0 := by decide +kernel
theorem dJ7_min_0 : decode cJ7_min 0 = .ok (.iload_n 0, 1) := dk_26 (dk_at dksJ7_min_0 0 rfl rfl)
theorem dJ7_min_1 : decode cJ7_min 1 = .ok (.iload_n 1, 1) := dk_27 (dk_at dksJ7_min_0 1 rfl rfl)
theorem dJ7_min_2 : decode cJ7_min 2 = .ok (.if_icmp .gt 7, 3) := dk_163 0 7 (dk_at dksJ7_min_0 2 rfl rfl)
theorem dJ7_min_5 : decode cJ7_min 5 = .ok (.iload_n 0, 1) := dk_26 (dk_at dksJ7_min_0 5 rfl rfl)
theorem dJ7_min_6 : decode cJ7_min 6 = .ok (.goto 4, 3) := dk_167 0 4 (dk_at dksJ7_min_0 6 rfl rfl)
theorem dJ7_min_9 : decode cJ7_min 9 = .ok (.iload_n 1, 1) := dk_27 (dk_at dksJ7_min_0 9 rfl rfl)
theorem dJ7_min_10 : decode cJ7_min 10 = .ok (.ireturn, 1) := dk_172 (dk_at dksJ7_min_0 10 rfl rfl)
abbrev cJ7_max : ByteArray := prog_32_method_65_code
def yJ7_max : MethodName := ⟨RJ7, "max", "(II)I"⟩
def dkwJ7_max_0 : List UInt8 := [26, 27, 161, 0, 7, 26, 167, 0, 4, 27, 172]
abbrev dktJ7_max_0 : List UInt8 := dkwJ7_max_0 ++ []
theorem dksJ7_max_0 : cJ7_max.data.toList.drop 0 = dktJ7_max_0 := by decide +kernel
theorem dJ7_max_0 : decode cJ7_max 0 = .ok (.iload_n 0, 1) := dk_26 (dk_at dksJ7_max_0 0 rfl rfl)
theorem dJ7_max_1 : decode cJ7_max 1 = .ok (.iload_n 1, 1) := dk_27 (dk_at dksJ7_max_0 1 rfl rfl)
theorem dJ7_max_2 : decode cJ7_max 2 = .ok (.if_icmp .lt 7, 3) := dk_161 0 7 (dk_at dksJ7_max_0 2 rfl rfl)
theorem dJ7_max_5 : decode cJ7_max 5 = .ok (.iload_n 0, 1) := dk_26 (dk_at dksJ7_max_0 5 rfl rfl)
theorem dJ7_max_6 : decode cJ7_max 6 = .ok (.goto 4, 3) := dk_167 0 4 (dk_at dksJ7_max_0 6 rfl rfl)
theorem dJ7_max_9 : decode cJ7_max 9 = .ok (.iload_n 1, 1) := dk_27 (dk_at dksJ7_max_0 9 rfl rfl)
theorem dJ7_max_10 : decode cJ7_max 10 = .ok (.ireturn, 1) := dk_172 (dk_at dksJ7_max_0 10 rfl rfl)
abbrev cJ7_abs : ByteArray := prog_32_method_61_code
def yJ7_abs : MethodName := ⟨RJ7, "abs", "(J)J"⟩
def dkwJ7_abs_0 : List UInt8 := [30, 9, 148, 156, 0, 8, 30, 117, 167, 0, 4, 30, 173]
abbrev dktJ7_abs_0 : List UInt8 := dkwJ7_abs_0 ++ []
theorem dksJ7_abs_0 : cJ7_abs.data.toList.drop 0 = dktJ7_abs_0 := by decide +kernel
theorem dJ7_abs_0 : decode cJ7_abs 0 = .ok (.lload_n 0, 1) := dk_30 (dk_at dksJ7_abs_0 0 rfl rfl)
theorem dJ7_abs_1 : decode cJ7_abs 1 = .ok (.lconst 0, 1) := dk_9 (dk_at dksJ7_abs_0 1 rfl rfl)
theorem dJ7_abs_2 : decode cJ7_abs 2 = .ok (.lcmp, 1) := dk_148 (dk_at dksJ7_abs_0 2 rfl rfl)
theorem dJ7_abs_3 : decode cJ7_abs 3 = .ok (.ifCond .ge 8, 3) := dk_156 0 8 (dk_at dksJ7_abs_0 3 rfl rfl)
theorem dJ7_abs_6 : decode cJ7_abs 6 = .ok (.lload_n 0, 1) := dk_30 (dk_at dksJ7_abs_0 6 rfl rfl)
theorem dJ7_abs_7 : decode cJ7_abs 7 = .ok (.lneg, 1) := dk_117 (dk_at dksJ7_abs_0 7 rfl rfl)
theorem dJ7_abs_8 : decode cJ7_abs 8 = .ok (.goto 4, 3) := dk_167 0 4 (dk_at dksJ7_abs_0 8 rfl rfl)
theorem dJ7_abs_11 : decode cJ7_abs 11 = .ok (.lload_n 0, 1) := dk_30 (dk_at dksJ7_abs_0 11 rfl rfl)
theorem dJ7_abs_12 : decode cJ7_abs 12 = .ok (.lreturn, 1) := dk_173 (dk_at dksJ7_abs_0 12 rfl rfl)
abbrev cJ7_abs_2 : ByteArray := prog_32_method_59_code
def yJ7_abs_2 : MethodName := ⟨RJ7, "abs", "(I)I"⟩
def dkwJ7_abs_2_0 : List UInt8 := [26, 156, 0, 8, 26, 116, 167, 0, 4, 26, 172]
abbrev dktJ7_abs_2_0 : List UInt8 := dkwJ7_abs_2_0 ++ []
theorem dksJ7_abs_2_0 : cJ7_abs_2.data.toList.drop 0 = dktJ7_abs_2_0 := by decide +kernel
theorem dJ7_abs_2_0 : decode cJ7_abs_2 0 = .ok (.iload_n 0, 1) := dk_26 (dk_at dksJ7_abs_2_0 0 rfl rfl)
theorem dJ7_abs_2_1 : decode cJ7_abs_2 1 = .ok (.ifCond .ge 8, 3) := dk_156 0 8 (dk_at dksJ7_abs_2_0 1 rfl rfl)
theorem dJ7_abs_2_4 : decode cJ7_abs_2 4 = .ok (.iload_n 0, 1) := dk_26 (dk_at dksJ7_abs_2_0 4 rfl rfl)
theorem dJ7_abs_2_5 : decode cJ7_abs_2 5 = .ok (.ineg, 1) := dk_116 (dk_at dksJ7_abs_2_0 5 rfl rfl)
theorem dJ7_abs_2_6 : decode cJ7_abs_2 6 = .ok (.goto 4, 3) := dk_167 0 4 (dk_at dksJ7_abs_2_0 6 rfl rfl)
theorem dJ7_abs_2_9 : decode cJ7_abs_2 9 = .ok (.iload_n 0, 1) := dk_26 (dk_at dksJ7_abs_2_0 9 rfl rfl)
theorem dJ7_abs_2_10 : decode cJ7_abs_2 10 = .ok (.ireturn, 1) := dk_172 (dk_at dksJ7_abs_2_0 10 rfl rfl)
theorem q123 : (Jvm.Cond.initialized "java/lang/Math") ∈ lw_all := lw_g (lw_at lw_m1 24 rfl) rfl
theorem q834 : (Jvm.Cond.static ({ cls := "java/lang/Math", name := "min", desc := "(II)I" } : Jvm.MethodName)) ∈ lw_all := lw_g (lw_at lw_m4 15 rfl) rfl
theorem q835 : (Jvm.Cond.code ({ cls := "java/lang/Math", name := "min", desc := "(II)I" } : Jvm.MethodName) prog_32_method_69_code (2 : Nat) (Option.some Jvm.ClassFile.FieldType.int)) ∈ lw_all := lw_g (lw_at lw_m4 16 rfl) rfl
theorem q837 : (Jvm.Cond.static ({ cls := "java/lang/Math", name := "max", desc := "(II)I" } : Jvm.MethodName)) ∈ lw_all := lw_g (lw_at lw_m4 18 rfl) rfl
theorem q838 : (Jvm.Cond.code ({ cls := "java/lang/Math", name := "max", desc := "(II)I" } : Jvm.MethodName) prog_32_method_65_code (2 : Nat) (Option.some Jvm.ClassFile.FieldType.int)) ∈ lw_all := lw_g (lw_at lw_m4 19 rfl) rfl
theorem q1014 : (Jvm.Cond.static ({ cls := "java/lang/Math", name := "abs", desc := "(J)J" } : Jvm.MethodName)) ∈ lw_all := lw_g (lw_at lw_m4 195 rfl) rfl
theorem q1015 : (Jvm.Cond.code ({ cls := "java/lang/Math", name := "abs", desc := "(J)J" } : Jvm.MethodName) prog_32_method_61_code (2 : Nat) (Option.some Jvm.ClassFile.FieldType.long)) ∈ lw_all := lw_g (lw_at lw_m4 196 rfl) rfl
theorem q1718 : (Jvm.Cond.static ({ cls := "java/lang/Math", name := "abs", desc := "(I)I" } : Jvm.MethodName)) ∈ lw_all := lw_g (lw_at lw_m7 179 rfl) rfl
theorem q1719 : (Jvm.Cond.code ({ cls := "java/lang/Math", name := "abs", desc := "(I)I" } : Jvm.MethodName) prog_32_method_59_code (1 : Nat) (Option.some Jvm.ClassFile.FieldType.int)) ∈ lw_all := lw_g (lw_at lw_m7 180 rfl) rfl
/-! java/lang/ClassCastException -/
set_option maxRecDepth 100000
def RJ8 : String := "java/lang/ClassCastException"
def TJ8 : u_T := fun k => match k with
  | 0 => ("java/lang/Throwable", "backtrace", "Ljava/lang/Object;", false)
  | 1 => ("java/lang/Throwable", "detailMessage", "Ljava/lang/String;", false)
  | 2 => ("java/lang/Throwable", "cause", "Ljava/lang/Throwable;", false)
  | 3 => ("java/lang/Throwable", "stackTrace", "[Ljava/lang/StackTraceElement;", false)
  | 4 => ("java/lang/Throwable", "depth", "I", false)
  | _ => ("java/lang/Throwable", "suppressedExceptions", "Ljava/util/List;", false)
def tyJ8 : Nat → FieldType := fun k => match k with
  | 0 => .object "java/lang/Object"
  | 1 => .object "java/lang/String"
  | 2 => .object "java/lang/Throwable"
  | 3 => .array (.object "java/lang/StackTraceElement")
  | 4 => .int
  | _ => .object "java/util/List"
abbrev wsJ80 : List Cond := u_ws RJ8 TJ8 6
theorem nmJ8 : ∀ a, a < 6 → ∀ b, b < 6 → a ≠ b → (TJ8 a).2.1 ≠ (TJ8 b).2.1 := by decide +kernel
theorem tyJ8_ok : ∀ k, k < 6 → parseFieldDescriptor (TJ8 k).2.2.1 = some (tyJ8 k) := by decide +kernel
abbrev cJ8_init : ByteArray := prog_30_method_2_code
def yJ8_init : MethodName := ⟨RJ8, "<init>", "(Ljava/lang/String;)V"⟩
def dkwJ8_init_0 : List UInt8 := [42, 43, 183, 0, 7, 177]
abbrev dktJ8_init_0 : List UInt8 := dkwJ8_init_0 ++ []
theorem dksJ8_init_0 : cJ8_init.data.toList.drop 0 = dktJ8_init_0 := by decide +kernel
theorem dJ8_init_0 : decode cJ8_init 0 = .ok (.aload_n 0, 1) := dk_42 (dk_at dksJ8_init_0 0 rfl rfl)
theorem dJ8_init_1 : decode cJ8_init 1 = .ok (.aload_n 1, 1) := dk_43 (dk_at dksJ8_init_0 1 rfl rfl)
theorem dJ8_init_2 : decode cJ8_init 2 = .ok (.invokespecial 7, 3) := dk_183 0 7 (dk_at dksJ8_init_0 2 rfl rfl)
theorem dJ8_init_5 : decode cJ8_init 5 = .ok (.return_, 1) := dk_177 (dk_at dksJ8_init_0 5 rfl rfl)
theorem q125 : (Jvm.Cond.initialized "java/lang/ClassCastException") ∈ lw_all := lw_g (lw_at lw_m1 26 rfl) rfl
theorem q313 : (Jvm.Cond.selects "java/lang/ClassCastException" ({ cls := "java/lang/Throwable", name := "fillInStackTrace", desc := "()Ljava/lang/Throwable;" } : Jvm.MethodName) ({ cls := "java/lang/Throwable", name := "fillInStackTrace", desc := "()Ljava/lang/Throwable;" } : Jvm.MethodName)) ∈ lw_all := lw_g (lw_at lw_m1 214 rfl) rfl
theorem q1063 : (Jvm.Cond.instantiable "java/lang/ClassCastException" (6 : Nat)) ∈ lw_all := lw_g (lw_at lw_m5 4 rfl) rfl
theorem q1064 : (Jvm.Cond.instanceMethod ({ cls := "java/lang/ClassCastException", name := "<init>", desc := "(Ljava/lang/String;)V" } : Jvm.MethodName)) ∈ lw_all := lw_g (lw_at lw_m5 5 rfl) rfl
theorem q1065 : (Jvm.Cond.code ({ cls := "java/lang/ClassCastException", name := "<init>", desc := "(Ljava/lang/String;)V" } : Jvm.MethodName) prog_30_method_2_code (2 : Nat) (Option.none : Option Jvm.ClassFile.FieldType)) ∈ lw_all := lw_g (lw_at lw_m5 6 rfl) rfl
theorem q1066 : (Jvm.Cond.methodLink "java/lang/ClassCastException" (7 : Nat) ({ cls := "java/lang/RuntimeException", name := "<init>", desc := "(Ljava/lang/String;)V" } : Jvm.MethodName)) ∈ lw_all := lw_g (lw_at lw_m5 7 rfl) rfl
theorem q1075 : (Jvm.Cond.lays "java/lang/ClassCastException" "java/lang/Throwable" "backtrace" "Ljava/lang/Object;") ∈ lw_all := lw_g (lw_at lw_m5 16 rfl) rfl
theorem q1076 : (Jvm.Cond.lays "java/lang/ClassCastException" "java/lang/Throwable" "detailMessage" "Ljava/lang/String;") ∈ lw_all := lw_g (lw_at lw_m5 17 rfl) rfl
theorem q1077 : (Jvm.Cond.lays "java/lang/ClassCastException" "java/lang/Throwable" "cause" "Ljava/lang/Throwable;") ∈ lw_all := lw_g (lw_at lw_m5 18 rfl) rfl
theorem q1078 : (Jvm.Cond.lays "java/lang/ClassCastException" "java/lang/Throwable" "stackTrace" "[Ljava/lang/StackTraceElement;") ∈ lw_all := lw_g (lw_at lw_m5 19 rfl) rfl
theorem q1079 : (Jvm.Cond.lays "java/lang/ClassCastException" "java/lang/Throwable" "depth" "I") ∈ lw_all := lw_g (lw_at lw_m5 20 rfl) rfl
theorem q1080 : (Jvm.Cond.lays "java/lang/ClassCastException" "java/lang/Throwable" "suppressedExceptions" "Ljava/util/List;") ∈ lw_all := lw_g (lw_at lw_m5 21 rfl) rfl
theorem q1081 : (Jvm.Cond.superclass "java/lang/ClassCastException" "java/lang/RuntimeException") ∈ lw_all := lw_g (lw_at lw_m5 22 rfl) rfl
theorem q1082 : (Jvm.Cond.castable "java/lang/ClassCastException" "java/lang/ClassCastException") ∈ lw_tbl := lw_at lw_m5 23 rfl
theorem q1083 : (Jvm.Cond.selects "java/lang/ClassCastException" ({ cls := "java/lang/Throwable", name := "fillInStackTrace", desc := "(I)Ljava/lang/Throwable;" } : Jvm.MethodName) ({ cls := "java/lang/Throwable", name := "fillInStackTrace", desc := "(I)Ljava/lang/Throwable;" } : Jvm.MethodName)) ∈ lw_all := lw_g (lw_at lw_m5 24 rfl) rfl
theorem in_J8 : ∀ w ∈ wsJ80, w ∈ lw_all := lw_in wsJ80 [1075, 1076, 1077, 1078, 1079, 1080] (by decide +kernel) (by decide +kernel)
/-! java/lang/NegativeArraySizeException -/
set_option maxRecDepth 100000
def RJ9 : String := "java/lang/NegativeArraySizeException"
def TJ9 : u_T := fun k => match k with
  | 0 => ("java/lang/Throwable", "backtrace", "Ljava/lang/Object;", false)
  | 1 => ("java/lang/Throwable", "detailMessage", "Ljava/lang/String;", false)
  | 2 => ("java/lang/Throwable", "cause", "Ljava/lang/Throwable;", false)
  | 3 => ("java/lang/Throwable", "stackTrace", "[Ljava/lang/StackTraceElement;", false)
  | 4 => ("java/lang/Throwable", "depth", "I", false)
  | _ => ("java/lang/Throwable", "suppressedExceptions", "Ljava/util/List;", false)
def tyJ9 : Nat → FieldType := fun k => match k with
  | 0 => .object "java/lang/Object"
  | 1 => .object "java/lang/String"
  | 2 => .object "java/lang/Throwable"
  | 3 => .array (.object "java/lang/StackTraceElement")
  | 4 => .int
  | _ => .object "java/util/List"
abbrev wsJ90 : List Cond := u_ws RJ9 TJ9 6
theorem nmJ9 : ∀ a, a < 6 → ∀ b, b < 6 → a ≠ b → (TJ9 a).2.1 ≠ (TJ9 b).2.1 := by decide +kernel
theorem tyJ9_ok : ∀ k, k < 6 → parseFieldDescriptor (TJ9 k).2.2.1 = some (tyJ9 k) := by decide +kernel
abbrev cJ9_init : ByteArray := prog_33_method_2_code
def yJ9_init : MethodName := ⟨RJ9, "<init>", "(Ljava/lang/String;)V"⟩
def dkwJ9_init_0 : List UInt8 := [42, 43, 183, 0, 7, 177]
abbrev dktJ9_init_0 : List UInt8 := dkwJ9_init_0 ++ []
theorem dksJ9_init_0 : cJ9_init.data.toList.drop 0 = dktJ9_init_0 := by decide +kernel
theorem dJ9_init_0 : decode cJ9_init 0 = .ok (.aload_n 0, 1) := dk_42 (dk_at dksJ9_init_0 0 rfl rfl)
theorem dJ9_init_1 : decode cJ9_init 1 = .ok (.aload_n 1, 1) := dk_43 (dk_at dksJ9_init_0 1 rfl rfl)
theorem dJ9_init_2 : decode cJ9_init 2 = .ok (.invokespecial 7, 3) := dk_183 0 7 (dk_at dksJ9_init_0 2 rfl rfl)
theorem dJ9_init_5 : decode cJ9_init 5 = .ok (.return_, 1) := dk_177 (dk_at dksJ9_init_0 5 rfl rfl)
theorem q126 : (Jvm.Cond.initialized "java/lang/NegativeArraySizeException") ∈ lw_all := lw_g (lw_at lw_m1 27 rfl) rfl
theorem q314 : (Jvm.Cond.selects "java/lang/NegativeArraySizeException" ({ cls := "java/lang/Throwable", name := "fillInStackTrace", desc := "()Ljava/lang/Throwable;" } : Jvm.MethodName) ({ cls := "java/lang/Throwable", name := "fillInStackTrace", desc := "()Ljava/lang/Throwable;" } : Jvm.MethodName)) ∈ lw_all := lw_g (lw_at lw_m1 215 rfl) rfl
theorem q1105 : (Jvm.Cond.instantiable "java/lang/NegativeArraySizeException" (6 : Nat)) ∈ lw_all := lw_g (lw_at lw_m5 46 rfl) rfl
theorem q1106 : (Jvm.Cond.instanceMethod ({ cls := "java/lang/NegativeArraySizeException", name := "<init>", desc := "(Ljava/lang/String;)V" } : Jvm.MethodName)) ∈ lw_all := lw_g (lw_at lw_m5 47 rfl) rfl
theorem q1107 : (Jvm.Cond.code ({ cls := "java/lang/NegativeArraySizeException", name := "<init>", desc := "(Ljava/lang/String;)V" } : Jvm.MethodName) prog_33_method_2_code (2 : Nat) (Option.none : Option Jvm.ClassFile.FieldType)) ∈ lw_all := lw_g (lw_at lw_m5 48 rfl) rfl
theorem q1108 : (Jvm.Cond.methodLink "java/lang/NegativeArraySizeException" (7 : Nat) ({ cls := "java/lang/RuntimeException", name := "<init>", desc := "(Ljava/lang/String;)V" } : Jvm.MethodName)) ∈ lw_all := lw_g (lw_at lw_m5 49 rfl) rfl
theorem q1109 : (Jvm.Cond.lays "java/lang/NegativeArraySizeException" "java/lang/Throwable" "backtrace" "Ljava/lang/Object;") ∈ lw_all := lw_g (lw_at lw_m5 50 rfl) rfl
theorem q1110 : (Jvm.Cond.lays "java/lang/NegativeArraySizeException" "java/lang/Throwable" "detailMessage" "Ljava/lang/String;") ∈ lw_all := lw_g (lw_at lw_m5 51 rfl) rfl
theorem q1111 : (Jvm.Cond.lays "java/lang/NegativeArraySizeException" "java/lang/Throwable" "cause" "Ljava/lang/Throwable;") ∈ lw_all := lw_g (lw_at lw_m5 52 rfl) rfl
theorem q1112 : (Jvm.Cond.lays "java/lang/NegativeArraySizeException" "java/lang/Throwable" "stackTrace" "[Ljava/lang/StackTraceElement;") ∈ lw_all := lw_g (lw_at lw_m5 53 rfl) rfl
theorem q1113 : (Jvm.Cond.lays "java/lang/NegativeArraySizeException" "java/lang/Throwable" "depth" "I") ∈ lw_all := lw_g (lw_at lw_m5 54 rfl) rfl
theorem q1114 : (Jvm.Cond.lays "java/lang/NegativeArraySizeException" "java/lang/Throwable" "suppressedExceptions" "Ljava/util/List;") ∈ lw_all := lw_g (lw_at lw_m5 55 rfl) rfl
theorem q1115 : (Jvm.Cond.superclass "java/lang/NegativeArraySizeException" "java/lang/RuntimeException") ∈ lw_all := lw_g (lw_at lw_m5 56 rfl) rfl
theorem q1116 : (Jvm.Cond.castable "java/lang/NegativeArraySizeException" "java/lang/NegativeArraySizeException") ∈ lw_tbl := lw_at lw_m5 57 rfl
theorem q1117 : (Jvm.Cond.selects "java/lang/NegativeArraySizeException" ({ cls := "java/lang/Throwable", name := "fillInStackTrace", desc := "(I)Ljava/lang/Throwable;" } : Jvm.MethodName) ({ cls := "java/lang/Throwable", name := "fillInStackTrace", desc := "(I)Ljava/lang/Throwable;" } : Jvm.MethodName)) ∈ lw_all := lw_g (lw_at lw_m5 58 rfl) rfl
theorem in_J9 : ∀ w ∈ wsJ90, w ∈ lw_all := lw_in wsJ90 [1109, 1110, 1111, 1112, 1113, 1114] (by decide +kernel) (by decide +kernel)
theorem q99 : (Jvm.Cond.initialized "IntentVatsLaw") ∈ lw_all := lw_g (lw_at lw_m1 0 rfl) rfl
set_option maxRecDepth 100000
theorem q134 : (Jvm.Cond.classLink "IntentVatsLaw" (7 : Nat) "IntentVats") ∈ lw_all := lw_g (lw_at lw_m1 35 rfl) rfl
theorem q136 : (Jvm.Cond.methodLink "IntentVatsLaw" (9 : Nat) ({ cls := "IntentVats", name := "<init>", desc := "()V" } : Jvm.MethodName)) ∈ lw_all := lw_g (lw_at lw_m1 37 rfl) rfl
theorem q504 : (Jvm.Cond.methodLink "IntentVatsLaw" (15 : Nat) ({ cls := "IntentVats", name := "feed", desc := "(JI)I" } : Jvm.MethodName)) ∈ lw_all := lw_g (lw_at lw_m2 165 rfl) rfl
theorem q511 : (Jvm.Cond.methodLink "IntentVatsLaw" (20 : Nat) ({ cls := "IntentVats", name := "mill", desc := "()I" } : Jvm.MethodName)) ∈ lw_all := lw_g (lw_at lw_m2 172 rfl) rfl
theorem q669 : (Jvm.Cond.methodLink "IntentVatsLaw" (25 : Nat) ({ cls := "IntentVats", name := "set", desc := "(II)I" } : Jvm.MethodName)) ∈ lw_all := lw_g (lw_at lw_m3 90 rfl) rfl
theorem q674 : (Jvm.Cond.methodLink "IntentVatsLaw" (30 : Nat) ({ cls := "IntentVats", name := "lawOf", desc := "(I)I" } : Jvm.MethodName)) ∈ lw_all := lw_g (lw_at lw_m3 95 rfl) rfl
theorem q678 : (Jvm.Cond.methodLink "IntentVatsLaw" (35 : Nat) ({ cls := "IntentVats", name := "fill", desc := "(III)I" } : Jvm.MethodName)) ∈ lw_all := lw_g (lw_at lw_m3 99 rfl) rfl
theorem q688 : (Jvm.Cond.methodLink "IntentVatsLaw" (40 : Nat) ({ cls := "IntentVats", name := "vatOf", desc := "(II)I" } : Jvm.MethodName)) ∈ lw_all := lw_g (lw_at lw_m3 109 rfl) rfl
theorem q692 : (Jvm.Cond.methodLink "IntentVatsLaw" (44 : Nat) ({ cls := "IntentVats", name := "roster", desc := "(II)I" } : Jvm.MethodName)) ∈ lw_all := lw_g (lw_at lw_m3 113 rfl) rfl
theorem q699 : (Jvm.Cond.methodLink "IntentVatsLaw" (48 : Nat) ({ cls := "IntentVats", name := "rosterOf", desc := "(I)I" } : Jvm.MethodName)) ∈ lw_all := lw_g (lw_at lw_m3 120 rfl) rfl
theorem q703 : (Jvm.Cond.methodLink "IntentVatsLaw" (52 : Nat) ({ cls := "IntentVats", name := "cloth", desc := "(I)I" } : Jvm.MethodName)) ∈ lw_all := lw_g (lw_at lw_m3 124 rfl) rfl
theorem q711 : (Jvm.Cond.methodLink "IntentVatsLaw" (56 : Nat) ({ cls := "IntentVats", name := "of", desc := "(II)I" } : Jvm.MethodName)) ∈ lw_all := lw_g (lw_at lw_m3 132 rfl) rfl
theorem q726 : (Jvm.Cond.methodLink "IntentVatsLaw" (60 : Nat) ({ cls := "IntentVats", name := "does", desc := "(III)I" } : Jvm.MethodName)) ∈ lw_all := lw_g (lw_at lw_m3 147 rfl) rfl
theorem q805 : (Jvm.Cond.methodLink "IntentVatsLaw" (64 : Nat) ({ cls := "IntentVats", name := "mind", desc := "(II)I" } : Jvm.MethodName)) ∈ lw_all := lw_g (lw_at lw_m3 226 rfl) rfl
theorem q809 : (Jvm.Cond.methodLink "IntentVatsLaw" (68 : Nat) ({ cls := "IntentVats", name := "steep", desc := "(III)I" } : Jvm.MethodName)) ∈ lw_all := lw_g (lw_at lw_m3 230 rfl) rfl
theorem q816 : (Jvm.Cond.methodLink "IntentVatsLaw" (72 : Nat) ({ cls := "IntentVats", name := "hang", desc := "(II)I" } : Jvm.MethodName)) ∈ lw_all := lw_g (lw_at lw_m3 237 rfl) rfl
theorem q821 : (Jvm.Cond.methodLink "IntentVatsLaw" (76 : Nat) ({ cls := "IntentVats", name := "dip", desc := "(II)I" } : Jvm.MethodName)) ∈ lw_all := lw_g (lw_at lw_m4 2 rfl) rfl
theorem q841 : (Jvm.Cond.methodLink "IntentVatsLaw" (80 : Nat) ({ cls := "IntentVats", name := "days", desc := "(I)I" } : Jvm.MethodName)) ∈ lw_all := lw_g (lw_at lw_m4 22 rfl) rfl
theorem q861 : (Jvm.Cond.methodLink "IntentVatsLaw" (84 : Nat) ({ cls := "IntentVats", name := "seed", desc := "(I)I" } : Jvm.MethodName)) ∈ lw_all := lw_g (lw_at lw_m4 42 rfl) rfl
theorem q865 : (Jvm.Cond.methodLink "IntentVatsLaw" (88 : Nat) ({ cls := "IntentVats", name := "day", desc := "()I" } : Jvm.MethodName)) ∈ lw_all := lw_g (lw_at lw_m4 46 rfl) rfl
theorem q878 : (Jvm.Cond.methodLink "IntentVatsLaw" (92 : Nat) ({ cls := "IntentVats", name := "luck", desc := "(I)I" } : Jvm.MethodName)) ∈ lw_all := lw_g (lw_at lw_m4 59 rfl) rfl
theorem q882 : (Jvm.Cond.methodLink "IntentVatsLaw" (96 : Nat) ({ cls := "IntentVats", name := "state", desc := "(I)I" } : Jvm.MethodName)) ∈ lw_all := lw_g (lw_at lw_m4 63 rfl) rfl
theorem q899 : (Jvm.Cond.methodLink "IntentVatsLaw" (100 : Nat) ({ cls := "IntentVats", name := "gone", desc := "(II)I" } : Jvm.MethodName)) ∈ lw_all := lw_g (lw_at lw_m4 80 rfl) rfl
theorem q907 : (Jvm.Cond.methodLink "IntentVatsLaw" (104 : Nat) ({ cls := "IntentVats", name := "depth", desc := "(II)I" } : Jvm.MethodName)) ∈ lw_all := lw_g (lw_at lw_m4 88 rfl) rfl
theorem q911 : (Jvm.Cond.methodLink "IntentVatsLaw" (108 : Nat) ({ cls := "IntentVats", name := "comes", desc := "(II)I" } : Jvm.MethodName)) ∈ lw_all := lw_g (lw_at lw_m4 92 rfl) rfl
theorem q919 : (Jvm.Cond.methodLink "IntentVatsLaw" (112 : Nat) ({ cls := "IntentVats", name := "bare", desc := "(I)I" } : Jvm.MethodName)) ∈ lw_all := lw_g (lw_at lw_m4 100 rfl) rfl
theorem q923 : (Jvm.Cond.methodLink "IntentVatsLaw" (116 : Nat) ({ cls := "IntentVats", name := "spoilt", desc := "(I)I" } : Jvm.MethodName)) ∈ lw_all := lw_g (lw_at lw_m4 104 rfl) rfl
theorem q931 : (Jvm.Cond.methodLink "IntentVatsLaw" (120 : Nat) ({ cls := "IntentVats", name := "through", desc := "(II)I" } : Jvm.MethodName)) ∈ lw_all := lw_g (lw_at lw_m4 112 rfl) rfl
theorem q939 : (Jvm.Cond.methodLink "IntentVatsLaw" (124 : Nat) ({ cls := "IntentVats", name := "vatFor", desc := "(II)I" } : Jvm.MethodName)) ∈ lw_all := lw_g (lw_at lw_m4 120 rfl) rfl
theorem q947 : (Jvm.Cond.methodLink "IntentVatsLaw" (128 : Nat) ({ cls := "IntentVats", name := "kindFor", desc := "(II)I" } : Jvm.MethodName)) ∈ lw_all := lw_g (lw_at lw_m4 128 rfl) rfl
theorem q951 : (Jvm.Cond.methodLink "IntentVatsLaw" (132 : Nat) ({ cls := "IntentVats", name := "strengthFor", desc := "(IIII)I" } : Jvm.MethodName)) ∈ lw_all := lw_g (lw_at lw_m4 132 rfl) rfl
theorem q955 : (Jvm.Cond.methodLink "IntentVatsLaw" (137 : Nat) ({ cls := "IntentVats", name := "hangFor", desc := "(II)I" } : Jvm.MethodName)) ∈ lw_all := lw_g (lw_at lw_m4 136 rfl) rfl
theorem q962 : (Jvm.Cond.methodLink "IntentVatsLaw" (141 : Nat) ({ cls := "IntentVats", name := "fits", desc := "(III)I" } : Jvm.MethodName)) ∈ lw_all := lw_g (lw_at lw_m4 143 rfl) rfl
theorem q996 : (Jvm.Cond.methodLink "IntentVatsLaw" (145 : Nat) ({ cls := "IntentVats", name := "odds", desc := "(III)J" } : Jvm.MethodName)) ∈ lw_all := lw_g (lw_at lw_m4 177 rfl) rfl
theorem q1016 : (Jvm.Cond.methodLink "IntentVatsLaw" (150 : Nat) ({ cls := "IntentVats", name := "hope", desc := "(II)J" } : Jvm.MethodName)) ∈ lw_all := lw_g (lw_at lw_m4 197 rfl) rfl
theorem q1020 : (Jvm.Cond.methodLink "IntentVatsLaw" (159 : Nat) ({ cls := "IntentVats", name := "row", desc := "(II)I" } : Jvm.MethodName)) ∈ lw_all := lw_g (lw_at lw_m4 201 rfl) rfl
theorem q1028 : (Jvm.Cond.methodLink "IntentVatsLaw" (163 : Nat) ({ cls := "IntentVats", name := "alterRow", desc := "(III)I" } : Jvm.MethodName)) ∈ lw_all := lw_g (lw_at lw_m4 209 rfl) rfl
theorem q1032 : (Jvm.Cond.methodLink "IntentVatsLaw" (155 : Nat) ({ cls := "IntentVats", name := "prove", desc := "(II)I" } : Jvm.MethodName)) ∈ lw_all := lw_g (lw_at lw_m4 213 rfl) rfl
theorem q1054 : (Jvm.Cond.methodLink "IntentVatsLaw" (167 : Nat) ({ cls := "IntentVats", name := "judge", desc := "(I)I" } : Jvm.MethodName)) ∈ lw_all := lw_g (lw_at lw_m4 235 rfl) rfl
theorem q1058 : (Jvm.Cond.methodLink "IntentVatsLaw" (171 : Nat) ({ cls := "IntentVats", name := "minds", desc := "(IIII)I" } : Jvm.MethodName)) ∈ lw_all := lw_g (lw_at lw_m4 239 rfl) rfl
theorem q1100 : (Jvm.Cond.methodLink "IntentVatsLaw" (175 : Nat) ({ cls := "IntentVats", name := "sheet", desc := "(III)I" } : Jvm.MethodName)) ∈ lw_all := lw_g (lw_at lw_m5 41 rfl) rfl
theorem q1124 : (Jvm.Cond.methodLink "IntentVatsLaw" (179 : Nat) ({ cls := "IntentVats", name := "put", desc := "(III)I" } : Jvm.MethodName)) ∈ lw_all := lw_g (lw_at lw_m5 65 rfl) rfl
theorem q1132 : (Jvm.Cond.methodLink "IntentVatsLaw" (183 : Nat) ({ cls := "IntentVats", name := "item", desc := "(III)I" } : Jvm.MethodName)) ∈ lw_all := lw_g (lw_at lw_m5 73 rfl) rfl
theorem q1156 : (Jvm.Cond.methodLink "IntentVatsLaw" (187 : Nat) ({ cls := "IntentVats", name := "shelf", desc := "(III)I" } : Jvm.MethodName)) ∈ lw_all := lw_g (lw_at lw_m5 97 rfl) rfl
theorem q1163 : (Jvm.Cond.methodLink "IntentVatsLaw" (191 : Nat) ({ cls := "IntentVats", name := "taken", desc := "(II)I" } : Jvm.MethodName)) ∈ lw_all := lw_g (lw_at lw_m5 104 rfl) rfl
theorem q1300 : (Jvm.Cond.methodLink "IntentVatsLaw" (195 : Nat) ({ cls := "IntentVats", name := "act", desc := "(III)I" } : Jvm.MethodName)) ∈ lw_all := lw_g (lw_at lw_m6 1 rfl) rfl
theorem q1491 : (Jvm.Cond.methodLink "IntentVatsLaw" (199 : Nat) ({ cls := "IntentVats", name := "trace", desc := "(I)I" } : Jvm.MethodName)) ∈ lw_all := lw_g (lw_at lw_m6 192 rfl) rfl
theorem q1495 : (Jvm.Cond.methodLink "IntentVatsLaw" (203 : Nat) ({ cls := "IntentVats", name := "many", desc := "(I)I" } : Jvm.MethodName)) ∈ lw_all := lw_g (lw_at lw_m6 196 rfl) rfl
theorem q1503 : (Jvm.Cond.methodLink "IntentVatsLaw" (207 : Nat) ({ cls := "IntentVats", name := "keep", desc := "()I" } : Jvm.MethodName)) ∈ lw_all := lw_g (lw_at lw_m6 204 rfl) rfl
theorem q1507 : (Jvm.Cond.methodLink "IntentVatsLaw" (211 : Nat) ({ cls := "IntentVats", name := "again", desc := "()I" } : Jvm.MethodName)) ∈ lw_all := lw_g (lw_at lw_m6 208 rfl) rfl
theorem q1511 : (Jvm.Cond.classLink "IntentVatsLaw" (10 : Nat) "IntentVatsModel") ∈ lw_all := lw_g (lw_at lw_m6 212 rfl) rfl
theorem q1513 : (Jvm.Cond.methodLink "IntentVatsLaw" (12 : Nat) ({ cls := "IntentVatsModel", name := "<init>", desc := "()V" } : Jvm.MethodName)) ∈ lw_all := lw_g (lw_at lw_m6 214 rfl) rfl
theorem q1597 : (Jvm.Cond.methodLink "IntentVatsLaw" (29 : Nat) ({ cls := "IntentVatsModel", name := "set", desc := "(II)I" } : Jvm.MethodName)) ∈ lw_all := lw_g (lw_at lw_m7 58 rfl) rfl
theorem q1609 : (Jvm.Cond.methodLink "IntentVatsLaw" (34 : Nat) ({ cls := "IntentVatsModel", name := "lawOf", desc := "(I)I" } : Jvm.MethodName)) ∈ lw_all := lw_g (lw_at lw_m7 70 rfl) rfl
theorem q1613 : (Jvm.Cond.methodLink "IntentVatsLaw" (39 : Nat) ({ cls := "IntentVatsModel", name := "fill", desc := "(III)I" } : Jvm.MethodName)) ∈ lw_all := lw_g (lw_at lw_m7 74 rfl) rfl
theorem q1622 : (Jvm.Cond.methodLink "IntentVatsLaw" (43 : Nat) ({ cls := "IntentVatsModel", name := "vatOf", desc := "(II)I" } : Jvm.MethodName)) ∈ lw_all := lw_g (lw_at lw_m7 83 rfl) rfl
theorem q1626 : (Jvm.Cond.methodLink "IntentVatsLaw" (47 : Nat) ({ cls := "IntentVatsModel", name := "roster", desc := "(II)I" } : Jvm.MethodName)) ∈ lw_all := lw_g (lw_at lw_m7 87 rfl) rfl
theorem q1634 : (Jvm.Cond.methodLink "IntentVatsLaw" (51 : Nat) ({ cls := "IntentVatsModel", name := "rosterOf", desc := "(I)I" } : Jvm.MethodName)) ∈ lw_all := lw_g (lw_at lw_m7 95 rfl) rfl
theorem q1638 : (Jvm.Cond.methodLink "IntentVatsLaw" (55 : Nat) ({ cls := "IntentVatsModel", name := "cloth", desc := "(I)I" } : Jvm.MethodName)) ∈ lw_all := lw_g (lw_at lw_m7 99 rfl) rfl
theorem q1653 : (Jvm.Cond.methodLink "IntentVatsLaw" (59 : Nat) ({ cls := "IntentVatsModel", name := "of", desc := "(II)I" } : Jvm.MethodName)) ∈ lw_all := lw_g (lw_at lw_m7 114 rfl) rfl
theorem q1666 : (Jvm.Cond.methodLink "IntentVatsLaw" (63 : Nat) ({ cls := "IntentVatsModel", name := "does", desc := "(III)I" } : Jvm.MethodName)) ∈ lw_all := lw_g (lw_at lw_m7 127 rfl) rfl
theorem q1683 : (Jvm.Cond.methodLink "IntentVatsLaw" (67 : Nat) ({ cls := "IntentVatsModel", name := "mind", desc := "(II)I" } : Jvm.MethodName)) ∈ lw_all := lw_g (lw_at lw_m7 144 rfl) rfl
theorem q1691 : (Jvm.Cond.methodLink "IntentVatsLaw" (71 : Nat) ({ cls := "IntentVatsModel", name := "steep", desc := "(III)I" } : Jvm.MethodName)) ∈ lw_all := lw_g (lw_at lw_m7 152 rfl) rfl
theorem q1699 : (Jvm.Cond.methodLink "IntentVatsLaw" (75 : Nat) ({ cls := "IntentVatsModel", name := "hang", desc := "(II)I" } : Jvm.MethodName)) ∈ lw_all := lw_g (lw_at lw_m7 160 rfl) rfl
theorem q1703 : (Jvm.Cond.methodLink "IntentVatsLaw" (79 : Nat) ({ cls := "IntentVatsModel", name := "dip", desc := "(II)I" } : Jvm.MethodName)) ∈ lw_all := lw_g (lw_at lw_m7 164 rfl) rfl
theorem q1720 : (Jvm.Cond.methodLink "IntentVatsLaw" (83 : Nat) ({ cls := "IntentVatsModel", name := "days", desc := "(I)I" } : Jvm.MethodName)) ∈ lw_all := lw_g (lw_at lw_m7 181 rfl) rfl
theorem q1737 : (Jvm.Cond.methodLink "IntentVatsLaw" (87 : Nat) ({ cls := "IntentVatsModel", name := "seed", desc := "(I)I" } : Jvm.MethodName)) ∈ lw_all := lw_g (lw_at lw_m7 198 rfl) rfl
theorem q1741 : (Jvm.Cond.methodLink "IntentVatsLaw" (91 : Nat) ({ cls := "IntentVatsModel", name := "day", desc := "()I" } : Jvm.MethodName)) ∈ lw_all := lw_g (lw_at lw_m7 202 rfl) rfl
theorem q1754 : (Jvm.Cond.methodLink "IntentVatsLaw" (95 : Nat) ({ cls := "IntentVatsModel", name := "luck", desc := "(I)I" } : Jvm.MethodName)) ∈ lw_all := lw_g (lw_at lw_m7 215 rfl) rfl
theorem q1770 : (Jvm.Cond.methodLink "IntentVatsLaw" (99 : Nat) ({ cls := "IntentVatsModel", name := "state", desc := "(I)I" } : Jvm.MethodName)) ∈ lw_all := lw_g (lw_at lw_m7 231 rfl) rfl
theorem q1790 : (Jvm.Cond.methodLink "IntentVatsLaw" (103 : Nat) ({ cls := "IntentVatsModel", name := "gone", desc := "(II)I" } : Jvm.MethodName)) ∈ lw_all := lw_g (lw_at lw_m8 11 rfl) rfl
theorem q1801 : (Jvm.Cond.methodLink "IntentVatsLaw" (107 : Nat) ({ cls := "IntentVatsModel", name := "depth", desc := "(II)I" } : Jvm.MethodName)) ∈ lw_all := lw_g (lw_at lw_m8 22 rfl) rfl
theorem q1805 : (Jvm.Cond.methodLink "IntentVatsLaw" (111 : Nat) ({ cls := "IntentVatsModel", name := "comes", desc := "(II)I" } : Jvm.MethodName)) ∈ lw_all := lw_g (lw_at lw_m8 26 rfl) rfl
theorem q1813 : (Jvm.Cond.methodLink "IntentVatsLaw" (115 : Nat) ({ cls := "IntentVatsModel", name := "bare", desc := "(I)I" } : Jvm.MethodName)) ∈ lw_all := lw_g (lw_at lw_m8 34 rfl) rfl
theorem q1817 : (Jvm.Cond.methodLink "IntentVatsLaw" (119 : Nat) ({ cls := "IntentVatsModel", name := "spoilt", desc := "(I)I" } : Jvm.MethodName)) ∈ lw_all := lw_g (lw_at lw_m8 38 rfl) rfl
theorem q1825 : (Jvm.Cond.methodLink "IntentVatsLaw" (123 : Nat) ({ cls := "IntentVatsModel", name := "through", desc := "(II)I" } : Jvm.MethodName)) ∈ lw_all := lw_g (lw_at lw_m8 46 rfl) rfl
theorem q1833 : (Jvm.Cond.methodLink "IntentVatsLaw" (127 : Nat) ({ cls := "IntentVatsModel", name := "vatFor", desc := "(II)I" } : Jvm.MethodName)) ∈ lw_all := lw_g (lw_at lw_m8 54 rfl) rfl
theorem q1841 : (Jvm.Cond.methodLink "IntentVatsLaw" (131 : Nat) ({ cls := "IntentVatsModel", name := "kindFor", desc := "(II)I" } : Jvm.MethodName)) ∈ lw_all := lw_g (lw_at lw_m8 62 rfl) rfl
theorem q1845 : (Jvm.Cond.methodLink "IntentVatsLaw" (136 : Nat) ({ cls := "IntentVatsModel", name := "strengthFor", desc := "(IIII)I" } : Jvm.MethodName)) ∈ lw_all := lw_g (lw_at lw_m8 66 rfl) rfl
theorem q1849 : (Jvm.Cond.methodLink "IntentVatsLaw" (140 : Nat) ({ cls := "IntentVatsModel", name := "hangFor", desc := "(II)I" } : Jvm.MethodName)) ∈ lw_all := lw_g (lw_at lw_m8 70 rfl) rfl
theorem q1861 : (Jvm.Cond.methodLink "IntentVatsLaw" (144 : Nat) ({ cls := "IntentVatsModel", name := "fits", desc := "(III)I" } : Jvm.MethodName)) ∈ lw_all := lw_g (lw_at lw_m8 82 rfl) rfl
theorem q1872 : (Jvm.Cond.methodLink "IntentVatsLaw" (149 : Nat) ({ cls := "IntentVatsModel", name := "odds", desc := "(III)J" } : Jvm.MethodName)) ∈ lw_all := lw_g (lw_at lw_m8 93 rfl) rfl
theorem q1881 : (Jvm.Cond.methodLink "IntentVatsLaw" (154 : Nat) ({ cls := "IntentVatsModel", name := "hope", desc := "(II)J" } : Jvm.MethodName)) ∈ lw_all := lw_g (lw_at lw_m8 102 rfl) rfl
theorem q1885 : (Jvm.Cond.methodLink "IntentVatsLaw" (19 : Nat) ({ cls := "IntentVatsModel", name := "feed", desc := "(JI)I" } : Jvm.MethodName)) ∈ lw_all := lw_g (lw_at lw_m8 106 rfl) rfl
theorem q1890 : (Jvm.Cond.methodLink "IntentVatsLaw" (24 : Nat) ({ cls := "IntentVatsModel", name := "mill", desc := "()I" } : Jvm.MethodName)) ∈ lw_all := lw_g (lw_at lw_m8 111 rfl) rfl
theorem q1967 : (Jvm.Cond.methodLink "IntentVatsLaw" (158 : Nat) ({ cls := "IntentVatsModel", name := "prove", desc := "(II)I" } : Jvm.MethodName)) ∈ lw_all := lw_g (lw_at lw_m8 188 rfl) rfl
theorem q1972 : (Jvm.Cond.methodLink "IntentVatsLaw" (162 : Nat) ({ cls := "IntentVatsModel", name := "row", desc := "(II)I" } : Jvm.MethodName)) ∈ lw_all := lw_g (lw_at lw_m8 193 rfl) rfl
theorem q1980 : (Jvm.Cond.methodLink "IntentVatsLaw" (166 : Nat) ({ cls := "IntentVatsModel", name := "alterRow", desc := "(III)I" } : Jvm.MethodName)) ∈ lw_all := lw_g (lw_at lw_m8 201 rfl) rfl
theorem q1984 : (Jvm.Cond.methodLink "IntentVatsLaw" (170 : Nat) ({ cls := "IntentVatsModel", name := "judge", desc := "(I)I" } : Jvm.MethodName)) ∈ lw_all := lw_g (lw_at lw_m8 205 rfl) rfl
theorem q1992 : (Jvm.Cond.methodLink "IntentVatsLaw" (174 : Nat) ({ cls := "IntentVatsModel", name := "minds", desc := "(IIII)I" } : Jvm.MethodName)) ∈ lw_all := lw_g (lw_at lw_m8 213 rfl) rfl
theorem q1996 : (Jvm.Cond.methodLink "IntentVatsLaw" (178 : Nat) ({ cls := "IntentVatsModel", name := "sheet", desc := "(III)I" } : Jvm.MethodName)) ∈ lw_all := lw_g (lw_at lw_m8 217 rfl) rfl
theorem q2000 : (Jvm.Cond.methodLink "IntentVatsLaw" (182 : Nat) ({ cls := "IntentVatsModel", name := "put", desc := "(III)I" } : Jvm.MethodName)) ∈ lw_all := lw_g (lw_at lw_m8 221 rfl) rfl
theorem q2007 : (Jvm.Cond.methodLink "IntentVatsLaw" (186 : Nat) ({ cls := "IntentVatsModel", name := "item", desc := "(III)I" } : Jvm.MethodName)) ∈ lw_all := lw_g (lw_at lw_m8 228 rfl) rfl
theorem q2011 : (Jvm.Cond.methodLink "IntentVatsLaw" (190 : Nat) ({ cls := "IntentVatsModel", name := "shelf", desc := "(III)I" } : Jvm.MethodName)) ∈ lw_all := lw_g (lw_at lw_m8 232 rfl) rfl
theorem q2015 : (Jvm.Cond.methodLink "IntentVatsLaw" (194 : Nat) ({ cls := "IntentVatsModel", name := "taken", desc := "(II)I" } : Jvm.MethodName)) ∈ lw_all := lw_g (lw_at lw_m8 236 rfl) rfl
theorem q2027 : (Jvm.Cond.methodLink "IntentVatsLaw" (198 : Nat) ({ cls := "IntentVatsModel", name := "act", desc := "(III)I" } : Jvm.MethodName)) ∈ lw_all := lw_g (lw_at lw_m9 8 rfl) rfl
theorem q2071 : (Jvm.Cond.methodLink "IntentVatsLaw" (202 : Nat) ({ cls := "IntentVatsModel", name := "trace", desc := "(I)I" } : Jvm.MethodName)) ∈ lw_all := lw_g (lw_at lw_m9 52 rfl) rfl
theorem q2075 : (Jvm.Cond.methodLink "IntentVatsLaw" (206 : Nat) ({ cls := "IntentVatsModel", name := "many", desc := "(I)I" } : Jvm.MethodName)) ∈ lw_all := lw_g (lw_at lw_m9 56 rfl) rfl
theorem q2083 : (Jvm.Cond.methodLink "IntentVatsLaw" (210 : Nat) ({ cls := "IntentVatsModel", name := "keep", desc := "()I" } : Jvm.MethodName)) ∈ lw_all := lw_g (lw_at lw_m9 64 rfl) rfl
theorem q2087 : (Jvm.Cond.methodLink "IntentVatsLaw" (214 : Nat) ({ cls := "IntentVatsModel", name := "again", desc := "()I" } : Jvm.MethodName)) ∈ lw_all := lw_g (lw_at lw_m9 68 rfl) rfl
theorem q2091 : (Jvm.Cond.constantLong "IntentVatsLaw" (13 : Nat) (4294967295 : Int64)) ∈ lw_all := lw_g (lw_at lw_m9 72 rfl) rfl
theorem q1461 : (Jvm.Cond.interfaceMethod "IntentVats$Dries" "IntentVats$Dries" "dries" "(I)I") ∈ lw_tbl := lw_at lw_m6 162 rfl
set_option maxRecDepth 100000
theorem q1462 : (Jvm.Cond.declares ({ cls := "IntentVats$Dries", name := "dries", desc := "(I)I" } : Jvm.MethodName)) ∈ lw_tbl := lw_at lw_m6 163 rfl
theorem q1428 : (Jvm.Cond.publicMethod ({ cls := "IntentVats$PartsAct", name := "parts", desc := "(I)I" } : Jvm.MethodName)) ∈ lw_tbl := lw_at lw_m6 129 rfl
set_option maxRecDepth 100000
theorem q1429 : (Jvm.Cond.declares ({ cls := "IntentVats$PartsAct", name := "parts", desc := "(I)I" } : Jvm.MethodName)) ∈ lw_tbl := lw_at lw_m6 130 rfl
theorem q118 : (Jvm.Cond.initialized "java/lang/System") ∈ lw_all := lw_g (lw_at lw_m1 19 rfl) rfl
set_option maxRecDepth 100000
theorem q524 : (Jvm.Cond.static ({ cls := "java/lang/System", name := "arraycopy", desc := "(Ljava/lang/Object;ILjava/lang/Object;II)V" } : Jvm.MethodName)) ∈ lw_all := lw_g (lw_at lw_m2 185 rfl) rfl
theorem q525 : (Jvm.Cond.native ({ cls := "java/lang/System", name := "arraycopy", desc := "(Ljava/lang/Object;ILjava/lang/Object;II)V" } : Jvm.MethodName)) ∈ lw_all := lw_g (lw_at lw_m2 186 rfl) rfl
theorem q215 : (Jvm.Cond.arrayClass Jvm.ClassFile.FieldType.int) ∈ lw_all := lw_g (lw_at lw_m1 116 rfl) rfl
set_option maxRecDepth 100000
theorem q217 : (Jvm.Cond.arrayOver (Jvm.ClassFile.FieldType.object "IntentVats$Plain")) ∈ lw_tbl := lw_at lw_m1 118 rfl
theorem q266 : (Jvm.Cond.arrayOver (Jvm.ClassFile.FieldType.object "java/lang/String")) ∈ lw_tbl := lw_at lw_m1 167 rfl
theorem q350 : (Jvm.Cond.arrayClass Jvm.ClassFile.FieldType.byte) ∈ lw_all := lw_g (lw_at lw_m2 11 rfl) rfl
theorem q377 : (Jvm.Cond.arrayOver (Jvm.ClassFile.FieldType.object "IntentVats$Row")) ∈ lw_tbl := lw_at lw_m2 38 rfl
theorem q379 : (Jvm.Cond.arrayOver (Jvm.ClassFile.FieldType.object "IntentVats$Sheet")) ∈ lw_tbl := lw_at lw_m2 40 rfl
theorem q432 : (Jvm.Cond.arrayOver (Jvm.ClassFile.FieldType.object "IntentVats$Shelf")) ∈ lw_tbl := lw_at lw_m2 93 rfl
theorem q1122 : (Jvm.Cond.arrayClass Jvm.ClassFile.FieldType.short) ∈ lw_all := lw_g (lw_at lw_m5 63 rfl) rfl
theorem q1123 : (Jvm.Cond.arrayClass Jvm.ClassFile.FieldType.long) ∈ lw_all := lw_g (lw_at lw_m5 64 rfl) rfl
