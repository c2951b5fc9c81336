/-! GoodHalfEmpty -/
set_option maxRecDepth 100000
def RX0 : String := "GoodHalfEmpty"
def TX0 : u_T := fun k => match k with
  | 0 => ("GoodHalfEmpty", "ruleKinds", "[LGoodHalfEmpty$Rule;", true)
  | 1 => ("GoodHalfEmpty", "goerKinds", "[LGoodHalfEmpty$Goer;", true)
  | 2 => ("GoodHalfEmpty", "town", "LGoodHalfEmpty$Town;", true)
  | 3 => ("GoodHalfEmpty", "mind", "LGoodHalfEmpty$Town;", true)
  | 4 => ("GoodHalfEmpty", "imaged", "LGoodHalfEmpty$Town;", true)
  | 5 => ("GoodHalfEmpty", "hasImage", "Z", false)
  | 6 => ("GoodHalfEmpty", "row", "[B", true)
  | 7 => ("GoodHalfEmpty", "rowMany", "I", false)
  | 8 => ("GoodHalfEmpty", "letters", "[C", true)
  | 9 => ("GoodHalfEmpty", "letterMany", "I", false)
  | 10 => ("GoodHalfEmpty", "refused", "[I", true)
  | 11 => ("GoodHalfEmpty", "sumOf", "I", false)
  | 12 => ("GoodHalfEmpty", "mostOf", "I", false)
  | 13 => ("GoodHalfEmpty", "leastOf", "I", false)
  | 14 => ("GoodHalfEmpty", "goodOf", "I", false)
  | 15 => ("GoodHalfEmpty", "ahead", "[I", true)
  | 16 => ("GoodHalfEmpty", "plan", "[I", true)
  | 17 => ("GoodHalfEmpty", "firstPlan", "[I", true)
  | 18 => ("GoodHalfEmpty", "restMany", "I", false)
  | 19 => ("GoodHalfEmpty", "restPresent", "I", false)
  | 20 => ("GoodHalfEmpty", "restMost", "I", false)
  | 21 => ("GoodHalfEmpty", "planMost", "I", false)
  | 22 => ("GoodHalfEmpty", "planPresent", "I", false)
  | _ => ("GoodHalfEmpty", "rights", "[I", true)
def tyX0 : Nat → FieldType := fun k => match k with
  | 0 => .array (.object "GoodHalfEmpty$Rule")
  | 1 => .array (.object "GoodHalfEmpty$Goer")
  | 2 => .object "GoodHalfEmpty$Town"
  | 3 => .object "GoodHalfEmpty$Town"
  | 4 => .object "GoodHalfEmpty$Town"
  | 5 => .boolean
  | 6 => .array .byte
  | 7 => .int
  | 8 => .array .char
  | 9 => .int
  | 10 => .array .int
  | 11 => .int
  | 12 => .int
  | 13 => .int
  | 14 => .int
  | 15 => .array .int
  | 16 => .array .int
  | 17 => .array .int
  | 18 => .int
  | 19 => .int
  | 20 => .int
  | 21 => .int
  | 22 => .int
  | _ => .array .int
abbrev wsX00 : List Cond := u_ws RX0 TX0 24
set_option maxRecDepth 100000 in
theorem nmX0 : ∀ a, a < 24 → ∀ b, b < 24 → a ≠ b → (TX0 a).2.1 ≠ (TX0 b).2.1 := by decide +kernel
set_option maxRecDepth 100000 in
theorem tyX0_ok : ∀ k, k < 24 → parseFieldDescriptor (TX0 k).2.2.1 = some (tyX0 k) := by decide +kernel
abbrev cX0_init : ByteArray := prog_1_method_5_code
def yX0_init : MethodName := ⟨RX0, "<init>", "()V"⟩
def dkwX0_init_9 : List UInt8 := [181, 0, 98, 42, 7, 188, 10, 181, 0, 101, 42, 16, 36, 188, 10, 181, 0, 104, 177]
abbrev dktX0_init_9 : List UInt8 := dkwX0_init_9 ++ []
def dkwX0_init_8 : List UInt8 := [181, 0, 87, 42, 16, 7, 188, 10, 181, 0, 91, 42, 16, 80, 188, 10, 181, 0, 95, 42, 7, 188, 10]
abbrev dktX0_init_8 : List UInt8 := dkwX0_init_8 ++ dktX0_init_9
def dkwX0_init_7 : List UInt8 := [187, 0, 70, 89, 183, 0, 72, 181, 0, 80, 42, 16, 12, 188, 8, 181, 0, 83, 42, 16, 80, 188, 5]
abbrev dktX0_init_7 : List UInt8 := dkwX0_init_7 ++ dktX0_init_8
def dkwX0_init_6 : List UInt8 := [42, 187, 0, 70, 89, 183, 0, 72, 181, 0, 73, 42, 187, 0, 70, 89, 183, 0, 72, 181, 0, 77, 42]
abbrev dktX0_init_6 : List UInt8 := dkwX0_init_6 ++ dktX0_init_7
def dkwX0_init_5 : List UInt8 := [83, 89, 7, 187, 0, 60, 89, 183, 0, 62, 83, 89, 8, 187, 0, 63, 89, 183, 0, 65, 83, 181, 0, 66]
abbrev dktX0_init_5 : List UInt8 := dkwX0_init_5 ++ dktX0_init_6
def dkwX0_init_4 : List UInt8 := [89, 183, 0, 53, 83, 89, 5, 187, 0, 54, 89, 183, 0, 56, 83, 89, 6, 187, 0, 57, 89, 183, 0, 59]
abbrev dktX0_init_4 : List UInt8 := dkwX0_init_4 ++ dktX0_init_5
def dkwX0_init_3 : List UInt8 := [181, 0, 42, 42, 16, 6, 189, 0, 46, 89, 3, 187, 0, 48, 89, 183, 0, 50, 83, 89, 4, 187, 0, 51]
abbrev dktX0_init_3 : List UInt8 := dkwX0_init_3 ++ dktX0_init_4
def dkwX0_init_2 : List UInt8 := [183, 0, 35, 83, 89, 7, 187, 0, 36, 89, 183, 0, 38, 83, 89, 8, 187, 0, 39, 89, 183, 0, 41, 83]
abbrev dktX0_init_2 : List UInt8 := dkwX0_init_2 ++ dktX0_init_3
def dkwX0_init_1 : List UInt8 := [187, 0, 27, 89, 183, 0, 29, 83, 89, 5, 187, 0, 30, 89, 183, 0, 32, 83, 89, 6, 187, 0, 33, 89]
abbrev dktX0_init_1 : List UInt8 := dkwX0_init_1 ++ dktX0_init_2
def dkwX0_init_0 : List UInt8 := [42, 183, 0, 17, 42, 16, 6, 189, 0, 22, 89, 3, 187, 0, 24, 89, 183, 0, 26, 83, 89, 4]
abbrev dktX0_init_0 : List UInt8 := dkwX0_init_0 ++ dktX0_init_1
theorem dksX0_init_0 : cX0_init.data.toList.drop 0 = dktX0_init_0 := by decide +kernel
theorem dksX0_init_1 : cX0_init.data.toList.drop 22 = dktX0_init_1 := dk_seg dksX0_init_0 22 rfl rfl
theorem dksX0_init_2 : cX0_init.data.toList.drop 46 = dktX0_init_2 := dk_seg dksX0_init_1 24 rfl rfl
theorem dksX0_init_3 : cX0_init.data.toList.drop 70 = dktX0_init_3 := dk_seg dksX0_init_2 24 rfl rfl
theorem dksX0_init_4 : cX0_init.data.toList.drop 94 = dktX0_init_4 := dk_seg dksX0_init_3 24 rfl rfl
theorem dksX0_init_5 : cX0_init.data.toList.drop 118 = dktX0_init_5 := dk_seg dksX0_init_4 24 rfl rfl
theorem dksX0_init_6 : cX0_init.data.toList.drop 142 = dktX0_init_6 := dk_seg dksX0_init_5 24 rfl rfl
theorem dksX0_init_7 : cX0_init.data.toList.drop 165 = dktX0_init_7 := dk_seg dksX0_init_6 23 rfl rfl
theorem dksX0_init_8 : cX0_init.data.toList.drop 188 = dktX0_init_8 := dk_seg dksX0_init_7 23 rfl rfl
theorem dksX0_init_9 : cX0_init.data.toList.drop 211 = dktX0_init_9 := dk_seg dksX0_init_8 23 rfl rfl
theorem dX0_init_0 : decode cX0_init 0 = .ok (.aload_n 0, 1) := dk_42 (dk_at dksX0_init_0 0 rfl rfl)
theorem dX0_init_1 : decode cX0_init 1 = .ok (.invokespecial 17, 3) := dk_183 0 17 (dk_at dksX0_init_0 1 rfl rfl)
theorem dX0_init_4 : decode cX0_init 4 = .ok (.aload_n 0, 1) := dk_42 (dk_at dksX0_init_0 4 rfl rfl)
theorem dX0_init_5 : decode cX0_init 5 = .ok (.bipush 6, 2) := dk_16 6 (dk_at dksX0_init_0 5 rfl rfl)
theorem dX0_init_7 : decode cX0_init 7 = .ok (.anewarray 22, 3) := dk_189 0 22 (dk_at dksX0_init_0 7 rfl rfl)
theorem dX0_init_10 : decode cX0_init 10 = .ok (.dup, 1) := dk_89 (dk_at dksX0_init_0 10 rfl rfl)
theorem dX0_init_11 : decode cX0_init 11 = .ok (.iconst 0, 1) := dk_3 (dk_at dksX0_init_0 11 rfl rfl)
theorem dX0_init_12 : decode cX0_init 12 = .ok (.new 24, 3) := dk_187 0 24 (dk_at dksX0_init_0 12 rfl rfl)
theorem dX0_init_15 : decode cX0_init 15 = .ok (.dup, 1) := dk_89 (dk_at dksX0_init_0 15 rfl rfl)
theorem dX0_init_16 : decode cX0_init 16 = .ok (.invokespecial 26, 3) := dk_183 0 26 (dk_at dksX0_init_0 16 rfl rfl)
theorem dX0_init_19 : decode cX0_init 19 = .ok (.aastore, 1) := dk_83 (dk_at dksX0_init_0 19 rfl rfl)
theorem dX0_init_20 : decode cX0_init 20 = .ok (.dup, 1) := dk_89 (dk_at dksX0_init_0 20 rfl rfl)
theorem dX0_init_21 : decode cX0_init 21 = .ok (.iconst 1, 1) := dk_4 (dk_at dksX0_init_0 21 rfl rfl)
theorem dX0_init_22 : decode cX0_init 22 = .ok (.new 27, 3) := dk_187 0 27 (dk_at dksX0_init_1 0 rfl rfl)
theorem dX0_init_25 : decode cX0_init 25 = .ok (.dup, 1) := dk_89 (dk_at dksX0_init_1 3 rfl rfl)
theorem dX0_init_26 : decode cX0_init 26 = .ok (.invokespecial 29, 3) := dk_183 0 29 (dk_at dksX0_init_1 4 rfl rfl)
theorem dX0_init_29 : decode cX0_init 29 = .ok (.aastore, 1) := dk_83 (dk_at dksX0_init_1 7 rfl rfl)
theorem dX0_init_30 : decode cX0_init 30 = .ok (.dup, 1) := dk_89 (dk_at dksX0_init_1 8 rfl rfl)
theorem dX0_init_31 : decode cX0_init 31 = .ok (.iconst 2, 1) := dk_5 (dk_at dksX0_init_1 9 rfl rfl)
theorem dX0_init_32 : decode cX0_init 32 = .ok (.new 30, 3) := dk_187 0 30 (dk_at dksX0_init_1 10 rfl rfl)
theorem dX0_init_35 : decode cX0_init 35 = .ok (.dup, 1) := dk_89 (dk_at dksX0_init_1 13 rfl rfl)
theorem dX0_init_36 : decode cX0_init 36 = .ok (.invokespecial 32, 3) := dk_183 0 32 (dk_at dksX0_init_1 14 rfl rfl)
theorem dX0_init_39 : decode cX0_init 39 = .ok (.aastore, 1) := dk_83 (dk_at dksX0_init_1 17 rfl rfl)
theorem dX0_init_40 : decode cX0_init 40 = .ok (.dup, 1) := dk_89 (dk_at dksX0_init_1 18 rfl rfl)
theorem dX0_init_41 : decode cX0_init 41 = .ok (.iconst 3, 1) := dk_6 (dk_at dksX0_init_1 19 rfl rfl)
theorem dX0_init_42 : decode cX0_init 42 = .ok (.new 33, 3) := dk_187 0 33 (dk_at dksX0_init_1 20 rfl rfl)
theorem dX0_init_45 : decode cX0_init 45 = .ok (.dup, 1) := dk_89 (dk_at dksX0_init_1 23 rfl rfl)
theorem dX0_init_46 : decode cX0_init 46 = .ok (.invokespecial 35, 3) := dk_183 0 35 (dk_at dksX0_init_2 0 rfl rfl)
theorem dX0_init_49 : decode cX0_init 49 = .ok (.aastore, 1) := dk_83 (dk_at dksX0_init_2 3 rfl rfl)
theorem dX0_init_50 : decode cX0_init 50 = .ok (.dup, 1) := dk_89 (dk_at dksX0_init_2 4 rfl rfl)
theorem dX0_init_51 : decode cX0_init 51 = .ok (.iconst 4, 1) := dk_7 (dk_at dksX0_init_2 5 rfl rfl)
theorem dX0_init_52 : decode cX0_init 52 = .ok (.new 36, 3) := dk_187 0 36 (dk_at dksX0_init_2 6 rfl rfl)
theorem dX0_init_55 : decode cX0_init 55 = .ok (.dup, 1) := dk_89 (dk_at dksX0_init_2 9 rfl rfl)
theorem dX0_init_56 : decode cX0_init 56 = .ok (.invokespecial 38, 3) := dk_183 0 38 (dk_at dksX0_init_2 10 rfl rfl)
theorem dX0_init_59 : decode cX0_init 59 = .ok (.aastore, 1) := dk_83 (dk_at dksX0_init_2 13 rfl rfl)
theorem dX0_init_60 : decode cX0_init 60 = .ok (.dup, 1) := dk_89 (dk_at dksX0_init_2 14 rfl rfl)
theorem dX0_init_61 : decode cX0_init 61 = .ok (.iconst 5, 1) := dk_8 (dk_at dksX0_init_2 15 rfl rfl)
theorem dX0_init_62 : decode cX0_init 62 = .ok (.new 39, 3) := dk_187 0 39 (dk_at dksX0_init_2 16 rfl rfl)
theorem dX0_init_65 : decode cX0_init 65 = .ok (.dup, 1) := dk_89 (dk_at dksX0_init_2 19 rfl rfl)
theorem dX0_init_66 : decode cX0_init 66 = .ok (.invokespecial 41, 3) := dk_183 0 41 (dk_at dksX0_init_2 20 rfl rfl)
theorem dX0_init_69 : decode cX0_init 69 = .ok (.aastore, 1) := dk_83 (dk_at dksX0_init_2 23 rfl rfl)
theorem dX0_init_70 : decode cX0_init 70 = .ok (.putfield 42, 3) := dk_181 0 42 (dk_at dksX0_init_3 0 rfl rfl)
theorem dX0_init_73 : decode cX0_init 73 = .ok (.aload_n 0, 1) := dk_42 (dk_at dksX0_init_3 3 rfl rfl)
theorem dX0_init_74 : decode cX0_init 74 = .ok (.bipush 6, 2) := dk_16 6 (dk_at dksX0_init_3 4 rfl rfl)
theorem dX0_init_76 : decode cX0_init 76 = .ok (.anewarray 46, 3) := dk_189 0 46 (dk_at dksX0_init_3 6 rfl rfl)
theorem dX0_init_79 : decode cX0_init 79 = .ok (.dup, 1) := dk_89 (dk_at dksX0_init_3 9 rfl rfl)
theorem dX0_init_80 : decode cX0_init 80 = .ok (.iconst 0, 1) := dk_3 (dk_at dksX0_init_3 10 rfl rfl)
theorem dX0_init_81 : decode cX0_init 81 = .ok (.new 48, 3) := dk_187 0 48 (dk_at dksX0_init_3 11 rfl rfl)
theorem dX0_init_84 : decode cX0_init 84 = .ok (.dup, 1) := dk_89 (dk_at dksX0_init_3 14 rfl rfl)
theorem dX0_init_85 : decode cX0_init 85 = .ok (.invokespecial 50, 3) := dk_183 0 50 (dk_at dksX0_init_3 15 rfl rfl)
theorem dX0_init_88 : decode cX0_init 88 = .ok (.aastore, 1) := dk_83 (dk_at dksX0_init_3 18 rfl rfl)
theorem dX0_init_89 : decode cX0_init 89 = .ok (.dup, 1) := dk_89 (dk_at dksX0_init_3 19 rfl rfl)
theorem dX0_init_90 : decode cX0_init 90 = .ok (.iconst 1, 1) := dk_4 (dk_at dksX0_init_3 20 rfl rfl)
theorem dX0_init_91 : decode cX0_init 91 = .ok (.new 51, 3) := dk_187 0 51 (dk_at dksX0_init_3 21 rfl rfl)
theorem dX0_init_94 : decode cX0_init 94 = .ok (.dup, 1) := dk_89 (dk_at dksX0_init_4 0 rfl rfl)
theorem dX0_init_95 : decode cX0_init 95 = .ok (.invokespecial 53, 3) := dk_183 0 53 (dk_at dksX0_init_4 1 rfl rfl)
theorem dX0_init_98 : decode cX0_init 98 = .ok (.aastore, 1) := dk_83 (dk_at dksX0_init_4 4 rfl rfl)
theorem dX0_init_99 : decode cX0_init 99 = .ok (.dup, 1) := dk_89 (dk_at dksX0_init_4 5 rfl rfl)
theorem dX0_init_100 : decode cX0_init 100 = .ok (.iconst 2, 1) := dk_5 (dk_at dksX0_init_4 6 rfl rfl)
theorem dX0_init_101 : decode cX0_init 101 = .ok (.new 54, 3) := dk_187 0 54 (dk_at dksX0_init_4 7 rfl rfl)
theorem dX0_init_104 : decode cX0_init 104 = .ok (.dup, 1) := dk_89 (dk_at dksX0_init_4 10 rfl rfl)
theorem dX0_init_105 : decode cX0_init 105 = .ok (.invokespecial 56, 3) := dk_183 0 56 (dk_at dksX0_init_4 11 rfl rfl)
theorem dX0_init_108 : decode cX0_init 108 = .ok (.aastore, 1) := dk_83 (dk_at dksX0_init_4 14 rfl rfl)
theorem dX0_init_109 : decode cX0_init 109 = .ok (.dup, 1) := dk_89 (dk_at dksX0_init_4 15 rfl rfl)
theorem dX0_init_110 : decode cX0_init 110 = .ok (.iconst 3, 1) := dk_6 (dk_at dksX0_init_4 16 rfl rfl)
theorem dX0_init_111 : decode cX0_init 111 = .ok (.new 57, 3) := dk_187 0 57 (dk_at dksX0_init_4 17 rfl rfl)
theorem dX0_init_114 : decode cX0_init 114 = .ok (.dup, 1) := dk_89 (dk_at dksX0_init_4 20 rfl rfl)
theorem dX0_init_115 : decode cX0_init 115 = .ok (.invokespecial 59, 3) := dk_183 0 59 (dk_at dksX0_init_4 21 rfl rfl)
theorem dX0_init_118 : decode cX0_init 118 = .ok (.aastore, 1) := dk_83 (dk_at dksX0_init_5 0 rfl rfl)
theorem dX0_init_119 : decode cX0_init 119 = .ok (.dup, 1) := dk_89 (dk_at dksX0_init_5 1 rfl rfl)
theorem dX0_init_120 : decode cX0_init 120 = .ok (.iconst 4, 1) := dk_7 (dk_at dksX0_init_5 2 rfl rfl)
theorem dX0_init_121 : decode cX0_init 121 = .ok (.new 60, 3) := dk_187 0 60 (dk_at dksX0_init_5 3 rfl rfl)
theorem dX0_init_124 : decode cX0_init 124 = .ok (.dup, 1) := dk_89 (dk_at dksX0_init_5 6 rfl rfl)
theorem dX0_init_125 : decode cX0_init 125 = .ok (.invokespecial 62, 3) := dk_183 0 62 (dk_at dksX0_init_5 7 rfl rfl)
theorem dX0_init_128 : decode cX0_init 128 = .ok (.aastore, 1) := dk_83 (dk_at dksX0_init_5 10 rfl rfl)
theorem dX0_init_129 : decode cX0_init 129 = .ok (.dup, 1) := dk_89 (dk_at dksX0_init_5 11 rfl rfl)
theorem dX0_init_130 : decode cX0_init 130 = .ok (.iconst 5, 1) := dk_8 (dk_at dksX0_init_5 12 rfl rfl)
theorem dX0_init_131 : decode cX0_init 131 = .ok (.new 63, 3) := dk_187 0 63 (dk_at dksX0_init_5 13 rfl rfl)
theorem dX0_init_134 : decode cX0_init 134 = .ok (.dup, 1) := dk_89 (dk_at dksX0_init_5 16 rfl rfl)
theorem dX0_init_135 : decode cX0_init 135 = .ok (.invokespecial 65, 3) := dk_183 0 65 (dk_at dksX0_init_5 17 rfl rfl)
theorem dX0_init_138 : decode cX0_init 138 = .ok (.aastore, 1) := dk_83 (dk_at dksX0_init_5 20 rfl rfl)
theorem dX0_init_139 : decode cX0_init 139 = .ok (.putfield 66, 3) := dk_181 0 66 (dk_at dksX0_init_5 21 rfl rfl)
theorem dX0_init_142 : decode cX0_init 142 = .ok (.aload_n 0, 1) := dk_42 (dk_at dksX0_init_6 0 rfl rfl)
theorem dX0_init_143 : decode cX0_init 143 = .ok (.new 70, 3) := dk_187 0 70 (dk_at dksX0_init_6 1 rfl rfl)
theorem dX0_init_146 : decode cX0_init 146 = .ok (.dup, 1) := dk_89 (dk_at dksX0_init_6 4 rfl rfl)
theorem dX0_init_147 : decode cX0_init 147 = .ok (.invokespecial 72, 3) := dk_183 0 72 (dk_at dksX0_init_6 5 rfl rfl)
theorem dX0_init_150 : decode cX0_init 150 = .ok (.putfield 73, 3) := dk_181 0 73 (dk_at dksX0_init_6 8 rfl rfl)
theorem dX0_init_153 : decode cX0_init 153 = .ok (.aload_n 0, 1) := dk_42 (dk_at dksX0_init_6 11 rfl rfl)
theorem dX0_init_154 : decode cX0_init 154 = .ok (.new 70, 3) := dk_187 0 70 (dk_at dksX0_init_6 12 rfl rfl)
theorem dX0_init_157 : decode cX0_init 157 = .ok (.dup, 1) := dk_89 (dk_at dksX0_init_6 15 rfl rfl)
theorem dX0_init_158 : decode cX0_init 158 = .ok (.invokespecial 72, 3) := dk_183 0 72 (dk_at dksX0_init_6 16 rfl rfl)
theorem dX0_init_161 : decode cX0_init 161 = .ok (.putfield 77, 3) := dk_181 0 77 (dk_at dksX0_init_6 19 rfl rfl)
theorem dX0_init_164 : decode cX0_init 164 = .ok (.aload_n 0, 1) := dk_42 (dk_at dksX0_init_6 22 rfl rfl)
theorem dX0_init_165 : decode cX0_init 165 = .ok (.new 70, 3) := dk_187 0 70 (dk_at dksX0_init_7 0 rfl rfl)
theorem dX0_init_168 : decode cX0_init 168 = .ok (.dup, 1) := dk_89 (dk_at dksX0_init_7 3 rfl rfl)
theorem dX0_init_169 : decode cX0_init 169 = .ok (.invokespecial 72, 3) := dk_183 0 72 (dk_at dksX0_init_7 4 rfl rfl)
theorem dX0_init_172 : decode cX0_init 172 = .ok (.putfield 80, 3) := dk_181 0 80 (dk_at dksX0_init_7 7 rfl rfl)
theorem dX0_init_175 : decode cX0_init 175 = .ok (.aload_n 0, 1) := dk_42 (dk_at dksX0_init_7 10 rfl rfl)
theorem dX0_init_176 : decode cX0_init 176 = .ok (.bipush 12, 2) := dk_16 12 (dk_at dksX0_init_7 11 rfl rfl)
theorem dX0_init_178 : decode cX0_init 178 = .ok (.newarray .byte, 2) := dk_188_8 (dk_at dksX0_init_7 13 rfl rfl)
theorem dX0_init_180 : decode cX0_init 180 = .ok (.putfield 83, 3) := dk_181 0 83 (dk_at dksX0_init_7 15 rfl rfl)
theorem dX0_init_183 : decode cX0_init 183 = .ok (.aload_n 0, 1) := dk_42 (dk_at dksX0_init_7 18 rfl rfl)
theorem dX0_init_184 : decode cX0_init 184 = .ok (.bipush 80, 2) := dk_16 80 (dk_at dksX0_init_7 19 rfl rfl)
theorem dX0_init_186 : decode cX0_init 186 = .ok (.newarray .char, 2) := dk_188_5 (dk_at dksX0_init_7 21 rfl rfl)
theorem dX0_init_188 : decode cX0_init 188 = .ok (.putfield 87, 3) := dk_181 0 87 (dk_at dksX0_init_8 0 rfl rfl)
theorem dX0_init_191 : decode cX0_init 191 = .ok (.aload_n 0, 1) := dk_42 (dk_at dksX0_init_8 3 rfl rfl)
theorem dX0_init_192 : decode cX0_init 192 = .ok (.bipush 7, 2) := dk_16 7 (dk_at dksX0_init_8 4 rfl rfl)
theorem dX0_init_194 : decode cX0_init 194 = .ok (.newarray .int, 2) := dk_188_10 (dk_at dksX0_init_8 6 rfl rfl)
theorem dX0_init_196 : decode cX0_init 196 = .ok (.putfield 91, 3) := dk_181 0 91 (dk_at dksX0_init_8 8 rfl rfl)
theorem dX0_init_199 : decode cX0_init 199 = .ok (.aload_n 0, 1) := dk_42 (dk_at dksX0_init_8 11 rfl rfl)
theorem dX0_init_200 : decode cX0_init 200 = .ok (.bipush 80, 2) := dk_16 80 (dk_at dksX0_init_8 12 rfl rfl)
theorem dX0_init_202 : decode cX0_init 202 = .ok (.newarray .int, 2) := dk_188_10 (dk_at dksX0_init_8 14 rfl rfl)
theorem dX0_init_204 : decode cX0_init 204 = .ok (.putfield 95, 3) := dk_181 0 95 (dk_at dksX0_init_8 16 rfl rfl)
theorem dX0_init_207 : decode cX0_init 207 = .ok (.aload_n 0, 1) := dk_42 (dk_at dksX0_init_8 19 rfl rfl)
theorem dX0_init_208 : decode cX0_init 208 = .ok (.iconst 4, 1) := dk_7 (dk_at dksX0_init_8 20 rfl rfl)
theorem dX0_init_209 : decode cX0_init 209 = .ok (.newarray .int, 2) := dk_188_10 (dk_at dksX0_init_8 21 rfl rfl)
theorem dX0_init_211 : decode cX0_init 211 = .ok (.putfield 98, 3) := dk_181 0 98 (dk_at dksX0_init_9 0 rfl rfl)
theorem dX0_init_214 : decode cX0_init 214 = .ok (.aload_n 0, 1) := dk_42 (dk_at dksX0_init_9 3 rfl rfl)
theorem dX0_init_215 : decode cX0_init 215 = .ok (.iconst 4, 1) := dk_7 (dk_at dksX0_init_9 4 rfl rfl)
theorem dX0_init_216 : decode cX0_init 216 = .ok (.newarray .int, 2) := dk_188_10 (dk_at dksX0_init_9 5 rfl rfl)
theorem dX0_init_218 : decode cX0_init 218 = .ok (.putfield 101, 3) := dk_181 0 101 (dk_at dksX0_init_9 7 rfl rfl)
theorem dX0_init_221 : decode cX0_init 221 = .ok (.aload_n 0, 1) := dk_42 (dk_at dksX0_init_9 10 rfl rfl)
theorem dX0_init_222 : decode cX0_init 222 = .ok (.bipush 36, 2) := dk_16 36 (dk_at dksX0_init_9 11 rfl rfl)
theorem dX0_init_224 : decode cX0_init 224 = .ok (.newarray .int, 2) := dk_188_10 (dk_at dksX0_init_9 13 rfl rfl)
theorem dX0_init_226 : decode cX0_init 226 = .ok (.putfield 104, 3) := dk_181 0 104 (dk_at dksX0_init_9 15 rfl rfl)
theorem dX0_init_229 : decode cX0_init 229 = .ok (.return_, 1) := dk_177 (dk_at dksX0_init_9 18 rfl rfl)
abbrev cX0_letter : ByteArray := prog_1_method_44_code
def yX0_letter : MethodName := ⟨RX0, "letter", "(I)I"⟩
def dkwX0_letter_0 : List UInt8 := [42, 3, 27, 3, 182, 1, 173, 172]
abbrev dktX0_letter_0 : List UInt8 := dkwX0_letter_0 ++ []
theorem dksX0_letter_0 : cX0_letter.data.toList.drop 0 = dktX0_letter_0 := by decide +kernel
theorem dX0_letter_0 : decode cX0_letter 0 = .ok (.aload_n 0, 1) := dk_42 (dk_at dksX0_letter_0 0 rfl rfl)
theorem dX0_letter_1 : decode cX0_letter 1 = .ok (.iconst 0, 1) := dk_3 (dk_at dksX0_letter_0 1 rfl rfl)
theorem dX0_letter_2 : decode cX0_letter 2 = .ok (.iload_n 1, 1) := dk_27 (dk_at dksX0_letter_0 2 rfl rfl)
theorem dX0_letter_3 : decode cX0_letter 3 = .ok (.iconst 0, 1) := dk_3 (dk_at dksX0_letter_0 3 rfl rfl)
theorem dX0_letter_4 : decode cX0_letter 4 = .ok (.invokevirtual 429, 3) := dk_182 1 173 (dk_at dksX0_letter_0 4 rfl rfl)
theorem dX0_letter_7 : decode cX0_letter 7 = .ok (.ireturn, 1) := dk_172 (dk_at dksX0_letter_0 7 rfl rfl)
abbrev cX0_act : ByteArray := prog_1_method_27_code
def yX0_act : MethodName := ⟨RX0, "act", "(III)I"⟩
def dkwX0_act_0 : List UInt8 := [42, 27, 28, 29, 182, 1, 31, 172, 58, 4, 42, 25, 4, 182, 1, 36, 182, 1, 39, 172]
abbrev dktX0_act_0 : List UInt8 := dkwX0_act_0 ++ []
theorem dksX0_act_0 : cX0_act.data.toList.drop 0 = dktX0_act_0 := by decide +kernel
theorem dX0_act_0 : decode cX0_act 0 = .ok (.aload_n 0, 1) := dk_42 (dk_at dksX0_act_0 0 rfl rfl)
theorem dX0_act_1 : decode cX0_act 1 = .ok (.iload_n 1, 1) := dk_27 (dk_at dksX0_act_0 1 rfl rfl)
theorem dX0_act_2 : decode cX0_act 2 = .ok (.iload_n 2, 1) := dk_28 (dk_at dksX0_act_0 2 rfl rfl)
theorem dX0_act_3 : decode cX0_act 3 = .ok (.iload_n 3, 1) := dk_29 (dk_at dksX0_act_0 3 rfl rfl)
theorem dX0_act_4 : decode cX0_act 4 = .ok (.invokevirtual 287, 3) := dk_182 1 31 (dk_at dksX0_act_0 4 rfl rfl)
theorem dX0_act_7 : decode cX0_act 7 = .ok (.ireturn, 1) := dk_172 (dk_at dksX0_act_0 7 rfl rfl)
theorem dX0_act_8 : decode cX0_act 8 = .ok (.astore 4, 2) := dk_58 4 (dk_at dksX0_act_0 8 rfl rfl)
theorem dX0_act_10 : decode cX0_act 10 = .ok (.aload_n 0, 1) := dk_42 (dk_at dksX0_act_0 10 rfl rfl)
theorem dX0_act_11 : decode cX0_act 11 = .ok (.aload 4, 2) := dk_25 4 (dk_at dksX0_act_0 11 rfl rfl)
theorem dX0_act_13 : decode cX0_act 13 = .ok (.invokevirtual 292, 3) := dk_182 1 36 (dk_at dksX0_act_0 13 rfl rfl)
theorem dX0_act_16 : decode cX0_act 16 = .ok (.invokevirtual 295, 3) := dk_182 1 39 (dk_at dksX0_act_0 16 rfl rfl)
theorem dX0_act_19 : decode cX0_act 19 = .ok (.ireturn, 1) := dk_172 (dk_at dksX0_act_0 19 rfl rfl)
abbrev cX0_doIt : ByteArray := prog_1_method_26_code
def yX0_doIt : MethodName := ⟨RX0, "doIt", "(III)I"⟩
def dkwX0_doIt_1 : List UInt8 := [28, 29, 182, 1, 25, 167, 0, 10, 42, 27, 28, 29, 182, 1, 28, 172]
abbrev dktX0_doIt_1 : List UInt8 := dkwX0_doIt_1 ++ []
def dkwX0_doIt_0 : List UInt8 := [27, 16, 10, 162, 0, 13, 42, 27, 28, 29, 182, 1, 21, 167, 0, 26, 27, 16, 16, 162, 0, 13, 42, 27]
abbrev dktX0_doIt_0 : List UInt8 := dkwX0_doIt_0 ++ dktX0_doIt_1
theorem dksX0_doIt_0 : cX0_doIt.data.toList.drop 0 = dktX0_doIt_0 := by decide +kernel
theorem dksX0_doIt_1 : cX0_doIt.data.toList.drop 24 = dktX0_doIt_1 := dk_seg dksX0_doIt_0 24 rfl rfl
theorem dX0_doIt_0 : decode cX0_doIt 0 = .ok (.iload_n 1, 1) := dk_27 (dk_at dksX0_doIt_0 0 rfl rfl)
theorem dX0_doIt_1 : decode cX0_doIt 1 = .ok (.bipush 10, 2) := dk_16 10 (dk_at dksX0_doIt_0 1 rfl rfl)
theorem dX0_doIt_3 : decode cX0_doIt 3 = .ok (.if_icmp .ge 13, 3) := dk_162 0 13 (dk_at dksX0_doIt_0 3 rfl rfl)
theorem dX0_doIt_6 : decode cX0_doIt 6 = .ok (.aload_n 0, 1) := dk_42 (dk_at dksX0_doIt_0 6 rfl rfl)
theorem dX0_doIt_7 : decode cX0_doIt 7 = .ok (.iload_n 1, 1) := dk_27 (dk_at dksX0_doIt_0 7 rfl rfl)
theorem dX0_doIt_8 : decode cX0_doIt 8 = .ok (.iload_n 2, 1) := dk_28 (dk_at dksX0_doIt_0 8 rfl rfl)
theorem dX0_doIt_9 : decode cX0_doIt 9 = .ok (.iload_n 3, 1) := dk_29 (dk_at dksX0_doIt_0 9 rfl rfl)
theorem dX0_doIt_10 : decode cX0_doIt 10 = .ok (.invokevirtual 277, 3) := dk_182 1 21 (dk_at dksX0_doIt_0 10 rfl rfl)
theorem dX0_doIt_13 : decode cX0_doIt 13 = .ok (.goto 26, 3) := dk_167 0 26 (dk_at dksX0_doIt_0 13 rfl rfl)
theorem dX0_doIt_16 : decode cX0_doIt 16 = .ok (.iload_n 1, 1) := dk_27 (dk_at dksX0_doIt_0 16 rfl rfl)
theorem dX0_doIt_17 : decode cX0_doIt 17 = .ok (.bipush 16, 2) := dk_16 16 (dk_at dksX0_doIt_0 17 rfl rfl)
theorem dX0_doIt_19 : decode cX0_doIt 19 = .ok (.if_icmp .ge 13, 3) := dk_162 0 13 (dk_at dksX0_doIt_0 19 rfl rfl)
theorem dX0_doIt_22 : decode cX0_doIt 22 = .ok (.aload_n 0, 1) := dk_42 (dk_at dksX0_doIt_0 22 rfl rfl)
theorem dX0_doIt_23 : decode cX0_doIt 23 = .ok (.iload_n 1, 1) := dk_27 (dk_at dksX0_doIt_0 23 rfl rfl)
theorem dX0_doIt_24 : decode cX0_doIt 24 = .ok (.iload_n 2, 1) := dk_28 (dk_at dksX0_doIt_1 0 rfl rfl)
theorem dX0_doIt_25 : decode cX0_doIt 25 = .ok (.iload_n 3, 1) := dk_29 (dk_at dksX0_doIt_1 1 rfl rfl)
theorem dX0_doIt_26 : decode cX0_doIt 26 = .ok (.invokevirtual 281, 3) := dk_182 1 25 (dk_at dksX0_doIt_1 2 rfl rfl)
theorem dX0_doIt_29 : decode cX0_doIt 29 = .ok (.goto 10, 3) := dk_167 0 10 (dk_at dksX0_doIt_1 5 rfl rfl)
theorem dX0_doIt_32 : decode cX0_doIt 32 = .ok (.aload_n 0, 1) := dk_42 (dk_at dksX0_doIt_1 8 rfl rfl)
theorem dX0_doIt_33 : decode cX0_doIt 33 = .ok (.iload_n 1, 1) := dk_27 (dk_at dksX0_doIt_1 9 rfl rfl)
theorem dX0_doIt_34 : decode cX0_doIt 34 = .ok (.iload_n 2, 1) := dk_28 (dk_at dksX0_doIt_1 10 rfl rfl)
theorem dX0_doIt_35 : decode cX0_doIt 35 = .ok (.iload_n 3, 1) := dk_29 (dk_at dksX0_doIt_1 11 rfl rfl)
theorem dX0_doIt_36 : decode cX0_doIt 36 = .ok (.invokevirtual 284, 3) := dk_182 1 28 (dk_at dksX0_doIt_1 12 rfl rfl)
theorem dX0_doIt_39 : decode cX0_doIt 39 = .ok (.ireturn, 1) := dk_172 (dk_at dksX0_doIt_1 15 rfl rfl)
abbrev cX0_ofTown : ByteArray := prog_1_method_36_code
def yX0_ofTown : MethodName := ⟨RX0, "ofTown", "(III)I"⟩
def dkwX0_ofTown_6 : List UInt8 := [172, 42, 28, 182, 1, 117, 172]
abbrev dktX0_ofTown_6 : List UInt8 := dkwX0_ofTown_6 ++ []
def dkwX0_ofTown_5 : List UInt8 := [21, 4, 172, 42, 180, 0, 73, 182, 0, 146, 172, 42, 180, 0, 73, 182, 1, 88, 172, 42, 28, 182, 1, 114]
abbrev dktX0_ofTown_5 : List UInt8 := dkwX0_ofTown_5 ++ dktX0_ofTown_6
def dkwX0_ofTown_4 : List UInt8 := [20, 1, 112, 184, 1, 49, 42, 180, 0, 73, 180, 0, 236, 54, 4, 42, 180, 0, 73, 28, 181, 0, 236]
abbrev dktX0_ofTown_4 : List UInt8 := dkwX0_ofTown_4 ++ dktX0_ofTown_5
def dkwX0_ofTown_3 : List UInt8 := [172, 28, 133, 10, 20, 1, 107, 184, 1, 49, 42, 180, 0, 73, 28, 182, 1, 109, 172, 28, 133, 9]
abbrev dktX0_ofTown_3 : List UInt8 := dkwX0_ofTown_3 ++ dktX0_ofTown_4
def dkwX0_ofTown_2 : List UInt8 := [42, 28, 182, 1, 95, 172, 42, 182, 1, 98, 172, 42, 28, 29, 182, 1, 101, 172, 42, 28, 29, 182, 1, 104]
abbrev dktX0_ofTown_2 : List UInt8 := dkwX0_ofTown_2 ++ dktX0_ofTown_3
def dkwX0_ofTown_1 : List UInt8 := [170, 0, 0, 0, 0, 0, 145, 0, 0, 0, 0, 0, 0, 0, 8, 0, 0, 0, 51, 0, 0, 0, 57, 0, 0, 0, 62, 0, 0, 0, 69, 0, 0, 0, 76, 0, 0, 0, 94, 0, 0, 0, 123, 0, 0, 0, 131, 0, 0, 0, 139]
abbrev dktX0_ofTown_1 : List UInt8 := dkwX0_ofTown_1 ++ dktX0_ofTown_2
def dkwX0_ofTown_0 : List UInt8 := [27]
abbrev dktX0_ofTown_0 : List UInt8 := dkwX0_ofTown_0 ++ dktX0_ofTown_1
theorem dksX0_ofTown_0 : cX0_ofTown.data.toList.drop 0 = dktX0_ofTown_0 := by decide +kernel
theorem dksX0_ofTown_1 : cX0_ofTown.data.toList.drop 1 = dktX0_ofTown_1 := dk_seg dksX0_ofTown_0 1 rfl rfl
theorem dksX0_ofTown_2 : cX0_ofTown.data.toList.drop 52 = dktX0_ofTown_2 := dk_seg dksX0_ofTown_1 51 rfl rfl
theorem dksX0_ofTown_3 : cX0_ofTown.data.toList.drop 76 = dktX0_ofTown_3 := dk_seg dksX0_ofTown_2 24 rfl rfl
theorem dksX0_ofTown_4 : cX0_ofTown.data.toList.drop 98 = dktX0_ofTown_4 := dk_seg dksX0_ofTown_3 22 rfl rfl
theorem dksX0_ofTown_5 : cX0_ofTown.data.toList.drop 121 = dktX0_ofTown_5 := dk_seg dksX0_ofTown_4 23 rfl rfl
theorem dksX0_ofTown_6 : cX0_ofTown.data.toList.drop 145 = dktX0_ofTown_6 := dk_seg dksX0_ofTown_5 24 rfl rfl
theorem dX0_ofTown_0 : decode cX0_ofTown 0 = .ok (.iload_n 1, 1) := dk_27 (dk_at dksX0_ofTown_0 0 rfl rfl)
theorem dX0_ofTown_1 : decode cX0_ofTown 1 = .ok (.tableswitch 145 0 8 #[51, 57, 62, 69, 76, 94, 123, 131, 139], 51) := by decide +kernel
theorem dX0_ofTown_52 : decode cX0_ofTown 52 = .ok (.aload_n 0, 1) := dk_42 (dk_at dksX0_ofTown_2 0 rfl rfl)
theorem dX0_ofTown_53 : decode cX0_ofTown 53 = .ok (.iload_n 2, 1) := dk_28 (dk_at dksX0_ofTown_2 1 rfl rfl)
theorem dX0_ofTown_54 : decode cX0_ofTown 54 = .ok (.invokevirtual 351, 3) := dk_182 1 95 (dk_at dksX0_ofTown_2 2 rfl rfl)
theorem dX0_ofTown_57 : decode cX0_ofTown 57 = .ok (.ireturn, 1) := dk_172 (dk_at dksX0_ofTown_2 5 rfl rfl)
theorem dX0_ofTown_58 : decode cX0_ofTown 58 = .ok (.aload_n 0, 1) := dk_42 (dk_at dksX0_ofTown_2 6 rfl rfl)
theorem dX0_ofTown_59 : decode cX0_ofTown 59 = .ok (.invokevirtual 354, 3) := dk_182 1 98 (dk_at dksX0_ofTown_2 7 rfl rfl)
theorem dX0_ofTown_62 : decode cX0_ofTown 62 = .ok (.ireturn, 1) := dk_172 (dk_at dksX0_ofTown_2 10 rfl rfl)
theorem dX0_ofTown_63 : decode cX0_ofTown 63 = .ok (.aload_n 0, 1) := dk_42 (dk_at dksX0_ofTown_2 11 rfl rfl)
theorem dX0_ofTown_64 : decode cX0_ofTown 64 = .ok (.iload_n 2, 1) := dk_28 (dk_at dksX0_ofTown_2 12 rfl rfl)
theorem dX0_ofTown_65 : decode cX0_ofTown 65 = .ok (.iload_n 3, 1) := dk_29 (dk_at dksX0_ofTown_2 13 rfl rfl)
theorem dX0_ofTown_66 : decode cX0_ofTown 66 = .ok (.invokevirtual 357, 3) := dk_182 1 101 (dk_at dksX0_ofTown_2 14 rfl rfl)
theorem dX0_ofTown_69 : decode cX0_ofTown 69 = .ok (.ireturn, 1) := dk_172 (dk_at dksX0_ofTown_2 17 rfl rfl)
theorem dX0_ofTown_70 : decode cX0_ofTown 70 = .ok (.aload_n 0, 1) := dk_42 (dk_at dksX0_ofTown_2 18 rfl rfl)
theorem dX0_ofTown_71 : decode cX0_ofTown 71 = .ok (.iload_n 2, 1) := dk_28 (dk_at dksX0_ofTown_2 19 rfl rfl)
theorem dX0_ofTown_72 : decode cX0_ofTown 72 = .ok (.iload_n 3, 1) := dk_29 (dk_at dksX0_ofTown_2 20 rfl rfl)
theorem dX0_ofTown_73 : decode cX0_ofTown 73 = .ok (.invokevirtual 360, 3) := dk_182 1 104 (dk_at dksX0_ofTown_2 21 rfl rfl)
theorem dX0_ofTown_76 : decode cX0_ofTown 76 = .ok (.ireturn, 1) := dk_172 (dk_at dksX0_ofTown_3 0 rfl rfl)
theorem dX0_ofTown_77 : decode cX0_ofTown 77 = .ok (.iload_n 2, 1) := dk_28 (dk_at dksX0_ofTown_3 1 rfl rfl)
theorem dX0_ofTown_78 : decode cX0_ofTown 78 = .ok (.i2l, 1) := dk_133 (dk_at dksX0_ofTown_3 2 rfl rfl)
theorem dX0_ofTown_79 : decode cX0_ofTown 79 = .ok (.lconst 1, 1) := dk_10 (dk_at dksX0_ofTown_3 3 rfl rfl)
theorem dX0_ofTown_80 : decode cX0_ofTown 80 = .ok (.ldc2_w 363, 3) := dk_20 1 107 (dk_at dksX0_ofTown_3 4 rfl rfl)
theorem dX0_ofTown_83 : decode cX0_ofTown 83 = .ok (.invokestatic 305, 3) := dk_184 1 49 (dk_at dksX0_ofTown_3 7 rfl rfl)
theorem dX0_ofTown_86 : decode cX0_ofTown 86 = .ok (.aload_n 0, 1) := dk_42 (dk_at dksX0_ofTown_3 10 rfl rfl)
theorem dX0_ofTown_87 : decode cX0_ofTown 87 = .ok (.getfield 73, 3) := dk_180 0 73 (dk_at dksX0_ofTown_3 11 rfl rfl)
theorem dX0_ofTown_90 : decode cX0_ofTown 90 = .ok (.iload_n 2, 1) := dk_28 (dk_at dksX0_ofTown_3 14 rfl rfl)
theorem dX0_ofTown_91 : decode cX0_ofTown 91 = .ok (.invokevirtual 365, 3) := dk_182 1 109 (dk_at dksX0_ofTown_3 15 rfl rfl)
theorem dX0_ofTown_94 : decode cX0_ofTown 94 = .ok (.ireturn, 1) := dk_172 (dk_at dksX0_ofTown_3 18 rfl rfl)
theorem dX0_ofTown_95 : decode cX0_ofTown 95 = .ok (.iload_n 2, 1) := dk_28 (dk_at dksX0_ofTown_3 19 rfl rfl)
theorem dX0_ofTown_96 : decode cX0_ofTown 96 = .ok (.i2l, 1) := dk_133 (dk_at dksX0_ofTown_3 20 rfl rfl)
theorem dX0_ofTown_97 : decode cX0_ofTown 97 = .ok (.lconst 0, 1) := dk_9 (dk_at dksX0_ofTown_3 21 rfl rfl)
theorem dX0_ofTown_98 : decode cX0_ofTown 98 = .ok (.ldc2_w 368, 3) := dk_20 1 112 (dk_at dksX0_ofTown_4 0 rfl rfl)
theorem dX0_ofTown_101 : decode cX0_ofTown 101 = .ok (.invokestatic 305, 3) := dk_184 1 49 (dk_at dksX0_ofTown_4 3 rfl rfl)
theorem dX0_ofTown_104 : decode cX0_ofTown 104 = .ok (.aload_n 0, 1) := dk_42 (dk_at dksX0_ofTown_4 6 rfl rfl)
theorem dX0_ofTown_105 : decode cX0_ofTown 105 = .ok (.getfield 73, 3) := dk_180 0 73 (dk_at dksX0_ofTown_4 7 rfl rfl)
theorem dX0_ofTown_108 : decode cX0_ofTown 108 = .ok (.getfield 236, 3) := dk_180 0 236 (dk_at dksX0_ofTown_4 10 rfl rfl)
theorem dX0_ofTown_111 : decode cX0_ofTown 111 = .ok (.istore 4, 2) := dk_54 4 (dk_at dksX0_ofTown_4 13 rfl rfl)
theorem dX0_ofTown_113 : decode cX0_ofTown 113 = .ok (.aload_n 0, 1) := dk_42 (dk_at dksX0_ofTown_4 15 rfl rfl)
theorem dX0_ofTown_114 : decode cX0_ofTown 114 = .ok (.getfield 73, 3) := dk_180 0 73 (dk_at dksX0_ofTown_4 16 rfl rfl)
theorem dX0_ofTown_117 : decode cX0_ofTown 117 = .ok (.iload_n 2, 1) := dk_28 (dk_at dksX0_ofTown_4 19 rfl rfl)
theorem dX0_ofTown_118 : decode cX0_ofTown 118 = .ok (.putfield 236, 3) := dk_181 0 236 (dk_at dksX0_ofTown_4 20 rfl rfl)
theorem dX0_ofTown_121 : decode cX0_ofTown 121 = .ok (.iload 4, 2) := dk_21 4 (dk_at dksX0_ofTown_5 0 rfl rfl)
theorem dX0_ofTown_123 : decode cX0_ofTown 123 = .ok (.ireturn, 1) := dk_172 (dk_at dksX0_ofTown_5 2 rfl rfl)
theorem dX0_ofTown_124 : decode cX0_ofTown 124 = .ok (.aload_n 0, 1) := dk_42 (dk_at dksX0_ofTown_5 3 rfl rfl)
theorem dX0_ofTown_125 : decode cX0_ofTown 125 = .ok (.getfield 73, 3) := dk_180 0 73 (dk_at dksX0_ofTown_5 4 rfl rfl)
theorem dX0_ofTown_128 : decode cX0_ofTown 128 = .ok (.invokevirtual 146, 3) := dk_182 0 146 (dk_at dksX0_ofTown_5 7 rfl rfl)
theorem dX0_ofTown_131 : decode cX0_ofTown 131 = .ok (.ireturn, 1) := dk_172 (dk_at dksX0_ofTown_5 10 rfl rfl)
theorem dX0_ofTown_132 : decode cX0_ofTown 132 = .ok (.aload_n 0, 1) := dk_42 (dk_at dksX0_ofTown_5 11 rfl rfl)
theorem dX0_ofTown_133 : decode cX0_ofTown 133 = .ok (.getfield 73, 3) := dk_180 0 73 (dk_at dksX0_ofTown_5 12 rfl rfl)
theorem dX0_ofTown_136 : decode cX0_ofTown 136 = .ok (.invokevirtual 344, 3) := dk_182 1 88 (dk_at dksX0_ofTown_5 15 rfl rfl)
theorem dX0_ofTown_139 : decode cX0_ofTown 139 = .ok (.ireturn, 1) := dk_172 (dk_at dksX0_ofTown_5 18 rfl rfl)
theorem dX0_ofTown_140 : decode cX0_ofTown 140 = .ok (.aload_n 0, 1) := dk_42 (dk_at dksX0_ofTown_5 19 rfl rfl)
theorem dX0_ofTown_141 : decode cX0_ofTown 141 = .ok (.iload_n 2, 1) := dk_28 (dk_at dksX0_ofTown_5 20 rfl rfl)
theorem dX0_ofTown_142 : decode cX0_ofTown 142 = .ok (.invokevirtual 370, 3) := dk_182 1 114 (dk_at dksX0_ofTown_5 21 rfl rfl)
theorem dX0_ofTown_145 : decode cX0_ofTown 145 = .ok (.ireturn, 1) := dk_172 (dk_at dksX0_ofTown_6 0 rfl rfl)
theorem dX0_ofTown_146 : decode cX0_ofTown 146 = .ok (.aload_n 0, 1) := dk_42 (dk_at dksX0_ofTown_6 1 rfl rfl)
theorem dX0_ofTown_147 : decode cX0_ofTown 147 = .ok (.iload_n 2, 1) := dk_28 (dk_at dksX0_ofTown_6 2 rfl rfl)
theorem dX0_ofTown_148 : decode cX0_ofTown 148 = .ok (.invokevirtual 373, 3) := dk_182 1 117 (dk_at dksX0_ofTown_6 3 rfl rfl)
theorem dX0_ofTown_151 : decode cX0_ofTown 151 = .ok (.ireturn, 1) := dk_172 (dk_at dksX0_ofTown_6 6 rfl rfl)
abbrev cX0_letterIt : ByteArray := prog_1_method_31_code
def yX0_letterIt : MethodName := ⟨RX0, "letterIt", "(I)I"⟩
def dkwX0_letterIt_2 : List UInt8 := [181, 0, 112, 42, 180, 0, 112, 172]
abbrev dktX0_letterIt_2 : List UInt8 := dkwX0_letterIt_2 ++ []
def dkwX0_letterIt_1 : List UInt8 := [16, 250, 184, 0, 9, 42, 180, 0, 87, 42, 180, 0, 112, 27, 146, 85, 42, 89, 180, 0, 112, 4, 96]
abbrev dktX0_letterIt_1 : List UInt8 := dkwX0_letterIt_1 ++ dktX0_letterIt_2
def dkwX0_letterIt_0 : List UInt8 := [27, 133, 9, 20, 1, 53, 184, 1, 49, 42, 180, 0, 112, 16, 80, 162, 0, 7, 4, 167, 0, 4, 3]
abbrev dktX0_letterIt_0 : List UInt8 := dkwX0_letterIt_0 ++ dktX0_letterIt_1
theorem dksX0_letterIt_0 : cX0_letterIt.data.toList.drop 0 = dktX0_letterIt_0 := by decide +kernel
theorem dksX0_letterIt_1 : cX0_letterIt.data.toList.drop 23 = dktX0_letterIt_1 := dk_seg dksX0_letterIt_0 23 rfl rfl
theorem dksX0_letterIt_2 : cX0_letterIt.data.toList.drop 46 = dktX0_letterIt_2 := dk_seg dksX0_letterIt_1 23 rfl rfl
theorem dX0_letterIt_0 : decode cX0_letterIt 0 = .ok (.iload_n 1, 1) := dk_27 (dk_at dksX0_letterIt_0 0 rfl rfl)
theorem dX0_letterIt_1 : decode cX0_letterIt 1 = .ok (.i2l, 1) := dk_133 (dk_at dksX0_letterIt_0 1 rfl rfl)
theorem dX0_letterIt_2 : decode cX0_letterIt 2 = .ok (.lconst 0, 1) := dk_9 (dk_at dksX0_letterIt_0 2 rfl rfl)
theorem dX0_letterIt_3 : decode cX0_letterIt 3 = .ok (.ldc2_w 309, 3) := dk_20 1 53 (dk_at dksX0_letterIt_0 3 rfl rfl)
theorem dX0_letterIt_6 : decode cX0_letterIt 6 = .ok (.invokestatic 305, 3) := dk_184 1 49 (dk_at dksX0_letterIt_0 6 rfl rfl)
theorem dX0_letterIt_9 : decode cX0_letterIt 9 = .ok (.aload_n 0, 1) := dk_42 (dk_at dksX0_letterIt_0 9 rfl rfl)
theorem dX0_letterIt_10 : decode cX0_letterIt 10 = .ok (.getfield 112, 3) := dk_180 0 112 (dk_at dksX0_letterIt_0 10 rfl rfl)
theorem dX0_letterIt_13 : decode cX0_letterIt 13 = .ok (.bipush 80, 2) := dk_16 80 (dk_at dksX0_letterIt_0 13 rfl rfl)
theorem dX0_letterIt_15 : decode cX0_letterIt 15 = .ok (.if_icmp .ge 7, 3) := dk_162 0 7 (dk_at dksX0_letterIt_0 15 rfl rfl)
theorem dX0_letterIt_18 : decode cX0_letterIt 18 = .ok (.iconst 1, 1) := dk_4 (dk_at dksX0_letterIt_0 18 rfl rfl)
theorem dX0_letterIt_19 : decode cX0_letterIt 19 = .ok (.goto 4, 3) := dk_167 0 4 (dk_at dksX0_letterIt_0 19 rfl rfl)
theorem dX0_letterIt_22 : decode cX0_letterIt 22 = .ok (.iconst 0, 1) := dk_3 (dk_at dksX0_letterIt_0 22 rfl rfl)
theorem dX0_letterIt_23 : decode cX0_letterIt 23 = .ok (.bipush (-6), 2) := dk_16 250 (dk_at dksX0_letterIt_1 0 rfl rfl)
theorem dX0_letterIt_25 : decode cX0_letterIt 25 = .ok (.invokestatic 9, 3) := dk_184 0 9 (dk_at dksX0_letterIt_1 2 rfl rfl)
theorem dX0_letterIt_28 : decode cX0_letterIt 28 = .ok (.aload_n 0, 1) := dk_42 (dk_at dksX0_letterIt_1 5 rfl rfl)
theorem dX0_letterIt_29 : decode cX0_letterIt 29 = .ok (.getfield 87, 3) := dk_180 0 87 (dk_at dksX0_letterIt_1 6 rfl rfl)
theorem dX0_letterIt_32 : decode cX0_letterIt 32 = .ok (.aload_n 0, 1) := dk_42 (dk_at dksX0_letterIt_1 9 rfl rfl)
theorem dX0_letterIt_33 : decode cX0_letterIt 33 = .ok (.getfield 112, 3) := dk_180 0 112 (dk_at dksX0_letterIt_1 10 rfl rfl)
theorem dX0_letterIt_36 : decode cX0_letterIt 36 = .ok (.iload_n 1, 1) := dk_27 (dk_at dksX0_letterIt_1 13 rfl rfl)
theorem dX0_letterIt_37 : decode cX0_letterIt 37 = .ok (.i2c, 1) := dk_146 (dk_at dksX0_letterIt_1 14 rfl rfl)
theorem dX0_letterIt_38 : decode cX0_letterIt 38 = .ok (.castore, 1) := dk_85 (dk_at dksX0_letterIt_1 15 rfl rfl)
theorem dX0_letterIt_39 : decode cX0_letterIt 39 = .ok (.aload_n 0, 1) := dk_42 (dk_at dksX0_letterIt_1 16 rfl rfl)
theorem dX0_letterIt_40 : decode cX0_letterIt 40 = .ok (.dup, 1) := dk_89 (dk_at dksX0_letterIt_1 17 rfl rfl)
theorem dX0_letterIt_41 : decode cX0_letterIt 41 = .ok (.getfield 112, 3) := dk_180 0 112 (dk_at dksX0_letterIt_1 18 rfl rfl)
theorem dX0_letterIt_44 : decode cX0_letterIt 44 = .ok (.iconst 1, 1) := dk_4 (dk_at dksX0_letterIt_1 21 rfl rfl)
theorem dX0_letterIt_45 : decode cX0_letterIt 45 = .ok (.iadd, 1) := dk_96 (dk_at dksX0_letterIt_1 22 rfl rfl)
theorem dX0_letterIt_46 : decode cX0_letterIt 46 = .ok (.putfield 112, 3) := dk_181 0 112 (dk_at dksX0_letterIt_2 0 rfl rfl)
theorem dX0_letterIt_49 : decode cX0_letterIt 49 = .ok (.aload_n 0, 1) := dk_42 (dk_at dksX0_letterIt_2 3 rfl rfl)
theorem dX0_letterIt_50 : decode cX0_letterIt 50 = .ok (.getfield 112, 3) := dk_180 0 112 (dk_at dksX0_letterIt_2 4 rfl rfl)
theorem dX0_letterIt_53 : decode cX0_letterIt 53 = .ok (.ireturn, 1) := dk_172 (dk_at dksX0_letterIt_2 7 rfl rfl)
abbrev cX0_within : ByteArray := prog_1_method_3_code
def yX0_within : MethodName := ⟨RX0, "within", "(JJJ)V"⟩
def dkwX0_within_1 : List UInt8 := [167, 0, 4, 3, 16, 250, 184, 0, 9, 177]
abbrev dktX0_within_1 : List UInt8 := dkwX0_within_1 ++ []
def dkwX0_within_0 : List UInt8 := [30, 32, 148, 155, 0, 7, 4, 167, 0, 4, 3, 16, 252, 184, 0, 9, 30, 22, 4, 148, 157, 0, 7, 4]
abbrev dktX0_within_0 : List UInt8 := dkwX0_within_0 ++ dktX0_within_1
theorem dksX0_within_0 : cX0_within.data.toList.drop 0 = dktX0_within_0 := by decide +kernel
theorem dksX0_within_1 : cX0_within.data.toList.drop 24 = dktX0_within_1 := dk_seg dksX0_within_0 24 rfl rfl
theorem dX0_within_0 : decode cX0_within 0 = .ok (.lload_n 0, 1) := dk_30 (dk_at dksX0_within_0 0 rfl rfl)
theorem dX0_within_1 : decode cX0_within 1 = .ok (.lload_n 2, 1) := dk_32 (dk_at dksX0_within_0 1 rfl rfl)
theorem dX0_within_2 : decode cX0_within 2 = .ok (.lcmp, 1) := dk_148 (dk_at dksX0_within_0 2 rfl rfl)
theorem dX0_within_3 : decode cX0_within 3 = .ok (.ifCond .lt 7, 3) := dk_155 0 7 (dk_at dksX0_within_0 3 rfl rfl)
theorem dX0_within_6 : decode cX0_within 6 = .ok (.iconst 1, 1) := dk_4 (dk_at dksX0_within_0 6 rfl rfl)
theorem dX0_within_7 : decode cX0_within 7 = .ok (.goto 4, 3) := dk_167 0 4 (dk_at dksX0_within_0 7 rfl rfl)
theorem dX0_within_10 : decode cX0_within 10 = .ok (.iconst 0, 1) := dk_3 (dk_at dksX0_within_0 10 rfl rfl)
theorem dX0_within_11 : decode cX0_within 11 = .ok (.bipush (-4), 2) := dk_16 252 (dk_at dksX0_within_0 11 rfl rfl)
theorem dX0_within_13 : decode cX0_within 13 = .ok (.invokestatic 9, 3) := dk_184 0 9 (dk_at dksX0_within_0 13 rfl rfl)
theorem dX0_within_16 : decode cX0_within 16 = .ok (.lload_n 0, 1) := dk_30 (dk_at dksX0_within_0 16 rfl rfl)
theorem dX0_within_17 : decode cX0_within 17 = .ok (.lload 4, 2) := dk_22 4 (dk_at dksX0_within_0 17 rfl rfl)
theorem dX0_within_19 : decode cX0_within 19 = .ok (.lcmp, 1) := dk_148 (dk_at dksX0_within_0 19 rfl rfl)
theorem dX0_within_20 : decode cX0_within 20 = .ok (.ifCond .gt 7, 3) := dk_157 0 7 (dk_at dksX0_within_0 20 rfl rfl)
theorem dX0_within_23 : decode cX0_within 23 = .ok (.iconst 1, 1) := dk_4 (dk_at dksX0_within_0 23 rfl rfl)
theorem dX0_within_24 : decode cX0_within 24 = .ok (.goto 4, 3) := dk_167 0 4 (dk_at dksX0_within_1 0 rfl rfl)
theorem dX0_within_27 : decode cX0_within 27 = .ok (.iconst 0, 1) := dk_3 (dk_at dksX0_within_1 3 rfl rfl)
theorem dX0_within_28 : decode cX0_within 28 = .ok (.bipush (-6), 2) := dk_16 250 (dk_at dksX0_within_1 4 rfl rfl)
theorem dX0_within_30 : decode cX0_within 30 = .ok (.invokestatic 9, 3) := dk_184 0 9 (dk_at dksX0_within_1 6 rfl rfl)
theorem dX0_within_33 : decode cX0_within 33 = .ok (.return_, 1) := dk_177 (dk_at dksX0_within_1 9 rfl rfl)
abbrev cX0_must : ByteArray := prog_1_method_2_code
def yX0_must : MethodName := ⟨RX0, "must", "(ZI)V"⟩
def dkwX0_must_0 : List UInt8 := [26, 154, 0, 12, 187, 0, 1, 89, 27, 183, 0, 3, 191, 177]
abbrev dktX0_must_0 : List UInt8 := dkwX0_must_0 ++ []
theorem dksX0_must_0 : cX0_must.data.toList.drop 0 = dktX0_must_0 := by decide +kernel
theorem dX0_must_0 : decode cX0_must 0 = .ok (.iload_n 0, 1) := dk_26 (dk_at dksX0_must_0 0 rfl rfl)
theorem dX0_must_1 : decode cX0_must 1 = .ok (.ifCond .ne 12, 3) := dk_154 0 12 (dk_at dksX0_must_0 1 rfl rfl)
theorem dX0_must_4 : decode cX0_must 4 = .ok (.new 1, 3) := dk_187 0 1 (dk_at dksX0_must_0 4 rfl rfl)
theorem dX0_must_7 : decode cX0_must 7 = .ok (.dup, 1) := dk_89 (dk_at dksX0_must_0 7 rfl rfl)
theorem dX0_must_8 : decode cX0_must 8 = .ok (.iload_n 1, 1) := dk_27 (dk_at dksX0_must_0 8 rfl rfl)
theorem dX0_must_9 : decode cX0_must 9 = .ok (.invokespecial 3, 3) := dk_183 0 3 (dk_at dksX0_must_0 9 rfl rfl)
theorem dX0_must_12 : decode cX0_must 12 = .ok (.athrow, 1) := dk_191 (dk_at dksX0_must_0 12 rfl rfl)
theorem dX0_must_13 : decode cX0_must 13 = .ok (.return_, 1) := dk_177 (dk_at dksX0_must_0 13 rfl rfl)
abbrev cX0_readTown : ByteArray := prog_1_method_6_code
def yX0_readTown : MethodName := ⟨RX0, "readTown", "()I"⟩
def dkwX0_readTown_4 : List UInt8 := [191, 132, 4, 1, 167, 255, 214, 42, 180, 0, 73, 42, 180, 0, 77, 182, 0, 128, 29, 172]
abbrev dktX0_readTown_4 : List UInt8 := dkwX0_readTown_4 ++ []
def dkwX0_readTown_3 : List UInt8 := [182, 0, 132, 154, 0, 22, 187, 0, 136, 89, 17, 248, 48, 44, 21, 4, 50, 180, 0, 138, 100, 183, 0, 141]
abbrev dktX0_readTown_3 : List UInt8 := dkwX0_readTown_3 ++ dktX0_readTown_4
def dkwX0_readTown_2 : List UInt8 := [180, 0, 73, 182, 0, 128, 3, 54, 4, 21, 4, 29, 162, 0, 42, 44, 21, 4, 50, 42, 180, 0, 77]
abbrev dktX0_readTown_2 : List UInt8 := dkwX0_readTown_2 ++ dktX0_readTown_3
def dkwX0_readTown_1 : List UInt8 := [43, 182, 0, 118, 83, 132, 3, 1, 43, 180, 0, 122, 43, 180, 0, 125, 161, 255, 238, 42, 180, 0, 77, 42]
abbrev dktX0_readTown_1 : List UInt8 := dkwX0_readTown_1 ++ dktX0_readTown_2
def dkwX0_readTown_0 : List UInt8 := [187, 0, 107, 89, 42, 183, 0, 109, 76, 42, 3, 181, 0, 112, 16, 80, 189, 0, 116, 77, 3, 62, 44, 29]
abbrev dktX0_readTown_0 : List UInt8 := dkwX0_readTown_0 ++ dktX0_readTown_1
theorem dksX0_readTown_0 : cX0_readTown.data.toList.drop 0 = dktX0_readTown_0 := by decide +kernel
theorem dksX0_readTown_1 : cX0_readTown.data.toList.drop 24 = dktX0_readTown_1 := dk_seg dksX0_readTown_0 24 rfl rfl
theorem dksX0_readTown_2 : cX0_readTown.data.toList.drop 48 = dktX0_readTown_2 := dk_seg dksX0_readTown_1 24 rfl rfl
theorem dksX0_readTown_3 : cX0_readTown.data.toList.drop 71 = dktX0_readTown_3 := dk_seg dksX0_readTown_2 23 rfl rfl
theorem dksX0_readTown_4 : cX0_readTown.data.toList.drop 95 = dktX0_readTown_4 := dk_seg dksX0_readTown_3 24 rfl rfl
theorem dX0_readTown_0 : decode cX0_readTown 0 = .ok (.new 107, 3) := dk_187 0 107 (dk_at dksX0_readTown_0 0 rfl rfl)
theorem dX0_readTown_3 : decode cX0_readTown 3 = .ok (.dup, 1) := dk_89 (dk_at dksX0_readTown_0 3 rfl rfl)
theorem dX0_readTown_4 : decode cX0_readTown 4 = .ok (.aload_n 0, 1) := dk_42 (dk_at dksX0_readTown_0 4 rfl rfl)
theorem dX0_readTown_5 : decode cX0_readTown 5 = .ok (.invokespecial 109, 3) := dk_183 0 109 (dk_at dksX0_readTown_0 5 rfl rfl)
theorem dX0_readTown_8 : decode cX0_readTown 8 = .ok (.astore_n 1, 1) := dk_76 (dk_at dksX0_readTown_0 8 rfl rfl)
theorem dX0_readTown_9 : decode cX0_readTown 9 = .ok (.aload_n 0, 1) := dk_42 (dk_at dksX0_readTown_0 9 rfl rfl)
theorem dX0_readTown_10 : decode cX0_readTown 10 = .ok (.iconst 0, 1) := dk_3 (dk_at dksX0_readTown_0 10 rfl rfl)
theorem dX0_readTown_11 : decode cX0_readTown 11 = .ok (.putfield 112, 3) := dk_181 0 112 (dk_at dksX0_readTown_0 11 rfl rfl)
theorem dX0_readTown_14 : decode cX0_readTown 14 = .ok (.bipush 80, 2) := dk_16 80 (dk_at dksX0_readTown_0 14 rfl rfl)
theorem dX0_readTown_16 : decode cX0_readTown 16 = .ok (.anewarray 116, 3) := dk_189 0 116 (dk_at dksX0_readTown_0 16 rfl rfl)
theorem dX0_readTown_19 : decode cX0_readTown 19 = .ok (.astore_n 2, 1) := dk_77 (dk_at dksX0_readTown_0 19 rfl rfl)
theorem dX0_readTown_20 : decode cX0_readTown 20 = .ok (.iconst 0, 1) := dk_3 (dk_at dksX0_readTown_0 20 rfl rfl)
theorem dX0_readTown_21 : decode cX0_readTown 21 = .ok (.istore_n 3, 1) := dk_62 (dk_at dksX0_readTown_0 21 rfl rfl)
theorem dX0_readTown_22 : decode cX0_readTown 22 = .ok (.aload_n 2, 1) := dk_44 (dk_at dksX0_readTown_0 22 rfl rfl)
theorem dX0_readTown_23 : decode cX0_readTown 23 = .ok (.iload_n 3, 1) := dk_29 (dk_at dksX0_readTown_0 23 rfl rfl)
theorem dX0_readTown_24 : decode cX0_readTown 24 = .ok (.aload_n 1, 1) := dk_43 (dk_at dksX0_readTown_1 0 rfl rfl)
theorem dX0_readTown_25 : decode cX0_readTown 25 = .ok (.invokevirtual 118, 3) := dk_182 0 118 (dk_at dksX0_readTown_1 1 rfl rfl)
theorem dX0_readTown_28 : decode cX0_readTown 28 = .ok (.aastore, 1) := dk_83 (dk_at dksX0_readTown_1 4 rfl rfl)
theorem dX0_readTown_29 : decode cX0_readTown 29 = .ok (.iinc 3 1, 3) := dk_132 3 1 (dk_at dksX0_readTown_1 5 rfl rfl)
theorem dX0_readTown_32 : decode cX0_readTown 32 = .ok (.aload_n 1, 1) := dk_43 (dk_at dksX0_readTown_1 8 rfl rfl)
theorem dX0_readTown_33 : decode cX0_readTown 33 = .ok (.getfield 122, 3) := dk_180 0 122 (dk_at dksX0_readTown_1 9 rfl rfl)
theorem dX0_readTown_36 : decode cX0_readTown 36 = .ok (.aload_n 1, 1) := dk_43 (dk_at dksX0_readTown_1 12 rfl rfl)
theorem dX0_readTown_37 : decode cX0_readTown 37 = .ok (.getfield 125, 3) := dk_180 0 125 (dk_at dksX0_readTown_1 13 rfl rfl)
theorem dX0_readTown_40 : decode cX0_readTown 40 = .ok (.if_icmp .lt (-18), 3) := dk_161 255 238 (dk_at dksX0_readTown_1 16 rfl rfl)
theorem dX0_readTown_43 : decode cX0_readTown 43 = .ok (.aload_n 0, 1) := dk_42 (dk_at dksX0_readTown_1 19 rfl rfl)
theorem dX0_readTown_44 : decode cX0_readTown 44 = .ok (.getfield 77, 3) := dk_180 0 77 (dk_at dksX0_readTown_1 20 rfl rfl)
theorem dX0_readTown_47 : decode cX0_readTown 47 = .ok (.aload_n 0, 1) := dk_42 (dk_at dksX0_readTown_1 23 rfl rfl)
theorem dX0_readTown_48 : decode cX0_readTown 48 = .ok (.getfield 73, 3) := dk_180 0 73 (dk_at dksX0_readTown_2 0 rfl rfl)
theorem dX0_readTown_51 : decode cX0_readTown 51 = .ok (.invokevirtual 128, 3) := dk_182 0 128 (dk_at dksX0_readTown_2 3 rfl rfl)
theorem dX0_readTown_54 : decode cX0_readTown 54 = .ok (.iconst 0, 1) := dk_3 (dk_at dksX0_readTown_2 6 rfl rfl)
theorem dX0_readTown_55 : decode cX0_readTown 55 = .ok (.istore 4, 2) := dk_54 4 (dk_at dksX0_readTown_2 7 rfl rfl)
theorem dX0_readTown_57 : decode cX0_readTown 57 = .ok (.iload 4, 2) := dk_21 4 (dk_at dksX0_readTown_2 9 rfl rfl)
theorem dX0_readTown_59 : decode cX0_readTown 59 = .ok (.iload_n 3, 1) := dk_29 (dk_at dksX0_readTown_2 11 rfl rfl)
theorem dX0_readTown_60 : decode cX0_readTown 60 = .ok (.if_icmp .ge 42, 3) := dk_162 0 42 (dk_at dksX0_readTown_2 12 rfl rfl)
theorem dX0_readTown_63 : decode cX0_readTown 63 = .ok (.aload_n 2, 1) := dk_44 (dk_at dksX0_readTown_2 15 rfl rfl)
theorem dX0_readTown_64 : decode cX0_readTown 64 = .ok (.iload 4, 2) := dk_21 4 (dk_at dksX0_readTown_2 16 rfl rfl)
theorem dX0_readTown_66 : decode cX0_readTown 66 = .ok (.aaload, 1) := dk_50 (dk_at dksX0_readTown_2 18 rfl rfl)
theorem dX0_readTown_67 : decode cX0_readTown 67 = .ok (.aload_n 0, 1) := dk_42 (dk_at dksX0_readTown_2 19 rfl rfl)
theorem dX0_readTown_68 : decode cX0_readTown 68 = .ok (.getfield 77, 3) := dk_180 0 77 (dk_at dksX0_readTown_2 20 rfl rfl)
theorem dX0_readTown_71 : decode cX0_readTown 71 = .ok (.invokevirtual 132, 3) := dk_182 0 132 (dk_at dksX0_readTown_3 0 rfl rfl)
theorem dX0_readTown_74 : decode cX0_readTown 74 = .ok (.ifCond .ne 22, 3) := dk_154 0 22 (dk_at dksX0_readTown_3 3 rfl rfl)
theorem dX0_readTown_77 : decode cX0_readTown 77 = .ok (.new 136, 3) := dk_187 0 136 (dk_at dksX0_readTown_3 6 rfl rfl)
theorem dX0_readTown_80 : decode cX0_readTown 80 = .ok (.dup, 1) := dk_89 (dk_at dksX0_readTown_3 9 rfl rfl)
theorem dX0_readTown_81 : decode cX0_readTown 81 = .ok (.sipush (-2000), 3) := dk_17 248 48 (dk_at dksX0_readTown_3 10 rfl rfl)
theorem dX0_readTown_84 : decode cX0_readTown 84 = .ok (.aload_n 2, 1) := dk_44 (dk_at dksX0_readTown_3 13 rfl rfl)
theorem dX0_readTown_85 : decode cX0_readTown 85 = .ok (.iload 4, 2) := dk_21 4 (dk_at dksX0_readTown_3 14 rfl rfl)
theorem dX0_readTown_87 : decode cX0_readTown 87 = .ok (.aaload, 1) := dk_50 (dk_at dksX0_readTown_3 16 rfl rfl)
theorem dX0_readTown_88 : decode cX0_readTown 88 = .ok (.getfield 138, 3) := dk_180 0 138 (dk_at dksX0_readTown_3 17 rfl rfl)
theorem dX0_readTown_91 : decode cX0_readTown 91 = .ok (.isub, 1) := dk_100 (dk_at dksX0_readTown_3 20 rfl rfl)
theorem dX0_readTown_92 : decode cX0_readTown 92 = .ok (.invokespecial 141, 3) := dk_183 0 141 (dk_at dksX0_readTown_3 21 rfl rfl)
theorem dX0_readTown_95 : decode cX0_readTown 95 = .ok (.athrow, 1) := dk_191 (dk_at dksX0_readTown_4 0 rfl rfl)
theorem dX0_readTown_96 : decode cX0_readTown 96 = .ok (.iinc 4 1, 3) := dk_132 4 1 (dk_at dksX0_readTown_4 1 rfl rfl)
theorem dX0_readTown_99 : decode cX0_readTown 99 = .ok (.goto (-42), 3) := dk_167 255 214 (dk_at dksX0_readTown_4 4 rfl rfl)
theorem dX0_readTown_102 : decode cX0_readTown 102 = .ok (.aload_n 0, 1) := dk_42 (dk_at dksX0_readTown_4 7 rfl rfl)
theorem dX0_readTown_103 : decode cX0_readTown 103 = .ok (.getfield 73, 3) := dk_180 0 73 (dk_at dksX0_readTown_4 8 rfl rfl)
theorem dX0_readTown_106 : decode cX0_readTown 106 = .ok (.aload_n 0, 1) := dk_42 (dk_at dksX0_readTown_4 11 rfl rfl)
theorem dX0_readTown_107 : decode cX0_readTown 107 = .ok (.getfield 77, 3) := dk_180 0 77 (dk_at dksX0_readTown_4 12 rfl rfl)
theorem dX0_readTown_110 : decode cX0_readTown 110 = .ok (.invokevirtual 128, 3) := dk_182 0 128 (dk_at dksX0_readTown_4 15 rfl rfl)
theorem dX0_readTown_113 : decode cX0_readTown 113 = .ok (.iload_n 3, 1) := dk_29 (dk_at dksX0_readTown_4 18 rfl rfl)
theorem dX0_readTown_114 : decode cX0_readTown 114 = .ok (.ireturn, 1) := dk_172 (dk_at dksX0_readTown_4 19 rfl rfl)
abbrev cX0_in : ByteArray := prog_1_method_1_code
def yX0_in : MethodName := ⟨RX0, "in", "(JJJ)Z"⟩
def dkwX0_in_0 : List UInt8 := [30, 32, 148, 155, 0, 14, 30, 22, 4, 148, 157, 0, 7, 4, 167, 0, 4, 3, 172]
abbrev dktX0_in_0 : List UInt8 := dkwX0_in_0 ++ []
theorem dksX0_in_0 : cX0_in.data.toList.drop 0 = dktX0_in_0 := by decide +kernel
theorem dX0_in_0 : decode cX0_in 0 = .ok (.lload_n 0, 1) := dk_30 (dk_at dksX0_in_0 0 rfl rfl)
theorem dX0_in_1 : decode cX0_in 1 = .ok (.lload_n 2, 1) := dk_32 (dk_at dksX0_in_0 1 rfl rfl)
theorem dX0_in_2 : decode cX0_in 2 = .ok (.lcmp, 1) := dk_148 (dk_at dksX0_in_0 2 rfl rfl)
theorem dX0_in_3 : decode cX0_in 3 = .ok (.ifCond .lt 14, 3) := dk_155 0 14 (dk_at dksX0_in_0 3 rfl rfl)
theorem dX0_in_6 : decode cX0_in 6 = .ok (.lload_n 0, 1) := dk_30 (dk_at dksX0_in_0 6 rfl rfl)
theorem dX0_in_7 : decode cX0_in 7 = .ok (.lload 4, 2) := dk_22 4 (dk_at dksX0_in_0 7 rfl rfl)
theorem dX0_in_9 : decode cX0_in 9 = .ok (.lcmp, 1) := dk_148 (dk_at dksX0_in_0 9 rfl rfl)
theorem dX0_in_10 : decode cX0_in 10 = .ok (.ifCond .gt 7, 3) := dk_157 0 7 (dk_at dksX0_in_0 10 rfl rfl)
theorem dX0_in_13 : decode cX0_in 13 = .ok (.iconst 1, 1) := dk_4 (dk_at dksX0_in_0 13 rfl rfl)
theorem dX0_in_14 : decode cX0_in 14 = .ok (.goto 4, 3) := dk_167 0 4 (dk_at dksX0_in_0 14 rfl rfl)
theorem dX0_in_17 : decode cX0_in 17 = .ok (.iconst 0, 1) := dk_3 (dk_at dksX0_in_0 17 rfl rfl)
theorem dX0_in_18 : decode cX0_in 18 = .ok (.ireturn, 1) := dk_172 (dk_at dksX0_in_0 18 rfl rfl)
abbrev cX0_sortTold : ByteArray := prog_1_method_32_code
def yX0_sortTold : MethodName := ⟨RX0, "sortTold", "(II)I"⟩
def dkwX0_sortTold_4 : List UInt8 := [180, 1, 73, 172, 45, 180, 0, 189, 172]
abbrev dktX0_sortTold_4 : List UInt8 := dkwX0_sortTold_4 ++ []
def dkwX0_sortTold_3 : List UInt8 := [45, 180, 0, 184, 172, 45, 180, 1, 60, 182, 1, 64, 172, 45, 180, 1, 67, 172, 45, 180, 1, 70, 172, 45]
abbrev dktX0_sortTold_3 : List UInt8 := dkwX0_sortTold_3 ++ dktX0_sortTold_4
def dkwX0_sortTold_2 : List UInt8 := [170, 0, 0, 0, 0, 62, 0, 0, 0, 0, 0, 0, 0, 4, 0, 0, 0, 34, 0, 0, 0, 39, 0, 0, 0, 47, 0, 0, 0, 52, 0, 0, 0, 57]
abbrev dktX0_sortTold_2 : List UInt8 := dkwX0_sortTold_2 ++ dktX0_sortTold_3
def dkwX0_sortTold_1 : List UInt8 := [180, 0, 180, 27, 50, 78, 28]
abbrev dktX0_sortTold_1 : List UInt8 := dkwX0_sortTold_1 ++ dktX0_sortTold_2
def dkwX0_sortTold_0 : List UInt8 := [42, 27, 182, 1, 55, 28, 133, 9, 20, 1, 58, 184, 0, 13, 16, 254, 184, 0, 9, 42, 180, 0, 73]
abbrev dktX0_sortTold_0 : List UInt8 := dkwX0_sortTold_0 ++ dktX0_sortTold_1
theorem dksX0_sortTold_0 : cX0_sortTold.data.toList.drop 0 = dktX0_sortTold_0 := by decide +kernel
theorem dksX0_sortTold_1 : cX0_sortTold.data.toList.drop 23 = dktX0_sortTold_1 := dk_seg dksX0_sortTold_0 23 rfl rfl
theorem dksX0_sortTold_2 : cX0_sortTold.data.toList.drop 30 = dktX0_sortTold_2 := dk_seg dksX0_sortTold_1 7 rfl rfl
theorem dksX0_sortTold_3 : cX0_sortTold.data.toList.drop 64 = dktX0_sortTold_3 := dk_seg dksX0_sortTold_2 34 rfl rfl
theorem dksX0_sortTold_4 : cX0_sortTold.data.toList.drop 88 = dktX0_sortTold_4 := dk_seg dksX0_sortTold_3 24 rfl rfl
theorem dX0_sortTold_0 : decode cX0_sortTold 0 = .ok (.aload_n 0, 1) := dk_42 (dk_at dksX0_sortTold_0 0 rfl rfl)
theorem dX0_sortTold_1 : decode cX0_sortTold 1 = .ok (.iload_n 1, 1) := dk_27 (dk_at dksX0_sortTold_0 1 rfl rfl)
theorem dX0_sortTold_2 : decode cX0_sortTold 2 = .ok (.invokevirtual 311, 3) := dk_182 1 55 (dk_at dksX0_sortTold_0 2 rfl rfl)
theorem dX0_sortTold_5 : decode cX0_sortTold 5 = .ok (.iload_n 2, 1) := dk_28 (dk_at dksX0_sortTold_0 5 rfl rfl)
theorem dX0_sortTold_6 : decode cX0_sortTold 6 = .ok (.i2l, 1) := dk_133 (dk_at dksX0_sortTold_0 6 rfl rfl)
theorem dX0_sortTold_7 : decode cX0_sortTold 7 = .ok (.lconst 0, 1) := dk_9 (dk_at dksX0_sortTold_0 7 rfl rfl)
theorem dX0_sortTold_8 : decode cX0_sortTold 8 = .ok (.ldc2_w 314, 3) := dk_20 1 58 (dk_at dksX0_sortTold_0 8 rfl rfl)
theorem dX0_sortTold_11 : decode cX0_sortTold 11 = .ok (.invokestatic 13, 3) := dk_184 0 13 (dk_at dksX0_sortTold_0 11 rfl rfl)
theorem dX0_sortTold_14 : decode cX0_sortTold 14 = .ok (.bipush (-2), 2) := dk_16 254 (dk_at dksX0_sortTold_0 14 rfl rfl)
theorem dX0_sortTold_16 : decode cX0_sortTold 16 = .ok (.invokestatic 9, 3) := dk_184 0 9 (dk_at dksX0_sortTold_0 16 rfl rfl)
theorem dX0_sortTold_19 : decode cX0_sortTold 19 = .ok (.aload_n 0, 1) := dk_42 (dk_at dksX0_sortTold_0 19 rfl rfl)
theorem dX0_sortTold_20 : decode cX0_sortTold 20 = .ok (.getfield 73, 3) := dk_180 0 73 (dk_at dksX0_sortTold_0 20 rfl rfl)
theorem dX0_sortTold_23 : decode cX0_sortTold 23 = .ok (.getfield 180, 3) := dk_180 0 180 (dk_at dksX0_sortTold_1 0 rfl rfl)
theorem dX0_sortTold_26 : decode cX0_sortTold 26 = .ok (.iload_n 1, 1) := dk_27 (dk_at dksX0_sortTold_1 3 rfl rfl)
theorem dX0_sortTold_27 : decode cX0_sortTold 27 = .ok (.aaload, 1) := dk_50 (dk_at dksX0_sortTold_1 4 rfl rfl)
theorem dX0_sortTold_28 : decode cX0_sortTold 28 = .ok (.astore_n 3, 1) := dk_78 (dk_at dksX0_sortTold_1 5 rfl rfl)
theorem dX0_sortTold_29 : decode cX0_sortTold 29 = .ok (.iload_n 2, 1) := dk_28 (dk_at dksX0_sortTold_1 6 rfl rfl)
theorem dX0_sortTold_30 : decode cX0_sortTold 30 = .ok (.tableswitch 62 0 4 #[34, 39, 47, 52, 57], 34) := by decide +kernel
theorem dX0_sortTold_64 : decode cX0_sortTold 64 = .ok (.aload_n 3, 1) := dk_45 (dk_at dksX0_sortTold_3 0 rfl rfl)
theorem dX0_sortTold_65 : decode cX0_sortTold 65 = .ok (.getfield 184, 3) := dk_180 0 184 (dk_at dksX0_sortTold_3 1 rfl rfl)
theorem dX0_sortTold_68 : decode cX0_sortTold 68 = .ok (.ireturn, 1) := dk_172 (dk_at dksX0_sortTold_3 4 rfl rfl)
theorem dX0_sortTold_69 : decode cX0_sortTold 69 = .ok (.aload_n 3, 1) := dk_45 (dk_at dksX0_sortTold_3 5 rfl rfl)
theorem dX0_sortTold_70 : decode cX0_sortTold 70 = .ok (.getfield 316, 3) := dk_180 1 60 (dk_at dksX0_sortTold_3 6 rfl rfl)
theorem dX0_sortTold_73 : decode cX0_sortTold 73 = .ok (.invokevirtual 320, 3) := dk_182 1 64 (dk_at dksX0_sortTold_3 9 rfl rfl)
theorem dX0_sortTold_76 : decode cX0_sortTold 76 = .ok (.ireturn, 1) := dk_172 (dk_at dksX0_sortTold_3 12 rfl rfl)
theorem dX0_sortTold_77 : decode cX0_sortTold 77 = .ok (.aload_n 3, 1) := dk_45 (dk_at dksX0_sortTold_3 13 rfl rfl)
theorem dX0_sortTold_78 : decode cX0_sortTold 78 = .ok (.getfield 323, 3) := dk_180 1 67 (dk_at dksX0_sortTold_3 14 rfl rfl)
theorem dX0_sortTold_81 : decode cX0_sortTold 81 = .ok (.ireturn, 1) := dk_172 (dk_at dksX0_sortTold_3 17 rfl rfl)
theorem dX0_sortTold_82 : decode cX0_sortTold 82 = .ok (.aload_n 3, 1) := dk_45 (dk_at dksX0_sortTold_3 18 rfl rfl)
theorem dX0_sortTold_83 : decode cX0_sortTold 83 = .ok (.getfield 326, 3) := dk_180 1 70 (dk_at dksX0_sortTold_3 19 rfl rfl)
theorem dX0_sortTold_86 : decode cX0_sortTold 86 = .ok (.ireturn, 1) := dk_172 (dk_at dksX0_sortTold_3 22 rfl rfl)
theorem dX0_sortTold_87 : decode cX0_sortTold 87 = .ok (.aload_n 3, 1) := dk_45 (dk_at dksX0_sortTold_3 23 rfl rfl)
theorem dX0_sortTold_88 : decode cX0_sortTold 88 = .ok (.getfield 329, 3) := dk_180 1 73 (dk_at dksX0_sortTold_4 0 rfl rfl)
theorem dX0_sortTold_91 : decode cX0_sortTold 91 = .ok (.ireturn, 1) := dk_172 (dk_at dksX0_sortTold_4 3 rfl rfl)
theorem dX0_sortTold_92 : decode cX0_sortTold 92 = .ok (.aload_n 3, 1) := dk_45 (dk_at dksX0_sortTold_4 4 rfl rfl)
theorem dX0_sortTold_93 : decode cX0_sortTold 93 = .ok (.getfield 189, 3) := dk_180 0 189 (dk_at dksX0_sortTold_4 5 rfl rfl)
theorem dX0_sortTold_96 : decode cX0_sortTold 96 = .ok (.ireturn, 1) := dk_172 (dk_at dksX0_sortTold_4 8 rfl rfl)
abbrev cX0_mustBeSort : ByteArray := prog_1_method_29_code
def yX0_mustBeSort : MethodName := ⟨RX0, "mustBeSort", "(I)V"⟩
def dkwX0_mustBeSort_0 : List UInt8 := [27, 42, 180, 0, 73, 180, 0, 177, 184, 1, 44, 177]
abbrev dktX0_mustBeSort_0 : List UInt8 := dkwX0_mustBeSort_0 ++ []
theorem dksX0_mustBeSort_0 : cX0_mustBeSort.data.toList.drop 0 = dktX0_mustBeSort_0 := by decide +kernel
theorem dX0_mustBeSort_0 : decode cX0_mustBeSort 0 = .ok (.iload_n 1, 1) := dk_27 (dk_at dksX0_mustBeSort_0 0 rfl rfl)
theorem dX0_mustBeSort_1 : decode cX0_mustBeSort 1 = .ok (.aload_n 0, 1) := dk_42 (dk_at dksX0_mustBeSort_0 1 rfl rfl)
theorem dX0_mustBeSort_2 : decode cX0_mustBeSort 2 = .ok (.getfield 73, 3) := dk_180 0 73 (dk_at dksX0_mustBeSort_0 2 rfl rfl)
theorem dX0_mustBeSort_5 : decode cX0_mustBeSort 5 = .ok (.getfield 177, 3) := dk_180 0 177 (dk_at dksX0_mustBeSort_0 5 rfl rfl)
theorem dX0_mustBeSort_8 : decode cX0_mustBeSort 8 = .ok (.invokestatic 300, 3) := dk_184 1 44 (dk_at dksX0_mustBeSort_0 8 rfl rfl)
theorem dX0_mustBeSort_11 : decode cX0_mustBeSort 11 = .ok (.return_, 1) := dk_177 (dk_at dksX0_mustBeSort_0 11 rfl rfl)
abbrev cX0_mustBe : ByteArray := prog_1_method_4_code
def yX0_mustBe : MethodName := ⟨RX0, "mustBe", "(II)V"⟩
def dkwX0_mustBe_0 : List UInt8 := [26, 133, 9, 27, 4, 100, 133, 184, 0, 13, 2, 184, 0, 9, 177]
abbrev dktX0_mustBe_0 : List UInt8 := dkwX0_mustBe_0 ++ []
theorem dksX0_mustBe_0 : cX0_mustBe.data.toList.drop 0 = dktX0_mustBe_0 := by decide +kernel
theorem dX0_mustBe_0 : decode cX0_mustBe 0 = .ok (.iload_n 0, 1) := dk_26 (dk_at dksX0_mustBe_0 0 rfl rfl)
theorem dX0_mustBe_1 : decode cX0_mustBe 1 = .ok (.i2l, 1) := dk_133 (dk_at dksX0_mustBe_0 1 rfl rfl)
theorem dX0_mustBe_2 : decode cX0_mustBe 2 = .ok (.lconst 0, 1) := dk_9 (dk_at dksX0_mustBe_0 2 rfl rfl)
theorem dX0_mustBe_3 : decode cX0_mustBe 3 = .ok (.iload_n 1, 1) := dk_27 (dk_at dksX0_mustBe_0 3 rfl rfl)
theorem dX0_mustBe_4 : decode cX0_mustBe 4 = .ok (.iconst 1, 1) := dk_4 (dk_at dksX0_mustBe_0 4 rfl rfl)
theorem dX0_mustBe_5 : decode cX0_mustBe 5 = .ok (.isub, 1) := dk_100 (dk_at dksX0_mustBe_0 5 rfl rfl)
theorem dX0_mustBe_6 : decode cX0_mustBe 6 = .ok (.i2l, 1) := dk_133 (dk_at dksX0_mustBe_0 6 rfl rfl)
theorem dX0_mustBe_7 : decode cX0_mustBe 7 = .ok (.invokestatic 13, 3) := dk_184 0 13 (dk_at dksX0_mustBe_0 7 rfl rfl)
theorem dX0_mustBe_10 : decode cX0_mustBe 10 = .ok (.iconst (-1), 1) := dk_2 (dk_at dksX0_mustBe_0 10 rfl rfl)
theorem dX0_mustBe_11 : decode cX0_mustBe 11 = .ok (.invokestatic 9, 3) := dk_184 0 9 (dk_at dksX0_mustBe_0 11 rfl rfl)
theorem dX0_mustBe_14 : decode cX0_mustBe 14 = .ok (.return_, 1) := dk_177 (dk_at dksX0_mustBe_0 14 rfl rfl)
abbrev cX0_ruleTold : ByteArray := prog_1_method_33_code
def yX0_ruleTold : MethodName := ⟨RX0, "ruleTold", "(II)I"⟩
def dkwX0_ruleTold_3 : List UInt8 := [180, 1, 82, 27, 46, 167, 0, 11, 42, 180, 0, 73, 27, 182, 1, 85, 172]
abbrev dktX0_ruleTold_3 : List UInt8 := dkwX0_ruleTold_3 ++ []
def dkwX0_ruleTold_2 : List UInt8 := [160, 0, 15, 42, 180, 0, 73, 180, 0, 255, 27, 46, 167, 0, 28, 28, 5, 160, 0, 15, 42, 180, 0, 73]
abbrev dktX0_ruleTold_2 : List UInt8 := dkwX0_ruleTold_2 ++ dktX0_ruleTold_3
def dkwX0_ruleTold_1 : List UInt8 := [184, 0, 9, 28, 154, 0, 18, 42, 180, 0, 73, 180, 1, 78, 27, 50, 182, 1, 81, 167, 0, 45, 28, 4]
abbrev dktX0_ruleTold_1 : List UInt8 := dkwX0_ruleTold_1 ++ dktX0_ruleTold_2
def dkwX0_ruleTold_0 : List UInt8 := [27, 42, 180, 0, 73, 180, 0, 252, 184, 1, 44, 28, 133, 9, 20, 1, 76, 184, 0, 13, 16, 254]
abbrev dktX0_ruleTold_0 : List UInt8 := dkwX0_ruleTold_0 ++ dktX0_ruleTold_1
theorem dksX0_ruleTold_0 : cX0_ruleTold.data.toList.drop 0 = dktX0_ruleTold_0 := by decide +kernel
theorem dksX0_ruleTold_1 : cX0_ruleTold.data.toList.drop 22 = dktX0_ruleTold_1 := dk_seg dksX0_ruleTold_0 22 rfl rfl
theorem dksX0_ruleTold_2 : cX0_ruleTold.data.toList.drop 46 = dktX0_ruleTold_2 := dk_seg dksX0_ruleTold_1 24 rfl rfl
theorem dksX0_ruleTold_3 : cX0_ruleTold.data.toList.drop 70 = dktX0_ruleTold_3 := dk_seg dksX0_ruleTold_2 24 rfl rfl
theorem dX0_ruleTold_0 : decode cX0_ruleTold 0 = .ok (.iload_n 1, 1) := dk_27 (dk_at dksX0_ruleTold_0 0 rfl rfl)
theorem dX0_ruleTold_1 : decode cX0_ruleTold 1 = .ok (.aload_n 0, 1) := dk_42 (dk_at dksX0_ruleTold_0 1 rfl rfl)
theorem dX0_ruleTold_2 : decode cX0_ruleTold 2 = .ok (.getfield 73, 3) := dk_180 0 73 (dk_at dksX0_ruleTold_0 2 rfl rfl)
theorem dX0_ruleTold_5 : decode cX0_ruleTold 5 = .ok (.getfield 252, 3) := dk_180 0 252 (dk_at dksX0_ruleTold_0 5 rfl rfl)
theorem dX0_ruleTold_8 : decode cX0_ruleTold 8 = .ok (.invokestatic 300, 3) := dk_184 1 44 (dk_at dksX0_ruleTold_0 8 rfl rfl)
theorem dX0_ruleTold_11 : decode cX0_ruleTold 11 = .ok (.iload_n 2, 1) := dk_28 (dk_at dksX0_ruleTold_0 11 rfl rfl)
theorem dX0_ruleTold_12 : decode cX0_ruleTold 12 = .ok (.i2l, 1) := dk_133 (dk_at dksX0_ruleTold_0 12 rfl rfl)
theorem dX0_ruleTold_13 : decode cX0_ruleTold 13 = .ok (.lconst 0, 1) := dk_9 (dk_at dksX0_ruleTold_0 13 rfl rfl)
theorem dX0_ruleTold_14 : decode cX0_ruleTold 14 = .ok (.ldc2_w 332, 3) := dk_20 1 76 (dk_at dksX0_ruleTold_0 14 rfl rfl)
theorem dX0_ruleTold_17 : decode cX0_ruleTold 17 = .ok (.invokestatic 13, 3) := dk_184 0 13 (dk_at dksX0_ruleTold_0 17 rfl rfl)
theorem dX0_ruleTold_20 : decode cX0_ruleTold 20 = .ok (.bipush (-2), 2) := dk_16 254 (dk_at dksX0_ruleTold_0 20 rfl rfl)
theorem dX0_ruleTold_22 : decode cX0_ruleTold 22 = .ok (.invokestatic 9, 3) := dk_184 0 9 (dk_at dksX0_ruleTold_1 0 rfl rfl)
theorem dX0_ruleTold_25 : decode cX0_ruleTold 25 = .ok (.iload_n 2, 1) := dk_28 (dk_at dksX0_ruleTold_1 3 rfl rfl)
theorem dX0_ruleTold_26 : decode cX0_ruleTold 26 = .ok (.ifCond .ne 18, 3) := dk_154 0 18 (dk_at dksX0_ruleTold_1 4 rfl rfl)
theorem dX0_ruleTold_29 : decode cX0_ruleTold 29 = .ok (.aload_n 0, 1) := dk_42 (dk_at dksX0_ruleTold_1 7 rfl rfl)
theorem dX0_ruleTold_30 : decode cX0_ruleTold 30 = .ok (.getfield 73, 3) := dk_180 0 73 (dk_at dksX0_ruleTold_1 8 rfl rfl)
theorem dX0_ruleTold_33 : decode cX0_ruleTold 33 = .ok (.getfield 334, 3) := dk_180 1 78 (dk_at dksX0_ruleTold_1 11 rfl rfl)
theorem dX0_ruleTold_36 : decode cX0_ruleTold 36 = .ok (.iload_n 1, 1) := dk_27 (dk_at dksX0_ruleTold_1 14 rfl rfl)
theorem dX0_ruleTold_37 : decode cX0_ruleTold 37 = .ok (.aaload, 1) := dk_50 (dk_at dksX0_ruleTold_1 15 rfl rfl)
theorem dX0_ruleTold_38 : decode cX0_ruleTold 38 = .ok (.invokevirtual 337, 3) := dk_182 1 81 (dk_at dksX0_ruleTold_1 16 rfl rfl)
theorem dX0_ruleTold_41 : decode cX0_ruleTold 41 = .ok (.goto 45, 3) := dk_167 0 45 (dk_at dksX0_ruleTold_1 19 rfl rfl)
theorem dX0_ruleTold_44 : decode cX0_ruleTold 44 = .ok (.iload_n 2, 1) := dk_28 (dk_at dksX0_ruleTold_1 22 rfl rfl)
theorem dX0_ruleTold_45 : decode cX0_ruleTold 45 = .ok (.iconst 1, 1) := dk_4 (dk_at dksX0_ruleTold_1 23 rfl rfl)
theorem dX0_ruleTold_46 : decode cX0_ruleTold 46 = .ok (.if_icmp .ne 15, 3) := dk_160 0 15 (dk_at dksX0_ruleTold_2 0 rfl rfl)
theorem dX0_ruleTold_49 : decode cX0_ruleTold 49 = .ok (.aload_n 0, 1) := dk_42 (dk_at dksX0_ruleTold_2 3 rfl rfl)
theorem dX0_ruleTold_50 : decode cX0_ruleTold 50 = .ok (.getfield 73, 3) := dk_180 0 73 (dk_at dksX0_ruleTold_2 4 rfl rfl)
theorem dX0_ruleTold_53 : decode cX0_ruleTold 53 = .ok (.getfield 255, 3) := dk_180 0 255 (dk_at dksX0_ruleTold_2 7 rfl rfl)
theorem dX0_ruleTold_56 : decode cX0_ruleTold 56 = .ok (.iload_n 1, 1) := dk_27 (dk_at dksX0_ruleTold_2 10 rfl rfl)
theorem dX0_ruleTold_57 : decode cX0_ruleTold 57 = .ok (.iaload, 1) := dk_46 (dk_at dksX0_ruleTold_2 11 rfl rfl)
theorem dX0_ruleTold_58 : decode cX0_ruleTold 58 = .ok (.goto 28, 3) := dk_167 0 28 (dk_at dksX0_ruleTold_2 12 rfl rfl)
theorem dX0_ruleTold_61 : decode cX0_ruleTold 61 = .ok (.iload_n 2, 1) := dk_28 (dk_at dksX0_ruleTold_2 15 rfl rfl)
theorem dX0_ruleTold_62 : decode cX0_ruleTold 62 = .ok (.iconst 2, 1) := dk_5 (dk_at dksX0_ruleTold_2 16 rfl rfl)
theorem dX0_ruleTold_63 : decode cX0_ruleTold 63 = .ok (.if_icmp .ne 15, 3) := dk_160 0 15 (dk_at dksX0_ruleTold_2 17 rfl rfl)
theorem dX0_ruleTold_66 : decode cX0_ruleTold 66 = .ok (.aload_n 0, 1) := dk_42 (dk_at dksX0_ruleTold_2 20 rfl rfl)
theorem dX0_ruleTold_67 : decode cX0_ruleTold 67 = .ok (.getfield 73, 3) := dk_180 0 73 (dk_at dksX0_ruleTold_2 21 rfl rfl)
theorem dX0_ruleTold_70 : decode cX0_ruleTold 70 = .ok (.getfield 338, 3) := dk_180 1 82 (dk_at dksX0_ruleTold_3 0 rfl rfl)
theorem dX0_ruleTold_73 : decode cX0_ruleTold 73 = .ok (.iload_n 1, 1) := dk_27 (dk_at dksX0_ruleTold_3 3 rfl rfl)
theorem dX0_ruleTold_74 : decode cX0_ruleTold 74 = .ok (.iaload, 1) := dk_46 (dk_at dksX0_ruleTold_3 4 rfl rfl)
theorem dX0_ruleTold_75 : decode cX0_ruleTold 75 = .ok (.goto 11, 3) := dk_167 0 11 (dk_at dksX0_ruleTold_3 5 rfl rfl)
theorem dX0_ruleTold_78 : decode cX0_ruleTold 78 = .ok (.aload_n 0, 1) := dk_42 (dk_at dksX0_ruleTold_3 8 rfl rfl)
theorem dX0_ruleTold_79 : decode cX0_ruleTold 79 = .ok (.getfield 73, 3) := dk_180 0 73 (dk_at dksX0_ruleTold_3 9 rfl rfl)
theorem dX0_ruleTold_82 : decode cX0_ruleTold 82 = .ok (.iload_n 1, 1) := dk_27 (dk_at dksX0_ruleTold_3 12 rfl rfl)
theorem dX0_ruleTold_83 : decode cX0_ruleTold 83 = .ok (.invokevirtual 341, 3) := dk_182 1 85 (dk_at dksX0_ruleTold_3 13 rfl rfl)
theorem dX0_ruleTold_86 : decode cX0_ruleTold 86 = .ok (.ireturn, 1) := dk_172 (dk_at dksX0_ruleTold_3 16 rfl rfl)
abbrev cX0_goesNext : ByteArray := prog_1_method_35_code
def yX0_goesNext : MethodName := ⟨RX0, "goesNext", "(I)I"⟩
def dkwX0_goesNext_1 : List UInt8 := [153, 0, 7, 4, 167, 0, 4, 3, 172]
abbrev dktX0_goesNext_1 : List UInt8 := dkwX0_goesNext_1 ++ []
def dkwX0_goesNext_0 : List UInt8 := [42, 27, 182, 1, 55, 42, 180, 0, 73, 182, 1, 88, 87, 42, 180, 0, 73, 180, 1, 91, 27, 51]
abbrev dktX0_goesNext_0 : List UInt8 := dkwX0_goesNext_0 ++ dktX0_goesNext_1
theorem dksX0_goesNext_0 : cX0_goesNext.data.toList.drop 0 = dktX0_goesNext_0 := by decide +kernel
theorem dksX0_goesNext_1 : cX0_goesNext.data.toList.drop 22 = dktX0_goesNext_1 := dk_seg dksX0_goesNext_0 22 rfl rfl
theorem dX0_goesNext_0 : decode cX0_goesNext 0 = .ok (.aload_n 0, 1) := dk_42 (dk_at dksX0_goesNext_0 0 rfl rfl)
theorem dX0_goesNext_1 : decode cX0_goesNext 1 = .ok (.iload_n 1, 1) := dk_27 (dk_at dksX0_goesNext_0 1 rfl rfl)
theorem dX0_goesNext_2 : decode cX0_goesNext 2 = .ok (.invokevirtual 311, 3) := dk_182 1 55 (dk_at dksX0_goesNext_0 2 rfl rfl)
theorem dX0_goesNext_5 : decode cX0_goesNext 5 = .ok (.aload_n 0, 1) := dk_42 (dk_at dksX0_goesNext_0 5 rfl rfl)
theorem dX0_goesNext_6 : decode cX0_goesNext 6 = .ok (.getfield 73, 3) := dk_180 0 73 (dk_at dksX0_goesNext_0 6 rfl rfl)
theorem dX0_goesNext_9 : decode cX0_goesNext 9 = .ok (.invokevirtual 344, 3) := dk_182 1 88 (dk_at dksX0_goesNext_0 9 rfl rfl)
theorem dX0_goesNext_12 : decode cX0_goesNext 12 = .ok (.pop, 1) := dk_87 (dk_at dksX0_goesNext_0 12 rfl rfl)
theorem dX0_goesNext_13 : decode cX0_goesNext 13 = .ok (.aload_n 0, 1) := dk_42 (dk_at dksX0_goesNext_0 13 rfl rfl)
theorem dX0_goesNext_14 : decode cX0_goesNext 14 = .ok (.getfield 73, 3) := dk_180 0 73 (dk_at dksX0_goesNext_0 14 rfl rfl)
theorem dX0_goesNext_17 : decode cX0_goesNext 17 = .ok (.getfield 347, 3) := dk_180 1 91 (dk_at dksX0_goesNext_0 17 rfl rfl)
theorem dX0_goesNext_20 : decode cX0_goesNext 20 = .ok (.iload_n 1, 1) := dk_27 (dk_at dksX0_goesNext_0 20 rfl rfl)
theorem dX0_goesNext_21 : decode cX0_goesNext 21 = .ok (.baload, 1) := dk_51 (dk_at dksX0_goesNext_0 21 rfl rfl)
theorem dX0_goesNext_22 : decode cX0_goesNext 22 = .ok (.ifCond .eq 7, 3) := dk_153 0 7 (dk_at dksX0_goesNext_1 0 rfl rfl)
theorem dX0_goesNext_25 : decode cX0_goesNext 25 = .ok (.iconst 1, 1) := dk_4 (dk_at dksX0_goesNext_1 3 rfl rfl)
theorem dX0_goesNext_26 : decode cX0_goesNext 26 = .ok (.goto 4, 3) := dk_167 0 4 (dk_at dksX0_goesNext_1 4 rfl rfl)
theorem dX0_goesNext_29 : decode cX0_goesNext 29 = .ok (.iconst 0, 1) := dk_3 (dk_at dksX0_goesNext_1 7 rfl rfl)
theorem dX0_goesNext_30 : decode cX0_goesNext 30 = .ok (.ireturn, 1) := dk_172 (dk_at dksX0_goesNext_1 8 rfl rfl)
abbrev cX0_worthNext : ByteArray := prog_1_method_34_code
def yX0_worthNext : MethodName := ⟨RX0, "worthNext", "(I)I"⟩
def dkwX0_worthNext_4 : List UInt8 := [182, 0, 174, 104, 96, 62, 132, 4, 1, 167, 255, 214, 29, 172]
abbrev dktX0_worthNext_4 : List UInt8 := dkwX0_worthNext_4 ++ []
def dkwX0_worthNext_3 : List UInt8 := [162, 0, 36, 29, 42, 180, 0, 73, 180, 0, 180, 21, 4, 50, 180, 0, 184, 42, 180, 0, 73, 21, 4, 28]
abbrev dktX0_worthNext_3 : List UInt8 := dkwX0_worthNext_3 ++ dktX0_worthNext_4
def dkwX0_worthNext_2 : List UInt8 := [180, 0, 73, 27, 28, 182, 0, 174, 172, 3, 62, 3, 54, 4, 21, 4, 42, 180, 0, 73, 180, 0, 177]
abbrev dktX0_worthNext_2 : List UInt8 := dkwX0_worthNext_2 ++ dktX0_worthNext_3
def dkwX0_worthNext_1 : List UInt8 := [4, 167, 0, 4, 3, 2, 184, 0, 9, 42, 180, 0, 73, 182, 1, 88, 61, 27, 155, 0, 13, 42]
abbrev dktX0_worthNext_1 : List UInt8 := dkwX0_worthNext_1 ++ dktX0_worthNext_2
def dkwX0_worthNext_0 : List UInt8 := [27, 2, 159, 0, 22, 27, 133, 9, 42, 180, 0, 73, 180, 0, 177, 4, 100, 133, 184, 0, 13, 153, 0, 7]
abbrev dktX0_worthNext_0 : List UInt8 := dkwX0_worthNext_0 ++ dktX0_worthNext_1
theorem dksX0_worthNext_0 : cX0_worthNext.data.toList.drop 0 = dktX0_worthNext_0 := by decide +kernel
theorem dksX0_worthNext_1 : cX0_worthNext.data.toList.drop 24 = dktX0_worthNext_1 := dk_seg dksX0_worthNext_0 24 rfl rfl
theorem dksX0_worthNext_2 : cX0_worthNext.data.toList.drop 46 = dktX0_worthNext_2 := dk_seg dksX0_worthNext_1 22 rfl rfl
theorem dksX0_worthNext_3 : cX0_worthNext.data.toList.drop 69 = dktX0_worthNext_3 := dk_seg dksX0_worthNext_2 23 rfl rfl
theorem dksX0_worthNext_4 : cX0_worthNext.data.toList.drop 93 = dktX0_worthNext_4 := dk_seg dksX0_worthNext_3 24 rfl rfl
theorem dX0_worthNext_0 : decode cX0_worthNext 0 = .ok (.iload_n 1, 1) := dk_27 (dk_at dksX0_worthNext_0 0 rfl rfl)
theorem dX0_worthNext_1 : decode cX0_worthNext 1 = .ok (.iconst (-1), 1) := dk_2 (dk_at dksX0_worthNext_0 1 rfl rfl)
theorem dX0_worthNext_2 : decode cX0_worthNext 2 = .ok (.if_icmp .eq 22, 3) := dk_159 0 22 (dk_at dksX0_worthNext_0 2 rfl rfl)
theorem dX0_worthNext_5 : decode cX0_worthNext 5 = .ok (.iload_n 1, 1) := dk_27 (dk_at dksX0_worthNext_0 5 rfl rfl)
theorem dX0_worthNext_6 : decode cX0_worthNext 6 = .ok (.i2l, 1) := dk_133 (dk_at dksX0_worthNext_0 6 rfl rfl)
theorem dX0_worthNext_7 : decode cX0_worthNext 7 = .ok (.lconst 0, 1) := dk_9 (dk_at dksX0_worthNext_0 7 rfl rfl)
theorem dX0_worthNext_8 : decode cX0_worthNext 8 = .ok (.aload_n 0, 1) := dk_42 (dk_at dksX0_worthNext_0 8 rfl rfl)
theorem dX0_worthNext_9 : decode cX0_worthNext 9 = .ok (.getfield 73, 3) := dk_180 0 73 (dk_at dksX0_worthNext_0 9 rfl rfl)
theorem dX0_worthNext_12 : decode cX0_worthNext 12 = .ok (.getfield 177, 3) := dk_180 0 177 (dk_at dksX0_worthNext_0 12 rfl rfl)
theorem dX0_worthNext_15 : decode cX0_worthNext 15 = .ok (.iconst 1, 1) := dk_4 (dk_at dksX0_worthNext_0 15 rfl rfl)
theorem dX0_worthNext_16 : decode cX0_worthNext 16 = .ok (.isub, 1) := dk_100 (dk_at dksX0_worthNext_0 16 rfl rfl)
theorem dX0_worthNext_17 : decode cX0_worthNext 17 = .ok (.i2l, 1) := dk_133 (dk_at dksX0_worthNext_0 17 rfl rfl)
theorem dX0_worthNext_18 : decode cX0_worthNext 18 = .ok (.invokestatic 13, 3) := dk_184 0 13 (dk_at dksX0_worthNext_0 18 rfl rfl)
theorem dX0_worthNext_21 : decode cX0_worthNext 21 = .ok (.ifCond .eq 7, 3) := dk_153 0 7 (dk_at dksX0_worthNext_0 21 rfl rfl)
theorem dX0_worthNext_24 : decode cX0_worthNext 24 = .ok (.iconst 1, 1) := dk_4 (dk_at dksX0_worthNext_1 0 rfl rfl)
theorem dX0_worthNext_25 : decode cX0_worthNext 25 = .ok (.goto 4, 3) := dk_167 0 4 (dk_at dksX0_worthNext_1 1 rfl rfl)
theorem dX0_worthNext_28 : decode cX0_worthNext 28 = .ok (.iconst 0, 1) := dk_3 (dk_at dksX0_worthNext_1 4 rfl rfl)
theorem dX0_worthNext_29 : decode cX0_worthNext 29 = .ok (.iconst (-1), 1) := dk_2 (dk_at dksX0_worthNext_1 5 rfl rfl)
theorem dX0_worthNext_30 : decode cX0_worthNext 30 = .ok (.invokestatic 9, 3) := dk_184 0 9 (dk_at dksX0_worthNext_1 6 rfl rfl)
theorem dX0_worthNext_33 : decode cX0_worthNext 33 = .ok (.aload_n 0, 1) := dk_42 (dk_at dksX0_worthNext_1 9 rfl rfl)
theorem dX0_worthNext_34 : decode cX0_worthNext 34 = .ok (.getfield 73, 3) := dk_180 0 73 (dk_at dksX0_worthNext_1 10 rfl rfl)
theorem dX0_worthNext_37 : decode cX0_worthNext 37 = .ok (.invokevirtual 344, 3) := dk_182 1 88 (dk_at dksX0_worthNext_1 13 rfl rfl)
theorem dX0_worthNext_40 : decode cX0_worthNext 40 = .ok (.istore_n 2, 1) := dk_61 (dk_at dksX0_worthNext_1 16 rfl rfl)
theorem dX0_worthNext_41 : decode cX0_worthNext 41 = .ok (.iload_n 1, 1) := dk_27 (dk_at dksX0_worthNext_1 17 rfl rfl)
theorem dX0_worthNext_42 : decode cX0_worthNext 42 = .ok (.ifCond .lt 13, 3) := dk_155 0 13 (dk_at dksX0_worthNext_1 18 rfl rfl)
theorem dX0_worthNext_45 : decode cX0_worthNext 45 = .ok (.aload_n 0, 1) := dk_42 (dk_at dksX0_worthNext_1 21 rfl rfl)
theorem dX0_worthNext_46 : decode cX0_worthNext 46 = .ok (.getfield 73, 3) := dk_180 0 73 (dk_at dksX0_worthNext_2 0 rfl rfl)
theorem dX0_worthNext_49 : decode cX0_worthNext 49 = .ok (.iload_n 1, 1) := dk_27 (dk_at dksX0_worthNext_2 3 rfl rfl)
theorem dX0_worthNext_50 : decode cX0_worthNext 50 = .ok (.iload_n 2, 1) := dk_28 (dk_at dksX0_worthNext_2 4 rfl rfl)
theorem dX0_worthNext_51 : decode cX0_worthNext 51 = .ok (.invokevirtual 174, 3) := dk_182 0 174 (dk_at dksX0_worthNext_2 5 rfl rfl)
theorem dX0_worthNext_54 : decode cX0_worthNext 54 = .ok (.ireturn, 1) := dk_172 (dk_at dksX0_worthNext_2 8 rfl rfl)
theorem dX0_worthNext_55 : decode cX0_worthNext 55 = .ok (.iconst 0, 1) := dk_3 (dk_at dksX0_worthNext_2 9 rfl rfl)
theorem dX0_worthNext_56 : decode cX0_worthNext 56 = .ok (.istore_n 3, 1) := dk_62 (dk_at dksX0_worthNext_2 10 rfl rfl)
theorem dX0_worthNext_57 : decode cX0_worthNext 57 = .ok (.iconst 0, 1) := dk_3 (dk_at dksX0_worthNext_2 11 rfl rfl)
theorem dX0_worthNext_58 : decode cX0_worthNext 58 = .ok (.istore 4, 2) := dk_54 4 (dk_at dksX0_worthNext_2 12 rfl rfl)
theorem dX0_worthNext_60 : decode cX0_worthNext 60 = .ok (.iload 4, 2) := dk_21 4 (dk_at dksX0_worthNext_2 14 rfl rfl)
theorem dX0_worthNext_62 : decode cX0_worthNext 62 = .ok (.aload_n 0, 1) := dk_42 (dk_at dksX0_worthNext_2 16 rfl rfl)
theorem dX0_worthNext_63 : decode cX0_worthNext 63 = .ok (.getfield 73, 3) := dk_180 0 73 (dk_at dksX0_worthNext_2 17 rfl rfl)
theorem dX0_worthNext_66 : decode cX0_worthNext 66 = .ok (.getfield 177, 3) := dk_180 0 177 (dk_at dksX0_worthNext_2 20 rfl rfl)
theorem dX0_worthNext_69 : decode cX0_worthNext 69 = .ok (.if_icmp .ge 36, 3) := dk_162 0 36 (dk_at dksX0_worthNext_3 0 rfl rfl)
theorem dX0_worthNext_72 : decode cX0_worthNext 72 = .ok (.iload_n 3, 1) := dk_29 (dk_at dksX0_worthNext_3 3 rfl rfl)
theorem dX0_worthNext_73 : decode cX0_worthNext 73 = .ok (.aload_n 0, 1) := dk_42 (dk_at dksX0_worthNext_3 4 rfl rfl)
theorem dX0_worthNext_74 : decode cX0_worthNext 74 = .ok (.getfield 73, 3) := dk_180 0 73 (dk_at dksX0_worthNext_3 5 rfl rfl)
theorem dX0_worthNext_77 : decode cX0_worthNext 77 = .ok (.getfield 180, 3) := dk_180 0 180 (dk_at dksX0_worthNext_3 8 rfl rfl)
theorem dX0_worthNext_80 : decode cX0_worthNext 80 = .ok (.iload 4, 2) := dk_21 4 (dk_at dksX0_worthNext_3 11 rfl rfl)
theorem dX0_worthNext_82 : decode cX0_worthNext 82 = .ok (.aaload, 1) := dk_50 (dk_at dksX0_worthNext_3 13 rfl rfl)
theorem dX0_worthNext_83 : decode cX0_worthNext 83 = .ok (.getfield 184, 3) := dk_180 0 184 (dk_at dksX0_worthNext_3 14 rfl rfl)
theorem dX0_worthNext_86 : decode cX0_worthNext 86 = .ok (.aload_n 0, 1) := dk_42 (dk_at dksX0_worthNext_3 17 rfl rfl)
theorem dX0_worthNext_87 : decode cX0_worthNext 87 = .ok (.getfield 73, 3) := dk_180 0 73 (dk_at dksX0_worthNext_3 18 rfl rfl)
theorem dX0_worthNext_90 : decode cX0_worthNext 90 = .ok (.iload 4, 2) := dk_21 4 (dk_at dksX0_worthNext_3 21 rfl rfl)
theorem dX0_worthNext_92 : decode cX0_worthNext 92 = .ok (.iload_n 2, 1) := dk_28 (dk_at dksX0_worthNext_3 23 rfl rfl)
theorem dX0_worthNext_93 : decode cX0_worthNext 93 = .ok (.invokevirtual 174, 3) := dk_182 0 174 (dk_at dksX0_worthNext_4 0 rfl rfl)
theorem dX0_worthNext_96 : decode cX0_worthNext 96 = .ok (.imul, 1) := dk_104 (dk_at dksX0_worthNext_4 3 rfl rfl)
theorem dX0_worthNext_97 : decode cX0_worthNext 97 = .ok (.iadd, 1) := dk_96 (dk_at dksX0_worthNext_4 4 rfl rfl)
theorem dX0_worthNext_98 : decode cX0_worthNext 98 = .ok (.istore_n 3, 1) := dk_62 (dk_at dksX0_worthNext_4 5 rfl rfl)
theorem dX0_worthNext_99 : decode cX0_worthNext 99 = .ok (.iinc 4 1, 3) := dk_132 4 1 (dk_at dksX0_worthNext_4 6 rfl rfl)
theorem dX0_worthNext_102 : decode cX0_worthNext 102 = .ok (.goto (-42), 3) := dk_167 255 214 (dk_at dksX0_worthNext_4 9 rfl rfl)
theorem dX0_worthNext_105 : decode cX0_worthNext 105 = .ok (.iload_n 3, 1) := dk_29 (dk_at dksX0_worthNext_4 12 rfl rfl)
theorem dX0_worthNext_106 : decode cX0_worthNext 106 = .ok (.ireturn, 1) := dk_172 (dk_at dksX0_worthNext_4 13 rfl rfl)
abbrev cX0_ofWeeks : ByteArray := prog_1_method_38_code
def yX0_ofWeeks : MethodName := ⟨RX0, "ofWeeks", "(III)I"⟩
def dkwX0_ofWeeks_3 : List UInt8 := [42, 42, 182, 0, 142, 28, 29, 182, 0, 245, 172, 42, 27, 28, 182, 1, 129, 172]
abbrev dktX0_ofWeeks_3 : List UInt8 := dkwX0_ofWeeks_3 ++ []
def dkwX0_ofWeeks_2 : List UInt8 := [28, 184, 1, 120, 42, 28, 182, 1, 123, 172, 42, 182, 1, 126, 172, 42, 28, 182, 1, 55, 29, 184, 1, 120]
abbrev dktX0_ofWeeks_2 : List UInt8 := dkwX0_ofWeeks_2 ++ dktX0_ofWeeks_3
def dkwX0_ofWeeks_1 : List UInt8 := [171, 0, 0, 0, 0, 0, 70, 0, 0, 0, 3, 0, 0, 0, 10, 0, 0, 0, 35, 0, 0, 0, 14, 0, 0, 0, 45, 0, 0, 0, 15, 0, 0, 0, 50]
abbrev dktX0_ofWeeks_1 : List UInt8 := dkwX0_ofWeeks_1 ++ dktX0_ofWeeks_2
def dkwX0_ofWeeks_0 : List UInt8 := [27]
abbrev dktX0_ofWeeks_0 : List UInt8 := dkwX0_ofWeeks_0 ++ dktX0_ofWeeks_1
theorem dksX0_ofWeeks_0 : cX0_ofWeeks.data.toList.drop 0 = dktX0_ofWeeks_0 := by decide +kernel
theorem dksX0_ofWeeks_1 : cX0_ofWeeks.data.toList.drop 1 = dktX0_ofWeeks_1 := dk_seg dksX0_ofWeeks_0 1 rfl rfl
theorem dksX0_ofWeeks_2 : cX0_ofWeeks.data.toList.drop 36 = dktX0_ofWeeks_2 := dk_seg dksX0_ofWeeks_1 35 rfl rfl
theorem dksX0_ofWeeks_3 : cX0_ofWeeks.data.toList.drop 60 = dktX0_ofWeeks_3 := dk_seg dksX0_ofWeeks_2 24 rfl rfl
theorem dX0_ofWeeks_0 : decode cX0_ofWeeks 0 = .ok (.iload_n 1, 1) := dk_27 (dk_at dksX0_ofWeeks_0 0 rfl rfl)
theorem dX0_ofWeeks_1 : decode cX0_ofWeeks 1 = .ok (.lookupswitch 70 #[(10, 35), (14, 45), (15, 50)], 35) := by decide +kernel
theorem dX0_ofWeeks_36 : decode cX0_ofWeeks 36 = .ok (.iload_n 2, 1) := dk_28 (dk_at dksX0_ofWeeks_2 0 rfl rfl)
theorem dX0_ofWeeks_37 : decode cX0_ofWeeks 37 = .ok (.invokestatic 376, 3) := dk_184 1 120 (dk_at dksX0_ofWeeks_2 1 rfl rfl)
theorem dX0_ofWeeks_40 : decode cX0_ofWeeks 40 = .ok (.aload_n 0, 1) := dk_42 (dk_at dksX0_ofWeeks_2 4 rfl rfl)
theorem dX0_ofWeeks_41 : decode cX0_ofWeeks 41 = .ok (.iload_n 2, 1) := dk_28 (dk_at dksX0_ofWeeks_2 5 rfl rfl)
theorem dX0_ofWeeks_42 : decode cX0_ofWeeks 42 = .ok (.invokevirtual 379, 3) := dk_182 1 123 (dk_at dksX0_ofWeeks_2 6 rfl rfl)
theorem dX0_ofWeeks_45 : decode cX0_ofWeeks 45 = .ok (.ireturn, 1) := dk_172 (dk_at dksX0_ofWeeks_2 9 rfl rfl)
theorem dX0_ofWeeks_46 : decode cX0_ofWeeks 46 = .ok (.aload_n 0, 1) := dk_42 (dk_at dksX0_ofWeeks_2 10 rfl rfl)
theorem dX0_ofWeeks_47 : decode cX0_ofWeeks 47 = .ok (.invokevirtual 382, 3) := dk_182 1 126 (dk_at dksX0_ofWeeks_2 11 rfl rfl)
theorem dX0_ofWeeks_50 : decode cX0_ofWeeks 50 = .ok (.ireturn, 1) := dk_172 (dk_at dksX0_ofWeeks_2 14 rfl rfl)
theorem dX0_ofWeeks_51 : decode cX0_ofWeeks 51 = .ok (.aload_n 0, 1) := dk_42 (dk_at dksX0_ofWeeks_2 15 rfl rfl)
theorem dX0_ofWeeks_52 : decode cX0_ofWeeks 52 = .ok (.iload_n 2, 1) := dk_28 (dk_at dksX0_ofWeeks_2 16 rfl rfl)
theorem dX0_ofWeeks_53 : decode cX0_ofWeeks 53 = .ok (.invokevirtual 311, 3) := dk_182 1 55 (dk_at dksX0_ofWeeks_2 17 rfl rfl)
theorem dX0_ofWeeks_56 : decode cX0_ofWeeks 56 = .ok (.iload_n 3, 1) := dk_29 (dk_at dksX0_ofWeeks_2 20 rfl rfl)
theorem dX0_ofWeeks_57 : decode cX0_ofWeeks 57 = .ok (.invokestatic 376, 3) := dk_184 1 120 (dk_at dksX0_ofWeeks_2 21 rfl rfl)
theorem dX0_ofWeeks_60 : decode cX0_ofWeeks 60 = .ok (.aload_n 0, 1) := dk_42 (dk_at dksX0_ofWeeks_3 0 rfl rfl)
theorem dX0_ofWeeks_61 : decode cX0_ofWeeks 61 = .ok (.aload_n 0, 1) := dk_42 (dk_at dksX0_ofWeeks_3 1 rfl rfl)
theorem dX0_ofWeeks_62 : decode cX0_ofWeeks 62 = .ok (.invokevirtual 142, 3) := dk_182 0 142 (dk_at dksX0_ofWeeks_3 2 rfl rfl)
theorem dX0_ofWeeks_65 : decode cX0_ofWeeks 65 = .ok (.iload_n 2, 1) := dk_28 (dk_at dksX0_ofWeeks_3 5 rfl rfl)
theorem dX0_ofWeeks_66 : decode cX0_ofWeeks 66 = .ok (.iload_n 3, 1) := dk_29 (dk_at dksX0_ofWeeks_3 6 rfl rfl)
theorem dX0_ofWeeks_67 : decode cX0_ofWeeks 67 = .ok (.invokevirtual 245, 3) := dk_182 0 245 (dk_at dksX0_ofWeeks_3 7 rfl rfl)
theorem dX0_ofWeeks_70 : decode cX0_ofWeeks 70 = .ok (.ireturn, 1) := dk_172 (dk_at dksX0_ofWeeks_3 10 rfl rfl)
theorem dX0_ofWeeks_71 : decode cX0_ofWeeks 71 = .ok (.aload_n 0, 1) := dk_42 (dk_at dksX0_ofWeeks_3 11 rfl rfl)
theorem dX0_ofWeeks_72 : decode cX0_ofWeeks 72 = .ok (.iload_n 1, 1) := dk_27 (dk_at dksX0_ofWeeks_3 12 rfl rfl)
theorem dX0_ofWeeks_73 : decode cX0_ofWeeks 73 = .ok (.iload_n 2, 1) := dk_28 (dk_at dksX0_ofWeeks_3 13 rfl rfl)
theorem dX0_ofWeeks_74 : decode cX0_ofWeeks 74 = .ok (.invokevirtual 385, 3) := dk_182 1 129 (dk_at dksX0_ofWeeks_3 14 rfl rfl)
theorem dX0_ofWeeks_77 : decode cX0_ofWeeks 77 = .ok (.ireturn, 1) := dk_172 (dk_at dksX0_ofWeeks_3 17 rfl rfl)
abbrev cX0_mustBeWeeks : ByteArray := prog_1_method_30_code
def yX0_mustBeWeeks : MethodName := ⟨RX0, "mustBeWeeks", "(I)V"⟩
def dkwX0_mustBeWeeks_0 : List UInt8 := [26, 133, 10, 20, 1, 47, 184, 1, 49, 177]
abbrev dktX0_mustBeWeeks_0 : List UInt8 := dkwX0_mustBeWeeks_0 ++ []
theorem dksX0_mustBeWeeks_0 : cX0_mustBeWeeks.data.toList.drop 0 = dktX0_mustBeWeeks_0 := by decide +kernel
theorem dX0_mustBeWeeks_0 : decode cX0_mustBeWeeks 0 = .ok (.iload_n 0, 1) := dk_26 (dk_at dksX0_mustBeWeeks_0 0 rfl rfl)
theorem dX0_mustBeWeeks_1 : decode cX0_mustBeWeeks 1 = .ok (.i2l, 1) := dk_133 (dk_at dksX0_mustBeWeeks_0 1 rfl rfl)
theorem dX0_mustBeWeeks_2 : decode cX0_mustBeWeeks 2 = .ok (.lconst 1, 1) := dk_10 (dk_at dksX0_mustBeWeeks_0 2 rfl rfl)
theorem dX0_mustBeWeeks_3 : decode cX0_mustBeWeeks 3 = .ok (.ldc2_w 303, 3) := dk_20 1 47 (dk_at dksX0_mustBeWeeks_0 3 rfl rfl)
theorem dX0_mustBeWeeks_6 : decode cX0_mustBeWeeks 6 = .ok (.invokestatic 305, 3) := dk_184 1 49 (dk_at dksX0_mustBeWeeks_0 6 rfl rfl)
theorem dX0_mustBeWeeks_9 : decode cX0_mustBeWeeks 9 = .ok (.return_, 1) := dk_177 (dk_at dksX0_mustBeWeeks_0 9 rfl rfl)
abbrev cX0_afterWeeks : ByteArray := prog_1_method_8_code
def yX0_afterWeeks : MethodName := ⟨RX0, "afterWeeks", "(I)I"⟩
def dkwX0_afterWeeks_1 : List UInt8 := [167, 255, 242, 29, 172]
abbrev dktX0_afterWeeks_1 : List UInt8 := dkwX0_afterWeeks_1 ++ []
def dkwX0_afterWeeks_0 : List UInt8 := [42, 182, 0, 142, 77, 3, 62, 3, 54, 4, 21, 4, 27, 162, 0, 14, 44, 182, 0, 146, 62, 132, 4, 1]
abbrev dktX0_afterWeeks_0 : List UInt8 := dkwX0_afterWeeks_0 ++ dktX0_afterWeeks_1
theorem dksX0_afterWeeks_0 : cX0_afterWeeks.data.toList.drop 0 = dktX0_afterWeeks_0 := by decide +kernel
theorem dksX0_afterWeeks_1 : cX0_afterWeeks.data.toList.drop 24 = dktX0_afterWeeks_1 := dk_seg dksX0_afterWeeks_0 24 rfl rfl
theorem dX0_afterWeeks_0 : decode cX0_afterWeeks 0 = .ok (.aload_n 0, 1) := dk_42 (dk_at dksX0_afterWeeks_0 0 rfl rfl)
theorem dX0_afterWeeks_1 : decode cX0_afterWeeks 1 = .ok (.invokevirtual 142, 3) := dk_182 0 142 (dk_at dksX0_afterWeeks_0 1 rfl rfl)
theorem dX0_afterWeeks_4 : decode cX0_afterWeeks 4 = .ok (.astore_n 2, 1) := dk_77 (dk_at dksX0_afterWeeks_0 4 rfl rfl)
theorem dX0_afterWeeks_5 : decode cX0_afterWeeks 5 = .ok (.iconst 0, 1) := dk_3 (dk_at dksX0_afterWeeks_0 5 rfl rfl)
theorem dX0_afterWeeks_6 : decode cX0_afterWeeks 6 = .ok (.istore_n 3, 1) := dk_62 (dk_at dksX0_afterWeeks_0 6 rfl rfl)
theorem dX0_afterWeeks_7 : decode cX0_afterWeeks 7 = .ok (.iconst 0, 1) := dk_3 (dk_at dksX0_afterWeeks_0 7 rfl rfl)
theorem dX0_afterWeeks_8 : decode cX0_afterWeeks 8 = .ok (.istore 4, 2) := dk_54 4 (dk_at dksX0_afterWeeks_0 8 rfl rfl)
theorem dX0_afterWeeks_10 : decode cX0_afterWeeks 10 = .ok (.iload 4, 2) := dk_21 4 (dk_at dksX0_afterWeeks_0 10 rfl rfl)
theorem dX0_afterWeeks_12 : decode cX0_afterWeeks 12 = .ok (.iload_n 1, 1) := dk_27 (dk_at dksX0_afterWeeks_0 12 rfl rfl)
theorem dX0_afterWeeks_13 : decode cX0_afterWeeks 13 = .ok (.if_icmp .ge 14, 3) := dk_162 0 14 (dk_at dksX0_afterWeeks_0 13 rfl rfl)
theorem dX0_afterWeeks_16 : decode cX0_afterWeeks 16 = .ok (.aload_n 2, 1) := dk_44 (dk_at dksX0_afterWeeks_0 16 rfl rfl)
theorem dX0_afterWeeks_17 : decode cX0_afterWeeks 17 = .ok (.invokevirtual 146, 3) := dk_182 0 146 (dk_at dksX0_afterWeeks_0 17 rfl rfl)
theorem dX0_afterWeeks_20 : decode cX0_afterWeeks 20 = .ok (.istore_n 3, 1) := dk_62 (dk_at dksX0_afterWeeks_0 20 rfl rfl)
theorem dX0_afterWeeks_21 : decode cX0_afterWeeks 21 = .ok (.iinc 4 1, 3) := dk_132 4 1 (dk_at dksX0_afterWeeks_0 21 rfl rfl)
theorem dX0_afterWeeks_24 : decode cX0_afterWeeks 24 = .ok (.goto (-14), 3) := dk_167 255 242 (dk_at dksX0_afterWeeks_1 0 rfl rfl)
theorem dX0_afterWeeks_27 : decode cX0_afterWeeks 27 = .ok (.iload_n 3, 1) := dk_29 (dk_at dksX0_afterWeeks_1 3 rfl rfl)
theorem dX0_afterWeeks_28 : decode cX0_afterWeeks 28 = .ok (.ireturn, 1) := dk_172 (dk_at dksX0_afterWeeks_1 4 rfl rfl)
abbrev cX0_openMind : ByteArray := prog_1_method_7_code
def yX0_openMind : MethodName := ⟨RX0, "openMind", "()LGoodHalfEmpty$Town;"⟩
def dkwX0_openMind_0 : List UInt8 := [42, 180, 0, 77, 42, 180, 0, 73, 182, 0, 128, 42, 180, 0, 77, 176]
abbrev dktX0_openMind_0 : List UInt8 := dkwX0_openMind_0 ++ []
theorem dksX0_openMind_0 : cX0_openMind.data.toList.drop 0 = dktX0_openMind_0 := by decide +kernel
theorem dX0_openMind_0 : decode cX0_openMind 0 = .ok (.aload_n 0, 1) := dk_42 (dk_at dksX0_openMind_0 0 rfl rfl)
theorem dX0_openMind_1 : decode cX0_openMind 1 = .ok (.getfield 77, 3) := dk_180 0 77 (dk_at dksX0_openMind_0 1 rfl rfl)
theorem dX0_openMind_4 : decode cX0_openMind 4 = .ok (.aload_n 0, 1) := dk_42 (dk_at dksX0_openMind_0 4 rfl rfl)
theorem dX0_openMind_5 : decode cX0_openMind 5 = .ok (.getfield 73, 3) := dk_180 0 73 (dk_at dksX0_openMind_0 5 rfl rfl)
theorem dX0_openMind_8 : decode cX0_openMind 8 = .ok (.invokevirtual 128, 3) := dk_182 0 128 (dk_at dksX0_openMind_0 8 rfl rfl)
theorem dX0_openMind_11 : decode cX0_openMind 11 = .ok (.aload_n 0, 1) := dk_42 (dk_at dksX0_openMind_0 11 rfl rfl)
theorem dX0_openMind_12 : decode cX0_openMind 12 = .ok (.getfield 77, 3) := dk_180 0 77 (dk_at dksX0_openMind_0 12 rfl rfl)
theorem dX0_openMind_15 : decode cX0_openMind 15 = .ok (.areturn, 1) := dk_176 (dk_at dksX0_openMind_0 15 rfl rfl)
abbrev cX0_againBehind : ByteArray := prog_1_method_10_code
def yX0_againBehind : MethodName := ⟨RX0, "againBehind", "()I"⟩
def dkwX0_againBehind_3 : List UInt8 := [167, 255, 230, 29, 16, 40, 160, 0, 5, 28, 172, 132, 2, 1, 167, 255, 208, 16, 247, 172]
abbrev dktX0_againBehind_3 : List UInt8 := dkwX0_againBehind_3 ++ []
def dkwX0_againBehind_2 : List UInt8 := [162, 0, 26, 42, 180, 0, 95, 29, 46, 42, 180, 0, 95, 29, 28, 96, 46, 160, 0, 9, 132, 3, 1]
abbrev dktX0_againBehind_2 : List UInt8 := dkwX0_againBehind_2 ++ dktX0_againBehind_3
def dkwX0_againBehind_1 : List UInt8 := [182, 0, 146, 79, 132, 2, 1, 167, 255, 234, 4, 61, 28, 16, 40, 163, 0, 48, 3, 62, 29, 16, 40]
abbrev dktX0_againBehind_1 : List UInt8 := dkwX0_againBehind_1 ++ dktX0_againBehind_2
def dkwX0_againBehind_0 : List UInt8 := [42, 182, 0, 142, 76, 3, 61, 28, 42, 180, 0, 95, 190, 162, 0, 19, 42, 180, 0, 95, 28, 43]
abbrev dktX0_againBehind_0 : List UInt8 := dkwX0_againBehind_0 ++ dktX0_againBehind_1
theorem dksX0_againBehind_0 : cX0_againBehind.data.toList.drop 0 = dktX0_againBehind_0 := by decide +kernel
theorem dksX0_againBehind_1 : cX0_againBehind.data.toList.drop 22 = dktX0_againBehind_1 := dk_seg dksX0_againBehind_0 22 rfl rfl
theorem dksX0_againBehind_2 : cX0_againBehind.data.toList.drop 45 = dktX0_againBehind_2 := dk_seg dksX0_againBehind_1 23 rfl rfl
theorem dksX0_againBehind_3 : cX0_againBehind.data.toList.drop 68 = dktX0_againBehind_3 := dk_seg dksX0_againBehind_2 23 rfl rfl
theorem dX0_againBehind_0 : decode cX0_againBehind 0 = .ok (.aload_n 0, 1) := dk_42 (dk_at dksX0_againBehind_0 0 rfl rfl)
theorem dX0_againBehind_1 : decode cX0_againBehind 1 = .ok (.invokevirtual 142, 3) := dk_182 0 142 (dk_at dksX0_againBehind_0 1 rfl rfl)
theorem dX0_againBehind_4 : decode cX0_againBehind 4 = .ok (.astore_n 1, 1) := dk_76 (dk_at dksX0_againBehind_0 4 rfl rfl)
theorem dX0_againBehind_5 : decode cX0_againBehind 5 = .ok (.iconst 0, 1) := dk_3 (dk_at dksX0_againBehind_0 5 rfl rfl)
theorem dX0_againBehind_6 : decode cX0_againBehind 6 = .ok (.istore_n 2, 1) := dk_61 (dk_at dksX0_againBehind_0 6 rfl rfl)
theorem dX0_againBehind_7 : decode cX0_againBehind 7 = .ok (.iload_n 2, 1) := dk_28 (dk_at dksX0_againBehind_0 7 rfl rfl)
theorem dX0_againBehind_8 : decode cX0_againBehind 8 = .ok (.aload_n 0, 1) := dk_42 (dk_at dksX0_againBehind_0 8 rfl rfl)
theorem dX0_againBehind_9 : decode cX0_againBehind 9 = .ok (.getfield 95, 3) := dk_180 0 95 (dk_at dksX0_againBehind_0 9 rfl rfl)
theorem dX0_againBehind_12 : decode cX0_againBehind 12 = .ok (.arraylength, 1) := dk_190 (dk_at dksX0_againBehind_0 12 rfl rfl)
theorem dX0_againBehind_13 : decode cX0_againBehind 13 = .ok (.if_icmp .ge 19, 3) := dk_162 0 19 (dk_at dksX0_againBehind_0 13 rfl rfl)
theorem dX0_againBehind_16 : decode cX0_againBehind 16 = .ok (.aload_n 0, 1) := dk_42 (dk_at dksX0_againBehind_0 16 rfl rfl)
theorem dX0_againBehind_17 : decode cX0_againBehind 17 = .ok (.getfield 95, 3) := dk_180 0 95 (dk_at dksX0_againBehind_0 17 rfl rfl)
theorem dX0_againBehind_20 : decode cX0_againBehind 20 = .ok (.iload_n 2, 1) := dk_28 (dk_at dksX0_againBehind_0 20 rfl rfl)
theorem dX0_againBehind_21 : decode cX0_againBehind 21 = .ok (.aload_n 1, 1) := dk_43 (dk_at dksX0_againBehind_0 21 rfl rfl)
theorem dX0_againBehind_22 : decode cX0_againBehind 22 = .ok (.invokevirtual 146, 3) := dk_182 0 146 (dk_at dksX0_againBehind_1 0 rfl rfl)
theorem dX0_againBehind_25 : decode cX0_againBehind 25 = .ok (.iastore, 1) := dk_79 (dk_at dksX0_againBehind_1 3 rfl rfl)
theorem dX0_againBehind_26 : decode cX0_againBehind 26 = .ok (.iinc 2 1, 3) := dk_132 2 1 (dk_at dksX0_againBehind_1 4 rfl rfl)
theorem dX0_againBehind_29 : decode cX0_againBehind 29 = .ok (.goto (-22), 3) := dk_167 255 234 (dk_at dksX0_againBehind_1 7 rfl rfl)
theorem dX0_againBehind_32 : decode cX0_againBehind 32 = .ok (.iconst 1, 1) := dk_4 (dk_at dksX0_againBehind_1 10 rfl rfl)
theorem dX0_againBehind_33 : decode cX0_againBehind 33 = .ok (.istore_n 2, 1) := dk_61 (dk_at dksX0_againBehind_1 11 rfl rfl)
theorem dX0_againBehind_34 : decode cX0_againBehind 34 = .ok (.iload_n 2, 1) := dk_28 (dk_at dksX0_againBehind_1 12 rfl rfl)
theorem dX0_againBehind_35 : decode cX0_againBehind 35 = .ok (.bipush 40, 2) := dk_16 40 (dk_at dksX0_againBehind_1 13 rfl rfl)
theorem dX0_againBehind_37 : decode cX0_againBehind 37 = .ok (.if_icmp .gt 48, 3) := dk_163 0 48 (dk_at dksX0_againBehind_1 15 rfl rfl)
theorem dX0_againBehind_40 : decode cX0_againBehind 40 = .ok (.iconst 0, 1) := dk_3 (dk_at dksX0_againBehind_1 18 rfl rfl)
theorem dX0_againBehind_41 : decode cX0_againBehind 41 = .ok (.istore_n 3, 1) := dk_62 (dk_at dksX0_againBehind_1 19 rfl rfl)
theorem dX0_againBehind_42 : decode cX0_againBehind 42 = .ok (.iload_n 3, 1) := dk_29 (dk_at dksX0_againBehind_1 20 rfl rfl)
theorem dX0_againBehind_43 : decode cX0_againBehind 43 = .ok (.bipush 40, 2) := dk_16 40 (dk_at dksX0_againBehind_1 21 rfl rfl)
theorem dX0_againBehind_45 : decode cX0_againBehind 45 = .ok (.if_icmp .ge 26, 3) := dk_162 0 26 (dk_at dksX0_againBehind_2 0 rfl rfl)
theorem dX0_againBehind_48 : decode cX0_againBehind 48 = .ok (.aload_n 0, 1) := dk_42 (dk_at dksX0_againBehind_2 3 rfl rfl)
theorem dX0_againBehind_49 : decode cX0_againBehind 49 = .ok (.getfield 95, 3) := dk_180 0 95 (dk_at dksX0_againBehind_2 4 rfl rfl)
theorem dX0_againBehind_52 : decode cX0_againBehind 52 = .ok (.iload_n 3, 1) := dk_29 (dk_at dksX0_againBehind_2 7 rfl rfl)
theorem dX0_againBehind_53 : decode cX0_againBehind 53 = .ok (.iaload, 1) := dk_46 (dk_at dksX0_againBehind_2 8 rfl rfl)
theorem dX0_againBehind_54 : decode cX0_againBehind 54 = .ok (.aload_n 0, 1) := dk_42 (dk_at dksX0_againBehind_2 9 rfl rfl)
theorem dX0_againBehind_55 : decode cX0_againBehind 55 = .ok (.getfield 95, 3) := dk_180 0 95 (dk_at dksX0_againBehind_2 10 rfl rfl)
theorem dX0_againBehind_58 : decode cX0_againBehind 58 = .ok (.iload_n 3, 1) := dk_29 (dk_at dksX0_againBehind_2 13 rfl rfl)
theorem dX0_againBehind_59 : decode cX0_againBehind 59 = .ok (.iload_n 2, 1) := dk_28 (dk_at dksX0_againBehind_2 14 rfl rfl)
theorem dX0_againBehind_60 : decode cX0_againBehind 60 = .ok (.iadd, 1) := dk_96 (dk_at dksX0_againBehind_2 15 rfl rfl)
theorem dX0_againBehind_61 : decode cX0_againBehind 61 = .ok (.iaload, 1) := dk_46 (dk_at dksX0_againBehind_2 16 rfl rfl)
theorem dX0_againBehind_62 : decode cX0_againBehind 62 = .ok (.if_icmp .ne 9, 3) := dk_160 0 9 (dk_at dksX0_againBehind_2 17 rfl rfl)
theorem dX0_againBehind_65 : decode cX0_againBehind 65 = .ok (.iinc 3 1, 3) := dk_132 3 1 (dk_at dksX0_againBehind_2 20 rfl rfl)
theorem dX0_againBehind_68 : decode cX0_againBehind 68 = .ok (.goto (-26), 3) := dk_167 255 230 (dk_at dksX0_againBehind_3 0 rfl rfl)
theorem dX0_againBehind_71 : decode cX0_againBehind 71 = .ok (.iload_n 3, 1) := dk_29 (dk_at dksX0_againBehind_3 3 rfl rfl)
theorem dX0_againBehind_72 : decode cX0_againBehind 72 = .ok (.bipush 40, 2) := dk_16 40 (dk_at dksX0_againBehind_3 4 rfl rfl)
theorem dX0_againBehind_74 : decode cX0_againBehind 74 = .ok (.if_icmp .ne 5, 3) := dk_160 0 5 (dk_at dksX0_againBehind_3 6 rfl rfl)
theorem dX0_againBehind_77 : decode cX0_againBehind 77 = .ok (.iload_n 2, 1) := dk_28 (dk_at dksX0_againBehind_3 9 rfl rfl)
theorem dX0_againBehind_78 : decode cX0_againBehind 78 = .ok (.ireturn, 1) := dk_172 (dk_at dksX0_againBehind_3 10 rfl rfl)
theorem dX0_againBehind_79 : decode cX0_againBehind 79 = .ok (.iinc 2 1, 3) := dk_132 2 1 (dk_at dksX0_againBehind_3 11 rfl rfl)
theorem dX0_againBehind_82 : decode cX0_againBehind 82 = .ok (.goto (-48), 3) := dk_167 255 208 (dk_at dksX0_againBehind_3 14 rfl rfl)
theorem dX0_againBehind_85 : decode cX0_againBehind 85 = .ok (.bipush (-9), 2) := dk_16 247 (dk_at dksX0_againBehind_3 17 rfl rfl)
theorem dX0_againBehind_87 : decode cX0_againBehind 87 = .ok (.ireturn, 1) := dk_172 (dk_at dksX0_againBehind_3 19 rfl rfl)
abbrev cX0_gainsOf : ByteArray := prog_1_method_11_code
def yX0_gainsOf : MethodName := ⟨RX0, "gainsOf", "(LGoodHalfEmpty$Town;II)I"⟩
def dkwX0_gainsOf_1 : List UInt8 := [182, 0, 174, 96, 54, 4, 132, 5, 1, 167, 255, 229, 21, 4, 172]
abbrev dktX0_gainsOf_1 : List UInt8 := dkwX0_gainsOf_1 ++ []
def dkwX0_gainsOf_0 : List UInt8 := [3, 54, 4, 3, 54, 5, 21, 5, 29, 162, 0, 27, 43, 182, 0, 146, 54, 6, 21, 4, 43, 28, 21, 6]
abbrev dktX0_gainsOf_0 : List UInt8 := dkwX0_gainsOf_0 ++ dktX0_gainsOf_1
theorem dksX0_gainsOf_0 : cX0_gainsOf.data.toList.drop 0 = dktX0_gainsOf_0 := by decide +kernel
theorem dksX0_gainsOf_1 : cX0_gainsOf.data.toList.drop 24 = dktX0_gainsOf_1 := dk_seg dksX0_gainsOf_0 24 rfl rfl
theorem dX0_gainsOf_0 : decode cX0_gainsOf 0 = .ok (.iconst 0, 1) := dk_3 (dk_at dksX0_gainsOf_0 0 rfl rfl)
theorem dX0_gainsOf_1 : decode cX0_gainsOf 1 = .ok (.istore 4, 2) := dk_54 4 (dk_at dksX0_gainsOf_0 1 rfl rfl)
theorem dX0_gainsOf_3 : decode cX0_gainsOf 3 = .ok (.iconst 0, 1) := dk_3 (dk_at dksX0_gainsOf_0 3 rfl rfl)
theorem dX0_gainsOf_4 : decode cX0_gainsOf 4 = .ok (.istore 5, 2) := dk_54 5 (dk_at dksX0_gainsOf_0 4 rfl rfl)
theorem dX0_gainsOf_6 : decode cX0_gainsOf 6 = .ok (.iload 5, 2) := dk_21 5 (dk_at dksX0_gainsOf_0 6 rfl rfl)
theorem dX0_gainsOf_8 : decode cX0_gainsOf 8 = .ok (.iload_n 3, 1) := dk_29 (dk_at dksX0_gainsOf_0 8 rfl rfl)
theorem dX0_gainsOf_9 : decode cX0_gainsOf 9 = .ok (.if_icmp .ge 27, 3) := dk_162 0 27 (dk_at dksX0_gainsOf_0 9 rfl rfl)
theorem dX0_gainsOf_12 : decode cX0_gainsOf 12 = .ok (.aload_n 1, 1) := dk_43 (dk_at dksX0_gainsOf_0 12 rfl rfl)
theorem dX0_gainsOf_13 : decode cX0_gainsOf 13 = .ok (.invokevirtual 146, 3) := dk_182 0 146 (dk_at dksX0_gainsOf_0 13 rfl rfl)
theorem dX0_gainsOf_16 : decode cX0_gainsOf 16 = .ok (.istore 6, 2) := dk_54 6 (dk_at dksX0_gainsOf_0 16 rfl rfl)
theorem dX0_gainsOf_18 : decode cX0_gainsOf 18 = .ok (.iload 4, 2) := dk_21 4 (dk_at dksX0_gainsOf_0 18 rfl rfl)
theorem dX0_gainsOf_20 : decode cX0_gainsOf 20 = .ok (.aload_n 1, 1) := dk_43 (dk_at dksX0_gainsOf_0 20 rfl rfl)
theorem dX0_gainsOf_21 : decode cX0_gainsOf 21 = .ok (.iload_n 2, 1) := dk_28 (dk_at dksX0_gainsOf_0 21 rfl rfl)
theorem dX0_gainsOf_22 : decode cX0_gainsOf 22 = .ok (.iload 6, 2) := dk_21 6 (dk_at dksX0_gainsOf_0 22 rfl rfl)
theorem dX0_gainsOf_24 : decode cX0_gainsOf 24 = .ok (.invokevirtual 174, 3) := dk_182 0 174 (dk_at dksX0_gainsOf_1 0 rfl rfl)
theorem dX0_gainsOf_27 : decode cX0_gainsOf 27 = .ok (.iadd, 1) := dk_96 (dk_at dksX0_gainsOf_1 3 rfl rfl)
theorem dX0_gainsOf_28 : decode cX0_gainsOf 28 = .ok (.istore 4, 2) := dk_54 4 (dk_at dksX0_gainsOf_1 4 rfl rfl)
theorem dX0_gainsOf_30 : decode cX0_gainsOf 30 = .ok (.iinc 5 1, 3) := dk_132 5 1 (dk_at dksX0_gainsOf_1 6 rfl rfl)
theorem dX0_gainsOf_33 : decode cX0_gainsOf 33 = .ok (.goto (-27), 3) := dk_167 255 229 (dk_at dksX0_gainsOf_1 9 rfl rfl)
theorem dX0_gainsOf_36 : decode cX0_gainsOf 36 = .ok (.iload 4, 2) := dk_21 4 (dk_at dksX0_gainsOf_1 12 rfl rfl)
theorem dX0_gainsOf_38 : decode cX0_gainsOf 38 = .ok (.ireturn, 1) := dk_172 (dk_at dksX0_gainsOf_1 14 rfl rfl)
abbrev cX0_lookTold : ByteArray := prog_1_method_37_code
def yX0_lookTold : MethodName := ⟨RX0, "lookTold", "(II)I"⟩
def dkwX0_lookTold_2 : List UInt8 := [167, 0, 7, 42, 180, 0, 153, 172]
abbrev dktX0_lookTold_2 : List UInt8 := dkwX0_lookTold_2 ++ []
def dkwX0_lookTold_1 : List UInt8 := [180, 0, 150, 104, 28, 108, 167, 0, 25, 27, 16, 12, 160, 0, 15, 42, 180, 0, 156, 42, 180, 0, 165, 100]
abbrev dktX0_lookTold_1 : List UInt8 := dkwX0_lookTold_1 ++ dktX0_lookTold_2
def dkwX0_lookTold_0 : List UInt8 := [28, 184, 1, 120, 42, 42, 182, 0, 142, 28, 182, 1, 2, 27, 16, 11, 160, 0, 15, 16, 100, 42]
abbrev dktX0_lookTold_0 : List UInt8 := dkwX0_lookTold_0 ++ dktX0_lookTold_1
theorem dksX0_lookTold_0 : cX0_lookTold.data.toList.drop 0 = dktX0_lookTold_0 := by decide +kernel
theorem dksX0_lookTold_1 : cX0_lookTold.data.toList.drop 22 = dktX0_lookTold_1 := dk_seg dksX0_lookTold_0 22 rfl rfl
theorem dksX0_lookTold_2 : cX0_lookTold.data.toList.drop 46 = dktX0_lookTold_2 := dk_seg dksX0_lookTold_1 24 rfl rfl
theorem dX0_lookTold_0 : decode cX0_lookTold 0 = .ok (.iload_n 2, 1) := dk_28 (dk_at dksX0_lookTold_0 0 rfl rfl)
theorem dX0_lookTold_1 : decode cX0_lookTold 1 = .ok (.invokestatic 376, 3) := dk_184 1 120 (dk_at dksX0_lookTold_0 1 rfl rfl)
theorem dX0_lookTold_4 : decode cX0_lookTold 4 = .ok (.aload_n 0, 1) := dk_42 (dk_at dksX0_lookTold_0 4 rfl rfl)
theorem dX0_lookTold_5 : decode cX0_lookTold 5 = .ok (.aload_n 0, 1) := dk_42 (dk_at dksX0_lookTold_0 5 rfl rfl)
theorem dX0_lookTold_6 : decode cX0_lookTold 6 = .ok (.invokevirtual 142, 3) := dk_182 0 142 (dk_at dksX0_lookTold_0 6 rfl rfl)
theorem dX0_lookTold_9 : decode cX0_lookTold 9 = .ok (.iload_n 2, 1) := dk_28 (dk_at dksX0_lookTold_0 9 rfl rfl)
theorem dX0_lookTold_10 : decode cX0_lookTold 10 = .ok (.invokevirtual 258, 3) := dk_182 1 2 (dk_at dksX0_lookTold_0 10 rfl rfl)
theorem dX0_lookTold_13 : decode cX0_lookTold 13 = .ok (.iload_n 1, 1) := dk_27 (dk_at dksX0_lookTold_0 13 rfl rfl)
theorem dX0_lookTold_14 : decode cX0_lookTold 14 = .ok (.bipush 11, 2) := dk_16 11 (dk_at dksX0_lookTold_0 14 rfl rfl)
theorem dX0_lookTold_16 : decode cX0_lookTold 16 = .ok (.if_icmp .ne 15, 3) := dk_160 0 15 (dk_at dksX0_lookTold_0 16 rfl rfl)
theorem dX0_lookTold_19 : decode cX0_lookTold 19 = .ok (.bipush 100, 2) := dk_16 100 (dk_at dksX0_lookTold_0 19 rfl rfl)
theorem dX0_lookTold_21 : decode cX0_lookTold 21 = .ok (.aload_n 0, 1) := dk_42 (dk_at dksX0_lookTold_0 21 rfl rfl)
theorem dX0_lookTold_22 : decode cX0_lookTold 22 = .ok (.getfield 150, 3) := dk_180 0 150 (dk_at dksX0_lookTold_1 0 rfl rfl)
theorem dX0_lookTold_25 : decode cX0_lookTold 25 = .ok (.imul, 1) := dk_104 (dk_at dksX0_lookTold_1 3 rfl rfl)
theorem dX0_lookTold_26 : decode cX0_lookTold 26 = .ok (.iload_n 2, 1) := dk_28 (dk_at dksX0_lookTold_1 4 rfl rfl)
theorem dX0_lookTold_27 : decode cX0_lookTold 27 = .ok (.idiv, 1) := dk_108 (dk_at dksX0_lookTold_1 5 rfl rfl)
theorem dX0_lookTold_28 : decode cX0_lookTold 28 = .ok (.goto 25, 3) := dk_167 0 25 (dk_at dksX0_lookTold_1 6 rfl rfl)
theorem dX0_lookTold_31 : decode cX0_lookTold 31 = .ok (.iload_n 1, 1) := dk_27 (dk_at dksX0_lookTold_1 9 rfl rfl)
theorem dX0_lookTold_32 : decode cX0_lookTold 32 = .ok (.bipush 12, 2) := dk_16 12 (dk_at dksX0_lookTold_1 10 rfl rfl)
theorem dX0_lookTold_34 : decode cX0_lookTold 34 = .ok (.if_icmp .ne 15, 3) := dk_160 0 15 (dk_at dksX0_lookTold_1 12 rfl rfl)
theorem dX0_lookTold_37 : decode cX0_lookTold 37 = .ok (.aload_n 0, 1) := dk_42 (dk_at dksX0_lookTold_1 15 rfl rfl)
theorem dX0_lookTold_38 : decode cX0_lookTold 38 = .ok (.getfield 156, 3) := dk_180 0 156 (dk_at dksX0_lookTold_1 16 rfl rfl)
theorem dX0_lookTold_41 : decode cX0_lookTold 41 = .ok (.aload_n 0, 1) := dk_42 (dk_at dksX0_lookTold_1 19 rfl rfl)
theorem dX0_lookTold_42 : decode cX0_lookTold 42 = .ok (.getfield 165, 3) := dk_180 0 165 (dk_at dksX0_lookTold_1 20 rfl rfl)
theorem dX0_lookTold_45 : decode cX0_lookTold 45 = .ok (.isub, 1) := dk_100 (dk_at dksX0_lookTold_1 23 rfl rfl)
theorem dX0_lookTold_46 : decode cX0_lookTold 46 = .ok (.goto 7, 3) := dk_167 0 7 (dk_at dksX0_lookTold_2 0 rfl rfl)
theorem dX0_lookTold_49 : decode cX0_lookTold 49 = .ok (.aload_n 0, 1) := dk_42 (dk_at dksX0_lookTold_2 3 rfl rfl)
theorem dX0_lookTold_50 : decode cX0_lookTold 50 = .ok (.getfield 153, 3) := dk_180 0 153 (dk_at dksX0_lookTold_2 4 rfl rfl)
theorem dX0_lookTold_53 : decode cX0_lookTold 53 = .ok (.ireturn, 1) := dk_172 (dk_at dksX0_lookTold_2 7 rfl rfl)
