/-! GoodHalfEmptyModel -/
set_option maxRecDepth 100000
def RX16 : String := "GoodHalfEmptyModel"
def TX16 : u_T := fun k => match k with
  | 0 => ("GoodHalfEmptyModel", "refused", "[I", true)
  | 1 => ("GoodHalfEmptyModel", "now", "[I", true)
  | 2 => ("GoodHalfEmptyModel", "then", "[I", true)
  | 3 => ("GoodHalfEmptyModel", "mind", "[I", true)
  | 4 => ("GoodHalfEmptyModel", "kept", "Z", false)
  | 5 => ("GoodHalfEmptyModel", "tape", "[I", true)
  | 6 => ("GoodHalfEmptyModel", "taped", "I", false)
  | 7 => ("GoodHalfEmptyModel", "at", "I", false)
  | 8 => ("GoodHalfEmptyModel", "well", "Z", false)
  | 9 => ("GoodHalfEmptyModel", "begins", "[C", true)
  | 10 => ("GoodHalfEmptyModel", "goers", "[C", true)
  | 11 => ("GoodHalfEmptyModel", "rulers", "[C", true)
  | 12 => ("GoodHalfEmptyModel", "sort", "I", false)
  | 13 => ("GoodHalfEmptyModel", "field", "[I", true)
  | 14 => ("GoodHalfEmptyModel", "go", "[Z", true)
  | 15 => ("GoodHalfEmptyModel", "ahead", "[I", true)
  | 16 => ("GoodHalfEmptyModel", "plan", "[I", true)
  | 17 => ("GoodHalfEmptyModel", "firstRest", "[I", true)
  | 18 => ("GoodHalfEmptyModel", "rests", "I", false)
  | 19 => ("GoodHalfEmptyModel", "restWorth", "I", false)
  | 20 => ("GoodHalfEmptyModel", "restPresent", "I", false)
  | 21 => ("GoodHalfEmptyModel", "bestWorth", "I", false)
  | 22 => ("GoodHalfEmptyModel", "bestPresent", "I", false)
  | 23 => ("GoodHalfEmptyModel", "plans", "I", false)
  | 24 => ("GoodHalfEmptyModel", "before", "[I", true)
  | 25 => ("GoodHalfEmptyModel", "row", "[I", true)
  | _ => ("GoodHalfEmptyModel", "rows", "I", false)
def tyX16 : Nat → FieldType := fun k => match k with
  | 0 => .array .int
  | 1 => .array .int
  | 2 => .array .int
  | 3 => .array .int
  | 4 => .boolean
  | 5 => .array .int
  | 6 => .int
  | 7 => .int
  | 8 => .boolean
  | 9 => .array .char
  | 10 => .array .char
  | 11 => .array .char
  | 12 => .int
  | 13 => .array .int
  | 14 => .array .boolean
  | 15 => .array .int
  | 16 => .array .int
  | 17 => .array .int
  | 18 => .int
  | 19 => .int
  | 20 => .int
  | 21 => .int
  | 22 => .int
  | 23 => .int
  | 24 => .array .int
  | 25 => .array .int
  | _ => .int
abbrev wsX160 : List Cond := u_ws RX16 TX16 27
set_option maxRecDepth 100000 in
theorem nmX16 : ∀ a, a < 27 → ∀ b, b < 27 → a ≠ b → (TX16 a).2.1 ≠ (TX16 b).2.1 := by decide +kernel
set_option maxRecDepth 100000 in
theorem tyX16_ok : ∀ k, k < 27 → parseFieldDescriptor (TX16 k).2.2.1 = some (tyX16 k) := by decide +kernel
abbrev cX16_image : ByteArray := prog_28_method_3_code
def yX16_image : MethodName := ⟨RX16, "image", "()I"⟩
def dkwX16_image_0 : List UInt8 := [42, 4, 181, 0, 7, 42, 180, 0, 11, 42, 180, 0, 14, 184, 0, 17, 42, 180, 0, 11, 6, 46, 172]
abbrev dktX16_image_0 : List UInt8 := dkwX16_image_0 ++ []
theorem dksX16_image_0 : cX16_image.data.toList.drop 0 = dktX16_image_0 := by decide +kernel
theorem dX16_image_0 : decode cX16_image 0 = .ok (.aload_n 0, 1) := dk_42 (dk_at dksX16_image_0 0 rfl rfl)
theorem dX16_image_1 : decode cX16_image 1 = .ok (.iconst 1, 1) := dk_4 (dk_at dksX16_image_0 1 rfl rfl)
theorem dX16_image_2 : decode cX16_image 2 = .ok (.putfield 7, 3) := dk_181 0 7 (dk_at dksX16_image_0 2 rfl rfl)
theorem dX16_image_5 : decode cX16_image 5 = .ok (.aload_n 0, 1) := dk_42 (dk_at dksX16_image_0 5 rfl rfl)
theorem dX16_image_6 : decode cX16_image 6 = .ok (.getfield 11, 3) := dk_180 0 11 (dk_at dksX16_image_0 6 rfl rfl)
theorem dX16_image_9 : decode cX16_image 9 = .ok (.aload_n 0, 1) := dk_42 (dk_at dksX16_image_0 9 rfl rfl)
theorem dX16_image_10 : decode cX16_image 10 = .ok (.getfield 14, 3) := dk_180 0 14 (dk_at dksX16_image_0 10 rfl rfl)
theorem dX16_image_13 : decode cX16_image 13 = .ok (.invokestatic 17, 3) := dk_184 0 17 (dk_at dksX16_image_0 13 rfl rfl)
theorem dX16_image_16 : decode cX16_image 16 = .ok (.aload_n 0, 1) := dk_42 (dk_at dksX16_image_0 16 rfl rfl)
theorem dX16_image_17 : decode cX16_image 17 = .ok (.getfield 11, 3) := dk_180 0 11 (dk_at dksX16_image_0 17 rfl rfl)
theorem dX16_image_20 : decode cX16_image 20 = .ok (.iconst 3, 1) := dk_6 (dk_at dksX16_image_0 20 rfl rfl)
theorem dX16_image_21 : decode cX16_image 21 = .ok (.iaload, 1) := dk_46 (dk_at dksX16_image_0 21 rfl rfl)
theorem dX16_image_22 : decode cX16_image 22 = .ok (.ireturn, 1) := dk_172 (dk_at dksX16_image_0 22 rfl rfl)
abbrev cX16_move : ByteArray := prog_28_method_2_code
def yX16_move : MethodName := ⟨RX16, "move", "([I[I)V"⟩
def dkwX16_move_0 : List UInt8 := [3, 61, 28, 16, 70, 162, 0, 15, 43, 28, 42, 28, 46, 79, 132, 2, 1, 167, 255, 241, 177]
abbrev dktX16_move_0 : List UInt8 := dkwX16_move_0 ++ []
theorem dksX16_move_0 : cX16_move.data.toList.drop 0 = dktX16_move_0 := by decide +kernel
theorem dX16_move_0 : decode cX16_move 0 = .ok (.iconst 0, 1) := dk_3 (dk_at dksX16_move_0 0 rfl rfl)
theorem dX16_move_1 : decode cX16_move 1 = .ok (.istore_n 2, 1) := dk_61 (dk_at dksX16_move_0 1 rfl rfl)
theorem dX16_move_2 : decode cX16_move 2 = .ok (.iload_n 2, 1) := dk_28 (dk_at dksX16_move_0 2 rfl rfl)
theorem dX16_move_3 : decode cX16_move 3 = .ok (.bipush 70, 2) := dk_16 70 (dk_at dksX16_move_0 3 rfl rfl)
theorem dX16_move_5 : decode cX16_move 5 = .ok (.if_icmp .ge 15, 3) := dk_162 0 15 (dk_at dksX16_move_0 5 rfl rfl)
theorem dX16_move_8 : decode cX16_move 8 = .ok (.aload_n 1, 1) := dk_43 (dk_at dksX16_move_0 8 rfl rfl)
theorem dX16_move_9 : decode cX16_move 9 = .ok (.iload_n 2, 1) := dk_28 (dk_at dksX16_move_0 9 rfl rfl)
theorem dX16_move_10 : decode cX16_move 10 = .ok (.aload_n 0, 1) := dk_42 (dk_at dksX16_move_0 10 rfl rfl)
theorem dX16_move_11 : decode cX16_move 11 = .ok (.iload_n 2, 1) := dk_28 (dk_at dksX16_move_0 11 rfl rfl)
theorem dX16_move_12 : decode cX16_move 12 = .ok (.iaload, 1) := dk_46 (dk_at dksX16_move_0 12 rfl rfl)
theorem dX16_move_13 : decode cX16_move 13 = .ok (.iastore, 1) := dk_79 (dk_at dksX16_move_0 13 rfl rfl)
theorem dX16_move_14 : decode cX16_move 14 = .ok (.iinc 2 1, 3) := dk_132 2 1 (dk_at dksX16_move_0 14 rfl rfl)
theorem dX16_move_17 : decode cX16_move 17 = .ok (.goto (-15), 3) := dk_167 255 241 (dk_at dksX16_move_0 17 rfl rfl)
theorem dX16_move_20 : decode cX16_move 20 = .ok (.return_, 1) := dk_177 (dk_at dksX16_move_0 20 rfl rfl)
abbrev cX16_on : ByteArray := prog_28_method_4_code
def yX16_on : MethodName := ⟨RX16, "on", "()I"⟩
def dkwX16_on_1 : List UInt8 := [184, 0, 17, 42, 180, 0, 11, 6, 46, 172]
abbrev dktX16_on_1 : List UInt8 := dkwX16_on_1 ++ []
def dkwX16_on_0 : List UInt8 := [42, 180, 0, 7, 154, 0, 10, 42, 16, 253, 182, 0, 21, 172, 42, 180, 0, 14, 42, 180, 0, 11]
abbrev dktX16_on_0 : List UInt8 := dkwX16_on_0 ++ dktX16_on_1
theorem dksX16_on_0 : cX16_on.data.toList.drop 0 = dktX16_on_0 := by decide +kernel
theorem dksX16_on_1 : cX16_on.data.toList.drop 22 = dktX16_on_1 := dk_seg dksX16_on_0 22 rfl rfl
theorem dX16_on_0 : decode cX16_on 0 = .ok (.aload_n 0, 1) := dk_42 (dk_at dksX16_on_0 0 rfl rfl)
theorem dX16_on_1 : decode cX16_on 1 = .ok (.getfield 7, 3) := dk_180 0 7 (dk_at dksX16_on_0 1 rfl rfl)
theorem dX16_on_4 : decode cX16_on 4 = .ok (.ifCond .ne 10, 3) := dk_154 0 10 (dk_at dksX16_on_0 4 rfl rfl)
theorem dX16_on_7 : decode cX16_on 7 = .ok (.aload_n 0, 1) := dk_42 (dk_at dksX16_on_0 7 rfl rfl)
theorem dX16_on_8 : decode cX16_on 8 = .ok (.bipush (-3), 2) := dk_16 253 (dk_at dksX16_on_0 8 rfl rfl)
theorem dX16_on_10 : decode cX16_on 10 = .ok (.invokevirtual 21, 3) := dk_182 0 21 (dk_at dksX16_on_0 10 rfl rfl)
theorem dX16_on_13 : decode cX16_on 13 = .ok (.ireturn, 1) := dk_172 (dk_at dksX16_on_0 13 rfl rfl)
theorem dX16_on_14 : decode cX16_on 14 = .ok (.aload_n 0, 1) := dk_42 (dk_at dksX16_on_0 14 rfl rfl)
theorem dX16_on_15 : decode cX16_on 15 = .ok (.getfield 14, 3) := dk_180 0 14 (dk_at dksX16_on_0 15 rfl rfl)
theorem dX16_on_18 : decode cX16_on 18 = .ok (.aload_n 0, 1) := dk_42 (dk_at dksX16_on_0 18 rfl rfl)
theorem dX16_on_19 : decode cX16_on 19 = .ok (.getfield 11, 3) := dk_180 0 11 (dk_at dksX16_on_0 19 rfl rfl)
theorem dX16_on_22 : decode cX16_on 22 = .ok (.invokestatic 17, 3) := dk_184 0 17 (dk_at dksX16_on_1 0 rfl rfl)
theorem dX16_on_25 : decode cX16_on 25 = .ok (.aload_n 0, 1) := dk_42 (dk_at dksX16_on_1 3 rfl rfl)
theorem dX16_on_26 : decode cX16_on 26 = .ok (.getfield 11, 3) := dk_180 0 11 (dk_at dksX16_on_1 4 rfl rfl)
theorem dX16_on_29 : decode cX16_on 29 = .ok (.iconst 3, 1) := dk_6 (dk_at dksX16_on_1 7 rfl rfl)
theorem dX16_on_30 : decode cX16_on 30 = .ok (.iaload, 1) := dk_46 (dk_at dksX16_on_1 8 rfl rfl)
theorem dX16_on_31 : decode cX16_on 31 = .ok (.ireturn, 1) := dk_172 (dk_at dksX16_on_1 9 rfl rfl)
abbrev cX16_no : ByteArray := prog_28_method_1_code
def yX16_no : MethodName := ⟨RX16, "no", "(I)I"⟩
def dkwX16_no_0 : List UInt8 := [42, 180, 0, 1, 27, 116, 92, 46, 4, 96, 79, 27, 172]
abbrev dktX16_no_0 : List UInt8 := dkwX16_no_0 ++ []
theorem dksX16_no_0 : cX16_no.data.toList.drop 0 = dktX16_no_0 := by decide +kernel
theorem dX16_no_0 : decode cX16_no 0 = .ok (.aload_n 0, 1) := dk_42 (dk_at dksX16_no_0 0 rfl rfl)
theorem dX16_no_1 : decode cX16_no 1 = .ok (.getfield 1, 3) := dk_180 0 1 (dk_at dksX16_no_0 1 rfl rfl)
theorem dX16_no_4 : decode cX16_no 4 = .ok (.iload_n 1, 1) := dk_27 (dk_at dksX16_no_0 4 rfl rfl)
theorem dX16_no_5 : decode cX16_no 5 = .ok (.ineg, 1) := dk_116 (dk_at dksX16_no_0 5 rfl rfl)
theorem dX16_no_6 : decode cX16_no 6 = .ok (.dup2, 1) := dk_92 (dk_at dksX16_no_0 6 rfl rfl)
theorem dX16_no_7 : decode cX16_no 7 = .ok (.iaload, 1) := dk_46 (dk_at dksX16_no_0 7 rfl rfl)
theorem dX16_no_8 : decode cX16_no 8 = .ok (.iconst 1, 1) := dk_4 (dk_at dksX16_no_0 8 rfl rfl)
theorem dX16_no_9 : decode cX16_no 9 = .ok (.iadd, 1) := dk_96 (dk_at dksX16_no_0 9 rfl rfl)
theorem dX16_no_10 : decode cX16_no 10 = .ok (.iastore, 1) := dk_79 (dk_at dksX16_no_0 10 rfl rfl)
theorem dX16_no_11 : decode cX16_no 11 = .ok (.iload_n 1, 1) := dk_27 (dk_at dksX16_no_0 11 rfl rfl)
theorem dX16_no_12 : decode cX16_no 12 = .ok (.ireturn, 1) := dk_172 (dk_at dksX16_no_0 12 rfl rfl)
abbrev cX16_init : ByteArray := prog_28_method_5_code
def yX16_init : MethodName := ⟨RX16, "<init>", "()V"⟩
def dkwX16_init_8 : List UInt8 := [188, 10, 181, 0, 63, 42, 16, 12, 188, 10, 181, 0, 66, 42, 180, 0, 11, 5, 16, 10, 79, 177]
abbrev dktX16_init_8 : List UInt8 := dkwX16_init_8 ++ []
def dkwX16_init_7 : List UInt8 := [16, 81, 188, 10, 181, 0, 54, 42, 7, 188, 10, 181, 0, 57, 42, 7, 188, 10, 181, 0, 60, 42, 16, 70]
abbrev dktX16_init_7 : List UInt8 := dkwX16_init_7 ++ dktX16_init_8
def dkwX16_init_6 : List UInt8 := [8, 16, 102, 85, 181, 0, 44, 42, 16, 6, 188, 10, 181, 0, 47, 42, 7, 188, 4, 181, 0, 50, 42]
abbrev dktX16_init_6 : List UInt8 := dkwX16_init_6 ++ dktX16_init_7
def dkwX16_init_5 : List UInt8 := [16, 108, 85, 89, 4, 16, 111, 85, 89, 5, 16, 109, 85, 89, 6, 16, 116, 85, 89, 7, 16, 98, 85, 89]
abbrev dktX16_init_5 : List UInt8 := dkwX16_init_5 ++ dktX16_init_6
def dkwX16_init_4 : List UInt8 := [6, 16, 104, 85, 89, 7, 16, 117, 85, 89, 8, 16, 101, 85, 181, 0, 41, 42, 16, 6, 188, 5, 89, 3]
abbrev dktX16_init_4 : List UInt8 := dkwX16_init_4 ++ dktX16_init_5
def dkwX16_init_3 : List UInt8 := [181, 0, 37, 42, 16, 6, 188, 5, 89, 3, 16, 97, 85, 89, 4, 16, 110, 85, 89, 5, 16, 114, 85, 89]
abbrev dktX16_init_3 : List UInt8 := dkwX16_init_3 ++ dktX16_init_4
def dkwX16_init_2 : List UInt8 := [188, 5, 89, 3, 16, 99, 85, 89, 4, 16, 115, 85, 89, 5, 16, 114, 85, 89, 6, 16, 119, 85]
abbrev dktX16_init_2 : List UInt8 := dkwX16_init_2 ++ dktX16_init_3
def dkwX16_init_1 : List UInt8 := [188, 10, 181, 0, 14, 42, 16, 70, 188, 10, 181, 0, 31, 42, 16, 80, 188, 10, 181, 0, 34, 42, 7]
abbrev dktX16_init_1 : List UInt8 := dkwX16_init_1 ++ dktX16_init_2
def dkwX16_init_0 : List UInt8 := [42, 183, 0, 25, 42, 16, 7, 188, 10, 181, 0, 1, 42, 16, 70, 188, 10, 181, 0, 11, 42, 16, 70]
abbrev dktX16_init_0 : List UInt8 := dkwX16_init_0 ++ dktX16_init_1
theorem dksX16_init_0 : cX16_init.data.toList.drop 0 = dktX16_init_0 := by decide +kernel
theorem dksX16_init_1 : cX16_init.data.toList.drop 23 = dktX16_init_1 := dk_seg dksX16_init_0 23 rfl rfl
theorem dksX16_init_2 : cX16_init.data.toList.drop 46 = dktX16_init_2 := dk_seg dksX16_init_1 23 rfl rfl
theorem dksX16_init_3 : cX16_init.data.toList.drop 68 = dktX16_init_3 := dk_seg dksX16_init_2 22 rfl rfl
theorem dksX16_init_4 : cX16_init.data.toList.drop 92 = dktX16_init_4 := dk_seg dksX16_init_3 24 rfl rfl
theorem dksX16_init_5 : cX16_init.data.toList.drop 116 = dktX16_init_5 := dk_seg dksX16_init_4 24 rfl rfl
theorem dksX16_init_6 : cX16_init.data.toList.drop 140 = dktX16_init_6 := dk_seg dksX16_init_5 24 rfl rfl
theorem dksX16_init_7 : cX16_init.data.toList.drop 163 = dktX16_init_7 := dk_seg dksX16_init_6 23 rfl rfl
theorem dksX16_init_8 : cX16_init.data.toList.drop 187 = dktX16_init_8 := dk_seg dksX16_init_7 24 rfl rfl
theorem dX16_init_0 : decode cX16_init 0 = .ok (.aload_n 0, 1) := dk_42 (dk_at dksX16_init_0 0 rfl rfl)
theorem dX16_init_1 : decode cX16_init 1 = .ok (.invokespecial 25, 3) := dk_183 0 25 (dk_at dksX16_init_0 1 rfl rfl)
theorem dX16_init_4 : decode cX16_init 4 = .ok (.aload_n 0, 1) := dk_42 (dk_at dksX16_init_0 4 rfl rfl)
theorem dX16_init_5 : decode cX16_init 5 = .ok (.bipush 7, 2) := dk_16 7 (dk_at dksX16_init_0 5 rfl rfl)
theorem dX16_init_7 : decode cX16_init 7 = .ok (.newarray .int, 2) := dk_188_10 (dk_at dksX16_init_0 7 rfl rfl)
theorem dX16_init_9 : decode cX16_init 9 = .ok (.putfield 1, 3) := dk_181 0 1 (dk_at dksX16_init_0 9 rfl rfl)
theorem dX16_init_12 : decode cX16_init 12 = .ok (.aload_n 0, 1) := dk_42 (dk_at dksX16_init_0 12 rfl rfl)
theorem dX16_init_13 : decode cX16_init 13 = .ok (.bipush 70, 2) := dk_16 70 (dk_at dksX16_init_0 13 rfl rfl)
theorem dX16_init_15 : decode cX16_init 15 = .ok (.newarray .int, 2) := dk_188_10 (dk_at dksX16_init_0 15 rfl rfl)
theorem dX16_init_17 : decode cX16_init 17 = .ok (.putfield 11, 3) := dk_181 0 11 (dk_at dksX16_init_0 17 rfl rfl)
theorem dX16_init_20 : decode cX16_init 20 = .ok (.aload_n 0, 1) := dk_42 (dk_at dksX16_init_0 20 rfl rfl)
theorem dX16_init_21 : decode cX16_init 21 = .ok (.bipush 70, 2) := dk_16 70 (dk_at dksX16_init_0 21 rfl rfl)
theorem dX16_init_23 : decode cX16_init 23 = .ok (.newarray .int, 2) := dk_188_10 (dk_at dksX16_init_1 0 rfl rfl)
theorem dX16_init_25 : decode cX16_init 25 = .ok (.putfield 14, 3) := dk_181 0 14 (dk_at dksX16_init_1 2 rfl rfl)
theorem dX16_init_28 : decode cX16_init 28 = .ok (.aload_n 0, 1) := dk_42 (dk_at dksX16_init_1 5 rfl rfl)
theorem dX16_init_29 : decode cX16_init 29 = .ok (.bipush 70, 2) := dk_16 70 (dk_at dksX16_init_1 6 rfl rfl)
theorem dX16_init_31 : decode cX16_init 31 = .ok (.newarray .int, 2) := dk_188_10 (dk_at dksX16_init_1 8 rfl rfl)
theorem dX16_init_33 : decode cX16_init 33 = .ok (.putfield 31, 3) := dk_181 0 31 (dk_at dksX16_init_1 10 rfl rfl)
theorem dX16_init_36 : decode cX16_init 36 = .ok (.aload_n 0, 1) := dk_42 (dk_at dksX16_init_1 13 rfl rfl)
theorem dX16_init_37 : decode cX16_init 37 = .ok (.bipush 80, 2) := dk_16 80 (dk_at dksX16_init_1 14 rfl rfl)
theorem dX16_init_39 : decode cX16_init 39 = .ok (.newarray .int, 2) := dk_188_10 (dk_at dksX16_init_1 16 rfl rfl)
theorem dX16_init_41 : decode cX16_init 41 = .ok (.putfield 34, 3) := dk_181 0 34 (dk_at dksX16_init_1 18 rfl rfl)
theorem dX16_init_44 : decode cX16_init 44 = .ok (.aload_n 0, 1) := dk_42 (dk_at dksX16_init_1 21 rfl rfl)
theorem dX16_init_45 : decode cX16_init 45 = .ok (.iconst 4, 1) := dk_7 (dk_at dksX16_init_1 22 rfl rfl)
theorem dX16_init_46 : decode cX16_init 46 = .ok (.newarray .char, 2) := dk_188_5 (dk_at dksX16_init_2 0 rfl rfl)
theorem dX16_init_48 : decode cX16_init 48 = .ok (.dup, 1) := dk_89 (dk_at dksX16_init_2 2 rfl rfl)
theorem dX16_init_49 : decode cX16_init 49 = .ok (.iconst 0, 1) := dk_3 (dk_at dksX16_init_2 3 rfl rfl)
theorem dX16_init_50 : decode cX16_init 50 = .ok (.bipush 99, 2) := dk_16 99 (dk_at dksX16_init_2 4 rfl rfl)
theorem dX16_init_52 : decode cX16_init 52 = .ok (.castore, 1) := dk_85 (dk_at dksX16_init_2 6 rfl rfl)
theorem dX16_init_53 : decode cX16_init 53 = .ok (.dup, 1) := dk_89 (dk_at dksX16_init_2 7 rfl rfl)
theorem dX16_init_54 : decode cX16_init 54 = .ok (.iconst 1, 1) := dk_4 (dk_at dksX16_init_2 8 rfl rfl)
theorem dX16_init_55 : decode cX16_init 55 = .ok (.bipush 115, 2) := dk_16 115 (dk_at dksX16_init_2 9 rfl rfl)
theorem dX16_init_57 : decode cX16_init 57 = .ok (.castore, 1) := dk_85 (dk_at dksX16_init_2 11 rfl rfl)
theorem dX16_init_58 : decode cX16_init 58 = .ok (.dup, 1) := dk_89 (dk_at dksX16_init_2 12 rfl rfl)
theorem dX16_init_59 : decode cX16_init 59 = .ok (.iconst 2, 1) := dk_5 (dk_at dksX16_init_2 13 rfl rfl)
theorem dX16_init_60 : decode cX16_init 60 = .ok (.bipush 114, 2) := dk_16 114 (dk_at dksX16_init_2 14 rfl rfl)
theorem dX16_init_62 : decode cX16_init 62 = .ok (.castore, 1) := dk_85 (dk_at dksX16_init_2 16 rfl rfl)
theorem dX16_init_63 : decode cX16_init 63 = .ok (.dup, 1) := dk_89 (dk_at dksX16_init_2 17 rfl rfl)
theorem dX16_init_64 : decode cX16_init 64 = .ok (.iconst 3, 1) := dk_6 (dk_at dksX16_init_2 18 rfl rfl)
theorem dX16_init_65 : decode cX16_init 65 = .ok (.bipush 119, 2) := dk_16 119 (dk_at dksX16_init_2 19 rfl rfl)
theorem dX16_init_67 : decode cX16_init 67 = .ok (.castore, 1) := dk_85 (dk_at dksX16_init_2 21 rfl rfl)
theorem dX16_init_68 : decode cX16_init 68 = .ok (.putfield 37, 3) := dk_181 0 37 (dk_at dksX16_init_3 0 rfl rfl)
theorem dX16_init_71 : decode cX16_init 71 = .ok (.aload_n 0, 1) := dk_42 (dk_at dksX16_init_3 3 rfl rfl)
theorem dX16_init_72 : decode cX16_init 72 = .ok (.bipush 6, 2) := dk_16 6 (dk_at dksX16_init_3 4 rfl rfl)
theorem dX16_init_74 : decode cX16_init 74 = .ok (.newarray .char, 2) := dk_188_5 (dk_at dksX16_init_3 6 rfl rfl)
theorem dX16_init_76 : decode cX16_init 76 = .ok (.dup, 1) := dk_89 (dk_at dksX16_init_3 8 rfl rfl)
theorem dX16_init_77 : decode cX16_init 77 = .ok (.iconst 0, 1) := dk_3 (dk_at dksX16_init_3 9 rfl rfl)
theorem dX16_init_78 : decode cX16_init 78 = .ok (.bipush 97, 2) := dk_16 97 (dk_at dksX16_init_3 10 rfl rfl)
theorem dX16_init_80 : decode cX16_init 80 = .ok (.castore, 1) := dk_85 (dk_at dksX16_init_3 12 rfl rfl)
theorem dX16_init_81 : decode cX16_init 81 = .ok (.dup, 1) := dk_89 (dk_at dksX16_init_3 13 rfl rfl)
theorem dX16_init_82 : decode cX16_init 82 = .ok (.iconst 1, 1) := dk_4 (dk_at dksX16_init_3 14 rfl rfl)
theorem dX16_init_83 : decode cX16_init 83 = .ok (.bipush 110, 2) := dk_16 110 (dk_at dksX16_init_3 15 rfl rfl)
theorem dX16_init_85 : decode cX16_init 85 = .ok (.castore, 1) := dk_85 (dk_at dksX16_init_3 17 rfl rfl)
theorem dX16_init_86 : decode cX16_init 86 = .ok (.dup, 1) := dk_89 (dk_at dksX16_init_3 18 rfl rfl)
theorem dX16_init_87 : decode cX16_init 87 = .ok (.iconst 2, 1) := dk_5 (dk_at dksX16_init_3 19 rfl rfl)
theorem dX16_init_88 : decode cX16_init 88 = .ok (.bipush 114, 2) := dk_16 114 (dk_at dksX16_init_3 20 rfl rfl)
theorem dX16_init_90 : decode cX16_init 90 = .ok (.castore, 1) := dk_85 (dk_at dksX16_init_3 22 rfl rfl)
theorem dX16_init_91 : decode cX16_init 91 = .ok (.dup, 1) := dk_89 (dk_at dksX16_init_3 23 rfl rfl)
theorem dX16_init_92 : decode cX16_init 92 = .ok (.iconst 3, 1) := dk_6 (dk_at dksX16_init_4 0 rfl rfl)
theorem dX16_init_93 : decode cX16_init 93 = .ok (.bipush 104, 2) := dk_16 104 (dk_at dksX16_init_4 1 rfl rfl)
theorem dX16_init_95 : decode cX16_init 95 = .ok (.castore, 1) := dk_85 (dk_at dksX16_init_4 3 rfl rfl)
theorem dX16_init_96 : decode cX16_init 96 = .ok (.dup, 1) := dk_89 (dk_at dksX16_init_4 4 rfl rfl)
theorem dX16_init_97 : decode cX16_init 97 = .ok (.iconst 4, 1) := dk_7 (dk_at dksX16_init_4 5 rfl rfl)
theorem dX16_init_98 : decode cX16_init 98 = .ok (.bipush 117, 2) := dk_16 117 (dk_at dksX16_init_4 6 rfl rfl)
theorem dX16_init_100 : decode cX16_init 100 = .ok (.castore, 1) := dk_85 (dk_at dksX16_init_4 8 rfl rfl)
theorem dX16_init_101 : decode cX16_init 101 = .ok (.dup, 1) := dk_89 (dk_at dksX16_init_4 9 rfl rfl)
theorem dX16_init_102 : decode cX16_init 102 = .ok (.iconst 5, 1) := dk_8 (dk_at dksX16_init_4 10 rfl rfl)
theorem dX16_init_103 : decode cX16_init 103 = .ok (.bipush 101, 2) := dk_16 101 (dk_at dksX16_init_4 11 rfl rfl)
theorem dX16_init_105 : decode cX16_init 105 = .ok (.castore, 1) := dk_85 (dk_at dksX16_init_4 13 rfl rfl)
theorem dX16_init_106 : decode cX16_init 106 = .ok (.putfield 41, 3) := dk_181 0 41 (dk_at dksX16_init_4 14 rfl rfl)
theorem dX16_init_109 : decode cX16_init 109 = .ok (.aload_n 0, 1) := dk_42 (dk_at dksX16_init_4 17 rfl rfl)
theorem dX16_init_110 : decode cX16_init 110 = .ok (.bipush 6, 2) := dk_16 6 (dk_at dksX16_init_4 18 rfl rfl)
theorem dX16_init_112 : decode cX16_init 112 = .ok (.newarray .char, 2) := dk_188_5 (dk_at dksX16_init_4 20 rfl rfl)
theorem dX16_init_114 : decode cX16_init 114 = .ok (.dup, 1) := dk_89 (dk_at dksX16_init_4 22 rfl rfl)
theorem dX16_init_115 : decode cX16_init 115 = .ok (.iconst 0, 1) := dk_3 (dk_at dksX16_init_4 23 rfl rfl)
theorem dX16_init_116 : decode cX16_init 116 = .ok (.bipush 108, 2) := dk_16 108 (dk_at dksX16_init_5 0 rfl rfl)
theorem dX16_init_118 : decode cX16_init 118 = .ok (.castore, 1) := dk_85 (dk_at dksX16_init_5 2 rfl rfl)
theorem dX16_init_119 : decode cX16_init 119 = .ok (.dup, 1) := dk_89 (dk_at dksX16_init_5 3 rfl rfl)
theorem dX16_init_120 : decode cX16_init 120 = .ok (.iconst 1, 1) := dk_4 (dk_at dksX16_init_5 4 rfl rfl)
theorem dX16_init_121 : decode cX16_init 121 = .ok (.bipush 111, 2) := dk_16 111 (dk_at dksX16_init_5 5 rfl rfl)
theorem dX16_init_123 : decode cX16_init 123 = .ok (.castore, 1) := dk_85 (dk_at dksX16_init_5 7 rfl rfl)
theorem dX16_init_124 : decode cX16_init 124 = .ok (.dup, 1) := dk_89 (dk_at dksX16_init_5 8 rfl rfl)
theorem dX16_init_125 : decode cX16_init 125 = .ok (.iconst 2, 1) := dk_5 (dk_at dksX16_init_5 9 rfl rfl)
theorem dX16_init_126 : decode cX16_init 126 = .ok (.bipush 109, 2) := dk_16 109 (dk_at dksX16_init_5 10 rfl rfl)
theorem dX16_init_128 : decode cX16_init 128 = .ok (.castore, 1) := dk_85 (dk_at dksX16_init_5 12 rfl rfl)
theorem dX16_init_129 : decode cX16_init 129 = .ok (.dup, 1) := dk_89 (dk_at dksX16_init_5 13 rfl rfl)
theorem dX16_init_130 : decode cX16_init 130 = .ok (.iconst 3, 1) := dk_6 (dk_at dksX16_init_5 14 rfl rfl)
theorem dX16_init_131 : decode cX16_init 131 = .ok (.bipush 116, 2) := dk_16 116 (dk_at dksX16_init_5 15 rfl rfl)
theorem dX16_init_133 : decode cX16_init 133 = .ok (.castore, 1) := dk_85 (dk_at dksX16_init_5 17 rfl rfl)
theorem dX16_init_134 : decode cX16_init 134 = .ok (.dup, 1) := dk_89 (dk_at dksX16_init_5 18 rfl rfl)
theorem dX16_init_135 : decode cX16_init 135 = .ok (.iconst 4, 1) := dk_7 (dk_at dksX16_init_5 19 rfl rfl)
theorem dX16_init_136 : decode cX16_init 136 = .ok (.bipush 98, 2) := dk_16 98 (dk_at dksX16_init_5 20 rfl rfl)
theorem dX16_init_138 : decode cX16_init 138 = .ok (.castore, 1) := dk_85 (dk_at dksX16_init_5 22 rfl rfl)
theorem dX16_init_139 : decode cX16_init 139 = .ok (.dup, 1) := dk_89 (dk_at dksX16_init_5 23 rfl rfl)
theorem dX16_init_140 : decode cX16_init 140 = .ok (.iconst 5, 1) := dk_8 (dk_at dksX16_init_6 0 rfl rfl)
theorem dX16_init_141 : decode cX16_init 141 = .ok (.bipush 102, 2) := dk_16 102 (dk_at dksX16_init_6 1 rfl rfl)
theorem dX16_init_143 : decode cX16_init 143 = .ok (.castore, 1) := dk_85 (dk_at dksX16_init_6 3 rfl rfl)
theorem dX16_init_144 : decode cX16_init 144 = .ok (.putfield 44, 3) := dk_181 0 44 (dk_at dksX16_init_6 4 rfl rfl)
theorem dX16_init_147 : decode cX16_init 147 = .ok (.aload_n 0, 1) := dk_42 (dk_at dksX16_init_6 7 rfl rfl)
theorem dX16_init_148 : decode cX16_init 148 = .ok (.bipush 6, 2) := dk_16 6 (dk_at dksX16_init_6 8 rfl rfl)
theorem dX16_init_150 : decode cX16_init 150 = .ok (.newarray .int, 2) := dk_188_10 (dk_at dksX16_init_6 10 rfl rfl)
theorem dX16_init_152 : decode cX16_init 152 = .ok (.putfield 47, 3) := dk_181 0 47 (dk_at dksX16_init_6 12 rfl rfl)
theorem dX16_init_155 : decode cX16_init 155 = .ok (.aload_n 0, 1) := dk_42 (dk_at dksX16_init_6 15 rfl rfl)
theorem dX16_init_156 : decode cX16_init 156 = .ok (.iconst 4, 1) := dk_7 (dk_at dksX16_init_6 16 rfl rfl)
theorem dX16_init_157 : decode cX16_init 157 = .ok (.newarray .boolean, 2) := dk_188_4 (dk_at dksX16_init_6 17 rfl rfl)
theorem dX16_init_159 : decode cX16_init 159 = .ok (.putfield 50, 3) := dk_181 0 50 (dk_at dksX16_init_6 19 rfl rfl)
theorem dX16_init_162 : decode cX16_init 162 = .ok (.aload_n 0, 1) := dk_42 (dk_at dksX16_init_6 22 rfl rfl)
theorem dX16_init_163 : decode cX16_init 163 = .ok (.bipush 81, 2) := dk_16 81 (dk_at dksX16_init_7 0 rfl rfl)
theorem dX16_init_165 : decode cX16_init 165 = .ok (.newarray .int, 2) := dk_188_10 (dk_at dksX16_init_7 2 rfl rfl)
theorem dX16_init_167 : decode cX16_init 167 = .ok (.putfield 54, 3) := dk_181 0 54 (dk_at dksX16_init_7 4 rfl rfl)
theorem dX16_init_170 : decode cX16_init 170 = .ok (.aload_n 0, 1) := dk_42 (dk_at dksX16_init_7 7 rfl rfl)
theorem dX16_init_171 : decode cX16_init 171 = .ok (.iconst 4, 1) := dk_7 (dk_at dksX16_init_7 8 rfl rfl)
theorem dX16_init_172 : decode cX16_init 172 = .ok (.newarray .int, 2) := dk_188_10 (dk_at dksX16_init_7 9 rfl rfl)
theorem dX16_init_174 : decode cX16_init 174 = .ok (.putfield 57, 3) := dk_181 0 57 (dk_at dksX16_init_7 11 rfl rfl)
theorem dX16_init_177 : decode cX16_init 177 = .ok (.aload_n 0, 1) := dk_42 (dk_at dksX16_init_7 14 rfl rfl)
theorem dX16_init_178 : decode cX16_init 178 = .ok (.iconst 4, 1) := dk_7 (dk_at dksX16_init_7 15 rfl rfl)
theorem dX16_init_179 : decode cX16_init 179 = .ok (.newarray .int, 2) := dk_188_10 (dk_at dksX16_init_7 16 rfl rfl)
theorem dX16_init_181 : decode cX16_init 181 = .ok (.putfield 60, 3) := dk_181 0 60 (dk_at dksX16_init_7 18 rfl rfl)
theorem dX16_init_184 : decode cX16_init 184 = .ok (.aload_n 0, 1) := dk_42 (dk_at dksX16_init_7 21 rfl rfl)
theorem dX16_init_185 : decode cX16_init 185 = .ok (.bipush 70, 2) := dk_16 70 (dk_at dksX16_init_7 22 rfl rfl)
theorem dX16_init_187 : decode cX16_init 187 = .ok (.newarray .int, 2) := dk_188_10 (dk_at dksX16_init_8 0 rfl rfl)
theorem dX16_init_189 : decode cX16_init 189 = .ok (.putfield 63, 3) := dk_181 0 63 (dk_at dksX16_init_8 2 rfl rfl)
theorem dX16_init_192 : decode cX16_init 192 = .ok (.aload_n 0, 1) := dk_42 (dk_at dksX16_init_8 5 rfl rfl)
theorem dX16_init_193 : decode cX16_init 193 = .ok (.bipush 12, 2) := dk_16 12 (dk_at dksX16_init_8 6 rfl rfl)
theorem dX16_init_195 : decode cX16_init 195 = .ok (.newarray .int, 2) := dk_188_10 (dk_at dksX16_init_8 8 rfl rfl)
theorem dX16_init_197 : decode cX16_init 197 = .ok (.putfield 66, 3) := dk_181 0 66 (dk_at dksX16_init_8 10 rfl rfl)
theorem dX16_init_200 : decode cX16_init 200 = .ok (.aload_n 0, 1) := dk_42 (dk_at dksX16_init_8 13 rfl rfl)
theorem dX16_init_201 : decode cX16_init 201 = .ok (.getfield 11, 3) := dk_180 0 11 (dk_at dksX16_init_8 14 rfl rfl)
theorem dX16_init_204 : decode cX16_init 204 = .ok (.iconst 2, 1) := dk_5 (dk_at dksX16_init_8 17 rfl rfl)
theorem dX16_init_205 : decode cX16_init 205 = .ok (.bipush 10, 2) := dk_16 10 (dk_at dksX16_init_8 18 rfl rfl)
theorem dX16_init_207 : decode cX16_init 207 = .ok (.iastore, 1) := dk_79 (dk_at dksX16_init_8 20 rfl rfl)
theorem dX16_init_208 : decode cX16_init 208 = .ok (.return_, 1) := dk_177 (dk_at dksX16_init_8 21 rfl rfl)
abbrev cX16_letter : ByteArray := prog_28_method_8_code
def yX16_letter : MethodName := ⟨RX16, "letter", "(I)I"⟩
def dkwX16_letter_2 : List UInt8 := [180, 0, 73, 4, 96, 181, 0, 73, 42, 180, 0, 73, 172]
abbrev dktX16_letter_2 : List UInt8 := dkwX16_letter_2 ++ []
def dkwX16_letter_1 : List UInt8 := [160, 0, 10, 42, 16, 250, 182, 0, 21, 172, 42, 180, 0, 34, 42, 180, 0, 73, 27, 79, 42, 89]
abbrev dktX16_letter_1 : List UInt8 := dkwX16_letter_1 ++ dktX16_letter_2
def dkwX16_letter_0 : List UInt8 := [27, 156, 0, 10, 42, 16, 252, 182, 0, 21, 172, 27, 17, 0, 255, 163, 0, 12, 42, 180, 0, 73, 16, 80]
abbrev dktX16_letter_0 : List UInt8 := dkwX16_letter_0 ++ dktX16_letter_1
theorem dksX16_letter_0 : cX16_letter.data.toList.drop 0 = dktX16_letter_0 := by decide +kernel
theorem dksX16_letter_1 : cX16_letter.data.toList.drop 24 = dktX16_letter_1 := dk_seg dksX16_letter_0 24 rfl rfl
theorem dksX16_letter_2 : cX16_letter.data.toList.drop 46 = dktX16_letter_2 := dk_seg dksX16_letter_1 22 rfl rfl
theorem dX16_letter_0 : decode cX16_letter 0 = .ok (.iload_n 1, 1) := dk_27 (dk_at dksX16_letter_0 0 rfl rfl)
theorem dX16_letter_1 : decode cX16_letter 1 = .ok (.ifCond .ge 10, 3) := dk_156 0 10 (dk_at dksX16_letter_0 1 rfl rfl)
theorem dX16_letter_4 : decode cX16_letter 4 = .ok (.aload_n 0, 1) := dk_42 (dk_at dksX16_letter_0 4 rfl rfl)
theorem dX16_letter_5 : decode cX16_letter 5 = .ok (.bipush (-4), 2) := dk_16 252 (dk_at dksX16_letter_0 5 rfl rfl)
theorem dX16_letter_7 : decode cX16_letter 7 = .ok (.invokevirtual 21, 3) := dk_182 0 21 (dk_at dksX16_letter_0 7 rfl rfl)
theorem dX16_letter_10 : decode cX16_letter 10 = .ok (.ireturn, 1) := dk_172 (dk_at dksX16_letter_0 10 rfl rfl)
theorem dX16_letter_11 : decode cX16_letter 11 = .ok (.iload_n 1, 1) := dk_27 (dk_at dksX16_letter_0 11 rfl rfl)
theorem dX16_letter_12 : decode cX16_letter 12 = .ok (.sipush 255, 3) := dk_17 0 255 (dk_at dksX16_letter_0 12 rfl rfl)
theorem dX16_letter_15 : decode cX16_letter 15 = .ok (.if_icmp .gt 12, 3) := dk_163 0 12 (dk_at dksX16_letter_0 15 rfl rfl)
theorem dX16_letter_18 : decode cX16_letter 18 = .ok (.aload_n 0, 1) := dk_42 (dk_at dksX16_letter_0 18 rfl rfl)
theorem dX16_letter_19 : decode cX16_letter 19 = .ok (.getfield 73, 3) := dk_180 0 73 (dk_at dksX16_letter_0 19 rfl rfl)
theorem dX16_letter_22 : decode cX16_letter 22 = .ok (.bipush 80, 2) := dk_16 80 (dk_at dksX16_letter_0 22 rfl rfl)
theorem dX16_letter_24 : decode cX16_letter 24 = .ok (.if_icmp .ne 10, 3) := dk_160 0 10 (dk_at dksX16_letter_1 0 rfl rfl)
theorem dX16_letter_27 : decode cX16_letter 27 = .ok (.aload_n 0, 1) := dk_42 (dk_at dksX16_letter_1 3 rfl rfl)
theorem dX16_letter_28 : decode cX16_letter 28 = .ok (.bipush (-6), 2) := dk_16 250 (dk_at dksX16_letter_1 4 rfl rfl)
theorem dX16_letter_30 : decode cX16_letter 30 = .ok (.invokevirtual 21, 3) := dk_182 0 21 (dk_at dksX16_letter_1 6 rfl rfl)
theorem dX16_letter_33 : decode cX16_letter 33 = .ok (.ireturn, 1) := dk_172 (dk_at dksX16_letter_1 9 rfl rfl)
theorem dX16_letter_34 : decode cX16_letter 34 = .ok (.aload_n 0, 1) := dk_42 (dk_at dksX16_letter_1 10 rfl rfl)
theorem dX16_letter_35 : decode cX16_letter 35 = .ok (.getfield 34, 3) := dk_180 0 34 (dk_at dksX16_letter_1 11 rfl rfl)
theorem dX16_letter_38 : decode cX16_letter 38 = .ok (.aload_n 0, 1) := dk_42 (dk_at dksX16_letter_1 14 rfl rfl)
theorem dX16_letter_39 : decode cX16_letter 39 = .ok (.getfield 73, 3) := dk_180 0 73 (dk_at dksX16_letter_1 15 rfl rfl)
theorem dX16_letter_42 : decode cX16_letter 42 = .ok (.iload_n 1, 1) := dk_27 (dk_at dksX16_letter_1 18 rfl rfl)
theorem dX16_letter_43 : decode cX16_letter 43 = .ok (.iastore, 1) := dk_79 (dk_at dksX16_letter_1 19 rfl rfl)
theorem dX16_letter_44 : decode cX16_letter 44 = .ok (.aload_n 0, 1) := dk_42 (dk_at dksX16_letter_1 20 rfl rfl)
theorem dX16_letter_45 : decode cX16_letter 45 = .ok (.dup, 1) := dk_89 (dk_at dksX16_letter_1 21 rfl rfl)
theorem dX16_letter_46 : decode cX16_letter 46 = .ok (.getfield 73, 3) := dk_180 0 73 (dk_at dksX16_letter_2 0 rfl rfl)
theorem dX16_letter_49 : decode cX16_letter 49 = .ok (.iconst 1, 1) := dk_4 (dk_at dksX16_letter_2 3 rfl rfl)
theorem dX16_letter_50 : decode cX16_letter 50 = .ok (.iadd, 1) := dk_96 (dk_at dksX16_letter_2 4 rfl rfl)
theorem dX16_letter_51 : decode cX16_letter 51 = .ok (.putfield 73, 3) := dk_181 0 73 (dk_at dksX16_letter_2 5 rfl rfl)
theorem dX16_letter_54 : decode cX16_letter 54 = .ok (.aload_n 0, 1) := dk_42 (dk_at dksX16_letter_2 8 rfl rfl)
theorem dX16_letter_55 : decode cX16_letter 55 = .ok (.getfield 73, 3) := dk_180 0 73 (dk_at dksX16_letter_2 9 rfl rfl)
theorem dX16_letter_58 : decode cX16_letter 58 = .ok (.ireturn, 1) := dk_172 (dk_at dksX16_letter_2 12 rfl rfl)
abbrev cX16_town : ByteArray := prog_28_method_17_code
def yX16_town : MethodName := ⟨RX16, "town", "()I"⟩
def dkwX16_town_0 : List UInt8 := [42, 182, 0, 111, 60, 42, 3, 181, 0, 73, 27, 172]
abbrev dktX16_town_0 : List UInt8 := dkwX16_town_0 ++ []
theorem dksX16_town_0 : cX16_town.data.toList.drop 0 = dktX16_town_0 := by decide +kernel
theorem dX16_town_0 : decode cX16_town 0 = .ok (.aload_n 0, 1) := dk_42 (dk_at dksX16_town_0 0 rfl rfl)
theorem dX16_town_1 : decode cX16_town 1 = .ok (.invokevirtual 111, 3) := dk_182 0 111 (dk_at dksX16_town_0 1 rfl rfl)
theorem dX16_town_4 : decode cX16_town 4 = .ok (.istore_n 1, 1) := dk_60 (dk_at dksX16_town_0 4 rfl rfl)
theorem dX16_town_5 : decode cX16_town 5 = .ok (.aload_n 0, 1) := dk_42 (dk_at dksX16_town_0 5 rfl rfl)
theorem dX16_town_6 : decode cX16_town 6 = .ok (.iconst 0, 1) := dk_3 (dk_at dksX16_town_0 6 rfl rfl)
theorem dX16_town_7 : decode cX16_town 7 = .ok (.putfield 73, 3) := dk_181 0 73 (dk_at dksX16_town_0 7 rfl rfl)
theorem dX16_town_10 : decode cX16_town 10 = .ok (.iload_n 1, 1) := dk_27 (dk_at dksX16_town_0 10 rfl rfl)
theorem dX16_town_11 : decode cX16_town 11 = .ok (.ireturn, 1) := dk_172 (dk_at dksX16_town_0 11 rfl rfl)
abbrev cX16_read : ByteArray := prog_28_method_16_code
def yX16_read : MethodName := ⟨RX16, "read", "()I"⟩
def dkwX16_read_7 : List UInt8 := [182, 0, 108, 167, 255, 237, 27, 172]
abbrev dktX16_read_7 : List UInt8 := dkwX16_read_7 ++ []
def dkwX16_read_6 : List UInt8 := [167, 255, 187, 42, 3, 181, 0, 80, 42, 180, 0, 80, 42, 180, 0, 73, 162, 0, 14, 42, 182, 0, 101, 42]
abbrev dktX16_read_6 : List UInt8 := dkwX16_read_6 ++ dktX16_read_7
def dkwX16_read_5 : List UInt8 := [167, 0, 4, 3, 96, 61, 29, 42, 180, 0, 87, 5, 160, 0, 7, 4, 167, 0, 4, 3, 96, 62]
abbrev dktX16_read_5 : List UInt8 := dkwX16_read_5 ++ dktX16_read_6
def dkwX16_read_4 : List UInt8 := [29, 182, 0, 104, 154, 0, 10, 17, 248, 48, 21, 4, 100, 172, 28, 42, 180, 0, 87, 4, 160, 0, 7, 4]
abbrev dktX16_read_4 : List UInt8 := dkwX16_read_4 ++ dktX16_read_5
def dkwX16_read_3 : List UInt8 := [62, 42, 180, 0, 80, 42, 180, 0, 73, 162, 0, 64, 42, 180, 0, 80, 54, 4, 42, 182, 0, 101, 42, 28]
abbrev dktX16_read_3 : List UInt8 := dkwX16_read_3 ++ dktX16_read_4
def dkwX16_read_2 : List UInt8 := [42, 180, 0, 80, 100, 172, 42, 3, 181, 0, 80, 42, 180, 0, 11, 3, 46, 61, 42, 180, 0, 11, 4, 46]
abbrev dktX16_read_2 : List UInt8 := dkwX16_read_2 ++ dktX16_read_3
def dkwX16_read_1 : List UInt8 := [153, 0, 14, 42, 180, 0, 80, 42, 180, 0, 73, 161, 255, 234, 42, 180, 0, 77, 154, 0, 12, 17, 252, 24]
abbrev dktX16_read_1 : List UInt8 := dkwX16_read_1 ++ dktX16_read_2
def dkwX16_read_0 : List UInt8 := [3, 60, 42, 3, 181, 0, 80, 42, 4, 181, 0, 77, 42, 182, 0, 101, 132, 1, 1, 42, 180, 0, 77]
abbrev dktX16_read_0 : List UInt8 := dkwX16_read_0 ++ dktX16_read_1
theorem dksX16_read_0 : cX16_read.data.toList.drop 0 = dktX16_read_0 := by decide +kernel
theorem dksX16_read_1 : cX16_read.data.toList.drop 23 = dktX16_read_1 := dk_seg dksX16_read_0 23 rfl rfl
theorem dksX16_read_2 : cX16_read.data.toList.drop 47 = dktX16_read_2 := dk_seg dksX16_read_1 24 rfl rfl
theorem dksX16_read_3 : cX16_read.data.toList.drop 71 = dktX16_read_3 := dk_seg dksX16_read_2 24 rfl rfl
theorem dksX16_read_4 : cX16_read.data.toList.drop 95 = dktX16_read_4 := dk_seg dksX16_read_3 24 rfl rfl
theorem dksX16_read_5 : cX16_read.data.toList.drop 119 = dktX16_read_5 := dk_seg dksX16_read_4 24 rfl rfl
theorem dksX16_read_6 : cX16_read.data.toList.drop 141 = dktX16_read_6 := dk_seg dksX16_read_5 22 rfl rfl
theorem dksX16_read_7 : cX16_read.data.toList.drop 165 = dktX16_read_7 := dk_seg dksX16_read_6 24 rfl rfl
theorem dX16_read_0 : decode cX16_read 0 = .ok (.iconst 0, 1) := dk_3 (dk_at dksX16_read_0 0 rfl rfl)
theorem dX16_read_1 : decode cX16_read 1 = .ok (.istore_n 1, 1) := dk_60 (dk_at dksX16_read_0 1 rfl rfl)
theorem dX16_read_2 : decode cX16_read 2 = .ok (.aload_n 0, 1) := dk_42 (dk_at dksX16_read_0 2 rfl rfl)
theorem dX16_read_3 : decode cX16_read 3 = .ok (.iconst 0, 1) := dk_3 (dk_at dksX16_read_0 3 rfl rfl)
theorem dX16_read_4 : decode cX16_read 4 = .ok (.putfield 80, 3) := dk_181 0 80 (dk_at dksX16_read_0 4 rfl rfl)
theorem dX16_read_7 : decode cX16_read 7 = .ok (.aload_n 0, 1) := dk_42 (dk_at dksX16_read_0 7 rfl rfl)
theorem dX16_read_8 : decode cX16_read 8 = .ok (.iconst 1, 1) := dk_4 (dk_at dksX16_read_0 8 rfl rfl)
theorem dX16_read_9 : decode cX16_read 9 = .ok (.putfield 77, 3) := dk_181 0 77 (dk_at dksX16_read_0 9 rfl rfl)
theorem dX16_read_12 : decode cX16_read 12 = .ok (.aload_n 0, 1) := dk_42 (dk_at dksX16_read_0 12 rfl rfl)
theorem dX16_read_13 : decode cX16_read 13 = .ok (.invokevirtual 101, 3) := dk_182 0 101 (dk_at dksX16_read_0 13 rfl rfl)
theorem dX16_read_16 : decode cX16_read 16 = .ok (.iinc 1 1, 3) := dk_132 1 1 (dk_at dksX16_read_0 16 rfl rfl)
theorem dX16_read_19 : decode cX16_read 19 = .ok (.aload_n 0, 1) := dk_42 (dk_at dksX16_read_0 19 rfl rfl)
theorem dX16_read_20 : decode cX16_read 20 = .ok (.getfield 77, 3) := dk_180 0 77 (dk_at dksX16_read_0 20 rfl rfl)
theorem dX16_read_23 : decode cX16_read 23 = .ok (.ifCond .eq 14, 3) := dk_153 0 14 (dk_at dksX16_read_1 0 rfl rfl)
theorem dX16_read_26 : decode cX16_read 26 = .ok (.aload_n 0, 1) := dk_42 (dk_at dksX16_read_1 3 rfl rfl)
theorem dX16_read_27 : decode cX16_read 27 = .ok (.getfield 80, 3) := dk_180 0 80 (dk_at dksX16_read_1 4 rfl rfl)
theorem dX16_read_30 : decode cX16_read 30 = .ok (.aload_n 0, 1) := dk_42 (dk_at dksX16_read_1 7 rfl rfl)
theorem dX16_read_31 : decode cX16_read 31 = .ok (.getfield 73, 3) := dk_180 0 73 (dk_at dksX16_read_1 8 rfl rfl)
theorem dX16_read_34 : decode cX16_read 34 = .ok (.if_icmp .lt (-22), 3) := dk_161 255 234 (dk_at dksX16_read_1 11 rfl rfl)
theorem dX16_read_37 : decode cX16_read 37 = .ok (.aload_n 0, 1) := dk_42 (dk_at dksX16_read_1 14 rfl rfl)
theorem dX16_read_38 : decode cX16_read 38 = .ok (.getfield 77, 3) := dk_180 0 77 (dk_at dksX16_read_1 15 rfl rfl)
theorem dX16_read_41 : decode cX16_read 41 = .ok (.ifCond .ne 12, 3) := dk_154 0 12 (dk_at dksX16_read_1 18 rfl rfl)
theorem dX16_read_44 : decode cX16_read 44 = .ok (.sipush (-1000), 3) := dk_17 252 24 (dk_at dksX16_read_1 21 rfl rfl)
theorem dX16_read_47 : decode cX16_read 47 = .ok (.aload_n 0, 1) := dk_42 (dk_at dksX16_read_2 0 rfl rfl)
theorem dX16_read_48 : decode cX16_read 48 = .ok (.getfield 80, 3) := dk_180 0 80 (dk_at dksX16_read_2 1 rfl rfl)
theorem dX16_read_51 : decode cX16_read 51 = .ok (.isub, 1) := dk_100 (dk_at dksX16_read_2 4 rfl rfl)
theorem dX16_read_52 : decode cX16_read 52 = .ok (.ireturn, 1) := dk_172 (dk_at dksX16_read_2 5 rfl rfl)
theorem dX16_read_53 : decode cX16_read 53 = .ok (.aload_n 0, 1) := dk_42 (dk_at dksX16_read_2 6 rfl rfl)
theorem dX16_read_54 : decode cX16_read 54 = .ok (.iconst 0, 1) := dk_3 (dk_at dksX16_read_2 7 rfl rfl)
theorem dX16_read_55 : decode cX16_read 55 = .ok (.putfield 80, 3) := dk_181 0 80 (dk_at dksX16_read_2 8 rfl rfl)
theorem dX16_read_58 : decode cX16_read 58 = .ok (.aload_n 0, 1) := dk_42 (dk_at dksX16_read_2 11 rfl rfl)
theorem dX16_read_59 : decode cX16_read 59 = .ok (.getfield 11, 3) := dk_180 0 11 (dk_at dksX16_read_2 12 rfl rfl)
theorem dX16_read_62 : decode cX16_read 62 = .ok (.iconst 0, 1) := dk_3 (dk_at dksX16_read_2 15 rfl rfl)
theorem dX16_read_63 : decode cX16_read 63 = .ok (.iaload, 1) := dk_46 (dk_at dksX16_read_2 16 rfl rfl)
theorem dX16_read_64 : decode cX16_read 64 = .ok (.istore_n 2, 1) := dk_61 (dk_at dksX16_read_2 17 rfl rfl)
theorem dX16_read_65 : decode cX16_read 65 = .ok (.aload_n 0, 1) := dk_42 (dk_at dksX16_read_2 18 rfl rfl)
theorem dX16_read_66 : decode cX16_read 66 = .ok (.getfield 11, 3) := dk_180 0 11 (dk_at dksX16_read_2 19 rfl rfl)
theorem dX16_read_69 : decode cX16_read 69 = .ok (.iconst 1, 1) := dk_4 (dk_at dksX16_read_2 22 rfl rfl)
theorem dX16_read_70 : decode cX16_read 70 = .ok (.iaload, 1) := dk_46 (dk_at dksX16_read_2 23 rfl rfl)
theorem dX16_read_71 : decode cX16_read 71 = .ok (.istore_n 3, 1) := dk_62 (dk_at dksX16_read_3 0 rfl rfl)
theorem dX16_read_72 : decode cX16_read 72 = .ok (.aload_n 0, 1) := dk_42 (dk_at dksX16_read_3 1 rfl rfl)
theorem dX16_read_73 : decode cX16_read 73 = .ok (.getfield 80, 3) := dk_180 0 80 (dk_at dksX16_read_3 2 rfl rfl)
theorem dX16_read_76 : decode cX16_read 76 = .ok (.aload_n 0, 1) := dk_42 (dk_at dksX16_read_3 5 rfl rfl)
theorem dX16_read_77 : decode cX16_read 77 = .ok (.getfield 73, 3) := dk_180 0 73 (dk_at dksX16_read_3 6 rfl rfl)
theorem dX16_read_80 : decode cX16_read 80 = .ok (.if_icmp .ge 64, 3) := dk_162 0 64 (dk_at dksX16_read_3 9 rfl rfl)
theorem dX16_read_83 : decode cX16_read 83 = .ok (.aload_n 0, 1) := dk_42 (dk_at dksX16_read_3 12 rfl rfl)
theorem dX16_read_84 : decode cX16_read 84 = .ok (.getfield 80, 3) := dk_180 0 80 (dk_at dksX16_read_3 13 rfl rfl)
theorem dX16_read_87 : decode cX16_read 87 = .ok (.istore 4, 2) := dk_54 4 (dk_at dksX16_read_3 16 rfl rfl)
theorem dX16_read_89 : decode cX16_read 89 = .ok (.aload_n 0, 1) := dk_42 (dk_at dksX16_read_3 18 rfl rfl)
theorem dX16_read_90 : decode cX16_read 90 = .ok (.invokevirtual 101, 3) := dk_182 0 101 (dk_at dksX16_read_3 19 rfl rfl)
theorem dX16_read_93 : decode cX16_read 93 = .ok (.aload_n 0, 1) := dk_42 (dk_at dksX16_read_3 22 rfl rfl)
theorem dX16_read_94 : decode cX16_read 94 = .ok (.iload_n 2, 1) := dk_28 (dk_at dksX16_read_3 23 rfl rfl)
theorem dX16_read_95 : decode cX16_read 95 = .ok (.iload_n 3, 1) := dk_29 (dk_at dksX16_read_4 0 rfl rfl)
theorem dX16_read_96 : decode cX16_read 96 = .ok (.invokevirtual 104, 3) := dk_182 0 104 (dk_at dksX16_read_4 1 rfl rfl)
theorem dX16_read_99 : decode cX16_read 99 = .ok (.ifCond .ne 10, 3) := dk_154 0 10 (dk_at dksX16_read_4 4 rfl rfl)
theorem dX16_read_102 : decode cX16_read 102 = .ok (.sipush (-2000), 3) := dk_17 248 48 (dk_at dksX16_read_4 7 rfl rfl)
theorem dX16_read_105 : decode cX16_read 105 = .ok (.iload 4, 2) := dk_21 4 (dk_at dksX16_read_4 10 rfl rfl)
theorem dX16_read_107 : decode cX16_read 107 = .ok (.isub, 1) := dk_100 (dk_at dksX16_read_4 12 rfl rfl)
theorem dX16_read_108 : decode cX16_read 108 = .ok (.ireturn, 1) := dk_172 (dk_at dksX16_read_4 13 rfl rfl)
theorem dX16_read_109 : decode cX16_read 109 = .ok (.iload_n 2, 1) := dk_28 (dk_at dksX16_read_4 14 rfl rfl)
theorem dX16_read_110 : decode cX16_read 110 = .ok (.aload_n 0, 1) := dk_42 (dk_at dksX16_read_4 15 rfl rfl)
theorem dX16_read_111 : decode cX16_read 111 = .ok (.getfield 87, 3) := dk_180 0 87 (dk_at dksX16_read_4 16 rfl rfl)
theorem dX16_read_114 : decode cX16_read 114 = .ok (.iconst 1, 1) := dk_4 (dk_at dksX16_read_4 19 rfl rfl)
theorem dX16_read_115 : decode cX16_read 115 = .ok (.if_icmp .ne 7, 3) := dk_160 0 7 (dk_at dksX16_read_4 20 rfl rfl)
theorem dX16_read_118 : decode cX16_read 118 = .ok (.iconst 1, 1) := dk_4 (dk_at dksX16_read_4 23 rfl rfl)
theorem dX16_read_119 : decode cX16_read 119 = .ok (.goto 4, 3) := dk_167 0 4 (dk_at dksX16_read_5 0 rfl rfl)
theorem dX16_read_122 : decode cX16_read 122 = .ok (.iconst 0, 1) := dk_3 (dk_at dksX16_read_5 3 rfl rfl)
theorem dX16_read_123 : decode cX16_read 123 = .ok (.iadd, 1) := dk_96 (dk_at dksX16_read_5 4 rfl rfl)
theorem dX16_read_124 : decode cX16_read 124 = .ok (.istore_n 2, 1) := dk_61 (dk_at dksX16_read_5 5 rfl rfl)
theorem dX16_read_125 : decode cX16_read 125 = .ok (.iload_n 3, 1) := dk_29 (dk_at dksX16_read_5 6 rfl rfl)
theorem dX16_read_126 : decode cX16_read 126 = .ok (.aload_n 0, 1) := dk_42 (dk_at dksX16_read_5 7 rfl rfl)
theorem dX16_read_127 : decode cX16_read 127 = .ok (.getfield 87, 3) := dk_180 0 87 (dk_at dksX16_read_5 8 rfl rfl)
theorem dX16_read_130 : decode cX16_read 130 = .ok (.iconst 2, 1) := dk_5 (dk_at dksX16_read_5 11 rfl rfl)
theorem dX16_read_131 : decode cX16_read 131 = .ok (.if_icmp .ne 7, 3) := dk_160 0 7 (dk_at dksX16_read_5 12 rfl rfl)
theorem dX16_read_134 : decode cX16_read 134 = .ok (.iconst 1, 1) := dk_4 (dk_at dksX16_read_5 15 rfl rfl)
theorem dX16_read_135 : decode cX16_read 135 = .ok (.goto 4, 3) := dk_167 0 4 (dk_at dksX16_read_5 16 rfl rfl)
theorem dX16_read_138 : decode cX16_read 138 = .ok (.iconst 0, 1) := dk_3 (dk_at dksX16_read_5 19 rfl rfl)
theorem dX16_read_139 : decode cX16_read 139 = .ok (.iadd, 1) := dk_96 (dk_at dksX16_read_5 20 rfl rfl)
theorem dX16_read_140 : decode cX16_read 140 = .ok (.istore_n 3, 1) := dk_62 (dk_at dksX16_read_5 21 rfl rfl)
theorem dX16_read_141 : decode cX16_read 141 = .ok (.goto (-69), 3) := dk_167 255 187 (dk_at dksX16_read_6 0 rfl rfl)
theorem dX16_read_144 : decode cX16_read 144 = .ok (.aload_n 0, 1) := dk_42 (dk_at dksX16_read_6 3 rfl rfl)
theorem dX16_read_145 : decode cX16_read 145 = .ok (.iconst 0, 1) := dk_3 (dk_at dksX16_read_6 4 rfl rfl)
theorem dX16_read_146 : decode cX16_read 146 = .ok (.putfield 80, 3) := dk_181 0 80 (dk_at dksX16_read_6 5 rfl rfl)
theorem dX16_read_149 : decode cX16_read 149 = .ok (.aload_n 0, 1) := dk_42 (dk_at dksX16_read_6 8 rfl rfl)
theorem dX16_read_150 : decode cX16_read 150 = .ok (.getfield 80, 3) := dk_180 0 80 (dk_at dksX16_read_6 9 rfl rfl)
theorem dX16_read_153 : decode cX16_read 153 = .ok (.aload_n 0, 1) := dk_42 (dk_at dksX16_read_6 12 rfl rfl)
theorem dX16_read_154 : decode cX16_read 154 = .ok (.getfield 73, 3) := dk_180 0 73 (dk_at dksX16_read_6 13 rfl rfl)
theorem dX16_read_157 : decode cX16_read 157 = .ok (.if_icmp .ge 14, 3) := dk_162 0 14 (dk_at dksX16_read_6 16 rfl rfl)
theorem dX16_read_160 : decode cX16_read 160 = .ok (.aload_n 0, 1) := dk_42 (dk_at dksX16_read_6 19 rfl rfl)
theorem dX16_read_161 : decode cX16_read 161 = .ok (.invokevirtual 101, 3) := dk_182 0 101 (dk_at dksX16_read_6 20 rfl rfl)
theorem dX16_read_164 : decode cX16_read 164 = .ok (.aload_n 0, 1) := dk_42 (dk_at dksX16_read_6 23 rfl rfl)
theorem dX16_read_165 : decode cX16_read 165 = .ok (.invokevirtual 108, 3) := dk_182 0 108 (dk_at dksX16_read_7 0 rfl rfl)
theorem dX16_read_168 : decode cX16_read 168 = .ok (.goto (-19), 3) := dk_167 255 237 (dk_at dksX16_read_7 3 rfl rfl)
theorem dX16_read_171 : decode cX16_read 171 = .ok (.iload_n 1, 1) := dk_27 (dk_at dksX16_read_7 6 rfl rfl)
theorem dX16_read_172 : decode cX16_read 172 = .ok (.ireturn, 1) := dk_172 (dk_at dksX16_read_7 7 rfl rfl)
abbrev cX16_statement : ByteArray := prog_28_method_12_code
def yX16_statement : MethodName := ⟨RX16, "statement", "()V"⟩
def dkwX16_statement_6 : List UInt8 := [180, 0, 47, 3, 42, 5, 182, 0, 90, 79, 42, 16, 59, 182, 0, 93, 177]
abbrev dktX16_statement_6 : List UInt8 := dkwX16_statement_6 ++ []
def dkwX16_statement_5 : List UInt8 := [180, 0, 44, 182, 0, 83, 79, 42, 180, 0, 47, 4, 42, 4, 182, 0, 90, 79, 167, 0, 14, 42]
abbrev dktX16_statement_5 : List UInt8 := dkwX16_statement_5 ++ dktX16_statement_6
def dkwX16_statement_4 : List UInt8 := [182, 0, 90, 79, 167, 0, 50, 42, 180, 0, 87, 5, 160, 0, 31, 42, 180, 0, 47, 3, 42, 42]
abbrev dktX16_statement_4 : List UInt8 := dkwX16_statement_4 ++ dktX16_statement_5
def dkwX16_statement_3 : List UInt8 := [182, 0, 90, 79, 42, 180, 0, 47, 7, 42, 4, 182, 0, 90, 79, 42, 180, 0, 47, 8, 42, 4]
abbrev dktX16_statement_3 : List UInt8 := dkwX16_statement_3 ++ dktX16_statement_4
def dkwX16_statement_2 : List UInt8 := [180, 0, 47, 5, 42, 4, 182, 0, 90, 79, 42, 16, 44, 182, 0, 93, 42, 180, 0, 47, 6, 42, 4]
abbrev dktX16_statement_2 : List UInt8 := dkwX16_statement_2 ++ dktX16_statement_3
def dkwX16_statement_1 : List UInt8 := [3, 42, 4, 182, 0, 90, 79, 42, 180, 0, 47, 4, 42, 42, 180, 0, 41, 182, 0, 83, 79, 42]
abbrev dktX16_statement_1 : List UInt8 := dkwX16_statement_1 ++ dktX16_statement_2
def dkwX16_statement_0 : List UInt8 := [42, 42, 42, 180, 0, 37, 182, 0, 83, 181, 0, 87, 42, 180, 0, 87, 4, 160, 0, 81, 42, 180, 0, 47]
abbrev dktX16_statement_0 : List UInt8 := dkwX16_statement_0 ++ dktX16_statement_1
theorem dksX16_statement_0 : cX16_statement.data.toList.drop 0 = dktX16_statement_0 := by decide +kernel
theorem dksX16_statement_1 : cX16_statement.data.toList.drop 24 = dktX16_statement_1 := dk_seg dksX16_statement_0 24 rfl rfl
theorem dksX16_statement_2 : cX16_statement.data.toList.drop 46 = dktX16_statement_2 := dk_seg dksX16_statement_1 22 rfl rfl
theorem dksX16_statement_3 : cX16_statement.data.toList.drop 69 = dktX16_statement_3 := dk_seg dksX16_statement_2 23 rfl rfl
theorem dksX16_statement_4 : cX16_statement.data.toList.drop 91 = dktX16_statement_4 := dk_seg dksX16_statement_3 22 rfl rfl
theorem dksX16_statement_5 : cX16_statement.data.toList.drop 113 = dktX16_statement_5 := dk_seg dksX16_statement_4 22 rfl rfl
theorem dksX16_statement_6 : cX16_statement.data.toList.drop 135 = dktX16_statement_6 := dk_seg dksX16_statement_5 22 rfl rfl
theorem dX16_statement_0 : decode cX16_statement 0 = .ok (.aload_n 0, 1) := dk_42 (dk_at dksX16_statement_0 0 rfl rfl)
theorem dX16_statement_1 : decode cX16_statement 1 = .ok (.aload_n 0, 1) := dk_42 (dk_at dksX16_statement_0 1 rfl rfl)
theorem dX16_statement_2 : decode cX16_statement 2 = .ok (.aload_n 0, 1) := dk_42 (dk_at dksX16_statement_0 2 rfl rfl)
theorem dX16_statement_3 : decode cX16_statement 3 = .ok (.getfield 37, 3) := dk_180 0 37 (dk_at dksX16_statement_0 3 rfl rfl)
theorem dX16_statement_6 : decode cX16_statement 6 = .ok (.invokevirtual 83, 3) := dk_182 0 83 (dk_at dksX16_statement_0 6 rfl rfl)
theorem dX16_statement_9 : decode cX16_statement 9 = .ok (.putfield 87, 3) := dk_181 0 87 (dk_at dksX16_statement_0 9 rfl rfl)
theorem dX16_statement_12 : decode cX16_statement 12 = .ok (.aload_n 0, 1) := dk_42 (dk_at dksX16_statement_0 12 rfl rfl)
theorem dX16_statement_13 : decode cX16_statement 13 = .ok (.getfield 87, 3) := dk_180 0 87 (dk_at dksX16_statement_0 13 rfl rfl)
theorem dX16_statement_16 : decode cX16_statement 16 = .ok (.iconst 1, 1) := dk_4 (dk_at dksX16_statement_0 16 rfl rfl)
theorem dX16_statement_17 : decode cX16_statement 17 = .ok (.if_icmp .ne 81, 3) := dk_160 0 81 (dk_at dksX16_statement_0 17 rfl rfl)
theorem dX16_statement_20 : decode cX16_statement 20 = .ok (.aload_n 0, 1) := dk_42 (dk_at dksX16_statement_0 20 rfl rfl)
theorem dX16_statement_21 : decode cX16_statement 21 = .ok (.getfield 47, 3) := dk_180 0 47 (dk_at dksX16_statement_0 21 rfl rfl)
theorem dX16_statement_24 : decode cX16_statement 24 = .ok (.iconst 0, 1) := dk_3 (dk_at dksX16_statement_1 0 rfl rfl)
theorem dX16_statement_25 : decode cX16_statement 25 = .ok (.aload_n 0, 1) := dk_42 (dk_at dksX16_statement_1 1 rfl rfl)
theorem dX16_statement_26 : decode cX16_statement 26 = .ok (.iconst 1, 1) := dk_4 (dk_at dksX16_statement_1 2 rfl rfl)
theorem dX16_statement_27 : decode cX16_statement 27 = .ok (.invokevirtual 90, 3) := dk_182 0 90 (dk_at dksX16_statement_1 3 rfl rfl)
theorem dX16_statement_30 : decode cX16_statement 30 = .ok (.iastore, 1) := dk_79 (dk_at dksX16_statement_1 6 rfl rfl)
theorem dX16_statement_31 : decode cX16_statement 31 = .ok (.aload_n 0, 1) := dk_42 (dk_at dksX16_statement_1 7 rfl rfl)
theorem dX16_statement_32 : decode cX16_statement 32 = .ok (.getfield 47, 3) := dk_180 0 47 (dk_at dksX16_statement_1 8 rfl rfl)
theorem dX16_statement_35 : decode cX16_statement 35 = .ok (.iconst 1, 1) := dk_4 (dk_at dksX16_statement_1 11 rfl rfl)
theorem dX16_statement_36 : decode cX16_statement 36 = .ok (.aload_n 0, 1) := dk_42 (dk_at dksX16_statement_1 12 rfl rfl)
theorem dX16_statement_37 : decode cX16_statement 37 = .ok (.aload_n 0, 1) := dk_42 (dk_at dksX16_statement_1 13 rfl rfl)
theorem dX16_statement_38 : decode cX16_statement 38 = .ok (.getfield 41, 3) := dk_180 0 41 (dk_at dksX16_statement_1 14 rfl rfl)
theorem dX16_statement_41 : decode cX16_statement 41 = .ok (.invokevirtual 83, 3) := dk_182 0 83 (dk_at dksX16_statement_1 17 rfl rfl)
theorem dX16_statement_44 : decode cX16_statement 44 = .ok (.iastore, 1) := dk_79 (dk_at dksX16_statement_1 20 rfl rfl)
theorem dX16_statement_45 : decode cX16_statement 45 = .ok (.aload_n 0, 1) := dk_42 (dk_at dksX16_statement_1 21 rfl rfl)
theorem dX16_statement_46 : decode cX16_statement 46 = .ok (.getfield 47, 3) := dk_180 0 47 (dk_at dksX16_statement_2 0 rfl rfl)
theorem dX16_statement_49 : decode cX16_statement 49 = .ok (.iconst 2, 1) := dk_5 (dk_at dksX16_statement_2 3 rfl rfl)
theorem dX16_statement_50 : decode cX16_statement 50 = .ok (.aload_n 0, 1) := dk_42 (dk_at dksX16_statement_2 4 rfl rfl)
theorem dX16_statement_51 : decode cX16_statement 51 = .ok (.iconst 1, 1) := dk_4 (dk_at dksX16_statement_2 5 rfl rfl)
theorem dX16_statement_52 : decode cX16_statement 52 = .ok (.invokevirtual 90, 3) := dk_182 0 90 (dk_at dksX16_statement_2 6 rfl rfl)
theorem dX16_statement_55 : decode cX16_statement 55 = .ok (.iastore, 1) := dk_79 (dk_at dksX16_statement_2 9 rfl rfl)
theorem dX16_statement_56 : decode cX16_statement 56 = .ok (.aload_n 0, 1) := dk_42 (dk_at dksX16_statement_2 10 rfl rfl)
theorem dX16_statement_57 : decode cX16_statement 57 = .ok (.bipush 44, 2) := dk_16 44 (dk_at dksX16_statement_2 11 rfl rfl)
theorem dX16_statement_59 : decode cX16_statement 59 = .ok (.invokevirtual 93, 3) := dk_182 0 93 (dk_at dksX16_statement_2 13 rfl rfl)
theorem dX16_statement_62 : decode cX16_statement 62 = .ok (.aload_n 0, 1) := dk_42 (dk_at dksX16_statement_2 16 rfl rfl)
theorem dX16_statement_63 : decode cX16_statement 63 = .ok (.getfield 47, 3) := dk_180 0 47 (dk_at dksX16_statement_2 17 rfl rfl)
theorem dX16_statement_66 : decode cX16_statement 66 = .ok (.iconst 3, 1) := dk_6 (dk_at dksX16_statement_2 20 rfl rfl)
theorem dX16_statement_67 : decode cX16_statement 67 = .ok (.aload_n 0, 1) := dk_42 (dk_at dksX16_statement_2 21 rfl rfl)
theorem dX16_statement_68 : decode cX16_statement 68 = .ok (.iconst 1, 1) := dk_4 (dk_at dksX16_statement_2 22 rfl rfl)
theorem dX16_statement_69 : decode cX16_statement 69 = .ok (.invokevirtual 90, 3) := dk_182 0 90 (dk_at dksX16_statement_3 0 rfl rfl)
theorem dX16_statement_72 : decode cX16_statement 72 = .ok (.iastore, 1) := dk_79 (dk_at dksX16_statement_3 3 rfl rfl)
theorem dX16_statement_73 : decode cX16_statement 73 = .ok (.aload_n 0, 1) := dk_42 (dk_at dksX16_statement_3 4 rfl rfl)
theorem dX16_statement_74 : decode cX16_statement 74 = .ok (.getfield 47, 3) := dk_180 0 47 (dk_at dksX16_statement_3 5 rfl rfl)
theorem dX16_statement_77 : decode cX16_statement 77 = .ok (.iconst 4, 1) := dk_7 (dk_at dksX16_statement_3 8 rfl rfl)
theorem dX16_statement_78 : decode cX16_statement 78 = .ok (.aload_n 0, 1) := dk_42 (dk_at dksX16_statement_3 9 rfl rfl)
theorem dX16_statement_79 : decode cX16_statement 79 = .ok (.iconst 1, 1) := dk_4 (dk_at dksX16_statement_3 10 rfl rfl)
theorem dX16_statement_80 : decode cX16_statement 80 = .ok (.invokevirtual 90, 3) := dk_182 0 90 (dk_at dksX16_statement_3 11 rfl rfl)
theorem dX16_statement_83 : decode cX16_statement 83 = .ok (.iastore, 1) := dk_79 (dk_at dksX16_statement_3 14 rfl rfl)
theorem dX16_statement_84 : decode cX16_statement 84 = .ok (.aload_n 0, 1) := dk_42 (dk_at dksX16_statement_3 15 rfl rfl)
theorem dX16_statement_85 : decode cX16_statement 85 = .ok (.getfield 47, 3) := dk_180 0 47 (dk_at dksX16_statement_3 16 rfl rfl)
theorem dX16_statement_88 : decode cX16_statement 88 = .ok (.iconst 5, 1) := dk_8 (dk_at dksX16_statement_3 19 rfl rfl)
theorem dX16_statement_89 : decode cX16_statement 89 = .ok (.aload_n 0, 1) := dk_42 (dk_at dksX16_statement_3 20 rfl rfl)
theorem dX16_statement_90 : decode cX16_statement 90 = .ok (.iconst 1, 1) := dk_4 (dk_at dksX16_statement_3 21 rfl rfl)
theorem dX16_statement_91 : decode cX16_statement 91 = .ok (.invokevirtual 90, 3) := dk_182 0 90 (dk_at dksX16_statement_4 0 rfl rfl)
theorem dX16_statement_94 : decode cX16_statement 94 = .ok (.iastore, 1) := dk_79 (dk_at dksX16_statement_4 3 rfl rfl)
theorem dX16_statement_95 : decode cX16_statement 95 = .ok (.goto 50, 3) := dk_167 0 50 (dk_at dksX16_statement_4 4 rfl rfl)
theorem dX16_statement_98 : decode cX16_statement 98 = .ok (.aload_n 0, 1) := dk_42 (dk_at dksX16_statement_4 7 rfl rfl)
theorem dX16_statement_99 : decode cX16_statement 99 = .ok (.getfield 87, 3) := dk_180 0 87 (dk_at dksX16_statement_4 8 rfl rfl)
theorem dX16_statement_102 : decode cX16_statement 102 = .ok (.iconst 2, 1) := dk_5 (dk_at dksX16_statement_4 11 rfl rfl)
theorem dX16_statement_103 : decode cX16_statement 103 = .ok (.if_icmp .ne 31, 3) := dk_160 0 31 (dk_at dksX16_statement_4 12 rfl rfl)
theorem dX16_statement_106 : decode cX16_statement 106 = .ok (.aload_n 0, 1) := dk_42 (dk_at dksX16_statement_4 15 rfl rfl)
theorem dX16_statement_107 : decode cX16_statement 107 = .ok (.getfield 47, 3) := dk_180 0 47 (dk_at dksX16_statement_4 16 rfl rfl)
theorem dX16_statement_110 : decode cX16_statement 110 = .ok (.iconst 0, 1) := dk_3 (dk_at dksX16_statement_4 19 rfl rfl)
theorem dX16_statement_111 : decode cX16_statement 111 = .ok (.aload_n 0, 1) := dk_42 (dk_at dksX16_statement_4 20 rfl rfl)
theorem dX16_statement_112 : decode cX16_statement 112 = .ok (.aload_n 0, 1) := dk_42 (dk_at dksX16_statement_4 21 rfl rfl)
theorem dX16_statement_113 : decode cX16_statement 113 = .ok (.getfield 44, 3) := dk_180 0 44 (dk_at dksX16_statement_5 0 rfl rfl)
theorem dX16_statement_116 : decode cX16_statement 116 = .ok (.invokevirtual 83, 3) := dk_182 0 83 (dk_at dksX16_statement_5 3 rfl rfl)
theorem dX16_statement_119 : decode cX16_statement 119 = .ok (.iastore, 1) := dk_79 (dk_at dksX16_statement_5 6 rfl rfl)
theorem dX16_statement_120 : decode cX16_statement 120 = .ok (.aload_n 0, 1) := dk_42 (dk_at dksX16_statement_5 7 rfl rfl)
theorem dX16_statement_121 : decode cX16_statement 121 = .ok (.getfield 47, 3) := dk_180 0 47 (dk_at dksX16_statement_5 8 rfl rfl)
theorem dX16_statement_124 : decode cX16_statement 124 = .ok (.iconst 1, 1) := dk_4 (dk_at dksX16_statement_5 11 rfl rfl)
theorem dX16_statement_125 : decode cX16_statement 125 = .ok (.aload_n 0, 1) := dk_42 (dk_at dksX16_statement_5 12 rfl rfl)
theorem dX16_statement_126 : decode cX16_statement 126 = .ok (.iconst 1, 1) := dk_4 (dk_at dksX16_statement_5 13 rfl rfl)
theorem dX16_statement_127 : decode cX16_statement 127 = .ok (.invokevirtual 90, 3) := dk_182 0 90 (dk_at dksX16_statement_5 14 rfl rfl)
theorem dX16_statement_130 : decode cX16_statement 130 = .ok (.iastore, 1) := dk_79 (dk_at dksX16_statement_5 17 rfl rfl)
theorem dX16_statement_131 : decode cX16_statement 131 = .ok (.goto 14, 3) := dk_167 0 14 (dk_at dksX16_statement_5 18 rfl rfl)
theorem dX16_statement_134 : decode cX16_statement 134 = .ok (.aload_n 0, 1) := dk_42 (dk_at dksX16_statement_5 21 rfl rfl)
theorem dX16_statement_135 : decode cX16_statement 135 = .ok (.getfield 47, 3) := dk_180 0 47 (dk_at dksX16_statement_6 0 rfl rfl)
theorem dX16_statement_138 : decode cX16_statement 138 = .ok (.iconst 0, 1) := dk_3 (dk_at dksX16_statement_6 3 rfl rfl)
theorem dX16_statement_139 : decode cX16_statement 139 = .ok (.aload_n 0, 1) := dk_42 (dk_at dksX16_statement_6 4 rfl rfl)
theorem dX16_statement_140 : decode cX16_statement 140 = .ok (.iconst 2, 1) := dk_5 (dk_at dksX16_statement_6 5 rfl rfl)
theorem dX16_statement_141 : decode cX16_statement 141 = .ok (.invokevirtual 90, 3) := dk_182 0 90 (dk_at dksX16_statement_6 6 rfl rfl)
theorem dX16_statement_144 : decode cX16_statement 144 = .ok (.iastore, 1) := dk_79 (dk_at dksX16_statement_6 9 rfl rfl)
theorem dX16_statement_145 : decode cX16_statement 145 = .ok (.aload_n 0, 1) := dk_42 (dk_at dksX16_statement_6 10 rfl rfl)
theorem dX16_statement_146 : decode cX16_statement 146 = .ok (.bipush 59, 2) := dk_16 59 (dk_at dksX16_statement_6 11 rfl rfl)
theorem dX16_statement_148 : decode cX16_statement 148 = .ok (.invokevirtual 93, 3) := dk_182 0 93 (dk_at dksX16_statement_6 13 rfl rfl)
theorem dX16_statement_151 : decode cX16_statement 151 = .ok (.return_, 1) := dk_177 (dk_at dksX16_statement_6 16 rfl rfl)
abbrev cX16_oneOf : ByteArray := prog_28_method_10_code
def yX16_oneOf : MethodName := ⟨RX16, "oneOf", "([C)I"⟩
def dkwX16_oneOf_3 : List UInt8 := [180, 0, 80, 4, 96, 181, 0, 80, 28, 172]
abbrev dktX16_oneOf_3 : List UInt8 := dkwX16_oneOf_3 ++ []
def dkwX16_oneOf_2 : List UInt8 := [160, 0, 5, 29, 61, 132, 3, 1, 167, 255, 208, 28, 156, 0, 10, 42, 3, 181, 0, 77, 3, 172, 42, 89]
abbrev dktX16_oneOf_2 : List UInt8 := dkwX16_oneOf_2 ++ dktX16_oneOf_3
def dkwX16_oneOf_1 : List UInt8 := [180, 0, 80, 42, 180, 0, 73, 162, 0, 20, 42, 180, 0, 34, 42, 180, 0, 80, 46, 43, 29, 52]
abbrev dktX16_oneOf_1 : List UInt8 := dkwX16_oneOf_1 ++ dktX16_oneOf_2
def dkwX16_oneOf_0 : List UInt8 := [2, 61, 3, 62, 29, 43, 190, 162, 0, 48, 42, 180, 0, 77, 153, 0, 41, 28, 156, 0, 37, 42]
abbrev dktX16_oneOf_0 : List UInt8 := dkwX16_oneOf_0 ++ dktX16_oneOf_1
theorem dksX16_oneOf_0 : cX16_oneOf.data.toList.drop 0 = dktX16_oneOf_0 := by decide +kernel
theorem dksX16_oneOf_1 : cX16_oneOf.data.toList.drop 22 = dktX16_oneOf_1 := dk_seg dksX16_oneOf_0 22 rfl rfl
theorem dksX16_oneOf_2 : cX16_oneOf.data.toList.drop 44 = dktX16_oneOf_2 := dk_seg dksX16_oneOf_1 22 rfl rfl
theorem dksX16_oneOf_3 : cX16_oneOf.data.toList.drop 68 = dktX16_oneOf_3 := dk_seg dksX16_oneOf_2 24 rfl rfl
theorem dX16_oneOf_0 : decode cX16_oneOf 0 = .ok (.iconst (-1), 1) := dk_2 (dk_at dksX16_oneOf_0 0 rfl rfl)
theorem dX16_oneOf_1 : decode cX16_oneOf 1 = .ok (.istore_n 2, 1) := dk_61 (dk_at dksX16_oneOf_0 1 rfl rfl)
theorem dX16_oneOf_2 : decode cX16_oneOf 2 = .ok (.iconst 0, 1) := dk_3 (dk_at dksX16_oneOf_0 2 rfl rfl)
theorem dX16_oneOf_3 : decode cX16_oneOf 3 = .ok (.istore_n 3, 1) := dk_62 (dk_at dksX16_oneOf_0 3 rfl rfl)
theorem dX16_oneOf_4 : decode cX16_oneOf 4 = .ok (.iload_n 3, 1) := dk_29 (dk_at dksX16_oneOf_0 4 rfl rfl)
theorem dX16_oneOf_5 : decode cX16_oneOf 5 = .ok (.aload_n 1, 1) := dk_43 (dk_at dksX16_oneOf_0 5 rfl rfl)
theorem dX16_oneOf_6 : decode cX16_oneOf 6 = .ok (.arraylength, 1) := dk_190 (dk_at dksX16_oneOf_0 6 rfl rfl)
theorem dX16_oneOf_7 : decode cX16_oneOf 7 = .ok (.if_icmp .ge 48, 3) := dk_162 0 48 (dk_at dksX16_oneOf_0 7 rfl rfl)
theorem dX16_oneOf_10 : decode cX16_oneOf 10 = .ok (.aload_n 0, 1) := dk_42 (dk_at dksX16_oneOf_0 10 rfl rfl)
theorem dX16_oneOf_11 : decode cX16_oneOf 11 = .ok (.getfield 77, 3) := dk_180 0 77 (dk_at dksX16_oneOf_0 11 rfl rfl)
theorem dX16_oneOf_14 : decode cX16_oneOf 14 = .ok (.ifCond .eq 41, 3) := dk_153 0 41 (dk_at dksX16_oneOf_0 14 rfl rfl)
theorem dX16_oneOf_17 : decode cX16_oneOf 17 = .ok (.iload_n 2, 1) := dk_28 (dk_at dksX16_oneOf_0 17 rfl rfl)
theorem dX16_oneOf_18 : decode cX16_oneOf 18 = .ok (.ifCond .ge 37, 3) := dk_156 0 37 (dk_at dksX16_oneOf_0 18 rfl rfl)
theorem dX16_oneOf_21 : decode cX16_oneOf 21 = .ok (.aload_n 0, 1) := dk_42 (dk_at dksX16_oneOf_0 21 rfl rfl)
theorem dX16_oneOf_22 : decode cX16_oneOf 22 = .ok (.getfield 80, 3) := dk_180 0 80 (dk_at dksX16_oneOf_1 0 rfl rfl)
theorem dX16_oneOf_25 : decode cX16_oneOf 25 = .ok (.aload_n 0, 1) := dk_42 (dk_at dksX16_oneOf_1 3 rfl rfl)
theorem dX16_oneOf_26 : decode cX16_oneOf 26 = .ok (.getfield 73, 3) := dk_180 0 73 (dk_at dksX16_oneOf_1 4 rfl rfl)
theorem dX16_oneOf_29 : decode cX16_oneOf 29 = .ok (.if_icmp .ge 20, 3) := dk_162 0 20 (dk_at dksX16_oneOf_1 7 rfl rfl)
theorem dX16_oneOf_32 : decode cX16_oneOf 32 = .ok (.aload_n 0, 1) := dk_42 (dk_at dksX16_oneOf_1 10 rfl rfl)
theorem dX16_oneOf_33 : decode cX16_oneOf 33 = .ok (.getfield 34, 3) := dk_180 0 34 (dk_at dksX16_oneOf_1 11 rfl rfl)
theorem dX16_oneOf_36 : decode cX16_oneOf 36 = .ok (.aload_n 0, 1) := dk_42 (dk_at dksX16_oneOf_1 14 rfl rfl)
theorem dX16_oneOf_37 : decode cX16_oneOf 37 = .ok (.getfield 80, 3) := dk_180 0 80 (dk_at dksX16_oneOf_1 15 rfl rfl)
theorem dX16_oneOf_40 : decode cX16_oneOf 40 = .ok (.iaload, 1) := dk_46 (dk_at dksX16_oneOf_1 18 rfl rfl)
theorem dX16_oneOf_41 : decode cX16_oneOf 41 = .ok (.aload_n 1, 1) := dk_43 (dk_at dksX16_oneOf_1 19 rfl rfl)
theorem dX16_oneOf_42 : decode cX16_oneOf 42 = .ok (.iload_n 3, 1) := dk_29 (dk_at dksX16_oneOf_1 20 rfl rfl)
theorem dX16_oneOf_43 : decode cX16_oneOf 43 = .ok (.caload, 1) := dk_52 (dk_at dksX16_oneOf_1 21 rfl rfl)
theorem dX16_oneOf_44 : decode cX16_oneOf 44 = .ok (.if_icmp .ne 5, 3) := dk_160 0 5 (dk_at dksX16_oneOf_2 0 rfl rfl)
theorem dX16_oneOf_47 : decode cX16_oneOf 47 = .ok (.iload_n 3, 1) := dk_29 (dk_at dksX16_oneOf_2 3 rfl rfl)
theorem dX16_oneOf_48 : decode cX16_oneOf 48 = .ok (.istore_n 2, 1) := dk_61 (dk_at dksX16_oneOf_2 4 rfl rfl)
theorem dX16_oneOf_49 : decode cX16_oneOf 49 = .ok (.iinc 3 1, 3) := dk_132 3 1 (dk_at dksX16_oneOf_2 5 rfl rfl)
theorem dX16_oneOf_52 : decode cX16_oneOf 52 = .ok (.goto (-48), 3) := dk_167 255 208 (dk_at dksX16_oneOf_2 8 rfl rfl)
theorem dX16_oneOf_55 : decode cX16_oneOf 55 = .ok (.iload_n 2, 1) := dk_28 (dk_at dksX16_oneOf_2 11 rfl rfl)
theorem dX16_oneOf_56 : decode cX16_oneOf 56 = .ok (.ifCond .ge 10, 3) := dk_156 0 10 (dk_at dksX16_oneOf_2 12 rfl rfl)
theorem dX16_oneOf_59 : decode cX16_oneOf 59 = .ok (.aload_n 0, 1) := dk_42 (dk_at dksX16_oneOf_2 15 rfl rfl)
theorem dX16_oneOf_60 : decode cX16_oneOf 60 = .ok (.iconst 0, 1) := dk_3 (dk_at dksX16_oneOf_2 16 rfl rfl)
theorem dX16_oneOf_61 : decode cX16_oneOf 61 = .ok (.putfield 77, 3) := dk_181 0 77 (dk_at dksX16_oneOf_2 17 rfl rfl)
theorem dX16_oneOf_64 : decode cX16_oneOf 64 = .ok (.iconst 0, 1) := dk_3 (dk_at dksX16_oneOf_2 20 rfl rfl)
theorem dX16_oneOf_65 : decode cX16_oneOf 65 = .ok (.ireturn, 1) := dk_172 (dk_at dksX16_oneOf_2 21 rfl rfl)
theorem dX16_oneOf_66 : decode cX16_oneOf 66 = .ok (.aload_n 0, 1) := dk_42 (dk_at dksX16_oneOf_2 22 rfl rfl)
theorem dX16_oneOf_67 : decode cX16_oneOf 67 = .ok (.dup, 1) := dk_89 (dk_at dksX16_oneOf_2 23 rfl rfl)
theorem dX16_oneOf_68 : decode cX16_oneOf 68 = .ok (.getfield 80, 3) := dk_180 0 80 (dk_at dksX16_oneOf_3 0 rfl rfl)
theorem dX16_oneOf_71 : decode cX16_oneOf 71 = .ok (.iconst 1, 1) := dk_4 (dk_at dksX16_oneOf_3 3 rfl rfl)
theorem dX16_oneOf_72 : decode cX16_oneOf 72 = .ok (.iadd, 1) := dk_96 (dk_at dksX16_oneOf_3 4 rfl rfl)
theorem dX16_oneOf_73 : decode cX16_oneOf 73 = .ok (.putfield 80, 3) := dk_181 0 80 (dk_at dksX16_oneOf_3 5 rfl rfl)
theorem dX16_oneOf_76 : decode cX16_oneOf 76 = .ok (.iload_n 2, 1) := dk_28 (dk_at dksX16_oneOf_3 8 rfl rfl)
theorem dX16_oneOf_77 : decode cX16_oneOf 77 = .ok (.ireturn, 1) := dk_172 (dk_at dksX16_oneOf_3 9 rfl rfl)
abbrev cX16_figures : ByteArray := prog_28_method_11_code
def yX16_figures : MethodName := ⟨RX16, "figures", "(I)I"⟩
def dkwX16_figures_4 : List UInt8 := [42, 3, 181, 0, 77, 28, 172]
abbrev dktX16_figures_4 : List UInt8 := dkwX16_figures_4 ++ []
def dkwX16_figures_3 : List UInt8 := [16, 48, 100, 61, 42, 89, 180, 0, 80, 4, 96, 181, 0, 80, 132, 3, 1, 167, 255, 174, 29, 154, 0, 8]
abbrev dktX16_figures_3 : List UInt8 := dkwX16_figures_3 ++ dktX16_figures_4
def dkwX16_figures_2 : List UInt8 := [180, 0, 80, 46, 16, 57, 163, 0, 37, 16, 10, 28, 104, 42, 180, 0, 34, 42, 180, 0, 80, 46, 96]
abbrev dktX16_figures_2 : List UInt8 := dkwX16_figures_2 ++ dktX16_figures_3
def dkwX16_figures_1 : List UInt8 := [162, 0, 65, 42, 180, 0, 34, 42, 180, 0, 80, 46, 16, 48, 161, 0, 51, 42, 180, 0, 34, 42]
abbrev dktX16_figures_1 : List UInt8 := dkwX16_figures_1 ++ dktX16_figures_2
def dkwX16_figures_0 : List UInt8 := [3, 61, 3, 62, 42, 180, 0, 77, 153, 0, 81, 29, 27, 162, 0, 76, 42, 180, 0, 80, 42, 180, 0, 73]
abbrev dktX16_figures_0 : List UInt8 := dkwX16_figures_0 ++ dktX16_figures_1
theorem dksX16_figures_0 : cX16_figures.data.toList.drop 0 = dktX16_figures_0 := by decide +kernel
theorem dksX16_figures_1 : cX16_figures.data.toList.drop 24 = dktX16_figures_1 := dk_seg dksX16_figures_0 24 rfl rfl
theorem dksX16_figures_2 : cX16_figures.data.toList.drop 46 = dktX16_figures_2 := dk_seg dksX16_figures_1 22 rfl rfl
theorem dksX16_figures_3 : cX16_figures.data.toList.drop 69 = dktX16_figures_3 := dk_seg dksX16_figures_2 23 rfl rfl
theorem dksX16_figures_4 : cX16_figures.data.toList.drop 93 = dktX16_figures_4 := dk_seg dksX16_figures_3 24 rfl rfl
theorem dX16_figures_0 : decode cX16_figures 0 = .ok (.iconst 0, 1) := dk_3 (dk_at dksX16_figures_0 0 rfl rfl)
theorem dX16_figures_1 : decode cX16_figures 1 = .ok (.istore_n 2, 1) := dk_61 (dk_at dksX16_figures_0 1 rfl rfl)
theorem dX16_figures_2 : decode cX16_figures 2 = .ok (.iconst 0, 1) := dk_3 (dk_at dksX16_figures_0 2 rfl rfl)
theorem dX16_figures_3 : decode cX16_figures 3 = .ok (.istore_n 3, 1) := dk_62 (dk_at dksX16_figures_0 3 rfl rfl)
theorem dX16_figures_4 : decode cX16_figures 4 = .ok (.aload_n 0, 1) := dk_42 (dk_at dksX16_figures_0 4 rfl rfl)
theorem dX16_figures_5 : decode cX16_figures 5 = .ok (.getfield 77, 3) := dk_180 0 77 (dk_at dksX16_figures_0 5 rfl rfl)
theorem dX16_figures_8 : decode cX16_figures 8 = .ok (.ifCond .eq 81, 3) := dk_153 0 81 (dk_at dksX16_figures_0 8 rfl rfl)
theorem dX16_figures_11 : decode cX16_figures 11 = .ok (.iload_n 3, 1) := dk_29 (dk_at dksX16_figures_0 11 rfl rfl)
theorem dX16_figures_12 : decode cX16_figures 12 = .ok (.iload_n 1, 1) := dk_27 (dk_at dksX16_figures_0 12 rfl rfl)
theorem dX16_figures_13 : decode cX16_figures 13 = .ok (.if_icmp .ge 76, 3) := dk_162 0 76 (dk_at dksX16_figures_0 13 rfl rfl)
theorem dX16_figures_16 : decode cX16_figures 16 = .ok (.aload_n 0, 1) := dk_42 (dk_at dksX16_figures_0 16 rfl rfl)
theorem dX16_figures_17 : decode cX16_figures 17 = .ok (.getfield 80, 3) := dk_180 0 80 (dk_at dksX16_figures_0 17 rfl rfl)
theorem dX16_figures_20 : decode cX16_figures 20 = .ok (.aload_n 0, 1) := dk_42 (dk_at dksX16_figures_0 20 rfl rfl)
theorem dX16_figures_21 : decode cX16_figures 21 = .ok (.getfield 73, 3) := dk_180 0 73 (dk_at dksX16_figures_0 21 rfl rfl)
theorem dX16_figures_24 : decode cX16_figures 24 = .ok (.if_icmp .ge 65, 3) := dk_162 0 65 (dk_at dksX16_figures_1 0 rfl rfl)
theorem dX16_figures_27 : decode cX16_figures 27 = .ok (.aload_n 0, 1) := dk_42 (dk_at dksX16_figures_1 3 rfl rfl)
theorem dX16_figures_28 : decode cX16_figures 28 = .ok (.getfield 34, 3) := dk_180 0 34 (dk_at dksX16_figures_1 4 rfl rfl)
theorem dX16_figures_31 : decode cX16_figures 31 = .ok (.aload_n 0, 1) := dk_42 (dk_at dksX16_figures_1 7 rfl rfl)
theorem dX16_figures_32 : decode cX16_figures 32 = .ok (.getfield 80, 3) := dk_180 0 80 (dk_at dksX16_figures_1 8 rfl rfl)
theorem dX16_figures_35 : decode cX16_figures 35 = .ok (.iaload, 1) := dk_46 (dk_at dksX16_figures_1 11 rfl rfl)
theorem dX16_figures_36 : decode cX16_figures 36 = .ok (.bipush 48, 2) := dk_16 48 (dk_at dksX16_figures_1 12 rfl rfl)
theorem dX16_figures_38 : decode cX16_figures 38 = .ok (.if_icmp .lt 51, 3) := dk_161 0 51 (dk_at dksX16_figures_1 14 rfl rfl)
theorem dX16_figures_41 : decode cX16_figures 41 = .ok (.aload_n 0, 1) := dk_42 (dk_at dksX16_figures_1 17 rfl rfl)
theorem dX16_figures_42 : decode cX16_figures 42 = .ok (.getfield 34, 3) := dk_180 0 34 (dk_at dksX16_figures_1 18 rfl rfl)
theorem dX16_figures_45 : decode cX16_figures 45 = .ok (.aload_n 0, 1) := dk_42 (dk_at dksX16_figures_1 21 rfl rfl)
theorem dX16_figures_46 : decode cX16_figures 46 = .ok (.getfield 80, 3) := dk_180 0 80 (dk_at dksX16_figures_2 0 rfl rfl)
theorem dX16_figures_49 : decode cX16_figures 49 = .ok (.iaload, 1) := dk_46 (dk_at dksX16_figures_2 3 rfl rfl)
theorem dX16_figures_50 : decode cX16_figures 50 = .ok (.bipush 57, 2) := dk_16 57 (dk_at dksX16_figures_2 4 rfl rfl)
theorem dX16_figures_52 : decode cX16_figures 52 = .ok (.if_icmp .gt 37, 3) := dk_163 0 37 (dk_at dksX16_figures_2 6 rfl rfl)
theorem dX16_figures_55 : decode cX16_figures 55 = .ok (.bipush 10, 2) := dk_16 10 (dk_at dksX16_figures_2 9 rfl rfl)
theorem dX16_figures_57 : decode cX16_figures 57 = .ok (.iload_n 2, 1) := dk_28 (dk_at dksX16_figures_2 11 rfl rfl)
theorem dX16_figures_58 : decode cX16_figures 58 = .ok (.imul, 1) := dk_104 (dk_at dksX16_figures_2 12 rfl rfl)
theorem dX16_figures_59 : decode cX16_figures 59 = .ok (.aload_n 0, 1) := dk_42 (dk_at dksX16_figures_2 13 rfl rfl)
theorem dX16_figures_60 : decode cX16_figures 60 = .ok (.getfield 34, 3) := dk_180 0 34 (dk_at dksX16_figures_2 14 rfl rfl)
theorem dX16_figures_63 : decode cX16_figures 63 = .ok (.aload_n 0, 1) := dk_42 (dk_at dksX16_figures_2 17 rfl rfl)
theorem dX16_figures_64 : decode cX16_figures 64 = .ok (.getfield 80, 3) := dk_180 0 80 (dk_at dksX16_figures_2 18 rfl rfl)
theorem dX16_figures_67 : decode cX16_figures 67 = .ok (.iaload, 1) := dk_46 (dk_at dksX16_figures_2 21 rfl rfl)
theorem dX16_figures_68 : decode cX16_figures 68 = .ok (.iadd, 1) := dk_96 (dk_at dksX16_figures_2 22 rfl rfl)
theorem dX16_figures_69 : decode cX16_figures 69 = .ok (.bipush 48, 2) := dk_16 48 (dk_at dksX16_figures_3 0 rfl rfl)
theorem dX16_figures_71 : decode cX16_figures 71 = .ok (.isub, 1) := dk_100 (dk_at dksX16_figures_3 2 rfl rfl)
theorem dX16_figures_72 : decode cX16_figures 72 = .ok (.istore_n 2, 1) := dk_61 (dk_at dksX16_figures_3 3 rfl rfl)
theorem dX16_figures_73 : decode cX16_figures 73 = .ok (.aload_n 0, 1) := dk_42 (dk_at dksX16_figures_3 4 rfl rfl)
theorem dX16_figures_74 : decode cX16_figures 74 = .ok (.dup, 1) := dk_89 (dk_at dksX16_figures_3 5 rfl rfl)
theorem dX16_figures_75 : decode cX16_figures 75 = .ok (.getfield 80, 3) := dk_180 0 80 (dk_at dksX16_figures_3 6 rfl rfl)
theorem dX16_figures_78 : decode cX16_figures 78 = .ok (.iconst 1, 1) := dk_4 (dk_at dksX16_figures_3 9 rfl rfl)
theorem dX16_figures_79 : decode cX16_figures 79 = .ok (.iadd, 1) := dk_96 (dk_at dksX16_figures_3 10 rfl rfl)
theorem dX16_figures_80 : decode cX16_figures 80 = .ok (.putfield 80, 3) := dk_181 0 80 (dk_at dksX16_figures_3 11 rfl rfl)
theorem dX16_figures_83 : decode cX16_figures 83 = .ok (.iinc 3 1, 3) := dk_132 3 1 (dk_at dksX16_figures_3 14 rfl rfl)
theorem dX16_figures_86 : decode cX16_figures 86 = .ok (.goto (-82), 3) := dk_167 255 174 (dk_at dksX16_figures_3 17 rfl rfl)
theorem dX16_figures_89 : decode cX16_figures 89 = .ok (.iload_n 3, 1) := dk_29 (dk_at dksX16_figures_3 20 rfl rfl)
theorem dX16_figures_90 : decode cX16_figures 90 = .ok (.ifCond .ne 8, 3) := dk_154 0 8 (dk_at dksX16_figures_3 21 rfl rfl)
theorem dX16_figures_93 : decode cX16_figures 93 = .ok (.aload_n 0, 1) := dk_42 (dk_at dksX16_figures_4 0 rfl rfl)
theorem dX16_figures_94 : decode cX16_figures 94 = .ok (.iconst 0, 1) := dk_3 (dk_at dksX16_figures_4 1 rfl rfl)
theorem dX16_figures_95 : decode cX16_figures 95 = .ok (.putfield 77, 3) := dk_181 0 77 (dk_at dksX16_figures_4 2 rfl rfl)
theorem dX16_figures_98 : decode cX16_figures 98 = .ok (.iload_n 2, 1) := dk_28 (dk_at dksX16_figures_4 5 rfl rfl)
theorem dX16_figures_99 : decode cX16_figures 99 = .ok (.ireturn, 1) := dk_172 (dk_at dksX16_figures_4 6 rfl rfl)
abbrev cX16_expect : ByteArray := prog_28_method_9_code
def yX16_expect : MethodName := ⟨RX16, "expect", "(C)V"⟩
def dkwX16_expect_2 : List UInt8 := [181, 0, 77, 177]
abbrev dktX16_expect_2 : List UInt8 := dkwX16_expect_2 ++ []
def dkwX16_expect_1 : List UInt8 := [180, 0, 80, 46, 27, 160, 0, 16, 42, 89, 180, 0, 80, 4, 96, 181, 0, 80, 167, 0, 8, 42, 3]
abbrev dktX16_expect_1 : List UInt8 := dkwX16_expect_1 ++ dktX16_expect_2
def dkwX16_expect_0 : List UInt8 := [42, 180, 0, 77, 153, 0, 40, 42, 180, 0, 80, 42, 180, 0, 73, 162, 0, 29, 42, 180, 0, 34, 42]
abbrev dktX16_expect_0 : List UInt8 := dkwX16_expect_0 ++ dktX16_expect_1
theorem dksX16_expect_0 : cX16_expect.data.toList.drop 0 = dktX16_expect_0 := by decide +kernel
theorem dksX16_expect_1 : cX16_expect.data.toList.drop 23 = dktX16_expect_1 := dk_seg dksX16_expect_0 23 rfl rfl
theorem dksX16_expect_2 : cX16_expect.data.toList.drop 46 = dktX16_expect_2 := dk_seg dksX16_expect_1 23 rfl rfl
theorem dX16_expect_0 : decode cX16_expect 0 = .ok (.aload_n 0, 1) := dk_42 (dk_at dksX16_expect_0 0 rfl rfl)
theorem dX16_expect_1 : decode cX16_expect 1 = .ok (.getfield 77, 3) := dk_180 0 77 (dk_at dksX16_expect_0 1 rfl rfl)
theorem dX16_expect_4 : decode cX16_expect 4 = .ok (.ifCond .eq 40, 3) := dk_153 0 40 (dk_at dksX16_expect_0 4 rfl rfl)
theorem dX16_expect_7 : decode cX16_expect 7 = .ok (.aload_n 0, 1) := dk_42 (dk_at dksX16_expect_0 7 rfl rfl)
theorem dX16_expect_8 : decode cX16_expect 8 = .ok (.getfield 80, 3) := dk_180 0 80 (dk_at dksX16_expect_0 8 rfl rfl)
theorem dX16_expect_11 : decode cX16_expect 11 = .ok (.aload_n 0, 1) := dk_42 (dk_at dksX16_expect_0 11 rfl rfl)
theorem dX16_expect_12 : decode cX16_expect 12 = .ok (.getfield 73, 3) := dk_180 0 73 (dk_at dksX16_expect_0 12 rfl rfl)
theorem dX16_expect_15 : decode cX16_expect 15 = .ok (.if_icmp .ge 29, 3) := dk_162 0 29 (dk_at dksX16_expect_0 15 rfl rfl)
theorem dX16_expect_18 : decode cX16_expect 18 = .ok (.aload_n 0, 1) := dk_42 (dk_at dksX16_expect_0 18 rfl rfl)
theorem dX16_expect_19 : decode cX16_expect 19 = .ok (.getfield 34, 3) := dk_180 0 34 (dk_at dksX16_expect_0 19 rfl rfl)
theorem dX16_expect_22 : decode cX16_expect 22 = .ok (.aload_n 0, 1) := dk_42 (dk_at dksX16_expect_0 22 rfl rfl)
theorem dX16_expect_23 : decode cX16_expect 23 = .ok (.getfield 80, 3) := dk_180 0 80 (dk_at dksX16_expect_1 0 rfl rfl)
theorem dX16_expect_26 : decode cX16_expect 26 = .ok (.iaload, 1) := dk_46 (dk_at dksX16_expect_1 3 rfl rfl)
theorem dX16_expect_27 : decode cX16_expect 27 = .ok (.iload_n 1, 1) := dk_27 (dk_at dksX16_expect_1 4 rfl rfl)
theorem dX16_expect_28 : decode cX16_expect 28 = .ok (.if_icmp .ne 16, 3) := dk_160 0 16 (dk_at dksX16_expect_1 5 rfl rfl)
theorem dX16_expect_31 : decode cX16_expect 31 = .ok (.aload_n 0, 1) := dk_42 (dk_at dksX16_expect_1 8 rfl rfl)
theorem dX16_expect_32 : decode cX16_expect 32 = .ok (.dup, 1) := dk_89 (dk_at dksX16_expect_1 9 rfl rfl)
theorem dX16_expect_33 : decode cX16_expect 33 = .ok (.getfield 80, 3) := dk_180 0 80 (dk_at dksX16_expect_1 10 rfl rfl)
theorem dX16_expect_36 : decode cX16_expect 36 = .ok (.iconst 1, 1) := dk_4 (dk_at dksX16_expect_1 13 rfl rfl)
theorem dX16_expect_37 : decode cX16_expect 37 = .ok (.iadd, 1) := dk_96 (dk_at dksX16_expect_1 14 rfl rfl)
theorem dX16_expect_38 : decode cX16_expect 38 = .ok (.putfield 80, 3) := dk_181 0 80 (dk_at dksX16_expect_1 15 rfl rfl)
theorem dX16_expect_41 : decode cX16_expect 41 = .ok (.goto 8, 3) := dk_167 0 8 (dk_at dksX16_expect_1 18 rfl rfl)
theorem dX16_expect_44 : decode cX16_expect 44 = .ok (.aload_n 0, 1) := dk_42 (dk_at dksX16_expect_1 21 rfl rfl)
theorem dX16_expect_45 : decode cX16_expect 45 = .ok (.iconst 0, 1) := dk_3 (dk_at dksX16_expect_1 22 rfl rfl)
theorem dX16_expect_46 : decode cX16_expect 46 = .ok (.putfield 77, 3) := dk_181 0 77 (dk_at dksX16_expect_2 0 rfl rfl)
theorem dX16_expect_49 : decode cX16_expect 49 = .ok (.return_, 1) := dk_177 (dk_at dksX16_expect_2 3 rfl rfl)
abbrev cX16_isAsItMustBe : ByteArray := prog_28_method_13_code
def yX16_isAsItMustBe : MethodName := ⟨RX16, "isAsItMustBe", "(II)Z"⟩
def dkwX16_isAsItMustBe_6 : List UInt8 := [163, 0, 7, 4, 167, 0, 4, 3, 172]
abbrev dktX16_isAsItMustBe_6 : List UInt8 := dkwX16_isAsItMustBe_6 ++ []
def dkwX16_isAsItMustBe_5 : List UInt8 := [163, 0, 13, 28, 16, 6, 162, 0, 7, 4, 167, 0, 4, 3, 172, 42, 180, 0, 47, 3, 46, 16, 60]
abbrev dktX16_isAsItMustBe_5 : List UInt8 := dkwX16_isAsItMustBe_5 ++ dktX16_isAsItMustBe_6
def dkwX16_isAsItMustBe_4 : List UInt8 := [167, 0, 4, 3, 172, 42, 180, 0, 47, 4, 46, 4, 161, 0, 24, 42, 180, 0, 47, 4, 46, 16, 6]
abbrev dktX16_isAsItMustBe_4 : List UInt8 := dkwX16_isAsItMustBe_4 ++ dktX16_isAsItMustBe_5
def dkwX16_isAsItMustBe_3 : List UInt8 := [159, 0, 13, 42, 180, 0, 47, 4, 46, 6, 160, 0, 13, 42, 180, 0, 47, 5, 46, 28, 162, 0, 7, 4]
abbrev dktX16_isAsItMustBe_3 : List UInt8 := dkwX16_isAsItMustBe_3 ++ dktX16_isAsItMustBe_4
def dkwX16_isAsItMustBe_2 : List UInt8 := [42, 180, 0, 47, 3, 46, 4, 161, 0, 42, 27, 7, 162, 0, 37, 42, 180, 0, 47, 4, 46, 5]
abbrev dktX16_isAsItMustBe_2 : List UInt8 := dkwX16_isAsItMustBe_2 ++ dktX16_isAsItMustBe_3
def dkwX16_isAsItMustBe_1 : List UInt8 := [171, 0, 0, 0, 0, 0, 0, 112, 0, 0, 0, 2, 0, 0, 0, 1, 0, 0, 0, 28, 0, 0, 0, 2, 0, 0, 0, 79]
abbrev dktX16_isAsItMustBe_1 : List UInt8 := dkwX16_isAsItMustBe_1 ++ dktX16_isAsItMustBe_2
def dkwX16_isAsItMustBe_0 : List UInt8 := [42, 180, 0, 87]
abbrev dktX16_isAsItMustBe_0 : List UInt8 := dkwX16_isAsItMustBe_0 ++ dktX16_isAsItMustBe_1
theorem dksX16_isAsItMustBe_0 : cX16_isAsItMustBe.data.toList.drop 0 = dktX16_isAsItMustBe_0 := by decide +kernel
theorem dksX16_isAsItMustBe_1 : cX16_isAsItMustBe.data.toList.drop 4 = dktX16_isAsItMustBe_1 := dk_seg dksX16_isAsItMustBe_0 4 rfl rfl
theorem dksX16_isAsItMustBe_2 : cX16_isAsItMustBe.data.toList.drop 32 = dktX16_isAsItMustBe_2 := dk_seg dksX16_isAsItMustBe_1 28 rfl rfl
theorem dksX16_isAsItMustBe_3 : cX16_isAsItMustBe.data.toList.drop 54 = dktX16_isAsItMustBe_3 := dk_seg dksX16_isAsItMustBe_2 22 rfl rfl
theorem dksX16_isAsItMustBe_4 : cX16_isAsItMustBe.data.toList.drop 78 = dktX16_isAsItMustBe_4 := dk_seg dksX16_isAsItMustBe_3 24 rfl rfl
theorem dksX16_isAsItMustBe_5 : cX16_isAsItMustBe.data.toList.drop 101 = dktX16_isAsItMustBe_5 := dk_seg dksX16_isAsItMustBe_4 23 rfl rfl
theorem dksX16_isAsItMustBe_6 : cX16_isAsItMustBe.data.toList.drop 124 = dktX16_isAsItMustBe_6 := dk_seg dksX16_isAsItMustBe_5 23 rfl rfl
theorem dX16_isAsItMustBe_0 : decode cX16_isAsItMustBe 0 = .ok (.aload_n 0, 1) := dk_42 (dk_at dksX16_isAsItMustBe_0 0 rfl rfl)
theorem dX16_isAsItMustBe_1 : decode cX16_isAsItMustBe 1 = .ok (.getfield 87, 3) := dk_180 0 87 (dk_at dksX16_isAsItMustBe_0 1 rfl rfl)
theorem dX16_isAsItMustBe_4 : decode cX16_isAsItMustBe 4 = .ok (.lookupswitch 112 #[(1, 28), (2, 79)], 28) := by decide +kernel
theorem dX16_isAsItMustBe_32 : decode cX16_isAsItMustBe 32 = .ok (.aload_n 0, 1) := dk_42 (dk_at dksX16_isAsItMustBe_2 0 rfl rfl)
theorem dX16_isAsItMustBe_33 : decode cX16_isAsItMustBe 33 = .ok (.getfield 47, 3) := dk_180 0 47 (dk_at dksX16_isAsItMustBe_2 1 rfl rfl)
theorem dX16_isAsItMustBe_36 : decode cX16_isAsItMustBe 36 = .ok (.iconst 0, 1) := dk_3 (dk_at dksX16_isAsItMustBe_2 4 rfl rfl)
theorem dX16_isAsItMustBe_37 : decode cX16_isAsItMustBe 37 = .ok (.iaload, 1) := dk_46 (dk_at dksX16_isAsItMustBe_2 5 rfl rfl)
theorem dX16_isAsItMustBe_38 : decode cX16_isAsItMustBe 38 = .ok (.iconst 1, 1) := dk_4 (dk_at dksX16_isAsItMustBe_2 6 rfl rfl)
theorem dX16_isAsItMustBe_39 : decode cX16_isAsItMustBe 39 = .ok (.if_icmp .lt 42, 3) := dk_161 0 42 (dk_at dksX16_isAsItMustBe_2 7 rfl rfl)
theorem dX16_isAsItMustBe_42 : decode cX16_isAsItMustBe 42 = .ok (.iload_n 1, 1) := dk_27 (dk_at dksX16_isAsItMustBe_2 10 rfl rfl)
theorem dX16_isAsItMustBe_43 : decode cX16_isAsItMustBe 43 = .ok (.iconst 4, 1) := dk_7 (dk_at dksX16_isAsItMustBe_2 11 rfl rfl)
theorem dX16_isAsItMustBe_44 : decode cX16_isAsItMustBe 44 = .ok (.if_icmp .ge 37, 3) := dk_162 0 37 (dk_at dksX16_isAsItMustBe_2 12 rfl rfl)
theorem dX16_isAsItMustBe_47 : decode cX16_isAsItMustBe 47 = .ok (.aload_n 0, 1) := dk_42 (dk_at dksX16_isAsItMustBe_2 15 rfl rfl)
theorem dX16_isAsItMustBe_48 : decode cX16_isAsItMustBe 48 = .ok (.getfield 47, 3) := dk_180 0 47 (dk_at dksX16_isAsItMustBe_2 16 rfl rfl)
theorem dX16_isAsItMustBe_51 : decode cX16_isAsItMustBe 51 = .ok (.iconst 1, 1) := dk_4 (dk_at dksX16_isAsItMustBe_2 19 rfl rfl)
theorem dX16_isAsItMustBe_52 : decode cX16_isAsItMustBe 52 = .ok (.iaload, 1) := dk_46 (dk_at dksX16_isAsItMustBe_2 20 rfl rfl)
theorem dX16_isAsItMustBe_53 : decode cX16_isAsItMustBe 53 = .ok (.iconst 2, 1) := dk_5 (dk_at dksX16_isAsItMustBe_2 21 rfl rfl)
theorem dX16_isAsItMustBe_54 : decode cX16_isAsItMustBe 54 = .ok (.if_icmp .eq 13, 3) := dk_159 0 13 (dk_at dksX16_isAsItMustBe_3 0 rfl rfl)
theorem dX16_isAsItMustBe_57 : decode cX16_isAsItMustBe 57 = .ok (.aload_n 0, 1) := dk_42 (dk_at dksX16_isAsItMustBe_3 3 rfl rfl)
theorem dX16_isAsItMustBe_58 : decode cX16_isAsItMustBe 58 = .ok (.getfield 47, 3) := dk_180 0 47 (dk_at dksX16_isAsItMustBe_3 4 rfl rfl)
theorem dX16_isAsItMustBe_61 : decode cX16_isAsItMustBe 61 = .ok (.iconst 1, 1) := dk_4 (dk_at dksX16_isAsItMustBe_3 7 rfl rfl)
theorem dX16_isAsItMustBe_62 : decode cX16_isAsItMustBe 62 = .ok (.iaload, 1) := dk_46 (dk_at dksX16_isAsItMustBe_3 8 rfl rfl)
theorem dX16_isAsItMustBe_63 : decode cX16_isAsItMustBe 63 = .ok (.iconst 3, 1) := dk_6 (dk_at dksX16_isAsItMustBe_3 9 rfl rfl)
theorem dX16_isAsItMustBe_64 : decode cX16_isAsItMustBe 64 = .ok (.if_icmp .ne 13, 3) := dk_160 0 13 (dk_at dksX16_isAsItMustBe_3 10 rfl rfl)
theorem dX16_isAsItMustBe_67 : decode cX16_isAsItMustBe 67 = .ok (.aload_n 0, 1) := dk_42 (dk_at dksX16_isAsItMustBe_3 13 rfl rfl)
theorem dX16_isAsItMustBe_68 : decode cX16_isAsItMustBe 68 = .ok (.getfield 47, 3) := dk_180 0 47 (dk_at dksX16_isAsItMustBe_3 14 rfl rfl)
theorem dX16_isAsItMustBe_71 : decode cX16_isAsItMustBe 71 = .ok (.iconst 2, 1) := dk_5 (dk_at dksX16_isAsItMustBe_3 17 rfl rfl)
theorem dX16_isAsItMustBe_72 : decode cX16_isAsItMustBe 72 = .ok (.iaload, 1) := dk_46 (dk_at dksX16_isAsItMustBe_3 18 rfl rfl)
theorem dX16_isAsItMustBe_73 : decode cX16_isAsItMustBe 73 = .ok (.iload_n 2, 1) := dk_28 (dk_at dksX16_isAsItMustBe_3 19 rfl rfl)
theorem dX16_isAsItMustBe_74 : decode cX16_isAsItMustBe 74 = .ok (.if_icmp .ge 7, 3) := dk_162 0 7 (dk_at dksX16_isAsItMustBe_3 20 rfl rfl)
theorem dX16_isAsItMustBe_77 : decode cX16_isAsItMustBe 77 = .ok (.iconst 1, 1) := dk_4 (dk_at dksX16_isAsItMustBe_3 23 rfl rfl)
theorem dX16_isAsItMustBe_78 : decode cX16_isAsItMustBe 78 = .ok (.goto 4, 3) := dk_167 0 4 (dk_at dksX16_isAsItMustBe_4 0 rfl rfl)
theorem dX16_isAsItMustBe_81 : decode cX16_isAsItMustBe 81 = .ok (.iconst 0, 1) := dk_3 (dk_at dksX16_isAsItMustBe_4 3 rfl rfl)
theorem dX16_isAsItMustBe_82 : decode cX16_isAsItMustBe 82 = .ok (.ireturn, 1) := dk_172 (dk_at dksX16_isAsItMustBe_4 4 rfl rfl)
theorem dX16_isAsItMustBe_83 : decode cX16_isAsItMustBe 83 = .ok (.aload_n 0, 1) := dk_42 (dk_at dksX16_isAsItMustBe_4 5 rfl rfl)
theorem dX16_isAsItMustBe_84 : decode cX16_isAsItMustBe 84 = .ok (.getfield 47, 3) := dk_180 0 47 (dk_at dksX16_isAsItMustBe_4 6 rfl rfl)
theorem dX16_isAsItMustBe_87 : decode cX16_isAsItMustBe 87 = .ok (.iconst 1, 1) := dk_4 (dk_at dksX16_isAsItMustBe_4 9 rfl rfl)
theorem dX16_isAsItMustBe_88 : decode cX16_isAsItMustBe 88 = .ok (.iaload, 1) := dk_46 (dk_at dksX16_isAsItMustBe_4 10 rfl rfl)
theorem dX16_isAsItMustBe_89 : decode cX16_isAsItMustBe 89 = .ok (.iconst 1, 1) := dk_4 (dk_at dksX16_isAsItMustBe_4 11 rfl rfl)
theorem dX16_isAsItMustBe_90 : decode cX16_isAsItMustBe 90 = .ok (.if_icmp .lt 24, 3) := dk_161 0 24 (dk_at dksX16_isAsItMustBe_4 12 rfl rfl)
theorem dX16_isAsItMustBe_93 : decode cX16_isAsItMustBe 93 = .ok (.aload_n 0, 1) := dk_42 (dk_at dksX16_isAsItMustBe_4 15 rfl rfl)
theorem dX16_isAsItMustBe_94 : decode cX16_isAsItMustBe 94 = .ok (.getfield 47, 3) := dk_180 0 47 (dk_at dksX16_isAsItMustBe_4 16 rfl rfl)
theorem dX16_isAsItMustBe_97 : decode cX16_isAsItMustBe 97 = .ok (.iconst 1, 1) := dk_4 (dk_at dksX16_isAsItMustBe_4 19 rfl rfl)
theorem dX16_isAsItMustBe_98 : decode cX16_isAsItMustBe 98 = .ok (.iaload, 1) := dk_46 (dk_at dksX16_isAsItMustBe_4 20 rfl rfl)
theorem dX16_isAsItMustBe_99 : decode cX16_isAsItMustBe 99 = .ok (.bipush 6, 2) := dk_16 6 (dk_at dksX16_isAsItMustBe_4 21 rfl rfl)
theorem dX16_isAsItMustBe_101 : decode cX16_isAsItMustBe 101 = .ok (.if_icmp .gt 13, 3) := dk_163 0 13 (dk_at dksX16_isAsItMustBe_5 0 rfl rfl)
theorem dX16_isAsItMustBe_104 : decode cX16_isAsItMustBe 104 = .ok (.iload_n 2, 1) := dk_28 (dk_at dksX16_isAsItMustBe_5 3 rfl rfl)
theorem dX16_isAsItMustBe_105 : decode cX16_isAsItMustBe 105 = .ok (.bipush 6, 2) := dk_16 6 (dk_at dksX16_isAsItMustBe_5 4 rfl rfl)
theorem dX16_isAsItMustBe_107 : decode cX16_isAsItMustBe 107 = .ok (.if_icmp .ge 7, 3) := dk_162 0 7 (dk_at dksX16_isAsItMustBe_5 6 rfl rfl)
theorem dX16_isAsItMustBe_110 : decode cX16_isAsItMustBe 110 = .ok (.iconst 1, 1) := dk_4 (dk_at dksX16_isAsItMustBe_5 9 rfl rfl)
theorem dX16_isAsItMustBe_111 : decode cX16_isAsItMustBe 111 = .ok (.goto 4, 3) := dk_167 0 4 (dk_at dksX16_isAsItMustBe_5 10 rfl rfl)
theorem dX16_isAsItMustBe_114 : decode cX16_isAsItMustBe 114 = .ok (.iconst 0, 1) := dk_3 (dk_at dksX16_isAsItMustBe_5 13 rfl rfl)
theorem dX16_isAsItMustBe_115 : decode cX16_isAsItMustBe 115 = .ok (.ireturn, 1) := dk_172 (dk_at dksX16_isAsItMustBe_5 14 rfl rfl)
theorem dX16_isAsItMustBe_116 : decode cX16_isAsItMustBe 116 = .ok (.aload_n 0, 1) := dk_42 (dk_at dksX16_isAsItMustBe_5 15 rfl rfl)
theorem dX16_isAsItMustBe_117 : decode cX16_isAsItMustBe 117 = .ok (.getfield 47, 3) := dk_180 0 47 (dk_at dksX16_isAsItMustBe_5 16 rfl rfl)
theorem dX16_isAsItMustBe_120 : decode cX16_isAsItMustBe 120 = .ok (.iconst 0, 1) := dk_3 (dk_at dksX16_isAsItMustBe_5 19 rfl rfl)
theorem dX16_isAsItMustBe_121 : decode cX16_isAsItMustBe 121 = .ok (.iaload, 1) := dk_46 (dk_at dksX16_isAsItMustBe_5 20 rfl rfl)
theorem dX16_isAsItMustBe_122 : decode cX16_isAsItMustBe 122 = .ok (.bipush 60, 2) := dk_16 60 (dk_at dksX16_isAsItMustBe_5 21 rfl rfl)
theorem dX16_isAsItMustBe_124 : decode cX16_isAsItMustBe 124 = .ok (.if_icmp .gt 7, 3) := dk_163 0 7 (dk_at dksX16_isAsItMustBe_6 0 rfl rfl)
theorem dX16_isAsItMustBe_127 : decode cX16_isAsItMustBe 127 = .ok (.iconst 1, 1) := dk_4 (dk_at dksX16_isAsItMustBe_6 3 rfl rfl)
theorem dX16_isAsItMustBe_128 : decode cX16_isAsItMustBe 128 = .ok (.goto 4, 3) := dk_167 0 4 (dk_at dksX16_isAsItMustBe_6 4 rfl rfl)
theorem dX16_isAsItMustBe_131 : decode cX16_isAsItMustBe 131 = .ok (.iconst 0, 1) := dk_3 (dk_at dksX16_isAsItMustBe_6 7 rfl rfl)
theorem dX16_isAsItMustBe_132 : decode cX16_isAsItMustBe 132 = .ok (.ireturn, 1) := dk_172 (dk_at dksX16_isAsItMustBe_6 8 rfl rfl)
abbrev cX16_come : ByteArray := prog_28_method_15_code
def yX16_come : MethodName := ⟨RX16, "come", "()V"⟩
def dkwX16_come_8 : List UInt8 := [167, 0, 13, 42, 42, 180, 0, 47, 3, 46, 182, 0, 97, 177]
abbrev dktX16_come_8 : List UInt8 := dkwX16_come_8 ++ []
def dkwX16_come_7 : List UInt8 := [6, 42, 180, 0, 11, 4, 46, 104, 96, 5, 96, 3, 79, 42, 180, 0, 11, 4, 92, 46, 4, 96, 79]
abbrev dktX16_come_7 : List UInt8 := dkwX16_come_7 ++ dktX16_come_8
def dkwX16_come_6 : List UInt8 := [6, 42, 180, 0, 11, 4, 46, 104, 96, 4, 96, 42, 180, 0, 47, 4, 46, 79, 42, 180, 0, 11, 16, 40]
abbrev dktX16_come_6 : List UInt8 := dkwX16_come_6 ++ dktX16_come_7
def dkwX16_come_5 : List UInt8 := [16, 40, 6, 42, 180, 0, 11, 4, 46, 104, 96, 42, 180, 0, 47, 3, 46, 79, 42, 180, 0, 11, 16, 40]
abbrev dktX16_come_5 : List UInt8 := dkwX16_come_5 ++ dktX16_come_6
def dkwX16_come_4 : List UInt8 := [132, 1, 1, 167, 255, 222, 42, 180, 0, 11, 3, 92, 46, 4, 96, 79, 167, 0, 91, 42, 180, 0, 11]
abbrev dktX16_come_4 : List UInt8 := dkwX16_come_4 ++ dktX16_come_5
def dkwX16_come_3 : List UInt8 := [180, 0, 11, 16, 10, 16, 6, 42, 180, 0, 11, 3, 46, 104, 96, 27, 96, 42, 180, 0, 47, 27, 46, 79]
abbrev dktX16_come_3 : List UInt8 := dkwX16_come_3 ++ dktX16_come_4
def dkwX16_come_2 : List UInt8 := [42, 180, 0, 11, 5, 42, 180, 0, 47, 3, 46, 79, 167, 0, 143, 3, 60, 27, 16, 6, 162, 0, 34, 42]
abbrev dktX16_come_2 : List UInt8 := dkwX16_come_2 ++ dktX16_come_3
def dkwX16_come_1 : List UInt8 := [170, 0, 0, 0, 0, 0, 0, 173, 0, 0, 0, 0, 0, 0, 0, 2, 0, 0, 0, 28, 0, 0, 0, 43, 0, 0, 0, 95]
abbrev dktX16_come_1 : List UInt8 := dkwX16_come_1 ++ dktX16_come_2
def dkwX16_come_0 : List UInt8 := [42, 180, 0, 87]
abbrev dktX16_come_0 : List UInt8 := dkwX16_come_0 ++ dktX16_come_1
theorem dksX16_come_0 : cX16_come.data.toList.drop 0 = dktX16_come_0 := by decide +kernel
theorem dksX16_come_1 : cX16_come.data.toList.drop 4 = dktX16_come_1 := dk_seg dksX16_come_0 4 rfl rfl
theorem dksX16_come_2 : cX16_come.data.toList.drop 32 = dktX16_come_2 := dk_seg dksX16_come_1 28 rfl rfl
theorem dksX16_come_3 : cX16_come.data.toList.drop 56 = dktX16_come_3 := dk_seg dksX16_come_2 24 rfl rfl
theorem dksX16_come_4 : cX16_come.data.toList.drop 80 = dktX16_come_4 := dk_seg dksX16_come_3 24 rfl rfl
theorem dksX16_come_5 : cX16_come.data.toList.drop 103 = dktX16_come_5 := dk_seg dksX16_come_4 23 rfl rfl
theorem dksX16_come_6 : cX16_come.data.toList.drop 127 = dktX16_come_6 := dk_seg dksX16_come_5 24 rfl rfl
theorem dksX16_come_7 : cX16_come.data.toList.drop 151 = dktX16_come_7 := dk_seg dksX16_come_6 24 rfl rfl
theorem dksX16_come_8 : cX16_come.data.toList.drop 174 = dktX16_come_8 := dk_seg dksX16_come_7 23 rfl rfl
theorem dX16_come_0 : decode cX16_come 0 = .ok (.aload_n 0, 1) := dk_42 (dk_at dksX16_come_0 0 rfl rfl)
theorem dX16_come_1 : decode cX16_come 1 = .ok (.getfield 87, 3) := dk_180 0 87 (dk_at dksX16_come_0 1 rfl rfl)
theorem dX16_come_4 : decode cX16_come 4 = .ok (.tableswitch 173 0 2 #[28, 43, 95], 28) := by decide +kernel
theorem dX16_come_32 : decode cX16_come 32 = .ok (.aload_n 0, 1) := dk_42 (dk_at dksX16_come_2 0 rfl rfl)
theorem dX16_come_33 : decode cX16_come 33 = .ok (.getfield 11, 3) := dk_180 0 11 (dk_at dksX16_come_2 1 rfl rfl)
theorem dX16_come_36 : decode cX16_come 36 = .ok (.iconst 2, 1) := dk_5 (dk_at dksX16_come_2 4 rfl rfl)
theorem dX16_come_37 : decode cX16_come 37 = .ok (.aload_n 0, 1) := dk_42 (dk_at dksX16_come_2 5 rfl rfl)
theorem dX16_come_38 : decode cX16_come 38 = .ok (.getfield 47, 3) := dk_180 0 47 (dk_at dksX16_come_2 6 rfl rfl)
theorem dX16_come_41 : decode cX16_come 41 = .ok (.iconst 0, 1) := dk_3 (dk_at dksX16_come_2 9 rfl rfl)
theorem dX16_come_42 : decode cX16_come 42 = .ok (.iaload, 1) := dk_46 (dk_at dksX16_come_2 10 rfl rfl)
theorem dX16_come_43 : decode cX16_come 43 = .ok (.iastore, 1) := dk_79 (dk_at dksX16_come_2 11 rfl rfl)
theorem dX16_come_44 : decode cX16_come 44 = .ok (.goto 143, 3) := dk_167 0 143 (dk_at dksX16_come_2 12 rfl rfl)
theorem dX16_come_47 : decode cX16_come 47 = .ok (.iconst 0, 1) := dk_3 (dk_at dksX16_come_2 15 rfl rfl)
theorem dX16_come_48 : decode cX16_come 48 = .ok (.istore_n 1, 1) := dk_60 (dk_at dksX16_come_2 16 rfl rfl)
theorem dX16_come_49 : decode cX16_come 49 = .ok (.iload_n 1, 1) := dk_27 (dk_at dksX16_come_2 17 rfl rfl)
theorem dX16_come_50 : decode cX16_come 50 = .ok (.bipush 6, 2) := dk_16 6 (dk_at dksX16_come_2 18 rfl rfl)
theorem dX16_come_52 : decode cX16_come 52 = .ok (.if_icmp .ge 34, 3) := dk_162 0 34 (dk_at dksX16_come_2 20 rfl rfl)
theorem dX16_come_55 : decode cX16_come 55 = .ok (.aload_n 0, 1) := dk_42 (dk_at dksX16_come_2 23 rfl rfl)
theorem dX16_come_56 : decode cX16_come 56 = .ok (.getfield 11, 3) := dk_180 0 11 (dk_at dksX16_come_3 0 rfl rfl)
theorem dX16_come_59 : decode cX16_come 59 = .ok (.bipush 10, 2) := dk_16 10 (dk_at dksX16_come_3 3 rfl rfl)
theorem dX16_come_61 : decode cX16_come 61 = .ok (.bipush 6, 2) := dk_16 6 (dk_at dksX16_come_3 5 rfl rfl)
theorem dX16_come_63 : decode cX16_come 63 = .ok (.aload_n 0, 1) := dk_42 (dk_at dksX16_come_3 7 rfl rfl)
theorem dX16_come_64 : decode cX16_come 64 = .ok (.getfield 11, 3) := dk_180 0 11 (dk_at dksX16_come_3 8 rfl rfl)
theorem dX16_come_67 : decode cX16_come 67 = .ok (.iconst 0, 1) := dk_3 (dk_at dksX16_come_3 11 rfl rfl)
theorem dX16_come_68 : decode cX16_come 68 = .ok (.iaload, 1) := dk_46 (dk_at dksX16_come_3 12 rfl rfl)
theorem dX16_come_69 : decode cX16_come 69 = .ok (.imul, 1) := dk_104 (dk_at dksX16_come_3 13 rfl rfl)
theorem dX16_come_70 : decode cX16_come 70 = .ok (.iadd, 1) := dk_96 (dk_at dksX16_come_3 14 rfl rfl)
theorem dX16_come_71 : decode cX16_come 71 = .ok (.iload_n 1, 1) := dk_27 (dk_at dksX16_come_3 15 rfl rfl)
theorem dX16_come_72 : decode cX16_come 72 = .ok (.iadd, 1) := dk_96 (dk_at dksX16_come_3 16 rfl rfl)
theorem dX16_come_73 : decode cX16_come 73 = .ok (.aload_n 0, 1) := dk_42 (dk_at dksX16_come_3 17 rfl rfl)
theorem dX16_come_74 : decode cX16_come 74 = .ok (.getfield 47, 3) := dk_180 0 47 (dk_at dksX16_come_3 18 rfl rfl)
theorem dX16_come_77 : decode cX16_come 77 = .ok (.iload_n 1, 1) := dk_27 (dk_at dksX16_come_3 21 rfl rfl)
theorem dX16_come_78 : decode cX16_come 78 = .ok (.iaload, 1) := dk_46 (dk_at dksX16_come_3 22 rfl rfl)
theorem dX16_come_79 : decode cX16_come 79 = .ok (.iastore, 1) := dk_79 (dk_at dksX16_come_3 23 rfl rfl)
theorem dX16_come_80 : decode cX16_come 80 = .ok (.iinc 1 1, 3) := dk_132 1 1 (dk_at dksX16_come_4 0 rfl rfl)
theorem dX16_come_83 : decode cX16_come 83 = .ok (.goto (-34), 3) := dk_167 255 222 (dk_at dksX16_come_4 3 rfl rfl)
theorem dX16_come_86 : decode cX16_come 86 = .ok (.aload_n 0, 1) := dk_42 (dk_at dksX16_come_4 6 rfl rfl)
theorem dX16_come_87 : decode cX16_come 87 = .ok (.getfield 11, 3) := dk_180 0 11 (dk_at dksX16_come_4 7 rfl rfl)
theorem dX16_come_90 : decode cX16_come 90 = .ok (.iconst 0, 1) := dk_3 (dk_at dksX16_come_4 10 rfl rfl)
theorem dX16_come_91 : decode cX16_come 91 = .ok (.dup2, 1) := dk_92 (dk_at dksX16_come_4 11 rfl rfl)
theorem dX16_come_92 : decode cX16_come 92 = .ok (.iaload, 1) := dk_46 (dk_at dksX16_come_4 12 rfl rfl)
theorem dX16_come_93 : decode cX16_come 93 = .ok (.iconst 1, 1) := dk_4 (dk_at dksX16_come_4 13 rfl rfl)
theorem dX16_come_94 : decode cX16_come 94 = .ok (.iadd, 1) := dk_96 (dk_at dksX16_come_4 14 rfl rfl)
theorem dX16_come_95 : decode cX16_come 95 = .ok (.iastore, 1) := dk_79 (dk_at dksX16_come_4 15 rfl rfl)
theorem dX16_come_96 : decode cX16_come 96 = .ok (.goto 91, 3) := dk_167 0 91 (dk_at dksX16_come_4 16 rfl rfl)
theorem dX16_come_99 : decode cX16_come 99 = .ok (.aload_n 0, 1) := dk_42 (dk_at dksX16_come_4 19 rfl rfl)
theorem dX16_come_100 : decode cX16_come 100 = .ok (.getfield 11, 3) := dk_180 0 11 (dk_at dksX16_come_4 20 rfl rfl)
theorem dX16_come_103 : decode cX16_come 103 = .ok (.bipush 40, 2) := dk_16 40 (dk_at dksX16_come_5 0 rfl rfl)
theorem dX16_come_105 : decode cX16_come 105 = .ok (.iconst 3, 1) := dk_6 (dk_at dksX16_come_5 2 rfl rfl)
theorem dX16_come_106 : decode cX16_come 106 = .ok (.aload_n 0, 1) := dk_42 (dk_at dksX16_come_5 3 rfl rfl)
theorem dX16_come_107 : decode cX16_come 107 = .ok (.getfield 11, 3) := dk_180 0 11 (dk_at dksX16_come_5 4 rfl rfl)
theorem dX16_come_110 : decode cX16_come 110 = .ok (.iconst 1, 1) := dk_4 (dk_at dksX16_come_5 7 rfl rfl)
theorem dX16_come_111 : decode cX16_come 111 = .ok (.iaload, 1) := dk_46 (dk_at dksX16_come_5 8 rfl rfl)
theorem dX16_come_112 : decode cX16_come 112 = .ok (.imul, 1) := dk_104 (dk_at dksX16_come_5 9 rfl rfl)
theorem dX16_come_113 : decode cX16_come 113 = .ok (.iadd, 1) := dk_96 (dk_at dksX16_come_5 10 rfl rfl)
theorem dX16_come_114 : decode cX16_come 114 = .ok (.aload_n 0, 1) := dk_42 (dk_at dksX16_come_5 11 rfl rfl)
theorem dX16_come_115 : decode cX16_come 115 = .ok (.getfield 47, 3) := dk_180 0 47 (dk_at dksX16_come_5 12 rfl rfl)
theorem dX16_come_118 : decode cX16_come 118 = .ok (.iconst 0, 1) := dk_3 (dk_at dksX16_come_5 15 rfl rfl)
theorem dX16_come_119 : decode cX16_come 119 = .ok (.iaload, 1) := dk_46 (dk_at dksX16_come_5 16 rfl rfl)
theorem dX16_come_120 : decode cX16_come 120 = .ok (.iastore, 1) := dk_79 (dk_at dksX16_come_5 17 rfl rfl)
theorem dX16_come_121 : decode cX16_come 121 = .ok (.aload_n 0, 1) := dk_42 (dk_at dksX16_come_5 18 rfl rfl)
theorem dX16_come_122 : decode cX16_come 122 = .ok (.getfield 11, 3) := dk_180 0 11 (dk_at dksX16_come_5 19 rfl rfl)
theorem dX16_come_125 : decode cX16_come 125 = .ok (.bipush 40, 2) := dk_16 40 (dk_at dksX16_come_5 22 rfl rfl)
theorem dX16_come_127 : decode cX16_come 127 = .ok (.iconst 3, 1) := dk_6 (dk_at dksX16_come_6 0 rfl rfl)
theorem dX16_come_128 : decode cX16_come 128 = .ok (.aload_n 0, 1) := dk_42 (dk_at dksX16_come_6 1 rfl rfl)
theorem dX16_come_129 : decode cX16_come 129 = .ok (.getfield 11, 3) := dk_180 0 11 (dk_at dksX16_come_6 2 rfl rfl)
theorem dX16_come_132 : decode cX16_come 132 = .ok (.iconst 1, 1) := dk_4 (dk_at dksX16_come_6 5 rfl rfl)
theorem dX16_come_133 : decode cX16_come 133 = .ok (.iaload, 1) := dk_46 (dk_at dksX16_come_6 6 rfl rfl)
theorem dX16_come_134 : decode cX16_come 134 = .ok (.imul, 1) := dk_104 (dk_at dksX16_come_6 7 rfl rfl)
theorem dX16_come_135 : decode cX16_come 135 = .ok (.iadd, 1) := dk_96 (dk_at dksX16_come_6 8 rfl rfl)
theorem dX16_come_136 : decode cX16_come 136 = .ok (.iconst 1, 1) := dk_4 (dk_at dksX16_come_6 9 rfl rfl)
theorem dX16_come_137 : decode cX16_come 137 = .ok (.iadd, 1) := dk_96 (dk_at dksX16_come_6 10 rfl rfl)
theorem dX16_come_138 : decode cX16_come 138 = .ok (.aload_n 0, 1) := dk_42 (dk_at dksX16_come_6 11 rfl rfl)
theorem dX16_come_139 : decode cX16_come 139 = .ok (.getfield 47, 3) := dk_180 0 47 (dk_at dksX16_come_6 12 rfl rfl)
theorem dX16_come_142 : decode cX16_come 142 = .ok (.iconst 1, 1) := dk_4 (dk_at dksX16_come_6 15 rfl rfl)
theorem dX16_come_143 : decode cX16_come 143 = .ok (.iaload, 1) := dk_46 (dk_at dksX16_come_6 16 rfl rfl)
theorem dX16_come_144 : decode cX16_come 144 = .ok (.iastore, 1) := dk_79 (dk_at dksX16_come_6 17 rfl rfl)
theorem dX16_come_145 : decode cX16_come 145 = .ok (.aload_n 0, 1) := dk_42 (dk_at dksX16_come_6 18 rfl rfl)
theorem dX16_come_146 : decode cX16_come 146 = .ok (.getfield 11, 3) := dk_180 0 11 (dk_at dksX16_come_6 19 rfl rfl)
theorem dX16_come_149 : decode cX16_come 149 = .ok (.bipush 40, 2) := dk_16 40 (dk_at dksX16_come_6 22 rfl rfl)
theorem dX16_come_151 : decode cX16_come 151 = .ok (.iconst 3, 1) := dk_6 (dk_at dksX16_come_7 0 rfl rfl)
theorem dX16_come_152 : decode cX16_come 152 = .ok (.aload_n 0, 1) := dk_42 (dk_at dksX16_come_7 1 rfl rfl)
theorem dX16_come_153 : decode cX16_come 153 = .ok (.getfield 11, 3) := dk_180 0 11 (dk_at dksX16_come_7 2 rfl rfl)
theorem dX16_come_156 : decode cX16_come 156 = .ok (.iconst 1, 1) := dk_4 (dk_at dksX16_come_7 5 rfl rfl)
theorem dX16_come_157 : decode cX16_come 157 = .ok (.iaload, 1) := dk_46 (dk_at dksX16_come_7 6 rfl rfl)
theorem dX16_come_158 : decode cX16_come 158 = .ok (.imul, 1) := dk_104 (dk_at dksX16_come_7 7 rfl rfl)
theorem dX16_come_159 : decode cX16_come 159 = .ok (.iadd, 1) := dk_96 (dk_at dksX16_come_7 8 rfl rfl)
theorem dX16_come_160 : decode cX16_come 160 = .ok (.iconst 2, 1) := dk_5 (dk_at dksX16_come_7 9 rfl rfl)
theorem dX16_come_161 : decode cX16_come 161 = .ok (.iadd, 1) := dk_96 (dk_at dksX16_come_7 10 rfl rfl)
theorem dX16_come_162 : decode cX16_come 162 = .ok (.iconst 0, 1) := dk_3 (dk_at dksX16_come_7 11 rfl rfl)
theorem dX16_come_163 : decode cX16_come 163 = .ok (.iastore, 1) := dk_79 (dk_at dksX16_come_7 12 rfl rfl)
theorem dX16_come_164 : decode cX16_come 164 = .ok (.aload_n 0, 1) := dk_42 (dk_at dksX16_come_7 13 rfl rfl)
theorem dX16_come_165 : decode cX16_come 165 = .ok (.getfield 11, 3) := dk_180 0 11 (dk_at dksX16_come_7 14 rfl rfl)
theorem dX16_come_168 : decode cX16_come 168 = .ok (.iconst 1, 1) := dk_4 (dk_at dksX16_come_7 17 rfl rfl)
theorem dX16_come_169 : decode cX16_come 169 = .ok (.dup2, 1) := dk_92 (dk_at dksX16_come_7 18 rfl rfl)
theorem dX16_come_170 : decode cX16_come 170 = .ok (.iaload, 1) := dk_46 (dk_at dksX16_come_7 19 rfl rfl)
theorem dX16_come_171 : decode cX16_come 171 = .ok (.iconst 1, 1) := dk_4 (dk_at dksX16_come_7 20 rfl rfl)
theorem dX16_come_172 : decode cX16_come 172 = .ok (.iadd, 1) := dk_96 (dk_at dksX16_come_7 21 rfl rfl)
theorem dX16_come_173 : decode cX16_come 173 = .ok (.iastore, 1) := dk_79 (dk_at dksX16_come_7 22 rfl rfl)
theorem dX16_come_174 : decode cX16_come 174 = .ok (.goto 13, 3) := dk_167 0 13 (dk_at dksX16_come_8 0 rfl rfl)
theorem dX16_come_177 : decode cX16_come 177 = .ok (.aload_n 0, 1) := dk_42 (dk_at dksX16_come_8 3 rfl rfl)
theorem dX16_come_178 : decode cX16_come 178 = .ok (.aload_n 0, 1) := dk_42 (dk_at dksX16_come_8 4 rfl rfl)
theorem dX16_come_179 : decode cX16_come 179 = .ok (.getfield 47, 3) := dk_180 0 47 (dk_at dksX16_come_8 5 rfl rfl)
theorem dX16_come_182 : decode cX16_come 182 = .ok (.iconst 0, 1) := dk_3 (dk_at dksX16_come_8 8 rfl rfl)
theorem dX16_come_183 : decode cX16_come 183 = .ok (.iaload, 1) := dk_46 (dk_at dksX16_come_8 9 rfl rfl)
theorem dX16_come_184 : decode cX16_come 184 = .ok (.invokevirtual 97, 3) := dk_182 0 97 (dk_at dksX16_come_8 10 rfl rfl)
theorem dX16_come_187 : decode cX16_come 187 = .ok (.return_, 1) := dk_177 (dk_at dksX16_come_8 13 rfl rfl)
