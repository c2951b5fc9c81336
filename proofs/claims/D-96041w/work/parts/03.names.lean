/-! java/lang/Throwable -/
set_option maxRecDepth 100000
def RJ0 : String := "java/lang/Throwable"
def TJ0 : u_T := fun k => match k with
  | 0 => ("java/lang/Throwable", "cause", "Ljava/lang/Throwable;", false)
  | 1 => ("java/lang/Throwable", "stackTrace", "[Ljava/lang/StackTraceElement;", false)
  | 2 => ("java/lang/Throwable", "suppressedExceptions", "Ljava/util/List;", false)
  | 3 => ("java/lang/Throwable", "detailMessage", "Ljava/lang/String;", false)
  | _ => ("java/lang/Throwable", "backtrace", "Ljava/lang/Object;", false)
def tyJ0 : Nat → FieldType := fun k => match k with
  | 0 => .object "java/lang/Throwable"
  | 1 => .array (.object "java/lang/StackTraceElement")
  | 2 => .object "java/util/List"
  | 3 => .object "java/lang/String"
  | _ => .object "java/lang/Object"
abbrev wsJ00 : List Cond := u_ws RJ0 TJ0 5
theorem nmJ0 : ∀ a, a < 5 → ∀ b, b < 5 → a ≠ b → (TJ0 a).2.1 ≠ (TJ0 b).2.1 := by decide +kernel
theorem tyJ0_ok : ∀ k, k < 5 → parseFieldDescriptor (TJ0 k).2.2.1 = some (tyJ0 k) := by decide +kernel
abbrev cJ0_init : ByteArray := prog_33_method_1_code
def yJ0_init : MethodName := ⟨RJ0, "<init>", "()V"⟩
def dkwJ0_init_1 : List UInt8 := [182, 0, 27, 87, 177]
abbrev dktJ0_init_1 : List UInt8 := dkwJ0_init_1 ++ []
def dkwJ0_init_0 : List UInt8 := [42, 183, 0, 1, 42, 42, 181, 0, 7, 42, 178, 0, 13, 181, 0, 17, 42, 178, 0, 20, 181, 0, 24, 42]
abbrev dktJ0_init_0 : List UInt8 := dkwJ0_init_0 ++ dktJ0_init_1
theorem dksJ0_init_0 : cJ0_init.data.toList.drop 0 = dktJ0_init_0 := by decide +kernel
theorem dksJ0_init_1 : cJ0_init.data.toList.drop 24 = dktJ0_init_1 := dk_seg dksJ0_init_0 24 rfl rfl
theorem dJ0_init_0 : decode cJ0_init 0 = .ok (.aload_n 0, 1) := dk_42 (dk_at dksJ0_init_0 0 rfl rfl)
theorem dJ0_init_1 : decode cJ0_init 1 = .ok (.invokespecial 1, 3) := dk_183 0 1 (dk_at dksJ0_init_0 1 rfl rfl)
theorem dJ0_init_4 : decode cJ0_init 4 = .ok (.aload_n 0, 1) := dk_42 (dk_at dksJ0_init_0 4 rfl rfl)
theorem dJ0_init_5 : decode cJ0_init 5 = .ok (.aload_n 0, 1) := dk_42 (dk_at dksJ0_init_0 5 rfl rfl)
theorem dJ0_init_6 : decode cJ0_init 6 = .ok (.putfield 7, 3) := dk_181 0 7 (dk_at dksJ0_init_0 6 rfl rfl)
theorem dJ0_init_9 : decode cJ0_init 9 = .ok (.aload_n 0, 1) := dk_42 (dk_at dksJ0_init_0 9 rfl rfl)
theorem dJ0_init_10 : decode cJ0_init 10 = .ok (.getstatic 13, 3) := dk_178 0 13 (dk_at dksJ0_init_0 10 rfl rfl)
theorem dJ0_init_13 : decode cJ0_init 13 = .ok (.putfield 17, 3) := dk_181 0 17 (dk_at dksJ0_init_0 13 rfl rfl)
theorem dJ0_init_16 : decode cJ0_init 16 = .ok (.aload_n 0, 1) := dk_42 (dk_at dksJ0_init_0 16 rfl rfl)
theorem dJ0_init_17 : decode cJ0_init 17 = .ok (.getstatic 20, 3) := dk_178 0 20 (dk_at dksJ0_init_0 17 rfl rfl)
theorem dJ0_init_20 : decode cJ0_init 20 = .ok (.putfield 24, 3) := dk_181 0 24 (dk_at dksJ0_init_0 20 rfl rfl)
theorem dJ0_init_23 : decode cJ0_init 23 = .ok (.aload_n 0, 1) := dk_42 (dk_at dksJ0_init_0 23 rfl rfl)
theorem dJ0_init_24 : decode cJ0_init 24 = .ok (.invokevirtual 27, 3) := dk_182 0 27 (dk_at dksJ0_init_1 0 rfl rfl)
theorem dJ0_init_27 : decode cJ0_init 27 = .ok (.pop, 1) := dk_87 (dk_at dksJ0_init_1 3 rfl rfl)
theorem dJ0_init_28 : decode cJ0_init 28 = .ok (.return_, 1) := dk_177 (dk_at dksJ0_init_1 4 rfl rfl)
theorem q93 : (Jvm.Cond.initialized "java/lang/Throwable") ∈ lw_all := lw_g (lw_at lw_m1 18 rfl) rfl
theorem q405 : (Jvm.Cond.declares ({ cls := "java/lang/Throwable", name := "<init>", desc := "()V" } : Jvm.MethodName)) ∈ lw_tbl := lw_at lw_m2 90 rfl
theorem q406 : (Jvm.Cond.declares ({ cls := "java/lang/Throwable", name := "<init>", desc := "(Ljava/lang/String;)V" } : Jvm.MethodName)) ∈ lw_tbl := lw_at lw_m2 91 rfl
theorem q410 : (Jvm.Cond.lays "java/lang/Throwable" "java/lang/Throwable" "cause" "Ljava/lang/Throwable;") ∈ lw_all := lw_g (lw_at lw_m2 95 rfl) rfl
theorem q412 : (Jvm.Cond.lays "java/lang/Throwable" "java/lang/Throwable" "stackTrace" "[Ljava/lang/StackTraceElement;") ∈ lw_all := lw_g (lw_at lw_m2 97 rfl) rfl
theorem q414 : (Jvm.Cond.lays "java/lang/Throwable" "java/lang/Throwable" "suppressedExceptions" "Ljava/util/List;") ∈ lw_all := lw_g (lw_at lw_m2 99 rfl) rfl
theorem q416 : (Jvm.Cond.lays "java/lang/Throwable" "java/lang/Throwable" "detailMessage" "Ljava/lang/String;") ∈ lw_all := lw_g (lw_at lw_m2 101 rfl) rfl
theorem q418 : (Jvm.Cond.lays "java/lang/Throwable" "java/lang/Throwable" "backtrace" "Ljava/lang/Object;") ∈ lw_all := lw_g (lw_at lw_m2 103 rfl) rfl
theorem q419 : (Jvm.Cond.fieldLink "java/lang/Throwable" (198 : Nat) "java/lang/Throwable" "backtrace" "Ljava/lang/Object;") ∈ lw_all := lw_g (lw_at lw_m2 104 rfl) rfl
theorem q420 : (Jvm.Cond.superclass "java/lang/Throwable" "java/lang/Object") ∈ lw_all := lw_g (lw_at lw_m2 105 rfl) rfl
theorem q421 : (Jvm.Cond.instanceMethod ({ cls := "java/lang/Throwable", name := "<init>", desc := "()V" } : Jvm.MethodName)) ∈ lw_all := lw_g (lw_at lw_m2 106 rfl) rfl
theorem q422 : (Jvm.Cond.code ({ cls := "java/lang/Throwable", name := "<init>", desc := "()V" } : Jvm.MethodName) prog_33_method_1_code (1 : Nat) (Option.none : Option Jvm.ClassFile.FieldType)) ∈ lw_all := lw_g (lw_at lw_m2 107 rfl) rfl
theorem q423 : (Jvm.Cond.methodLink "java/lang/Throwable" (1 : Nat) ({ cls := "java/lang/Object", name := "<init>", desc := "()V" } : Jvm.MethodName)) ∈ lw_all := lw_g (lw_at lw_m2 108 rfl) rfl
theorem q424 : (Jvm.Cond.fieldLink "java/lang/Throwable" (13 : Nat) "java/lang/Throwable" "UNASSIGNED_STACK" "[Ljava/lang/StackTraceElement;") ∈ lw_all := lw_g (lw_at lw_m2 109 rfl) rfl
theorem q425 : (Jvm.Cond.laysStatic "java/lang/Throwable" "UNASSIGNED_STACK" "[Ljava/lang/StackTraceElement;") ∈ lw_tbl := lw_at lw_m2 110 rfl
theorem q426 : (Jvm.Cond.fieldLink "java/lang/Throwable" (20 : Nat) "java/lang/Throwable" "SUPPRESSED_SENTINEL" "Ljava/util/List;") ∈ lw_all := lw_g (lw_at lw_m2 111 rfl) rfl
theorem q427 : (Jvm.Cond.laysStatic "java/lang/Throwable" "SUPPRESSED_SENTINEL" "Ljava/util/List;") ∈ lw_tbl := lw_at lw_m2 112 rfl
theorem q428 : (Jvm.Cond.methodLink "java/lang/Throwable" (27 : Nat) ({ cls := "java/lang/Throwable", name := "fillInStackTrace", desc := "()Ljava/lang/Throwable;" } : Jvm.MethodName)) ∈ lw_all := lw_g (lw_at lw_m2 113 rfl) rfl
theorem q429 : (Jvm.Cond.instanceMethod ({ cls := "java/lang/Throwable", name := "fillInStackTrace", desc := "()Ljava/lang/Throwable;" } : Jvm.MethodName)) ∈ lw_all := lw_g (lw_at lw_m2 114 rfl) rfl
theorem q430 : (Jvm.Cond.sameMethod "java/lang/Throwable" "java/lang/Throwable" "fillInStackTrace" "()Ljava/lang/Throwable;") ∈ lw_all := lw_g (lw_at lw_m2 115 rfl) rfl
theorem q432 : (Jvm.Cond.codeSync ({ cls := "java/lang/Throwable", name := "fillInStackTrace", desc := "()Ljava/lang/Throwable;" } : Jvm.MethodName) prog_33_method_18_code (1 : Nat) (Option.some (Jvm.ClassFile.FieldType.object "java/lang/Throwable"))) ∈ lw_all := lw_g (lw_at lw_m2 117 rfl) rfl
theorem q433 : (Jvm.Cond.methodLink "java/lang/Throwable" (202 : Nat) ({ cls := "java/lang/Throwable", name := "fillInStackTrace", desc := "(I)Ljava/lang/Throwable;" } : Jvm.MethodName)) ∈ lw_all := lw_g (lw_at lw_m2 118 rfl) rfl
theorem q434 : (Jvm.Cond.privateMethod ({ cls := "java/lang/Throwable", name := "fillInStackTrace", desc := "(I)Ljava/lang/Throwable;" } : Jvm.MethodName)) ∈ lw_tbl := lw_at lw_m2 119 rfl
theorem q435 : (Jvm.Cond.instanceMethod ({ cls := "java/lang/Throwable", name := "fillInStackTrace", desc := "(I)Ljava/lang/Throwable;" } : Jvm.MethodName)) ∈ lw_all := lw_g (lw_at lw_m2 120 rfl) rfl
theorem q436 : (Jvm.Cond.instantiable "java/lang/Throwable" (6 : Nat)) ∈ lw_all := lw_g (lw_at lw_m2 121 rfl) rfl
theorem q437 : (Jvm.Cond.native ({ cls := "java/lang/Throwable", name := "fillInStackTrace", desc := "(I)Ljava/lang/Throwable;" } : Jvm.MethodName)) ∈ lw_all := lw_g (lw_at lw_m2 122 rfl) rfl
theorem q452 : (Jvm.Cond.fieldLink "java/lang/Throwable" (198 : Nat) "java/lang/Throwable" "backtrace" "Ljava/lang/Object;") ∈ lw_all := lw_g (lw_at lw_m2 137 rfl) rfl
theorem q453 : (Jvm.Cond.fieldLink "java/lang/Throwable" (7 : Nat) "java/lang/Throwable" "cause" "Ljava/lang/Throwable;") ∈ lw_all := lw_g (lw_at lw_m2 138 rfl) rfl
theorem q454 : (Jvm.Cond.fieldLink "java/lang/Throwable" (17 : Nat) "java/lang/Throwable" "stackTrace" "[Ljava/lang/StackTraceElement;") ∈ lw_all := lw_g (lw_at lw_m2 139 rfl) rfl
theorem q455 : (Jvm.Cond.fieldLink "java/lang/Throwable" (24 : Nat) "java/lang/Throwable" "suppressedExceptions" "Ljava/util/List;") ∈ lw_all := lw_g (lw_at lw_m2 140 rfl) rfl
theorem q458 : (Jvm.Cond.soleField "java/lang/Throwable" "backtrace") ∈ lw_all := lw_g (lw_at lw_m2 143 rfl) rfl
theorem q459 : (Jvm.Cond.soleField "java/lang/Throwable" "detailMessage") ∈ lw_all := lw_g (lw_at lw_m2 144 rfl) rfl
theorem q460 : (Jvm.Cond.soleField "java/lang/Throwable" "cause") ∈ lw_all := lw_g (lw_at lw_m2 145 rfl) rfl
theorem q461 : (Jvm.Cond.soleField "java/lang/Throwable" "stackTrace") ∈ lw_all := lw_g (lw_at lw_m2 146 rfl) rfl
theorem q463 : (Jvm.Cond.soleField "java/lang/Throwable" "depth") ∈ lw_all := lw_g (lw_at lw_m2 148 rfl) rfl
theorem q464 : (Jvm.Cond.soleField "java/lang/Throwable" "suppressedExceptions") ∈ lw_all := lw_g (lw_at lw_m2 149 rfl) rfl
theorem q1469 : (Jvm.Cond.sameMethod "java/lang/Throwable" "java/lang/Throwable" "fillInStackTrace" "(I)Ljava/lang/Throwable;") ∈ lw_all := lw_g (lw_at lw_m6 194 rfl) rfl
theorem in_J0 : ∀ w ∈ wsJ00, w ∈ lw_all := lw_in wsJ00 [410, 412, 414, 416, 418] (by decide +kernel) (by decide +kernel)

/-! java/lang/Exception -/
set_option maxRecDepth 100000
def RJ1 : String := "java/lang/Exception"
abbrev cJ1_init : ByteArray := prog_29_method_1_code
def yJ1_init : MethodName := ⟨RJ1, "<init>", "()V"⟩
theorem dJ1_init_0 : decode cJ1_init 0 = .ok (.aload_n 0, 1) := by decide +kernel
theorem dJ1_init_1 : decode cJ1_init 1 = .ok (.invokespecial 1, 3) := by decide +kernel
theorem dJ1_init_4 : decode cJ1_init 4 = .ok (.return_, 1) := by decide +kernel
theorem q94 : (Jvm.Cond.initialized "java/lang/Exception") ∈ lw_all := lw_g (lw_at lw_m1 19 rfl) rfl
theorem q403 : (Jvm.Cond.declares ({ cls := "java/lang/Exception", name := "<init>", desc := "()V" } : Jvm.MethodName)) ∈ lw_tbl := lw_at lw_m2 88 rfl
theorem q404 : (Jvm.Cond.declares ({ cls := "java/lang/Exception", name := "<init>", desc := "(Ljava/lang/String;)V" } : Jvm.MethodName)) ∈ lw_tbl := lw_at lw_m2 89 rfl
theorem q448 : (Jvm.Cond.instanceMethod ({ cls := "java/lang/Exception", name := "<init>", desc := "()V" } : Jvm.MethodName)) ∈ lw_all := lw_g (lw_at lw_m2 133 rfl) rfl
theorem q449 : (Jvm.Cond.code ({ cls := "java/lang/Exception", name := "<init>", desc := "()V" } : Jvm.MethodName) prog_29_method_1_code (1 : Nat) (Option.none : Option Jvm.ClassFile.FieldType)) ∈ lw_all := lw_g (lw_at lw_m2 134 rfl) rfl
theorem q450 : (Jvm.Cond.methodLink "java/lang/Exception" (1 : Nat) ({ cls := "java/lang/Throwable", name := "<init>", desc := "()V" } : Jvm.MethodName)) ∈ lw_all := lw_g (lw_at lw_m2 135 rfl) rfl

/-! java/lang/RuntimeException -/
set_option maxRecDepth 100000
def RJ2 : String := "java/lang/RuntimeException"
abbrev cJ2_init : ByteArray := prog_31_method_1_code
def yJ2_init : MethodName := ⟨RJ2, "<init>", "()V"⟩
theorem dJ2_init_0 : decode cJ2_init 0 = .ok (.aload_n 0, 1) := by decide +kernel
theorem dJ2_init_1 : decode cJ2_init 1 = .ok (.invokespecial 1, 3) := by decide +kernel
theorem dJ2_init_4 : decode cJ2_init 4 = .ok (.return_, 1) := by decide +kernel
theorem q95 : (Jvm.Cond.initialized "java/lang/RuntimeException") ∈ lw_all := lw_g (lw_at lw_m1 20 rfl) rfl
theorem q401 : (Jvm.Cond.declares ({ cls := "java/lang/RuntimeException", name := "<init>", desc := "()V" } : Jvm.MethodName)) ∈ lw_tbl := lw_at lw_m2 86 rfl
theorem q402 : (Jvm.Cond.declares ({ cls := "java/lang/RuntimeException", name := "<init>", desc := "(Ljava/lang/String;)V" } : Jvm.MethodName)) ∈ lw_tbl := lw_at lw_m2 87 rfl
theorem q445 : (Jvm.Cond.instanceMethod ({ cls := "java/lang/RuntimeException", name := "<init>", desc := "()V" } : Jvm.MethodName)) ∈ lw_all := lw_g (lw_at lw_m2 130 rfl) rfl
theorem q446 : (Jvm.Cond.code ({ cls := "java/lang/RuntimeException", name := "<init>", desc := "()V" } : Jvm.MethodName) prog_31_method_1_code (1 : Nat) (Option.none : Option Jvm.ClassFile.FieldType)) ∈ lw_all := lw_g (lw_at lw_m2 131 rfl) rfl
theorem q447 : (Jvm.Cond.methodLink "java/lang/RuntimeException" (1 : Nat) ({ cls := "java/lang/Exception", name := "<init>", desc := "()V" } : Jvm.MethodName)) ∈ lw_all := lw_g (lw_at lw_m2 132 rfl) rfl

/-! java/lang/Math -/
set_option maxRecDepth 100000
def RJ3 : String := "java/lang/Math"
abbrev cJ3_min : ByteArray := prog_30_method_69_code
def yJ3_min : MethodName := ⟨RJ3, "min", "(II)I"⟩
def dkwJ3_min_0 : List UInt8 := [26, 27, 163, 0, 7, 26, 167, 0, 4, 27, 172]
abbrev dktJ3_min_0 : List UInt8 := dkwJ3_min_0 ++ []
theorem dksJ3_min_0 : cJ3_min.data.toList.drop 0 = dktJ3_min_0 := by decide +kernel
theorem dJ3_min_0 : decode cJ3_min 0 = .ok (.iload_n 0, 1) := dk_26 (dk_at dksJ3_min_0 0 rfl rfl)
theorem dJ3_min_1 : decode cJ3_min 1 = .ok (.iload_n 1, 1) := dk_27 (dk_at dksJ3_min_0 1 rfl rfl)
theorem dJ3_min_2 : decode cJ3_min 2 = .ok (.if_icmp .gt 7, 3) := dk_163 0 7 (dk_at dksJ3_min_0 2 rfl rfl)
theorem dJ3_min_5 : decode cJ3_min 5 = .ok (.iload_n 0, 1) := dk_26 (dk_at dksJ3_min_0 5 rfl rfl)
theorem dJ3_min_6 : decode cJ3_min 6 = .ok (.goto 4, 3) := dk_167 0 4 (dk_at dksJ3_min_0 6 rfl rfl)
theorem dJ3_min_9 : decode cJ3_min 9 = .ok (.iload_n 1, 1) := dk_27 (dk_at dksJ3_min_0 9 rfl rfl)
theorem dJ3_min_10 : decode cJ3_min 10 = .ok (.ireturn, 1) := dk_172 (dk_at dksJ3_min_0 10 rfl rfl)
abbrev cJ3_max : ByteArray := prog_30_method_65_code
def yJ3_max : MethodName := ⟨RJ3, "max", "(II)I"⟩
def dkwJ3_max_0 : List UInt8 := [26, 27, 161, 0, 7, 26, 167, 0, 4, 27, 172]
abbrev dktJ3_max_0 : List UInt8 := dkwJ3_max_0 ++ []
theorem dksJ3_max_0 : cJ3_max.data.toList.drop 0 = dktJ3_max_0 := by decide +kernel
theorem dJ3_max_0 : decode cJ3_max 0 = .ok (.iload_n 0, 1) := dk_26 (dk_at dksJ3_max_0 0 rfl rfl)
theorem dJ3_max_1 : decode cJ3_max 1 = .ok (.iload_n 1, 1) := dk_27 (dk_at dksJ3_max_0 1 rfl rfl)
theorem dJ3_max_2 : decode cJ3_max 2 = .ok (.if_icmp .lt 7, 3) := dk_161 0 7 (dk_at dksJ3_max_0 2 rfl rfl)
theorem dJ3_max_5 : decode cJ3_max 5 = .ok (.iload_n 0, 1) := dk_26 (dk_at dksJ3_max_0 5 rfl rfl)
theorem dJ3_max_6 : decode cJ3_max 6 = .ok (.goto 4, 3) := dk_167 0 4 (dk_at dksJ3_max_0 6 rfl rfl)
theorem dJ3_max_9 : decode cJ3_max 9 = .ok (.iload_n 1, 1) := dk_27 (dk_at dksJ3_max_0 9 rfl rfl)
theorem dJ3_max_10 : decode cJ3_max 10 = .ok (.ireturn, 1) := dk_172 (dk_at dksJ3_max_0 10 rfl rfl)
theorem q107 : (Jvm.Cond.initialized "java/lang/Math") ∈ lw_all := lw_g (lw_at lw_m1 32 rfl) rfl
theorem q673 : (Jvm.Cond.static ({ cls := "java/lang/Math", name := "min", desc := "(II)I" } : Jvm.MethodName)) ∈ lw_all := lw_g (lw_at lw_m3 118 rfl) rfl
theorem q674 : (Jvm.Cond.code ({ cls := "java/lang/Math", name := "min", desc := "(II)I" } : Jvm.MethodName) prog_30_method_69_code (2 : Nat) (Option.some Jvm.ClassFile.FieldType.int)) ∈ lw_all := lw_g (lw_at lw_m3 119 rfl) rfl
theorem q777 : (Jvm.Cond.static ({ cls := "java/lang/Math", name := "max", desc := "(II)I" } : Jvm.MethodName)) ∈ lw_all := lw_g (lw_at lw_m3 222 rfl) rfl
theorem q778 : (Jvm.Cond.code ({ cls := "java/lang/Math", name := "max", desc := "(II)I" } : Jvm.MethodName) prog_30_method_65_code (2 : Nat) (Option.some Jvm.ClassFile.FieldType.int)) ∈ lw_all := lw_g (lw_at lw_m3 223 rfl) rfl

/-! java/lang/Object -/
set_option maxRecDepth 100000
def RJ4 : String := "java/lang/Object"
abbrev cJ4_init : ByteArray := object_method_1_code
def yJ4_init : MethodName := ⟨RJ4, "<init>", "()V"⟩
theorem dJ4_init_0 : decode cJ4_init 0 = .ok (.return_, 1) := by decide +kernel
theorem q114 : (Jvm.Cond.instanceMethod ({ cls := "java/lang/Object", name := "<init>", desc := "()V" } : Jvm.MethodName)) ∈ lw_all := lw_g (lw_at lw_m1 39 rfl) rfl
theorem q115 : (Jvm.Cond.code ({ cls := "java/lang/Object", name := "<init>", desc := "()V" } : Jvm.MethodName) object_method_1_code (1 : Nat) (Option.none : Option Jvm.ClassFile.FieldType)) ∈ lw_all := lw_g (lw_at lw_m1 40 rfl) rfl

/-! GoodHalfEmpty$Rule -/
set_option maxRecDepth 100000
def RX1 : String := "GoodHalfEmpty$Rule"
abbrev cX1_init : ByteArray := prog_16_method_1_code
def yX1_init : MethodName := ⟨RX1, "<init>", "()V"⟩
theorem dX1_init_0 : decode cX1_init 0 = .ok (.aload_n 0, 1) := by decide +kernel
theorem dX1_init_1 : decode cX1_init 1 = .ok (.invokespecial 1, 3) := by decide +kernel
theorem dX1_init_4 : decode cX1_init 4 = .ok (.return_, 1) := by decide +kernel
theorem q77 : (Jvm.Cond.initialized "GoodHalfEmpty$Rule") ∈ lw_all := lw_g (lw_at lw_m1 2 rfl) rfl
theorem q124 : (Jvm.Cond.instanceMethod ({ cls := "GoodHalfEmpty$Rule", name := "<init>", desc := "()V" } : Jvm.MethodName)) ∈ lw_all := lw_g (lw_at lw_m1 49 rfl) rfl
theorem q125 : (Jvm.Cond.code ({ cls := "GoodHalfEmpty$Rule", name := "<init>", desc := "()V" } : Jvm.MethodName) prog_16_method_1_code (1 : Nat) (Option.none : Option Jvm.ClassFile.FieldType)) ∈ lw_all := lw_g (lw_at lw_m1 50 rfl) rfl
theorem q126 : (Jvm.Cond.methodLink "GoodHalfEmpty$Rule" (1 : Nat) ({ cls := "java/lang/Object", name := "<init>", desc := "()V" } : Jvm.MethodName)) ∈ lw_all := lw_g (lw_at lw_m1 51 rfl) rfl
theorem q739 : (Jvm.Cond.declares ({ cls := "GoodHalfEmpty$Rule", name := "kind", desc := "()I" } : Jvm.MethodName)) ∈ lw_tbl := lw_at lw_m3 184 rfl
theorem q740 : (Jvm.Cond.sameMethod "GoodHalfEmpty$Rule" "GoodHalfEmpty$Rule" "kind" "()I") ∈ lw_all := lw_g (lw_at lw_m3 185 rfl) rfl
theorem q764 : (Jvm.Cond.declares ({ cls := "GoodHalfEmpty$Rule", name := "foretells", desc := "(LGoodHalfEmpty$Town;I)I" } : Jvm.MethodName)) ∈ lw_tbl := lw_at lw_m3 209 rfl
theorem q765 : (Jvm.Cond.sameMethod "GoodHalfEmpty$Rule" "GoodHalfEmpty$Rule" "foretells" "(LGoodHalfEmpty$Town;I)I") ∈ lw_all := lw_g (lw_at lw_m3 210 rfl) rfl

/-! GoodHalfEmpty$Last -/
set_option maxRecDepth 100000
def RX2 : String := "GoodHalfEmpty$Last"
abbrev cX2_init : ByteArray := prog_8_method_1_code
def yX2_init : MethodName := ⟨RX2, "<init>", "()V"⟩
theorem dX2_init_0 : decode cX2_init 0 = .ok (.aload_n 0, 1) := by decide +kernel
theorem dX2_init_1 : decode cX2_init 1 = .ok (.invokespecial 1, 3) := by decide +kernel
theorem dX2_init_4 : decode cX2_init 4 = .ok (.return_, 1) := by decide +kernel
abbrev cX2_kind : ByteArray := prog_8_method_2_code
def yX2_kind : MethodName := ⟨RX2, "kind", "()I"⟩
theorem dX2_kind_0 : decode cX2_kind 0 = .ok (.iconst 0, 1) := by decide +kernel
theorem dX2_kind_1 : decode cX2_kind 1 = .ok (.ireturn, 1) := by decide +kernel
abbrev cX2_foretells : ByteArray := prog_8_method_4_code
def yX2_foretells : MethodName := ⟨RX2, "foretells", "(LGoodHalfEmpty$Town;I)I"⟩
def dkwX2_foretells_0 : List UInt8 := [3, 42, 43, 43, 28, 182, 0, 7, 182, 0, 13, 184, 0, 19, 172]
abbrev dktX2_foretells_0 : List UInt8 := dkwX2_foretells_0 ++ []
theorem dksX2_foretells_0 : cX2_foretells.data.toList.drop 0 = dktX2_foretells_0 := by decide +kernel
theorem dX2_foretells_0 : decode cX2_foretells 0 = .ok (.iconst 0, 1) := dk_3 (dk_at dksX2_foretells_0 0 rfl rfl)
theorem dX2_foretells_1 : decode cX2_foretells 1 = .ok (.aload_n 0, 1) := dk_42 (dk_at dksX2_foretells_0 1 rfl rfl)
theorem dX2_foretells_2 : decode cX2_foretells 2 = .ok (.aload_n 1, 1) := dk_43 (dk_at dksX2_foretells_0 2 rfl rfl)
theorem dX2_foretells_3 : decode cX2_foretells 3 = .ok (.aload_n 1, 1) := dk_43 (dk_at dksX2_foretells_0 3 rfl rfl)
theorem dX2_foretells_4 : decode cX2_foretells 4 = .ok (.iload_n 2, 1) := dk_28 (dk_at dksX2_foretells_0 4 rfl rfl)
theorem dX2_foretells_5 : decode cX2_foretells 5 = .ok (.invokevirtual 7, 3) := dk_182 0 7 (dk_at dksX2_foretells_0 5 rfl rfl)
theorem dX2_foretells_8 : decode cX2_foretells 8 = .ok (.invokevirtual 13, 3) := dk_182 0 13 (dk_at dksX2_foretells_0 8 rfl rfl)
theorem dX2_foretells_11 : decode cX2_foretells 11 = .ok (.invokestatic 19, 3) := dk_184 0 19 (dk_at dksX2_foretells_0 11 rfl rfl)
theorem dX2_foretells_14 : decode cX2_foretells 14 = .ok (.ireturn, 1) := dk_172 (dk_at dksX2_foretells_0 14 rfl rfl)
abbrev cX2_by : ByteArray := prog_8_method_3_code
def yX2_by : MethodName := ⟨RX2, "by", "(LGoodHalfEmpty$Town;I)I"⟩
theorem dX2_by_0 : decode cX2_by 0 = .ok (.iload_n 2, 1) := by decide +kernel
theorem dX2_by_1 : decode cX2_by 1 = .ok (.ireturn, 1) := by decide +kernel
theorem q78 : (Jvm.Cond.initialized "GoodHalfEmpty$Last") ∈ lw_all := lw_g (lw_at lw_m1 3 rfl) rfl
theorem q119 : (Jvm.Cond.instantiable "GoodHalfEmpty$Last" (0 : Nat)) ∈ lw_all := lw_g (lw_at lw_m1 44 rfl) rfl
theorem q121 : (Jvm.Cond.instanceMethod ({ cls := "GoodHalfEmpty$Last", name := "<init>", desc := "()V" } : Jvm.MethodName)) ∈ lw_all := lw_g (lw_at lw_m1 46 rfl) rfl
theorem q122 : (Jvm.Cond.code ({ cls := "GoodHalfEmpty$Last", name := "<init>", desc := "()V" } : Jvm.MethodName) prog_8_method_1_code (1 : Nat) (Option.none : Option Jvm.ClassFile.FieldType)) ∈ lw_all := lw_g (lw_at lw_m1 47 rfl) rfl
theorem q123 : (Jvm.Cond.methodLinkNest "GoodHalfEmpty$Last" (1 : Nat) ({ cls := "GoodHalfEmpty$Rule", name := "<init>", desc := "()V" } : Jvm.MethodName) "GoodHalfEmpty") ∈ lw_tbl := lw_at lw_m1 48 rfl
theorem q127 : (Jvm.Cond.superclass "GoodHalfEmpty$Last" "GoodHalfEmpty$Rule") ∈ lw_all := lw_g (lw_at lw_m1 52 rfl) rfl
theorem q747 : (Jvm.Cond.selects "GoodHalfEmpty$Last" ({ cls := "GoodHalfEmpty$Rule", name := "kind", desc := "()I" } : Jvm.MethodName) ({ cls := "GoodHalfEmpty$Last", name := "kind", desc := "()I" } : Jvm.MethodName)) ∈ lw_all := lw_g (lw_at lw_m3 192 rfl) rfl
theorem q748 : (Jvm.Cond.instanceMethod ({ cls := "GoodHalfEmpty$Last", name := "kind", desc := "()I" } : Jvm.MethodName)) ∈ lw_all := lw_g (lw_at lw_m3 193 rfl) rfl
theorem q749 : (Jvm.Cond.code ({ cls := "GoodHalfEmpty$Last", name := "kind", desc := "()I" } : Jvm.MethodName) prog_8_method_2_code (1 : Nat) (Option.some Jvm.ClassFile.FieldType.int)) ∈ lw_all := lw_g (lw_at lw_m3 194 rfl) rfl
theorem q782 : (Jvm.Cond.selects "GoodHalfEmpty$Last" ({ cls := "GoodHalfEmpty$Rule", name := "foretells", desc := "(LGoodHalfEmpty$Town;I)I" } : Jvm.MethodName) ({ cls := "GoodHalfEmpty$Last", name := "foretells", desc := "(LGoodHalfEmpty$Town;I)I" } : Jvm.MethodName)) ∈ lw_all := lw_g (lw_at lw_m3 227 rfl) rfl
theorem q783 : (Jvm.Cond.instanceMethod ({ cls := "GoodHalfEmpty$Last", name := "foretells", desc := "(LGoodHalfEmpty$Town;I)I" } : Jvm.MethodName)) ∈ lw_all := lw_g (lw_at lw_m3 228 rfl) rfl
theorem q784 : (Jvm.Cond.code ({ cls := "GoodHalfEmpty$Last", name := "foretells", desc := "(LGoodHalfEmpty$Town;I)I" } : Jvm.MethodName) prog_8_method_4_code (3 : Nat) (Option.some Jvm.ClassFile.FieldType.int)) ∈ lw_all := lw_g (lw_at lw_m3 229 rfl) rfl
theorem q785 : (Jvm.Cond.methodLink "GoodHalfEmpty$Last" (7 : Nat) ({ cls := "GoodHalfEmpty$Town", name := "ago", desc := "(I)I" } : Jvm.MethodName)) ∈ lw_all := lw_g (lw_at lw_m3 230 rfl) rfl
theorem q786 : (Jvm.Cond.methodLink "GoodHalfEmpty$Last" (13 : Nat) ({ cls := "GoodHalfEmpty$Last", name := "by", desc := "(LGoodHalfEmpty$Town;I)I" } : Jvm.MethodName)) ∈ lw_all := lw_g (lw_at lw_m3 231 rfl) rfl
theorem q787 : (Jvm.Cond.instanceMethod ({ cls := "GoodHalfEmpty$Last", name := "by", desc := "(LGoodHalfEmpty$Town;I)I" } : Jvm.MethodName)) ∈ lw_all := lw_g (lw_at lw_m3 232 rfl) rfl
theorem q788 : (Jvm.Cond.selects "GoodHalfEmpty$Last" ({ cls := "GoodHalfEmpty$Last", name := "by", desc := "(LGoodHalfEmpty$Town;I)I" } : Jvm.MethodName) ({ cls := "GoodHalfEmpty$Last", name := "by", desc := "(LGoodHalfEmpty$Town;I)I" } : Jvm.MethodName)) ∈ lw_all := lw_g (lw_at lw_m3 233 rfl) rfl
theorem q789 : (Jvm.Cond.sameMethod "GoodHalfEmpty$Last" "GoodHalfEmpty$Last" "by" "(LGoodHalfEmpty$Town;I)I") ∈ lw_all := lw_g (lw_at lw_m3 234 rfl) rfl
theorem q803 : (Jvm.Cond.code ({ cls := "GoodHalfEmpty$Last", name := "by", desc := "(LGoodHalfEmpty$Town;I)I" } : Jvm.MethodName) prog_8_method_3_code (3 : Nat) (Option.some Jvm.ClassFile.FieldType.int)) ∈ lw_all := lw_g (lw_at lw_m4 8 rfl) rfl
theorem q804 : (Jvm.Cond.methodLink "GoodHalfEmpty$Last" (19 : Nat) ({ cls := "java/lang/Math", name := "max", desc := "(II)I" } : Jvm.MethodName)) ∈ lw_all := lw_g (lw_at lw_m4 9 rfl) rfl
theorem q1473 : (Jvm.Cond.castable "GoodHalfEmpty$Last" "GoodHalfEmpty$Rule") ∈ lw_tbl := lw_at lw_m6 198 rfl

/-! GoodHalfEmpty$OtherWay -/
set_option maxRecDepth 100000
def RX3 : String := "GoodHalfEmpty$OtherWay"
abbrev cX3_init : ByteArray := prog_12_method_1_code
def yX3_init : MethodName := ⟨RX3, "<init>", "()V"⟩
theorem dX3_init_0 : decode cX3_init 0 = .ok (.aload_n 0, 1) := by decide +kernel
theorem dX3_init_1 : decode cX3_init 1 = .ok (.invokespecial 1, 3) := by decide +kernel
theorem dX3_init_4 : decode cX3_init 4 = .ok (.return_, 1) := by decide +kernel
abbrev cX3_kind : ByteArray := prog_12_method_2_code
def yX3_kind : MethodName := ⟨RX3, "kind", "()I"⟩
theorem dX3_kind_0 : decode cX3_kind 0 = .ok (.iconst 1, 1) := by decide +kernel
theorem dX3_kind_1 : decode cX3_kind 1 = .ok (.ireturn, 1) := by decide +kernel
abbrev cX3_by : ByteArray := prog_12_method_3_code
def yX3_by : MethodName := ⟨RX3, "by", "(LGoodHalfEmpty$Town;I)I"⟩
def dkwX3_by_0 : List UInt8 := [43, 182, 0, 7, 42, 43, 28, 183, 0, 13, 100, 172]
abbrev dktX3_by_0 : List UInt8 := dkwX3_by_0 ++ []
theorem dksX3_by_0 : cX3_by.data.toList.drop 0 = dktX3_by_0 := by decide +kernel
theorem dX3_by_0 : decode cX3_by 0 = .ok (.aload_n 1, 1) := dk_43 (dk_at dksX3_by_0 0 rfl rfl)
theorem dX3_by_1 : decode cX3_by 1 = .ok (.invokevirtual 7, 3) := dk_182 0 7 (dk_at dksX3_by_0 1 rfl rfl)
theorem dX3_by_4 : decode cX3_by 4 = .ok (.aload_n 0, 1) := dk_42 (dk_at dksX3_by_0 4 rfl rfl)
theorem dX3_by_5 : decode cX3_by 5 = .ok (.aload_n 1, 1) := dk_43 (dk_at dksX3_by_0 5 rfl rfl)
theorem dX3_by_6 : decode cX3_by 6 = .ok (.iload_n 2, 1) := dk_28 (dk_at dksX3_by_0 6 rfl rfl)
theorem dX3_by_7 : decode cX3_by 7 = .ok (.invokespecial 13, 3) := dk_183 0 13 (dk_at dksX3_by_0 7 rfl rfl)
theorem dX3_by_10 : decode cX3_by 10 = .ok (.isub, 1) := dk_100 (dk_at dksX3_by_0 10 rfl rfl)
theorem dX3_by_11 : decode cX3_by 11 = .ok (.ireturn, 1) := dk_172 (dk_at dksX3_by_0 11 rfl rfl)
theorem q79 : (Jvm.Cond.initialized "GoodHalfEmpty$OtherWay") ∈ lw_all := lw_g (lw_at lw_m1 4 rfl) rfl
theorem q129 : (Jvm.Cond.instantiable "GoodHalfEmpty$OtherWay" (0 : Nat)) ∈ lw_all := lw_g (lw_at lw_m1 54 rfl) rfl
theorem q131 : (Jvm.Cond.instanceMethod ({ cls := "GoodHalfEmpty$OtherWay", name := "<init>", desc := "()V" } : Jvm.MethodName)) ∈ lw_all := lw_g (lw_at lw_m1 56 rfl) rfl
theorem q132 : (Jvm.Cond.code ({ cls := "GoodHalfEmpty$OtherWay", name := "<init>", desc := "()V" } : Jvm.MethodName) prog_12_method_1_code (1 : Nat) (Option.none : Option Jvm.ClassFile.FieldType)) ∈ lw_all := lw_g (lw_at lw_m1 57 rfl) rfl
theorem q133 : (Jvm.Cond.methodLinkNest "GoodHalfEmpty$OtherWay" (1 : Nat) ({ cls := "GoodHalfEmpty$Last", name := "<init>", desc := "()V" } : Jvm.MethodName) "GoodHalfEmpty") ∈ lw_tbl := lw_at lw_m1 58 rfl
theorem q134 : (Jvm.Cond.superclass "GoodHalfEmpty$OtherWay" "GoodHalfEmpty$Last") ∈ lw_all := lw_g (lw_at lw_m1 59 rfl) rfl
theorem q753 : (Jvm.Cond.selects "GoodHalfEmpty$OtherWay" ({ cls := "GoodHalfEmpty$Rule", name := "kind", desc := "()I" } : Jvm.MethodName) ({ cls := "GoodHalfEmpty$OtherWay", name := "kind", desc := "()I" } : Jvm.MethodName)) ∈ lw_all := lw_g (lw_at lw_m3 198 rfl) rfl
theorem q754 : (Jvm.Cond.instanceMethod ({ cls := "GoodHalfEmpty$OtherWay", name := "kind", desc := "()I" } : Jvm.MethodName)) ∈ lw_all := lw_g (lw_at lw_m3 199 rfl) rfl
theorem q755 : (Jvm.Cond.code ({ cls := "GoodHalfEmpty$OtherWay", name := "kind", desc := "()I" } : Jvm.MethodName) prog_12_method_2_code (1 : Nat) (Option.some Jvm.ClassFile.FieldType.int)) ∈ lw_all := lw_g (lw_at lw_m3 200 rfl) rfl
theorem q790 : (Jvm.Cond.selects "GoodHalfEmpty$OtherWay" ({ cls := "GoodHalfEmpty$Last", name := "by", desc := "(LGoodHalfEmpty$Town;I)I" } : Jvm.MethodName) ({ cls := "GoodHalfEmpty$OtherWay", name := "by", desc := "(LGoodHalfEmpty$Town;I)I" } : Jvm.MethodName)) ∈ lw_all := lw_g (lw_at lw_m3 235 rfl) rfl
theorem q791 : (Jvm.Cond.instanceMethod ({ cls := "GoodHalfEmpty$OtherWay", name := "by", desc := "(LGoodHalfEmpty$Town;I)I" } : Jvm.MethodName)) ∈ lw_all := lw_g (lw_at lw_m3 236 rfl) rfl
theorem q792 : (Jvm.Cond.code ({ cls := "GoodHalfEmpty$OtherWay", name := "by", desc := "(LGoodHalfEmpty$Town;I)I" } : Jvm.MethodName) prog_12_method_3_code (3 : Nat) (Option.some Jvm.ClassFile.FieldType.int)) ∈ lw_all := lw_g (lw_at lw_m3 237 rfl) rfl
theorem q793 : (Jvm.Cond.methodLink "GoodHalfEmpty$OtherWay" (7 : Nat) ({ cls := "GoodHalfEmpty$Town", name := "people", desc := "()I" } : Jvm.MethodName)) ∈ lw_all := lw_g (lw_at lw_m3 238 rfl) rfl
theorem q797 : (Jvm.Cond.methodLink "GoodHalfEmpty$OtherWay" (13 : Nat) ({ cls := "GoodHalfEmpty$Last", name := "by", desc := "(LGoodHalfEmpty$Town;I)I" } : Jvm.MethodName)) ∈ lw_all := lw_g (lw_at lw_m4 2 rfl) rfl
theorem q806 : (Jvm.Cond.selects "GoodHalfEmpty$OtherWay" ({ cls := "GoodHalfEmpty$Rule", name := "foretells", desc := "(LGoodHalfEmpty$Town;I)I" } : Jvm.MethodName) ({ cls := "GoodHalfEmpty$Last", name := "foretells", desc := "(LGoodHalfEmpty$Town;I)I" } : Jvm.MethodName)) ∈ lw_all := lw_g (lw_at lw_m4 11 rfl) rfl
theorem q1474 : (Jvm.Cond.castable "GoodHalfEmpty$OtherWay" "GoodHalfEmpty$Rule") ∈ lw_tbl := lw_at lw_m6 199 rfl

/-! GoodHalfEmpty$Mean -/
set_option maxRecDepth 100000
def RX4 : String := "GoodHalfEmpty$Mean"
abbrev cX4_init : ByteArray := prog_9_method_1_code
def yX4_init : MethodName := ⟨RX4, "<init>", "()V"⟩
theorem dX4_init_0 : decode cX4_init 0 = .ok (.aload_n 0, 1) := by decide +kernel
theorem dX4_init_1 : decode cX4_init 1 = .ok (.invokespecial 1, 3) := by decide +kernel
theorem dX4_init_4 : decode cX4_init 4 = .ok (.return_, 1) := by decide +kernel
abbrev cX4_kind : ByteArray := prog_9_method_2_code
def yX4_kind : MethodName := ⟨RX4, "kind", "()I"⟩
theorem dX4_kind_0 : decode cX4_kind 0 = .ok (.iconst 2, 1) := by decide +kernel
theorem dX4_kind_1 : decode cX4_kind 1 = .ok (.ireturn, 1) := by decide +kernel
abbrev cX4_foretells : ByteArray := prog_9_method_3_code
def yX4_foretells : MethodName := ⟨RX4, "foretells", "(LGoodHalfEmpty$Town;I)I"⟩
def dkwX4_foretells_1 : List UInt8 := [167, 255, 238, 29, 28, 108, 172]
abbrev dktX4_foretells_1 : List UInt8 := dkwX4_foretells_1 ++ []
def dkwX4_foretells_0 : List UInt8 := [3, 62, 4, 54, 4, 21, 4, 28, 163, 0, 18, 29, 43, 21, 4, 182, 0, 7, 96, 62, 132, 4, 1]
abbrev dktX4_foretells_0 : List UInt8 := dkwX4_foretells_0 ++ dktX4_foretells_1
theorem dksX4_foretells_0 : cX4_foretells.data.toList.drop 0 = dktX4_foretells_0 := by decide +kernel
theorem dksX4_foretells_1 : cX4_foretells.data.toList.drop 23 = dktX4_foretells_1 := dk_seg dksX4_foretells_0 23 rfl rfl
theorem dX4_foretells_0 : decode cX4_foretells 0 = .ok (.iconst 0, 1) := dk_3 (dk_at dksX4_foretells_0 0 rfl rfl)
theorem dX4_foretells_1 : decode cX4_foretells 1 = .ok (.istore_n 3, 1) := dk_62 (dk_at dksX4_foretells_0 1 rfl rfl)
theorem dX4_foretells_2 : decode cX4_foretells 2 = .ok (.iconst 1, 1) := dk_4 (dk_at dksX4_foretells_0 2 rfl rfl)
theorem dX4_foretells_3 : decode cX4_foretells 3 = .ok (.istore 4, 2) := dk_54 4 (dk_at dksX4_foretells_0 3 rfl rfl)
theorem dX4_foretells_5 : decode cX4_foretells 5 = .ok (.iload 4, 2) := dk_21 4 (dk_at dksX4_foretells_0 5 rfl rfl)
theorem dX4_foretells_7 : decode cX4_foretells 7 = .ok (.iload_n 2, 1) := dk_28 (dk_at dksX4_foretells_0 7 rfl rfl)
theorem dX4_foretells_8 : decode cX4_foretells 8 = .ok (.if_icmp .gt 18, 3) := dk_163 0 18 (dk_at dksX4_foretells_0 8 rfl rfl)
theorem dX4_foretells_11 : decode cX4_foretells 11 = .ok (.iload_n 3, 1) := dk_29 (dk_at dksX4_foretells_0 11 rfl rfl)
theorem dX4_foretells_12 : decode cX4_foretells 12 = .ok (.aload_n 1, 1) := dk_43 (dk_at dksX4_foretells_0 12 rfl rfl)
theorem dX4_foretells_13 : decode cX4_foretells 13 = .ok (.iload 4, 2) := dk_21 4 (dk_at dksX4_foretells_0 13 rfl rfl)
theorem dX4_foretells_15 : decode cX4_foretells 15 = .ok (.invokevirtual 7, 3) := dk_182 0 7 (dk_at dksX4_foretells_0 15 rfl rfl)
theorem dX4_foretells_18 : decode cX4_foretells 18 = .ok (.iadd, 1) := dk_96 (dk_at dksX4_foretells_0 18 rfl rfl)
theorem dX4_foretells_19 : decode cX4_foretells 19 = .ok (.istore_n 3, 1) := dk_62 (dk_at dksX4_foretells_0 19 rfl rfl)
theorem dX4_foretells_20 : decode cX4_foretells 20 = .ok (.iinc 4 1, 3) := dk_132 4 1 (dk_at dksX4_foretells_0 20 rfl rfl)
theorem dX4_foretells_23 : decode cX4_foretells 23 = .ok (.goto (-18), 3) := dk_167 255 238 (dk_at dksX4_foretells_1 0 rfl rfl)
theorem dX4_foretells_26 : decode cX4_foretells 26 = .ok (.iload_n 3, 1) := dk_29 (dk_at dksX4_foretells_1 3 rfl rfl)
theorem dX4_foretells_27 : decode cX4_foretells 27 = .ok (.iload_n 2, 1) := dk_28 (dk_at dksX4_foretells_1 4 rfl rfl)
theorem dX4_foretells_28 : decode cX4_foretells 28 = .ok (.idiv, 1) := dk_108 (dk_at dksX4_foretells_1 5 rfl rfl)
theorem dX4_foretells_29 : decode cX4_foretells 29 = .ok (.ireturn, 1) := dk_172 (dk_at dksX4_foretells_1 6 rfl rfl)
theorem q80 : (Jvm.Cond.initialized "GoodHalfEmpty$Mean") ∈ lw_all := lw_g (lw_at lw_m1 5 rfl) rfl
theorem q136 : (Jvm.Cond.instantiable "GoodHalfEmpty$Mean" (0 : Nat)) ∈ lw_all := lw_g (lw_at lw_m1 61 rfl) rfl
theorem q138 : (Jvm.Cond.instanceMethod ({ cls := "GoodHalfEmpty$Mean", name := "<init>", desc := "()V" } : Jvm.MethodName)) ∈ lw_all := lw_g (lw_at lw_m1 63 rfl) rfl
theorem q139 : (Jvm.Cond.code ({ cls := "GoodHalfEmpty$Mean", name := "<init>", desc := "()V" } : Jvm.MethodName) prog_9_method_1_code (1 : Nat) (Option.none : Option Jvm.ClassFile.FieldType)) ∈ lw_all := lw_g (lw_at lw_m1 64 rfl) rfl
theorem q140 : (Jvm.Cond.methodLinkNest "GoodHalfEmpty$Mean" (1 : Nat) ({ cls := "GoodHalfEmpty$Rule", name := "<init>", desc := "()V" } : Jvm.MethodName) "GoodHalfEmpty") ∈ lw_tbl := lw_at lw_m1 65 rfl
theorem q141 : (Jvm.Cond.superclass "GoodHalfEmpty$Mean" "GoodHalfEmpty$Rule") ∈ lw_all := lw_g (lw_at lw_m1 66 rfl) rfl
theorem q750 : (Jvm.Cond.selects "GoodHalfEmpty$Mean" ({ cls := "GoodHalfEmpty$Rule", name := "kind", desc := "()I" } : Jvm.MethodName) ({ cls := "GoodHalfEmpty$Mean", name := "kind", desc := "()I" } : Jvm.MethodName)) ∈ lw_all := lw_g (lw_at lw_m3 195 rfl) rfl
theorem q751 : (Jvm.Cond.instanceMethod ({ cls := "GoodHalfEmpty$Mean", name := "kind", desc := "()I" } : Jvm.MethodName)) ∈ lw_all := lw_g (lw_at lw_m3 196 rfl) rfl
theorem q752 : (Jvm.Cond.code ({ cls := "GoodHalfEmpty$Mean", name := "kind", desc := "()I" } : Jvm.MethodName) prog_9_method_2_code (1 : Nat) (Option.some Jvm.ClassFile.FieldType.int)) ∈ lw_all := lw_g (lw_at lw_m3 197 rfl) rfl
theorem q770 : (Jvm.Cond.instanceMethod ({ cls := "GoodHalfEmpty$Mean", name := "foretells", desc := "(LGoodHalfEmpty$Town;I)I" } : Jvm.MethodName)) ∈ lw_all := lw_g (lw_at lw_m3 215 rfl) rfl
theorem q771 : (Jvm.Cond.code ({ cls := "GoodHalfEmpty$Mean", name := "foretells", desc := "(LGoodHalfEmpty$Town;I)I" } : Jvm.MethodName) prog_9_method_3_code (5 : Nat) (Option.some Jvm.ClassFile.FieldType.int)) ∈ lw_all := lw_g (lw_at lw_m3 216 rfl) rfl
theorem q772 : (Jvm.Cond.methodLink "GoodHalfEmpty$Mean" (7 : Nat) ({ cls := "GoodHalfEmpty$Town", name := "ago", desc := "(I)I" } : Jvm.MethodName)) ∈ lw_all := lw_g (lw_at lw_m3 217 rfl) rfl
theorem q805 : (Jvm.Cond.selects "GoodHalfEmpty$Mean" ({ cls := "GoodHalfEmpty$Rule", name := "foretells", desc := "(LGoodHalfEmpty$Town;I)I" } : Jvm.MethodName) ({ cls := "GoodHalfEmpty$Mean", name := "foretells", desc := "(LGoodHalfEmpty$Town;I)I" } : Jvm.MethodName)) ∈ lw_all := lw_g (lw_at lw_m4 10 rfl) rfl
theorem q1470 : (Jvm.Cond.sameMethod "GoodHalfEmpty$Mean" "GoodHalfEmpty$Mean" "foretells" "(LGoodHalfEmpty$Town;I)I") ∈ lw_all := lw_g (lw_at lw_m6 195 rfl) rfl
theorem q1475 : (Jvm.Cond.castable "GoodHalfEmpty$Mean" "GoodHalfEmpty$Rule") ∈ lw_tbl := lw_at lw_m6 200 rfl

/-! GoodHalfEmpty$Trend -/
set_option maxRecDepth 100000
def RX5 : String := "GoodHalfEmpty$Trend"
abbrev cX5_init : ByteArray := prog_24_method_1_code
def yX5_init : MethodName := ⟨RX5, "<init>", "()V"⟩
theorem dX5_init_0 : decode cX5_init 0 = .ok (.aload_n 0, 1) := by decide +kernel
theorem dX5_init_1 : decode cX5_init 1 = .ok (.invokespecial 1, 3) := by decide +kernel
theorem dX5_init_4 : decode cX5_init 4 = .ok (.return_, 1) := by decide +kernel
abbrev cX5_kind : ByteArray := prog_24_method_2_code
def yX5_kind : MethodName := ⟨RX5, "kind", "()I"⟩
theorem dX5_kind_0 : decode cX5_kind 0 = .ok (.iconst 3, 1) := by decide +kernel
theorem dX5_kind_1 : decode cX5_kind 1 = .ok (.ireturn, 1) := by decide +kernel
abbrev cX5_by : ByteArray := prog_24_method_3_code
def yX5_by : MethodName := ⟨RX5, "by", "(LGoodHalfEmpty$Town;I)I"⟩
def dkwX5_by_0 : List UInt8 := [5, 43, 4, 182, 0, 7, 104, 42, 43, 28, 183, 0, 13, 100, 172]
abbrev dktX5_by_0 : List UInt8 := dkwX5_by_0 ++ []
theorem dksX5_by_0 : cX5_by.data.toList.drop 0 = dktX5_by_0 := by decide +kernel
theorem dX5_by_0 : decode cX5_by 0 = .ok (.iconst 2, 1) := dk_5 (dk_at dksX5_by_0 0 rfl rfl)
theorem dX5_by_1 : decode cX5_by 1 = .ok (.aload_n 1, 1) := dk_43 (dk_at dksX5_by_0 1 rfl rfl)
theorem dX5_by_2 : decode cX5_by 2 = .ok (.iconst 1, 1) := dk_4 (dk_at dksX5_by_0 2 rfl rfl)
theorem dX5_by_3 : decode cX5_by 3 = .ok (.invokevirtual 7, 3) := dk_182 0 7 (dk_at dksX5_by_0 3 rfl rfl)
theorem dX5_by_6 : decode cX5_by 6 = .ok (.imul, 1) := dk_104 (dk_at dksX5_by_0 6 rfl rfl)
theorem dX5_by_7 : decode cX5_by 7 = .ok (.aload_n 0, 1) := dk_42 (dk_at dksX5_by_0 7 rfl rfl)
theorem dX5_by_8 : decode cX5_by 8 = .ok (.aload_n 1, 1) := dk_43 (dk_at dksX5_by_0 8 rfl rfl)
theorem dX5_by_9 : decode cX5_by 9 = .ok (.iload_n 2, 1) := dk_28 (dk_at dksX5_by_0 9 rfl rfl)
theorem dX5_by_10 : decode cX5_by 10 = .ok (.invokespecial 13, 3) := dk_183 0 13 (dk_at dksX5_by_0 10 rfl rfl)
theorem dX5_by_13 : decode cX5_by 13 = .ok (.isub, 1) := dk_100 (dk_at dksX5_by_0 13 rfl rfl)
theorem dX5_by_14 : decode cX5_by 14 = .ok (.ireturn, 1) := dk_172 (dk_at dksX5_by_0 14 rfl rfl)
theorem q81 : (Jvm.Cond.initialized "GoodHalfEmpty$Trend") ∈ lw_all := lw_g (lw_at lw_m1 6 rfl) rfl
theorem q143 : (Jvm.Cond.instantiable "GoodHalfEmpty$Trend" (0 : Nat)) ∈ lw_all := lw_g (lw_at lw_m1 68 rfl) rfl
theorem q145 : (Jvm.Cond.instanceMethod ({ cls := "GoodHalfEmpty$Trend", name := "<init>", desc := "()V" } : Jvm.MethodName)) ∈ lw_all := lw_g (lw_at lw_m1 70 rfl) rfl
theorem q146 : (Jvm.Cond.code ({ cls := "GoodHalfEmpty$Trend", name := "<init>", desc := "()V" } : Jvm.MethodName) prog_24_method_1_code (1 : Nat) (Option.none : Option Jvm.ClassFile.FieldType)) ∈ lw_all := lw_g (lw_at lw_m1 71 rfl) rfl
theorem q147 : (Jvm.Cond.methodLinkNest "GoodHalfEmpty$Trend" (1 : Nat) ({ cls := "GoodHalfEmpty$Last", name := "<init>", desc := "()V" } : Jvm.MethodName) "GoodHalfEmpty") ∈ lw_tbl := lw_at lw_m1 72 rfl
theorem q148 : (Jvm.Cond.superclass "GoodHalfEmpty$Trend" "GoodHalfEmpty$Last") ∈ lw_all := lw_g (lw_at lw_m1 73 rfl) rfl
theorem q756 : (Jvm.Cond.selects "GoodHalfEmpty$Trend" ({ cls := "GoodHalfEmpty$Rule", name := "kind", desc := "()I" } : Jvm.MethodName) ({ cls := "GoodHalfEmpty$Trend", name := "kind", desc := "()I" } : Jvm.MethodName)) ∈ lw_all := lw_g (lw_at lw_m3 201 rfl) rfl
theorem q757 : (Jvm.Cond.instanceMethod ({ cls := "GoodHalfEmpty$Trend", name := "kind", desc := "()I" } : Jvm.MethodName)) ∈ lw_all := lw_g (lw_at lw_m3 202 rfl) rfl
theorem q758 : (Jvm.Cond.code ({ cls := "GoodHalfEmpty$Trend", name := "kind", desc := "()I" } : Jvm.MethodName) prog_24_method_2_code (1 : Nat) (Option.some Jvm.ClassFile.FieldType.int)) ∈ lw_all := lw_g (lw_at lw_m3 203 rfl) rfl
theorem q798 : (Jvm.Cond.selects "GoodHalfEmpty$Trend" ({ cls := "GoodHalfEmpty$Last", name := "by", desc := "(LGoodHalfEmpty$Town;I)I" } : Jvm.MethodName) ({ cls := "GoodHalfEmpty$Trend", name := "by", desc := "(LGoodHalfEmpty$Town;I)I" } : Jvm.MethodName)) ∈ lw_all := lw_g (lw_at lw_m4 3 rfl) rfl
theorem q799 : (Jvm.Cond.instanceMethod ({ cls := "GoodHalfEmpty$Trend", name := "by", desc := "(LGoodHalfEmpty$Town;I)I" } : Jvm.MethodName)) ∈ lw_all := lw_g (lw_at lw_m4 4 rfl) rfl
theorem q800 : (Jvm.Cond.code ({ cls := "GoodHalfEmpty$Trend", name := "by", desc := "(LGoodHalfEmpty$Town;I)I" } : Jvm.MethodName) prog_24_method_3_code (3 : Nat) (Option.some Jvm.ClassFile.FieldType.int)) ∈ lw_all := lw_g (lw_at lw_m4 5 rfl) rfl
theorem q801 : (Jvm.Cond.methodLink "GoodHalfEmpty$Trend" (7 : Nat) ({ cls := "GoodHalfEmpty$Town", name := "ago", desc := "(I)I" } : Jvm.MethodName)) ∈ lw_all := lw_g (lw_at lw_m4 6 rfl) rfl
theorem q802 : (Jvm.Cond.methodLink "GoodHalfEmpty$Trend" (13 : Nat) ({ cls := "GoodHalfEmpty$Last", name := "by", desc := "(LGoodHalfEmpty$Town;I)I" } : Jvm.MethodName)) ∈ lw_all := lw_g (lw_at lw_m4 7 rfl) rfl
theorem q807 : (Jvm.Cond.selects "GoodHalfEmpty$Trend" ({ cls := "GoodHalfEmpty$Rule", name := "foretells", desc := "(LGoodHalfEmpty$Town;I)I" } : Jvm.MethodName) ({ cls := "GoodHalfEmpty$Last", name := "foretells", desc := "(LGoodHalfEmpty$Town;I)I" } : Jvm.MethodName)) ∈ lw_all := lw_g (lw_at lw_m4 12 rfl) rfl
theorem q1476 : (Jvm.Cond.castable "GoodHalfEmpty$Trend" "GoodHalfEmpty$Rule") ∈ lw_tbl := lw_at lw_m6 201 rfl

/-! GoodHalfEmpty$Below -/
set_option maxRecDepth 100000
def RX6 : String := "GoodHalfEmpty$Below"
abbrev cX6_init : ByteArray := prog_3_method_1_code
def yX6_init : MethodName := ⟨RX6, "<init>", "()V"⟩
theorem dX6_init_0 : decode cX6_init 0 = .ok (.aload_n 0, 1) := by decide +kernel
theorem dX6_init_1 : decode cX6_init 1 = .ok (.invokespecial 1, 3) := by decide +kernel
theorem dX6_init_4 : decode cX6_init 4 = .ok (.return_, 1) := by decide +kernel
abbrev cX6_kind : ByteArray := prog_3_method_2_code
def yX6_kind : MethodName := ⟨RX6, "kind", "()I"⟩
theorem dX6_kind_0 : decode cX6_kind 0 = .ok (.iconst 4, 1) := by decide +kernel
theorem dX6_kind_1 : decode cX6_kind 1 = .ok (.ireturn, 1) := by decide +kernel
abbrev cX6_foretells : ByteArray := prog_3_method_3_code
def yX6_foretells : MethodName := ⟨RX6, "foretells", "(LGoodHalfEmpty$Town;I)I"⟩
def dkwX6_foretells_0 : List UInt8 := [3, 42, 43, 28, 183, 0, 7, 28, 100, 184, 0, 11, 172]
abbrev dktX6_foretells_0 : List UInt8 := dkwX6_foretells_0 ++ []
theorem dksX6_foretells_0 : cX6_foretells.data.toList.drop 0 = dktX6_foretells_0 := by decide +kernel
theorem dX6_foretells_0 : decode cX6_foretells 0 = .ok (.iconst 0, 1) := dk_3 (dk_at dksX6_foretells_0 0 rfl rfl)
theorem dX6_foretells_1 : decode cX6_foretells 1 = .ok (.aload_n 0, 1) := dk_42 (dk_at dksX6_foretells_0 1 rfl rfl)
theorem dX6_foretells_2 : decode cX6_foretells 2 = .ok (.aload_n 1, 1) := dk_43 (dk_at dksX6_foretells_0 2 rfl rfl)
theorem dX6_foretells_3 : decode cX6_foretells 3 = .ok (.iload_n 2, 1) := dk_28 (dk_at dksX6_foretells_0 3 rfl rfl)
theorem dX6_foretells_4 : decode cX6_foretells 4 = .ok (.invokespecial 7, 3) := dk_183 0 7 (dk_at dksX6_foretells_0 4 rfl rfl)
theorem dX6_foretells_7 : decode cX6_foretells 7 = .ok (.iload_n 2, 1) := dk_28 (dk_at dksX6_foretells_0 7 rfl rfl)
theorem dX6_foretells_8 : decode cX6_foretells 8 = .ok (.isub, 1) := dk_100 (dk_at dksX6_foretells_0 8 rfl rfl)
theorem dX6_foretells_9 : decode cX6_foretells 9 = .ok (.invokestatic 11, 3) := dk_184 0 11 (dk_at dksX6_foretells_0 9 rfl rfl)
theorem dX6_foretells_12 : decode cX6_foretells 12 = .ok (.ireturn, 1) := dk_172 (dk_at dksX6_foretells_0 12 rfl rfl)
theorem q82 : (Jvm.Cond.initialized "GoodHalfEmpty$Below") ∈ lw_all := lw_g (lw_at lw_m1 7 rfl) rfl
theorem q150 : (Jvm.Cond.instantiable "GoodHalfEmpty$Below" (0 : Nat)) ∈ lw_all := lw_g (lw_at lw_m1 75 rfl) rfl
theorem q152 : (Jvm.Cond.instanceMethod ({ cls := "GoodHalfEmpty$Below", name := "<init>", desc := "()V" } : Jvm.MethodName)) ∈ lw_all := lw_g (lw_at lw_m1 77 rfl) rfl
theorem q153 : (Jvm.Cond.code ({ cls := "GoodHalfEmpty$Below", name := "<init>", desc := "()V" } : Jvm.MethodName) prog_3_method_1_code (1 : Nat) (Option.none : Option Jvm.ClassFile.FieldType)) ∈ lw_all := lw_g (lw_at lw_m1 78 rfl) rfl
theorem q154 : (Jvm.Cond.methodLinkNest "GoodHalfEmpty$Below" (1 : Nat) ({ cls := "GoodHalfEmpty$Mean", name := "<init>", desc := "()V" } : Jvm.MethodName) "GoodHalfEmpty") ∈ lw_tbl := lw_at lw_m1 79 rfl
theorem q155 : (Jvm.Cond.superclass "GoodHalfEmpty$Below" "GoodHalfEmpty$Mean") ∈ lw_all := lw_g (lw_at lw_m1 80 rfl) rfl
theorem q741 : (Jvm.Cond.selects "GoodHalfEmpty$Below" ({ cls := "GoodHalfEmpty$Rule", name := "kind", desc := "()I" } : Jvm.MethodName) ({ cls := "GoodHalfEmpty$Below", name := "kind", desc := "()I" } : Jvm.MethodName)) ∈ lw_all := lw_g (lw_at lw_m3 186 rfl) rfl
theorem q742 : (Jvm.Cond.instanceMethod ({ cls := "GoodHalfEmpty$Below", name := "kind", desc := "()I" } : Jvm.MethodName)) ∈ lw_all := lw_g (lw_at lw_m3 187 rfl) rfl
theorem q743 : (Jvm.Cond.code ({ cls := "GoodHalfEmpty$Below", name := "kind", desc := "()I" } : Jvm.MethodName) prog_3_method_2_code (1 : Nat) (Option.some Jvm.ClassFile.FieldType.int)) ∈ lw_all := lw_g (lw_at lw_m3 188 rfl) rfl
theorem q766 : (Jvm.Cond.selects "GoodHalfEmpty$Below" ({ cls := "GoodHalfEmpty$Rule", name := "foretells", desc := "(LGoodHalfEmpty$Town;I)I" } : Jvm.MethodName) ({ cls := "GoodHalfEmpty$Below", name := "foretells", desc := "(LGoodHalfEmpty$Town;I)I" } : Jvm.MethodName)) ∈ lw_all := lw_g (lw_at lw_m3 211 rfl) rfl
theorem q767 : (Jvm.Cond.instanceMethod ({ cls := "GoodHalfEmpty$Below", name := "foretells", desc := "(LGoodHalfEmpty$Town;I)I" } : Jvm.MethodName)) ∈ lw_all := lw_g (lw_at lw_m3 212 rfl) rfl
theorem q768 : (Jvm.Cond.code ({ cls := "GoodHalfEmpty$Below", name := "foretells", desc := "(LGoodHalfEmpty$Town;I)I" } : Jvm.MethodName) prog_3_method_3_code (3 : Nat) (Option.some Jvm.ClassFile.FieldType.int)) ∈ lw_all := lw_g (lw_at lw_m3 213 rfl) rfl
theorem q769 : (Jvm.Cond.methodLink "GoodHalfEmpty$Below" (7 : Nat) ({ cls := "GoodHalfEmpty$Mean", name := "foretells", desc := "(LGoodHalfEmpty$Town;I)I" } : Jvm.MethodName)) ∈ lw_all := lw_g (lw_at lw_m3 214 rfl) rfl
theorem q776 : (Jvm.Cond.methodLink "GoodHalfEmpty$Below" (11 : Nat) ({ cls := "java/lang/Math", name := "max", desc := "(II)I" } : Jvm.MethodName)) ∈ lw_all := lw_g (lw_at lw_m3 221 rfl) rfl
theorem q1477 : (Jvm.Cond.castable "GoodHalfEmpty$Below" "GoodHalfEmpty$Rule") ∈ lw_tbl := lw_at lw_m6 202 rfl

/-! GoodHalfEmpty$Flat -/
set_option maxRecDepth 100000
def RX7 : String := "GoodHalfEmpty$Flat"
abbrev cX7_init : ByteArray := prog_5_method_1_code
def yX7_init : MethodName := ⟨RX7, "<init>", "()V"⟩
theorem dX7_init_0 : decode cX7_init 0 = .ok (.aload_n 0, 1) := by decide +kernel
theorem dX7_init_1 : decode cX7_init 1 = .ok (.invokespecial 1, 3) := by decide +kernel
theorem dX7_init_4 : decode cX7_init 4 = .ok (.return_, 1) := by decide +kernel
abbrev cX7_kind : ByteArray := prog_5_method_2_code
def yX7_kind : MethodName := ⟨RX7, "kind", "()I"⟩
theorem dX7_kind_0 : decode cX7_kind 0 = .ok (.iconst 5, 1) := by decide +kernel
theorem dX7_kind_1 : decode cX7_kind 1 = .ok (.ireturn, 1) := by decide +kernel
abbrev cX7_foretells : ByteArray := prog_5_method_3_code
def yX7_foretells : MethodName := ⟨RX7, "foretells", "(LGoodHalfEmpty$Town;I)I"⟩
def dkwX7_foretells_0 : List UInt8 := [16, 10, 28, 104, 172]
abbrev dktX7_foretells_0 : List UInt8 := dkwX7_foretells_0 ++ []
theorem dksX7_foretells_0 : cX7_foretells.data.toList.drop 0 = dktX7_foretells_0 := by decide +kernel
theorem dX7_foretells_0 : decode cX7_foretells 0 = .ok (.bipush 10, 2) := dk_16 10 (dk_at dksX7_foretells_0 0 rfl rfl)
theorem dX7_foretells_2 : decode cX7_foretells 2 = .ok (.iload_n 2, 1) := dk_28 (dk_at dksX7_foretells_0 2 rfl rfl)
theorem dX7_foretells_3 : decode cX7_foretells 3 = .ok (.imul, 1) := dk_104 (dk_at dksX7_foretells_0 3 rfl rfl)
theorem dX7_foretells_4 : decode cX7_foretells 4 = .ok (.ireturn, 1) := dk_172 (dk_at dksX7_foretells_0 4 rfl rfl)
theorem q83 : (Jvm.Cond.initialized "GoodHalfEmpty$Flat") ∈ lw_all := lw_g (lw_at lw_m1 8 rfl) rfl
theorem q157 : (Jvm.Cond.instantiable "GoodHalfEmpty$Flat" (0 : Nat)) ∈ lw_all := lw_g (lw_at lw_m1 82 rfl) rfl
theorem q159 : (Jvm.Cond.instanceMethod ({ cls := "GoodHalfEmpty$Flat", name := "<init>", desc := "()V" } : Jvm.MethodName)) ∈ lw_all := lw_g (lw_at lw_m1 84 rfl) rfl
theorem q160 : (Jvm.Cond.code ({ cls := "GoodHalfEmpty$Flat", name := "<init>", desc := "()V" } : Jvm.MethodName) prog_5_method_1_code (1 : Nat) (Option.none : Option Jvm.ClassFile.FieldType)) ∈ lw_all := lw_g (lw_at lw_m1 85 rfl) rfl
theorem q161 : (Jvm.Cond.methodLinkNest "GoodHalfEmpty$Flat" (1 : Nat) ({ cls := "GoodHalfEmpty$Rule", name := "<init>", desc := "()V" } : Jvm.MethodName) "GoodHalfEmpty") ∈ lw_tbl := lw_at lw_m1 86 rfl
theorem q162 : (Jvm.Cond.superclass "GoodHalfEmpty$Flat" "GoodHalfEmpty$Rule") ∈ lw_all := lw_g (lw_at lw_m1 87 rfl) rfl
theorem q744 : (Jvm.Cond.selects "GoodHalfEmpty$Flat" ({ cls := "GoodHalfEmpty$Rule", name := "kind", desc := "()I" } : Jvm.MethodName) ({ cls := "GoodHalfEmpty$Flat", name := "kind", desc := "()I" } : Jvm.MethodName)) ∈ lw_all := lw_g (lw_at lw_m3 189 rfl) rfl
theorem q745 : (Jvm.Cond.instanceMethod ({ cls := "GoodHalfEmpty$Flat", name := "kind", desc := "()I" } : Jvm.MethodName)) ∈ lw_all := lw_g (lw_at lw_m3 190 rfl) rfl
theorem q746 : (Jvm.Cond.code ({ cls := "GoodHalfEmpty$Flat", name := "kind", desc := "()I" } : Jvm.MethodName) prog_5_method_2_code (1 : Nat) (Option.some Jvm.ClassFile.FieldType.int)) ∈ lw_all := lw_g (lw_at lw_m3 191 rfl) rfl
theorem q779 : (Jvm.Cond.selects "GoodHalfEmpty$Flat" ({ cls := "GoodHalfEmpty$Rule", name := "foretells", desc := "(LGoodHalfEmpty$Town;I)I" } : Jvm.MethodName) ({ cls := "GoodHalfEmpty$Flat", name := "foretells", desc := "(LGoodHalfEmpty$Town;I)I" } : Jvm.MethodName)) ∈ lw_all := lw_g (lw_at lw_m3 224 rfl) rfl
theorem q780 : (Jvm.Cond.instanceMethod ({ cls := "GoodHalfEmpty$Flat", name := "foretells", desc := "(LGoodHalfEmpty$Town;I)I" } : Jvm.MethodName)) ∈ lw_all := lw_g (lw_at lw_m3 225 rfl) rfl
theorem q781 : (Jvm.Cond.code ({ cls := "GoodHalfEmpty$Flat", name := "foretells", desc := "(LGoodHalfEmpty$Town;I)I" } : Jvm.MethodName) prog_5_method_3_code (3 : Nat) (Option.some Jvm.ClassFile.FieldType.int)) ∈ lw_all := lw_g (lw_at lw_m3 226 rfl) rfl
theorem q1478 : (Jvm.Cond.castable "GoodHalfEmpty$Flat" "GoodHalfEmpty$Rule") ∈ lw_tbl := lw_at lw_m6 203 rfl

/-! GoodHalfEmpty$Goer -/
set_option maxRecDepth 100000
def RX8 : String := "GoodHalfEmpty$Goer"
abbrev cX8_init : ByteArray := prog_6_method_1_code
def yX8_init : MethodName := ⟨RX8, "<init>", "()V"⟩
theorem dX8_init_0 : decode cX8_init 0 = .ok (.aload_n 0, 1) := by decide +kernel
theorem dX8_init_1 : decode cX8_init 1 = .ok (.invokespecial 1, 3) := by decide +kernel
theorem dX8_init_4 : decode cX8_init 4 = .ok (.return_, 1) := by decide +kernel
abbrev cX8_hasRule : ByteArray := prog_6_method_4_code
def yX8_hasRule : MethodName := ⟨RX8, "hasRule", "()Z"⟩
theorem dX8_hasRule_0 : decode cX8_hasRule 0 = .ok (.iconst 0, 1) := by decide +kernel
theorem dX8_hasRule_1 : decode cX8_hasRule 1 = .ok (.ireturn, 1) := by decide +kernel
abbrev cX8_isLast : ByteArray := prog_6_method_5_code
def yX8_isLast : MethodName := ⟨RX8, "isLast", "()Z"⟩
theorem dX8_isLast_0 : decode cX8_isLast 0 = .ok (.iconst 0, 1) := by decide +kernel
theorem dX8_isLast_1 : decode cX8_isLast 1 = .ok (.ireturn, 1) := by decide +kernel
theorem q84 : (Jvm.Cond.initialized "GoodHalfEmpty$Goer") ∈ lw_all := lw_g (lw_at lw_m1 9 rfl) rfl
theorem q171 : (Jvm.Cond.instanceMethod ({ cls := "GoodHalfEmpty$Goer", name := "<init>", desc := "()V" } : Jvm.MethodName)) ∈ lw_all := lw_g (lw_at lw_m1 96 rfl) rfl
theorem q172 : (Jvm.Cond.code ({ cls := "GoodHalfEmpty$Goer", name := "<init>", desc := "()V" } : Jvm.MethodName) prog_6_method_1_code (1 : Nat) (Option.none : Option Jvm.ClassFile.FieldType)) ∈ lw_all := lw_g (lw_at lw_m1 97 rfl) rfl
theorem q173 : (Jvm.Cond.methodLink "GoodHalfEmpty$Goer" (1 : Nat) ({ cls := "java/lang/Object", name := "<init>", desc := "()V" } : Jvm.MethodName)) ∈ lw_all := lw_g (lw_at lw_m1 98 rfl) rfl
theorem q685 : (Jvm.Cond.instanceMethod ({ cls := "GoodHalfEmpty$Goer", name := "hasRule", desc := "()Z" } : Jvm.MethodName)) ∈ lw_all := lw_g (lw_at lw_m3 130 rfl) rfl
theorem q686 : (Jvm.Cond.sameMethod "GoodHalfEmpty$Goer" "GoodHalfEmpty$Goer" "hasRule" "()Z") ∈ lw_all := lw_g (lw_at lw_m3 131 rfl) rfl
theorem q695 : (Jvm.Cond.code ({ cls := "GoodHalfEmpty$Goer", name := "hasRule", desc := "()Z" } : Jvm.MethodName) prog_6_method_4_code (1 : Nat) (Option.some Jvm.ClassFile.FieldType.boolean)) ∈ lw_all := lw_g (lw_at lw_m3 140 rfl) rfl
theorem q713 : (Jvm.Cond.declares ({ cls := "GoodHalfEmpty$Goer", name := "kind", desc := "()I" } : Jvm.MethodName)) ∈ lw_tbl := lw_at lw_m3 158 rfl
theorem q714 : (Jvm.Cond.sameMethod "GoodHalfEmpty$Goer" "GoodHalfEmpty$Goer" "kind" "()I") ∈ lw_all := lw_g (lw_at lw_m3 159 rfl) rfl
theorem q825 : (Jvm.Cond.instanceMethod ({ cls := "GoodHalfEmpty$Goer", name := "isLast", desc := "()Z" } : Jvm.MethodName)) ∈ lw_all := lw_g (lw_at lw_m4 30 rfl) rfl
theorem q826 : (Jvm.Cond.sameMethod "GoodHalfEmpty$Goer" "GoodHalfEmpty$Goer" "isLast" "()Z") ∈ lw_all := lw_g (lw_at lw_m4 31 rfl) rfl
theorem q835 : (Jvm.Cond.code ({ cls := "GoodHalfEmpty$Goer", name := "isLast", desc := "()Z" } : Jvm.MethodName) prog_6_method_5_code (1 : Nat) (Option.some Jvm.ClassFile.FieldType.boolean)) ∈ lw_all := lw_g (lw_at lw_m4 40 rfl) rfl
theorem q837 : (Jvm.Cond.declares ({ cls := "GoodHalfEmpty$Goer", name := "goes", desc := "(LGoodHalfEmpty$Town;LGoodHalfEmpty$Sort;)Z" } : Jvm.MethodName)) ∈ lw_tbl := lw_at lw_m4 42 rfl
theorem q838 : (Jvm.Cond.sameMethod "GoodHalfEmpty$Goer" "GoodHalfEmpty$Goer" "goes" "(LGoodHalfEmpty$Town;LGoodHalfEmpty$Sort;)Z") ∈ lw_all := lw_g (lw_at lw_m4 43 rfl) rfl

/-! GoodHalfEmpty$Always -/
set_option maxRecDepth 100000
def RX9 : String := "GoodHalfEmpty$Always"
abbrev cX9_init : ByteArray := prog_2_method_1_code
def yX9_init : MethodName := ⟨RX9, "<init>", "()V"⟩
theorem dX9_init_0 : decode cX9_init 0 = .ok (.aload_n 0, 1) := by decide +kernel
theorem dX9_init_1 : decode cX9_init 1 = .ok (.invokespecial 1, 3) := by decide +kernel
theorem dX9_init_4 : decode cX9_init 4 = .ok (.return_, 1) := by decide +kernel
abbrev cX9_kind : ByteArray := prog_2_method_2_code
def yX9_kind : MethodName := ⟨RX9, "kind", "()I"⟩
theorem dX9_kind_0 : decode cX9_kind 0 = .ok (.iconst 0, 1) := by decide +kernel
theorem dX9_kind_1 : decode cX9_kind 1 = .ok (.ireturn, 1) := by decide +kernel
abbrev cX9_goes : ByteArray := prog_2_method_3_code
def yX9_goes : MethodName := ⟨RX9, "goes", "(LGoodHalfEmpty$Town;LGoodHalfEmpty$Sort;)Z"⟩
theorem dX9_goes_0 : decode cX9_goes 0 = .ok (.iconst 1, 1) := by decide +kernel
theorem dX9_goes_1 : decode cX9_goes 1 = .ok (.ireturn, 1) := by decide +kernel
theorem q85 : (Jvm.Cond.initialized "GoodHalfEmpty$Always") ∈ lw_all := lw_g (lw_at lw_m1 10 rfl) rfl
theorem q166 : (Jvm.Cond.instantiable "GoodHalfEmpty$Always" (0 : Nat)) ∈ lw_all := lw_g (lw_at lw_m1 91 rfl) rfl
theorem q168 : (Jvm.Cond.instanceMethod ({ cls := "GoodHalfEmpty$Always", name := "<init>", desc := "()V" } : Jvm.MethodName)) ∈ lw_all := lw_g (lw_at lw_m1 93 rfl) rfl
theorem q169 : (Jvm.Cond.code ({ cls := "GoodHalfEmpty$Always", name := "<init>", desc := "()V" } : Jvm.MethodName) prog_2_method_1_code (1 : Nat) (Option.none : Option Jvm.ClassFile.FieldType)) ∈ lw_all := lw_g (lw_at lw_m1 94 rfl) rfl
theorem q170 : (Jvm.Cond.methodLinkNest "GoodHalfEmpty$Always" (1 : Nat) ({ cls := "GoodHalfEmpty$Goer", name := "<init>", desc := "()V" } : Jvm.MethodName) "GoodHalfEmpty") ∈ lw_tbl := lw_at lw_m1 95 rfl
theorem q174 : (Jvm.Cond.superclass "GoodHalfEmpty$Always" "GoodHalfEmpty$Goer") ∈ lw_all := lw_g (lw_at lw_m1 99 rfl) rfl
theorem q687 : (Jvm.Cond.selects "GoodHalfEmpty$Always" ({ cls := "GoodHalfEmpty$Goer", name := "hasRule", desc := "()Z" } : Jvm.MethodName) ({ cls := "GoodHalfEmpty$Goer", name := "hasRule", desc := "()Z" } : Jvm.MethodName)) ∈ lw_all := lw_g (lw_at lw_m3 132 rfl) rfl
theorem q715 : (Jvm.Cond.selects "GoodHalfEmpty$Always" ({ cls := "GoodHalfEmpty$Goer", name := "kind", desc := "()I" } : Jvm.MethodName) ({ cls := "GoodHalfEmpty$Always", name := "kind", desc := "()I" } : Jvm.MethodName)) ∈ lw_all := lw_g (lw_at lw_m3 160 rfl) rfl
theorem q716 : (Jvm.Cond.instanceMethod ({ cls := "GoodHalfEmpty$Always", name := "kind", desc := "()I" } : Jvm.MethodName)) ∈ lw_all := lw_g (lw_at lw_m3 161 rfl) rfl
theorem q717 : (Jvm.Cond.code ({ cls := "GoodHalfEmpty$Always", name := "kind", desc := "()I" } : Jvm.MethodName) prog_2_method_2_code (1 : Nat) (Option.some Jvm.ClassFile.FieldType.int)) ∈ lw_all := lw_g (lw_at lw_m3 162 rfl) rfl
theorem q827 : (Jvm.Cond.selects "GoodHalfEmpty$Always" ({ cls := "GoodHalfEmpty$Goer", name := "isLast", desc := "()Z" } : Jvm.MethodName) ({ cls := "GoodHalfEmpty$Goer", name := "isLast", desc := "()Z" } : Jvm.MethodName)) ∈ lw_all := lw_g (lw_at lw_m4 32 rfl) rfl
theorem q839 : (Jvm.Cond.selects "GoodHalfEmpty$Always" ({ cls := "GoodHalfEmpty$Goer", name := "goes", desc := "(LGoodHalfEmpty$Town;LGoodHalfEmpty$Sort;)Z" } : Jvm.MethodName) ({ cls := "GoodHalfEmpty$Always", name := "goes", desc := "(LGoodHalfEmpty$Town;LGoodHalfEmpty$Sort;)Z" } : Jvm.MethodName)) ∈ lw_all := lw_g (lw_at lw_m4 44 rfl) rfl
theorem q840 : (Jvm.Cond.instanceMethod ({ cls := "GoodHalfEmpty$Always", name := "goes", desc := "(LGoodHalfEmpty$Town;LGoodHalfEmpty$Sort;)Z" } : Jvm.MethodName)) ∈ lw_all := lw_g (lw_at lw_m4 45 rfl) rfl
theorem q841 : (Jvm.Cond.code ({ cls := "GoodHalfEmpty$Always", name := "goes", desc := "(LGoodHalfEmpty$Town;LGoodHalfEmpty$Sort;)Z" } : Jvm.MethodName) prog_2_method_3_code (3 : Nat) (Option.some Jvm.ClassFile.FieldType.boolean)) ∈ lw_all := lw_g (lw_at lw_m4 46 rfl) rfl
theorem q1479 : (Jvm.Cond.castable "GoodHalfEmpty$Always" "GoodHalfEmpty$Goer") ∈ lw_tbl := lw_at lw_m6 204 rfl

/-! GoodHalfEmpty$Never -/
set_option maxRecDepth 100000
def RX10 : String := "GoodHalfEmpty$Never"
abbrev cX10_init : ByteArray := prog_10_method_1_code
def yX10_init : MethodName := ⟨RX10, "<init>", "()V"⟩
theorem dX10_init_0 : decode cX10_init 0 = .ok (.aload_n 0, 1) := by decide +kernel
theorem dX10_init_1 : decode cX10_init 1 = .ok (.invokespecial 1, 3) := by decide +kernel
theorem dX10_init_4 : decode cX10_init 4 = .ok (.return_, 1) := by decide +kernel
abbrev cX10_kind : ByteArray := prog_10_method_2_code
def yX10_kind : MethodName := ⟨RX10, "kind", "()I"⟩
theorem dX10_kind_0 : decode cX10_kind 0 = .ok (.iconst 1, 1) := by decide +kernel
theorem dX10_kind_1 : decode cX10_kind 1 = .ok (.ireturn, 1) := by decide +kernel
abbrev cX10_goes : ByteArray := prog_10_method_3_code
def yX10_goes : MethodName := ⟨RX10, "goes", "(LGoodHalfEmpty$Town;LGoodHalfEmpty$Sort;)Z"⟩
theorem dX10_goes_0 : decode cX10_goes 0 = .ok (.iconst 0, 1) := by decide +kernel
theorem dX10_goes_1 : decode cX10_goes 1 = .ok (.ireturn, 1) := by decide +kernel
theorem q86 : (Jvm.Cond.initialized "GoodHalfEmpty$Never") ∈ lw_all := lw_g (lw_at lw_m1 11 rfl) rfl
theorem q176 : (Jvm.Cond.instantiable "GoodHalfEmpty$Never" (0 : Nat)) ∈ lw_all := lw_g (lw_at lw_m1 101 rfl) rfl
theorem q178 : (Jvm.Cond.instanceMethod ({ cls := "GoodHalfEmpty$Never", name := "<init>", desc := "()V" } : Jvm.MethodName)) ∈ lw_all := lw_g (lw_at lw_m1 103 rfl) rfl
theorem q179 : (Jvm.Cond.code ({ cls := "GoodHalfEmpty$Never", name := "<init>", desc := "()V" } : Jvm.MethodName) prog_10_method_1_code (1 : Nat) (Option.none : Option Jvm.ClassFile.FieldType)) ∈ lw_all := lw_g (lw_at lw_m1 104 rfl) rfl
theorem q180 : (Jvm.Cond.methodLinkNest "GoodHalfEmpty$Never" (1 : Nat) ({ cls := "GoodHalfEmpty$Goer", name := "<init>", desc := "()V" } : Jvm.MethodName) "GoodHalfEmpty") ∈ lw_tbl := lw_at lw_m1 105 rfl
theorem q181 : (Jvm.Cond.superclass "GoodHalfEmpty$Never" "GoodHalfEmpty$Goer") ∈ lw_all := lw_g (lw_at lw_m1 106 rfl) rfl
theorem q691 : (Jvm.Cond.selects "GoodHalfEmpty$Never" ({ cls := "GoodHalfEmpty$Goer", name := "hasRule", desc := "()Z" } : Jvm.MethodName) ({ cls := "GoodHalfEmpty$Goer", name := "hasRule", desc := "()Z" } : Jvm.MethodName)) ∈ lw_all := lw_g (lw_at lw_m3 136 rfl) rfl
theorem q721 : (Jvm.Cond.selects "GoodHalfEmpty$Never" ({ cls := "GoodHalfEmpty$Goer", name := "kind", desc := "()I" } : Jvm.MethodName) ({ cls := "GoodHalfEmpty$Never", name := "kind", desc := "()I" } : Jvm.MethodName)) ∈ lw_all := lw_g (lw_at lw_m3 166 rfl) rfl
theorem q722 : (Jvm.Cond.instanceMethod ({ cls := "GoodHalfEmpty$Never", name := "kind", desc := "()I" } : Jvm.MethodName)) ∈ lw_all := lw_g (lw_at lw_m3 167 rfl) rfl
theorem q723 : (Jvm.Cond.code ({ cls := "GoodHalfEmpty$Never", name := "kind", desc := "()I" } : Jvm.MethodName) prog_10_method_2_code (1 : Nat) (Option.some Jvm.ClassFile.FieldType.int)) ∈ lw_all := lw_g (lw_at lw_m3 168 rfl) rfl
theorem q829 : (Jvm.Cond.selects "GoodHalfEmpty$Never" ({ cls := "GoodHalfEmpty$Goer", name := "isLast", desc := "()Z" } : Jvm.MethodName) ({ cls := "GoodHalfEmpty$Goer", name := "isLast", desc := "()Z" } : Jvm.MethodName)) ∈ lw_all := lw_g (lw_at lw_m4 34 rfl) rfl
theorem q855 : (Jvm.Cond.selects "GoodHalfEmpty$Never" ({ cls := "GoodHalfEmpty$Goer", name := "goes", desc := "(LGoodHalfEmpty$Town;LGoodHalfEmpty$Sort;)Z" } : Jvm.MethodName) ({ cls := "GoodHalfEmpty$Never", name := "goes", desc := "(LGoodHalfEmpty$Town;LGoodHalfEmpty$Sort;)Z" } : Jvm.MethodName)) ∈ lw_all := lw_g (lw_at lw_m4 60 rfl) rfl
theorem q856 : (Jvm.Cond.instanceMethod ({ cls := "GoodHalfEmpty$Never", name := "goes", desc := "(LGoodHalfEmpty$Town;LGoodHalfEmpty$Sort;)Z" } : Jvm.MethodName)) ∈ lw_all := lw_g (lw_at lw_m4 61 rfl) rfl
theorem q857 : (Jvm.Cond.code ({ cls := "GoodHalfEmpty$Never", name := "goes", desc := "(LGoodHalfEmpty$Town;LGoodHalfEmpty$Sort;)Z" } : Jvm.MethodName) prog_10_method_3_code (3 : Nat) (Option.some Jvm.ClassFile.FieldType.boolean)) ∈ lw_all := lw_g (lw_at lw_m4 62 rfl) rfl
theorem q1480 : (Jvm.Cond.castable "GoodHalfEmpty$Never" "GoodHalfEmpty$Goer") ∈ lw_tbl := lw_at lw_m6 205 rfl

/-! GoodHalfEmpty$Ruler -/
set_option maxRecDepth 100000
def RX11 : String := "GoodHalfEmpty$Ruler"
abbrev cX11_init : ByteArray := prog_18_method_1_code
def yX11_init : MethodName := ⟨RX11, "<init>", "()V"⟩
theorem dX11_init_0 : decode cX11_init 0 = .ok (.aload_n 0, 1) := by decide +kernel
theorem dX11_init_1 : decode cX11_init 1 = .ok (.invokespecial 1, 3) := by decide +kernel
theorem dX11_init_4 : decode cX11_init 4 = .ok (.return_, 1) := by decide +kernel
abbrev cX11_hasRule : ByteArray := prog_18_method_5_code
def yX11_hasRule : MethodName := ⟨RX11, "hasRule", "()Z"⟩
theorem dX11_hasRule_0 : decode cX11_hasRule 0 = .ok (.iconst 1, 1) := by decide +kernel
theorem dX11_hasRule_1 : decode cX11_hasRule 1 = .ok (.ireturn, 1) := by decide +kernel
abbrev cX11_kind : ByteArray := prog_18_method_2_code
def yX11_kind : MethodName := ⟨RX11, "kind", "()I"⟩
theorem dX11_kind_0 : decode cX11_kind 0 = .ok (.iconst 2, 1) := by decide +kernel
theorem dX11_kind_1 : decode cX11_kind 1 = .ok (.ireturn, 1) := by decide +kernel
abbrev cX11_goes : ByteArray := prog_18_method_4_code
def yX11_goes : MethodName := ⟨RX11, "goes", "(LGoodHalfEmpty$Town;LGoodHalfEmpty$Sort;)Z"⟩
def dkwX11_goes_1 : List UInt8 := [3, 172]
abbrev dktX11_goes_1 : List UInt8 := dkwX11_goes_1 ++ []
def dkwX11_goes_0 : List UInt8 := [43, 42, 43, 44, 180, 0, 7, 182, 0, 13, 182, 0, 19, 43, 180, 0, 25, 163, 0, 7, 4, 167, 0, 4]
abbrev dktX11_goes_0 : List UInt8 := dkwX11_goes_0 ++ dktX11_goes_1
theorem dksX11_goes_0 : cX11_goes.data.toList.drop 0 = dktX11_goes_0 := by decide +kernel
theorem dksX11_goes_1 : cX11_goes.data.toList.drop 24 = dktX11_goes_1 := dk_seg dksX11_goes_0 24 rfl rfl
theorem dX11_goes_0 : decode cX11_goes 0 = .ok (.aload_n 1, 1) := dk_43 (dk_at dksX11_goes_0 0 rfl rfl)
theorem dX11_goes_1 : decode cX11_goes 1 = .ok (.aload_n 0, 1) := dk_42 (dk_at dksX11_goes_0 1 rfl rfl)
theorem dX11_goes_2 : decode cX11_goes 2 = .ok (.aload_n 1, 1) := dk_43 (dk_at dksX11_goes_0 2 rfl rfl)
theorem dX11_goes_3 : decode cX11_goes 3 = .ok (.aload_n 2, 1) := dk_44 (dk_at dksX11_goes_0 3 rfl rfl)
theorem dX11_goes_4 : decode cX11_goes 4 = .ok (.getfield 7, 3) := dk_180 0 7 (dk_at dksX11_goes_0 4 rfl rfl)
theorem dX11_goes_7 : decode cX11_goes 7 = .ok (.invokevirtual 13, 3) := dk_182 0 13 (dk_at dksX11_goes_0 7 rfl rfl)
theorem dX11_goes_10 : decode cX11_goes 10 = .ok (.invokevirtual 19, 3) := dk_182 0 19 (dk_at dksX11_goes_0 10 rfl rfl)
theorem dX11_goes_13 : decode cX11_goes 13 = .ok (.aload_n 1, 1) := dk_43 (dk_at dksX11_goes_0 13 rfl rfl)
theorem dX11_goes_14 : decode cX11_goes 14 = .ok (.getfield 25, 3) := dk_180 0 25 (dk_at dksX11_goes_0 14 rfl rfl)
theorem dX11_goes_17 : decode cX11_goes 17 = .ok (.if_icmp .gt 7, 3) := dk_163 0 7 (dk_at dksX11_goes_0 17 rfl rfl)
theorem dX11_goes_20 : decode cX11_goes 20 = .ok (.iconst 1, 1) := dk_4 (dk_at dksX11_goes_0 20 rfl rfl)
theorem dX11_goes_21 : decode cX11_goes 21 = .ok (.goto 4, 3) := dk_167 0 4 (dk_at dksX11_goes_0 21 rfl rfl)
theorem dX11_goes_24 : decode cX11_goes 24 = .ok (.iconst 0, 1) := dk_3 (dk_at dksX11_goes_1 0 rfl rfl)
theorem dX11_goes_25 : decode cX11_goes 25 = .ok (.ireturn, 1) := dk_172 (dk_at dksX11_goes_1 1 rfl rfl)
abbrev cX11_ruleOf : ByteArray := prog_18_method_3_code
def yX11_ruleOf : MethodName := ⟨RX11, "ruleOf", "(LGoodHalfEmpty$Town;I)I"⟩
theorem dX11_ruleOf_0 : decode cX11_ruleOf 0 = .ok (.iload_n 2, 1) := by decide +kernel
theorem dX11_ruleOf_1 : decode cX11_ruleOf 1 = .ok (.ireturn, 1) := by decide +kernel
theorem q87 : (Jvm.Cond.initialized "GoodHalfEmpty$Ruler") ∈ lw_all := lw_g (lw_at lw_m1 12 rfl) rfl
theorem q183 : (Jvm.Cond.instantiable "GoodHalfEmpty$Ruler" (0 : Nat)) ∈ lw_all := lw_g (lw_at lw_m1 108 rfl) rfl
theorem q185 : (Jvm.Cond.instanceMethod ({ cls := "GoodHalfEmpty$Ruler", name := "<init>", desc := "()V" } : Jvm.MethodName)) ∈ lw_all := lw_g (lw_at lw_m1 110 rfl) rfl
theorem q186 : (Jvm.Cond.code ({ cls := "GoodHalfEmpty$Ruler", name := "<init>", desc := "()V" } : Jvm.MethodName) prog_18_method_1_code (1 : Nat) (Option.none : Option Jvm.ClassFile.FieldType)) ∈ lw_all := lw_g (lw_at lw_m1 111 rfl) rfl
theorem q187 : (Jvm.Cond.methodLinkNest "GoodHalfEmpty$Ruler" (1 : Nat) ({ cls := "GoodHalfEmpty$Goer", name := "<init>", desc := "()V" } : Jvm.MethodName) "GoodHalfEmpty") ∈ lw_tbl := lw_at lw_m1 112 rfl
theorem q188 : (Jvm.Cond.superclass "GoodHalfEmpty$Ruler" "GoodHalfEmpty$Goer") ∈ lw_all := lw_g (lw_at lw_m1 113 rfl) rfl
theorem q222 : (Jvm.Cond.fieldLinkNest "GoodHalfEmpty$Ruler" (25 : Nat) "GoodHalfEmpty$Town" "chairs" "I" "GoodHalfEmpty") ∈ lw_tbl := lw_at lw_m1 147 rfl
theorem q593 : (Jvm.Cond.fieldLinkNest "GoodHalfEmpty$Ruler" (7 : Nat) "GoodHalfEmpty$Sort" "figure" "I" "GoodHalfEmpty") ∈ lw_tbl := lw_at lw_m3 38 rfl
theorem q689 : (Jvm.Cond.instanceMethod ({ cls := "GoodHalfEmpty$Ruler", name := "hasRule", desc := "()Z" } : Jvm.MethodName)) ∈ lw_all := lw_g (lw_at lw_m3 134 rfl) rfl
theorem q690 : (Jvm.Cond.code ({ cls := "GoodHalfEmpty$Ruler", name := "hasRule", desc := "()Z" } : Jvm.MethodName) prog_18_method_5_code (1 : Nat) (Option.some Jvm.ClassFile.FieldType.boolean)) ∈ lw_all := lw_g (lw_at lw_m3 135 rfl) rfl
theorem q692 : (Jvm.Cond.selects "GoodHalfEmpty$Ruler" ({ cls := "GoodHalfEmpty$Goer", name := "hasRule", desc := "()Z" } : Jvm.MethodName) ({ cls := "GoodHalfEmpty$Ruler", name := "hasRule", desc := "()Z" } : Jvm.MethodName)) ∈ lw_all := lw_g (lw_at lw_m3 137 rfl) rfl
theorem q724 : (Jvm.Cond.selects "GoodHalfEmpty$Ruler" ({ cls := "GoodHalfEmpty$Goer", name := "kind", desc := "()I" } : Jvm.MethodName) ({ cls := "GoodHalfEmpty$Ruler", name := "kind", desc := "()I" } : Jvm.MethodName)) ∈ lw_all := lw_g (lw_at lw_m3 169 rfl) rfl
theorem q725 : (Jvm.Cond.instanceMethod ({ cls := "GoodHalfEmpty$Ruler", name := "kind", desc := "()I" } : Jvm.MethodName)) ∈ lw_all := lw_g (lw_at lw_m3 170 rfl) rfl
theorem q726 : (Jvm.Cond.code ({ cls := "GoodHalfEmpty$Ruler", name := "kind", desc := "()I" } : Jvm.MethodName) prog_18_method_2_code (1 : Nat) (Option.some Jvm.ClassFile.FieldType.int)) ∈ lw_all := lw_g (lw_at lw_m3 171 rfl) rfl
theorem q830 : (Jvm.Cond.selects "GoodHalfEmpty$Ruler" ({ cls := "GoodHalfEmpty$Goer", name := "isLast", desc := "()Z" } : Jvm.MethodName) ({ cls := "GoodHalfEmpty$Goer", name := "isLast", desc := "()Z" } : Jvm.MethodName)) ∈ lw_all := lw_g (lw_at lw_m4 35 rfl) rfl
theorem q843 : (Jvm.Cond.instanceMethod ({ cls := "GoodHalfEmpty$Ruler", name := "goes", desc := "(LGoodHalfEmpty$Town;LGoodHalfEmpty$Sort;)Z" } : Jvm.MethodName)) ∈ lw_all := lw_g (lw_at lw_m4 48 rfl) rfl
theorem q844 : (Jvm.Cond.code ({ cls := "GoodHalfEmpty$Ruler", name := "goes", desc := "(LGoodHalfEmpty$Town;LGoodHalfEmpty$Sort;)Z" } : Jvm.MethodName) prog_18_method_4_code (3 : Nat) (Option.some Jvm.ClassFile.FieldType.boolean)) ∈ lw_all := lw_g (lw_at lw_m4 49 rfl) rfl
theorem q845 : (Jvm.Cond.methodLink "GoodHalfEmpty$Ruler" (13 : Nat) ({ cls := "GoodHalfEmpty$Ruler", name := "ruleOf", desc := "(LGoodHalfEmpty$Town;I)I" } : Jvm.MethodName)) ∈ lw_all := lw_g (lw_at lw_m4 50 rfl) rfl
theorem q846 : (Jvm.Cond.instanceMethod ({ cls := "GoodHalfEmpty$Ruler", name := "ruleOf", desc := "(LGoodHalfEmpty$Town;I)I" } : Jvm.MethodName)) ∈ lw_all := lw_g (lw_at lw_m4 51 rfl) rfl
theorem q847 : (Jvm.Cond.selects "GoodHalfEmpty$Ruler" ({ cls := "GoodHalfEmpty$Ruler", name := "ruleOf", desc := "(LGoodHalfEmpty$Town;I)I" } : Jvm.MethodName) ({ cls := "GoodHalfEmpty$Ruler", name := "ruleOf", desc := "(LGoodHalfEmpty$Town;I)I" } : Jvm.MethodName)) ∈ lw_all := lw_g (lw_at lw_m4 52 rfl) rfl
theorem q848 : (Jvm.Cond.sameMethod "GoodHalfEmpty$Ruler" "GoodHalfEmpty$Ruler" "ruleOf" "(LGoodHalfEmpty$Town;I)I") ∈ lw_all := lw_g (lw_at lw_m4 53 rfl) rfl
theorem q853 : (Jvm.Cond.code ({ cls := "GoodHalfEmpty$Ruler", name := "ruleOf", desc := "(LGoodHalfEmpty$Town;I)I" } : Jvm.MethodName) prog_18_method_3_code (3 : Nat) (Option.some Jvm.ClassFile.FieldType.int)) ∈ lw_all := lw_g (lw_at lw_m4 58 rfl) rfl
theorem q854 : (Jvm.Cond.methodLink "GoodHalfEmpty$Ruler" (19 : Nat) ({ cls := "GoodHalfEmpty$Town", name := "foretold", desc := "(I)I" } : Jvm.MethodName)) ∈ lw_all := lw_g (lw_at lw_m4 59 rfl) rfl
theorem q858 : (Jvm.Cond.selects "GoodHalfEmpty$Ruler" ({ cls := "GoodHalfEmpty$Goer", name := "goes", desc := "(LGoodHalfEmpty$Town;LGoodHalfEmpty$Sort;)Z" } : Jvm.MethodName) ({ cls := "GoodHalfEmpty$Ruler", name := "goes", desc := "(LGoodHalfEmpty$Town;LGoodHalfEmpty$Sort;)Z" } : Jvm.MethodName)) ∈ lw_all := lw_g (lw_at lw_m4 63 rfl) rfl
theorem q1481 : (Jvm.Cond.castable "GoodHalfEmpty$Ruler" "GoodHalfEmpty$Goer") ∈ lw_tbl := lw_at lw_m6 206 rfl

/-! GoodHalfEmpty$Hat -/
set_option maxRecDepth 100000
def RX12 : String := "GoodHalfEmpty$Hat"
abbrev cX12_init : ByteArray := prog_7_method_1_code
def yX12_init : MethodName := ⟨RX12, "<init>", "()V"⟩
theorem dX12_init_0 : decode cX12_init 0 = .ok (.aload_n 0, 1) := by decide +kernel
theorem dX12_init_1 : decode cX12_init 1 = .ok (.invokespecial 1, 3) := by decide +kernel
theorem dX12_init_4 : decode cX12_init 4 = .ok (.return_, 1) := by decide +kernel
abbrev cX12_kind : ByteArray := prog_7_method_2_code
def yX12_kind : MethodName := ⟨RX12, "kind", "()I"⟩
theorem dX12_kind_0 : decode cX12_kind 0 = .ok (.iconst 3, 1) := by decide +kernel
theorem dX12_kind_1 : decode cX12_kind 1 = .ok (.ireturn, 1) := by decide +kernel
abbrev cX12_ruleOf : ByteArray := prog_7_method_3_code
def yX12_ruleOf : MethodName := ⟨RX12, "ruleOf", "(LGoodHalfEmpty$Town;I)I"⟩
def dkwX12_ruleOf_2 : List UInt8 := [132, 4, 1, 167, 255, 221, 29, 172]
abbrev dktX12_ruleOf_2 : List UInt8 := dkwX12_ruleOf_2 ++ []
def dkwX12_ruleOf_1 : List UInt8 := [180, 0, 17, 21, 4, 46, 43, 180, 0, 17, 29, 46, 164, 0, 8, 21, 4, 167, 0, 4, 29, 62]
abbrev dktX12_ruleOf_1 : List UInt8 := dkwX12_ruleOf_1 ++ dktX12_ruleOf_2
def dkwX12_ruleOf_0 : List UInt8 := [42, 43, 28, 183, 0, 7, 62, 28, 4, 96, 54, 4, 21, 4, 43, 180, 0, 11, 162, 0, 32, 43]
abbrev dktX12_ruleOf_0 : List UInt8 := dkwX12_ruleOf_0 ++ dktX12_ruleOf_1
theorem dksX12_ruleOf_0 : cX12_ruleOf.data.toList.drop 0 = dktX12_ruleOf_0 := by decide +kernel
theorem dksX12_ruleOf_1 : cX12_ruleOf.data.toList.drop 22 = dktX12_ruleOf_1 := dk_seg dksX12_ruleOf_0 22 rfl rfl
theorem dksX12_ruleOf_2 : cX12_ruleOf.data.toList.drop 44 = dktX12_ruleOf_2 := dk_seg dksX12_ruleOf_1 22 rfl rfl
theorem dX12_ruleOf_0 : decode cX12_ruleOf 0 = .ok (.aload_n 0, 1) := dk_42 (dk_at dksX12_ruleOf_0 0 rfl rfl)
theorem dX12_ruleOf_1 : decode cX12_ruleOf 1 = .ok (.aload_n 1, 1) := dk_43 (dk_at dksX12_ruleOf_0 1 rfl rfl)
theorem dX12_ruleOf_2 : decode cX12_ruleOf 2 = .ok (.iload_n 2, 1) := dk_28 (dk_at dksX12_ruleOf_0 2 rfl rfl)
theorem dX12_ruleOf_3 : decode cX12_ruleOf 3 = .ok (.invokespecial 7, 3) := dk_183 0 7 (dk_at dksX12_ruleOf_0 3 rfl rfl)
theorem dX12_ruleOf_6 : decode cX12_ruleOf 6 = .ok (.istore_n 3, 1) := dk_62 (dk_at dksX12_ruleOf_0 6 rfl rfl)
theorem dX12_ruleOf_7 : decode cX12_ruleOf 7 = .ok (.iload_n 2, 1) := dk_28 (dk_at dksX12_ruleOf_0 7 rfl rfl)
theorem dX12_ruleOf_8 : decode cX12_ruleOf 8 = .ok (.iconst 1, 1) := dk_4 (dk_at dksX12_ruleOf_0 8 rfl rfl)
theorem dX12_ruleOf_9 : decode cX12_ruleOf 9 = .ok (.iadd, 1) := dk_96 (dk_at dksX12_ruleOf_0 9 rfl rfl)
theorem dX12_ruleOf_10 : decode cX12_ruleOf 10 = .ok (.istore 4, 2) := dk_54 4 (dk_at dksX12_ruleOf_0 10 rfl rfl)
theorem dX12_ruleOf_12 : decode cX12_ruleOf 12 = .ok (.iload 4, 2) := dk_21 4 (dk_at dksX12_ruleOf_0 12 rfl rfl)
theorem dX12_ruleOf_14 : decode cX12_ruleOf 14 = .ok (.aload_n 1, 1) := dk_43 (dk_at dksX12_ruleOf_0 14 rfl rfl)
theorem dX12_ruleOf_15 : decode cX12_ruleOf 15 = .ok (.getfield 11, 3) := dk_180 0 11 (dk_at dksX12_ruleOf_0 15 rfl rfl)
theorem dX12_ruleOf_18 : decode cX12_ruleOf 18 = .ok (.if_icmp .ge 32, 3) := dk_162 0 32 (dk_at dksX12_ruleOf_0 18 rfl rfl)
theorem dX12_ruleOf_21 : decode cX12_ruleOf 21 = .ok (.aload_n 1, 1) := dk_43 (dk_at dksX12_ruleOf_0 21 rfl rfl)
theorem dX12_ruleOf_22 : decode cX12_ruleOf 22 = .ok (.getfield 17, 3) := dk_180 0 17 (dk_at dksX12_ruleOf_1 0 rfl rfl)
theorem dX12_ruleOf_25 : decode cX12_ruleOf 25 = .ok (.iload 4, 2) := dk_21 4 (dk_at dksX12_ruleOf_1 3 rfl rfl)
theorem dX12_ruleOf_27 : decode cX12_ruleOf 27 = .ok (.iaload, 1) := dk_46 (dk_at dksX12_ruleOf_1 5 rfl rfl)
theorem dX12_ruleOf_28 : decode cX12_ruleOf 28 = .ok (.aload_n 1, 1) := dk_43 (dk_at dksX12_ruleOf_1 6 rfl rfl)
theorem dX12_ruleOf_29 : decode cX12_ruleOf 29 = .ok (.getfield 17, 3) := dk_180 0 17 (dk_at dksX12_ruleOf_1 7 rfl rfl)
theorem dX12_ruleOf_32 : decode cX12_ruleOf 32 = .ok (.iload_n 3, 1) := dk_29 (dk_at dksX12_ruleOf_1 10 rfl rfl)
theorem dX12_ruleOf_33 : decode cX12_ruleOf 33 = .ok (.iaload, 1) := dk_46 (dk_at dksX12_ruleOf_1 11 rfl rfl)
theorem dX12_ruleOf_34 : decode cX12_ruleOf 34 = .ok (.if_icmp .le 8, 3) := dk_164 0 8 (dk_at dksX12_ruleOf_1 12 rfl rfl)
theorem dX12_ruleOf_37 : decode cX12_ruleOf 37 = .ok (.iload 4, 2) := dk_21 4 (dk_at dksX12_ruleOf_1 15 rfl rfl)
theorem dX12_ruleOf_39 : decode cX12_ruleOf 39 = .ok (.goto 4, 3) := dk_167 0 4 (dk_at dksX12_ruleOf_1 17 rfl rfl)
theorem dX12_ruleOf_42 : decode cX12_ruleOf 42 = .ok (.iload_n 3, 1) := dk_29 (dk_at dksX12_ruleOf_1 20 rfl rfl)
theorem dX12_ruleOf_43 : decode cX12_ruleOf 43 = .ok (.istore_n 3, 1) := dk_62 (dk_at dksX12_ruleOf_1 21 rfl rfl)
theorem dX12_ruleOf_44 : decode cX12_ruleOf 44 = .ok (.iinc 4 1, 3) := dk_132 4 1 (dk_at dksX12_ruleOf_2 0 rfl rfl)
theorem dX12_ruleOf_47 : decode cX12_ruleOf 47 = .ok (.goto (-35), 3) := dk_167 255 221 (dk_at dksX12_ruleOf_2 3 rfl rfl)
theorem dX12_ruleOf_50 : decode cX12_ruleOf 50 = .ok (.iload_n 3, 1) := dk_29 (dk_at dksX12_ruleOf_2 6 rfl rfl)
theorem dX12_ruleOf_51 : decode cX12_ruleOf 51 = .ok (.ireturn, 1) := dk_172 (dk_at dksX12_ruleOf_2 7 rfl rfl)
theorem q88 : (Jvm.Cond.initialized "GoodHalfEmpty$Hat") ∈ lw_all := lw_g (lw_at lw_m1 13 rfl) rfl
theorem q190 : (Jvm.Cond.instantiable "GoodHalfEmpty$Hat" (0 : Nat)) ∈ lw_all := lw_g (lw_at lw_m1 115 rfl) rfl
theorem q192 : (Jvm.Cond.instanceMethod ({ cls := "GoodHalfEmpty$Hat", name := "<init>", desc := "()V" } : Jvm.MethodName)) ∈ lw_all := lw_g (lw_at lw_m1 117 rfl) rfl
theorem q193 : (Jvm.Cond.code ({ cls := "GoodHalfEmpty$Hat", name := "<init>", desc := "()V" } : Jvm.MethodName) prog_7_method_1_code (1 : Nat) (Option.none : Option Jvm.ClassFile.FieldType)) ∈ lw_all := lw_g (lw_at lw_m1 118 rfl) rfl
theorem q194 : (Jvm.Cond.methodLinkNest "GoodHalfEmpty$Hat" (1 : Nat) ({ cls := "GoodHalfEmpty$Ruler", name := "<init>", desc := "()V" } : Jvm.MethodName) "GoodHalfEmpty") ∈ lw_tbl := lw_at lw_m1 119 rfl
theorem q195 : (Jvm.Cond.superclass "GoodHalfEmpty$Hat" "GoodHalfEmpty$Ruler") ∈ lw_all := lw_g (lw_at lw_m1 120 rfl) rfl
theorem q233 : (Jvm.Cond.fieldLinkNest "GoodHalfEmpty$Hat" (11 : Nat) "GoodHalfEmpty$Town" "rules" "I" "GoodHalfEmpty") ∈ lw_tbl := lw_at lw_m1 158 rfl
theorem q243 : (Jvm.Cond.fieldLinkNest "GoodHalfEmpty$Hat" (17 : Nat) "GoodHalfEmpty$Town" "right" "[I" "GoodHalfEmpty") ∈ lw_tbl := lw_at lw_m1 168 rfl
theorem q688 : (Jvm.Cond.selects "GoodHalfEmpty$Hat" ({ cls := "GoodHalfEmpty$Goer", name := "hasRule", desc := "()Z" } : Jvm.MethodName) ({ cls := "GoodHalfEmpty$Ruler", name := "hasRule", desc := "()Z" } : Jvm.MethodName)) ∈ lw_all := lw_g (lw_at lw_m3 133 rfl) rfl
theorem q718 : (Jvm.Cond.selects "GoodHalfEmpty$Hat" ({ cls := "GoodHalfEmpty$Goer", name := "kind", desc := "()I" } : Jvm.MethodName) ({ cls := "GoodHalfEmpty$Hat", name := "kind", desc := "()I" } : Jvm.MethodName)) ∈ lw_all := lw_g (lw_at lw_m3 163 rfl) rfl
theorem q719 : (Jvm.Cond.instanceMethod ({ cls := "GoodHalfEmpty$Hat", name := "kind", desc := "()I" } : Jvm.MethodName)) ∈ lw_all := lw_g (lw_at lw_m3 164 rfl) rfl
theorem q720 : (Jvm.Cond.code ({ cls := "GoodHalfEmpty$Hat", name := "kind", desc := "()I" } : Jvm.MethodName) prog_7_method_2_code (1 : Nat) (Option.some Jvm.ClassFile.FieldType.int)) ∈ lw_all := lw_g (lw_at lw_m3 165 rfl) rfl
theorem q828 : (Jvm.Cond.selects "GoodHalfEmpty$Hat" ({ cls := "GoodHalfEmpty$Goer", name := "isLast", desc := "()Z" } : Jvm.MethodName) ({ cls := "GoodHalfEmpty$Goer", name := "isLast", desc := "()Z" } : Jvm.MethodName)) ∈ lw_all := lw_g (lw_at lw_m4 33 rfl) rfl
theorem q842 : (Jvm.Cond.selects "GoodHalfEmpty$Hat" ({ cls := "GoodHalfEmpty$Goer", name := "goes", desc := "(LGoodHalfEmpty$Town;LGoodHalfEmpty$Sort;)Z" } : Jvm.MethodName) ({ cls := "GoodHalfEmpty$Ruler", name := "goes", desc := "(LGoodHalfEmpty$Town;LGoodHalfEmpty$Sort;)Z" } : Jvm.MethodName)) ∈ lw_all := lw_g (lw_at lw_m4 47 rfl) rfl
theorem q849 : (Jvm.Cond.selects "GoodHalfEmpty$Hat" ({ cls := "GoodHalfEmpty$Ruler", name := "ruleOf", desc := "(LGoodHalfEmpty$Town;I)I" } : Jvm.MethodName) ({ cls := "GoodHalfEmpty$Hat", name := "ruleOf", desc := "(LGoodHalfEmpty$Town;I)I" } : Jvm.MethodName)) ∈ lw_all := lw_g (lw_at lw_m4 54 rfl) rfl
theorem q850 : (Jvm.Cond.instanceMethod ({ cls := "GoodHalfEmpty$Hat", name := "ruleOf", desc := "(LGoodHalfEmpty$Town;I)I" } : Jvm.MethodName)) ∈ lw_all := lw_g (lw_at lw_m4 55 rfl) rfl
theorem q851 : (Jvm.Cond.code ({ cls := "GoodHalfEmpty$Hat", name := "ruleOf", desc := "(LGoodHalfEmpty$Town;I)I" } : Jvm.MethodName) prog_7_method_3_code (5 : Nat) (Option.some Jvm.ClassFile.FieldType.int)) ∈ lw_all := lw_g (lw_at lw_m4 56 rfl) rfl
theorem q852 : (Jvm.Cond.methodLink "GoodHalfEmpty$Hat" (7 : Nat) ({ cls := "GoodHalfEmpty$Ruler", name := "ruleOf", desc := "(LGoodHalfEmpty$Town;I)I" } : Jvm.MethodName)) ∈ lw_all := lw_g (lw_at lw_m4 57 rfl) rfl
theorem q1482 : (Jvm.Cond.castable "GoodHalfEmpty$Hat" "GoodHalfEmpty$Goer") ∈ lw_tbl := lw_at lw_m6 207 rfl

/-! GoodHalfEmpty$Turn -/
set_option maxRecDepth 100000
def RX13 : String := "GoodHalfEmpty$Turn"
abbrev cX13_init : ByteArray := prog_25_method_1_code
def yX13_init : MethodName := ⟨RX13, "<init>", "()V"⟩
theorem dX13_init_0 : decode cX13_init 0 = .ok (.aload_n 0, 1) := by decide +kernel
theorem dX13_init_1 : decode cX13_init 1 = .ok (.invokespecial 1, 3) := by decide +kernel
theorem dX13_init_4 : decode cX13_init 4 = .ok (.return_, 1) := by decide +kernel
abbrev cX13_kind : ByteArray := prog_25_method_2_code
def yX13_kind : MethodName := ⟨RX13, "kind", "()I"⟩
theorem dX13_kind_0 : decode cX13_kind 0 = .ok (.iconst 4, 1) := by decide +kernel
theorem dX13_kind_1 : decode cX13_kind 1 = .ok (.ireturn, 1) := by decide +kernel
abbrev cX13_goes : ByteArray := prog_25_method_3_code
def yX13_goes : MethodName := ⟨RX13, "goes", "(LGoodHalfEmpty$Town;LGoodHalfEmpty$Sort;)Z"⟩
def dkwX13_goes_0 : List UInt8 := [43, 180, 0, 7, 44, 180, 0, 13, 4, 96, 112, 154, 0, 7, 4, 167, 0, 4, 3, 172]
abbrev dktX13_goes_0 : List UInt8 := dkwX13_goes_0 ++ []
theorem dksX13_goes_0 : cX13_goes.data.toList.drop 0 = dktX13_goes_0 := by decide +kernel
theorem dX13_goes_0 : decode cX13_goes 0 = .ok (.aload_n 1, 1) := dk_43 (dk_at dksX13_goes_0 0 rfl rfl)
theorem dX13_goes_1 : decode cX13_goes 1 = .ok (.getfield 7, 3) := dk_180 0 7 (dk_at dksX13_goes_0 1 rfl rfl)
theorem dX13_goes_4 : decode cX13_goes 4 = .ok (.aload_n 2, 1) := dk_44 (dk_at dksX13_goes_0 4 rfl rfl)
theorem dX13_goes_5 : decode cX13_goes 5 = .ok (.getfield 13, 3) := dk_180 0 13 (dk_at dksX13_goes_0 5 rfl rfl)
theorem dX13_goes_8 : decode cX13_goes 8 = .ok (.iconst 1, 1) := dk_4 (dk_at dksX13_goes_0 8 rfl rfl)
theorem dX13_goes_9 : decode cX13_goes 9 = .ok (.iadd, 1) := dk_96 (dk_at dksX13_goes_0 9 rfl rfl)
theorem dX13_goes_10 : decode cX13_goes 10 = .ok (.irem, 1) := dk_112 (dk_at dksX13_goes_0 10 rfl rfl)
theorem dX13_goes_11 : decode cX13_goes 11 = .ok (.ifCond .ne 7, 3) := dk_154 0 7 (dk_at dksX13_goes_0 11 rfl rfl)
theorem dX13_goes_14 : decode cX13_goes 14 = .ok (.iconst 1, 1) := dk_4 (dk_at dksX13_goes_0 14 rfl rfl)
theorem dX13_goes_15 : decode cX13_goes 15 = .ok (.goto 4, 3) := dk_167 0 4 (dk_at dksX13_goes_0 15 rfl rfl)
theorem dX13_goes_18 : decode cX13_goes 18 = .ok (.iconst 0, 1) := dk_3 (dk_at dksX13_goes_0 18 rfl rfl)
theorem dX13_goes_19 : decode cX13_goes 19 = .ok (.ireturn, 1) := dk_172 (dk_at dksX13_goes_0 19 rfl rfl)
theorem q89 : (Jvm.Cond.initialized "GoodHalfEmpty$Turn") ∈ lw_all := lw_g (lw_at lw_m1 14 rfl) rfl
theorem q197 : (Jvm.Cond.instantiable "GoodHalfEmpty$Turn" (0 : Nat)) ∈ lw_all := lw_g (lw_at lw_m1 122 rfl) rfl
theorem q199 : (Jvm.Cond.instanceMethod ({ cls := "GoodHalfEmpty$Turn", name := "<init>", desc := "()V" } : Jvm.MethodName)) ∈ lw_all := lw_g (lw_at lw_m1 124 rfl) rfl
theorem q200 : (Jvm.Cond.code ({ cls := "GoodHalfEmpty$Turn", name := "<init>", desc := "()V" } : Jvm.MethodName) prog_25_method_1_code (1 : Nat) (Option.none : Option Jvm.ClassFile.FieldType)) ∈ lw_all := lw_g (lw_at lw_m1 125 rfl) rfl
theorem q201 : (Jvm.Cond.methodLinkNest "GoodHalfEmpty$Turn" (1 : Nat) ({ cls := "GoodHalfEmpty$Goer", name := "<init>", desc := "()V" } : Jvm.MethodName) "GoodHalfEmpty") ∈ lw_tbl := lw_at lw_m1 126 rfl
theorem q202 : (Jvm.Cond.superclass "GoodHalfEmpty$Turn" "GoodHalfEmpty$Goer") ∈ lw_all := lw_g (lw_at lw_m1 127 rfl) rfl
theorem q250 : (Jvm.Cond.fieldLinkNest "GoodHalfEmpty$Turn" (7 : Nat) "GoodHalfEmpty$Town" "number" "I" "GoodHalfEmpty") ∈ lw_tbl := lw_at lw_m1 175 rfl
theorem q592 : (Jvm.Cond.fieldLinkNest "GoodHalfEmpty$Turn" (13 : Nat) "GoodHalfEmpty$Sort" "figure" "I" "GoodHalfEmpty") ∈ lw_tbl := lw_at lw_m3 37 rfl
theorem q694 : (Jvm.Cond.selects "GoodHalfEmpty$Turn" ({ cls := "GoodHalfEmpty$Goer", name := "hasRule", desc := "()Z" } : Jvm.MethodName) ({ cls := "GoodHalfEmpty$Goer", name := "hasRule", desc := "()Z" } : Jvm.MethodName)) ∈ lw_all := lw_g (lw_at lw_m3 139 rfl) rfl
theorem q730 : (Jvm.Cond.selects "GoodHalfEmpty$Turn" ({ cls := "GoodHalfEmpty$Goer", name := "kind", desc := "()I" } : Jvm.MethodName) ({ cls := "GoodHalfEmpty$Turn", name := "kind", desc := "()I" } : Jvm.MethodName)) ∈ lw_all := lw_g (lw_at lw_m3 175 rfl) rfl
theorem q731 : (Jvm.Cond.instanceMethod ({ cls := "GoodHalfEmpty$Turn", name := "kind", desc := "()I" } : Jvm.MethodName)) ∈ lw_all := lw_g (lw_at lw_m3 176 rfl) rfl
theorem q732 : (Jvm.Cond.code ({ cls := "GoodHalfEmpty$Turn", name := "kind", desc := "()I" } : Jvm.MethodName) prog_25_method_2_code (1 : Nat) (Option.some Jvm.ClassFile.FieldType.int)) ∈ lw_all := lw_g (lw_at lw_m3 177 rfl) rfl
theorem q834 : (Jvm.Cond.selects "GoodHalfEmpty$Turn" ({ cls := "GoodHalfEmpty$Goer", name := "isLast", desc := "()Z" } : Jvm.MethodName) ({ cls := "GoodHalfEmpty$Goer", name := "isLast", desc := "()Z" } : Jvm.MethodName)) ∈ lw_all := lw_g (lw_at lw_m4 39 rfl) rfl
theorem q862 : (Jvm.Cond.selects "GoodHalfEmpty$Turn" ({ cls := "GoodHalfEmpty$Goer", name := "goes", desc := "(LGoodHalfEmpty$Town;LGoodHalfEmpty$Sort;)Z" } : Jvm.MethodName) ({ cls := "GoodHalfEmpty$Turn", name := "goes", desc := "(LGoodHalfEmpty$Town;LGoodHalfEmpty$Sort;)Z" } : Jvm.MethodName)) ∈ lw_all := lw_g (lw_at lw_m4 67 rfl) rfl
theorem q863 : (Jvm.Cond.instanceMethod ({ cls := "GoodHalfEmpty$Turn", name := "goes", desc := "(LGoodHalfEmpty$Town;LGoodHalfEmpty$Sort;)Z" } : Jvm.MethodName)) ∈ lw_all := lw_g (lw_at lw_m4 68 rfl) rfl
theorem q864 : (Jvm.Cond.code ({ cls := "GoodHalfEmpty$Turn", name := "goes", desc := "(LGoodHalfEmpty$Town;LGoodHalfEmpty$Sort;)Z" } : Jvm.MethodName) prog_25_method_3_code (3 : Nat) (Option.some Jvm.ClassFile.FieldType.boolean)) ∈ lw_all := lw_g (lw_at lw_m4 69 rfl) rfl
theorem q1483 : (Jvm.Cond.castable "GoodHalfEmpty$Turn" "GoodHalfEmpty$Goer") ∈ lw_tbl := lw_at lw_m6 208 rfl

/-! GoodHalfEmpty$Seer -/
set_option maxRecDepth 100000
def RX14 : String := "GoodHalfEmpty$Seer"
abbrev cX14_init : ByteArray := prog_19_method_1_code
def yX14_init : MethodName := ⟨RX14, "<init>", "()V"⟩
theorem dX14_init_0 : decode cX14_init 0 = .ok (.aload_n 0, 1) := by decide +kernel
theorem dX14_init_1 : decode cX14_init 1 = .ok (.invokespecial 1, 3) := by decide +kernel
theorem dX14_init_4 : decode cX14_init 4 = .ok (.return_, 1) := by decide +kernel
abbrev cX14_kind : ByteArray := prog_19_method_2_code
def yX14_kind : MethodName := ⟨RX14, "kind", "()I"⟩
theorem dX14_kind_0 : decode cX14_kind 0 = .ok (.iconst 5, 1) := by decide +kernel
theorem dX14_kind_1 : decode cX14_kind 1 = .ok (.ireturn, 1) := by decide +kernel
abbrev cX14_isLast : ByteArray := prog_19_method_4_code
def yX14_isLast : MethodName := ⟨RX14, "isLast", "()Z"⟩
theorem dX14_isLast_0 : decode cX14_isLast 0 = .ok (.iconst 1, 1) := by decide +kernel
theorem dX14_isLast_1 : decode cX14_isLast 1 = .ok (.ireturn, 1) := by decide +kernel
abbrev cX14_goes : ByteArray := prog_19_method_3_code
def yX14_goes : MethodName := ⟨RX14, "goes", "(LGoodHalfEmpty$Town;LGoodHalfEmpty$Sort;)Z"⟩
def dkwX14_goes_0 : List UInt8 := [43, 180, 0, 7, 44, 180, 0, 13, 96, 43, 180, 0, 18, 163, 0, 7, 4, 167, 0, 4, 3, 172]
abbrev dktX14_goes_0 : List UInt8 := dkwX14_goes_0 ++ []
theorem dksX14_goes_0 : cX14_goes.data.toList.drop 0 = dktX14_goes_0 := by decide +kernel
theorem dX14_goes_0 : decode cX14_goes 0 = .ok (.aload_n 1, 1) := dk_43 (dk_at dksX14_goes_0 0 rfl rfl)
theorem dX14_goes_1 : decode cX14_goes 1 = .ok (.getfield 7, 3) := dk_180 0 7 (dk_at dksX14_goes_0 1 rfl rfl)
theorem dX14_goes_4 : decode cX14_goes 4 = .ok (.aload_n 2, 1) := dk_44 (dk_at dksX14_goes_0 4 rfl rfl)
theorem dX14_goes_5 : decode cX14_goes 5 = .ok (.getfield 13, 3) := dk_180 0 13 (dk_at dksX14_goes_0 5 rfl rfl)
theorem dX14_goes_8 : decode cX14_goes 8 = .ok (.iadd, 1) := dk_96 (dk_at dksX14_goes_0 8 rfl rfl)
theorem dX14_goes_9 : decode cX14_goes 9 = .ok (.aload_n 1, 1) := dk_43 (dk_at dksX14_goes_0 9 rfl rfl)
theorem dX14_goes_10 : decode cX14_goes 10 = .ok (.getfield 18, 3) := dk_180 0 18 (dk_at dksX14_goes_0 10 rfl rfl)
theorem dX14_goes_13 : decode cX14_goes 13 = .ok (.if_icmp .gt 7, 3) := dk_163 0 7 (dk_at dksX14_goes_0 13 rfl rfl)
theorem dX14_goes_16 : decode cX14_goes 16 = .ok (.iconst 1, 1) := dk_4 (dk_at dksX14_goes_0 16 rfl rfl)
theorem dX14_goes_17 : decode cX14_goes 17 = .ok (.goto 4, 3) := dk_167 0 4 (dk_at dksX14_goes_0 17 rfl rfl)
theorem dX14_goes_20 : decode cX14_goes 20 = .ok (.iconst 0, 1) := dk_3 (dk_at dksX14_goes_0 20 rfl rfl)
theorem dX14_goes_21 : decode cX14_goes 21 = .ok (.ireturn, 1) := dk_172 (dk_at dksX14_goes_0 21 rfl rfl)
theorem q90 : (Jvm.Cond.initialized "GoodHalfEmpty$Seer") ∈ lw_all := lw_g (lw_at lw_m1 15 rfl) rfl
theorem q204 : (Jvm.Cond.instantiable "GoodHalfEmpty$Seer" (0 : Nat)) ∈ lw_all := lw_g (lw_at lw_m1 129 rfl) rfl
theorem q206 : (Jvm.Cond.instanceMethod ({ cls := "GoodHalfEmpty$Seer", name := "<init>", desc := "()V" } : Jvm.MethodName)) ∈ lw_all := lw_g (lw_at lw_m1 131 rfl) rfl
theorem q207 : (Jvm.Cond.code ({ cls := "GoodHalfEmpty$Seer", name := "<init>", desc := "()V" } : Jvm.MethodName) prog_19_method_1_code (1 : Nat) (Option.none : Option Jvm.ClassFile.FieldType)) ∈ lw_all := lw_g (lw_at lw_m1 132 rfl) rfl
theorem q208 : (Jvm.Cond.methodLinkNest "GoodHalfEmpty$Seer" (1 : Nat) ({ cls := "GoodHalfEmpty$Goer", name := "<init>", desc := "()V" } : Jvm.MethodName) "GoodHalfEmpty") ∈ lw_tbl := lw_at lw_m1 133 rfl
theorem q209 : (Jvm.Cond.superclass "GoodHalfEmpty$Seer" "GoodHalfEmpty$Goer") ∈ lw_all := lw_g (lw_at lw_m1 134 rfl) rfl
theorem q221 : (Jvm.Cond.fieldLinkNest "GoodHalfEmpty$Seer" (18 : Nat) "GoodHalfEmpty$Town" "chairs" "I" "GoodHalfEmpty") ∈ lw_tbl := lw_at lw_m1 146 rfl
theorem q254 : (Jvm.Cond.fieldLinkNest "GoodHalfEmpty$Seer" (7 : Nat) "GoodHalfEmpty$Town" "going" "I" "GoodHalfEmpty") ∈ lw_tbl := lw_at lw_m1 179 rfl
theorem q587 : (Jvm.Cond.fieldLinkNest "GoodHalfEmpty$Seer" (13 : Nat) "GoodHalfEmpty$Sort" "many" "I" "GoodHalfEmpty") ∈ lw_tbl := lw_at lw_m3 32 rfl
theorem q693 : (Jvm.Cond.selects "GoodHalfEmpty$Seer" ({ cls := "GoodHalfEmpty$Goer", name := "hasRule", desc := "()Z" } : Jvm.MethodName) ({ cls := "GoodHalfEmpty$Goer", name := "hasRule", desc := "()Z" } : Jvm.MethodName)) ∈ lw_all := lw_g (lw_at lw_m3 138 rfl) rfl
theorem q727 : (Jvm.Cond.selects "GoodHalfEmpty$Seer" ({ cls := "GoodHalfEmpty$Goer", name := "kind", desc := "()I" } : Jvm.MethodName) ({ cls := "GoodHalfEmpty$Seer", name := "kind", desc := "()I" } : Jvm.MethodName)) ∈ lw_all := lw_g (lw_at lw_m3 172 rfl) rfl
theorem q728 : (Jvm.Cond.instanceMethod ({ cls := "GoodHalfEmpty$Seer", name := "kind", desc := "()I" } : Jvm.MethodName)) ∈ lw_all := lw_g (lw_at lw_m3 173 rfl) rfl
theorem q729 : (Jvm.Cond.code ({ cls := "GoodHalfEmpty$Seer", name := "kind", desc := "()I" } : Jvm.MethodName) prog_19_method_2_code (1 : Nat) (Option.some Jvm.ClassFile.FieldType.int)) ∈ lw_all := lw_g (lw_at lw_m3 174 rfl) rfl
theorem q831 : (Jvm.Cond.selects "GoodHalfEmpty$Seer" ({ cls := "GoodHalfEmpty$Goer", name := "isLast", desc := "()Z" } : Jvm.MethodName) ({ cls := "GoodHalfEmpty$Seer", name := "isLast", desc := "()Z" } : Jvm.MethodName)) ∈ lw_all := lw_g (lw_at lw_m4 36 rfl) rfl
theorem q832 : (Jvm.Cond.instanceMethod ({ cls := "GoodHalfEmpty$Seer", name := "isLast", desc := "()Z" } : Jvm.MethodName)) ∈ lw_all := lw_g (lw_at lw_m4 37 rfl) rfl
theorem q833 : (Jvm.Cond.code ({ cls := "GoodHalfEmpty$Seer", name := "isLast", desc := "()Z" } : Jvm.MethodName) prog_19_method_4_code (1 : Nat) (Option.some Jvm.ClassFile.FieldType.boolean)) ∈ lw_all := lw_g (lw_at lw_m4 38 rfl) rfl
theorem q859 : (Jvm.Cond.selects "GoodHalfEmpty$Seer" ({ cls := "GoodHalfEmpty$Goer", name := "goes", desc := "(LGoodHalfEmpty$Town;LGoodHalfEmpty$Sort;)Z" } : Jvm.MethodName) ({ cls := "GoodHalfEmpty$Seer", name := "goes", desc := "(LGoodHalfEmpty$Town;LGoodHalfEmpty$Sort;)Z" } : Jvm.MethodName)) ∈ lw_all := lw_g (lw_at lw_m4 64 rfl) rfl
theorem q860 : (Jvm.Cond.instanceMethod ({ cls := "GoodHalfEmpty$Seer", name := "goes", desc := "(LGoodHalfEmpty$Town;LGoodHalfEmpty$Sort;)Z" } : Jvm.MethodName)) ∈ lw_all := lw_g (lw_at lw_m4 65 rfl) rfl
theorem q861 : (Jvm.Cond.code ({ cls := "GoodHalfEmpty$Seer", name := "goes", desc := "(LGoodHalfEmpty$Town;LGoodHalfEmpty$Sort;)Z" } : Jvm.MethodName) prog_19_method_3_code (3 : Nat) (Option.some Jvm.ClassFile.FieldType.boolean)) ∈ lw_all := lw_g (lw_at lw_m4 66 rfl) rfl
theorem q1484 : (Jvm.Cond.castable "GoodHalfEmpty$Seer" "GoodHalfEmpty$Goer") ∈ lw_tbl := lw_at lw_m6 209 rfl

/-! GoodHalfEmpty$Town -/
set_option maxRecDepth 100000
def RX15 : String := "GoodHalfEmpty$Town"
def TX15 : u_T := fun k => match k with
  | 0 => ("GoodHalfEmpty$Town", "chairs", "I", false)
  | 1 => ("GoodHalfEmpty$Town", "sorts", "I", false)
  | 2 => ("GoodHalfEmpty$Town", "sort", "[LGoodHalfEmpty$Sort;", true)
  | 3 => ("GoodHalfEmpty$Town", "rules", "I", false)
  | 4 => ("GoodHalfEmpty$Town", "rule", "[LGoodHalfEmpty$Rule;", true)
  | 5 => ("GoodHalfEmpty$Town", "spans", "[I", true)
  | 6 => ("GoodHalfEmpty$Town", "right", "[I", true)
  | 7 => ("GoodHalfEmpty$Town", "weeks", "I", false)
  | 8 => ("GoodHalfEmpty$Town", "memory", "[I", true)
  | 9 => ("GoodHalfEmpty$Town", "number", "I", false)
  | 10 => ("GoodHalfEmpty$Town", "penny", "I", false)
  | 11 => ("GoodHalfEmpty$Town", "going", "I", false)
  | 12 => ("GoodHalfEmpty$Town", "go", "[Z", true)
  | _ => ("GoodHalfEmpty$Town", "foretold", "[I", true)
def tyX15 : Nat → FieldType := fun k => match k with
  | 0 => .int
  | 1 => .int
  | 2 => .array (.object "GoodHalfEmpty$Sort")
  | 3 => .int
  | 4 => .array (.object "GoodHalfEmpty$Rule")
  | 5 => .array .int
  | 6 => .array .int
  | 7 => .int
  | 8 => .array .int
  | 9 => .int
  | 10 => .int
  | 11 => .int
  | 12 => .array .boolean
  | _ => .array .int
abbrev wsX150 : List Cond := u_ws RX15 TX15 14
set_option maxRecDepth 100000 in
theorem nmX15 : ∀ a, a < 14 → ∀ b, b < 14 → a ≠ b → (TX15 a).2.1 ≠ (TX15 b).2.1 := by decide +kernel
set_option maxRecDepth 100000 in
theorem tyX15_ok : ∀ k, k < 14 → parseFieldDescriptor (TX15 k).2.2.1 = some (tyX15 k) := by decide +kernel
abbrev cX15_init : ByteArray := prog_23_method_1_code
def yX15_init : MethodName := ⟨RX15, "<init>", "()V"⟩
def dkwX15_init_2 : List UInt8 := [181, 0, 34, 42, 8, 188, 4, 181, 0, 37, 42, 16, 6, 188, 10, 181, 0, 41, 177]
abbrev dktX15_init_2 : List UInt8 := dkwX15_init_2 ++ []
def dkwX15_init_1 : List UInt8 := [181, 0, 23, 42, 16, 6, 188, 10, 181, 0, 27, 42, 16, 6, 188, 10, 181, 0, 31, 42, 16, 8, 188, 10]
abbrev dktX15_init_1 : List UInt8 := dkwX15_init_1 ++ dktX15_init_2
def dkwX15_init_0 : List UInt8 := [42, 183, 0, 3, 42, 16, 10, 181, 0, 9, 42, 8, 189, 0, 15, 181, 0, 17, 42, 16, 6, 189, 0, 21]
abbrev dktX15_init_0 : List UInt8 := dkwX15_init_0 ++ dktX15_init_1
theorem dksX15_init_0 : cX15_init.data.toList.drop 0 = dktX15_init_0 := by decide +kernel
theorem dksX15_init_1 : cX15_init.data.toList.drop 24 = dktX15_init_1 := dk_seg dksX15_init_0 24 rfl rfl
theorem dksX15_init_2 : cX15_init.data.toList.drop 48 = dktX15_init_2 := dk_seg dksX15_init_1 24 rfl rfl
theorem dX15_init_0 : decode cX15_init 0 = .ok (.aload_n 0, 1) := dk_42 (dk_at dksX15_init_0 0 rfl rfl)
theorem dX15_init_1 : decode cX15_init 1 = .ok (.invokespecial 3, 3) := dk_183 0 3 (dk_at dksX15_init_0 1 rfl rfl)
theorem dX15_init_4 : decode cX15_init 4 = .ok (.aload_n 0, 1) := dk_42 (dk_at dksX15_init_0 4 rfl rfl)
theorem dX15_init_5 : decode cX15_init 5 = .ok (.bipush 10, 2) := dk_16 10 (dk_at dksX15_init_0 5 rfl rfl)
theorem dX15_init_7 : decode cX15_init 7 = .ok (.putfield 9, 3) := dk_181 0 9 (dk_at dksX15_init_0 7 rfl rfl)
theorem dX15_init_10 : decode cX15_init 10 = .ok (.aload_n 0, 1) := dk_42 (dk_at dksX15_init_0 10 rfl rfl)
theorem dX15_init_11 : decode cX15_init 11 = .ok (.iconst 5, 1) := dk_8 (dk_at dksX15_init_0 11 rfl rfl)
theorem dX15_init_12 : decode cX15_init 12 = .ok (.anewarray 15, 3) := dk_189 0 15 (dk_at dksX15_init_0 12 rfl rfl)
theorem dX15_init_15 : decode cX15_init 15 = .ok (.putfield 17, 3) := dk_181 0 17 (dk_at dksX15_init_0 15 rfl rfl)
theorem dX15_init_18 : decode cX15_init 18 = .ok (.aload_n 0, 1) := dk_42 (dk_at dksX15_init_0 18 rfl rfl)
theorem dX15_init_19 : decode cX15_init 19 = .ok (.bipush 6, 2) := dk_16 6 (dk_at dksX15_init_0 19 rfl rfl)
theorem dX15_init_21 : decode cX15_init 21 = .ok (.anewarray 21, 3) := dk_189 0 21 (dk_at dksX15_init_0 21 rfl rfl)
theorem dX15_init_24 : decode cX15_init 24 = .ok (.putfield 23, 3) := dk_181 0 23 (dk_at dksX15_init_1 0 rfl rfl)
theorem dX15_init_27 : decode cX15_init 27 = .ok (.aload_n 0, 1) := dk_42 (dk_at dksX15_init_1 3 rfl rfl)
theorem dX15_init_28 : decode cX15_init 28 = .ok (.bipush 6, 2) := dk_16 6 (dk_at dksX15_init_1 4 rfl rfl)
theorem dX15_init_30 : decode cX15_init 30 = .ok (.newarray .int, 2) := dk_188_10 (dk_at dksX15_init_1 6 rfl rfl)
theorem dX15_init_32 : decode cX15_init 32 = .ok (.putfield 27, 3) := dk_181 0 27 (dk_at dksX15_init_1 8 rfl rfl)
theorem dX15_init_35 : decode cX15_init 35 = .ok (.aload_n 0, 1) := dk_42 (dk_at dksX15_init_1 11 rfl rfl)
theorem dX15_init_36 : decode cX15_init 36 = .ok (.bipush 6, 2) := dk_16 6 (dk_at dksX15_init_1 12 rfl rfl)
theorem dX15_init_38 : decode cX15_init 38 = .ok (.newarray .int, 2) := dk_188_10 (dk_at dksX15_init_1 14 rfl rfl)
theorem dX15_init_40 : decode cX15_init 40 = .ok (.putfield 31, 3) := dk_181 0 31 (dk_at dksX15_init_1 16 rfl rfl)
theorem dX15_init_43 : decode cX15_init 43 = .ok (.aload_n 0, 1) := dk_42 (dk_at dksX15_init_1 19 rfl rfl)
theorem dX15_init_44 : decode cX15_init 44 = .ok (.bipush 8, 2) := dk_16 8 (dk_at dksX15_init_1 20 rfl rfl)
theorem dX15_init_46 : decode cX15_init 46 = .ok (.newarray .int, 2) := dk_188_10 (dk_at dksX15_init_1 22 rfl rfl)
theorem dX15_init_48 : decode cX15_init 48 = .ok (.putfield 34, 3) := dk_181 0 34 (dk_at dksX15_init_2 0 rfl rfl)
theorem dX15_init_51 : decode cX15_init 51 = .ok (.aload_n 0, 1) := dk_42 (dk_at dksX15_init_2 3 rfl rfl)
theorem dX15_init_52 : decode cX15_init 52 = .ok (.iconst 5, 1) := dk_8 (dk_at dksX15_init_2 4 rfl rfl)
theorem dX15_init_53 : decode cX15_init 53 = .ok (.newarray .boolean, 2) := dk_188_4 (dk_at dksX15_init_2 5 rfl rfl)
theorem dX15_init_55 : decode cX15_init 55 = .ok (.putfield 37, 3) := dk_181 0 37 (dk_at dksX15_init_2 7 rfl rfl)
theorem dX15_init_58 : decode cX15_init 58 = .ok (.aload_n 0, 1) := dk_42 (dk_at dksX15_init_2 10 rfl rfl)
theorem dX15_init_59 : decode cX15_init 59 = .ok (.bipush 6, 2) := dk_16 6 (dk_at dksX15_init_2 11 rfl rfl)
theorem dX15_init_61 : decode cX15_init 61 = .ok (.newarray .int, 2) := dk_188_10 (dk_at dksX15_init_2 13 rfl rfl)
theorem dX15_init_63 : decode cX15_init 63 = .ok (.putfield 41, 3) := dk_181 0 41 (dk_at dksX15_init_2 15 rfl rfl)
theorem dX15_init_66 : decode cX15_init 66 = .ok (.return_, 1) := dk_177 (dk_at dksX15_init_2 18 rfl rfl)
abbrev cX15_set : ByteArray := prog_23_method_2_code
def yX15_set : MethodName := ⟨RX15, "set", "(LGoodHalfEmpty$Town;)V"⟩
def dkwX15_set_5 : List UInt8 := [3, 16, 8, 184, 0, 59, 177]
abbrev dktX15_set_5 : List UInt8 := dkwX15_set_5 ++ []
def dkwX15_set_4 : List UInt8 := [43, 180, 0, 31, 3, 42, 180, 0, 31, 3, 16, 6, 184, 0, 59, 43, 180, 0, 34, 3, 42, 180, 0, 34]
abbrev dktX15_set_4 : List UInt8 := dkwX15_set_4 ++ dktX15_set_5
def dkwX15_set_3 : List UInt8 := [180, 0, 23, 3, 16, 6, 184, 0, 59, 43, 180, 0, 27, 3, 42, 180, 0, 27, 3, 16, 6, 184, 0, 59]
abbrev dktX15_set_3 : List UInt8 := dkwX15_set_3 ++ dktX15_set_4
def dkwX15_set_2 : List UInt8 := [43, 180, 0, 17, 3, 42, 180, 0, 17, 3, 42, 180, 0, 17, 190, 184, 0, 59, 43, 180, 0, 23, 3, 42]
abbrev dktX15_set_2 : List UInt8 := dkwX15_set_2 ++ dktX15_set_3
def dkwX15_set_1 : List UInt8 := [42, 43, 180, 0, 50, 181, 0, 50, 42, 43, 180, 0, 53, 181, 0, 53, 42, 43, 180, 0, 56, 181, 0, 56]
abbrev dktX15_set_1 : List UInt8 := dkwX15_set_1 ++ dktX15_set_2
def dkwX15_set_0 : List UInt8 := [42, 43, 180, 0, 9, 181, 0, 9, 42, 43, 180, 0, 44, 181, 0, 44, 42, 43, 180, 0, 47, 181, 0, 47]
abbrev dktX15_set_0 : List UInt8 := dkwX15_set_0 ++ dktX15_set_1
theorem dksX15_set_0 : cX15_set.data.toList.drop 0 = dktX15_set_0 := by decide +kernel
theorem dksX15_set_1 : cX15_set.data.toList.drop 24 = dktX15_set_1 := dk_seg dksX15_set_0 24 rfl rfl
theorem dksX15_set_2 : cX15_set.data.toList.drop 48 = dktX15_set_2 := dk_seg dksX15_set_1 24 rfl rfl
theorem dksX15_set_3 : cX15_set.data.toList.drop 72 = dktX15_set_3 := dk_seg dksX15_set_2 24 rfl rfl
theorem dksX15_set_4 : cX15_set.data.toList.drop 96 = dktX15_set_4 := dk_seg dksX15_set_3 24 rfl rfl
theorem dksX15_set_5 : cX15_set.data.toList.drop 120 = dktX15_set_5 := dk_seg dksX15_set_4 24 rfl rfl
theorem dX15_set_0 : decode cX15_set 0 = .ok (.aload_n 0, 1) := dk_42 (dk_at dksX15_set_0 0 rfl rfl)
theorem dX15_set_1 : decode cX15_set 1 = .ok (.aload_n 1, 1) := dk_43 (dk_at dksX15_set_0 1 rfl rfl)
theorem dX15_set_2 : decode cX15_set 2 = .ok (.getfield 9, 3) := dk_180 0 9 (dk_at dksX15_set_0 2 rfl rfl)
theorem dX15_set_5 : decode cX15_set 5 = .ok (.putfield 9, 3) := dk_181 0 9 (dk_at dksX15_set_0 5 rfl rfl)
theorem dX15_set_8 : decode cX15_set 8 = .ok (.aload_n 0, 1) := dk_42 (dk_at dksX15_set_0 8 rfl rfl)
theorem dX15_set_9 : decode cX15_set 9 = .ok (.aload_n 1, 1) := dk_43 (dk_at dksX15_set_0 9 rfl rfl)
theorem dX15_set_10 : decode cX15_set 10 = .ok (.getfield 44, 3) := dk_180 0 44 (dk_at dksX15_set_0 10 rfl rfl)
theorem dX15_set_13 : decode cX15_set 13 = .ok (.putfield 44, 3) := dk_181 0 44 (dk_at dksX15_set_0 13 rfl rfl)
theorem dX15_set_16 : decode cX15_set 16 = .ok (.aload_n 0, 1) := dk_42 (dk_at dksX15_set_0 16 rfl rfl)
theorem dX15_set_17 : decode cX15_set 17 = .ok (.aload_n 1, 1) := dk_43 (dk_at dksX15_set_0 17 rfl rfl)
theorem dX15_set_18 : decode cX15_set 18 = .ok (.getfield 47, 3) := dk_180 0 47 (dk_at dksX15_set_0 18 rfl rfl)
theorem dX15_set_21 : decode cX15_set 21 = .ok (.putfield 47, 3) := dk_181 0 47 (dk_at dksX15_set_0 21 rfl rfl)
theorem dX15_set_24 : decode cX15_set 24 = .ok (.aload_n 0, 1) := dk_42 (dk_at dksX15_set_1 0 rfl rfl)
theorem dX15_set_25 : decode cX15_set 25 = .ok (.aload_n 1, 1) := dk_43 (dk_at dksX15_set_1 1 rfl rfl)
theorem dX15_set_26 : decode cX15_set 26 = .ok (.getfield 50, 3) := dk_180 0 50 (dk_at dksX15_set_1 2 rfl rfl)
theorem dX15_set_29 : decode cX15_set 29 = .ok (.putfield 50, 3) := dk_181 0 50 (dk_at dksX15_set_1 5 rfl rfl)
theorem dX15_set_32 : decode cX15_set 32 = .ok (.aload_n 0, 1) := dk_42 (dk_at dksX15_set_1 8 rfl rfl)
theorem dX15_set_33 : decode cX15_set 33 = .ok (.aload_n 1, 1) := dk_43 (dk_at dksX15_set_1 9 rfl rfl)
theorem dX15_set_34 : decode cX15_set 34 = .ok (.getfield 53, 3) := dk_180 0 53 (dk_at dksX15_set_1 10 rfl rfl)
theorem dX15_set_37 : decode cX15_set 37 = .ok (.putfield 53, 3) := dk_181 0 53 (dk_at dksX15_set_1 13 rfl rfl)
theorem dX15_set_40 : decode cX15_set 40 = .ok (.aload_n 0, 1) := dk_42 (dk_at dksX15_set_1 16 rfl rfl)
theorem dX15_set_41 : decode cX15_set 41 = .ok (.aload_n 1, 1) := dk_43 (dk_at dksX15_set_1 17 rfl rfl)
theorem dX15_set_42 : decode cX15_set 42 = .ok (.getfield 56, 3) := dk_180 0 56 (dk_at dksX15_set_1 18 rfl rfl)
theorem dX15_set_45 : decode cX15_set 45 = .ok (.putfield 56, 3) := dk_181 0 56 (dk_at dksX15_set_1 21 rfl rfl)
theorem dX15_set_48 : decode cX15_set 48 = .ok (.aload_n 1, 1) := dk_43 (dk_at dksX15_set_2 0 rfl rfl)
theorem dX15_set_49 : decode cX15_set 49 = .ok (.getfield 17, 3) := dk_180 0 17 (dk_at dksX15_set_2 1 rfl rfl)
theorem dX15_set_52 : decode cX15_set 52 = .ok (.iconst 0, 1) := dk_3 (dk_at dksX15_set_2 4 rfl rfl)
theorem dX15_set_53 : decode cX15_set 53 = .ok (.aload_n 0, 1) := dk_42 (dk_at dksX15_set_2 5 rfl rfl)
theorem dX15_set_54 : decode cX15_set 54 = .ok (.getfield 17, 3) := dk_180 0 17 (dk_at dksX15_set_2 6 rfl rfl)
theorem dX15_set_57 : decode cX15_set 57 = .ok (.iconst 0, 1) := dk_3 (dk_at dksX15_set_2 9 rfl rfl)
theorem dX15_set_58 : decode cX15_set 58 = .ok (.aload_n 0, 1) := dk_42 (dk_at dksX15_set_2 10 rfl rfl)
theorem dX15_set_59 : decode cX15_set 59 = .ok (.getfield 17, 3) := dk_180 0 17 (dk_at dksX15_set_2 11 rfl rfl)
theorem dX15_set_62 : decode cX15_set 62 = .ok (.arraylength, 1) := dk_190 (dk_at dksX15_set_2 14 rfl rfl)
theorem dX15_set_63 : decode cX15_set 63 = .ok (.invokestatic 59, 3) := dk_184 0 59 (dk_at dksX15_set_2 15 rfl rfl)
theorem dX15_set_66 : decode cX15_set 66 = .ok (.aload_n 1, 1) := dk_43 (dk_at dksX15_set_2 18 rfl rfl)
theorem dX15_set_67 : decode cX15_set 67 = .ok (.getfield 23, 3) := dk_180 0 23 (dk_at dksX15_set_2 19 rfl rfl)
theorem dX15_set_70 : decode cX15_set 70 = .ok (.iconst 0, 1) := dk_3 (dk_at dksX15_set_2 22 rfl rfl)
theorem dX15_set_71 : decode cX15_set 71 = .ok (.aload_n 0, 1) := dk_42 (dk_at dksX15_set_2 23 rfl rfl)
theorem dX15_set_72 : decode cX15_set 72 = .ok (.getfield 23, 3) := dk_180 0 23 (dk_at dksX15_set_3 0 rfl rfl)
theorem dX15_set_75 : decode cX15_set 75 = .ok (.iconst 0, 1) := dk_3 (dk_at dksX15_set_3 3 rfl rfl)
theorem dX15_set_76 : decode cX15_set 76 = .ok (.bipush 6, 2) := dk_16 6 (dk_at dksX15_set_3 4 rfl rfl)
theorem dX15_set_78 : decode cX15_set 78 = .ok (.invokestatic 59, 3) := dk_184 0 59 (dk_at dksX15_set_3 6 rfl rfl)
theorem dX15_set_81 : decode cX15_set 81 = .ok (.aload_n 1, 1) := dk_43 (dk_at dksX15_set_3 9 rfl rfl)
theorem dX15_set_82 : decode cX15_set 82 = .ok (.getfield 27, 3) := dk_180 0 27 (dk_at dksX15_set_3 10 rfl rfl)
theorem dX15_set_85 : decode cX15_set 85 = .ok (.iconst 0, 1) := dk_3 (dk_at dksX15_set_3 13 rfl rfl)
theorem dX15_set_86 : decode cX15_set 86 = .ok (.aload_n 0, 1) := dk_42 (dk_at dksX15_set_3 14 rfl rfl)
theorem dX15_set_87 : decode cX15_set 87 = .ok (.getfield 27, 3) := dk_180 0 27 (dk_at dksX15_set_3 15 rfl rfl)
theorem dX15_set_90 : decode cX15_set 90 = .ok (.iconst 0, 1) := dk_3 (dk_at dksX15_set_3 18 rfl rfl)
theorem dX15_set_91 : decode cX15_set 91 = .ok (.bipush 6, 2) := dk_16 6 (dk_at dksX15_set_3 19 rfl rfl)
theorem dX15_set_93 : decode cX15_set 93 = .ok (.invokestatic 59, 3) := dk_184 0 59 (dk_at dksX15_set_3 21 rfl rfl)
theorem dX15_set_96 : decode cX15_set 96 = .ok (.aload_n 1, 1) := dk_43 (dk_at dksX15_set_4 0 rfl rfl)
theorem dX15_set_97 : decode cX15_set 97 = .ok (.getfield 31, 3) := dk_180 0 31 (dk_at dksX15_set_4 1 rfl rfl)
theorem dX15_set_100 : decode cX15_set 100 = .ok (.iconst 0, 1) := dk_3 (dk_at dksX15_set_4 4 rfl rfl)
theorem dX15_set_101 : decode cX15_set 101 = .ok (.aload_n 0, 1) := dk_42 (dk_at dksX15_set_4 5 rfl rfl)
theorem dX15_set_102 : decode cX15_set 102 = .ok (.getfield 31, 3) := dk_180 0 31 (dk_at dksX15_set_4 6 rfl rfl)
theorem dX15_set_105 : decode cX15_set 105 = .ok (.iconst 0, 1) := dk_3 (dk_at dksX15_set_4 9 rfl rfl)
theorem dX15_set_106 : decode cX15_set 106 = .ok (.bipush 6, 2) := dk_16 6 (dk_at dksX15_set_4 10 rfl rfl)
theorem dX15_set_108 : decode cX15_set 108 = .ok (.invokestatic 59, 3) := dk_184 0 59 (dk_at dksX15_set_4 12 rfl rfl)
theorem dX15_set_111 : decode cX15_set 111 = .ok (.aload_n 1, 1) := dk_43 (dk_at dksX15_set_4 15 rfl rfl)
theorem dX15_set_112 : decode cX15_set 112 = .ok (.getfield 34, 3) := dk_180 0 34 (dk_at dksX15_set_4 16 rfl rfl)
theorem dX15_set_115 : decode cX15_set 115 = .ok (.iconst 0, 1) := dk_3 (dk_at dksX15_set_4 19 rfl rfl)
theorem dX15_set_116 : decode cX15_set 116 = .ok (.aload_n 0, 1) := dk_42 (dk_at dksX15_set_4 20 rfl rfl)
theorem dX15_set_117 : decode cX15_set 117 = .ok (.getfield 34, 3) := dk_180 0 34 (dk_at dksX15_set_4 21 rfl rfl)
theorem dX15_set_120 : decode cX15_set 120 = .ok (.iconst 0, 1) := dk_3 (dk_at dksX15_set_5 0 rfl rfl)
theorem dX15_set_121 : decode cX15_set 121 = .ok (.bipush 8, 2) := dk_16 8 (dk_at dksX15_set_5 1 rfl rfl)
theorem dX15_set_123 : decode cX15_set 123 = .ok (.invokestatic 59, 3) := dk_184 0 59 (dk_at dksX15_set_5 3 rfl rfl)
theorem dX15_set_126 : decode cX15_set 126 = .ok (.return_, 1) := dk_177 (dk_at dksX15_set_5 6 rfl rfl)
abbrev cX15_remember : ByteArray := prog_23_method_6_code
def yX15_remember : MethodName := ⟨RX15, "remember", "(I)V"⟩
def dkwX15_remember_2 : List UInt8 := [181, 0, 50, 177]
abbrev dktX15_remember_2 : List UInt8 := dkwX15_remember_2 ++ []
def dkwX15_remember_1 : List UInt8 := [167, 255, 235, 42, 180, 0, 34, 3, 27, 79, 42, 16, 8, 42, 180, 0, 50, 4, 96, 184, 0, 72]
abbrev dktX15_remember_1 : List UInt8 := dkwX15_remember_1 ++ dktX15_remember_2
def dkwX15_remember_0 : List UInt8 := [16, 7, 61, 28, 158, 0, 23, 42, 180, 0, 34, 28, 42, 180, 0, 34, 28, 4, 100, 46, 79, 132, 2, 255]
abbrev dktX15_remember_0 : List UInt8 := dkwX15_remember_0 ++ dktX15_remember_1
theorem dksX15_remember_0 : cX15_remember.data.toList.drop 0 = dktX15_remember_0 := by decide +kernel
theorem dksX15_remember_1 : cX15_remember.data.toList.drop 24 = dktX15_remember_1 := dk_seg dksX15_remember_0 24 rfl rfl
theorem dksX15_remember_2 : cX15_remember.data.toList.drop 46 = dktX15_remember_2 := dk_seg dksX15_remember_1 22 rfl rfl
theorem dX15_remember_0 : decode cX15_remember 0 = .ok (.bipush 7, 2) := dk_16 7 (dk_at dksX15_remember_0 0 rfl rfl)
theorem dX15_remember_2 : decode cX15_remember 2 = .ok (.istore_n 2, 1) := dk_61 (dk_at dksX15_remember_0 2 rfl rfl)
theorem dX15_remember_3 : decode cX15_remember 3 = .ok (.iload_n 2, 1) := dk_28 (dk_at dksX15_remember_0 3 rfl rfl)
theorem dX15_remember_4 : decode cX15_remember 4 = .ok (.ifCond .le 23, 3) := dk_158 0 23 (dk_at dksX15_remember_0 4 rfl rfl)
theorem dX15_remember_7 : decode cX15_remember 7 = .ok (.aload_n 0, 1) := dk_42 (dk_at dksX15_remember_0 7 rfl rfl)
theorem dX15_remember_8 : decode cX15_remember 8 = .ok (.getfield 34, 3) := dk_180 0 34 (dk_at dksX15_remember_0 8 rfl rfl)
theorem dX15_remember_11 : decode cX15_remember 11 = .ok (.iload_n 2, 1) := dk_28 (dk_at dksX15_remember_0 11 rfl rfl)
theorem dX15_remember_12 : decode cX15_remember 12 = .ok (.aload_n 0, 1) := dk_42 (dk_at dksX15_remember_0 12 rfl rfl)
theorem dX15_remember_13 : decode cX15_remember 13 = .ok (.getfield 34, 3) := dk_180 0 34 (dk_at dksX15_remember_0 13 rfl rfl)
theorem dX15_remember_16 : decode cX15_remember 16 = .ok (.iload_n 2, 1) := dk_28 (dk_at dksX15_remember_0 16 rfl rfl)
theorem dX15_remember_17 : decode cX15_remember 17 = .ok (.iconst 1, 1) := dk_4 (dk_at dksX15_remember_0 17 rfl rfl)
theorem dX15_remember_18 : decode cX15_remember 18 = .ok (.isub, 1) := dk_100 (dk_at dksX15_remember_0 18 rfl rfl)
theorem dX15_remember_19 : decode cX15_remember 19 = .ok (.iaload, 1) := dk_46 (dk_at dksX15_remember_0 19 rfl rfl)
theorem dX15_remember_20 : decode cX15_remember 20 = .ok (.iastore, 1) := dk_79 (dk_at dksX15_remember_0 20 rfl rfl)
theorem dX15_remember_21 : decode cX15_remember 21 = .ok (.iinc 2 (-1), 3) := dk_132 2 255 (dk_at dksX15_remember_0 21 rfl rfl)
theorem dX15_remember_24 : decode cX15_remember 24 = .ok (.goto (-21), 3) := dk_167 255 235 (dk_at dksX15_remember_1 0 rfl rfl)
theorem dX15_remember_27 : decode cX15_remember 27 = .ok (.aload_n 0, 1) := dk_42 (dk_at dksX15_remember_1 3 rfl rfl)
theorem dX15_remember_28 : decode cX15_remember 28 = .ok (.getfield 34, 3) := dk_180 0 34 (dk_at dksX15_remember_1 4 rfl rfl)
theorem dX15_remember_31 : decode cX15_remember 31 = .ok (.iconst 0, 1) := dk_3 (dk_at dksX15_remember_1 7 rfl rfl)
theorem dX15_remember_32 : decode cX15_remember 32 = .ok (.iload_n 1, 1) := dk_27 (dk_at dksX15_remember_1 8 rfl rfl)
theorem dX15_remember_33 : decode cX15_remember 33 = .ok (.iastore, 1) := dk_79 (dk_at dksX15_remember_1 9 rfl rfl)
theorem dX15_remember_34 : decode cX15_remember 34 = .ok (.aload_n 0, 1) := dk_42 (dk_at dksX15_remember_1 10 rfl rfl)
theorem dX15_remember_35 : decode cX15_remember 35 = .ok (.bipush 8, 2) := dk_16 8 (dk_at dksX15_remember_1 11 rfl rfl)
theorem dX15_remember_37 : decode cX15_remember 37 = .ok (.aload_n 0, 1) := dk_42 (dk_at dksX15_remember_1 13 rfl rfl)
theorem dX15_remember_38 : decode cX15_remember 38 = .ok (.getfield 50, 3) := dk_180 0 50 (dk_at dksX15_remember_1 14 rfl rfl)
theorem dX15_remember_41 : decode cX15_remember 41 = .ok (.iconst 1, 1) := dk_4 (dk_at dksX15_remember_1 17 rfl rfl)
theorem dX15_remember_42 : decode cX15_remember 42 = .ok (.iadd, 1) := dk_96 (dk_at dksX15_remember_1 18 rfl rfl)
theorem dX15_remember_43 : decode cX15_remember 43 = .ok (.invokestatic 72, 3) := dk_184 0 72 (dk_at dksX15_remember_1 19 rfl rfl)
theorem dX15_remember_46 : decode cX15_remember 46 = .ok (.putfield 50, 3) := dk_181 0 50 (dk_at dksX15_remember_2 0 rfl rfl)
theorem dX15_remember_49 : decode cX15_remember 49 = .ok (.return_, 1) := dk_177 (dk_at dksX15_remember_2 3 rfl rfl)
abbrev cX15_foretold : ByteArray := prog_23_method_5_code
def yX15_foretold : MethodName := ⟨RX15, "foretold", "(I)I"⟩
def dkwX15_foretold_0 : List UInt8 := [42, 180, 0, 23, 27, 50, 42, 42, 180, 0, 27, 27, 46, 182, 0, 68, 172]
abbrev dktX15_foretold_0 : List UInt8 := dkwX15_foretold_0 ++ []
theorem dksX15_foretold_0 : cX15_foretold.data.toList.drop 0 = dktX15_foretold_0 := by decide +kernel
theorem dX15_foretold_0 : decode cX15_foretold 0 = .ok (.aload_n 0, 1) := dk_42 (dk_at dksX15_foretold_0 0 rfl rfl)
theorem dX15_foretold_1 : decode cX15_foretold 1 = .ok (.getfield 23, 3) := dk_180 0 23 (dk_at dksX15_foretold_0 1 rfl rfl)
theorem dX15_foretold_4 : decode cX15_foretold 4 = .ok (.iload_n 1, 1) := dk_27 (dk_at dksX15_foretold_0 4 rfl rfl)
theorem dX15_foretold_5 : decode cX15_foretold 5 = .ok (.aaload, 1) := dk_50 (dk_at dksX15_foretold_0 5 rfl rfl)
theorem dX15_foretold_6 : decode cX15_foretold 6 = .ok (.aload_n 0, 1) := dk_42 (dk_at dksX15_foretold_0 6 rfl rfl)
theorem dX15_foretold_7 : decode cX15_foretold 7 = .ok (.aload_n 0, 1) := dk_42 (dk_at dksX15_foretold_0 7 rfl rfl)
theorem dX15_foretold_8 : decode cX15_foretold 8 = .ok (.getfield 27, 3) := dk_180 0 27 (dk_at dksX15_foretold_0 8 rfl rfl)
theorem dX15_foretold_11 : decode cX15_foretold 11 = .ok (.iload_n 1, 1) := dk_27 (dk_at dksX15_foretold_0 11 rfl rfl)
theorem dX15_foretold_12 : decode cX15_foretold 12 = .ok (.iaload, 1) := dk_46 (dk_at dksX15_foretold_0 12 rfl rfl)
theorem dX15_foretold_13 : decode cX15_foretold 13 = .ok (.invokevirtual 68, 3) := dk_182 0 68 (dk_at dksX15_foretold_0 13 rfl rfl)
theorem dX15_foretold_16 : decode cX15_foretold 16 = .ok (.ireturn, 1) := dk_172 (dk_at dksX15_foretold_0 16 rfl rfl)
abbrev cX15_ago : ByteArray := prog_23_method_4_code
def yX15_ago : MethodName := ⟨RX15, "ago", "(I)I"⟩
def dkwX15_ago_0 : List UInt8 := [27, 42, 180, 0, 50, 163, 0, 14, 42, 180, 0, 34, 27, 4, 100, 46, 167, 0, 7, 42, 180, 0, 9, 172]
abbrev dktX15_ago_0 : List UInt8 := dkwX15_ago_0 ++ []
theorem dksX15_ago_0 : cX15_ago.data.toList.drop 0 = dktX15_ago_0 := by decide +kernel
theorem dX15_ago_0 : decode cX15_ago 0 = .ok (.iload_n 1, 1) := dk_27 (dk_at dksX15_ago_0 0 rfl rfl)
theorem dX15_ago_1 : decode cX15_ago 1 = .ok (.aload_n 0, 1) := dk_42 (dk_at dksX15_ago_0 1 rfl rfl)
theorem dX15_ago_2 : decode cX15_ago 2 = .ok (.getfield 50, 3) := dk_180 0 50 (dk_at dksX15_ago_0 2 rfl rfl)
theorem dX15_ago_5 : decode cX15_ago 5 = .ok (.if_icmp .gt 14, 3) := dk_163 0 14 (dk_at dksX15_ago_0 5 rfl rfl)
theorem dX15_ago_8 : decode cX15_ago 8 = .ok (.aload_n 0, 1) := dk_42 (dk_at dksX15_ago_0 8 rfl rfl)
theorem dX15_ago_9 : decode cX15_ago 9 = .ok (.getfield 34, 3) := dk_180 0 34 (dk_at dksX15_ago_0 9 rfl rfl)
theorem dX15_ago_12 : decode cX15_ago 12 = .ok (.iload_n 1, 1) := dk_27 (dk_at dksX15_ago_0 12 rfl rfl)
theorem dX15_ago_13 : decode cX15_ago 13 = .ok (.iconst 1, 1) := dk_4 (dk_at dksX15_ago_0 13 rfl rfl)
theorem dX15_ago_14 : decode cX15_ago 14 = .ok (.isub, 1) := dk_100 (dk_at dksX15_ago_0 14 rfl rfl)
theorem dX15_ago_15 : decode cX15_ago 15 = .ok (.iaload, 1) := dk_46 (dk_at dksX15_ago_0 15 rfl rfl)
theorem dX15_ago_16 : decode cX15_ago 16 = .ok (.goto 7, 3) := dk_167 0 7 (dk_at dksX15_ago_0 16 rfl rfl)
theorem dX15_ago_19 : decode cX15_ago 19 = .ok (.aload_n 0, 1) := dk_42 (dk_at dksX15_ago_0 19 rfl rfl)
theorem dX15_ago_20 : decode cX15_ago 20 = .ok (.getfield 9, 3) := dk_180 0 9 (dk_at dksX15_ago_0 20 rfl rfl)
theorem dX15_ago_23 : decode cX15_ago 23 = .ok (.ireturn, 1) := dk_172 (dk_at dksX15_ago_0 23 rfl rfl)
abbrev cX15_people : ByteArray := prog_23_method_3_code
def yX15_people : MethodName := ⟨RX15, "people", "()I"⟩
def dkwX15_people_1 : List UInt8 := [132, 2, 1, 167, 255, 233, 27, 172]
abbrev dktX15_people_1 : List UInt8 := dkwX15_people_1 ++ []
def dkwX15_people_0 : List UInt8 := [3, 60, 3, 61, 28, 42, 180, 0, 44, 162, 0, 21, 27, 42, 180, 0, 17, 28, 50, 180, 0, 65, 96, 60]
abbrev dktX15_people_0 : List UInt8 := dkwX15_people_0 ++ dktX15_people_1
theorem dksX15_people_0 : cX15_people.data.toList.drop 0 = dktX15_people_0 := by decide +kernel
theorem dksX15_people_1 : cX15_people.data.toList.drop 24 = dktX15_people_1 := dk_seg dksX15_people_0 24 rfl rfl
theorem dX15_people_0 : decode cX15_people 0 = .ok (.iconst 0, 1) := dk_3 (dk_at dksX15_people_0 0 rfl rfl)
theorem dX15_people_1 : decode cX15_people 1 = .ok (.istore_n 1, 1) := dk_60 (dk_at dksX15_people_0 1 rfl rfl)
theorem dX15_people_2 : decode cX15_people 2 = .ok (.iconst 0, 1) := dk_3 (dk_at dksX15_people_0 2 rfl rfl)
theorem dX15_people_3 : decode cX15_people 3 = .ok (.istore_n 2, 1) := dk_61 (dk_at dksX15_people_0 3 rfl rfl)
theorem dX15_people_4 : decode cX15_people 4 = .ok (.iload_n 2, 1) := dk_28 (dk_at dksX15_people_0 4 rfl rfl)
theorem dX15_people_5 : decode cX15_people 5 = .ok (.aload_n 0, 1) := dk_42 (dk_at dksX15_people_0 5 rfl rfl)
theorem dX15_people_6 : decode cX15_people 6 = .ok (.getfield 44, 3) := dk_180 0 44 (dk_at dksX15_people_0 6 rfl rfl)
theorem dX15_people_9 : decode cX15_people 9 = .ok (.if_icmp .ge 21, 3) := dk_162 0 21 (dk_at dksX15_people_0 9 rfl rfl)
theorem dX15_people_12 : decode cX15_people 12 = .ok (.iload_n 1, 1) := dk_27 (dk_at dksX15_people_0 12 rfl rfl)
theorem dX15_people_13 : decode cX15_people 13 = .ok (.aload_n 0, 1) := dk_42 (dk_at dksX15_people_0 13 rfl rfl)
theorem dX15_people_14 : decode cX15_people 14 = .ok (.getfield 17, 3) := dk_180 0 17 (dk_at dksX15_people_0 14 rfl rfl)
theorem dX15_people_17 : decode cX15_people 17 = .ok (.iload_n 2, 1) := dk_28 (dk_at dksX15_people_0 17 rfl rfl)
theorem dX15_people_18 : decode cX15_people 18 = .ok (.aaload, 1) := dk_50 (dk_at dksX15_people_0 18 rfl rfl)
theorem dX15_people_19 : decode cX15_people 19 = .ok (.getfield 65, 3) := dk_180 0 65 (dk_at dksX15_people_0 19 rfl rfl)
theorem dX15_people_22 : decode cX15_people 22 = .ok (.iadd, 1) := dk_96 (dk_at dksX15_people_0 22 rfl rfl)
theorem dX15_people_23 : decode cX15_people 23 = .ok (.istore_n 1, 1) := dk_60 (dk_at dksX15_people_0 23 rfl rfl)
theorem dX15_people_24 : decode cX15_people 24 = .ok (.iinc 2 1, 3) := dk_132 2 1 (dk_at dksX15_people_1 0 rfl rfl)
theorem dX15_people_27 : decode cX15_people 27 = .ok (.goto (-23), 3) := dk_167 255 233 (dk_at dksX15_people_1 3 rfl rfl)
theorem dX15_people_30 : decode cX15_people 30 = .ok (.iload_n 1, 1) := dk_27 (dk_at dksX15_people_1 6 rfl rfl)
theorem dX15_people_31 : decode cX15_people 31 = .ok (.ireturn, 1) := dk_172 (dk_at dksX15_people_1 7 rfl rfl)
abbrev cX15_week : ByteArray := prog_23_method_9_code
def yX15_week : MethodName := ⟨RX15, "week", "()I"⟩
def dkwX15_week_4 : List UInt8 := [42, 27, 182, 0, 106, 42, 89, 180, 0, 53, 4, 96, 181, 0, 53, 27, 172]
abbrev dktX15_week_4 : List UInt8 := dkwX15_week_4 ++ []
def dkwX15_week_3 : List UInt8 := [163, 0, 7, 4, 167, 0, 4, 3, 160, 0, 7, 4, 167, 0, 4, 3, 96, 79, 132, 2, 1, 167, 255, 197]
abbrev dktX15_week_3 : List UInt8 := dkwX15_week_3 ++ dktX15_week_4
def dkwX15_week_2 : List UInt8 := [46, 42, 180, 0, 41, 28, 46, 42, 180, 0, 9, 163, 0, 7, 4, 167, 0, 4, 3, 27, 42, 180, 0, 9]
abbrev dktX15_week_2 : List UInt8 := dkwX15_week_2 ++ dktX15_week_3
def dkwX15_week_1 : List UInt8 := [167, 255, 234, 42, 182, 0, 102, 60, 3, 61, 28, 42, 180, 0, 47, 162, 0, 57, 42, 180, 0, 31, 28, 92]
abbrev dktX15_week_1 : List UInt8 := dkwX15_week_1 ++ dktX15_week_2
def dkwX15_week_0 : List UInt8 := [3, 60, 27, 42, 180, 0, 47, 162, 0, 20, 42, 180, 0, 41, 27, 42, 27, 182, 0, 99, 79, 132, 1, 1]
abbrev dktX15_week_0 : List UInt8 := dkwX15_week_0 ++ dktX15_week_1
theorem dksX15_week_0 : cX15_week.data.toList.drop 0 = dktX15_week_0 := by decide +kernel
theorem dksX15_week_1 : cX15_week.data.toList.drop 24 = dktX15_week_1 := dk_seg dksX15_week_0 24 rfl rfl
theorem dksX15_week_2 : cX15_week.data.toList.drop 48 = dktX15_week_2 := dk_seg dksX15_week_1 24 rfl rfl
theorem dksX15_week_3 : cX15_week.data.toList.drop 72 = dktX15_week_3 := dk_seg dksX15_week_2 24 rfl rfl
theorem dksX15_week_4 : cX15_week.data.toList.drop 96 = dktX15_week_4 := dk_seg dksX15_week_3 24 rfl rfl
theorem dX15_week_0 : decode cX15_week 0 = .ok (.iconst 0, 1) := dk_3 (dk_at dksX15_week_0 0 rfl rfl)
theorem dX15_week_1 : decode cX15_week 1 = .ok (.istore_n 1, 1) := dk_60 (dk_at dksX15_week_0 1 rfl rfl)
theorem dX15_week_2 : decode cX15_week 2 = .ok (.iload_n 1, 1) := dk_27 (dk_at dksX15_week_0 2 rfl rfl)
theorem dX15_week_3 : decode cX15_week 3 = .ok (.aload_n 0, 1) := dk_42 (dk_at dksX15_week_0 3 rfl rfl)
theorem dX15_week_4 : decode cX15_week 4 = .ok (.getfield 47, 3) := dk_180 0 47 (dk_at dksX15_week_0 4 rfl rfl)
theorem dX15_week_7 : decode cX15_week 7 = .ok (.if_icmp .ge 20, 3) := dk_162 0 20 (dk_at dksX15_week_0 7 rfl rfl)
theorem dX15_week_10 : decode cX15_week 10 = .ok (.aload_n 0, 1) := dk_42 (dk_at dksX15_week_0 10 rfl rfl)
theorem dX15_week_11 : decode cX15_week 11 = .ok (.getfield 41, 3) := dk_180 0 41 (dk_at dksX15_week_0 11 rfl rfl)
theorem dX15_week_14 : decode cX15_week 14 = .ok (.iload_n 1, 1) := dk_27 (dk_at dksX15_week_0 14 rfl rfl)
theorem dX15_week_15 : decode cX15_week 15 = .ok (.aload_n 0, 1) := dk_42 (dk_at dksX15_week_0 15 rfl rfl)
theorem dX15_week_16 : decode cX15_week 16 = .ok (.iload_n 1, 1) := dk_27 (dk_at dksX15_week_0 16 rfl rfl)
theorem dX15_week_17 : decode cX15_week 17 = .ok (.invokevirtual 99, 3) := dk_182 0 99 (dk_at dksX15_week_0 17 rfl rfl)
theorem dX15_week_20 : decode cX15_week 20 = .ok (.iastore, 1) := dk_79 (dk_at dksX15_week_0 20 rfl rfl)
theorem dX15_week_21 : decode cX15_week 21 = .ok (.iinc 1 1, 3) := dk_132 1 1 (dk_at dksX15_week_0 21 rfl rfl)
theorem dX15_week_24 : decode cX15_week 24 = .ok (.goto (-22), 3) := dk_167 255 234 (dk_at dksX15_week_1 0 rfl rfl)
theorem dX15_week_27 : decode cX15_week 27 = .ok (.aload_n 0, 1) := dk_42 (dk_at dksX15_week_1 3 rfl rfl)
theorem dX15_week_28 : decode cX15_week 28 = .ok (.invokevirtual 102, 3) := dk_182 0 102 (dk_at dksX15_week_1 4 rfl rfl)
theorem dX15_week_31 : decode cX15_week 31 = .ok (.istore_n 1, 1) := dk_60 (dk_at dksX15_week_1 7 rfl rfl)
theorem dX15_week_32 : decode cX15_week 32 = .ok (.iconst 0, 1) := dk_3 (dk_at dksX15_week_1 8 rfl rfl)
theorem dX15_week_33 : decode cX15_week 33 = .ok (.istore_n 2, 1) := dk_61 (dk_at dksX15_week_1 9 rfl rfl)
theorem dX15_week_34 : decode cX15_week 34 = .ok (.iload_n 2, 1) := dk_28 (dk_at dksX15_week_1 10 rfl rfl)
theorem dX15_week_35 : decode cX15_week 35 = .ok (.aload_n 0, 1) := dk_42 (dk_at dksX15_week_1 11 rfl rfl)
theorem dX15_week_36 : decode cX15_week 36 = .ok (.getfield 47, 3) := dk_180 0 47 (dk_at dksX15_week_1 12 rfl rfl)
theorem dX15_week_39 : decode cX15_week 39 = .ok (.if_icmp .ge 57, 3) := dk_162 0 57 (dk_at dksX15_week_1 15 rfl rfl)
theorem dX15_week_42 : decode cX15_week 42 = .ok (.aload_n 0, 1) := dk_42 (dk_at dksX15_week_1 18 rfl rfl)
theorem dX15_week_43 : decode cX15_week 43 = .ok (.getfield 31, 3) := dk_180 0 31 (dk_at dksX15_week_1 19 rfl rfl)
theorem dX15_week_46 : decode cX15_week 46 = .ok (.iload_n 2, 1) := dk_28 (dk_at dksX15_week_1 22 rfl rfl)
theorem dX15_week_47 : decode cX15_week 47 = .ok (.dup2, 1) := dk_92 (dk_at dksX15_week_1 23 rfl rfl)
theorem dX15_week_48 : decode cX15_week 48 = .ok (.iaload, 1) := dk_46 (dk_at dksX15_week_2 0 rfl rfl)
theorem dX15_week_49 : decode cX15_week 49 = .ok (.aload_n 0, 1) := dk_42 (dk_at dksX15_week_2 1 rfl rfl)
theorem dX15_week_50 : decode cX15_week 50 = .ok (.getfield 41, 3) := dk_180 0 41 (dk_at dksX15_week_2 2 rfl rfl)
theorem dX15_week_53 : decode cX15_week 53 = .ok (.iload_n 2, 1) := dk_28 (dk_at dksX15_week_2 5 rfl rfl)
theorem dX15_week_54 : decode cX15_week 54 = .ok (.iaload, 1) := dk_46 (dk_at dksX15_week_2 6 rfl rfl)
theorem dX15_week_55 : decode cX15_week 55 = .ok (.aload_n 0, 1) := dk_42 (dk_at dksX15_week_2 7 rfl rfl)
theorem dX15_week_56 : decode cX15_week 56 = .ok (.getfield 9, 3) := dk_180 0 9 (dk_at dksX15_week_2 8 rfl rfl)
theorem dX15_week_59 : decode cX15_week 59 = .ok (.if_icmp .gt 7, 3) := dk_163 0 7 (dk_at dksX15_week_2 11 rfl rfl)
theorem dX15_week_62 : decode cX15_week 62 = .ok (.iconst 1, 1) := dk_4 (dk_at dksX15_week_2 14 rfl rfl)
theorem dX15_week_63 : decode cX15_week 63 = .ok (.goto 4, 3) := dk_167 0 4 (dk_at dksX15_week_2 15 rfl rfl)
theorem dX15_week_66 : decode cX15_week 66 = .ok (.iconst 0, 1) := dk_3 (dk_at dksX15_week_2 18 rfl rfl)
theorem dX15_week_67 : decode cX15_week 67 = .ok (.iload_n 1, 1) := dk_27 (dk_at dksX15_week_2 19 rfl rfl)
theorem dX15_week_68 : decode cX15_week 68 = .ok (.aload_n 0, 1) := dk_42 (dk_at dksX15_week_2 20 rfl rfl)
theorem dX15_week_69 : decode cX15_week 69 = .ok (.getfield 9, 3) := dk_180 0 9 (dk_at dksX15_week_2 21 rfl rfl)
theorem dX15_week_72 : decode cX15_week 72 = .ok (.if_icmp .gt 7, 3) := dk_163 0 7 (dk_at dksX15_week_3 0 rfl rfl)
theorem dX15_week_75 : decode cX15_week 75 = .ok (.iconst 1, 1) := dk_4 (dk_at dksX15_week_3 3 rfl rfl)
theorem dX15_week_76 : decode cX15_week 76 = .ok (.goto 4, 3) := dk_167 0 4 (dk_at dksX15_week_3 4 rfl rfl)
theorem dX15_week_79 : decode cX15_week 79 = .ok (.iconst 0, 1) := dk_3 (dk_at dksX15_week_3 7 rfl rfl)
theorem dX15_week_80 : decode cX15_week 80 = .ok (.if_icmp .ne 7, 3) := dk_160 0 7 (dk_at dksX15_week_3 8 rfl rfl)
theorem dX15_week_83 : decode cX15_week 83 = .ok (.iconst 1, 1) := dk_4 (dk_at dksX15_week_3 11 rfl rfl)
theorem dX15_week_84 : decode cX15_week 84 = .ok (.goto 4, 3) := dk_167 0 4 (dk_at dksX15_week_3 12 rfl rfl)
theorem dX15_week_87 : decode cX15_week 87 = .ok (.iconst 0, 1) := dk_3 (dk_at dksX15_week_3 15 rfl rfl)
theorem dX15_week_88 : decode cX15_week 88 = .ok (.iadd, 1) := dk_96 (dk_at dksX15_week_3 16 rfl rfl)
theorem dX15_week_89 : decode cX15_week 89 = .ok (.iastore, 1) := dk_79 (dk_at dksX15_week_3 17 rfl rfl)
theorem dX15_week_90 : decode cX15_week 90 = .ok (.iinc 2 1, 3) := dk_132 2 1 (dk_at dksX15_week_3 18 rfl rfl)
theorem dX15_week_93 : decode cX15_week 93 = .ok (.goto (-59), 3) := dk_167 255 197 (dk_at dksX15_week_3 21 rfl rfl)
theorem dX15_week_96 : decode cX15_week 96 = .ok (.aload_n 0, 1) := dk_42 (dk_at dksX15_week_4 0 rfl rfl)
theorem dX15_week_97 : decode cX15_week 97 = .ok (.iload_n 1, 1) := dk_27 (dk_at dksX15_week_4 1 rfl rfl)
theorem dX15_week_98 : decode cX15_week 98 = .ok (.invokevirtual 106, 3) := dk_182 0 106 (dk_at dksX15_week_4 2 rfl rfl)
theorem dX15_week_101 : decode cX15_week 101 = .ok (.aload_n 0, 1) := dk_42 (dk_at dksX15_week_4 5 rfl rfl)
theorem dX15_week_102 : decode cX15_week 102 = .ok (.dup, 1) := dk_89 (dk_at dksX15_week_4 6 rfl rfl)
theorem dX15_week_103 : decode cX15_week 103 = .ok (.getfield 53, 3) := dk_180 0 53 (dk_at dksX15_week_4 7 rfl rfl)
theorem dX15_week_106 : decode cX15_week 106 = .ok (.iconst 1, 1) := dk_4 (dk_at dksX15_week_4 10 rfl rfl)
theorem dX15_week_107 : decode cX15_week 107 = .ok (.iadd, 1) := dk_96 (dk_at dksX15_week_4 11 rfl rfl)
theorem dX15_week_108 : decode cX15_week 108 = .ok (.putfield 53, 3) := dk_181 0 53 (dk_at dksX15_week_4 12 rfl rfl)
theorem dX15_week_111 : decode cX15_week 111 = .ok (.iload_n 1, 1) := dk_27 (dk_at dksX15_week_4 15 rfl rfl)
theorem dX15_week_112 : decode cX15_week 112 = .ok (.ireturn, 1) := dk_172 (dk_at dksX15_week_4 16 rfl rfl)
abbrev cX15_askAll : ByteArray := prog_23_method_8_code
def yX15_askAll : MethodName := ⟨RX15, "askAll", "()I"⟩
def dkwX15_askAll_0 : List UInt8 := [42, 3, 181, 0, 92, 42, 3, 182, 0, 95, 42, 4, 182, 0, 95, 42, 180, 0, 92, 172]
abbrev dktX15_askAll_0 : List UInt8 := dkwX15_askAll_0 ++ []
theorem dksX15_askAll_0 : cX15_askAll.data.toList.drop 0 = dktX15_askAll_0 := by decide +kernel
theorem dX15_askAll_0 : decode cX15_askAll 0 = .ok (.aload_n 0, 1) := dk_42 (dk_at dksX15_askAll_0 0 rfl rfl)
theorem dX15_askAll_1 : decode cX15_askAll 1 = .ok (.iconst 0, 1) := dk_3 (dk_at dksX15_askAll_0 1 rfl rfl)
theorem dX15_askAll_2 : decode cX15_askAll 2 = .ok (.putfield 92, 3) := dk_181 0 92 (dk_at dksX15_askAll_0 2 rfl rfl)
theorem dX15_askAll_5 : decode cX15_askAll 5 = .ok (.aload_n 0, 1) := dk_42 (dk_at dksX15_askAll_0 5 rfl rfl)
theorem dX15_askAll_6 : decode cX15_askAll 6 = .ok (.iconst 0, 1) := dk_3 (dk_at dksX15_askAll_0 6 rfl rfl)
theorem dX15_askAll_7 : decode cX15_askAll 7 = .ok (.invokevirtual 95, 3) := dk_182 0 95 (dk_at dksX15_askAll_0 7 rfl rfl)
theorem dX15_askAll_10 : decode cX15_askAll 10 = .ok (.aload_n 0, 1) := dk_42 (dk_at dksX15_askAll_0 10 rfl rfl)
theorem dX15_askAll_11 : decode cX15_askAll 11 = .ok (.iconst 1, 1) := dk_4 (dk_at dksX15_askAll_0 11 rfl rfl)
theorem dX15_askAll_12 : decode cX15_askAll 12 = .ok (.invokevirtual 95, 3) := dk_182 0 95 (dk_at dksX15_askAll_0 12 rfl rfl)
theorem dX15_askAll_15 : decode cX15_askAll 15 = .ok (.aload_n 0, 1) := dk_42 (dk_at dksX15_askAll_0 15 rfl rfl)
theorem dX15_askAll_16 : decode cX15_askAll 16 = .ok (.getfield 92, 3) := dk_180 0 92 (dk_at dksX15_askAll_0 16 rfl rfl)
theorem dX15_askAll_19 : decode cX15_askAll 19 = .ok (.ireturn, 1) := dk_172 (dk_at dksX15_askAll_0 19 rfl rfl)
abbrev cX15_ask : ByteArray := prog_23_method_7_code
def yX15_ask : MethodName := ⟨RX15, "ask", "(Z)V"⟩
def dkwX15_ask_3 : List UInt8 := [180, 0, 65, 167, 0, 4, 3, 96, 181, 0, 92, 132, 2, 1, 167, 255, 173, 177]
abbrev dktX15_ask_3 : List UInt8 := dkwX15_ask_3 ++ []
def dkwX15_ask_2 : List UInt8 := [182, 0, 88, 84, 42, 89, 180, 0, 92, 42, 180, 0, 37, 28, 51, 153, 0, 15, 42, 180, 0, 17, 28, 50]
abbrev dktX15_ask_2 : List UInt8 := dkwX15_ask_2 ++ dktX15_ask_3
def dkwX15_ask_1 : List UInt8 := [160, 0, 59, 42, 180, 0, 37, 28, 42, 180, 0, 17, 28, 50, 180, 0, 78, 42, 42, 180, 0, 17, 28, 50]
abbrev dktX15_ask_1 : List UInt8 := dkwX15_ask_1 ++ dktX15_ask_2
def dkwX15_ask_0 : List UInt8 := [3, 61, 28, 42, 180, 0, 44, 162, 0, 81, 42, 180, 0, 17, 28, 50, 180, 0, 78, 182, 0, 82, 27]
abbrev dktX15_ask_0 : List UInt8 := dkwX15_ask_0 ++ dktX15_ask_1
theorem dksX15_ask_0 : cX15_ask.data.toList.drop 0 = dktX15_ask_0 := by decide +kernel
theorem dksX15_ask_1 : cX15_ask.data.toList.drop 23 = dktX15_ask_1 := dk_seg dksX15_ask_0 23 rfl rfl
theorem dksX15_ask_2 : cX15_ask.data.toList.drop 47 = dktX15_ask_2 := dk_seg dksX15_ask_1 24 rfl rfl
theorem dksX15_ask_3 : cX15_ask.data.toList.drop 71 = dktX15_ask_3 := dk_seg dksX15_ask_2 24 rfl rfl
theorem dX15_ask_0 : decode cX15_ask 0 = .ok (.iconst 0, 1) := dk_3 (dk_at dksX15_ask_0 0 rfl rfl)
theorem dX15_ask_1 : decode cX15_ask 1 = .ok (.istore_n 2, 1) := dk_61 (dk_at dksX15_ask_0 1 rfl rfl)
theorem dX15_ask_2 : decode cX15_ask 2 = .ok (.iload_n 2, 1) := dk_28 (dk_at dksX15_ask_0 2 rfl rfl)
theorem dX15_ask_3 : decode cX15_ask 3 = .ok (.aload_n 0, 1) := dk_42 (dk_at dksX15_ask_0 3 rfl rfl)
theorem dX15_ask_4 : decode cX15_ask 4 = .ok (.getfield 44, 3) := dk_180 0 44 (dk_at dksX15_ask_0 4 rfl rfl)
theorem dX15_ask_7 : decode cX15_ask 7 = .ok (.if_icmp .ge 81, 3) := dk_162 0 81 (dk_at dksX15_ask_0 7 rfl rfl)
theorem dX15_ask_10 : decode cX15_ask 10 = .ok (.aload_n 0, 1) := dk_42 (dk_at dksX15_ask_0 10 rfl rfl)
theorem dX15_ask_11 : decode cX15_ask 11 = .ok (.getfield 17, 3) := dk_180 0 17 (dk_at dksX15_ask_0 11 rfl rfl)
theorem dX15_ask_14 : decode cX15_ask 14 = .ok (.iload_n 2, 1) := dk_28 (dk_at dksX15_ask_0 14 rfl rfl)
theorem dX15_ask_15 : decode cX15_ask 15 = .ok (.aaload, 1) := dk_50 (dk_at dksX15_ask_0 15 rfl rfl)
theorem dX15_ask_16 : decode cX15_ask 16 = .ok (.getfield 78, 3) := dk_180 0 78 (dk_at dksX15_ask_0 16 rfl rfl)
theorem dX15_ask_19 : decode cX15_ask 19 = .ok (.invokevirtual 82, 3) := dk_182 0 82 (dk_at dksX15_ask_0 19 rfl rfl)
theorem dX15_ask_22 : decode cX15_ask 22 = .ok (.iload_n 1, 1) := dk_27 (dk_at dksX15_ask_0 22 rfl rfl)
theorem dX15_ask_23 : decode cX15_ask 23 = .ok (.if_icmp .ne 59, 3) := dk_160 0 59 (dk_at dksX15_ask_1 0 rfl rfl)
theorem dX15_ask_26 : decode cX15_ask 26 = .ok (.aload_n 0, 1) := dk_42 (dk_at dksX15_ask_1 3 rfl rfl)
theorem dX15_ask_27 : decode cX15_ask 27 = .ok (.getfield 37, 3) := dk_180 0 37 (dk_at dksX15_ask_1 4 rfl rfl)
theorem dX15_ask_30 : decode cX15_ask 30 = .ok (.iload_n 2, 1) := dk_28 (dk_at dksX15_ask_1 7 rfl rfl)
theorem dX15_ask_31 : decode cX15_ask 31 = .ok (.aload_n 0, 1) := dk_42 (dk_at dksX15_ask_1 8 rfl rfl)
theorem dX15_ask_32 : decode cX15_ask 32 = .ok (.getfield 17, 3) := dk_180 0 17 (dk_at dksX15_ask_1 9 rfl rfl)
theorem dX15_ask_35 : decode cX15_ask 35 = .ok (.iload_n 2, 1) := dk_28 (dk_at dksX15_ask_1 12 rfl rfl)
theorem dX15_ask_36 : decode cX15_ask 36 = .ok (.aaload, 1) := dk_50 (dk_at dksX15_ask_1 13 rfl rfl)
theorem dX15_ask_37 : decode cX15_ask 37 = .ok (.getfield 78, 3) := dk_180 0 78 (dk_at dksX15_ask_1 14 rfl rfl)
theorem dX15_ask_40 : decode cX15_ask 40 = .ok (.aload_n 0, 1) := dk_42 (dk_at dksX15_ask_1 17 rfl rfl)
theorem dX15_ask_41 : decode cX15_ask 41 = .ok (.aload_n 0, 1) := dk_42 (dk_at dksX15_ask_1 18 rfl rfl)
theorem dX15_ask_42 : decode cX15_ask 42 = .ok (.getfield 17, 3) := dk_180 0 17 (dk_at dksX15_ask_1 19 rfl rfl)
theorem dX15_ask_45 : decode cX15_ask 45 = .ok (.iload_n 2, 1) := dk_28 (dk_at dksX15_ask_1 22 rfl rfl)
theorem dX15_ask_46 : decode cX15_ask 46 = .ok (.aaload, 1) := dk_50 (dk_at dksX15_ask_1 23 rfl rfl)
theorem dX15_ask_47 : decode cX15_ask 47 = .ok (.invokevirtual 88, 3) := dk_182 0 88 (dk_at dksX15_ask_2 0 rfl rfl)
theorem dX15_ask_50 : decode cX15_ask 50 = .ok (.bastore, 1) := dk_84 (dk_at dksX15_ask_2 3 rfl rfl)
theorem dX15_ask_51 : decode cX15_ask 51 = .ok (.aload_n 0, 1) := dk_42 (dk_at dksX15_ask_2 4 rfl rfl)
theorem dX15_ask_52 : decode cX15_ask 52 = .ok (.dup, 1) := dk_89 (dk_at dksX15_ask_2 5 rfl rfl)
theorem dX15_ask_53 : decode cX15_ask 53 = .ok (.getfield 92, 3) := dk_180 0 92 (dk_at dksX15_ask_2 6 rfl rfl)
theorem dX15_ask_56 : decode cX15_ask 56 = .ok (.aload_n 0, 1) := dk_42 (dk_at dksX15_ask_2 9 rfl rfl)
theorem dX15_ask_57 : decode cX15_ask 57 = .ok (.getfield 37, 3) := dk_180 0 37 (dk_at dksX15_ask_2 10 rfl rfl)
theorem dX15_ask_60 : decode cX15_ask 60 = .ok (.iload_n 2, 1) := dk_28 (dk_at dksX15_ask_2 13 rfl rfl)
theorem dX15_ask_61 : decode cX15_ask 61 = .ok (.baload, 1) := dk_51 (dk_at dksX15_ask_2 14 rfl rfl)
theorem dX15_ask_62 : decode cX15_ask 62 = .ok (.ifCond .eq 15, 3) := dk_153 0 15 (dk_at dksX15_ask_2 15 rfl rfl)
theorem dX15_ask_65 : decode cX15_ask 65 = .ok (.aload_n 0, 1) := dk_42 (dk_at dksX15_ask_2 18 rfl rfl)
theorem dX15_ask_66 : decode cX15_ask 66 = .ok (.getfield 17, 3) := dk_180 0 17 (dk_at dksX15_ask_2 19 rfl rfl)
theorem dX15_ask_69 : decode cX15_ask 69 = .ok (.iload_n 2, 1) := dk_28 (dk_at dksX15_ask_2 22 rfl rfl)
theorem dX15_ask_70 : decode cX15_ask 70 = .ok (.aaload, 1) := dk_50 (dk_at dksX15_ask_2 23 rfl rfl)
theorem dX15_ask_71 : decode cX15_ask 71 = .ok (.getfield 65, 3) := dk_180 0 65 (dk_at dksX15_ask_3 0 rfl rfl)
theorem dX15_ask_74 : decode cX15_ask 74 = .ok (.goto 4, 3) := dk_167 0 4 (dk_at dksX15_ask_3 3 rfl rfl)
theorem dX15_ask_77 : decode cX15_ask 77 = .ok (.iconst 0, 1) := dk_3 (dk_at dksX15_ask_3 6 rfl rfl)
theorem dX15_ask_78 : decode cX15_ask 78 = .ok (.iadd, 1) := dk_96 (dk_at dksX15_ask_3 7 rfl rfl)
theorem dX15_ask_79 : decode cX15_ask 79 = .ok (.putfield 92, 3) := dk_181 0 92 (dk_at dksX15_ask_3 8 rfl rfl)
theorem dX15_ask_82 : decode cX15_ask 82 = .ok (.iinc 2 1, 3) := dk_132 2 1 (dk_at dksX15_ask_3 11 rfl rfl)
theorem dX15_ask_85 : decode cX15_ask 85 = .ok (.goto (-83), 3) := dk_167 255 173 (dk_at dksX15_ask_3 14 rfl rfl)
theorem dX15_ask_88 : decode cX15_ask 88 = .ok (.return_, 1) := dk_177 (dk_at dksX15_ask_3 17 rfl rfl)
abbrev cX15_worth : ByteArray := prog_23_method_11_code
def yX15_worth : MethodName := ⟨RX15, "worth", "(II)I"⟩
def dkwX15_worth_1 : List UInt8 := [180, 0, 17, 27, 50, 180, 0, 120, 172]
abbrev dktX15_worth_1 : List UInt8 := dkwX15_worth_1 ++ []
def dkwX15_worth_0 : List UInt8 := [42, 180, 0, 37, 27, 51, 153, 0, 17, 42, 42, 180, 0, 17, 27, 50, 28, 182, 0, 116, 167, 0, 12, 42]
abbrev dktX15_worth_0 : List UInt8 := dkwX15_worth_0 ++ dktX15_worth_1
theorem dksX15_worth_0 : cX15_worth.data.toList.drop 0 = dktX15_worth_0 := by decide +kernel
theorem dksX15_worth_1 : cX15_worth.data.toList.drop 24 = dktX15_worth_1 := dk_seg dksX15_worth_0 24 rfl rfl
theorem dX15_worth_0 : decode cX15_worth 0 = .ok (.aload_n 0, 1) := dk_42 (dk_at dksX15_worth_0 0 rfl rfl)
theorem dX15_worth_1 : decode cX15_worth 1 = .ok (.getfield 37, 3) := dk_180 0 37 (dk_at dksX15_worth_0 1 rfl rfl)
theorem dX15_worth_4 : decode cX15_worth 4 = .ok (.iload_n 1, 1) := dk_27 (dk_at dksX15_worth_0 4 rfl rfl)
theorem dX15_worth_5 : decode cX15_worth 5 = .ok (.baload, 1) := dk_51 (dk_at dksX15_worth_0 5 rfl rfl)
theorem dX15_worth_6 : decode cX15_worth 6 = .ok (.ifCond .eq 17, 3) := dk_153 0 17 (dk_at dksX15_worth_0 6 rfl rfl)
theorem dX15_worth_9 : decode cX15_worth 9 = .ok (.aload_n 0, 1) := dk_42 (dk_at dksX15_worth_0 9 rfl rfl)
theorem dX15_worth_10 : decode cX15_worth 10 = .ok (.aload_n 0, 1) := dk_42 (dk_at dksX15_worth_0 10 rfl rfl)
theorem dX15_worth_11 : decode cX15_worth 11 = .ok (.getfield 17, 3) := dk_180 0 17 (dk_at dksX15_worth_0 11 rfl rfl)
theorem dX15_worth_14 : decode cX15_worth 14 = .ok (.iload_n 1, 1) := dk_27 (dk_at dksX15_worth_0 14 rfl rfl)
theorem dX15_worth_15 : decode cX15_worth 15 = .ok (.aaload, 1) := dk_50 (dk_at dksX15_worth_0 15 rfl rfl)
theorem dX15_worth_16 : decode cX15_worth 16 = .ok (.iload_n 2, 1) := dk_28 (dk_at dksX15_worth_0 16 rfl rfl)
theorem dX15_worth_17 : decode cX15_worth 17 = .ok (.invokevirtual 116, 3) := dk_182 0 116 (dk_at dksX15_worth_0 17 rfl rfl)
theorem dX15_worth_20 : decode cX15_worth 20 = .ok (.goto 12, 3) := dk_167 0 12 (dk_at dksX15_worth_0 20 rfl rfl)
theorem dX15_worth_23 : decode cX15_worth 23 = .ok (.aload_n 0, 1) := dk_42 (dk_at dksX15_worth_0 23 rfl rfl)
theorem dX15_worth_24 : decode cX15_worth 24 = .ok (.getfield 17, 3) := dk_180 0 17 (dk_at dksX15_worth_1 0 rfl rfl)
theorem dX15_worth_27 : decode cX15_worth 27 = .ok (.iload_n 1, 1) := dk_27 (dk_at dksX15_worth_1 3 rfl rfl)
theorem dX15_worth_28 : decode cX15_worth 28 = .ok (.aaload, 1) := dk_50 (dk_at dksX15_worth_1 4 rfl rfl)
theorem dX15_worth_29 : decode cX15_worth 29 = .ok (.getfield 120, 3) := dk_180 0 120 (dk_at dksX15_worth_1 5 rfl rfl)
theorem dX15_worth_32 : decode cX15_worth 32 = .ok (.ireturn, 1) := dk_172 (dk_at dksX15_worth_1 8 rfl rfl)
abbrev cX15_worthOfGoing : ByteArray := prog_23_method_10_code
def yX15_worthOfGoing : MethodName := ⟨RX15, "worthOfGoing", "(LGoodHalfEmpty$Sort;I)I"⟩
def dkwX15_worthOfGoing_1 : List UInt8 := [172]
abbrev dktX15_worthOfGoing_1 : List UInt8 := dkwX15_worthOfGoing_1 ++ []
def dkwX15_worthOfGoing_0 : List UInt8 := [28, 42, 180, 0, 9, 163, 0, 10, 43, 180, 0, 110, 167, 0, 7, 43, 180, 0, 113, 42, 180, 0, 56, 100]
abbrev dktX15_worthOfGoing_0 : List UInt8 := dkwX15_worthOfGoing_0 ++ dktX15_worthOfGoing_1
theorem dksX15_worthOfGoing_0 : cX15_worthOfGoing.data.toList.drop 0 = dktX15_worthOfGoing_0 := by decide +kernel
theorem dksX15_worthOfGoing_1 : cX15_worthOfGoing.data.toList.drop 24 = dktX15_worthOfGoing_1 := dk_seg dksX15_worthOfGoing_0 24 rfl rfl
theorem dX15_worthOfGoing_0 : decode cX15_worthOfGoing 0 = .ok (.iload_n 2, 1) := dk_28 (dk_at dksX15_worthOfGoing_0 0 rfl rfl)
theorem dX15_worthOfGoing_1 : decode cX15_worthOfGoing 1 = .ok (.aload_n 0, 1) := dk_42 (dk_at dksX15_worthOfGoing_0 1 rfl rfl)
theorem dX15_worthOfGoing_2 : decode cX15_worthOfGoing 2 = .ok (.getfield 9, 3) := dk_180 0 9 (dk_at dksX15_worthOfGoing_0 2 rfl rfl)
theorem dX15_worthOfGoing_5 : decode cX15_worthOfGoing 5 = .ok (.if_icmp .gt 10, 3) := dk_163 0 10 (dk_at dksX15_worthOfGoing_0 5 rfl rfl)
theorem dX15_worthOfGoing_8 : decode cX15_worthOfGoing 8 = .ok (.aload_n 1, 1) := dk_43 (dk_at dksX15_worthOfGoing_0 8 rfl rfl)
theorem dX15_worthOfGoing_9 : decode cX15_worthOfGoing 9 = .ok (.getfield 110, 3) := dk_180 0 110 (dk_at dksX15_worthOfGoing_0 9 rfl rfl)
theorem dX15_worthOfGoing_12 : decode cX15_worthOfGoing 12 = .ok (.goto 7, 3) := dk_167 0 7 (dk_at dksX15_worthOfGoing_0 12 rfl rfl)
theorem dX15_worthOfGoing_15 : decode cX15_worthOfGoing 15 = .ok (.aload_n 1, 1) := dk_43 (dk_at dksX15_worthOfGoing_0 15 rfl rfl)
theorem dX15_worthOfGoing_16 : decode cX15_worthOfGoing 16 = .ok (.getfield 113, 3) := dk_180 0 113 (dk_at dksX15_worthOfGoing_0 16 rfl rfl)
theorem dX15_worthOfGoing_19 : decode cX15_worthOfGoing 19 = .ok (.aload_n 0, 1) := dk_42 (dk_at dksX15_worthOfGoing_0 19 rfl rfl)
theorem dX15_worthOfGoing_20 : decode cX15_worthOfGoing 20 = .ok (.getfield 56, 3) := dk_180 0 56 (dk_at dksX15_worthOfGoing_0 20 rfl rfl)
theorem dX15_worthOfGoing_23 : decode cX15_worthOfGoing 23 = .ok (.isub, 1) := dk_100 (dk_at dksX15_worthOfGoing_0 23 rfl rfl)
theorem dX15_worthOfGoing_24 : decode cX15_worthOfGoing 24 = .ok (.ireturn, 1) := dk_172 (dk_at dksX15_worthOfGoing_1 0 rfl rfl)
theorem q91 : (Jvm.Cond.initialized "GoodHalfEmpty$Town") ∈ lw_all := lw_g (lw_at lw_m1 16 rfl) rfl
theorem q211 : (Jvm.Cond.instantiable "GoodHalfEmpty$Town" (14 : Nat)) ∈ lw_all := lw_g (lw_at lw_m1 136 rfl) rfl
theorem q213 : (Jvm.Cond.instanceMethod ({ cls := "GoodHalfEmpty$Town", name := "<init>", desc := "()V" } : Jvm.MethodName)) ∈ lw_all := lw_g (lw_at lw_m1 138 rfl) rfl
theorem q214 : (Jvm.Cond.code ({ cls := "GoodHalfEmpty$Town", name := "<init>", desc := "()V" } : Jvm.MethodName) prog_23_method_1_code (1 : Nat) (Option.none : Option Jvm.ClassFile.FieldType)) ∈ lw_all := lw_g (lw_at lw_m1 139 rfl) rfl
theorem q215 : (Jvm.Cond.methodLink "GoodHalfEmpty$Town" (3 : Nat) ({ cls := "java/lang/Object", name := "<init>", desc := "()V" } : Jvm.MethodName)) ∈ lw_all := lw_g (lw_at lw_m1 140 rfl) rfl
theorem q216 : (Jvm.Cond.classLink "GoodHalfEmpty$Town" (15 : Nat) "GoodHalfEmpty$Sort") ∈ lw_all := lw_g (lw_at lw_m1 141 rfl) rfl
theorem q218 : (Jvm.Cond.classLink "GoodHalfEmpty$Town" (21 : Nat) "GoodHalfEmpty$Rule") ∈ lw_all := lw_g (lw_at lw_m1 143 rfl) rfl
theorem q219 : (Jvm.Cond.fieldLink "GoodHalfEmpty$Town" (9 : Nat) "GoodHalfEmpty$Town" "chairs" "I") ∈ lw_all := lw_g (lw_at lw_m1 144 rfl) rfl
theorem q224 : (Jvm.Cond.fieldLink "GoodHalfEmpty$Town" (44 : Nat) "GoodHalfEmpty$Town" "sorts" "I") ∈ lw_all := lw_g (lw_at lw_m1 149 rfl) rfl
theorem q227 : (Jvm.Cond.fieldLink "GoodHalfEmpty$Town" (17 : Nat) "GoodHalfEmpty$Town" "sort" "[LGoodHalfEmpty$Sort;") ∈ lw_all := lw_g (lw_at lw_m1 152 rfl) rfl
theorem q231 : (Jvm.Cond.fieldLink "GoodHalfEmpty$Town" (47 : Nat) "GoodHalfEmpty$Town" "rules" "I") ∈ lw_all := lw_g (lw_at lw_m1 156 rfl) rfl
theorem q235 : (Jvm.Cond.fieldLink "GoodHalfEmpty$Town" (23 : Nat) "GoodHalfEmpty$Town" "rule" "[LGoodHalfEmpty$Rule;") ∈ lw_all := lw_g (lw_at lw_m1 160 rfl) rfl
theorem q238 : (Jvm.Cond.fieldLink "GoodHalfEmpty$Town" (27 : Nat) "GoodHalfEmpty$Town" "spans" "[I") ∈ lw_all := lw_g (lw_at lw_m1 163 rfl) rfl
theorem q241 : (Jvm.Cond.fieldLink "GoodHalfEmpty$Town" (31 : Nat) "GoodHalfEmpty$Town" "right" "[I") ∈ lw_all := lw_g (lw_at lw_m1 166 rfl) rfl
theorem q245 : (Jvm.Cond.fieldLink "GoodHalfEmpty$Town" (50 : Nat) "GoodHalfEmpty$Town" "weeks" "I") ∈ lw_all := lw_g (lw_at lw_m1 170 rfl) rfl
theorem q247 : (Jvm.Cond.fieldLink "GoodHalfEmpty$Town" (34 : Nat) "GoodHalfEmpty$Town" "memory" "[I") ∈ lw_all := lw_g (lw_at lw_m1 172 rfl) rfl
theorem q249 : (Jvm.Cond.fieldLink "GoodHalfEmpty$Town" (53 : Nat) "GoodHalfEmpty$Town" "number" "I") ∈ lw_all := lw_g (lw_at lw_m1 174 rfl) rfl
theorem q252 : (Jvm.Cond.fieldLink "GoodHalfEmpty$Town" (56 : Nat) "GoodHalfEmpty$Town" "penny" "I") ∈ lw_all := lw_g (lw_at lw_m1 177 rfl) rfl
theorem q255 : (Jvm.Cond.fieldLink "GoodHalfEmpty$Town" (92 : Nat) "GoodHalfEmpty$Town" "going" "I") ∈ lw_all := lw_g (lw_at lw_m1 180 rfl) rfl
theorem q256 : (Jvm.Cond.fieldLink "GoodHalfEmpty$Town" (37 : Nat) "GoodHalfEmpty$Town" "go" "[Z") ∈ lw_all := lw_g (lw_at lw_m1 181 rfl) rfl
theorem q258 : (Jvm.Cond.fieldLink "GoodHalfEmpty$Town" (41 : Nat) "GoodHalfEmpty$Town" "foretold" "[I") ∈ lw_all := lw_g (lw_at lw_m1 183 rfl) rfl
theorem q259 : (Jvm.Cond.lays "GoodHalfEmpty$Town" "GoodHalfEmpty$Town" "chairs" "I") ∈ lw_all := lw_g (lw_at lw_m1 184 rfl) rfl
theorem q260 : (Jvm.Cond.soleField "GoodHalfEmpty$Town" "chairs") ∈ lw_all := lw_g (lw_at lw_m1 185 rfl) rfl
theorem q261 : (Jvm.Cond.lays "GoodHalfEmpty$Town" "GoodHalfEmpty$Town" "sorts" "I") ∈ lw_all := lw_g (lw_at lw_m1 186 rfl) rfl
theorem q262 : (Jvm.Cond.soleField "GoodHalfEmpty$Town" "sorts") ∈ lw_all := lw_g (lw_at lw_m1 187 rfl) rfl
theorem q263 : (Jvm.Cond.laysFinal "GoodHalfEmpty$Town" "GoodHalfEmpty$Town" "sort" "[LGoodHalfEmpty$Sort;") ∈ lw_all := lw_g (lw_at lw_m1 188 rfl) rfl
theorem q264 : (Jvm.Cond.soleField "GoodHalfEmpty$Town" "sort") ∈ lw_all := lw_g (lw_at lw_m1 189 rfl) rfl
theorem q265 : (Jvm.Cond.lays "GoodHalfEmpty$Town" "GoodHalfEmpty$Town" "rules" "I") ∈ lw_all := lw_g (lw_at lw_m1 190 rfl) rfl
theorem q266 : (Jvm.Cond.soleField "GoodHalfEmpty$Town" "rules") ∈ lw_all := lw_g (lw_at lw_m1 191 rfl) rfl
theorem q267 : (Jvm.Cond.laysFinal "GoodHalfEmpty$Town" "GoodHalfEmpty$Town" "rule" "[LGoodHalfEmpty$Rule;") ∈ lw_all := lw_g (lw_at lw_m1 192 rfl) rfl
theorem q268 : (Jvm.Cond.soleField "GoodHalfEmpty$Town" "rule") ∈ lw_all := lw_g (lw_at lw_m1 193 rfl) rfl
theorem q269 : (Jvm.Cond.laysFinal "GoodHalfEmpty$Town" "GoodHalfEmpty$Town" "spans" "[I") ∈ lw_all := lw_g (lw_at lw_m1 194 rfl) rfl
theorem q270 : (Jvm.Cond.soleField "GoodHalfEmpty$Town" "spans") ∈ lw_all := lw_g (lw_at lw_m1 195 rfl) rfl
theorem q271 : (Jvm.Cond.laysFinal "GoodHalfEmpty$Town" "GoodHalfEmpty$Town" "right" "[I") ∈ lw_all := lw_g (lw_at lw_m1 196 rfl) rfl
theorem q272 : (Jvm.Cond.soleField "GoodHalfEmpty$Town" "right") ∈ lw_all := lw_g (lw_at lw_m1 197 rfl) rfl
theorem q273 : (Jvm.Cond.lays "GoodHalfEmpty$Town" "GoodHalfEmpty$Town" "weeks" "I") ∈ lw_all := lw_g (lw_at lw_m1 198 rfl) rfl
theorem q274 : (Jvm.Cond.soleField "GoodHalfEmpty$Town" "weeks") ∈ lw_all := lw_g (lw_at lw_m1 199 rfl) rfl
theorem q275 : (Jvm.Cond.laysFinal "GoodHalfEmpty$Town" "GoodHalfEmpty$Town" "memory" "[I") ∈ lw_all := lw_g (lw_at lw_m1 200 rfl) rfl
theorem q276 : (Jvm.Cond.soleField "GoodHalfEmpty$Town" "memory") ∈ lw_all := lw_g (lw_at lw_m1 201 rfl) rfl
theorem q277 : (Jvm.Cond.lays "GoodHalfEmpty$Town" "GoodHalfEmpty$Town" "number" "I") ∈ lw_all := lw_g (lw_at lw_m1 202 rfl) rfl
theorem q278 : (Jvm.Cond.soleField "GoodHalfEmpty$Town" "number") ∈ lw_all := lw_g (lw_at lw_m1 203 rfl) rfl
theorem q279 : (Jvm.Cond.lays "GoodHalfEmpty$Town" "GoodHalfEmpty$Town" "penny" "I") ∈ lw_all := lw_g (lw_at lw_m1 204 rfl) rfl
theorem q280 : (Jvm.Cond.soleField "GoodHalfEmpty$Town" "penny") ∈ lw_all := lw_g (lw_at lw_m1 205 rfl) rfl
theorem q281 : (Jvm.Cond.lays "GoodHalfEmpty$Town" "GoodHalfEmpty$Town" "going" "I") ∈ lw_all := lw_g (lw_at lw_m1 206 rfl) rfl
theorem q282 : (Jvm.Cond.soleField "GoodHalfEmpty$Town" "going") ∈ lw_all := lw_g (lw_at lw_m1 207 rfl) rfl
theorem q283 : (Jvm.Cond.laysFinal "GoodHalfEmpty$Town" "GoodHalfEmpty$Town" "go" "[Z") ∈ lw_all := lw_g (lw_at lw_m1 208 rfl) rfl
theorem q284 : (Jvm.Cond.soleField "GoodHalfEmpty$Town" "go") ∈ lw_all := lw_g (lw_at lw_m1 209 rfl) rfl
theorem q285 : (Jvm.Cond.laysFinal "GoodHalfEmpty$Town" "GoodHalfEmpty$Town" "foretold" "[I") ∈ lw_all := lw_g (lw_at lw_m1 210 rfl) rfl
theorem q286 : (Jvm.Cond.soleField "GoodHalfEmpty$Town" "foretold") ∈ lw_all := lw_g (lw_at lw_m1 211 rfl) rfl
theorem q287 : (Jvm.Cond.superclass "GoodHalfEmpty$Town" "java/lang/Object") ∈ lw_all := lw_g (lw_at lw_m1 212 rfl) rfl
theorem q583 : (Jvm.Cond.fieldLinkNest "GoodHalfEmpty$Town" (78 : Nat) "GoodHalfEmpty$Sort" "goer" "LGoodHalfEmpty$Goer;" "GoodHalfEmpty") ∈ lw_tbl := lw_at lw_m3 28 rfl
theorem q588 : (Jvm.Cond.fieldLinkNest "GoodHalfEmpty$Town" (65 : Nat) "GoodHalfEmpty$Sort" "many" "I" "GoodHalfEmpty") ∈ lw_tbl := lw_at lw_m3 33 rfl
theorem q596 : (Jvm.Cond.fieldLinkNest "GoodHalfEmpty$Town" (110 : Nat) "GoodHalfEmpty$Sort" "few" "I" "GoodHalfEmpty") ∈ lw_tbl := lw_at lw_m3 41 rfl
theorem q599 : (Jvm.Cond.fieldLinkNest "GoodHalfEmpty$Town" (113 : Nat) "GoodHalfEmpty$Sort" "full" "I" "GoodHalfEmpty") ∈ lw_tbl := lw_at lw_m3 44 rfl
theorem q602 : (Jvm.Cond.fieldLinkNest "GoodHalfEmpty$Town" (120 : Nat) "GoodHalfEmpty$Sort" "home" "I" "GoodHalfEmpty") ∈ lw_tbl := lw_at lw_m3 47 rfl
theorem q649 : (Jvm.Cond.instanceMethod ({ cls := "GoodHalfEmpty$Town", name := "set", desc := "(LGoodHalfEmpty$Town;)V" } : Jvm.MethodName)) ∈ lw_all := lw_g (lw_at lw_m3 94 rfl) rfl
theorem q650 : (Jvm.Cond.selects "GoodHalfEmpty$Town" ({ cls := "GoodHalfEmpty$Town", name := "set", desc := "(LGoodHalfEmpty$Town;)V" } : Jvm.MethodName) ({ cls := "GoodHalfEmpty$Town", name := "set", desc := "(LGoodHalfEmpty$Town;)V" } : Jvm.MethodName)) ∈ lw_all := lw_g (lw_at lw_m3 95 rfl) rfl
theorem q651 : (Jvm.Cond.code ({ cls := "GoodHalfEmpty$Town", name := "set", desc := "(LGoodHalfEmpty$Town;)V" } : Jvm.MethodName) prog_23_method_2_code (2 : Nat) (Option.none : Option Jvm.ClassFile.FieldType)) ∈ lw_all := lw_g (lw_at lw_m3 96 rfl) rfl
theorem q652 : (Jvm.Cond.methodLink "GoodHalfEmpty$Town" (59 : Nat) ({ cls := "java/lang/System", name := "arraycopy", desc := "(Ljava/lang/Object;ILjava/lang/Object;II)V" } : Jvm.MethodName)) ∈ lw_all := lw_g (lw_at lw_m3 97 rfl) rfl
theorem q669 : (Jvm.Cond.instanceMethod ({ cls := "GoodHalfEmpty$Town", name := "remember", desc := "(I)V" } : Jvm.MethodName)) ∈ lw_all := lw_g (lw_at lw_m3 114 rfl) rfl
theorem q670 : (Jvm.Cond.selects "GoodHalfEmpty$Town" ({ cls := "GoodHalfEmpty$Town", name := "remember", desc := "(I)V" } : Jvm.MethodName) ({ cls := "GoodHalfEmpty$Town", name := "remember", desc := "(I)V" } : Jvm.MethodName)) ∈ lw_all := lw_g (lw_at lw_m3 115 rfl) rfl
theorem q671 : (Jvm.Cond.code ({ cls := "GoodHalfEmpty$Town", name := "remember", desc := "(I)V" } : Jvm.MethodName) prog_23_method_6_code (3 : Nat) (Option.none : Option Jvm.ClassFile.FieldType)) ∈ lw_all := lw_g (lw_at lw_m3 116 rfl) rfl
theorem q672 : (Jvm.Cond.methodLink "GoodHalfEmpty$Town" (72 : Nat) ({ cls := "java/lang/Math", name := "min", desc := "(II)I" } : Jvm.MethodName)) ∈ lw_all := lw_g (lw_at lw_m3 117 rfl) rfl
theorem q760 : (Jvm.Cond.instanceMethod ({ cls := "GoodHalfEmpty$Town", name := "foretold", desc := "(I)I" } : Jvm.MethodName)) ∈ lw_all := lw_g (lw_at lw_m3 205 rfl) rfl
theorem q761 : (Jvm.Cond.selects "GoodHalfEmpty$Town" ({ cls := "GoodHalfEmpty$Town", name := "foretold", desc := "(I)I" } : Jvm.MethodName) ({ cls := "GoodHalfEmpty$Town", name := "foretold", desc := "(I)I" } : Jvm.MethodName)) ∈ lw_all := lw_g (lw_at lw_m3 206 rfl) rfl
theorem q762 : (Jvm.Cond.code ({ cls := "GoodHalfEmpty$Town", name := "foretold", desc := "(I)I" } : Jvm.MethodName) prog_23_method_5_code (2 : Nat) (Option.some Jvm.ClassFile.FieldType.int)) ∈ lw_all := lw_g (lw_at lw_m3 207 rfl) rfl
theorem q763 : (Jvm.Cond.methodLink "GoodHalfEmpty$Town" (68 : Nat) ({ cls := "GoodHalfEmpty$Rule", name := "foretells", desc := "(LGoodHalfEmpty$Town;I)I" } : Jvm.MethodName)) ∈ lw_all := lw_g (lw_at lw_m3 208 rfl) rfl
theorem q773 : (Jvm.Cond.instanceMethod ({ cls := "GoodHalfEmpty$Town", name := "ago", desc := "(I)I" } : Jvm.MethodName)) ∈ lw_all := lw_g (lw_at lw_m3 218 rfl) rfl
theorem q774 : (Jvm.Cond.selects "GoodHalfEmpty$Town" ({ cls := "GoodHalfEmpty$Town", name := "ago", desc := "(I)I" } : Jvm.MethodName) ({ cls := "GoodHalfEmpty$Town", name := "ago", desc := "(I)I" } : Jvm.MethodName)) ∈ lw_all := lw_g (lw_at lw_m3 219 rfl) rfl
theorem q775 : (Jvm.Cond.code ({ cls := "GoodHalfEmpty$Town", name := "ago", desc := "(I)I" } : Jvm.MethodName) prog_23_method_4_code (2 : Nat) (Option.some Jvm.ClassFile.FieldType.int)) ∈ lw_all := lw_g (lw_at lw_m3 220 rfl) rfl
theorem q794 : (Jvm.Cond.instanceMethod ({ cls := "GoodHalfEmpty$Town", name := "people", desc := "()I" } : Jvm.MethodName)) ∈ lw_all := lw_g (lw_at lw_m3 239 rfl) rfl
theorem q795 : (Jvm.Cond.selects "GoodHalfEmpty$Town" ({ cls := "GoodHalfEmpty$Town", name := "people", desc := "()I" } : Jvm.MethodName) ({ cls := "GoodHalfEmpty$Town", name := "people", desc := "()I" } : Jvm.MethodName)) ∈ lw_all := lw_g (lw_at lw_m4 0 rfl) rfl
theorem q796 : (Jvm.Cond.code ({ cls := "GoodHalfEmpty$Town", name := "people", desc := "()I" } : Jvm.MethodName) prog_23_method_3_code (3 : Nat) (Option.some Jvm.ClassFile.FieldType.int)) ∈ lw_all := lw_g (lw_at lw_m4 1 rfl) rfl
theorem q812 : (Jvm.Cond.instanceMethod ({ cls := "GoodHalfEmpty$Town", name := "week", desc := "()I" } : Jvm.MethodName)) ∈ lw_all := lw_g (lw_at lw_m4 17 rfl) rfl
theorem q813 : (Jvm.Cond.selects "GoodHalfEmpty$Town" ({ cls := "GoodHalfEmpty$Town", name := "week", desc := "()I" } : Jvm.MethodName) ({ cls := "GoodHalfEmpty$Town", name := "week", desc := "()I" } : Jvm.MethodName)) ∈ lw_all := lw_g (lw_at lw_m4 18 rfl) rfl
theorem q814 : (Jvm.Cond.code ({ cls := "GoodHalfEmpty$Town", name := "week", desc := "()I" } : Jvm.MethodName) prog_23_method_9_code (3 : Nat) (Option.some Jvm.ClassFile.FieldType.int)) ∈ lw_all := lw_g (lw_at lw_m4 19 rfl) rfl
theorem q815 : (Jvm.Cond.methodLink "GoodHalfEmpty$Town" (99 : Nat) ({ cls := "GoodHalfEmpty$Town", name := "foretold", desc := "(I)I" } : Jvm.MethodName)) ∈ lw_all := lw_g (lw_at lw_m4 20 rfl) rfl
theorem q816 : (Jvm.Cond.methodLink "GoodHalfEmpty$Town" (102 : Nat) ({ cls := "GoodHalfEmpty$Town", name := "askAll", desc := "()I" } : Jvm.MethodName)) ∈ lw_all := lw_g (lw_at lw_m4 21 rfl) rfl
theorem q817 : (Jvm.Cond.instanceMethod ({ cls := "GoodHalfEmpty$Town", name := "askAll", desc := "()I" } : Jvm.MethodName)) ∈ lw_all := lw_g (lw_at lw_m4 22 rfl) rfl
theorem q818 : (Jvm.Cond.selects "GoodHalfEmpty$Town" ({ cls := "GoodHalfEmpty$Town", name := "askAll", desc := "()I" } : Jvm.MethodName) ({ cls := "GoodHalfEmpty$Town", name := "askAll", desc := "()I" } : Jvm.MethodName)) ∈ lw_all := lw_g (lw_at lw_m4 23 rfl) rfl
theorem q819 : (Jvm.Cond.code ({ cls := "GoodHalfEmpty$Town", name := "askAll", desc := "()I" } : Jvm.MethodName) prog_23_method_8_code (1 : Nat) (Option.some Jvm.ClassFile.FieldType.int)) ∈ lw_all := lw_g (lw_at lw_m4 24 rfl) rfl
theorem q820 : (Jvm.Cond.methodLink "GoodHalfEmpty$Town" (95 : Nat) ({ cls := "GoodHalfEmpty$Town", name := "ask", desc := "(Z)V" } : Jvm.MethodName)) ∈ lw_all := lw_g (lw_at lw_m4 25 rfl) rfl
theorem q821 : (Jvm.Cond.privateMethod ({ cls := "GoodHalfEmpty$Town", name := "ask", desc := "(Z)V" } : Jvm.MethodName)) ∈ lw_tbl := lw_at lw_m4 26 rfl
theorem q822 : (Jvm.Cond.instanceMethod ({ cls := "GoodHalfEmpty$Town", name := "ask", desc := "(Z)V" } : Jvm.MethodName)) ∈ lw_all := lw_g (lw_at lw_m4 27 rfl) rfl
theorem q823 : (Jvm.Cond.code ({ cls := "GoodHalfEmpty$Town", name := "ask", desc := "(Z)V" } : Jvm.MethodName) prog_23_method_7_code (3 : Nat) (Option.none : Option Jvm.ClassFile.FieldType)) ∈ lw_all := lw_g (lw_at lw_m4 28 rfl) rfl
theorem q824 : (Jvm.Cond.methodLink "GoodHalfEmpty$Town" (82 : Nat) ({ cls := "GoodHalfEmpty$Goer", name := "isLast", desc := "()Z" } : Jvm.MethodName)) ∈ lw_all := lw_g (lw_at lw_m4 29 rfl) rfl
theorem q836 : (Jvm.Cond.methodLink "GoodHalfEmpty$Town" (88 : Nat) ({ cls := "GoodHalfEmpty$Goer", name := "goes", desc := "(LGoodHalfEmpty$Town;LGoodHalfEmpty$Sort;)Z" } : Jvm.MethodName)) ∈ lw_all := lw_g (lw_at lw_m4 41 rfl) rfl
theorem q865 : (Jvm.Cond.methodLink "GoodHalfEmpty$Town" (106 : Nat) ({ cls := "GoodHalfEmpty$Town", name := "remember", desc := "(I)V" } : Jvm.MethodName)) ∈ lw_all := lw_g (lw_at lw_m4 70 rfl) rfl
theorem q876 : (Jvm.Cond.instanceMethod ({ cls := "GoodHalfEmpty$Town", name := "worth", desc := "(II)I" } : Jvm.MethodName)) ∈ lw_all := lw_g (lw_at lw_m4 81 rfl) rfl
theorem q877 : (Jvm.Cond.selects "GoodHalfEmpty$Town" ({ cls := "GoodHalfEmpty$Town", name := "worth", desc := "(II)I" } : Jvm.MethodName) ({ cls := "GoodHalfEmpty$Town", name := "worth", desc := "(II)I" } : Jvm.MethodName)) ∈ lw_all := lw_g (lw_at lw_m4 82 rfl) rfl
theorem q878 : (Jvm.Cond.code ({ cls := "GoodHalfEmpty$Town", name := "worth", desc := "(II)I" } : Jvm.MethodName) prog_23_method_11_code (3 : Nat) (Option.some Jvm.ClassFile.FieldType.int)) ∈ lw_all := lw_g (lw_at lw_m4 83 rfl) rfl
theorem q879 : (Jvm.Cond.methodLink "GoodHalfEmpty$Town" (116 : Nat) ({ cls := "GoodHalfEmpty$Town", name := "worthOfGoing", desc := "(LGoodHalfEmpty$Sort;I)I" } : Jvm.MethodName)) ∈ lw_all := lw_g (lw_at lw_m4 84 rfl) rfl
theorem q880 : (Jvm.Cond.instanceMethod ({ cls := "GoodHalfEmpty$Town", name := "worthOfGoing", desc := "(LGoodHalfEmpty$Sort;I)I" } : Jvm.MethodName)) ∈ lw_all := lw_g (lw_at lw_m4 85 rfl) rfl
theorem q881 : (Jvm.Cond.selects "GoodHalfEmpty$Town" ({ cls := "GoodHalfEmpty$Town", name := "worthOfGoing", desc := "(LGoodHalfEmpty$Sort;I)I" } : Jvm.MethodName) ({ cls := "GoodHalfEmpty$Town", name := "worthOfGoing", desc := "(LGoodHalfEmpty$Sort;I)I" } : Jvm.MethodName)) ∈ lw_all := lw_g (lw_at lw_m4 86 rfl) rfl
theorem q882 : (Jvm.Cond.code ({ cls := "GoodHalfEmpty$Town", name := "worthOfGoing", desc := "(LGoodHalfEmpty$Sort;I)I" } : Jvm.MethodName) prog_23_method_10_code (3 : Nat) (Option.some Jvm.ClassFile.FieldType.int)) ∈ lw_all := lw_g (lw_at lw_m4 87 rfl) rfl
theorem in_X15 : ∀ w ∈ wsX150, w ∈ lw_all := lw_in wsX150 [259, 261, 263, 265, 267, 269, 271, 273, 275, 277, 279, 281, 283, 285] (by decide +kernel) (by decide +kernel)

/-! GoodHalfEmpty$Refusal -/
set_option maxRecDepth 100000
def RX17 : String := "GoodHalfEmpty$Refusal"
abbrev cX17_init : ByteArray := prog_14_method_1_code
def yX17_init : MethodName := ⟨RX17, "<init>", "()V"⟩
theorem dX17_init_0 : decode cX17_init 0 = .ok (.aload_n 0, 1) := by decide +kernel
theorem dX17_init_1 : decode cX17_init 1 = .ok (.invokespecial 1, 3) := by decide +kernel
theorem dX17_init_4 : decode cX17_init 4 = .ok (.return_, 1) := by decide +kernel
theorem q96 : (Jvm.Cond.initialized "GoodHalfEmpty$Refusal") ∈ lw_all := lw_g (lw_at lw_m1 21 rfl) rfl
theorem q400 : (Jvm.Cond.declares ({ cls := "GoodHalfEmpty$Refusal", name := "<init>", desc := "()V" } : Jvm.MethodName)) ∈ lw_tbl := lw_at lw_m2 85 rfl
theorem q442 : (Jvm.Cond.instanceMethod ({ cls := "GoodHalfEmpty$Refusal", name := "<init>", desc := "()V" } : Jvm.MethodName)) ∈ lw_all := lw_g (lw_at lw_m2 127 rfl) rfl
theorem q443 : (Jvm.Cond.code ({ cls := "GoodHalfEmpty$Refusal", name := "<init>", desc := "()V" } : Jvm.MethodName) prog_14_method_1_code (1 : Nat) (Option.none : Option Jvm.ClassFile.FieldType)) ∈ lw_all := lw_g (lw_at lw_m2 128 rfl) rfl
theorem q444 : (Jvm.Cond.methodLink "GoodHalfEmpty$Refusal" (1 : Nat) ({ cls := "java/lang/RuntimeException", name := "<init>", desc := "()V" } : Jvm.MethodName)) ∈ lw_all := lw_g (lw_at lw_m2 129 rfl) rfl
theorem q991 : (Jvm.Cond.declares ({ cls := "GoodHalfEmpty$Refusal", name := "number", desc := "()I" } : Jvm.MethodName)) ∈ lw_tbl := lw_at lw_m4 196 rfl
theorem q992 : (Jvm.Cond.sameMethod "GoodHalfEmpty$Refusal" "GoodHalfEmpty$Refusal" "number" "()I") ∈ lw_all := lw_g (lw_at lw_m4 197 rfl) rfl

/-! GoodHalfEmpty$Refused -/
set_option maxRecDepth 100000
def RX18 : String := "GoodHalfEmpty$Refused"
def TX18 : u_T := fun k => match k with
  | 0 => ("java/lang/Throwable", "cause", "Ljava/lang/Throwable;", false)
  | 1 => ("java/lang/Throwable", "stackTrace", "[Ljava/lang/StackTraceElement;", false)
  | 2 => ("java/lang/Throwable", "suppressedExceptions", "Ljava/util/List;", false)
  | 3 => ("java/lang/Throwable", "detailMessage", "Ljava/lang/String;", false)
  | 4 => ("java/lang/Throwable", "backtrace", "Ljava/lang/Object;", false)
  | 5 => ("java/lang/Throwable", "depth", "I", false)
  | _ => ("GoodHalfEmpty$Refused", "number", "I", true)
def tyX18 : Nat → FieldType := fun k => match k with
  | 0 => .object "java/lang/Throwable"
  | 1 => .array (.object "java/lang/StackTraceElement")
  | 2 => .object "java/util/List"
  | 3 => .object "java/lang/String"
  | 4 => .object "java/lang/Object"
  | 5 => .int
  | _ => .int
abbrev wsX180 : List Cond := u_ws RX18 TX18 7
theorem nmX18 : ∀ a, a < 7 → ∀ b, b < 7 → a ≠ b → (TX18 a).2.1 ≠ (TX18 b).2.1 := by decide +kernel
theorem tyX18_ok : ∀ k, k < 7 → parseFieldDescriptor (TX18 k).2.2.1 = some (tyX18 k) := by decide +kernel
abbrev cX18_init : ByteArray := prog_15_method_1_code
def yX18_init : MethodName := ⟨RX18, "<init>", "(I)V"⟩
def dkwX18_init_0 : List UInt8 := [42, 183, 0, 1, 42, 27, 181, 0, 7, 177]
abbrev dktX18_init_0 : List UInt8 := dkwX18_init_0 ++ []
theorem dksX18_init_0 : cX18_init.data.toList.drop 0 = dktX18_init_0 := by decide +kernel
theorem dX18_init_0 : decode cX18_init 0 = .ok (.aload_n 0, 1) := dk_42 (dk_at dksX18_init_0 0 rfl rfl)
theorem dX18_init_1 : decode cX18_init 1 = .ok (.invokespecial 1, 3) := dk_183 0 1 (dk_at dksX18_init_0 1 rfl rfl)
theorem dX18_init_4 : decode cX18_init 4 = .ok (.aload_n 0, 1) := dk_42 (dk_at dksX18_init_0 4 rfl rfl)
theorem dX18_init_5 : decode cX18_init 5 = .ok (.iload_n 1, 1) := dk_27 (dk_at dksX18_init_0 5 rfl rfl)
theorem dX18_init_6 : decode cX18_init 6 = .ok (.putfield 7, 3) := dk_181 0 7 (dk_at dksX18_init_0 6 rfl rfl)
theorem dX18_init_9 : decode cX18_init 9 = .ok (.return_, 1) := dk_177 (dk_at dksX18_init_0 9 rfl rfl)
abbrev cX18_number : ByteArray := prog_15_method_2_code
def yX18_number : MethodName := ⟨RX18, "number", "()I"⟩
theorem dX18_number_0 : decode cX18_number 0 = .ok (.aload_n 0, 1) := by decide +kernel
theorem dX18_number_1 : decode cX18_number 1 = .ok (.getfield 7, 3) := by decide +kernel
theorem dX18_number_4 : decode cX18_number 4 = .ok (.ireturn, 1) := by decide +kernel
theorem q97 : (Jvm.Cond.initialized "GoodHalfEmpty$Refused") ∈ lw_all := lw_g (lw_at lw_m1 22 rfl) rfl
theorem q398 : (Jvm.Cond.instantiable "GoodHalfEmpty$Refused" (7 : Nat)) ∈ lw_all := lw_g (lw_at lw_m2 83 rfl) rfl
theorem q399 : (Jvm.Cond.castable "GoodHalfEmpty$Refused" "GoodHalfEmpty$Refused") ∈ lw_tbl := lw_at lw_m2 84 rfl
theorem q407 : (Jvm.Cond.selects "GoodHalfEmpty$Refused" ({ cls := "java/lang/Throwable", name := "fillInStackTrace", desc := "(I)Ljava/lang/Throwable;" } : Jvm.MethodName) ({ cls := "java/lang/Throwable", name := "fillInStackTrace", desc := "(I)Ljava/lang/Throwable;" } : Jvm.MethodName)) ∈ lw_all := lw_g (lw_at lw_m2 92 rfl) rfl
theorem q408 : (Jvm.Cond.selects "GoodHalfEmpty$Refused" ({ cls := "java/lang/Throwable", name := "fillInStackTrace", desc := "()Ljava/lang/Throwable;" } : Jvm.MethodName) ({ cls := "java/lang/Throwable", name := "fillInStackTrace", desc := "()Ljava/lang/Throwable;" } : Jvm.MethodName)) ∈ lw_all := lw_g (lw_at lw_m2 93 rfl) rfl
theorem q409 : (Jvm.Cond.lays "GoodHalfEmpty$Refused" "java/lang/Throwable" "cause" "Ljava/lang/Throwable;") ∈ lw_all := lw_g (lw_at lw_m2 94 rfl) rfl
theorem q411 : (Jvm.Cond.lays "GoodHalfEmpty$Refused" "java/lang/Throwable" "stackTrace" "[Ljava/lang/StackTraceElement;") ∈ lw_all := lw_g (lw_at lw_m2 96 rfl) rfl
theorem q413 : (Jvm.Cond.lays "GoodHalfEmpty$Refused" "java/lang/Throwable" "suppressedExceptions" "Ljava/util/List;") ∈ lw_all := lw_g (lw_at lw_m2 98 rfl) rfl
theorem q415 : (Jvm.Cond.lays "GoodHalfEmpty$Refused" "java/lang/Throwable" "detailMessage" "Ljava/lang/String;") ∈ lw_all := lw_g (lw_at lw_m2 100 rfl) rfl
theorem q417 : (Jvm.Cond.lays "GoodHalfEmpty$Refused" "java/lang/Throwable" "backtrace" "Ljava/lang/Object;") ∈ lw_all := lw_g (lw_at lw_m2 102 rfl) rfl
theorem q439 : (Jvm.Cond.instanceMethod ({ cls := "GoodHalfEmpty$Refused", name := "<init>", desc := "(I)V" } : Jvm.MethodName)) ∈ lw_all := lw_g (lw_at lw_m2 124 rfl) rfl
theorem q440 : (Jvm.Cond.code ({ cls := "GoodHalfEmpty$Refused", name := "<init>", desc := "(I)V" } : Jvm.MethodName) prog_15_method_1_code (2 : Nat) (Option.none : Option Jvm.ClassFile.FieldType)) ∈ lw_all := lw_g (lw_at lw_m2 125 rfl) rfl
theorem q441 : (Jvm.Cond.methodLinkNest "GoodHalfEmpty$Refused" (1 : Nat) ({ cls := "GoodHalfEmpty$Refusal", name := "<init>", desc := "()V" } : Jvm.MethodName) "GoodHalfEmpty") ∈ lw_tbl := lw_at lw_m2 126 rfl
theorem q451 : (Jvm.Cond.fieldLink "GoodHalfEmpty$Refused" (7 : Nat) "GoodHalfEmpty$Refused" "number" "I") ∈ lw_all := lw_g (lw_at lw_m2 136 rfl) rfl
theorem q456 : (Jvm.Cond.laysFinal "GoodHalfEmpty$Refused" "GoodHalfEmpty$Refused" "number" "I") ∈ lw_all := lw_g (lw_at lw_m2 141 rfl) rfl
theorem q457 : (Jvm.Cond.soleField "GoodHalfEmpty$Refused" "number") ∈ lw_all := lw_g (lw_at lw_m2 142 rfl) rfl
theorem q462 : (Jvm.Cond.lays "GoodHalfEmpty$Refused" "java/lang/Throwable" "depth" "I") ∈ lw_all := lw_g (lw_at lw_m2 147 rfl) rfl
theorem q465 : (Jvm.Cond.superclass "GoodHalfEmpty$Refused" "GoodHalfEmpty$Refusal") ∈ lw_all := lw_g (lw_at lw_m2 150 rfl) rfl
theorem q996 : (Jvm.Cond.selects "GoodHalfEmpty$Refused" ({ cls := "GoodHalfEmpty$Refusal", name := "number", desc := "()I" } : Jvm.MethodName) ({ cls := "GoodHalfEmpty$Refused", name := "number", desc := "()I" } : Jvm.MethodName)) ∈ lw_all := lw_g (lw_at lw_m4 201 rfl) rfl
theorem q997 : (Jvm.Cond.instanceMethod ({ cls := "GoodHalfEmpty$Refused", name := "number", desc := "()I" } : Jvm.MethodName)) ∈ lw_all := lw_g (lw_at lw_m4 202 rfl) rfl
theorem q998 : (Jvm.Cond.code ({ cls := "GoodHalfEmpty$Refused", name := "number", desc := "()I" } : Jvm.MethodName) prog_15_method_2_code (1 : Nat) (Option.some Jvm.ClassFile.FieldType.int)) ∈ lw_all := lw_g (lw_at lw_m4 203 rfl) rfl
theorem q1472 : (Jvm.Cond.castable "GoodHalfEmpty$Refused" "GoodHalfEmpty$Refusal") ∈ lw_tbl := lw_at lw_m6 197 rfl
theorem in_X18 : ∀ w ∈ wsX180, w ∈ lw_all := lw_in wsX180 [409, 411, 413, 415, 417, 462, 456] (by decide +kernel) (by decide +kernel)

/-! GoodHalfEmpty$Reader -/
set_option maxRecDepth 100000
def RX19 : String := "GoodHalfEmpty$Reader"
def TX19 : u_T := fun k => match k with
  | 0 => ("GoodHalfEmpty$Reader", "size", "I", true)
  | 1 => ("GoodHalfEmpty$Reader", "at", "I", false)
  | _ => ("GoodHalfEmpty$Reader", "this$0", "LGoodHalfEmpty;", true)
def tyX19 : Nat → FieldType := fun k => match k with
  | 0 => .int
  | 1 => .int
  | _ => .object "GoodHalfEmpty"
abbrev wsX190 : List Cond := u_ws RX19 TX19 3
theorem nmX19 : ∀ a, a < 3 → ∀ b, b < 3 → a ≠ b → (TX19 a).2.1 ≠ (TX19 b).2.1 := by decide +kernel
theorem tyX19_ok : ∀ k, k < 3 → parseFieldDescriptor (TX19 k).2.2.1 = some (tyX19 k) := by decide +kernel
abbrev cX19_init : ByteArray := prog_13_method_1_code
def yX19_init : MethodName := ⟨RX19, "<init>", "(LGoodHalfEmpty;)V"⟩
def dkwX19_init_0 : List UInt8 := [42, 43, 181, 0, 1, 42, 183, 0, 7, 42, 42, 180, 0, 1, 180, 0, 13, 181, 0, 19, 177]
abbrev dktX19_init_0 : List UInt8 := dkwX19_init_0 ++ []
theorem dksX19_init_0 : cX19_init.data.toList.drop 0 = dktX19_init_0 := by decide +kernel
theorem dX19_init_0 : decode cX19_init 0 = .ok (.aload_n 0, 1) := dk_42 (dk_at dksX19_init_0 0 rfl rfl)
theorem dX19_init_1 : decode cX19_init 1 = .ok (.aload_n 1, 1) := dk_43 (dk_at dksX19_init_0 1 rfl rfl)
theorem dX19_init_2 : decode cX19_init 2 = .ok (.putfield 1, 3) := dk_181 0 1 (dk_at dksX19_init_0 2 rfl rfl)
theorem dX19_init_5 : decode cX19_init 5 = .ok (.aload_n 0, 1) := dk_42 (dk_at dksX19_init_0 5 rfl rfl)
theorem dX19_init_6 : decode cX19_init 6 = .ok (.invokespecial 7, 3) := dk_183 0 7 (dk_at dksX19_init_0 6 rfl rfl)
theorem dX19_init_9 : decode cX19_init 9 = .ok (.aload_n 0, 1) := dk_42 (dk_at dksX19_init_0 9 rfl rfl)
theorem dX19_init_10 : decode cX19_init 10 = .ok (.aload_n 0, 1) := dk_42 (dk_at dksX19_init_0 10 rfl rfl)
theorem dX19_init_11 : decode cX19_init 11 = .ok (.getfield 1, 3) := dk_180 0 1 (dk_at dksX19_init_0 11 rfl rfl)
theorem dX19_init_14 : decode cX19_init 14 = .ok (.getfield 13, 3) := dk_180 0 13 (dk_at dksX19_init_0 14 rfl rfl)
theorem dX19_init_17 : decode cX19_init 17 = .ok (.putfield 19, 3) := dk_181 0 19 (dk_at dksX19_init_0 17 rfl rfl)
theorem dX19_init_20 : decode cX19_init 20 = .ok (.return_, 1) := dk_177 (dk_at dksX19_init_0 20 rfl rfl)
abbrev cX19_statement : ByteArray := prog_13_method_7_code
def yX19_statement : MethodName := ⟨RX19, "statement", "()LGoodHalfEmpty$Told;"⟩
def dkwX19_statement_5 : List UInt8 := [182, 0, 71, 45, 176]
abbrev dktX19_statement_5 : List UInt8 := dkwX19_statement_5 ++ []
def dkwX19_statement_4 : List UInt8 := [28, 16, 115, 160, 0, 11, 42, 27, 182, 0, 64, 167, 0, 8, 42, 27, 182, 0, 68, 78, 42, 16, 59]
abbrev dktX19_statement_4 : List UInt8 := dkwX19_statement_4 ++ dktX19_statement_5
def dkwX19_statement_3 : List UInt8 := [167, 0, 43, 28, 16, 119, 160, 0, 18, 187, 0, 61, 89, 27, 42, 182, 0, 55, 183, 0, 63, 167, 0, 22]
abbrev dktX19_statement_3 : List UInt8 := dkwX19_statement_3 ++ dktX19_statement_4
def dkwX19_statement_2 : List UInt8 := [4, 96, 181, 0, 22, 28, 16, 99, 160, 0, 18, 187, 0, 53, 89, 27, 42, 182, 0, 55, 183, 0, 58]
abbrev dktX19_statement_2 : List UInt8 := dkwX19_statement_2 ++ dktX19_statement_3
def dkwX19_statement_1 : List UInt8 := [16, 114, 159, 0, 9, 28, 16, 119, 160, 0, 7, 4, 167, 0, 4, 3, 182, 0, 38, 42, 89, 180, 0, 22]
abbrev dktX19_statement_1 : List UInt8 := dkwX19_statement_1 ++ dktX19_statement_2
def dkwX19_statement_0 : List UInt8 := [42, 180, 0, 22, 60, 42, 182, 0, 34, 61, 42, 28, 16, 99, 159, 0, 21, 28, 16, 115, 159, 0, 15, 28]
abbrev dktX19_statement_0 : List UInt8 := dkwX19_statement_0 ++ dktX19_statement_1
theorem dksX19_statement_0 : cX19_statement.data.toList.drop 0 = dktX19_statement_0 := by decide +kernel
theorem dksX19_statement_1 : cX19_statement.data.toList.drop 24 = dktX19_statement_1 := dk_seg dksX19_statement_0 24 rfl rfl
theorem dksX19_statement_2 : cX19_statement.data.toList.drop 48 = dktX19_statement_2 := dk_seg dksX19_statement_1 24 rfl rfl
theorem dksX19_statement_3 : cX19_statement.data.toList.drop 71 = dktX19_statement_3 := dk_seg dksX19_statement_2 23 rfl rfl
theorem dksX19_statement_4 : cX19_statement.data.toList.drop 95 = dktX19_statement_4 := dk_seg dksX19_statement_3 24 rfl rfl
theorem dksX19_statement_5 : cX19_statement.data.toList.drop 118 = dktX19_statement_5 := dk_seg dksX19_statement_4 23 rfl rfl
theorem dX19_statement_0 : decode cX19_statement 0 = .ok (.aload_n 0, 1) := dk_42 (dk_at dksX19_statement_0 0 rfl rfl)
theorem dX19_statement_1 : decode cX19_statement 1 = .ok (.getfield 22, 3) := dk_180 0 22 (dk_at dksX19_statement_0 1 rfl rfl)
theorem dX19_statement_4 : decode cX19_statement 4 = .ok (.istore_n 1, 1) := dk_60 (dk_at dksX19_statement_0 4 rfl rfl)
theorem dX19_statement_5 : decode cX19_statement 5 = .ok (.aload_n 0, 1) := dk_42 (dk_at dksX19_statement_0 5 rfl rfl)
theorem dX19_statement_6 : decode cX19_statement 6 = .ok (.invokevirtual 34, 3) := dk_182 0 34 (dk_at dksX19_statement_0 6 rfl rfl)
theorem dX19_statement_9 : decode cX19_statement 9 = .ok (.istore_n 2, 1) := dk_61 (dk_at dksX19_statement_0 9 rfl rfl)
theorem dX19_statement_10 : decode cX19_statement 10 = .ok (.aload_n 0, 1) := dk_42 (dk_at dksX19_statement_0 10 rfl rfl)
theorem dX19_statement_11 : decode cX19_statement 11 = .ok (.iload_n 2, 1) := dk_28 (dk_at dksX19_statement_0 11 rfl rfl)
theorem dX19_statement_12 : decode cX19_statement 12 = .ok (.bipush 99, 2) := dk_16 99 (dk_at dksX19_statement_0 12 rfl rfl)
theorem dX19_statement_14 : decode cX19_statement 14 = .ok (.if_icmp .eq 21, 3) := dk_159 0 21 (dk_at dksX19_statement_0 14 rfl rfl)
theorem dX19_statement_17 : decode cX19_statement 17 = .ok (.iload_n 2, 1) := dk_28 (dk_at dksX19_statement_0 17 rfl rfl)
theorem dX19_statement_18 : decode cX19_statement 18 = .ok (.bipush 115, 2) := dk_16 115 (dk_at dksX19_statement_0 18 rfl rfl)
theorem dX19_statement_20 : decode cX19_statement 20 = .ok (.if_icmp .eq 15, 3) := dk_159 0 15 (dk_at dksX19_statement_0 20 rfl rfl)
theorem dX19_statement_23 : decode cX19_statement 23 = .ok (.iload_n 2, 1) := dk_28 (dk_at dksX19_statement_0 23 rfl rfl)
theorem dX19_statement_24 : decode cX19_statement 24 = .ok (.bipush 114, 2) := dk_16 114 (dk_at dksX19_statement_1 0 rfl rfl)
theorem dX19_statement_26 : decode cX19_statement 26 = .ok (.if_icmp .eq 9, 3) := dk_159 0 9 (dk_at dksX19_statement_1 2 rfl rfl)
theorem dX19_statement_29 : decode cX19_statement 29 = .ok (.iload_n 2, 1) := dk_28 (dk_at dksX19_statement_1 5 rfl rfl)
theorem dX19_statement_30 : decode cX19_statement 30 = .ok (.bipush 119, 2) := dk_16 119 (dk_at dksX19_statement_1 6 rfl rfl)
theorem dX19_statement_32 : decode cX19_statement 32 = .ok (.if_icmp .ne 7, 3) := dk_160 0 7 (dk_at dksX19_statement_1 8 rfl rfl)
theorem dX19_statement_35 : decode cX19_statement 35 = .ok (.iconst 1, 1) := dk_4 (dk_at dksX19_statement_1 11 rfl rfl)
theorem dX19_statement_36 : decode cX19_statement 36 = .ok (.goto 4, 3) := dk_167 0 4 (dk_at dksX19_statement_1 12 rfl rfl)
theorem dX19_statement_39 : decode cX19_statement 39 = .ok (.iconst 0, 1) := dk_3 (dk_at dksX19_statement_1 15 rfl rfl)
theorem dX19_statement_40 : decode cX19_statement 40 = .ok (.invokevirtual 38, 3) := dk_182 0 38 (dk_at dksX19_statement_1 16 rfl rfl)
theorem dX19_statement_43 : decode cX19_statement 43 = .ok (.aload_n 0, 1) := dk_42 (dk_at dksX19_statement_1 19 rfl rfl)
theorem dX19_statement_44 : decode cX19_statement 44 = .ok (.dup, 1) := dk_89 (dk_at dksX19_statement_1 20 rfl rfl)
theorem dX19_statement_45 : decode cX19_statement 45 = .ok (.getfield 22, 3) := dk_180 0 22 (dk_at dksX19_statement_1 21 rfl rfl)
theorem dX19_statement_48 : decode cX19_statement 48 = .ok (.iconst 1, 1) := dk_4 (dk_at dksX19_statement_2 0 rfl rfl)
theorem dX19_statement_49 : decode cX19_statement 49 = .ok (.iadd, 1) := dk_96 (dk_at dksX19_statement_2 1 rfl rfl)
theorem dX19_statement_50 : decode cX19_statement 50 = .ok (.putfield 22, 3) := dk_181 0 22 (dk_at dksX19_statement_2 2 rfl rfl)
theorem dX19_statement_53 : decode cX19_statement 53 = .ok (.iload_n 2, 1) := dk_28 (dk_at dksX19_statement_2 5 rfl rfl)
theorem dX19_statement_54 : decode cX19_statement 54 = .ok (.bipush 99, 2) := dk_16 99 (dk_at dksX19_statement_2 6 rfl rfl)
theorem dX19_statement_56 : decode cX19_statement 56 = .ok (.if_icmp .ne 18, 3) := dk_160 0 18 (dk_at dksX19_statement_2 8 rfl rfl)
theorem dX19_statement_59 : decode cX19_statement 59 = .ok (.new 53, 3) := dk_187 0 53 (dk_at dksX19_statement_2 11 rfl rfl)
theorem dX19_statement_62 : decode cX19_statement 62 = .ok (.dup, 1) := dk_89 (dk_at dksX19_statement_2 14 rfl rfl)
theorem dX19_statement_63 : decode cX19_statement 63 = .ok (.iload_n 1, 1) := dk_27 (dk_at dksX19_statement_2 15 rfl rfl)
theorem dX19_statement_64 : decode cX19_statement 64 = .ok (.aload_n 0, 1) := dk_42 (dk_at dksX19_statement_2 16 rfl rfl)
theorem dX19_statement_65 : decode cX19_statement 65 = .ok (.invokevirtual 55, 3) := dk_182 0 55 (dk_at dksX19_statement_2 17 rfl rfl)
theorem dX19_statement_68 : decode cX19_statement 68 = .ok (.invokespecial 58, 3) := dk_183 0 58 (dk_at dksX19_statement_2 20 rfl rfl)
theorem dX19_statement_71 : decode cX19_statement 71 = .ok (.goto 43, 3) := dk_167 0 43 (dk_at dksX19_statement_3 0 rfl rfl)
theorem dX19_statement_74 : decode cX19_statement 74 = .ok (.iload_n 2, 1) := dk_28 (dk_at dksX19_statement_3 3 rfl rfl)
theorem dX19_statement_75 : decode cX19_statement 75 = .ok (.bipush 119, 2) := dk_16 119 (dk_at dksX19_statement_3 4 rfl rfl)
theorem dX19_statement_77 : decode cX19_statement 77 = .ok (.if_icmp .ne 18, 3) := dk_160 0 18 (dk_at dksX19_statement_3 6 rfl rfl)
theorem dX19_statement_80 : decode cX19_statement 80 = .ok (.new 61, 3) := dk_187 0 61 (dk_at dksX19_statement_3 9 rfl rfl)
theorem dX19_statement_83 : decode cX19_statement 83 = .ok (.dup, 1) := dk_89 (dk_at dksX19_statement_3 12 rfl rfl)
theorem dX19_statement_84 : decode cX19_statement 84 = .ok (.iload_n 1, 1) := dk_27 (dk_at dksX19_statement_3 13 rfl rfl)
theorem dX19_statement_85 : decode cX19_statement 85 = .ok (.aload_n 0, 1) := dk_42 (dk_at dksX19_statement_3 14 rfl rfl)
theorem dX19_statement_86 : decode cX19_statement 86 = .ok (.invokevirtual 55, 3) := dk_182 0 55 (dk_at dksX19_statement_3 15 rfl rfl)
theorem dX19_statement_89 : decode cX19_statement 89 = .ok (.invokespecial 63, 3) := dk_183 0 63 (dk_at dksX19_statement_3 18 rfl rfl)
theorem dX19_statement_92 : decode cX19_statement 92 = .ok (.goto 22, 3) := dk_167 0 22 (dk_at dksX19_statement_3 21 rfl rfl)
theorem dX19_statement_95 : decode cX19_statement 95 = .ok (.iload_n 2, 1) := dk_28 (dk_at dksX19_statement_4 0 rfl rfl)
theorem dX19_statement_96 : decode cX19_statement 96 = .ok (.bipush 115, 2) := dk_16 115 (dk_at dksX19_statement_4 1 rfl rfl)
theorem dX19_statement_98 : decode cX19_statement 98 = .ok (.if_icmp .ne 11, 3) := dk_160 0 11 (dk_at dksX19_statement_4 3 rfl rfl)
theorem dX19_statement_101 : decode cX19_statement 101 = .ok (.aload_n 0, 1) := dk_42 (dk_at dksX19_statement_4 6 rfl rfl)
theorem dX19_statement_102 : decode cX19_statement 102 = .ok (.iload_n 1, 1) := dk_27 (dk_at dksX19_statement_4 7 rfl rfl)
theorem dX19_statement_103 : decode cX19_statement 103 = .ok (.invokevirtual 64, 3) := dk_182 0 64 (dk_at dksX19_statement_4 8 rfl rfl)
theorem dX19_statement_106 : decode cX19_statement 106 = .ok (.goto 8, 3) := dk_167 0 8 (dk_at dksX19_statement_4 11 rfl rfl)
theorem dX19_statement_109 : decode cX19_statement 109 = .ok (.aload_n 0, 1) := dk_42 (dk_at dksX19_statement_4 14 rfl rfl)
theorem dX19_statement_110 : decode cX19_statement 110 = .ok (.iload_n 1, 1) := dk_27 (dk_at dksX19_statement_4 15 rfl rfl)
theorem dX19_statement_111 : decode cX19_statement 111 = .ok (.invokevirtual 68, 3) := dk_182 0 68 (dk_at dksX19_statement_4 16 rfl rfl)
theorem dX19_statement_114 : decode cX19_statement 114 = .ok (.astore_n 3, 1) := dk_78 (dk_at dksX19_statement_4 19 rfl rfl)
theorem dX19_statement_115 : decode cX19_statement 115 = .ok (.aload_n 0, 1) := dk_42 (dk_at dksX19_statement_4 20 rfl rfl)
theorem dX19_statement_116 : decode cX19_statement 116 = .ok (.bipush 59, 2) := dk_16 59 (dk_at dksX19_statement_4 21 rfl rfl)
theorem dX19_statement_118 : decode cX19_statement 118 = .ok (.invokevirtual 71, 3) := dk_182 0 71 (dk_at dksX19_statement_5 0 rfl rfl)
theorem dX19_statement_121 : decode cX19_statement 121 = .ok (.aload_n 3, 1) := dk_45 (dk_at dksX19_statement_5 3 rfl rfl)
theorem dX19_statement_122 : decode cX19_statement 122 = .ok (.areturn, 1) := dk_176 (dk_at dksX19_statement_5 4 rfl rfl)
abbrev cX19_here : ByteArray := prog_13_method_2_code
def yX19_here : MethodName := ⟨RX19, "here", "()I"⟩
def dkwX19_here_1 : List UInt8 := [167, 0, 4, 2, 172]
abbrev dktX19_here_1 : List UInt8 := dkwX19_here_1 ++ []
def dkwX19_here_0 : List UInt8 := [42, 180, 0, 22, 42, 180, 0, 19, 162, 0, 18, 42, 180, 0, 1, 180, 0, 25, 42, 180, 0, 22, 52]
abbrev dktX19_here_0 : List UInt8 := dkwX19_here_0 ++ dktX19_here_1
theorem dksX19_here_0 : cX19_here.data.toList.drop 0 = dktX19_here_0 := by decide +kernel
theorem dksX19_here_1 : cX19_here.data.toList.drop 23 = dktX19_here_1 := dk_seg dksX19_here_0 23 rfl rfl
theorem dX19_here_0 : decode cX19_here 0 = .ok (.aload_n 0, 1) := dk_42 (dk_at dksX19_here_0 0 rfl rfl)
theorem dX19_here_1 : decode cX19_here 1 = .ok (.getfield 22, 3) := dk_180 0 22 (dk_at dksX19_here_0 1 rfl rfl)
theorem dX19_here_4 : decode cX19_here 4 = .ok (.aload_n 0, 1) := dk_42 (dk_at dksX19_here_0 4 rfl rfl)
theorem dX19_here_5 : decode cX19_here 5 = .ok (.getfield 19, 3) := dk_180 0 19 (dk_at dksX19_here_0 5 rfl rfl)
theorem dX19_here_8 : decode cX19_here 8 = .ok (.if_icmp .ge 18, 3) := dk_162 0 18 (dk_at dksX19_here_0 8 rfl rfl)
theorem dX19_here_11 : decode cX19_here 11 = .ok (.aload_n 0, 1) := dk_42 (dk_at dksX19_here_0 11 rfl rfl)
theorem dX19_here_12 : decode cX19_here 12 = .ok (.getfield 1, 3) := dk_180 0 1 (dk_at dksX19_here_0 12 rfl rfl)
theorem dX19_here_15 : decode cX19_here 15 = .ok (.getfield 25, 3) := dk_180 0 25 (dk_at dksX19_here_0 15 rfl rfl)
theorem dX19_here_18 : decode cX19_here 18 = .ok (.aload_n 0, 1) := dk_42 (dk_at dksX19_here_0 18 rfl rfl)
theorem dX19_here_19 : decode cX19_here 19 = .ok (.getfield 22, 3) := dk_180 0 22 (dk_at dksX19_here_0 19 rfl rfl)
theorem dX19_here_22 : decode cX19_here 22 = .ok (.caload, 1) := dk_52 (dk_at dksX19_here_0 22 rfl rfl)
theorem dX19_here_23 : decode cX19_here 23 = .ok (.goto 4, 3) := dk_167 0 4 (dk_at dksX19_here_1 0 rfl rfl)
theorem dX19_here_26 : decode cX19_here 26 = .ok (.iconst (-1), 1) := dk_2 (dk_at dksX19_here_1 3 rfl rfl)
theorem dX19_here_27 : decode cX19_here 27 = .ok (.ireturn, 1) := dk_172 (dk_at dksX19_here_1 4 rfl rfl)
abbrev cX19_mustStand : ByteArray := prog_13_method_3_code
def yX19_mustStand : MethodName := ⟨RX19, "mustStand", "(Z)V"⟩
def dkwX19_mustStand_0 : List UInt8 := [27, 154, 0, 19, 187, 0, 29, 89, 17, 252, 24, 42, 180, 0, 22, 100, 183, 0, 31, 191, 177]
abbrev dktX19_mustStand_0 : List UInt8 := dkwX19_mustStand_0 ++ []
theorem dksX19_mustStand_0 : cX19_mustStand.data.toList.drop 0 = dktX19_mustStand_0 := by decide +kernel
theorem dX19_mustStand_0 : decode cX19_mustStand 0 = .ok (.iload_n 1, 1) := dk_27 (dk_at dksX19_mustStand_0 0 rfl rfl)
theorem dX19_mustStand_1 : decode cX19_mustStand 1 = .ok (.ifCond .ne 19, 3) := dk_154 0 19 (dk_at dksX19_mustStand_0 1 rfl rfl)
theorem dX19_mustStand_4 : decode cX19_mustStand 4 = .ok (.new 29, 3) := dk_187 0 29 (dk_at dksX19_mustStand_0 4 rfl rfl)
theorem dX19_mustStand_7 : decode cX19_mustStand 7 = .ok (.dup, 1) := dk_89 (dk_at dksX19_mustStand_0 7 rfl rfl)
theorem dX19_mustStand_8 : decode cX19_mustStand 8 = .ok (.sipush (-1000), 3) := dk_17 252 24 (dk_at dksX19_mustStand_0 8 rfl rfl)
theorem dX19_mustStand_11 : decode cX19_mustStand 11 = .ok (.aload_n 0, 1) := dk_42 (dk_at dksX19_mustStand_0 11 rfl rfl)
theorem dX19_mustStand_12 : decode cX19_mustStand 12 = .ok (.getfield 22, 3) := dk_180 0 22 (dk_at dksX19_mustStand_0 12 rfl rfl)
theorem dX19_mustStand_15 : decode cX19_mustStand 15 = .ok (.isub, 1) := dk_100 (dk_at dksX19_mustStand_0 15 rfl rfl)
theorem dX19_mustStand_16 : decode cX19_mustStand 16 = .ok (.invokespecial 31, 3) := dk_183 0 31 (dk_at dksX19_mustStand_0 16 rfl rfl)
theorem dX19_mustStand_19 : decode cX19_mustStand 19 = .ok (.athrow, 1) := dk_191 (dk_at dksX19_mustStand_0 19 rfl rfl)
theorem dX19_mustStand_20 : decode cX19_mustStand 20 = .ok (.return_, 1) := dk_177 (dk_at dksX19_mustStand_0 20 rfl rfl)
abbrev cX19_number : ByteArray := prog_13_method_6_code
def yX19_number : MethodName := ⟨RX19, "number", "()I"⟩
def dkwX19_number_1 : List UInt8 := [27, 104, 42, 182, 0, 50, 96, 167, 0, 4, 27, 172]
abbrev dktX19_number_1 : List UInt8 := dkwX19_number_1 ++ []
def dkwX19_number_0 : List UInt8 := [42, 182, 0, 50, 60, 42, 182, 0, 34, 133, 20, 0, 42, 20, 0, 44, 184, 0, 46, 153, 0, 15, 16, 10]
abbrev dktX19_number_0 : List UInt8 := dkwX19_number_0 ++ dktX19_number_1
theorem dksX19_number_0 : cX19_number.data.toList.drop 0 = dktX19_number_0 := by decide +kernel
theorem dksX19_number_1 : cX19_number.data.toList.drop 24 = dktX19_number_1 := dk_seg dksX19_number_0 24 rfl rfl
theorem dX19_number_0 : decode cX19_number 0 = .ok (.aload_n 0, 1) := dk_42 (dk_at dksX19_number_0 0 rfl rfl)
theorem dX19_number_1 : decode cX19_number 1 = .ok (.invokevirtual 50, 3) := dk_182 0 50 (dk_at dksX19_number_0 1 rfl rfl)
theorem dX19_number_4 : decode cX19_number 4 = .ok (.istore_n 1, 1) := dk_60 (dk_at dksX19_number_0 4 rfl rfl)
theorem dX19_number_5 : decode cX19_number 5 = .ok (.aload_n 0, 1) := dk_42 (dk_at dksX19_number_0 5 rfl rfl)
theorem dX19_number_6 : decode cX19_number 6 = .ok (.invokevirtual 34, 3) := dk_182 0 34 (dk_at dksX19_number_0 6 rfl rfl)
theorem dX19_number_9 : decode cX19_number 9 = .ok (.i2l, 1) := dk_133 (dk_at dksX19_number_0 9 rfl rfl)
theorem dX19_number_10 : decode cX19_number 10 = .ok (.ldc2_w 42, 3) := dk_20 0 42 (dk_at dksX19_number_0 10 rfl rfl)
theorem dX19_number_13 : decode cX19_number 13 = .ok (.ldc2_w 44, 3) := dk_20 0 44 (dk_at dksX19_number_0 13 rfl rfl)
theorem dX19_number_16 : decode cX19_number 16 = .ok (.invokestatic 46, 3) := dk_184 0 46 (dk_at dksX19_number_0 16 rfl rfl)
theorem dX19_number_19 : decode cX19_number 19 = .ok (.ifCond .eq 15, 3) := dk_153 0 15 (dk_at dksX19_number_0 19 rfl rfl)
theorem dX19_number_22 : decode cX19_number 22 = .ok (.bipush 10, 2) := dk_16 10 (dk_at dksX19_number_0 22 rfl rfl)
theorem dX19_number_24 : decode cX19_number 24 = .ok (.iload_n 1, 1) := dk_27 (dk_at dksX19_number_1 0 rfl rfl)
theorem dX19_number_25 : decode cX19_number 25 = .ok (.imul, 1) := dk_104 (dk_at dksX19_number_1 1 rfl rfl)
theorem dX19_number_26 : decode cX19_number 26 = .ok (.aload_n 0, 1) := dk_42 (dk_at dksX19_number_1 2 rfl rfl)
theorem dX19_number_27 : decode cX19_number 27 = .ok (.invokevirtual 50, 3) := dk_182 0 50 (dk_at dksX19_number_1 3 rfl rfl)
theorem dX19_number_30 : decode cX19_number 30 = .ok (.iadd, 1) := dk_96 (dk_at dksX19_number_1 6 rfl rfl)
theorem dX19_number_31 : decode cX19_number 31 = .ok (.goto 4, 3) := dk_167 0 4 (dk_at dksX19_number_1 7 rfl rfl)
theorem dX19_number_34 : decode cX19_number 34 = .ok (.iload_n 1, 1) := dk_27 (dk_at dksX19_number_1 10 rfl rfl)
theorem dX19_number_35 : decode cX19_number 35 = .ok (.ireturn, 1) := dk_172 (dk_at dksX19_number_1 11 rfl rfl)
abbrev cX19_digit : ByteArray := prog_13_method_5_code
def yX19_digit : MethodName := ⟨RX19, "digit", "()I"⟩
def dkwX19_digit_1 : List UInt8 := [96, 181, 0, 22, 42, 180, 0, 1, 180, 0, 25, 42, 180, 0, 22, 4, 100, 52, 16, 48, 100, 172]
abbrev dktX19_digit_1 : List UInt8 := dkwX19_digit_1 ++ []
def dkwX19_digit_0 : List UInt8 := [42, 42, 182, 0, 34, 133, 20, 0, 42, 20, 0, 44, 184, 0, 46, 182, 0, 38, 42, 89, 180, 0, 22, 4]
abbrev dktX19_digit_0 : List UInt8 := dkwX19_digit_0 ++ dktX19_digit_1
theorem dksX19_digit_0 : cX19_digit.data.toList.drop 0 = dktX19_digit_0 := by decide +kernel
theorem dksX19_digit_1 : cX19_digit.data.toList.drop 24 = dktX19_digit_1 := dk_seg dksX19_digit_0 24 rfl rfl
theorem dX19_digit_0 : decode cX19_digit 0 = .ok (.aload_n 0, 1) := dk_42 (dk_at dksX19_digit_0 0 rfl rfl)
theorem dX19_digit_1 : decode cX19_digit 1 = .ok (.aload_n 0, 1) := dk_42 (dk_at dksX19_digit_0 1 rfl rfl)
theorem dX19_digit_2 : decode cX19_digit 2 = .ok (.invokevirtual 34, 3) := dk_182 0 34 (dk_at dksX19_digit_0 2 rfl rfl)
theorem dX19_digit_5 : decode cX19_digit 5 = .ok (.i2l, 1) := dk_133 (dk_at dksX19_digit_0 5 rfl rfl)
theorem dX19_digit_6 : decode cX19_digit 6 = .ok (.ldc2_w 42, 3) := dk_20 0 42 (dk_at dksX19_digit_0 6 rfl rfl)
theorem dX19_digit_9 : decode cX19_digit 9 = .ok (.ldc2_w 44, 3) := dk_20 0 44 (dk_at dksX19_digit_0 9 rfl rfl)
theorem dX19_digit_12 : decode cX19_digit 12 = .ok (.invokestatic 46, 3) := dk_184 0 46 (dk_at dksX19_digit_0 12 rfl rfl)
theorem dX19_digit_15 : decode cX19_digit 15 = .ok (.invokevirtual 38, 3) := dk_182 0 38 (dk_at dksX19_digit_0 15 rfl rfl)
theorem dX19_digit_18 : decode cX19_digit 18 = .ok (.aload_n 0, 1) := dk_42 (dk_at dksX19_digit_0 18 rfl rfl)
theorem dX19_digit_19 : decode cX19_digit 19 = .ok (.dup, 1) := dk_89 (dk_at dksX19_digit_0 19 rfl rfl)
theorem dX19_digit_20 : decode cX19_digit 20 = .ok (.getfield 22, 3) := dk_180 0 22 (dk_at dksX19_digit_0 20 rfl rfl)
theorem dX19_digit_23 : decode cX19_digit 23 = .ok (.iconst 1, 1) := dk_4 (dk_at dksX19_digit_0 23 rfl rfl)
theorem dX19_digit_24 : decode cX19_digit 24 = .ok (.iadd, 1) := dk_96 (dk_at dksX19_digit_1 0 rfl rfl)
theorem dX19_digit_25 : decode cX19_digit 25 = .ok (.putfield 22, 3) := dk_181 0 22 (dk_at dksX19_digit_1 1 rfl rfl)
theorem dX19_digit_28 : decode cX19_digit 28 = .ok (.aload_n 0, 1) := dk_42 (dk_at dksX19_digit_1 4 rfl rfl)
theorem dX19_digit_29 : decode cX19_digit 29 = .ok (.getfield 1, 3) := dk_180 0 1 (dk_at dksX19_digit_1 5 rfl rfl)
theorem dX19_digit_32 : decode cX19_digit 32 = .ok (.getfield 25, 3) := dk_180 0 25 (dk_at dksX19_digit_1 8 rfl rfl)
theorem dX19_digit_35 : decode cX19_digit 35 = .ok (.aload_n 0, 1) := dk_42 (dk_at dksX19_digit_1 11 rfl rfl)
theorem dX19_digit_36 : decode cX19_digit 36 = .ok (.getfield 22, 3) := dk_180 0 22 (dk_at dksX19_digit_1 12 rfl rfl)
theorem dX19_digit_39 : decode cX19_digit 39 = .ok (.iconst 1, 1) := dk_4 (dk_at dksX19_digit_1 15 rfl rfl)
theorem dX19_digit_40 : decode cX19_digit 40 = .ok (.isub, 1) := dk_100 (dk_at dksX19_digit_1 16 rfl rfl)
theorem dX19_digit_41 : decode cX19_digit 41 = .ok (.caload, 1) := dk_52 (dk_at dksX19_digit_1 17 rfl rfl)
theorem dX19_digit_42 : decode cX19_digit 42 = .ok (.bipush 48, 2) := dk_16 48 (dk_at dksX19_digit_1 18 rfl rfl)
theorem dX19_digit_44 : decode cX19_digit 44 = .ok (.isub, 1) := dk_100 (dk_at dksX19_digit_1 20 rfl rfl)
theorem dX19_digit_45 : decode cX19_digit 45 = .ok (.ireturn, 1) := dk_172 (dk_at dksX19_digit_1 21 rfl rfl)
abbrev cX19_sort : ByteArray := prog_13_method_8_code
def yX19_sort : MethodName := ⟨RX19, "sort", "(I)LGoodHalfEmpty$Told;"⟩
def dkwX19_sort_4 : List UInt8 := [183, 0, 89, 176]
abbrev dktX19_sort_4 : List UInt8 := dkwX19_sort_4 ++ []
def dkwX19_sort_3 : List UInt8 := [42, 180, 0, 1, 180, 0, 82, 29, 50, 28, 21, 4, 21, 5, 21, 6, 42, 182, 0, 50, 183, 0, 86]
abbrev dktX19_sort_3 : List UInt8 := dkwX19_sort_3 ++ dktX19_sort_4
def dkwX19_sort_2 : List UInt8 := [182, 0, 71, 42, 182, 0, 50, 54, 5, 42, 182, 0, 50, 54, 6, 187, 0, 78, 89, 27, 187, 0, 80, 89]
abbrev dktX19_sort_2 : List UInt8 := dkwX19_sort_2 ++ dktX19_sort_3
def dkwX19_sort_1 : List UInt8 := [182, 0, 38, 42, 89, 180, 0, 22, 4, 96, 181, 0, 22, 42, 182, 0, 50, 54, 4, 42, 16, 44]
abbrev dktX19_sort_1 : List UInt8 := dkwX19_sort_1 ++ dktX19_sort_2
def dkwX19_sort_0 : List UInt8 := [42, 182, 0, 50, 61, 42, 42, 182, 0, 34, 182, 0, 74, 62, 42, 29, 155, 0, 7, 4, 167, 0, 4, 3]
abbrev dktX19_sort_0 : List UInt8 := dkwX19_sort_0 ++ dktX19_sort_1
theorem dksX19_sort_0 : cX19_sort.data.toList.drop 0 = dktX19_sort_0 := by decide +kernel
theorem dksX19_sort_1 : cX19_sort.data.toList.drop 24 = dktX19_sort_1 := dk_seg dksX19_sort_0 24 rfl rfl
theorem dksX19_sort_2 : cX19_sort.data.toList.drop 46 = dktX19_sort_2 := dk_seg dksX19_sort_1 22 rfl rfl
theorem dksX19_sort_3 : cX19_sort.data.toList.drop 70 = dktX19_sort_3 := dk_seg dksX19_sort_2 24 rfl rfl
theorem dksX19_sort_4 : cX19_sort.data.toList.drop 93 = dktX19_sort_4 := dk_seg dksX19_sort_3 23 rfl rfl
theorem dX19_sort_0 : decode cX19_sort 0 = .ok (.aload_n 0, 1) := dk_42 (dk_at dksX19_sort_0 0 rfl rfl)
theorem dX19_sort_1 : decode cX19_sort 1 = .ok (.invokevirtual 50, 3) := dk_182 0 50 (dk_at dksX19_sort_0 1 rfl rfl)
theorem dX19_sort_4 : decode cX19_sort 4 = .ok (.istore_n 2, 1) := dk_61 (dk_at dksX19_sort_0 4 rfl rfl)
theorem dX19_sort_5 : decode cX19_sort 5 = .ok (.aload_n 0, 1) := dk_42 (dk_at dksX19_sort_0 5 rfl rfl)
theorem dX19_sort_6 : decode cX19_sort 6 = .ok (.aload_n 0, 1) := dk_42 (dk_at dksX19_sort_0 6 rfl rfl)
theorem dX19_sort_7 : decode cX19_sort 7 = .ok (.invokevirtual 34, 3) := dk_182 0 34 (dk_at dksX19_sort_0 7 rfl rfl)
theorem dX19_sort_10 : decode cX19_sort 10 = .ok (.invokevirtual 74, 3) := dk_182 0 74 (dk_at dksX19_sort_0 10 rfl rfl)
theorem dX19_sort_13 : decode cX19_sort 13 = .ok (.istore_n 3, 1) := dk_62 (dk_at dksX19_sort_0 13 rfl rfl)
theorem dX19_sort_14 : decode cX19_sort 14 = .ok (.aload_n 0, 1) := dk_42 (dk_at dksX19_sort_0 14 rfl rfl)
theorem dX19_sort_15 : decode cX19_sort 15 = .ok (.iload_n 3, 1) := dk_29 (dk_at dksX19_sort_0 15 rfl rfl)
theorem dX19_sort_16 : decode cX19_sort 16 = .ok (.ifCond .lt 7, 3) := dk_155 0 7 (dk_at dksX19_sort_0 16 rfl rfl)
theorem dX19_sort_19 : decode cX19_sort 19 = .ok (.iconst 1, 1) := dk_4 (dk_at dksX19_sort_0 19 rfl rfl)
theorem dX19_sort_20 : decode cX19_sort 20 = .ok (.goto 4, 3) := dk_167 0 4 (dk_at dksX19_sort_0 20 rfl rfl)
theorem dX19_sort_23 : decode cX19_sort 23 = .ok (.iconst 0, 1) := dk_3 (dk_at dksX19_sort_0 23 rfl rfl)
theorem dX19_sort_24 : decode cX19_sort 24 = .ok (.invokevirtual 38, 3) := dk_182 0 38 (dk_at dksX19_sort_1 0 rfl rfl)
theorem dX19_sort_27 : decode cX19_sort 27 = .ok (.aload_n 0, 1) := dk_42 (dk_at dksX19_sort_1 3 rfl rfl)
theorem dX19_sort_28 : decode cX19_sort 28 = .ok (.dup, 1) := dk_89 (dk_at dksX19_sort_1 4 rfl rfl)
theorem dX19_sort_29 : decode cX19_sort 29 = .ok (.getfield 22, 3) := dk_180 0 22 (dk_at dksX19_sort_1 5 rfl rfl)
theorem dX19_sort_32 : decode cX19_sort 32 = .ok (.iconst 1, 1) := dk_4 (dk_at dksX19_sort_1 8 rfl rfl)
theorem dX19_sort_33 : decode cX19_sort 33 = .ok (.iadd, 1) := dk_96 (dk_at dksX19_sort_1 9 rfl rfl)
theorem dX19_sort_34 : decode cX19_sort 34 = .ok (.putfield 22, 3) := dk_181 0 22 (dk_at dksX19_sort_1 10 rfl rfl)
theorem dX19_sort_37 : decode cX19_sort 37 = .ok (.aload_n 0, 1) := dk_42 (dk_at dksX19_sort_1 13 rfl rfl)
theorem dX19_sort_38 : decode cX19_sort 38 = .ok (.invokevirtual 50, 3) := dk_182 0 50 (dk_at dksX19_sort_1 14 rfl rfl)
theorem dX19_sort_41 : decode cX19_sort 41 = .ok (.istore 4, 2) := dk_54 4 (dk_at dksX19_sort_1 17 rfl rfl)
theorem dX19_sort_43 : decode cX19_sort 43 = .ok (.aload_n 0, 1) := dk_42 (dk_at dksX19_sort_1 19 rfl rfl)
theorem dX19_sort_44 : decode cX19_sort 44 = .ok (.bipush 44, 2) := dk_16 44 (dk_at dksX19_sort_1 20 rfl rfl)
theorem dX19_sort_46 : decode cX19_sort 46 = .ok (.invokevirtual 71, 3) := dk_182 0 71 (dk_at dksX19_sort_2 0 rfl rfl)
theorem dX19_sort_49 : decode cX19_sort 49 = .ok (.aload_n 0, 1) := dk_42 (dk_at dksX19_sort_2 3 rfl rfl)
theorem dX19_sort_50 : decode cX19_sort 50 = .ok (.invokevirtual 50, 3) := dk_182 0 50 (dk_at dksX19_sort_2 4 rfl rfl)
theorem dX19_sort_53 : decode cX19_sort 53 = .ok (.istore 5, 2) := dk_54 5 (dk_at dksX19_sort_2 7 rfl rfl)
theorem dX19_sort_55 : decode cX19_sort 55 = .ok (.aload_n 0, 1) := dk_42 (dk_at dksX19_sort_2 9 rfl rfl)
theorem dX19_sort_56 : decode cX19_sort 56 = .ok (.invokevirtual 50, 3) := dk_182 0 50 (dk_at dksX19_sort_2 10 rfl rfl)
theorem dX19_sort_59 : decode cX19_sort 59 = .ok (.istore 6, 2) := dk_54 6 (dk_at dksX19_sort_2 13 rfl rfl)
theorem dX19_sort_61 : decode cX19_sort 61 = .ok (.new 78, 3) := dk_187 0 78 (dk_at dksX19_sort_2 15 rfl rfl)
theorem dX19_sort_64 : decode cX19_sort 64 = .ok (.dup, 1) := dk_89 (dk_at dksX19_sort_2 18 rfl rfl)
theorem dX19_sort_65 : decode cX19_sort 65 = .ok (.iload_n 1, 1) := dk_27 (dk_at dksX19_sort_2 19 rfl rfl)
theorem dX19_sort_66 : decode cX19_sort 66 = .ok (.new 80, 3) := dk_187 0 80 (dk_at dksX19_sort_2 20 rfl rfl)
theorem dX19_sort_69 : decode cX19_sort 69 = .ok (.dup, 1) := dk_89 (dk_at dksX19_sort_2 23 rfl rfl)
theorem dX19_sort_70 : decode cX19_sort 70 = .ok (.aload_n 0, 1) := dk_42 (dk_at dksX19_sort_3 0 rfl rfl)
theorem dX19_sort_71 : decode cX19_sort 71 = .ok (.getfield 1, 3) := dk_180 0 1 (dk_at dksX19_sort_3 1 rfl rfl)
theorem dX19_sort_74 : decode cX19_sort 74 = .ok (.getfield 82, 3) := dk_180 0 82 (dk_at dksX19_sort_3 4 rfl rfl)
theorem dX19_sort_77 : decode cX19_sort 77 = .ok (.iload_n 3, 1) := dk_29 (dk_at dksX19_sort_3 7 rfl rfl)
theorem dX19_sort_78 : decode cX19_sort 78 = .ok (.aaload, 1) := dk_50 (dk_at dksX19_sort_3 8 rfl rfl)
theorem dX19_sort_79 : decode cX19_sort 79 = .ok (.iload_n 2, 1) := dk_28 (dk_at dksX19_sort_3 9 rfl rfl)
theorem dX19_sort_80 : decode cX19_sort 80 = .ok (.iload 4, 2) := dk_21 4 (dk_at dksX19_sort_3 10 rfl rfl)
theorem dX19_sort_82 : decode cX19_sort 82 = .ok (.iload 5, 2) := dk_21 5 (dk_at dksX19_sort_3 12 rfl rfl)
theorem dX19_sort_84 : decode cX19_sort 84 = .ok (.iload 6, 2) := dk_21 6 (dk_at dksX19_sort_3 14 rfl rfl)
theorem dX19_sort_86 : decode cX19_sort 86 = .ok (.aload_n 0, 1) := dk_42 (dk_at dksX19_sort_3 16 rfl rfl)
theorem dX19_sort_87 : decode cX19_sort 87 = .ok (.invokevirtual 50, 3) := dk_182 0 50 (dk_at dksX19_sort_3 17 rfl rfl)
theorem dX19_sort_90 : decode cX19_sort 90 = .ok (.invokespecial 86, 3) := dk_183 0 86 (dk_at dksX19_sort_3 20 rfl rfl)
theorem dX19_sort_93 : decode cX19_sort 93 = .ok (.invokespecial 89, 3) := dk_183 0 89 (dk_at dksX19_sort_4 0 rfl rfl)
theorem dX19_sort_96 : decode cX19_sort 96 = .ok (.areturn, 1) := dk_176 (dk_at dksX19_sort_4 3 rfl rfl)
abbrev cX19_goerOf : ByteArray := prog_13_method_10_code
def yX19_goerOf : MethodName := ⟨RX19, "goerOf", "(I)I"⟩
def dkwX19_goerOf_2 : List UInt8 := [3, 172, 4, 172, 5, 172, 6, 172, 7, 172, 8, 172, 2, 172]
abbrev dktX19_goerOf_2 : List UInt8 := dkwX19_goerOf_2 ++ []
def dkwX19_goerOf_1 : List UInt8 := [171, 0, 0, 0, 0, 0, 71, 0, 0, 0, 6, 0, 0, 0, 97, 0, 0, 0, 59, 0, 0, 0, 101, 0, 0, 0, 69, 0, 0, 0, 104, 0, 0, 0, 65, 0, 0, 0, 110, 0, 0, 0, 61, 0, 0, 0, 114, 0, 0, 0, 63, 0, 0, 0, 117, 0, 0, 0, 67]
abbrev dktX19_goerOf_1 : List UInt8 := dkwX19_goerOf_1 ++ dktX19_goerOf_2
def dkwX19_goerOf_0 : List UInt8 := [27]
abbrev dktX19_goerOf_0 : List UInt8 := dkwX19_goerOf_0 ++ dktX19_goerOf_1
theorem dksX19_goerOf_0 : cX19_goerOf.data.toList.drop 0 = dktX19_goerOf_0 := by decide +kernel
theorem dksX19_goerOf_1 : cX19_goerOf.data.toList.drop 1 = dktX19_goerOf_1 := dk_seg dksX19_goerOf_0 1 rfl rfl
theorem dksX19_goerOf_2 : cX19_goerOf.data.toList.drop 60 = dktX19_goerOf_2 := dk_seg dksX19_goerOf_1 59 rfl rfl
theorem dX19_goerOf_0 : decode cX19_goerOf 0 = .ok (.iload_n 1, 1) := dk_27 (dk_at dksX19_goerOf_0 0 rfl rfl)
theorem dX19_goerOf_1 : decode cX19_goerOf 1 = .ok (.lookupswitch 71 #[(97, 59), (101, 69), (104, 65), (110, 61), (114, 63), (117, 67)], 59) := by decide +kernel
theorem dX19_goerOf_60 : decode cX19_goerOf 60 = .ok (.iconst 0, 1) := dk_3 (dk_at dksX19_goerOf_2 0 rfl rfl)
theorem dX19_goerOf_61 : decode cX19_goerOf 61 = .ok (.ireturn, 1) := dk_172 (dk_at dksX19_goerOf_2 1 rfl rfl)
theorem dX19_goerOf_62 : decode cX19_goerOf 62 = .ok (.iconst 1, 1) := dk_4 (dk_at dksX19_goerOf_2 2 rfl rfl)
theorem dX19_goerOf_63 : decode cX19_goerOf 63 = .ok (.ireturn, 1) := dk_172 (dk_at dksX19_goerOf_2 3 rfl rfl)
theorem dX19_goerOf_64 : decode cX19_goerOf 64 = .ok (.iconst 2, 1) := dk_5 (dk_at dksX19_goerOf_2 4 rfl rfl)
theorem dX19_goerOf_65 : decode cX19_goerOf 65 = .ok (.ireturn, 1) := dk_172 (dk_at dksX19_goerOf_2 5 rfl rfl)
theorem dX19_goerOf_66 : decode cX19_goerOf 66 = .ok (.iconst 3, 1) := dk_6 (dk_at dksX19_goerOf_2 6 rfl rfl)
theorem dX19_goerOf_67 : decode cX19_goerOf 67 = .ok (.ireturn, 1) := dk_172 (dk_at dksX19_goerOf_2 7 rfl rfl)
theorem dX19_goerOf_68 : decode cX19_goerOf 68 = .ok (.iconst 4, 1) := dk_7 (dk_at dksX19_goerOf_2 8 rfl rfl)
theorem dX19_goerOf_69 : decode cX19_goerOf 69 = .ok (.ireturn, 1) := dk_172 (dk_at dksX19_goerOf_2 9 rfl rfl)
theorem dX19_goerOf_70 : decode cX19_goerOf 70 = .ok (.iconst 5, 1) := dk_8 (dk_at dksX19_goerOf_2 10 rfl rfl)
theorem dX19_goerOf_71 : decode cX19_goerOf 71 = .ok (.ireturn, 1) := dk_172 (dk_at dksX19_goerOf_2 11 rfl rfl)
theorem dX19_goerOf_72 : decode cX19_goerOf 72 = .ok (.iconst (-1), 1) := dk_2 (dk_at dksX19_goerOf_2 12 rfl rfl)
theorem dX19_goerOf_73 : decode cX19_goerOf 73 = .ok (.ireturn, 1) := dk_172 (dk_at dksX19_goerOf_2 13 rfl rfl)
abbrev cX19_take : ByteArray := prog_13_method_4_code
def yX19_take : MethodName := ⟨RX19, "take", "(I)V"⟩
def dkwX19_take_1 : List UInt8 := [181, 0, 22, 177]
abbrev dktX19_take_1 : List UInt8 := dkwX19_take_1 ++ []
def dkwX19_take_0 : List UInt8 := [42, 42, 182, 0, 34, 27, 160, 0, 7, 4, 167, 0, 4, 3, 182, 0, 38, 42, 89, 180, 0, 22, 4, 96]
abbrev dktX19_take_0 : List UInt8 := dkwX19_take_0 ++ dktX19_take_1
theorem dksX19_take_0 : cX19_take.data.toList.drop 0 = dktX19_take_0 := by decide +kernel
theorem dksX19_take_1 : cX19_take.data.toList.drop 24 = dktX19_take_1 := dk_seg dksX19_take_0 24 rfl rfl
theorem dX19_take_0 : decode cX19_take 0 = .ok (.aload_n 0, 1) := dk_42 (dk_at dksX19_take_0 0 rfl rfl)
theorem dX19_take_1 : decode cX19_take 1 = .ok (.aload_n 0, 1) := dk_42 (dk_at dksX19_take_0 1 rfl rfl)
theorem dX19_take_2 : decode cX19_take 2 = .ok (.invokevirtual 34, 3) := dk_182 0 34 (dk_at dksX19_take_0 2 rfl rfl)
theorem dX19_take_5 : decode cX19_take 5 = .ok (.iload_n 1, 1) := dk_27 (dk_at dksX19_take_0 5 rfl rfl)
theorem dX19_take_6 : decode cX19_take 6 = .ok (.if_icmp .ne 7, 3) := dk_160 0 7 (dk_at dksX19_take_0 6 rfl rfl)
theorem dX19_take_9 : decode cX19_take 9 = .ok (.iconst 1, 1) := dk_4 (dk_at dksX19_take_0 9 rfl rfl)
theorem dX19_take_10 : decode cX19_take 10 = .ok (.goto 4, 3) := dk_167 0 4 (dk_at dksX19_take_0 10 rfl rfl)
theorem dX19_take_13 : decode cX19_take 13 = .ok (.iconst 0, 1) := dk_3 (dk_at dksX19_take_0 13 rfl rfl)
theorem dX19_take_14 : decode cX19_take 14 = .ok (.invokevirtual 38, 3) := dk_182 0 38 (dk_at dksX19_take_0 14 rfl rfl)
theorem dX19_take_17 : decode cX19_take 17 = .ok (.aload_n 0, 1) := dk_42 (dk_at dksX19_take_0 17 rfl rfl)
theorem dX19_take_18 : decode cX19_take 18 = .ok (.dup, 1) := dk_89 (dk_at dksX19_take_0 18 rfl rfl)
theorem dX19_take_19 : decode cX19_take 19 = .ok (.getfield 22, 3) := dk_180 0 22 (dk_at dksX19_take_0 19 rfl rfl)
theorem dX19_take_22 : decode cX19_take 22 = .ok (.iconst 1, 1) := dk_4 (dk_at dksX19_take_0 22 rfl rfl)
theorem dX19_take_23 : decode cX19_take 23 = .ok (.iadd, 1) := dk_96 (dk_at dksX19_take_0 23 rfl rfl)
theorem dX19_take_24 : decode cX19_take 24 = .ok (.putfield 22, 3) := dk_181 0 22 (dk_at dksX19_take_1 0 rfl rfl)
theorem dX19_take_27 : decode cX19_take 27 = .ok (.return_, 1) := dk_177 (dk_at dksX19_take_1 3 rfl rfl)
abbrev cX19_rule : ByteArray := prog_13_method_9_code
def yX19_rule : MethodName := ⟨RX19, "rule", "(I)LGoodHalfEmpty$Told;"⟩
def dkwX19_rule_2 : List UInt8 := [182, 0, 50, 183, 0, 101, 176]
abbrev dktX19_rule_2 : List UInt8 := dkwX19_rule_2 ++ []
def dkwX19_rule_1 : List UInt8 := [180, 0, 22, 4, 96, 181, 0, 22, 187, 0, 95, 89, 27, 42, 180, 0, 1, 180, 0, 97, 28, 50, 42]
abbrev dktX19_rule_1 : List UInt8 := dkwX19_rule_1 ++ dktX19_rule_2
def dkwX19_rule_0 : List UInt8 := [42, 42, 182, 0, 34, 182, 0, 92, 61, 42, 28, 155, 0, 7, 4, 167, 0, 4, 3, 182, 0, 38, 42, 89]
abbrev dktX19_rule_0 : List UInt8 := dkwX19_rule_0 ++ dktX19_rule_1
theorem dksX19_rule_0 : cX19_rule.data.toList.drop 0 = dktX19_rule_0 := by decide +kernel
theorem dksX19_rule_1 : cX19_rule.data.toList.drop 24 = dktX19_rule_1 := dk_seg dksX19_rule_0 24 rfl rfl
theorem dksX19_rule_2 : cX19_rule.data.toList.drop 47 = dktX19_rule_2 := dk_seg dksX19_rule_1 23 rfl rfl
theorem dX19_rule_0 : decode cX19_rule 0 = .ok (.aload_n 0, 1) := dk_42 (dk_at dksX19_rule_0 0 rfl rfl)
theorem dX19_rule_1 : decode cX19_rule 1 = .ok (.aload_n 0, 1) := dk_42 (dk_at dksX19_rule_0 1 rfl rfl)
theorem dX19_rule_2 : decode cX19_rule 2 = .ok (.invokevirtual 34, 3) := dk_182 0 34 (dk_at dksX19_rule_0 2 rfl rfl)
theorem dX19_rule_5 : decode cX19_rule 5 = .ok (.invokevirtual 92, 3) := dk_182 0 92 (dk_at dksX19_rule_0 5 rfl rfl)
theorem dX19_rule_8 : decode cX19_rule 8 = .ok (.istore_n 2, 1) := dk_61 (dk_at dksX19_rule_0 8 rfl rfl)
theorem dX19_rule_9 : decode cX19_rule 9 = .ok (.aload_n 0, 1) := dk_42 (dk_at dksX19_rule_0 9 rfl rfl)
theorem dX19_rule_10 : decode cX19_rule 10 = .ok (.iload_n 2, 1) := dk_28 (dk_at dksX19_rule_0 10 rfl rfl)
theorem dX19_rule_11 : decode cX19_rule 11 = .ok (.ifCond .lt 7, 3) := dk_155 0 7 (dk_at dksX19_rule_0 11 rfl rfl)
theorem dX19_rule_14 : decode cX19_rule 14 = .ok (.iconst 1, 1) := dk_4 (dk_at dksX19_rule_0 14 rfl rfl)
theorem dX19_rule_15 : decode cX19_rule 15 = .ok (.goto 4, 3) := dk_167 0 4 (dk_at dksX19_rule_0 15 rfl rfl)
theorem dX19_rule_18 : decode cX19_rule 18 = .ok (.iconst 0, 1) := dk_3 (dk_at dksX19_rule_0 18 rfl rfl)
theorem dX19_rule_19 : decode cX19_rule 19 = .ok (.invokevirtual 38, 3) := dk_182 0 38 (dk_at dksX19_rule_0 19 rfl rfl)
theorem dX19_rule_22 : decode cX19_rule 22 = .ok (.aload_n 0, 1) := dk_42 (dk_at dksX19_rule_0 22 rfl rfl)
theorem dX19_rule_23 : decode cX19_rule 23 = .ok (.dup, 1) := dk_89 (dk_at dksX19_rule_0 23 rfl rfl)
theorem dX19_rule_24 : decode cX19_rule 24 = .ok (.getfield 22, 3) := dk_180 0 22 (dk_at dksX19_rule_1 0 rfl rfl)
theorem dX19_rule_27 : decode cX19_rule 27 = .ok (.iconst 1, 1) := dk_4 (dk_at dksX19_rule_1 3 rfl rfl)
theorem dX19_rule_28 : decode cX19_rule 28 = .ok (.iadd, 1) := dk_96 (dk_at dksX19_rule_1 4 rfl rfl)
theorem dX19_rule_29 : decode cX19_rule 29 = .ok (.putfield 22, 3) := dk_181 0 22 (dk_at dksX19_rule_1 5 rfl rfl)
theorem dX19_rule_32 : decode cX19_rule 32 = .ok (.new 95, 3) := dk_187 0 95 (dk_at dksX19_rule_1 8 rfl rfl)
theorem dX19_rule_35 : decode cX19_rule 35 = .ok (.dup, 1) := dk_89 (dk_at dksX19_rule_1 11 rfl rfl)
theorem dX19_rule_36 : decode cX19_rule 36 = .ok (.iload_n 1, 1) := dk_27 (dk_at dksX19_rule_1 12 rfl rfl)
theorem dX19_rule_37 : decode cX19_rule 37 = .ok (.aload_n 0, 1) := dk_42 (dk_at dksX19_rule_1 13 rfl rfl)
theorem dX19_rule_38 : decode cX19_rule 38 = .ok (.getfield 1, 3) := dk_180 0 1 (dk_at dksX19_rule_1 14 rfl rfl)
theorem dX19_rule_41 : decode cX19_rule 41 = .ok (.getfield 97, 3) := dk_180 0 97 (dk_at dksX19_rule_1 17 rfl rfl)
theorem dX19_rule_44 : decode cX19_rule 44 = .ok (.iload_n 2, 1) := dk_28 (dk_at dksX19_rule_1 20 rfl rfl)
theorem dX19_rule_45 : decode cX19_rule 45 = .ok (.aaload, 1) := dk_50 (dk_at dksX19_rule_1 21 rfl rfl)
theorem dX19_rule_46 : decode cX19_rule 46 = .ok (.aload_n 0, 1) := dk_42 (dk_at dksX19_rule_1 22 rfl rfl)
theorem dX19_rule_47 : decode cX19_rule 47 = .ok (.invokevirtual 50, 3) := dk_182 0 50 (dk_at dksX19_rule_2 0 rfl rfl)
theorem dX19_rule_50 : decode cX19_rule 50 = .ok (.invokespecial 101, 3) := dk_183 0 101 (dk_at dksX19_rule_2 3 rfl rfl)
theorem dX19_rule_53 : decode cX19_rule 53 = .ok (.areturn, 1) := dk_176 (dk_at dksX19_rule_2 6 rfl rfl)
abbrev cX19_ruleOf : ByteArray := prog_13_method_11_code
def yX19_ruleOf : MethodName := ⟨RX19, "ruleOf", "(I)I"⟩
def dkwX19_ruleOf_2 : List UInt8 := [3, 172, 4, 172, 5, 172, 6, 172, 7, 172, 8, 172, 2, 172]
abbrev dktX19_ruleOf_2 : List UInt8 := dkwX19_ruleOf_2 ++ []
def dkwX19_ruleOf_1 : List UInt8 := [170, 0, 0, 0, 0, 0, 103, 0, 0, 0, 98, 0, 0, 0, 116, 0, 0, 0, 99, 0, 0, 0, 103, 0, 0, 0, 103, 0, 0, 0, 103, 0, 0, 0, 101, 0, 0, 0, 103, 0, 0, 0, 103, 0, 0, 0, 103, 0, 0, 0, 103, 0, 0, 0, 103, 0, 0, 0, 91, 0, 0, 0, 95, 0, 0, 0, 103, 0, 0, 0, 93, 0, 0, 0, 103, 0, 0, 0, 103, 0, 0, 0, 103, 0, 0, 0, 103, 0, 0, 0, 97]
abbrev dktX19_ruleOf_1 : List UInt8 := dkwX19_ruleOf_1 ++ dktX19_ruleOf_2
def dkwX19_ruleOf_0 : List UInt8 := [27]
abbrev dktX19_ruleOf_0 : List UInt8 := dkwX19_ruleOf_0 ++ dktX19_ruleOf_1
theorem dksX19_ruleOf_0 : cX19_ruleOf.data.toList.drop 0 = dktX19_ruleOf_0 := by decide +kernel
theorem dksX19_ruleOf_1 : cX19_ruleOf.data.toList.drop 1 = dktX19_ruleOf_1 := dk_seg dksX19_ruleOf_0 1 rfl rfl
theorem dksX19_ruleOf_2 : cX19_ruleOf.data.toList.drop 92 = dktX19_ruleOf_2 := dk_seg dksX19_ruleOf_1 91 rfl rfl
theorem dX19_ruleOf_0 : decode cX19_ruleOf 0 = .ok (.iload_n 1, 1) := dk_27 (dk_at dksX19_ruleOf_0 0 rfl rfl)
theorem dX19_ruleOf_1 : decode cX19_ruleOf 1 = .ok (.tableswitch 103 98 116 #[99, 103, 103, 103, 101, 103, 103, 103, 103, 103, 91, 95, 103, 93, 103, 103, 103, 103, 97], 91) := by decide +kernel
theorem dX19_ruleOf_92 : decode cX19_ruleOf 92 = .ok (.iconst 0, 1) := dk_3 (dk_at dksX19_ruleOf_2 0 rfl rfl)
theorem dX19_ruleOf_93 : decode cX19_ruleOf 93 = .ok (.ireturn, 1) := dk_172 (dk_at dksX19_ruleOf_2 1 rfl rfl)
theorem dX19_ruleOf_94 : decode cX19_ruleOf 94 = .ok (.iconst 1, 1) := dk_4 (dk_at dksX19_ruleOf_2 2 rfl rfl)
theorem dX19_ruleOf_95 : decode cX19_ruleOf 95 = .ok (.ireturn, 1) := dk_172 (dk_at dksX19_ruleOf_2 3 rfl rfl)
theorem dX19_ruleOf_96 : decode cX19_ruleOf 96 = .ok (.iconst 2, 1) := dk_5 (dk_at dksX19_ruleOf_2 4 rfl rfl)
theorem dX19_ruleOf_97 : decode cX19_ruleOf 97 = .ok (.ireturn, 1) := dk_172 (dk_at dksX19_ruleOf_2 5 rfl rfl)
theorem dX19_ruleOf_98 : decode cX19_ruleOf 98 = .ok (.iconst 3, 1) := dk_6 (dk_at dksX19_ruleOf_2 6 rfl rfl)
theorem dX19_ruleOf_99 : decode cX19_ruleOf 99 = .ok (.ireturn, 1) := dk_172 (dk_at dksX19_ruleOf_2 7 rfl rfl)
theorem dX19_ruleOf_100 : decode cX19_ruleOf 100 = .ok (.iconst 4, 1) := dk_7 (dk_at dksX19_ruleOf_2 8 rfl rfl)
theorem dX19_ruleOf_101 : decode cX19_ruleOf 101 = .ok (.ireturn, 1) := dk_172 (dk_at dksX19_ruleOf_2 9 rfl rfl)
theorem dX19_ruleOf_102 : decode cX19_ruleOf 102 = .ok (.iconst 5, 1) := dk_8 (dk_at dksX19_ruleOf_2 10 rfl rfl)
theorem dX19_ruleOf_103 : decode cX19_ruleOf 103 = .ok (.ireturn, 1) := dk_172 (dk_at dksX19_ruleOf_2 11 rfl rfl)
theorem dX19_ruleOf_104 : decode cX19_ruleOf 104 = .ok (.iconst (-1), 1) := dk_2 (dk_at dksX19_ruleOf_2 12 rfl rfl)
theorem dX19_ruleOf_105 : decode cX19_ruleOf 105 = .ok (.ireturn, 1) := dk_172 (dk_at dksX19_ruleOf_2 13 rfl rfl)
theorem q98 : (Jvm.Cond.initialized "GoodHalfEmpty$Reader") ∈ lw_all := lw_g (lw_at lw_m1 23 rfl) rfl
theorem q291 : (Jvm.Cond.fieldLinkNest "GoodHalfEmpty$Reader" (97 : Nat) "GoodHalfEmpty" "ruleKinds" "[LGoodHalfEmpty$Rule;" "GoodHalfEmpty") ∈ lw_tbl := lw_at lw_m1 216 rfl
theorem q293 : (Jvm.Cond.fieldLinkNest "GoodHalfEmpty$Reader" (82 : Nat) "GoodHalfEmpty" "goerKinds" "[LGoodHalfEmpty$Goer;" "GoodHalfEmpty") ∈ lw_tbl := lw_at lw_m1 218 rfl
theorem q300 : (Jvm.Cond.fieldLinkNest "GoodHalfEmpty$Reader" (25 : Nat) "GoodHalfEmpty" "letters" "[C" "GoodHalfEmpty") ∈ lw_tbl := lw_at lw_m1 225 rfl
theorem q302 : (Jvm.Cond.fieldLinkNest "GoodHalfEmpty$Reader" (13 : Nat) "GoodHalfEmpty" "letterMany" "I" "GoodHalfEmpty") ∈ lw_tbl := lw_at lw_m1 227 rfl
theorem q471 : (Jvm.Cond.instantiable "GoodHalfEmpty$Reader" (3 : Nat)) ∈ lw_all := lw_g (lw_at lw_m2 156 rfl) rfl
theorem q473 : (Jvm.Cond.instanceMethod ({ cls := "GoodHalfEmpty$Reader", name := "<init>", desc := "(LGoodHalfEmpty;)V" } : Jvm.MethodName)) ∈ lw_all := lw_g (lw_at lw_m2 158 rfl) rfl
theorem q474 : (Jvm.Cond.code ({ cls := "GoodHalfEmpty$Reader", name := "<init>", desc := "(LGoodHalfEmpty;)V" } : Jvm.MethodName) prog_13_method_1_code (2 : Nat) (Option.none : Option Jvm.ClassFile.FieldType)) ∈ lw_all := lw_g (lw_at lw_m2 159 rfl) rfl
theorem q475 : (Jvm.Cond.methodLink "GoodHalfEmpty$Reader" (7 : Nat) ({ cls := "java/lang/Object", name := "<init>", desc := "()V" } : Jvm.MethodName)) ∈ lw_all := lw_g (lw_at lw_m2 160 rfl) rfl
theorem q476 : (Jvm.Cond.fieldLink "GoodHalfEmpty$Reader" (19 : Nat) "GoodHalfEmpty$Reader" "size" "I") ∈ lw_all := lw_g (lw_at lw_m2 161 rfl) rfl
theorem q478 : (Jvm.Cond.fieldLink "GoodHalfEmpty$Reader" (22 : Nat) "GoodHalfEmpty$Reader" "at" "I") ∈ lw_all := lw_g (lw_at lw_m2 163 rfl) rfl
theorem q480 : (Jvm.Cond.fieldLink "GoodHalfEmpty$Reader" (1 : Nat) "GoodHalfEmpty$Reader" "this$0" "LGoodHalfEmpty;") ∈ lw_all := lw_g (lw_at lw_m2 165 rfl) rfl
theorem q481 : (Jvm.Cond.laysFinal "GoodHalfEmpty$Reader" "GoodHalfEmpty$Reader" "size" "I") ∈ lw_all := lw_g (lw_at lw_m2 166 rfl) rfl
theorem q482 : (Jvm.Cond.soleField "GoodHalfEmpty$Reader" "size") ∈ lw_all := lw_g (lw_at lw_m2 167 rfl) rfl
theorem q483 : (Jvm.Cond.lays "GoodHalfEmpty$Reader" "GoodHalfEmpty$Reader" "at" "I") ∈ lw_all := lw_g (lw_at lw_m2 168 rfl) rfl
theorem q484 : (Jvm.Cond.soleField "GoodHalfEmpty$Reader" "at") ∈ lw_all := lw_g (lw_at lw_m2 169 rfl) rfl
theorem q485 : (Jvm.Cond.laysFinal "GoodHalfEmpty$Reader" "GoodHalfEmpty$Reader" "this$0" "LGoodHalfEmpty;") ∈ lw_all := lw_g (lw_at lw_m2 170 rfl) rfl
theorem q486 : (Jvm.Cond.soleField "GoodHalfEmpty$Reader" "this$0") ∈ lw_all := lw_g (lw_at lw_m2 171 rfl) rfl
theorem q487 : (Jvm.Cond.superclass "GoodHalfEmpty$Reader" "java/lang/Object") ∈ lw_all := lw_g (lw_at lw_m2 172 rfl) rfl
theorem q491 : (Jvm.Cond.instanceMethod ({ cls := "GoodHalfEmpty$Reader", name := "statement", desc := "()LGoodHalfEmpty$Told;" } : Jvm.MethodName)) ∈ lw_all := lw_g (lw_at lw_m2 176 rfl) rfl
theorem q492 : (Jvm.Cond.selects "GoodHalfEmpty$Reader" ({ cls := "GoodHalfEmpty$Reader", name := "statement", desc := "()LGoodHalfEmpty$Told;" } : Jvm.MethodName) ({ cls := "GoodHalfEmpty$Reader", name := "statement", desc := "()LGoodHalfEmpty$Told;" } : Jvm.MethodName)) ∈ lw_all := lw_g (lw_at lw_m2 177 rfl) rfl
theorem q493 : (Jvm.Cond.code ({ cls := "GoodHalfEmpty$Reader", name := "statement", desc := "()LGoodHalfEmpty$Told;" } : Jvm.MethodName) prog_13_method_7_code (4 : Nat) (Option.some (Jvm.ClassFile.FieldType.object "GoodHalfEmpty$Told"))) ∈ lw_all := lw_g (lw_at lw_m2 178 rfl) rfl
theorem q494 : (Jvm.Cond.methodLink "GoodHalfEmpty$Reader" (34 : Nat) ({ cls := "GoodHalfEmpty$Reader", name := "here", desc := "()I" } : Jvm.MethodName)) ∈ lw_all := lw_g (lw_at lw_m2 179 rfl) rfl
theorem q495 : (Jvm.Cond.privateMethod ({ cls := "GoodHalfEmpty$Reader", name := "here", desc := "()I" } : Jvm.MethodName)) ∈ lw_tbl := lw_at lw_m2 180 rfl
theorem q496 : (Jvm.Cond.instanceMethod ({ cls := "GoodHalfEmpty$Reader", name := "here", desc := "()I" } : Jvm.MethodName)) ∈ lw_all := lw_g (lw_at lw_m2 181 rfl) rfl
theorem q497 : (Jvm.Cond.code ({ cls := "GoodHalfEmpty$Reader", name := "here", desc := "()I" } : Jvm.MethodName) prog_13_method_2_code (1 : Nat) (Option.some Jvm.ClassFile.FieldType.int)) ∈ lw_all := lw_g (lw_at lw_m2 182 rfl) rfl
theorem q498 : (Jvm.Cond.methodLink "GoodHalfEmpty$Reader" (38 : Nat) ({ cls := "GoodHalfEmpty$Reader", name := "mustStand", desc := "(Z)V" } : Jvm.MethodName)) ∈ lw_all := lw_g (lw_at lw_m2 183 rfl) rfl
theorem q499 : (Jvm.Cond.privateMethod ({ cls := "GoodHalfEmpty$Reader", name := "mustStand", desc := "(Z)V" } : Jvm.MethodName)) ∈ lw_tbl := lw_at lw_m2 184 rfl
theorem q500 : (Jvm.Cond.instanceMethod ({ cls := "GoodHalfEmpty$Reader", name := "mustStand", desc := "(Z)V" } : Jvm.MethodName)) ∈ lw_all := lw_g (lw_at lw_m2 185 rfl) rfl
theorem q501 : (Jvm.Cond.code ({ cls := "GoodHalfEmpty$Reader", name := "mustStand", desc := "(Z)V" } : Jvm.MethodName) prog_13_method_3_code (2 : Nat) (Option.none : Option Jvm.ClassFile.FieldType)) ∈ lw_all := lw_g (lw_at lw_m2 186 rfl) rfl
theorem q502 : (Jvm.Cond.classLink "GoodHalfEmpty$Reader" (29 : Nat) "GoodHalfEmpty$Fault") ∈ lw_all := lw_g (lw_at lw_m2 187 rfl) rfl
theorem q511 : (Jvm.Cond.methodLink "GoodHalfEmpty$Reader" (31 : Nat) ({ cls := "GoodHalfEmpty$Fault", name := "<init>", desc := "(I)V" } : Jvm.MethodName)) ∈ lw_all := lw_g (lw_at lw_m2 196 rfl) rfl
theorem q520 : (Jvm.Cond.classLink "GoodHalfEmpty$Reader" (53 : Nat) "GoodHalfEmpty$NumberTold") ∈ lw_all := lw_g (lw_at lw_m2 205 rfl) rfl
theorem q522 : (Jvm.Cond.methodLink "GoodHalfEmpty$Reader" (55 : Nat) ({ cls := "GoodHalfEmpty$Reader", name := "number", desc := "()I" } : Jvm.MethodName)) ∈ lw_all := lw_g (lw_at lw_m2 207 rfl) rfl
theorem q523 : (Jvm.Cond.privateMethod ({ cls := "GoodHalfEmpty$Reader", name := "number", desc := "()I" } : Jvm.MethodName)) ∈ lw_tbl := lw_at lw_m2 208 rfl
theorem q524 : (Jvm.Cond.instanceMethod ({ cls := "GoodHalfEmpty$Reader", name := "number", desc := "()I" } : Jvm.MethodName)) ∈ lw_all := lw_g (lw_at lw_m2 209 rfl) rfl
theorem q525 : (Jvm.Cond.code ({ cls := "GoodHalfEmpty$Reader", name := "number", desc := "()I" } : Jvm.MethodName) prog_13_method_6_code (2 : Nat) (Option.some Jvm.ClassFile.FieldType.int)) ∈ lw_all := lw_g (lw_at lw_m2 210 rfl) rfl
theorem q526 : (Jvm.Cond.methodLink "GoodHalfEmpty$Reader" (50 : Nat) ({ cls := "GoodHalfEmpty$Reader", name := "digit", desc := "()I" } : Jvm.MethodName)) ∈ lw_all := lw_g (lw_at lw_m2 211 rfl) rfl
theorem q527 : (Jvm.Cond.privateMethod ({ cls := "GoodHalfEmpty$Reader", name := "digit", desc := "()I" } : Jvm.MethodName)) ∈ lw_tbl := lw_at lw_m2 212 rfl
theorem q528 : (Jvm.Cond.instanceMethod ({ cls := "GoodHalfEmpty$Reader", name := "digit", desc := "()I" } : Jvm.MethodName)) ∈ lw_all := lw_g (lw_at lw_m2 213 rfl) rfl
theorem q529 : (Jvm.Cond.code ({ cls := "GoodHalfEmpty$Reader", name := "digit", desc := "()I" } : Jvm.MethodName) prog_13_method_5_code (1 : Nat) (Option.some Jvm.ClassFile.FieldType.int)) ∈ lw_all := lw_g (lw_at lw_m2 214 rfl) rfl
theorem q530 : (Jvm.Cond.constantLong "GoodHalfEmpty$Reader" (42 : Nat) (48 : Int64)) ∈ lw_all := lw_g (lw_at lw_m2 215 rfl) rfl
theorem q531 : (Jvm.Cond.constantLong "GoodHalfEmpty$Reader" (44 : Nat) (57 : Int64)) ∈ lw_all := lw_g (lw_at lw_m2 216 rfl) rfl
theorem q532 : (Jvm.Cond.methodLinkNest "GoodHalfEmpty$Reader" (46 : Nat) ({ cls := "GoodHalfEmpty", name := "in", desc := "(JJJ)Z" } : Jvm.MethodName) "GoodHalfEmpty") ∈ lw_tbl := lw_at lw_m2 217 rfl
theorem q535 : (Jvm.Cond.methodLink "GoodHalfEmpty$Reader" (58 : Nat) ({ cls := "GoodHalfEmpty$NumberTold", name := "<init>", desc := "(II)V" } : Jvm.MethodName)) ∈ lw_all := lw_g (lw_at lw_m2 220 rfl) rfl
theorem q552 : (Jvm.Cond.classLink "GoodHalfEmpty$Reader" (61 : Nat) "GoodHalfEmpty$WeekTold") ∈ lw_all := lw_g (lw_at lw_m2 237 rfl) rfl
theorem q554 : (Jvm.Cond.methodLink "GoodHalfEmpty$Reader" (63 : Nat) ({ cls := "GoodHalfEmpty$WeekTold", name := "<init>", desc := "(II)V" } : Jvm.MethodName)) ∈ lw_all := lw_g (lw_at lw_m2 239 rfl) rfl
theorem q561 : (Jvm.Cond.methodLink "GoodHalfEmpty$Reader" (64 : Nat) ({ cls := "GoodHalfEmpty$Reader", name := "sort", desc := "(I)LGoodHalfEmpty$Told;" } : Jvm.MethodName)) ∈ lw_all := lw_g (lw_at lw_m3 6 rfl) rfl
theorem q562 : (Jvm.Cond.privateMethod ({ cls := "GoodHalfEmpty$Reader", name := "sort", desc := "(I)LGoodHalfEmpty$Told;" } : Jvm.MethodName)) ∈ lw_tbl := lw_at lw_m3 7 rfl
theorem q563 : (Jvm.Cond.instanceMethod ({ cls := "GoodHalfEmpty$Reader", name := "sort", desc := "(I)LGoodHalfEmpty$Told;" } : Jvm.MethodName)) ∈ lw_all := lw_g (lw_at lw_m3 8 rfl) rfl
theorem q564 : (Jvm.Cond.code ({ cls := "GoodHalfEmpty$Reader", name := "sort", desc := "(I)LGoodHalfEmpty$Told;" } : Jvm.MethodName) prog_13_method_8_code (7 : Nat) (Option.some (Jvm.ClassFile.FieldType.object "GoodHalfEmpty$Told"))) ∈ lw_all := lw_g (lw_at lw_m3 9 rfl) rfl
theorem q565 : (Jvm.Cond.methodLink "GoodHalfEmpty$Reader" (74 : Nat) ({ cls := "GoodHalfEmpty$Reader", name := "goerOf", desc := "(I)I" } : Jvm.MethodName)) ∈ lw_all := lw_g (lw_at lw_m3 10 rfl) rfl
theorem q566 : (Jvm.Cond.privateMethod ({ cls := "GoodHalfEmpty$Reader", name := "goerOf", desc := "(I)I" } : Jvm.MethodName)) ∈ lw_tbl := lw_at lw_m3 11 rfl
theorem q567 : (Jvm.Cond.instanceMethod ({ cls := "GoodHalfEmpty$Reader", name := "goerOf", desc := "(I)I" } : Jvm.MethodName)) ∈ lw_all := lw_g (lw_at lw_m3 12 rfl) rfl
theorem q568 : (Jvm.Cond.code ({ cls := "GoodHalfEmpty$Reader", name := "goerOf", desc := "(I)I" } : Jvm.MethodName) prog_13_method_10_code (2 : Nat) (Option.some Jvm.ClassFile.FieldType.int)) ∈ lw_all := lw_g (lw_at lw_m3 13 rfl) rfl
theorem q569 : (Jvm.Cond.methodLink "GoodHalfEmpty$Reader" (71 : Nat) ({ cls := "GoodHalfEmpty$Reader", name := "take", desc := "(I)V" } : Jvm.MethodName)) ∈ lw_all := lw_g (lw_at lw_m3 14 rfl) rfl
theorem q570 : (Jvm.Cond.privateMethod ({ cls := "GoodHalfEmpty$Reader", name := "take", desc := "(I)V" } : Jvm.MethodName)) ∈ lw_tbl := lw_at lw_m3 15 rfl
theorem q571 : (Jvm.Cond.instanceMethod ({ cls := "GoodHalfEmpty$Reader", name := "take", desc := "(I)V" } : Jvm.MethodName)) ∈ lw_all := lw_g (lw_at lw_m3 16 rfl) rfl
theorem q572 : (Jvm.Cond.code ({ cls := "GoodHalfEmpty$Reader", name := "take", desc := "(I)V" } : Jvm.MethodName) prog_13_method_4_code (2 : Nat) (Option.none : Option Jvm.ClassFile.FieldType)) ∈ lw_all := lw_g (lw_at lw_m3 17 rfl) rfl
theorem q573 : (Jvm.Cond.classLink "GoodHalfEmpty$Reader" (78 : Nat) "GoodHalfEmpty$SortTold") ∈ lw_all := lw_g (lw_at lw_m3 18 rfl) rfl
theorem q575 : (Jvm.Cond.classLink "GoodHalfEmpty$Reader" (80 : Nat) "GoodHalfEmpty$Sort") ∈ lw_all := lw_g (lw_at lw_m3 20 rfl) rfl
theorem q577 : (Jvm.Cond.methodLink "GoodHalfEmpty$Reader" (86 : Nat) ({ cls := "GoodHalfEmpty$Sort", name := "<init>", desc := "(LGoodHalfEmpty$Goer;IIIII)V" } : Jvm.MethodName)) ∈ lw_all := lw_g (lw_at lw_m3 22 rfl) rfl
theorem q617 : (Jvm.Cond.methodLink "GoodHalfEmpty$Reader" (89 : Nat) ({ cls := "GoodHalfEmpty$SortTold", name := "<init>", desc := "(ILGoodHalfEmpty$Sort;)V" } : Jvm.MethodName)) ∈ lw_all := lw_g (lw_at lw_m3 62 rfl) rfl
theorem q626 : (Jvm.Cond.methodLink "GoodHalfEmpty$Reader" (68 : Nat) ({ cls := "GoodHalfEmpty$Reader", name := "rule", desc := "(I)LGoodHalfEmpty$Told;" } : Jvm.MethodName)) ∈ lw_all := lw_g (lw_at lw_m3 71 rfl) rfl
theorem q627 : (Jvm.Cond.privateMethod ({ cls := "GoodHalfEmpty$Reader", name := "rule", desc := "(I)LGoodHalfEmpty$Told;" } : Jvm.MethodName)) ∈ lw_tbl := lw_at lw_m3 72 rfl
theorem q628 : (Jvm.Cond.instanceMethod ({ cls := "GoodHalfEmpty$Reader", name := "rule", desc := "(I)LGoodHalfEmpty$Told;" } : Jvm.MethodName)) ∈ lw_all := lw_g (lw_at lw_m3 73 rfl) rfl
theorem q629 : (Jvm.Cond.code ({ cls := "GoodHalfEmpty$Reader", name := "rule", desc := "(I)LGoodHalfEmpty$Told;" } : Jvm.MethodName) prog_13_method_9_code (3 : Nat) (Option.some (Jvm.ClassFile.FieldType.object "GoodHalfEmpty$Told"))) ∈ lw_all := lw_g (lw_at lw_m3 74 rfl) rfl
theorem q630 : (Jvm.Cond.methodLink "GoodHalfEmpty$Reader" (92 : Nat) ({ cls := "GoodHalfEmpty$Reader", name := "ruleOf", desc := "(I)I" } : Jvm.MethodName)) ∈ lw_all := lw_g (lw_at lw_m3 75 rfl) rfl
theorem q631 : (Jvm.Cond.privateMethod ({ cls := "GoodHalfEmpty$Reader", name := "ruleOf", desc := "(I)I" } : Jvm.MethodName)) ∈ lw_tbl := lw_at lw_m3 76 rfl
theorem q632 : (Jvm.Cond.instanceMethod ({ cls := "GoodHalfEmpty$Reader", name := "ruleOf", desc := "(I)I" } : Jvm.MethodName)) ∈ lw_all := lw_g (lw_at lw_m3 77 rfl) rfl
theorem q633 : (Jvm.Cond.code ({ cls := "GoodHalfEmpty$Reader", name := "ruleOf", desc := "(I)I" } : Jvm.MethodName) prog_13_method_11_code (2 : Nat) (Option.some Jvm.ClassFile.FieldType.int)) ∈ lw_all := lw_g (lw_at lw_m3 78 rfl) rfl
theorem q634 : (Jvm.Cond.classLink "GoodHalfEmpty$Reader" (95 : Nat) "GoodHalfEmpty$RuleTold") ∈ lw_all := lw_g (lw_at lw_m3 79 rfl) rfl
theorem q636 : (Jvm.Cond.methodLink "GoodHalfEmpty$Reader" (101 : Nat) ({ cls := "GoodHalfEmpty$RuleTold", name := "<init>", desc := "(ILGoodHalfEmpty$Rule;I)V" } : Jvm.MethodName)) ∈ lw_all := lw_g (lw_at lw_m3 81 rfl) rfl
theorem in_X19 : ∀ w ∈ wsX190, w ∈ lw_all := lw_in wsX190 [481, 483, 485] (by decide +kernel) (by decide +kernel)

/-! GoodHalfEmpty$Fault -/
set_option maxRecDepth 100000
def RX20 : String := "GoodHalfEmpty$Fault"
def TX20 : u_T := fun k => match k with
  | 0 => ("java/lang/Throwable", "cause", "Ljava/lang/Throwable;", false)
  | 1 => ("java/lang/Throwable", "stackTrace", "[Ljava/lang/StackTraceElement;", false)
  | 2 => ("java/lang/Throwable", "suppressedExceptions", "Ljava/util/List;", false)
  | 3 => ("java/lang/Throwable", "detailMessage", "Ljava/lang/String;", false)
  | 4 => ("java/lang/Throwable", "backtrace", "Ljava/lang/Object;", false)
  | 5 => ("java/lang/Throwable", "depth", "I", false)
  | _ => ("GoodHalfEmpty$Fault", "told", "I", true)
def tyX20 : Nat → FieldType := fun k => match k with
  | 0 => .object "java/lang/Throwable"
  | 1 => .array (.object "java/lang/StackTraceElement")
  | 2 => .object "java/util/List"
  | 3 => .object "java/lang/String"
  | 4 => .object "java/lang/Object"
  | 5 => .int
  | _ => .int
abbrev wsX200 : List Cond := u_ws RX20 TX20 7
theorem nmX20 : ∀ a, a < 7 → ∀ b, b < 7 → a ≠ b → (TX20 a).2.1 ≠ (TX20 b).2.1 := by decide +kernel
theorem tyX20_ok : ∀ k, k < 7 → parseFieldDescriptor (TX20 k).2.2.1 = some (tyX20 k) := by decide +kernel
abbrev cX20_init : ByteArray := prog_4_method_1_code
def yX20_init : MethodName := ⟨RX20, "<init>", "(I)V"⟩
def dkwX20_init_0 : List UInt8 := [42, 183, 0, 1, 42, 27, 181, 0, 7, 177]
abbrev dktX20_init_0 : List UInt8 := dkwX20_init_0 ++ []
theorem dksX20_init_0 : cX20_init.data.toList.drop 0 = dktX20_init_0 := by decide +kernel
theorem dX20_init_0 : decode cX20_init 0 = .ok (.aload_n 0, 1) := dk_42 (dk_at dksX20_init_0 0 rfl rfl)
theorem dX20_init_1 : decode cX20_init 1 = .ok (.invokespecial 1, 3) := dk_183 0 1 (dk_at dksX20_init_0 1 rfl rfl)
theorem dX20_init_4 : decode cX20_init 4 = .ok (.aload_n 0, 1) := dk_42 (dk_at dksX20_init_0 4 rfl rfl)
theorem dX20_init_5 : decode cX20_init 5 = .ok (.iload_n 1, 1) := dk_27 (dk_at dksX20_init_0 5 rfl rfl)
theorem dX20_init_6 : decode cX20_init 6 = .ok (.putfield 7, 3) := dk_181 0 7 (dk_at dksX20_init_0 6 rfl rfl)
theorem dX20_init_9 : decode cX20_init 9 = .ok (.return_, 1) := dk_177 (dk_at dksX20_init_0 9 rfl rfl)
abbrev cX20_number : ByteArray := prog_4_method_2_code
def yX20_number : MethodName := ⟨RX20, "number", "()I"⟩
theorem dX20_number_0 : decode cX20_number 0 = .ok (.aload_n 0, 1) := by decide +kernel
theorem dX20_number_1 : decode cX20_number 1 = .ok (.getfield 7, 3) := by decide +kernel
theorem dX20_number_4 : decode cX20_number 4 = .ok (.ireturn, 1) := by decide +kernel
theorem q99 : (Jvm.Cond.initialized "GoodHalfEmpty$Fault") ∈ lw_all := lw_g (lw_at lw_m1 24 rfl) rfl
theorem q431 : (Jvm.Cond.selects "GoodHalfEmpty$Fault" ({ cls := "java/lang/Throwable", name := "fillInStackTrace", desc := "()Ljava/lang/Throwable;" } : Jvm.MethodName) ({ cls := "java/lang/Throwable", name := "fillInStackTrace", desc := "()Ljava/lang/Throwable;" } : Jvm.MethodName)) ∈ lw_all := lw_g (lw_at lw_m2 116 rfl) rfl
theorem q503 : (Jvm.Cond.instantiable "GoodHalfEmpty$Fault" (7 : Nat)) ∈ lw_all := lw_g (lw_at lw_m2 188 rfl) rfl
theorem q504 : (Jvm.Cond.castable "GoodHalfEmpty$Fault" "GoodHalfEmpty$Fault") ∈ lw_tbl := lw_at lw_m2 189 rfl
theorem q505 : (Jvm.Cond.selects "GoodHalfEmpty$Fault" ({ cls := "java/lang/Throwable", name := "fillInStackTrace", desc := "(I)Ljava/lang/Throwable;" } : Jvm.MethodName) ({ cls := "java/lang/Throwable", name := "fillInStackTrace", desc := "(I)Ljava/lang/Throwable;" } : Jvm.MethodName)) ∈ lw_all := lw_g (lw_at lw_m2 190 rfl) rfl
theorem q506 : (Jvm.Cond.lays "GoodHalfEmpty$Fault" "java/lang/Throwable" "cause" "Ljava/lang/Throwable;") ∈ lw_all := lw_g (lw_at lw_m2 191 rfl) rfl
theorem q507 : (Jvm.Cond.lays "GoodHalfEmpty$Fault" "java/lang/Throwable" "stackTrace" "[Ljava/lang/StackTraceElement;") ∈ lw_all := lw_g (lw_at lw_m2 192 rfl) rfl
theorem q508 : (Jvm.Cond.lays "GoodHalfEmpty$Fault" "java/lang/Throwable" "suppressedExceptions" "Ljava/util/List;") ∈ lw_all := lw_g (lw_at lw_m2 193 rfl) rfl
theorem q509 : (Jvm.Cond.lays "GoodHalfEmpty$Fault" "java/lang/Throwable" "detailMessage" "Ljava/lang/String;") ∈ lw_all := lw_g (lw_at lw_m2 194 rfl) rfl
theorem q510 : (Jvm.Cond.lays "GoodHalfEmpty$Fault" "java/lang/Throwable" "backtrace" "Ljava/lang/Object;") ∈ lw_all := lw_g (lw_at lw_m2 195 rfl) rfl
theorem q512 : (Jvm.Cond.instanceMethod ({ cls := "GoodHalfEmpty$Fault", name := "<init>", desc := "(I)V" } : Jvm.MethodName)) ∈ lw_all := lw_g (lw_at lw_m2 197 rfl) rfl
theorem q513 : (Jvm.Cond.code ({ cls := "GoodHalfEmpty$Fault", name := "<init>", desc := "(I)V" } : Jvm.MethodName) prog_4_method_1_code (2 : Nat) (Option.none : Option Jvm.ClassFile.FieldType)) ∈ lw_all := lw_g (lw_at lw_m2 198 rfl) rfl
theorem q514 : (Jvm.Cond.methodLinkNest "GoodHalfEmpty$Fault" (1 : Nat) ({ cls := "GoodHalfEmpty$Refusal", name := "<init>", desc := "()V" } : Jvm.MethodName) "GoodHalfEmpty") ∈ lw_tbl := lw_at lw_m2 199 rfl
theorem q515 : (Jvm.Cond.fieldLink "GoodHalfEmpty$Fault" (7 : Nat) "GoodHalfEmpty$Fault" "told" "I") ∈ lw_all := lw_g (lw_at lw_m2 200 rfl) rfl
theorem q516 : (Jvm.Cond.laysFinal "GoodHalfEmpty$Fault" "GoodHalfEmpty$Fault" "told" "I") ∈ lw_all := lw_g (lw_at lw_m2 201 rfl) rfl
theorem q517 : (Jvm.Cond.soleField "GoodHalfEmpty$Fault" "told") ∈ lw_all := lw_g (lw_at lw_m2 202 rfl) rfl
theorem q518 : (Jvm.Cond.lays "GoodHalfEmpty$Fault" "java/lang/Throwable" "depth" "I") ∈ lw_all := lw_g (lw_at lw_m2 203 rfl) rfl
theorem q519 : (Jvm.Cond.superclass "GoodHalfEmpty$Fault" "GoodHalfEmpty$Refusal") ∈ lw_all := lw_g (lw_at lw_m2 204 rfl) rfl
theorem q993 : (Jvm.Cond.selects "GoodHalfEmpty$Fault" ({ cls := "GoodHalfEmpty$Refusal", name := "number", desc := "()I" } : Jvm.MethodName) ({ cls := "GoodHalfEmpty$Fault", name := "number", desc := "()I" } : Jvm.MethodName)) ∈ lw_all := lw_g (lw_at lw_m4 198 rfl) rfl
theorem q994 : (Jvm.Cond.instanceMethod ({ cls := "GoodHalfEmpty$Fault", name := "number", desc := "()I" } : Jvm.MethodName)) ∈ lw_all := lw_g (lw_at lw_m4 199 rfl) rfl
theorem q995 : (Jvm.Cond.code ({ cls := "GoodHalfEmpty$Fault", name := "number", desc := "()I" } : Jvm.MethodName) prog_4_method_2_code (1 : Nat) (Option.some Jvm.ClassFile.FieldType.int)) ∈ lw_all := lw_g (lw_at lw_m4 200 rfl) rfl
theorem q1471 : (Jvm.Cond.castable "GoodHalfEmpty$Fault" "GoodHalfEmpty$Refusal") ∈ lw_tbl := lw_at lw_m6 196 rfl
theorem in_X20 : ∀ w ∈ wsX200, w ∈ lw_all := lw_in wsX200 [506, 507, 508, 509, 510, 518, 516] (by decide +kernel) (by decide +kernel)

/-! GoodHalfEmpty$Told -/
set_option maxRecDepth 100000
def RX21 : String := "GoodHalfEmpty$Told"
abbrev cX21_init : ByteArray := prog_22_method_1_code
def yX21_init : MethodName := ⟨RX21, "<init>", "(I)V"⟩
def dkwX21_init_0 : List UInt8 := [42, 183, 0, 1, 42, 27, 181, 0, 7, 177]
abbrev dktX21_init_0 : List UInt8 := dkwX21_init_0 ++ []
theorem dksX21_init_0 : cX21_init.data.toList.drop 0 = dktX21_init_0 := by decide +kernel
theorem dX21_init_0 : decode cX21_init 0 = .ok (.aload_n 0, 1) := dk_42 (dk_at dksX21_init_0 0 rfl rfl)
theorem dX21_init_1 : decode cX21_init 1 = .ok (.invokespecial 1, 3) := dk_183 0 1 (dk_at dksX21_init_0 1 rfl rfl)
theorem dX21_init_4 : decode cX21_init 4 = .ok (.aload_n 0, 1) := dk_42 (dk_at dksX21_init_0 4 rfl rfl)
theorem dX21_init_5 : decode cX21_init 5 = .ok (.iload_n 1, 1) := dk_27 (dk_at dksX21_init_0 5 rfl rfl)
theorem dX21_init_6 : decode cX21_init 6 = .ok (.putfield 7, 3) := dk_181 0 7 (dk_at dksX21_init_0 6 rfl rfl)
theorem dX21_init_9 : decode cX21_init 9 = .ok (.return_, 1) := dk_177 (dk_at dksX21_init_0 9 rfl rfl)
theorem q100 : (Jvm.Cond.initialized "GoodHalfEmpty$Told") ∈ lw_all := lw_g (lw_at lw_m1 25 rfl) rfl
theorem q539 : (Jvm.Cond.instanceMethod ({ cls := "GoodHalfEmpty$Told", name := "<init>", desc := "(I)V" } : Jvm.MethodName)) ∈ lw_all := lw_g (lw_at lw_m2 224 rfl) rfl
theorem q540 : (Jvm.Cond.code ({ cls := "GoodHalfEmpty$Told", name := "<init>", desc := "(I)V" } : Jvm.MethodName) prog_22_method_1_code (2 : Nat) (Option.none : Option Jvm.ClassFile.FieldType)) ∈ lw_all := lw_g (lw_at lw_m2 225 rfl) rfl
theorem q541 : (Jvm.Cond.methodLink "GoodHalfEmpty$Told" (1 : Nat) ({ cls := "java/lang/Object", name := "<init>", desc := "()V" } : Jvm.MethodName)) ∈ lw_all := lw_g (lw_at lw_m2 226 rfl) rfl
theorem q545 : (Jvm.Cond.fieldLink "GoodHalfEmpty$Told" (7 : Nat) "GoodHalfEmpty$Told" "start" "I") ∈ lw_all := lw_g (lw_at lw_m2 230 rfl) rfl
theorem q550 : (Jvm.Cond.soleField "GoodHalfEmpty$Told" "start") ∈ lw_all := lw_g (lw_at lw_m2 235 rfl) rfl
theorem q656 : (Jvm.Cond.declares ({ cls := "GoodHalfEmpty$Told", name := "comes", desc := "(LGoodHalfEmpty$Town;)Z" } : Jvm.MethodName)) ∈ lw_tbl := lw_at lw_m3 101 rfl
theorem q657 : (Jvm.Cond.sameMethod "GoodHalfEmpty$Told" "GoodHalfEmpty$Told" "comes" "(LGoodHalfEmpty$Town;)Z") ∈ lw_all := lw_g (lw_at lw_m3 102 rfl) rfl

/-! GoodHalfEmpty$NumberTold -/
set_option maxRecDepth 100000
def RX22 : String := "GoodHalfEmpty$NumberTold"
def TX22 : u_T := fun k => match k with
  | 0 => ("GoodHalfEmpty$Told", "start", "I", true)
  | _ => ("GoodHalfEmpty$NumberTold", "v", "I", true)
def tyX22 : Nat → FieldType := fun k => match k with
  | 0 => .int
  | _ => .int
abbrev wsX220 : List Cond := u_ws RX22 TX22 2
theorem nmX22 : ∀ a, a < 2 → ∀ b, b < 2 → a ≠ b → (TX22 a).2.1 ≠ (TX22 b).2.1 := by decide +kernel
theorem tyX22_ok : ∀ k, k < 2 → parseFieldDescriptor (TX22 k).2.2.1 = some (tyX22 k) := by decide +kernel
abbrev cX22_init : ByteArray := prog_11_method_1_code
def yX22_init : MethodName := ⟨RX22, "<init>", "(II)V"⟩
def dkwX22_init_0 : List UInt8 := [42, 27, 183, 0, 3, 42, 28, 181, 0, 9, 177]
abbrev dktX22_init_0 : List UInt8 := dkwX22_init_0 ++ []
theorem dksX22_init_0 : cX22_init.data.toList.drop 0 = dktX22_init_0 := by decide +kernel
theorem dX22_init_0 : decode cX22_init 0 = .ok (.aload_n 0, 1) := dk_42 (dk_at dksX22_init_0 0 rfl rfl)
theorem dX22_init_1 : decode cX22_init 1 = .ok (.iload_n 1, 1) := dk_27 (dk_at dksX22_init_0 1 rfl rfl)
theorem dX22_init_2 : decode cX22_init 2 = .ok (.invokespecial 3, 3) := dk_183 0 3 (dk_at dksX22_init_0 2 rfl rfl)
theorem dX22_init_5 : decode cX22_init 5 = .ok (.aload_n 0, 1) := dk_42 (dk_at dksX22_init_0 5 rfl rfl)
theorem dX22_init_6 : decode cX22_init 6 = .ok (.iload_n 2, 1) := dk_28 (dk_at dksX22_init_0 6 rfl rfl)
theorem dX22_init_7 : decode cX22_init 7 = .ok (.putfield 9, 3) := dk_181 0 9 (dk_at dksX22_init_0 7 rfl rfl)
theorem dX22_init_10 : decode cX22_init 10 = .ok (.return_, 1) := dk_177 (dk_at dksX22_init_0 10 rfl rfl)
abbrev cX22_comes : ByteArray := prog_11_method_3_code
def yX22_comes : MethodName := ⟨RX22, "comes", "(LGoodHalfEmpty$Town;)Z"⟩
def dkwX22_comes_1 : List UInt8 := [28, 172]
abbrev dktX22_comes_1 : List UInt8 := dkwX22_comes_1 ++ []
def dkwX22_comes_0 : List UInt8 := [42, 180, 0, 9, 16, 60, 163, 0, 7, 4, 167, 0, 4, 3, 61, 28, 153, 0, 8, 42, 43, 182, 0, 20]
abbrev dktX22_comes_0 : List UInt8 := dkwX22_comes_0 ++ dktX22_comes_1
theorem dksX22_comes_0 : cX22_comes.data.toList.drop 0 = dktX22_comes_0 := by decide +kernel
theorem dksX22_comes_1 : cX22_comes.data.toList.drop 24 = dktX22_comes_1 := dk_seg dksX22_comes_0 24 rfl rfl
theorem dX22_comes_0 : decode cX22_comes 0 = .ok (.aload_n 0, 1) := dk_42 (dk_at dksX22_comes_0 0 rfl rfl)
theorem dX22_comes_1 : decode cX22_comes 1 = .ok (.getfield 9, 3) := dk_180 0 9 (dk_at dksX22_comes_0 1 rfl rfl)
theorem dX22_comes_4 : decode cX22_comes 4 = .ok (.bipush 60, 2) := dk_16 60 (dk_at dksX22_comes_0 4 rfl rfl)
theorem dX22_comes_6 : decode cX22_comes 6 = .ok (.if_icmp .gt 7, 3) := dk_163 0 7 (dk_at dksX22_comes_0 6 rfl rfl)
theorem dX22_comes_9 : decode cX22_comes 9 = .ok (.iconst 1, 1) := dk_4 (dk_at dksX22_comes_0 9 rfl rfl)
theorem dX22_comes_10 : decode cX22_comes 10 = .ok (.goto 4, 3) := dk_167 0 4 (dk_at dksX22_comes_0 10 rfl rfl)
theorem dX22_comes_13 : decode cX22_comes 13 = .ok (.iconst 0, 1) := dk_3 (dk_at dksX22_comes_0 13 rfl rfl)
theorem dX22_comes_14 : decode cX22_comes 14 = .ok (.istore_n 2, 1) := dk_61 (dk_at dksX22_comes_0 14 rfl rfl)
theorem dX22_comes_15 : decode cX22_comes 15 = .ok (.iload_n 2, 1) := dk_28 (dk_at dksX22_comes_0 15 rfl rfl)
theorem dX22_comes_16 : decode cX22_comes 16 = .ok (.ifCond .eq 8, 3) := dk_153 0 8 (dk_at dksX22_comes_0 16 rfl rfl)
theorem dX22_comes_19 : decode cX22_comes 19 = .ok (.aload_n 0, 1) := dk_42 (dk_at dksX22_comes_0 19 rfl rfl)
theorem dX22_comes_20 : decode cX22_comes 20 = .ok (.aload_n 1, 1) := dk_43 (dk_at dksX22_comes_0 20 rfl rfl)
theorem dX22_comes_21 : decode cX22_comes 21 = .ok (.invokevirtual 20, 3) := dk_182 0 20 (dk_at dksX22_comes_0 21 rfl rfl)
theorem dX22_comes_24 : decode cX22_comes 24 = .ok (.iload_n 2, 1) := dk_28 (dk_at dksX22_comes_1 0 rfl rfl)
theorem dX22_comes_25 : decode cX22_comes 25 = .ok (.ireturn, 1) := dk_172 (dk_at dksX22_comes_1 1 rfl rfl)
abbrev cX22_become : ByteArray := prog_11_method_2_code
def yX22_become : MethodName := ⟨RX22, "become", "(LGoodHalfEmpty$Town;)V"⟩
def dkwX22_become_0 : List UInt8 := [43, 42, 180, 0, 9, 181, 0, 15, 177]
abbrev dktX22_become_0 : List UInt8 := dkwX22_become_0 ++ []
theorem dksX22_become_0 : cX22_become.data.toList.drop 0 = dktX22_become_0 := by decide +kernel
theorem dX22_become_0 : decode cX22_become 0 = .ok (.aload_n 1, 1) := dk_43 (dk_at dksX22_become_0 0 rfl rfl)
theorem dX22_become_1 : decode cX22_become 1 = .ok (.aload_n 0, 1) := dk_42 (dk_at dksX22_become_0 1 rfl rfl)
theorem dX22_become_2 : decode cX22_become 2 = .ok (.getfield 9, 3) := dk_180 0 9 (dk_at dksX22_become_0 2 rfl rfl)
theorem dX22_become_5 : decode cX22_become 5 = .ok (.putfield 15, 3) := dk_181 0 15 (dk_at dksX22_become_0 5 rfl rfl)
theorem dX22_become_8 : decode cX22_become 8 = .ok (.return_, 1) := dk_177 (dk_at dksX22_become_0 8 rfl rfl)
theorem q101 : (Jvm.Cond.initialized "GoodHalfEmpty$NumberTold") ∈ lw_all := lw_g (lw_at lw_m1 26 rfl) rfl
theorem q220 : (Jvm.Cond.fieldLinkNest "GoodHalfEmpty$NumberTold" (15 : Nat) "GoodHalfEmpty$Town" "chairs" "I" "GoodHalfEmpty") ∈ lw_tbl := lw_at lw_m1 145 rfl
theorem q521 : (Jvm.Cond.instantiable "GoodHalfEmpty$NumberTold" (2 : Nat)) ∈ lw_all := lw_g (lw_at lw_m2 206 rfl) rfl
theorem q536 : (Jvm.Cond.instanceMethod ({ cls := "GoodHalfEmpty$NumberTold", name := "<init>", desc := "(II)V" } : Jvm.MethodName)) ∈ lw_all := lw_g (lw_at lw_m2 221 rfl) rfl
theorem q537 : (Jvm.Cond.code ({ cls := "GoodHalfEmpty$NumberTold", name := "<init>", desc := "(II)V" } : Jvm.MethodName) prog_11_method_1_code (3 : Nat) (Option.none : Option Jvm.ClassFile.FieldType)) ∈ lw_all := lw_g (lw_at lw_m2 222 rfl) rfl
theorem q538 : (Jvm.Cond.methodLink "GoodHalfEmpty$NumberTold" (3 : Nat) ({ cls := "GoodHalfEmpty$Told", name := "<init>", desc := "(I)V" } : Jvm.MethodName)) ∈ lw_all := lw_g (lw_at lw_m2 223 rfl) rfl
theorem q542 : (Jvm.Cond.fieldLink "GoodHalfEmpty$NumberTold" (9 : Nat) "GoodHalfEmpty$NumberTold" "v" "I") ∈ lw_all := lw_g (lw_at lw_m2 227 rfl) rfl
theorem q547 : (Jvm.Cond.laysFinal "GoodHalfEmpty$NumberTold" "GoodHalfEmpty$NumberTold" "v" "I") ∈ lw_all := lw_g (lw_at lw_m2 232 rfl) rfl
theorem q548 : (Jvm.Cond.soleField "GoodHalfEmpty$NumberTold" "v") ∈ lw_all := lw_g (lw_at lw_m2 233 rfl) rfl
theorem q549 : (Jvm.Cond.laysFinal "GoodHalfEmpty$NumberTold" "GoodHalfEmpty$Told" "start" "I") ∈ lw_all := lw_g (lw_at lw_m2 234 rfl) rfl
theorem q551 : (Jvm.Cond.superclass "GoodHalfEmpty$NumberTold" "GoodHalfEmpty$Told") ∈ lw_all := lw_g (lw_at lw_m2 236 rfl) rfl
theorem q658 : (Jvm.Cond.selects "GoodHalfEmpty$NumberTold" ({ cls := "GoodHalfEmpty$Told", name := "comes", desc := "(LGoodHalfEmpty$Town;)Z" } : Jvm.MethodName) ({ cls := "GoodHalfEmpty$NumberTold", name := "comes", desc := "(LGoodHalfEmpty$Town;)Z" } : Jvm.MethodName)) ∈ lw_all := lw_g (lw_at lw_m3 103 rfl) rfl
theorem q659 : (Jvm.Cond.instanceMethod ({ cls := "GoodHalfEmpty$NumberTold", name := "comes", desc := "(LGoodHalfEmpty$Town;)Z" } : Jvm.MethodName)) ∈ lw_all := lw_g (lw_at lw_m3 104 rfl) rfl
theorem q660 : (Jvm.Cond.code ({ cls := "GoodHalfEmpty$NumberTold", name := "comes", desc := "(LGoodHalfEmpty$Town;)Z" } : Jvm.MethodName) prog_11_method_3_code (3 : Nat) (Option.some Jvm.ClassFile.FieldType.boolean)) ∈ lw_all := lw_g (lw_at lw_m3 105 rfl) rfl
theorem q661 : (Jvm.Cond.methodLink "GoodHalfEmpty$NumberTold" (20 : Nat) ({ cls := "GoodHalfEmpty$NumberTold", name := "become", desc := "(LGoodHalfEmpty$Town;)V" } : Jvm.MethodName)) ∈ lw_all := lw_g (lw_at lw_m3 106 rfl) rfl
theorem q662 : (Jvm.Cond.instanceMethod ({ cls := "GoodHalfEmpty$NumberTold", name := "become", desc := "(LGoodHalfEmpty$Town;)V" } : Jvm.MethodName)) ∈ lw_all := lw_g (lw_at lw_m3 107 rfl) rfl
theorem q663 : (Jvm.Cond.selects "GoodHalfEmpty$NumberTold" ({ cls := "GoodHalfEmpty$NumberTold", name := "become", desc := "(LGoodHalfEmpty$Town;)V" } : Jvm.MethodName) ({ cls := "GoodHalfEmpty$NumberTold", name := "become", desc := "(LGoodHalfEmpty$Town;)V" } : Jvm.MethodName)) ∈ lw_all := lw_g (lw_at lw_m3 108 rfl) rfl
theorem q664 : (Jvm.Cond.sameMethod "GoodHalfEmpty$NumberTold" "GoodHalfEmpty$NumberTold" "become" "(LGoodHalfEmpty$Town;)V") ∈ lw_all := lw_g (lw_at lw_m3 109 rfl) rfl
theorem q675 : (Jvm.Cond.code ({ cls := "GoodHalfEmpty$NumberTold", name := "become", desc := "(LGoodHalfEmpty$Town;)V" } : Jvm.MethodName) prog_11_method_2_code (2 : Nat) (Option.none : Option Jvm.ClassFile.FieldType)) ∈ lw_all := lw_g (lw_at lw_m3 120 rfl) rfl
theorem q1485 : (Jvm.Cond.castable "GoodHalfEmpty$NumberTold" "GoodHalfEmpty$Told") ∈ lw_tbl := lw_at lw_m6 210 rfl
theorem in_X22 : ∀ w ∈ wsX220, w ∈ lw_all := lw_in wsX220 [549, 547] (by decide +kernel) (by decide +kernel)

/-! GoodHalfEmpty$WeekTold -/
set_option maxRecDepth 100000
def RX23 : String := "GoodHalfEmpty$WeekTold"
def TX23 : u_T := fun k => match k with
  | 0 => ("GoodHalfEmpty$Told", "start", "I", true)
  | _ => ("GoodHalfEmpty$NumberTold", "v", "I", true)
def tyX23 : Nat → FieldType := fun k => match k with
  | 0 => .int
  | _ => .int
abbrev wsX230 : List Cond := u_ws RX23 TX23 2
theorem nmX23 : ∀ a, a < 2 → ∀ b, b < 2 → a ≠ b → (TX23 a).2.1 ≠ (TX23 b).2.1 := by decide +kernel
theorem tyX23_ok : ∀ k, k < 2 → parseFieldDescriptor (TX23 k).2.2.1 = some (tyX23 k) := by decide +kernel
abbrev cX23_init : ByteArray := prog_26_method_1_code
def yX23_init : MethodName := ⟨RX23, "<init>", "(II)V"⟩
def dkwX23_init_0 : List UInt8 := [42, 27, 28, 183, 0, 1, 177]
abbrev dktX23_init_0 : List UInt8 := dkwX23_init_0 ++ []
theorem dksX23_init_0 : cX23_init.data.toList.drop 0 = dktX23_init_0 := by decide +kernel
theorem dX23_init_0 : decode cX23_init 0 = .ok (.aload_n 0, 1) := dk_42 (dk_at dksX23_init_0 0 rfl rfl)
theorem dX23_init_1 : decode cX23_init 1 = .ok (.iload_n 1, 1) := dk_27 (dk_at dksX23_init_0 1 rfl rfl)
theorem dX23_init_2 : decode cX23_init 2 = .ok (.iload_n 2, 1) := dk_28 (dk_at dksX23_init_0 2 rfl rfl)
theorem dX23_init_3 : decode cX23_init 3 = .ok (.invokespecial 1, 3) := dk_183 0 1 (dk_at dksX23_init_0 3 rfl rfl)
theorem dX23_init_6 : decode cX23_init 6 = .ok (.return_, 1) := dk_177 (dk_at dksX23_init_0 6 rfl rfl)
abbrev cX23_become : ByteArray := prog_26_method_2_code
def yX23_become : MethodName := ⟨RX23, "become", "(LGoodHalfEmpty$Town;)V"⟩
def dkwX23_become_0 : List UInt8 := [43, 42, 180, 0, 7, 182, 0, 13, 177]
abbrev dktX23_become_0 : List UInt8 := dkwX23_become_0 ++ []
theorem dksX23_become_0 : cX23_become.data.toList.drop 0 = dktX23_become_0 := by decide +kernel
theorem dX23_become_0 : decode cX23_become 0 = .ok (.aload_n 1, 1) := dk_43 (dk_at dksX23_become_0 0 rfl rfl)
theorem dX23_become_1 : decode cX23_become 1 = .ok (.aload_n 0, 1) := dk_42 (dk_at dksX23_become_0 1 rfl rfl)
theorem dX23_become_2 : decode cX23_become 2 = .ok (.getfield 7, 3) := dk_180 0 7 (dk_at dksX23_become_0 2 rfl rfl)
theorem dX23_become_5 : decode cX23_become 5 = .ok (.invokevirtual 13, 3) := dk_182 0 13 (dk_at dksX23_become_0 5 rfl rfl)
theorem dX23_become_8 : decode cX23_become 8 = .ok (.return_, 1) := dk_177 (dk_at dksX23_become_0 8 rfl rfl)
theorem q102 : (Jvm.Cond.initialized "GoodHalfEmpty$WeekTold") ∈ lw_all := lw_g (lw_at lw_m1 27 rfl) rfl
theorem q543 : (Jvm.Cond.fieldLink "GoodHalfEmpty$WeekTold" (7 : Nat) "GoodHalfEmpty$WeekTold" "v" "I") ∈ lw_all := lw_g (lw_at lw_m2 228 rfl) rfl
theorem q544 : (Jvm.Cond.sameField "GoodHalfEmpty$WeekTold" "GoodHalfEmpty$NumberTold" "v" "I") ∈ lw_all := lw_g (lw_at lw_m2 229 rfl) rfl
theorem q553 : (Jvm.Cond.instantiable "GoodHalfEmpty$WeekTold" (2 : Nat)) ∈ lw_all := lw_g (lw_at lw_m2 238 rfl) rfl
theorem q555 : (Jvm.Cond.instanceMethod ({ cls := "GoodHalfEmpty$WeekTold", name := "<init>", desc := "(II)V" } : Jvm.MethodName)) ∈ lw_all := lw_g (lw_at lw_m3 0 rfl) rfl
theorem q556 : (Jvm.Cond.code ({ cls := "GoodHalfEmpty$WeekTold", name := "<init>", desc := "(II)V" } : Jvm.MethodName) prog_26_method_1_code (3 : Nat) (Option.none : Option Jvm.ClassFile.FieldType)) ∈ lw_all := lw_g (lw_at lw_m3 1 rfl) rfl
theorem q557 : (Jvm.Cond.methodLink "GoodHalfEmpty$WeekTold" (1 : Nat) ({ cls := "GoodHalfEmpty$NumberTold", name := "<init>", desc := "(II)V" } : Jvm.MethodName)) ∈ lw_all := lw_g (lw_at lw_m3 2 rfl) rfl
theorem q558 : (Jvm.Cond.laysFinal "GoodHalfEmpty$WeekTold" "GoodHalfEmpty$NumberTold" "v" "I") ∈ lw_all := lw_g (lw_at lw_m3 3 rfl) rfl
theorem q559 : (Jvm.Cond.laysFinal "GoodHalfEmpty$WeekTold" "GoodHalfEmpty$Told" "start" "I") ∈ lw_all := lw_g (lw_at lw_m3 4 rfl) rfl
theorem q560 : (Jvm.Cond.superclass "GoodHalfEmpty$WeekTold" "GoodHalfEmpty$NumberTold") ∈ lw_all := lw_g (lw_at lw_m3 5 rfl) rfl
theorem q665 : (Jvm.Cond.selects "GoodHalfEmpty$WeekTold" ({ cls := "GoodHalfEmpty$NumberTold", name := "become", desc := "(LGoodHalfEmpty$Town;)V" } : Jvm.MethodName) ({ cls := "GoodHalfEmpty$WeekTold", name := "become", desc := "(LGoodHalfEmpty$Town;)V" } : Jvm.MethodName)) ∈ lw_all := lw_g (lw_at lw_m3 110 rfl) rfl
theorem q666 : (Jvm.Cond.instanceMethod ({ cls := "GoodHalfEmpty$WeekTold", name := "become", desc := "(LGoodHalfEmpty$Town;)V" } : Jvm.MethodName)) ∈ lw_all := lw_g (lw_at lw_m3 111 rfl) rfl
theorem q667 : (Jvm.Cond.code ({ cls := "GoodHalfEmpty$WeekTold", name := "become", desc := "(LGoodHalfEmpty$Town;)V" } : Jvm.MethodName) prog_26_method_2_code (2 : Nat) (Option.none : Option Jvm.ClassFile.FieldType)) ∈ lw_all := lw_g (lw_at lw_m3 112 rfl) rfl
theorem q668 : (Jvm.Cond.methodLink "GoodHalfEmpty$WeekTold" (13 : Nat) ({ cls := "GoodHalfEmpty$Town", name := "remember", desc := "(I)V" } : Jvm.MethodName)) ∈ lw_all := lw_g (lw_at lw_m3 113 rfl) rfl
theorem q696 : (Jvm.Cond.selects "GoodHalfEmpty$WeekTold" ({ cls := "GoodHalfEmpty$Told", name := "comes", desc := "(LGoodHalfEmpty$Town;)Z" } : Jvm.MethodName) ({ cls := "GoodHalfEmpty$NumberTold", name := "comes", desc := "(LGoodHalfEmpty$Town;)Z" } : Jvm.MethodName)) ∈ lw_all := lw_g (lw_at lw_m3 141 rfl) rfl
theorem q1486 : (Jvm.Cond.castable "GoodHalfEmpty$WeekTold" "GoodHalfEmpty$Told") ∈ lw_tbl := lw_at lw_m6 211 rfl
theorem in_X23 : ∀ w ∈ wsX230, w ∈ lw_all := lw_in wsX230 [559, 558] (by decide +kernel) (by decide +kernel)

/-! GoodHalfEmpty$SortTold -/
set_option maxRecDepth 100000
def RX24 : String := "GoodHalfEmpty$SortTold"
def TX24 : u_T := fun k => match k with
  | 0 => ("GoodHalfEmpty$Told", "start", "I", true)
  | _ => ("GoodHalfEmpty$SortTold", "sort", "LGoodHalfEmpty$Sort;", true)
def tyX24 : Nat → FieldType := fun k => match k with
  | 0 => .int
  | _ => .object "GoodHalfEmpty$Sort"
abbrev wsX240 : List Cond := u_ws RX24 TX24 2
theorem nmX24 : ∀ a, a < 2 → ∀ b, b < 2 → a ≠ b → (TX24 a).2.1 ≠ (TX24 b).2.1 := by decide +kernel
theorem tyX24_ok : ∀ k, k < 2 → parseFieldDescriptor (TX24 k).2.2.1 = some (tyX24 k) := by decide +kernel
abbrev cX24_init : ByteArray := prog_21_method_1_code
def yX24_init : MethodName := ⟨RX24, "<init>", "(ILGoodHalfEmpty$Sort;)V"⟩
def dkwX24_init_0 : List UInt8 := [42, 27, 183, 0, 3, 42, 44, 181, 0, 9, 177]
abbrev dktX24_init_0 : List UInt8 := dkwX24_init_0 ++ []
theorem dksX24_init_0 : cX24_init.data.toList.drop 0 = dktX24_init_0 := by decide +kernel
theorem dX24_init_0 : decode cX24_init 0 = .ok (.aload_n 0, 1) := dk_42 (dk_at dksX24_init_0 0 rfl rfl)
theorem dX24_init_1 : decode cX24_init 1 = .ok (.iload_n 1, 1) := dk_27 (dk_at dksX24_init_0 1 rfl rfl)
theorem dX24_init_2 : decode cX24_init 2 = .ok (.invokespecial 3, 3) := dk_183 0 3 (dk_at dksX24_init_0 2 rfl rfl)
theorem dX24_init_5 : decode cX24_init 5 = .ok (.aload_n 0, 1) := dk_42 (dk_at dksX24_init_0 5 rfl rfl)
theorem dX24_init_6 : decode cX24_init 6 = .ok (.aload_n 2, 1) := dk_44 (dk_at dksX24_init_0 6 rfl rfl)
theorem dX24_init_7 : decode cX24_init 7 = .ok (.putfield 9, 3) := dk_181 0 9 (dk_at dksX24_init_0 7 rfl rfl)
theorem dX24_init_10 : decode cX24_init 10 = .ok (.return_, 1) := dk_177 (dk_at dksX24_init_0 10 rfl rfl)
abbrev cX24_comes : ByteArray := prog_21_method_2_code
def yX24_comes : MethodName := ⟨RX24, "comes", "(LGoodHalfEmpty$Town;)Z"⟩
def dkwX24_comes_3 : List UInt8 := [180, 0, 39, 4, 96, 181, 0, 39, 4, 172]
abbrev dktX24_comes_3 : List UInt8 := dkwX24_comes_3 ++ []
def dkwX24_comes_2 : List UInt8 := [180, 0, 39, 7, 160, 0, 5, 3, 172, 43, 180, 0, 42, 43, 180, 0, 39, 42, 180, 0, 9, 83, 43, 89]
abbrev dktX24_comes_2 : List UInt8 := dkwX24_comes_2 ++ dktX24_comes_3
def dkwX24_comes_1 : List UInt8 := [180, 0, 9, 180, 0, 31, 43, 180, 0, 34, 162, 0, 7, 4, 167, 0, 4, 3, 61, 28, 153, 0, 11, 43]
abbrev dktX24_comes_1 : List UInt8 := dkwX24_comes_1 ++ dktX24_comes_2
def dkwX24_comes_0 : List UInt8 := [42, 180, 0, 9, 180, 0, 15, 158, 0, 34, 42, 180, 0, 9, 180, 0, 21, 182, 0, 25, 153, 0, 17, 42]
abbrev dktX24_comes_0 : List UInt8 := dkwX24_comes_0 ++ dktX24_comes_1
theorem dksX24_comes_0 : cX24_comes.data.toList.drop 0 = dktX24_comes_0 := by decide +kernel
theorem dksX24_comes_1 : cX24_comes.data.toList.drop 24 = dktX24_comes_1 := dk_seg dksX24_comes_0 24 rfl rfl
theorem dksX24_comes_2 : cX24_comes.data.toList.drop 48 = dktX24_comes_2 := dk_seg dksX24_comes_1 24 rfl rfl
theorem dksX24_comes_3 : cX24_comes.data.toList.drop 72 = dktX24_comes_3 := dk_seg dksX24_comes_2 24 rfl rfl
theorem dX24_comes_0 : decode cX24_comes 0 = .ok (.aload_n 0, 1) := dk_42 (dk_at dksX24_comes_0 0 rfl rfl)
theorem dX24_comes_1 : decode cX24_comes 1 = .ok (.getfield 9, 3) := dk_180 0 9 (dk_at dksX24_comes_0 1 rfl rfl)
theorem dX24_comes_4 : decode cX24_comes 4 = .ok (.getfield 15, 3) := dk_180 0 15 (dk_at dksX24_comes_0 4 rfl rfl)
theorem dX24_comes_7 : decode cX24_comes 7 = .ok (.ifCond .le 34, 3) := dk_158 0 34 (dk_at dksX24_comes_0 7 rfl rfl)
theorem dX24_comes_10 : decode cX24_comes 10 = .ok (.aload_n 0, 1) := dk_42 (dk_at dksX24_comes_0 10 rfl rfl)
theorem dX24_comes_11 : decode cX24_comes 11 = .ok (.getfield 9, 3) := dk_180 0 9 (dk_at dksX24_comes_0 11 rfl rfl)
theorem dX24_comes_14 : decode cX24_comes 14 = .ok (.getfield 21, 3) := dk_180 0 21 (dk_at dksX24_comes_0 14 rfl rfl)
theorem dX24_comes_17 : decode cX24_comes 17 = .ok (.invokevirtual 25, 3) := dk_182 0 25 (dk_at dksX24_comes_0 17 rfl rfl)
theorem dX24_comes_20 : decode cX24_comes 20 = .ok (.ifCond .eq 17, 3) := dk_153 0 17 (dk_at dksX24_comes_0 20 rfl rfl)
theorem dX24_comes_23 : decode cX24_comes 23 = .ok (.aload_n 0, 1) := dk_42 (dk_at dksX24_comes_0 23 rfl rfl)
theorem dX24_comes_24 : decode cX24_comes 24 = .ok (.getfield 9, 3) := dk_180 0 9 (dk_at dksX24_comes_1 0 rfl rfl)
theorem dX24_comes_27 : decode cX24_comes 27 = .ok (.getfield 31, 3) := dk_180 0 31 (dk_at dksX24_comes_1 3 rfl rfl)
theorem dX24_comes_30 : decode cX24_comes 30 = .ok (.aload_n 1, 1) := dk_43 (dk_at dksX24_comes_1 6 rfl rfl)
theorem dX24_comes_31 : decode cX24_comes 31 = .ok (.getfield 34, 3) := dk_180 0 34 (dk_at dksX24_comes_1 7 rfl rfl)
theorem dX24_comes_34 : decode cX24_comes 34 = .ok (.if_icmp .ge 7, 3) := dk_162 0 7 (dk_at dksX24_comes_1 10 rfl rfl)
theorem dX24_comes_37 : decode cX24_comes 37 = .ok (.iconst 1, 1) := dk_4 (dk_at dksX24_comes_1 13 rfl rfl)
theorem dX24_comes_38 : decode cX24_comes 38 = .ok (.goto 4, 3) := dk_167 0 4 (dk_at dksX24_comes_1 14 rfl rfl)
theorem dX24_comes_41 : decode cX24_comes 41 = .ok (.iconst 0, 1) := dk_3 (dk_at dksX24_comes_1 17 rfl rfl)
theorem dX24_comes_42 : decode cX24_comes 42 = .ok (.istore_n 2, 1) := dk_61 (dk_at dksX24_comes_1 18 rfl rfl)
theorem dX24_comes_43 : decode cX24_comes 43 = .ok (.iload_n 2, 1) := dk_28 (dk_at dksX24_comes_1 19 rfl rfl)
theorem dX24_comes_44 : decode cX24_comes 44 = .ok (.ifCond .eq 11, 3) := dk_153 0 11 (dk_at dksX24_comes_1 20 rfl rfl)
theorem dX24_comes_47 : decode cX24_comes 47 = .ok (.aload_n 1, 1) := dk_43 (dk_at dksX24_comes_1 23 rfl rfl)
theorem dX24_comes_48 : decode cX24_comes 48 = .ok (.getfield 39, 3) := dk_180 0 39 (dk_at dksX24_comes_2 0 rfl rfl)
theorem dX24_comes_51 : decode cX24_comes 51 = .ok (.iconst 4, 1) := dk_7 (dk_at dksX24_comes_2 3 rfl rfl)
theorem dX24_comes_52 : decode cX24_comes 52 = .ok (.if_icmp .ne 5, 3) := dk_160 0 5 (dk_at dksX24_comes_2 4 rfl rfl)
theorem dX24_comes_55 : decode cX24_comes 55 = .ok (.iconst 0, 1) := dk_3 (dk_at dksX24_comes_2 7 rfl rfl)
theorem dX24_comes_56 : decode cX24_comes 56 = .ok (.ireturn, 1) := dk_172 (dk_at dksX24_comes_2 8 rfl rfl)
theorem dX24_comes_57 : decode cX24_comes 57 = .ok (.aload_n 1, 1) := dk_43 (dk_at dksX24_comes_2 9 rfl rfl)
theorem dX24_comes_58 : decode cX24_comes 58 = .ok (.getfield 42, 3) := dk_180 0 42 (dk_at dksX24_comes_2 10 rfl rfl)
theorem dX24_comes_61 : decode cX24_comes 61 = .ok (.aload_n 1, 1) := dk_43 (dk_at dksX24_comes_2 13 rfl rfl)
theorem dX24_comes_62 : decode cX24_comes 62 = .ok (.getfield 39, 3) := dk_180 0 39 (dk_at dksX24_comes_2 14 rfl rfl)
theorem dX24_comes_65 : decode cX24_comes 65 = .ok (.aload_n 0, 1) := dk_42 (dk_at dksX24_comes_2 17 rfl rfl)
theorem dX24_comes_66 : decode cX24_comes 66 = .ok (.getfield 9, 3) := dk_180 0 9 (dk_at dksX24_comes_2 18 rfl rfl)
theorem dX24_comes_69 : decode cX24_comes 69 = .ok (.aastore, 1) := dk_83 (dk_at dksX24_comes_2 21 rfl rfl)
theorem dX24_comes_70 : decode cX24_comes 70 = .ok (.aload_n 1, 1) := dk_43 (dk_at dksX24_comes_2 22 rfl rfl)
theorem dX24_comes_71 : decode cX24_comes 71 = .ok (.dup, 1) := dk_89 (dk_at dksX24_comes_2 23 rfl rfl)
theorem dX24_comes_72 : decode cX24_comes 72 = .ok (.getfield 39, 3) := dk_180 0 39 (dk_at dksX24_comes_3 0 rfl rfl)
theorem dX24_comes_75 : decode cX24_comes 75 = .ok (.iconst 1, 1) := dk_4 (dk_at dksX24_comes_3 3 rfl rfl)
theorem dX24_comes_76 : decode cX24_comes 76 = .ok (.iadd, 1) := dk_96 (dk_at dksX24_comes_3 4 rfl rfl)
theorem dX24_comes_77 : decode cX24_comes 77 = .ok (.putfield 39, 3) := dk_181 0 39 (dk_at dksX24_comes_3 5 rfl rfl)
theorem dX24_comes_80 : decode cX24_comes 80 = .ok (.iconst 1, 1) := dk_4 (dk_at dksX24_comes_3 8 rfl rfl)
theorem dX24_comes_81 : decode cX24_comes 81 = .ok (.ireturn, 1) := dk_172 (dk_at dksX24_comes_3 9 rfl rfl)
theorem q103 : (Jvm.Cond.initialized "GoodHalfEmpty$SortTold") ∈ lw_all := lw_g (lw_at lw_m1 28 rfl) rfl
theorem q225 : (Jvm.Cond.fieldLinkNest "GoodHalfEmpty$SortTold" (39 : Nat) "GoodHalfEmpty$Town" "sorts" "I" "GoodHalfEmpty") ∈ lw_tbl := lw_at lw_m1 150 rfl
theorem q228 : (Jvm.Cond.fieldLinkNest "GoodHalfEmpty$SortTold" (42 : Nat) "GoodHalfEmpty$Town" "sort" "[LGoodHalfEmpty$Sort;" "GoodHalfEmpty") ∈ lw_tbl := lw_at lw_m1 153 rfl
theorem q232 : (Jvm.Cond.fieldLinkNest "GoodHalfEmpty$SortTold" (34 : Nat) "GoodHalfEmpty$Town" "rules" "I" "GoodHalfEmpty") ∈ lw_tbl := lw_at lw_m1 157 rfl
theorem q574 : (Jvm.Cond.instantiable "GoodHalfEmpty$SortTold" (2 : Nat)) ∈ lw_all := lw_g (lw_at lw_m3 19 rfl) rfl
theorem q582 : (Jvm.Cond.fieldLinkNest "GoodHalfEmpty$SortTold" (21 : Nat) "GoodHalfEmpty$Sort" "goer" "LGoodHalfEmpty$Goer;" "GoodHalfEmpty") ∈ lw_tbl := lw_at lw_m3 27 rfl
theorem q586 : (Jvm.Cond.fieldLinkNest "GoodHalfEmpty$SortTold" (15 : Nat) "GoodHalfEmpty$Sort" "many" "I" "GoodHalfEmpty") ∈ lw_tbl := lw_at lw_m3 31 rfl
theorem q591 : (Jvm.Cond.fieldLinkNest "GoodHalfEmpty$SortTold" (31 : Nat) "GoodHalfEmpty$Sort" "figure" "I" "GoodHalfEmpty") ∈ lw_tbl := lw_at lw_m3 36 rfl
theorem q618 : (Jvm.Cond.instanceMethod ({ cls := "GoodHalfEmpty$SortTold", name := "<init>", desc := "(ILGoodHalfEmpty$Sort;)V" } : Jvm.MethodName)) ∈ lw_all := lw_g (lw_at lw_m3 63 rfl) rfl
theorem q619 : (Jvm.Cond.code ({ cls := "GoodHalfEmpty$SortTold", name := "<init>", desc := "(ILGoodHalfEmpty$Sort;)V" } : Jvm.MethodName) prog_21_method_1_code (3 : Nat) (Option.none : Option Jvm.ClassFile.FieldType)) ∈ lw_all := lw_g (lw_at lw_m3 64 rfl) rfl
theorem q620 : (Jvm.Cond.methodLink "GoodHalfEmpty$SortTold" (3 : Nat) ({ cls := "GoodHalfEmpty$Told", name := "<init>", desc := "(I)V" } : Jvm.MethodName)) ∈ lw_all := lw_g (lw_at lw_m3 65 rfl) rfl
theorem q621 : (Jvm.Cond.fieldLink "GoodHalfEmpty$SortTold" (9 : Nat) "GoodHalfEmpty$SortTold" "sort" "LGoodHalfEmpty$Sort;") ∈ lw_all := lw_g (lw_at lw_m3 66 rfl) rfl
theorem q622 : (Jvm.Cond.laysFinal "GoodHalfEmpty$SortTold" "GoodHalfEmpty$SortTold" "sort" "LGoodHalfEmpty$Sort;") ∈ lw_all := lw_g (lw_at lw_m3 67 rfl) rfl
theorem q623 : (Jvm.Cond.soleField "GoodHalfEmpty$SortTold" "sort") ∈ lw_all := lw_g (lw_at lw_m3 68 rfl) rfl
theorem q624 : (Jvm.Cond.laysFinal "GoodHalfEmpty$SortTold" "GoodHalfEmpty$Told" "start" "I") ∈ lw_all := lw_g (lw_at lw_m3 69 rfl) rfl
theorem q625 : (Jvm.Cond.superclass "GoodHalfEmpty$SortTold" "GoodHalfEmpty$Told") ∈ lw_all := lw_g (lw_at lw_m3 70 rfl) rfl
theorem q681 : (Jvm.Cond.selects "GoodHalfEmpty$SortTold" ({ cls := "GoodHalfEmpty$Told", name := "comes", desc := "(LGoodHalfEmpty$Town;)Z" } : Jvm.MethodName) ({ cls := "GoodHalfEmpty$SortTold", name := "comes", desc := "(LGoodHalfEmpty$Town;)Z" } : Jvm.MethodName)) ∈ lw_all := lw_g (lw_at lw_m3 126 rfl) rfl
theorem q682 : (Jvm.Cond.instanceMethod ({ cls := "GoodHalfEmpty$SortTold", name := "comes", desc := "(LGoodHalfEmpty$Town;)Z" } : Jvm.MethodName)) ∈ lw_all := lw_g (lw_at lw_m3 127 rfl) rfl
theorem q683 : (Jvm.Cond.code ({ cls := "GoodHalfEmpty$SortTold", name := "comes", desc := "(LGoodHalfEmpty$Town;)Z" } : Jvm.MethodName) prog_21_method_2_code (3 : Nat) (Option.some Jvm.ClassFile.FieldType.boolean)) ∈ lw_all := lw_g (lw_at lw_m3 128 rfl) rfl
theorem q684 : (Jvm.Cond.methodLink "GoodHalfEmpty$SortTold" (25 : Nat) ({ cls := "GoodHalfEmpty$Goer", name := "hasRule", desc := "()Z" } : Jvm.MethodName)) ∈ lw_all := lw_g (lw_at lw_m3 129 rfl) rfl
theorem q1487 : (Jvm.Cond.castable "GoodHalfEmpty$SortTold" "GoodHalfEmpty$Told") ∈ lw_tbl := lw_at lw_m6 212 rfl
theorem in_X24 : ∀ w ∈ wsX240, w ∈ lw_all := lw_in wsX240 [624, 622] (by decide +kernel) (by decide +kernel)

/-! GoodHalfEmpty$Sort -/
set_option maxRecDepth 100000
def RX25 : String := "GoodHalfEmpty$Sort"
def TX25 : u_T := fun k => match k with
  | 0 => ("GoodHalfEmpty$Sort", "goer", "LGoodHalfEmpty$Goer;", true)
  | 1 => ("GoodHalfEmpty$Sort", "many", "I", true)
  | 2 => ("GoodHalfEmpty$Sort", "figure", "I", true)
  | 3 => ("GoodHalfEmpty$Sort", "few", "I", true)
  | 4 => ("GoodHalfEmpty$Sort", "full", "I", true)
  | _ => ("GoodHalfEmpty$Sort", "home", "I", true)
def tyX25 : Nat → FieldType := fun k => match k with
  | 0 => .object "GoodHalfEmpty$Goer"
  | 1 => .int
  | 2 => .int
  | 3 => .int
  | 4 => .int
  | _ => .int
abbrev wsX250 : List Cond := u_ws RX25 TX25 6
theorem nmX25 : ∀ a, a < 6 → ∀ b, b < 6 → a ≠ b → (TX25 a).2.1 ≠ (TX25 b).2.1 := by decide +kernel
theorem tyX25_ok : ∀ k, k < 6 → parseFieldDescriptor (TX25 k).2.2.1 = some (tyX25 k) := by decide +kernel
abbrev cX25_init : ByteArray := prog_20_method_1_code
def yX25_init : MethodName := ⟨RX25, "<init>", "(LGoodHalfEmpty$Goer;IIIII)V"⟩
def dkwX25_init_1 : List UInt8 := [181, 0, 20, 42, 21, 5, 181, 0, 23, 42, 21, 6, 181, 0, 26, 177]
abbrev dktX25_init_1 : List UInt8 := dkwX25_init_1 ++ []
def dkwX25_init_0 : List UInt8 := [42, 183, 0, 1, 42, 43, 181, 0, 7, 42, 28, 181, 0, 13, 42, 29, 181, 0, 17, 42, 21, 4]
abbrev dktX25_init_0 : List UInt8 := dkwX25_init_0 ++ dktX25_init_1
theorem dksX25_init_0 : cX25_init.data.toList.drop 0 = dktX25_init_0 := by decide +kernel
theorem dksX25_init_1 : cX25_init.data.toList.drop 22 = dktX25_init_1 := dk_seg dksX25_init_0 22 rfl rfl
theorem dX25_init_0 : decode cX25_init 0 = .ok (.aload_n 0, 1) := dk_42 (dk_at dksX25_init_0 0 rfl rfl)
theorem dX25_init_1 : decode cX25_init 1 = .ok (.invokespecial 1, 3) := dk_183 0 1 (dk_at dksX25_init_0 1 rfl rfl)
theorem dX25_init_4 : decode cX25_init 4 = .ok (.aload_n 0, 1) := dk_42 (dk_at dksX25_init_0 4 rfl rfl)
theorem dX25_init_5 : decode cX25_init 5 = .ok (.aload_n 1, 1) := dk_43 (dk_at dksX25_init_0 5 rfl rfl)
theorem dX25_init_6 : decode cX25_init 6 = .ok (.putfield 7, 3) := dk_181 0 7 (dk_at dksX25_init_0 6 rfl rfl)
theorem dX25_init_9 : decode cX25_init 9 = .ok (.aload_n 0, 1) := dk_42 (dk_at dksX25_init_0 9 rfl rfl)
theorem dX25_init_10 : decode cX25_init 10 = .ok (.iload_n 2, 1) := dk_28 (dk_at dksX25_init_0 10 rfl rfl)
theorem dX25_init_11 : decode cX25_init 11 = .ok (.putfield 13, 3) := dk_181 0 13 (dk_at dksX25_init_0 11 rfl rfl)
theorem dX25_init_14 : decode cX25_init 14 = .ok (.aload_n 0, 1) := dk_42 (dk_at dksX25_init_0 14 rfl rfl)
theorem dX25_init_15 : decode cX25_init 15 = .ok (.iload_n 3, 1) := dk_29 (dk_at dksX25_init_0 15 rfl rfl)
theorem dX25_init_16 : decode cX25_init 16 = .ok (.putfield 17, 3) := dk_181 0 17 (dk_at dksX25_init_0 16 rfl rfl)
theorem dX25_init_19 : decode cX25_init 19 = .ok (.aload_n 0, 1) := dk_42 (dk_at dksX25_init_0 19 rfl rfl)
theorem dX25_init_20 : decode cX25_init 20 = .ok (.iload 4, 2) := dk_21 4 (dk_at dksX25_init_0 20 rfl rfl)
theorem dX25_init_22 : decode cX25_init 22 = .ok (.putfield 20, 3) := dk_181 0 20 (dk_at dksX25_init_1 0 rfl rfl)
theorem dX25_init_25 : decode cX25_init 25 = .ok (.aload_n 0, 1) := dk_42 (dk_at dksX25_init_1 3 rfl rfl)
theorem dX25_init_26 : decode cX25_init 26 = .ok (.iload 5, 2) := dk_21 5 (dk_at dksX25_init_1 4 rfl rfl)
theorem dX25_init_28 : decode cX25_init 28 = .ok (.putfield 23, 3) := dk_181 0 23 (dk_at dksX25_init_1 6 rfl rfl)
theorem dX25_init_31 : decode cX25_init 31 = .ok (.aload_n 0, 1) := dk_42 (dk_at dksX25_init_1 9 rfl rfl)
theorem dX25_init_32 : decode cX25_init 32 = .ok (.iload 6, 2) := dk_21 6 (dk_at dksX25_init_1 10 rfl rfl)
theorem dX25_init_34 : decode cX25_init 34 = .ok (.putfield 26, 3) := dk_181 0 26 (dk_at dksX25_init_1 12 rfl rfl)
theorem dX25_init_37 : decode cX25_init 37 = .ok (.return_, 1) := dk_177 (dk_at dksX25_init_1 15 rfl rfl)
theorem q104 : (Jvm.Cond.initialized "GoodHalfEmpty$Sort") ∈ lw_all := lw_g (lw_at lw_m1 29 rfl) rfl
theorem q576 : (Jvm.Cond.instantiable "GoodHalfEmpty$Sort" (6 : Nat)) ∈ lw_all := lw_g (lw_at lw_m3 21 rfl) rfl
theorem q578 : (Jvm.Cond.instanceMethod ({ cls := "GoodHalfEmpty$Sort", name := "<init>", desc := "(LGoodHalfEmpty$Goer;IIIII)V" } : Jvm.MethodName)) ∈ lw_all := lw_g (lw_at lw_m3 23 rfl) rfl
theorem q579 : (Jvm.Cond.code ({ cls := "GoodHalfEmpty$Sort", name := "<init>", desc := "(LGoodHalfEmpty$Goer;IIIII)V" } : Jvm.MethodName) prog_20_method_1_code (7 : Nat) (Option.none : Option Jvm.ClassFile.FieldType)) ∈ lw_all := lw_g (lw_at lw_m3 24 rfl) rfl
theorem q580 : (Jvm.Cond.methodLink "GoodHalfEmpty$Sort" (1 : Nat) ({ cls := "java/lang/Object", name := "<init>", desc := "()V" } : Jvm.MethodName)) ∈ lw_all := lw_g (lw_at lw_m3 25 rfl) rfl
theorem q581 : (Jvm.Cond.fieldLink "GoodHalfEmpty$Sort" (7 : Nat) "GoodHalfEmpty$Sort" "goer" "LGoodHalfEmpty$Goer;") ∈ lw_all := lw_g (lw_at lw_m3 26 rfl) rfl
theorem q585 : (Jvm.Cond.fieldLink "GoodHalfEmpty$Sort" (13 : Nat) "GoodHalfEmpty$Sort" "many" "I") ∈ lw_all := lw_g (lw_at lw_m3 30 rfl) rfl
theorem q590 : (Jvm.Cond.fieldLink "GoodHalfEmpty$Sort" (17 : Nat) "GoodHalfEmpty$Sort" "figure" "I") ∈ lw_all := lw_g (lw_at lw_m3 35 rfl) rfl
theorem q595 : (Jvm.Cond.fieldLink "GoodHalfEmpty$Sort" (20 : Nat) "GoodHalfEmpty$Sort" "few" "I") ∈ lw_all := lw_g (lw_at lw_m3 40 rfl) rfl
theorem q598 : (Jvm.Cond.fieldLink "GoodHalfEmpty$Sort" (23 : Nat) "GoodHalfEmpty$Sort" "full" "I") ∈ lw_all := lw_g (lw_at lw_m3 43 rfl) rfl
theorem q601 : (Jvm.Cond.fieldLink "GoodHalfEmpty$Sort" (26 : Nat) "GoodHalfEmpty$Sort" "home" "I") ∈ lw_all := lw_g (lw_at lw_m3 46 rfl) rfl
theorem q604 : (Jvm.Cond.laysFinal "GoodHalfEmpty$Sort" "GoodHalfEmpty$Sort" "goer" "LGoodHalfEmpty$Goer;") ∈ lw_all := lw_g (lw_at lw_m3 49 rfl) rfl
theorem q605 : (Jvm.Cond.soleField "GoodHalfEmpty$Sort" "goer") ∈ lw_all := lw_g (lw_at lw_m3 50 rfl) rfl
theorem q606 : (Jvm.Cond.laysFinal "GoodHalfEmpty$Sort" "GoodHalfEmpty$Sort" "many" "I") ∈ lw_all := lw_g (lw_at lw_m3 51 rfl) rfl
theorem q607 : (Jvm.Cond.soleField "GoodHalfEmpty$Sort" "many") ∈ lw_all := lw_g (lw_at lw_m3 52 rfl) rfl
theorem q608 : (Jvm.Cond.laysFinal "GoodHalfEmpty$Sort" "GoodHalfEmpty$Sort" "figure" "I") ∈ lw_all := lw_g (lw_at lw_m3 53 rfl) rfl
theorem q609 : (Jvm.Cond.soleField "GoodHalfEmpty$Sort" "figure") ∈ lw_all := lw_g (lw_at lw_m3 54 rfl) rfl
theorem q610 : (Jvm.Cond.laysFinal "GoodHalfEmpty$Sort" "GoodHalfEmpty$Sort" "few" "I") ∈ lw_all := lw_g (lw_at lw_m3 55 rfl) rfl
theorem q611 : (Jvm.Cond.soleField "GoodHalfEmpty$Sort" "few") ∈ lw_all := lw_g (lw_at lw_m3 56 rfl) rfl
theorem q612 : (Jvm.Cond.laysFinal "GoodHalfEmpty$Sort" "GoodHalfEmpty$Sort" "full" "I") ∈ lw_all := lw_g (lw_at lw_m3 57 rfl) rfl
theorem q613 : (Jvm.Cond.soleField "GoodHalfEmpty$Sort" "full") ∈ lw_all := lw_g (lw_at lw_m3 58 rfl) rfl
theorem q614 : (Jvm.Cond.laysFinal "GoodHalfEmpty$Sort" "GoodHalfEmpty$Sort" "home" "I") ∈ lw_all := lw_g (lw_at lw_m3 59 rfl) rfl
theorem q615 : (Jvm.Cond.soleField "GoodHalfEmpty$Sort" "home") ∈ lw_all := lw_g (lw_at lw_m3 60 rfl) rfl
theorem q616 : (Jvm.Cond.superclass "GoodHalfEmpty$Sort" "java/lang/Object") ∈ lw_all := lw_g (lw_at lw_m3 61 rfl) rfl
theorem in_X25 : ∀ w ∈ wsX250, w ∈ lw_all := lw_in wsX250 [604, 606, 608, 610, 612, 614] (by decide +kernel) (by decide +kernel)

/-! GoodHalfEmpty$RuleTold -/
set_option maxRecDepth 100000
def RX26 : String := "GoodHalfEmpty$RuleTold"
def TX26 : u_T := fun k => match k with
  | 0 => ("GoodHalfEmpty$Told", "start", "I", true)
  | 1 => ("GoodHalfEmpty$RuleTold", "rule", "LGoodHalfEmpty$Rule;", true)
  | _ => ("GoodHalfEmpty$RuleTold", "span", "I", true)
def tyX26 : Nat → FieldType := fun k => match k with
  | 0 => .int
  | 1 => .object "GoodHalfEmpty$Rule"
  | _ => .int
abbrev wsX260 : List Cond := u_ws RX26 TX26 3
theorem nmX26 : ∀ a, a < 3 → ∀ b, b < 3 → a ≠ b → (TX26 a).2.1 ≠ (TX26 b).2.1 := by decide +kernel
theorem tyX26_ok : ∀ k, k < 3 → parseFieldDescriptor (TX26 k).2.2.1 = some (tyX26 k) := by decide +kernel
abbrev cX26_init : ByteArray := prog_17_method_1_code
def yX26_init : MethodName := ⟨RX26, "<init>", "(ILGoodHalfEmpty$Rule;I)V"⟩
def dkwX26_init_0 : List UInt8 := [42, 27, 183, 0, 3, 42, 44, 181, 0, 9, 42, 29, 181, 0, 15, 177]
abbrev dktX26_init_0 : List UInt8 := dkwX26_init_0 ++ []
theorem dksX26_init_0 : cX26_init.data.toList.drop 0 = dktX26_init_0 := by decide +kernel
theorem dX26_init_0 : decode cX26_init 0 = .ok (.aload_n 0, 1) := dk_42 (dk_at dksX26_init_0 0 rfl rfl)
theorem dX26_init_1 : decode cX26_init 1 = .ok (.iload_n 1, 1) := dk_27 (dk_at dksX26_init_0 1 rfl rfl)
theorem dX26_init_2 : decode cX26_init 2 = .ok (.invokespecial 3, 3) := dk_183 0 3 (dk_at dksX26_init_0 2 rfl rfl)
theorem dX26_init_5 : decode cX26_init 5 = .ok (.aload_n 0, 1) := dk_42 (dk_at dksX26_init_0 5 rfl rfl)
theorem dX26_init_6 : decode cX26_init 6 = .ok (.aload_n 2, 1) := dk_44 (dk_at dksX26_init_0 6 rfl rfl)
theorem dX26_init_7 : decode cX26_init 7 = .ok (.putfield 9, 3) := dk_181 0 9 (dk_at dksX26_init_0 7 rfl rfl)
theorem dX26_init_10 : decode cX26_init 10 = .ok (.aload_n 0, 1) := dk_42 (dk_at dksX26_init_0 10 rfl rfl)
theorem dX26_init_11 : decode cX26_init 11 = .ok (.iload_n 3, 1) := dk_29 (dk_at dksX26_init_0 11 rfl rfl)
theorem dX26_init_12 : decode cX26_init 12 = .ok (.putfield 15, 3) := dk_181 0 15 (dk_at dksX26_init_0 12 rfl rfl)
theorem dX26_init_15 : decode cX26_init 15 = .ok (.return_, 1) := dk_177 (dk_at dksX26_init_0 15 rfl rfl)
abbrev cX26_comes : ByteArray := prog_17_method_2_code
def yX26_comes : MethodName := ⟨RX26, "comes", "(LGoodHalfEmpty$Town;)Z"⟩
def dkwX26_comes_3 : List UInt8 := [4, 172]
abbrev dktX26_comes_3 : List UInt8 := dkwX26_comes_3 ++ []
def dkwX26_comes_2 : List UInt8 := [180, 0, 15, 79, 43, 180, 0, 37, 43, 180, 0, 25, 3, 79, 43, 89, 180, 0, 25, 4, 96, 181, 0, 25]
abbrev dktX26_comes_2 : List UInt8 := dkwX26_comes_2 ++ dktX26_comes_3
def dkwX26_comes_1 : List UInt8 := [3, 172, 43, 180, 0, 30, 43, 180, 0, 25, 42, 180, 0, 9, 83, 43, 180, 0, 33, 43, 180, 0, 25, 42]
abbrev dktX26_comes_1 : List UInt8 := dkwX26_comes_1 ++ dktX26_comes_2
def dkwX26_comes_0 : List UInt8 := [42, 180, 0, 15, 133, 10, 20, 0, 19, 184, 0, 21, 153, 0, 12, 43, 180, 0, 25, 16, 6, 160, 0, 5]
abbrev dktX26_comes_0 : List UInt8 := dkwX26_comes_0 ++ dktX26_comes_1
theorem dksX26_comes_0 : cX26_comes.data.toList.drop 0 = dktX26_comes_0 := by decide +kernel
theorem dksX26_comes_1 : cX26_comes.data.toList.drop 24 = dktX26_comes_1 := dk_seg dksX26_comes_0 24 rfl rfl
theorem dksX26_comes_2 : cX26_comes.data.toList.drop 48 = dktX26_comes_2 := dk_seg dksX26_comes_1 24 rfl rfl
theorem dksX26_comes_3 : cX26_comes.data.toList.drop 72 = dktX26_comes_3 := dk_seg dksX26_comes_2 24 rfl rfl
theorem dX26_comes_0 : decode cX26_comes 0 = .ok (.aload_n 0, 1) := dk_42 (dk_at dksX26_comes_0 0 rfl rfl)
theorem dX26_comes_1 : decode cX26_comes 1 = .ok (.getfield 15, 3) := dk_180 0 15 (dk_at dksX26_comes_0 1 rfl rfl)
theorem dX26_comes_4 : decode cX26_comes 4 = .ok (.i2l, 1) := dk_133 (dk_at dksX26_comes_0 4 rfl rfl)
theorem dX26_comes_5 : decode cX26_comes 5 = .ok (.lconst 1, 1) := dk_10 (dk_at dksX26_comes_0 5 rfl rfl)
theorem dX26_comes_6 : decode cX26_comes 6 = .ok (.ldc2_w 19, 3) := dk_20 0 19 (dk_at dksX26_comes_0 6 rfl rfl)
theorem dX26_comes_9 : decode cX26_comes 9 = .ok (.invokestatic 21, 3) := dk_184 0 21 (dk_at dksX26_comes_0 9 rfl rfl)
theorem dX26_comes_12 : decode cX26_comes 12 = .ok (.ifCond .eq 12, 3) := dk_153 0 12 (dk_at dksX26_comes_0 12 rfl rfl)
theorem dX26_comes_15 : decode cX26_comes 15 = .ok (.aload_n 1, 1) := dk_43 (dk_at dksX26_comes_0 15 rfl rfl)
theorem dX26_comes_16 : decode cX26_comes 16 = .ok (.getfield 25, 3) := dk_180 0 25 (dk_at dksX26_comes_0 16 rfl rfl)
theorem dX26_comes_19 : decode cX26_comes 19 = .ok (.bipush 6, 2) := dk_16 6 (dk_at dksX26_comes_0 19 rfl rfl)
theorem dX26_comes_21 : decode cX26_comes 21 = .ok (.if_icmp .ne 5, 3) := dk_160 0 5 (dk_at dksX26_comes_0 21 rfl rfl)
theorem dX26_comes_24 : decode cX26_comes 24 = .ok (.iconst 0, 1) := dk_3 (dk_at dksX26_comes_1 0 rfl rfl)
theorem dX26_comes_25 : decode cX26_comes 25 = .ok (.ireturn, 1) := dk_172 (dk_at dksX26_comes_1 1 rfl rfl)
theorem dX26_comes_26 : decode cX26_comes 26 = .ok (.aload_n 1, 1) := dk_43 (dk_at dksX26_comes_1 2 rfl rfl)
theorem dX26_comes_27 : decode cX26_comes 27 = .ok (.getfield 30, 3) := dk_180 0 30 (dk_at dksX26_comes_1 3 rfl rfl)
theorem dX26_comes_30 : decode cX26_comes 30 = .ok (.aload_n 1, 1) := dk_43 (dk_at dksX26_comes_1 6 rfl rfl)
theorem dX26_comes_31 : decode cX26_comes 31 = .ok (.getfield 25, 3) := dk_180 0 25 (dk_at dksX26_comes_1 7 rfl rfl)
theorem dX26_comes_34 : decode cX26_comes 34 = .ok (.aload_n 0, 1) := dk_42 (dk_at dksX26_comes_1 10 rfl rfl)
theorem dX26_comes_35 : decode cX26_comes 35 = .ok (.getfield 9, 3) := dk_180 0 9 (dk_at dksX26_comes_1 11 rfl rfl)
theorem dX26_comes_38 : decode cX26_comes 38 = .ok (.aastore, 1) := dk_83 (dk_at dksX26_comes_1 14 rfl rfl)
theorem dX26_comes_39 : decode cX26_comes 39 = .ok (.aload_n 1, 1) := dk_43 (dk_at dksX26_comes_1 15 rfl rfl)
theorem dX26_comes_40 : decode cX26_comes 40 = .ok (.getfield 33, 3) := dk_180 0 33 (dk_at dksX26_comes_1 16 rfl rfl)
theorem dX26_comes_43 : decode cX26_comes 43 = .ok (.aload_n 1, 1) := dk_43 (dk_at dksX26_comes_1 19 rfl rfl)
theorem dX26_comes_44 : decode cX26_comes 44 = .ok (.getfield 25, 3) := dk_180 0 25 (dk_at dksX26_comes_1 20 rfl rfl)
theorem dX26_comes_47 : decode cX26_comes 47 = .ok (.aload_n 0, 1) := dk_42 (dk_at dksX26_comes_1 23 rfl rfl)
theorem dX26_comes_48 : decode cX26_comes 48 = .ok (.getfield 15, 3) := dk_180 0 15 (dk_at dksX26_comes_2 0 rfl rfl)
theorem dX26_comes_51 : decode cX26_comes 51 = .ok (.iastore, 1) := dk_79 (dk_at dksX26_comes_2 3 rfl rfl)
theorem dX26_comes_52 : decode cX26_comes 52 = .ok (.aload_n 1, 1) := dk_43 (dk_at dksX26_comes_2 4 rfl rfl)
theorem dX26_comes_53 : decode cX26_comes 53 = .ok (.getfield 37, 3) := dk_180 0 37 (dk_at dksX26_comes_2 5 rfl rfl)
theorem dX26_comes_56 : decode cX26_comes 56 = .ok (.aload_n 1, 1) := dk_43 (dk_at dksX26_comes_2 8 rfl rfl)
theorem dX26_comes_57 : decode cX26_comes 57 = .ok (.getfield 25, 3) := dk_180 0 25 (dk_at dksX26_comes_2 9 rfl rfl)
theorem dX26_comes_60 : decode cX26_comes 60 = .ok (.iconst 0, 1) := dk_3 (dk_at dksX26_comes_2 12 rfl rfl)
theorem dX26_comes_61 : decode cX26_comes 61 = .ok (.iastore, 1) := dk_79 (dk_at dksX26_comes_2 13 rfl rfl)
theorem dX26_comes_62 : decode cX26_comes 62 = .ok (.aload_n 1, 1) := dk_43 (dk_at dksX26_comes_2 14 rfl rfl)
theorem dX26_comes_63 : decode cX26_comes 63 = .ok (.dup, 1) := dk_89 (dk_at dksX26_comes_2 15 rfl rfl)
theorem dX26_comes_64 : decode cX26_comes 64 = .ok (.getfield 25, 3) := dk_180 0 25 (dk_at dksX26_comes_2 16 rfl rfl)
theorem dX26_comes_67 : decode cX26_comes 67 = .ok (.iconst 1, 1) := dk_4 (dk_at dksX26_comes_2 19 rfl rfl)
theorem dX26_comes_68 : decode cX26_comes 68 = .ok (.iadd, 1) := dk_96 (dk_at dksX26_comes_2 20 rfl rfl)
theorem dX26_comes_69 : decode cX26_comes 69 = .ok (.putfield 25, 3) := dk_181 0 25 (dk_at dksX26_comes_2 21 rfl rfl)
theorem dX26_comes_72 : decode cX26_comes 72 = .ok (.iconst 1, 1) := dk_4 (dk_at dksX26_comes_3 0 rfl rfl)
theorem dX26_comes_73 : decode cX26_comes 73 = .ok (.ireturn, 1) := dk_172 (dk_at dksX26_comes_3 1 rfl rfl)
theorem q105 : (Jvm.Cond.initialized "GoodHalfEmpty$RuleTold") ∈ lw_all := lw_g (lw_at lw_m1 30 rfl) rfl
theorem q230 : (Jvm.Cond.fieldLinkNest "GoodHalfEmpty$RuleTold" (25 : Nat) "GoodHalfEmpty$Town" "rules" "I" "GoodHalfEmpty") ∈ lw_tbl := lw_at lw_m1 155 rfl
theorem q236 : (Jvm.Cond.fieldLinkNest "GoodHalfEmpty$RuleTold" (30 : Nat) "GoodHalfEmpty$Town" "rule" "[LGoodHalfEmpty$Rule;" "GoodHalfEmpty") ∈ lw_tbl := lw_at lw_m1 161 rfl
theorem q239 : (Jvm.Cond.fieldLinkNest "GoodHalfEmpty$RuleTold" (33 : Nat) "GoodHalfEmpty$Town" "spans" "[I" "GoodHalfEmpty") ∈ lw_tbl := lw_at lw_m1 164 rfl
theorem q242 : (Jvm.Cond.fieldLinkNest "GoodHalfEmpty$RuleTold" (37 : Nat) "GoodHalfEmpty$Town" "right" "[I" "GoodHalfEmpty") ∈ lw_tbl := lw_at lw_m1 167 rfl
theorem q635 : (Jvm.Cond.instantiable "GoodHalfEmpty$RuleTold" (3 : Nat)) ∈ lw_all := lw_g (lw_at lw_m3 80 rfl) rfl
theorem q637 : (Jvm.Cond.instanceMethod ({ cls := "GoodHalfEmpty$RuleTold", name := "<init>", desc := "(ILGoodHalfEmpty$Rule;I)V" } : Jvm.MethodName)) ∈ lw_all := lw_g (lw_at lw_m3 82 rfl) rfl
theorem q638 : (Jvm.Cond.code ({ cls := "GoodHalfEmpty$RuleTold", name := "<init>", desc := "(ILGoodHalfEmpty$Rule;I)V" } : Jvm.MethodName) prog_17_method_1_code (4 : Nat) (Option.none : Option Jvm.ClassFile.FieldType)) ∈ lw_all := lw_g (lw_at lw_m3 83 rfl) rfl
theorem q639 : (Jvm.Cond.methodLink "GoodHalfEmpty$RuleTold" (3 : Nat) ({ cls := "GoodHalfEmpty$Told", name := "<init>", desc := "(I)V" } : Jvm.MethodName)) ∈ lw_all := lw_g (lw_at lw_m3 84 rfl) rfl
theorem q640 : (Jvm.Cond.fieldLink "GoodHalfEmpty$RuleTold" (9 : Nat) "GoodHalfEmpty$RuleTold" "rule" "LGoodHalfEmpty$Rule;") ∈ lw_all := lw_g (lw_at lw_m3 85 rfl) rfl
theorem q641 : (Jvm.Cond.fieldLink "GoodHalfEmpty$RuleTold" (15 : Nat) "GoodHalfEmpty$RuleTold" "span" "I") ∈ lw_all := lw_g (lw_at lw_m3 86 rfl) rfl
theorem q642 : (Jvm.Cond.laysFinal "GoodHalfEmpty$RuleTold" "GoodHalfEmpty$RuleTold" "rule" "LGoodHalfEmpty$Rule;") ∈ lw_all := lw_g (lw_at lw_m3 87 rfl) rfl
theorem q643 : (Jvm.Cond.soleField "GoodHalfEmpty$RuleTold" "rule") ∈ lw_all := lw_g (lw_at lw_m3 88 rfl) rfl
theorem q644 : (Jvm.Cond.laysFinal "GoodHalfEmpty$RuleTold" "GoodHalfEmpty$RuleTold" "span" "I") ∈ lw_all := lw_g (lw_at lw_m3 89 rfl) rfl
theorem q645 : (Jvm.Cond.soleField "GoodHalfEmpty$RuleTold" "span") ∈ lw_all := lw_g (lw_at lw_m3 90 rfl) rfl
theorem q646 : (Jvm.Cond.laysFinal "GoodHalfEmpty$RuleTold" "GoodHalfEmpty$Told" "start" "I") ∈ lw_all := lw_g (lw_at lw_m3 91 rfl) rfl
theorem q647 : (Jvm.Cond.superclass "GoodHalfEmpty$RuleTold" "GoodHalfEmpty$Told") ∈ lw_all := lw_g (lw_at lw_m3 92 rfl) rfl
theorem q676 : (Jvm.Cond.selects "GoodHalfEmpty$RuleTold" ({ cls := "GoodHalfEmpty$Told", name := "comes", desc := "(LGoodHalfEmpty$Town;)Z" } : Jvm.MethodName) ({ cls := "GoodHalfEmpty$RuleTold", name := "comes", desc := "(LGoodHalfEmpty$Town;)Z" } : Jvm.MethodName)) ∈ lw_all := lw_g (lw_at lw_m3 121 rfl) rfl
theorem q677 : (Jvm.Cond.instanceMethod ({ cls := "GoodHalfEmpty$RuleTold", name := "comes", desc := "(LGoodHalfEmpty$Town;)Z" } : Jvm.MethodName)) ∈ lw_all := lw_g (lw_at lw_m3 122 rfl) rfl
theorem q678 : (Jvm.Cond.code ({ cls := "GoodHalfEmpty$RuleTold", name := "comes", desc := "(LGoodHalfEmpty$Town;)Z" } : Jvm.MethodName) prog_17_method_2_code (2 : Nat) (Option.some Jvm.ClassFile.FieldType.boolean)) ∈ lw_all := lw_g (lw_at lw_m3 123 rfl) rfl
theorem q679 : (Jvm.Cond.constantLong "GoodHalfEmpty$RuleTold" (19 : Nat) (6 : Int64)) ∈ lw_all := lw_g (lw_at lw_m3 124 rfl) rfl
theorem q680 : (Jvm.Cond.methodLinkNest "GoodHalfEmpty$RuleTold" (21 : Nat) ({ cls := "GoodHalfEmpty", name := "in", desc := "(JJJ)Z" } : Jvm.MethodName) "GoodHalfEmpty") ∈ lw_tbl := lw_at lw_m3 125 rfl
theorem q1488 : (Jvm.Cond.castable "GoodHalfEmpty$RuleTold" "GoodHalfEmpty$Told") ∈ lw_tbl := lw_at lw_m6 213 rfl
theorem in_X26 : ∀ w ∈ wsX260, w ∈ lw_all := lw_in wsX260 [646, 642, 644] (by decide +kernel) (by decide +kernel)

theorem q75 : (Jvm.Cond.initialized "GoodHalfEmptyLaw") ∈ lw_all := lw_g (lw_at lw_m1 0 rfl) rfl
set_option maxRecDepth 100000
theorem q108 : (Jvm.Cond.classLink "GoodHalfEmptyLaw" (7 : Nat) "GoodHalfEmpty") ∈ lw_all := lw_g (lw_at lw_m1 33 rfl) rfl
theorem q110 : (Jvm.Cond.methodLink "GoodHalfEmptyLaw" (9 : Nat) ({ cls := "GoodHalfEmpty", name := "<init>", desc := "()V" } : Jvm.MethodName)) ∈ lw_all := lw_g (lw_at lw_m1 35 rfl) rfl
theorem q369 : (Jvm.Cond.methodLink "GoodHalfEmptyLaw" (13 : Nat) ({ cls := "GoodHalfEmpty", name := "letter", desc := "(I)I" } : Jvm.MethodName)) ∈ lw_all := lw_g (lw_at lw_m2 54 rfl) rfl
theorem q1003 : (Jvm.Cond.methodLink "GoodHalfEmptyLaw" (18 : Nat) ({ cls := "GoodHalfEmpty", name := "town", desc := "()I" } : Jvm.MethodName)) ∈ lw_all := lw_g (lw_at lw_m4 208 rfl) rfl
theorem q1007 : (Jvm.Cond.methodLink "GoodHalfEmptyLaw" (23 : Nat) ({ cls := "GoodHalfEmpty", name := "sort", desc := "(II)I" } : Jvm.MethodName)) ∈ lw_all := lw_g (lw_at lw_m4 212 rfl) rfl
theorem q1011 : (Jvm.Cond.methodLink "GoodHalfEmptyLaw" (28 : Nat) ({ cls := "GoodHalfEmpty", name := "rule", desc := "(II)I" } : Jvm.MethodName)) ∈ lw_all := lw_g (lw_at lw_m4 216 rfl) rfl
theorem q1015 : (Jvm.Cond.methodLink "GoodHalfEmptyLaw" (32 : Nat) ({ cls := "GoodHalfEmpty", name := "remembered", desc := "(I)I" } : Jvm.MethodName)) ∈ lw_all := lw_g (lw_at lw_m4 220 rfl) rfl
theorem q1019 : (Jvm.Cond.methodLink "GoodHalfEmptyLaw" (36 : Nat) ({ cls := "GoodHalfEmpty", name := "penny", desc := "(I)I" } : Jvm.MethodName)) ∈ lw_all := lw_g (lw_at lw_m4 224 rfl) rfl
theorem q1023 : (Jvm.Cond.methodLink "GoodHalfEmptyLaw" (40 : Nat) ({ cls := "GoodHalfEmpty", name := "week", desc := "()I" } : Jvm.MethodName)) ∈ lw_all := lw_g (lw_at lw_m4 228 rfl) rfl
theorem q1027 : (Jvm.Cond.methodLink "GoodHalfEmptyLaw" (44 : Nat) ({ cls := "GoodHalfEmpty", name := "next", desc := "()I" } : Jvm.MethodName)) ∈ lw_all := lw_g (lw_at lw_m4 232 rfl) rfl
theorem q1031 : (Jvm.Cond.methodLink "GoodHalfEmptyLaw" (48 : Nat) ({ cls := "GoodHalfEmpty", name := "goes", desc := "(I)I" } : Jvm.MethodName)) ∈ lw_all := lw_g (lw_at lw_m4 236 rfl) rfl
theorem q1035 : (Jvm.Cond.methodLink "GoodHalfEmptyLaw" (52 : Nat) ({ cls := "GoodHalfEmpty", name := "worth", desc := "(I)I" } : Jvm.MethodName)) ∈ lw_all := lw_g (lw_at lw_m5 0 rfl) rfl
theorem q1044 : (Jvm.Cond.methodLink "GoodHalfEmptyLaw" (56 : Nat) ({ cls := "GoodHalfEmpty", name := "after", desc := "(I)I" } : Jvm.MethodName)) ∈ lw_all := lw_g (lw_at lw_m5 9 rfl) rfl
theorem q1048 : (Jvm.Cond.methodLink "GoodHalfEmptyLaw" (60 : Nat) ({ cls := "GoodHalfEmpty", name := "mean", desc := "(I)I" } : Jvm.MethodName)) ∈ lw_all := lw_g (lw_at lw_m5 13 rfl) rfl
theorem q1052 : (Jvm.Cond.methodLink "GoodHalfEmptyLaw" (64 : Nat) ({ cls := "GoodHalfEmpty", name := "swing", desc := "(I)I" } : Jvm.MethodName)) ∈ lw_all := lw_g (lw_at lw_m5 17 rfl) rfl
theorem q1056 : (Jvm.Cond.methodLink "GoodHalfEmptyLaw" (68 : Nat) ({ cls := "GoodHalfEmpty", name := "good", desc := "(I)I" } : Jvm.MethodName)) ∈ lw_all := lw_g (lw_at lw_m5 21 rfl) rfl
theorem q1060 : (Jvm.Cond.methodLink "GoodHalfEmptyLaw" (72 : Nat) ({ cls := "GoodHalfEmpty", name := "again", desc := "()I" } : Jvm.MethodName)) ∈ lw_all := lw_g (lw_at lw_m5 25 rfl) rfl
theorem q1064 : (Jvm.Cond.methodLink "GoodHalfEmptyLaw" (76 : Nat) ({ cls := "GoodHalfEmpty", name := "gains", desc := "(II)I" } : Jvm.MethodName)) ∈ lw_all := lw_g (lw_at lw_m5 29 rfl) rfl
theorem q1068 : (Jvm.Cond.methodLink "GoodHalfEmptyLaw" (80 : Nat) ({ cls := "GoodHalfEmpty", name := "rests", desc := "()I" } : Jvm.MethodName)) ∈ lw_all := lw_g (lw_at lw_m5 33 rfl) rfl
theorem q1072 : (Jvm.Cond.methodLink "GoodHalfEmptyLaw" (84 : Nat) ({ cls := "GoodHalfEmpty", name := "rest", desc := "(I)I" } : Jvm.MethodName)) ∈ lw_all := lw_g (lw_at lw_m5 37 rfl) rfl
theorem q1076 : (Jvm.Cond.methodLink "GoodHalfEmptyLaw" (88 : Nat) ({ cls := "GoodHalfEmpty", name := "best", desc := "(I)I" } : Jvm.MethodName)) ∈ lw_all := lw_g (lw_at lw_m5 41 rfl) rfl
theorem q1080 : (Jvm.Cond.methodLink "GoodHalfEmptyLaw" (92 : Nat) ({ cls := "GoodHalfEmpty", name := "off", desc := "()I" } : Jvm.MethodName)) ∈ lw_all := lw_g (lw_at lw_m5 45 rfl) rfl
theorem q1084 : (Jvm.Cond.methodLink "GoodHalfEmptyLaw" (96 : Nat) ({ cls := "GoodHalfEmpty", name := "pennies", desc := "()I" } : Jvm.MethodName)) ∈ lw_all := lw_g (lw_at lw_m5 49 rfl) rfl
theorem q1088 : (Jvm.Cond.methodLink "GoodHalfEmptyLaw" (100 : Nat) ({ cls := "GoodHalfEmpty", name := "chairs", desc := "()I" } : Jvm.MethodName)) ∈ lw_all := lw_g (lw_at lw_m5 53 rfl) rfl
theorem q1092 : (Jvm.Cond.methodLink "GoodHalfEmptyLaw" (104 : Nat) ({ cls := "GoodHalfEmpty", name := "sees", desc := "(IIII)I" } : Jvm.MethodName)) ∈ lw_all := lw_g (lw_at lw_m5 57 rfl) rfl
theorem q1106 : (Jvm.Cond.methodLink "GoodHalfEmptyLaw" (109 : Nat) ({ cls := "GoodHalfEmpty", name := "which", desc := "(I)I" } : Jvm.MethodName)) ∈ lw_all := lw_g (lw_at lw_m5 71 rfl) rfl
theorem q1110 : (Jvm.Cond.methodLink "GoodHalfEmptyLaw" (113 : Nat) ({ cls := "GoodHalfEmpty", name := "longer", desc := "(I)I" } : Jvm.MethodName)) ∈ lw_all := lw_g (lw_at lw_m5 75 rfl) rfl
theorem q1114 : (Jvm.Cond.methodLink "GoodHalfEmptyLaw" (117 : Nat) ({ cls := "GoodHalfEmpty", name := "seeds", desc := "(II)I" } : Jvm.MethodName)) ∈ lw_all := lw_g (lw_at lw_m5 79 rfl) rfl
theorem q1118 : (Jvm.Cond.methodLink "GoodHalfEmptyLaw" (121 : Nat) ({ cls := "GoodHalfEmpty", name := "row", desc := "(I)I" } : Jvm.MethodName)) ∈ lw_all := lw_g (lw_at lw_m5 83 rfl) rfl
theorem q1122 : (Jvm.Cond.methodLink "GoodHalfEmptyLaw" (125 : Nat) ({ cls := "GoodHalfEmpty", name := "judge", desc := "()I" } : Jvm.MethodName)) ∈ lw_all := lw_g (lw_at lw_m5 87 rfl) rfl
theorem q1126 : (Jvm.Cond.methodLink "GoodHalfEmptyLaw" (129 : Nat) ({ cls := "GoodHalfEmpty", name := "image", desc := "()I" } : Jvm.MethodName)) ∈ lw_all := lw_g (lw_at lw_m5 91 rfl) rfl
theorem q1130 : (Jvm.Cond.methodLink "GoodHalfEmptyLaw" (133 : Nat) ({ cls := "GoodHalfEmpty", name := "on", desc := "()I" } : Jvm.MethodName)) ∈ lw_all := lw_g (lw_at lw_m5 95 rfl) rfl
theorem q1134 : (Jvm.Cond.methodLink "GoodHalfEmptyLaw" (137 : Nat) ({ cls := "GoodHalfEmpty", name := "count", desc := "(I)I" } : Jvm.MethodName)) ∈ lw_all := lw_g (lw_at lw_m5 99 rfl) rfl
theorem q1140 : (Jvm.Cond.methodLink "GoodHalfEmptyLaw" (132 : Nat) ({ cls := "GoodHalfEmptyModel", name := "image", desc := "()I" } : Jvm.MethodName)) ∈ lw_all := lw_g (lw_at lw_m5 105 rfl) rfl
theorem q1147 : (Jvm.Cond.methodLink "GoodHalfEmptyLaw" (136 : Nat) ({ cls := "GoodHalfEmptyModel", name := "on", desc := "()I" } : Jvm.MethodName)) ∈ lw_all := lw_g (lw_at lw_m5 112 rfl) rfl
theorem q1156 : (Jvm.Cond.classLink "GoodHalfEmptyLaw" (10 : Nat) "GoodHalfEmptyModel") ∈ lw_all := lw_g (lw_at lw_m5 121 rfl) rfl
theorem q1157 : (Jvm.Cond.methodLink "GoodHalfEmptyLaw" (12 : Nat) ({ cls := "GoodHalfEmptyModel", name := "<init>", desc := "()V" } : Jvm.MethodName)) ∈ lw_all := lw_g (lw_at lw_m5 122 rfl) rfl
theorem q1243 : (Jvm.Cond.methodLink "GoodHalfEmptyLaw" (17 : Nat) ({ cls := "GoodHalfEmptyModel", name := "letter", desc := "(I)I" } : Jvm.MethodName)) ∈ lw_all := lw_g (lw_at lw_m5 208 rfl) rfl
theorem q1247 : (Jvm.Cond.methodLink "GoodHalfEmptyLaw" (22 : Nat) ({ cls := "GoodHalfEmptyModel", name := "town", desc := "()I" } : Jvm.MethodName)) ∈ lw_all := lw_g (lw_at lw_m5 212 rfl) rfl
theorem q1283 : (Jvm.Cond.methodLink "GoodHalfEmptyLaw" (27 : Nat) ({ cls := "GoodHalfEmptyModel", name := "sort", desc := "(II)I" } : Jvm.MethodName)) ∈ lw_all := lw_g (lw_at lw_m6 8 rfl) rfl
theorem q1295 : (Jvm.Cond.methodLink "GoodHalfEmptyLaw" (31 : Nat) ({ cls := "GoodHalfEmptyModel", name := "rule", desc := "(II)I" } : Jvm.MethodName)) ∈ lw_all := lw_g (lw_at lw_m6 20 rfl) rfl
theorem q1312 : (Jvm.Cond.methodLink "GoodHalfEmptyLaw" (35 : Nat) ({ cls := "GoodHalfEmptyModel", name := "remembered", desc := "(I)I" } : Jvm.MethodName)) ∈ lw_all := lw_g (lw_at lw_m6 37 rfl) rfl
theorem q1316 : (Jvm.Cond.methodLink "GoodHalfEmptyLaw" (39 : Nat) ({ cls := "GoodHalfEmptyModel", name := "penny", desc := "(I)I" } : Jvm.MethodName)) ∈ lw_all := lw_g (lw_at lw_m6 41 rfl) rfl
theorem q1320 : (Jvm.Cond.methodLink "GoodHalfEmptyLaw" (43 : Nat) ({ cls := "GoodHalfEmptyModel", name := "week", desc := "()I" } : Jvm.MethodName)) ∈ lw_all := lw_g (lw_at lw_m6 45 rfl) rfl
theorem q1340 : (Jvm.Cond.methodLink "GoodHalfEmptyLaw" (47 : Nat) ({ cls := "GoodHalfEmptyModel", name := "next", desc := "()I" } : Jvm.MethodName)) ∈ lw_all := lw_g (lw_at lw_m6 65 rfl) rfl
theorem q1344 : (Jvm.Cond.methodLink "GoodHalfEmptyLaw" (51 : Nat) ({ cls := "GoodHalfEmptyModel", name := "goes", desc := "(I)I" } : Jvm.MethodName)) ∈ lw_all := lw_g (lw_at lw_m6 69 rfl) rfl
theorem q1348 : (Jvm.Cond.methodLink "GoodHalfEmptyLaw" (55 : Nat) ({ cls := "GoodHalfEmptyModel", name := "worth", desc := "(I)I" } : Jvm.MethodName)) ∈ lw_all := lw_g (lw_at lw_m6 73 rfl) rfl
theorem q1361 : (Jvm.Cond.methodLink "GoodHalfEmptyLaw" (59 : Nat) ({ cls := "GoodHalfEmptyModel", name := "after", desc := "(I)I" } : Jvm.MethodName)) ∈ lw_all := lw_g (lw_at lw_m6 86 rfl) rfl
theorem q1373 : (Jvm.Cond.methodLink "GoodHalfEmptyLaw" (63 : Nat) ({ cls := "GoodHalfEmptyModel", name := "mean", desc := "(I)I" } : Jvm.MethodName)) ∈ lw_all := lw_g (lw_at lw_m6 98 rfl) rfl
theorem q1377 : (Jvm.Cond.methodLink "GoodHalfEmptyLaw" (67 : Nat) ({ cls := "GoodHalfEmptyModel", name := "swing", desc := "(I)I" } : Jvm.MethodName)) ∈ lw_all := lw_g (lw_at lw_m6 102 rfl) rfl
theorem q1386 : (Jvm.Cond.methodLink "GoodHalfEmptyLaw" (71 : Nat) ({ cls := "GoodHalfEmptyModel", name := "good", desc := "(I)I" } : Jvm.MethodName)) ∈ lw_all := lw_g (lw_at lw_m6 111 rfl) rfl
theorem q1390 : (Jvm.Cond.methodLink "GoodHalfEmptyLaw" (75 : Nat) ({ cls := "GoodHalfEmptyModel", name := "again", desc := "()I" } : Jvm.MethodName)) ∈ lw_all := lw_g (lw_at lw_m6 115 rfl) rfl
theorem q1394 : (Jvm.Cond.methodLink "GoodHalfEmptyLaw" (79 : Nat) ({ cls := "GoodHalfEmptyModel", name := "gains", desc := "(II)I" } : Jvm.MethodName)) ∈ lw_all := lw_g (lw_at lw_m6 119 rfl) rfl
theorem q1398 : (Jvm.Cond.methodLink "GoodHalfEmptyLaw" (83 : Nat) ({ cls := "GoodHalfEmptyModel", name := "rests", desc := "()I" } : Jvm.MethodName)) ∈ lw_all := lw_g (lw_at lw_m6 123 rfl) rfl
theorem q1418 : (Jvm.Cond.methodLink "GoodHalfEmptyLaw" (87 : Nat) ({ cls := "GoodHalfEmptyModel", name := "rest", desc := "(I)I" } : Jvm.MethodName)) ∈ lw_all := lw_g (lw_at lw_m6 143 rfl) rfl
theorem q1422 : (Jvm.Cond.methodLink "GoodHalfEmptyLaw" (91 : Nat) ({ cls := "GoodHalfEmptyModel", name := "best", desc := "(I)I" } : Jvm.MethodName)) ∈ lw_all := lw_g (lw_at lw_m6 147 rfl) rfl
theorem q1426 : (Jvm.Cond.methodLink "GoodHalfEmptyLaw" (95 : Nat) ({ cls := "GoodHalfEmptyModel", name := "off", desc := "()I" } : Jvm.MethodName)) ∈ lw_all := lw_g (lw_at lw_m6 151 rfl) rfl
theorem q1430 : (Jvm.Cond.methodLink "GoodHalfEmptyLaw" (99 : Nat) ({ cls := "GoodHalfEmptyModel", name := "pennies", desc := "()I" } : Jvm.MethodName)) ∈ lw_all := lw_g (lw_at lw_m6 155 rfl) rfl
theorem q1434 : (Jvm.Cond.methodLink "GoodHalfEmptyLaw" (103 : Nat) ({ cls := "GoodHalfEmptyModel", name := "chairs", desc := "()I" } : Jvm.MethodName)) ∈ lw_all := lw_g (lw_at lw_m6 159 rfl) rfl
theorem q1438 : (Jvm.Cond.methodLink "GoodHalfEmptyLaw" (108 : Nat) ({ cls := "GoodHalfEmptyModel", name := "sees", desc := "(IIII)I" } : Jvm.MethodName)) ∈ lw_all := lw_g (lw_at lw_m6 163 rfl) rfl
theorem q1442 : (Jvm.Cond.methodLink "GoodHalfEmptyLaw" (112 : Nat) ({ cls := "GoodHalfEmptyModel", name := "which", desc := "(I)I" } : Jvm.MethodName)) ∈ lw_all := lw_g (lw_at lw_m6 167 rfl) rfl
theorem q1446 : (Jvm.Cond.methodLink "GoodHalfEmptyLaw" (116 : Nat) ({ cls := "GoodHalfEmptyModel", name := "longer", desc := "(I)I" } : Jvm.MethodName)) ∈ lw_all := lw_g (lw_at lw_m6 171 rfl) rfl
theorem q1450 : (Jvm.Cond.methodLink "GoodHalfEmptyLaw" (120 : Nat) ({ cls := "GoodHalfEmptyModel", name := "seeds", desc := "(II)I" } : Jvm.MethodName)) ∈ lw_all := lw_g (lw_at lw_m6 175 rfl) rfl
theorem q1457 : (Jvm.Cond.methodLink "GoodHalfEmptyLaw" (124 : Nat) ({ cls := "GoodHalfEmptyModel", name := "row", desc := "(I)I" } : Jvm.MethodName)) ∈ lw_all := lw_g (lw_at lw_m6 182 rfl) rfl
theorem q1461 : (Jvm.Cond.methodLink "GoodHalfEmptyLaw" (128 : Nat) ({ cls := "GoodHalfEmptyModel", name := "judge", desc := "()I" } : Jvm.MethodName)) ∈ lw_all := lw_g (lw_at lw_m6 186 rfl) rfl
theorem q1465 : (Jvm.Cond.methodLink "GoodHalfEmptyLaw" (140 : Nat) ({ cls := "GoodHalfEmptyModel", name := "count", desc := "(I)I" } : Jvm.MethodName)) ∈ lw_all := lw_g (lw_at lw_m6 190 rfl) rfl

theorem q106 : (Jvm.Cond.initialized "java/lang/System") ∈ lw_all := lw_g (lw_at lw_m1 31 rfl) rfl
set_option maxRecDepth 100000
theorem q653 : (Jvm.Cond.static ({ cls := "java/lang/System", name := "arraycopy", desc := "(Ljava/lang/Object;ILjava/lang/Object;II)V" } : Jvm.MethodName)) ∈ lw_all := lw_g (lw_at lw_m3 98 rfl) rfl
theorem q654 : (Jvm.Cond.native ({ cls := "java/lang/System", name := "arraycopy", desc := "(Ljava/lang/Object;ILjava/lang/Object;II)V" } : Jvm.MethodName)) ∈ lw_all := lw_g (lw_at lw_m3 99 rfl) rfl

theorem q117 : (Jvm.Cond.arrayOver (Jvm.ClassFile.FieldType.object "GoodHalfEmpty$Rule")) ∈ lw_tbl := lw_at lw_m1 42 rfl
set_option maxRecDepth 100000
theorem q164 : (Jvm.Cond.arrayOver (Jvm.ClassFile.FieldType.object "GoodHalfEmpty$Goer")) ∈ lw_tbl := lw_at lw_m1 89 rfl
theorem q217 : (Jvm.Cond.arrayOver (Jvm.ClassFile.FieldType.object "GoodHalfEmpty$Sort")) ∈ lw_tbl := lw_at lw_m1 142 rfl
theorem q288 : (Jvm.Cond.arrayClass Jvm.ClassFile.FieldType.int) ∈ lw_all := lw_g (lw_at lw_m1 213 rfl) rfl
theorem q289 : (Jvm.Cond.arrayClass Jvm.ClassFile.FieldType.boolean) ∈ lw_all := lw_g (lw_at lw_m1 214 rfl) rfl
theorem q367 : (Jvm.Cond.arrayClass Jvm.ClassFile.FieldType.byte) ∈ lw_all := lw_g (lw_at lw_m2 52 rfl) rfl
theorem q368 : (Jvm.Cond.arrayClass Jvm.ClassFile.FieldType.char) ∈ lw_all := lw_g (lw_at lw_m2 53 rfl) rfl
theorem q489 : (Jvm.Cond.arrayOver (Jvm.ClassFile.FieldType.object "GoodHalfEmpty$Told")) ∈ lw_tbl := lw_at lw_m2 174 rfl
